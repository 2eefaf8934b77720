/-! IslandHeapModel -/
set_option maxRecDepth 100000
def RX2 : String := "IslandHeapModel"
def TX2 : u_T := fun k => match k with
  | 0 => ("IslandHeapModel", "m", "[I", true)
  | 1 => ("IslandHeapModel", "old", "[I", true)
  | 2 => ("IslandHeapModel", "saved", "[I", true)
  | 3 => ("IslandHeapModel", "isSaved", "[Z", true)
  | 4 => ("IslandHeapModel", "text", "[I", true)
  | 5 => ("IslandHeapModel", "textLength", "I", false)
  | 6 => ("IslandHeapModel", "refused", "I", false)
  | 7 => ("IslandHeapModel", "far", "[I", true)
  | 8 => ("IslandHeapModel", "marked", "[Z", true)
  | 9 => ("IslandHeapModel", "stack", "[I", true)
  | 10 => ("IslandHeapModel", "top", "I", false)
  | 11 => ("IslandHeapModel", "highest", "I", false)
  | 12 => ("IslandHeapModel", "overflowed", "Z", false)
  | 13 => ("IslandHeapModel", "command", "[I", true)
  | 14 => ("IslandHeapModel", "commands", "I", false)
  | 15 => ("IslandHeapModel", "at", "I", false)
  | 16 => ("IslandHeapModel", "fault", "I", false)
  | _ => ("IslandHeapModel", "hash", "J", false)
def tyX2 : Nat → FieldType := fun k => match k with
  | 0 => .array .int
  | 1 => .array .int
  | 2 => .array .int
  | 3 => .array .boolean
  | 4 => .array .int
  | 5 => .int
  | 6 => .int
  | 7 => .array .int
  | 8 => .array .boolean
  | 9 => .array .int
  | 10 => .int
  | 11 => .int
  | 12 => .boolean
  | 13 => .array .int
  | 14 => .int
  | 15 => .int
  | 16 => .int
  | _ => .long
abbrev wsX20 : List Cond := u_ws RX2 TX2 18
set_option maxRecDepth 100000 in
theorem nmX2 : ∀ a, a < 18 → ∀ b, b < 18 → a ≠ b → (TX2 a).2.1 ≠ (TX2 b).2.1 := by decide +kernel
set_option maxRecDepth 100000 in
theorem tyX2_ok : ∀ k, k < 18 → parseFieldDescriptor (TX2 k).2.2.1 = some (tyX2 k) := by decide +kernel
abbrev cX2_init : ByteArray := prog_26_method_1_code
def yX2_init : MethodName := ⟨RX2, "<init>", "()V"⟩
def dkwX2_init_4 : List UInt8 := [177]
abbrev dktX2_init_4 : List UInt8 := dkwX2_init_4 ++ []
def dkwX2_init_3 : List UInt8 := [16, 20, 188, 10, 181, 0, 36, 42, 17, 0, 160, 188, 10, 181, 0, 39, 42, 16, 100, 16, 8, 182, 0, 42]
abbrev dktX2_init_3 : List UInt8 := dkwX2_init_3 ++ dktX2_init_4
def dkwX2_init_2 : List UInt8 := [2, 181, 0, 26, 42, 17, 0, 200, 188, 10, 181, 0, 30, 42, 17, 0, 200, 188, 4, 181, 0, 33, 42]
abbrev dktX2_init_2 : List UInt8 := dkwX2_init_2 ++ dktX2_init_3
def dkwX2_init_1 : List UInt8 := [17, 9, 140, 188, 10, 181, 0, 16, 42, 5, 188, 4, 181, 0, 19, 42, 16, 80, 188, 10, 181, 0, 23, 42]
abbrev dktX2_init_1 : List UInt8 := dkwX2_init_1 ++ dktX2_init_2
def dkwX2_init_0 : List UInt8 := [42, 183, 0, 1, 42, 17, 4, 198, 188, 10, 181, 0, 7, 42, 17, 4, 198, 188, 10, 181, 0, 13, 42]
abbrev dktX2_init_0 : List UInt8 := dkwX2_init_0 ++ dktX2_init_1
theorem dksX2_init_0 : cX2_init.data.toList.drop 0 = dktX2_init_0 := by decide +kernel
theorem dksX2_init_1 : cX2_init.data.toList.drop 23 = dktX2_init_1 := dk_seg dksX2_init_0 23 rfl rfl
theorem dksX2_init_2 : cX2_init.data.toList.drop 47 = dktX2_init_2 := dk_seg dksX2_init_1 24 rfl rfl
theorem dksX2_init_3 : cX2_init.data.toList.drop 70 = dktX2_init_3 := dk_seg dksX2_init_2 23 rfl rfl
theorem dksX2_init_4 : cX2_init.data.toList.drop 94 = dktX2_init_4 := dk_seg dksX2_init_3 24 rfl rfl
theorem dX2_init_0 : decode cX2_init 0 = .ok (.aload_n 0, 1) := dk_42 (dk_at dksX2_init_0 0 rfl rfl)
theorem dX2_init_1 : decode cX2_init 1 = .ok (.invokespecial 1, 3) := dk_183 0 1 (dk_at dksX2_init_0 1 rfl rfl)
theorem dX2_init_4 : decode cX2_init 4 = .ok (.aload_n 0, 1) := dk_42 (dk_at dksX2_init_0 4 rfl rfl)
theorem dX2_init_5 : decode cX2_init 5 = .ok (.sipush 1222, 3) := dk_17 4 198 (dk_at dksX2_init_0 5 rfl rfl)
theorem dX2_init_8 : decode cX2_init 8 = .ok (.newarray .int, 2) := dk_188_10 (dk_at dksX2_init_0 8 rfl rfl)
theorem dX2_init_10 : decode cX2_init 10 = .ok (.putfield 7, 3) := dk_181 0 7 (dk_at dksX2_init_0 10 rfl rfl)
theorem dX2_init_13 : decode cX2_init 13 = .ok (.aload_n 0, 1) := dk_42 (dk_at dksX2_init_0 13 rfl rfl)
theorem dX2_init_14 : decode cX2_init 14 = .ok (.sipush 1222, 3) := dk_17 4 198 (dk_at dksX2_init_0 14 rfl rfl)
theorem dX2_init_17 : decode cX2_init 17 = .ok (.newarray .int, 2) := dk_188_10 (dk_at dksX2_init_0 17 rfl rfl)
theorem dX2_init_19 : decode cX2_init 19 = .ok (.putfield 13, 3) := dk_181 0 13 (dk_at dksX2_init_0 19 rfl rfl)
theorem dX2_init_22 : decode cX2_init 22 = .ok (.aload_n 0, 1) := dk_42 (dk_at dksX2_init_0 22 rfl rfl)
theorem dX2_init_23 : decode cX2_init 23 = .ok (.sipush 2444, 3) := dk_17 9 140 (dk_at dksX2_init_1 0 rfl rfl)
theorem dX2_init_26 : decode cX2_init 26 = .ok (.newarray .int, 2) := dk_188_10 (dk_at dksX2_init_1 3 rfl rfl)
theorem dX2_init_28 : decode cX2_init 28 = .ok (.putfield 16, 3) := dk_181 0 16 (dk_at dksX2_init_1 5 rfl rfl)
theorem dX2_init_31 : decode cX2_init 31 = .ok (.aload_n 0, 1) := dk_42 (dk_at dksX2_init_1 8 rfl rfl)
theorem dX2_init_32 : decode cX2_init 32 = .ok (.iconst 2, 1) := dk_5 (dk_at dksX2_init_1 9 rfl rfl)
theorem dX2_init_33 : decode cX2_init 33 = .ok (.newarray .boolean, 2) := dk_188_4 (dk_at dksX2_init_1 10 rfl rfl)
theorem dX2_init_35 : decode cX2_init 35 = .ok (.putfield 19, 3) := dk_181 0 19 (dk_at dksX2_init_1 12 rfl rfl)
theorem dX2_init_38 : decode cX2_init 38 = .ok (.aload_n 0, 1) := dk_42 (dk_at dksX2_init_1 15 rfl rfl)
theorem dX2_init_39 : decode cX2_init 39 = .ok (.bipush 80, 2) := dk_16 80 (dk_at dksX2_init_1 16 rfl rfl)
theorem dX2_init_41 : decode cX2_init 41 = .ok (.newarray .int, 2) := dk_188_10 (dk_at dksX2_init_1 18 rfl rfl)
theorem dX2_init_43 : decode cX2_init 43 = .ok (.putfield 23, 3) := dk_181 0 23 (dk_at dksX2_init_1 20 rfl rfl)
theorem dX2_init_46 : decode cX2_init 46 = .ok (.aload_n 0, 1) := dk_42 (dk_at dksX2_init_1 23 rfl rfl)
theorem dX2_init_47 : decode cX2_init 47 = .ok (.iconst (-1), 1) := dk_2 (dk_at dksX2_init_2 0 rfl rfl)
theorem dX2_init_48 : decode cX2_init 48 = .ok (.putfield 26, 3) := dk_181 0 26 (dk_at dksX2_init_2 1 rfl rfl)
theorem dX2_init_51 : decode cX2_init 51 = .ok (.aload_n 0, 1) := dk_42 (dk_at dksX2_init_2 4 rfl rfl)
theorem dX2_init_52 : decode cX2_init 52 = .ok (.sipush 200, 3) := dk_17 0 200 (dk_at dksX2_init_2 5 rfl rfl)
theorem dX2_init_55 : decode cX2_init 55 = .ok (.newarray .int, 2) := dk_188_10 (dk_at dksX2_init_2 8 rfl rfl)
theorem dX2_init_57 : decode cX2_init 57 = .ok (.putfield 30, 3) := dk_181 0 30 (dk_at dksX2_init_2 10 rfl rfl)
theorem dX2_init_60 : decode cX2_init 60 = .ok (.aload_n 0, 1) := dk_42 (dk_at dksX2_init_2 13 rfl rfl)
theorem dX2_init_61 : decode cX2_init 61 = .ok (.sipush 200, 3) := dk_17 0 200 (dk_at dksX2_init_2 14 rfl rfl)
theorem dX2_init_64 : decode cX2_init 64 = .ok (.newarray .boolean, 2) := dk_188_4 (dk_at dksX2_init_2 17 rfl rfl)
theorem dX2_init_66 : decode cX2_init 66 = .ok (.putfield 33, 3) := dk_181 0 33 (dk_at dksX2_init_2 19 rfl rfl)
theorem dX2_init_69 : decode cX2_init 69 = .ok (.aload_n 0, 1) := dk_42 (dk_at dksX2_init_2 22 rfl rfl)
theorem dX2_init_70 : decode cX2_init 70 = .ok (.bipush 20, 2) := dk_16 20 (dk_at dksX2_init_3 0 rfl rfl)
theorem dX2_init_72 : decode cX2_init 72 = .ok (.newarray .int, 2) := dk_188_10 (dk_at dksX2_init_3 2 rfl rfl)
theorem dX2_init_74 : decode cX2_init 74 = .ok (.putfield 36, 3) := dk_181 0 36 (dk_at dksX2_init_3 4 rfl rfl)
theorem dX2_init_77 : decode cX2_init 77 = .ok (.aload_n 0, 1) := dk_42 (dk_at dksX2_init_3 7 rfl rfl)
theorem dX2_init_78 : decode cX2_init 78 = .ok (.sipush 160, 3) := dk_17 0 160 (dk_at dksX2_init_3 8 rfl rfl)
theorem dX2_init_81 : decode cX2_init 81 = .ok (.newarray .int, 2) := dk_188_10 (dk_at dksX2_init_3 11 rfl rfl)
theorem dX2_init_83 : decode cX2_init 83 = .ok (.putfield 39, 3) := dk_181 0 39 (dk_at dksX2_init_3 13 rfl rfl)
theorem dX2_init_86 : decode cX2_init 86 = .ok (.aload_n 0, 1) := dk_42 (dk_at dksX2_init_3 16 rfl rfl)
theorem dX2_init_87 : decode cX2_init 87 = .ok (.bipush 100, 2) := dk_16 100 (dk_at dksX2_init_3 17 rfl rfl)
theorem dX2_init_89 : decode cX2_init 89 = .ok (.bipush 8, 2) := dk_16 8 (dk_at dksX2_init_3 19 rfl rfl)
theorem dX2_init_91 : decode cX2_init 91 = .ok (.invokevirtual 42, 3) := dk_182 0 42 (dk_at dksX2_init_3 21 rfl rfl)
theorem dX2_init_94 : decode cX2_init 94 = .ok (.return_, 1) := dk_177 (dk_at dksX2_init_4 0 rfl rfl)
abbrev cX2_begins : ByteArray := prog_26_method_3_code
def yX2_begins : MethodName := ⟨RX2, "begins", "(II)V"⟩
def dkwX2_begins_2 : List UInt8 := [17, 4, 192, 27, 79, 42, 180, 0, 7, 17, 4, 193, 28, 79, 177]
abbrev dktX2_begins_2 : List UInt8 := dkwX2_begins_2 ++ []
def dkwX2_begins_1 : List UInt8 := [17, 4, 186, 162, 0, 7, 2, 167, 0, 4, 3, 79, 132, 3, 1, 167, 255, 221, 42, 180, 0, 7]
abbrev dktX2_begins_1 : List UInt8 := dkwX2_begins_1 ++ dktX2_begins_2
def dkwX2_begins_0 : List UInt8 := [3, 62, 29, 17, 4, 198, 162, 0, 34, 42, 180, 0, 7, 29, 29, 17, 4, 176, 161, 0, 14, 29]
abbrev dktX2_begins_0 : List UInt8 := dkwX2_begins_0 ++ dktX2_begins_1
theorem dksX2_begins_0 : cX2_begins.data.toList.drop 0 = dktX2_begins_0 := by decide +kernel
theorem dksX2_begins_1 : cX2_begins.data.toList.drop 22 = dktX2_begins_1 := dk_seg dksX2_begins_0 22 rfl rfl
theorem dksX2_begins_2 : cX2_begins.data.toList.drop 44 = dktX2_begins_2 := dk_seg dksX2_begins_1 22 rfl rfl
theorem dX2_begins_0 : decode cX2_begins 0 = .ok (.iconst 0, 1) := dk_3 (dk_at dksX2_begins_0 0 rfl rfl)
theorem dX2_begins_1 : decode cX2_begins 1 = .ok (.istore_n 3, 1) := dk_62 (dk_at dksX2_begins_0 1 rfl rfl)
theorem dX2_begins_2 : decode cX2_begins 2 = .ok (.iload_n 3, 1) := dk_29 (dk_at dksX2_begins_0 2 rfl rfl)
theorem dX2_begins_3 : decode cX2_begins 3 = .ok (.sipush 1222, 3) := dk_17 4 198 (dk_at dksX2_begins_0 3 rfl rfl)
theorem dX2_begins_6 : decode cX2_begins 6 = .ok (.if_icmp .ge 34, 3) := dk_162 0 34 (dk_at dksX2_begins_0 6 rfl rfl)
theorem dX2_begins_9 : decode cX2_begins 9 = .ok (.aload_n 0, 1) := dk_42 (dk_at dksX2_begins_0 9 rfl rfl)
theorem dX2_begins_10 : decode cX2_begins 10 = .ok (.getfield 7, 3) := dk_180 0 7 (dk_at dksX2_begins_0 10 rfl rfl)
theorem dX2_begins_13 : decode cX2_begins 13 = .ok (.iload_n 3, 1) := dk_29 (dk_at dksX2_begins_0 13 rfl rfl)
theorem dX2_begins_14 : decode cX2_begins 14 = .ok (.iload_n 3, 1) := dk_29 (dk_at dksX2_begins_0 14 rfl rfl)
theorem dX2_begins_15 : decode cX2_begins 15 = .ok (.sipush 1200, 3) := dk_17 4 176 (dk_at dksX2_begins_0 15 rfl rfl)
theorem dX2_begins_18 : decode cX2_begins 18 = .ok (.if_icmp .lt 14, 3) := dk_161 0 14 (dk_at dksX2_begins_0 18 rfl rfl)
theorem dX2_begins_21 : decode cX2_begins 21 = .ok (.iload_n 3, 1) := dk_29 (dk_at dksX2_begins_0 21 rfl rfl)
theorem dX2_begins_22 : decode cX2_begins 22 = .ok (.sipush 1210, 3) := dk_17 4 186 (dk_at dksX2_begins_1 0 rfl rfl)
theorem dX2_begins_25 : decode cX2_begins 25 = .ok (.if_icmp .ge 7, 3) := dk_162 0 7 (dk_at dksX2_begins_1 3 rfl rfl)
theorem dX2_begins_28 : decode cX2_begins 28 = .ok (.iconst (-1), 1) := dk_2 (dk_at dksX2_begins_1 6 rfl rfl)
theorem dX2_begins_29 : decode cX2_begins 29 = .ok (.goto 4, 3) := dk_167 0 4 (dk_at dksX2_begins_1 7 rfl rfl)
theorem dX2_begins_32 : decode cX2_begins 32 = .ok (.iconst 0, 1) := dk_3 (dk_at dksX2_begins_1 10 rfl rfl)
theorem dX2_begins_33 : decode cX2_begins 33 = .ok (.iastore, 1) := dk_79 (dk_at dksX2_begins_1 11 rfl rfl)
theorem dX2_begins_34 : decode cX2_begins 34 = .ok (.iinc 3 1, 3) := dk_132 3 1 (dk_at dksX2_begins_1 12 rfl rfl)
theorem dX2_begins_37 : decode cX2_begins 37 = .ok (.goto (-35), 3) := dk_167 255 221 (dk_at dksX2_begins_1 15 rfl rfl)
theorem dX2_begins_40 : decode cX2_begins 40 = .ok (.aload_n 0, 1) := dk_42 (dk_at dksX2_begins_1 18 rfl rfl)
theorem dX2_begins_41 : decode cX2_begins 41 = .ok (.getfield 7, 3) := dk_180 0 7 (dk_at dksX2_begins_1 19 rfl rfl)
theorem dX2_begins_44 : decode cX2_begins 44 = .ok (.sipush 1216, 3) := dk_17 4 192 (dk_at dksX2_begins_2 0 rfl rfl)
theorem dX2_begins_47 : decode cX2_begins 47 = .ok (.iload_n 1, 1) := dk_27 (dk_at dksX2_begins_2 3 rfl rfl)
theorem dX2_begins_48 : decode cX2_begins 48 = .ok (.iastore, 1) := dk_79 (dk_at dksX2_begins_2 4 rfl rfl)
theorem dX2_begins_49 : decode cX2_begins 49 = .ok (.aload_n 0, 1) := dk_42 (dk_at dksX2_begins_2 5 rfl rfl)
theorem dX2_begins_50 : decode cX2_begins 50 = .ok (.getfield 7, 3) := dk_180 0 7 (dk_at dksX2_begins_2 6 rfl rfl)
theorem dX2_begins_53 : decode cX2_begins 53 = .ok (.sipush 1217, 3) := dk_17 4 193 (dk_at dksX2_begins_2 9 rfl rfl)
theorem dX2_begins_56 : decode cX2_begins 56 = .ok (.iload_n 2, 1) := dk_28 (dk_at dksX2_begins_2 12 rfl rfl)
theorem dX2_begins_57 : decode cX2_begins 57 = .ok (.iastore, 1) := dk_79 (dk_at dksX2_begins_2 13 rfl rfl)
theorem dX2_begins_58 : decode cX2_begins 58 = .ok (.return_, 1) := dk_177 (dk_at dksX2_begins_2 14 rfl rfl)
abbrev cX2_reset : ByteArray := prog_26_method_4_code
def yX2_reset : MethodName := ⟨RX2, "reset", "(II)I"⟩
def dkwX2_reset_1 : List UInt8 := [172, 42, 27, 28, 182, 0, 42, 27, 172]
abbrev dktX2_reset_1 : List UInt8 := dkwX2_reset_1 ++ []
def dkwX2_reset_0 : List UInt8 := [27, 16, 8, 17, 0, 200, 184, 0, 46, 153, 0, 13, 28, 4, 16, 20, 184, 0, 46, 154, 0, 6, 18, 50]
abbrev dktX2_reset_0 : List UInt8 := dkwX2_reset_0 ++ dktX2_reset_1
theorem dksX2_reset_0 : cX2_reset.data.toList.drop 0 = dktX2_reset_0 := by decide +kernel
theorem dksX2_reset_1 : cX2_reset.data.toList.drop 24 = dktX2_reset_1 := dk_seg dksX2_reset_0 24 rfl rfl
theorem dX2_reset_0 : decode cX2_reset 0 = .ok (.iload_n 1, 1) := dk_27 (dk_at dksX2_reset_0 0 rfl rfl)
theorem dX2_reset_1 : decode cX2_reset 1 = .ok (.bipush 8, 2) := dk_16 8 (dk_at dksX2_reset_0 1 rfl rfl)
theorem dX2_reset_3 : decode cX2_reset 3 = .ok (.sipush 200, 3) := dk_17 0 200 (dk_at dksX2_reset_0 3 rfl rfl)
theorem dX2_reset_6 : decode cX2_reset 6 = .ok (.invokestatic 46, 3) := dk_184 0 46 (dk_at dksX2_reset_0 6 rfl rfl)
theorem dX2_reset_9 : decode cX2_reset 9 = .ok (.ifCond .eq 13, 3) := dk_153 0 13 (dk_at dksX2_reset_0 9 rfl rfl)
theorem dX2_reset_12 : decode cX2_reset 12 = .ok (.iload_n 2, 1) := dk_28 (dk_at dksX2_reset_0 12 rfl rfl)
theorem dX2_reset_13 : decode cX2_reset 13 = .ok (.iconst 1, 1) := dk_4 (dk_at dksX2_reset_0 13 rfl rfl)
theorem dX2_reset_14 : decode cX2_reset 14 = .ok (.bipush 20, 2) := dk_16 20 (dk_at dksX2_reset_0 14 rfl rfl)
theorem dX2_reset_16 : decode cX2_reset 16 = .ok (.invokestatic 46, 3) := dk_184 0 46 (dk_at dksX2_reset_0 16 rfl rfl)
theorem dX2_reset_19 : decode cX2_reset 19 = .ok (.ifCond .ne 6, 3) := dk_154 0 6 (dk_at dksX2_reset_0 19 rfl rfl)
theorem dX2_reset_22 : decode cX2_reset 22 = .ok (.ldc 50, 2) := dk_18 50 (dk_at dksX2_reset_0 22 rfl rfl)
theorem dX2_reset_24 : decode cX2_reset 24 = .ok (.ireturn, 1) := dk_172 (dk_at dksX2_reset_1 0 rfl rfl)
theorem dX2_reset_25 : decode cX2_reset 25 = .ok (.aload_n 0, 1) := dk_42 (dk_at dksX2_reset_1 1 rfl rfl)
theorem dX2_reset_26 : decode cX2_reset 26 = .ok (.iload_n 1, 1) := dk_27 (dk_at dksX2_reset_1 2 rfl rfl)
theorem dX2_reset_27 : decode cX2_reset 27 = .ok (.iload_n 2, 1) := dk_28 (dk_at dksX2_reset_1 3 rfl rfl)
theorem dX2_reset_28 : decode cX2_reset 28 = .ok (.invokevirtual 42, 3) := dk_182 0 42 (dk_at dksX2_reset_1 4 rfl rfl)
theorem dX2_reset_31 : decode cX2_reset 31 = .ok (.iload_n 1, 1) := dk_27 (dk_at dksX2_reset_1 7 rfl rfl)
theorem dX2_reset_32 : decode cX2_reset 32 = .ok (.ireturn, 1) := dk_172 (dk_at dksX2_reset_1 8 rfl rfl)
abbrev cX2_in : ByteArray := prog_26_method_2_code
def yX2_in : MethodName := ⟨RX2, "in", "(III)Z"⟩
def dkwX2_in_0 : List UInt8 := [26, 27, 161, 0, 12, 26, 28, 163, 0, 7, 4, 167, 0, 4, 3, 172]
abbrev dktX2_in_0 : List UInt8 := dkwX2_in_0 ++ []
theorem dksX2_in_0 : cX2_in.data.toList.drop 0 = dktX2_in_0 := by decide +kernel
theorem dX2_in_0 : decode cX2_in 0 = .ok (.iload_n 0, 1) := dk_26 (dk_at dksX2_in_0 0 rfl rfl)
theorem dX2_in_1 : decode cX2_in 1 = .ok (.iload_n 1, 1) := dk_27 (dk_at dksX2_in_0 1 rfl rfl)
theorem dX2_in_2 : decode cX2_in 2 = .ok (.if_icmp .lt 12, 3) := dk_161 0 12 (dk_at dksX2_in_0 2 rfl rfl)
theorem dX2_in_5 : decode cX2_in 5 = .ok (.iload_n 0, 1) := dk_26 (dk_at dksX2_in_0 5 rfl rfl)
theorem dX2_in_6 : decode cX2_in 6 = .ok (.iload_n 2, 1) := dk_28 (dk_at dksX2_in_0 6 rfl rfl)
theorem dX2_in_7 : decode cX2_in 7 = .ok (.if_icmp .gt 7, 3) := dk_163 0 7 (dk_at dksX2_in_0 7 rfl rfl)
theorem dX2_in_10 : decode cX2_in 10 = .ok (.iconst 1, 1) := dk_4 (dk_at dksX2_in_0 10 rfl rfl)
theorem dX2_in_11 : decode cX2_in 11 = .ok (.goto 4, 3) := dk_167 0 4 (dk_at dksX2_in_0 11 rfl rfl)
theorem dX2_in_14 : decode cX2_in 14 = .ok (.iconst 0, 1) := dk_3 (dk_at dksX2_in_0 14 rfl rfl)
theorem dX2_in_15 : decode cX2_in 15 = .ok (.ireturn, 1) := dk_172 (dk_at dksX2_in_0 15 rfl rfl)
abbrev cX2_alloc : ByteArray := prog_26_method_8_code
def yX2_alloc : MethodName := ⟨RX2, "alloc", "(II)I"⟩
def dkwX2_alloc_5 : List UInt8 := [18, 59, 172]
abbrev dktX2_alloc_5 : List UInt8 := dkwX2_alloc_5 ++ []
def dkwX2_alloc_4 : List UInt8 := [21, 4, 21, 5, 42, 180, 0, 7, 3, 21, 4, 96, 21, 5, 96, 46, 96, 96, 54, 4, 167, 255, 174]
abbrev dktX2_alloc_4 : List UInt8 := dkwX2_alloc_4 ++ dktX2_alloc_5
def dkwX2_alloc_3 : List UInt8 := [132, 5, 1, 167, 255, 232, 21, 5, 29, 160, 0, 14, 42, 21, 4, 27, 28, 182, 0, 55, 21, 4, 172]
abbrev dktX2_alloc_3 : List UInt8 := dkwX2_alloc_3 ++ dktX2_alloc_4
def dkwX2_alloc_2 : List UInt8 := [54, 5, 21, 5, 29, 162, 0, 24, 42, 180, 0, 7, 3, 21, 4, 96, 21, 5, 96, 46, 154, 0, 9]
abbrev dktX2_alloc_2 : List UInt8 := dkwX2_alloc_2 ++ dktX2_alloc_3
def dkwX2_alloc_1 : List UInt8 := [27, 96, 28, 96, 62, 3, 54, 4, 21, 4, 29, 96, 42, 180, 0, 7, 17, 4, 192, 46, 163, 0, 73, 3]
abbrev dktX2_alloc_1 : List UInt8 := dkwX2_alloc_1 ++ dktX2_alloc_2
def dkwX2_alloc_0 : List UInt8 := [27, 3, 16, 6, 184, 0, 46, 153, 0, 13, 28, 3, 16, 6, 184, 0, 46, 154, 0, 6, 18, 50, 172, 4]
abbrev dktX2_alloc_0 : List UInt8 := dkwX2_alloc_0 ++ dktX2_alloc_1
theorem dksX2_alloc_0 : cX2_alloc.data.toList.drop 0 = dktX2_alloc_0 := by decide +kernel
theorem dksX2_alloc_1 : cX2_alloc.data.toList.drop 24 = dktX2_alloc_1 := dk_seg dksX2_alloc_0 24 rfl rfl
theorem dksX2_alloc_2 : cX2_alloc.data.toList.drop 48 = dktX2_alloc_2 := dk_seg dksX2_alloc_1 24 rfl rfl
theorem dksX2_alloc_3 : cX2_alloc.data.toList.drop 71 = dktX2_alloc_3 := dk_seg dksX2_alloc_2 23 rfl rfl
theorem dksX2_alloc_4 : cX2_alloc.data.toList.drop 94 = dktX2_alloc_4 := dk_seg dksX2_alloc_3 23 rfl rfl
theorem dksX2_alloc_5 : cX2_alloc.data.toList.drop 117 = dktX2_alloc_5 := dk_seg dksX2_alloc_4 23 rfl rfl
theorem dX2_alloc_0 : decode cX2_alloc 0 = .ok (.iload_n 1, 1) := dk_27 (dk_at dksX2_alloc_0 0 rfl rfl)
theorem dX2_alloc_1 : decode cX2_alloc 1 = .ok (.iconst 0, 1) := dk_3 (dk_at dksX2_alloc_0 1 rfl rfl)
theorem dX2_alloc_2 : decode cX2_alloc 2 = .ok (.bipush 6, 2) := dk_16 6 (dk_at dksX2_alloc_0 2 rfl rfl)
theorem dX2_alloc_4 : decode cX2_alloc 4 = .ok (.invokestatic 46, 3) := dk_184 0 46 (dk_at dksX2_alloc_0 4 rfl rfl)
theorem dX2_alloc_7 : decode cX2_alloc 7 = .ok (.ifCond .eq 13, 3) := dk_153 0 13 (dk_at dksX2_alloc_0 7 rfl rfl)
theorem dX2_alloc_10 : decode cX2_alloc 10 = .ok (.iload_n 2, 1) := dk_28 (dk_at dksX2_alloc_0 10 rfl rfl)
theorem dX2_alloc_11 : decode cX2_alloc 11 = .ok (.iconst 0, 1) := dk_3 (dk_at dksX2_alloc_0 11 rfl rfl)
theorem dX2_alloc_12 : decode cX2_alloc 12 = .ok (.bipush 6, 2) := dk_16 6 (dk_at dksX2_alloc_0 12 rfl rfl)
theorem dX2_alloc_14 : decode cX2_alloc 14 = .ok (.invokestatic 46, 3) := dk_184 0 46 (dk_at dksX2_alloc_0 14 rfl rfl)
theorem dX2_alloc_17 : decode cX2_alloc 17 = .ok (.ifCond .ne 6, 3) := dk_154 0 6 (dk_at dksX2_alloc_0 17 rfl rfl)
theorem dX2_alloc_20 : decode cX2_alloc 20 = .ok (.ldc 50, 2) := dk_18 50 (dk_at dksX2_alloc_0 20 rfl rfl)
theorem dX2_alloc_22 : decode cX2_alloc 22 = .ok (.ireturn, 1) := dk_172 (dk_at dksX2_alloc_0 22 rfl rfl)
theorem dX2_alloc_23 : decode cX2_alloc 23 = .ok (.iconst 1, 1) := dk_4 (dk_at dksX2_alloc_0 23 rfl rfl)
theorem dX2_alloc_24 : decode cX2_alloc 24 = .ok (.iload_n 1, 1) := dk_27 (dk_at dksX2_alloc_1 0 rfl rfl)
theorem dX2_alloc_25 : decode cX2_alloc 25 = .ok (.iadd, 1) := dk_96 (dk_at dksX2_alloc_1 1 rfl rfl)
theorem dX2_alloc_26 : decode cX2_alloc 26 = .ok (.iload_n 2, 1) := dk_28 (dk_at dksX2_alloc_1 2 rfl rfl)
theorem dX2_alloc_27 : decode cX2_alloc 27 = .ok (.iadd, 1) := dk_96 (dk_at dksX2_alloc_1 3 rfl rfl)
theorem dX2_alloc_28 : decode cX2_alloc 28 = .ok (.istore_n 3, 1) := dk_62 (dk_at dksX2_alloc_1 4 rfl rfl)
theorem dX2_alloc_29 : decode cX2_alloc 29 = .ok (.iconst 0, 1) := dk_3 (dk_at dksX2_alloc_1 5 rfl rfl)
theorem dX2_alloc_30 : decode cX2_alloc 30 = .ok (.istore 4, 2) := dk_54 4 (dk_at dksX2_alloc_1 6 rfl rfl)
theorem dX2_alloc_32 : decode cX2_alloc 32 = .ok (.iload 4, 2) := dk_21 4 (dk_at dksX2_alloc_1 8 rfl rfl)
theorem dX2_alloc_34 : decode cX2_alloc 34 = .ok (.iload_n 3, 1) := dk_29 (dk_at dksX2_alloc_1 10 rfl rfl)
theorem dX2_alloc_35 : decode cX2_alloc 35 = .ok (.iadd, 1) := dk_96 (dk_at dksX2_alloc_1 11 rfl rfl)
theorem dX2_alloc_36 : decode cX2_alloc 36 = .ok (.aload_n 0, 1) := dk_42 (dk_at dksX2_alloc_1 12 rfl rfl)
theorem dX2_alloc_37 : decode cX2_alloc 37 = .ok (.getfield 7, 3) := dk_180 0 7 (dk_at dksX2_alloc_1 13 rfl rfl)
theorem dX2_alloc_40 : decode cX2_alloc 40 = .ok (.sipush 1216, 3) := dk_17 4 192 (dk_at dksX2_alloc_1 16 rfl rfl)
theorem dX2_alloc_43 : decode cX2_alloc 43 = .ok (.iaload, 1) := dk_46 (dk_at dksX2_alloc_1 19 rfl rfl)
theorem dX2_alloc_44 : decode cX2_alloc 44 = .ok (.if_icmp .gt 73, 3) := dk_163 0 73 (dk_at dksX2_alloc_1 20 rfl rfl)
theorem dX2_alloc_47 : decode cX2_alloc 47 = .ok (.iconst 0, 1) := dk_3 (dk_at dksX2_alloc_1 23 rfl rfl)
theorem dX2_alloc_48 : decode cX2_alloc 48 = .ok (.istore 5, 2) := dk_54 5 (dk_at dksX2_alloc_2 0 rfl rfl)
theorem dX2_alloc_50 : decode cX2_alloc 50 = .ok (.iload 5, 2) := dk_21 5 (dk_at dksX2_alloc_2 2 rfl rfl)
theorem dX2_alloc_52 : decode cX2_alloc 52 = .ok (.iload_n 3, 1) := dk_29 (dk_at dksX2_alloc_2 4 rfl rfl)
theorem dX2_alloc_53 : decode cX2_alloc 53 = .ok (.if_icmp .ge 24, 3) := dk_162 0 24 (dk_at dksX2_alloc_2 5 rfl rfl)
theorem dX2_alloc_56 : decode cX2_alloc 56 = .ok (.aload_n 0, 1) := dk_42 (dk_at dksX2_alloc_2 8 rfl rfl)
theorem dX2_alloc_57 : decode cX2_alloc 57 = .ok (.getfield 7, 3) := dk_180 0 7 (dk_at dksX2_alloc_2 9 rfl rfl)
theorem dX2_alloc_60 : decode cX2_alloc 60 = .ok (.iconst 0, 1) := dk_3 (dk_at dksX2_alloc_2 12 rfl rfl)
theorem dX2_alloc_61 : decode cX2_alloc 61 = .ok (.iload 4, 2) := dk_21 4 (dk_at dksX2_alloc_2 13 rfl rfl)
theorem dX2_alloc_63 : decode cX2_alloc 63 = .ok (.iadd, 1) := dk_96 (dk_at dksX2_alloc_2 15 rfl rfl)
theorem dX2_alloc_64 : decode cX2_alloc 64 = .ok (.iload 5, 2) := dk_21 5 (dk_at dksX2_alloc_2 16 rfl rfl)
theorem dX2_alloc_66 : decode cX2_alloc 66 = .ok (.iadd, 1) := dk_96 (dk_at dksX2_alloc_2 18 rfl rfl)
theorem dX2_alloc_67 : decode cX2_alloc 67 = .ok (.iaload, 1) := dk_46 (dk_at dksX2_alloc_2 19 rfl rfl)
theorem dX2_alloc_68 : decode cX2_alloc 68 = .ok (.ifCond .ne 9, 3) := dk_154 0 9 (dk_at dksX2_alloc_2 20 rfl rfl)
theorem dX2_alloc_71 : decode cX2_alloc 71 = .ok (.iinc 5 1, 3) := dk_132 5 1 (dk_at dksX2_alloc_3 0 rfl rfl)
theorem dX2_alloc_74 : decode cX2_alloc 74 = .ok (.goto (-24), 3) := dk_167 255 232 (dk_at dksX2_alloc_3 3 rfl rfl)
theorem dX2_alloc_77 : decode cX2_alloc 77 = .ok (.iload 5, 2) := dk_21 5 (dk_at dksX2_alloc_3 6 rfl rfl)
theorem dX2_alloc_79 : decode cX2_alloc 79 = .ok (.iload_n 3, 1) := dk_29 (dk_at dksX2_alloc_3 8 rfl rfl)
theorem dX2_alloc_80 : decode cX2_alloc 80 = .ok (.if_icmp .ne 14, 3) := dk_160 0 14 (dk_at dksX2_alloc_3 9 rfl rfl)
theorem dX2_alloc_83 : decode cX2_alloc 83 = .ok (.aload_n 0, 1) := dk_42 (dk_at dksX2_alloc_3 12 rfl rfl)
theorem dX2_alloc_84 : decode cX2_alloc 84 = .ok (.iload 4, 2) := dk_21 4 (dk_at dksX2_alloc_3 13 rfl rfl)
theorem dX2_alloc_86 : decode cX2_alloc 86 = .ok (.iload_n 1, 1) := dk_27 (dk_at dksX2_alloc_3 15 rfl rfl)
theorem dX2_alloc_87 : decode cX2_alloc 87 = .ok (.iload_n 2, 1) := dk_28 (dk_at dksX2_alloc_3 16 rfl rfl)
theorem dX2_alloc_88 : decode cX2_alloc 88 = .ok (.invokevirtual 55, 3) := dk_182 0 55 (dk_at dksX2_alloc_3 17 rfl rfl)
theorem dX2_alloc_91 : decode cX2_alloc 91 = .ok (.iload 4, 2) := dk_21 4 (dk_at dksX2_alloc_3 20 rfl rfl)
theorem dX2_alloc_93 : decode cX2_alloc 93 = .ok (.ireturn, 1) := dk_172 (dk_at dksX2_alloc_3 22 rfl rfl)
theorem dX2_alloc_94 : decode cX2_alloc 94 = .ok (.iload 4, 2) := dk_21 4 (dk_at dksX2_alloc_4 0 rfl rfl)
theorem dX2_alloc_96 : decode cX2_alloc 96 = .ok (.iload 5, 2) := dk_21 5 (dk_at dksX2_alloc_4 2 rfl rfl)
theorem dX2_alloc_98 : decode cX2_alloc 98 = .ok (.aload_n 0, 1) := dk_42 (dk_at dksX2_alloc_4 4 rfl rfl)
theorem dX2_alloc_99 : decode cX2_alloc 99 = .ok (.getfield 7, 3) := dk_180 0 7 (dk_at dksX2_alloc_4 5 rfl rfl)
theorem dX2_alloc_102 : decode cX2_alloc 102 = .ok (.iconst 0, 1) := dk_3 (dk_at dksX2_alloc_4 8 rfl rfl)
theorem dX2_alloc_103 : decode cX2_alloc 103 = .ok (.iload 4, 2) := dk_21 4 (dk_at dksX2_alloc_4 9 rfl rfl)
theorem dX2_alloc_105 : decode cX2_alloc 105 = .ok (.iadd, 1) := dk_96 (dk_at dksX2_alloc_4 11 rfl rfl)
theorem dX2_alloc_106 : decode cX2_alloc 106 = .ok (.iload 5, 2) := dk_21 5 (dk_at dksX2_alloc_4 12 rfl rfl)
theorem dX2_alloc_108 : decode cX2_alloc 108 = .ok (.iadd, 1) := dk_96 (dk_at dksX2_alloc_4 14 rfl rfl)
theorem dX2_alloc_109 : decode cX2_alloc 109 = .ok (.iaload, 1) := dk_46 (dk_at dksX2_alloc_4 15 rfl rfl)
theorem dX2_alloc_110 : decode cX2_alloc 110 = .ok (.iadd, 1) := dk_96 (dk_at dksX2_alloc_4 16 rfl rfl)
theorem dX2_alloc_111 : decode cX2_alloc 111 = .ok (.iadd, 1) := dk_96 (dk_at dksX2_alloc_4 17 rfl rfl)
theorem dX2_alloc_112 : decode cX2_alloc 112 = .ok (.istore 4, 2) := dk_54 4 (dk_at dksX2_alloc_4 18 rfl rfl)
theorem dX2_alloc_114 : decode cX2_alloc 114 = .ok (.goto (-82), 3) := dk_167 255 174 (dk_at dksX2_alloc_4 20 rfl rfl)
theorem dX2_alloc_117 : decode cX2_alloc 117 = .ok (.ldc 59, 2) := dk_18 59 (dk_at dksX2_alloc_5 0 rfl rfl)
theorem dX2_alloc_119 : decode cX2_alloc 119 = .ok (.ireturn, 1) := dk_172 (dk_at dksX2_alloc_5 2 rfl rfl)
abbrev cX2_lays : ByteArray := prog_26_method_9_code
def yX2_lays : MethodName := ⟨RX2, "lays", "(III)V"⟩
def dkwX2_lays_4 : List UInt8 := [46, 4, 96, 79, 177]
abbrev dktX2_lays_4 : List UInt8 := dkwX2_lays_4 ++ []
def dkwX2_lays_3 : List UInt8 := [28, 163, 0, 7, 2, 167, 0, 4, 3, 79, 132, 4, 1, 167, 255, 221, 42, 180, 0, 7, 17, 4, 194, 92]
abbrev dktX2_lays_3 : List UInt8 := dkwX2_lays_3 ++ dktX2_lays_4
def dkwX2_lays_2 : List UInt8 := [54, 4, 21, 4, 28, 29, 96, 163, 0, 33, 42, 180, 0, 7, 17, 3, 32, 27, 96, 21, 4, 96, 21, 4]
abbrev dktX2_lays_2 : List UInt8 := dkwX2_lays_2 ++ dktX2_lays_3
def dkwX2_lays_1 : List UInt8 := [42, 180, 0, 7, 17, 1, 144, 27, 96, 3, 79, 42, 180, 0, 7, 17, 2, 88, 27, 96, 3, 79, 4]
abbrev dktX2_lays_1 : List UInt8 := dkwX2_lays_1 ++ dktX2_lays_2
def dkwX2_lays_0 : List UInt8 := [42, 180, 0, 7, 3, 27, 96, 4, 28, 96, 29, 96, 79, 42, 180, 0, 7, 17, 0, 200, 27, 96, 28, 79]
abbrev dktX2_lays_0 : List UInt8 := dkwX2_lays_0 ++ dktX2_lays_1
theorem dksX2_lays_0 : cX2_lays.data.toList.drop 0 = dktX2_lays_0 := by decide +kernel
theorem dksX2_lays_1 : cX2_lays.data.toList.drop 24 = dktX2_lays_1 := dk_seg dksX2_lays_0 24 rfl rfl
theorem dksX2_lays_2 : cX2_lays.data.toList.drop 47 = dktX2_lays_2 := dk_seg dksX2_lays_1 23 rfl rfl
theorem dksX2_lays_3 : cX2_lays.data.toList.drop 71 = dktX2_lays_3 := dk_seg dksX2_lays_2 24 rfl rfl
theorem dksX2_lays_4 : cX2_lays.data.toList.drop 95 = dktX2_lays_4 := dk_seg dksX2_lays_3 24 rfl rfl
theorem dX2_lays_0 : decode cX2_lays 0 = .ok (.aload_n 0, 1) := dk_42 (dk_at dksX2_lays_0 0 rfl rfl)
theorem dX2_lays_1 : decode cX2_lays 1 = .ok (.getfield 7, 3) := dk_180 0 7 (dk_at dksX2_lays_0 1 rfl rfl)
theorem dX2_lays_4 : decode cX2_lays 4 = .ok (.iconst 0, 1) := dk_3 (dk_at dksX2_lays_0 4 rfl rfl)
theorem dX2_lays_5 : decode cX2_lays 5 = .ok (.iload_n 1, 1) := dk_27 (dk_at dksX2_lays_0 5 rfl rfl)
theorem dX2_lays_6 : decode cX2_lays 6 = .ok (.iadd, 1) := dk_96 (dk_at dksX2_lays_0 6 rfl rfl)
theorem dX2_lays_7 : decode cX2_lays 7 = .ok (.iconst 1, 1) := dk_4 (dk_at dksX2_lays_0 7 rfl rfl)
theorem dX2_lays_8 : decode cX2_lays 8 = .ok (.iload_n 2, 1) := dk_28 (dk_at dksX2_lays_0 8 rfl rfl)
theorem dX2_lays_9 : decode cX2_lays 9 = .ok (.iadd, 1) := dk_96 (dk_at dksX2_lays_0 9 rfl rfl)
theorem dX2_lays_10 : decode cX2_lays 10 = .ok (.iload_n 3, 1) := dk_29 (dk_at dksX2_lays_0 10 rfl rfl)
theorem dX2_lays_11 : decode cX2_lays 11 = .ok (.iadd, 1) := dk_96 (dk_at dksX2_lays_0 11 rfl rfl)
theorem dX2_lays_12 : decode cX2_lays 12 = .ok (.iastore, 1) := dk_79 (dk_at dksX2_lays_0 12 rfl rfl)
theorem dX2_lays_13 : decode cX2_lays 13 = .ok (.aload_n 0, 1) := dk_42 (dk_at dksX2_lays_0 13 rfl rfl)
theorem dX2_lays_14 : decode cX2_lays 14 = .ok (.getfield 7, 3) := dk_180 0 7 (dk_at dksX2_lays_0 14 rfl rfl)
theorem dX2_lays_17 : decode cX2_lays 17 = .ok (.sipush 200, 3) := dk_17 0 200 (dk_at dksX2_lays_0 17 rfl rfl)
theorem dX2_lays_20 : decode cX2_lays 20 = .ok (.iload_n 1, 1) := dk_27 (dk_at dksX2_lays_0 20 rfl rfl)
theorem dX2_lays_21 : decode cX2_lays 21 = .ok (.iadd, 1) := dk_96 (dk_at dksX2_lays_0 21 rfl rfl)
theorem dX2_lays_22 : decode cX2_lays 22 = .ok (.iload_n 2, 1) := dk_28 (dk_at dksX2_lays_0 22 rfl rfl)
theorem dX2_lays_23 : decode cX2_lays 23 = .ok (.iastore, 1) := dk_79 (dk_at dksX2_lays_0 23 rfl rfl)
theorem dX2_lays_24 : decode cX2_lays 24 = .ok (.aload_n 0, 1) := dk_42 (dk_at dksX2_lays_1 0 rfl rfl)
theorem dX2_lays_25 : decode cX2_lays 25 = .ok (.getfield 7, 3) := dk_180 0 7 (dk_at dksX2_lays_1 1 rfl rfl)
theorem dX2_lays_28 : decode cX2_lays 28 = .ok (.sipush 400, 3) := dk_17 1 144 (dk_at dksX2_lays_1 4 rfl rfl)
theorem dX2_lays_31 : decode cX2_lays 31 = .ok (.iload_n 1, 1) := dk_27 (dk_at dksX2_lays_1 7 rfl rfl)
theorem dX2_lays_32 : decode cX2_lays 32 = .ok (.iadd, 1) := dk_96 (dk_at dksX2_lays_1 8 rfl rfl)
theorem dX2_lays_33 : decode cX2_lays 33 = .ok (.iconst 0, 1) := dk_3 (dk_at dksX2_lays_1 9 rfl rfl)
theorem dX2_lays_34 : decode cX2_lays 34 = .ok (.iastore, 1) := dk_79 (dk_at dksX2_lays_1 10 rfl rfl)
theorem dX2_lays_35 : decode cX2_lays 35 = .ok (.aload_n 0, 1) := dk_42 (dk_at dksX2_lays_1 11 rfl rfl)
theorem dX2_lays_36 : decode cX2_lays 36 = .ok (.getfield 7, 3) := dk_180 0 7 (dk_at dksX2_lays_1 12 rfl rfl)
theorem dX2_lays_39 : decode cX2_lays 39 = .ok (.sipush 600, 3) := dk_17 2 88 (dk_at dksX2_lays_1 15 rfl rfl)
theorem dX2_lays_42 : decode cX2_lays 42 = .ok (.iload_n 1, 1) := dk_27 (dk_at dksX2_lays_1 18 rfl rfl)
theorem dX2_lays_43 : decode cX2_lays 43 = .ok (.iadd, 1) := dk_96 (dk_at dksX2_lays_1 19 rfl rfl)
theorem dX2_lays_44 : decode cX2_lays 44 = .ok (.iconst 0, 1) := dk_3 (dk_at dksX2_lays_1 20 rfl rfl)
theorem dX2_lays_45 : decode cX2_lays 45 = .ok (.iastore, 1) := dk_79 (dk_at dksX2_lays_1 21 rfl rfl)
theorem dX2_lays_46 : decode cX2_lays 46 = .ok (.iconst 1, 1) := dk_4 (dk_at dksX2_lays_1 22 rfl rfl)
theorem dX2_lays_47 : decode cX2_lays 47 = .ok (.istore 4, 2) := dk_54 4 (dk_at dksX2_lays_2 0 rfl rfl)
theorem dX2_lays_49 : decode cX2_lays 49 = .ok (.iload 4, 2) := dk_21 4 (dk_at dksX2_lays_2 2 rfl rfl)
theorem dX2_lays_51 : decode cX2_lays 51 = .ok (.iload_n 2, 1) := dk_28 (dk_at dksX2_lays_2 4 rfl rfl)
theorem dX2_lays_52 : decode cX2_lays 52 = .ok (.iload_n 3, 1) := dk_29 (dk_at dksX2_lays_2 5 rfl rfl)
theorem dX2_lays_53 : decode cX2_lays 53 = .ok (.iadd, 1) := dk_96 (dk_at dksX2_lays_2 6 rfl rfl)
theorem dX2_lays_54 : decode cX2_lays 54 = .ok (.if_icmp .gt 33, 3) := dk_163 0 33 (dk_at dksX2_lays_2 7 rfl rfl)
theorem dX2_lays_57 : decode cX2_lays 57 = .ok (.aload_n 0, 1) := dk_42 (dk_at dksX2_lays_2 10 rfl rfl)
theorem dX2_lays_58 : decode cX2_lays 58 = .ok (.getfield 7, 3) := dk_180 0 7 (dk_at dksX2_lays_2 11 rfl rfl)
theorem dX2_lays_61 : decode cX2_lays 61 = .ok (.sipush 800, 3) := dk_17 3 32 (dk_at dksX2_lays_2 14 rfl rfl)
theorem dX2_lays_64 : decode cX2_lays 64 = .ok (.iload_n 1, 1) := dk_27 (dk_at dksX2_lays_2 17 rfl rfl)
theorem dX2_lays_65 : decode cX2_lays 65 = .ok (.iadd, 1) := dk_96 (dk_at dksX2_lays_2 18 rfl rfl)
theorem dX2_lays_66 : decode cX2_lays 66 = .ok (.iload 4, 2) := dk_21 4 (dk_at dksX2_lays_2 19 rfl rfl)
theorem dX2_lays_68 : decode cX2_lays 68 = .ok (.iadd, 1) := dk_96 (dk_at dksX2_lays_2 21 rfl rfl)
theorem dX2_lays_69 : decode cX2_lays 69 = .ok (.iload 4, 2) := dk_21 4 (dk_at dksX2_lays_2 22 rfl rfl)
theorem dX2_lays_71 : decode cX2_lays 71 = .ok (.iload_n 2, 1) := dk_28 (dk_at dksX2_lays_3 0 rfl rfl)
theorem dX2_lays_72 : decode cX2_lays 72 = .ok (.if_icmp .gt 7, 3) := dk_163 0 7 (dk_at dksX2_lays_3 1 rfl rfl)
theorem dX2_lays_75 : decode cX2_lays 75 = .ok (.iconst (-1), 1) := dk_2 (dk_at dksX2_lays_3 4 rfl rfl)
theorem dX2_lays_76 : decode cX2_lays 76 = .ok (.goto 4, 3) := dk_167 0 4 (dk_at dksX2_lays_3 5 rfl rfl)
theorem dX2_lays_79 : decode cX2_lays 79 = .ok (.iconst 0, 1) := dk_3 (dk_at dksX2_lays_3 8 rfl rfl)
theorem dX2_lays_80 : decode cX2_lays 80 = .ok (.iastore, 1) := dk_79 (dk_at dksX2_lays_3 9 rfl rfl)
theorem dX2_lays_81 : decode cX2_lays 81 = .ok (.iinc 4 1, 3) := dk_132 4 1 (dk_at dksX2_lays_3 10 rfl rfl)
theorem dX2_lays_84 : decode cX2_lays 84 = .ok (.goto (-35), 3) := dk_167 255 221 (dk_at dksX2_lays_3 13 rfl rfl)
theorem dX2_lays_87 : decode cX2_lays 87 = .ok (.aload_n 0, 1) := dk_42 (dk_at dksX2_lays_3 16 rfl rfl)
theorem dX2_lays_88 : decode cX2_lays 88 = .ok (.getfield 7, 3) := dk_180 0 7 (dk_at dksX2_lays_3 17 rfl rfl)
theorem dX2_lays_91 : decode cX2_lays 91 = .ok (.sipush 1218, 3) := dk_17 4 194 (dk_at dksX2_lays_3 20 rfl rfl)
theorem dX2_lays_94 : decode cX2_lays 94 = .ok (.dup2, 1) := dk_92 (dk_at dksX2_lays_3 23 rfl rfl)
theorem dX2_lays_95 : decode cX2_lays 95 = .ok (.iaload, 1) := dk_46 (dk_at dksX2_lays_4 0 rfl rfl)
theorem dX2_lays_96 : decode cX2_lays 96 = .ok (.iconst 1, 1) := dk_4 (dk_at dksX2_lays_4 1 rfl rfl)
theorem dX2_lays_97 : decode cX2_lays 97 = .ok (.iadd, 1) := dk_96 (dk_at dksX2_lays_4 2 rfl rfl)
theorem dX2_lays_98 : decode cX2_lays 98 = .ok (.iastore, 1) := dk_79 (dk_at dksX2_lays_4 3 rfl rfl)
theorem dX2_lays_99 : decode cX2_lays 99 = .ok (.return_, 1) := dk_177 (dk_at dksX2_lays_4 4 rfl rfl)
abbrev cX2_object : ByteArray := prog_26_method_14_code
def yX2_object : MethodName := ⟨RX2, "object", "(II)I"⟩
def dkwX2_object_6 : List UInt8 := [167, 0, 4, 3, 172]
abbrev dktX2_object_6 : List UInt8 := dkwX2_object_6 ++ []
def dkwX2_object_5 : List UInt8 := [46, 172, 42, 29, 182, 0, 66, 172, 42, 2, 182, 0, 69, 42, 180, 0, 30, 29, 46, 2, 159, 0, 7, 4]
abbrev dktX2_object_5 : List UInt8 := dkwX2_object_5 ++ dktX2_object_6
def dkwX2_object_4 : List UInt8 := [182, 0, 63, 172, 42, 180, 0, 7, 17, 1, 144, 29, 96, 46, 172, 42, 180, 0, 7, 17, 2, 88, 29, 96]
abbrev dktX2_object_4 : List UInt8 := dkwX2_object_4 ++ dktX2_object_5
def dkwX2_object_3 : List UInt8 := [29, 172, 42, 180, 0, 7, 3, 29, 96, 46, 172, 42, 180, 0, 7, 17, 0, 200, 29, 96, 46, 172, 42, 29]
abbrev dktX2_object_3 : List UInt8 := dkwX2_object_3 ++ dktX2_object_4
def dkwX2_object_2 : List UInt8 := [170, 0, 0, 0, 0, 0, 99, 0, 0, 0, 0, 0, 0, 0, 6, 0, 0, 0, 43, 0, 0, 0, 45, 0, 0, 0, 54, 0, 0, 0, 65, 0, 0, 0, 71, 0, 0, 0, 82, 0, 0, 0, 93]
abbrev dktX2_object_2 : List UInt8 := dkwX2_object_2 ++ dktX2_object_3
def dkwX2_object_1 : List UInt8 := [28]
abbrev dktX2_object_1 : List UInt8 := dkwX2_object_1 ++ dktX2_object_2
def dkwX2_object_0 : List UInt8 := [42, 27, 182, 0, 51, 62, 29, 2, 159, 0, 13, 28, 3, 16, 7, 184, 0, 46, 154, 0, 6, 18, 50, 172]
abbrev dktX2_object_0 : List UInt8 := dkwX2_object_0 ++ dktX2_object_1
theorem dksX2_object_0 : cX2_object.data.toList.drop 0 = dktX2_object_0 := by decide +kernel
theorem dksX2_object_1 : cX2_object.data.toList.drop 24 = dktX2_object_1 := dk_seg dksX2_object_0 24 rfl rfl
theorem dksX2_object_2 : cX2_object.data.toList.drop 25 = dktX2_object_2 := dk_seg dksX2_object_1 1 rfl rfl
theorem dksX2_object_3 : cX2_object.data.toList.drop 68 = dktX2_object_3 := dk_seg dksX2_object_2 43 rfl rfl
theorem dksX2_object_4 : cX2_object.data.toList.drop 92 = dktX2_object_4 := dk_seg dksX2_object_3 24 rfl rfl
theorem dksX2_object_5 : cX2_object.data.toList.drop 116 = dktX2_object_5 := dk_seg dksX2_object_4 24 rfl rfl
theorem dksX2_object_6 : cX2_object.data.toList.drop 140 = dktX2_object_6 := dk_seg dksX2_object_5 24 rfl rfl
theorem dX2_object_0 : decode cX2_object 0 = .ok (.aload_n 0, 1) := dk_42 (dk_at dksX2_object_0 0 rfl rfl)
theorem dX2_object_1 : decode cX2_object 1 = .ok (.iload_n 1, 1) := dk_27 (dk_at dksX2_object_0 1 rfl rfl)
theorem dX2_object_2 : decode cX2_object 2 = .ok (.invokevirtual 51, 3) := dk_182 0 51 (dk_at dksX2_object_0 2 rfl rfl)
theorem dX2_object_5 : decode cX2_object 5 = .ok (.istore_n 3, 1) := dk_62 (dk_at dksX2_object_0 5 rfl rfl)
theorem dX2_object_6 : decode cX2_object 6 = .ok (.iload_n 3, 1) := dk_29 (dk_at dksX2_object_0 6 rfl rfl)
theorem dX2_object_7 : decode cX2_object 7 = .ok (.iconst (-1), 1) := dk_2 (dk_at dksX2_object_0 7 rfl rfl)
theorem dX2_object_8 : decode cX2_object 8 = .ok (.if_icmp .eq 13, 3) := dk_159 0 13 (dk_at dksX2_object_0 8 rfl rfl)
theorem dX2_object_11 : decode cX2_object 11 = .ok (.iload_n 2, 1) := dk_28 (dk_at dksX2_object_0 11 rfl rfl)
theorem dX2_object_12 : decode cX2_object 12 = .ok (.iconst 0, 1) := dk_3 (dk_at dksX2_object_0 12 rfl rfl)
theorem dX2_object_13 : decode cX2_object 13 = .ok (.bipush 7, 2) := dk_16 7 (dk_at dksX2_object_0 13 rfl rfl)
theorem dX2_object_15 : decode cX2_object 15 = .ok (.invokestatic 46, 3) := dk_184 0 46 (dk_at dksX2_object_0 15 rfl rfl)
theorem dX2_object_18 : decode cX2_object 18 = .ok (.ifCond .ne 6, 3) := dk_154 0 6 (dk_at dksX2_object_0 18 rfl rfl)
theorem dX2_object_21 : decode cX2_object 21 = .ok (.ldc 50, 2) := dk_18 50 (dk_at dksX2_object_0 21 rfl rfl)
theorem dX2_object_23 : decode cX2_object 23 = .ok (.ireturn, 1) := dk_172 (dk_at dksX2_object_0 23 rfl rfl)
theorem dX2_object_24 : decode cX2_object 24 = .ok (.iload_n 2, 1) := dk_28 (dk_at dksX2_object_1 0 rfl rfl)
theorem dX2_object_25 : decode cX2_object 25 = .ok (.tableswitch 99 0 6 #[43, 45, 54, 65, 71, 82, 93], 43) := by decide +kernel
theorem dX2_object_68 : decode cX2_object 68 = .ok (.iload_n 3, 1) := dk_29 (dk_at dksX2_object_3 0 rfl rfl)
theorem dX2_object_69 : decode cX2_object 69 = .ok (.ireturn, 1) := dk_172 (dk_at dksX2_object_3 1 rfl rfl)
theorem dX2_object_70 : decode cX2_object 70 = .ok (.aload_n 0, 1) := dk_42 (dk_at dksX2_object_3 2 rfl rfl)
theorem dX2_object_71 : decode cX2_object 71 = .ok (.getfield 7, 3) := dk_180 0 7 (dk_at dksX2_object_3 3 rfl rfl)
theorem dX2_object_74 : decode cX2_object 74 = .ok (.iconst 0, 1) := dk_3 (dk_at dksX2_object_3 6 rfl rfl)
theorem dX2_object_75 : decode cX2_object 75 = .ok (.iload_n 3, 1) := dk_29 (dk_at dksX2_object_3 7 rfl rfl)
theorem dX2_object_76 : decode cX2_object 76 = .ok (.iadd, 1) := dk_96 (dk_at dksX2_object_3 8 rfl rfl)
theorem dX2_object_77 : decode cX2_object 77 = .ok (.iaload, 1) := dk_46 (dk_at dksX2_object_3 9 rfl rfl)
theorem dX2_object_78 : decode cX2_object 78 = .ok (.ireturn, 1) := dk_172 (dk_at dksX2_object_3 10 rfl rfl)
theorem dX2_object_79 : decode cX2_object 79 = .ok (.aload_n 0, 1) := dk_42 (dk_at dksX2_object_3 11 rfl rfl)
theorem dX2_object_80 : decode cX2_object 80 = .ok (.getfield 7, 3) := dk_180 0 7 (dk_at dksX2_object_3 12 rfl rfl)
theorem dX2_object_83 : decode cX2_object 83 = .ok (.sipush 200, 3) := dk_17 0 200 (dk_at dksX2_object_3 15 rfl rfl)
theorem dX2_object_86 : decode cX2_object 86 = .ok (.iload_n 3, 1) := dk_29 (dk_at dksX2_object_3 18 rfl rfl)
theorem dX2_object_87 : decode cX2_object 87 = .ok (.iadd, 1) := dk_96 (dk_at dksX2_object_3 19 rfl rfl)
theorem dX2_object_88 : decode cX2_object 88 = .ok (.iaload, 1) := dk_46 (dk_at dksX2_object_3 20 rfl rfl)
theorem dX2_object_89 : decode cX2_object 89 = .ok (.ireturn, 1) := dk_172 (dk_at dksX2_object_3 21 rfl rfl)
theorem dX2_object_90 : decode cX2_object 90 = .ok (.aload_n 0, 1) := dk_42 (dk_at dksX2_object_3 22 rfl rfl)
theorem dX2_object_91 : decode cX2_object 91 = .ok (.iload_n 3, 1) := dk_29 (dk_at dksX2_object_3 23 rfl rfl)
theorem dX2_object_92 : decode cX2_object 92 = .ok (.invokevirtual 63, 3) := dk_182 0 63 (dk_at dksX2_object_4 0 rfl rfl)
theorem dX2_object_95 : decode cX2_object 95 = .ok (.ireturn, 1) := dk_172 (dk_at dksX2_object_4 3 rfl rfl)
theorem dX2_object_96 : decode cX2_object 96 = .ok (.aload_n 0, 1) := dk_42 (dk_at dksX2_object_4 4 rfl rfl)
theorem dX2_object_97 : decode cX2_object 97 = .ok (.getfield 7, 3) := dk_180 0 7 (dk_at dksX2_object_4 5 rfl rfl)
theorem dX2_object_100 : decode cX2_object 100 = .ok (.sipush 400, 3) := dk_17 1 144 (dk_at dksX2_object_4 8 rfl rfl)
theorem dX2_object_103 : decode cX2_object 103 = .ok (.iload_n 3, 1) := dk_29 (dk_at dksX2_object_4 11 rfl rfl)
theorem dX2_object_104 : decode cX2_object 104 = .ok (.iadd, 1) := dk_96 (dk_at dksX2_object_4 12 rfl rfl)
theorem dX2_object_105 : decode cX2_object 105 = .ok (.iaload, 1) := dk_46 (dk_at dksX2_object_4 13 rfl rfl)
theorem dX2_object_106 : decode cX2_object 106 = .ok (.ireturn, 1) := dk_172 (dk_at dksX2_object_4 14 rfl rfl)
theorem dX2_object_107 : decode cX2_object 107 = .ok (.aload_n 0, 1) := dk_42 (dk_at dksX2_object_4 15 rfl rfl)
theorem dX2_object_108 : decode cX2_object 108 = .ok (.getfield 7, 3) := dk_180 0 7 (dk_at dksX2_object_4 16 rfl rfl)
theorem dX2_object_111 : decode cX2_object 111 = .ok (.sipush 600, 3) := dk_17 2 88 (dk_at dksX2_object_4 19 rfl rfl)
theorem dX2_object_114 : decode cX2_object 114 = .ok (.iload_n 3, 1) := dk_29 (dk_at dksX2_object_4 22 rfl rfl)
theorem dX2_object_115 : decode cX2_object 115 = .ok (.iadd, 1) := dk_96 (dk_at dksX2_object_4 23 rfl rfl)
theorem dX2_object_116 : decode cX2_object 116 = .ok (.iaload, 1) := dk_46 (dk_at dksX2_object_5 0 rfl rfl)
theorem dX2_object_117 : decode cX2_object 117 = .ok (.ireturn, 1) := dk_172 (dk_at dksX2_object_5 1 rfl rfl)
theorem dX2_object_118 : decode cX2_object 118 = .ok (.aload_n 0, 1) := dk_42 (dk_at dksX2_object_5 2 rfl rfl)
theorem dX2_object_119 : decode cX2_object 119 = .ok (.iload_n 3, 1) := dk_29 (dk_at dksX2_object_5 3 rfl rfl)
theorem dX2_object_120 : decode cX2_object 120 = .ok (.invokevirtual 66, 3) := dk_182 0 66 (dk_at dksX2_object_5 4 rfl rfl)
theorem dX2_object_123 : decode cX2_object 123 = .ok (.ireturn, 1) := dk_172 (dk_at dksX2_object_5 7 rfl rfl)
theorem dX2_object_124 : decode cX2_object 124 = .ok (.aload_n 0, 1) := dk_42 (dk_at dksX2_object_5 8 rfl rfl)
theorem dX2_object_125 : decode cX2_object 125 = .ok (.iconst (-1), 1) := dk_2 (dk_at dksX2_object_5 9 rfl rfl)
theorem dX2_object_126 : decode cX2_object 126 = .ok (.invokevirtual 69, 3) := dk_182 0 69 (dk_at dksX2_object_5 10 rfl rfl)
theorem dX2_object_129 : decode cX2_object 129 = .ok (.aload_n 0, 1) := dk_42 (dk_at dksX2_object_5 13 rfl rfl)
theorem dX2_object_130 : decode cX2_object 130 = .ok (.getfield 30, 3) := dk_180 0 30 (dk_at dksX2_object_5 14 rfl rfl)
theorem dX2_object_133 : decode cX2_object 133 = .ok (.iload_n 3, 1) := dk_29 (dk_at dksX2_object_5 17 rfl rfl)
theorem dX2_object_134 : decode cX2_object 134 = .ok (.iaload, 1) := dk_46 (dk_at dksX2_object_5 18 rfl rfl)
theorem dX2_object_135 : decode cX2_object 135 = .ok (.iconst (-1), 1) := dk_2 (dk_at dksX2_object_5 19 rfl rfl)
theorem dX2_object_136 : decode cX2_object 136 = .ok (.if_icmp .eq 7, 3) := dk_159 0 7 (dk_at dksX2_object_5 20 rfl rfl)
theorem dX2_object_139 : decode cX2_object 139 = .ok (.iconst 1, 1) := dk_4 (dk_at dksX2_object_5 23 rfl rfl)
theorem dX2_object_140 : decode cX2_object 140 = .ok (.goto 4, 3) := dk_167 0 4 (dk_at dksX2_object_6 0 rfl rfl)
theorem dX2_object_143 : decode cX2_object 143 = .ok (.iconst 0, 1) := dk_3 (dk_at dksX2_object_6 3 rfl rfl)
theorem dX2_object_144 : decode cX2_object 144 = .ok (.ireturn, 1) := dk_172 (dk_at dksX2_object_6 4 rfl rfl)
abbrev cX2_objectOf : ByteArray := prog_26_method_5_code
def yX2_objectOf : MethodName := ⟨RX2, "objectOf", "(I)I"⟩
def dkwX2_objectOf_2 : List UInt8 := [28, 42, 180, 0, 7, 3, 28, 96, 46, 96, 27, 164, 0, 7, 28, 167, 0, 4, 2, 172]
abbrev dktX2_objectOf_2 : List UInt8 := dkwX2_objectOf_2 ++ []
def dkwX2_objectOf_1 : List UInt8 := [155, 0, 20, 42, 180, 0, 7, 3, 28, 96, 46, 154, 0, 9, 132, 2, 255, 167, 255, 238, 28, 155, 0, 21]
abbrev dktX2_objectOf_1 : List UInt8 := dkwX2_objectOf_1 ++ dktX2_objectOf_2
def dkwX2_objectOf_0 : List UInt8 := [27, 3, 42, 180, 0, 7, 17, 4, 192, 46, 4, 100, 184, 0, 46, 154, 0, 5, 2, 172, 27, 61, 28]
abbrev dktX2_objectOf_0 : List UInt8 := dkwX2_objectOf_0 ++ dktX2_objectOf_1
theorem dksX2_objectOf_0 : cX2_objectOf.data.toList.drop 0 = dktX2_objectOf_0 := by decide +kernel
theorem dksX2_objectOf_1 : cX2_objectOf.data.toList.drop 23 = dktX2_objectOf_1 := dk_seg dksX2_objectOf_0 23 rfl rfl
theorem dksX2_objectOf_2 : cX2_objectOf.data.toList.drop 47 = dktX2_objectOf_2 := dk_seg dksX2_objectOf_1 24 rfl rfl
theorem dX2_objectOf_0 : decode cX2_objectOf 0 = .ok (.iload_n 1, 1) := dk_27 (dk_at dksX2_objectOf_0 0 rfl rfl)
theorem dX2_objectOf_1 : decode cX2_objectOf 1 = .ok (.iconst 0, 1) := dk_3 (dk_at dksX2_objectOf_0 1 rfl rfl)
theorem dX2_objectOf_2 : decode cX2_objectOf 2 = .ok (.aload_n 0, 1) := dk_42 (dk_at dksX2_objectOf_0 2 rfl rfl)
theorem dX2_objectOf_3 : decode cX2_objectOf 3 = .ok (.getfield 7, 3) := dk_180 0 7 (dk_at dksX2_objectOf_0 3 rfl rfl)
theorem dX2_objectOf_6 : decode cX2_objectOf 6 = .ok (.sipush 1216, 3) := dk_17 4 192 (dk_at dksX2_objectOf_0 6 rfl rfl)
theorem dX2_objectOf_9 : decode cX2_objectOf 9 = .ok (.iaload, 1) := dk_46 (dk_at dksX2_objectOf_0 9 rfl rfl)
theorem dX2_objectOf_10 : decode cX2_objectOf 10 = .ok (.iconst 1, 1) := dk_4 (dk_at dksX2_objectOf_0 10 rfl rfl)
theorem dX2_objectOf_11 : decode cX2_objectOf 11 = .ok (.isub, 1) := dk_100 (dk_at dksX2_objectOf_0 11 rfl rfl)
theorem dX2_objectOf_12 : decode cX2_objectOf 12 = .ok (.invokestatic 46, 3) := dk_184 0 46 (dk_at dksX2_objectOf_0 12 rfl rfl)
theorem dX2_objectOf_15 : decode cX2_objectOf 15 = .ok (.ifCond .ne 5, 3) := dk_154 0 5 (dk_at dksX2_objectOf_0 15 rfl rfl)
theorem dX2_objectOf_18 : decode cX2_objectOf 18 = .ok (.iconst (-1), 1) := dk_2 (dk_at dksX2_objectOf_0 18 rfl rfl)
theorem dX2_objectOf_19 : decode cX2_objectOf 19 = .ok (.ireturn, 1) := dk_172 (dk_at dksX2_objectOf_0 19 rfl rfl)
theorem dX2_objectOf_20 : decode cX2_objectOf 20 = .ok (.iload_n 1, 1) := dk_27 (dk_at dksX2_objectOf_0 20 rfl rfl)
theorem dX2_objectOf_21 : decode cX2_objectOf 21 = .ok (.istore_n 2, 1) := dk_61 (dk_at dksX2_objectOf_0 21 rfl rfl)
theorem dX2_objectOf_22 : decode cX2_objectOf 22 = .ok (.iload_n 2, 1) := dk_28 (dk_at dksX2_objectOf_0 22 rfl rfl)
theorem dX2_objectOf_23 : decode cX2_objectOf 23 = .ok (.ifCond .lt 20, 3) := dk_155 0 20 (dk_at dksX2_objectOf_1 0 rfl rfl)
theorem dX2_objectOf_26 : decode cX2_objectOf 26 = .ok (.aload_n 0, 1) := dk_42 (dk_at dksX2_objectOf_1 3 rfl rfl)
theorem dX2_objectOf_27 : decode cX2_objectOf 27 = .ok (.getfield 7, 3) := dk_180 0 7 (dk_at dksX2_objectOf_1 4 rfl rfl)
theorem dX2_objectOf_30 : decode cX2_objectOf 30 = .ok (.iconst 0, 1) := dk_3 (dk_at dksX2_objectOf_1 7 rfl rfl)
theorem dX2_objectOf_31 : decode cX2_objectOf 31 = .ok (.iload_n 2, 1) := dk_28 (dk_at dksX2_objectOf_1 8 rfl rfl)
theorem dX2_objectOf_32 : decode cX2_objectOf 32 = .ok (.iadd, 1) := dk_96 (dk_at dksX2_objectOf_1 9 rfl rfl)
theorem dX2_objectOf_33 : decode cX2_objectOf 33 = .ok (.iaload, 1) := dk_46 (dk_at dksX2_objectOf_1 10 rfl rfl)
theorem dX2_objectOf_34 : decode cX2_objectOf 34 = .ok (.ifCond .ne 9, 3) := dk_154 0 9 (dk_at dksX2_objectOf_1 11 rfl rfl)
theorem dX2_objectOf_37 : decode cX2_objectOf 37 = .ok (.iinc 2 (-1), 3) := dk_132 2 255 (dk_at dksX2_objectOf_1 14 rfl rfl)
theorem dX2_objectOf_40 : decode cX2_objectOf 40 = .ok (.goto (-18), 3) := dk_167 255 238 (dk_at dksX2_objectOf_1 17 rfl rfl)
theorem dX2_objectOf_43 : decode cX2_objectOf 43 = .ok (.iload_n 2, 1) := dk_28 (dk_at dksX2_objectOf_1 20 rfl rfl)
theorem dX2_objectOf_44 : decode cX2_objectOf 44 = .ok (.ifCond .lt 21, 3) := dk_155 0 21 (dk_at dksX2_objectOf_1 21 rfl rfl)
theorem dX2_objectOf_47 : decode cX2_objectOf 47 = .ok (.iload_n 2, 1) := dk_28 (dk_at dksX2_objectOf_2 0 rfl rfl)
theorem dX2_objectOf_48 : decode cX2_objectOf 48 = .ok (.aload_n 0, 1) := dk_42 (dk_at dksX2_objectOf_2 1 rfl rfl)
theorem dX2_objectOf_49 : decode cX2_objectOf 49 = .ok (.getfield 7, 3) := dk_180 0 7 (dk_at dksX2_objectOf_2 2 rfl rfl)
theorem dX2_objectOf_52 : decode cX2_objectOf 52 = .ok (.iconst 0, 1) := dk_3 (dk_at dksX2_objectOf_2 5 rfl rfl)
theorem dX2_objectOf_53 : decode cX2_objectOf 53 = .ok (.iload_n 2, 1) := dk_28 (dk_at dksX2_objectOf_2 6 rfl rfl)
theorem dX2_objectOf_54 : decode cX2_objectOf 54 = .ok (.iadd, 1) := dk_96 (dk_at dksX2_objectOf_2 7 rfl rfl)
theorem dX2_objectOf_55 : decode cX2_objectOf 55 = .ok (.iaload, 1) := dk_46 (dk_at dksX2_objectOf_2 8 rfl rfl)
theorem dX2_objectOf_56 : decode cX2_objectOf 56 = .ok (.iadd, 1) := dk_96 (dk_at dksX2_objectOf_2 9 rfl rfl)
theorem dX2_objectOf_57 : decode cX2_objectOf 57 = .ok (.iload_n 1, 1) := dk_27 (dk_at dksX2_objectOf_2 10 rfl rfl)
theorem dX2_objectOf_58 : decode cX2_objectOf 58 = .ok (.if_icmp .le 7, 3) := dk_164 0 7 (dk_at dksX2_objectOf_2 11 rfl rfl)
theorem dX2_objectOf_61 : decode cX2_objectOf 61 = .ok (.iload_n 2, 1) := dk_28 (dk_at dksX2_objectOf_2 14 rfl rfl)
theorem dX2_objectOf_62 : decode cX2_objectOf 62 = .ok (.goto 4, 3) := dk_167 0 4 (dk_at dksX2_objectOf_2 15 rfl rfl)
theorem dX2_objectOf_65 : decode cX2_objectOf 65 = .ok (.iconst (-1), 1) := dk_2 (dk_at dksX2_objectOf_2 18 rfl rfl)
theorem dX2_objectOf_66 : decode cX2_objectOf 66 = .ok (.ireturn, 1) := dk_172 (dk_at dksX2_objectOf_2 19 rfl rfl)
abbrev cX2_dataOf : ByteArray := prog_26_method_7_code
def yX2_dataOf : MethodName := ⟨RX2, "dataOf", "(I)I"⟩
def dkwX2_dataOf_0 : List UInt8 := [42, 180, 0, 7, 3, 27, 96, 46, 4, 100, 42, 180, 0, 7, 17, 0, 200, 27, 96, 46, 100, 172]
abbrev dktX2_dataOf_0 : List UInt8 := dkwX2_dataOf_0 ++ []
theorem dksX2_dataOf_0 : cX2_dataOf.data.toList.drop 0 = dktX2_dataOf_0 := by decide +kernel
theorem dX2_dataOf_0 : decode cX2_dataOf 0 = .ok (.aload_n 0, 1) := dk_42 (dk_at dksX2_dataOf_0 0 rfl rfl)
theorem dX2_dataOf_1 : decode cX2_dataOf 1 = .ok (.getfield 7, 3) := dk_180 0 7 (dk_at dksX2_dataOf_0 1 rfl rfl)
theorem dX2_dataOf_4 : decode cX2_dataOf 4 = .ok (.iconst 0, 1) := dk_3 (dk_at dksX2_dataOf_0 4 rfl rfl)
theorem dX2_dataOf_5 : decode cX2_dataOf 5 = .ok (.iload_n 1, 1) := dk_27 (dk_at dksX2_dataOf_0 5 rfl rfl)
theorem dX2_dataOf_6 : decode cX2_dataOf 6 = .ok (.iadd, 1) := dk_96 (dk_at dksX2_dataOf_0 6 rfl rfl)
theorem dX2_dataOf_7 : decode cX2_dataOf 7 = .ok (.iaload, 1) := dk_46 (dk_at dksX2_dataOf_0 7 rfl rfl)
theorem dX2_dataOf_8 : decode cX2_dataOf 8 = .ok (.iconst 1, 1) := dk_4 (dk_at dksX2_dataOf_0 8 rfl rfl)
theorem dX2_dataOf_9 : decode cX2_dataOf 9 = .ok (.isub, 1) := dk_100 (dk_at dksX2_dataOf_0 9 rfl rfl)
theorem dX2_dataOf_10 : decode cX2_dataOf 10 = .ok (.aload_n 0, 1) := dk_42 (dk_at dksX2_dataOf_0 10 rfl rfl)
theorem dX2_dataOf_11 : decode cX2_dataOf 11 = .ok (.getfield 7, 3) := dk_180 0 7 (dk_at dksX2_dataOf_0 11 rfl rfl)
theorem dX2_dataOf_14 : decode cX2_dataOf 14 = .ok (.sipush 200, 3) := dk_17 0 200 (dk_at dksX2_dataOf_0 14 rfl rfl)
theorem dX2_dataOf_17 : decode cX2_dataOf 17 = .ok (.iload_n 1, 1) := dk_27 (dk_at dksX2_dataOf_0 17 rfl rfl)
theorem dX2_dataOf_18 : decode cX2_dataOf 18 = .ok (.iadd, 1) := dk_96 (dk_at dksX2_dataOf_0 18 rfl rfl)
theorem dX2_dataOf_19 : decode cX2_dataOf 19 = .ok (.iaload, 1) := dk_46 (dk_at dksX2_dataOf_0 19 rfl rfl)
theorem dX2_dataOf_20 : decode cX2_dataOf 20 = .ok (.isub, 1) := dk_100 (dk_at dksX2_dataOf_0 20 rfl rfl)
theorem dX2_dataOf_21 : decode cX2_dataOf 21 = .ok (.ireturn, 1) := dk_172 (dk_at dksX2_dataOf_0 21 rfl rfl)
abbrev cX2_referring : ByteArray := prog_26_method_10_code
def yX2_referring : MethodName := ⟨RX2, "referring", "(I)I"⟩
def dkwX2_referring_6 : List UInt8 := [160, 0, 7, 4, 167, 0, 4, 3, 96, 61, 132, 4, 1, 167, 255, 181, 132, 3, 1, 167, 255, 160, 28, 172]
abbrev dktX2_referring_6 : List UInt8 := dkwX2_referring_6 ++ []
def dkwX2_referring_5 : List UInt8 := [2, 159, 0, 28, 42, 42, 180, 0, 7, 17, 3, 32, 29, 96, 21, 4, 96, 46, 182, 0, 51, 27]
abbrev dktX2_referring_5 : List UInt8 := dkwX2_referring_5 ++ dktX2_referring_6
def dkwX2_referring_4 : List UInt8 := [180, 0, 7, 3, 29, 96, 46, 158, 0, 55, 28, 42, 180, 0, 7, 17, 3, 32, 29, 96, 21, 4, 96, 46]
abbrev dktX2_referring_4 : List UInt8 := dkwX2_referring_4 ++ dktX2_referring_5
def dkwX2_referring_3 : List UInt8 := [162, 0, 90, 4, 54, 4, 21, 4, 42, 180, 0, 7, 17, 0, 200, 29, 96, 46, 163, 0, 66, 42]
abbrev dktX2_referring_3 : List UInt8 := dkwX2_referring_3 ++ dktX2_referring_4
def dkwX2_referring_2 : List UInt8 := [167, 0, 4, 3, 96, 61, 132, 3, 1, 167, 255, 207, 3, 62, 29, 42, 180, 0, 7, 17, 4, 192, 46]
abbrev dktX2_referring_2 : List UInt8 := dkwX2_referring_2 ++ dktX2_referring_3
def dkwX2_referring_1 : List UInt8 := [159, 0, 25, 42, 42, 180, 0, 7, 17, 4, 176, 29, 96, 46, 182, 0, 51, 27, 160, 0, 7, 4]
abbrev dktX2_referring_1 : List UInt8 := dkwX2_referring_1 ++ dktX2_referring_2
def dkwX2_referring_0 : List UInt8 := [3, 61, 3, 62, 29, 16, 10, 162, 0, 49, 28, 42, 180, 0, 7, 17, 4, 176, 29, 96, 46, 2]
abbrev dktX2_referring_0 : List UInt8 := dkwX2_referring_0 ++ dktX2_referring_1
theorem dksX2_referring_0 : cX2_referring.data.toList.drop 0 = dktX2_referring_0 := by decide +kernel
theorem dksX2_referring_1 : cX2_referring.data.toList.drop 22 = dktX2_referring_1 := dk_seg dksX2_referring_0 22 rfl rfl
theorem dksX2_referring_2 : cX2_referring.data.toList.drop 44 = dktX2_referring_2 := dk_seg dksX2_referring_1 22 rfl rfl
theorem dksX2_referring_3 : cX2_referring.data.toList.drop 67 = dktX2_referring_3 := dk_seg dksX2_referring_2 23 rfl rfl
theorem dksX2_referring_4 : cX2_referring.data.toList.drop 89 = dktX2_referring_4 := dk_seg dksX2_referring_3 22 rfl rfl
theorem dksX2_referring_5 : cX2_referring.data.toList.drop 113 = dktX2_referring_5 := dk_seg dksX2_referring_4 24 rfl rfl
theorem dksX2_referring_6 : cX2_referring.data.toList.drop 135 = dktX2_referring_6 := dk_seg dksX2_referring_5 22 rfl rfl
theorem dX2_referring_0 : decode cX2_referring 0 = .ok (.iconst 0, 1) := dk_3 (dk_at dksX2_referring_0 0 rfl rfl)
theorem dX2_referring_1 : decode cX2_referring 1 = .ok (.istore_n 2, 1) := dk_61 (dk_at dksX2_referring_0 1 rfl rfl)
theorem dX2_referring_2 : decode cX2_referring 2 = .ok (.iconst 0, 1) := dk_3 (dk_at dksX2_referring_0 2 rfl rfl)
theorem dX2_referring_3 : decode cX2_referring 3 = .ok (.istore_n 3, 1) := dk_62 (dk_at dksX2_referring_0 3 rfl rfl)
theorem dX2_referring_4 : decode cX2_referring 4 = .ok (.iload_n 3, 1) := dk_29 (dk_at dksX2_referring_0 4 rfl rfl)
theorem dX2_referring_5 : decode cX2_referring 5 = .ok (.bipush 10, 2) := dk_16 10 (dk_at dksX2_referring_0 5 rfl rfl)
theorem dX2_referring_7 : decode cX2_referring 7 = .ok (.if_icmp .ge 49, 3) := dk_162 0 49 (dk_at dksX2_referring_0 7 rfl rfl)
theorem dX2_referring_10 : decode cX2_referring 10 = .ok (.iload_n 2, 1) := dk_28 (dk_at dksX2_referring_0 10 rfl rfl)
theorem dX2_referring_11 : decode cX2_referring 11 = .ok (.aload_n 0, 1) := dk_42 (dk_at dksX2_referring_0 11 rfl rfl)
theorem dX2_referring_12 : decode cX2_referring 12 = .ok (.getfield 7, 3) := dk_180 0 7 (dk_at dksX2_referring_0 12 rfl rfl)
theorem dX2_referring_15 : decode cX2_referring 15 = .ok (.sipush 1200, 3) := dk_17 4 176 (dk_at dksX2_referring_0 15 rfl rfl)
theorem dX2_referring_18 : decode cX2_referring 18 = .ok (.iload_n 3, 1) := dk_29 (dk_at dksX2_referring_0 18 rfl rfl)
theorem dX2_referring_19 : decode cX2_referring 19 = .ok (.iadd, 1) := dk_96 (dk_at dksX2_referring_0 19 rfl rfl)
theorem dX2_referring_20 : decode cX2_referring 20 = .ok (.iaload, 1) := dk_46 (dk_at dksX2_referring_0 20 rfl rfl)
theorem dX2_referring_21 : decode cX2_referring 21 = .ok (.iconst (-1), 1) := dk_2 (dk_at dksX2_referring_0 21 rfl rfl)
theorem dX2_referring_22 : decode cX2_referring 22 = .ok (.if_icmp .eq 25, 3) := dk_159 0 25 (dk_at dksX2_referring_1 0 rfl rfl)
theorem dX2_referring_25 : decode cX2_referring 25 = .ok (.aload_n 0, 1) := dk_42 (dk_at dksX2_referring_1 3 rfl rfl)
theorem dX2_referring_26 : decode cX2_referring 26 = .ok (.aload_n 0, 1) := dk_42 (dk_at dksX2_referring_1 4 rfl rfl)
theorem dX2_referring_27 : decode cX2_referring 27 = .ok (.getfield 7, 3) := dk_180 0 7 (dk_at dksX2_referring_1 5 rfl rfl)
theorem dX2_referring_30 : decode cX2_referring 30 = .ok (.sipush 1200, 3) := dk_17 4 176 (dk_at dksX2_referring_1 8 rfl rfl)
theorem dX2_referring_33 : decode cX2_referring 33 = .ok (.iload_n 3, 1) := dk_29 (dk_at dksX2_referring_1 11 rfl rfl)
theorem dX2_referring_34 : decode cX2_referring 34 = .ok (.iadd, 1) := dk_96 (dk_at dksX2_referring_1 12 rfl rfl)
theorem dX2_referring_35 : decode cX2_referring 35 = .ok (.iaload, 1) := dk_46 (dk_at dksX2_referring_1 13 rfl rfl)
theorem dX2_referring_36 : decode cX2_referring 36 = .ok (.invokevirtual 51, 3) := dk_182 0 51 (dk_at dksX2_referring_1 14 rfl rfl)
theorem dX2_referring_39 : decode cX2_referring 39 = .ok (.iload_n 1, 1) := dk_27 (dk_at dksX2_referring_1 17 rfl rfl)
theorem dX2_referring_40 : decode cX2_referring 40 = .ok (.if_icmp .ne 7, 3) := dk_160 0 7 (dk_at dksX2_referring_1 18 rfl rfl)
theorem dX2_referring_43 : decode cX2_referring 43 = .ok (.iconst 1, 1) := dk_4 (dk_at dksX2_referring_1 21 rfl rfl)
theorem dX2_referring_44 : decode cX2_referring 44 = .ok (.goto 4, 3) := dk_167 0 4 (dk_at dksX2_referring_2 0 rfl rfl)
theorem dX2_referring_47 : decode cX2_referring 47 = .ok (.iconst 0, 1) := dk_3 (dk_at dksX2_referring_2 3 rfl rfl)
theorem dX2_referring_48 : decode cX2_referring 48 = .ok (.iadd, 1) := dk_96 (dk_at dksX2_referring_2 4 rfl rfl)
theorem dX2_referring_49 : decode cX2_referring 49 = .ok (.istore_n 2, 1) := dk_61 (dk_at dksX2_referring_2 5 rfl rfl)
theorem dX2_referring_50 : decode cX2_referring 50 = .ok (.iinc 3 1, 3) := dk_132 3 1 (dk_at dksX2_referring_2 6 rfl rfl)
theorem dX2_referring_53 : decode cX2_referring 53 = .ok (.goto (-49), 3) := dk_167 255 207 (dk_at dksX2_referring_2 9 rfl rfl)
theorem dX2_referring_56 : decode cX2_referring 56 = .ok (.iconst 0, 1) := dk_3 (dk_at dksX2_referring_2 12 rfl rfl)
theorem dX2_referring_57 : decode cX2_referring 57 = .ok (.istore_n 3, 1) := dk_62 (dk_at dksX2_referring_2 13 rfl rfl)
theorem dX2_referring_58 : decode cX2_referring 58 = .ok (.iload_n 3, 1) := dk_29 (dk_at dksX2_referring_2 14 rfl rfl)
theorem dX2_referring_59 : decode cX2_referring 59 = .ok (.aload_n 0, 1) := dk_42 (dk_at dksX2_referring_2 15 rfl rfl)
theorem dX2_referring_60 : decode cX2_referring 60 = .ok (.getfield 7, 3) := dk_180 0 7 (dk_at dksX2_referring_2 16 rfl rfl)
theorem dX2_referring_63 : decode cX2_referring 63 = .ok (.sipush 1216, 3) := dk_17 4 192 (dk_at dksX2_referring_2 19 rfl rfl)
theorem dX2_referring_66 : decode cX2_referring 66 = .ok (.iaload, 1) := dk_46 (dk_at dksX2_referring_2 22 rfl rfl)
theorem dX2_referring_67 : decode cX2_referring 67 = .ok (.if_icmp .ge 90, 3) := dk_162 0 90 (dk_at dksX2_referring_3 0 rfl rfl)
theorem dX2_referring_70 : decode cX2_referring 70 = .ok (.iconst 1, 1) := dk_4 (dk_at dksX2_referring_3 3 rfl rfl)
theorem dX2_referring_71 : decode cX2_referring 71 = .ok (.istore 4, 2) := dk_54 4 (dk_at dksX2_referring_3 4 rfl rfl)
theorem dX2_referring_73 : decode cX2_referring 73 = .ok (.iload 4, 2) := dk_21 4 (dk_at dksX2_referring_3 6 rfl rfl)
theorem dX2_referring_75 : decode cX2_referring 75 = .ok (.aload_n 0, 1) := dk_42 (dk_at dksX2_referring_3 8 rfl rfl)
theorem dX2_referring_76 : decode cX2_referring 76 = .ok (.getfield 7, 3) := dk_180 0 7 (dk_at dksX2_referring_3 9 rfl rfl)
theorem dX2_referring_79 : decode cX2_referring 79 = .ok (.sipush 200, 3) := dk_17 0 200 (dk_at dksX2_referring_3 12 rfl rfl)
theorem dX2_referring_82 : decode cX2_referring 82 = .ok (.iload_n 3, 1) := dk_29 (dk_at dksX2_referring_3 15 rfl rfl)
theorem dX2_referring_83 : decode cX2_referring 83 = .ok (.iadd, 1) := dk_96 (dk_at dksX2_referring_3 16 rfl rfl)
theorem dX2_referring_84 : decode cX2_referring 84 = .ok (.iaload, 1) := dk_46 (dk_at dksX2_referring_3 17 rfl rfl)
theorem dX2_referring_85 : decode cX2_referring 85 = .ok (.if_icmp .gt 66, 3) := dk_163 0 66 (dk_at dksX2_referring_3 18 rfl rfl)
theorem dX2_referring_88 : decode cX2_referring 88 = .ok (.aload_n 0, 1) := dk_42 (dk_at dksX2_referring_3 21 rfl rfl)
theorem dX2_referring_89 : decode cX2_referring 89 = .ok (.getfield 7, 3) := dk_180 0 7 (dk_at dksX2_referring_4 0 rfl rfl)
theorem dX2_referring_92 : decode cX2_referring 92 = .ok (.iconst 0, 1) := dk_3 (dk_at dksX2_referring_4 3 rfl rfl)
theorem dX2_referring_93 : decode cX2_referring 93 = .ok (.iload_n 3, 1) := dk_29 (dk_at dksX2_referring_4 4 rfl rfl)
theorem dX2_referring_94 : decode cX2_referring 94 = .ok (.iadd, 1) := dk_96 (dk_at dksX2_referring_4 5 rfl rfl)
theorem dX2_referring_95 : decode cX2_referring 95 = .ok (.iaload, 1) := dk_46 (dk_at dksX2_referring_4 6 rfl rfl)
theorem dX2_referring_96 : decode cX2_referring 96 = .ok (.ifCond .le 55, 3) := dk_158 0 55 (dk_at dksX2_referring_4 7 rfl rfl)
theorem dX2_referring_99 : decode cX2_referring 99 = .ok (.iload_n 2, 1) := dk_28 (dk_at dksX2_referring_4 10 rfl rfl)
theorem dX2_referring_100 : decode cX2_referring 100 = .ok (.aload_n 0, 1) := dk_42 (dk_at dksX2_referring_4 11 rfl rfl)
theorem dX2_referring_101 : decode cX2_referring 101 = .ok (.getfield 7, 3) := dk_180 0 7 (dk_at dksX2_referring_4 12 rfl rfl)
theorem dX2_referring_104 : decode cX2_referring 104 = .ok (.sipush 800, 3) := dk_17 3 32 (dk_at dksX2_referring_4 15 rfl rfl)
theorem dX2_referring_107 : decode cX2_referring 107 = .ok (.iload_n 3, 1) := dk_29 (dk_at dksX2_referring_4 18 rfl rfl)
theorem dX2_referring_108 : decode cX2_referring 108 = .ok (.iadd, 1) := dk_96 (dk_at dksX2_referring_4 19 rfl rfl)
theorem dX2_referring_109 : decode cX2_referring 109 = .ok (.iload 4, 2) := dk_21 4 (dk_at dksX2_referring_4 20 rfl rfl)
theorem dX2_referring_111 : decode cX2_referring 111 = .ok (.iadd, 1) := dk_96 (dk_at dksX2_referring_4 22 rfl rfl)
theorem dX2_referring_112 : decode cX2_referring 112 = .ok (.iaload, 1) := dk_46 (dk_at dksX2_referring_4 23 rfl rfl)
theorem dX2_referring_113 : decode cX2_referring 113 = .ok (.iconst (-1), 1) := dk_2 (dk_at dksX2_referring_5 0 rfl rfl)
theorem dX2_referring_114 : decode cX2_referring 114 = .ok (.if_icmp .eq 28, 3) := dk_159 0 28 (dk_at dksX2_referring_5 1 rfl rfl)
theorem dX2_referring_117 : decode cX2_referring 117 = .ok (.aload_n 0, 1) := dk_42 (dk_at dksX2_referring_5 4 rfl rfl)
theorem dX2_referring_118 : decode cX2_referring 118 = .ok (.aload_n 0, 1) := dk_42 (dk_at dksX2_referring_5 5 rfl rfl)
theorem dX2_referring_119 : decode cX2_referring 119 = .ok (.getfield 7, 3) := dk_180 0 7 (dk_at dksX2_referring_5 6 rfl rfl)
theorem dX2_referring_122 : decode cX2_referring 122 = .ok (.sipush 800, 3) := dk_17 3 32 (dk_at dksX2_referring_5 9 rfl rfl)
theorem dX2_referring_125 : decode cX2_referring 125 = .ok (.iload_n 3, 1) := dk_29 (dk_at dksX2_referring_5 12 rfl rfl)
theorem dX2_referring_126 : decode cX2_referring 126 = .ok (.iadd, 1) := dk_96 (dk_at dksX2_referring_5 13 rfl rfl)
theorem dX2_referring_127 : decode cX2_referring 127 = .ok (.iload 4, 2) := dk_21 4 (dk_at dksX2_referring_5 14 rfl rfl)
theorem dX2_referring_129 : decode cX2_referring 129 = .ok (.iadd, 1) := dk_96 (dk_at dksX2_referring_5 16 rfl rfl)
theorem dX2_referring_130 : decode cX2_referring 130 = .ok (.iaload, 1) := dk_46 (dk_at dksX2_referring_5 17 rfl rfl)
theorem dX2_referring_131 : decode cX2_referring 131 = .ok (.invokevirtual 51, 3) := dk_182 0 51 (dk_at dksX2_referring_5 18 rfl rfl)
theorem dX2_referring_134 : decode cX2_referring 134 = .ok (.iload_n 1, 1) := dk_27 (dk_at dksX2_referring_5 21 rfl rfl)
theorem dX2_referring_135 : decode cX2_referring 135 = .ok (.if_icmp .ne 7, 3) := dk_160 0 7 (dk_at dksX2_referring_6 0 rfl rfl)
theorem dX2_referring_138 : decode cX2_referring 138 = .ok (.iconst 1, 1) := dk_4 (dk_at dksX2_referring_6 3 rfl rfl)
theorem dX2_referring_139 : decode cX2_referring 139 = .ok (.goto 4, 3) := dk_167 0 4 (dk_at dksX2_referring_6 4 rfl rfl)
theorem dX2_referring_142 : decode cX2_referring 142 = .ok (.iconst 0, 1) := dk_3 (dk_at dksX2_referring_6 7 rfl rfl)
theorem dX2_referring_143 : decode cX2_referring 143 = .ok (.iadd, 1) := dk_96 (dk_at dksX2_referring_6 8 rfl rfl)
theorem dX2_referring_144 : decode cX2_referring 144 = .ok (.istore_n 2, 1) := dk_61 (dk_at dksX2_referring_6 9 rfl rfl)
theorem dX2_referring_145 : decode cX2_referring 145 = .ok (.iinc 4 1, 3) := dk_132 4 1 (dk_at dksX2_referring_6 10 rfl rfl)
theorem dX2_referring_148 : decode cX2_referring 148 = .ok (.goto (-75), 3) := dk_167 255 181 (dk_at dksX2_referring_6 13 rfl rfl)
theorem dX2_referring_151 : decode cX2_referring 151 = .ok (.iinc 3 1, 3) := dk_132 3 1 (dk_at dksX2_referring_6 16 rfl rfl)
theorem dX2_referring_154 : decode cX2_referring 154 = .ok (.goto (-96), 3) := dk_167 255 160 (dk_at dksX2_referring_6 19 rfl rfl)
theorem dX2_referring_157 : decode cX2_referring 157 = .ok (.iload_n 2, 1) := dk_28 (dk_at dksX2_referring_6 22 rfl rfl)
theorem dX2_referring_158 : decode cX2_referring 158 = .ok (.ireturn, 1) := dk_172 (dk_at dksX2_referring_6 23 rfl rfl)
abbrev cX2_reaches : ByteArray := prog_26_method_12_code
def yX2_reaches : MethodName := ⟨RX2, "reaches", "(I)V"⟩
def dkwX2_reaches_11 : List UInt8 := [132, 4, 1, 167, 255, 115, 132, 3, 1, 167, 255, 100, 177]
abbrev dktX2_reaches_11 : List UInt8 := dkwX2_reaches_11 ++ []
def dkwX2_reaches_10 : List UInt8 := [2, 160, 0, 15, 42, 180, 0, 30, 21, 6, 29, 4, 96, 79, 4, 61, 132, 5, 1, 167, 255, 137]
abbrev dktX2_reaches_10 : List UInt8 := dkwX2_reaches_10 ++ dktX2_reaches_11
def dkwX2_reaches_9 : List UInt8 := [182, 0, 51, 54, 6, 21, 6, 2, 159, 0, 32, 21, 6, 27, 159, 0, 26, 42, 180, 0, 30, 21, 6, 46]
abbrev dktX2_reaches_9 : List UInt8 := dkwX2_reaches_9 ++ dktX2_reaches_10
def dkwX2_reaches_8 : List UInt8 := [2, 160, 0, 7, 2, 167, 0, 21, 42, 42, 180, 0, 7, 17, 3, 32, 21, 4, 96, 21, 5, 96, 46]
abbrev dktX2_reaches_8 : List UInt8 := dkwX2_reaches_8 ++ dktX2_reaches_9
def dkwX2_reaches_7 : List UInt8 := [180, 0, 30, 21, 4, 46, 29, 160, 0, 86, 42, 180, 0, 7, 17, 3, 32, 21, 4, 96, 21, 5, 96, 46]
abbrev dktX2_reaches_7 : List UInt8 := dkwX2_reaches_7 ++ dktX2_reaches_8
def dkwX2_reaches_6 : List UInt8 := [17, 0, 200, 21, 4, 96, 46, 163, 0, 109, 42, 180, 0, 7, 3, 21, 4, 96, 46, 158, 0, 97, 42]
abbrev dktX2_reaches_6 : List UInt8 := dkwX2_reaches_6 ++ dktX2_reaches_7
def dkwX2_reaches_5 : List UInt8 := [21, 4, 42, 180, 0, 7, 17, 4, 192, 46, 162, 0, 134, 4, 54, 5, 21, 5, 42, 180, 0, 7]
abbrev dktX2_reaches_5 : List UInt8 := dkwX2_reaches_5 ++ dktX2_reaches_6
def dkwX2_reaches_4 : List UInt8 := [27, 182, 0, 60, 132, 2, 1, 167, 255, 206, 4, 61, 3, 62, 28, 153, 0, 158, 3, 61, 3, 54, 4]
abbrev dktX2_reaches_4 : List UInt8 := dkwX2_reaches_4 ++ dktX2_reaches_5
def dkwX2_reaches_3 : List UInt8 := [96, 46, 158, 0, 21, 42, 180, 0, 7, 17, 1, 144, 28, 96, 46, 4, 160, 0, 7, 28, 167, 0, 4, 2]
abbrev dktX2_reaches_3 : List UInt8 := dkwX2_reaches_3 ++ dktX2_reaches_4
def dkwX2_reaches_2 : List UInt8 := [167, 255, 232, 3, 61, 28, 42, 180, 0, 7, 17, 4, 192, 46, 162, 0, 44, 42, 42, 180, 0, 7, 3, 28]
abbrev dktX2_reaches_2 : List UInt8 := dkwX2_reaches_2 ++ dktX2_reaches_3
def dkwX2_reaches_1 : List UInt8 := [28, 16, 6, 162, 0, 24, 42, 42, 180, 0, 7, 17, 4, 176, 28, 96, 46, 27, 182, 0, 60, 132, 2, 1]
abbrev dktX2_reaches_1 : List UInt8 := dkwX2_reaches_1 ++ dktX2_reaches_2
def dkwX2_reaches_0 : List UInt8 := [3, 61, 28, 17, 0, 200, 162, 0, 16, 42, 180, 0, 30, 28, 2, 79, 132, 2, 1, 167, 255, 239, 3, 61]
abbrev dktX2_reaches_0 : List UInt8 := dkwX2_reaches_0 ++ dktX2_reaches_1
theorem dksX2_reaches_0 : cX2_reaches.data.toList.drop 0 = dktX2_reaches_0 := by decide +kernel
theorem dksX2_reaches_1 : cX2_reaches.data.toList.drop 24 = dktX2_reaches_1 := dk_seg dksX2_reaches_0 24 rfl rfl
theorem dksX2_reaches_2 : cX2_reaches.data.toList.drop 48 = dktX2_reaches_2 := dk_seg dksX2_reaches_1 24 rfl rfl
theorem dksX2_reaches_3 : cX2_reaches.data.toList.drop 72 = dktX2_reaches_3 := dk_seg dksX2_reaches_2 24 rfl rfl
theorem dksX2_reaches_4 : cX2_reaches.data.toList.drop 96 = dktX2_reaches_4 := dk_seg dksX2_reaches_3 24 rfl rfl
theorem dksX2_reaches_5 : cX2_reaches.data.toList.drop 119 = dktX2_reaches_5 := dk_seg dksX2_reaches_4 23 rfl rfl
theorem dksX2_reaches_6 : cX2_reaches.data.toList.drop 141 = dktX2_reaches_6 := dk_seg dksX2_reaches_5 22 rfl rfl
theorem dksX2_reaches_7 : cX2_reaches.data.toList.drop 164 = dktX2_reaches_7 := dk_seg dksX2_reaches_6 23 rfl rfl
theorem dksX2_reaches_8 : cX2_reaches.data.toList.drop 188 = dktX2_reaches_8 := dk_seg dksX2_reaches_7 24 rfl rfl
theorem dksX2_reaches_9 : cX2_reaches.data.toList.drop 211 = dktX2_reaches_9 := dk_seg dksX2_reaches_8 23 rfl rfl
theorem dksX2_reaches_10 : cX2_reaches.data.toList.drop 235 = dktX2_reaches_10 := dk_seg dksX2_reaches_9 24 rfl rfl
theorem dksX2_reaches_11 : cX2_reaches.data.toList.drop 257 = dktX2_reaches_11 := dk_seg dksX2_reaches_10 22 rfl rfl
theorem dX2_reaches_0 : decode cX2_reaches 0 = .ok (.iconst 0, 1) := dk_3 (dk_at dksX2_reaches_0 0 rfl rfl)
theorem dX2_reaches_1 : decode cX2_reaches 1 = .ok (.istore_n 2, 1) := dk_61 (dk_at dksX2_reaches_0 1 rfl rfl)
theorem dX2_reaches_2 : decode cX2_reaches 2 = .ok (.iload_n 2, 1) := dk_28 (dk_at dksX2_reaches_0 2 rfl rfl)
theorem dX2_reaches_3 : decode cX2_reaches 3 = .ok (.sipush 200, 3) := dk_17 0 200 (dk_at dksX2_reaches_0 3 rfl rfl)
theorem dX2_reaches_6 : decode cX2_reaches 6 = .ok (.if_icmp .ge 16, 3) := dk_162 0 16 (dk_at dksX2_reaches_0 6 rfl rfl)
theorem dX2_reaches_9 : decode cX2_reaches 9 = .ok (.aload_n 0, 1) := dk_42 (dk_at dksX2_reaches_0 9 rfl rfl)
theorem dX2_reaches_10 : decode cX2_reaches 10 = .ok (.getfield 30, 3) := dk_180 0 30 (dk_at dksX2_reaches_0 10 rfl rfl)
theorem dX2_reaches_13 : decode cX2_reaches 13 = .ok (.iload_n 2, 1) := dk_28 (dk_at dksX2_reaches_0 13 rfl rfl)
theorem dX2_reaches_14 : decode cX2_reaches 14 = .ok (.iconst (-1), 1) := dk_2 (dk_at dksX2_reaches_0 14 rfl rfl)
theorem dX2_reaches_15 : decode cX2_reaches 15 = .ok (.iastore, 1) := dk_79 (dk_at dksX2_reaches_0 15 rfl rfl)
theorem dX2_reaches_16 : decode cX2_reaches 16 = .ok (.iinc 2 1, 3) := dk_132 2 1 (dk_at dksX2_reaches_0 16 rfl rfl)
theorem dX2_reaches_19 : decode cX2_reaches 19 = .ok (.goto (-17), 3) := dk_167 255 239 (dk_at dksX2_reaches_0 19 rfl rfl)
theorem dX2_reaches_22 : decode cX2_reaches 22 = .ok (.iconst 0, 1) := dk_3 (dk_at dksX2_reaches_0 22 rfl rfl)
theorem dX2_reaches_23 : decode cX2_reaches 23 = .ok (.istore_n 2, 1) := dk_61 (dk_at dksX2_reaches_0 23 rfl rfl)
theorem dX2_reaches_24 : decode cX2_reaches 24 = .ok (.iload_n 2, 1) := dk_28 (dk_at dksX2_reaches_1 0 rfl rfl)
theorem dX2_reaches_25 : decode cX2_reaches 25 = .ok (.bipush 6, 2) := dk_16 6 (dk_at dksX2_reaches_1 1 rfl rfl)
theorem dX2_reaches_27 : decode cX2_reaches 27 = .ok (.if_icmp .ge 24, 3) := dk_162 0 24 (dk_at dksX2_reaches_1 3 rfl rfl)
theorem dX2_reaches_30 : decode cX2_reaches 30 = .ok (.aload_n 0, 1) := dk_42 (dk_at dksX2_reaches_1 6 rfl rfl)
theorem dX2_reaches_31 : decode cX2_reaches 31 = .ok (.aload_n 0, 1) := dk_42 (dk_at dksX2_reaches_1 7 rfl rfl)
theorem dX2_reaches_32 : decode cX2_reaches 32 = .ok (.getfield 7, 3) := dk_180 0 7 (dk_at dksX2_reaches_1 8 rfl rfl)
theorem dX2_reaches_35 : decode cX2_reaches 35 = .ok (.sipush 1200, 3) := dk_17 4 176 (dk_at dksX2_reaches_1 11 rfl rfl)
theorem dX2_reaches_38 : decode cX2_reaches 38 = .ok (.iload_n 2, 1) := dk_28 (dk_at dksX2_reaches_1 14 rfl rfl)
theorem dX2_reaches_39 : decode cX2_reaches 39 = .ok (.iadd, 1) := dk_96 (dk_at dksX2_reaches_1 15 rfl rfl)
theorem dX2_reaches_40 : decode cX2_reaches 40 = .ok (.iaload, 1) := dk_46 (dk_at dksX2_reaches_1 16 rfl rfl)
theorem dX2_reaches_41 : decode cX2_reaches 41 = .ok (.iload_n 1, 1) := dk_27 (dk_at dksX2_reaches_1 17 rfl rfl)
theorem dX2_reaches_42 : decode cX2_reaches 42 = .ok (.invokevirtual 60, 3) := dk_182 0 60 (dk_at dksX2_reaches_1 18 rfl rfl)
theorem dX2_reaches_45 : decode cX2_reaches 45 = .ok (.iinc 2 1, 3) := dk_132 2 1 (dk_at dksX2_reaches_1 21 rfl rfl)
theorem dX2_reaches_48 : decode cX2_reaches 48 = .ok (.goto (-24), 3) := dk_167 255 232 (dk_at dksX2_reaches_2 0 rfl rfl)
theorem dX2_reaches_51 : decode cX2_reaches 51 = .ok (.iconst 0, 1) := dk_3 (dk_at dksX2_reaches_2 3 rfl rfl)
theorem dX2_reaches_52 : decode cX2_reaches 52 = .ok (.istore_n 2, 1) := dk_61 (dk_at dksX2_reaches_2 4 rfl rfl)
theorem dX2_reaches_53 : decode cX2_reaches 53 = .ok (.iload_n 2, 1) := dk_28 (dk_at dksX2_reaches_2 5 rfl rfl)
theorem dX2_reaches_54 : decode cX2_reaches 54 = .ok (.aload_n 0, 1) := dk_42 (dk_at dksX2_reaches_2 6 rfl rfl)
theorem dX2_reaches_55 : decode cX2_reaches 55 = .ok (.getfield 7, 3) := dk_180 0 7 (dk_at dksX2_reaches_2 7 rfl rfl)
theorem dX2_reaches_58 : decode cX2_reaches 58 = .ok (.sipush 1216, 3) := dk_17 4 192 (dk_at dksX2_reaches_2 10 rfl rfl)
theorem dX2_reaches_61 : decode cX2_reaches 61 = .ok (.iaload, 1) := dk_46 (dk_at dksX2_reaches_2 13 rfl rfl)
theorem dX2_reaches_62 : decode cX2_reaches 62 = .ok (.if_icmp .ge 44, 3) := dk_162 0 44 (dk_at dksX2_reaches_2 14 rfl rfl)
theorem dX2_reaches_65 : decode cX2_reaches 65 = .ok (.aload_n 0, 1) := dk_42 (dk_at dksX2_reaches_2 17 rfl rfl)
theorem dX2_reaches_66 : decode cX2_reaches 66 = .ok (.aload_n 0, 1) := dk_42 (dk_at dksX2_reaches_2 18 rfl rfl)
theorem dX2_reaches_67 : decode cX2_reaches 67 = .ok (.getfield 7, 3) := dk_180 0 7 (dk_at dksX2_reaches_2 19 rfl rfl)
theorem dX2_reaches_70 : decode cX2_reaches 70 = .ok (.iconst 0, 1) := dk_3 (dk_at dksX2_reaches_2 22 rfl rfl)
theorem dX2_reaches_71 : decode cX2_reaches 71 = .ok (.iload_n 2, 1) := dk_28 (dk_at dksX2_reaches_2 23 rfl rfl)
theorem dX2_reaches_72 : decode cX2_reaches 72 = .ok (.iadd, 1) := dk_96 (dk_at dksX2_reaches_3 0 rfl rfl)
theorem dX2_reaches_73 : decode cX2_reaches 73 = .ok (.iaload, 1) := dk_46 (dk_at dksX2_reaches_3 1 rfl rfl)
theorem dX2_reaches_74 : decode cX2_reaches 74 = .ok (.ifCond .le 21, 3) := dk_158 0 21 (dk_at dksX2_reaches_3 2 rfl rfl)
theorem dX2_reaches_77 : decode cX2_reaches 77 = .ok (.aload_n 0, 1) := dk_42 (dk_at dksX2_reaches_3 5 rfl rfl)
theorem dX2_reaches_78 : decode cX2_reaches 78 = .ok (.getfield 7, 3) := dk_180 0 7 (dk_at dksX2_reaches_3 6 rfl rfl)
theorem dX2_reaches_81 : decode cX2_reaches 81 = .ok (.sipush 400, 3) := dk_17 1 144 (dk_at dksX2_reaches_3 9 rfl rfl)
theorem dX2_reaches_84 : decode cX2_reaches 84 = .ok (.iload_n 2, 1) := dk_28 (dk_at dksX2_reaches_3 12 rfl rfl)
theorem dX2_reaches_85 : decode cX2_reaches 85 = .ok (.iadd, 1) := dk_96 (dk_at dksX2_reaches_3 13 rfl rfl)
theorem dX2_reaches_86 : decode cX2_reaches 86 = .ok (.iaload, 1) := dk_46 (dk_at dksX2_reaches_3 14 rfl rfl)
theorem dX2_reaches_87 : decode cX2_reaches 87 = .ok (.iconst 1, 1) := dk_4 (dk_at dksX2_reaches_3 15 rfl rfl)
theorem dX2_reaches_88 : decode cX2_reaches 88 = .ok (.if_icmp .ne 7, 3) := dk_160 0 7 (dk_at dksX2_reaches_3 16 rfl rfl)
theorem dX2_reaches_91 : decode cX2_reaches 91 = .ok (.iload_n 2, 1) := dk_28 (dk_at dksX2_reaches_3 19 rfl rfl)
theorem dX2_reaches_92 : decode cX2_reaches 92 = .ok (.goto 4, 3) := dk_167 0 4 (dk_at dksX2_reaches_3 20 rfl rfl)
theorem dX2_reaches_95 : decode cX2_reaches 95 = .ok (.iconst (-1), 1) := dk_2 (dk_at dksX2_reaches_3 23 rfl rfl)
theorem dX2_reaches_96 : decode cX2_reaches 96 = .ok (.iload_n 1, 1) := dk_27 (dk_at dksX2_reaches_4 0 rfl rfl)
theorem dX2_reaches_97 : decode cX2_reaches 97 = .ok (.invokevirtual 60, 3) := dk_182 0 60 (dk_at dksX2_reaches_4 1 rfl rfl)
theorem dX2_reaches_100 : decode cX2_reaches 100 = .ok (.iinc 2 1, 3) := dk_132 2 1 (dk_at dksX2_reaches_4 4 rfl rfl)
theorem dX2_reaches_103 : decode cX2_reaches 103 = .ok (.goto (-50), 3) := dk_167 255 206 (dk_at dksX2_reaches_4 7 rfl rfl)
theorem dX2_reaches_106 : decode cX2_reaches 106 = .ok (.iconst 1, 1) := dk_4 (dk_at dksX2_reaches_4 10 rfl rfl)
theorem dX2_reaches_107 : decode cX2_reaches 107 = .ok (.istore_n 2, 1) := dk_61 (dk_at dksX2_reaches_4 11 rfl rfl)
theorem dX2_reaches_108 : decode cX2_reaches 108 = .ok (.iconst 0, 1) := dk_3 (dk_at dksX2_reaches_4 12 rfl rfl)
theorem dX2_reaches_109 : decode cX2_reaches 109 = .ok (.istore_n 3, 1) := dk_62 (dk_at dksX2_reaches_4 13 rfl rfl)
theorem dX2_reaches_110 : decode cX2_reaches 110 = .ok (.iload_n 2, 1) := dk_28 (dk_at dksX2_reaches_4 14 rfl rfl)
theorem dX2_reaches_111 : decode cX2_reaches 111 = .ok (.ifCond .eq 158, 3) := dk_153 0 158 (dk_at dksX2_reaches_4 15 rfl rfl)
theorem dX2_reaches_114 : decode cX2_reaches 114 = .ok (.iconst 0, 1) := dk_3 (dk_at dksX2_reaches_4 18 rfl rfl)
theorem dX2_reaches_115 : decode cX2_reaches 115 = .ok (.istore_n 2, 1) := dk_61 (dk_at dksX2_reaches_4 19 rfl rfl)
theorem dX2_reaches_116 : decode cX2_reaches 116 = .ok (.iconst 0, 1) := dk_3 (dk_at dksX2_reaches_4 20 rfl rfl)
theorem dX2_reaches_117 : decode cX2_reaches 117 = .ok (.istore 4, 2) := dk_54 4 (dk_at dksX2_reaches_4 21 rfl rfl)
theorem dX2_reaches_119 : decode cX2_reaches 119 = .ok (.iload 4, 2) := dk_21 4 (dk_at dksX2_reaches_5 0 rfl rfl)
theorem dX2_reaches_121 : decode cX2_reaches 121 = .ok (.aload_n 0, 1) := dk_42 (dk_at dksX2_reaches_5 2 rfl rfl)
theorem dX2_reaches_122 : decode cX2_reaches 122 = .ok (.getfield 7, 3) := dk_180 0 7 (dk_at dksX2_reaches_5 3 rfl rfl)
theorem dX2_reaches_125 : decode cX2_reaches 125 = .ok (.sipush 1216, 3) := dk_17 4 192 (dk_at dksX2_reaches_5 6 rfl rfl)
theorem dX2_reaches_128 : decode cX2_reaches 128 = .ok (.iaload, 1) := dk_46 (dk_at dksX2_reaches_5 9 rfl rfl)
theorem dX2_reaches_129 : decode cX2_reaches 129 = .ok (.if_icmp .ge 134, 3) := dk_162 0 134 (dk_at dksX2_reaches_5 10 rfl rfl)
theorem dX2_reaches_132 : decode cX2_reaches 132 = .ok (.iconst 1, 1) := dk_4 (dk_at dksX2_reaches_5 13 rfl rfl)
theorem dX2_reaches_133 : decode cX2_reaches 133 = .ok (.istore 5, 2) := dk_54 5 (dk_at dksX2_reaches_5 14 rfl rfl)
theorem dX2_reaches_135 : decode cX2_reaches 135 = .ok (.iload 5, 2) := dk_21 5 (dk_at dksX2_reaches_5 16 rfl rfl)
theorem dX2_reaches_137 : decode cX2_reaches 137 = .ok (.aload_n 0, 1) := dk_42 (dk_at dksX2_reaches_5 18 rfl rfl)
theorem dX2_reaches_138 : decode cX2_reaches 138 = .ok (.getfield 7, 3) := dk_180 0 7 (dk_at dksX2_reaches_5 19 rfl rfl)
theorem dX2_reaches_141 : decode cX2_reaches 141 = .ok (.sipush 200, 3) := dk_17 0 200 (dk_at dksX2_reaches_6 0 rfl rfl)
theorem dX2_reaches_144 : decode cX2_reaches 144 = .ok (.iload 4, 2) := dk_21 4 (dk_at dksX2_reaches_6 3 rfl rfl)
theorem dX2_reaches_146 : decode cX2_reaches 146 = .ok (.iadd, 1) := dk_96 (dk_at dksX2_reaches_6 5 rfl rfl)
theorem dX2_reaches_147 : decode cX2_reaches 147 = .ok (.iaload, 1) := dk_46 (dk_at dksX2_reaches_6 6 rfl rfl)
theorem dX2_reaches_148 : decode cX2_reaches 148 = .ok (.if_icmp .gt 109, 3) := dk_163 0 109 (dk_at dksX2_reaches_6 7 rfl rfl)
theorem dX2_reaches_151 : decode cX2_reaches 151 = .ok (.aload_n 0, 1) := dk_42 (dk_at dksX2_reaches_6 10 rfl rfl)
theorem dX2_reaches_152 : decode cX2_reaches 152 = .ok (.getfield 7, 3) := dk_180 0 7 (dk_at dksX2_reaches_6 11 rfl rfl)
theorem dX2_reaches_155 : decode cX2_reaches 155 = .ok (.iconst 0, 1) := dk_3 (dk_at dksX2_reaches_6 14 rfl rfl)
theorem dX2_reaches_156 : decode cX2_reaches 156 = .ok (.iload 4, 2) := dk_21 4 (dk_at dksX2_reaches_6 15 rfl rfl)
theorem dX2_reaches_158 : decode cX2_reaches 158 = .ok (.iadd, 1) := dk_96 (dk_at dksX2_reaches_6 17 rfl rfl)
theorem dX2_reaches_159 : decode cX2_reaches 159 = .ok (.iaload, 1) := dk_46 (dk_at dksX2_reaches_6 18 rfl rfl)
theorem dX2_reaches_160 : decode cX2_reaches 160 = .ok (.ifCond .le 97, 3) := dk_158 0 97 (dk_at dksX2_reaches_6 19 rfl rfl)
theorem dX2_reaches_163 : decode cX2_reaches 163 = .ok (.aload_n 0, 1) := dk_42 (dk_at dksX2_reaches_6 22 rfl rfl)
theorem dX2_reaches_164 : decode cX2_reaches 164 = .ok (.getfield 30, 3) := dk_180 0 30 (dk_at dksX2_reaches_7 0 rfl rfl)
theorem dX2_reaches_167 : decode cX2_reaches 167 = .ok (.iload 4, 2) := dk_21 4 (dk_at dksX2_reaches_7 3 rfl rfl)
theorem dX2_reaches_169 : decode cX2_reaches 169 = .ok (.iaload, 1) := dk_46 (dk_at dksX2_reaches_7 5 rfl rfl)
theorem dX2_reaches_170 : decode cX2_reaches 170 = .ok (.iload_n 3, 1) := dk_29 (dk_at dksX2_reaches_7 6 rfl rfl)
theorem dX2_reaches_171 : decode cX2_reaches 171 = .ok (.if_icmp .ne 86, 3) := dk_160 0 86 (dk_at dksX2_reaches_7 7 rfl rfl)
theorem dX2_reaches_174 : decode cX2_reaches 174 = .ok (.aload_n 0, 1) := dk_42 (dk_at dksX2_reaches_7 10 rfl rfl)
theorem dX2_reaches_175 : decode cX2_reaches 175 = .ok (.getfield 7, 3) := dk_180 0 7 (dk_at dksX2_reaches_7 11 rfl rfl)
theorem dX2_reaches_178 : decode cX2_reaches 178 = .ok (.sipush 800, 3) := dk_17 3 32 (dk_at dksX2_reaches_7 14 rfl rfl)
theorem dX2_reaches_181 : decode cX2_reaches 181 = .ok (.iload 4, 2) := dk_21 4 (dk_at dksX2_reaches_7 17 rfl rfl)
theorem dX2_reaches_183 : decode cX2_reaches 183 = .ok (.iadd, 1) := dk_96 (dk_at dksX2_reaches_7 19 rfl rfl)
theorem dX2_reaches_184 : decode cX2_reaches 184 = .ok (.iload 5, 2) := dk_21 5 (dk_at dksX2_reaches_7 20 rfl rfl)
theorem dX2_reaches_186 : decode cX2_reaches 186 = .ok (.iadd, 1) := dk_96 (dk_at dksX2_reaches_7 22 rfl rfl)
theorem dX2_reaches_187 : decode cX2_reaches 187 = .ok (.iaload, 1) := dk_46 (dk_at dksX2_reaches_7 23 rfl rfl)
theorem dX2_reaches_188 : decode cX2_reaches 188 = .ok (.iconst (-1), 1) := dk_2 (dk_at dksX2_reaches_8 0 rfl rfl)
theorem dX2_reaches_189 : decode cX2_reaches 189 = .ok (.if_icmp .ne 7, 3) := dk_160 0 7 (dk_at dksX2_reaches_8 1 rfl rfl)
theorem dX2_reaches_192 : decode cX2_reaches 192 = .ok (.iconst (-1), 1) := dk_2 (dk_at dksX2_reaches_8 4 rfl rfl)
theorem dX2_reaches_193 : decode cX2_reaches 193 = .ok (.goto 21, 3) := dk_167 0 21 (dk_at dksX2_reaches_8 5 rfl rfl)
theorem dX2_reaches_196 : decode cX2_reaches 196 = .ok (.aload_n 0, 1) := dk_42 (dk_at dksX2_reaches_8 8 rfl rfl)
theorem dX2_reaches_197 : decode cX2_reaches 197 = .ok (.aload_n 0, 1) := dk_42 (dk_at dksX2_reaches_8 9 rfl rfl)
theorem dX2_reaches_198 : decode cX2_reaches 198 = .ok (.getfield 7, 3) := dk_180 0 7 (dk_at dksX2_reaches_8 10 rfl rfl)
theorem dX2_reaches_201 : decode cX2_reaches 201 = .ok (.sipush 800, 3) := dk_17 3 32 (dk_at dksX2_reaches_8 13 rfl rfl)
theorem dX2_reaches_204 : decode cX2_reaches 204 = .ok (.iload 4, 2) := dk_21 4 (dk_at dksX2_reaches_8 16 rfl rfl)
theorem dX2_reaches_206 : decode cX2_reaches 206 = .ok (.iadd, 1) := dk_96 (dk_at dksX2_reaches_8 18 rfl rfl)
theorem dX2_reaches_207 : decode cX2_reaches 207 = .ok (.iload 5, 2) := dk_21 5 (dk_at dksX2_reaches_8 19 rfl rfl)
theorem dX2_reaches_209 : decode cX2_reaches 209 = .ok (.iadd, 1) := dk_96 (dk_at dksX2_reaches_8 21 rfl rfl)
theorem dX2_reaches_210 : decode cX2_reaches 210 = .ok (.iaload, 1) := dk_46 (dk_at dksX2_reaches_8 22 rfl rfl)
theorem dX2_reaches_211 : decode cX2_reaches 211 = .ok (.invokevirtual 51, 3) := dk_182 0 51 (dk_at dksX2_reaches_9 0 rfl rfl)
theorem dX2_reaches_214 : decode cX2_reaches 214 = .ok (.istore 6, 2) := dk_54 6 (dk_at dksX2_reaches_9 3 rfl rfl)
theorem dX2_reaches_216 : decode cX2_reaches 216 = .ok (.iload 6, 2) := dk_21 6 (dk_at dksX2_reaches_9 5 rfl rfl)
theorem dX2_reaches_218 : decode cX2_reaches 218 = .ok (.iconst (-1), 1) := dk_2 (dk_at dksX2_reaches_9 7 rfl rfl)
theorem dX2_reaches_219 : decode cX2_reaches 219 = .ok (.if_icmp .eq 32, 3) := dk_159 0 32 (dk_at dksX2_reaches_9 8 rfl rfl)
theorem dX2_reaches_222 : decode cX2_reaches 222 = .ok (.iload 6, 2) := dk_21 6 (dk_at dksX2_reaches_9 11 rfl rfl)
theorem dX2_reaches_224 : decode cX2_reaches 224 = .ok (.iload_n 1, 1) := dk_27 (dk_at dksX2_reaches_9 13 rfl rfl)
theorem dX2_reaches_225 : decode cX2_reaches 225 = .ok (.if_icmp .eq 26, 3) := dk_159 0 26 (dk_at dksX2_reaches_9 14 rfl rfl)
theorem dX2_reaches_228 : decode cX2_reaches 228 = .ok (.aload_n 0, 1) := dk_42 (dk_at dksX2_reaches_9 17 rfl rfl)
theorem dX2_reaches_229 : decode cX2_reaches 229 = .ok (.getfield 30, 3) := dk_180 0 30 (dk_at dksX2_reaches_9 18 rfl rfl)
theorem dX2_reaches_232 : decode cX2_reaches 232 = .ok (.iload 6, 2) := dk_21 6 (dk_at dksX2_reaches_9 21 rfl rfl)
theorem dX2_reaches_234 : decode cX2_reaches 234 = .ok (.iaload, 1) := dk_46 (dk_at dksX2_reaches_9 23 rfl rfl)
theorem dX2_reaches_235 : decode cX2_reaches 235 = .ok (.iconst (-1), 1) := dk_2 (dk_at dksX2_reaches_10 0 rfl rfl)
theorem dX2_reaches_236 : decode cX2_reaches 236 = .ok (.if_icmp .ne 15, 3) := dk_160 0 15 (dk_at dksX2_reaches_10 1 rfl rfl)
theorem dX2_reaches_239 : decode cX2_reaches 239 = .ok (.aload_n 0, 1) := dk_42 (dk_at dksX2_reaches_10 4 rfl rfl)
theorem dX2_reaches_240 : decode cX2_reaches 240 = .ok (.getfield 30, 3) := dk_180 0 30 (dk_at dksX2_reaches_10 5 rfl rfl)
theorem dX2_reaches_243 : decode cX2_reaches 243 = .ok (.iload 6, 2) := dk_21 6 (dk_at dksX2_reaches_10 8 rfl rfl)
theorem dX2_reaches_245 : decode cX2_reaches 245 = .ok (.iload_n 3, 1) := dk_29 (dk_at dksX2_reaches_10 10 rfl rfl)
theorem dX2_reaches_246 : decode cX2_reaches 246 = .ok (.iconst 1, 1) := dk_4 (dk_at dksX2_reaches_10 11 rfl rfl)
theorem dX2_reaches_247 : decode cX2_reaches 247 = .ok (.iadd, 1) := dk_96 (dk_at dksX2_reaches_10 12 rfl rfl)
theorem dX2_reaches_248 : decode cX2_reaches 248 = .ok (.iastore, 1) := dk_79 (dk_at dksX2_reaches_10 13 rfl rfl)
theorem dX2_reaches_249 : decode cX2_reaches 249 = .ok (.iconst 1, 1) := dk_4 (dk_at dksX2_reaches_10 14 rfl rfl)
theorem dX2_reaches_250 : decode cX2_reaches 250 = .ok (.istore_n 2, 1) := dk_61 (dk_at dksX2_reaches_10 15 rfl rfl)
theorem dX2_reaches_251 : decode cX2_reaches 251 = .ok (.iinc 5 1, 3) := dk_132 5 1 (dk_at dksX2_reaches_10 16 rfl rfl)
theorem dX2_reaches_254 : decode cX2_reaches 254 = .ok (.goto (-119), 3) := dk_167 255 137 (dk_at dksX2_reaches_10 19 rfl rfl)
theorem dX2_reaches_257 : decode cX2_reaches 257 = .ok (.iinc 4 1, 3) := dk_132 4 1 (dk_at dksX2_reaches_11 0 rfl rfl)
theorem dX2_reaches_260 : decode cX2_reaches 260 = .ok (.goto (-141), 3) := dk_167 255 115 (dk_at dksX2_reaches_11 3 rfl rfl)
theorem dX2_reaches_263 : decode cX2_reaches 263 = .ok (.iinc 3 1, 3) := dk_132 3 1 (dk_at dksX2_reaches_11 6 rfl rfl)
theorem dX2_reaches_266 : decode cX2_reaches 266 = .ok (.goto (-156), 3) := dk_167 255 100 (dk_at dksX2_reaches_11 9 rfl rfl)
theorem dX2_reaches_269 : decode cX2_reaches 269 = .ok (.return_, 1) := dk_177 (dk_at dksX2_reaches_11 12 rfl rfl)
abbrev cX2_starts : ByteArray := prog_26_method_11_code
def yX2_starts : MethodName := ⟨RX2, "starts", "(II)V"⟩
def dkwX2_starts_1 : List UInt8 := [159, 0, 10, 42, 180, 0, 30, 29, 3, 79, 177]
abbrev dktX2_starts_1 : List UInt8 := dkwX2_starts_1 ++ []
def dkwX2_starts_0 : List UInt8 := [27, 2, 160, 0, 7, 2, 167, 0, 8, 42, 27, 182, 0, 51, 62, 29, 2, 159, 0, 15, 29, 28]
abbrev dktX2_starts_0 : List UInt8 := dkwX2_starts_0 ++ dktX2_starts_1
theorem dksX2_starts_0 : cX2_starts.data.toList.drop 0 = dktX2_starts_0 := by decide +kernel
theorem dksX2_starts_1 : cX2_starts.data.toList.drop 22 = dktX2_starts_1 := dk_seg dksX2_starts_0 22 rfl rfl
theorem dX2_starts_0 : decode cX2_starts 0 = .ok (.iload_n 1, 1) := dk_27 (dk_at dksX2_starts_0 0 rfl rfl)
theorem dX2_starts_1 : decode cX2_starts 1 = .ok (.iconst (-1), 1) := dk_2 (dk_at dksX2_starts_0 1 rfl rfl)
theorem dX2_starts_2 : decode cX2_starts 2 = .ok (.if_icmp .ne 7, 3) := dk_160 0 7 (dk_at dksX2_starts_0 2 rfl rfl)
theorem dX2_starts_5 : decode cX2_starts 5 = .ok (.iconst (-1), 1) := dk_2 (dk_at dksX2_starts_0 5 rfl rfl)
theorem dX2_starts_6 : decode cX2_starts 6 = .ok (.goto 8, 3) := dk_167 0 8 (dk_at dksX2_starts_0 6 rfl rfl)
theorem dX2_starts_9 : decode cX2_starts 9 = .ok (.aload_n 0, 1) := dk_42 (dk_at dksX2_starts_0 9 rfl rfl)
theorem dX2_starts_10 : decode cX2_starts 10 = .ok (.iload_n 1, 1) := dk_27 (dk_at dksX2_starts_0 10 rfl rfl)
theorem dX2_starts_11 : decode cX2_starts 11 = .ok (.invokevirtual 51, 3) := dk_182 0 51 (dk_at dksX2_starts_0 11 rfl rfl)
theorem dX2_starts_14 : decode cX2_starts 14 = .ok (.istore_n 3, 1) := dk_62 (dk_at dksX2_starts_0 14 rfl rfl)
theorem dX2_starts_15 : decode cX2_starts 15 = .ok (.iload_n 3, 1) := dk_29 (dk_at dksX2_starts_0 15 rfl rfl)
theorem dX2_starts_16 : decode cX2_starts 16 = .ok (.iconst (-1), 1) := dk_2 (dk_at dksX2_starts_0 16 rfl rfl)
theorem dX2_starts_17 : decode cX2_starts 17 = .ok (.if_icmp .eq 15, 3) := dk_159 0 15 (dk_at dksX2_starts_0 17 rfl rfl)
theorem dX2_starts_20 : decode cX2_starts 20 = .ok (.iload_n 3, 1) := dk_29 (dk_at dksX2_starts_0 20 rfl rfl)
theorem dX2_starts_21 : decode cX2_starts 21 = .ok (.iload_n 2, 1) := dk_28 (dk_at dksX2_starts_0 21 rfl rfl)
theorem dX2_starts_22 : decode cX2_starts 22 = .ok (.if_icmp .eq 10, 3) := dk_159 0 10 (dk_at dksX2_starts_1 0 rfl rfl)
theorem dX2_starts_25 : decode cX2_starts 25 = .ok (.aload_n 0, 1) := dk_42 (dk_at dksX2_starts_1 3 rfl rfl)
theorem dX2_starts_26 : decode cX2_starts 26 = .ok (.getfield 30, 3) := dk_180 0 30 (dk_at dksX2_starts_1 4 rfl rfl)
theorem dX2_starts_29 : decode cX2_starts 29 = .ok (.iload_n 3, 1) := dk_29 (dk_at dksX2_starts_1 7 rfl rfl)
theorem dX2_starts_30 : decode cX2_starts 30 = .ok (.iconst 0, 1) := dk_3 (dk_at dksX2_starts_1 8 rfl rfl)
theorem dX2_starts_31 : decode cX2_starts 31 = .ok (.iastore, 1) := dk_79 (dk_at dksX2_starts_1 9 rfl rfl)
theorem dX2_starts_32 : decode cX2_starts 32 = .ok (.return_, 1) := dk_177 (dk_at dksX2_starts_1 10 rfl rfl)
abbrev cX2_next : ByteArray := prog_26_method_16_code
def yX2_next : MethodName := ⟨RX2, "next", "(I)I"⟩
def dkwX2_next_1 : List UInt8 := [167, 0, 10, 42, 28, 4, 96, 182, 0, 73, 172]
abbrev dktX2_next_1 : List UInt8 := dkwX2_next_1 ++ []
def dkwX2_next_0 : List UInt8 := [27, 2, 160, 0, 9, 42, 3, 182, 0, 73, 172, 42, 27, 182, 0, 51, 61, 28, 2, 160, 0, 8, 18, 50]
abbrev dktX2_next_0 : List UInt8 := dkwX2_next_0 ++ dktX2_next_1
theorem dksX2_next_0 : cX2_next.data.toList.drop 0 = dktX2_next_0 := by decide +kernel
theorem dksX2_next_1 : cX2_next.data.toList.drop 24 = dktX2_next_1 := dk_seg dksX2_next_0 24 rfl rfl
theorem dX2_next_0 : decode cX2_next 0 = .ok (.iload_n 1, 1) := dk_27 (dk_at dksX2_next_0 0 rfl rfl)
theorem dX2_next_1 : decode cX2_next 1 = .ok (.iconst (-1), 1) := dk_2 (dk_at dksX2_next_0 1 rfl rfl)
theorem dX2_next_2 : decode cX2_next 2 = .ok (.if_icmp .ne 9, 3) := dk_160 0 9 (dk_at dksX2_next_0 2 rfl rfl)
theorem dX2_next_5 : decode cX2_next 5 = .ok (.aload_n 0, 1) := dk_42 (dk_at dksX2_next_0 5 rfl rfl)
theorem dX2_next_6 : decode cX2_next 6 = .ok (.iconst 0, 1) := dk_3 (dk_at dksX2_next_0 6 rfl rfl)
theorem dX2_next_7 : decode cX2_next 7 = .ok (.invokevirtual 73, 3) := dk_182 0 73 (dk_at dksX2_next_0 7 rfl rfl)
theorem dX2_next_10 : decode cX2_next 10 = .ok (.ireturn, 1) := dk_172 (dk_at dksX2_next_0 10 rfl rfl)
theorem dX2_next_11 : decode cX2_next 11 = .ok (.aload_n 0, 1) := dk_42 (dk_at dksX2_next_0 11 rfl rfl)
theorem dX2_next_12 : decode cX2_next 12 = .ok (.iload_n 1, 1) := dk_27 (dk_at dksX2_next_0 12 rfl rfl)
theorem dX2_next_13 : decode cX2_next 13 = .ok (.invokevirtual 51, 3) := dk_182 0 51 (dk_at dksX2_next_0 13 rfl rfl)
theorem dX2_next_16 : decode cX2_next 16 = .ok (.istore_n 2, 1) := dk_61 (dk_at dksX2_next_0 16 rfl rfl)
theorem dX2_next_17 : decode cX2_next 17 = .ok (.iload_n 2, 1) := dk_28 (dk_at dksX2_next_0 17 rfl rfl)
theorem dX2_next_18 : decode cX2_next 18 = .ok (.iconst (-1), 1) := dk_2 (dk_at dksX2_next_0 18 rfl rfl)
theorem dX2_next_19 : decode cX2_next 19 = .ok (.if_icmp .ne 8, 3) := dk_160 0 8 (dk_at dksX2_next_0 19 rfl rfl)
theorem dX2_next_22 : decode cX2_next 22 = .ok (.ldc 50, 2) := dk_18 50 (dk_at dksX2_next_0 22 rfl rfl)
theorem dX2_next_24 : decode cX2_next 24 = .ok (.goto 10, 3) := dk_167 0 10 (dk_at dksX2_next_1 0 rfl rfl)
theorem dX2_next_27 : decode cX2_next 27 = .ok (.aload_n 0, 1) := dk_42 (dk_at dksX2_next_1 3 rfl rfl)
theorem dX2_next_28 : decode cX2_next 28 = .ok (.iload_n 2, 1) := dk_28 (dk_at dksX2_next_1 4 rfl rfl)
theorem dX2_next_29 : decode cX2_next 29 = .ok (.iconst 1, 1) := dk_4 (dk_at dksX2_next_1 5 rfl rfl)
theorem dX2_next_30 : decode cX2_next 30 = .ok (.iadd, 1) := dk_96 (dk_at dksX2_next_1 6 rfl rfl)
theorem dX2_next_31 : decode cX2_next 31 = .ok (.invokevirtual 73, 3) := dk_182 0 73 (dk_at dksX2_next_1 7 rfl rfl)
theorem dX2_next_34 : decode cX2_next 34 = .ok (.ireturn, 1) := dk_172 (dk_at dksX2_next_1 10 rfl rfl)
abbrev cX2_objectFrom : ByteArray := prog_26_method_15_code
def yX2_objectFrom : MethodName := ⟨RX2, "objectFrom", "(I)I"⟩
def dkwX2_objectFrom_1 : List UInt8 := [158, 0, 5, 28, 172, 132, 2, 1, 167, 255, 228, 2, 172]
abbrev dktX2_objectFrom_1 : List UInt8 := dkwX2_objectFrom_1 ++ []
def dkwX2_objectFrom_0 : List UInt8 := [27, 61, 28, 42, 180, 0, 7, 17, 4, 192, 46, 162, 0, 22, 42, 180, 0, 7, 3, 28, 96, 46]
abbrev dktX2_objectFrom_0 : List UInt8 := dkwX2_objectFrom_0 ++ dktX2_objectFrom_1
theorem dksX2_objectFrom_0 : cX2_objectFrom.data.toList.drop 0 = dktX2_objectFrom_0 := by decide +kernel
theorem dksX2_objectFrom_1 : cX2_objectFrom.data.toList.drop 22 = dktX2_objectFrom_1 := dk_seg dksX2_objectFrom_0 22 rfl rfl
theorem dX2_objectFrom_0 : decode cX2_objectFrom 0 = .ok (.iload_n 1, 1) := dk_27 (dk_at dksX2_objectFrom_0 0 rfl rfl)
theorem dX2_objectFrom_1 : decode cX2_objectFrom 1 = .ok (.istore_n 2, 1) := dk_61 (dk_at dksX2_objectFrom_0 1 rfl rfl)
theorem dX2_objectFrom_2 : decode cX2_objectFrom 2 = .ok (.iload_n 2, 1) := dk_28 (dk_at dksX2_objectFrom_0 2 rfl rfl)
theorem dX2_objectFrom_3 : decode cX2_objectFrom 3 = .ok (.aload_n 0, 1) := dk_42 (dk_at dksX2_objectFrom_0 3 rfl rfl)
theorem dX2_objectFrom_4 : decode cX2_objectFrom 4 = .ok (.getfield 7, 3) := dk_180 0 7 (dk_at dksX2_objectFrom_0 4 rfl rfl)
theorem dX2_objectFrom_7 : decode cX2_objectFrom 7 = .ok (.sipush 1216, 3) := dk_17 4 192 (dk_at dksX2_objectFrom_0 7 rfl rfl)
theorem dX2_objectFrom_10 : decode cX2_objectFrom 10 = .ok (.iaload, 1) := dk_46 (dk_at dksX2_objectFrom_0 10 rfl rfl)
theorem dX2_objectFrom_11 : decode cX2_objectFrom 11 = .ok (.if_icmp .ge 22, 3) := dk_162 0 22 (dk_at dksX2_objectFrom_0 11 rfl rfl)
theorem dX2_objectFrom_14 : decode cX2_objectFrom 14 = .ok (.aload_n 0, 1) := dk_42 (dk_at dksX2_objectFrom_0 14 rfl rfl)
theorem dX2_objectFrom_15 : decode cX2_objectFrom 15 = .ok (.getfield 7, 3) := dk_180 0 7 (dk_at dksX2_objectFrom_0 15 rfl rfl)
theorem dX2_objectFrom_18 : decode cX2_objectFrom 18 = .ok (.iconst 0, 1) := dk_3 (dk_at dksX2_objectFrom_0 18 rfl rfl)
theorem dX2_objectFrom_19 : decode cX2_objectFrom 19 = .ok (.iload_n 2, 1) := dk_28 (dk_at dksX2_objectFrom_0 19 rfl rfl)
theorem dX2_objectFrom_20 : decode cX2_objectFrom 20 = .ok (.iadd, 1) := dk_96 (dk_at dksX2_objectFrom_0 20 rfl rfl)
theorem dX2_objectFrom_21 : decode cX2_objectFrom 21 = .ok (.iaload, 1) := dk_46 (dk_at dksX2_objectFrom_0 21 rfl rfl)
theorem dX2_objectFrom_22 : decode cX2_objectFrom 22 = .ok (.ifCond .le 5, 3) := dk_158 0 5 (dk_at dksX2_objectFrom_1 0 rfl rfl)
theorem dX2_objectFrom_25 : decode cX2_objectFrom 25 = .ok (.iload_n 2, 1) := dk_28 (dk_at dksX2_objectFrom_1 3 rfl rfl)
theorem dX2_objectFrom_26 : decode cX2_objectFrom 26 = .ok (.ireturn, 1) := dk_172 (dk_at dksX2_objectFrom_1 4 rfl rfl)
theorem dX2_objectFrom_27 : decode cX2_objectFrom 27 = .ok (.iinc 2 1, 3) := dk_132 2 1 (dk_at dksX2_objectFrom_1 5 rfl rfl)
theorem dX2_objectFrom_30 : decode cX2_objectFrom 30 = .ok (.goto (-28), 3) := dk_167 255 228 (dk_at dksX2_objectFrom_1 8 rfl rfl)
theorem dX2_objectFrom_33 : decode cX2_objectFrom 33 = .ok (.iconst (-1), 1) := dk_2 (dk_at dksX2_objectFrom_1 11 rfl rfl)
theorem dX2_objectFrom_34 : decode cX2_objectFrom 34 = .ok (.ireturn, 1) := dk_172 (dk_at dksX2_objectFrom_1 12 rfl rfl)
abbrev cX2_setField : ByteArray := prog_26_method_17_code
def yX2_setField : MethodName := ⟨RX2, "setField", "(III)I"⟩
def dkwX2_setField_3 : List UInt8 := [21, 4, 96, 4, 96, 28, 96, 29, 79, 21, 5, 172]
abbrev dktX2_setField_3 : List UInt8 := dkwX2_setField_3 ++ []
def dkwX2_setField_2 : List UInt8 := [180, 0, 7, 17, 3, 32, 21, 4, 96, 4, 96, 28, 96, 46, 54, 5, 42, 180, 0, 7, 17, 3, 32]
abbrev dktX2_setField_2 : List UInt8 := dkwX2_setField_2 ++ dktX2_setField_3
def dkwX2_setField_1 : List UInt8 := [96, 46, 4, 100, 184, 0, 46, 153, 0, 11, 42, 29, 182, 0, 76, 154, 0, 6, 18, 50, 172, 42]
abbrev dktX2_setField_1 : List UInt8 := dkwX2_setField_1 ++ dktX2_setField_2
def dkwX2_setField_0 : List UInt8 := [42, 27, 182, 0, 51, 54, 4, 21, 4, 2, 159, 0, 32, 28, 3, 42, 180, 0, 7, 17, 0, 200, 21, 4]
abbrev dktX2_setField_0 : List UInt8 := dkwX2_setField_0 ++ dktX2_setField_1
theorem dksX2_setField_0 : cX2_setField.data.toList.drop 0 = dktX2_setField_0 := by decide +kernel
theorem dksX2_setField_1 : cX2_setField.data.toList.drop 24 = dktX2_setField_1 := dk_seg dksX2_setField_0 24 rfl rfl
theorem dksX2_setField_2 : cX2_setField.data.toList.drop 46 = dktX2_setField_2 := dk_seg dksX2_setField_1 22 rfl rfl
theorem dksX2_setField_3 : cX2_setField.data.toList.drop 69 = dktX2_setField_3 := dk_seg dksX2_setField_2 23 rfl rfl
theorem dX2_setField_0 : decode cX2_setField 0 = .ok (.aload_n 0, 1) := dk_42 (dk_at dksX2_setField_0 0 rfl rfl)
theorem dX2_setField_1 : decode cX2_setField 1 = .ok (.iload_n 1, 1) := dk_27 (dk_at dksX2_setField_0 1 rfl rfl)
theorem dX2_setField_2 : decode cX2_setField 2 = .ok (.invokevirtual 51, 3) := dk_182 0 51 (dk_at dksX2_setField_0 2 rfl rfl)
theorem dX2_setField_5 : decode cX2_setField 5 = .ok (.istore 4, 2) := dk_54 4 (dk_at dksX2_setField_0 5 rfl rfl)
theorem dX2_setField_7 : decode cX2_setField 7 = .ok (.iload 4, 2) := dk_21 4 (dk_at dksX2_setField_0 7 rfl rfl)
theorem dX2_setField_9 : decode cX2_setField 9 = .ok (.iconst (-1), 1) := dk_2 (dk_at dksX2_setField_0 9 rfl rfl)
theorem dX2_setField_10 : decode cX2_setField 10 = .ok (.if_icmp .eq 32, 3) := dk_159 0 32 (dk_at dksX2_setField_0 10 rfl rfl)
theorem dX2_setField_13 : decode cX2_setField 13 = .ok (.iload_n 2, 1) := dk_28 (dk_at dksX2_setField_0 13 rfl rfl)
theorem dX2_setField_14 : decode cX2_setField 14 = .ok (.iconst 0, 1) := dk_3 (dk_at dksX2_setField_0 14 rfl rfl)
theorem dX2_setField_15 : decode cX2_setField 15 = .ok (.aload_n 0, 1) := dk_42 (dk_at dksX2_setField_0 15 rfl rfl)
theorem dX2_setField_16 : decode cX2_setField 16 = .ok (.getfield 7, 3) := dk_180 0 7 (dk_at dksX2_setField_0 16 rfl rfl)
theorem dX2_setField_19 : decode cX2_setField 19 = .ok (.sipush 200, 3) := dk_17 0 200 (dk_at dksX2_setField_0 19 rfl rfl)
theorem dX2_setField_22 : decode cX2_setField 22 = .ok (.iload 4, 2) := dk_21 4 (dk_at dksX2_setField_0 22 rfl rfl)
theorem dX2_setField_24 : decode cX2_setField 24 = .ok (.iadd, 1) := dk_96 (dk_at dksX2_setField_1 0 rfl rfl)
theorem dX2_setField_25 : decode cX2_setField 25 = .ok (.iaload, 1) := dk_46 (dk_at dksX2_setField_1 1 rfl rfl)
theorem dX2_setField_26 : decode cX2_setField 26 = .ok (.iconst 1, 1) := dk_4 (dk_at dksX2_setField_1 2 rfl rfl)
theorem dX2_setField_27 : decode cX2_setField 27 = .ok (.isub, 1) := dk_100 (dk_at dksX2_setField_1 3 rfl rfl)
theorem dX2_setField_28 : decode cX2_setField 28 = .ok (.invokestatic 46, 3) := dk_184 0 46 (dk_at dksX2_setField_1 4 rfl rfl)
theorem dX2_setField_31 : decode cX2_setField 31 = .ok (.ifCond .eq 11, 3) := dk_153 0 11 (dk_at dksX2_setField_1 7 rfl rfl)
theorem dX2_setField_34 : decode cX2_setField 34 = .ok (.aload_n 0, 1) := dk_42 (dk_at dksX2_setField_1 10 rfl rfl)
theorem dX2_setField_35 : decode cX2_setField 35 = .ok (.iload_n 3, 1) := dk_29 (dk_at dksX2_setField_1 11 rfl rfl)
theorem dX2_setField_36 : decode cX2_setField 36 = .ok (.invokevirtual 76, 3) := dk_182 0 76 (dk_at dksX2_setField_1 12 rfl rfl)
theorem dX2_setField_39 : decode cX2_setField 39 = .ok (.ifCond .ne 6, 3) := dk_154 0 6 (dk_at dksX2_setField_1 15 rfl rfl)
theorem dX2_setField_42 : decode cX2_setField 42 = .ok (.ldc 50, 2) := dk_18 50 (dk_at dksX2_setField_1 18 rfl rfl)
theorem dX2_setField_44 : decode cX2_setField 44 = .ok (.ireturn, 1) := dk_172 (dk_at dksX2_setField_1 20 rfl rfl)
theorem dX2_setField_45 : decode cX2_setField 45 = .ok (.aload_n 0, 1) := dk_42 (dk_at dksX2_setField_1 21 rfl rfl)
theorem dX2_setField_46 : decode cX2_setField 46 = .ok (.getfield 7, 3) := dk_180 0 7 (dk_at dksX2_setField_2 0 rfl rfl)
theorem dX2_setField_49 : decode cX2_setField 49 = .ok (.sipush 800, 3) := dk_17 3 32 (dk_at dksX2_setField_2 3 rfl rfl)
theorem dX2_setField_52 : decode cX2_setField 52 = .ok (.iload 4, 2) := dk_21 4 (dk_at dksX2_setField_2 6 rfl rfl)
theorem dX2_setField_54 : decode cX2_setField 54 = .ok (.iadd, 1) := dk_96 (dk_at dksX2_setField_2 8 rfl rfl)
theorem dX2_setField_55 : decode cX2_setField 55 = .ok (.iconst 1, 1) := dk_4 (dk_at dksX2_setField_2 9 rfl rfl)
theorem dX2_setField_56 : decode cX2_setField 56 = .ok (.iadd, 1) := dk_96 (dk_at dksX2_setField_2 10 rfl rfl)
theorem dX2_setField_57 : decode cX2_setField 57 = .ok (.iload_n 2, 1) := dk_28 (dk_at dksX2_setField_2 11 rfl rfl)
theorem dX2_setField_58 : decode cX2_setField 58 = .ok (.iadd, 1) := dk_96 (dk_at dksX2_setField_2 12 rfl rfl)
theorem dX2_setField_59 : decode cX2_setField 59 = .ok (.iaload, 1) := dk_46 (dk_at dksX2_setField_2 13 rfl rfl)
theorem dX2_setField_60 : decode cX2_setField 60 = .ok (.istore 5, 2) := dk_54 5 (dk_at dksX2_setField_2 14 rfl rfl)
theorem dX2_setField_62 : decode cX2_setField 62 = .ok (.aload_n 0, 1) := dk_42 (dk_at dksX2_setField_2 16 rfl rfl)
theorem dX2_setField_63 : decode cX2_setField 63 = .ok (.getfield 7, 3) := dk_180 0 7 (dk_at dksX2_setField_2 17 rfl rfl)
theorem dX2_setField_66 : decode cX2_setField 66 = .ok (.sipush 800, 3) := dk_17 3 32 (dk_at dksX2_setField_2 20 rfl rfl)
theorem dX2_setField_69 : decode cX2_setField 69 = .ok (.iload 4, 2) := dk_21 4 (dk_at dksX2_setField_3 0 rfl rfl)
theorem dX2_setField_71 : decode cX2_setField 71 = .ok (.iadd, 1) := dk_96 (dk_at dksX2_setField_3 2 rfl rfl)
theorem dX2_setField_72 : decode cX2_setField 72 = .ok (.iconst 1, 1) := dk_4 (dk_at dksX2_setField_3 3 rfl rfl)
theorem dX2_setField_73 : decode cX2_setField 73 = .ok (.iadd, 1) := dk_96 (dk_at dksX2_setField_3 4 rfl rfl)
theorem dX2_setField_74 : decode cX2_setField 74 = .ok (.iload_n 2, 1) := dk_28 (dk_at dksX2_setField_3 5 rfl rfl)
theorem dX2_setField_75 : decode cX2_setField 75 = .ok (.iadd, 1) := dk_96 (dk_at dksX2_setField_3 6 rfl rfl)
theorem dX2_setField_76 : decode cX2_setField 76 = .ok (.iload_n 3, 1) := dk_29 (dk_at dksX2_setField_3 7 rfl rfl)
theorem dX2_setField_77 : decode cX2_setField 77 = .ok (.iastore, 1) := dk_79 (dk_at dksX2_setField_3 8 rfl rfl)
theorem dX2_setField_78 : decode cX2_setField 78 = .ok (.iload 5, 2) := dk_21 5 (dk_at dksX2_setField_3 9 rfl rfl)
theorem dX2_setField_80 : decode cX2_setField 80 = .ok (.ireturn, 1) := dk_172 (dk_at dksX2_setField_3 11 rfl rfl)
abbrev cX2_isReference : ByteArray := prog_26_method_6_code
def yX2_isReference : MethodName := ⟨RX2, "isReference", "(I)Z"⟩
def dkwX2_isReference_0 : List UInt8 := [27, 2, 159, 0, 12, 42, 27, 182, 0, 51, 2, 159, 0, 7, 4, 167, 0, 4, 3, 172]
abbrev dktX2_isReference_0 : List UInt8 := dkwX2_isReference_0 ++ []
theorem dksX2_isReference_0 : cX2_isReference.data.toList.drop 0 = dktX2_isReference_0 := by decide +kernel
theorem dX2_isReference_0 : decode cX2_isReference 0 = .ok (.iload_n 1, 1) := dk_27 (dk_at dksX2_isReference_0 0 rfl rfl)
theorem dX2_isReference_1 : decode cX2_isReference 1 = .ok (.iconst (-1), 1) := dk_2 (dk_at dksX2_isReference_0 1 rfl rfl)
theorem dX2_isReference_2 : decode cX2_isReference 2 = .ok (.if_icmp .eq 12, 3) := dk_159 0 12 (dk_at dksX2_isReference_0 2 rfl rfl)
theorem dX2_isReference_5 : decode cX2_isReference 5 = .ok (.aload_n 0, 1) := dk_42 (dk_at dksX2_isReference_0 5 rfl rfl)
theorem dX2_isReference_6 : decode cX2_isReference 6 = .ok (.iload_n 1, 1) := dk_27 (dk_at dksX2_isReference_0 6 rfl rfl)
theorem dX2_isReference_7 : decode cX2_isReference 7 = .ok (.invokevirtual 51, 3) := dk_182 0 51 (dk_at dksX2_isReference_0 7 rfl rfl)
theorem dX2_isReference_10 : decode cX2_isReference 10 = .ok (.iconst (-1), 1) := dk_2 (dk_at dksX2_isReference_0 10 rfl rfl)
theorem dX2_isReference_11 : decode cX2_isReference 11 = .ok (.if_icmp .eq 7, 3) := dk_159 0 7 (dk_at dksX2_isReference_0 11 rfl rfl)
theorem dX2_isReference_14 : decode cX2_isReference 14 = .ok (.iconst 1, 1) := dk_4 (dk_at dksX2_isReference_0 14 rfl rfl)
theorem dX2_isReference_15 : decode cX2_isReference 15 = .ok (.goto 4, 3) := dk_167 0 4 (dk_at dksX2_isReference_0 15 rfl rfl)
theorem dX2_isReference_18 : decode cX2_isReference 18 = .ok (.iconst 0, 1) := dk_3 (dk_at dksX2_isReference_0 18 rfl rfl)
theorem dX2_isReference_19 : decode cX2_isReference 19 = .ok (.ireturn, 1) := dk_172 (dk_at dksX2_isReference_0 19 rfl rfl)
abbrev cX2_field : ByteArray := prog_26_method_18_code
def yX2_field : MethodName := ⟨RX2, "field", "(II)I"⟩
def dkwX2_field_2 : List UInt8 := [96, 46, 172]
abbrev dktX2_field_2 : List UInt8 := dkwX2_field_2 ++ []
def dkwX2_field_1 : List UInt8 := [100, 184, 0, 46, 154, 0, 8, 18, 50, 167, 0, 17, 42, 180, 0, 7, 17, 3, 32, 29, 96, 4, 96, 28]
abbrev dktX2_field_1 : List UInt8 := dkwX2_field_1 ++ dktX2_field_2
def dkwX2_field_0 : List UInt8 := [42, 27, 182, 0, 51, 62, 29, 2, 159, 0, 23, 28, 3, 42, 180, 0, 7, 17, 0, 200, 29, 96, 46, 4]
abbrev dktX2_field_0 : List UInt8 := dkwX2_field_0 ++ dktX2_field_1
theorem dksX2_field_0 : cX2_field.data.toList.drop 0 = dktX2_field_0 := by decide +kernel
theorem dksX2_field_1 : cX2_field.data.toList.drop 24 = dktX2_field_1 := dk_seg dksX2_field_0 24 rfl rfl
theorem dksX2_field_2 : cX2_field.data.toList.drop 48 = dktX2_field_2 := dk_seg dksX2_field_1 24 rfl rfl
theorem dX2_field_0 : decode cX2_field 0 = .ok (.aload_n 0, 1) := dk_42 (dk_at dksX2_field_0 0 rfl rfl)
theorem dX2_field_1 : decode cX2_field 1 = .ok (.iload_n 1, 1) := dk_27 (dk_at dksX2_field_0 1 rfl rfl)
theorem dX2_field_2 : decode cX2_field 2 = .ok (.invokevirtual 51, 3) := dk_182 0 51 (dk_at dksX2_field_0 2 rfl rfl)
theorem dX2_field_5 : decode cX2_field 5 = .ok (.istore_n 3, 1) := dk_62 (dk_at dksX2_field_0 5 rfl rfl)
theorem dX2_field_6 : decode cX2_field 6 = .ok (.iload_n 3, 1) := dk_29 (dk_at dksX2_field_0 6 rfl rfl)
theorem dX2_field_7 : decode cX2_field 7 = .ok (.iconst (-1), 1) := dk_2 (dk_at dksX2_field_0 7 rfl rfl)
theorem dX2_field_8 : decode cX2_field 8 = .ok (.if_icmp .eq 23, 3) := dk_159 0 23 (dk_at dksX2_field_0 8 rfl rfl)
theorem dX2_field_11 : decode cX2_field 11 = .ok (.iload_n 2, 1) := dk_28 (dk_at dksX2_field_0 11 rfl rfl)
theorem dX2_field_12 : decode cX2_field 12 = .ok (.iconst 0, 1) := dk_3 (dk_at dksX2_field_0 12 rfl rfl)
theorem dX2_field_13 : decode cX2_field 13 = .ok (.aload_n 0, 1) := dk_42 (dk_at dksX2_field_0 13 rfl rfl)
theorem dX2_field_14 : decode cX2_field 14 = .ok (.getfield 7, 3) := dk_180 0 7 (dk_at dksX2_field_0 14 rfl rfl)
theorem dX2_field_17 : decode cX2_field 17 = .ok (.sipush 200, 3) := dk_17 0 200 (dk_at dksX2_field_0 17 rfl rfl)
theorem dX2_field_20 : decode cX2_field 20 = .ok (.iload_n 3, 1) := dk_29 (dk_at dksX2_field_0 20 rfl rfl)
theorem dX2_field_21 : decode cX2_field 21 = .ok (.iadd, 1) := dk_96 (dk_at dksX2_field_0 21 rfl rfl)
theorem dX2_field_22 : decode cX2_field 22 = .ok (.iaload, 1) := dk_46 (dk_at dksX2_field_0 22 rfl rfl)
theorem dX2_field_23 : decode cX2_field 23 = .ok (.iconst 1, 1) := dk_4 (dk_at dksX2_field_0 23 rfl rfl)
theorem dX2_field_24 : decode cX2_field 24 = .ok (.isub, 1) := dk_100 (dk_at dksX2_field_1 0 rfl rfl)
theorem dX2_field_25 : decode cX2_field 25 = .ok (.invokestatic 46, 3) := dk_184 0 46 (dk_at dksX2_field_1 1 rfl rfl)
theorem dX2_field_28 : decode cX2_field 28 = .ok (.ifCond .ne 8, 3) := dk_154 0 8 (dk_at dksX2_field_1 4 rfl rfl)
theorem dX2_field_31 : decode cX2_field 31 = .ok (.ldc 50, 2) := dk_18 50 (dk_at dksX2_field_1 7 rfl rfl)
theorem dX2_field_33 : decode cX2_field 33 = .ok (.goto 17, 3) := dk_167 0 17 (dk_at dksX2_field_1 9 rfl rfl)
theorem dX2_field_36 : decode cX2_field 36 = .ok (.aload_n 0, 1) := dk_42 (dk_at dksX2_field_1 12 rfl rfl)
theorem dX2_field_37 : decode cX2_field 37 = .ok (.getfield 7, 3) := dk_180 0 7 (dk_at dksX2_field_1 13 rfl rfl)
theorem dX2_field_40 : decode cX2_field 40 = .ok (.sipush 800, 3) := dk_17 3 32 (dk_at dksX2_field_1 16 rfl rfl)
theorem dX2_field_43 : decode cX2_field 43 = .ok (.iload_n 3, 1) := dk_29 (dk_at dksX2_field_1 19 rfl rfl)
theorem dX2_field_44 : decode cX2_field 44 = .ok (.iadd, 1) := dk_96 (dk_at dksX2_field_1 20 rfl rfl)
theorem dX2_field_45 : decode cX2_field 45 = .ok (.iconst 1, 1) := dk_4 (dk_at dksX2_field_1 21 rfl rfl)
theorem dX2_field_46 : decode cX2_field 46 = .ok (.iadd, 1) := dk_96 (dk_at dksX2_field_1 22 rfl rfl)
theorem dX2_field_47 : decode cX2_field 47 = .ok (.iload_n 2, 1) := dk_28 (dk_at dksX2_field_1 23 rfl rfl)
theorem dX2_field_48 : decode cX2_field 48 = .ok (.iadd, 1) := dk_96 (dk_at dksX2_field_2 0 rfl rfl)
theorem dX2_field_49 : decode cX2_field 49 = .ok (.iaload, 1) := dk_46 (dk_at dksX2_field_2 1 rfl rfl)
theorem dX2_field_50 : decode cX2_field 50 = .ok (.ireturn, 1) := dk_172 (dk_at dksX2_field_2 2 rfl rfl)
abbrev cX2_setData : ByteArray := prog_26_method_19_code
def yX2_setData : MethodName := ⟨RX2, "setData", "(III)I"⟩
def dkwX2_setData_3 : List UInt8 := [180, 0, 7, 21, 5, 46, 54, 6, 42, 180, 0, 7, 21, 5, 29, 79, 21, 6, 172]
abbrev dktX2_setData_3 : List UInt8 := dkwX2_setData_3 ++ []
def dkwX2_setData_2 : List UInt8 := [21, 4, 96, 4, 96, 42, 180, 0, 7, 17, 0, 200, 21, 4, 96, 46, 96, 28, 96, 54, 5, 42]
abbrev dktX2_setData_2 : List UInt8 := dkwX2_setData_2 ++ dktX2_setData_3
def dkwX2_setData_1 : List UInt8 := [184, 0, 46, 153, 0, 14, 29, 18, 80, 18, 81, 184, 0, 46, 154, 0, 6, 18, 50, 172, 17, 3, 32]
abbrev dktX2_setData_1 : List UInt8 := dkwX2_setData_1 ++ dktX2_setData_2
def dkwX2_setData_0 : List UInt8 := [42, 27, 182, 0, 51, 54, 4, 21, 4, 2, 159, 0, 30, 28, 3, 42, 21, 4, 182, 0, 63, 4, 100]
abbrev dktX2_setData_0 : List UInt8 := dkwX2_setData_0 ++ dktX2_setData_1
theorem dksX2_setData_0 : cX2_setData.data.toList.drop 0 = dktX2_setData_0 := by decide +kernel
theorem dksX2_setData_1 : cX2_setData.data.toList.drop 23 = dktX2_setData_1 := dk_seg dksX2_setData_0 23 rfl rfl
theorem dksX2_setData_2 : cX2_setData.data.toList.drop 46 = dktX2_setData_2 := dk_seg dksX2_setData_1 23 rfl rfl
theorem dksX2_setData_3 : cX2_setData.data.toList.drop 68 = dktX2_setData_3 := dk_seg dksX2_setData_2 22 rfl rfl
theorem dX2_setData_0 : decode cX2_setData 0 = .ok (.aload_n 0, 1) := dk_42 (dk_at dksX2_setData_0 0 rfl rfl)
theorem dX2_setData_1 : decode cX2_setData 1 = .ok (.iload_n 1, 1) := dk_27 (dk_at dksX2_setData_0 1 rfl rfl)
theorem dX2_setData_2 : decode cX2_setData 2 = .ok (.invokevirtual 51, 3) := dk_182 0 51 (dk_at dksX2_setData_0 2 rfl rfl)
theorem dX2_setData_5 : decode cX2_setData 5 = .ok (.istore 4, 2) := dk_54 4 (dk_at dksX2_setData_0 5 rfl rfl)
theorem dX2_setData_7 : decode cX2_setData 7 = .ok (.iload 4, 2) := dk_21 4 (dk_at dksX2_setData_0 7 rfl rfl)
theorem dX2_setData_9 : decode cX2_setData 9 = .ok (.iconst (-1), 1) := dk_2 (dk_at dksX2_setData_0 9 rfl rfl)
theorem dX2_setData_10 : decode cX2_setData 10 = .ok (.if_icmp .eq 30, 3) := dk_159 0 30 (dk_at dksX2_setData_0 10 rfl rfl)
theorem dX2_setData_13 : decode cX2_setData 13 = .ok (.iload_n 2, 1) := dk_28 (dk_at dksX2_setData_0 13 rfl rfl)
theorem dX2_setData_14 : decode cX2_setData 14 = .ok (.iconst 0, 1) := dk_3 (dk_at dksX2_setData_0 14 rfl rfl)
theorem dX2_setData_15 : decode cX2_setData 15 = .ok (.aload_n 0, 1) := dk_42 (dk_at dksX2_setData_0 15 rfl rfl)
theorem dX2_setData_16 : decode cX2_setData 16 = .ok (.iload 4, 2) := dk_21 4 (dk_at dksX2_setData_0 16 rfl rfl)
theorem dX2_setData_18 : decode cX2_setData 18 = .ok (.invokevirtual 63, 3) := dk_182 0 63 (dk_at dksX2_setData_0 18 rfl rfl)
theorem dX2_setData_21 : decode cX2_setData 21 = .ok (.iconst 1, 1) := dk_4 (dk_at dksX2_setData_0 21 rfl rfl)
theorem dX2_setData_22 : decode cX2_setData 22 = .ok (.isub, 1) := dk_100 (dk_at dksX2_setData_0 22 rfl rfl)
theorem dX2_setData_23 : decode cX2_setData 23 = .ok (.invokestatic 46, 3) := dk_184 0 46 (dk_at dksX2_setData_1 0 rfl rfl)
theorem dX2_setData_26 : decode cX2_setData 26 = .ok (.ifCond .eq 14, 3) := dk_153 0 14 (dk_at dksX2_setData_1 3 rfl rfl)
theorem dX2_setData_29 : decode cX2_setData 29 = .ok (.iload_n 3, 1) := dk_29 (dk_at dksX2_setData_1 6 rfl rfl)
theorem dX2_setData_30 : decode cX2_setData 30 = .ok (.ldc 80, 2) := dk_18 80 (dk_at dksX2_setData_1 7 rfl rfl)
theorem dX2_setData_32 : decode cX2_setData 32 = .ok (.ldc 81, 2) := dk_18 81 (dk_at dksX2_setData_1 9 rfl rfl)
theorem dX2_setData_34 : decode cX2_setData 34 = .ok (.invokestatic 46, 3) := dk_184 0 46 (dk_at dksX2_setData_1 11 rfl rfl)
theorem dX2_setData_37 : decode cX2_setData 37 = .ok (.ifCond .ne 6, 3) := dk_154 0 6 (dk_at dksX2_setData_1 14 rfl rfl)
theorem dX2_setData_40 : decode cX2_setData 40 = .ok (.ldc 50, 2) := dk_18 50 (dk_at dksX2_setData_1 17 rfl rfl)
theorem dX2_setData_42 : decode cX2_setData 42 = .ok (.ireturn, 1) := dk_172 (dk_at dksX2_setData_1 19 rfl rfl)
theorem dX2_setData_43 : decode cX2_setData 43 = .ok (.sipush 800, 3) := dk_17 3 32 (dk_at dksX2_setData_1 20 rfl rfl)
theorem dX2_setData_46 : decode cX2_setData 46 = .ok (.iload 4, 2) := dk_21 4 (dk_at dksX2_setData_2 0 rfl rfl)
theorem dX2_setData_48 : decode cX2_setData 48 = .ok (.iadd, 1) := dk_96 (dk_at dksX2_setData_2 2 rfl rfl)
theorem dX2_setData_49 : decode cX2_setData 49 = .ok (.iconst 1, 1) := dk_4 (dk_at dksX2_setData_2 3 rfl rfl)
theorem dX2_setData_50 : decode cX2_setData 50 = .ok (.iadd, 1) := dk_96 (dk_at dksX2_setData_2 4 rfl rfl)
theorem dX2_setData_51 : decode cX2_setData 51 = .ok (.aload_n 0, 1) := dk_42 (dk_at dksX2_setData_2 5 rfl rfl)
theorem dX2_setData_52 : decode cX2_setData 52 = .ok (.getfield 7, 3) := dk_180 0 7 (dk_at dksX2_setData_2 6 rfl rfl)
theorem dX2_setData_55 : decode cX2_setData 55 = .ok (.sipush 200, 3) := dk_17 0 200 (dk_at dksX2_setData_2 9 rfl rfl)
theorem dX2_setData_58 : decode cX2_setData 58 = .ok (.iload 4, 2) := dk_21 4 (dk_at dksX2_setData_2 12 rfl rfl)
theorem dX2_setData_60 : decode cX2_setData 60 = .ok (.iadd, 1) := dk_96 (dk_at dksX2_setData_2 14 rfl rfl)
theorem dX2_setData_61 : decode cX2_setData 61 = .ok (.iaload, 1) := dk_46 (dk_at dksX2_setData_2 15 rfl rfl)
theorem dX2_setData_62 : decode cX2_setData 62 = .ok (.iadd, 1) := dk_96 (dk_at dksX2_setData_2 16 rfl rfl)
theorem dX2_setData_63 : decode cX2_setData 63 = .ok (.iload_n 2, 1) := dk_28 (dk_at dksX2_setData_2 17 rfl rfl)
theorem dX2_setData_64 : decode cX2_setData 64 = .ok (.iadd, 1) := dk_96 (dk_at dksX2_setData_2 18 rfl rfl)
theorem dX2_setData_65 : decode cX2_setData 65 = .ok (.istore 5, 2) := dk_54 5 (dk_at dksX2_setData_2 19 rfl rfl)
theorem dX2_setData_67 : decode cX2_setData 67 = .ok (.aload_n 0, 1) := dk_42 (dk_at dksX2_setData_2 21 rfl rfl)
theorem dX2_setData_68 : decode cX2_setData 68 = .ok (.getfield 7, 3) := dk_180 0 7 (dk_at dksX2_setData_3 0 rfl rfl)
theorem dX2_setData_71 : decode cX2_setData 71 = .ok (.iload 5, 2) := dk_21 5 (dk_at dksX2_setData_3 3 rfl rfl)
theorem dX2_setData_73 : decode cX2_setData 73 = .ok (.iaload, 1) := dk_46 (dk_at dksX2_setData_3 5 rfl rfl)
theorem dX2_setData_74 : decode cX2_setData 74 = .ok (.istore 6, 2) := dk_54 6 (dk_at dksX2_setData_3 6 rfl rfl)
theorem dX2_setData_76 : decode cX2_setData 76 = .ok (.aload_n 0, 1) := dk_42 (dk_at dksX2_setData_3 8 rfl rfl)
theorem dX2_setData_77 : decode cX2_setData 77 = .ok (.getfield 7, 3) := dk_180 0 7 (dk_at dksX2_setData_3 9 rfl rfl)
theorem dX2_setData_80 : decode cX2_setData 80 = .ok (.iload 5, 2) := dk_21 5 (dk_at dksX2_setData_3 12 rfl rfl)
theorem dX2_setData_82 : decode cX2_setData 82 = .ok (.iload_n 3, 1) := dk_29 (dk_at dksX2_setData_3 14 rfl rfl)
theorem dX2_setData_83 : decode cX2_setData 83 = .ok (.iastore, 1) := dk_79 (dk_at dksX2_setData_3 15 rfl rfl)
theorem dX2_setData_84 : decode cX2_setData 84 = .ok (.iload 6, 2) := dk_21 6 (dk_at dksX2_setData_3 16 rfl rfl)
theorem dX2_setData_86 : decode cX2_setData 86 = .ok (.ireturn, 1) := dk_172 (dk_at dksX2_setData_3 18 rfl rfl)
abbrev cX2_data : ByteArray := prog_26_method_20_code
def yX2_data : MethodName := ⟨RX2, "data", "(II)I"⟩
def dkwX2_data_2 : List UInt8 := [17, 0, 200, 29, 96, 46, 96, 28, 96, 46, 172]
abbrev dktX2_data_2 : List UInt8 := dkwX2_data_2 ++ []
def dkwX2_data_1 : List UInt8 := [154, 0, 8, 18, 50, 167, 0, 28, 42, 180, 0, 7, 17, 3, 32, 29, 96, 4, 96, 42, 180, 0, 7]
abbrev dktX2_data_1 : List UInt8 := dkwX2_data_1 ++ dktX2_data_2
def dkwX2_data_0 : List UInt8 := [42, 27, 182, 0, 51, 62, 29, 2, 159, 0, 18, 28, 3, 42, 29, 182, 0, 63, 4, 100, 184, 0, 46]
abbrev dktX2_data_0 : List UInt8 := dkwX2_data_0 ++ dktX2_data_1
theorem dksX2_data_0 : cX2_data.data.toList.drop 0 = dktX2_data_0 := by decide +kernel
theorem dksX2_data_1 : cX2_data.data.toList.drop 23 = dktX2_data_1 := dk_seg dksX2_data_0 23 rfl rfl
theorem dksX2_data_2 : cX2_data.data.toList.drop 46 = dktX2_data_2 := dk_seg dksX2_data_1 23 rfl rfl
theorem dX2_data_0 : decode cX2_data 0 = .ok (.aload_n 0, 1) := dk_42 (dk_at dksX2_data_0 0 rfl rfl)
theorem dX2_data_1 : decode cX2_data 1 = .ok (.iload_n 1, 1) := dk_27 (dk_at dksX2_data_0 1 rfl rfl)
theorem dX2_data_2 : decode cX2_data 2 = .ok (.invokevirtual 51, 3) := dk_182 0 51 (dk_at dksX2_data_0 2 rfl rfl)
theorem dX2_data_5 : decode cX2_data 5 = .ok (.istore_n 3, 1) := dk_62 (dk_at dksX2_data_0 5 rfl rfl)
theorem dX2_data_6 : decode cX2_data 6 = .ok (.iload_n 3, 1) := dk_29 (dk_at dksX2_data_0 6 rfl rfl)
theorem dX2_data_7 : decode cX2_data 7 = .ok (.iconst (-1), 1) := dk_2 (dk_at dksX2_data_0 7 rfl rfl)
theorem dX2_data_8 : decode cX2_data 8 = .ok (.if_icmp .eq 18, 3) := dk_159 0 18 (dk_at dksX2_data_0 8 rfl rfl)
theorem dX2_data_11 : decode cX2_data 11 = .ok (.iload_n 2, 1) := dk_28 (dk_at dksX2_data_0 11 rfl rfl)
theorem dX2_data_12 : decode cX2_data 12 = .ok (.iconst 0, 1) := dk_3 (dk_at dksX2_data_0 12 rfl rfl)
theorem dX2_data_13 : decode cX2_data 13 = .ok (.aload_n 0, 1) := dk_42 (dk_at dksX2_data_0 13 rfl rfl)
theorem dX2_data_14 : decode cX2_data 14 = .ok (.iload_n 3, 1) := dk_29 (dk_at dksX2_data_0 14 rfl rfl)
theorem dX2_data_15 : decode cX2_data 15 = .ok (.invokevirtual 63, 3) := dk_182 0 63 (dk_at dksX2_data_0 15 rfl rfl)
theorem dX2_data_18 : decode cX2_data 18 = .ok (.iconst 1, 1) := dk_4 (dk_at dksX2_data_0 18 rfl rfl)
theorem dX2_data_19 : decode cX2_data 19 = .ok (.isub, 1) := dk_100 (dk_at dksX2_data_0 19 rfl rfl)
theorem dX2_data_20 : decode cX2_data 20 = .ok (.invokestatic 46, 3) := dk_184 0 46 (dk_at dksX2_data_0 20 rfl rfl)
theorem dX2_data_23 : decode cX2_data 23 = .ok (.ifCond .ne 8, 3) := dk_154 0 8 (dk_at dksX2_data_1 0 rfl rfl)
theorem dX2_data_26 : decode cX2_data 26 = .ok (.ldc 50, 2) := dk_18 50 (dk_at dksX2_data_1 3 rfl rfl)
theorem dX2_data_28 : decode cX2_data 28 = .ok (.goto 28, 3) := dk_167 0 28 (dk_at dksX2_data_1 5 rfl rfl)
theorem dX2_data_31 : decode cX2_data 31 = .ok (.aload_n 0, 1) := dk_42 (dk_at dksX2_data_1 8 rfl rfl)
theorem dX2_data_32 : decode cX2_data 32 = .ok (.getfield 7, 3) := dk_180 0 7 (dk_at dksX2_data_1 9 rfl rfl)
theorem dX2_data_35 : decode cX2_data 35 = .ok (.sipush 800, 3) := dk_17 3 32 (dk_at dksX2_data_1 12 rfl rfl)
theorem dX2_data_38 : decode cX2_data 38 = .ok (.iload_n 3, 1) := dk_29 (dk_at dksX2_data_1 15 rfl rfl)
theorem dX2_data_39 : decode cX2_data 39 = .ok (.iadd, 1) := dk_96 (dk_at dksX2_data_1 16 rfl rfl)
theorem dX2_data_40 : decode cX2_data 40 = .ok (.iconst 1, 1) := dk_4 (dk_at dksX2_data_1 17 rfl rfl)
theorem dX2_data_41 : decode cX2_data 41 = .ok (.iadd, 1) := dk_96 (dk_at dksX2_data_1 18 rfl rfl)
theorem dX2_data_42 : decode cX2_data 42 = .ok (.aload_n 0, 1) := dk_42 (dk_at dksX2_data_1 19 rfl rfl)
theorem dX2_data_43 : decode cX2_data 43 = .ok (.getfield 7, 3) := dk_180 0 7 (dk_at dksX2_data_1 20 rfl rfl)
theorem dX2_data_46 : decode cX2_data 46 = .ok (.sipush 200, 3) := dk_17 0 200 (dk_at dksX2_data_2 0 rfl rfl)
theorem dX2_data_49 : decode cX2_data 49 = .ok (.iload_n 3, 1) := dk_29 (dk_at dksX2_data_2 3 rfl rfl)
theorem dX2_data_50 : decode cX2_data 50 = .ok (.iadd, 1) := dk_96 (dk_at dksX2_data_2 4 rfl rfl)
theorem dX2_data_51 : decode cX2_data 51 = .ok (.iaload, 1) := dk_46 (dk_at dksX2_data_2 5 rfl rfl)
theorem dX2_data_52 : decode cX2_data 52 = .ok (.iadd, 1) := dk_96 (dk_at dksX2_data_2 6 rfl rfl)
theorem dX2_data_53 : decode cX2_data 53 = .ok (.iload_n 2, 1) := dk_28 (dk_at dksX2_data_2 7 rfl rfl)
theorem dX2_data_54 : decode cX2_data 54 = .ok (.iadd, 1) := dk_96 (dk_at dksX2_data_2 8 rfl rfl)
theorem dX2_data_55 : decode cX2_data 55 = .ok (.iaload, 1) := dk_46 (dk_at dksX2_data_2 9 rfl rfl)
theorem dX2_data_56 : decode cX2_data 56 = .ok (.ireturn, 1) := dk_172 (dk_at dksX2_data_2 10 rfl rfl)
abbrev cX2_pin : ByteArray := prog_26_method_22_code
def yX2_pin : MethodName := ⟨RX2, "pin", "(IZ)I"⟩
def dkwX2_pin_2 : List UInt8 := [28, 153, 0, 7, 4, 167, 0, 4, 3, 79, 42, 4, 182, 0, 83, 172]
abbrev dktX2_pin_2 : List UInt8 := dkwX2_pin_2 ++ []
def dkwX2_pin_1 : List UInt8 := [28, 153, 0, 7, 4, 167, 0, 4, 3, 160, 0, 6, 18, 82, 172, 42, 180, 0, 7, 17, 1, 144, 29, 96]
abbrev dktX2_pin_1 : List UInt8 := dkwX2_pin_1 ++ dktX2_pin_2
def dkwX2_pin_0 : List UInt8 := [42, 27, 182, 0, 51, 62, 29, 2, 160, 0, 6, 18, 50, 172, 42, 180, 0, 7, 17, 1, 144, 29, 96, 46]
abbrev dktX2_pin_0 : List UInt8 := dkwX2_pin_0 ++ dktX2_pin_1
theorem dksX2_pin_0 : cX2_pin.data.toList.drop 0 = dktX2_pin_0 := by decide +kernel
theorem dksX2_pin_1 : cX2_pin.data.toList.drop 24 = dktX2_pin_1 := dk_seg dksX2_pin_0 24 rfl rfl
theorem dksX2_pin_2 : cX2_pin.data.toList.drop 48 = dktX2_pin_2 := dk_seg dksX2_pin_1 24 rfl rfl
theorem dX2_pin_0 : decode cX2_pin 0 = .ok (.aload_n 0, 1) := dk_42 (dk_at dksX2_pin_0 0 rfl rfl)
theorem dX2_pin_1 : decode cX2_pin 1 = .ok (.iload_n 1, 1) := dk_27 (dk_at dksX2_pin_0 1 rfl rfl)
theorem dX2_pin_2 : decode cX2_pin 2 = .ok (.invokevirtual 51, 3) := dk_182 0 51 (dk_at dksX2_pin_0 2 rfl rfl)
theorem dX2_pin_5 : decode cX2_pin 5 = .ok (.istore_n 3, 1) := dk_62 (dk_at dksX2_pin_0 5 rfl rfl)
theorem dX2_pin_6 : decode cX2_pin 6 = .ok (.iload_n 3, 1) := dk_29 (dk_at dksX2_pin_0 6 rfl rfl)
theorem dX2_pin_7 : decode cX2_pin 7 = .ok (.iconst (-1), 1) := dk_2 (dk_at dksX2_pin_0 7 rfl rfl)
theorem dX2_pin_8 : decode cX2_pin 8 = .ok (.if_icmp .ne 6, 3) := dk_160 0 6 (dk_at dksX2_pin_0 8 rfl rfl)
theorem dX2_pin_11 : decode cX2_pin 11 = .ok (.ldc 50, 2) := dk_18 50 (dk_at dksX2_pin_0 11 rfl rfl)
theorem dX2_pin_13 : decode cX2_pin 13 = .ok (.ireturn, 1) := dk_172 (dk_at dksX2_pin_0 13 rfl rfl)
theorem dX2_pin_14 : decode cX2_pin 14 = .ok (.aload_n 0, 1) := dk_42 (dk_at dksX2_pin_0 14 rfl rfl)
theorem dX2_pin_15 : decode cX2_pin 15 = .ok (.getfield 7, 3) := dk_180 0 7 (dk_at dksX2_pin_0 15 rfl rfl)
theorem dX2_pin_18 : decode cX2_pin 18 = .ok (.sipush 400, 3) := dk_17 1 144 (dk_at dksX2_pin_0 18 rfl rfl)
theorem dX2_pin_21 : decode cX2_pin 21 = .ok (.iload_n 3, 1) := dk_29 (dk_at dksX2_pin_0 21 rfl rfl)
theorem dX2_pin_22 : decode cX2_pin 22 = .ok (.iadd, 1) := dk_96 (dk_at dksX2_pin_0 22 rfl rfl)
theorem dX2_pin_23 : decode cX2_pin 23 = .ok (.iaload, 1) := dk_46 (dk_at dksX2_pin_0 23 rfl rfl)
theorem dX2_pin_24 : decode cX2_pin 24 = .ok (.iload_n 2, 1) := dk_28 (dk_at dksX2_pin_1 0 rfl rfl)
theorem dX2_pin_25 : decode cX2_pin 25 = .ok (.ifCond .eq 7, 3) := dk_153 0 7 (dk_at dksX2_pin_1 1 rfl rfl)
theorem dX2_pin_28 : decode cX2_pin 28 = .ok (.iconst 1, 1) := dk_4 (dk_at dksX2_pin_1 4 rfl rfl)
theorem dX2_pin_29 : decode cX2_pin 29 = .ok (.goto 4, 3) := dk_167 0 4 (dk_at dksX2_pin_1 5 rfl rfl)
theorem dX2_pin_32 : decode cX2_pin 32 = .ok (.iconst 0, 1) := dk_3 (dk_at dksX2_pin_1 8 rfl rfl)
theorem dX2_pin_33 : decode cX2_pin 33 = .ok (.if_icmp .ne 6, 3) := dk_160 0 6 (dk_at dksX2_pin_1 9 rfl rfl)
theorem dX2_pin_36 : decode cX2_pin 36 = .ok (.ldc 82, 2) := dk_18 82 (dk_at dksX2_pin_1 12 rfl rfl)
theorem dX2_pin_38 : decode cX2_pin 38 = .ok (.ireturn, 1) := dk_172 (dk_at dksX2_pin_1 14 rfl rfl)
theorem dX2_pin_39 : decode cX2_pin 39 = .ok (.aload_n 0, 1) := dk_42 (dk_at dksX2_pin_1 15 rfl rfl)
theorem dX2_pin_40 : decode cX2_pin 40 = .ok (.getfield 7, 3) := dk_180 0 7 (dk_at dksX2_pin_1 16 rfl rfl)
theorem dX2_pin_43 : decode cX2_pin 43 = .ok (.sipush 400, 3) := dk_17 1 144 (dk_at dksX2_pin_1 19 rfl rfl)
theorem dX2_pin_46 : decode cX2_pin 46 = .ok (.iload_n 3, 1) := dk_29 (dk_at dksX2_pin_1 22 rfl rfl)
theorem dX2_pin_47 : decode cX2_pin 47 = .ok (.iadd, 1) := dk_96 (dk_at dksX2_pin_1 23 rfl rfl)
theorem dX2_pin_48 : decode cX2_pin 48 = .ok (.iload_n 2, 1) := dk_28 (dk_at dksX2_pin_2 0 rfl rfl)
theorem dX2_pin_49 : decode cX2_pin 49 = .ok (.ifCond .eq 7, 3) := dk_153 0 7 (dk_at dksX2_pin_2 1 rfl rfl)
theorem dX2_pin_52 : decode cX2_pin 52 = .ok (.iconst 1, 1) := dk_4 (dk_at dksX2_pin_2 4 rfl rfl)
theorem dX2_pin_53 : decode cX2_pin 53 = .ok (.goto 4, 3) := dk_167 0 4 (dk_at dksX2_pin_2 5 rfl rfl)
theorem dX2_pin_56 : decode cX2_pin 56 = .ok (.iconst 0, 1) := dk_3 (dk_at dksX2_pin_2 8 rfl rfl)
theorem dX2_pin_57 : decode cX2_pin 57 = .ok (.iastore, 1) := dk_79 (dk_at dksX2_pin_2 9 rfl rfl)
theorem dX2_pin_58 : decode cX2_pin 58 = .ok (.aload_n 0, 1) := dk_42 (dk_at dksX2_pin_2 10 rfl rfl)
theorem dX2_pin_59 : decode cX2_pin 59 = .ok (.iconst 1, 1) := dk_4 (dk_at dksX2_pin_2 11 rfl rfl)
theorem dX2_pin_60 : decode cX2_pin 60 = .ok (.invokevirtual 83, 3) := dk_182 0 83 (dk_at dksX2_pin_2 12 rfl rfl)
theorem dX2_pin_63 : decode cX2_pin 63 = .ok (.ireturn, 1) := dk_172 (dk_at dksX2_pin_2 15 rfl rfl)
abbrev cX2_many : ByteArray := prog_26_method_21_code
def yX2_many : MethodName := ⟨RX2, "many", "(Z)I"⟩
def dkwX2_many_2 : List UInt8 := [167, 0, 4, 3, 96, 61, 132, 3, 1, 167, 255, 204, 28, 172]
abbrev dktX2_many_2 : List UInt8 := dkwX2_many_2 ++ []
def dkwX2_many_1 : List UInt8 := [46, 158, 0, 25, 27, 153, 0, 17, 42, 180, 0, 7, 17, 1, 144, 29, 96, 46, 4, 160, 0, 7, 4]
abbrev dktX2_many_1 : List UInt8 := dkwX2_many_1 ++ dktX2_many_2
def dkwX2_many_0 : List UInt8 := [3, 61, 3, 62, 29, 42, 180, 0, 7, 17, 4, 192, 46, 162, 0, 46, 28, 42, 180, 0, 7, 3, 29, 96]
abbrev dktX2_many_0 : List UInt8 := dkwX2_many_0 ++ dktX2_many_1
theorem dksX2_many_0 : cX2_many.data.toList.drop 0 = dktX2_many_0 := by decide +kernel
theorem dksX2_many_1 : cX2_many.data.toList.drop 24 = dktX2_many_1 := dk_seg dksX2_many_0 24 rfl rfl
theorem dksX2_many_2 : cX2_many.data.toList.drop 47 = dktX2_many_2 := dk_seg dksX2_many_1 23 rfl rfl
theorem dX2_many_0 : decode cX2_many 0 = .ok (.iconst 0, 1) := dk_3 (dk_at dksX2_many_0 0 rfl rfl)
theorem dX2_many_1 : decode cX2_many 1 = .ok (.istore_n 2, 1) := dk_61 (dk_at dksX2_many_0 1 rfl rfl)
theorem dX2_many_2 : decode cX2_many 2 = .ok (.iconst 0, 1) := dk_3 (dk_at dksX2_many_0 2 rfl rfl)
theorem dX2_many_3 : decode cX2_many 3 = .ok (.istore_n 3, 1) := dk_62 (dk_at dksX2_many_0 3 rfl rfl)
theorem dX2_many_4 : decode cX2_many 4 = .ok (.iload_n 3, 1) := dk_29 (dk_at dksX2_many_0 4 rfl rfl)
theorem dX2_many_5 : decode cX2_many 5 = .ok (.aload_n 0, 1) := dk_42 (dk_at dksX2_many_0 5 rfl rfl)
theorem dX2_many_6 : decode cX2_many 6 = .ok (.getfield 7, 3) := dk_180 0 7 (dk_at dksX2_many_0 6 rfl rfl)
theorem dX2_many_9 : decode cX2_many 9 = .ok (.sipush 1216, 3) := dk_17 4 192 (dk_at dksX2_many_0 9 rfl rfl)
theorem dX2_many_12 : decode cX2_many 12 = .ok (.iaload, 1) := dk_46 (dk_at dksX2_many_0 12 rfl rfl)
theorem dX2_many_13 : decode cX2_many 13 = .ok (.if_icmp .ge 46, 3) := dk_162 0 46 (dk_at dksX2_many_0 13 rfl rfl)
theorem dX2_many_16 : decode cX2_many 16 = .ok (.iload_n 2, 1) := dk_28 (dk_at dksX2_many_0 16 rfl rfl)
theorem dX2_many_17 : decode cX2_many 17 = .ok (.aload_n 0, 1) := dk_42 (dk_at dksX2_many_0 17 rfl rfl)
theorem dX2_many_18 : decode cX2_many 18 = .ok (.getfield 7, 3) := dk_180 0 7 (dk_at dksX2_many_0 18 rfl rfl)
theorem dX2_many_21 : decode cX2_many 21 = .ok (.iconst 0, 1) := dk_3 (dk_at dksX2_many_0 21 rfl rfl)
theorem dX2_many_22 : decode cX2_many 22 = .ok (.iload_n 3, 1) := dk_29 (dk_at dksX2_many_0 22 rfl rfl)
theorem dX2_many_23 : decode cX2_many 23 = .ok (.iadd, 1) := dk_96 (dk_at dksX2_many_0 23 rfl rfl)
theorem dX2_many_24 : decode cX2_many 24 = .ok (.iaload, 1) := dk_46 (dk_at dksX2_many_1 0 rfl rfl)
theorem dX2_many_25 : decode cX2_many 25 = .ok (.ifCond .le 25, 3) := dk_158 0 25 (dk_at dksX2_many_1 1 rfl rfl)
theorem dX2_many_28 : decode cX2_many 28 = .ok (.iload_n 1, 1) := dk_27 (dk_at dksX2_many_1 4 rfl rfl)
theorem dX2_many_29 : decode cX2_many 29 = .ok (.ifCond .eq 17, 3) := dk_153 0 17 (dk_at dksX2_many_1 5 rfl rfl)
theorem dX2_many_32 : decode cX2_many 32 = .ok (.aload_n 0, 1) := dk_42 (dk_at dksX2_many_1 8 rfl rfl)
theorem dX2_many_33 : decode cX2_many 33 = .ok (.getfield 7, 3) := dk_180 0 7 (dk_at dksX2_many_1 9 rfl rfl)
theorem dX2_many_36 : decode cX2_many 36 = .ok (.sipush 400, 3) := dk_17 1 144 (dk_at dksX2_many_1 12 rfl rfl)
theorem dX2_many_39 : decode cX2_many 39 = .ok (.iload_n 3, 1) := dk_29 (dk_at dksX2_many_1 15 rfl rfl)
theorem dX2_many_40 : decode cX2_many 40 = .ok (.iadd, 1) := dk_96 (dk_at dksX2_many_1 16 rfl rfl)
theorem dX2_many_41 : decode cX2_many 41 = .ok (.iaload, 1) := dk_46 (dk_at dksX2_many_1 17 rfl rfl)
theorem dX2_many_42 : decode cX2_many 42 = .ok (.iconst 1, 1) := dk_4 (dk_at dksX2_many_1 18 rfl rfl)
theorem dX2_many_43 : decode cX2_many 43 = .ok (.if_icmp .ne 7, 3) := dk_160 0 7 (dk_at dksX2_many_1 19 rfl rfl)
theorem dX2_many_46 : decode cX2_many 46 = .ok (.iconst 1, 1) := dk_4 (dk_at dksX2_many_1 22 rfl rfl)
theorem dX2_many_47 : decode cX2_many 47 = .ok (.goto 4, 3) := dk_167 0 4 (dk_at dksX2_many_2 0 rfl rfl)
theorem dX2_many_50 : decode cX2_many 50 = .ok (.iconst 0, 1) := dk_3 (dk_at dksX2_many_2 3 rfl rfl)
theorem dX2_many_51 : decode cX2_many 51 = .ok (.iadd, 1) := dk_96 (dk_at dksX2_many_2 4 rfl rfl)
theorem dX2_many_52 : decode cX2_many 52 = .ok (.istore_n 2, 1) := dk_61 (dk_at dksX2_many_2 5 rfl rfl)
theorem dX2_many_53 : decode cX2_many 53 = .ok (.iinc 3 1, 3) := dk_132 3 1 (dk_at dksX2_many_2 6 rfl rfl)
theorem dX2_many_56 : decode cX2_many 56 = .ok (.goto (-52), 3) := dk_167 255 204 (dk_at dksX2_many_2 9 rfl rfl)
theorem dX2_many_59 : decode cX2_many 59 = .ok (.iload_n 2, 1) := dk_28 (dk_at dksX2_many_2 12 rfl rfl)
theorem dX2_many_60 : decode cX2_many 60 = .ok (.ireturn, 1) := dk_172 (dk_at dksX2_many_2 13 rfl rfl)
abbrev cX2_setRoot : ByteArray := prog_26_method_24_code
def yX2_setRoot : MethodName := ⟨RX2, "setRoot", "(II)I"⟩
def dkwX2_setRoot_1 : List UInt8 := [182, 0, 87, 167, 0, 5, 18, 50, 172]
abbrev dktX2_setRoot_1 : List UInt8 := dkwX2_setRoot_1 ++ []
def dkwX2_setRoot_0 : List UInt8 := [27, 3, 8, 184, 0, 46, 153, 0, 24, 42, 28, 182, 0, 76, 153, 0, 16, 42, 17, 4, 176, 27, 96, 28]
abbrev dktX2_setRoot_0 : List UInt8 := dkwX2_setRoot_0 ++ dktX2_setRoot_1
theorem dksX2_setRoot_0 : cX2_setRoot.data.toList.drop 0 = dktX2_setRoot_0 := by decide +kernel
theorem dksX2_setRoot_1 : cX2_setRoot.data.toList.drop 24 = dktX2_setRoot_1 := dk_seg dksX2_setRoot_0 24 rfl rfl
theorem dX2_setRoot_0 : decode cX2_setRoot 0 = .ok (.iload_n 1, 1) := dk_27 (dk_at dksX2_setRoot_0 0 rfl rfl)
theorem dX2_setRoot_1 : decode cX2_setRoot 1 = .ok (.iconst 0, 1) := dk_3 (dk_at dksX2_setRoot_0 1 rfl rfl)
theorem dX2_setRoot_2 : decode cX2_setRoot 2 = .ok (.iconst 5, 1) := dk_8 (dk_at dksX2_setRoot_0 2 rfl rfl)
theorem dX2_setRoot_3 : decode cX2_setRoot 3 = .ok (.invokestatic 46, 3) := dk_184 0 46 (dk_at dksX2_setRoot_0 3 rfl rfl)
theorem dX2_setRoot_6 : decode cX2_setRoot 6 = .ok (.ifCond .eq 24, 3) := dk_153 0 24 (dk_at dksX2_setRoot_0 6 rfl rfl)
theorem dX2_setRoot_9 : decode cX2_setRoot 9 = .ok (.aload_n 0, 1) := dk_42 (dk_at dksX2_setRoot_0 9 rfl rfl)
theorem dX2_setRoot_10 : decode cX2_setRoot 10 = .ok (.iload_n 2, 1) := dk_28 (dk_at dksX2_setRoot_0 10 rfl rfl)
theorem dX2_setRoot_11 : decode cX2_setRoot 11 = .ok (.invokevirtual 76, 3) := dk_182 0 76 (dk_at dksX2_setRoot_0 11 rfl rfl)
theorem dX2_setRoot_14 : decode cX2_setRoot 14 = .ok (.ifCond .eq 16, 3) := dk_153 0 16 (dk_at dksX2_setRoot_0 14 rfl rfl)
theorem dX2_setRoot_17 : decode cX2_setRoot 17 = .ok (.aload_n 0, 1) := dk_42 (dk_at dksX2_setRoot_0 17 rfl rfl)
theorem dX2_setRoot_18 : decode cX2_setRoot 18 = .ok (.sipush 1200, 3) := dk_17 4 176 (dk_at dksX2_setRoot_0 18 rfl rfl)
theorem dX2_setRoot_21 : decode cX2_setRoot 21 = .ok (.iload_n 1, 1) := dk_27 (dk_at dksX2_setRoot_0 21 rfl rfl)
theorem dX2_setRoot_22 : decode cX2_setRoot 22 = .ok (.iadd, 1) := dk_96 (dk_at dksX2_setRoot_0 22 rfl rfl)
theorem dX2_setRoot_23 : decode cX2_setRoot 23 = .ok (.iload_n 2, 1) := dk_28 (dk_at dksX2_setRoot_0 23 rfl rfl)
theorem dX2_setRoot_24 : decode cX2_setRoot 24 = .ok (.invokevirtual 87, 3) := dk_182 0 87 (dk_at dksX2_setRoot_1 0 rfl rfl)
theorem dX2_setRoot_27 : decode cX2_setRoot 27 = .ok (.goto 5, 3) := dk_167 0 5 (dk_at dksX2_setRoot_1 3 rfl rfl)
theorem dX2_setRoot_30 : decode cX2_setRoot 30 = .ok (.ldc 50, 2) := dk_18 50 (dk_at dksX2_setRoot_1 6 rfl rfl)
theorem dX2_setRoot_32 : decode cX2_setRoot 32 = .ok (.ireturn, 1) := dk_172 (dk_at dksX2_setRoot_1 8 rfl rfl)
abbrev cX2_setsSlot : ByteArray := prog_26_method_23_code
def yX2_setsSlot : MethodName := ⟨RX2, "setsSlot", "(II)I"⟩
def dkwX2_setsSlot_0 : List UInt8 := [42, 180, 0, 7, 27, 46, 62, 42, 180, 0, 7, 27, 28, 79, 29, 172]
abbrev dktX2_setsSlot_0 : List UInt8 := dkwX2_setsSlot_0 ++ []
theorem dksX2_setsSlot_0 : cX2_setsSlot.data.toList.drop 0 = dktX2_setsSlot_0 := by decide +kernel
theorem dX2_setsSlot_0 : decode cX2_setsSlot 0 = .ok (.aload_n 0, 1) := dk_42 (dk_at dksX2_setsSlot_0 0 rfl rfl)
theorem dX2_setsSlot_1 : decode cX2_setsSlot 1 = .ok (.getfield 7, 3) := dk_180 0 7 (dk_at dksX2_setsSlot_0 1 rfl rfl)
theorem dX2_setsSlot_4 : decode cX2_setsSlot 4 = .ok (.iload_n 1, 1) := dk_27 (dk_at dksX2_setsSlot_0 4 rfl rfl)
theorem dX2_setsSlot_5 : decode cX2_setsSlot 5 = .ok (.iaload, 1) := dk_46 (dk_at dksX2_setsSlot_0 5 rfl rfl)
theorem dX2_setsSlot_6 : decode cX2_setsSlot 6 = .ok (.istore_n 3, 1) := dk_62 (dk_at dksX2_setsSlot_0 6 rfl rfl)
theorem dX2_setsSlot_7 : decode cX2_setsSlot 7 = .ok (.aload_n 0, 1) := dk_42 (dk_at dksX2_setsSlot_0 7 rfl rfl)
theorem dX2_setsSlot_8 : decode cX2_setsSlot 8 = .ok (.getfield 7, 3) := dk_180 0 7 (dk_at dksX2_setsSlot_0 8 rfl rfl)
theorem dX2_setsSlot_11 : decode cX2_setsSlot 11 = .ok (.iload_n 1, 1) := dk_27 (dk_at dksX2_setsSlot_0 11 rfl rfl)
theorem dX2_setsSlot_12 : decode cX2_setsSlot 12 = .ok (.iload_n 2, 1) := dk_28 (dk_at dksX2_setsSlot_0 12 rfl rfl)
theorem dX2_setsSlot_13 : decode cX2_setsSlot 13 = .ok (.iastore, 1) := dk_79 (dk_at dksX2_setsSlot_0 13 rfl rfl)
theorem dX2_setsSlot_14 : decode cX2_setsSlot 14 = .ok (.iload_n 3, 1) := dk_29 (dk_at dksX2_setsSlot_0 14 rfl rfl)
theorem dX2_setsSlot_15 : decode cX2_setsSlot 15 = .ok (.ireturn, 1) := dk_172 (dk_at dksX2_setsSlot_0 15 rfl rfl)
abbrev cX2_root : ByteArray := prog_26_method_25_code
def yX2_root : MethodName := ⟨RX2, "root", "(I)I"⟩
def dkwX2_root_1 : List UInt8 := [172]
abbrev dktX2_root_1 : List UInt8 := dkwX2_root_1 ++ []
def dkwX2_root_0 : List UInt8 := [27, 3, 8, 184, 0, 46, 153, 0, 16, 42, 180, 0, 7, 17, 4, 176, 27, 96, 46, 167, 0, 5, 18, 50]
abbrev dktX2_root_0 : List UInt8 := dkwX2_root_0 ++ dktX2_root_1
theorem dksX2_root_0 : cX2_root.data.toList.drop 0 = dktX2_root_0 := by decide +kernel
theorem dksX2_root_1 : cX2_root.data.toList.drop 24 = dktX2_root_1 := dk_seg dksX2_root_0 24 rfl rfl
theorem dX2_root_0 : decode cX2_root 0 = .ok (.iload_n 1, 1) := dk_27 (dk_at dksX2_root_0 0 rfl rfl)
theorem dX2_root_1 : decode cX2_root 1 = .ok (.iconst 0, 1) := dk_3 (dk_at dksX2_root_0 1 rfl rfl)
theorem dX2_root_2 : decode cX2_root 2 = .ok (.iconst 5, 1) := dk_8 (dk_at dksX2_root_0 2 rfl rfl)
theorem dX2_root_3 : decode cX2_root 3 = .ok (.invokestatic 46, 3) := dk_184 0 46 (dk_at dksX2_root_0 3 rfl rfl)
theorem dX2_root_6 : decode cX2_root 6 = .ok (.ifCond .eq 16, 3) := dk_153 0 16 (dk_at dksX2_root_0 6 rfl rfl)
theorem dX2_root_9 : decode cX2_root 9 = .ok (.aload_n 0, 1) := dk_42 (dk_at dksX2_root_0 9 rfl rfl)
theorem dX2_root_10 : decode cX2_root 10 = .ok (.getfield 7, 3) := dk_180 0 7 (dk_at dksX2_root_0 10 rfl rfl)
theorem dX2_root_13 : decode cX2_root 13 = .ok (.sipush 1200, 3) := dk_17 4 176 (dk_at dksX2_root_0 13 rfl rfl)
theorem dX2_root_16 : decode cX2_root 16 = .ok (.iload_n 1, 1) := dk_27 (dk_at dksX2_root_0 16 rfl rfl)
theorem dX2_root_17 : decode cX2_root 17 = .ok (.iadd, 1) := dk_96 (dk_at dksX2_root_0 17 rfl rfl)
theorem dX2_root_18 : decode cX2_root 18 = .ok (.iaload, 1) := dk_46 (dk_at dksX2_root_0 18 rfl rfl)
theorem dX2_root_19 : decode cX2_root 19 = .ok (.goto 5, 3) := dk_167 0 5 (dk_at dksX2_root_0 19 rfl rfl)
theorem dX2_root_22 : decode cX2_root 22 = .ok (.ldc 50, 2) := dk_18 50 (dk_at dksX2_root_0 22 rfl rfl)
theorem dX2_root_24 : decode cX2_root 24 = .ok (.ireturn, 1) := dk_172 (dk_at dksX2_root_1 0 rfl rfl)
abbrev cX2_setWeak : ByteArray := prog_26_method_26_code
def yX2_setWeak : MethodName := ⟨RX2, "setWeak", "(II)I"⟩
def dkwX2_setWeak_1 : List UInt8 := [182, 0, 87, 167, 0, 5, 18, 50, 172]
abbrev dktX2_setWeak_1 : List UInt8 := dkwX2_setWeak_1 ++ []
def dkwX2_setWeak_0 : List UInt8 := [27, 3, 6, 184, 0, 46, 153, 0, 24, 42, 28, 182, 0, 76, 153, 0, 16, 42, 17, 4, 182, 27, 96, 28]
abbrev dktX2_setWeak_0 : List UInt8 := dkwX2_setWeak_0 ++ dktX2_setWeak_1
theorem dksX2_setWeak_0 : cX2_setWeak.data.toList.drop 0 = dktX2_setWeak_0 := by decide +kernel
theorem dksX2_setWeak_1 : cX2_setWeak.data.toList.drop 24 = dktX2_setWeak_1 := dk_seg dksX2_setWeak_0 24 rfl rfl
theorem dX2_setWeak_0 : decode cX2_setWeak 0 = .ok (.iload_n 1, 1) := dk_27 (dk_at dksX2_setWeak_0 0 rfl rfl)
theorem dX2_setWeak_1 : decode cX2_setWeak 1 = .ok (.iconst 0, 1) := dk_3 (dk_at dksX2_setWeak_0 1 rfl rfl)
theorem dX2_setWeak_2 : decode cX2_setWeak 2 = .ok (.iconst 3, 1) := dk_6 (dk_at dksX2_setWeak_0 2 rfl rfl)
theorem dX2_setWeak_3 : decode cX2_setWeak 3 = .ok (.invokestatic 46, 3) := dk_184 0 46 (dk_at dksX2_setWeak_0 3 rfl rfl)
theorem dX2_setWeak_6 : decode cX2_setWeak 6 = .ok (.ifCond .eq 24, 3) := dk_153 0 24 (dk_at dksX2_setWeak_0 6 rfl rfl)
theorem dX2_setWeak_9 : decode cX2_setWeak 9 = .ok (.aload_n 0, 1) := dk_42 (dk_at dksX2_setWeak_0 9 rfl rfl)
theorem dX2_setWeak_10 : decode cX2_setWeak 10 = .ok (.iload_n 2, 1) := dk_28 (dk_at dksX2_setWeak_0 10 rfl rfl)
theorem dX2_setWeak_11 : decode cX2_setWeak 11 = .ok (.invokevirtual 76, 3) := dk_182 0 76 (dk_at dksX2_setWeak_0 11 rfl rfl)
theorem dX2_setWeak_14 : decode cX2_setWeak 14 = .ok (.ifCond .eq 16, 3) := dk_153 0 16 (dk_at dksX2_setWeak_0 14 rfl rfl)
theorem dX2_setWeak_17 : decode cX2_setWeak 17 = .ok (.aload_n 0, 1) := dk_42 (dk_at dksX2_setWeak_0 17 rfl rfl)
theorem dX2_setWeak_18 : decode cX2_setWeak 18 = .ok (.sipush 1206, 3) := dk_17 4 182 (dk_at dksX2_setWeak_0 18 rfl rfl)
theorem dX2_setWeak_21 : decode cX2_setWeak 21 = .ok (.iload_n 1, 1) := dk_27 (dk_at dksX2_setWeak_0 21 rfl rfl)
theorem dX2_setWeak_22 : decode cX2_setWeak 22 = .ok (.iadd, 1) := dk_96 (dk_at dksX2_setWeak_0 22 rfl rfl)
theorem dX2_setWeak_23 : decode cX2_setWeak 23 = .ok (.iload_n 2, 1) := dk_28 (dk_at dksX2_setWeak_0 23 rfl rfl)
theorem dX2_setWeak_24 : decode cX2_setWeak 24 = .ok (.invokevirtual 87, 3) := dk_182 0 87 (dk_at dksX2_setWeak_1 0 rfl rfl)
theorem dX2_setWeak_27 : decode cX2_setWeak 27 = .ok (.goto 5, 3) := dk_167 0 5 (dk_at dksX2_setWeak_1 3 rfl rfl)
theorem dX2_setWeak_30 : decode cX2_setWeak 30 = .ok (.ldc 50, 2) := dk_18 50 (dk_at dksX2_setWeak_1 6 rfl rfl)
theorem dX2_setWeak_32 : decode cX2_setWeak 32 = .ok (.ireturn, 1) := dk_172 (dk_at dksX2_setWeak_1 8 rfl rfl)
abbrev cX2_weak : ByteArray := prog_26_method_27_code
def yX2_weak : MethodName := ⟨RX2, "weak", "(I)I"⟩
def dkwX2_weak_1 : List UInt8 := [172]
abbrev dktX2_weak_1 : List UInt8 := dkwX2_weak_1 ++ []
def dkwX2_weak_0 : List UInt8 := [27, 3, 6, 184, 0, 46, 153, 0, 16, 42, 180, 0, 7, 17, 4, 182, 27, 96, 46, 167, 0, 5, 18, 50]
abbrev dktX2_weak_0 : List UInt8 := dkwX2_weak_0 ++ dktX2_weak_1
theorem dksX2_weak_0 : cX2_weak.data.toList.drop 0 = dktX2_weak_0 := by decide +kernel
theorem dksX2_weak_1 : cX2_weak.data.toList.drop 24 = dktX2_weak_1 := dk_seg dksX2_weak_0 24 rfl rfl
theorem dX2_weak_0 : decode cX2_weak 0 = .ok (.iload_n 1, 1) := dk_27 (dk_at dksX2_weak_0 0 rfl rfl)
theorem dX2_weak_1 : decode cX2_weak 1 = .ok (.iconst 0, 1) := dk_3 (dk_at dksX2_weak_0 1 rfl rfl)
theorem dX2_weak_2 : decode cX2_weak 2 = .ok (.iconst 3, 1) := dk_6 (dk_at dksX2_weak_0 2 rfl rfl)
theorem dX2_weak_3 : decode cX2_weak 3 = .ok (.invokestatic 46, 3) := dk_184 0 46 (dk_at dksX2_weak_0 3 rfl rfl)
theorem dX2_weak_6 : decode cX2_weak 6 = .ok (.ifCond .eq 16, 3) := dk_153 0 16 (dk_at dksX2_weak_0 6 rfl rfl)
theorem dX2_weak_9 : decode cX2_weak 9 = .ok (.aload_n 0, 1) := dk_42 (dk_at dksX2_weak_0 9 rfl rfl)
theorem dX2_weak_10 : decode cX2_weak 10 = .ok (.getfield 7, 3) := dk_180 0 7 (dk_at dksX2_weak_0 10 rfl rfl)
theorem dX2_weak_13 : decode cX2_weak 13 = .ok (.sipush 1206, 3) := dk_17 4 182 (dk_at dksX2_weak_0 13 rfl rfl)
theorem dX2_weak_16 : decode cX2_weak 16 = .ok (.iload_n 1, 1) := dk_27 (dk_at dksX2_weak_0 16 rfl rfl)
theorem dX2_weak_17 : decode cX2_weak 17 = .ok (.iadd, 1) := dk_96 (dk_at dksX2_weak_0 17 rfl rfl)
theorem dX2_weak_18 : decode cX2_weak 18 = .ok (.iaload, 1) := dk_46 (dk_at dksX2_weak_0 18 rfl rfl)
theorem dX2_weak_19 : decode cX2_weak 19 = .ok (.goto 5, 3) := dk_167 0 5 (dk_at dksX2_weak_0 19 rfl rfl)
theorem dX2_weak_22 : decode cX2_weak 22 = .ok (.ldc 50, 2) := dk_18 50 (dk_at dksX2_weak_0 22 rfl rfl)
theorem dX2_weak_24 : decode cX2_weak 24 = .ok (.ireturn, 1) := dk_172 (dk_at dksX2_weak_1 0 rfl rfl)
abbrev cX2_collect : ByteArray := prog_26_method_34_code
def yX2_collect : MethodName := ⟨RX2, "collect", "()I"⟩
def dkwX2_collect_15 : List UInt8 := [96, 79, 27, 21, 5, 100, 172]
abbrev dktX2_collect_15 : List UInt8 := dkwX2_collect_15 ++ []
def dkwX2_collect_14 : List UInt8 := [180, 0, 7, 17, 4, 195, 92, 46, 4, 96, 79, 42, 180, 0, 7, 17, 4, 196, 92, 46, 27, 21, 5, 100]
abbrev dktX2_collect_14 : List UInt8 := dkwX2_collect_14 ++ dktX2_collect_15
def dkwX2_collect_13 : List UInt8 := [21, 6, 79, 42, 180, 0, 7, 17, 4, 191, 21, 7, 79, 42, 180, 0, 7, 17, 4, 197, 4, 79, 42]
abbrev dktX2_collect_13 : List UInt8 := dkwX2_collect_13 ++ dktX2_collect_14
def dkwX2_collect_12 : List UInt8 := [17, 4, 188, 28, 79, 42, 180, 0, 7, 17, 4, 189, 42, 180, 0, 98, 79, 42, 180, 0, 7, 17, 4, 190]
abbrev dktX2_collect_12 : List UInt8 := dkwX2_collect_12 ++ dktX2_collect_13
def dkwX2_collect_11 : List UInt8 := [180, 0, 7, 17, 4, 186, 21, 4, 79, 42, 180, 0, 7, 17, 4, 187, 21, 5, 79, 42, 180, 0, 7]
abbrev dktX2_collect_11 : List UInt8 := dkwX2_collect_11 ++ dktX2_collect_12
def dkwX2_collect_10 : List UInt8 := [42, 180, 0, 13, 3, 21, 8, 96, 46, 104, 96, 54, 7, 132, 8, 1, 167, 255, 86, 42, 182, 0, 117, 42]
abbrev dktX2_collect_10 : List UInt8 := dkwX2_collect_10 ++ dktX2_collect_11
def dkwX2_collect_9 : List UInt8 := [21, 6, 21, 9, 21, 8, 160, 0, 7, 3, 167, 0, 4, 4, 96, 54, 6, 21, 7, 21, 8, 21, 9, 100]
abbrev dktX2_collect_9 : List UInt8 := dkwX2_collect_9 ++ dktX2_collect_10
def dkwX2_collect_8 : List UInt8 := [3, 21, 8, 96, 46, 96, 62, 132, 4, 1, 21, 5, 42, 180, 0, 13, 3, 21, 8, 96, 46, 96, 54, 5]
abbrev dktX2_collect_8 : List UInt8 := dkwX2_collect_8 ++ dktX2_collect_9
def dkwX2_collect_7 : List UInt8 := [21, 8, 96, 21, 10, 96, 21, 9, 21, 10, 96, 79, 132, 10, 1, 167, 255, 220, 21, 9, 42, 180, 0, 13]
abbrev dktX2_collect_7 : List UInt8 := dkwX2_collect_7 ++ dktX2_collect_8
def dkwX2_collect_6 : List UInt8 := [54, 10, 21, 10, 42, 180, 0, 13, 3, 21, 8, 96, 46, 162, 0, 28, 42, 180, 0, 7, 17, 3, 232]
abbrev dktX2_collect_6 : List UInt8 := dkwX2_collect_6 ++ dktX2_collect_7
def dkwX2_collect_5 : List UInt8 := [180, 0, 13, 17, 1, 144, 21, 8, 96, 46, 4, 160, 0, 8, 21, 8, 167, 0, 4, 29, 54, 9, 3]
abbrev dktX2_collect_5 : List UInt8 := dkwX2_collect_5 ++ dktX2_collect_6
def dkwX2_collect_4 : List UInt8 := [180, 0, 13, 3, 21, 8, 96, 46, 158, 0, 145, 42, 180, 0, 33, 21, 8, 51, 153, 0, 135, 42]
abbrev dktX2_collect_4 : List UInt8 := dkwX2_collect_4 ++ dktX2_collect_5
def dkwX2_collect_3 : List UInt8 := [3, 54, 6, 3, 54, 7, 3, 54, 8, 21, 8, 42, 180, 0, 7, 17, 4, 192, 46, 162, 0, 163, 42]
abbrev dktX2_collect_3 : List UInt8 := dkwX2_collect_3 ++ dktX2_collect_4
def dkwX2_collect_2 : List UInt8 := [180, 0, 7, 17, 3, 232, 29, 96, 2, 79, 132, 3, 1, 167, 255, 235, 3, 62, 3, 54, 4, 3, 54, 5]
abbrev dktX2_collect_2 : List UInt8 := dkwX2_collect_2 ++ dktX2_collect_3
def dkwX2_collect_1 : List UInt8 := [42, 180, 0, 7, 29, 46, 79, 132, 3, 1, 167, 255, 234, 3, 62, 29, 17, 0, 200, 162, 0, 20, 42]
abbrev dktX2_collect_1 : List UInt8 := dkwX2_collect_1 ++ dktX2_collect_2
def dkwX2_collect_0 : List UInt8 := [42, 182, 0, 110, 60, 42, 182, 0, 114, 61, 3, 62, 29, 17, 4, 198, 162, 0, 21, 42, 180, 0, 13, 29]
abbrev dktX2_collect_0 : List UInt8 := dkwX2_collect_0 ++ dktX2_collect_1
theorem dksX2_collect_0 : cX2_collect.data.toList.drop 0 = dktX2_collect_0 := by decide +kernel
theorem dksX2_collect_1 : cX2_collect.data.toList.drop 24 = dktX2_collect_1 := dk_seg dksX2_collect_0 24 rfl rfl
theorem dksX2_collect_2 : cX2_collect.data.toList.drop 47 = dktX2_collect_2 := dk_seg dksX2_collect_1 23 rfl rfl
theorem dksX2_collect_3 : cX2_collect.data.toList.drop 71 = dktX2_collect_3 := dk_seg dksX2_collect_2 24 rfl rfl
theorem dksX2_collect_4 : cX2_collect.data.toList.drop 94 = dktX2_collect_4 := dk_seg dksX2_collect_3 23 rfl rfl
theorem dksX2_collect_5 : cX2_collect.data.toList.drop 116 = dktX2_collect_5 := dk_seg dksX2_collect_4 22 rfl rfl
theorem dksX2_collect_6 : cX2_collect.data.toList.drop 139 = dktX2_collect_6 := dk_seg dksX2_collect_5 23 rfl rfl
theorem dksX2_collect_7 : cX2_collect.data.toList.drop 162 = dktX2_collect_7 := dk_seg dksX2_collect_6 23 rfl rfl
theorem dksX2_collect_8 : cX2_collect.data.toList.drop 186 = dktX2_collect_8 := dk_seg dksX2_collect_7 24 rfl rfl
theorem dksX2_collect_9 : cX2_collect.data.toList.drop 210 = dktX2_collect_9 := dk_seg dksX2_collect_8 24 rfl rfl
theorem dksX2_collect_10 : cX2_collect.data.toList.drop 234 = dktX2_collect_10 := dk_seg dksX2_collect_9 24 rfl rfl
theorem dksX2_collect_11 : cX2_collect.data.toList.drop 258 = dktX2_collect_11 := dk_seg dksX2_collect_10 24 rfl rfl
theorem dksX2_collect_12 : cX2_collect.data.toList.drop 281 = dktX2_collect_12 := dk_seg dksX2_collect_11 23 rfl rfl
theorem dksX2_collect_13 : cX2_collect.data.toList.drop 305 = dktX2_collect_13 := dk_seg dksX2_collect_12 24 rfl rfl
theorem dksX2_collect_14 : cX2_collect.data.toList.drop 328 = dktX2_collect_14 := dk_seg dksX2_collect_13 23 rfl rfl
theorem dksX2_collect_15 : cX2_collect.data.toList.drop 352 = dktX2_collect_15 := dk_seg dksX2_collect_14 24 rfl rfl
theorem dX2_collect_0 : decode cX2_collect 0 = .ok (.aload_n 0, 1) := dk_42 (dk_at dksX2_collect_0 0 rfl rfl)
theorem dX2_collect_1 : decode cX2_collect 1 = .ok (.invokevirtual 110, 3) := dk_182 0 110 (dk_at dksX2_collect_0 1 rfl rfl)
theorem dX2_collect_4 : decode cX2_collect 4 = .ok (.istore_n 1, 1) := dk_60 (dk_at dksX2_collect_0 4 rfl rfl)
theorem dX2_collect_5 : decode cX2_collect 5 = .ok (.aload_n 0, 1) := dk_42 (dk_at dksX2_collect_0 5 rfl rfl)
theorem dX2_collect_6 : decode cX2_collect 6 = .ok (.invokevirtual 114, 3) := dk_182 0 114 (dk_at dksX2_collect_0 6 rfl rfl)
theorem dX2_collect_9 : decode cX2_collect 9 = .ok (.istore_n 2, 1) := dk_61 (dk_at dksX2_collect_0 9 rfl rfl)
theorem dX2_collect_10 : decode cX2_collect 10 = .ok (.iconst 0, 1) := dk_3 (dk_at dksX2_collect_0 10 rfl rfl)
theorem dX2_collect_11 : decode cX2_collect 11 = .ok (.istore_n 3, 1) := dk_62 (dk_at dksX2_collect_0 11 rfl rfl)
theorem dX2_collect_12 : decode cX2_collect 12 = .ok (.iload_n 3, 1) := dk_29 (dk_at dksX2_collect_0 12 rfl rfl)
theorem dX2_collect_13 : decode cX2_collect 13 = .ok (.sipush 1222, 3) := dk_17 4 198 (dk_at dksX2_collect_0 13 rfl rfl)
theorem dX2_collect_16 : decode cX2_collect 16 = .ok (.if_icmp .ge 21, 3) := dk_162 0 21 (dk_at dksX2_collect_0 16 rfl rfl)
theorem dX2_collect_19 : decode cX2_collect 19 = .ok (.aload_n 0, 1) := dk_42 (dk_at dksX2_collect_0 19 rfl rfl)
theorem dX2_collect_20 : decode cX2_collect 20 = .ok (.getfield 13, 3) := dk_180 0 13 (dk_at dksX2_collect_0 20 rfl rfl)
theorem dX2_collect_23 : decode cX2_collect 23 = .ok (.iload_n 3, 1) := dk_29 (dk_at dksX2_collect_0 23 rfl rfl)
theorem dX2_collect_24 : decode cX2_collect 24 = .ok (.aload_n 0, 1) := dk_42 (dk_at dksX2_collect_1 0 rfl rfl)
theorem dX2_collect_25 : decode cX2_collect 25 = .ok (.getfield 7, 3) := dk_180 0 7 (dk_at dksX2_collect_1 1 rfl rfl)
theorem dX2_collect_28 : decode cX2_collect 28 = .ok (.iload_n 3, 1) := dk_29 (dk_at dksX2_collect_1 4 rfl rfl)
theorem dX2_collect_29 : decode cX2_collect 29 = .ok (.iaload, 1) := dk_46 (dk_at dksX2_collect_1 5 rfl rfl)
theorem dX2_collect_30 : decode cX2_collect 30 = .ok (.iastore, 1) := dk_79 (dk_at dksX2_collect_1 6 rfl rfl)
theorem dX2_collect_31 : decode cX2_collect 31 = .ok (.iinc 3 1, 3) := dk_132 3 1 (dk_at dksX2_collect_1 7 rfl rfl)
theorem dX2_collect_34 : decode cX2_collect 34 = .ok (.goto (-22), 3) := dk_167 255 234 (dk_at dksX2_collect_1 10 rfl rfl)
theorem dX2_collect_37 : decode cX2_collect 37 = .ok (.iconst 0, 1) := dk_3 (dk_at dksX2_collect_1 13 rfl rfl)
theorem dX2_collect_38 : decode cX2_collect 38 = .ok (.istore_n 3, 1) := dk_62 (dk_at dksX2_collect_1 14 rfl rfl)
theorem dX2_collect_39 : decode cX2_collect 39 = .ok (.iload_n 3, 1) := dk_29 (dk_at dksX2_collect_1 15 rfl rfl)
theorem dX2_collect_40 : decode cX2_collect 40 = .ok (.sipush 200, 3) := dk_17 0 200 (dk_at dksX2_collect_1 16 rfl rfl)
theorem dX2_collect_43 : decode cX2_collect 43 = .ok (.if_icmp .ge 20, 3) := dk_162 0 20 (dk_at dksX2_collect_1 19 rfl rfl)
theorem dX2_collect_46 : decode cX2_collect 46 = .ok (.aload_n 0, 1) := dk_42 (dk_at dksX2_collect_1 22 rfl rfl)
theorem dX2_collect_47 : decode cX2_collect 47 = .ok (.getfield 7, 3) := dk_180 0 7 (dk_at dksX2_collect_2 0 rfl rfl)
theorem dX2_collect_50 : decode cX2_collect 50 = .ok (.sipush 1000, 3) := dk_17 3 232 (dk_at dksX2_collect_2 3 rfl rfl)
theorem dX2_collect_53 : decode cX2_collect 53 = .ok (.iload_n 3, 1) := dk_29 (dk_at dksX2_collect_2 6 rfl rfl)
theorem dX2_collect_54 : decode cX2_collect 54 = .ok (.iadd, 1) := dk_96 (dk_at dksX2_collect_2 7 rfl rfl)
theorem dX2_collect_55 : decode cX2_collect 55 = .ok (.iconst (-1), 1) := dk_2 (dk_at dksX2_collect_2 8 rfl rfl)
theorem dX2_collect_56 : decode cX2_collect 56 = .ok (.iastore, 1) := dk_79 (dk_at dksX2_collect_2 9 rfl rfl)
theorem dX2_collect_57 : decode cX2_collect 57 = .ok (.iinc 3 1, 3) := dk_132 3 1 (dk_at dksX2_collect_2 10 rfl rfl)
theorem dX2_collect_60 : decode cX2_collect 60 = .ok (.goto (-21), 3) := dk_167 255 235 (dk_at dksX2_collect_2 13 rfl rfl)
theorem dX2_collect_63 : decode cX2_collect 63 = .ok (.iconst 0, 1) := dk_3 (dk_at dksX2_collect_2 16 rfl rfl)
theorem dX2_collect_64 : decode cX2_collect 64 = .ok (.istore_n 3, 1) := dk_62 (dk_at dksX2_collect_2 17 rfl rfl)
theorem dX2_collect_65 : decode cX2_collect 65 = .ok (.iconst 0, 1) := dk_3 (dk_at dksX2_collect_2 18 rfl rfl)
theorem dX2_collect_66 : decode cX2_collect 66 = .ok (.istore 4, 2) := dk_54 4 (dk_at dksX2_collect_2 19 rfl rfl)
theorem dX2_collect_68 : decode cX2_collect 68 = .ok (.iconst 0, 1) := dk_3 (dk_at dksX2_collect_2 21 rfl rfl)
theorem dX2_collect_69 : decode cX2_collect 69 = .ok (.istore 5, 2) := dk_54 5 (dk_at dksX2_collect_2 22 rfl rfl)
theorem dX2_collect_71 : decode cX2_collect 71 = .ok (.iconst 0, 1) := dk_3 (dk_at dksX2_collect_3 0 rfl rfl)
theorem dX2_collect_72 : decode cX2_collect 72 = .ok (.istore 6, 2) := dk_54 6 (dk_at dksX2_collect_3 1 rfl rfl)
theorem dX2_collect_74 : decode cX2_collect 74 = .ok (.iconst 0, 1) := dk_3 (dk_at dksX2_collect_3 3 rfl rfl)
theorem dX2_collect_75 : decode cX2_collect 75 = .ok (.istore 7, 2) := dk_54 7 (dk_at dksX2_collect_3 4 rfl rfl)
theorem dX2_collect_77 : decode cX2_collect 77 = .ok (.iconst 0, 1) := dk_3 (dk_at dksX2_collect_3 6 rfl rfl)
theorem dX2_collect_78 : decode cX2_collect 78 = .ok (.istore 8, 2) := dk_54 8 (dk_at dksX2_collect_3 7 rfl rfl)
theorem dX2_collect_80 : decode cX2_collect 80 = .ok (.iload 8, 2) := dk_21 8 (dk_at dksX2_collect_3 9 rfl rfl)
theorem dX2_collect_82 : decode cX2_collect 82 = .ok (.aload_n 0, 1) := dk_42 (dk_at dksX2_collect_3 11 rfl rfl)
theorem dX2_collect_83 : decode cX2_collect 83 = .ok (.getfield 7, 3) := dk_180 0 7 (dk_at dksX2_collect_3 12 rfl rfl)
theorem dX2_collect_86 : decode cX2_collect 86 = .ok (.sipush 1216, 3) := dk_17 4 192 (dk_at dksX2_collect_3 15 rfl rfl)
theorem dX2_collect_89 : decode cX2_collect 89 = .ok (.iaload, 1) := dk_46 (dk_at dksX2_collect_3 18 rfl rfl)
theorem dX2_collect_90 : decode cX2_collect 90 = .ok (.if_icmp .ge 163, 3) := dk_162 0 163 (dk_at dksX2_collect_3 19 rfl rfl)
theorem dX2_collect_93 : decode cX2_collect 93 = .ok (.aload_n 0, 1) := dk_42 (dk_at dksX2_collect_3 22 rfl rfl)
theorem dX2_collect_94 : decode cX2_collect 94 = .ok (.getfield 13, 3) := dk_180 0 13 (dk_at dksX2_collect_4 0 rfl rfl)
theorem dX2_collect_97 : decode cX2_collect 97 = .ok (.iconst 0, 1) := dk_3 (dk_at dksX2_collect_4 3 rfl rfl)
theorem dX2_collect_98 : decode cX2_collect 98 = .ok (.iload 8, 2) := dk_21 8 (dk_at dksX2_collect_4 4 rfl rfl)
theorem dX2_collect_100 : decode cX2_collect 100 = .ok (.iadd, 1) := dk_96 (dk_at dksX2_collect_4 6 rfl rfl)
theorem dX2_collect_101 : decode cX2_collect 101 = .ok (.iaload, 1) := dk_46 (dk_at dksX2_collect_4 7 rfl rfl)
theorem dX2_collect_102 : decode cX2_collect 102 = .ok (.ifCond .le 145, 3) := dk_158 0 145 (dk_at dksX2_collect_4 8 rfl rfl)
theorem dX2_collect_105 : decode cX2_collect 105 = .ok (.aload_n 0, 1) := dk_42 (dk_at dksX2_collect_4 11 rfl rfl)
theorem dX2_collect_106 : decode cX2_collect 106 = .ok (.getfield 33, 3) := dk_180 0 33 (dk_at dksX2_collect_4 12 rfl rfl)
theorem dX2_collect_109 : decode cX2_collect 109 = .ok (.iload 8, 2) := dk_21 8 (dk_at dksX2_collect_4 15 rfl rfl)
theorem dX2_collect_111 : decode cX2_collect 111 = .ok (.baload, 1) := dk_51 (dk_at dksX2_collect_4 17 rfl rfl)
theorem dX2_collect_112 : decode cX2_collect 112 = .ok (.ifCond .eq 135, 3) := dk_153 0 135 (dk_at dksX2_collect_4 18 rfl rfl)
theorem dX2_collect_115 : decode cX2_collect 115 = .ok (.aload_n 0, 1) := dk_42 (dk_at dksX2_collect_4 21 rfl rfl)
theorem dX2_collect_116 : decode cX2_collect 116 = .ok (.getfield 13, 3) := dk_180 0 13 (dk_at dksX2_collect_5 0 rfl rfl)
theorem dX2_collect_119 : decode cX2_collect 119 = .ok (.sipush 400, 3) := dk_17 1 144 (dk_at dksX2_collect_5 3 rfl rfl)
theorem dX2_collect_122 : decode cX2_collect 122 = .ok (.iload 8, 2) := dk_21 8 (dk_at dksX2_collect_5 6 rfl rfl)
theorem dX2_collect_124 : decode cX2_collect 124 = .ok (.iadd, 1) := dk_96 (dk_at dksX2_collect_5 8 rfl rfl)
theorem dX2_collect_125 : decode cX2_collect 125 = .ok (.iaload, 1) := dk_46 (dk_at dksX2_collect_5 9 rfl rfl)
theorem dX2_collect_126 : decode cX2_collect 126 = .ok (.iconst 1, 1) := dk_4 (dk_at dksX2_collect_5 10 rfl rfl)
theorem dX2_collect_127 : decode cX2_collect 127 = .ok (.if_icmp .ne 8, 3) := dk_160 0 8 (dk_at dksX2_collect_5 11 rfl rfl)
theorem dX2_collect_130 : decode cX2_collect 130 = .ok (.iload 8, 2) := dk_21 8 (dk_at dksX2_collect_5 14 rfl rfl)
theorem dX2_collect_132 : decode cX2_collect 132 = .ok (.goto 4, 3) := dk_167 0 4 (dk_at dksX2_collect_5 16 rfl rfl)
theorem dX2_collect_135 : decode cX2_collect 135 = .ok (.iload_n 3, 1) := dk_29 (dk_at dksX2_collect_5 19 rfl rfl)
theorem dX2_collect_136 : decode cX2_collect 136 = .ok (.istore 9, 2) := dk_54 9 (dk_at dksX2_collect_5 20 rfl rfl)
theorem dX2_collect_138 : decode cX2_collect 138 = .ok (.iconst 0, 1) := dk_3 (dk_at dksX2_collect_5 22 rfl rfl)
theorem dX2_collect_139 : decode cX2_collect 139 = .ok (.istore 10, 2) := dk_54 10 (dk_at dksX2_collect_6 0 rfl rfl)
theorem dX2_collect_141 : decode cX2_collect 141 = .ok (.iload 10, 2) := dk_21 10 (dk_at dksX2_collect_6 2 rfl rfl)
theorem dX2_collect_143 : decode cX2_collect 143 = .ok (.aload_n 0, 1) := dk_42 (dk_at dksX2_collect_6 4 rfl rfl)
theorem dX2_collect_144 : decode cX2_collect 144 = .ok (.getfield 13, 3) := dk_180 0 13 (dk_at dksX2_collect_6 5 rfl rfl)
theorem dX2_collect_147 : decode cX2_collect 147 = .ok (.iconst 0, 1) := dk_3 (dk_at dksX2_collect_6 8 rfl rfl)
theorem dX2_collect_148 : decode cX2_collect 148 = .ok (.iload 8, 2) := dk_21 8 (dk_at dksX2_collect_6 9 rfl rfl)
theorem dX2_collect_150 : decode cX2_collect 150 = .ok (.iadd, 1) := dk_96 (dk_at dksX2_collect_6 11 rfl rfl)
theorem dX2_collect_151 : decode cX2_collect 151 = .ok (.iaload, 1) := dk_46 (dk_at dksX2_collect_6 12 rfl rfl)
theorem dX2_collect_152 : decode cX2_collect 152 = .ok (.if_icmp .ge 28, 3) := dk_162 0 28 (dk_at dksX2_collect_6 13 rfl rfl)
theorem dX2_collect_155 : decode cX2_collect 155 = .ok (.aload_n 0, 1) := dk_42 (dk_at dksX2_collect_6 16 rfl rfl)
theorem dX2_collect_156 : decode cX2_collect 156 = .ok (.getfield 7, 3) := dk_180 0 7 (dk_at dksX2_collect_6 17 rfl rfl)
theorem dX2_collect_159 : decode cX2_collect 159 = .ok (.sipush 1000, 3) := dk_17 3 232 (dk_at dksX2_collect_6 20 rfl rfl)
theorem dX2_collect_162 : decode cX2_collect 162 = .ok (.iload 8, 2) := dk_21 8 (dk_at dksX2_collect_7 0 rfl rfl)
theorem dX2_collect_164 : decode cX2_collect 164 = .ok (.iadd, 1) := dk_96 (dk_at dksX2_collect_7 2 rfl rfl)
theorem dX2_collect_165 : decode cX2_collect 165 = .ok (.iload 10, 2) := dk_21 10 (dk_at dksX2_collect_7 3 rfl rfl)
theorem dX2_collect_167 : decode cX2_collect 167 = .ok (.iadd, 1) := dk_96 (dk_at dksX2_collect_7 5 rfl rfl)
theorem dX2_collect_168 : decode cX2_collect 168 = .ok (.iload 9, 2) := dk_21 9 (dk_at dksX2_collect_7 6 rfl rfl)
theorem dX2_collect_170 : decode cX2_collect 170 = .ok (.iload 10, 2) := dk_21 10 (dk_at dksX2_collect_7 8 rfl rfl)
theorem dX2_collect_172 : decode cX2_collect 172 = .ok (.iadd, 1) := dk_96 (dk_at dksX2_collect_7 10 rfl rfl)
theorem dX2_collect_173 : decode cX2_collect 173 = .ok (.iastore, 1) := dk_79 (dk_at dksX2_collect_7 11 rfl rfl)
theorem dX2_collect_174 : decode cX2_collect 174 = .ok (.iinc 10 1, 3) := dk_132 10 1 (dk_at dksX2_collect_7 12 rfl rfl)
theorem dX2_collect_177 : decode cX2_collect 177 = .ok (.goto (-36), 3) := dk_167 255 220 (dk_at dksX2_collect_7 15 rfl rfl)
theorem dX2_collect_180 : decode cX2_collect 180 = .ok (.iload 9, 2) := dk_21 9 (dk_at dksX2_collect_7 18 rfl rfl)
theorem dX2_collect_182 : decode cX2_collect 182 = .ok (.aload_n 0, 1) := dk_42 (dk_at dksX2_collect_7 20 rfl rfl)
theorem dX2_collect_183 : decode cX2_collect 183 = .ok (.getfield 13, 3) := dk_180 0 13 (dk_at dksX2_collect_7 21 rfl rfl)
theorem dX2_collect_186 : decode cX2_collect 186 = .ok (.iconst 0, 1) := dk_3 (dk_at dksX2_collect_8 0 rfl rfl)
theorem dX2_collect_187 : decode cX2_collect 187 = .ok (.iload 8, 2) := dk_21 8 (dk_at dksX2_collect_8 1 rfl rfl)
theorem dX2_collect_189 : decode cX2_collect 189 = .ok (.iadd, 1) := dk_96 (dk_at dksX2_collect_8 3 rfl rfl)
theorem dX2_collect_190 : decode cX2_collect 190 = .ok (.iaload, 1) := dk_46 (dk_at dksX2_collect_8 4 rfl rfl)
theorem dX2_collect_191 : decode cX2_collect 191 = .ok (.iadd, 1) := dk_96 (dk_at dksX2_collect_8 5 rfl rfl)
theorem dX2_collect_192 : decode cX2_collect 192 = .ok (.istore_n 3, 1) := dk_62 (dk_at dksX2_collect_8 6 rfl rfl)
theorem dX2_collect_193 : decode cX2_collect 193 = .ok (.iinc 4 1, 3) := dk_132 4 1 (dk_at dksX2_collect_8 7 rfl rfl)
theorem dX2_collect_196 : decode cX2_collect 196 = .ok (.iload 5, 2) := dk_21 5 (dk_at dksX2_collect_8 10 rfl rfl)
theorem dX2_collect_198 : decode cX2_collect 198 = .ok (.aload_n 0, 1) := dk_42 (dk_at dksX2_collect_8 12 rfl rfl)
theorem dX2_collect_199 : decode cX2_collect 199 = .ok (.getfield 13, 3) := dk_180 0 13 (dk_at dksX2_collect_8 13 rfl rfl)
theorem dX2_collect_202 : decode cX2_collect 202 = .ok (.iconst 0, 1) := dk_3 (dk_at dksX2_collect_8 16 rfl rfl)
theorem dX2_collect_203 : decode cX2_collect 203 = .ok (.iload 8, 2) := dk_21 8 (dk_at dksX2_collect_8 17 rfl rfl)
theorem dX2_collect_205 : decode cX2_collect 205 = .ok (.iadd, 1) := dk_96 (dk_at dksX2_collect_8 19 rfl rfl)
theorem dX2_collect_206 : decode cX2_collect 206 = .ok (.iaload, 1) := dk_46 (dk_at dksX2_collect_8 20 rfl rfl)
theorem dX2_collect_207 : decode cX2_collect 207 = .ok (.iadd, 1) := dk_96 (dk_at dksX2_collect_8 21 rfl rfl)
theorem dX2_collect_208 : decode cX2_collect 208 = .ok (.istore 5, 2) := dk_54 5 (dk_at dksX2_collect_8 22 rfl rfl)
theorem dX2_collect_210 : decode cX2_collect 210 = .ok (.iload 6, 2) := dk_21 6 (dk_at dksX2_collect_9 0 rfl rfl)
theorem dX2_collect_212 : decode cX2_collect 212 = .ok (.iload 9, 2) := dk_21 9 (dk_at dksX2_collect_9 2 rfl rfl)
theorem dX2_collect_214 : decode cX2_collect 214 = .ok (.iload 8, 2) := dk_21 8 (dk_at dksX2_collect_9 4 rfl rfl)
theorem dX2_collect_216 : decode cX2_collect 216 = .ok (.if_icmp .ne 7, 3) := dk_160 0 7 (dk_at dksX2_collect_9 6 rfl rfl)
theorem dX2_collect_219 : decode cX2_collect 219 = .ok (.iconst 0, 1) := dk_3 (dk_at dksX2_collect_9 9 rfl rfl)
theorem dX2_collect_220 : decode cX2_collect 220 = .ok (.goto 4, 3) := dk_167 0 4 (dk_at dksX2_collect_9 10 rfl rfl)
theorem dX2_collect_223 : decode cX2_collect 223 = .ok (.iconst 1, 1) := dk_4 (dk_at dksX2_collect_9 13 rfl rfl)
theorem dX2_collect_224 : decode cX2_collect 224 = .ok (.iadd, 1) := dk_96 (dk_at dksX2_collect_9 14 rfl rfl)
theorem dX2_collect_225 : decode cX2_collect 225 = .ok (.istore 6, 2) := dk_54 6 (dk_at dksX2_collect_9 15 rfl rfl)
theorem dX2_collect_227 : decode cX2_collect 227 = .ok (.iload 7, 2) := dk_21 7 (dk_at dksX2_collect_9 17 rfl rfl)
theorem dX2_collect_229 : decode cX2_collect 229 = .ok (.iload 8, 2) := dk_21 8 (dk_at dksX2_collect_9 19 rfl rfl)
theorem dX2_collect_231 : decode cX2_collect 231 = .ok (.iload 9, 2) := dk_21 9 (dk_at dksX2_collect_9 21 rfl rfl)
theorem dX2_collect_233 : decode cX2_collect 233 = .ok (.isub, 1) := dk_100 (dk_at dksX2_collect_9 23 rfl rfl)
theorem dX2_collect_234 : decode cX2_collect 234 = .ok (.aload_n 0, 1) := dk_42 (dk_at dksX2_collect_10 0 rfl rfl)
theorem dX2_collect_235 : decode cX2_collect 235 = .ok (.getfield 13, 3) := dk_180 0 13 (dk_at dksX2_collect_10 1 rfl rfl)
theorem dX2_collect_238 : decode cX2_collect 238 = .ok (.iconst 0, 1) := dk_3 (dk_at dksX2_collect_10 4 rfl rfl)
theorem dX2_collect_239 : decode cX2_collect 239 = .ok (.iload 8, 2) := dk_21 8 (dk_at dksX2_collect_10 5 rfl rfl)
theorem dX2_collect_241 : decode cX2_collect 241 = .ok (.iadd, 1) := dk_96 (dk_at dksX2_collect_10 7 rfl rfl)
theorem dX2_collect_242 : decode cX2_collect 242 = .ok (.iaload, 1) := dk_46 (dk_at dksX2_collect_10 8 rfl rfl)
theorem dX2_collect_243 : decode cX2_collect 243 = .ok (.imul, 1) := dk_104 (dk_at dksX2_collect_10 9 rfl rfl)
theorem dX2_collect_244 : decode cX2_collect 244 = .ok (.iadd, 1) := dk_96 (dk_at dksX2_collect_10 10 rfl rfl)
theorem dX2_collect_245 : decode cX2_collect 245 = .ok (.istore 7, 2) := dk_54 7 (dk_at dksX2_collect_10 11 rfl rfl)
theorem dX2_collect_247 : decode cX2_collect 247 = .ok (.iinc 8 1, 3) := dk_132 8 1 (dk_at dksX2_collect_10 13 rfl rfl)
theorem dX2_collect_250 : decode cX2_collect 250 = .ok (.goto (-170), 3) := dk_167 255 86 (dk_at dksX2_collect_10 16 rfl rfl)
theorem dX2_collect_253 : decode cX2_collect 253 = .ok (.aload_n 0, 1) := dk_42 (dk_at dksX2_collect_10 19 rfl rfl)
theorem dX2_collect_254 : decode cX2_collect 254 = .ok (.invokevirtual 117, 3) := dk_182 0 117 (dk_at dksX2_collect_10 20 rfl rfl)
theorem dX2_collect_257 : decode cX2_collect 257 = .ok (.aload_n 0, 1) := dk_42 (dk_at dksX2_collect_10 23 rfl rfl)
theorem dX2_collect_258 : decode cX2_collect 258 = .ok (.getfield 7, 3) := dk_180 0 7 (dk_at dksX2_collect_11 0 rfl rfl)
theorem dX2_collect_261 : decode cX2_collect 261 = .ok (.sipush 1210, 3) := dk_17 4 186 (dk_at dksX2_collect_11 3 rfl rfl)
theorem dX2_collect_264 : decode cX2_collect 264 = .ok (.iload 4, 2) := dk_21 4 (dk_at dksX2_collect_11 6 rfl rfl)
theorem dX2_collect_266 : decode cX2_collect 266 = .ok (.iastore, 1) := dk_79 (dk_at dksX2_collect_11 8 rfl rfl)
theorem dX2_collect_267 : decode cX2_collect 267 = .ok (.aload_n 0, 1) := dk_42 (dk_at dksX2_collect_11 9 rfl rfl)
theorem dX2_collect_268 : decode cX2_collect 268 = .ok (.getfield 7, 3) := dk_180 0 7 (dk_at dksX2_collect_11 10 rfl rfl)
theorem dX2_collect_271 : decode cX2_collect 271 = .ok (.sipush 1211, 3) := dk_17 4 187 (dk_at dksX2_collect_11 13 rfl rfl)
theorem dX2_collect_274 : decode cX2_collect 274 = .ok (.iload 5, 2) := dk_21 5 (dk_at dksX2_collect_11 16 rfl rfl)
theorem dX2_collect_276 : decode cX2_collect 276 = .ok (.iastore, 1) := dk_79 (dk_at dksX2_collect_11 18 rfl rfl)
theorem dX2_collect_277 : decode cX2_collect 277 = .ok (.aload_n 0, 1) := dk_42 (dk_at dksX2_collect_11 19 rfl rfl)
theorem dX2_collect_278 : decode cX2_collect 278 = .ok (.getfield 7, 3) := dk_180 0 7 (dk_at dksX2_collect_11 20 rfl rfl)
theorem dX2_collect_281 : decode cX2_collect 281 = .ok (.sipush 1212, 3) := dk_17 4 188 (dk_at dksX2_collect_12 0 rfl rfl)
theorem dX2_collect_284 : decode cX2_collect 284 = .ok (.iload_n 2, 1) := dk_28 (dk_at dksX2_collect_12 3 rfl rfl)
theorem dX2_collect_285 : decode cX2_collect 285 = .ok (.iastore, 1) := dk_79 (dk_at dksX2_collect_12 4 rfl rfl)
theorem dX2_collect_286 : decode cX2_collect 286 = .ok (.aload_n 0, 1) := dk_42 (dk_at dksX2_collect_12 5 rfl rfl)
theorem dX2_collect_287 : decode cX2_collect 287 = .ok (.getfield 7, 3) := dk_180 0 7 (dk_at dksX2_collect_12 6 rfl rfl)
theorem dX2_collect_290 : decode cX2_collect 290 = .ok (.sipush 1213, 3) := dk_17 4 189 (dk_at dksX2_collect_12 9 rfl rfl)
theorem dX2_collect_293 : decode cX2_collect 293 = .ok (.aload_n 0, 1) := dk_42 (dk_at dksX2_collect_12 12 rfl rfl)
theorem dX2_collect_294 : decode cX2_collect 294 = .ok (.getfield 98, 3) := dk_180 0 98 (dk_at dksX2_collect_12 13 rfl rfl)
theorem dX2_collect_297 : decode cX2_collect 297 = .ok (.iastore, 1) := dk_79 (dk_at dksX2_collect_12 16 rfl rfl)
theorem dX2_collect_298 : decode cX2_collect 298 = .ok (.aload_n 0, 1) := dk_42 (dk_at dksX2_collect_12 17 rfl rfl)
theorem dX2_collect_299 : decode cX2_collect 299 = .ok (.getfield 7, 3) := dk_180 0 7 (dk_at dksX2_collect_12 18 rfl rfl)
theorem dX2_collect_302 : decode cX2_collect 302 = .ok (.sipush 1214, 3) := dk_17 4 190 (dk_at dksX2_collect_12 21 rfl rfl)
theorem dX2_collect_305 : decode cX2_collect 305 = .ok (.iload 6, 2) := dk_21 6 (dk_at dksX2_collect_13 0 rfl rfl)
theorem dX2_collect_307 : decode cX2_collect 307 = .ok (.iastore, 1) := dk_79 (dk_at dksX2_collect_13 2 rfl rfl)
theorem dX2_collect_308 : decode cX2_collect 308 = .ok (.aload_n 0, 1) := dk_42 (dk_at dksX2_collect_13 3 rfl rfl)
theorem dX2_collect_309 : decode cX2_collect 309 = .ok (.getfield 7, 3) := dk_180 0 7 (dk_at dksX2_collect_13 4 rfl rfl)
theorem dX2_collect_312 : decode cX2_collect 312 = .ok (.sipush 1215, 3) := dk_17 4 191 (dk_at dksX2_collect_13 7 rfl rfl)
theorem dX2_collect_315 : decode cX2_collect 315 = .ok (.iload 7, 2) := dk_21 7 (dk_at dksX2_collect_13 10 rfl rfl)
theorem dX2_collect_317 : decode cX2_collect 317 = .ok (.iastore, 1) := dk_79 (dk_at dksX2_collect_13 12 rfl rfl)
theorem dX2_collect_318 : decode cX2_collect 318 = .ok (.aload_n 0, 1) := dk_42 (dk_at dksX2_collect_13 13 rfl rfl)
theorem dX2_collect_319 : decode cX2_collect 319 = .ok (.getfield 7, 3) := dk_180 0 7 (dk_at dksX2_collect_13 14 rfl rfl)
theorem dX2_collect_322 : decode cX2_collect 322 = .ok (.sipush 1221, 3) := dk_17 4 197 (dk_at dksX2_collect_13 17 rfl rfl)
theorem dX2_collect_325 : decode cX2_collect 325 = .ok (.iconst 1, 1) := dk_4 (dk_at dksX2_collect_13 20 rfl rfl)
theorem dX2_collect_326 : decode cX2_collect 326 = .ok (.iastore, 1) := dk_79 (dk_at dksX2_collect_13 21 rfl rfl)
theorem dX2_collect_327 : decode cX2_collect 327 = .ok (.aload_n 0, 1) := dk_42 (dk_at dksX2_collect_13 22 rfl rfl)
theorem dX2_collect_328 : decode cX2_collect 328 = .ok (.getfield 7, 3) := dk_180 0 7 (dk_at dksX2_collect_14 0 rfl rfl)
theorem dX2_collect_331 : decode cX2_collect 331 = .ok (.sipush 1219, 3) := dk_17 4 195 (dk_at dksX2_collect_14 3 rfl rfl)
theorem dX2_collect_334 : decode cX2_collect 334 = .ok (.dup2, 1) := dk_92 (dk_at dksX2_collect_14 6 rfl rfl)
theorem dX2_collect_335 : decode cX2_collect 335 = .ok (.iaload, 1) := dk_46 (dk_at dksX2_collect_14 7 rfl rfl)
theorem dX2_collect_336 : decode cX2_collect 336 = .ok (.iconst 1, 1) := dk_4 (dk_at dksX2_collect_14 8 rfl rfl)
theorem dX2_collect_337 : decode cX2_collect 337 = .ok (.iadd, 1) := dk_96 (dk_at dksX2_collect_14 9 rfl rfl)
theorem dX2_collect_338 : decode cX2_collect 338 = .ok (.iastore, 1) := dk_79 (dk_at dksX2_collect_14 10 rfl rfl)
theorem dX2_collect_339 : decode cX2_collect 339 = .ok (.aload_n 0, 1) := dk_42 (dk_at dksX2_collect_14 11 rfl rfl)
theorem dX2_collect_340 : decode cX2_collect 340 = .ok (.getfield 7, 3) := dk_180 0 7 (dk_at dksX2_collect_14 12 rfl rfl)
theorem dX2_collect_343 : decode cX2_collect 343 = .ok (.sipush 1220, 3) := dk_17 4 196 (dk_at dksX2_collect_14 15 rfl rfl)
theorem dX2_collect_346 : decode cX2_collect 346 = .ok (.dup2, 1) := dk_92 (dk_at dksX2_collect_14 18 rfl rfl)
theorem dX2_collect_347 : decode cX2_collect 347 = .ok (.iaload, 1) := dk_46 (dk_at dksX2_collect_14 19 rfl rfl)
theorem dX2_collect_348 : decode cX2_collect 348 = .ok (.iload_n 1, 1) := dk_27 (dk_at dksX2_collect_14 20 rfl rfl)
theorem dX2_collect_349 : decode cX2_collect 349 = .ok (.iload 5, 2) := dk_21 5 (dk_at dksX2_collect_14 21 rfl rfl)
theorem dX2_collect_351 : decode cX2_collect 351 = .ok (.isub, 1) := dk_100 (dk_at dksX2_collect_14 23 rfl rfl)
theorem dX2_collect_352 : decode cX2_collect 352 = .ok (.iadd, 1) := dk_96 (dk_at dksX2_collect_15 0 rfl rfl)
theorem dX2_collect_353 : decode cX2_collect 353 = .ok (.iastore, 1) := dk_79 (dk_at dksX2_collect_15 1 rfl rfl)
theorem dX2_collect_354 : decode cX2_collect 354 = .ok (.iload_n 1, 1) := dk_27 (dk_at dksX2_collect_15 2 rfl rfl)
theorem dX2_collect_355 : decode cX2_collect 355 = .ok (.iload 5, 2) := dk_21 5 (dk_at dksX2_collect_15 3 rfl rfl)
theorem dX2_collect_357 : decode cX2_collect 357 = .ok (.isub, 1) := dk_100 (dk_at dksX2_collect_15 5 rfl rfl)
theorem dX2_collect_358 : decode cX2_collect 358 = .ok (.ireturn, 1) := dk_172 (dk_at dksX2_collect_15 6 rfl rfl)
abbrev cX2_occupied : ByteArray := prog_26_method_33_code
def yX2_occupied : MethodName := ⟨RX2, "occupied", "()I"⟩
def dkwX2_occupied_1 : List UInt8 := [46, 96, 60, 132, 2, 1, 167, 255, 230, 27, 172]
abbrev dktX2_occupied_1 : List UInt8 := dkwX2_occupied_1 ++ []
def dkwX2_occupied_0 : List UInt8 := [3, 60, 3, 61, 28, 42, 180, 0, 7, 17, 4, 192, 46, 162, 0, 20, 27, 42, 180, 0, 7, 3, 28, 96]
abbrev dktX2_occupied_0 : List UInt8 := dkwX2_occupied_0 ++ dktX2_occupied_1
theorem dksX2_occupied_0 : cX2_occupied.data.toList.drop 0 = dktX2_occupied_0 := by decide +kernel
theorem dksX2_occupied_1 : cX2_occupied.data.toList.drop 24 = dktX2_occupied_1 := dk_seg dksX2_occupied_0 24 rfl rfl
theorem dX2_occupied_0 : decode cX2_occupied 0 = .ok (.iconst 0, 1) := dk_3 (dk_at dksX2_occupied_0 0 rfl rfl)
theorem dX2_occupied_1 : decode cX2_occupied 1 = .ok (.istore_n 1, 1) := dk_60 (dk_at dksX2_occupied_0 1 rfl rfl)
theorem dX2_occupied_2 : decode cX2_occupied 2 = .ok (.iconst 0, 1) := dk_3 (dk_at dksX2_occupied_0 2 rfl rfl)
theorem dX2_occupied_3 : decode cX2_occupied 3 = .ok (.istore_n 2, 1) := dk_61 (dk_at dksX2_occupied_0 3 rfl rfl)
theorem dX2_occupied_4 : decode cX2_occupied 4 = .ok (.iload_n 2, 1) := dk_28 (dk_at dksX2_occupied_0 4 rfl rfl)
theorem dX2_occupied_5 : decode cX2_occupied 5 = .ok (.aload_n 0, 1) := dk_42 (dk_at dksX2_occupied_0 5 rfl rfl)
theorem dX2_occupied_6 : decode cX2_occupied 6 = .ok (.getfield 7, 3) := dk_180 0 7 (dk_at dksX2_occupied_0 6 rfl rfl)
theorem dX2_occupied_9 : decode cX2_occupied 9 = .ok (.sipush 1216, 3) := dk_17 4 192 (dk_at dksX2_occupied_0 9 rfl rfl)
theorem dX2_occupied_12 : decode cX2_occupied 12 = .ok (.iaload, 1) := dk_46 (dk_at dksX2_occupied_0 12 rfl rfl)
theorem dX2_occupied_13 : decode cX2_occupied 13 = .ok (.if_icmp .ge 20, 3) := dk_162 0 20 (dk_at dksX2_occupied_0 13 rfl rfl)
theorem dX2_occupied_16 : decode cX2_occupied 16 = .ok (.iload_n 1, 1) := dk_27 (dk_at dksX2_occupied_0 16 rfl rfl)
theorem dX2_occupied_17 : decode cX2_occupied 17 = .ok (.aload_n 0, 1) := dk_42 (dk_at dksX2_occupied_0 17 rfl rfl)
theorem dX2_occupied_18 : decode cX2_occupied 18 = .ok (.getfield 7, 3) := dk_180 0 7 (dk_at dksX2_occupied_0 18 rfl rfl)
theorem dX2_occupied_21 : decode cX2_occupied 21 = .ok (.iconst 0, 1) := dk_3 (dk_at dksX2_occupied_0 21 rfl rfl)
theorem dX2_occupied_22 : decode cX2_occupied 22 = .ok (.iload_n 2, 1) := dk_28 (dk_at dksX2_occupied_0 22 rfl rfl)
theorem dX2_occupied_23 : decode cX2_occupied 23 = .ok (.iadd, 1) := dk_96 (dk_at dksX2_occupied_0 23 rfl rfl)
theorem dX2_occupied_24 : decode cX2_occupied 24 = .ok (.iaload, 1) := dk_46 (dk_at dksX2_occupied_1 0 rfl rfl)
theorem dX2_occupied_25 : decode cX2_occupied 25 = .ok (.iadd, 1) := dk_96 (dk_at dksX2_occupied_1 1 rfl rfl)
theorem dX2_occupied_26 : decode cX2_occupied 26 = .ok (.istore_n 1, 1) := dk_60 (dk_at dksX2_occupied_1 2 rfl rfl)
theorem dX2_occupied_27 : decode cX2_occupied 27 = .ok (.iinc 2 1, 3) := dk_132 2 1 (dk_at dksX2_occupied_1 3 rfl rfl)
theorem dX2_occupied_30 : decode cX2_occupied 30 = .ok (.goto (-26), 3) := dk_167 255 230 (dk_at dksX2_occupied_1 6 rfl rfl)
theorem dX2_occupied_33 : decode cX2_occupied 33 = .ok (.iload_n 1, 1) := dk_27 (dk_at dksX2_occupied_1 9 rfl rfl)
theorem dX2_occupied_34 : decode cX2_occupied 34 = .ok (.ireturn, 1) := dk_172 (dk_at dksX2_occupied_1 10 rfl rfl)
abbrev cX2_marks : ByteArray := prog_26_method_31_code
def yX2_marks : MethodName := ⟨RX2, "marks", "()I"⟩
def dkwX2_marks_6 : List UInt8 := [132, 1, 1, 42, 182, 0, 107, 167, 255, 237, 27, 172]
abbrev dktX2_marks_6 : List UInt8 := dkwX2_marks_6 ++ []
def dkwX2_marks_5 : List UInt8 := [182, 0, 104, 132, 1, 1, 167, 255, 203, 3, 60, 42, 180, 0, 94, 153, 0, 18, 42, 3, 181, 0, 94]
abbrev dktX2_marks_5 : List UInt8 := dkwX2_marks_5 ++ dktX2_marks_6
def dkwX2_marks_4 : List UInt8 := [42, 180, 0, 7, 17, 1, 144, 27, 96, 46, 4, 160, 0, 7, 27, 167, 0, 4, 2, 182, 0, 101, 42]
abbrev dktX2_marks_4 : List UInt8 := dkwX2_marks_4 ++ dktX2_marks_5
def dkwX2_marks_3 : List UInt8 := [27, 42, 180, 0, 7, 17, 4, 192, 46, 162, 0, 47, 42, 42, 180, 0, 7, 3, 27, 96, 46, 158, 0, 21]
abbrev dktX2_marks_3 : List UInt8 := dkwX2_marks_3 ++ dktX2_marks_4
def dkwX2_marks_2 : List UInt8 := [180, 0, 7, 17, 4, 176, 27, 96, 46, 182, 0, 101, 42, 182, 0, 104, 132, 1, 1, 167, 255, 229, 3, 60]
abbrev dktX2_marks_2 : List UInt8 := dkwX2_marks_2 ++ dktX2_marks_3
def dkwX2_marks_1 : List UInt8 := [181, 0, 91, 42, 3, 181, 0, 98, 42, 3, 181, 0, 94, 3, 60, 27, 16, 6, 162, 0, 27, 42, 42]
abbrev dktX2_marks_1 : List UInt8 := dkwX2_marks_1 ++ dktX2_marks_2
def dkwX2_marks_0 : List UInt8 := [3, 60, 27, 17, 0, 200, 162, 0, 16, 42, 180, 0, 33, 27, 3, 84, 132, 1, 1, 167, 255, 239, 42, 3]
abbrev dktX2_marks_0 : List UInt8 := dkwX2_marks_0 ++ dktX2_marks_1
theorem dksX2_marks_0 : cX2_marks.data.toList.drop 0 = dktX2_marks_0 := by decide +kernel
theorem dksX2_marks_1 : cX2_marks.data.toList.drop 24 = dktX2_marks_1 := dk_seg dksX2_marks_0 24 rfl rfl
theorem dksX2_marks_2 : cX2_marks.data.toList.drop 47 = dktX2_marks_2 := dk_seg dksX2_marks_1 23 rfl rfl
theorem dksX2_marks_3 : cX2_marks.data.toList.drop 71 = dktX2_marks_3 := dk_seg dksX2_marks_2 24 rfl rfl
theorem dksX2_marks_4 : cX2_marks.data.toList.drop 95 = dktX2_marks_4 := dk_seg dksX2_marks_3 24 rfl rfl
theorem dksX2_marks_5 : cX2_marks.data.toList.drop 118 = dktX2_marks_5 := dk_seg dksX2_marks_4 23 rfl rfl
theorem dksX2_marks_6 : cX2_marks.data.toList.drop 141 = dktX2_marks_6 := dk_seg dksX2_marks_5 23 rfl rfl
theorem dX2_marks_0 : decode cX2_marks 0 = .ok (.iconst 0, 1) := dk_3 (dk_at dksX2_marks_0 0 rfl rfl)
theorem dX2_marks_1 : decode cX2_marks 1 = .ok (.istore_n 1, 1) := dk_60 (dk_at dksX2_marks_0 1 rfl rfl)
theorem dX2_marks_2 : decode cX2_marks 2 = .ok (.iload_n 1, 1) := dk_27 (dk_at dksX2_marks_0 2 rfl rfl)
theorem dX2_marks_3 : decode cX2_marks 3 = .ok (.sipush 200, 3) := dk_17 0 200 (dk_at dksX2_marks_0 3 rfl rfl)
theorem dX2_marks_6 : decode cX2_marks 6 = .ok (.if_icmp .ge 16, 3) := dk_162 0 16 (dk_at dksX2_marks_0 6 rfl rfl)
theorem dX2_marks_9 : decode cX2_marks 9 = .ok (.aload_n 0, 1) := dk_42 (dk_at dksX2_marks_0 9 rfl rfl)
theorem dX2_marks_10 : decode cX2_marks 10 = .ok (.getfield 33, 3) := dk_180 0 33 (dk_at dksX2_marks_0 10 rfl rfl)
theorem dX2_marks_13 : decode cX2_marks 13 = .ok (.iload_n 1, 1) := dk_27 (dk_at dksX2_marks_0 13 rfl rfl)
theorem dX2_marks_14 : decode cX2_marks 14 = .ok (.iconst 0, 1) := dk_3 (dk_at dksX2_marks_0 14 rfl rfl)
theorem dX2_marks_15 : decode cX2_marks 15 = .ok (.bastore, 1) := dk_84 (dk_at dksX2_marks_0 15 rfl rfl)
theorem dX2_marks_16 : decode cX2_marks 16 = .ok (.iinc 1 1, 3) := dk_132 1 1 (dk_at dksX2_marks_0 16 rfl rfl)
theorem dX2_marks_19 : decode cX2_marks 19 = .ok (.goto (-17), 3) := dk_167 255 239 (dk_at dksX2_marks_0 19 rfl rfl)
theorem dX2_marks_22 : decode cX2_marks 22 = .ok (.aload_n 0, 1) := dk_42 (dk_at dksX2_marks_0 22 rfl rfl)
theorem dX2_marks_23 : decode cX2_marks 23 = .ok (.iconst 0, 1) := dk_3 (dk_at dksX2_marks_0 23 rfl rfl)
theorem dX2_marks_24 : decode cX2_marks 24 = .ok (.putfield 91, 3) := dk_181 0 91 (dk_at dksX2_marks_1 0 rfl rfl)
theorem dX2_marks_27 : decode cX2_marks 27 = .ok (.aload_n 0, 1) := dk_42 (dk_at dksX2_marks_1 3 rfl rfl)
theorem dX2_marks_28 : decode cX2_marks 28 = .ok (.iconst 0, 1) := dk_3 (dk_at dksX2_marks_1 4 rfl rfl)
theorem dX2_marks_29 : decode cX2_marks 29 = .ok (.putfield 98, 3) := dk_181 0 98 (dk_at dksX2_marks_1 5 rfl rfl)
theorem dX2_marks_32 : decode cX2_marks 32 = .ok (.aload_n 0, 1) := dk_42 (dk_at dksX2_marks_1 8 rfl rfl)
theorem dX2_marks_33 : decode cX2_marks 33 = .ok (.iconst 0, 1) := dk_3 (dk_at dksX2_marks_1 9 rfl rfl)
theorem dX2_marks_34 : decode cX2_marks 34 = .ok (.putfield 94, 3) := dk_181 0 94 (dk_at dksX2_marks_1 10 rfl rfl)
theorem dX2_marks_37 : decode cX2_marks 37 = .ok (.iconst 0, 1) := dk_3 (dk_at dksX2_marks_1 13 rfl rfl)
theorem dX2_marks_38 : decode cX2_marks 38 = .ok (.istore_n 1, 1) := dk_60 (dk_at dksX2_marks_1 14 rfl rfl)
theorem dX2_marks_39 : decode cX2_marks 39 = .ok (.iload_n 1, 1) := dk_27 (dk_at dksX2_marks_1 15 rfl rfl)
theorem dX2_marks_40 : decode cX2_marks 40 = .ok (.bipush 6, 2) := dk_16 6 (dk_at dksX2_marks_1 16 rfl rfl)
theorem dX2_marks_42 : decode cX2_marks 42 = .ok (.if_icmp .ge 27, 3) := dk_162 0 27 (dk_at dksX2_marks_1 18 rfl rfl)
theorem dX2_marks_45 : decode cX2_marks 45 = .ok (.aload_n 0, 1) := dk_42 (dk_at dksX2_marks_1 21 rfl rfl)
theorem dX2_marks_46 : decode cX2_marks 46 = .ok (.aload_n 0, 1) := dk_42 (dk_at dksX2_marks_1 22 rfl rfl)
theorem dX2_marks_47 : decode cX2_marks 47 = .ok (.getfield 7, 3) := dk_180 0 7 (dk_at dksX2_marks_2 0 rfl rfl)
theorem dX2_marks_50 : decode cX2_marks 50 = .ok (.sipush 1200, 3) := dk_17 4 176 (dk_at dksX2_marks_2 3 rfl rfl)
theorem dX2_marks_53 : decode cX2_marks 53 = .ok (.iload_n 1, 1) := dk_27 (dk_at dksX2_marks_2 6 rfl rfl)
theorem dX2_marks_54 : decode cX2_marks 54 = .ok (.iadd, 1) := dk_96 (dk_at dksX2_marks_2 7 rfl rfl)
theorem dX2_marks_55 : decode cX2_marks 55 = .ok (.iaload, 1) := dk_46 (dk_at dksX2_marks_2 8 rfl rfl)
theorem dX2_marks_56 : decode cX2_marks 56 = .ok (.invokevirtual 101, 3) := dk_182 0 101 (dk_at dksX2_marks_2 9 rfl rfl)
theorem dX2_marks_59 : decode cX2_marks 59 = .ok (.aload_n 0, 1) := dk_42 (dk_at dksX2_marks_2 12 rfl rfl)
theorem dX2_marks_60 : decode cX2_marks 60 = .ok (.invokevirtual 104, 3) := dk_182 0 104 (dk_at dksX2_marks_2 13 rfl rfl)
theorem dX2_marks_63 : decode cX2_marks 63 = .ok (.iinc 1 1, 3) := dk_132 1 1 (dk_at dksX2_marks_2 16 rfl rfl)
theorem dX2_marks_66 : decode cX2_marks 66 = .ok (.goto (-27), 3) := dk_167 255 229 (dk_at dksX2_marks_2 19 rfl rfl)
theorem dX2_marks_69 : decode cX2_marks 69 = .ok (.iconst 0, 1) := dk_3 (dk_at dksX2_marks_2 22 rfl rfl)
theorem dX2_marks_70 : decode cX2_marks 70 = .ok (.istore_n 1, 1) := dk_60 (dk_at dksX2_marks_2 23 rfl rfl)
theorem dX2_marks_71 : decode cX2_marks 71 = .ok (.iload_n 1, 1) := dk_27 (dk_at dksX2_marks_3 0 rfl rfl)
theorem dX2_marks_72 : decode cX2_marks 72 = .ok (.aload_n 0, 1) := dk_42 (dk_at dksX2_marks_3 1 rfl rfl)
theorem dX2_marks_73 : decode cX2_marks 73 = .ok (.getfield 7, 3) := dk_180 0 7 (dk_at dksX2_marks_3 2 rfl rfl)
theorem dX2_marks_76 : decode cX2_marks 76 = .ok (.sipush 1216, 3) := dk_17 4 192 (dk_at dksX2_marks_3 5 rfl rfl)
theorem dX2_marks_79 : decode cX2_marks 79 = .ok (.iaload, 1) := dk_46 (dk_at dksX2_marks_3 8 rfl rfl)
theorem dX2_marks_80 : decode cX2_marks 80 = .ok (.if_icmp .ge 47, 3) := dk_162 0 47 (dk_at dksX2_marks_3 9 rfl rfl)
theorem dX2_marks_83 : decode cX2_marks 83 = .ok (.aload_n 0, 1) := dk_42 (dk_at dksX2_marks_3 12 rfl rfl)
theorem dX2_marks_84 : decode cX2_marks 84 = .ok (.aload_n 0, 1) := dk_42 (dk_at dksX2_marks_3 13 rfl rfl)
theorem dX2_marks_85 : decode cX2_marks 85 = .ok (.getfield 7, 3) := dk_180 0 7 (dk_at dksX2_marks_3 14 rfl rfl)
theorem dX2_marks_88 : decode cX2_marks 88 = .ok (.iconst 0, 1) := dk_3 (dk_at dksX2_marks_3 17 rfl rfl)
theorem dX2_marks_89 : decode cX2_marks 89 = .ok (.iload_n 1, 1) := dk_27 (dk_at dksX2_marks_3 18 rfl rfl)
theorem dX2_marks_90 : decode cX2_marks 90 = .ok (.iadd, 1) := dk_96 (dk_at dksX2_marks_3 19 rfl rfl)
theorem dX2_marks_91 : decode cX2_marks 91 = .ok (.iaload, 1) := dk_46 (dk_at dksX2_marks_3 20 rfl rfl)
theorem dX2_marks_92 : decode cX2_marks 92 = .ok (.ifCond .le 21, 3) := dk_158 0 21 (dk_at dksX2_marks_3 21 rfl rfl)
theorem dX2_marks_95 : decode cX2_marks 95 = .ok (.aload_n 0, 1) := dk_42 (dk_at dksX2_marks_4 0 rfl rfl)
theorem dX2_marks_96 : decode cX2_marks 96 = .ok (.getfield 7, 3) := dk_180 0 7 (dk_at dksX2_marks_4 1 rfl rfl)
theorem dX2_marks_99 : decode cX2_marks 99 = .ok (.sipush 400, 3) := dk_17 1 144 (dk_at dksX2_marks_4 4 rfl rfl)
theorem dX2_marks_102 : decode cX2_marks 102 = .ok (.iload_n 1, 1) := dk_27 (dk_at dksX2_marks_4 7 rfl rfl)
theorem dX2_marks_103 : decode cX2_marks 103 = .ok (.iadd, 1) := dk_96 (dk_at dksX2_marks_4 8 rfl rfl)
theorem dX2_marks_104 : decode cX2_marks 104 = .ok (.iaload, 1) := dk_46 (dk_at dksX2_marks_4 9 rfl rfl)
theorem dX2_marks_105 : decode cX2_marks 105 = .ok (.iconst 1, 1) := dk_4 (dk_at dksX2_marks_4 10 rfl rfl)
theorem dX2_marks_106 : decode cX2_marks 106 = .ok (.if_icmp .ne 7, 3) := dk_160 0 7 (dk_at dksX2_marks_4 11 rfl rfl)
theorem dX2_marks_109 : decode cX2_marks 109 = .ok (.iload_n 1, 1) := dk_27 (dk_at dksX2_marks_4 14 rfl rfl)
theorem dX2_marks_110 : decode cX2_marks 110 = .ok (.goto 4, 3) := dk_167 0 4 (dk_at dksX2_marks_4 15 rfl rfl)
theorem dX2_marks_113 : decode cX2_marks 113 = .ok (.iconst (-1), 1) := dk_2 (dk_at dksX2_marks_4 18 rfl rfl)
theorem dX2_marks_114 : decode cX2_marks 114 = .ok (.invokevirtual 101, 3) := dk_182 0 101 (dk_at dksX2_marks_4 19 rfl rfl)
theorem dX2_marks_117 : decode cX2_marks 117 = .ok (.aload_n 0, 1) := dk_42 (dk_at dksX2_marks_4 22 rfl rfl)
theorem dX2_marks_118 : decode cX2_marks 118 = .ok (.invokevirtual 104, 3) := dk_182 0 104 (dk_at dksX2_marks_5 0 rfl rfl)
theorem dX2_marks_121 : decode cX2_marks 121 = .ok (.iinc 1 1, 3) := dk_132 1 1 (dk_at dksX2_marks_5 3 rfl rfl)
theorem dX2_marks_124 : decode cX2_marks 124 = .ok (.goto (-53), 3) := dk_167 255 203 (dk_at dksX2_marks_5 6 rfl rfl)
theorem dX2_marks_127 : decode cX2_marks 127 = .ok (.iconst 0, 1) := dk_3 (dk_at dksX2_marks_5 9 rfl rfl)
theorem dX2_marks_128 : decode cX2_marks 128 = .ok (.istore_n 1, 1) := dk_60 (dk_at dksX2_marks_5 10 rfl rfl)
theorem dX2_marks_129 : decode cX2_marks 129 = .ok (.aload_n 0, 1) := dk_42 (dk_at dksX2_marks_5 11 rfl rfl)
theorem dX2_marks_130 : decode cX2_marks 130 = .ok (.getfield 94, 3) := dk_180 0 94 (dk_at dksX2_marks_5 12 rfl rfl)
theorem dX2_marks_133 : decode cX2_marks 133 = .ok (.ifCond .eq 18, 3) := dk_153 0 18 (dk_at dksX2_marks_5 15 rfl rfl)
theorem dX2_marks_136 : decode cX2_marks 136 = .ok (.aload_n 0, 1) := dk_42 (dk_at dksX2_marks_5 18 rfl rfl)
theorem dX2_marks_137 : decode cX2_marks 137 = .ok (.iconst 0, 1) := dk_3 (dk_at dksX2_marks_5 19 rfl rfl)
theorem dX2_marks_138 : decode cX2_marks 138 = .ok (.putfield 94, 3) := dk_181 0 94 (dk_at dksX2_marks_5 20 rfl rfl)
theorem dX2_marks_141 : decode cX2_marks 141 = .ok (.iinc 1 1, 3) := dk_132 1 1 (dk_at dksX2_marks_6 0 rfl rfl)
theorem dX2_marks_144 : decode cX2_marks 144 = .ok (.aload_n 0, 1) := dk_42 (dk_at dksX2_marks_6 3 rfl rfl)
theorem dX2_marks_145 : decode cX2_marks 145 = .ok (.invokevirtual 107, 3) := dk_182 0 107 (dk_at dksX2_marks_6 4 rfl rfl)
theorem dX2_marks_148 : decode cX2_marks 148 = .ok (.goto (-19), 3) := dk_167 255 237 (dk_at dksX2_marks_6 7 rfl rfl)
theorem dX2_marks_151 : decode cX2_marks 151 = .ok (.iload_n 1, 1) := dk_27 (dk_at dksX2_marks_6 10 rfl rfl)
theorem dX2_marks_152 : decode cX2_marks 152 = .ok (.ireturn, 1) := dk_172 (dk_at dksX2_marks_6 11 rfl rfl)
abbrev cX2_reach : ByteArray := prog_26_method_28_code
def yX2_reach : MethodName := ⟨RX2, "reach", "(I)V"⟩
def dkwX2_reach_4 : List UInt8 := [167, 0, 7, 42, 180, 0, 98, 181, 0, 98, 177]
abbrev dktX2_reach_4 : List UInt8 := dkwX2_reach_4 ++ []
def dkwX2_reach_3 : List UInt8 := [180, 0, 91, 4, 96, 181, 0, 91, 42, 42, 180, 0, 91, 42, 180, 0, 98, 164, 0, 10, 42, 180, 0, 91]
abbrev dktX2_reach_3 : List UInt8 := dkwX2_reach_3 ++ dktX2_reach_4
def dkwX2_reach_2 : List UInt8 := [46, 160, 0, 9, 42, 4, 181, 0, 94, 177, 42, 180, 0, 36, 42, 180, 0, 91, 28, 79, 42, 89]
abbrev dktX2_reach_2 : List UInt8 := dkwX2_reach_2 ++ dktX2_reach_3
def dkwX2_reach_1 : List UInt8 := [28, 51, 153, 0, 4, 177, 42, 180, 0, 33, 28, 4, 84, 42, 180, 0, 91, 42, 180, 0, 7, 17, 4, 193]
abbrev dktX2_reach_1 : List UInt8 := dkwX2_reach_1 ++ dktX2_reach_2
def dkwX2_reach_0 : List UInt8 := [27, 2, 160, 0, 7, 2, 167, 0, 8, 42, 27, 182, 0, 51, 61, 28, 2, 159, 0, 12, 42, 180, 0, 33]
abbrev dktX2_reach_0 : List UInt8 := dkwX2_reach_0 ++ dktX2_reach_1
theorem dksX2_reach_0 : cX2_reach.data.toList.drop 0 = dktX2_reach_0 := by decide +kernel
theorem dksX2_reach_1 : cX2_reach.data.toList.drop 24 = dktX2_reach_1 := dk_seg dksX2_reach_0 24 rfl rfl
theorem dksX2_reach_2 : cX2_reach.data.toList.drop 48 = dktX2_reach_2 := dk_seg dksX2_reach_1 24 rfl rfl
theorem dksX2_reach_3 : cX2_reach.data.toList.drop 70 = dktX2_reach_3 := dk_seg dksX2_reach_2 22 rfl rfl
theorem dksX2_reach_4 : cX2_reach.data.toList.drop 94 = dktX2_reach_4 := dk_seg dksX2_reach_3 24 rfl rfl
theorem dX2_reach_0 : decode cX2_reach 0 = .ok (.iload_n 1, 1) := dk_27 (dk_at dksX2_reach_0 0 rfl rfl)
theorem dX2_reach_1 : decode cX2_reach 1 = .ok (.iconst (-1), 1) := dk_2 (dk_at dksX2_reach_0 1 rfl rfl)
theorem dX2_reach_2 : decode cX2_reach 2 = .ok (.if_icmp .ne 7, 3) := dk_160 0 7 (dk_at dksX2_reach_0 2 rfl rfl)
theorem dX2_reach_5 : decode cX2_reach 5 = .ok (.iconst (-1), 1) := dk_2 (dk_at dksX2_reach_0 5 rfl rfl)
theorem dX2_reach_6 : decode cX2_reach 6 = .ok (.goto 8, 3) := dk_167 0 8 (dk_at dksX2_reach_0 6 rfl rfl)
theorem dX2_reach_9 : decode cX2_reach 9 = .ok (.aload_n 0, 1) := dk_42 (dk_at dksX2_reach_0 9 rfl rfl)
theorem dX2_reach_10 : decode cX2_reach 10 = .ok (.iload_n 1, 1) := dk_27 (dk_at dksX2_reach_0 10 rfl rfl)
theorem dX2_reach_11 : decode cX2_reach 11 = .ok (.invokevirtual 51, 3) := dk_182 0 51 (dk_at dksX2_reach_0 11 rfl rfl)
theorem dX2_reach_14 : decode cX2_reach 14 = .ok (.istore_n 2, 1) := dk_61 (dk_at dksX2_reach_0 14 rfl rfl)
theorem dX2_reach_15 : decode cX2_reach 15 = .ok (.iload_n 2, 1) := dk_28 (dk_at dksX2_reach_0 15 rfl rfl)
theorem dX2_reach_16 : decode cX2_reach 16 = .ok (.iconst (-1), 1) := dk_2 (dk_at dksX2_reach_0 16 rfl rfl)
theorem dX2_reach_17 : decode cX2_reach 17 = .ok (.if_icmp .eq 12, 3) := dk_159 0 12 (dk_at dksX2_reach_0 17 rfl rfl)
theorem dX2_reach_20 : decode cX2_reach 20 = .ok (.aload_n 0, 1) := dk_42 (dk_at dksX2_reach_0 20 rfl rfl)
theorem dX2_reach_21 : decode cX2_reach 21 = .ok (.getfield 33, 3) := dk_180 0 33 (dk_at dksX2_reach_0 21 rfl rfl)
theorem dX2_reach_24 : decode cX2_reach 24 = .ok (.iload_n 2, 1) := dk_28 (dk_at dksX2_reach_1 0 rfl rfl)
theorem dX2_reach_25 : decode cX2_reach 25 = .ok (.baload, 1) := dk_51 (dk_at dksX2_reach_1 1 rfl rfl)
theorem dX2_reach_26 : decode cX2_reach 26 = .ok (.ifCond .eq 4, 3) := dk_153 0 4 (dk_at dksX2_reach_1 2 rfl rfl)
theorem dX2_reach_29 : decode cX2_reach 29 = .ok (.return_, 1) := dk_177 (dk_at dksX2_reach_1 5 rfl rfl)
theorem dX2_reach_30 : decode cX2_reach 30 = .ok (.aload_n 0, 1) := dk_42 (dk_at dksX2_reach_1 6 rfl rfl)
theorem dX2_reach_31 : decode cX2_reach 31 = .ok (.getfield 33, 3) := dk_180 0 33 (dk_at dksX2_reach_1 7 rfl rfl)
theorem dX2_reach_34 : decode cX2_reach 34 = .ok (.iload_n 2, 1) := dk_28 (dk_at dksX2_reach_1 10 rfl rfl)
theorem dX2_reach_35 : decode cX2_reach 35 = .ok (.iconst 1, 1) := dk_4 (dk_at dksX2_reach_1 11 rfl rfl)
theorem dX2_reach_36 : decode cX2_reach 36 = .ok (.bastore, 1) := dk_84 (dk_at dksX2_reach_1 12 rfl rfl)
theorem dX2_reach_37 : decode cX2_reach 37 = .ok (.aload_n 0, 1) := dk_42 (dk_at dksX2_reach_1 13 rfl rfl)
theorem dX2_reach_38 : decode cX2_reach 38 = .ok (.getfield 91, 3) := dk_180 0 91 (dk_at dksX2_reach_1 14 rfl rfl)
theorem dX2_reach_41 : decode cX2_reach 41 = .ok (.aload_n 0, 1) := dk_42 (dk_at dksX2_reach_1 17 rfl rfl)
theorem dX2_reach_42 : decode cX2_reach 42 = .ok (.getfield 7, 3) := dk_180 0 7 (dk_at dksX2_reach_1 18 rfl rfl)
theorem dX2_reach_45 : decode cX2_reach 45 = .ok (.sipush 1217, 3) := dk_17 4 193 (dk_at dksX2_reach_1 21 rfl rfl)
theorem dX2_reach_48 : decode cX2_reach 48 = .ok (.iaload, 1) := dk_46 (dk_at dksX2_reach_2 0 rfl rfl)
theorem dX2_reach_49 : decode cX2_reach 49 = .ok (.if_icmp .ne 9, 3) := dk_160 0 9 (dk_at dksX2_reach_2 1 rfl rfl)
theorem dX2_reach_52 : decode cX2_reach 52 = .ok (.aload_n 0, 1) := dk_42 (dk_at dksX2_reach_2 4 rfl rfl)
theorem dX2_reach_53 : decode cX2_reach 53 = .ok (.iconst 1, 1) := dk_4 (dk_at dksX2_reach_2 5 rfl rfl)
theorem dX2_reach_54 : decode cX2_reach 54 = .ok (.putfield 94, 3) := dk_181 0 94 (dk_at dksX2_reach_2 6 rfl rfl)
theorem dX2_reach_57 : decode cX2_reach 57 = .ok (.return_, 1) := dk_177 (dk_at dksX2_reach_2 9 rfl rfl)
theorem dX2_reach_58 : decode cX2_reach 58 = .ok (.aload_n 0, 1) := dk_42 (dk_at dksX2_reach_2 10 rfl rfl)
theorem dX2_reach_59 : decode cX2_reach 59 = .ok (.getfield 36, 3) := dk_180 0 36 (dk_at dksX2_reach_2 11 rfl rfl)
theorem dX2_reach_62 : decode cX2_reach 62 = .ok (.aload_n 0, 1) := dk_42 (dk_at dksX2_reach_2 14 rfl rfl)
theorem dX2_reach_63 : decode cX2_reach 63 = .ok (.getfield 91, 3) := dk_180 0 91 (dk_at dksX2_reach_2 15 rfl rfl)
theorem dX2_reach_66 : decode cX2_reach 66 = .ok (.iload_n 2, 1) := dk_28 (dk_at dksX2_reach_2 18 rfl rfl)
theorem dX2_reach_67 : decode cX2_reach 67 = .ok (.iastore, 1) := dk_79 (dk_at dksX2_reach_2 19 rfl rfl)
theorem dX2_reach_68 : decode cX2_reach 68 = .ok (.aload_n 0, 1) := dk_42 (dk_at dksX2_reach_2 20 rfl rfl)
theorem dX2_reach_69 : decode cX2_reach 69 = .ok (.dup, 1) := dk_89 (dk_at dksX2_reach_2 21 rfl rfl)
theorem dX2_reach_70 : decode cX2_reach 70 = .ok (.getfield 91, 3) := dk_180 0 91 (dk_at dksX2_reach_3 0 rfl rfl)
theorem dX2_reach_73 : decode cX2_reach 73 = .ok (.iconst 1, 1) := dk_4 (dk_at dksX2_reach_3 3 rfl rfl)
theorem dX2_reach_74 : decode cX2_reach 74 = .ok (.iadd, 1) := dk_96 (dk_at dksX2_reach_3 4 rfl rfl)
theorem dX2_reach_75 : decode cX2_reach 75 = .ok (.putfield 91, 3) := dk_181 0 91 (dk_at dksX2_reach_3 5 rfl rfl)
theorem dX2_reach_78 : decode cX2_reach 78 = .ok (.aload_n 0, 1) := dk_42 (dk_at dksX2_reach_3 8 rfl rfl)
theorem dX2_reach_79 : decode cX2_reach 79 = .ok (.aload_n 0, 1) := dk_42 (dk_at dksX2_reach_3 9 rfl rfl)
theorem dX2_reach_80 : decode cX2_reach 80 = .ok (.getfield 91, 3) := dk_180 0 91 (dk_at dksX2_reach_3 10 rfl rfl)
theorem dX2_reach_83 : decode cX2_reach 83 = .ok (.aload_n 0, 1) := dk_42 (dk_at dksX2_reach_3 13 rfl rfl)
theorem dX2_reach_84 : decode cX2_reach 84 = .ok (.getfield 98, 3) := dk_180 0 98 (dk_at dksX2_reach_3 14 rfl rfl)
theorem dX2_reach_87 : decode cX2_reach 87 = .ok (.if_icmp .le 10, 3) := dk_164 0 10 (dk_at dksX2_reach_3 17 rfl rfl)
theorem dX2_reach_90 : decode cX2_reach 90 = .ok (.aload_n 0, 1) := dk_42 (dk_at dksX2_reach_3 20 rfl rfl)
theorem dX2_reach_91 : decode cX2_reach 91 = .ok (.getfield 91, 3) := dk_180 0 91 (dk_at dksX2_reach_3 21 rfl rfl)
theorem dX2_reach_94 : decode cX2_reach 94 = .ok (.goto 7, 3) := dk_167 0 7 (dk_at dksX2_reach_4 0 rfl rfl)
theorem dX2_reach_97 : decode cX2_reach 97 = .ok (.aload_n 0, 1) := dk_42 (dk_at dksX2_reach_4 3 rfl rfl)
theorem dX2_reach_98 : decode cX2_reach 98 = .ok (.getfield 98, 3) := dk_180 0 98 (dk_at dksX2_reach_4 4 rfl rfl)
theorem dX2_reach_101 : decode cX2_reach 101 = .ok (.putfield 98, 3) := dk_181 0 98 (dk_at dksX2_reach_4 7 rfl rfl)
theorem dX2_reach_104 : decode cX2_reach 104 = .ok (.return_, 1) := dk_177 (dk_at dksX2_reach_4 10 rfl rfl)
abbrev cX2_drains : ByteArray := prog_26_method_29_code
def yX2_drains : MethodName := ⟨RX2, "drains", "()V"⟩
def dkwX2_drains_2 : List UInt8 := [180, 0, 7, 17, 3, 32, 27, 96, 28, 96, 46, 182, 0, 101, 132, 2, 1, 167, 255, 223, 167, 255, 191, 177]
abbrev dktX2_drains_2 : List UInt8 := dkwX2_drains_2 ++ []
def dkwX2_drains_1 : List UInt8 := [180, 0, 91, 46, 60, 4, 61, 28, 42, 180, 0, 7, 17, 0, 200, 27, 96, 46, 163, 0, 25, 42, 42]
abbrev dktX2_drains_1 : List UInt8 := dkwX2_drains_1 ++ dktX2_drains_2
def dkwX2_drains_0 : List UInt8 := [42, 180, 0, 91, 158, 0, 64, 42, 89, 180, 0, 91, 4, 100, 181, 0, 91, 42, 180, 0, 36, 42]
abbrev dktX2_drains_0 : List UInt8 := dkwX2_drains_0 ++ dktX2_drains_1
theorem dksX2_drains_0 : cX2_drains.data.toList.drop 0 = dktX2_drains_0 := by decide +kernel
theorem dksX2_drains_1 : cX2_drains.data.toList.drop 22 = dktX2_drains_1 := dk_seg dksX2_drains_0 22 rfl rfl
theorem dksX2_drains_2 : cX2_drains.data.toList.drop 45 = dktX2_drains_2 := dk_seg dksX2_drains_1 23 rfl rfl
theorem dX2_drains_0 : decode cX2_drains 0 = .ok (.aload_n 0, 1) := dk_42 (dk_at dksX2_drains_0 0 rfl rfl)
theorem dX2_drains_1 : decode cX2_drains 1 = .ok (.getfield 91, 3) := dk_180 0 91 (dk_at dksX2_drains_0 1 rfl rfl)
theorem dX2_drains_4 : decode cX2_drains 4 = .ok (.ifCond .le 64, 3) := dk_158 0 64 (dk_at dksX2_drains_0 4 rfl rfl)
theorem dX2_drains_7 : decode cX2_drains 7 = .ok (.aload_n 0, 1) := dk_42 (dk_at dksX2_drains_0 7 rfl rfl)
theorem dX2_drains_8 : decode cX2_drains 8 = .ok (.dup, 1) := dk_89 (dk_at dksX2_drains_0 8 rfl rfl)
theorem dX2_drains_9 : decode cX2_drains 9 = .ok (.getfield 91, 3) := dk_180 0 91 (dk_at dksX2_drains_0 9 rfl rfl)
theorem dX2_drains_12 : decode cX2_drains 12 = .ok (.iconst 1, 1) := dk_4 (dk_at dksX2_drains_0 12 rfl rfl)
theorem dX2_drains_13 : decode cX2_drains 13 = .ok (.isub, 1) := dk_100 (dk_at dksX2_drains_0 13 rfl rfl)
theorem dX2_drains_14 : decode cX2_drains 14 = .ok (.putfield 91, 3) := dk_181 0 91 (dk_at dksX2_drains_0 14 rfl rfl)
theorem dX2_drains_17 : decode cX2_drains 17 = .ok (.aload_n 0, 1) := dk_42 (dk_at dksX2_drains_0 17 rfl rfl)
theorem dX2_drains_18 : decode cX2_drains 18 = .ok (.getfield 36, 3) := dk_180 0 36 (dk_at dksX2_drains_0 18 rfl rfl)
theorem dX2_drains_21 : decode cX2_drains 21 = .ok (.aload_n 0, 1) := dk_42 (dk_at dksX2_drains_0 21 rfl rfl)
theorem dX2_drains_22 : decode cX2_drains 22 = .ok (.getfield 91, 3) := dk_180 0 91 (dk_at dksX2_drains_1 0 rfl rfl)
theorem dX2_drains_25 : decode cX2_drains 25 = .ok (.iaload, 1) := dk_46 (dk_at dksX2_drains_1 3 rfl rfl)
theorem dX2_drains_26 : decode cX2_drains 26 = .ok (.istore_n 1, 1) := dk_60 (dk_at dksX2_drains_1 4 rfl rfl)
theorem dX2_drains_27 : decode cX2_drains 27 = .ok (.iconst 1, 1) := dk_4 (dk_at dksX2_drains_1 5 rfl rfl)
theorem dX2_drains_28 : decode cX2_drains 28 = .ok (.istore_n 2, 1) := dk_61 (dk_at dksX2_drains_1 6 rfl rfl)
theorem dX2_drains_29 : decode cX2_drains 29 = .ok (.iload_n 2, 1) := dk_28 (dk_at dksX2_drains_1 7 rfl rfl)
theorem dX2_drains_30 : decode cX2_drains 30 = .ok (.aload_n 0, 1) := dk_42 (dk_at dksX2_drains_1 8 rfl rfl)
theorem dX2_drains_31 : decode cX2_drains 31 = .ok (.getfield 7, 3) := dk_180 0 7 (dk_at dksX2_drains_1 9 rfl rfl)
theorem dX2_drains_34 : decode cX2_drains 34 = .ok (.sipush 200, 3) := dk_17 0 200 (dk_at dksX2_drains_1 12 rfl rfl)
theorem dX2_drains_37 : decode cX2_drains 37 = .ok (.iload_n 1, 1) := dk_27 (dk_at dksX2_drains_1 15 rfl rfl)
theorem dX2_drains_38 : decode cX2_drains 38 = .ok (.iadd, 1) := dk_96 (dk_at dksX2_drains_1 16 rfl rfl)
theorem dX2_drains_39 : decode cX2_drains 39 = .ok (.iaload, 1) := dk_46 (dk_at dksX2_drains_1 17 rfl rfl)
theorem dX2_drains_40 : decode cX2_drains 40 = .ok (.if_icmp .gt 25, 3) := dk_163 0 25 (dk_at dksX2_drains_1 18 rfl rfl)
theorem dX2_drains_43 : decode cX2_drains 43 = .ok (.aload_n 0, 1) := dk_42 (dk_at dksX2_drains_1 21 rfl rfl)
theorem dX2_drains_44 : decode cX2_drains 44 = .ok (.aload_n 0, 1) := dk_42 (dk_at dksX2_drains_1 22 rfl rfl)
theorem dX2_drains_45 : decode cX2_drains 45 = .ok (.getfield 7, 3) := dk_180 0 7 (dk_at dksX2_drains_2 0 rfl rfl)
theorem dX2_drains_48 : decode cX2_drains 48 = .ok (.sipush 800, 3) := dk_17 3 32 (dk_at dksX2_drains_2 3 rfl rfl)
theorem dX2_drains_51 : decode cX2_drains 51 = .ok (.iload_n 1, 1) := dk_27 (dk_at dksX2_drains_2 6 rfl rfl)
theorem dX2_drains_52 : decode cX2_drains 52 = .ok (.iadd, 1) := dk_96 (dk_at dksX2_drains_2 7 rfl rfl)
theorem dX2_drains_53 : decode cX2_drains 53 = .ok (.iload_n 2, 1) := dk_28 (dk_at dksX2_drains_2 8 rfl rfl)
theorem dX2_drains_54 : decode cX2_drains 54 = .ok (.iadd, 1) := dk_96 (dk_at dksX2_drains_2 9 rfl rfl)
theorem dX2_drains_55 : decode cX2_drains 55 = .ok (.iaload, 1) := dk_46 (dk_at dksX2_drains_2 10 rfl rfl)
theorem dX2_drains_56 : decode cX2_drains 56 = .ok (.invokevirtual 101, 3) := dk_182 0 101 (dk_at dksX2_drains_2 11 rfl rfl)
theorem dX2_drains_59 : decode cX2_drains 59 = .ok (.iinc 2 1, 3) := dk_132 2 1 (dk_at dksX2_drains_2 14 rfl rfl)
theorem dX2_drains_62 : decode cX2_drains 62 = .ok (.goto (-33), 3) := dk_167 255 223 (dk_at dksX2_drains_2 17 rfl rfl)
theorem dX2_drains_65 : decode cX2_drains 65 = .ok (.goto (-65), 3) := dk_167 255 191 (dk_at dksX2_drains_2 20 rfl rfl)
theorem dX2_drains_68 : decode cX2_drains 68 = .ok (.return_, 1) := dk_177 (dk_at dksX2_drains_2 23 rfl rfl)
abbrev cX2_scans : ByteArray := prog_26_method_30_code
def yX2_scans : MethodName := ⟨RX2, "scans", "()V"⟩
def dkwX2_scans_3 : List UInt8 := [132, 2, 1, 167, 255, 199, 132, 1, 1, 167, 255, 179, 177]
abbrev dktX2_scans_3 : List UInt8 := dkwX2_scans_3 ++ []
def dkwX2_scans_2 : List UInt8 := [153, 0, 29, 42, 42, 180, 0, 7, 17, 3, 32, 27, 96, 28, 96, 46, 182, 0, 101, 42, 182, 0, 104]
abbrev dktX2_scans_2 : List UInt8 := dkwX2_scans_2 ++ dktX2_scans_3
def dkwX2_scans_1 : List UInt8 := [27, 96, 46, 163, 0, 49, 42, 180, 0, 7, 3, 27, 96, 46, 158, 0, 38, 42, 180, 0, 33, 27, 51]
abbrev dktX2_scans_1 : List UInt8 := dkwX2_scans_1 ++ dktX2_scans_2
def dkwX2_scans_0 : List UInt8 := [3, 60, 27, 42, 180, 0, 7, 17, 4, 192, 46, 162, 0, 71, 4, 61, 28, 42, 180, 0, 7, 17, 0, 200]
abbrev dktX2_scans_0 : List UInt8 := dkwX2_scans_0 ++ dktX2_scans_1
theorem dksX2_scans_0 : cX2_scans.data.toList.drop 0 = dktX2_scans_0 := by decide +kernel
theorem dksX2_scans_1 : cX2_scans.data.toList.drop 24 = dktX2_scans_1 := dk_seg dksX2_scans_0 24 rfl rfl
theorem dksX2_scans_2 : cX2_scans.data.toList.drop 47 = dktX2_scans_2 := dk_seg dksX2_scans_1 23 rfl rfl
theorem dksX2_scans_3 : cX2_scans.data.toList.drop 70 = dktX2_scans_3 := dk_seg dksX2_scans_2 23 rfl rfl
theorem dX2_scans_0 : decode cX2_scans 0 = .ok (.iconst 0, 1) := dk_3 (dk_at dksX2_scans_0 0 rfl rfl)
theorem dX2_scans_1 : decode cX2_scans 1 = .ok (.istore_n 1, 1) := dk_60 (dk_at dksX2_scans_0 1 rfl rfl)
theorem dX2_scans_2 : decode cX2_scans 2 = .ok (.iload_n 1, 1) := dk_27 (dk_at dksX2_scans_0 2 rfl rfl)
theorem dX2_scans_3 : decode cX2_scans 3 = .ok (.aload_n 0, 1) := dk_42 (dk_at dksX2_scans_0 3 rfl rfl)
theorem dX2_scans_4 : decode cX2_scans 4 = .ok (.getfield 7, 3) := dk_180 0 7 (dk_at dksX2_scans_0 4 rfl rfl)
theorem dX2_scans_7 : decode cX2_scans 7 = .ok (.sipush 1216, 3) := dk_17 4 192 (dk_at dksX2_scans_0 7 rfl rfl)
theorem dX2_scans_10 : decode cX2_scans 10 = .ok (.iaload, 1) := dk_46 (dk_at dksX2_scans_0 10 rfl rfl)
theorem dX2_scans_11 : decode cX2_scans 11 = .ok (.if_icmp .ge 71, 3) := dk_162 0 71 (dk_at dksX2_scans_0 11 rfl rfl)
theorem dX2_scans_14 : decode cX2_scans 14 = .ok (.iconst 1, 1) := dk_4 (dk_at dksX2_scans_0 14 rfl rfl)
theorem dX2_scans_15 : decode cX2_scans 15 = .ok (.istore_n 2, 1) := dk_61 (dk_at dksX2_scans_0 15 rfl rfl)
theorem dX2_scans_16 : decode cX2_scans 16 = .ok (.iload_n 2, 1) := dk_28 (dk_at dksX2_scans_0 16 rfl rfl)
theorem dX2_scans_17 : decode cX2_scans 17 = .ok (.aload_n 0, 1) := dk_42 (dk_at dksX2_scans_0 17 rfl rfl)
theorem dX2_scans_18 : decode cX2_scans 18 = .ok (.getfield 7, 3) := dk_180 0 7 (dk_at dksX2_scans_0 18 rfl rfl)
theorem dX2_scans_21 : decode cX2_scans 21 = .ok (.sipush 200, 3) := dk_17 0 200 (dk_at dksX2_scans_0 21 rfl rfl)
theorem dX2_scans_24 : decode cX2_scans 24 = .ok (.iload_n 1, 1) := dk_27 (dk_at dksX2_scans_1 0 rfl rfl)
theorem dX2_scans_25 : decode cX2_scans 25 = .ok (.iadd, 1) := dk_96 (dk_at dksX2_scans_1 1 rfl rfl)
theorem dX2_scans_26 : decode cX2_scans 26 = .ok (.iaload, 1) := dk_46 (dk_at dksX2_scans_1 2 rfl rfl)
theorem dX2_scans_27 : decode cX2_scans 27 = .ok (.if_icmp .gt 49, 3) := dk_163 0 49 (dk_at dksX2_scans_1 3 rfl rfl)
theorem dX2_scans_30 : decode cX2_scans 30 = .ok (.aload_n 0, 1) := dk_42 (dk_at dksX2_scans_1 6 rfl rfl)
theorem dX2_scans_31 : decode cX2_scans 31 = .ok (.getfield 7, 3) := dk_180 0 7 (dk_at dksX2_scans_1 7 rfl rfl)
theorem dX2_scans_34 : decode cX2_scans 34 = .ok (.iconst 0, 1) := dk_3 (dk_at dksX2_scans_1 10 rfl rfl)
theorem dX2_scans_35 : decode cX2_scans 35 = .ok (.iload_n 1, 1) := dk_27 (dk_at dksX2_scans_1 11 rfl rfl)
theorem dX2_scans_36 : decode cX2_scans 36 = .ok (.iadd, 1) := dk_96 (dk_at dksX2_scans_1 12 rfl rfl)
theorem dX2_scans_37 : decode cX2_scans 37 = .ok (.iaload, 1) := dk_46 (dk_at dksX2_scans_1 13 rfl rfl)
theorem dX2_scans_38 : decode cX2_scans 38 = .ok (.ifCond .le 38, 3) := dk_158 0 38 (dk_at dksX2_scans_1 14 rfl rfl)
theorem dX2_scans_41 : decode cX2_scans 41 = .ok (.aload_n 0, 1) := dk_42 (dk_at dksX2_scans_1 17 rfl rfl)
theorem dX2_scans_42 : decode cX2_scans 42 = .ok (.getfield 33, 3) := dk_180 0 33 (dk_at dksX2_scans_1 18 rfl rfl)
theorem dX2_scans_45 : decode cX2_scans 45 = .ok (.iload_n 1, 1) := dk_27 (dk_at dksX2_scans_1 21 rfl rfl)
theorem dX2_scans_46 : decode cX2_scans 46 = .ok (.baload, 1) := dk_51 (dk_at dksX2_scans_1 22 rfl rfl)
theorem dX2_scans_47 : decode cX2_scans 47 = .ok (.ifCond .eq 29, 3) := dk_153 0 29 (dk_at dksX2_scans_2 0 rfl rfl)
theorem dX2_scans_50 : decode cX2_scans 50 = .ok (.aload_n 0, 1) := dk_42 (dk_at dksX2_scans_2 3 rfl rfl)
theorem dX2_scans_51 : decode cX2_scans 51 = .ok (.aload_n 0, 1) := dk_42 (dk_at dksX2_scans_2 4 rfl rfl)
theorem dX2_scans_52 : decode cX2_scans 52 = .ok (.getfield 7, 3) := dk_180 0 7 (dk_at dksX2_scans_2 5 rfl rfl)
theorem dX2_scans_55 : decode cX2_scans 55 = .ok (.sipush 800, 3) := dk_17 3 32 (dk_at dksX2_scans_2 8 rfl rfl)
theorem dX2_scans_58 : decode cX2_scans 58 = .ok (.iload_n 1, 1) := dk_27 (dk_at dksX2_scans_2 11 rfl rfl)
theorem dX2_scans_59 : decode cX2_scans 59 = .ok (.iadd, 1) := dk_96 (dk_at dksX2_scans_2 12 rfl rfl)
theorem dX2_scans_60 : decode cX2_scans 60 = .ok (.iload_n 2, 1) := dk_28 (dk_at dksX2_scans_2 13 rfl rfl)
theorem dX2_scans_61 : decode cX2_scans 61 = .ok (.iadd, 1) := dk_96 (dk_at dksX2_scans_2 14 rfl rfl)
theorem dX2_scans_62 : decode cX2_scans 62 = .ok (.iaload, 1) := dk_46 (dk_at dksX2_scans_2 15 rfl rfl)
theorem dX2_scans_63 : decode cX2_scans 63 = .ok (.invokevirtual 101, 3) := dk_182 0 101 (dk_at dksX2_scans_2 16 rfl rfl)
theorem dX2_scans_66 : decode cX2_scans 66 = .ok (.aload_n 0, 1) := dk_42 (dk_at dksX2_scans_2 19 rfl rfl)
theorem dX2_scans_67 : decode cX2_scans 67 = .ok (.invokevirtual 104, 3) := dk_182 0 104 (dk_at dksX2_scans_2 20 rfl rfl)
theorem dX2_scans_70 : decode cX2_scans 70 = .ok (.iinc 2 1, 3) := dk_132 2 1 (dk_at dksX2_scans_3 0 rfl rfl)
theorem dX2_scans_73 : decode cX2_scans 73 = .ok (.goto (-57), 3) := dk_167 255 199 (dk_at dksX2_scans_3 3 rfl rfl)
theorem dX2_scans_76 : decode cX2_scans 76 = .ok (.iinc 1 1, 3) := dk_132 1 1 (dk_at dksX2_scans_3 6 rfl rfl)
theorem dX2_scans_79 : decode cX2_scans 79 = .ok (.goto (-77), 3) := dk_167 255 179 (dk_at dksX2_scans_3 9 rfl rfl)
theorem dX2_scans_82 : decode cX2_scans 82 = .ok (.return_, 1) := dk_177 (dk_at dksX2_scans_3 12 rfl rfl)
abbrev cX2_rebuilds : ByteArray := prog_26_method_35_code
def yX2_rebuilds : MethodName := ⟨RX2, "rebuilds", "()V"⟩
def dkwX2_rebuilds_10 : List UInt8 := [42, 180, 0, 13, 17, 4, 176, 27, 96, 46, 182, 0, 120, 79, 132, 1, 1, 167, 255, 223, 177]
abbrev dktX2_rebuilds_10 : List UInt8 := dkwX2_rebuilds_10 ++ []
def dkwX2_rebuilds_9 : List UInt8 := [132, 1, 1, 167, 255, 61, 3, 60, 27, 16, 10, 162, 0, 33, 42, 180, 0, 7, 17, 4, 176, 27, 96, 42]
abbrev dktX2_rebuilds_9 : List UInt8 := dkwX2_rebuilds_9 ++ dktX2_rebuilds_10
def dkwX2_rebuilds_8 : List UInt8 := [27, 96, 46, 163, 0, 12, 42, 21, 4, 182, 0, 120, 167, 0, 5, 21, 4, 79, 132, 3, 1, 167, 255, 190]
abbrev dktX2_rebuilds_8 : List UInt8 := dkwX2_rebuilds_8 ++ dktX2_rebuilds_9
def dkwX2_rebuilds_7 : List UInt8 := [29, 96, 46, 54, 4, 42, 180, 0, 7, 17, 3, 32, 28, 96, 29, 96, 29, 42, 180, 0, 13, 17, 0, 200]
abbrev dktX2_rebuilds_7 : List UInt8 := dkwX2_rebuilds_7 ++ dktX2_rebuilds_8
def dkwX2_rebuilds_6 : List UInt8 := [79, 4, 62, 29, 42, 180, 0, 13, 3, 27, 96, 46, 162, 0, 60, 42, 180, 0, 13, 17, 3, 32, 27, 96]
abbrev dktX2_rebuilds_6 : List UInt8 := dkwX2_rebuilds_6 ++ dktX2_rebuilds_7
def dkwX2_rebuilds_5 : List UInt8 := [96, 46, 79, 42, 180, 0, 7, 17, 2, 88, 28, 96, 42, 180, 0, 13, 17, 2, 88, 27, 96, 46, 4, 96]
abbrev dktX2_rebuilds_5 : List UInt8 := dkwX2_rebuilds_5 ++ dktX2_rebuilds_6
def dkwX2_rebuilds_4 : List UInt8 := [17, 0, 200, 27, 96, 46, 79, 42, 180, 0, 7, 17, 1, 144, 28, 96, 42, 180, 0, 13, 17, 1, 144, 27]
abbrev dktX2_rebuilds_4 : List UInt8 := dkwX2_rebuilds_4 ++ dktX2_rebuilds_5
def dkwX2_rebuilds_3 : List UInt8 := [28, 96, 42, 180, 0, 13, 3, 27, 96, 46, 79, 42, 180, 0, 7, 17, 0, 200, 28, 96, 42, 180, 0, 13]
abbrev dktX2_rebuilds_3 : List UInt8 := dkwX2_rebuilds_3 ++ dktX2_rebuilds_4
def dkwX2_rebuilds_2 : List UInt8 := [180, 0, 33, 27, 51, 153, 0, 163, 42, 180, 0, 7, 17, 3, 232, 27, 96, 46, 61, 42, 180, 0, 7, 3]
abbrev dktX2_rebuilds_2 : List UInt8 := dkwX2_rebuilds_2 ++ dktX2_rebuilds_3
def dkwX2_rebuilds_1 : List UInt8 := [27, 42, 180, 0, 7, 17, 4, 192, 46, 162, 0, 189, 42, 180, 0, 13, 3, 27, 96, 46, 158, 0, 172, 42]
abbrev dktX2_rebuilds_1 : List UInt8 := dkwX2_rebuilds_1 ++ dktX2_rebuilds_2
def dkwX2_rebuilds_0 : List UInt8 := [3, 60, 27, 17, 3, 232, 162, 0, 16, 42, 180, 0, 7, 27, 3, 79, 132, 1, 1, 167, 255, 239, 3, 60]
abbrev dktX2_rebuilds_0 : List UInt8 := dkwX2_rebuilds_0 ++ dktX2_rebuilds_1
theorem dksX2_rebuilds_0 : cX2_rebuilds.data.toList.drop 0 = dktX2_rebuilds_0 := by decide +kernel
theorem dksX2_rebuilds_1 : cX2_rebuilds.data.toList.drop 24 = dktX2_rebuilds_1 := dk_seg dksX2_rebuilds_0 24 rfl rfl
theorem dksX2_rebuilds_2 : cX2_rebuilds.data.toList.drop 48 = dktX2_rebuilds_2 := dk_seg dksX2_rebuilds_1 24 rfl rfl
theorem dksX2_rebuilds_3 : cX2_rebuilds.data.toList.drop 72 = dktX2_rebuilds_3 := dk_seg dksX2_rebuilds_2 24 rfl rfl
theorem dksX2_rebuilds_4 : cX2_rebuilds.data.toList.drop 96 = dktX2_rebuilds_4 := dk_seg dksX2_rebuilds_3 24 rfl rfl
theorem dksX2_rebuilds_5 : cX2_rebuilds.data.toList.drop 120 = dktX2_rebuilds_5 := dk_seg dksX2_rebuilds_4 24 rfl rfl
theorem dksX2_rebuilds_6 : cX2_rebuilds.data.toList.drop 144 = dktX2_rebuilds_6 := dk_seg dksX2_rebuilds_5 24 rfl rfl
theorem dksX2_rebuilds_7 : cX2_rebuilds.data.toList.drop 168 = dktX2_rebuilds_7 := dk_seg dksX2_rebuilds_6 24 rfl rfl
theorem dksX2_rebuilds_8 : cX2_rebuilds.data.toList.drop 192 = dktX2_rebuilds_8 := dk_seg dksX2_rebuilds_7 24 rfl rfl
theorem dksX2_rebuilds_9 : cX2_rebuilds.data.toList.drop 216 = dktX2_rebuilds_9 := dk_seg dksX2_rebuilds_8 24 rfl rfl
theorem dksX2_rebuilds_10 : cX2_rebuilds.data.toList.drop 240 = dktX2_rebuilds_10 := dk_seg dksX2_rebuilds_9 24 rfl rfl
theorem dX2_rebuilds_0 : decode cX2_rebuilds 0 = .ok (.iconst 0, 1) := dk_3 (dk_at dksX2_rebuilds_0 0 rfl rfl)
theorem dX2_rebuilds_1 : decode cX2_rebuilds 1 = .ok (.istore_n 1, 1) := dk_60 (dk_at dksX2_rebuilds_0 1 rfl rfl)
theorem dX2_rebuilds_2 : decode cX2_rebuilds 2 = .ok (.iload_n 1, 1) := dk_27 (dk_at dksX2_rebuilds_0 2 rfl rfl)
theorem dX2_rebuilds_3 : decode cX2_rebuilds 3 = .ok (.sipush 1000, 3) := dk_17 3 232 (dk_at dksX2_rebuilds_0 3 rfl rfl)
theorem dX2_rebuilds_6 : decode cX2_rebuilds 6 = .ok (.if_icmp .ge 16, 3) := dk_162 0 16 (dk_at dksX2_rebuilds_0 6 rfl rfl)
theorem dX2_rebuilds_9 : decode cX2_rebuilds 9 = .ok (.aload_n 0, 1) := dk_42 (dk_at dksX2_rebuilds_0 9 rfl rfl)
theorem dX2_rebuilds_10 : decode cX2_rebuilds 10 = .ok (.getfield 7, 3) := dk_180 0 7 (dk_at dksX2_rebuilds_0 10 rfl rfl)
theorem dX2_rebuilds_13 : decode cX2_rebuilds 13 = .ok (.iload_n 1, 1) := dk_27 (dk_at dksX2_rebuilds_0 13 rfl rfl)
theorem dX2_rebuilds_14 : decode cX2_rebuilds 14 = .ok (.iconst 0, 1) := dk_3 (dk_at dksX2_rebuilds_0 14 rfl rfl)
theorem dX2_rebuilds_15 : decode cX2_rebuilds 15 = .ok (.iastore, 1) := dk_79 (dk_at dksX2_rebuilds_0 15 rfl rfl)
theorem dX2_rebuilds_16 : decode cX2_rebuilds 16 = .ok (.iinc 1 1, 3) := dk_132 1 1 (dk_at dksX2_rebuilds_0 16 rfl rfl)
theorem dX2_rebuilds_19 : decode cX2_rebuilds 19 = .ok (.goto (-17), 3) := dk_167 255 239 (dk_at dksX2_rebuilds_0 19 rfl rfl)
theorem dX2_rebuilds_22 : decode cX2_rebuilds 22 = .ok (.iconst 0, 1) := dk_3 (dk_at dksX2_rebuilds_0 22 rfl rfl)
theorem dX2_rebuilds_23 : decode cX2_rebuilds 23 = .ok (.istore_n 1, 1) := dk_60 (dk_at dksX2_rebuilds_0 23 rfl rfl)
theorem dX2_rebuilds_24 : decode cX2_rebuilds 24 = .ok (.iload_n 1, 1) := dk_27 (dk_at dksX2_rebuilds_1 0 rfl rfl)
theorem dX2_rebuilds_25 : decode cX2_rebuilds 25 = .ok (.aload_n 0, 1) := dk_42 (dk_at dksX2_rebuilds_1 1 rfl rfl)
theorem dX2_rebuilds_26 : decode cX2_rebuilds 26 = .ok (.getfield 7, 3) := dk_180 0 7 (dk_at dksX2_rebuilds_1 2 rfl rfl)
theorem dX2_rebuilds_29 : decode cX2_rebuilds 29 = .ok (.sipush 1216, 3) := dk_17 4 192 (dk_at dksX2_rebuilds_1 5 rfl rfl)
theorem dX2_rebuilds_32 : decode cX2_rebuilds 32 = .ok (.iaload, 1) := dk_46 (dk_at dksX2_rebuilds_1 8 rfl rfl)
theorem dX2_rebuilds_33 : decode cX2_rebuilds 33 = .ok (.if_icmp .ge 189, 3) := dk_162 0 189 (dk_at dksX2_rebuilds_1 9 rfl rfl)
theorem dX2_rebuilds_36 : decode cX2_rebuilds 36 = .ok (.aload_n 0, 1) := dk_42 (dk_at dksX2_rebuilds_1 12 rfl rfl)
theorem dX2_rebuilds_37 : decode cX2_rebuilds 37 = .ok (.getfield 13, 3) := dk_180 0 13 (dk_at dksX2_rebuilds_1 13 rfl rfl)
theorem dX2_rebuilds_40 : decode cX2_rebuilds 40 = .ok (.iconst 0, 1) := dk_3 (dk_at dksX2_rebuilds_1 16 rfl rfl)
theorem dX2_rebuilds_41 : decode cX2_rebuilds 41 = .ok (.iload_n 1, 1) := dk_27 (dk_at dksX2_rebuilds_1 17 rfl rfl)
theorem dX2_rebuilds_42 : decode cX2_rebuilds 42 = .ok (.iadd, 1) := dk_96 (dk_at dksX2_rebuilds_1 18 rfl rfl)
theorem dX2_rebuilds_43 : decode cX2_rebuilds 43 = .ok (.iaload, 1) := dk_46 (dk_at dksX2_rebuilds_1 19 rfl rfl)
theorem dX2_rebuilds_44 : decode cX2_rebuilds 44 = .ok (.ifCond .le 172, 3) := dk_158 0 172 (dk_at dksX2_rebuilds_1 20 rfl rfl)
theorem dX2_rebuilds_47 : decode cX2_rebuilds 47 = .ok (.aload_n 0, 1) := dk_42 (dk_at dksX2_rebuilds_1 23 rfl rfl)
theorem dX2_rebuilds_48 : decode cX2_rebuilds 48 = .ok (.getfield 33, 3) := dk_180 0 33 (dk_at dksX2_rebuilds_2 0 rfl rfl)
theorem dX2_rebuilds_51 : decode cX2_rebuilds 51 = .ok (.iload_n 1, 1) := dk_27 (dk_at dksX2_rebuilds_2 3 rfl rfl)
theorem dX2_rebuilds_52 : decode cX2_rebuilds 52 = .ok (.baload, 1) := dk_51 (dk_at dksX2_rebuilds_2 4 rfl rfl)
theorem dX2_rebuilds_53 : decode cX2_rebuilds 53 = .ok (.ifCond .eq 163, 3) := dk_153 0 163 (dk_at dksX2_rebuilds_2 5 rfl rfl)
theorem dX2_rebuilds_56 : decode cX2_rebuilds 56 = .ok (.aload_n 0, 1) := dk_42 (dk_at dksX2_rebuilds_2 8 rfl rfl)
theorem dX2_rebuilds_57 : decode cX2_rebuilds 57 = .ok (.getfield 7, 3) := dk_180 0 7 (dk_at dksX2_rebuilds_2 9 rfl rfl)
theorem dX2_rebuilds_60 : decode cX2_rebuilds 60 = .ok (.sipush 1000, 3) := dk_17 3 232 (dk_at dksX2_rebuilds_2 12 rfl rfl)
theorem dX2_rebuilds_63 : decode cX2_rebuilds 63 = .ok (.iload_n 1, 1) := dk_27 (dk_at dksX2_rebuilds_2 15 rfl rfl)
theorem dX2_rebuilds_64 : decode cX2_rebuilds 64 = .ok (.iadd, 1) := dk_96 (dk_at dksX2_rebuilds_2 16 rfl rfl)
theorem dX2_rebuilds_65 : decode cX2_rebuilds 65 = .ok (.iaload, 1) := dk_46 (dk_at dksX2_rebuilds_2 17 rfl rfl)
theorem dX2_rebuilds_66 : decode cX2_rebuilds 66 = .ok (.istore_n 2, 1) := dk_61 (dk_at dksX2_rebuilds_2 18 rfl rfl)
theorem dX2_rebuilds_67 : decode cX2_rebuilds 67 = .ok (.aload_n 0, 1) := dk_42 (dk_at dksX2_rebuilds_2 19 rfl rfl)
theorem dX2_rebuilds_68 : decode cX2_rebuilds 68 = .ok (.getfield 7, 3) := dk_180 0 7 (dk_at dksX2_rebuilds_2 20 rfl rfl)
theorem dX2_rebuilds_71 : decode cX2_rebuilds 71 = .ok (.iconst 0, 1) := dk_3 (dk_at dksX2_rebuilds_2 23 rfl rfl)
theorem dX2_rebuilds_72 : decode cX2_rebuilds 72 = .ok (.iload_n 2, 1) := dk_28 (dk_at dksX2_rebuilds_3 0 rfl rfl)
theorem dX2_rebuilds_73 : decode cX2_rebuilds 73 = .ok (.iadd, 1) := dk_96 (dk_at dksX2_rebuilds_3 1 rfl rfl)
theorem dX2_rebuilds_74 : decode cX2_rebuilds 74 = .ok (.aload_n 0, 1) := dk_42 (dk_at dksX2_rebuilds_3 2 rfl rfl)
theorem dX2_rebuilds_75 : decode cX2_rebuilds 75 = .ok (.getfield 13, 3) := dk_180 0 13 (dk_at dksX2_rebuilds_3 3 rfl rfl)
theorem dX2_rebuilds_78 : decode cX2_rebuilds 78 = .ok (.iconst 0, 1) := dk_3 (dk_at dksX2_rebuilds_3 6 rfl rfl)
theorem dX2_rebuilds_79 : decode cX2_rebuilds 79 = .ok (.iload_n 1, 1) := dk_27 (dk_at dksX2_rebuilds_3 7 rfl rfl)
theorem dX2_rebuilds_80 : decode cX2_rebuilds 80 = .ok (.iadd, 1) := dk_96 (dk_at dksX2_rebuilds_3 8 rfl rfl)
theorem dX2_rebuilds_81 : decode cX2_rebuilds 81 = .ok (.iaload, 1) := dk_46 (dk_at dksX2_rebuilds_3 9 rfl rfl)
theorem dX2_rebuilds_82 : decode cX2_rebuilds 82 = .ok (.iastore, 1) := dk_79 (dk_at dksX2_rebuilds_3 10 rfl rfl)
theorem dX2_rebuilds_83 : decode cX2_rebuilds 83 = .ok (.aload_n 0, 1) := dk_42 (dk_at dksX2_rebuilds_3 11 rfl rfl)
theorem dX2_rebuilds_84 : decode cX2_rebuilds 84 = .ok (.getfield 7, 3) := dk_180 0 7 (dk_at dksX2_rebuilds_3 12 rfl rfl)
theorem dX2_rebuilds_87 : decode cX2_rebuilds 87 = .ok (.sipush 200, 3) := dk_17 0 200 (dk_at dksX2_rebuilds_3 15 rfl rfl)
theorem dX2_rebuilds_90 : decode cX2_rebuilds 90 = .ok (.iload_n 2, 1) := dk_28 (dk_at dksX2_rebuilds_3 18 rfl rfl)
theorem dX2_rebuilds_91 : decode cX2_rebuilds 91 = .ok (.iadd, 1) := dk_96 (dk_at dksX2_rebuilds_3 19 rfl rfl)
theorem dX2_rebuilds_92 : decode cX2_rebuilds 92 = .ok (.aload_n 0, 1) := dk_42 (dk_at dksX2_rebuilds_3 20 rfl rfl)
theorem dX2_rebuilds_93 : decode cX2_rebuilds 93 = .ok (.getfield 13, 3) := dk_180 0 13 (dk_at dksX2_rebuilds_3 21 rfl rfl)
theorem dX2_rebuilds_96 : decode cX2_rebuilds 96 = .ok (.sipush 200, 3) := dk_17 0 200 (dk_at dksX2_rebuilds_4 0 rfl rfl)
theorem dX2_rebuilds_99 : decode cX2_rebuilds 99 = .ok (.iload_n 1, 1) := dk_27 (dk_at dksX2_rebuilds_4 3 rfl rfl)
theorem dX2_rebuilds_100 : decode cX2_rebuilds 100 = .ok (.iadd, 1) := dk_96 (dk_at dksX2_rebuilds_4 4 rfl rfl)
theorem dX2_rebuilds_101 : decode cX2_rebuilds 101 = .ok (.iaload, 1) := dk_46 (dk_at dksX2_rebuilds_4 5 rfl rfl)
theorem dX2_rebuilds_102 : decode cX2_rebuilds 102 = .ok (.iastore, 1) := dk_79 (dk_at dksX2_rebuilds_4 6 rfl rfl)
theorem dX2_rebuilds_103 : decode cX2_rebuilds 103 = .ok (.aload_n 0, 1) := dk_42 (dk_at dksX2_rebuilds_4 7 rfl rfl)
theorem dX2_rebuilds_104 : decode cX2_rebuilds 104 = .ok (.getfield 7, 3) := dk_180 0 7 (dk_at dksX2_rebuilds_4 8 rfl rfl)
theorem dX2_rebuilds_107 : decode cX2_rebuilds 107 = .ok (.sipush 400, 3) := dk_17 1 144 (dk_at dksX2_rebuilds_4 11 rfl rfl)
theorem dX2_rebuilds_110 : decode cX2_rebuilds 110 = .ok (.iload_n 2, 1) := dk_28 (dk_at dksX2_rebuilds_4 14 rfl rfl)
theorem dX2_rebuilds_111 : decode cX2_rebuilds 111 = .ok (.iadd, 1) := dk_96 (dk_at dksX2_rebuilds_4 15 rfl rfl)
theorem dX2_rebuilds_112 : decode cX2_rebuilds 112 = .ok (.aload_n 0, 1) := dk_42 (dk_at dksX2_rebuilds_4 16 rfl rfl)
theorem dX2_rebuilds_113 : decode cX2_rebuilds 113 = .ok (.getfield 13, 3) := dk_180 0 13 (dk_at dksX2_rebuilds_4 17 rfl rfl)
theorem dX2_rebuilds_116 : decode cX2_rebuilds 116 = .ok (.sipush 400, 3) := dk_17 1 144 (dk_at dksX2_rebuilds_4 20 rfl rfl)
theorem dX2_rebuilds_119 : decode cX2_rebuilds 119 = .ok (.iload_n 1, 1) := dk_27 (dk_at dksX2_rebuilds_4 23 rfl rfl)
theorem dX2_rebuilds_120 : decode cX2_rebuilds 120 = .ok (.iadd, 1) := dk_96 (dk_at dksX2_rebuilds_5 0 rfl rfl)
theorem dX2_rebuilds_121 : decode cX2_rebuilds 121 = .ok (.iaload, 1) := dk_46 (dk_at dksX2_rebuilds_5 1 rfl rfl)
theorem dX2_rebuilds_122 : decode cX2_rebuilds 122 = .ok (.iastore, 1) := dk_79 (dk_at dksX2_rebuilds_5 2 rfl rfl)
theorem dX2_rebuilds_123 : decode cX2_rebuilds 123 = .ok (.aload_n 0, 1) := dk_42 (dk_at dksX2_rebuilds_5 3 rfl rfl)
theorem dX2_rebuilds_124 : decode cX2_rebuilds 124 = .ok (.getfield 7, 3) := dk_180 0 7 (dk_at dksX2_rebuilds_5 4 rfl rfl)
theorem dX2_rebuilds_127 : decode cX2_rebuilds 127 = .ok (.sipush 600, 3) := dk_17 2 88 (dk_at dksX2_rebuilds_5 7 rfl rfl)
theorem dX2_rebuilds_130 : decode cX2_rebuilds 130 = .ok (.iload_n 2, 1) := dk_28 (dk_at dksX2_rebuilds_5 10 rfl rfl)
theorem dX2_rebuilds_131 : decode cX2_rebuilds 131 = .ok (.iadd, 1) := dk_96 (dk_at dksX2_rebuilds_5 11 rfl rfl)
theorem dX2_rebuilds_132 : decode cX2_rebuilds 132 = .ok (.aload_n 0, 1) := dk_42 (dk_at dksX2_rebuilds_5 12 rfl rfl)
theorem dX2_rebuilds_133 : decode cX2_rebuilds 133 = .ok (.getfield 13, 3) := dk_180 0 13 (dk_at dksX2_rebuilds_5 13 rfl rfl)
theorem dX2_rebuilds_136 : decode cX2_rebuilds 136 = .ok (.sipush 600, 3) := dk_17 2 88 (dk_at dksX2_rebuilds_5 16 rfl rfl)
theorem dX2_rebuilds_139 : decode cX2_rebuilds 139 = .ok (.iload_n 1, 1) := dk_27 (dk_at dksX2_rebuilds_5 19 rfl rfl)
theorem dX2_rebuilds_140 : decode cX2_rebuilds 140 = .ok (.iadd, 1) := dk_96 (dk_at dksX2_rebuilds_5 20 rfl rfl)
theorem dX2_rebuilds_141 : decode cX2_rebuilds 141 = .ok (.iaload, 1) := dk_46 (dk_at dksX2_rebuilds_5 21 rfl rfl)
theorem dX2_rebuilds_142 : decode cX2_rebuilds 142 = .ok (.iconst 1, 1) := dk_4 (dk_at dksX2_rebuilds_5 22 rfl rfl)
theorem dX2_rebuilds_143 : decode cX2_rebuilds 143 = .ok (.iadd, 1) := dk_96 (dk_at dksX2_rebuilds_5 23 rfl rfl)
theorem dX2_rebuilds_144 : decode cX2_rebuilds 144 = .ok (.iastore, 1) := dk_79 (dk_at dksX2_rebuilds_6 0 rfl rfl)
theorem dX2_rebuilds_145 : decode cX2_rebuilds 145 = .ok (.iconst 1, 1) := dk_4 (dk_at dksX2_rebuilds_6 1 rfl rfl)
theorem dX2_rebuilds_146 : decode cX2_rebuilds 146 = .ok (.istore_n 3, 1) := dk_62 (dk_at dksX2_rebuilds_6 2 rfl rfl)
theorem dX2_rebuilds_147 : decode cX2_rebuilds 147 = .ok (.iload_n 3, 1) := dk_29 (dk_at dksX2_rebuilds_6 3 rfl rfl)
theorem dX2_rebuilds_148 : decode cX2_rebuilds 148 = .ok (.aload_n 0, 1) := dk_42 (dk_at dksX2_rebuilds_6 4 rfl rfl)
theorem dX2_rebuilds_149 : decode cX2_rebuilds 149 = .ok (.getfield 13, 3) := dk_180 0 13 (dk_at dksX2_rebuilds_6 5 rfl rfl)
theorem dX2_rebuilds_152 : decode cX2_rebuilds 152 = .ok (.iconst 0, 1) := dk_3 (dk_at dksX2_rebuilds_6 8 rfl rfl)
theorem dX2_rebuilds_153 : decode cX2_rebuilds 153 = .ok (.iload_n 1, 1) := dk_27 (dk_at dksX2_rebuilds_6 9 rfl rfl)
theorem dX2_rebuilds_154 : decode cX2_rebuilds 154 = .ok (.iadd, 1) := dk_96 (dk_at dksX2_rebuilds_6 10 rfl rfl)
theorem dX2_rebuilds_155 : decode cX2_rebuilds 155 = .ok (.iaload, 1) := dk_46 (dk_at dksX2_rebuilds_6 11 rfl rfl)
theorem dX2_rebuilds_156 : decode cX2_rebuilds 156 = .ok (.if_icmp .ge 60, 3) := dk_162 0 60 (dk_at dksX2_rebuilds_6 12 rfl rfl)
theorem dX2_rebuilds_159 : decode cX2_rebuilds 159 = .ok (.aload_n 0, 1) := dk_42 (dk_at dksX2_rebuilds_6 15 rfl rfl)
theorem dX2_rebuilds_160 : decode cX2_rebuilds 160 = .ok (.getfield 13, 3) := dk_180 0 13 (dk_at dksX2_rebuilds_6 16 rfl rfl)
theorem dX2_rebuilds_163 : decode cX2_rebuilds 163 = .ok (.sipush 800, 3) := dk_17 3 32 (dk_at dksX2_rebuilds_6 19 rfl rfl)
theorem dX2_rebuilds_166 : decode cX2_rebuilds 166 = .ok (.iload_n 1, 1) := dk_27 (dk_at dksX2_rebuilds_6 22 rfl rfl)
theorem dX2_rebuilds_167 : decode cX2_rebuilds 167 = .ok (.iadd, 1) := dk_96 (dk_at dksX2_rebuilds_6 23 rfl rfl)
theorem dX2_rebuilds_168 : decode cX2_rebuilds 168 = .ok (.iload_n 3, 1) := dk_29 (dk_at dksX2_rebuilds_7 0 rfl rfl)
theorem dX2_rebuilds_169 : decode cX2_rebuilds 169 = .ok (.iadd, 1) := dk_96 (dk_at dksX2_rebuilds_7 1 rfl rfl)
theorem dX2_rebuilds_170 : decode cX2_rebuilds 170 = .ok (.iaload, 1) := dk_46 (dk_at dksX2_rebuilds_7 2 rfl rfl)
theorem dX2_rebuilds_171 : decode cX2_rebuilds 171 = .ok (.istore 4, 2) := dk_54 4 (dk_at dksX2_rebuilds_7 3 rfl rfl)
theorem dX2_rebuilds_173 : decode cX2_rebuilds 173 = .ok (.aload_n 0, 1) := dk_42 (dk_at dksX2_rebuilds_7 5 rfl rfl)
theorem dX2_rebuilds_174 : decode cX2_rebuilds 174 = .ok (.getfield 7, 3) := dk_180 0 7 (dk_at dksX2_rebuilds_7 6 rfl rfl)
theorem dX2_rebuilds_177 : decode cX2_rebuilds 177 = .ok (.sipush 800, 3) := dk_17 3 32 (dk_at dksX2_rebuilds_7 9 rfl rfl)
theorem dX2_rebuilds_180 : decode cX2_rebuilds 180 = .ok (.iload_n 2, 1) := dk_28 (dk_at dksX2_rebuilds_7 12 rfl rfl)
theorem dX2_rebuilds_181 : decode cX2_rebuilds 181 = .ok (.iadd, 1) := dk_96 (dk_at dksX2_rebuilds_7 13 rfl rfl)
theorem dX2_rebuilds_182 : decode cX2_rebuilds 182 = .ok (.iload_n 3, 1) := dk_29 (dk_at dksX2_rebuilds_7 14 rfl rfl)
theorem dX2_rebuilds_183 : decode cX2_rebuilds 183 = .ok (.iadd, 1) := dk_96 (dk_at dksX2_rebuilds_7 15 rfl rfl)
theorem dX2_rebuilds_184 : decode cX2_rebuilds 184 = .ok (.iload_n 3, 1) := dk_29 (dk_at dksX2_rebuilds_7 16 rfl rfl)
theorem dX2_rebuilds_185 : decode cX2_rebuilds 185 = .ok (.aload_n 0, 1) := dk_42 (dk_at dksX2_rebuilds_7 17 rfl rfl)
theorem dX2_rebuilds_186 : decode cX2_rebuilds 186 = .ok (.getfield 13, 3) := dk_180 0 13 (dk_at dksX2_rebuilds_7 18 rfl rfl)
theorem dX2_rebuilds_189 : decode cX2_rebuilds 189 = .ok (.sipush 200, 3) := dk_17 0 200 (dk_at dksX2_rebuilds_7 21 rfl rfl)
theorem dX2_rebuilds_192 : decode cX2_rebuilds 192 = .ok (.iload_n 1, 1) := dk_27 (dk_at dksX2_rebuilds_8 0 rfl rfl)
theorem dX2_rebuilds_193 : decode cX2_rebuilds 193 = .ok (.iadd, 1) := dk_96 (dk_at dksX2_rebuilds_8 1 rfl rfl)
theorem dX2_rebuilds_194 : decode cX2_rebuilds 194 = .ok (.iaload, 1) := dk_46 (dk_at dksX2_rebuilds_8 2 rfl rfl)
theorem dX2_rebuilds_195 : decode cX2_rebuilds 195 = .ok (.if_icmp .gt 12, 3) := dk_163 0 12 (dk_at dksX2_rebuilds_8 3 rfl rfl)
theorem dX2_rebuilds_198 : decode cX2_rebuilds 198 = .ok (.aload_n 0, 1) := dk_42 (dk_at dksX2_rebuilds_8 6 rfl rfl)
theorem dX2_rebuilds_199 : decode cX2_rebuilds 199 = .ok (.iload 4, 2) := dk_21 4 (dk_at dksX2_rebuilds_8 7 rfl rfl)
theorem dX2_rebuilds_201 : decode cX2_rebuilds 201 = .ok (.invokevirtual 120, 3) := dk_182 0 120 (dk_at dksX2_rebuilds_8 9 rfl rfl)
theorem dX2_rebuilds_204 : decode cX2_rebuilds 204 = .ok (.goto 5, 3) := dk_167 0 5 (dk_at dksX2_rebuilds_8 12 rfl rfl)
theorem dX2_rebuilds_207 : decode cX2_rebuilds 207 = .ok (.iload 4, 2) := dk_21 4 (dk_at dksX2_rebuilds_8 15 rfl rfl)
theorem dX2_rebuilds_209 : decode cX2_rebuilds 209 = .ok (.iastore, 1) := dk_79 (dk_at dksX2_rebuilds_8 17 rfl rfl)
theorem dX2_rebuilds_210 : decode cX2_rebuilds 210 = .ok (.iinc 3 1, 3) := dk_132 3 1 (dk_at dksX2_rebuilds_8 18 rfl rfl)
theorem dX2_rebuilds_213 : decode cX2_rebuilds 213 = .ok (.goto (-66), 3) := dk_167 255 190 (dk_at dksX2_rebuilds_8 21 rfl rfl)
theorem dX2_rebuilds_216 : decode cX2_rebuilds 216 = .ok (.iinc 1 1, 3) := dk_132 1 1 (dk_at dksX2_rebuilds_9 0 rfl rfl)
theorem dX2_rebuilds_219 : decode cX2_rebuilds 219 = .ok (.goto (-195), 3) := dk_167 255 61 (dk_at dksX2_rebuilds_9 3 rfl rfl)
theorem dX2_rebuilds_222 : decode cX2_rebuilds 222 = .ok (.iconst 0, 1) := dk_3 (dk_at dksX2_rebuilds_9 6 rfl rfl)
theorem dX2_rebuilds_223 : decode cX2_rebuilds 223 = .ok (.istore_n 1, 1) := dk_60 (dk_at dksX2_rebuilds_9 7 rfl rfl)
theorem dX2_rebuilds_224 : decode cX2_rebuilds 224 = .ok (.iload_n 1, 1) := dk_27 (dk_at dksX2_rebuilds_9 8 rfl rfl)
theorem dX2_rebuilds_225 : decode cX2_rebuilds 225 = .ok (.bipush 10, 2) := dk_16 10 (dk_at dksX2_rebuilds_9 9 rfl rfl)
theorem dX2_rebuilds_227 : decode cX2_rebuilds 227 = .ok (.if_icmp .ge 33, 3) := dk_162 0 33 (dk_at dksX2_rebuilds_9 11 rfl rfl)
theorem dX2_rebuilds_230 : decode cX2_rebuilds 230 = .ok (.aload_n 0, 1) := dk_42 (dk_at dksX2_rebuilds_9 14 rfl rfl)
theorem dX2_rebuilds_231 : decode cX2_rebuilds 231 = .ok (.getfield 7, 3) := dk_180 0 7 (dk_at dksX2_rebuilds_9 15 rfl rfl)
theorem dX2_rebuilds_234 : decode cX2_rebuilds 234 = .ok (.sipush 1200, 3) := dk_17 4 176 (dk_at dksX2_rebuilds_9 18 rfl rfl)
theorem dX2_rebuilds_237 : decode cX2_rebuilds 237 = .ok (.iload_n 1, 1) := dk_27 (dk_at dksX2_rebuilds_9 21 rfl rfl)
theorem dX2_rebuilds_238 : decode cX2_rebuilds 238 = .ok (.iadd, 1) := dk_96 (dk_at dksX2_rebuilds_9 22 rfl rfl)
theorem dX2_rebuilds_239 : decode cX2_rebuilds 239 = .ok (.aload_n 0, 1) := dk_42 (dk_at dksX2_rebuilds_9 23 rfl rfl)
theorem dX2_rebuilds_240 : decode cX2_rebuilds 240 = .ok (.aload_n 0, 1) := dk_42 (dk_at dksX2_rebuilds_10 0 rfl rfl)
theorem dX2_rebuilds_241 : decode cX2_rebuilds 241 = .ok (.getfield 13, 3) := dk_180 0 13 (dk_at dksX2_rebuilds_10 1 rfl rfl)
theorem dX2_rebuilds_244 : decode cX2_rebuilds 244 = .ok (.sipush 1200, 3) := dk_17 4 176 (dk_at dksX2_rebuilds_10 4 rfl rfl)
theorem dX2_rebuilds_247 : decode cX2_rebuilds 247 = .ok (.iload_n 1, 1) := dk_27 (dk_at dksX2_rebuilds_10 7 rfl rfl)
theorem dX2_rebuilds_248 : decode cX2_rebuilds 248 = .ok (.iadd, 1) := dk_96 (dk_at dksX2_rebuilds_10 8 rfl rfl)
theorem dX2_rebuilds_249 : decode cX2_rebuilds 249 = .ok (.iaload, 1) := dk_46 (dk_at dksX2_rebuilds_10 9 rfl rfl)
theorem dX2_rebuilds_250 : decode cX2_rebuilds 250 = .ok (.invokevirtual 120, 3) := dk_182 0 120 (dk_at dksX2_rebuilds_10 10 rfl rfl)
theorem dX2_rebuilds_253 : decode cX2_rebuilds 253 = .ok (.iastore, 1) := dk_79 (dk_at dksX2_rebuilds_10 13 rfl rfl)
theorem dX2_rebuilds_254 : decode cX2_rebuilds 254 = .ok (.iinc 1 1, 3) := dk_132 1 1 (dk_at dksX2_rebuilds_10 14 rfl rfl)
theorem dX2_rebuilds_257 : decode cX2_rebuilds 257 = .ok (.goto (-33), 3) := dk_167 255 223 (dk_at dksX2_rebuilds_10 17 rfl rfl)
theorem dX2_rebuilds_260 : decode cX2_rebuilds 260 = .ok (.return_, 1) := dk_177 (dk_at dksX2_rebuilds_10 20 rfl rfl)
abbrev cX2_gone : ByteArray := prog_26_method_32_code
def yX2_gone : MethodName := ⟨RX2, "gone", "(I)I"⟩
def dkwX2_gone_0 : List UInt8 := [27, 2, 160, 0, 7, 2, 167, 0, 13, 42, 180, 0, 7, 17, 3, 232, 27, 96, 46, 172]
abbrev dktX2_gone_0 : List UInt8 := dkwX2_gone_0 ++ []
theorem dksX2_gone_0 : cX2_gone.data.toList.drop 0 = dktX2_gone_0 := by decide +kernel
theorem dX2_gone_0 : decode cX2_gone 0 = .ok (.iload_n 1, 1) := dk_27 (dk_at dksX2_gone_0 0 rfl rfl)
theorem dX2_gone_1 : decode cX2_gone 1 = .ok (.iconst (-1), 1) := dk_2 (dk_at dksX2_gone_0 1 rfl rfl)
theorem dX2_gone_2 : decode cX2_gone 2 = .ok (.if_icmp .ne 7, 3) := dk_160 0 7 (dk_at dksX2_gone_0 2 rfl rfl)
theorem dX2_gone_5 : decode cX2_gone 5 = .ok (.iconst (-1), 1) := dk_2 (dk_at dksX2_gone_0 5 rfl rfl)
theorem dX2_gone_6 : decode cX2_gone 6 = .ok (.goto 13, 3) := dk_167 0 13 (dk_at dksX2_gone_0 6 rfl rfl)
theorem dX2_gone_9 : decode cX2_gone 9 = .ok (.aload_n 0, 1) := dk_42 (dk_at dksX2_gone_0 9 rfl rfl)
theorem dX2_gone_10 : decode cX2_gone 10 = .ok (.getfield 7, 3) := dk_180 0 7 (dk_at dksX2_gone_0 10 rfl rfl)
theorem dX2_gone_13 : decode cX2_gone 13 = .ok (.sipush 1000, 3) := dk_17 3 232 (dk_at dksX2_gone_0 13 rfl rfl)
theorem dX2_gone_16 : decode cX2_gone 16 = .ok (.iload_n 1, 1) := dk_27 (dk_at dksX2_gone_0 16 rfl rfl)
theorem dX2_gone_17 : decode cX2_gone 17 = .ok (.iadd, 1) := dk_96 (dk_at dksX2_gone_0 17 rfl rfl)
theorem dX2_gone_18 : decode cX2_gone 18 = .ok (.iaload, 1) := dk_46 (dk_at dksX2_gone_0 18 rfl rfl)
theorem dX2_gone_19 : decode cX2_gone 19 = .ok (.ireturn, 1) := dk_172 (dk_at dksX2_gone_0 19 rfl rfl)
abbrev cX2_moved : ByteArray := prog_26_method_36_code
def yX2_moved : MethodName := ⟨RX2, "moved", "(I)I"⟩
def dkwX2_moved_2 : List UInt8 := [18, 82, 172]
abbrev dktX2_moved_2 : List UInt8 := dkwX2_moved_2 ++ []
def dkwX2_moved_1 : List UInt8 := [180, 0, 7, 17, 4, 197, 46, 4, 160, 0, 16, 42, 180, 0, 7, 17, 3, 232, 27, 96, 46, 167, 0, 5]
abbrev dktX2_moved_1 : List UInt8 := dkwX2_moved_1 ++ dktX2_moved_2
def dkwX2_moved_0 : List UInt8 := [27, 3, 42, 180, 0, 7, 17, 4, 192, 46, 4, 100, 184, 0, 46, 154, 0, 6, 18, 50, 172, 42]
abbrev dktX2_moved_0 : List UInt8 := dkwX2_moved_0 ++ dktX2_moved_1
theorem dksX2_moved_0 : cX2_moved.data.toList.drop 0 = dktX2_moved_0 := by decide +kernel
theorem dksX2_moved_1 : cX2_moved.data.toList.drop 22 = dktX2_moved_1 := dk_seg dksX2_moved_0 22 rfl rfl
theorem dksX2_moved_2 : cX2_moved.data.toList.drop 46 = dktX2_moved_2 := dk_seg dksX2_moved_1 24 rfl rfl
theorem dX2_moved_0 : decode cX2_moved 0 = .ok (.iload_n 1, 1) := dk_27 (dk_at dksX2_moved_0 0 rfl rfl)
theorem dX2_moved_1 : decode cX2_moved 1 = .ok (.iconst 0, 1) := dk_3 (dk_at dksX2_moved_0 1 rfl rfl)
theorem dX2_moved_2 : decode cX2_moved 2 = .ok (.aload_n 0, 1) := dk_42 (dk_at dksX2_moved_0 2 rfl rfl)
theorem dX2_moved_3 : decode cX2_moved 3 = .ok (.getfield 7, 3) := dk_180 0 7 (dk_at dksX2_moved_0 3 rfl rfl)
theorem dX2_moved_6 : decode cX2_moved 6 = .ok (.sipush 1216, 3) := dk_17 4 192 (dk_at dksX2_moved_0 6 rfl rfl)
theorem dX2_moved_9 : decode cX2_moved 9 = .ok (.iaload, 1) := dk_46 (dk_at dksX2_moved_0 9 rfl rfl)
theorem dX2_moved_10 : decode cX2_moved 10 = .ok (.iconst 1, 1) := dk_4 (dk_at dksX2_moved_0 10 rfl rfl)
theorem dX2_moved_11 : decode cX2_moved 11 = .ok (.isub, 1) := dk_100 (dk_at dksX2_moved_0 11 rfl rfl)
theorem dX2_moved_12 : decode cX2_moved 12 = .ok (.invokestatic 46, 3) := dk_184 0 46 (dk_at dksX2_moved_0 12 rfl rfl)
theorem dX2_moved_15 : decode cX2_moved 15 = .ok (.ifCond .ne 6, 3) := dk_154 0 6 (dk_at dksX2_moved_0 15 rfl rfl)
theorem dX2_moved_18 : decode cX2_moved 18 = .ok (.ldc 50, 2) := dk_18 50 (dk_at dksX2_moved_0 18 rfl rfl)
theorem dX2_moved_20 : decode cX2_moved 20 = .ok (.ireturn, 1) := dk_172 (dk_at dksX2_moved_0 20 rfl rfl)
theorem dX2_moved_21 : decode cX2_moved 21 = .ok (.aload_n 0, 1) := dk_42 (dk_at dksX2_moved_0 21 rfl rfl)
theorem dX2_moved_22 : decode cX2_moved 22 = .ok (.getfield 7, 3) := dk_180 0 7 (dk_at dksX2_moved_1 0 rfl rfl)
theorem dX2_moved_25 : decode cX2_moved 25 = .ok (.sipush 1221, 3) := dk_17 4 197 (dk_at dksX2_moved_1 3 rfl rfl)
theorem dX2_moved_28 : decode cX2_moved 28 = .ok (.iaload, 1) := dk_46 (dk_at dksX2_moved_1 6 rfl rfl)
theorem dX2_moved_29 : decode cX2_moved 29 = .ok (.iconst 1, 1) := dk_4 (dk_at dksX2_moved_1 7 rfl rfl)
theorem dX2_moved_30 : decode cX2_moved 30 = .ok (.if_icmp .ne 16, 3) := dk_160 0 16 (dk_at dksX2_moved_1 8 rfl rfl)
theorem dX2_moved_33 : decode cX2_moved 33 = .ok (.aload_n 0, 1) := dk_42 (dk_at dksX2_moved_1 11 rfl rfl)
theorem dX2_moved_34 : decode cX2_moved 34 = .ok (.getfield 7, 3) := dk_180 0 7 (dk_at dksX2_moved_1 12 rfl rfl)
theorem dX2_moved_37 : decode cX2_moved 37 = .ok (.sipush 1000, 3) := dk_17 3 232 (dk_at dksX2_moved_1 15 rfl rfl)
theorem dX2_moved_40 : decode cX2_moved 40 = .ok (.iload_n 1, 1) := dk_27 (dk_at dksX2_moved_1 18 rfl rfl)
theorem dX2_moved_41 : decode cX2_moved 41 = .ok (.iadd, 1) := dk_96 (dk_at dksX2_moved_1 19 rfl rfl)
theorem dX2_moved_42 : decode cX2_moved 42 = .ok (.iaload, 1) := dk_46 (dk_at dksX2_moved_1 20 rfl rfl)
theorem dX2_moved_43 : decode cX2_moved 43 = .ok (.goto 5, 3) := dk_167 0 5 (dk_at dksX2_moved_1 21 rfl rfl)
theorem dX2_moved_46 : decode cX2_moved 46 = .ok (.ldc 82, 2) := dk_18 82 (dk_at dksX2_moved_2 0 rfl rfl)
theorem dX2_moved_48 : decode cX2_moved 48 = .ok (.ireturn, 1) := dk_172 (dk_at dksX2_moved_2 2 rfl rfl)
abbrev cX2_report : ByteArray := prog_26_method_37_code
def yX2_report : MethodName := ⟨RX2, "report", "(I)I"⟩
def dkwX2_report_1 : List UInt8 := [42, 180, 0, 7, 17, 4, 186, 27, 96, 46, 167, 0, 5, 18, 82, 172]
abbrev dktX2_report_1 : List UInt8 := dkwX2_report_1 ++ []
def dkwX2_report_0 : List UInt8 := [27, 3, 8, 184, 0, 46, 154, 0, 6, 18, 50, 172, 42, 180, 0, 7, 17, 4, 197, 46, 4, 160, 0, 16]
abbrev dktX2_report_0 : List UInt8 := dkwX2_report_0 ++ dktX2_report_1
theorem dksX2_report_0 : cX2_report.data.toList.drop 0 = dktX2_report_0 := by decide +kernel
theorem dksX2_report_1 : cX2_report.data.toList.drop 24 = dktX2_report_1 := dk_seg dksX2_report_0 24 rfl rfl
theorem dX2_report_0 : decode cX2_report 0 = .ok (.iload_n 1, 1) := dk_27 (dk_at dksX2_report_0 0 rfl rfl)
theorem dX2_report_1 : decode cX2_report 1 = .ok (.iconst 0, 1) := dk_3 (dk_at dksX2_report_0 1 rfl rfl)
theorem dX2_report_2 : decode cX2_report 2 = .ok (.iconst 5, 1) := dk_8 (dk_at dksX2_report_0 2 rfl rfl)
theorem dX2_report_3 : decode cX2_report 3 = .ok (.invokestatic 46, 3) := dk_184 0 46 (dk_at dksX2_report_0 3 rfl rfl)
theorem dX2_report_6 : decode cX2_report 6 = .ok (.ifCond .ne 6, 3) := dk_154 0 6 (dk_at dksX2_report_0 6 rfl rfl)
theorem dX2_report_9 : decode cX2_report 9 = .ok (.ldc 50, 2) := dk_18 50 (dk_at dksX2_report_0 9 rfl rfl)
theorem dX2_report_11 : decode cX2_report 11 = .ok (.ireturn, 1) := dk_172 (dk_at dksX2_report_0 11 rfl rfl)
theorem dX2_report_12 : decode cX2_report 12 = .ok (.aload_n 0, 1) := dk_42 (dk_at dksX2_report_0 12 rfl rfl)
theorem dX2_report_13 : decode cX2_report 13 = .ok (.getfield 7, 3) := dk_180 0 7 (dk_at dksX2_report_0 13 rfl rfl)
theorem dX2_report_16 : decode cX2_report 16 = .ok (.sipush 1221, 3) := dk_17 4 197 (dk_at dksX2_report_0 16 rfl rfl)
theorem dX2_report_19 : decode cX2_report 19 = .ok (.iaload, 1) := dk_46 (dk_at dksX2_report_0 19 rfl rfl)
theorem dX2_report_20 : decode cX2_report 20 = .ok (.iconst 1, 1) := dk_4 (dk_at dksX2_report_0 20 rfl rfl)
theorem dX2_report_21 : decode cX2_report 21 = .ok (.if_icmp .ne 16, 3) := dk_160 0 16 (dk_at dksX2_report_0 21 rfl rfl)
theorem dX2_report_24 : decode cX2_report 24 = .ok (.aload_n 0, 1) := dk_42 (dk_at dksX2_report_1 0 rfl rfl)
theorem dX2_report_25 : decode cX2_report 25 = .ok (.getfield 7, 3) := dk_180 0 7 (dk_at dksX2_report_1 1 rfl rfl)
theorem dX2_report_28 : decode cX2_report 28 = .ok (.sipush 1210, 3) := dk_17 4 186 (dk_at dksX2_report_1 4 rfl rfl)
theorem dX2_report_31 : decode cX2_report 31 = .ok (.iload_n 1, 1) := dk_27 (dk_at dksX2_report_1 7 rfl rfl)
theorem dX2_report_32 : decode cX2_report 32 = .ok (.iadd, 1) := dk_96 (dk_at dksX2_report_1 8 rfl rfl)
theorem dX2_report_33 : decode cX2_report 33 = .ok (.iaload, 1) := dk_46 (dk_at dksX2_report_1 9 rfl rfl)
theorem dX2_report_34 : decode cX2_report 34 = .ok (.goto 5, 3) := dk_167 0 5 (dk_at dksX2_report_1 10 rfl rfl)
theorem dX2_report_37 : decode cX2_report 37 = .ok (.ldc 82, 2) := dk_18 82 (dk_at dksX2_report_1 13 rfl rfl)
theorem dX2_report_39 : decode cX2_report 39 = .ok (.ireturn, 1) := dk_172 (dk_at dksX2_report_1 15 rfl rfl)
abbrev cX2_garbage : ByteArray := prog_26_method_38_code
def yX2_garbage : MethodName := ⟨RX2, "garbage", "()I"⟩
def dkwX2_garbage_0 : List UInt8 := [42, 2, 182, 0, 69, 42, 182, 0, 110, 42, 182, 0, 123, 100, 172]
abbrev dktX2_garbage_0 : List UInt8 := dkwX2_garbage_0 ++ []
theorem dksX2_garbage_0 : cX2_garbage.data.toList.drop 0 = dktX2_garbage_0 := by decide +kernel
theorem dX2_garbage_0 : decode cX2_garbage 0 = .ok (.aload_n 0, 1) := dk_42 (dk_at dksX2_garbage_0 0 rfl rfl)
theorem dX2_garbage_1 : decode cX2_garbage 1 = .ok (.iconst (-1), 1) := dk_2 (dk_at dksX2_garbage_0 1 rfl rfl)
theorem dX2_garbage_2 : decode cX2_garbage 2 = .ok (.invokevirtual 69, 3) := dk_182 0 69 (dk_at dksX2_garbage_0 2 rfl rfl)
theorem dX2_garbage_5 : decode cX2_garbage 5 = .ok (.aload_n 0, 1) := dk_42 (dk_at dksX2_garbage_0 5 rfl rfl)
theorem dX2_garbage_6 : decode cX2_garbage 6 = .ok (.invokevirtual 110, 3) := dk_182 0 110 (dk_at dksX2_garbage_0 6 rfl rfl)
theorem dX2_garbage_9 : decode cX2_garbage 9 = .ok (.aload_n 0, 1) := dk_42 (dk_at dksX2_garbage_0 9 rfl rfl)
theorem dX2_garbage_10 : decode cX2_garbage 10 = .ok (.invokevirtual 123, 3) := dk_182 0 123 (dk_at dksX2_garbage_0 10 rfl rfl)
theorem dX2_garbage_13 : decode cX2_garbage 13 = .ok (.isub, 1) := dk_100 (dk_at dksX2_garbage_0 13 rfl rfl)
theorem dX2_garbage_14 : decode cX2_garbage 14 = .ok (.ireturn, 1) := dk_172 (dk_at dksX2_garbage_0 14 rfl rfl)
abbrev cX2_reachedWords : ByteArray := prog_26_method_13_code
def yX2_reachedWords : MethodName := ⟨RX2, "reachedWords", "()I"⟩
def dkwX2_reachedWords_2 : List UInt8 := [172]
abbrev dktX2_reachedWords_2 : List UInt8 := dkwX2_reachedWords_2 ++ []
def dkwX2_reachedWords_1 : List UInt8 := [159, 0, 14, 42, 180, 0, 7, 3, 28, 96, 46, 167, 0, 4, 3, 96, 60, 132, 2, 1, 167, 255, 216, 27]
abbrev dktX2_reachedWords_1 : List UInt8 := dkwX2_reachedWords_1 ++ dktX2_reachedWords_2
def dkwX2_reachedWords_0 : List UInt8 := [3, 60, 3, 61, 28, 42, 180, 0, 7, 17, 4, 192, 46, 162, 0, 34, 27, 42, 180, 0, 30, 28, 46, 2]
abbrev dktX2_reachedWords_0 : List UInt8 := dkwX2_reachedWords_0 ++ dktX2_reachedWords_1
theorem dksX2_reachedWords_0 : cX2_reachedWords.data.toList.drop 0 = dktX2_reachedWords_0 := by decide +kernel
theorem dksX2_reachedWords_1 : cX2_reachedWords.data.toList.drop 24 = dktX2_reachedWords_1 := dk_seg dksX2_reachedWords_0 24 rfl rfl
theorem dksX2_reachedWords_2 : cX2_reachedWords.data.toList.drop 48 = dktX2_reachedWords_2 := dk_seg dksX2_reachedWords_1 24 rfl rfl
theorem dX2_reachedWords_0 : decode cX2_reachedWords 0 = .ok (.iconst 0, 1) := dk_3 (dk_at dksX2_reachedWords_0 0 rfl rfl)
theorem dX2_reachedWords_1 : decode cX2_reachedWords 1 = .ok (.istore_n 1, 1) := dk_60 (dk_at dksX2_reachedWords_0 1 rfl rfl)
theorem dX2_reachedWords_2 : decode cX2_reachedWords 2 = .ok (.iconst 0, 1) := dk_3 (dk_at dksX2_reachedWords_0 2 rfl rfl)
theorem dX2_reachedWords_3 : decode cX2_reachedWords 3 = .ok (.istore_n 2, 1) := dk_61 (dk_at dksX2_reachedWords_0 3 rfl rfl)
theorem dX2_reachedWords_4 : decode cX2_reachedWords 4 = .ok (.iload_n 2, 1) := dk_28 (dk_at dksX2_reachedWords_0 4 rfl rfl)
theorem dX2_reachedWords_5 : decode cX2_reachedWords 5 = .ok (.aload_n 0, 1) := dk_42 (dk_at dksX2_reachedWords_0 5 rfl rfl)
theorem dX2_reachedWords_6 : decode cX2_reachedWords 6 = .ok (.getfield 7, 3) := dk_180 0 7 (dk_at dksX2_reachedWords_0 6 rfl rfl)
theorem dX2_reachedWords_9 : decode cX2_reachedWords 9 = .ok (.sipush 1216, 3) := dk_17 4 192 (dk_at dksX2_reachedWords_0 9 rfl rfl)
theorem dX2_reachedWords_12 : decode cX2_reachedWords 12 = .ok (.iaload, 1) := dk_46 (dk_at dksX2_reachedWords_0 12 rfl rfl)
theorem dX2_reachedWords_13 : decode cX2_reachedWords 13 = .ok (.if_icmp .ge 34, 3) := dk_162 0 34 (dk_at dksX2_reachedWords_0 13 rfl rfl)
theorem dX2_reachedWords_16 : decode cX2_reachedWords 16 = .ok (.iload_n 1, 1) := dk_27 (dk_at dksX2_reachedWords_0 16 rfl rfl)
theorem dX2_reachedWords_17 : decode cX2_reachedWords 17 = .ok (.aload_n 0, 1) := dk_42 (dk_at dksX2_reachedWords_0 17 rfl rfl)
theorem dX2_reachedWords_18 : decode cX2_reachedWords 18 = .ok (.getfield 30, 3) := dk_180 0 30 (dk_at dksX2_reachedWords_0 18 rfl rfl)
theorem dX2_reachedWords_21 : decode cX2_reachedWords 21 = .ok (.iload_n 2, 1) := dk_28 (dk_at dksX2_reachedWords_0 21 rfl rfl)
theorem dX2_reachedWords_22 : decode cX2_reachedWords 22 = .ok (.iaload, 1) := dk_46 (dk_at dksX2_reachedWords_0 22 rfl rfl)
theorem dX2_reachedWords_23 : decode cX2_reachedWords 23 = .ok (.iconst (-1), 1) := dk_2 (dk_at dksX2_reachedWords_0 23 rfl rfl)
theorem dX2_reachedWords_24 : decode cX2_reachedWords 24 = .ok (.if_icmp .eq 14, 3) := dk_159 0 14 (dk_at dksX2_reachedWords_1 0 rfl rfl)
theorem dX2_reachedWords_27 : decode cX2_reachedWords 27 = .ok (.aload_n 0, 1) := dk_42 (dk_at dksX2_reachedWords_1 3 rfl rfl)
theorem dX2_reachedWords_28 : decode cX2_reachedWords 28 = .ok (.getfield 7, 3) := dk_180 0 7 (dk_at dksX2_reachedWords_1 4 rfl rfl)
theorem dX2_reachedWords_31 : decode cX2_reachedWords 31 = .ok (.iconst 0, 1) := dk_3 (dk_at dksX2_reachedWords_1 7 rfl rfl)
theorem dX2_reachedWords_32 : decode cX2_reachedWords 32 = .ok (.iload_n 2, 1) := dk_28 (dk_at dksX2_reachedWords_1 8 rfl rfl)
theorem dX2_reachedWords_33 : decode cX2_reachedWords 33 = .ok (.iadd, 1) := dk_96 (dk_at dksX2_reachedWords_1 9 rfl rfl)
theorem dX2_reachedWords_34 : decode cX2_reachedWords 34 = .ok (.iaload, 1) := dk_46 (dk_at dksX2_reachedWords_1 10 rfl rfl)
theorem dX2_reachedWords_35 : decode cX2_reachedWords 35 = .ok (.goto 4, 3) := dk_167 0 4 (dk_at dksX2_reachedWords_1 11 rfl rfl)
theorem dX2_reachedWords_38 : decode cX2_reachedWords 38 = .ok (.iconst 0, 1) := dk_3 (dk_at dksX2_reachedWords_1 14 rfl rfl)
theorem dX2_reachedWords_39 : decode cX2_reachedWords 39 = .ok (.iadd, 1) := dk_96 (dk_at dksX2_reachedWords_1 15 rfl rfl)
theorem dX2_reachedWords_40 : decode cX2_reachedWords 40 = .ok (.istore_n 1, 1) := dk_60 (dk_at dksX2_reachedWords_1 16 rfl rfl)
theorem dX2_reachedWords_41 : decode cX2_reachedWords 41 = .ok (.iinc 2 1, 3) := dk_132 2 1 (dk_at dksX2_reachedWords_1 17 rfl rfl)
theorem dX2_reachedWords_44 : decode cX2_reachedWords 44 = .ok (.goto (-40), 3) := dk_167 255 216 (dk_at dksX2_reachedWords_1 20 rfl rfl)
theorem dX2_reachedWords_47 : decode cX2_reachedWords 47 = .ok (.iload_n 1, 1) := dk_27 (dk_at dksX2_reachedWords_1 23 rfl rfl)
theorem dX2_reachedWords_48 : decode cX2_reachedWords 48 = .ok (.ireturn, 1) := dk_172 (dk_at dksX2_reachedWords_2 0 rfl rfl)
abbrev cX2_distance : ByteArray := prog_26_method_39_code
def yX2_distance : MethodName := ⟨RX2, "distance", "(I)I"⟩
def dkwX2_distance_1 : List UInt8 := [46, 172]
abbrev dktX2_distance_1 : List UInt8 := dkwX2_distance_1 ++ []
def dkwX2_distance_0 : List UInt8 := [42, 27, 182, 0, 51, 61, 28, 2, 160, 0, 6, 18, 50, 172, 42, 2, 182, 0, 69, 42, 180, 0, 30, 28]
abbrev dktX2_distance_0 : List UInt8 := dkwX2_distance_0 ++ dktX2_distance_1
theorem dksX2_distance_0 : cX2_distance.data.toList.drop 0 = dktX2_distance_0 := by decide +kernel
theorem dksX2_distance_1 : cX2_distance.data.toList.drop 24 = dktX2_distance_1 := dk_seg dksX2_distance_0 24 rfl rfl
theorem dX2_distance_0 : decode cX2_distance 0 = .ok (.aload_n 0, 1) := dk_42 (dk_at dksX2_distance_0 0 rfl rfl)
theorem dX2_distance_1 : decode cX2_distance 1 = .ok (.iload_n 1, 1) := dk_27 (dk_at dksX2_distance_0 1 rfl rfl)
theorem dX2_distance_2 : decode cX2_distance 2 = .ok (.invokevirtual 51, 3) := dk_182 0 51 (dk_at dksX2_distance_0 2 rfl rfl)
theorem dX2_distance_5 : decode cX2_distance 5 = .ok (.istore_n 2, 1) := dk_61 (dk_at dksX2_distance_0 5 rfl rfl)
theorem dX2_distance_6 : decode cX2_distance 6 = .ok (.iload_n 2, 1) := dk_28 (dk_at dksX2_distance_0 6 rfl rfl)
theorem dX2_distance_7 : decode cX2_distance 7 = .ok (.iconst (-1), 1) := dk_2 (dk_at dksX2_distance_0 7 rfl rfl)
theorem dX2_distance_8 : decode cX2_distance 8 = .ok (.if_icmp .ne 6, 3) := dk_160 0 6 (dk_at dksX2_distance_0 8 rfl rfl)
theorem dX2_distance_11 : decode cX2_distance 11 = .ok (.ldc 50, 2) := dk_18 50 (dk_at dksX2_distance_0 11 rfl rfl)
theorem dX2_distance_13 : decode cX2_distance 13 = .ok (.ireturn, 1) := dk_172 (dk_at dksX2_distance_0 13 rfl rfl)
theorem dX2_distance_14 : decode cX2_distance 14 = .ok (.aload_n 0, 1) := dk_42 (dk_at dksX2_distance_0 14 rfl rfl)
theorem dX2_distance_15 : decode cX2_distance 15 = .ok (.iconst (-1), 1) := dk_2 (dk_at dksX2_distance_0 15 rfl rfl)
theorem dX2_distance_16 : decode cX2_distance 16 = .ok (.invokevirtual 69, 3) := dk_182 0 69 (dk_at dksX2_distance_0 16 rfl rfl)
theorem dX2_distance_19 : decode cX2_distance 19 = .ok (.aload_n 0, 1) := dk_42 (dk_at dksX2_distance_0 19 rfl rfl)
theorem dX2_distance_20 : decode cX2_distance 20 = .ok (.getfield 30, 3) := dk_180 0 30 (dk_at dksX2_distance_0 20 rfl rfl)
theorem dX2_distance_23 : decode cX2_distance 23 = .ok (.iload_n 2, 1) := dk_28 (dk_at dksX2_distance_0 23 rfl rfl)
theorem dX2_distance_24 : decode cX2_distance 24 = .ok (.iaload, 1) := dk_46 (dk_at dksX2_distance_1 0 rfl rfl)
theorem dX2_distance_25 : decode cX2_distance 25 = .ok (.ireturn, 1) := dk_172 (dk_at dksX2_distance_1 1 rfl rfl)
abbrev cX2_retained : ByteArray := prog_26_method_40_code
def yX2_retained : MethodName := ⟨RX2, "retained", "(I)I"⟩
def dkwX2_retained_1 : List UInt8 := [42, 180, 0, 30, 28, 46, 2, 160, 0, 5, 3, 172, 42, 28, 182, 0, 69, 29, 42, 182, 0, 123, 100, 172]
abbrev dktX2_retained_1 : List UInt8 := dkwX2_retained_1 ++ []
def dkwX2_retained_0 : List UInt8 := [42, 27, 182, 0, 51, 61, 28, 2, 160, 0, 6, 18, 50, 172, 42, 2, 182, 0, 69, 42, 182, 0, 123, 62]
abbrev dktX2_retained_0 : List UInt8 := dkwX2_retained_0 ++ dktX2_retained_1
theorem dksX2_retained_0 : cX2_retained.data.toList.drop 0 = dktX2_retained_0 := by decide +kernel
theorem dksX2_retained_1 : cX2_retained.data.toList.drop 24 = dktX2_retained_1 := dk_seg dksX2_retained_0 24 rfl rfl
theorem dX2_retained_0 : decode cX2_retained 0 = .ok (.aload_n 0, 1) := dk_42 (dk_at dksX2_retained_0 0 rfl rfl)
theorem dX2_retained_1 : decode cX2_retained 1 = .ok (.iload_n 1, 1) := dk_27 (dk_at dksX2_retained_0 1 rfl rfl)
theorem dX2_retained_2 : decode cX2_retained 2 = .ok (.invokevirtual 51, 3) := dk_182 0 51 (dk_at dksX2_retained_0 2 rfl rfl)
theorem dX2_retained_5 : decode cX2_retained 5 = .ok (.istore_n 2, 1) := dk_61 (dk_at dksX2_retained_0 5 rfl rfl)
theorem dX2_retained_6 : decode cX2_retained 6 = .ok (.iload_n 2, 1) := dk_28 (dk_at dksX2_retained_0 6 rfl rfl)
theorem dX2_retained_7 : decode cX2_retained 7 = .ok (.iconst (-1), 1) := dk_2 (dk_at dksX2_retained_0 7 rfl rfl)
theorem dX2_retained_8 : decode cX2_retained 8 = .ok (.if_icmp .ne 6, 3) := dk_160 0 6 (dk_at dksX2_retained_0 8 rfl rfl)
theorem dX2_retained_11 : decode cX2_retained 11 = .ok (.ldc 50, 2) := dk_18 50 (dk_at dksX2_retained_0 11 rfl rfl)
theorem dX2_retained_13 : decode cX2_retained 13 = .ok (.ireturn, 1) := dk_172 (dk_at dksX2_retained_0 13 rfl rfl)
theorem dX2_retained_14 : decode cX2_retained 14 = .ok (.aload_n 0, 1) := dk_42 (dk_at dksX2_retained_0 14 rfl rfl)
theorem dX2_retained_15 : decode cX2_retained 15 = .ok (.iconst (-1), 1) := dk_2 (dk_at dksX2_retained_0 15 rfl rfl)
theorem dX2_retained_16 : decode cX2_retained 16 = .ok (.invokevirtual 69, 3) := dk_182 0 69 (dk_at dksX2_retained_0 16 rfl rfl)
theorem dX2_retained_19 : decode cX2_retained 19 = .ok (.aload_n 0, 1) := dk_42 (dk_at dksX2_retained_0 19 rfl rfl)
theorem dX2_retained_20 : decode cX2_retained 20 = .ok (.invokevirtual 123, 3) := dk_182 0 123 (dk_at dksX2_retained_0 20 rfl rfl)
theorem dX2_retained_23 : decode cX2_retained 23 = .ok (.istore_n 3, 1) := dk_62 (dk_at dksX2_retained_0 23 rfl rfl)
theorem dX2_retained_24 : decode cX2_retained 24 = .ok (.aload_n 0, 1) := dk_42 (dk_at dksX2_retained_1 0 rfl rfl)
theorem dX2_retained_25 : decode cX2_retained 25 = .ok (.getfield 30, 3) := dk_180 0 30 (dk_at dksX2_retained_1 1 rfl rfl)
theorem dX2_retained_28 : decode cX2_retained 28 = .ok (.iload_n 2, 1) := dk_28 (dk_at dksX2_retained_1 4 rfl rfl)
theorem dX2_retained_29 : decode cX2_retained 29 = .ok (.iaload, 1) := dk_46 (dk_at dksX2_retained_1 5 rfl rfl)
theorem dX2_retained_30 : decode cX2_retained 30 = .ok (.iconst (-1), 1) := dk_2 (dk_at dksX2_retained_1 6 rfl rfl)
theorem dX2_retained_31 : decode cX2_retained 31 = .ok (.if_icmp .ne 5, 3) := dk_160 0 5 (dk_at dksX2_retained_1 7 rfl rfl)
theorem dX2_retained_34 : decode cX2_retained 34 = .ok (.iconst 0, 1) := dk_3 (dk_at dksX2_retained_1 10 rfl rfl)
theorem dX2_retained_35 : decode cX2_retained 35 = .ok (.ireturn, 1) := dk_172 (dk_at dksX2_retained_1 11 rfl rfl)
theorem dX2_retained_36 : decode cX2_retained 36 = .ok (.aload_n 0, 1) := dk_42 (dk_at dksX2_retained_1 12 rfl rfl)
theorem dX2_retained_37 : decode cX2_retained 37 = .ok (.iload_n 2, 1) := dk_28 (dk_at dksX2_retained_1 13 rfl rfl)
theorem dX2_retained_38 : decode cX2_retained 38 = .ok (.invokevirtual 69, 3) := dk_182 0 69 (dk_at dksX2_retained_1 14 rfl rfl)
theorem dX2_retained_41 : decode cX2_retained 41 = .ok (.iload_n 3, 1) := dk_29 (dk_at dksX2_retained_1 17 rfl rfl)
theorem dX2_retained_42 : decode cX2_retained 42 = .ok (.aload_n 0, 1) := dk_42 (dk_at dksX2_retained_1 18 rfl rfl)
theorem dX2_retained_43 : decode cX2_retained 43 = .ok (.invokevirtual 123, 3) := dk_182 0 123 (dk_at dksX2_retained_1 19 rfl rfl)
theorem dX2_retained_46 : decode cX2_retained 46 = .ok (.isub, 1) := dk_100 (dk_at dksX2_retained_1 22 rfl rfl)
theorem dX2_retained_47 : decode cX2_retained 47 = .ok (.ireturn, 1) := dk_172 (dk_at dksX2_retained_1 23 rfl rfl)
abbrev cX2_free : ByteArray := prog_26_method_41_code
def yX2_free : MethodName := ⟨RX2, "free", "(I)I"⟩
def dkwX2_free_9 : List UInt8 := [160, 0, 8, 21, 5, 167, 0, 5, 21, 6, 172]
abbrev dktX2_free_9 : List UInt8 := dkwX2_free_9 ++ []
def dkwX2_free_8 : List UInt8 := [167, 0, 34, 27, 4, 160, 0, 7, 29, 167, 0, 25, 27, 5, 160, 0, 8, 21, 4, 167, 0, 15, 27, 6]
abbrev dktX2_free_8 : List UInt8 := dkwX2_free_8 ++ dktX2_free_9
def dkwX2_free_7 : List UInt8 := [42, 180, 0, 7, 3, 21, 7, 96, 46, 167, 0, 4, 3, 96, 54, 7, 167, 255, 102, 27, 154, 0, 7, 28]
abbrev dktX2_free_7 : List UInt8 := dkwX2_free_7 ++ dktX2_free_8
def dkwX2_free_6 : List UInt8 := [54, 6, 21, 7, 21, 8, 96, 54, 7, 21, 7, 21, 7, 42, 180, 0, 7, 17, 4, 192, 46, 162, 0, 15]
abbrev dktX2_free_6 : List UInt8 := dkwX2_free_6 ++ dktX2_free_7
def dkwX2_free_5 : List UInt8 := [62, 21, 8, 21, 4, 164, 0, 8, 21, 8, 167, 0, 5, 21, 4, 54, 4, 21, 6, 21, 8, 7, 108, 96]
abbrev dktX2_free_5 : List UInt8 := dkwX2_free_5 ++ dktX2_free_6
def dkwX2_free_4 : List UInt8 := [167, 0, 5, 21, 5, 54, 5, 28, 21, 8, 96, 61, 29, 21, 8, 158, 0, 7, 4, 167, 0, 4, 3, 96]
abbrev dktX2_free_4 : List UInt8 := dkwX2_free_4 ++ dktX2_free_5
def dkwX2_free_3 : List UInt8 := [96, 46, 154, 0, 9, 132, 8, 1, 167, 255, 222, 21, 8, 158, 0, 14, 21, 5, 2, 160, 0, 8, 21, 7]
abbrev dktX2_free_3 : List UInt8 := dkwX2_free_3 ++ dktX2_free_4
def dkwX2_free_2 : List UInt8 := [21, 8, 96, 42, 180, 0, 7, 17, 4, 192, 46, 162, 0, 24, 42, 180, 0, 7, 3, 21, 7, 96, 21, 8]
abbrev dktX2_free_2 : List UInt8 := dkwX2_free_2 ++ dktX2_free_3
def dkwX2_free_1 : List UInt8 := [54, 6, 3, 54, 7, 21, 7, 42, 180, 0, 7, 17, 4, 192, 46, 162, 0, 147, 3, 54, 8, 21, 7]
abbrev dktX2_free_1 : List UInt8 := dkwX2_free_1 ++ dktX2_free_2
def dkwX2_free_0 : List UInt8 := [27, 3, 7, 184, 0, 46, 154, 0, 6, 18, 50, 172, 3, 61, 3, 62, 3, 54, 4, 2, 54, 5, 3]
abbrev dktX2_free_0 : List UInt8 := dkwX2_free_0 ++ dktX2_free_1
theorem dksX2_free_0 : cX2_free.data.toList.drop 0 = dktX2_free_0 := by decide +kernel
theorem dksX2_free_1 : cX2_free.data.toList.drop 23 = dktX2_free_1 := dk_seg dksX2_free_0 23 rfl rfl
theorem dksX2_free_2 : cX2_free.data.toList.drop 46 = dktX2_free_2 := dk_seg dksX2_free_1 23 rfl rfl
theorem dksX2_free_3 : cX2_free.data.toList.drop 70 = dktX2_free_3 := dk_seg dksX2_free_2 24 rfl rfl
theorem dksX2_free_4 : cX2_free.data.toList.drop 94 = dktX2_free_4 := dk_seg dksX2_free_3 24 rfl rfl
theorem dksX2_free_5 : cX2_free.data.toList.drop 118 = dktX2_free_5 := dk_seg dksX2_free_4 24 rfl rfl
theorem dksX2_free_6 : cX2_free.data.toList.drop 142 = dktX2_free_6 := dk_seg dksX2_free_5 24 rfl rfl
theorem dksX2_free_7 : cX2_free.data.toList.drop 166 = dktX2_free_7 := dk_seg dksX2_free_6 24 rfl rfl
theorem dksX2_free_8 : cX2_free.data.toList.drop 190 = dktX2_free_8 := dk_seg dksX2_free_7 24 rfl rfl
theorem dksX2_free_9 : cX2_free.data.toList.drop 214 = dktX2_free_9 := dk_seg dksX2_free_8 24 rfl rfl
theorem dX2_free_0 : decode cX2_free 0 = .ok (.iload_n 1, 1) := dk_27 (dk_at dksX2_free_0 0 rfl rfl)
theorem dX2_free_1 : decode cX2_free 1 = .ok (.iconst 0, 1) := dk_3 (dk_at dksX2_free_0 1 rfl rfl)
theorem dX2_free_2 : decode cX2_free 2 = .ok (.iconst 4, 1) := dk_7 (dk_at dksX2_free_0 2 rfl rfl)
theorem dX2_free_3 : decode cX2_free 3 = .ok (.invokestatic 46, 3) := dk_184 0 46 (dk_at dksX2_free_0 3 rfl rfl)
theorem dX2_free_6 : decode cX2_free 6 = .ok (.ifCond .ne 6, 3) := dk_154 0 6 (dk_at dksX2_free_0 6 rfl rfl)
theorem dX2_free_9 : decode cX2_free 9 = .ok (.ldc 50, 2) := dk_18 50 (dk_at dksX2_free_0 9 rfl rfl)
theorem dX2_free_11 : decode cX2_free 11 = .ok (.ireturn, 1) := dk_172 (dk_at dksX2_free_0 11 rfl rfl)
theorem dX2_free_12 : decode cX2_free 12 = .ok (.iconst 0, 1) := dk_3 (dk_at dksX2_free_0 12 rfl rfl)
theorem dX2_free_13 : decode cX2_free 13 = .ok (.istore_n 2, 1) := dk_61 (dk_at dksX2_free_0 13 rfl rfl)
theorem dX2_free_14 : decode cX2_free 14 = .ok (.iconst 0, 1) := dk_3 (dk_at dksX2_free_0 14 rfl rfl)
theorem dX2_free_15 : decode cX2_free 15 = .ok (.istore_n 3, 1) := dk_62 (dk_at dksX2_free_0 15 rfl rfl)
theorem dX2_free_16 : decode cX2_free 16 = .ok (.iconst 0, 1) := dk_3 (dk_at dksX2_free_0 16 rfl rfl)
theorem dX2_free_17 : decode cX2_free 17 = .ok (.istore 4, 2) := dk_54 4 (dk_at dksX2_free_0 17 rfl rfl)
theorem dX2_free_19 : decode cX2_free 19 = .ok (.iconst (-1), 1) := dk_2 (dk_at dksX2_free_0 19 rfl rfl)
theorem dX2_free_20 : decode cX2_free 20 = .ok (.istore 5, 2) := dk_54 5 (dk_at dksX2_free_0 20 rfl rfl)
theorem dX2_free_22 : decode cX2_free 22 = .ok (.iconst 0, 1) := dk_3 (dk_at dksX2_free_0 22 rfl rfl)
theorem dX2_free_23 : decode cX2_free 23 = .ok (.istore 6, 2) := dk_54 6 (dk_at dksX2_free_1 0 rfl rfl)
theorem dX2_free_25 : decode cX2_free 25 = .ok (.iconst 0, 1) := dk_3 (dk_at dksX2_free_1 2 rfl rfl)
theorem dX2_free_26 : decode cX2_free 26 = .ok (.istore 7, 2) := dk_54 7 (dk_at dksX2_free_1 3 rfl rfl)
theorem dX2_free_28 : decode cX2_free 28 = .ok (.iload 7, 2) := dk_21 7 (dk_at dksX2_free_1 5 rfl rfl)
theorem dX2_free_30 : decode cX2_free 30 = .ok (.aload_n 0, 1) := dk_42 (dk_at dksX2_free_1 7 rfl rfl)
theorem dX2_free_31 : decode cX2_free 31 = .ok (.getfield 7, 3) := dk_180 0 7 (dk_at dksX2_free_1 8 rfl rfl)
theorem dX2_free_34 : decode cX2_free 34 = .ok (.sipush 1216, 3) := dk_17 4 192 (dk_at dksX2_free_1 11 rfl rfl)
theorem dX2_free_37 : decode cX2_free 37 = .ok (.iaload, 1) := dk_46 (dk_at dksX2_free_1 14 rfl rfl)
theorem dX2_free_38 : decode cX2_free 38 = .ok (.if_icmp .ge 147, 3) := dk_162 0 147 (dk_at dksX2_free_1 15 rfl rfl)
theorem dX2_free_41 : decode cX2_free 41 = .ok (.iconst 0, 1) := dk_3 (dk_at dksX2_free_1 18 rfl rfl)
theorem dX2_free_42 : decode cX2_free 42 = .ok (.istore 8, 2) := dk_54 8 (dk_at dksX2_free_1 19 rfl rfl)
theorem dX2_free_44 : decode cX2_free 44 = .ok (.iload 7, 2) := dk_21 7 (dk_at dksX2_free_1 21 rfl rfl)
theorem dX2_free_46 : decode cX2_free 46 = .ok (.iload 8, 2) := dk_21 8 (dk_at dksX2_free_2 0 rfl rfl)
theorem dX2_free_48 : decode cX2_free 48 = .ok (.iadd, 1) := dk_96 (dk_at dksX2_free_2 2 rfl rfl)
theorem dX2_free_49 : decode cX2_free 49 = .ok (.aload_n 0, 1) := dk_42 (dk_at dksX2_free_2 3 rfl rfl)
theorem dX2_free_50 : decode cX2_free 50 = .ok (.getfield 7, 3) := dk_180 0 7 (dk_at dksX2_free_2 4 rfl rfl)
theorem dX2_free_53 : decode cX2_free 53 = .ok (.sipush 1216, 3) := dk_17 4 192 (dk_at dksX2_free_2 7 rfl rfl)
theorem dX2_free_56 : decode cX2_free 56 = .ok (.iaload, 1) := dk_46 (dk_at dksX2_free_2 10 rfl rfl)
theorem dX2_free_57 : decode cX2_free 57 = .ok (.if_icmp .ge 24, 3) := dk_162 0 24 (dk_at dksX2_free_2 11 rfl rfl)
theorem dX2_free_60 : decode cX2_free 60 = .ok (.aload_n 0, 1) := dk_42 (dk_at dksX2_free_2 14 rfl rfl)
theorem dX2_free_61 : decode cX2_free 61 = .ok (.getfield 7, 3) := dk_180 0 7 (dk_at dksX2_free_2 15 rfl rfl)
theorem dX2_free_64 : decode cX2_free 64 = .ok (.iconst 0, 1) := dk_3 (dk_at dksX2_free_2 18 rfl rfl)
theorem dX2_free_65 : decode cX2_free 65 = .ok (.iload 7, 2) := dk_21 7 (dk_at dksX2_free_2 19 rfl rfl)
theorem dX2_free_67 : decode cX2_free 67 = .ok (.iadd, 1) := dk_96 (dk_at dksX2_free_2 21 rfl rfl)
theorem dX2_free_68 : decode cX2_free 68 = .ok (.iload 8, 2) := dk_21 8 (dk_at dksX2_free_2 22 rfl rfl)
theorem dX2_free_70 : decode cX2_free 70 = .ok (.iadd, 1) := dk_96 (dk_at dksX2_free_3 0 rfl rfl)
theorem dX2_free_71 : decode cX2_free 71 = .ok (.iaload, 1) := dk_46 (dk_at dksX2_free_3 1 rfl rfl)
theorem dX2_free_72 : decode cX2_free 72 = .ok (.ifCond .ne 9, 3) := dk_154 0 9 (dk_at dksX2_free_3 2 rfl rfl)
theorem dX2_free_75 : decode cX2_free 75 = .ok (.iinc 8 1, 3) := dk_132 8 1 (dk_at dksX2_free_3 5 rfl rfl)
theorem dX2_free_78 : decode cX2_free 78 = .ok (.goto (-34), 3) := dk_167 255 222 (dk_at dksX2_free_3 8 rfl rfl)
theorem dX2_free_81 : decode cX2_free 81 = .ok (.iload 8, 2) := dk_21 8 (dk_at dksX2_free_3 11 rfl rfl)
theorem dX2_free_83 : decode cX2_free 83 = .ok (.ifCond .le 14, 3) := dk_158 0 14 (dk_at dksX2_free_3 13 rfl rfl)
theorem dX2_free_86 : decode cX2_free 86 = .ok (.iload 5, 2) := dk_21 5 (dk_at dksX2_free_3 16 rfl rfl)
theorem dX2_free_88 : decode cX2_free 88 = .ok (.iconst (-1), 1) := dk_2 (dk_at dksX2_free_3 18 rfl rfl)
theorem dX2_free_89 : decode cX2_free 89 = .ok (.if_icmp .ne 8, 3) := dk_160 0 8 (dk_at dksX2_free_3 19 rfl rfl)
theorem dX2_free_92 : decode cX2_free 92 = .ok (.iload 7, 2) := dk_21 7 (dk_at dksX2_free_3 22 rfl rfl)
theorem dX2_free_94 : decode cX2_free 94 = .ok (.goto 5, 3) := dk_167 0 5 (dk_at dksX2_free_4 0 rfl rfl)
theorem dX2_free_97 : decode cX2_free 97 = .ok (.iload 5, 2) := dk_21 5 (dk_at dksX2_free_4 3 rfl rfl)
theorem dX2_free_99 : decode cX2_free 99 = .ok (.istore 5, 2) := dk_54 5 (dk_at dksX2_free_4 5 rfl rfl)
theorem dX2_free_101 : decode cX2_free 101 = .ok (.iload_n 2, 1) := dk_28 (dk_at dksX2_free_4 7 rfl rfl)
theorem dX2_free_102 : decode cX2_free 102 = .ok (.iload 8, 2) := dk_21 8 (dk_at dksX2_free_4 8 rfl rfl)
theorem dX2_free_104 : decode cX2_free 104 = .ok (.iadd, 1) := dk_96 (dk_at dksX2_free_4 10 rfl rfl)
theorem dX2_free_105 : decode cX2_free 105 = .ok (.istore_n 2, 1) := dk_61 (dk_at dksX2_free_4 11 rfl rfl)
theorem dX2_free_106 : decode cX2_free 106 = .ok (.iload_n 3, 1) := dk_29 (dk_at dksX2_free_4 12 rfl rfl)
theorem dX2_free_107 : decode cX2_free 107 = .ok (.iload 8, 2) := dk_21 8 (dk_at dksX2_free_4 13 rfl rfl)
theorem dX2_free_109 : decode cX2_free 109 = .ok (.ifCond .le 7, 3) := dk_158 0 7 (dk_at dksX2_free_4 15 rfl rfl)
theorem dX2_free_112 : decode cX2_free 112 = .ok (.iconst 1, 1) := dk_4 (dk_at dksX2_free_4 18 rfl rfl)
theorem dX2_free_113 : decode cX2_free 113 = .ok (.goto 4, 3) := dk_167 0 4 (dk_at dksX2_free_4 19 rfl rfl)
theorem dX2_free_116 : decode cX2_free 116 = .ok (.iconst 0, 1) := dk_3 (dk_at dksX2_free_4 22 rfl rfl)
theorem dX2_free_117 : decode cX2_free 117 = .ok (.iadd, 1) := dk_96 (dk_at dksX2_free_4 23 rfl rfl)
theorem dX2_free_118 : decode cX2_free 118 = .ok (.istore_n 3, 1) := dk_62 (dk_at dksX2_free_5 0 rfl rfl)
theorem dX2_free_119 : decode cX2_free 119 = .ok (.iload 8, 2) := dk_21 8 (dk_at dksX2_free_5 1 rfl rfl)
theorem dX2_free_121 : decode cX2_free 121 = .ok (.iload 4, 2) := dk_21 4 (dk_at dksX2_free_5 3 rfl rfl)
theorem dX2_free_123 : decode cX2_free 123 = .ok (.if_icmp .le 8, 3) := dk_164 0 8 (dk_at dksX2_free_5 5 rfl rfl)
theorem dX2_free_126 : decode cX2_free 126 = .ok (.iload 8, 2) := dk_21 8 (dk_at dksX2_free_5 8 rfl rfl)
theorem dX2_free_128 : decode cX2_free 128 = .ok (.goto 5, 3) := dk_167 0 5 (dk_at dksX2_free_5 10 rfl rfl)
theorem dX2_free_131 : decode cX2_free 131 = .ok (.iload 4, 2) := dk_21 4 (dk_at dksX2_free_5 13 rfl rfl)
theorem dX2_free_133 : decode cX2_free 133 = .ok (.istore 4, 2) := dk_54 4 (dk_at dksX2_free_5 15 rfl rfl)
theorem dX2_free_135 : decode cX2_free 135 = .ok (.iload 6, 2) := dk_21 6 (dk_at dksX2_free_5 17 rfl rfl)
theorem dX2_free_137 : decode cX2_free 137 = .ok (.iload 8, 2) := dk_21 8 (dk_at dksX2_free_5 19 rfl rfl)
theorem dX2_free_139 : decode cX2_free 139 = .ok (.iconst 4, 1) := dk_7 (dk_at dksX2_free_5 21 rfl rfl)
theorem dX2_free_140 : decode cX2_free 140 = .ok (.idiv, 1) := dk_108 (dk_at dksX2_free_5 22 rfl rfl)
theorem dX2_free_141 : decode cX2_free 141 = .ok (.iadd, 1) := dk_96 (dk_at dksX2_free_5 23 rfl rfl)
theorem dX2_free_142 : decode cX2_free 142 = .ok (.istore 6, 2) := dk_54 6 (dk_at dksX2_free_6 0 rfl rfl)
theorem dX2_free_144 : decode cX2_free 144 = .ok (.iload 7, 2) := dk_21 7 (dk_at dksX2_free_6 2 rfl rfl)
theorem dX2_free_146 : decode cX2_free 146 = .ok (.iload 8, 2) := dk_21 8 (dk_at dksX2_free_6 4 rfl rfl)
theorem dX2_free_148 : decode cX2_free 148 = .ok (.iadd, 1) := dk_96 (dk_at dksX2_free_6 6 rfl rfl)
theorem dX2_free_149 : decode cX2_free 149 = .ok (.istore 7, 2) := dk_54 7 (dk_at dksX2_free_6 7 rfl rfl)
theorem dX2_free_151 : decode cX2_free 151 = .ok (.iload 7, 2) := dk_21 7 (dk_at dksX2_free_6 9 rfl rfl)
theorem dX2_free_153 : decode cX2_free 153 = .ok (.iload 7, 2) := dk_21 7 (dk_at dksX2_free_6 11 rfl rfl)
theorem dX2_free_155 : decode cX2_free 155 = .ok (.aload_n 0, 1) := dk_42 (dk_at dksX2_free_6 13 rfl rfl)
theorem dX2_free_156 : decode cX2_free 156 = .ok (.getfield 7, 3) := dk_180 0 7 (dk_at dksX2_free_6 14 rfl rfl)
theorem dX2_free_159 : decode cX2_free 159 = .ok (.sipush 1216, 3) := dk_17 4 192 (dk_at dksX2_free_6 17 rfl rfl)
theorem dX2_free_162 : decode cX2_free 162 = .ok (.iaload, 1) := dk_46 (dk_at dksX2_free_6 20 rfl rfl)
theorem dX2_free_163 : decode cX2_free 163 = .ok (.if_icmp .ge 15, 3) := dk_162 0 15 (dk_at dksX2_free_6 21 rfl rfl)
theorem dX2_free_166 : decode cX2_free 166 = .ok (.aload_n 0, 1) := dk_42 (dk_at dksX2_free_7 0 rfl rfl)
theorem dX2_free_167 : decode cX2_free 167 = .ok (.getfield 7, 3) := dk_180 0 7 (dk_at dksX2_free_7 1 rfl rfl)
theorem dX2_free_170 : decode cX2_free 170 = .ok (.iconst 0, 1) := dk_3 (dk_at dksX2_free_7 4 rfl rfl)
theorem dX2_free_171 : decode cX2_free 171 = .ok (.iload 7, 2) := dk_21 7 (dk_at dksX2_free_7 5 rfl rfl)
theorem dX2_free_173 : decode cX2_free 173 = .ok (.iadd, 1) := dk_96 (dk_at dksX2_free_7 7 rfl rfl)
theorem dX2_free_174 : decode cX2_free 174 = .ok (.iaload, 1) := dk_46 (dk_at dksX2_free_7 8 rfl rfl)
theorem dX2_free_175 : decode cX2_free 175 = .ok (.goto 4, 3) := dk_167 0 4 (dk_at dksX2_free_7 9 rfl rfl)
theorem dX2_free_178 : decode cX2_free 178 = .ok (.iconst 0, 1) := dk_3 (dk_at dksX2_free_7 12 rfl rfl)
theorem dX2_free_179 : decode cX2_free 179 = .ok (.iadd, 1) := dk_96 (dk_at dksX2_free_7 13 rfl rfl)
theorem dX2_free_180 : decode cX2_free 180 = .ok (.istore 7, 2) := dk_54 7 (dk_at dksX2_free_7 14 rfl rfl)
theorem dX2_free_182 : decode cX2_free 182 = .ok (.goto (-154), 3) := dk_167 255 102 (dk_at dksX2_free_7 16 rfl rfl)
theorem dX2_free_185 : decode cX2_free 185 = .ok (.iload_n 1, 1) := dk_27 (dk_at dksX2_free_7 19 rfl rfl)
theorem dX2_free_186 : decode cX2_free 186 = .ok (.ifCond .ne 7, 3) := dk_154 0 7 (dk_at dksX2_free_7 20 rfl rfl)
theorem dX2_free_189 : decode cX2_free 189 = .ok (.iload_n 2, 1) := dk_28 (dk_at dksX2_free_7 23 rfl rfl)
theorem dX2_free_190 : decode cX2_free 190 = .ok (.goto 34, 3) := dk_167 0 34 (dk_at dksX2_free_8 0 rfl rfl)
theorem dX2_free_193 : decode cX2_free 193 = .ok (.iload_n 1, 1) := dk_27 (dk_at dksX2_free_8 3 rfl rfl)
theorem dX2_free_194 : decode cX2_free 194 = .ok (.iconst 1, 1) := dk_4 (dk_at dksX2_free_8 4 rfl rfl)
theorem dX2_free_195 : decode cX2_free 195 = .ok (.if_icmp .ne 7, 3) := dk_160 0 7 (dk_at dksX2_free_8 5 rfl rfl)
theorem dX2_free_198 : decode cX2_free 198 = .ok (.iload_n 3, 1) := dk_29 (dk_at dksX2_free_8 8 rfl rfl)
theorem dX2_free_199 : decode cX2_free 199 = .ok (.goto 25, 3) := dk_167 0 25 (dk_at dksX2_free_8 9 rfl rfl)
theorem dX2_free_202 : decode cX2_free 202 = .ok (.iload_n 1, 1) := dk_27 (dk_at dksX2_free_8 12 rfl rfl)
theorem dX2_free_203 : decode cX2_free 203 = .ok (.iconst 2, 1) := dk_5 (dk_at dksX2_free_8 13 rfl rfl)
theorem dX2_free_204 : decode cX2_free 204 = .ok (.if_icmp .ne 8, 3) := dk_160 0 8 (dk_at dksX2_free_8 14 rfl rfl)
theorem dX2_free_207 : decode cX2_free 207 = .ok (.iload 4, 2) := dk_21 4 (dk_at dksX2_free_8 17 rfl rfl)
theorem dX2_free_209 : decode cX2_free 209 = .ok (.goto 15, 3) := dk_167 0 15 (dk_at dksX2_free_8 19 rfl rfl)
theorem dX2_free_212 : decode cX2_free 212 = .ok (.iload_n 1, 1) := dk_27 (dk_at dksX2_free_8 22 rfl rfl)
theorem dX2_free_213 : decode cX2_free 213 = .ok (.iconst 3, 1) := dk_6 (dk_at dksX2_free_8 23 rfl rfl)
theorem dX2_free_214 : decode cX2_free 214 = .ok (.if_icmp .ne 8, 3) := dk_160 0 8 (dk_at dksX2_free_9 0 rfl rfl)
theorem dX2_free_217 : decode cX2_free 217 = .ok (.iload 5, 2) := dk_21 5 (dk_at dksX2_free_9 3 rfl rfl)
theorem dX2_free_219 : decode cX2_free 219 = .ok (.goto 5, 3) := dk_167 0 5 (dk_at dksX2_free_9 5 rfl rfl)
theorem dX2_free_222 : decode cX2_free 222 = .ok (.iload 6, 2) := dk_21 6 (dk_at dksX2_free_9 8 rfl rfl)
theorem dX2_free_224 : decode cX2_free 224 = .ok (.ireturn, 1) := dk_172 (dk_at dksX2_free_9 10 rfl rfl)
abbrev cX2_type : ByteArray := prog_26_method_42_code
def yX2_type : MethodName := ⟨RX2, "type", "(I)I"⟩
def dkwX2_type_2 : List UInt8 := [180, 0, 126, 172]
abbrev dktX2_type_2 : List UInt8 := dkwX2_type_2 ++ []
def dkwX2_type_1 : List UInt8 := [172, 42, 180, 0, 23, 42, 180, 0, 126, 27, 79, 42, 89, 180, 0, 126, 4, 96, 181, 0, 126, 42]
abbrev dktX2_type_1 : List UInt8 := dkwX2_type_1 ++ dktX2_type_2
def dkwX2_type_0 : List UInt8 := [27, 3, 16, 127, 184, 0, 46, 154, 0, 6, 18, 50, 172, 42, 180, 0, 126, 16, 80, 160, 0, 6, 18, 59]
abbrev dktX2_type_0 : List UInt8 := dkwX2_type_0 ++ dktX2_type_1
theorem dksX2_type_0 : cX2_type.data.toList.drop 0 = dktX2_type_0 := by decide +kernel
theorem dksX2_type_1 : cX2_type.data.toList.drop 24 = dktX2_type_1 := dk_seg dksX2_type_0 24 rfl rfl
theorem dksX2_type_2 : cX2_type.data.toList.drop 46 = dktX2_type_2 := dk_seg dksX2_type_1 22 rfl rfl
theorem dX2_type_0 : decode cX2_type 0 = .ok (.iload_n 1, 1) := dk_27 (dk_at dksX2_type_0 0 rfl rfl)
theorem dX2_type_1 : decode cX2_type 1 = .ok (.iconst 0, 1) := dk_3 (dk_at dksX2_type_0 1 rfl rfl)
theorem dX2_type_2 : decode cX2_type 2 = .ok (.bipush 127, 2) := dk_16 127 (dk_at dksX2_type_0 2 rfl rfl)
theorem dX2_type_4 : decode cX2_type 4 = .ok (.invokestatic 46, 3) := dk_184 0 46 (dk_at dksX2_type_0 4 rfl rfl)
theorem dX2_type_7 : decode cX2_type 7 = .ok (.ifCond .ne 6, 3) := dk_154 0 6 (dk_at dksX2_type_0 7 rfl rfl)
theorem dX2_type_10 : decode cX2_type 10 = .ok (.ldc 50, 2) := dk_18 50 (dk_at dksX2_type_0 10 rfl rfl)
theorem dX2_type_12 : decode cX2_type 12 = .ok (.ireturn, 1) := dk_172 (dk_at dksX2_type_0 12 rfl rfl)
theorem dX2_type_13 : decode cX2_type 13 = .ok (.aload_n 0, 1) := dk_42 (dk_at dksX2_type_0 13 rfl rfl)
theorem dX2_type_14 : decode cX2_type 14 = .ok (.getfield 126, 3) := dk_180 0 126 (dk_at dksX2_type_0 14 rfl rfl)
theorem dX2_type_17 : decode cX2_type 17 = .ok (.bipush 80, 2) := dk_16 80 (dk_at dksX2_type_0 17 rfl rfl)
theorem dX2_type_19 : decode cX2_type 19 = .ok (.if_icmp .ne 6, 3) := dk_160 0 6 (dk_at dksX2_type_0 19 rfl rfl)
theorem dX2_type_22 : decode cX2_type 22 = .ok (.ldc 59, 2) := dk_18 59 (dk_at dksX2_type_0 22 rfl rfl)
theorem dX2_type_24 : decode cX2_type 24 = .ok (.ireturn, 1) := dk_172 (dk_at dksX2_type_1 0 rfl rfl)
theorem dX2_type_25 : decode cX2_type 25 = .ok (.aload_n 0, 1) := dk_42 (dk_at dksX2_type_1 1 rfl rfl)
theorem dX2_type_26 : decode cX2_type 26 = .ok (.getfield 23, 3) := dk_180 0 23 (dk_at dksX2_type_1 2 rfl rfl)
theorem dX2_type_29 : decode cX2_type 29 = .ok (.aload_n 0, 1) := dk_42 (dk_at dksX2_type_1 5 rfl rfl)
theorem dX2_type_30 : decode cX2_type 30 = .ok (.getfield 126, 3) := dk_180 0 126 (dk_at dksX2_type_1 6 rfl rfl)
theorem dX2_type_33 : decode cX2_type 33 = .ok (.iload_n 1, 1) := dk_27 (dk_at dksX2_type_1 9 rfl rfl)
theorem dX2_type_34 : decode cX2_type 34 = .ok (.iastore, 1) := dk_79 (dk_at dksX2_type_1 10 rfl rfl)
theorem dX2_type_35 : decode cX2_type 35 = .ok (.aload_n 0, 1) := dk_42 (dk_at dksX2_type_1 11 rfl rfl)
theorem dX2_type_36 : decode cX2_type 36 = .ok (.dup, 1) := dk_89 (dk_at dksX2_type_1 12 rfl rfl)
theorem dX2_type_37 : decode cX2_type 37 = .ok (.getfield 126, 3) := dk_180 0 126 (dk_at dksX2_type_1 13 rfl rfl)
theorem dX2_type_40 : decode cX2_type 40 = .ok (.iconst 1, 1) := dk_4 (dk_at dksX2_type_1 16 rfl rfl)
theorem dX2_type_41 : decode cX2_type 41 = .ok (.iadd, 1) := dk_96 (dk_at dksX2_type_1 17 rfl rfl)
theorem dX2_type_42 : decode cX2_type 42 = .ok (.putfield 126, 3) := dk_181 0 126 (dk_at dksX2_type_1 18 rfl rfl)
theorem dX2_type_45 : decode cX2_type 45 = .ok (.aload_n 0, 1) := dk_42 (dk_at dksX2_type_1 21 rfl rfl)
theorem dX2_type_46 : decode cX2_type 46 = .ok (.getfield 126, 3) := dk_180 0 126 (dk_at dksX2_type_2 0 rfl rfl)
theorem dX2_type_49 : decode cX2_type 49 = .ok (.ireturn, 1) := dk_172 (dk_at dksX2_type_2 3 rfl rfl)
abbrev cX2_clearText : ByteArray := prog_26_method_43_code
def yX2_clearText : MethodName := ⟨RX2, "clearText", "()I"⟩
def dkwX2_clearText_0 : List UInt8 := [42, 180, 0, 126, 60, 42, 3, 181, 0, 126, 27, 172]
abbrev dktX2_clearText_0 : List UInt8 := dkwX2_clearText_0 ++ []
theorem dksX2_clearText_0 : cX2_clearText.data.toList.drop 0 = dktX2_clearText_0 := by decide +kernel
theorem dX2_clearText_0 : decode cX2_clearText 0 = .ok (.aload_n 0, 1) := dk_42 (dk_at dksX2_clearText_0 0 rfl rfl)
theorem dX2_clearText_1 : decode cX2_clearText 1 = .ok (.getfield 126, 3) := dk_180 0 126 (dk_at dksX2_clearText_0 1 rfl rfl)
theorem dX2_clearText_4 : decode cX2_clearText 4 = .ok (.istore_n 1, 1) := dk_60 (dk_at dksX2_clearText_0 4 rfl rfl)
theorem dX2_clearText_5 : decode cX2_clearText 5 = .ok (.aload_n 0, 1) := dk_42 (dk_at dksX2_clearText_0 5 rfl rfl)
theorem dX2_clearText_6 : decode cX2_clearText 6 = .ok (.iconst 0, 1) := dk_3 (dk_at dksX2_clearText_0 6 rfl rfl)
theorem dX2_clearText_7 : decode cX2_clearText 7 = .ok (.putfield 126, 3) := dk_181 0 126 (dk_at dksX2_clearText_0 7 rfl rfl)
theorem dX2_clearText_10 : decode cX2_clearText 10 = .ok (.iload_n 1, 1) := dk_27 (dk_at dksX2_clearText_0 10 rfl rfl)
theorem dX2_clearText_11 : decode cX2_clearText 11 = .ok (.ireturn, 1) := dk_172 (dk_at dksX2_clearText_0 11 rfl rfl)
abbrev cX2_fault : ByteArray := prog_26_method_52_code
def yX2_fault : MethodName := ⟨RX2, "fault", "()I"⟩
def dkwX2_fault_2 : List UInt8 := [180, 0, 135, 172]
abbrev dktX2_fault_2 : List UInt8 := dkwX2_fault_2 ++ []
def dkwX2_fault_1 : List UInt8 := [160, 0, 21, 42, 180, 0, 129, 42, 180, 0, 126, 162, 0, 10, 42, 182, 0, 160, 167, 255, 233, 42]
abbrev dktX2_fault_1 : List UInt8 := dkwX2_fault_1 ++ dktX2_fault_2
def dkwX2_fault_0 : List UInt8 := [42, 3, 181, 0, 129, 42, 3, 181, 0, 151, 42, 2, 181, 0, 135, 42, 182, 0, 145, 42, 180, 0, 135, 2]
abbrev dktX2_fault_0 : List UInt8 := dkwX2_fault_0 ++ dktX2_fault_1
theorem dksX2_fault_0 : cX2_fault.data.toList.drop 0 = dktX2_fault_0 := by decide +kernel
theorem dksX2_fault_1 : cX2_fault.data.toList.drop 24 = dktX2_fault_1 := dk_seg dksX2_fault_0 24 rfl rfl
theorem dksX2_fault_2 : cX2_fault.data.toList.drop 46 = dktX2_fault_2 := dk_seg dksX2_fault_1 22 rfl rfl
theorem dX2_fault_0 : decode cX2_fault 0 = .ok (.aload_n 0, 1) := dk_42 (dk_at dksX2_fault_0 0 rfl rfl)
theorem dX2_fault_1 : decode cX2_fault 1 = .ok (.iconst 0, 1) := dk_3 (dk_at dksX2_fault_0 1 rfl rfl)
theorem dX2_fault_2 : decode cX2_fault 2 = .ok (.putfield 129, 3) := dk_181 0 129 (dk_at dksX2_fault_0 2 rfl rfl)
theorem dX2_fault_5 : decode cX2_fault 5 = .ok (.aload_n 0, 1) := dk_42 (dk_at dksX2_fault_0 5 rfl rfl)
theorem dX2_fault_6 : decode cX2_fault 6 = .ok (.iconst 0, 1) := dk_3 (dk_at dksX2_fault_0 6 rfl rfl)
theorem dX2_fault_7 : decode cX2_fault 7 = .ok (.putfield 151, 3) := dk_181 0 151 (dk_at dksX2_fault_0 7 rfl rfl)
theorem dX2_fault_10 : decode cX2_fault 10 = .ok (.aload_n 0, 1) := dk_42 (dk_at dksX2_fault_0 10 rfl rfl)
theorem dX2_fault_11 : decode cX2_fault 11 = .ok (.iconst (-1), 1) := dk_2 (dk_at dksX2_fault_0 11 rfl rfl)
theorem dX2_fault_12 : decode cX2_fault 12 = .ok (.putfield 135, 3) := dk_181 0 135 (dk_at dksX2_fault_0 12 rfl rfl)
theorem dX2_fault_15 : decode cX2_fault 15 = .ok (.aload_n 0, 1) := dk_42 (dk_at dksX2_fault_0 15 rfl rfl)
theorem dX2_fault_16 : decode cX2_fault 16 = .ok (.invokevirtual 145, 3) := dk_182 0 145 (dk_at dksX2_fault_0 16 rfl rfl)
theorem dX2_fault_19 : decode cX2_fault 19 = .ok (.aload_n 0, 1) := dk_42 (dk_at dksX2_fault_0 19 rfl rfl)
theorem dX2_fault_20 : decode cX2_fault 20 = .ok (.getfield 135, 3) := dk_180 0 135 (dk_at dksX2_fault_0 20 rfl rfl)
theorem dX2_fault_23 : decode cX2_fault 23 = .ok (.iconst (-1), 1) := dk_2 (dk_at dksX2_fault_0 23 rfl rfl)
theorem dX2_fault_24 : decode cX2_fault 24 = .ok (.if_icmp .ne 21, 3) := dk_160 0 21 (dk_at dksX2_fault_1 0 rfl rfl)
theorem dX2_fault_27 : decode cX2_fault 27 = .ok (.aload_n 0, 1) := dk_42 (dk_at dksX2_fault_1 3 rfl rfl)
theorem dX2_fault_28 : decode cX2_fault 28 = .ok (.getfield 129, 3) := dk_180 0 129 (dk_at dksX2_fault_1 4 rfl rfl)
theorem dX2_fault_31 : decode cX2_fault 31 = .ok (.aload_n 0, 1) := dk_42 (dk_at dksX2_fault_1 7 rfl rfl)
theorem dX2_fault_32 : decode cX2_fault 32 = .ok (.getfield 126, 3) := dk_180 0 126 (dk_at dksX2_fault_1 8 rfl rfl)
theorem dX2_fault_35 : decode cX2_fault 35 = .ok (.if_icmp .ge 10, 3) := dk_162 0 10 (dk_at dksX2_fault_1 11 rfl rfl)
theorem dX2_fault_38 : decode cX2_fault 38 = .ok (.aload_n 0, 1) := dk_42 (dk_at dksX2_fault_1 14 rfl rfl)
theorem dX2_fault_39 : decode cX2_fault 39 = .ok (.invokevirtual 160, 3) := dk_182 0 160 (dk_at dksX2_fault_1 15 rfl rfl)
theorem dX2_fault_42 : decode cX2_fault 42 = .ok (.goto (-23), 3) := dk_167 255 233 (dk_at dksX2_fault_1 18 rfl rfl)
theorem dX2_fault_45 : decode cX2_fault 45 = .ok (.aload_n 0, 1) := dk_42 (dk_at dksX2_fault_1 21 rfl rfl)
theorem dX2_fault_46 : decode cX2_fault 46 = .ok (.getfield 135, 3) := dk_180 0 135 (dk_at dksX2_fault_2 0 rfl rfl)
theorem dX2_fault_49 : decode cX2_fault 49 = .ok (.ireturn, 1) := dk_172 (dk_at dksX2_fault_2 3 rfl rfl)
abbrev cX2_blanks : ByteArray := prog_26_method_45_code
def yX2_blanks : MethodName := ⟨RX2, "blanks", "()V"⟩
def dkwX2_blanks_0 : List UInt8 := [42, 182, 0, 132, 16, 32, 160, 0, 16, 42, 89, 180, 0, 129, 4, 96, 181, 0, 129, 167, 255, 237, 177]
abbrev dktX2_blanks_0 : List UInt8 := dkwX2_blanks_0 ++ []
theorem dksX2_blanks_0 : cX2_blanks.data.toList.drop 0 = dktX2_blanks_0 := by decide +kernel
theorem dX2_blanks_0 : decode cX2_blanks 0 = .ok (.aload_n 0, 1) := dk_42 (dk_at dksX2_blanks_0 0 rfl rfl)
theorem dX2_blanks_1 : decode cX2_blanks 1 = .ok (.invokevirtual 132, 3) := dk_182 0 132 (dk_at dksX2_blanks_0 1 rfl rfl)
theorem dX2_blanks_4 : decode cX2_blanks 4 = .ok (.bipush 32, 2) := dk_16 32 (dk_at dksX2_blanks_0 4 rfl rfl)
theorem dX2_blanks_6 : decode cX2_blanks 6 = .ok (.if_icmp .ne 16, 3) := dk_160 0 16 (dk_at dksX2_blanks_0 6 rfl rfl)
theorem dX2_blanks_9 : decode cX2_blanks 9 = .ok (.aload_n 0, 1) := dk_42 (dk_at dksX2_blanks_0 9 rfl rfl)
theorem dX2_blanks_10 : decode cX2_blanks 10 = .ok (.dup, 1) := dk_89 (dk_at dksX2_blanks_0 10 rfl rfl)
theorem dX2_blanks_11 : decode cX2_blanks 11 = .ok (.getfield 129, 3) := dk_180 0 129 (dk_at dksX2_blanks_0 11 rfl rfl)
theorem dX2_blanks_14 : decode cX2_blanks 14 = .ok (.iconst 1, 1) := dk_4 (dk_at dksX2_blanks_0 14 rfl rfl)
theorem dX2_blanks_15 : decode cX2_blanks 15 = .ok (.iadd, 1) := dk_96 (dk_at dksX2_blanks_0 15 rfl rfl)
theorem dX2_blanks_16 : decode cX2_blanks 16 = .ok (.putfield 129, 3) := dk_181 0 129 (dk_at dksX2_blanks_0 16 rfl rfl)
theorem dX2_blanks_19 : decode cX2_blanks 19 = .ok (.goto (-19), 3) := dk_167 255 237 (dk_at dksX2_blanks_0 19 rfl rfl)
theorem dX2_blanks_22 : decode cX2_blanks 22 = .ok (.return_, 1) := dk_177 (dk_at dksX2_blanks_0 22 rfl rfl)
abbrev cX2_next_2 : ByteArray := prog_26_method_44_code
def yX2_next_2 : MethodName := ⟨RX2, "next", "()I"⟩
def dkwX2_next_2_1 : List UInt8 := [172]
abbrev dktX2_next_2_1 : List UInt8 := dkwX2_next_2_1 ++ []
def dkwX2_next_2_0 : List UInt8 := [42, 180, 0, 129, 42, 180, 0, 126, 162, 0, 15, 42, 180, 0, 23, 42, 180, 0, 129, 46, 167, 0, 4, 2]
abbrev dktX2_next_2_0 : List UInt8 := dkwX2_next_2_0 ++ dktX2_next_2_1
theorem dksX2_next_2_0 : cX2_next_2.data.toList.drop 0 = dktX2_next_2_0 := by decide +kernel
theorem dksX2_next_2_1 : cX2_next_2.data.toList.drop 24 = dktX2_next_2_1 := dk_seg dksX2_next_2_0 24 rfl rfl
theorem dX2_next_2_0 : decode cX2_next_2 0 = .ok (.aload_n 0, 1) := dk_42 (dk_at dksX2_next_2_0 0 rfl rfl)
theorem dX2_next_2_1 : decode cX2_next_2 1 = .ok (.getfield 129, 3) := dk_180 0 129 (dk_at dksX2_next_2_0 1 rfl rfl)
theorem dX2_next_2_4 : decode cX2_next_2 4 = .ok (.aload_n 0, 1) := dk_42 (dk_at dksX2_next_2_0 4 rfl rfl)
theorem dX2_next_2_5 : decode cX2_next_2 5 = .ok (.getfield 126, 3) := dk_180 0 126 (dk_at dksX2_next_2_0 5 rfl rfl)
theorem dX2_next_2_8 : decode cX2_next_2 8 = .ok (.if_icmp .ge 15, 3) := dk_162 0 15 (dk_at dksX2_next_2_0 8 rfl rfl)
theorem dX2_next_2_11 : decode cX2_next_2 11 = .ok (.aload_n 0, 1) := dk_42 (dk_at dksX2_next_2_0 11 rfl rfl)
theorem dX2_next_2_12 : decode cX2_next_2 12 = .ok (.getfield 23, 3) := dk_180 0 23 (dk_at dksX2_next_2_0 12 rfl rfl)
theorem dX2_next_2_15 : decode cX2_next_2 15 = .ok (.aload_n 0, 1) := dk_42 (dk_at dksX2_next_2_0 15 rfl rfl)
theorem dX2_next_2_16 : decode cX2_next_2 16 = .ok (.getfield 129, 3) := dk_180 0 129 (dk_at dksX2_next_2_0 16 rfl rfl)
theorem dX2_next_2_19 : decode cX2_next_2 19 = .ok (.iaload, 1) := dk_46 (dk_at dksX2_next_2_0 19 rfl rfl)
theorem dX2_next_2_20 : decode cX2_next_2 20 = .ok (.goto 4, 3) := dk_167 0 4 (dk_at dksX2_next_2_0 20 rfl rfl)
theorem dX2_next_2_23 : decode cX2_next_2 23 = .ok (.iconst (-1), 1) := dk_2 (dk_at dksX2_next_2_0 23 rfl rfl)
theorem dX2_next_2_24 : decode cX2_next_2 24 = .ok (.ireturn, 1) := dk_172 (dk_at dksX2_next_2_1 0 rfl rfl)
abbrev cX2_reads : ByteArray := prog_26_method_51_code
def yX2_reads : MethodName := ⟨RX2, "reads", "()V"⟩
def dkwX2_reads_11 : List UInt8 := [4, 96, 181, 0, 151, 177]
abbrev dktX2_reads_11 : List UInt8 := dkwX2_reads_11 ++ []
def dkwX2_reads_10 : List UInt8 := [180, 0, 129, 4, 96, 181, 0, 129, 42, 182, 0, 145, 167, 0, 7, 42, 182, 0, 142, 42, 89, 180, 0, 151]
abbrev dktX2_reads_10 : List UInt8 := dkwX2_reads_10 ++ dktX2_reads_11
def dkwX2_reads_9 : List UInt8 := [42, 182, 0, 148, 79, 42, 180, 0, 135, 2, 160, 0, 29, 42, 182, 0, 132, 16, 59, 160, 0, 20, 42, 89]
abbrev dktX2_reads_9 : List UInt8 := dkwX2_reads_9 ++ dktX2_reads_10
def dkwX2_reads_8 : List UInt8 := [28, 6, 96, 42, 182, 0, 157, 79, 167, 0, 21, 27, 16, 99, 159, 0, 15, 42, 180, 0, 39, 28, 4, 96]
abbrev dktX2_reads_8 : List UInt8 := dkwX2_reads_8 ++ dktX2_reads_9
def dkwX2_reads_7 : List UInt8 := [28, 4, 96, 42, 182, 0, 148, 79, 42, 180, 0, 39, 28, 5, 96, 42, 182, 0, 154, 79, 42, 180, 0, 39]
abbrev dktX2_reads_7 : List UInt8 := dkwX2_reads_7 ++ dktX2_reads_8
def dkwX2_reads_6 : List UInt8 := [180, 0, 39, 28, 5, 96, 42, 182, 0, 157, 79, 167, 0, 66, 27, 16, 102, 160, 0, 42, 42, 180, 0, 39]
abbrev dktX2_reads_6 : List UInt8 := dkwX2_reads_6 ++ dktX2_reads_7
def dkwX2_reads_5 : List UInt8 := [159, 0, 9, 27, 16, 119, 160, 0, 30, 42, 180, 0, 39, 28, 4, 96, 42, 182, 0, 154, 79, 42]
abbrev dktX2_reads_5 : List UInt8 := dkwX2_reads_5 ++ dktX2_reads_6
def dkwX2_reads_4 : List UInt8 := [182, 0, 154, 79, 42, 180, 0, 39, 28, 5, 96, 42, 182, 0, 154, 79, 167, 0, 105, 27, 16, 114]
abbrev dktX2_reads_4 : List UInt8 := dkwX2_reads_4 ++ dktX2_reads_5
def dkwX2_reads_3 : List UInt8 := [96, 181, 0, 129, 42, 182, 0, 145, 27, 16, 110, 160, 0, 30, 42, 180, 0, 39, 28, 4, 96, 42]
abbrev dktX2_reads_3 : List UInt8 := dkwX2_reads_3 ++ dktX2_reads_4
def dkwX2_reads_2 : List UInt8 := [27, 16, 99, 159, 0, 8, 42, 182, 0, 142, 177, 42, 180, 0, 39, 28, 27, 79, 42, 89, 180, 0, 129, 4]
abbrev dktX2_reads_2 : List UInt8 := dkwX2_reads_2 ++ dktX2_reads_3
def dkwX2_reads_1 : List UInt8 := [27, 16, 119, 159, 0, 32, 27, 16, 102, 159, 0, 26, 27, 16, 112, 159, 0, 20, 27, 16, 117, 159, 0, 14]
abbrev dktX2_reads_1 : List UInt8 := dkwX2_reads_1 ++ dktX2_reads_2
def dkwX2_reads_0 : List UInt8 := [42, 182, 0, 132, 60, 7, 42, 180, 0, 151, 104, 61, 27, 16, 110, 159, 0, 44, 27, 16, 114, 159, 0, 38]
abbrev dktX2_reads_0 : List UInt8 := dkwX2_reads_0 ++ dktX2_reads_1
theorem dksX2_reads_0 : cX2_reads.data.toList.drop 0 = dktX2_reads_0 := by decide +kernel
theorem dksX2_reads_1 : cX2_reads.data.toList.drop 24 = dktX2_reads_1 := dk_seg dksX2_reads_0 24 rfl rfl
theorem dksX2_reads_2 : cX2_reads.data.toList.drop 48 = dktX2_reads_2 := dk_seg dksX2_reads_1 24 rfl rfl
theorem dksX2_reads_3 : cX2_reads.data.toList.drop 72 = dktX2_reads_3 := dk_seg dksX2_reads_2 24 rfl rfl
theorem dksX2_reads_4 : cX2_reads.data.toList.drop 94 = dktX2_reads_4 := dk_seg dksX2_reads_3 22 rfl rfl
theorem dksX2_reads_5 : cX2_reads.data.toList.drop 116 = dktX2_reads_5 := dk_seg dksX2_reads_4 22 rfl rfl
theorem dksX2_reads_6 : cX2_reads.data.toList.drop 138 = dktX2_reads_6 := dk_seg dksX2_reads_5 22 rfl rfl
theorem dksX2_reads_7 : cX2_reads.data.toList.drop 162 = dktX2_reads_7 := dk_seg dksX2_reads_6 24 rfl rfl
theorem dksX2_reads_8 : cX2_reads.data.toList.drop 186 = dktX2_reads_8 := dk_seg dksX2_reads_7 24 rfl rfl
theorem dksX2_reads_9 : cX2_reads.data.toList.drop 210 = dktX2_reads_9 := dk_seg dksX2_reads_8 24 rfl rfl
theorem dksX2_reads_10 : cX2_reads.data.toList.drop 234 = dktX2_reads_10 := dk_seg dksX2_reads_9 24 rfl rfl
theorem dksX2_reads_11 : cX2_reads.data.toList.drop 258 = dktX2_reads_11 := dk_seg dksX2_reads_10 24 rfl rfl
theorem dX2_reads_0 : decode cX2_reads 0 = .ok (.aload_n 0, 1) := dk_42 (dk_at dksX2_reads_0 0 rfl rfl)
theorem dX2_reads_1 : decode cX2_reads 1 = .ok (.invokevirtual 132, 3) := dk_182 0 132 (dk_at dksX2_reads_0 1 rfl rfl)
theorem dX2_reads_4 : decode cX2_reads 4 = .ok (.istore_n 1, 1) := dk_60 (dk_at dksX2_reads_0 4 rfl rfl)
theorem dX2_reads_5 : decode cX2_reads 5 = .ok (.iconst 4, 1) := dk_7 (dk_at dksX2_reads_0 5 rfl rfl)
theorem dX2_reads_6 : decode cX2_reads 6 = .ok (.aload_n 0, 1) := dk_42 (dk_at dksX2_reads_0 6 rfl rfl)
theorem dX2_reads_7 : decode cX2_reads 7 = .ok (.getfield 151, 3) := dk_180 0 151 (dk_at dksX2_reads_0 7 rfl rfl)
theorem dX2_reads_10 : decode cX2_reads 10 = .ok (.imul, 1) := dk_104 (dk_at dksX2_reads_0 10 rfl rfl)
theorem dX2_reads_11 : decode cX2_reads 11 = .ok (.istore_n 2, 1) := dk_61 (dk_at dksX2_reads_0 11 rfl rfl)
theorem dX2_reads_12 : decode cX2_reads 12 = .ok (.iload_n 1, 1) := dk_27 (dk_at dksX2_reads_0 12 rfl rfl)
theorem dX2_reads_13 : decode cX2_reads 13 = .ok (.bipush 110, 2) := dk_16 110 (dk_at dksX2_reads_0 13 rfl rfl)
theorem dX2_reads_15 : decode cX2_reads 15 = .ok (.if_icmp .eq 44, 3) := dk_159 0 44 (dk_at dksX2_reads_0 15 rfl rfl)
theorem dX2_reads_18 : decode cX2_reads 18 = .ok (.iload_n 1, 1) := dk_27 (dk_at dksX2_reads_0 18 rfl rfl)
theorem dX2_reads_19 : decode cX2_reads 19 = .ok (.bipush 114, 2) := dk_16 114 (dk_at dksX2_reads_0 19 rfl rfl)
theorem dX2_reads_21 : decode cX2_reads 21 = .ok (.if_icmp .eq 38, 3) := dk_159 0 38 (dk_at dksX2_reads_0 21 rfl rfl)
theorem dX2_reads_24 : decode cX2_reads 24 = .ok (.iload_n 1, 1) := dk_27 (dk_at dksX2_reads_1 0 rfl rfl)
theorem dX2_reads_25 : decode cX2_reads 25 = .ok (.bipush 119, 2) := dk_16 119 (dk_at dksX2_reads_1 1 rfl rfl)
theorem dX2_reads_27 : decode cX2_reads 27 = .ok (.if_icmp .eq 32, 3) := dk_159 0 32 (dk_at dksX2_reads_1 3 rfl rfl)
theorem dX2_reads_30 : decode cX2_reads 30 = .ok (.iload_n 1, 1) := dk_27 (dk_at dksX2_reads_1 6 rfl rfl)
theorem dX2_reads_31 : decode cX2_reads 31 = .ok (.bipush 102, 2) := dk_16 102 (dk_at dksX2_reads_1 7 rfl rfl)
theorem dX2_reads_33 : decode cX2_reads 33 = .ok (.if_icmp .eq 26, 3) := dk_159 0 26 (dk_at dksX2_reads_1 9 rfl rfl)
theorem dX2_reads_36 : decode cX2_reads 36 = .ok (.iload_n 1, 1) := dk_27 (dk_at dksX2_reads_1 12 rfl rfl)
theorem dX2_reads_37 : decode cX2_reads 37 = .ok (.bipush 112, 2) := dk_16 112 (dk_at dksX2_reads_1 13 rfl rfl)
theorem dX2_reads_39 : decode cX2_reads 39 = .ok (.if_icmp .eq 20, 3) := dk_159 0 20 (dk_at dksX2_reads_1 15 rfl rfl)
theorem dX2_reads_42 : decode cX2_reads 42 = .ok (.iload_n 1, 1) := dk_27 (dk_at dksX2_reads_1 18 rfl rfl)
theorem dX2_reads_43 : decode cX2_reads 43 = .ok (.bipush 117, 2) := dk_16 117 (dk_at dksX2_reads_1 19 rfl rfl)
theorem dX2_reads_45 : decode cX2_reads 45 = .ok (.if_icmp .eq 14, 3) := dk_159 0 14 (dk_at dksX2_reads_1 21 rfl rfl)
theorem dX2_reads_48 : decode cX2_reads 48 = .ok (.iload_n 1, 1) := dk_27 (dk_at dksX2_reads_2 0 rfl rfl)
theorem dX2_reads_49 : decode cX2_reads 49 = .ok (.bipush 99, 2) := dk_16 99 (dk_at dksX2_reads_2 1 rfl rfl)
theorem dX2_reads_51 : decode cX2_reads 51 = .ok (.if_icmp .eq 8, 3) := dk_159 0 8 (dk_at dksX2_reads_2 3 rfl rfl)
theorem dX2_reads_54 : decode cX2_reads 54 = .ok (.aload_n 0, 1) := dk_42 (dk_at dksX2_reads_2 6 rfl rfl)
theorem dX2_reads_55 : decode cX2_reads 55 = .ok (.invokevirtual 142, 3) := dk_182 0 142 (dk_at dksX2_reads_2 7 rfl rfl)
theorem dX2_reads_58 : decode cX2_reads 58 = .ok (.return_, 1) := dk_177 (dk_at dksX2_reads_2 10 rfl rfl)
theorem dX2_reads_59 : decode cX2_reads 59 = .ok (.aload_n 0, 1) := dk_42 (dk_at dksX2_reads_2 11 rfl rfl)
theorem dX2_reads_60 : decode cX2_reads 60 = .ok (.getfield 39, 3) := dk_180 0 39 (dk_at dksX2_reads_2 12 rfl rfl)
theorem dX2_reads_63 : decode cX2_reads 63 = .ok (.iload_n 2, 1) := dk_28 (dk_at dksX2_reads_2 15 rfl rfl)
theorem dX2_reads_64 : decode cX2_reads 64 = .ok (.iload_n 1, 1) := dk_27 (dk_at dksX2_reads_2 16 rfl rfl)
theorem dX2_reads_65 : decode cX2_reads 65 = .ok (.iastore, 1) := dk_79 (dk_at dksX2_reads_2 17 rfl rfl)
theorem dX2_reads_66 : decode cX2_reads 66 = .ok (.aload_n 0, 1) := dk_42 (dk_at dksX2_reads_2 18 rfl rfl)
theorem dX2_reads_67 : decode cX2_reads 67 = .ok (.dup, 1) := dk_89 (dk_at dksX2_reads_2 19 rfl rfl)
theorem dX2_reads_68 : decode cX2_reads 68 = .ok (.getfield 129, 3) := dk_180 0 129 (dk_at dksX2_reads_2 20 rfl rfl)
theorem dX2_reads_71 : decode cX2_reads 71 = .ok (.iconst 1, 1) := dk_4 (dk_at dksX2_reads_2 23 rfl rfl)
theorem dX2_reads_72 : decode cX2_reads 72 = .ok (.iadd, 1) := dk_96 (dk_at dksX2_reads_3 0 rfl rfl)
theorem dX2_reads_73 : decode cX2_reads 73 = .ok (.putfield 129, 3) := dk_181 0 129 (dk_at dksX2_reads_3 1 rfl rfl)
theorem dX2_reads_76 : decode cX2_reads 76 = .ok (.aload_n 0, 1) := dk_42 (dk_at dksX2_reads_3 4 rfl rfl)
theorem dX2_reads_77 : decode cX2_reads 77 = .ok (.invokevirtual 145, 3) := dk_182 0 145 (dk_at dksX2_reads_3 5 rfl rfl)
theorem dX2_reads_80 : decode cX2_reads 80 = .ok (.iload_n 1, 1) := dk_27 (dk_at dksX2_reads_3 8 rfl rfl)
theorem dX2_reads_81 : decode cX2_reads 81 = .ok (.bipush 110, 2) := dk_16 110 (dk_at dksX2_reads_3 9 rfl rfl)
theorem dX2_reads_83 : decode cX2_reads 83 = .ok (.if_icmp .ne 30, 3) := dk_160 0 30 (dk_at dksX2_reads_3 11 rfl rfl)
theorem dX2_reads_86 : decode cX2_reads 86 = .ok (.aload_n 0, 1) := dk_42 (dk_at dksX2_reads_3 14 rfl rfl)
theorem dX2_reads_87 : decode cX2_reads 87 = .ok (.getfield 39, 3) := dk_180 0 39 (dk_at dksX2_reads_3 15 rfl rfl)
theorem dX2_reads_90 : decode cX2_reads 90 = .ok (.iload_n 2, 1) := dk_28 (dk_at dksX2_reads_3 18 rfl rfl)
theorem dX2_reads_91 : decode cX2_reads 91 = .ok (.iconst 1, 1) := dk_4 (dk_at dksX2_reads_3 19 rfl rfl)
theorem dX2_reads_92 : decode cX2_reads 92 = .ok (.iadd, 1) := dk_96 (dk_at dksX2_reads_3 20 rfl rfl)
theorem dX2_reads_93 : decode cX2_reads 93 = .ok (.aload_n 0, 1) := dk_42 (dk_at dksX2_reads_3 21 rfl rfl)
theorem dX2_reads_94 : decode cX2_reads 94 = .ok (.invokevirtual 154, 3) := dk_182 0 154 (dk_at dksX2_reads_4 0 rfl rfl)
theorem dX2_reads_97 : decode cX2_reads 97 = .ok (.iastore, 1) := dk_79 (dk_at dksX2_reads_4 3 rfl rfl)
theorem dX2_reads_98 : decode cX2_reads 98 = .ok (.aload_n 0, 1) := dk_42 (dk_at dksX2_reads_4 4 rfl rfl)
theorem dX2_reads_99 : decode cX2_reads 99 = .ok (.getfield 39, 3) := dk_180 0 39 (dk_at dksX2_reads_4 5 rfl rfl)
theorem dX2_reads_102 : decode cX2_reads 102 = .ok (.iload_n 2, 1) := dk_28 (dk_at dksX2_reads_4 8 rfl rfl)
theorem dX2_reads_103 : decode cX2_reads 103 = .ok (.iconst 2, 1) := dk_5 (dk_at dksX2_reads_4 9 rfl rfl)
theorem dX2_reads_104 : decode cX2_reads 104 = .ok (.iadd, 1) := dk_96 (dk_at dksX2_reads_4 10 rfl rfl)
theorem dX2_reads_105 : decode cX2_reads 105 = .ok (.aload_n 0, 1) := dk_42 (dk_at dksX2_reads_4 11 rfl rfl)
theorem dX2_reads_106 : decode cX2_reads 106 = .ok (.invokevirtual 154, 3) := dk_182 0 154 (dk_at dksX2_reads_4 12 rfl rfl)
theorem dX2_reads_109 : decode cX2_reads 109 = .ok (.iastore, 1) := dk_79 (dk_at dksX2_reads_4 15 rfl rfl)
theorem dX2_reads_110 : decode cX2_reads 110 = .ok (.goto 105, 3) := dk_167 0 105 (dk_at dksX2_reads_4 16 rfl rfl)
theorem dX2_reads_113 : decode cX2_reads 113 = .ok (.iload_n 1, 1) := dk_27 (dk_at dksX2_reads_4 19 rfl rfl)
theorem dX2_reads_114 : decode cX2_reads 114 = .ok (.bipush 114, 2) := dk_16 114 (dk_at dksX2_reads_4 20 rfl rfl)
theorem dX2_reads_116 : decode cX2_reads 116 = .ok (.if_icmp .eq 9, 3) := dk_159 0 9 (dk_at dksX2_reads_5 0 rfl rfl)
theorem dX2_reads_119 : decode cX2_reads 119 = .ok (.iload_n 1, 1) := dk_27 (dk_at dksX2_reads_5 3 rfl rfl)
theorem dX2_reads_120 : decode cX2_reads 120 = .ok (.bipush 119, 2) := dk_16 119 (dk_at dksX2_reads_5 4 rfl rfl)
theorem dX2_reads_122 : decode cX2_reads 122 = .ok (.if_icmp .ne 30, 3) := dk_160 0 30 (dk_at dksX2_reads_5 6 rfl rfl)
theorem dX2_reads_125 : decode cX2_reads 125 = .ok (.aload_n 0, 1) := dk_42 (dk_at dksX2_reads_5 9 rfl rfl)
theorem dX2_reads_126 : decode cX2_reads 126 = .ok (.getfield 39, 3) := dk_180 0 39 (dk_at dksX2_reads_5 10 rfl rfl)
theorem dX2_reads_129 : decode cX2_reads 129 = .ok (.iload_n 2, 1) := dk_28 (dk_at dksX2_reads_5 13 rfl rfl)
theorem dX2_reads_130 : decode cX2_reads 130 = .ok (.iconst 1, 1) := dk_4 (dk_at dksX2_reads_5 14 rfl rfl)
theorem dX2_reads_131 : decode cX2_reads 131 = .ok (.iadd, 1) := dk_96 (dk_at dksX2_reads_5 15 rfl rfl)
theorem dX2_reads_132 : decode cX2_reads 132 = .ok (.aload_n 0, 1) := dk_42 (dk_at dksX2_reads_5 16 rfl rfl)
theorem dX2_reads_133 : decode cX2_reads 133 = .ok (.invokevirtual 154, 3) := dk_182 0 154 (dk_at dksX2_reads_5 17 rfl rfl)
theorem dX2_reads_136 : decode cX2_reads 136 = .ok (.iastore, 1) := dk_79 (dk_at dksX2_reads_5 20 rfl rfl)
theorem dX2_reads_137 : decode cX2_reads 137 = .ok (.aload_n 0, 1) := dk_42 (dk_at dksX2_reads_5 21 rfl rfl)
theorem dX2_reads_138 : decode cX2_reads 138 = .ok (.getfield 39, 3) := dk_180 0 39 (dk_at dksX2_reads_6 0 rfl rfl)
theorem dX2_reads_141 : decode cX2_reads 141 = .ok (.iload_n 2, 1) := dk_28 (dk_at dksX2_reads_6 3 rfl rfl)
theorem dX2_reads_142 : decode cX2_reads 142 = .ok (.iconst 2, 1) := dk_5 (dk_at dksX2_reads_6 4 rfl rfl)
theorem dX2_reads_143 : decode cX2_reads 143 = .ok (.iadd, 1) := dk_96 (dk_at dksX2_reads_6 5 rfl rfl)
theorem dX2_reads_144 : decode cX2_reads 144 = .ok (.aload_n 0, 1) := dk_42 (dk_at dksX2_reads_6 6 rfl rfl)
theorem dX2_reads_145 : decode cX2_reads 145 = .ok (.invokevirtual 157, 3) := dk_182 0 157 (dk_at dksX2_reads_6 7 rfl rfl)
theorem dX2_reads_148 : decode cX2_reads 148 = .ok (.iastore, 1) := dk_79 (dk_at dksX2_reads_6 10 rfl rfl)
theorem dX2_reads_149 : decode cX2_reads 149 = .ok (.goto 66, 3) := dk_167 0 66 (dk_at dksX2_reads_6 11 rfl rfl)
theorem dX2_reads_152 : decode cX2_reads 152 = .ok (.iload_n 1, 1) := dk_27 (dk_at dksX2_reads_6 14 rfl rfl)
theorem dX2_reads_153 : decode cX2_reads 153 = .ok (.bipush 102, 2) := dk_16 102 (dk_at dksX2_reads_6 15 rfl rfl)
theorem dX2_reads_155 : decode cX2_reads 155 = .ok (.if_icmp .ne 42, 3) := dk_160 0 42 (dk_at dksX2_reads_6 17 rfl rfl)
theorem dX2_reads_158 : decode cX2_reads 158 = .ok (.aload_n 0, 1) := dk_42 (dk_at dksX2_reads_6 20 rfl rfl)
theorem dX2_reads_159 : decode cX2_reads 159 = .ok (.getfield 39, 3) := dk_180 0 39 (dk_at dksX2_reads_6 21 rfl rfl)
theorem dX2_reads_162 : decode cX2_reads 162 = .ok (.iload_n 2, 1) := dk_28 (dk_at dksX2_reads_7 0 rfl rfl)
theorem dX2_reads_163 : decode cX2_reads 163 = .ok (.iconst 1, 1) := dk_4 (dk_at dksX2_reads_7 1 rfl rfl)
theorem dX2_reads_164 : decode cX2_reads 164 = .ok (.iadd, 1) := dk_96 (dk_at dksX2_reads_7 2 rfl rfl)
theorem dX2_reads_165 : decode cX2_reads 165 = .ok (.aload_n 0, 1) := dk_42 (dk_at dksX2_reads_7 3 rfl rfl)
theorem dX2_reads_166 : decode cX2_reads 166 = .ok (.invokevirtual 148, 3) := dk_182 0 148 (dk_at dksX2_reads_7 4 rfl rfl)
theorem dX2_reads_169 : decode cX2_reads 169 = .ok (.iastore, 1) := dk_79 (dk_at dksX2_reads_7 7 rfl rfl)
theorem dX2_reads_170 : decode cX2_reads 170 = .ok (.aload_n 0, 1) := dk_42 (dk_at dksX2_reads_7 8 rfl rfl)
theorem dX2_reads_171 : decode cX2_reads 171 = .ok (.getfield 39, 3) := dk_180 0 39 (dk_at dksX2_reads_7 9 rfl rfl)
theorem dX2_reads_174 : decode cX2_reads 174 = .ok (.iload_n 2, 1) := dk_28 (dk_at dksX2_reads_7 12 rfl rfl)
theorem dX2_reads_175 : decode cX2_reads 175 = .ok (.iconst 2, 1) := dk_5 (dk_at dksX2_reads_7 13 rfl rfl)
theorem dX2_reads_176 : decode cX2_reads 176 = .ok (.iadd, 1) := dk_96 (dk_at dksX2_reads_7 14 rfl rfl)
theorem dX2_reads_177 : decode cX2_reads 177 = .ok (.aload_n 0, 1) := dk_42 (dk_at dksX2_reads_7 15 rfl rfl)
theorem dX2_reads_178 : decode cX2_reads 178 = .ok (.invokevirtual 154, 3) := dk_182 0 154 (dk_at dksX2_reads_7 16 rfl rfl)
theorem dX2_reads_181 : decode cX2_reads 181 = .ok (.iastore, 1) := dk_79 (dk_at dksX2_reads_7 19 rfl rfl)
theorem dX2_reads_182 : decode cX2_reads 182 = .ok (.aload_n 0, 1) := dk_42 (dk_at dksX2_reads_7 20 rfl rfl)
theorem dX2_reads_183 : decode cX2_reads 183 = .ok (.getfield 39, 3) := dk_180 0 39 (dk_at dksX2_reads_7 21 rfl rfl)
theorem dX2_reads_186 : decode cX2_reads 186 = .ok (.iload_n 2, 1) := dk_28 (dk_at dksX2_reads_8 0 rfl rfl)
theorem dX2_reads_187 : decode cX2_reads 187 = .ok (.iconst 3, 1) := dk_6 (dk_at dksX2_reads_8 1 rfl rfl)
theorem dX2_reads_188 : decode cX2_reads 188 = .ok (.iadd, 1) := dk_96 (dk_at dksX2_reads_8 2 rfl rfl)
theorem dX2_reads_189 : decode cX2_reads 189 = .ok (.aload_n 0, 1) := dk_42 (dk_at dksX2_reads_8 3 rfl rfl)
theorem dX2_reads_190 : decode cX2_reads 190 = .ok (.invokevirtual 157, 3) := dk_182 0 157 (dk_at dksX2_reads_8 4 rfl rfl)
theorem dX2_reads_193 : decode cX2_reads 193 = .ok (.iastore, 1) := dk_79 (dk_at dksX2_reads_8 7 rfl rfl)
theorem dX2_reads_194 : decode cX2_reads 194 = .ok (.goto 21, 3) := dk_167 0 21 (dk_at dksX2_reads_8 8 rfl rfl)
theorem dX2_reads_197 : decode cX2_reads 197 = .ok (.iload_n 1, 1) := dk_27 (dk_at dksX2_reads_8 11 rfl rfl)
theorem dX2_reads_198 : decode cX2_reads 198 = .ok (.bipush 99, 2) := dk_16 99 (dk_at dksX2_reads_8 12 rfl rfl)
theorem dX2_reads_200 : decode cX2_reads 200 = .ok (.if_icmp .eq 15, 3) := dk_159 0 15 (dk_at dksX2_reads_8 14 rfl rfl)
theorem dX2_reads_203 : decode cX2_reads 203 = .ok (.aload_n 0, 1) := dk_42 (dk_at dksX2_reads_8 17 rfl rfl)
theorem dX2_reads_204 : decode cX2_reads 204 = .ok (.getfield 39, 3) := dk_180 0 39 (dk_at dksX2_reads_8 18 rfl rfl)
theorem dX2_reads_207 : decode cX2_reads 207 = .ok (.iload_n 2, 1) := dk_28 (dk_at dksX2_reads_8 21 rfl rfl)
theorem dX2_reads_208 : decode cX2_reads 208 = .ok (.iconst 1, 1) := dk_4 (dk_at dksX2_reads_8 22 rfl rfl)
theorem dX2_reads_209 : decode cX2_reads 209 = .ok (.iadd, 1) := dk_96 (dk_at dksX2_reads_8 23 rfl rfl)
theorem dX2_reads_210 : decode cX2_reads 210 = .ok (.aload_n 0, 1) := dk_42 (dk_at dksX2_reads_9 0 rfl rfl)
theorem dX2_reads_211 : decode cX2_reads 211 = .ok (.invokevirtual 148, 3) := dk_182 0 148 (dk_at dksX2_reads_9 1 rfl rfl)
theorem dX2_reads_214 : decode cX2_reads 214 = .ok (.iastore, 1) := dk_79 (dk_at dksX2_reads_9 4 rfl rfl)
theorem dX2_reads_215 : decode cX2_reads 215 = .ok (.aload_n 0, 1) := dk_42 (dk_at dksX2_reads_9 5 rfl rfl)
theorem dX2_reads_216 : decode cX2_reads 216 = .ok (.getfield 135, 3) := dk_180 0 135 (dk_at dksX2_reads_9 6 rfl rfl)
theorem dX2_reads_219 : decode cX2_reads 219 = .ok (.iconst (-1), 1) := dk_2 (dk_at dksX2_reads_9 9 rfl rfl)
theorem dX2_reads_220 : decode cX2_reads 220 = .ok (.if_icmp .ne 29, 3) := dk_160 0 29 (dk_at dksX2_reads_9 10 rfl rfl)
theorem dX2_reads_223 : decode cX2_reads 223 = .ok (.aload_n 0, 1) := dk_42 (dk_at dksX2_reads_9 13 rfl rfl)
theorem dX2_reads_224 : decode cX2_reads 224 = .ok (.invokevirtual 132, 3) := dk_182 0 132 (dk_at dksX2_reads_9 14 rfl rfl)
theorem dX2_reads_227 : decode cX2_reads 227 = .ok (.bipush 59, 2) := dk_16 59 (dk_at dksX2_reads_9 17 rfl rfl)
theorem dX2_reads_229 : decode cX2_reads 229 = .ok (.if_icmp .ne 20, 3) := dk_160 0 20 (dk_at dksX2_reads_9 19 rfl rfl)
theorem dX2_reads_232 : decode cX2_reads 232 = .ok (.aload_n 0, 1) := dk_42 (dk_at dksX2_reads_9 22 rfl rfl)
theorem dX2_reads_233 : decode cX2_reads 233 = .ok (.dup, 1) := dk_89 (dk_at dksX2_reads_9 23 rfl rfl)
theorem dX2_reads_234 : decode cX2_reads 234 = .ok (.getfield 129, 3) := dk_180 0 129 (dk_at dksX2_reads_10 0 rfl rfl)
theorem dX2_reads_237 : decode cX2_reads 237 = .ok (.iconst 1, 1) := dk_4 (dk_at dksX2_reads_10 3 rfl rfl)
theorem dX2_reads_238 : decode cX2_reads 238 = .ok (.iadd, 1) := dk_96 (dk_at dksX2_reads_10 4 rfl rfl)
theorem dX2_reads_239 : decode cX2_reads 239 = .ok (.putfield 129, 3) := dk_181 0 129 (dk_at dksX2_reads_10 5 rfl rfl)
theorem dX2_reads_242 : decode cX2_reads 242 = .ok (.aload_n 0, 1) := dk_42 (dk_at dksX2_reads_10 8 rfl rfl)
theorem dX2_reads_243 : decode cX2_reads 243 = .ok (.invokevirtual 145, 3) := dk_182 0 145 (dk_at dksX2_reads_10 9 rfl rfl)
theorem dX2_reads_246 : decode cX2_reads 246 = .ok (.goto 7, 3) := dk_167 0 7 (dk_at dksX2_reads_10 12 rfl rfl)
theorem dX2_reads_249 : decode cX2_reads 249 = .ok (.aload_n 0, 1) := dk_42 (dk_at dksX2_reads_10 15 rfl rfl)
theorem dX2_reads_250 : decode cX2_reads 250 = .ok (.invokevirtual 142, 3) := dk_182 0 142 (dk_at dksX2_reads_10 16 rfl rfl)
theorem dX2_reads_253 : decode cX2_reads 253 = .ok (.aload_n 0, 1) := dk_42 (dk_at dksX2_reads_10 19 rfl rfl)
theorem dX2_reads_254 : decode cX2_reads 254 = .ok (.dup, 1) := dk_89 (dk_at dksX2_reads_10 20 rfl rfl)
theorem dX2_reads_255 : decode cX2_reads 255 = .ok (.getfield 151, 3) := dk_180 0 151 (dk_at dksX2_reads_10 21 rfl rfl)
theorem dX2_reads_258 : decode cX2_reads 258 = .ok (.iconst 1, 1) := dk_4 (dk_at dksX2_reads_11 0 rfl rfl)
theorem dX2_reads_259 : decode cX2_reads 259 = .ok (.iadd, 1) := dk_96 (dk_at dksX2_reads_11 1 rfl rfl)
theorem dX2_reads_260 : decode cX2_reads 260 = .ok (.putfield 151, 3) := dk_181 0 151 (dk_at dksX2_reads_11 2 rfl rfl)
theorem dX2_reads_263 : decode cX2_reads 263 = .ok (.return_, 1) := dk_177 (dk_at dksX2_reads_11 5 rfl rfl)
abbrev cX2_fails : ByteArray := prog_26_method_46_code
def yX2_fails : MethodName := ⟨RX2, "fails", "()V"⟩
def dkwX2_fails_0 : List UInt8 := [42, 42, 180, 0, 135, 2, 160, 0, 10, 42, 180, 0, 129, 167, 0, 7, 42, 180, 0, 135, 181, 0, 135, 177]
abbrev dktX2_fails_0 : List UInt8 := dkwX2_fails_0 ++ []
theorem dksX2_fails_0 : cX2_fails.data.toList.drop 0 = dktX2_fails_0 := by decide +kernel
theorem dX2_fails_0 : decode cX2_fails 0 = .ok (.aload_n 0, 1) := dk_42 (dk_at dksX2_fails_0 0 rfl rfl)
theorem dX2_fails_1 : decode cX2_fails 1 = .ok (.aload_n 0, 1) := dk_42 (dk_at dksX2_fails_0 1 rfl rfl)
theorem dX2_fails_2 : decode cX2_fails 2 = .ok (.getfield 135, 3) := dk_180 0 135 (dk_at dksX2_fails_0 2 rfl rfl)
theorem dX2_fails_5 : decode cX2_fails 5 = .ok (.iconst (-1), 1) := dk_2 (dk_at dksX2_fails_0 5 rfl rfl)
theorem dX2_fails_6 : decode cX2_fails 6 = .ok (.if_icmp .ne 10, 3) := dk_160 0 10 (dk_at dksX2_fails_0 6 rfl rfl)
theorem dX2_fails_9 : decode cX2_fails 9 = .ok (.aload_n 0, 1) := dk_42 (dk_at dksX2_fails_0 9 rfl rfl)
theorem dX2_fails_10 : decode cX2_fails 10 = .ok (.getfield 129, 3) := dk_180 0 129 (dk_at dksX2_fails_0 10 rfl rfl)
theorem dX2_fails_13 : decode cX2_fails 13 = .ok (.goto 7, 3) := dk_167 0 7 (dk_at dksX2_fails_0 13 rfl rfl)
theorem dX2_fails_16 : decode cX2_fails 16 = .ok (.aload_n 0, 1) := dk_42 (dk_at dksX2_fails_0 16 rfl rfl)
theorem dX2_fails_17 : decode cX2_fails 17 = .ok (.getfield 135, 3) := dk_180 0 135 (dk_at dksX2_fails_0 17 rfl rfl)
theorem dX2_fails_20 : decode cX2_fails 20 = .ok (.putfield 135, 3) := dk_181 0 135 (dk_at dksX2_fails_0 20 rfl rfl)
theorem dX2_fails_23 : decode cX2_fails 23 = .ok (.return_, 1) := dk_177 (dk_at dksX2_fails_0 23 rfl rfl)
abbrev cX2_digit : ByteArray := prog_26_method_48_code
def yX2_digit : MethodName := ⟨RX2, "digit", "()I"⟩
def dkwX2_digit_1 : List UInt8 := [182, 0, 142, 3, 172, 42, 89, 180, 0, 129, 4, 96, 181, 0, 129, 42, 182, 0, 145, 27, 172]
abbrev dktX2_digit_1 : List UInt8 := dkwX2_digit_1 ++ []
def dkwX2_digit_0 : List UInt8 := [42, 182, 0, 132, 16, 48, 100, 60, 42, 180, 0, 135, 2, 160, 0, 10, 42, 182, 0, 138, 154, 0, 9, 42]
abbrev dktX2_digit_0 : List UInt8 := dkwX2_digit_0 ++ dktX2_digit_1
theorem dksX2_digit_0 : cX2_digit.data.toList.drop 0 = dktX2_digit_0 := by decide +kernel
theorem dksX2_digit_1 : cX2_digit.data.toList.drop 24 = dktX2_digit_1 := dk_seg dksX2_digit_0 24 rfl rfl
theorem dX2_digit_0 : decode cX2_digit 0 = .ok (.aload_n 0, 1) := dk_42 (dk_at dksX2_digit_0 0 rfl rfl)
theorem dX2_digit_1 : decode cX2_digit 1 = .ok (.invokevirtual 132, 3) := dk_182 0 132 (dk_at dksX2_digit_0 1 rfl rfl)
theorem dX2_digit_4 : decode cX2_digit 4 = .ok (.bipush 48, 2) := dk_16 48 (dk_at dksX2_digit_0 4 rfl rfl)
theorem dX2_digit_6 : decode cX2_digit 6 = .ok (.isub, 1) := dk_100 (dk_at dksX2_digit_0 6 rfl rfl)
theorem dX2_digit_7 : decode cX2_digit 7 = .ok (.istore_n 1, 1) := dk_60 (dk_at dksX2_digit_0 7 rfl rfl)
theorem dX2_digit_8 : decode cX2_digit 8 = .ok (.aload_n 0, 1) := dk_42 (dk_at dksX2_digit_0 8 rfl rfl)
theorem dX2_digit_9 : decode cX2_digit 9 = .ok (.getfield 135, 3) := dk_180 0 135 (dk_at dksX2_digit_0 9 rfl rfl)
theorem dX2_digit_12 : decode cX2_digit 12 = .ok (.iconst (-1), 1) := dk_2 (dk_at dksX2_digit_0 12 rfl rfl)
theorem dX2_digit_13 : decode cX2_digit 13 = .ok (.if_icmp .ne 10, 3) := dk_160 0 10 (dk_at dksX2_digit_0 13 rfl rfl)
theorem dX2_digit_16 : decode cX2_digit 16 = .ok (.aload_n 0, 1) := dk_42 (dk_at dksX2_digit_0 16 rfl rfl)
theorem dX2_digit_17 : decode cX2_digit 17 = .ok (.invokevirtual 138, 3) := dk_182 0 138 (dk_at dksX2_digit_0 17 rfl rfl)
theorem dX2_digit_20 : decode cX2_digit 20 = .ok (.ifCond .ne 9, 3) := dk_154 0 9 (dk_at dksX2_digit_0 20 rfl rfl)
theorem dX2_digit_23 : decode cX2_digit 23 = .ok (.aload_n 0, 1) := dk_42 (dk_at dksX2_digit_0 23 rfl rfl)
theorem dX2_digit_24 : decode cX2_digit 24 = .ok (.invokevirtual 142, 3) := dk_182 0 142 (dk_at dksX2_digit_1 0 rfl rfl)
theorem dX2_digit_27 : decode cX2_digit 27 = .ok (.iconst 0, 1) := dk_3 (dk_at dksX2_digit_1 3 rfl rfl)
theorem dX2_digit_28 : decode cX2_digit 28 = .ok (.ireturn, 1) := dk_172 (dk_at dksX2_digit_1 4 rfl rfl)
theorem dX2_digit_29 : decode cX2_digit 29 = .ok (.aload_n 0, 1) := dk_42 (dk_at dksX2_digit_1 5 rfl rfl)
theorem dX2_digit_30 : decode cX2_digit 30 = .ok (.dup, 1) := dk_89 (dk_at dksX2_digit_1 6 rfl rfl)
theorem dX2_digit_31 : decode cX2_digit 31 = .ok (.getfield 129, 3) := dk_180 0 129 (dk_at dksX2_digit_1 7 rfl rfl)
theorem dX2_digit_34 : decode cX2_digit 34 = .ok (.iconst 1, 1) := dk_4 (dk_at dksX2_digit_1 10 rfl rfl)
theorem dX2_digit_35 : decode cX2_digit 35 = .ok (.iadd, 1) := dk_96 (dk_at dksX2_digit_1 11 rfl rfl)
theorem dX2_digit_36 : decode cX2_digit 36 = .ok (.putfield 129, 3) := dk_181 0 129 (dk_at dksX2_digit_1 12 rfl rfl)
theorem dX2_digit_39 : decode cX2_digit 39 = .ok (.aload_n 0, 1) := dk_42 (dk_at dksX2_digit_1 15 rfl rfl)
theorem dX2_digit_40 : decode cX2_digit 40 = .ok (.invokevirtual 145, 3) := dk_182 0 145 (dk_at dksX2_digit_1 16 rfl rfl)
theorem dX2_digit_43 : decode cX2_digit 43 = .ok (.iload_n 1, 1) := dk_27 (dk_at dksX2_digit_1 19 rfl rfl)
theorem dX2_digit_44 : decode cX2_digit 44 = .ok (.ireturn, 1) := dk_172 (dk_at dksX2_digit_1 20 rfl rfl)
abbrev cX2_isDigit : ByteArray := prog_26_method_47_code
def yX2_isDigit : MethodName := ⟨RX2, "isDigit", "()Z"⟩
def dkwX2_isDigit_0 : List UInt8 := [42, 182, 0, 132, 16, 48, 16, 57, 184, 0, 46, 172]
abbrev dktX2_isDigit_0 : List UInt8 := dkwX2_isDigit_0 ++ []
theorem dksX2_isDigit_0 : cX2_isDigit.data.toList.drop 0 = dktX2_isDigit_0 := by decide +kernel
theorem dX2_isDigit_0 : decode cX2_isDigit 0 = .ok (.aload_n 0, 1) := dk_42 (dk_at dksX2_isDigit_0 0 rfl rfl)
theorem dX2_isDigit_1 : decode cX2_isDigit 1 = .ok (.invokevirtual 132, 3) := dk_182 0 132 (dk_at dksX2_isDigit_0 1 rfl rfl)
theorem dX2_isDigit_4 : decode cX2_isDigit 4 = .ok (.bipush 48, 2) := dk_16 48 (dk_at dksX2_isDigit_0 4 rfl rfl)
theorem dX2_isDigit_6 : decode cX2_isDigit 6 = .ok (.bipush 57, 2) := dk_16 57 (dk_at dksX2_isDigit_0 6 rfl rfl)
theorem dX2_isDigit_8 : decode cX2_isDigit 8 = .ok (.invokestatic 46, 3) := dk_184 0 46 (dk_at dksX2_isDigit_0 8 rfl rfl)
theorem dX2_isDigit_11 : decode cX2_isDigit 11 = .ok (.ireturn, 1) := dk_172 (dk_at dksX2_isDigit_0 11 rfl rfl)
abbrev cX2_place : ByteArray := prog_26_method_50_code
def yX2_place : MethodName := ⟨RX2, "place", "()I"⟩
def dkwX2_place_1 : List UInt8 := [181, 0, 129, 42, 182, 0, 145, 2, 172, 42, 182, 0, 148, 172]
abbrev dktX2_place_1 : List UInt8 := dkwX2_place_1 ++ []
def dkwX2_place_0 : List UInt8 := [42, 180, 0, 135, 2, 160, 0, 28, 42, 182, 0, 132, 16, 45, 160, 0, 19, 42, 89, 180, 0, 129, 4, 96]
abbrev dktX2_place_0 : List UInt8 := dkwX2_place_0 ++ dktX2_place_1
theorem dksX2_place_0 : cX2_place.data.toList.drop 0 = dktX2_place_0 := by decide +kernel
theorem dksX2_place_1 : cX2_place.data.toList.drop 24 = dktX2_place_1 := dk_seg dksX2_place_0 24 rfl rfl
theorem dX2_place_0 : decode cX2_place 0 = .ok (.aload_n 0, 1) := dk_42 (dk_at dksX2_place_0 0 rfl rfl)
theorem dX2_place_1 : decode cX2_place 1 = .ok (.getfield 135, 3) := dk_180 0 135 (dk_at dksX2_place_0 1 rfl rfl)
theorem dX2_place_4 : decode cX2_place 4 = .ok (.iconst (-1), 1) := dk_2 (dk_at dksX2_place_0 4 rfl rfl)
theorem dX2_place_5 : decode cX2_place 5 = .ok (.if_icmp .ne 28, 3) := dk_160 0 28 (dk_at dksX2_place_0 5 rfl rfl)
theorem dX2_place_8 : decode cX2_place 8 = .ok (.aload_n 0, 1) := dk_42 (dk_at dksX2_place_0 8 rfl rfl)
theorem dX2_place_9 : decode cX2_place 9 = .ok (.invokevirtual 132, 3) := dk_182 0 132 (dk_at dksX2_place_0 9 rfl rfl)
theorem dX2_place_12 : decode cX2_place 12 = .ok (.bipush 45, 2) := dk_16 45 (dk_at dksX2_place_0 12 rfl rfl)
theorem dX2_place_14 : decode cX2_place 14 = .ok (.if_icmp .ne 19, 3) := dk_160 0 19 (dk_at dksX2_place_0 14 rfl rfl)
theorem dX2_place_17 : decode cX2_place 17 = .ok (.aload_n 0, 1) := dk_42 (dk_at dksX2_place_0 17 rfl rfl)
theorem dX2_place_18 : decode cX2_place 18 = .ok (.dup, 1) := dk_89 (dk_at dksX2_place_0 18 rfl rfl)
theorem dX2_place_19 : decode cX2_place 19 = .ok (.getfield 129, 3) := dk_180 0 129 (dk_at dksX2_place_0 19 rfl rfl)
theorem dX2_place_22 : decode cX2_place 22 = .ok (.iconst 1, 1) := dk_4 (dk_at dksX2_place_0 22 rfl rfl)
theorem dX2_place_23 : decode cX2_place 23 = .ok (.iadd, 1) := dk_96 (dk_at dksX2_place_0 23 rfl rfl)
theorem dX2_place_24 : decode cX2_place 24 = .ok (.putfield 129, 3) := dk_181 0 129 (dk_at dksX2_place_1 0 rfl rfl)
theorem dX2_place_27 : decode cX2_place 27 = .ok (.aload_n 0, 1) := dk_42 (dk_at dksX2_place_1 3 rfl rfl)
theorem dX2_place_28 : decode cX2_place 28 = .ok (.invokevirtual 145, 3) := dk_182 0 145 (dk_at dksX2_place_1 4 rfl rfl)
theorem dX2_place_31 : decode cX2_place 31 = .ok (.iconst (-1), 1) := dk_2 (dk_at dksX2_place_1 7 rfl rfl)
theorem dX2_place_32 : decode cX2_place 32 = .ok (.ireturn, 1) := dk_172 (dk_at dksX2_place_1 8 rfl rfl)
theorem dX2_place_33 : decode cX2_place 33 = .ok (.aload_n 0, 1) := dk_42 (dk_at dksX2_place_1 9 rfl rfl)
theorem dX2_place_34 : decode cX2_place 34 = .ok (.invokevirtual 148, 3) := dk_182 0 148 (dk_at dksX2_place_1 10 rfl rfl)
theorem dX2_place_37 : decode cX2_place 37 = .ok (.ireturn, 1) := dk_172 (dk_at dksX2_place_1 13 rfl rfl)
abbrev cX2_number : ByteArray := prog_26_method_49_code
def yX2_number : MethodName := ⟨RX2, "number", "()I"⟩
def dkwX2_number_3 : List UInt8 := [153, 0, 7, 42, 182, 0, 142, 42, 182, 0, 145, 28, 172]
abbrev dktX2_number_3 : List UInt8 := dkwX2_number_3 ++ []
def dkwX2_number_2 : List UInt8 := [180, 0, 129, 4, 96, 181, 0, 129, 167, 255, 208, 42, 180, 0, 129, 27, 159, 0, 10, 42, 182, 0, 138]
abbrev dktX2_number_2 : List UInt8 := dkwX2_number_2 ++ dktX2_number_3
def dkwX2_number_1 : List UInt8 := [180, 0, 129, 27, 6, 96, 162, 0, 29, 16, 10, 28, 104, 42, 182, 0, 132, 96, 16, 48, 100, 61, 42, 89]
abbrev dktX2_number_1 : List UInt8 := dkwX2_number_1 ++ dktX2_number_2
def dkwX2_number_0 : List UInt8 := [42, 180, 0, 129, 60, 3, 61, 42, 180, 0, 135, 2, 160, 0, 46, 42, 182, 0, 138, 153, 0, 39, 42]
abbrev dktX2_number_0 : List UInt8 := dkwX2_number_0 ++ dktX2_number_1
theorem dksX2_number_0 : cX2_number.data.toList.drop 0 = dktX2_number_0 := by decide +kernel
theorem dksX2_number_1 : cX2_number.data.toList.drop 23 = dktX2_number_1 := dk_seg dksX2_number_0 23 rfl rfl
theorem dksX2_number_2 : cX2_number.data.toList.drop 47 = dktX2_number_2 := dk_seg dksX2_number_1 24 rfl rfl
theorem dksX2_number_3 : cX2_number.data.toList.drop 70 = dktX2_number_3 := dk_seg dksX2_number_2 23 rfl rfl
theorem dX2_number_0 : decode cX2_number 0 = .ok (.aload_n 0, 1) := dk_42 (dk_at dksX2_number_0 0 rfl rfl)
theorem dX2_number_1 : decode cX2_number 1 = .ok (.getfield 129, 3) := dk_180 0 129 (dk_at dksX2_number_0 1 rfl rfl)
theorem dX2_number_4 : decode cX2_number 4 = .ok (.istore_n 1, 1) := dk_60 (dk_at dksX2_number_0 4 rfl rfl)
theorem dX2_number_5 : decode cX2_number 5 = .ok (.iconst 0, 1) := dk_3 (dk_at dksX2_number_0 5 rfl rfl)
theorem dX2_number_6 : decode cX2_number 6 = .ok (.istore_n 2, 1) := dk_61 (dk_at dksX2_number_0 6 rfl rfl)
theorem dX2_number_7 : decode cX2_number 7 = .ok (.aload_n 0, 1) := dk_42 (dk_at dksX2_number_0 7 rfl rfl)
theorem dX2_number_8 : decode cX2_number 8 = .ok (.getfield 135, 3) := dk_180 0 135 (dk_at dksX2_number_0 8 rfl rfl)
theorem dX2_number_11 : decode cX2_number 11 = .ok (.iconst (-1), 1) := dk_2 (dk_at dksX2_number_0 11 rfl rfl)
theorem dX2_number_12 : decode cX2_number 12 = .ok (.if_icmp .ne 46, 3) := dk_160 0 46 (dk_at dksX2_number_0 12 rfl rfl)
theorem dX2_number_15 : decode cX2_number 15 = .ok (.aload_n 0, 1) := dk_42 (dk_at dksX2_number_0 15 rfl rfl)
theorem dX2_number_16 : decode cX2_number 16 = .ok (.invokevirtual 138, 3) := dk_182 0 138 (dk_at dksX2_number_0 16 rfl rfl)
theorem dX2_number_19 : decode cX2_number 19 = .ok (.ifCond .eq 39, 3) := dk_153 0 39 (dk_at dksX2_number_0 19 rfl rfl)
theorem dX2_number_22 : decode cX2_number 22 = .ok (.aload_n 0, 1) := dk_42 (dk_at dksX2_number_0 22 rfl rfl)
theorem dX2_number_23 : decode cX2_number 23 = .ok (.getfield 129, 3) := dk_180 0 129 (dk_at dksX2_number_1 0 rfl rfl)
theorem dX2_number_26 : decode cX2_number 26 = .ok (.iload_n 1, 1) := dk_27 (dk_at dksX2_number_1 3 rfl rfl)
theorem dX2_number_27 : decode cX2_number 27 = .ok (.iconst 3, 1) := dk_6 (dk_at dksX2_number_1 4 rfl rfl)
theorem dX2_number_28 : decode cX2_number 28 = .ok (.iadd, 1) := dk_96 (dk_at dksX2_number_1 5 rfl rfl)
theorem dX2_number_29 : decode cX2_number 29 = .ok (.if_icmp .ge 29, 3) := dk_162 0 29 (dk_at dksX2_number_1 6 rfl rfl)
theorem dX2_number_32 : decode cX2_number 32 = .ok (.bipush 10, 2) := dk_16 10 (dk_at dksX2_number_1 9 rfl rfl)
theorem dX2_number_34 : decode cX2_number 34 = .ok (.iload_n 2, 1) := dk_28 (dk_at dksX2_number_1 11 rfl rfl)
theorem dX2_number_35 : decode cX2_number 35 = .ok (.imul, 1) := dk_104 (dk_at dksX2_number_1 12 rfl rfl)
theorem dX2_number_36 : decode cX2_number 36 = .ok (.aload_n 0, 1) := dk_42 (dk_at dksX2_number_1 13 rfl rfl)
theorem dX2_number_37 : decode cX2_number 37 = .ok (.invokevirtual 132, 3) := dk_182 0 132 (dk_at dksX2_number_1 14 rfl rfl)
theorem dX2_number_40 : decode cX2_number 40 = .ok (.iadd, 1) := dk_96 (dk_at dksX2_number_1 17 rfl rfl)
theorem dX2_number_41 : decode cX2_number 41 = .ok (.bipush 48, 2) := dk_16 48 (dk_at dksX2_number_1 18 rfl rfl)
theorem dX2_number_43 : decode cX2_number 43 = .ok (.isub, 1) := dk_100 (dk_at dksX2_number_1 20 rfl rfl)
theorem dX2_number_44 : decode cX2_number 44 = .ok (.istore_n 2, 1) := dk_61 (dk_at dksX2_number_1 21 rfl rfl)
theorem dX2_number_45 : decode cX2_number 45 = .ok (.aload_n 0, 1) := dk_42 (dk_at dksX2_number_1 22 rfl rfl)
theorem dX2_number_46 : decode cX2_number 46 = .ok (.dup, 1) := dk_89 (dk_at dksX2_number_1 23 rfl rfl)
theorem dX2_number_47 : decode cX2_number 47 = .ok (.getfield 129, 3) := dk_180 0 129 (dk_at dksX2_number_2 0 rfl rfl)
theorem dX2_number_50 : decode cX2_number 50 = .ok (.iconst 1, 1) := dk_4 (dk_at dksX2_number_2 3 rfl rfl)
theorem dX2_number_51 : decode cX2_number 51 = .ok (.iadd, 1) := dk_96 (dk_at dksX2_number_2 4 rfl rfl)
theorem dX2_number_52 : decode cX2_number 52 = .ok (.putfield 129, 3) := dk_181 0 129 (dk_at dksX2_number_2 5 rfl rfl)
theorem dX2_number_55 : decode cX2_number 55 = .ok (.goto (-48), 3) := dk_167 255 208 (dk_at dksX2_number_2 8 rfl rfl)
theorem dX2_number_58 : decode cX2_number 58 = .ok (.aload_n 0, 1) := dk_42 (dk_at dksX2_number_2 11 rfl rfl)
theorem dX2_number_59 : decode cX2_number 59 = .ok (.getfield 129, 3) := dk_180 0 129 (dk_at dksX2_number_2 12 rfl rfl)
theorem dX2_number_62 : decode cX2_number 62 = .ok (.iload_n 1, 1) := dk_27 (dk_at dksX2_number_2 15 rfl rfl)
theorem dX2_number_63 : decode cX2_number 63 = .ok (.if_icmp .eq 10, 3) := dk_159 0 10 (dk_at dksX2_number_2 16 rfl rfl)
theorem dX2_number_66 : decode cX2_number 66 = .ok (.aload_n 0, 1) := dk_42 (dk_at dksX2_number_2 19 rfl rfl)
theorem dX2_number_67 : decode cX2_number 67 = .ok (.invokevirtual 138, 3) := dk_182 0 138 (dk_at dksX2_number_2 20 rfl rfl)
theorem dX2_number_70 : decode cX2_number 70 = .ok (.ifCond .eq 7, 3) := dk_153 0 7 (dk_at dksX2_number_3 0 rfl rfl)
theorem dX2_number_73 : decode cX2_number 73 = .ok (.aload_n 0, 1) := dk_42 (dk_at dksX2_number_3 3 rfl rfl)
theorem dX2_number_74 : decode cX2_number 74 = .ok (.invokevirtual 142, 3) := dk_182 0 142 (dk_at dksX2_number_3 4 rfl rfl)
theorem dX2_number_77 : decode cX2_number 77 = .ok (.aload_n 0, 1) := dk_42 (dk_at dksX2_number_3 7 rfl rfl)
theorem dX2_number_78 : decode cX2_number 78 = .ok (.invokevirtual 145, 3) := dk_182 0 145 (dk_at dksX2_number_3 8 rfl rfl)
theorem dX2_number_81 : decode cX2_number 81 = .ok (.iload_n 2, 1) := dk_28 (dk_at dksX2_number_3 11 rfl rfl)
theorem dX2_number_82 : decode cX2_number 82 = .ok (.ireturn, 1) := dk_172 (dk_at dksX2_number_3 12 rfl rfl)
abbrev cX2_run : ByteArray := prog_26_method_54_code
def yX2_run : MethodName := ⟨RX2, "run", "()I"⟩
def dkwX2_run_3 : List UInt8 := [60, 132, 2, 1, 167, 255, 203, 27, 172]
abbrev dktX2_run_3 : List UInt8 := dkwX2_run_3 ++ []
def dkwX2_run_2 : List UInt8 := [163, 0, 7, 29, 167, 0, 4, 3, 181, 0, 26, 27, 29, 18, 50, 163, 0, 7, 3, 167, 0, 4, 4, 96]
abbrev dktX2_run_2 : List UInt8 := dkwX2_run_2 ++ dktX2_run_3
def dkwX2_run_1 : List UInt8 := [180, 0, 151, 162, 0, 51, 42, 180, 0, 26, 154, 0, 44, 42, 28, 182, 0, 185, 62, 42, 29, 18, 50]
abbrev dktX2_run_1 : List UInt8 := dkwX2_run_1 ++ dktX2_run_2
def dkwX2_run_0 : List UInt8 := [42, 182, 0, 183, 2, 159, 0, 6, 18, 82, 172, 42, 3, 181, 0, 26, 3, 60, 3, 61, 28, 42]
abbrev dktX2_run_0 : List UInt8 := dkwX2_run_0 ++ dktX2_run_1
theorem dksX2_run_0 : cX2_run.data.toList.drop 0 = dktX2_run_0 := by decide +kernel
theorem dksX2_run_1 : cX2_run.data.toList.drop 22 = dktX2_run_1 := dk_seg dksX2_run_0 22 rfl rfl
theorem dksX2_run_2 : cX2_run.data.toList.drop 45 = dktX2_run_2 := dk_seg dksX2_run_1 23 rfl rfl
theorem dksX2_run_3 : cX2_run.data.toList.drop 69 = dktX2_run_3 := dk_seg dksX2_run_2 24 rfl rfl
theorem dX2_run_0 : decode cX2_run 0 = .ok (.aload_n 0, 1) := dk_42 (dk_at dksX2_run_0 0 rfl rfl)
theorem dX2_run_1 : decode cX2_run 1 = .ok (.invokevirtual 183, 3) := dk_182 0 183 (dk_at dksX2_run_0 1 rfl rfl)
theorem dX2_run_4 : decode cX2_run 4 = .ok (.iconst (-1), 1) := dk_2 (dk_at dksX2_run_0 4 rfl rfl)
theorem dX2_run_5 : decode cX2_run 5 = .ok (.if_icmp .eq 6, 3) := dk_159 0 6 (dk_at dksX2_run_0 5 rfl rfl)
theorem dX2_run_8 : decode cX2_run 8 = .ok (.ldc 82, 2) := dk_18 82 (dk_at dksX2_run_0 8 rfl rfl)
theorem dX2_run_10 : decode cX2_run 10 = .ok (.ireturn, 1) := dk_172 (dk_at dksX2_run_0 10 rfl rfl)
theorem dX2_run_11 : decode cX2_run 11 = .ok (.aload_n 0, 1) := dk_42 (dk_at dksX2_run_0 11 rfl rfl)
theorem dX2_run_12 : decode cX2_run 12 = .ok (.iconst 0, 1) := dk_3 (dk_at dksX2_run_0 12 rfl rfl)
theorem dX2_run_13 : decode cX2_run 13 = .ok (.putfield 26, 3) := dk_181 0 26 (dk_at dksX2_run_0 13 rfl rfl)
theorem dX2_run_16 : decode cX2_run 16 = .ok (.iconst 0, 1) := dk_3 (dk_at dksX2_run_0 16 rfl rfl)
theorem dX2_run_17 : decode cX2_run 17 = .ok (.istore_n 1, 1) := dk_60 (dk_at dksX2_run_0 17 rfl rfl)
theorem dX2_run_18 : decode cX2_run 18 = .ok (.iconst 0, 1) := dk_3 (dk_at dksX2_run_0 18 rfl rfl)
theorem dX2_run_19 : decode cX2_run 19 = .ok (.istore_n 2, 1) := dk_61 (dk_at dksX2_run_0 19 rfl rfl)
theorem dX2_run_20 : decode cX2_run 20 = .ok (.iload_n 2, 1) := dk_28 (dk_at dksX2_run_0 20 rfl rfl)
theorem dX2_run_21 : decode cX2_run 21 = .ok (.aload_n 0, 1) := dk_42 (dk_at dksX2_run_0 21 rfl rfl)
theorem dX2_run_22 : decode cX2_run 22 = .ok (.getfield 151, 3) := dk_180 0 151 (dk_at dksX2_run_1 0 rfl rfl)
theorem dX2_run_25 : decode cX2_run 25 = .ok (.if_icmp .ge 51, 3) := dk_162 0 51 (dk_at dksX2_run_1 3 rfl rfl)
theorem dX2_run_28 : decode cX2_run 28 = .ok (.aload_n 0, 1) := dk_42 (dk_at dksX2_run_1 6 rfl rfl)
theorem dX2_run_29 : decode cX2_run 29 = .ok (.getfield 26, 3) := dk_180 0 26 (dk_at dksX2_run_1 7 rfl rfl)
theorem dX2_run_32 : decode cX2_run 32 = .ok (.ifCond .ne 44, 3) := dk_154 0 44 (dk_at dksX2_run_1 10 rfl rfl)
theorem dX2_run_35 : decode cX2_run 35 = .ok (.aload_n 0, 1) := dk_42 (dk_at dksX2_run_1 13 rfl rfl)
theorem dX2_run_36 : decode cX2_run 36 = .ok (.iload_n 2, 1) := dk_28 (dk_at dksX2_run_1 14 rfl rfl)
theorem dX2_run_37 : decode cX2_run 37 = .ok (.invokevirtual 185, 3) := dk_182 0 185 (dk_at dksX2_run_1 15 rfl rfl)
theorem dX2_run_40 : decode cX2_run 40 = .ok (.istore_n 3, 1) := dk_62 (dk_at dksX2_run_1 18 rfl rfl)
theorem dX2_run_41 : decode cX2_run 41 = .ok (.aload_n 0, 1) := dk_42 (dk_at dksX2_run_1 19 rfl rfl)
theorem dX2_run_42 : decode cX2_run 42 = .ok (.iload_n 3, 1) := dk_29 (dk_at dksX2_run_1 20 rfl rfl)
theorem dX2_run_43 : decode cX2_run 43 = .ok (.ldc 50, 2) := dk_18 50 (dk_at dksX2_run_1 21 rfl rfl)
theorem dX2_run_45 : decode cX2_run 45 = .ok (.if_icmp .gt 7, 3) := dk_163 0 7 (dk_at dksX2_run_2 0 rfl rfl)
theorem dX2_run_48 : decode cX2_run 48 = .ok (.iload_n 3, 1) := dk_29 (dk_at dksX2_run_2 3 rfl rfl)
theorem dX2_run_49 : decode cX2_run 49 = .ok (.goto 4, 3) := dk_167 0 4 (dk_at dksX2_run_2 4 rfl rfl)
theorem dX2_run_52 : decode cX2_run 52 = .ok (.iconst 0, 1) := dk_3 (dk_at dksX2_run_2 7 rfl rfl)
theorem dX2_run_53 : decode cX2_run 53 = .ok (.putfield 26, 3) := dk_181 0 26 (dk_at dksX2_run_2 8 rfl rfl)
theorem dX2_run_56 : decode cX2_run 56 = .ok (.iload_n 1, 1) := dk_27 (dk_at dksX2_run_2 11 rfl rfl)
theorem dX2_run_57 : decode cX2_run 57 = .ok (.iload_n 3, 1) := dk_29 (dk_at dksX2_run_2 12 rfl rfl)
theorem dX2_run_58 : decode cX2_run 58 = .ok (.ldc 50, 2) := dk_18 50 (dk_at dksX2_run_2 13 rfl rfl)
theorem dX2_run_60 : decode cX2_run 60 = .ok (.if_icmp .gt 7, 3) := dk_163 0 7 (dk_at dksX2_run_2 15 rfl rfl)
theorem dX2_run_63 : decode cX2_run 63 = .ok (.iconst 0, 1) := dk_3 (dk_at dksX2_run_2 18 rfl rfl)
theorem dX2_run_64 : decode cX2_run 64 = .ok (.goto 4, 3) := dk_167 0 4 (dk_at dksX2_run_2 19 rfl rfl)
theorem dX2_run_67 : decode cX2_run 67 = .ok (.iconst 1, 1) := dk_4 (dk_at dksX2_run_2 22 rfl rfl)
theorem dX2_run_68 : decode cX2_run 68 = .ok (.iadd, 1) := dk_96 (dk_at dksX2_run_2 23 rfl rfl)
theorem dX2_run_69 : decode cX2_run 69 = .ok (.istore_n 1, 1) := dk_60 (dk_at dksX2_run_3 0 rfl rfl)
theorem dX2_run_70 : decode cX2_run 70 = .ok (.iinc 2 1, 3) := dk_132 2 1 (dk_at dksX2_run_3 1 rfl rfl)
theorem dX2_run_73 : decode cX2_run 73 = .ok (.goto (-53), 3) := dk_167 255 203 (dk_at dksX2_run_3 4 rfl rfl)
theorem dX2_run_76 : decode cX2_run 76 = .ok (.iload_n 1, 1) := dk_27 (dk_at dksX2_run_3 7 rfl rfl)
theorem dX2_run_77 : decode cX2_run 77 = .ok (.ireturn, 1) := dk_172 (dk_at dksX2_run_3 8 rfl rfl)
abbrev cX2_does : ByteArray := prog_26_method_53_code
def yX2_does : MethodName := ⟨RX2, "does", "(I)I"⟩
def dkwX2_does_5 : List UInt8 := [182, 0, 176, 172, 42, 182, 0, 180, 172]
abbrev dktX2_does_5 : List UInt8 := dkwX2_does_5 ++ []
def dkwX2_does_4 : List UInt8 := [42, 180, 0, 39, 7, 27, 104, 6, 96, 46, 182, 0, 172, 172, 42, 28, 4, 182, 0, 176, 172, 42, 28, 3]
abbrev dktX2_does_4 : List UInt8 := dkwX2_does_4 ++ dktX2_does_5
def dkwX2_does_3 : List UInt8 := [42, 28, 29, 182, 0, 163, 172, 42, 28, 29, 182, 0, 166, 172, 42, 28, 29, 182, 0, 169, 172, 42, 28, 29]
abbrev dktX2_does_3 : List UInt8 := dkwX2_does_3 ++ dktX2_does_4
def dkwX2_does_2 : List UInt8 := [170, 0, 0, 0, 0, 138, 0, 0, 0, 102, 0, 0, 0, 119, 0, 0, 0, 107, 0, 0, 0, 138, 0, 0, 0, 138, 0, 0, 0, 138, 0, 0, 0, 138, 0, 0, 0, 138, 0, 0, 0, 138, 0, 0, 0, 138, 0, 0, 0, 86, 0, 0, 0, 138, 0, 0, 0, 124, 0, 0, 0, 138, 0, 0, 0, 93, 0, 0, 0, 138, 0, 0, 0, 138, 0, 0, 0, 131, 0, 0, 0, 138, 0, 0, 0, 100]
abbrev dktX2_does_2 : List UInt8 := dkwX2_does_2 ++ dktX2_does_3
def dkwX2_does_1 : List UInt8 := [180, 0, 39, 7, 27, 104, 46]
abbrev dktX2_does_1 : List UInt8 := dkwX2_does_1 ++ dktX2_does_2
def dkwX2_does_0 : List UInt8 := [42, 180, 0, 39, 7, 27, 104, 4, 96, 46, 61, 42, 180, 0, 39, 7, 27, 104, 5, 96, 46, 62, 42]
abbrev dktX2_does_0 : List UInt8 := dkwX2_does_0 ++ dktX2_does_1
theorem dksX2_does_0 : cX2_does.data.toList.drop 0 = dktX2_does_0 := by decide +kernel
theorem dksX2_does_1 : cX2_does.data.toList.drop 23 = dktX2_does_1 := dk_seg dksX2_does_0 23 rfl rfl
theorem dksX2_does_2 : cX2_does.data.toList.drop 30 = dktX2_does_2 := dk_seg dksX2_does_1 7 rfl rfl
theorem dksX2_does_3 : cX2_does.data.toList.drop 116 = dktX2_does_3 := dk_seg dksX2_does_2 86 rfl rfl
theorem dksX2_does_4 : cX2_does.data.toList.drop 140 = dktX2_does_4 := dk_seg dksX2_does_3 24 rfl rfl
theorem dksX2_does_5 : cX2_does.data.toList.drop 164 = dktX2_does_5 := dk_seg dksX2_does_4 24 rfl rfl
theorem dX2_does_0 : decode cX2_does 0 = .ok (.aload_n 0, 1) := dk_42 (dk_at dksX2_does_0 0 rfl rfl)
theorem dX2_does_1 : decode cX2_does 1 = .ok (.getfield 39, 3) := dk_180 0 39 (dk_at dksX2_does_0 1 rfl rfl)
theorem dX2_does_4 : decode cX2_does 4 = .ok (.iconst 4, 1) := dk_7 (dk_at dksX2_does_0 4 rfl rfl)
theorem dX2_does_5 : decode cX2_does 5 = .ok (.iload_n 1, 1) := dk_27 (dk_at dksX2_does_0 5 rfl rfl)
theorem dX2_does_6 : decode cX2_does 6 = .ok (.imul, 1) := dk_104 (dk_at dksX2_does_0 6 rfl rfl)
theorem dX2_does_7 : decode cX2_does 7 = .ok (.iconst 1, 1) := dk_4 (dk_at dksX2_does_0 7 rfl rfl)
theorem dX2_does_8 : decode cX2_does 8 = .ok (.iadd, 1) := dk_96 (dk_at dksX2_does_0 8 rfl rfl)
theorem dX2_does_9 : decode cX2_does 9 = .ok (.iaload, 1) := dk_46 (dk_at dksX2_does_0 9 rfl rfl)
theorem dX2_does_10 : decode cX2_does 10 = .ok (.istore_n 2, 1) := dk_61 (dk_at dksX2_does_0 10 rfl rfl)
theorem dX2_does_11 : decode cX2_does 11 = .ok (.aload_n 0, 1) := dk_42 (dk_at dksX2_does_0 11 rfl rfl)
theorem dX2_does_12 : decode cX2_does 12 = .ok (.getfield 39, 3) := dk_180 0 39 (dk_at dksX2_does_0 12 rfl rfl)
theorem dX2_does_15 : decode cX2_does 15 = .ok (.iconst 4, 1) := dk_7 (dk_at dksX2_does_0 15 rfl rfl)
theorem dX2_does_16 : decode cX2_does 16 = .ok (.iload_n 1, 1) := dk_27 (dk_at dksX2_does_0 16 rfl rfl)
theorem dX2_does_17 : decode cX2_does 17 = .ok (.imul, 1) := dk_104 (dk_at dksX2_does_0 17 rfl rfl)
theorem dX2_does_18 : decode cX2_does 18 = .ok (.iconst 2, 1) := dk_5 (dk_at dksX2_does_0 18 rfl rfl)
theorem dX2_does_19 : decode cX2_does 19 = .ok (.iadd, 1) := dk_96 (dk_at dksX2_does_0 19 rfl rfl)
theorem dX2_does_20 : decode cX2_does 20 = .ok (.iaload, 1) := dk_46 (dk_at dksX2_does_0 20 rfl rfl)
theorem dX2_does_21 : decode cX2_does 21 = .ok (.istore_n 3, 1) := dk_62 (dk_at dksX2_does_0 21 rfl rfl)
theorem dX2_does_22 : decode cX2_does 22 = .ok (.aload_n 0, 1) := dk_42 (dk_at dksX2_does_0 22 rfl rfl)
theorem dX2_does_23 : decode cX2_does 23 = .ok (.getfield 39, 3) := dk_180 0 39 (dk_at dksX2_does_1 0 rfl rfl)
theorem dX2_does_26 : decode cX2_does 26 = .ok (.iconst 4, 1) := dk_7 (dk_at dksX2_does_1 3 rfl rfl)
theorem dX2_does_27 : decode cX2_does 27 = .ok (.iload_n 1, 1) := dk_27 (dk_at dksX2_does_1 4 rfl rfl)
theorem dX2_does_28 : decode cX2_does 28 = .ok (.imul, 1) := dk_104 (dk_at dksX2_does_1 5 rfl rfl)
theorem dX2_does_29 : decode cX2_does 29 = .ok (.iaload, 1) := dk_46 (dk_at dksX2_does_1 6 rfl rfl)
theorem dX2_does_30 : decode cX2_does 30 = .ok (.tableswitch 138 102 119 #[107, 138, 138, 138, 138, 138, 138, 138, 86, 138, 124, 138, 93, 138, 138, 131, 138, 100], 86) := by decide +kernel
theorem dX2_does_116 : decode cX2_does 116 = .ok (.aload_n 0, 1) := dk_42 (dk_at dksX2_does_3 0 rfl rfl)
theorem dX2_does_117 : decode cX2_does 117 = .ok (.iload_n 2, 1) := dk_28 (dk_at dksX2_does_3 1 rfl rfl)
theorem dX2_does_118 : decode cX2_does 118 = .ok (.iload_n 3, 1) := dk_29 (dk_at dksX2_does_3 2 rfl rfl)
theorem dX2_does_119 : decode cX2_does 119 = .ok (.invokevirtual 163, 3) := dk_182 0 163 (dk_at dksX2_does_3 3 rfl rfl)
theorem dX2_does_122 : decode cX2_does 122 = .ok (.ireturn, 1) := dk_172 (dk_at dksX2_does_3 6 rfl rfl)
theorem dX2_does_123 : decode cX2_does 123 = .ok (.aload_n 0, 1) := dk_42 (dk_at dksX2_does_3 7 rfl rfl)
theorem dX2_does_124 : decode cX2_does 124 = .ok (.iload_n 2, 1) := dk_28 (dk_at dksX2_does_3 8 rfl rfl)
theorem dX2_does_125 : decode cX2_does 125 = .ok (.iload_n 3, 1) := dk_29 (dk_at dksX2_does_3 9 rfl rfl)
theorem dX2_does_126 : decode cX2_does 126 = .ok (.invokevirtual 166, 3) := dk_182 0 166 (dk_at dksX2_does_3 10 rfl rfl)
theorem dX2_does_129 : decode cX2_does 129 = .ok (.ireturn, 1) := dk_172 (dk_at dksX2_does_3 13 rfl rfl)
theorem dX2_does_130 : decode cX2_does 130 = .ok (.aload_n 0, 1) := dk_42 (dk_at dksX2_does_3 14 rfl rfl)
theorem dX2_does_131 : decode cX2_does 131 = .ok (.iload_n 2, 1) := dk_28 (dk_at dksX2_does_3 15 rfl rfl)
theorem dX2_does_132 : decode cX2_does 132 = .ok (.iload_n 3, 1) := dk_29 (dk_at dksX2_does_3 16 rfl rfl)
theorem dX2_does_133 : decode cX2_does 133 = .ok (.invokevirtual 169, 3) := dk_182 0 169 (dk_at dksX2_does_3 17 rfl rfl)
theorem dX2_does_136 : decode cX2_does 136 = .ok (.ireturn, 1) := dk_172 (dk_at dksX2_does_3 20 rfl rfl)
theorem dX2_does_137 : decode cX2_does 137 = .ok (.aload_n 0, 1) := dk_42 (dk_at dksX2_does_3 21 rfl rfl)
theorem dX2_does_138 : decode cX2_does 138 = .ok (.iload_n 2, 1) := dk_28 (dk_at dksX2_does_3 22 rfl rfl)
theorem dX2_does_139 : decode cX2_does 139 = .ok (.iload_n 3, 1) := dk_29 (dk_at dksX2_does_3 23 rfl rfl)
theorem dX2_does_140 : decode cX2_does 140 = .ok (.aload_n 0, 1) := dk_42 (dk_at dksX2_does_4 0 rfl rfl)
theorem dX2_does_141 : decode cX2_does 141 = .ok (.getfield 39, 3) := dk_180 0 39 (dk_at dksX2_does_4 1 rfl rfl)
theorem dX2_does_144 : decode cX2_does 144 = .ok (.iconst 4, 1) := dk_7 (dk_at dksX2_does_4 4 rfl rfl)
theorem dX2_does_145 : decode cX2_does 145 = .ok (.iload_n 1, 1) := dk_27 (dk_at dksX2_does_4 5 rfl rfl)
theorem dX2_does_146 : decode cX2_does 146 = .ok (.imul, 1) := dk_104 (dk_at dksX2_does_4 6 rfl rfl)
theorem dX2_does_147 : decode cX2_does 147 = .ok (.iconst 3, 1) := dk_6 (dk_at dksX2_does_4 7 rfl rfl)
theorem dX2_does_148 : decode cX2_does 148 = .ok (.iadd, 1) := dk_96 (dk_at dksX2_does_4 8 rfl rfl)
theorem dX2_does_149 : decode cX2_does 149 = .ok (.iaload, 1) := dk_46 (dk_at dksX2_does_4 9 rfl rfl)
theorem dX2_does_150 : decode cX2_does 150 = .ok (.invokevirtual 172, 3) := dk_182 0 172 (dk_at dksX2_does_4 10 rfl rfl)
theorem dX2_does_153 : decode cX2_does 153 = .ok (.ireturn, 1) := dk_172 (dk_at dksX2_does_4 13 rfl rfl)
theorem dX2_does_154 : decode cX2_does 154 = .ok (.aload_n 0, 1) := dk_42 (dk_at dksX2_does_4 14 rfl rfl)
theorem dX2_does_155 : decode cX2_does 155 = .ok (.iload_n 2, 1) := dk_28 (dk_at dksX2_does_4 15 rfl rfl)
theorem dX2_does_156 : decode cX2_does 156 = .ok (.iconst 1, 1) := dk_4 (dk_at dksX2_does_4 16 rfl rfl)
theorem dX2_does_157 : decode cX2_does 157 = .ok (.invokevirtual 176, 3) := dk_182 0 176 (dk_at dksX2_does_4 17 rfl rfl)
theorem dX2_does_160 : decode cX2_does 160 = .ok (.ireturn, 1) := dk_172 (dk_at dksX2_does_4 20 rfl rfl)
theorem dX2_does_161 : decode cX2_does 161 = .ok (.aload_n 0, 1) := dk_42 (dk_at dksX2_does_4 21 rfl rfl)
theorem dX2_does_162 : decode cX2_does 162 = .ok (.iload_n 2, 1) := dk_28 (dk_at dksX2_does_4 22 rfl rfl)
theorem dX2_does_163 : decode cX2_does 163 = .ok (.iconst 0, 1) := dk_3 (dk_at dksX2_does_4 23 rfl rfl)
theorem dX2_does_164 : decode cX2_does 164 = .ok (.invokevirtual 176, 3) := dk_182 0 176 (dk_at dksX2_does_5 0 rfl rfl)
theorem dX2_does_167 : decode cX2_does 167 = .ok (.ireturn, 1) := dk_172 (dk_at dksX2_does_5 3 rfl rfl)
theorem dX2_does_168 : decode cX2_does 168 = .ok (.aload_n 0, 1) := dk_42 (dk_at dksX2_does_5 4 rfl rfl)
theorem dX2_does_169 : decode cX2_does 169 = .ok (.invokevirtual 180, 3) := dk_182 0 180 (dk_at dksX2_does_5 5 rfl rfl)
theorem dX2_does_172 : decode cX2_does 172 = .ok (.ireturn, 1) := dk_172 (dk_at dksX2_does_5 8 rfl rfl)
abbrev cX2_refusal : ByteArray := prog_26_method_55_code
def yX2_refusal : MethodName := ⟨RX2, "refusal", "()I"⟩
theorem dX2_refusal_0 : decode cX2_refusal 0 = .ok (.aload_n 0, 1) := by decide +kernel
theorem dX2_refusal_1 : decode cX2_refusal 1 = .ok (.getfield 26, 3) := by decide +kernel
theorem dX2_refusal_4 : decode cX2_refusal 4 = .ok (.ireturn, 1) := by decide +kernel
abbrev cX2_save : ByteArray := prog_26_method_56_code
def yX2_save : MethodName := ⟨RX2, "save", "(I)I"⟩
def dkwX2_save_2 : List UInt8 := [180, 0, 19, 27, 4, 84, 42, 3, 182, 0, 83, 172]
abbrev dktX2_save_2 : List UInt8 := dkwX2_save_2 ++ []
def dkwX2_save_1 : List UInt8 := [180, 0, 16, 17, 4, 198, 27, 104, 28, 96, 42, 180, 0, 7, 28, 46, 79, 132, 2, 1, 167, 255, 228, 42]
abbrev dktX2_save_1 : List UInt8 := dkwX2_save_1 ++ dktX2_save_2
def dkwX2_save_0 : List UInt8 := [27, 3, 4, 184, 0, 46, 154, 0, 6, 18, 50, 172, 3, 61, 28, 17, 4, 198, 162, 0, 27, 42]
abbrev dktX2_save_0 : List UInt8 := dkwX2_save_0 ++ dktX2_save_1
theorem dksX2_save_0 : cX2_save.data.toList.drop 0 = dktX2_save_0 := by decide +kernel
theorem dksX2_save_1 : cX2_save.data.toList.drop 22 = dktX2_save_1 := dk_seg dksX2_save_0 22 rfl rfl
theorem dksX2_save_2 : cX2_save.data.toList.drop 46 = dktX2_save_2 := dk_seg dksX2_save_1 24 rfl rfl
theorem dX2_save_0 : decode cX2_save 0 = .ok (.iload_n 1, 1) := dk_27 (dk_at dksX2_save_0 0 rfl rfl)
theorem dX2_save_1 : decode cX2_save 1 = .ok (.iconst 0, 1) := dk_3 (dk_at dksX2_save_0 1 rfl rfl)
theorem dX2_save_2 : decode cX2_save 2 = .ok (.iconst 1, 1) := dk_4 (dk_at dksX2_save_0 2 rfl rfl)
theorem dX2_save_3 : decode cX2_save 3 = .ok (.invokestatic 46, 3) := dk_184 0 46 (dk_at dksX2_save_0 3 rfl rfl)
theorem dX2_save_6 : decode cX2_save 6 = .ok (.ifCond .ne 6, 3) := dk_154 0 6 (dk_at dksX2_save_0 6 rfl rfl)
theorem dX2_save_9 : decode cX2_save 9 = .ok (.ldc 50, 2) := dk_18 50 (dk_at dksX2_save_0 9 rfl rfl)
theorem dX2_save_11 : decode cX2_save 11 = .ok (.ireturn, 1) := dk_172 (dk_at dksX2_save_0 11 rfl rfl)
theorem dX2_save_12 : decode cX2_save 12 = .ok (.iconst 0, 1) := dk_3 (dk_at dksX2_save_0 12 rfl rfl)
theorem dX2_save_13 : decode cX2_save 13 = .ok (.istore_n 2, 1) := dk_61 (dk_at dksX2_save_0 13 rfl rfl)
theorem dX2_save_14 : decode cX2_save 14 = .ok (.iload_n 2, 1) := dk_28 (dk_at dksX2_save_0 14 rfl rfl)
theorem dX2_save_15 : decode cX2_save 15 = .ok (.sipush 1222, 3) := dk_17 4 198 (dk_at dksX2_save_0 15 rfl rfl)
theorem dX2_save_18 : decode cX2_save 18 = .ok (.if_icmp .ge 27, 3) := dk_162 0 27 (dk_at dksX2_save_0 18 rfl rfl)
theorem dX2_save_21 : decode cX2_save 21 = .ok (.aload_n 0, 1) := dk_42 (dk_at dksX2_save_0 21 rfl rfl)
theorem dX2_save_22 : decode cX2_save 22 = .ok (.getfield 16, 3) := dk_180 0 16 (dk_at dksX2_save_1 0 rfl rfl)
theorem dX2_save_25 : decode cX2_save 25 = .ok (.sipush 1222, 3) := dk_17 4 198 (dk_at dksX2_save_1 3 rfl rfl)
theorem dX2_save_28 : decode cX2_save 28 = .ok (.iload_n 1, 1) := dk_27 (dk_at dksX2_save_1 6 rfl rfl)
theorem dX2_save_29 : decode cX2_save 29 = .ok (.imul, 1) := dk_104 (dk_at dksX2_save_1 7 rfl rfl)
theorem dX2_save_30 : decode cX2_save 30 = .ok (.iload_n 2, 1) := dk_28 (dk_at dksX2_save_1 8 rfl rfl)
theorem dX2_save_31 : decode cX2_save 31 = .ok (.iadd, 1) := dk_96 (dk_at dksX2_save_1 9 rfl rfl)
theorem dX2_save_32 : decode cX2_save 32 = .ok (.aload_n 0, 1) := dk_42 (dk_at dksX2_save_1 10 rfl rfl)
theorem dX2_save_33 : decode cX2_save 33 = .ok (.getfield 7, 3) := dk_180 0 7 (dk_at dksX2_save_1 11 rfl rfl)
theorem dX2_save_36 : decode cX2_save 36 = .ok (.iload_n 2, 1) := dk_28 (dk_at dksX2_save_1 14 rfl rfl)
theorem dX2_save_37 : decode cX2_save 37 = .ok (.iaload, 1) := dk_46 (dk_at dksX2_save_1 15 rfl rfl)
theorem dX2_save_38 : decode cX2_save 38 = .ok (.iastore, 1) := dk_79 (dk_at dksX2_save_1 16 rfl rfl)
theorem dX2_save_39 : decode cX2_save 39 = .ok (.iinc 2 1, 3) := dk_132 2 1 (dk_at dksX2_save_1 17 rfl rfl)
theorem dX2_save_42 : decode cX2_save 42 = .ok (.goto (-28), 3) := dk_167 255 228 (dk_at dksX2_save_1 20 rfl rfl)
theorem dX2_save_45 : decode cX2_save 45 = .ok (.aload_n 0, 1) := dk_42 (dk_at dksX2_save_1 23 rfl rfl)
theorem dX2_save_46 : decode cX2_save 46 = .ok (.getfield 19, 3) := dk_180 0 19 (dk_at dksX2_save_2 0 rfl rfl)
theorem dX2_save_49 : decode cX2_save 49 = .ok (.iload_n 1, 1) := dk_27 (dk_at dksX2_save_2 3 rfl rfl)
theorem dX2_save_50 : decode cX2_save 50 = .ok (.iconst 1, 1) := dk_4 (dk_at dksX2_save_2 4 rfl rfl)
theorem dX2_save_51 : decode cX2_save 51 = .ok (.bastore, 1) := dk_84 (dk_at dksX2_save_2 5 rfl rfl)
theorem dX2_save_52 : decode cX2_save 52 = .ok (.aload_n 0, 1) := dk_42 (dk_at dksX2_save_2 6 rfl rfl)
theorem dX2_save_53 : decode cX2_save 53 = .ok (.iconst 0, 1) := dk_3 (dk_at dksX2_save_2 7 rfl rfl)
theorem dX2_save_54 : decode cX2_save 54 = .ok (.invokevirtual 83, 3) := dk_182 0 83 (dk_at dksX2_save_2 8 rfl rfl)
theorem dX2_save_57 : decode cX2_save 57 = .ok (.ireturn, 1) := dk_172 (dk_at dksX2_save_2 11 rfl rfl)
abbrev cX2_restore : ByteArray := prog_26_method_57_code
def yX2_restore : MethodName := ⟨RX2, "restore", "(I)I"⟩
def dkwX2_restore_2 : List UInt8 := [96, 46, 79, 132, 2, 1, 167, 255, 228, 42, 3, 182, 0, 83, 172]
abbrev dktX2_restore_2 : List UInt8 := dkwX2_restore_2 ++ []
def dkwX2_restore_1 : List UInt8 := [3, 61, 28, 17, 4, 198, 162, 0, 27, 42, 180, 0, 7, 28, 42, 180, 0, 16, 17, 4, 198, 27, 104, 28]
abbrev dktX2_restore_1 : List UInt8 := dkwX2_restore_1 ++ dktX2_restore_2
def dkwX2_restore_0 : List UInt8 := [27, 3, 4, 184, 0, 46, 154, 0, 6, 18, 50, 172, 42, 180, 0, 19, 27, 51, 154, 0, 6, 18, 82, 172]
abbrev dktX2_restore_0 : List UInt8 := dkwX2_restore_0 ++ dktX2_restore_1
theorem dksX2_restore_0 : cX2_restore.data.toList.drop 0 = dktX2_restore_0 := by decide +kernel
theorem dksX2_restore_1 : cX2_restore.data.toList.drop 24 = dktX2_restore_1 := dk_seg dksX2_restore_0 24 rfl rfl
theorem dksX2_restore_2 : cX2_restore.data.toList.drop 48 = dktX2_restore_2 := dk_seg dksX2_restore_1 24 rfl rfl
theorem dX2_restore_0 : decode cX2_restore 0 = .ok (.iload_n 1, 1) := dk_27 (dk_at dksX2_restore_0 0 rfl rfl)
theorem dX2_restore_1 : decode cX2_restore 1 = .ok (.iconst 0, 1) := dk_3 (dk_at dksX2_restore_0 1 rfl rfl)
theorem dX2_restore_2 : decode cX2_restore 2 = .ok (.iconst 1, 1) := dk_4 (dk_at dksX2_restore_0 2 rfl rfl)
theorem dX2_restore_3 : decode cX2_restore 3 = .ok (.invokestatic 46, 3) := dk_184 0 46 (dk_at dksX2_restore_0 3 rfl rfl)
theorem dX2_restore_6 : decode cX2_restore 6 = .ok (.ifCond .ne 6, 3) := dk_154 0 6 (dk_at dksX2_restore_0 6 rfl rfl)
theorem dX2_restore_9 : decode cX2_restore 9 = .ok (.ldc 50, 2) := dk_18 50 (dk_at dksX2_restore_0 9 rfl rfl)
theorem dX2_restore_11 : decode cX2_restore 11 = .ok (.ireturn, 1) := dk_172 (dk_at dksX2_restore_0 11 rfl rfl)
theorem dX2_restore_12 : decode cX2_restore 12 = .ok (.aload_n 0, 1) := dk_42 (dk_at dksX2_restore_0 12 rfl rfl)
theorem dX2_restore_13 : decode cX2_restore 13 = .ok (.getfield 19, 3) := dk_180 0 19 (dk_at dksX2_restore_0 13 rfl rfl)
theorem dX2_restore_16 : decode cX2_restore 16 = .ok (.iload_n 1, 1) := dk_27 (dk_at dksX2_restore_0 16 rfl rfl)
theorem dX2_restore_17 : decode cX2_restore 17 = .ok (.baload, 1) := dk_51 (dk_at dksX2_restore_0 17 rfl rfl)
theorem dX2_restore_18 : decode cX2_restore 18 = .ok (.ifCond .ne 6, 3) := dk_154 0 6 (dk_at dksX2_restore_0 18 rfl rfl)
theorem dX2_restore_21 : decode cX2_restore 21 = .ok (.ldc 82, 2) := dk_18 82 (dk_at dksX2_restore_0 21 rfl rfl)
theorem dX2_restore_23 : decode cX2_restore 23 = .ok (.ireturn, 1) := dk_172 (dk_at dksX2_restore_0 23 rfl rfl)
theorem dX2_restore_24 : decode cX2_restore 24 = .ok (.iconst 0, 1) := dk_3 (dk_at dksX2_restore_1 0 rfl rfl)
theorem dX2_restore_25 : decode cX2_restore 25 = .ok (.istore_n 2, 1) := dk_61 (dk_at dksX2_restore_1 1 rfl rfl)
theorem dX2_restore_26 : decode cX2_restore 26 = .ok (.iload_n 2, 1) := dk_28 (dk_at dksX2_restore_1 2 rfl rfl)
theorem dX2_restore_27 : decode cX2_restore 27 = .ok (.sipush 1222, 3) := dk_17 4 198 (dk_at dksX2_restore_1 3 rfl rfl)
theorem dX2_restore_30 : decode cX2_restore 30 = .ok (.if_icmp .ge 27, 3) := dk_162 0 27 (dk_at dksX2_restore_1 6 rfl rfl)
theorem dX2_restore_33 : decode cX2_restore 33 = .ok (.aload_n 0, 1) := dk_42 (dk_at dksX2_restore_1 9 rfl rfl)
theorem dX2_restore_34 : decode cX2_restore 34 = .ok (.getfield 7, 3) := dk_180 0 7 (dk_at dksX2_restore_1 10 rfl rfl)
theorem dX2_restore_37 : decode cX2_restore 37 = .ok (.iload_n 2, 1) := dk_28 (dk_at dksX2_restore_1 13 rfl rfl)
theorem dX2_restore_38 : decode cX2_restore 38 = .ok (.aload_n 0, 1) := dk_42 (dk_at dksX2_restore_1 14 rfl rfl)
theorem dX2_restore_39 : decode cX2_restore 39 = .ok (.getfield 16, 3) := dk_180 0 16 (dk_at dksX2_restore_1 15 rfl rfl)
theorem dX2_restore_42 : decode cX2_restore 42 = .ok (.sipush 1222, 3) := dk_17 4 198 (dk_at dksX2_restore_1 18 rfl rfl)
theorem dX2_restore_45 : decode cX2_restore 45 = .ok (.iload_n 1, 1) := dk_27 (dk_at dksX2_restore_1 21 rfl rfl)
theorem dX2_restore_46 : decode cX2_restore 46 = .ok (.imul, 1) := dk_104 (dk_at dksX2_restore_1 22 rfl rfl)
theorem dX2_restore_47 : decode cX2_restore 47 = .ok (.iload_n 2, 1) := dk_28 (dk_at dksX2_restore_1 23 rfl rfl)
theorem dX2_restore_48 : decode cX2_restore 48 = .ok (.iadd, 1) := dk_96 (dk_at dksX2_restore_2 0 rfl rfl)
theorem dX2_restore_49 : decode cX2_restore 49 = .ok (.iaload, 1) := dk_46 (dk_at dksX2_restore_2 1 rfl rfl)
theorem dX2_restore_50 : decode cX2_restore 50 = .ok (.iastore, 1) := dk_79 (dk_at dksX2_restore_2 2 rfl rfl)
theorem dX2_restore_51 : decode cX2_restore 51 = .ok (.iinc 2 1, 3) := dk_132 2 1 (dk_at dksX2_restore_2 3 rfl rfl)
theorem dX2_restore_54 : decode cX2_restore 54 = .ok (.goto (-28), 3) := dk_167 255 228 (dk_at dksX2_restore_2 6 rfl rfl)
theorem dX2_restore_57 : decode cX2_restore 57 = .ok (.aload_n 0, 1) := dk_42 (dk_at dksX2_restore_2 9 rfl rfl)
theorem dX2_restore_58 : decode cX2_restore 58 = .ok (.iconst 0, 1) := dk_3 (dk_at dksX2_restore_2 10 rfl rfl)
theorem dX2_restore_59 : decode cX2_restore 59 = .ok (.invokevirtual 83, 3) := dk_182 0 83 (dk_at dksX2_restore_2 11 rfl rfl)
theorem dX2_restore_62 : decode cX2_restore 62 = .ok (.ireturn, 1) := dk_172 (dk_at dksX2_restore_2 14 rfl rfl)
abbrev cX2_count : ByteArray := prog_26_method_58_code
def yX2_count : MethodName := ⟨RX2, "count", "(I)I"⟩
def dkwX2_count_4 : List UInt8 := [42, 180, 0, 7, 17, 4, 196, 46, 172, 42, 180, 0, 126, 172, 18, 50, 172]
abbrev dktX2_count_4 : List UInt8 := dkwX2_count_4 ++ []
def dkwX2_count_3 : List UInt8 := [42, 4, 182, 0, 83, 172, 42, 180, 0, 7, 17, 4, 194, 46, 172, 42, 180, 0, 7, 17, 4, 195, 46, 172]
abbrev dktX2_count_3 : List UInt8 := dkwX2_count_3 ++ dktX2_count_4
def dkwX2_count_2 : List UInt8 := [42, 180, 0, 7, 17, 4, 192, 46, 172, 42, 180, 0, 7, 17, 4, 193, 46, 172, 42, 3, 182, 0, 83, 172]
abbrev dktX2_count_2 : List UInt8 := dkwX2_count_2 ++ dktX2_count_3
def dkwX2_count_1 : List UInt8 := [170, 0, 0, 0, 0, 0, 109, 0, 0, 0, 0, 0, 0, 0, 7, 0, 0, 0, 47, 0, 0, 0, 56, 0, 0, 0, 65, 0, 0, 0, 71, 0, 0, 0, 77, 0, 0, 0, 86, 0, 0, 0, 95, 0, 0, 0, 104]
abbrev dktX2_count_1 : List UInt8 := dkwX2_count_1 ++ dktX2_count_2
def dkwX2_count_0 : List UInt8 := [27]
abbrev dktX2_count_0 : List UInt8 := dkwX2_count_0 ++ dktX2_count_1
theorem dksX2_count_0 : cX2_count.data.toList.drop 0 = dktX2_count_0 := by decide +kernel
theorem dksX2_count_1 : cX2_count.data.toList.drop 1 = dktX2_count_1 := dk_seg dksX2_count_0 1 rfl rfl
theorem dksX2_count_2 : cX2_count.data.toList.drop 48 = dktX2_count_2 := dk_seg dksX2_count_1 47 rfl rfl
theorem dksX2_count_3 : cX2_count.data.toList.drop 72 = dktX2_count_3 := dk_seg dksX2_count_2 24 rfl rfl
theorem dksX2_count_4 : cX2_count.data.toList.drop 96 = dktX2_count_4 := dk_seg dksX2_count_3 24 rfl rfl
theorem dX2_count_0 : decode cX2_count 0 = .ok (.iload_n 1, 1) := dk_27 (dk_at dksX2_count_0 0 rfl rfl)
theorem dX2_count_1 : decode cX2_count 1 = .ok (.tableswitch 109 0 7 #[47, 56, 65, 71, 77, 86, 95, 104], 47) := by decide +kernel
theorem dX2_count_48 : decode cX2_count 48 = .ok (.aload_n 0, 1) := dk_42 (dk_at dksX2_count_2 0 rfl rfl)
theorem dX2_count_49 : decode cX2_count 49 = .ok (.getfield 7, 3) := dk_180 0 7 (dk_at dksX2_count_2 1 rfl rfl)
theorem dX2_count_52 : decode cX2_count 52 = .ok (.sipush 1216, 3) := dk_17 4 192 (dk_at dksX2_count_2 4 rfl rfl)
theorem dX2_count_55 : decode cX2_count 55 = .ok (.iaload, 1) := dk_46 (dk_at dksX2_count_2 7 rfl rfl)
theorem dX2_count_56 : decode cX2_count 56 = .ok (.ireturn, 1) := dk_172 (dk_at dksX2_count_2 8 rfl rfl)
theorem dX2_count_57 : decode cX2_count 57 = .ok (.aload_n 0, 1) := dk_42 (dk_at dksX2_count_2 9 rfl rfl)
theorem dX2_count_58 : decode cX2_count 58 = .ok (.getfield 7, 3) := dk_180 0 7 (dk_at dksX2_count_2 10 rfl rfl)
theorem dX2_count_61 : decode cX2_count 61 = .ok (.sipush 1217, 3) := dk_17 4 193 (dk_at dksX2_count_2 13 rfl rfl)
theorem dX2_count_64 : decode cX2_count 64 = .ok (.iaload, 1) := dk_46 (dk_at dksX2_count_2 16 rfl rfl)
theorem dX2_count_65 : decode cX2_count 65 = .ok (.ireturn, 1) := dk_172 (dk_at dksX2_count_2 17 rfl rfl)
theorem dX2_count_66 : decode cX2_count 66 = .ok (.aload_n 0, 1) := dk_42 (dk_at dksX2_count_2 18 rfl rfl)
theorem dX2_count_67 : decode cX2_count 67 = .ok (.iconst 0, 1) := dk_3 (dk_at dksX2_count_2 19 rfl rfl)
theorem dX2_count_68 : decode cX2_count 68 = .ok (.invokevirtual 83, 3) := dk_182 0 83 (dk_at dksX2_count_2 20 rfl rfl)
theorem dX2_count_71 : decode cX2_count 71 = .ok (.ireturn, 1) := dk_172 (dk_at dksX2_count_2 23 rfl rfl)
theorem dX2_count_72 : decode cX2_count 72 = .ok (.aload_n 0, 1) := dk_42 (dk_at dksX2_count_3 0 rfl rfl)
theorem dX2_count_73 : decode cX2_count 73 = .ok (.iconst 1, 1) := dk_4 (dk_at dksX2_count_3 1 rfl rfl)
theorem dX2_count_74 : decode cX2_count 74 = .ok (.invokevirtual 83, 3) := dk_182 0 83 (dk_at dksX2_count_3 2 rfl rfl)
theorem dX2_count_77 : decode cX2_count 77 = .ok (.ireturn, 1) := dk_172 (dk_at dksX2_count_3 5 rfl rfl)
theorem dX2_count_78 : decode cX2_count 78 = .ok (.aload_n 0, 1) := dk_42 (dk_at dksX2_count_3 6 rfl rfl)
theorem dX2_count_79 : decode cX2_count 79 = .ok (.getfield 7, 3) := dk_180 0 7 (dk_at dksX2_count_3 7 rfl rfl)
theorem dX2_count_82 : decode cX2_count 82 = .ok (.sipush 1218, 3) := dk_17 4 194 (dk_at dksX2_count_3 10 rfl rfl)
theorem dX2_count_85 : decode cX2_count 85 = .ok (.iaload, 1) := dk_46 (dk_at dksX2_count_3 13 rfl rfl)
theorem dX2_count_86 : decode cX2_count 86 = .ok (.ireturn, 1) := dk_172 (dk_at dksX2_count_3 14 rfl rfl)
theorem dX2_count_87 : decode cX2_count 87 = .ok (.aload_n 0, 1) := dk_42 (dk_at dksX2_count_3 15 rfl rfl)
theorem dX2_count_88 : decode cX2_count 88 = .ok (.getfield 7, 3) := dk_180 0 7 (dk_at dksX2_count_3 16 rfl rfl)
theorem dX2_count_91 : decode cX2_count 91 = .ok (.sipush 1219, 3) := dk_17 4 195 (dk_at dksX2_count_3 19 rfl rfl)
theorem dX2_count_94 : decode cX2_count 94 = .ok (.iaload, 1) := dk_46 (dk_at dksX2_count_3 22 rfl rfl)
theorem dX2_count_95 : decode cX2_count 95 = .ok (.ireturn, 1) := dk_172 (dk_at dksX2_count_3 23 rfl rfl)
theorem dX2_count_96 : decode cX2_count 96 = .ok (.aload_n 0, 1) := dk_42 (dk_at dksX2_count_4 0 rfl rfl)
theorem dX2_count_97 : decode cX2_count 97 = .ok (.getfield 7, 3) := dk_180 0 7 (dk_at dksX2_count_4 1 rfl rfl)
theorem dX2_count_100 : decode cX2_count 100 = .ok (.sipush 1220, 3) := dk_17 4 196 (dk_at dksX2_count_4 4 rfl rfl)
theorem dX2_count_103 : decode cX2_count 103 = .ok (.iaload, 1) := dk_46 (dk_at dksX2_count_4 7 rfl rfl)
theorem dX2_count_104 : decode cX2_count 104 = .ok (.ireturn, 1) := dk_172 (dk_at dksX2_count_4 8 rfl rfl)
theorem dX2_count_105 : decode cX2_count 105 = .ok (.aload_n 0, 1) := dk_42 (dk_at dksX2_count_4 9 rfl rfl)
theorem dX2_count_106 : decode cX2_count 106 = .ok (.getfield 126, 3) := dk_180 0 126 (dk_at dksX2_count_4 10 rfl rfl)
theorem dX2_count_109 : decode cX2_count 109 = .ok (.ireturn, 1) := dk_172 (dk_at dksX2_count_4 13 rfl rfl)
theorem dX2_count_110 : decode cX2_count 110 = .ok (.ldc 50, 2) := dk_18 50 (dk_at dksX2_count_4 14 rfl rfl)
theorem dX2_count_112 : decode cX2_count 112 = .ok (.ireturn, 1) := dk_172 (dk_at dksX2_count_4 16 rfl rfl)
abbrev cX2_digest : ByteArray := prog_26_method_60_code
def yX2_digest : MethodName := ⟨RX2, "digest", "()J"⟩
def dkwX2_digest_9 : List UInt8 := [180, 0, 23, 27, 46, 182, 0, 199, 132, 1, 1, 167, 255, 235, 42, 180, 0, 190, 173]
abbrev dktX2_digest_9 : List UInt8 := dkwX2_digest_9 ++ []
def dkwX2_digest_8 : List UInt8 := [96, 46, 182, 0, 199, 132, 1, 1, 167, 255, 221, 3, 60, 27, 42, 180, 0, 126, 162, 0, 19, 42, 42]
abbrev dktX2_digest_8 : List UInt8 := dkwX2_digest_8 ++ dktX2_digest_9
def dkwX2_digest_7 : List UInt8 := [162, 0, 35, 42, 180, 0, 7, 17, 4, 197, 46, 4, 160, 0, 23, 42, 42, 180, 0, 7, 17, 4, 186, 27]
abbrev dktX2_digest_7 : List UInt8 := dkwX2_digest_7 ++ dktX2_digest_8
def dkwX2_digest_6 : List UInt8 := [162, 0, 18, 42, 42, 27, 182, 0, 205, 182, 0, 199, 132, 1, 1, 167, 255, 239, 3, 60, 27, 16, 6]
abbrev dktX2_digest_6 : List UInt8 := dkwX2_digest_6 ++ dktX2_digest_7
def dkwX2_digest_5 : List UInt8 := [182, 0, 199, 132, 2, 1, 167, 255, 225, 42, 27, 4, 96, 182, 0, 73, 60, 167, 255, 183, 3, 60, 27, 8]
abbrev dktX2_digest_5 : List UInt8 := dkwX2_digest_5 ++ dktX2_digest_6
def dkwX2_digest_4 : List UInt8 := [42, 180, 0, 7, 3, 27, 96, 46, 162, 0, 25, 42, 42, 180, 0, 7, 17, 3, 32, 27, 96, 28, 96, 46]
abbrev dktX2_digest_4 : List UInt8 := dkwX2_digest_4 ++ dktX2_digest_5
def dkwX2_digest_3 : List UInt8 := [16, 8, 162, 0, 19, 42, 42, 27, 28, 182, 0, 202, 182, 0, 199, 132, 2, 1, 167, 255, 237, 4, 61, 28]
abbrev dktX2_digest_3 : List UInt8 := dkwX2_digest_3 ++ dktX2_digest_4
def dkwX2_digest_2 : List UInt8 := [46, 182, 0, 199, 132, 1, 1, 167, 255, 233, 42, 3, 182, 0, 73, 60, 27, 2, 159, 0, 74, 3, 61, 28]
abbrev dktX2_digest_2 : List UInt8 := dkwX2_digest_2 ++ dktX2_digest_3
def dkwX2_digest_1 : List UInt8 := [132, 1, 1, 167, 255, 238, 3, 60, 27, 16, 10, 162, 0, 23, 42, 42, 180, 0, 7, 17, 4, 176, 27, 96]
abbrev dktX2_digest_1 : List UInt8 := dkwX2_digest_1 ++ dktX2_digest_2
def dkwX2_digest_0 : List UInt8 := [42, 20, 0, 194, 181, 0, 190, 3, 60, 27, 16, 8, 162, 0, 18, 42, 42, 27, 182, 0, 196, 182, 0, 199]
abbrev dktX2_digest_0 : List UInt8 := dkwX2_digest_0 ++ dktX2_digest_1
theorem dksX2_digest_0 : cX2_digest.data.toList.drop 0 = dktX2_digest_0 := by decide +kernel
theorem dksX2_digest_1 : cX2_digest.data.toList.drop 24 = dktX2_digest_1 := dk_seg dksX2_digest_0 24 rfl rfl
theorem dksX2_digest_2 : cX2_digest.data.toList.drop 48 = dktX2_digest_2 := dk_seg dksX2_digest_1 24 rfl rfl
theorem dksX2_digest_3 : cX2_digest.data.toList.drop 72 = dktX2_digest_3 := dk_seg dksX2_digest_2 24 rfl rfl
theorem dksX2_digest_4 : cX2_digest.data.toList.drop 96 = dktX2_digest_4 := dk_seg dksX2_digest_3 24 rfl rfl
theorem dksX2_digest_5 : cX2_digest.data.toList.drop 120 = dktX2_digest_5 := dk_seg dksX2_digest_4 24 rfl rfl
theorem dksX2_digest_6 : cX2_digest.data.toList.drop 144 = dktX2_digest_6 := dk_seg dksX2_digest_5 24 rfl rfl
theorem dksX2_digest_7 : cX2_digest.data.toList.drop 167 = dktX2_digest_7 := dk_seg dksX2_digest_6 23 rfl rfl
theorem dksX2_digest_8 : cX2_digest.data.toList.drop 191 = dktX2_digest_8 := dk_seg dksX2_digest_7 24 rfl rfl
theorem dksX2_digest_9 : cX2_digest.data.toList.drop 214 = dktX2_digest_9 := dk_seg dksX2_digest_8 23 rfl rfl
theorem dX2_digest_0 : decode cX2_digest 0 = .ok (.aload_n 0, 1) := dk_42 (dk_at dksX2_digest_0 0 rfl rfl)
theorem dX2_digest_1 : decode cX2_digest 1 = .ok (.ldc2_w 194, 3) := dk_20 0 194 (dk_at dksX2_digest_0 1 rfl rfl)
theorem dX2_digest_4 : decode cX2_digest 4 = .ok (.putfield 190, 3) := dk_181 0 190 (dk_at dksX2_digest_0 4 rfl rfl)
theorem dX2_digest_7 : decode cX2_digest 7 = .ok (.iconst 0, 1) := dk_3 (dk_at dksX2_digest_0 7 rfl rfl)
theorem dX2_digest_8 : decode cX2_digest 8 = .ok (.istore_n 1, 1) := dk_60 (dk_at dksX2_digest_0 8 rfl rfl)
theorem dX2_digest_9 : decode cX2_digest 9 = .ok (.iload_n 1, 1) := dk_27 (dk_at dksX2_digest_0 9 rfl rfl)
theorem dX2_digest_10 : decode cX2_digest 10 = .ok (.bipush 8, 2) := dk_16 8 (dk_at dksX2_digest_0 10 rfl rfl)
theorem dX2_digest_12 : decode cX2_digest 12 = .ok (.if_icmp .ge 18, 3) := dk_162 0 18 (dk_at dksX2_digest_0 12 rfl rfl)
theorem dX2_digest_15 : decode cX2_digest 15 = .ok (.aload_n 0, 1) := dk_42 (dk_at dksX2_digest_0 15 rfl rfl)
theorem dX2_digest_16 : decode cX2_digest 16 = .ok (.aload_n 0, 1) := dk_42 (dk_at dksX2_digest_0 16 rfl rfl)
theorem dX2_digest_17 : decode cX2_digest 17 = .ok (.iload_n 1, 1) := dk_27 (dk_at dksX2_digest_0 17 rfl rfl)
theorem dX2_digest_18 : decode cX2_digest 18 = .ok (.invokevirtual 196, 3) := dk_182 0 196 (dk_at dksX2_digest_0 18 rfl rfl)
theorem dX2_digest_21 : decode cX2_digest 21 = .ok (.invokevirtual 199, 3) := dk_182 0 199 (dk_at dksX2_digest_0 21 rfl rfl)
theorem dX2_digest_24 : decode cX2_digest 24 = .ok (.iinc 1 1, 3) := dk_132 1 1 (dk_at dksX2_digest_1 0 rfl rfl)
theorem dX2_digest_27 : decode cX2_digest 27 = .ok (.goto (-18), 3) := dk_167 255 238 (dk_at dksX2_digest_1 3 rfl rfl)
theorem dX2_digest_30 : decode cX2_digest 30 = .ok (.iconst 0, 1) := dk_3 (dk_at dksX2_digest_1 6 rfl rfl)
theorem dX2_digest_31 : decode cX2_digest 31 = .ok (.istore_n 1, 1) := dk_60 (dk_at dksX2_digest_1 7 rfl rfl)
theorem dX2_digest_32 : decode cX2_digest 32 = .ok (.iload_n 1, 1) := dk_27 (dk_at dksX2_digest_1 8 rfl rfl)
theorem dX2_digest_33 : decode cX2_digest 33 = .ok (.bipush 10, 2) := dk_16 10 (dk_at dksX2_digest_1 9 rfl rfl)
theorem dX2_digest_35 : decode cX2_digest 35 = .ok (.if_icmp .ge 23, 3) := dk_162 0 23 (dk_at dksX2_digest_1 11 rfl rfl)
theorem dX2_digest_38 : decode cX2_digest 38 = .ok (.aload_n 0, 1) := dk_42 (dk_at dksX2_digest_1 14 rfl rfl)
theorem dX2_digest_39 : decode cX2_digest 39 = .ok (.aload_n 0, 1) := dk_42 (dk_at dksX2_digest_1 15 rfl rfl)
theorem dX2_digest_40 : decode cX2_digest 40 = .ok (.getfield 7, 3) := dk_180 0 7 (dk_at dksX2_digest_1 16 rfl rfl)
theorem dX2_digest_43 : decode cX2_digest 43 = .ok (.sipush 1200, 3) := dk_17 4 176 (dk_at dksX2_digest_1 19 rfl rfl)
theorem dX2_digest_46 : decode cX2_digest 46 = .ok (.iload_n 1, 1) := dk_27 (dk_at dksX2_digest_1 22 rfl rfl)
theorem dX2_digest_47 : decode cX2_digest 47 = .ok (.iadd, 1) := dk_96 (dk_at dksX2_digest_1 23 rfl rfl)
theorem dX2_digest_48 : decode cX2_digest 48 = .ok (.iaload, 1) := dk_46 (dk_at dksX2_digest_2 0 rfl rfl)
theorem dX2_digest_49 : decode cX2_digest 49 = .ok (.invokevirtual 199, 3) := dk_182 0 199 (dk_at dksX2_digest_2 1 rfl rfl)
theorem dX2_digest_52 : decode cX2_digest 52 = .ok (.iinc 1 1, 3) := dk_132 1 1 (dk_at dksX2_digest_2 4 rfl rfl)
theorem dX2_digest_55 : decode cX2_digest 55 = .ok (.goto (-23), 3) := dk_167 255 233 (dk_at dksX2_digest_2 7 rfl rfl)
theorem dX2_digest_58 : decode cX2_digest 58 = .ok (.aload_n 0, 1) := dk_42 (dk_at dksX2_digest_2 10 rfl rfl)
theorem dX2_digest_59 : decode cX2_digest 59 = .ok (.iconst 0, 1) := dk_3 (dk_at dksX2_digest_2 11 rfl rfl)
theorem dX2_digest_60 : decode cX2_digest 60 = .ok (.invokevirtual 73, 3) := dk_182 0 73 (dk_at dksX2_digest_2 12 rfl rfl)
theorem dX2_digest_63 : decode cX2_digest 63 = .ok (.istore_n 1, 1) := dk_60 (dk_at dksX2_digest_2 15 rfl rfl)
theorem dX2_digest_64 : decode cX2_digest 64 = .ok (.iload_n 1, 1) := dk_27 (dk_at dksX2_digest_2 16 rfl rfl)
theorem dX2_digest_65 : decode cX2_digest 65 = .ok (.iconst (-1), 1) := dk_2 (dk_at dksX2_digest_2 17 rfl rfl)
theorem dX2_digest_66 : decode cX2_digest 66 = .ok (.if_icmp .eq 74, 3) := dk_159 0 74 (dk_at dksX2_digest_2 18 rfl rfl)
theorem dX2_digest_69 : decode cX2_digest 69 = .ok (.iconst 0, 1) := dk_3 (dk_at dksX2_digest_2 21 rfl rfl)
theorem dX2_digest_70 : decode cX2_digest 70 = .ok (.istore_n 2, 1) := dk_61 (dk_at dksX2_digest_2 22 rfl rfl)
theorem dX2_digest_71 : decode cX2_digest 71 = .ok (.iload_n 2, 1) := dk_28 (dk_at dksX2_digest_2 23 rfl rfl)
theorem dX2_digest_72 : decode cX2_digest 72 = .ok (.bipush 8, 2) := dk_16 8 (dk_at dksX2_digest_3 0 rfl rfl)
theorem dX2_digest_74 : decode cX2_digest 74 = .ok (.if_icmp .ge 19, 3) := dk_162 0 19 (dk_at dksX2_digest_3 2 rfl rfl)
theorem dX2_digest_77 : decode cX2_digest 77 = .ok (.aload_n 0, 1) := dk_42 (dk_at dksX2_digest_3 5 rfl rfl)
theorem dX2_digest_78 : decode cX2_digest 78 = .ok (.aload_n 0, 1) := dk_42 (dk_at dksX2_digest_3 6 rfl rfl)
theorem dX2_digest_79 : decode cX2_digest 79 = .ok (.iload_n 1, 1) := dk_27 (dk_at dksX2_digest_3 7 rfl rfl)
theorem dX2_digest_80 : decode cX2_digest 80 = .ok (.iload_n 2, 1) := dk_28 (dk_at dksX2_digest_3 8 rfl rfl)
theorem dX2_digest_81 : decode cX2_digest 81 = .ok (.invokevirtual 202, 3) := dk_182 0 202 (dk_at dksX2_digest_3 9 rfl rfl)
theorem dX2_digest_84 : decode cX2_digest 84 = .ok (.invokevirtual 199, 3) := dk_182 0 199 (dk_at dksX2_digest_3 12 rfl rfl)
theorem dX2_digest_87 : decode cX2_digest 87 = .ok (.iinc 2 1, 3) := dk_132 2 1 (dk_at dksX2_digest_3 15 rfl rfl)
theorem dX2_digest_90 : decode cX2_digest 90 = .ok (.goto (-19), 3) := dk_167 255 237 (dk_at dksX2_digest_3 18 rfl rfl)
theorem dX2_digest_93 : decode cX2_digest 93 = .ok (.iconst 1, 1) := dk_4 (dk_at dksX2_digest_3 21 rfl rfl)
theorem dX2_digest_94 : decode cX2_digest 94 = .ok (.istore_n 2, 1) := dk_61 (dk_at dksX2_digest_3 22 rfl rfl)
theorem dX2_digest_95 : decode cX2_digest 95 = .ok (.iload_n 2, 1) := dk_28 (dk_at dksX2_digest_3 23 rfl rfl)
theorem dX2_digest_96 : decode cX2_digest 96 = .ok (.aload_n 0, 1) := dk_42 (dk_at dksX2_digest_4 0 rfl rfl)
theorem dX2_digest_97 : decode cX2_digest 97 = .ok (.getfield 7, 3) := dk_180 0 7 (dk_at dksX2_digest_4 1 rfl rfl)
theorem dX2_digest_100 : decode cX2_digest 100 = .ok (.iconst 0, 1) := dk_3 (dk_at dksX2_digest_4 4 rfl rfl)
theorem dX2_digest_101 : decode cX2_digest 101 = .ok (.iload_n 1, 1) := dk_27 (dk_at dksX2_digest_4 5 rfl rfl)
theorem dX2_digest_102 : decode cX2_digest 102 = .ok (.iadd, 1) := dk_96 (dk_at dksX2_digest_4 6 rfl rfl)
theorem dX2_digest_103 : decode cX2_digest 103 = .ok (.iaload, 1) := dk_46 (dk_at dksX2_digest_4 7 rfl rfl)
theorem dX2_digest_104 : decode cX2_digest 104 = .ok (.if_icmp .ge 25, 3) := dk_162 0 25 (dk_at dksX2_digest_4 8 rfl rfl)
theorem dX2_digest_107 : decode cX2_digest 107 = .ok (.aload_n 0, 1) := dk_42 (dk_at dksX2_digest_4 11 rfl rfl)
theorem dX2_digest_108 : decode cX2_digest 108 = .ok (.aload_n 0, 1) := dk_42 (dk_at dksX2_digest_4 12 rfl rfl)
theorem dX2_digest_109 : decode cX2_digest 109 = .ok (.getfield 7, 3) := dk_180 0 7 (dk_at dksX2_digest_4 13 rfl rfl)
theorem dX2_digest_112 : decode cX2_digest 112 = .ok (.sipush 800, 3) := dk_17 3 32 (dk_at dksX2_digest_4 16 rfl rfl)
theorem dX2_digest_115 : decode cX2_digest 115 = .ok (.iload_n 1, 1) := dk_27 (dk_at dksX2_digest_4 19 rfl rfl)
theorem dX2_digest_116 : decode cX2_digest 116 = .ok (.iadd, 1) := dk_96 (dk_at dksX2_digest_4 20 rfl rfl)
theorem dX2_digest_117 : decode cX2_digest 117 = .ok (.iload_n 2, 1) := dk_28 (dk_at dksX2_digest_4 21 rfl rfl)
theorem dX2_digest_118 : decode cX2_digest 118 = .ok (.iadd, 1) := dk_96 (dk_at dksX2_digest_4 22 rfl rfl)
theorem dX2_digest_119 : decode cX2_digest 119 = .ok (.iaload, 1) := dk_46 (dk_at dksX2_digest_4 23 rfl rfl)
theorem dX2_digest_120 : decode cX2_digest 120 = .ok (.invokevirtual 199, 3) := dk_182 0 199 (dk_at dksX2_digest_5 0 rfl rfl)
theorem dX2_digest_123 : decode cX2_digest 123 = .ok (.iinc 2 1, 3) := dk_132 2 1 (dk_at dksX2_digest_5 3 rfl rfl)
theorem dX2_digest_126 : decode cX2_digest 126 = .ok (.goto (-31), 3) := dk_167 255 225 (dk_at dksX2_digest_5 6 rfl rfl)
theorem dX2_digest_129 : decode cX2_digest 129 = .ok (.aload_n 0, 1) := dk_42 (dk_at dksX2_digest_5 9 rfl rfl)
theorem dX2_digest_130 : decode cX2_digest 130 = .ok (.iload_n 1, 1) := dk_27 (dk_at dksX2_digest_5 10 rfl rfl)
theorem dX2_digest_131 : decode cX2_digest 131 = .ok (.iconst 1, 1) := dk_4 (dk_at dksX2_digest_5 11 rfl rfl)
theorem dX2_digest_132 : decode cX2_digest 132 = .ok (.iadd, 1) := dk_96 (dk_at dksX2_digest_5 12 rfl rfl)
theorem dX2_digest_133 : decode cX2_digest 133 = .ok (.invokevirtual 73, 3) := dk_182 0 73 (dk_at dksX2_digest_5 13 rfl rfl)
theorem dX2_digest_136 : decode cX2_digest 136 = .ok (.istore_n 1, 1) := dk_60 (dk_at dksX2_digest_5 16 rfl rfl)
theorem dX2_digest_137 : decode cX2_digest 137 = .ok (.goto (-73), 3) := dk_167 255 183 (dk_at dksX2_digest_5 17 rfl rfl)
theorem dX2_digest_140 : decode cX2_digest 140 = .ok (.iconst 0, 1) := dk_3 (dk_at dksX2_digest_5 20 rfl rfl)
theorem dX2_digest_141 : decode cX2_digest 141 = .ok (.istore_n 1, 1) := dk_60 (dk_at dksX2_digest_5 21 rfl rfl)
theorem dX2_digest_142 : decode cX2_digest 142 = .ok (.iload_n 1, 1) := dk_27 (dk_at dksX2_digest_5 22 rfl rfl)
theorem dX2_digest_143 : decode cX2_digest 143 = .ok (.iconst 5, 1) := dk_8 (dk_at dksX2_digest_5 23 rfl rfl)
theorem dX2_digest_144 : decode cX2_digest 144 = .ok (.if_icmp .ge 18, 3) := dk_162 0 18 (dk_at dksX2_digest_6 0 rfl rfl)
theorem dX2_digest_147 : decode cX2_digest 147 = .ok (.aload_n 0, 1) := dk_42 (dk_at dksX2_digest_6 3 rfl rfl)
theorem dX2_digest_148 : decode cX2_digest 148 = .ok (.aload_n 0, 1) := dk_42 (dk_at dksX2_digest_6 4 rfl rfl)
theorem dX2_digest_149 : decode cX2_digest 149 = .ok (.iload_n 1, 1) := dk_27 (dk_at dksX2_digest_6 5 rfl rfl)
theorem dX2_digest_150 : decode cX2_digest 150 = .ok (.invokevirtual 205, 3) := dk_182 0 205 (dk_at dksX2_digest_6 6 rfl rfl)
theorem dX2_digest_153 : decode cX2_digest 153 = .ok (.invokevirtual 199, 3) := dk_182 0 199 (dk_at dksX2_digest_6 9 rfl rfl)
theorem dX2_digest_156 : decode cX2_digest 156 = .ok (.iinc 1 1, 3) := dk_132 1 1 (dk_at dksX2_digest_6 12 rfl rfl)
theorem dX2_digest_159 : decode cX2_digest 159 = .ok (.goto (-17), 3) := dk_167 255 239 (dk_at dksX2_digest_6 15 rfl rfl)
theorem dX2_digest_162 : decode cX2_digest 162 = .ok (.iconst 0, 1) := dk_3 (dk_at dksX2_digest_6 18 rfl rfl)
theorem dX2_digest_163 : decode cX2_digest 163 = .ok (.istore_n 1, 1) := dk_60 (dk_at dksX2_digest_6 19 rfl rfl)
theorem dX2_digest_164 : decode cX2_digest 164 = .ok (.iload_n 1, 1) := dk_27 (dk_at dksX2_digest_6 20 rfl rfl)
theorem dX2_digest_165 : decode cX2_digest 165 = .ok (.bipush 6, 2) := dk_16 6 (dk_at dksX2_digest_6 21 rfl rfl)
theorem dX2_digest_167 : decode cX2_digest 167 = .ok (.if_icmp .ge 35, 3) := dk_162 0 35 (dk_at dksX2_digest_7 0 rfl rfl)
theorem dX2_digest_170 : decode cX2_digest 170 = .ok (.aload_n 0, 1) := dk_42 (dk_at dksX2_digest_7 3 rfl rfl)
theorem dX2_digest_171 : decode cX2_digest 171 = .ok (.getfield 7, 3) := dk_180 0 7 (dk_at dksX2_digest_7 4 rfl rfl)
theorem dX2_digest_174 : decode cX2_digest 174 = .ok (.sipush 1221, 3) := dk_17 4 197 (dk_at dksX2_digest_7 7 rfl rfl)
theorem dX2_digest_177 : decode cX2_digest 177 = .ok (.iaload, 1) := dk_46 (dk_at dksX2_digest_7 10 rfl rfl)
theorem dX2_digest_178 : decode cX2_digest 178 = .ok (.iconst 1, 1) := dk_4 (dk_at dksX2_digest_7 11 rfl rfl)
theorem dX2_digest_179 : decode cX2_digest 179 = .ok (.if_icmp .ne 23, 3) := dk_160 0 23 (dk_at dksX2_digest_7 12 rfl rfl)
theorem dX2_digest_182 : decode cX2_digest 182 = .ok (.aload_n 0, 1) := dk_42 (dk_at dksX2_digest_7 15 rfl rfl)
theorem dX2_digest_183 : decode cX2_digest 183 = .ok (.aload_n 0, 1) := dk_42 (dk_at dksX2_digest_7 16 rfl rfl)
theorem dX2_digest_184 : decode cX2_digest 184 = .ok (.getfield 7, 3) := dk_180 0 7 (dk_at dksX2_digest_7 17 rfl rfl)
theorem dX2_digest_187 : decode cX2_digest 187 = .ok (.sipush 1210, 3) := dk_17 4 186 (dk_at dksX2_digest_7 20 rfl rfl)
theorem dX2_digest_190 : decode cX2_digest 190 = .ok (.iload_n 1, 1) := dk_27 (dk_at dksX2_digest_7 23 rfl rfl)
theorem dX2_digest_191 : decode cX2_digest 191 = .ok (.iadd, 1) := dk_96 (dk_at dksX2_digest_8 0 rfl rfl)
theorem dX2_digest_192 : decode cX2_digest 192 = .ok (.iaload, 1) := dk_46 (dk_at dksX2_digest_8 1 rfl rfl)
theorem dX2_digest_193 : decode cX2_digest 193 = .ok (.invokevirtual 199, 3) := dk_182 0 199 (dk_at dksX2_digest_8 2 rfl rfl)
theorem dX2_digest_196 : decode cX2_digest 196 = .ok (.iinc 1 1, 3) := dk_132 1 1 (dk_at dksX2_digest_8 5 rfl rfl)
theorem dX2_digest_199 : decode cX2_digest 199 = .ok (.goto (-35), 3) := dk_167 255 221 (dk_at dksX2_digest_8 8 rfl rfl)
theorem dX2_digest_202 : decode cX2_digest 202 = .ok (.iconst 0, 1) := dk_3 (dk_at dksX2_digest_8 11 rfl rfl)
theorem dX2_digest_203 : decode cX2_digest 203 = .ok (.istore_n 1, 1) := dk_60 (dk_at dksX2_digest_8 12 rfl rfl)
theorem dX2_digest_204 : decode cX2_digest 204 = .ok (.iload_n 1, 1) := dk_27 (dk_at dksX2_digest_8 13 rfl rfl)
theorem dX2_digest_205 : decode cX2_digest 205 = .ok (.aload_n 0, 1) := dk_42 (dk_at dksX2_digest_8 14 rfl rfl)
theorem dX2_digest_206 : decode cX2_digest 206 = .ok (.getfield 126, 3) := dk_180 0 126 (dk_at dksX2_digest_8 15 rfl rfl)
theorem dX2_digest_209 : decode cX2_digest 209 = .ok (.if_icmp .ge 19, 3) := dk_162 0 19 (dk_at dksX2_digest_8 18 rfl rfl)
theorem dX2_digest_212 : decode cX2_digest 212 = .ok (.aload_n 0, 1) := dk_42 (dk_at dksX2_digest_8 21 rfl rfl)
theorem dX2_digest_213 : decode cX2_digest 213 = .ok (.aload_n 0, 1) := dk_42 (dk_at dksX2_digest_8 22 rfl rfl)
theorem dX2_digest_214 : decode cX2_digest 214 = .ok (.getfield 23, 3) := dk_180 0 23 (dk_at dksX2_digest_9 0 rfl rfl)
theorem dX2_digest_217 : decode cX2_digest 217 = .ok (.iload_n 1, 1) := dk_27 (dk_at dksX2_digest_9 3 rfl rfl)
theorem dX2_digest_218 : decode cX2_digest 218 = .ok (.iaload, 1) := dk_46 (dk_at dksX2_digest_9 4 rfl rfl)
theorem dX2_digest_219 : decode cX2_digest 219 = .ok (.invokevirtual 199, 3) := dk_182 0 199 (dk_at dksX2_digest_9 5 rfl rfl)
theorem dX2_digest_222 : decode cX2_digest 222 = .ok (.iinc 1 1, 3) := dk_132 1 1 (dk_at dksX2_digest_9 8 rfl rfl)
theorem dX2_digest_225 : decode cX2_digest 225 = .ok (.goto (-21), 3) := dk_167 255 235 (dk_at dksX2_digest_9 11 rfl rfl)
theorem dX2_digest_228 : decode cX2_digest 228 = .ok (.aload_n 0, 1) := dk_42 (dk_at dksX2_digest_9 14 rfl rfl)
theorem dX2_digest_229 : decode cX2_digest 229 = .ok (.getfield 190, 3) := dk_180 0 190 (dk_at dksX2_digest_9 15 rfl rfl)
theorem dX2_digest_232 : decode cX2_digest 232 = .ok (.lreturn, 1) := dk_173 (dk_at dksX2_digest_9 18 rfl rfl)
abbrev cX2_mixes : ByteArray := prog_26_method_59_code
def yX2_mixes : MethodName := ⟨RX2, "mixes", "(I)V"⟩
def dkwX2_mixes_0 : List UInt8 := [42, 20, 0, 188, 42, 180, 0, 190, 105, 27, 133, 97, 181, 0, 190, 177]
abbrev dktX2_mixes_0 : List UInt8 := dkwX2_mixes_0 ++ []
theorem dksX2_mixes_0 : cX2_mixes.data.toList.drop 0 = dktX2_mixes_0 := by decide +kernel
theorem dX2_mixes_0 : decode cX2_mixes 0 = .ok (.aload_n 0, 1) := dk_42 (dk_at dksX2_mixes_0 0 rfl rfl)
theorem dX2_mixes_1 : decode cX2_mixes 1 = .ok (.ldc2_w 188, 3) := dk_20 0 188 (dk_at dksX2_mixes_0 1 rfl rfl)
theorem dX2_mixes_4 : decode cX2_mixes 4 = .ok (.aload_n 0, 1) := dk_42 (dk_at dksX2_mixes_0 4 rfl rfl)
theorem dX2_mixes_5 : decode cX2_mixes 5 = .ok (.getfield 190, 3) := dk_180 0 190 (dk_at dksX2_mixes_0 5 rfl rfl)
theorem dX2_mixes_8 : decode cX2_mixes 8 = .ok (.lmul, 1) := dk_105 (dk_at dksX2_mixes_0 8 rfl rfl)
theorem dX2_mixes_9 : decode cX2_mixes 9 = .ok (.iload_n 1, 1) := dk_27 (dk_at dksX2_mixes_0 9 rfl rfl)
theorem dX2_mixes_10 : decode cX2_mixes 10 = .ok (.i2l, 1) := dk_133 (dk_at dksX2_mixes_0 10 rfl rfl)
theorem dX2_mixes_11 : decode cX2_mixes 11 = .ok (.ladd, 1) := dk_97 (dk_at dksX2_mixes_0 11 rfl rfl)
theorem dX2_mixes_12 : decode cX2_mixes 12 = .ok (.putfield 190, 3) := dk_181 0 190 (dk_at dksX2_mixes_0 12 rfl rfl)
theorem dX2_mixes_15 : decode cX2_mixes 15 = .ok (.return_, 1) := dk_177 (dk_at dksX2_mixes_0 15 rfl rfl)
theorem q67 : (Jvm.Cond.initialized "IslandHeapModel") ∈ lw_all := lw_g (lw_at lw_m1 6 rfl) rfl
theorem q362 : (Jvm.Cond.selects "IslandHeapModel" ({ cls := "java/lang/Object", name := "getClass", desc := "()Ljava/lang/Class;" } : Jvm.MethodName) ({ cls := "java/lang/Object", name := "getClass", desc := "()Ljava/lang/Class;" } : Jvm.MethodName)) ∈ lw_all := lw_g (lw_at lw_m2 61 rfl) rfl
theorem q1038 : (Jvm.Cond.instantiable "IslandHeapModel" (18 : Nat)) ∈ lw_all := lw_g (lw_at lw_m5 17 rfl) rfl
theorem q1040 : (Jvm.Cond.instanceMethod ({ cls := "IslandHeapModel", name := "<init>", desc := "()V" } : Jvm.MethodName)) ∈ lw_all := lw_g (lw_at lw_m5 19 rfl) rfl
theorem q1041 : (Jvm.Cond.code ({ cls := "IslandHeapModel", name := "<init>", desc := "()V" } : Jvm.MethodName) prog_26_method_1_code (1 : Nat) (Option.none : Option Jvm.ClassFile.FieldType)) ∈ lw_all := lw_g (lw_at lw_m5 20 rfl) rfl
theorem q1042 : (Jvm.Cond.methodLink "IslandHeapModel" (1 : Nat) ({ cls := "java/lang/Object", name := "<init>", desc := "()V" } : Jvm.MethodName)) ∈ lw_all := lw_g (lw_at lw_m5 21 rfl) rfl
theorem q1043 : (Jvm.Cond.methodLink "IslandHeapModel" (42 : Nat) ({ cls := "IslandHeapModel", name := "begins", desc := "(II)V" } : Jvm.MethodName)) ∈ lw_all := lw_g (lw_at lw_m5 22 rfl) rfl
theorem q1044 : (Jvm.Cond.privateMethod ({ cls := "IslandHeapModel", name := "begins", desc := "(II)V" } : Jvm.MethodName)) ∈ lw_tbl := lw_at lw_m5 23 rfl
theorem q1045 : (Jvm.Cond.instanceMethod ({ cls := "IslandHeapModel", name := "begins", desc := "(II)V" } : Jvm.MethodName)) ∈ lw_all := lw_g (lw_at lw_m5 24 rfl) rfl
theorem q1046 : (Jvm.Cond.code ({ cls := "IslandHeapModel", name := "begins", desc := "(II)V" } : Jvm.MethodName) prog_26_method_3_code (4 : Nat) (Option.none : Option Jvm.ClassFile.FieldType)) ∈ lw_all := lw_g (lw_at lw_m5 25 rfl) rfl
theorem q1047 : (Jvm.Cond.fieldLink "IslandHeapModel" (7 : Nat) "IslandHeapModel" "m" "[I") ∈ lw_all := lw_g (lw_at lw_m5 26 rfl) rfl
theorem q1048 : (Jvm.Cond.fieldLink "IslandHeapModel" (13 : Nat) "IslandHeapModel" "old" "[I") ∈ lw_all := lw_g (lw_at lw_m5 27 rfl) rfl
theorem q1049 : (Jvm.Cond.fieldLink "IslandHeapModel" (16 : Nat) "IslandHeapModel" "saved" "[I") ∈ lw_all := lw_g (lw_at lw_m5 28 rfl) rfl
theorem q1050 : (Jvm.Cond.fieldLink "IslandHeapModel" (19 : Nat) "IslandHeapModel" "isSaved" "[Z") ∈ lw_all := lw_g (lw_at lw_m5 29 rfl) rfl
theorem q1051 : (Jvm.Cond.fieldLink "IslandHeapModel" (23 : Nat) "IslandHeapModel" "text" "[I") ∈ lw_all := lw_g (lw_at lw_m5 30 rfl) rfl
theorem q1052 : (Jvm.Cond.fieldLink "IslandHeapModel" (126 : Nat) "IslandHeapModel" "textLength" "I") ∈ lw_all := lw_g (lw_at lw_m5 31 rfl) rfl
theorem q1053 : (Jvm.Cond.fieldLink "IslandHeapModel" (26 : Nat) "IslandHeapModel" "refused" "I") ∈ lw_all := lw_g (lw_at lw_m5 32 rfl) rfl
theorem q1054 : (Jvm.Cond.fieldLink "IslandHeapModel" (30 : Nat) "IslandHeapModel" "far" "[I") ∈ lw_all := lw_g (lw_at lw_m5 33 rfl) rfl
theorem q1055 : (Jvm.Cond.fieldLink "IslandHeapModel" (33 : Nat) "IslandHeapModel" "marked" "[Z") ∈ lw_all := lw_g (lw_at lw_m5 34 rfl) rfl
theorem q1056 : (Jvm.Cond.fieldLink "IslandHeapModel" (36 : Nat) "IslandHeapModel" "stack" "[I") ∈ lw_all := lw_g (lw_at lw_m5 35 rfl) rfl
theorem q1057 : (Jvm.Cond.fieldLink "IslandHeapModel" (91 : Nat) "IslandHeapModel" "top" "I") ∈ lw_all := lw_g (lw_at lw_m5 36 rfl) rfl
theorem q1058 : (Jvm.Cond.fieldLink "IslandHeapModel" (98 : Nat) "IslandHeapModel" "highest" "I") ∈ lw_all := lw_g (lw_at lw_m5 37 rfl) rfl
theorem q1059 : (Jvm.Cond.fieldLink "IslandHeapModel" (94 : Nat) "IslandHeapModel" "overflowed" "Z") ∈ lw_all := lw_g (lw_at lw_m5 38 rfl) rfl
theorem q1060 : (Jvm.Cond.fieldLink "IslandHeapModel" (39 : Nat) "IslandHeapModel" "command" "[I") ∈ lw_all := lw_g (lw_at lw_m5 39 rfl) rfl
theorem q1061 : (Jvm.Cond.fieldLink "IslandHeapModel" (151 : Nat) "IslandHeapModel" "commands" "I") ∈ lw_all := lw_g (lw_at lw_m5 40 rfl) rfl
theorem q1062 : (Jvm.Cond.fieldLink "IslandHeapModel" (129 : Nat) "IslandHeapModel" "at" "I") ∈ lw_all := lw_g (lw_at lw_m5 41 rfl) rfl
theorem q1063 : (Jvm.Cond.fieldLink "IslandHeapModel" (135 : Nat) "IslandHeapModel" "fault" "I") ∈ lw_all := lw_g (lw_at lw_m5 42 rfl) rfl
theorem q1064 : (Jvm.Cond.fieldLink "IslandHeapModel" (190 : Nat) "IslandHeapModel" "hash" "J") ∈ lw_all := lw_g (lw_at lw_m5 43 rfl) rfl
theorem q1065 : (Jvm.Cond.laysFinal "IslandHeapModel" "IslandHeapModel" "m" "[I") ∈ lw_all := lw_g (lw_at lw_m5 44 rfl) rfl
theorem q1066 : (Jvm.Cond.soleField "IslandHeapModel" "m") ∈ lw_all := lw_g (lw_at lw_m5 45 rfl) rfl
theorem q1067 : (Jvm.Cond.laysFinal "IslandHeapModel" "IslandHeapModel" "old" "[I") ∈ lw_all := lw_g (lw_at lw_m5 46 rfl) rfl
theorem q1068 : (Jvm.Cond.soleField "IslandHeapModel" "old") ∈ lw_all := lw_g (lw_at lw_m5 47 rfl) rfl
theorem q1069 : (Jvm.Cond.laysFinal "IslandHeapModel" "IslandHeapModel" "saved" "[I") ∈ lw_all := lw_g (lw_at lw_m5 48 rfl) rfl
theorem q1070 : (Jvm.Cond.soleField "IslandHeapModel" "saved") ∈ lw_all := lw_g (lw_at lw_m5 49 rfl) rfl
theorem q1071 : (Jvm.Cond.laysFinal "IslandHeapModel" "IslandHeapModel" "isSaved" "[Z") ∈ lw_all := lw_g (lw_at lw_m5 50 rfl) rfl
theorem q1072 : (Jvm.Cond.soleField "IslandHeapModel" "isSaved") ∈ lw_all := lw_g (lw_at lw_m5 51 rfl) rfl
theorem q1073 : (Jvm.Cond.laysFinal "IslandHeapModel" "IslandHeapModel" "text" "[I") ∈ lw_all := lw_g (lw_at lw_m5 52 rfl) rfl
theorem q1074 : (Jvm.Cond.soleField "IslandHeapModel" "text") ∈ lw_all := lw_g (lw_at lw_m5 53 rfl) rfl
theorem q1075 : (Jvm.Cond.lays "IslandHeapModel" "IslandHeapModel" "textLength" "I") ∈ lw_all := lw_g (lw_at lw_m5 54 rfl) rfl
theorem q1076 : (Jvm.Cond.soleField "IslandHeapModel" "textLength") ∈ lw_all := lw_g (lw_at lw_m5 55 rfl) rfl
theorem q1077 : (Jvm.Cond.lays "IslandHeapModel" "IslandHeapModel" "refused" "I") ∈ lw_all := lw_g (lw_at lw_m5 56 rfl) rfl
theorem q1078 : (Jvm.Cond.soleField "IslandHeapModel" "refused") ∈ lw_all := lw_g (lw_at lw_m5 57 rfl) rfl
theorem q1079 : (Jvm.Cond.laysFinal "IslandHeapModel" "IslandHeapModel" "far" "[I") ∈ lw_all := lw_g (lw_at lw_m5 58 rfl) rfl
theorem q1080 : (Jvm.Cond.soleField "IslandHeapModel" "far") ∈ lw_all := lw_g (lw_at lw_m5 59 rfl) rfl
theorem q1081 : (Jvm.Cond.laysFinal "IslandHeapModel" "IslandHeapModel" "marked" "[Z") ∈ lw_all := lw_g (lw_at lw_m5 60 rfl) rfl
theorem q1082 : (Jvm.Cond.soleField "IslandHeapModel" "marked") ∈ lw_all := lw_g (lw_at lw_m5 61 rfl) rfl
theorem q1083 : (Jvm.Cond.laysFinal "IslandHeapModel" "IslandHeapModel" "stack" "[I") ∈ lw_all := lw_g (lw_at lw_m5 62 rfl) rfl
theorem q1084 : (Jvm.Cond.soleField "IslandHeapModel" "stack") ∈ lw_all := lw_g (lw_at lw_m5 63 rfl) rfl
theorem q1085 : (Jvm.Cond.lays "IslandHeapModel" "IslandHeapModel" "top" "I") ∈ lw_all := lw_g (lw_at lw_m5 64 rfl) rfl
theorem q1086 : (Jvm.Cond.soleField "IslandHeapModel" "top") ∈ lw_all := lw_g (lw_at lw_m5 65 rfl) rfl
theorem q1087 : (Jvm.Cond.lays "IslandHeapModel" "IslandHeapModel" "highest" "I") ∈ lw_all := lw_g (lw_at lw_m5 66 rfl) rfl
theorem q1088 : (Jvm.Cond.soleField "IslandHeapModel" "highest") ∈ lw_all := lw_g (lw_at lw_m5 67 rfl) rfl
theorem q1089 : (Jvm.Cond.lays "IslandHeapModel" "IslandHeapModel" "overflowed" "Z") ∈ lw_all := lw_g (lw_at lw_m5 68 rfl) rfl
theorem q1090 : (Jvm.Cond.soleField "IslandHeapModel" "overflowed") ∈ lw_all := lw_g (lw_at lw_m5 69 rfl) rfl
theorem q1091 : (Jvm.Cond.laysFinal "IslandHeapModel" "IslandHeapModel" "command" "[I") ∈ lw_all := lw_g (lw_at lw_m5 70 rfl) rfl
theorem q1092 : (Jvm.Cond.soleField "IslandHeapModel" "command") ∈ lw_all := lw_g (lw_at lw_m5 71 rfl) rfl
theorem q1093 : (Jvm.Cond.lays "IslandHeapModel" "IslandHeapModel" "commands" "I") ∈ lw_all := lw_g (lw_at lw_m5 72 rfl) rfl
theorem q1094 : (Jvm.Cond.soleField "IslandHeapModel" "commands") ∈ lw_all := lw_g (lw_at lw_m5 73 rfl) rfl
theorem q1095 : (Jvm.Cond.lays "IslandHeapModel" "IslandHeapModel" "at" "I") ∈ lw_all := lw_g (lw_at lw_m5 74 rfl) rfl
theorem q1096 : (Jvm.Cond.soleField "IslandHeapModel" "at") ∈ lw_all := lw_g (lw_at lw_m5 75 rfl) rfl
theorem q1097 : (Jvm.Cond.lays "IslandHeapModel" "IslandHeapModel" "fault" "I") ∈ lw_all := lw_g (lw_at lw_m5 76 rfl) rfl
theorem q1098 : (Jvm.Cond.soleField "IslandHeapModel" "fault") ∈ lw_all := lw_g (lw_at lw_m5 77 rfl) rfl
theorem q1099 : (Jvm.Cond.lays "IslandHeapModel" "IslandHeapModel" "hash" "J") ∈ lw_all := lw_g (lw_at lw_m5 78 rfl) rfl
theorem q1100 : (Jvm.Cond.soleField "IslandHeapModel" "hash") ∈ lw_all := lw_g (lw_at lw_m5 79 rfl) rfl
theorem q1101 : (Jvm.Cond.superclass "IslandHeapModel" "java/lang/Object") ∈ lw_all := lw_g (lw_at lw_m5 80 rfl) rfl
theorem q1104 : (Jvm.Cond.instanceMethod ({ cls := "IslandHeapModel", name := "reset", desc := "(II)I" } : Jvm.MethodName)) ∈ lw_all := lw_g (lw_at lw_m5 83 rfl) rfl
theorem q1105 : (Jvm.Cond.selects "IslandHeapModel" ({ cls := "IslandHeapModel", name := "reset", desc := "(II)I" } : Jvm.MethodName) ({ cls := "IslandHeapModel", name := "reset", desc := "(II)I" } : Jvm.MethodName)) ∈ lw_all := lw_g (lw_at lw_m5 84 rfl) rfl
theorem q1106 : (Jvm.Cond.code ({ cls := "IslandHeapModel", name := "reset", desc := "(II)I" } : Jvm.MethodName) prog_26_method_4_code (3 : Nat) (Option.some Jvm.ClassFile.FieldType.int)) ∈ lw_all := lw_g (lw_at lw_m5 85 rfl) rfl
theorem q1107 : (Jvm.Cond.methodLink "IslandHeapModel" (46 : Nat) ({ cls := "IslandHeapModel", name := "in", desc := "(III)Z" } : Jvm.MethodName)) ∈ lw_all := lw_g (lw_at lw_m5 86 rfl) rfl
theorem q1108 : (Jvm.Cond.static ({ cls := "IslandHeapModel", name := "in", desc := "(III)Z" } : Jvm.MethodName)) ∈ lw_all := lw_g (lw_at lw_m5 87 rfl) rfl
theorem q1109 : (Jvm.Cond.code ({ cls := "IslandHeapModel", name := "in", desc := "(III)Z" } : Jvm.MethodName) prog_26_method_2_code (3 : Nat) (Option.some Jvm.ClassFile.FieldType.boolean)) ∈ lw_all := lw_g (lw_at lw_m5 88 rfl) rfl
theorem q1110 : (Jvm.Cond.constant "IslandHeapModel" (50 : Nat) (-1000002 : Int32)) ∈ lw_all := lw_g (lw_at lw_m5 89 rfl) rfl
theorem q1112 : (Jvm.Cond.instanceMethod ({ cls := "IslandHeapModel", name := "alloc", desc := "(II)I" } : Jvm.MethodName)) ∈ lw_all := lw_g (lw_at lw_m5 91 rfl) rfl
theorem q1113 : (Jvm.Cond.selects "IslandHeapModel" ({ cls := "IslandHeapModel", name := "alloc", desc := "(II)I" } : Jvm.MethodName) ({ cls := "IslandHeapModel", name := "alloc", desc := "(II)I" } : Jvm.MethodName)) ∈ lw_all := lw_g (lw_at lw_m5 92 rfl) rfl
theorem q1114 : (Jvm.Cond.code ({ cls := "IslandHeapModel", name := "alloc", desc := "(II)I" } : Jvm.MethodName) prog_26_method_8_code (6 : Nat) (Option.some Jvm.ClassFile.FieldType.int)) ∈ lw_all := lw_g (lw_at lw_m5 93 rfl) rfl
theorem q1115 : (Jvm.Cond.methodLink "IslandHeapModel" (55 : Nat) ({ cls := "IslandHeapModel", name := "lays", desc := "(III)V" } : Jvm.MethodName)) ∈ lw_all := lw_g (lw_at lw_m5 94 rfl) rfl
theorem q1116 : (Jvm.Cond.privateMethod ({ cls := "IslandHeapModel", name := "lays", desc := "(III)V" } : Jvm.MethodName)) ∈ lw_tbl := lw_at lw_m5 95 rfl
theorem q1117 : (Jvm.Cond.instanceMethod ({ cls := "IslandHeapModel", name := "lays", desc := "(III)V" } : Jvm.MethodName)) ∈ lw_all := lw_g (lw_at lw_m5 96 rfl) rfl
theorem q1118 : (Jvm.Cond.code ({ cls := "IslandHeapModel", name := "lays", desc := "(III)V" } : Jvm.MethodName) prog_26_method_9_code (5 : Nat) (Option.none : Option Jvm.ClassFile.FieldType)) ∈ lw_all := lw_g (lw_at lw_m5 97 rfl) rfl
theorem q1119 : (Jvm.Cond.constant "IslandHeapModel" (59 : Nat) (-1000004 : Int32)) ∈ lw_all := lw_g (lw_at lw_m5 98 rfl) rfl
theorem q1121 : (Jvm.Cond.instanceMethod ({ cls := "IslandHeapModel", name := "object", desc := "(II)I" } : Jvm.MethodName)) ∈ lw_all := lw_g (lw_at lw_m5 100 rfl) rfl
theorem q1122 : (Jvm.Cond.selects "IslandHeapModel" ({ cls := "IslandHeapModel", name := "object", desc := "(II)I" } : Jvm.MethodName) ({ cls := "IslandHeapModel", name := "object", desc := "(II)I" } : Jvm.MethodName)) ∈ lw_all := lw_g (lw_at lw_m5 101 rfl) rfl
theorem q1123 : (Jvm.Cond.code ({ cls := "IslandHeapModel", name := "object", desc := "(II)I" } : Jvm.MethodName) prog_26_method_14_code (4 : Nat) (Option.some Jvm.ClassFile.FieldType.int)) ∈ lw_all := lw_g (lw_at lw_m5 102 rfl) rfl
theorem q1124 : (Jvm.Cond.methodLink "IslandHeapModel" (51 : Nat) ({ cls := "IslandHeapModel", name := "objectOf", desc := "(I)I" } : Jvm.MethodName)) ∈ lw_all := lw_g (lw_at lw_m5 103 rfl) rfl
theorem q1125 : (Jvm.Cond.privateMethod ({ cls := "IslandHeapModel", name := "objectOf", desc := "(I)I" } : Jvm.MethodName)) ∈ lw_tbl := lw_at lw_m5 104 rfl
theorem q1126 : (Jvm.Cond.instanceMethod ({ cls := "IslandHeapModel", name := "objectOf", desc := "(I)I" } : Jvm.MethodName)) ∈ lw_all := lw_g (lw_at lw_m5 105 rfl) rfl
theorem q1127 : (Jvm.Cond.code ({ cls := "IslandHeapModel", name := "objectOf", desc := "(I)I" } : Jvm.MethodName) prog_26_method_5_code (3 : Nat) (Option.some Jvm.ClassFile.FieldType.int)) ∈ lw_all := lw_g (lw_at lw_m5 106 rfl) rfl
theorem q1128 : (Jvm.Cond.methodLink "IslandHeapModel" (63 : Nat) ({ cls := "IslandHeapModel", name := "dataOf", desc := "(I)I" } : Jvm.MethodName)) ∈ lw_all := lw_g (lw_at lw_m5 107 rfl) rfl
theorem q1129 : (Jvm.Cond.privateMethod ({ cls := "IslandHeapModel", name := "dataOf", desc := "(I)I" } : Jvm.MethodName)) ∈ lw_tbl := lw_at lw_m5 108 rfl
theorem q1130 : (Jvm.Cond.instanceMethod ({ cls := "IslandHeapModel", name := "dataOf", desc := "(I)I" } : Jvm.MethodName)) ∈ lw_all := lw_g (lw_at lw_m5 109 rfl) rfl
theorem q1131 : (Jvm.Cond.code ({ cls := "IslandHeapModel", name := "dataOf", desc := "(I)I" } : Jvm.MethodName) prog_26_method_7_code (2 : Nat) (Option.some Jvm.ClassFile.FieldType.int)) ∈ lw_all := lw_g (lw_at lw_m5 110 rfl) rfl
theorem q1132 : (Jvm.Cond.methodLink "IslandHeapModel" (66 : Nat) ({ cls := "IslandHeapModel", name := "referring", desc := "(I)I" } : Jvm.MethodName)) ∈ lw_all := lw_g (lw_at lw_m5 111 rfl) rfl
theorem q1133 : (Jvm.Cond.privateMethod ({ cls := "IslandHeapModel", name := "referring", desc := "(I)I" } : Jvm.MethodName)) ∈ lw_tbl := lw_at lw_m5 112 rfl
theorem q1134 : (Jvm.Cond.instanceMethod ({ cls := "IslandHeapModel", name := "referring", desc := "(I)I" } : Jvm.MethodName)) ∈ lw_all := lw_g (lw_at lw_m5 113 rfl) rfl
theorem q1135 : (Jvm.Cond.code ({ cls := "IslandHeapModel", name := "referring", desc := "(I)I" } : Jvm.MethodName) prog_26_method_10_code (5 : Nat) (Option.some Jvm.ClassFile.FieldType.int)) ∈ lw_all := lw_g (lw_at lw_m5 114 rfl) rfl
theorem q1136 : (Jvm.Cond.methodLink "IslandHeapModel" (69 : Nat) ({ cls := "IslandHeapModel", name := "reaches", desc := "(I)V" } : Jvm.MethodName)) ∈ lw_all := lw_g (lw_at lw_m5 115 rfl) rfl
theorem q1137 : (Jvm.Cond.privateMethod ({ cls := "IslandHeapModel", name := "reaches", desc := "(I)V" } : Jvm.MethodName)) ∈ lw_tbl := lw_at lw_m5 116 rfl
theorem q1138 : (Jvm.Cond.instanceMethod ({ cls := "IslandHeapModel", name := "reaches", desc := "(I)V" } : Jvm.MethodName)) ∈ lw_all := lw_g (lw_at lw_m5 117 rfl) rfl
theorem q1139 : (Jvm.Cond.code ({ cls := "IslandHeapModel", name := "reaches", desc := "(I)V" } : Jvm.MethodName) prog_26_method_12_code (7 : Nat) (Option.none : Option Jvm.ClassFile.FieldType)) ∈ lw_all := lw_g (lw_at lw_m5 118 rfl) rfl
theorem q1140 : (Jvm.Cond.methodLink "IslandHeapModel" (60 : Nat) ({ cls := "IslandHeapModel", name := "starts", desc := "(II)V" } : Jvm.MethodName)) ∈ lw_all := lw_g (lw_at lw_m5 119 rfl) rfl
theorem q1141 : (Jvm.Cond.privateMethod ({ cls := "IslandHeapModel", name := "starts", desc := "(II)V" } : Jvm.MethodName)) ∈ lw_tbl := lw_at lw_m5 120 rfl
theorem q1142 : (Jvm.Cond.instanceMethod ({ cls := "IslandHeapModel", name := "starts", desc := "(II)V" } : Jvm.MethodName)) ∈ lw_all := lw_g (lw_at lw_m5 121 rfl) rfl
theorem q1143 : (Jvm.Cond.code ({ cls := "IslandHeapModel", name := "starts", desc := "(II)V" } : Jvm.MethodName) prog_26_method_11_code (4 : Nat) (Option.none : Option Jvm.ClassFile.FieldType)) ∈ lw_all := lw_g (lw_at lw_m5 122 rfl) rfl
theorem q1145 : (Jvm.Cond.instanceMethod ({ cls := "IslandHeapModel", name := "next", desc := "(I)I" } : Jvm.MethodName)) ∈ lw_all := lw_g (lw_at lw_m5 124 rfl) rfl
theorem q1146 : (Jvm.Cond.selects "IslandHeapModel" ({ cls := "IslandHeapModel", name := "next", desc := "(I)I" } : Jvm.MethodName) ({ cls := "IslandHeapModel", name := "next", desc := "(I)I" } : Jvm.MethodName)) ∈ lw_all := lw_g (lw_at lw_m5 125 rfl) rfl
theorem q1147 : (Jvm.Cond.code ({ cls := "IslandHeapModel", name := "next", desc := "(I)I" } : Jvm.MethodName) prog_26_method_16_code (3 : Nat) (Option.some Jvm.ClassFile.FieldType.int)) ∈ lw_all := lw_g (lw_at lw_m5 126 rfl) rfl
theorem q1148 : (Jvm.Cond.methodLink "IslandHeapModel" (73 : Nat) ({ cls := "IslandHeapModel", name := "objectFrom", desc := "(I)I" } : Jvm.MethodName)) ∈ lw_all := lw_g (lw_at lw_m5 127 rfl) rfl
theorem q1149 : (Jvm.Cond.privateMethod ({ cls := "IslandHeapModel", name := "objectFrom", desc := "(I)I" } : Jvm.MethodName)) ∈ lw_tbl := lw_at lw_m5 128 rfl
theorem q1150 : (Jvm.Cond.instanceMethod ({ cls := "IslandHeapModel", name := "objectFrom", desc := "(I)I" } : Jvm.MethodName)) ∈ lw_all := lw_g (lw_at lw_m5 129 rfl) rfl
theorem q1151 : (Jvm.Cond.code ({ cls := "IslandHeapModel", name := "objectFrom", desc := "(I)I" } : Jvm.MethodName) prog_26_method_15_code (3 : Nat) (Option.some Jvm.ClassFile.FieldType.int)) ∈ lw_all := lw_g (lw_at lw_m5 130 rfl) rfl
theorem q1153 : (Jvm.Cond.instanceMethod ({ cls := "IslandHeapModel", name := "setField", desc := "(III)I" } : Jvm.MethodName)) ∈ lw_all := lw_g (lw_at lw_m5 132 rfl) rfl
theorem q1154 : (Jvm.Cond.selects "IslandHeapModel" ({ cls := "IslandHeapModel", name := "setField", desc := "(III)I" } : Jvm.MethodName) ({ cls := "IslandHeapModel", name := "setField", desc := "(III)I" } : Jvm.MethodName)) ∈ lw_all := lw_g (lw_at lw_m5 133 rfl) rfl
theorem q1155 : (Jvm.Cond.code ({ cls := "IslandHeapModel", name := "setField", desc := "(III)I" } : Jvm.MethodName) prog_26_method_17_code (6 : Nat) (Option.some Jvm.ClassFile.FieldType.int)) ∈ lw_all := lw_g (lw_at lw_m5 134 rfl) rfl
theorem q1156 : (Jvm.Cond.methodLink "IslandHeapModel" (76 : Nat) ({ cls := "IslandHeapModel", name := "isReference", desc := "(I)Z" } : Jvm.MethodName)) ∈ lw_all := lw_g (lw_at lw_m5 135 rfl) rfl
theorem q1157 : (Jvm.Cond.privateMethod ({ cls := "IslandHeapModel", name := "isReference", desc := "(I)Z" } : Jvm.MethodName)) ∈ lw_tbl := lw_at lw_m5 136 rfl
theorem q1158 : (Jvm.Cond.instanceMethod ({ cls := "IslandHeapModel", name := "isReference", desc := "(I)Z" } : Jvm.MethodName)) ∈ lw_all := lw_g (lw_at lw_m5 137 rfl) rfl
theorem q1159 : (Jvm.Cond.code ({ cls := "IslandHeapModel", name := "isReference", desc := "(I)Z" } : Jvm.MethodName) prog_26_method_6_code (2 : Nat) (Option.some Jvm.ClassFile.FieldType.boolean)) ∈ lw_all := lw_g (lw_at lw_m5 138 rfl) rfl
theorem q1161 : (Jvm.Cond.instanceMethod ({ cls := "IslandHeapModel", name := "field", desc := "(II)I" } : Jvm.MethodName)) ∈ lw_all := lw_g (lw_at lw_m5 140 rfl) rfl
theorem q1162 : (Jvm.Cond.selects "IslandHeapModel" ({ cls := "IslandHeapModel", name := "field", desc := "(II)I" } : Jvm.MethodName) ({ cls := "IslandHeapModel", name := "field", desc := "(II)I" } : Jvm.MethodName)) ∈ lw_all := lw_g (lw_at lw_m5 141 rfl) rfl
theorem q1163 : (Jvm.Cond.code ({ cls := "IslandHeapModel", name := "field", desc := "(II)I" } : Jvm.MethodName) prog_26_method_18_code (4 : Nat) (Option.some Jvm.ClassFile.FieldType.int)) ∈ lw_all := lw_g (lw_at lw_m5 142 rfl) rfl
theorem q1165 : (Jvm.Cond.instanceMethod ({ cls := "IslandHeapModel", name := "setData", desc := "(III)I" } : Jvm.MethodName)) ∈ lw_all := lw_g (lw_at lw_m5 144 rfl) rfl
theorem q1166 : (Jvm.Cond.selects "IslandHeapModel" ({ cls := "IslandHeapModel", name := "setData", desc := "(III)I" } : Jvm.MethodName) ({ cls := "IslandHeapModel", name := "setData", desc := "(III)I" } : Jvm.MethodName)) ∈ lw_all := lw_g (lw_at lw_m5 145 rfl) rfl
theorem q1167 : (Jvm.Cond.code ({ cls := "IslandHeapModel", name := "setData", desc := "(III)I" } : Jvm.MethodName) prog_26_method_19_code (7 : Nat) (Option.some Jvm.ClassFile.FieldType.int)) ∈ lw_all := lw_g (lw_at lw_m5 146 rfl) rfl
theorem q1168 : (Jvm.Cond.constant "IslandHeapModel" (80 : Nat) (-1000000 : Int32)) ∈ lw_all := lw_g (lw_at lw_m5 147 rfl) rfl
theorem q1169 : (Jvm.Cond.constant "IslandHeapModel" (81 : Nat) (1000000 : Int32)) ∈ lw_all := lw_g (lw_at lw_m5 148 rfl) rfl
theorem q1171 : (Jvm.Cond.instanceMethod ({ cls := "IslandHeapModel", name := "data", desc := "(II)I" } : Jvm.MethodName)) ∈ lw_all := lw_g (lw_at lw_m5 150 rfl) rfl
theorem q1172 : (Jvm.Cond.selects "IslandHeapModel" ({ cls := "IslandHeapModel", name := "data", desc := "(II)I" } : Jvm.MethodName) ({ cls := "IslandHeapModel", name := "data", desc := "(II)I" } : Jvm.MethodName)) ∈ lw_all := lw_g (lw_at lw_m5 151 rfl) rfl
theorem q1173 : (Jvm.Cond.code ({ cls := "IslandHeapModel", name := "data", desc := "(II)I" } : Jvm.MethodName) prog_26_method_20_code (4 : Nat) (Option.some Jvm.ClassFile.FieldType.int)) ∈ lw_all := lw_g (lw_at lw_m5 152 rfl) rfl
theorem q1175 : (Jvm.Cond.instanceMethod ({ cls := "IslandHeapModel", name := "pin", desc := "(IZ)I" } : Jvm.MethodName)) ∈ lw_all := lw_g (lw_at lw_m5 154 rfl) rfl
theorem q1176 : (Jvm.Cond.selects "IslandHeapModel" ({ cls := "IslandHeapModel", name := "pin", desc := "(IZ)I" } : Jvm.MethodName) ({ cls := "IslandHeapModel", name := "pin", desc := "(IZ)I" } : Jvm.MethodName)) ∈ lw_all := lw_g (lw_at lw_m5 155 rfl) rfl
theorem q1177 : (Jvm.Cond.code ({ cls := "IslandHeapModel", name := "pin", desc := "(IZ)I" } : Jvm.MethodName) prog_26_method_22_code (4 : Nat) (Option.some Jvm.ClassFile.FieldType.int)) ∈ lw_all := lw_g (lw_at lw_m5 156 rfl) rfl
theorem q1178 : (Jvm.Cond.constant "IslandHeapModel" (82 : Nat) (-1000003 : Int32)) ∈ lw_all := lw_g (lw_at lw_m5 157 rfl) rfl
theorem q1179 : (Jvm.Cond.methodLink "IslandHeapModel" (83 : Nat) ({ cls := "IslandHeapModel", name := "many", desc := "(Z)I" } : Jvm.MethodName)) ∈ lw_all := lw_g (lw_at lw_m5 158 rfl) rfl
theorem q1180 : (Jvm.Cond.privateMethod ({ cls := "IslandHeapModel", name := "many", desc := "(Z)I" } : Jvm.MethodName)) ∈ lw_tbl := lw_at lw_m5 159 rfl
theorem q1181 : (Jvm.Cond.instanceMethod ({ cls := "IslandHeapModel", name := "many", desc := "(Z)I" } : Jvm.MethodName)) ∈ lw_all := lw_g (lw_at lw_m5 160 rfl) rfl
theorem q1182 : (Jvm.Cond.code ({ cls := "IslandHeapModel", name := "many", desc := "(Z)I" } : Jvm.MethodName) prog_26_method_21_code (4 : Nat) (Option.some Jvm.ClassFile.FieldType.int)) ∈ lw_all := lw_g (lw_at lw_m5 161 rfl) rfl
theorem q1184 : (Jvm.Cond.instanceMethod ({ cls := "IslandHeapModel", name := "setRoot", desc := "(II)I" } : Jvm.MethodName)) ∈ lw_all := lw_g (lw_at lw_m5 163 rfl) rfl
theorem q1185 : (Jvm.Cond.selects "IslandHeapModel" ({ cls := "IslandHeapModel", name := "setRoot", desc := "(II)I" } : Jvm.MethodName) ({ cls := "IslandHeapModel", name := "setRoot", desc := "(II)I" } : Jvm.MethodName)) ∈ lw_all := lw_g (lw_at lw_m5 164 rfl) rfl
theorem q1186 : (Jvm.Cond.code ({ cls := "IslandHeapModel", name := "setRoot", desc := "(II)I" } : Jvm.MethodName) prog_26_method_24_code (3 : Nat) (Option.some Jvm.ClassFile.FieldType.int)) ∈ lw_all := lw_g (lw_at lw_m5 165 rfl) rfl
theorem q1187 : (Jvm.Cond.methodLink "IslandHeapModel" (87 : Nat) ({ cls := "IslandHeapModel", name := "setsSlot", desc := "(II)I" } : Jvm.MethodName)) ∈ lw_all := lw_g (lw_at lw_m5 166 rfl) rfl
theorem q1188 : (Jvm.Cond.privateMethod ({ cls := "IslandHeapModel", name := "setsSlot", desc := "(II)I" } : Jvm.MethodName)) ∈ lw_tbl := lw_at lw_m5 167 rfl
theorem q1189 : (Jvm.Cond.instanceMethod ({ cls := "IslandHeapModel", name := "setsSlot", desc := "(II)I" } : Jvm.MethodName)) ∈ lw_all := lw_g (lw_at lw_m5 168 rfl) rfl
theorem q1190 : (Jvm.Cond.code ({ cls := "IslandHeapModel", name := "setsSlot", desc := "(II)I" } : Jvm.MethodName) prog_26_method_23_code (4 : Nat) (Option.some Jvm.ClassFile.FieldType.int)) ∈ lw_all := lw_g (lw_at lw_m5 169 rfl) rfl
theorem q1192 : (Jvm.Cond.instanceMethod ({ cls := "IslandHeapModel", name := "root", desc := "(I)I" } : Jvm.MethodName)) ∈ lw_all := lw_g (lw_at lw_m5 171 rfl) rfl
theorem q1193 : (Jvm.Cond.selects "IslandHeapModel" ({ cls := "IslandHeapModel", name := "root", desc := "(I)I" } : Jvm.MethodName) ({ cls := "IslandHeapModel", name := "root", desc := "(I)I" } : Jvm.MethodName)) ∈ lw_all := lw_g (lw_at lw_m5 172 rfl) rfl
theorem q1194 : (Jvm.Cond.code ({ cls := "IslandHeapModel", name := "root", desc := "(I)I" } : Jvm.MethodName) prog_26_method_25_code (2 : Nat) (Option.some Jvm.ClassFile.FieldType.int)) ∈ lw_all := lw_g (lw_at lw_m5 173 rfl) rfl
theorem q1196 : (Jvm.Cond.instanceMethod ({ cls := "IslandHeapModel", name := "setWeak", desc := "(II)I" } : Jvm.MethodName)) ∈ lw_all := lw_g (lw_at lw_m5 175 rfl) rfl
theorem q1197 : (Jvm.Cond.selects "IslandHeapModel" ({ cls := "IslandHeapModel", name := "setWeak", desc := "(II)I" } : Jvm.MethodName) ({ cls := "IslandHeapModel", name := "setWeak", desc := "(II)I" } : Jvm.MethodName)) ∈ lw_all := lw_g (lw_at lw_m5 176 rfl) rfl
theorem q1198 : (Jvm.Cond.code ({ cls := "IslandHeapModel", name := "setWeak", desc := "(II)I" } : Jvm.MethodName) prog_26_method_26_code (3 : Nat) (Option.some Jvm.ClassFile.FieldType.int)) ∈ lw_all := lw_g (lw_at lw_m5 177 rfl) rfl
theorem q1200 : (Jvm.Cond.instanceMethod ({ cls := "IslandHeapModel", name := "weak", desc := "(I)I" } : Jvm.MethodName)) ∈ lw_all := lw_g (lw_at lw_m5 179 rfl) rfl
theorem q1201 : (Jvm.Cond.selects "IslandHeapModel" ({ cls := "IslandHeapModel", name := "weak", desc := "(I)I" } : Jvm.MethodName) ({ cls := "IslandHeapModel", name := "weak", desc := "(I)I" } : Jvm.MethodName)) ∈ lw_all := lw_g (lw_at lw_m5 180 rfl) rfl
theorem q1202 : (Jvm.Cond.code ({ cls := "IslandHeapModel", name := "weak", desc := "(I)I" } : Jvm.MethodName) prog_26_method_27_code (2 : Nat) (Option.some Jvm.ClassFile.FieldType.int)) ∈ lw_all := lw_g (lw_at lw_m5 181 rfl) rfl
theorem q1204 : (Jvm.Cond.instanceMethod ({ cls := "IslandHeapModel", name := "collect", desc := "()I" } : Jvm.MethodName)) ∈ lw_all := lw_g (lw_at lw_m5 183 rfl) rfl
theorem q1205 : (Jvm.Cond.selects "IslandHeapModel" ({ cls := "IslandHeapModel", name := "collect", desc := "()I" } : Jvm.MethodName) ({ cls := "IslandHeapModel", name := "collect", desc := "()I" } : Jvm.MethodName)) ∈ lw_all := lw_g (lw_at lw_m5 184 rfl) rfl
theorem q1206 : (Jvm.Cond.code ({ cls := "IslandHeapModel", name := "collect", desc := "()I" } : Jvm.MethodName) prog_26_method_34_code (11 : Nat) (Option.some Jvm.ClassFile.FieldType.int)) ∈ lw_all := lw_g (lw_at lw_m5 185 rfl) rfl
theorem q1207 : (Jvm.Cond.methodLink "IslandHeapModel" (110 : Nat) ({ cls := "IslandHeapModel", name := "occupied", desc := "()I" } : Jvm.MethodName)) ∈ lw_all := lw_g (lw_at lw_m5 186 rfl) rfl
theorem q1208 : (Jvm.Cond.privateMethod ({ cls := "IslandHeapModel", name := "occupied", desc := "()I" } : Jvm.MethodName)) ∈ lw_tbl := lw_at lw_m5 187 rfl
theorem q1209 : (Jvm.Cond.instanceMethod ({ cls := "IslandHeapModel", name := "occupied", desc := "()I" } : Jvm.MethodName)) ∈ lw_all := lw_g (lw_at lw_m5 188 rfl) rfl
theorem q1210 : (Jvm.Cond.code ({ cls := "IslandHeapModel", name := "occupied", desc := "()I" } : Jvm.MethodName) prog_26_method_33_code (3 : Nat) (Option.some Jvm.ClassFile.FieldType.int)) ∈ lw_all := lw_g (lw_at lw_m5 189 rfl) rfl
theorem q1211 : (Jvm.Cond.methodLink "IslandHeapModel" (114 : Nat) ({ cls := "IslandHeapModel", name := "marks", desc := "()I" } : Jvm.MethodName)) ∈ lw_all := lw_g (lw_at lw_m5 190 rfl) rfl
theorem q1212 : (Jvm.Cond.privateMethod ({ cls := "IslandHeapModel", name := "marks", desc := "()I" } : Jvm.MethodName)) ∈ lw_tbl := lw_at lw_m5 191 rfl
theorem q1213 : (Jvm.Cond.instanceMethod ({ cls := "IslandHeapModel", name := "marks", desc := "()I" } : Jvm.MethodName)) ∈ lw_all := lw_g (lw_at lw_m5 192 rfl) rfl
theorem q1214 : (Jvm.Cond.code ({ cls := "IslandHeapModel", name := "marks", desc := "()I" } : Jvm.MethodName) prog_26_method_31_code (2 : Nat) (Option.some Jvm.ClassFile.FieldType.int)) ∈ lw_all := lw_g (lw_at lw_m5 193 rfl) rfl
theorem q1215 : (Jvm.Cond.methodLink "IslandHeapModel" (101 : Nat) ({ cls := "IslandHeapModel", name := "reach", desc := "(I)V" } : Jvm.MethodName)) ∈ lw_all := lw_g (lw_at lw_m5 194 rfl) rfl
theorem q1216 : (Jvm.Cond.privateMethod ({ cls := "IslandHeapModel", name := "reach", desc := "(I)V" } : Jvm.MethodName)) ∈ lw_tbl := lw_at lw_m5 195 rfl
theorem q1217 : (Jvm.Cond.instanceMethod ({ cls := "IslandHeapModel", name := "reach", desc := "(I)V" } : Jvm.MethodName)) ∈ lw_all := lw_g (lw_at lw_m5 196 rfl) rfl
theorem q1218 : (Jvm.Cond.code ({ cls := "IslandHeapModel", name := "reach", desc := "(I)V" } : Jvm.MethodName) prog_26_method_28_code (3 : Nat) (Option.none : Option Jvm.ClassFile.FieldType)) ∈ lw_all := lw_g (lw_at lw_m5 197 rfl) rfl
theorem q1219 : (Jvm.Cond.methodLink "IslandHeapModel" (104 : Nat) ({ cls := "IslandHeapModel", name := "drains", desc := "()V" } : Jvm.MethodName)) ∈ lw_all := lw_g (lw_at lw_m5 198 rfl) rfl
theorem q1220 : (Jvm.Cond.privateMethod ({ cls := "IslandHeapModel", name := "drains", desc := "()V" } : Jvm.MethodName)) ∈ lw_tbl := lw_at lw_m5 199 rfl
theorem q1221 : (Jvm.Cond.instanceMethod ({ cls := "IslandHeapModel", name := "drains", desc := "()V" } : Jvm.MethodName)) ∈ lw_all := lw_g (lw_at lw_m5 200 rfl) rfl
theorem q1222 : (Jvm.Cond.code ({ cls := "IslandHeapModel", name := "drains", desc := "()V" } : Jvm.MethodName) prog_26_method_29_code (3 : Nat) (Option.none : Option Jvm.ClassFile.FieldType)) ∈ lw_all := lw_g (lw_at lw_m5 201 rfl) rfl
theorem q1223 : (Jvm.Cond.methodLink "IslandHeapModel" (107 : Nat) ({ cls := "IslandHeapModel", name := "scans", desc := "()V" } : Jvm.MethodName)) ∈ lw_all := lw_g (lw_at lw_m5 202 rfl) rfl
theorem q1224 : (Jvm.Cond.privateMethod ({ cls := "IslandHeapModel", name := "scans", desc := "()V" } : Jvm.MethodName)) ∈ lw_tbl := lw_at lw_m5 203 rfl
theorem q1225 : (Jvm.Cond.instanceMethod ({ cls := "IslandHeapModel", name := "scans", desc := "()V" } : Jvm.MethodName)) ∈ lw_all := lw_g (lw_at lw_m5 204 rfl) rfl
theorem q1226 : (Jvm.Cond.code ({ cls := "IslandHeapModel", name := "scans", desc := "()V" } : Jvm.MethodName) prog_26_method_30_code (3 : Nat) (Option.none : Option Jvm.ClassFile.FieldType)) ∈ lw_all := lw_g (lw_at lw_m5 205 rfl) rfl
theorem q1227 : (Jvm.Cond.methodLink "IslandHeapModel" (117 : Nat) ({ cls := "IslandHeapModel", name := "rebuilds", desc := "()V" } : Jvm.MethodName)) ∈ lw_all := lw_g (lw_at lw_m5 206 rfl) rfl
theorem q1228 : (Jvm.Cond.privateMethod ({ cls := "IslandHeapModel", name := "rebuilds", desc := "()V" } : Jvm.MethodName)) ∈ lw_tbl := lw_at lw_m5 207 rfl
theorem q1229 : (Jvm.Cond.instanceMethod ({ cls := "IslandHeapModel", name := "rebuilds", desc := "()V" } : Jvm.MethodName)) ∈ lw_all := lw_g (lw_at lw_m5 208 rfl) rfl
theorem q1230 : (Jvm.Cond.code ({ cls := "IslandHeapModel", name := "rebuilds", desc := "()V" } : Jvm.MethodName) prog_26_method_35_code (5 : Nat) (Option.none : Option Jvm.ClassFile.FieldType)) ∈ lw_all := lw_g (lw_at lw_m5 209 rfl) rfl
theorem q1231 : (Jvm.Cond.methodLink "IslandHeapModel" (120 : Nat) ({ cls := "IslandHeapModel", name := "gone", desc := "(I)I" } : Jvm.MethodName)) ∈ lw_all := lw_g (lw_at lw_m5 210 rfl) rfl
theorem q1232 : (Jvm.Cond.privateMethod ({ cls := "IslandHeapModel", name := "gone", desc := "(I)I" } : Jvm.MethodName)) ∈ lw_tbl := lw_at lw_m5 211 rfl
theorem q1233 : (Jvm.Cond.instanceMethod ({ cls := "IslandHeapModel", name := "gone", desc := "(I)I" } : Jvm.MethodName)) ∈ lw_all := lw_g (lw_at lw_m5 212 rfl) rfl
theorem q1234 : (Jvm.Cond.code ({ cls := "IslandHeapModel", name := "gone", desc := "(I)I" } : Jvm.MethodName) prog_26_method_32_code (2 : Nat) (Option.some Jvm.ClassFile.FieldType.int)) ∈ lw_all := lw_g (lw_at lw_m5 213 rfl) rfl
theorem q1236 : (Jvm.Cond.instanceMethod ({ cls := "IslandHeapModel", name := "moved", desc := "(I)I" } : Jvm.MethodName)) ∈ lw_all := lw_g (lw_at lw_m5 215 rfl) rfl
theorem q1237 : (Jvm.Cond.selects "IslandHeapModel" ({ cls := "IslandHeapModel", name := "moved", desc := "(I)I" } : Jvm.MethodName) ({ cls := "IslandHeapModel", name := "moved", desc := "(I)I" } : Jvm.MethodName)) ∈ lw_all := lw_g (lw_at lw_m5 216 rfl) rfl
theorem q1238 : (Jvm.Cond.code ({ cls := "IslandHeapModel", name := "moved", desc := "(I)I" } : Jvm.MethodName) prog_26_method_36_code (2 : Nat) (Option.some Jvm.ClassFile.FieldType.int)) ∈ lw_all := lw_g (lw_at lw_m5 217 rfl) rfl
theorem q1240 : (Jvm.Cond.instanceMethod ({ cls := "IslandHeapModel", name := "report", desc := "(I)I" } : Jvm.MethodName)) ∈ lw_all := lw_g (lw_at lw_m5 219 rfl) rfl
theorem q1241 : (Jvm.Cond.selects "IslandHeapModel" ({ cls := "IslandHeapModel", name := "report", desc := "(I)I" } : Jvm.MethodName) ({ cls := "IslandHeapModel", name := "report", desc := "(I)I" } : Jvm.MethodName)) ∈ lw_all := lw_g (lw_at lw_m5 220 rfl) rfl
theorem q1242 : (Jvm.Cond.code ({ cls := "IslandHeapModel", name := "report", desc := "(I)I" } : Jvm.MethodName) prog_26_method_37_code (2 : Nat) (Option.some Jvm.ClassFile.FieldType.int)) ∈ lw_all := lw_g (lw_at lw_m5 221 rfl) rfl
theorem q1244 : (Jvm.Cond.instanceMethod ({ cls := "IslandHeapModel", name := "garbage", desc := "()I" } : Jvm.MethodName)) ∈ lw_all := lw_g (lw_at lw_m5 223 rfl) rfl
theorem q1245 : (Jvm.Cond.selects "IslandHeapModel" ({ cls := "IslandHeapModel", name := "garbage", desc := "()I" } : Jvm.MethodName) ({ cls := "IslandHeapModel", name := "garbage", desc := "()I" } : Jvm.MethodName)) ∈ lw_all := lw_g (lw_at lw_m5 224 rfl) rfl
theorem q1246 : (Jvm.Cond.code ({ cls := "IslandHeapModel", name := "garbage", desc := "()I" } : Jvm.MethodName) prog_26_method_38_code (1 : Nat) (Option.some Jvm.ClassFile.FieldType.int)) ∈ lw_all := lw_g (lw_at lw_m5 225 rfl) rfl
theorem q1247 : (Jvm.Cond.methodLink "IslandHeapModel" (123 : Nat) ({ cls := "IslandHeapModel", name := "reachedWords", desc := "()I" } : Jvm.MethodName)) ∈ lw_all := lw_g (lw_at lw_m5 226 rfl) rfl
theorem q1248 : (Jvm.Cond.privateMethod ({ cls := "IslandHeapModel", name := "reachedWords", desc := "()I" } : Jvm.MethodName)) ∈ lw_tbl := lw_at lw_m5 227 rfl
theorem q1249 : (Jvm.Cond.instanceMethod ({ cls := "IslandHeapModel", name := "reachedWords", desc := "()I" } : Jvm.MethodName)) ∈ lw_all := lw_g (lw_at lw_m5 228 rfl) rfl
theorem q1250 : (Jvm.Cond.code ({ cls := "IslandHeapModel", name := "reachedWords", desc := "()I" } : Jvm.MethodName) prog_26_method_13_code (3 : Nat) (Option.some Jvm.ClassFile.FieldType.int)) ∈ lw_all := lw_g (lw_at lw_m5 229 rfl) rfl
theorem q1252 : (Jvm.Cond.instanceMethod ({ cls := "IslandHeapModel", name := "distance", desc := "(I)I" } : Jvm.MethodName)) ∈ lw_all := lw_g (lw_at lw_m5 231 rfl) rfl
theorem q1253 : (Jvm.Cond.selects "IslandHeapModel" ({ cls := "IslandHeapModel", name := "distance", desc := "(I)I" } : Jvm.MethodName) ({ cls := "IslandHeapModel", name := "distance", desc := "(I)I" } : Jvm.MethodName)) ∈ lw_all := lw_g (lw_at lw_m5 232 rfl) rfl
theorem q1254 : (Jvm.Cond.code ({ cls := "IslandHeapModel", name := "distance", desc := "(I)I" } : Jvm.MethodName) prog_26_method_39_code (3 : Nat) (Option.some Jvm.ClassFile.FieldType.int)) ∈ lw_all := lw_g (lw_at lw_m5 233 rfl) rfl
theorem q1256 : (Jvm.Cond.instanceMethod ({ cls := "IslandHeapModel", name := "retained", desc := "(I)I" } : Jvm.MethodName)) ∈ lw_all := lw_g (lw_at lw_m5 235 rfl) rfl
theorem q1257 : (Jvm.Cond.selects "IslandHeapModel" ({ cls := "IslandHeapModel", name := "retained", desc := "(I)I" } : Jvm.MethodName) ({ cls := "IslandHeapModel", name := "retained", desc := "(I)I" } : Jvm.MethodName)) ∈ lw_all := lw_g (lw_at lw_m5 236 rfl) rfl
theorem q1258 : (Jvm.Cond.code ({ cls := "IslandHeapModel", name := "retained", desc := "(I)I" } : Jvm.MethodName) prog_26_method_40_code (4 : Nat) (Option.some Jvm.ClassFile.FieldType.int)) ∈ lw_all := lw_g (lw_at lw_m5 237 rfl) rfl
theorem q1260 : (Jvm.Cond.instanceMethod ({ cls := "IslandHeapModel", name := "free", desc := "(I)I" } : Jvm.MethodName)) ∈ lw_all := lw_g (lw_at lw_m5 239 rfl) rfl
theorem q1261 : (Jvm.Cond.selects "IslandHeapModel" ({ cls := "IslandHeapModel", name := "free", desc := "(I)I" } : Jvm.MethodName) ({ cls := "IslandHeapModel", name := "free", desc := "(I)I" } : Jvm.MethodName)) ∈ lw_all := lw_g (lw_at lw_m6 0 rfl) rfl
theorem q1262 : (Jvm.Cond.code ({ cls := "IslandHeapModel", name := "free", desc := "(I)I" } : Jvm.MethodName) prog_26_method_41_code (9 : Nat) (Option.some Jvm.ClassFile.FieldType.int)) ∈ lw_all := lw_g (lw_at lw_m6 1 rfl) rfl
theorem q1264 : (Jvm.Cond.instanceMethod ({ cls := "IslandHeapModel", name := "type", desc := "(I)I" } : Jvm.MethodName)) ∈ lw_all := lw_g (lw_at lw_m6 3 rfl) rfl
theorem q1265 : (Jvm.Cond.selects "IslandHeapModel" ({ cls := "IslandHeapModel", name := "type", desc := "(I)I" } : Jvm.MethodName) ({ cls := "IslandHeapModel", name := "type", desc := "(I)I" } : Jvm.MethodName)) ∈ lw_all := lw_g (lw_at lw_m6 4 rfl) rfl
theorem q1266 : (Jvm.Cond.code ({ cls := "IslandHeapModel", name := "type", desc := "(I)I" } : Jvm.MethodName) prog_26_method_42_code (2 : Nat) (Option.some Jvm.ClassFile.FieldType.int)) ∈ lw_all := lw_g (lw_at lw_m6 5 rfl) rfl
theorem q1268 : (Jvm.Cond.instanceMethod ({ cls := "IslandHeapModel", name := "clearText", desc := "()I" } : Jvm.MethodName)) ∈ lw_all := lw_g (lw_at lw_m6 7 rfl) rfl
theorem q1269 : (Jvm.Cond.selects "IslandHeapModel" ({ cls := "IslandHeapModel", name := "clearText", desc := "()I" } : Jvm.MethodName) ({ cls := "IslandHeapModel", name := "clearText", desc := "()I" } : Jvm.MethodName)) ∈ lw_all := lw_g (lw_at lw_m6 8 rfl) rfl
theorem q1270 : (Jvm.Cond.code ({ cls := "IslandHeapModel", name := "clearText", desc := "()I" } : Jvm.MethodName) prog_26_method_43_code (2 : Nat) (Option.some Jvm.ClassFile.FieldType.int)) ∈ lw_all := lw_g (lw_at lw_m6 9 rfl) rfl
theorem q1272 : (Jvm.Cond.instanceMethod ({ cls := "IslandHeapModel", name := "fault", desc := "()I" } : Jvm.MethodName)) ∈ lw_all := lw_g (lw_at lw_m6 11 rfl) rfl
theorem q1273 : (Jvm.Cond.selects "IslandHeapModel" ({ cls := "IslandHeapModel", name := "fault", desc := "()I" } : Jvm.MethodName) ({ cls := "IslandHeapModel", name := "fault", desc := "()I" } : Jvm.MethodName)) ∈ lw_all := lw_g (lw_at lw_m6 12 rfl) rfl
theorem q1274 : (Jvm.Cond.code ({ cls := "IslandHeapModel", name := "fault", desc := "()I" } : Jvm.MethodName) prog_26_method_52_code (1 : Nat) (Option.some Jvm.ClassFile.FieldType.int)) ∈ lw_all := lw_g (lw_at lw_m6 13 rfl) rfl
theorem q1275 : (Jvm.Cond.methodLink "IslandHeapModel" (145 : Nat) ({ cls := "IslandHeapModel", name := "blanks", desc := "()V" } : Jvm.MethodName)) ∈ lw_all := lw_g (lw_at lw_m6 14 rfl) rfl
theorem q1276 : (Jvm.Cond.privateMethod ({ cls := "IslandHeapModel", name := "blanks", desc := "()V" } : Jvm.MethodName)) ∈ lw_tbl := lw_at lw_m6 15 rfl
theorem q1277 : (Jvm.Cond.instanceMethod ({ cls := "IslandHeapModel", name := "blanks", desc := "()V" } : Jvm.MethodName)) ∈ lw_all := lw_g (lw_at lw_m6 16 rfl) rfl
theorem q1278 : (Jvm.Cond.code ({ cls := "IslandHeapModel", name := "blanks", desc := "()V" } : Jvm.MethodName) prog_26_method_45_code (1 : Nat) (Option.none : Option Jvm.ClassFile.FieldType)) ∈ lw_all := lw_g (lw_at lw_m6 17 rfl) rfl
theorem q1279 : (Jvm.Cond.methodLink "IslandHeapModel" (132 : Nat) ({ cls := "IslandHeapModel", name := "next", desc := "()I" } : Jvm.MethodName)) ∈ lw_all := lw_g (lw_at lw_m6 18 rfl) rfl
theorem q1280 : (Jvm.Cond.privateMethod ({ cls := "IslandHeapModel", name := "next", desc := "()I" } : Jvm.MethodName)) ∈ lw_tbl := lw_at lw_m6 19 rfl
theorem q1281 : (Jvm.Cond.instanceMethod ({ cls := "IslandHeapModel", name := "next", desc := "()I" } : Jvm.MethodName)) ∈ lw_all := lw_g (lw_at lw_m6 20 rfl) rfl
theorem q1282 : (Jvm.Cond.code ({ cls := "IslandHeapModel", name := "next", desc := "()I" } : Jvm.MethodName) prog_26_method_44_code (1 : Nat) (Option.some Jvm.ClassFile.FieldType.int)) ∈ lw_all := lw_g (lw_at lw_m6 21 rfl) rfl
theorem q1283 : (Jvm.Cond.methodLink "IslandHeapModel" (160 : Nat) ({ cls := "IslandHeapModel", name := "reads", desc := "()V" } : Jvm.MethodName)) ∈ lw_all := lw_g (lw_at lw_m6 22 rfl) rfl
theorem q1284 : (Jvm.Cond.privateMethod ({ cls := "IslandHeapModel", name := "reads", desc := "()V" } : Jvm.MethodName)) ∈ lw_tbl := lw_at lw_m6 23 rfl
theorem q1285 : (Jvm.Cond.instanceMethod ({ cls := "IslandHeapModel", name := "reads", desc := "()V" } : Jvm.MethodName)) ∈ lw_all := lw_g (lw_at lw_m6 24 rfl) rfl
theorem q1286 : (Jvm.Cond.code ({ cls := "IslandHeapModel", name := "reads", desc := "()V" } : Jvm.MethodName) prog_26_method_51_code (3 : Nat) (Option.none : Option Jvm.ClassFile.FieldType)) ∈ lw_all := lw_g (lw_at lw_m6 25 rfl) rfl
theorem q1287 : (Jvm.Cond.methodLink "IslandHeapModel" (142 : Nat) ({ cls := "IslandHeapModel", name := "fails", desc := "()V" } : Jvm.MethodName)) ∈ lw_all := lw_g (lw_at lw_m6 26 rfl) rfl
theorem q1288 : (Jvm.Cond.privateMethod ({ cls := "IslandHeapModel", name := "fails", desc := "()V" } : Jvm.MethodName)) ∈ lw_tbl := lw_at lw_m6 27 rfl
theorem q1289 : (Jvm.Cond.instanceMethod ({ cls := "IslandHeapModel", name := "fails", desc := "()V" } : Jvm.MethodName)) ∈ lw_all := lw_g (lw_at lw_m6 28 rfl) rfl
theorem q1290 : (Jvm.Cond.code ({ cls := "IslandHeapModel", name := "fails", desc := "()V" } : Jvm.MethodName) prog_26_method_46_code (1 : Nat) (Option.none : Option Jvm.ClassFile.FieldType)) ∈ lw_all := lw_g (lw_at lw_m6 29 rfl) rfl
theorem q1291 : (Jvm.Cond.methodLink "IslandHeapModel" (154 : Nat) ({ cls := "IslandHeapModel", name := "digit", desc := "()I" } : Jvm.MethodName)) ∈ lw_all := lw_g (lw_at lw_m6 30 rfl) rfl
theorem q1292 : (Jvm.Cond.privateMethod ({ cls := "IslandHeapModel", name := "digit", desc := "()I" } : Jvm.MethodName)) ∈ lw_tbl := lw_at lw_m6 31 rfl
theorem q1293 : (Jvm.Cond.instanceMethod ({ cls := "IslandHeapModel", name := "digit", desc := "()I" } : Jvm.MethodName)) ∈ lw_all := lw_g (lw_at lw_m6 32 rfl) rfl
theorem q1294 : (Jvm.Cond.code ({ cls := "IslandHeapModel", name := "digit", desc := "()I" } : Jvm.MethodName) prog_26_method_48_code (2 : Nat) (Option.some Jvm.ClassFile.FieldType.int)) ∈ lw_all := lw_g (lw_at lw_m6 33 rfl) rfl
theorem q1295 : (Jvm.Cond.methodLink "IslandHeapModel" (138 : Nat) ({ cls := "IslandHeapModel", name := "isDigit", desc := "()Z" } : Jvm.MethodName)) ∈ lw_all := lw_g (lw_at lw_m6 34 rfl) rfl
theorem q1296 : (Jvm.Cond.privateMethod ({ cls := "IslandHeapModel", name := "isDigit", desc := "()Z" } : Jvm.MethodName)) ∈ lw_tbl := lw_at lw_m6 35 rfl
theorem q1297 : (Jvm.Cond.instanceMethod ({ cls := "IslandHeapModel", name := "isDigit", desc := "()Z" } : Jvm.MethodName)) ∈ lw_all := lw_g (lw_at lw_m6 36 rfl) rfl
theorem q1298 : (Jvm.Cond.code ({ cls := "IslandHeapModel", name := "isDigit", desc := "()Z" } : Jvm.MethodName) prog_26_method_47_code (1 : Nat) (Option.some Jvm.ClassFile.FieldType.boolean)) ∈ lw_all := lw_g (lw_at lw_m6 37 rfl) rfl
theorem q1299 : (Jvm.Cond.methodLink "IslandHeapModel" (157 : Nat) ({ cls := "IslandHeapModel", name := "place", desc := "()I" } : Jvm.MethodName)) ∈ lw_all := lw_g (lw_at lw_m6 38 rfl) rfl
theorem q1300 : (Jvm.Cond.privateMethod ({ cls := "IslandHeapModel", name := "place", desc := "()I" } : Jvm.MethodName)) ∈ lw_tbl := lw_at lw_m6 39 rfl
theorem q1301 : (Jvm.Cond.instanceMethod ({ cls := "IslandHeapModel", name := "place", desc := "()I" } : Jvm.MethodName)) ∈ lw_all := lw_g (lw_at lw_m6 40 rfl) rfl
theorem q1302 : (Jvm.Cond.code ({ cls := "IslandHeapModel", name := "place", desc := "()I" } : Jvm.MethodName) prog_26_method_50_code (1 : Nat) (Option.some Jvm.ClassFile.FieldType.int)) ∈ lw_all := lw_g (lw_at lw_m6 41 rfl) rfl
theorem q1303 : (Jvm.Cond.methodLink "IslandHeapModel" (148 : Nat) ({ cls := "IslandHeapModel", name := "number", desc := "()I" } : Jvm.MethodName)) ∈ lw_all := lw_g (lw_at lw_m6 42 rfl) rfl
theorem q1304 : (Jvm.Cond.privateMethod ({ cls := "IslandHeapModel", name := "number", desc := "()I" } : Jvm.MethodName)) ∈ lw_tbl := lw_at lw_m6 43 rfl
theorem q1305 : (Jvm.Cond.instanceMethod ({ cls := "IslandHeapModel", name := "number", desc := "()I" } : Jvm.MethodName)) ∈ lw_all := lw_g (lw_at lw_m6 44 rfl) rfl
theorem q1306 : (Jvm.Cond.code ({ cls := "IslandHeapModel", name := "number", desc := "()I" } : Jvm.MethodName) prog_26_method_49_code (3 : Nat) (Option.some Jvm.ClassFile.FieldType.int)) ∈ lw_all := lw_g (lw_at lw_m6 45 rfl) rfl
theorem q1308 : (Jvm.Cond.instanceMethod ({ cls := "IslandHeapModel", name := "run", desc := "()I" } : Jvm.MethodName)) ∈ lw_all := lw_g (lw_at lw_m6 47 rfl) rfl
theorem q1309 : (Jvm.Cond.selects "IslandHeapModel" ({ cls := "IslandHeapModel", name := "run", desc := "()I" } : Jvm.MethodName) ({ cls := "IslandHeapModel", name := "run", desc := "()I" } : Jvm.MethodName)) ∈ lw_all := lw_g (lw_at lw_m6 48 rfl) rfl
theorem q1310 : (Jvm.Cond.code ({ cls := "IslandHeapModel", name := "run", desc := "()I" } : Jvm.MethodName) prog_26_method_54_code (4 : Nat) (Option.some Jvm.ClassFile.FieldType.int)) ∈ lw_all := lw_g (lw_at lw_m6 49 rfl) rfl
theorem q1311 : (Jvm.Cond.methodLink "IslandHeapModel" (183 : Nat) ({ cls := "IslandHeapModel", name := "fault", desc := "()I" } : Jvm.MethodName)) ∈ lw_all := lw_g (lw_at lw_m6 50 rfl) rfl
theorem q1312 : (Jvm.Cond.methodLink "IslandHeapModel" (185 : Nat) ({ cls := "IslandHeapModel", name := "does", desc := "(I)I" } : Jvm.MethodName)) ∈ lw_all := lw_g (lw_at lw_m6 51 rfl) rfl
theorem q1313 : (Jvm.Cond.privateMethod ({ cls := "IslandHeapModel", name := "does", desc := "(I)I" } : Jvm.MethodName)) ∈ lw_tbl := lw_at lw_m6 52 rfl
theorem q1314 : (Jvm.Cond.instanceMethod ({ cls := "IslandHeapModel", name := "does", desc := "(I)I" } : Jvm.MethodName)) ∈ lw_all := lw_g (lw_at lw_m6 53 rfl) rfl
theorem q1315 : (Jvm.Cond.code ({ cls := "IslandHeapModel", name := "does", desc := "(I)I" } : Jvm.MethodName) prog_26_method_53_code (4 : Nat) (Option.some Jvm.ClassFile.FieldType.int)) ∈ lw_all := lw_g (lw_at lw_m6 54 rfl) rfl
theorem q1316 : (Jvm.Cond.methodLink "IslandHeapModel" (163 : Nat) ({ cls := "IslandHeapModel", name := "alloc", desc := "(II)I" } : Jvm.MethodName)) ∈ lw_all := lw_g (lw_at lw_m6 55 rfl) rfl
theorem q1317 : (Jvm.Cond.methodLink "IslandHeapModel" (166 : Nat) ({ cls := "IslandHeapModel", name := "setRoot", desc := "(II)I" } : Jvm.MethodName)) ∈ lw_all := lw_g (lw_at lw_m6 56 rfl) rfl
theorem q1318 : (Jvm.Cond.methodLink "IslandHeapModel" (169 : Nat) ({ cls := "IslandHeapModel", name := "setWeak", desc := "(II)I" } : Jvm.MethodName)) ∈ lw_all := lw_g (lw_at lw_m6 57 rfl) rfl
theorem q1319 : (Jvm.Cond.methodLink "IslandHeapModel" (172 : Nat) ({ cls := "IslandHeapModel", name := "setField", desc := "(III)I" } : Jvm.MethodName)) ∈ lw_all := lw_g (lw_at lw_m6 58 rfl) rfl
theorem q1320 : (Jvm.Cond.methodLink "IslandHeapModel" (176 : Nat) ({ cls := "IslandHeapModel", name := "pin", desc := "(IZ)I" } : Jvm.MethodName)) ∈ lw_all := lw_g (lw_at lw_m6 59 rfl) rfl
theorem q1321 : (Jvm.Cond.methodLink "IslandHeapModel" (180 : Nat) ({ cls := "IslandHeapModel", name := "collect", desc := "()I" } : Jvm.MethodName)) ∈ lw_all := lw_g (lw_at lw_m6 60 rfl) rfl
theorem q1323 : (Jvm.Cond.instanceMethod ({ cls := "IslandHeapModel", name := "refusal", desc := "()I" } : Jvm.MethodName)) ∈ lw_all := lw_g (lw_at lw_m6 62 rfl) rfl
theorem q1324 : (Jvm.Cond.selects "IslandHeapModel" ({ cls := "IslandHeapModel", name := "refusal", desc := "()I" } : Jvm.MethodName) ({ cls := "IslandHeapModel", name := "refusal", desc := "()I" } : Jvm.MethodName)) ∈ lw_all := lw_g (lw_at lw_m6 63 rfl) rfl
theorem q1325 : (Jvm.Cond.code ({ cls := "IslandHeapModel", name := "refusal", desc := "()I" } : Jvm.MethodName) prog_26_method_55_code (1 : Nat) (Option.some Jvm.ClassFile.FieldType.int)) ∈ lw_all := lw_g (lw_at lw_m6 64 rfl) rfl
theorem q1327 : (Jvm.Cond.instanceMethod ({ cls := "IslandHeapModel", name := "save", desc := "(I)I" } : Jvm.MethodName)) ∈ lw_all := lw_g (lw_at lw_m6 66 rfl) rfl
theorem q1328 : (Jvm.Cond.selects "IslandHeapModel" ({ cls := "IslandHeapModel", name := "save", desc := "(I)I" } : Jvm.MethodName) ({ cls := "IslandHeapModel", name := "save", desc := "(I)I" } : Jvm.MethodName)) ∈ lw_all := lw_g (lw_at lw_m6 67 rfl) rfl
theorem q1329 : (Jvm.Cond.code ({ cls := "IslandHeapModel", name := "save", desc := "(I)I" } : Jvm.MethodName) prog_26_method_56_code (3 : Nat) (Option.some Jvm.ClassFile.FieldType.int)) ∈ lw_all := lw_g (lw_at lw_m6 68 rfl) rfl
theorem q1331 : (Jvm.Cond.instanceMethod ({ cls := "IslandHeapModel", name := "restore", desc := "(I)I" } : Jvm.MethodName)) ∈ lw_all := lw_g (lw_at lw_m6 70 rfl) rfl
theorem q1332 : (Jvm.Cond.selects "IslandHeapModel" ({ cls := "IslandHeapModel", name := "restore", desc := "(I)I" } : Jvm.MethodName) ({ cls := "IslandHeapModel", name := "restore", desc := "(I)I" } : Jvm.MethodName)) ∈ lw_all := lw_g (lw_at lw_m6 71 rfl) rfl
theorem q1333 : (Jvm.Cond.code ({ cls := "IslandHeapModel", name := "restore", desc := "(I)I" } : Jvm.MethodName) prog_26_method_57_code (3 : Nat) (Option.some Jvm.ClassFile.FieldType.int)) ∈ lw_all := lw_g (lw_at lw_m6 72 rfl) rfl
theorem q1335 : (Jvm.Cond.instanceMethod ({ cls := "IslandHeapModel", name := "count", desc := "(I)I" } : Jvm.MethodName)) ∈ lw_all := lw_g (lw_at lw_m6 74 rfl) rfl
theorem q1336 : (Jvm.Cond.selects "IslandHeapModel" ({ cls := "IslandHeapModel", name := "count", desc := "(I)I" } : Jvm.MethodName) ({ cls := "IslandHeapModel", name := "count", desc := "(I)I" } : Jvm.MethodName)) ∈ lw_all := lw_g (lw_at lw_m6 75 rfl) rfl
theorem q1337 : (Jvm.Cond.code ({ cls := "IslandHeapModel", name := "count", desc := "(I)I" } : Jvm.MethodName) prog_26_method_58_code (2 : Nat) (Option.some Jvm.ClassFile.FieldType.int)) ∈ lw_all := lw_g (lw_at lw_m6 76 rfl) rfl
theorem q1339 : (Jvm.Cond.instanceMethod ({ cls := "IslandHeapModel", name := "digest", desc := "()J" } : Jvm.MethodName)) ∈ lw_all := lw_g (lw_at lw_m6 78 rfl) rfl
theorem q1340 : (Jvm.Cond.selects "IslandHeapModel" ({ cls := "IslandHeapModel", name := "digest", desc := "()J" } : Jvm.MethodName) ({ cls := "IslandHeapModel", name := "digest", desc := "()J" } : Jvm.MethodName)) ∈ lw_all := lw_g (lw_at lw_m6 79 rfl) rfl
theorem q1341 : (Jvm.Cond.code ({ cls := "IslandHeapModel", name := "digest", desc := "()J" } : Jvm.MethodName) prog_26_method_60_code (3 : Nat) (Option.some Jvm.ClassFile.FieldType.long)) ∈ lw_all := lw_g (lw_at lw_m6 80 rfl) rfl
theorem q1342 : (Jvm.Cond.constantLong "IslandHeapModel" (194 : Nat) (47 : Int64)) ∈ lw_all := lw_g (lw_at lw_m6 81 rfl) rfl
theorem q1343 : (Jvm.Cond.methodLink "IslandHeapModel" (196 : Nat) ({ cls := "IslandHeapModel", name := "count", desc := "(I)I" } : Jvm.MethodName)) ∈ lw_all := lw_g (lw_at lw_m6 82 rfl) rfl
theorem q1344 : (Jvm.Cond.methodLink "IslandHeapModel" (199 : Nat) ({ cls := "IslandHeapModel", name := "mixes", desc := "(I)V" } : Jvm.MethodName)) ∈ lw_all := lw_g (lw_at lw_m6 83 rfl) rfl
theorem q1345 : (Jvm.Cond.privateMethod ({ cls := "IslandHeapModel", name := "mixes", desc := "(I)V" } : Jvm.MethodName)) ∈ lw_tbl := lw_at lw_m6 84 rfl
theorem q1346 : (Jvm.Cond.instanceMethod ({ cls := "IslandHeapModel", name := "mixes", desc := "(I)V" } : Jvm.MethodName)) ∈ lw_all := lw_g (lw_at lw_m6 85 rfl) rfl
theorem q1347 : (Jvm.Cond.code ({ cls := "IslandHeapModel", name := "mixes", desc := "(I)V" } : Jvm.MethodName) prog_26_method_59_code (2 : Nat) (Option.none : Option Jvm.ClassFile.FieldType)) ∈ lw_all := lw_g (lw_at lw_m6 86 rfl) rfl
theorem q1348 : (Jvm.Cond.constantLong "IslandHeapModel" (188 : Nat) (31 : Int64)) ∈ lw_all := lw_g (lw_at lw_m6 87 rfl) rfl
theorem q1349 : (Jvm.Cond.methodLink "IslandHeapModel" (202 : Nat) ({ cls := "IslandHeapModel", name := "object", desc := "(II)I" } : Jvm.MethodName)) ∈ lw_all := lw_g (lw_at lw_m6 88 rfl) rfl
theorem q1350 : (Jvm.Cond.methodLink "IslandHeapModel" (205 : Nat) ({ cls := "IslandHeapModel", name := "free", desc := "(I)I" } : Jvm.MethodName)) ∈ lw_all := lw_g (lw_at lw_m6 89 rfl) rfl
theorem q1357 : (Jvm.Cond.castable "IslandHeapModel" "java/lang/Object") ∈ lw_tbl := lw_at lw_m6 96 rfl
theorem in_X2 : ∀ w ∈ wsX20, w ∈ lw_all := lw_in wsX20 [1065, 1067, 1069, 1071, 1073, 1075, 1077, 1079, 1081, 1083, 1085, 1087, 1089, 1091, 1093, 1095, 1097, 1099] (by decide +kernel) (by decide +kernel)
