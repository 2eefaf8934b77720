/-! IslandHeap$Heap -/
set_option maxRecDepth 100000
def RX1 : String := "IslandHeap$Heap"
def TX1 : u_T := fun k => match k with
  | 0 => ("IslandHeap$Heap", "words", "I", true)
  | 1 => ("IslandHeap$Heap", "depth", "I", true)
  | 2 => ("IslandHeap$Heap", "things", "Ljava/util/ArrayList;", true)
  | 3 => ("IslandHeap$Heap", "owners", "[LIslandHeap$Thing;", true)
  | 4 => ("IslandHeap$Heap", "roots", "[I", true)
  | 5 => ("IslandHeap$Heap", "weak", "[I", true)
  | 6 => ("IslandHeap$Heap", "allocated", "I", false)
  | 7 => ("IslandHeap$Heap", "collections", "I", false)
  | 8 => ("IslandHeap$Heap", "freed", "I", false)
  | 9 => ("IslandHeap$Heap", "report", "LIslandHeap$Report;", false)
  | _ => ("IslandHeap$Heap", "places", "[I", true)
def tyX1 : Nat → FieldType := fun k => match k with
  | 0 => .int
  | 1 => .int
  | 2 => .object "java/util/ArrayList"
  | 3 => .array (.object "IslandHeap$Thing")
  | 4 => .array .int
  | 5 => .array .int
  | 6 => .int
  | 7 => .int
  | 8 => .int
  | 9 => .object "IslandHeap$Report"
  | _ => .array .int
abbrev wsX10 : List Cond := u_ws RX1 TX1 11
theorem nmX1 : ∀ a, a < 11 → ∀ b, b < 11 → a ≠ b → (TX1 a).2.1 ≠ (TX1 b).2.1 := by decide +kernel
theorem tyX1_ok : ∀ k, k < 11 → parseFieldDescriptor (TX1 k).2.2.1 = some (tyX1 k) := by decide +kernel
abbrev cX1_init : ByteArray := prog_5_method_1_code
def yX1_init : MethodName := ⟨RX1, "<init>", "(II)V"⟩
def dkwX1_init_4 : List UInt8 := [181, 0, 34, 42, 28, 181, 0, 38, 177]
abbrev dktX1_init_4 : List UInt8 := dkwX1_init_4 ++ []
def dkwX1_init_3 : List UInt8 := [3, 62, 29, 7, 162, 0, 16, 42, 180, 0, 28, 29, 2, 79, 132, 3, 1, 167, 255, 241, 42, 27]
abbrev dktX1_init_3 : List UInt8 := dkwX1_init_3 ++ dktX1_init_4
def dkwX1_init_2 : List UInt8 := [181, 0, 31, 3, 62, 29, 16, 6, 162, 0, 16, 42, 180, 0, 24, 29, 2, 79, 132, 3, 1, 167, 255, 240]
abbrev dktX1_init_2 : List UInt8 := dkwX1_init_2 ++ dktX1_init_3
def dkwX1_init_1 : List UInt8 := [181, 0, 20, 42, 16, 6, 188, 10, 181, 0, 24, 42, 7, 188, 10, 181, 0, 28, 42, 17, 0, 200, 188, 10]
abbrev dktX1_init_1 : List UInt8 := dkwX1_init_1 ++ dktX1_init_2
def dkwX1_init_0 : List UInt8 := [42, 183, 0, 3, 42, 187, 0, 9, 89, 183, 0, 11, 181, 0, 12, 42, 17, 0, 200, 189, 0, 18]
abbrev dktX1_init_0 : List UInt8 := dkwX1_init_0 ++ dktX1_init_1
theorem dksX1_init_0 : cX1_init.data.toList.drop 0 = dktX1_init_0 := by decide +kernel
theorem dksX1_init_1 : cX1_init.data.toList.drop 22 = dktX1_init_1 := dk_seg dksX1_init_0 22 rfl rfl
theorem dksX1_init_2 : cX1_init.data.toList.drop 46 = dktX1_init_2 := dk_seg dksX1_init_1 24 rfl rfl
theorem dksX1_init_3 : cX1_init.data.toList.drop 70 = dktX1_init_3 := dk_seg dksX1_init_2 24 rfl rfl
theorem dksX1_init_4 : cX1_init.data.toList.drop 92 = dktX1_init_4 := dk_seg dksX1_init_3 22 rfl rfl
theorem dX1_init_0 : decode cX1_init 0 = .ok (.aload_n 0, 1) := dk_42 (dk_at dksX1_init_0 0 rfl rfl)
theorem dX1_init_1 : decode cX1_init 1 = .ok (.invokespecial 3, 3) := dk_183 0 3 (dk_at dksX1_init_0 1 rfl rfl)
theorem dX1_init_4 : decode cX1_init 4 = .ok (.aload_n 0, 1) := dk_42 (dk_at dksX1_init_0 4 rfl rfl)
theorem dX1_init_5 : decode cX1_init 5 = .ok (.new 9, 3) := dk_187 0 9 (dk_at dksX1_init_0 5 rfl rfl)
theorem dX1_init_8 : decode cX1_init 8 = .ok (.dup, 1) := dk_89 (dk_at dksX1_init_0 8 rfl rfl)
theorem dX1_init_9 : decode cX1_init 9 = .ok (.invokespecial 11, 3) := dk_183 0 11 (dk_at dksX1_init_0 9 rfl rfl)
theorem dX1_init_12 : decode cX1_init 12 = .ok (.putfield 12, 3) := dk_181 0 12 (dk_at dksX1_init_0 12 rfl rfl)
theorem dX1_init_15 : decode cX1_init 15 = .ok (.aload_n 0, 1) := dk_42 (dk_at dksX1_init_0 15 rfl rfl)
theorem dX1_init_16 : decode cX1_init 16 = .ok (.sipush 200, 3) := dk_17 0 200 (dk_at dksX1_init_0 16 rfl rfl)
theorem dX1_init_19 : decode cX1_init 19 = .ok (.anewarray 18, 3) := dk_189 0 18 (dk_at dksX1_init_0 19 rfl rfl)
theorem dX1_init_22 : decode cX1_init 22 = .ok (.putfield 20, 3) := dk_181 0 20 (dk_at dksX1_init_1 0 rfl rfl)
theorem dX1_init_25 : decode cX1_init 25 = .ok (.aload_n 0, 1) := dk_42 (dk_at dksX1_init_1 3 rfl rfl)
theorem dX1_init_26 : decode cX1_init 26 = .ok (.bipush 6, 2) := dk_16 6 (dk_at dksX1_init_1 4 rfl rfl)
theorem dX1_init_28 : decode cX1_init 28 = .ok (.newarray .int, 2) := dk_188_10 (dk_at dksX1_init_1 6 rfl rfl)
theorem dX1_init_30 : decode cX1_init 30 = .ok (.putfield 24, 3) := dk_181 0 24 (dk_at dksX1_init_1 8 rfl rfl)
theorem dX1_init_33 : decode cX1_init 33 = .ok (.aload_n 0, 1) := dk_42 (dk_at dksX1_init_1 11 rfl rfl)
theorem dX1_init_34 : decode cX1_init 34 = .ok (.iconst 4, 1) := dk_7 (dk_at dksX1_init_1 12 rfl rfl)
theorem dX1_init_35 : decode cX1_init 35 = .ok (.newarray .int, 2) := dk_188_10 (dk_at dksX1_init_1 13 rfl rfl)
theorem dX1_init_37 : decode cX1_init 37 = .ok (.putfield 28, 3) := dk_181 0 28 (dk_at dksX1_init_1 15 rfl rfl)
theorem dX1_init_40 : decode cX1_init 40 = .ok (.aload_n 0, 1) := dk_42 (dk_at dksX1_init_1 18 rfl rfl)
theorem dX1_init_41 : decode cX1_init 41 = .ok (.sipush 200, 3) := dk_17 0 200 (dk_at dksX1_init_1 19 rfl rfl)
theorem dX1_init_44 : decode cX1_init 44 = .ok (.newarray .int, 2) := dk_188_10 (dk_at dksX1_init_1 22 rfl rfl)
theorem dX1_init_46 : decode cX1_init 46 = .ok (.putfield 31, 3) := dk_181 0 31 (dk_at dksX1_init_2 0 rfl rfl)
theorem dX1_init_49 : decode cX1_init 49 = .ok (.iconst 0, 1) := dk_3 (dk_at dksX1_init_2 3 rfl rfl)
theorem dX1_init_50 : decode cX1_init 50 = .ok (.istore_n 3, 1) := dk_62 (dk_at dksX1_init_2 4 rfl rfl)
theorem dX1_init_51 : decode cX1_init 51 = .ok (.iload_n 3, 1) := dk_29 (dk_at dksX1_init_2 5 rfl rfl)
theorem dX1_init_52 : decode cX1_init 52 = .ok (.bipush 6, 2) := dk_16 6 (dk_at dksX1_init_2 6 rfl rfl)
theorem dX1_init_54 : decode cX1_init 54 = .ok (.if_icmp .ge 16, 3) := dk_162 0 16 (dk_at dksX1_init_2 8 rfl rfl)
theorem dX1_init_57 : decode cX1_init 57 = .ok (.aload_n 0, 1) := dk_42 (dk_at dksX1_init_2 11 rfl rfl)
theorem dX1_init_58 : decode cX1_init 58 = .ok (.getfield 24, 3) := dk_180 0 24 (dk_at dksX1_init_2 12 rfl rfl)
theorem dX1_init_61 : decode cX1_init 61 = .ok (.iload_n 3, 1) := dk_29 (dk_at dksX1_init_2 15 rfl rfl)
theorem dX1_init_62 : decode cX1_init 62 = .ok (.iconst (-1), 1) := dk_2 (dk_at dksX1_init_2 16 rfl rfl)
theorem dX1_init_63 : decode cX1_init 63 = .ok (.iastore, 1) := dk_79 (dk_at dksX1_init_2 17 rfl rfl)
theorem dX1_init_64 : decode cX1_init 64 = .ok (.iinc 3 1, 3) := dk_132 3 1 (dk_at dksX1_init_2 18 rfl rfl)
theorem dX1_init_67 : decode cX1_init 67 = .ok (.goto (-16), 3) := dk_167 255 240 (dk_at dksX1_init_2 21 rfl rfl)
theorem dX1_init_70 : decode cX1_init 70 = .ok (.iconst 0, 1) := dk_3 (dk_at dksX1_init_3 0 rfl rfl)
theorem dX1_init_71 : decode cX1_init 71 = .ok (.istore_n 3, 1) := dk_62 (dk_at dksX1_init_3 1 rfl rfl)
theorem dX1_init_72 : decode cX1_init 72 = .ok (.iload_n 3, 1) := dk_29 (dk_at dksX1_init_3 2 rfl rfl)
theorem dX1_init_73 : decode cX1_init 73 = .ok (.iconst 4, 1) := dk_7 (dk_at dksX1_init_3 3 rfl rfl)
theorem dX1_init_74 : decode cX1_init 74 = .ok (.if_icmp .ge 16, 3) := dk_162 0 16 (dk_at dksX1_init_3 4 rfl rfl)
theorem dX1_init_77 : decode cX1_init 77 = .ok (.aload_n 0, 1) := dk_42 (dk_at dksX1_init_3 7 rfl rfl)
theorem dX1_init_78 : decode cX1_init 78 = .ok (.getfield 28, 3) := dk_180 0 28 (dk_at dksX1_init_3 8 rfl rfl)
theorem dX1_init_81 : decode cX1_init 81 = .ok (.iload_n 3, 1) := dk_29 (dk_at dksX1_init_3 11 rfl rfl)
theorem dX1_init_82 : decode cX1_init 82 = .ok (.iconst (-1), 1) := dk_2 (dk_at dksX1_init_3 12 rfl rfl)
theorem dX1_init_83 : decode cX1_init 83 = .ok (.iastore, 1) := dk_79 (dk_at dksX1_init_3 13 rfl rfl)
theorem dX1_init_84 : decode cX1_init 84 = .ok (.iinc 3 1, 3) := dk_132 3 1 (dk_at dksX1_init_3 14 rfl rfl)
theorem dX1_init_87 : decode cX1_init 87 = .ok (.goto (-15), 3) := dk_167 255 241 (dk_at dksX1_init_3 17 rfl rfl)
theorem dX1_init_90 : decode cX1_init 90 = .ok (.aload_n 0, 1) := dk_42 (dk_at dksX1_init_3 20 rfl rfl)
theorem dX1_init_91 : decode cX1_init 91 = .ok (.iload_n 1, 1) := dk_27 (dk_at dksX1_init_3 21 rfl rfl)
theorem dX1_init_92 : decode cX1_init 92 = .ok (.putfield 34, 3) := dk_181 0 34 (dk_at dksX1_init_4 0 rfl rfl)
theorem dX1_init_95 : decode cX1_init 95 = .ok (.aload_n 0, 1) := dk_42 (dk_at dksX1_init_4 3 rfl rfl)
theorem dX1_init_96 : decode cX1_init 96 = .ok (.iload_n 2, 1) := dk_28 (dk_at dksX1_init_4 4 rfl rfl)
theorem dX1_init_97 : decode cX1_init 97 = .ok (.putfield 38, 3) := dk_181 0 38 (dk_at dksX1_init_4 5 rfl rfl)
theorem dX1_init_100 : decode cX1_init 100 = .ok (.return_, 1) := dk_177 (dk_at dksX1_init_4 8 rfl rfl)
abbrev cX1_alloc : ByteArray := prog_5_method_10_code
def yX1_alloc : MethodName := ⟨RX1, "alloc", "(II)I"⟩
def dkwX1_alloc_5 : List UInt8 := [181, 0, 69, 29, 172]
abbrev dktX1_alloc_5 : List UInt8 := dkwX1_alloc_5 ++ []
def dkwX1_alloc_4 : List UInt8 := [42, 180, 0, 20, 21, 6, 25, 4, 83, 132, 6, 1, 167, 255, 234, 42, 89, 180, 0, 69, 4, 96]
abbrev dktX1_alloc_4 : List UInt8 := dkwX1_alloc_4 ++ dktX1_alloc_5
def dkwX1_alloc_3 : List UInt8 := [42, 180, 0, 12, 21, 5, 25, 4, 182, 0, 111, 29, 54, 6, 21, 6, 25, 4, 182, 0, 85, 162, 0, 18]
abbrev dktX1_alloc_3 : List UInt8 := dkwX1_alloc_3 ++ dktX1_alloc_4
def dkwX1_alloc_2 : List UInt8 := [180, 0, 12, 21, 5, 182, 0, 48, 192, 0, 18, 180, 0, 82, 29, 162, 0, 9, 132, 5, 1, 167, 255, 222]
abbrev dktX1_alloc_2 : List UInt8 := dkwX1_alloc_2 ++ dktX1_alloc_3
def dkwX1_alloc_1 : List UInt8 := [28, 183, 0, 108, 58, 4, 3, 54, 5, 21, 5, 42, 180, 0, 12, 182, 0, 44, 162, 0, 28, 42]
abbrev dktX1_alloc_1 : List UInt8 := dkwX1_alloc_1 ++ dktX1_alloc_2
def dkwX1_alloc_0 : List UInt8 := [42, 4, 27, 96, 28, 96, 182, 0, 104, 62, 29, 2, 160, 0, 6, 18, 107, 172, 187, 0, 18, 89, 29, 27]
abbrev dktX1_alloc_0 : List UInt8 := dkwX1_alloc_0 ++ dktX1_alloc_1
theorem dksX1_alloc_0 : cX1_alloc.data.toList.drop 0 = dktX1_alloc_0 := by decide +kernel
theorem dksX1_alloc_1 : cX1_alloc.data.toList.drop 24 = dktX1_alloc_1 := dk_seg dksX1_alloc_0 24 rfl rfl
theorem dksX1_alloc_2 : cX1_alloc.data.toList.drop 46 = dktX1_alloc_2 := dk_seg dksX1_alloc_1 22 rfl rfl
theorem dksX1_alloc_3 : cX1_alloc.data.toList.drop 70 = dktX1_alloc_3 := dk_seg dksX1_alloc_2 24 rfl rfl
theorem dksX1_alloc_4 : cX1_alloc.data.toList.drop 94 = dktX1_alloc_4 := dk_seg dksX1_alloc_3 24 rfl rfl
theorem dksX1_alloc_5 : cX1_alloc.data.toList.drop 116 = dktX1_alloc_5 := dk_seg dksX1_alloc_4 22 rfl rfl
theorem dX1_alloc_0 : decode cX1_alloc 0 = .ok (.aload_n 0, 1) := dk_42 (dk_at dksX1_alloc_0 0 rfl rfl)
theorem dX1_alloc_1 : decode cX1_alloc 1 = .ok (.iconst 1, 1) := dk_4 (dk_at dksX1_alloc_0 1 rfl rfl)
theorem dX1_alloc_2 : decode cX1_alloc 2 = .ok (.iload_n 1, 1) := dk_27 (dk_at dksX1_alloc_0 2 rfl rfl)
theorem dX1_alloc_3 : decode cX1_alloc 3 = .ok (.iadd, 1) := dk_96 (dk_at dksX1_alloc_0 3 rfl rfl)
theorem dX1_alloc_4 : decode cX1_alloc 4 = .ok (.iload_n 2, 1) := dk_28 (dk_at dksX1_alloc_0 4 rfl rfl)
theorem dX1_alloc_5 : decode cX1_alloc 5 = .ok (.iadd, 1) := dk_96 (dk_at dksX1_alloc_0 5 rfl rfl)
theorem dX1_alloc_6 : decode cX1_alloc 6 = .ok (.invokevirtual 104, 3) := dk_182 0 104 (dk_at dksX1_alloc_0 6 rfl rfl)
theorem dX1_alloc_9 : decode cX1_alloc 9 = .ok (.istore_n 3, 1) := dk_62 (dk_at dksX1_alloc_0 9 rfl rfl)
theorem dX1_alloc_10 : decode cX1_alloc 10 = .ok (.iload_n 3, 1) := dk_29 (dk_at dksX1_alloc_0 10 rfl rfl)
theorem dX1_alloc_11 : decode cX1_alloc 11 = .ok (.iconst (-1), 1) := dk_2 (dk_at dksX1_alloc_0 11 rfl rfl)
theorem dX1_alloc_12 : decode cX1_alloc 12 = .ok (.if_icmp .ne 6, 3) := dk_160 0 6 (dk_at dksX1_alloc_0 12 rfl rfl)
theorem dX1_alloc_15 : decode cX1_alloc 15 = .ok (.ldc 107, 2) := dk_18 107 (dk_at dksX1_alloc_0 15 rfl rfl)
theorem dX1_alloc_17 : decode cX1_alloc 17 = .ok (.ireturn, 1) := dk_172 (dk_at dksX1_alloc_0 17 rfl rfl)
theorem dX1_alloc_18 : decode cX1_alloc 18 = .ok (.new 18, 3) := dk_187 0 18 (dk_at dksX1_alloc_0 18 rfl rfl)
theorem dX1_alloc_21 : decode cX1_alloc 21 = .ok (.dup, 1) := dk_89 (dk_at dksX1_alloc_0 21 rfl rfl)
theorem dX1_alloc_22 : decode cX1_alloc 22 = .ok (.iload_n 3, 1) := dk_29 (dk_at dksX1_alloc_0 22 rfl rfl)
theorem dX1_alloc_23 : decode cX1_alloc 23 = .ok (.iload_n 1, 1) := dk_27 (dk_at dksX1_alloc_0 23 rfl rfl)
theorem dX1_alloc_24 : decode cX1_alloc 24 = .ok (.iload_n 2, 1) := dk_28 (dk_at dksX1_alloc_1 0 rfl rfl)
theorem dX1_alloc_25 : decode cX1_alloc 25 = .ok (.invokespecial 108, 3) := dk_183 0 108 (dk_at dksX1_alloc_1 1 rfl rfl)
theorem dX1_alloc_28 : decode cX1_alloc 28 = .ok (.astore 4, 2) := dk_58 4 (dk_at dksX1_alloc_1 4 rfl rfl)
theorem dX1_alloc_30 : decode cX1_alloc 30 = .ok (.iconst 0, 1) := dk_3 (dk_at dksX1_alloc_1 6 rfl rfl)
theorem dX1_alloc_31 : decode cX1_alloc 31 = .ok (.istore 5, 2) := dk_54 5 (dk_at dksX1_alloc_1 7 rfl rfl)
theorem dX1_alloc_33 : decode cX1_alloc 33 = .ok (.iload 5, 2) := dk_21 5 (dk_at dksX1_alloc_1 9 rfl rfl)
theorem dX1_alloc_35 : decode cX1_alloc 35 = .ok (.aload_n 0, 1) := dk_42 (dk_at dksX1_alloc_1 11 rfl rfl)
theorem dX1_alloc_36 : decode cX1_alloc 36 = .ok (.getfield 12, 3) := dk_180 0 12 (dk_at dksX1_alloc_1 12 rfl rfl)
theorem dX1_alloc_39 : decode cX1_alloc 39 = .ok (.invokevirtual 44, 3) := dk_182 0 44 (dk_at dksX1_alloc_1 15 rfl rfl)
theorem dX1_alloc_42 : decode cX1_alloc 42 = .ok (.if_icmp .ge 28, 3) := dk_162 0 28 (dk_at dksX1_alloc_1 18 rfl rfl)
theorem dX1_alloc_45 : decode cX1_alloc 45 = .ok (.aload_n 0, 1) := dk_42 (dk_at dksX1_alloc_1 21 rfl rfl)
theorem dX1_alloc_46 : decode cX1_alloc 46 = .ok (.getfield 12, 3) := dk_180 0 12 (dk_at dksX1_alloc_2 0 rfl rfl)
theorem dX1_alloc_49 : decode cX1_alloc 49 = .ok (.iload 5, 2) := dk_21 5 (dk_at dksX1_alloc_2 3 rfl rfl)
theorem dX1_alloc_51 : decode cX1_alloc 51 = .ok (.invokevirtual 48, 3) := dk_182 0 48 (dk_at dksX1_alloc_2 5 rfl rfl)
theorem dX1_alloc_54 : decode cX1_alloc 54 = .ok (.checkcast 18, 3) := dk_192 0 18 (dk_at dksX1_alloc_2 8 rfl rfl)
theorem dX1_alloc_57 : decode cX1_alloc 57 = .ok (.getfield 82, 3) := dk_180 0 82 (dk_at dksX1_alloc_2 11 rfl rfl)
theorem dX1_alloc_60 : decode cX1_alloc 60 = .ok (.iload_n 3, 1) := dk_29 (dk_at dksX1_alloc_2 14 rfl rfl)
theorem dX1_alloc_61 : decode cX1_alloc 61 = .ok (.if_icmp .ge 9, 3) := dk_162 0 9 (dk_at dksX1_alloc_2 15 rfl rfl)
theorem dX1_alloc_64 : decode cX1_alloc 64 = .ok (.iinc 5 1, 3) := dk_132 5 1 (dk_at dksX1_alloc_2 18 rfl rfl)
theorem dX1_alloc_67 : decode cX1_alloc 67 = .ok (.goto (-34), 3) := dk_167 255 222 (dk_at dksX1_alloc_2 21 rfl rfl)
theorem dX1_alloc_70 : decode cX1_alloc 70 = .ok (.aload_n 0, 1) := dk_42 (dk_at dksX1_alloc_3 0 rfl rfl)
theorem dX1_alloc_71 : decode cX1_alloc 71 = .ok (.getfield 12, 3) := dk_180 0 12 (dk_at dksX1_alloc_3 1 rfl rfl)
theorem dX1_alloc_74 : decode cX1_alloc 74 = .ok (.iload 5, 2) := dk_21 5 (dk_at dksX1_alloc_3 4 rfl rfl)
theorem dX1_alloc_76 : decode cX1_alloc 76 = .ok (.aload 4, 2) := dk_25 4 (dk_at dksX1_alloc_3 6 rfl rfl)
theorem dX1_alloc_78 : decode cX1_alloc 78 = .ok (.invokevirtual 111, 3) := dk_182 0 111 (dk_at dksX1_alloc_3 8 rfl rfl)
theorem dX1_alloc_81 : decode cX1_alloc 81 = .ok (.iload_n 3, 1) := dk_29 (dk_at dksX1_alloc_3 11 rfl rfl)
theorem dX1_alloc_82 : decode cX1_alloc 82 = .ok (.istore 6, 2) := dk_54 6 (dk_at dksX1_alloc_3 12 rfl rfl)
theorem dX1_alloc_84 : decode cX1_alloc 84 = .ok (.iload 6, 2) := dk_21 6 (dk_at dksX1_alloc_3 14 rfl rfl)
theorem dX1_alloc_86 : decode cX1_alloc 86 = .ok (.aload 4, 2) := dk_25 4 (dk_at dksX1_alloc_3 16 rfl rfl)
theorem dX1_alloc_88 : decode cX1_alloc 88 = .ok (.invokevirtual 85, 3) := dk_182 0 85 (dk_at dksX1_alloc_3 18 rfl rfl)
theorem dX1_alloc_91 : decode cX1_alloc 91 = .ok (.if_icmp .ge 18, 3) := dk_162 0 18 (dk_at dksX1_alloc_3 21 rfl rfl)
theorem dX1_alloc_94 : decode cX1_alloc 94 = .ok (.aload_n 0, 1) := dk_42 (dk_at dksX1_alloc_4 0 rfl rfl)
theorem dX1_alloc_95 : decode cX1_alloc 95 = .ok (.getfield 20, 3) := dk_180 0 20 (dk_at dksX1_alloc_4 1 rfl rfl)
theorem dX1_alloc_98 : decode cX1_alloc 98 = .ok (.iload 6, 2) := dk_21 6 (dk_at dksX1_alloc_4 4 rfl rfl)
theorem dX1_alloc_100 : decode cX1_alloc 100 = .ok (.aload 4, 2) := dk_25 4 (dk_at dksX1_alloc_4 6 rfl rfl)
theorem dX1_alloc_102 : decode cX1_alloc 102 = .ok (.aastore, 1) := dk_83 (dk_at dksX1_alloc_4 8 rfl rfl)
theorem dX1_alloc_103 : decode cX1_alloc 103 = .ok (.iinc 6 1, 3) := dk_132 6 1 (dk_at dksX1_alloc_4 9 rfl rfl)
theorem dX1_alloc_106 : decode cX1_alloc 106 = .ok (.goto (-22), 3) := dk_167 255 234 (dk_at dksX1_alloc_4 12 rfl rfl)
theorem dX1_alloc_109 : decode cX1_alloc 109 = .ok (.aload_n 0, 1) := dk_42 (dk_at dksX1_alloc_4 15 rfl rfl)
theorem dX1_alloc_110 : decode cX1_alloc 110 = .ok (.dup, 1) := dk_89 (dk_at dksX1_alloc_4 16 rfl rfl)
theorem dX1_alloc_111 : decode cX1_alloc 111 = .ok (.getfield 69, 3) := dk_180 0 69 (dk_at dksX1_alloc_4 17 rfl rfl)
theorem dX1_alloc_114 : decode cX1_alloc 114 = .ok (.iconst 1, 1) := dk_4 (dk_at dksX1_alloc_4 20 rfl rfl)
theorem dX1_alloc_115 : decode cX1_alloc 115 = .ok (.iadd, 1) := dk_96 (dk_at dksX1_alloc_4 21 rfl rfl)
theorem dX1_alloc_116 : decode cX1_alloc 116 = .ok (.putfield 69, 3) := dk_181 0 69 (dk_at dksX1_alloc_5 0 rfl rfl)
theorem dX1_alloc_119 : decode cX1_alloc 119 = .ok (.iload_n 3, 1) := dk_29 (dk_at dksX1_alloc_5 3 rfl rfl)
theorem dX1_alloc_120 : decode cX1_alloc 120 = .ok (.ireturn, 1) := dk_172 (dk_at dksX1_alloc_5 4 rfl rfl)
abbrev cX1_firstHole : ByteArray := prog_5_method_9_code
def yX1_firstHole : MethodName := ⟨RX1, "firstHole", "(I)I"⟩
def dkwX1_firstHole_2 : List UInt8 := [172]
abbrev dktX1_firstHole_2 : List UInt8 := dkwX1_firstHole_2 ++ []
def dkwX1_firstHole_1 : List UInt8 := [172, 29, 28, 160, 0, 15, 42, 180, 0, 20, 28, 50, 182, 0, 85, 167, 0, 4, 29, 61, 167, 255, 214, 2]
abbrev dktX1_firstHole_1 : List UInt8 := dkwX1_firstHole_1 ++ dktX1_firstHole_2
def dkwX1_firstHole_0 : List UInt8 := [3, 61, 28, 42, 180, 0, 34, 162, 0, 40, 42, 28, 182, 0, 100, 62, 29, 28, 100, 27, 161, 0, 5, 28]
abbrev dktX1_firstHole_0 : List UInt8 := dkwX1_firstHole_0 ++ dktX1_firstHole_1
theorem dksX1_firstHole_0 : cX1_firstHole.data.toList.drop 0 = dktX1_firstHole_0 := by decide +kernel
theorem dksX1_firstHole_1 : cX1_firstHole.data.toList.drop 24 = dktX1_firstHole_1 := dk_seg dksX1_firstHole_0 24 rfl rfl
theorem dksX1_firstHole_2 : cX1_firstHole.data.toList.drop 48 = dktX1_firstHole_2 := dk_seg dksX1_firstHole_1 24 rfl rfl
theorem dX1_firstHole_0 : decode cX1_firstHole 0 = .ok (.iconst 0, 1) := dk_3 (dk_at dksX1_firstHole_0 0 rfl rfl)
theorem dX1_firstHole_1 : decode cX1_firstHole 1 = .ok (.istore_n 2, 1) := dk_61 (dk_at dksX1_firstHole_0 1 rfl rfl)
theorem dX1_firstHole_2 : decode cX1_firstHole 2 = .ok (.iload_n 2, 1) := dk_28 (dk_at dksX1_firstHole_0 2 rfl rfl)
theorem dX1_firstHole_3 : decode cX1_firstHole 3 = .ok (.aload_n 0, 1) := dk_42 (dk_at dksX1_firstHole_0 3 rfl rfl)
theorem dX1_firstHole_4 : decode cX1_firstHole 4 = .ok (.getfield 34, 3) := dk_180 0 34 (dk_at dksX1_firstHole_0 4 rfl rfl)
theorem dX1_firstHole_7 : decode cX1_firstHole 7 = .ok (.if_icmp .ge 40, 3) := dk_162 0 40 (dk_at dksX1_firstHole_0 7 rfl rfl)
theorem dX1_firstHole_10 : decode cX1_firstHole 10 = .ok (.aload_n 0, 1) := dk_42 (dk_at dksX1_firstHole_0 10 rfl rfl)
theorem dX1_firstHole_11 : decode cX1_firstHole 11 = .ok (.iload_n 2, 1) := dk_28 (dk_at dksX1_firstHole_0 11 rfl rfl)
theorem dX1_firstHole_12 : decode cX1_firstHole 12 = .ok (.invokevirtual 100, 3) := dk_182 0 100 (dk_at dksX1_firstHole_0 12 rfl rfl)
theorem dX1_firstHole_15 : decode cX1_firstHole 15 = .ok (.istore_n 3, 1) := dk_62 (dk_at dksX1_firstHole_0 15 rfl rfl)
theorem dX1_firstHole_16 : decode cX1_firstHole 16 = .ok (.iload_n 3, 1) := dk_29 (dk_at dksX1_firstHole_0 16 rfl rfl)
theorem dX1_firstHole_17 : decode cX1_firstHole 17 = .ok (.iload_n 2, 1) := dk_28 (dk_at dksX1_firstHole_0 17 rfl rfl)
theorem dX1_firstHole_18 : decode cX1_firstHole 18 = .ok (.isub, 1) := dk_100 (dk_at dksX1_firstHole_0 18 rfl rfl)
theorem dX1_firstHole_19 : decode cX1_firstHole 19 = .ok (.iload_n 1, 1) := dk_27 (dk_at dksX1_firstHole_0 19 rfl rfl)
theorem dX1_firstHole_20 : decode cX1_firstHole 20 = .ok (.if_icmp .lt 5, 3) := dk_161 0 5 (dk_at dksX1_firstHole_0 20 rfl rfl)
theorem dX1_firstHole_23 : decode cX1_firstHole 23 = .ok (.iload_n 2, 1) := dk_28 (dk_at dksX1_firstHole_0 23 rfl rfl)
theorem dX1_firstHole_24 : decode cX1_firstHole 24 = .ok (.ireturn, 1) := dk_172 (dk_at dksX1_firstHole_1 0 rfl rfl)
theorem dX1_firstHole_25 : decode cX1_firstHole 25 = .ok (.iload_n 3, 1) := dk_29 (dk_at dksX1_firstHole_1 1 rfl rfl)
theorem dX1_firstHole_26 : decode cX1_firstHole 26 = .ok (.iload_n 2, 1) := dk_28 (dk_at dksX1_firstHole_1 2 rfl rfl)
theorem dX1_firstHole_27 : decode cX1_firstHole 27 = .ok (.if_icmp .ne 15, 3) := dk_160 0 15 (dk_at dksX1_firstHole_1 3 rfl rfl)
theorem dX1_firstHole_30 : decode cX1_firstHole 30 = .ok (.aload_n 0, 1) := dk_42 (dk_at dksX1_firstHole_1 6 rfl rfl)
theorem dX1_firstHole_31 : decode cX1_firstHole 31 = .ok (.getfield 20, 3) := dk_180 0 20 (dk_at dksX1_firstHole_1 7 rfl rfl)
theorem dX1_firstHole_34 : decode cX1_firstHole 34 = .ok (.iload_n 2, 1) := dk_28 (dk_at dksX1_firstHole_1 10 rfl rfl)
theorem dX1_firstHole_35 : decode cX1_firstHole 35 = .ok (.aaload, 1) := dk_50 (dk_at dksX1_firstHole_1 11 rfl rfl)
theorem dX1_firstHole_36 : decode cX1_firstHole 36 = .ok (.invokevirtual 85, 3) := dk_182 0 85 (dk_at dksX1_firstHole_1 12 rfl rfl)
theorem dX1_firstHole_39 : decode cX1_firstHole 39 = .ok (.goto 4, 3) := dk_167 0 4 (dk_at dksX1_firstHole_1 15 rfl rfl)
theorem dX1_firstHole_42 : decode cX1_firstHole 42 = .ok (.iload_n 3, 1) := dk_29 (dk_at dksX1_firstHole_1 18 rfl rfl)
theorem dX1_firstHole_43 : decode cX1_firstHole 43 = .ok (.istore_n 2, 1) := dk_61 (dk_at dksX1_firstHole_1 19 rfl rfl)
theorem dX1_firstHole_44 : decode cX1_firstHole 44 = .ok (.goto (-42), 3) := dk_167 255 214 (dk_at dksX1_firstHole_1 20 rfl rfl)
theorem dX1_firstHole_47 : decode cX1_firstHole 47 = .ok (.iconst (-1), 1) := dk_2 (dk_at dksX1_firstHole_1 23 rfl rfl)
theorem dX1_firstHole_48 : decode cX1_firstHole 48 = .ok (.ireturn, 1) := dk_172 (dk_at dksX1_firstHole_2 0 rfl rfl)
abbrev cX1_holeEnd : ByteArray := prog_5_method_8_code
def yX1_holeEnd : MethodName := ⟨RX1, "holeEnd", "(I)I"⟩
def dkwX1_holeEnd_1 : List UInt8 := [167, 255, 236, 28, 172]
abbrev dktX1_holeEnd_1 : List UInt8 := dkwX1_holeEnd_1 ++ []
def dkwX1_holeEnd_0 : List UInt8 := [27, 61, 28, 42, 180, 0, 34, 162, 0, 18, 42, 180, 0, 20, 28, 50, 199, 0, 9, 132, 2, 1]
abbrev dktX1_holeEnd_0 : List UInt8 := dkwX1_holeEnd_0 ++ dktX1_holeEnd_1
theorem dksX1_holeEnd_0 : cX1_holeEnd.data.toList.drop 0 = dktX1_holeEnd_0 := by decide +kernel
theorem dksX1_holeEnd_1 : cX1_holeEnd.data.toList.drop 22 = dktX1_holeEnd_1 := dk_seg dksX1_holeEnd_0 22 rfl rfl
theorem dX1_holeEnd_0 : decode cX1_holeEnd 0 = .ok (.iload_n 1, 1) := dk_27 (dk_at dksX1_holeEnd_0 0 rfl rfl)
theorem dX1_holeEnd_1 : decode cX1_holeEnd 1 = .ok (.istore_n 2, 1) := dk_61 (dk_at dksX1_holeEnd_0 1 rfl rfl)
theorem dX1_holeEnd_2 : decode cX1_holeEnd 2 = .ok (.iload_n 2, 1) := dk_28 (dk_at dksX1_holeEnd_0 2 rfl rfl)
theorem dX1_holeEnd_3 : decode cX1_holeEnd 3 = .ok (.aload_n 0, 1) := dk_42 (dk_at dksX1_holeEnd_0 3 rfl rfl)
theorem dX1_holeEnd_4 : decode cX1_holeEnd 4 = .ok (.getfield 34, 3) := dk_180 0 34 (dk_at dksX1_holeEnd_0 4 rfl rfl)
theorem dX1_holeEnd_7 : decode cX1_holeEnd 7 = .ok (.if_icmp .ge 18, 3) := dk_162 0 18 (dk_at dksX1_holeEnd_0 7 rfl rfl)
theorem dX1_holeEnd_10 : decode cX1_holeEnd 10 = .ok (.aload_n 0, 1) := dk_42 (dk_at dksX1_holeEnd_0 10 rfl rfl)
theorem dX1_holeEnd_11 : decode cX1_holeEnd 11 = .ok (.getfield 20, 3) := dk_180 0 20 (dk_at dksX1_holeEnd_0 11 rfl rfl)
theorem dX1_holeEnd_14 : decode cX1_holeEnd 14 = .ok (.iload_n 2, 1) := dk_28 (dk_at dksX1_holeEnd_0 14 rfl rfl)
theorem dX1_holeEnd_15 : decode cX1_holeEnd 15 = .ok (.aaload, 1) := dk_50 (dk_at dksX1_holeEnd_0 15 rfl rfl)
theorem dX1_holeEnd_16 : decode cX1_holeEnd 16 = .ok (.ifnonnull 9, 3) := dk_199 0 9 (dk_at dksX1_holeEnd_0 16 rfl rfl)
theorem dX1_holeEnd_19 : decode cX1_holeEnd 19 = .ok (.iinc 2 1, 3) := dk_132 2 1 (dk_at dksX1_holeEnd_0 19 rfl rfl)
theorem dX1_holeEnd_22 : decode cX1_holeEnd 22 = .ok (.goto (-20), 3) := dk_167 255 236 (dk_at dksX1_holeEnd_1 0 rfl rfl)
theorem dX1_holeEnd_25 : decode cX1_holeEnd 25 = .ok (.iload_n 2, 1) := dk_28 (dk_at dksX1_holeEnd_1 3 rfl rfl)
theorem dX1_holeEnd_26 : decode cX1_holeEnd 26 = .ok (.ireturn, 1) := dk_172 (dk_at dksX1_holeEnd_1 4 rfl rfl)
abbrev cX1_at : ByteArray := prog_5_method_5_code
def yX1_at : MethodName := ⟨RX1, "at", "(I)LIslandHeap$Thing;"⟩
def dkwX1_at_0 : List UInt8 := [42, 27, 182, 0, 92, 153, 0, 12, 42, 180, 0, 20, 27, 50, 167, 0, 4, 1, 176]
abbrev dktX1_at_0 : List UInt8 := dkwX1_at_0 ++ []
theorem dksX1_at_0 : cX1_at.data.toList.drop 0 = dktX1_at_0 := by decide +kernel
theorem dX1_at_0 : decode cX1_at 0 = .ok (.aload_n 0, 1) := dk_42 (dk_at dksX1_at_0 0 rfl rfl)
theorem dX1_at_1 : decode cX1_at 1 = .ok (.iload_n 1, 1) := dk_27 (dk_at dksX1_at_0 1 rfl rfl)
theorem dX1_at_2 : decode cX1_at 2 = .ok (.invokevirtual 92, 3) := dk_182 0 92 (dk_at dksX1_at_0 2 rfl rfl)
theorem dX1_at_5 : decode cX1_at 5 = .ok (.ifCond .eq 12, 3) := dk_153 0 12 (dk_at dksX1_at_0 5 rfl rfl)
theorem dX1_at_8 : decode cX1_at 8 = .ok (.aload_n 0, 1) := dk_42 (dk_at dksX1_at_0 8 rfl rfl)
theorem dX1_at_9 : decode cX1_at 9 = .ok (.getfield 20, 3) := dk_180 0 20 (dk_at dksX1_at_0 9 rfl rfl)
theorem dX1_at_12 : decode cX1_at 12 = .ok (.iload_n 1, 1) := dk_27 (dk_at dksX1_at_0 12 rfl rfl)
theorem dX1_at_13 : decode cX1_at 13 = .ok (.aaload, 1) := dk_50 (dk_at dksX1_at_0 13 rfl rfl)
theorem dX1_at_14 : decode cX1_at 14 = .ok (.goto 4, 3) := dk_167 0 4 (dk_at dksX1_at_0 14 rfl rfl)
theorem dX1_at_17 : decode cX1_at 17 = .ok (.aconst_null, 1) := dk_1 (dk_at dksX1_at_0 17 rfl rfl)
theorem dX1_at_18 : decode cX1_at 18 = .ok (.areturn, 1) := dk_176 (dk_at dksX1_at_0 18 rfl rfl)
abbrev cX1_isWord : ByteArray := prog_5_method_4_code
def yX1_isWord : MethodName := ⟨RX1, "isWord", "(I)Z"⟩
def dkwX1_isWord_0 : List UInt8 := [27, 3, 42, 180, 0, 34, 4, 100, 184, 0, 88, 172]
abbrev dktX1_isWord_0 : List UInt8 := dkwX1_isWord_0 ++ []
theorem dksX1_isWord_0 : cX1_isWord.data.toList.drop 0 = dktX1_isWord_0 := by decide +kernel
theorem dX1_isWord_0 : decode cX1_isWord 0 = .ok (.iload_n 1, 1) := dk_27 (dk_at dksX1_isWord_0 0 rfl rfl)
theorem dX1_isWord_1 : decode cX1_isWord 1 = .ok (.iconst 0, 1) := dk_3 (dk_at dksX1_isWord_0 1 rfl rfl)
theorem dX1_isWord_2 : decode cX1_isWord 2 = .ok (.aload_n 0, 1) := dk_42 (dk_at dksX1_isWord_0 2 rfl rfl)
theorem dX1_isWord_3 : decode cX1_isWord 3 = .ok (.getfield 34, 3) := dk_180 0 34 (dk_at dksX1_isWord_0 3 rfl rfl)
theorem dX1_isWord_6 : decode cX1_isWord 6 = .ok (.iconst 1, 1) := dk_4 (dk_at dksX1_isWord_0 6 rfl rfl)
theorem dX1_isWord_7 : decode cX1_isWord 7 = .ok (.isub, 1) := dk_100 (dk_at dksX1_isWord_0 7 rfl rfl)
theorem dX1_isWord_8 : decode cX1_isWord 8 = .ok (.invokestatic 88, 3) := dk_184 0 88 (dk_at dksX1_isWord_0 8 rfl rfl)
theorem dX1_isWord_11 : decode cX1_isWord 11 = .ok (.ireturn, 1) := dk_172 (dk_at dksX1_isWord_0 11 rfl rfl)
abbrev cX1_references : ByteArray := prog_5_method_13_code
def yX1_references : MethodName := ⟨RX1, "references", "(LIslandHeap$Thing;)I"⟩
def dkwX1_references_2 : List UInt8 := [43, 184, 0, 118, 96, 61, 132, 3, 1, 167, 255, 221, 28, 172]
abbrev dktX1_references_2 : List UInt8 := dkwX1_references_2 ++ []
def dkwX1_references_1 : List UInt8 := [180, 0, 12, 182, 0, 44, 162, 0, 30, 28, 42, 180, 0, 12, 29, 182, 0, 48, 192, 0, 18, 180, 0, 122]
abbrev dktX1_references_1 : List UInt8 := dkwX1_references_1 ++ dktX1_references_2
def dkwX1_references_0 : List UInt8 := [42, 180, 0, 24, 43, 184, 0, 118, 42, 180, 0, 28, 43, 184, 0, 118, 96, 61, 3, 62, 29, 42]
abbrev dktX1_references_0 : List UInt8 := dkwX1_references_0 ++ dktX1_references_1
theorem dksX1_references_0 : cX1_references.data.toList.drop 0 = dktX1_references_0 := by decide +kernel
theorem dksX1_references_1 : cX1_references.data.toList.drop 22 = dktX1_references_1 := dk_seg dksX1_references_0 22 rfl rfl
theorem dksX1_references_2 : cX1_references.data.toList.drop 46 = dktX1_references_2 := dk_seg dksX1_references_1 24 rfl rfl
theorem dX1_references_0 : decode cX1_references 0 = .ok (.aload_n 0, 1) := dk_42 (dk_at dksX1_references_0 0 rfl rfl)
theorem dX1_references_1 : decode cX1_references 1 = .ok (.getfield 24, 3) := dk_180 0 24 (dk_at dksX1_references_0 1 rfl rfl)
theorem dX1_references_4 : decode cX1_references 4 = .ok (.aload_n 1, 1) := dk_43 (dk_at dksX1_references_0 4 rfl rfl)
theorem dX1_references_5 : decode cX1_references 5 = .ok (.invokestatic 118, 3) := dk_184 0 118 (dk_at dksX1_references_0 5 rfl rfl)
theorem dX1_references_8 : decode cX1_references 8 = .ok (.aload_n 0, 1) := dk_42 (dk_at dksX1_references_0 8 rfl rfl)
theorem dX1_references_9 : decode cX1_references 9 = .ok (.getfield 28, 3) := dk_180 0 28 (dk_at dksX1_references_0 9 rfl rfl)
theorem dX1_references_12 : decode cX1_references 12 = .ok (.aload_n 1, 1) := dk_43 (dk_at dksX1_references_0 12 rfl rfl)
theorem dX1_references_13 : decode cX1_references 13 = .ok (.invokestatic 118, 3) := dk_184 0 118 (dk_at dksX1_references_0 13 rfl rfl)
theorem dX1_references_16 : decode cX1_references 16 = .ok (.iadd, 1) := dk_96 (dk_at dksX1_references_0 16 rfl rfl)
theorem dX1_references_17 : decode cX1_references 17 = .ok (.istore_n 2, 1) := dk_61 (dk_at dksX1_references_0 17 rfl rfl)
theorem dX1_references_18 : decode cX1_references 18 = .ok (.iconst 0, 1) := dk_3 (dk_at dksX1_references_0 18 rfl rfl)
theorem dX1_references_19 : decode cX1_references 19 = .ok (.istore_n 3, 1) := dk_62 (dk_at dksX1_references_0 19 rfl rfl)
theorem dX1_references_20 : decode cX1_references 20 = .ok (.iload_n 3, 1) := dk_29 (dk_at dksX1_references_0 20 rfl rfl)
theorem dX1_references_21 : decode cX1_references 21 = .ok (.aload_n 0, 1) := dk_42 (dk_at dksX1_references_0 21 rfl rfl)
theorem dX1_references_22 : decode cX1_references 22 = .ok (.getfield 12, 3) := dk_180 0 12 (dk_at dksX1_references_1 0 rfl rfl)
theorem dX1_references_25 : decode cX1_references 25 = .ok (.invokevirtual 44, 3) := dk_182 0 44 (dk_at dksX1_references_1 3 rfl rfl)
theorem dX1_references_28 : decode cX1_references 28 = .ok (.if_icmp .ge 30, 3) := dk_162 0 30 (dk_at dksX1_references_1 6 rfl rfl)
theorem dX1_references_31 : decode cX1_references 31 = .ok (.iload_n 2, 1) := dk_28 (dk_at dksX1_references_1 9 rfl rfl)
theorem dX1_references_32 : decode cX1_references 32 = .ok (.aload_n 0, 1) := dk_42 (dk_at dksX1_references_1 10 rfl rfl)
theorem dX1_references_33 : decode cX1_references 33 = .ok (.getfield 12, 3) := dk_180 0 12 (dk_at dksX1_references_1 11 rfl rfl)
theorem dX1_references_36 : decode cX1_references 36 = .ok (.iload_n 3, 1) := dk_29 (dk_at dksX1_references_1 14 rfl rfl)
theorem dX1_references_37 : decode cX1_references 37 = .ok (.invokevirtual 48, 3) := dk_182 0 48 (dk_at dksX1_references_1 15 rfl rfl)
theorem dX1_references_40 : decode cX1_references 40 = .ok (.checkcast 18, 3) := dk_192 0 18 (dk_at dksX1_references_1 18 rfl rfl)
theorem dX1_references_43 : decode cX1_references 43 = .ok (.getfield 122, 3) := dk_180 0 122 (dk_at dksX1_references_1 21 rfl rfl)
theorem dX1_references_46 : decode cX1_references 46 = .ok (.aload_n 1, 1) := dk_43 (dk_at dksX1_references_2 0 rfl rfl)
theorem dX1_references_47 : decode cX1_references 47 = .ok (.invokestatic 118, 3) := dk_184 0 118 (dk_at dksX1_references_2 1 rfl rfl)
theorem dX1_references_50 : decode cX1_references 50 = .ok (.iadd, 1) := dk_96 (dk_at dksX1_references_2 4 rfl rfl)
theorem dX1_references_51 : decode cX1_references 51 = .ok (.istore_n 2, 1) := dk_61 (dk_at dksX1_references_2 5 rfl rfl)
theorem dX1_references_52 : decode cX1_references 52 = .ok (.iinc 3 1, 3) := dk_132 3 1 (dk_at dksX1_references_2 6 rfl rfl)
theorem dX1_references_55 : decode cX1_references 55 = .ok (.goto (-35), 3) := dk_167 255 221 (dk_at dksX1_references_2 9 rfl rfl)
theorem dX1_references_58 : decode cX1_references 58 = .ok (.iload_n 2, 1) := dk_28 (dk_at dksX1_references_2 12 rfl rfl)
theorem dX1_references_59 : decode cX1_references 59 = .ok (.ireturn, 1) := dk_172 (dk_at dksX1_references_2 13 rfl rfl)
abbrev cX1_countOf : ByteArray := prog_5_method_12_code
def yX1_countOf : MethodName := ⟨RX1, "countOf", "([ILIslandHeap$Thing;)I"⟩
def dkwX1_countOf_2 : List UInt8 := [153, 0, 7, 4, 167, 0, 4, 3, 96, 61, 132, 5, 1, 167, 255, 208, 28, 172]
abbrev dktX1_countOf_2 : List UInt8 := dkwX1_countOf_2 ++ []
def dkwX1_countOf_1 : List UInt8 := [28, 21, 6, 2, 159, 0, 25, 21, 6, 43, 180, 0, 82, 43, 182, 0, 85, 4, 100, 184, 0, 88]
abbrev dktX1_countOf_1 : List UInt8 := dkwX1_countOf_1 ++ dktX1_countOf_2
def dkwX1_countOf_0 : List UInt8 := [3, 61, 42, 78, 45, 190, 54, 4, 3, 54, 5, 21, 5, 21, 4, 162, 0, 47, 45, 21, 5, 46, 54, 6]
abbrev dktX1_countOf_0 : List UInt8 := dkwX1_countOf_0 ++ dktX1_countOf_1
theorem dksX1_countOf_0 : cX1_countOf.data.toList.drop 0 = dktX1_countOf_0 := by decide +kernel
theorem dksX1_countOf_1 : cX1_countOf.data.toList.drop 24 = dktX1_countOf_1 := dk_seg dksX1_countOf_0 24 rfl rfl
theorem dksX1_countOf_2 : cX1_countOf.data.toList.drop 46 = dktX1_countOf_2 := dk_seg dksX1_countOf_1 22 rfl rfl
theorem dX1_countOf_0 : decode cX1_countOf 0 = .ok (.iconst 0, 1) := dk_3 (dk_at dksX1_countOf_0 0 rfl rfl)
theorem dX1_countOf_1 : decode cX1_countOf 1 = .ok (.istore_n 2, 1) := dk_61 (dk_at dksX1_countOf_0 1 rfl rfl)
theorem dX1_countOf_2 : decode cX1_countOf 2 = .ok (.aload_n 0, 1) := dk_42 (dk_at dksX1_countOf_0 2 rfl rfl)
theorem dX1_countOf_3 : decode cX1_countOf 3 = .ok (.astore_n 3, 1) := dk_78 (dk_at dksX1_countOf_0 3 rfl rfl)
theorem dX1_countOf_4 : decode cX1_countOf 4 = .ok (.aload_n 3, 1) := dk_45 (dk_at dksX1_countOf_0 4 rfl rfl)
theorem dX1_countOf_5 : decode cX1_countOf 5 = .ok (.arraylength, 1) := dk_190 (dk_at dksX1_countOf_0 5 rfl rfl)
theorem dX1_countOf_6 : decode cX1_countOf 6 = .ok (.istore 4, 2) := dk_54 4 (dk_at dksX1_countOf_0 6 rfl rfl)
theorem dX1_countOf_8 : decode cX1_countOf 8 = .ok (.iconst 0, 1) := dk_3 (dk_at dksX1_countOf_0 8 rfl rfl)
theorem dX1_countOf_9 : decode cX1_countOf 9 = .ok (.istore 5, 2) := dk_54 5 (dk_at dksX1_countOf_0 9 rfl rfl)
theorem dX1_countOf_11 : decode cX1_countOf 11 = .ok (.iload 5, 2) := dk_21 5 (dk_at dksX1_countOf_0 11 rfl rfl)
theorem dX1_countOf_13 : decode cX1_countOf 13 = .ok (.iload 4, 2) := dk_21 4 (dk_at dksX1_countOf_0 13 rfl rfl)
theorem dX1_countOf_15 : decode cX1_countOf 15 = .ok (.if_icmp .ge 47, 3) := dk_162 0 47 (dk_at dksX1_countOf_0 15 rfl rfl)
theorem dX1_countOf_18 : decode cX1_countOf 18 = .ok (.aload_n 3, 1) := dk_45 (dk_at dksX1_countOf_0 18 rfl rfl)
theorem dX1_countOf_19 : decode cX1_countOf 19 = .ok (.iload 5, 2) := dk_21 5 (dk_at dksX1_countOf_0 19 rfl rfl)
theorem dX1_countOf_21 : decode cX1_countOf 21 = .ok (.iaload, 1) := dk_46 (dk_at dksX1_countOf_0 21 rfl rfl)
theorem dX1_countOf_22 : decode cX1_countOf 22 = .ok (.istore 6, 2) := dk_54 6 (dk_at dksX1_countOf_0 22 rfl rfl)
theorem dX1_countOf_24 : decode cX1_countOf 24 = .ok (.iload_n 2, 1) := dk_28 (dk_at dksX1_countOf_1 0 rfl rfl)
theorem dX1_countOf_25 : decode cX1_countOf 25 = .ok (.iload 6, 2) := dk_21 6 (dk_at dksX1_countOf_1 1 rfl rfl)
theorem dX1_countOf_27 : decode cX1_countOf 27 = .ok (.iconst (-1), 1) := dk_2 (dk_at dksX1_countOf_1 3 rfl rfl)
theorem dX1_countOf_28 : decode cX1_countOf 28 = .ok (.if_icmp .eq 25, 3) := dk_159 0 25 (dk_at dksX1_countOf_1 4 rfl rfl)
theorem dX1_countOf_31 : decode cX1_countOf 31 = .ok (.iload 6, 2) := dk_21 6 (dk_at dksX1_countOf_1 7 rfl rfl)
theorem dX1_countOf_33 : decode cX1_countOf 33 = .ok (.aload_n 1, 1) := dk_43 (dk_at dksX1_countOf_1 9 rfl rfl)
theorem dX1_countOf_34 : decode cX1_countOf 34 = .ok (.getfield 82, 3) := dk_180 0 82 (dk_at dksX1_countOf_1 10 rfl rfl)
theorem dX1_countOf_37 : decode cX1_countOf 37 = .ok (.aload_n 1, 1) := dk_43 (dk_at dksX1_countOf_1 13 rfl rfl)
theorem dX1_countOf_38 : decode cX1_countOf 38 = .ok (.invokevirtual 85, 3) := dk_182 0 85 (dk_at dksX1_countOf_1 14 rfl rfl)
theorem dX1_countOf_41 : decode cX1_countOf 41 = .ok (.iconst 1, 1) := dk_4 (dk_at dksX1_countOf_1 17 rfl rfl)
theorem dX1_countOf_42 : decode cX1_countOf 42 = .ok (.isub, 1) := dk_100 (dk_at dksX1_countOf_1 18 rfl rfl)
theorem dX1_countOf_43 : decode cX1_countOf 43 = .ok (.invokestatic 88, 3) := dk_184 0 88 (dk_at dksX1_countOf_1 19 rfl rfl)
theorem dX1_countOf_46 : decode cX1_countOf 46 = .ok (.ifCond .eq 7, 3) := dk_153 0 7 (dk_at dksX1_countOf_2 0 rfl rfl)
theorem dX1_countOf_49 : decode cX1_countOf 49 = .ok (.iconst 1, 1) := dk_4 (dk_at dksX1_countOf_2 3 rfl rfl)
theorem dX1_countOf_50 : decode cX1_countOf 50 = .ok (.goto 4, 3) := dk_167 0 4 (dk_at dksX1_countOf_2 4 rfl rfl)
theorem dX1_countOf_53 : decode cX1_countOf 53 = .ok (.iconst 0, 1) := dk_3 (dk_at dksX1_countOf_2 7 rfl rfl)
theorem dX1_countOf_54 : decode cX1_countOf 54 = .ok (.iadd, 1) := dk_96 (dk_at dksX1_countOf_2 8 rfl rfl)
theorem dX1_countOf_55 : decode cX1_countOf 55 = .ok (.istore_n 2, 1) := dk_61 (dk_at dksX1_countOf_2 9 rfl rfl)
theorem dX1_countOf_56 : decode cX1_countOf 56 = .ok (.iinc 5 1, 3) := dk_132 5 1 (dk_at dksX1_countOf_2 10 rfl rfl)
theorem dX1_countOf_59 : decode cX1_countOf 59 = .ok (.goto (-48), 3) := dk_167 255 208 (dk_at dksX1_countOf_2 13 rfl rfl)
theorem dX1_countOf_62 : decode cX1_countOf 62 = .ok (.iload_n 2, 1) := dk_28 (dk_at dksX1_countOf_2 16 rfl rfl)
theorem dX1_countOf_63 : decode cX1_countOf 63 = .ok (.ireturn, 1) := dk_172 (dk_at dksX1_countOf_2 17 rfl rfl)
abbrev cX1_target : ByteArray := prog_5_method_7_code
def yX1_target : MethodName := ⟨RX1, "target", "(I)LIslandHeap$Thing;"⟩
def dkwX1_target_0 : List UInt8 := [27, 2, 160, 0, 7, 1, 167, 0, 9, 42, 180, 0, 20, 27, 50, 176]
abbrev dktX1_target_0 : List UInt8 := dkwX1_target_0 ++ []
theorem dksX1_target_0 : cX1_target.data.toList.drop 0 = dktX1_target_0 := by decide +kernel
theorem dX1_target_0 : decode cX1_target 0 = .ok (.iload_n 1, 1) := dk_27 (dk_at dksX1_target_0 0 rfl rfl)
theorem dX1_target_1 : decode cX1_target 1 = .ok (.iconst (-1), 1) := dk_2 (dk_at dksX1_target_0 1 rfl rfl)
theorem dX1_target_2 : decode cX1_target 2 = .ok (.if_icmp .ne 7, 3) := dk_160 0 7 (dk_at dksX1_target_0 2 rfl rfl)
theorem dX1_target_5 : decode cX1_target 5 = .ok (.aconst_null, 1) := dk_1 (dk_at dksX1_target_0 5 rfl rfl)
theorem dX1_target_6 : decode cX1_target 6 = .ok (.goto 9, 3) := dk_167 0 9 (dk_at dksX1_target_0 6 rfl rfl)
theorem dX1_target_9 : decode cX1_target 9 = .ok (.aload_n 0, 1) := dk_42 (dk_at dksX1_target_0 9 rfl rfl)
theorem dX1_target_10 : decode cX1_target 10 = .ok (.getfield 20, 3) := dk_180 0 20 (dk_at dksX1_target_0 10 rfl rfl)
theorem dX1_target_13 : decode cX1_target 13 = .ok (.iload_n 1, 1) := dk_27 (dk_at dksX1_target_0 13 rfl rfl)
theorem dX1_target_14 : decode cX1_target 14 = .ok (.aaload, 1) := dk_50 (dk_at dksX1_target_0 14 rfl rfl)
theorem dX1_target_15 : decode cX1_target 15 = .ok (.areturn, 1) := dk_176 (dk_at dksX1_target_0 15 rfl rfl)
abbrev cX1_isReference : ByteArray := prog_5_method_6_code
def yX1_isReference : MethodName := ⟨RX1, "isReference", "(I)Z"⟩
def dkwX1_isReference_0 : List UInt8 := [27, 2, 159, 0, 11, 42, 27, 182, 0, 96, 198, 0, 7, 4, 167, 0, 4, 3, 172]
abbrev dktX1_isReference_0 : List UInt8 := dkwX1_isReference_0 ++ []
theorem dksX1_isReference_0 : cX1_isReference.data.toList.drop 0 = dktX1_isReference_0 := by decide +kernel
theorem dX1_isReference_0 : decode cX1_isReference 0 = .ok (.iload_n 1, 1) := dk_27 (dk_at dksX1_isReference_0 0 rfl rfl)
theorem dX1_isReference_1 : decode cX1_isReference 1 = .ok (.iconst (-1), 1) := dk_2 (dk_at dksX1_isReference_0 1 rfl rfl)
theorem dX1_isReference_2 : decode cX1_isReference 2 = .ok (.if_icmp .eq 11, 3) := dk_159 0 11 (dk_at dksX1_isReference_0 2 rfl rfl)
theorem dX1_isReference_5 : decode cX1_isReference 5 = .ok (.aload_n 0, 1) := dk_42 (dk_at dksX1_isReference_0 5 rfl rfl)
theorem dX1_isReference_6 : decode cX1_isReference 6 = .ok (.iload_n 1, 1) := dk_27 (dk_at dksX1_isReference_0 6 rfl rfl)
theorem dX1_isReference_7 : decode cX1_isReference 7 = .ok (.invokevirtual 96, 3) := dk_182 0 96 (dk_at dksX1_isReference_0 7 rfl rfl)
theorem dX1_isReference_10 : decode cX1_isReference 10 = .ok (.ifnull 7, 3) := dk_198 0 7 (dk_at dksX1_isReference_0 10 rfl rfl)
theorem dX1_isReference_13 : decode cX1_isReference 13 = .ok (.iconst 1, 1) := dk_4 (dk_at dksX1_isReference_0 13 rfl rfl)
theorem dX1_isReference_14 : decode cX1_isReference 14 = .ok (.goto 4, 3) := dk_167 0 4 (dk_at dksX1_isReference_0 14 rfl rfl)
theorem dX1_isReference_17 : decode cX1_isReference 17 = .ok (.iconst 0, 1) := dk_3 (dk_at dksX1_isReference_0 17 rfl rfl)
theorem dX1_isReference_18 : decode cX1_isReference 18 = .ok (.ireturn, 1) := dk_172 (dk_at dksX1_isReference_0 18 rfl rfl)
abbrev cX1_pinned : ByteArray := prog_5_method_11_code
def yX1_pinned : MethodName := ⟨RX1, "pinned", "()I"⟩
def dkwX1_pinned_1 : List UInt8 := [192, 0, 18, 180, 0, 114, 153, 0, 7, 4, 167, 0, 4, 3, 96, 60, 132, 2, 1, 167, 255, 217, 27, 172]
abbrev dktX1_pinned_1 : List UInt8 := dkwX1_pinned_1 ++ []
def dkwX1_pinned_0 : List UInt8 := [3, 60, 3, 61, 28, 42, 180, 0, 12, 182, 0, 44, 162, 0, 34, 27, 42, 180, 0, 12, 28, 182, 0, 48]
abbrev dktX1_pinned_0 : List UInt8 := dkwX1_pinned_0 ++ dktX1_pinned_1
theorem dksX1_pinned_0 : cX1_pinned.data.toList.drop 0 = dktX1_pinned_0 := by decide +kernel
theorem dksX1_pinned_1 : cX1_pinned.data.toList.drop 24 = dktX1_pinned_1 := dk_seg dksX1_pinned_0 24 rfl rfl
theorem dX1_pinned_0 : decode cX1_pinned 0 = .ok (.iconst 0, 1) := dk_3 (dk_at dksX1_pinned_0 0 rfl rfl)
theorem dX1_pinned_1 : decode cX1_pinned 1 = .ok (.istore_n 1, 1) := dk_60 (dk_at dksX1_pinned_0 1 rfl rfl)
theorem dX1_pinned_2 : decode cX1_pinned 2 = .ok (.iconst 0, 1) := dk_3 (dk_at dksX1_pinned_0 2 rfl rfl)
theorem dX1_pinned_3 : decode cX1_pinned 3 = .ok (.istore_n 2, 1) := dk_61 (dk_at dksX1_pinned_0 3 rfl rfl)
theorem dX1_pinned_4 : decode cX1_pinned 4 = .ok (.iload_n 2, 1) := dk_28 (dk_at dksX1_pinned_0 4 rfl rfl)
theorem dX1_pinned_5 : decode cX1_pinned 5 = .ok (.aload_n 0, 1) := dk_42 (dk_at dksX1_pinned_0 5 rfl rfl)
theorem dX1_pinned_6 : decode cX1_pinned 6 = .ok (.getfield 12, 3) := dk_180 0 12 (dk_at dksX1_pinned_0 6 rfl rfl)
theorem dX1_pinned_9 : decode cX1_pinned 9 = .ok (.invokevirtual 44, 3) := dk_182 0 44 (dk_at dksX1_pinned_0 9 rfl rfl)
theorem dX1_pinned_12 : decode cX1_pinned 12 = .ok (.if_icmp .ge 34, 3) := dk_162 0 34 (dk_at dksX1_pinned_0 12 rfl rfl)
theorem dX1_pinned_15 : decode cX1_pinned 15 = .ok (.iload_n 1, 1) := dk_27 (dk_at dksX1_pinned_0 15 rfl rfl)
theorem dX1_pinned_16 : decode cX1_pinned 16 = .ok (.aload_n 0, 1) := dk_42 (dk_at dksX1_pinned_0 16 rfl rfl)
theorem dX1_pinned_17 : decode cX1_pinned 17 = .ok (.getfield 12, 3) := dk_180 0 12 (dk_at dksX1_pinned_0 17 rfl rfl)
theorem dX1_pinned_20 : decode cX1_pinned 20 = .ok (.iload_n 2, 1) := dk_28 (dk_at dksX1_pinned_0 20 rfl rfl)
theorem dX1_pinned_21 : decode cX1_pinned 21 = .ok (.invokevirtual 48, 3) := dk_182 0 48 (dk_at dksX1_pinned_0 21 rfl rfl)
theorem dX1_pinned_24 : decode cX1_pinned 24 = .ok (.checkcast 18, 3) := dk_192 0 18 (dk_at dksX1_pinned_1 0 rfl rfl)
theorem dX1_pinned_27 : decode cX1_pinned 27 = .ok (.getfield 114, 3) := dk_180 0 114 (dk_at dksX1_pinned_1 3 rfl rfl)
theorem dX1_pinned_30 : decode cX1_pinned 30 = .ok (.ifCond .eq 7, 3) := dk_153 0 7 (dk_at dksX1_pinned_1 6 rfl rfl)
theorem dX1_pinned_33 : decode cX1_pinned 33 = .ok (.iconst 1, 1) := dk_4 (dk_at dksX1_pinned_1 9 rfl rfl)
theorem dX1_pinned_34 : decode cX1_pinned 34 = .ok (.goto 4, 3) := dk_167 0 4 (dk_at dksX1_pinned_1 10 rfl rfl)
theorem dX1_pinned_37 : decode cX1_pinned 37 = .ok (.iconst 0, 1) := dk_3 (dk_at dksX1_pinned_1 13 rfl rfl)
theorem dX1_pinned_38 : decode cX1_pinned 38 = .ok (.iadd, 1) := dk_96 (dk_at dksX1_pinned_1 14 rfl rfl)
theorem dX1_pinned_39 : decode cX1_pinned 39 = .ok (.istore_n 1, 1) := dk_60 (dk_at dksX1_pinned_1 15 rfl rfl)
theorem dX1_pinned_40 : decode cX1_pinned 40 = .ok (.iinc 2 1, 3) := dk_132 2 1 (dk_at dksX1_pinned_1 16 rfl rfl)
theorem dX1_pinned_43 : decode cX1_pinned 43 = .ok (.goto (-39), 3) := dk_167 255 217 (dk_at dksX1_pinned_1 19 rfl rfl)
theorem dX1_pinned_46 : decode cX1_pinned 46 = .ok (.iload_n 1, 1) := dk_27 (dk_at dksX1_pinned_1 22 rfl rfl)
theorem dX1_pinned_47 : decode cX1_pinned 47 = .ok (.ireturn, 1) := dk_172 (dk_at dksX1_pinned_1 23 rfl rfl)
abbrev cX1_slide : ByteArray := prog_5_method_15_code
def yX1_slide : MethodName := ⟨RX1, "slide", "(LIslandHeap$Report;)I"⟩
def dkwX1_slide_5 : List UInt8 := [132, 4, 1, 167, 255, 182, 42, 182, 0, 133, 42, 182, 0, 60, 28, 43, 180, 0, 136, 100, 172]
abbrev dktX1_slide_5 : List UInt8 := dkwX1_slide_5 ++ []
def dkwX1_slide_4 : List UInt8 := [167, 0, 4, 29, 54, 6, 21, 6, 25, 5, 182, 0, 128, 96, 62, 42, 25, 5, 21, 6, 43, 182, 0, 129]
abbrev dktX1_slide_4 : List UInt8 := dkwX1_slide_4 ++ dktX1_slide_5
def dkwX1_slide_3 : List UInt8 := [58, 5, 25, 5, 180, 0, 125, 153, 0, 40, 25, 5, 180, 0, 114, 153, 0, 11, 25, 5, 180, 0, 82]
abbrev dktX1_slide_3 : List UInt8 := dkwX1_slide_3 ++ dktX1_slide_4
def dkwX1_slide_2 : List UInt8 := [21, 4, 42, 180, 0, 12, 182, 0, 44, 162, 0, 68, 42, 180, 0, 12, 21, 4, 182, 0, 48, 192, 0, 18]
abbrev dktX1_slide_2 : List UInt8 := dkwX1_slide_2 ++ dktX1_slide_3
def dkwX1_slide_1 : List UInt8 := [167, 0, 4, 4, 96, 61, 42, 180, 0, 31, 29, 2, 79, 132, 3, 1, 167, 255, 222, 3, 62, 3, 54, 4]
abbrev dktX1_slide_1 : List UInt8 := dkwX1_slide_1 ++ dktX1_slide_2
def dkwX1_slide_0 : List UInt8 := [3, 61, 3, 62, 29, 17, 0, 200, 162, 0, 33, 28, 42, 180, 0, 20, 29, 50, 199, 0, 7, 3]
abbrev dktX1_slide_0 : List UInt8 := dkwX1_slide_0 ++ dktX1_slide_1
theorem dksX1_slide_0 : cX1_slide.data.toList.drop 0 = dktX1_slide_0 := by decide +kernel
theorem dksX1_slide_1 : cX1_slide.data.toList.drop 22 = dktX1_slide_1 := dk_seg dksX1_slide_0 22 rfl rfl
theorem dksX1_slide_2 : cX1_slide.data.toList.drop 46 = dktX1_slide_2 := dk_seg dksX1_slide_1 24 rfl rfl
theorem dksX1_slide_3 : cX1_slide.data.toList.drop 70 = dktX1_slide_3 := dk_seg dksX1_slide_2 24 rfl rfl
theorem dksX1_slide_4 : cX1_slide.data.toList.drop 93 = dktX1_slide_4 := dk_seg dksX1_slide_3 23 rfl rfl
theorem dksX1_slide_5 : cX1_slide.data.toList.drop 117 = dktX1_slide_5 := dk_seg dksX1_slide_4 24 rfl rfl
theorem dX1_slide_0 : decode cX1_slide 0 = .ok (.iconst 0, 1) := dk_3 (dk_at dksX1_slide_0 0 rfl rfl)
theorem dX1_slide_1 : decode cX1_slide 1 = .ok (.istore_n 2, 1) := dk_61 (dk_at dksX1_slide_0 1 rfl rfl)
theorem dX1_slide_2 : decode cX1_slide 2 = .ok (.iconst 0, 1) := dk_3 (dk_at dksX1_slide_0 2 rfl rfl)
theorem dX1_slide_3 : decode cX1_slide 3 = .ok (.istore_n 3, 1) := dk_62 (dk_at dksX1_slide_0 3 rfl rfl)
theorem dX1_slide_4 : decode cX1_slide 4 = .ok (.iload_n 3, 1) := dk_29 (dk_at dksX1_slide_0 4 rfl rfl)
theorem dX1_slide_5 : decode cX1_slide 5 = .ok (.sipush 200, 3) := dk_17 0 200 (dk_at dksX1_slide_0 5 rfl rfl)
theorem dX1_slide_8 : decode cX1_slide 8 = .ok (.if_icmp .ge 33, 3) := dk_162 0 33 (dk_at dksX1_slide_0 8 rfl rfl)
theorem dX1_slide_11 : decode cX1_slide 11 = .ok (.iload_n 2, 1) := dk_28 (dk_at dksX1_slide_0 11 rfl rfl)
theorem dX1_slide_12 : decode cX1_slide 12 = .ok (.aload_n 0, 1) := dk_42 (dk_at dksX1_slide_0 12 rfl rfl)
theorem dX1_slide_13 : decode cX1_slide 13 = .ok (.getfield 20, 3) := dk_180 0 20 (dk_at dksX1_slide_0 13 rfl rfl)
theorem dX1_slide_16 : decode cX1_slide 16 = .ok (.iload_n 3, 1) := dk_29 (dk_at dksX1_slide_0 16 rfl rfl)
theorem dX1_slide_17 : decode cX1_slide 17 = .ok (.aaload, 1) := dk_50 (dk_at dksX1_slide_0 17 rfl rfl)
theorem dX1_slide_18 : decode cX1_slide 18 = .ok (.ifnonnull 7, 3) := dk_199 0 7 (dk_at dksX1_slide_0 18 rfl rfl)
theorem dX1_slide_21 : decode cX1_slide 21 = .ok (.iconst 0, 1) := dk_3 (dk_at dksX1_slide_0 21 rfl rfl)
theorem dX1_slide_22 : decode cX1_slide 22 = .ok (.goto 4, 3) := dk_167 0 4 (dk_at dksX1_slide_1 0 rfl rfl)
theorem dX1_slide_25 : decode cX1_slide 25 = .ok (.iconst 1, 1) := dk_4 (dk_at dksX1_slide_1 3 rfl rfl)
theorem dX1_slide_26 : decode cX1_slide 26 = .ok (.iadd, 1) := dk_96 (dk_at dksX1_slide_1 4 rfl rfl)
theorem dX1_slide_27 : decode cX1_slide 27 = .ok (.istore_n 2, 1) := dk_61 (dk_at dksX1_slide_1 5 rfl rfl)
theorem dX1_slide_28 : decode cX1_slide 28 = .ok (.aload_n 0, 1) := dk_42 (dk_at dksX1_slide_1 6 rfl rfl)
theorem dX1_slide_29 : decode cX1_slide 29 = .ok (.getfield 31, 3) := dk_180 0 31 (dk_at dksX1_slide_1 7 rfl rfl)
theorem dX1_slide_32 : decode cX1_slide 32 = .ok (.iload_n 3, 1) := dk_29 (dk_at dksX1_slide_1 10 rfl rfl)
theorem dX1_slide_33 : decode cX1_slide 33 = .ok (.iconst (-1), 1) := dk_2 (dk_at dksX1_slide_1 11 rfl rfl)
theorem dX1_slide_34 : decode cX1_slide 34 = .ok (.iastore, 1) := dk_79 (dk_at dksX1_slide_1 12 rfl rfl)
theorem dX1_slide_35 : decode cX1_slide 35 = .ok (.iinc 3 1, 3) := dk_132 3 1 (dk_at dksX1_slide_1 13 rfl rfl)
theorem dX1_slide_38 : decode cX1_slide 38 = .ok (.goto (-34), 3) := dk_167 255 222 (dk_at dksX1_slide_1 16 rfl rfl)
theorem dX1_slide_41 : decode cX1_slide 41 = .ok (.iconst 0, 1) := dk_3 (dk_at dksX1_slide_1 19 rfl rfl)
theorem dX1_slide_42 : decode cX1_slide 42 = .ok (.istore_n 3, 1) := dk_62 (dk_at dksX1_slide_1 20 rfl rfl)
theorem dX1_slide_43 : decode cX1_slide 43 = .ok (.iconst 0, 1) := dk_3 (dk_at dksX1_slide_1 21 rfl rfl)
theorem dX1_slide_44 : decode cX1_slide 44 = .ok (.istore 4, 2) := dk_54 4 (dk_at dksX1_slide_1 22 rfl rfl)
theorem dX1_slide_46 : decode cX1_slide 46 = .ok (.iload 4, 2) := dk_21 4 (dk_at dksX1_slide_2 0 rfl rfl)
theorem dX1_slide_48 : decode cX1_slide 48 = .ok (.aload_n 0, 1) := dk_42 (dk_at dksX1_slide_2 2 rfl rfl)
theorem dX1_slide_49 : decode cX1_slide 49 = .ok (.getfield 12, 3) := dk_180 0 12 (dk_at dksX1_slide_2 3 rfl rfl)
theorem dX1_slide_52 : decode cX1_slide 52 = .ok (.invokevirtual 44, 3) := dk_182 0 44 (dk_at dksX1_slide_2 6 rfl rfl)
theorem dX1_slide_55 : decode cX1_slide 55 = .ok (.if_icmp .ge 68, 3) := dk_162 0 68 (dk_at dksX1_slide_2 9 rfl rfl)
theorem dX1_slide_58 : decode cX1_slide 58 = .ok (.aload_n 0, 1) := dk_42 (dk_at dksX1_slide_2 12 rfl rfl)
theorem dX1_slide_59 : decode cX1_slide 59 = .ok (.getfield 12, 3) := dk_180 0 12 (dk_at dksX1_slide_2 13 rfl rfl)
theorem dX1_slide_62 : decode cX1_slide 62 = .ok (.iload 4, 2) := dk_21 4 (dk_at dksX1_slide_2 16 rfl rfl)
theorem dX1_slide_64 : decode cX1_slide 64 = .ok (.invokevirtual 48, 3) := dk_182 0 48 (dk_at dksX1_slide_2 18 rfl rfl)
theorem dX1_slide_67 : decode cX1_slide 67 = .ok (.checkcast 18, 3) := dk_192 0 18 (dk_at dksX1_slide_2 21 rfl rfl)
theorem dX1_slide_70 : decode cX1_slide 70 = .ok (.astore 5, 2) := dk_58 5 (dk_at dksX1_slide_3 0 rfl rfl)
theorem dX1_slide_72 : decode cX1_slide 72 = .ok (.aload 5, 2) := dk_25 5 (dk_at dksX1_slide_3 2 rfl rfl)
theorem dX1_slide_74 : decode cX1_slide 74 = .ok (.getfield 125, 3) := dk_180 0 125 (dk_at dksX1_slide_3 4 rfl rfl)
theorem dX1_slide_77 : decode cX1_slide 77 = .ok (.ifCond .eq 40, 3) := dk_153 0 40 (dk_at dksX1_slide_3 7 rfl rfl)
theorem dX1_slide_80 : decode cX1_slide 80 = .ok (.aload 5, 2) := dk_25 5 (dk_at dksX1_slide_3 10 rfl rfl)
theorem dX1_slide_82 : decode cX1_slide 82 = .ok (.getfield 114, 3) := dk_180 0 114 (dk_at dksX1_slide_3 12 rfl rfl)
theorem dX1_slide_85 : decode cX1_slide 85 = .ok (.ifCond .eq 11, 3) := dk_153 0 11 (dk_at dksX1_slide_3 15 rfl rfl)
theorem dX1_slide_88 : decode cX1_slide 88 = .ok (.aload 5, 2) := dk_25 5 (dk_at dksX1_slide_3 18 rfl rfl)
theorem dX1_slide_90 : decode cX1_slide 90 = .ok (.getfield 82, 3) := dk_180 0 82 (dk_at dksX1_slide_3 20 rfl rfl)
theorem dX1_slide_93 : decode cX1_slide 93 = .ok (.goto 4, 3) := dk_167 0 4 (dk_at dksX1_slide_4 0 rfl rfl)
theorem dX1_slide_96 : decode cX1_slide 96 = .ok (.iload_n 3, 1) := dk_29 (dk_at dksX1_slide_4 3 rfl rfl)
theorem dX1_slide_97 : decode cX1_slide 97 = .ok (.istore 6, 2) := dk_54 6 (dk_at dksX1_slide_4 4 rfl rfl)
theorem dX1_slide_99 : decode cX1_slide 99 = .ok (.iload 6, 2) := dk_21 6 (dk_at dksX1_slide_4 6 rfl rfl)
theorem dX1_slide_101 : decode cX1_slide 101 = .ok (.aload 5, 2) := dk_25 5 (dk_at dksX1_slide_4 8 rfl rfl)
theorem dX1_slide_103 : decode cX1_slide 103 = .ok (.invokevirtual 128, 3) := dk_182 0 128 (dk_at dksX1_slide_4 10 rfl rfl)
theorem dX1_slide_106 : decode cX1_slide 106 = .ok (.iadd, 1) := dk_96 (dk_at dksX1_slide_4 13 rfl rfl)
theorem dX1_slide_107 : decode cX1_slide 107 = .ok (.istore_n 3, 1) := dk_62 (dk_at dksX1_slide_4 14 rfl rfl)
theorem dX1_slide_108 : decode cX1_slide 108 = .ok (.aload_n 0, 1) := dk_42 (dk_at dksX1_slide_4 15 rfl rfl)
theorem dX1_slide_109 : decode cX1_slide 109 = .ok (.aload 5, 2) := dk_25 5 (dk_at dksX1_slide_4 16 rfl rfl)
theorem dX1_slide_111 : decode cX1_slide 111 = .ok (.iload 6, 2) := dk_21 6 (dk_at dksX1_slide_4 18 rfl rfl)
theorem dX1_slide_113 : decode cX1_slide 113 = .ok (.aload_n 1, 1) := dk_43 (dk_at dksX1_slide_4 20 rfl rfl)
theorem dX1_slide_114 : decode cX1_slide 114 = .ok (.invokevirtual 129, 3) := dk_182 0 129 (dk_at dksX1_slide_4 21 rfl rfl)
theorem dX1_slide_117 : decode cX1_slide 117 = .ok (.iinc 4 1, 3) := dk_132 4 1 (dk_at dksX1_slide_5 0 rfl rfl)
theorem dX1_slide_120 : decode cX1_slide 120 = .ok (.goto (-74), 3) := dk_167 255 182 (dk_at dksX1_slide_5 3 rfl rfl)
theorem dX1_slide_123 : decode cX1_slide 123 = .ok (.aload_n 0, 1) := dk_42 (dk_at dksX1_slide_5 6 rfl rfl)
theorem dX1_slide_124 : decode cX1_slide 124 = .ok (.invokevirtual 133, 3) := dk_182 0 133 (dk_at dksX1_slide_5 7 rfl rfl)
theorem dX1_slide_127 : decode cX1_slide 127 = .ok (.aload_n 0, 1) := dk_42 (dk_at dksX1_slide_5 10 rfl rfl)
theorem dX1_slide_128 : decode cX1_slide 128 = .ok (.invokevirtual 60, 3) := dk_182 0 60 (dk_at dksX1_slide_5 11 rfl rfl)
theorem dX1_slide_131 : decode cX1_slide 131 = .ok (.iload_n 2, 1) := dk_28 (dk_at dksX1_slide_5 14 rfl rfl)
theorem dX1_slide_132 : decode cX1_slide 132 = .ok (.aload_n 1, 1) := dk_43 (dk_at dksX1_slide_5 15 rfl rfl)
theorem dX1_slide_133 : decode cX1_slide 133 = .ok (.getfield 136, 3) := dk_180 0 136 (dk_at dksX1_slide_5 16 rfl rfl)
theorem dX1_slide_136 : decode cX1_slide 136 = .ok (.isub, 1) := dk_100 (dk_at dksX1_slide_5 19 rfl rfl)
theorem dX1_slide_137 : decode cX1_slide 137 = .ok (.ireturn, 1) := dk_172 (dk_at dksX1_slide_5 20 rfl rfl)
abbrev cX1_note : ByteArray := prog_5_method_16_code
def yX1_note : MethodName := ⟨RX1, "note", "(LIslandHeap$Thing;ILIslandHeap$Report;)V"⟩
def dkwX1_note_4 : List UInt8 := [104, 96, 181, 0, 145, 177]
abbrev dktX1_note_4 : List UInt8 := dkwX1_note_4 ++ []
def dkwX1_note_3 : List UInt8 := [3, 167, 0, 4, 4, 96, 181, 0, 142, 45, 89, 180, 0, 145, 43, 182, 0, 128, 43, 180, 0, 82, 28, 100]
abbrev dktX1_note_3 : List UInt8 := dkwX1_note_3 ++ dktX1_note_4
def dkwX1_note_2 : List UInt8 := [180, 0, 136, 43, 182, 0, 128, 96, 181, 0, 136, 45, 89, 180, 0, 142, 28, 43, 180, 0, 82, 160, 0, 7]
abbrev dktX1_note_2 : List UInt8 := dkwX1_note_2 ++ dktX1_note_3
def dkwX1_note_1 : List UInt8 := [21, 4, 96, 79, 132, 4, 1, 167, 255, 228, 45, 89, 180, 0, 139, 4, 96, 181, 0, 139, 45, 89]
abbrev dktX1_note_1 : List UInt8 := dkwX1_note_1 ++ dktX1_note_2
def dkwX1_note_0 : List UInt8 := [3, 54, 4, 21, 4, 43, 182, 0, 128, 162, 0, 25, 42, 180, 0, 31, 43, 180, 0, 82, 21, 4, 96, 28]
abbrev dktX1_note_0 : List UInt8 := dkwX1_note_0 ++ dktX1_note_1
theorem dksX1_note_0 : cX1_note.data.toList.drop 0 = dktX1_note_0 := by decide +kernel
theorem dksX1_note_1 : cX1_note.data.toList.drop 24 = dktX1_note_1 := dk_seg dksX1_note_0 24 rfl rfl
theorem dksX1_note_2 : cX1_note.data.toList.drop 46 = dktX1_note_2 := dk_seg dksX1_note_1 22 rfl rfl
theorem dksX1_note_3 : cX1_note.data.toList.drop 70 = dktX1_note_3 := dk_seg dksX1_note_2 24 rfl rfl
theorem dksX1_note_4 : cX1_note.data.toList.drop 94 = dktX1_note_4 := dk_seg dksX1_note_3 24 rfl rfl
theorem dX1_note_0 : decode cX1_note 0 = .ok (.iconst 0, 1) := dk_3 (dk_at dksX1_note_0 0 rfl rfl)
theorem dX1_note_1 : decode cX1_note 1 = .ok (.istore 4, 2) := dk_54 4 (dk_at dksX1_note_0 1 rfl rfl)
theorem dX1_note_3 : decode cX1_note 3 = .ok (.iload 4, 2) := dk_21 4 (dk_at dksX1_note_0 3 rfl rfl)
theorem dX1_note_5 : decode cX1_note 5 = .ok (.aload_n 1, 1) := dk_43 (dk_at dksX1_note_0 5 rfl rfl)
theorem dX1_note_6 : decode cX1_note 6 = .ok (.invokevirtual 128, 3) := dk_182 0 128 (dk_at dksX1_note_0 6 rfl rfl)
theorem dX1_note_9 : decode cX1_note 9 = .ok (.if_icmp .ge 25, 3) := dk_162 0 25 (dk_at dksX1_note_0 9 rfl rfl)
theorem dX1_note_12 : decode cX1_note 12 = .ok (.aload_n 0, 1) := dk_42 (dk_at dksX1_note_0 12 rfl rfl)
theorem dX1_note_13 : decode cX1_note 13 = .ok (.getfield 31, 3) := dk_180 0 31 (dk_at dksX1_note_0 13 rfl rfl)
theorem dX1_note_16 : decode cX1_note 16 = .ok (.aload_n 1, 1) := dk_43 (dk_at dksX1_note_0 16 rfl rfl)
theorem dX1_note_17 : decode cX1_note 17 = .ok (.getfield 82, 3) := dk_180 0 82 (dk_at dksX1_note_0 17 rfl rfl)
theorem dX1_note_20 : decode cX1_note 20 = .ok (.iload 4, 2) := dk_21 4 (dk_at dksX1_note_0 20 rfl rfl)
theorem dX1_note_22 : decode cX1_note 22 = .ok (.iadd, 1) := dk_96 (dk_at dksX1_note_0 22 rfl rfl)
theorem dX1_note_23 : decode cX1_note 23 = .ok (.iload_n 2, 1) := dk_28 (dk_at dksX1_note_0 23 rfl rfl)
theorem dX1_note_24 : decode cX1_note 24 = .ok (.iload 4, 2) := dk_21 4 (dk_at dksX1_note_1 0 rfl rfl)
theorem dX1_note_26 : decode cX1_note 26 = .ok (.iadd, 1) := dk_96 (dk_at dksX1_note_1 2 rfl rfl)
theorem dX1_note_27 : decode cX1_note 27 = .ok (.iastore, 1) := dk_79 (dk_at dksX1_note_1 3 rfl rfl)
theorem dX1_note_28 : decode cX1_note 28 = .ok (.iinc 4 1, 3) := dk_132 4 1 (dk_at dksX1_note_1 4 rfl rfl)
theorem dX1_note_31 : decode cX1_note 31 = .ok (.goto (-28), 3) := dk_167 255 228 (dk_at dksX1_note_1 7 rfl rfl)
theorem dX1_note_34 : decode cX1_note 34 = .ok (.aload_n 3, 1) := dk_45 (dk_at dksX1_note_1 10 rfl rfl)
theorem dX1_note_35 : decode cX1_note 35 = .ok (.dup, 1) := dk_89 (dk_at dksX1_note_1 11 rfl rfl)
theorem dX1_note_36 : decode cX1_note 36 = .ok (.getfield 139, 3) := dk_180 0 139 (dk_at dksX1_note_1 12 rfl rfl)
theorem dX1_note_39 : decode cX1_note 39 = .ok (.iconst 1, 1) := dk_4 (dk_at dksX1_note_1 15 rfl rfl)
theorem dX1_note_40 : decode cX1_note 40 = .ok (.iadd, 1) := dk_96 (dk_at dksX1_note_1 16 rfl rfl)
theorem dX1_note_41 : decode cX1_note 41 = .ok (.putfield 139, 3) := dk_181 0 139 (dk_at dksX1_note_1 17 rfl rfl)
theorem dX1_note_44 : decode cX1_note 44 = .ok (.aload_n 3, 1) := dk_45 (dk_at dksX1_note_1 20 rfl rfl)
theorem dX1_note_45 : decode cX1_note 45 = .ok (.dup, 1) := dk_89 (dk_at dksX1_note_1 21 rfl rfl)
theorem dX1_note_46 : decode cX1_note 46 = .ok (.getfield 136, 3) := dk_180 0 136 (dk_at dksX1_note_2 0 rfl rfl)
theorem dX1_note_49 : decode cX1_note 49 = .ok (.aload_n 1, 1) := dk_43 (dk_at dksX1_note_2 3 rfl rfl)
theorem dX1_note_50 : decode cX1_note 50 = .ok (.invokevirtual 128, 3) := dk_182 0 128 (dk_at dksX1_note_2 4 rfl rfl)
theorem dX1_note_53 : decode cX1_note 53 = .ok (.iadd, 1) := dk_96 (dk_at dksX1_note_2 7 rfl rfl)
theorem dX1_note_54 : decode cX1_note 54 = .ok (.putfield 136, 3) := dk_181 0 136 (dk_at dksX1_note_2 8 rfl rfl)
theorem dX1_note_57 : decode cX1_note 57 = .ok (.aload_n 3, 1) := dk_45 (dk_at dksX1_note_2 11 rfl rfl)
theorem dX1_note_58 : decode cX1_note 58 = .ok (.dup, 1) := dk_89 (dk_at dksX1_note_2 12 rfl rfl)
theorem dX1_note_59 : decode cX1_note 59 = .ok (.getfield 142, 3) := dk_180 0 142 (dk_at dksX1_note_2 13 rfl rfl)
theorem dX1_note_62 : decode cX1_note 62 = .ok (.iload_n 2, 1) := dk_28 (dk_at dksX1_note_2 16 rfl rfl)
theorem dX1_note_63 : decode cX1_note 63 = .ok (.aload_n 1, 1) := dk_43 (dk_at dksX1_note_2 17 rfl rfl)
theorem dX1_note_64 : decode cX1_note 64 = .ok (.getfield 82, 3) := dk_180 0 82 (dk_at dksX1_note_2 18 rfl rfl)
theorem dX1_note_67 : decode cX1_note 67 = .ok (.if_icmp .ne 7, 3) := dk_160 0 7 (dk_at dksX1_note_2 21 rfl rfl)
theorem dX1_note_70 : decode cX1_note 70 = .ok (.iconst 0, 1) := dk_3 (dk_at dksX1_note_3 0 rfl rfl)
theorem dX1_note_71 : decode cX1_note 71 = .ok (.goto 4, 3) := dk_167 0 4 (dk_at dksX1_note_3 1 rfl rfl)
theorem dX1_note_74 : decode cX1_note 74 = .ok (.iconst 1, 1) := dk_4 (dk_at dksX1_note_3 4 rfl rfl)
theorem dX1_note_75 : decode cX1_note 75 = .ok (.iadd, 1) := dk_96 (dk_at dksX1_note_3 5 rfl rfl)
theorem dX1_note_76 : decode cX1_note 76 = .ok (.putfield 142, 3) := dk_181 0 142 (dk_at dksX1_note_3 6 rfl rfl)
theorem dX1_note_79 : decode cX1_note 79 = .ok (.aload_n 3, 1) := dk_45 (dk_at dksX1_note_3 9 rfl rfl)
theorem dX1_note_80 : decode cX1_note 80 = .ok (.dup, 1) := dk_89 (dk_at dksX1_note_3 10 rfl rfl)
theorem dX1_note_81 : decode cX1_note 81 = .ok (.getfield 145, 3) := dk_180 0 145 (dk_at dksX1_note_3 11 rfl rfl)
theorem dX1_note_84 : decode cX1_note 84 = .ok (.aload_n 1, 1) := dk_43 (dk_at dksX1_note_3 14 rfl rfl)
theorem dX1_note_85 : decode cX1_note 85 = .ok (.invokevirtual 128, 3) := dk_182 0 128 (dk_at dksX1_note_3 15 rfl rfl)
theorem dX1_note_88 : decode cX1_note 88 = .ok (.aload_n 1, 1) := dk_43 (dk_at dksX1_note_3 18 rfl rfl)
theorem dX1_note_89 : decode cX1_note 89 = .ok (.getfield 82, 3) := dk_180 0 82 (dk_at dksX1_note_3 19 rfl rfl)
theorem dX1_note_92 : decode cX1_note 92 = .ok (.iload_n 2, 1) := dk_28 (dk_at dksX1_note_3 22 rfl rfl)
theorem dX1_note_93 : decode cX1_note 93 = .ok (.isub, 1) := dk_100 (dk_at dksX1_note_3 23 rfl rfl)
theorem dX1_note_94 : decode cX1_note 94 = .ok (.imul, 1) := dk_104 (dk_at dksX1_note_4 0 rfl rfl)
theorem dX1_note_95 : decode cX1_note 95 = .ok (.iadd, 1) := dk_96 (dk_at dksX1_note_4 1 rfl rfl)
theorem dX1_note_96 : decode cX1_note 96 = .ok (.putfield 145, 3) := dk_181 0 145 (dk_at dksX1_note_4 2 rfl rfl)
theorem dX1_note_99 : decode cX1_note 99 = .ok (.return_, 1) := dk_177 (dk_at dksX1_note_4 5 rfl rfl)
abbrev cX1_settle : ByteArray := prog_5_method_17_code
def yX1_settle : MethodName := ⟨RX1, "settle", "()V"⟩
def dkwX1_settle_5 : List UInt8 := [180, 0, 28, 182, 0, 154, 177]
abbrev dktX1_settle_5 : List UInt8 := dkwX1_settle_5 ++ []
def dkwX1_settle_4 : List UInt8 := [42, 44, 180, 0, 122, 182, 0, 154, 132, 1, 1, 167, 255, 199, 42, 42, 180, 0, 24, 182, 0, 154, 42, 42]
abbrev dktX1_settle_4 : List UInt8 := dkwX1_settle_4 ++ dktX1_settle_5
def dkwX1_settle_3 : List UInt8 := [77, 44, 42, 180, 0, 31, 44, 180, 0, 82, 46, 181, 0, 82, 44, 89, 180, 0, 151, 4, 96, 181, 0, 151]
abbrev dktX1_settle_3 : List UInt8 := dkwX1_settle_3 ++ dktX1_settle_4
def dkwX1_settle_2 : List UInt8 := [3, 60, 27, 42, 180, 0, 12, 182, 0, 44, 162, 0, 52, 42, 180, 0, 12, 27, 182, 0, 48, 192, 0, 18]
abbrev dktX1_settle_2 : List UInt8 := dkwX1_settle_2 ++ dktX1_settle_3
def dkwX1_settle_1 : List UInt8 := [192, 0, 18, 180, 0, 125, 154, 0, 12, 42, 180, 0, 12, 27, 182, 0, 148, 87, 132, 1, 255, 167, 255, 223]
abbrev dktX1_settle_1 : List UInt8 := dkwX1_settle_1 ++ dktX1_settle_2
def dkwX1_settle_0 : List UInt8 := [42, 180, 0, 12, 182, 0, 44, 4, 100, 60, 27, 155, 0, 35, 42, 180, 0, 12, 27, 182, 0, 48]
abbrev dktX1_settle_0 : List UInt8 := dkwX1_settle_0 ++ dktX1_settle_1
theorem dksX1_settle_0 : cX1_settle.data.toList.drop 0 = dktX1_settle_0 := by decide +kernel
theorem dksX1_settle_1 : cX1_settle.data.toList.drop 22 = dktX1_settle_1 := dk_seg dksX1_settle_0 22 rfl rfl
theorem dksX1_settle_2 : cX1_settle.data.toList.drop 46 = dktX1_settle_2 := dk_seg dksX1_settle_1 24 rfl rfl
theorem dksX1_settle_3 : cX1_settle.data.toList.drop 70 = dktX1_settle_3 := dk_seg dksX1_settle_2 24 rfl rfl
theorem dksX1_settle_4 : cX1_settle.data.toList.drop 94 = dktX1_settle_4 := dk_seg dksX1_settle_3 24 rfl rfl
theorem dksX1_settle_5 : cX1_settle.data.toList.drop 118 = dktX1_settle_5 := dk_seg dksX1_settle_4 24 rfl rfl
theorem dX1_settle_0 : decode cX1_settle 0 = .ok (.aload_n 0, 1) := dk_42 (dk_at dksX1_settle_0 0 rfl rfl)
theorem dX1_settle_1 : decode cX1_settle 1 = .ok (.getfield 12, 3) := dk_180 0 12 (dk_at dksX1_settle_0 1 rfl rfl)
theorem dX1_settle_4 : decode cX1_settle 4 = .ok (.invokevirtual 44, 3) := dk_182 0 44 (dk_at dksX1_settle_0 4 rfl rfl)
theorem dX1_settle_7 : decode cX1_settle 7 = .ok (.iconst 1, 1) := dk_4 (dk_at dksX1_settle_0 7 rfl rfl)
theorem dX1_settle_8 : decode cX1_settle 8 = .ok (.isub, 1) := dk_100 (dk_at dksX1_settle_0 8 rfl rfl)
theorem dX1_settle_9 : decode cX1_settle 9 = .ok (.istore_n 1, 1) := dk_60 (dk_at dksX1_settle_0 9 rfl rfl)
theorem dX1_settle_10 : decode cX1_settle 10 = .ok (.iload_n 1, 1) := dk_27 (dk_at dksX1_settle_0 10 rfl rfl)
theorem dX1_settle_11 : decode cX1_settle 11 = .ok (.ifCond .lt 35, 3) := dk_155 0 35 (dk_at dksX1_settle_0 11 rfl rfl)
theorem dX1_settle_14 : decode cX1_settle 14 = .ok (.aload_n 0, 1) := dk_42 (dk_at dksX1_settle_0 14 rfl rfl)
theorem dX1_settle_15 : decode cX1_settle 15 = .ok (.getfield 12, 3) := dk_180 0 12 (dk_at dksX1_settle_0 15 rfl rfl)
theorem dX1_settle_18 : decode cX1_settle 18 = .ok (.iload_n 1, 1) := dk_27 (dk_at dksX1_settle_0 18 rfl rfl)
theorem dX1_settle_19 : decode cX1_settle 19 = .ok (.invokevirtual 48, 3) := dk_182 0 48 (dk_at dksX1_settle_0 19 rfl rfl)
theorem dX1_settle_22 : decode cX1_settle 22 = .ok (.checkcast 18, 3) := dk_192 0 18 (dk_at dksX1_settle_1 0 rfl rfl)
theorem dX1_settle_25 : decode cX1_settle 25 = .ok (.getfield 125, 3) := dk_180 0 125 (dk_at dksX1_settle_1 3 rfl rfl)
theorem dX1_settle_28 : decode cX1_settle 28 = .ok (.ifCond .ne 12, 3) := dk_154 0 12 (dk_at dksX1_settle_1 6 rfl rfl)
theorem dX1_settle_31 : decode cX1_settle 31 = .ok (.aload_n 0, 1) := dk_42 (dk_at dksX1_settle_1 9 rfl rfl)
theorem dX1_settle_32 : decode cX1_settle 32 = .ok (.getfield 12, 3) := dk_180 0 12 (dk_at dksX1_settle_1 10 rfl rfl)
theorem dX1_settle_35 : decode cX1_settle 35 = .ok (.iload_n 1, 1) := dk_27 (dk_at dksX1_settle_1 13 rfl rfl)
theorem dX1_settle_36 : decode cX1_settle 36 = .ok (.invokevirtual 148, 3) := dk_182 0 148 (dk_at dksX1_settle_1 14 rfl rfl)
theorem dX1_settle_39 : decode cX1_settle 39 = .ok (.pop, 1) := dk_87 (dk_at dksX1_settle_1 17 rfl rfl)
theorem dX1_settle_40 : decode cX1_settle 40 = .ok (.iinc 1 (-1), 3) := dk_132 1 255 (dk_at dksX1_settle_1 18 rfl rfl)
theorem dX1_settle_43 : decode cX1_settle 43 = .ok (.goto (-33), 3) := dk_167 255 223 (dk_at dksX1_settle_1 21 rfl rfl)
theorem dX1_settle_46 : decode cX1_settle 46 = .ok (.iconst 0, 1) := dk_3 (dk_at dksX1_settle_2 0 rfl rfl)
theorem dX1_settle_47 : decode cX1_settle 47 = .ok (.istore_n 1, 1) := dk_60 (dk_at dksX1_settle_2 1 rfl rfl)
theorem dX1_settle_48 : decode cX1_settle 48 = .ok (.iload_n 1, 1) := dk_27 (dk_at dksX1_settle_2 2 rfl rfl)
theorem dX1_settle_49 : decode cX1_settle 49 = .ok (.aload_n 0, 1) := dk_42 (dk_at dksX1_settle_2 3 rfl rfl)
theorem dX1_settle_50 : decode cX1_settle 50 = .ok (.getfield 12, 3) := dk_180 0 12 (dk_at dksX1_settle_2 4 rfl rfl)
theorem dX1_settle_53 : decode cX1_settle 53 = .ok (.invokevirtual 44, 3) := dk_182 0 44 (dk_at dksX1_settle_2 7 rfl rfl)
theorem dX1_settle_56 : decode cX1_settle 56 = .ok (.if_icmp .ge 52, 3) := dk_162 0 52 (dk_at dksX1_settle_2 10 rfl rfl)
theorem dX1_settle_59 : decode cX1_settle 59 = .ok (.aload_n 0, 1) := dk_42 (dk_at dksX1_settle_2 13 rfl rfl)
theorem dX1_settle_60 : decode cX1_settle 60 = .ok (.getfield 12, 3) := dk_180 0 12 (dk_at dksX1_settle_2 14 rfl rfl)
theorem dX1_settle_63 : decode cX1_settle 63 = .ok (.iload_n 1, 1) := dk_27 (dk_at dksX1_settle_2 17 rfl rfl)
theorem dX1_settle_64 : decode cX1_settle 64 = .ok (.invokevirtual 48, 3) := dk_182 0 48 (dk_at dksX1_settle_2 18 rfl rfl)
theorem dX1_settle_67 : decode cX1_settle 67 = .ok (.checkcast 18, 3) := dk_192 0 18 (dk_at dksX1_settle_2 21 rfl rfl)
theorem dX1_settle_70 : decode cX1_settle 70 = .ok (.astore_n 2, 1) := dk_77 (dk_at dksX1_settle_3 0 rfl rfl)
theorem dX1_settle_71 : decode cX1_settle 71 = .ok (.aload_n 2, 1) := dk_44 (dk_at dksX1_settle_3 1 rfl rfl)
theorem dX1_settle_72 : decode cX1_settle 72 = .ok (.aload_n 0, 1) := dk_42 (dk_at dksX1_settle_3 2 rfl rfl)
theorem dX1_settle_73 : decode cX1_settle 73 = .ok (.getfield 31, 3) := dk_180 0 31 (dk_at dksX1_settle_3 3 rfl rfl)
theorem dX1_settle_76 : decode cX1_settle 76 = .ok (.aload_n 2, 1) := dk_44 (dk_at dksX1_settle_3 6 rfl rfl)
theorem dX1_settle_77 : decode cX1_settle 77 = .ok (.getfield 82, 3) := dk_180 0 82 (dk_at dksX1_settle_3 7 rfl rfl)
theorem dX1_settle_80 : decode cX1_settle 80 = .ok (.iaload, 1) := dk_46 (dk_at dksX1_settle_3 10 rfl rfl)
theorem dX1_settle_81 : decode cX1_settle 81 = .ok (.putfield 82, 3) := dk_181 0 82 (dk_at dksX1_settle_3 11 rfl rfl)
theorem dX1_settle_84 : decode cX1_settle 84 = .ok (.aload_n 2, 1) := dk_44 (dk_at dksX1_settle_3 14 rfl rfl)
theorem dX1_settle_85 : decode cX1_settle 85 = .ok (.dup, 1) := dk_89 (dk_at dksX1_settle_3 15 rfl rfl)
theorem dX1_settle_86 : decode cX1_settle 86 = .ok (.getfield 151, 3) := dk_180 0 151 (dk_at dksX1_settle_3 16 rfl rfl)
theorem dX1_settle_89 : decode cX1_settle 89 = .ok (.iconst 1, 1) := dk_4 (dk_at dksX1_settle_3 19 rfl rfl)
theorem dX1_settle_90 : decode cX1_settle 90 = .ok (.iadd, 1) := dk_96 (dk_at dksX1_settle_3 20 rfl rfl)
theorem dX1_settle_91 : decode cX1_settle 91 = .ok (.putfield 151, 3) := dk_181 0 151 (dk_at dksX1_settle_3 21 rfl rfl)
theorem dX1_settle_94 : decode cX1_settle 94 = .ok (.aload_n 0, 1) := dk_42 (dk_at dksX1_settle_4 0 rfl rfl)
theorem dX1_settle_95 : decode cX1_settle 95 = .ok (.aload_n 2, 1) := dk_44 (dk_at dksX1_settle_4 1 rfl rfl)
theorem dX1_settle_96 : decode cX1_settle 96 = .ok (.getfield 122, 3) := dk_180 0 122 (dk_at dksX1_settle_4 2 rfl rfl)
theorem dX1_settle_99 : decode cX1_settle 99 = .ok (.invokevirtual 154, 3) := dk_182 0 154 (dk_at dksX1_settle_4 5 rfl rfl)
theorem dX1_settle_102 : decode cX1_settle 102 = .ok (.iinc 1 1, 3) := dk_132 1 1 (dk_at dksX1_settle_4 8 rfl rfl)
theorem dX1_settle_105 : decode cX1_settle 105 = .ok (.goto (-57), 3) := dk_167 255 199 (dk_at dksX1_settle_4 11 rfl rfl)
theorem dX1_settle_108 : decode cX1_settle 108 = .ok (.aload_n 0, 1) := dk_42 (dk_at dksX1_settle_4 14 rfl rfl)
theorem dX1_settle_109 : decode cX1_settle 109 = .ok (.aload_n 0, 1) := dk_42 (dk_at dksX1_settle_4 15 rfl rfl)
theorem dX1_settle_110 : decode cX1_settle 110 = .ok (.getfield 24, 3) := dk_180 0 24 (dk_at dksX1_settle_4 16 rfl rfl)
theorem dX1_settle_113 : decode cX1_settle 113 = .ok (.invokevirtual 154, 3) := dk_182 0 154 (dk_at dksX1_settle_4 19 rfl rfl)
theorem dX1_settle_116 : decode cX1_settle 116 = .ok (.aload_n 0, 1) := dk_42 (dk_at dksX1_settle_4 22 rfl rfl)
theorem dX1_settle_117 : decode cX1_settle 117 = .ok (.aload_n 0, 1) := dk_42 (dk_at dksX1_settle_4 23 rfl rfl)
theorem dX1_settle_118 : decode cX1_settle 118 = .ok (.getfield 28, 3) := dk_180 0 28 (dk_at dksX1_settle_5 0 rfl rfl)
theorem dX1_settle_121 : decode cX1_settle 121 = .ok (.invokevirtual 154, 3) := dk_182 0 154 (dk_at dksX1_settle_5 3 rfl rfl)
theorem dX1_settle_124 : decode cX1_settle 124 = .ok (.return_, 1) := dk_177 (dk_at dksX1_settle_5 6 rfl rfl)
abbrev cX1_correct : ByteArray := prog_5_method_14_code
def yX1_correct : MethodName := ⟨RX1, "correct", "([I)V"⟩
def dkwX1_correct_1 : List UInt8 := [180, 0, 31, 43, 28, 46, 46, 79, 132, 2, 1, 167, 255, 225, 177]
abbrev dktX1_correct_1 : List UInt8 := dkwX1_correct_1 ++ []
def dkwX1_correct_0 : List UInt8 := [3, 61, 28, 43, 190, 162, 0, 31, 43, 28, 43, 28, 46, 2, 160, 0, 7, 2, 167, 0, 11, 42]
abbrev dktX1_correct_0 : List UInt8 := dkwX1_correct_0 ++ dktX1_correct_1
theorem dksX1_correct_0 : cX1_correct.data.toList.drop 0 = dktX1_correct_0 := by decide +kernel
theorem dksX1_correct_1 : cX1_correct.data.toList.drop 22 = dktX1_correct_1 := dk_seg dksX1_correct_0 22 rfl rfl
theorem dX1_correct_0 : decode cX1_correct 0 = .ok (.iconst 0, 1) := dk_3 (dk_at dksX1_correct_0 0 rfl rfl)
theorem dX1_correct_1 : decode cX1_correct 1 = .ok (.istore_n 2, 1) := dk_61 (dk_at dksX1_correct_0 1 rfl rfl)
theorem dX1_correct_2 : decode cX1_correct 2 = .ok (.iload_n 2, 1) := dk_28 (dk_at dksX1_correct_0 2 rfl rfl)
theorem dX1_correct_3 : decode cX1_correct 3 = .ok (.aload_n 1, 1) := dk_43 (dk_at dksX1_correct_0 3 rfl rfl)
theorem dX1_correct_4 : decode cX1_correct 4 = .ok (.arraylength, 1) := dk_190 (dk_at dksX1_correct_0 4 rfl rfl)
theorem dX1_correct_5 : decode cX1_correct 5 = .ok (.if_icmp .ge 31, 3) := dk_162 0 31 (dk_at dksX1_correct_0 5 rfl rfl)
theorem dX1_correct_8 : decode cX1_correct 8 = .ok (.aload_n 1, 1) := dk_43 (dk_at dksX1_correct_0 8 rfl rfl)
theorem dX1_correct_9 : decode cX1_correct 9 = .ok (.iload_n 2, 1) := dk_28 (dk_at dksX1_correct_0 9 rfl rfl)
theorem dX1_correct_10 : decode cX1_correct 10 = .ok (.aload_n 1, 1) := dk_43 (dk_at dksX1_correct_0 10 rfl rfl)
theorem dX1_correct_11 : decode cX1_correct 11 = .ok (.iload_n 2, 1) := dk_28 (dk_at dksX1_correct_0 11 rfl rfl)
theorem dX1_correct_12 : decode cX1_correct 12 = .ok (.iaload, 1) := dk_46 (dk_at dksX1_correct_0 12 rfl rfl)
theorem dX1_correct_13 : decode cX1_correct 13 = .ok (.iconst (-1), 1) := dk_2 (dk_at dksX1_correct_0 13 rfl rfl)
theorem dX1_correct_14 : decode cX1_correct 14 = .ok (.if_icmp .ne 7, 3) := dk_160 0 7 (dk_at dksX1_correct_0 14 rfl rfl)
theorem dX1_correct_17 : decode cX1_correct 17 = .ok (.iconst (-1), 1) := dk_2 (dk_at dksX1_correct_0 17 rfl rfl)
theorem dX1_correct_18 : decode cX1_correct 18 = .ok (.goto 11, 3) := dk_167 0 11 (dk_at dksX1_correct_0 18 rfl rfl)
theorem dX1_correct_21 : decode cX1_correct 21 = .ok (.aload_n 0, 1) := dk_42 (dk_at dksX1_correct_0 21 rfl rfl)
theorem dX1_correct_22 : decode cX1_correct 22 = .ok (.getfield 31, 3) := dk_180 0 31 (dk_at dksX1_correct_1 0 rfl rfl)
theorem dX1_correct_25 : decode cX1_correct 25 = .ok (.aload_n 1, 1) := dk_43 (dk_at dksX1_correct_1 3 rfl rfl)
theorem dX1_correct_26 : decode cX1_correct 26 = .ok (.iload_n 2, 1) := dk_28 (dk_at dksX1_correct_1 4 rfl rfl)
theorem dX1_correct_27 : decode cX1_correct 27 = .ok (.iaload, 1) := dk_46 (dk_at dksX1_correct_1 5 rfl rfl)
theorem dX1_correct_28 : decode cX1_correct 28 = .ok (.iaload, 1) := dk_46 (dk_at dksX1_correct_1 6 rfl rfl)
theorem dX1_correct_29 : decode cX1_correct 29 = .ok (.iastore, 1) := dk_79 (dk_at dksX1_correct_1 7 rfl rfl)
theorem dX1_correct_30 : decode cX1_correct 30 = .ok (.iinc 2 1, 3) := dk_132 2 1 (dk_at dksX1_correct_1 8 rfl rfl)
theorem dX1_correct_33 : decode cX1_correct 33 = .ok (.goto (-31), 3) := dk_167 255 225 (dk_at dksX1_correct_1 11 rfl rfl)
theorem dX1_correct_36 : decode cX1_correct 36 = .ok (.return_, 1) := dk_177 (dk_at dksX1_correct_1 14 rfl rfl)
abbrev cX1_occupy : ByteArray := prog_5_method_3_code
def yX1_occupy : MethodName := ⟨RX1, "occupy", "()V"⟩
def dkwX1_occupy_3 : List UInt8 := [167, 255, 238, 132, 1, 1, 167, 255, 204, 177]
abbrev dktX1_occupy_3 : List UInt8 := dkwX1_occupy_3 ++ []
def dkwX1_occupy_2 : List UInt8 := [180, 0, 82, 62, 29, 44, 182, 0, 85, 162, 0, 16, 42, 180, 0, 20, 29, 44, 83, 132, 3, 1]
abbrev dktX1_occupy_2 : List UInt8 := dkwX1_occupy_2 ++ dktX1_occupy_3
def dkwX1_occupy_1 : List UInt8 := [27, 42, 180, 0, 12, 182, 0, 44, 162, 0, 47, 42, 180, 0, 12, 27, 182, 0, 48, 192, 0, 18, 77, 44]
abbrev dktX1_occupy_1 : List UInt8 := dkwX1_occupy_1 ++ dktX1_occupy_2
def dkwX1_occupy_0 : List UInt8 := [3, 60, 27, 17, 0, 200, 162, 0, 16, 42, 180, 0, 20, 27, 1, 83, 132, 1, 1, 167, 255, 239, 3, 60]
abbrev dktX1_occupy_0 : List UInt8 := dkwX1_occupy_0 ++ dktX1_occupy_1
theorem dksX1_occupy_0 : cX1_occupy.data.toList.drop 0 = dktX1_occupy_0 := by decide +kernel
theorem dksX1_occupy_1 : cX1_occupy.data.toList.drop 24 = dktX1_occupy_1 := dk_seg dksX1_occupy_0 24 rfl rfl
theorem dksX1_occupy_2 : cX1_occupy.data.toList.drop 48 = dktX1_occupy_2 := dk_seg dksX1_occupy_1 24 rfl rfl
theorem dksX1_occupy_3 : cX1_occupy.data.toList.drop 70 = dktX1_occupy_3 := dk_seg dksX1_occupy_2 22 rfl rfl
theorem dX1_occupy_0 : decode cX1_occupy 0 = .ok (.iconst 0, 1) := dk_3 (dk_at dksX1_occupy_0 0 rfl rfl)
theorem dX1_occupy_1 : decode cX1_occupy 1 = .ok (.istore_n 1, 1) := dk_60 (dk_at dksX1_occupy_0 1 rfl rfl)
theorem dX1_occupy_2 : decode cX1_occupy 2 = .ok (.iload_n 1, 1) := dk_27 (dk_at dksX1_occupy_0 2 rfl rfl)
theorem dX1_occupy_3 : decode cX1_occupy 3 = .ok (.sipush 200, 3) := dk_17 0 200 (dk_at dksX1_occupy_0 3 rfl rfl)
theorem dX1_occupy_6 : decode cX1_occupy 6 = .ok (.if_icmp .ge 16, 3) := dk_162 0 16 (dk_at dksX1_occupy_0 6 rfl rfl)
theorem dX1_occupy_9 : decode cX1_occupy 9 = .ok (.aload_n 0, 1) := dk_42 (dk_at dksX1_occupy_0 9 rfl rfl)
theorem dX1_occupy_10 : decode cX1_occupy 10 = .ok (.getfield 20, 3) := dk_180 0 20 (dk_at dksX1_occupy_0 10 rfl rfl)
theorem dX1_occupy_13 : decode cX1_occupy 13 = .ok (.iload_n 1, 1) := dk_27 (dk_at dksX1_occupy_0 13 rfl rfl)
theorem dX1_occupy_14 : decode cX1_occupy 14 = .ok (.aconst_null, 1) := dk_1 (dk_at dksX1_occupy_0 14 rfl rfl)
theorem dX1_occupy_15 : decode cX1_occupy 15 = .ok (.aastore, 1) := dk_83 (dk_at dksX1_occupy_0 15 rfl rfl)
theorem dX1_occupy_16 : decode cX1_occupy 16 = .ok (.iinc 1 1, 3) := dk_132 1 1 (dk_at dksX1_occupy_0 16 rfl rfl)
theorem dX1_occupy_19 : decode cX1_occupy 19 = .ok (.goto (-17), 3) := dk_167 255 239 (dk_at dksX1_occupy_0 19 rfl rfl)
theorem dX1_occupy_22 : decode cX1_occupy 22 = .ok (.iconst 0, 1) := dk_3 (dk_at dksX1_occupy_0 22 rfl rfl)
theorem dX1_occupy_23 : decode cX1_occupy 23 = .ok (.istore_n 1, 1) := dk_60 (dk_at dksX1_occupy_0 23 rfl rfl)
theorem dX1_occupy_24 : decode cX1_occupy 24 = .ok (.iload_n 1, 1) := dk_27 (dk_at dksX1_occupy_1 0 rfl rfl)
theorem dX1_occupy_25 : decode cX1_occupy 25 = .ok (.aload_n 0, 1) := dk_42 (dk_at dksX1_occupy_1 1 rfl rfl)
theorem dX1_occupy_26 : decode cX1_occupy 26 = .ok (.getfield 12, 3) := dk_180 0 12 (dk_at dksX1_occupy_1 2 rfl rfl)
theorem dX1_occupy_29 : decode cX1_occupy 29 = .ok (.invokevirtual 44, 3) := dk_182 0 44 (dk_at dksX1_occupy_1 5 rfl rfl)
theorem dX1_occupy_32 : decode cX1_occupy 32 = .ok (.if_icmp .ge 47, 3) := dk_162 0 47 (dk_at dksX1_occupy_1 8 rfl rfl)
theorem dX1_occupy_35 : decode cX1_occupy 35 = .ok (.aload_n 0, 1) := dk_42 (dk_at dksX1_occupy_1 11 rfl rfl)
theorem dX1_occupy_36 : decode cX1_occupy 36 = .ok (.getfield 12, 3) := dk_180 0 12 (dk_at dksX1_occupy_1 12 rfl rfl)
theorem dX1_occupy_39 : decode cX1_occupy 39 = .ok (.iload_n 1, 1) := dk_27 (dk_at dksX1_occupy_1 15 rfl rfl)
theorem dX1_occupy_40 : decode cX1_occupy 40 = .ok (.invokevirtual 48, 3) := dk_182 0 48 (dk_at dksX1_occupy_1 16 rfl rfl)
theorem dX1_occupy_43 : decode cX1_occupy 43 = .ok (.checkcast 18, 3) := dk_192 0 18 (dk_at dksX1_occupy_1 19 rfl rfl)
theorem dX1_occupy_46 : decode cX1_occupy 46 = .ok (.astore_n 2, 1) := dk_77 (dk_at dksX1_occupy_1 22 rfl rfl)
theorem dX1_occupy_47 : decode cX1_occupy 47 = .ok (.aload_n 2, 1) := dk_44 (dk_at dksX1_occupy_1 23 rfl rfl)
theorem dX1_occupy_48 : decode cX1_occupy 48 = .ok (.getfield 82, 3) := dk_180 0 82 (dk_at dksX1_occupy_2 0 rfl rfl)
theorem dX1_occupy_51 : decode cX1_occupy 51 = .ok (.istore_n 3, 1) := dk_62 (dk_at dksX1_occupy_2 3 rfl rfl)
theorem dX1_occupy_52 : decode cX1_occupy 52 = .ok (.iload_n 3, 1) := dk_29 (dk_at dksX1_occupy_2 4 rfl rfl)
theorem dX1_occupy_53 : decode cX1_occupy 53 = .ok (.aload_n 2, 1) := dk_44 (dk_at dksX1_occupy_2 5 rfl rfl)
theorem dX1_occupy_54 : decode cX1_occupy 54 = .ok (.invokevirtual 85, 3) := dk_182 0 85 (dk_at dksX1_occupy_2 6 rfl rfl)
theorem dX1_occupy_57 : decode cX1_occupy 57 = .ok (.if_icmp .ge 16, 3) := dk_162 0 16 (dk_at dksX1_occupy_2 9 rfl rfl)
theorem dX1_occupy_60 : decode cX1_occupy 60 = .ok (.aload_n 0, 1) := dk_42 (dk_at dksX1_occupy_2 12 rfl rfl)
theorem dX1_occupy_61 : decode cX1_occupy 61 = .ok (.getfield 20, 3) := dk_180 0 20 (dk_at dksX1_occupy_2 13 rfl rfl)
theorem dX1_occupy_64 : decode cX1_occupy 64 = .ok (.iload_n 3, 1) := dk_29 (dk_at dksX1_occupy_2 16 rfl rfl)
theorem dX1_occupy_65 : decode cX1_occupy 65 = .ok (.aload_n 2, 1) := dk_44 (dk_at dksX1_occupy_2 17 rfl rfl)
theorem dX1_occupy_66 : decode cX1_occupy 66 = .ok (.aastore, 1) := dk_83 (dk_at dksX1_occupy_2 18 rfl rfl)
theorem dX1_occupy_67 : decode cX1_occupy 67 = .ok (.iinc 3 1, 3) := dk_132 3 1 (dk_at dksX1_occupy_2 19 rfl rfl)
theorem dX1_occupy_70 : decode cX1_occupy 70 = .ok (.goto (-18), 3) := dk_167 255 238 (dk_at dksX1_occupy_3 0 rfl rfl)
theorem dX1_occupy_73 : decode cX1_occupy 73 = .ok (.iinc 1 1, 3) := dk_132 1 1 (dk_at dksX1_occupy_3 3 rfl rfl)
theorem dX1_occupy_76 : decode cX1_occupy 76 = .ok (.goto (-52), 3) := dk_167 255 204 (dk_at dksX1_occupy_3 6 rfl rfl)
theorem dX1_occupy_79 : decode cX1_occupy 79 = .ok (.return_, 1) := dk_177 (dk_at dksX1_occupy_3 9 rfl rfl)
abbrev cX1_init_2 : ByteArray := prog_5_method_2_code
def yX1_init_2 : MethodName := ⟨RX1, "<init>", "(LIslandHeap$Heap;)V"⟩
def dkwX1_init_2_5 : List UInt8 := [181, 0, 78, 43, 180, 0, 31, 3, 42, 180, 0, 31, 3, 17, 0, 200, 184, 0, 63, 177]
abbrev dktX1_init_2_5 : List UInt8 := dkwX1_init_2_5 ++ []
def dkwX1_init_2_4 : List UInt8 := [181, 0, 69, 42, 43, 180, 0, 72, 181, 0, 72, 42, 43, 180, 0, 75, 181, 0, 75, 42, 43, 180, 0, 78]
abbrev dktX1_init_2_4 : List UInt8 := dkwX1_init_2_4 ++ dktX1_init_2_5
def dkwX1_init_2_3 : List UInt8 := [184, 0, 63, 43, 180, 0, 28, 3, 42, 180, 0, 28, 3, 7, 184, 0, 63, 42, 43, 180, 0, 69]
abbrev dktX1_init_2_3 : List UInt8 := dkwX1_init_2_3 ++ dktX1_init_2_4
def dkwX1_init_2_2 : List UInt8 := [87, 132, 2, 1, 167, 255, 220, 42, 182, 0, 60, 43, 180, 0, 24, 3, 42, 180, 0, 24, 3, 16, 6]
abbrev dktX1_init_2_2 : List UInt8 := dkwX1_init_2_2 ++ dktX1_init_2_3
def dkwX1_init_2_1 : List UInt8 := [162, 0, 31, 42, 180, 0, 12, 43, 180, 0, 12, 28, 182, 0, 48, 192, 0, 18, 182, 0, 52, 182, 0, 56]
abbrev dktX1_init_2_1 : List UInt8 := dkwX1_init_2_1 ++ dktX1_init_2_2
def dkwX1_init_2_0 : List UInt8 := [42, 43, 180, 0, 34, 43, 180, 0, 38, 183, 0, 41, 3, 61, 28, 43, 180, 0, 12, 182, 0, 44]
abbrev dktX1_init_2_0 : List UInt8 := dkwX1_init_2_0 ++ dktX1_init_2_1
theorem dksX1_init_2_0 : cX1_init_2.data.toList.drop 0 = dktX1_init_2_0 := by decide +kernel
theorem dksX1_init_2_1 : cX1_init_2.data.toList.drop 22 = dktX1_init_2_1 := dk_seg dksX1_init_2_0 22 rfl rfl
theorem dksX1_init_2_2 : cX1_init_2.data.toList.drop 46 = dktX1_init_2_2 := dk_seg dksX1_init_2_1 24 rfl rfl
theorem dksX1_init_2_3 : cX1_init_2.data.toList.drop 69 = dktX1_init_2_3 := dk_seg dksX1_init_2_2 23 rfl rfl
theorem dksX1_init_2_4 : cX1_init_2.data.toList.drop 91 = dktX1_init_2_4 := dk_seg dksX1_init_2_3 22 rfl rfl
theorem dksX1_init_2_5 : cX1_init_2.data.toList.drop 115 = dktX1_init_2_5 := dk_seg dksX1_init_2_4 24 rfl rfl
theorem dX1_init_2_0 : decode cX1_init_2 0 = .ok (.aload_n 0, 1) := dk_42 (dk_at dksX1_init_2_0 0 rfl rfl)
theorem dX1_init_2_1 : decode cX1_init_2 1 = .ok (.aload_n 1, 1) := dk_43 (dk_at dksX1_init_2_0 1 rfl rfl)
theorem dX1_init_2_2 : decode cX1_init_2 2 = .ok (.getfield 34, 3) := dk_180 0 34 (dk_at dksX1_init_2_0 2 rfl rfl)
theorem dX1_init_2_5 : decode cX1_init_2 5 = .ok (.aload_n 1, 1) := dk_43 (dk_at dksX1_init_2_0 5 rfl rfl)
theorem dX1_init_2_6 : decode cX1_init_2 6 = .ok (.getfield 38, 3) := dk_180 0 38 (dk_at dksX1_init_2_0 6 rfl rfl)
theorem dX1_init_2_9 : decode cX1_init_2 9 = .ok (.invokespecial 41, 3) := dk_183 0 41 (dk_at dksX1_init_2_0 9 rfl rfl)
theorem dX1_init_2_12 : decode cX1_init_2 12 = .ok (.iconst 0, 1) := dk_3 (dk_at dksX1_init_2_0 12 rfl rfl)
theorem dX1_init_2_13 : decode cX1_init_2 13 = .ok (.istore_n 2, 1) := dk_61 (dk_at dksX1_init_2_0 13 rfl rfl)
theorem dX1_init_2_14 : decode cX1_init_2 14 = .ok (.iload_n 2, 1) := dk_28 (dk_at dksX1_init_2_0 14 rfl rfl)
theorem dX1_init_2_15 : decode cX1_init_2 15 = .ok (.aload_n 1, 1) := dk_43 (dk_at dksX1_init_2_0 15 rfl rfl)
theorem dX1_init_2_16 : decode cX1_init_2 16 = .ok (.getfield 12, 3) := dk_180 0 12 (dk_at dksX1_init_2_0 16 rfl rfl)
theorem dX1_init_2_19 : decode cX1_init_2 19 = .ok (.invokevirtual 44, 3) := dk_182 0 44 (dk_at dksX1_init_2_0 19 rfl rfl)
theorem dX1_init_2_22 : decode cX1_init_2 22 = .ok (.if_icmp .ge 31, 3) := dk_162 0 31 (dk_at dksX1_init_2_1 0 rfl rfl)
theorem dX1_init_2_25 : decode cX1_init_2 25 = .ok (.aload_n 0, 1) := dk_42 (dk_at dksX1_init_2_1 3 rfl rfl)
theorem dX1_init_2_26 : decode cX1_init_2 26 = .ok (.getfield 12, 3) := dk_180 0 12 (dk_at dksX1_init_2_1 4 rfl rfl)
theorem dX1_init_2_29 : decode cX1_init_2 29 = .ok (.aload_n 1, 1) := dk_43 (dk_at dksX1_init_2_1 7 rfl rfl)
theorem dX1_init_2_30 : decode cX1_init_2 30 = .ok (.getfield 12, 3) := dk_180 0 12 (dk_at dksX1_init_2_1 8 rfl rfl)
theorem dX1_init_2_33 : decode cX1_init_2 33 = .ok (.iload_n 2, 1) := dk_28 (dk_at dksX1_init_2_1 11 rfl rfl)
theorem dX1_init_2_34 : decode cX1_init_2 34 = .ok (.invokevirtual 48, 3) := dk_182 0 48 (dk_at dksX1_init_2_1 12 rfl rfl)
theorem dX1_init_2_37 : decode cX1_init_2 37 = .ok (.checkcast 18, 3) := dk_192 0 18 (dk_at dksX1_init_2_1 15 rfl rfl)
theorem dX1_init_2_40 : decode cX1_init_2 40 = .ok (.invokevirtual 52, 3) := dk_182 0 52 (dk_at dksX1_init_2_1 18 rfl rfl)
theorem dX1_init_2_43 : decode cX1_init_2 43 = .ok (.invokevirtual 56, 3) := dk_182 0 56 (dk_at dksX1_init_2_1 21 rfl rfl)
theorem dX1_init_2_46 : decode cX1_init_2 46 = .ok (.pop, 1) := dk_87 (dk_at dksX1_init_2_2 0 rfl rfl)
theorem dX1_init_2_47 : decode cX1_init_2 47 = .ok (.iinc 2 1, 3) := dk_132 2 1 (dk_at dksX1_init_2_2 1 rfl rfl)
theorem dX1_init_2_50 : decode cX1_init_2 50 = .ok (.goto (-36), 3) := dk_167 255 220 (dk_at dksX1_init_2_2 4 rfl rfl)
theorem dX1_init_2_53 : decode cX1_init_2 53 = .ok (.aload_n 0, 1) := dk_42 (dk_at dksX1_init_2_2 7 rfl rfl)
theorem dX1_init_2_54 : decode cX1_init_2 54 = .ok (.invokevirtual 60, 3) := dk_182 0 60 (dk_at dksX1_init_2_2 8 rfl rfl)
theorem dX1_init_2_57 : decode cX1_init_2 57 = .ok (.aload_n 1, 1) := dk_43 (dk_at dksX1_init_2_2 11 rfl rfl)
theorem dX1_init_2_58 : decode cX1_init_2 58 = .ok (.getfield 24, 3) := dk_180 0 24 (dk_at dksX1_init_2_2 12 rfl rfl)
theorem dX1_init_2_61 : decode cX1_init_2 61 = .ok (.iconst 0, 1) := dk_3 (dk_at dksX1_init_2_2 15 rfl rfl)
theorem dX1_init_2_62 : decode cX1_init_2 62 = .ok (.aload_n 0, 1) := dk_42 (dk_at dksX1_init_2_2 16 rfl rfl)
theorem dX1_init_2_63 : decode cX1_init_2 63 = .ok (.getfield 24, 3) := dk_180 0 24 (dk_at dksX1_init_2_2 17 rfl rfl)
theorem dX1_init_2_66 : decode cX1_init_2 66 = .ok (.iconst 0, 1) := dk_3 (dk_at dksX1_init_2_2 20 rfl rfl)
theorem dX1_init_2_67 : decode cX1_init_2 67 = .ok (.bipush 6, 2) := dk_16 6 (dk_at dksX1_init_2_2 21 rfl rfl)
theorem dX1_init_2_69 : decode cX1_init_2 69 = .ok (.invokestatic 63, 3) := dk_184 0 63 (dk_at dksX1_init_2_3 0 rfl rfl)
theorem dX1_init_2_72 : decode cX1_init_2 72 = .ok (.aload_n 1, 1) := dk_43 (dk_at dksX1_init_2_3 3 rfl rfl)
theorem dX1_init_2_73 : decode cX1_init_2 73 = .ok (.getfield 28, 3) := dk_180 0 28 (dk_at dksX1_init_2_3 4 rfl rfl)
theorem dX1_init_2_76 : decode cX1_init_2 76 = .ok (.iconst 0, 1) := dk_3 (dk_at dksX1_init_2_3 7 rfl rfl)
theorem dX1_init_2_77 : decode cX1_init_2 77 = .ok (.aload_n 0, 1) := dk_42 (dk_at dksX1_init_2_3 8 rfl rfl)
theorem dX1_init_2_78 : decode cX1_init_2 78 = .ok (.getfield 28, 3) := dk_180 0 28 (dk_at dksX1_init_2_3 9 rfl rfl)
theorem dX1_init_2_81 : decode cX1_init_2 81 = .ok (.iconst 0, 1) := dk_3 (dk_at dksX1_init_2_3 12 rfl rfl)
theorem dX1_init_2_82 : decode cX1_init_2 82 = .ok (.iconst 4, 1) := dk_7 (dk_at dksX1_init_2_3 13 rfl rfl)
theorem dX1_init_2_83 : decode cX1_init_2 83 = .ok (.invokestatic 63, 3) := dk_184 0 63 (dk_at dksX1_init_2_3 14 rfl rfl)
theorem dX1_init_2_86 : decode cX1_init_2 86 = .ok (.aload_n 0, 1) := dk_42 (dk_at dksX1_init_2_3 17 rfl rfl)
theorem dX1_init_2_87 : decode cX1_init_2 87 = .ok (.aload_n 1, 1) := dk_43 (dk_at dksX1_init_2_3 18 rfl rfl)
theorem dX1_init_2_88 : decode cX1_init_2 88 = .ok (.getfield 69, 3) := dk_180 0 69 (dk_at dksX1_init_2_3 19 rfl rfl)
theorem dX1_init_2_91 : decode cX1_init_2 91 = .ok (.putfield 69, 3) := dk_181 0 69 (dk_at dksX1_init_2_4 0 rfl rfl)
theorem dX1_init_2_94 : decode cX1_init_2 94 = .ok (.aload_n 0, 1) := dk_42 (dk_at dksX1_init_2_4 3 rfl rfl)
theorem dX1_init_2_95 : decode cX1_init_2 95 = .ok (.aload_n 1, 1) := dk_43 (dk_at dksX1_init_2_4 4 rfl rfl)
theorem dX1_init_2_96 : decode cX1_init_2 96 = .ok (.getfield 72, 3) := dk_180 0 72 (dk_at dksX1_init_2_4 5 rfl rfl)
theorem dX1_init_2_99 : decode cX1_init_2 99 = .ok (.putfield 72, 3) := dk_181 0 72 (dk_at dksX1_init_2_4 8 rfl rfl)
theorem dX1_init_2_102 : decode cX1_init_2 102 = .ok (.aload_n 0, 1) := dk_42 (dk_at dksX1_init_2_4 11 rfl rfl)
theorem dX1_init_2_103 : decode cX1_init_2 103 = .ok (.aload_n 1, 1) := dk_43 (dk_at dksX1_init_2_4 12 rfl rfl)
theorem dX1_init_2_104 : decode cX1_init_2 104 = .ok (.getfield 75, 3) := dk_180 0 75 (dk_at dksX1_init_2_4 13 rfl rfl)
theorem dX1_init_2_107 : decode cX1_init_2 107 = .ok (.putfield 75, 3) := dk_181 0 75 (dk_at dksX1_init_2_4 16 rfl rfl)
theorem dX1_init_2_110 : decode cX1_init_2 110 = .ok (.aload_n 0, 1) := dk_42 (dk_at dksX1_init_2_4 19 rfl rfl)
theorem dX1_init_2_111 : decode cX1_init_2 111 = .ok (.aload_n 1, 1) := dk_43 (dk_at dksX1_init_2_4 20 rfl rfl)
theorem dX1_init_2_112 : decode cX1_init_2 112 = .ok (.getfield 78, 3) := dk_180 0 78 (dk_at dksX1_init_2_4 21 rfl rfl)
theorem dX1_init_2_115 : decode cX1_init_2 115 = .ok (.putfield 78, 3) := dk_181 0 78 (dk_at dksX1_init_2_5 0 rfl rfl)
theorem dX1_init_2_118 : decode cX1_init_2 118 = .ok (.aload_n 1, 1) := dk_43 (dk_at dksX1_init_2_5 3 rfl rfl)
theorem dX1_init_2_119 : decode cX1_init_2 119 = .ok (.getfield 31, 3) := dk_180 0 31 (dk_at dksX1_init_2_5 4 rfl rfl)
theorem dX1_init_2_122 : decode cX1_init_2 122 = .ok (.iconst 0, 1) := dk_3 (dk_at dksX1_init_2_5 7 rfl rfl)
theorem dX1_init_2_123 : decode cX1_init_2 123 = .ok (.aload_n 0, 1) := dk_42 (dk_at dksX1_init_2_5 8 rfl rfl)
theorem dX1_init_2_124 : decode cX1_init_2 124 = .ok (.getfield 31, 3) := dk_180 0 31 (dk_at dksX1_init_2_5 9 rfl rfl)
theorem dX1_init_2_127 : decode cX1_init_2 127 = .ok (.iconst 0, 1) := dk_3 (dk_at dksX1_init_2_5 12 rfl rfl)
theorem dX1_init_2_128 : decode cX1_init_2 128 = .ok (.sipush 200, 3) := dk_17 0 200 (dk_at dksX1_init_2_5 13 rfl rfl)
theorem dX1_init_2_131 : decode cX1_init_2 131 = .ok (.invokestatic 63, 3) := dk_184 0 63 (dk_at dksX1_init_2_5 16 rfl rfl)
theorem dX1_init_2_134 : decode cX1_init_2 134 = .ok (.return_, 1) := dk_177 (dk_at dksX1_init_2_5 19 rfl rfl)
theorem q63 : (Jvm.Cond.initialized "IslandHeap$Heap") ∈ lw_all := lw_g (lw_at lw_m1 2 rfl) rfl
theorem q99 : (Jvm.Cond.instantiable "IslandHeap$Heap" (11 : Nat)) ∈ lw_all := lw_g (lw_at lw_m1 38 rfl) rfl
theorem q101 : (Jvm.Cond.instanceMethod ({ cls := "IslandHeap$Heap", name := "<init>", desc := "(II)V" } : Jvm.MethodName)) ∈ lw_all := lw_g (lw_at lw_m1 40 rfl) rfl
theorem q102 : (Jvm.Cond.code ({ cls := "IslandHeap$Heap", name := "<init>", desc := "(II)V" } : Jvm.MethodName) prog_5_method_1_code (4 : Nat) (Option.none : Option Jvm.ClassFile.FieldType)) ∈ lw_all := lw_g (lw_at lw_m1 41 rfl) rfl
theorem q103 : (Jvm.Cond.methodLink "IslandHeap$Heap" (3 : Nat) ({ cls := "java/lang/Object", name := "<init>", desc := "()V" } : Jvm.MethodName)) ∈ lw_all := lw_g (lw_at lw_m1 42 rfl) rfl
theorem q104 : (Jvm.Cond.classLink "IslandHeap$Heap" (9 : Nat) "java/util/ArrayList") ∈ lw_all := lw_g (lw_at lw_m1 43 rfl) rfl
theorem q106 : (Jvm.Cond.methodLink "IslandHeap$Heap" (11 : Nat) ({ cls := "java/util/ArrayList", name := "<init>", desc := "()V" } : Jvm.MethodName)) ∈ lw_all := lw_g (lw_at lw_m1 45 rfl) rfl
theorem q130 : (Jvm.Cond.classLink "IslandHeap$Heap" (18 : Nat) "IslandHeap$Thing") ∈ lw_all := lw_g (lw_at lw_m1 69 rfl) rfl
theorem q132 : (Jvm.Cond.fieldLink "IslandHeap$Heap" (34 : Nat) "IslandHeap$Heap" "words" "I") ∈ lw_all := lw_g (lw_at lw_m1 71 rfl) rfl
theorem q134 : (Jvm.Cond.fieldLink "IslandHeap$Heap" (38 : Nat) "IslandHeap$Heap" "depth" "I") ∈ lw_all := lw_g (lw_at lw_m1 73 rfl) rfl
theorem q136 : (Jvm.Cond.fieldLink "IslandHeap$Heap" (12 : Nat) "IslandHeap$Heap" "things" "Ljava/util/ArrayList;") ∈ lw_all := lw_g (lw_at lw_m1 75 rfl) rfl
theorem q140 : (Jvm.Cond.fieldLink "IslandHeap$Heap" (20 : Nat) "IslandHeap$Heap" "owners" "[LIslandHeap$Thing;") ∈ lw_all := lw_g (lw_at lw_m1 79 rfl) rfl
theorem q142 : (Jvm.Cond.fieldLink "IslandHeap$Heap" (24 : Nat) "IslandHeap$Heap" "roots" "[I") ∈ lw_all := lw_g (lw_at lw_m1 81 rfl) rfl
theorem q146 : (Jvm.Cond.fieldLink "IslandHeap$Heap" (28 : Nat) "IslandHeap$Heap" "weak" "[I") ∈ lw_all := lw_g (lw_at lw_m1 85 rfl) rfl
theorem q148 : (Jvm.Cond.fieldLink "IslandHeap$Heap" (69 : Nat) "IslandHeap$Heap" "allocated" "I") ∈ lw_all := lw_g (lw_at lw_m1 87 rfl) rfl
theorem q150 : (Jvm.Cond.fieldLink "IslandHeap$Heap" (72 : Nat) "IslandHeap$Heap" "collections" "I") ∈ lw_all := lw_g (lw_at lw_m1 89 rfl) rfl
theorem q152 : (Jvm.Cond.fieldLink "IslandHeap$Heap" (75 : Nat) "IslandHeap$Heap" "freed" "I") ∈ lw_all := lw_g (lw_at lw_m1 91 rfl) rfl
theorem q154 : (Jvm.Cond.fieldLink "IslandHeap$Heap" (78 : Nat) "IslandHeap$Heap" "report" "LIslandHeap$Report;") ∈ lw_all := lw_g (lw_at lw_m1 93 rfl) rfl
theorem q156 : (Jvm.Cond.fieldLink "IslandHeap$Heap" (31 : Nat) "IslandHeap$Heap" "places" "[I") ∈ lw_all := lw_g (lw_at lw_m1 95 rfl) rfl
theorem q158 : (Jvm.Cond.laysFinal "IslandHeap$Heap" "IslandHeap$Heap" "words" "I") ∈ lw_all := lw_g (lw_at lw_m1 97 rfl) rfl
theorem q159 : (Jvm.Cond.soleField "IslandHeap$Heap" "words") ∈ lw_all := lw_g (lw_at lw_m1 98 rfl) rfl
theorem q160 : (Jvm.Cond.laysFinal "IslandHeap$Heap" "IslandHeap$Heap" "depth" "I") ∈ lw_all := lw_g (lw_at lw_m1 99 rfl) rfl
theorem q161 : (Jvm.Cond.soleField "IslandHeap$Heap" "depth") ∈ lw_all := lw_g (lw_at lw_m1 100 rfl) rfl
theorem q162 : (Jvm.Cond.laysFinal "IslandHeap$Heap" "IslandHeap$Heap" "things" "Ljava/util/ArrayList;") ∈ lw_all := lw_g (lw_at lw_m1 101 rfl) rfl
theorem q163 : (Jvm.Cond.soleField "IslandHeap$Heap" "things") ∈ lw_all := lw_g (lw_at lw_m1 102 rfl) rfl
theorem q164 : (Jvm.Cond.laysFinal "IslandHeap$Heap" "IslandHeap$Heap" "owners" "[LIslandHeap$Thing;") ∈ lw_all := lw_g (lw_at lw_m1 103 rfl) rfl
theorem q165 : (Jvm.Cond.soleField "IslandHeap$Heap" "owners") ∈ lw_all := lw_g (lw_at lw_m1 104 rfl) rfl
theorem q166 : (Jvm.Cond.laysFinal "IslandHeap$Heap" "IslandHeap$Heap" "roots" "[I") ∈ lw_all := lw_g (lw_at lw_m1 105 rfl) rfl
theorem q167 : (Jvm.Cond.soleField "IslandHeap$Heap" "roots") ∈ lw_all := lw_g (lw_at lw_m1 106 rfl) rfl
theorem q168 : (Jvm.Cond.laysFinal "IslandHeap$Heap" "IslandHeap$Heap" "weak" "[I") ∈ lw_all := lw_g (lw_at lw_m1 107 rfl) rfl
theorem q169 : (Jvm.Cond.soleField "IslandHeap$Heap" "weak") ∈ lw_all := lw_g (lw_at lw_m1 108 rfl) rfl
theorem q170 : (Jvm.Cond.lays "IslandHeap$Heap" "IslandHeap$Heap" "allocated" "I") ∈ lw_all := lw_g (lw_at lw_m1 109 rfl) rfl
theorem q171 : (Jvm.Cond.soleField "IslandHeap$Heap" "allocated") ∈ lw_all := lw_g (lw_at lw_m1 110 rfl) rfl
theorem q172 : (Jvm.Cond.lays "IslandHeap$Heap" "IslandHeap$Heap" "collections" "I") ∈ lw_all := lw_g (lw_at lw_m1 111 rfl) rfl
theorem q173 : (Jvm.Cond.soleField "IslandHeap$Heap" "collections") ∈ lw_all := lw_g (lw_at lw_m1 112 rfl) rfl
theorem q174 : (Jvm.Cond.lays "IslandHeap$Heap" "IslandHeap$Heap" "freed" "I") ∈ lw_all := lw_g (lw_at lw_m1 113 rfl) rfl
theorem q175 : (Jvm.Cond.soleField "IslandHeap$Heap" "freed") ∈ lw_all := lw_g (lw_at lw_m1 114 rfl) rfl
theorem q176 : (Jvm.Cond.lays "IslandHeap$Heap" "IslandHeap$Heap" "report" "LIslandHeap$Report;") ∈ lw_all := lw_g (lw_at lw_m1 115 rfl) rfl
theorem q177 : (Jvm.Cond.soleField "IslandHeap$Heap" "report") ∈ lw_all := lw_g (lw_at lw_m1 116 rfl) rfl
theorem q178 : (Jvm.Cond.laysFinal "IslandHeap$Heap" "IslandHeap$Heap" "places" "[I") ∈ lw_all := lw_g (lw_at lw_m1 117 rfl) rfl
theorem q179 : (Jvm.Cond.soleField "IslandHeap$Heap" "places") ∈ lw_all := lw_g (lw_at lw_m1 118 rfl) rfl
theorem q180 : (Jvm.Cond.superclass "IslandHeap$Heap" "java/lang/Object") ∈ lw_all := lw_g (lw_at lw_m1 119 rfl) rfl
theorem q225 : (Jvm.Cond.instanceMethod ({ cls := "IslandHeap$Heap", name := "alloc", desc := "(II)I" } : Jvm.MethodName)) ∈ lw_all := lw_g (lw_at lw_m1 164 rfl) rfl
theorem q226 : (Jvm.Cond.selects "IslandHeap$Heap" ({ cls := "IslandHeap$Heap", name := "alloc", desc := "(II)I" } : Jvm.MethodName) ({ cls := "IslandHeap$Heap", name := "alloc", desc := "(II)I" } : Jvm.MethodName)) ∈ lw_all := lw_g (lw_at lw_m1 165 rfl) rfl
theorem q227 : (Jvm.Cond.code ({ cls := "IslandHeap$Heap", name := "alloc", desc := "(II)I" } : Jvm.MethodName) prog_5_method_10_code (7 : Nat) (Option.some Jvm.ClassFile.FieldType.int)) ∈ lw_all := lw_g (lw_at lw_m1 166 rfl) rfl
theorem q228 : (Jvm.Cond.methodLink "IslandHeap$Heap" (104 : Nat) ({ cls := "IslandHeap$Heap", name := "firstHole", desc := "(I)I" } : Jvm.MethodName)) ∈ lw_all := lw_g (lw_at lw_m1 167 rfl) rfl
theorem q229 : (Jvm.Cond.instanceMethod ({ cls := "IslandHeap$Heap", name := "firstHole", desc := "(I)I" } : Jvm.MethodName)) ∈ lw_all := lw_g (lw_at lw_m1 168 rfl) rfl
theorem q230 : (Jvm.Cond.selects "IslandHeap$Heap" ({ cls := "IslandHeap$Heap", name := "firstHole", desc := "(I)I" } : Jvm.MethodName) ({ cls := "IslandHeap$Heap", name := "firstHole", desc := "(I)I" } : Jvm.MethodName)) ∈ lw_all := lw_g (lw_at lw_m1 169 rfl) rfl
theorem q231 : (Jvm.Cond.code ({ cls := "IslandHeap$Heap", name := "firstHole", desc := "(I)I" } : Jvm.MethodName) prog_5_method_9_code (4 : Nat) (Option.some Jvm.ClassFile.FieldType.int)) ∈ lw_all := lw_g (lw_at lw_m1 170 rfl) rfl
theorem q232 : (Jvm.Cond.methodLink "IslandHeap$Heap" (100 : Nat) ({ cls := "IslandHeap$Heap", name := "holeEnd", desc := "(I)I" } : Jvm.MethodName)) ∈ lw_all := lw_g (lw_at lw_m1 171 rfl) rfl
theorem q233 : (Jvm.Cond.privateMethod ({ cls := "IslandHeap$Heap", name := "holeEnd", desc := "(I)I" } : Jvm.MethodName)) ∈ lw_tbl := lw_at lw_m1 172 rfl
theorem q234 : (Jvm.Cond.instanceMethod ({ cls := "IslandHeap$Heap", name := "holeEnd", desc := "(I)I" } : Jvm.MethodName)) ∈ lw_all := lw_g (lw_at lw_m1 173 rfl) rfl
theorem q235 : (Jvm.Cond.code ({ cls := "IslandHeap$Heap", name := "holeEnd", desc := "(I)I" } : Jvm.MethodName) prog_5_method_8_code (3 : Nat) (Option.some Jvm.ClassFile.FieldType.int)) ∈ lw_all := lw_g (lw_at lw_m1 174 rfl) rfl
theorem q236 : (Jvm.Cond.methodLink "IslandHeap$Heap" (85 : Nat) ({ cls := "IslandHeap$Thing", name := "end", desc := "()I" } : Jvm.MethodName)) ∈ lw_all := lw_g (lw_at lw_m1 175 rfl) rfl
theorem q244 : (Jvm.Cond.constant "IslandHeap$Heap" (107 : Nat) (-1000004 : Int32)) ∈ lw_all := lw_g (lw_at lw_m1 183 rfl) rfl
theorem q246 : (Jvm.Cond.methodLink "IslandHeap$Heap" (108 : Nat) ({ cls := "IslandHeap$Thing", name := "<init>", desc := "(III)V" } : Jvm.MethodName)) ∈ lw_all := lw_g (lw_at lw_m1 185 rfl) rfl
theorem q252 : (Jvm.Cond.fieldLinkNest "IslandHeap$Heap" (82 : Nat) "IslandHeap$Thing" "address" "I" "IslandHeap") ∈ lw_tbl := lw_at lw_m1 191 rfl
theorem q259 : (Jvm.Cond.fieldLinkNest "IslandHeap$Heap" (122 : Nat) "IslandHeap$Thing" "fields" "[I" "IslandHeap") ∈ lw_tbl := lw_at lw_m1 198 rfl
theorem q267 : (Jvm.Cond.fieldLinkNest "IslandHeap$Heap" (114 : Nat) "IslandHeap$Thing" "isPinned" "Z" "IslandHeap") ∈ lw_tbl := lw_at lw_m1 206 rfl
theorem q271 : (Jvm.Cond.fieldLinkNest "IslandHeap$Heap" (151 : Nat) "IslandHeap$Thing" "age" "I" "IslandHeap") ∈ lw_tbl := lw_at lw_m1 210 rfl
theorem q275 : (Jvm.Cond.fieldLinkNest "IslandHeap$Heap" (125 : Nat) "IslandHeap$Thing" "isMarked" "Z" "IslandHeap") ∈ lw_tbl := lw_at lw_m1 214 rfl
theorem q290 : (Jvm.Cond.methodLink "IslandHeap$Heap" (44 : Nat) ({ cls := "java/util/ArrayList", name := "size", desc := "()I" } : Jvm.MethodName)) ∈ lw_all := lw_g (lw_at lw_m1 229 rfl) rfl
theorem q294 : (Jvm.Cond.methodLink "IslandHeap$Heap" (48 : Nat) ({ cls := "java/util/ArrayList", name := "get", desc := "(I)Ljava/lang/Object;" } : Jvm.MethodName)) ∈ lw_all := lw_g (lw_at lw_m1 233 rfl) rfl
theorem q308 : (Jvm.Cond.methodLink "IslandHeap$Heap" (111 : Nat) ({ cls := "java/util/ArrayList", name := "add", desc := "(ILjava/lang/Object;)V" } : Jvm.MethodName)) ∈ lw_all := lw_g (lw_at lw_m2 7 rfl) rfl
theorem q343 : (Jvm.Cond.selects "IslandHeap$Heap" ({ cls := "java/lang/Object", name := "getClass", desc := "()Ljava/lang/Class;" } : Jvm.MethodName) ({ cls := "java/lang/Object", name := "getClass", desc := "()Ljava/lang/Class;" } : Jvm.MethodName)) ∈ lw_all := lw_g (lw_at lw_m2 42 rfl) rfl
theorem q385 : (Jvm.Cond.instanceMethod ({ cls := "IslandHeap$Heap", name := "at", desc := "(I)LIslandHeap$Thing;" } : Jvm.MethodName)) ∈ lw_all := lw_g (lw_at lw_m2 84 rfl) rfl
theorem q386 : (Jvm.Cond.selects "IslandHeap$Heap" ({ cls := "IslandHeap$Heap", name := "at", desc := "(I)LIslandHeap$Thing;" } : Jvm.MethodName) ({ cls := "IslandHeap$Heap", name := "at", desc := "(I)LIslandHeap$Thing;" } : Jvm.MethodName)) ∈ lw_all := lw_g (lw_at lw_m2 85 rfl) rfl
theorem q387 : (Jvm.Cond.code ({ cls := "IslandHeap$Heap", name := "at", desc := "(I)LIslandHeap$Thing;" } : Jvm.MethodName) prog_5_method_5_code (2 : Nat) (Option.some (Jvm.ClassFile.FieldType.object "IslandHeap$Thing"))) ∈ lw_all := lw_g (lw_at lw_m2 86 rfl) rfl
theorem q388 : (Jvm.Cond.methodLink "IslandHeap$Heap" (92 : Nat) ({ cls := "IslandHeap$Heap", name := "isWord", desc := "(I)Z" } : Jvm.MethodName)) ∈ lw_all := lw_g (lw_at lw_m2 87 rfl) rfl
theorem q389 : (Jvm.Cond.instanceMethod ({ cls := "IslandHeap$Heap", name := "isWord", desc := "(I)Z" } : Jvm.MethodName)) ∈ lw_all := lw_g (lw_at lw_m2 88 rfl) rfl
theorem q390 : (Jvm.Cond.selects "IslandHeap$Heap" ({ cls := "IslandHeap$Heap", name := "isWord", desc := "(I)Z" } : Jvm.MethodName) ({ cls := "IslandHeap$Heap", name := "isWord", desc := "(I)Z" } : Jvm.MethodName)) ∈ lw_all := lw_g (lw_at lw_m2 89 rfl) rfl
theorem q391 : (Jvm.Cond.code ({ cls := "IslandHeap$Heap", name := "isWord", desc := "(I)Z" } : Jvm.MethodName) prog_5_method_4_code (2 : Nat) (Option.some Jvm.ClassFile.FieldType.boolean)) ∈ lw_all := lw_g (lw_at lw_m2 90 rfl) rfl
theorem q392 : (Jvm.Cond.methodLinkNest "IslandHeap$Heap" (88 : Nat) ({ cls := "IslandHeap", name := "isIn", desc := "(III)Z" } : Jvm.MethodName) "IslandHeap") ∈ lw_tbl := lw_at lw_m2 91 rfl
theorem q438 : (Jvm.Cond.instanceMethod ({ cls := "IslandHeap$Heap", name := "references", desc := "(LIslandHeap$Thing;)I" } : Jvm.MethodName)) ∈ lw_all := lw_g (lw_at lw_m2 137 rfl) rfl
theorem q439 : (Jvm.Cond.selects "IslandHeap$Heap" ({ cls := "IslandHeap$Heap", name := "references", desc := "(LIslandHeap$Thing;)I" } : Jvm.MethodName) ({ cls := "IslandHeap$Heap", name := "references", desc := "(LIslandHeap$Thing;)I" } : Jvm.MethodName)) ∈ lw_all := lw_g (lw_at lw_m2 138 rfl) rfl
theorem q440 : (Jvm.Cond.code ({ cls := "IslandHeap$Heap", name := "references", desc := "(LIslandHeap$Thing;)I" } : Jvm.MethodName) prog_5_method_13_code (4 : Nat) (Option.some Jvm.ClassFile.FieldType.int)) ∈ lw_all := lw_g (lw_at lw_m2 139 rfl) rfl
theorem q441 : (Jvm.Cond.methodLink "IslandHeap$Heap" (118 : Nat) ({ cls := "IslandHeap$Heap", name := "countOf", desc := "([ILIslandHeap$Thing;)I" } : Jvm.MethodName)) ∈ lw_all := lw_g (lw_at lw_m2 140 rfl) rfl
theorem q442 : (Jvm.Cond.static ({ cls := "IslandHeap$Heap", name := "countOf", desc := "([ILIslandHeap$Thing;)I" } : Jvm.MethodName)) ∈ lw_all := lw_g (lw_at lw_m2 141 rfl) rfl
theorem q443 : (Jvm.Cond.code ({ cls := "IslandHeap$Heap", name := "countOf", desc := "([ILIslandHeap$Thing;)I" } : Jvm.MethodName) prog_5_method_12_code (7 : Nat) (Option.some Jvm.ClassFile.FieldType.int)) ∈ lw_all := lw_g (lw_at lw_m2 142 rfl) rfl
theorem q492 : (Jvm.Cond.instanceMethod ({ cls := "IslandHeap$Heap", name := "target", desc := "(I)LIslandHeap$Thing;" } : Jvm.MethodName)) ∈ lw_all := lw_g (lw_at lw_m2 191 rfl) rfl
theorem q493 : (Jvm.Cond.selects "IslandHeap$Heap" ({ cls := "IslandHeap$Heap", name := "target", desc := "(I)LIslandHeap$Thing;" } : Jvm.MethodName) ({ cls := "IslandHeap$Heap", name := "target", desc := "(I)LIslandHeap$Thing;" } : Jvm.MethodName)) ∈ lw_all := lw_g (lw_at lw_m2 192 rfl) rfl
theorem q494 : (Jvm.Cond.code ({ cls := "IslandHeap$Heap", name := "target", desc := "(I)LIslandHeap$Thing;" } : Jvm.MethodName) prog_5_method_7_code (2 : Nat) (Option.some (Jvm.ClassFile.FieldType.object "IslandHeap$Thing"))) ∈ lw_all := lw_g (lw_at lw_m2 193 rfl) rfl
theorem q526 : (Jvm.Cond.instanceMethod ({ cls := "IslandHeap$Heap", name := "isReference", desc := "(I)Z" } : Jvm.MethodName)) ∈ lw_all := lw_g (lw_at lw_m2 225 rfl) rfl
theorem q527 : (Jvm.Cond.selects "IslandHeap$Heap" ({ cls := "IslandHeap$Heap", name := "isReference", desc := "(I)Z" } : Jvm.MethodName) ({ cls := "IslandHeap$Heap", name := "isReference", desc := "(I)Z" } : Jvm.MethodName)) ∈ lw_all := lw_g (lw_at lw_m2 226 rfl) rfl
theorem q528 : (Jvm.Cond.code ({ cls := "IslandHeap$Heap", name := "isReference", desc := "(I)Z" } : Jvm.MethodName) prog_5_method_6_code (2 : Nat) (Option.some Jvm.ClassFile.FieldType.boolean)) ∈ lw_all := lw_g (lw_at lw_m2 227 rfl) rfl
theorem q529 : (Jvm.Cond.methodLink "IslandHeap$Heap" (96 : Nat) ({ cls := "IslandHeap$Heap", name := "at", desc := "(I)LIslandHeap$Thing;" } : Jvm.MethodName)) ∈ lw_all := lw_g (lw_at lw_m2 228 rfl) rfl
theorem q557 : (Jvm.Cond.instanceMethod ({ cls := "IslandHeap$Heap", name := "pinned", desc := "()I" } : Jvm.MethodName)) ∈ lw_all := lw_g (lw_at lw_m3 16 rfl) rfl
theorem q558 : (Jvm.Cond.selects "IslandHeap$Heap" ({ cls := "IslandHeap$Heap", name := "pinned", desc := "()I" } : Jvm.MethodName) ({ cls := "IslandHeap$Heap", name := "pinned", desc := "()I" } : Jvm.MethodName)) ∈ lw_all := lw_g (lw_at lw_m3 17 rfl) rfl
theorem q559 : (Jvm.Cond.code ({ cls := "IslandHeap$Heap", name := "pinned", desc := "()I" } : Jvm.MethodName) prog_5_method_11_code (3 : Nat) (Option.some Jvm.ClassFile.FieldType.int)) ∈ lw_all := lw_g (lw_at lw_m3 18 rfl) rfl
theorem q587 : (Jvm.Cond.fieldLinkNest "IslandHeap$Heap" (139 : Nat) "IslandHeap$Report" "objects" "I" "IslandHeap") ∈ lw_tbl := lw_at lw_m3 46 rfl
theorem q589 : (Jvm.Cond.fieldLinkNest "IslandHeap$Heap" (136 : Nat) "IslandHeap$Report" "words" "I" "IslandHeap") ∈ lw_tbl := lw_at lw_m3 48 rfl
theorem q595 : (Jvm.Cond.fieldLinkNest "IslandHeap$Heap" (142 : Nat) "IslandHeap$Report" "moved" "I" "IslandHeap") ∈ lw_tbl := lw_at lw_m3 54 rfl
theorem q597 : (Jvm.Cond.fieldLinkNest "IslandHeap$Heap" (145 : Nat) "IslandHeap$Report" "distance" "I" "IslandHeap") ∈ lw_tbl := lw_at lw_m3 56 rfl
theorem q612 : (Jvm.Cond.instanceMethod ({ cls := "IslandHeap$Heap", name := "slide", desc := "(LIslandHeap$Report;)I" } : Jvm.MethodName)) ∈ lw_all := lw_g (lw_at lw_m3 71 rfl) rfl
theorem q613 : (Jvm.Cond.selects "IslandHeap$Heap" ({ cls := "IslandHeap$Heap", name := "slide", desc := "(LIslandHeap$Report;)I" } : Jvm.MethodName) ({ cls := "IslandHeap$Heap", name := "slide", desc := "(LIslandHeap$Report;)I" } : Jvm.MethodName)) ∈ lw_all := lw_g (lw_at lw_m3 72 rfl) rfl
theorem q614 : (Jvm.Cond.code ({ cls := "IslandHeap$Heap", name := "slide", desc := "(LIslandHeap$Report;)I" } : Jvm.MethodName) prog_5_method_15_code (7 : Nat) (Option.some Jvm.ClassFile.FieldType.int)) ∈ lw_all := lw_g (lw_at lw_m3 73 rfl) rfl
theorem q615 : (Jvm.Cond.methodLink "IslandHeap$Heap" (128 : Nat) ({ cls := "IslandHeap$Thing", name := "size", desc := "()I" } : Jvm.MethodName)) ∈ lw_all := lw_g (lw_at lw_m3 74 rfl) rfl
theorem q616 : (Jvm.Cond.methodLink "IslandHeap$Heap" (129 : Nat) ({ cls := "IslandHeap$Heap", name := "note", desc := "(LIslandHeap$Thing;ILIslandHeap$Report;)V" } : Jvm.MethodName)) ∈ lw_all := lw_g (lw_at lw_m3 75 rfl) rfl
theorem q617 : (Jvm.Cond.privateMethod ({ cls := "IslandHeap$Heap", name := "note", desc := "(LIslandHeap$Thing;ILIslandHeap$Report;)V" } : Jvm.MethodName)) ∈ lw_tbl := lw_at lw_m3 76 rfl
theorem q618 : (Jvm.Cond.instanceMethod ({ cls := "IslandHeap$Heap", name := "note", desc := "(LIslandHeap$Thing;ILIslandHeap$Report;)V" } : Jvm.MethodName)) ∈ lw_all := lw_g (lw_at lw_m3 77 rfl) rfl
theorem q619 : (Jvm.Cond.code ({ cls := "IslandHeap$Heap", name := "note", desc := "(LIslandHeap$Thing;ILIslandHeap$Report;)V" } : Jvm.MethodName) prog_5_method_16_code (5 : Nat) (Option.none : Option Jvm.ClassFile.FieldType)) ∈ lw_all := lw_g (lw_at lw_m3 78 rfl) rfl
theorem q620 : (Jvm.Cond.methodLink "IslandHeap$Heap" (133 : Nat) ({ cls := "IslandHeap$Heap", name := "settle", desc := "()V" } : Jvm.MethodName)) ∈ lw_all := lw_g (lw_at lw_m3 79 rfl) rfl
theorem q621 : (Jvm.Cond.privateMethod ({ cls := "IslandHeap$Heap", name := "settle", desc := "()V" } : Jvm.MethodName)) ∈ lw_tbl := lw_at lw_m3 80 rfl
theorem q622 : (Jvm.Cond.instanceMethod ({ cls := "IslandHeap$Heap", name := "settle", desc := "()V" } : Jvm.MethodName)) ∈ lw_all := lw_g (lw_at lw_m3 81 rfl) rfl
theorem q623 : (Jvm.Cond.code ({ cls := "IslandHeap$Heap", name := "settle", desc := "()V" } : Jvm.MethodName) prog_5_method_17_code (3 : Nat) (Option.none : Option Jvm.ClassFile.FieldType)) ∈ lw_all := lw_g (lw_at lw_m3 82 rfl) rfl
theorem q624 : (Jvm.Cond.methodLink "IslandHeap$Heap" (148 : Nat) ({ cls := "java/util/ArrayList", name := "remove", desc := "(I)Ljava/lang/Object;" } : Jvm.MethodName)) ∈ lw_all := lw_g (lw_at lw_m3 83 rfl) rfl
theorem q632 : (Jvm.Cond.methodLink "IslandHeap$Heap" (154 : Nat) ({ cls := "IslandHeap$Heap", name := "correct", desc := "([I)V" } : Jvm.MethodName)) ∈ lw_all := lw_g (lw_at lw_m3 91 rfl) rfl
theorem q633 : (Jvm.Cond.privateMethod ({ cls := "IslandHeap$Heap", name := "correct", desc := "([I)V" } : Jvm.MethodName)) ∈ lw_tbl := lw_at lw_m3 92 rfl
theorem q634 : (Jvm.Cond.instanceMethod ({ cls := "IslandHeap$Heap", name := "correct", desc := "([I)V" } : Jvm.MethodName)) ∈ lw_all := lw_g (lw_at lw_m3 93 rfl) rfl
theorem q635 : (Jvm.Cond.code ({ cls := "IslandHeap$Heap", name := "correct", desc := "([I)V" } : Jvm.MethodName) prog_5_method_14_code (3 : Nat) (Option.none : Option Jvm.ClassFile.FieldType)) ∈ lw_all := lw_g (lw_at lw_m3 94 rfl) rfl
theorem q636 : (Jvm.Cond.methodLink "IslandHeap$Heap" (60 : Nat) ({ cls := "IslandHeap$Heap", name := "occupy", desc := "()V" } : Jvm.MethodName)) ∈ lw_all := lw_g (lw_at lw_m3 95 rfl) rfl
theorem q637 : (Jvm.Cond.privateMethod ({ cls := "IslandHeap$Heap", name := "occupy", desc := "()V" } : Jvm.MethodName)) ∈ lw_tbl := lw_at lw_m3 96 rfl
theorem q638 : (Jvm.Cond.instanceMethod ({ cls := "IslandHeap$Heap", name := "occupy", desc := "()V" } : Jvm.MethodName)) ∈ lw_all := lw_g (lw_at lw_m3 97 rfl) rfl
theorem q639 : (Jvm.Cond.code ({ cls := "IslandHeap$Heap", name := "occupy", desc := "()V" } : Jvm.MethodName) prog_5_method_3_code (4 : Nat) (Option.none : Option Jvm.ClassFile.FieldType)) ∈ lw_all := lw_g (lw_at lw_m3 98 rfl) rfl
theorem q995 : (Jvm.Cond.instanceMethod ({ cls := "IslandHeap$Heap", name := "<init>", desc := "(LIslandHeap$Heap;)V" } : Jvm.MethodName)) ∈ lw_all := lw_g (lw_at lw_m4 214 rfl) rfl
theorem q996 : (Jvm.Cond.code ({ cls := "IslandHeap$Heap", name := "<init>", desc := "(LIslandHeap$Heap;)V" } : Jvm.MethodName) prog_5_method_2_code (3 : Nat) (Option.none : Option Jvm.ClassFile.FieldType)) ∈ lw_all := lw_g (lw_at lw_m4 215 rfl) rfl
theorem q997 : (Jvm.Cond.methodLink "IslandHeap$Heap" (41 : Nat) ({ cls := "IslandHeap$Heap", name := "<init>", desc := "(II)V" } : Jvm.MethodName)) ∈ lw_all := lw_g (lw_at lw_m4 216 rfl) rfl
theorem q998 : (Jvm.Cond.methodLink "IslandHeap$Heap" (52 : Nat) ({ cls := "IslandHeap$Thing", name := "copy", desc := "()LIslandHeap$Thing;" } : Jvm.MethodName)) ∈ lw_all := lw_g (lw_at lw_m4 217 rfl) rfl
theorem q1005 : (Jvm.Cond.methodLink "IslandHeap$Heap" (56 : Nat) ({ cls := "java/util/ArrayList", name := "add", desc := "(Ljava/lang/Object;)Z" } : Jvm.MethodName)) ∈ lw_all := lw_g (lw_at lw_m4 224 rfl) rfl
theorem q1006 : (Jvm.Cond.methodLink "IslandHeap$Heap" (63 : Nat) ({ cls := "java/lang/System", name := "arraycopy", desc := "(Ljava/lang/Object;ILjava/lang/Object;II)V" } : Jvm.MethodName)) ∈ lw_all := lw_g (lw_at lw_m4 225 rfl) rfl
theorem q1354 : (Jvm.Cond.castable "IslandHeap$Heap" "java/lang/Object") ∈ lw_tbl := lw_at lw_m6 93 rfl
theorem in_X1 : ∀ w ∈ wsX10, w ∈ lw_all := lw_in wsX10 [158, 160, 162, 164, 166, 168, 170, 172, 174, 176, 178] (by decide +kernel) (by decide +kernel)
/-! IslandHeap$Marking -/
set_option maxRecDepth 100000
def RX4 : String := "IslandHeap$Marking"
def TX4 : u_T := fun k => match k with
  | 0 => ("IslandHeap$Marking", "heap", "LIslandHeap$Heap;", true)
  | 1 => ("IslandHeap$Marking", "without", "LIslandHeap$Thing;", true)
  | 2 => ("IslandHeap$Marking", "stack", "[LIslandHeap$Thing;", true)
  | 3 => ("IslandHeap$Marking", "depth", "I", true)
  | 4 => ("IslandHeap$Marking", "count", "I", false)
  | 5 => ("IslandHeap$Marking", "top", "I", false)
  | 6 => ("IslandHeap$Marking", "scans", "I", false)
  | _ => ("IslandHeap$Marking", "isOver", "Z", false)
def tyX4 : Nat → FieldType := fun k => match k with
  | 0 => .object "IslandHeap$Heap"
  | 1 => .object "IslandHeap$Thing"
  | 2 => .array (.object "IslandHeap$Thing")
  | 3 => .int
  | 4 => .int
  | 5 => .int
  | 6 => .int
  | _ => .boolean
abbrev wsX40 : List Cond := u_ws RX4 TX4 8
theorem nmX4 : ∀ a, a < 8 → ∀ b, b < 8 → a ≠ b → (TX4 a).2.1 ≠ (TX4 b).2.1 := by decide +kernel
theorem tyX4_ok : ∀ k, k < 8 → parseFieldDescriptor (TX4 k).2.2.1 = some (tyX4 k) := by decide +kernel
abbrev cX4_init : ByteArray := prog_6_method_1_code
def yX4_init : MethodName := ⟨RX4, "<init>", "(LIslandHeap$Heap;[LIslandHeap$Thing;ILIslandHeap$Thing;)V"⟩
def dkwX4_init_1 : List UInt8 := [181, 0, 21, 177]
abbrev dktX4_init_1 : List UInt8 := dkwX4_init_1 ++ []
def dkwX4_init_0 : List UInt8 := [42, 183, 0, 1, 42, 43, 181, 0, 7, 42, 44, 181, 0, 13, 42, 29, 181, 0, 17, 42, 25, 4]
abbrev dktX4_init_0 : List UInt8 := dkwX4_init_0 ++ dktX4_init_1
theorem dksX4_init_0 : cX4_init.data.toList.drop 0 = dktX4_init_0 := by decide +kernel
theorem dksX4_init_1 : cX4_init.data.toList.drop 22 = dktX4_init_1 := dk_seg dksX4_init_0 22 rfl rfl
theorem dX4_init_0 : decode cX4_init 0 = .ok (.aload_n 0, 1) := dk_42 (dk_at dksX4_init_0 0 rfl rfl)
theorem dX4_init_1 : decode cX4_init 1 = .ok (.invokespecial 1, 3) := dk_183 0 1 (dk_at dksX4_init_0 1 rfl rfl)
theorem dX4_init_4 : decode cX4_init 4 = .ok (.aload_n 0, 1) := dk_42 (dk_at dksX4_init_0 4 rfl rfl)
theorem dX4_init_5 : decode cX4_init 5 = .ok (.aload_n 1, 1) := dk_43 (dk_at dksX4_init_0 5 rfl rfl)
theorem dX4_init_6 : decode cX4_init 6 = .ok (.putfield 7, 3) := dk_181 0 7 (dk_at dksX4_init_0 6 rfl rfl)
theorem dX4_init_9 : decode cX4_init 9 = .ok (.aload_n 0, 1) := dk_42 (dk_at dksX4_init_0 9 rfl rfl)
theorem dX4_init_10 : decode cX4_init 10 = .ok (.aload_n 2, 1) := dk_44 (dk_at dksX4_init_0 10 rfl rfl)
theorem dX4_init_11 : decode cX4_init 11 = .ok (.putfield 13, 3) := dk_181 0 13 (dk_at dksX4_init_0 11 rfl rfl)
theorem dX4_init_14 : decode cX4_init 14 = .ok (.aload_n 0, 1) := dk_42 (dk_at dksX4_init_0 14 rfl rfl)
theorem dX4_init_15 : decode cX4_init 15 = .ok (.iload_n 3, 1) := dk_29 (dk_at dksX4_init_0 15 rfl rfl)
theorem dX4_init_16 : decode cX4_init 16 = .ok (.putfield 17, 3) := dk_181 0 17 (dk_at dksX4_init_0 16 rfl rfl)
theorem dX4_init_19 : decode cX4_init 19 = .ok (.aload_n 0, 1) := dk_42 (dk_at dksX4_init_0 19 rfl rfl)
theorem dX4_init_20 : decode cX4_init 20 = .ok (.aload 4, 2) := dk_25 4 (dk_at dksX4_init_0 20 rfl rfl)
theorem dX4_init_22 : decode cX4_init 22 = .ok (.putfield 21, 3) := dk_181 0 21 (dk_at dksX4_init_1 0 rfl rfl)
theorem dX4_init_25 : decode cX4_init 25 = .ok (.return_, 1) := dk_177 (dk_at dksX4_init_1 3 rfl rfl)
abbrev cX4_mark : ByteArray := prog_6_method_6_code
def yX4_mark : MethodName := ⟨RX4, "mark", "()LIslandHeap$Marking;"⟩
def dkwX4_mark_6 : List UInt8 := [153, 0, 10, 42, 182, 0, 89, 167, 255, 245, 42, 176]
abbrev dktX4_mark_6 : List UInt8 := dkwX4_mark_6 ++ []
def dkwX4_mark_5 : List UInt8 := [180, 0, 86, 153, 0, 7, 44, 167, 0, 4, 1, 182, 0, 80, 132, 1, 1, 167, 255, 208, 42, 180, 0, 34]
abbrev dktX4_mark_5 : List UInt8 := dkwX4_mark_5 ++ dktX4_mark_6
def dkwX4_mark_4 : List UInt8 := [182, 0, 70, 162, 0, 40, 42, 180, 0, 7, 180, 0, 66, 27, 182, 0, 76, 192, 0, 26, 77, 42, 44]
abbrev dktX4_mark_4 : List UInt8 := dkwX4_mark_4 ++ dktX4_mark_5
def dkwX4_mark_3 : List UInt8 := [182, 0, 50, 182, 0, 80, 132, 3, 1, 167, 255, 230, 3, 60, 27, 42, 180, 0, 7, 180, 0, 66]
abbrev dktX4_mark_3 : List UInt8 := dkwX4_mark_3 ++ dktX4_mark_4
def dkwX4_mark_2 : List UInt8 := [43, 190, 61, 3, 62, 29, 28, 162, 0, 27, 43, 29, 46, 54, 4, 42, 42, 180, 0, 7, 21, 4]
abbrev dktX4_mark_2 : List UInt8 := dkwX4_mark_2 ++ dktX4_mark_3
def dkwX4_mark_1 : List UInt8 := [182, 0, 76, 192, 0, 26, 3, 181, 0, 25, 132, 1, 1, 167, 255, 221, 42, 180, 0, 7, 180, 0, 83, 76]
abbrev dktX4_mark_1 : List UInt8 := dkwX4_mark_1 ++ dktX4_mark_2
def dkwX4_mark_0 : List UInt8 := [3, 60, 27, 42, 180, 0, 7, 180, 0, 66, 182, 0, 70, 162, 0, 27, 42, 180, 0, 7, 180, 0, 66, 27]
abbrev dktX4_mark_0 : List UInt8 := dkwX4_mark_0 ++ dktX4_mark_1
theorem dksX4_mark_0 : cX4_mark.data.toList.drop 0 = dktX4_mark_0 := by decide +kernel
theorem dksX4_mark_1 : cX4_mark.data.toList.drop 24 = dktX4_mark_1 := dk_seg dksX4_mark_0 24 rfl rfl
theorem dksX4_mark_2 : cX4_mark.data.toList.drop 48 = dktX4_mark_2 := dk_seg dksX4_mark_1 24 rfl rfl
theorem dksX4_mark_3 : cX4_mark.data.toList.drop 70 = dktX4_mark_3 := dk_seg dksX4_mark_2 22 rfl rfl
theorem dksX4_mark_4 : cX4_mark.data.toList.drop 92 = dktX4_mark_4 := dk_seg dksX4_mark_3 22 rfl rfl
theorem dksX4_mark_5 : cX4_mark.data.toList.drop 115 = dktX4_mark_5 := dk_seg dksX4_mark_4 23 rfl rfl
theorem dksX4_mark_6 : cX4_mark.data.toList.drop 139 = dktX4_mark_6 := dk_seg dksX4_mark_5 24 rfl rfl
theorem dX4_mark_0 : decode cX4_mark 0 = .ok (.iconst 0, 1) := dk_3 (dk_at dksX4_mark_0 0 rfl rfl)
theorem dX4_mark_1 : decode cX4_mark 1 = .ok (.istore_n 1, 1) := dk_60 (dk_at dksX4_mark_0 1 rfl rfl)
theorem dX4_mark_2 : decode cX4_mark 2 = .ok (.iload_n 1, 1) := dk_27 (dk_at dksX4_mark_0 2 rfl rfl)
theorem dX4_mark_3 : decode cX4_mark 3 = .ok (.aload_n 0, 1) := dk_42 (dk_at dksX4_mark_0 3 rfl rfl)
theorem dX4_mark_4 : decode cX4_mark 4 = .ok (.getfield 7, 3) := dk_180 0 7 (dk_at dksX4_mark_0 4 rfl rfl)
theorem dX4_mark_7 : decode cX4_mark 7 = .ok (.getfield 66, 3) := dk_180 0 66 (dk_at dksX4_mark_0 7 rfl rfl)
theorem dX4_mark_10 : decode cX4_mark 10 = .ok (.invokevirtual 70, 3) := dk_182 0 70 (dk_at dksX4_mark_0 10 rfl rfl)
theorem dX4_mark_13 : decode cX4_mark 13 = .ok (.if_icmp .ge 27, 3) := dk_162 0 27 (dk_at dksX4_mark_0 13 rfl rfl)
theorem dX4_mark_16 : decode cX4_mark 16 = .ok (.aload_n 0, 1) := dk_42 (dk_at dksX4_mark_0 16 rfl rfl)
theorem dX4_mark_17 : decode cX4_mark 17 = .ok (.getfield 7, 3) := dk_180 0 7 (dk_at dksX4_mark_0 17 rfl rfl)
theorem dX4_mark_20 : decode cX4_mark 20 = .ok (.getfield 66, 3) := dk_180 0 66 (dk_at dksX4_mark_0 20 rfl rfl)
theorem dX4_mark_23 : decode cX4_mark 23 = .ok (.iload_n 1, 1) := dk_27 (dk_at dksX4_mark_0 23 rfl rfl)
theorem dX4_mark_24 : decode cX4_mark 24 = .ok (.invokevirtual 76, 3) := dk_182 0 76 (dk_at dksX4_mark_1 0 rfl rfl)
theorem dX4_mark_27 : decode cX4_mark 27 = .ok (.checkcast 26, 3) := dk_192 0 26 (dk_at dksX4_mark_1 3 rfl rfl)
theorem dX4_mark_30 : decode cX4_mark 30 = .ok (.iconst 0, 1) := dk_3 (dk_at dksX4_mark_1 6 rfl rfl)
theorem dX4_mark_31 : decode cX4_mark 31 = .ok (.putfield 25, 3) := dk_181 0 25 (dk_at dksX4_mark_1 7 rfl rfl)
theorem dX4_mark_34 : decode cX4_mark 34 = .ok (.iinc 1 1, 3) := dk_132 1 1 (dk_at dksX4_mark_1 10 rfl rfl)
theorem dX4_mark_37 : decode cX4_mark 37 = .ok (.goto (-35), 3) := dk_167 255 221 (dk_at dksX4_mark_1 13 rfl rfl)
theorem dX4_mark_40 : decode cX4_mark 40 = .ok (.aload_n 0, 1) := dk_42 (dk_at dksX4_mark_1 16 rfl rfl)
theorem dX4_mark_41 : decode cX4_mark 41 = .ok (.getfield 7, 3) := dk_180 0 7 (dk_at dksX4_mark_1 17 rfl rfl)
theorem dX4_mark_44 : decode cX4_mark 44 = .ok (.getfield 83, 3) := dk_180 0 83 (dk_at dksX4_mark_1 20 rfl rfl)
theorem dX4_mark_47 : decode cX4_mark 47 = .ok (.astore_n 1, 1) := dk_76 (dk_at dksX4_mark_1 23 rfl rfl)
theorem dX4_mark_48 : decode cX4_mark 48 = .ok (.aload_n 1, 1) := dk_43 (dk_at dksX4_mark_2 0 rfl rfl)
theorem dX4_mark_49 : decode cX4_mark 49 = .ok (.arraylength, 1) := dk_190 (dk_at dksX4_mark_2 1 rfl rfl)
theorem dX4_mark_50 : decode cX4_mark 50 = .ok (.istore_n 2, 1) := dk_61 (dk_at dksX4_mark_2 2 rfl rfl)
theorem dX4_mark_51 : decode cX4_mark 51 = .ok (.iconst 0, 1) := dk_3 (dk_at dksX4_mark_2 3 rfl rfl)
theorem dX4_mark_52 : decode cX4_mark 52 = .ok (.istore_n 3, 1) := dk_62 (dk_at dksX4_mark_2 4 rfl rfl)
theorem dX4_mark_53 : decode cX4_mark 53 = .ok (.iload_n 3, 1) := dk_29 (dk_at dksX4_mark_2 5 rfl rfl)
theorem dX4_mark_54 : decode cX4_mark 54 = .ok (.iload_n 2, 1) := dk_28 (dk_at dksX4_mark_2 6 rfl rfl)
theorem dX4_mark_55 : decode cX4_mark 55 = .ok (.if_icmp .ge 27, 3) := dk_162 0 27 (dk_at dksX4_mark_2 7 rfl rfl)
theorem dX4_mark_58 : decode cX4_mark 58 = .ok (.aload_n 1, 1) := dk_43 (dk_at dksX4_mark_2 10 rfl rfl)
theorem dX4_mark_59 : decode cX4_mark 59 = .ok (.iload_n 3, 1) := dk_29 (dk_at dksX4_mark_2 11 rfl rfl)
theorem dX4_mark_60 : decode cX4_mark 60 = .ok (.iaload, 1) := dk_46 (dk_at dksX4_mark_2 12 rfl rfl)
theorem dX4_mark_61 : decode cX4_mark 61 = .ok (.istore 4, 2) := dk_54 4 (dk_at dksX4_mark_2 13 rfl rfl)
theorem dX4_mark_63 : decode cX4_mark 63 = .ok (.aload_n 0, 1) := dk_42 (dk_at dksX4_mark_2 15 rfl rfl)
theorem dX4_mark_64 : decode cX4_mark 64 = .ok (.aload_n 0, 1) := dk_42 (dk_at dksX4_mark_2 16 rfl rfl)
theorem dX4_mark_65 : decode cX4_mark 65 = .ok (.getfield 7, 3) := dk_180 0 7 (dk_at dksX4_mark_2 17 rfl rfl)
theorem dX4_mark_68 : decode cX4_mark 68 = .ok (.iload 4, 2) := dk_21 4 (dk_at dksX4_mark_2 20 rfl rfl)
theorem dX4_mark_70 : decode cX4_mark 70 = .ok (.invokevirtual 50, 3) := dk_182 0 50 (dk_at dksX4_mark_3 0 rfl rfl)
theorem dX4_mark_73 : decode cX4_mark 73 = .ok (.invokevirtual 80, 3) := dk_182 0 80 (dk_at dksX4_mark_3 3 rfl rfl)
theorem dX4_mark_76 : decode cX4_mark 76 = .ok (.iinc 3 1, 3) := dk_132 3 1 (dk_at dksX4_mark_3 6 rfl rfl)
theorem dX4_mark_79 : decode cX4_mark 79 = .ok (.goto (-26), 3) := dk_167 255 230 (dk_at dksX4_mark_3 9 rfl rfl)
theorem dX4_mark_82 : decode cX4_mark 82 = .ok (.iconst 0, 1) := dk_3 (dk_at dksX4_mark_3 12 rfl rfl)
theorem dX4_mark_83 : decode cX4_mark 83 = .ok (.istore_n 1, 1) := dk_60 (dk_at dksX4_mark_3 13 rfl rfl)
theorem dX4_mark_84 : decode cX4_mark 84 = .ok (.iload_n 1, 1) := dk_27 (dk_at dksX4_mark_3 14 rfl rfl)
theorem dX4_mark_85 : decode cX4_mark 85 = .ok (.aload_n 0, 1) := dk_42 (dk_at dksX4_mark_3 15 rfl rfl)
theorem dX4_mark_86 : decode cX4_mark 86 = .ok (.getfield 7, 3) := dk_180 0 7 (dk_at dksX4_mark_3 16 rfl rfl)
theorem dX4_mark_89 : decode cX4_mark 89 = .ok (.getfield 66, 3) := dk_180 0 66 (dk_at dksX4_mark_3 19 rfl rfl)
theorem dX4_mark_92 : decode cX4_mark 92 = .ok (.invokevirtual 70, 3) := dk_182 0 70 (dk_at dksX4_mark_4 0 rfl rfl)
theorem dX4_mark_95 : decode cX4_mark 95 = .ok (.if_icmp .ge 40, 3) := dk_162 0 40 (dk_at dksX4_mark_4 3 rfl rfl)
theorem dX4_mark_98 : decode cX4_mark 98 = .ok (.aload_n 0, 1) := dk_42 (dk_at dksX4_mark_4 6 rfl rfl)
theorem dX4_mark_99 : decode cX4_mark 99 = .ok (.getfield 7, 3) := dk_180 0 7 (dk_at dksX4_mark_4 7 rfl rfl)
theorem dX4_mark_102 : decode cX4_mark 102 = .ok (.getfield 66, 3) := dk_180 0 66 (dk_at dksX4_mark_4 10 rfl rfl)
theorem dX4_mark_105 : decode cX4_mark 105 = .ok (.iload_n 1, 1) := dk_27 (dk_at dksX4_mark_4 13 rfl rfl)
theorem dX4_mark_106 : decode cX4_mark 106 = .ok (.invokevirtual 76, 3) := dk_182 0 76 (dk_at dksX4_mark_4 14 rfl rfl)
theorem dX4_mark_109 : decode cX4_mark 109 = .ok (.checkcast 26, 3) := dk_192 0 26 (dk_at dksX4_mark_4 17 rfl rfl)
theorem dX4_mark_112 : decode cX4_mark 112 = .ok (.astore_n 2, 1) := dk_77 (dk_at dksX4_mark_4 20 rfl rfl)
theorem dX4_mark_113 : decode cX4_mark 113 = .ok (.aload_n 0, 1) := dk_42 (dk_at dksX4_mark_4 21 rfl rfl)
theorem dX4_mark_114 : decode cX4_mark 114 = .ok (.aload_n 2, 1) := dk_44 (dk_at dksX4_mark_4 22 rfl rfl)
theorem dX4_mark_115 : decode cX4_mark 115 = .ok (.getfield 86, 3) := dk_180 0 86 (dk_at dksX4_mark_5 0 rfl rfl)
theorem dX4_mark_118 : decode cX4_mark 118 = .ok (.ifCond .eq 7, 3) := dk_153 0 7 (dk_at dksX4_mark_5 3 rfl rfl)
theorem dX4_mark_121 : decode cX4_mark 121 = .ok (.aload_n 2, 1) := dk_44 (dk_at dksX4_mark_5 6 rfl rfl)
theorem dX4_mark_122 : decode cX4_mark 122 = .ok (.goto 4, 3) := dk_167 0 4 (dk_at dksX4_mark_5 7 rfl rfl)
theorem dX4_mark_125 : decode cX4_mark 125 = .ok (.aconst_null, 1) := dk_1 (dk_at dksX4_mark_5 10 rfl rfl)
theorem dX4_mark_126 : decode cX4_mark 126 = .ok (.invokevirtual 80, 3) := dk_182 0 80 (dk_at dksX4_mark_5 11 rfl rfl)
theorem dX4_mark_129 : decode cX4_mark 129 = .ok (.iinc 1 1, 3) := dk_132 1 1 (dk_at dksX4_mark_5 14 rfl rfl)
theorem dX4_mark_132 : decode cX4_mark 132 = .ok (.goto (-48), 3) := dk_167 255 208 (dk_at dksX4_mark_5 17 rfl rfl)
theorem dX4_mark_135 : decode cX4_mark 135 = .ok (.aload_n 0, 1) := dk_42 (dk_at dksX4_mark_5 20 rfl rfl)
theorem dX4_mark_136 : decode cX4_mark 136 = .ok (.getfield 34, 3) := dk_180 0 34 (dk_at dksX4_mark_5 21 rfl rfl)
theorem dX4_mark_139 : decode cX4_mark 139 = .ok (.ifCond .eq 10, 3) := dk_153 0 10 (dk_at dksX4_mark_6 0 rfl rfl)
theorem dX4_mark_142 : decode cX4_mark 142 = .ok (.aload_n 0, 1) := dk_42 (dk_at dksX4_mark_6 3 rfl rfl)
theorem dX4_mark_143 : decode cX4_mark 143 = .ok (.invokevirtual 89, 3) := dk_182 0 89 (dk_at dksX4_mark_6 4 rfl rfl)
theorem dX4_mark_146 : decode cX4_mark 146 = .ok (.goto (-11), 3) := dk_167 255 245 (dk_at dksX4_mark_6 7 rfl rfl)
theorem dX4_mark_149 : decode cX4_mark 149 = .ok (.aload_n 0, 1) := dk_42 (dk_at dksX4_mark_6 10 rfl rfl)
theorem dX4_mark_150 : decode cX4_mark 150 = .ok (.areturn, 1) := dk_176 (dk_at dksX4_mark_6 11 rfl rfl)
abbrev cX4_start : ByteArray := prog_6_method_4_code
def yX4_start : MethodName := ⟨RX4, "start", "(LIslandHeap$Thing;)V"⟩
def dkwX4_start_0 : List UInt8 := [42, 43, 182, 0, 56, 42, 182, 0, 60, 177]
abbrev dktX4_start_0 : List UInt8 := dkwX4_start_0 ++ []
theorem dksX4_start_0 : cX4_start.data.toList.drop 0 = dktX4_start_0 := by decide +kernel
theorem dX4_start_0 : decode cX4_start 0 = .ok (.aload_n 0, 1) := dk_42 (dk_at dksX4_start_0 0 rfl rfl)
theorem dX4_start_1 : decode cX4_start 1 = .ok (.aload_n 1, 1) := dk_43 (dk_at dksX4_start_0 1 rfl rfl)
theorem dX4_start_2 : decode cX4_start 2 = .ok (.invokevirtual 56, 3) := dk_182 0 56 (dk_at dksX4_start_0 2 rfl rfl)
theorem dX4_start_5 : decode cX4_start 5 = .ok (.aload_n 0, 1) := dk_42 (dk_at dksX4_start_0 5 rfl rfl)
theorem dX4_start_6 : decode cX4_start 6 = .ok (.invokevirtual 60, 3) := dk_182 0 60 (dk_at dksX4_start_0 6 rfl rfl)
theorem dX4_start_9 : decode cX4_start 9 = .ok (.return_, 1) := dk_177 (dk_at dksX4_start_0 9 rfl rfl)
abbrev cX4_reach : ByteArray := prog_6_method_2_code
def yX4_reach : MethodName := ⟨RX4, "reach", "(LIslandHeap$Thing;)V"⟩
def dkwX4_reach_3 : List UInt8 := [180, 0, 31, 184, 0, 40, 181, 0, 37, 177]
abbrev dktX4_reach_3 : List UInt8 := dkwX4_reach_3 ++ []
def dkwX4_reach_2 : List UInt8 := [42, 180, 0, 31, 43, 83, 42, 89, 180, 0, 31, 4, 96, 181, 0, 31, 42, 42, 180, 0, 37, 42]
abbrev dktX4_reach_2 : List UInt8 := dkwX4_reach_2 ++ dktX4_reach_3
def dkwX4_reach_1 : List UInt8 := [181, 0, 25, 42, 180, 0, 31, 42, 180, 0, 17, 160, 0, 9, 42, 4, 181, 0, 34, 177, 42, 180, 0, 13]
abbrev dktX4_reach_1 : List UInt8 := dkwX4_reach_1 ++ dktX4_reach_2
def dkwX4_reach_0 : List UInt8 := [43, 198, 0, 18, 43, 180, 0, 25, 154, 0, 11, 43, 42, 180, 0, 21, 166, 0, 4, 177, 43, 4]
abbrev dktX4_reach_0 : List UInt8 := dkwX4_reach_0 ++ dktX4_reach_1
theorem dksX4_reach_0 : cX4_reach.data.toList.drop 0 = dktX4_reach_0 := by decide +kernel
theorem dksX4_reach_1 : cX4_reach.data.toList.drop 22 = dktX4_reach_1 := dk_seg dksX4_reach_0 22 rfl rfl
theorem dksX4_reach_2 : cX4_reach.data.toList.drop 46 = dktX4_reach_2 := dk_seg dksX4_reach_1 24 rfl rfl
theorem dksX4_reach_3 : cX4_reach.data.toList.drop 68 = dktX4_reach_3 := dk_seg dksX4_reach_2 22 rfl rfl
theorem dX4_reach_0 : decode cX4_reach 0 = .ok (.aload_n 1, 1) := dk_43 (dk_at dksX4_reach_0 0 rfl rfl)
theorem dX4_reach_1 : decode cX4_reach 1 = .ok (.ifnull 18, 3) := dk_198 0 18 (dk_at dksX4_reach_0 1 rfl rfl)
theorem dX4_reach_4 : decode cX4_reach 4 = .ok (.aload_n 1, 1) := dk_43 (dk_at dksX4_reach_0 4 rfl rfl)
theorem dX4_reach_5 : decode cX4_reach 5 = .ok (.getfield 25, 3) := dk_180 0 25 (dk_at dksX4_reach_0 5 rfl rfl)
theorem dX4_reach_8 : decode cX4_reach 8 = .ok (.ifCond .ne 11, 3) := dk_154 0 11 (dk_at dksX4_reach_0 8 rfl rfl)
theorem dX4_reach_11 : decode cX4_reach 11 = .ok (.aload_n 1, 1) := dk_43 (dk_at dksX4_reach_0 11 rfl rfl)
theorem dX4_reach_12 : decode cX4_reach 12 = .ok (.aload_n 0, 1) := dk_42 (dk_at dksX4_reach_0 12 rfl rfl)
theorem dX4_reach_13 : decode cX4_reach 13 = .ok (.getfield 21, 3) := dk_180 0 21 (dk_at dksX4_reach_0 13 rfl rfl)
theorem dX4_reach_16 : decode cX4_reach 16 = .ok (.if_acmp .ne 4, 3) := dk_166 0 4 (dk_at dksX4_reach_0 16 rfl rfl)
theorem dX4_reach_19 : decode cX4_reach 19 = .ok (.return_, 1) := dk_177 (dk_at dksX4_reach_0 19 rfl rfl)
theorem dX4_reach_20 : decode cX4_reach 20 = .ok (.aload_n 1, 1) := dk_43 (dk_at dksX4_reach_0 20 rfl rfl)
theorem dX4_reach_21 : decode cX4_reach 21 = .ok (.iconst 1, 1) := dk_4 (dk_at dksX4_reach_0 21 rfl rfl)
theorem dX4_reach_22 : decode cX4_reach 22 = .ok (.putfield 25, 3) := dk_181 0 25 (dk_at dksX4_reach_1 0 rfl rfl)
theorem dX4_reach_25 : decode cX4_reach 25 = .ok (.aload_n 0, 1) := dk_42 (dk_at dksX4_reach_1 3 rfl rfl)
theorem dX4_reach_26 : decode cX4_reach 26 = .ok (.getfield 31, 3) := dk_180 0 31 (dk_at dksX4_reach_1 4 rfl rfl)
theorem dX4_reach_29 : decode cX4_reach 29 = .ok (.aload_n 0, 1) := dk_42 (dk_at dksX4_reach_1 7 rfl rfl)
theorem dX4_reach_30 : decode cX4_reach 30 = .ok (.getfield 17, 3) := dk_180 0 17 (dk_at dksX4_reach_1 8 rfl rfl)
theorem dX4_reach_33 : decode cX4_reach 33 = .ok (.if_icmp .ne 9, 3) := dk_160 0 9 (dk_at dksX4_reach_1 11 rfl rfl)
theorem dX4_reach_36 : decode cX4_reach 36 = .ok (.aload_n 0, 1) := dk_42 (dk_at dksX4_reach_1 14 rfl rfl)
theorem dX4_reach_37 : decode cX4_reach 37 = .ok (.iconst 1, 1) := dk_4 (dk_at dksX4_reach_1 15 rfl rfl)
theorem dX4_reach_38 : decode cX4_reach 38 = .ok (.putfield 34, 3) := dk_181 0 34 (dk_at dksX4_reach_1 16 rfl rfl)
theorem dX4_reach_41 : decode cX4_reach 41 = .ok (.return_, 1) := dk_177 (dk_at dksX4_reach_1 19 rfl rfl)
theorem dX4_reach_42 : decode cX4_reach 42 = .ok (.aload_n 0, 1) := dk_42 (dk_at dksX4_reach_1 20 rfl rfl)
theorem dX4_reach_43 : decode cX4_reach 43 = .ok (.getfield 13, 3) := dk_180 0 13 (dk_at dksX4_reach_1 21 rfl rfl)
theorem dX4_reach_46 : decode cX4_reach 46 = .ok (.aload_n 0, 1) := dk_42 (dk_at dksX4_reach_2 0 rfl rfl)
theorem dX4_reach_47 : decode cX4_reach 47 = .ok (.getfield 31, 3) := dk_180 0 31 (dk_at dksX4_reach_2 1 rfl rfl)
theorem dX4_reach_50 : decode cX4_reach 50 = .ok (.aload_n 1, 1) := dk_43 (dk_at dksX4_reach_2 4 rfl rfl)
theorem dX4_reach_51 : decode cX4_reach 51 = .ok (.aastore, 1) := dk_83 (dk_at dksX4_reach_2 5 rfl rfl)
theorem dX4_reach_52 : decode cX4_reach 52 = .ok (.aload_n 0, 1) := dk_42 (dk_at dksX4_reach_2 6 rfl rfl)
theorem dX4_reach_53 : decode cX4_reach 53 = .ok (.dup, 1) := dk_89 (dk_at dksX4_reach_2 7 rfl rfl)
theorem dX4_reach_54 : decode cX4_reach 54 = .ok (.getfield 31, 3) := dk_180 0 31 (dk_at dksX4_reach_2 8 rfl rfl)
theorem dX4_reach_57 : decode cX4_reach 57 = .ok (.iconst 1, 1) := dk_4 (dk_at dksX4_reach_2 11 rfl rfl)
theorem dX4_reach_58 : decode cX4_reach 58 = .ok (.iadd, 1) := dk_96 (dk_at dksX4_reach_2 12 rfl rfl)
theorem dX4_reach_59 : decode cX4_reach 59 = .ok (.putfield 31, 3) := dk_181 0 31 (dk_at dksX4_reach_2 13 rfl rfl)
theorem dX4_reach_62 : decode cX4_reach 62 = .ok (.aload_n 0, 1) := dk_42 (dk_at dksX4_reach_2 16 rfl rfl)
theorem dX4_reach_63 : decode cX4_reach 63 = .ok (.aload_n 0, 1) := dk_42 (dk_at dksX4_reach_2 17 rfl rfl)
theorem dX4_reach_64 : decode cX4_reach 64 = .ok (.getfield 37, 3) := dk_180 0 37 (dk_at dksX4_reach_2 18 rfl rfl)
theorem dX4_reach_67 : decode cX4_reach 67 = .ok (.aload_n 0, 1) := dk_42 (dk_at dksX4_reach_2 21 rfl rfl)
theorem dX4_reach_68 : decode cX4_reach 68 = .ok (.getfield 31, 3) := dk_180 0 31 (dk_at dksX4_reach_3 0 rfl rfl)
theorem dX4_reach_71 : decode cX4_reach 71 = .ok (.invokestatic 40, 3) := dk_184 0 40 (dk_at dksX4_reach_3 3 rfl rfl)
theorem dX4_reach_74 : decode cX4_reach 74 = .ok (.putfield 37, 3) := dk_181 0 37 (dk_at dksX4_reach_3 6 rfl rfl)
theorem dX4_reach_77 : decode cX4_reach 77 = .ok (.return_, 1) := dk_177 (dk_at dksX4_reach_3 9 rfl rfl)
abbrev cX4_drain : ByteArray := prog_6_method_3_code
def yX4_drain : MethodName := ⟨RX4, "drain", "()V"⟩
def dkwX4_drain_3 : List UInt8 := [167, 255, 187, 177]
abbrev dktX4_drain_3 : List UInt8 := dkwX4_drain_3 ++ []
def dkwX4_drain_2 : List UInt8 := [21, 4, 46, 54, 5, 42, 42, 180, 0, 7, 21, 5, 182, 0, 50, 182, 0, 56, 132, 4, 1, 167, 255, 228]
abbrev dktX4_drain_2 : List UInt8 := dkwX4_drain_2 ++ dktX4_drain_3
def dkwX4_drain_1 : List UInt8 := [180, 0, 31, 50, 76, 43, 180, 0, 46, 77, 44, 190, 62, 3, 54, 4, 21, 4, 29, 162, 0, 28, 44]
abbrev dktX4_drain_1 : List UInt8 := dkwX4_drain_1 ++ dktX4_drain_2
def dkwX4_drain_0 : List UInt8 := [42, 180, 0, 31, 158, 0, 68, 42, 89, 180, 0, 31, 4, 100, 181, 0, 31, 42, 180, 0, 13, 42]
abbrev dktX4_drain_0 : List UInt8 := dkwX4_drain_0 ++ dktX4_drain_1
theorem dksX4_drain_0 : cX4_drain.data.toList.drop 0 = dktX4_drain_0 := by decide +kernel
theorem dksX4_drain_1 : cX4_drain.data.toList.drop 22 = dktX4_drain_1 := dk_seg dksX4_drain_0 22 rfl rfl
theorem dksX4_drain_2 : cX4_drain.data.toList.drop 45 = dktX4_drain_2 := dk_seg dksX4_drain_1 23 rfl rfl
theorem dksX4_drain_3 : cX4_drain.data.toList.drop 69 = dktX4_drain_3 := dk_seg dksX4_drain_2 24 rfl rfl
theorem dX4_drain_0 : decode cX4_drain 0 = .ok (.aload_n 0, 1) := dk_42 (dk_at dksX4_drain_0 0 rfl rfl)
theorem dX4_drain_1 : decode cX4_drain 1 = .ok (.getfield 31, 3) := dk_180 0 31 (dk_at dksX4_drain_0 1 rfl rfl)
theorem dX4_drain_4 : decode cX4_drain 4 = .ok (.ifCond .le 68, 3) := dk_158 0 68 (dk_at dksX4_drain_0 4 rfl rfl)
theorem dX4_drain_7 : decode cX4_drain 7 = .ok (.aload_n 0, 1) := dk_42 (dk_at dksX4_drain_0 7 rfl rfl)
theorem dX4_drain_8 : decode cX4_drain 8 = .ok (.dup, 1) := dk_89 (dk_at dksX4_drain_0 8 rfl rfl)
theorem dX4_drain_9 : decode cX4_drain 9 = .ok (.getfield 31, 3) := dk_180 0 31 (dk_at dksX4_drain_0 9 rfl rfl)
theorem dX4_drain_12 : decode cX4_drain 12 = .ok (.iconst 1, 1) := dk_4 (dk_at dksX4_drain_0 12 rfl rfl)
theorem dX4_drain_13 : decode cX4_drain 13 = .ok (.isub, 1) := dk_100 (dk_at dksX4_drain_0 13 rfl rfl)
theorem dX4_drain_14 : decode cX4_drain 14 = .ok (.putfield 31, 3) := dk_181 0 31 (dk_at dksX4_drain_0 14 rfl rfl)
theorem dX4_drain_17 : decode cX4_drain 17 = .ok (.aload_n 0, 1) := dk_42 (dk_at dksX4_drain_0 17 rfl rfl)
theorem dX4_drain_18 : decode cX4_drain 18 = .ok (.getfield 13, 3) := dk_180 0 13 (dk_at dksX4_drain_0 18 rfl rfl)
theorem dX4_drain_21 : decode cX4_drain 21 = .ok (.aload_n 0, 1) := dk_42 (dk_at dksX4_drain_0 21 rfl rfl)
theorem dX4_drain_22 : decode cX4_drain 22 = .ok (.getfield 31, 3) := dk_180 0 31 (dk_at dksX4_drain_1 0 rfl rfl)
theorem dX4_drain_25 : decode cX4_drain 25 = .ok (.aaload, 1) := dk_50 (dk_at dksX4_drain_1 3 rfl rfl)
theorem dX4_drain_26 : decode cX4_drain 26 = .ok (.astore_n 1, 1) := dk_76 (dk_at dksX4_drain_1 4 rfl rfl)
theorem dX4_drain_27 : decode cX4_drain 27 = .ok (.aload_n 1, 1) := dk_43 (dk_at dksX4_drain_1 5 rfl rfl)
theorem dX4_drain_28 : decode cX4_drain 28 = .ok (.getfield 46, 3) := dk_180 0 46 (dk_at dksX4_drain_1 6 rfl rfl)
theorem dX4_drain_31 : decode cX4_drain 31 = .ok (.astore_n 2, 1) := dk_77 (dk_at dksX4_drain_1 9 rfl rfl)
theorem dX4_drain_32 : decode cX4_drain 32 = .ok (.aload_n 2, 1) := dk_44 (dk_at dksX4_drain_1 10 rfl rfl)
theorem dX4_drain_33 : decode cX4_drain 33 = .ok (.arraylength, 1) := dk_190 (dk_at dksX4_drain_1 11 rfl rfl)
theorem dX4_drain_34 : decode cX4_drain 34 = .ok (.istore_n 3, 1) := dk_62 (dk_at dksX4_drain_1 12 rfl rfl)
theorem dX4_drain_35 : decode cX4_drain 35 = .ok (.iconst 0, 1) := dk_3 (dk_at dksX4_drain_1 13 rfl rfl)
theorem dX4_drain_36 : decode cX4_drain 36 = .ok (.istore 4, 2) := dk_54 4 (dk_at dksX4_drain_1 14 rfl rfl)
theorem dX4_drain_38 : decode cX4_drain 38 = .ok (.iload 4, 2) := dk_21 4 (dk_at dksX4_drain_1 16 rfl rfl)
theorem dX4_drain_40 : decode cX4_drain 40 = .ok (.iload_n 3, 1) := dk_29 (dk_at dksX4_drain_1 18 rfl rfl)
theorem dX4_drain_41 : decode cX4_drain 41 = .ok (.if_icmp .ge 28, 3) := dk_162 0 28 (dk_at dksX4_drain_1 19 rfl rfl)
theorem dX4_drain_44 : decode cX4_drain 44 = .ok (.aload_n 2, 1) := dk_44 (dk_at dksX4_drain_1 22 rfl rfl)
theorem dX4_drain_45 : decode cX4_drain 45 = .ok (.iload 4, 2) := dk_21 4 (dk_at dksX4_drain_2 0 rfl rfl)
theorem dX4_drain_47 : decode cX4_drain 47 = .ok (.iaload, 1) := dk_46 (dk_at dksX4_drain_2 2 rfl rfl)
theorem dX4_drain_48 : decode cX4_drain 48 = .ok (.istore 5, 2) := dk_54 5 (dk_at dksX4_drain_2 3 rfl rfl)
theorem dX4_drain_50 : decode cX4_drain 50 = .ok (.aload_n 0, 1) := dk_42 (dk_at dksX4_drain_2 5 rfl rfl)
theorem dX4_drain_51 : decode cX4_drain 51 = .ok (.aload_n 0, 1) := dk_42 (dk_at dksX4_drain_2 6 rfl rfl)
theorem dX4_drain_52 : decode cX4_drain 52 = .ok (.getfield 7, 3) := dk_180 0 7 (dk_at dksX4_drain_2 7 rfl rfl)
theorem dX4_drain_55 : decode cX4_drain 55 = .ok (.iload 5, 2) := dk_21 5 (dk_at dksX4_drain_2 10 rfl rfl)
theorem dX4_drain_57 : decode cX4_drain 57 = .ok (.invokevirtual 50, 3) := dk_182 0 50 (dk_at dksX4_drain_2 12 rfl rfl)
theorem dX4_drain_60 : decode cX4_drain 60 = .ok (.invokevirtual 56, 3) := dk_182 0 56 (dk_at dksX4_drain_2 15 rfl rfl)
theorem dX4_drain_63 : decode cX4_drain 63 = .ok (.iinc 4 1, 3) := dk_132 4 1 (dk_at dksX4_drain_2 18 rfl rfl)
theorem dX4_drain_66 : decode cX4_drain 66 = .ok (.goto (-28), 3) := dk_167 255 228 (dk_at dksX4_drain_2 21 rfl rfl)
theorem dX4_drain_69 : decode cX4_drain 69 = .ok (.goto (-69), 3) := dk_167 255 187 (dk_at dksX4_drain_3 0 rfl rfl)
theorem dX4_drain_72 : decode cX4_drain 72 = .ok (.return_, 1) := dk_177 (dk_at dksX4_drain_3 3 rfl rfl)
abbrev cX4_scan : ByteArray := prog_6_method_5_code
def yX4_scan : MethodName := ⟨RX4, "scan", "()V"⟩
def dkwX4_scan_3 : List UInt8 := [180, 0, 46, 29, 46, 182, 0, 50, 182, 0, 80, 132, 3, 1, 167, 255, 220, 132, 1, 1, 167, 255, 183, 177]
abbrev dktX4_scan_3 : List UInt8 := dkwX4_scan_3 ++ []
def dkwX4_scan_2 : List UInt8 := [3, 62, 29, 44, 180, 0, 46, 190, 162, 0, 33, 44, 180, 0, 25, 153, 0, 26, 42, 42, 180, 0, 7, 44]
abbrev dktX4_scan_2 : List UInt8 := dkwX4_scan_2 ++ dktX4_scan_3
def dkwX4_scan_1 : List UInt8 := [180, 0, 66, 182, 0, 70, 162, 0, 65, 42, 180, 0, 7, 180, 0, 66, 27, 182, 0, 76, 192, 0, 26, 77]
abbrev dktX4_scan_1 : List UInt8 := dkwX4_scan_1 ++ dktX4_scan_2
def dkwX4_scan_0 : List UInt8 := [42, 3, 181, 0, 34, 42, 89, 180, 0, 63, 4, 96, 181, 0, 63, 3, 60, 27, 42, 180, 0, 7]
abbrev dktX4_scan_0 : List UInt8 := dkwX4_scan_0 ++ dktX4_scan_1
theorem dksX4_scan_0 : cX4_scan.data.toList.drop 0 = dktX4_scan_0 := by decide +kernel
theorem dksX4_scan_1 : cX4_scan.data.toList.drop 22 = dktX4_scan_1 := dk_seg dksX4_scan_0 22 rfl rfl
theorem dksX4_scan_2 : cX4_scan.data.toList.drop 46 = dktX4_scan_2 := dk_seg dksX4_scan_1 24 rfl rfl
theorem dksX4_scan_3 : cX4_scan.data.toList.drop 70 = dktX4_scan_3 := dk_seg dksX4_scan_2 24 rfl rfl
theorem dX4_scan_0 : decode cX4_scan 0 = .ok (.aload_n 0, 1) := dk_42 (dk_at dksX4_scan_0 0 rfl rfl)
theorem dX4_scan_1 : decode cX4_scan 1 = .ok (.iconst 0, 1) := dk_3 (dk_at dksX4_scan_0 1 rfl rfl)
theorem dX4_scan_2 : decode cX4_scan 2 = .ok (.putfield 34, 3) := dk_181 0 34 (dk_at dksX4_scan_0 2 rfl rfl)
theorem dX4_scan_5 : decode cX4_scan 5 = .ok (.aload_n 0, 1) := dk_42 (dk_at dksX4_scan_0 5 rfl rfl)
theorem dX4_scan_6 : decode cX4_scan 6 = .ok (.dup, 1) := dk_89 (dk_at dksX4_scan_0 6 rfl rfl)
theorem dX4_scan_7 : decode cX4_scan 7 = .ok (.getfield 63, 3) := dk_180 0 63 (dk_at dksX4_scan_0 7 rfl rfl)
theorem dX4_scan_10 : decode cX4_scan 10 = .ok (.iconst 1, 1) := dk_4 (dk_at dksX4_scan_0 10 rfl rfl)
theorem dX4_scan_11 : decode cX4_scan 11 = .ok (.iadd, 1) := dk_96 (dk_at dksX4_scan_0 11 rfl rfl)
theorem dX4_scan_12 : decode cX4_scan 12 = .ok (.putfield 63, 3) := dk_181 0 63 (dk_at dksX4_scan_0 12 rfl rfl)
theorem dX4_scan_15 : decode cX4_scan 15 = .ok (.iconst 0, 1) := dk_3 (dk_at dksX4_scan_0 15 rfl rfl)
theorem dX4_scan_16 : decode cX4_scan 16 = .ok (.istore_n 1, 1) := dk_60 (dk_at dksX4_scan_0 16 rfl rfl)
theorem dX4_scan_17 : decode cX4_scan 17 = .ok (.iload_n 1, 1) := dk_27 (dk_at dksX4_scan_0 17 rfl rfl)
theorem dX4_scan_18 : decode cX4_scan 18 = .ok (.aload_n 0, 1) := dk_42 (dk_at dksX4_scan_0 18 rfl rfl)
theorem dX4_scan_19 : decode cX4_scan 19 = .ok (.getfield 7, 3) := dk_180 0 7 (dk_at dksX4_scan_0 19 rfl rfl)
theorem dX4_scan_22 : decode cX4_scan 22 = .ok (.getfield 66, 3) := dk_180 0 66 (dk_at dksX4_scan_1 0 rfl rfl)
theorem dX4_scan_25 : decode cX4_scan 25 = .ok (.invokevirtual 70, 3) := dk_182 0 70 (dk_at dksX4_scan_1 3 rfl rfl)
theorem dX4_scan_28 : decode cX4_scan 28 = .ok (.if_icmp .ge 65, 3) := dk_162 0 65 (dk_at dksX4_scan_1 6 rfl rfl)
theorem dX4_scan_31 : decode cX4_scan 31 = .ok (.aload_n 0, 1) := dk_42 (dk_at dksX4_scan_1 9 rfl rfl)
theorem dX4_scan_32 : decode cX4_scan 32 = .ok (.getfield 7, 3) := dk_180 0 7 (dk_at dksX4_scan_1 10 rfl rfl)
theorem dX4_scan_35 : decode cX4_scan 35 = .ok (.getfield 66, 3) := dk_180 0 66 (dk_at dksX4_scan_1 13 rfl rfl)
theorem dX4_scan_38 : decode cX4_scan 38 = .ok (.iload_n 1, 1) := dk_27 (dk_at dksX4_scan_1 16 rfl rfl)
theorem dX4_scan_39 : decode cX4_scan 39 = .ok (.invokevirtual 76, 3) := dk_182 0 76 (dk_at dksX4_scan_1 17 rfl rfl)
theorem dX4_scan_42 : decode cX4_scan 42 = .ok (.checkcast 26, 3) := dk_192 0 26 (dk_at dksX4_scan_1 20 rfl rfl)
theorem dX4_scan_45 : decode cX4_scan 45 = .ok (.astore_n 2, 1) := dk_77 (dk_at dksX4_scan_1 23 rfl rfl)
theorem dX4_scan_46 : decode cX4_scan 46 = .ok (.iconst 0, 1) := dk_3 (dk_at dksX4_scan_2 0 rfl rfl)
theorem dX4_scan_47 : decode cX4_scan 47 = .ok (.istore_n 3, 1) := dk_62 (dk_at dksX4_scan_2 1 rfl rfl)
theorem dX4_scan_48 : decode cX4_scan 48 = .ok (.iload_n 3, 1) := dk_29 (dk_at dksX4_scan_2 2 rfl rfl)
theorem dX4_scan_49 : decode cX4_scan 49 = .ok (.aload_n 2, 1) := dk_44 (dk_at dksX4_scan_2 3 rfl rfl)
theorem dX4_scan_50 : decode cX4_scan 50 = .ok (.getfield 46, 3) := dk_180 0 46 (dk_at dksX4_scan_2 4 rfl rfl)
theorem dX4_scan_53 : decode cX4_scan 53 = .ok (.arraylength, 1) := dk_190 (dk_at dksX4_scan_2 7 rfl rfl)
theorem dX4_scan_54 : decode cX4_scan 54 = .ok (.if_icmp .ge 33, 3) := dk_162 0 33 (dk_at dksX4_scan_2 8 rfl rfl)
theorem dX4_scan_57 : decode cX4_scan 57 = .ok (.aload_n 2, 1) := dk_44 (dk_at dksX4_scan_2 11 rfl rfl)
theorem dX4_scan_58 : decode cX4_scan 58 = .ok (.getfield 25, 3) := dk_180 0 25 (dk_at dksX4_scan_2 12 rfl rfl)
theorem dX4_scan_61 : decode cX4_scan 61 = .ok (.ifCond .eq 26, 3) := dk_153 0 26 (dk_at dksX4_scan_2 15 rfl rfl)
theorem dX4_scan_64 : decode cX4_scan 64 = .ok (.aload_n 0, 1) := dk_42 (dk_at dksX4_scan_2 18 rfl rfl)
theorem dX4_scan_65 : decode cX4_scan 65 = .ok (.aload_n 0, 1) := dk_42 (dk_at dksX4_scan_2 19 rfl rfl)
theorem dX4_scan_66 : decode cX4_scan 66 = .ok (.getfield 7, 3) := dk_180 0 7 (dk_at dksX4_scan_2 20 rfl rfl)
theorem dX4_scan_69 : decode cX4_scan 69 = .ok (.aload_n 2, 1) := dk_44 (dk_at dksX4_scan_2 23 rfl rfl)
theorem dX4_scan_70 : decode cX4_scan 70 = .ok (.getfield 46, 3) := dk_180 0 46 (dk_at dksX4_scan_3 0 rfl rfl)
theorem dX4_scan_73 : decode cX4_scan 73 = .ok (.iload_n 3, 1) := dk_29 (dk_at dksX4_scan_3 3 rfl rfl)
theorem dX4_scan_74 : decode cX4_scan 74 = .ok (.iaload, 1) := dk_46 (dk_at dksX4_scan_3 4 rfl rfl)
theorem dX4_scan_75 : decode cX4_scan 75 = .ok (.invokevirtual 50, 3) := dk_182 0 50 (dk_at dksX4_scan_3 5 rfl rfl)
theorem dX4_scan_78 : decode cX4_scan 78 = .ok (.invokevirtual 80, 3) := dk_182 0 80 (dk_at dksX4_scan_3 8 rfl rfl)
theorem dX4_scan_81 : decode cX4_scan 81 = .ok (.iinc 3 1, 3) := dk_132 3 1 (dk_at dksX4_scan_3 11 rfl rfl)
theorem dX4_scan_84 : decode cX4_scan 84 = .ok (.goto (-36), 3) := dk_167 255 220 (dk_at dksX4_scan_3 14 rfl rfl)
theorem dX4_scan_87 : decode cX4_scan 87 = .ok (.iinc 1 1, 3) := dk_132 1 1 (dk_at dksX4_scan_3 17 rfl rfl)
theorem dX4_scan_90 : decode cX4_scan 90 = .ok (.goto (-73), 3) := dk_167 255 183 (dk_at dksX4_scan_3 20 rfl rfl)
theorem dX4_scan_93 : decode cX4_scan 93 = .ok (.return_, 1) := dk_177 (dk_at dksX4_scan_3 23 rfl rfl)
abbrev cX4_words : ByteArray := prog_6_method_7_code
def yX4_words : MethodName := ⟨RX4, "words", "()I"⟩
def dkwX4_words_2 : List UInt8 := [182, 0, 76, 192, 0, 26, 182, 0, 92, 167, 0, 4, 3, 96, 60, 132, 2, 1, 167, 255, 195, 27, 172]
abbrev dktX4_words_2 : List UInt8 := dkwX4_words_2 ++ []
def dkwX4_words_1 : List UInt8 := [180, 0, 66, 28, 182, 0, 76, 192, 0, 26, 180, 0, 25, 153, 0, 23, 42, 180, 0, 7, 180, 0, 66, 28]
abbrev dktX4_words_1 : List UInt8 := dkwX4_words_1 ++ dktX4_words_2
def dkwX4_words_0 : List UInt8 := [3, 60, 3, 61, 28, 42, 180, 0, 7, 180, 0, 66, 182, 0, 70, 162, 0, 53, 27, 42, 180, 0, 7]
abbrev dktX4_words_0 : List UInt8 := dkwX4_words_0 ++ dktX4_words_1
theorem dksX4_words_0 : cX4_words.data.toList.drop 0 = dktX4_words_0 := by decide +kernel
theorem dksX4_words_1 : cX4_words.data.toList.drop 23 = dktX4_words_1 := dk_seg dksX4_words_0 23 rfl rfl
theorem dksX4_words_2 : cX4_words.data.toList.drop 47 = dktX4_words_2 := dk_seg dksX4_words_1 24 rfl rfl
theorem dX4_words_0 : decode cX4_words 0 = .ok (.iconst 0, 1) := dk_3 (dk_at dksX4_words_0 0 rfl rfl)
theorem dX4_words_1 : decode cX4_words 1 = .ok (.istore_n 1, 1) := dk_60 (dk_at dksX4_words_0 1 rfl rfl)
theorem dX4_words_2 : decode cX4_words 2 = .ok (.iconst 0, 1) := dk_3 (dk_at dksX4_words_0 2 rfl rfl)
theorem dX4_words_3 : decode cX4_words 3 = .ok (.istore_n 2, 1) := dk_61 (dk_at dksX4_words_0 3 rfl rfl)
theorem dX4_words_4 : decode cX4_words 4 = .ok (.iload_n 2, 1) := dk_28 (dk_at dksX4_words_0 4 rfl rfl)
theorem dX4_words_5 : decode cX4_words 5 = .ok (.aload_n 0, 1) := dk_42 (dk_at dksX4_words_0 5 rfl rfl)
theorem dX4_words_6 : decode cX4_words 6 = .ok (.getfield 7, 3) := dk_180 0 7 (dk_at dksX4_words_0 6 rfl rfl)
theorem dX4_words_9 : decode cX4_words 9 = .ok (.getfield 66, 3) := dk_180 0 66 (dk_at dksX4_words_0 9 rfl rfl)
theorem dX4_words_12 : decode cX4_words 12 = .ok (.invokevirtual 70, 3) := dk_182 0 70 (dk_at dksX4_words_0 12 rfl rfl)
theorem dX4_words_15 : decode cX4_words 15 = .ok (.if_icmp .ge 53, 3) := dk_162 0 53 (dk_at dksX4_words_0 15 rfl rfl)
theorem dX4_words_18 : decode cX4_words 18 = .ok (.iload_n 1, 1) := dk_27 (dk_at dksX4_words_0 18 rfl rfl)
theorem dX4_words_19 : decode cX4_words 19 = .ok (.aload_n 0, 1) := dk_42 (dk_at dksX4_words_0 19 rfl rfl)
theorem dX4_words_20 : decode cX4_words 20 = .ok (.getfield 7, 3) := dk_180 0 7 (dk_at dksX4_words_0 20 rfl rfl)
theorem dX4_words_23 : decode cX4_words 23 = .ok (.getfield 66, 3) := dk_180 0 66 (dk_at dksX4_words_1 0 rfl rfl)
theorem dX4_words_26 : decode cX4_words 26 = .ok (.iload_n 2, 1) := dk_28 (dk_at dksX4_words_1 3 rfl rfl)
theorem dX4_words_27 : decode cX4_words 27 = .ok (.invokevirtual 76, 3) := dk_182 0 76 (dk_at dksX4_words_1 4 rfl rfl)
theorem dX4_words_30 : decode cX4_words 30 = .ok (.checkcast 26, 3) := dk_192 0 26 (dk_at dksX4_words_1 7 rfl rfl)
theorem dX4_words_33 : decode cX4_words 33 = .ok (.getfield 25, 3) := dk_180 0 25 (dk_at dksX4_words_1 10 rfl rfl)
theorem dX4_words_36 : decode cX4_words 36 = .ok (.ifCond .eq 23, 3) := dk_153 0 23 (dk_at dksX4_words_1 13 rfl rfl)
theorem dX4_words_39 : decode cX4_words 39 = .ok (.aload_n 0, 1) := dk_42 (dk_at dksX4_words_1 16 rfl rfl)
theorem dX4_words_40 : decode cX4_words 40 = .ok (.getfield 7, 3) := dk_180 0 7 (dk_at dksX4_words_1 17 rfl rfl)
theorem dX4_words_43 : decode cX4_words 43 = .ok (.getfield 66, 3) := dk_180 0 66 (dk_at dksX4_words_1 20 rfl rfl)
theorem dX4_words_46 : decode cX4_words 46 = .ok (.iload_n 2, 1) := dk_28 (dk_at dksX4_words_1 23 rfl rfl)
theorem dX4_words_47 : decode cX4_words 47 = .ok (.invokevirtual 76, 3) := dk_182 0 76 (dk_at dksX4_words_2 0 rfl rfl)
theorem dX4_words_50 : decode cX4_words 50 = .ok (.checkcast 26, 3) := dk_192 0 26 (dk_at dksX4_words_2 3 rfl rfl)
theorem dX4_words_53 : decode cX4_words 53 = .ok (.invokevirtual 92, 3) := dk_182 0 92 (dk_at dksX4_words_2 6 rfl rfl)
theorem dX4_words_56 : decode cX4_words 56 = .ok (.goto 4, 3) := dk_167 0 4 (dk_at dksX4_words_2 9 rfl rfl)
theorem dX4_words_59 : decode cX4_words 59 = .ok (.iconst 0, 1) := dk_3 (dk_at dksX4_words_2 12 rfl rfl)
theorem dX4_words_60 : decode cX4_words 60 = .ok (.iadd, 1) := dk_96 (dk_at dksX4_words_2 13 rfl rfl)
theorem dX4_words_61 : decode cX4_words 61 = .ok (.istore_n 1, 1) := dk_60 (dk_at dksX4_words_2 14 rfl rfl)
theorem dX4_words_62 : decode cX4_words 62 = .ok (.iinc 2 1, 3) := dk_132 2 1 (dk_at dksX4_words_2 15 rfl rfl)
theorem dX4_words_65 : decode cX4_words 65 = .ok (.goto (-61), 3) := dk_167 255 195 (dk_at dksX4_words_2 18 rfl rfl)
theorem dX4_words_68 : decode cX4_words 68 = .ok (.iload_n 1, 1) := dk_27 (dk_at dksX4_words_2 21 rfl rfl)
theorem dX4_words_69 : decode cX4_words 69 = .ok (.ireturn, 1) := dk_172 (dk_at dksX4_words_2 22 rfl rfl)
theorem q77 : (Jvm.Cond.initialized "IslandHeap$Marking") ∈ lw_all := lw_g (lw_at lw_m1 16 rfl) rfl
theorem q138 : (Jvm.Cond.fieldLinkNest "IslandHeap$Marking" (66 : Nat) "IslandHeap$Heap" "things" "Ljava/util/ArrayList;" "IslandHeap") ∈ lw_tbl := lw_at lw_m1 77 rfl
theorem q144 : (Jvm.Cond.fieldLinkNest "IslandHeap$Marking" (83 : Nat) "IslandHeap$Heap" "roots" "[I" "IslandHeap") ∈ lw_tbl := lw_at lw_m1 83 rfl
theorem q256 : (Jvm.Cond.fieldLinkNest "IslandHeap$Marking" (46 : Nat) "IslandHeap$Thing" "fields" "[I" "IslandHeap") ∈ lw_tbl := lw_at lw_m1 195 rfl
theorem q266 : (Jvm.Cond.fieldLinkNest "IslandHeap$Marking" (86 : Nat) "IslandHeap$Thing" "isPinned" "Z" "IslandHeap") ∈ lw_tbl := lw_at lw_m1 205 rfl
theorem q272 : (Jvm.Cond.fieldLinkNest "IslandHeap$Marking" (25 : Nat) "IslandHeap$Thing" "isMarked" "Z" "IslandHeap") ∈ lw_tbl := lw_at lw_m1 211 rfl
theorem q344 : (Jvm.Cond.selects "IslandHeap$Marking" ({ cls := "java/lang/Object", name := "getClass", desc := "()Ljava/lang/Class;" } : Jvm.MethodName) ({ cls := "java/lang/Object", name := "getClass", desc := "()Ljava/lang/Class;" } : Jvm.MethodName)) ∈ lw_all := lw_g (lw_at lw_m2 43 rfl) rfl
theorem q452 : (Jvm.Cond.instantiable "IslandHeap$Marking" (8 : Nat)) ∈ lw_all := lw_g (lw_at lw_m2 151 rfl) rfl
theorem q454 : (Jvm.Cond.instanceMethod ({ cls := "IslandHeap$Marking", name := "<init>", desc := "(LIslandHeap$Heap;[LIslandHeap$Thing;ILIslandHeap$Thing;)V" } : Jvm.MethodName)) ∈ lw_all := lw_g (lw_at lw_m2 153 rfl) rfl
theorem q455 : (Jvm.Cond.code ({ cls := "IslandHeap$Marking", name := "<init>", desc := "(LIslandHeap$Heap;[LIslandHeap$Thing;ILIslandHeap$Thing;)V" } : Jvm.MethodName) prog_6_method_1_code (5 : Nat) (Option.none : Option Jvm.ClassFile.FieldType)) ∈ lw_all := lw_g (lw_at lw_m2 154 rfl) rfl
theorem q456 : (Jvm.Cond.methodLink "IslandHeap$Marking" (1 : Nat) ({ cls := "java/lang/Object", name := "<init>", desc := "()V" } : Jvm.MethodName)) ∈ lw_all := lw_g (lw_at lw_m2 155 rfl) rfl
theorem q457 : (Jvm.Cond.fieldLink "IslandHeap$Marking" (7 : Nat) "IslandHeap$Marking" "heap" "LIslandHeap$Heap;") ∈ lw_all := lw_g (lw_at lw_m2 156 rfl) rfl
theorem q458 : (Jvm.Cond.fieldLink "IslandHeap$Marking" (21 : Nat) "IslandHeap$Marking" "without" "LIslandHeap$Thing;") ∈ lw_all := lw_g (lw_at lw_m2 157 rfl) rfl
theorem q459 : (Jvm.Cond.fieldLink "IslandHeap$Marking" (13 : Nat) "IslandHeap$Marking" "stack" "[LIslandHeap$Thing;") ∈ lw_all := lw_g (lw_at lw_m2 158 rfl) rfl
theorem q460 : (Jvm.Cond.fieldLink "IslandHeap$Marking" (17 : Nat) "IslandHeap$Marking" "depth" "I") ∈ lw_all := lw_g (lw_at lw_m2 159 rfl) rfl
theorem q461 : (Jvm.Cond.fieldLink "IslandHeap$Marking" (31 : Nat) "IslandHeap$Marking" "count" "I") ∈ lw_all := lw_g (lw_at lw_m2 160 rfl) rfl
theorem q462 : (Jvm.Cond.fieldLink "IslandHeap$Marking" (37 : Nat) "IslandHeap$Marking" "top" "I") ∈ lw_all := lw_g (lw_at lw_m2 161 rfl) rfl
theorem q464 : (Jvm.Cond.fieldLink "IslandHeap$Marking" (63 : Nat) "IslandHeap$Marking" "scans" "I") ∈ lw_all := lw_g (lw_at lw_m2 163 rfl) rfl
theorem q466 : (Jvm.Cond.fieldLink "IslandHeap$Marking" (34 : Nat) "IslandHeap$Marking" "isOver" "Z") ∈ lw_all := lw_g (lw_at lw_m2 165 rfl) rfl
theorem q467 : (Jvm.Cond.laysFinal "IslandHeap$Marking" "IslandHeap$Marking" "heap" "LIslandHeap$Heap;") ∈ lw_all := lw_g (lw_at lw_m2 166 rfl) rfl
theorem q468 : (Jvm.Cond.soleField "IslandHeap$Marking" "heap") ∈ lw_all := lw_g (lw_at lw_m2 167 rfl) rfl
theorem q469 : (Jvm.Cond.laysFinal "IslandHeap$Marking" "IslandHeap$Marking" "without" "LIslandHeap$Thing;") ∈ lw_all := lw_g (lw_at lw_m2 168 rfl) rfl
theorem q470 : (Jvm.Cond.soleField "IslandHeap$Marking" "without") ∈ lw_all := lw_g (lw_at lw_m2 169 rfl) rfl
theorem q471 : (Jvm.Cond.laysFinal "IslandHeap$Marking" "IslandHeap$Marking" "stack" "[LIslandHeap$Thing;") ∈ lw_all := lw_g (lw_at lw_m2 170 rfl) rfl
theorem q472 : (Jvm.Cond.soleField "IslandHeap$Marking" "stack") ∈ lw_all := lw_g (lw_at lw_m2 171 rfl) rfl
theorem q473 : (Jvm.Cond.laysFinal "IslandHeap$Marking" "IslandHeap$Marking" "depth" "I") ∈ lw_all := lw_g (lw_at lw_m2 172 rfl) rfl
theorem q474 : (Jvm.Cond.soleField "IslandHeap$Marking" "depth") ∈ lw_all := lw_g (lw_at lw_m2 173 rfl) rfl
theorem q475 : (Jvm.Cond.lays "IslandHeap$Marking" "IslandHeap$Marking" "count" "I") ∈ lw_all := lw_g (lw_at lw_m2 174 rfl) rfl
theorem q476 : (Jvm.Cond.soleField "IslandHeap$Marking" "count") ∈ lw_all := lw_g (lw_at lw_m2 175 rfl) rfl
theorem q477 : (Jvm.Cond.lays "IslandHeap$Marking" "IslandHeap$Marking" "top" "I") ∈ lw_all := lw_g (lw_at lw_m2 176 rfl) rfl
theorem q478 : (Jvm.Cond.soleField "IslandHeap$Marking" "top") ∈ lw_all := lw_g (lw_at lw_m2 177 rfl) rfl
theorem q479 : (Jvm.Cond.lays "IslandHeap$Marking" "IslandHeap$Marking" "scans" "I") ∈ lw_all := lw_g (lw_at lw_m2 178 rfl) rfl
theorem q480 : (Jvm.Cond.soleField "IslandHeap$Marking" "scans") ∈ lw_all := lw_g (lw_at lw_m2 179 rfl) rfl
theorem q481 : (Jvm.Cond.lays "IslandHeap$Marking" "IslandHeap$Marking" "isOver" "Z") ∈ lw_all := lw_g (lw_at lw_m2 180 rfl) rfl
theorem q482 : (Jvm.Cond.soleField "IslandHeap$Marking" "isOver") ∈ lw_all := lw_g (lw_at lw_m2 181 rfl) rfl
theorem q483 : (Jvm.Cond.superclass "IslandHeap$Marking" "java/lang/Object") ∈ lw_all := lw_g (lw_at lw_m2 182 rfl) rfl
theorem q485 : (Jvm.Cond.instanceMethod ({ cls := "IslandHeap$Marking", name := "mark", desc := "()LIslandHeap$Marking;" } : Jvm.MethodName)) ∈ lw_all := lw_g (lw_at lw_m2 184 rfl) rfl
theorem q486 : (Jvm.Cond.selects "IslandHeap$Marking" ({ cls := "IslandHeap$Marking", name := "mark", desc := "()LIslandHeap$Marking;" } : Jvm.MethodName) ({ cls := "IslandHeap$Marking", name := "mark", desc := "()LIslandHeap$Marking;" } : Jvm.MethodName)) ∈ lw_all := lw_g (lw_at lw_m2 185 rfl) rfl
theorem q487 : (Jvm.Cond.code ({ cls := "IslandHeap$Marking", name := "mark", desc := "()LIslandHeap$Marking;" } : Jvm.MethodName) prog_6_method_6_code (5 : Nat) (Option.some (Jvm.ClassFile.FieldType.object "IslandHeap$Marking"))) ∈ lw_all := lw_g (lw_at lw_m2 186 rfl) rfl
theorem q488 : (Jvm.Cond.methodLink "IslandHeap$Marking" (70 : Nat) ({ cls := "java/util/ArrayList", name := "size", desc := "()I" } : Jvm.MethodName)) ∈ lw_all := lw_g (lw_at lw_m2 187 rfl) rfl
theorem q489 : (Jvm.Cond.methodLink "IslandHeap$Marking" (76 : Nat) ({ cls := "java/util/ArrayList", name := "get", desc := "(I)Ljava/lang/Object;" } : Jvm.MethodName)) ∈ lw_all := lw_g (lw_at lw_m2 188 rfl) rfl
theorem q490 : (Jvm.Cond.classLink "IslandHeap$Marking" (26 : Nat) "IslandHeap$Thing") ∈ lw_all := lw_g (lw_at lw_m2 189 rfl) rfl
theorem q491 : (Jvm.Cond.methodLink "IslandHeap$Marking" (50 : Nat) ({ cls := "IslandHeap$Heap", name := "target", desc := "(I)LIslandHeap$Thing;" } : Jvm.MethodName)) ∈ lw_all := lw_g (lw_at lw_m2 190 rfl) rfl
theorem q495 : (Jvm.Cond.methodLink "IslandHeap$Marking" (80 : Nat) ({ cls := "IslandHeap$Marking", name := "start", desc := "(LIslandHeap$Thing;)V" } : Jvm.MethodName)) ∈ lw_all := lw_g (lw_at lw_m2 194 rfl) rfl
theorem q496 : (Jvm.Cond.privateMethod ({ cls := "IslandHeap$Marking", name := "start", desc := "(LIslandHeap$Thing;)V" } : Jvm.MethodName)) ∈ lw_tbl := lw_at lw_m2 195 rfl
theorem q497 : (Jvm.Cond.instanceMethod ({ cls := "IslandHeap$Marking", name := "start", desc := "(LIslandHeap$Thing;)V" } : Jvm.MethodName)) ∈ lw_all := lw_g (lw_at lw_m2 196 rfl) rfl
theorem q498 : (Jvm.Cond.code ({ cls := "IslandHeap$Marking", name := "start", desc := "(LIslandHeap$Thing;)V" } : Jvm.MethodName) prog_6_method_4_code (2 : Nat) (Option.none : Option Jvm.ClassFile.FieldType)) ∈ lw_all := lw_g (lw_at lw_m2 197 rfl) rfl
theorem q499 : (Jvm.Cond.methodLink "IslandHeap$Marking" (56 : Nat) ({ cls := "IslandHeap$Marking", name := "reach", desc := "(LIslandHeap$Thing;)V" } : Jvm.MethodName)) ∈ lw_all := lw_g (lw_at lw_m2 198 rfl) rfl
theorem q500 : (Jvm.Cond.privateMethod ({ cls := "IslandHeap$Marking", name := "reach", desc := "(LIslandHeap$Thing;)V" } : Jvm.MethodName)) ∈ lw_tbl := lw_at lw_m2 199 rfl
theorem q501 : (Jvm.Cond.instanceMethod ({ cls := "IslandHeap$Marking", name := "reach", desc := "(LIslandHeap$Thing;)V" } : Jvm.MethodName)) ∈ lw_all := lw_g (lw_at lw_m2 200 rfl) rfl
theorem q502 : (Jvm.Cond.code ({ cls := "IslandHeap$Marking", name := "reach", desc := "(LIslandHeap$Thing;)V" } : Jvm.MethodName) prog_6_method_2_code (2 : Nat) (Option.none : Option Jvm.ClassFile.FieldType)) ∈ lw_all := lw_g (lw_at lw_m2 201 rfl) rfl
theorem q503 : (Jvm.Cond.methodLink "IslandHeap$Marking" (40 : Nat) ({ cls := "java/lang/Math", name := "max", desc := "(II)I" } : Jvm.MethodName)) ∈ lw_all := lw_g (lw_at lw_m2 202 rfl) rfl
theorem q504 : (Jvm.Cond.methodLink "IslandHeap$Marking" (60 : Nat) ({ cls := "IslandHeap$Marking", name := "drain", desc := "()V" } : Jvm.MethodName)) ∈ lw_all := lw_g (lw_at lw_m2 203 rfl) rfl
theorem q505 : (Jvm.Cond.privateMethod ({ cls := "IslandHeap$Marking", name := "drain", desc := "()V" } : Jvm.MethodName)) ∈ lw_tbl := lw_at lw_m2 204 rfl
theorem q506 : (Jvm.Cond.instanceMethod ({ cls := "IslandHeap$Marking", name := "drain", desc := "()V" } : Jvm.MethodName)) ∈ lw_all := lw_g (lw_at lw_m2 205 rfl) rfl
theorem q507 : (Jvm.Cond.code ({ cls := "IslandHeap$Marking", name := "drain", desc := "()V" } : Jvm.MethodName) prog_6_method_3_code (6 : Nat) (Option.none : Option Jvm.ClassFile.FieldType)) ∈ lw_all := lw_g (lw_at lw_m2 206 rfl) rfl
theorem q508 : (Jvm.Cond.methodLink "IslandHeap$Marking" (89 : Nat) ({ cls := "IslandHeap$Marking", name := "scan", desc := "()V" } : Jvm.MethodName)) ∈ lw_all := lw_g (lw_at lw_m2 207 rfl) rfl
theorem q509 : (Jvm.Cond.privateMethod ({ cls := "IslandHeap$Marking", name := "scan", desc := "()V" } : Jvm.MethodName)) ∈ lw_tbl := lw_at lw_m2 208 rfl
theorem q510 : (Jvm.Cond.instanceMethod ({ cls := "IslandHeap$Marking", name := "scan", desc := "()V" } : Jvm.MethodName)) ∈ lw_all := lw_g (lw_at lw_m2 209 rfl) rfl
theorem q511 : (Jvm.Cond.code ({ cls := "IslandHeap$Marking", name := "scan", desc := "()V" } : Jvm.MethodName) prog_6_method_5_code (4 : Nat) (Option.none : Option Jvm.ClassFile.FieldType)) ∈ lw_all := lw_g (lw_at lw_m2 210 rfl) rfl
theorem q666 : (Jvm.Cond.instanceMethod ({ cls := "IslandHeap$Marking", name := "words", desc := "()I" } : Jvm.MethodName)) ∈ lw_all := lw_g (lw_at lw_m3 125 rfl) rfl
theorem q667 : (Jvm.Cond.selects "IslandHeap$Marking" ({ cls := "IslandHeap$Marking", name := "words", desc := "()I" } : Jvm.MethodName) ({ cls := "IslandHeap$Marking", name := "words", desc := "()I" } : Jvm.MethodName)) ∈ lw_all := lw_g (lw_at lw_m3 126 rfl) rfl
theorem q668 : (Jvm.Cond.code ({ cls := "IslandHeap$Marking", name := "words", desc := "()I" } : Jvm.MethodName) prog_6_method_7_code (3 : Nat) (Option.some Jvm.ClassFile.FieldType.int)) ∈ lw_all := lw_g (lw_at lw_m3 127 rfl) rfl
theorem q669 : (Jvm.Cond.methodLink "IslandHeap$Marking" (92 : Nat) ({ cls := "IslandHeap$Thing", name := "size", desc := "()I" } : Jvm.MethodName)) ∈ lw_all := lw_g (lw_at lw_m3 128 rfl) rfl
theorem q1366 : (Jvm.Cond.castable "IslandHeap$Marking" "java/lang/Object") ∈ lw_tbl := lw_at lw_m6 105 rfl
theorem in_X4 : ∀ w ∈ wsX40, w ∈ lw_all := lw_in wsX40 [467, 469, 471, 473, 475, 477, 479, 481] (by decide +kernel) (by decide +kernel)
/-! IslandHeap$Rings -/
set_option maxRecDepth 100000
def RX6 : String := "IslandHeap$Rings"
def TX6 : u_T := fun k => match k with
  | 0 => ("IslandHeap$Rings", "row", "[LIslandHeap$Thing;", true)
  | 1 => ("IslandHeap$Rings", "count", "I", false)
  | _ => ("IslandHeap$Rings", "this$0", "LIslandHeap;", true)
def tyX6 : Nat → FieldType := fun k => match k with
  | 0 => .array (.object "IslandHeap$Thing")
  | 1 => .int
  | _ => .object "IslandHeap"
abbrev wsX60 : List Cond := u_ws RX6 TX6 3
theorem nmX6 : ∀ a, a < 3 → ∀ b, b < 3 → a ≠ b → (TX6 a).2.1 ≠ (TX6 b).2.1 := by decide +kernel
theorem tyX6_ok : ∀ k, k < 3 → parseFieldDescriptor (TX6 k).2.2.1 = some (tyX6 k) := by decide +kernel
abbrev cX6_init : ByteArray := prog_18_method_1_code
def yX6_init : MethodName := ⟨RX6, "<init>", "(LIslandHeap;)V"⟩
def dkwX6_init_0 : List UInt8 := [42, 43, 181, 0, 3, 42, 183, 0, 9, 42, 42, 180, 0, 3, 180, 0, 15, 181, 0, 19, 177]
abbrev dktX6_init_0 : List UInt8 := dkwX6_init_0 ++ []
theorem dksX6_init_0 : cX6_init.data.toList.drop 0 = dktX6_init_0 := by decide +kernel
theorem dX6_init_0 : decode cX6_init 0 = .ok (.aload_n 0, 1) := dk_42 (dk_at dksX6_init_0 0 rfl rfl)
theorem dX6_init_1 : decode cX6_init 1 = .ok (.aload_n 1, 1) := dk_43 (dk_at dksX6_init_0 1 rfl rfl)
theorem dX6_init_2 : decode cX6_init 2 = .ok (.putfield 3, 3) := dk_181 0 3 (dk_at dksX6_init_0 2 rfl rfl)
theorem dX6_init_5 : decode cX6_init 5 = .ok (.aload_n 0, 1) := dk_42 (dk_at dksX6_init_0 5 rfl rfl)
theorem dX6_init_6 : decode cX6_init 6 = .ok (.invokespecial 9, 3) := dk_183 0 9 (dk_at dksX6_init_0 6 rfl rfl)
theorem dX6_init_9 : decode cX6_init 9 = .ok (.aload_n 0, 1) := dk_42 (dk_at dksX6_init_0 9 rfl rfl)
theorem dX6_init_10 : decode cX6_init 10 = .ok (.aload_n 0, 1) := dk_42 (dk_at dksX6_init_0 10 rfl rfl)
theorem dX6_init_11 : decode cX6_init 11 = .ok (.getfield 3, 3) := dk_180 0 3 (dk_at dksX6_init_0 11 rfl rfl)
theorem dX6_init_14 : decode cX6_init 14 = .ok (.getfield 15, 3) := dk_180 0 15 (dk_at dksX6_init_0 14 rfl rfl)
theorem dX6_init_17 : decode cX6_init 17 = .ok (.putfield 19, 3) := dk_181 0 19 (dk_at dksX6_init_0 17 rfl rfl)
theorem dX6_init_20 : decode cX6_init 20 = .ok (.return_, 1) := dk_177 (dk_at dksX6_init_0 20 rfl rfl)
abbrev cX6_distanceOf : ByteArray := prog_18_method_3_code
def yX6_distanceOf : MethodName := ⟨RX6, "distanceOf", "(LIslandHeap$Thing;)I"⟩
def dkwX6_distanceOf_12 : List UInt8 := [172]
abbrev dktX6_distanceOf_12 : List UInt8 := dkwX6_distanceOf_12 ++ []
def dkwX6_distanceOf_11 : List UInt8 := [132, 2, 1, 167, 255, 192, 132, 3, 1, 167, 255, 165, 43, 180, 0, 22, 153, 0, 7, 29, 167, 0, 4, 2]
abbrev dktX6_distanceOf_11 : List UInt8 := dkwX6_distanceOf_11 ++ dktX6_distanceOf_12
def dkwX6_distanceOf_10 : List UInt8 := [42, 42, 180, 0, 3, 180, 0, 32, 21, 8, 182, 0, 56, 182, 0, 60, 132, 7, 1, 167, 255, 223]
abbrev dktX6_distanceOf_10 : List UInt8 := dkwX6_distanceOf_10 ++ dktX6_distanceOf_11
def dkwX6_distanceOf_9 : List UInt8 := [58, 5, 25, 5, 190, 54, 6, 3, 54, 7, 21, 7, 21, 6, 162, 0, 32, 25, 5, 21, 7, 46, 54, 8]
abbrev dktX6_distanceOf_9 : List UInt8 := dkwX6_distanceOf_9 ++ dktX6_distanceOf_10
def dkwX6_distanceOf_8 : List UInt8 := [154, 0, 82, 42, 180, 0, 28, 54, 4, 28, 21, 4, 162, 0, 64, 42, 180, 0, 19, 28, 50, 180, 0, 67]
abbrev dktX6_distanceOf_8 : List UInt8 := dkwX6_distanceOf_8 ++ dktX6_distanceOf_9
def dkwX6_distanceOf_7 : List UInt8 := [132, 2, 1, 167, 255, 188, 3, 61, 3, 62, 28, 42, 180, 0, 28, 162, 0, 89, 43, 180, 0, 22]
abbrev dktX6_distanceOf_7 : List UInt8 := dkwX6_distanceOf_7 ++ dktX6_distanceOf_8
def dkwX6_distanceOf_6 : List UInt8 := [180, 0, 3, 180, 0, 32, 180, 0, 36, 28, 182, 0, 48, 192, 0, 23, 167, 0, 4, 1, 182, 0, 60]
abbrev dktX6_distanceOf_6 : List UInt8 := dkwX6_distanceOf_6 ++ dktX6_distanceOf_7
def dkwX6_distanceOf_5 : List UInt8 := [180, 0, 3, 180, 0, 32, 180, 0, 36, 28, 182, 0, 48, 192, 0, 23, 180, 0, 64, 153, 0, 23, 42]
abbrev dktX6_distanceOf_5 : List UInt8 := dkwX6_distanceOf_5 ++ dktX6_distanceOf_6
def dkwX6_distanceOf_4 : List UInt8 := [167, 255, 225, 3, 61, 28, 42, 180, 0, 3, 180, 0, 32, 180, 0, 36, 182, 0, 42, 162, 0, 57, 42, 42]
abbrev dktX6_distanceOf_4 : List UInt8 := dkwX6_distanceOf_4 ++ dktX6_distanceOf_5
def dkwX6_distanceOf_3 : List UInt8 := [21, 4, 46, 54, 5, 42, 42, 180, 0, 3, 180, 0, 32, 21, 5, 182, 0, 56, 182, 0, 60, 132, 4, 1]
abbrev dktX6_distanceOf_3 : List UInt8 := dkwX6_distanceOf_3 ++ dktX6_distanceOf_4
def dkwX6_distanceOf_2 : List UInt8 := [180, 0, 3, 180, 0, 32, 180, 0, 52, 77, 44, 190, 62, 3, 54, 4, 21, 4, 29, 162, 0, 31, 44]
abbrev dktX6_distanceOf_2 : List UInt8 := dkwX6_distanceOf_2 ++ dktX6_distanceOf_3
def dkwX6_distanceOf_1 : List UInt8 := [180, 0, 32, 180, 0, 36, 28, 182, 0, 48, 192, 0, 23, 3, 181, 0, 22, 132, 2, 1, 167, 255, 215, 42]
abbrev dktX6_distanceOf_1 : List UInt8 := dkwX6_distanceOf_1 ++ dktX6_distanceOf_2
def dkwX6_distanceOf_0 : List UInt8 := [3, 61, 28, 42, 180, 0, 3, 180, 0, 32, 180, 0, 36, 182, 0, 42, 162, 0, 30, 42, 180, 0, 3]
abbrev dktX6_distanceOf_0 : List UInt8 := dkwX6_distanceOf_0 ++ dktX6_distanceOf_1
theorem dksX6_distanceOf_0 : cX6_distanceOf.data.toList.drop 0 = dktX6_distanceOf_0 := by decide +kernel
theorem dksX6_distanceOf_1 : cX6_distanceOf.data.toList.drop 23 = dktX6_distanceOf_1 := dk_seg dksX6_distanceOf_0 23 rfl rfl
theorem dksX6_distanceOf_2 : cX6_distanceOf.data.toList.drop 47 = dktX6_distanceOf_2 := dk_seg dksX6_distanceOf_1 24 rfl rfl
theorem dksX6_distanceOf_3 : cX6_distanceOf.data.toList.drop 70 = dktX6_distanceOf_3 := dk_seg dksX6_distanceOf_2 23 rfl rfl
theorem dksX6_distanceOf_4 : cX6_distanceOf.data.toList.drop 94 = dktX6_distanceOf_4 := dk_seg dksX6_distanceOf_3 24 rfl rfl
theorem dksX6_distanceOf_5 : cX6_distanceOf.data.toList.drop 118 = dktX6_distanceOf_5 := dk_seg dksX6_distanceOf_4 24 rfl rfl
theorem dksX6_distanceOf_6 : cX6_distanceOf.data.toList.drop 141 = dktX6_distanceOf_6 := dk_seg dksX6_distanceOf_5 23 rfl rfl
theorem dksX6_distanceOf_7 : cX6_distanceOf.data.toList.drop 164 = dktX6_distanceOf_7 := dk_seg dksX6_distanceOf_6 23 rfl rfl
theorem dksX6_distanceOf_8 : cX6_distanceOf.data.toList.drop 186 = dktX6_distanceOf_8 := dk_seg dksX6_distanceOf_7 22 rfl rfl
theorem dksX6_distanceOf_9 : cX6_distanceOf.data.toList.drop 210 = dktX6_distanceOf_9 := dk_seg dksX6_distanceOf_8 24 rfl rfl
theorem dksX6_distanceOf_10 : cX6_distanceOf.data.toList.drop 234 = dktX6_distanceOf_10 := dk_seg dksX6_distanceOf_9 24 rfl rfl
theorem dksX6_distanceOf_11 : cX6_distanceOf.data.toList.drop 256 = dktX6_distanceOf_11 := dk_seg dksX6_distanceOf_10 22 rfl rfl
theorem dksX6_distanceOf_12 : cX6_distanceOf.data.toList.drop 280 = dktX6_distanceOf_12 := dk_seg dksX6_distanceOf_11 24 rfl rfl
theorem dX6_distanceOf_0 : decode cX6_distanceOf 0 = .ok (.iconst 0, 1) := dk_3 (dk_at dksX6_distanceOf_0 0 rfl rfl)
theorem dX6_distanceOf_1 : decode cX6_distanceOf 1 = .ok (.istore_n 2, 1) := dk_61 (dk_at dksX6_distanceOf_0 1 rfl rfl)
theorem dX6_distanceOf_2 : decode cX6_distanceOf 2 = .ok (.iload_n 2, 1) := dk_28 (dk_at dksX6_distanceOf_0 2 rfl rfl)
theorem dX6_distanceOf_3 : decode cX6_distanceOf 3 = .ok (.aload_n 0, 1) := dk_42 (dk_at dksX6_distanceOf_0 3 rfl rfl)
theorem dX6_distanceOf_4 : decode cX6_distanceOf 4 = .ok (.getfield 3, 3) := dk_180 0 3 (dk_at dksX6_distanceOf_0 4 rfl rfl)
theorem dX6_distanceOf_7 : decode cX6_distanceOf 7 = .ok (.getfield 32, 3) := dk_180 0 32 (dk_at dksX6_distanceOf_0 7 rfl rfl)
theorem dX6_distanceOf_10 : decode cX6_distanceOf 10 = .ok (.getfield 36, 3) := dk_180 0 36 (dk_at dksX6_distanceOf_0 10 rfl rfl)
theorem dX6_distanceOf_13 : decode cX6_distanceOf 13 = .ok (.invokevirtual 42, 3) := dk_182 0 42 (dk_at dksX6_distanceOf_0 13 rfl rfl)
theorem dX6_distanceOf_16 : decode cX6_distanceOf 16 = .ok (.if_icmp .ge 30, 3) := dk_162 0 30 (dk_at dksX6_distanceOf_0 16 rfl rfl)
theorem dX6_distanceOf_19 : decode cX6_distanceOf 19 = .ok (.aload_n 0, 1) := dk_42 (dk_at dksX6_distanceOf_0 19 rfl rfl)
theorem dX6_distanceOf_20 : decode cX6_distanceOf 20 = .ok (.getfield 3, 3) := dk_180 0 3 (dk_at dksX6_distanceOf_0 20 rfl rfl)
theorem dX6_distanceOf_23 : decode cX6_distanceOf 23 = .ok (.getfield 32, 3) := dk_180 0 32 (dk_at dksX6_distanceOf_1 0 rfl rfl)
theorem dX6_distanceOf_26 : decode cX6_distanceOf 26 = .ok (.getfield 36, 3) := dk_180 0 36 (dk_at dksX6_distanceOf_1 3 rfl rfl)
theorem dX6_distanceOf_29 : decode cX6_distanceOf 29 = .ok (.iload_n 2, 1) := dk_28 (dk_at dksX6_distanceOf_1 6 rfl rfl)
theorem dX6_distanceOf_30 : decode cX6_distanceOf 30 = .ok (.invokevirtual 48, 3) := dk_182 0 48 (dk_at dksX6_distanceOf_1 7 rfl rfl)
theorem dX6_distanceOf_33 : decode cX6_distanceOf 33 = .ok (.checkcast 23, 3) := dk_192 0 23 (dk_at dksX6_distanceOf_1 10 rfl rfl)
theorem dX6_distanceOf_36 : decode cX6_distanceOf 36 = .ok (.iconst 0, 1) := dk_3 (dk_at dksX6_distanceOf_1 13 rfl rfl)
theorem dX6_distanceOf_37 : decode cX6_distanceOf 37 = .ok (.putfield 22, 3) := dk_181 0 22 (dk_at dksX6_distanceOf_1 14 rfl rfl)
theorem dX6_distanceOf_40 : decode cX6_distanceOf 40 = .ok (.iinc 2 1, 3) := dk_132 2 1 (dk_at dksX6_distanceOf_1 17 rfl rfl)
theorem dX6_distanceOf_43 : decode cX6_distanceOf 43 = .ok (.goto (-41), 3) := dk_167 255 215 (dk_at dksX6_distanceOf_1 20 rfl rfl)
theorem dX6_distanceOf_46 : decode cX6_distanceOf 46 = .ok (.aload_n 0, 1) := dk_42 (dk_at dksX6_distanceOf_1 23 rfl rfl)
theorem dX6_distanceOf_47 : decode cX6_distanceOf 47 = .ok (.getfield 3, 3) := dk_180 0 3 (dk_at dksX6_distanceOf_2 0 rfl rfl)
theorem dX6_distanceOf_50 : decode cX6_distanceOf 50 = .ok (.getfield 32, 3) := dk_180 0 32 (dk_at dksX6_distanceOf_2 3 rfl rfl)
theorem dX6_distanceOf_53 : decode cX6_distanceOf 53 = .ok (.getfield 52, 3) := dk_180 0 52 (dk_at dksX6_distanceOf_2 6 rfl rfl)
theorem dX6_distanceOf_56 : decode cX6_distanceOf 56 = .ok (.astore_n 2, 1) := dk_77 (dk_at dksX6_distanceOf_2 9 rfl rfl)
theorem dX6_distanceOf_57 : decode cX6_distanceOf 57 = .ok (.aload_n 2, 1) := dk_44 (dk_at dksX6_distanceOf_2 10 rfl rfl)
theorem dX6_distanceOf_58 : decode cX6_distanceOf 58 = .ok (.arraylength, 1) := dk_190 (dk_at dksX6_distanceOf_2 11 rfl rfl)
theorem dX6_distanceOf_59 : decode cX6_distanceOf 59 = .ok (.istore_n 3, 1) := dk_62 (dk_at dksX6_distanceOf_2 12 rfl rfl)
theorem dX6_distanceOf_60 : decode cX6_distanceOf 60 = .ok (.iconst 0, 1) := dk_3 (dk_at dksX6_distanceOf_2 13 rfl rfl)
theorem dX6_distanceOf_61 : decode cX6_distanceOf 61 = .ok (.istore 4, 2) := dk_54 4 (dk_at dksX6_distanceOf_2 14 rfl rfl)
theorem dX6_distanceOf_63 : decode cX6_distanceOf 63 = .ok (.iload 4, 2) := dk_21 4 (dk_at dksX6_distanceOf_2 16 rfl rfl)
theorem dX6_distanceOf_65 : decode cX6_distanceOf 65 = .ok (.iload_n 3, 1) := dk_29 (dk_at dksX6_distanceOf_2 18 rfl rfl)
theorem dX6_distanceOf_66 : decode cX6_distanceOf 66 = .ok (.if_icmp .ge 31, 3) := dk_162 0 31 (dk_at dksX6_distanceOf_2 19 rfl rfl)
theorem dX6_distanceOf_69 : decode cX6_distanceOf 69 = .ok (.aload_n 2, 1) := dk_44 (dk_at dksX6_distanceOf_2 22 rfl rfl)
theorem dX6_distanceOf_70 : decode cX6_distanceOf 70 = .ok (.iload 4, 2) := dk_21 4 (dk_at dksX6_distanceOf_3 0 rfl rfl)
theorem dX6_distanceOf_72 : decode cX6_distanceOf 72 = .ok (.iaload, 1) := dk_46 (dk_at dksX6_distanceOf_3 2 rfl rfl)
theorem dX6_distanceOf_73 : decode cX6_distanceOf 73 = .ok (.istore 5, 2) := dk_54 5 (dk_at dksX6_distanceOf_3 3 rfl rfl)
theorem dX6_distanceOf_75 : decode cX6_distanceOf 75 = .ok (.aload_n 0, 1) := dk_42 (dk_at dksX6_distanceOf_3 5 rfl rfl)
theorem dX6_distanceOf_76 : decode cX6_distanceOf 76 = .ok (.aload_n 0, 1) := dk_42 (dk_at dksX6_distanceOf_3 6 rfl rfl)
theorem dX6_distanceOf_77 : decode cX6_distanceOf 77 = .ok (.getfield 3, 3) := dk_180 0 3 (dk_at dksX6_distanceOf_3 7 rfl rfl)
theorem dX6_distanceOf_80 : decode cX6_distanceOf 80 = .ok (.getfield 32, 3) := dk_180 0 32 (dk_at dksX6_distanceOf_3 10 rfl rfl)
theorem dX6_distanceOf_83 : decode cX6_distanceOf 83 = .ok (.iload 5, 2) := dk_21 5 (dk_at dksX6_distanceOf_3 13 rfl rfl)
theorem dX6_distanceOf_85 : decode cX6_distanceOf 85 = .ok (.invokevirtual 56, 3) := dk_182 0 56 (dk_at dksX6_distanceOf_3 15 rfl rfl)
theorem dX6_distanceOf_88 : decode cX6_distanceOf 88 = .ok (.invokevirtual 60, 3) := dk_182 0 60 (dk_at dksX6_distanceOf_3 18 rfl rfl)
theorem dX6_distanceOf_91 : decode cX6_distanceOf 91 = .ok (.iinc 4 1, 3) := dk_132 4 1 (dk_at dksX6_distanceOf_3 21 rfl rfl)
theorem dX6_distanceOf_94 : decode cX6_distanceOf 94 = .ok (.goto (-31), 3) := dk_167 255 225 (dk_at dksX6_distanceOf_4 0 rfl rfl)
theorem dX6_distanceOf_97 : decode cX6_distanceOf 97 = .ok (.iconst 0, 1) := dk_3 (dk_at dksX6_distanceOf_4 3 rfl rfl)
theorem dX6_distanceOf_98 : decode cX6_distanceOf 98 = .ok (.istore_n 2, 1) := dk_61 (dk_at dksX6_distanceOf_4 4 rfl rfl)
theorem dX6_distanceOf_99 : decode cX6_distanceOf 99 = .ok (.iload_n 2, 1) := dk_28 (dk_at dksX6_distanceOf_4 5 rfl rfl)
theorem dX6_distanceOf_100 : decode cX6_distanceOf 100 = .ok (.aload_n 0, 1) := dk_42 (dk_at dksX6_distanceOf_4 6 rfl rfl)
theorem dX6_distanceOf_101 : decode cX6_distanceOf 101 = .ok (.getfield 3, 3) := dk_180 0 3 (dk_at dksX6_distanceOf_4 7 rfl rfl)
theorem dX6_distanceOf_104 : decode cX6_distanceOf 104 = .ok (.getfield 32, 3) := dk_180 0 32 (dk_at dksX6_distanceOf_4 10 rfl rfl)
theorem dX6_distanceOf_107 : decode cX6_distanceOf 107 = .ok (.getfield 36, 3) := dk_180 0 36 (dk_at dksX6_distanceOf_4 13 rfl rfl)
theorem dX6_distanceOf_110 : decode cX6_distanceOf 110 = .ok (.invokevirtual 42, 3) := dk_182 0 42 (dk_at dksX6_distanceOf_4 16 rfl rfl)
theorem dX6_distanceOf_113 : decode cX6_distanceOf 113 = .ok (.if_icmp .ge 57, 3) := dk_162 0 57 (dk_at dksX6_distanceOf_4 19 rfl rfl)
theorem dX6_distanceOf_116 : decode cX6_distanceOf 116 = .ok (.aload_n 0, 1) := dk_42 (dk_at dksX6_distanceOf_4 22 rfl rfl)
theorem dX6_distanceOf_117 : decode cX6_distanceOf 117 = .ok (.aload_n 0, 1) := dk_42 (dk_at dksX6_distanceOf_4 23 rfl rfl)
theorem dX6_distanceOf_118 : decode cX6_distanceOf 118 = .ok (.getfield 3, 3) := dk_180 0 3 (dk_at dksX6_distanceOf_5 0 rfl rfl)
theorem dX6_distanceOf_121 : decode cX6_distanceOf 121 = .ok (.getfield 32, 3) := dk_180 0 32 (dk_at dksX6_distanceOf_5 3 rfl rfl)
theorem dX6_distanceOf_124 : decode cX6_distanceOf 124 = .ok (.getfield 36, 3) := dk_180 0 36 (dk_at dksX6_distanceOf_5 6 rfl rfl)
theorem dX6_distanceOf_127 : decode cX6_distanceOf 127 = .ok (.iload_n 2, 1) := dk_28 (dk_at dksX6_distanceOf_5 9 rfl rfl)
theorem dX6_distanceOf_128 : decode cX6_distanceOf 128 = .ok (.invokevirtual 48, 3) := dk_182 0 48 (dk_at dksX6_distanceOf_5 10 rfl rfl)
theorem dX6_distanceOf_131 : decode cX6_distanceOf 131 = .ok (.checkcast 23, 3) := dk_192 0 23 (dk_at dksX6_distanceOf_5 13 rfl rfl)
theorem dX6_distanceOf_134 : decode cX6_distanceOf 134 = .ok (.getfield 64, 3) := dk_180 0 64 (dk_at dksX6_distanceOf_5 16 rfl rfl)
theorem dX6_distanceOf_137 : decode cX6_distanceOf 137 = .ok (.ifCond .eq 23, 3) := dk_153 0 23 (dk_at dksX6_distanceOf_5 19 rfl rfl)
theorem dX6_distanceOf_140 : decode cX6_distanceOf 140 = .ok (.aload_n 0, 1) := dk_42 (dk_at dksX6_distanceOf_5 22 rfl rfl)
theorem dX6_distanceOf_141 : decode cX6_distanceOf 141 = .ok (.getfield 3, 3) := dk_180 0 3 (dk_at dksX6_distanceOf_6 0 rfl rfl)
theorem dX6_distanceOf_144 : decode cX6_distanceOf 144 = .ok (.getfield 32, 3) := dk_180 0 32 (dk_at dksX6_distanceOf_6 3 rfl rfl)
theorem dX6_distanceOf_147 : decode cX6_distanceOf 147 = .ok (.getfield 36, 3) := dk_180 0 36 (dk_at dksX6_distanceOf_6 6 rfl rfl)
theorem dX6_distanceOf_150 : decode cX6_distanceOf 150 = .ok (.iload_n 2, 1) := dk_28 (dk_at dksX6_distanceOf_6 9 rfl rfl)
theorem dX6_distanceOf_151 : decode cX6_distanceOf 151 = .ok (.invokevirtual 48, 3) := dk_182 0 48 (dk_at dksX6_distanceOf_6 10 rfl rfl)
theorem dX6_distanceOf_154 : decode cX6_distanceOf 154 = .ok (.checkcast 23, 3) := dk_192 0 23 (dk_at dksX6_distanceOf_6 13 rfl rfl)
theorem dX6_distanceOf_157 : decode cX6_distanceOf 157 = .ok (.goto 4, 3) := dk_167 0 4 (dk_at dksX6_distanceOf_6 16 rfl rfl)
theorem dX6_distanceOf_160 : decode cX6_distanceOf 160 = .ok (.aconst_null, 1) := dk_1 (dk_at dksX6_distanceOf_6 19 rfl rfl)
theorem dX6_distanceOf_161 : decode cX6_distanceOf 161 = .ok (.invokevirtual 60, 3) := dk_182 0 60 (dk_at dksX6_distanceOf_6 20 rfl rfl)
theorem dX6_distanceOf_164 : decode cX6_distanceOf 164 = .ok (.iinc 2 1, 3) := dk_132 2 1 (dk_at dksX6_distanceOf_7 0 rfl rfl)
theorem dX6_distanceOf_167 : decode cX6_distanceOf 167 = .ok (.goto (-68), 3) := dk_167 255 188 (dk_at dksX6_distanceOf_7 3 rfl rfl)
theorem dX6_distanceOf_170 : decode cX6_distanceOf 170 = .ok (.iconst 0, 1) := dk_3 (dk_at dksX6_distanceOf_7 6 rfl rfl)
theorem dX6_distanceOf_171 : decode cX6_distanceOf 171 = .ok (.istore_n 2, 1) := dk_61 (dk_at dksX6_distanceOf_7 7 rfl rfl)
theorem dX6_distanceOf_172 : decode cX6_distanceOf 172 = .ok (.iconst 0, 1) := dk_3 (dk_at dksX6_distanceOf_7 8 rfl rfl)
theorem dX6_distanceOf_173 : decode cX6_distanceOf 173 = .ok (.istore_n 3, 1) := dk_62 (dk_at dksX6_distanceOf_7 9 rfl rfl)
theorem dX6_distanceOf_174 : decode cX6_distanceOf 174 = .ok (.iload_n 2, 1) := dk_28 (dk_at dksX6_distanceOf_7 10 rfl rfl)
theorem dX6_distanceOf_175 : decode cX6_distanceOf 175 = .ok (.aload_n 0, 1) := dk_42 (dk_at dksX6_distanceOf_7 11 rfl rfl)
theorem dX6_distanceOf_176 : decode cX6_distanceOf 176 = .ok (.getfield 28, 3) := dk_180 0 28 (dk_at dksX6_distanceOf_7 12 rfl rfl)
theorem dX6_distanceOf_179 : decode cX6_distanceOf 179 = .ok (.if_icmp .ge 89, 3) := dk_162 0 89 (dk_at dksX6_distanceOf_7 15 rfl rfl)
theorem dX6_distanceOf_182 : decode cX6_distanceOf 182 = .ok (.aload_n 1, 1) := dk_43 (dk_at dksX6_distanceOf_7 18 rfl rfl)
theorem dX6_distanceOf_183 : decode cX6_distanceOf 183 = .ok (.getfield 22, 3) := dk_180 0 22 (dk_at dksX6_distanceOf_7 19 rfl rfl)
theorem dX6_distanceOf_186 : decode cX6_distanceOf 186 = .ok (.ifCond .ne 82, 3) := dk_154 0 82 (dk_at dksX6_distanceOf_8 0 rfl rfl)
theorem dX6_distanceOf_189 : decode cX6_distanceOf 189 = .ok (.aload_n 0, 1) := dk_42 (dk_at dksX6_distanceOf_8 3 rfl rfl)
theorem dX6_distanceOf_190 : decode cX6_distanceOf 190 = .ok (.getfield 28, 3) := dk_180 0 28 (dk_at dksX6_distanceOf_8 4 rfl rfl)
theorem dX6_distanceOf_193 : decode cX6_distanceOf 193 = .ok (.istore 4, 2) := dk_54 4 (dk_at dksX6_distanceOf_8 7 rfl rfl)
theorem dX6_distanceOf_195 : decode cX6_distanceOf 195 = .ok (.iload_n 2, 1) := dk_28 (dk_at dksX6_distanceOf_8 9 rfl rfl)
theorem dX6_distanceOf_196 : decode cX6_distanceOf 196 = .ok (.iload 4, 2) := dk_21 4 (dk_at dksX6_distanceOf_8 10 rfl rfl)
theorem dX6_distanceOf_198 : decode cX6_distanceOf 198 = .ok (.if_icmp .ge 64, 3) := dk_162 0 64 (dk_at dksX6_distanceOf_8 12 rfl rfl)
theorem dX6_distanceOf_201 : decode cX6_distanceOf 201 = .ok (.aload_n 0, 1) := dk_42 (dk_at dksX6_distanceOf_8 15 rfl rfl)
theorem dX6_distanceOf_202 : decode cX6_distanceOf 202 = .ok (.getfield 19, 3) := dk_180 0 19 (dk_at dksX6_distanceOf_8 16 rfl rfl)
theorem dX6_distanceOf_205 : decode cX6_distanceOf 205 = .ok (.iload_n 2, 1) := dk_28 (dk_at dksX6_distanceOf_8 19 rfl rfl)
theorem dX6_distanceOf_206 : decode cX6_distanceOf 206 = .ok (.aaload, 1) := dk_50 (dk_at dksX6_distanceOf_8 20 rfl rfl)
theorem dX6_distanceOf_207 : decode cX6_distanceOf 207 = .ok (.getfield 67, 3) := dk_180 0 67 (dk_at dksX6_distanceOf_8 21 rfl rfl)
theorem dX6_distanceOf_210 : decode cX6_distanceOf 210 = .ok (.astore 5, 2) := dk_58 5 (dk_at dksX6_distanceOf_9 0 rfl rfl)
theorem dX6_distanceOf_212 : decode cX6_distanceOf 212 = .ok (.aload 5, 2) := dk_25 5 (dk_at dksX6_distanceOf_9 2 rfl rfl)
theorem dX6_distanceOf_214 : decode cX6_distanceOf 214 = .ok (.arraylength, 1) := dk_190 (dk_at dksX6_distanceOf_9 4 rfl rfl)
theorem dX6_distanceOf_215 : decode cX6_distanceOf 215 = .ok (.istore 6, 2) := dk_54 6 (dk_at dksX6_distanceOf_9 5 rfl rfl)
theorem dX6_distanceOf_217 : decode cX6_distanceOf 217 = .ok (.iconst 0, 1) := dk_3 (dk_at dksX6_distanceOf_9 7 rfl rfl)
theorem dX6_distanceOf_218 : decode cX6_distanceOf 218 = .ok (.istore 7, 2) := dk_54 7 (dk_at dksX6_distanceOf_9 8 rfl rfl)
theorem dX6_distanceOf_220 : decode cX6_distanceOf 220 = .ok (.iload 7, 2) := dk_21 7 (dk_at dksX6_distanceOf_9 10 rfl rfl)
theorem dX6_distanceOf_222 : decode cX6_distanceOf 222 = .ok (.iload 6, 2) := dk_21 6 (dk_at dksX6_distanceOf_9 12 rfl rfl)
theorem dX6_distanceOf_224 : decode cX6_distanceOf 224 = .ok (.if_icmp .ge 32, 3) := dk_162 0 32 (dk_at dksX6_distanceOf_9 14 rfl rfl)
theorem dX6_distanceOf_227 : decode cX6_distanceOf 227 = .ok (.aload 5, 2) := dk_25 5 (dk_at dksX6_distanceOf_9 17 rfl rfl)
theorem dX6_distanceOf_229 : decode cX6_distanceOf 229 = .ok (.iload 7, 2) := dk_21 7 (dk_at dksX6_distanceOf_9 19 rfl rfl)
theorem dX6_distanceOf_231 : decode cX6_distanceOf 231 = .ok (.iaload, 1) := dk_46 (dk_at dksX6_distanceOf_9 21 rfl rfl)
theorem dX6_distanceOf_232 : decode cX6_distanceOf 232 = .ok (.istore 8, 2) := dk_54 8 (dk_at dksX6_distanceOf_9 22 rfl rfl)
theorem dX6_distanceOf_234 : decode cX6_distanceOf 234 = .ok (.aload_n 0, 1) := dk_42 (dk_at dksX6_distanceOf_10 0 rfl rfl)
theorem dX6_distanceOf_235 : decode cX6_distanceOf 235 = .ok (.aload_n 0, 1) := dk_42 (dk_at dksX6_distanceOf_10 1 rfl rfl)
theorem dX6_distanceOf_236 : decode cX6_distanceOf 236 = .ok (.getfield 3, 3) := dk_180 0 3 (dk_at dksX6_distanceOf_10 2 rfl rfl)
theorem dX6_distanceOf_239 : decode cX6_distanceOf 239 = .ok (.getfield 32, 3) := dk_180 0 32 (dk_at dksX6_distanceOf_10 5 rfl rfl)
theorem dX6_distanceOf_242 : decode cX6_distanceOf 242 = .ok (.iload 8, 2) := dk_21 8 (dk_at dksX6_distanceOf_10 8 rfl rfl)
theorem dX6_distanceOf_244 : decode cX6_distanceOf 244 = .ok (.invokevirtual 56, 3) := dk_182 0 56 (dk_at dksX6_distanceOf_10 10 rfl rfl)
theorem dX6_distanceOf_247 : decode cX6_distanceOf 247 = .ok (.invokevirtual 60, 3) := dk_182 0 60 (dk_at dksX6_distanceOf_10 13 rfl rfl)
theorem dX6_distanceOf_250 : decode cX6_distanceOf 250 = .ok (.iinc 7 1, 3) := dk_132 7 1 (dk_at dksX6_distanceOf_10 16 rfl rfl)
theorem dX6_distanceOf_253 : decode cX6_distanceOf 253 = .ok (.goto (-33), 3) := dk_167 255 223 (dk_at dksX6_distanceOf_10 19 rfl rfl)
theorem dX6_distanceOf_256 : decode cX6_distanceOf 256 = .ok (.iinc 2 1, 3) := dk_132 2 1 (dk_at dksX6_distanceOf_11 0 rfl rfl)
theorem dX6_distanceOf_259 : decode cX6_distanceOf 259 = .ok (.goto (-64), 3) := dk_167 255 192 (dk_at dksX6_distanceOf_11 3 rfl rfl)
theorem dX6_distanceOf_262 : decode cX6_distanceOf 262 = .ok (.iinc 3 1, 3) := dk_132 3 1 (dk_at dksX6_distanceOf_11 6 rfl rfl)
theorem dX6_distanceOf_265 : decode cX6_distanceOf 265 = .ok (.goto (-91), 3) := dk_167 255 165 (dk_at dksX6_distanceOf_11 9 rfl rfl)
theorem dX6_distanceOf_268 : decode cX6_distanceOf 268 = .ok (.aload_n 1, 1) := dk_43 (dk_at dksX6_distanceOf_11 12 rfl rfl)
theorem dX6_distanceOf_269 : decode cX6_distanceOf 269 = .ok (.getfield 22, 3) := dk_180 0 22 (dk_at dksX6_distanceOf_11 13 rfl rfl)
theorem dX6_distanceOf_272 : decode cX6_distanceOf 272 = .ok (.ifCond .eq 7, 3) := dk_153 0 7 (dk_at dksX6_distanceOf_11 16 rfl rfl)
theorem dX6_distanceOf_275 : decode cX6_distanceOf 275 = .ok (.iload_n 3, 1) := dk_29 (dk_at dksX6_distanceOf_11 19 rfl rfl)
theorem dX6_distanceOf_276 : decode cX6_distanceOf 276 = .ok (.goto 4, 3) := dk_167 0 4 (dk_at dksX6_distanceOf_11 20 rfl rfl)
theorem dX6_distanceOf_279 : decode cX6_distanceOf 279 = .ok (.iconst (-1), 1) := dk_2 (dk_at dksX6_distanceOf_11 23 rfl rfl)
theorem dX6_distanceOf_280 : decode cX6_distanceOf 280 = .ok (.ireturn, 1) := dk_172 (dk_at dksX6_distanceOf_12 0 rfl rfl)
abbrev cX6_add : ByteArray := prog_18_method_2_code
def yX6_add : MethodName := ⟨RX6, "add", "(LIslandHeap$Thing;)V"⟩
def dkwX6_add_1 : List UInt8 := [43, 83, 42, 89, 180, 0, 28, 4, 96, 181, 0, 28, 177]
abbrev dktX6_add_1 : List UInt8 := dkwX6_add_1 ++ []
def dkwX6_add_0 : List UInt8 := [43, 198, 0, 35, 43, 180, 0, 22, 154, 0, 28, 43, 4, 181, 0, 22, 42, 180, 0, 19, 42, 180, 0, 28]
abbrev dktX6_add_0 : List UInt8 := dkwX6_add_0 ++ dktX6_add_1
theorem dksX6_add_0 : cX6_add.data.toList.drop 0 = dktX6_add_0 := by decide +kernel
theorem dksX6_add_1 : cX6_add.data.toList.drop 24 = dktX6_add_1 := dk_seg dksX6_add_0 24 rfl rfl
theorem dX6_add_0 : decode cX6_add 0 = .ok (.aload_n 1, 1) := dk_43 (dk_at dksX6_add_0 0 rfl rfl)
theorem dX6_add_1 : decode cX6_add 1 = .ok (.ifnull 35, 3) := dk_198 0 35 (dk_at dksX6_add_0 1 rfl rfl)
theorem dX6_add_4 : decode cX6_add 4 = .ok (.aload_n 1, 1) := dk_43 (dk_at dksX6_add_0 4 rfl rfl)
theorem dX6_add_5 : decode cX6_add 5 = .ok (.getfield 22, 3) := dk_180 0 22 (dk_at dksX6_add_0 5 rfl rfl)
theorem dX6_add_8 : decode cX6_add 8 = .ok (.ifCond .ne 28, 3) := dk_154 0 28 (dk_at dksX6_add_0 8 rfl rfl)
theorem dX6_add_11 : decode cX6_add 11 = .ok (.aload_n 1, 1) := dk_43 (dk_at dksX6_add_0 11 rfl rfl)
theorem dX6_add_12 : decode cX6_add 12 = .ok (.iconst 1, 1) := dk_4 (dk_at dksX6_add_0 12 rfl rfl)
theorem dX6_add_13 : decode cX6_add 13 = .ok (.putfield 22, 3) := dk_181 0 22 (dk_at dksX6_add_0 13 rfl rfl)
theorem dX6_add_16 : decode cX6_add 16 = .ok (.aload_n 0, 1) := dk_42 (dk_at dksX6_add_0 16 rfl rfl)
theorem dX6_add_17 : decode cX6_add 17 = .ok (.getfield 19, 3) := dk_180 0 19 (dk_at dksX6_add_0 17 rfl rfl)
theorem dX6_add_20 : decode cX6_add 20 = .ok (.aload_n 0, 1) := dk_42 (dk_at dksX6_add_0 20 rfl rfl)
theorem dX6_add_21 : decode cX6_add 21 = .ok (.getfield 28, 3) := dk_180 0 28 (dk_at dksX6_add_0 21 rfl rfl)
theorem dX6_add_24 : decode cX6_add 24 = .ok (.aload_n 1, 1) := dk_43 (dk_at dksX6_add_1 0 rfl rfl)
theorem dX6_add_25 : decode cX6_add 25 = .ok (.aastore, 1) := dk_83 (dk_at dksX6_add_1 1 rfl rfl)
theorem dX6_add_26 : decode cX6_add 26 = .ok (.aload_n 0, 1) := dk_42 (dk_at dksX6_add_1 2 rfl rfl)
theorem dX6_add_27 : decode cX6_add 27 = .ok (.dup, 1) := dk_89 (dk_at dksX6_add_1 3 rfl rfl)
theorem dX6_add_28 : decode cX6_add 28 = .ok (.getfield 28, 3) := dk_180 0 28 (dk_at dksX6_add_1 4 rfl rfl)
theorem dX6_add_31 : decode cX6_add 31 = .ok (.iconst 1, 1) := dk_4 (dk_at dksX6_add_1 7 rfl rfl)
theorem dX6_add_32 : decode cX6_add 32 = .ok (.iadd, 1) := dk_96 (dk_at dksX6_add_1 8 rfl rfl)
theorem dX6_add_33 : decode cX6_add 33 = .ok (.putfield 28, 3) := dk_181 0 28 (dk_at dksX6_add_1 9 rfl rfl)
theorem dX6_add_36 : decode cX6_add 36 = .ok (.return_, 1) := dk_177 (dk_at dksX6_add_1 12 rfl rfl)
theorem q79 : (Jvm.Cond.initialized "IslandHeap$Rings") ∈ lw_all := lw_g (lw_at lw_m1 18 rfl) rfl
theorem q137 : (Jvm.Cond.fieldLinkNest "IslandHeap$Rings" (36 : Nat) "IslandHeap$Heap" "things" "Ljava/util/ArrayList;" "IslandHeap") ∈ lw_tbl := lw_at lw_m1 76 rfl
theorem q143 : (Jvm.Cond.fieldLinkNest "IslandHeap$Rings" (52 : Nat) "IslandHeap$Heap" "roots" "[I" "IslandHeap") ∈ lw_tbl := lw_at lw_m1 82 rfl
theorem q186 : (Jvm.Cond.fieldLinkNest "IslandHeap$Rings" (32 : Nat) "IslandHeap" "heap" "LIslandHeap$Heap;" "IslandHeap") ∈ lw_tbl := lw_at lw_m1 125 rfl
theorem q187 : (Jvm.Cond.fieldLinkNest "IslandHeap$Rings" (15 : Nat) "IslandHeap" "stack" "[LIslandHeap$Thing;" "IslandHeap") ∈ lw_tbl := lw_at lw_m1 126 rfl
theorem q257 : (Jvm.Cond.fieldLinkNest "IslandHeap$Rings" (67 : Nat) "IslandHeap$Thing" "fields" "[I" "IslandHeap") ∈ lw_tbl := lw_at lw_m1 196 rfl
theorem q265 : (Jvm.Cond.fieldLinkNest "IslandHeap$Rings" (64 : Nat) "IslandHeap$Thing" "isPinned" "Z" "IslandHeap") ∈ lw_tbl := lw_at lw_m1 204 rfl
theorem q273 : (Jvm.Cond.fieldLinkNest "IslandHeap$Rings" (22 : Nat) "IslandHeap$Thing" "isMarked" "Z" "IslandHeap") ∈ lw_tbl := lw_at lw_m1 212 rfl
theorem q355 : (Jvm.Cond.selects "IslandHeap$Rings" ({ cls := "java/lang/Object", name := "getClass", desc := "()Ljava/lang/Class;" } : Jvm.MethodName) ({ cls := "java/lang/Object", name := "getClass", desc := "()Ljava/lang/Class;" } : Jvm.MethodName)) ∈ lw_all := lw_g (lw_at lw_m2 54 rfl) rfl
theorem q675 : (Jvm.Cond.instantiable "IslandHeap$Rings" (3 : Nat)) ∈ lw_all := lw_g (lw_at lw_m3 134 rfl) rfl
theorem q677 : (Jvm.Cond.instanceMethod ({ cls := "IslandHeap$Rings", name := "<init>", desc := "(LIslandHeap;)V" } : Jvm.MethodName)) ∈ lw_all := lw_g (lw_at lw_m3 136 rfl) rfl
theorem q678 : (Jvm.Cond.code ({ cls := "IslandHeap$Rings", name := "<init>", desc := "(LIslandHeap;)V" } : Jvm.MethodName) prog_18_method_1_code (2 : Nat) (Option.none : Option Jvm.ClassFile.FieldType)) ∈ lw_all := lw_g (lw_at lw_m3 137 rfl) rfl
theorem q679 : (Jvm.Cond.methodLink "IslandHeap$Rings" (9 : Nat) ({ cls := "java/lang/Object", name := "<init>", desc := "()V" } : Jvm.MethodName)) ∈ lw_all := lw_g (lw_at lw_m3 138 rfl) rfl
theorem q680 : (Jvm.Cond.fieldLink "IslandHeap$Rings" (19 : Nat) "IslandHeap$Rings" "row" "[LIslandHeap$Thing;") ∈ lw_all := lw_g (lw_at lw_m3 139 rfl) rfl
theorem q681 : (Jvm.Cond.fieldLink "IslandHeap$Rings" (28 : Nat) "IslandHeap$Rings" "count" "I") ∈ lw_all := lw_g (lw_at lw_m3 140 rfl) rfl
theorem q682 : (Jvm.Cond.fieldLink "IslandHeap$Rings" (3 : Nat) "IslandHeap$Rings" "this$0" "LIslandHeap;") ∈ lw_all := lw_g (lw_at lw_m3 141 rfl) rfl
theorem q683 : (Jvm.Cond.laysFinal "IslandHeap$Rings" "IslandHeap$Rings" "row" "[LIslandHeap$Thing;") ∈ lw_all := lw_g (lw_at lw_m3 142 rfl) rfl
theorem q684 : (Jvm.Cond.soleField "IslandHeap$Rings" "row") ∈ lw_all := lw_g (lw_at lw_m3 143 rfl) rfl
theorem q685 : (Jvm.Cond.lays "IslandHeap$Rings" "IslandHeap$Rings" "count" "I") ∈ lw_all := lw_g (lw_at lw_m3 144 rfl) rfl
theorem q686 : (Jvm.Cond.soleField "IslandHeap$Rings" "count") ∈ lw_all := lw_g (lw_at lw_m3 145 rfl) rfl
theorem q687 : (Jvm.Cond.laysFinal "IslandHeap$Rings" "IslandHeap$Rings" "this$0" "LIslandHeap;") ∈ lw_all := lw_g (lw_at lw_m3 146 rfl) rfl
theorem q688 : (Jvm.Cond.soleField "IslandHeap$Rings" "this$0") ∈ lw_all := lw_g (lw_at lw_m3 147 rfl) rfl
theorem q689 : (Jvm.Cond.superclass "IslandHeap$Rings" "java/lang/Object") ∈ lw_all := lw_g (lw_at lw_m3 148 rfl) rfl
theorem q691 : (Jvm.Cond.instanceMethod ({ cls := "IslandHeap$Rings", name := "distanceOf", desc := "(LIslandHeap$Thing;)I" } : Jvm.MethodName)) ∈ lw_all := lw_g (lw_at lw_m3 150 rfl) rfl
theorem q692 : (Jvm.Cond.selects "IslandHeap$Rings" ({ cls := "IslandHeap$Rings", name := "distanceOf", desc := "(LIslandHeap$Thing;)I" } : Jvm.MethodName) ({ cls := "IslandHeap$Rings", name := "distanceOf", desc := "(LIslandHeap$Thing;)I" } : Jvm.MethodName)) ∈ lw_all := lw_g (lw_at lw_m3 151 rfl) rfl
theorem q693 : (Jvm.Cond.code ({ cls := "IslandHeap$Rings", name := "distanceOf", desc := "(LIslandHeap$Thing;)I" } : Jvm.MethodName) prog_18_method_3_code (9 : Nat) (Option.some Jvm.ClassFile.FieldType.int)) ∈ lw_all := lw_g (lw_at lw_m3 152 rfl) rfl
theorem q694 : (Jvm.Cond.methodLink "IslandHeap$Rings" (42 : Nat) ({ cls := "java/util/ArrayList", name := "size", desc := "()I" } : Jvm.MethodName)) ∈ lw_all := lw_g (lw_at lw_m3 153 rfl) rfl
theorem q695 : (Jvm.Cond.methodLink "IslandHeap$Rings" (48 : Nat) ({ cls := "java/util/ArrayList", name := "get", desc := "(I)Ljava/lang/Object;" } : Jvm.MethodName)) ∈ lw_all := lw_g (lw_at lw_m3 154 rfl) rfl
theorem q696 : (Jvm.Cond.classLink "IslandHeap$Rings" (23 : Nat) "IslandHeap$Thing") ∈ lw_all := lw_g (lw_at lw_m3 155 rfl) rfl
theorem q697 : (Jvm.Cond.methodLink "IslandHeap$Rings" (56 : Nat) ({ cls := "IslandHeap$Heap", name := "target", desc := "(I)LIslandHeap$Thing;" } : Jvm.MethodName)) ∈ lw_all := lw_g (lw_at lw_m3 156 rfl) rfl
theorem q698 : (Jvm.Cond.methodLink "IslandHeap$Rings" (60 : Nat) ({ cls := "IslandHeap$Rings", name := "add", desc := "(LIslandHeap$Thing;)V" } : Jvm.MethodName)) ∈ lw_all := lw_g (lw_at lw_m3 157 rfl) rfl
theorem q699 : (Jvm.Cond.privateMethod ({ cls := "IslandHeap$Rings", name := "add", desc := "(LIslandHeap$Thing;)V" } : Jvm.MethodName)) ∈ lw_tbl := lw_at lw_m3 158 rfl
theorem q700 : (Jvm.Cond.instanceMethod ({ cls := "IslandHeap$Rings", name := "add", desc := "(LIslandHeap$Thing;)V" } : Jvm.MethodName)) ∈ lw_all := lw_g (lw_at lw_m3 159 rfl) rfl
theorem q701 : (Jvm.Cond.code ({ cls := "IslandHeap$Rings", name := "add", desc := "(LIslandHeap$Thing;)V" } : Jvm.MethodName) prog_18_method_2_code (2 : Nat) (Option.none : Option Jvm.ClassFile.FieldType)) ∈ lw_all := lw_g (lw_at lw_m3 160 rfl) rfl
theorem q1368 : (Jvm.Cond.castable "IslandHeap$Rings" "java/lang/Object") ∈ lw_tbl := lw_at lw_m6 107 rfl
theorem in_X6 : ∀ w ∈ wsX60, w ∈ lw_all := lw_in wsX60 [683, 685, 687] (by decide +kernel) (by decide +kernel)
/-! IslandHeap$ScriptReader -/
set_option maxRecDepth 100000
def RX7 : String := "IslandHeap$ScriptReader"
def TX7 : u_T := fun k => match k with
  | 0 => ("IslandHeap$ScriptReader", "at", "I", false)
  | 1 => ("IslandHeap$ScriptReader", "read", "Ljava/util/ArrayList;", true)
  | _ => ("IslandHeap$ScriptReader", "this$0", "LIslandHeap;", true)
def tyX7 : Nat → FieldType := fun k => match k with
  | 0 => .int
  | 1 => .object "java/util/ArrayList"
  | _ => .object "IslandHeap"
abbrev wsX70 : List Cond := u_ws RX7 TX7 3
theorem nmX7 : ∀ a, a < 3 → ∀ b, b < 3 → a ≠ b → (TX7 a).2.1 ≠ (TX7 b).2.1 := by decide +kernel
theorem tyX7_ok : ∀ k, k < 3 → parseFieldDescriptor (TX7 k).2.2.1 = some (tyX7 k) := by decide +kernel
abbrev cX7_init : ByteArray := prog_19_method_1_code
def yX7_init : MethodName := ⟨RX7, "<init>", "(LIslandHeap;)V"⟩
def dkwX7_init_0 : List UInt8 := [42, 43, 181, 0, 3, 42, 183, 0, 9, 42, 187, 0, 15, 89, 183, 0, 17, 181, 0, 18, 177]
abbrev dktX7_init_0 : List UInt8 := dkwX7_init_0 ++ []
theorem dksX7_init_0 : cX7_init.data.toList.drop 0 = dktX7_init_0 := by decide +kernel
theorem dX7_init_0 : decode cX7_init 0 = .ok (.aload_n 0, 1) := dk_42 (dk_at dksX7_init_0 0 rfl rfl)
theorem dX7_init_1 : decode cX7_init 1 = .ok (.aload_n 1, 1) := dk_43 (dk_at dksX7_init_0 1 rfl rfl)
theorem dX7_init_2 : decode cX7_init 2 = .ok (.putfield 3, 3) := dk_181 0 3 (dk_at dksX7_init_0 2 rfl rfl)
theorem dX7_init_5 : decode cX7_init 5 = .ok (.aload_n 0, 1) := dk_42 (dk_at dksX7_init_0 5 rfl rfl)
theorem dX7_init_6 : decode cX7_init 6 = .ok (.invokespecial 9, 3) := dk_183 0 9 (dk_at dksX7_init_0 6 rfl rfl)
theorem dX7_init_9 : decode cX7_init 9 = .ok (.aload_n 0, 1) := dk_42 (dk_at dksX7_init_0 9 rfl rfl)
theorem dX7_init_10 : decode cX7_init 10 = .ok (.new 15, 3) := dk_187 0 15 (dk_at dksX7_init_0 10 rfl rfl)
theorem dX7_init_13 : decode cX7_init 13 = .ok (.dup, 1) := dk_89 (dk_at dksX7_init_0 13 rfl rfl)
theorem dX7_init_14 : decode cX7_init 14 = .ok (.invokespecial 17, 3) := dk_183 0 17 (dk_at dksX7_init_0 14 rfl rfl)
theorem dX7_init_17 : decode cX7_init 17 = .ok (.putfield 18, 3) := dk_181 0 18 (dk_at dksX7_init_0 17 rfl rfl)
theorem dX7_init_20 : decode cX7_init 20 = .ok (.return_, 1) := dk_177 (dk_at dksX7_init_0 20 rfl rfl)
abbrev cX7_read : ByteArray := prog_19_method_11_code
def yX7_read : MethodName := ⟨RX7, "read", "()Ljava/util/ArrayList;"⟩
def dkwX7_read_2 : List UInt8 := [176]
abbrev dktX7_read_2 : List UInt8 := dkwX7_read_2 ++ []
def dkwX7_read_1 : List UInt8 := [182, 0, 94, 182, 0, 98, 87, 42, 42, 16, 59, 182, 0, 57, 182, 0, 53, 167, 255, 220, 42, 180, 0, 18]
abbrev dktX7_read_1 : List UInt8 := dkwX7_read_1 ++ dktX7_read_2
def dkwX7_read_0 : List UInt8 := [42, 182, 0, 42, 42, 180, 0, 22, 42, 180, 0, 3, 180, 0, 26, 162, 0, 28, 42, 180, 0, 18, 42]
abbrev dktX7_read_0 : List UInt8 := dkwX7_read_0 ++ dktX7_read_1
theorem dksX7_read_0 : cX7_read.data.toList.drop 0 = dktX7_read_0 := by decide +kernel
theorem dksX7_read_1 : cX7_read.data.toList.drop 23 = dktX7_read_1 := dk_seg dksX7_read_0 23 rfl rfl
theorem dksX7_read_2 : cX7_read.data.toList.drop 47 = dktX7_read_2 := dk_seg dksX7_read_1 24 rfl rfl
theorem dX7_read_0 : decode cX7_read 0 = .ok (.aload_n 0, 1) := dk_42 (dk_at dksX7_read_0 0 rfl rfl)
theorem dX7_read_1 : decode cX7_read 1 = .ok (.invokevirtual 42, 3) := dk_182 0 42 (dk_at dksX7_read_0 1 rfl rfl)
theorem dX7_read_4 : decode cX7_read 4 = .ok (.aload_n 0, 1) := dk_42 (dk_at dksX7_read_0 4 rfl rfl)
theorem dX7_read_5 : decode cX7_read 5 = .ok (.getfield 22, 3) := dk_180 0 22 (dk_at dksX7_read_0 5 rfl rfl)
theorem dX7_read_8 : decode cX7_read 8 = .ok (.aload_n 0, 1) := dk_42 (dk_at dksX7_read_0 8 rfl rfl)
theorem dX7_read_9 : decode cX7_read 9 = .ok (.getfield 3, 3) := dk_180 0 3 (dk_at dksX7_read_0 9 rfl rfl)
theorem dX7_read_12 : decode cX7_read 12 = .ok (.getfield 26, 3) := dk_180 0 26 (dk_at dksX7_read_0 12 rfl rfl)
theorem dX7_read_15 : decode cX7_read 15 = .ok (.if_icmp .ge 28, 3) := dk_162 0 28 (dk_at dksX7_read_0 15 rfl rfl)
theorem dX7_read_18 : decode cX7_read 18 = .ok (.aload_n 0, 1) := dk_42 (dk_at dksX7_read_0 18 rfl rfl)
theorem dX7_read_19 : decode cX7_read 19 = .ok (.getfield 18, 3) := dk_180 0 18 (dk_at dksX7_read_0 19 rfl rfl)
theorem dX7_read_22 : decode cX7_read 22 = .ok (.aload_n 0, 1) := dk_42 (dk_at dksX7_read_0 22 rfl rfl)
theorem dX7_read_23 : decode cX7_read 23 = .ok (.invokevirtual 94, 3) := dk_182 0 94 (dk_at dksX7_read_1 0 rfl rfl)
theorem dX7_read_26 : decode cX7_read 26 = .ok (.invokevirtual 98, 3) := dk_182 0 98 (dk_at dksX7_read_1 3 rfl rfl)
theorem dX7_read_29 : decode cX7_read 29 = .ok (.pop, 1) := dk_87 (dk_at dksX7_read_1 6 rfl rfl)
theorem dX7_read_30 : decode cX7_read 30 = .ok (.aload_n 0, 1) := dk_42 (dk_at dksX7_read_1 7 rfl rfl)
theorem dX7_read_31 : decode cX7_read 31 = .ok (.aload_n 0, 1) := dk_42 (dk_at dksX7_read_1 8 rfl rfl)
theorem dX7_read_32 : decode cX7_read 32 = .ok (.bipush 59, 2) := dk_16 59 (dk_at dksX7_read_1 9 rfl rfl)
theorem dX7_read_34 : decode cX7_read 34 = .ok (.invokevirtual 57, 3) := dk_182 0 57 (dk_at dksX7_read_1 11 rfl rfl)
theorem dX7_read_37 : decode cX7_read 37 = .ok (.invokevirtual 53, 3) := dk_182 0 53 (dk_at dksX7_read_1 14 rfl rfl)
theorem dX7_read_40 : decode cX7_read 40 = .ok (.goto (-36), 3) := dk_167 255 220 (dk_at dksX7_read_1 17 rfl rfl)
theorem dX7_read_43 : decode cX7_read 43 = .ok (.aload_n 0, 1) := dk_42 (dk_at dksX7_read_1 20 rfl rfl)
theorem dX7_read_44 : decode cX7_read 44 = .ok (.getfield 18, 3) := dk_180 0 18 (dk_at dksX7_read_1 21 rfl rfl)
theorem dX7_read_47 : decode cX7_read 47 = .ok (.areturn, 1) := dk_176 (dk_at dksX7_read_2 0 rfl rfl)
abbrev cX7_blanks : ByteArray := prog_19_method_3_code
def yX7_blanks : MethodName := ⟨RX7, "blanks", "()V"⟩
def dkwX7_blanks_0 : List UInt8 := [42, 182, 0, 33, 16, 32, 160, 0, 16, 42, 89, 180, 0, 22, 4, 96, 181, 0, 22, 167, 255, 237, 177]
abbrev dktX7_blanks_0 : List UInt8 := dkwX7_blanks_0 ++ []
theorem dksX7_blanks_0 : cX7_blanks.data.toList.drop 0 = dktX7_blanks_0 := by decide +kernel
theorem dX7_blanks_0 : decode cX7_blanks 0 = .ok (.aload_n 0, 1) := dk_42 (dk_at dksX7_blanks_0 0 rfl rfl)
theorem dX7_blanks_1 : decode cX7_blanks 1 = .ok (.invokevirtual 33, 3) := dk_182 0 33 (dk_at dksX7_blanks_0 1 rfl rfl)
theorem dX7_blanks_4 : decode cX7_blanks 4 = .ok (.bipush 32, 2) := dk_16 32 (dk_at dksX7_blanks_0 4 rfl rfl)
theorem dX7_blanks_6 : decode cX7_blanks 6 = .ok (.if_icmp .ne 16, 3) := dk_160 0 16 (dk_at dksX7_blanks_0 6 rfl rfl)
theorem dX7_blanks_9 : decode cX7_blanks 9 = .ok (.aload_n 0, 1) := dk_42 (dk_at dksX7_blanks_0 9 rfl rfl)
theorem dX7_blanks_10 : decode cX7_blanks 10 = .ok (.dup, 1) := dk_89 (dk_at dksX7_blanks_0 10 rfl rfl)
theorem dX7_blanks_11 : decode cX7_blanks 11 = .ok (.getfield 22, 3) := dk_180 0 22 (dk_at dksX7_blanks_0 11 rfl rfl)
theorem dX7_blanks_14 : decode cX7_blanks 14 = .ok (.iconst 1, 1) := dk_4 (dk_at dksX7_blanks_0 14 rfl rfl)
theorem dX7_blanks_15 : decode cX7_blanks 15 = .ok (.iadd, 1) := dk_96 (dk_at dksX7_blanks_0 15 rfl rfl)
theorem dX7_blanks_16 : decode cX7_blanks 16 = .ok (.putfield 22, 3) := dk_181 0 22 (dk_at dksX7_blanks_0 16 rfl rfl)
theorem dX7_blanks_19 : decode cX7_blanks 19 = .ok (.goto (-19), 3) := dk_167 255 237 (dk_at dksX7_blanks_0 19 rfl rfl)
theorem dX7_blanks_22 : decode cX7_blanks 22 = .ok (.return_, 1) := dk_177 (dk_at dksX7_blanks_0 22 rfl rfl)
abbrev cX7_next : ByteArray := prog_19_method_2_code
def yX7_next : MethodName := ⟨RX7, "next", "()I"⟩
def dkwX7_next_1 : List UInt8 := [180, 0, 22, 51, 167, 0, 4, 2, 172]
abbrev dktX7_next_1 : List UInt8 := dkwX7_next_1 ++ []
def dkwX7_next_0 : List UInt8 := [42, 180, 0, 22, 42, 180, 0, 3, 180, 0, 26, 162, 0, 18, 42, 180, 0, 3, 180, 0, 29, 42]
abbrev dktX7_next_0 : List UInt8 := dkwX7_next_0 ++ dktX7_next_1
theorem dksX7_next_0 : cX7_next.data.toList.drop 0 = dktX7_next_0 := by decide +kernel
theorem dksX7_next_1 : cX7_next.data.toList.drop 22 = dktX7_next_1 := dk_seg dksX7_next_0 22 rfl rfl
theorem dX7_next_0 : decode cX7_next 0 = .ok (.aload_n 0, 1) := dk_42 (dk_at dksX7_next_0 0 rfl rfl)
theorem dX7_next_1 : decode cX7_next 1 = .ok (.getfield 22, 3) := dk_180 0 22 (dk_at dksX7_next_0 1 rfl rfl)
theorem dX7_next_4 : decode cX7_next 4 = .ok (.aload_n 0, 1) := dk_42 (dk_at dksX7_next_0 4 rfl rfl)
theorem dX7_next_5 : decode cX7_next 5 = .ok (.getfield 3, 3) := dk_180 0 3 (dk_at dksX7_next_0 5 rfl rfl)
theorem dX7_next_8 : decode cX7_next 8 = .ok (.getfield 26, 3) := dk_180 0 26 (dk_at dksX7_next_0 8 rfl rfl)
theorem dX7_next_11 : decode cX7_next 11 = .ok (.if_icmp .ge 18, 3) := dk_162 0 18 (dk_at dksX7_next_0 11 rfl rfl)
theorem dX7_next_14 : decode cX7_next 14 = .ok (.aload_n 0, 1) := dk_42 (dk_at dksX7_next_0 14 rfl rfl)
theorem dX7_next_15 : decode cX7_next 15 = .ok (.getfield 3, 3) := dk_180 0 3 (dk_at dksX7_next_0 15 rfl rfl)
theorem dX7_next_18 : decode cX7_next 18 = .ok (.getfield 29, 3) := dk_180 0 29 (dk_at dksX7_next_0 18 rfl rfl)
theorem dX7_next_21 : decode cX7_next 21 = .ok (.aload_n 0, 1) := dk_42 (dk_at dksX7_next_0 21 rfl rfl)
theorem dX7_next_22 : decode cX7_next 22 = .ok (.getfield 22, 3) := dk_180 0 22 (dk_at dksX7_next_1 0 rfl rfl)
theorem dX7_next_25 : decode cX7_next 25 = .ok (.baload, 1) := dk_51 (dk_at dksX7_next_1 3 rfl rfl)
theorem dX7_next_26 : decode cX7_next 26 = .ok (.goto 4, 3) := dk_167 0 4 (dk_at dksX7_next_1 4 rfl rfl)
theorem dX7_next_29 : decode cX7_next 29 = .ok (.iconst (-1), 1) := dk_2 (dk_at dksX7_next_1 7 rfl rfl)
theorem dX7_next_30 : decode cX7_next 30 = .ok (.ireturn, 1) := dk_172 (dk_at dksX7_next_1 8 rfl rfl)
abbrev cX7_command : ByteArray := prog_19_method_10_code
def yX7_command : MethodName := ⟨RX7, "command", "()LIslandHeap$Command;"⟩
def dkwX7_command_7 : List UInt8 := [182, 0, 57, 182, 0, 53, 187, 0, 91, 89, 183, 0, 93, 176]
abbrev dktX7_command_7 : List UInt8 := dkwX7_command_7 ++ []
def dkwX7_command_6 : List UInt8 := [182, 0, 57, 153, 0, 16, 187, 0, 86, 89, 42, 182, 0, 61, 3, 183, 0, 88, 176, 42, 42, 16, 99]
abbrev dktX7_command_6 : List UInt8 := dkwX7_command_6 ++ dktX7_command_7
def dkwX7_command_5 : List UInt8 := [182, 0, 57, 153, 0, 16, 187, 0, 86, 89, 42, 182, 0, 61, 4, 183, 0, 88, 176, 42, 16, 117]
abbrev dktX7_command_5 : List UInt8 := dkwX7_command_5 ++ dktX7_command_6
def dkwX7_command_4 : List UInt8 := [42, 182, 0, 64, 61, 187, 0, 81, 89, 27, 28, 42, 182, 0, 74, 183, 0, 83, 176, 42, 16, 112]
abbrev dktX7_command_4 : List UInt8 := dkwX7_command_4 ++ dktX7_command_5
def dkwX7_command_3 : List UInt8 := [89, 27, 42, 182, 0, 74, 183, 0, 80, 176, 42, 16, 102, 182, 0, 57, 153, 0, 27, 42, 182, 0, 61, 60]
abbrev dktX7_command_3 : List UInt8 := dkwX7_command_3 ++ dktX7_command_4
def dkwX7_command_2 : List UInt8 := [182, 0, 74, 183, 0, 77, 176, 42, 16, 119, 182, 0, 57, 153, 0, 21, 42, 182, 0, 64, 60, 187, 0, 78]
abbrev dktX7_command_2 : List UInt8 := dkwX7_command_2 ++ dktX7_command_3
def dkwX7_command_1 : List UInt8 := [183, 0, 69, 176, 42, 16, 114, 182, 0, 57, 153, 0, 21, 42, 182, 0, 64, 60, 187, 0, 72, 89, 27, 42]
abbrev dktX7_command_1 : List UInt8 := dkwX7_command_1 ++ dktX7_command_2
def dkwX7_command_0 : List UInt8 := [42, 16, 110, 182, 0, 57, 153, 0, 21, 42, 182, 0, 64, 60, 187, 0, 67, 89, 27, 42, 182, 0, 64]
abbrev dktX7_command_0 : List UInt8 := dkwX7_command_0 ++ dktX7_command_1
theorem dksX7_command_0 : cX7_command.data.toList.drop 0 = dktX7_command_0 := by decide +kernel
theorem dksX7_command_1 : cX7_command.data.toList.drop 23 = dktX7_command_1 := dk_seg dksX7_command_0 23 rfl rfl
theorem dksX7_command_2 : cX7_command.data.toList.drop 47 = dktX7_command_2 := dk_seg dksX7_command_1 24 rfl rfl
theorem dksX7_command_3 : cX7_command.data.toList.drop 71 = dktX7_command_3 := dk_seg dksX7_command_2 24 rfl rfl
theorem dksX7_command_4 : cX7_command.data.toList.drop 95 = dktX7_command_4 := dk_seg dksX7_command_3 24 rfl rfl
theorem dksX7_command_5 : cX7_command.data.toList.drop 117 = dktX7_command_5 := dk_seg dksX7_command_4 22 rfl rfl
theorem dksX7_command_6 : cX7_command.data.toList.drop 139 = dktX7_command_6 := dk_seg dksX7_command_5 22 rfl rfl
theorem dksX7_command_7 : cX7_command.data.toList.drop 162 = dktX7_command_7 := dk_seg dksX7_command_6 23 rfl rfl
theorem dX7_command_0 : decode cX7_command 0 = .ok (.aload_n 0, 1) := dk_42 (dk_at dksX7_command_0 0 rfl rfl)
theorem dX7_command_1 : decode cX7_command 1 = .ok (.bipush 110, 2) := dk_16 110 (dk_at dksX7_command_0 1 rfl rfl)
theorem dX7_command_3 : decode cX7_command 3 = .ok (.invokevirtual 57, 3) := dk_182 0 57 (dk_at dksX7_command_0 3 rfl rfl)
theorem dX7_command_6 : decode cX7_command 6 = .ok (.ifCond .eq 21, 3) := dk_153 0 21 (dk_at dksX7_command_0 6 rfl rfl)
theorem dX7_command_9 : decode cX7_command 9 = .ok (.aload_n 0, 1) := dk_42 (dk_at dksX7_command_0 9 rfl rfl)
theorem dX7_command_10 : decode cX7_command 10 = .ok (.invokevirtual 64, 3) := dk_182 0 64 (dk_at dksX7_command_0 10 rfl rfl)
theorem dX7_command_13 : decode cX7_command 13 = .ok (.istore_n 1, 1) := dk_60 (dk_at dksX7_command_0 13 rfl rfl)
theorem dX7_command_14 : decode cX7_command 14 = .ok (.new 67, 3) := dk_187 0 67 (dk_at dksX7_command_0 14 rfl rfl)
theorem dX7_command_17 : decode cX7_command 17 = .ok (.dup, 1) := dk_89 (dk_at dksX7_command_0 17 rfl rfl)
theorem dX7_command_18 : decode cX7_command 18 = .ok (.iload_n 1, 1) := dk_27 (dk_at dksX7_command_0 18 rfl rfl)
theorem dX7_command_19 : decode cX7_command 19 = .ok (.aload_n 0, 1) := dk_42 (dk_at dksX7_command_0 19 rfl rfl)
theorem dX7_command_20 : decode cX7_command 20 = .ok (.invokevirtual 64, 3) := dk_182 0 64 (dk_at dksX7_command_0 20 rfl rfl)
theorem dX7_command_23 : decode cX7_command 23 = .ok (.invokespecial 69, 3) := dk_183 0 69 (dk_at dksX7_command_1 0 rfl rfl)
theorem dX7_command_26 : decode cX7_command 26 = .ok (.areturn, 1) := dk_176 (dk_at dksX7_command_1 3 rfl rfl)
theorem dX7_command_27 : decode cX7_command 27 = .ok (.aload_n 0, 1) := dk_42 (dk_at dksX7_command_1 4 rfl rfl)
theorem dX7_command_28 : decode cX7_command 28 = .ok (.bipush 114, 2) := dk_16 114 (dk_at dksX7_command_1 5 rfl rfl)
theorem dX7_command_30 : decode cX7_command 30 = .ok (.invokevirtual 57, 3) := dk_182 0 57 (dk_at dksX7_command_1 7 rfl rfl)
theorem dX7_command_33 : decode cX7_command 33 = .ok (.ifCond .eq 21, 3) := dk_153 0 21 (dk_at dksX7_command_1 10 rfl rfl)
theorem dX7_command_36 : decode cX7_command 36 = .ok (.aload_n 0, 1) := dk_42 (dk_at dksX7_command_1 13 rfl rfl)
theorem dX7_command_37 : decode cX7_command 37 = .ok (.invokevirtual 64, 3) := dk_182 0 64 (dk_at dksX7_command_1 14 rfl rfl)
theorem dX7_command_40 : decode cX7_command 40 = .ok (.istore_n 1, 1) := dk_60 (dk_at dksX7_command_1 17 rfl rfl)
theorem dX7_command_41 : decode cX7_command 41 = .ok (.new 72, 3) := dk_187 0 72 (dk_at dksX7_command_1 18 rfl rfl)
theorem dX7_command_44 : decode cX7_command 44 = .ok (.dup, 1) := dk_89 (dk_at dksX7_command_1 21 rfl rfl)
theorem dX7_command_45 : decode cX7_command 45 = .ok (.iload_n 1, 1) := dk_27 (dk_at dksX7_command_1 22 rfl rfl)
theorem dX7_command_46 : decode cX7_command 46 = .ok (.aload_n 0, 1) := dk_42 (dk_at dksX7_command_1 23 rfl rfl)
theorem dX7_command_47 : decode cX7_command 47 = .ok (.invokevirtual 74, 3) := dk_182 0 74 (dk_at dksX7_command_2 0 rfl rfl)
theorem dX7_command_50 : decode cX7_command 50 = .ok (.invokespecial 77, 3) := dk_183 0 77 (dk_at dksX7_command_2 3 rfl rfl)
theorem dX7_command_53 : decode cX7_command 53 = .ok (.areturn, 1) := dk_176 (dk_at dksX7_command_2 6 rfl rfl)
theorem dX7_command_54 : decode cX7_command 54 = .ok (.aload_n 0, 1) := dk_42 (dk_at dksX7_command_2 7 rfl rfl)
theorem dX7_command_55 : decode cX7_command 55 = .ok (.bipush 119, 2) := dk_16 119 (dk_at dksX7_command_2 8 rfl rfl)
theorem dX7_command_57 : decode cX7_command 57 = .ok (.invokevirtual 57, 3) := dk_182 0 57 (dk_at dksX7_command_2 10 rfl rfl)
theorem dX7_command_60 : decode cX7_command 60 = .ok (.ifCond .eq 21, 3) := dk_153 0 21 (dk_at dksX7_command_2 13 rfl rfl)
theorem dX7_command_63 : decode cX7_command 63 = .ok (.aload_n 0, 1) := dk_42 (dk_at dksX7_command_2 16 rfl rfl)
theorem dX7_command_64 : decode cX7_command 64 = .ok (.invokevirtual 64, 3) := dk_182 0 64 (dk_at dksX7_command_2 17 rfl rfl)
theorem dX7_command_67 : decode cX7_command 67 = .ok (.istore_n 1, 1) := dk_60 (dk_at dksX7_command_2 20 rfl rfl)
theorem dX7_command_68 : decode cX7_command 68 = .ok (.new 78, 3) := dk_187 0 78 (dk_at dksX7_command_2 21 rfl rfl)
theorem dX7_command_71 : decode cX7_command 71 = .ok (.dup, 1) := dk_89 (dk_at dksX7_command_3 0 rfl rfl)
theorem dX7_command_72 : decode cX7_command 72 = .ok (.iload_n 1, 1) := dk_27 (dk_at dksX7_command_3 1 rfl rfl)
theorem dX7_command_73 : decode cX7_command 73 = .ok (.aload_n 0, 1) := dk_42 (dk_at dksX7_command_3 2 rfl rfl)
theorem dX7_command_74 : decode cX7_command 74 = .ok (.invokevirtual 74, 3) := dk_182 0 74 (dk_at dksX7_command_3 3 rfl rfl)
theorem dX7_command_77 : decode cX7_command 77 = .ok (.invokespecial 80, 3) := dk_183 0 80 (dk_at dksX7_command_3 6 rfl rfl)
theorem dX7_command_80 : decode cX7_command 80 = .ok (.areturn, 1) := dk_176 (dk_at dksX7_command_3 9 rfl rfl)
theorem dX7_command_81 : decode cX7_command 81 = .ok (.aload_n 0, 1) := dk_42 (dk_at dksX7_command_3 10 rfl rfl)
theorem dX7_command_82 : decode cX7_command 82 = .ok (.bipush 102, 2) := dk_16 102 (dk_at dksX7_command_3 11 rfl rfl)
theorem dX7_command_84 : decode cX7_command 84 = .ok (.invokevirtual 57, 3) := dk_182 0 57 (dk_at dksX7_command_3 13 rfl rfl)
theorem dX7_command_87 : decode cX7_command 87 = .ok (.ifCond .eq 27, 3) := dk_153 0 27 (dk_at dksX7_command_3 16 rfl rfl)
theorem dX7_command_90 : decode cX7_command 90 = .ok (.aload_n 0, 1) := dk_42 (dk_at dksX7_command_3 19 rfl rfl)
theorem dX7_command_91 : decode cX7_command 91 = .ok (.invokevirtual 61, 3) := dk_182 0 61 (dk_at dksX7_command_3 20 rfl rfl)
theorem dX7_command_94 : decode cX7_command 94 = .ok (.istore_n 1, 1) := dk_60 (dk_at dksX7_command_3 23 rfl rfl)
theorem dX7_command_95 : decode cX7_command 95 = .ok (.aload_n 0, 1) := dk_42 (dk_at dksX7_command_4 0 rfl rfl)
theorem dX7_command_96 : decode cX7_command 96 = .ok (.invokevirtual 64, 3) := dk_182 0 64 (dk_at dksX7_command_4 1 rfl rfl)
theorem dX7_command_99 : decode cX7_command 99 = .ok (.istore_n 2, 1) := dk_61 (dk_at dksX7_command_4 4 rfl rfl)
theorem dX7_command_100 : decode cX7_command 100 = .ok (.new 81, 3) := dk_187 0 81 (dk_at dksX7_command_4 5 rfl rfl)
theorem dX7_command_103 : decode cX7_command 103 = .ok (.dup, 1) := dk_89 (dk_at dksX7_command_4 8 rfl rfl)
theorem dX7_command_104 : decode cX7_command 104 = .ok (.iload_n 1, 1) := dk_27 (dk_at dksX7_command_4 9 rfl rfl)
theorem dX7_command_105 : decode cX7_command 105 = .ok (.iload_n 2, 1) := dk_28 (dk_at dksX7_command_4 10 rfl rfl)
theorem dX7_command_106 : decode cX7_command 106 = .ok (.aload_n 0, 1) := dk_42 (dk_at dksX7_command_4 11 rfl rfl)
theorem dX7_command_107 : decode cX7_command 107 = .ok (.invokevirtual 74, 3) := dk_182 0 74 (dk_at dksX7_command_4 12 rfl rfl)
theorem dX7_command_110 : decode cX7_command 110 = .ok (.invokespecial 83, 3) := dk_183 0 83 (dk_at dksX7_command_4 15 rfl rfl)
theorem dX7_command_113 : decode cX7_command 113 = .ok (.areturn, 1) := dk_176 (dk_at dksX7_command_4 18 rfl rfl)
theorem dX7_command_114 : decode cX7_command 114 = .ok (.aload_n 0, 1) := dk_42 (dk_at dksX7_command_4 19 rfl rfl)
theorem dX7_command_115 : decode cX7_command 115 = .ok (.bipush 112, 2) := dk_16 112 (dk_at dksX7_command_4 20 rfl rfl)
theorem dX7_command_117 : decode cX7_command 117 = .ok (.invokevirtual 57, 3) := dk_182 0 57 (dk_at dksX7_command_5 0 rfl rfl)
theorem dX7_command_120 : decode cX7_command 120 = .ok (.ifCond .eq 16, 3) := dk_153 0 16 (dk_at dksX7_command_5 3 rfl rfl)
theorem dX7_command_123 : decode cX7_command 123 = .ok (.new 86, 3) := dk_187 0 86 (dk_at dksX7_command_5 6 rfl rfl)
theorem dX7_command_126 : decode cX7_command 126 = .ok (.dup, 1) := dk_89 (dk_at dksX7_command_5 9 rfl rfl)
theorem dX7_command_127 : decode cX7_command 127 = .ok (.aload_n 0, 1) := dk_42 (dk_at dksX7_command_5 10 rfl rfl)
theorem dX7_command_128 : decode cX7_command 128 = .ok (.invokevirtual 61, 3) := dk_182 0 61 (dk_at dksX7_command_5 11 rfl rfl)
theorem dX7_command_131 : decode cX7_command 131 = .ok (.iconst 1, 1) := dk_4 (dk_at dksX7_command_5 14 rfl rfl)
theorem dX7_command_132 : decode cX7_command 132 = .ok (.invokespecial 88, 3) := dk_183 0 88 (dk_at dksX7_command_5 15 rfl rfl)
theorem dX7_command_135 : decode cX7_command 135 = .ok (.areturn, 1) := dk_176 (dk_at dksX7_command_5 18 rfl rfl)
theorem dX7_command_136 : decode cX7_command 136 = .ok (.aload_n 0, 1) := dk_42 (dk_at dksX7_command_5 19 rfl rfl)
theorem dX7_command_137 : decode cX7_command 137 = .ok (.bipush 117, 2) := dk_16 117 (dk_at dksX7_command_5 20 rfl rfl)
theorem dX7_command_139 : decode cX7_command 139 = .ok (.invokevirtual 57, 3) := dk_182 0 57 (dk_at dksX7_command_6 0 rfl rfl)
theorem dX7_command_142 : decode cX7_command 142 = .ok (.ifCond .eq 16, 3) := dk_153 0 16 (dk_at dksX7_command_6 3 rfl rfl)
theorem dX7_command_145 : decode cX7_command 145 = .ok (.new 86, 3) := dk_187 0 86 (dk_at dksX7_command_6 6 rfl rfl)
theorem dX7_command_148 : decode cX7_command 148 = .ok (.dup, 1) := dk_89 (dk_at dksX7_command_6 9 rfl rfl)
theorem dX7_command_149 : decode cX7_command 149 = .ok (.aload_n 0, 1) := dk_42 (dk_at dksX7_command_6 10 rfl rfl)
theorem dX7_command_150 : decode cX7_command 150 = .ok (.invokevirtual 61, 3) := dk_182 0 61 (dk_at dksX7_command_6 11 rfl rfl)
theorem dX7_command_153 : decode cX7_command 153 = .ok (.iconst 0, 1) := dk_3 (dk_at dksX7_command_6 14 rfl rfl)
theorem dX7_command_154 : decode cX7_command 154 = .ok (.invokespecial 88, 3) := dk_183 0 88 (dk_at dksX7_command_6 15 rfl rfl)
theorem dX7_command_157 : decode cX7_command 157 = .ok (.areturn, 1) := dk_176 (dk_at dksX7_command_6 18 rfl rfl)
theorem dX7_command_158 : decode cX7_command 158 = .ok (.aload_n 0, 1) := dk_42 (dk_at dksX7_command_6 19 rfl rfl)
theorem dX7_command_159 : decode cX7_command 159 = .ok (.aload_n 0, 1) := dk_42 (dk_at dksX7_command_6 20 rfl rfl)
theorem dX7_command_160 : decode cX7_command 160 = .ok (.bipush 99, 2) := dk_16 99 (dk_at dksX7_command_6 21 rfl rfl)
theorem dX7_command_162 : decode cX7_command 162 = .ok (.invokevirtual 57, 3) := dk_182 0 57 (dk_at dksX7_command_7 0 rfl rfl)
theorem dX7_command_165 : decode cX7_command 165 = .ok (.invokevirtual 53, 3) := dk_182 0 53 (dk_at dksX7_command_7 3 rfl rfl)
theorem dX7_command_168 : decode cX7_command 168 = .ok (.new 91, 3) := dk_187 0 91 (dk_at dksX7_command_7 6 rfl rfl)
theorem dX7_command_171 : decode cX7_command 171 = .ok (.dup, 1) := dk_89 (dk_at dksX7_command_7 9 rfl rfl)
theorem dX7_command_172 : decode cX7_command 172 = .ok (.invokespecial 93, 3) := dk_183 0 93 (dk_at dksX7_command_7 10 rfl rfl)
theorem dX7_command_175 : decode cX7_command 175 = .ok (.areturn, 1) := dk_176 (dk_at dksX7_command_7 13 rfl rfl)
abbrev cX7_takes : ByteArray := prog_19_method_5_code
def yX7_takes : MethodName := ⟨RX7, "takes", "(I)Z"⟩
def dkwX7_takes_1 : List UInt8 := [96, 181, 0, 22, 42, 182, 0, 42, 28, 172]
abbrev dktX7_takes_1 : List UInt8 := dkwX7_takes_1 ++ []
def dkwX7_takes_0 : List UInt8 := [42, 182, 0, 33, 27, 160, 0, 7, 4, 167, 0, 4, 3, 61, 28, 153, 0, 17, 42, 89, 180, 0, 22, 4]
abbrev dktX7_takes_0 : List UInt8 := dkwX7_takes_0 ++ dktX7_takes_1
theorem dksX7_takes_0 : cX7_takes.data.toList.drop 0 = dktX7_takes_0 := by decide +kernel
theorem dksX7_takes_1 : cX7_takes.data.toList.drop 24 = dktX7_takes_1 := dk_seg dksX7_takes_0 24 rfl rfl
theorem dX7_takes_0 : decode cX7_takes 0 = .ok (.aload_n 0, 1) := dk_42 (dk_at dksX7_takes_0 0 rfl rfl)
theorem dX7_takes_1 : decode cX7_takes 1 = .ok (.invokevirtual 33, 3) := dk_182 0 33 (dk_at dksX7_takes_0 1 rfl rfl)
theorem dX7_takes_4 : decode cX7_takes 4 = .ok (.iload_n 1, 1) := dk_27 (dk_at dksX7_takes_0 4 rfl rfl)
theorem dX7_takes_5 : decode cX7_takes 5 = .ok (.if_icmp .ne 7, 3) := dk_160 0 7 (dk_at dksX7_takes_0 5 rfl rfl)
theorem dX7_takes_8 : decode cX7_takes 8 = .ok (.iconst 1, 1) := dk_4 (dk_at dksX7_takes_0 8 rfl rfl)
theorem dX7_takes_9 : decode cX7_takes 9 = .ok (.goto 4, 3) := dk_167 0 4 (dk_at dksX7_takes_0 9 rfl rfl)
theorem dX7_takes_12 : decode cX7_takes 12 = .ok (.iconst 0, 1) := dk_3 (dk_at dksX7_takes_0 12 rfl rfl)
theorem dX7_takes_13 : decode cX7_takes 13 = .ok (.istore_n 2, 1) := dk_61 (dk_at dksX7_takes_0 13 rfl rfl)
theorem dX7_takes_14 : decode cX7_takes 14 = .ok (.iload_n 2, 1) := dk_28 (dk_at dksX7_takes_0 14 rfl rfl)
theorem dX7_takes_15 : decode cX7_takes 15 = .ok (.ifCond .eq 17, 3) := dk_153 0 17 (dk_at dksX7_takes_0 15 rfl rfl)
theorem dX7_takes_18 : decode cX7_takes 18 = .ok (.aload_n 0, 1) := dk_42 (dk_at dksX7_takes_0 18 rfl rfl)
theorem dX7_takes_19 : decode cX7_takes 19 = .ok (.dup, 1) := dk_89 (dk_at dksX7_takes_0 19 rfl rfl)
theorem dX7_takes_20 : decode cX7_takes 20 = .ok (.getfield 22, 3) := dk_180 0 22 (dk_at dksX7_takes_0 20 rfl rfl)
theorem dX7_takes_23 : decode cX7_takes 23 = .ok (.iconst 1, 1) := dk_4 (dk_at dksX7_takes_0 23 rfl rfl)
theorem dX7_takes_24 : decode cX7_takes 24 = .ok (.iadd, 1) := dk_96 (dk_at dksX7_takes_1 0 rfl rfl)
theorem dX7_takes_25 : decode cX7_takes 25 = .ok (.putfield 22, 3) := dk_181 0 22 (dk_at dksX7_takes_1 1 rfl rfl)
theorem dX7_takes_28 : decode cX7_takes 28 = .ok (.aload_n 0, 1) := dk_42 (dk_at dksX7_takes_1 4 rfl rfl)
theorem dX7_takes_29 : decode cX7_takes 29 = .ok (.invokevirtual 42, 3) := dk_182 0 42 (dk_at dksX7_takes_1 5 rfl rfl)
theorem dX7_takes_32 : decode cX7_takes 32 = .ok (.iload_n 2, 1) := dk_28 (dk_at dksX7_takes_1 8 rfl rfl)
theorem dX7_takes_33 : decode cX7_takes 33 = .ok (.ireturn, 1) := dk_172 (dk_at dksX7_takes_1 9 rfl rfl)
abbrev cX7_digit : ByteArray := prog_19_method_7_code
def yX7_digit : MethodName := ⟨RX7, "digit", "()I"⟩
def dkwX7_digit_1 : List UInt8 := [181, 0, 22, 42, 182, 0, 42, 27, 172]
abbrev dktX7_digit_1 : List UInt8 := dkwX7_digit_1 ++ []
def dkwX7_digit_0 : List UInt8 := [42, 42, 182, 0, 49, 182, 0, 53, 42, 182, 0, 33, 16, 48, 100, 60, 42, 89, 180, 0, 22, 4, 96]
abbrev dktX7_digit_0 : List UInt8 := dkwX7_digit_0 ++ dktX7_digit_1
theorem dksX7_digit_0 : cX7_digit.data.toList.drop 0 = dktX7_digit_0 := by decide +kernel
theorem dksX7_digit_1 : cX7_digit.data.toList.drop 23 = dktX7_digit_1 := dk_seg dksX7_digit_0 23 rfl rfl
theorem dX7_digit_0 : decode cX7_digit 0 = .ok (.aload_n 0, 1) := dk_42 (dk_at dksX7_digit_0 0 rfl rfl)
theorem dX7_digit_1 : decode cX7_digit 1 = .ok (.aload_n 0, 1) := dk_42 (dk_at dksX7_digit_0 1 rfl rfl)
theorem dX7_digit_2 : decode cX7_digit 2 = .ok (.invokevirtual 49, 3) := dk_182 0 49 (dk_at dksX7_digit_0 2 rfl rfl)
theorem dX7_digit_5 : decode cX7_digit 5 = .ok (.invokevirtual 53, 3) := dk_182 0 53 (dk_at dksX7_digit_0 5 rfl rfl)
theorem dX7_digit_8 : decode cX7_digit 8 = .ok (.aload_n 0, 1) := dk_42 (dk_at dksX7_digit_0 8 rfl rfl)
theorem dX7_digit_9 : decode cX7_digit 9 = .ok (.invokevirtual 33, 3) := dk_182 0 33 (dk_at dksX7_digit_0 9 rfl rfl)
theorem dX7_digit_12 : decode cX7_digit 12 = .ok (.bipush 48, 2) := dk_16 48 (dk_at dksX7_digit_0 12 rfl rfl)
theorem dX7_digit_14 : decode cX7_digit 14 = .ok (.isub, 1) := dk_100 (dk_at dksX7_digit_0 14 rfl rfl)
theorem dX7_digit_15 : decode cX7_digit 15 = .ok (.istore_n 1, 1) := dk_60 (dk_at dksX7_digit_0 15 rfl rfl)
theorem dX7_digit_16 : decode cX7_digit 16 = .ok (.aload_n 0, 1) := dk_42 (dk_at dksX7_digit_0 16 rfl rfl)
theorem dX7_digit_17 : decode cX7_digit 17 = .ok (.dup, 1) := dk_89 (dk_at dksX7_digit_0 17 rfl rfl)
theorem dX7_digit_18 : decode cX7_digit 18 = .ok (.getfield 22, 3) := dk_180 0 22 (dk_at dksX7_digit_0 18 rfl rfl)
theorem dX7_digit_21 : decode cX7_digit 21 = .ok (.iconst 1, 1) := dk_4 (dk_at dksX7_digit_0 21 rfl rfl)
theorem dX7_digit_22 : decode cX7_digit 22 = .ok (.iadd, 1) := dk_96 (dk_at dksX7_digit_0 22 rfl rfl)
theorem dX7_digit_23 : decode cX7_digit 23 = .ok (.putfield 22, 3) := dk_181 0 22 (dk_at dksX7_digit_1 0 rfl rfl)
theorem dX7_digit_26 : decode cX7_digit 26 = .ok (.aload_n 0, 1) := dk_42 (dk_at dksX7_digit_1 3 rfl rfl)
theorem dX7_digit_27 : decode cX7_digit 27 = .ok (.invokevirtual 42, 3) := dk_182 0 42 (dk_at dksX7_digit_1 4 rfl rfl)
theorem dX7_digit_30 : decode cX7_digit 30 = .ok (.iload_n 1, 1) := dk_27 (dk_at dksX7_digit_1 7 rfl rfl)
theorem dX7_digit_31 : decode cX7_digit 31 = .ok (.ireturn, 1) := dk_172 (dk_at dksX7_digit_1 8 rfl rfl)
abbrev cX7_isDigit : ByteArray := prog_19_method_6_code
def yX7_isDigit : MethodName := ⟨RX7, "isDigit", "()Z"⟩
def dkwX7_isDigit_0 : List UInt8 := [42, 182, 0, 33, 16, 48, 16, 57, 184, 0, 45, 172]
abbrev dktX7_isDigit_0 : List UInt8 := dkwX7_isDigit_0 ++ []
theorem dksX7_isDigit_0 : cX7_isDigit.data.toList.drop 0 = dktX7_isDigit_0 := by decide +kernel
theorem dX7_isDigit_0 : decode cX7_isDigit 0 = .ok (.aload_n 0, 1) := dk_42 (dk_at dksX7_isDigit_0 0 rfl rfl)
theorem dX7_isDigit_1 : decode cX7_isDigit 1 = .ok (.invokevirtual 33, 3) := dk_182 0 33 (dk_at dksX7_isDigit_0 1 rfl rfl)
theorem dX7_isDigit_4 : decode cX7_isDigit 4 = .ok (.bipush 48, 2) := dk_16 48 (dk_at dksX7_isDigit_0 4 rfl rfl)
theorem dX7_isDigit_6 : decode cX7_isDigit 6 = .ok (.bipush 57, 2) := dk_16 57 (dk_at dksX7_isDigit_0 6 rfl rfl)
theorem dX7_isDigit_8 : decode cX7_isDigit 8 = .ok (.invokestatic 45, 3) := dk_184 0 45 (dk_at dksX7_isDigit_0 8 rfl rfl)
theorem dX7_isDigit_11 : decode cX7_isDigit 11 = .ok (.ireturn, 1) := dk_172 (dk_at dksX7_isDigit_0 11 rfl rfl)
abbrev cX7_expect : ByteArray := prog_19_method_4_code
def yX7_expect : MethodName := ⟨RX7, "expect", "(Z)V"⟩
def dkwX7_expect_0 : List UInt8 := [27, 154, 0, 15, 187, 0, 37, 89, 42, 180, 0, 22, 183, 0, 39, 191, 177]
abbrev dktX7_expect_0 : List UInt8 := dkwX7_expect_0 ++ []
theorem dksX7_expect_0 : cX7_expect.data.toList.drop 0 = dktX7_expect_0 := by decide +kernel
theorem dX7_expect_0 : decode cX7_expect 0 = .ok (.iload_n 1, 1) := dk_27 (dk_at dksX7_expect_0 0 rfl rfl)
theorem dX7_expect_1 : decode cX7_expect 1 = .ok (.ifCond .ne 15, 3) := dk_154 0 15 (dk_at dksX7_expect_0 1 rfl rfl)
theorem dX7_expect_4 : decode cX7_expect 4 = .ok (.new 37, 3) := dk_187 0 37 (dk_at dksX7_expect_0 4 rfl rfl)
theorem dX7_expect_7 : decode cX7_expect 7 = .ok (.dup, 1) := dk_89 (dk_at dksX7_expect_0 7 rfl rfl)
theorem dX7_expect_8 : decode cX7_expect 8 = .ok (.aload_n 0, 1) := dk_42 (dk_at dksX7_expect_0 8 rfl rfl)
theorem dX7_expect_9 : decode cX7_expect 9 = .ok (.getfield 22, 3) := dk_180 0 22 (dk_at dksX7_expect_0 9 rfl rfl)
theorem dX7_expect_12 : decode cX7_expect 12 = .ok (.invokespecial 39, 3) := dk_183 0 39 (dk_at dksX7_expect_0 12 rfl rfl)
theorem dX7_expect_15 : decode cX7_expect 15 = .ok (.athrow, 1) := dk_191 (dk_at dksX7_expect_0 15 rfl rfl)
theorem dX7_expect_16 : decode cX7_expect 16 = .ok (.return_, 1) := dk_177 (dk_at dksX7_expect_0 16 rfl rfl)
abbrev cX7_place : ByteArray := prog_19_method_9_code
def yX7_place : MethodName := ⟨RX7, "place", "()I"⟩
def dkwX7_place_0 : List UInt8 := [42, 16, 45, 182, 0, 57, 153, 0, 7, 2, 167, 0, 7, 42, 182, 0, 61, 172]
abbrev dktX7_place_0 : List UInt8 := dkwX7_place_0 ++ []
theorem dksX7_place_0 : cX7_place.data.toList.drop 0 = dktX7_place_0 := by decide +kernel
theorem dX7_place_0 : decode cX7_place 0 = .ok (.aload_n 0, 1) := dk_42 (dk_at dksX7_place_0 0 rfl rfl)
theorem dX7_place_1 : decode cX7_place 1 = .ok (.bipush 45, 2) := dk_16 45 (dk_at dksX7_place_0 1 rfl rfl)
theorem dX7_place_3 : decode cX7_place 3 = .ok (.invokevirtual 57, 3) := dk_182 0 57 (dk_at dksX7_place_0 3 rfl rfl)
theorem dX7_place_6 : decode cX7_place 6 = .ok (.ifCond .eq 7, 3) := dk_153 0 7 (dk_at dksX7_place_0 6 rfl rfl)
theorem dX7_place_9 : decode cX7_place 9 = .ok (.iconst (-1), 1) := dk_2 (dk_at dksX7_place_0 9 rfl rfl)
theorem dX7_place_10 : decode cX7_place 10 = .ok (.goto 7, 3) := dk_167 0 7 (dk_at dksX7_place_0 10 rfl rfl)
theorem dX7_place_13 : decode cX7_place 13 = .ok (.aload_n 0, 1) := dk_42 (dk_at dksX7_place_0 13 rfl rfl)
theorem dX7_place_14 : decode cX7_place 14 = .ok (.invokevirtual 61, 3) := dk_182 0 61 (dk_at dksX7_place_0 14 rfl rfl)
theorem dX7_place_17 : decode cX7_place 17 = .ok (.ireturn, 1) := dk_172 (dk_at dksX7_place_0 17 rfl rfl)
abbrev cX7_number : ByteArray := prog_19_method_8_code
def yX7_number : MethodName := ⟨RX7, "number", "()I"⟩
def dkwX7_number_3 : List UInt8 := [182, 0, 53, 42, 182, 0, 42, 28, 172]
abbrev dktX7_number_3 : List UInt8 := dkwX7_number_3 ++ []
def dkwX7_number_2 : List UInt8 := [180, 0, 22, 4, 96, 181, 0, 22, 167, 255, 216, 42, 42, 182, 0, 49, 154, 0, 7, 4, 167, 0, 4, 3]
abbrev dktX7_number_2 : List UInt8 := dkwX7_number_2 ++ dktX7_number_3
def dkwX7_number_1 : List UInt8 := [180, 0, 22, 27, 6, 96, 162, 0, 29, 16, 10, 28, 104, 42, 182, 0, 33, 96, 16, 48, 100, 61, 42, 89]
abbrev dktX7_number_1 : List UInt8 := dkwX7_number_1 ++ dktX7_number_2
def dkwX7_number_0 : List UInt8 := [42, 180, 0, 22, 60, 3, 61, 42, 42, 182, 0, 49, 182, 0, 53, 42, 182, 0, 49, 153, 0, 39, 42]
abbrev dktX7_number_0 : List UInt8 := dkwX7_number_0 ++ dktX7_number_1
theorem dksX7_number_0 : cX7_number.data.toList.drop 0 = dktX7_number_0 := by decide +kernel
theorem dksX7_number_1 : cX7_number.data.toList.drop 23 = dktX7_number_1 := dk_seg dksX7_number_0 23 rfl rfl
theorem dksX7_number_2 : cX7_number.data.toList.drop 47 = dktX7_number_2 := dk_seg dksX7_number_1 24 rfl rfl
theorem dksX7_number_3 : cX7_number.data.toList.drop 71 = dktX7_number_3 := dk_seg dksX7_number_2 24 rfl rfl
theorem dX7_number_0 : decode cX7_number 0 = .ok (.aload_n 0, 1) := dk_42 (dk_at dksX7_number_0 0 rfl rfl)
theorem dX7_number_1 : decode cX7_number 1 = .ok (.getfield 22, 3) := dk_180 0 22 (dk_at dksX7_number_0 1 rfl rfl)
theorem dX7_number_4 : decode cX7_number 4 = .ok (.istore_n 1, 1) := dk_60 (dk_at dksX7_number_0 4 rfl rfl)
theorem dX7_number_5 : decode cX7_number 5 = .ok (.iconst 0, 1) := dk_3 (dk_at dksX7_number_0 5 rfl rfl)
theorem dX7_number_6 : decode cX7_number 6 = .ok (.istore_n 2, 1) := dk_61 (dk_at dksX7_number_0 6 rfl rfl)
theorem dX7_number_7 : decode cX7_number 7 = .ok (.aload_n 0, 1) := dk_42 (dk_at dksX7_number_0 7 rfl rfl)
theorem dX7_number_8 : decode cX7_number 8 = .ok (.aload_n 0, 1) := dk_42 (dk_at dksX7_number_0 8 rfl rfl)
theorem dX7_number_9 : decode cX7_number 9 = .ok (.invokevirtual 49, 3) := dk_182 0 49 (dk_at dksX7_number_0 9 rfl rfl)
theorem dX7_number_12 : decode cX7_number 12 = .ok (.invokevirtual 53, 3) := dk_182 0 53 (dk_at dksX7_number_0 12 rfl rfl)
theorem dX7_number_15 : decode cX7_number 15 = .ok (.aload_n 0, 1) := dk_42 (dk_at dksX7_number_0 15 rfl rfl)
theorem dX7_number_16 : decode cX7_number 16 = .ok (.invokevirtual 49, 3) := dk_182 0 49 (dk_at dksX7_number_0 16 rfl rfl)
theorem dX7_number_19 : decode cX7_number 19 = .ok (.ifCond .eq 39, 3) := dk_153 0 39 (dk_at dksX7_number_0 19 rfl rfl)
theorem dX7_number_22 : decode cX7_number 22 = .ok (.aload_n 0, 1) := dk_42 (dk_at dksX7_number_0 22 rfl rfl)
theorem dX7_number_23 : decode cX7_number 23 = .ok (.getfield 22, 3) := dk_180 0 22 (dk_at dksX7_number_1 0 rfl rfl)
theorem dX7_number_26 : decode cX7_number 26 = .ok (.iload_n 1, 1) := dk_27 (dk_at dksX7_number_1 3 rfl rfl)
theorem dX7_number_27 : decode cX7_number 27 = .ok (.iconst 3, 1) := dk_6 (dk_at dksX7_number_1 4 rfl rfl)
theorem dX7_number_28 : decode cX7_number 28 = .ok (.iadd, 1) := dk_96 (dk_at dksX7_number_1 5 rfl rfl)
theorem dX7_number_29 : decode cX7_number 29 = .ok (.if_icmp .ge 29, 3) := dk_162 0 29 (dk_at dksX7_number_1 6 rfl rfl)
theorem dX7_number_32 : decode cX7_number 32 = .ok (.bipush 10, 2) := dk_16 10 (dk_at dksX7_number_1 9 rfl rfl)
theorem dX7_number_34 : decode cX7_number 34 = .ok (.iload_n 2, 1) := dk_28 (dk_at dksX7_number_1 11 rfl rfl)
theorem dX7_number_35 : decode cX7_number 35 = .ok (.imul, 1) := dk_104 (dk_at dksX7_number_1 12 rfl rfl)
theorem dX7_number_36 : decode cX7_number 36 = .ok (.aload_n 0, 1) := dk_42 (dk_at dksX7_number_1 13 rfl rfl)
theorem dX7_number_37 : decode cX7_number 37 = .ok (.invokevirtual 33, 3) := dk_182 0 33 (dk_at dksX7_number_1 14 rfl rfl)
theorem dX7_number_40 : decode cX7_number 40 = .ok (.iadd, 1) := dk_96 (dk_at dksX7_number_1 17 rfl rfl)
theorem dX7_number_41 : decode cX7_number 41 = .ok (.bipush 48, 2) := dk_16 48 (dk_at dksX7_number_1 18 rfl rfl)
theorem dX7_number_43 : decode cX7_number 43 = .ok (.isub, 1) := dk_100 (dk_at dksX7_number_1 20 rfl rfl)
theorem dX7_number_44 : decode cX7_number 44 = .ok (.istore_n 2, 1) := dk_61 (dk_at dksX7_number_1 21 rfl rfl)
theorem dX7_number_45 : decode cX7_number 45 = .ok (.aload_n 0, 1) := dk_42 (dk_at dksX7_number_1 22 rfl rfl)
theorem dX7_number_46 : decode cX7_number 46 = .ok (.dup, 1) := dk_89 (dk_at dksX7_number_1 23 rfl rfl)
theorem dX7_number_47 : decode cX7_number 47 = .ok (.getfield 22, 3) := dk_180 0 22 (dk_at dksX7_number_2 0 rfl rfl)
theorem dX7_number_50 : decode cX7_number 50 = .ok (.iconst 1, 1) := dk_4 (dk_at dksX7_number_2 3 rfl rfl)
theorem dX7_number_51 : decode cX7_number 51 = .ok (.iadd, 1) := dk_96 (dk_at dksX7_number_2 4 rfl rfl)
theorem dX7_number_52 : decode cX7_number 52 = .ok (.putfield 22, 3) := dk_181 0 22 (dk_at dksX7_number_2 5 rfl rfl)
theorem dX7_number_55 : decode cX7_number 55 = .ok (.goto (-40), 3) := dk_167 255 216 (dk_at dksX7_number_2 8 rfl rfl)
theorem dX7_number_58 : decode cX7_number 58 = .ok (.aload_n 0, 1) := dk_42 (dk_at dksX7_number_2 11 rfl rfl)
theorem dX7_number_59 : decode cX7_number 59 = .ok (.aload_n 0, 1) := dk_42 (dk_at dksX7_number_2 12 rfl rfl)
theorem dX7_number_60 : decode cX7_number 60 = .ok (.invokevirtual 49, 3) := dk_182 0 49 (dk_at dksX7_number_2 13 rfl rfl)
theorem dX7_number_63 : decode cX7_number 63 = .ok (.ifCond .ne 7, 3) := dk_154 0 7 (dk_at dksX7_number_2 16 rfl rfl)
theorem dX7_number_66 : decode cX7_number 66 = .ok (.iconst 1, 1) := dk_4 (dk_at dksX7_number_2 19 rfl rfl)
theorem dX7_number_67 : decode cX7_number 67 = .ok (.goto 4, 3) := dk_167 0 4 (dk_at dksX7_number_2 20 rfl rfl)
theorem dX7_number_70 : decode cX7_number 70 = .ok (.iconst 0, 1) := dk_3 (dk_at dksX7_number_2 23 rfl rfl)
theorem dX7_number_71 : decode cX7_number 71 = .ok (.invokevirtual 53, 3) := dk_182 0 53 (dk_at dksX7_number_3 0 rfl rfl)
theorem dX7_number_74 : decode cX7_number 74 = .ok (.aload_n 0, 1) := dk_42 (dk_at dksX7_number_3 3 rfl rfl)
theorem dX7_number_75 : decode cX7_number 75 = .ok (.invokevirtual 42, 3) := dk_182 0 42 (dk_at dksX7_number_3 4 rfl rfl)
theorem dX7_number_78 : decode cX7_number 78 = .ok (.iload_n 2, 1) := dk_28 (dk_at dksX7_number_3 7 rfl rfl)
theorem dX7_number_79 : decode cX7_number 79 = .ok (.ireturn, 1) := dk_172 (dk_at dksX7_number_3 8 rfl rfl)
theorem q80 : (Jvm.Cond.initialized "IslandHeap$ScriptReader") ∈ lw_all := lw_g (lw_at lw_m1 19 rfl) rfl
theorem q189 : (Jvm.Cond.fieldLinkNest "IslandHeap$ScriptReader" (29 : Nat) "IslandHeap" "text" "[B" "IslandHeap") ∈ lw_tbl := lw_at lw_m1 128 rfl
theorem q191 : (Jvm.Cond.fieldLinkNest "IslandHeap$ScriptReader" (26 : Nat) "IslandHeap" "length" "I" "IslandHeap") ∈ lw_tbl := lw_at lw_m1 130 rfl
theorem q356 : (Jvm.Cond.selects "IslandHeap$ScriptReader" ({ cls := "java/lang/Object", name := "getClass", desc := "()Ljava/lang/Class;" } : Jvm.MethodName) ({ cls := "java/lang/Object", name := "getClass", desc := "()Ljava/lang/Class;" } : Jvm.MethodName)) ∈ lw_all := lw_g (lw_at lw_m2 55 rfl) rfl
theorem q728 : (Jvm.Cond.instantiable "IslandHeap$ScriptReader" (3 : Nat)) ∈ lw_all := lw_g (lw_at lw_m3 187 rfl) rfl
theorem q730 : (Jvm.Cond.instanceMethod ({ cls := "IslandHeap$ScriptReader", name := "<init>", desc := "(LIslandHeap;)V" } : Jvm.MethodName)) ∈ lw_all := lw_g (lw_at lw_m3 189 rfl) rfl
theorem q731 : (Jvm.Cond.code ({ cls := "IslandHeap$ScriptReader", name := "<init>", desc := "(LIslandHeap;)V" } : Jvm.MethodName) prog_19_method_1_code (2 : Nat) (Option.none : Option Jvm.ClassFile.FieldType)) ∈ lw_all := lw_g (lw_at lw_m3 190 rfl) rfl
theorem q732 : (Jvm.Cond.methodLink "IslandHeap$ScriptReader" (9 : Nat) ({ cls := "java/lang/Object", name := "<init>", desc := "()V" } : Jvm.MethodName)) ∈ lw_all := lw_g (lw_at lw_m3 191 rfl) rfl
theorem q733 : (Jvm.Cond.classLink "IslandHeap$ScriptReader" (15 : Nat) "java/util/ArrayList") ∈ lw_all := lw_g (lw_at lw_m3 192 rfl) rfl
theorem q734 : (Jvm.Cond.methodLink "IslandHeap$ScriptReader" (17 : Nat) ({ cls := "java/util/ArrayList", name := "<init>", desc := "()V" } : Jvm.MethodName)) ∈ lw_all := lw_g (lw_at lw_m3 193 rfl) rfl
theorem q735 : (Jvm.Cond.fieldLink "IslandHeap$ScriptReader" (22 : Nat) "IslandHeap$ScriptReader" "at" "I") ∈ lw_all := lw_g (lw_at lw_m3 194 rfl) rfl
theorem q736 : (Jvm.Cond.fieldLink "IslandHeap$ScriptReader" (18 : Nat) "IslandHeap$ScriptReader" "read" "Ljava/util/ArrayList;") ∈ lw_all := lw_g (lw_at lw_m3 195 rfl) rfl
theorem q737 : (Jvm.Cond.fieldLink "IslandHeap$ScriptReader" (3 : Nat) "IslandHeap$ScriptReader" "this$0" "LIslandHeap;") ∈ lw_all := lw_g (lw_at lw_m3 196 rfl) rfl
theorem q738 : (Jvm.Cond.lays "IslandHeap$ScriptReader" "IslandHeap$ScriptReader" "at" "I") ∈ lw_all := lw_g (lw_at lw_m3 197 rfl) rfl
theorem q739 : (Jvm.Cond.soleField "IslandHeap$ScriptReader" "at") ∈ lw_all := lw_g (lw_at lw_m3 198 rfl) rfl
theorem q740 : (Jvm.Cond.laysFinal "IslandHeap$ScriptReader" "IslandHeap$ScriptReader" "read" "Ljava/util/ArrayList;") ∈ lw_all := lw_g (lw_at lw_m3 199 rfl) rfl
theorem q741 : (Jvm.Cond.soleField "IslandHeap$ScriptReader" "read") ∈ lw_all := lw_g (lw_at lw_m3 200 rfl) rfl
theorem q742 : (Jvm.Cond.laysFinal "IslandHeap$ScriptReader" "IslandHeap$ScriptReader" "this$0" "LIslandHeap;") ∈ lw_all := lw_g (lw_at lw_m3 201 rfl) rfl
theorem q743 : (Jvm.Cond.soleField "IslandHeap$ScriptReader" "this$0") ∈ lw_all := lw_g (lw_at lw_m3 202 rfl) rfl
theorem q744 : (Jvm.Cond.superclass "IslandHeap$ScriptReader" "java/lang/Object") ∈ lw_all := lw_g (lw_at lw_m3 203 rfl) rfl
theorem q746 : (Jvm.Cond.instanceMethod ({ cls := "IslandHeap$ScriptReader", name := "read", desc := "()Ljava/util/ArrayList;" } : Jvm.MethodName)) ∈ lw_all := lw_g (lw_at lw_m3 205 rfl) rfl
theorem q747 : (Jvm.Cond.selects "IslandHeap$ScriptReader" ({ cls := "IslandHeap$ScriptReader", name := "read", desc := "()Ljava/util/ArrayList;" } : Jvm.MethodName) ({ cls := "IslandHeap$ScriptReader", name := "read", desc := "()Ljava/util/ArrayList;" } : Jvm.MethodName)) ∈ lw_all := lw_g (lw_at lw_m3 206 rfl) rfl
theorem q748 : (Jvm.Cond.code ({ cls := "IslandHeap$ScriptReader", name := "read", desc := "()Ljava/util/ArrayList;" } : Jvm.MethodName) prog_19_method_11_code (1 : Nat) (Option.some (Jvm.ClassFile.FieldType.object "java/util/ArrayList"))) ∈ lw_all := lw_g (lw_at lw_m3 207 rfl) rfl
theorem q749 : (Jvm.Cond.methodLink "IslandHeap$ScriptReader" (42 : Nat) ({ cls := "IslandHeap$ScriptReader", name := "blanks", desc := "()V" } : Jvm.MethodName)) ∈ lw_all := lw_g (lw_at lw_m3 208 rfl) rfl
theorem q750 : (Jvm.Cond.privateMethod ({ cls := "IslandHeap$ScriptReader", name := "blanks", desc := "()V" } : Jvm.MethodName)) ∈ lw_tbl := lw_at lw_m3 209 rfl
theorem q751 : (Jvm.Cond.instanceMethod ({ cls := "IslandHeap$ScriptReader", name := "blanks", desc := "()V" } : Jvm.MethodName)) ∈ lw_all := lw_g (lw_at lw_m3 210 rfl) rfl
theorem q752 : (Jvm.Cond.code ({ cls := "IslandHeap$ScriptReader", name := "blanks", desc := "()V" } : Jvm.MethodName) prog_19_method_3_code (1 : Nat) (Option.none : Option Jvm.ClassFile.FieldType)) ∈ lw_all := lw_g (lw_at lw_m3 211 rfl) rfl
theorem q753 : (Jvm.Cond.methodLink "IslandHeap$ScriptReader" (33 : Nat) ({ cls := "IslandHeap$ScriptReader", name := "next", desc := "()I" } : Jvm.MethodName)) ∈ lw_all := lw_g (lw_at lw_m3 212 rfl) rfl
theorem q754 : (Jvm.Cond.privateMethod ({ cls := "IslandHeap$ScriptReader", name := "next", desc := "()I" } : Jvm.MethodName)) ∈ lw_tbl := lw_at lw_m3 213 rfl
theorem q755 : (Jvm.Cond.instanceMethod ({ cls := "IslandHeap$ScriptReader", name := "next", desc := "()I" } : Jvm.MethodName)) ∈ lw_all := lw_g (lw_at lw_m3 214 rfl) rfl
theorem q756 : (Jvm.Cond.code ({ cls := "IslandHeap$ScriptReader", name := "next", desc := "()I" } : Jvm.MethodName) prog_19_method_2_code (1 : Nat) (Option.some Jvm.ClassFile.FieldType.int)) ∈ lw_all := lw_g (lw_at lw_m3 215 rfl) rfl
theorem q757 : (Jvm.Cond.methodLink "IslandHeap$ScriptReader" (94 : Nat) ({ cls := "IslandHeap$ScriptReader", name := "command", desc := "()LIslandHeap$Command;" } : Jvm.MethodName)) ∈ lw_all := lw_g (lw_at lw_m3 216 rfl) rfl
theorem q758 : (Jvm.Cond.privateMethod ({ cls := "IslandHeap$ScriptReader", name := "command", desc := "()LIslandHeap$Command;" } : Jvm.MethodName)) ∈ lw_tbl := lw_at lw_m3 217 rfl
theorem q759 : (Jvm.Cond.instanceMethod ({ cls := "IslandHeap$ScriptReader", name := "command", desc := "()LIslandHeap$Command;" } : Jvm.MethodName)) ∈ lw_all := lw_g (lw_at lw_m3 218 rfl) rfl
theorem q760 : (Jvm.Cond.code ({ cls := "IslandHeap$ScriptReader", name := "command", desc := "()LIslandHeap$Command;" } : Jvm.MethodName) prog_19_method_10_code (3 : Nat) (Option.some (Jvm.ClassFile.FieldType.object "IslandHeap$Command"))) ∈ lw_all := lw_g (lw_at lw_m3 219 rfl) rfl
theorem q761 : (Jvm.Cond.methodLink "IslandHeap$ScriptReader" (57 : Nat) ({ cls := "IslandHeap$ScriptReader", name := "takes", desc := "(I)Z" } : Jvm.MethodName)) ∈ lw_all := lw_g (lw_at lw_m3 220 rfl) rfl
theorem q762 : (Jvm.Cond.privateMethod ({ cls := "IslandHeap$ScriptReader", name := "takes", desc := "(I)Z" } : Jvm.MethodName)) ∈ lw_tbl := lw_at lw_m3 221 rfl
theorem q763 : (Jvm.Cond.instanceMethod ({ cls := "IslandHeap$ScriptReader", name := "takes", desc := "(I)Z" } : Jvm.MethodName)) ∈ lw_all := lw_g (lw_at lw_m3 222 rfl) rfl
theorem q764 : (Jvm.Cond.code ({ cls := "IslandHeap$ScriptReader", name := "takes", desc := "(I)Z" } : Jvm.MethodName) prog_19_method_5_code (3 : Nat) (Option.some Jvm.ClassFile.FieldType.boolean)) ∈ lw_all := lw_g (lw_at lw_m3 223 rfl) rfl
theorem q765 : (Jvm.Cond.methodLink "IslandHeap$ScriptReader" (64 : Nat) ({ cls := "IslandHeap$ScriptReader", name := "digit", desc := "()I" } : Jvm.MethodName)) ∈ lw_all := lw_g (lw_at lw_m3 224 rfl) rfl
theorem q766 : (Jvm.Cond.privateMethod ({ cls := "IslandHeap$ScriptReader", name := "digit", desc := "()I" } : Jvm.MethodName)) ∈ lw_tbl := lw_at lw_m3 225 rfl
theorem q767 : (Jvm.Cond.instanceMethod ({ cls := "IslandHeap$ScriptReader", name := "digit", desc := "()I" } : Jvm.MethodName)) ∈ lw_all := lw_g (lw_at lw_m3 226 rfl) rfl
theorem q768 : (Jvm.Cond.code ({ cls := "IslandHeap$ScriptReader", name := "digit", desc := "()I" } : Jvm.MethodName) prog_19_method_7_code (2 : Nat) (Option.some Jvm.ClassFile.FieldType.int)) ∈ lw_all := lw_g (lw_at lw_m3 227 rfl) rfl
theorem q769 : (Jvm.Cond.methodLink "IslandHeap$ScriptReader" (49 : Nat) ({ cls := "IslandHeap$ScriptReader", name := "isDigit", desc := "()Z" } : Jvm.MethodName)) ∈ lw_all := lw_g (lw_at lw_m3 228 rfl) rfl
theorem q770 : (Jvm.Cond.privateMethod ({ cls := "IslandHeap$ScriptReader", name := "isDigit", desc := "()Z" } : Jvm.MethodName)) ∈ lw_tbl := lw_at lw_m3 229 rfl
theorem q771 : (Jvm.Cond.instanceMethod ({ cls := "IslandHeap$ScriptReader", name := "isDigit", desc := "()Z" } : Jvm.MethodName)) ∈ lw_all := lw_g (lw_at lw_m3 230 rfl) rfl
theorem q772 : (Jvm.Cond.code ({ cls := "IslandHeap$ScriptReader", name := "isDigit", desc := "()Z" } : Jvm.MethodName) prog_19_method_6_code (1 : Nat) (Option.some Jvm.ClassFile.FieldType.boolean)) ∈ lw_all := lw_g (lw_at lw_m3 231 rfl) rfl
theorem q773 : (Jvm.Cond.methodLinkNest "IslandHeap$ScriptReader" (45 : Nat) ({ cls := "IslandHeap", name := "isIn", desc := "(III)Z" } : Jvm.MethodName) "IslandHeap") ∈ lw_tbl := lw_at lw_m3 232 rfl
theorem q774 : (Jvm.Cond.methodLink "IslandHeap$ScriptReader" (53 : Nat) ({ cls := "IslandHeap$ScriptReader", name := "expect", desc := "(Z)V" } : Jvm.MethodName)) ∈ lw_all := lw_g (lw_at lw_m3 233 rfl) rfl
theorem q775 : (Jvm.Cond.privateMethod ({ cls := "IslandHeap$ScriptReader", name := "expect", desc := "(Z)V" } : Jvm.MethodName)) ∈ lw_tbl := lw_at lw_m3 234 rfl
theorem q776 : (Jvm.Cond.instanceMethod ({ cls := "IslandHeap$ScriptReader", name := "expect", desc := "(Z)V" } : Jvm.MethodName)) ∈ lw_all := lw_g (lw_at lw_m3 235 rfl) rfl
theorem q777 : (Jvm.Cond.code ({ cls := "IslandHeap$ScriptReader", name := "expect", desc := "(Z)V" } : Jvm.MethodName) prog_19_method_4_code (2 : Nat) (Option.none : Option Jvm.ClassFile.FieldType)) ∈ lw_all := lw_g (lw_at lw_m3 236 rfl) rfl
theorem q778 : (Jvm.Cond.classLink "IslandHeap$ScriptReader" (37 : Nat) "IslandHeap$TextFault") ∈ lw_all := lw_g (lw_at lw_m3 237 rfl) rfl
theorem q815 : (Jvm.Cond.methodLink "IslandHeap$ScriptReader" (39 : Nat) ({ cls := "IslandHeap$TextFault", name := "<init>", desc := "(I)V" } : Jvm.MethodName)) ∈ lw_all := lw_g (lw_at lw_m4 34 rfl) rfl
theorem q841 : (Jvm.Cond.classLink "IslandHeap$ScriptReader" (67 : Nat) "IslandHeap$Allocate") ∈ lw_all := lw_g (lw_at lw_m4 60 rfl) rfl
theorem q843 : (Jvm.Cond.methodLink "IslandHeap$ScriptReader" (69 : Nat) ({ cls := "IslandHeap$Allocate", name := "<init>", desc := "(II)V" } : Jvm.MethodName)) ∈ lw_all := lw_g (lw_at lw_m4 62 rfl) rfl
theorem q854 : (Jvm.Cond.classLink "IslandHeap$ScriptReader" (72 : Nat) "IslandHeap$SetRoot") ∈ lw_all := lw_g (lw_at lw_m4 73 rfl) rfl
theorem q856 : (Jvm.Cond.methodLink "IslandHeap$ScriptReader" (74 : Nat) ({ cls := "IslandHeap$ScriptReader", name := "place", desc := "()I" } : Jvm.MethodName)) ∈ lw_all := lw_g (lw_at lw_m4 75 rfl) rfl
theorem q857 : (Jvm.Cond.privateMethod ({ cls := "IslandHeap$ScriptReader", name := "place", desc := "()I" } : Jvm.MethodName)) ∈ lw_tbl := lw_at lw_m4 76 rfl
theorem q858 : (Jvm.Cond.instanceMethod ({ cls := "IslandHeap$ScriptReader", name := "place", desc := "()I" } : Jvm.MethodName)) ∈ lw_all := lw_g (lw_at lw_m4 77 rfl) rfl
theorem q859 : (Jvm.Cond.code ({ cls := "IslandHeap$ScriptReader", name := "place", desc := "()I" } : Jvm.MethodName) prog_19_method_9_code (1 : Nat) (Option.some Jvm.ClassFile.FieldType.int)) ∈ lw_all := lw_g (lw_at lw_m4 78 rfl) rfl
theorem q860 : (Jvm.Cond.methodLink "IslandHeap$ScriptReader" (61 : Nat) ({ cls := "IslandHeap$ScriptReader", name := "number", desc := "()I" } : Jvm.MethodName)) ∈ lw_all := lw_g (lw_at lw_m4 79 rfl) rfl
theorem q861 : (Jvm.Cond.privateMethod ({ cls := "IslandHeap$ScriptReader", name := "number", desc := "()I" } : Jvm.MethodName)) ∈ lw_tbl := lw_at lw_m4 80 rfl
theorem q862 : (Jvm.Cond.instanceMethod ({ cls := "IslandHeap$ScriptReader", name := "number", desc := "()I" } : Jvm.MethodName)) ∈ lw_all := lw_g (lw_at lw_m4 81 rfl) rfl
theorem q863 : (Jvm.Cond.code ({ cls := "IslandHeap$ScriptReader", name := "number", desc := "()I" } : Jvm.MethodName) prog_19_method_8_code (3 : Nat) (Option.some Jvm.ClassFile.FieldType.int)) ∈ lw_all := lw_g (lw_at lw_m4 82 rfl) rfl
theorem q864 : (Jvm.Cond.methodLink "IslandHeap$ScriptReader" (77 : Nat) ({ cls := "IslandHeap$SetRoot", name := "<init>", desc := "(II)V" } : Jvm.MethodName)) ∈ lw_all := lw_g (lw_at lw_m4 83 rfl) rfl
theorem q875 : (Jvm.Cond.classLink "IslandHeap$ScriptReader" (78 : Nat) "IslandHeap$SetWeak") ∈ lw_all := lw_g (lw_at lw_m4 94 rfl) rfl
theorem q877 : (Jvm.Cond.methodLink "IslandHeap$ScriptReader" (80 : Nat) ({ cls := "IslandHeap$SetWeak", name := "<init>", desc := "(II)V" } : Jvm.MethodName)) ∈ lw_all := lw_g (lw_at lw_m4 96 rfl) rfl
theorem q888 : (Jvm.Cond.classLink "IslandHeap$ScriptReader" (81 : Nat) "IslandHeap$SetField") ∈ lw_all := lw_g (lw_at lw_m4 107 rfl) rfl
theorem q890 : (Jvm.Cond.methodLink "IslandHeap$ScriptReader" (83 : Nat) ({ cls := "IslandHeap$SetField", name := "<init>", desc := "(III)V" } : Jvm.MethodName)) ∈ lw_all := lw_g (lw_at lw_m4 109 rfl) rfl
theorem q904 : (Jvm.Cond.classLink "IslandHeap$ScriptReader" (86 : Nat) "IslandHeap$Pin") ∈ lw_all := lw_g (lw_at lw_m4 123 rfl) rfl
theorem q906 : (Jvm.Cond.methodLink "IslandHeap$ScriptReader" (88 : Nat) ({ cls := "IslandHeap$Pin", name := "<init>", desc := "(IZ)V" } : Jvm.MethodName)) ∈ lw_all := lw_g (lw_at lw_m4 125 rfl) rfl
theorem q917 : (Jvm.Cond.classLink "IslandHeap$ScriptReader" (91 : Nat) "IslandHeap$Collect") ∈ lw_all := lw_g (lw_at lw_m4 136 rfl) rfl
theorem q919 : (Jvm.Cond.methodLinkNest "IslandHeap$ScriptReader" (93 : Nat) ({ cls := "IslandHeap$Collect", name := "<init>", desc := "()V" } : Jvm.MethodName) "IslandHeap") ∈ lw_tbl := lw_at lw_m4 138 rfl
theorem q924 : (Jvm.Cond.methodLink "IslandHeap$ScriptReader" (98 : Nat) ({ cls := "java/util/ArrayList", name := "add", desc := "(Ljava/lang/Object;)Z" } : Jvm.MethodName)) ∈ lw_all := lw_g (lw_at lw_m4 143 rfl) rfl
theorem q1369 : (Jvm.Cond.castable "IslandHeap$ScriptReader" "java/lang/Object") ∈ lw_tbl := lw_at lw_m6 108 rfl
theorem in_X7 : ∀ w ∈ wsX70, w ∈ lw_all := lw_in wsX70 [738, 740, 742] (by decide +kernel) (by decide +kernel)
