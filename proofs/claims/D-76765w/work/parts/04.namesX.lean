/-! SegmentedCache -/
set_option maxRecDepth 100000
def RX0 : String := "SegmentedCache"
def TX0 : u_T := fun k => match k with
  | 0 => ("SegmentedCache", "now", "LSegmentedCache$Cache;", true)
  | 1 => ("SegmentedCache", "thought", "LSegmentedCache$Sketch;", true)
  | 2 => ("SegmentedCache", "tried", "LSegmentedCache$Sketch;", true)
  | 3 => ("SegmentedCache", "text", "[B", true)
  | 4 => ("SegmentedCache", "texted", "I", false)
  | 5 => ("SegmentedCache", "traces", "Ljava/util/LinkedList;", true)
  | 6 => ("SegmentedCache", "bookKeys", "[LSegmentedCache$Key;", true)
  | 7 => ("SegmentedCache", "bookWhere", "[I", true)
  | 8 => ("SegmentedCache", "bookMany", "I", false)
  | 9 => ("SegmentedCache", "tapes", "[LSegmentedCache$Tape;", true)
  | 10 => ("SegmentedCache", "imageNow", "LSegmentedCache$Cache;", true)
  | 11 => ("SegmentedCache", "imageBookKeys", "[LSegmentedCache$Key;", true)
  | 12 => ("SegmentedCache", "imageBookWhere", "[I", true)
  | 13 => ("SegmentedCache", "imageBooked", "I", false)
  | _ => ("SegmentedCache", "hasImage", "Z", false)
def tyX0 : Nat → FieldType := fun k => match k with
  | 0 => .object "SegmentedCache$Cache"
  | 1 => .object "SegmentedCache$Sketch"
  | 2 => .object "SegmentedCache$Sketch"
  | 3 => .array .byte
  | 4 => .int
  | 5 => .object "java/util/LinkedList"
  | 6 => .array (.object "SegmentedCache$Key")
  | 7 => .array .int
  | 8 => .int
  | 9 => .array (.object "SegmentedCache$Tape")
  | 10 => .object "SegmentedCache$Cache"
  | 11 => .array (.object "SegmentedCache$Key")
  | 12 => .array .int
  | 13 => .int
  | _ => .boolean
abbrev wsX00 : List Cond := u_ws RX0 TX0 15
set_option maxRecDepth 100000 in
theorem nmX0 : ∀ a, a < 15 → ∀ b, b < 15 → a ≠ b → (TX0 a).2.1 ≠ (TX0 b).2.1 := by decide +kernel
set_option maxRecDepth 100000 in
theorem tyX0_ok : ∀ k, k < 15 → parseFieldDescriptor (TX0 k).2.2.1 = some (tyX0 k) := by decide +kernel
abbrev cX0_init : ByteArray := prog_1_method_3_code
def yX0_init : MethodName := ⟨RX0, "<init>", "()V"⟩
def dkwX0_init_5 : List UInt8 := [181, 0, 60, 42, 16, 8, 189, 0, 43, 181, 0, 63, 42, 16, 8, 188, 10, 181, 0, 66, 177]
abbrev dktX0_init_5 : List UInt8 := dkwX0_init_5 ++ []
def dkwX0_init_4 : List UInt8 := [27, 187, 0, 53, 89, 183, 0, 59, 83, 132, 1, 1, 167, 255, 234, 42, 187, 0, 15, 89, 183, 0, 17]
abbrev dktX0_init_4 : List UInt8 := dkwX0_init_4 ++ dktX0_init_5
def dkwX0_init_3 : List UInt8 := [181, 0, 49, 42, 16, 6, 189, 0, 53, 181, 0, 55, 3, 60, 27, 16, 6, 162, 0, 22, 42, 180, 0, 55]
abbrev dktX0_init_3 : List UInt8 := dkwX0_init_3 ++ dktX0_init_4
def dkwX0_init_2 : List UInt8 := [187, 0, 36, 89, 183, 0, 38, 181, 0, 39, 42, 16, 8, 189, 0, 43, 181, 0, 45, 42, 16, 8, 188, 10]
abbrev dktX0_init_2 : List UInt8 := dkwX0_init_2 ++ dktX0_init_3
def dkwX0_init_1 : List UInt8 := [181, 0, 25, 42, 187, 0, 22, 89, 183, 0, 24, 181, 0, 29, 42, 16, 100, 188, 8, 181, 0, 32, 42]
abbrev dktX0_init_1 : List UInt8 := dkwX0_init_1 ++ dktX0_init_2
def dkwX0_init_0 : List UInt8 := [42, 183, 0, 9, 42, 187, 0, 15, 89, 183, 0, 17, 181, 0, 18, 42, 187, 0, 22, 89, 183, 0, 24]
abbrev dktX0_init_0 : List UInt8 := dkwX0_init_0 ++ dktX0_init_1
theorem dksX0_init_0 : cX0_init.data.toList.drop 0 = dktX0_init_0 := by decide +kernel
theorem dksX0_init_1 : cX0_init.data.toList.drop 23 = dktX0_init_1 := dk_seg dksX0_init_0 23 rfl rfl
theorem dksX0_init_2 : cX0_init.data.toList.drop 46 = dktX0_init_2 := dk_seg dksX0_init_1 23 rfl rfl
theorem dksX0_init_3 : cX0_init.data.toList.drop 70 = dktX0_init_3 := dk_seg dksX0_init_2 24 rfl rfl
theorem dksX0_init_4 : cX0_init.data.toList.drop 94 = dktX0_init_4 := dk_seg dksX0_init_3 24 rfl rfl
theorem dksX0_init_5 : cX0_init.data.toList.drop 117 = dktX0_init_5 := dk_seg dksX0_init_4 23 rfl rfl
theorem dX0_init_0 : decode cX0_init 0 = .ok (.aload_n 0, 1) := dk_42 (dk_at dksX0_init_0 0 rfl rfl)
theorem dX0_init_1 : decode cX0_init 1 = .ok (.invokespecial 9, 3) := dk_183 0 9 (dk_at dksX0_init_0 1 rfl rfl)
theorem dX0_init_4 : decode cX0_init 4 = .ok (.aload_n 0, 1) := dk_42 (dk_at dksX0_init_0 4 rfl rfl)
theorem dX0_init_5 : decode cX0_init 5 = .ok (.new 15, 3) := dk_187 0 15 (dk_at dksX0_init_0 5 rfl rfl)
theorem dX0_init_8 : decode cX0_init 8 = .ok (.dup, 1) := dk_89 (dk_at dksX0_init_0 8 rfl rfl)
theorem dX0_init_9 : decode cX0_init 9 = .ok (.invokespecial 17, 3) := dk_183 0 17 (dk_at dksX0_init_0 9 rfl rfl)
theorem dX0_init_12 : decode cX0_init 12 = .ok (.putfield 18, 3) := dk_181 0 18 (dk_at dksX0_init_0 12 rfl rfl)
theorem dX0_init_15 : decode cX0_init 15 = .ok (.aload_n 0, 1) := dk_42 (dk_at dksX0_init_0 15 rfl rfl)
theorem dX0_init_16 : decode cX0_init 16 = .ok (.new 22, 3) := dk_187 0 22 (dk_at dksX0_init_0 16 rfl rfl)
theorem dX0_init_19 : decode cX0_init 19 = .ok (.dup, 1) := dk_89 (dk_at dksX0_init_0 19 rfl rfl)
theorem dX0_init_20 : decode cX0_init 20 = .ok (.invokespecial 24, 3) := dk_183 0 24 (dk_at dksX0_init_0 20 rfl rfl)
theorem dX0_init_23 : decode cX0_init 23 = .ok (.putfield 25, 3) := dk_181 0 25 (dk_at dksX0_init_1 0 rfl rfl)
theorem dX0_init_26 : decode cX0_init 26 = .ok (.aload_n 0, 1) := dk_42 (dk_at dksX0_init_1 3 rfl rfl)
theorem dX0_init_27 : decode cX0_init 27 = .ok (.new 22, 3) := dk_187 0 22 (dk_at dksX0_init_1 4 rfl rfl)
theorem dX0_init_30 : decode cX0_init 30 = .ok (.dup, 1) := dk_89 (dk_at dksX0_init_1 7 rfl rfl)
theorem dX0_init_31 : decode cX0_init 31 = .ok (.invokespecial 24, 3) := dk_183 0 24 (dk_at dksX0_init_1 8 rfl rfl)
theorem dX0_init_34 : decode cX0_init 34 = .ok (.putfield 29, 3) := dk_181 0 29 (dk_at dksX0_init_1 11 rfl rfl)
theorem dX0_init_37 : decode cX0_init 37 = .ok (.aload_n 0, 1) := dk_42 (dk_at dksX0_init_1 14 rfl rfl)
theorem dX0_init_38 : decode cX0_init 38 = .ok (.bipush 100, 2) := dk_16 100 (dk_at dksX0_init_1 15 rfl rfl)
theorem dX0_init_40 : decode cX0_init 40 = .ok (.newarray .byte, 2) := dk_188_8 (dk_at dksX0_init_1 17 rfl rfl)
theorem dX0_init_42 : decode cX0_init 42 = .ok (.putfield 32, 3) := dk_181 0 32 (dk_at dksX0_init_1 19 rfl rfl)
theorem dX0_init_45 : decode cX0_init 45 = .ok (.aload_n 0, 1) := dk_42 (dk_at dksX0_init_1 22 rfl rfl)
theorem dX0_init_46 : decode cX0_init 46 = .ok (.new 36, 3) := dk_187 0 36 (dk_at dksX0_init_2 0 rfl rfl)
theorem dX0_init_49 : decode cX0_init 49 = .ok (.dup, 1) := dk_89 (dk_at dksX0_init_2 3 rfl rfl)
theorem dX0_init_50 : decode cX0_init 50 = .ok (.invokespecial 38, 3) := dk_183 0 38 (dk_at dksX0_init_2 4 rfl rfl)
theorem dX0_init_53 : decode cX0_init 53 = .ok (.putfield 39, 3) := dk_181 0 39 (dk_at dksX0_init_2 7 rfl rfl)
theorem dX0_init_56 : decode cX0_init 56 = .ok (.aload_n 0, 1) := dk_42 (dk_at dksX0_init_2 10 rfl rfl)
theorem dX0_init_57 : decode cX0_init 57 = .ok (.bipush 8, 2) := dk_16 8 (dk_at dksX0_init_2 11 rfl rfl)
theorem dX0_init_59 : decode cX0_init 59 = .ok (.anewarray 43, 3) := dk_189 0 43 (dk_at dksX0_init_2 13 rfl rfl)
theorem dX0_init_62 : decode cX0_init 62 = .ok (.putfield 45, 3) := dk_181 0 45 (dk_at dksX0_init_2 16 rfl rfl)
theorem dX0_init_65 : decode cX0_init 65 = .ok (.aload_n 0, 1) := dk_42 (dk_at dksX0_init_2 19 rfl rfl)
theorem dX0_init_66 : decode cX0_init 66 = .ok (.bipush 8, 2) := dk_16 8 (dk_at dksX0_init_2 20 rfl rfl)
theorem dX0_init_68 : decode cX0_init 68 = .ok (.newarray .int, 2) := dk_188_10 (dk_at dksX0_init_2 22 rfl rfl)
theorem dX0_init_70 : decode cX0_init 70 = .ok (.putfield 49, 3) := dk_181 0 49 (dk_at dksX0_init_3 0 rfl rfl)
theorem dX0_init_73 : decode cX0_init 73 = .ok (.aload_n 0, 1) := dk_42 (dk_at dksX0_init_3 3 rfl rfl)
theorem dX0_init_74 : decode cX0_init 74 = .ok (.bipush 6, 2) := dk_16 6 (dk_at dksX0_init_3 4 rfl rfl)
theorem dX0_init_76 : decode cX0_init 76 = .ok (.anewarray 53, 3) := dk_189 0 53 (dk_at dksX0_init_3 6 rfl rfl)
theorem dX0_init_79 : decode cX0_init 79 = .ok (.putfield 55, 3) := dk_181 0 55 (dk_at dksX0_init_3 9 rfl rfl)
theorem dX0_init_82 : decode cX0_init 82 = .ok (.iconst 0, 1) := dk_3 (dk_at dksX0_init_3 12 rfl rfl)
theorem dX0_init_83 : decode cX0_init 83 = .ok (.istore_n 1, 1) := dk_60 (dk_at dksX0_init_3 13 rfl rfl)
theorem dX0_init_84 : decode cX0_init 84 = .ok (.iload_n 1, 1) := dk_27 (dk_at dksX0_init_3 14 rfl rfl)
theorem dX0_init_85 : decode cX0_init 85 = .ok (.bipush 6, 2) := dk_16 6 (dk_at dksX0_init_3 15 rfl rfl)
theorem dX0_init_87 : decode cX0_init 87 = .ok (.if_icmp .ge 22, 3) := dk_162 0 22 (dk_at dksX0_init_3 17 rfl rfl)
theorem dX0_init_90 : decode cX0_init 90 = .ok (.aload_n 0, 1) := dk_42 (dk_at dksX0_init_3 20 rfl rfl)
theorem dX0_init_91 : decode cX0_init 91 = .ok (.getfield 55, 3) := dk_180 0 55 (dk_at dksX0_init_3 21 rfl rfl)
theorem dX0_init_94 : decode cX0_init 94 = .ok (.iload_n 1, 1) := dk_27 (dk_at dksX0_init_4 0 rfl rfl)
theorem dX0_init_95 : decode cX0_init 95 = .ok (.new 53, 3) := dk_187 0 53 (dk_at dksX0_init_4 1 rfl rfl)
theorem dX0_init_98 : decode cX0_init 98 = .ok (.dup, 1) := dk_89 (dk_at dksX0_init_4 4 rfl rfl)
theorem dX0_init_99 : decode cX0_init 99 = .ok (.invokespecial 59, 3) := dk_183 0 59 (dk_at dksX0_init_4 5 rfl rfl)
theorem dX0_init_102 : decode cX0_init 102 = .ok (.aastore, 1) := dk_83 (dk_at dksX0_init_4 8 rfl rfl)
theorem dX0_init_103 : decode cX0_init 103 = .ok (.iinc 1 1, 3) := dk_132 1 1 (dk_at dksX0_init_4 9 rfl rfl)
theorem dX0_init_106 : decode cX0_init 106 = .ok (.goto (-22), 3) := dk_167 255 234 (dk_at dksX0_init_4 12 rfl rfl)
theorem dX0_init_109 : decode cX0_init 109 = .ok (.aload_n 0, 1) := dk_42 (dk_at dksX0_init_4 15 rfl rfl)
theorem dX0_init_110 : decode cX0_init 110 = .ok (.new 15, 3) := dk_187 0 15 (dk_at dksX0_init_4 16 rfl rfl)
theorem dX0_init_113 : decode cX0_init 113 = .ok (.dup, 1) := dk_89 (dk_at dksX0_init_4 19 rfl rfl)
theorem dX0_init_114 : decode cX0_init 114 = .ok (.invokespecial 17, 3) := dk_183 0 17 (dk_at dksX0_init_4 20 rfl rfl)
theorem dX0_init_117 : decode cX0_init 117 = .ok (.putfield 60, 3) := dk_181 0 60 (dk_at dksX0_init_5 0 rfl rfl)
theorem dX0_init_120 : decode cX0_init 120 = .ok (.aload_n 0, 1) := dk_42 (dk_at dksX0_init_5 3 rfl rfl)
theorem dX0_init_121 : decode cX0_init 121 = .ok (.bipush 8, 2) := dk_16 8 (dk_at dksX0_init_5 4 rfl rfl)
theorem dX0_init_123 : decode cX0_init 123 = .ok (.anewarray 43, 3) := dk_189 0 43 (dk_at dksX0_init_5 6 rfl rfl)
theorem dX0_init_126 : decode cX0_init 126 = .ok (.putfield 63, 3) := dk_181 0 63 (dk_at dksX0_init_5 9 rfl rfl)
theorem dX0_init_129 : decode cX0_init 129 = .ok (.aload_n 0, 1) := dk_42 (dk_at dksX0_init_5 12 rfl rfl)
theorem dX0_init_130 : decode cX0_init 130 = .ok (.bipush 8, 2) := dk_16 8 (dk_at dksX0_init_5 13 rfl rfl)
theorem dX0_init_132 : decode cX0_init 132 = .ok (.newarray .int, 2) := dk_188_10 (dk_at dksX0_init_5 15 rfl rfl)
theorem dX0_init_134 : decode cX0_init 134 = .ok (.putfield 66, 3) := dk_181 0 66 (dk_at dksX0_init_5 17 rfl rfl)
theorem dX0_init_137 : decode cX0_init 137 = .ok (.return_, 1) := dk_177 (dk_at dksX0_init_5 20 rfl rfl)
abbrev cX0_set : ByteArray := prog_1_method_6_code
def yX0_set : MethodName := ⟨RX0, "set", "(II)I"⟩
def dkwX0_set_7 : List UInt8 := [182, 0, 99, 29, 172]
abbrev dktX0_set_7 : List UInt8 := dkwX0_set_7 ++ []
def dkwX0_set_6 : List UInt8 := [181, 0, 80, 167, 0, 11, 42, 180, 0, 18, 28, 181, 0, 83, 27, 5, 162, 0, 10, 42, 180, 0, 18]
abbrev dktX0_set_6 : List UInt8 := dkwX0_set_6 ++ dktX0_set_7
def dkwX0_set_5 : List UInt8 := [181, 0, 77, 167, 0, 33, 42, 180, 0, 18, 28, 181, 0, 77, 167, 0, 22, 42, 180, 0, 18, 28]
abbrev dktX0_set_5 : List UInt8 := dkwX0_set_5 ++ dktX0_set_6
def dkwX0_set_4 : List UInt8 := [42, 180, 0, 18, 28, 181, 0, 73, 42, 180, 0, 18, 28, 42, 180, 0, 18, 180, 0, 77, 184, 0, 93]
abbrev dktX0_set_4 : List UInt8 := dkwX0_set_4 ++ dktX0_set_5
def dkwX0_set_3 : List UInt8 := [170, 0, 0, 0, 76, 0, 0, 0, 0, 0, 0, 0, 2, 0, 0, 0, 25, 0, 0, 0, 54, 0, 0, 0, 65]
abbrev dktX0_set_3 : List UInt8 := dkwX0_set_3 ++ dktX0_set_4
def dkwX0_set_2 : List UInt8 := [154, 0, 6, 16, 254, 172, 42, 27, 182, 0, 89, 62, 27]
abbrev dktX0_set_2 : List UInt8 := dkwX0_set_2 ++ dktX0_set_3
def dkwX0_set_1 : List UInt8 := [42, 180, 0, 18, 180, 0, 73, 167, 0, 12, 178, 0, 86, 5, 27, 104, 4, 96, 46, 184, 0, 5]
abbrev dktX0_set_1 : List UInt8 := dkwX0_set_1 ++ dktX0_set_2
def dkwX0_set_0 : List UInt8 := [27, 3, 6, 184, 0, 5, 154, 0, 5, 2, 172, 28, 178, 0, 86, 5, 27, 104, 46, 27, 4, 160, 0, 13]
abbrev dktX0_set_0 : List UInt8 := dkwX0_set_0 ++ dktX0_set_1
theorem dksX0_set_0 : cX0_set.data.toList.drop 0 = dktX0_set_0 := by decide +kernel
theorem dksX0_set_1 : cX0_set.data.toList.drop 24 = dktX0_set_1 := dk_seg dksX0_set_0 24 rfl rfl
theorem dksX0_set_2 : cX0_set.data.toList.drop 46 = dktX0_set_2 := dk_seg dksX0_set_1 22 rfl rfl
theorem dksX0_set_3 : cX0_set.data.toList.drop 59 = dktX0_set_3 := dk_seg dksX0_set_2 13 rfl rfl
theorem dksX0_set_4 : cX0_set.data.toList.drop 84 = dktX0_set_4 := dk_seg dksX0_set_3 25 rfl rfl
theorem dksX0_set_5 : cX0_set.data.toList.drop 107 = dktX0_set_5 := dk_seg dksX0_set_4 23 rfl rfl
theorem dksX0_set_6 : cX0_set.data.toList.drop 129 = dktX0_set_6 := dk_seg dksX0_set_5 22 rfl rfl
theorem dksX0_set_7 : cX0_set.data.toList.drop 152 = dktX0_set_7 := dk_seg dksX0_set_6 23 rfl rfl
theorem dX0_set_0 : decode cX0_set 0 = .ok (.iload_n 1, 1) := dk_27 (dk_at dksX0_set_0 0 rfl rfl)
theorem dX0_set_1 : decode cX0_set 1 = .ok (.iconst 0, 1) := dk_3 (dk_at dksX0_set_0 1 rfl rfl)
theorem dX0_set_2 : decode cX0_set 2 = .ok (.iconst 3, 1) := dk_6 (dk_at dksX0_set_0 2 rfl rfl)
theorem dX0_set_3 : decode cX0_set 3 = .ok (.invokestatic 5, 3) := dk_184 0 5 (dk_at dksX0_set_0 3 rfl rfl)
theorem dX0_set_6 : decode cX0_set 6 = .ok (.ifCond .ne 5, 3) := dk_154 0 5 (dk_at dksX0_set_0 6 rfl rfl)
theorem dX0_set_9 : decode cX0_set 9 = .ok (.iconst (-1), 1) := dk_2 (dk_at dksX0_set_0 9 rfl rfl)
theorem dX0_set_10 : decode cX0_set 10 = .ok (.ireturn, 1) := dk_172 (dk_at dksX0_set_0 10 rfl rfl)
theorem dX0_set_11 : decode cX0_set 11 = .ok (.iload_n 2, 1) := dk_28 (dk_at dksX0_set_0 11 rfl rfl)
theorem dX0_set_12 : decode cX0_set 12 = .ok (.getstatic 86, 3) := dk_178 0 86 (dk_at dksX0_set_0 12 rfl rfl)
theorem dX0_set_15 : decode cX0_set 15 = .ok (.iconst 2, 1) := dk_5 (dk_at dksX0_set_0 15 rfl rfl)
theorem dX0_set_16 : decode cX0_set 16 = .ok (.iload_n 1, 1) := dk_27 (dk_at dksX0_set_0 16 rfl rfl)
theorem dX0_set_17 : decode cX0_set 17 = .ok (.imul, 1) := dk_104 (dk_at dksX0_set_0 17 rfl rfl)
theorem dX0_set_18 : decode cX0_set 18 = .ok (.iaload, 1) := dk_46 (dk_at dksX0_set_0 18 rfl rfl)
theorem dX0_set_19 : decode cX0_set 19 = .ok (.iload_n 1, 1) := dk_27 (dk_at dksX0_set_0 19 rfl rfl)
theorem dX0_set_20 : decode cX0_set 20 = .ok (.iconst 1, 1) := dk_4 (dk_at dksX0_set_0 20 rfl rfl)
theorem dX0_set_21 : decode cX0_set 21 = .ok (.if_icmp .ne 13, 3) := dk_160 0 13 (dk_at dksX0_set_0 21 rfl rfl)
theorem dX0_set_24 : decode cX0_set 24 = .ok (.aload_n 0, 1) := dk_42 (dk_at dksX0_set_1 0 rfl rfl)
theorem dX0_set_25 : decode cX0_set 25 = .ok (.getfield 18, 3) := dk_180 0 18 (dk_at dksX0_set_1 1 rfl rfl)
theorem dX0_set_28 : decode cX0_set 28 = .ok (.getfield 73, 3) := dk_180 0 73 (dk_at dksX0_set_1 4 rfl rfl)
theorem dX0_set_31 : decode cX0_set 31 = .ok (.goto 12, 3) := dk_167 0 12 (dk_at dksX0_set_1 7 rfl rfl)
theorem dX0_set_34 : decode cX0_set 34 = .ok (.getstatic 86, 3) := dk_178 0 86 (dk_at dksX0_set_1 10 rfl rfl)
theorem dX0_set_37 : decode cX0_set 37 = .ok (.iconst 2, 1) := dk_5 (dk_at dksX0_set_1 13 rfl rfl)
theorem dX0_set_38 : decode cX0_set 38 = .ok (.iload_n 1, 1) := dk_27 (dk_at dksX0_set_1 14 rfl rfl)
theorem dX0_set_39 : decode cX0_set 39 = .ok (.imul, 1) := dk_104 (dk_at dksX0_set_1 15 rfl rfl)
theorem dX0_set_40 : decode cX0_set 40 = .ok (.iconst 1, 1) := dk_4 (dk_at dksX0_set_1 16 rfl rfl)
theorem dX0_set_41 : decode cX0_set 41 = .ok (.iadd, 1) := dk_96 (dk_at dksX0_set_1 17 rfl rfl)
theorem dX0_set_42 : decode cX0_set 42 = .ok (.iaload, 1) := dk_46 (dk_at dksX0_set_1 18 rfl rfl)
theorem dX0_set_43 : decode cX0_set 43 = .ok (.invokestatic 5, 3) := dk_184 0 5 (dk_at dksX0_set_1 19 rfl rfl)
theorem dX0_set_46 : decode cX0_set 46 = .ok (.ifCond .ne 6, 3) := dk_154 0 6 (dk_at dksX0_set_2 0 rfl rfl)
theorem dX0_set_49 : decode cX0_set 49 = .ok (.bipush (-2), 2) := dk_16 254 (dk_at dksX0_set_2 3 rfl rfl)
theorem dX0_set_51 : decode cX0_set 51 = .ok (.ireturn, 1) := dk_172 (dk_at dksX0_set_2 5 rfl rfl)
theorem dX0_set_52 : decode cX0_set 52 = .ok (.aload_n 0, 1) := dk_42 (dk_at dksX0_set_2 6 rfl rfl)
theorem dX0_set_53 : decode cX0_set 53 = .ok (.iload_n 1, 1) := dk_27 (dk_at dksX0_set_2 7 rfl rfl)
theorem dX0_set_54 : decode cX0_set 54 = .ok (.invokevirtual 89, 3) := dk_182 0 89 (dk_at dksX0_set_2 8 rfl rfl)
theorem dX0_set_57 : decode cX0_set 57 = .ok (.istore_n 3, 1) := dk_62 (dk_at dksX0_set_2 11 rfl rfl)
theorem dX0_set_58 : decode cX0_set 58 = .ok (.iload_n 1, 1) := dk_27 (dk_at dksX0_set_2 12 rfl rfl)
theorem dX0_set_59 : decode cX0_set 59 = .ok (.tableswitch 76 0 2 #[25, 54, 65], 25) := by decide +kernel
theorem dX0_set_84 : decode cX0_set 84 = .ok (.aload_n 0, 1) := dk_42 (dk_at dksX0_set_4 0 rfl rfl)
theorem dX0_set_85 : decode cX0_set 85 = .ok (.getfield 18, 3) := dk_180 0 18 (dk_at dksX0_set_4 1 rfl rfl)
theorem dX0_set_88 : decode cX0_set 88 = .ok (.iload_n 2, 1) := dk_28 (dk_at dksX0_set_4 4 rfl rfl)
theorem dX0_set_89 : decode cX0_set 89 = .ok (.putfield 73, 3) := dk_181 0 73 (dk_at dksX0_set_4 5 rfl rfl)
theorem dX0_set_92 : decode cX0_set 92 = .ok (.aload_n 0, 1) := dk_42 (dk_at dksX0_set_4 8 rfl rfl)
theorem dX0_set_93 : decode cX0_set 93 = .ok (.getfield 18, 3) := dk_180 0 18 (dk_at dksX0_set_4 9 rfl rfl)
theorem dX0_set_96 : decode cX0_set 96 = .ok (.iload_n 2, 1) := dk_28 (dk_at dksX0_set_4 12 rfl rfl)
theorem dX0_set_97 : decode cX0_set 97 = .ok (.aload_n 0, 1) := dk_42 (dk_at dksX0_set_4 13 rfl rfl)
theorem dX0_set_98 : decode cX0_set 98 = .ok (.getfield 18, 3) := dk_180 0 18 (dk_at dksX0_set_4 14 rfl rfl)
theorem dX0_set_101 : decode cX0_set 101 = .ok (.getfield 77, 3) := dk_180 0 77 (dk_at dksX0_set_4 17 rfl rfl)
theorem dX0_set_104 : decode cX0_set 104 = .ok (.invokestatic 93, 3) := dk_184 0 93 (dk_at dksX0_set_4 20 rfl rfl)
theorem dX0_set_107 : decode cX0_set 107 = .ok (.putfield 77, 3) := dk_181 0 77 (dk_at dksX0_set_5 0 rfl rfl)
theorem dX0_set_110 : decode cX0_set 110 = .ok (.goto 33, 3) := dk_167 0 33 (dk_at dksX0_set_5 3 rfl rfl)
theorem dX0_set_113 : decode cX0_set 113 = .ok (.aload_n 0, 1) := dk_42 (dk_at dksX0_set_5 6 rfl rfl)
theorem dX0_set_114 : decode cX0_set 114 = .ok (.getfield 18, 3) := dk_180 0 18 (dk_at dksX0_set_5 7 rfl rfl)
theorem dX0_set_117 : decode cX0_set 117 = .ok (.iload_n 2, 1) := dk_28 (dk_at dksX0_set_5 10 rfl rfl)
theorem dX0_set_118 : decode cX0_set 118 = .ok (.putfield 77, 3) := dk_181 0 77 (dk_at dksX0_set_5 11 rfl rfl)
theorem dX0_set_121 : decode cX0_set 121 = .ok (.goto 22, 3) := dk_167 0 22 (dk_at dksX0_set_5 14 rfl rfl)
theorem dX0_set_124 : decode cX0_set 124 = .ok (.aload_n 0, 1) := dk_42 (dk_at dksX0_set_5 17 rfl rfl)
theorem dX0_set_125 : decode cX0_set 125 = .ok (.getfield 18, 3) := dk_180 0 18 (dk_at dksX0_set_5 18 rfl rfl)
theorem dX0_set_128 : decode cX0_set 128 = .ok (.iload_n 2, 1) := dk_28 (dk_at dksX0_set_5 21 rfl rfl)
theorem dX0_set_129 : decode cX0_set 129 = .ok (.putfield 80, 3) := dk_181 0 80 (dk_at dksX0_set_6 0 rfl rfl)
theorem dX0_set_132 : decode cX0_set 132 = .ok (.goto 11, 3) := dk_167 0 11 (dk_at dksX0_set_6 3 rfl rfl)
theorem dX0_set_135 : decode cX0_set 135 = .ok (.aload_n 0, 1) := dk_42 (dk_at dksX0_set_6 6 rfl rfl)
theorem dX0_set_136 : decode cX0_set 136 = .ok (.getfield 18, 3) := dk_180 0 18 (dk_at dksX0_set_6 7 rfl rfl)
theorem dX0_set_139 : decode cX0_set 139 = .ok (.iload_n 2, 1) := dk_28 (dk_at dksX0_set_6 10 rfl rfl)
theorem dX0_set_140 : decode cX0_set 140 = .ok (.putfield 83, 3) := dk_181 0 83 (dk_at dksX0_set_6 11 rfl rfl)
theorem dX0_set_143 : decode cX0_set 143 = .ok (.iload_n 1, 1) := dk_27 (dk_at dksX0_set_6 14 rfl rfl)
theorem dX0_set_144 : decode cX0_set 144 = .ok (.iconst 2, 1) := dk_5 (dk_at dksX0_set_6 15 rfl rfl)
theorem dX0_set_145 : decode cX0_set 145 = .ok (.if_icmp .ge 10, 3) := dk_162 0 10 (dk_at dksX0_set_6 16 rfl rfl)
theorem dX0_set_148 : decode cX0_set 148 = .ok (.aload_n 0, 1) := dk_42 (dk_at dksX0_set_6 19 rfl rfl)
theorem dX0_set_149 : decode cX0_set 149 = .ok (.getfield 18, 3) := dk_180 0 18 (dk_at dksX0_set_6 20 rfl rfl)
theorem dX0_set_152 : decode cX0_set 152 = .ok (.invokevirtual 99, 3) := dk_182 0 99 (dk_at dksX0_set_7 0 rfl rfl)
theorem dX0_set_155 : decode cX0_set 155 = .ok (.iload_n 3, 1) := dk_29 (dk_at dksX0_set_7 3 rfl rfl)
theorem dX0_set_156 : decode cX0_set 156 = .ok (.ireturn, 1) := dk_172 (dk_at dksX0_set_7 4 rfl rfl)
abbrev cX0_in : ByteArray := prog_1_method_1_code
def yX0_in : MethodName := ⟨RX0, "in", "(III)Z"⟩
def dkwX0_in_0 : List UInt8 := [26, 27, 161, 0, 12, 26, 28, 163, 0, 7, 4, 167, 0, 4, 3, 172]
abbrev dktX0_in_0 : List UInt8 := dkwX0_in_0 ++ []
theorem dksX0_in_0 : cX0_in.data.toList.drop 0 = dktX0_in_0 := by decide +kernel
theorem dX0_in_0 : decode cX0_in 0 = .ok (.iload_n 0, 1) := dk_26 (dk_at dksX0_in_0 0 rfl rfl)
theorem dX0_in_1 : decode cX0_in 1 = .ok (.iload_n 1, 1) := dk_27 (dk_at dksX0_in_0 1 rfl rfl)
theorem dX0_in_2 : decode cX0_in 2 = .ok (.if_icmp .lt 12, 3) := dk_161 0 12 (dk_at dksX0_in_0 2 rfl rfl)
theorem dX0_in_5 : decode cX0_in 5 = .ok (.iload_n 0, 1) := dk_26 (dk_at dksX0_in_0 5 rfl rfl)
theorem dX0_in_6 : decode cX0_in 6 = .ok (.iload_n 2, 1) := dk_28 (dk_at dksX0_in_0 6 rfl rfl)
theorem dX0_in_7 : decode cX0_in 7 = .ok (.if_icmp .gt 7, 3) := dk_163 0 7 (dk_at dksX0_in_0 7 rfl rfl)
theorem dX0_in_10 : decode cX0_in 10 = .ok (.iconst 1, 1) := dk_4 (dk_at dksX0_in_0 10 rfl rfl)
theorem dX0_in_11 : decode cX0_in 11 = .ok (.goto 4, 3) := dk_167 0 4 (dk_at dksX0_in_0 11 rfl rfl)
theorem dX0_in_14 : decode cX0_in 14 = .ok (.iconst 0, 1) := dk_3 (dk_at dksX0_in_0 14 rfl rfl)
theorem dX0_in_15 : decode cX0_in 15 = .ok (.ireturn, 1) := dk_172 (dk_at dksX0_in_0 15 rfl rfl)
abbrev cX0_setting : ByteArray := prog_1_method_5_code
def yX0_setting : MethodName := ⟨RX0, "setting", "(I)I"⟩
def dkwX0_setting_3 : List UInt8 := [42, 180, 0, 18, 180, 0, 83, 172]
abbrev dktX0_setting_3 : List UInt8 := dkwX0_setting_3 ++ []
def dkwX0_setting_2 : List UInt8 := [42, 180, 0, 18, 180, 0, 73, 172, 42, 180, 0, 18, 180, 0, 77, 172, 42, 180, 0, 18, 180, 0, 80, 172]
abbrev dktX0_setting_2 : List UInt8 := dkwX0_setting_2 ++ dktX0_setting_3
def dkwX0_setting_1 : List UInt8 := [170, 0, 0, 0, 0, 0, 51, 0, 0, 0, 0, 0, 0, 0, 2, 0, 0, 0, 27, 0, 0, 0, 35, 0, 0, 0, 43]
abbrev dktX0_setting_1 : List UInt8 := dkwX0_setting_1 ++ dktX0_setting_2
def dkwX0_setting_0 : List UInt8 := [27]
abbrev dktX0_setting_0 : List UInt8 := dkwX0_setting_0 ++ dktX0_setting_1
theorem dksX0_setting_0 : cX0_setting.data.toList.drop 0 = dktX0_setting_0 := by decide +kernel
theorem dksX0_setting_1 : cX0_setting.data.toList.drop 1 = dktX0_setting_1 := dk_seg dksX0_setting_0 1 rfl rfl
theorem dksX0_setting_2 : cX0_setting.data.toList.drop 28 = dktX0_setting_2 := dk_seg dksX0_setting_1 27 rfl rfl
theorem dksX0_setting_3 : cX0_setting.data.toList.drop 52 = dktX0_setting_3 := dk_seg dksX0_setting_2 24 rfl rfl
theorem dX0_setting_0 : decode cX0_setting 0 = .ok (.iload_n 1, 1) := dk_27 (dk_at dksX0_setting_0 0 rfl rfl)
theorem dX0_setting_1 : decode cX0_setting 1 = .ok (.tableswitch 51 0 2 #[27, 35, 43], 27) := by decide +kernel
theorem dX0_setting_28 : decode cX0_setting 28 = .ok (.aload_n 0, 1) := dk_42 (dk_at dksX0_setting_2 0 rfl rfl)
theorem dX0_setting_29 : decode cX0_setting 29 = .ok (.getfield 18, 3) := dk_180 0 18 (dk_at dksX0_setting_2 1 rfl rfl)
theorem dX0_setting_32 : decode cX0_setting 32 = .ok (.getfield 73, 3) := dk_180 0 73 (dk_at dksX0_setting_2 4 rfl rfl)
theorem dX0_setting_35 : decode cX0_setting 35 = .ok (.ireturn, 1) := dk_172 (dk_at dksX0_setting_2 7 rfl rfl)
theorem dX0_setting_36 : decode cX0_setting 36 = .ok (.aload_n 0, 1) := dk_42 (dk_at dksX0_setting_2 8 rfl rfl)
theorem dX0_setting_37 : decode cX0_setting 37 = .ok (.getfield 18, 3) := dk_180 0 18 (dk_at dksX0_setting_2 9 rfl rfl)
theorem dX0_setting_40 : decode cX0_setting 40 = .ok (.getfield 77, 3) := dk_180 0 77 (dk_at dksX0_setting_2 12 rfl rfl)
theorem dX0_setting_43 : decode cX0_setting 43 = .ok (.ireturn, 1) := dk_172 (dk_at dksX0_setting_2 15 rfl rfl)
theorem dX0_setting_44 : decode cX0_setting 44 = .ok (.aload_n 0, 1) := dk_42 (dk_at dksX0_setting_2 16 rfl rfl)
theorem dX0_setting_45 : decode cX0_setting 45 = .ok (.getfield 18, 3) := dk_180 0 18 (dk_at dksX0_setting_2 17 rfl rfl)
theorem dX0_setting_48 : decode cX0_setting 48 = .ok (.getfield 80, 3) := dk_180 0 80 (dk_at dksX0_setting_2 20 rfl rfl)
theorem dX0_setting_51 : decode cX0_setting 51 = .ok (.ireturn, 1) := dk_172 (dk_at dksX0_setting_2 23 rfl rfl)
theorem dX0_setting_52 : decode cX0_setting 52 = .ok (.aload_n 0, 1) := dk_42 (dk_at dksX0_setting_3 0 rfl rfl)
theorem dX0_setting_53 : decode cX0_setting 53 = .ok (.getfield 18, 3) := dk_180 0 18 (dk_at dksX0_setting_3 1 rfl rfl)
theorem dX0_setting_56 : decode cX0_setting 56 = .ok (.getfield 83, 3) := dk_180 0 83 (dk_at dksX0_setting_3 4 rfl rfl)
theorem dX0_setting_59 : decode cX0_setting 59 = .ok (.ireturn, 1) := dk_172 (dk_at dksX0_setting_3 7 rfl rfl)
abbrev cX0_told : ByteArray := prog_1_method_7_code
def yX0_told : MethodName := ⟨RX0, "told", "(I)I"⟩
def dkwX0_told_4 : List UInt8 := [180, 0, 120, 172, 42, 180, 0, 18, 180, 0, 123, 172, 42, 180, 0, 18, 180, 0, 126, 172, 2, 172]
abbrev dktX0_told_4 : List UInt8 := dkwX0_told_4 ++ []
def dkwX0_told_3 : List UInt8 := [180, 0, 111, 172, 42, 180, 0, 18, 180, 0, 114, 172, 42, 180, 0, 18, 180, 0, 117, 172, 42, 180, 0, 18]
abbrev dktX0_told_3 : List UInt8 := dkwX0_told_3 ++ dktX0_told_4
def dkwX0_told_2 : List UInt8 := [42, 27, 182, 0, 89, 172, 42, 180, 0, 18, 27, 6, 100, 182, 0, 102, 180, 0, 106, 172, 42, 180, 0, 18]
abbrev dktX0_told_2 : List UInt8 := dkwX0_told_2 ++ dktX0_told_3
def dkwX0_told_1 : List UInt8 := [170, 0, 0, 0, 0, 0, 139, 0, 0, 0, 0, 0, 0, 0, 13, 0, 0, 0, 71, 0, 0, 0, 71, 0, 0, 0, 71, 0, 0, 0, 71, 0, 0, 0, 77, 0, 0, 0, 77, 0, 0, 0, 77, 0, 0, 0, 77, 0, 0, 0, 91, 0, 0, 0, 99, 0, 0, 0, 107, 0, 0, 0, 115, 0, 0, 0, 123, 0, 0, 0, 131]
abbrev dktX0_told_1 : List UInt8 := dkwX0_told_1 ++ dktX0_told_2
def dkwX0_told_0 : List UInt8 := [27]
abbrev dktX0_told_0 : List UInt8 := dkwX0_told_0 ++ dktX0_told_1
theorem dksX0_told_0 : cX0_told.data.toList.drop 0 = dktX0_told_0 := by decide +kernel
theorem dksX0_told_1 : cX0_told.data.toList.drop 1 = dktX0_told_1 := dk_seg dksX0_told_0 1 rfl rfl
theorem dksX0_told_2 : cX0_told.data.toList.drop 72 = dktX0_told_2 := dk_seg dksX0_told_1 71 rfl rfl
theorem dksX0_told_3 : cX0_told.data.toList.drop 96 = dktX0_told_3 := dk_seg dksX0_told_2 24 rfl rfl
theorem dksX0_told_4 : cX0_told.data.toList.drop 120 = dktX0_told_4 := dk_seg dksX0_told_3 24 rfl rfl
theorem dX0_told_0 : decode cX0_told 0 = .ok (.iload_n 1, 1) := dk_27 (dk_at dksX0_told_0 0 rfl rfl)
theorem dX0_told_1 : decode cX0_told 1 = .ok (.tableswitch 139 0 13 #[71, 71, 71, 71, 77, 77, 77, 77, 91, 99, 107, 115, 123, 131], 71) := by decide +kernel
theorem dX0_told_72 : decode cX0_told 72 = .ok (.aload_n 0, 1) := dk_42 (dk_at dksX0_told_2 0 rfl rfl)
theorem dX0_told_73 : decode cX0_told 73 = .ok (.iload_n 1, 1) := dk_27 (dk_at dksX0_told_2 1 rfl rfl)
theorem dX0_told_74 : decode cX0_told 74 = .ok (.invokevirtual 89, 3) := dk_182 0 89 (dk_at dksX0_told_2 2 rfl rfl)
theorem dX0_told_77 : decode cX0_told 77 = .ok (.ireturn, 1) := dk_172 (dk_at dksX0_told_2 5 rfl rfl)
theorem dX0_told_78 : decode cX0_told 78 = .ok (.aload_n 0, 1) := dk_42 (dk_at dksX0_told_2 6 rfl rfl)
theorem dX0_told_79 : decode cX0_told 79 = .ok (.getfield 18, 3) := dk_180 0 18 (dk_at dksX0_told_2 7 rfl rfl)
theorem dX0_told_82 : decode cX0_told 82 = .ok (.iload_n 1, 1) := dk_27 (dk_at dksX0_told_2 10 rfl rfl)
theorem dX0_told_83 : decode cX0_told 83 = .ok (.iconst 3, 1) := dk_6 (dk_at dksX0_told_2 11 rfl rfl)
theorem dX0_told_84 : decode cX0_told 84 = .ok (.isub, 1) := dk_100 (dk_at dksX0_told_2 12 rfl rfl)
theorem dX0_told_85 : decode cX0_told 85 = .ok (.invokevirtual 102, 3) := dk_182 0 102 (dk_at dksX0_told_2 13 rfl rfl)
theorem dX0_told_88 : decode cX0_told 88 = .ok (.getfield 106, 3) := dk_180 0 106 (dk_at dksX0_told_2 16 rfl rfl)
theorem dX0_told_91 : decode cX0_told 91 = .ok (.ireturn, 1) := dk_172 (dk_at dksX0_told_2 19 rfl rfl)
theorem dX0_told_92 : decode cX0_told 92 = .ok (.aload_n 0, 1) := dk_42 (dk_at dksX0_told_2 20 rfl rfl)
theorem dX0_told_93 : decode cX0_told 93 = .ok (.getfield 18, 3) := dk_180 0 18 (dk_at dksX0_told_2 21 rfl rfl)
theorem dX0_told_96 : decode cX0_told 96 = .ok (.getfield 111, 3) := dk_180 0 111 (dk_at dksX0_told_3 0 rfl rfl)
theorem dX0_told_99 : decode cX0_told 99 = .ok (.ireturn, 1) := dk_172 (dk_at dksX0_told_3 3 rfl rfl)
theorem dX0_told_100 : decode cX0_told 100 = .ok (.aload_n 0, 1) := dk_42 (dk_at dksX0_told_3 4 rfl rfl)
theorem dX0_told_101 : decode cX0_told 101 = .ok (.getfield 18, 3) := dk_180 0 18 (dk_at dksX0_told_3 5 rfl rfl)
theorem dX0_told_104 : decode cX0_told 104 = .ok (.getfield 114, 3) := dk_180 0 114 (dk_at dksX0_told_3 8 rfl rfl)
theorem dX0_told_107 : decode cX0_told 107 = .ok (.ireturn, 1) := dk_172 (dk_at dksX0_told_3 11 rfl rfl)
theorem dX0_told_108 : decode cX0_told 108 = .ok (.aload_n 0, 1) := dk_42 (dk_at dksX0_told_3 12 rfl rfl)
theorem dX0_told_109 : decode cX0_told 109 = .ok (.getfield 18, 3) := dk_180 0 18 (dk_at dksX0_told_3 13 rfl rfl)
theorem dX0_told_112 : decode cX0_told 112 = .ok (.getfield 117, 3) := dk_180 0 117 (dk_at dksX0_told_3 16 rfl rfl)
theorem dX0_told_115 : decode cX0_told 115 = .ok (.ireturn, 1) := dk_172 (dk_at dksX0_told_3 19 rfl rfl)
theorem dX0_told_116 : decode cX0_told 116 = .ok (.aload_n 0, 1) := dk_42 (dk_at dksX0_told_3 20 rfl rfl)
theorem dX0_told_117 : decode cX0_told 117 = .ok (.getfield 18, 3) := dk_180 0 18 (dk_at dksX0_told_3 21 rfl rfl)
theorem dX0_told_120 : decode cX0_told 120 = .ok (.getfield 120, 3) := dk_180 0 120 (dk_at dksX0_told_4 0 rfl rfl)
theorem dX0_told_123 : decode cX0_told 123 = .ok (.ireturn, 1) := dk_172 (dk_at dksX0_told_4 3 rfl rfl)
theorem dX0_told_124 : decode cX0_told 124 = .ok (.aload_n 0, 1) := dk_42 (dk_at dksX0_told_4 4 rfl rfl)
theorem dX0_told_125 : decode cX0_told 125 = .ok (.getfield 18, 3) := dk_180 0 18 (dk_at dksX0_told_4 5 rfl rfl)
theorem dX0_told_128 : decode cX0_told 128 = .ok (.getfield 123, 3) := dk_180 0 123 (dk_at dksX0_told_4 8 rfl rfl)
theorem dX0_told_131 : decode cX0_told 131 = .ok (.ireturn, 1) := dk_172 (dk_at dksX0_told_4 11 rfl rfl)
theorem dX0_told_132 : decode cX0_told 132 = .ok (.aload_n 0, 1) := dk_42 (dk_at dksX0_told_4 12 rfl rfl)
theorem dX0_told_133 : decode cX0_told 133 = .ok (.getfield 18, 3) := dk_180 0 18 (dk_at dksX0_told_4 13 rfl rfl)
theorem dX0_told_136 : decode cX0_told 136 = .ok (.getfield 126, 3) := dk_180 0 126 (dk_at dksX0_told_4 16 rfl rfl)
theorem dX0_told_139 : decode cX0_told 139 = .ok (.ireturn, 1) := dk_172 (dk_at dksX0_told_4 19 rfl rfl)
theorem dX0_told_140 : decode cX0_told 140 = .ok (.iconst (-1), 1) := dk_2 (dk_at dksX0_told_4 20 rfl rfl)
theorem dX0_told_141 : decode cX0_told 141 = .ok (.ireturn, 1) := dk_172 (dk_at dksX0_told_4 21 rfl rfl)
abbrev cX0_put : ByteArray := prog_1_method_8_code
def yX0_put : MethodName := ⟨RX0, "put", "(IIIII)I"⟩
def dkwX0_put_3 : List UInt8 := [182, 0, 136, 172]
abbrev dktX0_put_3 : List UInt8 := dkwX0_put_3 ++ []
def dkwX0_put_2 : List UInt8 := [16, 252, 167, 0, 24, 42, 180, 0, 18, 187, 0, 43, 89, 27, 28, 183, 0, 133, 29, 21, 4, 21, 5]
abbrev dktX0_put_2 : List UInt8 := dkwX0_put_2 ++ dktX0_put_3
def dkwX0_put_1 : List UInt8 := [16, 99, 184, 0, 5, 154, 0, 6, 16, 254, 172, 21, 4, 42, 180, 0, 18, 180, 0, 73, 164, 0, 8]
abbrev dktX0_put_1 : List UInt8 := dkwX0_put_1 ++ dktX0_put_2
def dkwX0_put_0 : List UInt8 := [27, 28, 184, 0, 129, 154, 0, 5, 2, 172, 21, 4, 4, 16, 9, 184, 0, 5, 153, 0, 14, 21, 5, 3]
abbrev dktX0_put_0 : List UInt8 := dkwX0_put_0 ++ dktX0_put_1
theorem dksX0_put_0 : cX0_put.data.toList.drop 0 = dktX0_put_0 := by decide +kernel
theorem dksX0_put_1 : cX0_put.data.toList.drop 24 = dktX0_put_1 := dk_seg dksX0_put_0 24 rfl rfl
theorem dksX0_put_2 : cX0_put.data.toList.drop 47 = dktX0_put_2 := dk_seg dksX0_put_1 23 rfl rfl
theorem dksX0_put_3 : cX0_put.data.toList.drop 70 = dktX0_put_3 := dk_seg dksX0_put_2 23 rfl rfl
theorem dX0_put_0 : decode cX0_put 0 = .ok (.iload_n 1, 1) := dk_27 (dk_at dksX0_put_0 0 rfl rfl)
theorem dX0_put_1 : decode cX0_put 1 = .ok (.iload_n 2, 1) := dk_28 (dk_at dksX0_put_0 1 rfl rfl)
theorem dX0_put_2 : decode cX0_put 2 = .ok (.invokestatic 129, 3) := dk_184 0 129 (dk_at dksX0_put_0 2 rfl rfl)
theorem dX0_put_5 : decode cX0_put 5 = .ok (.ifCond .ne 5, 3) := dk_154 0 5 (dk_at dksX0_put_0 5 rfl rfl)
theorem dX0_put_8 : decode cX0_put 8 = .ok (.iconst (-1), 1) := dk_2 (dk_at dksX0_put_0 8 rfl rfl)
theorem dX0_put_9 : decode cX0_put 9 = .ok (.ireturn, 1) := dk_172 (dk_at dksX0_put_0 9 rfl rfl)
theorem dX0_put_10 : decode cX0_put 10 = .ok (.iload 4, 2) := dk_21 4 (dk_at dksX0_put_0 10 rfl rfl)
theorem dX0_put_12 : decode cX0_put 12 = .ok (.iconst 1, 1) := dk_4 (dk_at dksX0_put_0 12 rfl rfl)
theorem dX0_put_13 : decode cX0_put 13 = .ok (.bipush 9, 2) := dk_16 9 (dk_at dksX0_put_0 13 rfl rfl)
theorem dX0_put_15 : decode cX0_put 15 = .ok (.invokestatic 5, 3) := dk_184 0 5 (dk_at dksX0_put_0 15 rfl rfl)
theorem dX0_put_18 : decode cX0_put 18 = .ok (.ifCond .eq 14, 3) := dk_153 0 14 (dk_at dksX0_put_0 18 rfl rfl)
theorem dX0_put_21 : decode cX0_put 21 = .ok (.iload 5, 2) := dk_21 5 (dk_at dksX0_put_0 21 rfl rfl)
theorem dX0_put_23 : decode cX0_put 23 = .ok (.iconst 0, 1) := dk_3 (dk_at dksX0_put_0 23 rfl rfl)
theorem dX0_put_24 : decode cX0_put 24 = .ok (.bipush 99, 2) := dk_16 99 (dk_at dksX0_put_1 0 rfl rfl)
theorem dX0_put_26 : decode cX0_put 26 = .ok (.invokestatic 5, 3) := dk_184 0 5 (dk_at dksX0_put_1 2 rfl rfl)
theorem dX0_put_29 : decode cX0_put 29 = .ok (.ifCond .ne 6, 3) := dk_154 0 6 (dk_at dksX0_put_1 5 rfl rfl)
theorem dX0_put_32 : decode cX0_put 32 = .ok (.bipush (-2), 2) := dk_16 254 (dk_at dksX0_put_1 8 rfl rfl)
theorem dX0_put_34 : decode cX0_put 34 = .ok (.ireturn, 1) := dk_172 (dk_at dksX0_put_1 10 rfl rfl)
theorem dX0_put_35 : decode cX0_put 35 = .ok (.iload 4, 2) := dk_21 4 (dk_at dksX0_put_1 11 rfl rfl)
theorem dX0_put_37 : decode cX0_put 37 = .ok (.aload_n 0, 1) := dk_42 (dk_at dksX0_put_1 13 rfl rfl)
theorem dX0_put_38 : decode cX0_put 38 = .ok (.getfield 18, 3) := dk_180 0 18 (dk_at dksX0_put_1 14 rfl rfl)
theorem dX0_put_41 : decode cX0_put 41 = .ok (.getfield 73, 3) := dk_180 0 73 (dk_at dksX0_put_1 17 rfl rfl)
theorem dX0_put_44 : decode cX0_put 44 = .ok (.if_icmp .le 8, 3) := dk_164 0 8 (dk_at dksX0_put_1 20 rfl rfl)
theorem dX0_put_47 : decode cX0_put 47 = .ok (.bipush (-4), 2) := dk_16 252 (dk_at dksX0_put_2 0 rfl rfl)
theorem dX0_put_49 : decode cX0_put 49 = .ok (.goto 24, 3) := dk_167 0 24 (dk_at dksX0_put_2 2 rfl rfl)
theorem dX0_put_52 : decode cX0_put 52 = .ok (.aload_n 0, 1) := dk_42 (dk_at dksX0_put_2 5 rfl rfl)
theorem dX0_put_53 : decode cX0_put 53 = .ok (.getfield 18, 3) := dk_180 0 18 (dk_at dksX0_put_2 6 rfl rfl)
theorem dX0_put_56 : decode cX0_put 56 = .ok (.new 43, 3) := dk_187 0 43 (dk_at dksX0_put_2 9 rfl rfl)
theorem dX0_put_59 : decode cX0_put 59 = .ok (.dup, 1) := dk_89 (dk_at dksX0_put_2 12 rfl rfl)
theorem dX0_put_60 : decode cX0_put 60 = .ok (.iload_n 1, 1) := dk_27 (dk_at dksX0_put_2 13 rfl rfl)
theorem dX0_put_61 : decode cX0_put 61 = .ok (.iload_n 2, 1) := dk_28 (dk_at dksX0_put_2 14 rfl rfl)
theorem dX0_put_62 : decode cX0_put 62 = .ok (.invokespecial 133, 3) := dk_183 0 133 (dk_at dksX0_put_2 15 rfl rfl)
theorem dX0_put_65 : decode cX0_put 65 = .ok (.iload_n 3, 1) := dk_29 (dk_at dksX0_put_2 18 rfl rfl)
theorem dX0_put_66 : decode cX0_put 66 = .ok (.iload 4, 2) := dk_21 4 (dk_at dksX0_put_2 19 rfl rfl)
theorem dX0_put_68 : decode cX0_put 68 = .ok (.iload 5, 2) := dk_21 5 (dk_at dksX0_put_2 21 rfl rfl)
theorem dX0_put_70 : decode cX0_put 70 = .ok (.invokevirtual 136, 3) := dk_182 0 136 (dk_at dksX0_put_3 0 rfl rfl)
theorem dX0_put_73 : decode cX0_put 73 = .ok (.ireturn, 1) := dk_172 (dk_at dksX0_put_3 3 rfl rfl)
abbrev cX0_isKey : ByteArray := prog_1_method_2_code
def yX0_isKey : MethodName := ⟨RX0, "isKey", "(II)Z"⟩
def dkwX0_isKey_1 : List UInt8 := [172]
abbrev dktX0_isKey_1 : List UInt8 := dkwX0_isKey_1 ++ []
def dkwX0_isKey_0 : List UInt8 := [26, 3, 6, 184, 0, 5, 153, 0, 17, 27, 3, 16, 99, 184, 0, 5, 153, 0, 7, 4, 167, 0, 4, 3]
abbrev dktX0_isKey_0 : List UInt8 := dkwX0_isKey_0 ++ dktX0_isKey_1
theorem dksX0_isKey_0 : cX0_isKey.data.toList.drop 0 = dktX0_isKey_0 := by decide +kernel
theorem dksX0_isKey_1 : cX0_isKey.data.toList.drop 24 = dktX0_isKey_1 := dk_seg dksX0_isKey_0 24 rfl rfl
theorem dX0_isKey_0 : decode cX0_isKey 0 = .ok (.iload_n 0, 1) := dk_26 (dk_at dksX0_isKey_0 0 rfl rfl)
theorem dX0_isKey_1 : decode cX0_isKey 1 = .ok (.iconst 0, 1) := dk_3 (dk_at dksX0_isKey_0 1 rfl rfl)
theorem dX0_isKey_2 : decode cX0_isKey 2 = .ok (.iconst 3, 1) := dk_6 (dk_at dksX0_isKey_0 2 rfl rfl)
theorem dX0_isKey_3 : decode cX0_isKey 3 = .ok (.invokestatic 5, 3) := dk_184 0 5 (dk_at dksX0_isKey_0 3 rfl rfl)
theorem dX0_isKey_6 : decode cX0_isKey 6 = .ok (.ifCond .eq 17, 3) := dk_153 0 17 (dk_at dksX0_isKey_0 6 rfl rfl)
theorem dX0_isKey_9 : decode cX0_isKey 9 = .ok (.iload_n 1, 1) := dk_27 (dk_at dksX0_isKey_0 9 rfl rfl)
theorem dX0_isKey_10 : decode cX0_isKey 10 = .ok (.iconst 0, 1) := dk_3 (dk_at dksX0_isKey_0 10 rfl rfl)
theorem dX0_isKey_11 : decode cX0_isKey 11 = .ok (.bipush 99, 2) := dk_16 99 (dk_at dksX0_isKey_0 11 rfl rfl)
theorem dX0_isKey_13 : decode cX0_isKey 13 = .ok (.invokestatic 5, 3) := dk_184 0 5 (dk_at dksX0_isKey_0 13 rfl rfl)
theorem dX0_isKey_16 : decode cX0_isKey 16 = .ok (.ifCond .eq 7, 3) := dk_153 0 7 (dk_at dksX0_isKey_0 16 rfl rfl)
theorem dX0_isKey_19 : decode cX0_isKey 19 = .ok (.iconst 1, 1) := dk_4 (dk_at dksX0_isKey_0 19 rfl rfl)
theorem dX0_isKey_20 : decode cX0_isKey 20 = .ok (.goto 4, 3) := dk_167 0 4 (dk_at dksX0_isKey_0 20 rfl rfl)
theorem dX0_isKey_23 : decode cX0_isKey 23 = .ok (.iconst 0, 1) := dk_3 (dk_at dksX0_isKey_0 23 rfl rfl)
theorem dX0_isKey_24 : decode cX0_isKey 24 = .ok (.ireturn, 1) := dk_172 (dk_at dksX0_isKey_1 0 rfl rfl)
abbrev cX0_get : ByteArray := prog_1_method_9_code
def yX0_get : MethodName := ⟨RX0, "get", "(II)J"⟩
def dkwX0_get_1 : List UInt8 := [183, 0, 133, 182, 0, 142, 78, 45, 199, 0, 9, 20, 0, 140, 167, 0, 8, 45, 180, 0, 146, 133, 173]
abbrev dktX0_get_1 : List UInt8 := dkwX0_get_1 ++ []
def dkwX0_get_0 : List UInt8 := [27, 28, 184, 0, 129, 154, 0, 7, 20, 0, 140, 173, 42, 180, 0, 18, 187, 0, 43, 89, 27, 28]
abbrev dktX0_get_0 : List UInt8 := dkwX0_get_0 ++ dktX0_get_1
theorem dksX0_get_0 : cX0_get.data.toList.drop 0 = dktX0_get_0 := by decide +kernel
theorem dksX0_get_1 : cX0_get.data.toList.drop 22 = dktX0_get_1 := dk_seg dksX0_get_0 22 rfl rfl
theorem dX0_get_0 : decode cX0_get 0 = .ok (.iload_n 1, 1) := dk_27 (dk_at dksX0_get_0 0 rfl rfl)
theorem dX0_get_1 : decode cX0_get 1 = .ok (.iload_n 2, 1) := dk_28 (dk_at dksX0_get_0 1 rfl rfl)
theorem dX0_get_2 : decode cX0_get 2 = .ok (.invokestatic 129, 3) := dk_184 0 129 (dk_at dksX0_get_0 2 rfl rfl)
theorem dX0_get_5 : decode cX0_get 5 = .ok (.ifCond .ne 7, 3) := dk_154 0 7 (dk_at dksX0_get_0 5 rfl rfl)
theorem dX0_get_8 : decode cX0_get 8 = .ok (.ldc2_w 140, 3) := dk_20 0 140 (dk_at dksX0_get_0 8 rfl rfl)
theorem dX0_get_11 : decode cX0_get 11 = .ok (.lreturn, 1) := dk_173 (dk_at dksX0_get_0 11 rfl rfl)
theorem dX0_get_12 : decode cX0_get 12 = .ok (.aload_n 0, 1) := dk_42 (dk_at dksX0_get_0 12 rfl rfl)
theorem dX0_get_13 : decode cX0_get 13 = .ok (.getfield 18, 3) := dk_180 0 18 (dk_at dksX0_get_0 13 rfl rfl)
theorem dX0_get_16 : decode cX0_get 16 = .ok (.new 43, 3) := dk_187 0 43 (dk_at dksX0_get_0 16 rfl rfl)
theorem dX0_get_19 : decode cX0_get 19 = .ok (.dup, 1) := dk_89 (dk_at dksX0_get_0 19 rfl rfl)
theorem dX0_get_20 : decode cX0_get 20 = .ok (.iload_n 1, 1) := dk_27 (dk_at dksX0_get_0 20 rfl rfl)
theorem dX0_get_21 : decode cX0_get 21 = .ok (.iload_n 2, 1) := dk_28 (dk_at dksX0_get_0 21 rfl rfl)
theorem dX0_get_22 : decode cX0_get 22 = .ok (.invokespecial 133, 3) := dk_183 0 133 (dk_at dksX0_get_1 0 rfl rfl)
theorem dX0_get_25 : decode cX0_get 25 = .ok (.invokevirtual 142, 3) := dk_182 0 142 (dk_at dksX0_get_1 3 rfl rfl)
theorem dX0_get_28 : decode cX0_get 28 = .ok (.astore_n 3, 1) := dk_78 (dk_at dksX0_get_1 6 rfl rfl)
theorem dX0_get_29 : decode cX0_get 29 = .ok (.aload_n 3, 1) := dk_45 (dk_at dksX0_get_1 7 rfl rfl)
theorem dX0_get_30 : decode cX0_get 30 = .ok (.ifnonnull 9, 3) := dk_199 0 9 (dk_at dksX0_get_1 8 rfl rfl)
theorem dX0_get_33 : decode cX0_get 33 = .ok (.ldc2_w 140, 3) := dk_20 0 140 (dk_at dksX0_get_1 11 rfl rfl)
theorem dX0_get_36 : decode cX0_get 36 = .ok (.goto 8, 3) := dk_167 0 8 (dk_at dksX0_get_1 14 rfl rfl)
theorem dX0_get_39 : decode cX0_get 39 = .ok (.aload_n 3, 1) := dk_45 (dk_at dksX0_get_1 17 rfl rfl)
theorem dX0_get_40 : decode cX0_get 40 = .ok (.getfield 146, 3) := dk_180 0 146 (dk_at dksX0_get_1 18 rfl rfl)
theorem dX0_get_43 : decode cX0_get 43 = .ok (.i2l, 1) := dk_133 (dk_at dksX0_get_1 21 rfl rfl)
theorem dX0_get_44 : decode cX0_get 44 = .ok (.lreturn, 1) := dk_173 (dk_at dksX0_get_1 22 rfl rfl)
abbrev cX0_drop : ByteArray := prog_1_method_10_code
def yX0_drop : MethodName := ⟨RX0, "drop", "(II)I"⟩
def dkwX0_drop_1 : List UInt8 := [167, 0, 4, 2, 172]
abbrev dktX0_drop_1 : List UInt8 := dkwX0_drop_1 ++ []
def dkwX0_drop_0 : List UInt8 := [27, 28, 184, 0, 129, 153, 0, 22, 42, 180, 0, 18, 187, 0, 43, 89, 27, 28, 183, 0, 133, 182, 0, 151]
abbrev dktX0_drop_0 : List UInt8 := dkwX0_drop_0 ++ dktX0_drop_1
theorem dksX0_drop_0 : cX0_drop.data.toList.drop 0 = dktX0_drop_0 := by decide +kernel
theorem dksX0_drop_1 : cX0_drop.data.toList.drop 24 = dktX0_drop_1 := dk_seg dksX0_drop_0 24 rfl rfl
theorem dX0_drop_0 : decode cX0_drop 0 = .ok (.iload_n 1, 1) := dk_27 (dk_at dksX0_drop_0 0 rfl rfl)
theorem dX0_drop_1 : decode cX0_drop 1 = .ok (.iload_n 2, 1) := dk_28 (dk_at dksX0_drop_0 1 rfl rfl)
theorem dX0_drop_2 : decode cX0_drop 2 = .ok (.invokestatic 129, 3) := dk_184 0 129 (dk_at dksX0_drop_0 2 rfl rfl)
theorem dX0_drop_5 : decode cX0_drop 5 = .ok (.ifCond .eq 22, 3) := dk_153 0 22 (dk_at dksX0_drop_0 5 rfl rfl)
theorem dX0_drop_8 : decode cX0_drop 8 = .ok (.aload_n 0, 1) := dk_42 (dk_at dksX0_drop_0 8 rfl rfl)
theorem dX0_drop_9 : decode cX0_drop 9 = .ok (.getfield 18, 3) := dk_180 0 18 (dk_at dksX0_drop_0 9 rfl rfl)
theorem dX0_drop_12 : decode cX0_drop 12 = .ok (.new 43, 3) := dk_187 0 43 (dk_at dksX0_drop_0 12 rfl rfl)
theorem dX0_drop_15 : decode cX0_drop 15 = .ok (.dup, 1) := dk_89 (dk_at dksX0_drop_0 15 rfl rfl)
theorem dX0_drop_16 : decode cX0_drop 16 = .ok (.iload_n 1, 1) := dk_27 (dk_at dksX0_drop_0 16 rfl rfl)
theorem dX0_drop_17 : decode cX0_drop 17 = .ok (.iload_n 2, 1) := dk_28 (dk_at dksX0_drop_0 17 rfl rfl)
theorem dX0_drop_18 : decode cX0_drop 18 = .ok (.invokespecial 133, 3) := dk_183 0 133 (dk_at dksX0_drop_0 18 rfl rfl)
theorem dX0_drop_21 : decode cX0_drop 21 = .ok (.invokevirtual 151, 3) := dk_182 0 151 (dk_at dksX0_drop_0 21 rfl rfl)
theorem dX0_drop_24 : decode cX0_drop 24 = .ok (.goto 4, 3) := dk_167 0 4 (dk_at dksX0_drop_1 0 rfl rfl)
theorem dX0_drop_27 : decode cX0_drop 27 = .ok (.iconst (-1), 1) := dk_2 (dk_at dksX0_drop_1 3 rfl rfl)
theorem dX0_drop_28 : decode cX0_drop 28 = .ok (.ireturn, 1) := dk_172 (dk_at dksX0_drop_1 4 rfl rfl)
abbrev cX0_pin : ByteArray := prog_1_method_11_code
def yX0_pin : MethodName := ⟨RX0, "pin", "(IIZ)I"⟩
def dkwX0_pin_2 : List UInt8 := [167, 0, 4, 3, 54, 5, 25, 4, 29, 181, 0, 158, 21, 5, 172]
abbrev dktX0_pin_2 : List UInt8 := dkwX0_pin_2 ++ []
def dkwX0_pin_1 : List UInt8 := [182, 0, 155, 58, 4, 25, 4, 199, 0, 6, 16, 253, 172, 25, 4, 180, 0, 158, 153, 0, 7, 4]
abbrev dktX0_pin_1 : List UInt8 := dkwX0_pin_1 ++ dktX0_pin_2
def dkwX0_pin_0 : List UInt8 := [27, 28, 184, 0, 129, 154, 0, 5, 2, 172, 42, 180, 0, 18, 187, 0, 43, 89, 27, 28, 183, 0, 133]
abbrev dktX0_pin_0 : List UInt8 := dkwX0_pin_0 ++ dktX0_pin_1
theorem dksX0_pin_0 : cX0_pin.data.toList.drop 0 = dktX0_pin_0 := by decide +kernel
theorem dksX0_pin_1 : cX0_pin.data.toList.drop 23 = dktX0_pin_1 := dk_seg dksX0_pin_0 23 rfl rfl
theorem dksX0_pin_2 : cX0_pin.data.toList.drop 45 = dktX0_pin_2 := dk_seg dksX0_pin_1 22 rfl rfl
theorem dX0_pin_0 : decode cX0_pin 0 = .ok (.iload_n 1, 1) := dk_27 (dk_at dksX0_pin_0 0 rfl rfl)
theorem dX0_pin_1 : decode cX0_pin 1 = .ok (.iload_n 2, 1) := dk_28 (dk_at dksX0_pin_0 1 rfl rfl)
theorem dX0_pin_2 : decode cX0_pin 2 = .ok (.invokestatic 129, 3) := dk_184 0 129 (dk_at dksX0_pin_0 2 rfl rfl)
theorem dX0_pin_5 : decode cX0_pin 5 = .ok (.ifCond .ne 5, 3) := dk_154 0 5 (dk_at dksX0_pin_0 5 rfl rfl)
theorem dX0_pin_8 : decode cX0_pin 8 = .ok (.iconst (-1), 1) := dk_2 (dk_at dksX0_pin_0 8 rfl rfl)
theorem dX0_pin_9 : decode cX0_pin 9 = .ok (.ireturn, 1) := dk_172 (dk_at dksX0_pin_0 9 rfl rfl)
theorem dX0_pin_10 : decode cX0_pin 10 = .ok (.aload_n 0, 1) := dk_42 (dk_at dksX0_pin_0 10 rfl rfl)
theorem dX0_pin_11 : decode cX0_pin 11 = .ok (.getfield 18, 3) := dk_180 0 18 (dk_at dksX0_pin_0 11 rfl rfl)
theorem dX0_pin_14 : decode cX0_pin 14 = .ok (.new 43, 3) := dk_187 0 43 (dk_at dksX0_pin_0 14 rfl rfl)
theorem dX0_pin_17 : decode cX0_pin 17 = .ok (.dup, 1) := dk_89 (dk_at dksX0_pin_0 17 rfl rfl)
theorem dX0_pin_18 : decode cX0_pin 18 = .ok (.iload_n 1, 1) := dk_27 (dk_at dksX0_pin_0 18 rfl rfl)
theorem dX0_pin_19 : decode cX0_pin 19 = .ok (.iload_n 2, 1) := dk_28 (dk_at dksX0_pin_0 19 rfl rfl)
theorem dX0_pin_20 : decode cX0_pin 20 = .ok (.invokespecial 133, 3) := dk_183 0 133 (dk_at dksX0_pin_0 20 rfl rfl)
theorem dX0_pin_23 : decode cX0_pin 23 = .ok (.invokevirtual 155, 3) := dk_182 0 155 (dk_at dksX0_pin_1 0 rfl rfl)
theorem dX0_pin_26 : decode cX0_pin 26 = .ok (.astore 4, 2) := dk_58 4 (dk_at dksX0_pin_1 3 rfl rfl)
theorem dX0_pin_28 : decode cX0_pin 28 = .ok (.aload 4, 2) := dk_25 4 (dk_at dksX0_pin_1 5 rfl rfl)
theorem dX0_pin_30 : decode cX0_pin 30 = .ok (.ifnonnull 6, 3) := dk_199 0 6 (dk_at dksX0_pin_1 7 rfl rfl)
theorem dX0_pin_33 : decode cX0_pin 33 = .ok (.bipush (-3), 2) := dk_16 253 (dk_at dksX0_pin_1 10 rfl rfl)
theorem dX0_pin_35 : decode cX0_pin 35 = .ok (.ireturn, 1) := dk_172 (dk_at dksX0_pin_1 12 rfl rfl)
theorem dX0_pin_36 : decode cX0_pin 36 = .ok (.aload 4, 2) := dk_25 4 (dk_at dksX0_pin_1 13 rfl rfl)
theorem dX0_pin_38 : decode cX0_pin 38 = .ok (.getfield 158, 3) := dk_180 0 158 (dk_at dksX0_pin_1 15 rfl rfl)
theorem dX0_pin_41 : decode cX0_pin 41 = .ok (.ifCond .eq 7, 3) := dk_153 0 7 (dk_at dksX0_pin_1 18 rfl rfl)
theorem dX0_pin_44 : decode cX0_pin 44 = .ok (.iconst 1, 1) := dk_4 (dk_at dksX0_pin_1 21 rfl rfl)
theorem dX0_pin_45 : decode cX0_pin 45 = .ok (.goto 4, 3) := dk_167 0 4 (dk_at dksX0_pin_2 0 rfl rfl)
theorem dX0_pin_48 : decode cX0_pin 48 = .ok (.iconst 0, 1) := dk_3 (dk_at dksX0_pin_2 3 rfl rfl)
theorem dX0_pin_49 : decode cX0_pin 49 = .ok (.istore 5, 2) := dk_54 5 (dk_at dksX0_pin_2 4 rfl rfl)
theorem dX0_pin_51 : decode cX0_pin 51 = .ok (.aload 4, 2) := dk_25 4 (dk_at dksX0_pin_2 6 rfl rfl)
theorem dX0_pin_53 : decode cX0_pin 53 = .ok (.iload_n 3, 1) := dk_29 (dk_at dksX0_pin_2 8 rfl rfl)
theorem dX0_pin_54 : decode cX0_pin 54 = .ok (.putfield 158, 3) := dk_181 0 158 (dk_at dksX0_pin_2 9 rfl rfl)
theorem dX0_pin_57 : decode cX0_pin 57 = .ok (.iload 5, 2) := dk_21 5 (dk_at dksX0_pin_2 12 rfl rfl)
theorem dX0_pin_59 : decode cX0_pin 59 = .ok (.ireturn, 1) := dk_172 (dk_at dksX0_pin_2 14 rfl rfl)
abbrev cX0_of : ByteArray := prog_1_method_13_code
def yX0_of : MethodName := ⟨RX0, "of", "(III)I"⟩
def dkwX0_of_6 : List UInt8 := [182, 0, 102, 25, 4, 182, 0, 189, 172, 2, 172]
abbrev dktX0_of_6 : List UInt8 := dkwX0_of_6 ++ []
def dkwX0_of_5 : List UInt8 := [182, 0, 155, 29, 182, 0, 185, 172, 21, 5, 154, 0, 8, 16, 251, 167, 0, 17, 42, 180, 0, 18, 21, 5]
abbrev dktX0_of_5 : List UInt8 := dkwX0_of_5 ++ dktX0_of_6
def dkwX0_of_4 : List UInt8 := [180, 0, 175, 25, 4, 182, 0, 179, 192, 0, 147, 180, 0, 162, 172, 42, 42, 180, 0, 18, 25, 4]
abbrev dktX0_of_4 : List UInt8 := dkwX0_of_4 ++ dktX0_of_5
def dkwX0_of_3 : List UInt8 := [21, 5, 172, 21, 5, 154, 0, 8, 16, 251, 167, 0, 26, 42, 180, 0, 18, 21, 5, 182, 0, 102]
abbrev dktX0_of_3 : List UInt8 := dkwX0_of_3 ++ dktX0_of_4
def dkwX0_of_2 : List UInt8 := [170, 0, 0, 0, 0, 0, 120, 0, 0, 0, 0, 0, 0, 0, 6, 0, 0, 0, 43, 0, 0, 0, 46, 0, 0, 0, 80, 0, 0, 0, 80, 0, 0, 0, 80, 0, 0, 0, 80, 0, 0, 0, 95]
abbrev dktX0_of_2 : List UInt8 := dkwX0_of_2 ++ dktX0_of_3
def dkwX0_of_1 : List UInt8 := [180, 0, 18, 25, 4, 182, 0, 172, 54, 5, 29]
abbrev dktX0_of_1 : List UInt8 := dkwX0_of_1 ++ dktX0_of_2
def dkwX0_of_0 : List UInt8 := [27, 28, 184, 0, 129, 154, 0, 5, 2, 172, 187, 0, 43, 89, 27, 28, 183, 0, 133, 58, 4, 42]
abbrev dktX0_of_0 : List UInt8 := dkwX0_of_0 ++ dktX0_of_1
theorem dksX0_of_0 : cX0_of.data.toList.drop 0 = dktX0_of_0 := by decide +kernel
theorem dksX0_of_1 : cX0_of.data.toList.drop 22 = dktX0_of_1 := dk_seg dksX0_of_0 22 rfl rfl
theorem dksX0_of_2 : cX0_of.data.toList.drop 33 = dktX0_of_2 := dk_seg dksX0_of_1 11 rfl rfl
theorem dksX0_of_3 : cX0_of.data.toList.drop 76 = dktX0_of_3 := dk_seg dksX0_of_2 43 rfl rfl
theorem dksX0_of_4 : cX0_of.data.toList.drop 98 = dktX0_of_4 := dk_seg dksX0_of_3 22 rfl rfl
theorem dksX0_of_5 : cX0_of.data.toList.drop 120 = dktX0_of_5 := dk_seg dksX0_of_4 22 rfl rfl
theorem dksX0_of_6 : cX0_of.data.toList.drop 144 = dktX0_of_6 := dk_seg dksX0_of_5 24 rfl rfl
theorem dX0_of_0 : decode cX0_of 0 = .ok (.iload_n 1, 1) := dk_27 (dk_at dksX0_of_0 0 rfl rfl)
theorem dX0_of_1 : decode cX0_of 1 = .ok (.iload_n 2, 1) := dk_28 (dk_at dksX0_of_0 1 rfl rfl)
theorem dX0_of_2 : decode cX0_of 2 = .ok (.invokestatic 129, 3) := dk_184 0 129 (dk_at dksX0_of_0 2 rfl rfl)
theorem dX0_of_5 : decode cX0_of 5 = .ok (.ifCond .ne 5, 3) := dk_154 0 5 (dk_at dksX0_of_0 5 rfl rfl)
theorem dX0_of_8 : decode cX0_of 8 = .ok (.iconst (-1), 1) := dk_2 (dk_at dksX0_of_0 8 rfl rfl)
theorem dX0_of_9 : decode cX0_of 9 = .ok (.ireturn, 1) := dk_172 (dk_at dksX0_of_0 9 rfl rfl)
theorem dX0_of_10 : decode cX0_of 10 = .ok (.new 43, 3) := dk_187 0 43 (dk_at dksX0_of_0 10 rfl rfl)
theorem dX0_of_13 : decode cX0_of 13 = .ok (.dup, 1) := dk_89 (dk_at dksX0_of_0 13 rfl rfl)
theorem dX0_of_14 : decode cX0_of 14 = .ok (.iload_n 1, 1) := dk_27 (dk_at dksX0_of_0 14 rfl rfl)
theorem dX0_of_15 : decode cX0_of 15 = .ok (.iload_n 2, 1) := dk_28 (dk_at dksX0_of_0 15 rfl rfl)
theorem dX0_of_16 : decode cX0_of 16 = .ok (.invokespecial 133, 3) := dk_183 0 133 (dk_at dksX0_of_0 16 rfl rfl)
theorem dX0_of_19 : decode cX0_of 19 = .ok (.astore 4, 2) := dk_58 4 (dk_at dksX0_of_0 19 rfl rfl)
theorem dX0_of_21 : decode cX0_of 21 = .ok (.aload_n 0, 1) := dk_42 (dk_at dksX0_of_0 21 rfl rfl)
theorem dX0_of_22 : decode cX0_of 22 = .ok (.getfield 18, 3) := dk_180 0 18 (dk_at dksX0_of_1 0 rfl rfl)
theorem dX0_of_25 : decode cX0_of 25 = .ok (.aload 4, 2) := dk_25 4 (dk_at dksX0_of_1 3 rfl rfl)
theorem dX0_of_27 : decode cX0_of 27 = .ok (.invokevirtual 172, 3) := dk_182 0 172 (dk_at dksX0_of_1 5 rfl rfl)
theorem dX0_of_30 : decode cX0_of 30 = .ok (.istore 5, 2) := dk_54 5 (dk_at dksX0_of_1 8 rfl rfl)
theorem dX0_of_32 : decode cX0_of 32 = .ok (.iload_n 3, 1) := dk_29 (dk_at dksX0_of_1 10 rfl rfl)
theorem dX0_of_33 : decode cX0_of 33 = .ok (.tableswitch 120 0 6 #[43, 46, 80, 80, 80, 80, 95], 43) := by decide +kernel
theorem dX0_of_76 : decode cX0_of 76 = .ok (.iload 5, 2) := dk_21 5 (dk_at dksX0_of_3 0 rfl rfl)
theorem dX0_of_78 : decode cX0_of 78 = .ok (.ireturn, 1) := dk_172 (dk_at dksX0_of_3 2 rfl rfl)
theorem dX0_of_79 : decode cX0_of 79 = .ok (.iload 5, 2) := dk_21 5 (dk_at dksX0_of_3 3 rfl rfl)
theorem dX0_of_81 : decode cX0_of 81 = .ok (.ifCond .ne 8, 3) := dk_154 0 8 (dk_at dksX0_of_3 5 rfl rfl)
theorem dX0_of_84 : decode cX0_of 84 = .ok (.bipush (-5), 2) := dk_16 251 (dk_at dksX0_of_3 8 rfl rfl)
theorem dX0_of_86 : decode cX0_of 86 = .ok (.goto 26, 3) := dk_167 0 26 (dk_at dksX0_of_3 10 rfl rfl)
theorem dX0_of_89 : decode cX0_of 89 = .ok (.aload_n 0, 1) := dk_42 (dk_at dksX0_of_3 13 rfl rfl)
theorem dX0_of_90 : decode cX0_of 90 = .ok (.getfield 18, 3) := dk_180 0 18 (dk_at dksX0_of_3 14 rfl rfl)
theorem dX0_of_93 : decode cX0_of 93 = .ok (.iload 5, 2) := dk_21 5 (dk_at dksX0_of_3 17 rfl rfl)
theorem dX0_of_95 : decode cX0_of 95 = .ok (.invokevirtual 102, 3) := dk_182 0 102 (dk_at dksX0_of_3 19 rfl rfl)
theorem dX0_of_98 : decode cX0_of 98 = .ok (.getfield 175, 3) := dk_180 0 175 (dk_at dksX0_of_4 0 rfl rfl)
theorem dX0_of_101 : decode cX0_of 101 = .ok (.aload 4, 2) := dk_25 4 (dk_at dksX0_of_4 3 rfl rfl)
theorem dX0_of_103 : decode cX0_of 103 = .ok (.invokevirtual 179, 3) := dk_182 0 179 (dk_at dksX0_of_4 5 rfl rfl)
theorem dX0_of_106 : decode cX0_of 106 = .ok (.checkcast 147, 3) := dk_192 0 147 (dk_at dksX0_of_4 8 rfl rfl)
theorem dX0_of_109 : decode cX0_of 109 = .ok (.getfield 162, 3) := dk_180 0 162 (dk_at dksX0_of_4 11 rfl rfl)
theorem dX0_of_112 : decode cX0_of 112 = .ok (.ireturn, 1) := dk_172 (dk_at dksX0_of_4 14 rfl rfl)
theorem dX0_of_113 : decode cX0_of 113 = .ok (.aload_n 0, 1) := dk_42 (dk_at dksX0_of_4 15 rfl rfl)
theorem dX0_of_114 : decode cX0_of 114 = .ok (.aload_n 0, 1) := dk_42 (dk_at dksX0_of_4 16 rfl rfl)
theorem dX0_of_115 : decode cX0_of 115 = .ok (.getfield 18, 3) := dk_180 0 18 (dk_at dksX0_of_4 17 rfl rfl)
theorem dX0_of_118 : decode cX0_of 118 = .ok (.aload 4, 2) := dk_25 4 (dk_at dksX0_of_4 20 rfl rfl)
theorem dX0_of_120 : decode cX0_of 120 = .ok (.invokevirtual 155, 3) := dk_182 0 155 (dk_at dksX0_of_5 0 rfl rfl)
theorem dX0_of_123 : decode cX0_of 123 = .ok (.iload_n 3, 1) := dk_29 (dk_at dksX0_of_5 3 rfl rfl)
theorem dX0_of_124 : decode cX0_of 124 = .ok (.invokevirtual 185, 3) := dk_182 0 185 (dk_at dksX0_of_5 4 rfl rfl)
theorem dX0_of_127 : decode cX0_of 127 = .ok (.ireturn, 1) := dk_172 (dk_at dksX0_of_5 7 rfl rfl)
theorem dX0_of_128 : decode cX0_of 128 = .ok (.iload 5, 2) := dk_21 5 (dk_at dksX0_of_5 8 rfl rfl)
theorem dX0_of_130 : decode cX0_of 130 = .ok (.ifCond .ne 8, 3) := dk_154 0 8 (dk_at dksX0_of_5 10 rfl rfl)
theorem dX0_of_133 : decode cX0_of 133 = .ok (.bipush (-5), 2) := dk_16 251 (dk_at dksX0_of_5 13 rfl rfl)
theorem dX0_of_135 : decode cX0_of 135 = .ok (.goto 17, 3) := dk_167 0 17 (dk_at dksX0_of_5 15 rfl rfl)
theorem dX0_of_138 : decode cX0_of 138 = .ok (.aload_n 0, 1) := dk_42 (dk_at dksX0_of_5 18 rfl rfl)
theorem dX0_of_139 : decode cX0_of 139 = .ok (.getfield 18, 3) := dk_180 0 18 (dk_at dksX0_of_5 19 rfl rfl)
theorem dX0_of_142 : decode cX0_of 142 = .ok (.iload 5, 2) := dk_21 5 (dk_at dksX0_of_5 22 rfl rfl)
theorem dX0_of_144 : decode cX0_of 144 = .ok (.invokevirtual 102, 3) := dk_182 0 102 (dk_at dksX0_of_6 0 rfl rfl)
theorem dX0_of_147 : decode cX0_of 147 = .ok (.aload 4, 2) := dk_25 4 (dk_at dksX0_of_6 3 rfl rfl)
theorem dX0_of_149 : decode cX0_of 149 = .ok (.invokevirtual 189, 3) := dk_182 0 189 (dk_at dksX0_of_6 5 rfl rfl)
theorem dX0_of_152 : decode cX0_of 152 = .ok (.ireturn, 1) := dk_172 (dk_at dksX0_of_6 8 rfl rfl)
theorem dX0_of_153 : decode cX0_of 153 = .ok (.iconst (-1), 1) := dk_2 (dk_at dksX0_of_6 9 rfl rfl)
theorem dX0_of_154 : decode cX0_of 154 = .ok (.ireturn, 1) := dk_172 (dk_at dksX0_of_6 10 rfl rfl)
abbrev cX0_ofThing : ByteArray := prog_1_method_12_code
def yX0_ofThing : MethodName := ⟨RX0, "ofThing", "(LSegmentedCache$Thing;I)I"⟩
def dkwX0_ofThing_3 : List UInt8 := [153, 0, 7, 4, 167, 0, 4, 3, 172]
abbrev dktX0_ofThing_3 : List UInt8 := dkwX0_ofThing_3 ++ []
def dkwX0_ofThing_2 : List UInt8 := [43, 180, 0, 162, 172, 43, 180, 0, 163, 172, 43, 180, 0, 166, 172, 43, 180, 0, 169, 172, 43, 180, 0, 158]
abbrev dktX0_ofThing_2 : List UInt8 := dkwX0_ofThing_2 ++ dktX0_ofThing_3
def dkwX0_ofThing_1 : List UInt8 := [170, 0, 0, 0, 0, 0, 0, 52, 0, 0, 0, 1, 0, 0, 0, 4, 0, 0, 0, 32, 0, 0, 0, 37, 0, 0, 0, 42, 0, 0, 0, 47]
abbrev dktX0_ofThing_1 : List UInt8 := dkwX0_ofThing_1 ++ dktX0_ofThing_2
def dkwX0_ofThing_0 : List UInt8 := [43, 199, 0, 6, 16, 251, 172, 28]
abbrev dktX0_ofThing_0 : List UInt8 := dkwX0_ofThing_0 ++ dktX0_ofThing_1
theorem dksX0_ofThing_0 : cX0_ofThing.data.toList.drop 0 = dktX0_ofThing_0 := by decide +kernel
theorem dksX0_ofThing_1 : cX0_ofThing.data.toList.drop 8 = dktX0_ofThing_1 := dk_seg dksX0_ofThing_0 8 rfl rfl
theorem dksX0_ofThing_2 : cX0_ofThing.data.toList.drop 40 = dktX0_ofThing_2 := dk_seg dksX0_ofThing_1 32 rfl rfl
theorem dksX0_ofThing_3 : cX0_ofThing.data.toList.drop 64 = dktX0_ofThing_3 := dk_seg dksX0_ofThing_2 24 rfl rfl
theorem dX0_ofThing_0 : decode cX0_ofThing 0 = .ok (.aload_n 1, 1) := dk_43 (dk_at dksX0_ofThing_0 0 rfl rfl)
theorem dX0_ofThing_1 : decode cX0_ofThing 1 = .ok (.ifnonnull 6, 3) := dk_199 0 6 (dk_at dksX0_ofThing_0 1 rfl rfl)
theorem dX0_ofThing_4 : decode cX0_ofThing 4 = .ok (.bipush (-5), 2) := dk_16 251 (dk_at dksX0_ofThing_0 4 rfl rfl)
theorem dX0_ofThing_6 : decode cX0_ofThing 6 = .ok (.ireturn, 1) := dk_172 (dk_at dksX0_ofThing_0 6 rfl rfl)
theorem dX0_ofThing_7 : decode cX0_ofThing 7 = .ok (.iload_n 2, 1) := dk_28 (dk_at dksX0_ofThing_0 7 rfl rfl)
theorem dX0_ofThing_8 : decode cX0_ofThing 8 = .ok (.tableswitch 52 1 4 #[32, 37, 42, 47], 32) := by decide +kernel
theorem dX0_ofThing_40 : decode cX0_ofThing 40 = .ok (.aload_n 1, 1) := dk_43 (dk_at dksX0_ofThing_2 0 rfl rfl)
theorem dX0_ofThing_41 : decode cX0_ofThing 41 = .ok (.getfield 162, 3) := dk_180 0 162 (dk_at dksX0_ofThing_2 1 rfl rfl)
theorem dX0_ofThing_44 : decode cX0_ofThing 44 = .ok (.ireturn, 1) := dk_172 (dk_at dksX0_ofThing_2 4 rfl rfl)
theorem dX0_ofThing_45 : decode cX0_ofThing 45 = .ok (.aload_n 1, 1) := dk_43 (dk_at dksX0_ofThing_2 5 rfl rfl)
theorem dX0_ofThing_46 : decode cX0_ofThing 46 = .ok (.getfield 163, 3) := dk_180 0 163 (dk_at dksX0_ofThing_2 6 rfl rfl)
theorem dX0_ofThing_49 : decode cX0_ofThing 49 = .ok (.ireturn, 1) := dk_172 (dk_at dksX0_ofThing_2 9 rfl rfl)
theorem dX0_ofThing_50 : decode cX0_ofThing 50 = .ok (.aload_n 1, 1) := dk_43 (dk_at dksX0_ofThing_2 10 rfl rfl)
theorem dX0_ofThing_51 : decode cX0_ofThing 51 = .ok (.getfield 166, 3) := dk_180 0 166 (dk_at dksX0_ofThing_2 11 rfl rfl)
theorem dX0_ofThing_54 : decode cX0_ofThing 54 = .ok (.ireturn, 1) := dk_172 (dk_at dksX0_ofThing_2 14 rfl rfl)
theorem dX0_ofThing_55 : decode cX0_ofThing 55 = .ok (.aload_n 1, 1) := dk_43 (dk_at dksX0_ofThing_2 15 rfl rfl)
theorem dX0_ofThing_56 : decode cX0_ofThing 56 = .ok (.getfield 169, 3) := dk_180 0 169 (dk_at dksX0_ofThing_2 16 rfl rfl)
theorem dX0_ofThing_59 : decode cX0_ofThing 59 = .ok (.ireturn, 1) := dk_172 (dk_at dksX0_ofThing_2 19 rfl rfl)
theorem dX0_ofThing_60 : decode cX0_ofThing 60 = .ok (.aload_n 1, 1) := dk_43 (dk_at dksX0_ofThing_2 20 rfl rfl)
theorem dX0_ofThing_61 : decode cX0_ofThing 61 = .ok (.getfield 158, 3) := dk_180 0 158 (dk_at dksX0_ofThing_2 21 rfl rfl)
theorem dX0_ofThing_64 : decode cX0_ofThing 64 = .ok (.ifCond .eq 7, 3) := dk_153 0 7 (dk_at dksX0_ofThing_3 0 rfl rfl)
theorem dX0_ofThing_67 : decode cX0_ofThing 67 = .ok (.iconst 1, 1) := dk_4 (dk_at dksX0_ofThing_3 3 rfl rfl)
theorem dX0_ofThing_68 : decode cX0_ofThing 68 = .ok (.goto 4, 3) := dk_167 0 4 (dk_at dksX0_ofThing_3 4 rfl rfl)
theorem dX0_ofThing_71 : decode cX0_ofThing 71 = .ok (.iconst 0, 1) := dk_3 (dk_at dksX0_ofThing_3 7 rfl rfl)
theorem dX0_ofThing_72 : decode cX0_ofThing 72 = .ok (.ireturn, 1) := dk_172 (dk_at dksX0_ofThing_3 8 rfl rfl)
abbrev cX0_key : ByteArray := prog_1_method_14_code
def yX0_key : MethodName := ⟨RX0, "key", "(II)I"⟩
def dkwX0_key_1 : List UInt8 := [182, 0, 192, 167, 0, 4, 2, 172]
abbrev dktX0_key_1 : List UInt8 := dkwX0_key_1 ++ []
def dkwX0_key_0 : List UInt8 := [27, 4, 7, 184, 0, 5, 153, 0, 22, 28, 155, 0, 18, 42, 180, 0, 18, 27, 182, 0, 102, 28]
abbrev dktX0_key_0 : List UInt8 := dkwX0_key_0 ++ dktX0_key_1
theorem dksX0_key_0 : cX0_key.data.toList.drop 0 = dktX0_key_0 := by decide +kernel
theorem dksX0_key_1 : cX0_key.data.toList.drop 22 = dktX0_key_1 := dk_seg dksX0_key_0 22 rfl rfl
theorem dX0_key_0 : decode cX0_key 0 = .ok (.iload_n 1, 1) := dk_27 (dk_at dksX0_key_0 0 rfl rfl)
theorem dX0_key_1 : decode cX0_key 1 = .ok (.iconst 1, 1) := dk_4 (dk_at dksX0_key_0 1 rfl rfl)
theorem dX0_key_2 : decode cX0_key 2 = .ok (.iconst 4, 1) := dk_7 (dk_at dksX0_key_0 2 rfl rfl)
theorem dX0_key_3 : decode cX0_key 3 = .ok (.invokestatic 5, 3) := dk_184 0 5 (dk_at dksX0_key_0 3 rfl rfl)
theorem dX0_key_6 : decode cX0_key 6 = .ok (.ifCond .eq 22, 3) := dk_153 0 22 (dk_at dksX0_key_0 6 rfl rfl)
theorem dX0_key_9 : decode cX0_key 9 = .ok (.iload_n 2, 1) := dk_28 (dk_at dksX0_key_0 9 rfl rfl)
theorem dX0_key_10 : decode cX0_key 10 = .ok (.ifCond .lt 18, 3) := dk_155 0 18 (dk_at dksX0_key_0 10 rfl rfl)
theorem dX0_key_13 : decode cX0_key 13 = .ok (.aload_n 0, 1) := dk_42 (dk_at dksX0_key_0 13 rfl rfl)
theorem dX0_key_14 : decode cX0_key 14 = .ok (.getfield 18, 3) := dk_180 0 18 (dk_at dksX0_key_0 14 rfl rfl)
theorem dX0_key_17 : decode cX0_key 17 = .ok (.iload_n 1, 1) := dk_27 (dk_at dksX0_key_0 17 rfl rfl)
theorem dX0_key_18 : decode cX0_key 18 = .ok (.invokevirtual 102, 3) := dk_182 0 102 (dk_at dksX0_key_0 18 rfl rfl)
theorem dX0_key_21 : decode cX0_key 21 = .ok (.iload_n 2, 1) := dk_28 (dk_at dksX0_key_0 21 rfl rfl)
theorem dX0_key_22 : decode cX0_key 22 = .ok (.invokevirtual 192, 3) := dk_182 0 192 (dk_at dksX0_key_1 0 rfl rfl)
theorem dX0_key_25 : decode cX0_key 25 = .ok (.goto 4, 3) := dk_167 0 4 (dk_at dksX0_key_1 3 rfl rfl)
theorem dX0_key_28 : decode cX0_key 28 = .ok (.iconst (-1), 1) := dk_2 (dk_at dksX0_key_1 6 rfl rfl)
theorem dX0_key_29 : decode cX0_key 29 = .ok (.ireturn, 1) := dk_172 (dk_at dksX0_key_1 7 rfl rfl)
abbrev cX0_gone : ByteArray := prog_1_method_16_code
def yX0_gone : MethodName := ⟨RX0, "gone", "(I)I"⟩
def dkwX0_gone_0 : List UInt8 := [27, 156, 0, 7, 2, 167, 0, 11, 42, 180, 0, 18, 27, 184, 0, 218, 172]
abbrev dktX0_gone_0 : List UInt8 := dkwX0_gone_0 ++ []
theorem dksX0_gone_0 : cX0_gone.data.toList.drop 0 = dktX0_gone_0 := by decide +kernel
theorem dX0_gone_0 : decode cX0_gone 0 = .ok (.iload_n 1, 1) := dk_27 (dk_at dksX0_gone_0 0 rfl rfl)
theorem dX0_gone_1 : decode cX0_gone 1 = .ok (.ifCond .ge 7, 3) := dk_156 0 7 (dk_at dksX0_gone_0 1 rfl rfl)
theorem dX0_gone_4 : decode cX0_gone 4 = .ok (.iconst (-1), 1) := dk_2 (dk_at dksX0_gone_0 4 rfl rfl)
theorem dX0_gone_5 : decode cX0_gone 5 = .ok (.goto 11, 3) := dk_167 0 11 (dk_at dksX0_gone_0 5 rfl rfl)
theorem dX0_gone_8 : decode cX0_gone 8 = .ok (.aload_n 0, 1) := dk_42 (dk_at dksX0_gone_0 8 rfl rfl)
theorem dX0_gone_9 : decode cX0_gone 9 = .ok (.getfield 18, 3) := dk_180 0 18 (dk_at dksX0_gone_0 9 rfl rfl)
theorem dX0_gone_12 : decode cX0_gone 12 = .ok (.iload_n 1, 1) := dk_27 (dk_at dksX0_gone_0 12 rfl rfl)
theorem dX0_gone_13 : decode cX0_gone 13 = .ok (.invokestatic 218, 3) := dk_184 0 218 (dk_at dksX0_gone_0 13 rfl rfl)
theorem dX0_gone_16 : decode cX0_gone 16 = .ok (.ireturn, 1) := dk_172 (dk_at dksX0_gone_0 16 rfl rfl)
abbrev cX0_goneAt : ByteArray := prog_1_method_15_code
def yX0_goneAt : MethodName := ⟨RX0, "goneAt", "(LSegmentedCache$Cache;I)I"⟩
def dkwX0_goneAt_2 : List UInt8 := [167, 255, 223, 16, 251, 172]
abbrev dktX0_goneAt_2 : List UInt8 := dkwX0_goneAt_2 ++ []
def dkwX0_goneAt_1 : List UInt8 := [185, 0, 211, 1, 0, 192, 0, 43, 58, 4, 28, 154, 0, 9, 25, 4, 182, 0, 215, 172, 132, 2, 255]
abbrev dktX0_goneAt_1 : List UInt8 := dkwX0_goneAt_1 ++ dktX0_goneAt_2
def dkwX0_goneAt_0 : List UInt8 := [27, 61, 42, 180, 0, 195, 182, 0, 199, 78, 45, 185, 0, 205, 1, 0, 153, 0, 30, 45]
abbrev dktX0_goneAt_0 : List UInt8 := dkwX0_goneAt_0 ++ dktX0_goneAt_1
theorem dksX0_goneAt_0 : cX0_goneAt.data.toList.drop 0 = dktX0_goneAt_0 := by decide +kernel
theorem dksX0_goneAt_1 : cX0_goneAt.data.toList.drop 20 = dktX0_goneAt_1 := dk_seg dksX0_goneAt_0 20 rfl rfl
theorem dksX0_goneAt_2 : cX0_goneAt.data.toList.drop 43 = dktX0_goneAt_2 := dk_seg dksX0_goneAt_1 23 rfl rfl
theorem dX0_goneAt_0 : decode cX0_goneAt 0 = .ok (.iload_n 1, 1) := dk_27 (dk_at dksX0_goneAt_0 0 rfl rfl)
theorem dX0_goneAt_1 : decode cX0_goneAt 1 = .ok (.istore_n 2, 1) := dk_61 (dk_at dksX0_goneAt_0 1 rfl rfl)
theorem dX0_goneAt_2 : decode cX0_goneAt 2 = .ok (.aload_n 0, 1) := dk_42 (dk_at dksX0_goneAt_0 2 rfl rfl)
theorem dX0_goneAt_3 : decode cX0_goneAt 3 = .ok (.getfield 195, 3) := dk_180 0 195 (dk_at dksX0_goneAt_0 3 rfl rfl)
theorem dX0_goneAt_6 : decode cX0_goneAt 6 = .ok (.invokevirtual 199, 3) := dk_182 0 199 (dk_at dksX0_goneAt_0 6 rfl rfl)
theorem dX0_goneAt_9 : decode cX0_goneAt 9 = .ok (.astore_n 3, 1) := dk_78 (dk_at dksX0_goneAt_0 9 rfl rfl)
theorem dX0_goneAt_10 : decode cX0_goneAt 10 = .ok (.aload_n 3, 1) := dk_45 (dk_at dksX0_goneAt_0 10 rfl rfl)
theorem dX0_goneAt_11 : decode cX0_goneAt 11 = .ok (.invokeinterface 205 1, 5) := by decide +kernel
theorem dX0_goneAt_16 : decode cX0_goneAt 16 = .ok (.ifCond .eq 30, 3) := dk_153 0 30 (dk_at dksX0_goneAt_0 16 rfl rfl)
theorem dX0_goneAt_19 : decode cX0_goneAt 19 = .ok (.aload_n 3, 1) := dk_45 (dk_at dksX0_goneAt_0 19 rfl rfl)
theorem dX0_goneAt_20 : decode cX0_goneAt 20 = .ok (.invokeinterface 211 1, 5) := by decide +kernel
theorem dX0_goneAt_25 : decode cX0_goneAt 25 = .ok (.checkcast 43, 3) := dk_192 0 43 (dk_at dksX0_goneAt_1 5 rfl rfl)
theorem dX0_goneAt_28 : decode cX0_goneAt 28 = .ok (.astore 4, 2) := dk_58 4 (dk_at dksX0_goneAt_1 8 rfl rfl)
theorem dX0_goneAt_30 : decode cX0_goneAt 30 = .ok (.iload_n 2, 1) := dk_28 (dk_at dksX0_goneAt_1 10 rfl rfl)
theorem dX0_goneAt_31 : decode cX0_goneAt 31 = .ok (.ifCond .ne 9, 3) := dk_154 0 9 (dk_at dksX0_goneAt_1 11 rfl rfl)
theorem dX0_goneAt_34 : decode cX0_goneAt 34 = .ok (.aload 4, 2) := dk_25 4 (dk_at dksX0_goneAt_1 14 rfl rfl)
theorem dX0_goneAt_36 : decode cX0_goneAt 36 = .ok (.invokevirtual 215, 3) := dk_182 0 215 (dk_at dksX0_goneAt_1 16 rfl rfl)
theorem dX0_goneAt_39 : decode cX0_goneAt 39 = .ok (.ireturn, 1) := dk_172 (dk_at dksX0_goneAt_1 19 rfl rfl)
theorem dX0_goneAt_40 : decode cX0_goneAt 40 = .ok (.iinc 2 (-1), 3) := dk_132 2 255 (dk_at dksX0_goneAt_1 20 rfl rfl)
theorem dX0_goneAt_43 : decode cX0_goneAt 43 = .ok (.goto (-33), 3) := dk_167 255 223 (dk_at dksX0_goneAt_2 0 rfl rfl)
theorem dX0_goneAt_46 : decode cX0_goneAt 46 = .ok (.bipush (-5), 2) := dk_16 251 (dk_at dksX0_goneAt_2 3 rfl rfl)
theorem dX0_goneAt_48 : decode cX0_goneAt 48 = .ok (.ireturn, 1) := dk_172 (dk_at dksX0_goneAt_2 5 rfl rfl)
abbrev cX0_victim : ByteArray := prog_1_method_17_code
def yX0_victim : MethodName := ⟨RX0, "victim", "(I)I"⟩
def dkwX0_victim_0 : List UInt8 := [27, 156, 0, 7, 2, 167, 0, 18, 42, 180, 0, 25, 42, 180, 0, 18, 182, 0, 222, 27, 182, 0, 226, 172]
abbrev dktX0_victim_0 : List UInt8 := dkwX0_victim_0 ++ []
theorem dksX0_victim_0 : cX0_victim.data.toList.drop 0 = dktX0_victim_0 := by decide +kernel
theorem dX0_victim_0 : decode cX0_victim 0 = .ok (.iload_n 1, 1) := dk_27 (dk_at dksX0_victim_0 0 rfl rfl)
theorem dX0_victim_1 : decode cX0_victim 1 = .ok (.ifCond .ge 7, 3) := dk_156 0 7 (dk_at dksX0_victim_0 1 rfl rfl)
theorem dX0_victim_4 : decode cX0_victim 4 = .ok (.iconst (-1), 1) := dk_2 (dk_at dksX0_victim_0 4 rfl rfl)
theorem dX0_victim_5 : decode cX0_victim 5 = .ok (.goto 18, 3) := dk_167 0 18 (dk_at dksX0_victim_0 5 rfl rfl)
theorem dX0_victim_8 : decode cX0_victim 8 = .ok (.aload_n 0, 1) := dk_42 (dk_at dksX0_victim_0 8 rfl rfl)
theorem dX0_victim_9 : decode cX0_victim 9 = .ok (.getfield 25, 3) := dk_180 0 25 (dk_at dksX0_victim_0 9 rfl rfl)
theorem dX0_victim_12 : decode cX0_victim 12 = .ok (.aload_n 0, 1) := dk_42 (dk_at dksX0_victim_0 12 rfl rfl)
theorem dX0_victim_13 : decode cX0_victim 13 = .ok (.getfield 18, 3) := dk_180 0 18 (dk_at dksX0_victim_0 13 rfl rfl)
theorem dX0_victim_16 : decode cX0_victim 16 = .ok (.invokevirtual 222, 3) := dk_182 0 222 (dk_at dksX0_victim_0 16 rfl rfl)
theorem dX0_victim_19 : decode cX0_victim 19 = .ok (.iload_n 1, 1) := dk_27 (dk_at dksX0_victim_0 19 rfl rfl)
theorem dX0_victim_20 : decode cX0_victim 20 = .ok (.invokevirtual 226, 3) := dk_182 0 226 (dk_at dksX0_victim_0 20 rfl rfl)
theorem dX0_victim_23 : decode cX0_victim 23 = .ok (.ireturn, 1) := dk_172 (dk_at dksX0_victim_0 23 rfl rfl)
abbrev cX0_feed : ByteArray := prog_1_method_18_code
def yX0_feed : MethodName := ⟨RX0, "feed", "(I)I"⟩
def dkwX0_feed_1 : List UInt8 := [172, 42, 180, 0, 32, 42, 89, 180, 0, 229, 90, 4, 96, 181, 0, 229, 27, 145, 84, 42, 180, 0, 229, 172]
abbrev dktX0_feed_1 : List UInt8 := dkwX0_feed_1 ++ []
def dkwX0_feed_0 : List UInt8 := [27, 3, 16, 127, 184, 0, 5, 154, 0, 6, 16, 254, 172, 42, 180, 0, 229, 16, 100, 160, 0, 6, 16, 252]
abbrev dktX0_feed_0 : List UInt8 := dkwX0_feed_0 ++ dktX0_feed_1
theorem dksX0_feed_0 : cX0_feed.data.toList.drop 0 = dktX0_feed_0 := by decide +kernel
theorem dksX0_feed_1 : cX0_feed.data.toList.drop 24 = dktX0_feed_1 := dk_seg dksX0_feed_0 24 rfl rfl
theorem dX0_feed_0 : decode cX0_feed 0 = .ok (.iload_n 1, 1) := dk_27 (dk_at dksX0_feed_0 0 rfl rfl)
theorem dX0_feed_1 : decode cX0_feed 1 = .ok (.iconst 0, 1) := dk_3 (dk_at dksX0_feed_0 1 rfl rfl)
theorem dX0_feed_2 : decode cX0_feed 2 = .ok (.bipush 127, 2) := dk_16 127 (dk_at dksX0_feed_0 2 rfl rfl)
theorem dX0_feed_4 : decode cX0_feed 4 = .ok (.invokestatic 5, 3) := dk_184 0 5 (dk_at dksX0_feed_0 4 rfl rfl)
theorem dX0_feed_7 : decode cX0_feed 7 = .ok (.ifCond .ne 6, 3) := dk_154 0 6 (dk_at dksX0_feed_0 7 rfl rfl)
theorem dX0_feed_10 : decode cX0_feed 10 = .ok (.bipush (-2), 2) := dk_16 254 (dk_at dksX0_feed_0 10 rfl rfl)
theorem dX0_feed_12 : decode cX0_feed 12 = .ok (.ireturn, 1) := dk_172 (dk_at dksX0_feed_0 12 rfl rfl)
theorem dX0_feed_13 : decode cX0_feed 13 = .ok (.aload_n 0, 1) := dk_42 (dk_at dksX0_feed_0 13 rfl rfl)
theorem dX0_feed_14 : decode cX0_feed 14 = .ok (.getfield 229, 3) := dk_180 0 229 (dk_at dksX0_feed_0 14 rfl rfl)
theorem dX0_feed_17 : decode cX0_feed 17 = .ok (.bipush 100, 2) := dk_16 100 (dk_at dksX0_feed_0 17 rfl rfl)
theorem dX0_feed_19 : decode cX0_feed 19 = .ok (.if_icmp .ne 6, 3) := dk_160 0 6 (dk_at dksX0_feed_0 19 rfl rfl)
theorem dX0_feed_22 : decode cX0_feed 22 = .ok (.bipush (-4), 2) := dk_16 252 (dk_at dksX0_feed_0 22 rfl rfl)
theorem dX0_feed_24 : decode cX0_feed 24 = .ok (.ireturn, 1) := dk_172 (dk_at dksX0_feed_1 0 rfl rfl)
theorem dX0_feed_25 : decode cX0_feed 25 = .ok (.aload_n 0, 1) := dk_42 (dk_at dksX0_feed_1 1 rfl rfl)
theorem dX0_feed_26 : decode cX0_feed 26 = .ok (.getfield 32, 3) := dk_180 0 32 (dk_at dksX0_feed_1 2 rfl rfl)
theorem dX0_feed_29 : decode cX0_feed 29 = .ok (.aload_n 0, 1) := dk_42 (dk_at dksX0_feed_1 5 rfl rfl)
theorem dX0_feed_30 : decode cX0_feed 30 = .ok (.dup, 1) := dk_89 (dk_at dksX0_feed_1 6 rfl rfl)
theorem dX0_feed_31 : decode cX0_feed 31 = .ok (.getfield 229, 3) := dk_180 0 229 (dk_at dksX0_feed_1 7 rfl rfl)
theorem dX0_feed_34 : decode cX0_feed 34 = .ok (.dup_x1, 1) := dk_90 (dk_at dksX0_feed_1 10 rfl rfl)
theorem dX0_feed_35 : decode cX0_feed 35 = .ok (.iconst 1, 1) := dk_4 (dk_at dksX0_feed_1 11 rfl rfl)
theorem dX0_feed_36 : decode cX0_feed 36 = .ok (.iadd, 1) := dk_96 (dk_at dksX0_feed_1 12 rfl rfl)
theorem dX0_feed_37 : decode cX0_feed 37 = .ok (.putfield 229, 3) := dk_181 0 229 (dk_at dksX0_feed_1 13 rfl rfl)
theorem dX0_feed_40 : decode cX0_feed 40 = .ok (.iload_n 1, 1) := dk_27 (dk_at dksX0_feed_1 16 rfl rfl)
theorem dX0_feed_41 : decode cX0_feed 41 = .ok (.i2b, 1) := dk_145 (dk_at dksX0_feed_1 17 rfl rfl)
theorem dX0_feed_42 : decode cX0_feed 42 = .ok (.bastore, 1) := dk_84 (dk_at dksX0_feed_1 18 rfl rfl)
theorem dX0_feed_43 : decode cX0_feed 43 = .ok (.aload_n 0, 1) := dk_42 (dk_at dksX0_feed_1 19 rfl rfl)
theorem dX0_feed_44 : decode cX0_feed 44 = .ok (.getfield 229, 3) := dk_180 0 229 (dk_at dksX0_feed_1 20 rfl rfl)
theorem dX0_feed_47 : decode cX0_feed 47 = .ok (.ireturn, 1) := dk_172 (dk_at dksX0_feed_1 23 rfl rfl)
abbrev cX0_trace : ByteArray := prog_1_method_19_code
def yX0_trace : MethodName := ⟨RX0, "trace", "()I"⟩
def dkwX0_trace_2 : List UInt8 := [182, 0, 241, 87, 42, 180, 0, 39, 182, 0, 69, 4, 100, 172, 77, 16, 246, 44, 180, 0, 247, 100, 172]
abbrev dktX0_trace_2 : List UInt8 := dkwX0_trace_2 ++ []
def dkwX0_trace_1 : List UInt8 := [181, 0, 229, 42, 180, 0, 39, 187, 0, 232, 89, 42, 180, 0, 32, 27, 183, 0, 234, 182, 0, 237]
abbrev dktX0_trace_1 : List UInt8 := dkwX0_trace_1 ++ dktX0_trace_2
def dkwX0_trace_0 : List UInt8 := [42, 180, 0, 39, 182, 0, 69, 16, 6, 160, 0, 6, 16, 252, 172, 42, 180, 0, 229, 60, 42, 3]
abbrev dktX0_trace_0 : List UInt8 := dkwX0_trace_0 ++ dktX0_trace_1
theorem dksX0_trace_0 : cX0_trace.data.toList.drop 0 = dktX0_trace_0 := by decide +kernel
theorem dksX0_trace_1 : cX0_trace.data.toList.drop 22 = dktX0_trace_1 := dk_seg dksX0_trace_0 22 rfl rfl
theorem dksX0_trace_2 : cX0_trace.data.toList.drop 44 = dktX0_trace_2 := dk_seg dksX0_trace_1 22 rfl rfl
theorem dX0_trace_0 : decode cX0_trace 0 = .ok (.aload_n 0, 1) := dk_42 (dk_at dksX0_trace_0 0 rfl rfl)
theorem dX0_trace_1 : decode cX0_trace 1 = .ok (.getfield 39, 3) := dk_180 0 39 (dk_at dksX0_trace_0 1 rfl rfl)
theorem dX0_trace_4 : decode cX0_trace 4 = .ok (.invokevirtual 69, 3) := dk_182 0 69 (dk_at dksX0_trace_0 4 rfl rfl)
theorem dX0_trace_7 : decode cX0_trace 7 = .ok (.bipush 6, 2) := dk_16 6 (dk_at dksX0_trace_0 7 rfl rfl)
theorem dX0_trace_9 : decode cX0_trace 9 = .ok (.if_icmp .ne 6, 3) := dk_160 0 6 (dk_at dksX0_trace_0 9 rfl rfl)
theorem dX0_trace_12 : decode cX0_trace 12 = .ok (.bipush (-4), 2) := dk_16 252 (dk_at dksX0_trace_0 12 rfl rfl)
theorem dX0_trace_14 : decode cX0_trace 14 = .ok (.ireturn, 1) := dk_172 (dk_at dksX0_trace_0 14 rfl rfl)
theorem dX0_trace_15 : decode cX0_trace 15 = .ok (.aload_n 0, 1) := dk_42 (dk_at dksX0_trace_0 15 rfl rfl)
theorem dX0_trace_16 : decode cX0_trace 16 = .ok (.getfield 229, 3) := dk_180 0 229 (dk_at dksX0_trace_0 16 rfl rfl)
theorem dX0_trace_19 : decode cX0_trace 19 = .ok (.istore_n 1, 1) := dk_60 (dk_at dksX0_trace_0 19 rfl rfl)
theorem dX0_trace_20 : decode cX0_trace 20 = .ok (.aload_n 0, 1) := dk_42 (dk_at dksX0_trace_0 20 rfl rfl)
theorem dX0_trace_21 : decode cX0_trace 21 = .ok (.iconst 0, 1) := dk_3 (dk_at dksX0_trace_0 21 rfl rfl)
theorem dX0_trace_22 : decode cX0_trace 22 = .ok (.putfield 229, 3) := dk_181 0 229 (dk_at dksX0_trace_1 0 rfl rfl)
theorem dX0_trace_25 : decode cX0_trace 25 = .ok (.aload_n 0, 1) := dk_42 (dk_at dksX0_trace_1 3 rfl rfl)
theorem dX0_trace_26 : decode cX0_trace 26 = .ok (.getfield 39, 3) := dk_180 0 39 (dk_at dksX0_trace_1 4 rfl rfl)
theorem dX0_trace_29 : decode cX0_trace 29 = .ok (.new 232, 3) := dk_187 0 232 (dk_at dksX0_trace_1 7 rfl rfl)
theorem dX0_trace_32 : decode cX0_trace 32 = .ok (.dup, 1) := dk_89 (dk_at dksX0_trace_1 10 rfl rfl)
theorem dX0_trace_33 : decode cX0_trace 33 = .ok (.aload_n 0, 1) := dk_42 (dk_at dksX0_trace_1 11 rfl rfl)
theorem dX0_trace_34 : decode cX0_trace 34 = .ok (.getfield 32, 3) := dk_180 0 32 (dk_at dksX0_trace_1 12 rfl rfl)
theorem dX0_trace_37 : decode cX0_trace 37 = .ok (.iload_n 1, 1) := dk_27 (dk_at dksX0_trace_1 15 rfl rfl)
theorem dX0_trace_38 : decode cX0_trace 38 = .ok (.invokespecial 234, 3) := dk_183 0 234 (dk_at dksX0_trace_1 16 rfl rfl)
theorem dX0_trace_41 : decode cX0_trace 41 = .ok (.invokevirtual 237, 3) := dk_182 0 237 (dk_at dksX0_trace_1 19 rfl rfl)
theorem dX0_trace_44 : decode cX0_trace 44 = .ok (.invokevirtual 241, 3) := dk_182 0 241 (dk_at dksX0_trace_2 0 rfl rfl)
theorem dX0_trace_47 : decode cX0_trace 47 = .ok (.pop, 1) := dk_87 (dk_at dksX0_trace_2 3 rfl rfl)
theorem dX0_trace_48 : decode cX0_trace 48 = .ok (.aload_n 0, 1) := dk_42 (dk_at dksX0_trace_2 4 rfl rfl)
theorem dX0_trace_49 : decode cX0_trace 49 = .ok (.getfield 39, 3) := dk_180 0 39 (dk_at dksX0_trace_2 5 rfl rfl)
theorem dX0_trace_52 : decode cX0_trace 52 = .ok (.invokevirtual 69, 3) := dk_182 0 69 (dk_at dksX0_trace_2 8 rfl rfl)
theorem dX0_trace_55 : decode cX0_trace 55 = .ok (.iconst 1, 1) := dk_4 (dk_at dksX0_trace_2 11 rfl rfl)
theorem dX0_trace_56 : decode cX0_trace 56 = .ok (.isub, 1) := dk_100 (dk_at dksX0_trace_2 12 rfl rfl)
theorem dX0_trace_57 : decode cX0_trace 57 = .ok (.ireturn, 1) := dk_172 (dk_at dksX0_trace_2 13 rfl rfl)
theorem dX0_trace_58 : decode cX0_trace 58 = .ok (.astore_n 2, 1) := dk_77 (dk_at dksX0_trace_2 14 rfl rfl)
theorem dX0_trace_59 : decode cX0_trace 59 = .ok (.bipush (-10), 2) := dk_16 246 (dk_at dksX0_trace_2 15 rfl rfl)
theorem dX0_trace_61 : decode cX0_trace 61 = .ok (.aload_n 2, 1) := dk_44 (dk_at dksX0_trace_2 17 rfl rfl)
theorem dX0_trace_62 : decode cX0_trace 62 = .ok (.getfield 247, 3) := dk_180 0 247 (dk_at dksX0_trace_2 18 rfl rfl)
theorem dX0_trace_65 : decode cX0_trace 65 = .ok (.isub, 1) := dk_100 (dk_at dksX0_trace_2 21 rfl rfl)
theorem dX0_trace_66 : decode cX0_trace 66 = .ok (.ireturn, 1) := dk_172 (dk_at dksX0_trace_2 22 rfl rfl)
abbrev cX0_run : ByteArray := prog_1_method_20_code
def yX0_run : MethodName := ⟨RX0, "run", "(I)I"⟩
def dkwX0_run_1 : List UInt8 := [180, 0, 39, 27, 182, 0, 254, 192, 0, 36, 182, 1, 1, 42, 180, 0, 18, 180, 0, 111, 28, 100, 172]
abbrev dktX0_run_1 : List UInt8 := dkwX0_run_1 ++ []
def dkwX0_run_0 : List UInt8 := [42, 27, 182, 0, 250, 154, 0, 5, 2, 172, 42, 180, 0, 18, 180, 0, 111, 61, 42, 180, 0, 18, 42]
abbrev dktX0_run_0 : List UInt8 := dkwX0_run_0 ++ dktX0_run_1
theorem dksX0_run_0 : cX0_run.data.toList.drop 0 = dktX0_run_0 := by decide +kernel
theorem dksX0_run_1 : cX0_run.data.toList.drop 23 = dktX0_run_1 := dk_seg dksX0_run_0 23 rfl rfl
theorem dX0_run_0 : decode cX0_run 0 = .ok (.aload_n 0, 1) := dk_42 (dk_at dksX0_run_0 0 rfl rfl)
theorem dX0_run_1 : decode cX0_run 1 = .ok (.iload_n 1, 1) := dk_27 (dk_at dksX0_run_0 1 rfl rfl)
theorem dX0_run_2 : decode cX0_run 2 = .ok (.invokevirtual 250, 3) := dk_182 0 250 (dk_at dksX0_run_0 2 rfl rfl)
theorem dX0_run_5 : decode cX0_run 5 = .ok (.ifCond .ne 5, 3) := dk_154 0 5 (dk_at dksX0_run_0 5 rfl rfl)
theorem dX0_run_8 : decode cX0_run 8 = .ok (.iconst (-1), 1) := dk_2 (dk_at dksX0_run_0 8 rfl rfl)
theorem dX0_run_9 : decode cX0_run 9 = .ok (.ireturn, 1) := dk_172 (dk_at dksX0_run_0 9 rfl rfl)
theorem dX0_run_10 : decode cX0_run 10 = .ok (.aload_n 0, 1) := dk_42 (dk_at dksX0_run_0 10 rfl rfl)
theorem dX0_run_11 : decode cX0_run 11 = .ok (.getfield 18, 3) := dk_180 0 18 (dk_at dksX0_run_0 11 rfl rfl)
theorem dX0_run_14 : decode cX0_run 14 = .ok (.getfield 111, 3) := dk_180 0 111 (dk_at dksX0_run_0 14 rfl rfl)
theorem dX0_run_17 : decode cX0_run 17 = .ok (.istore_n 2, 1) := dk_61 (dk_at dksX0_run_0 17 rfl rfl)
theorem dX0_run_18 : decode cX0_run 18 = .ok (.aload_n 0, 1) := dk_42 (dk_at dksX0_run_0 18 rfl rfl)
theorem dX0_run_19 : decode cX0_run 19 = .ok (.getfield 18, 3) := dk_180 0 18 (dk_at dksX0_run_0 19 rfl rfl)
theorem dX0_run_22 : decode cX0_run 22 = .ok (.aload_n 0, 1) := dk_42 (dk_at dksX0_run_0 22 rfl rfl)
theorem dX0_run_23 : decode cX0_run 23 = .ok (.getfield 39, 3) := dk_180 0 39 (dk_at dksX0_run_1 0 rfl rfl)
theorem dX0_run_26 : decode cX0_run 26 = .ok (.iload_n 1, 1) := dk_27 (dk_at dksX0_run_1 3 rfl rfl)
theorem dX0_run_27 : decode cX0_run 27 = .ok (.invokevirtual 254, 3) := dk_182 0 254 (dk_at dksX0_run_1 4 rfl rfl)
theorem dX0_run_30 : decode cX0_run 30 = .ok (.checkcast 36, 3) := dk_192 0 36 (dk_at dksX0_run_1 7 rfl rfl)
theorem dX0_run_33 : decode cX0_run 33 = .ok (.invokevirtual 257, 3) := dk_182 1 1 (dk_at dksX0_run_1 10 rfl rfl)
theorem dX0_run_36 : decode cX0_run 36 = .ok (.aload_n 0, 1) := dk_42 (dk_at dksX0_run_1 13 rfl rfl)
theorem dX0_run_37 : decode cX0_run 37 = .ok (.getfield 18, 3) := dk_180 0 18 (dk_at dksX0_run_1 14 rfl rfl)
theorem dX0_run_40 : decode cX0_run 40 = .ok (.getfield 111, 3) := dk_180 0 111 (dk_at dksX0_run_1 17 rfl rfl)
theorem dX0_run_43 : decode cX0_run 43 = .ok (.iload_n 2, 1) := dk_28 (dk_at dksX0_run_1 20 rfl rfl)
theorem dX0_run_44 : decode cX0_run 44 = .ok (.isub, 1) := dk_100 (dk_at dksX0_run_1 21 rfl rfl)
theorem dX0_run_45 : decode cX0_run 45 = .ok (.ireturn, 1) := dk_172 (dk_at dksX0_run_1 22 rfl rfl)
abbrev cX0_isTrace : ByteArray := prog_1_method_4_code
def yX0_isTrace : MethodName := ⟨RX0, "isTrace", "(I)Z"⟩
def dkwX0_isTrace_0 : List UInt8 := [27, 3, 42, 180, 0, 39, 182, 0, 69, 4, 100, 184, 0, 5, 172]
abbrev dktX0_isTrace_0 : List UInt8 := dkwX0_isTrace_0 ++ []
theorem dksX0_isTrace_0 : cX0_isTrace.data.toList.drop 0 = dktX0_isTrace_0 := by decide +kernel
theorem dX0_isTrace_0 : decode cX0_isTrace 0 = .ok (.iload_n 1, 1) := dk_27 (dk_at dksX0_isTrace_0 0 rfl rfl)
theorem dX0_isTrace_1 : decode cX0_isTrace 1 = .ok (.iconst 0, 1) := dk_3 (dk_at dksX0_isTrace_0 1 rfl rfl)
theorem dX0_isTrace_2 : decode cX0_isTrace 2 = .ok (.aload_n 0, 1) := dk_42 (dk_at dksX0_isTrace_0 2 rfl rfl)
theorem dX0_isTrace_3 : decode cX0_isTrace 3 = .ok (.getfield 39, 3) := dk_180 0 39 (dk_at dksX0_isTrace_0 3 rfl rfl)
theorem dX0_isTrace_6 : decode cX0_isTrace 6 = .ok (.invokevirtual 69, 3) := dk_182 0 69 (dk_at dksX0_isTrace_0 6 rfl rfl)
theorem dX0_isTrace_9 : decode cX0_isTrace 9 = .ok (.iconst 1, 1) := dk_4 (dk_at dksX0_isTrace_0 9 rfl rfl)
theorem dX0_isTrace_10 : decode cX0_isTrace 10 = .ok (.isub, 1) := dk_100 (dk_at dksX0_isTrace_0 10 rfl rfl)
theorem dX0_isTrace_11 : decode cX0_isTrace 11 = .ok (.invokestatic 5, 3) := dk_184 0 5 (dk_at dksX0_isTrace_0 11 rfl rfl)
theorem dX0_isTrace_14 : decode cX0_isTrace 14 = .ok (.ireturn, 1) := dk_172 (dk_at dksX0_isTrace_0 14 rfl rfl)
abbrev cX0_would : ByteArray := prog_1_method_21_code
def yX0_would : MethodName := ⟨RX0, "would", "(II)I"⟩
def dkwX0_would_4 : List UInt8 := [172, 45, 180, 1, 13, 172, 2, 172]
abbrev dktX0_would_4 : List UInt8 := dkwX0_would_4 ++ []
def dkwX0_would_3 : List UInt8 := [45, 180, 1, 6, 172, 45, 180, 1, 7, 172, 45, 180, 1, 8, 172, 45, 180, 1, 9, 172, 45, 182, 1, 10]
abbrev dktX0_would_3 : List UInt8 := dkwX0_would_3 ++ dktX0_would_4
def dkwX0_would_2 : List UInt8 := [170, 0, 0, 0, 0, 68, 0, 0, 0, 0, 0, 0, 0, 5, 0, 0, 0, 38, 0, 0, 0, 43, 0, 0, 0, 48, 0, 0, 0, 53, 0, 0, 0, 58, 0, 0, 0, 63]
abbrev dktX0_would_2 : List UInt8 := dkwX0_would_2 ++ dktX0_would_3
def dkwX0_would_1 : List UInt8 := [180, 0, 39, 27, 182, 0, 254, 192, 0, 36, 182, 1, 5, 28]
abbrev dktX0_would_1 : List UInt8 := dkwX0_would_1 ++ dktX0_would_2
def dkwX0_would_0 : List UInt8 := [42, 27, 182, 0, 250, 154, 0, 5, 2, 172, 42, 180, 0, 25, 42, 180, 0, 18, 182, 0, 222, 78, 45, 42]
abbrev dktX0_would_0 : List UInt8 := dkwX0_would_0 ++ dktX0_would_1
theorem dksX0_would_0 : cX0_would.data.toList.drop 0 = dktX0_would_0 := by decide +kernel
theorem dksX0_would_1 : cX0_would.data.toList.drop 24 = dktX0_would_1 := dk_seg dksX0_would_0 24 rfl rfl
theorem dksX0_would_2 : cX0_would.data.toList.drop 38 = dktX0_would_2 := dk_seg dksX0_would_1 14 rfl rfl
theorem dksX0_would_3 : cX0_would.data.toList.drop 76 = dktX0_would_3 := dk_seg dksX0_would_2 38 rfl rfl
theorem dksX0_would_4 : cX0_would.data.toList.drop 100 = dktX0_would_4 := dk_seg dksX0_would_3 24 rfl rfl
theorem dX0_would_0 : decode cX0_would 0 = .ok (.aload_n 0, 1) := dk_42 (dk_at dksX0_would_0 0 rfl rfl)
theorem dX0_would_1 : decode cX0_would 1 = .ok (.iload_n 1, 1) := dk_27 (dk_at dksX0_would_0 1 rfl rfl)
theorem dX0_would_2 : decode cX0_would 2 = .ok (.invokevirtual 250, 3) := dk_182 0 250 (dk_at dksX0_would_0 2 rfl rfl)
theorem dX0_would_5 : decode cX0_would 5 = .ok (.ifCond .ne 5, 3) := dk_154 0 5 (dk_at dksX0_would_0 5 rfl rfl)
theorem dX0_would_8 : decode cX0_would 8 = .ok (.iconst (-1), 1) := dk_2 (dk_at dksX0_would_0 8 rfl rfl)
theorem dX0_would_9 : decode cX0_would 9 = .ok (.ireturn, 1) := dk_172 (dk_at dksX0_would_0 9 rfl rfl)
theorem dX0_would_10 : decode cX0_would 10 = .ok (.aload_n 0, 1) := dk_42 (dk_at dksX0_would_0 10 rfl rfl)
theorem dX0_would_11 : decode cX0_would 11 = .ok (.getfield 25, 3) := dk_180 0 25 (dk_at dksX0_would_0 11 rfl rfl)
theorem dX0_would_14 : decode cX0_would 14 = .ok (.aload_n 0, 1) := dk_42 (dk_at dksX0_would_0 14 rfl rfl)
theorem dX0_would_15 : decode cX0_would 15 = .ok (.getfield 18, 3) := dk_180 0 18 (dk_at dksX0_would_0 15 rfl rfl)
theorem dX0_would_18 : decode cX0_would 18 = .ok (.invokevirtual 222, 3) := dk_182 0 222 (dk_at dksX0_would_0 18 rfl rfl)
theorem dX0_would_21 : decode cX0_would 21 = .ok (.astore_n 3, 1) := dk_78 (dk_at dksX0_would_0 21 rfl rfl)
theorem dX0_would_22 : decode cX0_would 22 = .ok (.aload_n 3, 1) := dk_45 (dk_at dksX0_would_0 22 rfl rfl)
theorem dX0_would_23 : decode cX0_would 23 = .ok (.aload_n 0, 1) := dk_42 (dk_at dksX0_would_0 23 rfl rfl)
theorem dX0_would_24 : decode cX0_would 24 = .ok (.getfield 39, 3) := dk_180 0 39 (dk_at dksX0_would_1 0 rfl rfl)
theorem dX0_would_27 : decode cX0_would 27 = .ok (.iload_n 1, 1) := dk_27 (dk_at dksX0_would_1 3 rfl rfl)
theorem dX0_would_28 : decode cX0_would 28 = .ok (.invokevirtual 254, 3) := dk_182 0 254 (dk_at dksX0_would_1 4 rfl rfl)
theorem dX0_would_31 : decode cX0_would 31 = .ok (.checkcast 36, 3) := dk_192 0 36 (dk_at dksX0_would_1 7 rfl rfl)
theorem dX0_would_34 : decode cX0_would 34 = .ok (.invokevirtual 261, 3) := dk_182 1 5 (dk_at dksX0_would_1 10 rfl rfl)
theorem dX0_would_37 : decode cX0_would 37 = .ok (.iload_n 2, 1) := dk_28 (dk_at dksX0_would_1 13 rfl rfl)
theorem dX0_would_38 : decode cX0_would 38 = .ok (.tableswitch 68 0 5 #[38, 43, 48, 53, 58, 63], 38) := by decide +kernel
theorem dX0_would_76 : decode cX0_would 76 = .ok (.aload_n 3, 1) := dk_45 (dk_at dksX0_would_3 0 rfl rfl)
theorem dX0_would_77 : decode cX0_would 77 = .ok (.getfield 262, 3) := dk_180 1 6 (dk_at dksX0_would_3 1 rfl rfl)
theorem dX0_would_80 : decode cX0_would 80 = .ok (.ireturn, 1) := dk_172 (dk_at dksX0_would_3 4 rfl rfl)
theorem dX0_would_81 : decode cX0_would 81 = .ok (.aload_n 3, 1) := dk_45 (dk_at dksX0_would_3 5 rfl rfl)
theorem dX0_would_82 : decode cX0_would 82 = .ok (.getfield 263, 3) := dk_180 1 7 (dk_at dksX0_would_3 6 rfl rfl)
theorem dX0_would_85 : decode cX0_would 85 = .ok (.ireturn, 1) := dk_172 (dk_at dksX0_would_3 9 rfl rfl)
theorem dX0_would_86 : decode cX0_would 86 = .ok (.aload_n 3, 1) := dk_45 (dk_at dksX0_would_3 10 rfl rfl)
theorem dX0_would_87 : decode cX0_would 87 = .ok (.getfield 264, 3) := dk_180 1 8 (dk_at dksX0_would_3 11 rfl rfl)
theorem dX0_would_90 : decode cX0_would 90 = .ok (.ireturn, 1) := dk_172 (dk_at dksX0_would_3 14 rfl rfl)
theorem dX0_would_91 : decode cX0_would 91 = .ok (.aload_n 3, 1) := dk_45 (dk_at dksX0_would_3 15 rfl rfl)
theorem dX0_would_92 : decode cX0_would 92 = .ok (.getfield 265, 3) := dk_180 1 9 (dk_at dksX0_would_3 16 rfl rfl)
theorem dX0_would_95 : decode cX0_would 95 = .ok (.ireturn, 1) := dk_172 (dk_at dksX0_would_3 19 rfl rfl)
theorem dX0_would_96 : decode cX0_would 96 = .ok (.aload_n 3, 1) := dk_45 (dk_at dksX0_would_3 20 rfl rfl)
theorem dX0_would_97 : decode cX0_would 97 = .ok (.invokevirtual 266, 3) := dk_182 1 10 (dk_at dksX0_would_3 21 rfl rfl)
theorem dX0_would_100 : decode cX0_would 100 = .ok (.ireturn, 1) := dk_172 (dk_at dksX0_would_4 0 rfl rfl)
theorem dX0_would_101 : decode cX0_would 101 = .ok (.aload_n 3, 1) := dk_45 (dk_at dksX0_would_4 1 rfl rfl)
theorem dX0_would_102 : decode cX0_would 102 = .ok (.getfield 269, 3) := dk_180 1 13 (dk_at dksX0_would_4 2 rfl rfl)
theorem dX0_would_105 : decode cX0_would 105 = .ok (.ireturn, 1) := dk_172 (dk_at dksX0_would_4 5 rfl rfl)
theorem dX0_would_106 : decode cX0_would 106 = .ok (.iconst (-1), 1) := dk_2 (dk_at dksX0_would_4 6 rfl rfl)
theorem dX0_would_107 : decode cX0_would 107 = .ok (.ireturn, 1) := dk_172 (dk_at dksX0_would_4 7 rfl rfl)
abbrev cX0_need : ByteArray := prog_1_method_23_code
def yX0_need : MethodName := ⟨RX0, "need", "(II)I"⟩
def dkwX0_need_2 : List UInt8 := [180, 0, 18, 180, 0, 77, 182, 1, 20, 28, 161, 0, 5, 29, 172, 132, 3, 1, 167, 255, 228, 16, 251, 172]
abbrev dktX0_need_2 : List UInt8 := dkwX0_need_2 ++ []
def dkwX0_need_1 : List UInt8 := [180, 0, 25, 42, 180, 0, 18, 182, 0, 222, 87, 4, 62, 29, 16, 60, 163, 0, 28, 42, 27, 29, 42]
abbrev dktX0_need_1 : List UInt8 := dkwX0_need_1 ++ dktX0_need_2
def dkwX0_need_0 : List UInt8 := [42, 27, 182, 0, 250, 154, 0, 5, 2, 172, 28, 3, 16, 20, 184, 0, 5, 154, 0, 6, 16, 254, 172, 42]
abbrev dktX0_need_0 : List UInt8 := dkwX0_need_0 ++ dktX0_need_1
theorem dksX0_need_0 : cX0_need.data.toList.drop 0 = dktX0_need_0 := by decide +kernel
theorem dksX0_need_1 : cX0_need.data.toList.drop 24 = dktX0_need_1 := dk_seg dksX0_need_0 24 rfl rfl
theorem dksX0_need_2 : cX0_need.data.toList.drop 47 = dktX0_need_2 := dk_seg dksX0_need_1 23 rfl rfl
theorem dX0_need_0 : decode cX0_need 0 = .ok (.aload_n 0, 1) := dk_42 (dk_at dksX0_need_0 0 rfl rfl)
theorem dX0_need_1 : decode cX0_need 1 = .ok (.iload_n 1, 1) := dk_27 (dk_at dksX0_need_0 1 rfl rfl)
theorem dX0_need_2 : decode cX0_need 2 = .ok (.invokevirtual 250, 3) := dk_182 0 250 (dk_at dksX0_need_0 2 rfl rfl)
theorem dX0_need_5 : decode cX0_need 5 = .ok (.ifCond .ne 5, 3) := dk_154 0 5 (dk_at dksX0_need_0 5 rfl rfl)
theorem dX0_need_8 : decode cX0_need 8 = .ok (.iconst (-1), 1) := dk_2 (dk_at dksX0_need_0 8 rfl rfl)
theorem dX0_need_9 : decode cX0_need 9 = .ok (.ireturn, 1) := dk_172 (dk_at dksX0_need_0 9 rfl rfl)
theorem dX0_need_10 : decode cX0_need 10 = .ok (.iload_n 2, 1) := dk_28 (dk_at dksX0_need_0 10 rfl rfl)
theorem dX0_need_11 : decode cX0_need 11 = .ok (.iconst 0, 1) := dk_3 (dk_at dksX0_need_0 11 rfl rfl)
theorem dX0_need_12 : decode cX0_need 12 = .ok (.bipush 20, 2) := dk_16 20 (dk_at dksX0_need_0 12 rfl rfl)
theorem dX0_need_14 : decode cX0_need 14 = .ok (.invokestatic 5, 3) := dk_184 0 5 (dk_at dksX0_need_0 14 rfl rfl)
theorem dX0_need_17 : decode cX0_need 17 = .ok (.ifCond .ne 6, 3) := dk_154 0 6 (dk_at dksX0_need_0 17 rfl rfl)
theorem dX0_need_20 : decode cX0_need 20 = .ok (.bipush (-2), 2) := dk_16 254 (dk_at dksX0_need_0 20 rfl rfl)
theorem dX0_need_22 : decode cX0_need 22 = .ok (.ireturn, 1) := dk_172 (dk_at dksX0_need_0 22 rfl rfl)
theorem dX0_need_23 : decode cX0_need 23 = .ok (.aload_n 0, 1) := dk_42 (dk_at dksX0_need_0 23 rfl rfl)
theorem dX0_need_24 : decode cX0_need 24 = .ok (.getfield 25, 3) := dk_180 0 25 (dk_at dksX0_need_1 0 rfl rfl)
theorem dX0_need_27 : decode cX0_need 27 = .ok (.aload_n 0, 1) := dk_42 (dk_at dksX0_need_1 3 rfl rfl)
theorem dX0_need_28 : decode cX0_need 28 = .ok (.getfield 18, 3) := dk_180 0 18 (dk_at dksX0_need_1 4 rfl rfl)
theorem dX0_need_31 : decode cX0_need 31 = .ok (.invokevirtual 222, 3) := dk_182 0 222 (dk_at dksX0_need_1 7 rfl rfl)
theorem dX0_need_34 : decode cX0_need 34 = .ok (.pop, 1) := dk_87 (dk_at dksX0_need_1 10 rfl rfl)
theorem dX0_need_35 : decode cX0_need 35 = .ok (.iconst 1, 1) := dk_4 (dk_at dksX0_need_1 11 rfl rfl)
theorem dX0_need_36 : decode cX0_need 36 = .ok (.istore_n 3, 1) := dk_62 (dk_at dksX0_need_1 12 rfl rfl)
theorem dX0_need_37 : decode cX0_need 37 = .ok (.iload_n 3, 1) := dk_29 (dk_at dksX0_need_1 13 rfl rfl)
theorem dX0_need_38 : decode cX0_need 38 = .ok (.bipush 60, 2) := dk_16 60 (dk_at dksX0_need_1 14 rfl rfl)
theorem dX0_need_40 : decode cX0_need 40 = .ok (.if_icmp .gt 28, 3) := dk_163 0 28 (dk_at dksX0_need_1 16 rfl rfl)
theorem dX0_need_43 : decode cX0_need 43 = .ok (.aload_n 0, 1) := dk_42 (dk_at dksX0_need_1 19 rfl rfl)
theorem dX0_need_44 : decode cX0_need 44 = .ok (.iload_n 1, 1) := dk_27 (dk_at dksX0_need_1 20 rfl rfl)
theorem dX0_need_45 : decode cX0_need 45 = .ok (.iload_n 3, 1) := dk_29 (dk_at dksX0_need_1 21 rfl rfl)
theorem dX0_need_46 : decode cX0_need 46 = .ok (.aload_n 0, 1) := dk_42 (dk_at dksX0_need_1 22 rfl rfl)
theorem dX0_need_47 : decode cX0_need 47 = .ok (.getfield 18, 3) := dk_180 0 18 (dk_at dksX0_need_2 0 rfl rfl)
theorem dX0_need_50 : decode cX0_need 50 = .ok (.getfield 77, 3) := dk_180 0 77 (dk_at dksX0_need_2 3 rfl rfl)
theorem dX0_need_53 : decode cX0_need 53 = .ok (.invokevirtual 276, 3) := dk_182 1 20 (dk_at dksX0_need_2 6 rfl rfl)
theorem dX0_need_56 : decode cX0_need 56 = .ok (.iload_n 2, 1) := dk_28 (dk_at dksX0_need_2 9 rfl rfl)
theorem dX0_need_57 : decode cX0_need 57 = .ok (.if_icmp .lt 5, 3) := dk_161 0 5 (dk_at dksX0_need_2 10 rfl rfl)
theorem dX0_need_60 : decode cX0_need 60 = .ok (.iload_n 3, 1) := dk_29 (dk_at dksX0_need_2 13 rfl rfl)
theorem dX0_need_61 : decode cX0_need 61 = .ok (.ireturn, 1) := dk_172 (dk_at dksX0_need_2 14 rfl rfl)
theorem dX0_need_62 : decode cX0_need 62 = .ok (.iinc 3 1, 3) := dk_132 3 1 (dk_at dksX0_need_2 15 rfl rfl)
theorem dX0_need_65 : decode cX0_need 65 = .ok (.goto (-28), 3) := dk_167 255 228 (dk_at dksX0_need_2 18 rfl rfl)
theorem dX0_need_68 : decode cX0_need 68 = .ok (.bipush (-5), 2) := dk_16 251 (dk_at dksX0_need_2 21 rfl rfl)
theorem dX0_need_70 : decode cX0_need 70 = .ok (.ireturn, 1) := dk_172 (dk_at dksX0_need_2 23 rfl rfl)
abbrev cX0_hadBy : ByteArray := prog_1_method_22_code
def yX0_hadBy : MethodName := ⟨RX0, "hadBy", "(III)I"⟩
def dkwX0_hadBy_2 : List UInt8 := [182, 0, 254, 192, 0, 36, 182, 1, 5, 42, 180, 0, 29, 180, 1, 6, 172]
abbrev dktX0_hadBy_2 : List UInt8 := dkwX0_hadBy_2 ++ []
def dkwX0_hadBy_1 : List UInt8 := [28, 184, 0, 93, 181, 1, 9, 42, 180, 0, 29, 182, 1, 19, 42, 180, 0, 29, 42, 180, 0, 39, 27]
abbrev dktX0_hadBy_1 : List UInt8 := dkwX0_hadBy_1 ++ dktX0_hadBy_2
def dkwX0_hadBy_0 : List UInt8 := [42, 180, 0, 29, 42, 180, 0, 25, 182, 1, 14, 42, 180, 0, 29, 28, 181, 1, 18, 42, 180, 0, 29, 29]
abbrev dktX0_hadBy_0 : List UInt8 := dkwX0_hadBy_0 ++ dktX0_hadBy_1
theorem dksX0_hadBy_0 : cX0_hadBy.data.toList.drop 0 = dktX0_hadBy_0 := by decide +kernel
theorem dksX0_hadBy_1 : cX0_hadBy.data.toList.drop 24 = dktX0_hadBy_1 := dk_seg dksX0_hadBy_0 24 rfl rfl
theorem dksX0_hadBy_2 : cX0_hadBy.data.toList.drop 47 = dktX0_hadBy_2 := dk_seg dksX0_hadBy_1 23 rfl rfl
theorem dX0_hadBy_0 : decode cX0_hadBy 0 = .ok (.aload_n 0, 1) := dk_42 (dk_at dksX0_hadBy_0 0 rfl rfl)
theorem dX0_hadBy_1 : decode cX0_hadBy 1 = .ok (.getfield 29, 3) := dk_180 0 29 (dk_at dksX0_hadBy_0 1 rfl rfl)
theorem dX0_hadBy_4 : decode cX0_hadBy 4 = .ok (.aload_n 0, 1) := dk_42 (dk_at dksX0_hadBy_0 4 rfl rfl)
theorem dX0_hadBy_5 : decode cX0_hadBy 5 = .ok (.getfield 25, 3) := dk_180 0 25 (dk_at dksX0_hadBy_0 5 rfl rfl)
theorem dX0_hadBy_8 : decode cX0_hadBy 8 = .ok (.invokevirtual 270, 3) := dk_182 1 14 (dk_at dksX0_hadBy_0 8 rfl rfl)
theorem dX0_hadBy_11 : decode cX0_hadBy 11 = .ok (.aload_n 0, 1) := dk_42 (dk_at dksX0_hadBy_0 11 rfl rfl)
theorem dX0_hadBy_12 : decode cX0_hadBy 12 = .ok (.getfield 29, 3) := dk_180 0 29 (dk_at dksX0_hadBy_0 12 rfl rfl)
theorem dX0_hadBy_15 : decode cX0_hadBy 15 = .ok (.iload_n 2, 1) := dk_28 (dk_at dksX0_hadBy_0 15 rfl rfl)
theorem dX0_hadBy_16 : decode cX0_hadBy 16 = .ok (.putfield 274, 3) := dk_181 1 18 (dk_at dksX0_hadBy_0 16 rfl rfl)
theorem dX0_hadBy_19 : decode cX0_hadBy 19 = .ok (.aload_n 0, 1) := dk_42 (dk_at dksX0_hadBy_0 19 rfl rfl)
theorem dX0_hadBy_20 : decode cX0_hadBy 20 = .ok (.getfield 29, 3) := dk_180 0 29 (dk_at dksX0_hadBy_0 20 rfl rfl)
theorem dX0_hadBy_23 : decode cX0_hadBy 23 = .ok (.iload_n 3, 1) := dk_29 (dk_at dksX0_hadBy_0 23 rfl rfl)
theorem dX0_hadBy_24 : decode cX0_hadBy 24 = .ok (.iload_n 2, 1) := dk_28 (dk_at dksX0_hadBy_1 0 rfl rfl)
theorem dX0_hadBy_25 : decode cX0_hadBy 25 = .ok (.invokestatic 93, 3) := dk_184 0 93 (dk_at dksX0_hadBy_1 1 rfl rfl)
theorem dX0_hadBy_28 : decode cX0_hadBy 28 = .ok (.putfield 265, 3) := dk_181 1 9 (dk_at dksX0_hadBy_1 4 rfl rfl)
theorem dX0_hadBy_31 : decode cX0_hadBy 31 = .ok (.aload_n 0, 1) := dk_42 (dk_at dksX0_hadBy_1 7 rfl rfl)
theorem dX0_hadBy_32 : decode cX0_hadBy 32 = .ok (.getfield 29, 3) := dk_180 0 29 (dk_at dksX0_hadBy_1 8 rfl rfl)
theorem dX0_hadBy_35 : decode cX0_hadBy 35 = .ok (.invokevirtual 275, 3) := dk_182 1 19 (dk_at dksX0_hadBy_1 11 rfl rfl)
theorem dX0_hadBy_38 : decode cX0_hadBy 38 = .ok (.aload_n 0, 1) := dk_42 (dk_at dksX0_hadBy_1 14 rfl rfl)
theorem dX0_hadBy_39 : decode cX0_hadBy 39 = .ok (.getfield 29, 3) := dk_180 0 29 (dk_at dksX0_hadBy_1 15 rfl rfl)
theorem dX0_hadBy_42 : decode cX0_hadBy 42 = .ok (.aload_n 0, 1) := dk_42 (dk_at dksX0_hadBy_1 18 rfl rfl)
theorem dX0_hadBy_43 : decode cX0_hadBy 43 = .ok (.getfield 39, 3) := dk_180 0 39 (dk_at dksX0_hadBy_1 19 rfl rfl)
theorem dX0_hadBy_46 : decode cX0_hadBy 46 = .ok (.iload_n 1, 1) := dk_27 (dk_at dksX0_hadBy_1 22 rfl rfl)
theorem dX0_hadBy_47 : decode cX0_hadBy 47 = .ok (.invokevirtual 254, 3) := dk_182 0 254 (dk_at dksX0_hadBy_2 0 rfl rfl)
theorem dX0_hadBy_50 : decode cX0_hadBy 50 = .ok (.checkcast 36, 3) := dk_192 0 36 (dk_at dksX0_hadBy_2 3 rfl rfl)
theorem dX0_hadBy_53 : decode cX0_hadBy 53 = .ok (.invokevirtual 261, 3) := dk_182 1 5 (dk_at dksX0_hadBy_2 6 rfl rfl)
theorem dX0_hadBy_56 : decode cX0_hadBy 56 = .ok (.aload_n 0, 1) := dk_42 (dk_at dksX0_hadBy_2 9 rfl rfl)
theorem dX0_hadBy_57 : decode cX0_hadBy 57 = .ok (.getfield 29, 3) := dk_180 0 29 (dk_at dksX0_hadBy_2 10 rfl rfl)
theorem dX0_hadBy_60 : decode cX0_hadBy 60 = .ok (.getfield 262, 3) := dk_180 1 6 (dk_at dksX0_hadBy_2 13 rfl rfl)
theorem dX0_hadBy_63 : decode cX0_hadBy 63 = .ok (.ireturn, 1) := dk_172 (dk_at dksX0_hadBy_2 16 rfl rfl)
abbrev cX0_odds : ByteArray := prog_1_method_26_code
def yX0_odds : MethodName := ⟨RX0, "odds", "(III)J"⟩
def dkwX0_odds_4 : List UInt8 := [180, 0, 18, 180, 0, 73, 4, 96, 133, 29, 184, 1, 28, 173]
abbrev dktX0_odds_4 : List UInt8 := dkwX0_odds_4 ++ []
def dkwX0_odds_3 : List UInt8 := [21, 6, 182, 1, 20, 28, 161, 0, 9, 22, 4, 10, 97, 55, 4, 132, 6, 1, 167, 255, 217, 22, 4, 42]
abbrev dktX0_odds_3 : List UInt8 := dkwX0_odds_3 ++ dktX0_odds_4
def dkwX0_odds_2 : List UInt8 := [54, 6, 21, 6, 42, 180, 0, 18, 180, 0, 73, 163, 0, 33, 42, 27, 42, 180, 0, 18, 180, 0, 73]
abbrev dktX0_odds_2 : List UInt8 := dkwX0_odds_2 ++ dktX0_odds_3
def dkwX0_odds_1 : List UInt8 := [154, 0, 7, 20, 0, 140, 173, 9, 55, 4, 42, 180, 0, 25, 42, 180, 0, 18, 182, 0, 222, 87, 3]
abbrev dktX0_odds_1 : List UInt8 := dkwX0_odds_1 ++ dktX0_odds_2
def dkwX0_odds_0 : List UInt8 := [42, 27, 182, 0, 250, 153, 0, 22, 28, 3, 16, 20, 184, 0, 5, 153, 0, 12, 29, 3, 4, 184, 0, 5]
abbrev dktX0_odds_0 : List UInt8 := dkwX0_odds_0 ++ dktX0_odds_1
theorem dksX0_odds_0 : cX0_odds.data.toList.drop 0 = dktX0_odds_0 := by decide +kernel
theorem dksX0_odds_1 : cX0_odds.data.toList.drop 24 = dktX0_odds_1 := dk_seg dksX0_odds_0 24 rfl rfl
theorem dksX0_odds_2 : cX0_odds.data.toList.drop 47 = dktX0_odds_2 := dk_seg dksX0_odds_1 23 rfl rfl
theorem dksX0_odds_3 : cX0_odds.data.toList.drop 70 = dktX0_odds_3 := dk_seg dksX0_odds_2 23 rfl rfl
theorem dksX0_odds_4 : cX0_odds.data.toList.drop 94 = dktX0_odds_4 := dk_seg dksX0_odds_3 24 rfl rfl
theorem dX0_odds_0 : decode cX0_odds 0 = .ok (.aload_n 0, 1) := dk_42 (dk_at dksX0_odds_0 0 rfl rfl)
theorem dX0_odds_1 : decode cX0_odds 1 = .ok (.iload_n 1, 1) := dk_27 (dk_at dksX0_odds_0 1 rfl rfl)
theorem dX0_odds_2 : decode cX0_odds 2 = .ok (.invokevirtual 250, 3) := dk_182 0 250 (dk_at dksX0_odds_0 2 rfl rfl)
theorem dX0_odds_5 : decode cX0_odds 5 = .ok (.ifCond .eq 22, 3) := dk_153 0 22 (dk_at dksX0_odds_0 5 rfl rfl)
theorem dX0_odds_8 : decode cX0_odds 8 = .ok (.iload_n 2, 1) := dk_28 (dk_at dksX0_odds_0 8 rfl rfl)
theorem dX0_odds_9 : decode cX0_odds 9 = .ok (.iconst 0, 1) := dk_3 (dk_at dksX0_odds_0 9 rfl rfl)
theorem dX0_odds_10 : decode cX0_odds 10 = .ok (.bipush 20, 2) := dk_16 20 (dk_at dksX0_odds_0 10 rfl rfl)
theorem dX0_odds_12 : decode cX0_odds 12 = .ok (.invokestatic 5, 3) := dk_184 0 5 (dk_at dksX0_odds_0 12 rfl rfl)
theorem dX0_odds_15 : decode cX0_odds 15 = .ok (.ifCond .eq 12, 3) := dk_153 0 12 (dk_at dksX0_odds_0 15 rfl rfl)
theorem dX0_odds_18 : decode cX0_odds 18 = .ok (.iload_n 3, 1) := dk_29 (dk_at dksX0_odds_0 18 rfl rfl)
theorem dX0_odds_19 : decode cX0_odds 19 = .ok (.iconst 0, 1) := dk_3 (dk_at dksX0_odds_0 19 rfl rfl)
theorem dX0_odds_20 : decode cX0_odds 20 = .ok (.iconst 1, 1) := dk_4 (dk_at dksX0_odds_0 20 rfl rfl)
theorem dX0_odds_21 : decode cX0_odds 21 = .ok (.invokestatic 5, 3) := dk_184 0 5 (dk_at dksX0_odds_0 21 rfl rfl)
theorem dX0_odds_24 : decode cX0_odds 24 = .ok (.ifCond .ne 7, 3) := dk_154 0 7 (dk_at dksX0_odds_1 0 rfl rfl)
theorem dX0_odds_27 : decode cX0_odds 27 = .ok (.ldc2_w 140, 3) := dk_20 0 140 (dk_at dksX0_odds_1 3 rfl rfl)
theorem dX0_odds_30 : decode cX0_odds 30 = .ok (.lreturn, 1) := dk_173 (dk_at dksX0_odds_1 6 rfl rfl)
theorem dX0_odds_31 : decode cX0_odds 31 = .ok (.lconst 0, 1) := dk_9 (dk_at dksX0_odds_1 7 rfl rfl)
theorem dX0_odds_32 : decode cX0_odds 32 = .ok (.lstore 4, 2) := dk_55 4 (dk_at dksX0_odds_1 8 rfl rfl)
theorem dX0_odds_34 : decode cX0_odds 34 = .ok (.aload_n 0, 1) := dk_42 (dk_at dksX0_odds_1 10 rfl rfl)
theorem dX0_odds_35 : decode cX0_odds 35 = .ok (.getfield 25, 3) := dk_180 0 25 (dk_at dksX0_odds_1 11 rfl rfl)
theorem dX0_odds_38 : decode cX0_odds 38 = .ok (.aload_n 0, 1) := dk_42 (dk_at dksX0_odds_1 14 rfl rfl)
theorem dX0_odds_39 : decode cX0_odds 39 = .ok (.getfield 18, 3) := dk_180 0 18 (dk_at dksX0_odds_1 15 rfl rfl)
theorem dX0_odds_42 : decode cX0_odds 42 = .ok (.invokevirtual 222, 3) := dk_182 0 222 (dk_at dksX0_odds_1 18 rfl rfl)
theorem dX0_odds_45 : decode cX0_odds 45 = .ok (.pop, 1) := dk_87 (dk_at dksX0_odds_1 21 rfl rfl)
theorem dX0_odds_46 : decode cX0_odds 46 = .ok (.iconst 0, 1) := dk_3 (dk_at dksX0_odds_1 22 rfl rfl)
theorem dX0_odds_47 : decode cX0_odds 47 = .ok (.istore 6, 2) := dk_54 6 (dk_at dksX0_odds_2 0 rfl rfl)
theorem dX0_odds_49 : decode cX0_odds 49 = .ok (.iload 6, 2) := dk_21 6 (dk_at dksX0_odds_2 2 rfl rfl)
theorem dX0_odds_51 : decode cX0_odds 51 = .ok (.aload_n 0, 1) := dk_42 (dk_at dksX0_odds_2 4 rfl rfl)
theorem dX0_odds_52 : decode cX0_odds 52 = .ok (.getfield 18, 3) := dk_180 0 18 (dk_at dksX0_odds_2 5 rfl rfl)
theorem dX0_odds_55 : decode cX0_odds 55 = .ok (.getfield 73, 3) := dk_180 0 73 (dk_at dksX0_odds_2 8 rfl rfl)
theorem dX0_odds_58 : decode cX0_odds 58 = .ok (.if_icmp .gt 33, 3) := dk_163 0 33 (dk_at dksX0_odds_2 11 rfl rfl)
theorem dX0_odds_61 : decode cX0_odds 61 = .ok (.aload_n 0, 1) := dk_42 (dk_at dksX0_odds_2 14 rfl rfl)
theorem dX0_odds_62 : decode cX0_odds 62 = .ok (.iload_n 1, 1) := dk_27 (dk_at dksX0_odds_2 15 rfl rfl)
theorem dX0_odds_63 : decode cX0_odds 63 = .ok (.aload_n 0, 1) := dk_42 (dk_at dksX0_odds_2 16 rfl rfl)
theorem dX0_odds_64 : decode cX0_odds 64 = .ok (.getfield 18, 3) := dk_180 0 18 (dk_at dksX0_odds_2 17 rfl rfl)
theorem dX0_odds_67 : decode cX0_odds 67 = .ok (.getfield 73, 3) := dk_180 0 73 (dk_at dksX0_odds_2 20 rfl rfl)
theorem dX0_odds_70 : decode cX0_odds 70 = .ok (.iload 6, 2) := dk_21 6 (dk_at dksX0_odds_3 0 rfl rfl)
theorem dX0_odds_72 : decode cX0_odds 72 = .ok (.invokevirtual 276, 3) := dk_182 1 20 (dk_at dksX0_odds_3 2 rfl rfl)
theorem dX0_odds_75 : decode cX0_odds 75 = .ok (.iload_n 2, 1) := dk_28 (dk_at dksX0_odds_3 5 rfl rfl)
theorem dX0_odds_76 : decode cX0_odds 76 = .ok (.if_icmp .lt 9, 3) := dk_161 0 9 (dk_at dksX0_odds_3 6 rfl rfl)
theorem dX0_odds_79 : decode cX0_odds 79 = .ok (.lload 4, 2) := dk_22 4 (dk_at dksX0_odds_3 9 rfl rfl)
theorem dX0_odds_81 : decode cX0_odds 81 = .ok (.lconst 1, 1) := dk_10 (dk_at dksX0_odds_3 11 rfl rfl)
theorem dX0_odds_82 : decode cX0_odds 82 = .ok (.ladd, 1) := dk_97 (dk_at dksX0_odds_3 12 rfl rfl)
theorem dX0_odds_83 : decode cX0_odds 83 = .ok (.lstore 4, 2) := dk_55 4 (dk_at dksX0_odds_3 13 rfl rfl)
theorem dX0_odds_85 : decode cX0_odds 85 = .ok (.iinc 6 1, 3) := dk_132 6 1 (dk_at dksX0_odds_3 15 rfl rfl)
theorem dX0_odds_88 : decode cX0_odds 88 = .ok (.goto (-39), 3) := dk_167 255 217 (dk_at dksX0_odds_3 18 rfl rfl)
theorem dX0_odds_91 : decode cX0_odds 91 = .ok (.lload 4, 2) := dk_22 4 (dk_at dksX0_odds_3 21 rfl rfl)
theorem dX0_odds_93 : decode cX0_odds 93 = .ok (.aload_n 0, 1) := dk_42 (dk_at dksX0_odds_3 23 rfl rfl)
theorem dX0_odds_94 : decode cX0_odds 94 = .ok (.getfield 18, 3) := dk_180 0 18 (dk_at dksX0_odds_4 0 rfl rfl)
theorem dX0_odds_97 : decode cX0_odds 97 = .ok (.getfield 73, 3) := dk_180 0 73 (dk_at dksX0_odds_4 3 rfl rfl)
theorem dX0_odds_100 : decode cX0_odds 100 = .ok (.iconst 1, 1) := dk_4 (dk_at dksX0_odds_4 6 rfl rfl)
theorem dX0_odds_101 : decode cX0_odds 101 = .ok (.iadd, 1) := dk_96 (dk_at dksX0_odds_4 7 rfl rfl)
theorem dX0_odds_102 : decode cX0_odds 102 = .ok (.i2l, 1) := dk_133 (dk_at dksX0_odds_4 8 rfl rfl)
theorem dX0_odds_103 : decode cX0_odds 103 = .ok (.iload_n 3, 1) := dk_29 (dk_at dksX0_odds_4 9 rfl rfl)
theorem dX0_odds_104 : decode cX0_odds 104 = .ok (.invokestatic 284, 3) := dk_184 1 28 (dk_at dksX0_odds_4 10 rfl rfl)
theorem dX0_odds_107 : decode cX0_odds 107 = .ok (.lreturn, 1) := dk_173 (dk_at dksX0_odds_4 13 rfl rfl)
abbrev cX0_lowest : ByteArray := prog_1_method_25_code
def yX0_lowest : MethodName := ⟨RX0, "lowest", "(JJI)J"⟩
def dkwX0_lowest_0 : List UInt8 := [21, 4, 154, 0, 7, 30, 167, 0, 4, 32, 30, 32, 184, 1, 24, 109, 173]
abbrev dktX0_lowest_0 : List UInt8 := dkwX0_lowest_0 ++ []
theorem dksX0_lowest_0 : cX0_lowest.data.toList.drop 0 = dktX0_lowest_0 := by decide +kernel
theorem dX0_lowest_0 : decode cX0_lowest 0 = .ok (.iload 4, 2) := dk_21 4 (dk_at dksX0_lowest_0 0 rfl rfl)
theorem dX0_lowest_2 : decode cX0_lowest 2 = .ok (.ifCond .ne 7, 3) := dk_154 0 7 (dk_at dksX0_lowest_0 2 rfl rfl)
theorem dX0_lowest_5 : decode cX0_lowest 5 = .ok (.lload_n 0, 1) := dk_30 (dk_at dksX0_lowest_0 5 rfl rfl)
theorem dX0_lowest_6 : decode cX0_lowest 6 = .ok (.goto 4, 3) := dk_167 0 4 (dk_at dksX0_lowest_0 6 rfl rfl)
theorem dX0_lowest_9 : decode cX0_lowest 9 = .ok (.lload_n 2, 1) := dk_32 (dk_at dksX0_lowest_0 9 rfl rfl)
theorem dX0_lowest_10 : decode cX0_lowest 10 = .ok (.lload_n 0, 1) := dk_30 (dk_at dksX0_lowest_0 10 rfl rfl)
theorem dX0_lowest_11 : decode cX0_lowest 11 = .ok (.lload_n 2, 1) := dk_32 (dk_at dksX0_lowest_0 11 rfl rfl)
theorem dX0_lowest_12 : decode cX0_lowest 12 = .ok (.invokestatic 280, 3) := dk_184 1 24 (dk_at dksX0_lowest_0 12 rfl rfl)
theorem dX0_lowest_15 : decode cX0_lowest 15 = .ok (.ldiv, 1) := dk_109 (dk_at dksX0_lowest_0 15 rfl rfl)
theorem dX0_lowest_16 : decode cX0_lowest 16 = .ok (.lreturn, 1) := dk_173 (dk_at dksX0_lowest_0 16 rfl rfl)
abbrev cX0_divisor : ByteArray := prog_1_method_24_code
def yX0_divisor : MethodName := ⟨RX0, "divisor", "(JJ)J"⟩
def dkwX0_divisor_1 : List UInt8 := [22, 4, 173]
abbrev dktX0_divisor_1 : List UInt8 := dkwX0_divisor_1 ++ []
def dkwX0_divisor_0 : List UInt8 := [30, 55, 4, 32, 9, 148, 153, 0, 18, 22, 4, 32, 113, 55, 6, 32, 55, 4, 22, 6, 65, 167, 255, 238]
abbrev dktX0_divisor_0 : List UInt8 := dkwX0_divisor_0 ++ dktX0_divisor_1
theorem dksX0_divisor_0 : cX0_divisor.data.toList.drop 0 = dktX0_divisor_0 := by decide +kernel
theorem dksX0_divisor_1 : cX0_divisor.data.toList.drop 24 = dktX0_divisor_1 := dk_seg dksX0_divisor_0 24 rfl rfl
theorem dX0_divisor_0 : decode cX0_divisor 0 = .ok (.lload_n 0, 1) := dk_30 (dk_at dksX0_divisor_0 0 rfl rfl)
theorem dX0_divisor_1 : decode cX0_divisor 1 = .ok (.lstore 4, 2) := dk_55 4 (dk_at dksX0_divisor_0 1 rfl rfl)
theorem dX0_divisor_3 : decode cX0_divisor 3 = .ok (.lload_n 2, 1) := dk_32 (dk_at dksX0_divisor_0 3 rfl rfl)
theorem dX0_divisor_4 : decode cX0_divisor 4 = .ok (.lconst 0, 1) := dk_9 (dk_at dksX0_divisor_0 4 rfl rfl)
theorem dX0_divisor_5 : decode cX0_divisor 5 = .ok (.lcmp, 1) := dk_148 (dk_at dksX0_divisor_0 5 rfl rfl)
theorem dX0_divisor_6 : decode cX0_divisor 6 = .ok (.ifCond .eq 18, 3) := dk_153 0 18 (dk_at dksX0_divisor_0 6 rfl rfl)
theorem dX0_divisor_9 : decode cX0_divisor 9 = .ok (.lload 4, 2) := dk_22 4 (dk_at dksX0_divisor_0 9 rfl rfl)
theorem dX0_divisor_11 : decode cX0_divisor 11 = .ok (.lload_n 2, 1) := dk_32 (dk_at dksX0_divisor_0 11 rfl rfl)
theorem dX0_divisor_12 : decode cX0_divisor 12 = .ok (.lrem, 1) := dk_113 (dk_at dksX0_divisor_0 12 rfl rfl)
theorem dX0_divisor_13 : decode cX0_divisor 13 = .ok (.lstore 6, 2) := dk_55 6 (dk_at dksX0_divisor_0 13 rfl rfl)
theorem dX0_divisor_15 : decode cX0_divisor 15 = .ok (.lload_n 2, 1) := dk_32 (dk_at dksX0_divisor_0 15 rfl rfl)
theorem dX0_divisor_16 : decode cX0_divisor 16 = .ok (.lstore 4, 2) := dk_55 4 (dk_at dksX0_divisor_0 16 rfl rfl)
theorem dX0_divisor_18 : decode cX0_divisor 18 = .ok (.lload 6, 2) := dk_22 6 (dk_at dksX0_divisor_0 18 rfl rfl)
theorem dX0_divisor_20 : decode cX0_divisor 20 = .ok (.lstore_n 2, 1) := dk_65 (dk_at dksX0_divisor_0 20 rfl rfl)
theorem dX0_divisor_21 : decode cX0_divisor 21 = .ok (.goto (-18), 3) := dk_167 255 238 (dk_at dksX0_divisor_0 21 rfl rfl)
theorem dX0_divisor_24 : decode cX0_divisor 24 = .ok (.lload 4, 2) := dk_22 4 (dk_at dksX0_divisor_1 0 rfl rfl)
theorem dX0_divisor_26 : decode cX0_divisor 26 = .ok (.lreturn, 1) := dk_173 (dk_at dksX0_divisor_1 2 rfl rfl)
abbrev cX0_mean : ByteArray := prog_1_method_27_code
def yX0_mean : MethodName := ⟨RX0, "mean", "(II)J"⟩
def dkwX0_mean_4 : List UInt8 := [54, 5, 21, 5, 154, 0, 9, 20, 0, 140, 167, 0, 11, 33, 21, 5, 133, 28, 184, 1, 28, 173]
abbrev dktX0_mean_4 : List UInt8 := dkwX0_mean_4 ++ []
def dkwX0_mean_3 : List UInt8 := [180, 0, 163, 133, 97, 66, 167, 255, 225, 42, 180, 0, 18, 27, 182, 0, 102, 180, 0, 175, 182, 1, 39]
abbrev dktX0_mean_3 : List UInt8 := dkwX0_mean_3 ++ dktX0_mean_4
def dkwX0_mean_2 : List UInt8 := [185, 0, 205, 1, 0, 153, 0, 27, 25, 5, 185, 0, 211, 1, 0, 192, 0, 147, 58, 6, 33, 25, 6]
abbrev dktX0_mean_2 : List UInt8 := dkwX0_mean_2 ++ dktX0_mean_3
def dkwX0_mean_1 : List UInt8 := [42, 180, 0, 18, 27, 182, 0, 102, 180, 0, 175, 182, 1, 32, 185, 1, 36, 1, 0, 58, 5, 25, 5]
abbrev dktX0_mean_1 : List UInt8 := dkwX0_mean_1 ++ dktX0_mean_2
def dkwX0_mean_0 : List UInt8 := [27, 4, 5, 184, 0, 5, 153, 0, 12, 28, 3, 4, 184, 0, 5, 154, 0, 7, 20, 0, 140, 173, 9, 66]
abbrev dktX0_mean_0 : List UInt8 := dkwX0_mean_0 ++ dktX0_mean_1
theorem dksX0_mean_0 : cX0_mean.data.toList.drop 0 = dktX0_mean_0 := by decide +kernel
theorem dksX0_mean_1 : cX0_mean.data.toList.drop 24 = dktX0_mean_1 := dk_seg dksX0_mean_0 24 rfl rfl
theorem dksX0_mean_2 : cX0_mean.data.toList.drop 47 = dktX0_mean_2 := dk_seg dksX0_mean_1 23 rfl rfl
theorem dksX0_mean_3 : cX0_mean.data.toList.drop 70 = dktX0_mean_3 := dk_seg dksX0_mean_2 23 rfl rfl
theorem dksX0_mean_4 : cX0_mean.data.toList.drop 93 = dktX0_mean_4 := dk_seg dksX0_mean_3 23 rfl rfl
theorem dX0_mean_0 : decode cX0_mean 0 = .ok (.iload_n 1, 1) := dk_27 (dk_at dksX0_mean_0 0 rfl rfl)
theorem dX0_mean_1 : decode cX0_mean 1 = .ok (.iconst 1, 1) := dk_4 (dk_at dksX0_mean_0 1 rfl rfl)
theorem dX0_mean_2 : decode cX0_mean 2 = .ok (.iconst 2, 1) := dk_5 (dk_at dksX0_mean_0 2 rfl rfl)
theorem dX0_mean_3 : decode cX0_mean 3 = .ok (.invokestatic 5, 3) := dk_184 0 5 (dk_at dksX0_mean_0 3 rfl rfl)
theorem dX0_mean_6 : decode cX0_mean 6 = .ok (.ifCond .eq 12, 3) := dk_153 0 12 (dk_at dksX0_mean_0 6 rfl rfl)
theorem dX0_mean_9 : decode cX0_mean 9 = .ok (.iload_n 2, 1) := dk_28 (dk_at dksX0_mean_0 9 rfl rfl)
theorem dX0_mean_10 : decode cX0_mean 10 = .ok (.iconst 0, 1) := dk_3 (dk_at dksX0_mean_0 10 rfl rfl)
theorem dX0_mean_11 : decode cX0_mean 11 = .ok (.iconst 1, 1) := dk_4 (dk_at dksX0_mean_0 11 rfl rfl)
theorem dX0_mean_12 : decode cX0_mean 12 = .ok (.invokestatic 5, 3) := dk_184 0 5 (dk_at dksX0_mean_0 12 rfl rfl)
theorem dX0_mean_15 : decode cX0_mean 15 = .ok (.ifCond .ne 7, 3) := dk_154 0 7 (dk_at dksX0_mean_0 15 rfl rfl)
theorem dX0_mean_18 : decode cX0_mean 18 = .ok (.ldc2_w 140, 3) := dk_20 0 140 (dk_at dksX0_mean_0 18 rfl rfl)
theorem dX0_mean_21 : decode cX0_mean 21 = .ok (.lreturn, 1) := dk_173 (dk_at dksX0_mean_0 21 rfl rfl)
theorem dX0_mean_22 : decode cX0_mean 22 = .ok (.lconst 0, 1) := dk_9 (dk_at dksX0_mean_0 22 rfl rfl)
theorem dX0_mean_23 : decode cX0_mean 23 = .ok (.lstore_n 3, 1) := dk_66 (dk_at dksX0_mean_0 23 rfl rfl)
theorem dX0_mean_24 : decode cX0_mean 24 = .ok (.aload_n 0, 1) := dk_42 (dk_at dksX0_mean_1 0 rfl rfl)
theorem dX0_mean_25 : decode cX0_mean 25 = .ok (.getfield 18, 3) := dk_180 0 18 (dk_at dksX0_mean_1 1 rfl rfl)
theorem dX0_mean_28 : decode cX0_mean 28 = .ok (.iload_n 1, 1) := dk_27 (dk_at dksX0_mean_1 4 rfl rfl)
theorem dX0_mean_29 : decode cX0_mean 29 = .ok (.invokevirtual 102, 3) := dk_182 0 102 (dk_at dksX0_mean_1 5 rfl rfl)
theorem dX0_mean_32 : decode cX0_mean 32 = .ok (.getfield 175, 3) := dk_180 0 175 (dk_at dksX0_mean_1 8 rfl rfl)
theorem dX0_mean_35 : decode cX0_mean 35 = .ok (.invokevirtual 288, 3) := dk_182 1 32 (dk_at dksX0_mean_1 11 rfl rfl)
theorem dX0_mean_38 : decode cX0_mean 38 = .ok (.invokeinterface 292 1, 5) := by decide +kernel
theorem dX0_mean_43 : decode cX0_mean 43 = .ok (.astore 5, 2) := dk_58 5 (dk_at dksX0_mean_1 19 rfl rfl)
theorem dX0_mean_45 : decode cX0_mean 45 = .ok (.aload 5, 2) := dk_25 5 (dk_at dksX0_mean_1 21 rfl rfl)
theorem dX0_mean_47 : decode cX0_mean 47 = .ok (.invokeinterface 205 1, 5) := by decide +kernel
theorem dX0_mean_52 : decode cX0_mean 52 = .ok (.ifCond .eq 27, 3) := dk_153 0 27 (dk_at dksX0_mean_2 5 rfl rfl)
theorem dX0_mean_55 : decode cX0_mean 55 = .ok (.aload 5, 2) := dk_25 5 (dk_at dksX0_mean_2 8 rfl rfl)
theorem dX0_mean_57 : decode cX0_mean 57 = .ok (.invokeinterface 211 1, 5) := by decide +kernel
theorem dX0_mean_62 : decode cX0_mean 62 = .ok (.checkcast 147, 3) := dk_192 0 147 (dk_at dksX0_mean_2 15 rfl rfl)
theorem dX0_mean_65 : decode cX0_mean 65 = .ok (.astore 6, 2) := dk_58 6 (dk_at dksX0_mean_2 18 rfl rfl)
theorem dX0_mean_67 : decode cX0_mean 67 = .ok (.lload_n 3, 1) := dk_33 (dk_at dksX0_mean_2 20 rfl rfl)
theorem dX0_mean_68 : decode cX0_mean 68 = .ok (.aload 6, 2) := dk_25 6 (dk_at dksX0_mean_2 21 rfl rfl)
theorem dX0_mean_70 : decode cX0_mean 70 = .ok (.getfield 163, 3) := dk_180 0 163 (dk_at dksX0_mean_3 0 rfl rfl)
theorem dX0_mean_73 : decode cX0_mean 73 = .ok (.i2l, 1) := dk_133 (dk_at dksX0_mean_3 3 rfl rfl)
theorem dX0_mean_74 : decode cX0_mean 74 = .ok (.ladd, 1) := dk_97 (dk_at dksX0_mean_3 4 rfl rfl)
theorem dX0_mean_75 : decode cX0_mean 75 = .ok (.lstore_n 3, 1) := dk_66 (dk_at dksX0_mean_3 5 rfl rfl)
theorem dX0_mean_76 : decode cX0_mean 76 = .ok (.goto (-31), 3) := dk_167 255 225 (dk_at dksX0_mean_3 6 rfl rfl)
theorem dX0_mean_79 : decode cX0_mean 79 = .ok (.aload_n 0, 1) := dk_42 (dk_at dksX0_mean_3 9 rfl rfl)
theorem dX0_mean_80 : decode cX0_mean 80 = .ok (.getfield 18, 3) := dk_180 0 18 (dk_at dksX0_mean_3 10 rfl rfl)
theorem dX0_mean_83 : decode cX0_mean 83 = .ok (.iload_n 1, 1) := dk_27 (dk_at dksX0_mean_3 13 rfl rfl)
theorem dX0_mean_84 : decode cX0_mean 84 = .ok (.invokevirtual 102, 3) := dk_182 0 102 (dk_at dksX0_mean_3 14 rfl rfl)
theorem dX0_mean_87 : decode cX0_mean 87 = .ok (.getfield 175, 3) := dk_180 0 175 (dk_at dksX0_mean_3 17 rfl rfl)
theorem dX0_mean_90 : decode cX0_mean 90 = .ok (.invokevirtual 295, 3) := dk_182 1 39 (dk_at dksX0_mean_3 20 rfl rfl)
theorem dX0_mean_93 : decode cX0_mean 93 = .ok (.istore 5, 2) := dk_54 5 (dk_at dksX0_mean_4 0 rfl rfl)
theorem dX0_mean_95 : decode cX0_mean 95 = .ok (.iload 5, 2) := dk_21 5 (dk_at dksX0_mean_4 2 rfl rfl)
theorem dX0_mean_97 : decode cX0_mean 97 = .ok (.ifCond .ne 9, 3) := dk_154 0 9 (dk_at dksX0_mean_4 4 rfl rfl)
theorem dX0_mean_100 : decode cX0_mean 100 = .ok (.ldc2_w 140, 3) := dk_20 0 140 (dk_at dksX0_mean_4 7 rfl rfl)
theorem dX0_mean_103 : decode cX0_mean 103 = .ok (.goto 11, 3) := dk_167 0 11 (dk_at dksX0_mean_4 10 rfl rfl)
theorem dX0_mean_106 : decode cX0_mean 106 = .ok (.lload_n 3, 1) := dk_33 (dk_at dksX0_mean_4 13 rfl rfl)
theorem dX0_mean_107 : decode cX0_mean 107 = .ok (.iload 5, 2) := dk_21 5 (dk_at dksX0_mean_4 14 rfl rfl)
theorem dX0_mean_109 : decode cX0_mean 109 = .ok (.i2l, 1) := dk_133 (dk_at dksX0_mean_4 16 rfl rfl)
theorem dX0_mean_110 : decode cX0_mean 110 = .ok (.iload_n 2, 1) := dk_28 (dk_at dksX0_mean_4 17 rfl rfl)
theorem dX0_mean_111 : decode cX0_mean 111 = .ok (.invokestatic 284, 3) := dk_184 1 28 (dk_at dksX0_mean_4 18 rfl rfl)
theorem dX0_mean_114 : decode cX0_mean 114 = .ok (.lreturn, 1) := dk_173 (dk_at dksX0_mean_4 21 rfl rfl)
abbrev cX0_book : ByteArray := prog_1_method_28_code
def yX0_book : MethodName := ⟨RX0, "book", "(III)I"⟩
def dkwX0_book_3 : List UInt8 := [180, 1, 40, 90, 4, 96, 181, 1, 40, 29, 79, 42, 180, 1, 40, 172]
abbrev dktX0_book_3 : List UInt8 := dkwX0_book_3 ++ []
def dkwX0_book_2 : List UInt8 := [180, 0, 45, 42, 180, 1, 40, 187, 0, 43, 89, 27, 28, 183, 0, 133, 83, 42, 180, 0, 49, 42, 89]
abbrev dktX0_book_2 : List UInt8 := dkwX0_book_2 ++ dktX0_book_3
def dkwX0_book_1 : List UInt8 := [7, 184, 0, 5, 154, 0, 6, 16, 254, 172, 42, 180, 1, 40, 16, 8, 160, 0, 6, 16, 252, 172, 42]
abbrev dktX0_book_1 : List UInt8 := dkwX0_book_1 ++ dktX0_book_2
def dkwX0_book_0 : List UInt8 := [27, 2, 160, 0, 10, 42, 3, 181, 1, 40, 3, 172, 27, 28, 184, 0, 129, 154, 0, 5, 2, 172, 29, 3]
abbrev dktX0_book_0 : List UInt8 := dkwX0_book_0 ++ dktX0_book_1
theorem dksX0_book_0 : cX0_book.data.toList.drop 0 = dktX0_book_0 := by decide +kernel
theorem dksX0_book_1 : cX0_book.data.toList.drop 24 = dktX0_book_1 := dk_seg dksX0_book_0 24 rfl rfl
theorem dksX0_book_2 : cX0_book.data.toList.drop 47 = dktX0_book_2 := dk_seg dksX0_book_1 23 rfl rfl
theorem dksX0_book_3 : cX0_book.data.toList.drop 70 = dktX0_book_3 := dk_seg dksX0_book_2 23 rfl rfl
theorem dX0_book_0 : decode cX0_book 0 = .ok (.iload_n 1, 1) := dk_27 (dk_at dksX0_book_0 0 rfl rfl)
theorem dX0_book_1 : decode cX0_book 1 = .ok (.iconst (-1), 1) := dk_2 (dk_at dksX0_book_0 1 rfl rfl)
theorem dX0_book_2 : decode cX0_book 2 = .ok (.if_icmp .ne 10, 3) := dk_160 0 10 (dk_at dksX0_book_0 2 rfl rfl)
theorem dX0_book_5 : decode cX0_book 5 = .ok (.aload_n 0, 1) := dk_42 (dk_at dksX0_book_0 5 rfl rfl)
theorem dX0_book_6 : decode cX0_book 6 = .ok (.iconst 0, 1) := dk_3 (dk_at dksX0_book_0 6 rfl rfl)
theorem dX0_book_7 : decode cX0_book 7 = .ok (.putfield 296, 3) := dk_181 1 40 (dk_at dksX0_book_0 7 rfl rfl)
theorem dX0_book_10 : decode cX0_book 10 = .ok (.iconst 0, 1) := dk_3 (dk_at dksX0_book_0 10 rfl rfl)
theorem dX0_book_11 : decode cX0_book 11 = .ok (.ireturn, 1) := dk_172 (dk_at dksX0_book_0 11 rfl rfl)
theorem dX0_book_12 : decode cX0_book 12 = .ok (.iload_n 1, 1) := dk_27 (dk_at dksX0_book_0 12 rfl rfl)
theorem dX0_book_13 : decode cX0_book 13 = .ok (.iload_n 2, 1) := dk_28 (dk_at dksX0_book_0 13 rfl rfl)
theorem dX0_book_14 : decode cX0_book 14 = .ok (.invokestatic 129, 3) := dk_184 0 129 (dk_at dksX0_book_0 14 rfl rfl)
theorem dX0_book_17 : decode cX0_book 17 = .ok (.ifCond .ne 5, 3) := dk_154 0 5 (dk_at dksX0_book_0 17 rfl rfl)
theorem dX0_book_20 : decode cX0_book 20 = .ok (.iconst (-1), 1) := dk_2 (dk_at dksX0_book_0 20 rfl rfl)
theorem dX0_book_21 : decode cX0_book 21 = .ok (.ireturn, 1) := dk_172 (dk_at dksX0_book_0 21 rfl rfl)
theorem dX0_book_22 : decode cX0_book 22 = .ok (.iload_n 3, 1) := dk_29 (dk_at dksX0_book_0 22 rfl rfl)
theorem dX0_book_23 : decode cX0_book 23 = .ok (.iconst 0, 1) := dk_3 (dk_at dksX0_book_0 23 rfl rfl)
theorem dX0_book_24 : decode cX0_book 24 = .ok (.iconst 4, 1) := dk_7 (dk_at dksX0_book_1 0 rfl rfl)
theorem dX0_book_25 : decode cX0_book 25 = .ok (.invokestatic 5, 3) := dk_184 0 5 (dk_at dksX0_book_1 1 rfl rfl)
theorem dX0_book_28 : decode cX0_book 28 = .ok (.ifCond .ne 6, 3) := dk_154 0 6 (dk_at dksX0_book_1 4 rfl rfl)
theorem dX0_book_31 : decode cX0_book 31 = .ok (.bipush (-2), 2) := dk_16 254 (dk_at dksX0_book_1 7 rfl rfl)
theorem dX0_book_33 : decode cX0_book 33 = .ok (.ireturn, 1) := dk_172 (dk_at dksX0_book_1 9 rfl rfl)
theorem dX0_book_34 : decode cX0_book 34 = .ok (.aload_n 0, 1) := dk_42 (dk_at dksX0_book_1 10 rfl rfl)
theorem dX0_book_35 : decode cX0_book 35 = .ok (.getfield 296, 3) := dk_180 1 40 (dk_at dksX0_book_1 11 rfl rfl)
theorem dX0_book_38 : decode cX0_book 38 = .ok (.bipush 8, 2) := dk_16 8 (dk_at dksX0_book_1 14 rfl rfl)
theorem dX0_book_40 : decode cX0_book 40 = .ok (.if_icmp .ne 6, 3) := dk_160 0 6 (dk_at dksX0_book_1 16 rfl rfl)
theorem dX0_book_43 : decode cX0_book 43 = .ok (.bipush (-4), 2) := dk_16 252 (dk_at dksX0_book_1 19 rfl rfl)
theorem dX0_book_45 : decode cX0_book 45 = .ok (.ireturn, 1) := dk_172 (dk_at dksX0_book_1 21 rfl rfl)
theorem dX0_book_46 : decode cX0_book 46 = .ok (.aload_n 0, 1) := dk_42 (dk_at dksX0_book_1 22 rfl rfl)
theorem dX0_book_47 : decode cX0_book 47 = .ok (.getfield 45, 3) := dk_180 0 45 (dk_at dksX0_book_2 0 rfl rfl)
theorem dX0_book_50 : decode cX0_book 50 = .ok (.aload_n 0, 1) := dk_42 (dk_at dksX0_book_2 3 rfl rfl)
theorem dX0_book_51 : decode cX0_book 51 = .ok (.getfield 296, 3) := dk_180 1 40 (dk_at dksX0_book_2 4 rfl rfl)
theorem dX0_book_54 : decode cX0_book 54 = .ok (.new 43, 3) := dk_187 0 43 (dk_at dksX0_book_2 7 rfl rfl)
theorem dX0_book_57 : decode cX0_book 57 = .ok (.dup, 1) := dk_89 (dk_at dksX0_book_2 10 rfl rfl)
theorem dX0_book_58 : decode cX0_book 58 = .ok (.iload_n 1, 1) := dk_27 (dk_at dksX0_book_2 11 rfl rfl)
theorem dX0_book_59 : decode cX0_book 59 = .ok (.iload_n 2, 1) := dk_28 (dk_at dksX0_book_2 12 rfl rfl)
theorem dX0_book_60 : decode cX0_book 60 = .ok (.invokespecial 133, 3) := dk_183 0 133 (dk_at dksX0_book_2 13 rfl rfl)
theorem dX0_book_63 : decode cX0_book 63 = .ok (.aastore, 1) := dk_83 (dk_at dksX0_book_2 16 rfl rfl)
theorem dX0_book_64 : decode cX0_book 64 = .ok (.aload_n 0, 1) := dk_42 (dk_at dksX0_book_2 17 rfl rfl)
theorem dX0_book_65 : decode cX0_book 65 = .ok (.getfield 49, 3) := dk_180 0 49 (dk_at dksX0_book_2 18 rfl rfl)
theorem dX0_book_68 : decode cX0_book 68 = .ok (.aload_n 0, 1) := dk_42 (dk_at dksX0_book_2 21 rfl rfl)
theorem dX0_book_69 : decode cX0_book 69 = .ok (.dup, 1) := dk_89 (dk_at dksX0_book_2 22 rfl rfl)
theorem dX0_book_70 : decode cX0_book 70 = .ok (.getfield 296, 3) := dk_180 1 40 (dk_at dksX0_book_3 0 rfl rfl)
theorem dX0_book_73 : decode cX0_book 73 = .ok (.dup_x1, 1) := dk_90 (dk_at dksX0_book_3 3 rfl rfl)
theorem dX0_book_74 : decode cX0_book 74 = .ok (.iconst 1, 1) := dk_4 (dk_at dksX0_book_3 4 rfl rfl)
theorem dX0_book_75 : decode cX0_book 75 = .ok (.iadd, 1) := dk_96 (dk_at dksX0_book_3 5 rfl rfl)
theorem dX0_book_76 : decode cX0_book 76 = .ok (.putfield 296, 3) := dk_181 1 40 (dk_at dksX0_book_3 6 rfl rfl)
theorem dX0_book_79 : decode cX0_book 79 = .ok (.iload_n 3, 1) := dk_29 (dk_at dksX0_book_3 9 rfl rfl)
theorem dX0_book_80 : decode cX0_book 80 = .ok (.iastore, 1) := dk_79 (dk_at dksX0_book_3 10 rfl rfl)
theorem dX0_book_81 : decode cX0_book 81 = .ok (.aload_n 0, 1) := dk_42 (dk_at dksX0_book_3 11 rfl rfl)
theorem dX0_book_82 : decode cX0_book 82 = .ok (.getfield 296, 3) := dk_180 1 40 (dk_at dksX0_book_3 12 rfl rfl)
theorem dX0_book_85 : decode cX0_book 85 = .ok (.ireturn, 1) := dk_172 (dk_at dksX0_book_3 15 rfl rfl)
abbrev cX0_looked : ByteArray := prog_1_method_29_code
def yX0_looked : MethodName := ⟨RX0, "looked", "()I"⟩
def dkwX0_looked_1 : List UInt8 := [180, 0, 49, 27, 46, 159, 0, 5, 27, 172, 132, 1, 1, 167, 255, 221, 16, 251, 172]
abbrev dktX0_looked_1 : List UInt8 := dkwX0_looked_1 ++ []
def dkwX0_looked_0 : List UInt8 := [3, 60, 27, 42, 180, 1, 40, 162, 0, 33, 42, 180, 0, 18, 42, 180, 0, 45, 27, 50, 182, 0, 172, 42]
abbrev dktX0_looked_0 : List UInt8 := dkwX0_looked_0 ++ dktX0_looked_1
theorem dksX0_looked_0 : cX0_looked.data.toList.drop 0 = dktX0_looked_0 := by decide +kernel
theorem dksX0_looked_1 : cX0_looked.data.toList.drop 24 = dktX0_looked_1 := dk_seg dksX0_looked_0 24 rfl rfl
theorem dX0_looked_0 : decode cX0_looked 0 = .ok (.iconst 0, 1) := dk_3 (dk_at dksX0_looked_0 0 rfl rfl)
theorem dX0_looked_1 : decode cX0_looked 1 = .ok (.istore_n 1, 1) := dk_60 (dk_at dksX0_looked_0 1 rfl rfl)
theorem dX0_looked_2 : decode cX0_looked 2 = .ok (.iload_n 1, 1) := dk_27 (dk_at dksX0_looked_0 2 rfl rfl)
theorem dX0_looked_3 : decode cX0_looked 3 = .ok (.aload_n 0, 1) := dk_42 (dk_at dksX0_looked_0 3 rfl rfl)
theorem dX0_looked_4 : decode cX0_looked 4 = .ok (.getfield 296, 3) := dk_180 1 40 (dk_at dksX0_looked_0 4 rfl rfl)
theorem dX0_looked_7 : decode cX0_looked 7 = .ok (.if_icmp .ge 33, 3) := dk_162 0 33 (dk_at dksX0_looked_0 7 rfl rfl)
theorem dX0_looked_10 : decode cX0_looked 10 = .ok (.aload_n 0, 1) := dk_42 (dk_at dksX0_looked_0 10 rfl rfl)
theorem dX0_looked_11 : decode cX0_looked 11 = .ok (.getfield 18, 3) := dk_180 0 18 (dk_at dksX0_looked_0 11 rfl rfl)
theorem dX0_looked_14 : decode cX0_looked 14 = .ok (.aload_n 0, 1) := dk_42 (dk_at dksX0_looked_0 14 rfl rfl)
theorem dX0_looked_15 : decode cX0_looked 15 = .ok (.getfield 45, 3) := dk_180 0 45 (dk_at dksX0_looked_0 15 rfl rfl)
theorem dX0_looked_18 : decode cX0_looked 18 = .ok (.iload_n 1, 1) := dk_27 (dk_at dksX0_looked_0 18 rfl rfl)
theorem dX0_looked_19 : decode cX0_looked 19 = .ok (.aaload, 1) := dk_50 (dk_at dksX0_looked_0 19 rfl rfl)
theorem dX0_looked_20 : decode cX0_looked 20 = .ok (.invokevirtual 172, 3) := dk_182 0 172 (dk_at dksX0_looked_0 20 rfl rfl)
theorem dX0_looked_23 : decode cX0_looked 23 = .ok (.aload_n 0, 1) := dk_42 (dk_at dksX0_looked_0 23 rfl rfl)
theorem dX0_looked_24 : decode cX0_looked 24 = .ok (.getfield 49, 3) := dk_180 0 49 (dk_at dksX0_looked_1 0 rfl rfl)
theorem dX0_looked_27 : decode cX0_looked 27 = .ok (.iload_n 1, 1) := dk_27 (dk_at dksX0_looked_1 3 rfl rfl)
theorem dX0_looked_28 : decode cX0_looked 28 = .ok (.iaload, 1) := dk_46 (dk_at dksX0_looked_1 4 rfl rfl)
theorem dX0_looked_29 : decode cX0_looked 29 = .ok (.if_icmp .eq 5, 3) := dk_159 0 5 (dk_at dksX0_looked_1 5 rfl rfl)
theorem dX0_looked_32 : decode cX0_looked 32 = .ok (.iload_n 1, 1) := dk_27 (dk_at dksX0_looked_1 8 rfl rfl)
theorem dX0_looked_33 : decode cX0_looked 33 = .ok (.ireturn, 1) := dk_172 (dk_at dksX0_looked_1 9 rfl rfl)
theorem dX0_looked_34 : decode cX0_looked 34 = .ok (.iinc 1 1, 3) := dk_132 1 1 (dk_at dksX0_looked_1 10 rfl rfl)
theorem dX0_looked_37 : decode cX0_looked 37 = .ok (.goto (-35), 3) := dk_167 255 221 (dk_at dksX0_looked_1 13 rfl rfl)
theorem dX0_looked_40 : decode cX0_looked 40 = .ok (.bipush (-5), 2) := dk_16 251 (dk_at dksX0_looked_1 16 rfl rfl)
theorem dX0_looked_42 : decode cX0_looked 42 = .ok (.ireturn, 1) := dk_172 (dk_at dksX0_looked_1 18 rfl rfl)
abbrev cX0_judge : ByteArray := prog_1_method_31_code
def yX0_judge : MethodName := ⟨RX0, "judge", "(II)I"⟩
def dkwX0_judge_1 : List UInt8 := [182, 1, 68, 172, 78, 16, 244, 172]
abbrev dktX0_judge_1 : List UInt8 := dkwX0_judge_1 ++ []
def dkwX0_judge_0 : List UInt8 := [27, 184, 1, 59, 154, 0, 5, 2, 172, 42, 42, 180, 0, 55, 27, 50, 180, 1, 62, 192, 1, 66, 28]
abbrev dktX0_judge_0 : List UInt8 := dkwX0_judge_0 ++ dktX0_judge_1
theorem dksX0_judge_0 : cX0_judge.data.toList.drop 0 = dktX0_judge_0 := by decide +kernel
theorem dksX0_judge_1 : cX0_judge.data.toList.drop 23 = dktX0_judge_1 := dk_seg dksX0_judge_0 23 rfl rfl
theorem dX0_judge_0 : decode cX0_judge 0 = .ok (.iload_n 1, 1) := dk_27 (dk_at dksX0_judge_0 0 rfl rfl)
theorem dX0_judge_1 : decode cX0_judge 1 = .ok (.invokestatic 315, 3) := dk_184 1 59 (dk_at dksX0_judge_0 1 rfl rfl)
theorem dX0_judge_4 : decode cX0_judge 4 = .ok (.ifCond .ne 5, 3) := dk_154 0 5 (dk_at dksX0_judge_0 4 rfl rfl)
theorem dX0_judge_7 : decode cX0_judge 7 = .ok (.iconst (-1), 1) := dk_2 (dk_at dksX0_judge_0 7 rfl rfl)
theorem dX0_judge_8 : decode cX0_judge 8 = .ok (.ireturn, 1) := dk_172 (dk_at dksX0_judge_0 8 rfl rfl)
theorem dX0_judge_9 : decode cX0_judge 9 = .ok (.aload_n 0, 1) := dk_42 (dk_at dksX0_judge_0 9 rfl rfl)
theorem dX0_judge_10 : decode cX0_judge 10 = .ok (.aload_n 0, 1) := dk_42 (dk_at dksX0_judge_0 10 rfl rfl)
theorem dX0_judge_11 : decode cX0_judge 11 = .ok (.getfield 55, 3) := dk_180 0 55 (dk_at dksX0_judge_0 11 rfl rfl)
theorem dX0_judge_14 : decode cX0_judge 14 = .ok (.iload_n 1, 1) := dk_27 (dk_at dksX0_judge_0 14 rfl rfl)
theorem dX0_judge_15 : decode cX0_judge 15 = .ok (.aaload, 1) := dk_50 (dk_at dksX0_judge_0 15 rfl rfl)
theorem dX0_judge_16 : decode cX0_judge 16 = .ok (.getfield 318, 3) := dk_180 1 62 (dk_at dksX0_judge_0 16 rfl rfl)
theorem dX0_judge_19 : decode cX0_judge 19 = .ok (.checkcast 322, 3) := dk_192 1 66 (dk_at dksX0_judge_0 19 rfl rfl)
theorem dX0_judge_22 : decode cX0_judge 22 = .ok (.iload_n 2, 1) := dk_28 (dk_at dksX0_judge_0 22 rfl rfl)
theorem dX0_judge_23 : decode cX0_judge 23 = .ok (.invokevirtual 324, 3) := dk_182 1 68 (dk_at dksX0_judge_1 0 rfl rfl)
theorem dX0_judge_26 : decode cX0_judge 26 = .ok (.ireturn, 1) := dk_172 (dk_at dksX0_judge_1 3 rfl rfl)
theorem dX0_judge_27 : decode cX0_judge 27 = .ok (.astore_n 3, 1) := dk_78 (dk_at dksX0_judge_1 4 rfl rfl)
theorem dX0_judge_28 : decode cX0_judge 28 = .ok (.bipush (-12), 2) := dk_16 244 (dk_at dksX0_judge_1 5 rfl rfl)
theorem dX0_judge_30 : decode cX0_judge 30 = .ok (.ireturn, 1) := dk_172 (dk_at dksX0_judge_1 7 rfl rfl)
abbrev cX0_isTape : ByteArray := prog_1_method_37_code
def yX0_isTape : MethodName := ⟨RX0, "isTape", "(I)Z"⟩
def dkwX0_isTape_0 : List UInt8 := [26, 3, 8, 184, 0, 5, 172]
abbrev dktX0_isTape_0 : List UInt8 := dkwX0_isTape_0 ++ []
theorem dksX0_isTape_0 : cX0_isTape.data.toList.drop 0 = dktX0_isTape_0 := by decide +kernel
theorem dX0_isTape_0 : decode cX0_isTape 0 = .ok (.iload_n 0, 1) := dk_26 (dk_at dksX0_isTape_0 0 rfl rfl)
theorem dX0_isTape_1 : decode cX0_isTape 1 = .ok (.iconst 0, 1) := dk_3 (dk_at dksX0_isTape_0 1 rfl rfl)
theorem dX0_isTape_2 : decode cX0_isTape 2 = .ok (.iconst 5, 1) := dk_8 (dk_at dksX0_isTape_0 2 rfl rfl)
theorem dX0_isTape_3 : decode cX0_isTape 3 = .ok (.invokestatic 5, 3) := dk_184 0 5 (dk_at dksX0_isTape_0 3 rfl rfl)
theorem dX0_isTape_6 : decode cX0_isTape 6 = .ok (.ireturn, 1) := dk_172 (dk_at dksX0_isTape_0 6 rfl rfl)
abbrev cX0_firstOther : ByteArray := prog_1_method_30_code
def yX0_firstOther : MethodName := ⟨RX0, "firstOther", "([SI)I"⟩
def dkwX0_firstOther_4 : List UInt8 := [167, 255, 183, 16, 251, 172, 58, 4, 29, 16, 100, 96, 172, 58, 4, 29, 16, 100, 96, 172]
abbrev dktX0_firstOther_4 : List UInt8 := dkwX0_firstOther_4 ++ []
def dkwX0_firstOther_3 : List UInt8 := [16, 243, 183, 1, 54, 191, 43, 22, 6, 136, 53, 25, 5, 182, 0, 215, 159, 0, 5, 29, 172, 132, 3, 1]
abbrev dktX0_firstOther_3 : List UInt8 := dkwX0_firstOther_3 ++ dktX0_firstOther_4
def dkwX0_firstOther_2 : List UInt8 := [97, 55, 6, 22, 6, 43, 190, 133, 148, 156, 0, 10, 22, 6, 9, 148, 156, 0, 13, 187, 0, 245, 89]
abbrev dktX0_firstOther_2 : List UInt8 := dkwX0_firstOther_2 ++ dktX0_firstOther_3
def dkwX0_firstOther_1 : List UInt8 := [185, 0, 205, 1, 0, 153, 0, 69, 25, 4, 185, 0, 211, 1, 0, 192, 0, 43, 58, 5, 28, 133, 29, 133]
abbrev dktX0_firstOther_1 : List UInt8 := dkwX0_firstOther_1 ++ dktX0_firstOther_2
def dkwX0_firstOther_0 : List UInt8 := [3, 62, 42, 180, 0, 18, 180, 1, 43, 180, 0, 175, 182, 1, 47, 185, 1, 51, 1, 0, 58, 4, 25, 4]
abbrev dktX0_firstOther_0 : List UInt8 := dkwX0_firstOther_0 ++ dktX0_firstOther_1
theorem dksX0_firstOther_0 : cX0_firstOther.data.toList.drop 0 = dktX0_firstOther_0 := by decide +kernel
theorem dksX0_firstOther_1 : cX0_firstOther.data.toList.drop 24 = dktX0_firstOther_1 := dk_seg dksX0_firstOther_0 24 rfl rfl
theorem dksX0_firstOther_2 : cX0_firstOther.data.toList.drop 48 = dktX0_firstOther_2 := dk_seg dksX0_firstOther_1 24 rfl rfl
theorem dksX0_firstOther_3 : cX0_firstOther.data.toList.drop 71 = dktX0_firstOther_3 := dk_seg dksX0_firstOther_2 23 rfl rfl
theorem dksX0_firstOther_4 : cX0_firstOther.data.toList.drop 95 = dktX0_firstOther_4 := dk_seg dksX0_firstOther_3 24 rfl rfl
theorem dX0_firstOther_0 : decode cX0_firstOther 0 = .ok (.iconst 0, 1) := dk_3 (dk_at dksX0_firstOther_0 0 rfl rfl)
theorem dX0_firstOther_1 : decode cX0_firstOther 1 = .ok (.istore_n 3, 1) := dk_62 (dk_at dksX0_firstOther_0 1 rfl rfl)
theorem dX0_firstOther_2 : decode cX0_firstOther 2 = .ok (.aload_n 0, 1) := dk_42 (dk_at dksX0_firstOther_0 2 rfl rfl)
theorem dX0_firstOther_3 : decode cX0_firstOther 3 = .ok (.getfield 18, 3) := dk_180 0 18 (dk_at dksX0_firstOther_0 3 rfl rfl)
theorem dX0_firstOther_6 : decode cX0_firstOther 6 = .ok (.getfield 299, 3) := dk_180 1 43 (dk_at dksX0_firstOther_0 6 rfl rfl)
theorem dX0_firstOther_9 : decode cX0_firstOther 9 = .ok (.getfield 175, 3) := dk_180 0 175 (dk_at dksX0_firstOther_0 9 rfl rfl)
theorem dX0_firstOther_12 : decode cX0_firstOther 12 = .ok (.invokevirtual 303, 3) := dk_182 1 47 (dk_at dksX0_firstOther_0 12 rfl rfl)
theorem dX0_firstOther_15 : decode cX0_firstOther 15 = .ok (.invokeinterface 307 1, 5) := by decide +kernel
theorem dX0_firstOther_20 : decode cX0_firstOther 20 = .ok (.astore 4, 2) := dk_58 4 (dk_at dksX0_firstOther_0 20 rfl rfl)
theorem dX0_firstOther_22 : decode cX0_firstOther 22 = .ok (.aload 4, 2) := dk_25 4 (dk_at dksX0_firstOther_0 22 rfl rfl)
theorem dX0_firstOther_24 : decode cX0_firstOther 24 = .ok (.invokeinterface 205 1, 5) := by decide +kernel
theorem dX0_firstOther_29 : decode cX0_firstOther 29 = .ok (.ifCond .eq 69, 3) := dk_153 0 69 (dk_at dksX0_firstOther_1 5 rfl rfl)
theorem dX0_firstOther_32 : decode cX0_firstOther 32 = .ok (.aload 4, 2) := dk_25 4 (dk_at dksX0_firstOther_1 8 rfl rfl)
theorem dX0_firstOther_34 : decode cX0_firstOther 34 = .ok (.invokeinterface 211 1, 5) := by decide +kernel
theorem dX0_firstOther_39 : decode cX0_firstOther 39 = .ok (.checkcast 43, 3) := dk_192 0 43 (dk_at dksX0_firstOther_1 15 rfl rfl)
theorem dX0_firstOther_42 : decode cX0_firstOther 42 = .ok (.astore 5, 2) := dk_58 5 (dk_at dksX0_firstOther_1 18 rfl rfl)
theorem dX0_firstOther_44 : decode cX0_firstOther 44 = .ok (.iload_n 2, 1) := dk_28 (dk_at dksX0_firstOther_1 20 rfl rfl)
theorem dX0_firstOther_45 : decode cX0_firstOther 45 = .ok (.i2l, 1) := dk_133 (dk_at dksX0_firstOther_1 21 rfl rfl)
theorem dX0_firstOther_46 : decode cX0_firstOther 46 = .ok (.iload_n 3, 1) := dk_29 (dk_at dksX0_firstOther_1 22 rfl rfl)
theorem dX0_firstOther_47 : decode cX0_firstOther 47 = .ok (.i2l, 1) := dk_133 (dk_at dksX0_firstOther_1 23 rfl rfl)
theorem dX0_firstOther_48 : decode cX0_firstOther 48 = .ok (.ladd, 1) := dk_97 (dk_at dksX0_firstOther_2 0 rfl rfl)
theorem dX0_firstOther_49 : decode cX0_firstOther 49 = .ok (.lstore 6, 2) := dk_55 6 (dk_at dksX0_firstOther_2 1 rfl rfl)
theorem dX0_firstOther_51 : decode cX0_firstOther 51 = .ok (.lload 6, 2) := dk_22 6 (dk_at dksX0_firstOther_2 3 rfl rfl)
theorem dX0_firstOther_53 : decode cX0_firstOther 53 = .ok (.aload_n 1, 1) := dk_43 (dk_at dksX0_firstOther_2 5 rfl rfl)
theorem dX0_firstOther_54 : decode cX0_firstOther 54 = .ok (.arraylength, 1) := dk_190 (dk_at dksX0_firstOther_2 6 rfl rfl)
theorem dX0_firstOther_55 : decode cX0_firstOther 55 = .ok (.i2l, 1) := dk_133 (dk_at dksX0_firstOther_2 7 rfl rfl)
theorem dX0_firstOther_56 : decode cX0_firstOther 56 = .ok (.lcmp, 1) := dk_148 (dk_at dksX0_firstOther_2 8 rfl rfl)
theorem dX0_firstOther_57 : decode cX0_firstOther 57 = .ok (.ifCond .ge 10, 3) := dk_156 0 10 (dk_at dksX0_firstOther_2 9 rfl rfl)
theorem dX0_firstOther_60 : decode cX0_firstOther 60 = .ok (.lload 6, 2) := dk_22 6 (dk_at dksX0_firstOther_2 12 rfl rfl)
theorem dX0_firstOther_62 : decode cX0_firstOther 62 = .ok (.lconst 0, 1) := dk_9 (dk_at dksX0_firstOther_2 14 rfl rfl)
theorem dX0_firstOther_63 : decode cX0_firstOther 63 = .ok (.lcmp, 1) := dk_148 (dk_at dksX0_firstOther_2 15 rfl rfl)
theorem dX0_firstOther_64 : decode cX0_firstOther 64 = .ok (.ifCond .ge 13, 3) := dk_156 0 13 (dk_at dksX0_firstOther_2 16 rfl rfl)
theorem dX0_firstOther_67 : decode cX0_firstOther 67 = .ok (.new 245, 3) := dk_187 0 245 (dk_at dksX0_firstOther_2 19 rfl rfl)
theorem dX0_firstOther_70 : decode cX0_firstOther 70 = .ok (.dup, 1) := dk_89 (dk_at dksX0_firstOther_2 22 rfl rfl)
theorem dX0_firstOther_71 : decode cX0_firstOther 71 = .ok (.bipush (-13), 2) := dk_16 243 (dk_at dksX0_firstOther_3 0 rfl rfl)
theorem dX0_firstOther_73 : decode cX0_firstOther 73 = .ok (.invokespecial 310, 3) := dk_183 1 54 (dk_at dksX0_firstOther_3 2 rfl rfl)
theorem dX0_firstOther_76 : decode cX0_firstOther 76 = .ok (.athrow, 1) := dk_191 (dk_at dksX0_firstOther_3 5 rfl rfl)
theorem dX0_firstOther_77 : decode cX0_firstOther 77 = .ok (.aload_n 1, 1) := dk_43 (dk_at dksX0_firstOther_3 6 rfl rfl)
theorem dX0_firstOther_78 : decode cX0_firstOther 78 = .ok (.lload 6, 2) := dk_22 6 (dk_at dksX0_firstOther_3 7 rfl rfl)
theorem dX0_firstOther_80 : decode cX0_firstOther 80 = .ok (.l2i, 1) := dk_136 (dk_at dksX0_firstOther_3 9 rfl rfl)
theorem dX0_firstOther_81 : decode cX0_firstOther 81 = .ok (.saload, 1) := dk_53 (dk_at dksX0_firstOther_3 10 rfl rfl)
theorem dX0_firstOther_82 : decode cX0_firstOther 82 = .ok (.aload 5, 2) := dk_25 5 (dk_at dksX0_firstOther_3 11 rfl rfl)
theorem dX0_firstOther_84 : decode cX0_firstOther 84 = .ok (.invokevirtual 215, 3) := dk_182 0 215 (dk_at dksX0_firstOther_3 13 rfl rfl)
theorem dX0_firstOther_87 : decode cX0_firstOther 87 = .ok (.if_icmp .eq 5, 3) := dk_159 0 5 (dk_at dksX0_firstOther_3 16 rfl rfl)
theorem dX0_firstOther_90 : decode cX0_firstOther 90 = .ok (.iload_n 3, 1) := dk_29 (dk_at dksX0_firstOther_3 19 rfl rfl)
theorem dX0_firstOther_91 : decode cX0_firstOther 91 = .ok (.ireturn, 1) := dk_172 (dk_at dksX0_firstOther_3 20 rfl rfl)
theorem dX0_firstOther_92 : decode cX0_firstOther 92 = .ok (.iinc 3 1, 3) := dk_132 3 1 (dk_at dksX0_firstOther_3 21 rfl rfl)
theorem dX0_firstOther_95 : decode cX0_firstOther 95 = .ok (.goto (-73), 3) := dk_167 255 183 (dk_at dksX0_firstOther_4 0 rfl rfl)
theorem dX0_firstOther_98 : decode cX0_firstOther 98 = .ok (.bipush (-5), 2) := dk_16 251 (dk_at dksX0_firstOther_4 3 rfl rfl)
theorem dX0_firstOther_100 : decode cX0_firstOther 100 = .ok (.ireturn, 1) := dk_172 (dk_at dksX0_firstOther_4 5 rfl rfl)
theorem dX0_firstOther_101 : decode cX0_firstOther 101 = .ok (.astore 4, 2) := dk_58 4 (dk_at dksX0_firstOther_4 6 rfl rfl)
theorem dX0_firstOther_103 : decode cX0_firstOther 103 = .ok (.iload_n 3, 1) := dk_29 (dk_at dksX0_firstOther_4 8 rfl rfl)
theorem dX0_firstOther_104 : decode cX0_firstOther 104 = .ok (.bipush 100, 2) := dk_16 100 (dk_at dksX0_firstOther_4 9 rfl rfl)
theorem dX0_firstOther_106 : decode cX0_firstOther 106 = .ok (.iadd, 1) := dk_96 (dk_at dksX0_firstOther_4 11 rfl rfl)
theorem dX0_firstOther_107 : decode cX0_firstOther 107 = .ok (.ireturn, 1) := dk_172 (dk_at dksX0_firstOther_4 12 rfl rfl)
theorem dX0_firstOther_108 : decode cX0_firstOther 108 = .ok (.astore 4, 2) := dk_58 4 (dk_at dksX0_firstOther_4 13 rfl rfl)
theorem dX0_firstOther_110 : decode cX0_firstOther 110 = .ok (.iload_n 3, 1) := dk_29 (dk_at dksX0_firstOther_4 15 rfl rfl)
theorem dX0_firstOther_111 : decode cX0_firstOther 111 = .ok (.bipush 100, 2) := dk_16 100 (dk_at dksX0_firstOther_4 16 rfl rfl)
theorem dX0_firstOther_113 : decode cX0_firstOther 113 = .ok (.iadd, 1) := dk_96 (dk_at dksX0_firstOther_4 18 rfl rfl)
theorem dX0_firstOther_114 : decode cX0_firstOther 114 = .ok (.ireturn, 1) := dk_172 (dk_at dksX0_firstOther_4 19 rfl rfl)
abbrev cX0_image : ByteArray := prog_1_method_33_code
def yX0_image : MethodName := ⟨RX0, "image", "()I"⟩
def dkwX0_image_2 : List UInt8 := [181, 1, 86, 42, 4, 181, 1, 89, 42, 180, 0, 18, 184, 1, 92, 172]
abbrev dktX0_image_2 : List UInt8 := dkwX0_image_2 ++ []
def dkwX0_image_1 : List UInt8 := [184, 1, 80, 42, 180, 0, 49, 3, 42, 180, 0, 66, 3, 16, 8, 184, 1, 80, 42, 42, 180, 1, 40]
abbrev dktX0_image_1 : List UInt8 := dkwX0_image_1 ++ dktX0_image_2
def dkwX0_image_0 : List UInt8 := [42, 180, 0, 60, 42, 180, 0, 18, 182, 1, 77, 42, 180, 0, 45, 3, 42, 180, 0, 63, 3, 16, 8]
abbrev dktX0_image_0 : List UInt8 := dkwX0_image_0 ++ dktX0_image_1
theorem dksX0_image_0 : cX0_image.data.toList.drop 0 = dktX0_image_0 := by decide +kernel
theorem dksX0_image_1 : cX0_image.data.toList.drop 23 = dktX0_image_1 := dk_seg dksX0_image_0 23 rfl rfl
theorem dksX0_image_2 : cX0_image.data.toList.drop 46 = dktX0_image_2 := dk_seg dksX0_image_1 23 rfl rfl
theorem dX0_image_0 : decode cX0_image 0 = .ok (.aload_n 0, 1) := dk_42 (dk_at dksX0_image_0 0 rfl rfl)
theorem dX0_image_1 : decode cX0_image 1 = .ok (.getfield 60, 3) := dk_180 0 60 (dk_at dksX0_image_0 1 rfl rfl)
theorem dX0_image_4 : decode cX0_image 4 = .ok (.aload_n 0, 1) := dk_42 (dk_at dksX0_image_0 4 rfl rfl)
theorem dX0_image_5 : decode cX0_image 5 = .ok (.getfield 18, 3) := dk_180 0 18 (dk_at dksX0_image_0 5 rfl rfl)
theorem dX0_image_8 : decode cX0_image 8 = .ok (.invokevirtual 333, 3) := dk_182 1 77 (dk_at dksX0_image_0 8 rfl rfl)
theorem dX0_image_11 : decode cX0_image 11 = .ok (.aload_n 0, 1) := dk_42 (dk_at dksX0_image_0 11 rfl rfl)
theorem dX0_image_12 : decode cX0_image 12 = .ok (.getfield 45, 3) := dk_180 0 45 (dk_at dksX0_image_0 12 rfl rfl)
theorem dX0_image_15 : decode cX0_image 15 = .ok (.iconst 0, 1) := dk_3 (dk_at dksX0_image_0 15 rfl rfl)
theorem dX0_image_16 : decode cX0_image 16 = .ok (.aload_n 0, 1) := dk_42 (dk_at dksX0_image_0 16 rfl rfl)
theorem dX0_image_17 : decode cX0_image 17 = .ok (.getfield 63, 3) := dk_180 0 63 (dk_at dksX0_image_0 17 rfl rfl)
theorem dX0_image_20 : decode cX0_image 20 = .ok (.iconst 0, 1) := dk_3 (dk_at dksX0_image_0 20 rfl rfl)
theorem dX0_image_21 : decode cX0_image 21 = .ok (.bipush 8, 2) := dk_16 8 (dk_at dksX0_image_0 21 rfl rfl)
theorem dX0_image_23 : decode cX0_image 23 = .ok (.invokestatic 336, 3) := dk_184 1 80 (dk_at dksX0_image_1 0 rfl rfl)
theorem dX0_image_26 : decode cX0_image 26 = .ok (.aload_n 0, 1) := dk_42 (dk_at dksX0_image_1 3 rfl rfl)
theorem dX0_image_27 : decode cX0_image 27 = .ok (.getfield 49, 3) := dk_180 0 49 (dk_at dksX0_image_1 4 rfl rfl)
theorem dX0_image_30 : decode cX0_image 30 = .ok (.iconst 0, 1) := dk_3 (dk_at dksX0_image_1 7 rfl rfl)
theorem dX0_image_31 : decode cX0_image 31 = .ok (.aload_n 0, 1) := dk_42 (dk_at dksX0_image_1 8 rfl rfl)
theorem dX0_image_32 : decode cX0_image 32 = .ok (.getfield 66, 3) := dk_180 0 66 (dk_at dksX0_image_1 9 rfl rfl)
theorem dX0_image_35 : decode cX0_image 35 = .ok (.iconst 0, 1) := dk_3 (dk_at dksX0_image_1 12 rfl rfl)
theorem dX0_image_36 : decode cX0_image 36 = .ok (.bipush 8, 2) := dk_16 8 (dk_at dksX0_image_1 13 rfl rfl)
theorem dX0_image_38 : decode cX0_image 38 = .ok (.invokestatic 336, 3) := dk_184 1 80 (dk_at dksX0_image_1 15 rfl rfl)
theorem dX0_image_41 : decode cX0_image 41 = .ok (.aload_n 0, 1) := dk_42 (dk_at dksX0_image_1 18 rfl rfl)
theorem dX0_image_42 : decode cX0_image 42 = .ok (.aload_n 0, 1) := dk_42 (dk_at dksX0_image_1 19 rfl rfl)
theorem dX0_image_43 : decode cX0_image 43 = .ok (.getfield 296, 3) := dk_180 1 40 (dk_at dksX0_image_1 20 rfl rfl)
theorem dX0_image_46 : decode cX0_image 46 = .ok (.putfield 342, 3) := dk_181 1 86 (dk_at dksX0_image_2 0 rfl rfl)
theorem dX0_image_49 : decode cX0_image 49 = .ok (.aload_n 0, 1) := dk_42 (dk_at dksX0_image_2 3 rfl rfl)
theorem dX0_image_50 : decode cX0_image 50 = .ok (.iconst 1, 1) := dk_4 (dk_at dksX0_image_2 4 rfl rfl)
theorem dX0_image_51 : decode cX0_image 51 = .ok (.putfield 345, 3) := dk_181 1 89 (dk_at dksX0_image_2 5 rfl rfl)
theorem dX0_image_54 : decode cX0_image 54 = .ok (.aload_n 0, 1) := dk_42 (dk_at dksX0_image_2 8 rfl rfl)
theorem dX0_image_55 : decode cX0_image 55 = .ok (.getfield 18, 3) := dk_180 0 18 (dk_at dksX0_image_2 9 rfl rfl)
theorem dX0_image_58 : decode cX0_image 58 = .ok (.invokestatic 348, 3) := dk_184 1 92 (dk_at dksX0_image_2 12 rfl rfl)
theorem dX0_image_61 : decode cX0_image 61 = .ok (.ireturn, 1) := dk_172 (dk_at dksX0_image_2 15 rfl rfl)
abbrev cX0_things : ByteArray := prog_1_method_32_code
def yX0_things : MethodName := ⟨RX0, "things", "(LSegmentedCache$Cache;)I"⟩
def dkwX0_things_0 : List UInt8 := [42, 180, 1, 43, 180, 0, 175, 182, 1, 39, 42, 180, 1, 74, 180, 0, 175, 182, 1, 39, 96, 172]
abbrev dktX0_things_0 : List UInt8 := dkwX0_things_0 ++ []
theorem dksX0_things_0 : cX0_things.data.toList.drop 0 = dktX0_things_0 := by decide +kernel
theorem dX0_things_0 : decode cX0_things 0 = .ok (.aload_n 0, 1) := dk_42 (dk_at dksX0_things_0 0 rfl rfl)
theorem dX0_things_1 : decode cX0_things 1 = .ok (.getfield 299, 3) := dk_180 1 43 (dk_at dksX0_things_0 1 rfl rfl)
theorem dX0_things_4 : decode cX0_things 4 = .ok (.getfield 175, 3) := dk_180 0 175 (dk_at dksX0_things_0 4 rfl rfl)
theorem dX0_things_7 : decode cX0_things 7 = .ok (.invokevirtual 295, 3) := dk_182 1 39 (dk_at dksX0_things_0 7 rfl rfl)
theorem dX0_things_10 : decode cX0_things 10 = .ok (.aload_n 0, 1) := dk_42 (dk_at dksX0_things_0 10 rfl rfl)
theorem dX0_things_11 : decode cX0_things 11 = .ok (.getfield 330, 3) := dk_180 1 74 (dk_at dksX0_things_0 11 rfl rfl)
theorem dX0_things_14 : decode cX0_things 14 = .ok (.getfield 175, 3) := dk_180 0 175 (dk_at dksX0_things_0 14 rfl rfl)
theorem dX0_things_17 : decode cX0_things 17 = .ok (.invokevirtual 295, 3) := dk_182 1 39 (dk_at dksX0_things_0 17 rfl rfl)
theorem dX0_things_20 : decode cX0_things 20 = .ok (.iadd, 1) := dk_96 (dk_at dksX0_things_0 20 rfl rfl)
theorem dX0_things_21 : decode cX0_things 21 = .ok (.ireturn, 1) := dk_172 (dk_at dksX0_things_0 21 rfl rfl)
abbrev cX0_undo : ByteArray := prog_1_method_34_code
def yX0_undo : MethodName := ⟨RX0, "undo", "()I"⟩
def dkwX0_undo_2 : List UInt8 := [16, 8, 184, 1, 80, 42, 42, 180, 1, 86, 181, 1, 40, 42, 180, 0, 18, 184, 1, 92, 172]
abbrev dktX0_undo_2 : List UInt8 := dkwX0_undo_2 ++ []
def dkwX0_undo_1 : List UInt8 := [180, 0, 63, 3, 42, 180, 0, 45, 3, 16, 8, 184, 1, 80, 42, 180, 0, 66, 3, 42, 180, 0, 49, 3]
abbrev dktX0_undo_1 : List UInt8 := dkwX0_undo_1 ++ dktX0_undo_2
def dkwX0_undo_0 : List UInt8 := [42, 180, 1, 89, 154, 0, 6, 16, 253, 172, 42, 180, 0, 18, 42, 180, 0, 60, 182, 1, 77, 42]
abbrev dktX0_undo_0 : List UInt8 := dkwX0_undo_0 ++ dktX0_undo_1
theorem dksX0_undo_0 : cX0_undo.data.toList.drop 0 = dktX0_undo_0 := by decide +kernel
theorem dksX0_undo_1 : cX0_undo.data.toList.drop 22 = dktX0_undo_1 := dk_seg dksX0_undo_0 22 rfl rfl
theorem dksX0_undo_2 : cX0_undo.data.toList.drop 46 = dktX0_undo_2 := dk_seg dksX0_undo_1 24 rfl rfl
theorem dX0_undo_0 : decode cX0_undo 0 = .ok (.aload_n 0, 1) := dk_42 (dk_at dksX0_undo_0 0 rfl rfl)
theorem dX0_undo_1 : decode cX0_undo 1 = .ok (.getfield 345, 3) := dk_180 1 89 (dk_at dksX0_undo_0 1 rfl rfl)
theorem dX0_undo_4 : decode cX0_undo 4 = .ok (.ifCond .ne 6, 3) := dk_154 0 6 (dk_at dksX0_undo_0 4 rfl rfl)
theorem dX0_undo_7 : decode cX0_undo 7 = .ok (.bipush (-3), 2) := dk_16 253 (dk_at dksX0_undo_0 7 rfl rfl)
theorem dX0_undo_9 : decode cX0_undo 9 = .ok (.ireturn, 1) := dk_172 (dk_at dksX0_undo_0 9 rfl rfl)
theorem dX0_undo_10 : decode cX0_undo 10 = .ok (.aload_n 0, 1) := dk_42 (dk_at dksX0_undo_0 10 rfl rfl)
theorem dX0_undo_11 : decode cX0_undo 11 = .ok (.getfield 18, 3) := dk_180 0 18 (dk_at dksX0_undo_0 11 rfl rfl)
theorem dX0_undo_14 : decode cX0_undo 14 = .ok (.aload_n 0, 1) := dk_42 (dk_at dksX0_undo_0 14 rfl rfl)
theorem dX0_undo_15 : decode cX0_undo 15 = .ok (.getfield 60, 3) := dk_180 0 60 (dk_at dksX0_undo_0 15 rfl rfl)
theorem dX0_undo_18 : decode cX0_undo 18 = .ok (.invokevirtual 333, 3) := dk_182 1 77 (dk_at dksX0_undo_0 18 rfl rfl)
theorem dX0_undo_21 : decode cX0_undo 21 = .ok (.aload_n 0, 1) := dk_42 (dk_at dksX0_undo_0 21 rfl rfl)
theorem dX0_undo_22 : decode cX0_undo 22 = .ok (.getfield 63, 3) := dk_180 0 63 (dk_at dksX0_undo_1 0 rfl rfl)
theorem dX0_undo_25 : decode cX0_undo 25 = .ok (.iconst 0, 1) := dk_3 (dk_at dksX0_undo_1 3 rfl rfl)
theorem dX0_undo_26 : decode cX0_undo 26 = .ok (.aload_n 0, 1) := dk_42 (dk_at dksX0_undo_1 4 rfl rfl)
theorem dX0_undo_27 : decode cX0_undo 27 = .ok (.getfield 45, 3) := dk_180 0 45 (dk_at dksX0_undo_1 5 rfl rfl)
theorem dX0_undo_30 : decode cX0_undo 30 = .ok (.iconst 0, 1) := dk_3 (dk_at dksX0_undo_1 8 rfl rfl)
theorem dX0_undo_31 : decode cX0_undo 31 = .ok (.bipush 8, 2) := dk_16 8 (dk_at dksX0_undo_1 9 rfl rfl)
theorem dX0_undo_33 : decode cX0_undo 33 = .ok (.invokestatic 336, 3) := dk_184 1 80 (dk_at dksX0_undo_1 11 rfl rfl)
theorem dX0_undo_36 : decode cX0_undo 36 = .ok (.aload_n 0, 1) := dk_42 (dk_at dksX0_undo_1 14 rfl rfl)
theorem dX0_undo_37 : decode cX0_undo 37 = .ok (.getfield 66, 3) := dk_180 0 66 (dk_at dksX0_undo_1 15 rfl rfl)
theorem dX0_undo_40 : decode cX0_undo 40 = .ok (.iconst 0, 1) := dk_3 (dk_at dksX0_undo_1 18 rfl rfl)
theorem dX0_undo_41 : decode cX0_undo 41 = .ok (.aload_n 0, 1) := dk_42 (dk_at dksX0_undo_1 19 rfl rfl)
theorem dX0_undo_42 : decode cX0_undo 42 = .ok (.getfield 49, 3) := dk_180 0 49 (dk_at dksX0_undo_1 20 rfl rfl)
theorem dX0_undo_45 : decode cX0_undo 45 = .ok (.iconst 0, 1) := dk_3 (dk_at dksX0_undo_1 23 rfl rfl)
theorem dX0_undo_46 : decode cX0_undo 46 = .ok (.bipush 8, 2) := dk_16 8 (dk_at dksX0_undo_2 0 rfl rfl)
theorem dX0_undo_48 : decode cX0_undo 48 = .ok (.invokestatic 336, 3) := dk_184 1 80 (dk_at dksX0_undo_2 2 rfl rfl)
theorem dX0_undo_51 : decode cX0_undo 51 = .ok (.aload_n 0, 1) := dk_42 (dk_at dksX0_undo_2 5 rfl rfl)
theorem dX0_undo_52 : decode cX0_undo 52 = .ok (.aload_n 0, 1) := dk_42 (dk_at dksX0_undo_2 6 rfl rfl)
theorem dX0_undo_53 : decode cX0_undo 53 = .ok (.getfield 342, 3) := dk_180 1 86 (dk_at dksX0_undo_2 7 rfl rfl)
theorem dX0_undo_56 : decode cX0_undo 56 = .ok (.putfield 296, 3) := dk_181 1 40 (dk_at dksX0_undo_2 10 rfl rfl)
theorem dX0_undo_59 : decode cX0_undo 59 = .ok (.aload_n 0, 1) := dk_42 (dk_at dksX0_undo_2 13 rfl rfl)
theorem dX0_undo_60 : decode cX0_undo 60 = .ok (.getfield 18, 3) := dk_180 0 18 (dk_at dksX0_undo_2 14 rfl rfl)
theorem dX0_undo_63 : decode cX0_undo 63 = .ok (.invokestatic 348, 3) := dk_184 1 92 (dk_at dksX0_undo_2 17 rfl rfl)
theorem dX0_undo_66 : decode cX0_undo 66 = .ok (.ireturn, 1) := dk_172 (dk_at dksX0_undo_2 20 rfl rfl)
abbrev cX0_count : ByteArray := prog_1_method_35_code
def yX0_count : MethodName := ⟨RX0, "count", "(I)I"⟩
def dkwX0_count_3 : List UInt8 := [172, 42, 180, 1, 40, 172, 42, 180, 0, 229, 172, 16, 254, 172]
abbrev dktX0_count_3 : List UInt8 := dkwX0_count_3 ++ []
def dkwX0_count_2 : List UInt8 := [42, 180, 0, 18, 27, 4, 96, 182, 0, 102, 180, 0, 175, 182, 1, 39, 172, 42, 180, 0, 39, 182, 0, 69]
abbrev dktX0_count_2 : List UInt8 := dkwX0_count_2 ++ dktX0_count_3
def dkwX0_count_1 : List UInt8 := [170, 0, 0, 0, 0, 0, 78, 0, 0, 0, 0, 0, 0, 0, 6, 0, 0, 0, 43, 0, 0, 0, 43, 0, 0, 0, 43, 0, 0, 0, 43, 0, 0, 0, 60, 0, 0, 0, 68, 0, 0, 0, 73]
abbrev dktX0_count_1 : List UInt8 := dkwX0_count_1 ++ dktX0_count_2
def dkwX0_count_0 : List UInt8 := [27]
abbrev dktX0_count_0 : List UInt8 := dkwX0_count_0 ++ dktX0_count_1
theorem dksX0_count_0 : cX0_count.data.toList.drop 0 = dktX0_count_0 := by decide +kernel
theorem dksX0_count_1 : cX0_count.data.toList.drop 1 = dktX0_count_1 := dk_seg dksX0_count_0 1 rfl rfl
theorem dksX0_count_2 : cX0_count.data.toList.drop 44 = dktX0_count_2 := dk_seg dksX0_count_1 43 rfl rfl
theorem dksX0_count_3 : cX0_count.data.toList.drop 68 = dktX0_count_3 := dk_seg dksX0_count_2 24 rfl rfl
theorem dX0_count_0 : decode cX0_count 0 = .ok (.iload_n 1, 1) := dk_27 (dk_at dksX0_count_0 0 rfl rfl)
theorem dX0_count_1 : decode cX0_count 1 = .ok (.tableswitch 78 0 6 #[43, 43, 43, 43, 60, 68, 73], 43) := by decide +kernel
theorem dX0_count_44 : decode cX0_count 44 = .ok (.aload_n 0, 1) := dk_42 (dk_at dksX0_count_2 0 rfl rfl)
theorem dX0_count_45 : decode cX0_count 45 = .ok (.getfield 18, 3) := dk_180 0 18 (dk_at dksX0_count_2 1 rfl rfl)
theorem dX0_count_48 : decode cX0_count 48 = .ok (.iload_n 1, 1) := dk_27 (dk_at dksX0_count_2 4 rfl rfl)
theorem dX0_count_49 : decode cX0_count 49 = .ok (.iconst 1, 1) := dk_4 (dk_at dksX0_count_2 5 rfl rfl)
theorem dX0_count_50 : decode cX0_count 50 = .ok (.iadd, 1) := dk_96 (dk_at dksX0_count_2 6 rfl rfl)
theorem dX0_count_51 : decode cX0_count 51 = .ok (.invokevirtual 102, 3) := dk_182 0 102 (dk_at dksX0_count_2 7 rfl rfl)
theorem dX0_count_54 : decode cX0_count 54 = .ok (.getfield 175, 3) := dk_180 0 175 (dk_at dksX0_count_2 10 rfl rfl)
theorem dX0_count_57 : decode cX0_count 57 = .ok (.invokevirtual 295, 3) := dk_182 1 39 (dk_at dksX0_count_2 13 rfl rfl)
theorem dX0_count_60 : decode cX0_count 60 = .ok (.ireturn, 1) := dk_172 (dk_at dksX0_count_2 16 rfl rfl)
theorem dX0_count_61 : decode cX0_count 61 = .ok (.aload_n 0, 1) := dk_42 (dk_at dksX0_count_2 17 rfl rfl)
theorem dX0_count_62 : decode cX0_count 62 = .ok (.getfield 39, 3) := dk_180 0 39 (dk_at dksX0_count_2 18 rfl rfl)
theorem dX0_count_65 : decode cX0_count 65 = .ok (.invokevirtual 69, 3) := dk_182 0 69 (dk_at dksX0_count_2 21 rfl rfl)
theorem dX0_count_68 : decode cX0_count 68 = .ok (.ireturn, 1) := dk_172 (dk_at dksX0_count_3 0 rfl rfl)
theorem dX0_count_69 : decode cX0_count 69 = .ok (.aload_n 0, 1) := dk_42 (dk_at dksX0_count_3 1 rfl rfl)
theorem dX0_count_70 : decode cX0_count 70 = .ok (.getfield 296, 3) := dk_180 1 40 (dk_at dksX0_count_3 2 rfl rfl)
theorem dX0_count_73 : decode cX0_count 73 = .ok (.ireturn, 1) := dk_172 (dk_at dksX0_count_3 5 rfl rfl)
theorem dX0_count_74 : decode cX0_count 74 = .ok (.aload_n 0, 1) := dk_42 (dk_at dksX0_count_3 6 rfl rfl)
theorem dX0_count_75 : decode cX0_count 75 = .ok (.getfield 229, 3) := dk_180 0 229 (dk_at dksX0_count_3 7 rfl rfl)
theorem dX0_count_78 : decode cX0_count 78 = .ok (.ireturn, 1) := dk_172 (dk_at dksX0_count_3 10 rfl rfl)
theorem dX0_count_79 : decode cX0_count 79 = .ok (.bipush (-2), 2) := dk_16 254 (dk_at dksX0_count_3 11 rfl rfl)
theorem dX0_count_81 : decode cX0_count 81 = .ok (.ireturn, 1) := dk_172 (dk_at dksX0_count_3 13 rfl rfl)
abbrev cX0_tape : ByteArray := prog_1_method_38_code
def yX0_tape : MethodName := ⟨RX0, "tape", "(III)I"⟩
def dkwX0_tape_2 : List UInt8 := [29, 184, 1, 95, 181, 1, 62, 4, 172, 58, 4, 16, 242, 172]
abbrev dktX0_tape_2 : List UInt8 := dkwX0_tape_2 ++ []
def dkwX0_tape_1 : List UInt8 := [16, 60, 164, 0, 6, 16, 254, 172, 42, 180, 0, 55, 27, 50, 28, 2, 160, 0, 7, 1, 167, 0, 8, 28]
abbrev dktX0_tape_1 : List UInt8 := dkwX0_tape_1 ++ dktX0_tape_2
def dkwX0_tape_0 : List UInt8 := [27, 184, 1, 59, 154, 0, 5, 2, 172, 28, 2, 7, 184, 0, 5, 153, 0, 14, 28, 2, 159, 0, 12, 29]
abbrev dktX0_tape_0 : List UInt8 := dkwX0_tape_0 ++ dktX0_tape_1
theorem dksX0_tape_0 : cX0_tape.data.toList.drop 0 = dktX0_tape_0 := by decide +kernel
theorem dksX0_tape_1 : cX0_tape.data.toList.drop 24 = dktX0_tape_1 := dk_seg dksX0_tape_0 24 rfl rfl
theorem dksX0_tape_2 : cX0_tape.data.toList.drop 48 = dktX0_tape_2 := dk_seg dksX0_tape_1 24 rfl rfl
theorem dX0_tape_0 : decode cX0_tape 0 = .ok (.iload_n 1, 1) := dk_27 (dk_at dksX0_tape_0 0 rfl rfl)
theorem dX0_tape_1 : decode cX0_tape 1 = .ok (.invokestatic 315, 3) := dk_184 1 59 (dk_at dksX0_tape_0 1 rfl rfl)
theorem dX0_tape_4 : decode cX0_tape 4 = .ok (.ifCond .ne 5, 3) := dk_154 0 5 (dk_at dksX0_tape_0 4 rfl rfl)
theorem dX0_tape_7 : decode cX0_tape 7 = .ok (.iconst (-1), 1) := dk_2 (dk_at dksX0_tape_0 7 rfl rfl)
theorem dX0_tape_8 : decode cX0_tape 8 = .ok (.ireturn, 1) := dk_172 (dk_at dksX0_tape_0 8 rfl rfl)
theorem dX0_tape_9 : decode cX0_tape 9 = .ok (.iload_n 2, 1) := dk_28 (dk_at dksX0_tape_0 9 rfl rfl)
theorem dX0_tape_10 : decode cX0_tape 10 = .ok (.iconst (-1), 1) := dk_2 (dk_at dksX0_tape_0 10 rfl rfl)
theorem dX0_tape_11 : decode cX0_tape 11 = .ok (.iconst 4, 1) := dk_7 (dk_at dksX0_tape_0 11 rfl rfl)
theorem dX0_tape_12 : decode cX0_tape 12 = .ok (.invokestatic 5, 3) := dk_184 0 5 (dk_at dksX0_tape_0 12 rfl rfl)
theorem dX0_tape_15 : decode cX0_tape 15 = .ok (.ifCond .eq 14, 3) := dk_153 0 14 (dk_at dksX0_tape_0 15 rfl rfl)
theorem dX0_tape_18 : decode cX0_tape 18 = .ok (.iload_n 2, 1) := dk_28 (dk_at dksX0_tape_0 18 rfl rfl)
theorem dX0_tape_19 : decode cX0_tape 19 = .ok (.iconst (-1), 1) := dk_2 (dk_at dksX0_tape_0 19 rfl rfl)
theorem dX0_tape_20 : decode cX0_tape 20 = .ok (.if_icmp .eq 12, 3) := dk_159 0 12 (dk_at dksX0_tape_0 20 rfl rfl)
theorem dX0_tape_23 : decode cX0_tape 23 = .ok (.iload_n 3, 1) := dk_29 (dk_at dksX0_tape_0 23 rfl rfl)
theorem dX0_tape_24 : decode cX0_tape 24 = .ok (.bipush 60, 2) := dk_16 60 (dk_at dksX0_tape_1 0 rfl rfl)
theorem dX0_tape_26 : decode cX0_tape 26 = .ok (.if_icmp .le 6, 3) := dk_164 0 6 (dk_at dksX0_tape_1 2 rfl rfl)
theorem dX0_tape_29 : decode cX0_tape 29 = .ok (.bipush (-2), 2) := dk_16 254 (dk_at dksX0_tape_1 5 rfl rfl)
theorem dX0_tape_31 : decode cX0_tape 31 = .ok (.ireturn, 1) := dk_172 (dk_at dksX0_tape_1 7 rfl rfl)
theorem dX0_tape_32 : decode cX0_tape 32 = .ok (.aload_n 0, 1) := dk_42 (dk_at dksX0_tape_1 8 rfl rfl)
theorem dX0_tape_33 : decode cX0_tape 33 = .ok (.getfield 55, 3) := dk_180 0 55 (dk_at dksX0_tape_1 9 rfl rfl)
theorem dX0_tape_36 : decode cX0_tape 36 = .ok (.iload_n 1, 1) := dk_27 (dk_at dksX0_tape_1 12 rfl rfl)
theorem dX0_tape_37 : decode cX0_tape 37 = .ok (.aaload, 1) := dk_50 (dk_at dksX0_tape_1 13 rfl rfl)
theorem dX0_tape_38 : decode cX0_tape 38 = .ok (.iload_n 2, 1) := dk_28 (dk_at dksX0_tape_1 14 rfl rfl)
theorem dX0_tape_39 : decode cX0_tape 39 = .ok (.iconst (-1), 1) := dk_2 (dk_at dksX0_tape_1 15 rfl rfl)
theorem dX0_tape_40 : decode cX0_tape 40 = .ok (.if_icmp .ne 7, 3) := dk_160 0 7 (dk_at dksX0_tape_1 16 rfl rfl)
theorem dX0_tape_43 : decode cX0_tape 43 = .ok (.aconst_null, 1) := dk_1 (dk_at dksX0_tape_1 19 rfl rfl)
theorem dX0_tape_44 : decode cX0_tape 44 = .ok (.goto 8, 3) := dk_167 0 8 (dk_at dksX0_tape_1 20 rfl rfl)
theorem dX0_tape_47 : decode cX0_tape 47 = .ok (.iload_n 2, 1) := dk_28 (dk_at dksX0_tape_1 23 rfl rfl)
theorem dX0_tape_48 : decode cX0_tape 48 = .ok (.iload_n 3, 1) := dk_29 (dk_at dksX0_tape_2 0 rfl rfl)
theorem dX0_tape_49 : decode cX0_tape 49 = .ok (.invokestatic 351, 3) := dk_184 1 95 (dk_at dksX0_tape_2 1 rfl rfl)
theorem dX0_tape_52 : decode cX0_tape 52 = .ok (.putfield 318, 3) := dk_181 1 62 (dk_at dksX0_tape_2 4 rfl rfl)
theorem dX0_tape_55 : decode cX0_tape 55 = .ok (.iconst 1, 1) := dk_4 (dk_at dksX0_tape_2 7 rfl rfl)
theorem dX0_tape_56 : decode cX0_tape 56 = .ok (.ireturn, 1) := dk_172 (dk_at dksX0_tape_2 8 rfl rfl)
theorem dX0_tape_57 : decode cX0_tape 57 = .ok (.astore 4, 2) := dk_58 4 (dk_at dksX0_tape_2 9 rfl rfl)
theorem dX0_tape_59 : decode cX0_tape 59 = .ok (.bipush (-14), 2) := dk_16 242 (dk_at dksX0_tape_2 11 rfl rfl)
theorem dX0_tape_61 : decode cX0_tape 61 = .ok (.ireturn, 1) := dk_172 (dk_at dksX0_tape_2 13 rfl rfl)
abbrev cX0_rowOf : ByteArray := prog_1_method_36_code
def yX0_rowOf : MethodName := ⟨RX0, "rowOf", "(II)Ljava/lang/Object;"⟩
def dkwX0_rowOf_2 : List UInt8 := [27, 188, 8, 176, 27, 188, 9, 176, 27, 188, 10, 176, 27, 188, 11, 176, 27, 188, 4, 176]
abbrev dktX0_rowOf_2 : List UInt8 := dkwX0_rowOf_2 ++ []
def dkwX0_rowOf_1 : List UInt8 := [170, 0, 0, 0, 0, 0, 47, 0, 0, 0, 0, 0, 0, 0, 3, 0, 0, 0, 31, 0, 0, 0, 35, 0, 0, 0, 39, 0, 0, 0, 43]
abbrev dktX0_rowOf_1 : List UInt8 := dkwX0_rowOf_1 ++ dktX0_rowOf_2
def dkwX0_rowOf_0 : List UInt8 := [26]
abbrev dktX0_rowOf_0 : List UInt8 := dkwX0_rowOf_0 ++ dktX0_rowOf_1
theorem dksX0_rowOf_0 : cX0_rowOf.data.toList.drop 0 = dktX0_rowOf_0 := by decide +kernel
theorem dksX0_rowOf_1 : cX0_rowOf.data.toList.drop 1 = dktX0_rowOf_1 := dk_seg dksX0_rowOf_0 1 rfl rfl
theorem dksX0_rowOf_2 : cX0_rowOf.data.toList.drop 32 = dktX0_rowOf_2 := dk_seg dksX0_rowOf_1 31 rfl rfl
theorem dX0_rowOf_0 : decode cX0_rowOf 0 = .ok (.iload_n 0, 1) := dk_26 (dk_at dksX0_rowOf_0 0 rfl rfl)
theorem dX0_rowOf_1 : decode cX0_rowOf 1 = .ok (.tableswitch 47 0 3 #[31, 35, 39, 43], 31) := by decide +kernel
theorem dX0_rowOf_32 : decode cX0_rowOf 32 = .ok (.iload_n 1, 1) := dk_27 (dk_at dksX0_rowOf_2 0 rfl rfl)
theorem dX0_rowOf_33 : decode cX0_rowOf 33 = .ok (.newarray .byte, 2) := dk_188_8 (dk_at dksX0_rowOf_2 1 rfl rfl)
theorem dX0_rowOf_35 : decode cX0_rowOf 35 = .ok (.areturn, 1) := dk_176 (dk_at dksX0_rowOf_2 3 rfl rfl)
theorem dX0_rowOf_36 : decode cX0_rowOf 36 = .ok (.iload_n 1, 1) := dk_27 (dk_at dksX0_rowOf_2 4 rfl rfl)
theorem dX0_rowOf_37 : decode cX0_rowOf 37 = .ok (.newarray .short, 2) := dk_188_9 (dk_at dksX0_rowOf_2 5 rfl rfl)
theorem dX0_rowOf_39 : decode cX0_rowOf 39 = .ok (.areturn, 1) := dk_176 (dk_at dksX0_rowOf_2 7 rfl rfl)
theorem dX0_rowOf_40 : decode cX0_rowOf 40 = .ok (.iload_n 1, 1) := dk_27 (dk_at dksX0_rowOf_2 8 rfl rfl)
theorem dX0_rowOf_41 : decode cX0_rowOf 41 = .ok (.newarray .int, 2) := dk_188_10 (dk_at dksX0_rowOf_2 9 rfl rfl)
theorem dX0_rowOf_43 : decode cX0_rowOf 43 = .ok (.areturn, 1) := dk_176 (dk_at dksX0_rowOf_2 11 rfl rfl)
theorem dX0_rowOf_44 : decode cX0_rowOf 44 = .ok (.iload_n 1, 1) := dk_27 (dk_at dksX0_rowOf_2 12 rfl rfl)
theorem dX0_rowOf_45 : decode cX0_rowOf 45 = .ok (.newarray .long, 2) := dk_188_11 (dk_at dksX0_rowOf_2 13 rfl rfl)
theorem dX0_rowOf_47 : decode cX0_rowOf 47 = .ok (.areturn, 1) := dk_176 (dk_at dksX0_rowOf_2 15 rfl rfl)
theorem dX0_rowOf_48 : decode cX0_rowOf 48 = .ok (.iload_n 1, 1) := dk_27 (dk_at dksX0_rowOf_2 16 rfl rfl)
theorem dX0_rowOf_49 : decode cX0_rowOf 49 = .ok (.newarray .boolean, 2) := dk_188_4 (dk_at dksX0_rowOf_2 17 rfl rfl)
theorem dX0_rowOf_51 : decode cX0_rowOf 51 = .ok (.areturn, 1) := dk_176 (dk_at dksX0_rowOf_2 19 rfl rfl)
abbrev cX0_item : ByteArray := prog_1_method_39_code
def yX0_item : MethodName := ⟨RX0, "item", "(IIJ)I"⟩
def dkwX0_item_7 : List UInt8 := [180, 1, 62, 192, 1, 108, 28, 33, 9, 148, 153, 0, 7, 4, 167, 0, 4, 3, 84, 4, 172]
abbrev dktX0_item_7 : List UInt8 := dkwX0_item_7 ++ []
def dkwX0_item_6 : List UInt8 := [193, 1, 106, 153, 0, 18, 25, 10, 192, 1, 106, 58, 9, 25, 9, 28, 33, 80, 167, 0, 24, 25, 5]
abbrev dktX0_item_6 : List UInt8 := dkwX0_item_6 ++ dktX0_item_7
def dkwX0_item_5 : List UInt8 := [192, 1, 105, 58, 8, 25, 8, 28, 33, 136, 79, 167, 0, 54, 25, 5, 180, 1, 62, 58, 10, 25, 10]
abbrev dktX0_item_5 : List UInt8 := dkwX0_item_5 ++ dktX0_item_6
def dkwX0_item_4 : List UInt8 := [136, 147, 86, 167, 0, 85, 25, 5, 180, 1, 62, 58, 10, 25, 10, 193, 1, 105, 153, 0, 19, 25, 10]
abbrev dktX0_item_4 : List UInt8 := dkwX0_item_4 ++ dktX0_item_5
def dkwX0_item_3 : List UInt8 := [180, 1, 62, 58, 10, 25, 10, 193, 1, 66, 153, 0, 20, 25, 10, 192, 1, 66, 58, 7, 25, 7, 28, 33]
abbrev dktX0_item_3 : List UInt8 := dkwX0_item_3 ++ dktX0_item_4
def dkwX0_item_2 : List UInt8 := [153, 0, 20, 25, 10, 192, 1, 104, 58, 6, 25, 6, 28, 33, 136, 145, 84, 167, 0, 117, 25, 5]
abbrev dktX0_item_2 : List UInt8 := dkwX0_item_2 ++ dktX0_item_3
def dkwX0_item_1 : List UInt8 := [167, 0, 11, 58, 6, 25, 6, 180, 0, 247, 172, 25, 5, 180, 1, 62, 58, 10, 25, 10, 193, 1, 104]
abbrev dktX0_item_1 : List UInt8 := dkwX0_item_1 ++ dktX0_item_2
def dkwX0_item_0 : List UInt8 := [27, 184, 1, 59, 154, 0, 5, 2, 172, 42, 180, 0, 55, 27, 50, 58, 5, 25, 5, 28, 182, 1, 101]
abbrev dktX0_item_0 : List UInt8 := dkwX0_item_0 ++ dktX0_item_1
theorem dksX0_item_0 : cX0_item.data.toList.drop 0 = dktX0_item_0 := by decide +kernel
theorem dksX0_item_1 : cX0_item.data.toList.drop 23 = dktX0_item_1 := dk_seg dksX0_item_0 23 rfl rfl
theorem dksX0_item_2 : cX0_item.data.toList.drop 46 = dktX0_item_2 := dk_seg dksX0_item_1 23 rfl rfl
theorem dksX0_item_3 : cX0_item.data.toList.drop 68 = dktX0_item_3 := dk_seg dksX0_item_2 22 rfl rfl
theorem dksX0_item_4 : cX0_item.data.toList.drop 92 = dktX0_item_4 := dk_seg dksX0_item_3 24 rfl rfl
theorem dksX0_item_5 : cX0_item.data.toList.drop 115 = dktX0_item_5 := dk_seg dksX0_item_4 23 rfl rfl
theorem dksX0_item_6 : cX0_item.data.toList.drop 138 = dktX0_item_6 := dk_seg dksX0_item_5 23 rfl rfl
theorem dksX0_item_7 : cX0_item.data.toList.drop 161 = dktX0_item_7 := dk_seg dksX0_item_6 23 rfl rfl
theorem dX0_item_0 : decode cX0_item 0 = .ok (.iload_n 1, 1) := dk_27 (dk_at dksX0_item_0 0 rfl rfl)
theorem dX0_item_1 : decode cX0_item 1 = .ok (.invokestatic 315, 3) := dk_184 1 59 (dk_at dksX0_item_0 1 rfl rfl)
theorem dX0_item_4 : decode cX0_item 4 = .ok (.ifCond .ne 5, 3) := dk_154 0 5 (dk_at dksX0_item_0 4 rfl rfl)
theorem dX0_item_7 : decode cX0_item 7 = .ok (.iconst (-1), 1) := dk_2 (dk_at dksX0_item_0 7 rfl rfl)
theorem dX0_item_8 : decode cX0_item 8 = .ok (.ireturn, 1) := dk_172 (dk_at dksX0_item_0 8 rfl rfl)
theorem dX0_item_9 : decode cX0_item 9 = .ok (.aload_n 0, 1) := dk_42 (dk_at dksX0_item_0 9 rfl rfl)
theorem dX0_item_10 : decode cX0_item 10 = .ok (.getfield 55, 3) := dk_180 0 55 (dk_at dksX0_item_0 10 rfl rfl)
theorem dX0_item_13 : decode cX0_item 13 = .ok (.iload_n 1, 1) := dk_27 (dk_at dksX0_item_0 13 rfl rfl)
theorem dX0_item_14 : decode cX0_item 14 = .ok (.aaload, 1) := dk_50 (dk_at dksX0_item_0 14 rfl rfl)
theorem dX0_item_15 : decode cX0_item 15 = .ok (.astore 5, 2) := dk_58 5 (dk_at dksX0_item_0 15 rfl rfl)
theorem dX0_item_17 : decode cX0_item 17 = .ok (.aload 5, 2) := dk_25 5 (dk_at dksX0_item_0 17 rfl rfl)
theorem dX0_item_19 : decode cX0_item 19 = .ok (.iload_n 2, 1) := dk_28 (dk_at dksX0_item_0 19 rfl rfl)
theorem dX0_item_20 : decode cX0_item 20 = .ok (.invokevirtual 357, 3) := dk_182 1 101 (dk_at dksX0_item_0 20 rfl rfl)
theorem dX0_item_23 : decode cX0_item 23 = .ok (.goto 11, 3) := dk_167 0 11 (dk_at dksX0_item_1 0 rfl rfl)
theorem dX0_item_26 : decode cX0_item 26 = .ok (.astore 6, 2) := dk_58 6 (dk_at dksX0_item_1 3 rfl rfl)
theorem dX0_item_28 : decode cX0_item 28 = .ok (.aload 6, 2) := dk_25 6 (dk_at dksX0_item_1 5 rfl rfl)
theorem dX0_item_30 : decode cX0_item 30 = .ok (.getfield 247, 3) := dk_180 0 247 (dk_at dksX0_item_1 7 rfl rfl)
theorem dX0_item_33 : decode cX0_item 33 = .ok (.ireturn, 1) := dk_172 (dk_at dksX0_item_1 10 rfl rfl)
theorem dX0_item_34 : decode cX0_item 34 = .ok (.aload 5, 2) := dk_25 5 (dk_at dksX0_item_1 11 rfl rfl)
theorem dX0_item_36 : decode cX0_item 36 = .ok (.getfield 318, 3) := dk_180 1 62 (dk_at dksX0_item_1 13 rfl rfl)
theorem dX0_item_39 : decode cX0_item 39 = .ok (.astore 10, 2) := dk_58 10 (dk_at dksX0_item_1 16 rfl rfl)
theorem dX0_item_41 : decode cX0_item 41 = .ok (.aload 10, 2) := dk_25 10 (dk_at dksX0_item_1 18 rfl rfl)
theorem dX0_item_43 : decode cX0_item 43 = .ok (.instanceof 360, 3) := dk_193 1 104 (dk_at dksX0_item_1 20 rfl rfl)
theorem dX0_item_46 : decode cX0_item 46 = .ok (.ifCond .eq 20, 3) := dk_153 0 20 (dk_at dksX0_item_2 0 rfl rfl)
theorem dX0_item_49 : decode cX0_item 49 = .ok (.aload 10, 2) := dk_25 10 (dk_at dksX0_item_2 3 rfl rfl)
theorem dX0_item_51 : decode cX0_item 51 = .ok (.checkcast 360, 3) := dk_192 1 104 (dk_at dksX0_item_2 5 rfl rfl)
theorem dX0_item_54 : decode cX0_item 54 = .ok (.astore 6, 2) := dk_58 6 (dk_at dksX0_item_2 8 rfl rfl)
theorem dX0_item_56 : decode cX0_item 56 = .ok (.aload 6, 2) := dk_25 6 (dk_at dksX0_item_2 10 rfl rfl)
theorem dX0_item_58 : decode cX0_item 58 = .ok (.iload_n 2, 1) := dk_28 (dk_at dksX0_item_2 12 rfl rfl)
theorem dX0_item_59 : decode cX0_item 59 = .ok (.lload_n 3, 1) := dk_33 (dk_at dksX0_item_2 13 rfl rfl)
theorem dX0_item_60 : decode cX0_item 60 = .ok (.l2i, 1) := dk_136 (dk_at dksX0_item_2 14 rfl rfl)
theorem dX0_item_61 : decode cX0_item 61 = .ok (.i2b, 1) := dk_145 (dk_at dksX0_item_2 15 rfl rfl)
theorem dX0_item_62 : decode cX0_item 62 = .ok (.bastore, 1) := dk_84 (dk_at dksX0_item_2 16 rfl rfl)
theorem dX0_item_63 : decode cX0_item 63 = .ok (.goto 117, 3) := dk_167 0 117 (dk_at dksX0_item_2 17 rfl rfl)
theorem dX0_item_66 : decode cX0_item 66 = .ok (.aload 5, 2) := dk_25 5 (dk_at dksX0_item_2 20 rfl rfl)
theorem dX0_item_68 : decode cX0_item 68 = .ok (.getfield 318, 3) := dk_180 1 62 (dk_at dksX0_item_3 0 rfl rfl)
theorem dX0_item_71 : decode cX0_item 71 = .ok (.astore 10, 2) := dk_58 10 (dk_at dksX0_item_3 3 rfl rfl)
theorem dX0_item_73 : decode cX0_item 73 = .ok (.aload 10, 2) := dk_25 10 (dk_at dksX0_item_3 5 rfl rfl)
theorem dX0_item_75 : decode cX0_item 75 = .ok (.instanceof 322, 3) := dk_193 1 66 (dk_at dksX0_item_3 7 rfl rfl)
theorem dX0_item_78 : decode cX0_item 78 = .ok (.ifCond .eq 20, 3) := dk_153 0 20 (dk_at dksX0_item_3 10 rfl rfl)
theorem dX0_item_81 : decode cX0_item 81 = .ok (.aload 10, 2) := dk_25 10 (dk_at dksX0_item_3 13 rfl rfl)
theorem dX0_item_83 : decode cX0_item 83 = .ok (.checkcast 322, 3) := dk_192 1 66 (dk_at dksX0_item_3 15 rfl rfl)
theorem dX0_item_86 : decode cX0_item 86 = .ok (.astore 7, 2) := dk_58 7 (dk_at dksX0_item_3 18 rfl rfl)
theorem dX0_item_88 : decode cX0_item 88 = .ok (.aload 7, 2) := dk_25 7 (dk_at dksX0_item_3 20 rfl rfl)
theorem dX0_item_90 : decode cX0_item 90 = .ok (.iload_n 2, 1) := dk_28 (dk_at dksX0_item_3 22 rfl rfl)
theorem dX0_item_91 : decode cX0_item 91 = .ok (.lload_n 3, 1) := dk_33 (dk_at dksX0_item_3 23 rfl rfl)
theorem dX0_item_92 : decode cX0_item 92 = .ok (.l2i, 1) := dk_136 (dk_at dksX0_item_4 0 rfl rfl)
theorem dX0_item_93 : decode cX0_item 93 = .ok (.i2s, 1) := dk_147 (dk_at dksX0_item_4 1 rfl rfl)
theorem dX0_item_94 : decode cX0_item 94 = .ok (.sastore, 1) := dk_86 (dk_at dksX0_item_4 2 rfl rfl)
theorem dX0_item_95 : decode cX0_item 95 = .ok (.goto 85, 3) := dk_167 0 85 (dk_at dksX0_item_4 3 rfl rfl)
theorem dX0_item_98 : decode cX0_item 98 = .ok (.aload 5, 2) := dk_25 5 (dk_at dksX0_item_4 6 rfl rfl)
theorem dX0_item_100 : decode cX0_item 100 = .ok (.getfield 318, 3) := dk_180 1 62 (dk_at dksX0_item_4 8 rfl rfl)
theorem dX0_item_103 : decode cX0_item 103 = .ok (.astore 10, 2) := dk_58 10 (dk_at dksX0_item_4 11 rfl rfl)
theorem dX0_item_105 : decode cX0_item 105 = .ok (.aload 10, 2) := dk_25 10 (dk_at dksX0_item_4 13 rfl rfl)
theorem dX0_item_107 : decode cX0_item 107 = .ok (.instanceof 361, 3) := dk_193 1 105 (dk_at dksX0_item_4 15 rfl rfl)
theorem dX0_item_110 : decode cX0_item 110 = .ok (.ifCond .eq 19, 3) := dk_153 0 19 (dk_at dksX0_item_4 18 rfl rfl)
theorem dX0_item_113 : decode cX0_item 113 = .ok (.aload 10, 2) := dk_25 10 (dk_at dksX0_item_4 21 rfl rfl)
theorem dX0_item_115 : decode cX0_item 115 = .ok (.checkcast 361, 3) := dk_192 1 105 (dk_at dksX0_item_5 0 rfl rfl)
theorem dX0_item_118 : decode cX0_item 118 = .ok (.astore 8, 2) := dk_58 8 (dk_at dksX0_item_5 3 rfl rfl)
theorem dX0_item_120 : decode cX0_item 120 = .ok (.aload 8, 2) := dk_25 8 (dk_at dksX0_item_5 5 rfl rfl)
theorem dX0_item_122 : decode cX0_item 122 = .ok (.iload_n 2, 1) := dk_28 (dk_at dksX0_item_5 7 rfl rfl)
theorem dX0_item_123 : decode cX0_item 123 = .ok (.lload_n 3, 1) := dk_33 (dk_at dksX0_item_5 8 rfl rfl)
theorem dX0_item_124 : decode cX0_item 124 = .ok (.l2i, 1) := dk_136 (dk_at dksX0_item_5 9 rfl rfl)
theorem dX0_item_125 : decode cX0_item 125 = .ok (.iastore, 1) := dk_79 (dk_at dksX0_item_5 10 rfl rfl)
theorem dX0_item_126 : decode cX0_item 126 = .ok (.goto 54, 3) := dk_167 0 54 (dk_at dksX0_item_5 11 rfl rfl)
theorem dX0_item_129 : decode cX0_item 129 = .ok (.aload 5, 2) := dk_25 5 (dk_at dksX0_item_5 14 rfl rfl)
theorem dX0_item_131 : decode cX0_item 131 = .ok (.getfield 318, 3) := dk_180 1 62 (dk_at dksX0_item_5 16 rfl rfl)
theorem dX0_item_134 : decode cX0_item 134 = .ok (.astore 10, 2) := dk_58 10 (dk_at dksX0_item_5 19 rfl rfl)
theorem dX0_item_136 : decode cX0_item 136 = .ok (.aload 10, 2) := dk_25 10 (dk_at dksX0_item_5 21 rfl rfl)
theorem dX0_item_138 : decode cX0_item 138 = .ok (.instanceof 362, 3) := dk_193 1 106 (dk_at dksX0_item_6 0 rfl rfl)
theorem dX0_item_141 : decode cX0_item 141 = .ok (.ifCond .eq 18, 3) := dk_153 0 18 (dk_at dksX0_item_6 3 rfl rfl)
theorem dX0_item_144 : decode cX0_item 144 = .ok (.aload 10, 2) := dk_25 10 (dk_at dksX0_item_6 6 rfl rfl)
theorem dX0_item_146 : decode cX0_item 146 = .ok (.checkcast 362, 3) := dk_192 1 106 (dk_at dksX0_item_6 8 rfl rfl)
theorem dX0_item_149 : decode cX0_item 149 = .ok (.astore 9, 2) := dk_58 9 (dk_at dksX0_item_6 11 rfl rfl)
theorem dX0_item_151 : decode cX0_item 151 = .ok (.aload 9, 2) := dk_25 9 (dk_at dksX0_item_6 13 rfl rfl)
theorem dX0_item_153 : decode cX0_item 153 = .ok (.iload_n 2, 1) := dk_28 (dk_at dksX0_item_6 15 rfl rfl)
theorem dX0_item_154 : decode cX0_item 154 = .ok (.lload_n 3, 1) := dk_33 (dk_at dksX0_item_6 16 rfl rfl)
theorem dX0_item_155 : decode cX0_item 155 = .ok (.lastore, 1) := dk_80 (dk_at dksX0_item_6 17 rfl rfl)
theorem dX0_item_156 : decode cX0_item 156 = .ok (.goto 24, 3) := dk_167 0 24 (dk_at dksX0_item_6 18 rfl rfl)
theorem dX0_item_159 : decode cX0_item 159 = .ok (.aload 5, 2) := dk_25 5 (dk_at dksX0_item_6 21 rfl rfl)
theorem dX0_item_161 : decode cX0_item 161 = .ok (.getfield 318, 3) := dk_180 1 62 (dk_at dksX0_item_7 0 rfl rfl)
theorem dX0_item_164 : decode cX0_item 164 = .ok (.checkcast 364, 3) := dk_192 1 108 (dk_at dksX0_item_7 3 rfl rfl)
theorem dX0_item_167 : decode cX0_item 167 = .ok (.iload_n 2, 1) := dk_28 (dk_at dksX0_item_7 6 rfl rfl)
theorem dX0_item_168 : decode cX0_item 168 = .ok (.lload_n 3, 1) := dk_33 (dk_at dksX0_item_7 7 rfl rfl)
theorem dX0_item_169 : decode cX0_item 169 = .ok (.lconst 0, 1) := dk_9 (dk_at dksX0_item_7 8 rfl rfl)
theorem dX0_item_170 : decode cX0_item 170 = .ok (.lcmp, 1) := dk_148 (dk_at dksX0_item_7 9 rfl rfl)
theorem dX0_item_171 : decode cX0_item 171 = .ok (.ifCond .eq 7, 3) := dk_153 0 7 (dk_at dksX0_item_7 10 rfl rfl)
theorem dX0_item_174 : decode cX0_item 174 = .ok (.iconst 1, 1) := dk_4 (dk_at dksX0_item_7 13 rfl rfl)
theorem dX0_item_175 : decode cX0_item 175 = .ok (.goto 4, 3) := dk_167 0 4 (dk_at dksX0_item_7 14 rfl rfl)
theorem dX0_item_178 : decode cX0_item 178 = .ok (.iconst 0, 1) := dk_3 (dk_at dksX0_item_7 17 rfl rfl)
theorem dX0_item_179 : decode cX0_item 179 = .ok (.bastore, 1) := dk_84 (dk_at dksX0_item_7 18 rfl rfl)
theorem dX0_item_180 : decode cX0_item 180 = .ok (.iconst 1, 1) := dk_4 (dk_at dksX0_item_7 19 rfl rfl)
theorem dX0_item_181 : decode cX0_item 181 = .ok (.ireturn, 1) := dk_172 (dk_at dksX0_item_7 20 rfl rfl)
abbrev cX0_read : ByteArray := prog_1_method_40_code
def yX0_read : MethodName := ⟨RX0, "read", "(II)J"⟩
def dkwX0_read_7 : List UInt8 := [192, 1, 108, 28, 51, 153, 0, 7, 10, 167, 0, 4, 9, 173]
abbrev dktX0_read_7 : List UInt8 := dkwX0_read_7 ++ []
def dkwX0_read_6 : List UInt8 := [193, 1, 106, 153, 0, 17, 25, 5, 192, 1, 106, 58, 4, 25, 4, 28, 47, 167, 0, 20, 45, 180, 1, 62]
abbrev dktX0_read_6 : List UInt8 := dkwX0_read_6 ++ dktX0_read_7
def dkwX0_read_5 : List UInt8 := [153, 0, 16, 25, 5, 192, 1, 105, 58, 4, 25, 4, 28, 46, 133, 173, 45, 180, 1, 62, 58, 5, 25, 5]
abbrev dktX0_read_5 : List UInt8 := dkwX0_read_5 ++ dktX0_read_6
def dkwX0_read_4 : List UInt8 := [192, 1, 66, 58, 4, 25, 4, 28, 53, 133, 173, 45, 180, 1, 62, 58, 5, 25, 5, 193, 1, 105]
abbrev dktX0_read_4 : List UInt8 := dkwX0_read_4 ++ dktX0_read_5
def dkwX0_read_3 : List UInt8 := [25, 4, 28, 51, 133, 173, 45, 180, 1, 62, 58, 5, 25, 5, 193, 1, 66, 153, 0, 16, 25, 5]
abbrev dktX0_read_3 : List UInt8 := dkwX0_read_3 ++ dktX0_read_4
def dkwX0_read_2 : List UInt8 := [27, 50, 78, 45, 180, 1, 62, 58, 5, 25, 5, 193, 1, 104, 153, 0, 16, 25, 5, 192, 1, 104, 58, 4]
abbrev dktX0_read_2 : List UInt8 := dkwX0_read_2 ++ dktX0_read_3
def dkwX0_read_1 : List UInt8 := [180, 0, 55, 27, 50, 182, 1, 110, 4, 100, 184, 0, 5, 154, 0, 7, 20, 0, 140, 173, 42, 180, 0, 55]
abbrev dktX0_read_1 : List UInt8 := dkwX0_read_1 ++ dktX0_read_2
def dkwX0_read_0 : List UInt8 := [27, 184, 1, 59, 153, 0, 34, 42, 180, 0, 55, 27, 50, 180, 1, 62, 198, 0, 22, 28, 3, 42]
abbrev dktX0_read_0 : List UInt8 := dkwX0_read_0 ++ dktX0_read_1
theorem dksX0_read_0 : cX0_read.data.toList.drop 0 = dktX0_read_0 := by decide +kernel
theorem dksX0_read_1 : cX0_read.data.toList.drop 22 = dktX0_read_1 := dk_seg dksX0_read_0 22 rfl rfl
theorem dksX0_read_2 : cX0_read.data.toList.drop 46 = dktX0_read_2 := dk_seg dksX0_read_1 24 rfl rfl
theorem dksX0_read_3 : cX0_read.data.toList.drop 70 = dktX0_read_3 := dk_seg dksX0_read_2 24 rfl rfl
theorem dksX0_read_4 : cX0_read.data.toList.drop 92 = dktX0_read_4 := dk_seg dksX0_read_3 22 rfl rfl
theorem dksX0_read_5 : cX0_read.data.toList.drop 114 = dktX0_read_5 := dk_seg dksX0_read_4 22 rfl rfl
theorem dksX0_read_6 : cX0_read.data.toList.drop 138 = dktX0_read_6 := dk_seg dksX0_read_5 24 rfl rfl
theorem dksX0_read_7 : cX0_read.data.toList.drop 162 = dktX0_read_7 := dk_seg dksX0_read_6 24 rfl rfl
theorem dX0_read_0 : decode cX0_read 0 = .ok (.iload_n 1, 1) := dk_27 (dk_at dksX0_read_0 0 rfl rfl)
theorem dX0_read_1 : decode cX0_read 1 = .ok (.invokestatic 315, 3) := dk_184 1 59 (dk_at dksX0_read_0 1 rfl rfl)
theorem dX0_read_4 : decode cX0_read 4 = .ok (.ifCond .eq 34, 3) := dk_153 0 34 (dk_at dksX0_read_0 4 rfl rfl)
theorem dX0_read_7 : decode cX0_read 7 = .ok (.aload_n 0, 1) := dk_42 (dk_at dksX0_read_0 7 rfl rfl)
theorem dX0_read_8 : decode cX0_read 8 = .ok (.getfield 55, 3) := dk_180 0 55 (dk_at dksX0_read_0 8 rfl rfl)
theorem dX0_read_11 : decode cX0_read 11 = .ok (.iload_n 1, 1) := dk_27 (dk_at dksX0_read_0 11 rfl rfl)
theorem dX0_read_12 : decode cX0_read 12 = .ok (.aaload, 1) := dk_50 (dk_at dksX0_read_0 12 rfl rfl)
theorem dX0_read_13 : decode cX0_read 13 = .ok (.getfield 318, 3) := dk_180 1 62 (dk_at dksX0_read_0 13 rfl rfl)
theorem dX0_read_16 : decode cX0_read 16 = .ok (.ifnull 22, 3) := dk_198 0 22 (dk_at dksX0_read_0 16 rfl rfl)
theorem dX0_read_19 : decode cX0_read 19 = .ok (.iload_n 2, 1) := dk_28 (dk_at dksX0_read_0 19 rfl rfl)
theorem dX0_read_20 : decode cX0_read 20 = .ok (.iconst 0, 1) := dk_3 (dk_at dksX0_read_0 20 rfl rfl)
theorem dX0_read_21 : decode cX0_read 21 = .ok (.aload_n 0, 1) := dk_42 (dk_at dksX0_read_0 21 rfl rfl)
theorem dX0_read_22 : decode cX0_read 22 = .ok (.getfield 55, 3) := dk_180 0 55 (dk_at dksX0_read_1 0 rfl rfl)
theorem dX0_read_25 : decode cX0_read 25 = .ok (.iload_n 1, 1) := dk_27 (dk_at dksX0_read_1 3 rfl rfl)
theorem dX0_read_26 : decode cX0_read 26 = .ok (.aaload, 1) := dk_50 (dk_at dksX0_read_1 4 rfl rfl)
theorem dX0_read_27 : decode cX0_read 27 = .ok (.invokevirtual 366, 3) := dk_182 1 110 (dk_at dksX0_read_1 5 rfl rfl)
theorem dX0_read_30 : decode cX0_read 30 = .ok (.iconst 1, 1) := dk_4 (dk_at dksX0_read_1 8 rfl rfl)
theorem dX0_read_31 : decode cX0_read 31 = .ok (.isub, 1) := dk_100 (dk_at dksX0_read_1 9 rfl rfl)
theorem dX0_read_32 : decode cX0_read 32 = .ok (.invokestatic 5, 3) := dk_184 0 5 (dk_at dksX0_read_1 10 rfl rfl)
theorem dX0_read_35 : decode cX0_read 35 = .ok (.ifCond .ne 7, 3) := dk_154 0 7 (dk_at dksX0_read_1 13 rfl rfl)
theorem dX0_read_38 : decode cX0_read 38 = .ok (.ldc2_w 140, 3) := dk_20 0 140 (dk_at dksX0_read_1 16 rfl rfl)
theorem dX0_read_41 : decode cX0_read 41 = .ok (.lreturn, 1) := dk_173 (dk_at dksX0_read_1 19 rfl rfl)
theorem dX0_read_42 : decode cX0_read 42 = .ok (.aload_n 0, 1) := dk_42 (dk_at dksX0_read_1 20 rfl rfl)
theorem dX0_read_43 : decode cX0_read 43 = .ok (.getfield 55, 3) := dk_180 0 55 (dk_at dksX0_read_1 21 rfl rfl)
theorem dX0_read_46 : decode cX0_read 46 = .ok (.iload_n 1, 1) := dk_27 (dk_at dksX0_read_2 0 rfl rfl)
theorem dX0_read_47 : decode cX0_read 47 = .ok (.aaload, 1) := dk_50 (dk_at dksX0_read_2 1 rfl rfl)
theorem dX0_read_48 : decode cX0_read 48 = .ok (.astore_n 3, 1) := dk_78 (dk_at dksX0_read_2 2 rfl rfl)
theorem dX0_read_49 : decode cX0_read 49 = .ok (.aload_n 3, 1) := dk_45 (dk_at dksX0_read_2 3 rfl rfl)
theorem dX0_read_50 : decode cX0_read 50 = .ok (.getfield 318, 3) := dk_180 1 62 (dk_at dksX0_read_2 4 rfl rfl)
theorem dX0_read_53 : decode cX0_read 53 = .ok (.astore 5, 2) := dk_58 5 (dk_at dksX0_read_2 7 rfl rfl)
theorem dX0_read_55 : decode cX0_read 55 = .ok (.aload 5, 2) := dk_25 5 (dk_at dksX0_read_2 9 rfl rfl)
theorem dX0_read_57 : decode cX0_read 57 = .ok (.instanceof 360, 3) := dk_193 1 104 (dk_at dksX0_read_2 11 rfl rfl)
theorem dX0_read_60 : decode cX0_read 60 = .ok (.ifCond .eq 16, 3) := dk_153 0 16 (dk_at dksX0_read_2 14 rfl rfl)
theorem dX0_read_63 : decode cX0_read 63 = .ok (.aload 5, 2) := dk_25 5 (dk_at dksX0_read_2 17 rfl rfl)
theorem dX0_read_65 : decode cX0_read 65 = .ok (.checkcast 360, 3) := dk_192 1 104 (dk_at dksX0_read_2 19 rfl rfl)
theorem dX0_read_68 : decode cX0_read 68 = .ok (.astore 4, 2) := dk_58 4 (dk_at dksX0_read_2 22 rfl rfl)
theorem dX0_read_70 : decode cX0_read 70 = .ok (.aload 4, 2) := dk_25 4 (dk_at dksX0_read_3 0 rfl rfl)
theorem dX0_read_72 : decode cX0_read 72 = .ok (.iload_n 2, 1) := dk_28 (dk_at dksX0_read_3 2 rfl rfl)
theorem dX0_read_73 : decode cX0_read 73 = .ok (.baload, 1) := dk_51 (dk_at dksX0_read_3 3 rfl rfl)
theorem dX0_read_74 : decode cX0_read 74 = .ok (.i2l, 1) := dk_133 (dk_at dksX0_read_3 4 rfl rfl)
theorem dX0_read_75 : decode cX0_read 75 = .ok (.lreturn, 1) := dk_173 (dk_at dksX0_read_3 5 rfl rfl)
theorem dX0_read_76 : decode cX0_read 76 = .ok (.aload_n 3, 1) := dk_45 (dk_at dksX0_read_3 6 rfl rfl)
theorem dX0_read_77 : decode cX0_read 77 = .ok (.getfield 318, 3) := dk_180 1 62 (dk_at dksX0_read_3 7 rfl rfl)
theorem dX0_read_80 : decode cX0_read 80 = .ok (.astore 5, 2) := dk_58 5 (dk_at dksX0_read_3 10 rfl rfl)
theorem dX0_read_82 : decode cX0_read 82 = .ok (.aload 5, 2) := dk_25 5 (dk_at dksX0_read_3 12 rfl rfl)
theorem dX0_read_84 : decode cX0_read 84 = .ok (.instanceof 322, 3) := dk_193 1 66 (dk_at dksX0_read_3 14 rfl rfl)
theorem dX0_read_87 : decode cX0_read 87 = .ok (.ifCond .eq 16, 3) := dk_153 0 16 (dk_at dksX0_read_3 17 rfl rfl)
theorem dX0_read_90 : decode cX0_read 90 = .ok (.aload 5, 2) := dk_25 5 (dk_at dksX0_read_3 20 rfl rfl)
theorem dX0_read_92 : decode cX0_read 92 = .ok (.checkcast 322, 3) := dk_192 1 66 (dk_at dksX0_read_4 0 rfl rfl)
theorem dX0_read_95 : decode cX0_read 95 = .ok (.astore 4, 2) := dk_58 4 (dk_at dksX0_read_4 3 rfl rfl)
theorem dX0_read_97 : decode cX0_read 97 = .ok (.aload 4, 2) := dk_25 4 (dk_at dksX0_read_4 5 rfl rfl)
theorem dX0_read_99 : decode cX0_read 99 = .ok (.iload_n 2, 1) := dk_28 (dk_at dksX0_read_4 7 rfl rfl)
theorem dX0_read_100 : decode cX0_read 100 = .ok (.saload, 1) := dk_53 (dk_at dksX0_read_4 8 rfl rfl)
theorem dX0_read_101 : decode cX0_read 101 = .ok (.i2l, 1) := dk_133 (dk_at dksX0_read_4 9 rfl rfl)
theorem dX0_read_102 : decode cX0_read 102 = .ok (.lreturn, 1) := dk_173 (dk_at dksX0_read_4 10 rfl rfl)
theorem dX0_read_103 : decode cX0_read 103 = .ok (.aload_n 3, 1) := dk_45 (dk_at dksX0_read_4 11 rfl rfl)
theorem dX0_read_104 : decode cX0_read 104 = .ok (.getfield 318, 3) := dk_180 1 62 (dk_at dksX0_read_4 12 rfl rfl)
theorem dX0_read_107 : decode cX0_read 107 = .ok (.astore 5, 2) := dk_58 5 (dk_at dksX0_read_4 15 rfl rfl)
theorem dX0_read_109 : decode cX0_read 109 = .ok (.aload 5, 2) := dk_25 5 (dk_at dksX0_read_4 17 rfl rfl)
theorem dX0_read_111 : decode cX0_read 111 = .ok (.instanceof 361, 3) := dk_193 1 105 (dk_at dksX0_read_4 19 rfl rfl)
theorem dX0_read_114 : decode cX0_read 114 = .ok (.ifCond .eq 16, 3) := dk_153 0 16 (dk_at dksX0_read_5 0 rfl rfl)
theorem dX0_read_117 : decode cX0_read 117 = .ok (.aload 5, 2) := dk_25 5 (dk_at dksX0_read_5 3 rfl rfl)
theorem dX0_read_119 : decode cX0_read 119 = .ok (.checkcast 361, 3) := dk_192 1 105 (dk_at dksX0_read_5 5 rfl rfl)
theorem dX0_read_122 : decode cX0_read 122 = .ok (.astore 4, 2) := dk_58 4 (dk_at dksX0_read_5 8 rfl rfl)
theorem dX0_read_124 : decode cX0_read 124 = .ok (.aload 4, 2) := dk_25 4 (dk_at dksX0_read_5 10 rfl rfl)
theorem dX0_read_126 : decode cX0_read 126 = .ok (.iload_n 2, 1) := dk_28 (dk_at dksX0_read_5 12 rfl rfl)
theorem dX0_read_127 : decode cX0_read 127 = .ok (.iaload, 1) := dk_46 (dk_at dksX0_read_5 13 rfl rfl)
theorem dX0_read_128 : decode cX0_read 128 = .ok (.i2l, 1) := dk_133 (dk_at dksX0_read_5 14 rfl rfl)
theorem dX0_read_129 : decode cX0_read 129 = .ok (.lreturn, 1) := dk_173 (dk_at dksX0_read_5 15 rfl rfl)
theorem dX0_read_130 : decode cX0_read 130 = .ok (.aload_n 3, 1) := dk_45 (dk_at dksX0_read_5 16 rfl rfl)
theorem dX0_read_131 : decode cX0_read 131 = .ok (.getfield 318, 3) := dk_180 1 62 (dk_at dksX0_read_5 17 rfl rfl)
theorem dX0_read_134 : decode cX0_read 134 = .ok (.astore 5, 2) := dk_58 5 (dk_at dksX0_read_5 20 rfl rfl)
theorem dX0_read_136 : decode cX0_read 136 = .ok (.aload 5, 2) := dk_25 5 (dk_at dksX0_read_5 22 rfl rfl)
theorem dX0_read_138 : decode cX0_read 138 = .ok (.instanceof 362, 3) := dk_193 1 106 (dk_at dksX0_read_6 0 rfl rfl)
theorem dX0_read_141 : decode cX0_read 141 = .ok (.ifCond .eq 17, 3) := dk_153 0 17 (dk_at dksX0_read_6 3 rfl rfl)
theorem dX0_read_144 : decode cX0_read 144 = .ok (.aload 5, 2) := dk_25 5 (dk_at dksX0_read_6 6 rfl rfl)
theorem dX0_read_146 : decode cX0_read 146 = .ok (.checkcast 362, 3) := dk_192 1 106 (dk_at dksX0_read_6 8 rfl rfl)
theorem dX0_read_149 : decode cX0_read 149 = .ok (.astore 4, 2) := dk_58 4 (dk_at dksX0_read_6 11 rfl rfl)
theorem dX0_read_151 : decode cX0_read 151 = .ok (.aload 4, 2) := dk_25 4 (dk_at dksX0_read_6 13 rfl rfl)
theorem dX0_read_153 : decode cX0_read 153 = .ok (.iload_n 2, 1) := dk_28 (dk_at dksX0_read_6 15 rfl rfl)
theorem dX0_read_154 : decode cX0_read 154 = .ok (.laload, 1) := dk_47 (dk_at dksX0_read_6 16 rfl rfl)
theorem dX0_read_155 : decode cX0_read 155 = .ok (.goto 20, 3) := dk_167 0 20 (dk_at dksX0_read_6 17 rfl rfl)
theorem dX0_read_158 : decode cX0_read 158 = .ok (.aload_n 3, 1) := dk_45 (dk_at dksX0_read_6 20 rfl rfl)
theorem dX0_read_159 : decode cX0_read 159 = .ok (.getfield 318, 3) := dk_180 1 62 (dk_at dksX0_read_6 21 rfl rfl)
theorem dX0_read_162 : decode cX0_read 162 = .ok (.checkcast 364, 3) := dk_192 1 108 (dk_at dksX0_read_7 0 rfl rfl)
theorem dX0_read_165 : decode cX0_read 165 = .ok (.iload_n 2, 1) := dk_28 (dk_at dksX0_read_7 3 rfl rfl)
theorem dX0_read_166 : decode cX0_read 166 = .ok (.baload, 1) := dk_51 (dk_at dksX0_read_7 4 rfl rfl)
theorem dX0_read_167 : decode cX0_read 167 = .ok (.ifCond .eq 7, 3) := dk_153 0 7 (dk_at dksX0_read_7 5 rfl rfl)
theorem dX0_read_170 : decode cX0_read 170 = .ok (.lconst 1, 1) := dk_10 (dk_at dksX0_read_7 8 rfl rfl)
theorem dX0_read_171 : decode cX0_read 171 = .ok (.goto 4, 3) := dk_167 0 4 (dk_at dksX0_read_7 9 rfl rfl)
theorem dX0_read_174 : decode cX0_read 174 = .ok (.lconst 0, 1) := dk_9 (dk_at dksX0_read_7 12 rfl rfl)
theorem dX0_read_175 : decode cX0_read 175 = .ok (.lreturn, 1) := dk_173 (dk_at dksX0_read_7 13 rfl rfl)
abbrev cX0_shift : ByteArray := prog_1_method_41_code
def yX0_shift : MethodName := ⟨RX0, "shift", "(IIIII)I"⟩
def dkwX0_shift_2 : List UInt8 := [58, 6, 16, 245, 172, 58, 6, 16, 244, 172, 58, 6, 16, 243, 172]
abbrev dktX0_shift_2 : List UInt8 := dkwX0_shift_2 ++ []
def dkwX0_shift_1 : List UInt8 := [180, 1, 62, 28, 42, 180, 0, 55, 29, 50, 180, 1, 62, 21, 4, 21, 5, 184, 1, 80, 21, 5, 172]
abbrev dktX0_shift_1 : List UInt8 := dkwX0_shift_1 ++ dktX0_shift_2
def dkwX0_shift_0 : List UInt8 := [27, 184, 1, 59, 153, 0, 10, 29, 184, 1, 59, 154, 0, 5, 2, 172, 42, 180, 0, 55, 27, 50]
abbrev dktX0_shift_0 : List UInt8 := dkwX0_shift_0 ++ dktX0_shift_1
theorem dksX0_shift_0 : cX0_shift.data.toList.drop 0 = dktX0_shift_0 := by decide +kernel
theorem dksX0_shift_1 : cX0_shift.data.toList.drop 22 = dktX0_shift_1 := dk_seg dksX0_shift_0 22 rfl rfl
theorem dksX0_shift_2 : cX0_shift.data.toList.drop 45 = dktX0_shift_2 := dk_seg dksX0_shift_1 23 rfl rfl
theorem dX0_shift_0 : decode cX0_shift 0 = .ok (.iload_n 1, 1) := dk_27 (dk_at dksX0_shift_0 0 rfl rfl)
theorem dX0_shift_1 : decode cX0_shift 1 = .ok (.invokestatic 315, 3) := dk_184 1 59 (dk_at dksX0_shift_0 1 rfl rfl)
theorem dX0_shift_4 : decode cX0_shift 4 = .ok (.ifCond .eq 10, 3) := dk_153 0 10 (dk_at dksX0_shift_0 4 rfl rfl)
theorem dX0_shift_7 : decode cX0_shift 7 = .ok (.iload_n 3, 1) := dk_29 (dk_at dksX0_shift_0 7 rfl rfl)
theorem dX0_shift_8 : decode cX0_shift 8 = .ok (.invokestatic 315, 3) := dk_184 1 59 (dk_at dksX0_shift_0 8 rfl rfl)
theorem dX0_shift_11 : decode cX0_shift 11 = .ok (.ifCond .ne 5, 3) := dk_154 0 5 (dk_at dksX0_shift_0 11 rfl rfl)
theorem dX0_shift_14 : decode cX0_shift 14 = .ok (.iconst (-1), 1) := dk_2 (dk_at dksX0_shift_0 14 rfl rfl)
theorem dX0_shift_15 : decode cX0_shift 15 = .ok (.ireturn, 1) := dk_172 (dk_at dksX0_shift_0 15 rfl rfl)
theorem dX0_shift_16 : decode cX0_shift 16 = .ok (.aload_n 0, 1) := dk_42 (dk_at dksX0_shift_0 16 rfl rfl)
theorem dX0_shift_17 : decode cX0_shift 17 = .ok (.getfield 55, 3) := dk_180 0 55 (dk_at dksX0_shift_0 17 rfl rfl)
theorem dX0_shift_20 : decode cX0_shift 20 = .ok (.iload_n 1, 1) := dk_27 (dk_at dksX0_shift_0 20 rfl rfl)
theorem dX0_shift_21 : decode cX0_shift 21 = .ok (.aaload, 1) := dk_50 (dk_at dksX0_shift_0 21 rfl rfl)
theorem dX0_shift_22 : decode cX0_shift 22 = .ok (.getfield 318, 3) := dk_180 1 62 (dk_at dksX0_shift_1 0 rfl rfl)
theorem dX0_shift_25 : decode cX0_shift 25 = .ok (.iload_n 2, 1) := dk_28 (dk_at dksX0_shift_1 3 rfl rfl)
theorem dX0_shift_26 : decode cX0_shift 26 = .ok (.aload_n 0, 1) := dk_42 (dk_at dksX0_shift_1 4 rfl rfl)
theorem dX0_shift_27 : decode cX0_shift 27 = .ok (.getfield 55, 3) := dk_180 0 55 (dk_at dksX0_shift_1 5 rfl rfl)
theorem dX0_shift_30 : decode cX0_shift 30 = .ok (.iload_n 3, 1) := dk_29 (dk_at dksX0_shift_1 8 rfl rfl)
theorem dX0_shift_31 : decode cX0_shift 31 = .ok (.aaload, 1) := dk_50 (dk_at dksX0_shift_1 9 rfl rfl)
theorem dX0_shift_32 : decode cX0_shift 32 = .ok (.getfield 318, 3) := dk_180 1 62 (dk_at dksX0_shift_1 10 rfl rfl)
theorem dX0_shift_35 : decode cX0_shift 35 = .ok (.iload 4, 2) := dk_21 4 (dk_at dksX0_shift_1 13 rfl rfl)
theorem dX0_shift_37 : decode cX0_shift 37 = .ok (.iload 5, 2) := dk_21 5 (dk_at dksX0_shift_1 15 rfl rfl)
theorem dX0_shift_39 : decode cX0_shift 39 = .ok (.invokestatic 336, 3) := dk_184 1 80 (dk_at dksX0_shift_1 17 rfl rfl)
theorem dX0_shift_42 : decode cX0_shift 42 = .ok (.iload 5, 2) := dk_21 5 (dk_at dksX0_shift_1 20 rfl rfl)
theorem dX0_shift_44 : decode cX0_shift 44 = .ok (.ireturn, 1) := dk_172 (dk_at dksX0_shift_1 22 rfl rfl)
theorem dX0_shift_45 : decode cX0_shift 45 = .ok (.astore 6, 2) := dk_58 6 (dk_at dksX0_shift_2 0 rfl rfl)
theorem dX0_shift_47 : decode cX0_shift 47 = .ok (.bipush (-11), 2) := dk_16 245 (dk_at dksX0_shift_2 2 rfl rfl)
theorem dX0_shift_49 : decode cX0_shift 49 = .ok (.ireturn, 1) := dk_172 (dk_at dksX0_shift_2 4 rfl rfl)
theorem dX0_shift_50 : decode cX0_shift 50 = .ok (.astore 6, 2) := dk_58 6 (dk_at dksX0_shift_2 5 rfl rfl)
theorem dX0_shift_52 : decode cX0_shift 52 = .ok (.bipush (-12), 2) := dk_16 244 (dk_at dksX0_shift_2 7 rfl rfl)
theorem dX0_shift_54 : decode cX0_shift 54 = .ok (.ireturn, 1) := dk_172 (dk_at dksX0_shift_2 9 rfl rfl)
theorem dX0_shift_55 : decode cX0_shift 55 = .ok (.astore 6, 2) := dk_58 6 (dk_at dksX0_shift_2 10 rfl rfl)
theorem dX0_shift_57 : decode cX0_shift 57 = .ok (.bipush (-13), 2) := dk_16 243 (dk_at dksX0_shift_2 12 rfl rfl)
theorem dX0_shift_59 : decode cX0_shift 59 = .ok (.ireturn, 1) := dk_172 (dk_at dksX0_shift_2 14 rfl rfl)
theorem q69 : (Jvm.Cond.initialized "SegmentedCache") ∈ lw_all := lw_g (lw_at lw_m1 1 rfl) rfl
theorem q133 : (Jvm.Cond.instantiable "SegmentedCache" (15 : Nat)) ∈ lw_all := lw_g (lw_at lw_m1 65 rfl) rfl
theorem q135 : (Jvm.Cond.instanceMethod ({ cls := "SegmentedCache", name := "<init>", desc := "()V" } : Jvm.MethodName)) ∈ lw_all := lw_g (lw_at lw_m1 67 rfl) rfl
theorem q136 : (Jvm.Cond.code ({ cls := "SegmentedCache", name := "<init>", desc := "()V" } : Jvm.MethodName) prog_1_method_3_code (2 : Nat) (Option.none : Option Jvm.ClassFile.FieldType)) ∈ lw_all := lw_g (lw_at lw_m1 68 rfl) rfl
theorem q137 : (Jvm.Cond.methodLink "SegmentedCache" (9 : Nat) ({ cls := "java/lang/Object", name := "<init>", desc := "()V" } : Jvm.MethodName)) ∈ lw_all := lw_g (lw_at lw_m1 69 rfl) rfl
theorem q140 : (Jvm.Cond.classLink "SegmentedCache" (15 : Nat) "SegmentedCache$Cache") ∈ lw_all := lw_g (lw_at lw_m1 72 rfl) rfl
theorem q142 : (Jvm.Cond.methodLinkNest "SegmentedCache" (17 : Nat) ({ cls := "SegmentedCache$Cache", name := "<init>", desc := "()V" } : Jvm.MethodName) "SegmentedCache") ∈ lw_tbl := lw_at lw_m1 74 rfl
theorem q213 : (Jvm.Cond.fieldLinkNest "SegmentedCache" (175 : Nat) "SegmentedCache$Cache$Queue" "things" "Ljava/util/LinkedHashMap;" "SegmentedCache") ∈ lw_tbl := lw_at lw_m1 145 rfl
theorem q215 : (Jvm.Cond.fieldLinkNest "SegmentedCache" (106 : Nat) "SegmentedCache$Cache$Queue" "weight" "I" "SegmentedCache") ∈ lw_tbl := lw_at lw_m1 147 rfl
theorem q250 : (Jvm.Cond.fieldLinkNest "SegmentedCache" (73 : Nat) "SegmentedCache$Cache" "capacity" "I" "SegmentedCache") ∈ lw_tbl := lw_at lw_m1 182 rfl
theorem q253 : (Jvm.Cond.fieldLinkNest "SegmentedCache" (77 : Nat) "SegmentedCache$Cache" "border" "I" "SegmentedCache") ∈ lw_tbl := lw_at lw_m1 185 rfl
theorem q256 : (Jvm.Cond.fieldLinkNest "SegmentedCache" (80 : Nat) "SegmentedCache$Cache" "rise" "I" "SegmentedCache") ∈ lw_tbl := lw_at lw_m1 188 rfl
theorem q259 : (Jvm.Cond.fieldLinkNest "SegmentedCache" (83 : Nat) "SegmentedCache$Cache" "lives" "I" "SegmentedCache") ∈ lw_tbl := lw_at lw_m1 191 rfl
theorem q261 : (Jvm.Cond.fieldLinkNest "SegmentedCache" (111 : Nat) "SegmentedCache$Cache" "had" "I" "SegmentedCache") ∈ lw_tbl := lw_at lw_m1 193 rfl
theorem q263 : (Jvm.Cond.fieldLinkNest "SegmentedCache" (114 : Nat) "SegmentedCache$Cache" "missed" "I" "SegmentedCache") ∈ lw_tbl := lw_at lw_m1 195 rfl
theorem q265 : (Jvm.Cond.fieldLinkNest "SegmentedCache" (117 : Nat) "SegmentedCache$Cache" "haunted" "I" "SegmentedCache") ∈ lw_tbl := lw_at lw_m1 197 rfl
theorem q267 : (Jvm.Cond.fieldLinkNest "SegmentedCache" (120 : Nat) "SegmentedCache$Cache" "saved" "I" "SegmentedCache") ∈ lw_tbl := lw_at lw_m1 199 rfl
theorem q269 : (Jvm.Cond.fieldLinkNest "SegmentedCache" (123 : Nat) "SegmentedCache$Cache" "paid" "I" "SegmentedCache") ∈ lw_tbl := lw_at lw_m1 201 rfl
theorem q271 : (Jvm.Cond.fieldLinkNest "SegmentedCache" (126 : Nat) "SegmentedCache$Cache" "went" "I" "SegmentedCache") ∈ lw_tbl := lw_at lw_m1 203 rfl
theorem q274 : (Jvm.Cond.fieldLinkNest "SegmentedCache" (299 : Nat) "SegmentedCache$Cache" "probation" "LSegmentedCache$Cache$Queue;" "SegmentedCache") ∈ lw_tbl := lw_at lw_m1 206 rfl
theorem q277 : (Jvm.Cond.fieldLinkNest "SegmentedCache" (330 : Nat) "SegmentedCache$Cache" "guarded" "LSegmentedCache$Cache$Queue;" "SegmentedCache") ∈ lw_tbl := lw_at lw_m1 209 rfl
theorem q281 : (Jvm.Cond.fieldLinkNest "SegmentedCache" (195 : Nat) "SegmentedCache$Cache" "gone" "Ljava/util/ArrayDeque;" "SegmentedCache") ∈ lw_tbl := lw_at lw_m1 213 rfl
theorem q317 : (Jvm.Cond.classLink "SegmentedCache" (22 : Nat) "SegmentedCache$Sketch") ∈ lw_all := lw_g (lw_at lw_m2 9 rfl) rfl
theorem q319 : (Jvm.Cond.methodLinkNest "SegmentedCache" (24 : Nat) ({ cls := "SegmentedCache$Sketch", name := "<init>", desc := "()V" } : Jvm.MethodName) "SegmentedCache") ∈ lw_tbl := lw_at lw_m2 11 rfl
theorem q334 : (Jvm.Cond.fieldLinkNest "SegmentedCache" (274 : Nat) "SegmentedCache$Sketch" "capacity" "I" "SegmentedCache") ∈ lw_tbl := lw_at lw_m2 26 rfl
theorem q336 : (Jvm.Cond.fieldLinkNest "SegmentedCache" (265 : Nat) "SegmentedCache$Sketch" "border" "I" "SegmentedCache") ∈ lw_tbl := lw_at lw_m2 28 rfl
theorem q340 : (Jvm.Cond.fieldLinkNest "SegmentedCache" (262 : Nat) "SegmentedCache$Sketch" "had" "I" "SegmentedCache") ∈ lw_tbl := lw_at lw_m2 32 rfl
theorem q342 : (Jvm.Cond.fieldLinkNest "SegmentedCache" (263 : Nat) "SegmentedCache$Sketch" "missed" "I" "SegmentedCache") ∈ lw_tbl := lw_at lw_m2 34 rfl
theorem q344 : (Jvm.Cond.fieldLinkNest "SegmentedCache" (264 : Nat) "SegmentedCache$Sketch" "haunted" "I" "SegmentedCache") ∈ lw_tbl := lw_at lw_m2 36 rfl
theorem q346 : (Jvm.Cond.fieldLinkNest "SegmentedCache" (269 : Nat) "SegmentedCache$Sketch" "went" "I" "SegmentedCache") ∈ lw_tbl := lw_at lw_m2 38 rfl
theorem q389 : (Jvm.Cond.classLink "SegmentedCache" (36 : Nat) "java/util/LinkedList") ∈ lw_all := lw_g (lw_at lw_m2 81 rfl) rfl
theorem q391 : (Jvm.Cond.methodLink "SegmentedCache" (38 : Nat) ({ cls := "java/util/LinkedList", name := "<init>", desc := "()V" } : Jvm.MethodName)) ∈ lw_all := lw_g (lw_at lw_m2 83 rfl) rfl
theorem q420 : (Jvm.Cond.classLink "SegmentedCache" (43 : Nat) "SegmentedCache$Key") ∈ lw_all := lw_g (lw_at lw_m2 112 rfl) rfl
theorem q422 : (Jvm.Cond.classLink "SegmentedCache" (53 : Nat) "SegmentedCache$Tape") ∈ lw_all := lw_g (lw_at lw_m2 114 rfl) rfl
theorem q425 : (Jvm.Cond.methodLinkNest "SegmentedCache" (59 : Nat) ({ cls := "SegmentedCache$Tape", name := "<init>", desc := "()V" } : Jvm.MethodName) "SegmentedCache") ∈ lw_tbl := lw_at lw_m2 117 rfl
theorem q430 : (Jvm.Cond.fieldLinkNest "SegmentedCache" (318 : Nat) "SegmentedCache$Tape" "row" "Ljava/lang/Object;" "SegmentedCache") ∈ lw_tbl := lw_at lw_m2 122 rfl
theorem q434 : (Jvm.Cond.fieldLink "SegmentedCache" (18 : Nat) "SegmentedCache" "now" "LSegmentedCache$Cache;") ∈ lw_all := lw_g (lw_at lw_m2 126 rfl) rfl
theorem q435 : (Jvm.Cond.fieldLink "SegmentedCache" (25 : Nat) "SegmentedCache" "thought" "LSegmentedCache$Sketch;") ∈ lw_all := lw_g (lw_at lw_m2 127 rfl) rfl
theorem q436 : (Jvm.Cond.fieldLink "SegmentedCache" (29 : Nat) "SegmentedCache" "tried" "LSegmentedCache$Sketch;") ∈ lw_all := lw_g (lw_at lw_m2 128 rfl) rfl
theorem q437 : (Jvm.Cond.fieldLink "SegmentedCache" (32 : Nat) "SegmentedCache" "text" "[B") ∈ lw_all := lw_g (lw_at lw_m2 129 rfl) rfl
theorem q438 : (Jvm.Cond.fieldLink "SegmentedCache" (229 : Nat) "SegmentedCache" "texted" "I") ∈ lw_all := lw_g (lw_at lw_m2 130 rfl) rfl
theorem q439 : (Jvm.Cond.fieldLink "SegmentedCache" (39 : Nat) "SegmentedCache" "traces" "Ljava/util/LinkedList;") ∈ lw_all := lw_g (lw_at lw_m2 131 rfl) rfl
theorem q440 : (Jvm.Cond.fieldLink "SegmentedCache" (45 : Nat) "SegmentedCache" "bookKeys" "[LSegmentedCache$Key;") ∈ lw_all := lw_g (lw_at lw_m2 132 rfl) rfl
theorem q441 : (Jvm.Cond.fieldLink "SegmentedCache" (49 : Nat) "SegmentedCache" "bookWhere" "[I") ∈ lw_all := lw_g (lw_at lw_m2 133 rfl) rfl
theorem q442 : (Jvm.Cond.fieldLink "SegmentedCache" (296 : Nat) "SegmentedCache" "bookMany" "I") ∈ lw_all := lw_g (lw_at lw_m2 134 rfl) rfl
theorem q443 : (Jvm.Cond.fieldLink "SegmentedCache" (55 : Nat) "SegmentedCache" "tapes" "[LSegmentedCache$Tape;") ∈ lw_all := lw_g (lw_at lw_m2 135 rfl) rfl
theorem q444 : (Jvm.Cond.fieldLink "SegmentedCache" (60 : Nat) "SegmentedCache" "imageNow" "LSegmentedCache$Cache;") ∈ lw_all := lw_g (lw_at lw_m2 136 rfl) rfl
theorem q445 : (Jvm.Cond.fieldLink "SegmentedCache" (63 : Nat) "SegmentedCache" "imageBookKeys" "[LSegmentedCache$Key;") ∈ lw_all := lw_g (lw_at lw_m2 137 rfl) rfl
theorem q446 : (Jvm.Cond.fieldLink "SegmentedCache" (66 : Nat) "SegmentedCache" "imageBookWhere" "[I") ∈ lw_all := lw_g (lw_at lw_m2 138 rfl) rfl
theorem q447 : (Jvm.Cond.fieldLink "SegmentedCache" (342 : Nat) "SegmentedCache" "imageBooked" "I") ∈ lw_all := lw_g (lw_at lw_m2 139 rfl) rfl
theorem q448 : (Jvm.Cond.fieldLink "SegmentedCache" (345 : Nat) "SegmentedCache" "hasImage" "Z") ∈ lw_all := lw_g (lw_at lw_m2 140 rfl) rfl
theorem q449 : (Jvm.Cond.laysFinal "SegmentedCache" "SegmentedCache" "now" "LSegmentedCache$Cache;") ∈ lw_all := lw_g (lw_at lw_m2 141 rfl) rfl
theorem q450 : (Jvm.Cond.soleField "SegmentedCache" "now") ∈ lw_all := lw_g (lw_at lw_m2 142 rfl) rfl
theorem q451 : (Jvm.Cond.laysFinal "SegmentedCache" "SegmentedCache" "thought" "LSegmentedCache$Sketch;") ∈ lw_all := lw_g (lw_at lw_m2 143 rfl) rfl
theorem q452 : (Jvm.Cond.soleField "SegmentedCache" "thought") ∈ lw_all := lw_g (lw_at lw_m2 144 rfl) rfl
theorem q453 : (Jvm.Cond.laysFinal "SegmentedCache" "SegmentedCache" "tried" "LSegmentedCache$Sketch;") ∈ lw_all := lw_g (lw_at lw_m2 145 rfl) rfl
theorem q454 : (Jvm.Cond.soleField "SegmentedCache" "tried") ∈ lw_all := lw_g (lw_at lw_m2 146 rfl) rfl
theorem q455 : (Jvm.Cond.laysFinal "SegmentedCache" "SegmentedCache" "text" "[B") ∈ lw_all := lw_g (lw_at lw_m2 147 rfl) rfl
theorem q456 : (Jvm.Cond.soleField "SegmentedCache" "text") ∈ lw_all := lw_g (lw_at lw_m2 148 rfl) rfl
theorem q457 : (Jvm.Cond.lays "SegmentedCache" "SegmentedCache" "texted" "I") ∈ lw_all := lw_g (lw_at lw_m2 149 rfl) rfl
theorem q458 : (Jvm.Cond.soleField "SegmentedCache" "texted") ∈ lw_all := lw_g (lw_at lw_m2 150 rfl) rfl
theorem q459 : (Jvm.Cond.laysFinal "SegmentedCache" "SegmentedCache" "traces" "Ljava/util/LinkedList;") ∈ lw_all := lw_g (lw_at lw_m2 151 rfl) rfl
theorem q460 : (Jvm.Cond.soleField "SegmentedCache" "traces") ∈ lw_all := lw_g (lw_at lw_m2 152 rfl) rfl
theorem q461 : (Jvm.Cond.laysFinal "SegmentedCache" "SegmentedCache" "bookKeys" "[LSegmentedCache$Key;") ∈ lw_all := lw_g (lw_at lw_m2 153 rfl) rfl
theorem q462 : (Jvm.Cond.soleField "SegmentedCache" "bookKeys") ∈ lw_all := lw_g (lw_at lw_m2 154 rfl) rfl
theorem q463 : (Jvm.Cond.laysFinal "SegmentedCache" "SegmentedCache" "bookWhere" "[I") ∈ lw_all := lw_g (lw_at lw_m2 155 rfl) rfl
theorem q464 : (Jvm.Cond.soleField "SegmentedCache" "bookWhere") ∈ lw_all := lw_g (lw_at lw_m2 156 rfl) rfl
theorem q465 : (Jvm.Cond.lays "SegmentedCache" "SegmentedCache" "bookMany" "I") ∈ lw_all := lw_g (lw_at lw_m2 157 rfl) rfl
theorem q466 : (Jvm.Cond.soleField "SegmentedCache" "bookMany") ∈ lw_all := lw_g (lw_at lw_m2 158 rfl) rfl
theorem q467 : (Jvm.Cond.laysFinal "SegmentedCache" "SegmentedCache" "tapes" "[LSegmentedCache$Tape;") ∈ lw_all := lw_g (lw_at lw_m2 159 rfl) rfl
theorem q468 : (Jvm.Cond.soleField "SegmentedCache" "tapes") ∈ lw_all := lw_g (lw_at lw_m2 160 rfl) rfl
theorem q469 : (Jvm.Cond.laysFinal "SegmentedCache" "SegmentedCache" "imageNow" "LSegmentedCache$Cache;") ∈ lw_all := lw_g (lw_at lw_m2 161 rfl) rfl
theorem q470 : (Jvm.Cond.soleField "SegmentedCache" "imageNow") ∈ lw_all := lw_g (lw_at lw_m2 162 rfl) rfl
theorem q471 : (Jvm.Cond.laysFinal "SegmentedCache" "SegmentedCache" "imageBookKeys" "[LSegmentedCache$Key;") ∈ lw_all := lw_g (lw_at lw_m2 163 rfl) rfl
theorem q472 : (Jvm.Cond.soleField "SegmentedCache" "imageBookKeys") ∈ lw_all := lw_g (lw_at lw_m2 164 rfl) rfl
theorem q473 : (Jvm.Cond.laysFinal "SegmentedCache" "SegmentedCache" "imageBookWhere" "[I") ∈ lw_all := lw_g (lw_at lw_m2 165 rfl) rfl
theorem q474 : (Jvm.Cond.soleField "SegmentedCache" "imageBookWhere") ∈ lw_all := lw_g (lw_at lw_m2 166 rfl) rfl
theorem q475 : (Jvm.Cond.lays "SegmentedCache" "SegmentedCache" "imageBooked" "I") ∈ lw_all := lw_g (lw_at lw_m2 167 rfl) rfl
theorem q476 : (Jvm.Cond.soleField "SegmentedCache" "imageBooked") ∈ lw_all := lw_g (lw_at lw_m2 168 rfl) rfl
theorem q477 : (Jvm.Cond.lays "SegmentedCache" "SegmentedCache" "hasImage" "Z") ∈ lw_all := lw_g (lw_at lw_m2 169 rfl) rfl
theorem q478 : (Jvm.Cond.soleField "SegmentedCache" "hasImage") ∈ lw_all := lw_g (lw_at lw_m2 170 rfl) rfl
theorem q479 : (Jvm.Cond.superclass "SegmentedCache" "java/lang/Object") ∈ lw_all := lw_g (lw_at lw_m2 171 rfl) rfl
theorem q481 : (Jvm.Cond.instanceMethod ({ cls := "SegmentedCache", name := "set", desc := "(II)I" } : Jvm.MethodName)) ∈ lw_all := lw_g (lw_at lw_m2 173 rfl) rfl
theorem q482 : (Jvm.Cond.selects "SegmentedCache" ({ cls := "SegmentedCache", name := "set", desc := "(II)I" } : Jvm.MethodName) ({ cls := "SegmentedCache", name := "set", desc := "(II)I" } : Jvm.MethodName)) ∈ lw_all := lw_g (lw_at lw_m2 174 rfl) rfl
theorem q483 : (Jvm.Cond.code ({ cls := "SegmentedCache", name := "set", desc := "(II)I" } : Jvm.MethodName) prog_1_method_6_code (4 : Nat) (Option.some Jvm.ClassFile.FieldType.int)) ∈ lw_all := lw_g (lw_at lw_m2 175 rfl) rfl
theorem q484 : (Jvm.Cond.methodLink "SegmentedCache" (5 : Nat) ({ cls := "SegmentedCache", name := "in", desc := "(III)Z" } : Jvm.MethodName)) ∈ lw_all := lw_g (lw_at lw_m2 176 rfl) rfl
theorem q485 : (Jvm.Cond.static ({ cls := "SegmentedCache", name := "in", desc := "(III)Z" } : Jvm.MethodName)) ∈ lw_all := lw_g (lw_at lw_m2 177 rfl) rfl
theorem q486 : (Jvm.Cond.code ({ cls := "SegmentedCache", name := "in", desc := "(III)Z" } : Jvm.MethodName) prog_1_method_1_code (3 : Nat) (Option.some Jvm.ClassFile.FieldType.boolean)) ∈ lw_all := lw_g (lw_at lw_m2 178 rfl) rfl
theorem q487 : (Jvm.Cond.fieldLink "SegmentedCache" (86 : Nat) "SegmentedCache" "BOUNDS" "[I") ∈ lw_all := lw_g (lw_at lw_m2 179 rfl) rfl
theorem q488 : (Jvm.Cond.laysStatic "SegmentedCache" "BOUNDS" "[I") ∈ lw_tbl := lw_at lw_m2 180 rfl
theorem q489 : (Jvm.Cond.methodLink "SegmentedCache" (89 : Nat) ({ cls := "SegmentedCache", name := "setting", desc := "(I)I" } : Jvm.MethodName)) ∈ lw_all := lw_g (lw_at lw_m2 181 rfl) rfl
theorem q490 : (Jvm.Cond.privateMethod ({ cls := "SegmentedCache", name := "setting", desc := "(I)I" } : Jvm.MethodName)) ∈ lw_tbl := lw_at lw_m2 182 rfl
theorem q491 : (Jvm.Cond.instanceMethod ({ cls := "SegmentedCache", name := "setting", desc := "(I)I" } : Jvm.MethodName)) ∈ lw_all := lw_g (lw_at lw_m2 183 rfl) rfl
theorem q492 : (Jvm.Cond.code ({ cls := "SegmentedCache", name := "setting", desc := "(I)I" } : Jvm.MethodName) prog_1_method_5_code (2 : Nat) (Option.some Jvm.ClassFile.FieldType.int)) ∈ lw_all := lw_g (lw_at lw_m2 184 rfl) rfl
theorem q493 : (Jvm.Cond.methodLink "SegmentedCache" (93 : Nat) ({ cls := "java/lang/Math", name := "min", desc := "(II)I" } : Jvm.MethodName)) ∈ lw_all := lw_g (lw_at lw_m2 185 rfl) rfl
theorem q496 : (Jvm.Cond.methodLink "SegmentedCache" (99 : Nat) ({ cls := "SegmentedCache$Cache", name := "trims", desc := "()V" } : Jvm.MethodName)) ∈ lw_all := lw_g (lw_at lw_m2 188 rfl) rfl
theorem q1045 : (Jvm.Cond.selects "SegmentedCache" ({ cls := "java/lang/Object", name := "getClass", desc := "()Ljava/lang/Class;" } : Jvm.MethodName) ({ cls := "java/lang/Object", name := "getClass", desc := "()Ljava/lang/Class;" } : Jvm.MethodName)) ∈ lw_all := lw_g (lw_at lw_m5 17 rfl) rfl
theorem q1317 : (Jvm.Cond.selects "SegmentedCache" ({ cls := "java/lang/Object", name := "equals", desc := "(Ljava/lang/Object;)Z" } : Jvm.MethodName) ({ cls := "java/lang/Object", name := "equals", desc := "(Ljava/lang/Object;)Z" } : Jvm.MethodName)) ∈ lw_all := lw_g (lw_at lw_m6 49 rfl) rfl
theorem q1683 : (Jvm.Cond.selects "SegmentedCache" ({ cls := "java/lang/Object", name := "hashCode", desc := "()I" } : Jvm.MethodName) ({ cls := "java/lang/Object", name := "hashCode", desc := "()I" } : Jvm.MethodName)) ∈ lw_all := lw_g (lw_at lw_m7 175 rfl) rfl
theorem q1886 : (Jvm.Cond.fieldLinkNest "SegmentedCache" (146 : Nat) "SegmentedCache$Thing" "value" "I" "SegmentedCache") ∈ lw_tbl := lw_at lw_m8 138 rfl
theorem q1892 : (Jvm.Cond.fieldLinkNest "SegmentedCache" (162 : Nat) "SegmentedCache$Thing" "weight" "I" "SegmentedCache") ∈ lw_tbl := lw_at lw_m8 144 rfl
theorem q1894 : (Jvm.Cond.fieldLinkNest "SegmentedCache" (163 : Nat) "SegmentedCache$Thing" "cost" "I" "SegmentedCache") ∈ lw_tbl := lw_at lw_m8 146 rfl
theorem q1899 : (Jvm.Cond.fieldLinkNest "SegmentedCache" (166 : Nat) "SegmentedCache$Thing" "hits" "I" "SegmentedCache") ∈ lw_tbl := lw_at lw_m8 151 rfl
theorem q1903 : (Jvm.Cond.fieldLinkNest "SegmentedCache" (169 : Nat) "SegmentedCache$Thing" "chances" "I" "SegmentedCache") ∈ lw_tbl := lw_at lw_m8 155 rfl
theorem q1907 : (Jvm.Cond.fieldLinkNest "SegmentedCache" (158 : Nat) "SegmentedCache$Thing" "isPinned" "Z" "SegmentedCache") ∈ lw_tbl := lw_at lw_m8 159 rfl
theorem q1984 : (Jvm.Cond.instanceMethod ({ cls := "SegmentedCache", name := "told", desc := "(I)I" } : Jvm.MethodName)) ∈ lw_all := lw_g (lw_at lw_m8 236 rfl) rfl
theorem q1985 : (Jvm.Cond.selects "SegmentedCache" ({ cls := "SegmentedCache", name := "told", desc := "(I)I" } : Jvm.MethodName) ({ cls := "SegmentedCache", name := "told", desc := "(I)I" } : Jvm.MethodName)) ∈ lw_all := lw_g (lw_at lw_m8 237 rfl) rfl
theorem q1986 : (Jvm.Cond.code ({ cls := "SegmentedCache", name := "told", desc := "(I)I" } : Jvm.MethodName) prog_1_method_7_code (2 : Nat) (Option.some Jvm.ClassFile.FieldType.int)) ∈ lw_all := lw_g (lw_at lw_m8 238 rfl) rfl
theorem q1987 : (Jvm.Cond.methodLink "SegmentedCache" (102 : Nat) ({ cls := "SegmentedCache$Cache", name := "queue", desc := "(I)LSegmentedCache$Cache$Queue;" } : Jvm.MethodName)) ∈ lw_all := lw_g (lw_at lw_m8 239 rfl) rfl
theorem q1992 : (Jvm.Cond.instanceMethod ({ cls := "SegmentedCache", name := "put", desc := "(IIIII)I" } : Jvm.MethodName)) ∈ lw_all := lw_g (lw_at lw_m9 4 rfl) rfl
theorem q1993 : (Jvm.Cond.selects "SegmentedCache" ({ cls := "SegmentedCache", name := "put", desc := "(IIIII)I" } : Jvm.MethodName) ({ cls := "SegmentedCache", name := "put", desc := "(IIIII)I" } : Jvm.MethodName)) ∈ lw_all := lw_g (lw_at lw_m9 5 rfl) rfl
theorem q1994 : (Jvm.Cond.code ({ cls := "SegmentedCache", name := "put", desc := "(IIIII)I" } : Jvm.MethodName) prog_1_method_8_code (6 : Nat) (Option.some Jvm.ClassFile.FieldType.int)) ∈ lw_all := lw_g (lw_at lw_m9 6 rfl) rfl
theorem q1995 : (Jvm.Cond.methodLink "SegmentedCache" (129 : Nat) ({ cls := "SegmentedCache", name := "isKey", desc := "(II)Z" } : Jvm.MethodName)) ∈ lw_all := lw_g (lw_at lw_m9 7 rfl) rfl
theorem q1996 : (Jvm.Cond.static ({ cls := "SegmentedCache", name := "isKey", desc := "(II)Z" } : Jvm.MethodName)) ∈ lw_all := lw_g (lw_at lw_m9 8 rfl) rfl
theorem q1997 : (Jvm.Cond.code ({ cls := "SegmentedCache", name := "isKey", desc := "(II)Z" } : Jvm.MethodName) prog_1_method_2_code (2 : Nat) (Option.some Jvm.ClassFile.FieldType.boolean)) ∈ lw_all := lw_g (lw_at lw_m9 9 rfl) rfl
theorem q1999 : (Jvm.Cond.methodLink "SegmentedCache" (133 : Nat) ({ cls := "SegmentedCache$Key", name := "<init>", desc := "(II)V" } : Jvm.MethodName)) ∈ lw_all := lw_g (lw_at lw_m9 11 rfl) rfl
theorem q2010 : (Jvm.Cond.methodLink "SegmentedCache" (136 : Nat) ({ cls := "SegmentedCache$Cache", name := "puts", desc := "(LSegmentedCache$Key;III)I" } : Jvm.MethodName)) ∈ lw_all := lw_g (lw_at lw_m9 22 rfl) rfl
theorem q2066 : (Jvm.Cond.instanceMethod ({ cls := "SegmentedCache", name := "get", desc := "(II)J" } : Jvm.MethodName)) ∈ lw_all := lw_g (lw_at lw_m9 78 rfl) rfl
theorem q2067 : (Jvm.Cond.selects "SegmentedCache" ({ cls := "SegmentedCache", name := "get", desc := "(II)J" } : Jvm.MethodName) ({ cls := "SegmentedCache", name := "get", desc := "(II)J" } : Jvm.MethodName)) ∈ lw_all := lw_g (lw_at lw_m9 79 rfl) rfl
theorem q2068 : (Jvm.Cond.code ({ cls := "SegmentedCache", name := "get", desc := "(II)J" } : Jvm.MethodName) prog_1_method_9_code (4 : Nat) (Option.some Jvm.ClassFile.FieldType.long)) ∈ lw_all := lw_g (lw_at lw_m9 80 rfl) rfl
theorem q2069 : (Jvm.Cond.constantLong "SegmentedCache" (140 : Nat) (-9223372036854775808 : Int64)) ∈ lw_all := lw_g (lw_at lw_m9 81 rfl) rfl
theorem q2070 : (Jvm.Cond.methodLink "SegmentedCache" (142 : Nat) ({ cls := "SegmentedCache$Cache", name := "gets", desc := "(LSegmentedCache$Key;)LSegmentedCache$Thing;" } : Jvm.MethodName)) ∈ lw_all := lw_g (lw_at lw_m9 82 rfl) rfl
theorem q2075 : (Jvm.Cond.instanceMethod ({ cls := "SegmentedCache", name := "drop", desc := "(II)I" } : Jvm.MethodName)) ∈ lw_all := lw_g (lw_at lw_m9 87 rfl) rfl
theorem q2076 : (Jvm.Cond.selects "SegmentedCache" ({ cls := "SegmentedCache", name := "drop", desc := "(II)I" } : Jvm.MethodName) ({ cls := "SegmentedCache", name := "drop", desc := "(II)I" } : Jvm.MethodName)) ∈ lw_all := lw_g (lw_at lw_m9 88 rfl) rfl
theorem q2077 : (Jvm.Cond.code ({ cls := "SegmentedCache", name := "drop", desc := "(II)I" } : Jvm.MethodName) prog_1_method_10_code (3 : Nat) (Option.some Jvm.ClassFile.FieldType.int)) ∈ lw_all := lw_g (lw_at lw_m9 89 rfl) rfl
theorem q2078 : (Jvm.Cond.methodLink "SegmentedCache" (151 : Nat) ({ cls := "SegmentedCache$Cache", name := "drops", desc := "(LSegmentedCache$Key;)I" } : Jvm.MethodName)) ∈ lw_all := lw_g (lw_at lw_m9 90 rfl) rfl
theorem q2083 : (Jvm.Cond.instanceMethod ({ cls := "SegmentedCache", name := "pin", desc := "(IIZ)I" } : Jvm.MethodName)) ∈ lw_all := lw_g (lw_at lw_m9 95 rfl) rfl
theorem q2084 : (Jvm.Cond.selects "SegmentedCache" ({ cls := "SegmentedCache", name := "pin", desc := "(IIZ)I" } : Jvm.MethodName) ({ cls := "SegmentedCache", name := "pin", desc := "(IIZ)I" } : Jvm.MethodName)) ∈ lw_all := lw_g (lw_at lw_m9 96 rfl) rfl
theorem q2085 : (Jvm.Cond.code ({ cls := "SegmentedCache", name := "pin", desc := "(IIZ)I" } : Jvm.MethodName) prog_1_method_11_code (6 : Nat) (Option.some Jvm.ClassFile.FieldType.int)) ∈ lw_all := lw_g (lw_at lw_m9 97 rfl) rfl
theorem q2086 : (Jvm.Cond.methodLinkNest "SegmentedCache" (155 : Nat) ({ cls := "SegmentedCache$Cache", name := "thing", desc := "(LSegmentedCache$Key;)LSegmentedCache$Thing;" } : Jvm.MethodName) "SegmentedCache") ∈ lw_tbl := lw_at lw_m9 98 rfl
theorem q2088 : (Jvm.Cond.instanceMethod ({ cls := "SegmentedCache", name := "of", desc := "(III)I" } : Jvm.MethodName)) ∈ lw_all := lw_g (lw_at lw_m9 100 rfl) rfl
theorem q2089 : (Jvm.Cond.selects "SegmentedCache" ({ cls := "SegmentedCache", name := "of", desc := "(III)I" } : Jvm.MethodName) ({ cls := "SegmentedCache", name := "of", desc := "(III)I" } : Jvm.MethodName)) ∈ lw_all := lw_g (lw_at lw_m9 101 rfl) rfl
theorem q2090 : (Jvm.Cond.code ({ cls := "SegmentedCache", name := "of", desc := "(III)I" } : Jvm.MethodName) prog_1_method_13_code (6 : Nat) (Option.some Jvm.ClassFile.FieldType.int)) ∈ lw_all := lw_g (lw_at lw_m9 102 rfl) rfl
theorem q2091 : (Jvm.Cond.methodLink "SegmentedCache" (172 : Nat) ({ cls := "SegmentedCache$Cache", name := "where", desc := "(LSegmentedCache$Key;)I" } : Jvm.MethodName)) ∈ lw_all := lw_g (lw_at lw_m9 103 rfl) rfl
theorem q2092 : (Jvm.Cond.methodLink "SegmentedCache" (179 : Nat) ({ cls := "java/util/LinkedHashMap", name := "get", desc := "(Ljava/lang/Object;)Ljava/lang/Object;" } : Jvm.MethodName)) ∈ lw_all := lw_g (lw_at lw_m9 104 rfl) rfl
theorem q2093 : (Jvm.Cond.classLink "SegmentedCache" (147 : Nat) "SegmentedCache$Thing") ∈ lw_all := lw_g (lw_at lw_m9 105 rfl) rfl
theorem q2094 : (Jvm.Cond.methodLink "SegmentedCache" (185 : Nat) ({ cls := "SegmentedCache", name := "ofThing", desc := "(LSegmentedCache$Thing;I)I" } : Jvm.MethodName)) ∈ lw_all := lw_g (lw_at lw_m9 106 rfl) rfl
theorem q2095 : (Jvm.Cond.privateMethod ({ cls := "SegmentedCache", name := "ofThing", desc := "(LSegmentedCache$Thing;I)I" } : Jvm.MethodName)) ∈ lw_tbl := lw_at lw_m9 107 rfl
theorem q2096 : (Jvm.Cond.instanceMethod ({ cls := "SegmentedCache", name := "ofThing", desc := "(LSegmentedCache$Thing;I)I" } : Jvm.MethodName)) ∈ lw_all := lw_g (lw_at lw_m9 108 rfl) rfl
theorem q2097 : (Jvm.Cond.code ({ cls := "SegmentedCache", name := "ofThing", desc := "(LSegmentedCache$Thing;I)I" } : Jvm.MethodName) prog_1_method_12_code (3 : Nat) (Option.some Jvm.ClassFile.FieldType.int)) ∈ lw_all := lw_g (lw_at lw_m9 109 rfl) rfl
theorem q2098 : (Jvm.Cond.methodLink "SegmentedCache" (189 : Nat) ({ cls := "SegmentedCache$Cache$Queue", name := "placeOf", desc := "(LSegmentedCache$Key;)I" } : Jvm.MethodName)) ∈ lw_all := lw_g (lw_at lw_m9 110 rfl) rfl
theorem q2125 : (Jvm.Cond.instanceMethod ({ cls := "SegmentedCache", name := "key", desc := "(II)I" } : Jvm.MethodName)) ∈ lw_all := lw_g (lw_at lw_m9 137 rfl) rfl
theorem q2126 : (Jvm.Cond.selects "SegmentedCache" ({ cls := "SegmentedCache", name := "key", desc := "(II)I" } : Jvm.MethodName) ({ cls := "SegmentedCache", name := "key", desc := "(II)I" } : Jvm.MethodName)) ∈ lw_all := lw_g (lw_at lw_m9 138 rfl) rfl
theorem q2127 : (Jvm.Cond.code ({ cls := "SegmentedCache", name := "key", desc := "(II)I" } : Jvm.MethodName) prog_1_method_14_code (3 : Nat) (Option.some Jvm.ClassFile.FieldType.int)) ∈ lw_all := lw_g (lw_at lw_m9 139 rfl) rfl
theorem q2128 : (Jvm.Cond.methodLink "SegmentedCache" (192 : Nat) ({ cls := "SegmentedCache$Cache$Queue", name := "at", desc := "(I)I" } : Jvm.MethodName)) ∈ lw_all := lw_g (lw_at lw_m9 140 rfl) rfl
theorem q2137 : (Jvm.Cond.instanceMethod ({ cls := "SegmentedCache", name := "gone", desc := "(I)I" } : Jvm.MethodName)) ∈ lw_all := lw_g (lw_at lw_m9 149 rfl) rfl
theorem q2138 : (Jvm.Cond.selects "SegmentedCache" ({ cls := "SegmentedCache", name := "gone", desc := "(I)I" } : Jvm.MethodName) ({ cls := "SegmentedCache", name := "gone", desc := "(I)I" } : Jvm.MethodName)) ∈ lw_all := lw_g (lw_at lw_m9 150 rfl) rfl
theorem q2139 : (Jvm.Cond.code ({ cls := "SegmentedCache", name := "gone", desc := "(I)I" } : Jvm.MethodName) prog_1_method_16_code (2 : Nat) (Option.some Jvm.ClassFile.FieldType.int)) ∈ lw_all := lw_g (lw_at lw_m9 151 rfl) rfl
theorem q2140 : (Jvm.Cond.methodLink "SegmentedCache" (218 : Nat) ({ cls := "SegmentedCache", name := "goneAt", desc := "(LSegmentedCache$Cache;I)I" } : Jvm.MethodName)) ∈ lw_all := lw_g (lw_at lw_m9 152 rfl) rfl
theorem q2141 : (Jvm.Cond.static ({ cls := "SegmentedCache", name := "goneAt", desc := "(LSegmentedCache$Cache;I)I" } : Jvm.MethodName)) ∈ lw_all := lw_g (lw_at lw_m9 153 rfl) rfl
theorem q2142 : (Jvm.Cond.code ({ cls := "SegmentedCache", name := "goneAt", desc := "(LSegmentedCache$Cache;I)I" } : Jvm.MethodName) prog_1_method_15_code (5 : Nat) (Option.some Jvm.ClassFile.FieldType.int)) ∈ lw_all := lw_g (lw_at lw_m9 154 rfl) rfl
theorem q2143 : (Jvm.Cond.methodLink "SegmentedCache" (199 : Nat) ({ cls := "java/util/ArrayDeque", name := "iterator", desc := "()Ljava/util/Iterator;" } : Jvm.MethodName)) ∈ lw_all := lw_g (lw_at lw_m9 155 rfl) rfl
theorem q2167 : (Jvm.Cond.interfaceEntry "SegmentedCache" (205 : Nat)) ∈ lw_tbl := lw_at lw_m9 179 rfl
theorem q2168 : (Jvm.Cond.methodLink "SegmentedCache" (205 : Nat) ({ cls := "java/util/Iterator", name := "hasNext", desc := "()Z" } : Jvm.MethodName)) ∈ lw_all := lw_g (lw_at lw_m9 180 rfl) rfl
theorem q2169 : (Jvm.Cond.interfaceEntry "SegmentedCache" (211 : Nat)) ∈ lw_tbl := lw_at lw_m9 181 rfl
theorem q2170 : (Jvm.Cond.methodLink "SegmentedCache" (211 : Nat) ({ cls := "java/util/Iterator", name := "next", desc := "()Ljava/lang/Object;" } : Jvm.MethodName)) ∈ lw_all := lw_g (lw_at lw_m9 182 rfl) rfl
theorem q2171 : (Jvm.Cond.methodLink "SegmentedCache" (215 : Nat) ({ cls := "SegmentedCache$Key", name := "told", desc := "()I" } : Jvm.MethodName)) ∈ lw_all := lw_g (lw_at lw_m9 183 rfl) rfl
theorem q2173 : (Jvm.Cond.instanceMethod ({ cls := "SegmentedCache", name := "victim", desc := "(I)I" } : Jvm.MethodName)) ∈ lw_all := lw_g (lw_at lw_m9 185 rfl) rfl
theorem q2174 : (Jvm.Cond.selects "SegmentedCache" ({ cls := "SegmentedCache", name := "victim", desc := "(I)I" } : Jvm.MethodName) ({ cls := "SegmentedCache", name := "victim", desc := "(I)I" } : Jvm.MethodName)) ∈ lw_all := lw_g (lw_at lw_m9 186 rfl) rfl
theorem q2175 : (Jvm.Cond.code ({ cls := "SegmentedCache", name := "victim", desc := "(I)I" } : Jvm.MethodName) prog_1_method_17_code (2 : Nat) (Option.some Jvm.ClassFile.FieldType.int)) ∈ lw_all := lw_g (lw_at lw_m9 187 rfl) rfl
theorem q2176 : (Jvm.Cond.methodLink "SegmentedCache" (222 : Nat) ({ cls := "SegmentedCache$Sketch", name := "of", desc := "(LSegmentedCache$Cache;)LSegmentedCache$Sketch;" } : Jvm.MethodName)) ∈ lw_all := lw_g (lw_at lw_m9 188 rfl) rfl
theorem q2208 : (Jvm.Cond.methodLink "SegmentedCache" (226 : Nat) ({ cls := "SegmentedCache$Sketch", name := "victim", desc := "(I)I" } : Jvm.MethodName)) ∈ lw_all := lw_g (lw_at lw_m9 220 rfl) rfl
theorem q2241 : (Jvm.Cond.instanceMethod ({ cls := "SegmentedCache", name := "feed", desc := "(I)I" } : Jvm.MethodName)) ∈ lw_all := lw_g (lw_at lw_m10 13 rfl) rfl
theorem q2242 : (Jvm.Cond.selects "SegmentedCache" ({ cls := "SegmentedCache", name := "feed", desc := "(I)I" } : Jvm.MethodName) ({ cls := "SegmentedCache", name := "feed", desc := "(I)I" } : Jvm.MethodName)) ∈ lw_all := lw_g (lw_at lw_m10 14 rfl) rfl
theorem q2243 : (Jvm.Cond.code ({ cls := "SegmentedCache", name := "feed", desc := "(I)I" } : Jvm.MethodName) prog_1_method_18_code (2 : Nat) (Option.some Jvm.ClassFile.FieldType.int)) ∈ lw_all := lw_g (lw_at lw_m10 15 rfl) rfl
theorem q2245 : (Jvm.Cond.instanceMethod ({ cls := "SegmentedCache", name := "trace", desc := "()I" } : Jvm.MethodName)) ∈ lw_all := lw_g (lw_at lw_m10 17 rfl) rfl
theorem q2246 : (Jvm.Cond.selects "SegmentedCache" ({ cls := "SegmentedCache", name := "trace", desc := "()I" } : Jvm.MethodName) ({ cls := "SegmentedCache", name := "trace", desc := "()I" } : Jvm.MethodName)) ∈ lw_all := lw_g (lw_at lw_m10 18 rfl) rfl
theorem q2247 : (Jvm.Cond.codeWith ({ cls := "SegmentedCache", name := "trace", desc := "()I" } : Jvm.MethodName) prog_1_method_19_code (3 : Nat) (Option.some Jvm.ClassFile.FieldType.int) [((25 : Nat), (57 : Nat), (58 : Nat), (245 : Nat))]) ∈ lw_all := lw_g (lw_at lw_m10 19 rfl) rfl
theorem q2248 : (Jvm.Cond.classLink "SegmentedCache" (245 : Nat) "SegmentedCache$Off") ∈ lw_all := lw_g (lw_at lw_m10 20 rfl) rfl
theorem q2249 : (Jvm.Cond.methodLink "SegmentedCache" (69 : Nat) ({ cls := "java/util/LinkedList", name := "size", desc := "()I" } : Jvm.MethodName)) ∈ lw_all := lw_g (lw_at lw_m10 21 rfl) rfl
theorem q2250 : (Jvm.Cond.classLink "SegmentedCache" (232 : Nat) "SegmentedCache$Reader") ∈ lw_all := lw_g (lw_at lw_m10 22 rfl) rfl
theorem q2252 : (Jvm.Cond.methodLink "SegmentedCache" (234 : Nat) ({ cls := "SegmentedCache$Reader", name := "<init>", desc := "([BI)V" } : Jvm.MethodName)) ∈ lw_all := lw_g (lw_at lw_m10 24 rfl) rfl
theorem q2271 : (Jvm.Cond.methodLink "SegmentedCache" (237 : Nat) ({ cls := "SegmentedCache$Reader", name := "whole", desc := "()Ljava/util/LinkedList;" } : Jvm.MethodName)) ∈ lw_all := lw_g (lw_at lw_m10 43 rfl) rfl
theorem q2308 : (Jvm.Cond.fieldLinkNest "SegmentedCache" (247 : Nat) "SegmentedCache$Off" "place" "I" "SegmentedCache") ∈ lw_tbl := lw_at lw_m10 80 rfl
theorem q2369 : (Jvm.Cond.methodLink "SegmentedCache" (241 : Nat) ({ cls := "java/util/LinkedList", name := "add", desc := "(Ljava/lang/Object;)Z" } : Jvm.MethodName)) ∈ lw_all := lw_g (lw_at lw_m10 141 rfl) rfl
theorem q2371 : (Jvm.Cond.instanceMethod ({ cls := "SegmentedCache", name := "run", desc := "(I)I" } : Jvm.MethodName)) ∈ lw_all := lw_g (lw_at lw_m10 143 rfl) rfl
theorem q2372 : (Jvm.Cond.selects "SegmentedCache" ({ cls := "SegmentedCache", name := "run", desc := "(I)I" } : Jvm.MethodName) ({ cls := "SegmentedCache", name := "run", desc := "(I)I" } : Jvm.MethodName)) ∈ lw_all := lw_g (lw_at lw_m10 144 rfl) rfl
theorem q2373 : (Jvm.Cond.code ({ cls := "SegmentedCache", name := "run", desc := "(I)I" } : Jvm.MethodName) prog_1_method_20_code (3 : Nat) (Option.some Jvm.ClassFile.FieldType.int)) ∈ lw_all := lw_g (lw_at lw_m10 145 rfl) rfl
theorem q2374 : (Jvm.Cond.methodLink "SegmentedCache" (250 : Nat) ({ cls := "SegmentedCache", name := "isTrace", desc := "(I)Z" } : Jvm.MethodName)) ∈ lw_all := lw_g (lw_at lw_m10 146 rfl) rfl
theorem q2375 : (Jvm.Cond.privateMethod ({ cls := "SegmentedCache", name := "isTrace", desc := "(I)Z" } : Jvm.MethodName)) ∈ lw_tbl := lw_at lw_m10 147 rfl
theorem q2376 : (Jvm.Cond.instanceMethod ({ cls := "SegmentedCache", name := "isTrace", desc := "(I)Z" } : Jvm.MethodName)) ∈ lw_all := lw_g (lw_at lw_m10 148 rfl) rfl
theorem q2377 : (Jvm.Cond.code ({ cls := "SegmentedCache", name := "isTrace", desc := "(I)Z" } : Jvm.MethodName) prog_1_method_4_code (2 : Nat) (Option.some Jvm.ClassFile.FieldType.boolean)) ∈ lw_all := lw_g (lw_at lw_m10 149 rfl) rfl
theorem q2378 : (Jvm.Cond.methodLink "SegmentedCache" (254 : Nat) ({ cls := "java/util/LinkedList", name := "get", desc := "(I)Ljava/lang/Object;" } : Jvm.MethodName)) ∈ lw_all := lw_g (lw_at lw_m10 150 rfl) rfl
theorem q2379 : (Jvm.Cond.methodLink "SegmentedCache" (257 : Nat) ({ cls := "SegmentedCache$Cache", name := "runs", desc := "(Ljava/util/LinkedList;)V" } : Jvm.MethodName)) ∈ lw_all := lw_g (lw_at lw_m10 151 rfl) rfl
theorem q2442 : (Jvm.Cond.instanceMethod ({ cls := "SegmentedCache", name := "would", desc := "(II)I" } : Jvm.MethodName)) ∈ lw_all := lw_g (lw_at lw_m10 214 rfl) rfl
theorem q2443 : (Jvm.Cond.selects "SegmentedCache" ({ cls := "SegmentedCache", name := "would", desc := "(II)I" } : Jvm.MethodName) ({ cls := "SegmentedCache", name := "would", desc := "(II)I" } : Jvm.MethodName)) ∈ lw_all := lw_g (lw_at lw_m10 215 rfl) rfl
theorem q2444 : (Jvm.Cond.code ({ cls := "SegmentedCache", name := "would", desc := "(II)I" } : Jvm.MethodName) prog_1_method_21_code (4 : Nat) (Option.some Jvm.ClassFile.FieldType.int)) ∈ lw_all := lw_g (lw_at lw_m10 216 rfl) rfl
theorem q2445 : (Jvm.Cond.methodLink "SegmentedCache" (261 : Nat) ({ cls := "SegmentedCache$Sketch", name := "runs", desc := "(Ljava/util/LinkedList;)V" } : Jvm.MethodName)) ∈ lw_all := lw_g (lw_at lw_m10 217 rfl) rfl
theorem q2477 : (Jvm.Cond.methodLinkNest "SegmentedCache" (266 : Nat) ({ cls := "SegmentedCache$Sketch", name := "both", desc := "()I" } : Jvm.MethodName) "SegmentedCache") ∈ lw_tbl := lw_at lw_m11 9 rfl
theorem q2479 : (Jvm.Cond.instanceMethod ({ cls := "SegmentedCache", name := "need", desc := "(II)I" } : Jvm.MethodName)) ∈ lw_all := lw_g (lw_at lw_m11 11 rfl) rfl
theorem q2480 : (Jvm.Cond.selects "SegmentedCache" ({ cls := "SegmentedCache", name := "need", desc := "(II)I" } : Jvm.MethodName) ({ cls := "SegmentedCache", name := "need", desc := "(II)I" } : Jvm.MethodName)) ∈ lw_all := lw_g (lw_at lw_m11 12 rfl) rfl
theorem q2481 : (Jvm.Cond.code ({ cls := "SegmentedCache", name := "need", desc := "(II)I" } : Jvm.MethodName) prog_1_method_23_code (4 : Nat) (Option.some Jvm.ClassFile.FieldType.int)) ∈ lw_all := lw_g (lw_at lw_m11 13 rfl) rfl
theorem q2482 : (Jvm.Cond.methodLink "SegmentedCache" (276 : Nat) ({ cls := "SegmentedCache", name := "hadBy", desc := "(III)I" } : Jvm.MethodName)) ∈ lw_all := lw_g (lw_at lw_m11 14 rfl) rfl
theorem q2483 : (Jvm.Cond.privateMethod ({ cls := "SegmentedCache", name := "hadBy", desc := "(III)I" } : Jvm.MethodName)) ∈ lw_tbl := lw_at lw_m11 15 rfl
theorem q2484 : (Jvm.Cond.instanceMethod ({ cls := "SegmentedCache", name := "hadBy", desc := "(III)I" } : Jvm.MethodName)) ∈ lw_all := lw_g (lw_at lw_m11 16 rfl) rfl
theorem q2485 : (Jvm.Cond.code ({ cls := "SegmentedCache", name := "hadBy", desc := "(III)I" } : Jvm.MethodName) prog_1_method_22_code (4 : Nat) (Option.some Jvm.ClassFile.FieldType.int)) ∈ lw_all := lw_g (lw_at lw_m11 17 rfl) rfl
theorem q2486 : (Jvm.Cond.methodLink "SegmentedCache" (270 : Nat) ({ cls := "SegmentedCache$Sketch", name := "takes", desc := "(LSegmentedCache$Sketch;)V" } : Jvm.MethodName)) ∈ lw_all := lw_g (lw_at lw_m11 18 rfl) rfl
theorem q2491 : (Jvm.Cond.methodLink "SegmentedCache" (275 : Nat) ({ cls := "SegmentedCache$Sketch", name := "trims", desc := "()V" } : Jvm.MethodName)) ∈ lw_all := lw_g (lw_at lw_m11 23 rfl) rfl
theorem q2493 : (Jvm.Cond.instanceMethod ({ cls := "SegmentedCache", name := "odds", desc := "(III)J" } : Jvm.MethodName)) ∈ lw_all := lw_g (lw_at lw_m11 25 rfl) rfl
theorem q2494 : (Jvm.Cond.selects "SegmentedCache" ({ cls := "SegmentedCache", name := "odds", desc := "(III)J" } : Jvm.MethodName) ({ cls := "SegmentedCache", name := "odds", desc := "(III)J" } : Jvm.MethodName)) ∈ lw_all := lw_g (lw_at lw_m11 26 rfl) rfl
theorem q2495 : (Jvm.Cond.code ({ cls := "SegmentedCache", name := "odds", desc := "(III)J" } : Jvm.MethodName) prog_1_method_26_code (7 : Nat) (Option.some Jvm.ClassFile.FieldType.long)) ∈ lw_all := lw_g (lw_at lw_m11 27 rfl) rfl
theorem q2496 : (Jvm.Cond.methodLink "SegmentedCache" (284 : Nat) ({ cls := "SegmentedCache", name := "lowest", desc := "(JJI)J" } : Jvm.MethodName)) ∈ lw_all := lw_g (lw_at lw_m11 28 rfl) rfl
theorem q2497 : (Jvm.Cond.static ({ cls := "SegmentedCache", name := "lowest", desc := "(JJI)J" } : Jvm.MethodName)) ∈ lw_all := lw_g (lw_at lw_m11 29 rfl) rfl
theorem q2498 : (Jvm.Cond.code ({ cls := "SegmentedCache", name := "lowest", desc := "(JJI)J" } : Jvm.MethodName) prog_1_method_25_code (5 : Nat) (Option.some Jvm.ClassFile.FieldType.long)) ∈ lw_all := lw_g (lw_at lw_m11 30 rfl) rfl
theorem q2499 : (Jvm.Cond.methodLink "SegmentedCache" (280 : Nat) ({ cls := "SegmentedCache", name := "divisor", desc := "(JJ)J" } : Jvm.MethodName)) ∈ lw_all := lw_g (lw_at lw_m11 31 rfl) rfl
theorem q2500 : (Jvm.Cond.static ({ cls := "SegmentedCache", name := "divisor", desc := "(JJ)J" } : Jvm.MethodName)) ∈ lw_all := lw_g (lw_at lw_m11 32 rfl) rfl
theorem q2501 : (Jvm.Cond.code ({ cls := "SegmentedCache", name := "divisor", desc := "(JJ)J" } : Jvm.MethodName) prog_1_method_24_code (8 : Nat) (Option.some Jvm.ClassFile.FieldType.long)) ∈ lw_all := lw_g (lw_at lw_m11 33 rfl) rfl
theorem q2503 : (Jvm.Cond.instanceMethod ({ cls := "SegmentedCache", name := "mean", desc := "(II)J" } : Jvm.MethodName)) ∈ lw_all := lw_g (lw_at lw_m11 35 rfl) rfl
theorem q2504 : (Jvm.Cond.selects "SegmentedCache" ({ cls := "SegmentedCache", name := "mean", desc := "(II)J" } : Jvm.MethodName) ({ cls := "SegmentedCache", name := "mean", desc := "(II)J" } : Jvm.MethodName)) ∈ lw_all := lw_g (lw_at lw_m11 36 rfl) rfl
theorem q2505 : (Jvm.Cond.code ({ cls := "SegmentedCache", name := "mean", desc := "(II)J" } : Jvm.MethodName) prog_1_method_27_code (7 : Nat) (Option.some Jvm.ClassFile.FieldType.long)) ∈ lw_all := lw_g (lw_at lw_m11 37 rfl) rfl
theorem q2506 : (Jvm.Cond.methodLink "SegmentedCache" (288 : Nat) ({ cls := "java/util/LinkedHashMap", name := "values", desc := "()Ljava/util/Collection;" } : Jvm.MethodName)) ∈ lw_all := lw_g (lw_at lw_m11 38 rfl) rfl
theorem q2528 : (Jvm.Cond.interfaceEntry "SegmentedCache" (292 : Nat)) ∈ lw_tbl := lw_at lw_m11 60 rfl
theorem q2529 : (Jvm.Cond.methodLink "SegmentedCache" (292 : Nat) ({ cls := "java/util/Collection", name := "iterator", desc := "()Ljava/util/Iterator;" } : Jvm.MethodName)) ∈ lw_all := lw_g (lw_at lw_m11 61 rfl) rfl
theorem q2562 : (Jvm.Cond.methodLink "SegmentedCache" (295 : Nat) ({ cls := "java/util/LinkedHashMap", name := "size", desc := "()I" } : Jvm.MethodName)) ∈ lw_all := lw_g (lw_at lw_m11 94 rfl) rfl
theorem q2569 : (Jvm.Cond.instanceMethod ({ cls := "SegmentedCache", name := "book", desc := "(III)I" } : Jvm.MethodName)) ∈ lw_all := lw_g (lw_at lw_m11 101 rfl) rfl
theorem q2570 : (Jvm.Cond.selects "SegmentedCache" ({ cls := "SegmentedCache", name := "book", desc := "(III)I" } : Jvm.MethodName) ({ cls := "SegmentedCache", name := "book", desc := "(III)I" } : Jvm.MethodName)) ∈ lw_all := lw_g (lw_at lw_m11 102 rfl) rfl
theorem q2571 : (Jvm.Cond.code ({ cls := "SegmentedCache", name := "book", desc := "(III)I" } : Jvm.MethodName) prog_1_method_28_code (4 : Nat) (Option.some Jvm.ClassFile.FieldType.int)) ∈ lw_all := lw_g (lw_at lw_m11 103 rfl) rfl
theorem q2573 : (Jvm.Cond.instanceMethod ({ cls := "SegmentedCache", name := "looked", desc := "()I" } : Jvm.MethodName)) ∈ lw_all := lw_g (lw_at lw_m11 105 rfl) rfl
theorem q2574 : (Jvm.Cond.selects "SegmentedCache" ({ cls := "SegmentedCache", name := "looked", desc := "()I" } : Jvm.MethodName) ({ cls := "SegmentedCache", name := "looked", desc := "()I" } : Jvm.MethodName)) ∈ lw_all := lw_g (lw_at lw_m11 106 rfl) rfl
theorem q2575 : (Jvm.Cond.code ({ cls := "SegmentedCache", name := "looked", desc := "()I" } : Jvm.MethodName) prog_1_method_29_code (2 : Nat) (Option.some Jvm.ClassFile.FieldType.int)) ∈ lw_all := lw_g (lw_at lw_m11 107 rfl) rfl
theorem q2577 : (Jvm.Cond.instanceMethod ({ cls := "SegmentedCache", name := "judge", desc := "(II)I" } : Jvm.MethodName)) ∈ lw_all := lw_g (lw_at lw_m11 109 rfl) rfl
theorem q2578 : (Jvm.Cond.selects "SegmentedCache" ({ cls := "SegmentedCache", name := "judge", desc := "(II)I" } : Jvm.MethodName) ({ cls := "SegmentedCache", name := "judge", desc := "(II)I" } : Jvm.MethodName)) ∈ lw_all := lw_g (lw_at lw_m11 110 rfl) rfl
theorem q2579 : (Jvm.Cond.codeWith ({ cls := "SegmentedCache", name := "judge", desc := "(II)I" } : Jvm.MethodName) prog_1_method_31_code (4 : Nat) (Option.some Jvm.ClassFile.FieldType.int) [((9 : Nat), (26 : Nat), (27 : Nat), (328 : Nat))]) ∈ lw_all := lw_g (lw_at lw_m11 111 rfl) rfl
theorem q2580 : (Jvm.Cond.classLink "SegmentedCache" (328 : Nat) "java/lang/ClassCastException") ∈ lw_all := lw_g (lw_at lw_m11 112 rfl) rfl
theorem q2594 : (Jvm.Cond.methodLink "SegmentedCache" (315 : Nat) ({ cls := "SegmentedCache", name := "isTape", desc := "(I)Z" } : Jvm.MethodName)) ∈ lw_all := lw_g (lw_at lw_m11 126 rfl) rfl
theorem q2595 : (Jvm.Cond.static ({ cls := "SegmentedCache", name := "isTape", desc := "(I)Z" } : Jvm.MethodName)) ∈ lw_all := lw_g (lw_at lw_m11 127 rfl) rfl
theorem q2596 : (Jvm.Cond.code ({ cls := "SegmentedCache", name := "isTape", desc := "(I)Z" } : Jvm.MethodName) prog_1_method_37_code (1 : Nat) (Option.some Jvm.ClassFile.FieldType.boolean)) ∈ lw_all := lw_g (lw_at lw_m11 128 rfl) rfl
theorem q2597 : (Jvm.Cond.classLink "SegmentedCache" (322 : Nat) "[S") ∈ lw_all := lw_g (lw_at lw_m11 129 rfl) rfl
theorem q2598 : (Jvm.Cond.methodLink "SegmentedCache" (324 : Nat) ({ cls := "SegmentedCache", name := "firstOther", desc := "([SI)I" } : Jvm.MethodName)) ∈ lw_all := lw_g (lw_at lw_m11 130 rfl) rfl
theorem q2599 : (Jvm.Cond.privateMethod ({ cls := "SegmentedCache", name := "firstOther", desc := "([SI)I" } : Jvm.MethodName)) ∈ lw_tbl := lw_at lw_m11 131 rfl
theorem q2600 : (Jvm.Cond.instanceMethod ({ cls := "SegmentedCache", name := "firstOther", desc := "([SI)I" } : Jvm.MethodName)) ∈ lw_all := lw_g (lw_at lw_m11 132 rfl) rfl
theorem q2601 : (Jvm.Cond.codeWith ({ cls := "SegmentedCache", name := "firstOther", desc := "([SI)I" } : Jvm.MethodName) prog_1_method_30_code (8 : Nat) (Option.some Jvm.ClassFile.FieldType.int) [((2 : Nat), (91 : Nat), (101 : Nat), (313 : Nat)), ((92 : Nat), (100 : Nat), (101 : Nat), (313 : Nat)), ((2 : Nat), (91 : Nat), (108 : Nat), (245 : Nat)), ((92 : Nat), (100 : Nat), (108 : Nat), (245 : Nat))]) ∈ lw_all := lw_g (lw_at lw_m11 133 rfl) rfl
theorem q2602 : (Jvm.Cond.classLink "SegmentedCache" (313 : Nat) "java/lang/NullPointerException") ∈ lw_all := lw_g (lw_at lw_m11 134 rfl) rfl
theorem q2604 : (Jvm.Cond.methodLink "SegmentedCache" (303 : Nat) ({ cls := "java/util/LinkedHashMap", name := "keySet", desc := "()Ljava/util/Set;" } : Jvm.MethodName)) ∈ lw_all := lw_g (lw_at lw_m11 136 rfl) rfl
theorem q2605 : (Jvm.Cond.interfaceEntry "SegmentedCache" (307 : Nat)) ∈ lw_tbl := lw_at lw_m11 137 rfl
theorem q2606 : (Jvm.Cond.methodLink "SegmentedCache" (307 : Nat) ({ cls := "java/util/Set", name := "iterator", desc := "()Ljava/util/Iterator;" } : Jvm.MethodName)) ∈ lw_all := lw_g (lw_at lw_m11 138 rfl) rfl
theorem q2607 : (Jvm.Cond.methodLink "SegmentedCache" (310 : Nat) ({ cls := "SegmentedCache$Off", name := "<init>", desc := "(I)V" } : Jvm.MethodName)) ∈ lw_all := lw_g (lw_at lw_m11 139 rfl) rfl
theorem q2609 : (Jvm.Cond.instanceMethod ({ cls := "SegmentedCache", name := "image", desc := "()I" } : Jvm.MethodName)) ∈ lw_all := lw_g (lw_at lw_m11 141 rfl) rfl
theorem q2610 : (Jvm.Cond.selects "SegmentedCache" ({ cls := "SegmentedCache", name := "image", desc := "()I" } : Jvm.MethodName) ({ cls := "SegmentedCache", name := "image", desc := "()I" } : Jvm.MethodName)) ∈ lw_all := lw_g (lw_at lw_m11 142 rfl) rfl
theorem q2611 : (Jvm.Cond.code ({ cls := "SegmentedCache", name := "image", desc := "()I" } : Jvm.MethodName) prog_1_method_33_code (1 : Nat) (Option.some Jvm.ClassFile.FieldType.int)) ∈ lw_all := lw_g (lw_at lw_m11 143 rfl) rfl
theorem q2612 : (Jvm.Cond.methodLink "SegmentedCache" (333 : Nat) ({ cls := "SegmentedCache$Cache", name := "takes", desc := "(LSegmentedCache$Cache;)V" } : Jvm.MethodName)) ∈ lw_all := lw_g (lw_at lw_m11 144 rfl) rfl
theorem q2643 : (Jvm.Cond.methodLink "SegmentedCache" (336 : Nat) ({ cls := "java/lang/System", name := "arraycopy", desc := "(Ljava/lang/Object;ILjava/lang/Object;II)V" } : Jvm.MethodName)) ∈ lw_all := lw_g (lw_at lw_m11 175 rfl) rfl
theorem q2644 : (Jvm.Cond.methodLink "SegmentedCache" (348 : Nat) ({ cls := "SegmentedCache", name := "things", desc := "(LSegmentedCache$Cache;)I" } : Jvm.MethodName)) ∈ lw_all := lw_g (lw_at lw_m11 176 rfl) rfl
theorem q2645 : (Jvm.Cond.static ({ cls := "SegmentedCache", name := "things", desc := "(LSegmentedCache$Cache;)I" } : Jvm.MethodName)) ∈ lw_all := lw_g (lw_at lw_m11 177 rfl) rfl
theorem q2646 : (Jvm.Cond.code ({ cls := "SegmentedCache", name := "things", desc := "(LSegmentedCache$Cache;)I" } : Jvm.MethodName) prog_1_method_32_code (1 : Nat) (Option.some Jvm.ClassFile.FieldType.int)) ∈ lw_all := lw_g (lw_at lw_m11 178 rfl) rfl
theorem q2648 : (Jvm.Cond.instanceMethod ({ cls := "SegmentedCache", name := "undo", desc := "()I" } : Jvm.MethodName)) ∈ lw_all := lw_g (lw_at lw_m11 180 rfl) rfl
theorem q2649 : (Jvm.Cond.selects "SegmentedCache" ({ cls := "SegmentedCache", name := "undo", desc := "()I" } : Jvm.MethodName) ({ cls := "SegmentedCache", name := "undo", desc := "()I" } : Jvm.MethodName)) ∈ lw_all := lw_g (lw_at lw_m11 181 rfl) rfl
theorem q2650 : (Jvm.Cond.code ({ cls := "SegmentedCache", name := "undo", desc := "()I" } : Jvm.MethodName) prog_1_method_34_code (1 : Nat) (Option.some Jvm.ClassFile.FieldType.int)) ∈ lw_all := lw_g (lw_at lw_m11 182 rfl) rfl
theorem q2652 : (Jvm.Cond.instanceMethod ({ cls := "SegmentedCache", name := "count", desc := "(I)I" } : Jvm.MethodName)) ∈ lw_all := lw_g (lw_at lw_m11 184 rfl) rfl
theorem q2653 : (Jvm.Cond.selects "SegmentedCache" ({ cls := "SegmentedCache", name := "count", desc := "(I)I" } : Jvm.MethodName) ({ cls := "SegmentedCache", name := "count", desc := "(I)I" } : Jvm.MethodName)) ∈ lw_all := lw_g (lw_at lw_m11 185 rfl) rfl
theorem q2654 : (Jvm.Cond.code ({ cls := "SegmentedCache", name := "count", desc := "(I)I" } : Jvm.MethodName) prog_1_method_35_code (2 : Nat) (Option.some Jvm.ClassFile.FieldType.int)) ∈ lw_all := lw_g (lw_at lw_m11 186 rfl) rfl
theorem q2656 : (Jvm.Cond.instanceMethod ({ cls := "SegmentedCache", name := "tape", desc := "(III)I" } : Jvm.MethodName)) ∈ lw_all := lw_g (lw_at lw_m11 188 rfl) rfl
theorem q2657 : (Jvm.Cond.selects "SegmentedCache" ({ cls := "SegmentedCache", name := "tape", desc := "(III)I" } : Jvm.MethodName) ({ cls := "SegmentedCache", name := "tape", desc := "(III)I" } : Jvm.MethodName)) ∈ lw_all := lw_g (lw_at lw_m11 189 rfl) rfl
theorem q2658 : (Jvm.Cond.codeWith ({ cls := "SegmentedCache", name := "tape", desc := "(III)I" } : Jvm.MethodName) prog_1_method_38_code (5 : Nat) (Option.some Jvm.ClassFile.FieldType.int) [((32 : Nat), (56 : Nat), (57 : Nat), (355 : Nat))]) ∈ lw_all := lw_g (lw_at lw_m11 190 rfl) rfl
theorem q2659 : (Jvm.Cond.classLink "SegmentedCache" (355 : Nat) "java/lang/NegativeArraySizeException") ∈ lw_all := lw_g (lw_at lw_m11 191 rfl) rfl
theorem q2663 : (Jvm.Cond.methodLink "SegmentedCache" (351 : Nat) ({ cls := "SegmentedCache", name := "rowOf", desc := "(II)Ljava/lang/Object;" } : Jvm.MethodName)) ∈ lw_all := lw_g (lw_at lw_m11 195 rfl) rfl
theorem q2664 : (Jvm.Cond.static ({ cls := "SegmentedCache", name := "rowOf", desc := "(II)Ljava/lang/Object;" } : Jvm.MethodName)) ∈ lw_all := lw_g (lw_at lw_m11 196 rfl) rfl
theorem q2665 : (Jvm.Cond.code ({ cls := "SegmentedCache", name := "rowOf", desc := "(II)Ljava/lang/Object;" } : Jvm.MethodName) prog_1_method_36_code (2 : Nat) (Option.some (Jvm.ClassFile.FieldType.object "java/lang/Object"))) ∈ lw_all := lw_g (lw_at lw_m11 197 rfl) rfl
theorem q2669 : (Jvm.Cond.instanceMethod ({ cls := "SegmentedCache", name := "item", desc := "(IIJ)I" } : Jvm.MethodName)) ∈ lw_all := lw_g (lw_at lw_m11 201 rfl) rfl
theorem q2670 : (Jvm.Cond.selects "SegmentedCache" ({ cls := "SegmentedCache", name := "item", desc := "(IIJ)I" } : Jvm.MethodName) ({ cls := "SegmentedCache", name := "item", desc := "(IIJ)I" } : Jvm.MethodName)) ∈ lw_all := lw_g (lw_at lw_m11 202 rfl) rfl
theorem q2671 : (Jvm.Cond.codeWith ({ cls := "SegmentedCache", name := "item", desc := "(IIJ)I" } : Jvm.MethodName) prog_1_method_39_code (11 : Nat) (Option.some Jvm.ClassFile.FieldType.int) [((17 : Nat), (23 : Nat), (26 : Nat), (245 : Nat))]) ∈ lw_all := lw_g (lw_at lw_m11 203 rfl) rfl
theorem q2672 : (Jvm.Cond.methodLinkNest "SegmentedCache" (357 : Nat) ({ cls := "SegmentedCache$Tape", name := "has", desc := "(I)V" } : Jvm.MethodName) "SegmentedCache") ∈ lw_tbl := lw_at lw_m11 204 rfl
theorem q2688 : (Jvm.Cond.classLink "SegmentedCache" (360 : Nat) "[B") ∈ lw_all := lw_g (lw_at lw_m11 220 rfl) rfl
theorem q2689 : (Jvm.Cond.classLink "SegmentedCache" (361 : Nat) "[I") ∈ lw_all := lw_g (lw_at lw_m11 221 rfl) rfl
theorem q2690 : (Jvm.Cond.classLink "SegmentedCache" (362 : Nat) "[J") ∈ lw_all := lw_g (lw_at lw_m11 222 rfl) rfl
theorem q2691 : (Jvm.Cond.classLink "SegmentedCache" (364 : Nat) "[Z") ∈ lw_all := lw_g (lw_at lw_m11 223 rfl) rfl
theorem q2693 : (Jvm.Cond.instanceMethod ({ cls := "SegmentedCache", name := "read", desc := "(II)J" } : Jvm.MethodName)) ∈ lw_all := lw_g (lw_at lw_m11 225 rfl) rfl
theorem q2694 : (Jvm.Cond.selects "SegmentedCache" ({ cls := "SegmentedCache", name := "read", desc := "(II)J" } : Jvm.MethodName) ({ cls := "SegmentedCache", name := "read", desc := "(II)J" } : Jvm.MethodName)) ∈ lw_all := lw_g (lw_at lw_m11 226 rfl) rfl
theorem q2695 : (Jvm.Cond.code ({ cls := "SegmentedCache", name := "read", desc := "(II)J" } : Jvm.MethodName) prog_1_method_40_code (6 : Nat) (Option.some Jvm.ClassFile.FieldType.long)) ∈ lw_all := lw_g (lw_at lw_m11 227 rfl) rfl
theorem q2696 : (Jvm.Cond.methodLinkNest "SegmentedCache" (366 : Nat) ({ cls := "SegmentedCache$Tape", name := "size", desc := "()I" } : Jvm.MethodName) "SegmentedCache") ∈ lw_tbl := lw_at lw_m11 228 rfl
theorem q2698 : (Jvm.Cond.instanceMethod ({ cls := "SegmentedCache", name := "shift", desc := "(IIIII)I" } : Jvm.MethodName)) ∈ lw_all := lw_g (lw_at lw_m11 230 rfl) rfl
theorem q2699 : (Jvm.Cond.selects "SegmentedCache" ({ cls := "SegmentedCache", name := "shift", desc := "(IIIII)I" } : Jvm.MethodName) ({ cls := "SegmentedCache", name := "shift", desc := "(IIIII)I" } : Jvm.MethodName)) ∈ lw_all := lw_g (lw_at lw_m11 231 rfl) rfl
theorem q2700 : (Jvm.Cond.codeWith ({ cls := "SegmentedCache", name := "shift", desc := "(IIIII)I" } : Jvm.MethodName) prog_1_method_41_code (7 : Nat) (Option.some Jvm.ClassFile.FieldType.int) [((16 : Nat), (44 : Nat), (45 : Nat), (313 : Nat)), ((16 : Nat), (44 : Nat), (50 : Nat), (367 : Nat)), ((16 : Nat), (44 : Nat), (55 : Nat), (369 : Nat))]) ∈ lw_all := lw_g (lw_at lw_m11 232 rfl) rfl
theorem q2701 : (Jvm.Cond.classLink "SegmentedCache" (367 : Nat) "java/lang/ArrayStoreException") ∈ lw_all := lw_g (lw_at lw_m11 233 rfl) rfl
theorem q2715 : (Jvm.Cond.classLink "SegmentedCache" (369 : Nat) "java/lang/IndexOutOfBoundsException") ∈ lw_all := lw_g (lw_at lw_m12 7 rfl) rfl
theorem q3045 : (Jvm.Cond.castable "SegmentedCache" "java/lang/Object") ∈ lw_tbl := lw_at lw_m13 97 rfl
theorem in_X0 : ∀ w ∈ wsX00, w ∈ lw_all := lw_in wsX00 [449, 451, 453, 455, 457, 459, 461, 463, 465, 467, 469, 471, 473, 475, 477] (by decide +kernel) (by decide +kernel)
/-! SegmentedCache$Cache -/
set_option maxRecDepth 100000
def RX1 : String := "SegmentedCache$Cache"
def TX1 : u_T := fun k => match k with
  | 0 => ("SegmentedCache$Cache", "capacity", "I", false)
  | 1 => ("SegmentedCache$Cache", "border", "I", false)
  | 2 => ("SegmentedCache$Cache", "rise", "I", false)
  | 3 => ("SegmentedCache$Cache", "lives", "I", false)
  | 4 => ("SegmentedCache$Cache", "had", "I", false)
  | 5 => ("SegmentedCache$Cache", "missed", "I", false)
  | 6 => ("SegmentedCache$Cache", "haunted", "I", false)
  | 7 => ("SegmentedCache$Cache", "saved", "I", false)
  | 8 => ("SegmentedCache$Cache", "paid", "I", false)
  | 9 => ("SegmentedCache$Cache", "went", "I", false)
  | 10 => ("SegmentedCache$Cache", "probation", "LSegmentedCache$Cache$Queue;", true)
  | 11 => ("SegmentedCache$Cache", "guarded", "LSegmentedCache$Cache$Queue;", true)
  | 12 => ("SegmentedCache$Cache", "ghosts", "LSegmentedCache$Cache$Queue;", true)
  | 13 => ("SegmentedCache$Cache", "ghostsToo", "LSegmentedCache$Cache$Queue;", true)
  | 14 => ("SegmentedCache$Cache", "gone", "Ljava/util/ArrayDeque;", true)
  | _ => ("SegmentedCache$Cache", "both", "I", false)
def tyX1 : Nat → FieldType := fun k => match k with
  | 0 => .int
  | 1 => .int
  | 2 => .int
  | 3 => .int
  | 4 => .int
  | 5 => .int
  | 6 => .int
  | 7 => .int
  | 8 => .int
  | 9 => .int
  | 10 => .object "SegmentedCache$Cache$Queue"
  | 11 => .object "SegmentedCache$Cache$Queue"
  | 12 => .object "SegmentedCache$Cache$Queue"
  | 13 => .object "SegmentedCache$Cache$Queue"
  | 14 => .object "java/util/ArrayDeque"
  | _ => .int
abbrev wsX10 : List Cond := u_ws RX1 TX1 16
set_option maxRecDepth 100000 in
theorem nmX1 : ∀ a, a < 16 → ∀ b, b < 16 → a ≠ b → (TX1 a).2.1 ≠ (TX1 b).2.1 := by decide +kernel
set_option maxRecDepth 100000 in
theorem tyX1_ok : ∀ k, k < 16 → parseFieldDescriptor (TX1 k).2.2.1 = some (tyX1 k) := by decide +kernel
abbrev cX1_init : ByteArray := prog_2_method_1_code
def yX1_init : MethodName := ⟨RX1, "<init>", "()V"⟩
def dkwX1_init_3 : List UInt8 := [181, 0, 39, 42, 187, 0, 42, 89, 183, 0, 44, 181, 0, 45, 177]
abbrev dktX1_init_3 : List UInt8 := dkwX1_init_3 ++ []
def dkwX1_init_2 : List UInt8 := [181, 0, 33, 42, 187, 0, 24, 89, 42, 183, 0, 26, 181, 0, 36, 42, 187, 0, 24, 89, 42, 183, 0, 26]
abbrev dktX1_init_2 : List UInt8 := dkwX1_init_2 ++ dktX1_init_3
def dkwX1_init_1 : List UInt8 := [181, 0, 21, 42, 187, 0, 24, 89, 42, 183, 0, 26, 181, 0, 29, 42, 187, 0, 24, 89, 42, 183, 0, 26]
abbrev dktX1_init_1 : List UInt8 := dkwX1_init_1 ++ dktX1_init_2
def dkwX1_init_0 : List UInt8 := [42, 183, 0, 3, 42, 16, 20, 181, 0, 9, 42, 16, 10, 181, 0, 15, 42, 5, 181, 0, 18, 42, 4]
abbrev dktX1_init_0 : List UInt8 := dkwX1_init_0 ++ dktX1_init_1
theorem dksX1_init_0 : cX1_init.data.toList.drop 0 = dktX1_init_0 := by decide +kernel
theorem dksX1_init_1 : cX1_init.data.toList.drop 23 = dktX1_init_1 := dk_seg dksX1_init_0 23 rfl rfl
theorem dksX1_init_2 : cX1_init.data.toList.drop 47 = dktX1_init_2 := dk_seg dksX1_init_1 24 rfl rfl
theorem dksX1_init_3 : cX1_init.data.toList.drop 71 = dktX1_init_3 := dk_seg dksX1_init_2 24 rfl rfl
theorem dX1_init_0 : decode cX1_init 0 = .ok (.aload_n 0, 1) := dk_42 (dk_at dksX1_init_0 0 rfl rfl)
theorem dX1_init_1 : decode cX1_init 1 = .ok (.invokespecial 3, 3) := dk_183 0 3 (dk_at dksX1_init_0 1 rfl rfl)
theorem dX1_init_4 : decode cX1_init 4 = .ok (.aload_n 0, 1) := dk_42 (dk_at dksX1_init_0 4 rfl rfl)
theorem dX1_init_5 : decode cX1_init 5 = .ok (.bipush 20, 2) := dk_16 20 (dk_at dksX1_init_0 5 rfl rfl)
theorem dX1_init_7 : decode cX1_init 7 = .ok (.putfield 9, 3) := dk_181 0 9 (dk_at dksX1_init_0 7 rfl rfl)
theorem dX1_init_10 : decode cX1_init 10 = .ok (.aload_n 0, 1) := dk_42 (dk_at dksX1_init_0 10 rfl rfl)
theorem dX1_init_11 : decode cX1_init 11 = .ok (.bipush 10, 2) := dk_16 10 (dk_at dksX1_init_0 11 rfl rfl)
theorem dX1_init_13 : decode cX1_init 13 = .ok (.putfield 15, 3) := dk_181 0 15 (dk_at dksX1_init_0 13 rfl rfl)
theorem dX1_init_16 : decode cX1_init 16 = .ok (.aload_n 0, 1) := dk_42 (dk_at dksX1_init_0 16 rfl rfl)
theorem dX1_init_17 : decode cX1_init 17 = .ok (.iconst 2, 1) := dk_5 (dk_at dksX1_init_0 17 rfl rfl)
theorem dX1_init_18 : decode cX1_init 18 = .ok (.putfield 18, 3) := dk_181 0 18 (dk_at dksX1_init_0 18 rfl rfl)
theorem dX1_init_21 : decode cX1_init 21 = .ok (.aload_n 0, 1) := dk_42 (dk_at dksX1_init_0 21 rfl rfl)
theorem dX1_init_22 : decode cX1_init 22 = .ok (.iconst 1, 1) := dk_4 (dk_at dksX1_init_0 22 rfl rfl)
theorem dX1_init_23 : decode cX1_init 23 = .ok (.putfield 21, 3) := dk_181 0 21 (dk_at dksX1_init_1 0 rfl rfl)
theorem dX1_init_26 : decode cX1_init 26 = .ok (.aload_n 0, 1) := dk_42 (dk_at dksX1_init_1 3 rfl rfl)
theorem dX1_init_27 : decode cX1_init 27 = .ok (.new 24, 3) := dk_187 0 24 (dk_at dksX1_init_1 4 rfl rfl)
theorem dX1_init_30 : decode cX1_init 30 = .ok (.dup, 1) := dk_89 (dk_at dksX1_init_1 7 rfl rfl)
theorem dX1_init_31 : decode cX1_init 31 = .ok (.aload_n 0, 1) := dk_42 (dk_at dksX1_init_1 8 rfl rfl)
theorem dX1_init_32 : decode cX1_init 32 = .ok (.invokespecial 26, 3) := dk_183 0 26 (dk_at dksX1_init_1 9 rfl rfl)
theorem dX1_init_35 : decode cX1_init 35 = .ok (.putfield 29, 3) := dk_181 0 29 (dk_at dksX1_init_1 12 rfl rfl)
theorem dX1_init_38 : decode cX1_init 38 = .ok (.aload_n 0, 1) := dk_42 (dk_at dksX1_init_1 15 rfl rfl)
theorem dX1_init_39 : decode cX1_init 39 = .ok (.new 24, 3) := dk_187 0 24 (dk_at dksX1_init_1 16 rfl rfl)
theorem dX1_init_42 : decode cX1_init 42 = .ok (.dup, 1) := dk_89 (dk_at dksX1_init_1 19 rfl rfl)
theorem dX1_init_43 : decode cX1_init 43 = .ok (.aload_n 0, 1) := dk_42 (dk_at dksX1_init_1 20 rfl rfl)
theorem dX1_init_44 : decode cX1_init 44 = .ok (.invokespecial 26, 3) := dk_183 0 26 (dk_at dksX1_init_1 21 rfl rfl)
theorem dX1_init_47 : decode cX1_init 47 = .ok (.putfield 33, 3) := dk_181 0 33 (dk_at dksX1_init_2 0 rfl rfl)
theorem dX1_init_50 : decode cX1_init 50 = .ok (.aload_n 0, 1) := dk_42 (dk_at dksX1_init_2 3 rfl rfl)
theorem dX1_init_51 : decode cX1_init 51 = .ok (.new 24, 3) := dk_187 0 24 (dk_at dksX1_init_2 4 rfl rfl)
theorem dX1_init_54 : decode cX1_init 54 = .ok (.dup, 1) := dk_89 (dk_at dksX1_init_2 7 rfl rfl)
theorem dX1_init_55 : decode cX1_init 55 = .ok (.aload_n 0, 1) := dk_42 (dk_at dksX1_init_2 8 rfl rfl)
theorem dX1_init_56 : decode cX1_init 56 = .ok (.invokespecial 26, 3) := dk_183 0 26 (dk_at dksX1_init_2 9 rfl rfl)
theorem dX1_init_59 : decode cX1_init 59 = .ok (.putfield 36, 3) := dk_181 0 36 (dk_at dksX1_init_2 12 rfl rfl)
theorem dX1_init_62 : decode cX1_init 62 = .ok (.aload_n 0, 1) := dk_42 (dk_at dksX1_init_2 15 rfl rfl)
theorem dX1_init_63 : decode cX1_init 63 = .ok (.new 24, 3) := dk_187 0 24 (dk_at dksX1_init_2 16 rfl rfl)
theorem dX1_init_66 : decode cX1_init 66 = .ok (.dup, 1) := dk_89 (dk_at dksX1_init_2 19 rfl rfl)
theorem dX1_init_67 : decode cX1_init 67 = .ok (.aload_n 0, 1) := dk_42 (dk_at dksX1_init_2 20 rfl rfl)
theorem dX1_init_68 : decode cX1_init 68 = .ok (.invokespecial 26, 3) := dk_183 0 26 (dk_at dksX1_init_2 21 rfl rfl)
theorem dX1_init_71 : decode cX1_init 71 = .ok (.putfield 39, 3) := dk_181 0 39 (dk_at dksX1_init_3 0 rfl rfl)
theorem dX1_init_74 : decode cX1_init 74 = .ok (.aload_n 0, 1) := dk_42 (dk_at dksX1_init_3 3 rfl rfl)
theorem dX1_init_75 : decode cX1_init 75 = .ok (.new 42, 3) := dk_187 0 42 (dk_at dksX1_init_3 4 rfl rfl)
theorem dX1_init_78 : decode cX1_init 78 = .ok (.dup, 1) := dk_89 (dk_at dksX1_init_3 7 rfl rfl)
theorem dX1_init_79 : decode cX1_init 79 = .ok (.invokespecial 44, 3) := dk_183 0 44 (dk_at dksX1_init_3 8 rfl rfl)
theorem dX1_init_82 : decode cX1_init 82 = .ok (.putfield 45, 3) := dk_181 0 45 (dk_at dksX1_init_3 11 rfl rfl)
theorem dX1_init_85 : decode cX1_init 85 = .ok (.return_, 1) := dk_177 (dk_at dksX1_init_3 14 rfl rfl)
abbrev cX1_trims : ByteArray := prog_2_method_10_code
def yX1_trims : MethodName := ⟨RX1, "trims", "()V"⟩
def dkwX1_trims_3 : List UInt8 := [189, 0, 24, 89, 3, 42, 180, 0, 36, 83, 89, 4, 42, 180, 0, 39, 83, 182, 0, 167, 177]
abbrev dktX1_trims_3 : List UInt8 := dkwX1_trims_3 ++ []
def dkwX1_trims_2 : List UInt8 := [182, 0, 161, 154, 0, 10, 42, 182, 0, 164, 153, 0, 7, 4, 167, 0, 4, 3, 60, 167, 255, 221, 42, 5]
abbrev dktX1_trims_2 : List UInt8 := dkwX1_trims_2 ++ dktX1_trims_3
def dkwX1_trims_1 : List UInt8 := [60, 167, 255, 233, 4, 60, 27, 153, 0, 37, 42, 180, 0, 67, 42, 180, 0, 9, 164, 0, 26, 42]
abbrev dktX1_trims_1 : List UInt8 := dkwX1_trims_1 ++ dktX1_trims_2
def dkwX1_trims_0 : List UInt8 := [4, 60, 27, 153, 0, 25, 42, 180, 0, 33, 180, 0, 157, 42, 180, 0, 15, 164, 0, 11, 42, 182, 0, 158]
abbrev dktX1_trims_0 : List UInt8 := dkwX1_trims_0 ++ dktX1_trims_1
theorem dksX1_trims_0 : cX1_trims.data.toList.drop 0 = dktX1_trims_0 := by decide +kernel
theorem dksX1_trims_1 : cX1_trims.data.toList.drop 24 = dktX1_trims_1 := dk_seg dksX1_trims_0 24 rfl rfl
theorem dksX1_trims_2 : cX1_trims.data.toList.drop 46 = dktX1_trims_2 := dk_seg dksX1_trims_1 22 rfl rfl
theorem dksX1_trims_3 : cX1_trims.data.toList.drop 70 = dktX1_trims_3 := dk_seg dksX1_trims_2 24 rfl rfl
theorem dX1_trims_0 : decode cX1_trims 0 = .ok (.iconst 1, 1) := dk_4 (dk_at dksX1_trims_0 0 rfl rfl)
theorem dX1_trims_1 : decode cX1_trims 1 = .ok (.istore_n 1, 1) := dk_60 (dk_at dksX1_trims_0 1 rfl rfl)
theorem dX1_trims_2 : decode cX1_trims 2 = .ok (.iload_n 1, 1) := dk_27 (dk_at dksX1_trims_0 2 rfl rfl)
theorem dX1_trims_3 : decode cX1_trims 3 = .ok (.ifCond .eq 25, 3) := dk_153 0 25 (dk_at dksX1_trims_0 3 rfl rfl)
theorem dX1_trims_6 : decode cX1_trims 6 = .ok (.aload_n 0, 1) := dk_42 (dk_at dksX1_trims_0 6 rfl rfl)
theorem dX1_trims_7 : decode cX1_trims 7 = .ok (.getfield 33, 3) := dk_180 0 33 (dk_at dksX1_trims_0 7 rfl rfl)
theorem dX1_trims_10 : decode cX1_trims 10 = .ok (.getfield 157, 3) := dk_180 0 157 (dk_at dksX1_trims_0 10 rfl rfl)
theorem dX1_trims_13 : decode cX1_trims 13 = .ok (.aload_n 0, 1) := dk_42 (dk_at dksX1_trims_0 13 rfl rfl)
theorem dX1_trims_14 : decode cX1_trims 14 = .ok (.getfield 15, 3) := dk_180 0 15 (dk_at dksX1_trims_0 14 rfl rfl)
theorem dX1_trims_17 : decode cX1_trims 17 = .ok (.if_icmp .le 11, 3) := dk_164 0 11 (dk_at dksX1_trims_0 17 rfl rfl)
theorem dX1_trims_20 : decode cX1_trims 20 = .ok (.aload_n 0, 1) := dk_42 (dk_at dksX1_trims_0 20 rfl rfl)
theorem dX1_trims_21 : decode cX1_trims 21 = .ok (.invokevirtual 158, 3) := dk_182 0 158 (dk_at dksX1_trims_0 21 rfl rfl)
theorem dX1_trims_24 : decode cX1_trims 24 = .ok (.istore_n 1, 1) := dk_60 (dk_at dksX1_trims_1 0 rfl rfl)
theorem dX1_trims_25 : decode cX1_trims 25 = .ok (.goto (-23), 3) := dk_167 255 233 (dk_at dksX1_trims_1 1 rfl rfl)
theorem dX1_trims_28 : decode cX1_trims 28 = .ok (.iconst 1, 1) := dk_4 (dk_at dksX1_trims_1 4 rfl rfl)
theorem dX1_trims_29 : decode cX1_trims 29 = .ok (.istore_n 1, 1) := dk_60 (dk_at dksX1_trims_1 5 rfl rfl)
theorem dX1_trims_30 : decode cX1_trims 30 = .ok (.iload_n 1, 1) := dk_27 (dk_at dksX1_trims_1 6 rfl rfl)
theorem dX1_trims_31 : decode cX1_trims 31 = .ok (.ifCond .eq 37, 3) := dk_153 0 37 (dk_at dksX1_trims_1 7 rfl rfl)
theorem dX1_trims_34 : decode cX1_trims 34 = .ok (.aload_n 0, 1) := dk_42 (dk_at dksX1_trims_1 10 rfl rfl)
theorem dX1_trims_35 : decode cX1_trims 35 = .ok (.getfield 67, 3) := dk_180 0 67 (dk_at dksX1_trims_1 11 rfl rfl)
theorem dX1_trims_38 : decode cX1_trims 38 = .ok (.aload_n 0, 1) := dk_42 (dk_at dksX1_trims_1 14 rfl rfl)
theorem dX1_trims_39 : decode cX1_trims 39 = .ok (.getfield 9, 3) := dk_180 0 9 (dk_at dksX1_trims_1 15 rfl rfl)
theorem dX1_trims_42 : decode cX1_trims 42 = .ok (.if_icmp .le 26, 3) := dk_164 0 26 (dk_at dksX1_trims_1 18 rfl rfl)
theorem dX1_trims_45 : decode cX1_trims 45 = .ok (.aload_n 0, 1) := dk_42 (dk_at dksX1_trims_1 21 rfl rfl)
theorem dX1_trims_46 : decode cX1_trims 46 = .ok (.invokevirtual 161, 3) := dk_182 0 161 (dk_at dksX1_trims_2 0 rfl rfl)
theorem dX1_trims_49 : decode cX1_trims 49 = .ok (.ifCond .ne 10, 3) := dk_154 0 10 (dk_at dksX1_trims_2 3 rfl rfl)
theorem dX1_trims_52 : decode cX1_trims 52 = .ok (.aload_n 0, 1) := dk_42 (dk_at dksX1_trims_2 6 rfl rfl)
theorem dX1_trims_53 : decode cX1_trims 53 = .ok (.invokevirtual 164, 3) := dk_182 0 164 (dk_at dksX1_trims_2 7 rfl rfl)
theorem dX1_trims_56 : decode cX1_trims 56 = .ok (.ifCond .eq 7, 3) := dk_153 0 7 (dk_at dksX1_trims_2 10 rfl rfl)
theorem dX1_trims_59 : decode cX1_trims 59 = .ok (.iconst 1, 1) := dk_4 (dk_at dksX1_trims_2 13 rfl rfl)
theorem dX1_trims_60 : decode cX1_trims 60 = .ok (.goto 4, 3) := dk_167 0 4 (dk_at dksX1_trims_2 14 rfl rfl)
theorem dX1_trims_63 : decode cX1_trims 63 = .ok (.iconst 0, 1) := dk_3 (dk_at dksX1_trims_2 17 rfl rfl)
theorem dX1_trims_64 : decode cX1_trims 64 = .ok (.istore_n 1, 1) := dk_60 (dk_at dksX1_trims_2 18 rfl rfl)
theorem dX1_trims_65 : decode cX1_trims 65 = .ok (.goto (-35), 3) := dk_167 255 221 (dk_at dksX1_trims_2 19 rfl rfl)
theorem dX1_trims_68 : decode cX1_trims 68 = .ok (.aload_n 0, 1) := dk_42 (dk_at dksX1_trims_2 22 rfl rfl)
theorem dX1_trims_69 : decode cX1_trims 69 = .ok (.iconst 2, 1) := dk_5 (dk_at dksX1_trims_2 23 rfl rfl)
theorem dX1_trims_70 : decode cX1_trims 70 = .ok (.anewarray 24, 3) := dk_189 0 24 (dk_at dksX1_trims_3 0 rfl rfl)
theorem dX1_trims_73 : decode cX1_trims 73 = .ok (.dup, 1) := dk_89 (dk_at dksX1_trims_3 3 rfl rfl)
theorem dX1_trims_74 : decode cX1_trims 74 = .ok (.iconst 0, 1) := dk_3 (dk_at dksX1_trims_3 4 rfl rfl)
theorem dX1_trims_75 : decode cX1_trims 75 = .ok (.aload_n 0, 1) := dk_42 (dk_at dksX1_trims_3 5 rfl rfl)
theorem dX1_trims_76 : decode cX1_trims 76 = .ok (.getfield 36, 3) := dk_180 0 36 (dk_at dksX1_trims_3 6 rfl rfl)
theorem dX1_trims_79 : decode cX1_trims 79 = .ok (.aastore, 1) := dk_83 (dk_at dksX1_trims_3 9 rfl rfl)
theorem dX1_trims_80 : decode cX1_trims 80 = .ok (.dup, 1) := dk_89 (dk_at dksX1_trims_3 10 rfl rfl)
theorem dX1_trims_81 : decode cX1_trims 81 = .ok (.iconst 1, 1) := dk_4 (dk_at dksX1_trims_3 11 rfl rfl)
theorem dX1_trims_82 : decode cX1_trims 82 = .ok (.aload_n 0, 1) := dk_42 (dk_at dksX1_trims_3 12 rfl rfl)
theorem dX1_trims_83 : decode cX1_trims 83 = .ok (.getfield 39, 3) := dk_180 0 39 (dk_at dksX1_trims_3 13 rfl rfl)
theorem dX1_trims_86 : decode cX1_trims 86 = .ok (.aastore, 1) := dk_83 (dk_at dksX1_trims_3 16 rfl rfl)
theorem dX1_trims_87 : decode cX1_trims 87 = .ok (.invokevirtual 167, 3) := dk_182 0 167 (dk_at dksX1_trims_3 17 rfl rfl)
theorem dX1_trims_90 : decode cX1_trims 90 = .ok (.return_, 1) := dk_177 (dk_at dksX1_trims_3 20 rfl rfl)
abbrev cX1_falls : ByteArray := prog_2_method_8_code
def yX1_falls : MethodName := ⟨RX1, "falls", "()Z"⟩
def dkwX1_falls_1 : List UInt8 := [180, 0, 29, 43, 180, 0, 146, 43, 180, 0, 137, 182, 0, 119, 4, 172]
abbrev dktX1_falls_1 : List UInt8 := dkwX1_falls_1 ++ []
def dkwX1_falls_0 : List UInt8 := [42, 180, 0, 33, 182, 0, 133, 76, 43, 199, 0, 5, 3, 172, 43, 180, 0, 137, 3, 181, 0, 154, 42]
abbrev dktX1_falls_0 : List UInt8 := dkwX1_falls_0 ++ dktX1_falls_1
theorem dksX1_falls_0 : cX1_falls.data.toList.drop 0 = dktX1_falls_0 := by decide +kernel
theorem dksX1_falls_1 : cX1_falls.data.toList.drop 23 = dktX1_falls_1 := dk_seg dksX1_falls_0 23 rfl rfl
theorem dX1_falls_0 : decode cX1_falls 0 = .ok (.aload_n 0, 1) := dk_42 (dk_at dksX1_falls_0 0 rfl rfl)
theorem dX1_falls_1 : decode cX1_falls 1 = .ok (.getfield 33, 3) := dk_180 0 33 (dk_at dksX1_falls_0 1 rfl rfl)
theorem dX1_falls_4 : decode cX1_falls 4 = .ok (.invokevirtual 133, 3) := dk_182 0 133 (dk_at dksX1_falls_0 4 rfl rfl)
theorem dX1_falls_7 : decode cX1_falls 7 = .ok (.astore_n 1, 1) := dk_76 (dk_at dksX1_falls_0 7 rfl rfl)
theorem dX1_falls_8 : decode cX1_falls 8 = .ok (.aload_n 1, 1) := dk_43 (dk_at dksX1_falls_0 8 rfl rfl)
theorem dX1_falls_9 : decode cX1_falls 9 = .ok (.ifnonnull 5, 3) := dk_199 0 5 (dk_at dksX1_falls_0 9 rfl rfl)
theorem dX1_falls_12 : decode cX1_falls 12 = .ok (.iconst 0, 1) := dk_3 (dk_at dksX1_falls_0 12 rfl rfl)
theorem dX1_falls_13 : decode cX1_falls 13 = .ok (.ireturn, 1) := dk_172 (dk_at dksX1_falls_0 13 rfl rfl)
theorem dX1_falls_14 : decode cX1_falls 14 = .ok (.aload_n 1, 1) := dk_43 (dk_at dksX1_falls_0 14 rfl rfl)
theorem dX1_falls_15 : decode cX1_falls 15 = .ok (.getfield 137, 3) := dk_180 0 137 (dk_at dksX1_falls_0 15 rfl rfl)
theorem dX1_falls_18 : decode cX1_falls 18 = .ok (.iconst 0, 1) := dk_3 (dk_at dksX1_falls_0 18 rfl rfl)
theorem dX1_falls_19 : decode cX1_falls 19 = .ok (.putfield 154, 3) := dk_181 0 154 (dk_at dksX1_falls_0 19 rfl rfl)
theorem dX1_falls_22 : decode cX1_falls 22 = .ok (.aload_n 0, 1) := dk_42 (dk_at dksX1_falls_0 22 rfl rfl)
theorem dX1_falls_23 : decode cX1_falls 23 = .ok (.getfield 29, 3) := dk_180 0 29 (dk_at dksX1_falls_1 0 rfl rfl)
theorem dX1_falls_26 : decode cX1_falls 26 = .ok (.aload_n 1, 1) := dk_43 (dk_at dksX1_falls_1 3 rfl rfl)
theorem dX1_falls_27 : decode cX1_falls 27 = .ok (.getfield 146, 3) := dk_180 0 146 (dk_at dksX1_falls_1 4 rfl rfl)
theorem dX1_falls_30 : decode cX1_falls 30 = .ok (.aload_n 1, 1) := dk_43 (dk_at dksX1_falls_1 7 rfl rfl)
theorem dX1_falls_31 : decode cX1_falls 31 = .ok (.getfield 137, 3) := dk_180 0 137 (dk_at dksX1_falls_1 8 rfl rfl)
theorem dX1_falls_34 : decode cX1_falls 34 = .ok (.invokevirtual 119, 3) := dk_182 0 119 (dk_at dksX1_falls_1 11 rfl rfl)
theorem dX1_falls_37 : decode cX1_falls 37 = .ok (.iconst 1, 1) := dk_4 (dk_at dksX1_falls_1 14 rfl rfl)
theorem dX1_falls_38 : decode cX1_falls 38 = .ok (.ireturn, 1) := dk_172 (dk_at dksX1_falls_1 15 rfl rfl)
abbrev cX1_goesFromProbation : ByteArray := prog_2_method_6_code
def yX1_goesFromProbation : MethodName := ⟨RX1, "goesFromProbation", "()Z"⟩
def dkwX1_goesFromProbation_2 : List UInt8 := [182, 0, 119, 167, 0, 16, 42, 43, 180, 0, 146, 44, 42, 180, 0, 36, 182, 0, 150, 4, 172]
abbrev dktX1_goesFromProbation_2 : List UInt8 := dkwX1_goesFromProbation_2 ++ []
def dkwX1_goesFromProbation_1 : List UInt8 := [158, 0, 28, 44, 89, 180, 0, 143, 4, 100, 181, 0, 143, 42, 180, 0, 29, 43, 180, 0, 146, 44]
abbrev dktX1_goesFromProbation_1 : List UInt8 := dkwX1_goesFromProbation_1 ++ dktX1_goesFromProbation_2
def dkwX1_goesFromProbation_0 : List UInt8 := [42, 180, 0, 29, 182, 0, 133, 76, 43, 199, 0, 5, 3, 172, 43, 180, 0, 137, 77, 44, 180, 0, 143]
abbrev dktX1_goesFromProbation_0 : List UInt8 := dkwX1_goesFromProbation_0 ++ dktX1_goesFromProbation_1
theorem dksX1_goesFromProbation_0 : cX1_goesFromProbation.data.toList.drop 0 = dktX1_goesFromProbation_0 := by decide +kernel
theorem dksX1_goesFromProbation_1 : cX1_goesFromProbation.data.toList.drop 23 = dktX1_goesFromProbation_1 := dk_seg dksX1_goesFromProbation_0 23 rfl rfl
theorem dksX1_goesFromProbation_2 : cX1_goesFromProbation.data.toList.drop 45 = dktX1_goesFromProbation_2 := dk_seg dksX1_goesFromProbation_1 22 rfl rfl
theorem dX1_goesFromProbation_0 : decode cX1_goesFromProbation 0 = .ok (.aload_n 0, 1) := dk_42 (dk_at dksX1_goesFromProbation_0 0 rfl rfl)
theorem dX1_goesFromProbation_1 : decode cX1_goesFromProbation 1 = .ok (.getfield 29, 3) := dk_180 0 29 (dk_at dksX1_goesFromProbation_0 1 rfl rfl)
theorem dX1_goesFromProbation_4 : decode cX1_goesFromProbation 4 = .ok (.invokevirtual 133, 3) := dk_182 0 133 (dk_at dksX1_goesFromProbation_0 4 rfl rfl)
theorem dX1_goesFromProbation_7 : decode cX1_goesFromProbation 7 = .ok (.astore_n 1, 1) := dk_76 (dk_at dksX1_goesFromProbation_0 7 rfl rfl)
theorem dX1_goesFromProbation_8 : decode cX1_goesFromProbation 8 = .ok (.aload_n 1, 1) := dk_43 (dk_at dksX1_goesFromProbation_0 8 rfl rfl)
theorem dX1_goesFromProbation_9 : decode cX1_goesFromProbation 9 = .ok (.ifnonnull 5, 3) := dk_199 0 5 (dk_at dksX1_goesFromProbation_0 9 rfl rfl)
theorem dX1_goesFromProbation_12 : decode cX1_goesFromProbation 12 = .ok (.iconst 0, 1) := dk_3 (dk_at dksX1_goesFromProbation_0 12 rfl rfl)
theorem dX1_goesFromProbation_13 : decode cX1_goesFromProbation 13 = .ok (.ireturn, 1) := dk_172 (dk_at dksX1_goesFromProbation_0 13 rfl rfl)
theorem dX1_goesFromProbation_14 : decode cX1_goesFromProbation 14 = .ok (.aload_n 1, 1) := dk_43 (dk_at dksX1_goesFromProbation_0 14 rfl rfl)
theorem dX1_goesFromProbation_15 : decode cX1_goesFromProbation 15 = .ok (.getfield 137, 3) := dk_180 0 137 (dk_at dksX1_goesFromProbation_0 15 rfl rfl)
theorem dX1_goesFromProbation_18 : decode cX1_goesFromProbation 18 = .ok (.astore_n 2, 1) := dk_77 (dk_at dksX1_goesFromProbation_0 18 rfl rfl)
theorem dX1_goesFromProbation_19 : decode cX1_goesFromProbation 19 = .ok (.aload_n 2, 1) := dk_44 (dk_at dksX1_goesFromProbation_0 19 rfl rfl)
theorem dX1_goesFromProbation_20 : decode cX1_goesFromProbation 20 = .ok (.getfield 143, 3) := dk_180 0 143 (dk_at dksX1_goesFromProbation_0 20 rfl rfl)
theorem dX1_goesFromProbation_23 : decode cX1_goesFromProbation 23 = .ok (.ifCond .le 28, 3) := dk_158 0 28 (dk_at dksX1_goesFromProbation_1 0 rfl rfl)
theorem dX1_goesFromProbation_26 : decode cX1_goesFromProbation 26 = .ok (.aload_n 2, 1) := dk_44 (dk_at dksX1_goesFromProbation_1 3 rfl rfl)
theorem dX1_goesFromProbation_27 : decode cX1_goesFromProbation 27 = .ok (.dup, 1) := dk_89 (dk_at dksX1_goesFromProbation_1 4 rfl rfl)
theorem dX1_goesFromProbation_28 : decode cX1_goesFromProbation 28 = .ok (.getfield 143, 3) := dk_180 0 143 (dk_at dksX1_goesFromProbation_1 5 rfl rfl)
theorem dX1_goesFromProbation_31 : decode cX1_goesFromProbation 31 = .ok (.iconst 1, 1) := dk_4 (dk_at dksX1_goesFromProbation_1 8 rfl rfl)
theorem dX1_goesFromProbation_32 : decode cX1_goesFromProbation 32 = .ok (.isub, 1) := dk_100 (dk_at dksX1_goesFromProbation_1 9 rfl rfl)
theorem dX1_goesFromProbation_33 : decode cX1_goesFromProbation 33 = .ok (.putfield 143, 3) := dk_181 0 143 (dk_at dksX1_goesFromProbation_1 10 rfl rfl)
theorem dX1_goesFromProbation_36 : decode cX1_goesFromProbation 36 = .ok (.aload_n 0, 1) := dk_42 (dk_at dksX1_goesFromProbation_1 13 rfl rfl)
theorem dX1_goesFromProbation_37 : decode cX1_goesFromProbation 37 = .ok (.getfield 29, 3) := dk_180 0 29 (dk_at dksX1_goesFromProbation_1 14 rfl rfl)
theorem dX1_goesFromProbation_40 : decode cX1_goesFromProbation 40 = .ok (.aload_n 1, 1) := dk_43 (dk_at dksX1_goesFromProbation_1 17 rfl rfl)
theorem dX1_goesFromProbation_41 : decode cX1_goesFromProbation 41 = .ok (.getfield 146, 3) := dk_180 0 146 (dk_at dksX1_goesFromProbation_1 18 rfl rfl)
theorem dX1_goesFromProbation_44 : decode cX1_goesFromProbation 44 = .ok (.aload_n 2, 1) := dk_44 (dk_at dksX1_goesFromProbation_1 21 rfl rfl)
theorem dX1_goesFromProbation_45 : decode cX1_goesFromProbation 45 = .ok (.invokevirtual 119, 3) := dk_182 0 119 (dk_at dksX1_goesFromProbation_2 0 rfl rfl)
theorem dX1_goesFromProbation_48 : decode cX1_goesFromProbation 48 = .ok (.goto 16, 3) := dk_167 0 16 (dk_at dksX1_goesFromProbation_2 3 rfl rfl)
theorem dX1_goesFromProbation_51 : decode cX1_goesFromProbation 51 = .ok (.aload_n 0, 1) := dk_42 (dk_at dksX1_goesFromProbation_2 6 rfl rfl)
theorem dX1_goesFromProbation_52 : decode cX1_goesFromProbation 52 = .ok (.aload_n 1, 1) := dk_43 (dk_at dksX1_goesFromProbation_2 7 rfl rfl)
theorem dX1_goesFromProbation_53 : decode cX1_goesFromProbation 53 = .ok (.getfield 146, 3) := dk_180 0 146 (dk_at dksX1_goesFromProbation_2 8 rfl rfl)
theorem dX1_goesFromProbation_56 : decode cX1_goesFromProbation 56 = .ok (.aload_n 2, 1) := dk_44 (dk_at dksX1_goesFromProbation_2 11 rfl rfl)
theorem dX1_goesFromProbation_57 : decode cX1_goesFromProbation 57 = .ok (.aload_n 0, 1) := dk_42 (dk_at dksX1_goesFromProbation_2 12 rfl rfl)
theorem dX1_goesFromProbation_58 : decode cX1_goesFromProbation 58 = .ok (.getfield 36, 3) := dk_180 0 36 (dk_at dksX1_goesFromProbation_2 13 rfl rfl)
theorem dX1_goesFromProbation_61 : decode cX1_goesFromProbation 61 = .ok (.invokevirtual 150, 3) := dk_182 0 150 (dk_at dksX1_goesFromProbation_2 16 rfl rfl)
theorem dX1_goesFromProbation_64 : decode cX1_goesFromProbation 64 = .ok (.iconst 1, 1) := dk_4 (dk_at dksX1_goesFromProbation_2 19 rfl rfl)
theorem dX1_goesFromProbation_65 : decode cX1_goesFromProbation 65 = .ok (.ireturn, 1) := dk_172 (dk_at dksX1_goesFromProbation_2 20 rfl rfl)
abbrev cX1_goes : ByteArray := prog_2_method_5_code
def yX1_goes : MethodName := ⟨RX1, "goes", "(LSegmentedCache$Key;LSegmentedCache$Thing;LSegmentedCache$Cache$Queue;)V"⟩
def dkwX1_goes_2 : List UInt8 := [180, 0, 64, 4, 96, 181, 0, 64, 177]
abbrev dktX1_goes_2 : List UInt8 := dkwX1_goes_2 ++ []
def dkwX1_goes_1 : List UInt8 := [42, 180, 0, 45, 182, 0, 126, 16, 20, 164, 0, 11, 42, 180, 0, 45, 182, 0, 130, 87, 42, 89]
abbrev dktX1_goes_1 : List UInt8 := dkwX1_goes_1 ++ dktX1_goes_2
def dkwX1_goes_0 : List UInt8 := [45, 43, 187, 0, 111, 89, 44, 180, 0, 113, 183, 0, 116, 182, 0, 119, 42, 180, 0, 45, 43, 182, 0, 123]
abbrev dktX1_goes_0 : List UInt8 := dkwX1_goes_0 ++ dktX1_goes_1
theorem dksX1_goes_0 : cX1_goes.data.toList.drop 0 = dktX1_goes_0 := by decide +kernel
theorem dksX1_goes_1 : cX1_goes.data.toList.drop 24 = dktX1_goes_1 := dk_seg dksX1_goes_0 24 rfl rfl
theorem dksX1_goes_2 : cX1_goes.data.toList.drop 46 = dktX1_goes_2 := dk_seg dksX1_goes_1 22 rfl rfl
theorem dX1_goes_0 : decode cX1_goes 0 = .ok (.aload_n 3, 1) := dk_45 (dk_at dksX1_goes_0 0 rfl rfl)
theorem dX1_goes_1 : decode cX1_goes 1 = .ok (.aload_n 1, 1) := dk_43 (dk_at dksX1_goes_0 1 rfl rfl)
theorem dX1_goes_2 : decode cX1_goes 2 = .ok (.new 111, 3) := dk_187 0 111 (dk_at dksX1_goes_0 2 rfl rfl)
theorem dX1_goes_5 : decode cX1_goes 5 = .ok (.dup, 1) := dk_89 (dk_at dksX1_goes_0 5 rfl rfl)
theorem dX1_goes_6 : decode cX1_goes 6 = .ok (.aload_n 2, 1) := dk_44 (dk_at dksX1_goes_0 6 rfl rfl)
theorem dX1_goes_7 : decode cX1_goes 7 = .ok (.getfield 113, 3) := dk_180 0 113 (dk_at dksX1_goes_0 7 rfl rfl)
theorem dX1_goes_10 : decode cX1_goes 10 = .ok (.invokespecial 116, 3) := dk_183 0 116 (dk_at dksX1_goes_0 10 rfl rfl)
theorem dX1_goes_13 : decode cX1_goes 13 = .ok (.invokevirtual 119, 3) := dk_182 0 119 (dk_at dksX1_goes_0 13 rfl rfl)
theorem dX1_goes_16 : decode cX1_goes 16 = .ok (.aload_n 0, 1) := dk_42 (dk_at dksX1_goes_0 16 rfl rfl)
theorem dX1_goes_17 : decode cX1_goes 17 = .ok (.getfield 45, 3) := dk_180 0 45 (dk_at dksX1_goes_0 17 rfl rfl)
theorem dX1_goes_20 : decode cX1_goes 20 = .ok (.aload_n 1, 1) := dk_43 (dk_at dksX1_goes_0 20 rfl rfl)
theorem dX1_goes_21 : decode cX1_goes 21 = .ok (.invokevirtual 123, 3) := dk_182 0 123 (dk_at dksX1_goes_0 21 rfl rfl)
theorem dX1_goes_24 : decode cX1_goes 24 = .ok (.aload_n 0, 1) := dk_42 (dk_at dksX1_goes_1 0 rfl rfl)
theorem dX1_goes_25 : decode cX1_goes 25 = .ok (.getfield 45, 3) := dk_180 0 45 (dk_at dksX1_goes_1 1 rfl rfl)
theorem dX1_goes_28 : decode cX1_goes 28 = .ok (.invokevirtual 126, 3) := dk_182 0 126 (dk_at dksX1_goes_1 4 rfl rfl)
theorem dX1_goes_31 : decode cX1_goes 31 = .ok (.bipush 20, 2) := dk_16 20 (dk_at dksX1_goes_1 7 rfl rfl)
theorem dX1_goes_33 : decode cX1_goes 33 = .ok (.if_icmp .le 11, 3) := dk_164 0 11 (dk_at dksX1_goes_1 9 rfl rfl)
theorem dX1_goes_36 : decode cX1_goes 36 = .ok (.aload_n 0, 1) := dk_42 (dk_at dksX1_goes_1 12 rfl rfl)
theorem dX1_goes_37 : decode cX1_goes 37 = .ok (.getfield 45, 3) := dk_180 0 45 (dk_at dksX1_goes_1 13 rfl rfl)
theorem dX1_goes_40 : decode cX1_goes 40 = .ok (.invokevirtual 130, 3) := dk_182 0 130 (dk_at dksX1_goes_1 16 rfl rfl)
theorem dX1_goes_43 : decode cX1_goes 43 = .ok (.pop, 1) := dk_87 (dk_at dksX1_goes_1 19 rfl rfl)
theorem dX1_goes_44 : decode cX1_goes 44 = .ok (.aload_n 0, 1) := dk_42 (dk_at dksX1_goes_1 20 rfl rfl)
theorem dX1_goes_45 : decode cX1_goes 45 = .ok (.dup, 1) := dk_89 (dk_at dksX1_goes_1 21 rfl rfl)
theorem dX1_goes_46 : decode cX1_goes 46 = .ok (.getfield 64, 3) := dk_180 0 64 (dk_at dksX1_goes_2 0 rfl rfl)
theorem dX1_goes_49 : decode cX1_goes 49 = .ok (.iconst 1, 1) := dk_4 (dk_at dksX1_goes_2 3 rfl rfl)
theorem dX1_goes_50 : decode cX1_goes 50 = .ok (.iadd, 1) := dk_96 (dk_at dksX1_goes_2 4 rfl rfl)
theorem dX1_goes_51 : decode cX1_goes 51 = .ok (.putfield 64, 3) := dk_181 0 64 (dk_at dksX1_goes_2 5 rfl rfl)
theorem dX1_goes_54 : decode cX1_goes 54 = .ok (.return_, 1) := dk_177 (dk_at dksX1_goes_2 8 rfl rfl)
abbrev cX1_goesFromProtected : ByteArray := prog_2_method_7_code
def yX1_goesFromProtected : MethodName := ⟨RX1, "goesFromProtected", "()Z"⟩
def dkwX1_goesFromProtected_1 : List UInt8 := [180, 0, 39, 182, 0, 150, 4, 172]
abbrev dktX1_goesFromProtected_1 : List UInt8 := dkwX1_goesFromProtected_1 ++ []
def dkwX1_goesFromProtected_0 : List UInt8 := [42, 180, 0, 33, 182, 0, 133, 76, 43, 199, 0, 5, 3, 172, 42, 43, 180, 0, 146, 43, 180, 0, 137, 42]
abbrev dktX1_goesFromProtected_0 : List UInt8 := dkwX1_goesFromProtected_0 ++ dktX1_goesFromProtected_1
theorem dksX1_goesFromProtected_0 : cX1_goesFromProtected.data.toList.drop 0 = dktX1_goesFromProtected_0 := by decide +kernel
theorem dksX1_goesFromProtected_1 : cX1_goesFromProtected.data.toList.drop 24 = dktX1_goesFromProtected_1 := dk_seg dksX1_goesFromProtected_0 24 rfl rfl
theorem dX1_goesFromProtected_0 : decode cX1_goesFromProtected 0 = .ok (.aload_n 0, 1) := dk_42 (dk_at dksX1_goesFromProtected_0 0 rfl rfl)
theorem dX1_goesFromProtected_1 : decode cX1_goesFromProtected 1 = .ok (.getfield 33, 3) := dk_180 0 33 (dk_at dksX1_goesFromProtected_0 1 rfl rfl)
theorem dX1_goesFromProtected_4 : decode cX1_goesFromProtected 4 = .ok (.invokevirtual 133, 3) := dk_182 0 133 (dk_at dksX1_goesFromProtected_0 4 rfl rfl)
theorem dX1_goesFromProtected_7 : decode cX1_goesFromProtected 7 = .ok (.astore_n 1, 1) := dk_76 (dk_at dksX1_goesFromProtected_0 7 rfl rfl)
theorem dX1_goesFromProtected_8 : decode cX1_goesFromProtected 8 = .ok (.aload_n 1, 1) := dk_43 (dk_at dksX1_goesFromProtected_0 8 rfl rfl)
theorem dX1_goesFromProtected_9 : decode cX1_goesFromProtected 9 = .ok (.ifnonnull 5, 3) := dk_199 0 5 (dk_at dksX1_goesFromProtected_0 9 rfl rfl)
theorem dX1_goesFromProtected_12 : decode cX1_goesFromProtected 12 = .ok (.iconst 0, 1) := dk_3 (dk_at dksX1_goesFromProtected_0 12 rfl rfl)
theorem dX1_goesFromProtected_13 : decode cX1_goesFromProtected 13 = .ok (.ireturn, 1) := dk_172 (dk_at dksX1_goesFromProtected_0 13 rfl rfl)
theorem dX1_goesFromProtected_14 : decode cX1_goesFromProtected 14 = .ok (.aload_n 0, 1) := dk_42 (dk_at dksX1_goesFromProtected_0 14 rfl rfl)
theorem dX1_goesFromProtected_15 : decode cX1_goesFromProtected 15 = .ok (.aload_n 1, 1) := dk_43 (dk_at dksX1_goesFromProtected_0 15 rfl rfl)
theorem dX1_goesFromProtected_16 : decode cX1_goesFromProtected 16 = .ok (.getfield 146, 3) := dk_180 0 146 (dk_at dksX1_goesFromProtected_0 16 rfl rfl)
theorem dX1_goesFromProtected_19 : decode cX1_goesFromProtected 19 = .ok (.aload_n 1, 1) := dk_43 (dk_at dksX1_goesFromProtected_0 19 rfl rfl)
theorem dX1_goesFromProtected_20 : decode cX1_goesFromProtected 20 = .ok (.getfield 137, 3) := dk_180 0 137 (dk_at dksX1_goesFromProtected_0 20 rfl rfl)
theorem dX1_goesFromProtected_23 : decode cX1_goesFromProtected 23 = .ok (.aload_n 0, 1) := dk_42 (dk_at dksX1_goesFromProtected_0 23 rfl rfl)
theorem dX1_goesFromProtected_24 : decode cX1_goesFromProtected 24 = .ok (.getfield 39, 3) := dk_180 0 39 (dk_at dksX1_goesFromProtected_1 0 rfl rfl)
theorem dX1_goesFromProtected_27 : decode cX1_goesFromProtected 27 = .ok (.invokevirtual 150, 3) := dk_182 0 150 (dk_at dksX1_goesFromProtected_1 3 rfl rfl)
theorem dX1_goesFromProtected_30 : decode cX1_goesFromProtected 30 = .ok (.iconst 1, 1) := dk_4 (dk_at dksX1_goesFromProtected_1 6 rfl rfl)
theorem dX1_goesFromProtected_31 : decode cX1_goesFromProtected 31 = .ok (.ireturn, 1) := dk_172 (dk_at dksX1_goesFromProtected_1 7 rfl rfl)
abbrev cX1_fades : ByteArray := prog_2_method_9_code
def yX1_fades : MethodName := ⟨RX1, "fades", "([LSegmentedCache$Cache$Queue;)V"⟩
def dkwX1_fades_1 : List UInt8 := [182, 0, 133, 87, 167, 255, 236, 132, 2, 1, 167, 255, 224, 177]
abbrev dktX1_fades_1 : List UInt8 := dkwX1_fades_1 ++ []
def dkwX1_fades_0 : List UInt8 := [3, 61, 28, 43, 190, 162, 0, 32, 43, 28, 50, 180, 0, 157, 42, 180, 0, 9, 164, 0, 13, 43, 28, 50]
abbrev dktX1_fades_0 : List UInt8 := dkwX1_fades_0 ++ dktX1_fades_1
theorem dksX1_fades_0 : cX1_fades.data.toList.drop 0 = dktX1_fades_0 := by decide +kernel
theorem dksX1_fades_1 : cX1_fades.data.toList.drop 24 = dktX1_fades_1 := dk_seg dksX1_fades_0 24 rfl rfl
theorem dX1_fades_0 : decode cX1_fades 0 = .ok (.iconst 0, 1) := dk_3 (dk_at dksX1_fades_0 0 rfl rfl)
theorem dX1_fades_1 : decode cX1_fades 1 = .ok (.istore_n 2, 1) := dk_61 (dk_at dksX1_fades_0 1 rfl rfl)
theorem dX1_fades_2 : decode cX1_fades 2 = .ok (.iload_n 2, 1) := dk_28 (dk_at dksX1_fades_0 2 rfl rfl)
theorem dX1_fades_3 : decode cX1_fades 3 = .ok (.aload_n 1, 1) := dk_43 (dk_at dksX1_fades_0 3 rfl rfl)
theorem dX1_fades_4 : decode cX1_fades 4 = .ok (.arraylength, 1) := dk_190 (dk_at dksX1_fades_0 4 rfl rfl)
theorem dX1_fades_5 : decode cX1_fades 5 = .ok (.if_icmp .ge 32, 3) := dk_162 0 32 (dk_at dksX1_fades_0 5 rfl rfl)
theorem dX1_fades_8 : decode cX1_fades 8 = .ok (.aload_n 1, 1) := dk_43 (dk_at dksX1_fades_0 8 rfl rfl)
theorem dX1_fades_9 : decode cX1_fades 9 = .ok (.iload_n 2, 1) := dk_28 (dk_at dksX1_fades_0 9 rfl rfl)
theorem dX1_fades_10 : decode cX1_fades 10 = .ok (.aaload, 1) := dk_50 (dk_at dksX1_fades_0 10 rfl rfl)
theorem dX1_fades_11 : decode cX1_fades 11 = .ok (.getfield 157, 3) := dk_180 0 157 (dk_at dksX1_fades_0 11 rfl rfl)
theorem dX1_fades_14 : decode cX1_fades 14 = .ok (.aload_n 0, 1) := dk_42 (dk_at dksX1_fades_0 14 rfl rfl)
theorem dX1_fades_15 : decode cX1_fades 15 = .ok (.getfield 9, 3) := dk_180 0 9 (dk_at dksX1_fades_0 15 rfl rfl)
theorem dX1_fades_18 : decode cX1_fades 18 = .ok (.if_icmp .le 13, 3) := dk_164 0 13 (dk_at dksX1_fades_0 18 rfl rfl)
theorem dX1_fades_21 : decode cX1_fades 21 = .ok (.aload_n 1, 1) := dk_43 (dk_at dksX1_fades_0 21 rfl rfl)
theorem dX1_fades_22 : decode cX1_fades 22 = .ok (.iload_n 2, 1) := dk_28 (dk_at dksX1_fades_0 22 rfl rfl)
theorem dX1_fades_23 : decode cX1_fades 23 = .ok (.aaload, 1) := dk_50 (dk_at dksX1_fades_0 23 rfl rfl)
theorem dX1_fades_24 : decode cX1_fades 24 = .ok (.invokevirtual 133, 3) := dk_182 0 133 (dk_at dksX1_fades_1 0 rfl rfl)
theorem dX1_fades_27 : decode cX1_fades 27 = .ok (.pop, 1) := dk_87 (dk_at dksX1_fades_1 3 rfl rfl)
theorem dX1_fades_28 : decode cX1_fades 28 = .ok (.goto (-20), 3) := dk_167 255 236 (dk_at dksX1_fades_1 4 rfl rfl)
theorem dX1_fades_31 : decode cX1_fades 31 = .ok (.iinc 2 1, 3) := dk_132 2 1 (dk_at dksX1_fades_1 7 rfl rfl)
theorem dX1_fades_34 : decode cX1_fades 34 = .ok (.goto (-32), 3) := dk_167 255 224 (dk_at dksX1_fades_1 10 rfl rfl)
theorem dX1_fades_37 : decode cX1_fades 37 = .ok (.return_, 1) := dk_177 (dk_at dksX1_fades_1 13 rfl rfl)
abbrev cX1_queue : ByteArray := prog_2_method_3_code
def yX1_queue : MethodName := ⟨RX1, "queue", "(I)LSegmentedCache$Cache$Queue;"⟩
def dkwX1_queue_2 : List UInt8 := [42, 180, 0, 29, 176, 42, 180, 0, 33, 176, 42, 180, 0, 36, 176, 42, 180, 0, 39, 176]
abbrev dktX1_queue_2 : List UInt8 := dkwX1_queue_2 ++ []
def dkwX1_queue_1 : List UInt8 := [170, 0, 0, 0, 0, 0, 42, 0, 0, 0, 1, 0, 0, 0, 3, 0, 0, 0, 27, 0, 0, 0, 32, 0, 0, 0, 37]
abbrev dktX1_queue_1 : List UInt8 := dkwX1_queue_1 ++ dktX1_queue_2
def dkwX1_queue_0 : List UInt8 := [27]
abbrev dktX1_queue_0 : List UInt8 := dkwX1_queue_0 ++ dktX1_queue_1
theorem dksX1_queue_0 : cX1_queue.data.toList.drop 0 = dktX1_queue_0 := by decide +kernel
theorem dksX1_queue_1 : cX1_queue.data.toList.drop 1 = dktX1_queue_1 := dk_seg dksX1_queue_0 1 rfl rfl
theorem dksX1_queue_2 : cX1_queue.data.toList.drop 28 = dktX1_queue_2 := dk_seg dksX1_queue_1 27 rfl rfl
theorem dX1_queue_0 : decode cX1_queue 0 = .ok (.iload_n 1, 1) := dk_27 (dk_at dksX1_queue_0 0 rfl rfl)
theorem dX1_queue_1 : decode cX1_queue 1 = .ok (.tableswitch 42 1 3 #[27, 32, 37], 27) := by decide +kernel
theorem dX1_queue_28 : decode cX1_queue 28 = .ok (.aload_n 0, 1) := dk_42 (dk_at dksX1_queue_2 0 rfl rfl)
theorem dX1_queue_29 : decode cX1_queue 29 = .ok (.getfield 29, 3) := dk_180 0 29 (dk_at dksX1_queue_2 1 rfl rfl)
theorem dX1_queue_32 : decode cX1_queue 32 = .ok (.areturn, 1) := dk_176 (dk_at dksX1_queue_2 4 rfl rfl)
theorem dX1_queue_33 : decode cX1_queue 33 = .ok (.aload_n 0, 1) := dk_42 (dk_at dksX1_queue_2 5 rfl rfl)
theorem dX1_queue_34 : decode cX1_queue 34 = .ok (.getfield 33, 3) := dk_180 0 33 (dk_at dksX1_queue_2 6 rfl rfl)
theorem dX1_queue_37 : decode cX1_queue 37 = .ok (.areturn, 1) := dk_176 (dk_at dksX1_queue_2 9 rfl rfl)
theorem dX1_queue_38 : decode cX1_queue 38 = .ok (.aload_n 0, 1) := dk_42 (dk_at dksX1_queue_2 10 rfl rfl)
theorem dX1_queue_39 : decode cX1_queue 39 = .ok (.getfield 36, 3) := dk_180 0 36 (dk_at dksX1_queue_2 11 rfl rfl)
theorem dX1_queue_42 : decode cX1_queue 42 = .ok (.areturn, 1) := dk_176 (dk_at dksX1_queue_2 14 rfl rfl)
theorem dX1_queue_43 : decode cX1_queue 43 = .ok (.aload_n 0, 1) := dk_42 (dk_at dksX1_queue_2 15 rfl rfl)
theorem dX1_queue_44 : decode cX1_queue 44 = .ok (.getfield 39, 3) := dk_180 0 39 (dk_at dksX1_queue_2 16 rfl rfl)
theorem dX1_queue_47 : decode cX1_queue 47 = .ok (.areturn, 1) := dk_176 (dk_at dksX1_queue_2 19 rfl rfl)
abbrev cX1_puts : ByteArray := prog_2_method_14_code
def yX1_puts : MethodName := ⟨RX1, "puts", "(LSegmentedCache$Key;III)I"⟩
def dkwX1_puts_8 : List UInt8 := [21, 4, 42, 180, 0, 21, 183, 0, 209, 182, 0, 119, 42, 182, 0, 212, 21, 6, 172]
abbrev dktX1_puts_8 : List UInt8 := dkwX1_puts_8 ++ []
def dkwX1_puts_7 : List UInt8 := [21, 4, 3, 183, 0, 209, 182, 0, 119, 167, 0, 26, 42, 180, 0, 29, 43, 187, 0, 111, 89, 28, 29]
abbrev dktX1_puts_7 : List UInt8 := dkwX1_puts_7 ++ dktX1_puts_8
def dkwX1_puts_6 : List UInt8 := [167, 0, 4, 3, 54, 6, 21, 6, 4, 160, 0, 26, 42, 180, 0, 33, 43, 187, 0, 111, 89, 28, 29]
abbrev dktX1_puts_6 : List UInt8 := dkwX1_puts_6 ++ dktX1_puts_7
def dkwX1_puts_5 : List UInt8 := [180, 0, 15, 29, 96, 184, 0, 171, 181, 0, 15, 21, 7, 154, 0, 8, 21, 8, 153, 0, 7, 4]
abbrev dktX1_puts_5 : List UInt8 := dkwX1_puts_5 ++ dktX1_puts_6
def dkwX1_puts_4 : List UInt8 := [42, 180, 0, 15, 29, 100, 184, 0, 206, 181, 0, 15, 21, 8, 153, 0, 20, 42, 42, 180, 0, 9, 42]
abbrev dktX1_puts_4 : List UInt8 := dkwX1_puts_4 ++ dktX1_puts_5
def dkwX1_puts_3 : List UInt8 := [180, 0, 39, 43, 182, 0, 177, 198, 0, 7, 4, 167, 0, 4, 3, 54, 8, 21, 7, 153, 0, 17, 42, 3]
abbrev dktX1_puts_3 : List UInt8 := dkwX1_puts_3 ++ dktX1_puts_4
def dkwX1_puts_2 : List UInt8 := [181, 0, 61, 42, 180, 0, 36, 43, 182, 0, 177, 198, 0, 7, 4, 167, 0, 4, 3, 54, 7, 42]
abbrev dktX1_puts_2 : List UInt8 := dkwX1_puts_2 ++ dktX1_puts_3
def dkwX1_puts_1 : List UInt8 := [42, 43, 25, 5, 28, 29, 21, 4, 182, 0, 202, 167, 0, 160, 42, 89, 180, 0, 61, 21, 4, 96]
abbrev dktX1_puts_1 : List UInt8 := dkwX1_puts_1 ++ dktX1_puts_2
def dkwX1_puts_0 : List UInt8 := [42, 43, 182, 0, 200, 58, 5, 25, 5, 198, 0, 7, 5, 167, 0, 4, 3, 54, 6, 25, 5, 198, 0, 17]
abbrev dktX1_puts_0 : List UInt8 := dkwX1_puts_0 ++ dktX1_puts_1
theorem dksX1_puts_0 : cX1_puts.data.toList.drop 0 = dktX1_puts_0 := by decide +kernel
theorem dksX1_puts_1 : cX1_puts.data.toList.drop 24 = dktX1_puts_1 := dk_seg dksX1_puts_0 24 rfl rfl
theorem dksX1_puts_2 : cX1_puts.data.toList.drop 46 = dktX1_puts_2 := dk_seg dksX1_puts_1 22 rfl rfl
theorem dksX1_puts_3 : cX1_puts.data.toList.drop 68 = dktX1_puts_3 := dk_seg dksX1_puts_2 22 rfl rfl
theorem dksX1_puts_4 : cX1_puts.data.toList.drop 92 = dktX1_puts_4 := dk_seg dksX1_puts_3 24 rfl rfl
theorem dksX1_puts_5 : cX1_puts.data.toList.drop 115 = dktX1_puts_5 := dk_seg dksX1_puts_4 23 rfl rfl
theorem dksX1_puts_6 : cX1_puts.data.toList.drop 137 = dktX1_puts_6 := dk_seg dksX1_puts_5 22 rfl rfl
theorem dksX1_puts_7 : cX1_puts.data.toList.drop 160 = dktX1_puts_7 := dk_seg dksX1_puts_6 23 rfl rfl
theorem dksX1_puts_8 : cX1_puts.data.toList.drop 183 = dktX1_puts_8 := dk_seg dksX1_puts_7 23 rfl rfl
theorem dX1_puts_0 : decode cX1_puts 0 = .ok (.aload_n 0, 1) := dk_42 (dk_at dksX1_puts_0 0 rfl rfl)
theorem dX1_puts_1 : decode cX1_puts 1 = .ok (.aload_n 1, 1) := dk_43 (dk_at dksX1_puts_0 1 rfl rfl)
theorem dX1_puts_2 : decode cX1_puts 2 = .ok (.invokevirtual 200, 3) := dk_182 0 200 (dk_at dksX1_puts_0 2 rfl rfl)
theorem dX1_puts_5 : decode cX1_puts 5 = .ok (.astore 5, 2) := dk_58 5 (dk_at dksX1_puts_0 5 rfl rfl)
theorem dX1_puts_7 : decode cX1_puts 7 = .ok (.aload 5, 2) := dk_25 5 (dk_at dksX1_puts_0 7 rfl rfl)
theorem dX1_puts_9 : decode cX1_puts 9 = .ok (.ifnull 7, 3) := dk_198 0 7 (dk_at dksX1_puts_0 9 rfl rfl)
theorem dX1_puts_12 : decode cX1_puts 12 = .ok (.iconst 2, 1) := dk_5 (dk_at dksX1_puts_0 12 rfl rfl)
theorem dX1_puts_13 : decode cX1_puts 13 = .ok (.goto 4, 3) := dk_167 0 4 (dk_at dksX1_puts_0 13 rfl rfl)
theorem dX1_puts_16 : decode cX1_puts 16 = .ok (.iconst 0, 1) := dk_3 (dk_at dksX1_puts_0 16 rfl rfl)
theorem dX1_puts_17 : decode cX1_puts 17 = .ok (.istore 6, 2) := dk_54 6 (dk_at dksX1_puts_0 17 rfl rfl)
theorem dX1_puts_19 : decode cX1_puts 19 = .ok (.aload 5, 2) := dk_25 5 (dk_at dksX1_puts_0 19 rfl rfl)
theorem dX1_puts_21 : decode cX1_puts 21 = .ok (.ifnull 17, 3) := dk_198 0 17 (dk_at dksX1_puts_0 21 rfl rfl)
theorem dX1_puts_24 : decode cX1_puts 24 = .ok (.aload_n 0, 1) := dk_42 (dk_at dksX1_puts_1 0 rfl rfl)
theorem dX1_puts_25 : decode cX1_puts 25 = .ok (.aload_n 1, 1) := dk_43 (dk_at dksX1_puts_1 1 rfl rfl)
theorem dX1_puts_26 : decode cX1_puts 26 = .ok (.aload 5, 2) := dk_25 5 (dk_at dksX1_puts_1 2 rfl rfl)
theorem dX1_puts_28 : decode cX1_puts 28 = .ok (.iload_n 2, 1) := dk_28 (dk_at dksX1_puts_1 4 rfl rfl)
theorem dX1_puts_29 : decode cX1_puts 29 = .ok (.iload_n 3, 1) := dk_29 (dk_at dksX1_puts_1 5 rfl rfl)
theorem dX1_puts_30 : decode cX1_puts 30 = .ok (.iload 4, 2) := dk_21 4 (dk_at dksX1_puts_1 6 rfl rfl)
theorem dX1_puts_32 : decode cX1_puts 32 = .ok (.invokevirtual 202, 3) := dk_182 0 202 (dk_at dksX1_puts_1 8 rfl rfl)
theorem dX1_puts_35 : decode cX1_puts 35 = .ok (.goto 160, 3) := dk_167 0 160 (dk_at dksX1_puts_1 11 rfl rfl)
theorem dX1_puts_38 : decode cX1_puts 38 = .ok (.aload_n 0, 1) := dk_42 (dk_at dksX1_puts_1 14 rfl rfl)
theorem dX1_puts_39 : decode cX1_puts 39 = .ok (.dup, 1) := dk_89 (dk_at dksX1_puts_1 15 rfl rfl)
theorem dX1_puts_40 : decode cX1_puts 40 = .ok (.getfield 61, 3) := dk_180 0 61 (dk_at dksX1_puts_1 16 rfl rfl)
theorem dX1_puts_43 : decode cX1_puts 43 = .ok (.iload 4, 2) := dk_21 4 (dk_at dksX1_puts_1 19 rfl rfl)
theorem dX1_puts_45 : decode cX1_puts 45 = .ok (.iadd, 1) := dk_96 (dk_at dksX1_puts_1 21 rfl rfl)
theorem dX1_puts_46 : decode cX1_puts 46 = .ok (.putfield 61, 3) := dk_181 0 61 (dk_at dksX1_puts_2 0 rfl rfl)
theorem dX1_puts_49 : decode cX1_puts 49 = .ok (.aload_n 0, 1) := dk_42 (dk_at dksX1_puts_2 3 rfl rfl)
theorem dX1_puts_50 : decode cX1_puts 50 = .ok (.getfield 36, 3) := dk_180 0 36 (dk_at dksX1_puts_2 4 rfl rfl)
theorem dX1_puts_53 : decode cX1_puts 53 = .ok (.aload_n 1, 1) := dk_43 (dk_at dksX1_puts_2 7 rfl rfl)
theorem dX1_puts_54 : decode cX1_puts 54 = .ok (.invokevirtual 177, 3) := dk_182 0 177 (dk_at dksX1_puts_2 8 rfl rfl)
theorem dX1_puts_57 : decode cX1_puts 57 = .ok (.ifnull 7, 3) := dk_198 0 7 (dk_at dksX1_puts_2 11 rfl rfl)
theorem dX1_puts_60 : decode cX1_puts 60 = .ok (.iconst 1, 1) := dk_4 (dk_at dksX1_puts_2 14 rfl rfl)
theorem dX1_puts_61 : decode cX1_puts 61 = .ok (.goto 4, 3) := dk_167 0 4 (dk_at dksX1_puts_2 15 rfl rfl)
theorem dX1_puts_64 : decode cX1_puts 64 = .ok (.iconst 0, 1) := dk_3 (dk_at dksX1_puts_2 18 rfl rfl)
theorem dX1_puts_65 : decode cX1_puts 65 = .ok (.istore 7, 2) := dk_54 7 (dk_at dksX1_puts_2 19 rfl rfl)
theorem dX1_puts_67 : decode cX1_puts 67 = .ok (.aload_n 0, 1) := dk_42 (dk_at dksX1_puts_2 21 rfl rfl)
theorem dX1_puts_68 : decode cX1_puts 68 = .ok (.getfield 39, 3) := dk_180 0 39 (dk_at dksX1_puts_3 0 rfl rfl)
theorem dX1_puts_71 : decode cX1_puts 71 = .ok (.aload_n 1, 1) := dk_43 (dk_at dksX1_puts_3 3 rfl rfl)
theorem dX1_puts_72 : decode cX1_puts 72 = .ok (.invokevirtual 177, 3) := dk_182 0 177 (dk_at dksX1_puts_3 4 rfl rfl)
theorem dX1_puts_75 : decode cX1_puts 75 = .ok (.ifnull 7, 3) := dk_198 0 7 (dk_at dksX1_puts_3 7 rfl rfl)
theorem dX1_puts_78 : decode cX1_puts 78 = .ok (.iconst 1, 1) := dk_4 (dk_at dksX1_puts_3 10 rfl rfl)
theorem dX1_puts_79 : decode cX1_puts 79 = .ok (.goto 4, 3) := dk_167 0 4 (dk_at dksX1_puts_3 11 rfl rfl)
theorem dX1_puts_82 : decode cX1_puts 82 = .ok (.iconst 0, 1) := dk_3 (dk_at dksX1_puts_3 14 rfl rfl)
theorem dX1_puts_83 : decode cX1_puts 83 = .ok (.istore 8, 2) := dk_54 8 (dk_at dksX1_puts_3 15 rfl rfl)
theorem dX1_puts_85 : decode cX1_puts 85 = .ok (.iload 7, 2) := dk_21 7 (dk_at dksX1_puts_3 17 rfl rfl)
theorem dX1_puts_87 : decode cX1_puts 87 = .ok (.ifCond .eq 17, 3) := dk_153 0 17 (dk_at dksX1_puts_3 19 rfl rfl)
theorem dX1_puts_90 : decode cX1_puts 90 = .ok (.aload_n 0, 1) := dk_42 (dk_at dksX1_puts_3 22 rfl rfl)
theorem dX1_puts_91 : decode cX1_puts 91 = .ok (.iconst 0, 1) := dk_3 (dk_at dksX1_puts_3 23 rfl rfl)
theorem dX1_puts_92 : decode cX1_puts 92 = .ok (.aload_n 0, 1) := dk_42 (dk_at dksX1_puts_4 0 rfl rfl)
theorem dX1_puts_93 : decode cX1_puts 93 = .ok (.getfield 15, 3) := dk_180 0 15 (dk_at dksX1_puts_4 1 rfl rfl)
theorem dX1_puts_96 : decode cX1_puts 96 = .ok (.iload_n 3, 1) := dk_29 (dk_at dksX1_puts_4 4 rfl rfl)
theorem dX1_puts_97 : decode cX1_puts 97 = .ok (.isub, 1) := dk_100 (dk_at dksX1_puts_4 5 rfl rfl)
theorem dX1_puts_98 : decode cX1_puts 98 = .ok (.invokestatic 206, 3) := dk_184 0 206 (dk_at dksX1_puts_4 6 rfl rfl)
theorem dX1_puts_101 : decode cX1_puts 101 = .ok (.putfield 15, 3) := dk_181 0 15 (dk_at dksX1_puts_4 9 rfl rfl)
theorem dX1_puts_104 : decode cX1_puts 104 = .ok (.iload 8, 2) := dk_21 8 (dk_at dksX1_puts_4 12 rfl rfl)
theorem dX1_puts_106 : decode cX1_puts 106 = .ok (.ifCond .eq 20, 3) := dk_153 0 20 (dk_at dksX1_puts_4 14 rfl rfl)
theorem dX1_puts_109 : decode cX1_puts 109 = .ok (.aload_n 0, 1) := dk_42 (dk_at dksX1_puts_4 17 rfl rfl)
theorem dX1_puts_110 : decode cX1_puts 110 = .ok (.aload_n 0, 1) := dk_42 (dk_at dksX1_puts_4 18 rfl rfl)
theorem dX1_puts_111 : decode cX1_puts 111 = .ok (.getfield 9, 3) := dk_180 0 9 (dk_at dksX1_puts_4 19 rfl rfl)
theorem dX1_puts_114 : decode cX1_puts 114 = .ok (.aload_n 0, 1) := dk_42 (dk_at dksX1_puts_4 22 rfl rfl)
theorem dX1_puts_115 : decode cX1_puts 115 = .ok (.getfield 15, 3) := dk_180 0 15 (dk_at dksX1_puts_5 0 rfl rfl)
theorem dX1_puts_118 : decode cX1_puts 118 = .ok (.iload_n 3, 1) := dk_29 (dk_at dksX1_puts_5 3 rfl rfl)
theorem dX1_puts_119 : decode cX1_puts 119 = .ok (.iadd, 1) := dk_96 (dk_at dksX1_puts_5 4 rfl rfl)
theorem dX1_puts_120 : decode cX1_puts 120 = .ok (.invokestatic 171, 3) := dk_184 0 171 (dk_at dksX1_puts_5 5 rfl rfl)
theorem dX1_puts_123 : decode cX1_puts 123 = .ok (.putfield 15, 3) := dk_181 0 15 (dk_at dksX1_puts_5 8 rfl rfl)
theorem dX1_puts_126 : decode cX1_puts 126 = .ok (.iload 7, 2) := dk_21 7 (dk_at dksX1_puts_5 11 rfl rfl)
theorem dX1_puts_128 : decode cX1_puts 128 = .ok (.ifCond .ne 8, 3) := dk_154 0 8 (dk_at dksX1_puts_5 13 rfl rfl)
theorem dX1_puts_131 : decode cX1_puts 131 = .ok (.iload 8, 2) := dk_21 8 (dk_at dksX1_puts_5 16 rfl rfl)
theorem dX1_puts_133 : decode cX1_puts 133 = .ok (.ifCond .eq 7, 3) := dk_153 0 7 (dk_at dksX1_puts_5 18 rfl rfl)
theorem dX1_puts_136 : decode cX1_puts 136 = .ok (.iconst 1, 1) := dk_4 (dk_at dksX1_puts_5 21 rfl rfl)
theorem dX1_puts_137 : decode cX1_puts 137 = .ok (.goto 4, 3) := dk_167 0 4 (dk_at dksX1_puts_6 0 rfl rfl)
theorem dX1_puts_140 : decode cX1_puts 140 = .ok (.iconst 0, 1) := dk_3 (dk_at dksX1_puts_6 3 rfl rfl)
theorem dX1_puts_141 : decode cX1_puts 141 = .ok (.istore 6, 2) := dk_54 6 (dk_at dksX1_puts_6 4 rfl rfl)
theorem dX1_puts_143 : decode cX1_puts 143 = .ok (.iload 6, 2) := dk_21 6 (dk_at dksX1_puts_6 6 rfl rfl)
theorem dX1_puts_145 : decode cX1_puts 145 = .ok (.iconst 1, 1) := dk_4 (dk_at dksX1_puts_6 8 rfl rfl)
theorem dX1_puts_146 : decode cX1_puts 146 = .ok (.if_icmp .ne 26, 3) := dk_160 0 26 (dk_at dksX1_puts_6 9 rfl rfl)
theorem dX1_puts_149 : decode cX1_puts 149 = .ok (.aload_n 0, 1) := dk_42 (dk_at dksX1_puts_6 12 rfl rfl)
theorem dX1_puts_150 : decode cX1_puts 150 = .ok (.getfield 33, 3) := dk_180 0 33 (dk_at dksX1_puts_6 13 rfl rfl)
theorem dX1_puts_153 : decode cX1_puts 153 = .ok (.aload_n 1, 1) := dk_43 (dk_at dksX1_puts_6 16 rfl rfl)
theorem dX1_puts_154 : decode cX1_puts 154 = .ok (.new 111, 3) := dk_187 0 111 (dk_at dksX1_puts_6 17 rfl rfl)
theorem dX1_puts_157 : decode cX1_puts 157 = .ok (.dup, 1) := dk_89 (dk_at dksX1_puts_6 20 rfl rfl)
theorem dX1_puts_158 : decode cX1_puts 158 = .ok (.iload_n 2, 1) := dk_28 (dk_at dksX1_puts_6 21 rfl rfl)
theorem dX1_puts_159 : decode cX1_puts 159 = .ok (.iload_n 3, 1) := dk_29 (dk_at dksX1_puts_6 22 rfl rfl)
theorem dX1_puts_160 : decode cX1_puts 160 = .ok (.iload 4, 2) := dk_21 4 (dk_at dksX1_puts_7 0 rfl rfl)
theorem dX1_puts_162 : decode cX1_puts 162 = .ok (.iconst 0, 1) := dk_3 (dk_at dksX1_puts_7 2 rfl rfl)
theorem dX1_puts_163 : decode cX1_puts 163 = .ok (.invokespecial 209, 3) := dk_183 0 209 (dk_at dksX1_puts_7 3 rfl rfl)
theorem dX1_puts_166 : decode cX1_puts 166 = .ok (.invokevirtual 119, 3) := dk_182 0 119 (dk_at dksX1_puts_7 6 rfl rfl)
theorem dX1_puts_169 : decode cX1_puts 169 = .ok (.goto 26, 3) := dk_167 0 26 (dk_at dksX1_puts_7 9 rfl rfl)
theorem dX1_puts_172 : decode cX1_puts 172 = .ok (.aload_n 0, 1) := dk_42 (dk_at dksX1_puts_7 12 rfl rfl)
theorem dX1_puts_173 : decode cX1_puts 173 = .ok (.getfield 29, 3) := dk_180 0 29 (dk_at dksX1_puts_7 13 rfl rfl)
theorem dX1_puts_176 : decode cX1_puts 176 = .ok (.aload_n 1, 1) := dk_43 (dk_at dksX1_puts_7 16 rfl rfl)
theorem dX1_puts_177 : decode cX1_puts 177 = .ok (.new 111, 3) := dk_187 0 111 (dk_at dksX1_puts_7 17 rfl rfl)
theorem dX1_puts_180 : decode cX1_puts 180 = .ok (.dup, 1) := dk_89 (dk_at dksX1_puts_7 20 rfl rfl)
theorem dX1_puts_181 : decode cX1_puts 181 = .ok (.iload_n 2, 1) := dk_28 (dk_at dksX1_puts_7 21 rfl rfl)
theorem dX1_puts_182 : decode cX1_puts 182 = .ok (.iload_n 3, 1) := dk_29 (dk_at dksX1_puts_7 22 rfl rfl)
theorem dX1_puts_183 : decode cX1_puts 183 = .ok (.iload 4, 2) := dk_21 4 (dk_at dksX1_puts_8 0 rfl rfl)
theorem dX1_puts_185 : decode cX1_puts 185 = .ok (.aload_n 0, 1) := dk_42 (dk_at dksX1_puts_8 2 rfl rfl)
theorem dX1_puts_186 : decode cX1_puts 186 = .ok (.getfield 21, 3) := dk_180 0 21 (dk_at dksX1_puts_8 3 rfl rfl)
theorem dX1_puts_189 : decode cX1_puts 189 = .ok (.invokespecial 209, 3) := dk_183 0 209 (dk_at dksX1_puts_8 6 rfl rfl)
theorem dX1_puts_192 : decode cX1_puts 192 = .ok (.invokevirtual 119, 3) := dk_182 0 119 (dk_at dksX1_puts_8 9 rfl rfl)
theorem dX1_puts_195 : decode cX1_puts 195 = .ok (.aload_n 0, 1) := dk_42 (dk_at dksX1_puts_8 12 rfl rfl)
theorem dX1_puts_196 : decode cX1_puts 196 = .ok (.invokevirtual 212, 3) := dk_182 0 212 (dk_at dksX1_puts_8 13 rfl rfl)
theorem dX1_puts_199 : decode cX1_puts 199 = .ok (.iload 6, 2) := dk_21 6 (dk_at dksX1_puts_8 16 rfl rfl)
theorem dX1_puts_201 : decode cX1_puts 201 = .ok (.ireturn, 1) := dk_172 (dk_at dksX1_puts_8 18 rfl rfl)
abbrev cX1_thing : ByteArray := prog_2_method_12_code
def yX1_thing : MethodName := ⟨RX1, "thing", "(LSegmentedCache$Key;)LSegmentedCache$Thing;"⟩
def dkwX1_thing_1 : List UInt8 := [180, 0, 101, 43, 182, 0, 181, 192, 0, 111, 167, 0, 4, 44, 176]
abbrev dktX1_thing_1 : List UInt8 := dkwX1_thing_1 ++ []
def dkwX1_thing_0 : List UInt8 := [42, 180, 0, 29, 180, 0, 101, 43, 182, 0, 181, 192, 0, 111, 77, 44, 199, 0, 20, 42, 180, 0, 33]
abbrev dktX1_thing_0 : List UInt8 := dkwX1_thing_0 ++ dktX1_thing_1
theorem dksX1_thing_0 : cX1_thing.data.toList.drop 0 = dktX1_thing_0 := by decide +kernel
theorem dksX1_thing_1 : cX1_thing.data.toList.drop 23 = dktX1_thing_1 := dk_seg dksX1_thing_0 23 rfl rfl
theorem dX1_thing_0 : decode cX1_thing 0 = .ok (.aload_n 0, 1) := dk_42 (dk_at dksX1_thing_0 0 rfl rfl)
theorem dX1_thing_1 : decode cX1_thing 1 = .ok (.getfield 29, 3) := dk_180 0 29 (dk_at dksX1_thing_0 1 rfl rfl)
theorem dX1_thing_4 : decode cX1_thing 4 = .ok (.getfield 101, 3) := dk_180 0 101 (dk_at dksX1_thing_0 4 rfl rfl)
theorem dX1_thing_7 : decode cX1_thing 7 = .ok (.aload_n 1, 1) := dk_43 (dk_at dksX1_thing_0 7 rfl rfl)
theorem dX1_thing_8 : decode cX1_thing 8 = .ok (.invokevirtual 181, 3) := dk_182 0 181 (dk_at dksX1_thing_0 8 rfl rfl)
theorem dX1_thing_11 : decode cX1_thing 11 = .ok (.checkcast 111, 3) := dk_192 0 111 (dk_at dksX1_thing_0 11 rfl rfl)
theorem dX1_thing_14 : decode cX1_thing 14 = .ok (.astore_n 2, 1) := dk_77 (dk_at dksX1_thing_0 14 rfl rfl)
theorem dX1_thing_15 : decode cX1_thing 15 = .ok (.aload_n 2, 1) := dk_44 (dk_at dksX1_thing_0 15 rfl rfl)
theorem dX1_thing_16 : decode cX1_thing 16 = .ok (.ifnonnull 20, 3) := dk_199 0 20 (dk_at dksX1_thing_0 16 rfl rfl)
theorem dX1_thing_19 : decode cX1_thing 19 = .ok (.aload_n 0, 1) := dk_42 (dk_at dksX1_thing_0 19 rfl rfl)
theorem dX1_thing_20 : decode cX1_thing 20 = .ok (.getfield 33, 3) := dk_180 0 33 (dk_at dksX1_thing_0 20 rfl rfl)
theorem dX1_thing_23 : decode cX1_thing 23 = .ok (.getfield 101, 3) := dk_180 0 101 (dk_at dksX1_thing_1 0 rfl rfl)
theorem dX1_thing_26 : decode cX1_thing 26 = .ok (.aload_n 1, 1) := dk_43 (dk_at dksX1_thing_1 3 rfl rfl)
theorem dX1_thing_27 : decode cX1_thing 27 = .ok (.invokevirtual 181, 3) := dk_182 0 181 (dk_at dksX1_thing_1 4 rfl rfl)
theorem dX1_thing_30 : decode cX1_thing 30 = .ok (.checkcast 111, 3) := dk_192 0 111 (dk_at dksX1_thing_1 7 rfl rfl)
theorem dX1_thing_33 : decode cX1_thing 33 = .ok (.goto 4, 3) := dk_167 0 4 (dk_at dksX1_thing_1 10 rfl rfl)
theorem dX1_thing_36 : decode cX1_thing 36 = .ok (.aload_n 2, 1) := dk_44 (dk_at dksX1_thing_1 13 rfl rfl)
theorem dX1_thing_37 : decode cX1_thing 37 = .ok (.areturn, 1) := dk_176 (dk_at dksX1_thing_1 14 rfl rfl)
abbrev cX1_changes : ByteArray := prog_2_method_13_code
def yX1_changes : MethodName := ⟨RX1, "changes", "(LSegmentedCache$Key;LSegmentedCache$Thing;III)V"⟩
def dkwX1_changes_1 : List UInt8 := [180, 0, 113, 100, 182, 0, 195, 44, 21, 4, 181, 0, 113, 42, 43, 44, 182, 0, 198, 177]
abbrev dktX1_changes_1 : List UInt8 := dkwX1_changes_1 ++ []
def dkwX1_changes_0 : List UInt8 := [44, 29, 181, 0, 185, 44, 21, 5, 181, 0, 188, 42, 42, 43, 182, 0, 191, 182, 0, 97, 21, 4, 44]
abbrev dktX1_changes_0 : List UInt8 := dkwX1_changes_0 ++ dktX1_changes_1
theorem dksX1_changes_0 : cX1_changes.data.toList.drop 0 = dktX1_changes_0 := by decide +kernel
theorem dksX1_changes_1 : cX1_changes.data.toList.drop 23 = dktX1_changes_1 := dk_seg dksX1_changes_0 23 rfl rfl
theorem dX1_changes_0 : decode cX1_changes 0 = .ok (.aload_n 2, 1) := dk_44 (dk_at dksX1_changes_0 0 rfl rfl)
theorem dX1_changes_1 : decode cX1_changes 1 = .ok (.iload_n 3, 1) := dk_29 (dk_at dksX1_changes_0 1 rfl rfl)
theorem dX1_changes_2 : decode cX1_changes 2 = .ok (.putfield 185, 3) := dk_181 0 185 (dk_at dksX1_changes_0 2 rfl rfl)
theorem dX1_changes_5 : decode cX1_changes 5 = .ok (.aload_n 2, 1) := dk_44 (dk_at dksX1_changes_0 5 rfl rfl)
theorem dX1_changes_6 : decode cX1_changes 6 = .ok (.iload 5, 2) := dk_21 5 (dk_at dksX1_changes_0 6 rfl rfl)
theorem dX1_changes_8 : decode cX1_changes 8 = .ok (.putfield 188, 3) := dk_181 0 188 (dk_at dksX1_changes_0 8 rfl rfl)
theorem dX1_changes_11 : decode cX1_changes 11 = .ok (.aload_n 0, 1) := dk_42 (dk_at dksX1_changes_0 11 rfl rfl)
theorem dX1_changes_12 : decode cX1_changes 12 = .ok (.aload_n 0, 1) := dk_42 (dk_at dksX1_changes_0 12 rfl rfl)
theorem dX1_changes_13 : decode cX1_changes 13 = .ok (.aload_n 1, 1) := dk_43 (dk_at dksX1_changes_0 13 rfl rfl)
theorem dX1_changes_14 : decode cX1_changes 14 = .ok (.invokevirtual 191, 3) := dk_182 0 191 (dk_at dksX1_changes_0 14 rfl rfl)
theorem dX1_changes_17 : decode cX1_changes 17 = .ok (.invokevirtual 97, 3) := dk_182 0 97 (dk_at dksX1_changes_0 17 rfl rfl)
theorem dX1_changes_20 : decode cX1_changes 20 = .ok (.iload 4, 2) := dk_21 4 (dk_at dksX1_changes_0 20 rfl rfl)
theorem dX1_changes_22 : decode cX1_changes 22 = .ok (.aload_n 2, 1) := dk_44 (dk_at dksX1_changes_0 22 rfl rfl)
theorem dX1_changes_23 : decode cX1_changes 23 = .ok (.getfield 113, 3) := dk_180 0 113 (dk_at dksX1_changes_1 0 rfl rfl)
theorem dX1_changes_26 : decode cX1_changes 26 = .ok (.isub, 1) := dk_100 (dk_at dksX1_changes_1 3 rfl rfl)
theorem dX1_changes_27 : decode cX1_changes 27 = .ok (.invokevirtual 195, 3) := dk_182 0 195 (dk_at dksX1_changes_1 4 rfl rfl)
theorem dX1_changes_30 : decode cX1_changes 30 = .ok (.aload_n 2, 1) := dk_44 (dk_at dksX1_changes_1 7 rfl rfl)
theorem dX1_changes_31 : decode cX1_changes 31 = .ok (.iload 4, 2) := dk_21 4 (dk_at dksX1_changes_1 8 rfl rfl)
theorem dX1_changes_33 : decode cX1_changes 33 = .ok (.putfield 113, 3) := dk_181 0 113 (dk_at dksX1_changes_1 10 rfl rfl)
theorem dX1_changes_36 : decode cX1_changes 36 = .ok (.aload_n 0, 1) := dk_42 (dk_at dksX1_changes_1 13 rfl rfl)
theorem dX1_changes_37 : decode cX1_changes 37 = .ok (.aload_n 1, 1) := dk_43 (dk_at dksX1_changes_1 14 rfl rfl)
theorem dX1_changes_38 : decode cX1_changes 38 = .ok (.aload_n 2, 1) := dk_44 (dk_at dksX1_changes_1 15 rfl rfl)
theorem dX1_changes_39 : decode cX1_changes 39 = .ok (.invokevirtual 198, 3) := dk_182 0 198 (dk_at dksX1_changes_1 16 rfl rfl)
theorem dX1_changes_42 : decode cX1_changes 42 = .ok (.return_, 1) := dk_177 (dk_at dksX1_changes_1 19 rfl rfl)
abbrev cX1_where : ByteArray := prog_2_method_4_code
def yX1_where : MethodName := ⟨RX1, "where", "(LSegmentedCache$Key;)I"⟩
def dkwX1_where_1 : List UInt8 := [132, 2, 1, 167, 255, 231, 3, 172]
abbrev dktX1_where_1 : List UInt8 := dkwX1_where_1 ++ []
def dkwX1_where_0 : List UInt8 := [4, 61, 28, 7, 163, 0, 26, 42, 28, 182, 0, 97, 180, 0, 101, 43, 182, 0, 105, 153, 0, 5, 28, 172]
abbrev dktX1_where_0 : List UInt8 := dkwX1_where_0 ++ dktX1_where_1
theorem dksX1_where_0 : cX1_where.data.toList.drop 0 = dktX1_where_0 := by decide +kernel
theorem dksX1_where_1 : cX1_where.data.toList.drop 24 = dktX1_where_1 := dk_seg dksX1_where_0 24 rfl rfl
theorem dX1_where_0 : decode cX1_where 0 = .ok (.iconst 1, 1) := dk_4 (dk_at dksX1_where_0 0 rfl rfl)
theorem dX1_where_1 : decode cX1_where 1 = .ok (.istore_n 2, 1) := dk_61 (dk_at dksX1_where_0 1 rfl rfl)
theorem dX1_where_2 : decode cX1_where 2 = .ok (.iload_n 2, 1) := dk_28 (dk_at dksX1_where_0 2 rfl rfl)
theorem dX1_where_3 : decode cX1_where 3 = .ok (.iconst 4, 1) := dk_7 (dk_at dksX1_where_0 3 rfl rfl)
theorem dX1_where_4 : decode cX1_where 4 = .ok (.if_icmp .gt 26, 3) := dk_163 0 26 (dk_at dksX1_where_0 4 rfl rfl)
theorem dX1_where_7 : decode cX1_where 7 = .ok (.aload_n 0, 1) := dk_42 (dk_at dksX1_where_0 7 rfl rfl)
theorem dX1_where_8 : decode cX1_where 8 = .ok (.iload_n 2, 1) := dk_28 (dk_at dksX1_where_0 8 rfl rfl)
theorem dX1_where_9 : decode cX1_where 9 = .ok (.invokevirtual 97, 3) := dk_182 0 97 (dk_at dksX1_where_0 9 rfl rfl)
theorem dX1_where_12 : decode cX1_where 12 = .ok (.getfield 101, 3) := dk_180 0 101 (dk_at dksX1_where_0 12 rfl rfl)
theorem dX1_where_15 : decode cX1_where 15 = .ok (.aload_n 1, 1) := dk_43 (dk_at dksX1_where_0 15 rfl rfl)
theorem dX1_where_16 : decode cX1_where 16 = .ok (.invokevirtual 105, 3) := dk_182 0 105 (dk_at dksX1_where_0 16 rfl rfl)
theorem dX1_where_19 : decode cX1_where 19 = .ok (.ifCond .eq 5, 3) := dk_153 0 5 (dk_at dksX1_where_0 19 rfl rfl)
theorem dX1_where_22 : decode cX1_where 22 = .ok (.iload_n 2, 1) := dk_28 (dk_at dksX1_where_0 22 rfl rfl)
theorem dX1_where_23 : decode cX1_where 23 = .ok (.ireturn, 1) := dk_172 (dk_at dksX1_where_0 23 rfl rfl)
theorem dX1_where_24 : decode cX1_where 24 = .ok (.iinc 2 1, 3) := dk_132 2 1 (dk_at dksX1_where_1 0 rfl rfl)
theorem dX1_where_27 : decode cX1_where 27 = .ok (.goto (-25), 3) := dk_167 255 231 (dk_at dksX1_where_1 3 rfl rfl)
theorem dX1_where_30 : decode cX1_where 30 = .ok (.iconst 0, 1) := dk_3 (dk_at dksX1_where_1 6 rfl rfl)
theorem dX1_where_31 : decode cX1_where 31 = .ok (.ireturn, 1) := dk_172 (dk_at dksX1_where_1 7 rfl rfl)
abbrev cX1_hits : ByteArray := prog_2_method_11_code
def yX1_hits : MethodName := ⟨RX1, "hits", "(LSegmentedCache$Key;LSegmentedCache$Thing;)V"⟩
def dkwX1_hits_3 : List UInt8 := [167, 0, 12, 42, 180, 0, 33, 43, 44, 182, 0, 119, 177]
abbrev dktX1_hits_3 : List UInt8 := dkwX1_hits_3 ++ []
def dkwX1_hits_2 : List UInt8 := [153, 0, 26, 44, 180, 0, 154, 42, 180, 0, 18, 162, 0, 15, 42, 180, 0, 29, 43, 44, 182, 0, 119]
abbrev dktX1_hits_2 : List UInt8 := dkwX1_hits_2 ++ dktX1_hits_3
def dkwX1_hits_1 : List UInt8 := [198, 0, 7, 4, 167, 0, 4, 3, 62, 29, 154, 0, 12, 42, 180, 0, 33, 43, 182, 0, 177, 87, 29]
abbrev dktX1_hits_1 : List UInt8 := dkwX1_hits_1 ++ dktX1_hits_2
def dkwX1_hits_0 : List UInt8 := [44, 16, 99, 44, 180, 0, 154, 4, 96, 184, 0, 171, 181, 0, 154, 42, 180, 0, 29, 43, 182, 0, 177]
abbrev dktX1_hits_0 : List UInt8 := dkwX1_hits_0 ++ dktX1_hits_1
theorem dksX1_hits_0 : cX1_hits.data.toList.drop 0 = dktX1_hits_0 := by decide +kernel
theorem dksX1_hits_1 : cX1_hits.data.toList.drop 23 = dktX1_hits_1 := dk_seg dksX1_hits_0 23 rfl rfl
theorem dksX1_hits_2 : cX1_hits.data.toList.drop 46 = dktX1_hits_2 := dk_seg dksX1_hits_1 23 rfl rfl
theorem dksX1_hits_3 : cX1_hits.data.toList.drop 69 = dktX1_hits_3 := dk_seg dksX1_hits_2 23 rfl rfl
theorem dX1_hits_0 : decode cX1_hits 0 = .ok (.aload_n 2, 1) := dk_44 (dk_at dksX1_hits_0 0 rfl rfl)
theorem dX1_hits_1 : decode cX1_hits 1 = .ok (.bipush 99, 2) := dk_16 99 (dk_at dksX1_hits_0 1 rfl rfl)
theorem dX1_hits_3 : decode cX1_hits 3 = .ok (.aload_n 2, 1) := dk_44 (dk_at dksX1_hits_0 3 rfl rfl)
theorem dX1_hits_4 : decode cX1_hits 4 = .ok (.getfield 154, 3) := dk_180 0 154 (dk_at dksX1_hits_0 4 rfl rfl)
theorem dX1_hits_7 : decode cX1_hits 7 = .ok (.iconst 1, 1) := dk_4 (dk_at dksX1_hits_0 7 rfl rfl)
theorem dX1_hits_8 : decode cX1_hits 8 = .ok (.iadd, 1) := dk_96 (dk_at dksX1_hits_0 8 rfl rfl)
theorem dX1_hits_9 : decode cX1_hits 9 = .ok (.invokestatic 171, 3) := dk_184 0 171 (dk_at dksX1_hits_0 9 rfl rfl)
theorem dX1_hits_12 : decode cX1_hits 12 = .ok (.putfield 154, 3) := dk_181 0 154 (dk_at dksX1_hits_0 12 rfl rfl)
theorem dX1_hits_15 : decode cX1_hits 15 = .ok (.aload_n 0, 1) := dk_42 (dk_at dksX1_hits_0 15 rfl rfl)
theorem dX1_hits_16 : decode cX1_hits 16 = .ok (.getfield 29, 3) := dk_180 0 29 (dk_at dksX1_hits_0 16 rfl rfl)
theorem dX1_hits_19 : decode cX1_hits 19 = .ok (.aload_n 1, 1) := dk_43 (dk_at dksX1_hits_0 19 rfl rfl)
theorem dX1_hits_20 : decode cX1_hits 20 = .ok (.invokevirtual 177, 3) := dk_182 0 177 (dk_at dksX1_hits_0 20 rfl rfl)
theorem dX1_hits_23 : decode cX1_hits 23 = .ok (.ifnull 7, 3) := dk_198 0 7 (dk_at dksX1_hits_1 0 rfl rfl)
theorem dX1_hits_26 : decode cX1_hits 26 = .ok (.iconst 1, 1) := dk_4 (dk_at dksX1_hits_1 3 rfl rfl)
theorem dX1_hits_27 : decode cX1_hits 27 = .ok (.goto 4, 3) := dk_167 0 4 (dk_at dksX1_hits_1 4 rfl rfl)
theorem dX1_hits_30 : decode cX1_hits 30 = .ok (.iconst 0, 1) := dk_3 (dk_at dksX1_hits_1 7 rfl rfl)
theorem dX1_hits_31 : decode cX1_hits 31 = .ok (.istore_n 3, 1) := dk_62 (dk_at dksX1_hits_1 8 rfl rfl)
theorem dX1_hits_32 : decode cX1_hits 32 = .ok (.iload_n 3, 1) := dk_29 (dk_at dksX1_hits_1 9 rfl rfl)
theorem dX1_hits_33 : decode cX1_hits 33 = .ok (.ifCond .ne 12, 3) := dk_154 0 12 (dk_at dksX1_hits_1 10 rfl rfl)
theorem dX1_hits_36 : decode cX1_hits 36 = .ok (.aload_n 0, 1) := dk_42 (dk_at dksX1_hits_1 13 rfl rfl)
theorem dX1_hits_37 : decode cX1_hits 37 = .ok (.getfield 33, 3) := dk_180 0 33 (dk_at dksX1_hits_1 14 rfl rfl)
theorem dX1_hits_40 : decode cX1_hits 40 = .ok (.aload_n 1, 1) := dk_43 (dk_at dksX1_hits_1 17 rfl rfl)
theorem dX1_hits_41 : decode cX1_hits 41 = .ok (.invokevirtual 177, 3) := dk_182 0 177 (dk_at dksX1_hits_1 18 rfl rfl)
theorem dX1_hits_44 : decode cX1_hits 44 = .ok (.pop, 1) := dk_87 (dk_at dksX1_hits_1 21 rfl rfl)
theorem dX1_hits_45 : decode cX1_hits 45 = .ok (.iload_n 3, 1) := dk_29 (dk_at dksX1_hits_1 22 rfl rfl)
theorem dX1_hits_46 : decode cX1_hits 46 = .ok (.ifCond .eq 26, 3) := dk_153 0 26 (dk_at dksX1_hits_2 0 rfl rfl)
theorem dX1_hits_49 : decode cX1_hits 49 = .ok (.aload_n 2, 1) := dk_44 (dk_at dksX1_hits_2 3 rfl rfl)
theorem dX1_hits_50 : decode cX1_hits 50 = .ok (.getfield 154, 3) := dk_180 0 154 (dk_at dksX1_hits_2 4 rfl rfl)
theorem dX1_hits_53 : decode cX1_hits 53 = .ok (.aload_n 0, 1) := dk_42 (dk_at dksX1_hits_2 7 rfl rfl)
theorem dX1_hits_54 : decode cX1_hits 54 = .ok (.getfield 18, 3) := dk_180 0 18 (dk_at dksX1_hits_2 8 rfl rfl)
theorem dX1_hits_57 : decode cX1_hits 57 = .ok (.if_icmp .ge 15, 3) := dk_162 0 15 (dk_at dksX1_hits_2 11 rfl rfl)
theorem dX1_hits_60 : decode cX1_hits 60 = .ok (.aload_n 0, 1) := dk_42 (dk_at dksX1_hits_2 14 rfl rfl)
theorem dX1_hits_61 : decode cX1_hits 61 = .ok (.getfield 29, 3) := dk_180 0 29 (dk_at dksX1_hits_2 15 rfl rfl)
theorem dX1_hits_64 : decode cX1_hits 64 = .ok (.aload_n 1, 1) := dk_43 (dk_at dksX1_hits_2 18 rfl rfl)
theorem dX1_hits_65 : decode cX1_hits 65 = .ok (.aload_n 2, 1) := dk_44 (dk_at dksX1_hits_2 19 rfl rfl)
theorem dX1_hits_66 : decode cX1_hits 66 = .ok (.invokevirtual 119, 3) := dk_182 0 119 (dk_at dksX1_hits_2 20 rfl rfl)
theorem dX1_hits_69 : decode cX1_hits 69 = .ok (.goto 12, 3) := dk_167 0 12 (dk_at dksX1_hits_3 0 rfl rfl)
theorem dX1_hits_72 : decode cX1_hits 72 = .ok (.aload_n 0, 1) := dk_42 (dk_at dksX1_hits_3 3 rfl rfl)
theorem dX1_hits_73 : decode cX1_hits 73 = .ok (.getfield 33, 3) := dk_180 0 33 (dk_at dksX1_hits_3 4 rfl rfl)
theorem dX1_hits_76 : decode cX1_hits 76 = .ok (.aload_n 1, 1) := dk_43 (dk_at dksX1_hits_3 7 rfl rfl)
theorem dX1_hits_77 : decode cX1_hits 77 = .ok (.aload_n 2, 1) := dk_44 (dk_at dksX1_hits_3 8 rfl rfl)
theorem dX1_hits_78 : decode cX1_hits 78 = .ok (.invokevirtual 119, 3) := dk_182 0 119 (dk_at dksX1_hits_3 9 rfl rfl)
theorem dX1_hits_81 : decode cX1_hits 81 = .ok (.return_, 1) := dk_177 (dk_at dksX1_hits_3 12 rfl rfl)
abbrev cX1_gets : ByteArray := prog_2_method_15_code
def yX1_gets : MethodName := ⟨RX1, "gets", "(LSegmentedCache$Key;)LSegmentedCache$Thing;"⟩
def dkwX1_gets_3 : List UInt8 := [182, 0, 212, 44, 176]
abbrev dktX1_gets_3 : List UInt8 := dkwX1_gets_3 ++ []
def dkwX1_gets_2 : List UInt8 := [96, 181, 0, 49, 42, 89, 180, 0, 58, 44, 180, 0, 188, 96, 181, 0, 58, 42, 43, 44, 182, 0, 198, 42]
abbrev dktX1_gets_2 : List UInt8 := dkwX1_gets_2 ++ dktX1_gets_3
def dkwX1_gets_1 : List UInt8 := [182, 0, 191, 153, 0, 13, 42, 89, 180, 0, 55, 4, 96, 181, 0, 55, 1, 176, 42, 89, 180, 0, 49, 4]
abbrev dktX1_gets_1 : List UInt8 := dkwX1_gets_1 ++ dktX1_gets_2
def dkwX1_gets_0 : List UInt8 := [42, 43, 182, 0, 200, 77, 44, 199, 0, 33, 42, 89, 180, 0, 52, 4, 96, 181, 0, 52, 42, 43]
abbrev dktX1_gets_0 : List UInt8 := dkwX1_gets_0 ++ dktX1_gets_1
theorem dksX1_gets_0 : cX1_gets.data.toList.drop 0 = dktX1_gets_0 := by decide +kernel
theorem dksX1_gets_1 : cX1_gets.data.toList.drop 22 = dktX1_gets_1 := dk_seg dksX1_gets_0 22 rfl rfl
theorem dksX1_gets_2 : cX1_gets.data.toList.drop 46 = dktX1_gets_2 := dk_seg dksX1_gets_1 24 rfl rfl
theorem dksX1_gets_3 : cX1_gets.data.toList.drop 70 = dktX1_gets_3 := dk_seg dksX1_gets_2 24 rfl rfl
theorem dX1_gets_0 : decode cX1_gets 0 = .ok (.aload_n 0, 1) := dk_42 (dk_at dksX1_gets_0 0 rfl rfl)
theorem dX1_gets_1 : decode cX1_gets 1 = .ok (.aload_n 1, 1) := dk_43 (dk_at dksX1_gets_0 1 rfl rfl)
theorem dX1_gets_2 : decode cX1_gets 2 = .ok (.invokevirtual 200, 3) := dk_182 0 200 (dk_at dksX1_gets_0 2 rfl rfl)
theorem dX1_gets_5 : decode cX1_gets 5 = .ok (.astore_n 2, 1) := dk_77 (dk_at dksX1_gets_0 5 rfl rfl)
theorem dX1_gets_6 : decode cX1_gets 6 = .ok (.aload_n 2, 1) := dk_44 (dk_at dksX1_gets_0 6 rfl rfl)
theorem dX1_gets_7 : decode cX1_gets 7 = .ok (.ifnonnull 33, 3) := dk_199 0 33 (dk_at dksX1_gets_0 7 rfl rfl)
theorem dX1_gets_10 : decode cX1_gets 10 = .ok (.aload_n 0, 1) := dk_42 (dk_at dksX1_gets_0 10 rfl rfl)
theorem dX1_gets_11 : decode cX1_gets 11 = .ok (.dup, 1) := dk_89 (dk_at dksX1_gets_0 11 rfl rfl)
theorem dX1_gets_12 : decode cX1_gets 12 = .ok (.getfield 52, 3) := dk_180 0 52 (dk_at dksX1_gets_0 12 rfl rfl)
theorem dX1_gets_15 : decode cX1_gets 15 = .ok (.iconst 1, 1) := dk_4 (dk_at dksX1_gets_0 15 rfl rfl)
theorem dX1_gets_16 : decode cX1_gets 16 = .ok (.iadd, 1) := dk_96 (dk_at dksX1_gets_0 16 rfl rfl)
theorem dX1_gets_17 : decode cX1_gets 17 = .ok (.putfield 52, 3) := dk_181 0 52 (dk_at dksX1_gets_0 17 rfl rfl)
theorem dX1_gets_20 : decode cX1_gets 20 = .ok (.aload_n 0, 1) := dk_42 (dk_at dksX1_gets_0 20 rfl rfl)
theorem dX1_gets_21 : decode cX1_gets 21 = .ok (.aload_n 1, 1) := dk_43 (dk_at dksX1_gets_0 21 rfl rfl)
theorem dX1_gets_22 : decode cX1_gets 22 = .ok (.invokevirtual 191, 3) := dk_182 0 191 (dk_at dksX1_gets_1 0 rfl rfl)
theorem dX1_gets_25 : decode cX1_gets 25 = .ok (.ifCond .eq 13, 3) := dk_153 0 13 (dk_at dksX1_gets_1 3 rfl rfl)
theorem dX1_gets_28 : decode cX1_gets 28 = .ok (.aload_n 0, 1) := dk_42 (dk_at dksX1_gets_1 6 rfl rfl)
theorem dX1_gets_29 : decode cX1_gets 29 = .ok (.dup, 1) := dk_89 (dk_at dksX1_gets_1 7 rfl rfl)
theorem dX1_gets_30 : decode cX1_gets 30 = .ok (.getfield 55, 3) := dk_180 0 55 (dk_at dksX1_gets_1 8 rfl rfl)
theorem dX1_gets_33 : decode cX1_gets 33 = .ok (.iconst 1, 1) := dk_4 (dk_at dksX1_gets_1 11 rfl rfl)
theorem dX1_gets_34 : decode cX1_gets 34 = .ok (.iadd, 1) := dk_96 (dk_at dksX1_gets_1 12 rfl rfl)
theorem dX1_gets_35 : decode cX1_gets 35 = .ok (.putfield 55, 3) := dk_181 0 55 (dk_at dksX1_gets_1 13 rfl rfl)
theorem dX1_gets_38 : decode cX1_gets 38 = .ok (.aconst_null, 1) := dk_1 (dk_at dksX1_gets_1 16 rfl rfl)
theorem dX1_gets_39 : decode cX1_gets 39 = .ok (.areturn, 1) := dk_176 (dk_at dksX1_gets_1 17 rfl rfl)
theorem dX1_gets_40 : decode cX1_gets 40 = .ok (.aload_n 0, 1) := dk_42 (dk_at dksX1_gets_1 18 rfl rfl)
theorem dX1_gets_41 : decode cX1_gets 41 = .ok (.dup, 1) := dk_89 (dk_at dksX1_gets_1 19 rfl rfl)
theorem dX1_gets_42 : decode cX1_gets 42 = .ok (.getfield 49, 3) := dk_180 0 49 (dk_at dksX1_gets_1 20 rfl rfl)
theorem dX1_gets_45 : decode cX1_gets 45 = .ok (.iconst 1, 1) := dk_4 (dk_at dksX1_gets_1 23 rfl rfl)
theorem dX1_gets_46 : decode cX1_gets 46 = .ok (.iadd, 1) := dk_96 (dk_at dksX1_gets_2 0 rfl rfl)
theorem dX1_gets_47 : decode cX1_gets 47 = .ok (.putfield 49, 3) := dk_181 0 49 (dk_at dksX1_gets_2 1 rfl rfl)
theorem dX1_gets_50 : decode cX1_gets 50 = .ok (.aload_n 0, 1) := dk_42 (dk_at dksX1_gets_2 4 rfl rfl)
theorem dX1_gets_51 : decode cX1_gets 51 = .ok (.dup, 1) := dk_89 (dk_at dksX1_gets_2 5 rfl rfl)
theorem dX1_gets_52 : decode cX1_gets 52 = .ok (.getfield 58, 3) := dk_180 0 58 (dk_at dksX1_gets_2 6 rfl rfl)
theorem dX1_gets_55 : decode cX1_gets 55 = .ok (.aload_n 2, 1) := dk_44 (dk_at dksX1_gets_2 9 rfl rfl)
theorem dX1_gets_56 : decode cX1_gets 56 = .ok (.getfield 188, 3) := dk_180 0 188 (dk_at dksX1_gets_2 10 rfl rfl)
theorem dX1_gets_59 : decode cX1_gets 59 = .ok (.iadd, 1) := dk_96 (dk_at dksX1_gets_2 13 rfl rfl)
theorem dX1_gets_60 : decode cX1_gets 60 = .ok (.putfield 58, 3) := dk_181 0 58 (dk_at dksX1_gets_2 14 rfl rfl)
theorem dX1_gets_63 : decode cX1_gets 63 = .ok (.aload_n 0, 1) := dk_42 (dk_at dksX1_gets_2 17 rfl rfl)
theorem dX1_gets_64 : decode cX1_gets 64 = .ok (.aload_n 1, 1) := dk_43 (dk_at dksX1_gets_2 18 rfl rfl)
theorem dX1_gets_65 : decode cX1_gets 65 = .ok (.aload_n 2, 1) := dk_44 (dk_at dksX1_gets_2 19 rfl rfl)
theorem dX1_gets_66 : decode cX1_gets 66 = .ok (.invokevirtual 198, 3) := dk_182 0 198 (dk_at dksX1_gets_2 20 rfl rfl)
theorem dX1_gets_69 : decode cX1_gets 69 = .ok (.aload_n 0, 1) := dk_42 (dk_at dksX1_gets_2 23 rfl rfl)
theorem dX1_gets_70 : decode cX1_gets 70 = .ok (.invokevirtual 212, 3) := dk_182 0 212 (dk_at dksX1_gets_3 0 rfl rfl)
theorem dX1_gets_73 : decode cX1_gets 73 = .ok (.aload_n 2, 1) := dk_44 (dk_at dksX1_gets_3 3 rfl rfl)
theorem dX1_gets_74 : decode cX1_gets 74 = .ok (.areturn, 1) := dk_176 (dk_at dksX1_gets_3 4 rfl rfl)
abbrev cX1_drops : ByteArray := prog_2_method_16_code
def yX1_drops : MethodName := ⟨RX1, "drops", "(LSegmentedCache$Key;)I"⟩
def dkwX1_drops_0 : List UInt8 := [42, 43, 182, 0, 191, 61, 28, 153, 0, 13, 42, 28, 182, 0, 97, 43, 182, 0, 177, 87, 28, 172]
abbrev dktX1_drops_0 : List UInt8 := dkwX1_drops_0 ++ []
theorem dksX1_drops_0 : cX1_drops.data.toList.drop 0 = dktX1_drops_0 := by decide +kernel
theorem dX1_drops_0 : decode cX1_drops 0 = .ok (.aload_n 0, 1) := dk_42 (dk_at dksX1_drops_0 0 rfl rfl)
theorem dX1_drops_1 : decode cX1_drops 1 = .ok (.aload_n 1, 1) := dk_43 (dk_at dksX1_drops_0 1 rfl rfl)
theorem dX1_drops_2 : decode cX1_drops 2 = .ok (.invokevirtual 191, 3) := dk_182 0 191 (dk_at dksX1_drops_0 2 rfl rfl)
theorem dX1_drops_5 : decode cX1_drops 5 = .ok (.istore_n 2, 1) := dk_61 (dk_at dksX1_drops_0 5 rfl rfl)
theorem dX1_drops_6 : decode cX1_drops 6 = .ok (.iload_n 2, 1) := dk_28 (dk_at dksX1_drops_0 6 rfl rfl)
theorem dX1_drops_7 : decode cX1_drops 7 = .ok (.ifCond .eq 13, 3) := dk_153 0 13 (dk_at dksX1_drops_0 7 rfl rfl)
theorem dX1_drops_10 : decode cX1_drops 10 = .ok (.aload_n 0, 1) := dk_42 (dk_at dksX1_drops_0 10 rfl rfl)
theorem dX1_drops_11 : decode cX1_drops 11 = .ok (.iload_n 2, 1) := dk_28 (dk_at dksX1_drops_0 11 rfl rfl)
theorem dX1_drops_12 : decode cX1_drops 12 = .ok (.invokevirtual 97, 3) := dk_182 0 97 (dk_at dksX1_drops_0 12 rfl rfl)
theorem dX1_drops_15 : decode cX1_drops 15 = .ok (.aload_n 1, 1) := dk_43 (dk_at dksX1_drops_0 15 rfl rfl)
theorem dX1_drops_16 : decode cX1_drops 16 = .ok (.invokevirtual 177, 3) := dk_182 0 177 (dk_at dksX1_drops_0 16 rfl rfl)
theorem dX1_drops_19 : decode cX1_drops 19 = .ok (.pop, 1) := dk_87 (dk_at dksX1_drops_0 19 rfl rfl)
theorem dX1_drops_20 : decode cX1_drops 20 = .ok (.iload_n 2, 1) := dk_28 (dk_at dksX1_drops_0 20 rfl rfl)
theorem dX1_drops_21 : decode cX1_drops 21 = .ok (.ireturn, 1) := dk_172 (dk_at dksX1_drops_0 21 rfl rfl)
abbrev cX1_runs : ByteArray := prog_2_method_17_code
def yX1_runs : MethodName := ⟨RX1, "runs", "(Ljava/util/LinkedList;)V"⟩
def dkwX1_runs_5 : List UInt8 := [182, 0, 232, 87, 167, 255, 155, 177]
abbrev dktX1_runs_5 : List UInt8 := dkwX1_runs_5 ++ []
def dkwX1_runs_4 : List UInt8 := [45, 180, 0, 223, 3, 45, 180, 0, 227, 4, 182, 0, 228, 87, 167, 0, 12, 42, 45, 180, 0, 223]
abbrev dktX1_runs_4 : List UInt8 := dkwX1_runs_4 ++ dktX1_runs_5
def dkwX1_runs_3 : List UInt8 := [42, 45, 180, 0, 223, 182, 0, 224, 87, 167, 0, 41, 45, 180, 0, 227, 42, 180, 0, 9, 163, 0, 30, 42]
abbrev dktX1_runs_3 : List UInt8 := dkwX1_runs_3 ++ dktX1_runs_4
def dkwX1_runs_2 : List UInt8 := [171, 0, 0, 0, 0, 0, 0, 69, 0, 0, 0, 2, 0, 0, 0, 103, 0, 0, 0, 28, 0, 0, 0, 112, 0, 0, 0, 40]
abbrev dktX1_runs_2 : List UInt8 := dkwX1_runs_2 ++ dktX1_runs_3
def dkwX1_runs_1 : List UInt8 := [45, 180, 0, 220]
abbrev dktX1_runs_1 : List UInt8 := dkwX1_runs_1 ++ dktX1_runs_2
def dkwX1_runs_0 : List UInt8 := [43, 182, 0, 215, 77, 44, 185, 0, 81, 1, 0, 153, 0, 98, 44, 185, 0, 87, 1, 0, 192, 0, 218, 78]
abbrev dktX1_runs_0 : List UInt8 := dkwX1_runs_0 ++ dktX1_runs_1
theorem dksX1_runs_0 : cX1_runs.data.toList.drop 0 = dktX1_runs_0 := by decide +kernel
theorem dksX1_runs_1 : cX1_runs.data.toList.drop 24 = dktX1_runs_1 := dk_seg dksX1_runs_0 24 rfl rfl
theorem dksX1_runs_2 : cX1_runs.data.toList.drop 28 = dktX1_runs_2 := dk_seg dksX1_runs_1 4 rfl rfl
theorem dksX1_runs_3 : cX1_runs.data.toList.drop 56 = dktX1_runs_3 := dk_seg dksX1_runs_2 28 rfl rfl
theorem dksX1_runs_4 : cX1_runs.data.toList.drop 80 = dktX1_runs_4 := dk_seg dksX1_runs_3 24 rfl rfl
theorem dksX1_runs_5 : cX1_runs.data.toList.drop 102 = dktX1_runs_5 := dk_seg dksX1_runs_4 22 rfl rfl
theorem dX1_runs_0 : decode cX1_runs 0 = .ok (.aload_n 1, 1) := dk_43 (dk_at dksX1_runs_0 0 rfl rfl)
theorem dX1_runs_1 : decode cX1_runs 1 = .ok (.invokevirtual 215, 3) := dk_182 0 215 (dk_at dksX1_runs_0 1 rfl rfl)
theorem dX1_runs_4 : decode cX1_runs 4 = .ok (.astore_n 2, 1) := dk_77 (dk_at dksX1_runs_0 4 rfl rfl)
theorem dX1_runs_5 : decode cX1_runs 5 = .ok (.aload_n 2, 1) := dk_44 (dk_at dksX1_runs_0 5 rfl rfl)
theorem dX1_runs_6 : decode cX1_runs 6 = .ok (.invokeinterface 81 1, 5) := by decide +kernel
theorem dX1_runs_11 : decode cX1_runs 11 = .ok (.ifCond .eq 98, 3) := dk_153 0 98 (dk_at dksX1_runs_0 11 rfl rfl)
theorem dX1_runs_14 : decode cX1_runs 14 = .ok (.aload_n 2, 1) := dk_44 (dk_at dksX1_runs_0 14 rfl rfl)
theorem dX1_runs_15 : decode cX1_runs 15 = .ok (.invokeinterface 87 1, 5) := by decide +kernel
theorem dX1_runs_20 : decode cX1_runs 20 = .ok (.checkcast 218, 3) := dk_192 0 218 (dk_at dksX1_runs_0 20 rfl rfl)
theorem dX1_runs_23 : decode cX1_runs 23 = .ok (.astore_n 3, 1) := dk_78 (dk_at dksX1_runs_0 23 rfl rfl)
theorem dX1_runs_24 : decode cX1_runs 24 = .ok (.aload_n 3, 1) := dk_45 (dk_at dksX1_runs_1 0 rfl rfl)
theorem dX1_runs_25 : decode cX1_runs 25 = .ok (.getfield 220, 3) := dk_180 0 220 (dk_at dksX1_runs_1 1 rfl rfl)
theorem dX1_runs_28 : decode cX1_runs 28 = .ok (.lookupswitch 69 #[(103, 28), (112, 40)], 28) := by decide +kernel
theorem dX1_runs_56 : decode cX1_runs 56 = .ok (.aload_n 0, 1) := dk_42 (dk_at dksX1_runs_3 0 rfl rfl)
theorem dX1_runs_57 : decode cX1_runs 57 = .ok (.aload_n 3, 1) := dk_45 (dk_at dksX1_runs_3 1 rfl rfl)
theorem dX1_runs_58 : decode cX1_runs 58 = .ok (.getfield 223, 3) := dk_180 0 223 (dk_at dksX1_runs_3 2 rfl rfl)
theorem dX1_runs_61 : decode cX1_runs 61 = .ok (.invokevirtual 224, 3) := dk_182 0 224 (dk_at dksX1_runs_3 5 rfl rfl)
theorem dX1_runs_64 : decode cX1_runs 64 = .ok (.pop, 1) := dk_87 (dk_at dksX1_runs_3 8 rfl rfl)
theorem dX1_runs_65 : decode cX1_runs 65 = .ok (.goto 41, 3) := dk_167 0 41 (dk_at dksX1_runs_3 9 rfl rfl)
theorem dX1_runs_68 : decode cX1_runs 68 = .ok (.aload_n 3, 1) := dk_45 (dk_at dksX1_runs_3 12 rfl rfl)
theorem dX1_runs_69 : decode cX1_runs 69 = .ok (.getfield 227, 3) := dk_180 0 227 (dk_at dksX1_runs_3 13 rfl rfl)
theorem dX1_runs_72 : decode cX1_runs 72 = .ok (.aload_n 0, 1) := dk_42 (dk_at dksX1_runs_3 16 rfl rfl)
theorem dX1_runs_73 : decode cX1_runs 73 = .ok (.getfield 9, 3) := dk_180 0 9 (dk_at dksX1_runs_3 17 rfl rfl)
theorem dX1_runs_76 : decode cX1_runs 76 = .ok (.if_icmp .gt 30, 3) := dk_163 0 30 (dk_at dksX1_runs_3 20 rfl rfl)
theorem dX1_runs_79 : decode cX1_runs 79 = .ok (.aload_n 0, 1) := dk_42 (dk_at dksX1_runs_3 23 rfl rfl)
theorem dX1_runs_80 : decode cX1_runs 80 = .ok (.aload_n 3, 1) := dk_45 (dk_at dksX1_runs_4 0 rfl rfl)
theorem dX1_runs_81 : decode cX1_runs 81 = .ok (.getfield 223, 3) := dk_180 0 223 (dk_at dksX1_runs_4 1 rfl rfl)
theorem dX1_runs_84 : decode cX1_runs 84 = .ok (.iconst 0, 1) := dk_3 (dk_at dksX1_runs_4 4 rfl rfl)
theorem dX1_runs_85 : decode cX1_runs 85 = .ok (.aload_n 3, 1) := dk_45 (dk_at dksX1_runs_4 5 rfl rfl)
theorem dX1_runs_86 : decode cX1_runs 86 = .ok (.getfield 227, 3) := dk_180 0 227 (dk_at dksX1_runs_4 6 rfl rfl)
theorem dX1_runs_89 : decode cX1_runs 89 = .ok (.iconst 1, 1) := dk_4 (dk_at dksX1_runs_4 9 rfl rfl)
theorem dX1_runs_90 : decode cX1_runs 90 = .ok (.invokevirtual 228, 3) := dk_182 0 228 (dk_at dksX1_runs_4 10 rfl rfl)
theorem dX1_runs_93 : decode cX1_runs 93 = .ok (.pop, 1) := dk_87 (dk_at dksX1_runs_4 13 rfl rfl)
theorem dX1_runs_94 : decode cX1_runs 94 = .ok (.goto 12, 3) := dk_167 0 12 (dk_at dksX1_runs_4 14 rfl rfl)
theorem dX1_runs_97 : decode cX1_runs 97 = .ok (.aload_n 0, 1) := dk_42 (dk_at dksX1_runs_4 17 rfl rfl)
theorem dX1_runs_98 : decode cX1_runs 98 = .ok (.aload_n 3, 1) := dk_45 (dk_at dksX1_runs_4 18 rfl rfl)
theorem dX1_runs_99 : decode cX1_runs 99 = .ok (.getfield 223, 3) := dk_180 0 223 (dk_at dksX1_runs_4 19 rfl rfl)
theorem dX1_runs_102 : decode cX1_runs 102 = .ok (.invokevirtual 232, 3) := dk_182 0 232 (dk_at dksX1_runs_5 0 rfl rfl)
theorem dX1_runs_105 : decode cX1_runs 105 = .ok (.pop, 1) := dk_87 (dk_at dksX1_runs_5 3 rfl rfl)
theorem dX1_runs_106 : decode cX1_runs 106 = .ok (.goto (-101), 3) := dk_167 255 155 (dk_at dksX1_runs_5 4 rfl rfl)
theorem dX1_runs_109 : decode cX1_runs 109 = .ok (.return_, 1) := dk_177 (dk_at dksX1_runs_5 7 rfl rfl)
abbrev cX1_takes : ByteArray := prog_2_method_2_code
def yX1_takes : MethodName := ⟨RX1, "takes", "(LSegmentedCache$Cache;)V"⟩
def dkwX1_takes_7 : List UInt8 := [192, 0, 91, 78, 42, 180, 0, 45, 45, 182, 0, 93, 167, 255, 229, 177]
abbrev dktX1_takes_7 : List UInt8 := dkwX1_takes_7 ++ []
def dkwX1_takes_6 : List UInt8 := [180, 0, 45, 182, 0, 77, 77, 44, 185, 0, 81, 1, 0, 153, 0, 24, 44, 185, 0, 87, 1, 0]
abbrev dktX1_takes_6 : List UInt8 := dkwX1_takes_6 ++ dktX1_takes_7
def dkwX1_takes_5 : List UInt8 := [182, 0, 70, 42, 180, 0, 39, 43, 180, 0, 39, 182, 0, 70, 42, 180, 0, 45, 182, 0, 74, 43]
abbrev dktX1_takes_5 : List UInt8 := dkwX1_takes_5 ++ dktX1_takes_6
def dkwX1_takes_4 : List UInt8 := [182, 0, 70, 42, 180, 0, 33, 43, 180, 0, 33, 182, 0, 70, 42, 180, 0, 36, 43, 180, 0, 36]
abbrev dktX1_takes_4 : List UInt8 := dkwX1_takes_4 ++ dktX1_takes_5
def dkwX1_takes_3 : List UInt8 := [42, 43, 180, 0, 64, 181, 0, 64, 42, 43, 180, 0, 67, 181, 0, 67, 42, 180, 0, 29, 43, 180, 0, 29]
abbrev dktX1_takes_3 : List UInt8 := dkwX1_takes_3 ++ dktX1_takes_4
def dkwX1_takes_2 : List UInt8 := [42, 43, 180, 0, 55, 181, 0, 55, 42, 43, 180, 0, 58, 181, 0, 58, 42, 43, 180, 0, 61, 181, 0, 61]
abbrev dktX1_takes_2 : List UInt8 := dkwX1_takes_2 ++ dktX1_takes_3
def dkwX1_takes_1 : List UInt8 := [42, 43, 180, 0, 21, 181, 0, 21, 42, 43, 180, 0, 49, 181, 0, 49, 42, 43, 180, 0, 52, 181, 0, 52]
abbrev dktX1_takes_1 : List UInt8 := dkwX1_takes_1 ++ dktX1_takes_2
def dkwX1_takes_0 : List UInt8 := [42, 43, 180, 0, 9, 181, 0, 9, 42, 43, 180, 0, 15, 181, 0, 15, 42, 43, 180, 0, 18, 181, 0, 18]
abbrev dktX1_takes_0 : List UInt8 := dkwX1_takes_0 ++ dktX1_takes_1
theorem dksX1_takes_0 : cX1_takes.data.toList.drop 0 = dktX1_takes_0 := by decide +kernel
theorem dksX1_takes_1 : cX1_takes.data.toList.drop 24 = dktX1_takes_1 := dk_seg dksX1_takes_0 24 rfl rfl
theorem dksX1_takes_2 : cX1_takes.data.toList.drop 48 = dktX1_takes_2 := dk_seg dksX1_takes_1 24 rfl rfl
theorem dksX1_takes_3 : cX1_takes.data.toList.drop 72 = dktX1_takes_3 := dk_seg dksX1_takes_2 24 rfl rfl
theorem dksX1_takes_4 : cX1_takes.data.toList.drop 96 = dktX1_takes_4 := dk_seg dksX1_takes_3 24 rfl rfl
theorem dksX1_takes_5 : cX1_takes.data.toList.drop 118 = dktX1_takes_5 := dk_seg dksX1_takes_4 22 rfl rfl
theorem dksX1_takes_6 : cX1_takes.data.toList.drop 140 = dktX1_takes_6 := dk_seg dksX1_takes_5 22 rfl rfl
theorem dksX1_takes_7 : cX1_takes.data.toList.drop 162 = dktX1_takes_7 := dk_seg dksX1_takes_6 22 rfl rfl
theorem dX1_takes_0 : decode cX1_takes 0 = .ok (.aload_n 0, 1) := dk_42 (dk_at dksX1_takes_0 0 rfl rfl)
theorem dX1_takes_1 : decode cX1_takes 1 = .ok (.aload_n 1, 1) := dk_43 (dk_at dksX1_takes_0 1 rfl rfl)
theorem dX1_takes_2 : decode cX1_takes 2 = .ok (.getfield 9, 3) := dk_180 0 9 (dk_at dksX1_takes_0 2 rfl rfl)
theorem dX1_takes_5 : decode cX1_takes 5 = .ok (.putfield 9, 3) := dk_181 0 9 (dk_at dksX1_takes_0 5 rfl rfl)
theorem dX1_takes_8 : decode cX1_takes 8 = .ok (.aload_n 0, 1) := dk_42 (dk_at dksX1_takes_0 8 rfl rfl)
theorem dX1_takes_9 : decode cX1_takes 9 = .ok (.aload_n 1, 1) := dk_43 (dk_at dksX1_takes_0 9 rfl rfl)
theorem dX1_takes_10 : decode cX1_takes 10 = .ok (.getfield 15, 3) := dk_180 0 15 (dk_at dksX1_takes_0 10 rfl rfl)
theorem dX1_takes_13 : decode cX1_takes 13 = .ok (.putfield 15, 3) := dk_181 0 15 (dk_at dksX1_takes_0 13 rfl rfl)
theorem dX1_takes_16 : decode cX1_takes 16 = .ok (.aload_n 0, 1) := dk_42 (dk_at dksX1_takes_0 16 rfl rfl)
theorem dX1_takes_17 : decode cX1_takes 17 = .ok (.aload_n 1, 1) := dk_43 (dk_at dksX1_takes_0 17 rfl rfl)
theorem dX1_takes_18 : decode cX1_takes 18 = .ok (.getfield 18, 3) := dk_180 0 18 (dk_at dksX1_takes_0 18 rfl rfl)
theorem dX1_takes_21 : decode cX1_takes 21 = .ok (.putfield 18, 3) := dk_181 0 18 (dk_at dksX1_takes_0 21 rfl rfl)
theorem dX1_takes_24 : decode cX1_takes 24 = .ok (.aload_n 0, 1) := dk_42 (dk_at dksX1_takes_1 0 rfl rfl)
theorem dX1_takes_25 : decode cX1_takes 25 = .ok (.aload_n 1, 1) := dk_43 (dk_at dksX1_takes_1 1 rfl rfl)
theorem dX1_takes_26 : decode cX1_takes 26 = .ok (.getfield 21, 3) := dk_180 0 21 (dk_at dksX1_takes_1 2 rfl rfl)
theorem dX1_takes_29 : decode cX1_takes 29 = .ok (.putfield 21, 3) := dk_181 0 21 (dk_at dksX1_takes_1 5 rfl rfl)
theorem dX1_takes_32 : decode cX1_takes 32 = .ok (.aload_n 0, 1) := dk_42 (dk_at dksX1_takes_1 8 rfl rfl)
theorem dX1_takes_33 : decode cX1_takes 33 = .ok (.aload_n 1, 1) := dk_43 (dk_at dksX1_takes_1 9 rfl rfl)
theorem dX1_takes_34 : decode cX1_takes 34 = .ok (.getfield 49, 3) := dk_180 0 49 (dk_at dksX1_takes_1 10 rfl rfl)
theorem dX1_takes_37 : decode cX1_takes 37 = .ok (.putfield 49, 3) := dk_181 0 49 (dk_at dksX1_takes_1 13 rfl rfl)
theorem dX1_takes_40 : decode cX1_takes 40 = .ok (.aload_n 0, 1) := dk_42 (dk_at dksX1_takes_1 16 rfl rfl)
theorem dX1_takes_41 : decode cX1_takes 41 = .ok (.aload_n 1, 1) := dk_43 (dk_at dksX1_takes_1 17 rfl rfl)
theorem dX1_takes_42 : decode cX1_takes 42 = .ok (.getfield 52, 3) := dk_180 0 52 (dk_at dksX1_takes_1 18 rfl rfl)
theorem dX1_takes_45 : decode cX1_takes 45 = .ok (.putfield 52, 3) := dk_181 0 52 (dk_at dksX1_takes_1 21 rfl rfl)
theorem dX1_takes_48 : decode cX1_takes 48 = .ok (.aload_n 0, 1) := dk_42 (dk_at dksX1_takes_2 0 rfl rfl)
theorem dX1_takes_49 : decode cX1_takes 49 = .ok (.aload_n 1, 1) := dk_43 (dk_at dksX1_takes_2 1 rfl rfl)
theorem dX1_takes_50 : decode cX1_takes 50 = .ok (.getfield 55, 3) := dk_180 0 55 (dk_at dksX1_takes_2 2 rfl rfl)
theorem dX1_takes_53 : decode cX1_takes 53 = .ok (.putfield 55, 3) := dk_181 0 55 (dk_at dksX1_takes_2 5 rfl rfl)
theorem dX1_takes_56 : decode cX1_takes 56 = .ok (.aload_n 0, 1) := dk_42 (dk_at dksX1_takes_2 8 rfl rfl)
theorem dX1_takes_57 : decode cX1_takes 57 = .ok (.aload_n 1, 1) := dk_43 (dk_at dksX1_takes_2 9 rfl rfl)
theorem dX1_takes_58 : decode cX1_takes 58 = .ok (.getfield 58, 3) := dk_180 0 58 (dk_at dksX1_takes_2 10 rfl rfl)
theorem dX1_takes_61 : decode cX1_takes 61 = .ok (.putfield 58, 3) := dk_181 0 58 (dk_at dksX1_takes_2 13 rfl rfl)
theorem dX1_takes_64 : decode cX1_takes 64 = .ok (.aload_n 0, 1) := dk_42 (dk_at dksX1_takes_2 16 rfl rfl)
theorem dX1_takes_65 : decode cX1_takes 65 = .ok (.aload_n 1, 1) := dk_43 (dk_at dksX1_takes_2 17 rfl rfl)
theorem dX1_takes_66 : decode cX1_takes 66 = .ok (.getfield 61, 3) := dk_180 0 61 (dk_at dksX1_takes_2 18 rfl rfl)
theorem dX1_takes_69 : decode cX1_takes 69 = .ok (.putfield 61, 3) := dk_181 0 61 (dk_at dksX1_takes_2 21 rfl rfl)
theorem dX1_takes_72 : decode cX1_takes 72 = .ok (.aload_n 0, 1) := dk_42 (dk_at dksX1_takes_3 0 rfl rfl)
theorem dX1_takes_73 : decode cX1_takes 73 = .ok (.aload_n 1, 1) := dk_43 (dk_at dksX1_takes_3 1 rfl rfl)
theorem dX1_takes_74 : decode cX1_takes 74 = .ok (.getfield 64, 3) := dk_180 0 64 (dk_at dksX1_takes_3 2 rfl rfl)
theorem dX1_takes_77 : decode cX1_takes 77 = .ok (.putfield 64, 3) := dk_181 0 64 (dk_at dksX1_takes_3 5 rfl rfl)
theorem dX1_takes_80 : decode cX1_takes 80 = .ok (.aload_n 0, 1) := dk_42 (dk_at dksX1_takes_3 8 rfl rfl)
theorem dX1_takes_81 : decode cX1_takes 81 = .ok (.aload_n 1, 1) := dk_43 (dk_at dksX1_takes_3 9 rfl rfl)
theorem dX1_takes_82 : decode cX1_takes 82 = .ok (.getfield 67, 3) := dk_180 0 67 (dk_at dksX1_takes_3 10 rfl rfl)
theorem dX1_takes_85 : decode cX1_takes 85 = .ok (.putfield 67, 3) := dk_181 0 67 (dk_at dksX1_takes_3 13 rfl rfl)
theorem dX1_takes_88 : decode cX1_takes 88 = .ok (.aload_n 0, 1) := dk_42 (dk_at dksX1_takes_3 16 rfl rfl)
theorem dX1_takes_89 : decode cX1_takes 89 = .ok (.getfield 29, 3) := dk_180 0 29 (dk_at dksX1_takes_3 17 rfl rfl)
theorem dX1_takes_92 : decode cX1_takes 92 = .ok (.aload_n 1, 1) := dk_43 (dk_at dksX1_takes_3 20 rfl rfl)
theorem dX1_takes_93 : decode cX1_takes 93 = .ok (.getfield 29, 3) := dk_180 0 29 (dk_at dksX1_takes_3 21 rfl rfl)
theorem dX1_takes_96 : decode cX1_takes 96 = .ok (.invokevirtual 70, 3) := dk_182 0 70 (dk_at dksX1_takes_4 0 rfl rfl)
theorem dX1_takes_99 : decode cX1_takes 99 = .ok (.aload_n 0, 1) := dk_42 (dk_at dksX1_takes_4 3 rfl rfl)
theorem dX1_takes_100 : decode cX1_takes 100 = .ok (.getfield 33, 3) := dk_180 0 33 (dk_at dksX1_takes_4 4 rfl rfl)
theorem dX1_takes_103 : decode cX1_takes 103 = .ok (.aload_n 1, 1) := dk_43 (dk_at dksX1_takes_4 7 rfl rfl)
theorem dX1_takes_104 : decode cX1_takes 104 = .ok (.getfield 33, 3) := dk_180 0 33 (dk_at dksX1_takes_4 8 rfl rfl)
theorem dX1_takes_107 : decode cX1_takes 107 = .ok (.invokevirtual 70, 3) := dk_182 0 70 (dk_at dksX1_takes_4 11 rfl rfl)
theorem dX1_takes_110 : decode cX1_takes 110 = .ok (.aload_n 0, 1) := dk_42 (dk_at dksX1_takes_4 14 rfl rfl)
theorem dX1_takes_111 : decode cX1_takes 111 = .ok (.getfield 36, 3) := dk_180 0 36 (dk_at dksX1_takes_4 15 rfl rfl)
theorem dX1_takes_114 : decode cX1_takes 114 = .ok (.aload_n 1, 1) := dk_43 (dk_at dksX1_takes_4 18 rfl rfl)
theorem dX1_takes_115 : decode cX1_takes 115 = .ok (.getfield 36, 3) := dk_180 0 36 (dk_at dksX1_takes_4 19 rfl rfl)
theorem dX1_takes_118 : decode cX1_takes 118 = .ok (.invokevirtual 70, 3) := dk_182 0 70 (dk_at dksX1_takes_5 0 rfl rfl)
theorem dX1_takes_121 : decode cX1_takes 121 = .ok (.aload_n 0, 1) := dk_42 (dk_at dksX1_takes_5 3 rfl rfl)
theorem dX1_takes_122 : decode cX1_takes 122 = .ok (.getfield 39, 3) := dk_180 0 39 (dk_at dksX1_takes_5 4 rfl rfl)
theorem dX1_takes_125 : decode cX1_takes 125 = .ok (.aload_n 1, 1) := dk_43 (dk_at dksX1_takes_5 7 rfl rfl)
theorem dX1_takes_126 : decode cX1_takes 126 = .ok (.getfield 39, 3) := dk_180 0 39 (dk_at dksX1_takes_5 8 rfl rfl)
theorem dX1_takes_129 : decode cX1_takes 129 = .ok (.invokevirtual 70, 3) := dk_182 0 70 (dk_at dksX1_takes_5 11 rfl rfl)
theorem dX1_takes_132 : decode cX1_takes 132 = .ok (.aload_n 0, 1) := dk_42 (dk_at dksX1_takes_5 14 rfl rfl)
theorem dX1_takes_133 : decode cX1_takes 133 = .ok (.getfield 45, 3) := dk_180 0 45 (dk_at dksX1_takes_5 15 rfl rfl)
theorem dX1_takes_136 : decode cX1_takes 136 = .ok (.invokevirtual 74, 3) := dk_182 0 74 (dk_at dksX1_takes_5 18 rfl rfl)
theorem dX1_takes_139 : decode cX1_takes 139 = .ok (.aload_n 1, 1) := dk_43 (dk_at dksX1_takes_5 21 rfl rfl)
theorem dX1_takes_140 : decode cX1_takes 140 = .ok (.getfield 45, 3) := dk_180 0 45 (dk_at dksX1_takes_6 0 rfl rfl)
theorem dX1_takes_143 : decode cX1_takes 143 = .ok (.invokevirtual 77, 3) := dk_182 0 77 (dk_at dksX1_takes_6 3 rfl rfl)
theorem dX1_takes_146 : decode cX1_takes 146 = .ok (.astore_n 2, 1) := dk_77 (dk_at dksX1_takes_6 6 rfl rfl)
theorem dX1_takes_147 : decode cX1_takes 147 = .ok (.aload_n 2, 1) := dk_44 (dk_at dksX1_takes_6 7 rfl rfl)
theorem dX1_takes_148 : decode cX1_takes 148 = .ok (.invokeinterface 81 1, 5) := by decide +kernel
theorem dX1_takes_153 : decode cX1_takes 153 = .ok (.ifCond .eq 24, 3) := dk_153 0 24 (dk_at dksX1_takes_6 13 rfl rfl)
theorem dX1_takes_156 : decode cX1_takes 156 = .ok (.aload_n 2, 1) := dk_44 (dk_at dksX1_takes_6 16 rfl rfl)
theorem dX1_takes_157 : decode cX1_takes 157 = .ok (.invokeinterface 87 1, 5) := by decide +kernel
theorem dX1_takes_162 : decode cX1_takes 162 = .ok (.checkcast 91, 3) := dk_192 0 91 (dk_at dksX1_takes_7 0 rfl rfl)
theorem dX1_takes_165 : decode cX1_takes 165 = .ok (.astore_n 3, 1) := dk_78 (dk_at dksX1_takes_7 3 rfl rfl)
theorem dX1_takes_166 : decode cX1_takes 166 = .ok (.aload_n 0, 1) := dk_42 (dk_at dksX1_takes_7 4 rfl rfl)
theorem dX1_takes_167 : decode cX1_takes 167 = .ok (.getfield 45, 3) := dk_180 0 45 (dk_at dksX1_takes_7 5 rfl rfl)
theorem dX1_takes_170 : decode cX1_takes 170 = .ok (.aload_n 3, 1) := dk_45 (dk_at dksX1_takes_7 8 rfl rfl)
theorem dX1_takes_171 : decode cX1_takes 171 = .ok (.invokevirtual 93, 3) := dk_182 0 93 (dk_at dksX1_takes_7 9 rfl rfl)
theorem dX1_takes_174 : decode cX1_takes 174 = .ok (.goto (-27), 3) := dk_167 255 229 (dk_at dksX1_takes_7 12 rfl rfl)
theorem dX1_takes_177 : decode cX1_takes 177 = .ok (.return_, 1) := dk_177 (dk_at dksX1_takes_7 15 rfl rfl)
theorem q70 : (Jvm.Cond.initialized "SegmentedCache$Cache") ∈ lw_all := lw_g (lw_at lw_m1 2 rfl) rfl
theorem q141 : (Jvm.Cond.instantiable "SegmentedCache$Cache" (16 : Nat)) ∈ lw_all := lw_g (lw_at lw_m1 73 rfl) rfl
theorem q143 : (Jvm.Cond.instanceMethod ({ cls := "SegmentedCache$Cache", name := "<init>", desc := "()V" } : Jvm.MethodName)) ∈ lw_all := lw_g (lw_at lw_m1 75 rfl) rfl
theorem q144 : (Jvm.Cond.code ({ cls := "SegmentedCache$Cache", name := "<init>", desc := "()V" } : Jvm.MethodName) prog_2_method_1_code (1 : Nat) (Option.none : Option Jvm.ClassFile.FieldType)) ∈ lw_all := lw_g (lw_at lw_m1 76 rfl) rfl
theorem q145 : (Jvm.Cond.methodLink "SegmentedCache$Cache" (3 : Nat) ({ cls := "java/lang/Object", name := "<init>", desc := "()V" } : Jvm.MethodName)) ∈ lw_all := lw_g (lw_at lw_m1 77 rfl) rfl
theorem q146 : (Jvm.Cond.classLink "SegmentedCache$Cache" (24 : Nat) "SegmentedCache$Cache$Queue") ∈ lw_all := lw_g (lw_at lw_m1 78 rfl) rfl
theorem q148 : (Jvm.Cond.methodLinkNest "SegmentedCache$Cache" (26 : Nat) ({ cls := "SegmentedCache$Cache$Queue", name := "<init>", desc := "(LSegmentedCache$Cache;)V" } : Jvm.MethodName) "SegmentedCache") ∈ lw_tbl := lw_at lw_m1 80 rfl
theorem q212 : (Jvm.Cond.fieldLinkNest "SegmentedCache$Cache" (101 : Nat) "SegmentedCache$Cache$Queue" "things" "Ljava/util/LinkedHashMap;" "SegmentedCache") ∈ lw_tbl := lw_at lw_m1 144 rfl
theorem q216 : (Jvm.Cond.fieldLinkNest "SegmentedCache$Cache" (157 : Nat) "SegmentedCache$Cache$Queue" "weight" "I" "SegmentedCache") ∈ lw_tbl := lw_at lw_m1 148 rfl
theorem q225 : (Jvm.Cond.classLink "SegmentedCache$Cache" (42 : Nat) "java/util/ArrayDeque") ∈ lw_all := lw_g (lw_at lw_m1 157 rfl) rfl
theorem q227 : (Jvm.Cond.methodLink "SegmentedCache$Cache" (44 : Nat) ({ cls := "java/util/ArrayDeque", name := "<init>", desc := "()V" } : Jvm.MethodName)) ∈ lw_all := lw_g (lw_at lw_m1 159 rfl) rfl
theorem q248 : (Jvm.Cond.fieldLink "SegmentedCache$Cache" (9 : Nat) "SegmentedCache$Cache" "capacity" "I") ∈ lw_all := lw_g (lw_at lw_m1 180 rfl) rfl
theorem q251 : (Jvm.Cond.fieldLink "SegmentedCache$Cache" (15 : Nat) "SegmentedCache$Cache" "border" "I") ∈ lw_all := lw_g (lw_at lw_m1 183 rfl) rfl
theorem q254 : (Jvm.Cond.fieldLink "SegmentedCache$Cache" (18 : Nat) "SegmentedCache$Cache" "rise" "I") ∈ lw_all := lw_g (lw_at lw_m1 186 rfl) rfl
theorem q257 : (Jvm.Cond.fieldLink "SegmentedCache$Cache" (21 : Nat) "SegmentedCache$Cache" "lives" "I") ∈ lw_all := lw_g (lw_at lw_m1 189 rfl) rfl
theorem q260 : (Jvm.Cond.fieldLink "SegmentedCache$Cache" (49 : Nat) "SegmentedCache$Cache" "had" "I") ∈ lw_all := lw_g (lw_at lw_m1 192 rfl) rfl
theorem q262 : (Jvm.Cond.fieldLink "SegmentedCache$Cache" (52 : Nat) "SegmentedCache$Cache" "missed" "I") ∈ lw_all := lw_g (lw_at lw_m1 194 rfl) rfl
theorem q264 : (Jvm.Cond.fieldLink "SegmentedCache$Cache" (55 : Nat) "SegmentedCache$Cache" "haunted" "I") ∈ lw_all := lw_g (lw_at lw_m1 196 rfl) rfl
theorem q266 : (Jvm.Cond.fieldLink "SegmentedCache$Cache" (58 : Nat) "SegmentedCache$Cache" "saved" "I") ∈ lw_all := lw_g (lw_at lw_m1 198 rfl) rfl
theorem q268 : (Jvm.Cond.fieldLink "SegmentedCache$Cache" (61 : Nat) "SegmentedCache$Cache" "paid" "I") ∈ lw_all := lw_g (lw_at lw_m1 200 rfl) rfl
theorem q270 : (Jvm.Cond.fieldLink "SegmentedCache$Cache" (64 : Nat) "SegmentedCache$Cache" "went" "I") ∈ lw_all := lw_g (lw_at lw_m1 202 rfl) rfl
theorem q272 : (Jvm.Cond.fieldLink "SegmentedCache$Cache" (29 : Nat) "SegmentedCache$Cache" "probation" "LSegmentedCache$Cache$Queue;") ∈ lw_all := lw_g (lw_at lw_m1 204 rfl) rfl
theorem q275 : (Jvm.Cond.fieldLink "SegmentedCache$Cache" (33 : Nat) "SegmentedCache$Cache" "guarded" "LSegmentedCache$Cache$Queue;") ∈ lw_all := lw_g (lw_at lw_m1 207 rfl) rfl
theorem q278 : (Jvm.Cond.fieldLink "SegmentedCache$Cache" (36 : Nat) "SegmentedCache$Cache" "ghosts" "LSegmentedCache$Cache$Queue;") ∈ lw_all := lw_g (lw_at lw_m1 210 rfl) rfl
theorem q279 : (Jvm.Cond.fieldLink "SegmentedCache$Cache" (39 : Nat) "SegmentedCache$Cache" "ghostsToo" "LSegmentedCache$Cache$Queue;") ∈ lw_all := lw_g (lw_at lw_m1 211 rfl) rfl
theorem q280 : (Jvm.Cond.fieldLink "SegmentedCache$Cache" (45 : Nat) "SegmentedCache$Cache" "gone" "Ljava/util/ArrayDeque;") ∈ lw_all := lw_g (lw_at lw_m1 212 rfl) rfl
theorem q282 : (Jvm.Cond.fieldLink "SegmentedCache$Cache" (67 : Nat) "SegmentedCache$Cache" "both" "I") ∈ lw_all := lw_g (lw_at lw_m1 214 rfl) rfl
theorem q284 : (Jvm.Cond.lays "SegmentedCache$Cache" "SegmentedCache$Cache" "capacity" "I") ∈ lw_all := lw_g (lw_at lw_m1 216 rfl) rfl
theorem q285 : (Jvm.Cond.soleField "SegmentedCache$Cache" "capacity") ∈ lw_all := lw_g (lw_at lw_m1 217 rfl) rfl
theorem q286 : (Jvm.Cond.lays "SegmentedCache$Cache" "SegmentedCache$Cache" "border" "I") ∈ lw_all := lw_g (lw_at lw_m1 218 rfl) rfl
theorem q287 : (Jvm.Cond.soleField "SegmentedCache$Cache" "border") ∈ lw_all := lw_g (lw_at lw_m1 219 rfl) rfl
theorem q288 : (Jvm.Cond.lays "SegmentedCache$Cache" "SegmentedCache$Cache" "rise" "I") ∈ lw_all := lw_g (lw_at lw_m1 220 rfl) rfl
theorem q289 : (Jvm.Cond.soleField "SegmentedCache$Cache" "rise") ∈ lw_all := lw_g (lw_at lw_m1 221 rfl) rfl
theorem q290 : (Jvm.Cond.lays "SegmentedCache$Cache" "SegmentedCache$Cache" "lives" "I") ∈ lw_all := lw_g (lw_at lw_m1 222 rfl) rfl
theorem q291 : (Jvm.Cond.soleField "SegmentedCache$Cache" "lives") ∈ lw_all := lw_g (lw_at lw_m1 223 rfl) rfl
theorem q292 : (Jvm.Cond.lays "SegmentedCache$Cache" "SegmentedCache$Cache" "had" "I") ∈ lw_all := lw_g (lw_at lw_m1 224 rfl) rfl
theorem q293 : (Jvm.Cond.soleField "SegmentedCache$Cache" "had") ∈ lw_all := lw_g (lw_at lw_m1 225 rfl) rfl
theorem q294 : (Jvm.Cond.lays "SegmentedCache$Cache" "SegmentedCache$Cache" "missed" "I") ∈ lw_all := lw_g (lw_at lw_m1 226 rfl) rfl
theorem q295 : (Jvm.Cond.soleField "SegmentedCache$Cache" "missed") ∈ lw_all := lw_g (lw_at lw_m1 227 rfl) rfl
theorem q296 : (Jvm.Cond.lays "SegmentedCache$Cache" "SegmentedCache$Cache" "haunted" "I") ∈ lw_all := lw_g (lw_at lw_m1 228 rfl) rfl
theorem q297 : (Jvm.Cond.soleField "SegmentedCache$Cache" "haunted") ∈ lw_all := lw_g (lw_at lw_m1 229 rfl) rfl
theorem q298 : (Jvm.Cond.lays "SegmentedCache$Cache" "SegmentedCache$Cache" "saved" "I") ∈ lw_all := lw_g (lw_at lw_m1 230 rfl) rfl
theorem q299 : (Jvm.Cond.soleField "SegmentedCache$Cache" "saved") ∈ lw_all := lw_g (lw_at lw_m1 231 rfl) rfl
theorem q300 : (Jvm.Cond.lays "SegmentedCache$Cache" "SegmentedCache$Cache" "paid" "I") ∈ lw_all := lw_g (lw_at lw_m1 232 rfl) rfl
theorem q301 : (Jvm.Cond.soleField "SegmentedCache$Cache" "paid") ∈ lw_all := lw_g (lw_at lw_m1 233 rfl) rfl
theorem q302 : (Jvm.Cond.lays "SegmentedCache$Cache" "SegmentedCache$Cache" "went" "I") ∈ lw_all := lw_g (lw_at lw_m1 234 rfl) rfl
theorem q303 : (Jvm.Cond.soleField "SegmentedCache$Cache" "went") ∈ lw_all := lw_g (lw_at lw_m1 235 rfl) rfl
theorem q304 : (Jvm.Cond.laysFinal "SegmentedCache$Cache" "SegmentedCache$Cache" "probation" "LSegmentedCache$Cache$Queue;") ∈ lw_all := lw_g (lw_at lw_m1 236 rfl) rfl
theorem q305 : (Jvm.Cond.soleField "SegmentedCache$Cache" "probation") ∈ lw_all := lw_g (lw_at lw_m1 237 rfl) rfl
theorem q306 : (Jvm.Cond.laysFinal "SegmentedCache$Cache" "SegmentedCache$Cache" "guarded" "LSegmentedCache$Cache$Queue;") ∈ lw_all := lw_g (lw_at lw_m1 238 rfl) rfl
theorem q307 : (Jvm.Cond.soleField "SegmentedCache$Cache" "guarded") ∈ lw_all := lw_g (lw_at lw_m1 239 rfl) rfl
theorem q308 : (Jvm.Cond.laysFinal "SegmentedCache$Cache" "SegmentedCache$Cache" "ghosts" "LSegmentedCache$Cache$Queue;") ∈ lw_all := lw_g (lw_at lw_m2 0 rfl) rfl
theorem q309 : (Jvm.Cond.soleField "SegmentedCache$Cache" "ghosts") ∈ lw_all := lw_g (lw_at lw_m2 1 rfl) rfl
theorem q310 : (Jvm.Cond.laysFinal "SegmentedCache$Cache" "SegmentedCache$Cache" "ghostsToo" "LSegmentedCache$Cache$Queue;") ∈ lw_all := lw_g (lw_at lw_m2 2 rfl) rfl
theorem q311 : (Jvm.Cond.soleField "SegmentedCache$Cache" "ghostsToo") ∈ lw_all := lw_g (lw_at lw_m2 3 rfl) rfl
theorem q312 : (Jvm.Cond.laysFinal "SegmentedCache$Cache" "SegmentedCache$Cache" "gone" "Ljava/util/ArrayDeque;") ∈ lw_all := lw_g (lw_at lw_m2 4 rfl) rfl
theorem q313 : (Jvm.Cond.soleField "SegmentedCache$Cache" "gone") ∈ lw_all := lw_g (lw_at lw_m2 5 rfl) rfl
theorem q314 : (Jvm.Cond.lays "SegmentedCache$Cache" "SegmentedCache$Cache" "both" "I") ∈ lw_all := lw_g (lw_at lw_m2 6 rfl) rfl
theorem q315 : (Jvm.Cond.soleField "SegmentedCache$Cache" "both") ∈ lw_all := lw_g (lw_at lw_m2 7 rfl) rfl
theorem q316 : (Jvm.Cond.superclass "SegmentedCache$Cache" "java/lang/Object") ∈ lw_all := lw_g (lw_at lw_m2 8 rfl) rfl
theorem q497 : (Jvm.Cond.instanceMethod ({ cls := "SegmentedCache$Cache", name := "trims", desc := "()V" } : Jvm.MethodName)) ∈ lw_all := lw_g (lw_at lw_m2 189 rfl) rfl
theorem q498 : (Jvm.Cond.selects "SegmentedCache$Cache" ({ cls := "SegmentedCache$Cache", name := "trims", desc := "()V" } : Jvm.MethodName) ({ cls := "SegmentedCache$Cache", name := "trims", desc := "()V" } : Jvm.MethodName)) ∈ lw_all := lw_g (lw_at lw_m2 190 rfl) rfl
theorem q499 : (Jvm.Cond.code ({ cls := "SegmentedCache$Cache", name := "trims", desc := "()V" } : Jvm.MethodName) prog_2_method_10_code (2 : Nat) (Option.none : Option Jvm.ClassFile.FieldType)) ∈ lw_all := lw_g (lw_at lw_m2 191 rfl) rfl
theorem q500 : (Jvm.Cond.methodLink "SegmentedCache$Cache" (158 : Nat) ({ cls := "SegmentedCache$Cache", name := "falls", desc := "()Z" } : Jvm.MethodName)) ∈ lw_all := lw_g (lw_at lw_m2 192 rfl) rfl
theorem q501 : (Jvm.Cond.privateMethod ({ cls := "SegmentedCache$Cache", name := "falls", desc := "()Z" } : Jvm.MethodName)) ∈ lw_tbl := lw_at lw_m2 193 rfl
theorem q502 : (Jvm.Cond.instanceMethod ({ cls := "SegmentedCache$Cache", name := "falls", desc := "()Z" } : Jvm.MethodName)) ∈ lw_all := lw_g (lw_at lw_m2 194 rfl) rfl
theorem q503 : (Jvm.Cond.code ({ cls := "SegmentedCache$Cache", name := "falls", desc := "()Z" } : Jvm.MethodName) prog_2_method_8_code (2 : Nat) (Option.some Jvm.ClassFile.FieldType.boolean)) ∈ lw_all := lw_g (lw_at lw_m2 195 rfl) rfl
theorem q504 : (Jvm.Cond.methodLink "SegmentedCache$Cache" (133 : Nat) ({ cls := "SegmentedCache$Cache$Queue", name := "oldest", desc := "()LSegmentedCache$Going;" } : Jvm.MethodName)) ∈ lw_all := lw_g (lw_at lw_m2 196 rfl) rfl
theorem q1046 : (Jvm.Cond.selects "SegmentedCache$Cache" ({ cls := "java/lang/Object", name := "getClass", desc := "()Ljava/lang/Class;" } : Jvm.MethodName) ({ cls := "java/lang/Object", name := "getClass", desc := "()Ljava/lang/Class;" } : Jvm.MethodName)) ∈ lw_all := lw_g (lw_at lw_m5 18 rfl) rfl
theorem q1223 : (Jvm.Cond.fieldLinkNest "SegmentedCache$Cache" (146 : Nat) "SegmentedCache$Going" "key" "LSegmentedCache$Key;" "SegmentedCache") ∈ lw_tbl := lw_at lw_m5 195 rfl
theorem q1225 : (Jvm.Cond.fieldLinkNest "SegmentedCache$Cache" (137 : Nat) "SegmentedCache$Going" "thing" "LSegmentedCache$Thing;" "SegmentedCache") ∈ lw_tbl := lw_at lw_m5 197 rfl
theorem q1318 : (Jvm.Cond.selects "SegmentedCache$Cache" ({ cls := "java/lang/Object", name := "equals", desc := "(Ljava/lang/Object;)Z" } : Jvm.MethodName) ({ cls := "java/lang/Object", name := "equals", desc := "(Ljava/lang/Object;)Z" } : Jvm.MethodName)) ∈ lw_all := lw_g (lw_at lw_m6 50 rfl) rfl
theorem q1666 : (Jvm.Cond.methodLink "SegmentedCache$Cache" (119 : Nat) ({ cls := "SegmentedCache$Cache$Queue", name := "adds", desc := "(LSegmentedCache$Key;LSegmentedCache$Thing;)V" } : Jvm.MethodName)) ∈ lw_all := lw_g (lw_at lw_m7 158 rfl) rfl
theorem q1684 : (Jvm.Cond.selects "SegmentedCache$Cache" ({ cls := "java/lang/Object", name := "hashCode", desc := "()I" } : Jvm.MethodName) ({ cls := "java/lang/Object", name := "hashCode", desc := "()I" } : Jvm.MethodName)) ∈ lw_all := lw_g (lw_at lw_m7 176 rfl) rfl
theorem q1868 : (Jvm.Cond.methodLink "SegmentedCache$Cache" (161 : Nat) ({ cls := "SegmentedCache$Cache", name := "goesFromProbation", desc := "()Z" } : Jvm.MethodName)) ∈ lw_all := lw_g (lw_at lw_m8 120 rfl) rfl
theorem q1869 : (Jvm.Cond.privateMethod ({ cls := "SegmentedCache$Cache", name := "goesFromProbation", desc := "()Z" } : Jvm.MethodName)) ∈ lw_tbl := lw_at lw_m8 121 rfl
theorem q1870 : (Jvm.Cond.instanceMethod ({ cls := "SegmentedCache$Cache", name := "goesFromProbation", desc := "()Z" } : Jvm.MethodName)) ∈ lw_all := lw_g (lw_at lw_m8 122 rfl) rfl
theorem q1871 : (Jvm.Cond.code ({ cls := "SegmentedCache$Cache", name := "goesFromProbation", desc := "()Z" } : Jvm.MethodName) prog_2_method_6_code (3 : Nat) (Option.some Jvm.ClassFile.FieldType.boolean)) ∈ lw_all := lw_g (lw_at lw_m8 123 rfl) rfl
theorem q1872 : (Jvm.Cond.methodLink "SegmentedCache$Cache" (150 : Nat) ({ cls := "SegmentedCache$Cache", name := "goes", desc := "(LSegmentedCache$Key;LSegmentedCache$Thing;LSegmentedCache$Cache$Queue;)V" } : Jvm.MethodName)) ∈ lw_all := lw_g (lw_at lw_m8 124 rfl) rfl
theorem q1873 : (Jvm.Cond.privateMethod ({ cls := "SegmentedCache$Cache", name := "goes", desc := "(LSegmentedCache$Key;LSegmentedCache$Thing;LSegmentedCache$Cache$Queue;)V" } : Jvm.MethodName)) ∈ lw_tbl := lw_at lw_m8 125 rfl
theorem q1874 : (Jvm.Cond.instanceMethod ({ cls := "SegmentedCache$Cache", name := "goes", desc := "(LSegmentedCache$Key;LSegmentedCache$Thing;LSegmentedCache$Cache$Queue;)V" } : Jvm.MethodName)) ∈ lw_all := lw_g (lw_at lw_m8 126 rfl) rfl
theorem q1875 : (Jvm.Cond.code ({ cls := "SegmentedCache$Cache", name := "goes", desc := "(LSegmentedCache$Key;LSegmentedCache$Thing;LSegmentedCache$Cache$Queue;)V" } : Jvm.MethodName) prog_2_method_5_code (4 : Nat) (Option.none : Option Jvm.ClassFile.FieldType)) ∈ lw_all := lw_g (lw_at lw_m8 127 rfl) rfl
theorem q1876 : (Jvm.Cond.classLink "SegmentedCache$Cache" (111 : Nat) "SegmentedCache$Thing") ∈ lw_all := lw_g (lw_at lw_m8 128 rfl) rfl
theorem q1878 : (Jvm.Cond.methodLink "SegmentedCache$Cache" (116 : Nat) ({ cls := "SegmentedCache$Thing", name := "<init>", desc := "(I)V" } : Jvm.MethodName)) ∈ lw_all := lw_g (lw_at lw_m8 130 rfl) rfl
theorem q1887 : (Jvm.Cond.fieldLinkNest "SegmentedCache$Cache" (185 : Nat) "SegmentedCache$Thing" "value" "I" "SegmentedCache") ∈ lw_tbl := lw_at lw_m8 139 rfl
theorem q1891 : (Jvm.Cond.fieldLinkNest "SegmentedCache$Cache" (113 : Nat) "SegmentedCache$Thing" "weight" "I" "SegmentedCache") ∈ lw_tbl := lw_at lw_m8 143 rfl
theorem q1895 : (Jvm.Cond.fieldLinkNest "SegmentedCache$Cache" (188 : Nat) "SegmentedCache$Thing" "cost" "I" "SegmentedCache") ∈ lw_tbl := lw_at lw_m8 147 rfl
theorem q1898 : (Jvm.Cond.fieldLinkNest "SegmentedCache$Cache" (154 : Nat) "SegmentedCache$Thing" "hits" "I" "SegmentedCache") ∈ lw_tbl := lw_at lw_m8 150 rfl
theorem q1902 : (Jvm.Cond.fieldLinkNest "SegmentedCache$Cache" (143 : Nat) "SegmentedCache$Thing" "chances" "I" "SegmentedCache") ∈ lw_tbl := lw_at lw_m8 154 rfl
theorem q1921 : (Jvm.Cond.methodLink "SegmentedCache$Cache" (123 : Nat) ({ cls := "java/util/ArrayDeque", name := "addFirst", desc := "(Ljava/lang/Object;)V" } : Jvm.MethodName)) ∈ lw_all := lw_g (lw_at lw_m8 173 rfl) rfl
theorem q1963 : (Jvm.Cond.methodLink "SegmentedCache$Cache" (126 : Nat) ({ cls := "java/util/ArrayDeque", name := "size", desc := "()I" } : Jvm.MethodName)) ∈ lw_all := lw_g (lw_at lw_m8 215 rfl) rfl
theorem q1967 : (Jvm.Cond.methodLink "SegmentedCache$Cache" (130 : Nat) ({ cls := "java/util/ArrayDeque", name := "pollLast", desc := "()Ljava/lang/Object;" } : Jvm.MethodName)) ∈ lw_all := lw_g (lw_at lw_m8 219 rfl) rfl
theorem q1974 : (Jvm.Cond.methodLink "SegmentedCache$Cache" (164 : Nat) ({ cls := "SegmentedCache$Cache", name := "goesFromProtected", desc := "()Z" } : Jvm.MethodName)) ∈ lw_all := lw_g (lw_at lw_m8 226 rfl) rfl
theorem q1975 : (Jvm.Cond.privateMethod ({ cls := "SegmentedCache$Cache", name := "goesFromProtected", desc := "()Z" } : Jvm.MethodName)) ∈ lw_tbl := lw_at lw_m8 227 rfl
theorem q1976 : (Jvm.Cond.instanceMethod ({ cls := "SegmentedCache$Cache", name := "goesFromProtected", desc := "()Z" } : Jvm.MethodName)) ∈ lw_all := lw_g (lw_at lw_m8 228 rfl) rfl
theorem q1977 : (Jvm.Cond.code ({ cls := "SegmentedCache$Cache", name := "goesFromProtected", desc := "()Z" } : Jvm.MethodName) prog_2_method_7_code (2 : Nat) (Option.some Jvm.ClassFile.FieldType.boolean)) ∈ lw_all := lw_g (lw_at lw_m8 229 rfl) rfl
theorem q1979 : (Jvm.Cond.methodLink "SegmentedCache$Cache" (167 : Nat) ({ cls := "SegmentedCache$Cache", name := "fades", desc := "([LSegmentedCache$Cache$Queue;)V" } : Jvm.MethodName)) ∈ lw_all := lw_g (lw_at lw_m8 231 rfl) rfl
theorem q1980 : (Jvm.Cond.privateMethod ({ cls := "SegmentedCache$Cache", name := "fades", desc := "([LSegmentedCache$Cache$Queue;)V" } : Jvm.MethodName)) ∈ lw_tbl := lw_at lw_m8 232 rfl
theorem q1981 : (Jvm.Cond.instanceMethod ({ cls := "SegmentedCache$Cache", name := "fades", desc := "([LSegmentedCache$Cache$Queue;)V" } : Jvm.MethodName)) ∈ lw_all := lw_g (lw_at lw_m8 233 rfl) rfl
theorem q1982 : (Jvm.Cond.code ({ cls := "SegmentedCache$Cache", name := "fades", desc := "([LSegmentedCache$Cache$Queue;)V" } : Jvm.MethodName) prog_2_method_9_code (3 : Nat) (Option.none : Option Jvm.ClassFile.FieldType)) ∈ lw_all := lw_g (lw_at lw_m8 234 rfl) rfl
theorem q1988 : (Jvm.Cond.instanceMethod ({ cls := "SegmentedCache$Cache", name := "queue", desc := "(I)LSegmentedCache$Cache$Queue;" } : Jvm.MethodName)) ∈ lw_all := lw_g (lw_at lw_m9 0 rfl) rfl
theorem q1989 : (Jvm.Cond.selects "SegmentedCache$Cache" ({ cls := "SegmentedCache$Cache", name := "queue", desc := "(I)LSegmentedCache$Cache$Queue;" } : Jvm.MethodName) ({ cls := "SegmentedCache$Cache", name := "queue", desc := "(I)LSegmentedCache$Cache$Queue;" } : Jvm.MethodName)) ∈ lw_all := lw_g (lw_at lw_m9 1 rfl) rfl
theorem q1990 : (Jvm.Cond.code ({ cls := "SegmentedCache$Cache", name := "queue", desc := "(I)LSegmentedCache$Cache$Queue;" } : Jvm.MethodName) prog_2_method_3_code (2 : Nat) (Option.some (Jvm.ClassFile.FieldType.object "SegmentedCache$Cache$Queue"))) ∈ lw_all := lw_g (lw_at lw_m9 2 rfl) rfl
theorem q2011 : (Jvm.Cond.instanceMethod ({ cls := "SegmentedCache$Cache", name := "puts", desc := "(LSegmentedCache$Key;III)I" } : Jvm.MethodName)) ∈ lw_all := lw_g (lw_at lw_m9 23 rfl) rfl
theorem q2012 : (Jvm.Cond.selects "SegmentedCache$Cache" ({ cls := "SegmentedCache$Cache", name := "puts", desc := "(LSegmentedCache$Key;III)I" } : Jvm.MethodName) ({ cls := "SegmentedCache$Cache", name := "puts", desc := "(LSegmentedCache$Key;III)I" } : Jvm.MethodName)) ∈ lw_all := lw_g (lw_at lw_m9 24 rfl) rfl
theorem q2013 : (Jvm.Cond.code ({ cls := "SegmentedCache$Cache", name := "puts", desc := "(LSegmentedCache$Key;III)I" } : Jvm.MethodName) prog_2_method_14_code (9 : Nat) (Option.some Jvm.ClassFile.FieldType.int)) ∈ lw_all := lw_g (lw_at lw_m9 25 rfl) rfl
theorem q2014 : (Jvm.Cond.methodLink "SegmentedCache$Cache" (200 : Nat) ({ cls := "SegmentedCache$Cache", name := "thing", desc := "(LSegmentedCache$Key;)LSegmentedCache$Thing;" } : Jvm.MethodName)) ∈ lw_all := lw_g (lw_at lw_m9 26 rfl) rfl
theorem q2015 : (Jvm.Cond.privateMethod ({ cls := "SegmentedCache$Cache", name := "thing", desc := "(LSegmentedCache$Key;)LSegmentedCache$Thing;" } : Jvm.MethodName)) ∈ lw_tbl := lw_at lw_m9 27 rfl
theorem q2016 : (Jvm.Cond.instanceMethod ({ cls := "SegmentedCache$Cache", name := "thing", desc := "(LSegmentedCache$Key;)LSegmentedCache$Thing;" } : Jvm.MethodName)) ∈ lw_all := lw_g (lw_at lw_m9 28 rfl) rfl
theorem q2017 : (Jvm.Cond.code ({ cls := "SegmentedCache$Cache", name := "thing", desc := "(LSegmentedCache$Key;)LSegmentedCache$Thing;" } : Jvm.MethodName) prog_2_method_12_code (3 : Nat) (Option.some (Jvm.ClassFile.FieldType.object "SegmentedCache$Thing"))) ∈ lw_all := lw_g (lw_at lw_m9 29 rfl) rfl
theorem q2018 : (Jvm.Cond.methodLink "SegmentedCache$Cache" (181 : Nat) ({ cls := "java/util/LinkedHashMap", name := "get", desc := "(Ljava/lang/Object;)Ljava/lang/Object;" } : Jvm.MethodName)) ∈ lw_all := lw_g (lw_at lw_m9 30 rfl) rfl
theorem q2029 : (Jvm.Cond.methodLink "SegmentedCache$Cache" (202 : Nat) ({ cls := "SegmentedCache$Cache", name := "changes", desc := "(LSegmentedCache$Key;LSegmentedCache$Thing;III)V" } : Jvm.MethodName)) ∈ lw_all := lw_g (lw_at lw_m9 41 rfl) rfl
theorem q2030 : (Jvm.Cond.privateMethod ({ cls := "SegmentedCache$Cache", name := "changes", desc := "(LSegmentedCache$Key;LSegmentedCache$Thing;III)V" } : Jvm.MethodName)) ∈ lw_tbl := lw_at lw_m9 42 rfl
theorem q2031 : (Jvm.Cond.instanceMethod ({ cls := "SegmentedCache$Cache", name := "changes", desc := "(LSegmentedCache$Key;LSegmentedCache$Thing;III)V" } : Jvm.MethodName)) ∈ lw_all := lw_g (lw_at lw_m9 43 rfl) rfl
theorem q2032 : (Jvm.Cond.code ({ cls := "SegmentedCache$Cache", name := "changes", desc := "(LSegmentedCache$Key;LSegmentedCache$Thing;III)V" } : Jvm.MethodName) prog_2_method_13_code (6 : Nat) (Option.none : Option Jvm.ClassFile.FieldType)) ∈ lw_all := lw_g (lw_at lw_m9 44 rfl) rfl
theorem q2033 : (Jvm.Cond.methodLink "SegmentedCache$Cache" (191 : Nat) ({ cls := "SegmentedCache$Cache", name := "where", desc := "(LSegmentedCache$Key;)I" } : Jvm.MethodName)) ∈ lw_all := lw_g (lw_at lw_m9 45 rfl) rfl
theorem q2034 : (Jvm.Cond.instanceMethod ({ cls := "SegmentedCache$Cache", name := "where", desc := "(LSegmentedCache$Key;)I" } : Jvm.MethodName)) ∈ lw_all := lw_g (lw_at lw_m9 46 rfl) rfl
theorem q2035 : (Jvm.Cond.selects "SegmentedCache$Cache" ({ cls := "SegmentedCache$Cache", name := "where", desc := "(LSegmentedCache$Key;)I" } : Jvm.MethodName) ({ cls := "SegmentedCache$Cache", name := "where", desc := "(LSegmentedCache$Key;)I" } : Jvm.MethodName)) ∈ lw_all := lw_g (lw_at lw_m9 47 rfl) rfl
theorem q2036 : (Jvm.Cond.code ({ cls := "SegmentedCache$Cache", name := "where", desc := "(LSegmentedCache$Key;)I" } : Jvm.MethodName) prog_2_method_4_code (3 : Nat) (Option.some Jvm.ClassFile.FieldType.int)) ∈ lw_all := lw_g (lw_at lw_m9 48 rfl) rfl
theorem q2037 : (Jvm.Cond.methodLink "SegmentedCache$Cache" (97 : Nat) ({ cls := "SegmentedCache$Cache", name := "queue", desc := "(I)LSegmentedCache$Cache$Queue;" } : Jvm.MethodName)) ∈ lw_all := lw_g (lw_at lw_m9 49 rfl) rfl
theorem q2038 : (Jvm.Cond.methodLink "SegmentedCache$Cache" (105 : Nat) ({ cls := "java/util/LinkedHashMap", name := "containsKey", desc := "(Ljava/lang/Object;)Z" } : Jvm.MethodName)) ∈ lw_all := lw_g (lw_at lw_m9 50 rfl) rfl
theorem q2045 : (Jvm.Cond.methodLinkNest "SegmentedCache$Cache" (195 : Nat) ({ cls := "SegmentedCache$Cache$Queue", name := "weighs", desc := "(I)V" } : Jvm.MethodName) "SegmentedCache") ∈ lw_tbl := lw_at lw_m9 57 rfl
theorem q2046 : (Jvm.Cond.methodLink "SegmentedCache$Cache" (198 : Nat) ({ cls := "SegmentedCache$Cache", name := "hits", desc := "(LSegmentedCache$Key;LSegmentedCache$Thing;)V" } : Jvm.MethodName)) ∈ lw_all := lw_g (lw_at lw_m9 58 rfl) rfl
theorem q2047 : (Jvm.Cond.privateMethod ({ cls := "SegmentedCache$Cache", name := "hits", desc := "(LSegmentedCache$Key;LSegmentedCache$Thing;)V" } : Jvm.MethodName)) ∈ lw_tbl := lw_at lw_m9 59 rfl
theorem q2048 : (Jvm.Cond.instanceMethod ({ cls := "SegmentedCache$Cache", name := "hits", desc := "(LSegmentedCache$Key;LSegmentedCache$Thing;)V" } : Jvm.MethodName)) ∈ lw_all := lw_g (lw_at lw_m9 60 rfl) rfl
theorem q2049 : (Jvm.Cond.code ({ cls := "SegmentedCache$Cache", name := "hits", desc := "(LSegmentedCache$Key;LSegmentedCache$Thing;)V" } : Jvm.MethodName) prog_2_method_11_code (4 : Nat) (Option.none : Option Jvm.ClassFile.FieldType)) ∈ lw_all := lw_g (lw_at lw_m9 61 rfl) rfl
theorem q2050 : (Jvm.Cond.methodLink "SegmentedCache$Cache" (171 : Nat) ({ cls := "java/lang/Math", name := "min", desc := "(II)I" } : Jvm.MethodName)) ∈ lw_all := lw_g (lw_at lw_m9 62 rfl) rfl
theorem q2051 : (Jvm.Cond.methodLink "SegmentedCache$Cache" (177 : Nat) ({ cls := "SegmentedCache$Cache$Queue", name := "loses", desc := "(LSegmentedCache$Key;)LSegmentedCache$Thing;" } : Jvm.MethodName)) ∈ lw_all := lw_g (lw_at lw_m9 63 rfl) rfl
theorem q2062 : (Jvm.Cond.methodLink "SegmentedCache$Cache" (206 : Nat) ({ cls := "java/lang/Math", name := "max", desc := "(II)I" } : Jvm.MethodName)) ∈ lw_all := lw_g (lw_at lw_m9 74 rfl) rfl
theorem q2063 : (Jvm.Cond.methodLink "SegmentedCache$Cache" (209 : Nat) ({ cls := "SegmentedCache$Thing", name := "<init>", desc := "(IIII)V" } : Jvm.MethodName)) ∈ lw_all := lw_g (lw_at lw_m9 75 rfl) rfl
theorem q2064 : (Jvm.Cond.methodLink "SegmentedCache$Cache" (212 : Nat) ({ cls := "SegmentedCache$Cache", name := "trims", desc := "()V" } : Jvm.MethodName)) ∈ lw_all := lw_g (lw_at lw_m9 76 rfl) rfl
theorem q2071 : (Jvm.Cond.instanceMethod ({ cls := "SegmentedCache$Cache", name := "gets", desc := "(LSegmentedCache$Key;)LSegmentedCache$Thing;" } : Jvm.MethodName)) ∈ lw_all := lw_g (lw_at lw_m9 83 rfl) rfl
theorem q2072 : (Jvm.Cond.selects "SegmentedCache$Cache" ({ cls := "SegmentedCache$Cache", name := "gets", desc := "(LSegmentedCache$Key;)LSegmentedCache$Thing;" } : Jvm.MethodName) ({ cls := "SegmentedCache$Cache", name := "gets", desc := "(LSegmentedCache$Key;)LSegmentedCache$Thing;" } : Jvm.MethodName)) ∈ lw_all := lw_g (lw_at lw_m9 84 rfl) rfl
theorem q2073 : (Jvm.Cond.code ({ cls := "SegmentedCache$Cache", name := "gets", desc := "(LSegmentedCache$Key;)LSegmentedCache$Thing;" } : Jvm.MethodName) prog_2_method_15_code (3 : Nat) (Option.some (Jvm.ClassFile.FieldType.object "SegmentedCache$Thing"))) ∈ lw_all := lw_g (lw_at lw_m9 85 rfl) rfl
theorem q2079 : (Jvm.Cond.instanceMethod ({ cls := "SegmentedCache$Cache", name := "drops", desc := "(LSegmentedCache$Key;)I" } : Jvm.MethodName)) ∈ lw_all := lw_g (lw_at lw_m9 91 rfl) rfl
theorem q2080 : (Jvm.Cond.selects "SegmentedCache$Cache" ({ cls := "SegmentedCache$Cache", name := "drops", desc := "(LSegmentedCache$Key;)I" } : Jvm.MethodName) ({ cls := "SegmentedCache$Cache", name := "drops", desc := "(LSegmentedCache$Key;)I" } : Jvm.MethodName)) ∈ lw_all := lw_g (lw_at lw_m9 92 rfl) rfl
theorem q2081 : (Jvm.Cond.code ({ cls := "SegmentedCache$Cache", name := "drops", desc := "(LSegmentedCache$Key;)I" } : Jvm.MethodName) prog_2_method_16_code (3 : Nat) (Option.some Jvm.ClassFile.FieldType.int)) ∈ lw_all := lw_g (lw_at lw_m9 93 rfl) rfl
theorem q2323 : (Jvm.Cond.fieldLinkNest "SegmentedCache$Cache" (220 : Nat) "SegmentedCache$Clause" "sign" "I" "SegmentedCache") ∈ lw_tbl := lw_at lw_m10 95 rfl
theorem q2326 : (Jvm.Cond.fieldLinkNest "SegmentedCache$Cache" (227 : Nat) "SegmentedCache$Clause" "weight" "I" "SegmentedCache") ∈ lw_tbl := lw_at lw_m10 98 rfl
theorem q2329 : (Jvm.Cond.fieldLinkNest "SegmentedCache$Cache" (223 : Nat) "SegmentedCache$Clause" "key" "LSegmentedCache$Key;" "SegmentedCache") ∈ lw_tbl := lw_at lw_m10 101 rfl
theorem q2380 : (Jvm.Cond.instanceMethod ({ cls := "SegmentedCache$Cache", name := "runs", desc := "(Ljava/util/LinkedList;)V" } : Jvm.MethodName)) ∈ lw_all := lw_g (lw_at lw_m10 152 rfl) rfl
theorem q2381 : (Jvm.Cond.selects "SegmentedCache$Cache" ({ cls := "SegmentedCache$Cache", name := "runs", desc := "(Ljava/util/LinkedList;)V" } : Jvm.MethodName) ({ cls := "SegmentedCache$Cache", name := "runs", desc := "(Ljava/util/LinkedList;)V" } : Jvm.MethodName)) ∈ lw_all := lw_g (lw_at lw_m10 153 rfl) rfl
theorem q2382 : (Jvm.Cond.code ({ cls := "SegmentedCache$Cache", name := "runs", desc := "(Ljava/util/LinkedList;)V" } : Jvm.MethodName) prog_2_method_17_code (4 : Nat) (Option.none : Option Jvm.ClassFile.FieldType)) ∈ lw_all := lw_g (lw_at lw_m10 154 rfl) rfl
theorem q2383 : (Jvm.Cond.methodLink "SegmentedCache$Cache" (215 : Nat) ({ cls := "java/util/LinkedList", name := "iterator", desc := "()Ljava/util/Iterator;" } : Jvm.MethodName)) ∈ lw_all := lw_g (lw_at lw_m10 155 rfl) rfl
theorem q2433 : (Jvm.Cond.interfaceEntry "SegmentedCache$Cache" (81 : Nat)) ∈ lw_tbl := lw_at lw_m10 205 rfl
theorem q2434 : (Jvm.Cond.methodLink "SegmentedCache$Cache" (81 : Nat) ({ cls := "java/util/Iterator", name := "hasNext", desc := "()Z" } : Jvm.MethodName)) ∈ lw_all := lw_g (lw_at lw_m10 206 rfl) rfl
theorem q2435 : (Jvm.Cond.interfaceEntry "SegmentedCache$Cache" (87 : Nat)) ∈ lw_tbl := lw_at lw_m10 207 rfl
theorem q2436 : (Jvm.Cond.methodLink "SegmentedCache$Cache" (87 : Nat) ({ cls := "java/util/Iterator", name := "next", desc := "()Ljava/lang/Object;" } : Jvm.MethodName)) ∈ lw_all := lw_g (lw_at lw_m10 208 rfl) rfl
theorem q2437 : (Jvm.Cond.classLink "SegmentedCache$Cache" (218 : Nat) "SegmentedCache$Clause") ∈ lw_all := lw_g (lw_at lw_m10 209 rfl) rfl
theorem q2438 : (Jvm.Cond.methodLink "SegmentedCache$Cache" (224 : Nat) ({ cls := "SegmentedCache$Cache", name := "gets", desc := "(LSegmentedCache$Key;)LSegmentedCache$Thing;" } : Jvm.MethodName)) ∈ lw_all := lw_g (lw_at lw_m10 210 rfl) rfl
theorem q2439 : (Jvm.Cond.methodLink "SegmentedCache$Cache" (228 : Nat) ({ cls := "SegmentedCache$Cache", name := "puts", desc := "(LSegmentedCache$Key;III)I" } : Jvm.MethodName)) ∈ lw_all := lw_g (lw_at lw_m10 211 rfl) rfl
theorem q2440 : (Jvm.Cond.methodLink "SegmentedCache$Cache" (232 : Nat) ({ cls := "SegmentedCache$Cache", name := "drops", desc := "(LSegmentedCache$Key;)I" } : Jvm.MethodName)) ∈ lw_all := lw_g (lw_at lw_m10 212 rfl) rfl
theorem q2613 : (Jvm.Cond.instanceMethod ({ cls := "SegmentedCache$Cache", name := "takes", desc := "(LSegmentedCache$Cache;)V" } : Jvm.MethodName)) ∈ lw_all := lw_g (lw_at lw_m11 145 rfl) rfl
theorem q2614 : (Jvm.Cond.selects "SegmentedCache$Cache" ({ cls := "SegmentedCache$Cache", name := "takes", desc := "(LSegmentedCache$Cache;)V" } : Jvm.MethodName) ({ cls := "SegmentedCache$Cache", name := "takes", desc := "(LSegmentedCache$Cache;)V" } : Jvm.MethodName)) ∈ lw_all := lw_g (lw_at lw_m11 146 rfl) rfl
theorem q2615 : (Jvm.Cond.code ({ cls := "SegmentedCache$Cache", name := "takes", desc := "(LSegmentedCache$Cache;)V" } : Jvm.MethodName) prog_2_method_2_code (4 : Nat) (Option.none : Option Jvm.ClassFile.FieldType)) ∈ lw_all := lw_g (lw_at lw_m11 147 rfl) rfl
theorem q2616 : (Jvm.Cond.methodLink "SegmentedCache$Cache" (70 : Nat) ({ cls := "SegmentedCache$Cache$Queue", name := "takes", desc := "(LSegmentedCache$Cache$Queue;)V" } : Jvm.MethodName)) ∈ lw_all := lw_g (lw_at lw_m11 148 rfl) rfl
theorem q2630 : (Jvm.Cond.methodLink "SegmentedCache$Cache" (74 : Nat) ({ cls := "java/util/ArrayDeque", name := "clear", desc := "()V" } : Jvm.MethodName)) ∈ lw_all := lw_g (lw_at lw_m11 162 rfl) rfl
theorem q2637 : (Jvm.Cond.methodLink "SegmentedCache$Cache" (77 : Nat) ({ cls := "java/util/ArrayDeque", name := "iterator", desc := "()Ljava/util/Iterator;" } : Jvm.MethodName)) ∈ lw_all := lw_g (lw_at lw_m11 169 rfl) rfl
theorem q2638 : (Jvm.Cond.classLink "SegmentedCache$Cache" (91 : Nat) "SegmentedCache$Key") ∈ lw_all := lw_g (lw_at lw_m11 170 rfl) rfl
theorem q2639 : (Jvm.Cond.methodLink "SegmentedCache$Cache" (93 : Nat) ({ cls := "java/util/ArrayDeque", name := "addLast", desc := "(Ljava/lang/Object;)V" } : Jvm.MethodName)) ∈ lw_all := lw_g (lw_at lw_m11 171 rfl) rfl
theorem q3046 : (Jvm.Cond.castable "SegmentedCache$Cache" "java/lang/Object") ∈ lw_tbl := lw_at lw_m13 98 rfl
theorem in_X1 : ∀ w ∈ wsX10, w ∈ lw_all := lw_in wsX10 [284, 286, 288, 290, 292, 294, 296, 298, 300, 302, 304, 306, 308, 310, 312, 314] (by decide +kernel) (by decide +kernel)
/-! SegmentedCache$Cache$Queue -/
set_option maxRecDepth 100000
def RX2 : String := "SegmentedCache$Cache$Queue"
def TX2 : u_T := fun k => match k with
  | 0 => ("SegmentedCache$Cache$Queue", "things", "Ljava/util/LinkedHashMap;", true)
  | 1 => ("SegmentedCache$Cache$Queue", "weight", "I", false)
  | _ => ("SegmentedCache$Cache$Queue", "this$0", "LSegmentedCache$Cache;", true)
def tyX2 : Nat → FieldType := fun k => match k with
  | 0 => .object "java/util/LinkedHashMap"
  | 1 => .int
  | _ => .object "SegmentedCache$Cache"
abbrev wsX20 : List Cond := u_ws RX2 TX2 3
theorem nmX2 : ∀ a, a < 3 → ∀ b, b < 3 → a ≠ b → (TX2 a).2.1 ≠ (TX2 b).2.1 := by decide +kernel
theorem tyX2_ok : ∀ k, k < 3 → parseFieldDescriptor (TX2 k).2.2.1 = some (tyX2 k) := by decide +kernel
abbrev cX2_init : ByteArray := prog_3_method_1_code
def yX2_init : MethodName := ⟨RX2, "<init>", "(LSegmentedCache$Cache;)V"⟩
def dkwX2_init_0 : List UInt8 := [42, 43, 181, 0, 3, 42, 183, 0, 9, 42, 187, 0, 15, 89, 183, 0, 17, 181, 0, 18, 177]
abbrev dktX2_init_0 : List UInt8 := dkwX2_init_0 ++ []
theorem dksX2_init_0 : cX2_init.data.toList.drop 0 = dktX2_init_0 := by decide +kernel
theorem dX2_init_0 : decode cX2_init 0 = .ok (.aload_n 0, 1) := dk_42 (dk_at dksX2_init_0 0 rfl rfl)
theorem dX2_init_1 : decode cX2_init 1 = .ok (.aload_n 1, 1) := dk_43 (dk_at dksX2_init_0 1 rfl rfl)
theorem dX2_init_2 : decode cX2_init 2 = .ok (.putfield 3, 3) := dk_181 0 3 (dk_at dksX2_init_0 2 rfl rfl)
theorem dX2_init_5 : decode cX2_init 5 = .ok (.aload_n 0, 1) := dk_42 (dk_at dksX2_init_0 5 rfl rfl)
theorem dX2_init_6 : decode cX2_init 6 = .ok (.invokespecial 9, 3) := dk_183 0 9 (dk_at dksX2_init_0 6 rfl rfl)
theorem dX2_init_9 : decode cX2_init 9 = .ok (.aload_n 0, 1) := dk_42 (dk_at dksX2_init_0 9 rfl rfl)
theorem dX2_init_10 : decode cX2_init 10 = .ok (.new 15, 3) := dk_187 0 15 (dk_at dksX2_init_0 10 rfl rfl)
theorem dX2_init_13 : decode cX2_init 13 = .ok (.dup, 1) := dk_89 (dk_at dksX2_init_0 13 rfl rfl)
theorem dX2_init_14 : decode cX2_init 14 = .ok (.invokespecial 17, 3) := dk_183 0 17 (dk_at dksX2_init_0 14 rfl rfl)
theorem dX2_init_17 : decode cX2_init 17 = .ok (.putfield 18, 3) := dk_181 0 18 (dk_at dksX2_init_0 17 rfl rfl)
theorem dX2_init_20 : decode cX2_init 20 = .ok (.return_, 1) := dk_177 (dk_at dksX2_init_0 20 rfl rfl)
abbrev cX2_oldest : ByteArray := prog_3_method_6_code
def yX2_oldest : MethodName := ⟨RX2, "oldest", "()LSegmentedCache$Going;"⟩
def dkwX2_oldest_4 : List UInt8 := [176]
abbrev dktX2_oldest_4 : List UInt8 := dkwX2_oldest_4 ++ []
def dkwX2_oldest_3 : List UInt8 := [167, 255, 201, 43, 185, 0, 99, 1, 0, 42, 45, 180, 0, 91, 180, 0, 46, 116, 182, 0, 49, 45, 176, 1]
abbrev dktX2_oldest_3 : List UInt8 := dkwX2_oldest_3 ++ dktX2_oldest_4
def dkwX2_oldest_2 : List UInt8 := [185, 0, 85, 1, 0, 192, 0, 47, 183, 0, 88, 78, 45, 180, 0, 91, 180, 0, 95, 153, 0, 6]
abbrev dktX2_oldest_2 : List UInt8 := dkwX2_oldest_2 ++ dktX2_oldest_3
def dkwX2_oldest_1 : List UInt8 := [185, 0, 72, 1, 0, 192, 0, 76, 77, 187, 0, 78, 89, 44, 185, 0, 80, 1, 0, 192, 0, 83, 44]
abbrev dktX2_oldest_1 : List UInt8 := dkwX2_oldest_1 ++ dktX2_oldest_2
def dkwX2_oldest_0 : List UInt8 := [42, 180, 0, 18, 182, 0, 57, 185, 0, 61, 1, 0, 76, 43, 185, 0, 67, 1, 0, 153, 0, 72, 43]
abbrev dktX2_oldest_0 : List UInt8 := dkwX2_oldest_0 ++ dktX2_oldest_1
theorem dksX2_oldest_0 : cX2_oldest.data.toList.drop 0 = dktX2_oldest_0 := by decide +kernel
theorem dksX2_oldest_1 : cX2_oldest.data.toList.drop 23 = dktX2_oldest_1 := dk_seg dksX2_oldest_0 23 rfl rfl
theorem dksX2_oldest_2 : cX2_oldest.data.toList.drop 46 = dktX2_oldest_2 := dk_seg dksX2_oldest_1 23 rfl rfl
theorem dksX2_oldest_3 : cX2_oldest.data.toList.drop 68 = dktX2_oldest_3 := dk_seg dksX2_oldest_2 22 rfl rfl
theorem dksX2_oldest_4 : cX2_oldest.data.toList.drop 92 = dktX2_oldest_4 := dk_seg dksX2_oldest_3 24 rfl rfl
theorem dX2_oldest_0 : decode cX2_oldest 0 = .ok (.aload_n 0, 1) := dk_42 (dk_at dksX2_oldest_0 0 rfl rfl)
theorem dX2_oldest_1 : decode cX2_oldest 1 = .ok (.getfield 18, 3) := dk_180 0 18 (dk_at dksX2_oldest_0 1 rfl rfl)
theorem dX2_oldest_4 : decode cX2_oldest 4 = .ok (.invokevirtual 57, 3) := dk_182 0 57 (dk_at dksX2_oldest_0 4 rfl rfl)
theorem dX2_oldest_7 : decode cX2_oldest 7 = .ok (.invokeinterface 61 1, 5) := by decide +kernel
theorem dX2_oldest_12 : decode cX2_oldest 12 = .ok (.astore_n 1, 1) := dk_76 (dk_at dksX2_oldest_0 12 rfl rfl)
theorem dX2_oldest_13 : decode cX2_oldest 13 = .ok (.aload_n 1, 1) := dk_43 (dk_at dksX2_oldest_0 13 rfl rfl)
theorem dX2_oldest_14 : decode cX2_oldest 14 = .ok (.invokeinterface 67 1, 5) := by decide +kernel
theorem dX2_oldest_19 : decode cX2_oldest 19 = .ok (.ifCond .eq 72, 3) := dk_153 0 72 (dk_at dksX2_oldest_0 19 rfl rfl)
theorem dX2_oldest_22 : decode cX2_oldest 22 = .ok (.aload_n 1, 1) := dk_43 (dk_at dksX2_oldest_0 22 rfl rfl)
theorem dX2_oldest_23 : decode cX2_oldest 23 = .ok (.invokeinterface 72 1, 5) := by decide +kernel
theorem dX2_oldest_28 : decode cX2_oldest 28 = .ok (.checkcast 76, 3) := dk_192 0 76 (dk_at dksX2_oldest_1 5 rfl rfl)
theorem dX2_oldest_31 : decode cX2_oldest 31 = .ok (.astore_n 2, 1) := dk_77 (dk_at dksX2_oldest_1 8 rfl rfl)
theorem dX2_oldest_32 : decode cX2_oldest 32 = .ok (.new 78, 3) := dk_187 0 78 (dk_at dksX2_oldest_1 9 rfl rfl)
theorem dX2_oldest_35 : decode cX2_oldest 35 = .ok (.dup, 1) := dk_89 (dk_at dksX2_oldest_1 12 rfl rfl)
theorem dX2_oldest_36 : decode cX2_oldest 36 = .ok (.aload_n 2, 1) := dk_44 (dk_at dksX2_oldest_1 13 rfl rfl)
theorem dX2_oldest_37 : decode cX2_oldest 37 = .ok (.invokeinterface 80 1, 5) := by decide +kernel
theorem dX2_oldest_42 : decode cX2_oldest 42 = .ok (.checkcast 83, 3) := dk_192 0 83 (dk_at dksX2_oldest_1 19 rfl rfl)
theorem dX2_oldest_45 : decode cX2_oldest 45 = .ok (.aload_n 2, 1) := dk_44 (dk_at dksX2_oldest_1 22 rfl rfl)
theorem dX2_oldest_46 : decode cX2_oldest 46 = .ok (.invokeinterface 85 1, 5) := by decide +kernel
theorem dX2_oldest_51 : decode cX2_oldest 51 = .ok (.checkcast 47, 3) := dk_192 0 47 (dk_at dksX2_oldest_2 5 rfl rfl)
theorem dX2_oldest_54 : decode cX2_oldest 54 = .ok (.invokespecial 88, 3) := dk_183 0 88 (dk_at dksX2_oldest_2 8 rfl rfl)
theorem dX2_oldest_57 : decode cX2_oldest 57 = .ok (.astore_n 3, 1) := dk_78 (dk_at dksX2_oldest_2 11 rfl rfl)
theorem dX2_oldest_58 : decode cX2_oldest 58 = .ok (.aload_n 3, 1) := dk_45 (dk_at dksX2_oldest_2 12 rfl rfl)
theorem dX2_oldest_59 : decode cX2_oldest 59 = .ok (.getfield 91, 3) := dk_180 0 91 (dk_at dksX2_oldest_2 13 rfl rfl)
theorem dX2_oldest_62 : decode cX2_oldest 62 = .ok (.getfield 95, 3) := dk_180 0 95 (dk_at dksX2_oldest_2 16 rfl rfl)
theorem dX2_oldest_65 : decode cX2_oldest 65 = .ok (.ifCond .eq 6, 3) := dk_153 0 6 (dk_at dksX2_oldest_2 19 rfl rfl)
theorem dX2_oldest_68 : decode cX2_oldest 68 = .ok (.goto (-55), 3) := dk_167 255 201 (dk_at dksX2_oldest_3 0 rfl rfl)
theorem dX2_oldest_71 : decode cX2_oldest 71 = .ok (.aload_n 1, 1) := dk_43 (dk_at dksX2_oldest_3 3 rfl rfl)
theorem dX2_oldest_72 : decode cX2_oldest 72 = .ok (.invokeinterface 99 1, 5) := by decide +kernel
theorem dX2_oldest_77 : decode cX2_oldest 77 = .ok (.aload_n 0, 1) := dk_42 (dk_at dksX2_oldest_3 9 rfl rfl)
theorem dX2_oldest_78 : decode cX2_oldest 78 = .ok (.aload_n 3, 1) := dk_45 (dk_at dksX2_oldest_3 10 rfl rfl)
theorem dX2_oldest_79 : decode cX2_oldest 79 = .ok (.getfield 91, 3) := dk_180 0 91 (dk_at dksX2_oldest_3 11 rfl rfl)
theorem dX2_oldest_82 : decode cX2_oldest 82 = .ok (.getfield 46, 3) := dk_180 0 46 (dk_at dksX2_oldest_3 14 rfl rfl)
theorem dX2_oldest_85 : decode cX2_oldest 85 = .ok (.ineg, 1) := dk_116 (dk_at dksX2_oldest_3 17 rfl rfl)
theorem dX2_oldest_86 : decode cX2_oldest 86 = .ok (.invokevirtual 49, 3) := dk_182 0 49 (dk_at dksX2_oldest_3 18 rfl rfl)
theorem dX2_oldest_89 : decode cX2_oldest 89 = .ok (.aload_n 3, 1) := dk_45 (dk_at dksX2_oldest_3 21 rfl rfl)
theorem dX2_oldest_90 : decode cX2_oldest 90 = .ok (.areturn, 1) := dk_176 (dk_at dksX2_oldest_3 22 rfl rfl)
theorem dX2_oldest_91 : decode cX2_oldest 91 = .ok (.aconst_null, 1) := dk_1 (dk_at dksX2_oldest_3 23 rfl rfl)
theorem dX2_oldest_92 : decode cX2_oldest 92 = .ok (.areturn, 1) := dk_176 (dk_at dksX2_oldest_4 0 rfl rfl)
abbrev cX2_weighs : ByteArray := prog_3_method_3_code
def yX2_weighs : MethodName := ⟨RX2, "weighs", "(I)V"⟩
def dkwX2_weighs_1 : List UInt8 := [180, 0, 39, 27, 96, 181, 0, 39, 177]
abbrev dktX2_weighs_1 : List UInt8 := dkwX2_weighs_1 ++ []
def dkwX2_weighs_0 : List UInt8 := [42, 89, 180, 0, 31, 27, 96, 181, 0, 31, 42, 182, 0, 35, 153, 0, 16, 42, 180, 0, 3, 89]
abbrev dktX2_weighs_0 : List UInt8 := dkwX2_weighs_0 ++ dktX2_weighs_1
theorem dksX2_weighs_0 : cX2_weighs.data.toList.drop 0 = dktX2_weighs_0 := by decide +kernel
theorem dksX2_weighs_1 : cX2_weighs.data.toList.drop 22 = dktX2_weighs_1 := dk_seg dksX2_weighs_0 22 rfl rfl
theorem dX2_weighs_0 : decode cX2_weighs 0 = .ok (.aload_n 0, 1) := dk_42 (dk_at dksX2_weighs_0 0 rfl rfl)
theorem dX2_weighs_1 : decode cX2_weighs 1 = .ok (.dup, 1) := dk_89 (dk_at dksX2_weighs_0 1 rfl rfl)
theorem dX2_weighs_2 : decode cX2_weighs 2 = .ok (.getfield 31, 3) := dk_180 0 31 (dk_at dksX2_weighs_0 2 rfl rfl)
theorem dX2_weighs_5 : decode cX2_weighs 5 = .ok (.iload_n 1, 1) := dk_27 (dk_at dksX2_weighs_0 5 rfl rfl)
theorem dX2_weighs_6 : decode cX2_weighs 6 = .ok (.iadd, 1) := dk_96 (dk_at dksX2_weighs_0 6 rfl rfl)
theorem dX2_weighs_7 : decode cX2_weighs 7 = .ok (.putfield 31, 3) := dk_181 0 31 (dk_at dksX2_weighs_0 7 rfl rfl)
theorem dX2_weighs_10 : decode cX2_weighs 10 = .ok (.aload_n 0, 1) := dk_42 (dk_at dksX2_weighs_0 10 rfl rfl)
theorem dX2_weighs_11 : decode cX2_weighs 11 = .ok (.invokevirtual 35, 3) := dk_182 0 35 (dk_at dksX2_weighs_0 11 rfl rfl)
theorem dX2_weighs_14 : decode cX2_weighs 14 = .ok (.ifCond .eq 16, 3) := dk_153 0 16 (dk_at dksX2_weighs_0 14 rfl rfl)
theorem dX2_weighs_17 : decode cX2_weighs 17 = .ok (.aload_n 0, 1) := dk_42 (dk_at dksX2_weighs_0 17 rfl rfl)
theorem dX2_weighs_18 : decode cX2_weighs 18 = .ok (.getfield 3, 3) := dk_180 0 3 (dk_at dksX2_weighs_0 18 rfl rfl)
theorem dX2_weighs_21 : decode cX2_weighs 21 = .ok (.dup, 1) := dk_89 (dk_at dksX2_weighs_0 21 rfl rfl)
theorem dX2_weighs_22 : decode cX2_weighs 22 = .ok (.getfield 39, 3) := dk_180 0 39 (dk_at dksX2_weighs_1 0 rfl rfl)
theorem dX2_weighs_25 : decode cX2_weighs 25 = .ok (.iload_n 1, 1) := dk_27 (dk_at dksX2_weighs_1 3 rfl rfl)
theorem dX2_weighs_26 : decode cX2_weighs 26 = .ok (.iadd, 1) := dk_96 (dk_at dksX2_weighs_1 4 rfl rfl)
theorem dX2_weighs_27 : decode cX2_weighs 27 = .ok (.putfield 39, 3) := dk_181 0 39 (dk_at dksX2_weighs_1 5 rfl rfl)
theorem dX2_weighs_30 : decode cX2_weighs 30 = .ok (.return_, 1) := dk_177 (dk_at dksX2_weighs_1 8 rfl rfl)
abbrev cX2_isQueue : ByteArray := prog_3_method_2_code
def yX2_isQueue : MethodName := ⟨RX2, "isQueue", "()Z"⟩
def dkwX2_isQueue_1 : List UInt8 := [167, 0, 4, 3, 172]
abbrev dktX2_isQueue_1 : List UInt8 := dkwX2_isQueue_1 ++ []
def dkwX2_isQueue_0 : List UInt8 := [42, 42, 180, 0, 3, 180, 0, 22, 165, 0, 14, 42, 42, 180, 0, 3, 180, 0, 28, 166, 0, 7, 4]
abbrev dktX2_isQueue_0 : List UInt8 := dkwX2_isQueue_0 ++ dktX2_isQueue_1
theorem dksX2_isQueue_0 : cX2_isQueue.data.toList.drop 0 = dktX2_isQueue_0 := by decide +kernel
theorem dksX2_isQueue_1 : cX2_isQueue.data.toList.drop 23 = dktX2_isQueue_1 := dk_seg dksX2_isQueue_0 23 rfl rfl
theorem dX2_isQueue_0 : decode cX2_isQueue 0 = .ok (.aload_n 0, 1) := dk_42 (dk_at dksX2_isQueue_0 0 rfl rfl)
theorem dX2_isQueue_1 : decode cX2_isQueue 1 = .ok (.aload_n 0, 1) := dk_42 (dk_at dksX2_isQueue_0 1 rfl rfl)
theorem dX2_isQueue_2 : decode cX2_isQueue 2 = .ok (.getfield 3, 3) := dk_180 0 3 (dk_at dksX2_isQueue_0 2 rfl rfl)
theorem dX2_isQueue_5 : decode cX2_isQueue 5 = .ok (.getfield 22, 3) := dk_180 0 22 (dk_at dksX2_isQueue_0 5 rfl rfl)
theorem dX2_isQueue_8 : decode cX2_isQueue 8 = .ok (.if_acmp .eq 14, 3) := dk_165 0 14 (dk_at dksX2_isQueue_0 8 rfl rfl)
theorem dX2_isQueue_11 : decode cX2_isQueue 11 = .ok (.aload_n 0, 1) := dk_42 (dk_at dksX2_isQueue_0 11 rfl rfl)
theorem dX2_isQueue_12 : decode cX2_isQueue 12 = .ok (.aload_n 0, 1) := dk_42 (dk_at dksX2_isQueue_0 12 rfl rfl)
theorem dX2_isQueue_13 : decode cX2_isQueue 13 = .ok (.getfield 3, 3) := dk_180 0 3 (dk_at dksX2_isQueue_0 13 rfl rfl)
theorem dX2_isQueue_16 : decode cX2_isQueue 16 = .ok (.getfield 28, 3) := dk_180 0 28 (dk_at dksX2_isQueue_0 16 rfl rfl)
theorem dX2_isQueue_19 : decode cX2_isQueue 19 = .ok (.if_acmp .ne 7, 3) := dk_166 0 7 (dk_at dksX2_isQueue_0 19 rfl rfl)
theorem dX2_isQueue_22 : decode cX2_isQueue 22 = .ok (.iconst 1, 1) := dk_4 (dk_at dksX2_isQueue_0 22 rfl rfl)
theorem dX2_isQueue_23 : decode cX2_isQueue 23 = .ok (.goto 4, 3) := dk_167 0 4 (dk_at dksX2_isQueue_1 0 rfl rfl)
theorem dX2_isQueue_26 : decode cX2_isQueue 26 = .ok (.iconst 0, 1) := dk_3 (dk_at dksX2_isQueue_1 3 rfl rfl)
theorem dX2_isQueue_27 : decode cX2_isQueue 27 = .ok (.ireturn, 1) := dk_172 (dk_at dksX2_isQueue_1 4 rfl rfl)
abbrev cX2_adds : ByteArray := prog_3_method_4_code
def yX2_adds : MethodName := ⟨RX2, "adds", "(LSegmentedCache$Key;LSegmentedCache$Thing;)V"⟩
def dkwX2_adds_0 : List UInt8 := [42, 180, 0, 18, 43, 44, 182, 0, 42, 87, 42, 44, 180, 0, 46, 182, 0, 49, 177]
abbrev dktX2_adds_0 : List UInt8 := dkwX2_adds_0 ++ []
theorem dksX2_adds_0 : cX2_adds.data.toList.drop 0 = dktX2_adds_0 := by decide +kernel
theorem dX2_adds_0 : decode cX2_adds 0 = .ok (.aload_n 0, 1) := dk_42 (dk_at dksX2_adds_0 0 rfl rfl)
theorem dX2_adds_1 : decode cX2_adds 1 = .ok (.getfield 18, 3) := dk_180 0 18 (dk_at dksX2_adds_0 1 rfl rfl)
theorem dX2_adds_4 : decode cX2_adds 4 = .ok (.aload_n 1, 1) := dk_43 (dk_at dksX2_adds_0 4 rfl rfl)
theorem dX2_adds_5 : decode cX2_adds 5 = .ok (.aload_n 2, 1) := dk_44 (dk_at dksX2_adds_0 5 rfl rfl)
theorem dX2_adds_6 : decode cX2_adds 6 = .ok (.invokevirtual 42, 3) := dk_182 0 42 (dk_at dksX2_adds_0 6 rfl rfl)
theorem dX2_adds_9 : decode cX2_adds 9 = .ok (.pop, 1) := dk_87 (dk_at dksX2_adds_0 9 rfl rfl)
theorem dX2_adds_10 : decode cX2_adds 10 = .ok (.aload_n 0, 1) := dk_42 (dk_at dksX2_adds_0 10 rfl rfl)
theorem dX2_adds_11 : decode cX2_adds 11 = .ok (.aload_n 2, 1) := dk_44 (dk_at dksX2_adds_0 11 rfl rfl)
theorem dX2_adds_12 : decode cX2_adds 12 = .ok (.getfield 46, 3) := dk_180 0 46 (dk_at dksX2_adds_0 12 rfl rfl)
theorem dX2_adds_15 : decode cX2_adds 15 = .ok (.invokevirtual 49, 3) := dk_182 0 49 (dk_at dksX2_adds_0 15 rfl rfl)
theorem dX2_adds_18 : decode cX2_adds 18 = .ok (.return_, 1) := dk_177 (dk_at dksX2_adds_0 18 rfl rfl)
abbrev cX2_loses : ByteArray := prog_3_method_5_code
def yX2_loses : MethodName := ⟨RX2, "loses", "(LSegmentedCache$Key;)LSegmentedCache$Thing;"⟩
def dkwX2_loses_1 : List UInt8 := [182, 0, 49, 44, 176]
abbrev dktX2_loses_1 : List UInt8 := dkwX2_loses_1 ++ []
def dkwX2_loses_0 : List UInt8 := [42, 180, 0, 18, 43, 182, 0, 53, 192, 0, 47, 77, 44, 198, 0, 12, 42, 44, 180, 0, 46, 116]
abbrev dktX2_loses_0 : List UInt8 := dkwX2_loses_0 ++ dktX2_loses_1
theorem dksX2_loses_0 : cX2_loses.data.toList.drop 0 = dktX2_loses_0 := by decide +kernel
theorem dksX2_loses_1 : cX2_loses.data.toList.drop 22 = dktX2_loses_1 := dk_seg dksX2_loses_0 22 rfl rfl
theorem dX2_loses_0 : decode cX2_loses 0 = .ok (.aload_n 0, 1) := dk_42 (dk_at dksX2_loses_0 0 rfl rfl)
theorem dX2_loses_1 : decode cX2_loses 1 = .ok (.getfield 18, 3) := dk_180 0 18 (dk_at dksX2_loses_0 1 rfl rfl)
theorem dX2_loses_4 : decode cX2_loses 4 = .ok (.aload_n 1, 1) := dk_43 (dk_at dksX2_loses_0 4 rfl rfl)
theorem dX2_loses_5 : decode cX2_loses 5 = .ok (.invokevirtual 53, 3) := dk_182 0 53 (dk_at dksX2_loses_0 5 rfl rfl)
theorem dX2_loses_8 : decode cX2_loses 8 = .ok (.checkcast 47, 3) := dk_192 0 47 (dk_at dksX2_loses_0 8 rfl rfl)
theorem dX2_loses_11 : decode cX2_loses 11 = .ok (.astore_n 2, 1) := dk_77 (dk_at dksX2_loses_0 11 rfl rfl)
theorem dX2_loses_12 : decode cX2_loses 12 = .ok (.aload_n 2, 1) := dk_44 (dk_at dksX2_loses_0 12 rfl rfl)
theorem dX2_loses_13 : decode cX2_loses 13 = .ok (.ifnull 12, 3) := dk_198 0 12 (dk_at dksX2_loses_0 13 rfl rfl)
theorem dX2_loses_16 : decode cX2_loses 16 = .ok (.aload_n 0, 1) := dk_42 (dk_at dksX2_loses_0 16 rfl rfl)
theorem dX2_loses_17 : decode cX2_loses 17 = .ok (.aload_n 2, 1) := dk_44 (dk_at dksX2_loses_0 17 rfl rfl)
theorem dX2_loses_18 : decode cX2_loses 18 = .ok (.getfield 46, 3) := dk_180 0 46 (dk_at dksX2_loses_0 18 rfl rfl)
theorem dX2_loses_21 : decode cX2_loses 21 = .ok (.ineg, 1) := dk_116 (dk_at dksX2_loses_0 21 rfl rfl)
theorem dX2_loses_22 : decode cX2_loses 22 = .ok (.invokevirtual 49, 3) := dk_182 0 49 (dk_at dksX2_loses_1 0 rfl rfl)
theorem dX2_loses_25 : decode cX2_loses 25 = .ok (.aload_n 2, 1) := dk_44 (dk_at dksX2_loses_1 3 rfl rfl)
theorem dX2_loses_26 : decode cX2_loses 26 = .ok (.areturn, 1) := dk_176 (dk_at dksX2_loses_1 4 rfl rfl)
abbrev cX2_placeOf : ByteArray := prog_3_method_8_code
def yX2_placeOf : MethodName := ⟨RX2, "placeOf", "(LSegmentedCache$Key;)I"⟩
def dkwX2_placeOf_2 : List UInt8 := [132, 2, 1, 167, 255, 222, 16, 251, 172]
abbrev dktX2_placeOf_2 : List UInt8 := dkwX2_placeOf_2 ++ []
def dkwX2_placeOf_1 : List UInt8 := [45, 185, 0, 72, 1, 0, 192, 0, 83, 58, 4, 25, 4, 43, 182, 0, 110, 153, 0, 5, 28, 172]
abbrev dktX2_placeOf_1 : List UInt8 := dkwX2_placeOf_1 ++ dktX2_placeOf_2
def dkwX2_placeOf_0 : List UInt8 := [3, 61, 42, 180, 0, 18, 182, 0, 107, 185, 0, 61, 1, 0, 78, 45, 185, 0, 67, 1, 0, 153, 0, 31]
abbrev dktX2_placeOf_0 : List UInt8 := dkwX2_placeOf_0 ++ dktX2_placeOf_1
theorem dksX2_placeOf_0 : cX2_placeOf.data.toList.drop 0 = dktX2_placeOf_0 := by decide +kernel
theorem dksX2_placeOf_1 : cX2_placeOf.data.toList.drop 24 = dktX2_placeOf_1 := dk_seg dksX2_placeOf_0 24 rfl rfl
theorem dksX2_placeOf_2 : cX2_placeOf.data.toList.drop 46 = dktX2_placeOf_2 := dk_seg dksX2_placeOf_1 22 rfl rfl
theorem dX2_placeOf_0 : decode cX2_placeOf 0 = .ok (.iconst 0, 1) := dk_3 (dk_at dksX2_placeOf_0 0 rfl rfl)
theorem dX2_placeOf_1 : decode cX2_placeOf 1 = .ok (.istore_n 2, 1) := dk_61 (dk_at dksX2_placeOf_0 1 rfl rfl)
theorem dX2_placeOf_2 : decode cX2_placeOf 2 = .ok (.aload_n 0, 1) := dk_42 (dk_at dksX2_placeOf_0 2 rfl rfl)
theorem dX2_placeOf_3 : decode cX2_placeOf 3 = .ok (.getfield 18, 3) := dk_180 0 18 (dk_at dksX2_placeOf_0 3 rfl rfl)
theorem dX2_placeOf_6 : decode cX2_placeOf 6 = .ok (.invokevirtual 107, 3) := dk_182 0 107 (dk_at dksX2_placeOf_0 6 rfl rfl)
theorem dX2_placeOf_9 : decode cX2_placeOf 9 = .ok (.invokeinterface 61 1, 5) := by decide +kernel
theorem dX2_placeOf_14 : decode cX2_placeOf 14 = .ok (.astore_n 3, 1) := dk_78 (dk_at dksX2_placeOf_0 14 rfl rfl)
theorem dX2_placeOf_15 : decode cX2_placeOf 15 = .ok (.aload_n 3, 1) := dk_45 (dk_at dksX2_placeOf_0 15 rfl rfl)
theorem dX2_placeOf_16 : decode cX2_placeOf 16 = .ok (.invokeinterface 67 1, 5) := by decide +kernel
theorem dX2_placeOf_21 : decode cX2_placeOf 21 = .ok (.ifCond .eq 31, 3) := dk_153 0 31 (dk_at dksX2_placeOf_0 21 rfl rfl)
theorem dX2_placeOf_24 : decode cX2_placeOf 24 = .ok (.aload_n 3, 1) := dk_45 (dk_at dksX2_placeOf_1 0 rfl rfl)
theorem dX2_placeOf_25 : decode cX2_placeOf 25 = .ok (.invokeinterface 72 1, 5) := by decide +kernel
theorem dX2_placeOf_30 : decode cX2_placeOf 30 = .ok (.checkcast 83, 3) := dk_192 0 83 (dk_at dksX2_placeOf_1 6 rfl rfl)
theorem dX2_placeOf_33 : decode cX2_placeOf 33 = .ok (.astore 4, 2) := dk_58 4 (dk_at dksX2_placeOf_1 9 rfl rfl)
theorem dX2_placeOf_35 : decode cX2_placeOf 35 = .ok (.aload 4, 2) := dk_25 4 (dk_at dksX2_placeOf_1 11 rfl rfl)
theorem dX2_placeOf_37 : decode cX2_placeOf 37 = .ok (.aload_n 1, 1) := dk_43 (dk_at dksX2_placeOf_1 13 rfl rfl)
theorem dX2_placeOf_38 : decode cX2_placeOf 38 = .ok (.invokevirtual 110, 3) := dk_182 0 110 (dk_at dksX2_placeOf_1 14 rfl rfl)
theorem dX2_placeOf_41 : decode cX2_placeOf 41 = .ok (.ifCond .eq 5, 3) := dk_153 0 5 (dk_at dksX2_placeOf_1 17 rfl rfl)
theorem dX2_placeOf_44 : decode cX2_placeOf 44 = .ok (.iload_n 2, 1) := dk_28 (dk_at dksX2_placeOf_1 20 rfl rfl)
theorem dX2_placeOf_45 : decode cX2_placeOf 45 = .ok (.ireturn, 1) := dk_172 (dk_at dksX2_placeOf_1 21 rfl rfl)
theorem dX2_placeOf_46 : decode cX2_placeOf 46 = .ok (.iinc 2 1, 3) := dk_132 2 1 (dk_at dksX2_placeOf_2 0 rfl rfl)
theorem dX2_placeOf_49 : decode cX2_placeOf 49 = .ok (.goto (-34), 3) := dk_167 255 222 (dk_at dksX2_placeOf_2 3 rfl rfl)
theorem dX2_placeOf_52 : decode cX2_placeOf 52 = .ok (.bipush (-5), 2) := dk_16 251 (dk_at dksX2_placeOf_2 6 rfl rfl)
theorem dX2_placeOf_54 : decode cX2_placeOf 54 = .ok (.ireturn, 1) := dk_172 (dk_at dksX2_placeOf_2 8 rfl rfl)
abbrev cX2_at : ByteArray := prog_3_method_9_code
def yX2_at : MethodName := ⟨RX2, "at", "(I)I"⟩
def dkwX2_at_2 : List UInt8 := [167, 255, 223, 16, 251, 172]
abbrev dktX2_at_2 : List UInt8 := dkwX2_at_2 ++ []
def dkwX2_at_1 : List UInt8 := [45, 185, 0, 72, 1, 0, 192, 0, 83, 58, 4, 28, 154, 0, 9, 25, 4, 182, 0, 114, 172, 132, 2, 255]
abbrev dktX2_at_1 : List UInt8 := dkwX2_at_1 ++ dktX2_at_2
def dkwX2_at_0 : List UInt8 := [27, 61, 42, 180, 0, 18, 182, 0, 107, 185, 0, 61, 1, 0, 78, 45, 185, 0, 67, 1, 0, 153, 0, 30]
abbrev dktX2_at_0 : List UInt8 := dkwX2_at_0 ++ dktX2_at_1
theorem dksX2_at_0 : cX2_at.data.toList.drop 0 = dktX2_at_0 := by decide +kernel
theorem dksX2_at_1 : cX2_at.data.toList.drop 24 = dktX2_at_1 := dk_seg dksX2_at_0 24 rfl rfl
theorem dksX2_at_2 : cX2_at.data.toList.drop 48 = dktX2_at_2 := dk_seg dksX2_at_1 24 rfl rfl
theorem dX2_at_0 : decode cX2_at 0 = .ok (.iload_n 1, 1) := dk_27 (dk_at dksX2_at_0 0 rfl rfl)
theorem dX2_at_1 : decode cX2_at 1 = .ok (.istore_n 2, 1) := dk_61 (dk_at dksX2_at_0 1 rfl rfl)
theorem dX2_at_2 : decode cX2_at 2 = .ok (.aload_n 0, 1) := dk_42 (dk_at dksX2_at_0 2 rfl rfl)
theorem dX2_at_3 : decode cX2_at 3 = .ok (.getfield 18, 3) := dk_180 0 18 (dk_at dksX2_at_0 3 rfl rfl)
theorem dX2_at_6 : decode cX2_at 6 = .ok (.invokevirtual 107, 3) := dk_182 0 107 (dk_at dksX2_at_0 6 rfl rfl)
theorem dX2_at_9 : decode cX2_at 9 = .ok (.invokeinterface 61 1, 5) := by decide +kernel
theorem dX2_at_14 : decode cX2_at 14 = .ok (.astore_n 3, 1) := dk_78 (dk_at dksX2_at_0 14 rfl rfl)
theorem dX2_at_15 : decode cX2_at 15 = .ok (.aload_n 3, 1) := dk_45 (dk_at dksX2_at_0 15 rfl rfl)
theorem dX2_at_16 : decode cX2_at 16 = .ok (.invokeinterface 67 1, 5) := by decide +kernel
theorem dX2_at_21 : decode cX2_at 21 = .ok (.ifCond .eq 30, 3) := dk_153 0 30 (dk_at dksX2_at_0 21 rfl rfl)
theorem dX2_at_24 : decode cX2_at 24 = .ok (.aload_n 3, 1) := dk_45 (dk_at dksX2_at_1 0 rfl rfl)
theorem dX2_at_25 : decode cX2_at 25 = .ok (.invokeinterface 72 1, 5) := by decide +kernel
theorem dX2_at_30 : decode cX2_at 30 = .ok (.checkcast 83, 3) := dk_192 0 83 (dk_at dksX2_at_1 6 rfl rfl)
theorem dX2_at_33 : decode cX2_at 33 = .ok (.astore 4, 2) := dk_58 4 (dk_at dksX2_at_1 9 rfl rfl)
theorem dX2_at_35 : decode cX2_at 35 = .ok (.iload_n 2, 1) := dk_28 (dk_at dksX2_at_1 11 rfl rfl)
theorem dX2_at_36 : decode cX2_at 36 = .ok (.ifCond .ne 9, 3) := dk_154 0 9 (dk_at dksX2_at_1 12 rfl rfl)
theorem dX2_at_39 : decode cX2_at 39 = .ok (.aload 4, 2) := dk_25 4 (dk_at dksX2_at_1 15 rfl rfl)
theorem dX2_at_41 : decode cX2_at 41 = .ok (.invokevirtual 114, 3) := dk_182 0 114 (dk_at dksX2_at_1 17 rfl rfl)
theorem dX2_at_44 : decode cX2_at 44 = .ok (.ireturn, 1) := dk_172 (dk_at dksX2_at_1 20 rfl rfl)
theorem dX2_at_45 : decode cX2_at 45 = .ok (.iinc 2 (-1), 3) := dk_132 2 255 (dk_at dksX2_at_1 21 rfl rfl)
theorem dX2_at_48 : decode cX2_at 48 = .ok (.goto (-33), 3) := dk_167 255 223 (dk_at dksX2_at_2 0 rfl rfl)
theorem dX2_at_51 : decode cX2_at 51 = .ok (.bipush (-5), 2) := dk_16 251 (dk_at dksX2_at_2 3 rfl rfl)
theorem dX2_at_53 : decode cX2_at 53 = .ok (.ireturn, 1) := dk_172 (dk_at dksX2_at_2 5 rfl rfl)
abbrev cX2_takes : ByteArray := prog_3_method_7_code
def yX2_takes : MethodName := ⟨RX2, "takes", "(LSegmentedCache$Cache$Queue;)V"⟩
def dkwX2_takes_3 : List UInt8 := [182, 0, 42, 87, 167, 255, 204, 42, 43, 180, 0, 31, 181, 0, 31, 177]
abbrev dktX2_takes_3 : List UInt8 := dkwX2_takes_3 ++ []
def dkwX2_takes_2 : List UInt8 := [185, 0, 80, 1, 0, 192, 0, 83, 187, 0, 47, 89, 45, 185, 0, 85, 1, 0, 192, 0, 47, 183, 0, 104]
abbrev dktX2_takes_2 : List UInt8 := dkwX2_takes_2 ++ dktX2_takes_3
def dkwX2_takes_1 : List UInt8 := [185, 0, 67, 1, 0, 153, 0, 49, 44, 185, 0, 72, 1, 0, 192, 0, 76, 78, 42, 180, 0, 18, 45]
abbrev dktX2_takes_1 : List UInt8 := dkwX2_takes_1 ++ dktX2_takes_2
def dkwX2_takes_0 : List UInt8 := [42, 180, 0, 18, 182, 0, 101, 43, 180, 0, 18, 182, 0, 57, 185, 0, 61, 1, 0, 77, 44]
abbrev dktX2_takes_0 : List UInt8 := dkwX2_takes_0 ++ dktX2_takes_1
theorem dksX2_takes_0 : cX2_takes.data.toList.drop 0 = dktX2_takes_0 := by decide +kernel
theorem dksX2_takes_1 : cX2_takes.data.toList.drop 21 = dktX2_takes_1 := dk_seg dksX2_takes_0 21 rfl rfl
theorem dksX2_takes_2 : cX2_takes.data.toList.drop 44 = dktX2_takes_2 := dk_seg dksX2_takes_1 23 rfl rfl
theorem dksX2_takes_3 : cX2_takes.data.toList.drop 68 = dktX2_takes_3 := dk_seg dksX2_takes_2 24 rfl rfl
theorem dX2_takes_0 : decode cX2_takes 0 = .ok (.aload_n 0, 1) := dk_42 (dk_at dksX2_takes_0 0 rfl rfl)
theorem dX2_takes_1 : decode cX2_takes 1 = .ok (.getfield 18, 3) := dk_180 0 18 (dk_at dksX2_takes_0 1 rfl rfl)
theorem dX2_takes_4 : decode cX2_takes 4 = .ok (.invokevirtual 101, 3) := dk_182 0 101 (dk_at dksX2_takes_0 4 rfl rfl)
theorem dX2_takes_7 : decode cX2_takes 7 = .ok (.aload_n 1, 1) := dk_43 (dk_at dksX2_takes_0 7 rfl rfl)
theorem dX2_takes_8 : decode cX2_takes 8 = .ok (.getfield 18, 3) := dk_180 0 18 (dk_at dksX2_takes_0 8 rfl rfl)
theorem dX2_takes_11 : decode cX2_takes 11 = .ok (.invokevirtual 57, 3) := dk_182 0 57 (dk_at dksX2_takes_0 11 rfl rfl)
theorem dX2_takes_14 : decode cX2_takes 14 = .ok (.invokeinterface 61 1, 5) := by decide +kernel
theorem dX2_takes_19 : decode cX2_takes 19 = .ok (.astore_n 2, 1) := dk_77 (dk_at dksX2_takes_0 19 rfl rfl)
theorem dX2_takes_20 : decode cX2_takes 20 = .ok (.aload_n 2, 1) := dk_44 (dk_at dksX2_takes_0 20 rfl rfl)
theorem dX2_takes_21 : decode cX2_takes 21 = .ok (.invokeinterface 67 1, 5) := by decide +kernel
theorem dX2_takes_26 : decode cX2_takes 26 = .ok (.ifCond .eq 49, 3) := dk_153 0 49 (dk_at dksX2_takes_1 5 rfl rfl)
theorem dX2_takes_29 : decode cX2_takes 29 = .ok (.aload_n 2, 1) := dk_44 (dk_at dksX2_takes_1 8 rfl rfl)
theorem dX2_takes_30 : decode cX2_takes 30 = .ok (.invokeinterface 72 1, 5) := by decide +kernel
theorem dX2_takes_35 : decode cX2_takes 35 = .ok (.checkcast 76, 3) := dk_192 0 76 (dk_at dksX2_takes_1 14 rfl rfl)
theorem dX2_takes_38 : decode cX2_takes 38 = .ok (.astore_n 3, 1) := dk_78 (dk_at dksX2_takes_1 17 rfl rfl)
theorem dX2_takes_39 : decode cX2_takes 39 = .ok (.aload_n 0, 1) := dk_42 (dk_at dksX2_takes_1 18 rfl rfl)
theorem dX2_takes_40 : decode cX2_takes 40 = .ok (.getfield 18, 3) := dk_180 0 18 (dk_at dksX2_takes_1 19 rfl rfl)
theorem dX2_takes_43 : decode cX2_takes 43 = .ok (.aload_n 3, 1) := dk_45 (dk_at dksX2_takes_1 22 rfl rfl)
theorem dX2_takes_44 : decode cX2_takes 44 = .ok (.invokeinterface 80 1, 5) := by decide +kernel
theorem dX2_takes_49 : decode cX2_takes 49 = .ok (.checkcast 83, 3) := dk_192 0 83 (dk_at dksX2_takes_2 5 rfl rfl)
theorem dX2_takes_52 : decode cX2_takes 52 = .ok (.new 47, 3) := dk_187 0 47 (dk_at dksX2_takes_2 8 rfl rfl)
theorem dX2_takes_55 : decode cX2_takes 55 = .ok (.dup, 1) := dk_89 (dk_at dksX2_takes_2 11 rfl rfl)
theorem dX2_takes_56 : decode cX2_takes 56 = .ok (.aload_n 3, 1) := dk_45 (dk_at dksX2_takes_2 12 rfl rfl)
theorem dX2_takes_57 : decode cX2_takes 57 = .ok (.invokeinterface 85 1, 5) := by decide +kernel
theorem dX2_takes_62 : decode cX2_takes 62 = .ok (.checkcast 47, 3) := dk_192 0 47 (dk_at dksX2_takes_2 18 rfl rfl)
theorem dX2_takes_65 : decode cX2_takes 65 = .ok (.invokespecial 104, 3) := dk_183 0 104 (dk_at dksX2_takes_2 21 rfl rfl)
theorem dX2_takes_68 : decode cX2_takes 68 = .ok (.invokevirtual 42, 3) := dk_182 0 42 (dk_at dksX2_takes_3 0 rfl rfl)
theorem dX2_takes_71 : decode cX2_takes 71 = .ok (.pop, 1) := dk_87 (dk_at dksX2_takes_3 3 rfl rfl)
theorem dX2_takes_72 : decode cX2_takes 72 = .ok (.goto (-52), 3) := dk_167 255 204 (dk_at dksX2_takes_3 4 rfl rfl)
theorem dX2_takes_75 : decode cX2_takes 75 = .ok (.aload_n 0, 1) := dk_42 (dk_at dksX2_takes_3 7 rfl rfl)
theorem dX2_takes_76 : decode cX2_takes 76 = .ok (.aload_n 1, 1) := dk_43 (dk_at dksX2_takes_3 8 rfl rfl)
theorem dX2_takes_77 : decode cX2_takes 77 = .ok (.getfield 31, 3) := dk_180 0 31 (dk_at dksX2_takes_3 9 rfl rfl)
theorem dX2_takes_80 : decode cX2_takes 80 = .ok (.putfield 31, 3) := dk_181 0 31 (dk_at dksX2_takes_3 12 rfl rfl)
theorem dX2_takes_83 : decode cX2_takes 83 = .ok (.return_, 1) := dk_177 (dk_at dksX2_takes_3 15 rfl rfl)
theorem q71 : (Jvm.Cond.initialized "SegmentedCache$Cache$Queue") ∈ lw_all := lw_g (lw_at lw_m1 3 rfl) rfl
theorem q147 : (Jvm.Cond.instantiable "SegmentedCache$Cache$Queue" (3 : Nat)) ∈ lw_all := lw_g (lw_at lw_m1 79 rfl) rfl
theorem q149 : (Jvm.Cond.instanceMethod ({ cls := "SegmentedCache$Cache$Queue", name := "<init>", desc := "(LSegmentedCache$Cache;)V" } : Jvm.MethodName)) ∈ lw_all := lw_g (lw_at lw_m1 81 rfl) rfl
theorem q150 : (Jvm.Cond.code ({ cls := "SegmentedCache$Cache$Queue", name := "<init>", desc := "(LSegmentedCache$Cache;)V" } : Jvm.MethodName) prog_3_method_1_code (2 : Nat) (Option.none : Option Jvm.ClassFile.FieldType)) ∈ lw_all := lw_g (lw_at lw_m1 82 rfl) rfl
theorem q151 : (Jvm.Cond.methodLink "SegmentedCache$Cache$Queue" (9 : Nat) ({ cls := "java/lang/Object", name := "<init>", desc := "()V" } : Jvm.MethodName)) ∈ lw_all := lw_g (lw_at lw_m1 83 rfl) rfl
theorem q152 : (Jvm.Cond.classLink "SegmentedCache$Cache$Queue" (15 : Nat) "java/util/LinkedHashMap") ∈ lw_all := lw_g (lw_at lw_m1 84 rfl) rfl
theorem q154 : (Jvm.Cond.methodLink "SegmentedCache$Cache$Queue" (17 : Nat) ({ cls := "java/util/LinkedHashMap", name := "<init>", desc := "()V" } : Jvm.MethodName)) ∈ lw_all := lw_g (lw_at lw_m1 86 rfl) rfl
theorem q210 : (Jvm.Cond.fieldLink "SegmentedCache$Cache$Queue" (18 : Nat) "SegmentedCache$Cache$Queue" "things" "Ljava/util/LinkedHashMap;") ∈ lw_all := lw_g (lw_at lw_m1 142 rfl) rfl
theorem q214 : (Jvm.Cond.fieldLink "SegmentedCache$Cache$Queue" (31 : Nat) "SegmentedCache$Cache$Queue" "weight" "I") ∈ lw_all := lw_g (lw_at lw_m1 146 rfl) rfl
theorem q217 : (Jvm.Cond.fieldLink "SegmentedCache$Cache$Queue" (3 : Nat) "SegmentedCache$Cache$Queue" "this$0" "LSegmentedCache$Cache;") ∈ lw_all := lw_g (lw_at lw_m1 149 rfl) rfl
theorem q218 : (Jvm.Cond.laysFinal "SegmentedCache$Cache$Queue" "SegmentedCache$Cache$Queue" "things" "Ljava/util/LinkedHashMap;") ∈ lw_all := lw_g (lw_at lw_m1 150 rfl) rfl
theorem q219 : (Jvm.Cond.soleField "SegmentedCache$Cache$Queue" "things") ∈ lw_all := lw_g (lw_at lw_m1 151 rfl) rfl
theorem q220 : (Jvm.Cond.lays "SegmentedCache$Cache$Queue" "SegmentedCache$Cache$Queue" "weight" "I") ∈ lw_all := lw_g (lw_at lw_m1 152 rfl) rfl
theorem q221 : (Jvm.Cond.soleField "SegmentedCache$Cache$Queue" "weight") ∈ lw_all := lw_g (lw_at lw_m1 153 rfl) rfl
theorem q222 : (Jvm.Cond.laysFinal "SegmentedCache$Cache$Queue" "SegmentedCache$Cache$Queue" "this$0" "LSegmentedCache$Cache;") ∈ lw_all := lw_g (lw_at lw_m1 154 rfl) rfl
theorem q223 : (Jvm.Cond.soleField "SegmentedCache$Cache$Queue" "this$0") ∈ lw_all := lw_g (lw_at lw_m1 155 rfl) rfl
theorem q224 : (Jvm.Cond.superclass "SegmentedCache$Cache$Queue" "java/lang/Object") ∈ lw_all := lw_g (lw_at lw_m1 156 rfl) rfl
theorem q273 : (Jvm.Cond.fieldLinkNest "SegmentedCache$Cache$Queue" (22 : Nat) "SegmentedCache$Cache" "probation" "LSegmentedCache$Cache$Queue;" "SegmentedCache") ∈ lw_tbl := lw_at lw_m1 205 rfl
theorem q276 : (Jvm.Cond.fieldLinkNest "SegmentedCache$Cache$Queue" (28 : Nat) "SegmentedCache$Cache" "guarded" "LSegmentedCache$Cache$Queue;" "SegmentedCache") ∈ lw_tbl := lw_at lw_m1 208 rfl
theorem q283 : (Jvm.Cond.fieldLinkNest "SegmentedCache$Cache$Queue" (39 : Nat) "SegmentedCache$Cache" "both" "I" "SegmentedCache") ∈ lw_tbl := lw_at lw_m1 215 rfl
theorem q505 : (Jvm.Cond.instanceMethod ({ cls := "SegmentedCache$Cache$Queue", name := "oldest", desc := "()LSegmentedCache$Going;" } : Jvm.MethodName)) ∈ lw_all := lw_g (lw_at lw_m2 197 rfl) rfl
theorem q506 : (Jvm.Cond.selects "SegmentedCache$Cache$Queue" ({ cls := "SegmentedCache$Cache$Queue", name := "oldest", desc := "()LSegmentedCache$Going;" } : Jvm.MethodName) ({ cls := "SegmentedCache$Cache$Queue", name := "oldest", desc := "()LSegmentedCache$Going;" } : Jvm.MethodName)) ∈ lw_all := lw_g (lw_at lw_m2 198 rfl) rfl
theorem q507 : (Jvm.Cond.code ({ cls := "SegmentedCache$Cache$Queue", name := "oldest", desc := "()LSegmentedCache$Going;" } : Jvm.MethodName) prog_3_method_6_code (4 : Nat) (Option.some (Jvm.ClassFile.FieldType.object "SegmentedCache$Going"))) ∈ lw_all := lw_g (lw_at lw_m2 199 rfl) rfl
theorem q508 : (Jvm.Cond.methodLink "SegmentedCache$Cache$Queue" (57 : Nat) ({ cls := "java/util/LinkedHashMap", name := "entrySet", desc := "()Ljava/util/Set;" } : Jvm.MethodName)) ∈ lw_all := lw_g (lw_at lw_m2 200 rfl) rfl
theorem q533 : (Jvm.Cond.interfaceEntry "SegmentedCache$Cache$Queue" (61 : Nat)) ∈ lw_tbl := lw_at lw_m2 225 rfl
theorem q534 : (Jvm.Cond.methodLink "SegmentedCache$Cache$Queue" (61 : Nat) ({ cls := "java/util/Set", name := "iterator", desc := "()Ljava/util/Iterator;" } : Jvm.MethodName)) ∈ lw_all := lw_g (lw_at lw_m2 226 rfl) rfl
theorem q586 : (Jvm.Cond.interfaceEntry "SegmentedCache$Cache$Queue" (67 : Nat)) ∈ lw_tbl := lw_at lw_m3 38 rfl
theorem q587 : (Jvm.Cond.methodLink "SegmentedCache$Cache$Queue" (67 : Nat) ({ cls := "java/util/Iterator", name := "hasNext", desc := "()Z" } : Jvm.MethodName)) ∈ lw_all := lw_g (lw_at lw_m3 39 rfl) rfl
theorem q626 : (Jvm.Cond.interfaceEntry "SegmentedCache$Cache$Queue" (72 : Nat)) ∈ lw_tbl := lw_at lw_m3 78 rfl
theorem q627 : (Jvm.Cond.methodLink "SegmentedCache$Cache$Queue" (72 : Nat) ({ cls := "java/util/Iterator", name := "next", desc := "()Ljava/lang/Object;" } : Jvm.MethodName)) ∈ lw_all := lw_g (lw_at lw_m3 79 rfl) rfl
theorem q1047 : (Jvm.Cond.selects "SegmentedCache$Cache$Queue" ({ cls := "java/lang/Object", name := "getClass", desc := "()Ljava/lang/Class;" } : Jvm.MethodName) ({ cls := "java/lang/Object", name := "getClass", desc := "()Ljava/lang/Class;" } : Jvm.MethodName)) ∈ lw_all := lw_g (lw_at lw_m5 19 rfl) rfl
theorem q1186 : (Jvm.Cond.classLink "SegmentedCache$Cache$Queue" (76 : Nat) "java/util/Map$Entry") ∈ lw_all := lw_g (lw_at lw_m5 158 rfl) rfl
theorem q1187 : (Jvm.Cond.classLink "SegmentedCache$Cache$Queue" (78 : Nat) "SegmentedCache$Going") ∈ lw_all := lw_g (lw_at lw_m5 159 rfl) rfl
theorem q1189 : (Jvm.Cond.interfaceEntry "SegmentedCache$Cache$Queue" (80 : Nat)) ∈ lw_tbl := lw_at lw_m5 161 rfl
theorem q1190 : (Jvm.Cond.methodLink "SegmentedCache$Cache$Queue" (80 : Nat) ({ cls := "java/util/Map$Entry", name := "getKey", desc := "()Ljava/lang/Object;" } : Jvm.MethodName)) ∈ lw_all := lw_g (lw_at lw_m5 162 rfl) rfl
theorem q1203 : (Jvm.Cond.classLink "SegmentedCache$Cache$Queue" (83 : Nat) "SegmentedCache$Key") ∈ lw_all := lw_g (lw_at lw_m5 175 rfl) rfl
theorem q1204 : (Jvm.Cond.interfaceEntry "SegmentedCache$Cache$Queue" (85 : Nat)) ∈ lw_tbl := lw_at lw_m5 176 rfl
theorem q1205 : (Jvm.Cond.methodLink "SegmentedCache$Cache$Queue" (85 : Nat) ({ cls := "java/util/Map$Entry", name := "getValue", desc := "()Ljava/lang/Object;" } : Jvm.MethodName)) ∈ lw_all := lw_g (lw_at lw_m5 177 rfl) rfl
theorem q1217 : (Jvm.Cond.classLink "SegmentedCache$Cache$Queue" (47 : Nat) "SegmentedCache$Thing") ∈ lw_all := lw_g (lw_at lw_m5 189 rfl) rfl
theorem q1218 : (Jvm.Cond.methodLink "SegmentedCache$Cache$Queue" (88 : Nat) ({ cls := "SegmentedCache$Going", name := "<init>", desc := "(LSegmentedCache$Key;LSegmentedCache$Thing;)V" } : Jvm.MethodName)) ∈ lw_all := lw_g (lw_at lw_m5 190 rfl) rfl
theorem q1226 : (Jvm.Cond.fieldLinkNest "SegmentedCache$Cache$Queue" (91 : Nat) "SegmentedCache$Going" "thing" "LSegmentedCache$Thing;" "SegmentedCache") ∈ lw_tbl := lw_at lw_m5 198 rfl
theorem q1232 : (Jvm.Cond.interfaceEntry "SegmentedCache$Cache$Queue" (99 : Nat)) ∈ lw_tbl := lw_at lw_m5 204 rfl
theorem q1233 : (Jvm.Cond.methodLink "SegmentedCache$Cache$Queue" (99 : Nat) ({ cls := "java/util/Iterator", name := "remove", desc := "()V" } : Jvm.MethodName)) ∈ lw_all := lw_g (lw_at lw_m5 205 rfl) rfl
theorem q1319 : (Jvm.Cond.selects "SegmentedCache$Cache$Queue" ({ cls := "java/lang/Object", name := "equals", desc := "(Ljava/lang/Object;)Z" } : Jvm.MethodName) ({ cls := "java/lang/Object", name := "equals", desc := "(Ljava/lang/Object;)Z" } : Jvm.MethodName)) ∈ lw_all := lw_g (lw_at lw_m6 51 rfl) rfl
theorem q1658 : (Jvm.Cond.methodLink "SegmentedCache$Cache$Queue" (49 : Nat) ({ cls := "SegmentedCache$Cache$Queue", name := "weighs", desc := "(I)V" } : Jvm.MethodName)) ∈ lw_all := lw_g (lw_at lw_m7 150 rfl) rfl
theorem q1659 : (Jvm.Cond.privateMethod ({ cls := "SegmentedCache$Cache$Queue", name := "weighs", desc := "(I)V" } : Jvm.MethodName)) ∈ lw_tbl := lw_at lw_m7 151 rfl
theorem q1660 : (Jvm.Cond.instanceMethod ({ cls := "SegmentedCache$Cache$Queue", name := "weighs", desc := "(I)V" } : Jvm.MethodName)) ∈ lw_all := lw_g (lw_at lw_m7 152 rfl) rfl
theorem q1661 : (Jvm.Cond.code ({ cls := "SegmentedCache$Cache$Queue", name := "weighs", desc := "(I)V" } : Jvm.MethodName) prog_3_method_3_code (2 : Nat) (Option.none : Option Jvm.ClassFile.FieldType)) ∈ lw_all := lw_g (lw_at lw_m7 153 rfl) rfl
theorem q1662 : (Jvm.Cond.methodLink "SegmentedCache$Cache$Queue" (35 : Nat) ({ cls := "SegmentedCache$Cache$Queue", name := "isQueue", desc := "()Z" } : Jvm.MethodName)) ∈ lw_all := lw_g (lw_at lw_m7 154 rfl) rfl
theorem q1663 : (Jvm.Cond.privateMethod ({ cls := "SegmentedCache$Cache$Queue", name := "isQueue", desc := "()Z" } : Jvm.MethodName)) ∈ lw_tbl := lw_at lw_m7 155 rfl
theorem q1664 : (Jvm.Cond.instanceMethod ({ cls := "SegmentedCache$Cache$Queue", name := "isQueue", desc := "()Z" } : Jvm.MethodName)) ∈ lw_all := lw_g (lw_at lw_m7 156 rfl) rfl
theorem q1665 : (Jvm.Cond.code ({ cls := "SegmentedCache$Cache$Queue", name := "isQueue", desc := "()Z" } : Jvm.MethodName) prog_3_method_2_code (1 : Nat) (Option.some Jvm.ClassFile.FieldType.boolean)) ∈ lw_all := lw_g (lw_at lw_m7 157 rfl) rfl
theorem q1667 : (Jvm.Cond.instanceMethod ({ cls := "SegmentedCache$Cache$Queue", name := "adds", desc := "(LSegmentedCache$Key;LSegmentedCache$Thing;)V" } : Jvm.MethodName)) ∈ lw_all := lw_g (lw_at lw_m7 159 rfl) rfl
theorem q1668 : (Jvm.Cond.selects "SegmentedCache$Cache$Queue" ({ cls := "SegmentedCache$Cache$Queue", name := "adds", desc := "(LSegmentedCache$Key;LSegmentedCache$Thing;)V" } : Jvm.MethodName) ({ cls := "SegmentedCache$Cache$Queue", name := "adds", desc := "(LSegmentedCache$Key;LSegmentedCache$Thing;)V" } : Jvm.MethodName)) ∈ lw_all := lw_g (lw_at lw_m7 160 rfl) rfl
theorem q1669 : (Jvm.Cond.code ({ cls := "SegmentedCache$Cache$Queue", name := "adds", desc := "(LSegmentedCache$Key;LSegmentedCache$Thing;)V" } : Jvm.MethodName) prog_3_method_4_code (3 : Nat) (Option.none : Option Jvm.ClassFile.FieldType)) ∈ lw_all := lw_g (lw_at lw_m7 161 rfl) rfl
theorem q1670 : (Jvm.Cond.methodLink "SegmentedCache$Cache$Queue" (42 : Nat) ({ cls := "java/util/LinkedHashMap", name := "put", desc := "(Ljava/lang/Object;Ljava/lang/Object;)Ljava/lang/Object;" } : Jvm.MethodName)) ∈ lw_all := lw_g (lw_at lw_m7 162 rfl) rfl
theorem q1685 : (Jvm.Cond.selects "SegmentedCache$Cache$Queue" ({ cls := "java/lang/Object", name := "hashCode", desc := "()I" } : Jvm.MethodName) ({ cls := "java/lang/Object", name := "hashCode", desc := "()I" } : Jvm.MethodName)) ∈ lw_all := lw_g (lw_at lw_m7 177 rfl) rfl
theorem q1890 : (Jvm.Cond.fieldLinkNest "SegmentedCache$Cache$Queue" (46 : Nat) "SegmentedCache$Thing" "weight" "I" "SegmentedCache") ∈ lw_tbl := lw_at lw_m8 142 rfl
theorem q1906 : (Jvm.Cond.fieldLinkNest "SegmentedCache$Cache$Queue" (95 : Nat) "SegmentedCache$Thing" "isPinned" "Z" "SegmentedCache") ∈ lw_tbl := lw_at lw_m8 158 rfl
theorem q2052 : (Jvm.Cond.instanceMethod ({ cls := "SegmentedCache$Cache$Queue", name := "loses", desc := "(LSegmentedCache$Key;)LSegmentedCache$Thing;" } : Jvm.MethodName)) ∈ lw_all := lw_g (lw_at lw_m9 64 rfl) rfl
theorem q2053 : (Jvm.Cond.selects "SegmentedCache$Cache$Queue" ({ cls := "SegmentedCache$Cache$Queue", name := "loses", desc := "(LSegmentedCache$Key;)LSegmentedCache$Thing;" } : Jvm.MethodName) ({ cls := "SegmentedCache$Cache$Queue", name := "loses", desc := "(LSegmentedCache$Key;)LSegmentedCache$Thing;" } : Jvm.MethodName)) ∈ lw_all := lw_g (lw_at lw_m9 65 rfl) rfl
theorem q2054 : (Jvm.Cond.code ({ cls := "SegmentedCache$Cache$Queue", name := "loses", desc := "(LSegmentedCache$Key;)LSegmentedCache$Thing;" } : Jvm.MethodName) prog_3_method_5_code (3 : Nat) (Option.some (Jvm.ClassFile.FieldType.object "SegmentedCache$Thing"))) ∈ lw_all := lw_g (lw_at lw_m9 66 rfl) rfl
theorem q2055 : (Jvm.Cond.methodLink "SegmentedCache$Cache$Queue" (53 : Nat) ({ cls := "java/util/LinkedHashMap", name := "remove", desc := "(Ljava/lang/Object;)Ljava/lang/Object;" } : Jvm.MethodName)) ∈ lw_all := lw_g (lw_at lw_m9 67 rfl) rfl
theorem q2099 : (Jvm.Cond.instanceMethod ({ cls := "SegmentedCache$Cache$Queue", name := "placeOf", desc := "(LSegmentedCache$Key;)I" } : Jvm.MethodName)) ∈ lw_all := lw_g (lw_at lw_m9 111 rfl) rfl
theorem q2100 : (Jvm.Cond.selects "SegmentedCache$Cache$Queue" ({ cls := "SegmentedCache$Cache$Queue", name := "placeOf", desc := "(LSegmentedCache$Key;)I" } : Jvm.MethodName) ({ cls := "SegmentedCache$Cache$Queue", name := "placeOf", desc := "(LSegmentedCache$Key;)I" } : Jvm.MethodName)) ∈ lw_all := lw_g (lw_at lw_m9 112 rfl) rfl
theorem q2101 : (Jvm.Cond.code ({ cls := "SegmentedCache$Cache$Queue", name := "placeOf", desc := "(LSegmentedCache$Key;)I" } : Jvm.MethodName) prog_3_method_8_code (5 : Nat) (Option.some Jvm.ClassFile.FieldType.int)) ∈ lw_all := lw_g (lw_at lw_m9 113 rfl) rfl
theorem q2102 : (Jvm.Cond.methodLink "SegmentedCache$Cache$Queue" (107 : Nat) ({ cls := "java/util/LinkedHashMap", name := "keySet", desc := "()Ljava/util/Set;" } : Jvm.MethodName)) ∈ lw_all := lw_g (lw_at lw_m9 114 rfl) rfl
theorem q2123 : (Jvm.Cond.methodLink "SegmentedCache$Cache$Queue" (110 : Nat) ({ cls := "SegmentedCache$Key", name := "equals", desc := "(Ljava/lang/Object;)Z" } : Jvm.MethodName)) ∈ lw_all := lw_g (lw_at lw_m9 135 rfl) rfl
theorem q2129 : (Jvm.Cond.instanceMethod ({ cls := "SegmentedCache$Cache$Queue", name := "at", desc := "(I)I" } : Jvm.MethodName)) ∈ lw_all := lw_g (lw_at lw_m9 141 rfl) rfl
theorem q2130 : (Jvm.Cond.selects "SegmentedCache$Cache$Queue" ({ cls := "SegmentedCache$Cache$Queue", name := "at", desc := "(I)I" } : Jvm.MethodName) ({ cls := "SegmentedCache$Cache$Queue", name := "at", desc := "(I)I" } : Jvm.MethodName)) ∈ lw_all := lw_g (lw_at lw_m9 142 rfl) rfl
theorem q2131 : (Jvm.Cond.code ({ cls := "SegmentedCache$Cache$Queue", name := "at", desc := "(I)I" } : Jvm.MethodName) prog_3_method_9_code (5 : Nat) (Option.some Jvm.ClassFile.FieldType.int)) ∈ lw_all := lw_g (lw_at lw_m9 143 rfl) rfl
theorem q2132 : (Jvm.Cond.methodLink "SegmentedCache$Cache$Queue" (114 : Nat) ({ cls := "SegmentedCache$Key", name := "told", desc := "()I" } : Jvm.MethodName)) ∈ lw_all := lw_g (lw_at lw_m9 144 rfl) rfl
theorem q2617 : (Jvm.Cond.instanceMethod ({ cls := "SegmentedCache$Cache$Queue", name := "takes", desc := "(LSegmentedCache$Cache$Queue;)V" } : Jvm.MethodName)) ∈ lw_all := lw_g (lw_at lw_m11 149 rfl) rfl
theorem q2618 : (Jvm.Cond.selects "SegmentedCache$Cache$Queue" ({ cls := "SegmentedCache$Cache$Queue", name := "takes", desc := "(LSegmentedCache$Cache$Queue;)V" } : Jvm.MethodName) ({ cls := "SegmentedCache$Cache$Queue", name := "takes", desc := "(LSegmentedCache$Cache$Queue;)V" } : Jvm.MethodName)) ∈ lw_all := lw_g (lw_at lw_m11 150 rfl) rfl
theorem q2619 : (Jvm.Cond.code ({ cls := "SegmentedCache$Cache$Queue", name := "takes", desc := "(LSegmentedCache$Cache$Queue;)V" } : Jvm.MethodName) prog_3_method_7_code (4 : Nat) (Option.none : Option Jvm.ClassFile.FieldType)) ∈ lw_all := lw_g (lw_at lw_m11 151 rfl) rfl
theorem q2620 : (Jvm.Cond.methodLink "SegmentedCache$Cache$Queue" (101 : Nat) ({ cls := "java/util/LinkedHashMap", name := "clear", desc := "()V" } : Jvm.MethodName)) ∈ lw_all := lw_g (lw_at lw_m11 152 rfl) rfl
theorem q2627 : (Jvm.Cond.methodLink "SegmentedCache$Cache$Queue" (104 : Nat) ({ cls := "SegmentedCache$Thing", name := "<init>", desc := "(LSegmentedCache$Thing;)V" } : Jvm.MethodName)) ∈ lw_all := lw_g (lw_at lw_m11 159 rfl) rfl
theorem q3044 : (Jvm.Cond.castable "SegmentedCache$Cache$Queue" "java/lang/Object") ∈ lw_tbl := lw_at lw_m13 96 rfl
theorem in_X2 : ∀ w ∈ wsX20, w ∈ lw_all := lw_in wsX20 [218, 220, 222] (by decide +kernel) (by decide +kernel)
/-! SegmentedCache$Sketch -/
set_option maxRecDepth 100000
def RX3 : String := "SegmentedCache$Sketch"
def TX3 : u_T := fun k => match k with
  | 0 => ("SegmentedCache$Sketch", "where", "[I", true)
  | 1 => ("SegmentedCache$Sketch", "next", "[I", true)
  | 2 => ("SegmentedCache$Sketch", "ahead", "[I", true)
  | 3 => ("SegmentedCache$Sketch", "weights", "[I", true)
  | 4 => ("SegmentedCache$Sketch", "hit", "[I", true)
  | 5 => ("SegmentedCache$Sketch", "chances", "[I", true)
  | 6 => ("SegmentedCache$Sketch", "pinned", "[Z", true)
  | 7 => ("SegmentedCache$Sketch", "first", "[I", true)
  | 8 => ("SegmentedCache$Sketch", "last", "[I", true)
  | 9 => ("SegmentedCache$Sketch", "together", "[I", true)
  | 10 => ("SegmentedCache$Sketch", "capacity", "I", false)
  | 11 => ("SegmentedCache$Sketch", "border", "I", false)
  | 12 => ("SegmentedCache$Sketch", "rise", "I", false)
  | 13 => ("SegmentedCache$Sketch", "lives", "I", false)
  | 14 => ("SegmentedCache$Sketch", "had", "I", false)
  | 15 => ("SegmentedCache$Sketch", "missed", "I", false)
  | 16 => ("SegmentedCache$Sketch", "haunted", "I", false)
  | 17 => ("SegmentedCache$Sketch", "went", "I", false)
  | _ => ("SegmentedCache$Sketch", "latest", "I", false)
def tyX3 : Nat → FieldType := fun k => match k with
  | 0 => .array .int
  | 1 => .array .int
  | 2 => .array .int
  | 3 => .array .int
  | 4 => .array .int
  | 5 => .array .int
  | 6 => .array .boolean
  | 7 => .array .int
  | 8 => .array .int
  | 9 => .array .int
  | 10 => .int
  | 11 => .int
  | 12 => .int
  | 13 => .int
  | 14 => .int
  | 15 => .int
  | 16 => .int
  | 17 => .int
  | _ => .int
abbrev wsX30 : List Cond := u_ws RX3 TX3 19
set_option maxRecDepth 100000 in
theorem nmX3 : ∀ a, a < 19 → ∀ b, b < 19 → a ≠ b → (TX3 a).2.1 ≠ (TX3 b).2.1 := by decide +kernel
set_option maxRecDepth 100000 in
theorem tyX3_ok : ∀ k, k < 19 → parseFieldDescriptor (TX3 k).2.2.1 = some (tyX3 k) := by decide +kernel
abbrev cX3_init : ByteArray := prog_9_method_1_code
def yX3_init : MethodName := ⟨RX3, "<init>", "()V"⟩
def dkwX3_init_3 : List UInt8 := [188, 10, 181, 0, 34, 42, 8, 188, 10, 181, 0, 37, 42, 8, 188, 10, 181, 0, 40, 177]
abbrev dktX3_init_3 : List UInt8 := dkwX3_init_3 ++ []
def dkwX3_init_2 : List UInt8 := [181, 0, 24, 42, 17, 1, 144, 188, 10, 181, 0, 27, 42, 17, 1, 144, 188, 4, 181, 0, 30, 42, 8]
abbrev dktX3_init_2 : List UInt8 := dkwX3_init_2 ++ dktX3_init_3
def dkwX3_init_1 : List UInt8 := [17, 1, 144, 188, 10, 181, 0, 18, 42, 17, 1, 144, 188, 10, 181, 0, 21, 42, 17, 1, 144, 188, 10]
abbrev dktX3_init_1 : List UInt8 := dkwX3_init_1 ++ dktX3_init_2
def dkwX3_init_0 : List UInt8 := [42, 183, 0, 3, 42, 17, 1, 144, 188, 10, 181, 0, 11, 42, 17, 1, 144, 188, 10, 181, 0, 15, 42]
abbrev dktX3_init_0 : List UInt8 := dkwX3_init_0 ++ dktX3_init_1
theorem dksX3_init_0 : cX3_init.data.toList.drop 0 = dktX3_init_0 := by decide +kernel
theorem dksX3_init_1 : cX3_init.data.toList.drop 23 = dktX3_init_1 := dk_seg dksX3_init_0 23 rfl rfl
theorem dksX3_init_2 : cX3_init.data.toList.drop 46 = dktX3_init_2 := dk_seg dksX3_init_1 23 rfl rfl
theorem dksX3_init_3 : cX3_init.data.toList.drop 69 = dktX3_init_3 := dk_seg dksX3_init_2 23 rfl rfl
theorem dX3_init_0 : decode cX3_init 0 = .ok (.aload_n 0, 1) := dk_42 (dk_at dksX3_init_0 0 rfl rfl)
theorem dX3_init_1 : decode cX3_init 1 = .ok (.invokespecial 3, 3) := dk_183 0 3 (dk_at dksX3_init_0 1 rfl rfl)
theorem dX3_init_4 : decode cX3_init 4 = .ok (.aload_n 0, 1) := dk_42 (dk_at dksX3_init_0 4 rfl rfl)
theorem dX3_init_5 : decode cX3_init 5 = .ok (.sipush 400, 3) := dk_17 1 144 (dk_at dksX3_init_0 5 rfl rfl)
theorem dX3_init_8 : decode cX3_init 8 = .ok (.newarray .int, 2) := dk_188_10 (dk_at dksX3_init_0 8 rfl rfl)
theorem dX3_init_10 : decode cX3_init 10 = .ok (.putfield 11, 3) := dk_181 0 11 (dk_at dksX3_init_0 10 rfl rfl)
theorem dX3_init_13 : decode cX3_init 13 = .ok (.aload_n 0, 1) := dk_42 (dk_at dksX3_init_0 13 rfl rfl)
theorem dX3_init_14 : decode cX3_init 14 = .ok (.sipush 400, 3) := dk_17 1 144 (dk_at dksX3_init_0 14 rfl rfl)
theorem dX3_init_17 : decode cX3_init 17 = .ok (.newarray .int, 2) := dk_188_10 (dk_at dksX3_init_0 17 rfl rfl)
theorem dX3_init_19 : decode cX3_init 19 = .ok (.putfield 15, 3) := dk_181 0 15 (dk_at dksX3_init_0 19 rfl rfl)
theorem dX3_init_22 : decode cX3_init 22 = .ok (.aload_n 0, 1) := dk_42 (dk_at dksX3_init_0 22 rfl rfl)
theorem dX3_init_23 : decode cX3_init 23 = .ok (.sipush 400, 3) := dk_17 1 144 (dk_at dksX3_init_1 0 rfl rfl)
theorem dX3_init_26 : decode cX3_init 26 = .ok (.newarray .int, 2) := dk_188_10 (dk_at dksX3_init_1 3 rfl rfl)
theorem dX3_init_28 : decode cX3_init 28 = .ok (.putfield 18, 3) := dk_181 0 18 (dk_at dksX3_init_1 5 rfl rfl)
theorem dX3_init_31 : decode cX3_init 31 = .ok (.aload_n 0, 1) := dk_42 (dk_at dksX3_init_1 8 rfl rfl)
theorem dX3_init_32 : decode cX3_init 32 = .ok (.sipush 400, 3) := dk_17 1 144 (dk_at dksX3_init_1 9 rfl rfl)
theorem dX3_init_35 : decode cX3_init 35 = .ok (.newarray .int, 2) := dk_188_10 (dk_at dksX3_init_1 12 rfl rfl)
theorem dX3_init_37 : decode cX3_init 37 = .ok (.putfield 21, 3) := dk_181 0 21 (dk_at dksX3_init_1 14 rfl rfl)
theorem dX3_init_40 : decode cX3_init 40 = .ok (.aload_n 0, 1) := dk_42 (dk_at dksX3_init_1 17 rfl rfl)
theorem dX3_init_41 : decode cX3_init 41 = .ok (.sipush 400, 3) := dk_17 1 144 (dk_at dksX3_init_1 18 rfl rfl)
theorem dX3_init_44 : decode cX3_init 44 = .ok (.newarray .int, 2) := dk_188_10 (dk_at dksX3_init_1 21 rfl rfl)
theorem dX3_init_46 : decode cX3_init 46 = .ok (.putfield 24, 3) := dk_181 0 24 (dk_at dksX3_init_2 0 rfl rfl)
theorem dX3_init_49 : decode cX3_init 49 = .ok (.aload_n 0, 1) := dk_42 (dk_at dksX3_init_2 3 rfl rfl)
theorem dX3_init_50 : decode cX3_init 50 = .ok (.sipush 400, 3) := dk_17 1 144 (dk_at dksX3_init_2 4 rfl rfl)
theorem dX3_init_53 : decode cX3_init 53 = .ok (.newarray .int, 2) := dk_188_10 (dk_at dksX3_init_2 7 rfl rfl)
theorem dX3_init_55 : decode cX3_init 55 = .ok (.putfield 27, 3) := dk_181 0 27 (dk_at dksX3_init_2 9 rfl rfl)
theorem dX3_init_58 : decode cX3_init 58 = .ok (.aload_n 0, 1) := dk_42 (dk_at dksX3_init_2 12 rfl rfl)
theorem dX3_init_59 : decode cX3_init 59 = .ok (.sipush 400, 3) := dk_17 1 144 (dk_at dksX3_init_2 13 rfl rfl)
theorem dX3_init_62 : decode cX3_init 62 = .ok (.newarray .boolean, 2) := dk_188_4 (dk_at dksX3_init_2 16 rfl rfl)
theorem dX3_init_64 : decode cX3_init 64 = .ok (.putfield 30, 3) := dk_181 0 30 (dk_at dksX3_init_2 18 rfl rfl)
theorem dX3_init_67 : decode cX3_init 67 = .ok (.aload_n 0, 1) := dk_42 (dk_at dksX3_init_2 21 rfl rfl)
theorem dX3_init_68 : decode cX3_init 68 = .ok (.iconst 5, 1) := dk_8 (dk_at dksX3_init_2 22 rfl rfl)
theorem dX3_init_69 : decode cX3_init 69 = .ok (.newarray .int, 2) := dk_188_10 (dk_at dksX3_init_3 0 rfl rfl)
theorem dX3_init_71 : decode cX3_init 71 = .ok (.putfield 34, 3) := dk_181 0 34 (dk_at dksX3_init_3 2 rfl rfl)
theorem dX3_init_74 : decode cX3_init 74 = .ok (.aload_n 0, 1) := dk_42 (dk_at dksX3_init_3 5 rfl rfl)
theorem dX3_init_75 : decode cX3_init 75 = .ok (.iconst 5, 1) := dk_8 (dk_at dksX3_init_3 6 rfl rfl)
theorem dX3_init_76 : decode cX3_init 76 = .ok (.newarray .int, 2) := dk_188_10 (dk_at dksX3_init_3 7 rfl rfl)
theorem dX3_init_78 : decode cX3_init 78 = .ok (.putfield 37, 3) := dk_181 0 37 (dk_at dksX3_init_3 9 rfl rfl)
theorem dX3_init_81 : decode cX3_init 81 = .ok (.aload_n 0, 1) := dk_42 (dk_at dksX3_init_3 12 rfl rfl)
theorem dX3_init_82 : decode cX3_init 82 = .ok (.iconst 5, 1) := dk_8 (dk_at dksX3_init_3 13 rfl rfl)
theorem dX3_init_83 : decode cX3_init 83 = .ok (.newarray .int, 2) := dk_188_10 (dk_at dksX3_init_3 14 rfl rfl)
theorem dX3_init_85 : decode cX3_init 85 = .ok (.putfield 40, 3) := dk_181 0 40 (dk_at dksX3_init_3 16 rfl rfl)
theorem dX3_init_88 : decode cX3_init 88 = .ok (.return_, 1) := dk_177 (dk_at dksX3_init_3 19 rfl rfl)
abbrev cX3_of : ByteArray := prog_9_method_3_code
def yX3_of : MethodName := ⟨RX3, "of", "(LSegmentedCache$Cache;)LSegmentedCache$Sketch;"⟩
def dkwX3_of_8 : List UInt8 := [42, 3, 181, 0, 134, 42, 3, 181, 0, 137, 42, 176]
abbrev dktX3_of_8 : List UInt8 := dkwX3_of_8 ++ []
def dkwX3_of_7 : List UInt8 := [180, 0, 120, 181, 0, 123, 42, 43, 180, 0, 124, 181, 0, 127, 42, 3, 181, 0, 128, 42, 3, 181, 0, 131]
abbrev dktX3_of_7 : List UInt8 := dkwX3_of_7 ++ dktX3_of_8
def dkwX3_of_6 : List UInt8 := [132, 2, 1, 167, 255, 120, 42, 43, 180, 0, 112, 181, 0, 115, 42, 43, 180, 0, 116, 181, 0, 119, 42, 43]
abbrev dktX3_of_6 : List UInt8 := dkwX3_of_6 ++ dktX3_of_7
def dkwX3_of_5 : List UInt8 := [42, 180, 0, 30, 21, 5, 25, 4, 185, 0, 90, 1, 0, 192, 0, 93, 180, 0, 108, 84, 167, 255, 148]
abbrev dktX3_of_5 : List UInt8 := dkwX3_of_5 ++ dktX3_of_6
def dkwX3_of_4 : List UInt8 := [28, 182, 0, 101, 42, 180, 0, 24, 21, 5, 25, 4, 185, 0, 90, 1, 0, 192, 0, 93, 180, 0, 105, 79]
abbrev dktX3_of_4 : List UInt8 := dkwX3_of_4 ++ dktX3_of_5
def dkwX3_of_3 : List UInt8 := [185, 0, 90, 1, 0, 192, 0, 93, 180, 0, 95, 25, 4, 185, 0, 90, 1, 0, 192, 0, 93, 180, 0, 99]
abbrev dktX3_of_3 : List UInt8 := dkwX3_of_3 ++ dktX3_of_4
def dkwX3_of_2 : List UInt8 := [58, 4, 25, 4, 185, 0, 81, 1, 0, 192, 0, 84, 182, 0, 86, 54, 5, 42, 21, 5, 25, 4]
abbrev dktX3_of_2 : List UInt8 := dkwX3_of_2 ++ dktX3_of_3
def dkwX3_of_1 : List UInt8 := [185, 0, 64, 1, 0, 78, 45, 185, 0, 70, 1, 0, 153, 0, 105, 45, 185, 0, 76, 1, 0, 192, 0, 79]
abbrev dktX3_of_1 : List UInt8 := dkwX3_of_1 ++ dktX3_of_2
def dkwX3_of_0 : List UInt8 := [42, 182, 0, 43, 4, 61, 28, 7, 163, 0, 137, 43, 28, 182, 0, 46, 180, 0, 52, 182, 0, 58]
abbrev dktX3_of_0 : List UInt8 := dkwX3_of_0 ++ dktX3_of_1
theorem dksX3_of_0 : cX3_of.data.toList.drop 0 = dktX3_of_0 := by decide +kernel
theorem dksX3_of_1 : cX3_of.data.toList.drop 22 = dktX3_of_1 := dk_seg dksX3_of_0 22 rfl rfl
theorem dksX3_of_2 : cX3_of.data.toList.drop 46 = dktX3_of_2 := dk_seg dksX3_of_1 24 rfl rfl
theorem dksX3_of_3 : cX3_of.data.toList.drop 68 = dktX3_of_3 := dk_seg dksX3_of_2 22 rfl rfl
theorem dksX3_of_4 : cX3_of.data.toList.drop 92 = dktX3_of_4 := dk_seg dksX3_of_3 24 rfl rfl
theorem dksX3_of_5 : cX3_of.data.toList.drop 116 = dktX3_of_5 := dk_seg dksX3_of_4 24 rfl rfl
theorem dksX3_of_6 : cX3_of.data.toList.drop 139 = dktX3_of_6 := dk_seg dksX3_of_5 23 rfl rfl
theorem dksX3_of_7 : cX3_of.data.toList.drop 163 = dktX3_of_7 := dk_seg dksX3_of_6 24 rfl rfl
theorem dksX3_of_8 : cX3_of.data.toList.drop 187 = dktX3_of_8 := dk_seg dksX3_of_7 24 rfl rfl
theorem dX3_of_0 : decode cX3_of 0 = .ok (.aload_n 0, 1) := dk_42 (dk_at dksX3_of_0 0 rfl rfl)
theorem dX3_of_1 : decode cX3_of 1 = .ok (.invokevirtual 43, 3) := dk_182 0 43 (dk_at dksX3_of_0 1 rfl rfl)
theorem dX3_of_4 : decode cX3_of 4 = .ok (.iconst 1, 1) := dk_4 (dk_at dksX3_of_0 4 rfl rfl)
theorem dX3_of_5 : decode cX3_of 5 = .ok (.istore_n 2, 1) := dk_61 (dk_at dksX3_of_0 5 rfl rfl)
theorem dX3_of_6 : decode cX3_of 6 = .ok (.iload_n 2, 1) := dk_28 (dk_at dksX3_of_0 6 rfl rfl)
theorem dX3_of_7 : decode cX3_of 7 = .ok (.iconst 4, 1) := dk_7 (dk_at dksX3_of_0 7 rfl rfl)
theorem dX3_of_8 : decode cX3_of 8 = .ok (.if_icmp .gt 137, 3) := dk_163 0 137 (dk_at dksX3_of_0 8 rfl rfl)
theorem dX3_of_11 : decode cX3_of 11 = .ok (.aload_n 1, 1) := dk_43 (dk_at dksX3_of_0 11 rfl rfl)
theorem dX3_of_12 : decode cX3_of 12 = .ok (.iload_n 2, 1) := dk_28 (dk_at dksX3_of_0 12 rfl rfl)
theorem dX3_of_13 : decode cX3_of 13 = .ok (.invokevirtual 46, 3) := dk_182 0 46 (dk_at dksX3_of_0 13 rfl rfl)
theorem dX3_of_16 : decode cX3_of 16 = .ok (.getfield 52, 3) := dk_180 0 52 (dk_at dksX3_of_0 16 rfl rfl)
theorem dX3_of_19 : decode cX3_of 19 = .ok (.invokevirtual 58, 3) := dk_182 0 58 (dk_at dksX3_of_0 19 rfl rfl)
theorem dX3_of_22 : decode cX3_of 22 = .ok (.invokeinterface 64 1, 5) := by decide +kernel
theorem dX3_of_27 : decode cX3_of 27 = .ok (.astore_n 3, 1) := dk_78 (dk_at dksX3_of_1 5 rfl rfl)
theorem dX3_of_28 : decode cX3_of 28 = .ok (.aload_n 3, 1) := dk_45 (dk_at dksX3_of_1 6 rfl rfl)
theorem dX3_of_29 : decode cX3_of 29 = .ok (.invokeinterface 70 1, 5) := by decide +kernel
theorem dX3_of_34 : decode cX3_of 34 = .ok (.ifCond .eq 105, 3) := dk_153 0 105 (dk_at dksX3_of_1 12 rfl rfl)
theorem dX3_of_37 : decode cX3_of 37 = .ok (.aload_n 3, 1) := dk_45 (dk_at dksX3_of_1 15 rfl rfl)
theorem dX3_of_38 : decode cX3_of 38 = .ok (.invokeinterface 76 1, 5) := by decide +kernel
theorem dX3_of_43 : decode cX3_of 43 = .ok (.checkcast 79, 3) := dk_192 0 79 (dk_at dksX3_of_1 21 rfl rfl)
theorem dX3_of_46 : decode cX3_of 46 = .ok (.astore 4, 2) := dk_58 4 (dk_at dksX3_of_2 0 rfl rfl)
theorem dX3_of_48 : decode cX3_of 48 = .ok (.aload 4, 2) := dk_25 4 (dk_at dksX3_of_2 2 rfl rfl)
theorem dX3_of_50 : decode cX3_of 50 = .ok (.invokeinterface 81 1, 5) := by decide +kernel
theorem dX3_of_55 : decode cX3_of 55 = .ok (.checkcast 84, 3) := dk_192 0 84 (dk_at dksX3_of_2 9 rfl rfl)
theorem dX3_of_58 : decode cX3_of 58 = .ok (.invokevirtual 86, 3) := dk_182 0 86 (dk_at dksX3_of_2 12 rfl rfl)
theorem dX3_of_61 : decode cX3_of 61 = .ok (.istore 5, 2) := dk_54 5 (dk_at dksX3_of_2 15 rfl rfl)
theorem dX3_of_63 : decode cX3_of 63 = .ok (.aload_n 0, 1) := dk_42 (dk_at dksX3_of_2 17 rfl rfl)
theorem dX3_of_64 : decode cX3_of 64 = .ok (.iload 5, 2) := dk_21 5 (dk_at dksX3_of_2 18 rfl rfl)
theorem dX3_of_66 : decode cX3_of 66 = .ok (.aload 4, 2) := dk_25 4 (dk_at dksX3_of_2 20 rfl rfl)
theorem dX3_of_68 : decode cX3_of 68 = .ok (.invokeinterface 90 1, 5) := by decide +kernel
theorem dX3_of_73 : decode cX3_of 73 = .ok (.checkcast 93, 3) := dk_192 0 93 (dk_at dksX3_of_3 5 rfl rfl)
theorem dX3_of_76 : decode cX3_of 76 = .ok (.getfield 95, 3) := dk_180 0 95 (dk_at dksX3_of_3 8 rfl rfl)
theorem dX3_of_79 : decode cX3_of 79 = .ok (.aload 4, 2) := dk_25 4 (dk_at dksX3_of_3 11 rfl rfl)
theorem dX3_of_81 : decode cX3_of 81 = .ok (.invokeinterface 90 1, 5) := by decide +kernel
theorem dX3_of_86 : decode cX3_of 86 = .ok (.checkcast 93, 3) := dk_192 0 93 (dk_at dksX3_of_3 18 rfl rfl)
theorem dX3_of_89 : decode cX3_of 89 = .ok (.getfield 99, 3) := dk_180 0 99 (dk_at dksX3_of_3 21 rfl rfl)
theorem dX3_of_92 : decode cX3_of 92 = .ok (.iload_n 2, 1) := dk_28 (dk_at dksX3_of_4 0 rfl rfl)
theorem dX3_of_93 : decode cX3_of 93 = .ok (.invokevirtual 101, 3) := dk_182 0 101 (dk_at dksX3_of_4 1 rfl rfl)
theorem dX3_of_96 : decode cX3_of 96 = .ok (.aload_n 0, 1) := dk_42 (dk_at dksX3_of_4 4 rfl rfl)
theorem dX3_of_97 : decode cX3_of 97 = .ok (.getfield 24, 3) := dk_180 0 24 (dk_at dksX3_of_4 5 rfl rfl)
theorem dX3_of_100 : decode cX3_of 100 = .ok (.iload 5, 2) := dk_21 5 (dk_at dksX3_of_4 8 rfl rfl)
theorem dX3_of_102 : decode cX3_of 102 = .ok (.aload 4, 2) := dk_25 4 (dk_at dksX3_of_4 10 rfl rfl)
theorem dX3_of_104 : decode cX3_of 104 = .ok (.invokeinterface 90 1, 5) := by decide +kernel
theorem dX3_of_109 : decode cX3_of 109 = .ok (.checkcast 93, 3) := dk_192 0 93 (dk_at dksX3_of_4 17 rfl rfl)
theorem dX3_of_112 : decode cX3_of 112 = .ok (.getfield 105, 3) := dk_180 0 105 (dk_at dksX3_of_4 20 rfl rfl)
theorem dX3_of_115 : decode cX3_of 115 = .ok (.iastore, 1) := dk_79 (dk_at dksX3_of_4 23 rfl rfl)
theorem dX3_of_116 : decode cX3_of 116 = .ok (.aload_n 0, 1) := dk_42 (dk_at dksX3_of_5 0 rfl rfl)
theorem dX3_of_117 : decode cX3_of 117 = .ok (.getfield 30, 3) := dk_180 0 30 (dk_at dksX3_of_5 1 rfl rfl)
theorem dX3_of_120 : decode cX3_of 120 = .ok (.iload 5, 2) := dk_21 5 (dk_at dksX3_of_5 4 rfl rfl)
theorem dX3_of_122 : decode cX3_of 122 = .ok (.aload 4, 2) := dk_25 4 (dk_at dksX3_of_5 6 rfl rfl)
theorem dX3_of_124 : decode cX3_of 124 = .ok (.invokeinterface 90 1, 5) := by decide +kernel
theorem dX3_of_129 : decode cX3_of 129 = .ok (.checkcast 93, 3) := dk_192 0 93 (dk_at dksX3_of_5 13 rfl rfl)
theorem dX3_of_132 : decode cX3_of 132 = .ok (.getfield 108, 3) := dk_180 0 108 (dk_at dksX3_of_5 16 rfl rfl)
theorem dX3_of_135 : decode cX3_of 135 = .ok (.bastore, 1) := dk_84 (dk_at dksX3_of_5 19 rfl rfl)
theorem dX3_of_136 : decode cX3_of 136 = .ok (.goto (-108), 3) := dk_167 255 148 (dk_at dksX3_of_5 20 rfl rfl)
theorem dX3_of_139 : decode cX3_of 139 = .ok (.iinc 2 1, 3) := dk_132 2 1 (dk_at dksX3_of_6 0 rfl rfl)
theorem dX3_of_142 : decode cX3_of 142 = .ok (.goto (-136), 3) := dk_167 255 120 (dk_at dksX3_of_6 3 rfl rfl)
theorem dX3_of_145 : decode cX3_of 145 = .ok (.aload_n 0, 1) := dk_42 (dk_at dksX3_of_6 6 rfl rfl)
theorem dX3_of_146 : decode cX3_of 146 = .ok (.aload_n 1, 1) := dk_43 (dk_at dksX3_of_6 7 rfl rfl)
theorem dX3_of_147 : decode cX3_of 147 = .ok (.getfield 112, 3) := dk_180 0 112 (dk_at dksX3_of_6 8 rfl rfl)
theorem dX3_of_150 : decode cX3_of 150 = .ok (.putfield 115, 3) := dk_181 0 115 (dk_at dksX3_of_6 11 rfl rfl)
theorem dX3_of_153 : decode cX3_of 153 = .ok (.aload_n 0, 1) := dk_42 (dk_at dksX3_of_6 14 rfl rfl)
theorem dX3_of_154 : decode cX3_of 154 = .ok (.aload_n 1, 1) := dk_43 (dk_at dksX3_of_6 15 rfl rfl)
theorem dX3_of_155 : decode cX3_of 155 = .ok (.getfield 116, 3) := dk_180 0 116 (dk_at dksX3_of_6 16 rfl rfl)
theorem dX3_of_158 : decode cX3_of 158 = .ok (.putfield 119, 3) := dk_181 0 119 (dk_at dksX3_of_6 19 rfl rfl)
theorem dX3_of_161 : decode cX3_of 161 = .ok (.aload_n 0, 1) := dk_42 (dk_at dksX3_of_6 22 rfl rfl)
theorem dX3_of_162 : decode cX3_of 162 = .ok (.aload_n 1, 1) := dk_43 (dk_at dksX3_of_6 23 rfl rfl)
theorem dX3_of_163 : decode cX3_of 163 = .ok (.getfield 120, 3) := dk_180 0 120 (dk_at dksX3_of_7 0 rfl rfl)
theorem dX3_of_166 : decode cX3_of 166 = .ok (.putfield 123, 3) := dk_181 0 123 (dk_at dksX3_of_7 3 rfl rfl)
theorem dX3_of_169 : decode cX3_of 169 = .ok (.aload_n 0, 1) := dk_42 (dk_at dksX3_of_7 6 rfl rfl)
theorem dX3_of_170 : decode cX3_of 170 = .ok (.aload_n 1, 1) := dk_43 (dk_at dksX3_of_7 7 rfl rfl)
theorem dX3_of_171 : decode cX3_of 171 = .ok (.getfield 124, 3) := dk_180 0 124 (dk_at dksX3_of_7 8 rfl rfl)
theorem dX3_of_174 : decode cX3_of 174 = .ok (.putfield 127, 3) := dk_181 0 127 (dk_at dksX3_of_7 11 rfl rfl)
theorem dX3_of_177 : decode cX3_of 177 = .ok (.aload_n 0, 1) := dk_42 (dk_at dksX3_of_7 14 rfl rfl)
theorem dX3_of_178 : decode cX3_of 178 = .ok (.iconst 0, 1) := dk_3 (dk_at dksX3_of_7 15 rfl rfl)
theorem dX3_of_179 : decode cX3_of 179 = .ok (.putfield 128, 3) := dk_181 0 128 (dk_at dksX3_of_7 16 rfl rfl)
theorem dX3_of_182 : decode cX3_of 182 = .ok (.aload_n 0, 1) := dk_42 (dk_at dksX3_of_7 19 rfl rfl)
theorem dX3_of_183 : decode cX3_of 183 = .ok (.iconst 0, 1) := dk_3 (dk_at dksX3_of_7 20 rfl rfl)
theorem dX3_of_184 : decode cX3_of 184 = .ok (.putfield 131, 3) := dk_181 0 131 (dk_at dksX3_of_7 21 rfl rfl)
theorem dX3_of_187 : decode cX3_of 187 = .ok (.aload_n 0, 1) := dk_42 (dk_at dksX3_of_8 0 rfl rfl)
theorem dX3_of_188 : decode cX3_of 188 = .ok (.iconst 0, 1) := dk_3 (dk_at dksX3_of_8 1 rfl rfl)
theorem dX3_of_189 : decode cX3_of 189 = .ok (.putfield 134, 3) := dk_181 0 134 (dk_at dksX3_of_8 2 rfl rfl)
theorem dX3_of_192 : decode cX3_of 192 = .ok (.aload_n 0, 1) := dk_42 (dk_at dksX3_of_8 5 rfl rfl)
theorem dX3_of_193 : decode cX3_of 193 = .ok (.iconst 0, 1) := dk_3 (dk_at dksX3_of_8 6 rfl rfl)
theorem dX3_of_194 : decode cX3_of 194 = .ok (.putfield 137, 3) := dk_181 0 137 (dk_at dksX3_of_8 7 rfl rfl)
theorem dX3_of_197 : decode cX3_of 197 = .ok (.aload_n 0, 1) := dk_42 (dk_at dksX3_of_8 10 rfl rfl)
theorem dX3_of_198 : decode cX3_of 198 = .ok (.areturn, 1) := dk_176 (dk_at dksX3_of_8 11 rfl rfl)
abbrev cX3_empties : ByteArray := prog_9_method_2_code
def yX3_empties : MethodName := ⟨RX3, "empties", "()V"⟩
def dkwX3_empties_2 : List UInt8 := [180, 0, 11, 27, 3, 79, 132, 1, 1, 167, 255, 239, 177]
abbrev dktX3_empties_2 : List UInt8 := dkwX3_empties_2 ++ []
def dkwX3_empties_1 : List UInt8 := [180, 0, 40, 27, 3, 79, 132, 1, 1, 167, 255, 227, 3, 60, 27, 17, 1, 144, 162, 0, 16, 42]
abbrev dktX3_empties_1 : List UInt8 := dkwX3_empties_1 ++ dktX3_empties_2
def dkwX3_empties_0 : List UInt8 := [3, 60, 27, 7, 163, 0, 30, 42, 180, 0, 34, 27, 2, 79, 42, 180, 0, 37, 27, 2, 79, 42]
abbrev dktX3_empties_0 : List UInt8 := dkwX3_empties_0 ++ dktX3_empties_1
theorem dksX3_empties_0 : cX3_empties.data.toList.drop 0 = dktX3_empties_0 := by decide +kernel
theorem dksX3_empties_1 : cX3_empties.data.toList.drop 22 = dktX3_empties_1 := dk_seg dksX3_empties_0 22 rfl rfl
theorem dksX3_empties_2 : cX3_empties.data.toList.drop 44 = dktX3_empties_2 := dk_seg dksX3_empties_1 22 rfl rfl
theorem dX3_empties_0 : decode cX3_empties 0 = .ok (.iconst 0, 1) := dk_3 (dk_at dksX3_empties_0 0 rfl rfl)
theorem dX3_empties_1 : decode cX3_empties 1 = .ok (.istore_n 1, 1) := dk_60 (dk_at dksX3_empties_0 1 rfl rfl)
theorem dX3_empties_2 : decode cX3_empties 2 = .ok (.iload_n 1, 1) := dk_27 (dk_at dksX3_empties_0 2 rfl rfl)
theorem dX3_empties_3 : decode cX3_empties 3 = .ok (.iconst 4, 1) := dk_7 (dk_at dksX3_empties_0 3 rfl rfl)
theorem dX3_empties_4 : decode cX3_empties 4 = .ok (.if_icmp .gt 30, 3) := dk_163 0 30 (dk_at dksX3_empties_0 4 rfl rfl)
theorem dX3_empties_7 : decode cX3_empties 7 = .ok (.aload_n 0, 1) := dk_42 (dk_at dksX3_empties_0 7 rfl rfl)
theorem dX3_empties_8 : decode cX3_empties 8 = .ok (.getfield 34, 3) := dk_180 0 34 (dk_at dksX3_empties_0 8 rfl rfl)
theorem dX3_empties_11 : decode cX3_empties 11 = .ok (.iload_n 1, 1) := dk_27 (dk_at dksX3_empties_0 11 rfl rfl)
theorem dX3_empties_12 : decode cX3_empties 12 = .ok (.iconst (-1), 1) := dk_2 (dk_at dksX3_empties_0 12 rfl rfl)
theorem dX3_empties_13 : decode cX3_empties 13 = .ok (.iastore, 1) := dk_79 (dk_at dksX3_empties_0 13 rfl rfl)
theorem dX3_empties_14 : decode cX3_empties 14 = .ok (.aload_n 0, 1) := dk_42 (dk_at dksX3_empties_0 14 rfl rfl)
theorem dX3_empties_15 : decode cX3_empties 15 = .ok (.getfield 37, 3) := dk_180 0 37 (dk_at dksX3_empties_0 15 rfl rfl)
theorem dX3_empties_18 : decode cX3_empties 18 = .ok (.iload_n 1, 1) := dk_27 (dk_at dksX3_empties_0 18 rfl rfl)
theorem dX3_empties_19 : decode cX3_empties 19 = .ok (.iconst (-1), 1) := dk_2 (dk_at dksX3_empties_0 19 rfl rfl)
theorem dX3_empties_20 : decode cX3_empties 20 = .ok (.iastore, 1) := dk_79 (dk_at dksX3_empties_0 20 rfl rfl)
theorem dX3_empties_21 : decode cX3_empties 21 = .ok (.aload_n 0, 1) := dk_42 (dk_at dksX3_empties_0 21 rfl rfl)
theorem dX3_empties_22 : decode cX3_empties 22 = .ok (.getfield 40, 3) := dk_180 0 40 (dk_at dksX3_empties_1 0 rfl rfl)
theorem dX3_empties_25 : decode cX3_empties 25 = .ok (.iload_n 1, 1) := dk_27 (dk_at dksX3_empties_1 3 rfl rfl)
theorem dX3_empties_26 : decode cX3_empties 26 = .ok (.iconst 0, 1) := dk_3 (dk_at dksX3_empties_1 4 rfl rfl)
theorem dX3_empties_27 : decode cX3_empties 27 = .ok (.iastore, 1) := dk_79 (dk_at dksX3_empties_1 5 rfl rfl)
theorem dX3_empties_28 : decode cX3_empties 28 = .ok (.iinc 1 1, 3) := dk_132 1 1 (dk_at dksX3_empties_1 6 rfl rfl)
theorem dX3_empties_31 : decode cX3_empties 31 = .ok (.goto (-29), 3) := dk_167 255 227 (dk_at dksX3_empties_1 9 rfl rfl)
theorem dX3_empties_34 : decode cX3_empties 34 = .ok (.iconst 0, 1) := dk_3 (dk_at dksX3_empties_1 12 rfl rfl)
theorem dX3_empties_35 : decode cX3_empties 35 = .ok (.istore_n 1, 1) := dk_60 (dk_at dksX3_empties_1 13 rfl rfl)
theorem dX3_empties_36 : decode cX3_empties 36 = .ok (.iload_n 1, 1) := dk_27 (dk_at dksX3_empties_1 14 rfl rfl)
theorem dX3_empties_37 : decode cX3_empties 37 = .ok (.sipush 400, 3) := dk_17 1 144 (dk_at dksX3_empties_1 15 rfl rfl)
theorem dX3_empties_40 : decode cX3_empties 40 = .ok (.if_icmp .ge 16, 3) := dk_162 0 16 (dk_at dksX3_empties_1 18 rfl rfl)
theorem dX3_empties_43 : decode cX3_empties 43 = .ok (.aload_n 0, 1) := dk_42 (dk_at dksX3_empties_1 21 rfl rfl)
theorem dX3_empties_44 : decode cX3_empties 44 = .ok (.getfield 11, 3) := dk_180 0 11 (dk_at dksX3_empties_2 0 rfl rfl)
theorem dX3_empties_47 : decode cX3_empties 47 = .ok (.iload_n 1, 1) := dk_27 (dk_at dksX3_empties_2 3 rfl rfl)
theorem dX3_empties_48 : decode cX3_empties 48 = .ok (.iconst 0, 1) := dk_3 (dk_at dksX3_empties_2 4 rfl rfl)
theorem dX3_empties_49 : decode cX3_empties 49 = .ok (.iastore, 1) := dk_79 (dk_at dksX3_empties_2 5 rfl rfl)
theorem dX3_empties_50 : decode cX3_empties 50 = .ok (.iinc 1 1, 3) := dk_132 1 1 (dk_at dksX3_empties_2 6 rfl rfl)
theorem dX3_empties_53 : decode cX3_empties 53 = .ok (.goto (-17), 3) := dk_167 255 239 (dk_at dksX3_empties_2 9 rfl rfl)
theorem dX3_empties_56 : decode cX3_empties 56 = .ok (.return_, 1) := dk_177 (dk_at dksX3_empties_2 12 rfl rfl)
abbrev cX3_comes : ByteArray := prog_9_method_6_code
def yX3_comes : MethodName := ⟨RX3, "comes", "(IIII)V"⟩
def dkwX3_comes_1 : List UInt8 := [180, 0, 30, 27, 3, 84, 42, 27, 21, 4, 182, 0, 146, 177]
abbrev dktX3_comes_1 : List UInt8 := dkwX3_comes_1 ++ []
def dkwX3_comes_0 : List UInt8 := [42, 180, 0, 21, 27, 28, 79, 42, 180, 0, 27, 27, 29, 79, 42, 180, 0, 24, 27, 3, 79, 42]
abbrev dktX3_comes_0 : List UInt8 := dkwX3_comes_0 ++ dktX3_comes_1
theorem dksX3_comes_0 : cX3_comes.data.toList.drop 0 = dktX3_comes_0 := by decide +kernel
theorem dksX3_comes_1 : cX3_comes.data.toList.drop 22 = dktX3_comes_1 := dk_seg dksX3_comes_0 22 rfl rfl
theorem dX3_comes_0 : decode cX3_comes 0 = .ok (.aload_n 0, 1) := dk_42 (dk_at dksX3_comes_0 0 rfl rfl)
theorem dX3_comes_1 : decode cX3_comes 1 = .ok (.getfield 21, 3) := dk_180 0 21 (dk_at dksX3_comes_0 1 rfl rfl)
theorem dX3_comes_4 : decode cX3_comes 4 = .ok (.iload_n 1, 1) := dk_27 (dk_at dksX3_comes_0 4 rfl rfl)
theorem dX3_comes_5 : decode cX3_comes 5 = .ok (.iload_n 2, 1) := dk_28 (dk_at dksX3_comes_0 5 rfl rfl)
theorem dX3_comes_6 : decode cX3_comes 6 = .ok (.iastore, 1) := dk_79 (dk_at dksX3_comes_0 6 rfl rfl)
theorem dX3_comes_7 : decode cX3_comes 7 = .ok (.aload_n 0, 1) := dk_42 (dk_at dksX3_comes_0 7 rfl rfl)
theorem dX3_comes_8 : decode cX3_comes 8 = .ok (.getfield 27, 3) := dk_180 0 27 (dk_at dksX3_comes_0 8 rfl rfl)
theorem dX3_comes_11 : decode cX3_comes 11 = .ok (.iload_n 1, 1) := dk_27 (dk_at dksX3_comes_0 11 rfl rfl)
theorem dX3_comes_12 : decode cX3_comes 12 = .ok (.iload_n 3, 1) := dk_29 (dk_at dksX3_comes_0 12 rfl rfl)
theorem dX3_comes_13 : decode cX3_comes 13 = .ok (.iastore, 1) := dk_79 (dk_at dksX3_comes_0 13 rfl rfl)
theorem dX3_comes_14 : decode cX3_comes 14 = .ok (.aload_n 0, 1) := dk_42 (dk_at dksX3_comes_0 14 rfl rfl)
theorem dX3_comes_15 : decode cX3_comes 15 = .ok (.getfield 24, 3) := dk_180 0 24 (dk_at dksX3_comes_0 15 rfl rfl)
theorem dX3_comes_18 : decode cX3_comes 18 = .ok (.iload_n 1, 1) := dk_27 (dk_at dksX3_comes_0 18 rfl rfl)
theorem dX3_comes_19 : decode cX3_comes 19 = .ok (.iconst 0, 1) := dk_3 (dk_at dksX3_comes_0 19 rfl rfl)
theorem dX3_comes_20 : decode cX3_comes 20 = .ok (.iastore, 1) := dk_79 (dk_at dksX3_comes_0 20 rfl rfl)
theorem dX3_comes_21 : decode cX3_comes 21 = .ok (.aload_n 0, 1) := dk_42 (dk_at dksX3_comes_0 21 rfl rfl)
theorem dX3_comes_22 : decode cX3_comes 22 = .ok (.getfield 30, 3) := dk_180 0 30 (dk_at dksX3_comes_1 0 rfl rfl)
theorem dX3_comes_25 : decode cX3_comes 25 = .ok (.iload_n 1, 1) := dk_27 (dk_at dksX3_comes_1 3 rfl rfl)
theorem dX3_comes_26 : decode cX3_comes 26 = .ok (.iconst 0, 1) := dk_3 (dk_at dksX3_comes_1 4 rfl rfl)
theorem dX3_comes_27 : decode cX3_comes 27 = .ok (.bastore, 1) := dk_84 (dk_at dksX3_comes_1 5 rfl rfl)
theorem dX3_comes_28 : decode cX3_comes 28 = .ok (.aload_n 0, 1) := dk_42 (dk_at dksX3_comes_1 6 rfl rfl)
theorem dX3_comes_29 : decode cX3_comes 29 = .ok (.iload_n 1, 1) := dk_27 (dk_at dksX3_comes_1 7 rfl rfl)
theorem dX3_comes_30 : decode cX3_comes 30 = .ok (.iload 4, 2) := dk_21 4 (dk_at dksX3_comes_1 8 rfl rfl)
theorem dX3_comes_32 : decode cX3_comes 32 = .ok (.invokevirtual 146, 3) := dk_182 0 146 (dk_at dksX3_comes_1 10 rfl rfl)
theorem dX3_comes_35 : decode cX3_comes 35 = .ok (.return_, 1) := dk_177 (dk_at dksX3_comes_1 13 rfl rfl)
abbrev cX3_adds : ByteArray := prog_9_method_5_code
def yX3_adds : MethodName := ⟨RX3, "adds", "(II)V"⟩
def dkwX3_adds_3 : List UInt8 := [46, 42, 180, 0, 21, 27, 46, 96, 79, 177]
abbrev dktX3_adds_3 : List UInt8 := dkwX3_adds_3 ++ []
def dkwX3_adds_2 : List UInt8 := [180, 0, 15, 42, 180, 0, 37, 28, 46, 27, 79, 42, 180, 0, 37, 28, 27, 79, 42, 180, 0, 40, 28, 92]
abbrev dktX3_adds_2 : List UInt8 := dkwX3_adds_2 ++ dktX3_adds_3
def dkwX3_adds_1 : List UInt8 := [46, 79, 42, 180, 0, 37, 28, 46, 2, 160, 0, 13, 42, 180, 0, 34, 28, 27, 79, 167, 0, 15, 42]
abbrev dktX3_adds_1 : List UInt8 := dkwX3_adds_1 ++ dktX3_adds_2
def dkwX3_adds_0 : List UInt8 := [42, 180, 0, 11, 27, 28, 79, 42, 180, 0, 15, 27, 2, 79, 42, 180, 0, 18, 27, 42, 180, 0, 37, 28]
abbrev dktX3_adds_0 : List UInt8 := dkwX3_adds_0 ++ dktX3_adds_1
theorem dksX3_adds_0 : cX3_adds.data.toList.drop 0 = dktX3_adds_0 := by decide +kernel
theorem dksX3_adds_1 : cX3_adds.data.toList.drop 24 = dktX3_adds_1 := dk_seg dksX3_adds_0 24 rfl rfl
theorem dksX3_adds_2 : cX3_adds.data.toList.drop 47 = dktX3_adds_2 := dk_seg dksX3_adds_1 23 rfl rfl
theorem dksX3_adds_3 : cX3_adds.data.toList.drop 71 = dktX3_adds_3 := dk_seg dksX3_adds_2 24 rfl rfl
theorem dX3_adds_0 : decode cX3_adds 0 = .ok (.aload_n 0, 1) := dk_42 (dk_at dksX3_adds_0 0 rfl rfl)
theorem dX3_adds_1 : decode cX3_adds 1 = .ok (.getfield 11, 3) := dk_180 0 11 (dk_at dksX3_adds_0 1 rfl rfl)
theorem dX3_adds_4 : decode cX3_adds 4 = .ok (.iload_n 1, 1) := dk_27 (dk_at dksX3_adds_0 4 rfl rfl)
theorem dX3_adds_5 : decode cX3_adds 5 = .ok (.iload_n 2, 1) := dk_28 (dk_at dksX3_adds_0 5 rfl rfl)
theorem dX3_adds_6 : decode cX3_adds 6 = .ok (.iastore, 1) := dk_79 (dk_at dksX3_adds_0 6 rfl rfl)
theorem dX3_adds_7 : decode cX3_adds 7 = .ok (.aload_n 0, 1) := dk_42 (dk_at dksX3_adds_0 7 rfl rfl)
theorem dX3_adds_8 : decode cX3_adds 8 = .ok (.getfield 15, 3) := dk_180 0 15 (dk_at dksX3_adds_0 8 rfl rfl)
theorem dX3_adds_11 : decode cX3_adds 11 = .ok (.iload_n 1, 1) := dk_27 (dk_at dksX3_adds_0 11 rfl rfl)
theorem dX3_adds_12 : decode cX3_adds 12 = .ok (.iconst (-1), 1) := dk_2 (dk_at dksX3_adds_0 12 rfl rfl)
theorem dX3_adds_13 : decode cX3_adds 13 = .ok (.iastore, 1) := dk_79 (dk_at dksX3_adds_0 13 rfl rfl)
theorem dX3_adds_14 : decode cX3_adds 14 = .ok (.aload_n 0, 1) := dk_42 (dk_at dksX3_adds_0 14 rfl rfl)
theorem dX3_adds_15 : decode cX3_adds 15 = .ok (.getfield 18, 3) := dk_180 0 18 (dk_at dksX3_adds_0 15 rfl rfl)
theorem dX3_adds_18 : decode cX3_adds 18 = .ok (.iload_n 1, 1) := dk_27 (dk_at dksX3_adds_0 18 rfl rfl)
theorem dX3_adds_19 : decode cX3_adds 19 = .ok (.aload_n 0, 1) := dk_42 (dk_at dksX3_adds_0 19 rfl rfl)
theorem dX3_adds_20 : decode cX3_adds 20 = .ok (.getfield 37, 3) := dk_180 0 37 (dk_at dksX3_adds_0 20 rfl rfl)
theorem dX3_adds_23 : decode cX3_adds 23 = .ok (.iload_n 2, 1) := dk_28 (dk_at dksX3_adds_0 23 rfl rfl)
theorem dX3_adds_24 : decode cX3_adds 24 = .ok (.iaload, 1) := dk_46 (dk_at dksX3_adds_1 0 rfl rfl)
theorem dX3_adds_25 : decode cX3_adds 25 = .ok (.iastore, 1) := dk_79 (dk_at dksX3_adds_1 1 rfl rfl)
theorem dX3_adds_26 : decode cX3_adds 26 = .ok (.aload_n 0, 1) := dk_42 (dk_at dksX3_adds_1 2 rfl rfl)
theorem dX3_adds_27 : decode cX3_adds 27 = .ok (.getfield 37, 3) := dk_180 0 37 (dk_at dksX3_adds_1 3 rfl rfl)
theorem dX3_adds_30 : decode cX3_adds 30 = .ok (.iload_n 2, 1) := dk_28 (dk_at dksX3_adds_1 6 rfl rfl)
theorem dX3_adds_31 : decode cX3_adds 31 = .ok (.iaload, 1) := dk_46 (dk_at dksX3_adds_1 7 rfl rfl)
theorem dX3_adds_32 : decode cX3_adds 32 = .ok (.iconst (-1), 1) := dk_2 (dk_at dksX3_adds_1 8 rfl rfl)
theorem dX3_adds_33 : decode cX3_adds 33 = .ok (.if_icmp .ne 13, 3) := dk_160 0 13 (dk_at dksX3_adds_1 9 rfl rfl)
theorem dX3_adds_36 : decode cX3_adds 36 = .ok (.aload_n 0, 1) := dk_42 (dk_at dksX3_adds_1 12 rfl rfl)
theorem dX3_adds_37 : decode cX3_adds 37 = .ok (.getfield 34, 3) := dk_180 0 34 (dk_at dksX3_adds_1 13 rfl rfl)
theorem dX3_adds_40 : decode cX3_adds 40 = .ok (.iload_n 2, 1) := dk_28 (dk_at dksX3_adds_1 16 rfl rfl)
theorem dX3_adds_41 : decode cX3_adds 41 = .ok (.iload_n 1, 1) := dk_27 (dk_at dksX3_adds_1 17 rfl rfl)
theorem dX3_adds_42 : decode cX3_adds 42 = .ok (.iastore, 1) := dk_79 (dk_at dksX3_adds_1 18 rfl rfl)
theorem dX3_adds_43 : decode cX3_adds 43 = .ok (.goto 15, 3) := dk_167 0 15 (dk_at dksX3_adds_1 19 rfl rfl)
theorem dX3_adds_46 : decode cX3_adds 46 = .ok (.aload_n 0, 1) := dk_42 (dk_at dksX3_adds_1 22 rfl rfl)
theorem dX3_adds_47 : decode cX3_adds 47 = .ok (.getfield 15, 3) := dk_180 0 15 (dk_at dksX3_adds_2 0 rfl rfl)
theorem dX3_adds_50 : decode cX3_adds 50 = .ok (.aload_n 0, 1) := dk_42 (dk_at dksX3_adds_2 3 rfl rfl)
theorem dX3_adds_51 : decode cX3_adds 51 = .ok (.getfield 37, 3) := dk_180 0 37 (dk_at dksX3_adds_2 4 rfl rfl)
theorem dX3_adds_54 : decode cX3_adds 54 = .ok (.iload_n 2, 1) := dk_28 (dk_at dksX3_adds_2 7 rfl rfl)
theorem dX3_adds_55 : decode cX3_adds 55 = .ok (.iaload, 1) := dk_46 (dk_at dksX3_adds_2 8 rfl rfl)
theorem dX3_adds_56 : decode cX3_adds 56 = .ok (.iload_n 1, 1) := dk_27 (dk_at dksX3_adds_2 9 rfl rfl)
theorem dX3_adds_57 : decode cX3_adds 57 = .ok (.iastore, 1) := dk_79 (dk_at dksX3_adds_2 10 rfl rfl)
theorem dX3_adds_58 : decode cX3_adds 58 = .ok (.aload_n 0, 1) := dk_42 (dk_at dksX3_adds_2 11 rfl rfl)
theorem dX3_adds_59 : decode cX3_adds 59 = .ok (.getfield 37, 3) := dk_180 0 37 (dk_at dksX3_adds_2 12 rfl rfl)
theorem dX3_adds_62 : decode cX3_adds 62 = .ok (.iload_n 2, 1) := dk_28 (dk_at dksX3_adds_2 15 rfl rfl)
theorem dX3_adds_63 : decode cX3_adds 63 = .ok (.iload_n 1, 1) := dk_27 (dk_at dksX3_adds_2 16 rfl rfl)
theorem dX3_adds_64 : decode cX3_adds 64 = .ok (.iastore, 1) := dk_79 (dk_at dksX3_adds_2 17 rfl rfl)
theorem dX3_adds_65 : decode cX3_adds 65 = .ok (.aload_n 0, 1) := dk_42 (dk_at dksX3_adds_2 18 rfl rfl)
theorem dX3_adds_66 : decode cX3_adds 66 = .ok (.getfield 40, 3) := dk_180 0 40 (dk_at dksX3_adds_2 19 rfl rfl)
theorem dX3_adds_69 : decode cX3_adds 69 = .ok (.iload_n 2, 1) := dk_28 (dk_at dksX3_adds_2 22 rfl rfl)
theorem dX3_adds_70 : decode cX3_adds 70 = .ok (.dup2, 1) := dk_92 (dk_at dksX3_adds_2 23 rfl rfl)
theorem dX3_adds_71 : decode cX3_adds 71 = .ok (.iaload, 1) := dk_46 (dk_at dksX3_adds_3 0 rfl rfl)
theorem dX3_adds_72 : decode cX3_adds 72 = .ok (.aload_n 0, 1) := dk_42 (dk_at dksX3_adds_3 1 rfl rfl)
theorem dX3_adds_73 : decode cX3_adds 73 = .ok (.getfield 21, 3) := dk_180 0 21 (dk_at dksX3_adds_3 2 rfl rfl)
theorem dX3_adds_76 : decode cX3_adds 76 = .ok (.iload_n 1, 1) := dk_27 (dk_at dksX3_adds_3 5 rfl rfl)
theorem dX3_adds_77 : decode cX3_adds 77 = .ok (.iaload, 1) := dk_46 (dk_at dksX3_adds_3 6 rfl rfl)
theorem dX3_adds_78 : decode cX3_adds 78 = .ok (.iadd, 1) := dk_96 (dk_at dksX3_adds_3 7 rfl rfl)
theorem dX3_adds_79 : decode cX3_adds 79 = .ok (.iastore, 1) := dk_79 (dk_at dksX3_adds_3 8 rfl rfl)
theorem dX3_adds_80 : decode cX3_adds 80 = .ok (.return_, 1) := dk_177 (dk_at dksX3_adds_3 9 rfl rfl)
abbrev cX3_victim : ByteArray := prog_9_method_21_code
def yX3_victim : MethodName := ⟨RX3, "victim", "(I)I"⟩
def dkwX3_victim_3 : List UInt8 := [27, 4, 96, 160, 255, 218, 42, 180, 0, 154, 172, 16, 251, 172]
abbrev dktX3_victim_3 : List UInt8 := dkwX3_victim_3 ++ []
def dkwX3_victim_2 : List UInt8 := [42, 182, 0, 170, 154, 0, 10, 42, 182, 0, 173, 153, 0, 7, 4, 167, 0, 4, 3, 61, 42, 180, 0, 137]
abbrev dktX3_victim_2 : List UInt8 := dkwX3_victim_2 ++ dktX3_victim_3
def dkwX3_victim_1 : List UInt8 := [158, 0, 11, 42, 182, 0, 164, 61, 167, 255, 238, 4, 61, 28, 153, 0, 45, 42, 182, 0, 167, 158, 0, 38]
abbrev dktX3_victim_1 : List UInt8 := dkwX3_victim_1 ++ dktX3_victim_2
def dkwX3_victim_0 : List UInt8 := [42, 3, 181, 0, 115, 42, 3, 181, 0, 119, 4, 61, 28, 153, 0, 20, 42, 180, 0, 40, 5, 46]
abbrev dktX3_victim_0 : List UInt8 := dkwX3_victim_0 ++ dktX3_victim_1
theorem dksX3_victim_0 : cX3_victim.data.toList.drop 0 = dktX3_victim_0 := by decide +kernel
theorem dksX3_victim_1 : cX3_victim.data.toList.drop 22 = dktX3_victim_1 := dk_seg dksX3_victim_0 22 rfl rfl
theorem dksX3_victim_2 : cX3_victim.data.toList.drop 46 = dktX3_victim_2 := dk_seg dksX3_victim_1 24 rfl rfl
theorem dksX3_victim_3 : cX3_victim.data.toList.drop 70 = dktX3_victim_3 := dk_seg dksX3_victim_2 24 rfl rfl
theorem dX3_victim_0 : decode cX3_victim 0 = .ok (.aload_n 0, 1) := dk_42 (dk_at dksX3_victim_0 0 rfl rfl)
theorem dX3_victim_1 : decode cX3_victim 1 = .ok (.iconst 0, 1) := dk_3 (dk_at dksX3_victim_0 1 rfl rfl)
theorem dX3_victim_2 : decode cX3_victim 2 = .ok (.putfield 115, 3) := dk_181 0 115 (dk_at dksX3_victim_0 2 rfl rfl)
theorem dX3_victim_5 : decode cX3_victim 5 = .ok (.aload_n 0, 1) := dk_42 (dk_at dksX3_victim_0 5 rfl rfl)
theorem dX3_victim_6 : decode cX3_victim 6 = .ok (.iconst 0, 1) := dk_3 (dk_at dksX3_victim_0 6 rfl rfl)
theorem dX3_victim_7 : decode cX3_victim 7 = .ok (.putfield 119, 3) := dk_181 0 119 (dk_at dksX3_victim_0 7 rfl rfl)
theorem dX3_victim_10 : decode cX3_victim 10 = .ok (.iconst 1, 1) := dk_4 (dk_at dksX3_victim_0 10 rfl rfl)
theorem dX3_victim_11 : decode cX3_victim 11 = .ok (.istore_n 2, 1) := dk_61 (dk_at dksX3_victim_0 11 rfl rfl)
theorem dX3_victim_12 : decode cX3_victim 12 = .ok (.iload_n 2, 1) := dk_28 (dk_at dksX3_victim_0 12 rfl rfl)
theorem dX3_victim_13 : decode cX3_victim 13 = .ok (.ifCond .eq 20, 3) := dk_153 0 20 (dk_at dksX3_victim_0 13 rfl rfl)
theorem dX3_victim_16 : decode cX3_victim 16 = .ok (.aload_n 0, 1) := dk_42 (dk_at dksX3_victim_0 16 rfl rfl)
theorem dX3_victim_17 : decode cX3_victim 17 = .ok (.getfield 40, 3) := dk_180 0 40 (dk_at dksX3_victim_0 17 rfl rfl)
theorem dX3_victim_20 : decode cX3_victim 20 = .ok (.iconst 2, 1) := dk_5 (dk_at dksX3_victim_0 20 rfl rfl)
theorem dX3_victim_21 : decode cX3_victim 21 = .ok (.iaload, 1) := dk_46 (dk_at dksX3_victim_0 21 rfl rfl)
theorem dX3_victim_22 : decode cX3_victim 22 = .ok (.ifCond .le 11, 3) := dk_158 0 11 (dk_at dksX3_victim_1 0 rfl rfl)
theorem dX3_victim_25 : decode cX3_victim 25 = .ok (.aload_n 0, 1) := dk_42 (dk_at dksX3_victim_1 3 rfl rfl)
theorem dX3_victim_26 : decode cX3_victim 26 = .ok (.invokevirtual 164, 3) := dk_182 0 164 (dk_at dksX3_victim_1 4 rfl rfl)
theorem dX3_victim_29 : decode cX3_victim 29 = .ok (.istore_n 2, 1) := dk_61 (dk_at dksX3_victim_1 7 rfl rfl)
theorem dX3_victim_30 : decode cX3_victim 30 = .ok (.goto (-18), 3) := dk_167 255 238 (dk_at dksX3_victim_1 8 rfl rfl)
theorem dX3_victim_33 : decode cX3_victim 33 = .ok (.iconst 1, 1) := dk_4 (dk_at dksX3_victim_1 11 rfl rfl)
theorem dX3_victim_34 : decode cX3_victim 34 = .ok (.istore_n 2, 1) := dk_61 (dk_at dksX3_victim_1 12 rfl rfl)
theorem dX3_victim_35 : decode cX3_victim 35 = .ok (.iload_n 2, 1) := dk_28 (dk_at dksX3_victim_1 13 rfl rfl)
theorem dX3_victim_36 : decode cX3_victim 36 = .ok (.ifCond .eq 45, 3) := dk_153 0 45 (dk_at dksX3_victim_1 14 rfl rfl)
theorem dX3_victim_39 : decode cX3_victim 39 = .ok (.aload_n 0, 1) := dk_42 (dk_at dksX3_victim_1 17 rfl rfl)
theorem dX3_victim_40 : decode cX3_victim 40 = .ok (.invokevirtual 167, 3) := dk_182 0 167 (dk_at dksX3_victim_1 18 rfl rfl)
theorem dX3_victim_43 : decode cX3_victim 43 = .ok (.ifCond .le 38, 3) := dk_158 0 38 (dk_at dksX3_victim_1 21 rfl rfl)
theorem dX3_victim_46 : decode cX3_victim 46 = .ok (.aload_n 0, 1) := dk_42 (dk_at dksX3_victim_2 0 rfl rfl)
theorem dX3_victim_47 : decode cX3_victim 47 = .ok (.invokevirtual 170, 3) := dk_182 0 170 (dk_at dksX3_victim_2 1 rfl rfl)
theorem dX3_victim_50 : decode cX3_victim 50 = .ok (.ifCond .ne 10, 3) := dk_154 0 10 (dk_at dksX3_victim_2 4 rfl rfl)
theorem dX3_victim_53 : decode cX3_victim 53 = .ok (.aload_n 0, 1) := dk_42 (dk_at dksX3_victim_2 7 rfl rfl)
theorem dX3_victim_54 : decode cX3_victim 54 = .ok (.invokevirtual 173, 3) := dk_182 0 173 (dk_at dksX3_victim_2 8 rfl rfl)
theorem dX3_victim_57 : decode cX3_victim 57 = .ok (.ifCond .eq 7, 3) := dk_153 0 7 (dk_at dksX3_victim_2 11 rfl rfl)
theorem dX3_victim_60 : decode cX3_victim 60 = .ok (.iconst 1, 1) := dk_4 (dk_at dksX3_victim_2 14 rfl rfl)
theorem dX3_victim_61 : decode cX3_victim 61 = .ok (.goto 4, 3) := dk_167 0 4 (dk_at dksX3_victim_2 15 rfl rfl)
theorem dX3_victim_64 : decode cX3_victim 64 = .ok (.iconst 0, 1) := dk_3 (dk_at dksX3_victim_2 18 rfl rfl)
theorem dX3_victim_65 : decode cX3_victim 65 = .ok (.istore_n 2, 1) := dk_61 (dk_at dksX3_victim_2 19 rfl rfl)
theorem dX3_victim_66 : decode cX3_victim 66 = .ok (.aload_n 0, 1) := dk_42 (dk_at dksX3_victim_2 20 rfl rfl)
theorem dX3_victim_67 : decode cX3_victim 67 = .ok (.getfield 137, 3) := dk_180 0 137 (dk_at dksX3_victim_2 21 rfl rfl)
theorem dX3_victim_70 : decode cX3_victim 70 = .ok (.iload_n 1, 1) := dk_27 (dk_at dksX3_victim_3 0 rfl rfl)
theorem dX3_victim_71 : decode cX3_victim 71 = .ok (.iconst 1, 1) := dk_4 (dk_at dksX3_victim_3 1 rfl rfl)
theorem dX3_victim_72 : decode cX3_victim 72 = .ok (.iadd, 1) := dk_96 (dk_at dksX3_victim_3 2 rfl rfl)
theorem dX3_victim_73 : decode cX3_victim 73 = .ok (.if_icmp .ne (-38), 3) := dk_160 255 218 (dk_at dksX3_victim_3 3 rfl rfl)
theorem dX3_victim_76 : decode cX3_victim 76 = .ok (.aload_n 0, 1) := dk_42 (dk_at dksX3_victim_3 6 rfl rfl)
theorem dX3_victim_77 : decode cX3_victim 77 = .ok (.getfield 154, 3) := dk_180 0 154 (dk_at dksX3_victim_3 7 rfl rfl)
theorem dX3_victim_80 : decode cX3_victim 80 = .ok (.ireturn, 1) := dk_172 (dk_at dksX3_victim_3 10 rfl rfl)
theorem dX3_victim_81 : decode cX3_victim 81 = .ok (.bipush (-5), 2) := dk_16 251 (dk_at dksX3_victim_3 11 rfl rfl)
theorem dX3_victim_83 : decode cX3_victim 83 = .ok (.ireturn, 1) := dk_172 (dk_at dksX3_victim_3 13 rfl rfl)
abbrev cX3_falls : ByteArray := prog_9_method_13_code
def yX3_falls : MethodName := ⟨RX3, "falls", "()Z"⟩
def dkwX3_falls_1 : List UInt8 := [182, 0, 146, 4, 172]
abbrev dktX3_falls_1 : List UInt8 := dkwX3_falls_1 ++ []
def dkwX3_falls_0 : List UInt8 := [42, 5, 182, 0, 157, 60, 27, 2, 160, 0, 5, 3, 172, 42, 180, 0, 24, 27, 3, 79, 42, 27, 4]
abbrev dktX3_falls_0 : List UInt8 := dkwX3_falls_0 ++ dktX3_falls_1
theorem dksX3_falls_0 : cX3_falls.data.toList.drop 0 = dktX3_falls_0 := by decide +kernel
theorem dksX3_falls_1 : cX3_falls.data.toList.drop 23 = dktX3_falls_1 := dk_seg dksX3_falls_0 23 rfl rfl
theorem dX3_falls_0 : decode cX3_falls 0 = .ok (.aload_n 0, 1) := dk_42 (dk_at dksX3_falls_0 0 rfl rfl)
theorem dX3_falls_1 : decode cX3_falls 1 = .ok (.iconst 2, 1) := dk_5 (dk_at dksX3_falls_0 1 rfl rfl)
theorem dX3_falls_2 : decode cX3_falls 2 = .ok (.invokevirtual 157, 3) := dk_182 0 157 (dk_at dksX3_falls_0 2 rfl rfl)
theorem dX3_falls_5 : decode cX3_falls 5 = .ok (.istore_n 1, 1) := dk_60 (dk_at dksX3_falls_0 5 rfl rfl)
theorem dX3_falls_6 : decode cX3_falls 6 = .ok (.iload_n 1, 1) := dk_27 (dk_at dksX3_falls_0 6 rfl rfl)
theorem dX3_falls_7 : decode cX3_falls 7 = .ok (.iconst (-1), 1) := dk_2 (dk_at dksX3_falls_0 7 rfl rfl)
theorem dX3_falls_8 : decode cX3_falls 8 = .ok (.if_icmp .ne 5, 3) := dk_160 0 5 (dk_at dksX3_falls_0 8 rfl rfl)
theorem dX3_falls_11 : decode cX3_falls 11 = .ok (.iconst 0, 1) := dk_3 (dk_at dksX3_falls_0 11 rfl rfl)
theorem dX3_falls_12 : decode cX3_falls 12 = .ok (.ireturn, 1) := dk_172 (dk_at dksX3_falls_0 12 rfl rfl)
theorem dX3_falls_13 : decode cX3_falls 13 = .ok (.aload_n 0, 1) := dk_42 (dk_at dksX3_falls_0 13 rfl rfl)
theorem dX3_falls_14 : decode cX3_falls 14 = .ok (.getfield 24, 3) := dk_180 0 24 (dk_at dksX3_falls_0 14 rfl rfl)
theorem dX3_falls_17 : decode cX3_falls 17 = .ok (.iload_n 1, 1) := dk_27 (dk_at dksX3_falls_0 17 rfl rfl)
theorem dX3_falls_18 : decode cX3_falls 18 = .ok (.iconst 0, 1) := dk_3 (dk_at dksX3_falls_0 18 rfl rfl)
theorem dX3_falls_19 : decode cX3_falls 19 = .ok (.iastore, 1) := dk_79 (dk_at dksX3_falls_0 19 rfl rfl)
theorem dX3_falls_20 : decode cX3_falls 20 = .ok (.aload_n 0, 1) := dk_42 (dk_at dksX3_falls_0 20 rfl rfl)
theorem dX3_falls_21 : decode cX3_falls 21 = .ok (.iload_n 1, 1) := dk_27 (dk_at dksX3_falls_0 21 rfl rfl)
theorem dX3_falls_22 : decode cX3_falls 22 = .ok (.iconst 1, 1) := dk_4 (dk_at dksX3_falls_0 22 rfl rfl)
theorem dX3_falls_23 : decode cX3_falls 23 = .ok (.invokevirtual 146, 3) := dk_182 0 146 (dk_at dksX3_falls_1 0 rfl rfl)
theorem dX3_falls_26 : decode cX3_falls 26 = .ok (.iconst 1, 1) := dk_4 (dk_at dksX3_falls_1 3 rfl rfl)
theorem dX3_falls_27 : decode cX3_falls 27 = .ok (.ireturn, 1) := dk_172 (dk_at dksX3_falls_1 4 rfl rfl)
abbrev cX3_oldest : ByteArray := prog_9_method_8_code
def yX3_oldest : MethodName := ⟨RX3, "oldest", "(I)I"⟩
def dkwX3_oldest_1 : List UInt8 := [180, 0, 15, 28, 46, 61, 167, 255, 235, 28, 2, 159, 0, 9, 42, 28, 182, 0, 150, 87, 28, 172]
abbrev dktX3_oldest_1 : List UInt8 := dkwX3_oldest_1 ++ []
def dkwX3_oldest_0 : List UInt8 := [42, 180, 0, 34, 27, 46, 61, 28, 2, 159, 0, 22, 42, 180, 0, 30, 28, 51, 153, 0, 13, 42]
abbrev dktX3_oldest_0 : List UInt8 := dkwX3_oldest_0 ++ dktX3_oldest_1
theorem dksX3_oldest_0 : cX3_oldest.data.toList.drop 0 = dktX3_oldest_0 := by decide +kernel
theorem dksX3_oldest_1 : cX3_oldest.data.toList.drop 22 = dktX3_oldest_1 := dk_seg dksX3_oldest_0 22 rfl rfl
theorem dX3_oldest_0 : decode cX3_oldest 0 = .ok (.aload_n 0, 1) := dk_42 (dk_at dksX3_oldest_0 0 rfl rfl)
theorem dX3_oldest_1 : decode cX3_oldest 1 = .ok (.getfield 34, 3) := dk_180 0 34 (dk_at dksX3_oldest_0 1 rfl rfl)
theorem dX3_oldest_4 : decode cX3_oldest 4 = .ok (.iload_n 1, 1) := dk_27 (dk_at dksX3_oldest_0 4 rfl rfl)
theorem dX3_oldest_5 : decode cX3_oldest 5 = .ok (.iaload, 1) := dk_46 (dk_at dksX3_oldest_0 5 rfl rfl)
theorem dX3_oldest_6 : decode cX3_oldest 6 = .ok (.istore_n 2, 1) := dk_61 (dk_at dksX3_oldest_0 6 rfl rfl)
theorem dX3_oldest_7 : decode cX3_oldest 7 = .ok (.iload_n 2, 1) := dk_28 (dk_at dksX3_oldest_0 7 rfl rfl)
theorem dX3_oldest_8 : decode cX3_oldest 8 = .ok (.iconst (-1), 1) := dk_2 (dk_at dksX3_oldest_0 8 rfl rfl)
theorem dX3_oldest_9 : decode cX3_oldest 9 = .ok (.if_icmp .eq 22, 3) := dk_159 0 22 (dk_at dksX3_oldest_0 9 rfl rfl)
theorem dX3_oldest_12 : decode cX3_oldest 12 = .ok (.aload_n 0, 1) := dk_42 (dk_at dksX3_oldest_0 12 rfl rfl)
theorem dX3_oldest_13 : decode cX3_oldest 13 = .ok (.getfield 30, 3) := dk_180 0 30 (dk_at dksX3_oldest_0 13 rfl rfl)
theorem dX3_oldest_16 : decode cX3_oldest 16 = .ok (.iload_n 2, 1) := dk_28 (dk_at dksX3_oldest_0 16 rfl rfl)
theorem dX3_oldest_17 : decode cX3_oldest 17 = .ok (.baload, 1) := dk_51 (dk_at dksX3_oldest_0 17 rfl rfl)
theorem dX3_oldest_18 : decode cX3_oldest 18 = .ok (.ifCond .eq 13, 3) := dk_153 0 13 (dk_at dksX3_oldest_0 18 rfl rfl)
theorem dX3_oldest_21 : decode cX3_oldest 21 = .ok (.aload_n 0, 1) := dk_42 (dk_at dksX3_oldest_0 21 rfl rfl)
theorem dX3_oldest_22 : decode cX3_oldest 22 = .ok (.getfield 15, 3) := dk_180 0 15 (dk_at dksX3_oldest_1 0 rfl rfl)
theorem dX3_oldest_25 : decode cX3_oldest 25 = .ok (.iload_n 2, 1) := dk_28 (dk_at dksX3_oldest_1 3 rfl rfl)
theorem dX3_oldest_26 : decode cX3_oldest 26 = .ok (.iaload, 1) := dk_46 (dk_at dksX3_oldest_1 4 rfl rfl)
theorem dX3_oldest_27 : decode cX3_oldest 27 = .ok (.istore_n 2, 1) := dk_61 (dk_at dksX3_oldest_1 5 rfl rfl)
theorem dX3_oldest_28 : decode cX3_oldest 28 = .ok (.goto (-21), 3) := dk_167 255 235 (dk_at dksX3_oldest_1 6 rfl rfl)
theorem dX3_oldest_31 : decode cX3_oldest 31 = .ok (.iload_n 2, 1) := dk_28 (dk_at dksX3_oldest_1 9 rfl rfl)
theorem dX3_oldest_32 : decode cX3_oldest 32 = .ok (.iconst (-1), 1) := dk_2 (dk_at dksX3_oldest_1 10 rfl rfl)
theorem dX3_oldest_33 : decode cX3_oldest 33 = .ok (.if_icmp .eq 9, 3) := dk_159 0 9 (dk_at dksX3_oldest_1 11 rfl rfl)
theorem dX3_oldest_36 : decode cX3_oldest 36 = .ok (.aload_n 0, 1) := dk_42 (dk_at dksX3_oldest_1 14 rfl rfl)
theorem dX3_oldest_37 : decode cX3_oldest 37 = .ok (.iload_n 2, 1) := dk_28 (dk_at dksX3_oldest_1 15 rfl rfl)
theorem dX3_oldest_38 : decode cX3_oldest 38 = .ok (.invokevirtual 150, 3) := dk_182 0 150 (dk_at dksX3_oldest_1 16 rfl rfl)
theorem dX3_oldest_41 : decode cX3_oldest 41 = .ok (.pop, 1) := dk_87 (dk_at dksX3_oldest_1 19 rfl rfl)
theorem dX3_oldest_42 : decode cX3_oldest 42 = .ok (.iload_n 2, 1) := dk_28 (dk_at dksX3_oldest_1 20 rfl rfl)
theorem dX3_oldest_43 : decode cX3_oldest 43 = .ok (.ireturn, 1) := dk_172 (dk_at dksX3_oldest_1 21 rfl rfl)
abbrev cX3_loses : ByteArray := prog_9_method_7_code
def yX3_loses : MethodName := ⟨RX3, "loses", "(I)I"⟩
def dkwX3_loses_5 : List UInt8 := [28, 172]
abbrev dktX3_loses_5 : List UInt8 := dkwX3_loses_5 ++ []
def dkwX3_loses_4 : List UInt8 := [46, 79, 42, 180, 0, 40, 28, 92, 46, 42, 180, 0, 21, 27, 46, 100, 79, 42, 180, 0, 11, 27, 3, 79]
abbrev dktX3_loses_4 : List UInt8 := dkwX3_loses_4 ++ dktX3_loses_5
def dkwX3_loses_3 : List UInt8 := [180, 0, 18, 27, 46, 79, 167, 0, 20, 42, 180, 0, 18, 42, 180, 0, 15, 27, 46, 42, 180, 0, 18, 27]
abbrev dktX3_loses_3 : List UInt8 := dkwX3_loses_3 ++ dktX3_loses_4
def dkwX3_loses_2 : List UInt8 := [42, 180, 0, 15, 27, 46, 79, 42, 180, 0, 15, 27, 46, 2, 160, 0, 18, 42, 180, 0, 37, 28, 42]
abbrev dktX3_loses_2 : List UInt8 := dkwX3_loses_2 ++ dktX3_loses_3
def dkwX3_loses_1 : List UInt8 := [180, 0, 34, 28, 42, 180, 0, 15, 27, 46, 79, 167, 0, 20, 42, 180, 0, 15, 42, 180, 0, 18, 27, 46]
abbrev dktX3_loses_1 : List UInt8 := dkwX3_loses_1 ++ dktX3_loses_2
def dkwX3_loses_0 : List UInt8 := [42, 180, 0, 11, 27, 46, 61, 28, 154, 0, 5, 3, 172, 42, 180, 0, 18, 27, 46, 2, 160, 0, 18, 42]
abbrev dktX3_loses_0 : List UInt8 := dkwX3_loses_0 ++ dktX3_loses_1
theorem dksX3_loses_0 : cX3_loses.data.toList.drop 0 = dktX3_loses_0 := by decide +kernel
theorem dksX3_loses_1 : cX3_loses.data.toList.drop 24 = dktX3_loses_1 := dk_seg dksX3_loses_0 24 rfl rfl
theorem dksX3_loses_2 : cX3_loses.data.toList.drop 48 = dktX3_loses_2 := dk_seg dksX3_loses_1 24 rfl rfl
theorem dksX3_loses_3 : cX3_loses.data.toList.drop 71 = dktX3_loses_3 := dk_seg dksX3_loses_2 23 rfl rfl
theorem dksX3_loses_4 : cX3_loses.data.toList.drop 95 = dktX3_loses_4 := dk_seg dksX3_loses_3 24 rfl rfl
theorem dksX3_loses_5 : cX3_loses.data.toList.drop 119 = dktX3_loses_5 := dk_seg dksX3_loses_4 24 rfl rfl
theorem dX3_loses_0 : decode cX3_loses 0 = .ok (.aload_n 0, 1) := dk_42 (dk_at dksX3_loses_0 0 rfl rfl)
theorem dX3_loses_1 : decode cX3_loses 1 = .ok (.getfield 11, 3) := dk_180 0 11 (dk_at dksX3_loses_0 1 rfl rfl)
theorem dX3_loses_4 : decode cX3_loses 4 = .ok (.iload_n 1, 1) := dk_27 (dk_at dksX3_loses_0 4 rfl rfl)
theorem dX3_loses_5 : decode cX3_loses 5 = .ok (.iaload, 1) := dk_46 (dk_at dksX3_loses_0 5 rfl rfl)
theorem dX3_loses_6 : decode cX3_loses 6 = .ok (.istore_n 2, 1) := dk_61 (dk_at dksX3_loses_0 6 rfl rfl)
theorem dX3_loses_7 : decode cX3_loses 7 = .ok (.iload_n 2, 1) := dk_28 (dk_at dksX3_loses_0 7 rfl rfl)
theorem dX3_loses_8 : decode cX3_loses 8 = .ok (.ifCond .ne 5, 3) := dk_154 0 5 (dk_at dksX3_loses_0 8 rfl rfl)
theorem dX3_loses_11 : decode cX3_loses 11 = .ok (.iconst 0, 1) := dk_3 (dk_at dksX3_loses_0 11 rfl rfl)
theorem dX3_loses_12 : decode cX3_loses 12 = .ok (.ireturn, 1) := dk_172 (dk_at dksX3_loses_0 12 rfl rfl)
theorem dX3_loses_13 : decode cX3_loses 13 = .ok (.aload_n 0, 1) := dk_42 (dk_at dksX3_loses_0 13 rfl rfl)
theorem dX3_loses_14 : decode cX3_loses 14 = .ok (.getfield 18, 3) := dk_180 0 18 (dk_at dksX3_loses_0 14 rfl rfl)
theorem dX3_loses_17 : decode cX3_loses 17 = .ok (.iload_n 1, 1) := dk_27 (dk_at dksX3_loses_0 17 rfl rfl)
theorem dX3_loses_18 : decode cX3_loses 18 = .ok (.iaload, 1) := dk_46 (dk_at dksX3_loses_0 18 rfl rfl)
theorem dX3_loses_19 : decode cX3_loses 19 = .ok (.iconst (-1), 1) := dk_2 (dk_at dksX3_loses_0 19 rfl rfl)
theorem dX3_loses_20 : decode cX3_loses 20 = .ok (.if_icmp .ne 18, 3) := dk_160 0 18 (dk_at dksX3_loses_0 20 rfl rfl)
theorem dX3_loses_23 : decode cX3_loses 23 = .ok (.aload_n 0, 1) := dk_42 (dk_at dksX3_loses_0 23 rfl rfl)
theorem dX3_loses_24 : decode cX3_loses 24 = .ok (.getfield 34, 3) := dk_180 0 34 (dk_at dksX3_loses_1 0 rfl rfl)
theorem dX3_loses_27 : decode cX3_loses 27 = .ok (.iload_n 2, 1) := dk_28 (dk_at dksX3_loses_1 3 rfl rfl)
theorem dX3_loses_28 : decode cX3_loses 28 = .ok (.aload_n 0, 1) := dk_42 (dk_at dksX3_loses_1 4 rfl rfl)
theorem dX3_loses_29 : decode cX3_loses 29 = .ok (.getfield 15, 3) := dk_180 0 15 (dk_at dksX3_loses_1 5 rfl rfl)
theorem dX3_loses_32 : decode cX3_loses 32 = .ok (.iload_n 1, 1) := dk_27 (dk_at dksX3_loses_1 8 rfl rfl)
theorem dX3_loses_33 : decode cX3_loses 33 = .ok (.iaload, 1) := dk_46 (dk_at dksX3_loses_1 9 rfl rfl)
theorem dX3_loses_34 : decode cX3_loses 34 = .ok (.iastore, 1) := dk_79 (dk_at dksX3_loses_1 10 rfl rfl)
theorem dX3_loses_35 : decode cX3_loses 35 = .ok (.goto 20, 3) := dk_167 0 20 (dk_at dksX3_loses_1 11 rfl rfl)
theorem dX3_loses_38 : decode cX3_loses 38 = .ok (.aload_n 0, 1) := dk_42 (dk_at dksX3_loses_1 14 rfl rfl)
theorem dX3_loses_39 : decode cX3_loses 39 = .ok (.getfield 15, 3) := dk_180 0 15 (dk_at dksX3_loses_1 15 rfl rfl)
theorem dX3_loses_42 : decode cX3_loses 42 = .ok (.aload_n 0, 1) := dk_42 (dk_at dksX3_loses_1 18 rfl rfl)
theorem dX3_loses_43 : decode cX3_loses 43 = .ok (.getfield 18, 3) := dk_180 0 18 (dk_at dksX3_loses_1 19 rfl rfl)
theorem dX3_loses_46 : decode cX3_loses 46 = .ok (.iload_n 1, 1) := dk_27 (dk_at dksX3_loses_1 22 rfl rfl)
theorem dX3_loses_47 : decode cX3_loses 47 = .ok (.iaload, 1) := dk_46 (dk_at dksX3_loses_1 23 rfl rfl)
theorem dX3_loses_48 : decode cX3_loses 48 = .ok (.aload_n 0, 1) := dk_42 (dk_at dksX3_loses_2 0 rfl rfl)
theorem dX3_loses_49 : decode cX3_loses 49 = .ok (.getfield 15, 3) := dk_180 0 15 (dk_at dksX3_loses_2 1 rfl rfl)
theorem dX3_loses_52 : decode cX3_loses 52 = .ok (.iload_n 1, 1) := dk_27 (dk_at dksX3_loses_2 4 rfl rfl)
theorem dX3_loses_53 : decode cX3_loses 53 = .ok (.iaload, 1) := dk_46 (dk_at dksX3_loses_2 5 rfl rfl)
theorem dX3_loses_54 : decode cX3_loses 54 = .ok (.iastore, 1) := dk_79 (dk_at dksX3_loses_2 6 rfl rfl)
theorem dX3_loses_55 : decode cX3_loses 55 = .ok (.aload_n 0, 1) := dk_42 (dk_at dksX3_loses_2 7 rfl rfl)
theorem dX3_loses_56 : decode cX3_loses 56 = .ok (.getfield 15, 3) := dk_180 0 15 (dk_at dksX3_loses_2 8 rfl rfl)
theorem dX3_loses_59 : decode cX3_loses 59 = .ok (.iload_n 1, 1) := dk_27 (dk_at dksX3_loses_2 11 rfl rfl)
theorem dX3_loses_60 : decode cX3_loses 60 = .ok (.iaload, 1) := dk_46 (dk_at dksX3_loses_2 12 rfl rfl)
theorem dX3_loses_61 : decode cX3_loses 61 = .ok (.iconst (-1), 1) := dk_2 (dk_at dksX3_loses_2 13 rfl rfl)
theorem dX3_loses_62 : decode cX3_loses 62 = .ok (.if_icmp .ne 18, 3) := dk_160 0 18 (dk_at dksX3_loses_2 14 rfl rfl)
theorem dX3_loses_65 : decode cX3_loses 65 = .ok (.aload_n 0, 1) := dk_42 (dk_at dksX3_loses_2 17 rfl rfl)
theorem dX3_loses_66 : decode cX3_loses 66 = .ok (.getfield 37, 3) := dk_180 0 37 (dk_at dksX3_loses_2 18 rfl rfl)
theorem dX3_loses_69 : decode cX3_loses 69 = .ok (.iload_n 2, 1) := dk_28 (dk_at dksX3_loses_2 21 rfl rfl)
theorem dX3_loses_70 : decode cX3_loses 70 = .ok (.aload_n 0, 1) := dk_42 (dk_at dksX3_loses_2 22 rfl rfl)
theorem dX3_loses_71 : decode cX3_loses 71 = .ok (.getfield 18, 3) := dk_180 0 18 (dk_at dksX3_loses_3 0 rfl rfl)
theorem dX3_loses_74 : decode cX3_loses 74 = .ok (.iload_n 1, 1) := dk_27 (dk_at dksX3_loses_3 3 rfl rfl)
theorem dX3_loses_75 : decode cX3_loses 75 = .ok (.iaload, 1) := dk_46 (dk_at dksX3_loses_3 4 rfl rfl)
theorem dX3_loses_76 : decode cX3_loses 76 = .ok (.iastore, 1) := dk_79 (dk_at dksX3_loses_3 5 rfl rfl)
theorem dX3_loses_77 : decode cX3_loses 77 = .ok (.goto 20, 3) := dk_167 0 20 (dk_at dksX3_loses_3 6 rfl rfl)
theorem dX3_loses_80 : decode cX3_loses 80 = .ok (.aload_n 0, 1) := dk_42 (dk_at dksX3_loses_3 9 rfl rfl)
theorem dX3_loses_81 : decode cX3_loses 81 = .ok (.getfield 18, 3) := dk_180 0 18 (dk_at dksX3_loses_3 10 rfl rfl)
theorem dX3_loses_84 : decode cX3_loses 84 = .ok (.aload_n 0, 1) := dk_42 (dk_at dksX3_loses_3 13 rfl rfl)
theorem dX3_loses_85 : decode cX3_loses 85 = .ok (.getfield 15, 3) := dk_180 0 15 (dk_at dksX3_loses_3 14 rfl rfl)
theorem dX3_loses_88 : decode cX3_loses 88 = .ok (.iload_n 1, 1) := dk_27 (dk_at dksX3_loses_3 17 rfl rfl)
theorem dX3_loses_89 : decode cX3_loses 89 = .ok (.iaload, 1) := dk_46 (dk_at dksX3_loses_3 18 rfl rfl)
theorem dX3_loses_90 : decode cX3_loses 90 = .ok (.aload_n 0, 1) := dk_42 (dk_at dksX3_loses_3 19 rfl rfl)
theorem dX3_loses_91 : decode cX3_loses 91 = .ok (.getfield 18, 3) := dk_180 0 18 (dk_at dksX3_loses_3 20 rfl rfl)
theorem dX3_loses_94 : decode cX3_loses 94 = .ok (.iload_n 1, 1) := dk_27 (dk_at dksX3_loses_3 23 rfl rfl)
theorem dX3_loses_95 : decode cX3_loses 95 = .ok (.iaload, 1) := dk_46 (dk_at dksX3_loses_4 0 rfl rfl)
theorem dX3_loses_96 : decode cX3_loses 96 = .ok (.iastore, 1) := dk_79 (dk_at dksX3_loses_4 1 rfl rfl)
theorem dX3_loses_97 : decode cX3_loses 97 = .ok (.aload_n 0, 1) := dk_42 (dk_at dksX3_loses_4 2 rfl rfl)
theorem dX3_loses_98 : decode cX3_loses 98 = .ok (.getfield 40, 3) := dk_180 0 40 (dk_at dksX3_loses_4 3 rfl rfl)
theorem dX3_loses_101 : decode cX3_loses 101 = .ok (.iload_n 2, 1) := dk_28 (dk_at dksX3_loses_4 6 rfl rfl)
theorem dX3_loses_102 : decode cX3_loses 102 = .ok (.dup2, 1) := dk_92 (dk_at dksX3_loses_4 7 rfl rfl)
theorem dX3_loses_103 : decode cX3_loses 103 = .ok (.iaload, 1) := dk_46 (dk_at dksX3_loses_4 8 rfl rfl)
theorem dX3_loses_104 : decode cX3_loses 104 = .ok (.aload_n 0, 1) := dk_42 (dk_at dksX3_loses_4 9 rfl rfl)
theorem dX3_loses_105 : decode cX3_loses 105 = .ok (.getfield 21, 3) := dk_180 0 21 (dk_at dksX3_loses_4 10 rfl rfl)
theorem dX3_loses_108 : decode cX3_loses 108 = .ok (.iload_n 1, 1) := dk_27 (dk_at dksX3_loses_4 13 rfl rfl)
theorem dX3_loses_109 : decode cX3_loses 109 = .ok (.iaload, 1) := dk_46 (dk_at dksX3_loses_4 14 rfl rfl)
theorem dX3_loses_110 : decode cX3_loses 110 = .ok (.isub, 1) := dk_100 (dk_at dksX3_loses_4 15 rfl rfl)
theorem dX3_loses_111 : decode cX3_loses 111 = .ok (.iastore, 1) := dk_79 (dk_at dksX3_loses_4 16 rfl rfl)
theorem dX3_loses_112 : decode cX3_loses 112 = .ok (.aload_n 0, 1) := dk_42 (dk_at dksX3_loses_4 17 rfl rfl)
theorem dX3_loses_113 : decode cX3_loses 113 = .ok (.getfield 11, 3) := dk_180 0 11 (dk_at dksX3_loses_4 18 rfl rfl)
theorem dX3_loses_116 : decode cX3_loses 116 = .ok (.iload_n 1, 1) := dk_27 (dk_at dksX3_loses_4 21 rfl rfl)
theorem dX3_loses_117 : decode cX3_loses 117 = .ok (.iconst 0, 1) := dk_3 (dk_at dksX3_loses_4 22 rfl rfl)
theorem dX3_loses_118 : decode cX3_loses 118 = .ok (.iastore, 1) := dk_79 (dk_at dksX3_loses_4 23 rfl rfl)
theorem dX3_loses_119 : decode cX3_loses 119 = .ok (.iload_n 2, 1) := dk_28 (dk_at dksX3_loses_5 0 rfl rfl)
theorem dX3_loses_120 : decode cX3_loses 120 = .ok (.ireturn, 1) := dk_172 (dk_at dksX3_loses_5 1 rfl rfl)
abbrev cX3_both : ByteArray := prog_9_method_9_code
def yX3_both : MethodName := ⟨RX3, "both", "()I"⟩
def dkwX3_both_0 : List UInt8 := [42, 180, 0, 40, 4, 46, 42, 180, 0, 40, 5, 46, 96, 172]
abbrev dktX3_both_0 : List UInt8 := dkwX3_both_0 ++ []
theorem dksX3_both_0 : cX3_both.data.toList.drop 0 = dktX3_both_0 := by decide +kernel
theorem dX3_both_0 : decode cX3_both 0 = .ok (.aload_n 0, 1) := dk_42 (dk_at dksX3_both_0 0 rfl rfl)
theorem dX3_both_1 : decode cX3_both 1 = .ok (.getfield 40, 3) := dk_180 0 40 (dk_at dksX3_both_0 1 rfl rfl)
theorem dX3_both_4 : decode cX3_both 4 = .ok (.iconst 1, 1) := dk_4 (dk_at dksX3_both_0 4 rfl rfl)
theorem dX3_both_5 : decode cX3_both 5 = .ok (.iaload, 1) := dk_46 (dk_at dksX3_both_0 5 rfl rfl)
theorem dX3_both_6 : decode cX3_both 6 = .ok (.aload_n 0, 1) := dk_42 (dk_at dksX3_both_0 6 rfl rfl)
theorem dX3_both_7 : decode cX3_both 7 = .ok (.getfield 40, 3) := dk_180 0 40 (dk_at dksX3_both_0 7 rfl rfl)
theorem dX3_both_10 : decode cX3_both 10 = .ok (.iconst 2, 1) := dk_5 (dk_at dksX3_both_0 10 rfl rfl)
theorem dX3_both_11 : decode cX3_both 11 = .ok (.iaload, 1) := dk_46 (dk_at dksX3_both_0 11 rfl rfl)
theorem dX3_both_12 : decode cX3_both 12 = .ok (.iadd, 1) := dk_96 (dk_at dksX3_both_0 12 rfl rfl)
theorem dX3_both_13 : decode cX3_both 13 = .ok (.ireturn, 1) := dk_172 (dk_at dksX3_both_0 13 rfl rfl)
abbrev cX3_goesFromProbation : ByteArray := prog_9_method_11_code
def yX3_goesFromProbation : MethodName := ⟨RX3, "goesFromProbation", "()Z"⟩
def dkwX3_goesFromProbation_1 : List UInt8 := [6, 182, 0, 160, 172, 42, 180, 0, 27, 27, 92, 46, 4, 100, 79, 42, 27, 4, 182, 0, 146, 4, 172]
abbrev dktX3_goesFromProbation_1 : List UInt8 := dkwX3_goesFromProbation_1 ++ []
def dkwX3_goesFromProbation_0 : List UInt8 := [42, 4, 182, 0, 157, 60, 27, 2, 160, 0, 5, 3, 172, 42, 180, 0, 27, 27, 46, 154, 0, 10, 42, 27]
abbrev dktX3_goesFromProbation_0 : List UInt8 := dkwX3_goesFromProbation_0 ++ dktX3_goesFromProbation_1
theorem dksX3_goesFromProbation_0 : cX3_goesFromProbation.data.toList.drop 0 = dktX3_goesFromProbation_0 := by decide +kernel
theorem dksX3_goesFromProbation_1 : cX3_goesFromProbation.data.toList.drop 24 = dktX3_goesFromProbation_1 := dk_seg dksX3_goesFromProbation_0 24 rfl rfl
theorem dX3_goesFromProbation_0 : decode cX3_goesFromProbation 0 = .ok (.aload_n 0, 1) := dk_42 (dk_at dksX3_goesFromProbation_0 0 rfl rfl)
theorem dX3_goesFromProbation_1 : decode cX3_goesFromProbation 1 = .ok (.iconst 1, 1) := dk_4 (dk_at dksX3_goesFromProbation_0 1 rfl rfl)
theorem dX3_goesFromProbation_2 : decode cX3_goesFromProbation 2 = .ok (.invokevirtual 157, 3) := dk_182 0 157 (dk_at dksX3_goesFromProbation_0 2 rfl rfl)
theorem dX3_goesFromProbation_5 : decode cX3_goesFromProbation 5 = .ok (.istore_n 1, 1) := dk_60 (dk_at dksX3_goesFromProbation_0 5 rfl rfl)
theorem dX3_goesFromProbation_6 : decode cX3_goesFromProbation 6 = .ok (.iload_n 1, 1) := dk_27 (dk_at dksX3_goesFromProbation_0 6 rfl rfl)
theorem dX3_goesFromProbation_7 : decode cX3_goesFromProbation 7 = .ok (.iconst (-1), 1) := dk_2 (dk_at dksX3_goesFromProbation_0 7 rfl rfl)
theorem dX3_goesFromProbation_8 : decode cX3_goesFromProbation 8 = .ok (.if_icmp .ne 5, 3) := dk_160 0 5 (dk_at dksX3_goesFromProbation_0 8 rfl rfl)
theorem dX3_goesFromProbation_11 : decode cX3_goesFromProbation 11 = .ok (.iconst 0, 1) := dk_3 (dk_at dksX3_goesFromProbation_0 11 rfl rfl)
theorem dX3_goesFromProbation_12 : decode cX3_goesFromProbation 12 = .ok (.ireturn, 1) := dk_172 (dk_at dksX3_goesFromProbation_0 12 rfl rfl)
theorem dX3_goesFromProbation_13 : decode cX3_goesFromProbation 13 = .ok (.aload_n 0, 1) := dk_42 (dk_at dksX3_goesFromProbation_0 13 rfl rfl)
theorem dX3_goesFromProbation_14 : decode cX3_goesFromProbation 14 = .ok (.getfield 27, 3) := dk_180 0 27 (dk_at dksX3_goesFromProbation_0 14 rfl rfl)
theorem dX3_goesFromProbation_17 : decode cX3_goesFromProbation 17 = .ok (.iload_n 1, 1) := dk_27 (dk_at dksX3_goesFromProbation_0 17 rfl rfl)
theorem dX3_goesFromProbation_18 : decode cX3_goesFromProbation 18 = .ok (.iaload, 1) := dk_46 (dk_at dksX3_goesFromProbation_0 18 rfl rfl)
theorem dX3_goesFromProbation_19 : decode cX3_goesFromProbation 19 = .ok (.ifCond .ne 10, 3) := dk_154 0 10 (dk_at dksX3_goesFromProbation_0 19 rfl rfl)
theorem dX3_goesFromProbation_22 : decode cX3_goesFromProbation 22 = .ok (.aload_n 0, 1) := dk_42 (dk_at dksX3_goesFromProbation_0 22 rfl rfl)
theorem dX3_goesFromProbation_23 : decode cX3_goesFromProbation 23 = .ok (.iload_n 1, 1) := dk_27 (dk_at dksX3_goesFromProbation_0 23 rfl rfl)
theorem dX3_goesFromProbation_24 : decode cX3_goesFromProbation 24 = .ok (.iconst 3, 1) := dk_6 (dk_at dksX3_goesFromProbation_1 0 rfl rfl)
theorem dX3_goesFromProbation_25 : decode cX3_goesFromProbation 25 = .ok (.invokevirtual 160, 3) := dk_182 0 160 (dk_at dksX3_goesFromProbation_1 1 rfl rfl)
theorem dX3_goesFromProbation_28 : decode cX3_goesFromProbation 28 = .ok (.ireturn, 1) := dk_172 (dk_at dksX3_goesFromProbation_1 4 rfl rfl)
theorem dX3_goesFromProbation_29 : decode cX3_goesFromProbation 29 = .ok (.aload_n 0, 1) := dk_42 (dk_at dksX3_goesFromProbation_1 5 rfl rfl)
theorem dX3_goesFromProbation_30 : decode cX3_goesFromProbation 30 = .ok (.getfield 27, 3) := dk_180 0 27 (dk_at dksX3_goesFromProbation_1 6 rfl rfl)
theorem dX3_goesFromProbation_33 : decode cX3_goesFromProbation 33 = .ok (.iload_n 1, 1) := dk_27 (dk_at dksX3_goesFromProbation_1 9 rfl rfl)
theorem dX3_goesFromProbation_34 : decode cX3_goesFromProbation 34 = .ok (.dup2, 1) := dk_92 (dk_at dksX3_goesFromProbation_1 10 rfl rfl)
theorem dX3_goesFromProbation_35 : decode cX3_goesFromProbation 35 = .ok (.iaload, 1) := dk_46 (dk_at dksX3_goesFromProbation_1 11 rfl rfl)
theorem dX3_goesFromProbation_36 : decode cX3_goesFromProbation 36 = .ok (.iconst 1, 1) := dk_4 (dk_at dksX3_goesFromProbation_1 12 rfl rfl)
theorem dX3_goesFromProbation_37 : decode cX3_goesFromProbation 37 = .ok (.isub, 1) := dk_100 (dk_at dksX3_goesFromProbation_1 13 rfl rfl)
theorem dX3_goesFromProbation_38 : decode cX3_goesFromProbation 38 = .ok (.iastore, 1) := dk_79 (dk_at dksX3_goesFromProbation_1 14 rfl rfl)
theorem dX3_goesFromProbation_39 : decode cX3_goesFromProbation 39 = .ok (.aload_n 0, 1) := dk_42 (dk_at dksX3_goesFromProbation_1 15 rfl rfl)
theorem dX3_goesFromProbation_40 : decode cX3_goesFromProbation 40 = .ok (.iload_n 1, 1) := dk_27 (dk_at dksX3_goesFromProbation_1 16 rfl rfl)
theorem dX3_goesFromProbation_41 : decode cX3_goesFromProbation 41 = .ok (.iconst 1, 1) := dk_4 (dk_at dksX3_goesFromProbation_1 17 rfl rfl)
theorem dX3_goesFromProbation_42 : decode cX3_goesFromProbation 42 = .ok (.invokevirtual 146, 3) := dk_182 0 146 (dk_at dksX3_goesFromProbation_1 18 rfl rfl)
theorem dX3_goesFromProbation_45 : decode cX3_goesFromProbation 45 = .ok (.iconst 1, 1) := dk_4 (dk_at dksX3_goesFromProbation_1 21 rfl rfl)
theorem dX3_goesFromProbation_46 : decode cX3_goesFromProbation 46 = .ok (.ireturn, 1) := dk_172 (dk_at dksX3_goesFromProbation_1 22 rfl rfl)
abbrev cX3_goes : ByteArray := prog_9_method_10_code
def yX3_goes : MethodName := ⟨RX3, "goes", "(II)Z"⟩
def dkwX3_goes_1 : List UInt8 := [96, 181, 0, 137, 4, 172]
abbrev dktX3_goes_1 : List UInt8 := dkwX3_goes_1 ++ []
def dkwX3_goes_0 : List UInt8 := [42, 27, 42, 180, 0, 21, 27, 46, 3, 28, 182, 0, 101, 42, 27, 181, 0, 154, 42, 89, 180, 0, 137, 4]
abbrev dktX3_goes_0 : List UInt8 := dkwX3_goes_0 ++ dktX3_goes_1
theorem dksX3_goes_0 : cX3_goes.data.toList.drop 0 = dktX3_goes_0 := by decide +kernel
theorem dksX3_goes_1 : cX3_goes.data.toList.drop 24 = dktX3_goes_1 := dk_seg dksX3_goes_0 24 rfl rfl
theorem dX3_goes_0 : decode cX3_goes 0 = .ok (.aload_n 0, 1) := dk_42 (dk_at dksX3_goes_0 0 rfl rfl)
theorem dX3_goes_1 : decode cX3_goes 1 = .ok (.iload_n 1, 1) := dk_27 (dk_at dksX3_goes_0 1 rfl rfl)
theorem dX3_goes_2 : decode cX3_goes 2 = .ok (.aload_n 0, 1) := dk_42 (dk_at dksX3_goes_0 2 rfl rfl)
theorem dX3_goes_3 : decode cX3_goes 3 = .ok (.getfield 21, 3) := dk_180 0 21 (dk_at dksX3_goes_0 3 rfl rfl)
theorem dX3_goes_6 : decode cX3_goes 6 = .ok (.iload_n 1, 1) := dk_27 (dk_at dksX3_goes_0 6 rfl rfl)
theorem dX3_goes_7 : decode cX3_goes 7 = .ok (.iaload, 1) := dk_46 (dk_at dksX3_goes_0 7 rfl rfl)
theorem dX3_goes_8 : decode cX3_goes 8 = .ok (.iconst 0, 1) := dk_3 (dk_at dksX3_goes_0 8 rfl rfl)
theorem dX3_goes_9 : decode cX3_goes 9 = .ok (.iload_n 2, 1) := dk_28 (dk_at dksX3_goes_0 9 rfl rfl)
theorem dX3_goes_10 : decode cX3_goes 10 = .ok (.invokevirtual 101, 3) := dk_182 0 101 (dk_at dksX3_goes_0 10 rfl rfl)
theorem dX3_goes_13 : decode cX3_goes 13 = .ok (.aload_n 0, 1) := dk_42 (dk_at dksX3_goes_0 13 rfl rfl)
theorem dX3_goes_14 : decode cX3_goes 14 = .ok (.iload_n 1, 1) := dk_27 (dk_at dksX3_goes_0 14 rfl rfl)
theorem dX3_goes_15 : decode cX3_goes 15 = .ok (.putfield 154, 3) := dk_181 0 154 (dk_at dksX3_goes_0 15 rfl rfl)
theorem dX3_goes_18 : decode cX3_goes 18 = .ok (.aload_n 0, 1) := dk_42 (dk_at dksX3_goes_0 18 rfl rfl)
theorem dX3_goes_19 : decode cX3_goes 19 = .ok (.dup, 1) := dk_89 (dk_at dksX3_goes_0 19 rfl rfl)
theorem dX3_goes_20 : decode cX3_goes 20 = .ok (.getfield 137, 3) := dk_180 0 137 (dk_at dksX3_goes_0 20 rfl rfl)
theorem dX3_goes_23 : decode cX3_goes 23 = .ok (.iconst 1, 1) := dk_4 (dk_at dksX3_goes_0 23 rfl rfl)
theorem dX3_goes_24 : decode cX3_goes 24 = .ok (.iadd, 1) := dk_96 (dk_at dksX3_goes_1 0 rfl rfl)
theorem dX3_goes_25 : decode cX3_goes 25 = .ok (.putfield 137, 3) := dk_181 0 137 (dk_at dksX3_goes_1 1 rfl rfl)
theorem dX3_goes_28 : decode cX3_goes 28 = .ok (.iconst 1, 1) := dk_4 (dk_at dksX3_goes_1 4 rfl rfl)
theorem dX3_goes_29 : decode cX3_goes 29 = .ok (.ireturn, 1) := dk_172 (dk_at dksX3_goes_1 5 rfl rfl)
abbrev cX3_goesFromProtected : ByteArray := prog_9_method_12_code
def yX3_goesFromProtected : MethodName := ⟨RX3, "goesFromProtected", "()Z"⟩
def dkwX3_goesFromProtected_1 : List UInt8 := [3, 172]
abbrev dktX3_goesFromProtected_1 : List UInt8 := dkwX3_goesFromProtected_1 ++ []
def dkwX3_goesFromProtected_0 : List UInt8 := [42, 5, 182, 0, 157, 60, 27, 2, 159, 0, 16, 42, 27, 7, 182, 0, 160, 153, 0, 7, 4, 167, 0, 4]
abbrev dktX3_goesFromProtected_0 : List UInt8 := dkwX3_goesFromProtected_0 ++ dktX3_goesFromProtected_1
theorem dksX3_goesFromProtected_0 : cX3_goesFromProtected.data.toList.drop 0 = dktX3_goesFromProtected_0 := by decide +kernel
theorem dksX3_goesFromProtected_1 : cX3_goesFromProtected.data.toList.drop 24 = dktX3_goesFromProtected_1 := dk_seg dksX3_goesFromProtected_0 24 rfl rfl
theorem dX3_goesFromProtected_0 : decode cX3_goesFromProtected 0 = .ok (.aload_n 0, 1) := dk_42 (dk_at dksX3_goesFromProtected_0 0 rfl rfl)
theorem dX3_goesFromProtected_1 : decode cX3_goesFromProtected 1 = .ok (.iconst 2, 1) := dk_5 (dk_at dksX3_goesFromProtected_0 1 rfl rfl)
theorem dX3_goesFromProtected_2 : decode cX3_goesFromProtected 2 = .ok (.invokevirtual 157, 3) := dk_182 0 157 (dk_at dksX3_goesFromProtected_0 2 rfl rfl)
theorem dX3_goesFromProtected_5 : decode cX3_goesFromProtected 5 = .ok (.istore_n 1, 1) := dk_60 (dk_at dksX3_goesFromProtected_0 5 rfl rfl)
theorem dX3_goesFromProtected_6 : decode cX3_goesFromProtected 6 = .ok (.iload_n 1, 1) := dk_27 (dk_at dksX3_goesFromProtected_0 6 rfl rfl)
theorem dX3_goesFromProtected_7 : decode cX3_goesFromProtected 7 = .ok (.iconst (-1), 1) := dk_2 (dk_at dksX3_goesFromProtected_0 7 rfl rfl)
theorem dX3_goesFromProtected_8 : decode cX3_goesFromProtected 8 = .ok (.if_icmp .eq 16, 3) := dk_159 0 16 (dk_at dksX3_goesFromProtected_0 8 rfl rfl)
theorem dX3_goesFromProtected_11 : decode cX3_goesFromProtected 11 = .ok (.aload_n 0, 1) := dk_42 (dk_at dksX3_goesFromProtected_0 11 rfl rfl)
theorem dX3_goesFromProtected_12 : decode cX3_goesFromProtected 12 = .ok (.iload_n 1, 1) := dk_27 (dk_at dksX3_goesFromProtected_0 12 rfl rfl)
theorem dX3_goesFromProtected_13 : decode cX3_goesFromProtected 13 = .ok (.iconst 4, 1) := dk_7 (dk_at dksX3_goesFromProtected_0 13 rfl rfl)
theorem dX3_goesFromProtected_14 : decode cX3_goesFromProtected 14 = .ok (.invokevirtual 160, 3) := dk_182 0 160 (dk_at dksX3_goesFromProtected_0 14 rfl rfl)
theorem dX3_goesFromProtected_17 : decode cX3_goesFromProtected 17 = .ok (.ifCond .eq 7, 3) := dk_153 0 7 (dk_at dksX3_goesFromProtected_0 17 rfl rfl)
theorem dX3_goesFromProtected_20 : decode cX3_goesFromProtected 20 = .ok (.iconst 1, 1) := dk_4 (dk_at dksX3_goesFromProtected_0 20 rfl rfl)
theorem dX3_goesFromProtected_21 : decode cX3_goesFromProtected 21 = .ok (.goto 4, 3) := dk_167 0 4 (dk_at dksX3_goesFromProtected_0 21 rfl rfl)
theorem dX3_goesFromProtected_24 : decode cX3_goesFromProtected 24 = .ok (.iconst 0, 1) := dk_3 (dk_at dksX3_goesFromProtected_1 0 rfl rfl)
theorem dX3_goesFromProtected_25 : decode cX3_goesFromProtected 25 = .ok (.ireturn, 1) := dk_172 (dk_at dksX3_goesFromProtected_1 1 rfl rfl)
abbrev cX3_runs : ByteArray := prog_9_method_20_code
def yX3_runs : MethodName := ⟨RX3, "runs", "(Ljava/util/LinkedList;)V"⟩
def dkwX3_runs_4 : List UInt8 := [180, 0, 213, 182, 0, 214, 167, 0, 10, 42, 21, 4, 182, 0, 150, 87, 167, 255, 157, 177]
abbrev dktX3_runs_4 : List UInt8 := dkwX3_runs_4 ++ []
def dkwX3_runs_3 : List UInt8 := [42, 21, 4, 182, 0, 210, 167, 0, 34, 45, 180, 0, 213, 42, 180, 0, 115, 163, 0, 23, 42, 21, 4, 45]
abbrev dktX3_runs_3 : List UInt8 := dkwX3_runs_3 ++ dktX3_runs_4
def dkwX3_runs_2 : List UInt8 := [171, 0, 0, 0, 0, 0, 60, 0, 0, 0, 2, 0, 0, 0, 103, 0, 0, 0, 27, 0, 0, 0, 112, 0, 0, 0, 36]
abbrev dktX3_runs_2 : List UInt8 := dkwX3_runs_2 ++ dktX3_runs_3
def dkwX3_runs_1 : List UInt8 := [45, 180, 0, 203, 182, 0, 86, 54, 4, 45, 180, 0, 207]
abbrev dktX3_runs_1 : List UInt8 := dkwX3_runs_1 ++ dktX3_runs_2
def dkwX3_runs_0 : List UInt8 := [43, 182, 0, 198, 77, 44, 185, 0, 70, 1, 0, 153, 0, 96, 44, 185, 0, 76, 1, 0, 192, 0, 201, 78]
abbrev dktX3_runs_0 : List UInt8 := dkwX3_runs_0 ++ dktX3_runs_1
theorem dksX3_runs_0 : cX3_runs.data.toList.drop 0 = dktX3_runs_0 := by decide +kernel
theorem dksX3_runs_1 : cX3_runs.data.toList.drop 24 = dktX3_runs_1 := dk_seg dksX3_runs_0 24 rfl rfl
theorem dksX3_runs_2 : cX3_runs.data.toList.drop 37 = dktX3_runs_2 := dk_seg dksX3_runs_1 13 rfl rfl
theorem dksX3_runs_3 : cX3_runs.data.toList.drop 64 = dktX3_runs_3 := dk_seg dksX3_runs_2 27 rfl rfl
theorem dksX3_runs_4 : cX3_runs.data.toList.drop 88 = dktX3_runs_4 := dk_seg dksX3_runs_3 24 rfl rfl
theorem dX3_runs_0 : decode cX3_runs 0 = .ok (.aload_n 1, 1) := dk_43 (dk_at dksX3_runs_0 0 rfl rfl)
theorem dX3_runs_1 : decode cX3_runs 1 = .ok (.invokevirtual 198, 3) := dk_182 0 198 (dk_at dksX3_runs_0 1 rfl rfl)
theorem dX3_runs_4 : decode cX3_runs 4 = .ok (.astore_n 2, 1) := dk_77 (dk_at dksX3_runs_0 4 rfl rfl)
theorem dX3_runs_5 : decode cX3_runs 5 = .ok (.aload_n 2, 1) := dk_44 (dk_at dksX3_runs_0 5 rfl rfl)
theorem dX3_runs_6 : decode cX3_runs 6 = .ok (.invokeinterface 70 1, 5) := by decide +kernel
theorem dX3_runs_11 : decode cX3_runs 11 = .ok (.ifCond .eq 96, 3) := dk_153 0 96 (dk_at dksX3_runs_0 11 rfl rfl)
theorem dX3_runs_14 : decode cX3_runs 14 = .ok (.aload_n 2, 1) := dk_44 (dk_at dksX3_runs_0 14 rfl rfl)
theorem dX3_runs_15 : decode cX3_runs 15 = .ok (.invokeinterface 76 1, 5) := by decide +kernel
theorem dX3_runs_20 : decode cX3_runs 20 = .ok (.checkcast 201, 3) := dk_192 0 201 (dk_at dksX3_runs_0 20 rfl rfl)
theorem dX3_runs_23 : decode cX3_runs 23 = .ok (.astore_n 3, 1) := dk_78 (dk_at dksX3_runs_0 23 rfl rfl)
theorem dX3_runs_24 : decode cX3_runs 24 = .ok (.aload_n 3, 1) := dk_45 (dk_at dksX3_runs_1 0 rfl rfl)
theorem dX3_runs_25 : decode cX3_runs 25 = .ok (.getfield 203, 3) := dk_180 0 203 (dk_at dksX3_runs_1 1 rfl rfl)
theorem dX3_runs_28 : decode cX3_runs 28 = .ok (.invokevirtual 86, 3) := dk_182 0 86 (dk_at dksX3_runs_1 4 rfl rfl)
theorem dX3_runs_31 : decode cX3_runs 31 = .ok (.istore 4, 2) := dk_54 4 (dk_at dksX3_runs_1 7 rfl rfl)
theorem dX3_runs_33 : decode cX3_runs 33 = .ok (.aload_n 3, 1) := dk_45 (dk_at dksX3_runs_1 9 rfl rfl)
theorem dX3_runs_34 : decode cX3_runs 34 = .ok (.getfield 207, 3) := dk_180 0 207 (dk_at dksX3_runs_1 10 rfl rfl)
theorem dX3_runs_37 : decode cX3_runs 37 = .ok (.lookupswitch 60 #[(103, 27), (112, 36)], 27) := by decide +kernel
theorem dX3_runs_64 : decode cX3_runs 64 = .ok (.aload_n 0, 1) := dk_42 (dk_at dksX3_runs_3 0 rfl rfl)
theorem dX3_runs_65 : decode cX3_runs 65 = .ok (.iload 4, 2) := dk_21 4 (dk_at dksX3_runs_3 1 rfl rfl)
theorem dX3_runs_67 : decode cX3_runs 67 = .ok (.invokevirtual 210, 3) := dk_182 0 210 (dk_at dksX3_runs_3 3 rfl rfl)
theorem dX3_runs_70 : decode cX3_runs 70 = .ok (.goto 34, 3) := dk_167 0 34 (dk_at dksX3_runs_3 6 rfl rfl)
theorem dX3_runs_73 : decode cX3_runs 73 = .ok (.aload_n 3, 1) := dk_45 (dk_at dksX3_runs_3 9 rfl rfl)
theorem dX3_runs_74 : decode cX3_runs 74 = .ok (.getfield 213, 3) := dk_180 0 213 (dk_at dksX3_runs_3 10 rfl rfl)
theorem dX3_runs_77 : decode cX3_runs 77 = .ok (.aload_n 0, 1) := dk_42 (dk_at dksX3_runs_3 13 rfl rfl)
theorem dX3_runs_78 : decode cX3_runs 78 = .ok (.getfield 115, 3) := dk_180 0 115 (dk_at dksX3_runs_3 14 rfl rfl)
theorem dX3_runs_81 : decode cX3_runs 81 = .ok (.if_icmp .gt 23, 3) := dk_163 0 23 (dk_at dksX3_runs_3 17 rfl rfl)
theorem dX3_runs_84 : decode cX3_runs 84 = .ok (.aload_n 0, 1) := dk_42 (dk_at dksX3_runs_3 20 rfl rfl)
theorem dX3_runs_85 : decode cX3_runs 85 = .ok (.iload 4, 2) := dk_21 4 (dk_at dksX3_runs_3 21 rfl rfl)
theorem dX3_runs_87 : decode cX3_runs 87 = .ok (.aload_n 3, 1) := dk_45 (dk_at dksX3_runs_3 23 rfl rfl)
theorem dX3_runs_88 : decode cX3_runs 88 = .ok (.getfield 213, 3) := dk_180 0 213 (dk_at dksX3_runs_4 0 rfl rfl)
theorem dX3_runs_91 : decode cX3_runs 91 = .ok (.invokevirtual 214, 3) := dk_182 0 214 (dk_at dksX3_runs_4 3 rfl rfl)
theorem dX3_runs_94 : decode cX3_runs 94 = .ok (.goto 10, 3) := dk_167 0 10 (dk_at dksX3_runs_4 6 rfl rfl)
theorem dX3_runs_97 : decode cX3_runs 97 = .ok (.aload_n 0, 1) := dk_42 (dk_at dksX3_runs_4 9 rfl rfl)
theorem dX3_runs_98 : decode cX3_runs 98 = .ok (.iload 4, 2) := dk_21 4 (dk_at dksX3_runs_4 10 rfl rfl)
theorem dX3_runs_100 : decode cX3_runs 100 = .ok (.invokevirtual 150, 3) := dk_182 0 150 (dk_at dksX3_runs_4 12 rfl rfl)
theorem dX3_runs_103 : decode cX3_runs 103 = .ok (.pop, 1) := dk_87 (dk_at dksX3_runs_4 15 rfl rfl)
theorem dX3_runs_104 : decode cX3_runs 104 = .ok (.goto (-99), 3) := dk_167 255 157 (dk_at dksX3_runs_4 16 rfl rfl)
theorem dX3_runs_107 : decode cX3_runs 107 = .ok (.return_, 1) := dk_177 (dk_at dksX3_runs_4 19 rfl rfl)
abbrev cX3_gets : ByteArray := prog_9_method_18_code
def yX3_gets : MethodName := ⟨RX3, "gets", "(I)V"⟩
def dkwX3_gets_2 : List UInt8 := [42, 27, 182, 0, 190, 42, 182, 0, 192, 177]
abbrev dktX3_gets_2 : List UInt8 := dkwX3_gets_2 ++ []
def dkwX3_gets_1 : List UInt8 := [153, 0, 13, 42, 89, 180, 0, 134, 4, 96, 181, 0, 134, 177, 42, 89, 180, 0, 128, 4, 96, 181, 0, 128]
abbrev dktX3_gets_1 : List UInt8 := dkwX3_gets_1 ++ dktX3_gets_2
def dkwX3_gets_0 : List UInt8 := [42, 27, 182, 0, 186, 154, 0, 33, 42, 89, 180, 0, 131, 4, 96, 181, 0, 131, 42, 180, 0, 11, 27, 46]
abbrev dktX3_gets_0 : List UInt8 := dkwX3_gets_0 ++ dktX3_gets_1
theorem dksX3_gets_0 : cX3_gets.data.toList.drop 0 = dktX3_gets_0 := by decide +kernel
theorem dksX3_gets_1 : cX3_gets.data.toList.drop 24 = dktX3_gets_1 := dk_seg dksX3_gets_0 24 rfl rfl
theorem dksX3_gets_2 : cX3_gets.data.toList.drop 48 = dktX3_gets_2 := dk_seg dksX3_gets_1 24 rfl rfl
theorem dX3_gets_0 : decode cX3_gets 0 = .ok (.aload_n 0, 1) := dk_42 (dk_at dksX3_gets_0 0 rfl rfl)
theorem dX3_gets_1 : decode cX3_gets 1 = .ok (.iload_n 1, 1) := dk_27 (dk_at dksX3_gets_0 1 rfl rfl)
theorem dX3_gets_2 : decode cX3_gets 2 = .ok (.invokevirtual 186, 3) := dk_182 0 186 (dk_at dksX3_gets_0 2 rfl rfl)
theorem dX3_gets_5 : decode cX3_gets 5 = .ok (.ifCond .ne 33, 3) := dk_154 0 33 (dk_at dksX3_gets_0 5 rfl rfl)
theorem dX3_gets_8 : decode cX3_gets 8 = .ok (.aload_n 0, 1) := dk_42 (dk_at dksX3_gets_0 8 rfl rfl)
theorem dX3_gets_9 : decode cX3_gets 9 = .ok (.dup, 1) := dk_89 (dk_at dksX3_gets_0 9 rfl rfl)
theorem dX3_gets_10 : decode cX3_gets 10 = .ok (.getfield 131, 3) := dk_180 0 131 (dk_at dksX3_gets_0 10 rfl rfl)
theorem dX3_gets_13 : decode cX3_gets 13 = .ok (.iconst 1, 1) := dk_4 (dk_at dksX3_gets_0 13 rfl rfl)
theorem dX3_gets_14 : decode cX3_gets 14 = .ok (.iadd, 1) := dk_96 (dk_at dksX3_gets_0 14 rfl rfl)
theorem dX3_gets_15 : decode cX3_gets 15 = .ok (.putfield 131, 3) := dk_181 0 131 (dk_at dksX3_gets_0 15 rfl rfl)
theorem dX3_gets_18 : decode cX3_gets 18 = .ok (.aload_n 0, 1) := dk_42 (dk_at dksX3_gets_0 18 rfl rfl)
theorem dX3_gets_19 : decode cX3_gets 19 = .ok (.getfield 11, 3) := dk_180 0 11 (dk_at dksX3_gets_0 19 rfl rfl)
theorem dX3_gets_22 : decode cX3_gets 22 = .ok (.iload_n 1, 1) := dk_27 (dk_at dksX3_gets_0 22 rfl rfl)
theorem dX3_gets_23 : decode cX3_gets 23 = .ok (.iaload, 1) := dk_46 (dk_at dksX3_gets_0 23 rfl rfl)
theorem dX3_gets_24 : decode cX3_gets 24 = .ok (.ifCond .eq 13, 3) := dk_153 0 13 (dk_at dksX3_gets_1 0 rfl rfl)
theorem dX3_gets_27 : decode cX3_gets 27 = .ok (.aload_n 0, 1) := dk_42 (dk_at dksX3_gets_1 3 rfl rfl)
theorem dX3_gets_28 : decode cX3_gets 28 = .ok (.dup, 1) := dk_89 (dk_at dksX3_gets_1 4 rfl rfl)
theorem dX3_gets_29 : decode cX3_gets 29 = .ok (.getfield 134, 3) := dk_180 0 134 (dk_at dksX3_gets_1 5 rfl rfl)
theorem dX3_gets_32 : decode cX3_gets 32 = .ok (.iconst 1, 1) := dk_4 (dk_at dksX3_gets_1 8 rfl rfl)
theorem dX3_gets_33 : decode cX3_gets 33 = .ok (.iadd, 1) := dk_96 (dk_at dksX3_gets_1 9 rfl rfl)
theorem dX3_gets_34 : decode cX3_gets 34 = .ok (.putfield 134, 3) := dk_181 0 134 (dk_at dksX3_gets_1 10 rfl rfl)
theorem dX3_gets_37 : decode cX3_gets 37 = .ok (.return_, 1) := dk_177 (dk_at dksX3_gets_1 13 rfl rfl)
theorem dX3_gets_38 : decode cX3_gets 38 = .ok (.aload_n 0, 1) := dk_42 (dk_at dksX3_gets_1 14 rfl rfl)
theorem dX3_gets_39 : decode cX3_gets 39 = .ok (.dup, 1) := dk_89 (dk_at dksX3_gets_1 15 rfl rfl)
theorem dX3_gets_40 : decode cX3_gets 40 = .ok (.getfield 128, 3) := dk_180 0 128 (dk_at dksX3_gets_1 16 rfl rfl)
theorem dX3_gets_43 : decode cX3_gets 43 = .ok (.iconst 1, 1) := dk_4 (dk_at dksX3_gets_1 19 rfl rfl)
theorem dX3_gets_44 : decode cX3_gets 44 = .ok (.iadd, 1) := dk_96 (dk_at dksX3_gets_1 20 rfl rfl)
theorem dX3_gets_45 : decode cX3_gets 45 = .ok (.putfield 128, 3) := dk_181 0 128 (dk_at dksX3_gets_1 21 rfl rfl)
theorem dX3_gets_48 : decode cX3_gets 48 = .ok (.aload_n 0, 1) := dk_42 (dk_at dksX3_gets_2 0 rfl rfl)
theorem dX3_gets_49 : decode cX3_gets 49 = .ok (.iload_n 1, 1) := dk_27 (dk_at dksX3_gets_2 1 rfl rfl)
theorem dX3_gets_50 : decode cX3_gets 50 = .ok (.invokevirtual 190, 3) := dk_182 0 190 (dk_at dksX3_gets_2 2 rfl rfl)
theorem dX3_gets_53 : decode cX3_gets 53 = .ok (.aload_n 0, 1) := dk_42 (dk_at dksX3_gets_2 5 rfl rfl)
theorem dX3_gets_54 : decode cX3_gets 54 = .ok (.invokevirtual 192, 3) := dk_182 0 192 (dk_at dksX3_gets_2 6 rfl rfl)
theorem dX3_gets_57 : decode cX3_gets 57 = .ok (.return_, 1) := dk_177 (dk_at dksX3_gets_2 9 rfl rfl)
abbrev cX3_isThing : ByteArray := prog_9_method_16_code
def yX3_isThing : MethodName := ⟨RX3, "isThing", "(I)Z"⟩
def dkwX3_isThing_1 : List UInt8 := [3, 172]
abbrev dktX3_isThing_1 : List UInt8 := dkwX3_isThing_1 ++ []
def dkwX3_isThing_0 : List UInt8 := [42, 180, 0, 11, 27, 46, 4, 159, 0, 13, 42, 180, 0, 11, 27, 46, 5, 160, 0, 7, 4, 167, 0, 4]
abbrev dktX3_isThing_0 : List UInt8 := dkwX3_isThing_0 ++ dktX3_isThing_1
theorem dksX3_isThing_0 : cX3_isThing.data.toList.drop 0 = dktX3_isThing_0 := by decide +kernel
theorem dksX3_isThing_1 : cX3_isThing.data.toList.drop 24 = dktX3_isThing_1 := dk_seg dksX3_isThing_0 24 rfl rfl
theorem dX3_isThing_0 : decode cX3_isThing 0 = .ok (.aload_n 0, 1) := dk_42 (dk_at dksX3_isThing_0 0 rfl rfl)
theorem dX3_isThing_1 : decode cX3_isThing 1 = .ok (.getfield 11, 3) := dk_180 0 11 (dk_at dksX3_isThing_0 1 rfl rfl)
theorem dX3_isThing_4 : decode cX3_isThing 4 = .ok (.iload_n 1, 1) := dk_27 (dk_at dksX3_isThing_0 4 rfl rfl)
theorem dX3_isThing_5 : decode cX3_isThing 5 = .ok (.iaload, 1) := dk_46 (dk_at dksX3_isThing_0 5 rfl rfl)
theorem dX3_isThing_6 : decode cX3_isThing 6 = .ok (.iconst 1, 1) := dk_4 (dk_at dksX3_isThing_0 6 rfl rfl)
theorem dX3_isThing_7 : decode cX3_isThing 7 = .ok (.if_icmp .eq 13, 3) := dk_159 0 13 (dk_at dksX3_isThing_0 7 rfl rfl)
theorem dX3_isThing_10 : decode cX3_isThing 10 = .ok (.aload_n 0, 1) := dk_42 (dk_at dksX3_isThing_0 10 rfl rfl)
theorem dX3_isThing_11 : decode cX3_isThing 11 = .ok (.getfield 11, 3) := dk_180 0 11 (dk_at dksX3_isThing_0 11 rfl rfl)
theorem dX3_isThing_14 : decode cX3_isThing 14 = .ok (.iload_n 1, 1) := dk_27 (dk_at dksX3_isThing_0 14 rfl rfl)
theorem dX3_isThing_15 : decode cX3_isThing 15 = .ok (.iaload, 1) := dk_46 (dk_at dksX3_isThing_0 15 rfl rfl)
theorem dX3_isThing_16 : decode cX3_isThing 16 = .ok (.iconst 2, 1) := dk_5 (dk_at dksX3_isThing_0 16 rfl rfl)
theorem dX3_isThing_17 : decode cX3_isThing 17 = .ok (.if_icmp .ne 7, 3) := dk_160 0 7 (dk_at dksX3_isThing_0 17 rfl rfl)
theorem dX3_isThing_20 : decode cX3_isThing 20 = .ok (.iconst 1, 1) := dk_4 (dk_at dksX3_isThing_0 20 rfl rfl)
theorem dX3_isThing_21 : decode cX3_isThing 21 = .ok (.goto 4, 3) := dk_167 0 4 (dk_at dksX3_isThing_0 21 rfl rfl)
theorem dX3_isThing_24 : decode cX3_isThing 24 = .ok (.iconst 0, 1) := dk_3 (dk_at dksX3_isThing_1 0 rfl rfl)
theorem dX3_isThing_25 : decode cX3_isThing 25 = .ok (.ireturn, 1) := dk_172 (dk_at dksX3_isThing_1 1 rfl rfl)
abbrev cX3_hits : ByteArray := prog_9_method_17_code
def yX3_hits : MethodName := ⟨RX3, "hits", "(I)V"⟩
def dkwX3_hits_2 : List UInt8 := [167, 0, 4, 5, 182, 0, 146, 177]
abbrev dktX3_hits_2 : List UInt8 := dkwX3_hits_2 ++ []
def dkwX3_hits_1 : List UInt8 := [61, 42, 27, 28, 4, 160, 0, 20, 42, 180, 0, 24, 27, 46, 42, 180, 0, 123, 162, 0, 7, 4]
abbrev dktX3_hits_1 : List UInt8 := dkwX3_hits_1 ++ dktX3_hits_2
def dkwX3_hits_0 : List UInt8 := [42, 180, 0, 24, 27, 16, 99, 42, 180, 0, 24, 27, 46, 4, 96, 184, 0, 180, 79, 42, 27, 182, 0, 150]
abbrev dktX3_hits_0 : List UInt8 := dkwX3_hits_0 ++ dktX3_hits_1
theorem dksX3_hits_0 : cX3_hits.data.toList.drop 0 = dktX3_hits_0 := by decide +kernel
theorem dksX3_hits_1 : cX3_hits.data.toList.drop 24 = dktX3_hits_1 := dk_seg dksX3_hits_0 24 rfl rfl
theorem dksX3_hits_2 : cX3_hits.data.toList.drop 46 = dktX3_hits_2 := dk_seg dksX3_hits_1 22 rfl rfl
theorem dX3_hits_0 : decode cX3_hits 0 = .ok (.aload_n 0, 1) := dk_42 (dk_at dksX3_hits_0 0 rfl rfl)
theorem dX3_hits_1 : decode cX3_hits 1 = .ok (.getfield 24, 3) := dk_180 0 24 (dk_at dksX3_hits_0 1 rfl rfl)
theorem dX3_hits_4 : decode cX3_hits 4 = .ok (.iload_n 1, 1) := dk_27 (dk_at dksX3_hits_0 4 rfl rfl)
theorem dX3_hits_5 : decode cX3_hits 5 = .ok (.bipush 99, 2) := dk_16 99 (dk_at dksX3_hits_0 5 rfl rfl)
theorem dX3_hits_7 : decode cX3_hits 7 = .ok (.aload_n 0, 1) := dk_42 (dk_at dksX3_hits_0 7 rfl rfl)
theorem dX3_hits_8 : decode cX3_hits 8 = .ok (.getfield 24, 3) := dk_180 0 24 (dk_at dksX3_hits_0 8 rfl rfl)
theorem dX3_hits_11 : decode cX3_hits 11 = .ok (.iload_n 1, 1) := dk_27 (dk_at dksX3_hits_0 11 rfl rfl)
theorem dX3_hits_12 : decode cX3_hits 12 = .ok (.iaload, 1) := dk_46 (dk_at dksX3_hits_0 12 rfl rfl)
theorem dX3_hits_13 : decode cX3_hits 13 = .ok (.iconst 1, 1) := dk_4 (dk_at dksX3_hits_0 13 rfl rfl)
theorem dX3_hits_14 : decode cX3_hits 14 = .ok (.iadd, 1) := dk_96 (dk_at dksX3_hits_0 14 rfl rfl)
theorem dX3_hits_15 : decode cX3_hits 15 = .ok (.invokestatic 180, 3) := dk_184 0 180 (dk_at dksX3_hits_0 15 rfl rfl)
theorem dX3_hits_18 : decode cX3_hits 18 = .ok (.iastore, 1) := dk_79 (dk_at dksX3_hits_0 18 rfl rfl)
theorem dX3_hits_19 : decode cX3_hits 19 = .ok (.aload_n 0, 1) := dk_42 (dk_at dksX3_hits_0 19 rfl rfl)
theorem dX3_hits_20 : decode cX3_hits 20 = .ok (.iload_n 1, 1) := dk_27 (dk_at dksX3_hits_0 20 rfl rfl)
theorem dX3_hits_21 : decode cX3_hits 21 = .ok (.invokevirtual 150, 3) := dk_182 0 150 (dk_at dksX3_hits_0 21 rfl rfl)
theorem dX3_hits_24 : decode cX3_hits 24 = .ok (.istore_n 2, 1) := dk_61 (dk_at dksX3_hits_1 0 rfl rfl)
theorem dX3_hits_25 : decode cX3_hits 25 = .ok (.aload_n 0, 1) := dk_42 (dk_at dksX3_hits_1 1 rfl rfl)
theorem dX3_hits_26 : decode cX3_hits 26 = .ok (.iload_n 1, 1) := dk_27 (dk_at dksX3_hits_1 2 rfl rfl)
theorem dX3_hits_27 : decode cX3_hits 27 = .ok (.iload_n 2, 1) := dk_28 (dk_at dksX3_hits_1 3 rfl rfl)
theorem dX3_hits_28 : decode cX3_hits 28 = .ok (.iconst 1, 1) := dk_4 (dk_at dksX3_hits_1 4 rfl rfl)
theorem dX3_hits_29 : decode cX3_hits 29 = .ok (.if_icmp .ne 20, 3) := dk_160 0 20 (dk_at dksX3_hits_1 5 rfl rfl)
theorem dX3_hits_32 : decode cX3_hits 32 = .ok (.aload_n 0, 1) := dk_42 (dk_at dksX3_hits_1 8 rfl rfl)
theorem dX3_hits_33 : decode cX3_hits 33 = .ok (.getfield 24, 3) := dk_180 0 24 (dk_at dksX3_hits_1 9 rfl rfl)
theorem dX3_hits_36 : decode cX3_hits 36 = .ok (.iload_n 1, 1) := dk_27 (dk_at dksX3_hits_1 12 rfl rfl)
theorem dX3_hits_37 : decode cX3_hits 37 = .ok (.iaload, 1) := dk_46 (dk_at dksX3_hits_1 13 rfl rfl)
theorem dX3_hits_38 : decode cX3_hits 38 = .ok (.aload_n 0, 1) := dk_42 (dk_at dksX3_hits_1 14 rfl rfl)
theorem dX3_hits_39 : decode cX3_hits 39 = .ok (.getfield 123, 3) := dk_180 0 123 (dk_at dksX3_hits_1 15 rfl rfl)
theorem dX3_hits_42 : decode cX3_hits 42 = .ok (.if_icmp .ge 7, 3) := dk_162 0 7 (dk_at dksX3_hits_1 18 rfl rfl)
theorem dX3_hits_45 : decode cX3_hits 45 = .ok (.iconst 1, 1) := dk_4 (dk_at dksX3_hits_1 21 rfl rfl)
theorem dX3_hits_46 : decode cX3_hits 46 = .ok (.goto 4, 3) := dk_167 0 4 (dk_at dksX3_hits_2 0 rfl rfl)
theorem dX3_hits_49 : decode cX3_hits 49 = .ok (.iconst 2, 1) := dk_5 (dk_at dksX3_hits_2 3 rfl rfl)
theorem dX3_hits_50 : decode cX3_hits 50 = .ok (.invokevirtual 146, 3) := dk_182 0 146 (dk_at dksX3_hits_2 4 rfl rfl)
theorem dX3_hits_53 : decode cX3_hits 53 = .ok (.return_, 1) := dk_177 (dk_at dksX3_hits_2 7 rfl rfl)
abbrev cX3_trims : ByteArray := prog_9_method_15_code
def yX3_trims : MethodName := ⟨RX3, "trims", "()V"⟩
def dkwX3_trims_3 : List UInt8 := [42, 7, 182, 0, 176, 177]
abbrev dktX3_trims_3 : List UInt8 := dkwX3_trims_3 ++ []
def dkwX3_trims_2 : List UInt8 := [154, 0, 10, 42, 182, 0, 173, 153, 0, 7, 4, 167, 0, 4, 3, 60, 167, 255, 221, 42, 6, 182, 0, 176]
abbrev dktX3_trims_2 : List UInt8 := dkwX3_trims_2 ++ dktX3_trims_3
def dkwX3_trims_1 : List UInt8 := [167, 255, 234, 4, 60, 27, 153, 0, 37, 42, 182, 0, 167, 42, 180, 0, 115, 164, 0, 26, 42, 182, 0, 170]
abbrev dktX3_trims_1 : List UInt8 := dkwX3_trims_1 ++ dktX3_trims_2
def dkwX3_trims_0 : List UInt8 := [4, 60, 27, 153, 0, 24, 42, 180, 0, 40, 5, 46, 42, 180, 0, 119, 164, 0, 11, 42, 182, 0, 164, 60]
abbrev dktX3_trims_0 : List UInt8 := dkwX3_trims_0 ++ dktX3_trims_1
theorem dksX3_trims_0 : cX3_trims.data.toList.drop 0 = dktX3_trims_0 := by decide +kernel
theorem dksX3_trims_1 : cX3_trims.data.toList.drop 24 = dktX3_trims_1 := dk_seg dksX3_trims_0 24 rfl rfl
theorem dksX3_trims_2 : cX3_trims.data.toList.drop 48 = dktX3_trims_2 := dk_seg dksX3_trims_1 24 rfl rfl
theorem dksX3_trims_3 : cX3_trims.data.toList.drop 72 = dktX3_trims_3 := dk_seg dksX3_trims_2 24 rfl rfl
theorem dX3_trims_0 : decode cX3_trims 0 = .ok (.iconst 1, 1) := dk_4 (dk_at dksX3_trims_0 0 rfl rfl)
theorem dX3_trims_1 : decode cX3_trims 1 = .ok (.istore_n 1, 1) := dk_60 (dk_at dksX3_trims_0 1 rfl rfl)
theorem dX3_trims_2 : decode cX3_trims 2 = .ok (.iload_n 1, 1) := dk_27 (dk_at dksX3_trims_0 2 rfl rfl)
theorem dX3_trims_3 : decode cX3_trims 3 = .ok (.ifCond .eq 24, 3) := dk_153 0 24 (dk_at dksX3_trims_0 3 rfl rfl)
theorem dX3_trims_6 : decode cX3_trims 6 = .ok (.aload_n 0, 1) := dk_42 (dk_at dksX3_trims_0 6 rfl rfl)
theorem dX3_trims_7 : decode cX3_trims 7 = .ok (.getfield 40, 3) := dk_180 0 40 (dk_at dksX3_trims_0 7 rfl rfl)
theorem dX3_trims_10 : decode cX3_trims 10 = .ok (.iconst 2, 1) := dk_5 (dk_at dksX3_trims_0 10 rfl rfl)
theorem dX3_trims_11 : decode cX3_trims 11 = .ok (.iaload, 1) := dk_46 (dk_at dksX3_trims_0 11 rfl rfl)
theorem dX3_trims_12 : decode cX3_trims 12 = .ok (.aload_n 0, 1) := dk_42 (dk_at dksX3_trims_0 12 rfl rfl)
theorem dX3_trims_13 : decode cX3_trims 13 = .ok (.getfield 119, 3) := dk_180 0 119 (dk_at dksX3_trims_0 13 rfl rfl)
theorem dX3_trims_16 : decode cX3_trims 16 = .ok (.if_icmp .le 11, 3) := dk_164 0 11 (dk_at dksX3_trims_0 16 rfl rfl)
theorem dX3_trims_19 : decode cX3_trims 19 = .ok (.aload_n 0, 1) := dk_42 (dk_at dksX3_trims_0 19 rfl rfl)
theorem dX3_trims_20 : decode cX3_trims 20 = .ok (.invokevirtual 164, 3) := dk_182 0 164 (dk_at dksX3_trims_0 20 rfl rfl)
theorem dX3_trims_23 : decode cX3_trims 23 = .ok (.istore_n 1, 1) := dk_60 (dk_at dksX3_trims_0 23 rfl rfl)
theorem dX3_trims_24 : decode cX3_trims 24 = .ok (.goto (-22), 3) := dk_167 255 234 (dk_at dksX3_trims_1 0 rfl rfl)
theorem dX3_trims_27 : decode cX3_trims 27 = .ok (.iconst 1, 1) := dk_4 (dk_at dksX3_trims_1 3 rfl rfl)
theorem dX3_trims_28 : decode cX3_trims 28 = .ok (.istore_n 1, 1) := dk_60 (dk_at dksX3_trims_1 4 rfl rfl)
theorem dX3_trims_29 : decode cX3_trims 29 = .ok (.iload_n 1, 1) := dk_27 (dk_at dksX3_trims_1 5 rfl rfl)
theorem dX3_trims_30 : decode cX3_trims 30 = .ok (.ifCond .eq 37, 3) := dk_153 0 37 (dk_at dksX3_trims_1 6 rfl rfl)
theorem dX3_trims_33 : decode cX3_trims 33 = .ok (.aload_n 0, 1) := dk_42 (dk_at dksX3_trims_1 9 rfl rfl)
theorem dX3_trims_34 : decode cX3_trims 34 = .ok (.invokevirtual 167, 3) := dk_182 0 167 (dk_at dksX3_trims_1 10 rfl rfl)
theorem dX3_trims_37 : decode cX3_trims 37 = .ok (.aload_n 0, 1) := dk_42 (dk_at dksX3_trims_1 13 rfl rfl)
theorem dX3_trims_38 : decode cX3_trims 38 = .ok (.getfield 115, 3) := dk_180 0 115 (dk_at dksX3_trims_1 14 rfl rfl)
theorem dX3_trims_41 : decode cX3_trims 41 = .ok (.if_icmp .le 26, 3) := dk_164 0 26 (dk_at dksX3_trims_1 17 rfl rfl)
theorem dX3_trims_44 : decode cX3_trims 44 = .ok (.aload_n 0, 1) := dk_42 (dk_at dksX3_trims_1 20 rfl rfl)
theorem dX3_trims_45 : decode cX3_trims 45 = .ok (.invokevirtual 170, 3) := dk_182 0 170 (dk_at dksX3_trims_1 21 rfl rfl)
theorem dX3_trims_48 : decode cX3_trims 48 = .ok (.ifCond .ne 10, 3) := dk_154 0 10 (dk_at dksX3_trims_2 0 rfl rfl)
theorem dX3_trims_51 : decode cX3_trims 51 = .ok (.aload_n 0, 1) := dk_42 (dk_at dksX3_trims_2 3 rfl rfl)
theorem dX3_trims_52 : decode cX3_trims 52 = .ok (.invokevirtual 173, 3) := dk_182 0 173 (dk_at dksX3_trims_2 4 rfl rfl)
theorem dX3_trims_55 : decode cX3_trims 55 = .ok (.ifCond .eq 7, 3) := dk_153 0 7 (dk_at dksX3_trims_2 7 rfl rfl)
theorem dX3_trims_58 : decode cX3_trims 58 = .ok (.iconst 1, 1) := dk_4 (dk_at dksX3_trims_2 10 rfl rfl)
theorem dX3_trims_59 : decode cX3_trims 59 = .ok (.goto 4, 3) := dk_167 0 4 (dk_at dksX3_trims_2 11 rfl rfl)
theorem dX3_trims_62 : decode cX3_trims 62 = .ok (.iconst 0, 1) := dk_3 (dk_at dksX3_trims_2 14 rfl rfl)
theorem dX3_trims_63 : decode cX3_trims 63 = .ok (.istore_n 1, 1) := dk_60 (dk_at dksX3_trims_2 15 rfl rfl)
theorem dX3_trims_64 : decode cX3_trims 64 = .ok (.goto (-35), 3) := dk_167 255 221 (dk_at dksX3_trims_2 16 rfl rfl)
theorem dX3_trims_67 : decode cX3_trims 67 = .ok (.aload_n 0, 1) := dk_42 (dk_at dksX3_trims_2 19 rfl rfl)
theorem dX3_trims_68 : decode cX3_trims 68 = .ok (.iconst 3, 1) := dk_6 (dk_at dksX3_trims_2 20 rfl rfl)
theorem dX3_trims_69 : decode cX3_trims 69 = .ok (.invokevirtual 176, 3) := dk_182 0 176 (dk_at dksX3_trims_2 21 rfl rfl)
theorem dX3_trims_72 : decode cX3_trims 72 = .ok (.aload_n 0, 1) := dk_42 (dk_at dksX3_trims_3 0 rfl rfl)
theorem dX3_trims_73 : decode cX3_trims 73 = .ok (.iconst 4, 1) := dk_7 (dk_at dksX3_trims_3 1 rfl rfl)
theorem dX3_trims_74 : decode cX3_trims 74 = .ok (.invokevirtual 176, 3) := dk_182 0 176 (dk_at dksX3_trims_3 2 rfl rfl)
theorem dX3_trims_77 : decode cX3_trims 77 = .ok (.return_, 1) := dk_177 (dk_at dksX3_trims_3 5 rfl rfl)
abbrev cX3_fades : ByteArray := prog_9_method_14_code
def yX3_fades : MethodName := ⟨RX3, "fades", "(I)V"⟩
def dkwX3_fades_0 : List UInt8 := [42, 180, 0, 40, 27, 46, 42, 180, 0, 115, 164, 0, 12, 42, 27, 182, 0, 157, 87, 167, 255, 237, 177]
abbrev dktX3_fades_0 : List UInt8 := dkwX3_fades_0 ++ []
theorem dksX3_fades_0 : cX3_fades.data.toList.drop 0 = dktX3_fades_0 := by decide +kernel
theorem dX3_fades_0 : decode cX3_fades 0 = .ok (.aload_n 0, 1) := dk_42 (dk_at dksX3_fades_0 0 rfl rfl)
theorem dX3_fades_1 : decode cX3_fades 1 = .ok (.getfield 40, 3) := dk_180 0 40 (dk_at dksX3_fades_0 1 rfl rfl)
theorem dX3_fades_4 : decode cX3_fades 4 = .ok (.iload_n 1, 1) := dk_27 (dk_at dksX3_fades_0 4 rfl rfl)
theorem dX3_fades_5 : decode cX3_fades 5 = .ok (.iaload, 1) := dk_46 (dk_at dksX3_fades_0 5 rfl rfl)
theorem dX3_fades_6 : decode cX3_fades 6 = .ok (.aload_n 0, 1) := dk_42 (dk_at dksX3_fades_0 6 rfl rfl)
theorem dX3_fades_7 : decode cX3_fades 7 = .ok (.getfield 115, 3) := dk_180 0 115 (dk_at dksX3_fades_0 7 rfl rfl)
theorem dX3_fades_10 : decode cX3_fades 10 = .ok (.if_icmp .le 12, 3) := dk_164 0 12 (dk_at dksX3_fades_0 10 rfl rfl)
theorem dX3_fades_13 : decode cX3_fades 13 = .ok (.aload_n 0, 1) := dk_42 (dk_at dksX3_fades_0 13 rfl rfl)
theorem dX3_fades_14 : decode cX3_fades 14 = .ok (.iload_n 1, 1) := dk_27 (dk_at dksX3_fades_0 14 rfl rfl)
theorem dX3_fades_15 : decode cX3_fades 15 = .ok (.invokevirtual 157, 3) := dk_182 0 157 (dk_at dksX3_fades_0 15 rfl rfl)
theorem dX3_fades_18 : decode cX3_fades 18 = .ok (.pop, 1) := dk_87 (dk_at dksX3_fades_0 18 rfl rfl)
theorem dX3_fades_19 : decode cX3_fades 19 = .ok (.goto (-19), 3) := dk_167 255 237 (dk_at dksX3_fades_0 19 rfl rfl)
theorem dX3_fades_22 : decode cX3_fades 22 = .ok (.return_, 1) := dk_177 (dk_at dksX3_fades_0 22 rfl rfl)
abbrev cX3_puts : ByteArray := prog_9_method_19_code
def yX3_puts : MethodName := ⟨RX3, "puts", "(II)V"⟩
def dkwX3_puts_5 : List UInt8 := [182, 0, 101, 42, 182, 0, 192, 177]
abbrev dktX3_puts_5 : List UInt8 := dkwX3_puts_5 ++ []
def dkwX3_puts_4 : List UInt8 := [28, 29, 154, 0, 10, 42, 180, 0, 127, 167, 0, 4, 3, 29, 154, 0, 7, 4, 167, 0, 4, 5]
abbrev dktX3_puts_4 : List UInt8 := dkwX3_puts_4 ++ dktX3_puts_5
def dkwX3_puts_3 : List UInt8 := [29, 7, 160, 0, 20, 42, 42, 180, 0, 115, 42, 180, 0, 119, 28, 96, 184, 0, 180, 181, 0, 119, 42, 27]
abbrev dktX3_puts_3 : List UInt8 := dkwX3_puts_3 ++ dktX3_puts_4
def dkwX3_puts_2 : List UInt8 := [27, 182, 0, 150, 62, 29, 6, 160, 0, 17, 42, 3, 42, 180, 0, 119, 28, 100, 184, 0, 195, 181, 0, 119]
abbrev dktX3_puts_2 : List UInt8 := dkwX3_puts_2 ++ dktX3_puts_3
def dkwX3_puts_1 : List UInt8 := [180, 0, 21, 27, 46, 100, 96, 79, 42, 180, 0, 21, 27, 28, 79, 42, 27, 182, 0, 190, 167, 0, 77, 42]
abbrev dktX3_puts_1 : List UInt8 := dkwX3_puts_1 ++ dktX3_puts_2
def dkwX3_puts_0 : List UInt8 := [42, 27, 182, 0, 186, 153, 0, 40, 42, 180, 0, 40, 42, 180, 0, 11, 27, 46, 92, 46, 28, 42]
abbrev dktX3_puts_0 : List UInt8 := dkwX3_puts_0 ++ dktX3_puts_1
theorem dksX3_puts_0 : cX3_puts.data.toList.drop 0 = dktX3_puts_0 := by decide +kernel
theorem dksX3_puts_1 : cX3_puts.data.toList.drop 22 = dktX3_puts_1 := dk_seg dksX3_puts_0 22 rfl rfl
theorem dksX3_puts_2 : cX3_puts.data.toList.drop 46 = dktX3_puts_2 := dk_seg dksX3_puts_1 24 rfl rfl
theorem dksX3_puts_3 : cX3_puts.data.toList.drop 70 = dktX3_puts_3 := dk_seg dksX3_puts_2 24 rfl rfl
theorem dksX3_puts_4 : cX3_puts.data.toList.drop 94 = dktX3_puts_4 := dk_seg dksX3_puts_3 24 rfl rfl
theorem dksX3_puts_5 : cX3_puts.data.toList.drop 116 = dktX3_puts_5 := dk_seg dksX3_puts_4 22 rfl rfl
theorem dX3_puts_0 : decode cX3_puts 0 = .ok (.aload_n 0, 1) := dk_42 (dk_at dksX3_puts_0 0 rfl rfl)
theorem dX3_puts_1 : decode cX3_puts 1 = .ok (.iload_n 1, 1) := dk_27 (dk_at dksX3_puts_0 1 rfl rfl)
theorem dX3_puts_2 : decode cX3_puts 2 = .ok (.invokevirtual 186, 3) := dk_182 0 186 (dk_at dksX3_puts_0 2 rfl rfl)
theorem dX3_puts_5 : decode cX3_puts 5 = .ok (.ifCond .eq 40, 3) := dk_153 0 40 (dk_at dksX3_puts_0 5 rfl rfl)
theorem dX3_puts_8 : decode cX3_puts 8 = .ok (.aload_n 0, 1) := dk_42 (dk_at dksX3_puts_0 8 rfl rfl)
theorem dX3_puts_9 : decode cX3_puts 9 = .ok (.getfield 40, 3) := dk_180 0 40 (dk_at dksX3_puts_0 9 rfl rfl)
theorem dX3_puts_12 : decode cX3_puts 12 = .ok (.aload_n 0, 1) := dk_42 (dk_at dksX3_puts_0 12 rfl rfl)
theorem dX3_puts_13 : decode cX3_puts 13 = .ok (.getfield 11, 3) := dk_180 0 11 (dk_at dksX3_puts_0 13 rfl rfl)
theorem dX3_puts_16 : decode cX3_puts 16 = .ok (.iload_n 1, 1) := dk_27 (dk_at dksX3_puts_0 16 rfl rfl)
theorem dX3_puts_17 : decode cX3_puts 17 = .ok (.iaload, 1) := dk_46 (dk_at dksX3_puts_0 17 rfl rfl)
theorem dX3_puts_18 : decode cX3_puts 18 = .ok (.dup2, 1) := dk_92 (dk_at dksX3_puts_0 18 rfl rfl)
theorem dX3_puts_19 : decode cX3_puts 19 = .ok (.iaload, 1) := dk_46 (dk_at dksX3_puts_0 19 rfl rfl)
theorem dX3_puts_20 : decode cX3_puts 20 = .ok (.iload_n 2, 1) := dk_28 (dk_at dksX3_puts_0 20 rfl rfl)
theorem dX3_puts_21 : decode cX3_puts 21 = .ok (.aload_n 0, 1) := dk_42 (dk_at dksX3_puts_0 21 rfl rfl)
theorem dX3_puts_22 : decode cX3_puts 22 = .ok (.getfield 21, 3) := dk_180 0 21 (dk_at dksX3_puts_1 0 rfl rfl)
theorem dX3_puts_25 : decode cX3_puts 25 = .ok (.iload_n 1, 1) := dk_27 (dk_at dksX3_puts_1 3 rfl rfl)
theorem dX3_puts_26 : decode cX3_puts 26 = .ok (.iaload, 1) := dk_46 (dk_at dksX3_puts_1 4 rfl rfl)
theorem dX3_puts_27 : decode cX3_puts 27 = .ok (.isub, 1) := dk_100 (dk_at dksX3_puts_1 5 rfl rfl)
theorem dX3_puts_28 : decode cX3_puts 28 = .ok (.iadd, 1) := dk_96 (dk_at dksX3_puts_1 6 rfl rfl)
theorem dX3_puts_29 : decode cX3_puts 29 = .ok (.iastore, 1) := dk_79 (dk_at dksX3_puts_1 7 rfl rfl)
theorem dX3_puts_30 : decode cX3_puts 30 = .ok (.aload_n 0, 1) := dk_42 (dk_at dksX3_puts_1 8 rfl rfl)
theorem dX3_puts_31 : decode cX3_puts 31 = .ok (.getfield 21, 3) := dk_180 0 21 (dk_at dksX3_puts_1 9 rfl rfl)
theorem dX3_puts_34 : decode cX3_puts 34 = .ok (.iload_n 1, 1) := dk_27 (dk_at dksX3_puts_1 12 rfl rfl)
theorem dX3_puts_35 : decode cX3_puts 35 = .ok (.iload_n 2, 1) := dk_28 (dk_at dksX3_puts_1 13 rfl rfl)
theorem dX3_puts_36 : decode cX3_puts 36 = .ok (.iastore, 1) := dk_79 (dk_at dksX3_puts_1 14 rfl rfl)
theorem dX3_puts_37 : decode cX3_puts 37 = .ok (.aload_n 0, 1) := dk_42 (dk_at dksX3_puts_1 15 rfl rfl)
theorem dX3_puts_38 : decode cX3_puts 38 = .ok (.iload_n 1, 1) := dk_27 (dk_at dksX3_puts_1 16 rfl rfl)
theorem dX3_puts_39 : decode cX3_puts 39 = .ok (.invokevirtual 190, 3) := dk_182 0 190 (dk_at dksX3_puts_1 17 rfl rfl)
theorem dX3_puts_42 : decode cX3_puts 42 = .ok (.goto 77, 3) := dk_167 0 77 (dk_at dksX3_puts_1 20 rfl rfl)
theorem dX3_puts_45 : decode cX3_puts 45 = .ok (.aload_n 0, 1) := dk_42 (dk_at dksX3_puts_1 23 rfl rfl)
theorem dX3_puts_46 : decode cX3_puts 46 = .ok (.iload_n 1, 1) := dk_27 (dk_at dksX3_puts_2 0 rfl rfl)
theorem dX3_puts_47 : decode cX3_puts 47 = .ok (.invokevirtual 150, 3) := dk_182 0 150 (dk_at dksX3_puts_2 1 rfl rfl)
theorem dX3_puts_50 : decode cX3_puts 50 = .ok (.istore_n 3, 1) := dk_62 (dk_at dksX3_puts_2 4 rfl rfl)
theorem dX3_puts_51 : decode cX3_puts 51 = .ok (.iload_n 3, 1) := dk_29 (dk_at dksX3_puts_2 5 rfl rfl)
theorem dX3_puts_52 : decode cX3_puts 52 = .ok (.iconst 3, 1) := dk_6 (dk_at dksX3_puts_2 6 rfl rfl)
theorem dX3_puts_53 : decode cX3_puts 53 = .ok (.if_icmp .ne 17, 3) := dk_160 0 17 (dk_at dksX3_puts_2 7 rfl rfl)
theorem dX3_puts_56 : decode cX3_puts 56 = .ok (.aload_n 0, 1) := dk_42 (dk_at dksX3_puts_2 10 rfl rfl)
theorem dX3_puts_57 : decode cX3_puts 57 = .ok (.iconst 0, 1) := dk_3 (dk_at dksX3_puts_2 11 rfl rfl)
theorem dX3_puts_58 : decode cX3_puts 58 = .ok (.aload_n 0, 1) := dk_42 (dk_at dksX3_puts_2 12 rfl rfl)
theorem dX3_puts_59 : decode cX3_puts 59 = .ok (.getfield 119, 3) := dk_180 0 119 (dk_at dksX3_puts_2 13 rfl rfl)
theorem dX3_puts_62 : decode cX3_puts 62 = .ok (.iload_n 2, 1) := dk_28 (dk_at dksX3_puts_2 16 rfl rfl)
theorem dX3_puts_63 : decode cX3_puts 63 = .ok (.isub, 1) := dk_100 (dk_at dksX3_puts_2 17 rfl rfl)
theorem dX3_puts_64 : decode cX3_puts 64 = .ok (.invokestatic 195, 3) := dk_184 0 195 (dk_at dksX3_puts_2 18 rfl rfl)
theorem dX3_puts_67 : decode cX3_puts 67 = .ok (.putfield 119, 3) := dk_181 0 119 (dk_at dksX3_puts_2 21 rfl rfl)
theorem dX3_puts_70 : decode cX3_puts 70 = .ok (.iload_n 3, 1) := dk_29 (dk_at dksX3_puts_3 0 rfl rfl)
theorem dX3_puts_71 : decode cX3_puts 71 = .ok (.iconst 4, 1) := dk_7 (dk_at dksX3_puts_3 1 rfl rfl)
theorem dX3_puts_72 : decode cX3_puts 72 = .ok (.if_icmp .ne 20, 3) := dk_160 0 20 (dk_at dksX3_puts_3 2 rfl rfl)
theorem dX3_puts_75 : decode cX3_puts 75 = .ok (.aload_n 0, 1) := dk_42 (dk_at dksX3_puts_3 5 rfl rfl)
theorem dX3_puts_76 : decode cX3_puts 76 = .ok (.aload_n 0, 1) := dk_42 (dk_at dksX3_puts_3 6 rfl rfl)
theorem dX3_puts_77 : decode cX3_puts 77 = .ok (.getfield 115, 3) := dk_180 0 115 (dk_at dksX3_puts_3 7 rfl rfl)
theorem dX3_puts_80 : decode cX3_puts 80 = .ok (.aload_n 0, 1) := dk_42 (dk_at dksX3_puts_3 10 rfl rfl)
theorem dX3_puts_81 : decode cX3_puts 81 = .ok (.getfield 119, 3) := dk_180 0 119 (dk_at dksX3_puts_3 11 rfl rfl)
theorem dX3_puts_84 : decode cX3_puts 84 = .ok (.iload_n 2, 1) := dk_28 (dk_at dksX3_puts_3 14 rfl rfl)
theorem dX3_puts_85 : decode cX3_puts 85 = .ok (.iadd, 1) := dk_96 (dk_at dksX3_puts_3 15 rfl rfl)
theorem dX3_puts_86 : decode cX3_puts 86 = .ok (.invokestatic 180, 3) := dk_184 0 180 (dk_at dksX3_puts_3 16 rfl rfl)
theorem dX3_puts_89 : decode cX3_puts 89 = .ok (.putfield 119, 3) := dk_181 0 119 (dk_at dksX3_puts_3 19 rfl rfl)
theorem dX3_puts_92 : decode cX3_puts 92 = .ok (.aload_n 0, 1) := dk_42 (dk_at dksX3_puts_3 22 rfl rfl)
theorem dX3_puts_93 : decode cX3_puts 93 = .ok (.iload_n 1, 1) := dk_27 (dk_at dksX3_puts_3 23 rfl rfl)
theorem dX3_puts_94 : decode cX3_puts 94 = .ok (.iload_n 2, 1) := dk_28 (dk_at dksX3_puts_4 0 rfl rfl)
theorem dX3_puts_95 : decode cX3_puts 95 = .ok (.iload_n 3, 1) := dk_29 (dk_at dksX3_puts_4 1 rfl rfl)
theorem dX3_puts_96 : decode cX3_puts 96 = .ok (.ifCond .ne 10, 3) := dk_154 0 10 (dk_at dksX3_puts_4 2 rfl rfl)
theorem dX3_puts_99 : decode cX3_puts 99 = .ok (.aload_n 0, 1) := dk_42 (dk_at dksX3_puts_4 5 rfl rfl)
theorem dX3_puts_100 : decode cX3_puts 100 = .ok (.getfield 127, 3) := dk_180 0 127 (dk_at dksX3_puts_4 6 rfl rfl)
theorem dX3_puts_103 : decode cX3_puts 103 = .ok (.goto 4, 3) := dk_167 0 4 (dk_at dksX3_puts_4 9 rfl rfl)
theorem dX3_puts_106 : decode cX3_puts 106 = .ok (.iconst 0, 1) := dk_3 (dk_at dksX3_puts_4 12 rfl rfl)
theorem dX3_puts_107 : decode cX3_puts 107 = .ok (.iload_n 3, 1) := dk_29 (dk_at dksX3_puts_4 13 rfl rfl)
theorem dX3_puts_108 : decode cX3_puts 108 = .ok (.ifCond .ne 7, 3) := dk_154 0 7 (dk_at dksX3_puts_4 14 rfl rfl)
theorem dX3_puts_111 : decode cX3_puts 111 = .ok (.iconst 1, 1) := dk_4 (dk_at dksX3_puts_4 17 rfl rfl)
theorem dX3_puts_112 : decode cX3_puts 112 = .ok (.goto 4, 3) := dk_167 0 4 (dk_at dksX3_puts_4 18 rfl rfl)
theorem dX3_puts_115 : decode cX3_puts 115 = .ok (.iconst 2, 1) := dk_5 (dk_at dksX3_puts_4 21 rfl rfl)
theorem dX3_puts_116 : decode cX3_puts 116 = .ok (.invokevirtual 101, 3) := dk_182 0 101 (dk_at dksX3_puts_5 0 rfl rfl)
theorem dX3_puts_119 : decode cX3_puts 119 = .ok (.aload_n 0, 1) := dk_42 (dk_at dksX3_puts_5 3 rfl rfl)
theorem dX3_puts_120 : decode cX3_puts 120 = .ok (.invokevirtual 192, 3) := dk_182 0 192 (dk_at dksX3_puts_5 4 rfl rfl)
theorem dX3_puts_123 : decode cX3_puts 123 = .ok (.return_, 1) := dk_177 (dk_at dksX3_puts_5 7 rfl rfl)
abbrev cX3_takes : ByteArray := prog_9_method_4_code
def yX3_takes : MethodName := ⟨RX3, "takes", "(LSegmentedCache$Sketch;)V"⟩
def dkwX3_takes_7 : List UInt8 := [180, 0, 127, 181, 0, 127, 42, 3, 181, 0, 128, 177]
abbrev dktX3_takes_7 : List UInt8 := dkwX3_takes_7 ++ []
def dkwX3_takes_6 : List UInt8 := [180, 0, 40, 3, 42, 180, 0, 40, 3, 8, 184, 0, 140, 42, 43, 180, 0, 123, 181, 0, 123, 42, 43]
abbrev dktX3_takes_6 : List UInt8 := dkwX3_takes_6 ++ dktX3_takes_7
def dkwX3_takes_5 : List UInt8 := [42, 180, 0, 34, 3, 8, 184, 0, 140, 43, 180, 0, 37, 3, 42, 180, 0, 37, 3, 8, 184, 0, 140, 43]
abbrev dktX3_takes_5 : List UInt8 := dkwX3_takes_5 ++ dktX3_takes_6
def dkwX3_takes_4 : List UInt8 := [184, 0, 140, 43, 180, 0, 30, 3, 42, 180, 0, 30, 3, 17, 1, 144, 184, 0, 140, 43, 180, 0, 34, 3]
abbrev dktX3_takes_4 : List UInt8 := dkwX3_takes_4 ++ dktX3_takes_5
def dkwX3_takes_3 : List UInt8 := [42, 180, 0, 24, 3, 17, 1, 144, 184, 0, 140, 43, 180, 0, 27, 3, 42, 180, 0, 27, 3, 17, 1, 144]
abbrev dktX3_takes_3 : List UInt8 := dkwX3_takes_3 ++ dktX3_takes_4
def dkwX3_takes_2 : List UInt8 := [184, 0, 140, 43, 180, 0, 21, 3, 42, 180, 0, 21, 3, 17, 1, 144, 184, 0, 140, 43, 180, 0, 24, 3]
abbrev dktX3_takes_2 : List UInt8 := dkwX3_takes_2 ++ dktX3_takes_3
def dkwX3_takes_1 : List UInt8 := [180, 0, 15, 3, 17, 1, 144, 184, 0, 140, 43, 180, 0, 18, 3, 42, 180, 0, 18, 3, 17, 1, 144]
abbrev dktX3_takes_1 : List UInt8 := dkwX3_takes_1 ++ dktX3_takes_2
def dkwX3_takes_0 : List UInt8 := [43, 180, 0, 11, 3, 42, 180, 0, 11, 3, 17, 1, 144, 184, 0, 140, 43, 180, 0, 15, 3, 42]
abbrev dktX3_takes_0 : List UInt8 := dkwX3_takes_0 ++ dktX3_takes_1
theorem dksX3_takes_0 : cX3_takes.data.toList.drop 0 = dktX3_takes_0 := by decide +kernel
theorem dksX3_takes_1 : cX3_takes.data.toList.drop 22 = dktX3_takes_1 := dk_seg dksX3_takes_0 22 rfl rfl
theorem dksX3_takes_2 : cX3_takes.data.toList.drop 45 = dktX3_takes_2 := dk_seg dksX3_takes_1 23 rfl rfl
theorem dksX3_takes_3 : cX3_takes.data.toList.drop 69 = dktX3_takes_3 := dk_seg dksX3_takes_2 24 rfl rfl
theorem dksX3_takes_4 : cX3_takes.data.toList.drop 93 = dktX3_takes_4 := dk_seg dksX3_takes_3 24 rfl rfl
theorem dksX3_takes_5 : cX3_takes.data.toList.drop 117 = dktX3_takes_5 := dk_seg dksX3_takes_4 24 rfl rfl
theorem dksX3_takes_6 : cX3_takes.data.toList.drop 141 = dktX3_takes_6 := dk_seg dksX3_takes_5 24 rfl rfl
theorem dksX3_takes_7 : cX3_takes.data.toList.drop 164 = dktX3_takes_7 := dk_seg dksX3_takes_6 23 rfl rfl
theorem dX3_takes_0 : decode cX3_takes 0 = .ok (.aload_n 1, 1) := dk_43 (dk_at dksX3_takes_0 0 rfl rfl)
theorem dX3_takes_1 : decode cX3_takes 1 = .ok (.getfield 11, 3) := dk_180 0 11 (dk_at dksX3_takes_0 1 rfl rfl)
theorem dX3_takes_4 : decode cX3_takes 4 = .ok (.iconst 0, 1) := dk_3 (dk_at dksX3_takes_0 4 rfl rfl)
theorem dX3_takes_5 : decode cX3_takes 5 = .ok (.aload_n 0, 1) := dk_42 (dk_at dksX3_takes_0 5 rfl rfl)
theorem dX3_takes_6 : decode cX3_takes 6 = .ok (.getfield 11, 3) := dk_180 0 11 (dk_at dksX3_takes_0 6 rfl rfl)
theorem dX3_takes_9 : decode cX3_takes 9 = .ok (.iconst 0, 1) := dk_3 (dk_at dksX3_takes_0 9 rfl rfl)
theorem dX3_takes_10 : decode cX3_takes 10 = .ok (.sipush 400, 3) := dk_17 1 144 (dk_at dksX3_takes_0 10 rfl rfl)
theorem dX3_takes_13 : decode cX3_takes 13 = .ok (.invokestatic 140, 3) := dk_184 0 140 (dk_at dksX3_takes_0 13 rfl rfl)
theorem dX3_takes_16 : decode cX3_takes 16 = .ok (.aload_n 1, 1) := dk_43 (dk_at dksX3_takes_0 16 rfl rfl)
theorem dX3_takes_17 : decode cX3_takes 17 = .ok (.getfield 15, 3) := dk_180 0 15 (dk_at dksX3_takes_0 17 rfl rfl)
theorem dX3_takes_20 : decode cX3_takes 20 = .ok (.iconst 0, 1) := dk_3 (dk_at dksX3_takes_0 20 rfl rfl)
theorem dX3_takes_21 : decode cX3_takes 21 = .ok (.aload_n 0, 1) := dk_42 (dk_at dksX3_takes_0 21 rfl rfl)
theorem dX3_takes_22 : decode cX3_takes 22 = .ok (.getfield 15, 3) := dk_180 0 15 (dk_at dksX3_takes_1 0 rfl rfl)
theorem dX3_takes_25 : decode cX3_takes 25 = .ok (.iconst 0, 1) := dk_3 (dk_at dksX3_takes_1 3 rfl rfl)
theorem dX3_takes_26 : decode cX3_takes 26 = .ok (.sipush 400, 3) := dk_17 1 144 (dk_at dksX3_takes_1 4 rfl rfl)
theorem dX3_takes_29 : decode cX3_takes 29 = .ok (.invokestatic 140, 3) := dk_184 0 140 (dk_at dksX3_takes_1 7 rfl rfl)
theorem dX3_takes_32 : decode cX3_takes 32 = .ok (.aload_n 1, 1) := dk_43 (dk_at dksX3_takes_1 10 rfl rfl)
theorem dX3_takes_33 : decode cX3_takes 33 = .ok (.getfield 18, 3) := dk_180 0 18 (dk_at dksX3_takes_1 11 rfl rfl)
theorem dX3_takes_36 : decode cX3_takes 36 = .ok (.iconst 0, 1) := dk_3 (dk_at dksX3_takes_1 14 rfl rfl)
theorem dX3_takes_37 : decode cX3_takes 37 = .ok (.aload_n 0, 1) := dk_42 (dk_at dksX3_takes_1 15 rfl rfl)
theorem dX3_takes_38 : decode cX3_takes 38 = .ok (.getfield 18, 3) := dk_180 0 18 (dk_at dksX3_takes_1 16 rfl rfl)
theorem dX3_takes_41 : decode cX3_takes 41 = .ok (.iconst 0, 1) := dk_3 (dk_at dksX3_takes_1 19 rfl rfl)
theorem dX3_takes_42 : decode cX3_takes 42 = .ok (.sipush 400, 3) := dk_17 1 144 (dk_at dksX3_takes_1 20 rfl rfl)
theorem dX3_takes_45 : decode cX3_takes 45 = .ok (.invokestatic 140, 3) := dk_184 0 140 (dk_at dksX3_takes_2 0 rfl rfl)
theorem dX3_takes_48 : decode cX3_takes 48 = .ok (.aload_n 1, 1) := dk_43 (dk_at dksX3_takes_2 3 rfl rfl)
theorem dX3_takes_49 : decode cX3_takes 49 = .ok (.getfield 21, 3) := dk_180 0 21 (dk_at dksX3_takes_2 4 rfl rfl)
theorem dX3_takes_52 : decode cX3_takes 52 = .ok (.iconst 0, 1) := dk_3 (dk_at dksX3_takes_2 7 rfl rfl)
theorem dX3_takes_53 : decode cX3_takes 53 = .ok (.aload_n 0, 1) := dk_42 (dk_at dksX3_takes_2 8 rfl rfl)
theorem dX3_takes_54 : decode cX3_takes 54 = .ok (.getfield 21, 3) := dk_180 0 21 (dk_at dksX3_takes_2 9 rfl rfl)
theorem dX3_takes_57 : decode cX3_takes 57 = .ok (.iconst 0, 1) := dk_3 (dk_at dksX3_takes_2 12 rfl rfl)
theorem dX3_takes_58 : decode cX3_takes 58 = .ok (.sipush 400, 3) := dk_17 1 144 (dk_at dksX3_takes_2 13 rfl rfl)
theorem dX3_takes_61 : decode cX3_takes 61 = .ok (.invokestatic 140, 3) := dk_184 0 140 (dk_at dksX3_takes_2 16 rfl rfl)
theorem dX3_takes_64 : decode cX3_takes 64 = .ok (.aload_n 1, 1) := dk_43 (dk_at dksX3_takes_2 19 rfl rfl)
theorem dX3_takes_65 : decode cX3_takes 65 = .ok (.getfield 24, 3) := dk_180 0 24 (dk_at dksX3_takes_2 20 rfl rfl)
theorem dX3_takes_68 : decode cX3_takes 68 = .ok (.iconst 0, 1) := dk_3 (dk_at dksX3_takes_2 23 rfl rfl)
theorem dX3_takes_69 : decode cX3_takes 69 = .ok (.aload_n 0, 1) := dk_42 (dk_at dksX3_takes_3 0 rfl rfl)
theorem dX3_takes_70 : decode cX3_takes 70 = .ok (.getfield 24, 3) := dk_180 0 24 (dk_at dksX3_takes_3 1 rfl rfl)
theorem dX3_takes_73 : decode cX3_takes 73 = .ok (.iconst 0, 1) := dk_3 (dk_at dksX3_takes_3 4 rfl rfl)
theorem dX3_takes_74 : decode cX3_takes 74 = .ok (.sipush 400, 3) := dk_17 1 144 (dk_at dksX3_takes_3 5 rfl rfl)
theorem dX3_takes_77 : decode cX3_takes 77 = .ok (.invokestatic 140, 3) := dk_184 0 140 (dk_at dksX3_takes_3 8 rfl rfl)
theorem dX3_takes_80 : decode cX3_takes 80 = .ok (.aload_n 1, 1) := dk_43 (dk_at dksX3_takes_3 11 rfl rfl)
theorem dX3_takes_81 : decode cX3_takes 81 = .ok (.getfield 27, 3) := dk_180 0 27 (dk_at dksX3_takes_3 12 rfl rfl)
theorem dX3_takes_84 : decode cX3_takes 84 = .ok (.iconst 0, 1) := dk_3 (dk_at dksX3_takes_3 15 rfl rfl)
theorem dX3_takes_85 : decode cX3_takes 85 = .ok (.aload_n 0, 1) := dk_42 (dk_at dksX3_takes_3 16 rfl rfl)
theorem dX3_takes_86 : decode cX3_takes 86 = .ok (.getfield 27, 3) := dk_180 0 27 (dk_at dksX3_takes_3 17 rfl rfl)
theorem dX3_takes_89 : decode cX3_takes 89 = .ok (.iconst 0, 1) := dk_3 (dk_at dksX3_takes_3 20 rfl rfl)
theorem dX3_takes_90 : decode cX3_takes 90 = .ok (.sipush 400, 3) := dk_17 1 144 (dk_at dksX3_takes_3 21 rfl rfl)
theorem dX3_takes_93 : decode cX3_takes 93 = .ok (.invokestatic 140, 3) := dk_184 0 140 (dk_at dksX3_takes_4 0 rfl rfl)
theorem dX3_takes_96 : decode cX3_takes 96 = .ok (.aload_n 1, 1) := dk_43 (dk_at dksX3_takes_4 3 rfl rfl)
theorem dX3_takes_97 : decode cX3_takes 97 = .ok (.getfield 30, 3) := dk_180 0 30 (dk_at dksX3_takes_4 4 rfl rfl)
theorem dX3_takes_100 : decode cX3_takes 100 = .ok (.iconst 0, 1) := dk_3 (dk_at dksX3_takes_4 7 rfl rfl)
theorem dX3_takes_101 : decode cX3_takes 101 = .ok (.aload_n 0, 1) := dk_42 (dk_at dksX3_takes_4 8 rfl rfl)
theorem dX3_takes_102 : decode cX3_takes 102 = .ok (.getfield 30, 3) := dk_180 0 30 (dk_at dksX3_takes_4 9 rfl rfl)
theorem dX3_takes_105 : decode cX3_takes 105 = .ok (.iconst 0, 1) := dk_3 (dk_at dksX3_takes_4 12 rfl rfl)
theorem dX3_takes_106 : decode cX3_takes 106 = .ok (.sipush 400, 3) := dk_17 1 144 (dk_at dksX3_takes_4 13 rfl rfl)
theorem dX3_takes_109 : decode cX3_takes 109 = .ok (.invokestatic 140, 3) := dk_184 0 140 (dk_at dksX3_takes_4 16 rfl rfl)
theorem dX3_takes_112 : decode cX3_takes 112 = .ok (.aload_n 1, 1) := dk_43 (dk_at dksX3_takes_4 19 rfl rfl)
theorem dX3_takes_113 : decode cX3_takes 113 = .ok (.getfield 34, 3) := dk_180 0 34 (dk_at dksX3_takes_4 20 rfl rfl)
theorem dX3_takes_116 : decode cX3_takes 116 = .ok (.iconst 0, 1) := dk_3 (dk_at dksX3_takes_4 23 rfl rfl)
theorem dX3_takes_117 : decode cX3_takes 117 = .ok (.aload_n 0, 1) := dk_42 (dk_at dksX3_takes_5 0 rfl rfl)
theorem dX3_takes_118 : decode cX3_takes 118 = .ok (.getfield 34, 3) := dk_180 0 34 (dk_at dksX3_takes_5 1 rfl rfl)
theorem dX3_takes_121 : decode cX3_takes 121 = .ok (.iconst 0, 1) := dk_3 (dk_at dksX3_takes_5 4 rfl rfl)
theorem dX3_takes_122 : decode cX3_takes 122 = .ok (.iconst 5, 1) := dk_8 (dk_at dksX3_takes_5 5 rfl rfl)
theorem dX3_takes_123 : decode cX3_takes 123 = .ok (.invokestatic 140, 3) := dk_184 0 140 (dk_at dksX3_takes_5 6 rfl rfl)
theorem dX3_takes_126 : decode cX3_takes 126 = .ok (.aload_n 1, 1) := dk_43 (dk_at dksX3_takes_5 9 rfl rfl)
theorem dX3_takes_127 : decode cX3_takes 127 = .ok (.getfield 37, 3) := dk_180 0 37 (dk_at dksX3_takes_5 10 rfl rfl)
theorem dX3_takes_130 : decode cX3_takes 130 = .ok (.iconst 0, 1) := dk_3 (dk_at dksX3_takes_5 13 rfl rfl)
theorem dX3_takes_131 : decode cX3_takes 131 = .ok (.aload_n 0, 1) := dk_42 (dk_at dksX3_takes_5 14 rfl rfl)
theorem dX3_takes_132 : decode cX3_takes 132 = .ok (.getfield 37, 3) := dk_180 0 37 (dk_at dksX3_takes_5 15 rfl rfl)
theorem dX3_takes_135 : decode cX3_takes 135 = .ok (.iconst 0, 1) := dk_3 (dk_at dksX3_takes_5 18 rfl rfl)
theorem dX3_takes_136 : decode cX3_takes 136 = .ok (.iconst 5, 1) := dk_8 (dk_at dksX3_takes_5 19 rfl rfl)
theorem dX3_takes_137 : decode cX3_takes 137 = .ok (.invokestatic 140, 3) := dk_184 0 140 (dk_at dksX3_takes_5 20 rfl rfl)
theorem dX3_takes_140 : decode cX3_takes 140 = .ok (.aload_n 1, 1) := dk_43 (dk_at dksX3_takes_5 23 rfl rfl)
theorem dX3_takes_141 : decode cX3_takes 141 = .ok (.getfield 40, 3) := dk_180 0 40 (dk_at dksX3_takes_6 0 rfl rfl)
theorem dX3_takes_144 : decode cX3_takes 144 = .ok (.iconst 0, 1) := dk_3 (dk_at dksX3_takes_6 3 rfl rfl)
theorem dX3_takes_145 : decode cX3_takes 145 = .ok (.aload_n 0, 1) := dk_42 (dk_at dksX3_takes_6 4 rfl rfl)
theorem dX3_takes_146 : decode cX3_takes 146 = .ok (.getfield 40, 3) := dk_180 0 40 (dk_at dksX3_takes_6 5 rfl rfl)
theorem dX3_takes_149 : decode cX3_takes 149 = .ok (.iconst 0, 1) := dk_3 (dk_at dksX3_takes_6 8 rfl rfl)
theorem dX3_takes_150 : decode cX3_takes 150 = .ok (.iconst 5, 1) := dk_8 (dk_at dksX3_takes_6 9 rfl rfl)
theorem dX3_takes_151 : decode cX3_takes 151 = .ok (.invokestatic 140, 3) := dk_184 0 140 (dk_at dksX3_takes_6 10 rfl rfl)
theorem dX3_takes_154 : decode cX3_takes 154 = .ok (.aload_n 0, 1) := dk_42 (dk_at dksX3_takes_6 13 rfl rfl)
theorem dX3_takes_155 : decode cX3_takes 155 = .ok (.aload_n 1, 1) := dk_43 (dk_at dksX3_takes_6 14 rfl rfl)
theorem dX3_takes_156 : decode cX3_takes 156 = .ok (.getfield 123, 3) := dk_180 0 123 (dk_at dksX3_takes_6 15 rfl rfl)
theorem dX3_takes_159 : decode cX3_takes 159 = .ok (.putfield 123, 3) := dk_181 0 123 (dk_at dksX3_takes_6 18 rfl rfl)
theorem dX3_takes_162 : decode cX3_takes 162 = .ok (.aload_n 0, 1) := dk_42 (dk_at dksX3_takes_6 21 rfl rfl)
theorem dX3_takes_163 : decode cX3_takes 163 = .ok (.aload_n 1, 1) := dk_43 (dk_at dksX3_takes_6 22 rfl rfl)
theorem dX3_takes_164 : decode cX3_takes 164 = .ok (.getfield 127, 3) := dk_180 0 127 (dk_at dksX3_takes_7 0 rfl rfl)
theorem dX3_takes_167 : decode cX3_takes 167 = .ok (.putfield 127, 3) := dk_181 0 127 (dk_at dksX3_takes_7 3 rfl rfl)
theorem dX3_takes_170 : decode cX3_takes 170 = .ok (.aload_n 0, 1) := dk_42 (dk_at dksX3_takes_7 6 rfl rfl)
theorem dX3_takes_171 : decode cX3_takes 171 = .ok (.iconst 0, 1) := dk_3 (dk_at dksX3_takes_7 7 rfl rfl)
theorem dX3_takes_172 : decode cX3_takes 172 = .ok (.putfield 128, 3) := dk_181 0 128 (dk_at dksX3_takes_7 8 rfl rfl)
theorem dX3_takes_175 : decode cX3_takes 175 = .ok (.return_, 1) := dk_177 (dk_at dksX3_takes_7 11 rfl rfl)
theorem q77 : (Jvm.Cond.initialized "SegmentedCache$Sketch") ∈ lw_all := lw_g (lw_at lw_m1 9 rfl) rfl
theorem q211 : (Jvm.Cond.fieldLinkNest "SegmentedCache$Sketch" (52 : Nat) "SegmentedCache$Cache$Queue" "things" "Ljava/util/LinkedHashMap;" "SegmentedCache") ∈ lw_tbl := lw_at lw_m1 143 rfl
theorem q249 : (Jvm.Cond.fieldLinkNest "SegmentedCache$Sketch" (112 : Nat) "SegmentedCache$Cache" "capacity" "I" "SegmentedCache") ∈ lw_tbl := lw_at lw_m1 181 rfl
theorem q252 : (Jvm.Cond.fieldLinkNest "SegmentedCache$Sketch" (116 : Nat) "SegmentedCache$Cache" "border" "I" "SegmentedCache") ∈ lw_tbl := lw_at lw_m1 184 rfl
theorem q255 : (Jvm.Cond.fieldLinkNest "SegmentedCache$Sketch" (120 : Nat) "SegmentedCache$Cache" "rise" "I" "SegmentedCache") ∈ lw_tbl := lw_at lw_m1 187 rfl
theorem q258 : (Jvm.Cond.fieldLinkNest "SegmentedCache$Sketch" (124 : Nat) "SegmentedCache$Cache" "lives" "I" "SegmentedCache") ∈ lw_tbl := lw_at lw_m1 190 rfl
theorem q318 : (Jvm.Cond.instantiable "SegmentedCache$Sketch" (19 : Nat)) ∈ lw_all := lw_g (lw_at lw_m2 10 rfl) rfl
theorem q320 : (Jvm.Cond.instanceMethod ({ cls := "SegmentedCache$Sketch", name := "<init>", desc := "()V" } : Jvm.MethodName)) ∈ lw_all := lw_g (lw_at lw_m2 12 rfl) rfl
theorem q321 : (Jvm.Cond.code ({ cls := "SegmentedCache$Sketch", name := "<init>", desc := "()V" } : Jvm.MethodName) prog_9_method_1_code (1 : Nat) (Option.none : Option Jvm.ClassFile.FieldType)) ∈ lw_all := lw_g (lw_at lw_m2 13 rfl) rfl
theorem q322 : (Jvm.Cond.methodLink "SegmentedCache$Sketch" (3 : Nat) ({ cls := "java/lang/Object", name := "<init>", desc := "()V" } : Jvm.MethodName)) ∈ lw_all := lw_g (lw_at lw_m2 14 rfl) rfl
theorem q323 : (Jvm.Cond.fieldLink "SegmentedCache$Sketch" (11 : Nat) "SegmentedCache$Sketch" "where" "[I") ∈ lw_all := lw_g (lw_at lw_m2 15 rfl) rfl
theorem q324 : (Jvm.Cond.fieldLink "SegmentedCache$Sketch" (15 : Nat) "SegmentedCache$Sketch" "next" "[I") ∈ lw_all := lw_g (lw_at lw_m2 16 rfl) rfl
theorem q325 : (Jvm.Cond.fieldLink "SegmentedCache$Sketch" (18 : Nat) "SegmentedCache$Sketch" "ahead" "[I") ∈ lw_all := lw_g (lw_at lw_m2 17 rfl) rfl
theorem q326 : (Jvm.Cond.fieldLink "SegmentedCache$Sketch" (21 : Nat) "SegmentedCache$Sketch" "weights" "[I") ∈ lw_all := lw_g (lw_at lw_m2 18 rfl) rfl
theorem q327 : (Jvm.Cond.fieldLink "SegmentedCache$Sketch" (24 : Nat) "SegmentedCache$Sketch" "hit" "[I") ∈ lw_all := lw_g (lw_at lw_m2 19 rfl) rfl
theorem q328 : (Jvm.Cond.fieldLink "SegmentedCache$Sketch" (27 : Nat) "SegmentedCache$Sketch" "chances" "[I") ∈ lw_all := lw_g (lw_at lw_m2 20 rfl) rfl
theorem q329 : (Jvm.Cond.fieldLink "SegmentedCache$Sketch" (30 : Nat) "SegmentedCache$Sketch" "pinned" "[Z") ∈ lw_all := lw_g (lw_at lw_m2 21 rfl) rfl
theorem q330 : (Jvm.Cond.fieldLink "SegmentedCache$Sketch" (34 : Nat) "SegmentedCache$Sketch" "first" "[I") ∈ lw_all := lw_g (lw_at lw_m2 22 rfl) rfl
theorem q331 : (Jvm.Cond.fieldLink "SegmentedCache$Sketch" (37 : Nat) "SegmentedCache$Sketch" "last" "[I") ∈ lw_all := lw_g (lw_at lw_m2 23 rfl) rfl
theorem q332 : (Jvm.Cond.fieldLink "SegmentedCache$Sketch" (40 : Nat) "SegmentedCache$Sketch" "together" "[I") ∈ lw_all := lw_g (lw_at lw_m2 24 rfl) rfl
theorem q333 : (Jvm.Cond.fieldLink "SegmentedCache$Sketch" (115 : Nat) "SegmentedCache$Sketch" "capacity" "I") ∈ lw_all := lw_g (lw_at lw_m2 25 rfl) rfl
theorem q335 : (Jvm.Cond.fieldLink "SegmentedCache$Sketch" (119 : Nat) "SegmentedCache$Sketch" "border" "I") ∈ lw_all := lw_g (lw_at lw_m2 27 rfl) rfl
theorem q337 : (Jvm.Cond.fieldLink "SegmentedCache$Sketch" (123 : Nat) "SegmentedCache$Sketch" "rise" "I") ∈ lw_all := lw_g (lw_at lw_m2 29 rfl) rfl
theorem q338 : (Jvm.Cond.fieldLink "SegmentedCache$Sketch" (127 : Nat) "SegmentedCache$Sketch" "lives" "I") ∈ lw_all := lw_g (lw_at lw_m2 30 rfl) rfl
theorem q339 : (Jvm.Cond.fieldLink "SegmentedCache$Sketch" (128 : Nat) "SegmentedCache$Sketch" "had" "I") ∈ lw_all := lw_g (lw_at lw_m2 31 rfl) rfl
theorem q341 : (Jvm.Cond.fieldLink "SegmentedCache$Sketch" (131 : Nat) "SegmentedCache$Sketch" "missed" "I") ∈ lw_all := lw_g (lw_at lw_m2 33 rfl) rfl
theorem q343 : (Jvm.Cond.fieldLink "SegmentedCache$Sketch" (134 : Nat) "SegmentedCache$Sketch" "haunted" "I") ∈ lw_all := lw_g (lw_at lw_m2 35 rfl) rfl
theorem q345 : (Jvm.Cond.fieldLink "SegmentedCache$Sketch" (137 : Nat) "SegmentedCache$Sketch" "went" "I") ∈ lw_all := lw_g (lw_at lw_m2 37 rfl) rfl
theorem q347 : (Jvm.Cond.fieldLink "SegmentedCache$Sketch" (154 : Nat) "SegmentedCache$Sketch" "latest" "I") ∈ lw_all := lw_g (lw_at lw_m2 39 rfl) rfl
theorem q348 : (Jvm.Cond.laysFinal "SegmentedCache$Sketch" "SegmentedCache$Sketch" "where" "[I") ∈ lw_all := lw_g (lw_at lw_m2 40 rfl) rfl
theorem q349 : (Jvm.Cond.soleField "SegmentedCache$Sketch" "where") ∈ lw_all := lw_g (lw_at lw_m2 41 rfl) rfl
theorem q350 : (Jvm.Cond.laysFinal "SegmentedCache$Sketch" "SegmentedCache$Sketch" "next" "[I") ∈ lw_all := lw_g (lw_at lw_m2 42 rfl) rfl
theorem q351 : (Jvm.Cond.soleField "SegmentedCache$Sketch" "next") ∈ lw_all := lw_g (lw_at lw_m2 43 rfl) rfl
theorem q352 : (Jvm.Cond.laysFinal "SegmentedCache$Sketch" "SegmentedCache$Sketch" "ahead" "[I") ∈ lw_all := lw_g (lw_at lw_m2 44 rfl) rfl
theorem q353 : (Jvm.Cond.soleField "SegmentedCache$Sketch" "ahead") ∈ lw_all := lw_g (lw_at lw_m2 45 rfl) rfl
theorem q354 : (Jvm.Cond.laysFinal "SegmentedCache$Sketch" "SegmentedCache$Sketch" "weights" "[I") ∈ lw_all := lw_g (lw_at lw_m2 46 rfl) rfl
theorem q355 : (Jvm.Cond.soleField "SegmentedCache$Sketch" "weights") ∈ lw_all := lw_g (lw_at lw_m2 47 rfl) rfl
theorem q356 : (Jvm.Cond.laysFinal "SegmentedCache$Sketch" "SegmentedCache$Sketch" "hit" "[I") ∈ lw_all := lw_g (lw_at lw_m2 48 rfl) rfl
theorem q357 : (Jvm.Cond.soleField "SegmentedCache$Sketch" "hit") ∈ lw_all := lw_g (lw_at lw_m2 49 rfl) rfl
theorem q358 : (Jvm.Cond.laysFinal "SegmentedCache$Sketch" "SegmentedCache$Sketch" "chances" "[I") ∈ lw_all := lw_g (lw_at lw_m2 50 rfl) rfl
theorem q359 : (Jvm.Cond.soleField "SegmentedCache$Sketch" "chances") ∈ lw_all := lw_g (lw_at lw_m2 51 rfl) rfl
theorem q360 : (Jvm.Cond.laysFinal "SegmentedCache$Sketch" "SegmentedCache$Sketch" "pinned" "[Z") ∈ lw_all := lw_g (lw_at lw_m2 52 rfl) rfl
theorem q361 : (Jvm.Cond.soleField "SegmentedCache$Sketch" "pinned") ∈ lw_all := lw_g (lw_at lw_m2 53 rfl) rfl
theorem q362 : (Jvm.Cond.laysFinal "SegmentedCache$Sketch" "SegmentedCache$Sketch" "first" "[I") ∈ lw_all := lw_g (lw_at lw_m2 54 rfl) rfl
theorem q363 : (Jvm.Cond.soleField "SegmentedCache$Sketch" "first") ∈ lw_all := lw_g (lw_at lw_m2 55 rfl) rfl
theorem q364 : (Jvm.Cond.laysFinal "SegmentedCache$Sketch" "SegmentedCache$Sketch" "last" "[I") ∈ lw_all := lw_g (lw_at lw_m2 56 rfl) rfl
theorem q365 : (Jvm.Cond.soleField "SegmentedCache$Sketch" "last") ∈ lw_all := lw_g (lw_at lw_m2 57 rfl) rfl
theorem q366 : (Jvm.Cond.laysFinal "SegmentedCache$Sketch" "SegmentedCache$Sketch" "together" "[I") ∈ lw_all := lw_g (lw_at lw_m2 58 rfl) rfl
theorem q367 : (Jvm.Cond.soleField "SegmentedCache$Sketch" "together") ∈ lw_all := lw_g (lw_at lw_m2 59 rfl) rfl
theorem q368 : (Jvm.Cond.lays "SegmentedCache$Sketch" "SegmentedCache$Sketch" "capacity" "I") ∈ lw_all := lw_g (lw_at lw_m2 60 rfl) rfl
theorem q369 : (Jvm.Cond.soleField "SegmentedCache$Sketch" "capacity") ∈ lw_all := lw_g (lw_at lw_m2 61 rfl) rfl
theorem q370 : (Jvm.Cond.lays "SegmentedCache$Sketch" "SegmentedCache$Sketch" "border" "I") ∈ lw_all := lw_g (lw_at lw_m2 62 rfl) rfl
theorem q371 : (Jvm.Cond.soleField "SegmentedCache$Sketch" "border") ∈ lw_all := lw_g (lw_at lw_m2 63 rfl) rfl
theorem q372 : (Jvm.Cond.lays "SegmentedCache$Sketch" "SegmentedCache$Sketch" "rise" "I") ∈ lw_all := lw_g (lw_at lw_m2 64 rfl) rfl
theorem q373 : (Jvm.Cond.soleField "SegmentedCache$Sketch" "rise") ∈ lw_all := lw_g (lw_at lw_m2 65 rfl) rfl
theorem q374 : (Jvm.Cond.lays "SegmentedCache$Sketch" "SegmentedCache$Sketch" "lives" "I") ∈ lw_all := lw_g (lw_at lw_m2 66 rfl) rfl
theorem q375 : (Jvm.Cond.soleField "SegmentedCache$Sketch" "lives") ∈ lw_all := lw_g (lw_at lw_m2 67 rfl) rfl
theorem q376 : (Jvm.Cond.lays "SegmentedCache$Sketch" "SegmentedCache$Sketch" "had" "I") ∈ lw_all := lw_g (lw_at lw_m2 68 rfl) rfl
theorem q377 : (Jvm.Cond.soleField "SegmentedCache$Sketch" "had") ∈ lw_all := lw_g (lw_at lw_m2 69 rfl) rfl
theorem q378 : (Jvm.Cond.lays "SegmentedCache$Sketch" "SegmentedCache$Sketch" "missed" "I") ∈ lw_all := lw_g (lw_at lw_m2 70 rfl) rfl
theorem q379 : (Jvm.Cond.soleField "SegmentedCache$Sketch" "missed") ∈ lw_all := lw_g (lw_at lw_m2 71 rfl) rfl
theorem q380 : (Jvm.Cond.lays "SegmentedCache$Sketch" "SegmentedCache$Sketch" "haunted" "I") ∈ lw_all := lw_g (lw_at lw_m2 72 rfl) rfl
theorem q381 : (Jvm.Cond.soleField "SegmentedCache$Sketch" "haunted") ∈ lw_all := lw_g (lw_at lw_m2 73 rfl) rfl
theorem q382 : (Jvm.Cond.lays "SegmentedCache$Sketch" "SegmentedCache$Sketch" "went" "I") ∈ lw_all := lw_g (lw_at lw_m2 74 rfl) rfl
theorem q383 : (Jvm.Cond.soleField "SegmentedCache$Sketch" "went") ∈ lw_all := lw_g (lw_at lw_m2 75 rfl) rfl
theorem q384 : (Jvm.Cond.lays "SegmentedCache$Sketch" "SegmentedCache$Sketch" "latest" "I") ∈ lw_all := lw_g (lw_at lw_m2 76 rfl) rfl
theorem q385 : (Jvm.Cond.soleField "SegmentedCache$Sketch" "latest") ∈ lw_all := lw_g (lw_at lw_m2 77 rfl) rfl
theorem q386 : (Jvm.Cond.superclass "SegmentedCache$Sketch" "java/lang/Object") ∈ lw_all := lw_g (lw_at lw_m2 78 rfl) rfl
theorem q1053 : (Jvm.Cond.selects "SegmentedCache$Sketch" ({ cls := "java/lang/Object", name := "getClass", desc := "()Ljava/lang/Class;" } : Jvm.MethodName) ({ cls := "java/lang/Object", name := "getClass", desc := "()Ljava/lang/Class;" } : Jvm.MethodName)) ∈ lw_all := lw_g (lw_at lw_m5 25 rfl) rfl
theorem q1328 : (Jvm.Cond.selects "SegmentedCache$Sketch" ({ cls := "java/lang/Object", name := "equals", desc := "(Ljava/lang/Object;)Z" } : Jvm.MethodName) ({ cls := "java/lang/Object", name := "equals", desc := "(Ljava/lang/Object;)Z" } : Jvm.MethodName)) ∈ lw_all := lw_g (lw_at lw_m6 60 rfl) rfl
theorem q1693 : (Jvm.Cond.selects "SegmentedCache$Sketch" ({ cls := "java/lang/Object", name := "hashCode", desc := "()I" } : Jvm.MethodName) ({ cls := "java/lang/Object", name := "hashCode", desc := "()I" } : Jvm.MethodName)) ∈ lw_all := lw_g (lw_at lw_m7 185 rfl) rfl
theorem q1889 : (Jvm.Cond.fieldLinkNest "SegmentedCache$Sketch" (95 : Nat) "SegmentedCache$Thing" "weight" "I" "SegmentedCache") ∈ lw_tbl := lw_at lw_m8 141 rfl
theorem q1897 : (Jvm.Cond.fieldLinkNest "SegmentedCache$Sketch" (105 : Nat) "SegmentedCache$Thing" "hits" "I" "SegmentedCache") ∈ lw_tbl := lw_at lw_m8 149 rfl
theorem q1901 : (Jvm.Cond.fieldLinkNest "SegmentedCache$Sketch" (99 : Nat) "SegmentedCache$Thing" "chances" "I" "SegmentedCache") ∈ lw_tbl := lw_at lw_m8 153 rfl
theorem q1905 : (Jvm.Cond.fieldLinkNest "SegmentedCache$Sketch" (108 : Nat) "SegmentedCache$Thing" "isPinned" "Z" "SegmentedCache") ∈ lw_tbl := lw_at lw_m8 157 rfl
theorem q2177 : (Jvm.Cond.instanceMethod ({ cls := "SegmentedCache$Sketch", name := "of", desc := "(LSegmentedCache$Cache;)LSegmentedCache$Sketch;" } : Jvm.MethodName)) ∈ lw_all := lw_g (lw_at lw_m9 189 rfl) rfl
theorem q2178 : (Jvm.Cond.selects "SegmentedCache$Sketch" ({ cls := "SegmentedCache$Sketch", name := "of", desc := "(LSegmentedCache$Cache;)LSegmentedCache$Sketch;" } : Jvm.MethodName) ({ cls := "SegmentedCache$Sketch", name := "of", desc := "(LSegmentedCache$Cache;)LSegmentedCache$Sketch;" } : Jvm.MethodName)) ∈ lw_all := lw_g (lw_at lw_m9 190 rfl) rfl
theorem q2179 : (Jvm.Cond.code ({ cls := "SegmentedCache$Sketch", name := "of", desc := "(LSegmentedCache$Cache;)LSegmentedCache$Sketch;" } : Jvm.MethodName) prog_9_method_3_code (6 : Nat) (Option.some (Jvm.ClassFile.FieldType.object "SegmentedCache$Sketch"))) ∈ lw_all := lw_g (lw_at lw_m9 191 rfl) rfl
theorem q2180 : (Jvm.Cond.methodLink "SegmentedCache$Sketch" (43 : Nat) ({ cls := "SegmentedCache$Sketch", name := "empties", desc := "()V" } : Jvm.MethodName)) ∈ lw_all := lw_g (lw_at lw_m9 192 rfl) rfl
theorem q2181 : (Jvm.Cond.privateMethod ({ cls := "SegmentedCache$Sketch", name := "empties", desc := "()V" } : Jvm.MethodName)) ∈ lw_tbl := lw_at lw_m9 193 rfl
theorem q2182 : (Jvm.Cond.instanceMethod ({ cls := "SegmentedCache$Sketch", name := "empties", desc := "()V" } : Jvm.MethodName)) ∈ lw_all := lw_g (lw_at lw_m9 194 rfl) rfl
theorem q2183 : (Jvm.Cond.code ({ cls := "SegmentedCache$Sketch", name := "empties", desc := "()V" } : Jvm.MethodName) prog_9_method_2_code (2 : Nat) (Option.none : Option Jvm.ClassFile.FieldType)) ∈ lw_all := lw_g (lw_at lw_m9 195 rfl) rfl
theorem q2184 : (Jvm.Cond.methodLink "SegmentedCache$Sketch" (46 : Nat) ({ cls := "SegmentedCache$Cache", name := "queue", desc := "(I)LSegmentedCache$Cache$Queue;" } : Jvm.MethodName)) ∈ lw_all := lw_g (lw_at lw_m9 196 rfl) rfl
theorem q2185 : (Jvm.Cond.methodLink "SegmentedCache$Sketch" (58 : Nat) ({ cls := "java/util/LinkedHashMap", name := "entrySet", desc := "()Ljava/util/Set;" } : Jvm.MethodName)) ∈ lw_all := lw_g (lw_at lw_m9 197 rfl) rfl
theorem q2186 : (Jvm.Cond.interfaceEntry "SegmentedCache$Sketch" (64 : Nat)) ∈ lw_tbl := lw_at lw_m9 198 rfl
theorem q2187 : (Jvm.Cond.methodLink "SegmentedCache$Sketch" (64 : Nat) ({ cls := "java/util/Set", name := "iterator", desc := "()Ljava/util/Iterator;" } : Jvm.MethodName)) ∈ lw_all := lw_g (lw_at lw_m9 199 rfl) rfl
theorem q2188 : (Jvm.Cond.interfaceEntry "SegmentedCache$Sketch" (70 : Nat)) ∈ lw_tbl := lw_at lw_m9 200 rfl
theorem q2189 : (Jvm.Cond.methodLink "SegmentedCache$Sketch" (70 : Nat) ({ cls := "java/util/Iterator", name := "hasNext", desc := "()Z" } : Jvm.MethodName)) ∈ lw_all := lw_g (lw_at lw_m9 201 rfl) rfl
theorem q2190 : (Jvm.Cond.interfaceEntry "SegmentedCache$Sketch" (76 : Nat)) ∈ lw_tbl := lw_at lw_m9 202 rfl
theorem q2191 : (Jvm.Cond.methodLink "SegmentedCache$Sketch" (76 : Nat) ({ cls := "java/util/Iterator", name := "next", desc := "()Ljava/lang/Object;" } : Jvm.MethodName)) ∈ lw_all := lw_g (lw_at lw_m9 203 rfl) rfl
theorem q2192 : (Jvm.Cond.classLink "SegmentedCache$Sketch" (79 : Nat) "java/util/Map$Entry") ∈ lw_all := lw_g (lw_at lw_m9 204 rfl) rfl
theorem q2193 : (Jvm.Cond.interfaceEntry "SegmentedCache$Sketch" (81 : Nat)) ∈ lw_tbl := lw_at lw_m9 205 rfl
theorem q2194 : (Jvm.Cond.methodLink "SegmentedCache$Sketch" (81 : Nat) ({ cls := "java/util/Map$Entry", name := "getKey", desc := "()Ljava/lang/Object;" } : Jvm.MethodName)) ∈ lw_all := lw_g (lw_at lw_m9 206 rfl) rfl
theorem q2195 : (Jvm.Cond.classLink "SegmentedCache$Sketch" (84 : Nat) "SegmentedCache$Key") ∈ lw_all := lw_g (lw_at lw_m9 207 rfl) rfl
theorem q2196 : (Jvm.Cond.methodLink "SegmentedCache$Sketch" (86 : Nat) ({ cls := "SegmentedCache$Key", name := "told", desc := "()I" } : Jvm.MethodName)) ∈ lw_all := lw_g (lw_at lw_m9 208 rfl) rfl
theorem q2197 : (Jvm.Cond.interfaceEntry "SegmentedCache$Sketch" (90 : Nat)) ∈ lw_tbl := lw_at lw_m9 209 rfl
theorem q2198 : (Jvm.Cond.methodLink "SegmentedCache$Sketch" (90 : Nat) ({ cls := "java/util/Map$Entry", name := "getValue", desc := "()Ljava/lang/Object;" } : Jvm.MethodName)) ∈ lw_all := lw_g (lw_at lw_m9 210 rfl) rfl
theorem q2199 : (Jvm.Cond.classLink "SegmentedCache$Sketch" (93 : Nat) "SegmentedCache$Thing") ∈ lw_all := lw_g (lw_at lw_m9 211 rfl) rfl
theorem q2200 : (Jvm.Cond.methodLink "SegmentedCache$Sketch" (101 : Nat) ({ cls := "SegmentedCache$Sketch", name := "comes", desc := "(IIII)V" } : Jvm.MethodName)) ∈ lw_all := lw_g (lw_at lw_m9 212 rfl) rfl
theorem q2201 : (Jvm.Cond.privateMethod ({ cls := "SegmentedCache$Sketch", name := "comes", desc := "(IIII)V" } : Jvm.MethodName)) ∈ lw_tbl := lw_at lw_m9 213 rfl
theorem q2202 : (Jvm.Cond.instanceMethod ({ cls := "SegmentedCache$Sketch", name := "comes", desc := "(IIII)V" } : Jvm.MethodName)) ∈ lw_all := lw_g (lw_at lw_m9 214 rfl) rfl
theorem q2203 : (Jvm.Cond.code ({ cls := "SegmentedCache$Sketch", name := "comes", desc := "(IIII)V" } : Jvm.MethodName) prog_9_method_6_code (5 : Nat) (Option.none : Option Jvm.ClassFile.FieldType)) ∈ lw_all := lw_g (lw_at lw_m9 215 rfl) rfl
theorem q2204 : (Jvm.Cond.methodLink "SegmentedCache$Sketch" (146 : Nat) ({ cls := "SegmentedCache$Sketch", name := "adds", desc := "(II)V" } : Jvm.MethodName)) ∈ lw_all := lw_g (lw_at lw_m9 216 rfl) rfl
theorem q2205 : (Jvm.Cond.privateMethod ({ cls := "SegmentedCache$Sketch", name := "adds", desc := "(II)V" } : Jvm.MethodName)) ∈ lw_tbl := lw_at lw_m9 217 rfl
theorem q2206 : (Jvm.Cond.instanceMethod ({ cls := "SegmentedCache$Sketch", name := "adds", desc := "(II)V" } : Jvm.MethodName)) ∈ lw_all := lw_g (lw_at lw_m9 218 rfl) rfl
theorem q2207 : (Jvm.Cond.code ({ cls := "SegmentedCache$Sketch", name := "adds", desc := "(II)V" } : Jvm.MethodName) prog_9_method_5_code (3 : Nat) (Option.none : Option Jvm.ClassFile.FieldType)) ∈ lw_all := lw_g (lw_at lw_m9 219 rfl) rfl
theorem q2209 : (Jvm.Cond.instanceMethod ({ cls := "SegmentedCache$Sketch", name := "victim", desc := "(I)I" } : Jvm.MethodName)) ∈ lw_all := lw_g (lw_at lw_m9 221 rfl) rfl
theorem q2210 : (Jvm.Cond.selects "SegmentedCache$Sketch" ({ cls := "SegmentedCache$Sketch", name := "victim", desc := "(I)I" } : Jvm.MethodName) ({ cls := "SegmentedCache$Sketch", name := "victim", desc := "(I)I" } : Jvm.MethodName)) ∈ lw_all := lw_g (lw_at lw_m9 222 rfl) rfl
theorem q2211 : (Jvm.Cond.code ({ cls := "SegmentedCache$Sketch", name := "victim", desc := "(I)I" } : Jvm.MethodName) prog_9_method_21_code (3 : Nat) (Option.some Jvm.ClassFile.FieldType.int)) ∈ lw_all := lw_g (lw_at lw_m9 223 rfl) rfl
theorem q2212 : (Jvm.Cond.methodLink "SegmentedCache$Sketch" (164 : Nat) ({ cls := "SegmentedCache$Sketch", name := "falls", desc := "()Z" } : Jvm.MethodName)) ∈ lw_all := lw_g (lw_at lw_m9 224 rfl) rfl
theorem q2213 : (Jvm.Cond.privateMethod ({ cls := "SegmentedCache$Sketch", name := "falls", desc := "()Z" } : Jvm.MethodName)) ∈ lw_tbl := lw_at lw_m9 225 rfl
theorem q2214 : (Jvm.Cond.instanceMethod ({ cls := "SegmentedCache$Sketch", name := "falls", desc := "()Z" } : Jvm.MethodName)) ∈ lw_all := lw_g (lw_at lw_m9 226 rfl) rfl
theorem q2215 : (Jvm.Cond.code ({ cls := "SegmentedCache$Sketch", name := "falls", desc := "()Z" } : Jvm.MethodName) prog_9_method_13_code (2 : Nat) (Option.some Jvm.ClassFile.FieldType.boolean)) ∈ lw_all := lw_g (lw_at lw_m9 227 rfl) rfl
theorem q2216 : (Jvm.Cond.methodLink "SegmentedCache$Sketch" (157 : Nat) ({ cls := "SegmentedCache$Sketch", name := "oldest", desc := "(I)I" } : Jvm.MethodName)) ∈ lw_all := lw_g (lw_at lw_m9 228 rfl) rfl
theorem q2217 : (Jvm.Cond.privateMethod ({ cls := "SegmentedCache$Sketch", name := "oldest", desc := "(I)I" } : Jvm.MethodName)) ∈ lw_tbl := lw_at lw_m9 229 rfl
theorem q2218 : (Jvm.Cond.instanceMethod ({ cls := "SegmentedCache$Sketch", name := "oldest", desc := "(I)I" } : Jvm.MethodName)) ∈ lw_all := lw_g (lw_at lw_m9 230 rfl) rfl
theorem q2219 : (Jvm.Cond.code ({ cls := "SegmentedCache$Sketch", name := "oldest", desc := "(I)I" } : Jvm.MethodName) prog_9_method_8_code (3 : Nat) (Option.some Jvm.ClassFile.FieldType.int)) ∈ lw_all := lw_g (lw_at lw_m9 231 rfl) rfl
theorem q2220 : (Jvm.Cond.methodLink "SegmentedCache$Sketch" (150 : Nat) ({ cls := "SegmentedCache$Sketch", name := "loses", desc := "(I)I" } : Jvm.MethodName)) ∈ lw_all := lw_g (lw_at lw_m9 232 rfl) rfl
theorem q2221 : (Jvm.Cond.privateMethod ({ cls := "SegmentedCache$Sketch", name := "loses", desc := "(I)I" } : Jvm.MethodName)) ∈ lw_tbl := lw_at lw_m9 233 rfl
theorem q2222 : (Jvm.Cond.instanceMethod ({ cls := "SegmentedCache$Sketch", name := "loses", desc := "(I)I" } : Jvm.MethodName)) ∈ lw_all := lw_g (lw_at lw_m9 234 rfl) rfl
theorem q2223 : (Jvm.Cond.code ({ cls := "SegmentedCache$Sketch", name := "loses", desc := "(I)I" } : Jvm.MethodName) prog_9_method_7_code (3 : Nat) (Option.some Jvm.ClassFile.FieldType.int)) ∈ lw_all := lw_g (lw_at lw_m9 235 rfl) rfl
theorem q2224 : (Jvm.Cond.methodLink "SegmentedCache$Sketch" (167 : Nat) ({ cls := "SegmentedCache$Sketch", name := "both", desc := "()I" } : Jvm.MethodName)) ∈ lw_all := lw_g (lw_at lw_m9 236 rfl) rfl
theorem q2225 : (Jvm.Cond.privateMethod ({ cls := "SegmentedCache$Sketch", name := "both", desc := "()I" } : Jvm.MethodName)) ∈ lw_tbl := lw_at lw_m9 237 rfl
theorem q2226 : (Jvm.Cond.instanceMethod ({ cls := "SegmentedCache$Sketch", name := "both", desc := "()I" } : Jvm.MethodName)) ∈ lw_all := lw_g (lw_at lw_m9 238 rfl) rfl
theorem q2227 : (Jvm.Cond.code ({ cls := "SegmentedCache$Sketch", name := "both", desc := "()I" } : Jvm.MethodName) prog_9_method_9_code (1 : Nat) (Option.some Jvm.ClassFile.FieldType.int)) ∈ lw_all := lw_g (lw_at lw_m9 239 rfl) rfl
theorem q2228 : (Jvm.Cond.methodLink "SegmentedCache$Sketch" (170 : Nat) ({ cls := "SegmentedCache$Sketch", name := "goesFromProbation", desc := "()Z" } : Jvm.MethodName)) ∈ lw_all := lw_g (lw_at lw_m10 0 rfl) rfl
theorem q2229 : (Jvm.Cond.privateMethod ({ cls := "SegmentedCache$Sketch", name := "goesFromProbation", desc := "()Z" } : Jvm.MethodName)) ∈ lw_tbl := lw_at lw_m10 1 rfl
theorem q2230 : (Jvm.Cond.instanceMethod ({ cls := "SegmentedCache$Sketch", name := "goesFromProbation", desc := "()Z" } : Jvm.MethodName)) ∈ lw_all := lw_g (lw_at lw_m10 2 rfl) rfl
theorem q2231 : (Jvm.Cond.code ({ cls := "SegmentedCache$Sketch", name := "goesFromProbation", desc := "()Z" } : Jvm.MethodName) prog_9_method_11_code (2 : Nat) (Option.some Jvm.ClassFile.FieldType.boolean)) ∈ lw_all := lw_g (lw_at lw_m10 3 rfl) rfl
theorem q2232 : (Jvm.Cond.methodLink "SegmentedCache$Sketch" (160 : Nat) ({ cls := "SegmentedCache$Sketch", name := "goes", desc := "(II)Z" } : Jvm.MethodName)) ∈ lw_all := lw_g (lw_at lw_m10 4 rfl) rfl
theorem q2233 : (Jvm.Cond.privateMethod ({ cls := "SegmentedCache$Sketch", name := "goes", desc := "(II)Z" } : Jvm.MethodName)) ∈ lw_tbl := lw_at lw_m10 5 rfl
theorem q2234 : (Jvm.Cond.instanceMethod ({ cls := "SegmentedCache$Sketch", name := "goes", desc := "(II)Z" } : Jvm.MethodName)) ∈ lw_all := lw_g (lw_at lw_m10 6 rfl) rfl
theorem q2235 : (Jvm.Cond.code ({ cls := "SegmentedCache$Sketch", name := "goes", desc := "(II)Z" } : Jvm.MethodName) prog_9_method_10_code (3 : Nat) (Option.some Jvm.ClassFile.FieldType.boolean)) ∈ lw_all := lw_g (lw_at lw_m10 7 rfl) rfl
theorem q2236 : (Jvm.Cond.methodLink "SegmentedCache$Sketch" (173 : Nat) ({ cls := "SegmentedCache$Sketch", name := "goesFromProtected", desc := "()Z" } : Jvm.MethodName)) ∈ lw_all := lw_g (lw_at lw_m10 8 rfl) rfl
theorem q2237 : (Jvm.Cond.privateMethod ({ cls := "SegmentedCache$Sketch", name := "goesFromProtected", desc := "()Z" } : Jvm.MethodName)) ∈ lw_tbl := lw_at lw_m10 9 rfl
theorem q2238 : (Jvm.Cond.instanceMethod ({ cls := "SegmentedCache$Sketch", name := "goesFromProtected", desc := "()Z" } : Jvm.MethodName)) ∈ lw_all := lw_g (lw_at lw_m10 10 rfl) rfl
theorem q2239 : (Jvm.Cond.code ({ cls := "SegmentedCache$Sketch", name := "goesFromProtected", desc := "()Z" } : Jvm.MethodName) prog_9_method_12_code (2 : Nat) (Option.some Jvm.ClassFile.FieldType.boolean)) ∈ lw_all := lw_g (lw_at lw_m10 11 rfl) rfl
theorem q2324 : (Jvm.Cond.fieldLinkNest "SegmentedCache$Sketch" (207 : Nat) "SegmentedCache$Clause" "sign" "I" "SegmentedCache") ∈ lw_tbl := lw_at lw_m10 96 rfl
theorem q2327 : (Jvm.Cond.fieldLinkNest "SegmentedCache$Sketch" (213 : Nat) "SegmentedCache$Clause" "weight" "I" "SegmentedCache") ∈ lw_tbl := lw_at lw_m10 99 rfl
theorem q2330 : (Jvm.Cond.fieldLinkNest "SegmentedCache$Sketch" (203 : Nat) "SegmentedCache$Clause" "key" "LSegmentedCache$Key;" "SegmentedCache") ∈ lw_tbl := lw_at lw_m10 102 rfl
theorem q2446 : (Jvm.Cond.instanceMethod ({ cls := "SegmentedCache$Sketch", name := "runs", desc := "(Ljava/util/LinkedList;)V" } : Jvm.MethodName)) ∈ lw_all := lw_g (lw_at lw_m10 218 rfl) rfl
theorem q2447 : (Jvm.Cond.selects "SegmentedCache$Sketch" ({ cls := "SegmentedCache$Sketch", name := "runs", desc := "(Ljava/util/LinkedList;)V" } : Jvm.MethodName) ({ cls := "SegmentedCache$Sketch", name := "runs", desc := "(Ljava/util/LinkedList;)V" } : Jvm.MethodName)) ∈ lw_all := lw_g (lw_at lw_m10 219 rfl) rfl
theorem q2448 : (Jvm.Cond.code ({ cls := "SegmentedCache$Sketch", name := "runs", desc := "(Ljava/util/LinkedList;)V" } : Jvm.MethodName) prog_9_method_20_code (5 : Nat) (Option.none : Option Jvm.ClassFile.FieldType)) ∈ lw_all := lw_g (lw_at lw_m10 220 rfl) rfl
theorem q2449 : (Jvm.Cond.methodLink "SegmentedCache$Sketch" (198 : Nat) ({ cls := "java/util/LinkedList", name := "iterator", desc := "()Ljava/util/Iterator;" } : Jvm.MethodName)) ∈ lw_all := lw_g (lw_at lw_m10 221 rfl) rfl
theorem q2450 : (Jvm.Cond.classLink "SegmentedCache$Sketch" (201 : Nat) "SegmentedCache$Clause") ∈ lw_all := lw_g (lw_at lw_m10 222 rfl) rfl
theorem q2451 : (Jvm.Cond.methodLink "SegmentedCache$Sketch" (210 : Nat) ({ cls := "SegmentedCache$Sketch", name := "gets", desc := "(I)V" } : Jvm.MethodName)) ∈ lw_all := lw_g (lw_at lw_m10 223 rfl) rfl
theorem q2452 : (Jvm.Cond.privateMethod ({ cls := "SegmentedCache$Sketch", name := "gets", desc := "(I)V" } : Jvm.MethodName)) ∈ lw_tbl := lw_at lw_m10 224 rfl
theorem q2453 : (Jvm.Cond.instanceMethod ({ cls := "SegmentedCache$Sketch", name := "gets", desc := "(I)V" } : Jvm.MethodName)) ∈ lw_all := lw_g (lw_at lw_m10 225 rfl) rfl
theorem q2454 : (Jvm.Cond.code ({ cls := "SegmentedCache$Sketch", name := "gets", desc := "(I)V" } : Jvm.MethodName) prog_9_method_18_code (2 : Nat) (Option.none : Option Jvm.ClassFile.FieldType)) ∈ lw_all := lw_g (lw_at lw_m10 226 rfl) rfl
theorem q2455 : (Jvm.Cond.methodLink "SegmentedCache$Sketch" (186 : Nat) ({ cls := "SegmentedCache$Sketch", name := "isThing", desc := "(I)Z" } : Jvm.MethodName)) ∈ lw_all := lw_g (lw_at lw_m10 227 rfl) rfl
theorem q2456 : (Jvm.Cond.privateMethod ({ cls := "SegmentedCache$Sketch", name := "isThing", desc := "(I)Z" } : Jvm.MethodName)) ∈ lw_tbl := lw_at lw_m10 228 rfl
theorem q2457 : (Jvm.Cond.instanceMethod ({ cls := "SegmentedCache$Sketch", name := "isThing", desc := "(I)Z" } : Jvm.MethodName)) ∈ lw_all := lw_g (lw_at lw_m10 229 rfl) rfl
theorem q2458 : (Jvm.Cond.code ({ cls := "SegmentedCache$Sketch", name := "isThing", desc := "(I)Z" } : Jvm.MethodName) prog_9_method_16_code (2 : Nat) (Option.some Jvm.ClassFile.FieldType.boolean)) ∈ lw_all := lw_g (lw_at lw_m10 230 rfl) rfl
theorem q2459 : (Jvm.Cond.methodLink "SegmentedCache$Sketch" (190 : Nat) ({ cls := "SegmentedCache$Sketch", name := "hits", desc := "(I)V" } : Jvm.MethodName)) ∈ lw_all := lw_g (lw_at lw_m10 231 rfl) rfl
theorem q2460 : (Jvm.Cond.privateMethod ({ cls := "SegmentedCache$Sketch", name := "hits", desc := "(I)V" } : Jvm.MethodName)) ∈ lw_tbl := lw_at lw_m10 232 rfl
theorem q2461 : (Jvm.Cond.instanceMethod ({ cls := "SegmentedCache$Sketch", name := "hits", desc := "(I)V" } : Jvm.MethodName)) ∈ lw_all := lw_g (lw_at lw_m10 233 rfl) rfl
theorem q2462 : (Jvm.Cond.code ({ cls := "SegmentedCache$Sketch", name := "hits", desc := "(I)V" } : Jvm.MethodName) prog_9_method_17_code (3 : Nat) (Option.none : Option Jvm.ClassFile.FieldType)) ∈ lw_all := lw_g (lw_at lw_m10 234 rfl) rfl
theorem q2463 : (Jvm.Cond.methodLink "SegmentedCache$Sketch" (180 : Nat) ({ cls := "java/lang/Math", name := "min", desc := "(II)I" } : Jvm.MethodName)) ∈ lw_all := lw_g (lw_at lw_m10 235 rfl) rfl
theorem q2464 : (Jvm.Cond.methodLink "SegmentedCache$Sketch" (192 : Nat) ({ cls := "SegmentedCache$Sketch", name := "trims", desc := "()V" } : Jvm.MethodName)) ∈ lw_all := lw_g (lw_at lw_m10 236 rfl) rfl
theorem q2465 : (Jvm.Cond.instanceMethod ({ cls := "SegmentedCache$Sketch", name := "trims", desc := "()V" } : Jvm.MethodName)) ∈ lw_all := lw_g (lw_at lw_m10 237 rfl) rfl
theorem q2466 : (Jvm.Cond.selects "SegmentedCache$Sketch" ({ cls := "SegmentedCache$Sketch", name := "trims", desc := "()V" } : Jvm.MethodName) ({ cls := "SegmentedCache$Sketch", name := "trims", desc := "()V" } : Jvm.MethodName)) ∈ lw_all := lw_g (lw_at lw_m10 238 rfl) rfl
theorem q2467 : (Jvm.Cond.code ({ cls := "SegmentedCache$Sketch", name := "trims", desc := "()V" } : Jvm.MethodName) prog_9_method_15_code (2 : Nat) (Option.none : Option Jvm.ClassFile.FieldType)) ∈ lw_all := lw_g (lw_at lw_m10 239 rfl) rfl
theorem q2468 : (Jvm.Cond.methodLink "SegmentedCache$Sketch" (176 : Nat) ({ cls := "SegmentedCache$Sketch", name := "fades", desc := "(I)V" } : Jvm.MethodName)) ∈ lw_all := lw_g (lw_at lw_m11 0 rfl) rfl
theorem q2469 : (Jvm.Cond.privateMethod ({ cls := "SegmentedCache$Sketch", name := "fades", desc := "(I)V" } : Jvm.MethodName)) ∈ lw_tbl := lw_at lw_m11 1 rfl
theorem q2470 : (Jvm.Cond.instanceMethod ({ cls := "SegmentedCache$Sketch", name := "fades", desc := "(I)V" } : Jvm.MethodName)) ∈ lw_all := lw_g (lw_at lw_m11 2 rfl) rfl
theorem q2471 : (Jvm.Cond.code ({ cls := "SegmentedCache$Sketch", name := "fades", desc := "(I)V" } : Jvm.MethodName) prog_9_method_14_code (2 : Nat) (Option.none : Option Jvm.ClassFile.FieldType)) ∈ lw_all := lw_g (lw_at lw_m11 3 rfl) rfl
theorem q2472 : (Jvm.Cond.methodLink "SegmentedCache$Sketch" (214 : Nat) ({ cls := "SegmentedCache$Sketch", name := "puts", desc := "(II)V" } : Jvm.MethodName)) ∈ lw_all := lw_g (lw_at lw_m11 4 rfl) rfl
theorem q2473 : (Jvm.Cond.privateMethod ({ cls := "SegmentedCache$Sketch", name := "puts", desc := "(II)V" } : Jvm.MethodName)) ∈ lw_tbl := lw_at lw_m11 5 rfl
theorem q2474 : (Jvm.Cond.instanceMethod ({ cls := "SegmentedCache$Sketch", name := "puts", desc := "(II)V" } : Jvm.MethodName)) ∈ lw_all := lw_g (lw_at lw_m11 6 rfl) rfl
theorem q2475 : (Jvm.Cond.code ({ cls := "SegmentedCache$Sketch", name := "puts", desc := "(II)V" } : Jvm.MethodName) prog_9_method_19_code (4 : Nat) (Option.none : Option Jvm.ClassFile.FieldType)) ∈ lw_all := lw_g (lw_at lw_m11 7 rfl) rfl
theorem q2476 : (Jvm.Cond.methodLink "SegmentedCache$Sketch" (195 : Nat) ({ cls := "java/lang/Math", name := "max", desc := "(II)I" } : Jvm.MethodName)) ∈ lw_all := lw_g (lw_at lw_m11 8 rfl) rfl
theorem q2487 : (Jvm.Cond.instanceMethod ({ cls := "SegmentedCache$Sketch", name := "takes", desc := "(LSegmentedCache$Sketch;)V" } : Jvm.MethodName)) ∈ lw_all := lw_g (lw_at lw_m11 19 rfl) rfl
theorem q2488 : (Jvm.Cond.selects "SegmentedCache$Sketch" ({ cls := "SegmentedCache$Sketch", name := "takes", desc := "(LSegmentedCache$Sketch;)V" } : Jvm.MethodName) ({ cls := "SegmentedCache$Sketch", name := "takes", desc := "(LSegmentedCache$Sketch;)V" } : Jvm.MethodName)) ∈ lw_all := lw_g (lw_at lw_m11 20 rfl) rfl
theorem q2489 : (Jvm.Cond.code ({ cls := "SegmentedCache$Sketch", name := "takes", desc := "(LSegmentedCache$Sketch;)V" } : Jvm.MethodName) prog_9_method_4_code (2 : Nat) (Option.none : Option Jvm.ClassFile.FieldType)) ∈ lw_all := lw_g (lw_at lw_m11 21 rfl) rfl
theorem q2490 : (Jvm.Cond.methodLink "SegmentedCache$Sketch" (140 : Nat) ({ cls := "java/lang/System", name := "arraycopy", desc := "(Ljava/lang/Object;ILjava/lang/Object;II)V" } : Jvm.MethodName)) ∈ lw_all := lw_g (lw_at lw_m11 22 rfl) rfl
theorem q3049 : (Jvm.Cond.castable "SegmentedCache$Sketch" "java/lang/Object") ∈ lw_tbl := lw_at lw_m13 101 rfl
theorem in_X3 : ∀ w ∈ wsX30, w ∈ lw_all := lw_in wsX30 [348, 350, 352, 354, 356, 358, 360, 362, 364, 366, 368, 370, 372, 374, 376, 378, 380, 382, 384] (by decide +kernel) (by decide +kernel)
/-! SegmentedCache$Tape -/
set_option maxRecDepth 100000
def RX4 : String := "SegmentedCache$Tape"
def TX4 : u_T := fun k => match k with
  | _ => ("SegmentedCache$Tape", "row", "Ljava/lang/Object;", false)
def tyX4 : Nat → FieldType := fun k => match k with
  | _ => .object "java/lang/Object"
abbrev wsX40 : List Cond := u_ws RX4 TX4 1
theorem nmX4 : ∀ a, a < 1 → ∀ b, b < 1 → a ≠ b → (TX4 a).2.1 ≠ (TX4 b).2.1 := by decide +kernel
theorem tyX4_ok : ∀ k, k < 1 → parseFieldDescriptor (TX4 k).2.2.1 = some (tyX4 k) := by decide +kernel
abbrev cX4_init : ByteArray := prog_10_method_1_code
def yX4_init : MethodName := ⟨RX4, "<init>", "()V"⟩
theorem dX4_init_0 : decode cX4_init 0 = .ok (.aload_n 0, 1) := by decide +kernel
theorem dX4_init_1 : decode cX4_init 1 = .ok (.invokespecial 3, 3) := by decide +kernel
theorem dX4_init_4 : decode cX4_init 4 = .ok (.return_, 1) := by decide +kernel
abbrev cX4_has : ByteArray := prog_10_method_3_code
def yX4_has : MethodName := ⟨RX4, "has", "(I)V"⟩
def dkwX4_has_1 : List UInt8 := [100, 184, 0, 34, 154, 0, 13, 187, 0, 25, 89, 16, 243, 183, 0, 27, 191, 177]
abbrev dktX4_has_1 : List UInt8 := dkwX4_has_1 ++ []
def dkwX4_has_0 : List UInt8 := [42, 180, 0, 9, 199, 0, 13, 187, 0, 25, 89, 16, 245, 183, 0, 27, 191, 27, 3, 42, 182, 0, 30, 4]
abbrev dktX4_has_0 : List UInt8 := dkwX4_has_0 ++ dktX4_has_1
theorem dksX4_has_0 : cX4_has.data.toList.drop 0 = dktX4_has_0 := by decide +kernel
theorem dksX4_has_1 : cX4_has.data.toList.drop 24 = dktX4_has_1 := dk_seg dksX4_has_0 24 rfl rfl
theorem dX4_has_0 : decode cX4_has 0 = .ok (.aload_n 0, 1) := dk_42 (dk_at dksX4_has_0 0 rfl rfl)
theorem dX4_has_1 : decode cX4_has 1 = .ok (.getfield 9, 3) := dk_180 0 9 (dk_at dksX4_has_0 1 rfl rfl)
theorem dX4_has_4 : decode cX4_has 4 = .ok (.ifnonnull 13, 3) := dk_199 0 13 (dk_at dksX4_has_0 4 rfl rfl)
theorem dX4_has_7 : decode cX4_has 7 = .ok (.new 25, 3) := dk_187 0 25 (dk_at dksX4_has_0 7 rfl rfl)
theorem dX4_has_10 : decode cX4_has 10 = .ok (.dup, 1) := dk_89 (dk_at dksX4_has_0 10 rfl rfl)
theorem dX4_has_11 : decode cX4_has 11 = .ok (.bipush (-11), 2) := dk_16 245 (dk_at dksX4_has_0 11 rfl rfl)
theorem dX4_has_13 : decode cX4_has 13 = .ok (.invokespecial 27, 3) := dk_183 0 27 (dk_at dksX4_has_0 13 rfl rfl)
theorem dX4_has_16 : decode cX4_has 16 = .ok (.athrow, 1) := dk_191 (dk_at dksX4_has_0 16 rfl rfl)
theorem dX4_has_17 : decode cX4_has 17 = .ok (.iload_n 1, 1) := dk_27 (dk_at dksX4_has_0 17 rfl rfl)
theorem dX4_has_18 : decode cX4_has 18 = .ok (.iconst 0, 1) := dk_3 (dk_at dksX4_has_0 18 rfl rfl)
theorem dX4_has_19 : decode cX4_has 19 = .ok (.aload_n 0, 1) := dk_42 (dk_at dksX4_has_0 19 rfl rfl)
theorem dX4_has_20 : decode cX4_has 20 = .ok (.invokevirtual 30, 3) := dk_182 0 30 (dk_at dksX4_has_0 20 rfl rfl)
theorem dX4_has_23 : decode cX4_has 23 = .ok (.iconst 1, 1) := dk_4 (dk_at dksX4_has_0 23 rfl rfl)
theorem dX4_has_24 : decode cX4_has 24 = .ok (.isub, 1) := dk_100 (dk_at dksX4_has_1 0 rfl rfl)
theorem dX4_has_25 : decode cX4_has 25 = .ok (.invokestatic 34, 3) := dk_184 0 34 (dk_at dksX4_has_1 1 rfl rfl)
theorem dX4_has_28 : decode cX4_has 28 = .ok (.ifCond .ne 13, 3) := dk_154 0 13 (dk_at dksX4_has_1 4 rfl rfl)
theorem dX4_has_31 : decode cX4_has 31 = .ok (.new 25, 3) := dk_187 0 25 (dk_at dksX4_has_1 7 rfl rfl)
theorem dX4_has_34 : decode cX4_has 34 = .ok (.dup, 1) := dk_89 (dk_at dksX4_has_1 10 rfl rfl)
theorem dX4_has_35 : decode cX4_has 35 = .ok (.bipush (-13), 2) := dk_16 243 (dk_at dksX4_has_1 11 rfl rfl)
theorem dX4_has_37 : decode cX4_has 37 = .ok (.invokespecial 27, 3) := dk_183 0 27 (dk_at dksX4_has_1 13 rfl rfl)
theorem dX4_has_40 : decode cX4_has 40 = .ok (.athrow, 1) := dk_191 (dk_at dksX4_has_1 16 rfl rfl)
theorem dX4_has_41 : decode cX4_has 41 = .ok (.return_, 1) := dk_177 (dk_at dksX4_has_1 17 rfl rfl)
abbrev cX4_size : ByteArray := prog_10_method_2_code
def yX4_size : MethodName := ⟨RX4, "size", "()I"⟩
def dkwX4_size_3 : List UInt8 := [153, 0, 13, 44, 192, 0, 21, 76, 43, 190, 167, 0, 11, 42, 180, 0, 9, 192, 0, 23, 190, 172]
abbrev dktX4_size_3 : List UInt8 := dkwX4_size_3 ++ []
def dkwX4_size_2 : List UInt8 := [193, 0, 19, 153, 0, 11, 44, 192, 0, 19, 76, 43, 190, 172, 42, 180, 0, 9, 77, 44, 193, 0, 21]
abbrev dktX4_size_2 : List UInt8 := dkwX4_size_2 ++ dktX4_size_3
def dkwX4_size_1 : List UInt8 := [77, 44, 193, 0, 17, 153, 0, 11, 44, 192, 0, 17, 76, 43, 190, 172, 42, 180, 0, 9, 77, 44]
abbrev dktX4_size_1 : List UInt8 := dkwX4_size_1 ++ dktX4_size_2
def dkwX4_size_0 : List UInt8 := [42, 180, 0, 9, 77, 44, 193, 0, 15, 153, 0, 11, 44, 192, 0, 15, 76, 43, 190, 172, 42, 180, 0, 9]
abbrev dktX4_size_0 : List UInt8 := dkwX4_size_0 ++ dktX4_size_1
theorem dksX4_size_0 : cX4_size.data.toList.drop 0 = dktX4_size_0 := by decide +kernel
theorem dksX4_size_1 : cX4_size.data.toList.drop 24 = dktX4_size_1 := dk_seg dksX4_size_0 24 rfl rfl
theorem dksX4_size_2 : cX4_size.data.toList.drop 46 = dktX4_size_2 := dk_seg dksX4_size_1 22 rfl rfl
theorem dksX4_size_3 : cX4_size.data.toList.drop 69 = dktX4_size_3 := dk_seg dksX4_size_2 23 rfl rfl
theorem dX4_size_0 : decode cX4_size 0 = .ok (.aload_n 0, 1) := dk_42 (dk_at dksX4_size_0 0 rfl rfl)
theorem dX4_size_1 : decode cX4_size 1 = .ok (.getfield 9, 3) := dk_180 0 9 (dk_at dksX4_size_0 1 rfl rfl)
theorem dX4_size_4 : decode cX4_size 4 = .ok (.astore_n 2, 1) := dk_77 (dk_at dksX4_size_0 4 rfl rfl)
theorem dX4_size_5 : decode cX4_size 5 = .ok (.aload_n 2, 1) := dk_44 (dk_at dksX4_size_0 5 rfl rfl)
theorem dX4_size_6 : decode cX4_size 6 = .ok (.instanceof 15, 3) := dk_193 0 15 (dk_at dksX4_size_0 6 rfl rfl)
theorem dX4_size_9 : decode cX4_size 9 = .ok (.ifCond .eq 11, 3) := dk_153 0 11 (dk_at dksX4_size_0 9 rfl rfl)
theorem dX4_size_12 : decode cX4_size 12 = .ok (.aload_n 2, 1) := dk_44 (dk_at dksX4_size_0 12 rfl rfl)
theorem dX4_size_13 : decode cX4_size 13 = .ok (.checkcast 15, 3) := dk_192 0 15 (dk_at dksX4_size_0 13 rfl rfl)
theorem dX4_size_16 : decode cX4_size 16 = .ok (.astore_n 1, 1) := dk_76 (dk_at dksX4_size_0 16 rfl rfl)
theorem dX4_size_17 : decode cX4_size 17 = .ok (.aload_n 1, 1) := dk_43 (dk_at dksX4_size_0 17 rfl rfl)
theorem dX4_size_18 : decode cX4_size 18 = .ok (.arraylength, 1) := dk_190 (dk_at dksX4_size_0 18 rfl rfl)
theorem dX4_size_19 : decode cX4_size 19 = .ok (.ireturn, 1) := dk_172 (dk_at dksX4_size_0 19 rfl rfl)
theorem dX4_size_20 : decode cX4_size 20 = .ok (.aload_n 0, 1) := dk_42 (dk_at dksX4_size_0 20 rfl rfl)
theorem dX4_size_21 : decode cX4_size 21 = .ok (.getfield 9, 3) := dk_180 0 9 (dk_at dksX4_size_0 21 rfl rfl)
theorem dX4_size_24 : decode cX4_size 24 = .ok (.astore_n 2, 1) := dk_77 (dk_at dksX4_size_1 0 rfl rfl)
theorem dX4_size_25 : decode cX4_size 25 = .ok (.aload_n 2, 1) := dk_44 (dk_at dksX4_size_1 1 rfl rfl)
theorem dX4_size_26 : decode cX4_size 26 = .ok (.instanceof 17, 3) := dk_193 0 17 (dk_at dksX4_size_1 2 rfl rfl)
theorem dX4_size_29 : decode cX4_size 29 = .ok (.ifCond .eq 11, 3) := dk_153 0 11 (dk_at dksX4_size_1 5 rfl rfl)
theorem dX4_size_32 : decode cX4_size 32 = .ok (.aload_n 2, 1) := dk_44 (dk_at dksX4_size_1 8 rfl rfl)
theorem dX4_size_33 : decode cX4_size 33 = .ok (.checkcast 17, 3) := dk_192 0 17 (dk_at dksX4_size_1 9 rfl rfl)
theorem dX4_size_36 : decode cX4_size 36 = .ok (.astore_n 1, 1) := dk_76 (dk_at dksX4_size_1 12 rfl rfl)
theorem dX4_size_37 : decode cX4_size 37 = .ok (.aload_n 1, 1) := dk_43 (dk_at dksX4_size_1 13 rfl rfl)
theorem dX4_size_38 : decode cX4_size 38 = .ok (.arraylength, 1) := dk_190 (dk_at dksX4_size_1 14 rfl rfl)
theorem dX4_size_39 : decode cX4_size 39 = .ok (.ireturn, 1) := dk_172 (dk_at dksX4_size_1 15 rfl rfl)
theorem dX4_size_40 : decode cX4_size 40 = .ok (.aload_n 0, 1) := dk_42 (dk_at dksX4_size_1 16 rfl rfl)
theorem dX4_size_41 : decode cX4_size 41 = .ok (.getfield 9, 3) := dk_180 0 9 (dk_at dksX4_size_1 17 rfl rfl)
theorem dX4_size_44 : decode cX4_size 44 = .ok (.astore_n 2, 1) := dk_77 (dk_at dksX4_size_1 20 rfl rfl)
theorem dX4_size_45 : decode cX4_size 45 = .ok (.aload_n 2, 1) := dk_44 (dk_at dksX4_size_1 21 rfl rfl)
theorem dX4_size_46 : decode cX4_size 46 = .ok (.instanceof 19, 3) := dk_193 0 19 (dk_at dksX4_size_2 0 rfl rfl)
theorem dX4_size_49 : decode cX4_size 49 = .ok (.ifCond .eq 11, 3) := dk_153 0 11 (dk_at dksX4_size_2 3 rfl rfl)
theorem dX4_size_52 : decode cX4_size 52 = .ok (.aload_n 2, 1) := dk_44 (dk_at dksX4_size_2 6 rfl rfl)
theorem dX4_size_53 : decode cX4_size 53 = .ok (.checkcast 19, 3) := dk_192 0 19 (dk_at dksX4_size_2 7 rfl rfl)
theorem dX4_size_56 : decode cX4_size 56 = .ok (.astore_n 1, 1) := dk_76 (dk_at dksX4_size_2 10 rfl rfl)
theorem dX4_size_57 : decode cX4_size 57 = .ok (.aload_n 1, 1) := dk_43 (dk_at dksX4_size_2 11 rfl rfl)
theorem dX4_size_58 : decode cX4_size 58 = .ok (.arraylength, 1) := dk_190 (dk_at dksX4_size_2 12 rfl rfl)
theorem dX4_size_59 : decode cX4_size 59 = .ok (.ireturn, 1) := dk_172 (dk_at dksX4_size_2 13 rfl rfl)
theorem dX4_size_60 : decode cX4_size 60 = .ok (.aload_n 0, 1) := dk_42 (dk_at dksX4_size_2 14 rfl rfl)
theorem dX4_size_61 : decode cX4_size 61 = .ok (.getfield 9, 3) := dk_180 0 9 (dk_at dksX4_size_2 15 rfl rfl)
theorem dX4_size_64 : decode cX4_size 64 = .ok (.astore_n 2, 1) := dk_77 (dk_at dksX4_size_2 18 rfl rfl)
theorem dX4_size_65 : decode cX4_size 65 = .ok (.aload_n 2, 1) := dk_44 (dk_at dksX4_size_2 19 rfl rfl)
theorem dX4_size_66 : decode cX4_size 66 = .ok (.instanceof 21, 3) := dk_193 0 21 (dk_at dksX4_size_2 20 rfl rfl)
theorem dX4_size_69 : decode cX4_size 69 = .ok (.ifCond .eq 13, 3) := dk_153 0 13 (dk_at dksX4_size_3 0 rfl rfl)
theorem dX4_size_72 : decode cX4_size 72 = .ok (.aload_n 2, 1) := dk_44 (dk_at dksX4_size_3 3 rfl rfl)
theorem dX4_size_73 : decode cX4_size 73 = .ok (.checkcast 21, 3) := dk_192 0 21 (dk_at dksX4_size_3 4 rfl rfl)
theorem dX4_size_76 : decode cX4_size 76 = .ok (.astore_n 1, 1) := dk_76 (dk_at dksX4_size_3 7 rfl rfl)
theorem dX4_size_77 : decode cX4_size 77 = .ok (.aload_n 1, 1) := dk_43 (dk_at dksX4_size_3 8 rfl rfl)
theorem dX4_size_78 : decode cX4_size 78 = .ok (.arraylength, 1) := dk_190 (dk_at dksX4_size_3 9 rfl rfl)
theorem dX4_size_79 : decode cX4_size 79 = .ok (.goto 11, 3) := dk_167 0 11 (dk_at dksX4_size_3 10 rfl rfl)
theorem dX4_size_82 : decode cX4_size 82 = .ok (.aload_n 0, 1) := dk_42 (dk_at dksX4_size_3 13 rfl rfl)
theorem dX4_size_83 : decode cX4_size 83 = .ok (.getfield 9, 3) := dk_180 0 9 (dk_at dksX4_size_3 14 rfl rfl)
theorem dX4_size_86 : decode cX4_size 86 = .ok (.checkcast 23, 3) := dk_192 0 23 (dk_at dksX4_size_3 17 rfl rfl)
theorem dX4_size_89 : decode cX4_size 89 = .ok (.arraylength, 1) := dk_190 (dk_at dksX4_size_3 20 rfl rfl)
theorem dX4_size_90 : decode cX4_size 90 = .ok (.ireturn, 1) := dk_172 (dk_at dksX4_size_3 21 rfl rfl)
theorem q81 : (Jvm.Cond.initialized "SegmentedCache$Tape") ∈ lw_all := lw_g (lw_at lw_m1 13 rfl) rfl
theorem q424 : (Jvm.Cond.instantiable "SegmentedCache$Tape" (1 : Nat)) ∈ lw_all := lw_g (lw_at lw_m2 116 rfl) rfl
theorem q426 : (Jvm.Cond.instanceMethod ({ cls := "SegmentedCache$Tape", name := "<init>", desc := "()V" } : Jvm.MethodName)) ∈ lw_all := lw_g (lw_at lw_m2 118 rfl) rfl
theorem q427 : (Jvm.Cond.code ({ cls := "SegmentedCache$Tape", name := "<init>", desc := "()V" } : Jvm.MethodName) prog_10_method_1_code (1 : Nat) (Option.none : Option Jvm.ClassFile.FieldType)) ∈ lw_all := lw_g (lw_at lw_m2 119 rfl) rfl
theorem q428 : (Jvm.Cond.methodLink "SegmentedCache$Tape" (3 : Nat) ({ cls := "java/lang/Object", name := "<init>", desc := "()V" } : Jvm.MethodName)) ∈ lw_all := lw_g (lw_at lw_m2 120 rfl) rfl
theorem q429 : (Jvm.Cond.fieldLink "SegmentedCache$Tape" (9 : Nat) "SegmentedCache$Tape" "row" "Ljava/lang/Object;") ∈ lw_all := lw_g (lw_at lw_m2 121 rfl) rfl
theorem q431 : (Jvm.Cond.lays "SegmentedCache$Tape" "SegmentedCache$Tape" "row" "Ljava/lang/Object;") ∈ lw_all := lw_g (lw_at lw_m2 123 rfl) rfl
theorem q432 : (Jvm.Cond.soleField "SegmentedCache$Tape" "row") ∈ lw_all := lw_g (lw_at lw_m2 124 rfl) rfl
theorem q433 : (Jvm.Cond.superclass "SegmentedCache$Tape" "java/lang/Object") ∈ lw_all := lw_g (lw_at lw_m2 125 rfl) rfl
theorem q1054 : (Jvm.Cond.selects "SegmentedCache$Tape" ({ cls := "java/lang/Object", name := "getClass", desc := "()Ljava/lang/Class;" } : Jvm.MethodName) ({ cls := "java/lang/Object", name := "getClass", desc := "()Ljava/lang/Class;" } : Jvm.MethodName)) ∈ lw_all := lw_g (lw_at lw_m5 26 rfl) rfl
theorem q1329 : (Jvm.Cond.selects "SegmentedCache$Tape" ({ cls := "java/lang/Object", name := "equals", desc := "(Ljava/lang/Object;)Z" } : Jvm.MethodName) ({ cls := "java/lang/Object", name := "equals", desc := "(Ljava/lang/Object;)Z" } : Jvm.MethodName)) ∈ lw_all := lw_g (lw_at lw_m6 61 rfl) rfl
theorem q1694 : (Jvm.Cond.selects "SegmentedCache$Tape" ({ cls := "java/lang/Object", name := "hashCode", desc := "()I" } : Jvm.MethodName) ({ cls := "java/lang/Object", name := "hashCode", desc := "()I" } : Jvm.MethodName)) ∈ lw_all := lw_g (lw_at lw_m7 186 rfl) rfl
theorem q2673 : (Jvm.Cond.privateMethod ({ cls := "SegmentedCache$Tape", name := "has", desc := "(I)V" } : Jvm.MethodName)) ∈ lw_tbl := lw_at lw_m11 205 rfl
theorem q2674 : (Jvm.Cond.instanceMethod ({ cls := "SegmentedCache$Tape", name := "has", desc := "(I)V" } : Jvm.MethodName)) ∈ lw_all := lw_g (lw_at lw_m11 206 rfl) rfl
theorem q2675 : (Jvm.Cond.code ({ cls := "SegmentedCache$Tape", name := "has", desc := "(I)V" } : Jvm.MethodName) prog_10_method_3_code (2 : Nat) (Option.none : Option Jvm.ClassFile.FieldType)) ∈ lw_all := lw_g (lw_at lw_m11 207 rfl) rfl
theorem q2676 : (Jvm.Cond.classLink "SegmentedCache$Tape" (25 : Nat) "SegmentedCache$Off") ∈ lw_all := lw_g (lw_at lw_m11 208 rfl) rfl
theorem q2677 : (Jvm.Cond.methodLink "SegmentedCache$Tape" (27 : Nat) ({ cls := "SegmentedCache$Off", name := "<init>", desc := "(I)V" } : Jvm.MethodName)) ∈ lw_all := lw_g (lw_at lw_m11 209 rfl) rfl
theorem q2678 : (Jvm.Cond.methodLink "SegmentedCache$Tape" (30 : Nat) ({ cls := "SegmentedCache$Tape", name := "size", desc := "()I" } : Jvm.MethodName)) ∈ lw_all := lw_g (lw_at lw_m11 210 rfl) rfl
theorem q2679 : (Jvm.Cond.privateMethod ({ cls := "SegmentedCache$Tape", name := "size", desc := "()I" } : Jvm.MethodName)) ∈ lw_tbl := lw_at lw_m11 211 rfl
theorem q2680 : (Jvm.Cond.instanceMethod ({ cls := "SegmentedCache$Tape", name := "size", desc := "()I" } : Jvm.MethodName)) ∈ lw_all := lw_g (lw_at lw_m11 212 rfl) rfl
theorem q2681 : (Jvm.Cond.code ({ cls := "SegmentedCache$Tape", name := "size", desc := "()I" } : Jvm.MethodName) prog_10_method_2_code (3 : Nat) (Option.some Jvm.ClassFile.FieldType.int)) ∈ lw_all := lw_g (lw_at lw_m11 213 rfl) rfl
theorem q2682 : (Jvm.Cond.classLink "SegmentedCache$Tape" (15 : Nat) "[B") ∈ lw_all := lw_g (lw_at lw_m11 214 rfl) rfl
theorem q2683 : (Jvm.Cond.classLink "SegmentedCache$Tape" (17 : Nat) "[S") ∈ lw_all := lw_g (lw_at lw_m11 215 rfl) rfl
theorem q2684 : (Jvm.Cond.classLink "SegmentedCache$Tape" (19 : Nat) "[I") ∈ lw_all := lw_g (lw_at lw_m11 216 rfl) rfl
theorem q2685 : (Jvm.Cond.classLink "SegmentedCache$Tape" (21 : Nat) "[J") ∈ lw_all := lw_g (lw_at lw_m11 217 rfl) rfl
theorem q2686 : (Jvm.Cond.classLink "SegmentedCache$Tape" (23 : Nat) "[Z") ∈ lw_all := lw_g (lw_at lw_m11 218 rfl) rfl
theorem q2687 : (Jvm.Cond.methodLinkNest "SegmentedCache$Tape" (34 : Nat) ({ cls := "SegmentedCache", name := "in", desc := "(III)Z" } : Jvm.MethodName) "SegmentedCache") ∈ lw_tbl := lw_at lw_m11 219 rfl
theorem q3042 : (Jvm.Cond.castable "SegmentedCache$Tape" "java/lang/Object") ∈ lw_tbl := lw_at lw_m13 94 rfl
theorem in_X4 : ∀ w ∈ wsX40, w ∈ lw_all := lw_in wsX40 [431] (by decide +kernel) (by decide +kernel)
