/-! SegmentedCacheModel -/
set_option maxRecDepth 100000
def RX5 : String := "SegmentedCacheModel"
def TX5 : u_T := fun k => match k with
  | 0 => ("SegmentedCacheModel", "g", "[I", true)
  | 1 => ("SegmentedCacheModel", "saved", "[I", true)
  | 2 => ("SegmentedCacheModel", "kept", "[I", true)
  | 3 => ("SegmentedCacheModel", "isKept", "Z", false)
  | 4 => ("SegmentedCacheModel", "going", "[I", true)
  | 5 => ("SegmentedCacheModel", "goingMany", "I", false)
  | 6 => ("SegmentedCacheModel", "text", "[I", true)
  | 7 => ("SegmentedCacheModel", "textMany", "I", false)
  | 8 => ("SegmentedCacheModel", "acts", "[I", true)
  | 9 => ("SegmentedCacheModel", "keys", "[I", true)
  | 10 => ("SegmentedCacheModel", "weights", "[I", true)
  | 11 => ("SegmentedCacheModel", "many", "[I", true)
  | 12 => ("SegmentedCacheModel", "traces", "I", false)
  | 13 => ("SegmentedCacheModel", "tapeSort", "[I", true)
  | 14 => ("SegmentedCacheModel", "tapeSize", "[I", true)
  | 15 => ("SegmentedCacheModel", "tapes", "[[J", true)
  | 16 => ("SegmentedCacheModel", "moved", "[J", true)
  | 17 => ("SegmentedCacheModel", "spot", "I", false)
  | _ => ("SegmentedCacheModel", "fault", "I", false)
def tyX5 : Nat → FieldType := fun k => match k with
  | 0 => .array .int
  | 1 => .array .int
  | 2 => .array .int
  | 3 => .boolean
  | 4 => .array .int
  | 5 => .int
  | 6 => .array .int
  | 7 => .int
  | 8 => .array .int
  | 9 => .array .int
  | 10 => .array .int
  | 11 => .array .int
  | 12 => .int
  | 13 => .array .int
  | 14 => .array .int
  | 15 => .array (.array .long)
  | 16 => .array .long
  | 17 => .int
  | _ => .int
abbrev wsX50 : List Cond := u_ws RX5 TX5 19
set_option maxRecDepth 100000 in
theorem nmX5 : ∀ a, a < 19 → ∀ b, b < 19 → a ≠ b → (TX5 a).2.1 ≠ (TX5 b).2.1 := by decide +kernel
set_option maxRecDepth 100000 in
theorem tyX5_ok : ∀ k, k < 19 → parseFieldDescriptor (TX5 k).2.2.1 = some (tyX5 k) := by decide +kernel
abbrev cX5_init : ByteArray := prog_13_method_1_code
def yX5_init : MethodName := ⟨RX5, "<init>", "()V"⟩
def dkwX5_init_7 : List UInt8 := [180, 0, 39, 27, 2, 79, 132, 1, 1, 167, 255, 240, 177]
abbrev dktX5_init_7 : List UInt8 := dkwX5_init_7 ++ []
def dkwX5_init_6 : List UInt8 := [17, 12, 130, 5, 79, 42, 180, 0, 11, 17, 12, 131, 4, 79, 3, 60, 27, 16, 6, 162, 0, 16, 42]
abbrev dktX5_init_6 : List UInt8 := dkwX5_init_6 ++ dktX5_init_7
def dkwX5_init_5 : List UInt8 := [180, 0, 11, 17, 12, 128, 16, 20, 79, 42, 180, 0, 11, 17, 12, 129, 16, 10, 79, 42, 180, 0, 11]
abbrev dktX5_init_5 : List UInt8 := dkwX5_init_5 ++ dktX5_init_6
def dkwX5_init_4 : List UInt8 := [181, 0, 42, 42, 16, 6, 16, 60, 197, 0, 45, 2, 181, 0, 47, 42, 16, 60, 188, 11, 181, 0, 50, 42]
abbrev dktX5_init_4 : List UInt8 := dkwX5_init_4 ++ dktX5_init_5
def dkwX5_init_3 : List UInt8 := [181, 0, 33, 42, 16, 6, 188, 10, 181, 0, 36, 42, 16, 6, 188, 10, 181, 0, 39, 42, 16, 6, 188, 10]
abbrev dktX5_init_3 : List UInt8 := dkwX5_init_3 ++ dktX5_init_4
def dkwX5_init_2 : List UInt8 := [181, 0, 24, 42, 16, 120, 188, 10, 181, 0, 27, 42, 16, 120, 188, 10, 181, 0, 30, 42, 16, 120, 188, 10]
abbrev dktX5_init_2 : List UInt8 := dkwX5_init_2 ++ dktX5_init_3
def dkwX5_init_1 : List UInt8 := [17, 12, 181, 188, 10, 181, 0, 18, 42, 17, 1, 144, 188, 10, 181, 0, 21, 42, 16, 100, 188, 10]
abbrev dktX5_init_1 : List UInt8 := dkwX5_init_1 ++ dktX5_init_2
def dkwX5_init_0 : List UInt8 := [42, 183, 0, 5, 42, 17, 12, 181, 188, 10, 181, 0, 11, 42, 17, 12, 181, 188, 10, 181, 0, 15, 42]
abbrev dktX5_init_0 : List UInt8 := dkwX5_init_0 ++ dktX5_init_1
theorem dksX5_init_0 : cX5_init.data.toList.drop 0 = dktX5_init_0 := by decide +kernel
theorem dksX5_init_1 : cX5_init.data.toList.drop 23 = dktX5_init_1 := dk_seg dksX5_init_0 23 rfl rfl
theorem dksX5_init_2 : cX5_init.data.toList.drop 45 = dktX5_init_2 := dk_seg dksX5_init_1 22 rfl rfl
theorem dksX5_init_3 : cX5_init.data.toList.drop 69 = dktX5_init_3 := dk_seg dksX5_init_2 24 rfl rfl
theorem dksX5_init_4 : cX5_init.data.toList.drop 93 = dktX5_init_4 := dk_seg dksX5_init_3 24 rfl rfl
theorem dksX5_init_5 : cX5_init.data.toList.drop 117 = dktX5_init_5 := dk_seg dksX5_init_4 24 rfl rfl
theorem dksX5_init_6 : cX5_init.data.toList.drop 140 = dktX5_init_6 := dk_seg dksX5_init_5 23 rfl rfl
theorem dksX5_init_7 : cX5_init.data.toList.drop 163 = dktX5_init_7 := dk_seg dksX5_init_6 23 rfl rfl
theorem dX5_init_0 : decode cX5_init 0 = .ok (.aload_n 0, 1) := dk_42 (dk_at dksX5_init_0 0 rfl rfl)
theorem dX5_init_1 : decode cX5_init 1 = .ok (.invokespecial 5, 3) := dk_183 0 5 (dk_at dksX5_init_0 1 rfl rfl)
theorem dX5_init_4 : decode cX5_init 4 = .ok (.aload_n 0, 1) := dk_42 (dk_at dksX5_init_0 4 rfl rfl)
theorem dX5_init_5 : decode cX5_init 5 = .ok (.sipush 3253, 3) := dk_17 12 181 (dk_at dksX5_init_0 5 rfl rfl)
theorem dX5_init_8 : decode cX5_init 8 = .ok (.newarray .int, 2) := dk_188_10 (dk_at dksX5_init_0 8 rfl rfl)
theorem dX5_init_10 : decode cX5_init 10 = .ok (.putfield 11, 3) := dk_181 0 11 (dk_at dksX5_init_0 10 rfl rfl)
theorem dX5_init_13 : decode cX5_init 13 = .ok (.aload_n 0, 1) := dk_42 (dk_at dksX5_init_0 13 rfl rfl)
theorem dX5_init_14 : decode cX5_init 14 = .ok (.sipush 3253, 3) := dk_17 12 181 (dk_at dksX5_init_0 14 rfl rfl)
theorem dX5_init_17 : decode cX5_init 17 = .ok (.newarray .int, 2) := dk_188_10 (dk_at dksX5_init_0 17 rfl rfl)
theorem dX5_init_19 : decode cX5_init 19 = .ok (.putfield 15, 3) := dk_181 0 15 (dk_at dksX5_init_0 19 rfl rfl)
theorem dX5_init_22 : decode cX5_init 22 = .ok (.aload_n 0, 1) := dk_42 (dk_at dksX5_init_0 22 rfl rfl)
theorem dX5_init_23 : decode cX5_init 23 = .ok (.sipush 3253, 3) := dk_17 12 181 (dk_at dksX5_init_1 0 rfl rfl)
theorem dX5_init_26 : decode cX5_init 26 = .ok (.newarray .int, 2) := dk_188_10 (dk_at dksX5_init_1 3 rfl rfl)
theorem dX5_init_28 : decode cX5_init 28 = .ok (.putfield 18, 3) := dk_181 0 18 (dk_at dksX5_init_1 5 rfl rfl)
theorem dX5_init_31 : decode cX5_init 31 = .ok (.aload_n 0, 1) := dk_42 (dk_at dksX5_init_1 8 rfl rfl)
theorem dX5_init_32 : decode cX5_init 32 = .ok (.sipush 400, 3) := dk_17 1 144 (dk_at dksX5_init_1 9 rfl rfl)
theorem dX5_init_35 : decode cX5_init 35 = .ok (.newarray .int, 2) := dk_188_10 (dk_at dksX5_init_1 12 rfl rfl)
theorem dX5_init_37 : decode cX5_init 37 = .ok (.putfield 21, 3) := dk_181 0 21 (dk_at dksX5_init_1 14 rfl rfl)
theorem dX5_init_40 : decode cX5_init 40 = .ok (.aload_n 0, 1) := dk_42 (dk_at dksX5_init_1 17 rfl rfl)
theorem dX5_init_41 : decode cX5_init 41 = .ok (.bipush 100, 2) := dk_16 100 (dk_at dksX5_init_1 18 rfl rfl)
theorem dX5_init_43 : decode cX5_init 43 = .ok (.newarray .int, 2) := dk_188_10 (dk_at dksX5_init_1 20 rfl rfl)
theorem dX5_init_45 : decode cX5_init 45 = .ok (.putfield 24, 3) := dk_181 0 24 (dk_at dksX5_init_2 0 rfl rfl)
theorem dX5_init_48 : decode cX5_init 48 = .ok (.aload_n 0, 1) := dk_42 (dk_at dksX5_init_2 3 rfl rfl)
theorem dX5_init_49 : decode cX5_init 49 = .ok (.bipush 120, 2) := dk_16 120 (dk_at dksX5_init_2 4 rfl rfl)
theorem dX5_init_51 : decode cX5_init 51 = .ok (.newarray .int, 2) := dk_188_10 (dk_at dksX5_init_2 6 rfl rfl)
theorem dX5_init_53 : decode cX5_init 53 = .ok (.putfield 27, 3) := dk_181 0 27 (dk_at dksX5_init_2 8 rfl rfl)
theorem dX5_init_56 : decode cX5_init 56 = .ok (.aload_n 0, 1) := dk_42 (dk_at dksX5_init_2 11 rfl rfl)
theorem dX5_init_57 : decode cX5_init 57 = .ok (.bipush 120, 2) := dk_16 120 (dk_at dksX5_init_2 12 rfl rfl)
theorem dX5_init_59 : decode cX5_init 59 = .ok (.newarray .int, 2) := dk_188_10 (dk_at dksX5_init_2 14 rfl rfl)
theorem dX5_init_61 : decode cX5_init 61 = .ok (.putfield 30, 3) := dk_181 0 30 (dk_at dksX5_init_2 16 rfl rfl)
theorem dX5_init_64 : decode cX5_init 64 = .ok (.aload_n 0, 1) := dk_42 (dk_at dksX5_init_2 19 rfl rfl)
theorem dX5_init_65 : decode cX5_init 65 = .ok (.bipush 120, 2) := dk_16 120 (dk_at dksX5_init_2 20 rfl rfl)
theorem dX5_init_67 : decode cX5_init 67 = .ok (.newarray .int, 2) := dk_188_10 (dk_at dksX5_init_2 22 rfl rfl)
theorem dX5_init_69 : decode cX5_init 69 = .ok (.putfield 33, 3) := dk_181 0 33 (dk_at dksX5_init_3 0 rfl rfl)
theorem dX5_init_72 : decode cX5_init 72 = .ok (.aload_n 0, 1) := dk_42 (dk_at dksX5_init_3 3 rfl rfl)
theorem dX5_init_73 : decode cX5_init 73 = .ok (.bipush 6, 2) := dk_16 6 (dk_at dksX5_init_3 4 rfl rfl)
theorem dX5_init_75 : decode cX5_init 75 = .ok (.newarray .int, 2) := dk_188_10 (dk_at dksX5_init_3 6 rfl rfl)
theorem dX5_init_77 : decode cX5_init 77 = .ok (.putfield 36, 3) := dk_181 0 36 (dk_at dksX5_init_3 8 rfl rfl)
theorem dX5_init_80 : decode cX5_init 80 = .ok (.aload_n 0, 1) := dk_42 (dk_at dksX5_init_3 11 rfl rfl)
theorem dX5_init_81 : decode cX5_init 81 = .ok (.bipush 6, 2) := dk_16 6 (dk_at dksX5_init_3 12 rfl rfl)
theorem dX5_init_83 : decode cX5_init 83 = .ok (.newarray .int, 2) := dk_188_10 (dk_at dksX5_init_3 14 rfl rfl)
theorem dX5_init_85 : decode cX5_init 85 = .ok (.putfield 39, 3) := dk_181 0 39 (dk_at dksX5_init_3 16 rfl rfl)
theorem dX5_init_88 : decode cX5_init 88 = .ok (.aload_n 0, 1) := dk_42 (dk_at dksX5_init_3 19 rfl rfl)
theorem dX5_init_89 : decode cX5_init 89 = .ok (.bipush 6, 2) := dk_16 6 (dk_at dksX5_init_3 20 rfl rfl)
theorem dX5_init_91 : decode cX5_init 91 = .ok (.newarray .int, 2) := dk_188_10 (dk_at dksX5_init_3 22 rfl rfl)
theorem dX5_init_93 : decode cX5_init 93 = .ok (.putfield 42, 3) := dk_181 0 42 (dk_at dksX5_init_4 0 rfl rfl)
theorem dX5_init_96 : decode cX5_init 96 = .ok (.aload_n 0, 1) := dk_42 (dk_at dksX5_init_4 3 rfl rfl)
theorem dX5_init_97 : decode cX5_init 97 = .ok (.bipush 6, 2) := dk_16 6 (dk_at dksX5_init_4 4 rfl rfl)
theorem dX5_init_99 : decode cX5_init 99 = .ok (.bipush 60, 2) := dk_16 60 (dk_at dksX5_init_4 6 rfl rfl)
theorem dX5_init_101 : decode cX5_init 101 = .ok (.multianewarray 45 2, 4) := by decide +kernel
theorem dX5_init_105 : decode cX5_init 105 = .ok (.putfield 47, 3) := dk_181 0 47 (dk_at dksX5_init_4 12 rfl rfl)
theorem dX5_init_108 : decode cX5_init 108 = .ok (.aload_n 0, 1) := dk_42 (dk_at dksX5_init_4 15 rfl rfl)
theorem dX5_init_109 : decode cX5_init 109 = .ok (.bipush 60, 2) := dk_16 60 (dk_at dksX5_init_4 16 rfl rfl)
theorem dX5_init_111 : decode cX5_init 111 = .ok (.newarray .long, 2) := dk_188_11 (dk_at dksX5_init_4 18 rfl rfl)
theorem dX5_init_113 : decode cX5_init 113 = .ok (.putfield 50, 3) := dk_181 0 50 (dk_at dksX5_init_4 20 rfl rfl)
theorem dX5_init_116 : decode cX5_init 116 = .ok (.aload_n 0, 1) := dk_42 (dk_at dksX5_init_4 23 rfl rfl)
theorem dX5_init_117 : decode cX5_init 117 = .ok (.getfield 11, 3) := dk_180 0 11 (dk_at dksX5_init_5 0 rfl rfl)
theorem dX5_init_120 : decode cX5_init 120 = .ok (.sipush 3200, 3) := dk_17 12 128 (dk_at dksX5_init_5 3 rfl rfl)
theorem dX5_init_123 : decode cX5_init 123 = .ok (.bipush 20, 2) := dk_16 20 (dk_at dksX5_init_5 6 rfl rfl)
theorem dX5_init_125 : decode cX5_init 125 = .ok (.iastore, 1) := dk_79 (dk_at dksX5_init_5 8 rfl rfl)
theorem dX5_init_126 : decode cX5_init 126 = .ok (.aload_n 0, 1) := dk_42 (dk_at dksX5_init_5 9 rfl rfl)
theorem dX5_init_127 : decode cX5_init 127 = .ok (.getfield 11, 3) := dk_180 0 11 (dk_at dksX5_init_5 10 rfl rfl)
theorem dX5_init_130 : decode cX5_init 130 = .ok (.sipush 3201, 3) := dk_17 12 129 (dk_at dksX5_init_5 13 rfl rfl)
theorem dX5_init_133 : decode cX5_init 133 = .ok (.bipush 10, 2) := dk_16 10 (dk_at dksX5_init_5 16 rfl rfl)
theorem dX5_init_135 : decode cX5_init 135 = .ok (.iastore, 1) := dk_79 (dk_at dksX5_init_5 18 rfl rfl)
theorem dX5_init_136 : decode cX5_init 136 = .ok (.aload_n 0, 1) := dk_42 (dk_at dksX5_init_5 19 rfl rfl)
theorem dX5_init_137 : decode cX5_init 137 = .ok (.getfield 11, 3) := dk_180 0 11 (dk_at dksX5_init_5 20 rfl rfl)
theorem dX5_init_140 : decode cX5_init 140 = .ok (.sipush 3202, 3) := dk_17 12 130 (dk_at dksX5_init_6 0 rfl rfl)
theorem dX5_init_143 : decode cX5_init 143 = .ok (.iconst 2, 1) := dk_5 (dk_at dksX5_init_6 3 rfl rfl)
theorem dX5_init_144 : decode cX5_init 144 = .ok (.iastore, 1) := dk_79 (dk_at dksX5_init_6 4 rfl rfl)
theorem dX5_init_145 : decode cX5_init 145 = .ok (.aload_n 0, 1) := dk_42 (dk_at dksX5_init_6 5 rfl rfl)
theorem dX5_init_146 : decode cX5_init 146 = .ok (.getfield 11, 3) := dk_180 0 11 (dk_at dksX5_init_6 6 rfl rfl)
theorem dX5_init_149 : decode cX5_init 149 = .ok (.sipush 3203, 3) := dk_17 12 131 (dk_at dksX5_init_6 9 rfl rfl)
theorem dX5_init_152 : decode cX5_init 152 = .ok (.iconst 1, 1) := dk_4 (dk_at dksX5_init_6 12 rfl rfl)
theorem dX5_init_153 : decode cX5_init 153 = .ok (.iastore, 1) := dk_79 (dk_at dksX5_init_6 13 rfl rfl)
theorem dX5_init_154 : decode cX5_init 154 = .ok (.iconst 0, 1) := dk_3 (dk_at dksX5_init_6 14 rfl rfl)
theorem dX5_init_155 : decode cX5_init 155 = .ok (.istore_n 1, 1) := dk_60 (dk_at dksX5_init_6 15 rfl rfl)
theorem dX5_init_156 : decode cX5_init 156 = .ok (.iload_n 1, 1) := dk_27 (dk_at dksX5_init_6 16 rfl rfl)
theorem dX5_init_157 : decode cX5_init 157 = .ok (.bipush 6, 2) := dk_16 6 (dk_at dksX5_init_6 17 rfl rfl)
theorem dX5_init_159 : decode cX5_init 159 = .ok (.if_icmp .ge 16, 3) := dk_162 0 16 (dk_at dksX5_init_6 19 rfl rfl)
theorem dX5_init_162 : decode cX5_init 162 = .ok (.aload_n 0, 1) := dk_42 (dk_at dksX5_init_6 22 rfl rfl)
theorem dX5_init_163 : decode cX5_init 163 = .ok (.getfield 39, 3) := dk_180 0 39 (dk_at dksX5_init_7 0 rfl rfl)
theorem dX5_init_166 : decode cX5_init 166 = .ok (.iload_n 1, 1) := dk_27 (dk_at dksX5_init_7 3 rfl rfl)
theorem dX5_init_167 : decode cX5_init 167 = .ok (.iconst (-1), 1) := dk_2 (dk_at dksX5_init_7 4 rfl rfl)
theorem dX5_init_168 : decode cX5_init 168 = .ok (.iastore, 1) := dk_79 (dk_at dksX5_init_7 5 rfl rfl)
theorem dX5_init_169 : decode cX5_init 169 = .ok (.iinc 1 1, 3) := dk_132 1 1 (dk_at dksX5_init_7 6 rfl rfl)
theorem dX5_init_172 : decode cX5_init 172 = .ok (.goto (-16), 3) := dk_167 255 240 (dk_at dksX5_init_7 9 rfl rfl)
theorem dX5_init_175 : decode cX5_init 175 = .ok (.return_, 1) := dk_177 (dk_at dksX5_init_7 12 rfl rfl)
abbrev cX5_set : ByteArray := prog_13_method_18_code
def yX5_set : MethodName := ⟨RX5, "set", "(II)I"⟩
def dkwX5_set_5 : List UInt8 := [182, 0, 86, 21, 4, 172]
abbrev dktX5_set_5 : List UInt8 := dkwX5_set_5 ++ []
def dkwX5_set_4 : List UInt8 := [182, 0, 93, 167, 0, 23, 42, 180, 0, 11, 17, 12, 128, 27, 96, 28, 79, 27, 4, 160, 0, 7, 42]
abbrev dktX5_set_4 : List UInt8 := dkwX5_set_4 ++ dktX5_set_5
def dkwX5_set_3 : List UInt8 := [154, 0, 6, 16, 254, 172, 42, 180, 0, 11, 17, 12, 128, 27, 96, 46, 54, 4, 27, 154, 0, 11, 42, 28]
abbrev dktX5_set_3 : List UInt8 := dkwX5_set_3 ++ dktX5_set_4
def dkwX5_set_2 : List UInt8 := [27, 5, 160, 0, 13, 28, 4, 16, 9, 184, 0, 54, 167, 0, 10, 28, 3, 16, 9, 184, 0, 54, 62, 29]
abbrev dktX5_set_2 : List UInt8 := dkwX5_set_2 ++ dktX5_set_3
def dkwX5_set_1 : List UInt8 := [167, 0, 46, 27, 4, 160, 0, 19, 28, 3, 42, 180, 0, 11, 17, 12, 128, 46, 184, 0, 54, 167, 0, 25]
abbrev dktX5_set_1 : List UInt8 := dkwX5_set_1 ++ dktX5_set_2
def dkwX5_set_0 : List UInt8 := [27, 3, 6, 184, 0, 54, 154, 0, 5, 2, 172, 27, 154, 0, 13, 28, 4, 16, 99, 184, 0, 54]
abbrev dktX5_set_0 : List UInt8 := dkwX5_set_0 ++ dktX5_set_1
theorem dksX5_set_0 : cX5_set.data.toList.drop 0 = dktX5_set_0 := by decide +kernel
theorem dksX5_set_1 : cX5_set.data.toList.drop 22 = dktX5_set_1 := dk_seg dksX5_set_0 22 rfl rfl
theorem dksX5_set_2 : cX5_set.data.toList.drop 46 = dktX5_set_2 := dk_seg dksX5_set_1 24 rfl rfl
theorem dksX5_set_3 : cX5_set.data.toList.drop 70 = dktX5_set_3 := dk_seg dksX5_set_2 24 rfl rfl
theorem dksX5_set_4 : cX5_set.data.toList.drop 94 = dktX5_set_4 := dk_seg dksX5_set_3 24 rfl rfl
theorem dksX5_set_5 : cX5_set.data.toList.drop 117 = dktX5_set_5 := dk_seg dksX5_set_4 23 rfl rfl
theorem dX5_set_0 : decode cX5_set 0 = .ok (.iload_n 1, 1) := dk_27 (dk_at dksX5_set_0 0 rfl rfl)
theorem dX5_set_1 : decode cX5_set 1 = .ok (.iconst 0, 1) := dk_3 (dk_at dksX5_set_0 1 rfl rfl)
theorem dX5_set_2 : decode cX5_set 2 = .ok (.iconst 3, 1) := dk_6 (dk_at dksX5_set_0 2 rfl rfl)
theorem dX5_set_3 : decode cX5_set 3 = .ok (.invokestatic 54, 3) := dk_184 0 54 (dk_at dksX5_set_0 3 rfl rfl)
theorem dX5_set_6 : decode cX5_set 6 = .ok (.ifCond .ne 5, 3) := dk_154 0 5 (dk_at dksX5_set_0 6 rfl rfl)
theorem dX5_set_9 : decode cX5_set 9 = .ok (.iconst (-1), 1) := dk_2 (dk_at dksX5_set_0 9 rfl rfl)
theorem dX5_set_10 : decode cX5_set 10 = .ok (.ireturn, 1) := dk_172 (dk_at dksX5_set_0 10 rfl rfl)
theorem dX5_set_11 : decode cX5_set 11 = .ok (.iload_n 1, 1) := dk_27 (dk_at dksX5_set_0 11 rfl rfl)
theorem dX5_set_12 : decode cX5_set 12 = .ok (.ifCond .ne 13, 3) := dk_154 0 13 (dk_at dksX5_set_0 12 rfl rfl)
theorem dX5_set_15 : decode cX5_set 15 = .ok (.iload_n 2, 1) := dk_28 (dk_at dksX5_set_0 15 rfl rfl)
theorem dX5_set_16 : decode cX5_set 16 = .ok (.iconst 1, 1) := dk_4 (dk_at dksX5_set_0 16 rfl rfl)
theorem dX5_set_17 : decode cX5_set 17 = .ok (.bipush 99, 2) := dk_16 99 (dk_at dksX5_set_0 17 rfl rfl)
theorem dX5_set_19 : decode cX5_set 19 = .ok (.invokestatic 54, 3) := dk_184 0 54 (dk_at dksX5_set_0 19 rfl rfl)
theorem dX5_set_22 : decode cX5_set 22 = .ok (.goto 46, 3) := dk_167 0 46 (dk_at dksX5_set_1 0 rfl rfl)
theorem dX5_set_25 : decode cX5_set 25 = .ok (.iload_n 1, 1) := dk_27 (dk_at dksX5_set_1 3 rfl rfl)
theorem dX5_set_26 : decode cX5_set 26 = .ok (.iconst 1, 1) := dk_4 (dk_at dksX5_set_1 4 rfl rfl)
theorem dX5_set_27 : decode cX5_set 27 = .ok (.if_icmp .ne 19, 3) := dk_160 0 19 (dk_at dksX5_set_1 5 rfl rfl)
theorem dX5_set_30 : decode cX5_set 30 = .ok (.iload_n 2, 1) := dk_28 (dk_at dksX5_set_1 8 rfl rfl)
theorem dX5_set_31 : decode cX5_set 31 = .ok (.iconst 0, 1) := dk_3 (dk_at dksX5_set_1 9 rfl rfl)
theorem dX5_set_32 : decode cX5_set 32 = .ok (.aload_n 0, 1) := dk_42 (dk_at dksX5_set_1 10 rfl rfl)
theorem dX5_set_33 : decode cX5_set 33 = .ok (.getfield 11, 3) := dk_180 0 11 (dk_at dksX5_set_1 11 rfl rfl)
theorem dX5_set_36 : decode cX5_set 36 = .ok (.sipush 3200, 3) := dk_17 12 128 (dk_at dksX5_set_1 14 rfl rfl)
theorem dX5_set_39 : decode cX5_set 39 = .ok (.iaload, 1) := dk_46 (dk_at dksX5_set_1 17 rfl rfl)
theorem dX5_set_40 : decode cX5_set 40 = .ok (.invokestatic 54, 3) := dk_184 0 54 (dk_at dksX5_set_1 18 rfl rfl)
theorem dX5_set_43 : decode cX5_set 43 = .ok (.goto 25, 3) := dk_167 0 25 (dk_at dksX5_set_1 21 rfl rfl)
theorem dX5_set_46 : decode cX5_set 46 = .ok (.iload_n 1, 1) := dk_27 (dk_at dksX5_set_2 0 rfl rfl)
theorem dX5_set_47 : decode cX5_set 47 = .ok (.iconst 2, 1) := dk_5 (dk_at dksX5_set_2 1 rfl rfl)
theorem dX5_set_48 : decode cX5_set 48 = .ok (.if_icmp .ne 13, 3) := dk_160 0 13 (dk_at dksX5_set_2 2 rfl rfl)
theorem dX5_set_51 : decode cX5_set 51 = .ok (.iload_n 2, 1) := dk_28 (dk_at dksX5_set_2 5 rfl rfl)
theorem dX5_set_52 : decode cX5_set 52 = .ok (.iconst 1, 1) := dk_4 (dk_at dksX5_set_2 6 rfl rfl)
theorem dX5_set_53 : decode cX5_set 53 = .ok (.bipush 9, 2) := dk_16 9 (dk_at dksX5_set_2 7 rfl rfl)
theorem dX5_set_55 : decode cX5_set 55 = .ok (.invokestatic 54, 3) := dk_184 0 54 (dk_at dksX5_set_2 9 rfl rfl)
theorem dX5_set_58 : decode cX5_set 58 = .ok (.goto 10, 3) := dk_167 0 10 (dk_at dksX5_set_2 12 rfl rfl)
theorem dX5_set_61 : decode cX5_set 61 = .ok (.iload_n 2, 1) := dk_28 (dk_at dksX5_set_2 15 rfl rfl)
theorem dX5_set_62 : decode cX5_set 62 = .ok (.iconst 0, 1) := dk_3 (dk_at dksX5_set_2 16 rfl rfl)
theorem dX5_set_63 : decode cX5_set 63 = .ok (.bipush 9, 2) := dk_16 9 (dk_at dksX5_set_2 17 rfl rfl)
theorem dX5_set_65 : decode cX5_set 65 = .ok (.invokestatic 54, 3) := dk_184 0 54 (dk_at dksX5_set_2 19 rfl rfl)
theorem dX5_set_68 : decode cX5_set 68 = .ok (.istore_n 3, 1) := dk_62 (dk_at dksX5_set_2 22 rfl rfl)
theorem dX5_set_69 : decode cX5_set 69 = .ok (.iload_n 3, 1) := dk_29 (dk_at dksX5_set_2 23 rfl rfl)
theorem dX5_set_70 : decode cX5_set 70 = .ok (.ifCond .ne 6, 3) := dk_154 0 6 (dk_at dksX5_set_3 0 rfl rfl)
theorem dX5_set_73 : decode cX5_set 73 = .ok (.bipush (-2), 2) := dk_16 254 (dk_at dksX5_set_3 3 rfl rfl)
theorem dX5_set_75 : decode cX5_set 75 = .ok (.ireturn, 1) := dk_172 (dk_at dksX5_set_3 5 rfl rfl)
theorem dX5_set_76 : decode cX5_set 76 = .ok (.aload_n 0, 1) := dk_42 (dk_at dksX5_set_3 6 rfl rfl)
theorem dX5_set_77 : decode cX5_set 77 = .ok (.getfield 11, 3) := dk_180 0 11 (dk_at dksX5_set_3 7 rfl rfl)
theorem dX5_set_80 : decode cX5_set 80 = .ok (.sipush 3200, 3) := dk_17 12 128 (dk_at dksX5_set_3 10 rfl rfl)
theorem dX5_set_83 : decode cX5_set 83 = .ok (.iload_n 1, 1) := dk_27 (dk_at dksX5_set_3 13 rfl rfl)
theorem dX5_set_84 : decode cX5_set 84 = .ok (.iadd, 1) := dk_96 (dk_at dksX5_set_3 14 rfl rfl)
theorem dX5_set_85 : decode cX5_set 85 = .ok (.iaload, 1) := dk_46 (dk_at dksX5_set_3 15 rfl rfl)
theorem dX5_set_86 : decode cX5_set 86 = .ok (.istore 4, 2) := dk_54 4 (dk_at dksX5_set_3 16 rfl rfl)
theorem dX5_set_88 : decode cX5_set 88 = .ok (.iload_n 1, 1) := dk_27 (dk_at dksX5_set_3 18 rfl rfl)
theorem dX5_set_89 : decode cX5_set 89 = .ok (.ifCond .ne 11, 3) := dk_154 0 11 (dk_at dksX5_set_3 19 rfl rfl)
theorem dX5_set_92 : decode cX5_set 92 = .ok (.aload_n 0, 1) := dk_42 (dk_at dksX5_set_3 22 rfl rfl)
theorem dX5_set_93 : decode cX5_set 93 = .ok (.iload_n 2, 1) := dk_28 (dk_at dksX5_set_3 23 rfl rfl)
theorem dX5_set_94 : decode cX5_set 94 = .ok (.invokevirtual 93, 3) := dk_182 0 93 (dk_at dksX5_set_4 0 rfl rfl)
theorem dX5_set_97 : decode cX5_set 97 = .ok (.goto 23, 3) := dk_167 0 23 (dk_at dksX5_set_4 3 rfl rfl)
theorem dX5_set_100 : decode cX5_set 100 = .ok (.aload_n 0, 1) := dk_42 (dk_at dksX5_set_4 6 rfl rfl)
theorem dX5_set_101 : decode cX5_set 101 = .ok (.getfield 11, 3) := dk_180 0 11 (dk_at dksX5_set_4 7 rfl rfl)
theorem dX5_set_104 : decode cX5_set 104 = .ok (.sipush 3200, 3) := dk_17 12 128 (dk_at dksX5_set_4 10 rfl rfl)
theorem dX5_set_107 : decode cX5_set 107 = .ok (.iload_n 1, 1) := dk_27 (dk_at dksX5_set_4 13 rfl rfl)
theorem dX5_set_108 : decode cX5_set 108 = .ok (.iadd, 1) := dk_96 (dk_at dksX5_set_4 14 rfl rfl)
theorem dX5_set_109 : decode cX5_set 109 = .ok (.iload_n 2, 1) := dk_28 (dk_at dksX5_set_4 15 rfl rfl)
theorem dX5_set_110 : decode cX5_set 110 = .ok (.iastore, 1) := dk_79 (dk_at dksX5_set_4 16 rfl rfl)
theorem dX5_set_111 : decode cX5_set 111 = .ok (.iload_n 1, 1) := dk_27 (dk_at dksX5_set_4 17 rfl rfl)
theorem dX5_set_112 : decode cX5_set 112 = .ok (.iconst 1, 1) := dk_4 (dk_at dksX5_set_4 18 rfl rfl)
theorem dX5_set_113 : decode cX5_set 113 = .ok (.if_icmp .ne 7, 3) := dk_160 0 7 (dk_at dksX5_set_4 19 rfl rfl)
theorem dX5_set_116 : decode cX5_set 116 = .ok (.aload_n 0, 1) := dk_42 (dk_at dksX5_set_4 22 rfl rfl)
theorem dX5_set_117 : decode cX5_set 117 = .ok (.invokevirtual 86, 3) := dk_182 0 86 (dk_at dksX5_set_5 0 rfl rfl)
theorem dX5_set_120 : decode cX5_set 120 = .ok (.iload 4, 2) := dk_21 4 (dk_at dksX5_set_5 3 rfl rfl)
theorem dX5_set_122 : decode cX5_set 122 = .ok (.ireturn, 1) := dk_172 (dk_at dksX5_set_5 5 rfl rfl)
abbrev cX5_in : ByteArray := prog_13_method_2_code
def yX5_in : MethodName := ⟨RX5, "in", "(III)Z"⟩
def dkwX5_in_0 : List UInt8 := [26, 27, 161, 0, 12, 26, 28, 163, 0, 7, 4, 167, 0, 4, 3, 172]
abbrev dktX5_in_0 : List UInt8 := dkwX5_in_0 ++ []
theorem dksX5_in_0 : cX5_in.data.toList.drop 0 = dktX5_in_0 := by decide +kernel
theorem dX5_in_0 : decode cX5_in 0 = .ok (.iload_n 0, 1) := dk_26 (dk_at dksX5_in_0 0 rfl rfl)
theorem dX5_in_1 : decode cX5_in 1 = .ok (.iload_n 1, 1) := dk_27 (dk_at dksX5_in_0 1 rfl rfl)
theorem dX5_in_2 : decode cX5_in 2 = .ok (.if_icmp .lt 12, 3) := dk_161 0 12 (dk_at dksX5_in_0 2 rfl rfl)
theorem dX5_in_5 : decode cX5_in 5 = .ok (.iload_n 0, 1) := dk_26 (dk_at dksX5_in_0 5 rfl rfl)
theorem dX5_in_6 : decode cX5_in 6 = .ok (.iload_n 2, 1) := dk_28 (dk_at dksX5_in_0 6 rfl rfl)
theorem dX5_in_7 : decode cX5_in 7 = .ok (.if_icmp .gt 7, 3) := dk_163 0 7 (dk_at dksX5_in_0 7 rfl rfl)
theorem dX5_in_10 : decode cX5_in 10 = .ok (.iconst 1, 1) := dk_4 (dk_at dksX5_in_0 10 rfl rfl)
theorem dX5_in_11 : decode cX5_in 11 = .ok (.goto 4, 3) := dk_167 0 4 (dk_at dksX5_in_0 11 rfl rfl)
theorem dX5_in_14 : decode cX5_in 14 = .ok (.iconst 0, 1) := dk_3 (dk_at dksX5_in_0 14 rfl rfl)
theorem dX5_in_15 : decode cX5_in 15 = .ok (.ireturn, 1) := dk_172 (dk_at dksX5_in_0 15 rfl rfl)
abbrev cX5_capacity : ByteArray := prog_13_method_17_code
def yX5_capacity : MethodName := ⟨RX5, "capacity", "(I)V"⟩
def dkwX5_capacity_1 : List UInt8 := [27, 164, 0, 7, 27, 167, 0, 11, 42, 180, 0, 11, 17, 12, 129, 46, 79, 42, 182, 0, 86, 177]
abbrev dktX5_capacity_1 : List UInt8 := dkwX5_capacity_1 ++ []
def dkwX5_capacity_0 : List UInt8 := [42, 180, 0, 11, 17, 12, 128, 27, 79, 42, 180, 0, 11, 17, 12, 129, 42, 180, 0, 11, 17, 12, 129, 46]
abbrev dktX5_capacity_0 : List UInt8 := dkwX5_capacity_0 ++ dktX5_capacity_1
theorem dksX5_capacity_0 : cX5_capacity.data.toList.drop 0 = dktX5_capacity_0 := by decide +kernel
theorem dksX5_capacity_1 : cX5_capacity.data.toList.drop 24 = dktX5_capacity_1 := dk_seg dksX5_capacity_0 24 rfl rfl
theorem dX5_capacity_0 : decode cX5_capacity 0 = .ok (.aload_n 0, 1) := dk_42 (dk_at dksX5_capacity_0 0 rfl rfl)
theorem dX5_capacity_1 : decode cX5_capacity 1 = .ok (.getfield 11, 3) := dk_180 0 11 (dk_at dksX5_capacity_0 1 rfl rfl)
theorem dX5_capacity_4 : decode cX5_capacity 4 = .ok (.sipush 3200, 3) := dk_17 12 128 (dk_at dksX5_capacity_0 4 rfl rfl)
theorem dX5_capacity_7 : decode cX5_capacity 7 = .ok (.iload_n 1, 1) := dk_27 (dk_at dksX5_capacity_0 7 rfl rfl)
theorem dX5_capacity_8 : decode cX5_capacity 8 = .ok (.iastore, 1) := dk_79 (dk_at dksX5_capacity_0 8 rfl rfl)
theorem dX5_capacity_9 : decode cX5_capacity 9 = .ok (.aload_n 0, 1) := dk_42 (dk_at dksX5_capacity_0 9 rfl rfl)
theorem dX5_capacity_10 : decode cX5_capacity 10 = .ok (.getfield 11, 3) := dk_180 0 11 (dk_at dksX5_capacity_0 10 rfl rfl)
theorem dX5_capacity_13 : decode cX5_capacity 13 = .ok (.sipush 3201, 3) := dk_17 12 129 (dk_at dksX5_capacity_0 13 rfl rfl)
theorem dX5_capacity_16 : decode cX5_capacity 16 = .ok (.aload_n 0, 1) := dk_42 (dk_at dksX5_capacity_0 16 rfl rfl)
theorem dX5_capacity_17 : decode cX5_capacity 17 = .ok (.getfield 11, 3) := dk_180 0 11 (dk_at dksX5_capacity_0 17 rfl rfl)
theorem dX5_capacity_20 : decode cX5_capacity 20 = .ok (.sipush 3201, 3) := dk_17 12 129 (dk_at dksX5_capacity_0 20 rfl rfl)
theorem dX5_capacity_23 : decode cX5_capacity 23 = .ok (.iaload, 1) := dk_46 (dk_at dksX5_capacity_0 23 rfl rfl)
theorem dX5_capacity_24 : decode cX5_capacity 24 = .ok (.iload_n 1, 1) := dk_27 (dk_at dksX5_capacity_1 0 rfl rfl)
theorem dX5_capacity_25 : decode cX5_capacity 25 = .ok (.if_icmp .le 7, 3) := dk_164 0 7 (dk_at dksX5_capacity_1 1 rfl rfl)
theorem dX5_capacity_28 : decode cX5_capacity 28 = .ok (.iload_n 1, 1) := dk_27 (dk_at dksX5_capacity_1 4 rfl rfl)
theorem dX5_capacity_29 : decode cX5_capacity 29 = .ok (.goto 11, 3) := dk_167 0 11 (dk_at dksX5_capacity_1 5 rfl rfl)
theorem dX5_capacity_32 : decode cX5_capacity 32 = .ok (.aload_n 0, 1) := dk_42 (dk_at dksX5_capacity_1 8 rfl rfl)
theorem dX5_capacity_33 : decode cX5_capacity 33 = .ok (.getfield 11, 3) := dk_180 0 11 (dk_at dksX5_capacity_1 9 rfl rfl)
theorem dX5_capacity_36 : decode cX5_capacity 36 = .ok (.sipush 3201, 3) := dk_17 12 129 (dk_at dksX5_capacity_1 12 rfl rfl)
theorem dX5_capacity_39 : decode cX5_capacity 39 = .ok (.iaload, 1) := dk_46 (dk_at dksX5_capacity_1 15 rfl rfl)
theorem dX5_capacity_40 : decode cX5_capacity 40 = .ok (.iastore, 1) := dk_79 (dk_at dksX5_capacity_1 16 rfl rfl)
theorem dX5_capacity_41 : decode cX5_capacity 41 = .ok (.aload_n 0, 1) := dk_42 (dk_at dksX5_capacity_1 17 rfl rfl)
theorem dX5_capacity_42 : decode cX5_capacity 42 = .ok (.invokevirtual 86, 3) := dk_182 0 86 (dk_at dksX5_capacity_1 18 rfl rfl)
theorem dX5_capacity_45 : decode cX5_capacity 45 = .ok (.return_, 1) := dk_177 (dk_at dksX5_capacity_1 21 rfl rfl)
abbrev cX5_trim : ByteArray := prog_13_method_12_code
def yX5_trim : MethodName := ⟨RX5, "trim", "()V"⟩
def dkwX5_trim_2 : List UInt8 := [167, 255, 224, 132, 1, 1, 167, 255, 213, 177]
abbrev dktX5_trim_2 : List UInt8 := dkwX5_trim_2 ++ []
def dkwX5_trim_1 : List UInt8 := [46, 42, 180, 0, 11, 17, 12, 128, 46, 164, 0, 17, 42, 42, 27, 3, 182, 0, 66, 3, 182, 0, 58]
abbrev dktX5_trim_1 : List UInt8 := dkwX5_trim_1 ++ dktX5_trim_2
def dkwX5_trim_0 : List UInt8 := [42, 182, 0, 73, 42, 182, 0, 76, 6, 60, 27, 7, 163, 0, 44, 42, 180, 0, 11, 17, 12, 132, 27, 96]
abbrev dktX5_trim_0 : List UInt8 := dkwX5_trim_0 ++ dktX5_trim_1
theorem dksX5_trim_0 : cX5_trim.data.toList.drop 0 = dktX5_trim_0 := by decide +kernel
theorem dksX5_trim_1 : cX5_trim.data.toList.drop 24 = dktX5_trim_1 := dk_seg dksX5_trim_0 24 rfl rfl
theorem dksX5_trim_2 : cX5_trim.data.toList.drop 47 = dktX5_trim_2 := dk_seg dksX5_trim_1 23 rfl rfl
theorem dX5_trim_0 : decode cX5_trim 0 = .ok (.aload_n 0, 1) := dk_42 (dk_at dksX5_trim_0 0 rfl rfl)
theorem dX5_trim_1 : decode cX5_trim 1 = .ok (.invokevirtual 73, 3) := dk_182 0 73 (dk_at dksX5_trim_0 1 rfl rfl)
theorem dX5_trim_4 : decode cX5_trim 4 = .ok (.aload_n 0, 1) := dk_42 (dk_at dksX5_trim_0 4 rfl rfl)
theorem dX5_trim_5 : decode cX5_trim 5 = .ok (.invokevirtual 76, 3) := dk_182 0 76 (dk_at dksX5_trim_0 5 rfl rfl)
theorem dX5_trim_8 : decode cX5_trim 8 = .ok (.iconst 3, 1) := dk_6 (dk_at dksX5_trim_0 8 rfl rfl)
theorem dX5_trim_9 : decode cX5_trim 9 = .ok (.istore_n 1, 1) := dk_60 (dk_at dksX5_trim_0 9 rfl rfl)
theorem dX5_trim_10 : decode cX5_trim 10 = .ok (.iload_n 1, 1) := dk_27 (dk_at dksX5_trim_0 10 rfl rfl)
theorem dX5_trim_11 : decode cX5_trim 11 = .ok (.iconst 4, 1) := dk_7 (dk_at dksX5_trim_0 11 rfl rfl)
theorem dX5_trim_12 : decode cX5_trim 12 = .ok (.if_icmp .gt 44, 3) := dk_163 0 44 (dk_at dksX5_trim_0 12 rfl rfl)
theorem dX5_trim_15 : decode cX5_trim 15 = .ok (.aload_n 0, 1) := dk_42 (dk_at dksX5_trim_0 15 rfl rfl)
theorem dX5_trim_16 : decode cX5_trim 16 = .ok (.getfield 11, 3) := dk_180 0 11 (dk_at dksX5_trim_0 16 rfl rfl)
theorem dX5_trim_19 : decode cX5_trim 19 = .ok (.sipush 3204, 3) := dk_17 12 132 (dk_at dksX5_trim_0 19 rfl rfl)
theorem dX5_trim_22 : decode cX5_trim 22 = .ok (.iload_n 1, 1) := dk_27 (dk_at dksX5_trim_0 22 rfl rfl)
theorem dX5_trim_23 : decode cX5_trim 23 = .ok (.iadd, 1) := dk_96 (dk_at dksX5_trim_0 23 rfl rfl)
theorem dX5_trim_24 : decode cX5_trim 24 = .ok (.iaload, 1) := dk_46 (dk_at dksX5_trim_1 0 rfl rfl)
theorem dX5_trim_25 : decode cX5_trim 25 = .ok (.aload_n 0, 1) := dk_42 (dk_at dksX5_trim_1 1 rfl rfl)
theorem dX5_trim_26 : decode cX5_trim 26 = .ok (.getfield 11, 3) := dk_180 0 11 (dk_at dksX5_trim_1 2 rfl rfl)
theorem dX5_trim_29 : decode cX5_trim 29 = .ok (.sipush 3200, 3) := dk_17 12 128 (dk_at dksX5_trim_1 5 rfl rfl)
theorem dX5_trim_32 : decode cX5_trim 32 = .ok (.iaload, 1) := dk_46 (dk_at dksX5_trim_1 8 rfl rfl)
theorem dX5_trim_33 : decode cX5_trim 33 = .ok (.if_icmp .le 17, 3) := dk_164 0 17 (dk_at dksX5_trim_1 9 rfl rfl)
theorem dX5_trim_36 : decode cX5_trim 36 = .ok (.aload_n 0, 1) := dk_42 (dk_at dksX5_trim_1 12 rfl rfl)
theorem dX5_trim_37 : decode cX5_trim 37 = .ok (.aload_n 0, 1) := dk_42 (dk_at dksX5_trim_1 13 rfl rfl)
theorem dX5_trim_38 : decode cX5_trim 38 = .ok (.iload_n 1, 1) := dk_27 (dk_at dksX5_trim_1 14 rfl rfl)
theorem dX5_trim_39 : decode cX5_trim 39 = .ok (.iconst 0, 1) := dk_3 (dk_at dksX5_trim_1 15 rfl rfl)
theorem dX5_trim_40 : decode cX5_trim 40 = .ok (.invokevirtual 66, 3) := dk_182 0 66 (dk_at dksX5_trim_1 16 rfl rfl)
theorem dX5_trim_43 : decode cX5_trim 43 = .ok (.iconst 0, 1) := dk_3 (dk_at dksX5_trim_1 19 rfl rfl)
theorem dX5_trim_44 : decode cX5_trim 44 = .ok (.invokevirtual 58, 3) := dk_182 0 58 (dk_at dksX5_trim_1 20 rfl rfl)
theorem dX5_trim_47 : decode cX5_trim 47 = .ok (.goto (-32), 3) := dk_167 255 224 (dk_at dksX5_trim_2 0 rfl rfl)
theorem dX5_trim_50 : decode cX5_trim 50 = .ok (.iinc 1 1, 3) := dk_132 1 1 (dk_at dksX5_trim_2 3 rfl rfl)
theorem dX5_trim_53 : decode cX5_trim 53 = .ok (.goto (-43), 3) := dk_167 255 213 (dk_at dksX5_trim_2 6 rfl rfl)
theorem dX5_trim_56 : decode cX5_trim 56 = .ok (.return_, 1) := dk_177 (dk_at dksX5_trim_2 9 rfl rfl)
abbrev cX5_sinks : ByteArray := prog_13_method_10_code
def yX5_sinks : MethodName := ⟨RX5, "sinks", "()V"⟩
def dkwX5_sinks_2 : List UInt8 := [182, 0, 58, 167, 255, 208, 177]
abbrev dktX5_sinks_2 : List UInt8 := dkwX5_sinks_2 ++ []
def dkwX5_sinks_1 : List UInt8 := [182, 0, 66, 60, 27, 156, 0, 4, 177, 42, 180, 0, 11, 17, 6, 64, 27, 96, 3, 79, 42, 27, 4]
abbrev dktX5_sinks_1 : List UInt8 := dkwX5_sinks_1 ++ dktX5_sinks_2
def dkwX5_sinks_0 : List UInt8 := [42, 180, 0, 11, 17, 12, 134, 46, 42, 180, 0, 11, 17, 12, 129, 46, 164, 0, 35, 42, 5, 4]
abbrev dktX5_sinks_0 : List UInt8 := dkwX5_sinks_0 ++ dktX5_sinks_1
theorem dksX5_sinks_0 : cX5_sinks.data.toList.drop 0 = dktX5_sinks_0 := by decide +kernel
theorem dksX5_sinks_1 : cX5_sinks.data.toList.drop 22 = dktX5_sinks_1 := dk_seg dksX5_sinks_0 22 rfl rfl
theorem dksX5_sinks_2 : cX5_sinks.data.toList.drop 45 = dktX5_sinks_2 := dk_seg dksX5_sinks_1 23 rfl rfl
theorem dX5_sinks_0 : decode cX5_sinks 0 = .ok (.aload_n 0, 1) := dk_42 (dk_at dksX5_sinks_0 0 rfl rfl)
theorem dX5_sinks_1 : decode cX5_sinks 1 = .ok (.getfield 11, 3) := dk_180 0 11 (dk_at dksX5_sinks_0 1 rfl rfl)
theorem dX5_sinks_4 : decode cX5_sinks 4 = .ok (.sipush 3206, 3) := dk_17 12 134 (dk_at dksX5_sinks_0 4 rfl rfl)
theorem dX5_sinks_7 : decode cX5_sinks 7 = .ok (.iaload, 1) := dk_46 (dk_at dksX5_sinks_0 7 rfl rfl)
theorem dX5_sinks_8 : decode cX5_sinks 8 = .ok (.aload_n 0, 1) := dk_42 (dk_at dksX5_sinks_0 8 rfl rfl)
theorem dX5_sinks_9 : decode cX5_sinks 9 = .ok (.getfield 11, 3) := dk_180 0 11 (dk_at dksX5_sinks_0 9 rfl rfl)
theorem dX5_sinks_12 : decode cX5_sinks 12 = .ok (.sipush 3201, 3) := dk_17 12 129 (dk_at dksX5_sinks_0 12 rfl rfl)
theorem dX5_sinks_15 : decode cX5_sinks 15 = .ok (.iaload, 1) := dk_46 (dk_at dksX5_sinks_0 15 rfl rfl)
theorem dX5_sinks_16 : decode cX5_sinks 16 = .ok (.if_icmp .le 35, 3) := dk_164 0 35 (dk_at dksX5_sinks_0 16 rfl rfl)
theorem dX5_sinks_19 : decode cX5_sinks 19 = .ok (.aload_n 0, 1) := dk_42 (dk_at dksX5_sinks_0 19 rfl rfl)
theorem dX5_sinks_20 : decode cX5_sinks 20 = .ok (.iconst 2, 1) := dk_5 (dk_at dksX5_sinks_0 20 rfl rfl)
theorem dX5_sinks_21 : decode cX5_sinks 21 = .ok (.iconst 1, 1) := dk_4 (dk_at dksX5_sinks_0 21 rfl rfl)
theorem dX5_sinks_22 : decode cX5_sinks 22 = .ok (.invokevirtual 66, 3) := dk_182 0 66 (dk_at dksX5_sinks_1 0 rfl rfl)
theorem dX5_sinks_25 : decode cX5_sinks 25 = .ok (.istore_n 1, 1) := dk_60 (dk_at dksX5_sinks_1 3 rfl rfl)
theorem dX5_sinks_26 : decode cX5_sinks 26 = .ok (.iload_n 1, 1) := dk_27 (dk_at dksX5_sinks_1 4 rfl rfl)
theorem dX5_sinks_27 : decode cX5_sinks 27 = .ok (.ifCond .ge 4, 3) := dk_156 0 4 (dk_at dksX5_sinks_1 5 rfl rfl)
theorem dX5_sinks_30 : decode cX5_sinks 30 = .ok (.return_, 1) := dk_177 (dk_at dksX5_sinks_1 8 rfl rfl)
theorem dX5_sinks_31 : decode cX5_sinks 31 = .ok (.aload_n 0, 1) := dk_42 (dk_at dksX5_sinks_1 9 rfl rfl)
theorem dX5_sinks_32 : decode cX5_sinks 32 = .ok (.getfield 11, 3) := dk_180 0 11 (dk_at dksX5_sinks_1 10 rfl rfl)
theorem dX5_sinks_35 : decode cX5_sinks 35 = .ok (.sipush 1600, 3) := dk_17 6 64 (dk_at dksX5_sinks_1 13 rfl rfl)
theorem dX5_sinks_38 : decode cX5_sinks 38 = .ok (.iload_n 1, 1) := dk_27 (dk_at dksX5_sinks_1 16 rfl rfl)
theorem dX5_sinks_39 : decode cX5_sinks 39 = .ok (.iadd, 1) := dk_96 (dk_at dksX5_sinks_1 17 rfl rfl)
theorem dX5_sinks_40 : decode cX5_sinks 40 = .ok (.iconst 0, 1) := dk_3 (dk_at dksX5_sinks_1 18 rfl rfl)
theorem dX5_sinks_41 : decode cX5_sinks 41 = .ok (.iastore, 1) := dk_79 (dk_at dksX5_sinks_1 19 rfl rfl)
theorem dX5_sinks_42 : decode cX5_sinks 42 = .ok (.aload_n 0, 1) := dk_42 (dk_at dksX5_sinks_1 20 rfl rfl)
theorem dX5_sinks_43 : decode cX5_sinks 43 = .ok (.iload_n 1, 1) := dk_27 (dk_at dksX5_sinks_1 21 rfl rfl)
theorem dX5_sinks_44 : decode cX5_sinks 44 = .ok (.iconst 1, 1) := dk_4 (dk_at dksX5_sinks_1 22 rfl rfl)
theorem dX5_sinks_45 : decode cX5_sinks 45 = .ok (.invokevirtual 58, 3) := dk_182 0 58 (dk_at dksX5_sinks_2 0 rfl rfl)
theorem dX5_sinks_48 : decode cX5_sinks 48 = .ok (.goto (-48), 3) := dk_167 255 208 (dk_at dksX5_sinks_2 3 rfl rfl)
theorem dX5_sinks_51 : decode cX5_sinks 51 = .ok (.return_, 1) := dk_177 (dk_at dksX5_sinks_2 6 rfl rfl)
abbrev cX5_oldest : ByteArray := prog_13_method_8_code
def yX5_oldest : MethodName := ⟨RX5, "oldest", "(IZ)I"⟩
def dkwX5_oldest_3 : List UInt8 := [162, 0, 6, 21, 4, 62, 132, 4, 1, 167, 255, 182, 29, 172]
abbrev dktX5_oldest_3 : List UInt8 := dkwX5_oldest_3 ++ []
def dkwX5_oldest_2 : List UInt8 := [155, 0, 27, 42, 180, 0, 11, 17, 10, 240, 21, 4, 96, 46, 42, 180, 0, 11, 17, 10, 240, 29, 96, 46]
abbrev dktX5_oldest_2 : List UInt8 := dkwX5_oldest_2 ++ dktX5_oldest_3
def dkwX5_oldest_1 : List UInt8 := [160, 0, 53, 28, 153, 0, 18, 42, 180, 0, 11, 17, 9, 96, 21, 4, 96, 46, 4, 159, 0, 34, 29]
abbrev dktX5_oldest_1 : List UInt8 := dkwX5_oldest_1 ++ dktX5_oldest_2
def dkwX5_oldest_0 : List UInt8 := [2, 62, 3, 54, 4, 21, 4, 17, 1, 144, 162, 0, 72, 42, 180, 0, 11, 3, 21, 4, 96, 46, 27]
abbrev dktX5_oldest_0 : List UInt8 := dkwX5_oldest_0 ++ dktX5_oldest_1
theorem dksX5_oldest_0 : cX5_oldest.data.toList.drop 0 = dktX5_oldest_0 := by decide +kernel
theorem dksX5_oldest_1 : cX5_oldest.data.toList.drop 23 = dktX5_oldest_1 := dk_seg dksX5_oldest_0 23 rfl rfl
theorem dksX5_oldest_2 : cX5_oldest.data.toList.drop 46 = dktX5_oldest_2 := dk_seg dksX5_oldest_1 23 rfl rfl
theorem dksX5_oldest_3 : cX5_oldest.data.toList.drop 70 = dktX5_oldest_3 := dk_seg dksX5_oldest_2 24 rfl rfl
theorem dX5_oldest_0 : decode cX5_oldest 0 = .ok (.iconst (-1), 1) := dk_2 (dk_at dksX5_oldest_0 0 rfl rfl)
theorem dX5_oldest_1 : decode cX5_oldest 1 = .ok (.istore_n 3, 1) := dk_62 (dk_at dksX5_oldest_0 1 rfl rfl)
theorem dX5_oldest_2 : decode cX5_oldest 2 = .ok (.iconst 0, 1) := dk_3 (dk_at dksX5_oldest_0 2 rfl rfl)
theorem dX5_oldest_3 : decode cX5_oldest 3 = .ok (.istore 4, 2) := dk_54 4 (dk_at dksX5_oldest_0 3 rfl rfl)
theorem dX5_oldest_5 : decode cX5_oldest 5 = .ok (.iload 4, 2) := dk_21 4 (dk_at dksX5_oldest_0 5 rfl rfl)
theorem dX5_oldest_7 : decode cX5_oldest 7 = .ok (.sipush 400, 3) := dk_17 1 144 (dk_at dksX5_oldest_0 7 rfl rfl)
theorem dX5_oldest_10 : decode cX5_oldest 10 = .ok (.if_icmp .ge 72, 3) := dk_162 0 72 (dk_at dksX5_oldest_0 10 rfl rfl)
theorem dX5_oldest_13 : decode cX5_oldest 13 = .ok (.aload_n 0, 1) := dk_42 (dk_at dksX5_oldest_0 13 rfl rfl)
theorem dX5_oldest_14 : decode cX5_oldest 14 = .ok (.getfield 11, 3) := dk_180 0 11 (dk_at dksX5_oldest_0 14 rfl rfl)
theorem dX5_oldest_17 : decode cX5_oldest 17 = .ok (.iconst 0, 1) := dk_3 (dk_at dksX5_oldest_0 17 rfl rfl)
theorem dX5_oldest_18 : decode cX5_oldest 18 = .ok (.iload 4, 2) := dk_21 4 (dk_at dksX5_oldest_0 18 rfl rfl)
theorem dX5_oldest_20 : decode cX5_oldest 20 = .ok (.iadd, 1) := dk_96 (dk_at dksX5_oldest_0 20 rfl rfl)
theorem dX5_oldest_21 : decode cX5_oldest 21 = .ok (.iaload, 1) := dk_46 (dk_at dksX5_oldest_0 21 rfl rfl)
theorem dX5_oldest_22 : decode cX5_oldest 22 = .ok (.iload_n 1, 1) := dk_27 (dk_at dksX5_oldest_0 22 rfl rfl)
theorem dX5_oldest_23 : decode cX5_oldest 23 = .ok (.if_icmp .ne 53, 3) := dk_160 0 53 (dk_at dksX5_oldest_1 0 rfl rfl)
theorem dX5_oldest_26 : decode cX5_oldest 26 = .ok (.iload_n 2, 1) := dk_28 (dk_at dksX5_oldest_1 3 rfl rfl)
theorem dX5_oldest_27 : decode cX5_oldest 27 = .ok (.ifCond .eq 18, 3) := dk_153 0 18 (dk_at dksX5_oldest_1 4 rfl rfl)
theorem dX5_oldest_30 : decode cX5_oldest 30 = .ok (.aload_n 0, 1) := dk_42 (dk_at dksX5_oldest_1 7 rfl rfl)
theorem dX5_oldest_31 : decode cX5_oldest 31 = .ok (.getfield 11, 3) := dk_180 0 11 (dk_at dksX5_oldest_1 8 rfl rfl)
theorem dX5_oldest_34 : decode cX5_oldest 34 = .ok (.sipush 2400, 3) := dk_17 9 96 (dk_at dksX5_oldest_1 11 rfl rfl)
theorem dX5_oldest_37 : decode cX5_oldest 37 = .ok (.iload 4, 2) := dk_21 4 (dk_at dksX5_oldest_1 14 rfl rfl)
theorem dX5_oldest_39 : decode cX5_oldest 39 = .ok (.iadd, 1) := dk_96 (dk_at dksX5_oldest_1 16 rfl rfl)
theorem dX5_oldest_40 : decode cX5_oldest 40 = .ok (.iaload, 1) := dk_46 (dk_at dksX5_oldest_1 17 rfl rfl)
theorem dX5_oldest_41 : decode cX5_oldest 41 = .ok (.iconst 1, 1) := dk_4 (dk_at dksX5_oldest_1 18 rfl rfl)
theorem dX5_oldest_42 : decode cX5_oldest 42 = .ok (.if_icmp .eq 34, 3) := dk_159 0 34 (dk_at dksX5_oldest_1 19 rfl rfl)
theorem dX5_oldest_45 : decode cX5_oldest 45 = .ok (.iload_n 3, 1) := dk_29 (dk_at dksX5_oldest_1 22 rfl rfl)
theorem dX5_oldest_46 : decode cX5_oldest 46 = .ok (.ifCond .lt 27, 3) := dk_155 0 27 (dk_at dksX5_oldest_2 0 rfl rfl)
theorem dX5_oldest_49 : decode cX5_oldest 49 = .ok (.aload_n 0, 1) := dk_42 (dk_at dksX5_oldest_2 3 rfl rfl)
theorem dX5_oldest_50 : decode cX5_oldest 50 = .ok (.getfield 11, 3) := dk_180 0 11 (dk_at dksX5_oldest_2 4 rfl rfl)
theorem dX5_oldest_53 : decode cX5_oldest 53 = .ok (.sipush 2800, 3) := dk_17 10 240 (dk_at dksX5_oldest_2 7 rfl rfl)
theorem dX5_oldest_56 : decode cX5_oldest 56 = .ok (.iload 4, 2) := dk_21 4 (dk_at dksX5_oldest_2 10 rfl rfl)
theorem dX5_oldest_58 : decode cX5_oldest 58 = .ok (.iadd, 1) := dk_96 (dk_at dksX5_oldest_2 12 rfl rfl)
theorem dX5_oldest_59 : decode cX5_oldest 59 = .ok (.iaload, 1) := dk_46 (dk_at dksX5_oldest_2 13 rfl rfl)
theorem dX5_oldest_60 : decode cX5_oldest 60 = .ok (.aload_n 0, 1) := dk_42 (dk_at dksX5_oldest_2 14 rfl rfl)
theorem dX5_oldest_61 : decode cX5_oldest 61 = .ok (.getfield 11, 3) := dk_180 0 11 (dk_at dksX5_oldest_2 15 rfl rfl)
theorem dX5_oldest_64 : decode cX5_oldest 64 = .ok (.sipush 2800, 3) := dk_17 10 240 (dk_at dksX5_oldest_2 18 rfl rfl)
theorem dX5_oldest_67 : decode cX5_oldest 67 = .ok (.iload_n 3, 1) := dk_29 (dk_at dksX5_oldest_2 21 rfl rfl)
theorem dX5_oldest_68 : decode cX5_oldest 68 = .ok (.iadd, 1) := dk_96 (dk_at dksX5_oldest_2 22 rfl rfl)
theorem dX5_oldest_69 : decode cX5_oldest 69 = .ok (.iaload, 1) := dk_46 (dk_at dksX5_oldest_2 23 rfl rfl)
theorem dX5_oldest_70 : decode cX5_oldest 70 = .ok (.if_icmp .ge 6, 3) := dk_162 0 6 (dk_at dksX5_oldest_3 0 rfl rfl)
theorem dX5_oldest_73 : decode cX5_oldest 73 = .ok (.iload 4, 2) := dk_21 4 (dk_at dksX5_oldest_3 3 rfl rfl)
theorem dX5_oldest_75 : decode cX5_oldest 75 = .ok (.istore_n 3, 1) := dk_62 (dk_at dksX5_oldest_3 5 rfl rfl)
theorem dX5_oldest_76 : decode cX5_oldest 76 = .ok (.iinc 4 1, 3) := dk_132 4 1 (dk_at dksX5_oldest_3 6 rfl rfl)
theorem dX5_oldest_79 : decode cX5_oldest 79 = .ok (.goto (-74), 3) := dk_167 255 182 (dk_at dksX5_oldest_3 9 rfl rfl)
theorem dX5_oldest_82 : decode cX5_oldest 82 = .ok (.iload_n 3, 1) := dk_29 (dk_at dksX5_oldest_3 12 rfl rfl)
theorem dX5_oldest_83 : decode cX5_oldest 83 = .ok (.ireturn, 1) := dk_172 (dk_at dksX5_oldest_3 13 rfl rfl)
abbrev cX5_goes : ByteArray := prog_13_method_5_code
def yX5_goes : MethodName := ⟨RX5, "goes", "(II)V"⟩
def dkwX5_goes_3 : List UInt8 := [96, 42, 180, 0, 11, 17, 12, 143, 92, 46, 91, 4, 96, 79, 79, 177]
abbrev dktX5_goes_3 : List UInt8 := dkwX5_goes_3 ++ []
def dkwX5_goes_2 : List UInt8 := [28, 96, 92, 46, 42, 180, 0, 11, 17, 3, 32, 27, 96, 46, 96, 79, 42, 180, 0, 11, 17, 10, 240, 27]
abbrev dktX5_goes_2 : List UInt8 := dkwX5_goes_2 ++ dktX5_goes_3
def dkwX5_goes_1 : List UInt8 := [17, 3, 32, 27, 96, 46, 100, 79, 42, 180, 0, 11, 3, 27, 96, 28, 79, 42, 180, 0, 11, 17, 12, 132]
abbrev dktX5_goes_1 : List UInt8 := dkwX5_goes_1 ++ dktX5_goes_2
def dkwX5_goes_0 : List UInt8 := [42, 180, 0, 11, 17, 12, 132, 42, 180, 0, 11, 3, 27, 96, 46, 96, 92, 46, 42, 180, 0, 11]
abbrev dktX5_goes_0 : List UInt8 := dkwX5_goes_0 ++ dktX5_goes_1
theorem dksX5_goes_0 : cX5_goes.data.toList.drop 0 = dktX5_goes_0 := by decide +kernel
theorem dksX5_goes_1 : cX5_goes.data.toList.drop 22 = dktX5_goes_1 := dk_seg dksX5_goes_0 22 rfl rfl
theorem dksX5_goes_2 : cX5_goes.data.toList.drop 46 = dktX5_goes_2 := dk_seg dksX5_goes_1 24 rfl rfl
theorem dksX5_goes_3 : cX5_goes.data.toList.drop 70 = dktX5_goes_3 := dk_seg dksX5_goes_2 24 rfl rfl
theorem dX5_goes_0 : decode cX5_goes 0 = .ok (.aload_n 0, 1) := dk_42 (dk_at dksX5_goes_0 0 rfl rfl)
theorem dX5_goes_1 : decode cX5_goes 1 = .ok (.getfield 11, 3) := dk_180 0 11 (dk_at dksX5_goes_0 1 rfl rfl)
theorem dX5_goes_4 : decode cX5_goes 4 = .ok (.sipush 3204, 3) := dk_17 12 132 (dk_at dksX5_goes_0 4 rfl rfl)
theorem dX5_goes_7 : decode cX5_goes 7 = .ok (.aload_n 0, 1) := dk_42 (dk_at dksX5_goes_0 7 rfl rfl)
theorem dX5_goes_8 : decode cX5_goes 8 = .ok (.getfield 11, 3) := dk_180 0 11 (dk_at dksX5_goes_0 8 rfl rfl)
theorem dX5_goes_11 : decode cX5_goes 11 = .ok (.iconst 0, 1) := dk_3 (dk_at dksX5_goes_0 11 rfl rfl)
theorem dX5_goes_12 : decode cX5_goes 12 = .ok (.iload_n 1, 1) := dk_27 (dk_at dksX5_goes_0 12 rfl rfl)
theorem dX5_goes_13 : decode cX5_goes 13 = .ok (.iadd, 1) := dk_96 (dk_at dksX5_goes_0 13 rfl rfl)
theorem dX5_goes_14 : decode cX5_goes 14 = .ok (.iaload, 1) := dk_46 (dk_at dksX5_goes_0 14 rfl rfl)
theorem dX5_goes_15 : decode cX5_goes 15 = .ok (.iadd, 1) := dk_96 (dk_at dksX5_goes_0 15 rfl rfl)
theorem dX5_goes_16 : decode cX5_goes 16 = .ok (.dup2, 1) := dk_92 (dk_at dksX5_goes_0 16 rfl rfl)
theorem dX5_goes_17 : decode cX5_goes 17 = .ok (.iaload, 1) := dk_46 (dk_at dksX5_goes_0 17 rfl rfl)
theorem dX5_goes_18 : decode cX5_goes 18 = .ok (.aload_n 0, 1) := dk_42 (dk_at dksX5_goes_0 18 rfl rfl)
theorem dX5_goes_19 : decode cX5_goes 19 = .ok (.getfield 11, 3) := dk_180 0 11 (dk_at dksX5_goes_0 19 rfl rfl)
theorem dX5_goes_22 : decode cX5_goes 22 = .ok (.sipush 800, 3) := dk_17 3 32 (dk_at dksX5_goes_1 0 rfl rfl)
theorem dX5_goes_25 : decode cX5_goes 25 = .ok (.iload_n 1, 1) := dk_27 (dk_at dksX5_goes_1 3 rfl rfl)
theorem dX5_goes_26 : decode cX5_goes 26 = .ok (.iadd, 1) := dk_96 (dk_at dksX5_goes_1 4 rfl rfl)
theorem dX5_goes_27 : decode cX5_goes 27 = .ok (.iaload, 1) := dk_46 (dk_at dksX5_goes_1 5 rfl rfl)
theorem dX5_goes_28 : decode cX5_goes 28 = .ok (.isub, 1) := dk_100 (dk_at dksX5_goes_1 6 rfl rfl)
theorem dX5_goes_29 : decode cX5_goes 29 = .ok (.iastore, 1) := dk_79 (dk_at dksX5_goes_1 7 rfl rfl)
theorem dX5_goes_30 : decode cX5_goes 30 = .ok (.aload_n 0, 1) := dk_42 (dk_at dksX5_goes_1 8 rfl rfl)
theorem dX5_goes_31 : decode cX5_goes 31 = .ok (.getfield 11, 3) := dk_180 0 11 (dk_at dksX5_goes_1 9 rfl rfl)
theorem dX5_goes_34 : decode cX5_goes 34 = .ok (.iconst 0, 1) := dk_3 (dk_at dksX5_goes_1 12 rfl rfl)
theorem dX5_goes_35 : decode cX5_goes 35 = .ok (.iload_n 1, 1) := dk_27 (dk_at dksX5_goes_1 13 rfl rfl)
theorem dX5_goes_36 : decode cX5_goes 36 = .ok (.iadd, 1) := dk_96 (dk_at dksX5_goes_1 14 rfl rfl)
theorem dX5_goes_37 : decode cX5_goes 37 = .ok (.iload_n 2, 1) := dk_28 (dk_at dksX5_goes_1 15 rfl rfl)
theorem dX5_goes_38 : decode cX5_goes 38 = .ok (.iastore, 1) := dk_79 (dk_at dksX5_goes_1 16 rfl rfl)
theorem dX5_goes_39 : decode cX5_goes 39 = .ok (.aload_n 0, 1) := dk_42 (dk_at dksX5_goes_1 17 rfl rfl)
theorem dX5_goes_40 : decode cX5_goes 40 = .ok (.getfield 11, 3) := dk_180 0 11 (dk_at dksX5_goes_1 18 rfl rfl)
theorem dX5_goes_43 : decode cX5_goes 43 = .ok (.sipush 3204, 3) := dk_17 12 132 (dk_at dksX5_goes_1 21 rfl rfl)
theorem dX5_goes_46 : decode cX5_goes 46 = .ok (.iload_n 2, 1) := dk_28 (dk_at dksX5_goes_2 0 rfl rfl)
theorem dX5_goes_47 : decode cX5_goes 47 = .ok (.iadd, 1) := dk_96 (dk_at dksX5_goes_2 1 rfl rfl)
theorem dX5_goes_48 : decode cX5_goes 48 = .ok (.dup2, 1) := dk_92 (dk_at dksX5_goes_2 2 rfl rfl)
theorem dX5_goes_49 : decode cX5_goes 49 = .ok (.iaload, 1) := dk_46 (dk_at dksX5_goes_2 3 rfl rfl)
theorem dX5_goes_50 : decode cX5_goes 50 = .ok (.aload_n 0, 1) := dk_42 (dk_at dksX5_goes_2 4 rfl rfl)
theorem dX5_goes_51 : decode cX5_goes 51 = .ok (.getfield 11, 3) := dk_180 0 11 (dk_at dksX5_goes_2 5 rfl rfl)
theorem dX5_goes_54 : decode cX5_goes 54 = .ok (.sipush 800, 3) := dk_17 3 32 (dk_at dksX5_goes_2 8 rfl rfl)
theorem dX5_goes_57 : decode cX5_goes 57 = .ok (.iload_n 1, 1) := dk_27 (dk_at dksX5_goes_2 11 rfl rfl)
theorem dX5_goes_58 : decode cX5_goes 58 = .ok (.iadd, 1) := dk_96 (dk_at dksX5_goes_2 12 rfl rfl)
theorem dX5_goes_59 : decode cX5_goes 59 = .ok (.iaload, 1) := dk_46 (dk_at dksX5_goes_2 13 rfl rfl)
theorem dX5_goes_60 : decode cX5_goes 60 = .ok (.iadd, 1) := dk_96 (dk_at dksX5_goes_2 14 rfl rfl)
theorem dX5_goes_61 : decode cX5_goes 61 = .ok (.iastore, 1) := dk_79 (dk_at dksX5_goes_2 15 rfl rfl)
theorem dX5_goes_62 : decode cX5_goes 62 = .ok (.aload_n 0, 1) := dk_42 (dk_at dksX5_goes_2 16 rfl rfl)
theorem dX5_goes_63 : decode cX5_goes 63 = .ok (.getfield 11, 3) := dk_180 0 11 (dk_at dksX5_goes_2 17 rfl rfl)
theorem dX5_goes_66 : decode cX5_goes 66 = .ok (.sipush 2800, 3) := dk_17 10 240 (dk_at dksX5_goes_2 20 rfl rfl)
theorem dX5_goes_69 : decode cX5_goes 69 = .ok (.iload_n 1, 1) := dk_27 (dk_at dksX5_goes_2 23 rfl rfl)
theorem dX5_goes_70 : decode cX5_goes 70 = .ok (.iadd, 1) := dk_96 (dk_at dksX5_goes_3 0 rfl rfl)
theorem dX5_goes_71 : decode cX5_goes 71 = .ok (.aload_n 0, 1) := dk_42 (dk_at dksX5_goes_3 1 rfl rfl)
theorem dX5_goes_72 : decode cX5_goes 72 = .ok (.getfield 11, 3) := dk_180 0 11 (dk_at dksX5_goes_3 2 rfl rfl)
theorem dX5_goes_75 : decode cX5_goes 75 = .ok (.sipush 3215, 3) := dk_17 12 143 (dk_at dksX5_goes_3 5 rfl rfl)
theorem dX5_goes_78 : decode cX5_goes 78 = .ok (.dup2, 1) := dk_92 (dk_at dksX5_goes_3 8 rfl rfl)
theorem dX5_goes_79 : decode cX5_goes 79 = .ok (.iaload, 1) := dk_46 (dk_at dksX5_goes_3 9 rfl rfl)
theorem dX5_goes_80 : decode cX5_goes 80 = .ok (.dup_x2, 1) := dk_91 (dk_at dksX5_goes_3 10 rfl rfl)
theorem dX5_goes_81 : decode cX5_goes 81 = .ok (.iconst 1, 1) := dk_4 (dk_at dksX5_goes_3 11 rfl rfl)
theorem dX5_goes_82 : decode cX5_goes 82 = .ok (.iadd, 1) := dk_96 (dk_at dksX5_goes_3 12 rfl rfl)
theorem dX5_goes_83 : decode cX5_goes 83 = .ok (.iastore, 1) := dk_79 (dk_at dksX5_goes_3 13 rfl rfl)
theorem dX5_goes_84 : decode cX5_goes 84 = .ok (.iastore, 1) := dk_79 (dk_at dksX5_goes_3 14 rfl rfl)
theorem dX5_goes_85 : decode cX5_goes 85 = .ok (.return_, 1) := dk_177 (dk_at dksX5_goes_3 15 rfl rfl)
abbrev cX5_lets : ByteArray := prog_13_method_11_code
def yX5_lets : MethodName := ⟨RX5, "lets", "()V"⟩
def dkwX5_lets_4 : List UInt8 := [28, 155, 0, 12, 42, 28, 7, 182, 0, 70, 167, 0, 4, 177, 167, 255, 147, 177]
abbrev dktX5_lets_4 : List UInt8 := dkwX5_lets_4 ++ []
def dkwX5_lets_3 : List UInt8 := [100, 79, 42, 27, 4, 182, 0, 58, 167, 0, 30, 27, 155, 0, 12, 42, 27, 6, 182, 0, 70, 167, 0, 17]
abbrev dktX5_lets_3 : List UInt8 := dkwX5_lets_3 ++ dktX5_lets_4
def dkwX5_lets_2 : List UInt8 := [180, 0, 11, 17, 7, 208, 27, 96, 46, 158, 0, 26, 42, 180, 0, 11, 17, 7, 208, 27, 96, 92, 46, 4]
abbrev dktX5_lets_2 : List UInt8 := dkwX5_lets_2 ++ dktX5_lets_3
def dkwX5_lets_1 : List UInt8 := [46, 164, 0, 87, 42, 4, 4, 182, 0, 66, 60, 42, 5, 4, 182, 0, 66, 61, 27, 155, 0, 39, 42]
abbrev dktX5_lets_1 : List UInt8 := dkwX5_lets_1 ++ dktX5_lets_2
def dkwX5_lets_0 : List UInt8 := [42, 180, 0, 11, 17, 12, 133, 46, 42, 180, 0, 11, 17, 12, 134, 46, 96, 42, 180, 0, 11, 17, 12, 128]
abbrev dktX5_lets_0 : List UInt8 := dkwX5_lets_0 ++ dktX5_lets_1
theorem dksX5_lets_0 : cX5_lets.data.toList.drop 0 = dktX5_lets_0 := by decide +kernel
theorem dksX5_lets_1 : cX5_lets.data.toList.drop 24 = dktX5_lets_1 := dk_seg dksX5_lets_0 24 rfl rfl
theorem dksX5_lets_2 : cX5_lets.data.toList.drop 47 = dktX5_lets_2 := dk_seg dksX5_lets_1 23 rfl rfl
theorem dksX5_lets_3 : cX5_lets.data.toList.drop 71 = dktX5_lets_3 := dk_seg dksX5_lets_2 24 rfl rfl
theorem dksX5_lets_4 : cX5_lets.data.toList.drop 95 = dktX5_lets_4 := dk_seg dksX5_lets_3 24 rfl rfl
theorem dX5_lets_0 : decode cX5_lets 0 = .ok (.aload_n 0, 1) := dk_42 (dk_at dksX5_lets_0 0 rfl rfl)
theorem dX5_lets_1 : decode cX5_lets 1 = .ok (.getfield 11, 3) := dk_180 0 11 (dk_at dksX5_lets_0 1 rfl rfl)
theorem dX5_lets_4 : decode cX5_lets 4 = .ok (.sipush 3205, 3) := dk_17 12 133 (dk_at dksX5_lets_0 4 rfl rfl)
theorem dX5_lets_7 : decode cX5_lets 7 = .ok (.iaload, 1) := dk_46 (dk_at dksX5_lets_0 7 rfl rfl)
theorem dX5_lets_8 : decode cX5_lets 8 = .ok (.aload_n 0, 1) := dk_42 (dk_at dksX5_lets_0 8 rfl rfl)
theorem dX5_lets_9 : decode cX5_lets 9 = .ok (.getfield 11, 3) := dk_180 0 11 (dk_at dksX5_lets_0 9 rfl rfl)
theorem dX5_lets_12 : decode cX5_lets 12 = .ok (.sipush 3206, 3) := dk_17 12 134 (dk_at dksX5_lets_0 12 rfl rfl)
theorem dX5_lets_15 : decode cX5_lets 15 = .ok (.iaload, 1) := dk_46 (dk_at dksX5_lets_0 15 rfl rfl)
theorem dX5_lets_16 : decode cX5_lets 16 = .ok (.iadd, 1) := dk_96 (dk_at dksX5_lets_0 16 rfl rfl)
theorem dX5_lets_17 : decode cX5_lets 17 = .ok (.aload_n 0, 1) := dk_42 (dk_at dksX5_lets_0 17 rfl rfl)
theorem dX5_lets_18 : decode cX5_lets 18 = .ok (.getfield 11, 3) := dk_180 0 11 (dk_at dksX5_lets_0 18 rfl rfl)
theorem dX5_lets_21 : decode cX5_lets 21 = .ok (.sipush 3200, 3) := dk_17 12 128 (dk_at dksX5_lets_0 21 rfl rfl)
theorem dX5_lets_24 : decode cX5_lets 24 = .ok (.iaload, 1) := dk_46 (dk_at dksX5_lets_1 0 rfl rfl)
theorem dX5_lets_25 : decode cX5_lets 25 = .ok (.if_icmp .le 87, 3) := dk_164 0 87 (dk_at dksX5_lets_1 1 rfl rfl)
theorem dX5_lets_28 : decode cX5_lets 28 = .ok (.aload_n 0, 1) := dk_42 (dk_at dksX5_lets_1 4 rfl rfl)
theorem dX5_lets_29 : decode cX5_lets 29 = .ok (.iconst 1, 1) := dk_4 (dk_at dksX5_lets_1 5 rfl rfl)
theorem dX5_lets_30 : decode cX5_lets 30 = .ok (.iconst 1, 1) := dk_4 (dk_at dksX5_lets_1 6 rfl rfl)
theorem dX5_lets_31 : decode cX5_lets 31 = .ok (.invokevirtual 66, 3) := dk_182 0 66 (dk_at dksX5_lets_1 7 rfl rfl)
theorem dX5_lets_34 : decode cX5_lets 34 = .ok (.istore_n 1, 1) := dk_60 (dk_at dksX5_lets_1 10 rfl rfl)
theorem dX5_lets_35 : decode cX5_lets 35 = .ok (.aload_n 0, 1) := dk_42 (dk_at dksX5_lets_1 11 rfl rfl)
theorem dX5_lets_36 : decode cX5_lets 36 = .ok (.iconst 2, 1) := dk_5 (dk_at dksX5_lets_1 12 rfl rfl)
theorem dX5_lets_37 : decode cX5_lets 37 = .ok (.iconst 1, 1) := dk_4 (dk_at dksX5_lets_1 13 rfl rfl)
theorem dX5_lets_38 : decode cX5_lets 38 = .ok (.invokevirtual 66, 3) := dk_182 0 66 (dk_at dksX5_lets_1 14 rfl rfl)
theorem dX5_lets_41 : decode cX5_lets 41 = .ok (.istore_n 2, 1) := dk_61 (dk_at dksX5_lets_1 17 rfl rfl)
theorem dX5_lets_42 : decode cX5_lets 42 = .ok (.iload_n 1, 1) := dk_27 (dk_at dksX5_lets_1 18 rfl rfl)
theorem dX5_lets_43 : decode cX5_lets 43 = .ok (.ifCond .lt 39, 3) := dk_155 0 39 (dk_at dksX5_lets_1 19 rfl rfl)
theorem dX5_lets_46 : decode cX5_lets 46 = .ok (.aload_n 0, 1) := dk_42 (dk_at dksX5_lets_1 22 rfl rfl)
theorem dX5_lets_47 : decode cX5_lets 47 = .ok (.getfield 11, 3) := dk_180 0 11 (dk_at dksX5_lets_2 0 rfl rfl)
theorem dX5_lets_50 : decode cX5_lets 50 = .ok (.sipush 2000, 3) := dk_17 7 208 (dk_at dksX5_lets_2 3 rfl rfl)
theorem dX5_lets_53 : decode cX5_lets 53 = .ok (.iload_n 1, 1) := dk_27 (dk_at dksX5_lets_2 6 rfl rfl)
theorem dX5_lets_54 : decode cX5_lets 54 = .ok (.iadd, 1) := dk_96 (dk_at dksX5_lets_2 7 rfl rfl)
theorem dX5_lets_55 : decode cX5_lets 55 = .ok (.iaload, 1) := dk_46 (dk_at dksX5_lets_2 8 rfl rfl)
theorem dX5_lets_56 : decode cX5_lets 56 = .ok (.ifCond .le 26, 3) := dk_158 0 26 (dk_at dksX5_lets_2 9 rfl rfl)
theorem dX5_lets_59 : decode cX5_lets 59 = .ok (.aload_n 0, 1) := dk_42 (dk_at dksX5_lets_2 12 rfl rfl)
theorem dX5_lets_60 : decode cX5_lets 60 = .ok (.getfield 11, 3) := dk_180 0 11 (dk_at dksX5_lets_2 13 rfl rfl)
theorem dX5_lets_63 : decode cX5_lets 63 = .ok (.sipush 2000, 3) := dk_17 7 208 (dk_at dksX5_lets_2 16 rfl rfl)
theorem dX5_lets_66 : decode cX5_lets 66 = .ok (.iload_n 1, 1) := dk_27 (dk_at dksX5_lets_2 19 rfl rfl)
theorem dX5_lets_67 : decode cX5_lets 67 = .ok (.iadd, 1) := dk_96 (dk_at dksX5_lets_2 20 rfl rfl)
theorem dX5_lets_68 : decode cX5_lets 68 = .ok (.dup2, 1) := dk_92 (dk_at dksX5_lets_2 21 rfl rfl)
theorem dX5_lets_69 : decode cX5_lets 69 = .ok (.iaload, 1) := dk_46 (dk_at dksX5_lets_2 22 rfl rfl)
theorem dX5_lets_70 : decode cX5_lets 70 = .ok (.iconst 1, 1) := dk_4 (dk_at dksX5_lets_2 23 rfl rfl)
theorem dX5_lets_71 : decode cX5_lets 71 = .ok (.isub, 1) := dk_100 (dk_at dksX5_lets_3 0 rfl rfl)
theorem dX5_lets_72 : decode cX5_lets 72 = .ok (.iastore, 1) := dk_79 (dk_at dksX5_lets_3 1 rfl rfl)
theorem dX5_lets_73 : decode cX5_lets 73 = .ok (.aload_n 0, 1) := dk_42 (dk_at dksX5_lets_3 2 rfl rfl)
theorem dX5_lets_74 : decode cX5_lets 74 = .ok (.iload_n 1, 1) := dk_27 (dk_at dksX5_lets_3 3 rfl rfl)
theorem dX5_lets_75 : decode cX5_lets 75 = .ok (.iconst 1, 1) := dk_4 (dk_at dksX5_lets_3 4 rfl rfl)
theorem dX5_lets_76 : decode cX5_lets 76 = .ok (.invokevirtual 58, 3) := dk_182 0 58 (dk_at dksX5_lets_3 5 rfl rfl)
theorem dX5_lets_79 : decode cX5_lets 79 = .ok (.goto 30, 3) := dk_167 0 30 (dk_at dksX5_lets_3 8 rfl rfl)
theorem dX5_lets_82 : decode cX5_lets 82 = .ok (.iload_n 1, 1) := dk_27 (dk_at dksX5_lets_3 11 rfl rfl)
theorem dX5_lets_83 : decode cX5_lets 83 = .ok (.ifCond .lt 12, 3) := dk_155 0 12 (dk_at dksX5_lets_3 12 rfl rfl)
theorem dX5_lets_86 : decode cX5_lets 86 = .ok (.aload_n 0, 1) := dk_42 (dk_at dksX5_lets_3 15 rfl rfl)
theorem dX5_lets_87 : decode cX5_lets 87 = .ok (.iload_n 1, 1) := dk_27 (dk_at dksX5_lets_3 16 rfl rfl)
theorem dX5_lets_88 : decode cX5_lets 88 = .ok (.iconst 3, 1) := dk_6 (dk_at dksX5_lets_3 17 rfl rfl)
theorem dX5_lets_89 : decode cX5_lets 89 = .ok (.invokevirtual 70, 3) := dk_182 0 70 (dk_at dksX5_lets_3 18 rfl rfl)
theorem dX5_lets_92 : decode cX5_lets 92 = .ok (.goto 17, 3) := dk_167 0 17 (dk_at dksX5_lets_3 21 rfl rfl)
theorem dX5_lets_95 : decode cX5_lets 95 = .ok (.iload_n 2, 1) := dk_28 (dk_at dksX5_lets_4 0 rfl rfl)
theorem dX5_lets_96 : decode cX5_lets 96 = .ok (.ifCond .lt 12, 3) := dk_155 0 12 (dk_at dksX5_lets_4 1 rfl rfl)
theorem dX5_lets_99 : decode cX5_lets 99 = .ok (.aload_n 0, 1) := dk_42 (dk_at dksX5_lets_4 4 rfl rfl)
theorem dX5_lets_100 : decode cX5_lets 100 = .ok (.iload_n 2, 1) := dk_28 (dk_at dksX5_lets_4 5 rfl rfl)
theorem dX5_lets_101 : decode cX5_lets 101 = .ok (.iconst 4, 1) := dk_7 (dk_at dksX5_lets_4 6 rfl rfl)
theorem dX5_lets_102 : decode cX5_lets 102 = .ok (.invokevirtual 70, 3) := dk_182 0 70 (dk_at dksX5_lets_4 7 rfl rfl)
theorem dX5_lets_105 : decode cX5_lets 105 = .ok (.goto 4, 3) := dk_167 0 4 (dk_at dksX5_lets_4 10 rfl rfl)
theorem dX5_lets_108 : decode cX5_lets 108 = .ok (.return_, 1) := dk_177 (dk_at dksX5_lets_4 13 rfl rfl)
theorem dX5_lets_109 : decode cX5_lets 109 = .ok (.goto (-109), 3) := dk_167 255 147 (dk_at dksX5_lets_4 14 rfl rfl)
theorem dX5_lets_112 : decode cX5_lets 112 = .ok (.return_, 1) := dk_177 (dk_at dksX5_lets_4 17 rfl rfl)
abbrev cX5_went : ByteArray := prog_13_method_9_code
def yX5_went : MethodName := ⟨RX5, "went", "(II)V"⟩
def dkwX5_went_4 : List UInt8 := [96, 181, 0, 62, 27, 79, 177]
abbrev dktX5_went_4 : List UInt8 := dkwX5_went_4 ++ []
def dkwX5_went_3 : List UInt8 := [4, 96, 79, 42, 180, 0, 62, 17, 1, 144, 162, 0, 20, 42, 180, 0, 21, 42, 89, 180, 0, 62, 90, 4]
abbrev dktX5_went_3 : List UInt8 := dkwX5_went_3 ++ dktX5_went_4
def dkwX5_went_2 : List UInt8 := [132, 3, 255, 167, 255, 227, 42, 180, 0, 11, 17, 12, 144, 27, 79, 42, 180, 0, 11, 17, 12, 142, 92, 46]
abbrev dktX5_went_2 : List UInt8 := dkwX5_went_2 ++ dktX5_went_3
def dkwX5_went_1 : List UInt8 := [42, 180, 0, 11, 17, 12, 144, 29, 96, 42, 180, 0, 11, 17, 12, 144, 29, 96, 4, 100, 46, 79]
abbrev dktX5_went_1 : List UInt8 := dkwX5_went_1 ++ dktX5_went_2
def dkwX5_went_0 : List UInt8 := [42, 27, 28, 182, 0, 58, 42, 180, 0, 11, 17, 9, 96, 27, 96, 3, 79, 16, 19, 62, 29, 158, 0, 31]
abbrev dktX5_went_0 : List UInt8 := dkwX5_went_0 ++ dktX5_went_1
theorem dksX5_went_0 : cX5_went.data.toList.drop 0 = dktX5_went_0 := by decide +kernel
theorem dksX5_went_1 : cX5_went.data.toList.drop 24 = dktX5_went_1 := dk_seg dksX5_went_0 24 rfl rfl
theorem dksX5_went_2 : cX5_went.data.toList.drop 46 = dktX5_went_2 := dk_seg dksX5_went_1 22 rfl rfl
theorem dksX5_went_3 : cX5_went.data.toList.drop 70 = dktX5_went_3 := dk_seg dksX5_went_2 24 rfl rfl
theorem dksX5_went_4 : cX5_went.data.toList.drop 94 = dktX5_went_4 := dk_seg dksX5_went_3 24 rfl rfl
theorem dX5_went_0 : decode cX5_went 0 = .ok (.aload_n 0, 1) := dk_42 (dk_at dksX5_went_0 0 rfl rfl)
theorem dX5_went_1 : decode cX5_went 1 = .ok (.iload_n 1, 1) := dk_27 (dk_at dksX5_went_0 1 rfl rfl)
theorem dX5_went_2 : decode cX5_went 2 = .ok (.iload_n 2, 1) := dk_28 (dk_at dksX5_went_0 2 rfl rfl)
theorem dX5_went_3 : decode cX5_went 3 = .ok (.invokevirtual 58, 3) := dk_182 0 58 (dk_at dksX5_went_0 3 rfl rfl)
theorem dX5_went_6 : decode cX5_went 6 = .ok (.aload_n 0, 1) := dk_42 (dk_at dksX5_went_0 6 rfl rfl)
theorem dX5_went_7 : decode cX5_went 7 = .ok (.getfield 11, 3) := dk_180 0 11 (dk_at dksX5_went_0 7 rfl rfl)
theorem dX5_went_10 : decode cX5_went 10 = .ok (.sipush 2400, 3) := dk_17 9 96 (dk_at dksX5_went_0 10 rfl rfl)
theorem dX5_went_13 : decode cX5_went 13 = .ok (.iload_n 1, 1) := dk_27 (dk_at dksX5_went_0 13 rfl rfl)
theorem dX5_went_14 : decode cX5_went 14 = .ok (.iadd, 1) := dk_96 (dk_at dksX5_went_0 14 rfl rfl)
theorem dX5_went_15 : decode cX5_went 15 = .ok (.iconst 0, 1) := dk_3 (dk_at dksX5_went_0 15 rfl rfl)
theorem dX5_went_16 : decode cX5_went 16 = .ok (.iastore, 1) := dk_79 (dk_at dksX5_went_0 16 rfl rfl)
theorem dX5_went_17 : decode cX5_went 17 = .ok (.bipush 19, 2) := dk_16 19 (dk_at dksX5_went_0 17 rfl rfl)
theorem dX5_went_19 : decode cX5_went 19 = .ok (.istore_n 3, 1) := dk_62 (dk_at dksX5_went_0 19 rfl rfl)
theorem dX5_went_20 : decode cX5_went 20 = .ok (.iload_n 3, 1) := dk_29 (dk_at dksX5_went_0 20 rfl rfl)
theorem dX5_went_21 : decode cX5_went 21 = .ok (.ifCond .le 31, 3) := dk_158 0 31 (dk_at dksX5_went_0 21 rfl rfl)
theorem dX5_went_24 : decode cX5_went 24 = .ok (.aload_n 0, 1) := dk_42 (dk_at dksX5_went_1 0 rfl rfl)
theorem dX5_went_25 : decode cX5_went 25 = .ok (.getfield 11, 3) := dk_180 0 11 (dk_at dksX5_went_1 1 rfl rfl)
theorem dX5_went_28 : decode cX5_went 28 = .ok (.sipush 3216, 3) := dk_17 12 144 (dk_at dksX5_went_1 4 rfl rfl)
theorem dX5_went_31 : decode cX5_went 31 = .ok (.iload_n 3, 1) := dk_29 (dk_at dksX5_went_1 7 rfl rfl)
theorem dX5_went_32 : decode cX5_went 32 = .ok (.iadd, 1) := dk_96 (dk_at dksX5_went_1 8 rfl rfl)
theorem dX5_went_33 : decode cX5_went 33 = .ok (.aload_n 0, 1) := dk_42 (dk_at dksX5_went_1 9 rfl rfl)
theorem dX5_went_34 : decode cX5_went 34 = .ok (.getfield 11, 3) := dk_180 0 11 (dk_at dksX5_went_1 10 rfl rfl)
theorem dX5_went_37 : decode cX5_went 37 = .ok (.sipush 3216, 3) := dk_17 12 144 (dk_at dksX5_went_1 13 rfl rfl)
theorem dX5_went_40 : decode cX5_went 40 = .ok (.iload_n 3, 1) := dk_29 (dk_at dksX5_went_1 16 rfl rfl)
theorem dX5_went_41 : decode cX5_went 41 = .ok (.iadd, 1) := dk_96 (dk_at dksX5_went_1 17 rfl rfl)
theorem dX5_went_42 : decode cX5_went 42 = .ok (.iconst 1, 1) := dk_4 (dk_at dksX5_went_1 18 rfl rfl)
theorem dX5_went_43 : decode cX5_went 43 = .ok (.isub, 1) := dk_100 (dk_at dksX5_went_1 19 rfl rfl)
theorem dX5_went_44 : decode cX5_went 44 = .ok (.iaload, 1) := dk_46 (dk_at dksX5_went_1 20 rfl rfl)
theorem dX5_went_45 : decode cX5_went 45 = .ok (.iastore, 1) := dk_79 (dk_at dksX5_went_1 21 rfl rfl)
theorem dX5_went_46 : decode cX5_went 46 = .ok (.iinc 3 (-1), 3) := dk_132 3 255 (dk_at dksX5_went_2 0 rfl rfl)
theorem dX5_went_49 : decode cX5_went 49 = .ok (.goto (-29), 3) := dk_167 255 227 (dk_at dksX5_went_2 3 rfl rfl)
theorem dX5_went_52 : decode cX5_went 52 = .ok (.aload_n 0, 1) := dk_42 (dk_at dksX5_went_2 6 rfl rfl)
theorem dX5_went_53 : decode cX5_went 53 = .ok (.getfield 11, 3) := dk_180 0 11 (dk_at dksX5_went_2 7 rfl rfl)
theorem dX5_went_56 : decode cX5_went 56 = .ok (.sipush 3216, 3) := dk_17 12 144 (dk_at dksX5_went_2 10 rfl rfl)
theorem dX5_went_59 : decode cX5_went 59 = .ok (.iload_n 1, 1) := dk_27 (dk_at dksX5_went_2 13 rfl rfl)
theorem dX5_went_60 : decode cX5_went 60 = .ok (.iastore, 1) := dk_79 (dk_at dksX5_went_2 14 rfl rfl)
theorem dX5_went_61 : decode cX5_went 61 = .ok (.aload_n 0, 1) := dk_42 (dk_at dksX5_went_2 15 rfl rfl)
theorem dX5_went_62 : decode cX5_went 62 = .ok (.getfield 11, 3) := dk_180 0 11 (dk_at dksX5_went_2 16 rfl rfl)
theorem dX5_went_65 : decode cX5_went 65 = .ok (.sipush 3214, 3) := dk_17 12 142 (dk_at dksX5_went_2 19 rfl rfl)
theorem dX5_went_68 : decode cX5_went 68 = .ok (.dup2, 1) := dk_92 (dk_at dksX5_went_2 22 rfl rfl)
theorem dX5_went_69 : decode cX5_went 69 = .ok (.iaload, 1) := dk_46 (dk_at dksX5_went_2 23 rfl rfl)
theorem dX5_went_70 : decode cX5_went 70 = .ok (.iconst 1, 1) := dk_4 (dk_at dksX5_went_3 0 rfl rfl)
theorem dX5_went_71 : decode cX5_went 71 = .ok (.iadd, 1) := dk_96 (dk_at dksX5_went_3 1 rfl rfl)
theorem dX5_went_72 : decode cX5_went 72 = .ok (.iastore, 1) := dk_79 (dk_at dksX5_went_3 2 rfl rfl)
theorem dX5_went_73 : decode cX5_went 73 = .ok (.aload_n 0, 1) := dk_42 (dk_at dksX5_went_3 3 rfl rfl)
theorem dX5_went_74 : decode cX5_went 74 = .ok (.getfield 62, 3) := dk_180 0 62 (dk_at dksX5_went_3 4 rfl rfl)
theorem dX5_went_77 : decode cX5_went 77 = .ok (.sipush 400, 3) := dk_17 1 144 (dk_at dksX5_went_3 7 rfl rfl)
theorem dX5_went_80 : decode cX5_went 80 = .ok (.if_icmp .ge 20, 3) := dk_162 0 20 (dk_at dksX5_went_3 10 rfl rfl)
theorem dX5_went_83 : decode cX5_went 83 = .ok (.aload_n 0, 1) := dk_42 (dk_at dksX5_went_3 13 rfl rfl)
theorem dX5_went_84 : decode cX5_went 84 = .ok (.getfield 21, 3) := dk_180 0 21 (dk_at dksX5_went_3 14 rfl rfl)
theorem dX5_went_87 : decode cX5_went 87 = .ok (.aload_n 0, 1) := dk_42 (dk_at dksX5_went_3 17 rfl rfl)
theorem dX5_went_88 : decode cX5_went 88 = .ok (.dup, 1) := dk_89 (dk_at dksX5_went_3 18 rfl rfl)
theorem dX5_went_89 : decode cX5_went 89 = .ok (.getfield 62, 3) := dk_180 0 62 (dk_at dksX5_went_3 19 rfl rfl)
theorem dX5_went_92 : decode cX5_went 92 = .ok (.dup_x1, 1) := dk_90 (dk_at dksX5_went_3 22 rfl rfl)
theorem dX5_went_93 : decode cX5_went 93 = .ok (.iconst 1, 1) := dk_4 (dk_at dksX5_went_3 23 rfl rfl)
theorem dX5_went_94 : decode cX5_went 94 = .ok (.iadd, 1) := dk_96 (dk_at dksX5_went_4 0 rfl rfl)
theorem dX5_went_95 : decode cX5_went 95 = .ok (.putfield 62, 3) := dk_181 0 62 (dk_at dksX5_went_4 1 rfl rfl)
theorem dX5_went_98 : decode cX5_went 98 = .ok (.iload_n 1, 1) := dk_27 (dk_at dksX5_went_4 4 rfl rfl)
theorem dX5_went_99 : decode cX5_went 99 = .ok (.iastore, 1) := dk_79 (dk_at dksX5_went_4 5 rfl rfl)
theorem dX5_went_100 : decode cX5_went 100 = .ok (.return_, 1) := dk_177 (dk_at dksX5_went_4 6 rfl rfl)
abbrev cX5_told : ByteArray := prog_13_method_19_code
def yX5_told : MethodName := ⟨RX5, "told", "(I)I"⟩
def dkwX5_told_2 : List UInt8 := [167, 0, 16, 42, 180, 0, 11, 17, 12, 137, 27, 96, 16, 8, 100, 46, 172]
abbrev dktX5_told_2 : List UInt8 := dkwX5_told_2 ++ []
def dkwX5_told_1 : List UInt8 := [27, 96, 46, 167, 0, 37, 27, 16, 8, 162, 0, 18, 42, 180, 0, 11, 17, 12, 132, 27, 96, 6, 100, 46]
abbrev dktX5_told_1 : List UInt8 := dkwX5_told_1 ++ dktX5_told_2
def dkwX5_told_0 : List UInt8 := [27, 3, 16, 13, 184, 0, 54, 154, 0, 5, 2, 172, 27, 7, 162, 0, 16, 42, 180, 0, 11, 17, 12, 128]
abbrev dktX5_told_0 : List UInt8 := dkwX5_told_0 ++ dktX5_told_1
theorem dksX5_told_0 : cX5_told.data.toList.drop 0 = dktX5_told_0 := by decide +kernel
theorem dksX5_told_1 : cX5_told.data.toList.drop 24 = dktX5_told_1 := dk_seg dksX5_told_0 24 rfl rfl
theorem dksX5_told_2 : cX5_told.data.toList.drop 48 = dktX5_told_2 := dk_seg dksX5_told_1 24 rfl rfl
theorem dX5_told_0 : decode cX5_told 0 = .ok (.iload_n 1, 1) := dk_27 (dk_at dksX5_told_0 0 rfl rfl)
theorem dX5_told_1 : decode cX5_told 1 = .ok (.iconst 0, 1) := dk_3 (dk_at dksX5_told_0 1 rfl rfl)
theorem dX5_told_2 : decode cX5_told 2 = .ok (.bipush 13, 2) := dk_16 13 (dk_at dksX5_told_0 2 rfl rfl)
theorem dX5_told_4 : decode cX5_told 4 = .ok (.invokestatic 54, 3) := dk_184 0 54 (dk_at dksX5_told_0 4 rfl rfl)
theorem dX5_told_7 : decode cX5_told 7 = .ok (.ifCond .ne 5, 3) := dk_154 0 5 (dk_at dksX5_told_0 7 rfl rfl)
theorem dX5_told_10 : decode cX5_told 10 = .ok (.iconst (-1), 1) := dk_2 (dk_at dksX5_told_0 10 rfl rfl)
theorem dX5_told_11 : decode cX5_told 11 = .ok (.ireturn, 1) := dk_172 (dk_at dksX5_told_0 11 rfl rfl)
theorem dX5_told_12 : decode cX5_told 12 = .ok (.iload_n 1, 1) := dk_27 (dk_at dksX5_told_0 12 rfl rfl)
theorem dX5_told_13 : decode cX5_told 13 = .ok (.iconst 4, 1) := dk_7 (dk_at dksX5_told_0 13 rfl rfl)
theorem dX5_told_14 : decode cX5_told 14 = .ok (.if_icmp .ge 16, 3) := dk_162 0 16 (dk_at dksX5_told_0 14 rfl rfl)
theorem dX5_told_17 : decode cX5_told 17 = .ok (.aload_n 0, 1) := dk_42 (dk_at dksX5_told_0 17 rfl rfl)
theorem dX5_told_18 : decode cX5_told 18 = .ok (.getfield 11, 3) := dk_180 0 11 (dk_at dksX5_told_0 18 rfl rfl)
theorem dX5_told_21 : decode cX5_told 21 = .ok (.sipush 3200, 3) := dk_17 12 128 (dk_at dksX5_told_0 21 rfl rfl)
theorem dX5_told_24 : decode cX5_told 24 = .ok (.iload_n 1, 1) := dk_27 (dk_at dksX5_told_1 0 rfl rfl)
theorem dX5_told_25 : decode cX5_told 25 = .ok (.iadd, 1) := dk_96 (dk_at dksX5_told_1 1 rfl rfl)
theorem dX5_told_26 : decode cX5_told 26 = .ok (.iaload, 1) := dk_46 (dk_at dksX5_told_1 2 rfl rfl)
theorem dX5_told_27 : decode cX5_told 27 = .ok (.goto 37, 3) := dk_167 0 37 (dk_at dksX5_told_1 3 rfl rfl)
theorem dX5_told_30 : decode cX5_told 30 = .ok (.iload_n 1, 1) := dk_27 (dk_at dksX5_told_1 6 rfl rfl)
theorem dX5_told_31 : decode cX5_told 31 = .ok (.bipush 8, 2) := dk_16 8 (dk_at dksX5_told_1 7 rfl rfl)
theorem dX5_told_33 : decode cX5_told 33 = .ok (.if_icmp .ge 18, 3) := dk_162 0 18 (dk_at dksX5_told_1 9 rfl rfl)
theorem dX5_told_36 : decode cX5_told 36 = .ok (.aload_n 0, 1) := dk_42 (dk_at dksX5_told_1 12 rfl rfl)
theorem dX5_told_37 : decode cX5_told 37 = .ok (.getfield 11, 3) := dk_180 0 11 (dk_at dksX5_told_1 13 rfl rfl)
theorem dX5_told_40 : decode cX5_told 40 = .ok (.sipush 3204, 3) := dk_17 12 132 (dk_at dksX5_told_1 16 rfl rfl)
theorem dX5_told_43 : decode cX5_told 43 = .ok (.iload_n 1, 1) := dk_27 (dk_at dksX5_told_1 19 rfl rfl)
theorem dX5_told_44 : decode cX5_told 44 = .ok (.iadd, 1) := dk_96 (dk_at dksX5_told_1 20 rfl rfl)
theorem dX5_told_45 : decode cX5_told 45 = .ok (.iconst 3, 1) := dk_6 (dk_at dksX5_told_1 21 rfl rfl)
theorem dX5_told_46 : decode cX5_told 46 = .ok (.isub, 1) := dk_100 (dk_at dksX5_told_1 22 rfl rfl)
theorem dX5_told_47 : decode cX5_told 47 = .ok (.iaload, 1) := dk_46 (dk_at dksX5_told_1 23 rfl rfl)
theorem dX5_told_48 : decode cX5_told 48 = .ok (.goto 16, 3) := dk_167 0 16 (dk_at dksX5_told_2 0 rfl rfl)
theorem dX5_told_51 : decode cX5_told 51 = .ok (.aload_n 0, 1) := dk_42 (dk_at dksX5_told_2 3 rfl rfl)
theorem dX5_told_52 : decode cX5_told 52 = .ok (.getfield 11, 3) := dk_180 0 11 (dk_at dksX5_told_2 4 rfl rfl)
theorem dX5_told_55 : decode cX5_told 55 = .ok (.sipush 3209, 3) := dk_17 12 137 (dk_at dksX5_told_2 7 rfl rfl)
theorem dX5_told_58 : decode cX5_told 58 = .ok (.iload_n 1, 1) := dk_27 (dk_at dksX5_told_2 10 rfl rfl)
theorem dX5_told_59 : decode cX5_told 59 = .ok (.iadd, 1) := dk_96 (dk_at dksX5_told_2 11 rfl rfl)
theorem dX5_told_60 : decode cX5_told 60 = .ok (.bipush 8, 2) := dk_16 8 (dk_at dksX5_told_2 12 rfl rfl)
theorem dX5_told_62 : decode cX5_told 62 = .ok (.isub, 1) := dk_100 (dk_at dksX5_told_2 14 rfl rfl)
theorem dX5_told_63 : decode cX5_told 63 = .ok (.iaload, 1) := dk_46 (dk_at dksX5_told_2 15 rfl rfl)
theorem dX5_told_64 : decode cX5_told 64 = .ok (.ireturn, 1) := dk_172 (dk_at dksX5_told_2 16 rfl rfl)
abbrev cX5_put : ByteArray := prog_13_method_20_code
def yX5_put : MethodName := ⟨RX5, "put", "(IIIII)I"⟩
def dkwX5_put_2 : List UInt8 := [16, 252, 167, 0, 18, 42, 16, 100, 27, 104, 28, 96, 29, 21, 4, 21, 5, 182, 0, 100, 172]
abbrev dktX5_put_2 : List UInt8 := dkwX5_put_2 ++ []
def dkwX5_put_1 : List UInt8 := [16, 99, 184, 0, 54, 154, 0, 6, 16, 254, 172, 21, 4, 42, 180, 0, 11, 17, 12, 128, 46, 164, 0, 8]
abbrev dktX5_put_1 : List UInt8 := dkwX5_put_1 ++ dktX5_put_2
def dkwX5_put_0 : List UInt8 := [27, 28, 184, 0, 96, 154, 0, 5, 2, 172, 21, 4, 4, 16, 9, 184, 0, 54, 153, 0, 14, 21, 5, 3]
abbrev dktX5_put_0 : List UInt8 := dkwX5_put_0 ++ dktX5_put_1
theorem dksX5_put_0 : cX5_put.data.toList.drop 0 = dktX5_put_0 := by decide +kernel
theorem dksX5_put_1 : cX5_put.data.toList.drop 24 = dktX5_put_1 := dk_seg dksX5_put_0 24 rfl rfl
theorem dksX5_put_2 : cX5_put.data.toList.drop 48 = dktX5_put_2 := dk_seg dksX5_put_1 24 rfl rfl
theorem dX5_put_0 : decode cX5_put 0 = .ok (.iload_n 1, 1) := dk_27 (dk_at dksX5_put_0 0 rfl rfl)
theorem dX5_put_1 : decode cX5_put 1 = .ok (.iload_n 2, 1) := dk_28 (dk_at dksX5_put_0 1 rfl rfl)
theorem dX5_put_2 : decode cX5_put 2 = .ok (.invokestatic 96, 3) := dk_184 0 96 (dk_at dksX5_put_0 2 rfl rfl)
theorem dX5_put_5 : decode cX5_put 5 = .ok (.ifCond .ne 5, 3) := dk_154 0 5 (dk_at dksX5_put_0 5 rfl rfl)
theorem dX5_put_8 : decode cX5_put 8 = .ok (.iconst (-1), 1) := dk_2 (dk_at dksX5_put_0 8 rfl rfl)
theorem dX5_put_9 : decode cX5_put 9 = .ok (.ireturn, 1) := dk_172 (dk_at dksX5_put_0 9 rfl rfl)
theorem dX5_put_10 : decode cX5_put 10 = .ok (.iload 4, 2) := dk_21 4 (dk_at dksX5_put_0 10 rfl rfl)
theorem dX5_put_12 : decode cX5_put 12 = .ok (.iconst 1, 1) := dk_4 (dk_at dksX5_put_0 12 rfl rfl)
theorem dX5_put_13 : decode cX5_put 13 = .ok (.bipush 9, 2) := dk_16 9 (dk_at dksX5_put_0 13 rfl rfl)
theorem dX5_put_15 : decode cX5_put 15 = .ok (.invokestatic 54, 3) := dk_184 0 54 (dk_at dksX5_put_0 15 rfl rfl)
theorem dX5_put_18 : decode cX5_put 18 = .ok (.ifCond .eq 14, 3) := dk_153 0 14 (dk_at dksX5_put_0 18 rfl rfl)
theorem dX5_put_21 : decode cX5_put 21 = .ok (.iload 5, 2) := dk_21 5 (dk_at dksX5_put_0 21 rfl rfl)
theorem dX5_put_23 : decode cX5_put 23 = .ok (.iconst 0, 1) := dk_3 (dk_at dksX5_put_0 23 rfl rfl)
theorem dX5_put_24 : decode cX5_put 24 = .ok (.bipush 99, 2) := dk_16 99 (dk_at dksX5_put_1 0 rfl rfl)
theorem dX5_put_26 : decode cX5_put 26 = .ok (.invokestatic 54, 3) := dk_184 0 54 (dk_at dksX5_put_1 2 rfl rfl)
theorem dX5_put_29 : decode cX5_put 29 = .ok (.ifCond .ne 6, 3) := dk_154 0 6 (dk_at dksX5_put_1 5 rfl rfl)
theorem dX5_put_32 : decode cX5_put 32 = .ok (.bipush (-2), 2) := dk_16 254 (dk_at dksX5_put_1 8 rfl rfl)
theorem dX5_put_34 : decode cX5_put 34 = .ok (.ireturn, 1) := dk_172 (dk_at dksX5_put_1 10 rfl rfl)
theorem dX5_put_35 : decode cX5_put 35 = .ok (.iload 4, 2) := dk_21 4 (dk_at dksX5_put_1 11 rfl rfl)
theorem dX5_put_37 : decode cX5_put 37 = .ok (.aload_n 0, 1) := dk_42 (dk_at dksX5_put_1 13 rfl rfl)
theorem dX5_put_38 : decode cX5_put 38 = .ok (.getfield 11, 3) := dk_180 0 11 (dk_at dksX5_put_1 14 rfl rfl)
theorem dX5_put_41 : decode cX5_put 41 = .ok (.sipush 3200, 3) := dk_17 12 128 (dk_at dksX5_put_1 17 rfl rfl)
theorem dX5_put_44 : decode cX5_put 44 = .ok (.iaload, 1) := dk_46 (dk_at dksX5_put_1 20 rfl rfl)
theorem dX5_put_45 : decode cX5_put 45 = .ok (.if_icmp .le 8, 3) := dk_164 0 8 (dk_at dksX5_put_1 21 rfl rfl)
theorem dX5_put_48 : decode cX5_put 48 = .ok (.bipush (-4), 2) := dk_16 252 (dk_at dksX5_put_2 0 rfl rfl)
theorem dX5_put_50 : decode cX5_put 50 = .ok (.goto 18, 3) := dk_167 0 18 (dk_at dksX5_put_2 2 rfl rfl)
theorem dX5_put_53 : decode cX5_put 53 = .ok (.aload_n 0, 1) := dk_42 (dk_at dksX5_put_2 5 rfl rfl)
theorem dX5_put_54 : decode cX5_put 54 = .ok (.bipush 100, 2) := dk_16 100 (dk_at dksX5_put_2 6 rfl rfl)
theorem dX5_put_56 : decode cX5_put 56 = .ok (.iload_n 1, 1) := dk_27 (dk_at dksX5_put_2 8 rfl rfl)
theorem dX5_put_57 : decode cX5_put 57 = .ok (.imul, 1) := dk_104 (dk_at dksX5_put_2 9 rfl rfl)
theorem dX5_put_58 : decode cX5_put 58 = .ok (.iload_n 2, 1) := dk_28 (dk_at dksX5_put_2 10 rfl rfl)
theorem dX5_put_59 : decode cX5_put 59 = .ok (.iadd, 1) := dk_96 (dk_at dksX5_put_2 11 rfl rfl)
theorem dX5_put_60 : decode cX5_put 60 = .ok (.iload_n 3, 1) := dk_29 (dk_at dksX5_put_2 12 rfl rfl)
theorem dX5_put_61 : decode cX5_put 61 = .ok (.iload 4, 2) := dk_21 4 (dk_at dksX5_put_2 13 rfl rfl)
theorem dX5_put_63 : decode cX5_put 63 = .ok (.iload 5, 2) := dk_21 5 (dk_at dksX5_put_2 15 rfl rfl)
theorem dX5_put_65 : decode cX5_put 65 = .ok (.invokevirtual 100, 3) := dk_182 0 100 (dk_at dksX5_put_2 17 rfl rfl)
theorem dX5_put_68 : decode cX5_put 68 = .ok (.ireturn, 1) := dk_172 (dk_at dksX5_put_2 20 rfl rfl)
abbrev cX5_isKey : ByteArray := prog_13_method_3_code
def yX5_isKey : MethodName := ⟨RX5, "isKey", "(II)Z"⟩
def dkwX5_isKey_1 : List UInt8 := [172]
abbrev dktX5_isKey_1 : List UInt8 := dkwX5_isKey_1 ++ []
def dkwX5_isKey_0 : List UInt8 := [26, 3, 6, 184, 0, 54, 153, 0, 17, 27, 3, 16, 99, 184, 0, 54, 153, 0, 7, 4, 167, 0, 4, 3]
abbrev dktX5_isKey_0 : List UInt8 := dkwX5_isKey_0 ++ dktX5_isKey_1
theorem dksX5_isKey_0 : cX5_isKey.data.toList.drop 0 = dktX5_isKey_0 := by decide +kernel
theorem dksX5_isKey_1 : cX5_isKey.data.toList.drop 24 = dktX5_isKey_1 := dk_seg dksX5_isKey_0 24 rfl rfl
theorem dX5_isKey_0 : decode cX5_isKey 0 = .ok (.iload_n 0, 1) := dk_26 (dk_at dksX5_isKey_0 0 rfl rfl)
theorem dX5_isKey_1 : decode cX5_isKey 1 = .ok (.iconst 0, 1) := dk_3 (dk_at dksX5_isKey_0 1 rfl rfl)
theorem dX5_isKey_2 : decode cX5_isKey 2 = .ok (.iconst 3, 1) := dk_6 (dk_at dksX5_isKey_0 2 rfl rfl)
theorem dX5_isKey_3 : decode cX5_isKey 3 = .ok (.invokestatic 54, 3) := dk_184 0 54 (dk_at dksX5_isKey_0 3 rfl rfl)
theorem dX5_isKey_6 : decode cX5_isKey 6 = .ok (.ifCond .eq 17, 3) := dk_153 0 17 (dk_at dksX5_isKey_0 6 rfl rfl)
theorem dX5_isKey_9 : decode cX5_isKey 9 = .ok (.iload_n 1, 1) := dk_27 (dk_at dksX5_isKey_0 9 rfl rfl)
theorem dX5_isKey_10 : decode cX5_isKey 10 = .ok (.iconst 0, 1) := dk_3 (dk_at dksX5_isKey_0 10 rfl rfl)
theorem dX5_isKey_11 : decode cX5_isKey 11 = .ok (.bipush 99, 2) := dk_16 99 (dk_at dksX5_isKey_0 11 rfl rfl)
theorem dX5_isKey_13 : decode cX5_isKey 13 = .ok (.invokestatic 54, 3) := dk_184 0 54 (dk_at dksX5_isKey_0 13 rfl rfl)
theorem dX5_isKey_16 : decode cX5_isKey 16 = .ok (.ifCond .eq 7, 3) := dk_153 0 7 (dk_at dksX5_isKey_0 16 rfl rfl)
theorem dX5_isKey_19 : decode cX5_isKey 19 = .ok (.iconst 1, 1) := dk_4 (dk_at dksX5_isKey_0 19 rfl rfl)
theorem dX5_isKey_20 : decode cX5_isKey 20 = .ok (.goto 4, 3) := dk_167 0 4 (dk_at dksX5_isKey_0 20 rfl rfl)
theorem dX5_isKey_23 : decode cX5_isKey 23 = .ok (.iconst 0, 1) := dk_3 (dk_at dksX5_isKey_0 23 rfl rfl)
theorem dX5_isKey_24 : decode cX5_isKey 24 = .ok (.ireturn, 1) := dk_172 (dk_at dksX5_isKey_1 0 rfl rfl)
abbrev cX5_putIn : ByteArray := prog_13_method_14_code
def yX5_putIn : MethodName := ⟨RX5, "putIn", "(IIII)I"⟩
def dkwX5_putIn_10 : List UInt8 := [182, 0, 58, 42, 182, 0, 86, 21, 5, 154, 0, 7, 3, 167, 0, 4, 4, 172]
abbrev dktX5_putIn_10 : List UInt8 := dkwX5_putIn_10 ++ []
def dkwX5_putIn_9 : List UInt8 := [167, 0, 11, 42, 180, 0, 11, 17, 12, 128, 46, 79, 42, 27, 21, 5, 154, 0, 7, 4, 167, 0, 4, 5]
abbrev dktX5_putIn_9 : List UInt8 := dkwX5_putIn_9 ++ dktX5_putIn_10
def dkwX5_putIn_8 : List UInt8 := [29, 96, 42, 180, 0, 11, 17, 12, 128, 46, 162, 0, 16, 42, 180, 0, 11, 17, 12, 129, 46, 29, 96]
abbrev dktX5_putIn_8 : List UInt8 := dkwX5_putIn_8 ++ dktX5_putIn_9
def dkwX5_putIn_7 : List UInt8 := [167, 0, 59, 21, 5, 7, 160, 0, 53, 42, 180, 0, 11, 17, 12, 129, 42, 180, 0, 11, 17, 12, 129, 46]
abbrev dktX5_putIn_7 : List UInt8 := dkwX5_putIn_7 ++ dktX5_putIn_8
def dkwX5_putIn_6 : List UInt8 := [17, 12, 129, 46, 29, 164, 0, 16, 42, 180, 0, 11, 17, 12, 129, 46, 29, 100, 167, 0, 4, 3, 79]
abbrev dktX5_putIn_6 : List UInt8 := dkwX5_putIn_6 ++ dktX5_putIn_7
def dkwX5_putIn_5 : List UInt8 := [167, 0, 4, 3, 79, 21, 5, 6, 160, 0, 40, 42, 180, 0, 11, 17, 12, 129, 42, 180, 0, 11]
abbrev dktX5_putIn_5 : List UInt8 := dkwX5_putIn_5 ++ dktX5_putIn_6
def dkwX5_putIn_4 : List UInt8 := [3, 79, 42, 180, 0, 11, 17, 7, 208, 27, 96, 21, 5, 154, 0, 14, 42, 180, 0, 11, 17, 12, 131, 46]
abbrev dktX5_putIn_4 : List UInt8 := dkwX5_putIn_4 ++ dktX5_putIn_5
def dkwX5_putIn_3 : List UInt8 := [21, 4, 96, 79, 42, 180, 0, 11, 17, 6, 64, 27, 96, 3, 79, 42, 180, 0, 11, 17, 9, 96, 27, 96]
abbrev dktX5_putIn_3 : List UInt8 := dkwX5_putIn_3 ++ dktX5_putIn_4
def dkwX5_putIn_2 : List UInt8 := [160, 0, 14, 42, 27, 182, 0, 82, 42, 182, 0, 86, 5, 172, 42, 180, 0, 11, 17, 12, 141, 92, 46]
abbrev dktX5_putIn_2 : List UInt8 := dkwX5_putIn_2 ++ dktX5_putIn_3
def dkwX5_putIn_1 : List UInt8 := [96, 28, 79, 42, 180, 0, 11, 17, 4, 176, 27, 96, 21, 4, 79, 21, 5, 4, 159, 0, 9, 21, 5, 5]
abbrev dktX5_putIn_1 : List UInt8 := dkwX5_putIn_1 ++ dktX5_putIn_2
def dkwX5_putIn_0 : List UInt8 := [42, 180, 0, 11, 3, 27, 96, 46, 54, 5, 42, 27, 29, 182, 0, 79, 42, 180, 0, 11, 17, 1, 144, 27]
abbrev dktX5_putIn_0 : List UInt8 := dkwX5_putIn_0 ++ dktX5_putIn_1
theorem dksX5_putIn_0 : cX5_putIn.data.toList.drop 0 = dktX5_putIn_0 := by decide +kernel
theorem dksX5_putIn_1 : cX5_putIn.data.toList.drop 24 = dktX5_putIn_1 := dk_seg dksX5_putIn_0 24 rfl rfl
theorem dksX5_putIn_2 : cX5_putIn.data.toList.drop 48 = dktX5_putIn_2 := dk_seg dksX5_putIn_1 24 rfl rfl
theorem dksX5_putIn_3 : cX5_putIn.data.toList.drop 71 = dktX5_putIn_3 := dk_seg dksX5_putIn_2 23 rfl rfl
theorem dksX5_putIn_4 : cX5_putIn.data.toList.drop 95 = dktX5_putIn_4 := dk_seg dksX5_putIn_3 24 rfl rfl
theorem dksX5_putIn_5 : cX5_putIn.data.toList.drop 119 = dktX5_putIn_5 := dk_seg dksX5_putIn_4 24 rfl rfl
theorem dksX5_putIn_6 : cX5_putIn.data.toList.drop 141 = dktX5_putIn_6 := dk_seg dksX5_putIn_5 22 rfl rfl
theorem dksX5_putIn_7 : cX5_putIn.data.toList.drop 164 = dktX5_putIn_7 := dk_seg dksX5_putIn_6 23 rfl rfl
theorem dksX5_putIn_8 : cX5_putIn.data.toList.drop 188 = dktX5_putIn_8 := dk_seg dksX5_putIn_7 24 rfl rfl
theorem dksX5_putIn_9 : cX5_putIn.data.toList.drop 211 = dktX5_putIn_9 := dk_seg dksX5_putIn_8 23 rfl rfl
theorem dksX5_putIn_10 : cX5_putIn.data.toList.drop 235 = dktX5_putIn_10 := dk_seg dksX5_putIn_9 24 rfl rfl
theorem dX5_putIn_0 : decode cX5_putIn 0 = .ok (.aload_n 0, 1) := dk_42 (dk_at dksX5_putIn_0 0 rfl rfl)
theorem dX5_putIn_1 : decode cX5_putIn 1 = .ok (.getfield 11, 3) := dk_180 0 11 (dk_at dksX5_putIn_0 1 rfl rfl)
theorem dX5_putIn_4 : decode cX5_putIn 4 = .ok (.iconst 0, 1) := dk_3 (dk_at dksX5_putIn_0 4 rfl rfl)
theorem dX5_putIn_5 : decode cX5_putIn 5 = .ok (.iload_n 1, 1) := dk_27 (dk_at dksX5_putIn_0 5 rfl rfl)
theorem dX5_putIn_6 : decode cX5_putIn 6 = .ok (.iadd, 1) := dk_96 (dk_at dksX5_putIn_0 6 rfl rfl)
theorem dX5_putIn_7 : decode cX5_putIn 7 = .ok (.iaload, 1) := dk_46 (dk_at dksX5_putIn_0 7 rfl rfl)
theorem dX5_putIn_8 : decode cX5_putIn 8 = .ok (.istore 5, 2) := dk_54 5 (dk_at dksX5_putIn_0 8 rfl rfl)
theorem dX5_putIn_10 : decode cX5_putIn 10 = .ok (.aload_n 0, 1) := dk_42 (dk_at dksX5_putIn_0 10 rfl rfl)
theorem dX5_putIn_11 : decode cX5_putIn 11 = .ok (.iload_n 1, 1) := dk_27 (dk_at dksX5_putIn_0 11 rfl rfl)
theorem dX5_putIn_12 : decode cX5_putIn 12 = .ok (.iload_n 3, 1) := dk_29 (dk_at dksX5_putIn_0 12 rfl rfl)
theorem dX5_putIn_13 : decode cX5_putIn 13 = .ok (.invokevirtual 79, 3) := dk_182 0 79 (dk_at dksX5_putIn_0 13 rfl rfl)
theorem dX5_putIn_16 : decode cX5_putIn 16 = .ok (.aload_n 0, 1) := dk_42 (dk_at dksX5_putIn_0 16 rfl rfl)
theorem dX5_putIn_17 : decode cX5_putIn 17 = .ok (.getfield 11, 3) := dk_180 0 11 (dk_at dksX5_putIn_0 17 rfl rfl)
theorem dX5_putIn_20 : decode cX5_putIn 20 = .ok (.sipush 400, 3) := dk_17 1 144 (dk_at dksX5_putIn_0 20 rfl rfl)
theorem dX5_putIn_23 : decode cX5_putIn 23 = .ok (.iload_n 1, 1) := dk_27 (dk_at dksX5_putIn_0 23 rfl rfl)
theorem dX5_putIn_24 : decode cX5_putIn 24 = .ok (.iadd, 1) := dk_96 (dk_at dksX5_putIn_1 0 rfl rfl)
theorem dX5_putIn_25 : decode cX5_putIn 25 = .ok (.iload_n 2, 1) := dk_28 (dk_at dksX5_putIn_1 1 rfl rfl)
theorem dX5_putIn_26 : decode cX5_putIn 26 = .ok (.iastore, 1) := dk_79 (dk_at dksX5_putIn_1 2 rfl rfl)
theorem dX5_putIn_27 : decode cX5_putIn 27 = .ok (.aload_n 0, 1) := dk_42 (dk_at dksX5_putIn_1 3 rfl rfl)
theorem dX5_putIn_28 : decode cX5_putIn 28 = .ok (.getfield 11, 3) := dk_180 0 11 (dk_at dksX5_putIn_1 4 rfl rfl)
theorem dX5_putIn_31 : decode cX5_putIn 31 = .ok (.sipush 1200, 3) := dk_17 4 176 (dk_at dksX5_putIn_1 7 rfl rfl)
theorem dX5_putIn_34 : decode cX5_putIn 34 = .ok (.iload_n 1, 1) := dk_27 (dk_at dksX5_putIn_1 10 rfl rfl)
theorem dX5_putIn_35 : decode cX5_putIn 35 = .ok (.iadd, 1) := dk_96 (dk_at dksX5_putIn_1 11 rfl rfl)
theorem dX5_putIn_36 : decode cX5_putIn 36 = .ok (.iload 4, 2) := dk_21 4 (dk_at dksX5_putIn_1 12 rfl rfl)
theorem dX5_putIn_38 : decode cX5_putIn 38 = .ok (.iastore, 1) := dk_79 (dk_at dksX5_putIn_1 14 rfl rfl)
theorem dX5_putIn_39 : decode cX5_putIn 39 = .ok (.iload 5, 2) := dk_21 5 (dk_at dksX5_putIn_1 15 rfl rfl)
theorem dX5_putIn_41 : decode cX5_putIn 41 = .ok (.iconst 1, 1) := dk_4 (dk_at dksX5_putIn_1 17 rfl rfl)
theorem dX5_putIn_42 : decode cX5_putIn 42 = .ok (.if_icmp .eq 9, 3) := dk_159 0 9 (dk_at dksX5_putIn_1 18 rfl rfl)
theorem dX5_putIn_45 : decode cX5_putIn 45 = .ok (.iload 5, 2) := dk_21 5 (dk_at dksX5_putIn_1 21 rfl rfl)
theorem dX5_putIn_47 : decode cX5_putIn 47 = .ok (.iconst 2, 1) := dk_5 (dk_at dksX5_putIn_1 23 rfl rfl)
theorem dX5_putIn_48 : decode cX5_putIn 48 = .ok (.if_icmp .ne 14, 3) := dk_160 0 14 (dk_at dksX5_putIn_2 0 rfl rfl)
theorem dX5_putIn_51 : decode cX5_putIn 51 = .ok (.aload_n 0, 1) := dk_42 (dk_at dksX5_putIn_2 3 rfl rfl)
theorem dX5_putIn_52 : decode cX5_putIn 52 = .ok (.iload_n 1, 1) := dk_27 (dk_at dksX5_putIn_2 4 rfl rfl)
theorem dX5_putIn_53 : decode cX5_putIn 53 = .ok (.invokevirtual 82, 3) := dk_182 0 82 (dk_at dksX5_putIn_2 5 rfl rfl)
theorem dX5_putIn_56 : decode cX5_putIn 56 = .ok (.aload_n 0, 1) := dk_42 (dk_at dksX5_putIn_2 8 rfl rfl)
theorem dX5_putIn_57 : decode cX5_putIn 57 = .ok (.invokevirtual 86, 3) := dk_182 0 86 (dk_at dksX5_putIn_2 9 rfl rfl)
theorem dX5_putIn_60 : decode cX5_putIn 60 = .ok (.iconst 2, 1) := dk_5 (dk_at dksX5_putIn_2 12 rfl rfl)
theorem dX5_putIn_61 : decode cX5_putIn 61 = .ok (.ireturn, 1) := dk_172 (dk_at dksX5_putIn_2 13 rfl rfl)
theorem dX5_putIn_62 : decode cX5_putIn 62 = .ok (.aload_n 0, 1) := dk_42 (dk_at dksX5_putIn_2 14 rfl rfl)
theorem dX5_putIn_63 : decode cX5_putIn 63 = .ok (.getfield 11, 3) := dk_180 0 11 (dk_at dksX5_putIn_2 15 rfl rfl)
theorem dX5_putIn_66 : decode cX5_putIn 66 = .ok (.sipush 3213, 3) := dk_17 12 141 (dk_at dksX5_putIn_2 18 rfl rfl)
theorem dX5_putIn_69 : decode cX5_putIn 69 = .ok (.dup2, 1) := dk_92 (dk_at dksX5_putIn_2 21 rfl rfl)
theorem dX5_putIn_70 : decode cX5_putIn 70 = .ok (.iaload, 1) := dk_46 (dk_at dksX5_putIn_2 22 rfl rfl)
theorem dX5_putIn_71 : decode cX5_putIn 71 = .ok (.iload 4, 2) := dk_21 4 (dk_at dksX5_putIn_3 0 rfl rfl)
theorem dX5_putIn_73 : decode cX5_putIn 73 = .ok (.iadd, 1) := dk_96 (dk_at dksX5_putIn_3 2 rfl rfl)
theorem dX5_putIn_74 : decode cX5_putIn 74 = .ok (.iastore, 1) := dk_79 (dk_at dksX5_putIn_3 3 rfl rfl)
theorem dX5_putIn_75 : decode cX5_putIn 75 = .ok (.aload_n 0, 1) := dk_42 (dk_at dksX5_putIn_3 4 rfl rfl)
theorem dX5_putIn_76 : decode cX5_putIn 76 = .ok (.getfield 11, 3) := dk_180 0 11 (dk_at dksX5_putIn_3 5 rfl rfl)
theorem dX5_putIn_79 : decode cX5_putIn 79 = .ok (.sipush 1600, 3) := dk_17 6 64 (dk_at dksX5_putIn_3 8 rfl rfl)
theorem dX5_putIn_82 : decode cX5_putIn 82 = .ok (.iload_n 1, 1) := dk_27 (dk_at dksX5_putIn_3 11 rfl rfl)
theorem dX5_putIn_83 : decode cX5_putIn 83 = .ok (.iadd, 1) := dk_96 (dk_at dksX5_putIn_3 12 rfl rfl)
theorem dX5_putIn_84 : decode cX5_putIn 84 = .ok (.iconst 0, 1) := dk_3 (dk_at dksX5_putIn_3 13 rfl rfl)
theorem dX5_putIn_85 : decode cX5_putIn 85 = .ok (.iastore, 1) := dk_79 (dk_at dksX5_putIn_3 14 rfl rfl)
theorem dX5_putIn_86 : decode cX5_putIn 86 = .ok (.aload_n 0, 1) := dk_42 (dk_at dksX5_putIn_3 15 rfl rfl)
theorem dX5_putIn_87 : decode cX5_putIn 87 = .ok (.getfield 11, 3) := dk_180 0 11 (dk_at dksX5_putIn_3 16 rfl rfl)
theorem dX5_putIn_90 : decode cX5_putIn 90 = .ok (.sipush 2400, 3) := dk_17 9 96 (dk_at dksX5_putIn_3 19 rfl rfl)
theorem dX5_putIn_93 : decode cX5_putIn 93 = .ok (.iload_n 1, 1) := dk_27 (dk_at dksX5_putIn_3 22 rfl rfl)
theorem dX5_putIn_94 : decode cX5_putIn 94 = .ok (.iadd, 1) := dk_96 (dk_at dksX5_putIn_3 23 rfl rfl)
theorem dX5_putIn_95 : decode cX5_putIn 95 = .ok (.iconst 0, 1) := dk_3 (dk_at dksX5_putIn_4 0 rfl rfl)
theorem dX5_putIn_96 : decode cX5_putIn 96 = .ok (.iastore, 1) := dk_79 (dk_at dksX5_putIn_4 1 rfl rfl)
theorem dX5_putIn_97 : decode cX5_putIn 97 = .ok (.aload_n 0, 1) := dk_42 (dk_at dksX5_putIn_4 2 rfl rfl)
theorem dX5_putIn_98 : decode cX5_putIn 98 = .ok (.getfield 11, 3) := dk_180 0 11 (dk_at dksX5_putIn_4 3 rfl rfl)
theorem dX5_putIn_101 : decode cX5_putIn 101 = .ok (.sipush 2000, 3) := dk_17 7 208 (dk_at dksX5_putIn_4 6 rfl rfl)
theorem dX5_putIn_104 : decode cX5_putIn 104 = .ok (.iload_n 1, 1) := dk_27 (dk_at dksX5_putIn_4 9 rfl rfl)
theorem dX5_putIn_105 : decode cX5_putIn 105 = .ok (.iadd, 1) := dk_96 (dk_at dksX5_putIn_4 10 rfl rfl)
theorem dX5_putIn_106 : decode cX5_putIn 106 = .ok (.iload 5, 2) := dk_21 5 (dk_at dksX5_putIn_4 11 rfl rfl)
theorem dX5_putIn_108 : decode cX5_putIn 108 = .ok (.ifCond .ne 14, 3) := dk_154 0 14 (dk_at dksX5_putIn_4 13 rfl rfl)
theorem dX5_putIn_111 : decode cX5_putIn 111 = .ok (.aload_n 0, 1) := dk_42 (dk_at dksX5_putIn_4 16 rfl rfl)
theorem dX5_putIn_112 : decode cX5_putIn 112 = .ok (.getfield 11, 3) := dk_180 0 11 (dk_at dksX5_putIn_4 17 rfl rfl)
theorem dX5_putIn_115 : decode cX5_putIn 115 = .ok (.sipush 3203, 3) := dk_17 12 131 (dk_at dksX5_putIn_4 20 rfl rfl)
theorem dX5_putIn_118 : decode cX5_putIn 118 = .ok (.iaload, 1) := dk_46 (dk_at dksX5_putIn_4 23 rfl rfl)
theorem dX5_putIn_119 : decode cX5_putIn 119 = .ok (.goto 4, 3) := dk_167 0 4 (dk_at dksX5_putIn_5 0 rfl rfl)
theorem dX5_putIn_122 : decode cX5_putIn 122 = .ok (.iconst 0, 1) := dk_3 (dk_at dksX5_putIn_5 3 rfl rfl)
theorem dX5_putIn_123 : decode cX5_putIn 123 = .ok (.iastore, 1) := dk_79 (dk_at dksX5_putIn_5 4 rfl rfl)
theorem dX5_putIn_124 : decode cX5_putIn 124 = .ok (.iload 5, 2) := dk_21 5 (dk_at dksX5_putIn_5 5 rfl rfl)
theorem dX5_putIn_126 : decode cX5_putIn 126 = .ok (.iconst 3, 1) := dk_6 (dk_at dksX5_putIn_5 7 rfl rfl)
theorem dX5_putIn_127 : decode cX5_putIn 127 = .ok (.if_icmp .ne 40, 3) := dk_160 0 40 (dk_at dksX5_putIn_5 8 rfl rfl)
theorem dX5_putIn_130 : decode cX5_putIn 130 = .ok (.aload_n 0, 1) := dk_42 (dk_at dksX5_putIn_5 11 rfl rfl)
theorem dX5_putIn_131 : decode cX5_putIn 131 = .ok (.getfield 11, 3) := dk_180 0 11 (dk_at dksX5_putIn_5 12 rfl rfl)
theorem dX5_putIn_134 : decode cX5_putIn 134 = .ok (.sipush 3201, 3) := dk_17 12 129 (dk_at dksX5_putIn_5 15 rfl rfl)
theorem dX5_putIn_137 : decode cX5_putIn 137 = .ok (.aload_n 0, 1) := dk_42 (dk_at dksX5_putIn_5 18 rfl rfl)
theorem dX5_putIn_138 : decode cX5_putIn 138 = .ok (.getfield 11, 3) := dk_180 0 11 (dk_at dksX5_putIn_5 19 rfl rfl)
theorem dX5_putIn_141 : decode cX5_putIn 141 = .ok (.sipush 3201, 3) := dk_17 12 129 (dk_at dksX5_putIn_6 0 rfl rfl)
theorem dX5_putIn_144 : decode cX5_putIn 144 = .ok (.iaload, 1) := dk_46 (dk_at dksX5_putIn_6 3 rfl rfl)
theorem dX5_putIn_145 : decode cX5_putIn 145 = .ok (.iload_n 3, 1) := dk_29 (dk_at dksX5_putIn_6 4 rfl rfl)
theorem dX5_putIn_146 : decode cX5_putIn 146 = .ok (.if_icmp .le 16, 3) := dk_164 0 16 (dk_at dksX5_putIn_6 5 rfl rfl)
theorem dX5_putIn_149 : decode cX5_putIn 149 = .ok (.aload_n 0, 1) := dk_42 (dk_at dksX5_putIn_6 8 rfl rfl)
theorem dX5_putIn_150 : decode cX5_putIn 150 = .ok (.getfield 11, 3) := dk_180 0 11 (dk_at dksX5_putIn_6 9 rfl rfl)
theorem dX5_putIn_153 : decode cX5_putIn 153 = .ok (.sipush 3201, 3) := dk_17 12 129 (dk_at dksX5_putIn_6 12 rfl rfl)
theorem dX5_putIn_156 : decode cX5_putIn 156 = .ok (.iaload, 1) := dk_46 (dk_at dksX5_putIn_6 15 rfl rfl)
theorem dX5_putIn_157 : decode cX5_putIn 157 = .ok (.iload_n 3, 1) := dk_29 (dk_at dksX5_putIn_6 16 rfl rfl)
theorem dX5_putIn_158 : decode cX5_putIn 158 = .ok (.isub, 1) := dk_100 (dk_at dksX5_putIn_6 17 rfl rfl)
theorem dX5_putIn_159 : decode cX5_putIn 159 = .ok (.goto 4, 3) := dk_167 0 4 (dk_at dksX5_putIn_6 18 rfl rfl)
theorem dX5_putIn_162 : decode cX5_putIn 162 = .ok (.iconst 0, 1) := dk_3 (dk_at dksX5_putIn_6 21 rfl rfl)
theorem dX5_putIn_163 : decode cX5_putIn 163 = .ok (.iastore, 1) := dk_79 (dk_at dksX5_putIn_6 22 rfl rfl)
theorem dX5_putIn_164 : decode cX5_putIn 164 = .ok (.goto 59, 3) := dk_167 0 59 (dk_at dksX5_putIn_7 0 rfl rfl)
theorem dX5_putIn_167 : decode cX5_putIn 167 = .ok (.iload 5, 2) := dk_21 5 (dk_at dksX5_putIn_7 3 rfl rfl)
theorem dX5_putIn_169 : decode cX5_putIn 169 = .ok (.iconst 4, 1) := dk_7 (dk_at dksX5_putIn_7 5 rfl rfl)
theorem dX5_putIn_170 : decode cX5_putIn 170 = .ok (.if_icmp .ne 53, 3) := dk_160 0 53 (dk_at dksX5_putIn_7 6 rfl rfl)
theorem dX5_putIn_173 : decode cX5_putIn 173 = .ok (.aload_n 0, 1) := dk_42 (dk_at dksX5_putIn_7 9 rfl rfl)
theorem dX5_putIn_174 : decode cX5_putIn 174 = .ok (.getfield 11, 3) := dk_180 0 11 (dk_at dksX5_putIn_7 10 rfl rfl)
theorem dX5_putIn_177 : decode cX5_putIn 177 = .ok (.sipush 3201, 3) := dk_17 12 129 (dk_at dksX5_putIn_7 13 rfl rfl)
theorem dX5_putIn_180 : decode cX5_putIn 180 = .ok (.aload_n 0, 1) := dk_42 (dk_at dksX5_putIn_7 16 rfl rfl)
theorem dX5_putIn_181 : decode cX5_putIn 181 = .ok (.getfield 11, 3) := dk_180 0 11 (dk_at dksX5_putIn_7 17 rfl rfl)
theorem dX5_putIn_184 : decode cX5_putIn 184 = .ok (.sipush 3201, 3) := dk_17 12 129 (dk_at dksX5_putIn_7 20 rfl rfl)
theorem dX5_putIn_187 : decode cX5_putIn 187 = .ok (.iaload, 1) := dk_46 (dk_at dksX5_putIn_7 23 rfl rfl)
theorem dX5_putIn_188 : decode cX5_putIn 188 = .ok (.iload_n 3, 1) := dk_29 (dk_at dksX5_putIn_8 0 rfl rfl)
theorem dX5_putIn_189 : decode cX5_putIn 189 = .ok (.iadd, 1) := dk_96 (dk_at dksX5_putIn_8 1 rfl rfl)
theorem dX5_putIn_190 : decode cX5_putIn 190 = .ok (.aload_n 0, 1) := dk_42 (dk_at dksX5_putIn_8 2 rfl rfl)
theorem dX5_putIn_191 : decode cX5_putIn 191 = .ok (.getfield 11, 3) := dk_180 0 11 (dk_at dksX5_putIn_8 3 rfl rfl)
theorem dX5_putIn_194 : decode cX5_putIn 194 = .ok (.sipush 3200, 3) := dk_17 12 128 (dk_at dksX5_putIn_8 6 rfl rfl)
theorem dX5_putIn_197 : decode cX5_putIn 197 = .ok (.iaload, 1) := dk_46 (dk_at dksX5_putIn_8 9 rfl rfl)
theorem dX5_putIn_198 : decode cX5_putIn 198 = .ok (.if_icmp .ge 16, 3) := dk_162 0 16 (dk_at dksX5_putIn_8 10 rfl rfl)
theorem dX5_putIn_201 : decode cX5_putIn 201 = .ok (.aload_n 0, 1) := dk_42 (dk_at dksX5_putIn_8 13 rfl rfl)
theorem dX5_putIn_202 : decode cX5_putIn 202 = .ok (.getfield 11, 3) := dk_180 0 11 (dk_at dksX5_putIn_8 14 rfl rfl)
theorem dX5_putIn_205 : decode cX5_putIn 205 = .ok (.sipush 3201, 3) := dk_17 12 129 (dk_at dksX5_putIn_8 17 rfl rfl)
theorem dX5_putIn_208 : decode cX5_putIn 208 = .ok (.iaload, 1) := dk_46 (dk_at dksX5_putIn_8 20 rfl rfl)
theorem dX5_putIn_209 : decode cX5_putIn 209 = .ok (.iload_n 3, 1) := dk_29 (dk_at dksX5_putIn_8 21 rfl rfl)
theorem dX5_putIn_210 : decode cX5_putIn 210 = .ok (.iadd, 1) := dk_96 (dk_at dksX5_putIn_8 22 rfl rfl)
theorem dX5_putIn_211 : decode cX5_putIn 211 = .ok (.goto 11, 3) := dk_167 0 11 (dk_at dksX5_putIn_9 0 rfl rfl)
theorem dX5_putIn_214 : decode cX5_putIn 214 = .ok (.aload_n 0, 1) := dk_42 (dk_at dksX5_putIn_9 3 rfl rfl)
theorem dX5_putIn_215 : decode cX5_putIn 215 = .ok (.getfield 11, 3) := dk_180 0 11 (dk_at dksX5_putIn_9 4 rfl rfl)
theorem dX5_putIn_218 : decode cX5_putIn 218 = .ok (.sipush 3200, 3) := dk_17 12 128 (dk_at dksX5_putIn_9 7 rfl rfl)
theorem dX5_putIn_221 : decode cX5_putIn 221 = .ok (.iaload, 1) := dk_46 (dk_at dksX5_putIn_9 10 rfl rfl)
theorem dX5_putIn_222 : decode cX5_putIn 222 = .ok (.iastore, 1) := dk_79 (dk_at dksX5_putIn_9 11 rfl rfl)
theorem dX5_putIn_223 : decode cX5_putIn 223 = .ok (.aload_n 0, 1) := dk_42 (dk_at dksX5_putIn_9 12 rfl rfl)
theorem dX5_putIn_224 : decode cX5_putIn 224 = .ok (.iload_n 1, 1) := dk_27 (dk_at dksX5_putIn_9 13 rfl rfl)
theorem dX5_putIn_225 : decode cX5_putIn 225 = .ok (.iload 5, 2) := dk_21 5 (dk_at dksX5_putIn_9 14 rfl rfl)
theorem dX5_putIn_227 : decode cX5_putIn 227 = .ok (.ifCond .ne 7, 3) := dk_154 0 7 (dk_at dksX5_putIn_9 16 rfl rfl)
theorem dX5_putIn_230 : decode cX5_putIn 230 = .ok (.iconst 1, 1) := dk_4 (dk_at dksX5_putIn_9 19 rfl rfl)
theorem dX5_putIn_231 : decode cX5_putIn 231 = .ok (.goto 4, 3) := dk_167 0 4 (dk_at dksX5_putIn_9 20 rfl rfl)
theorem dX5_putIn_234 : decode cX5_putIn 234 = .ok (.iconst 2, 1) := dk_5 (dk_at dksX5_putIn_9 23 rfl rfl)
theorem dX5_putIn_235 : decode cX5_putIn 235 = .ok (.invokevirtual 58, 3) := dk_182 0 58 (dk_at dksX5_putIn_10 0 rfl rfl)
theorem dX5_putIn_238 : decode cX5_putIn 238 = .ok (.aload_n 0, 1) := dk_42 (dk_at dksX5_putIn_10 3 rfl rfl)
theorem dX5_putIn_239 : decode cX5_putIn 239 = .ok (.invokevirtual 86, 3) := dk_182 0 86 (dk_at dksX5_putIn_10 4 rfl rfl)
theorem dX5_putIn_242 : decode cX5_putIn 242 = .ok (.iload 5, 2) := dk_21 5 (dk_at dksX5_putIn_10 7 rfl rfl)
theorem dX5_putIn_244 : decode cX5_putIn 244 = .ok (.ifCond .ne 7, 3) := dk_154 0 7 (dk_at dksX5_putIn_10 9 rfl rfl)
theorem dX5_putIn_247 : decode cX5_putIn 247 = .ok (.iconst 0, 1) := dk_3 (dk_at dksX5_putIn_10 12 rfl rfl)
theorem dX5_putIn_248 : decode cX5_putIn 248 = .ok (.goto 4, 3) := dk_167 0 4 (dk_at dksX5_putIn_10 13 rfl rfl)
theorem dX5_putIn_251 : decode cX5_putIn 251 = .ok (.iconst 1, 1) := dk_4 (dk_at dksX5_putIn_10 16 rfl rfl)
theorem dX5_putIn_252 : decode cX5_putIn 252 = .ok (.ireturn, 1) := dk_172 (dk_at dksX5_putIn_10 17 rfl rfl)
abbrev cX5_weighs : ByteArray := prog_13_method_6_code
def yX5_weighs : MethodName := ⟨RX5, "weighs", "(II)V"⟩
def dkwX5_weighs_1 : List UInt8 := [17, 3, 32, 27, 96, 46, 100, 96, 79, 42, 180, 0, 11, 17, 3, 32, 27, 96, 28, 79, 177]
abbrev dktX5_weighs_1 : List UInt8 := dkwX5_weighs_1 ++ []
def dkwX5_weighs_0 : List UInt8 := [42, 180, 0, 11, 17, 12, 132, 42, 180, 0, 11, 3, 27, 96, 46, 96, 92, 46, 28, 42, 180, 0, 11]
abbrev dktX5_weighs_0 : List UInt8 := dkwX5_weighs_0 ++ dktX5_weighs_1
theorem dksX5_weighs_0 : cX5_weighs.data.toList.drop 0 = dktX5_weighs_0 := by decide +kernel
theorem dksX5_weighs_1 : cX5_weighs.data.toList.drop 23 = dktX5_weighs_1 := dk_seg dksX5_weighs_0 23 rfl rfl
theorem dX5_weighs_0 : decode cX5_weighs 0 = .ok (.aload_n 0, 1) := dk_42 (dk_at dksX5_weighs_0 0 rfl rfl)
theorem dX5_weighs_1 : decode cX5_weighs 1 = .ok (.getfield 11, 3) := dk_180 0 11 (dk_at dksX5_weighs_0 1 rfl rfl)
theorem dX5_weighs_4 : decode cX5_weighs 4 = .ok (.sipush 3204, 3) := dk_17 12 132 (dk_at dksX5_weighs_0 4 rfl rfl)
theorem dX5_weighs_7 : decode cX5_weighs 7 = .ok (.aload_n 0, 1) := dk_42 (dk_at dksX5_weighs_0 7 rfl rfl)
theorem dX5_weighs_8 : decode cX5_weighs 8 = .ok (.getfield 11, 3) := dk_180 0 11 (dk_at dksX5_weighs_0 8 rfl rfl)
theorem dX5_weighs_11 : decode cX5_weighs 11 = .ok (.iconst 0, 1) := dk_3 (dk_at dksX5_weighs_0 11 rfl rfl)
theorem dX5_weighs_12 : decode cX5_weighs 12 = .ok (.iload_n 1, 1) := dk_27 (dk_at dksX5_weighs_0 12 rfl rfl)
theorem dX5_weighs_13 : decode cX5_weighs 13 = .ok (.iadd, 1) := dk_96 (dk_at dksX5_weighs_0 13 rfl rfl)
theorem dX5_weighs_14 : decode cX5_weighs 14 = .ok (.iaload, 1) := dk_46 (dk_at dksX5_weighs_0 14 rfl rfl)
theorem dX5_weighs_15 : decode cX5_weighs 15 = .ok (.iadd, 1) := dk_96 (dk_at dksX5_weighs_0 15 rfl rfl)
theorem dX5_weighs_16 : decode cX5_weighs 16 = .ok (.dup2, 1) := dk_92 (dk_at dksX5_weighs_0 16 rfl rfl)
theorem dX5_weighs_17 : decode cX5_weighs 17 = .ok (.iaload, 1) := dk_46 (dk_at dksX5_weighs_0 17 rfl rfl)
theorem dX5_weighs_18 : decode cX5_weighs 18 = .ok (.iload_n 2, 1) := dk_28 (dk_at dksX5_weighs_0 18 rfl rfl)
theorem dX5_weighs_19 : decode cX5_weighs 19 = .ok (.aload_n 0, 1) := dk_42 (dk_at dksX5_weighs_0 19 rfl rfl)
theorem dX5_weighs_20 : decode cX5_weighs 20 = .ok (.getfield 11, 3) := dk_180 0 11 (dk_at dksX5_weighs_0 20 rfl rfl)
theorem dX5_weighs_23 : decode cX5_weighs 23 = .ok (.sipush 800, 3) := dk_17 3 32 (dk_at dksX5_weighs_1 0 rfl rfl)
theorem dX5_weighs_26 : decode cX5_weighs 26 = .ok (.iload_n 1, 1) := dk_27 (dk_at dksX5_weighs_1 3 rfl rfl)
theorem dX5_weighs_27 : decode cX5_weighs 27 = .ok (.iadd, 1) := dk_96 (dk_at dksX5_weighs_1 4 rfl rfl)
theorem dX5_weighs_28 : decode cX5_weighs 28 = .ok (.iaload, 1) := dk_46 (dk_at dksX5_weighs_1 5 rfl rfl)
theorem dX5_weighs_29 : decode cX5_weighs 29 = .ok (.isub, 1) := dk_100 (dk_at dksX5_weighs_1 6 rfl rfl)
theorem dX5_weighs_30 : decode cX5_weighs 30 = .ok (.iadd, 1) := dk_96 (dk_at dksX5_weighs_1 7 rfl rfl)
theorem dX5_weighs_31 : decode cX5_weighs 31 = .ok (.iastore, 1) := dk_79 (dk_at dksX5_weighs_1 8 rfl rfl)
theorem dX5_weighs_32 : decode cX5_weighs 32 = .ok (.aload_n 0, 1) := dk_42 (dk_at dksX5_weighs_1 9 rfl rfl)
theorem dX5_weighs_33 : decode cX5_weighs 33 = .ok (.getfield 11, 3) := dk_180 0 11 (dk_at dksX5_weighs_1 10 rfl rfl)
theorem dX5_weighs_36 : decode cX5_weighs 36 = .ok (.sipush 800, 3) := dk_17 3 32 (dk_at dksX5_weighs_1 13 rfl rfl)
theorem dX5_weighs_39 : decode cX5_weighs 39 = .ok (.iload_n 1, 1) := dk_27 (dk_at dksX5_weighs_1 16 rfl rfl)
theorem dX5_weighs_40 : decode cX5_weighs 40 = .ok (.iadd, 1) := dk_96 (dk_at dksX5_weighs_1 17 rfl rfl)
theorem dX5_weighs_41 : decode cX5_weighs 41 = .ok (.iload_n 2, 1) := dk_28 (dk_at dksX5_weighs_1 18 rfl rfl)
theorem dX5_weighs_42 : decode cX5_weighs 42 = .ok (.iastore, 1) := dk_79 (dk_at dksX5_weighs_1 19 rfl rfl)
theorem dX5_weighs_43 : decode cX5_weighs 43 = .ok (.return_, 1) := dk_177 (dk_at dksX5_weighs_1 20 rfl rfl)
abbrev cX5_hit : ByteArray := prog_13_method_13_code
def yX5_hit : MethodName := ⟨RX5, "hit", "(I)V"⟩
def dkwX5_hit_3 : List UInt8 := [17, 12, 130, 46, 161, 0, 7, 5, 167, 0, 11, 42, 180, 0, 11, 3, 27, 96, 46, 182, 0, 58, 177]
abbrev dktX5_hit_3 : List UInt8 := dkwX5_hit_3 ++ []
def dkwX5_hit_2 : List UInt8 := [3, 27, 96, 46, 4, 160, 0, 28, 42, 180, 0, 11, 17, 6, 64, 27, 96, 46, 42, 180, 0, 11]
abbrev dktX5_hit_2 : List UInt8 := dkwX5_hit_2 ++ dktX5_hit_3
def dkwX5_hit_1 : List UInt8 := [42, 180, 0, 11, 17, 6, 64, 27, 96, 46, 4, 96, 167, 0, 5, 16, 99, 79, 42, 27, 42, 180, 0, 11]
abbrev dktX5_hit_1 : List UInt8 := dkwX5_hit_1 ++ dktX5_hit_2
def dkwX5_hit_0 : List UInt8 := [42, 180, 0, 11, 17, 6, 64, 27, 96, 42, 180, 0, 11, 17, 6, 64, 27, 96, 46, 16, 99, 162, 0, 18]
abbrev dktX5_hit_0 : List UInt8 := dkwX5_hit_0 ++ dktX5_hit_1
theorem dksX5_hit_0 : cX5_hit.data.toList.drop 0 = dktX5_hit_0 := by decide +kernel
theorem dksX5_hit_1 : cX5_hit.data.toList.drop 24 = dktX5_hit_1 := dk_seg dksX5_hit_0 24 rfl rfl
theorem dksX5_hit_2 : cX5_hit.data.toList.drop 48 = dktX5_hit_2 := dk_seg dksX5_hit_1 24 rfl rfl
theorem dksX5_hit_3 : cX5_hit.data.toList.drop 70 = dktX5_hit_3 := dk_seg dksX5_hit_2 22 rfl rfl
theorem dX5_hit_0 : decode cX5_hit 0 = .ok (.aload_n 0, 1) := dk_42 (dk_at dksX5_hit_0 0 rfl rfl)
theorem dX5_hit_1 : decode cX5_hit 1 = .ok (.getfield 11, 3) := dk_180 0 11 (dk_at dksX5_hit_0 1 rfl rfl)
theorem dX5_hit_4 : decode cX5_hit 4 = .ok (.sipush 1600, 3) := dk_17 6 64 (dk_at dksX5_hit_0 4 rfl rfl)
theorem dX5_hit_7 : decode cX5_hit 7 = .ok (.iload_n 1, 1) := dk_27 (dk_at dksX5_hit_0 7 rfl rfl)
theorem dX5_hit_8 : decode cX5_hit 8 = .ok (.iadd, 1) := dk_96 (dk_at dksX5_hit_0 8 rfl rfl)
theorem dX5_hit_9 : decode cX5_hit 9 = .ok (.aload_n 0, 1) := dk_42 (dk_at dksX5_hit_0 9 rfl rfl)
theorem dX5_hit_10 : decode cX5_hit 10 = .ok (.getfield 11, 3) := dk_180 0 11 (dk_at dksX5_hit_0 10 rfl rfl)
theorem dX5_hit_13 : decode cX5_hit 13 = .ok (.sipush 1600, 3) := dk_17 6 64 (dk_at dksX5_hit_0 13 rfl rfl)
theorem dX5_hit_16 : decode cX5_hit 16 = .ok (.iload_n 1, 1) := dk_27 (dk_at dksX5_hit_0 16 rfl rfl)
theorem dX5_hit_17 : decode cX5_hit 17 = .ok (.iadd, 1) := dk_96 (dk_at dksX5_hit_0 17 rfl rfl)
theorem dX5_hit_18 : decode cX5_hit 18 = .ok (.iaload, 1) := dk_46 (dk_at dksX5_hit_0 18 rfl rfl)
theorem dX5_hit_19 : decode cX5_hit 19 = .ok (.bipush 99, 2) := dk_16 99 (dk_at dksX5_hit_0 19 rfl rfl)
theorem dX5_hit_21 : decode cX5_hit 21 = .ok (.if_icmp .ge 18, 3) := dk_162 0 18 (dk_at dksX5_hit_0 21 rfl rfl)
theorem dX5_hit_24 : decode cX5_hit 24 = .ok (.aload_n 0, 1) := dk_42 (dk_at dksX5_hit_1 0 rfl rfl)
theorem dX5_hit_25 : decode cX5_hit 25 = .ok (.getfield 11, 3) := dk_180 0 11 (dk_at dksX5_hit_1 1 rfl rfl)
theorem dX5_hit_28 : decode cX5_hit 28 = .ok (.sipush 1600, 3) := dk_17 6 64 (dk_at dksX5_hit_1 4 rfl rfl)
theorem dX5_hit_31 : decode cX5_hit 31 = .ok (.iload_n 1, 1) := dk_27 (dk_at dksX5_hit_1 7 rfl rfl)
theorem dX5_hit_32 : decode cX5_hit 32 = .ok (.iadd, 1) := dk_96 (dk_at dksX5_hit_1 8 rfl rfl)
theorem dX5_hit_33 : decode cX5_hit 33 = .ok (.iaload, 1) := dk_46 (dk_at dksX5_hit_1 9 rfl rfl)
theorem dX5_hit_34 : decode cX5_hit 34 = .ok (.iconst 1, 1) := dk_4 (dk_at dksX5_hit_1 10 rfl rfl)
theorem dX5_hit_35 : decode cX5_hit 35 = .ok (.iadd, 1) := dk_96 (dk_at dksX5_hit_1 11 rfl rfl)
theorem dX5_hit_36 : decode cX5_hit 36 = .ok (.goto 5, 3) := dk_167 0 5 (dk_at dksX5_hit_1 12 rfl rfl)
theorem dX5_hit_39 : decode cX5_hit 39 = .ok (.bipush 99, 2) := dk_16 99 (dk_at dksX5_hit_1 15 rfl rfl)
theorem dX5_hit_41 : decode cX5_hit 41 = .ok (.iastore, 1) := dk_79 (dk_at dksX5_hit_1 17 rfl rfl)
theorem dX5_hit_42 : decode cX5_hit 42 = .ok (.aload_n 0, 1) := dk_42 (dk_at dksX5_hit_1 18 rfl rfl)
theorem dX5_hit_43 : decode cX5_hit 43 = .ok (.iload_n 1, 1) := dk_27 (dk_at dksX5_hit_1 19 rfl rfl)
theorem dX5_hit_44 : decode cX5_hit 44 = .ok (.aload_n 0, 1) := dk_42 (dk_at dksX5_hit_1 20 rfl rfl)
theorem dX5_hit_45 : decode cX5_hit 45 = .ok (.getfield 11, 3) := dk_180 0 11 (dk_at dksX5_hit_1 21 rfl rfl)
theorem dX5_hit_48 : decode cX5_hit 48 = .ok (.iconst 0, 1) := dk_3 (dk_at dksX5_hit_2 0 rfl rfl)
theorem dX5_hit_49 : decode cX5_hit 49 = .ok (.iload_n 1, 1) := dk_27 (dk_at dksX5_hit_2 1 rfl rfl)
theorem dX5_hit_50 : decode cX5_hit 50 = .ok (.iadd, 1) := dk_96 (dk_at dksX5_hit_2 2 rfl rfl)
theorem dX5_hit_51 : decode cX5_hit 51 = .ok (.iaload, 1) := dk_46 (dk_at dksX5_hit_2 3 rfl rfl)
theorem dX5_hit_52 : decode cX5_hit 52 = .ok (.iconst 1, 1) := dk_4 (dk_at dksX5_hit_2 4 rfl rfl)
theorem dX5_hit_53 : decode cX5_hit 53 = .ok (.if_icmp .ne 28, 3) := dk_160 0 28 (dk_at dksX5_hit_2 5 rfl rfl)
theorem dX5_hit_56 : decode cX5_hit 56 = .ok (.aload_n 0, 1) := dk_42 (dk_at dksX5_hit_2 8 rfl rfl)
theorem dX5_hit_57 : decode cX5_hit 57 = .ok (.getfield 11, 3) := dk_180 0 11 (dk_at dksX5_hit_2 9 rfl rfl)
theorem dX5_hit_60 : decode cX5_hit 60 = .ok (.sipush 1600, 3) := dk_17 6 64 (dk_at dksX5_hit_2 12 rfl rfl)
theorem dX5_hit_63 : decode cX5_hit 63 = .ok (.iload_n 1, 1) := dk_27 (dk_at dksX5_hit_2 15 rfl rfl)
theorem dX5_hit_64 : decode cX5_hit 64 = .ok (.iadd, 1) := dk_96 (dk_at dksX5_hit_2 16 rfl rfl)
theorem dX5_hit_65 : decode cX5_hit 65 = .ok (.iaload, 1) := dk_46 (dk_at dksX5_hit_2 17 rfl rfl)
theorem dX5_hit_66 : decode cX5_hit 66 = .ok (.aload_n 0, 1) := dk_42 (dk_at dksX5_hit_2 18 rfl rfl)
theorem dX5_hit_67 : decode cX5_hit 67 = .ok (.getfield 11, 3) := dk_180 0 11 (dk_at dksX5_hit_2 19 rfl rfl)
theorem dX5_hit_70 : decode cX5_hit 70 = .ok (.sipush 3202, 3) := dk_17 12 130 (dk_at dksX5_hit_3 0 rfl rfl)
theorem dX5_hit_73 : decode cX5_hit 73 = .ok (.iaload, 1) := dk_46 (dk_at dksX5_hit_3 3 rfl rfl)
theorem dX5_hit_74 : decode cX5_hit 74 = .ok (.if_icmp .lt 7, 3) := dk_161 0 7 (dk_at dksX5_hit_3 4 rfl rfl)
theorem dX5_hit_77 : decode cX5_hit 77 = .ok (.iconst 2, 1) := dk_5 (dk_at dksX5_hit_3 7 rfl rfl)
theorem dX5_hit_78 : decode cX5_hit 78 = .ok (.goto 11, 3) := dk_167 0 11 (dk_at dksX5_hit_3 8 rfl rfl)
theorem dX5_hit_81 : decode cX5_hit 81 = .ok (.aload_n 0, 1) := dk_42 (dk_at dksX5_hit_3 11 rfl rfl)
theorem dX5_hit_82 : decode cX5_hit 82 = .ok (.getfield 11, 3) := dk_180 0 11 (dk_at dksX5_hit_3 12 rfl rfl)
theorem dX5_hit_85 : decode cX5_hit 85 = .ok (.iconst 0, 1) := dk_3 (dk_at dksX5_hit_3 15 rfl rfl)
theorem dX5_hit_86 : decode cX5_hit 86 = .ok (.iload_n 1, 1) := dk_27 (dk_at dksX5_hit_3 16 rfl rfl)
theorem dX5_hit_87 : decode cX5_hit 87 = .ok (.iadd, 1) := dk_96 (dk_at dksX5_hit_3 17 rfl rfl)
theorem dX5_hit_88 : decode cX5_hit 88 = .ok (.iaload, 1) := dk_46 (dk_at dksX5_hit_3 18 rfl rfl)
theorem dX5_hit_89 : decode cX5_hit 89 = .ok (.invokevirtual 58, 3) := dk_182 0 58 (dk_at dksX5_hit_3 19 rfl rfl)
theorem dX5_hit_92 : decode cX5_hit 92 = .ok (.return_, 1) := dk_177 (dk_at dksX5_hit_3 22 rfl rfl)
abbrev cX5_get : ByteArray := prog_13_method_21_code
def yX5_get : MethodName := ⟨RX5, "get", "(II)J"⟩
def dkwX5_get_2 : List UInt8 := [20, 0, 104, 173]
abbrev dktX5_get_2 : List UInt8 := dkwX5_get_2 ++ []
def dkwX5_get_1 : List UInt8 := [17, 1, 144, 29, 96, 46, 54, 4, 42, 29, 182, 0, 106, 153, 0, 9, 21, 4, 133, 167, 0, 6]
abbrev dktX5_get_1 : List UInt8 := dkwX5_get_1 ++ dktX5_get_2
def dkwX5_get_0 : List UInt8 := [27, 28, 184, 0, 96, 154, 0, 7, 20, 0, 104, 173, 16, 100, 27, 104, 28, 96, 62, 42, 180, 0, 11]
abbrev dktX5_get_0 : List UInt8 := dkwX5_get_0 ++ dktX5_get_1
theorem dksX5_get_0 : cX5_get.data.toList.drop 0 = dktX5_get_0 := by decide +kernel
theorem dksX5_get_1 : cX5_get.data.toList.drop 23 = dktX5_get_1 := dk_seg dksX5_get_0 23 rfl rfl
theorem dksX5_get_2 : cX5_get.data.toList.drop 45 = dktX5_get_2 := dk_seg dksX5_get_1 22 rfl rfl
theorem dX5_get_0 : decode cX5_get 0 = .ok (.iload_n 1, 1) := dk_27 (dk_at dksX5_get_0 0 rfl rfl)
theorem dX5_get_1 : decode cX5_get 1 = .ok (.iload_n 2, 1) := dk_28 (dk_at dksX5_get_0 1 rfl rfl)
theorem dX5_get_2 : decode cX5_get 2 = .ok (.invokestatic 96, 3) := dk_184 0 96 (dk_at dksX5_get_0 2 rfl rfl)
theorem dX5_get_5 : decode cX5_get 5 = .ok (.ifCond .ne 7, 3) := dk_154 0 7 (dk_at dksX5_get_0 5 rfl rfl)
theorem dX5_get_8 : decode cX5_get 8 = .ok (.ldc2_w 104, 3) := dk_20 0 104 (dk_at dksX5_get_0 8 rfl rfl)
theorem dX5_get_11 : decode cX5_get 11 = .ok (.lreturn, 1) := dk_173 (dk_at dksX5_get_0 11 rfl rfl)
theorem dX5_get_12 : decode cX5_get 12 = .ok (.bipush 100, 2) := dk_16 100 (dk_at dksX5_get_0 12 rfl rfl)
theorem dX5_get_14 : decode cX5_get 14 = .ok (.iload_n 1, 1) := dk_27 (dk_at dksX5_get_0 14 rfl rfl)
theorem dX5_get_15 : decode cX5_get 15 = .ok (.imul, 1) := dk_104 (dk_at dksX5_get_0 15 rfl rfl)
theorem dX5_get_16 : decode cX5_get 16 = .ok (.iload_n 2, 1) := dk_28 (dk_at dksX5_get_0 16 rfl rfl)
theorem dX5_get_17 : decode cX5_get 17 = .ok (.iadd, 1) := dk_96 (dk_at dksX5_get_0 17 rfl rfl)
theorem dX5_get_18 : decode cX5_get 18 = .ok (.istore_n 3, 1) := dk_62 (dk_at dksX5_get_0 18 rfl rfl)
theorem dX5_get_19 : decode cX5_get 19 = .ok (.aload_n 0, 1) := dk_42 (dk_at dksX5_get_0 19 rfl rfl)
theorem dX5_get_20 : decode cX5_get 20 = .ok (.getfield 11, 3) := dk_180 0 11 (dk_at dksX5_get_0 20 rfl rfl)
theorem dX5_get_23 : decode cX5_get 23 = .ok (.sipush 400, 3) := dk_17 1 144 (dk_at dksX5_get_1 0 rfl rfl)
theorem dX5_get_26 : decode cX5_get 26 = .ok (.iload_n 3, 1) := dk_29 (dk_at dksX5_get_1 3 rfl rfl)
theorem dX5_get_27 : decode cX5_get 27 = .ok (.iadd, 1) := dk_96 (dk_at dksX5_get_1 4 rfl rfl)
theorem dX5_get_28 : decode cX5_get 28 = .ok (.iaload, 1) := dk_46 (dk_at dksX5_get_1 5 rfl rfl)
theorem dX5_get_29 : decode cX5_get 29 = .ok (.istore 4, 2) := dk_54 4 (dk_at dksX5_get_1 6 rfl rfl)
theorem dX5_get_31 : decode cX5_get 31 = .ok (.aload_n 0, 1) := dk_42 (dk_at dksX5_get_1 8 rfl rfl)
theorem dX5_get_32 : decode cX5_get 32 = .ok (.iload_n 3, 1) := dk_29 (dk_at dksX5_get_1 9 rfl rfl)
theorem dX5_get_33 : decode cX5_get 33 = .ok (.invokevirtual 106, 3) := dk_182 0 106 (dk_at dksX5_get_1 10 rfl rfl)
theorem dX5_get_36 : decode cX5_get 36 = .ok (.ifCond .eq 9, 3) := dk_153 0 9 (dk_at dksX5_get_1 13 rfl rfl)
theorem dX5_get_39 : decode cX5_get 39 = .ok (.iload 4, 2) := dk_21 4 (dk_at dksX5_get_1 16 rfl rfl)
theorem dX5_get_41 : decode cX5_get 41 = .ok (.i2l, 1) := dk_133 (dk_at dksX5_get_1 18 rfl rfl)
theorem dX5_get_42 : decode cX5_get 42 = .ok (.goto 6, 3) := dk_167 0 6 (dk_at dksX5_get_1 19 rfl rfl)
theorem dX5_get_45 : decode cX5_get 45 = .ok (.ldc2_w 104, 3) := dk_20 0 104 (dk_at dksX5_get_2 0 rfl rfl)
theorem dX5_get_48 : decode cX5_get 48 = .ok (.lreturn, 1) := dk_173 (dk_at dksX5_get_2 3 rfl rfl)
abbrev cX5_gets : ByteArray := prog_13_method_15_code
def yX5_gets : MethodName := ⟨RX5, "gets", "(I)Z"⟩
def dkwX5_gets_3 : List UInt8 := [46, 96, 79, 42, 180, 0, 11, 17, 12, 137, 92, 46, 4, 96, 79, 42, 182, 0, 86, 4, 172]
abbrev dktX5_gets_3 : List UInt8 := dkwX5_gets_3 ++ []
def dkwX5_gets_2 : List UInt8 := [172, 42, 27, 182, 0, 82, 42, 180, 0, 11, 17, 12, 140, 92, 46, 42, 180, 0, 11, 17, 4, 176, 27, 96]
abbrev dktX5_gets_2 : List UInt8 := dkwX5_gets_2 ++ dktX5_gets_3
def dkwX5_gets_1 : List UInt8 := [17, 12, 139, 92, 46, 42, 180, 0, 11, 3, 27, 96, 46, 153, 0, 7, 4, 167, 0, 4, 3, 96, 79, 3]
abbrev dktX5_gets_1 : List UInt8 := dkwX5_gets_1 ++ dktX5_gets_2
def dkwX5_gets_0 : List UInt8 := [42, 27, 182, 0, 89, 154, 0, 44, 42, 180, 0, 11, 17, 12, 138, 92, 46, 4, 96, 79, 42, 180, 0, 11]
abbrev dktX5_gets_0 : List UInt8 := dkwX5_gets_0 ++ dktX5_gets_1
theorem dksX5_gets_0 : cX5_gets.data.toList.drop 0 = dktX5_gets_0 := by decide +kernel
theorem dksX5_gets_1 : cX5_gets.data.toList.drop 24 = dktX5_gets_1 := dk_seg dksX5_gets_0 24 rfl rfl
theorem dksX5_gets_2 : cX5_gets.data.toList.drop 48 = dktX5_gets_2 := dk_seg dksX5_gets_1 24 rfl rfl
theorem dksX5_gets_3 : cX5_gets.data.toList.drop 72 = dktX5_gets_3 := dk_seg dksX5_gets_2 24 rfl rfl
theorem dX5_gets_0 : decode cX5_gets 0 = .ok (.aload_n 0, 1) := dk_42 (dk_at dksX5_gets_0 0 rfl rfl)
theorem dX5_gets_1 : decode cX5_gets 1 = .ok (.iload_n 1, 1) := dk_27 (dk_at dksX5_gets_0 1 rfl rfl)
theorem dX5_gets_2 : decode cX5_gets 2 = .ok (.invokevirtual 89, 3) := dk_182 0 89 (dk_at dksX5_gets_0 2 rfl rfl)
theorem dX5_gets_5 : decode cX5_gets 5 = .ok (.ifCond .ne 44, 3) := dk_154 0 44 (dk_at dksX5_gets_0 5 rfl rfl)
theorem dX5_gets_8 : decode cX5_gets 8 = .ok (.aload_n 0, 1) := dk_42 (dk_at dksX5_gets_0 8 rfl rfl)
theorem dX5_gets_9 : decode cX5_gets 9 = .ok (.getfield 11, 3) := dk_180 0 11 (dk_at dksX5_gets_0 9 rfl rfl)
theorem dX5_gets_12 : decode cX5_gets 12 = .ok (.sipush 3210, 3) := dk_17 12 138 (dk_at dksX5_gets_0 12 rfl rfl)
theorem dX5_gets_15 : decode cX5_gets 15 = .ok (.dup2, 1) := dk_92 (dk_at dksX5_gets_0 15 rfl rfl)
theorem dX5_gets_16 : decode cX5_gets 16 = .ok (.iaload, 1) := dk_46 (dk_at dksX5_gets_0 16 rfl rfl)
theorem dX5_gets_17 : decode cX5_gets 17 = .ok (.iconst 1, 1) := dk_4 (dk_at dksX5_gets_0 17 rfl rfl)
theorem dX5_gets_18 : decode cX5_gets 18 = .ok (.iadd, 1) := dk_96 (dk_at dksX5_gets_0 18 rfl rfl)
theorem dX5_gets_19 : decode cX5_gets 19 = .ok (.iastore, 1) := dk_79 (dk_at dksX5_gets_0 19 rfl rfl)
theorem dX5_gets_20 : decode cX5_gets 20 = .ok (.aload_n 0, 1) := dk_42 (dk_at dksX5_gets_0 20 rfl rfl)
theorem dX5_gets_21 : decode cX5_gets 21 = .ok (.getfield 11, 3) := dk_180 0 11 (dk_at dksX5_gets_0 21 rfl rfl)
theorem dX5_gets_24 : decode cX5_gets 24 = .ok (.sipush 3211, 3) := dk_17 12 139 (dk_at dksX5_gets_1 0 rfl rfl)
theorem dX5_gets_27 : decode cX5_gets 27 = .ok (.dup2, 1) := dk_92 (dk_at dksX5_gets_1 3 rfl rfl)
theorem dX5_gets_28 : decode cX5_gets 28 = .ok (.iaload, 1) := dk_46 (dk_at dksX5_gets_1 4 rfl rfl)
theorem dX5_gets_29 : decode cX5_gets 29 = .ok (.aload_n 0, 1) := dk_42 (dk_at dksX5_gets_1 5 rfl rfl)
theorem dX5_gets_30 : decode cX5_gets 30 = .ok (.getfield 11, 3) := dk_180 0 11 (dk_at dksX5_gets_1 6 rfl rfl)
theorem dX5_gets_33 : decode cX5_gets 33 = .ok (.iconst 0, 1) := dk_3 (dk_at dksX5_gets_1 9 rfl rfl)
theorem dX5_gets_34 : decode cX5_gets 34 = .ok (.iload_n 1, 1) := dk_27 (dk_at dksX5_gets_1 10 rfl rfl)
theorem dX5_gets_35 : decode cX5_gets 35 = .ok (.iadd, 1) := dk_96 (dk_at dksX5_gets_1 11 rfl rfl)
theorem dX5_gets_36 : decode cX5_gets 36 = .ok (.iaload, 1) := dk_46 (dk_at dksX5_gets_1 12 rfl rfl)
theorem dX5_gets_37 : decode cX5_gets 37 = .ok (.ifCond .eq 7, 3) := dk_153 0 7 (dk_at dksX5_gets_1 13 rfl rfl)
theorem dX5_gets_40 : decode cX5_gets 40 = .ok (.iconst 1, 1) := dk_4 (dk_at dksX5_gets_1 16 rfl rfl)
theorem dX5_gets_41 : decode cX5_gets 41 = .ok (.goto 4, 3) := dk_167 0 4 (dk_at dksX5_gets_1 17 rfl rfl)
theorem dX5_gets_44 : decode cX5_gets 44 = .ok (.iconst 0, 1) := dk_3 (dk_at dksX5_gets_1 20 rfl rfl)
theorem dX5_gets_45 : decode cX5_gets 45 = .ok (.iadd, 1) := dk_96 (dk_at dksX5_gets_1 21 rfl rfl)
theorem dX5_gets_46 : decode cX5_gets 46 = .ok (.iastore, 1) := dk_79 (dk_at dksX5_gets_1 22 rfl rfl)
theorem dX5_gets_47 : decode cX5_gets 47 = .ok (.iconst 0, 1) := dk_3 (dk_at dksX5_gets_1 23 rfl rfl)
theorem dX5_gets_48 : decode cX5_gets 48 = .ok (.ireturn, 1) := dk_172 (dk_at dksX5_gets_2 0 rfl rfl)
theorem dX5_gets_49 : decode cX5_gets 49 = .ok (.aload_n 0, 1) := dk_42 (dk_at dksX5_gets_2 1 rfl rfl)
theorem dX5_gets_50 : decode cX5_gets 50 = .ok (.iload_n 1, 1) := dk_27 (dk_at dksX5_gets_2 2 rfl rfl)
theorem dX5_gets_51 : decode cX5_gets 51 = .ok (.invokevirtual 82, 3) := dk_182 0 82 (dk_at dksX5_gets_2 3 rfl rfl)
theorem dX5_gets_54 : decode cX5_gets 54 = .ok (.aload_n 0, 1) := dk_42 (dk_at dksX5_gets_2 6 rfl rfl)
theorem dX5_gets_55 : decode cX5_gets 55 = .ok (.getfield 11, 3) := dk_180 0 11 (dk_at dksX5_gets_2 7 rfl rfl)
theorem dX5_gets_58 : decode cX5_gets 58 = .ok (.sipush 3212, 3) := dk_17 12 140 (dk_at dksX5_gets_2 10 rfl rfl)
theorem dX5_gets_61 : decode cX5_gets 61 = .ok (.dup2, 1) := dk_92 (dk_at dksX5_gets_2 13 rfl rfl)
theorem dX5_gets_62 : decode cX5_gets 62 = .ok (.iaload, 1) := dk_46 (dk_at dksX5_gets_2 14 rfl rfl)
theorem dX5_gets_63 : decode cX5_gets 63 = .ok (.aload_n 0, 1) := dk_42 (dk_at dksX5_gets_2 15 rfl rfl)
theorem dX5_gets_64 : decode cX5_gets 64 = .ok (.getfield 11, 3) := dk_180 0 11 (dk_at dksX5_gets_2 16 rfl rfl)
theorem dX5_gets_67 : decode cX5_gets 67 = .ok (.sipush 1200, 3) := dk_17 4 176 (dk_at dksX5_gets_2 19 rfl rfl)
theorem dX5_gets_70 : decode cX5_gets 70 = .ok (.iload_n 1, 1) := dk_27 (dk_at dksX5_gets_2 22 rfl rfl)
theorem dX5_gets_71 : decode cX5_gets 71 = .ok (.iadd, 1) := dk_96 (dk_at dksX5_gets_2 23 rfl rfl)
theorem dX5_gets_72 : decode cX5_gets 72 = .ok (.iaload, 1) := dk_46 (dk_at dksX5_gets_3 0 rfl rfl)
theorem dX5_gets_73 : decode cX5_gets 73 = .ok (.iadd, 1) := dk_96 (dk_at dksX5_gets_3 1 rfl rfl)
theorem dX5_gets_74 : decode cX5_gets 74 = .ok (.iastore, 1) := dk_79 (dk_at dksX5_gets_3 2 rfl rfl)
theorem dX5_gets_75 : decode cX5_gets 75 = .ok (.aload_n 0, 1) := dk_42 (dk_at dksX5_gets_3 3 rfl rfl)
theorem dX5_gets_76 : decode cX5_gets 76 = .ok (.getfield 11, 3) := dk_180 0 11 (dk_at dksX5_gets_3 4 rfl rfl)
theorem dX5_gets_79 : decode cX5_gets 79 = .ok (.sipush 3209, 3) := dk_17 12 137 (dk_at dksX5_gets_3 7 rfl rfl)
theorem dX5_gets_82 : decode cX5_gets 82 = .ok (.dup2, 1) := dk_92 (dk_at dksX5_gets_3 10 rfl rfl)
theorem dX5_gets_83 : decode cX5_gets 83 = .ok (.iaload, 1) := dk_46 (dk_at dksX5_gets_3 11 rfl rfl)
theorem dX5_gets_84 : decode cX5_gets 84 = .ok (.iconst 1, 1) := dk_4 (dk_at dksX5_gets_3 12 rfl rfl)
theorem dX5_gets_85 : decode cX5_gets 85 = .ok (.iadd, 1) := dk_96 (dk_at dksX5_gets_3 13 rfl rfl)
theorem dX5_gets_86 : decode cX5_gets 86 = .ok (.iastore, 1) := dk_79 (dk_at dksX5_gets_3 14 rfl rfl)
theorem dX5_gets_87 : decode cX5_gets 87 = .ok (.aload_n 0, 1) := dk_42 (dk_at dksX5_gets_3 15 rfl rfl)
theorem dX5_gets_88 : decode cX5_gets 88 = .ok (.invokevirtual 86, 3) := dk_182 0 86 (dk_at dksX5_gets_3 16 rfl rfl)
theorem dX5_gets_91 : decode cX5_gets 91 = .ok (.iconst 1, 1) := dk_4 (dk_at dksX5_gets_3 19 rfl rfl)
theorem dX5_gets_92 : decode cX5_gets 92 = .ok (.ireturn, 1) := dk_172 (dk_at dksX5_gets_3 20 rfl rfl)
abbrev cX5_isThing : ByteArray := prog_13_method_7_code
def yX5_isThing : MethodName := ⟨RX5, "isThing", "(I)Z"⟩
def dkwX5_isThing_1 : List UInt8 := [4, 167, 0, 4, 3, 172]
abbrev dktX5_isThing_1 : List UInt8 := dkwX5_isThing_1 ++ []
def dkwX5_isThing_0 : List UInt8 := [42, 180, 0, 11, 3, 27, 96, 46, 4, 159, 0, 15, 42, 180, 0, 11, 3, 27, 96, 46, 5, 160, 0, 7]
abbrev dktX5_isThing_0 : List UInt8 := dkwX5_isThing_0 ++ dktX5_isThing_1
theorem dksX5_isThing_0 : cX5_isThing.data.toList.drop 0 = dktX5_isThing_0 := by decide +kernel
theorem dksX5_isThing_1 : cX5_isThing.data.toList.drop 24 = dktX5_isThing_1 := dk_seg dksX5_isThing_0 24 rfl rfl
theorem dX5_isThing_0 : decode cX5_isThing 0 = .ok (.aload_n 0, 1) := dk_42 (dk_at dksX5_isThing_0 0 rfl rfl)
theorem dX5_isThing_1 : decode cX5_isThing 1 = .ok (.getfield 11, 3) := dk_180 0 11 (dk_at dksX5_isThing_0 1 rfl rfl)
theorem dX5_isThing_4 : decode cX5_isThing 4 = .ok (.iconst 0, 1) := dk_3 (dk_at dksX5_isThing_0 4 rfl rfl)
theorem dX5_isThing_5 : decode cX5_isThing 5 = .ok (.iload_n 1, 1) := dk_27 (dk_at dksX5_isThing_0 5 rfl rfl)
theorem dX5_isThing_6 : decode cX5_isThing 6 = .ok (.iadd, 1) := dk_96 (dk_at dksX5_isThing_0 6 rfl rfl)
theorem dX5_isThing_7 : decode cX5_isThing 7 = .ok (.iaload, 1) := dk_46 (dk_at dksX5_isThing_0 7 rfl rfl)
theorem dX5_isThing_8 : decode cX5_isThing 8 = .ok (.iconst 1, 1) := dk_4 (dk_at dksX5_isThing_0 8 rfl rfl)
theorem dX5_isThing_9 : decode cX5_isThing 9 = .ok (.if_icmp .eq 15, 3) := dk_159 0 15 (dk_at dksX5_isThing_0 9 rfl rfl)
theorem dX5_isThing_12 : decode cX5_isThing 12 = .ok (.aload_n 0, 1) := dk_42 (dk_at dksX5_isThing_0 12 rfl rfl)
theorem dX5_isThing_13 : decode cX5_isThing 13 = .ok (.getfield 11, 3) := dk_180 0 11 (dk_at dksX5_isThing_0 13 rfl rfl)
theorem dX5_isThing_16 : decode cX5_isThing 16 = .ok (.iconst 0, 1) := dk_3 (dk_at dksX5_isThing_0 16 rfl rfl)
theorem dX5_isThing_17 : decode cX5_isThing 17 = .ok (.iload_n 1, 1) := dk_27 (dk_at dksX5_isThing_0 17 rfl rfl)
theorem dX5_isThing_18 : decode cX5_isThing 18 = .ok (.iadd, 1) := dk_96 (dk_at dksX5_isThing_0 18 rfl rfl)
theorem dX5_isThing_19 : decode cX5_isThing 19 = .ok (.iaload, 1) := dk_46 (dk_at dksX5_isThing_0 19 rfl rfl)
theorem dX5_isThing_20 : decode cX5_isThing 20 = .ok (.iconst 2, 1) := dk_5 (dk_at dksX5_isThing_0 20 rfl rfl)
theorem dX5_isThing_21 : decode cX5_isThing 21 = .ok (.if_icmp .ne 7, 3) := dk_160 0 7 (dk_at dksX5_isThing_0 21 rfl rfl)
theorem dX5_isThing_24 : decode cX5_isThing 24 = .ok (.iconst 1, 1) := dk_4 (dk_at dksX5_isThing_1 0 rfl rfl)
theorem dX5_isThing_25 : decode cX5_isThing 25 = .ok (.goto 4, 3) := dk_167 0 4 (dk_at dksX5_isThing_1 1 rfl rfl)
theorem dX5_isThing_28 : decode cX5_isThing 28 = .ok (.iconst 0, 1) := dk_3 (dk_at dksX5_isThing_1 4 rfl rfl)
theorem dX5_isThing_29 : decode cX5_isThing 29 = .ok (.ireturn, 1) := dk_172 (dk_at dksX5_isThing_1 5 rfl rfl)
abbrev cX5_drop : ByteArray := prog_13_method_22_code
def yX5_drop : MethodName := ⟨RX5, "drop", "(II)I"⟩
def dkwX5_drop_0 : List UInt8 := [27, 28, 184, 0, 96, 153, 0, 16, 42, 16, 100, 27, 104, 28, 96, 182, 0, 109, 167, 0, 4, 2, 172]
abbrev dktX5_drop_0 : List UInt8 := dkwX5_drop_0 ++ []
theorem dksX5_drop_0 : cX5_drop.data.toList.drop 0 = dktX5_drop_0 := by decide +kernel
theorem dX5_drop_0 : decode cX5_drop 0 = .ok (.iload_n 1, 1) := dk_27 (dk_at dksX5_drop_0 0 rfl rfl)
theorem dX5_drop_1 : decode cX5_drop 1 = .ok (.iload_n 2, 1) := dk_28 (dk_at dksX5_drop_0 1 rfl rfl)
theorem dX5_drop_2 : decode cX5_drop 2 = .ok (.invokestatic 96, 3) := dk_184 0 96 (dk_at dksX5_drop_0 2 rfl rfl)
theorem dX5_drop_5 : decode cX5_drop 5 = .ok (.ifCond .eq 16, 3) := dk_153 0 16 (dk_at dksX5_drop_0 5 rfl rfl)
theorem dX5_drop_8 : decode cX5_drop 8 = .ok (.aload_n 0, 1) := dk_42 (dk_at dksX5_drop_0 8 rfl rfl)
theorem dX5_drop_9 : decode cX5_drop 9 = .ok (.bipush 100, 2) := dk_16 100 (dk_at dksX5_drop_0 9 rfl rfl)
theorem dX5_drop_11 : decode cX5_drop 11 = .ok (.iload_n 1, 1) := dk_27 (dk_at dksX5_drop_0 11 rfl rfl)
theorem dX5_drop_12 : decode cX5_drop 12 = .ok (.imul, 1) := dk_104 (dk_at dksX5_drop_0 12 rfl rfl)
theorem dX5_drop_13 : decode cX5_drop 13 = .ok (.iload_n 2, 1) := dk_28 (dk_at dksX5_drop_0 13 rfl rfl)
theorem dX5_drop_14 : decode cX5_drop 14 = .ok (.iadd, 1) := dk_96 (dk_at dksX5_drop_0 14 rfl rfl)
theorem dX5_drop_15 : decode cX5_drop 15 = .ok (.invokevirtual 109, 3) := dk_182 0 109 (dk_at dksX5_drop_0 15 rfl rfl)
theorem dX5_drop_18 : decode cX5_drop 18 = .ok (.goto 4, 3) := dk_167 0 4 (dk_at dksX5_drop_0 18 rfl rfl)
theorem dX5_drop_21 : decode cX5_drop 21 = .ok (.iconst (-1), 1) := dk_2 (dk_at dksX5_drop_0 21 rfl rfl)
theorem dX5_drop_22 : decode cX5_drop 22 = .ok (.ireturn, 1) := dk_172 (dk_at dksX5_drop_0 22 rfl rfl)
abbrev cX5_drops : ByteArray := prog_13_method_16_code
def yX5_drops : MethodName := ⟨RX5, "drops", "(I)I"⟩
def dkwX5_drops_0 : List UInt8 := [42, 180, 0, 11, 3, 27, 96, 46, 61, 42, 27, 3, 182, 0, 58, 28, 172]
abbrev dktX5_drops_0 : List UInt8 := dkwX5_drops_0 ++ []
theorem dksX5_drops_0 : cX5_drops.data.toList.drop 0 = dktX5_drops_0 := by decide +kernel
theorem dX5_drops_0 : decode cX5_drops 0 = .ok (.aload_n 0, 1) := dk_42 (dk_at dksX5_drops_0 0 rfl rfl)
theorem dX5_drops_1 : decode cX5_drops 1 = .ok (.getfield 11, 3) := dk_180 0 11 (dk_at dksX5_drops_0 1 rfl rfl)
theorem dX5_drops_4 : decode cX5_drops 4 = .ok (.iconst 0, 1) := dk_3 (dk_at dksX5_drops_0 4 rfl rfl)
theorem dX5_drops_5 : decode cX5_drops 5 = .ok (.iload_n 1, 1) := dk_27 (dk_at dksX5_drops_0 5 rfl rfl)
theorem dX5_drops_6 : decode cX5_drops 6 = .ok (.iadd, 1) := dk_96 (dk_at dksX5_drops_0 6 rfl rfl)
theorem dX5_drops_7 : decode cX5_drops 7 = .ok (.iaload, 1) := dk_46 (dk_at dksX5_drops_0 7 rfl rfl)
theorem dX5_drops_8 : decode cX5_drops 8 = .ok (.istore_n 2, 1) := dk_61 (dk_at dksX5_drops_0 8 rfl rfl)
theorem dX5_drops_9 : decode cX5_drops 9 = .ok (.aload_n 0, 1) := dk_42 (dk_at dksX5_drops_0 9 rfl rfl)
theorem dX5_drops_10 : decode cX5_drops 10 = .ok (.iload_n 1, 1) := dk_27 (dk_at dksX5_drops_0 10 rfl rfl)
theorem dX5_drops_11 : decode cX5_drops 11 = .ok (.iconst 0, 1) := dk_3 (dk_at dksX5_drops_0 11 rfl rfl)
theorem dX5_drops_12 : decode cX5_drops 12 = .ok (.invokevirtual 58, 3) := dk_182 0 58 (dk_at dksX5_drops_0 12 rfl rfl)
theorem dX5_drops_15 : decode cX5_drops 15 = .ok (.iload_n 2, 1) := dk_28 (dk_at dksX5_drops_0 15 rfl rfl)
theorem dX5_drops_16 : decode cX5_drops 16 = .ok (.ireturn, 1) := dk_172 (dk_at dksX5_drops_0 16 rfl rfl)
abbrev cX5_pin : ByteArray := prog_13_method_23_code
def yX5_pin : MethodName := ⟨RX5, "pin", "(IIZ)I"⟩
def dkwX5_pin_2 : List UInt8 := [17, 9, 96, 21, 4, 96, 29, 153, 0, 7, 4, 167, 0, 4, 3, 79, 21, 5, 172]
abbrev dktX5_pin_2 : List UInt8 := dkwX5_pin_2 ++ []
def dkwX5_pin_1 : List UInt8 := [154, 0, 6, 16, 253, 172, 42, 180, 0, 11, 17, 9, 96, 21, 4, 96, 46, 54, 5, 42, 180, 0, 11]
abbrev dktX5_pin_1 : List UInt8 := dkwX5_pin_1 ++ dktX5_pin_2
def dkwX5_pin_0 : List UInt8 := [27, 28, 184, 0, 96, 154, 0, 5, 2, 172, 16, 100, 27, 104, 28, 96, 54, 4, 42, 21, 4, 182, 0, 89]
abbrev dktX5_pin_0 : List UInt8 := dkwX5_pin_0 ++ dktX5_pin_1
theorem dksX5_pin_0 : cX5_pin.data.toList.drop 0 = dktX5_pin_0 := by decide +kernel
theorem dksX5_pin_1 : cX5_pin.data.toList.drop 24 = dktX5_pin_1 := dk_seg dksX5_pin_0 24 rfl rfl
theorem dksX5_pin_2 : cX5_pin.data.toList.drop 47 = dktX5_pin_2 := dk_seg dksX5_pin_1 23 rfl rfl
theorem dX5_pin_0 : decode cX5_pin 0 = .ok (.iload_n 1, 1) := dk_27 (dk_at dksX5_pin_0 0 rfl rfl)
theorem dX5_pin_1 : decode cX5_pin 1 = .ok (.iload_n 2, 1) := dk_28 (dk_at dksX5_pin_0 1 rfl rfl)
theorem dX5_pin_2 : decode cX5_pin 2 = .ok (.invokestatic 96, 3) := dk_184 0 96 (dk_at dksX5_pin_0 2 rfl rfl)
theorem dX5_pin_5 : decode cX5_pin 5 = .ok (.ifCond .ne 5, 3) := dk_154 0 5 (dk_at dksX5_pin_0 5 rfl rfl)
theorem dX5_pin_8 : decode cX5_pin 8 = .ok (.iconst (-1), 1) := dk_2 (dk_at dksX5_pin_0 8 rfl rfl)
theorem dX5_pin_9 : decode cX5_pin 9 = .ok (.ireturn, 1) := dk_172 (dk_at dksX5_pin_0 9 rfl rfl)
theorem dX5_pin_10 : decode cX5_pin 10 = .ok (.bipush 100, 2) := dk_16 100 (dk_at dksX5_pin_0 10 rfl rfl)
theorem dX5_pin_12 : decode cX5_pin 12 = .ok (.iload_n 1, 1) := dk_27 (dk_at dksX5_pin_0 12 rfl rfl)
theorem dX5_pin_13 : decode cX5_pin 13 = .ok (.imul, 1) := dk_104 (dk_at dksX5_pin_0 13 rfl rfl)
theorem dX5_pin_14 : decode cX5_pin 14 = .ok (.iload_n 2, 1) := dk_28 (dk_at dksX5_pin_0 14 rfl rfl)
theorem dX5_pin_15 : decode cX5_pin 15 = .ok (.iadd, 1) := dk_96 (dk_at dksX5_pin_0 15 rfl rfl)
theorem dX5_pin_16 : decode cX5_pin 16 = .ok (.istore 4, 2) := dk_54 4 (dk_at dksX5_pin_0 16 rfl rfl)
theorem dX5_pin_18 : decode cX5_pin 18 = .ok (.aload_n 0, 1) := dk_42 (dk_at dksX5_pin_0 18 rfl rfl)
theorem dX5_pin_19 : decode cX5_pin 19 = .ok (.iload 4, 2) := dk_21 4 (dk_at dksX5_pin_0 19 rfl rfl)
theorem dX5_pin_21 : decode cX5_pin 21 = .ok (.invokevirtual 89, 3) := dk_182 0 89 (dk_at dksX5_pin_0 21 rfl rfl)
theorem dX5_pin_24 : decode cX5_pin 24 = .ok (.ifCond .ne 6, 3) := dk_154 0 6 (dk_at dksX5_pin_1 0 rfl rfl)
theorem dX5_pin_27 : decode cX5_pin 27 = .ok (.bipush (-3), 2) := dk_16 253 (dk_at dksX5_pin_1 3 rfl rfl)
theorem dX5_pin_29 : decode cX5_pin 29 = .ok (.ireturn, 1) := dk_172 (dk_at dksX5_pin_1 5 rfl rfl)
theorem dX5_pin_30 : decode cX5_pin 30 = .ok (.aload_n 0, 1) := dk_42 (dk_at dksX5_pin_1 6 rfl rfl)
theorem dX5_pin_31 : decode cX5_pin 31 = .ok (.getfield 11, 3) := dk_180 0 11 (dk_at dksX5_pin_1 7 rfl rfl)
theorem dX5_pin_34 : decode cX5_pin 34 = .ok (.sipush 2400, 3) := dk_17 9 96 (dk_at dksX5_pin_1 10 rfl rfl)
theorem dX5_pin_37 : decode cX5_pin 37 = .ok (.iload 4, 2) := dk_21 4 (dk_at dksX5_pin_1 13 rfl rfl)
theorem dX5_pin_39 : decode cX5_pin 39 = .ok (.iadd, 1) := dk_96 (dk_at dksX5_pin_1 15 rfl rfl)
theorem dX5_pin_40 : decode cX5_pin 40 = .ok (.iaload, 1) := dk_46 (dk_at dksX5_pin_1 16 rfl rfl)
theorem dX5_pin_41 : decode cX5_pin 41 = .ok (.istore 5, 2) := dk_54 5 (dk_at dksX5_pin_1 17 rfl rfl)
theorem dX5_pin_43 : decode cX5_pin 43 = .ok (.aload_n 0, 1) := dk_42 (dk_at dksX5_pin_1 19 rfl rfl)
theorem dX5_pin_44 : decode cX5_pin 44 = .ok (.getfield 11, 3) := dk_180 0 11 (dk_at dksX5_pin_1 20 rfl rfl)
theorem dX5_pin_47 : decode cX5_pin 47 = .ok (.sipush 2400, 3) := dk_17 9 96 (dk_at dksX5_pin_2 0 rfl rfl)
theorem dX5_pin_50 : decode cX5_pin 50 = .ok (.iload 4, 2) := dk_21 4 (dk_at dksX5_pin_2 3 rfl rfl)
theorem dX5_pin_52 : decode cX5_pin 52 = .ok (.iadd, 1) := dk_96 (dk_at dksX5_pin_2 5 rfl rfl)
theorem dX5_pin_53 : decode cX5_pin 53 = .ok (.iload_n 3, 1) := dk_29 (dk_at dksX5_pin_2 6 rfl rfl)
theorem dX5_pin_54 : decode cX5_pin 54 = .ok (.ifCond .eq 7, 3) := dk_153 0 7 (dk_at dksX5_pin_2 7 rfl rfl)
theorem dX5_pin_57 : decode cX5_pin 57 = .ok (.iconst 1, 1) := dk_4 (dk_at dksX5_pin_2 10 rfl rfl)
theorem dX5_pin_58 : decode cX5_pin 58 = .ok (.goto 4, 3) := dk_167 0 4 (dk_at dksX5_pin_2 11 rfl rfl)
theorem dX5_pin_61 : decode cX5_pin 61 = .ok (.iconst 0, 1) := dk_3 (dk_at dksX5_pin_2 14 rfl rfl)
theorem dX5_pin_62 : decode cX5_pin 62 = .ok (.iastore, 1) := dk_79 (dk_at dksX5_pin_2 15 rfl rfl)
theorem dX5_pin_63 : decode cX5_pin 63 = .ok (.iload 5, 2) := dk_21 5 (dk_at dksX5_pin_2 16 rfl rfl)
theorem dX5_pin_65 : decode cX5_pin 65 = .ok (.ireturn, 1) := dk_172 (dk_at dksX5_pin_2 18 rfl rfl)
abbrev cX5_of : ByteArray := prog_13_method_25_code
def yX5_of : MethodName := ⟨RX5, "of", "(III)I"⟩
def dkwX5_of_9 : List UInt8 := [182, 0, 113, 172]
abbrev dktX5_of_9 : List UInt8 := dkwX5_of_9 ++ []
def dkwX5_of_8 : List UInt8 := [21, 4, 96, 46, 167, 0, 5, 16, 251, 172, 21, 5, 154, 0, 8, 16, 251, 167, 0, 9, 42, 21, 4]
abbrev dktX5_of_8 : List UInt8 := dkwX5_of_8 ++ dktX5_of_9
def dkwX5_of_7 : List UInt8 := [96, 46, 167, 0, 5, 16, 251, 172, 42, 21, 4, 182, 0, 89, 153, 0, 17, 42, 180, 0, 11, 17, 9, 96]
abbrev dktX5_of_7 : List UInt8 := dkwX5_of_7 ++ dktX5_of_8
def dkwX5_of_6 : List UInt8 := [167, 0, 5, 16, 251, 172, 42, 21, 4, 182, 0, 89, 153, 0, 17, 42, 180, 0, 11, 17, 7, 208, 21, 4]
abbrev dktX5_of_6 : List UInt8 := dkwX5_of_6 ++ dktX5_of_7
def dkwX5_of_5 : List UInt8 := [16, 251, 172, 42, 21, 4, 182, 0, 89, 153, 0, 17, 42, 180, 0, 11, 17, 6, 64, 21, 4, 96, 46]
abbrev dktX5_of_5 : List UInt8 := dkwX5_of_5 ++ dktX5_of_6
def dkwX5_of_4 : List UInt8 := [172, 42, 21, 4, 182, 0, 89, 153, 0, 17, 42, 180, 0, 11, 17, 4, 176, 21, 4, 96, 46, 167, 0, 5]
abbrev dktX5_of_4 : List UInt8 := dkwX5_of_4 ++ dktX5_of_5
def dkwX5_of_3 : List UInt8 := [21, 5, 172, 21, 5, 154, 0, 8, 16, 251, 167, 0, 14, 42, 180, 0, 11, 17, 3, 32, 21, 4, 96, 46]
abbrev dktX5_of_3 : List UInt8 := dkwX5_of_3 ++ dktX5_of_4
def dkwX5_of_2 : List UInt8 := [170, 0, 0, 0, 0, 0, 0, 169, 0, 0, 0, 0, 0, 0, 0, 5, 0, 0, 0, 40, 0, 0, 0, 43, 0, 0, 0, 65, 0, 0, 0, 91, 0, 0, 0, 117, 0, 0, 0, 143]
abbrev dktX5_of_2 : List UInt8 := dkwX5_of_2 ++ dktX5_of_3
def dkwX5_of_1 : List UInt8 := [28, 96, 54, 4, 42, 180, 0, 11, 3, 21, 4, 96, 46, 54, 5, 29]
abbrev dktX5_of_1 : List UInt8 := dkwX5_of_1 ++ dktX5_of_2
def dkwX5_of_0 : List UInt8 := [27, 28, 184, 0, 96, 153, 0, 13, 29, 3, 16, 6, 184, 0, 54, 154, 0, 5, 2, 172, 16, 100, 27, 104]
abbrev dktX5_of_0 : List UInt8 := dkwX5_of_0 ++ dktX5_of_1
theorem dksX5_of_0 : cX5_of.data.toList.drop 0 = dktX5_of_0 := by decide +kernel
theorem dksX5_of_1 : cX5_of.data.toList.drop 24 = dktX5_of_1 := dk_seg dksX5_of_0 24 rfl rfl
theorem dksX5_of_2 : cX5_of.data.toList.drop 40 = dktX5_of_2 := dk_seg dksX5_of_1 16 rfl rfl
theorem dksX5_of_3 : cX5_of.data.toList.drop 80 = dktX5_of_3 := dk_seg dksX5_of_2 40 rfl rfl
theorem dksX5_of_4 : cX5_of.data.toList.drop 104 = dktX5_of_4 := dk_seg dksX5_of_3 24 rfl rfl
theorem dksX5_of_5 : cX5_of.data.toList.drop 128 = dktX5_of_5 := dk_seg dksX5_of_4 24 rfl rfl
theorem dksX5_of_6 : cX5_of.data.toList.drop 151 = dktX5_of_6 := dk_seg dksX5_of_5 23 rfl rfl
theorem dksX5_of_7 : cX5_of.data.toList.drop 175 = dktX5_of_7 := dk_seg dksX5_of_6 24 rfl rfl
theorem dksX5_of_8 : cX5_of.data.toList.drop 199 = dktX5_of_8 := dk_seg dksX5_of_7 24 rfl rfl
theorem dksX5_of_9 : cX5_of.data.toList.drop 222 = dktX5_of_9 := dk_seg dksX5_of_8 23 rfl rfl
theorem dX5_of_0 : decode cX5_of 0 = .ok (.iload_n 1, 1) := dk_27 (dk_at dksX5_of_0 0 rfl rfl)
theorem dX5_of_1 : decode cX5_of 1 = .ok (.iload_n 2, 1) := dk_28 (dk_at dksX5_of_0 1 rfl rfl)
theorem dX5_of_2 : decode cX5_of 2 = .ok (.invokestatic 96, 3) := dk_184 0 96 (dk_at dksX5_of_0 2 rfl rfl)
theorem dX5_of_5 : decode cX5_of 5 = .ok (.ifCond .eq 13, 3) := dk_153 0 13 (dk_at dksX5_of_0 5 rfl rfl)
theorem dX5_of_8 : decode cX5_of 8 = .ok (.iload_n 3, 1) := dk_29 (dk_at dksX5_of_0 8 rfl rfl)
theorem dX5_of_9 : decode cX5_of 9 = .ok (.iconst 0, 1) := dk_3 (dk_at dksX5_of_0 9 rfl rfl)
theorem dX5_of_10 : decode cX5_of 10 = .ok (.bipush 6, 2) := dk_16 6 (dk_at dksX5_of_0 10 rfl rfl)
theorem dX5_of_12 : decode cX5_of 12 = .ok (.invokestatic 54, 3) := dk_184 0 54 (dk_at dksX5_of_0 12 rfl rfl)
theorem dX5_of_15 : decode cX5_of 15 = .ok (.ifCond .ne 5, 3) := dk_154 0 5 (dk_at dksX5_of_0 15 rfl rfl)
theorem dX5_of_18 : decode cX5_of 18 = .ok (.iconst (-1), 1) := dk_2 (dk_at dksX5_of_0 18 rfl rfl)
theorem dX5_of_19 : decode cX5_of 19 = .ok (.ireturn, 1) := dk_172 (dk_at dksX5_of_0 19 rfl rfl)
theorem dX5_of_20 : decode cX5_of 20 = .ok (.bipush 100, 2) := dk_16 100 (dk_at dksX5_of_0 20 rfl rfl)
theorem dX5_of_22 : decode cX5_of 22 = .ok (.iload_n 1, 1) := dk_27 (dk_at dksX5_of_0 22 rfl rfl)
theorem dX5_of_23 : decode cX5_of 23 = .ok (.imul, 1) := dk_104 (dk_at dksX5_of_0 23 rfl rfl)
theorem dX5_of_24 : decode cX5_of 24 = .ok (.iload_n 2, 1) := dk_28 (dk_at dksX5_of_1 0 rfl rfl)
theorem dX5_of_25 : decode cX5_of 25 = .ok (.iadd, 1) := dk_96 (dk_at dksX5_of_1 1 rfl rfl)
theorem dX5_of_26 : decode cX5_of 26 = .ok (.istore 4, 2) := dk_54 4 (dk_at dksX5_of_1 2 rfl rfl)
theorem dX5_of_28 : decode cX5_of 28 = .ok (.aload_n 0, 1) := dk_42 (dk_at dksX5_of_1 4 rfl rfl)
theorem dX5_of_29 : decode cX5_of 29 = .ok (.getfield 11, 3) := dk_180 0 11 (dk_at dksX5_of_1 5 rfl rfl)
theorem dX5_of_32 : decode cX5_of 32 = .ok (.iconst 0, 1) := dk_3 (dk_at dksX5_of_1 8 rfl rfl)
theorem dX5_of_33 : decode cX5_of 33 = .ok (.iload 4, 2) := dk_21 4 (dk_at dksX5_of_1 9 rfl rfl)
theorem dX5_of_35 : decode cX5_of 35 = .ok (.iadd, 1) := dk_96 (dk_at dksX5_of_1 11 rfl rfl)
theorem dX5_of_36 : decode cX5_of 36 = .ok (.iaload, 1) := dk_46 (dk_at dksX5_of_1 12 rfl rfl)
theorem dX5_of_37 : decode cX5_of 37 = .ok (.istore 5, 2) := dk_54 5 (dk_at dksX5_of_1 13 rfl rfl)
theorem dX5_of_39 : decode cX5_of 39 = .ok (.iload_n 3, 1) := dk_29 (dk_at dksX5_of_1 15 rfl rfl)
theorem dX5_of_40 : decode cX5_of 40 = .ok (.tableswitch 169 0 5 #[40, 43, 65, 91, 117, 143], 40) := by decide +kernel
theorem dX5_of_80 : decode cX5_of 80 = .ok (.iload 5, 2) := dk_21 5 (dk_at dksX5_of_3 0 rfl rfl)
theorem dX5_of_82 : decode cX5_of 82 = .ok (.ireturn, 1) := dk_172 (dk_at dksX5_of_3 2 rfl rfl)
theorem dX5_of_83 : decode cX5_of 83 = .ok (.iload 5, 2) := dk_21 5 (dk_at dksX5_of_3 3 rfl rfl)
theorem dX5_of_85 : decode cX5_of 85 = .ok (.ifCond .ne 8, 3) := dk_154 0 8 (dk_at dksX5_of_3 5 rfl rfl)
theorem dX5_of_88 : decode cX5_of 88 = .ok (.bipush (-5), 2) := dk_16 251 (dk_at dksX5_of_3 8 rfl rfl)
theorem dX5_of_90 : decode cX5_of 90 = .ok (.goto 14, 3) := dk_167 0 14 (dk_at dksX5_of_3 10 rfl rfl)
theorem dX5_of_93 : decode cX5_of 93 = .ok (.aload_n 0, 1) := dk_42 (dk_at dksX5_of_3 13 rfl rfl)
theorem dX5_of_94 : decode cX5_of 94 = .ok (.getfield 11, 3) := dk_180 0 11 (dk_at dksX5_of_3 14 rfl rfl)
theorem dX5_of_97 : decode cX5_of 97 = .ok (.sipush 800, 3) := dk_17 3 32 (dk_at dksX5_of_3 17 rfl rfl)
theorem dX5_of_100 : decode cX5_of 100 = .ok (.iload 4, 2) := dk_21 4 (dk_at dksX5_of_3 20 rfl rfl)
theorem dX5_of_102 : decode cX5_of 102 = .ok (.iadd, 1) := dk_96 (dk_at dksX5_of_3 22 rfl rfl)
theorem dX5_of_103 : decode cX5_of 103 = .ok (.iaload, 1) := dk_46 (dk_at dksX5_of_3 23 rfl rfl)
theorem dX5_of_104 : decode cX5_of 104 = .ok (.ireturn, 1) := dk_172 (dk_at dksX5_of_4 0 rfl rfl)
theorem dX5_of_105 : decode cX5_of 105 = .ok (.aload_n 0, 1) := dk_42 (dk_at dksX5_of_4 1 rfl rfl)
theorem dX5_of_106 : decode cX5_of 106 = .ok (.iload 4, 2) := dk_21 4 (dk_at dksX5_of_4 2 rfl rfl)
theorem dX5_of_108 : decode cX5_of 108 = .ok (.invokevirtual 89, 3) := dk_182 0 89 (dk_at dksX5_of_4 4 rfl rfl)
theorem dX5_of_111 : decode cX5_of 111 = .ok (.ifCond .eq 17, 3) := dk_153 0 17 (dk_at dksX5_of_4 7 rfl rfl)
theorem dX5_of_114 : decode cX5_of 114 = .ok (.aload_n 0, 1) := dk_42 (dk_at dksX5_of_4 10 rfl rfl)
theorem dX5_of_115 : decode cX5_of 115 = .ok (.getfield 11, 3) := dk_180 0 11 (dk_at dksX5_of_4 11 rfl rfl)
theorem dX5_of_118 : decode cX5_of 118 = .ok (.sipush 1200, 3) := dk_17 4 176 (dk_at dksX5_of_4 14 rfl rfl)
theorem dX5_of_121 : decode cX5_of 121 = .ok (.iload 4, 2) := dk_21 4 (dk_at dksX5_of_4 17 rfl rfl)
theorem dX5_of_123 : decode cX5_of 123 = .ok (.iadd, 1) := dk_96 (dk_at dksX5_of_4 19 rfl rfl)
theorem dX5_of_124 : decode cX5_of 124 = .ok (.iaload, 1) := dk_46 (dk_at dksX5_of_4 20 rfl rfl)
theorem dX5_of_125 : decode cX5_of 125 = .ok (.goto 5, 3) := dk_167 0 5 (dk_at dksX5_of_4 21 rfl rfl)
theorem dX5_of_128 : decode cX5_of 128 = .ok (.bipush (-5), 2) := dk_16 251 (dk_at dksX5_of_5 0 rfl rfl)
theorem dX5_of_130 : decode cX5_of 130 = .ok (.ireturn, 1) := dk_172 (dk_at dksX5_of_5 2 rfl rfl)
theorem dX5_of_131 : decode cX5_of 131 = .ok (.aload_n 0, 1) := dk_42 (dk_at dksX5_of_5 3 rfl rfl)
theorem dX5_of_132 : decode cX5_of 132 = .ok (.iload 4, 2) := dk_21 4 (dk_at dksX5_of_5 4 rfl rfl)
theorem dX5_of_134 : decode cX5_of 134 = .ok (.invokevirtual 89, 3) := dk_182 0 89 (dk_at dksX5_of_5 6 rfl rfl)
theorem dX5_of_137 : decode cX5_of 137 = .ok (.ifCond .eq 17, 3) := dk_153 0 17 (dk_at dksX5_of_5 9 rfl rfl)
theorem dX5_of_140 : decode cX5_of 140 = .ok (.aload_n 0, 1) := dk_42 (dk_at dksX5_of_5 12 rfl rfl)
theorem dX5_of_141 : decode cX5_of 141 = .ok (.getfield 11, 3) := dk_180 0 11 (dk_at dksX5_of_5 13 rfl rfl)
theorem dX5_of_144 : decode cX5_of 144 = .ok (.sipush 1600, 3) := dk_17 6 64 (dk_at dksX5_of_5 16 rfl rfl)
theorem dX5_of_147 : decode cX5_of 147 = .ok (.iload 4, 2) := dk_21 4 (dk_at dksX5_of_5 19 rfl rfl)
theorem dX5_of_149 : decode cX5_of 149 = .ok (.iadd, 1) := dk_96 (dk_at dksX5_of_5 21 rfl rfl)
theorem dX5_of_150 : decode cX5_of 150 = .ok (.iaload, 1) := dk_46 (dk_at dksX5_of_5 22 rfl rfl)
theorem dX5_of_151 : decode cX5_of 151 = .ok (.goto 5, 3) := dk_167 0 5 (dk_at dksX5_of_6 0 rfl rfl)
theorem dX5_of_154 : decode cX5_of 154 = .ok (.bipush (-5), 2) := dk_16 251 (dk_at dksX5_of_6 3 rfl rfl)
theorem dX5_of_156 : decode cX5_of 156 = .ok (.ireturn, 1) := dk_172 (dk_at dksX5_of_6 5 rfl rfl)
theorem dX5_of_157 : decode cX5_of 157 = .ok (.aload_n 0, 1) := dk_42 (dk_at dksX5_of_6 6 rfl rfl)
theorem dX5_of_158 : decode cX5_of 158 = .ok (.iload 4, 2) := dk_21 4 (dk_at dksX5_of_6 7 rfl rfl)
theorem dX5_of_160 : decode cX5_of 160 = .ok (.invokevirtual 89, 3) := dk_182 0 89 (dk_at dksX5_of_6 9 rfl rfl)
theorem dX5_of_163 : decode cX5_of 163 = .ok (.ifCond .eq 17, 3) := dk_153 0 17 (dk_at dksX5_of_6 12 rfl rfl)
theorem dX5_of_166 : decode cX5_of 166 = .ok (.aload_n 0, 1) := dk_42 (dk_at dksX5_of_6 15 rfl rfl)
theorem dX5_of_167 : decode cX5_of 167 = .ok (.getfield 11, 3) := dk_180 0 11 (dk_at dksX5_of_6 16 rfl rfl)
theorem dX5_of_170 : decode cX5_of 170 = .ok (.sipush 2000, 3) := dk_17 7 208 (dk_at dksX5_of_6 19 rfl rfl)
theorem dX5_of_173 : decode cX5_of 173 = .ok (.iload 4, 2) := dk_21 4 (dk_at dksX5_of_6 22 rfl rfl)
theorem dX5_of_175 : decode cX5_of 175 = .ok (.iadd, 1) := dk_96 (dk_at dksX5_of_7 0 rfl rfl)
theorem dX5_of_176 : decode cX5_of 176 = .ok (.iaload, 1) := dk_46 (dk_at dksX5_of_7 1 rfl rfl)
theorem dX5_of_177 : decode cX5_of 177 = .ok (.goto 5, 3) := dk_167 0 5 (dk_at dksX5_of_7 2 rfl rfl)
theorem dX5_of_180 : decode cX5_of 180 = .ok (.bipush (-5), 2) := dk_16 251 (dk_at dksX5_of_7 5 rfl rfl)
theorem dX5_of_182 : decode cX5_of 182 = .ok (.ireturn, 1) := dk_172 (dk_at dksX5_of_7 7 rfl rfl)
theorem dX5_of_183 : decode cX5_of 183 = .ok (.aload_n 0, 1) := dk_42 (dk_at dksX5_of_7 8 rfl rfl)
theorem dX5_of_184 : decode cX5_of 184 = .ok (.iload 4, 2) := dk_21 4 (dk_at dksX5_of_7 9 rfl rfl)
theorem dX5_of_186 : decode cX5_of 186 = .ok (.invokevirtual 89, 3) := dk_182 0 89 (dk_at dksX5_of_7 11 rfl rfl)
theorem dX5_of_189 : decode cX5_of 189 = .ok (.ifCond .eq 17, 3) := dk_153 0 17 (dk_at dksX5_of_7 14 rfl rfl)
theorem dX5_of_192 : decode cX5_of 192 = .ok (.aload_n 0, 1) := dk_42 (dk_at dksX5_of_7 17 rfl rfl)
theorem dX5_of_193 : decode cX5_of 193 = .ok (.getfield 11, 3) := dk_180 0 11 (dk_at dksX5_of_7 18 rfl rfl)
theorem dX5_of_196 : decode cX5_of 196 = .ok (.sipush 2400, 3) := dk_17 9 96 (dk_at dksX5_of_7 21 rfl rfl)
theorem dX5_of_199 : decode cX5_of 199 = .ok (.iload 4, 2) := dk_21 4 (dk_at dksX5_of_8 0 rfl rfl)
theorem dX5_of_201 : decode cX5_of 201 = .ok (.iadd, 1) := dk_96 (dk_at dksX5_of_8 2 rfl rfl)
theorem dX5_of_202 : decode cX5_of 202 = .ok (.iaload, 1) := dk_46 (dk_at dksX5_of_8 3 rfl rfl)
theorem dX5_of_203 : decode cX5_of 203 = .ok (.goto 5, 3) := dk_167 0 5 (dk_at dksX5_of_8 4 rfl rfl)
theorem dX5_of_206 : decode cX5_of 206 = .ok (.bipush (-5), 2) := dk_16 251 (dk_at dksX5_of_8 7 rfl rfl)
theorem dX5_of_208 : decode cX5_of 208 = .ok (.ireturn, 1) := dk_172 (dk_at dksX5_of_8 9 rfl rfl)
theorem dX5_of_209 : decode cX5_of 209 = .ok (.iload 5, 2) := dk_21 5 (dk_at dksX5_of_8 10 rfl rfl)
theorem dX5_of_211 : decode cX5_of 211 = .ok (.ifCond .ne 8, 3) := dk_154 0 8 (dk_at dksX5_of_8 12 rfl rfl)
theorem dX5_of_214 : decode cX5_of 214 = .ok (.bipush (-5), 2) := dk_16 251 (dk_at dksX5_of_8 15 rfl rfl)
theorem dX5_of_216 : decode cX5_of 216 = .ok (.goto 9, 3) := dk_167 0 9 (dk_at dksX5_of_8 17 rfl rfl)
theorem dX5_of_219 : decode cX5_of 219 = .ok (.aload_n 0, 1) := dk_42 (dk_at dksX5_of_8 20 rfl rfl)
theorem dX5_of_220 : decode cX5_of 220 = .ok (.iload 4, 2) := dk_21 4 (dk_at dksX5_of_8 21 rfl rfl)
theorem dX5_of_222 : decode cX5_of 222 = .ok (.invokevirtual 113, 3) := dk_182 0 113 (dk_at dksX5_of_9 0 rfl rfl)
theorem dX5_of_225 : decode cX5_of 225 = .ok (.ireturn, 1) := dk_172 (dk_at dksX5_of_9 3 rfl rfl)
abbrev cX5_placeOf : ByteArray := prog_13_method_24_code
def yX5_placeOf : MethodName := ⟨RX5, "placeOf", "(I)I"⟩
def dkwX5_placeOf_2 : List UInt8 := [27, 96, 46, 162, 0, 7, 4, 167, 0, 4, 3, 96, 61, 132, 3, 1, 167, 255, 196, 28, 172]
abbrev dktX5_placeOf_2 : List UInt8 := dkwX5_placeOf_2 ++ []
def dkwX5_placeOf_1 : List UInt8 := [3, 27, 96, 46, 160, 0, 30, 42, 180, 0, 11, 17, 10, 240, 29, 96, 46, 42, 180, 0, 11, 17, 10, 240]
abbrev dktX5_placeOf_1 : List UInt8 := dkwX5_placeOf_1 ++ dktX5_placeOf_2
def dkwX5_placeOf_0 : List UInt8 := [3, 61, 3, 62, 29, 17, 1, 144, 162, 0, 59, 28, 42, 180, 0, 11, 3, 29, 96, 46, 42, 180, 0, 11]
abbrev dktX5_placeOf_0 : List UInt8 := dkwX5_placeOf_0 ++ dktX5_placeOf_1
theorem dksX5_placeOf_0 : cX5_placeOf.data.toList.drop 0 = dktX5_placeOf_0 := by decide +kernel
theorem dksX5_placeOf_1 : cX5_placeOf.data.toList.drop 24 = dktX5_placeOf_1 := dk_seg dksX5_placeOf_0 24 rfl rfl
theorem dksX5_placeOf_2 : cX5_placeOf.data.toList.drop 48 = dktX5_placeOf_2 := dk_seg dksX5_placeOf_1 24 rfl rfl
theorem dX5_placeOf_0 : decode cX5_placeOf 0 = .ok (.iconst 0, 1) := dk_3 (dk_at dksX5_placeOf_0 0 rfl rfl)
theorem dX5_placeOf_1 : decode cX5_placeOf 1 = .ok (.istore_n 2, 1) := dk_61 (dk_at dksX5_placeOf_0 1 rfl rfl)
theorem dX5_placeOf_2 : decode cX5_placeOf 2 = .ok (.iconst 0, 1) := dk_3 (dk_at dksX5_placeOf_0 2 rfl rfl)
theorem dX5_placeOf_3 : decode cX5_placeOf 3 = .ok (.istore_n 3, 1) := dk_62 (dk_at dksX5_placeOf_0 3 rfl rfl)
theorem dX5_placeOf_4 : decode cX5_placeOf 4 = .ok (.iload_n 3, 1) := dk_29 (dk_at dksX5_placeOf_0 4 rfl rfl)
theorem dX5_placeOf_5 : decode cX5_placeOf 5 = .ok (.sipush 400, 3) := dk_17 1 144 (dk_at dksX5_placeOf_0 5 rfl rfl)
theorem dX5_placeOf_8 : decode cX5_placeOf 8 = .ok (.if_icmp .ge 59, 3) := dk_162 0 59 (dk_at dksX5_placeOf_0 8 rfl rfl)
theorem dX5_placeOf_11 : decode cX5_placeOf 11 = .ok (.iload_n 2, 1) := dk_28 (dk_at dksX5_placeOf_0 11 rfl rfl)
theorem dX5_placeOf_12 : decode cX5_placeOf 12 = .ok (.aload_n 0, 1) := dk_42 (dk_at dksX5_placeOf_0 12 rfl rfl)
theorem dX5_placeOf_13 : decode cX5_placeOf 13 = .ok (.getfield 11, 3) := dk_180 0 11 (dk_at dksX5_placeOf_0 13 rfl rfl)
theorem dX5_placeOf_16 : decode cX5_placeOf 16 = .ok (.iconst 0, 1) := dk_3 (dk_at dksX5_placeOf_0 16 rfl rfl)
theorem dX5_placeOf_17 : decode cX5_placeOf 17 = .ok (.iload_n 3, 1) := dk_29 (dk_at dksX5_placeOf_0 17 rfl rfl)
theorem dX5_placeOf_18 : decode cX5_placeOf 18 = .ok (.iadd, 1) := dk_96 (dk_at dksX5_placeOf_0 18 rfl rfl)
theorem dX5_placeOf_19 : decode cX5_placeOf 19 = .ok (.iaload, 1) := dk_46 (dk_at dksX5_placeOf_0 19 rfl rfl)
theorem dX5_placeOf_20 : decode cX5_placeOf 20 = .ok (.aload_n 0, 1) := dk_42 (dk_at dksX5_placeOf_0 20 rfl rfl)
theorem dX5_placeOf_21 : decode cX5_placeOf 21 = .ok (.getfield 11, 3) := dk_180 0 11 (dk_at dksX5_placeOf_0 21 rfl rfl)
theorem dX5_placeOf_24 : decode cX5_placeOf 24 = .ok (.iconst 0, 1) := dk_3 (dk_at dksX5_placeOf_1 0 rfl rfl)
theorem dX5_placeOf_25 : decode cX5_placeOf 25 = .ok (.iload_n 1, 1) := dk_27 (dk_at dksX5_placeOf_1 1 rfl rfl)
theorem dX5_placeOf_26 : decode cX5_placeOf 26 = .ok (.iadd, 1) := dk_96 (dk_at dksX5_placeOf_1 2 rfl rfl)
theorem dX5_placeOf_27 : decode cX5_placeOf 27 = .ok (.iaload, 1) := dk_46 (dk_at dksX5_placeOf_1 3 rfl rfl)
theorem dX5_placeOf_28 : decode cX5_placeOf 28 = .ok (.if_icmp .ne 30, 3) := dk_160 0 30 (dk_at dksX5_placeOf_1 4 rfl rfl)
theorem dX5_placeOf_31 : decode cX5_placeOf 31 = .ok (.aload_n 0, 1) := dk_42 (dk_at dksX5_placeOf_1 7 rfl rfl)
theorem dX5_placeOf_32 : decode cX5_placeOf 32 = .ok (.getfield 11, 3) := dk_180 0 11 (dk_at dksX5_placeOf_1 8 rfl rfl)
theorem dX5_placeOf_35 : decode cX5_placeOf 35 = .ok (.sipush 2800, 3) := dk_17 10 240 (dk_at dksX5_placeOf_1 11 rfl rfl)
theorem dX5_placeOf_38 : decode cX5_placeOf 38 = .ok (.iload_n 3, 1) := dk_29 (dk_at dksX5_placeOf_1 14 rfl rfl)
theorem dX5_placeOf_39 : decode cX5_placeOf 39 = .ok (.iadd, 1) := dk_96 (dk_at dksX5_placeOf_1 15 rfl rfl)
theorem dX5_placeOf_40 : decode cX5_placeOf 40 = .ok (.iaload, 1) := dk_46 (dk_at dksX5_placeOf_1 16 rfl rfl)
theorem dX5_placeOf_41 : decode cX5_placeOf 41 = .ok (.aload_n 0, 1) := dk_42 (dk_at dksX5_placeOf_1 17 rfl rfl)
theorem dX5_placeOf_42 : decode cX5_placeOf 42 = .ok (.getfield 11, 3) := dk_180 0 11 (dk_at dksX5_placeOf_1 18 rfl rfl)
theorem dX5_placeOf_45 : decode cX5_placeOf 45 = .ok (.sipush 2800, 3) := dk_17 10 240 (dk_at dksX5_placeOf_1 21 rfl rfl)
theorem dX5_placeOf_48 : decode cX5_placeOf 48 = .ok (.iload_n 1, 1) := dk_27 (dk_at dksX5_placeOf_2 0 rfl rfl)
theorem dX5_placeOf_49 : decode cX5_placeOf 49 = .ok (.iadd, 1) := dk_96 (dk_at dksX5_placeOf_2 1 rfl rfl)
theorem dX5_placeOf_50 : decode cX5_placeOf 50 = .ok (.iaload, 1) := dk_46 (dk_at dksX5_placeOf_2 2 rfl rfl)
theorem dX5_placeOf_51 : decode cX5_placeOf 51 = .ok (.if_icmp .ge 7, 3) := dk_162 0 7 (dk_at dksX5_placeOf_2 3 rfl rfl)
theorem dX5_placeOf_54 : decode cX5_placeOf 54 = .ok (.iconst 1, 1) := dk_4 (dk_at dksX5_placeOf_2 6 rfl rfl)
theorem dX5_placeOf_55 : decode cX5_placeOf 55 = .ok (.goto 4, 3) := dk_167 0 4 (dk_at dksX5_placeOf_2 7 rfl rfl)
theorem dX5_placeOf_58 : decode cX5_placeOf 58 = .ok (.iconst 0, 1) := dk_3 (dk_at dksX5_placeOf_2 10 rfl rfl)
theorem dX5_placeOf_59 : decode cX5_placeOf 59 = .ok (.iadd, 1) := dk_96 (dk_at dksX5_placeOf_2 11 rfl rfl)
theorem dX5_placeOf_60 : decode cX5_placeOf 60 = .ok (.istore_n 2, 1) := dk_61 (dk_at dksX5_placeOf_2 12 rfl rfl)
theorem dX5_placeOf_61 : decode cX5_placeOf 61 = .ok (.iinc 3 1, 3) := dk_132 3 1 (dk_at dksX5_placeOf_2 13 rfl rfl)
theorem dX5_placeOf_64 : decode cX5_placeOf 64 = .ok (.goto (-60), 3) := dk_167 255 196 (dk_at dksX5_placeOf_2 16 rfl rfl)
theorem dX5_placeOf_67 : decode cX5_placeOf 67 = .ok (.iload_n 2, 1) := dk_28 (dk_at dksX5_placeOf_2 19 rfl rfl)
theorem dX5_placeOf_68 : decode cX5_placeOf 68 = .ok (.ireturn, 1) := dk_172 (dk_at dksX5_placeOf_2 20 rfl rfl)
abbrev cX5_key : ByteArray := prog_13_method_27_code
def yX5_key : MethodName := ⟨RX5, "key", "(II)I"⟩
def dkwX5_key_0 : List UInt8 := [27, 4, 7, 184, 0, 54, 153, 0, 16, 28, 155, 0, 12, 42, 27, 28, 182, 0, 116, 167, 0, 4, 2, 172]
abbrev dktX5_key_0 : List UInt8 := dkwX5_key_0 ++ []
theorem dksX5_key_0 : cX5_key.data.toList.drop 0 = dktX5_key_0 := by decide +kernel
theorem dX5_key_0 : decode cX5_key 0 = .ok (.iload_n 1, 1) := dk_27 (dk_at dksX5_key_0 0 rfl rfl)
theorem dX5_key_1 : decode cX5_key 1 = .ok (.iconst 1, 1) := dk_4 (dk_at dksX5_key_0 1 rfl rfl)
theorem dX5_key_2 : decode cX5_key 2 = .ok (.iconst 4, 1) := dk_7 (dk_at dksX5_key_0 2 rfl rfl)
theorem dX5_key_3 : decode cX5_key 3 = .ok (.invokestatic 54, 3) := dk_184 0 54 (dk_at dksX5_key_0 3 rfl rfl)
theorem dX5_key_6 : decode cX5_key 6 = .ok (.ifCond .eq 16, 3) := dk_153 0 16 (dk_at dksX5_key_0 6 rfl rfl)
theorem dX5_key_9 : decode cX5_key 9 = .ok (.iload_n 2, 1) := dk_28 (dk_at dksX5_key_0 9 rfl rfl)
theorem dX5_key_10 : decode cX5_key 10 = .ok (.ifCond .lt 12, 3) := dk_155 0 12 (dk_at dksX5_key_0 10 rfl rfl)
theorem dX5_key_13 : decode cX5_key 13 = .ok (.aload_n 0, 1) := dk_42 (dk_at dksX5_key_0 13 rfl rfl)
theorem dX5_key_14 : decode cX5_key 14 = .ok (.iload_n 1, 1) := dk_27 (dk_at dksX5_key_0 14 rfl rfl)
theorem dX5_key_15 : decode cX5_key 15 = .ok (.iload_n 2, 1) := dk_28 (dk_at dksX5_key_0 15 rfl rfl)
theorem dX5_key_16 : decode cX5_key 16 = .ok (.invokevirtual 116, 3) := dk_182 0 116 (dk_at dksX5_key_0 16 rfl rfl)
theorem dX5_key_19 : decode cX5_key 19 = .ok (.goto 4, 3) := dk_167 0 4 (dk_at dksX5_key_0 19 rfl rfl)
theorem dX5_key_22 : decode cX5_key 22 = .ok (.iconst (-1), 1) := dk_2 (dk_at dksX5_key_0 22 rfl rfl)
theorem dX5_key_23 : decode cX5_key 23 = .ok (.ireturn, 1) := dk_172 (dk_at dksX5_key_0 23 rfl rfl)
abbrev cX5_keyAt : ByteArray := prog_13_method_26_code
def yX5_keyAt : MethodName := ⟨RX5, "keyAt", "(II)I"⟩
def dkwX5_keyAt_1 : List UInt8 := [182, 0, 113, 28, 160, 0, 5, 29, 172, 132, 3, 1, 167, 255, 223, 16, 251, 172]
abbrev dktX5_keyAt_1 : List UInt8 := dkwX5_keyAt_1 ++ []
def dkwX5_keyAt_0 : List UInt8 := [3, 62, 29, 17, 1, 144, 162, 0, 32, 42, 180, 0, 11, 3, 29, 96, 46, 27, 160, 0, 14, 42, 29]
abbrev dktX5_keyAt_0 : List UInt8 := dkwX5_keyAt_0 ++ dktX5_keyAt_1
theorem dksX5_keyAt_0 : cX5_keyAt.data.toList.drop 0 = dktX5_keyAt_0 := by decide +kernel
theorem dksX5_keyAt_1 : cX5_keyAt.data.toList.drop 23 = dktX5_keyAt_1 := dk_seg dksX5_keyAt_0 23 rfl rfl
theorem dX5_keyAt_0 : decode cX5_keyAt 0 = .ok (.iconst 0, 1) := dk_3 (dk_at dksX5_keyAt_0 0 rfl rfl)
theorem dX5_keyAt_1 : decode cX5_keyAt 1 = .ok (.istore_n 3, 1) := dk_62 (dk_at dksX5_keyAt_0 1 rfl rfl)
theorem dX5_keyAt_2 : decode cX5_keyAt 2 = .ok (.iload_n 3, 1) := dk_29 (dk_at dksX5_keyAt_0 2 rfl rfl)
theorem dX5_keyAt_3 : decode cX5_keyAt 3 = .ok (.sipush 400, 3) := dk_17 1 144 (dk_at dksX5_keyAt_0 3 rfl rfl)
theorem dX5_keyAt_6 : decode cX5_keyAt 6 = .ok (.if_icmp .ge 32, 3) := dk_162 0 32 (dk_at dksX5_keyAt_0 6 rfl rfl)
theorem dX5_keyAt_9 : decode cX5_keyAt 9 = .ok (.aload_n 0, 1) := dk_42 (dk_at dksX5_keyAt_0 9 rfl rfl)
theorem dX5_keyAt_10 : decode cX5_keyAt 10 = .ok (.getfield 11, 3) := dk_180 0 11 (dk_at dksX5_keyAt_0 10 rfl rfl)
theorem dX5_keyAt_13 : decode cX5_keyAt 13 = .ok (.iconst 0, 1) := dk_3 (dk_at dksX5_keyAt_0 13 rfl rfl)
theorem dX5_keyAt_14 : decode cX5_keyAt 14 = .ok (.iload_n 3, 1) := dk_29 (dk_at dksX5_keyAt_0 14 rfl rfl)
theorem dX5_keyAt_15 : decode cX5_keyAt 15 = .ok (.iadd, 1) := dk_96 (dk_at dksX5_keyAt_0 15 rfl rfl)
theorem dX5_keyAt_16 : decode cX5_keyAt 16 = .ok (.iaload, 1) := dk_46 (dk_at dksX5_keyAt_0 16 rfl rfl)
theorem dX5_keyAt_17 : decode cX5_keyAt 17 = .ok (.iload_n 1, 1) := dk_27 (dk_at dksX5_keyAt_0 17 rfl rfl)
theorem dX5_keyAt_18 : decode cX5_keyAt 18 = .ok (.if_icmp .ne 14, 3) := dk_160 0 14 (dk_at dksX5_keyAt_0 18 rfl rfl)
theorem dX5_keyAt_21 : decode cX5_keyAt 21 = .ok (.aload_n 0, 1) := dk_42 (dk_at dksX5_keyAt_0 21 rfl rfl)
theorem dX5_keyAt_22 : decode cX5_keyAt 22 = .ok (.iload_n 3, 1) := dk_29 (dk_at dksX5_keyAt_0 22 rfl rfl)
theorem dX5_keyAt_23 : decode cX5_keyAt 23 = .ok (.invokevirtual 113, 3) := dk_182 0 113 (dk_at dksX5_keyAt_1 0 rfl rfl)
theorem dX5_keyAt_26 : decode cX5_keyAt 26 = .ok (.iload_n 2, 1) := dk_28 (dk_at dksX5_keyAt_1 3 rfl rfl)
theorem dX5_keyAt_27 : decode cX5_keyAt 27 = .ok (.if_icmp .ne 5, 3) := dk_160 0 5 (dk_at dksX5_keyAt_1 4 rfl rfl)
theorem dX5_keyAt_30 : decode cX5_keyAt 30 = .ok (.iload_n 3, 1) := dk_29 (dk_at dksX5_keyAt_1 7 rfl rfl)
theorem dX5_keyAt_31 : decode cX5_keyAt 31 = .ok (.ireturn, 1) := dk_172 (dk_at dksX5_keyAt_1 8 rfl rfl)
theorem dX5_keyAt_32 : decode cX5_keyAt 32 = .ok (.iinc 3 1, 3) := dk_132 3 1 (dk_at dksX5_keyAt_1 9 rfl rfl)
theorem dX5_keyAt_35 : decode cX5_keyAt 35 = .ok (.goto (-33), 3) := dk_167 255 223 (dk_at dksX5_keyAt_1 12 rfl rfl)
theorem dX5_keyAt_38 : decode cX5_keyAt 38 = .ok (.bipush (-5), 2) := dk_16 251 (dk_at dksX5_keyAt_1 15 rfl rfl)
theorem dX5_keyAt_40 : decode cX5_keyAt 40 = .ok (.ireturn, 1) := dk_172 (dk_at dksX5_keyAt_1 17 rfl rfl)
abbrev cX5_gone : ByteArray := prog_13_method_28_code
def yX5_gone : MethodName := ⟨RX5, "gone", "(I)I"⟩
def dkwX5_gone_1 : List UInt8 := [42, 180, 0, 11, 17, 12, 144, 27, 96, 46, 167, 0, 5, 16, 251, 172]
abbrev dktX5_gone_1 : List UInt8 := dkwX5_gone_1 ++ []
def dkwX5_gone_0 : List UInt8 := [27, 156, 0, 5, 2, 172, 27, 16, 20, 162, 0, 28, 27, 42, 180, 0, 11, 17, 12, 142, 46, 162, 0, 16]
abbrev dktX5_gone_0 : List UInt8 := dkwX5_gone_0 ++ dktX5_gone_1
theorem dksX5_gone_0 : cX5_gone.data.toList.drop 0 = dktX5_gone_0 := by decide +kernel
theorem dksX5_gone_1 : cX5_gone.data.toList.drop 24 = dktX5_gone_1 := dk_seg dksX5_gone_0 24 rfl rfl
theorem dX5_gone_0 : decode cX5_gone 0 = .ok (.iload_n 1, 1) := dk_27 (dk_at dksX5_gone_0 0 rfl rfl)
theorem dX5_gone_1 : decode cX5_gone 1 = .ok (.ifCond .ge 5, 3) := dk_156 0 5 (dk_at dksX5_gone_0 1 rfl rfl)
theorem dX5_gone_4 : decode cX5_gone 4 = .ok (.iconst (-1), 1) := dk_2 (dk_at dksX5_gone_0 4 rfl rfl)
theorem dX5_gone_5 : decode cX5_gone 5 = .ok (.ireturn, 1) := dk_172 (dk_at dksX5_gone_0 5 rfl rfl)
theorem dX5_gone_6 : decode cX5_gone 6 = .ok (.iload_n 1, 1) := dk_27 (dk_at dksX5_gone_0 6 rfl rfl)
theorem dX5_gone_7 : decode cX5_gone 7 = .ok (.bipush 20, 2) := dk_16 20 (dk_at dksX5_gone_0 7 rfl rfl)
theorem dX5_gone_9 : decode cX5_gone 9 = .ok (.if_icmp .ge 28, 3) := dk_162 0 28 (dk_at dksX5_gone_0 9 rfl rfl)
theorem dX5_gone_12 : decode cX5_gone 12 = .ok (.iload_n 1, 1) := dk_27 (dk_at dksX5_gone_0 12 rfl rfl)
theorem dX5_gone_13 : decode cX5_gone 13 = .ok (.aload_n 0, 1) := dk_42 (dk_at dksX5_gone_0 13 rfl rfl)
theorem dX5_gone_14 : decode cX5_gone 14 = .ok (.getfield 11, 3) := dk_180 0 11 (dk_at dksX5_gone_0 14 rfl rfl)
theorem dX5_gone_17 : decode cX5_gone 17 = .ok (.sipush 3214, 3) := dk_17 12 142 (dk_at dksX5_gone_0 17 rfl rfl)
theorem dX5_gone_20 : decode cX5_gone 20 = .ok (.iaload, 1) := dk_46 (dk_at dksX5_gone_0 20 rfl rfl)
theorem dX5_gone_21 : decode cX5_gone 21 = .ok (.if_icmp .ge 16, 3) := dk_162 0 16 (dk_at dksX5_gone_0 21 rfl rfl)
theorem dX5_gone_24 : decode cX5_gone 24 = .ok (.aload_n 0, 1) := dk_42 (dk_at dksX5_gone_1 0 rfl rfl)
theorem dX5_gone_25 : decode cX5_gone 25 = .ok (.getfield 11, 3) := dk_180 0 11 (dk_at dksX5_gone_1 1 rfl rfl)
theorem dX5_gone_28 : decode cX5_gone 28 = .ok (.sipush 3216, 3) := dk_17 12 144 (dk_at dksX5_gone_1 4 rfl rfl)
theorem dX5_gone_31 : decode cX5_gone 31 = .ok (.iload_n 1, 1) := dk_27 (dk_at dksX5_gone_1 7 rfl rfl)
theorem dX5_gone_32 : decode cX5_gone 32 = .ok (.iadd, 1) := dk_96 (dk_at dksX5_gone_1 8 rfl rfl)
theorem dX5_gone_33 : decode cX5_gone 33 = .ok (.iaload, 1) := dk_46 (dk_at dksX5_gone_1 9 rfl rfl)
theorem dX5_gone_34 : decode cX5_gone 34 = .ok (.goto 5, 3) := dk_167 0 5 (dk_at dksX5_gone_1 10 rfl rfl)
theorem dX5_gone_37 : decode cX5_gone 37 = .ok (.bipush (-5), 2) := dk_16 251 (dk_at dksX5_gone_1 13 rfl rfl)
theorem dX5_gone_39 : decode cX5_gone 39 = .ok (.ireturn, 1) := dk_172 (dk_at dksX5_gone_1 15 rfl rfl)
abbrev cX5_victim : ByteArray := prog_13_method_29_code
def yX5_victim : MethodName := ⟨RX5, "victim", "(I)I"⟩
def dkwX5_victim_3 : List UInt8 := [180, 0, 11, 184, 0, 120, 28, 172]
abbrev dktX5_victim_3 : List UInt8 := dkwX5_victim_3 ++ []
def dkwX5_victim_2 : List UInt8 := [180, 0, 62, 162, 0, 12, 42, 180, 0, 21, 27, 46, 167, 0, 5, 16, 251, 61, 42, 180, 0, 15, 42]
abbrev dktX5_victim_2 : List UInt8 := dkwX5_victim_2 ++ dktX5_victim_3
def dkwX5_victim_1 : List UInt8 := [180, 0, 11, 17, 12, 129, 3, 79, 42, 180, 0, 11, 17, 12, 128, 3, 79, 42, 182, 0, 86, 27, 42]
abbrev dktX5_victim_1 : List UInt8 := dkwX5_victim_1 ++ dktX5_victim_2
def dkwX5_victim_0 : List UInt8 := [27, 156, 0, 5, 2, 172, 42, 180, 0, 11, 42, 180, 0, 15, 184, 0, 120, 42, 3, 181, 0, 62, 42]
abbrev dktX5_victim_0 : List UInt8 := dkwX5_victim_0 ++ dktX5_victim_1
theorem dksX5_victim_0 : cX5_victim.data.toList.drop 0 = dktX5_victim_0 := by decide +kernel
theorem dksX5_victim_1 : cX5_victim.data.toList.drop 23 = dktX5_victim_1 := dk_seg dksX5_victim_0 23 rfl rfl
theorem dksX5_victim_2 : cX5_victim.data.toList.drop 46 = dktX5_victim_2 := dk_seg dksX5_victim_1 23 rfl rfl
theorem dksX5_victim_3 : cX5_victim.data.toList.drop 69 = dktX5_victim_3 := dk_seg dksX5_victim_2 23 rfl rfl
theorem dX5_victim_0 : decode cX5_victim 0 = .ok (.iload_n 1, 1) := dk_27 (dk_at dksX5_victim_0 0 rfl rfl)
theorem dX5_victim_1 : decode cX5_victim 1 = .ok (.ifCond .ge 5, 3) := dk_156 0 5 (dk_at dksX5_victim_0 1 rfl rfl)
theorem dX5_victim_4 : decode cX5_victim 4 = .ok (.iconst (-1), 1) := dk_2 (dk_at dksX5_victim_0 4 rfl rfl)
theorem dX5_victim_5 : decode cX5_victim 5 = .ok (.ireturn, 1) := dk_172 (dk_at dksX5_victim_0 5 rfl rfl)
theorem dX5_victim_6 : decode cX5_victim 6 = .ok (.aload_n 0, 1) := dk_42 (dk_at dksX5_victim_0 6 rfl rfl)
theorem dX5_victim_7 : decode cX5_victim 7 = .ok (.getfield 11, 3) := dk_180 0 11 (dk_at dksX5_victim_0 7 rfl rfl)
theorem dX5_victim_10 : decode cX5_victim 10 = .ok (.aload_n 0, 1) := dk_42 (dk_at dksX5_victim_0 10 rfl rfl)
theorem dX5_victim_11 : decode cX5_victim 11 = .ok (.getfield 15, 3) := dk_180 0 15 (dk_at dksX5_victim_0 11 rfl rfl)
theorem dX5_victim_14 : decode cX5_victim 14 = .ok (.invokestatic 120, 3) := dk_184 0 120 (dk_at dksX5_victim_0 14 rfl rfl)
theorem dX5_victim_17 : decode cX5_victim 17 = .ok (.aload_n 0, 1) := dk_42 (dk_at dksX5_victim_0 17 rfl rfl)
theorem dX5_victim_18 : decode cX5_victim 18 = .ok (.iconst 0, 1) := dk_3 (dk_at dksX5_victim_0 18 rfl rfl)
theorem dX5_victim_19 : decode cX5_victim 19 = .ok (.putfield 62, 3) := dk_181 0 62 (dk_at dksX5_victim_0 19 rfl rfl)
theorem dX5_victim_22 : decode cX5_victim 22 = .ok (.aload_n 0, 1) := dk_42 (dk_at dksX5_victim_0 22 rfl rfl)
theorem dX5_victim_23 : decode cX5_victim 23 = .ok (.getfield 11, 3) := dk_180 0 11 (dk_at dksX5_victim_1 0 rfl rfl)
theorem dX5_victim_26 : decode cX5_victim 26 = .ok (.sipush 3201, 3) := dk_17 12 129 (dk_at dksX5_victim_1 3 rfl rfl)
theorem dX5_victim_29 : decode cX5_victim 29 = .ok (.iconst 0, 1) := dk_3 (dk_at dksX5_victim_1 6 rfl rfl)
theorem dX5_victim_30 : decode cX5_victim 30 = .ok (.iastore, 1) := dk_79 (dk_at dksX5_victim_1 7 rfl rfl)
theorem dX5_victim_31 : decode cX5_victim 31 = .ok (.aload_n 0, 1) := dk_42 (dk_at dksX5_victim_1 8 rfl rfl)
theorem dX5_victim_32 : decode cX5_victim 32 = .ok (.getfield 11, 3) := dk_180 0 11 (dk_at dksX5_victim_1 9 rfl rfl)
theorem dX5_victim_35 : decode cX5_victim 35 = .ok (.sipush 3200, 3) := dk_17 12 128 (dk_at dksX5_victim_1 12 rfl rfl)
theorem dX5_victim_38 : decode cX5_victim 38 = .ok (.iconst 0, 1) := dk_3 (dk_at dksX5_victim_1 15 rfl rfl)
theorem dX5_victim_39 : decode cX5_victim 39 = .ok (.iastore, 1) := dk_79 (dk_at dksX5_victim_1 16 rfl rfl)
theorem dX5_victim_40 : decode cX5_victim 40 = .ok (.aload_n 0, 1) := dk_42 (dk_at dksX5_victim_1 17 rfl rfl)
theorem dX5_victim_41 : decode cX5_victim 41 = .ok (.invokevirtual 86, 3) := dk_182 0 86 (dk_at dksX5_victim_1 18 rfl rfl)
theorem dX5_victim_44 : decode cX5_victim 44 = .ok (.iload_n 1, 1) := dk_27 (dk_at dksX5_victim_1 21 rfl rfl)
theorem dX5_victim_45 : decode cX5_victim 45 = .ok (.aload_n 0, 1) := dk_42 (dk_at dksX5_victim_1 22 rfl rfl)
theorem dX5_victim_46 : decode cX5_victim 46 = .ok (.getfield 62, 3) := dk_180 0 62 (dk_at dksX5_victim_2 0 rfl rfl)
theorem dX5_victim_49 : decode cX5_victim 49 = .ok (.if_icmp .ge 12, 3) := dk_162 0 12 (dk_at dksX5_victim_2 3 rfl rfl)
theorem dX5_victim_52 : decode cX5_victim 52 = .ok (.aload_n 0, 1) := dk_42 (dk_at dksX5_victim_2 6 rfl rfl)
theorem dX5_victim_53 : decode cX5_victim 53 = .ok (.getfield 21, 3) := dk_180 0 21 (dk_at dksX5_victim_2 7 rfl rfl)
theorem dX5_victim_56 : decode cX5_victim 56 = .ok (.iload_n 1, 1) := dk_27 (dk_at dksX5_victim_2 10 rfl rfl)
theorem dX5_victim_57 : decode cX5_victim 57 = .ok (.iaload, 1) := dk_46 (dk_at dksX5_victim_2 11 rfl rfl)
theorem dX5_victim_58 : decode cX5_victim 58 = .ok (.goto 5, 3) := dk_167 0 5 (dk_at dksX5_victim_2 12 rfl rfl)
theorem dX5_victim_61 : decode cX5_victim 61 = .ok (.bipush (-5), 2) := dk_16 251 (dk_at dksX5_victim_2 15 rfl rfl)
theorem dX5_victim_63 : decode cX5_victim 63 = .ok (.istore_n 2, 1) := dk_61 (dk_at dksX5_victim_2 17 rfl rfl)
theorem dX5_victim_64 : decode cX5_victim 64 = .ok (.aload_n 0, 1) := dk_42 (dk_at dksX5_victim_2 18 rfl rfl)
theorem dX5_victim_65 : decode cX5_victim 65 = .ok (.getfield 15, 3) := dk_180 0 15 (dk_at dksX5_victim_2 19 rfl rfl)
theorem dX5_victim_68 : decode cX5_victim 68 = .ok (.aload_n 0, 1) := dk_42 (dk_at dksX5_victim_2 22 rfl rfl)
theorem dX5_victim_69 : decode cX5_victim 69 = .ok (.getfield 11, 3) := dk_180 0 11 (dk_at dksX5_victim_3 0 rfl rfl)
theorem dX5_victim_72 : decode cX5_victim 72 = .ok (.invokestatic 120, 3) := dk_184 0 120 (dk_at dksX5_victim_3 3 rfl rfl)
theorem dX5_victim_75 : decode cX5_victim 75 = .ok (.iload_n 2, 1) := dk_28 (dk_at dksX5_victim_3 6 rfl rfl)
theorem dX5_victim_76 : decode cX5_victim 76 = .ok (.ireturn, 1) := dk_172 (dk_at dksX5_victim_3 7 rfl rfl)
abbrev cX5_copy : ByteArray := prog_13_method_4_code
def yX5_copy : MethodName := ⟨RX5, "copy", "([I[I)V"⟩
def dkwX5_copy_0 : List UInt8 := [3, 61, 28, 17, 12, 181, 162, 0, 15, 43, 28, 42, 28, 46, 79, 132, 2, 1, 167, 255, 240, 177]
abbrev dktX5_copy_0 : List UInt8 := dkwX5_copy_0 ++ []
theorem dksX5_copy_0 : cX5_copy.data.toList.drop 0 = dktX5_copy_0 := by decide +kernel
theorem dX5_copy_0 : decode cX5_copy 0 = .ok (.iconst 0, 1) := dk_3 (dk_at dksX5_copy_0 0 rfl rfl)
theorem dX5_copy_1 : decode cX5_copy 1 = .ok (.istore_n 2, 1) := dk_61 (dk_at dksX5_copy_0 1 rfl rfl)
theorem dX5_copy_2 : decode cX5_copy 2 = .ok (.iload_n 2, 1) := dk_28 (dk_at dksX5_copy_0 2 rfl rfl)
theorem dX5_copy_3 : decode cX5_copy 3 = .ok (.sipush 3253, 3) := dk_17 12 181 (dk_at dksX5_copy_0 3 rfl rfl)
theorem dX5_copy_6 : decode cX5_copy 6 = .ok (.if_icmp .ge 15, 3) := dk_162 0 15 (dk_at dksX5_copy_0 6 rfl rfl)
theorem dX5_copy_9 : decode cX5_copy 9 = .ok (.aload_n 1, 1) := dk_43 (dk_at dksX5_copy_0 9 rfl rfl)
theorem dX5_copy_10 : decode cX5_copy 10 = .ok (.iload_n 2, 1) := dk_28 (dk_at dksX5_copy_0 10 rfl rfl)
theorem dX5_copy_11 : decode cX5_copy 11 = .ok (.aload_n 0, 1) := dk_42 (dk_at dksX5_copy_0 11 rfl rfl)
theorem dX5_copy_12 : decode cX5_copy 12 = .ok (.iload_n 2, 1) := dk_28 (dk_at dksX5_copy_0 12 rfl rfl)
theorem dX5_copy_13 : decode cX5_copy 13 = .ok (.iaload, 1) := dk_46 (dk_at dksX5_copy_0 13 rfl rfl)
theorem dX5_copy_14 : decode cX5_copy 14 = .ok (.iastore, 1) := dk_79 (dk_at dksX5_copy_0 14 rfl rfl)
theorem dX5_copy_15 : decode cX5_copy 15 = .ok (.iinc 2 1, 3) := dk_132 2 1 (dk_at dksX5_copy_0 15 rfl rfl)
theorem dX5_copy_18 : decode cX5_copy 18 = .ok (.goto (-16), 3) := dk_167 255 240 (dk_at dksX5_copy_0 18 rfl rfl)
theorem dX5_copy_21 : decode cX5_copy 21 = .ok (.return_, 1) := dk_177 (dk_at dksX5_copy_0 21 rfl rfl)
abbrev cX5_feed : ByteArray := prog_13_method_30_code
def yX5_feed : MethodName := ⟨RX5, "feed", "(I)I"⟩
def dkwX5_feed_1 : List UInt8 := [172, 42, 180, 0, 24, 42, 89, 180, 0, 124, 90, 4, 96, 181, 0, 124, 27, 79, 42, 180, 0, 124, 172]
abbrev dktX5_feed_1 : List UInt8 := dkwX5_feed_1 ++ []
def dkwX5_feed_0 : List UInt8 := [27, 3, 16, 127, 184, 0, 54, 154, 0, 6, 16, 254, 172, 42, 180, 0, 124, 16, 100, 160, 0, 6, 16, 252]
abbrev dktX5_feed_0 : List UInt8 := dkwX5_feed_0 ++ dktX5_feed_1
theorem dksX5_feed_0 : cX5_feed.data.toList.drop 0 = dktX5_feed_0 := by decide +kernel
theorem dksX5_feed_1 : cX5_feed.data.toList.drop 24 = dktX5_feed_1 := dk_seg dksX5_feed_0 24 rfl rfl
theorem dX5_feed_0 : decode cX5_feed 0 = .ok (.iload_n 1, 1) := dk_27 (dk_at dksX5_feed_0 0 rfl rfl)
theorem dX5_feed_1 : decode cX5_feed 1 = .ok (.iconst 0, 1) := dk_3 (dk_at dksX5_feed_0 1 rfl rfl)
theorem dX5_feed_2 : decode cX5_feed 2 = .ok (.bipush 127, 2) := dk_16 127 (dk_at dksX5_feed_0 2 rfl rfl)
theorem dX5_feed_4 : decode cX5_feed 4 = .ok (.invokestatic 54, 3) := dk_184 0 54 (dk_at dksX5_feed_0 4 rfl rfl)
theorem dX5_feed_7 : decode cX5_feed 7 = .ok (.ifCond .ne 6, 3) := dk_154 0 6 (dk_at dksX5_feed_0 7 rfl rfl)
theorem dX5_feed_10 : decode cX5_feed 10 = .ok (.bipush (-2), 2) := dk_16 254 (dk_at dksX5_feed_0 10 rfl rfl)
theorem dX5_feed_12 : decode cX5_feed 12 = .ok (.ireturn, 1) := dk_172 (dk_at dksX5_feed_0 12 rfl rfl)
theorem dX5_feed_13 : decode cX5_feed 13 = .ok (.aload_n 0, 1) := dk_42 (dk_at dksX5_feed_0 13 rfl rfl)
theorem dX5_feed_14 : decode cX5_feed 14 = .ok (.getfield 124, 3) := dk_180 0 124 (dk_at dksX5_feed_0 14 rfl rfl)
theorem dX5_feed_17 : decode cX5_feed 17 = .ok (.bipush 100, 2) := dk_16 100 (dk_at dksX5_feed_0 17 rfl rfl)
theorem dX5_feed_19 : decode cX5_feed 19 = .ok (.if_icmp .ne 6, 3) := dk_160 0 6 (dk_at dksX5_feed_0 19 rfl rfl)
theorem dX5_feed_22 : decode cX5_feed 22 = .ok (.bipush (-4), 2) := dk_16 252 (dk_at dksX5_feed_0 22 rfl rfl)
theorem dX5_feed_24 : decode cX5_feed 24 = .ok (.ireturn, 1) := dk_172 (dk_at dksX5_feed_1 0 rfl rfl)
theorem dX5_feed_25 : decode cX5_feed 25 = .ok (.aload_n 0, 1) := dk_42 (dk_at dksX5_feed_1 1 rfl rfl)
theorem dX5_feed_26 : decode cX5_feed 26 = .ok (.getfield 24, 3) := dk_180 0 24 (dk_at dksX5_feed_1 2 rfl rfl)
theorem dX5_feed_29 : decode cX5_feed 29 = .ok (.aload_n 0, 1) := dk_42 (dk_at dksX5_feed_1 5 rfl rfl)
theorem dX5_feed_30 : decode cX5_feed 30 = .ok (.dup, 1) := dk_89 (dk_at dksX5_feed_1 6 rfl rfl)
theorem dX5_feed_31 : decode cX5_feed 31 = .ok (.getfield 124, 3) := dk_180 0 124 (dk_at dksX5_feed_1 7 rfl rfl)
theorem dX5_feed_34 : decode cX5_feed 34 = .ok (.dup_x1, 1) := dk_90 (dk_at dksX5_feed_1 10 rfl rfl)
theorem dX5_feed_35 : decode cX5_feed 35 = .ok (.iconst 1, 1) := dk_4 (dk_at dksX5_feed_1 11 rfl rfl)
theorem dX5_feed_36 : decode cX5_feed 36 = .ok (.iadd, 1) := dk_96 (dk_at dksX5_feed_1 12 rfl rfl)
theorem dX5_feed_37 : decode cX5_feed 37 = .ok (.putfield 124, 3) := dk_181 0 124 (dk_at dksX5_feed_1 13 rfl rfl)
theorem dX5_feed_40 : decode cX5_feed 40 = .ok (.iload_n 1, 1) := dk_27 (dk_at dksX5_feed_1 16 rfl rfl)
theorem dX5_feed_41 : decode cX5_feed 41 = .ok (.iastore, 1) := dk_79 (dk_at dksX5_feed_1 17 rfl rfl)
theorem dX5_feed_42 : decode cX5_feed 42 = .ok (.aload_n 0, 1) := dk_42 (dk_at dksX5_feed_1 18 rfl rfl)
theorem dX5_feed_43 : decode cX5_feed 43 = .ok (.getfield 124, 3) := dk_180 0 124 (dk_at dksX5_feed_1 19 rfl rfl)
theorem dX5_feed_46 : decode cX5_feed 46 = .ok (.ireturn, 1) := dk_172 (dk_at dksX5_feed_1 22 rfl rfl)
abbrev cX5_trace : ByteArray := prog_13_method_34_code
def yX5_trace : MethodName := ⟨RX5, "trace", "()I"⟩
def dkwX5_trace_6 : List UInt8 := [181, 0, 139, 172]
abbrev dktX5_trace_6 : List UInt8 := dkwX5_trace_6 ++ []
def dkwX5_trace_5 : List UInt8 := [180, 0, 127, 100, 172, 42, 180, 0, 36, 42, 180, 0, 139, 27, 79, 42, 89, 180, 0, 139, 90, 4, 96]
abbrev dktX5_trace_5 : List UInt8 := dkwX5_trace_5 ++ dktX5_trace_6
def dkwX5_trace_4 : List UInt8 := [182, 0, 142, 132, 1, 1, 167, 255, 196, 42, 3, 181, 0, 124, 42, 180, 0, 127, 155, 0, 11, 16, 246, 42]
abbrev dktX5_trace_4 : List UInt8 := dkwX5_trace_4 ++ dktX5_trace_5
def dkwX5_trace_3 : List UInt8 := [167, 255, 224, 42, 16, 59, 16, 59, 182, 0, 136, 87, 42, 42, 180, 0, 139, 16, 20, 104, 27, 96]
abbrev dktX5_trace_3 : List UInt8 := dkwX5_trace_3 ++ dktX5_trace_4
def dkwX5_trace_2 : List UInt8 := [180, 0, 130, 42, 180, 0, 124, 162, 0, 48, 27, 16, 20, 160, 0, 14, 42, 42, 180, 0, 130, 181, 0, 127]
abbrev dktX5_trace_2 : List UInt8 := dkwX5_trace_2 ++ dktX5_trace_3
def dkwX5_trace_1 : List UInt8 := [42, 42, 180, 0, 139, 16, 20, 104, 182, 0, 142, 132, 1, 1, 42, 180, 0, 127, 156, 0, 59, 42]
abbrev dktX5_trace_1 : List UInt8 := dkwX5_trace_1 ++ dktX5_trace_2
def dkwX5_trace_0 : List UInt8 := [42, 180, 0, 139, 16, 6, 160, 0, 6, 16, 252, 172, 42, 3, 181, 0, 130, 42, 2, 181, 0, 127, 3, 60]
abbrev dktX5_trace_0 : List UInt8 := dkwX5_trace_0 ++ dktX5_trace_1
theorem dksX5_trace_0 : cX5_trace.data.toList.drop 0 = dktX5_trace_0 := by decide +kernel
theorem dksX5_trace_1 : cX5_trace.data.toList.drop 24 = dktX5_trace_1 := dk_seg dksX5_trace_0 24 rfl rfl
theorem dksX5_trace_2 : cX5_trace.data.toList.drop 46 = dktX5_trace_2 := dk_seg dksX5_trace_1 22 rfl rfl
theorem dksX5_trace_3 : cX5_trace.data.toList.drop 70 = dktX5_trace_3 := dk_seg dksX5_trace_2 24 rfl rfl
theorem dksX5_trace_4 : cX5_trace.data.toList.drop 92 = dktX5_trace_4 := dk_seg dksX5_trace_3 22 rfl rfl
theorem dksX5_trace_5 : cX5_trace.data.toList.drop 116 = dktX5_trace_5 := dk_seg dksX5_trace_4 24 rfl rfl
theorem dksX5_trace_6 : cX5_trace.data.toList.drop 139 = dktX5_trace_6 := dk_seg dksX5_trace_5 23 rfl rfl
theorem dX5_trace_0 : decode cX5_trace 0 = .ok (.aload_n 0, 1) := dk_42 (dk_at dksX5_trace_0 0 rfl rfl)
theorem dX5_trace_1 : decode cX5_trace 1 = .ok (.getfield 139, 3) := dk_180 0 139 (dk_at dksX5_trace_0 1 rfl rfl)
theorem dX5_trace_4 : decode cX5_trace 4 = .ok (.bipush 6, 2) := dk_16 6 (dk_at dksX5_trace_0 4 rfl rfl)
theorem dX5_trace_6 : decode cX5_trace 6 = .ok (.if_icmp .ne 6, 3) := dk_160 0 6 (dk_at dksX5_trace_0 6 rfl rfl)
theorem dX5_trace_9 : decode cX5_trace 9 = .ok (.bipush (-4), 2) := dk_16 252 (dk_at dksX5_trace_0 9 rfl rfl)
theorem dX5_trace_11 : decode cX5_trace 11 = .ok (.ireturn, 1) := dk_172 (dk_at dksX5_trace_0 11 rfl rfl)
theorem dX5_trace_12 : decode cX5_trace 12 = .ok (.aload_n 0, 1) := dk_42 (dk_at dksX5_trace_0 12 rfl rfl)
theorem dX5_trace_13 : decode cX5_trace 13 = .ok (.iconst 0, 1) := dk_3 (dk_at dksX5_trace_0 13 rfl rfl)
theorem dX5_trace_14 : decode cX5_trace 14 = .ok (.putfield 130, 3) := dk_181 0 130 (dk_at dksX5_trace_0 14 rfl rfl)
theorem dX5_trace_17 : decode cX5_trace 17 = .ok (.aload_n 0, 1) := dk_42 (dk_at dksX5_trace_0 17 rfl rfl)
theorem dX5_trace_18 : decode cX5_trace 18 = .ok (.iconst (-1), 1) := dk_2 (dk_at dksX5_trace_0 18 rfl rfl)
theorem dX5_trace_19 : decode cX5_trace 19 = .ok (.putfield 127, 3) := dk_181 0 127 (dk_at dksX5_trace_0 19 rfl rfl)
theorem dX5_trace_22 : decode cX5_trace 22 = .ok (.iconst 0, 1) := dk_3 (dk_at dksX5_trace_0 22 rfl rfl)
theorem dX5_trace_23 : decode cX5_trace 23 = .ok (.istore_n 1, 1) := dk_60 (dk_at dksX5_trace_0 23 rfl rfl)
theorem dX5_trace_24 : decode cX5_trace 24 = .ok (.aload_n 0, 1) := dk_42 (dk_at dksX5_trace_1 0 rfl rfl)
theorem dX5_trace_25 : decode cX5_trace 25 = .ok (.aload_n 0, 1) := dk_42 (dk_at dksX5_trace_1 1 rfl rfl)
theorem dX5_trace_26 : decode cX5_trace 26 = .ok (.getfield 139, 3) := dk_180 0 139 (dk_at dksX5_trace_1 2 rfl rfl)
theorem dX5_trace_29 : decode cX5_trace 29 = .ok (.bipush 20, 2) := dk_16 20 (dk_at dksX5_trace_1 5 rfl rfl)
theorem dX5_trace_31 : decode cX5_trace 31 = .ok (.imul, 1) := dk_104 (dk_at dksX5_trace_1 7 rfl rfl)
theorem dX5_trace_32 : decode cX5_trace 32 = .ok (.invokevirtual 142, 3) := dk_182 0 142 (dk_at dksX5_trace_1 8 rfl rfl)
theorem dX5_trace_35 : decode cX5_trace 35 = .ok (.iinc 1 1, 3) := dk_132 1 1 (dk_at dksX5_trace_1 11 rfl rfl)
theorem dX5_trace_38 : decode cX5_trace 38 = .ok (.aload_n 0, 1) := dk_42 (dk_at dksX5_trace_1 14 rfl rfl)
theorem dX5_trace_39 : decode cX5_trace 39 = .ok (.getfield 127, 3) := dk_180 0 127 (dk_at dksX5_trace_1 15 rfl rfl)
theorem dX5_trace_42 : decode cX5_trace 42 = .ok (.ifCond .ge 59, 3) := dk_156 0 59 (dk_at dksX5_trace_1 18 rfl rfl)
theorem dX5_trace_45 : decode cX5_trace 45 = .ok (.aload_n 0, 1) := dk_42 (dk_at dksX5_trace_1 21 rfl rfl)
theorem dX5_trace_46 : decode cX5_trace 46 = .ok (.getfield 130, 3) := dk_180 0 130 (dk_at dksX5_trace_2 0 rfl rfl)
theorem dX5_trace_49 : decode cX5_trace 49 = .ok (.aload_n 0, 1) := dk_42 (dk_at dksX5_trace_2 3 rfl rfl)
theorem dX5_trace_50 : decode cX5_trace 50 = .ok (.getfield 124, 3) := dk_180 0 124 (dk_at dksX5_trace_2 4 rfl rfl)
theorem dX5_trace_53 : decode cX5_trace 53 = .ok (.if_icmp .ge 48, 3) := dk_162 0 48 (dk_at dksX5_trace_2 7 rfl rfl)
theorem dX5_trace_56 : decode cX5_trace 56 = .ok (.iload_n 1, 1) := dk_27 (dk_at dksX5_trace_2 10 rfl rfl)
theorem dX5_trace_57 : decode cX5_trace 57 = .ok (.bipush 20, 2) := dk_16 20 (dk_at dksX5_trace_2 11 rfl rfl)
theorem dX5_trace_59 : decode cX5_trace 59 = .ok (.if_icmp .ne 14, 3) := dk_160 0 14 (dk_at dksX5_trace_2 13 rfl rfl)
theorem dX5_trace_62 : decode cX5_trace 62 = .ok (.aload_n 0, 1) := dk_42 (dk_at dksX5_trace_2 16 rfl rfl)
theorem dX5_trace_63 : decode cX5_trace 63 = .ok (.aload_n 0, 1) := dk_42 (dk_at dksX5_trace_2 17 rfl rfl)
theorem dX5_trace_64 : decode cX5_trace 64 = .ok (.getfield 130, 3) := dk_180 0 130 (dk_at dksX5_trace_2 18 rfl rfl)
theorem dX5_trace_67 : decode cX5_trace 67 = .ok (.putfield 127, 3) := dk_181 0 127 (dk_at dksX5_trace_2 21 rfl rfl)
theorem dX5_trace_70 : decode cX5_trace 70 = .ok (.goto (-32), 3) := dk_167 255 224 (dk_at dksX5_trace_3 0 rfl rfl)
theorem dX5_trace_73 : decode cX5_trace 73 = .ok (.aload_n 0, 1) := dk_42 (dk_at dksX5_trace_3 3 rfl rfl)
theorem dX5_trace_74 : decode cX5_trace 74 = .ok (.bipush 59, 2) := dk_16 59 (dk_at dksX5_trace_3 4 rfl rfl)
theorem dX5_trace_76 : decode cX5_trace 76 = .ok (.bipush 59, 2) := dk_16 59 (dk_at dksX5_trace_3 6 rfl rfl)
theorem dX5_trace_78 : decode cX5_trace 78 = .ok (.invokevirtual 136, 3) := dk_182 0 136 (dk_at dksX5_trace_3 8 rfl rfl)
theorem dX5_trace_81 : decode cX5_trace 81 = .ok (.pop, 1) := dk_87 (dk_at dksX5_trace_3 11 rfl rfl)
theorem dX5_trace_82 : decode cX5_trace 82 = .ok (.aload_n 0, 1) := dk_42 (dk_at dksX5_trace_3 12 rfl rfl)
theorem dX5_trace_83 : decode cX5_trace 83 = .ok (.aload_n 0, 1) := dk_42 (dk_at dksX5_trace_3 13 rfl rfl)
theorem dX5_trace_84 : decode cX5_trace 84 = .ok (.getfield 139, 3) := dk_180 0 139 (dk_at dksX5_trace_3 14 rfl rfl)
theorem dX5_trace_87 : decode cX5_trace 87 = .ok (.bipush 20, 2) := dk_16 20 (dk_at dksX5_trace_3 17 rfl rfl)
theorem dX5_trace_89 : decode cX5_trace 89 = .ok (.imul, 1) := dk_104 (dk_at dksX5_trace_3 19 rfl rfl)
theorem dX5_trace_90 : decode cX5_trace 90 = .ok (.iload_n 1, 1) := dk_27 (dk_at dksX5_trace_3 20 rfl rfl)
theorem dX5_trace_91 : decode cX5_trace 91 = .ok (.iadd, 1) := dk_96 (dk_at dksX5_trace_3 21 rfl rfl)
theorem dX5_trace_92 : decode cX5_trace 92 = .ok (.invokevirtual 142, 3) := dk_182 0 142 (dk_at dksX5_trace_4 0 rfl rfl)
theorem dX5_trace_95 : decode cX5_trace 95 = .ok (.iinc 1 1, 3) := dk_132 1 1 (dk_at dksX5_trace_4 3 rfl rfl)
theorem dX5_trace_98 : decode cX5_trace 98 = .ok (.goto (-60), 3) := dk_167 255 196 (dk_at dksX5_trace_4 6 rfl rfl)
theorem dX5_trace_101 : decode cX5_trace 101 = .ok (.aload_n 0, 1) := dk_42 (dk_at dksX5_trace_4 9 rfl rfl)
theorem dX5_trace_102 : decode cX5_trace 102 = .ok (.iconst 0, 1) := dk_3 (dk_at dksX5_trace_4 10 rfl rfl)
theorem dX5_trace_103 : decode cX5_trace 103 = .ok (.putfield 124, 3) := dk_181 0 124 (dk_at dksX5_trace_4 11 rfl rfl)
theorem dX5_trace_106 : decode cX5_trace 106 = .ok (.aload_n 0, 1) := dk_42 (dk_at dksX5_trace_4 14 rfl rfl)
theorem dX5_trace_107 : decode cX5_trace 107 = .ok (.getfield 127, 3) := dk_180 0 127 (dk_at dksX5_trace_4 15 rfl rfl)
theorem dX5_trace_110 : decode cX5_trace 110 = .ok (.ifCond .lt 11, 3) := dk_155 0 11 (dk_at dksX5_trace_4 18 rfl rfl)
theorem dX5_trace_113 : decode cX5_trace 113 = .ok (.bipush (-10), 2) := dk_16 246 (dk_at dksX5_trace_4 21 rfl rfl)
theorem dX5_trace_115 : decode cX5_trace 115 = .ok (.aload_n 0, 1) := dk_42 (dk_at dksX5_trace_4 23 rfl rfl)
theorem dX5_trace_116 : decode cX5_trace 116 = .ok (.getfield 127, 3) := dk_180 0 127 (dk_at dksX5_trace_5 0 rfl rfl)
theorem dX5_trace_119 : decode cX5_trace 119 = .ok (.isub, 1) := dk_100 (dk_at dksX5_trace_5 3 rfl rfl)
theorem dX5_trace_120 : decode cX5_trace 120 = .ok (.ireturn, 1) := dk_172 (dk_at dksX5_trace_5 4 rfl rfl)
theorem dX5_trace_121 : decode cX5_trace 121 = .ok (.aload_n 0, 1) := dk_42 (dk_at dksX5_trace_5 5 rfl rfl)
theorem dX5_trace_122 : decode cX5_trace 122 = .ok (.getfield 36, 3) := dk_180 0 36 (dk_at dksX5_trace_5 6 rfl rfl)
theorem dX5_trace_125 : decode cX5_trace 125 = .ok (.aload_n 0, 1) := dk_42 (dk_at dksX5_trace_5 9 rfl rfl)
theorem dX5_trace_126 : decode cX5_trace 126 = .ok (.getfield 139, 3) := dk_180 0 139 (dk_at dksX5_trace_5 10 rfl rfl)
theorem dX5_trace_129 : decode cX5_trace 129 = .ok (.iload_n 1, 1) := dk_27 (dk_at dksX5_trace_5 13 rfl rfl)
theorem dX5_trace_130 : decode cX5_trace 130 = .ok (.iastore, 1) := dk_79 (dk_at dksX5_trace_5 14 rfl rfl)
theorem dX5_trace_131 : decode cX5_trace 131 = .ok (.aload_n 0, 1) := dk_42 (dk_at dksX5_trace_5 15 rfl rfl)
theorem dX5_trace_132 : decode cX5_trace 132 = .ok (.dup, 1) := dk_89 (dk_at dksX5_trace_5 16 rfl rfl)
theorem dX5_trace_133 : decode cX5_trace 133 = .ok (.getfield 139, 3) := dk_180 0 139 (dk_at dksX5_trace_5 17 rfl rfl)
theorem dX5_trace_136 : decode cX5_trace 136 = .ok (.dup_x1, 1) := dk_90 (dk_at dksX5_trace_5 20 rfl rfl)
theorem dX5_trace_137 : decode cX5_trace 137 = .ok (.iconst 1, 1) := dk_4 (dk_at dksX5_trace_5 21 rfl rfl)
theorem dX5_trace_138 : decode cX5_trace 138 = .ok (.iadd, 1) := dk_96 (dk_at dksX5_trace_5 22 rfl rfl)
theorem dX5_trace_139 : decode cX5_trace 139 = .ok (.putfield 139, 3) := dk_181 0 139 (dk_at dksX5_trace_6 0 rfl rfl)
theorem dX5_trace_142 : decode cX5_trace 142 = .ok (.ireturn, 1) := dk_172 (dk_at dksX5_trace_6 3 rfl rfl)
abbrev cX5_clause : ByteArray := prog_13_method_33_code
def yX5_clause : MethodName := ⟨RX5, "clause", "(I)V"⟩
def dkwX5_clause_6 : List UInt8 := [79, 42, 180, 0, 27, 27, 28, 79, 42, 180, 0, 30, 27, 16, 100, 29, 104, 21, 4, 96, 79, 177]
abbrev dktX5_clause_6 : List UInt8 := dkwX5_clause_6 ++ []
def dkwX5_clause_5 : List UInt8 := [16, 61, 16, 61, 182, 0, 136, 87, 42, 180, 0, 33, 27, 42, 16, 49, 16, 57, 182, 0, 136, 16, 48, 100]
abbrev dktX5_clause_5 : List UInt8 := dkwX5_clause_5 ++ dktX5_clause_6
def dkwX5_clause_4 : List UInt8 := [16, 57, 182, 0, 136, 96, 16, 48, 100, 167, 0, 5, 21, 4, 54, 4, 28, 16, 112, 160, 0, 29, 42]
abbrev dktX5_clause_4 : List UInt8 := dkwX5_clause_4 ++ dktX5_clause_5
def dkwX5_clause_3 : List UInt8 := [16, 48, 100, 54, 4, 42, 16, 48, 16, 57, 182, 0, 133, 153, 0, 23, 16, 10, 21, 4, 104, 42, 16, 48]
abbrev dktX5_clause_3 : List UInt8 := dkwX5_clause_3 ++ dktX5_clause_4
def dkwX5_clause_2 : List UInt8 := [182, 0, 136, 61, 42, 16, 97, 16, 100, 182, 0, 136, 16, 97, 100, 62, 42, 16, 48, 16, 57, 182, 0, 136]
abbrev dktX5_clause_2 : List UInt8 := dkwX5_clause_2 ++ dktX5_clause_3
def dkwX5_clause_1 : List UInt8 := [180, 0, 24, 42, 89, 180, 0, 130, 90, 4, 96, 181, 0, 130, 46, 167, 0, 11, 42, 16, 103, 16, 103]
abbrev dktX5_clause_1 : List UInt8 := dkwX5_clause_1 ++ dktX5_clause_2
def dkwX5_clause_0 : List UInt8 := [42, 16, 112, 16, 112, 182, 0, 133, 154, 0, 14, 42, 16, 120, 16, 120, 182, 0, 133, 153, 0, 22, 42]
abbrev dktX5_clause_0 : List UInt8 := dkwX5_clause_0 ++ dktX5_clause_1
theorem dksX5_clause_0 : cX5_clause.data.toList.drop 0 = dktX5_clause_0 := by decide +kernel
theorem dksX5_clause_1 : cX5_clause.data.toList.drop 23 = dktX5_clause_1 := dk_seg dksX5_clause_0 23 rfl rfl
theorem dksX5_clause_2 : cX5_clause.data.toList.drop 46 = dktX5_clause_2 := dk_seg dksX5_clause_1 23 rfl rfl
theorem dksX5_clause_3 : cX5_clause.data.toList.drop 70 = dktX5_clause_3 := dk_seg dksX5_clause_2 24 rfl rfl
theorem dksX5_clause_4 : cX5_clause.data.toList.drop 94 = dktX5_clause_4 := dk_seg dksX5_clause_3 24 rfl rfl
theorem dksX5_clause_5 : cX5_clause.data.toList.drop 117 = dktX5_clause_5 := dk_seg dksX5_clause_4 23 rfl rfl
theorem dksX5_clause_6 : cX5_clause.data.toList.drop 141 = dktX5_clause_6 := dk_seg dksX5_clause_5 24 rfl rfl
theorem dX5_clause_0 : decode cX5_clause 0 = .ok (.aload_n 0, 1) := dk_42 (dk_at dksX5_clause_0 0 rfl rfl)
theorem dX5_clause_1 : decode cX5_clause 1 = .ok (.bipush 112, 2) := dk_16 112 (dk_at dksX5_clause_0 1 rfl rfl)
theorem dX5_clause_3 : decode cX5_clause 3 = .ok (.bipush 112, 2) := dk_16 112 (dk_at dksX5_clause_0 3 rfl rfl)
theorem dX5_clause_5 : decode cX5_clause 5 = .ok (.invokevirtual 133, 3) := dk_182 0 133 (dk_at dksX5_clause_0 5 rfl rfl)
theorem dX5_clause_8 : decode cX5_clause 8 = .ok (.ifCond .ne 14, 3) := dk_154 0 14 (dk_at dksX5_clause_0 8 rfl rfl)
theorem dX5_clause_11 : decode cX5_clause 11 = .ok (.aload_n 0, 1) := dk_42 (dk_at dksX5_clause_0 11 rfl rfl)
theorem dX5_clause_12 : decode cX5_clause 12 = .ok (.bipush 120, 2) := dk_16 120 (dk_at dksX5_clause_0 12 rfl rfl)
theorem dX5_clause_14 : decode cX5_clause 14 = .ok (.bipush 120, 2) := dk_16 120 (dk_at dksX5_clause_0 14 rfl rfl)
theorem dX5_clause_16 : decode cX5_clause 16 = .ok (.invokevirtual 133, 3) := dk_182 0 133 (dk_at dksX5_clause_0 16 rfl rfl)
theorem dX5_clause_19 : decode cX5_clause 19 = .ok (.ifCond .eq 22, 3) := dk_153 0 22 (dk_at dksX5_clause_0 19 rfl rfl)
theorem dX5_clause_22 : decode cX5_clause 22 = .ok (.aload_n 0, 1) := dk_42 (dk_at dksX5_clause_0 22 rfl rfl)
theorem dX5_clause_23 : decode cX5_clause 23 = .ok (.getfield 24, 3) := dk_180 0 24 (dk_at dksX5_clause_1 0 rfl rfl)
theorem dX5_clause_26 : decode cX5_clause 26 = .ok (.aload_n 0, 1) := dk_42 (dk_at dksX5_clause_1 3 rfl rfl)
theorem dX5_clause_27 : decode cX5_clause 27 = .ok (.dup, 1) := dk_89 (dk_at dksX5_clause_1 4 rfl rfl)
theorem dX5_clause_28 : decode cX5_clause 28 = .ok (.getfield 130, 3) := dk_180 0 130 (dk_at dksX5_clause_1 5 rfl rfl)
theorem dX5_clause_31 : decode cX5_clause 31 = .ok (.dup_x1, 1) := dk_90 (dk_at dksX5_clause_1 8 rfl rfl)
theorem dX5_clause_32 : decode cX5_clause 32 = .ok (.iconst 1, 1) := dk_4 (dk_at dksX5_clause_1 9 rfl rfl)
theorem dX5_clause_33 : decode cX5_clause 33 = .ok (.iadd, 1) := dk_96 (dk_at dksX5_clause_1 10 rfl rfl)
theorem dX5_clause_34 : decode cX5_clause 34 = .ok (.putfield 130, 3) := dk_181 0 130 (dk_at dksX5_clause_1 11 rfl rfl)
theorem dX5_clause_37 : decode cX5_clause 37 = .ok (.iaload, 1) := dk_46 (dk_at dksX5_clause_1 14 rfl rfl)
theorem dX5_clause_38 : decode cX5_clause 38 = .ok (.goto 11, 3) := dk_167 0 11 (dk_at dksX5_clause_1 15 rfl rfl)
theorem dX5_clause_41 : decode cX5_clause 41 = .ok (.aload_n 0, 1) := dk_42 (dk_at dksX5_clause_1 18 rfl rfl)
theorem dX5_clause_42 : decode cX5_clause 42 = .ok (.bipush 103, 2) := dk_16 103 (dk_at dksX5_clause_1 19 rfl rfl)
theorem dX5_clause_44 : decode cX5_clause 44 = .ok (.bipush 103, 2) := dk_16 103 (dk_at dksX5_clause_1 21 rfl rfl)
theorem dX5_clause_46 : decode cX5_clause 46 = .ok (.invokevirtual 136, 3) := dk_182 0 136 (dk_at dksX5_clause_2 0 rfl rfl)
theorem dX5_clause_49 : decode cX5_clause 49 = .ok (.istore_n 2, 1) := dk_61 (dk_at dksX5_clause_2 3 rfl rfl)
theorem dX5_clause_50 : decode cX5_clause 50 = .ok (.aload_n 0, 1) := dk_42 (dk_at dksX5_clause_2 4 rfl rfl)
theorem dX5_clause_51 : decode cX5_clause 51 = .ok (.bipush 97, 2) := dk_16 97 (dk_at dksX5_clause_2 5 rfl rfl)
theorem dX5_clause_53 : decode cX5_clause 53 = .ok (.bipush 100, 2) := dk_16 100 (dk_at dksX5_clause_2 7 rfl rfl)
theorem dX5_clause_55 : decode cX5_clause 55 = .ok (.invokevirtual 136, 3) := dk_182 0 136 (dk_at dksX5_clause_2 9 rfl rfl)
theorem dX5_clause_58 : decode cX5_clause 58 = .ok (.bipush 97, 2) := dk_16 97 (dk_at dksX5_clause_2 12 rfl rfl)
theorem dX5_clause_60 : decode cX5_clause 60 = .ok (.isub, 1) := dk_100 (dk_at dksX5_clause_2 14 rfl rfl)
theorem dX5_clause_61 : decode cX5_clause 61 = .ok (.istore_n 3, 1) := dk_62 (dk_at dksX5_clause_2 15 rfl rfl)
theorem dX5_clause_62 : decode cX5_clause 62 = .ok (.aload_n 0, 1) := dk_42 (dk_at dksX5_clause_2 16 rfl rfl)
theorem dX5_clause_63 : decode cX5_clause 63 = .ok (.bipush 48, 2) := dk_16 48 (dk_at dksX5_clause_2 17 rfl rfl)
theorem dX5_clause_65 : decode cX5_clause 65 = .ok (.bipush 57, 2) := dk_16 57 (dk_at dksX5_clause_2 19 rfl rfl)
theorem dX5_clause_67 : decode cX5_clause 67 = .ok (.invokevirtual 136, 3) := dk_182 0 136 (dk_at dksX5_clause_2 21 rfl rfl)
theorem dX5_clause_70 : decode cX5_clause 70 = .ok (.bipush 48, 2) := dk_16 48 (dk_at dksX5_clause_3 0 rfl rfl)
theorem dX5_clause_72 : decode cX5_clause 72 = .ok (.isub, 1) := dk_100 (dk_at dksX5_clause_3 2 rfl rfl)
theorem dX5_clause_73 : decode cX5_clause 73 = .ok (.istore 4, 2) := dk_54 4 (dk_at dksX5_clause_3 3 rfl rfl)
theorem dX5_clause_75 : decode cX5_clause 75 = .ok (.aload_n 0, 1) := dk_42 (dk_at dksX5_clause_3 5 rfl rfl)
theorem dX5_clause_76 : decode cX5_clause 76 = .ok (.bipush 48, 2) := dk_16 48 (dk_at dksX5_clause_3 6 rfl rfl)
theorem dX5_clause_78 : decode cX5_clause 78 = .ok (.bipush 57, 2) := dk_16 57 (dk_at dksX5_clause_3 8 rfl rfl)
theorem dX5_clause_80 : decode cX5_clause 80 = .ok (.invokevirtual 133, 3) := dk_182 0 133 (dk_at dksX5_clause_3 10 rfl rfl)
theorem dX5_clause_83 : decode cX5_clause 83 = .ok (.ifCond .eq 23, 3) := dk_153 0 23 (dk_at dksX5_clause_3 13 rfl rfl)
theorem dX5_clause_86 : decode cX5_clause 86 = .ok (.bipush 10, 2) := dk_16 10 (dk_at dksX5_clause_3 16 rfl rfl)
theorem dX5_clause_88 : decode cX5_clause 88 = .ok (.iload 4, 2) := dk_21 4 (dk_at dksX5_clause_3 18 rfl rfl)
theorem dX5_clause_90 : decode cX5_clause 90 = .ok (.imul, 1) := dk_104 (dk_at dksX5_clause_3 20 rfl rfl)
theorem dX5_clause_91 : decode cX5_clause 91 = .ok (.aload_n 0, 1) := dk_42 (dk_at dksX5_clause_3 21 rfl rfl)
theorem dX5_clause_92 : decode cX5_clause 92 = .ok (.bipush 48, 2) := dk_16 48 (dk_at dksX5_clause_3 22 rfl rfl)
theorem dX5_clause_94 : decode cX5_clause 94 = .ok (.bipush 57, 2) := dk_16 57 (dk_at dksX5_clause_4 0 rfl rfl)
theorem dX5_clause_96 : decode cX5_clause 96 = .ok (.invokevirtual 136, 3) := dk_182 0 136 (dk_at dksX5_clause_4 2 rfl rfl)
theorem dX5_clause_99 : decode cX5_clause 99 = .ok (.iadd, 1) := dk_96 (dk_at dksX5_clause_4 5 rfl rfl)
theorem dX5_clause_100 : decode cX5_clause 100 = .ok (.bipush 48, 2) := dk_16 48 (dk_at dksX5_clause_4 6 rfl rfl)
theorem dX5_clause_102 : decode cX5_clause 102 = .ok (.isub, 1) := dk_100 (dk_at dksX5_clause_4 8 rfl rfl)
theorem dX5_clause_103 : decode cX5_clause 103 = .ok (.goto 5, 3) := dk_167 0 5 (dk_at dksX5_clause_4 9 rfl rfl)
theorem dX5_clause_106 : decode cX5_clause 106 = .ok (.iload 4, 2) := dk_21 4 (dk_at dksX5_clause_4 12 rfl rfl)
theorem dX5_clause_108 : decode cX5_clause 108 = .ok (.istore 4, 2) := dk_54 4 (dk_at dksX5_clause_4 14 rfl rfl)
theorem dX5_clause_110 : decode cX5_clause 110 = .ok (.iload_n 2, 1) := dk_28 (dk_at dksX5_clause_4 16 rfl rfl)
theorem dX5_clause_111 : decode cX5_clause 111 = .ok (.bipush 112, 2) := dk_16 112 (dk_at dksX5_clause_4 17 rfl rfl)
theorem dX5_clause_113 : decode cX5_clause 113 = .ok (.if_icmp .ne 29, 3) := dk_160 0 29 (dk_at dksX5_clause_4 19 rfl rfl)
theorem dX5_clause_116 : decode cX5_clause 116 = .ok (.aload_n 0, 1) := dk_42 (dk_at dksX5_clause_4 22 rfl rfl)
theorem dX5_clause_117 : decode cX5_clause 117 = .ok (.bipush 61, 2) := dk_16 61 (dk_at dksX5_clause_5 0 rfl rfl)
theorem dX5_clause_119 : decode cX5_clause 119 = .ok (.bipush 61, 2) := dk_16 61 (dk_at dksX5_clause_5 2 rfl rfl)
theorem dX5_clause_121 : decode cX5_clause 121 = .ok (.invokevirtual 136, 3) := dk_182 0 136 (dk_at dksX5_clause_5 4 rfl rfl)
theorem dX5_clause_124 : decode cX5_clause 124 = .ok (.pop, 1) := dk_87 (dk_at dksX5_clause_5 7 rfl rfl)
theorem dX5_clause_125 : decode cX5_clause 125 = .ok (.aload_n 0, 1) := dk_42 (dk_at dksX5_clause_5 8 rfl rfl)
theorem dX5_clause_126 : decode cX5_clause 126 = .ok (.getfield 33, 3) := dk_180 0 33 (dk_at dksX5_clause_5 9 rfl rfl)
theorem dX5_clause_129 : decode cX5_clause 129 = .ok (.iload_n 1, 1) := dk_27 (dk_at dksX5_clause_5 12 rfl rfl)
theorem dX5_clause_130 : decode cX5_clause 130 = .ok (.aload_n 0, 1) := dk_42 (dk_at dksX5_clause_5 13 rfl rfl)
theorem dX5_clause_131 : decode cX5_clause 131 = .ok (.bipush 49, 2) := dk_16 49 (dk_at dksX5_clause_5 14 rfl rfl)
theorem dX5_clause_133 : decode cX5_clause 133 = .ok (.bipush 57, 2) := dk_16 57 (dk_at dksX5_clause_5 16 rfl rfl)
theorem dX5_clause_135 : decode cX5_clause 135 = .ok (.invokevirtual 136, 3) := dk_182 0 136 (dk_at dksX5_clause_5 18 rfl rfl)
theorem dX5_clause_138 : decode cX5_clause 138 = .ok (.bipush 48, 2) := dk_16 48 (dk_at dksX5_clause_5 21 rfl rfl)
theorem dX5_clause_140 : decode cX5_clause 140 = .ok (.isub, 1) := dk_100 (dk_at dksX5_clause_5 23 rfl rfl)
theorem dX5_clause_141 : decode cX5_clause 141 = .ok (.iastore, 1) := dk_79 (dk_at dksX5_clause_6 0 rfl rfl)
theorem dX5_clause_142 : decode cX5_clause 142 = .ok (.aload_n 0, 1) := dk_42 (dk_at dksX5_clause_6 1 rfl rfl)
theorem dX5_clause_143 : decode cX5_clause 143 = .ok (.getfield 27, 3) := dk_180 0 27 (dk_at dksX5_clause_6 2 rfl rfl)
theorem dX5_clause_146 : decode cX5_clause 146 = .ok (.iload_n 1, 1) := dk_27 (dk_at dksX5_clause_6 5 rfl rfl)
theorem dX5_clause_147 : decode cX5_clause 147 = .ok (.iload_n 2, 1) := dk_28 (dk_at dksX5_clause_6 6 rfl rfl)
theorem dX5_clause_148 : decode cX5_clause 148 = .ok (.iastore, 1) := dk_79 (dk_at dksX5_clause_6 7 rfl rfl)
theorem dX5_clause_149 : decode cX5_clause 149 = .ok (.aload_n 0, 1) := dk_42 (dk_at dksX5_clause_6 8 rfl rfl)
theorem dX5_clause_150 : decode cX5_clause 150 = .ok (.getfield 30, 3) := dk_180 0 30 (dk_at dksX5_clause_6 9 rfl rfl)
theorem dX5_clause_153 : decode cX5_clause 153 = .ok (.iload_n 1, 1) := dk_27 (dk_at dksX5_clause_6 12 rfl rfl)
theorem dX5_clause_154 : decode cX5_clause 154 = .ok (.bipush 100, 2) := dk_16 100 (dk_at dksX5_clause_6 13 rfl rfl)
theorem dX5_clause_156 : decode cX5_clause 156 = .ok (.iload_n 3, 1) := dk_29 (dk_at dksX5_clause_6 15 rfl rfl)
theorem dX5_clause_157 : decode cX5_clause 157 = .ok (.imul, 1) := dk_104 (dk_at dksX5_clause_6 16 rfl rfl)
theorem dX5_clause_158 : decode cX5_clause 158 = .ok (.iload 4, 2) := dk_21 4 (dk_at dksX5_clause_6 17 rfl rfl)
theorem dX5_clause_160 : decode cX5_clause 160 = .ok (.iadd, 1) := dk_96 (dk_at dksX5_clause_6 19 rfl rfl)
theorem dX5_clause_161 : decode cX5_clause 161 = .ok (.iastore, 1) := dk_79 (dk_at dksX5_clause_6 20 rfl rfl)
theorem dX5_clause_162 : decode cX5_clause 162 = .ok (.return_, 1) := dk_177 (dk_at dksX5_clause_6 21 rfl rfl)
abbrev cX5_sees : ByteArray := prog_13_method_31_code
def yX5_sees : MethodName := ⟨RX5, "sees", "(II)Z"⟩
def dkwX5_sees_1 : List UInt8 := [180, 0, 130, 46, 27, 28, 184, 0, 54, 153, 0, 7, 4, 167, 0, 4, 3, 172]
abbrev dktX5_sees_1 : List UInt8 := dkwX5_sees_1 ++ []
def dkwX5_sees_0 : List UInt8 := [42, 180, 0, 127, 156, 0, 35, 42, 180, 0, 130, 42, 180, 0, 124, 162, 0, 24, 42, 180, 0, 24, 42]
abbrev dktX5_sees_0 : List UInt8 := dkwX5_sees_0 ++ dktX5_sees_1
theorem dksX5_sees_0 : cX5_sees.data.toList.drop 0 = dktX5_sees_0 := by decide +kernel
theorem dksX5_sees_1 : cX5_sees.data.toList.drop 23 = dktX5_sees_1 := dk_seg dksX5_sees_0 23 rfl rfl
theorem dX5_sees_0 : decode cX5_sees 0 = .ok (.aload_n 0, 1) := dk_42 (dk_at dksX5_sees_0 0 rfl rfl)
theorem dX5_sees_1 : decode cX5_sees 1 = .ok (.getfield 127, 3) := dk_180 0 127 (dk_at dksX5_sees_0 1 rfl rfl)
theorem dX5_sees_4 : decode cX5_sees 4 = .ok (.ifCond .ge 35, 3) := dk_156 0 35 (dk_at dksX5_sees_0 4 rfl rfl)
theorem dX5_sees_7 : decode cX5_sees 7 = .ok (.aload_n 0, 1) := dk_42 (dk_at dksX5_sees_0 7 rfl rfl)
theorem dX5_sees_8 : decode cX5_sees 8 = .ok (.getfield 130, 3) := dk_180 0 130 (dk_at dksX5_sees_0 8 rfl rfl)
theorem dX5_sees_11 : decode cX5_sees 11 = .ok (.aload_n 0, 1) := dk_42 (dk_at dksX5_sees_0 11 rfl rfl)
theorem dX5_sees_12 : decode cX5_sees 12 = .ok (.getfield 124, 3) := dk_180 0 124 (dk_at dksX5_sees_0 12 rfl rfl)
theorem dX5_sees_15 : decode cX5_sees 15 = .ok (.if_icmp .ge 24, 3) := dk_162 0 24 (dk_at dksX5_sees_0 15 rfl rfl)
theorem dX5_sees_18 : decode cX5_sees 18 = .ok (.aload_n 0, 1) := dk_42 (dk_at dksX5_sees_0 18 rfl rfl)
theorem dX5_sees_19 : decode cX5_sees 19 = .ok (.getfield 24, 3) := dk_180 0 24 (dk_at dksX5_sees_0 19 rfl rfl)
theorem dX5_sees_22 : decode cX5_sees 22 = .ok (.aload_n 0, 1) := dk_42 (dk_at dksX5_sees_0 22 rfl rfl)
theorem dX5_sees_23 : decode cX5_sees 23 = .ok (.getfield 130, 3) := dk_180 0 130 (dk_at dksX5_sees_1 0 rfl rfl)
theorem dX5_sees_26 : decode cX5_sees 26 = .ok (.iaload, 1) := dk_46 (dk_at dksX5_sees_1 3 rfl rfl)
theorem dX5_sees_27 : decode cX5_sees 27 = .ok (.iload_n 1, 1) := dk_27 (dk_at dksX5_sees_1 4 rfl rfl)
theorem dX5_sees_28 : decode cX5_sees 28 = .ok (.iload_n 2, 1) := dk_28 (dk_at dksX5_sees_1 5 rfl rfl)
theorem dX5_sees_29 : decode cX5_sees 29 = .ok (.invokestatic 54, 3) := dk_184 0 54 (dk_at dksX5_sees_1 6 rfl rfl)
theorem dX5_sees_32 : decode cX5_sees 32 = .ok (.ifCond .eq 7, 3) := dk_153 0 7 (dk_at dksX5_sees_1 9 rfl rfl)
theorem dX5_sees_35 : decode cX5_sees 35 = .ok (.iconst 1, 1) := dk_4 (dk_at dksX5_sees_1 12 rfl rfl)
theorem dX5_sees_36 : decode cX5_sees 36 = .ok (.goto 4, 3) := dk_167 0 4 (dk_at dksX5_sees_1 13 rfl rfl)
theorem dX5_sees_39 : decode cX5_sees 39 = .ok (.iconst 0, 1) := dk_3 (dk_at dksX5_sees_1 16 rfl rfl)
theorem dX5_sees_40 : decode cX5_sees 40 = .ok (.ireturn, 1) := dk_172 (dk_at dksX5_sees_1 17 rfl rfl)
abbrev cX5_must : ByteArray := prog_13_method_32_code
def yX5_must : MethodName := ⟨RX5, "must", "(II)I"⟩
def dkwX5_must_2 : List UInt8 := [46, 172]
abbrev dktX5_must_2 : List UInt8 := dkwX5_must_2 ++ []
def dkwX5_must_1 : List UInt8 := [42, 180, 0, 127, 181, 0, 127, 27, 172, 42, 180, 0, 24, 42, 89, 180, 0, 130, 90, 4, 96, 181, 0, 130]
abbrev dktX5_must_1 : List UInt8 := dkwX5_must_1 ++ dktX5_must_2
def dkwX5_must_0 : List UInt8 := [42, 27, 28, 182, 0, 133, 154, 0, 27, 42, 42, 180, 0, 127, 156, 0, 10, 42, 180, 0, 130, 167, 0, 7]
abbrev dktX5_must_0 : List UInt8 := dkwX5_must_0 ++ dktX5_must_1
theorem dksX5_must_0 : cX5_must.data.toList.drop 0 = dktX5_must_0 := by decide +kernel
theorem dksX5_must_1 : cX5_must.data.toList.drop 24 = dktX5_must_1 := dk_seg dksX5_must_0 24 rfl rfl
theorem dksX5_must_2 : cX5_must.data.toList.drop 48 = dktX5_must_2 := dk_seg dksX5_must_1 24 rfl rfl
theorem dX5_must_0 : decode cX5_must 0 = .ok (.aload_n 0, 1) := dk_42 (dk_at dksX5_must_0 0 rfl rfl)
theorem dX5_must_1 : decode cX5_must 1 = .ok (.iload_n 1, 1) := dk_27 (dk_at dksX5_must_0 1 rfl rfl)
theorem dX5_must_2 : decode cX5_must 2 = .ok (.iload_n 2, 1) := dk_28 (dk_at dksX5_must_0 2 rfl rfl)
theorem dX5_must_3 : decode cX5_must 3 = .ok (.invokevirtual 133, 3) := dk_182 0 133 (dk_at dksX5_must_0 3 rfl rfl)
theorem dX5_must_6 : decode cX5_must 6 = .ok (.ifCond .ne 27, 3) := dk_154 0 27 (dk_at dksX5_must_0 6 rfl rfl)
theorem dX5_must_9 : decode cX5_must 9 = .ok (.aload_n 0, 1) := dk_42 (dk_at dksX5_must_0 9 rfl rfl)
theorem dX5_must_10 : decode cX5_must 10 = .ok (.aload_n 0, 1) := dk_42 (dk_at dksX5_must_0 10 rfl rfl)
theorem dX5_must_11 : decode cX5_must 11 = .ok (.getfield 127, 3) := dk_180 0 127 (dk_at dksX5_must_0 11 rfl rfl)
theorem dX5_must_14 : decode cX5_must 14 = .ok (.ifCond .ge 10, 3) := dk_156 0 10 (dk_at dksX5_must_0 14 rfl rfl)
theorem dX5_must_17 : decode cX5_must 17 = .ok (.aload_n 0, 1) := dk_42 (dk_at dksX5_must_0 17 rfl rfl)
theorem dX5_must_18 : decode cX5_must 18 = .ok (.getfield 130, 3) := dk_180 0 130 (dk_at dksX5_must_0 18 rfl rfl)
theorem dX5_must_21 : decode cX5_must 21 = .ok (.goto 7, 3) := dk_167 0 7 (dk_at dksX5_must_0 21 rfl rfl)
theorem dX5_must_24 : decode cX5_must 24 = .ok (.aload_n 0, 1) := dk_42 (dk_at dksX5_must_1 0 rfl rfl)
theorem dX5_must_25 : decode cX5_must 25 = .ok (.getfield 127, 3) := dk_180 0 127 (dk_at dksX5_must_1 1 rfl rfl)
theorem dX5_must_28 : decode cX5_must 28 = .ok (.putfield 127, 3) := dk_181 0 127 (dk_at dksX5_must_1 4 rfl rfl)
theorem dX5_must_31 : decode cX5_must 31 = .ok (.iload_n 1, 1) := dk_27 (dk_at dksX5_must_1 7 rfl rfl)
theorem dX5_must_32 : decode cX5_must 32 = .ok (.ireturn, 1) := dk_172 (dk_at dksX5_must_1 8 rfl rfl)
theorem dX5_must_33 : decode cX5_must 33 = .ok (.aload_n 0, 1) := dk_42 (dk_at dksX5_must_1 9 rfl rfl)
theorem dX5_must_34 : decode cX5_must 34 = .ok (.getfield 24, 3) := dk_180 0 24 (dk_at dksX5_must_1 10 rfl rfl)
theorem dX5_must_37 : decode cX5_must 37 = .ok (.aload_n 0, 1) := dk_42 (dk_at dksX5_must_1 13 rfl rfl)
theorem dX5_must_38 : decode cX5_must 38 = .ok (.dup, 1) := dk_89 (dk_at dksX5_must_1 14 rfl rfl)
theorem dX5_must_39 : decode cX5_must 39 = .ok (.getfield 130, 3) := dk_180 0 130 (dk_at dksX5_must_1 15 rfl rfl)
theorem dX5_must_42 : decode cX5_must 42 = .ok (.dup_x1, 1) := dk_90 (dk_at dksX5_must_1 18 rfl rfl)
theorem dX5_must_43 : decode cX5_must 43 = .ok (.iconst 1, 1) := dk_4 (dk_at dksX5_must_1 19 rfl rfl)
theorem dX5_must_44 : decode cX5_must 44 = .ok (.iadd, 1) := dk_96 (dk_at dksX5_must_1 20 rfl rfl)
theorem dX5_must_45 : decode cX5_must 45 = .ok (.putfield 130, 3) := dk_181 0 130 (dk_at dksX5_must_1 21 rfl rfl)
theorem dX5_must_48 : decode cX5_must 48 = .ok (.iaload, 1) := dk_46 (dk_at dksX5_must_2 0 rfl rfl)
theorem dX5_must_49 : decode cX5_must 49 = .ok (.ireturn, 1) := dk_172 (dk_at dksX5_must_2 1 rfl rfl)
abbrev cX5_run : ByteArray := prog_13_method_37_code
def yX5_run : MethodName := ⟨RX5, "run", "(I)I"⟩
def dkwX5_run_0 : List UInt8 := [42, 27, 182, 0, 145, 153, 0, 11, 42, 27, 182, 0, 148, 167, 0, 4, 2, 172]
abbrev dktX5_run_0 : List UInt8 := dkwX5_run_0 ++ []
theorem dksX5_run_0 : cX5_run.data.toList.drop 0 = dktX5_run_0 := by decide +kernel
theorem dX5_run_0 : decode cX5_run 0 = .ok (.aload_n 0, 1) := dk_42 (dk_at dksX5_run_0 0 rfl rfl)
theorem dX5_run_1 : decode cX5_run 1 = .ok (.iload_n 1, 1) := dk_27 (dk_at dksX5_run_0 1 rfl rfl)
theorem dX5_run_2 : decode cX5_run 2 = .ok (.invokevirtual 145, 3) := dk_182 0 145 (dk_at dksX5_run_0 2 rfl rfl)
theorem dX5_run_5 : decode cX5_run 5 = .ok (.ifCond .eq 11, 3) := dk_153 0 11 (dk_at dksX5_run_0 5 rfl rfl)
theorem dX5_run_8 : decode cX5_run 8 = .ok (.aload_n 0, 1) := dk_42 (dk_at dksX5_run_0 8 rfl rfl)
theorem dX5_run_9 : decode cX5_run 9 = .ok (.iload_n 1, 1) := dk_27 (dk_at dksX5_run_0 9 rfl rfl)
theorem dX5_run_10 : decode cX5_run 10 = .ok (.invokevirtual 148, 3) := dk_182 0 148 (dk_at dksX5_run_0 10 rfl rfl)
theorem dX5_run_13 : decode cX5_run 13 = .ok (.goto 4, 3) := dk_167 0 4 (dk_at dksX5_run_0 13 rfl rfl)
theorem dX5_run_16 : decode cX5_run 16 = .ok (.iconst (-1), 1) := dk_2 (dk_at dksX5_run_0 16 rfl rfl)
theorem dX5_run_17 : decode cX5_run 17 = .ok (.ireturn, 1) := dk_172 (dk_at dksX5_run_0 17 rfl rfl)
abbrev cX5_isTrace : ByteArray := prog_13_method_36_code
def yX5_isTrace : MethodName := ⟨RX5, "isTrace", "(I)Z"⟩
def dkwX5_isTrace_0 : List UInt8 := [27, 3, 42, 180, 0, 139, 4, 100, 184, 0, 54, 172]
abbrev dktX5_isTrace_0 : List UInt8 := dkwX5_isTrace_0 ++ []
theorem dksX5_isTrace_0 : cX5_isTrace.data.toList.drop 0 = dktX5_isTrace_0 := by decide +kernel
theorem dX5_isTrace_0 : decode cX5_isTrace 0 = .ok (.iload_n 1, 1) := dk_27 (dk_at dksX5_isTrace_0 0 rfl rfl)
theorem dX5_isTrace_1 : decode cX5_isTrace 1 = .ok (.iconst 0, 1) := dk_3 (dk_at dksX5_isTrace_0 1 rfl rfl)
theorem dX5_isTrace_2 : decode cX5_isTrace 2 = .ok (.aload_n 0, 1) := dk_42 (dk_at dksX5_isTrace_0 2 rfl rfl)
theorem dX5_isTrace_3 : decode cX5_isTrace 3 = .ok (.getfield 139, 3) := dk_180 0 139 (dk_at dksX5_isTrace_0 3 rfl rfl)
theorem dX5_isTrace_6 : decode cX5_isTrace 6 = .ok (.iconst 1, 1) := dk_4 (dk_at dksX5_isTrace_0 6 rfl rfl)
theorem dX5_isTrace_7 : decode cX5_isTrace 7 = .ok (.isub, 1) := dk_100 (dk_at dksX5_isTrace_0 7 rfl rfl)
theorem dX5_isTrace_8 : decode cX5_isTrace 8 = .ok (.invokestatic 54, 3) := dk_184 0 54 (dk_at dksX5_isTrace_0 8 rfl rfl)
theorem dX5_isTrace_11 : decode cX5_isTrace 11 = .ok (.ireturn, 1) := dk_172 (dk_at dksX5_isTrace_0 11 rfl rfl)
abbrev cX5_runs : ByteArray := prog_13_method_35_code
def yX5_runs : MethodName := ⟨RX5, "runs", "(I)I"⟩
def dkwX5_runs_5 : List UInt8 := [132, 3, 1, 167, 255, 152, 42, 180, 0, 11, 17, 12, 137, 46, 28, 100, 172]
abbrev dktX5_runs_5 : List UInt8 := dkwX5_runs_5 ++ []
def dkwX5_runs_4 : List UInt8 := [163, 0, 22, 42, 42, 180, 0, 30, 29, 46, 3, 42, 180, 0, 33, 29, 46, 4, 182, 0, 100, 87]
abbrev dktX5_runs_4 : List UInt8 := dkwX5_runs_4 ++ dktX5_runs_5
def dkwX5_runs_3 : List UInt8 := [46, 182, 0, 109, 87, 167, 0, 39, 42, 180, 0, 33, 29, 46, 42, 180, 0, 11, 17, 12, 128, 46]
abbrev dktX5_runs_3 : List UInt8 := dkwX5_runs_3 ++ dktX5_runs_4
def dkwX5_runs_2 : List UInt8 := [182, 0, 106, 87, 167, 0, 64, 42, 180, 0, 27, 29, 46, 16, 120, 160, 0, 17, 42, 42, 180, 0, 30, 29]
abbrev dktX5_runs_2 : List UInt8 := dkwX5_runs_2 ++ dktX5_runs_3
def dkwX5_runs_1 : List UInt8 := [46, 96, 162, 0, 95, 42, 180, 0, 27, 29, 46, 16, 103, 160, 0, 17, 42, 42, 180, 0, 30, 29, 46]
abbrev dktX5_runs_1 : List UInt8 := dkwX5_runs_1 ++ dktX5_runs_2
def dkwX5_runs_0 : List UInt8 := [42, 180, 0, 11, 17, 12, 137, 46, 61, 27, 16, 20, 104, 62, 29, 27, 16, 20, 104, 42, 180, 0, 36, 27]
abbrev dktX5_runs_0 : List UInt8 := dkwX5_runs_0 ++ dktX5_runs_1
theorem dksX5_runs_0 : cX5_runs.data.toList.drop 0 = dktX5_runs_0 := by decide +kernel
theorem dksX5_runs_1 : cX5_runs.data.toList.drop 24 = dktX5_runs_1 := dk_seg dksX5_runs_0 24 rfl rfl
theorem dksX5_runs_2 : cX5_runs.data.toList.drop 47 = dktX5_runs_2 := dk_seg dksX5_runs_1 23 rfl rfl
theorem dksX5_runs_3 : cX5_runs.data.toList.drop 71 = dktX5_runs_3 := dk_seg dksX5_runs_2 24 rfl rfl
theorem dksX5_runs_4 : cX5_runs.data.toList.drop 93 = dktX5_runs_4 := dk_seg dksX5_runs_3 22 rfl rfl
theorem dksX5_runs_5 : cX5_runs.data.toList.drop 115 = dktX5_runs_5 := dk_seg dksX5_runs_4 22 rfl rfl
theorem dX5_runs_0 : decode cX5_runs 0 = .ok (.aload_n 0, 1) := dk_42 (dk_at dksX5_runs_0 0 rfl rfl)
theorem dX5_runs_1 : decode cX5_runs 1 = .ok (.getfield 11, 3) := dk_180 0 11 (dk_at dksX5_runs_0 1 rfl rfl)
theorem dX5_runs_4 : decode cX5_runs 4 = .ok (.sipush 3209, 3) := dk_17 12 137 (dk_at dksX5_runs_0 4 rfl rfl)
theorem dX5_runs_7 : decode cX5_runs 7 = .ok (.iaload, 1) := dk_46 (dk_at dksX5_runs_0 7 rfl rfl)
theorem dX5_runs_8 : decode cX5_runs 8 = .ok (.istore_n 2, 1) := dk_61 (dk_at dksX5_runs_0 8 rfl rfl)
theorem dX5_runs_9 : decode cX5_runs 9 = .ok (.iload_n 1, 1) := dk_27 (dk_at dksX5_runs_0 9 rfl rfl)
theorem dX5_runs_10 : decode cX5_runs 10 = .ok (.bipush 20, 2) := dk_16 20 (dk_at dksX5_runs_0 10 rfl rfl)
theorem dX5_runs_12 : decode cX5_runs 12 = .ok (.imul, 1) := dk_104 (dk_at dksX5_runs_0 12 rfl rfl)
theorem dX5_runs_13 : decode cX5_runs 13 = .ok (.istore_n 3, 1) := dk_62 (dk_at dksX5_runs_0 13 rfl rfl)
theorem dX5_runs_14 : decode cX5_runs 14 = .ok (.iload_n 3, 1) := dk_29 (dk_at dksX5_runs_0 14 rfl rfl)
theorem dX5_runs_15 : decode cX5_runs 15 = .ok (.iload_n 1, 1) := dk_27 (dk_at dksX5_runs_0 15 rfl rfl)
theorem dX5_runs_16 : decode cX5_runs 16 = .ok (.bipush 20, 2) := dk_16 20 (dk_at dksX5_runs_0 16 rfl rfl)
theorem dX5_runs_18 : decode cX5_runs 18 = .ok (.imul, 1) := dk_104 (dk_at dksX5_runs_0 18 rfl rfl)
theorem dX5_runs_19 : decode cX5_runs 19 = .ok (.aload_n 0, 1) := dk_42 (dk_at dksX5_runs_0 19 rfl rfl)
theorem dX5_runs_20 : decode cX5_runs 20 = .ok (.getfield 36, 3) := dk_180 0 36 (dk_at dksX5_runs_0 20 rfl rfl)
theorem dX5_runs_23 : decode cX5_runs 23 = .ok (.iload_n 1, 1) := dk_27 (dk_at dksX5_runs_0 23 rfl rfl)
theorem dX5_runs_24 : decode cX5_runs 24 = .ok (.iaload, 1) := dk_46 (dk_at dksX5_runs_1 0 rfl rfl)
theorem dX5_runs_25 : decode cX5_runs 25 = .ok (.iadd, 1) := dk_96 (dk_at dksX5_runs_1 1 rfl rfl)
theorem dX5_runs_26 : decode cX5_runs 26 = .ok (.if_icmp .ge 95, 3) := dk_162 0 95 (dk_at dksX5_runs_1 2 rfl rfl)
theorem dX5_runs_29 : decode cX5_runs 29 = .ok (.aload_n 0, 1) := dk_42 (dk_at dksX5_runs_1 5 rfl rfl)
theorem dX5_runs_30 : decode cX5_runs 30 = .ok (.getfield 27, 3) := dk_180 0 27 (dk_at dksX5_runs_1 6 rfl rfl)
theorem dX5_runs_33 : decode cX5_runs 33 = .ok (.iload_n 3, 1) := dk_29 (dk_at dksX5_runs_1 9 rfl rfl)
theorem dX5_runs_34 : decode cX5_runs 34 = .ok (.iaload, 1) := dk_46 (dk_at dksX5_runs_1 10 rfl rfl)
theorem dX5_runs_35 : decode cX5_runs 35 = .ok (.bipush 103, 2) := dk_16 103 (dk_at dksX5_runs_1 11 rfl rfl)
theorem dX5_runs_37 : decode cX5_runs 37 = .ok (.if_icmp .ne 17, 3) := dk_160 0 17 (dk_at dksX5_runs_1 13 rfl rfl)
theorem dX5_runs_40 : decode cX5_runs 40 = .ok (.aload_n 0, 1) := dk_42 (dk_at dksX5_runs_1 16 rfl rfl)
theorem dX5_runs_41 : decode cX5_runs 41 = .ok (.aload_n 0, 1) := dk_42 (dk_at dksX5_runs_1 17 rfl rfl)
theorem dX5_runs_42 : decode cX5_runs 42 = .ok (.getfield 30, 3) := dk_180 0 30 (dk_at dksX5_runs_1 18 rfl rfl)
theorem dX5_runs_45 : decode cX5_runs 45 = .ok (.iload_n 3, 1) := dk_29 (dk_at dksX5_runs_1 21 rfl rfl)
theorem dX5_runs_46 : decode cX5_runs 46 = .ok (.iaload, 1) := dk_46 (dk_at dksX5_runs_1 22 rfl rfl)
theorem dX5_runs_47 : decode cX5_runs 47 = .ok (.invokevirtual 106, 3) := dk_182 0 106 (dk_at dksX5_runs_2 0 rfl rfl)
theorem dX5_runs_50 : decode cX5_runs 50 = .ok (.pop, 1) := dk_87 (dk_at dksX5_runs_2 3 rfl rfl)
theorem dX5_runs_51 : decode cX5_runs 51 = .ok (.goto 64, 3) := dk_167 0 64 (dk_at dksX5_runs_2 4 rfl rfl)
theorem dX5_runs_54 : decode cX5_runs 54 = .ok (.aload_n 0, 1) := dk_42 (dk_at dksX5_runs_2 7 rfl rfl)
theorem dX5_runs_55 : decode cX5_runs 55 = .ok (.getfield 27, 3) := dk_180 0 27 (dk_at dksX5_runs_2 8 rfl rfl)
theorem dX5_runs_58 : decode cX5_runs 58 = .ok (.iload_n 3, 1) := dk_29 (dk_at dksX5_runs_2 11 rfl rfl)
theorem dX5_runs_59 : decode cX5_runs 59 = .ok (.iaload, 1) := dk_46 (dk_at dksX5_runs_2 12 rfl rfl)
theorem dX5_runs_60 : decode cX5_runs 60 = .ok (.bipush 120, 2) := dk_16 120 (dk_at dksX5_runs_2 13 rfl rfl)
theorem dX5_runs_62 : decode cX5_runs 62 = .ok (.if_icmp .ne 17, 3) := dk_160 0 17 (dk_at dksX5_runs_2 15 rfl rfl)
theorem dX5_runs_65 : decode cX5_runs 65 = .ok (.aload_n 0, 1) := dk_42 (dk_at dksX5_runs_2 18 rfl rfl)
theorem dX5_runs_66 : decode cX5_runs 66 = .ok (.aload_n 0, 1) := dk_42 (dk_at dksX5_runs_2 19 rfl rfl)
theorem dX5_runs_67 : decode cX5_runs 67 = .ok (.getfield 30, 3) := dk_180 0 30 (dk_at dksX5_runs_2 20 rfl rfl)
theorem dX5_runs_70 : decode cX5_runs 70 = .ok (.iload_n 3, 1) := dk_29 (dk_at dksX5_runs_2 23 rfl rfl)
theorem dX5_runs_71 : decode cX5_runs 71 = .ok (.iaload, 1) := dk_46 (dk_at dksX5_runs_3 0 rfl rfl)
theorem dX5_runs_72 : decode cX5_runs 72 = .ok (.invokevirtual 109, 3) := dk_182 0 109 (dk_at dksX5_runs_3 1 rfl rfl)
theorem dX5_runs_75 : decode cX5_runs 75 = .ok (.pop, 1) := dk_87 (dk_at dksX5_runs_3 4 rfl rfl)
theorem dX5_runs_76 : decode cX5_runs 76 = .ok (.goto 39, 3) := dk_167 0 39 (dk_at dksX5_runs_3 5 rfl rfl)
theorem dX5_runs_79 : decode cX5_runs 79 = .ok (.aload_n 0, 1) := dk_42 (dk_at dksX5_runs_3 8 rfl rfl)
theorem dX5_runs_80 : decode cX5_runs 80 = .ok (.getfield 33, 3) := dk_180 0 33 (dk_at dksX5_runs_3 9 rfl rfl)
theorem dX5_runs_83 : decode cX5_runs 83 = .ok (.iload_n 3, 1) := dk_29 (dk_at dksX5_runs_3 12 rfl rfl)
theorem dX5_runs_84 : decode cX5_runs 84 = .ok (.iaload, 1) := dk_46 (dk_at dksX5_runs_3 13 rfl rfl)
theorem dX5_runs_85 : decode cX5_runs 85 = .ok (.aload_n 0, 1) := dk_42 (dk_at dksX5_runs_3 14 rfl rfl)
theorem dX5_runs_86 : decode cX5_runs 86 = .ok (.getfield 11, 3) := dk_180 0 11 (dk_at dksX5_runs_3 15 rfl rfl)
theorem dX5_runs_89 : decode cX5_runs 89 = .ok (.sipush 3200, 3) := dk_17 12 128 (dk_at dksX5_runs_3 18 rfl rfl)
theorem dX5_runs_92 : decode cX5_runs 92 = .ok (.iaload, 1) := dk_46 (dk_at dksX5_runs_3 21 rfl rfl)
theorem dX5_runs_93 : decode cX5_runs 93 = .ok (.if_icmp .gt 22, 3) := dk_163 0 22 (dk_at dksX5_runs_4 0 rfl rfl)
theorem dX5_runs_96 : decode cX5_runs 96 = .ok (.aload_n 0, 1) := dk_42 (dk_at dksX5_runs_4 3 rfl rfl)
theorem dX5_runs_97 : decode cX5_runs 97 = .ok (.aload_n 0, 1) := dk_42 (dk_at dksX5_runs_4 4 rfl rfl)
theorem dX5_runs_98 : decode cX5_runs 98 = .ok (.getfield 30, 3) := dk_180 0 30 (dk_at dksX5_runs_4 5 rfl rfl)
theorem dX5_runs_101 : decode cX5_runs 101 = .ok (.iload_n 3, 1) := dk_29 (dk_at dksX5_runs_4 8 rfl rfl)
theorem dX5_runs_102 : decode cX5_runs 102 = .ok (.iaload, 1) := dk_46 (dk_at dksX5_runs_4 9 rfl rfl)
theorem dX5_runs_103 : decode cX5_runs 103 = .ok (.iconst 0, 1) := dk_3 (dk_at dksX5_runs_4 10 rfl rfl)
theorem dX5_runs_104 : decode cX5_runs 104 = .ok (.aload_n 0, 1) := dk_42 (dk_at dksX5_runs_4 11 rfl rfl)
theorem dX5_runs_105 : decode cX5_runs 105 = .ok (.getfield 33, 3) := dk_180 0 33 (dk_at dksX5_runs_4 12 rfl rfl)
theorem dX5_runs_108 : decode cX5_runs 108 = .ok (.iload_n 3, 1) := dk_29 (dk_at dksX5_runs_4 15 rfl rfl)
theorem dX5_runs_109 : decode cX5_runs 109 = .ok (.iaload, 1) := dk_46 (dk_at dksX5_runs_4 16 rfl rfl)
theorem dX5_runs_110 : decode cX5_runs 110 = .ok (.iconst 1, 1) := dk_4 (dk_at dksX5_runs_4 17 rfl rfl)
theorem dX5_runs_111 : decode cX5_runs 111 = .ok (.invokevirtual 100, 3) := dk_182 0 100 (dk_at dksX5_runs_4 18 rfl rfl)
theorem dX5_runs_114 : decode cX5_runs 114 = .ok (.pop, 1) := dk_87 (dk_at dksX5_runs_4 21 rfl rfl)
theorem dX5_runs_115 : decode cX5_runs 115 = .ok (.iinc 3 1, 3) := dk_132 3 1 (dk_at dksX5_runs_5 0 rfl rfl)
theorem dX5_runs_118 : decode cX5_runs 118 = .ok (.goto (-104), 3) := dk_167 255 152 (dk_at dksX5_runs_5 3 rfl rfl)
theorem dX5_runs_121 : decode cX5_runs 121 = .ok (.aload_n 0, 1) := dk_42 (dk_at dksX5_runs_5 6 rfl rfl)
theorem dX5_runs_122 : decode cX5_runs 122 = .ok (.getfield 11, 3) := dk_180 0 11 (dk_at dksX5_runs_5 7 rfl rfl)
theorem dX5_runs_125 : decode cX5_runs 125 = .ok (.sipush 3209, 3) := dk_17 12 137 (dk_at dksX5_runs_5 10 rfl rfl)
theorem dX5_runs_128 : decode cX5_runs 128 = .ok (.iaload, 1) := dk_46 (dk_at dksX5_runs_5 13 rfl rfl)
theorem dX5_runs_129 : decode cX5_runs 129 = .ok (.iload_n 2, 1) := dk_28 (dk_at dksX5_runs_5 14 rfl rfl)
theorem dX5_runs_130 : decode cX5_runs 130 = .ok (.isub, 1) := dk_100 (dk_at dksX5_runs_5 15 rfl rfl)
theorem dX5_runs_131 : decode cX5_runs 131 = .ok (.ireturn, 1) := dk_172 (dk_at dksX5_runs_5 16 rfl rfl)
abbrev cX5_would : ByteArray := prog_13_method_38_code
def yX5_would : MethodName := ⟨RX5, "would", "(II)I"⟩
def dkwX5_would_6 : List UInt8 := [96, 46, 100, 62, 42, 180, 0, 15, 42, 180, 0, 11, 184, 0, 120, 29, 172]
abbrev dktX5_would_6 : List UInt8 := dkwX5_would_6 ++ []
def dkwX5_would_5 : List UInt8 := [46, 100, 62, 167, 0, 25, 42, 180, 0, 11, 17, 12, 137, 28, 96, 46, 42, 180, 0, 15, 17, 12, 137, 28]
abbrev dktX5_would_5 : List UInt8 := dkwX5_would_5 ++ dktX5_would_6
def dkwX5_would_4 : List UInt8 := [17, 12, 134, 46, 96, 62, 167, 0, 46, 42, 180, 0, 11, 17, 12, 142, 46, 42, 180, 0, 15, 17, 12, 142]
abbrev dktX5_would_4 : List UInt8 := dkwX5_would_4 ++ dktX5_would_5
def dkwX5_would_3 : List UInt8 := [42, 180, 0, 11, 17, 12, 129, 46, 62, 167, 0, 67, 42, 180, 0, 11, 17, 12, 133, 46, 42, 180, 0, 11]
abbrev dktX5_would_3 : List UInt8 := dkwX5_would_3 ++ dktX5_would_4
def dkwX5_would_2 : List UInt8 := [170, 0, 0, 0, 0, 0, 81, 0, 0, 0, 3, 0, 0, 0, 5, 0, 0, 0, 27, 0, 0, 0, 39, 0, 0, 0, 60]
abbrev dktX5_would_2 : List UInt8 := dkwX5_would_2 ++ dktX5_would_3
def dkwX5_would_1 : List UInt8 := [180, 0, 15, 184, 0, 120, 42, 27, 182, 0, 148, 87, 28]
abbrev dktX5_would_1 : List UInt8 := dkwX5_would_1 ++ dktX5_would_2
def dkwX5_would_0 : List UInt8 := [42, 27, 182, 0, 145, 153, 0, 12, 28, 3, 8, 184, 0, 54, 154, 0, 5, 2, 172, 42, 180, 0, 11, 42]
abbrev dktX5_would_0 : List UInt8 := dkwX5_would_0 ++ dktX5_would_1
theorem dksX5_would_0 : cX5_would.data.toList.drop 0 = dktX5_would_0 := by decide +kernel
theorem dksX5_would_1 : cX5_would.data.toList.drop 24 = dktX5_would_1 := dk_seg dksX5_would_0 24 rfl rfl
theorem dksX5_would_2 : cX5_would.data.toList.drop 37 = dktX5_would_2 := dk_seg dksX5_would_1 13 rfl rfl
theorem dksX5_would_3 : cX5_would.data.toList.drop 64 = dktX5_would_3 := dk_seg dksX5_would_2 27 rfl rfl
theorem dksX5_would_4 : cX5_would.data.toList.drop 88 = dktX5_would_4 := dk_seg dksX5_would_3 24 rfl rfl
theorem dksX5_would_5 : cX5_would.data.toList.drop 112 = dktX5_would_5 := dk_seg dksX5_would_4 24 rfl rfl
theorem dksX5_would_6 : cX5_would.data.toList.drop 136 = dktX5_would_6 := dk_seg dksX5_would_5 24 rfl rfl
theorem dX5_would_0 : decode cX5_would 0 = .ok (.aload_n 0, 1) := dk_42 (dk_at dksX5_would_0 0 rfl rfl)
theorem dX5_would_1 : decode cX5_would 1 = .ok (.iload_n 1, 1) := dk_27 (dk_at dksX5_would_0 1 rfl rfl)
theorem dX5_would_2 : decode cX5_would 2 = .ok (.invokevirtual 145, 3) := dk_182 0 145 (dk_at dksX5_would_0 2 rfl rfl)
theorem dX5_would_5 : decode cX5_would 5 = .ok (.ifCond .eq 12, 3) := dk_153 0 12 (dk_at dksX5_would_0 5 rfl rfl)
theorem dX5_would_8 : decode cX5_would 8 = .ok (.iload_n 2, 1) := dk_28 (dk_at dksX5_would_0 8 rfl rfl)
theorem dX5_would_9 : decode cX5_would 9 = .ok (.iconst 0, 1) := dk_3 (dk_at dksX5_would_0 9 rfl rfl)
theorem dX5_would_10 : decode cX5_would 10 = .ok (.iconst 5, 1) := dk_8 (dk_at dksX5_would_0 10 rfl rfl)
theorem dX5_would_11 : decode cX5_would 11 = .ok (.invokestatic 54, 3) := dk_184 0 54 (dk_at dksX5_would_0 11 rfl rfl)
theorem dX5_would_14 : decode cX5_would 14 = .ok (.ifCond .ne 5, 3) := dk_154 0 5 (dk_at dksX5_would_0 14 rfl rfl)
theorem dX5_would_17 : decode cX5_would 17 = .ok (.iconst (-1), 1) := dk_2 (dk_at dksX5_would_0 17 rfl rfl)
theorem dX5_would_18 : decode cX5_would 18 = .ok (.ireturn, 1) := dk_172 (dk_at dksX5_would_0 18 rfl rfl)
theorem dX5_would_19 : decode cX5_would 19 = .ok (.aload_n 0, 1) := dk_42 (dk_at dksX5_would_0 19 rfl rfl)
theorem dX5_would_20 : decode cX5_would 20 = .ok (.getfield 11, 3) := dk_180 0 11 (dk_at dksX5_would_0 20 rfl rfl)
theorem dX5_would_23 : decode cX5_would 23 = .ok (.aload_n 0, 1) := dk_42 (dk_at dksX5_would_0 23 rfl rfl)
theorem dX5_would_24 : decode cX5_would 24 = .ok (.getfield 15, 3) := dk_180 0 15 (dk_at dksX5_would_1 0 rfl rfl)
theorem dX5_would_27 : decode cX5_would 27 = .ok (.invokestatic 120, 3) := dk_184 0 120 (dk_at dksX5_would_1 3 rfl rfl)
theorem dX5_would_30 : decode cX5_would 30 = .ok (.aload_n 0, 1) := dk_42 (dk_at dksX5_would_1 6 rfl rfl)
theorem dX5_would_31 : decode cX5_would 31 = .ok (.iload_n 1, 1) := dk_27 (dk_at dksX5_would_1 7 rfl rfl)
theorem dX5_would_32 : decode cX5_would 32 = .ok (.invokevirtual 148, 3) := dk_182 0 148 (dk_at dksX5_would_1 8 rfl rfl)
theorem dX5_would_35 : decode cX5_would 35 = .ok (.pop, 1) := dk_87 (dk_at dksX5_would_1 11 rfl rfl)
theorem dX5_would_36 : decode cX5_would 36 = .ok (.iload_n 2, 1) := dk_28 (dk_at dksX5_would_1 12 rfl rfl)
theorem dX5_would_37 : decode cX5_would 37 = .ok (.tableswitch 81 3 5 #[27, 39, 60], 27) := by decide +kernel
theorem dX5_would_64 : decode cX5_would 64 = .ok (.aload_n 0, 1) := dk_42 (dk_at dksX5_would_3 0 rfl rfl)
theorem dX5_would_65 : decode cX5_would 65 = .ok (.getfield 11, 3) := dk_180 0 11 (dk_at dksX5_would_3 1 rfl rfl)
theorem dX5_would_68 : decode cX5_would 68 = .ok (.sipush 3201, 3) := dk_17 12 129 (dk_at dksX5_would_3 4 rfl rfl)
theorem dX5_would_71 : decode cX5_would 71 = .ok (.iaload, 1) := dk_46 (dk_at dksX5_would_3 7 rfl rfl)
theorem dX5_would_72 : decode cX5_would 72 = .ok (.istore_n 3, 1) := dk_62 (dk_at dksX5_would_3 8 rfl rfl)
theorem dX5_would_73 : decode cX5_would 73 = .ok (.goto 67, 3) := dk_167 0 67 (dk_at dksX5_would_3 9 rfl rfl)
theorem dX5_would_76 : decode cX5_would 76 = .ok (.aload_n 0, 1) := dk_42 (dk_at dksX5_would_3 12 rfl rfl)
theorem dX5_would_77 : decode cX5_would 77 = .ok (.getfield 11, 3) := dk_180 0 11 (dk_at dksX5_would_3 13 rfl rfl)
theorem dX5_would_80 : decode cX5_would 80 = .ok (.sipush 3205, 3) := dk_17 12 133 (dk_at dksX5_would_3 16 rfl rfl)
theorem dX5_would_83 : decode cX5_would 83 = .ok (.iaload, 1) := dk_46 (dk_at dksX5_would_3 19 rfl rfl)
theorem dX5_would_84 : decode cX5_would 84 = .ok (.aload_n 0, 1) := dk_42 (dk_at dksX5_would_3 20 rfl rfl)
theorem dX5_would_85 : decode cX5_would 85 = .ok (.getfield 11, 3) := dk_180 0 11 (dk_at dksX5_would_3 21 rfl rfl)
theorem dX5_would_88 : decode cX5_would 88 = .ok (.sipush 3206, 3) := dk_17 12 134 (dk_at dksX5_would_4 0 rfl rfl)
theorem dX5_would_91 : decode cX5_would 91 = .ok (.iaload, 1) := dk_46 (dk_at dksX5_would_4 3 rfl rfl)
theorem dX5_would_92 : decode cX5_would 92 = .ok (.iadd, 1) := dk_96 (dk_at dksX5_would_4 4 rfl rfl)
theorem dX5_would_93 : decode cX5_would 93 = .ok (.istore_n 3, 1) := dk_62 (dk_at dksX5_would_4 5 rfl rfl)
theorem dX5_would_94 : decode cX5_would 94 = .ok (.goto 46, 3) := dk_167 0 46 (dk_at dksX5_would_4 6 rfl rfl)
theorem dX5_would_97 : decode cX5_would 97 = .ok (.aload_n 0, 1) := dk_42 (dk_at dksX5_would_4 9 rfl rfl)
theorem dX5_would_98 : decode cX5_would 98 = .ok (.getfield 11, 3) := dk_180 0 11 (dk_at dksX5_would_4 10 rfl rfl)
theorem dX5_would_101 : decode cX5_would 101 = .ok (.sipush 3214, 3) := dk_17 12 142 (dk_at dksX5_would_4 13 rfl rfl)
theorem dX5_would_104 : decode cX5_would 104 = .ok (.iaload, 1) := dk_46 (dk_at dksX5_would_4 16 rfl rfl)
theorem dX5_would_105 : decode cX5_would 105 = .ok (.aload_n 0, 1) := dk_42 (dk_at dksX5_would_4 17 rfl rfl)
theorem dX5_would_106 : decode cX5_would 106 = .ok (.getfield 15, 3) := dk_180 0 15 (dk_at dksX5_would_4 18 rfl rfl)
theorem dX5_would_109 : decode cX5_would 109 = .ok (.sipush 3214, 3) := dk_17 12 142 (dk_at dksX5_would_4 21 rfl rfl)
theorem dX5_would_112 : decode cX5_would 112 = .ok (.iaload, 1) := dk_46 (dk_at dksX5_would_5 0 rfl rfl)
theorem dX5_would_113 : decode cX5_would 113 = .ok (.isub, 1) := dk_100 (dk_at dksX5_would_5 1 rfl rfl)
theorem dX5_would_114 : decode cX5_would 114 = .ok (.istore_n 3, 1) := dk_62 (dk_at dksX5_would_5 2 rfl rfl)
theorem dX5_would_115 : decode cX5_would 115 = .ok (.goto 25, 3) := dk_167 0 25 (dk_at dksX5_would_5 3 rfl rfl)
theorem dX5_would_118 : decode cX5_would 118 = .ok (.aload_n 0, 1) := dk_42 (dk_at dksX5_would_5 6 rfl rfl)
theorem dX5_would_119 : decode cX5_would 119 = .ok (.getfield 11, 3) := dk_180 0 11 (dk_at dksX5_would_5 7 rfl rfl)
theorem dX5_would_122 : decode cX5_would 122 = .ok (.sipush 3209, 3) := dk_17 12 137 (dk_at dksX5_would_5 10 rfl rfl)
theorem dX5_would_125 : decode cX5_would 125 = .ok (.iload_n 2, 1) := dk_28 (dk_at dksX5_would_5 13 rfl rfl)
theorem dX5_would_126 : decode cX5_would 126 = .ok (.iadd, 1) := dk_96 (dk_at dksX5_would_5 14 rfl rfl)
theorem dX5_would_127 : decode cX5_would 127 = .ok (.iaload, 1) := dk_46 (dk_at dksX5_would_5 15 rfl rfl)
theorem dX5_would_128 : decode cX5_would 128 = .ok (.aload_n 0, 1) := dk_42 (dk_at dksX5_would_5 16 rfl rfl)
theorem dX5_would_129 : decode cX5_would 129 = .ok (.getfield 15, 3) := dk_180 0 15 (dk_at dksX5_would_5 17 rfl rfl)
theorem dX5_would_132 : decode cX5_would 132 = .ok (.sipush 3209, 3) := dk_17 12 137 (dk_at dksX5_would_5 20 rfl rfl)
theorem dX5_would_135 : decode cX5_would 135 = .ok (.iload_n 2, 1) := dk_28 (dk_at dksX5_would_5 23 rfl rfl)
theorem dX5_would_136 : decode cX5_would 136 = .ok (.iadd, 1) := dk_96 (dk_at dksX5_would_6 0 rfl rfl)
theorem dX5_would_137 : decode cX5_would 137 = .ok (.iaload, 1) := dk_46 (dk_at dksX5_would_6 1 rfl rfl)
theorem dX5_would_138 : decode cX5_would 138 = .ok (.isub, 1) := dk_100 (dk_at dksX5_would_6 2 rfl rfl)
theorem dX5_would_139 : decode cX5_would 139 = .ok (.istore_n 3, 1) := dk_62 (dk_at dksX5_would_6 3 rfl rfl)
theorem dX5_would_140 : decode cX5_would 140 = .ok (.aload_n 0, 1) := dk_42 (dk_at dksX5_would_6 4 rfl rfl)
theorem dX5_would_141 : decode cX5_would 141 = .ok (.getfield 15, 3) := dk_180 0 15 (dk_at dksX5_would_6 5 rfl rfl)
theorem dX5_would_144 : decode cX5_would 144 = .ok (.aload_n 0, 1) := dk_42 (dk_at dksX5_would_6 8 rfl rfl)
theorem dX5_would_145 : decode cX5_would 145 = .ok (.getfield 11, 3) := dk_180 0 11 (dk_at dksX5_would_6 9 rfl rfl)
theorem dX5_would_148 : decode cX5_would 148 = .ok (.invokestatic 120, 3) := dk_184 0 120 (dk_at dksX5_would_6 12 rfl rfl)
theorem dX5_would_151 : decode cX5_would 151 = .ok (.iload_n 3, 1) := dk_29 (dk_at dksX5_would_6 15 rfl rfl)
theorem dX5_would_152 : decode cX5_would 152 = .ok (.ireturn, 1) := dk_172 (dk_at dksX5_would_6 16 rfl rfl)
abbrev cX5_need : ByteArray := prog_13_method_39_code
def yX5_need : MethodName := ⟨RX5, "need", "(II)I"⟩
def dkwX5_need_3 : List UInt8 := [62, 42, 180, 0, 15, 42, 180, 0, 11, 184, 0, 120, 132, 4, 1, 167, 255, 209, 29, 172]
abbrev dktX5_need_3 : List UInt8 := dkwX5_need_3 ++ []
def dkwX5_need_2 : List UInt8 := [156, 0, 42, 42, 21, 4, 182, 0, 93, 42, 27, 182, 0, 148, 28, 161, 0, 8, 21, 4, 167, 0, 4, 29]
abbrev dktX5_need_2 : List UInt8 := dkwX5_need_2 ++ dktX5_need_3
def dkwX5_need_1 : List UInt8 := [180, 0, 11, 42, 180, 0, 15, 184, 0, 120, 16, 251, 62, 4, 54, 4, 21, 4, 16, 60, 163, 0, 46, 29]
abbrev dktX5_need_1 : List UInt8 := dkwX5_need_1 ++ dktX5_need_2
def dkwX5_need_0 : List UInt8 := [42, 27, 182, 0, 145, 154, 0, 5, 2, 172, 28, 3, 16, 20, 184, 0, 54, 154, 0, 6, 16, 254, 172, 42]
abbrev dktX5_need_0 : List UInt8 := dkwX5_need_0 ++ dktX5_need_1
theorem dksX5_need_0 : cX5_need.data.toList.drop 0 = dktX5_need_0 := by decide +kernel
theorem dksX5_need_1 : cX5_need.data.toList.drop 24 = dktX5_need_1 := dk_seg dksX5_need_0 24 rfl rfl
theorem dksX5_need_2 : cX5_need.data.toList.drop 48 = dktX5_need_2 := dk_seg dksX5_need_1 24 rfl rfl
theorem dksX5_need_3 : cX5_need.data.toList.drop 72 = dktX5_need_3 := dk_seg dksX5_need_2 24 rfl rfl
theorem dX5_need_0 : decode cX5_need 0 = .ok (.aload_n 0, 1) := dk_42 (dk_at dksX5_need_0 0 rfl rfl)
theorem dX5_need_1 : decode cX5_need 1 = .ok (.iload_n 1, 1) := dk_27 (dk_at dksX5_need_0 1 rfl rfl)
theorem dX5_need_2 : decode cX5_need 2 = .ok (.invokevirtual 145, 3) := dk_182 0 145 (dk_at dksX5_need_0 2 rfl rfl)
theorem dX5_need_5 : decode cX5_need 5 = .ok (.ifCond .ne 5, 3) := dk_154 0 5 (dk_at dksX5_need_0 5 rfl rfl)
theorem dX5_need_8 : decode cX5_need 8 = .ok (.iconst (-1), 1) := dk_2 (dk_at dksX5_need_0 8 rfl rfl)
theorem dX5_need_9 : decode cX5_need 9 = .ok (.ireturn, 1) := dk_172 (dk_at dksX5_need_0 9 rfl rfl)
theorem dX5_need_10 : decode cX5_need 10 = .ok (.iload_n 2, 1) := dk_28 (dk_at dksX5_need_0 10 rfl rfl)
theorem dX5_need_11 : decode cX5_need 11 = .ok (.iconst 0, 1) := dk_3 (dk_at dksX5_need_0 11 rfl rfl)
theorem dX5_need_12 : decode cX5_need 12 = .ok (.bipush 20, 2) := dk_16 20 (dk_at dksX5_need_0 12 rfl rfl)
theorem dX5_need_14 : decode cX5_need 14 = .ok (.invokestatic 54, 3) := dk_184 0 54 (dk_at dksX5_need_0 14 rfl rfl)
theorem dX5_need_17 : decode cX5_need 17 = .ok (.ifCond .ne 6, 3) := dk_154 0 6 (dk_at dksX5_need_0 17 rfl rfl)
theorem dX5_need_20 : decode cX5_need 20 = .ok (.bipush (-2), 2) := dk_16 254 (dk_at dksX5_need_0 20 rfl rfl)
theorem dX5_need_22 : decode cX5_need 22 = .ok (.ireturn, 1) := dk_172 (dk_at dksX5_need_0 22 rfl rfl)
theorem dX5_need_23 : decode cX5_need 23 = .ok (.aload_n 0, 1) := dk_42 (dk_at dksX5_need_0 23 rfl rfl)
theorem dX5_need_24 : decode cX5_need 24 = .ok (.getfield 11, 3) := dk_180 0 11 (dk_at dksX5_need_1 0 rfl rfl)
theorem dX5_need_27 : decode cX5_need 27 = .ok (.aload_n 0, 1) := dk_42 (dk_at dksX5_need_1 3 rfl rfl)
theorem dX5_need_28 : decode cX5_need 28 = .ok (.getfield 15, 3) := dk_180 0 15 (dk_at dksX5_need_1 4 rfl rfl)
theorem dX5_need_31 : decode cX5_need 31 = .ok (.invokestatic 120, 3) := dk_184 0 120 (dk_at dksX5_need_1 7 rfl rfl)
theorem dX5_need_34 : decode cX5_need 34 = .ok (.bipush (-5), 2) := dk_16 251 (dk_at dksX5_need_1 10 rfl rfl)
theorem dX5_need_36 : decode cX5_need 36 = .ok (.istore_n 3, 1) := dk_62 (dk_at dksX5_need_1 12 rfl rfl)
theorem dX5_need_37 : decode cX5_need 37 = .ok (.iconst 1, 1) := dk_4 (dk_at dksX5_need_1 13 rfl rfl)
theorem dX5_need_38 : decode cX5_need 38 = .ok (.istore 4, 2) := dk_54 4 (dk_at dksX5_need_1 14 rfl rfl)
theorem dX5_need_40 : decode cX5_need 40 = .ok (.iload 4, 2) := dk_21 4 (dk_at dksX5_need_1 16 rfl rfl)
theorem dX5_need_42 : decode cX5_need 42 = .ok (.bipush 60, 2) := dk_16 60 (dk_at dksX5_need_1 18 rfl rfl)
theorem dX5_need_44 : decode cX5_need 44 = .ok (.if_icmp .gt 46, 3) := dk_163 0 46 (dk_at dksX5_need_1 20 rfl rfl)
theorem dX5_need_47 : decode cX5_need 47 = .ok (.iload_n 3, 1) := dk_29 (dk_at dksX5_need_1 23 rfl rfl)
theorem dX5_need_48 : decode cX5_need 48 = .ok (.ifCond .ge 42, 3) := dk_156 0 42 (dk_at dksX5_need_2 0 rfl rfl)
theorem dX5_need_51 : decode cX5_need 51 = .ok (.aload_n 0, 1) := dk_42 (dk_at dksX5_need_2 3 rfl rfl)
theorem dX5_need_52 : decode cX5_need 52 = .ok (.iload 4, 2) := dk_21 4 (dk_at dksX5_need_2 4 rfl rfl)
theorem dX5_need_54 : decode cX5_need 54 = .ok (.invokevirtual 93, 3) := dk_182 0 93 (dk_at dksX5_need_2 6 rfl rfl)
theorem dX5_need_57 : decode cX5_need 57 = .ok (.aload_n 0, 1) := dk_42 (dk_at dksX5_need_2 9 rfl rfl)
theorem dX5_need_58 : decode cX5_need 58 = .ok (.iload_n 1, 1) := dk_27 (dk_at dksX5_need_2 10 rfl rfl)
theorem dX5_need_59 : decode cX5_need 59 = .ok (.invokevirtual 148, 3) := dk_182 0 148 (dk_at dksX5_need_2 11 rfl rfl)
theorem dX5_need_62 : decode cX5_need 62 = .ok (.iload_n 2, 1) := dk_28 (dk_at dksX5_need_2 14 rfl rfl)
theorem dX5_need_63 : decode cX5_need 63 = .ok (.if_icmp .lt 8, 3) := dk_161 0 8 (dk_at dksX5_need_2 15 rfl rfl)
theorem dX5_need_66 : decode cX5_need 66 = .ok (.iload 4, 2) := dk_21 4 (dk_at dksX5_need_2 18 rfl rfl)
theorem dX5_need_68 : decode cX5_need 68 = .ok (.goto 4, 3) := dk_167 0 4 (dk_at dksX5_need_2 20 rfl rfl)
theorem dX5_need_71 : decode cX5_need 71 = .ok (.iload_n 3, 1) := dk_29 (dk_at dksX5_need_2 23 rfl rfl)
theorem dX5_need_72 : decode cX5_need 72 = .ok (.istore_n 3, 1) := dk_62 (dk_at dksX5_need_3 0 rfl rfl)
theorem dX5_need_73 : decode cX5_need 73 = .ok (.aload_n 0, 1) := dk_42 (dk_at dksX5_need_3 1 rfl rfl)
theorem dX5_need_74 : decode cX5_need 74 = .ok (.getfield 15, 3) := dk_180 0 15 (dk_at dksX5_need_3 2 rfl rfl)
theorem dX5_need_77 : decode cX5_need 77 = .ok (.aload_n 0, 1) := dk_42 (dk_at dksX5_need_3 5 rfl rfl)
theorem dX5_need_78 : decode cX5_need 78 = .ok (.getfield 11, 3) := dk_180 0 11 (dk_at dksX5_need_3 6 rfl rfl)
theorem dX5_need_81 : decode cX5_need 81 = .ok (.invokestatic 120, 3) := dk_184 0 120 (dk_at dksX5_need_3 9 rfl rfl)
theorem dX5_need_84 : decode cX5_need 84 = .ok (.iinc 4 1, 3) := dk_132 4 1 (dk_at dksX5_need_3 12 rfl rfl)
theorem dX5_need_87 : decode cX5_need 87 = .ok (.goto (-47), 3) := dk_167 255 209 (dk_at dksX5_need_3 15 rfl rfl)
theorem dX5_need_90 : decode cX5_need 90 = .ok (.iload_n 3, 1) := dk_29 (dk_at dksX5_need_3 18 rfl rfl)
theorem dX5_need_91 : decode cX5_need 91 = .ok (.ireturn, 1) := dk_172 (dk_at dksX5_need_3 19 rfl rfl)
abbrev cX5_odds : ByteArray := prog_13_method_42_code
def yX5_odds : MethodName := ⟨RX5, "odds", "(III)J"⟩
def dkwX5_odds_5 : List UInt8 := [17, 12, 128, 46, 4, 96, 29, 184, 0, 154, 173]
abbrev dktX5_odds_5 : List UInt8 := dkwX5_odds_5 ++ []
def dkwX5_odds_4 : List UInt8 := [180, 0, 15, 42, 180, 0, 11, 184, 0, 120, 132, 5, 1, 167, 255, 196, 21, 4, 42, 180, 0, 11]
abbrev dktX5_odds_4 : List UInt8 := dkwX5_odds_4 ++ dktX5_odds_5
def dkwX5_odds_3 : List UInt8 := [182, 0, 86, 21, 4, 42, 27, 182, 0, 148, 28, 161, 0, 7, 4, 167, 0, 4, 3, 96, 54, 4, 42]
abbrev dktX5_odds_3 : List UInt8 := dkwX5_odds_3 ++ dktX5_odds_4
def dkwX5_odds_2 : List UInt8 := [21, 5, 42, 180, 0, 15, 17, 12, 128, 46, 163, 0, 53, 42, 180, 0, 11, 17, 12, 129, 21, 5, 79, 42]
abbrev dktX5_odds_2 : List UInt8 := dkwX5_odds_2 ++ dktX5_odds_3
def dkwX5_odds_1 : List UInt8 := [154, 0, 7, 20, 0, 104, 173, 42, 180, 0, 11, 42, 180, 0, 15, 184, 0, 120, 3, 54, 4, 3, 54, 5]
abbrev dktX5_odds_1 : List UInt8 := dkwX5_odds_1 ++ dktX5_odds_2
def dkwX5_odds_0 : List UInt8 := [42, 27, 182, 0, 145, 153, 0, 22, 28, 3, 16, 20, 184, 0, 54, 153, 0, 12, 29, 3, 4, 184, 0, 54]
abbrev dktX5_odds_0 : List UInt8 := dkwX5_odds_0 ++ dktX5_odds_1
theorem dksX5_odds_0 : cX5_odds.data.toList.drop 0 = dktX5_odds_0 := by decide +kernel
theorem dksX5_odds_1 : cX5_odds.data.toList.drop 24 = dktX5_odds_1 := dk_seg dksX5_odds_0 24 rfl rfl
theorem dksX5_odds_2 : cX5_odds.data.toList.drop 48 = dktX5_odds_2 := dk_seg dksX5_odds_1 24 rfl rfl
theorem dksX5_odds_3 : cX5_odds.data.toList.drop 72 = dktX5_odds_3 := dk_seg dksX5_odds_2 24 rfl rfl
theorem dksX5_odds_4 : cX5_odds.data.toList.drop 95 = dktX5_odds_4 := dk_seg dksX5_odds_3 23 rfl rfl
theorem dksX5_odds_5 : cX5_odds.data.toList.drop 117 = dktX5_odds_5 := dk_seg dksX5_odds_4 22 rfl rfl
theorem dX5_odds_0 : decode cX5_odds 0 = .ok (.aload_n 0, 1) := dk_42 (dk_at dksX5_odds_0 0 rfl rfl)
theorem dX5_odds_1 : decode cX5_odds 1 = .ok (.iload_n 1, 1) := dk_27 (dk_at dksX5_odds_0 1 rfl rfl)
theorem dX5_odds_2 : decode cX5_odds 2 = .ok (.invokevirtual 145, 3) := dk_182 0 145 (dk_at dksX5_odds_0 2 rfl rfl)
theorem dX5_odds_5 : decode cX5_odds 5 = .ok (.ifCond .eq 22, 3) := dk_153 0 22 (dk_at dksX5_odds_0 5 rfl rfl)
theorem dX5_odds_8 : decode cX5_odds 8 = .ok (.iload_n 2, 1) := dk_28 (dk_at dksX5_odds_0 8 rfl rfl)
theorem dX5_odds_9 : decode cX5_odds 9 = .ok (.iconst 0, 1) := dk_3 (dk_at dksX5_odds_0 9 rfl rfl)
theorem dX5_odds_10 : decode cX5_odds 10 = .ok (.bipush 20, 2) := dk_16 20 (dk_at dksX5_odds_0 10 rfl rfl)
theorem dX5_odds_12 : decode cX5_odds 12 = .ok (.invokestatic 54, 3) := dk_184 0 54 (dk_at dksX5_odds_0 12 rfl rfl)
theorem dX5_odds_15 : decode cX5_odds 15 = .ok (.ifCond .eq 12, 3) := dk_153 0 12 (dk_at dksX5_odds_0 15 rfl rfl)
theorem dX5_odds_18 : decode cX5_odds 18 = .ok (.iload_n 3, 1) := dk_29 (dk_at dksX5_odds_0 18 rfl rfl)
theorem dX5_odds_19 : decode cX5_odds 19 = .ok (.iconst 0, 1) := dk_3 (dk_at dksX5_odds_0 19 rfl rfl)
theorem dX5_odds_20 : decode cX5_odds 20 = .ok (.iconst 1, 1) := dk_4 (dk_at dksX5_odds_0 20 rfl rfl)
theorem dX5_odds_21 : decode cX5_odds 21 = .ok (.invokestatic 54, 3) := dk_184 0 54 (dk_at dksX5_odds_0 21 rfl rfl)
theorem dX5_odds_24 : decode cX5_odds 24 = .ok (.ifCond .ne 7, 3) := dk_154 0 7 (dk_at dksX5_odds_1 0 rfl rfl)
theorem dX5_odds_27 : decode cX5_odds 27 = .ok (.ldc2_w 104, 3) := dk_20 0 104 (dk_at dksX5_odds_1 3 rfl rfl)
theorem dX5_odds_30 : decode cX5_odds 30 = .ok (.lreturn, 1) := dk_173 (dk_at dksX5_odds_1 6 rfl rfl)
theorem dX5_odds_31 : decode cX5_odds 31 = .ok (.aload_n 0, 1) := dk_42 (dk_at dksX5_odds_1 7 rfl rfl)
theorem dX5_odds_32 : decode cX5_odds 32 = .ok (.getfield 11, 3) := dk_180 0 11 (dk_at dksX5_odds_1 8 rfl rfl)
theorem dX5_odds_35 : decode cX5_odds 35 = .ok (.aload_n 0, 1) := dk_42 (dk_at dksX5_odds_1 11 rfl rfl)
theorem dX5_odds_36 : decode cX5_odds 36 = .ok (.getfield 15, 3) := dk_180 0 15 (dk_at dksX5_odds_1 12 rfl rfl)
theorem dX5_odds_39 : decode cX5_odds 39 = .ok (.invokestatic 120, 3) := dk_184 0 120 (dk_at dksX5_odds_1 15 rfl rfl)
theorem dX5_odds_42 : decode cX5_odds 42 = .ok (.iconst 0, 1) := dk_3 (dk_at dksX5_odds_1 18 rfl rfl)
theorem dX5_odds_43 : decode cX5_odds 43 = .ok (.istore 4, 2) := dk_54 4 (dk_at dksX5_odds_1 19 rfl rfl)
theorem dX5_odds_45 : decode cX5_odds 45 = .ok (.iconst 0, 1) := dk_3 (dk_at dksX5_odds_1 21 rfl rfl)
theorem dX5_odds_46 : decode cX5_odds 46 = .ok (.istore 5, 2) := dk_54 5 (dk_at dksX5_odds_1 22 rfl rfl)
theorem dX5_odds_48 : decode cX5_odds 48 = .ok (.iload 5, 2) := dk_21 5 (dk_at dksX5_odds_2 0 rfl rfl)
theorem dX5_odds_50 : decode cX5_odds 50 = .ok (.aload_n 0, 1) := dk_42 (dk_at dksX5_odds_2 2 rfl rfl)
theorem dX5_odds_51 : decode cX5_odds 51 = .ok (.getfield 15, 3) := dk_180 0 15 (dk_at dksX5_odds_2 3 rfl rfl)
theorem dX5_odds_54 : decode cX5_odds 54 = .ok (.sipush 3200, 3) := dk_17 12 128 (dk_at dksX5_odds_2 6 rfl rfl)
theorem dX5_odds_57 : decode cX5_odds 57 = .ok (.iaload, 1) := dk_46 (dk_at dksX5_odds_2 9 rfl rfl)
theorem dX5_odds_58 : decode cX5_odds 58 = .ok (.if_icmp .gt 53, 3) := dk_163 0 53 (dk_at dksX5_odds_2 10 rfl rfl)
theorem dX5_odds_61 : decode cX5_odds 61 = .ok (.aload_n 0, 1) := dk_42 (dk_at dksX5_odds_2 13 rfl rfl)
theorem dX5_odds_62 : decode cX5_odds 62 = .ok (.getfield 11, 3) := dk_180 0 11 (dk_at dksX5_odds_2 14 rfl rfl)
theorem dX5_odds_65 : decode cX5_odds 65 = .ok (.sipush 3201, 3) := dk_17 12 129 (dk_at dksX5_odds_2 17 rfl rfl)
theorem dX5_odds_68 : decode cX5_odds 68 = .ok (.iload 5, 2) := dk_21 5 (dk_at dksX5_odds_2 20 rfl rfl)
theorem dX5_odds_70 : decode cX5_odds 70 = .ok (.iastore, 1) := dk_79 (dk_at dksX5_odds_2 22 rfl rfl)
theorem dX5_odds_71 : decode cX5_odds 71 = .ok (.aload_n 0, 1) := dk_42 (dk_at dksX5_odds_2 23 rfl rfl)
theorem dX5_odds_72 : decode cX5_odds 72 = .ok (.invokevirtual 86, 3) := dk_182 0 86 (dk_at dksX5_odds_3 0 rfl rfl)
theorem dX5_odds_75 : decode cX5_odds 75 = .ok (.iload 4, 2) := dk_21 4 (dk_at dksX5_odds_3 3 rfl rfl)
theorem dX5_odds_77 : decode cX5_odds 77 = .ok (.aload_n 0, 1) := dk_42 (dk_at dksX5_odds_3 5 rfl rfl)
theorem dX5_odds_78 : decode cX5_odds 78 = .ok (.iload_n 1, 1) := dk_27 (dk_at dksX5_odds_3 6 rfl rfl)
theorem dX5_odds_79 : decode cX5_odds 79 = .ok (.invokevirtual 148, 3) := dk_182 0 148 (dk_at dksX5_odds_3 7 rfl rfl)
theorem dX5_odds_82 : decode cX5_odds 82 = .ok (.iload_n 2, 1) := dk_28 (dk_at dksX5_odds_3 10 rfl rfl)
theorem dX5_odds_83 : decode cX5_odds 83 = .ok (.if_icmp .lt 7, 3) := dk_161 0 7 (dk_at dksX5_odds_3 11 rfl rfl)
theorem dX5_odds_86 : decode cX5_odds 86 = .ok (.iconst 1, 1) := dk_4 (dk_at dksX5_odds_3 14 rfl rfl)
theorem dX5_odds_87 : decode cX5_odds 87 = .ok (.goto 4, 3) := dk_167 0 4 (dk_at dksX5_odds_3 15 rfl rfl)
theorem dX5_odds_90 : decode cX5_odds 90 = .ok (.iconst 0, 1) := dk_3 (dk_at dksX5_odds_3 18 rfl rfl)
theorem dX5_odds_91 : decode cX5_odds 91 = .ok (.iadd, 1) := dk_96 (dk_at dksX5_odds_3 19 rfl rfl)
theorem dX5_odds_92 : decode cX5_odds 92 = .ok (.istore 4, 2) := dk_54 4 (dk_at dksX5_odds_3 20 rfl rfl)
theorem dX5_odds_94 : decode cX5_odds 94 = .ok (.aload_n 0, 1) := dk_42 (dk_at dksX5_odds_3 22 rfl rfl)
theorem dX5_odds_95 : decode cX5_odds 95 = .ok (.getfield 15, 3) := dk_180 0 15 (dk_at dksX5_odds_4 0 rfl rfl)
theorem dX5_odds_98 : decode cX5_odds 98 = .ok (.aload_n 0, 1) := dk_42 (dk_at dksX5_odds_4 3 rfl rfl)
theorem dX5_odds_99 : decode cX5_odds 99 = .ok (.getfield 11, 3) := dk_180 0 11 (dk_at dksX5_odds_4 4 rfl rfl)
theorem dX5_odds_102 : decode cX5_odds 102 = .ok (.invokestatic 120, 3) := dk_184 0 120 (dk_at dksX5_odds_4 7 rfl rfl)
theorem dX5_odds_105 : decode cX5_odds 105 = .ok (.iinc 5 1, 3) := dk_132 5 1 (dk_at dksX5_odds_4 10 rfl rfl)
theorem dX5_odds_108 : decode cX5_odds 108 = .ok (.goto (-60), 3) := dk_167 255 196 (dk_at dksX5_odds_4 13 rfl rfl)
theorem dX5_odds_111 : decode cX5_odds 111 = .ok (.iload 4, 2) := dk_21 4 (dk_at dksX5_odds_4 16 rfl rfl)
theorem dX5_odds_113 : decode cX5_odds 113 = .ok (.aload_n 0, 1) := dk_42 (dk_at dksX5_odds_4 18 rfl rfl)
theorem dX5_odds_114 : decode cX5_odds 114 = .ok (.getfield 11, 3) := dk_180 0 11 (dk_at dksX5_odds_4 19 rfl rfl)
theorem dX5_odds_117 : decode cX5_odds 117 = .ok (.sipush 3200, 3) := dk_17 12 128 (dk_at dksX5_odds_5 0 rfl rfl)
theorem dX5_odds_120 : decode cX5_odds 120 = .ok (.iaload, 1) := dk_46 (dk_at dksX5_odds_5 3 rfl rfl)
theorem dX5_odds_121 : decode cX5_odds 121 = .ok (.iconst 1, 1) := dk_4 (dk_at dksX5_odds_5 4 rfl rfl)
theorem dX5_odds_122 : decode cX5_odds 122 = .ok (.iadd, 1) := dk_96 (dk_at dksX5_odds_5 5 rfl rfl)
theorem dX5_odds_123 : decode cX5_odds 123 = .ok (.iload_n 3, 1) := dk_29 (dk_at dksX5_odds_5 6 rfl rfl)
theorem dX5_odds_124 : decode cX5_odds 124 = .ok (.invokestatic 154, 3) := dk_184 0 154 (dk_at dksX5_odds_5 7 rfl rfl)
theorem dX5_odds_127 : decode cX5_odds 127 = .ok (.lreturn, 1) := dk_173 (dk_at dksX5_odds_5 10 rfl rfl)
abbrev cX5_part : ByteArray := prog_13_method_41_code
def yX5_part : MethodName := ⟨RX5, "part", "(III)J"⟩
def dkwX5_part_0 : List UInt8 := [26, 27, 184, 0, 151, 62, 28, 154, 0, 10, 26, 29, 108, 133, 167, 0, 7, 27, 29, 108, 133, 173]
abbrev dktX5_part_0 : List UInt8 := dkwX5_part_0 ++ []
theorem dksX5_part_0 : cX5_part.data.toList.drop 0 = dktX5_part_0 := by decide +kernel
theorem dX5_part_0 : decode cX5_part 0 = .ok (.iload_n 0, 1) := dk_26 (dk_at dksX5_part_0 0 rfl rfl)
theorem dX5_part_1 : decode cX5_part 1 = .ok (.iload_n 1, 1) := dk_27 (dk_at dksX5_part_0 1 rfl rfl)
theorem dX5_part_2 : decode cX5_part 2 = .ok (.invokestatic 151, 3) := dk_184 0 151 (dk_at dksX5_part_0 2 rfl rfl)
theorem dX5_part_5 : decode cX5_part 5 = .ok (.istore_n 3, 1) := dk_62 (dk_at dksX5_part_0 5 rfl rfl)
theorem dX5_part_6 : decode cX5_part 6 = .ok (.iload_n 2, 1) := dk_28 (dk_at dksX5_part_0 6 rfl rfl)
theorem dX5_part_7 : decode cX5_part 7 = .ok (.ifCond .ne 10, 3) := dk_154 0 10 (dk_at dksX5_part_0 7 rfl rfl)
theorem dX5_part_10 : decode cX5_part 10 = .ok (.iload_n 0, 1) := dk_26 (dk_at dksX5_part_0 10 rfl rfl)
theorem dX5_part_11 : decode cX5_part 11 = .ok (.iload_n 3, 1) := dk_29 (dk_at dksX5_part_0 11 rfl rfl)
theorem dX5_part_12 : decode cX5_part 12 = .ok (.idiv, 1) := dk_108 (dk_at dksX5_part_0 12 rfl rfl)
theorem dX5_part_13 : decode cX5_part 13 = .ok (.i2l, 1) := dk_133 (dk_at dksX5_part_0 13 rfl rfl)
theorem dX5_part_14 : decode cX5_part 14 = .ok (.goto 7, 3) := dk_167 0 7 (dk_at dksX5_part_0 14 rfl rfl)
theorem dX5_part_17 : decode cX5_part 17 = .ok (.iload_n 1, 1) := dk_27 (dk_at dksX5_part_0 17 rfl rfl)
theorem dX5_part_18 : decode cX5_part 18 = .ok (.iload_n 3, 1) := dk_29 (dk_at dksX5_part_0 18 rfl rfl)
theorem dX5_part_19 : decode cX5_part 19 = .ok (.idiv, 1) := dk_108 (dk_at dksX5_part_0 19 rfl rfl)
theorem dX5_part_20 : decode cX5_part 20 = .ok (.i2l, 1) := dk_133 (dk_at dksX5_part_0 20 rfl rfl)
theorem dX5_part_21 : decode cX5_part 21 = .ok (.lreturn, 1) := dk_173 (dk_at dksX5_part_0 21 rfl rfl)
abbrev cX5_common : ByteArray := prog_13_method_40_code
def yX5_common : MethodName := ⟨RX5, "common", "(II)I"⟩
def dkwX5_common_0 : List UInt8 := [26, 61, 27, 62, 29, 153, 0, 16, 28, 29, 112, 54, 4, 29, 61, 21, 4, 62, 167, 255, 242, 28, 172]
abbrev dktX5_common_0 : List UInt8 := dkwX5_common_0 ++ []
theorem dksX5_common_0 : cX5_common.data.toList.drop 0 = dktX5_common_0 := by decide +kernel
theorem dX5_common_0 : decode cX5_common 0 = .ok (.iload_n 0, 1) := dk_26 (dk_at dksX5_common_0 0 rfl rfl)
theorem dX5_common_1 : decode cX5_common 1 = .ok (.istore_n 2, 1) := dk_61 (dk_at dksX5_common_0 1 rfl rfl)
theorem dX5_common_2 : decode cX5_common 2 = .ok (.iload_n 1, 1) := dk_27 (dk_at dksX5_common_0 2 rfl rfl)
theorem dX5_common_3 : decode cX5_common 3 = .ok (.istore_n 3, 1) := dk_62 (dk_at dksX5_common_0 3 rfl rfl)
theorem dX5_common_4 : decode cX5_common 4 = .ok (.iload_n 3, 1) := dk_29 (dk_at dksX5_common_0 4 rfl rfl)
theorem dX5_common_5 : decode cX5_common 5 = .ok (.ifCond .eq 16, 3) := dk_153 0 16 (dk_at dksX5_common_0 5 rfl rfl)
theorem dX5_common_8 : decode cX5_common 8 = .ok (.iload_n 2, 1) := dk_28 (dk_at dksX5_common_0 8 rfl rfl)
theorem dX5_common_9 : decode cX5_common 9 = .ok (.iload_n 3, 1) := dk_29 (dk_at dksX5_common_0 9 rfl rfl)
theorem dX5_common_10 : decode cX5_common 10 = .ok (.irem, 1) := dk_112 (dk_at dksX5_common_0 10 rfl rfl)
theorem dX5_common_11 : decode cX5_common 11 = .ok (.istore 4, 2) := dk_54 4 (dk_at dksX5_common_0 11 rfl rfl)
theorem dX5_common_13 : decode cX5_common 13 = .ok (.iload_n 3, 1) := dk_29 (dk_at dksX5_common_0 13 rfl rfl)
theorem dX5_common_14 : decode cX5_common 14 = .ok (.istore_n 2, 1) := dk_61 (dk_at dksX5_common_0 14 rfl rfl)
theorem dX5_common_15 : decode cX5_common 15 = .ok (.iload 4, 2) := dk_21 4 (dk_at dksX5_common_0 15 rfl rfl)
theorem dX5_common_17 : decode cX5_common 17 = .ok (.istore_n 3, 1) := dk_62 (dk_at dksX5_common_0 17 rfl rfl)
theorem dX5_common_18 : decode cX5_common 18 = .ok (.goto (-14), 3) := dk_167 255 242 (dk_at dksX5_common_0 18 rfl rfl)
theorem dX5_common_21 : decode cX5_common 21 = .ok (.iload_n 2, 1) := dk_28 (dk_at dksX5_common_0 21 rfl rfl)
theorem dX5_common_22 : decode cX5_common 22 = .ok (.ireturn, 1) := dk_172 (dk_at dksX5_common_0 22 rfl rfl)
abbrev cX5_mean : ByteArray := prog_13_method_44_code
def yX5_mean : MethodName := ⟨RX5, "mean", "(II)J"⟩
def dkwX5_mean_3 : List UInt8 := [167, 0, 4, 3, 96, 62, 132, 4, 1, 167, 255, 214, 29, 42, 27, 182, 0, 158, 28, 184, 0, 154, 173]
abbrev dktX5_mean_3 : List UInt8 := dkwX5_mean_3 ++ []
def dkwX5_mean_2 : List UInt8 := [180, 0, 11, 3, 21, 4, 96, 46, 27, 160, 0, 17, 42, 180, 0, 11, 17, 4, 176, 21, 4, 96, 46]
abbrev dktX5_mean_2 : List UInt8 := dkwX5_mean_2 ++ dktX5_mean_3
def dkwX5_mean_1 : List UInt8 := [154, 0, 7, 20, 0, 104, 173, 3, 62, 3, 54, 4, 21, 4, 17, 1, 144, 162, 0, 40, 29, 42]
abbrev dktX5_mean_1 : List UInt8 := dkwX5_mean_1 ++ dktX5_mean_2
def dkwX5_mean_0 : List UInt8 := [27, 4, 5, 184, 0, 54, 153, 0, 20, 28, 3, 4, 184, 0, 54, 153, 0, 11, 42, 27, 182, 0, 158]
abbrev dktX5_mean_0 : List UInt8 := dkwX5_mean_0 ++ dktX5_mean_1
theorem dksX5_mean_0 : cX5_mean.data.toList.drop 0 = dktX5_mean_0 := by decide +kernel
theorem dksX5_mean_1 : cX5_mean.data.toList.drop 23 = dktX5_mean_1 := dk_seg dksX5_mean_0 23 rfl rfl
theorem dksX5_mean_2 : cX5_mean.data.toList.drop 45 = dktX5_mean_2 := dk_seg dksX5_mean_1 22 rfl rfl
theorem dksX5_mean_3 : cX5_mean.data.toList.drop 68 = dktX5_mean_3 := dk_seg dksX5_mean_2 23 rfl rfl
theorem dX5_mean_0 : decode cX5_mean 0 = .ok (.iload_n 1, 1) := dk_27 (dk_at dksX5_mean_0 0 rfl rfl)
theorem dX5_mean_1 : decode cX5_mean 1 = .ok (.iconst 1, 1) := dk_4 (dk_at dksX5_mean_0 1 rfl rfl)
theorem dX5_mean_2 : decode cX5_mean 2 = .ok (.iconst 2, 1) := dk_5 (dk_at dksX5_mean_0 2 rfl rfl)
theorem dX5_mean_3 : decode cX5_mean 3 = .ok (.invokestatic 54, 3) := dk_184 0 54 (dk_at dksX5_mean_0 3 rfl rfl)
theorem dX5_mean_6 : decode cX5_mean 6 = .ok (.ifCond .eq 20, 3) := dk_153 0 20 (dk_at dksX5_mean_0 6 rfl rfl)
theorem dX5_mean_9 : decode cX5_mean 9 = .ok (.iload_n 2, 1) := dk_28 (dk_at dksX5_mean_0 9 rfl rfl)
theorem dX5_mean_10 : decode cX5_mean 10 = .ok (.iconst 0, 1) := dk_3 (dk_at dksX5_mean_0 10 rfl rfl)
theorem dX5_mean_11 : decode cX5_mean 11 = .ok (.iconst 1, 1) := dk_4 (dk_at dksX5_mean_0 11 rfl rfl)
theorem dX5_mean_12 : decode cX5_mean 12 = .ok (.invokestatic 54, 3) := dk_184 0 54 (dk_at dksX5_mean_0 12 rfl rfl)
theorem dX5_mean_15 : decode cX5_mean 15 = .ok (.ifCond .eq 11, 3) := dk_153 0 11 (dk_at dksX5_mean_0 15 rfl rfl)
theorem dX5_mean_18 : decode cX5_mean 18 = .ok (.aload_n 0, 1) := dk_42 (dk_at dksX5_mean_0 18 rfl rfl)
theorem dX5_mean_19 : decode cX5_mean 19 = .ok (.iload_n 1, 1) := dk_27 (dk_at dksX5_mean_0 19 rfl rfl)
theorem dX5_mean_20 : decode cX5_mean 20 = .ok (.invokevirtual 158, 3) := dk_182 0 158 (dk_at dksX5_mean_0 20 rfl rfl)
theorem dX5_mean_23 : decode cX5_mean 23 = .ok (.ifCond .ne 7, 3) := dk_154 0 7 (dk_at dksX5_mean_1 0 rfl rfl)
theorem dX5_mean_26 : decode cX5_mean 26 = .ok (.ldc2_w 104, 3) := dk_20 0 104 (dk_at dksX5_mean_1 3 rfl rfl)
theorem dX5_mean_29 : decode cX5_mean 29 = .ok (.lreturn, 1) := dk_173 (dk_at dksX5_mean_1 6 rfl rfl)
theorem dX5_mean_30 : decode cX5_mean 30 = .ok (.iconst 0, 1) := dk_3 (dk_at dksX5_mean_1 7 rfl rfl)
theorem dX5_mean_31 : decode cX5_mean 31 = .ok (.istore_n 3, 1) := dk_62 (dk_at dksX5_mean_1 8 rfl rfl)
theorem dX5_mean_32 : decode cX5_mean 32 = .ok (.iconst 0, 1) := dk_3 (dk_at dksX5_mean_1 9 rfl rfl)
theorem dX5_mean_33 : decode cX5_mean 33 = .ok (.istore 4, 2) := dk_54 4 (dk_at dksX5_mean_1 10 rfl rfl)
theorem dX5_mean_35 : decode cX5_mean 35 = .ok (.iload 4, 2) := dk_21 4 (dk_at dksX5_mean_1 12 rfl rfl)
theorem dX5_mean_37 : decode cX5_mean 37 = .ok (.sipush 400, 3) := dk_17 1 144 (dk_at dksX5_mean_1 14 rfl rfl)
theorem dX5_mean_40 : decode cX5_mean 40 = .ok (.if_icmp .ge 40, 3) := dk_162 0 40 (dk_at dksX5_mean_1 17 rfl rfl)
theorem dX5_mean_43 : decode cX5_mean 43 = .ok (.iload_n 3, 1) := dk_29 (dk_at dksX5_mean_1 20 rfl rfl)
theorem dX5_mean_44 : decode cX5_mean 44 = .ok (.aload_n 0, 1) := dk_42 (dk_at dksX5_mean_1 21 rfl rfl)
theorem dX5_mean_45 : decode cX5_mean 45 = .ok (.getfield 11, 3) := dk_180 0 11 (dk_at dksX5_mean_2 0 rfl rfl)
theorem dX5_mean_48 : decode cX5_mean 48 = .ok (.iconst 0, 1) := dk_3 (dk_at dksX5_mean_2 3 rfl rfl)
theorem dX5_mean_49 : decode cX5_mean 49 = .ok (.iload 4, 2) := dk_21 4 (dk_at dksX5_mean_2 4 rfl rfl)
theorem dX5_mean_51 : decode cX5_mean 51 = .ok (.iadd, 1) := dk_96 (dk_at dksX5_mean_2 6 rfl rfl)
theorem dX5_mean_52 : decode cX5_mean 52 = .ok (.iaload, 1) := dk_46 (dk_at dksX5_mean_2 7 rfl rfl)
theorem dX5_mean_53 : decode cX5_mean 53 = .ok (.iload_n 1, 1) := dk_27 (dk_at dksX5_mean_2 8 rfl rfl)
theorem dX5_mean_54 : decode cX5_mean 54 = .ok (.if_icmp .ne 17, 3) := dk_160 0 17 (dk_at dksX5_mean_2 9 rfl rfl)
theorem dX5_mean_57 : decode cX5_mean 57 = .ok (.aload_n 0, 1) := dk_42 (dk_at dksX5_mean_2 12 rfl rfl)
theorem dX5_mean_58 : decode cX5_mean 58 = .ok (.getfield 11, 3) := dk_180 0 11 (dk_at dksX5_mean_2 13 rfl rfl)
theorem dX5_mean_61 : decode cX5_mean 61 = .ok (.sipush 1200, 3) := dk_17 4 176 (dk_at dksX5_mean_2 16 rfl rfl)
theorem dX5_mean_64 : decode cX5_mean 64 = .ok (.iload 4, 2) := dk_21 4 (dk_at dksX5_mean_2 19 rfl rfl)
theorem dX5_mean_66 : decode cX5_mean 66 = .ok (.iadd, 1) := dk_96 (dk_at dksX5_mean_2 21 rfl rfl)
theorem dX5_mean_67 : decode cX5_mean 67 = .ok (.iaload, 1) := dk_46 (dk_at dksX5_mean_2 22 rfl rfl)
theorem dX5_mean_68 : decode cX5_mean 68 = .ok (.goto 4, 3) := dk_167 0 4 (dk_at dksX5_mean_3 0 rfl rfl)
theorem dX5_mean_71 : decode cX5_mean 71 = .ok (.iconst 0, 1) := dk_3 (dk_at dksX5_mean_3 3 rfl rfl)
theorem dX5_mean_72 : decode cX5_mean 72 = .ok (.iadd, 1) := dk_96 (dk_at dksX5_mean_3 4 rfl rfl)
theorem dX5_mean_73 : decode cX5_mean 73 = .ok (.istore_n 3, 1) := dk_62 (dk_at dksX5_mean_3 5 rfl rfl)
theorem dX5_mean_74 : decode cX5_mean 74 = .ok (.iinc 4 1, 3) := dk_132 4 1 (dk_at dksX5_mean_3 6 rfl rfl)
theorem dX5_mean_77 : decode cX5_mean 77 = .ok (.goto (-42), 3) := dk_167 255 214 (dk_at dksX5_mean_3 9 rfl rfl)
theorem dX5_mean_80 : decode cX5_mean 80 = .ok (.iload_n 3, 1) := dk_29 (dk_at dksX5_mean_3 12 rfl rfl)
theorem dX5_mean_81 : decode cX5_mean 81 = .ok (.aload_n 0, 1) := dk_42 (dk_at dksX5_mean_3 13 rfl rfl)
theorem dX5_mean_82 : decode cX5_mean 82 = .ok (.iload_n 1, 1) := dk_27 (dk_at dksX5_mean_3 14 rfl rfl)
theorem dX5_mean_83 : decode cX5_mean 83 = .ok (.invokevirtual 158, 3) := dk_182 0 158 (dk_at dksX5_mean_3 15 rfl rfl)
theorem dX5_mean_86 : decode cX5_mean 86 = .ok (.iload_n 2, 1) := dk_28 (dk_at dksX5_mean_3 18 rfl rfl)
theorem dX5_mean_87 : decode cX5_mean 87 = .ok (.invokestatic 154, 3) := dk_184 0 154 (dk_at dksX5_mean_3 19 rfl rfl)
theorem dX5_mean_90 : decode cX5_mean 90 = .ok (.lreturn, 1) := dk_173 (dk_at dksX5_mean_3 22 rfl rfl)
abbrev cX5_manyAt : ByteArray := prog_13_method_43_code
def yX5_manyAt : MethodName := ⟨RX5, "manyAt", "(I)I"⟩
def dkwX5_manyAt_1 : List UInt8 := [4, 167, 0, 4, 3, 96, 61, 132, 3, 1, 167, 255, 226, 28, 172]
abbrev dktX5_manyAt_1 : List UInt8 := dkwX5_manyAt_1 ++ []
def dkwX5_manyAt_0 : List UInt8 := [3, 61, 3, 62, 29, 17, 1, 144, 162, 0, 29, 28, 42, 180, 0, 11, 3, 29, 96, 46, 27, 160, 0, 7]
abbrev dktX5_manyAt_0 : List UInt8 := dkwX5_manyAt_0 ++ dktX5_manyAt_1
theorem dksX5_manyAt_0 : cX5_manyAt.data.toList.drop 0 = dktX5_manyAt_0 := by decide +kernel
theorem dksX5_manyAt_1 : cX5_manyAt.data.toList.drop 24 = dktX5_manyAt_1 := dk_seg dksX5_manyAt_0 24 rfl rfl
theorem dX5_manyAt_0 : decode cX5_manyAt 0 = .ok (.iconst 0, 1) := dk_3 (dk_at dksX5_manyAt_0 0 rfl rfl)
theorem dX5_manyAt_1 : decode cX5_manyAt 1 = .ok (.istore_n 2, 1) := dk_61 (dk_at dksX5_manyAt_0 1 rfl rfl)
theorem dX5_manyAt_2 : decode cX5_manyAt 2 = .ok (.iconst 0, 1) := dk_3 (dk_at dksX5_manyAt_0 2 rfl rfl)
theorem dX5_manyAt_3 : decode cX5_manyAt 3 = .ok (.istore_n 3, 1) := dk_62 (dk_at dksX5_manyAt_0 3 rfl rfl)
theorem dX5_manyAt_4 : decode cX5_manyAt 4 = .ok (.iload_n 3, 1) := dk_29 (dk_at dksX5_manyAt_0 4 rfl rfl)
theorem dX5_manyAt_5 : decode cX5_manyAt 5 = .ok (.sipush 400, 3) := dk_17 1 144 (dk_at dksX5_manyAt_0 5 rfl rfl)
theorem dX5_manyAt_8 : decode cX5_manyAt 8 = .ok (.if_icmp .ge 29, 3) := dk_162 0 29 (dk_at dksX5_manyAt_0 8 rfl rfl)
theorem dX5_manyAt_11 : decode cX5_manyAt 11 = .ok (.iload_n 2, 1) := dk_28 (dk_at dksX5_manyAt_0 11 rfl rfl)
theorem dX5_manyAt_12 : decode cX5_manyAt 12 = .ok (.aload_n 0, 1) := dk_42 (dk_at dksX5_manyAt_0 12 rfl rfl)
theorem dX5_manyAt_13 : decode cX5_manyAt 13 = .ok (.getfield 11, 3) := dk_180 0 11 (dk_at dksX5_manyAt_0 13 rfl rfl)
theorem dX5_manyAt_16 : decode cX5_manyAt 16 = .ok (.iconst 0, 1) := dk_3 (dk_at dksX5_manyAt_0 16 rfl rfl)
theorem dX5_manyAt_17 : decode cX5_manyAt 17 = .ok (.iload_n 3, 1) := dk_29 (dk_at dksX5_manyAt_0 17 rfl rfl)
theorem dX5_manyAt_18 : decode cX5_manyAt 18 = .ok (.iadd, 1) := dk_96 (dk_at dksX5_manyAt_0 18 rfl rfl)
theorem dX5_manyAt_19 : decode cX5_manyAt 19 = .ok (.iaload, 1) := dk_46 (dk_at dksX5_manyAt_0 19 rfl rfl)
theorem dX5_manyAt_20 : decode cX5_manyAt 20 = .ok (.iload_n 1, 1) := dk_27 (dk_at dksX5_manyAt_0 20 rfl rfl)
theorem dX5_manyAt_21 : decode cX5_manyAt 21 = .ok (.if_icmp .ne 7, 3) := dk_160 0 7 (dk_at dksX5_manyAt_0 21 rfl rfl)
theorem dX5_manyAt_24 : decode cX5_manyAt 24 = .ok (.iconst 1, 1) := dk_4 (dk_at dksX5_manyAt_1 0 rfl rfl)
theorem dX5_manyAt_25 : decode cX5_manyAt 25 = .ok (.goto 4, 3) := dk_167 0 4 (dk_at dksX5_manyAt_1 1 rfl rfl)
theorem dX5_manyAt_28 : decode cX5_manyAt 28 = .ok (.iconst 0, 1) := dk_3 (dk_at dksX5_manyAt_1 4 rfl rfl)
theorem dX5_manyAt_29 : decode cX5_manyAt 29 = .ok (.iadd, 1) := dk_96 (dk_at dksX5_manyAt_1 5 rfl rfl)
theorem dX5_manyAt_30 : decode cX5_manyAt 30 = .ok (.istore_n 2, 1) := dk_61 (dk_at dksX5_manyAt_1 6 rfl rfl)
theorem dX5_manyAt_31 : decode cX5_manyAt 31 = .ok (.iinc 3 1, 3) := dk_132 3 1 (dk_at dksX5_manyAt_1 7 rfl rfl)
theorem dX5_manyAt_34 : decode cX5_manyAt 34 = .ok (.goto (-30), 3) := dk_167 255 226 (dk_at dksX5_manyAt_1 10 rfl rfl)
theorem dX5_manyAt_37 : decode cX5_manyAt 37 = .ok (.iload_n 2, 1) := dk_28 (dk_at dksX5_manyAt_1 13 rfl rfl)
theorem dX5_manyAt_38 : decode cX5_manyAt 38 = .ok (.ireturn, 1) := dk_172 (dk_at dksX5_manyAt_1 14 rfl rfl)
abbrev cX5_book : ByteArray := prog_13_method_45_code
def yX5_book : MethodName := ⟨RX5, "book", "(III)I"⟩
def dkwX5_book_5 : List UInt8 := [46, 172]
abbrev dktX5_book_5 : List UInt8 := dkwX5_book_5 ++ []
def dkwX5_book_4 : List UInt8 := [96, 4, 96, 29, 79, 42, 180, 0, 11, 17, 12, 164, 92, 46, 4, 96, 79, 42, 180, 0, 11, 17, 12, 164]
abbrev dktX5_book_4 : List UInt8 := dkwX5_book_4 ++ dktX5_book_5
def dkwX5_book_3 : List UInt8 := [16, 100, 27, 104, 28, 96, 79, 42, 180, 0, 11, 17, 12, 165, 5, 42, 180, 0, 11, 17, 12, 164, 46, 104]
abbrev dktX5_book_3 : List UInt8 := dkwX5_book_3 ++ dktX5_book_4
def dkwX5_book_2 : List UInt8 := [160, 0, 6, 16, 252, 172, 42, 180, 0, 11, 17, 12, 165, 5, 42, 180, 0, 11, 17, 12, 164, 46, 104, 96]
abbrev dktX5_book_2 : List UInt8 := dkwX5_book_2 ++ dktX5_book_3
def dkwX5_book_1 : List UInt8 := [2, 172, 29, 3, 7, 184, 0, 54, 154, 0, 6, 16, 254, 172, 42, 180, 0, 11, 17, 12, 164, 46, 16, 8]
abbrev dktX5_book_1 : List UInt8 := dkwX5_book_1 ++ dktX5_book_2
def dkwX5_book_0 : List UInt8 := [27, 2, 160, 0, 14, 42, 180, 0, 11, 17, 12, 164, 3, 79, 3, 172, 27, 28, 184, 0, 96, 154, 0, 5]
abbrev dktX5_book_0 : List UInt8 := dkwX5_book_0 ++ dktX5_book_1
theorem dksX5_book_0 : cX5_book.data.toList.drop 0 = dktX5_book_0 := by decide +kernel
theorem dksX5_book_1 : cX5_book.data.toList.drop 24 = dktX5_book_1 := dk_seg dksX5_book_0 24 rfl rfl
theorem dksX5_book_2 : cX5_book.data.toList.drop 48 = dktX5_book_2 := dk_seg dksX5_book_1 24 rfl rfl
theorem dksX5_book_3 : cX5_book.data.toList.drop 72 = dktX5_book_3 := dk_seg dksX5_book_2 24 rfl rfl
theorem dksX5_book_4 : cX5_book.data.toList.drop 96 = dktX5_book_4 := dk_seg dksX5_book_3 24 rfl rfl
theorem dksX5_book_5 : cX5_book.data.toList.drop 120 = dktX5_book_5 := dk_seg dksX5_book_4 24 rfl rfl
theorem dX5_book_0 : decode cX5_book 0 = .ok (.iload_n 1, 1) := dk_27 (dk_at dksX5_book_0 0 rfl rfl)
theorem dX5_book_1 : decode cX5_book 1 = .ok (.iconst (-1), 1) := dk_2 (dk_at dksX5_book_0 1 rfl rfl)
theorem dX5_book_2 : decode cX5_book 2 = .ok (.if_icmp .ne 14, 3) := dk_160 0 14 (dk_at dksX5_book_0 2 rfl rfl)
theorem dX5_book_5 : decode cX5_book 5 = .ok (.aload_n 0, 1) := dk_42 (dk_at dksX5_book_0 5 rfl rfl)
theorem dX5_book_6 : decode cX5_book 6 = .ok (.getfield 11, 3) := dk_180 0 11 (dk_at dksX5_book_0 6 rfl rfl)
theorem dX5_book_9 : decode cX5_book 9 = .ok (.sipush 3236, 3) := dk_17 12 164 (dk_at dksX5_book_0 9 rfl rfl)
theorem dX5_book_12 : decode cX5_book 12 = .ok (.iconst 0, 1) := dk_3 (dk_at dksX5_book_0 12 rfl rfl)
theorem dX5_book_13 : decode cX5_book 13 = .ok (.iastore, 1) := dk_79 (dk_at dksX5_book_0 13 rfl rfl)
theorem dX5_book_14 : decode cX5_book 14 = .ok (.iconst 0, 1) := dk_3 (dk_at dksX5_book_0 14 rfl rfl)
theorem dX5_book_15 : decode cX5_book 15 = .ok (.ireturn, 1) := dk_172 (dk_at dksX5_book_0 15 rfl rfl)
theorem dX5_book_16 : decode cX5_book 16 = .ok (.iload_n 1, 1) := dk_27 (dk_at dksX5_book_0 16 rfl rfl)
theorem dX5_book_17 : decode cX5_book 17 = .ok (.iload_n 2, 1) := dk_28 (dk_at dksX5_book_0 17 rfl rfl)
theorem dX5_book_18 : decode cX5_book 18 = .ok (.invokestatic 96, 3) := dk_184 0 96 (dk_at dksX5_book_0 18 rfl rfl)
theorem dX5_book_21 : decode cX5_book 21 = .ok (.ifCond .ne 5, 3) := dk_154 0 5 (dk_at dksX5_book_0 21 rfl rfl)
theorem dX5_book_24 : decode cX5_book 24 = .ok (.iconst (-1), 1) := dk_2 (dk_at dksX5_book_1 0 rfl rfl)
theorem dX5_book_25 : decode cX5_book 25 = .ok (.ireturn, 1) := dk_172 (dk_at dksX5_book_1 1 rfl rfl)
theorem dX5_book_26 : decode cX5_book 26 = .ok (.iload_n 3, 1) := dk_29 (dk_at dksX5_book_1 2 rfl rfl)
theorem dX5_book_27 : decode cX5_book 27 = .ok (.iconst 0, 1) := dk_3 (dk_at dksX5_book_1 3 rfl rfl)
theorem dX5_book_28 : decode cX5_book 28 = .ok (.iconst 4, 1) := dk_7 (dk_at dksX5_book_1 4 rfl rfl)
theorem dX5_book_29 : decode cX5_book 29 = .ok (.invokestatic 54, 3) := dk_184 0 54 (dk_at dksX5_book_1 5 rfl rfl)
theorem dX5_book_32 : decode cX5_book 32 = .ok (.ifCond .ne 6, 3) := dk_154 0 6 (dk_at dksX5_book_1 8 rfl rfl)
theorem dX5_book_35 : decode cX5_book 35 = .ok (.bipush (-2), 2) := dk_16 254 (dk_at dksX5_book_1 11 rfl rfl)
theorem dX5_book_37 : decode cX5_book 37 = .ok (.ireturn, 1) := dk_172 (dk_at dksX5_book_1 13 rfl rfl)
theorem dX5_book_38 : decode cX5_book 38 = .ok (.aload_n 0, 1) := dk_42 (dk_at dksX5_book_1 14 rfl rfl)
theorem dX5_book_39 : decode cX5_book 39 = .ok (.getfield 11, 3) := dk_180 0 11 (dk_at dksX5_book_1 15 rfl rfl)
theorem dX5_book_42 : decode cX5_book 42 = .ok (.sipush 3236, 3) := dk_17 12 164 (dk_at dksX5_book_1 18 rfl rfl)
theorem dX5_book_45 : decode cX5_book 45 = .ok (.iaload, 1) := dk_46 (dk_at dksX5_book_1 21 rfl rfl)
theorem dX5_book_46 : decode cX5_book 46 = .ok (.bipush 8, 2) := dk_16 8 (dk_at dksX5_book_1 22 rfl rfl)
theorem dX5_book_48 : decode cX5_book 48 = .ok (.if_icmp .ne 6, 3) := dk_160 0 6 (dk_at dksX5_book_2 0 rfl rfl)
theorem dX5_book_51 : decode cX5_book 51 = .ok (.bipush (-4), 2) := dk_16 252 (dk_at dksX5_book_2 3 rfl rfl)
theorem dX5_book_53 : decode cX5_book 53 = .ok (.ireturn, 1) := dk_172 (dk_at dksX5_book_2 5 rfl rfl)
theorem dX5_book_54 : decode cX5_book 54 = .ok (.aload_n 0, 1) := dk_42 (dk_at dksX5_book_2 6 rfl rfl)
theorem dX5_book_55 : decode cX5_book 55 = .ok (.getfield 11, 3) := dk_180 0 11 (dk_at dksX5_book_2 7 rfl rfl)
theorem dX5_book_58 : decode cX5_book 58 = .ok (.sipush 3237, 3) := dk_17 12 165 (dk_at dksX5_book_2 10 rfl rfl)
theorem dX5_book_61 : decode cX5_book 61 = .ok (.iconst 2, 1) := dk_5 (dk_at dksX5_book_2 13 rfl rfl)
theorem dX5_book_62 : decode cX5_book 62 = .ok (.aload_n 0, 1) := dk_42 (dk_at dksX5_book_2 14 rfl rfl)
theorem dX5_book_63 : decode cX5_book 63 = .ok (.getfield 11, 3) := dk_180 0 11 (dk_at dksX5_book_2 15 rfl rfl)
theorem dX5_book_66 : decode cX5_book 66 = .ok (.sipush 3236, 3) := dk_17 12 164 (dk_at dksX5_book_2 18 rfl rfl)
theorem dX5_book_69 : decode cX5_book 69 = .ok (.iaload, 1) := dk_46 (dk_at dksX5_book_2 21 rfl rfl)
theorem dX5_book_70 : decode cX5_book 70 = .ok (.imul, 1) := dk_104 (dk_at dksX5_book_2 22 rfl rfl)
theorem dX5_book_71 : decode cX5_book 71 = .ok (.iadd, 1) := dk_96 (dk_at dksX5_book_2 23 rfl rfl)
theorem dX5_book_72 : decode cX5_book 72 = .ok (.bipush 100, 2) := dk_16 100 (dk_at dksX5_book_3 0 rfl rfl)
theorem dX5_book_74 : decode cX5_book 74 = .ok (.iload_n 1, 1) := dk_27 (dk_at dksX5_book_3 2 rfl rfl)
theorem dX5_book_75 : decode cX5_book 75 = .ok (.imul, 1) := dk_104 (dk_at dksX5_book_3 3 rfl rfl)
theorem dX5_book_76 : decode cX5_book 76 = .ok (.iload_n 2, 1) := dk_28 (dk_at dksX5_book_3 4 rfl rfl)
theorem dX5_book_77 : decode cX5_book 77 = .ok (.iadd, 1) := dk_96 (dk_at dksX5_book_3 5 rfl rfl)
theorem dX5_book_78 : decode cX5_book 78 = .ok (.iastore, 1) := dk_79 (dk_at dksX5_book_3 6 rfl rfl)
theorem dX5_book_79 : decode cX5_book 79 = .ok (.aload_n 0, 1) := dk_42 (dk_at dksX5_book_3 7 rfl rfl)
theorem dX5_book_80 : decode cX5_book 80 = .ok (.getfield 11, 3) := dk_180 0 11 (dk_at dksX5_book_3 8 rfl rfl)
theorem dX5_book_83 : decode cX5_book 83 = .ok (.sipush 3237, 3) := dk_17 12 165 (dk_at dksX5_book_3 11 rfl rfl)
theorem dX5_book_86 : decode cX5_book 86 = .ok (.iconst 2, 1) := dk_5 (dk_at dksX5_book_3 14 rfl rfl)
theorem dX5_book_87 : decode cX5_book 87 = .ok (.aload_n 0, 1) := dk_42 (dk_at dksX5_book_3 15 rfl rfl)
theorem dX5_book_88 : decode cX5_book 88 = .ok (.getfield 11, 3) := dk_180 0 11 (dk_at dksX5_book_3 16 rfl rfl)
theorem dX5_book_91 : decode cX5_book 91 = .ok (.sipush 3236, 3) := dk_17 12 164 (dk_at dksX5_book_3 19 rfl rfl)
theorem dX5_book_94 : decode cX5_book 94 = .ok (.iaload, 1) := dk_46 (dk_at dksX5_book_3 22 rfl rfl)
theorem dX5_book_95 : decode cX5_book 95 = .ok (.imul, 1) := dk_104 (dk_at dksX5_book_3 23 rfl rfl)
theorem dX5_book_96 : decode cX5_book 96 = .ok (.iadd, 1) := dk_96 (dk_at dksX5_book_4 0 rfl rfl)
theorem dX5_book_97 : decode cX5_book 97 = .ok (.iconst 1, 1) := dk_4 (dk_at dksX5_book_4 1 rfl rfl)
theorem dX5_book_98 : decode cX5_book 98 = .ok (.iadd, 1) := dk_96 (dk_at dksX5_book_4 2 rfl rfl)
theorem dX5_book_99 : decode cX5_book 99 = .ok (.iload_n 3, 1) := dk_29 (dk_at dksX5_book_4 3 rfl rfl)
theorem dX5_book_100 : decode cX5_book 100 = .ok (.iastore, 1) := dk_79 (dk_at dksX5_book_4 4 rfl rfl)
theorem dX5_book_101 : decode cX5_book 101 = .ok (.aload_n 0, 1) := dk_42 (dk_at dksX5_book_4 5 rfl rfl)
theorem dX5_book_102 : decode cX5_book 102 = .ok (.getfield 11, 3) := dk_180 0 11 (dk_at dksX5_book_4 6 rfl rfl)
theorem dX5_book_105 : decode cX5_book 105 = .ok (.sipush 3236, 3) := dk_17 12 164 (dk_at dksX5_book_4 9 rfl rfl)
theorem dX5_book_108 : decode cX5_book 108 = .ok (.dup2, 1) := dk_92 (dk_at dksX5_book_4 12 rfl rfl)
theorem dX5_book_109 : decode cX5_book 109 = .ok (.iaload, 1) := dk_46 (dk_at dksX5_book_4 13 rfl rfl)
theorem dX5_book_110 : decode cX5_book 110 = .ok (.iconst 1, 1) := dk_4 (dk_at dksX5_book_4 14 rfl rfl)
theorem dX5_book_111 : decode cX5_book 111 = .ok (.iadd, 1) := dk_96 (dk_at dksX5_book_4 15 rfl rfl)
theorem dX5_book_112 : decode cX5_book 112 = .ok (.iastore, 1) := dk_79 (dk_at dksX5_book_4 16 rfl rfl)
theorem dX5_book_113 : decode cX5_book 113 = .ok (.aload_n 0, 1) := dk_42 (dk_at dksX5_book_4 17 rfl rfl)
theorem dX5_book_114 : decode cX5_book 114 = .ok (.getfield 11, 3) := dk_180 0 11 (dk_at dksX5_book_4 18 rfl rfl)
theorem dX5_book_117 : decode cX5_book 117 = .ok (.sipush 3236, 3) := dk_17 12 164 (dk_at dksX5_book_4 21 rfl rfl)
theorem dX5_book_120 : decode cX5_book 120 = .ok (.iaload, 1) := dk_46 (dk_at dksX5_book_5 0 rfl rfl)
theorem dX5_book_121 : decode cX5_book 121 = .ok (.ireturn, 1) := dk_172 (dk_at dksX5_book_5 1 rfl rfl)
abbrev cX5_looked : ByteArray := prog_13_method_46_code
def yX5_looked : MethodName := ⟨RX5, "looked", "()I"⟩
def dkwX5_looked_2 : List UInt8 := [159, 0, 5, 27, 172, 132, 1, 1, 167, 255, 203, 16, 251, 172]
abbrev dktX5_looked_2 : List UInt8 := dkwX5_looked_2 ++ []
def dkwX5_looked_1 : List UInt8 := [17, 12, 165, 5, 27, 104, 96, 46, 96, 46, 42, 180, 0, 11, 17, 12, 165, 5, 27, 104, 96, 4, 96, 46]
abbrev dktX5_looked_1 : List UInt8 := dkwX5_looked_1 ++ dktX5_looked_2
def dkwX5_looked_0 : List UInt8 := [3, 60, 27, 42, 180, 0, 11, 17, 12, 164, 46, 162, 0, 47, 42, 180, 0, 11, 3, 42, 180, 0, 11]
abbrev dktX5_looked_0 : List UInt8 := dkwX5_looked_0 ++ dktX5_looked_1
theorem dksX5_looked_0 : cX5_looked.data.toList.drop 0 = dktX5_looked_0 := by decide +kernel
theorem dksX5_looked_1 : cX5_looked.data.toList.drop 23 = dktX5_looked_1 := dk_seg dksX5_looked_0 23 rfl rfl
theorem dksX5_looked_2 : cX5_looked.data.toList.drop 47 = dktX5_looked_2 := dk_seg dksX5_looked_1 24 rfl rfl
theorem dX5_looked_0 : decode cX5_looked 0 = .ok (.iconst 0, 1) := dk_3 (dk_at dksX5_looked_0 0 rfl rfl)
theorem dX5_looked_1 : decode cX5_looked 1 = .ok (.istore_n 1, 1) := dk_60 (dk_at dksX5_looked_0 1 rfl rfl)
theorem dX5_looked_2 : decode cX5_looked 2 = .ok (.iload_n 1, 1) := dk_27 (dk_at dksX5_looked_0 2 rfl rfl)
theorem dX5_looked_3 : decode cX5_looked 3 = .ok (.aload_n 0, 1) := dk_42 (dk_at dksX5_looked_0 3 rfl rfl)
theorem dX5_looked_4 : decode cX5_looked 4 = .ok (.getfield 11, 3) := dk_180 0 11 (dk_at dksX5_looked_0 4 rfl rfl)
theorem dX5_looked_7 : decode cX5_looked 7 = .ok (.sipush 3236, 3) := dk_17 12 164 (dk_at dksX5_looked_0 7 rfl rfl)
theorem dX5_looked_10 : decode cX5_looked 10 = .ok (.iaload, 1) := dk_46 (dk_at dksX5_looked_0 10 rfl rfl)
theorem dX5_looked_11 : decode cX5_looked 11 = .ok (.if_icmp .ge 47, 3) := dk_162 0 47 (dk_at dksX5_looked_0 11 rfl rfl)
theorem dX5_looked_14 : decode cX5_looked 14 = .ok (.aload_n 0, 1) := dk_42 (dk_at dksX5_looked_0 14 rfl rfl)
theorem dX5_looked_15 : decode cX5_looked 15 = .ok (.getfield 11, 3) := dk_180 0 11 (dk_at dksX5_looked_0 15 rfl rfl)
theorem dX5_looked_18 : decode cX5_looked 18 = .ok (.iconst 0, 1) := dk_3 (dk_at dksX5_looked_0 18 rfl rfl)
theorem dX5_looked_19 : decode cX5_looked 19 = .ok (.aload_n 0, 1) := dk_42 (dk_at dksX5_looked_0 19 rfl rfl)
theorem dX5_looked_20 : decode cX5_looked 20 = .ok (.getfield 11, 3) := dk_180 0 11 (dk_at dksX5_looked_0 20 rfl rfl)
theorem dX5_looked_23 : decode cX5_looked 23 = .ok (.sipush 3237, 3) := dk_17 12 165 (dk_at dksX5_looked_1 0 rfl rfl)
theorem dX5_looked_26 : decode cX5_looked 26 = .ok (.iconst 2, 1) := dk_5 (dk_at dksX5_looked_1 3 rfl rfl)
theorem dX5_looked_27 : decode cX5_looked 27 = .ok (.iload_n 1, 1) := dk_27 (dk_at dksX5_looked_1 4 rfl rfl)
theorem dX5_looked_28 : decode cX5_looked 28 = .ok (.imul, 1) := dk_104 (dk_at dksX5_looked_1 5 rfl rfl)
theorem dX5_looked_29 : decode cX5_looked 29 = .ok (.iadd, 1) := dk_96 (dk_at dksX5_looked_1 6 rfl rfl)
theorem dX5_looked_30 : decode cX5_looked 30 = .ok (.iaload, 1) := dk_46 (dk_at dksX5_looked_1 7 rfl rfl)
theorem dX5_looked_31 : decode cX5_looked 31 = .ok (.iadd, 1) := dk_96 (dk_at dksX5_looked_1 8 rfl rfl)
theorem dX5_looked_32 : decode cX5_looked 32 = .ok (.iaload, 1) := dk_46 (dk_at dksX5_looked_1 9 rfl rfl)
theorem dX5_looked_33 : decode cX5_looked 33 = .ok (.aload_n 0, 1) := dk_42 (dk_at dksX5_looked_1 10 rfl rfl)
theorem dX5_looked_34 : decode cX5_looked 34 = .ok (.getfield 11, 3) := dk_180 0 11 (dk_at dksX5_looked_1 11 rfl rfl)
theorem dX5_looked_37 : decode cX5_looked 37 = .ok (.sipush 3237, 3) := dk_17 12 165 (dk_at dksX5_looked_1 14 rfl rfl)
theorem dX5_looked_40 : decode cX5_looked 40 = .ok (.iconst 2, 1) := dk_5 (dk_at dksX5_looked_1 17 rfl rfl)
theorem dX5_looked_41 : decode cX5_looked 41 = .ok (.iload_n 1, 1) := dk_27 (dk_at dksX5_looked_1 18 rfl rfl)
theorem dX5_looked_42 : decode cX5_looked 42 = .ok (.imul, 1) := dk_104 (dk_at dksX5_looked_1 19 rfl rfl)
theorem dX5_looked_43 : decode cX5_looked 43 = .ok (.iadd, 1) := dk_96 (dk_at dksX5_looked_1 20 rfl rfl)
theorem dX5_looked_44 : decode cX5_looked 44 = .ok (.iconst 1, 1) := dk_4 (dk_at dksX5_looked_1 21 rfl rfl)
theorem dX5_looked_45 : decode cX5_looked 45 = .ok (.iadd, 1) := dk_96 (dk_at dksX5_looked_1 22 rfl rfl)
theorem dX5_looked_46 : decode cX5_looked 46 = .ok (.iaload, 1) := dk_46 (dk_at dksX5_looked_1 23 rfl rfl)
theorem dX5_looked_47 : decode cX5_looked 47 = .ok (.if_icmp .eq 5, 3) := dk_159 0 5 (dk_at dksX5_looked_2 0 rfl rfl)
theorem dX5_looked_50 : decode cX5_looked 50 = .ok (.iload_n 1, 1) := dk_27 (dk_at dksX5_looked_2 3 rfl rfl)
theorem dX5_looked_51 : decode cX5_looked 51 = .ok (.ireturn, 1) := dk_172 (dk_at dksX5_looked_2 4 rfl rfl)
theorem dX5_looked_52 : decode cX5_looked 52 = .ok (.iinc 1 1, 3) := dk_132 1 1 (dk_at dksX5_looked_2 5 rfl rfl)
theorem dX5_looked_55 : decode cX5_looked 55 = .ok (.goto (-53), 3) := dk_167 255 203 (dk_at dksX5_looked_2 8 rfl rfl)
theorem dX5_looked_58 : decode cX5_looked 58 = .ok (.bipush (-5), 2) := dk_16 251 (dk_at dksX5_looked_2 11 rfl rfl)
theorem dX5_looked_60 : decode cX5_looked 60 = .ok (.ireturn, 1) := dk_172 (dk_at dksX5_looked_2 13 rfl rfl)
abbrev cX5_judge : ByteArray := prog_13_method_48_code
def yX5_judge : MethodName := ⟨RX5, "judge", "(II)I"⟩
def dkwX5_judge_4 : List UInt8 := [182, 0, 116, 133, 148, 153, 0, 6, 21, 4, 172, 132, 4, 1, 167, 255, 189, 16, 251, 172]
abbrev dktX5_judge_4 : List UInt8 := dkwX5_judge_4 ++ []
def dkwX5_judge_3 : List UInt8 := [161, 0, 9, 16, 100, 21, 4, 96, 172, 42, 180, 0, 47, 27, 50, 28, 21, 4, 96, 47, 42, 4, 21, 4]
abbrev dktX5_judge_3 : List UInt8 := dkwX5_judge_3 ++ dktX5_judge_4
def dkwX5_judge_2 : List UInt8 := [180, 0, 39, 27, 46, 155, 0, 20, 28, 155, 0, 16, 28, 42, 180, 0, 42, 27, 46, 21, 4, 100]
abbrev dktX5_judge_2 : List UInt8 := dkwX5_judge_2 ++ dktX5_judge_3
def dkwX5_judge_1 : List UInt8 := [4, 159, 0, 6, 16, 244, 172, 42, 4, 182, 0, 158, 62, 3, 54, 4, 21, 4, 29, 162, 0, 67, 42]
abbrev dktX5_judge_1 : List UInt8 := dkwX5_judge_1 ++ dktX5_judge_2
def dkwX5_judge_0 : List UInt8 := [27, 184, 0, 161, 154, 0, 5, 2, 172, 42, 180, 0, 39, 27, 46, 155, 0, 16, 42, 180, 0, 39, 27, 46]
abbrev dktX5_judge_0 : List UInt8 := dkwX5_judge_0 ++ dktX5_judge_1
theorem dksX5_judge_0 : cX5_judge.data.toList.drop 0 = dktX5_judge_0 := by decide +kernel
theorem dksX5_judge_1 : cX5_judge.data.toList.drop 24 = dktX5_judge_1 := dk_seg dksX5_judge_0 24 rfl rfl
theorem dksX5_judge_2 : cX5_judge.data.toList.drop 47 = dktX5_judge_2 := dk_seg dksX5_judge_1 23 rfl rfl
theorem dksX5_judge_3 : cX5_judge.data.toList.drop 69 = dktX5_judge_3 := dk_seg dksX5_judge_2 22 rfl rfl
theorem dksX5_judge_4 : cX5_judge.data.toList.drop 93 = dktX5_judge_4 := dk_seg dksX5_judge_3 24 rfl rfl
theorem dX5_judge_0 : decode cX5_judge 0 = .ok (.iload_n 1, 1) := dk_27 (dk_at dksX5_judge_0 0 rfl rfl)
theorem dX5_judge_1 : decode cX5_judge 1 = .ok (.invokestatic 161, 3) := dk_184 0 161 (dk_at dksX5_judge_0 1 rfl rfl)
theorem dX5_judge_4 : decode cX5_judge 4 = .ok (.ifCond .ne 5, 3) := dk_154 0 5 (dk_at dksX5_judge_0 4 rfl rfl)
theorem dX5_judge_7 : decode cX5_judge 7 = .ok (.iconst (-1), 1) := dk_2 (dk_at dksX5_judge_0 7 rfl rfl)
theorem dX5_judge_8 : decode cX5_judge 8 = .ok (.ireturn, 1) := dk_172 (dk_at dksX5_judge_0 8 rfl rfl)
theorem dX5_judge_9 : decode cX5_judge 9 = .ok (.aload_n 0, 1) := dk_42 (dk_at dksX5_judge_0 9 rfl rfl)
theorem dX5_judge_10 : decode cX5_judge 10 = .ok (.getfield 39, 3) := dk_180 0 39 (dk_at dksX5_judge_0 10 rfl rfl)
theorem dX5_judge_13 : decode cX5_judge 13 = .ok (.iload_n 1, 1) := dk_27 (dk_at dksX5_judge_0 13 rfl rfl)
theorem dX5_judge_14 : decode cX5_judge 14 = .ok (.iaload, 1) := dk_46 (dk_at dksX5_judge_0 14 rfl rfl)
theorem dX5_judge_15 : decode cX5_judge 15 = .ok (.ifCond .lt 16, 3) := dk_155 0 16 (dk_at dksX5_judge_0 15 rfl rfl)
theorem dX5_judge_18 : decode cX5_judge 18 = .ok (.aload_n 0, 1) := dk_42 (dk_at dksX5_judge_0 18 rfl rfl)
theorem dX5_judge_19 : decode cX5_judge 19 = .ok (.getfield 39, 3) := dk_180 0 39 (dk_at dksX5_judge_0 19 rfl rfl)
theorem dX5_judge_22 : decode cX5_judge 22 = .ok (.iload_n 1, 1) := dk_27 (dk_at dksX5_judge_0 22 rfl rfl)
theorem dX5_judge_23 : decode cX5_judge 23 = .ok (.iaload, 1) := dk_46 (dk_at dksX5_judge_0 23 rfl rfl)
theorem dX5_judge_24 : decode cX5_judge 24 = .ok (.iconst 1, 1) := dk_4 (dk_at dksX5_judge_1 0 rfl rfl)
theorem dX5_judge_25 : decode cX5_judge 25 = .ok (.if_icmp .eq 6, 3) := dk_159 0 6 (dk_at dksX5_judge_1 1 rfl rfl)
theorem dX5_judge_28 : decode cX5_judge 28 = .ok (.bipush (-12), 2) := dk_16 244 (dk_at dksX5_judge_1 4 rfl rfl)
theorem dX5_judge_30 : decode cX5_judge 30 = .ok (.ireturn, 1) := dk_172 (dk_at dksX5_judge_1 6 rfl rfl)
theorem dX5_judge_31 : decode cX5_judge 31 = .ok (.aload_n 0, 1) := dk_42 (dk_at dksX5_judge_1 7 rfl rfl)
theorem dX5_judge_32 : decode cX5_judge 32 = .ok (.iconst 1, 1) := dk_4 (dk_at dksX5_judge_1 8 rfl rfl)
theorem dX5_judge_33 : decode cX5_judge 33 = .ok (.invokevirtual 158, 3) := dk_182 0 158 (dk_at dksX5_judge_1 9 rfl rfl)
theorem dX5_judge_36 : decode cX5_judge 36 = .ok (.istore_n 3, 1) := dk_62 (dk_at dksX5_judge_1 12 rfl rfl)
theorem dX5_judge_37 : decode cX5_judge 37 = .ok (.iconst 0, 1) := dk_3 (dk_at dksX5_judge_1 13 rfl rfl)
theorem dX5_judge_38 : decode cX5_judge 38 = .ok (.istore 4, 2) := dk_54 4 (dk_at dksX5_judge_1 14 rfl rfl)
theorem dX5_judge_40 : decode cX5_judge 40 = .ok (.iload 4, 2) := dk_21 4 (dk_at dksX5_judge_1 16 rfl rfl)
theorem dX5_judge_42 : decode cX5_judge 42 = .ok (.iload_n 3, 1) := dk_29 (dk_at dksX5_judge_1 18 rfl rfl)
theorem dX5_judge_43 : decode cX5_judge 43 = .ok (.if_icmp .ge 67, 3) := dk_162 0 67 (dk_at dksX5_judge_1 19 rfl rfl)
theorem dX5_judge_46 : decode cX5_judge 46 = .ok (.aload_n 0, 1) := dk_42 (dk_at dksX5_judge_1 22 rfl rfl)
theorem dX5_judge_47 : decode cX5_judge 47 = .ok (.getfield 39, 3) := dk_180 0 39 (dk_at dksX5_judge_2 0 rfl rfl)
theorem dX5_judge_50 : decode cX5_judge 50 = .ok (.iload_n 1, 1) := dk_27 (dk_at dksX5_judge_2 3 rfl rfl)
theorem dX5_judge_51 : decode cX5_judge 51 = .ok (.iaload, 1) := dk_46 (dk_at dksX5_judge_2 4 rfl rfl)
theorem dX5_judge_52 : decode cX5_judge 52 = .ok (.ifCond .lt 20, 3) := dk_155 0 20 (dk_at dksX5_judge_2 5 rfl rfl)
theorem dX5_judge_55 : decode cX5_judge 55 = .ok (.iload_n 2, 1) := dk_28 (dk_at dksX5_judge_2 8 rfl rfl)
theorem dX5_judge_56 : decode cX5_judge 56 = .ok (.ifCond .lt 16, 3) := dk_155 0 16 (dk_at dksX5_judge_2 9 rfl rfl)
theorem dX5_judge_59 : decode cX5_judge 59 = .ok (.iload_n 2, 1) := dk_28 (dk_at dksX5_judge_2 12 rfl rfl)
theorem dX5_judge_60 : decode cX5_judge 60 = .ok (.aload_n 0, 1) := dk_42 (dk_at dksX5_judge_2 13 rfl rfl)
theorem dX5_judge_61 : decode cX5_judge 61 = .ok (.getfield 42, 3) := dk_180 0 42 (dk_at dksX5_judge_2 14 rfl rfl)
theorem dX5_judge_64 : decode cX5_judge 64 = .ok (.iload_n 1, 1) := dk_27 (dk_at dksX5_judge_2 17 rfl rfl)
theorem dX5_judge_65 : decode cX5_judge 65 = .ok (.iaload, 1) := dk_46 (dk_at dksX5_judge_2 18 rfl rfl)
theorem dX5_judge_66 : decode cX5_judge 66 = .ok (.iload 4, 2) := dk_21 4 (dk_at dksX5_judge_2 19 rfl rfl)
theorem dX5_judge_68 : decode cX5_judge 68 = .ok (.isub, 1) := dk_100 (dk_at dksX5_judge_2 21 rfl rfl)
theorem dX5_judge_69 : decode cX5_judge 69 = .ok (.if_icmp .lt 9, 3) := dk_161 0 9 (dk_at dksX5_judge_3 0 rfl rfl)
theorem dX5_judge_72 : decode cX5_judge 72 = .ok (.bipush 100, 2) := dk_16 100 (dk_at dksX5_judge_3 3 rfl rfl)
theorem dX5_judge_74 : decode cX5_judge 74 = .ok (.iload 4, 2) := dk_21 4 (dk_at dksX5_judge_3 5 rfl rfl)
theorem dX5_judge_76 : decode cX5_judge 76 = .ok (.iadd, 1) := dk_96 (dk_at dksX5_judge_3 7 rfl rfl)
theorem dX5_judge_77 : decode cX5_judge 77 = .ok (.ireturn, 1) := dk_172 (dk_at dksX5_judge_3 8 rfl rfl)
theorem dX5_judge_78 : decode cX5_judge 78 = .ok (.aload_n 0, 1) := dk_42 (dk_at dksX5_judge_3 9 rfl rfl)
theorem dX5_judge_79 : decode cX5_judge 79 = .ok (.getfield 47, 3) := dk_180 0 47 (dk_at dksX5_judge_3 10 rfl rfl)
theorem dX5_judge_82 : decode cX5_judge 82 = .ok (.iload_n 1, 1) := dk_27 (dk_at dksX5_judge_3 13 rfl rfl)
theorem dX5_judge_83 : decode cX5_judge 83 = .ok (.aaload, 1) := dk_50 (dk_at dksX5_judge_3 14 rfl rfl)
theorem dX5_judge_84 : decode cX5_judge 84 = .ok (.iload_n 2, 1) := dk_28 (dk_at dksX5_judge_3 15 rfl rfl)
theorem dX5_judge_85 : decode cX5_judge 85 = .ok (.iload 4, 2) := dk_21 4 (dk_at dksX5_judge_3 16 rfl rfl)
theorem dX5_judge_87 : decode cX5_judge 87 = .ok (.iadd, 1) := dk_96 (dk_at dksX5_judge_3 18 rfl rfl)
theorem dX5_judge_88 : decode cX5_judge 88 = .ok (.laload, 1) := dk_47 (dk_at dksX5_judge_3 19 rfl rfl)
theorem dX5_judge_89 : decode cX5_judge 89 = .ok (.aload_n 0, 1) := dk_42 (dk_at dksX5_judge_3 20 rfl rfl)
theorem dX5_judge_90 : decode cX5_judge 90 = .ok (.iconst 1, 1) := dk_4 (dk_at dksX5_judge_3 21 rfl rfl)
theorem dX5_judge_91 : decode cX5_judge 91 = .ok (.iload 4, 2) := dk_21 4 (dk_at dksX5_judge_3 22 rfl rfl)
theorem dX5_judge_93 : decode cX5_judge 93 = .ok (.invokevirtual 116, 3) := dk_182 0 116 (dk_at dksX5_judge_4 0 rfl rfl)
theorem dX5_judge_96 : decode cX5_judge 96 = .ok (.i2l, 1) := dk_133 (dk_at dksX5_judge_4 3 rfl rfl)
theorem dX5_judge_97 : decode cX5_judge 97 = .ok (.lcmp, 1) := dk_148 (dk_at dksX5_judge_4 4 rfl rfl)
theorem dX5_judge_98 : decode cX5_judge 98 = .ok (.ifCond .eq 6, 3) := dk_153 0 6 (dk_at dksX5_judge_4 5 rfl rfl)
theorem dX5_judge_101 : decode cX5_judge 101 = .ok (.iload 4, 2) := dk_21 4 (dk_at dksX5_judge_4 8 rfl rfl)
theorem dX5_judge_103 : decode cX5_judge 103 = .ok (.ireturn, 1) := dk_172 (dk_at dksX5_judge_4 10 rfl rfl)
theorem dX5_judge_104 : decode cX5_judge 104 = .ok (.iinc 4 1, 3) := dk_132 4 1 (dk_at dksX5_judge_4 11 rfl rfl)
theorem dX5_judge_107 : decode cX5_judge 107 = .ok (.goto (-67), 3) := dk_167 255 189 (dk_at dksX5_judge_4 14 rfl rfl)
theorem dX5_judge_110 : decode cX5_judge 110 = .ok (.bipush (-5), 2) := dk_16 251 (dk_at dksX5_judge_4 17 rfl rfl)
theorem dX5_judge_112 : decode cX5_judge 112 = .ok (.ireturn, 1) := dk_172 (dk_at dksX5_judge_4 19 rfl rfl)
abbrev cX5_isTape : ByteArray := prog_13_method_47_code
def yX5_isTape : MethodName := ⟨RX5, "isTape", "(I)Z"⟩
def dkwX5_isTape_0 : List UInt8 := [26, 3, 8, 184, 0, 54, 172]
abbrev dktX5_isTape_0 : List UInt8 := dkwX5_isTape_0 ++ []
theorem dksX5_isTape_0 : cX5_isTape.data.toList.drop 0 = dktX5_isTape_0 := by decide +kernel
theorem dX5_isTape_0 : decode cX5_isTape 0 = .ok (.iload_n 0, 1) := dk_26 (dk_at dksX5_isTape_0 0 rfl rfl)
theorem dX5_isTape_1 : decode cX5_isTape 1 = .ok (.iconst 0, 1) := dk_3 (dk_at dksX5_isTape_0 1 rfl rfl)
theorem dX5_isTape_2 : decode cX5_isTape 2 = .ok (.iconst 5, 1) := dk_8 (dk_at dksX5_isTape_0 2 rfl rfl)
theorem dX5_isTape_3 : decode cX5_isTape 3 = .ok (.invokestatic 54, 3) := dk_184 0 54 (dk_at dksX5_isTape_0 3 rfl rfl)
theorem dX5_isTape_6 : decode cX5_isTape 6 = .ok (.ireturn, 1) := dk_172 (dk_at dksX5_isTape_0 6 rfl rfl)
abbrev cX5_image : ByteArray := prog_13_method_49_code
def yX5_image : MethodName := ⟨RX5, "image", "()I"⟩
def dkwX5_image_1 : List UInt8 := [182, 0, 158, 96, 172]
abbrev dktX5_image_1 : List UInt8 := dkwX5_image_1 ++ []
def dkwX5_image_0 : List UInt8 := [42, 180, 0, 11, 42, 180, 0, 18, 184, 0, 120, 42, 4, 181, 0, 164, 42, 4, 182, 0, 158, 42, 5]
abbrev dktX5_image_0 : List UInt8 := dkwX5_image_0 ++ dktX5_image_1
theorem dksX5_image_0 : cX5_image.data.toList.drop 0 = dktX5_image_0 := by decide +kernel
theorem dksX5_image_1 : cX5_image.data.toList.drop 23 = dktX5_image_1 := dk_seg dksX5_image_0 23 rfl rfl
theorem dX5_image_0 : decode cX5_image 0 = .ok (.aload_n 0, 1) := dk_42 (dk_at dksX5_image_0 0 rfl rfl)
theorem dX5_image_1 : decode cX5_image 1 = .ok (.getfield 11, 3) := dk_180 0 11 (dk_at dksX5_image_0 1 rfl rfl)
theorem dX5_image_4 : decode cX5_image 4 = .ok (.aload_n 0, 1) := dk_42 (dk_at dksX5_image_0 4 rfl rfl)
theorem dX5_image_5 : decode cX5_image 5 = .ok (.getfield 18, 3) := dk_180 0 18 (dk_at dksX5_image_0 5 rfl rfl)
theorem dX5_image_8 : decode cX5_image 8 = .ok (.invokestatic 120, 3) := dk_184 0 120 (dk_at dksX5_image_0 8 rfl rfl)
theorem dX5_image_11 : decode cX5_image 11 = .ok (.aload_n 0, 1) := dk_42 (dk_at dksX5_image_0 11 rfl rfl)
theorem dX5_image_12 : decode cX5_image 12 = .ok (.iconst 1, 1) := dk_4 (dk_at dksX5_image_0 12 rfl rfl)
theorem dX5_image_13 : decode cX5_image 13 = .ok (.putfield 164, 3) := dk_181 0 164 (dk_at dksX5_image_0 13 rfl rfl)
theorem dX5_image_16 : decode cX5_image 16 = .ok (.aload_n 0, 1) := dk_42 (dk_at dksX5_image_0 16 rfl rfl)
theorem dX5_image_17 : decode cX5_image 17 = .ok (.iconst 1, 1) := dk_4 (dk_at dksX5_image_0 17 rfl rfl)
theorem dX5_image_18 : decode cX5_image 18 = .ok (.invokevirtual 158, 3) := dk_182 0 158 (dk_at dksX5_image_0 18 rfl rfl)
theorem dX5_image_21 : decode cX5_image 21 = .ok (.aload_n 0, 1) := dk_42 (dk_at dksX5_image_0 21 rfl rfl)
theorem dX5_image_22 : decode cX5_image 22 = .ok (.iconst 2, 1) := dk_5 (dk_at dksX5_image_0 22 rfl rfl)
theorem dX5_image_23 : decode cX5_image 23 = .ok (.invokevirtual 158, 3) := dk_182 0 158 (dk_at dksX5_image_1 0 rfl rfl)
theorem dX5_image_26 : decode cX5_image 26 = .ok (.iadd, 1) := dk_96 (dk_at dksX5_image_1 3 rfl rfl)
theorem dX5_image_27 : decode cX5_image 27 = .ok (.ireturn, 1) := dk_172 (dk_at dksX5_image_1 4 rfl rfl)
abbrev cX5_undo : ByteArray := prog_13_method_50_code
def yX5_undo : MethodName := ⟨RX5, "undo", "()I"⟩
def dkwX5_undo_1 : List UInt8 := [182, 0, 158, 42, 5, 182, 0, 158, 96, 172]
abbrev dktX5_undo_1 : List UInt8 := dkwX5_undo_1 ++ []
def dkwX5_undo_0 : List UInt8 := [42, 180, 0, 164, 154, 0, 6, 16, 253, 172, 42, 180, 0, 18, 42, 180, 0, 11, 184, 0, 120, 42, 4]
abbrev dktX5_undo_0 : List UInt8 := dkwX5_undo_0 ++ dktX5_undo_1
theorem dksX5_undo_0 : cX5_undo.data.toList.drop 0 = dktX5_undo_0 := by decide +kernel
theorem dksX5_undo_1 : cX5_undo.data.toList.drop 23 = dktX5_undo_1 := dk_seg dksX5_undo_0 23 rfl rfl
theorem dX5_undo_0 : decode cX5_undo 0 = .ok (.aload_n 0, 1) := dk_42 (dk_at dksX5_undo_0 0 rfl rfl)
theorem dX5_undo_1 : decode cX5_undo 1 = .ok (.getfield 164, 3) := dk_180 0 164 (dk_at dksX5_undo_0 1 rfl rfl)
theorem dX5_undo_4 : decode cX5_undo 4 = .ok (.ifCond .ne 6, 3) := dk_154 0 6 (dk_at dksX5_undo_0 4 rfl rfl)
theorem dX5_undo_7 : decode cX5_undo 7 = .ok (.bipush (-3), 2) := dk_16 253 (dk_at dksX5_undo_0 7 rfl rfl)
theorem dX5_undo_9 : decode cX5_undo 9 = .ok (.ireturn, 1) := dk_172 (dk_at dksX5_undo_0 9 rfl rfl)
theorem dX5_undo_10 : decode cX5_undo 10 = .ok (.aload_n 0, 1) := dk_42 (dk_at dksX5_undo_0 10 rfl rfl)
theorem dX5_undo_11 : decode cX5_undo 11 = .ok (.getfield 18, 3) := dk_180 0 18 (dk_at dksX5_undo_0 11 rfl rfl)
theorem dX5_undo_14 : decode cX5_undo 14 = .ok (.aload_n 0, 1) := dk_42 (dk_at dksX5_undo_0 14 rfl rfl)
theorem dX5_undo_15 : decode cX5_undo 15 = .ok (.getfield 11, 3) := dk_180 0 11 (dk_at dksX5_undo_0 15 rfl rfl)
theorem dX5_undo_18 : decode cX5_undo 18 = .ok (.invokestatic 120, 3) := dk_184 0 120 (dk_at dksX5_undo_0 18 rfl rfl)
theorem dX5_undo_21 : decode cX5_undo 21 = .ok (.aload_n 0, 1) := dk_42 (dk_at dksX5_undo_0 21 rfl rfl)
theorem dX5_undo_22 : decode cX5_undo 22 = .ok (.iconst 1, 1) := dk_4 (dk_at dksX5_undo_0 22 rfl rfl)
theorem dX5_undo_23 : decode cX5_undo 23 = .ok (.invokevirtual 158, 3) := dk_182 0 158 (dk_at dksX5_undo_1 0 rfl rfl)
theorem dX5_undo_26 : decode cX5_undo 26 = .ok (.aload_n 0, 1) := dk_42 (dk_at dksX5_undo_1 3 rfl rfl)
theorem dX5_undo_27 : decode cX5_undo 27 = .ok (.iconst 2, 1) := dk_5 (dk_at dksX5_undo_1 4 rfl rfl)
theorem dX5_undo_28 : decode cX5_undo 28 = .ok (.invokevirtual 158, 3) := dk_182 0 158 (dk_at dksX5_undo_1 5 rfl rfl)
theorem dX5_undo_31 : decode cX5_undo 31 = .ok (.iadd, 1) := dk_96 (dk_at dksX5_undo_1 8 rfl rfl)
theorem dX5_undo_32 : decode cX5_undo 32 = .ok (.ireturn, 1) := dk_172 (dk_at dksX5_undo_1 9 rfl rfl)
abbrev cX5_count : ByteArray := prog_13_method_51_code
def yX5_count : MethodName := ⟨RX5, "count", "(I)I"⟩
def dkwX5_count_3 : List UInt8 := [180, 0, 124, 172, 16, 254, 172]
abbrev dktX5_count_3 : List UInt8 := dkwX5_count_3 ++ []
def dkwX5_count_2 : List UInt8 := [42, 27, 4, 96, 182, 0, 158, 172, 42, 180, 0, 139, 172, 42, 180, 0, 11, 17, 12, 164, 46, 172, 42]
abbrev dktX5_count_2 : List UInt8 := dkwX5_count_2 ++ dktX5_count_3
def dkwX5_count_1 : List UInt8 := [170, 0, 0, 0, 0, 0, 70, 0, 0, 0, 0, 0, 0, 0, 6, 0, 0, 0, 43, 0, 0, 0, 43, 0, 0, 0, 43, 0, 0, 0, 43, 0, 0, 0, 51, 0, 0, 0, 56, 0, 0, 0, 65]
abbrev dktX5_count_1 : List UInt8 := dkwX5_count_1 ++ dktX5_count_2
def dkwX5_count_0 : List UInt8 := [27]
abbrev dktX5_count_0 : List UInt8 := dkwX5_count_0 ++ dktX5_count_1
theorem dksX5_count_0 : cX5_count.data.toList.drop 0 = dktX5_count_0 := by decide +kernel
theorem dksX5_count_1 : cX5_count.data.toList.drop 1 = dktX5_count_1 := dk_seg dksX5_count_0 1 rfl rfl
theorem dksX5_count_2 : cX5_count.data.toList.drop 44 = dktX5_count_2 := dk_seg dksX5_count_1 43 rfl rfl
theorem dksX5_count_3 : cX5_count.data.toList.drop 67 = dktX5_count_3 := dk_seg dksX5_count_2 23 rfl rfl
theorem dX5_count_0 : decode cX5_count 0 = .ok (.iload_n 1, 1) := dk_27 (dk_at dksX5_count_0 0 rfl rfl)
theorem dX5_count_1 : decode cX5_count 1 = .ok (.tableswitch 70 0 6 #[43, 43, 43, 43, 51, 56, 65], 43) := by decide +kernel
theorem dX5_count_44 : decode cX5_count 44 = .ok (.aload_n 0, 1) := dk_42 (dk_at dksX5_count_2 0 rfl rfl)
theorem dX5_count_45 : decode cX5_count 45 = .ok (.iload_n 1, 1) := dk_27 (dk_at dksX5_count_2 1 rfl rfl)
theorem dX5_count_46 : decode cX5_count 46 = .ok (.iconst 1, 1) := dk_4 (dk_at dksX5_count_2 2 rfl rfl)
theorem dX5_count_47 : decode cX5_count 47 = .ok (.iadd, 1) := dk_96 (dk_at dksX5_count_2 3 rfl rfl)
theorem dX5_count_48 : decode cX5_count 48 = .ok (.invokevirtual 158, 3) := dk_182 0 158 (dk_at dksX5_count_2 4 rfl rfl)
theorem dX5_count_51 : decode cX5_count 51 = .ok (.ireturn, 1) := dk_172 (dk_at dksX5_count_2 7 rfl rfl)
theorem dX5_count_52 : decode cX5_count 52 = .ok (.aload_n 0, 1) := dk_42 (dk_at dksX5_count_2 8 rfl rfl)
theorem dX5_count_53 : decode cX5_count 53 = .ok (.getfield 139, 3) := dk_180 0 139 (dk_at dksX5_count_2 9 rfl rfl)
theorem dX5_count_56 : decode cX5_count 56 = .ok (.ireturn, 1) := dk_172 (dk_at dksX5_count_2 12 rfl rfl)
theorem dX5_count_57 : decode cX5_count 57 = .ok (.aload_n 0, 1) := dk_42 (dk_at dksX5_count_2 13 rfl rfl)
theorem dX5_count_58 : decode cX5_count 58 = .ok (.getfield 11, 3) := dk_180 0 11 (dk_at dksX5_count_2 14 rfl rfl)
theorem dX5_count_61 : decode cX5_count 61 = .ok (.sipush 3236, 3) := dk_17 12 164 (dk_at dksX5_count_2 17 rfl rfl)
theorem dX5_count_64 : decode cX5_count 64 = .ok (.iaload, 1) := dk_46 (dk_at dksX5_count_2 20 rfl rfl)
theorem dX5_count_65 : decode cX5_count 65 = .ok (.ireturn, 1) := dk_172 (dk_at dksX5_count_2 21 rfl rfl)
theorem dX5_count_66 : decode cX5_count 66 = .ok (.aload_n 0, 1) := dk_42 (dk_at dksX5_count_2 22 rfl rfl)
theorem dX5_count_67 : decode cX5_count 67 = .ok (.getfield 124, 3) := dk_180 0 124 (dk_at dksX5_count_3 0 rfl rfl)
theorem dX5_count_70 : decode cX5_count 70 = .ok (.ireturn, 1) := dk_172 (dk_at dksX5_count_3 3 rfl rfl)
theorem dX5_count_71 : decode cX5_count 71 = .ok (.bipush (-2), 2) := dk_16 254 (dk_at dksX5_count_3 4 rfl rfl)
theorem dX5_count_73 : decode cX5_count 73 = .ok (.ireturn, 1) := dk_172 (dk_at dksX5_count_3 6 rfl rfl)
abbrev cX5_tape : ByteArray := prog_13_method_52_code
def yX5_tape : MethodName := ⟨RX5, "tape", "(III)I"⟩
def dkwX5_tape_3 : List UInt8 := [162, 0, 19, 42, 180, 0, 47, 27, 50, 21, 4, 9, 80, 132, 4, 1, 167, 255, 236, 4, 172]
abbrev dktX5_tape_3 : List UInt8 := dkwX5_tape_3 ++ []
def dkwX5_tape_2 : List UInt8 := [28, 79, 42, 180, 0, 42, 27, 28, 156, 0, 7, 3, 167, 0, 4, 29, 79, 3, 54, 4, 21, 4, 16, 60]
abbrev dktX5_tape_2 : List UInt8 := dkwX5_tape_2 ++ dktX5_tape_3
def dkwX5_tape_1 : List UInt8 := [16, 60, 164, 0, 6, 16, 254, 172, 28, 155, 0, 10, 29, 156, 0, 6, 16, 242, 172, 42, 180, 0, 39, 27]
abbrev dktX5_tape_1 : List UInt8 := dkwX5_tape_1 ++ dktX5_tape_2
def dkwX5_tape_0 : List UInt8 := [27, 184, 0, 161, 154, 0, 5, 2, 172, 28, 2, 7, 184, 0, 54, 153, 0, 13, 28, 155, 0, 12, 29]
abbrev dktX5_tape_0 : List UInt8 := dkwX5_tape_0 ++ dktX5_tape_1
theorem dksX5_tape_0 : cX5_tape.data.toList.drop 0 = dktX5_tape_0 := by decide +kernel
theorem dksX5_tape_1 : cX5_tape.data.toList.drop 23 = dktX5_tape_1 := dk_seg dksX5_tape_0 23 rfl rfl
theorem dksX5_tape_2 : cX5_tape.data.toList.drop 47 = dktX5_tape_2 := dk_seg dksX5_tape_1 24 rfl rfl
theorem dksX5_tape_3 : cX5_tape.data.toList.drop 71 = dktX5_tape_3 := dk_seg dksX5_tape_2 24 rfl rfl
theorem dX5_tape_0 : decode cX5_tape 0 = .ok (.iload_n 1, 1) := dk_27 (dk_at dksX5_tape_0 0 rfl rfl)
theorem dX5_tape_1 : decode cX5_tape 1 = .ok (.invokestatic 161, 3) := dk_184 0 161 (dk_at dksX5_tape_0 1 rfl rfl)
theorem dX5_tape_4 : decode cX5_tape 4 = .ok (.ifCond .ne 5, 3) := dk_154 0 5 (dk_at dksX5_tape_0 4 rfl rfl)
theorem dX5_tape_7 : decode cX5_tape 7 = .ok (.iconst (-1), 1) := dk_2 (dk_at dksX5_tape_0 7 rfl rfl)
theorem dX5_tape_8 : decode cX5_tape 8 = .ok (.ireturn, 1) := dk_172 (dk_at dksX5_tape_0 8 rfl rfl)
theorem dX5_tape_9 : decode cX5_tape 9 = .ok (.iload_n 2, 1) := dk_28 (dk_at dksX5_tape_0 9 rfl rfl)
theorem dX5_tape_10 : decode cX5_tape 10 = .ok (.iconst (-1), 1) := dk_2 (dk_at dksX5_tape_0 10 rfl rfl)
theorem dX5_tape_11 : decode cX5_tape 11 = .ok (.iconst 4, 1) := dk_7 (dk_at dksX5_tape_0 11 rfl rfl)
theorem dX5_tape_12 : decode cX5_tape 12 = .ok (.invokestatic 54, 3) := dk_184 0 54 (dk_at dksX5_tape_0 12 rfl rfl)
theorem dX5_tape_15 : decode cX5_tape 15 = .ok (.ifCond .eq 13, 3) := dk_153 0 13 (dk_at dksX5_tape_0 15 rfl rfl)
theorem dX5_tape_18 : decode cX5_tape 18 = .ok (.iload_n 2, 1) := dk_28 (dk_at dksX5_tape_0 18 rfl rfl)
theorem dX5_tape_19 : decode cX5_tape 19 = .ok (.ifCond .lt 12, 3) := dk_155 0 12 (dk_at dksX5_tape_0 19 rfl rfl)
theorem dX5_tape_22 : decode cX5_tape 22 = .ok (.iload_n 3, 1) := dk_29 (dk_at dksX5_tape_0 22 rfl rfl)
theorem dX5_tape_23 : decode cX5_tape 23 = .ok (.bipush 60, 2) := dk_16 60 (dk_at dksX5_tape_1 0 rfl rfl)
theorem dX5_tape_25 : decode cX5_tape 25 = .ok (.if_icmp .le 6, 3) := dk_164 0 6 (dk_at dksX5_tape_1 2 rfl rfl)
theorem dX5_tape_28 : decode cX5_tape 28 = .ok (.bipush (-2), 2) := dk_16 254 (dk_at dksX5_tape_1 5 rfl rfl)
theorem dX5_tape_30 : decode cX5_tape 30 = .ok (.ireturn, 1) := dk_172 (dk_at dksX5_tape_1 7 rfl rfl)
theorem dX5_tape_31 : decode cX5_tape 31 = .ok (.iload_n 2, 1) := dk_28 (dk_at dksX5_tape_1 8 rfl rfl)
theorem dX5_tape_32 : decode cX5_tape 32 = .ok (.ifCond .lt 10, 3) := dk_155 0 10 (dk_at dksX5_tape_1 9 rfl rfl)
theorem dX5_tape_35 : decode cX5_tape 35 = .ok (.iload_n 3, 1) := dk_29 (dk_at dksX5_tape_1 12 rfl rfl)
theorem dX5_tape_36 : decode cX5_tape 36 = .ok (.ifCond .ge 6, 3) := dk_156 0 6 (dk_at dksX5_tape_1 13 rfl rfl)
theorem dX5_tape_39 : decode cX5_tape 39 = .ok (.bipush (-14), 2) := dk_16 242 (dk_at dksX5_tape_1 16 rfl rfl)
theorem dX5_tape_41 : decode cX5_tape 41 = .ok (.ireturn, 1) := dk_172 (dk_at dksX5_tape_1 18 rfl rfl)
theorem dX5_tape_42 : decode cX5_tape 42 = .ok (.aload_n 0, 1) := dk_42 (dk_at dksX5_tape_1 19 rfl rfl)
theorem dX5_tape_43 : decode cX5_tape 43 = .ok (.getfield 39, 3) := dk_180 0 39 (dk_at dksX5_tape_1 20 rfl rfl)
theorem dX5_tape_46 : decode cX5_tape 46 = .ok (.iload_n 1, 1) := dk_27 (dk_at dksX5_tape_1 23 rfl rfl)
theorem dX5_tape_47 : decode cX5_tape 47 = .ok (.iload_n 2, 1) := dk_28 (dk_at dksX5_tape_2 0 rfl rfl)
theorem dX5_tape_48 : decode cX5_tape 48 = .ok (.iastore, 1) := dk_79 (dk_at dksX5_tape_2 1 rfl rfl)
theorem dX5_tape_49 : decode cX5_tape 49 = .ok (.aload_n 0, 1) := dk_42 (dk_at dksX5_tape_2 2 rfl rfl)
theorem dX5_tape_50 : decode cX5_tape 50 = .ok (.getfield 42, 3) := dk_180 0 42 (dk_at dksX5_tape_2 3 rfl rfl)
theorem dX5_tape_53 : decode cX5_tape 53 = .ok (.iload_n 1, 1) := dk_27 (dk_at dksX5_tape_2 6 rfl rfl)
theorem dX5_tape_54 : decode cX5_tape 54 = .ok (.iload_n 2, 1) := dk_28 (dk_at dksX5_tape_2 7 rfl rfl)
theorem dX5_tape_55 : decode cX5_tape 55 = .ok (.ifCond .ge 7, 3) := dk_156 0 7 (dk_at dksX5_tape_2 8 rfl rfl)
theorem dX5_tape_58 : decode cX5_tape 58 = .ok (.iconst 0, 1) := dk_3 (dk_at dksX5_tape_2 11 rfl rfl)
theorem dX5_tape_59 : decode cX5_tape 59 = .ok (.goto 4, 3) := dk_167 0 4 (dk_at dksX5_tape_2 12 rfl rfl)
theorem dX5_tape_62 : decode cX5_tape 62 = .ok (.iload_n 3, 1) := dk_29 (dk_at dksX5_tape_2 15 rfl rfl)
theorem dX5_tape_63 : decode cX5_tape 63 = .ok (.iastore, 1) := dk_79 (dk_at dksX5_tape_2 16 rfl rfl)
theorem dX5_tape_64 : decode cX5_tape 64 = .ok (.iconst 0, 1) := dk_3 (dk_at dksX5_tape_2 17 rfl rfl)
theorem dX5_tape_65 : decode cX5_tape 65 = .ok (.istore 4, 2) := dk_54 4 (dk_at dksX5_tape_2 18 rfl rfl)
theorem dX5_tape_67 : decode cX5_tape 67 = .ok (.iload 4, 2) := dk_21 4 (dk_at dksX5_tape_2 20 rfl rfl)
theorem dX5_tape_69 : decode cX5_tape 69 = .ok (.bipush 60, 2) := dk_16 60 (dk_at dksX5_tape_2 22 rfl rfl)
theorem dX5_tape_71 : decode cX5_tape 71 = .ok (.if_icmp .ge 19, 3) := dk_162 0 19 (dk_at dksX5_tape_3 0 rfl rfl)
theorem dX5_tape_74 : decode cX5_tape 74 = .ok (.aload_n 0, 1) := dk_42 (dk_at dksX5_tape_3 3 rfl rfl)
theorem dX5_tape_75 : decode cX5_tape 75 = .ok (.getfield 47, 3) := dk_180 0 47 (dk_at dksX5_tape_3 4 rfl rfl)
theorem dX5_tape_78 : decode cX5_tape 78 = .ok (.iload_n 1, 1) := dk_27 (dk_at dksX5_tape_3 7 rfl rfl)
theorem dX5_tape_79 : decode cX5_tape 79 = .ok (.aaload, 1) := dk_50 (dk_at dksX5_tape_3 8 rfl rfl)
theorem dX5_tape_80 : decode cX5_tape 80 = .ok (.iload 4, 2) := dk_21 4 (dk_at dksX5_tape_3 9 rfl rfl)
theorem dX5_tape_82 : decode cX5_tape 82 = .ok (.lconst 0, 1) := dk_9 (dk_at dksX5_tape_3 11 rfl rfl)
theorem dX5_tape_83 : decode cX5_tape 83 = .ok (.lastore, 1) := dk_80 (dk_at dksX5_tape_3 12 rfl rfl)
theorem dX5_tape_84 : decode cX5_tape 84 = .ok (.iinc 4 1, 3) := dk_132 4 1 (dk_at dksX5_tape_3 13 rfl rfl)
theorem dX5_tape_87 : decode cX5_tape 87 = .ok (.goto (-20), 3) := dk_167 255 236 (dk_at dksX5_tape_3 16 rfl rfl)
theorem dX5_tape_90 : decode cX5_tape 90 = .ok (.iconst 1, 1) := dk_4 (dk_at dksX5_tape_3 19 rfl rfl)
theorem dX5_tape_91 : decode cX5_tape 91 = .ok (.ireturn, 1) := dk_172 (dk_at dksX5_tape_3 20 rfl rfl)
abbrev cX5_item : ByteArray := prog_13_method_54_code
def yX5_item : MethodName := ⟨RX5, "item", "(IIJ)I"⟩
def dkwX5_item_2 : List UInt8 := [180, 0, 39, 27, 46, 33, 184, 0, 168, 80, 4, 172]
abbrev dktX5_item_2 : List UInt8 := dkwX5_item_2 ++ []
def dkwX5_item_1 : List UInt8 := [180, 0, 42, 27, 46, 4, 100, 184, 0, 54, 154, 0, 6, 16, 243, 172, 42, 180, 0, 47, 27, 50, 28, 42]
abbrev dktX5_item_1 : List UInt8 := dkwX5_item_1 ++ dktX5_item_2
def dkwX5_item_0 : List UInt8 := [27, 184, 0, 161, 154, 0, 5, 2, 172, 42, 180, 0, 39, 27, 46, 156, 0, 6, 16, 245, 172, 28, 3, 42]
abbrev dktX5_item_0 : List UInt8 := dkwX5_item_0 ++ dktX5_item_1
theorem dksX5_item_0 : cX5_item.data.toList.drop 0 = dktX5_item_0 := by decide +kernel
theorem dksX5_item_1 : cX5_item.data.toList.drop 24 = dktX5_item_1 := dk_seg dksX5_item_0 24 rfl rfl
theorem dksX5_item_2 : cX5_item.data.toList.drop 48 = dktX5_item_2 := dk_seg dksX5_item_1 24 rfl rfl
theorem dX5_item_0 : decode cX5_item 0 = .ok (.iload_n 1, 1) := dk_27 (dk_at dksX5_item_0 0 rfl rfl)
theorem dX5_item_1 : decode cX5_item 1 = .ok (.invokestatic 161, 3) := dk_184 0 161 (dk_at dksX5_item_0 1 rfl rfl)
theorem dX5_item_4 : decode cX5_item 4 = .ok (.ifCond .ne 5, 3) := dk_154 0 5 (dk_at dksX5_item_0 4 rfl rfl)
theorem dX5_item_7 : decode cX5_item 7 = .ok (.iconst (-1), 1) := dk_2 (dk_at dksX5_item_0 7 rfl rfl)
theorem dX5_item_8 : decode cX5_item 8 = .ok (.ireturn, 1) := dk_172 (dk_at dksX5_item_0 8 rfl rfl)
theorem dX5_item_9 : decode cX5_item 9 = .ok (.aload_n 0, 1) := dk_42 (dk_at dksX5_item_0 9 rfl rfl)
theorem dX5_item_10 : decode cX5_item 10 = .ok (.getfield 39, 3) := dk_180 0 39 (dk_at dksX5_item_0 10 rfl rfl)
theorem dX5_item_13 : decode cX5_item 13 = .ok (.iload_n 1, 1) := dk_27 (dk_at dksX5_item_0 13 rfl rfl)
theorem dX5_item_14 : decode cX5_item 14 = .ok (.iaload, 1) := dk_46 (dk_at dksX5_item_0 14 rfl rfl)
theorem dX5_item_15 : decode cX5_item 15 = .ok (.ifCond .ge 6, 3) := dk_156 0 6 (dk_at dksX5_item_0 15 rfl rfl)
theorem dX5_item_18 : decode cX5_item 18 = .ok (.bipush (-11), 2) := dk_16 245 (dk_at dksX5_item_0 18 rfl rfl)
theorem dX5_item_20 : decode cX5_item 20 = .ok (.ireturn, 1) := dk_172 (dk_at dksX5_item_0 20 rfl rfl)
theorem dX5_item_21 : decode cX5_item 21 = .ok (.iload_n 2, 1) := dk_28 (dk_at dksX5_item_0 21 rfl rfl)
theorem dX5_item_22 : decode cX5_item 22 = .ok (.iconst 0, 1) := dk_3 (dk_at dksX5_item_0 22 rfl rfl)
theorem dX5_item_23 : decode cX5_item 23 = .ok (.aload_n 0, 1) := dk_42 (dk_at dksX5_item_0 23 rfl rfl)
theorem dX5_item_24 : decode cX5_item 24 = .ok (.getfield 42, 3) := dk_180 0 42 (dk_at dksX5_item_1 0 rfl rfl)
theorem dX5_item_27 : decode cX5_item 27 = .ok (.iload_n 1, 1) := dk_27 (dk_at dksX5_item_1 3 rfl rfl)
theorem dX5_item_28 : decode cX5_item 28 = .ok (.iaload, 1) := dk_46 (dk_at dksX5_item_1 4 rfl rfl)
theorem dX5_item_29 : decode cX5_item 29 = .ok (.iconst 1, 1) := dk_4 (dk_at dksX5_item_1 5 rfl rfl)
theorem dX5_item_30 : decode cX5_item 30 = .ok (.isub, 1) := dk_100 (dk_at dksX5_item_1 6 rfl rfl)
theorem dX5_item_31 : decode cX5_item 31 = .ok (.invokestatic 54, 3) := dk_184 0 54 (dk_at dksX5_item_1 7 rfl rfl)
theorem dX5_item_34 : decode cX5_item 34 = .ok (.ifCond .ne 6, 3) := dk_154 0 6 (dk_at dksX5_item_1 10 rfl rfl)
theorem dX5_item_37 : decode cX5_item 37 = .ok (.bipush (-13), 2) := dk_16 243 (dk_at dksX5_item_1 13 rfl rfl)
theorem dX5_item_39 : decode cX5_item 39 = .ok (.ireturn, 1) := dk_172 (dk_at dksX5_item_1 15 rfl rfl)
theorem dX5_item_40 : decode cX5_item 40 = .ok (.aload_n 0, 1) := dk_42 (dk_at dksX5_item_1 16 rfl rfl)
theorem dX5_item_41 : decode cX5_item 41 = .ok (.getfield 47, 3) := dk_180 0 47 (dk_at dksX5_item_1 17 rfl rfl)
theorem dX5_item_44 : decode cX5_item 44 = .ok (.iload_n 1, 1) := dk_27 (dk_at dksX5_item_1 20 rfl rfl)
theorem dX5_item_45 : decode cX5_item 45 = .ok (.aaload, 1) := dk_50 (dk_at dksX5_item_1 21 rfl rfl)
theorem dX5_item_46 : decode cX5_item 46 = .ok (.iload_n 2, 1) := dk_28 (dk_at dksX5_item_1 22 rfl rfl)
theorem dX5_item_47 : decode cX5_item 47 = .ok (.aload_n 0, 1) := dk_42 (dk_at dksX5_item_1 23 rfl rfl)
theorem dX5_item_48 : decode cX5_item 48 = .ok (.getfield 39, 3) := dk_180 0 39 (dk_at dksX5_item_2 0 rfl rfl)
theorem dX5_item_51 : decode cX5_item 51 = .ok (.iload_n 1, 1) := dk_27 (dk_at dksX5_item_2 3 rfl rfl)
theorem dX5_item_52 : decode cX5_item 52 = .ok (.iaload, 1) := dk_46 (dk_at dksX5_item_2 4 rfl rfl)
theorem dX5_item_53 : decode cX5_item 53 = .ok (.lload_n 3, 1) := dk_33 (dk_at dksX5_item_2 5 rfl rfl)
theorem dX5_item_54 : decode cX5_item 54 = .ok (.invokestatic 168, 3) := dk_184 0 168 (dk_at dksX5_item_2 6 rfl rfl)
theorem dX5_item_57 : decode cX5_item 57 = .ok (.lastore, 1) := dk_80 (dk_at dksX5_item_2 9 rfl rfl)
theorem dX5_item_58 : decode cX5_item 58 = .ok (.iconst 1, 1) := dk_4 (dk_at dksX5_item_2 10 rfl rfl)
theorem dX5_item_59 : decode cX5_item 59 = .ok (.ireturn, 1) := dk_172 (dk_at dksX5_item_2 11 rfl rfl)
abbrev cX5_fit : ByteArray := prog_13_method_53_code
def yX5_fit : MethodName := ⟨RX5, "fit", "(IJ)J"⟩
def dkwX5_fit_3 : List UInt8 := [167, 0, 4, 9, 173]
abbrev dktX5_fit_3 : List UInt8 := dkwX5_fit_3 ++ []
def dkwX5_fit_2 : List UInt8 := [31, 136, 145, 133, 173, 31, 136, 147, 133, 173, 31, 136, 133, 173, 31, 173, 31, 9, 148, 153, 0, 7, 10]
abbrev dktX5_fit_2 : List UInt8 := dkwX5_fit_2 ++ dktX5_fit_3
def dkwX5_fit_1 : List UInt8 := [170, 0, 0, 0, 0, 0, 47, 0, 0, 0, 0, 0, 0, 0, 3, 0, 0, 0, 31, 0, 0, 0, 36, 0, 0, 0, 41, 0, 0, 0, 45]
abbrev dktX5_fit_1 : List UInt8 := dkwX5_fit_1 ++ dktX5_fit_2
def dkwX5_fit_0 : List UInt8 := [26]
abbrev dktX5_fit_0 : List UInt8 := dkwX5_fit_0 ++ dktX5_fit_1
theorem dksX5_fit_0 : cX5_fit.data.toList.drop 0 = dktX5_fit_0 := by decide +kernel
theorem dksX5_fit_1 : cX5_fit.data.toList.drop 1 = dktX5_fit_1 := dk_seg dksX5_fit_0 1 rfl rfl
theorem dksX5_fit_2 : cX5_fit.data.toList.drop 32 = dktX5_fit_2 := dk_seg dksX5_fit_1 31 rfl rfl
theorem dksX5_fit_3 : cX5_fit.data.toList.drop 55 = dktX5_fit_3 := dk_seg dksX5_fit_2 23 rfl rfl
theorem dX5_fit_0 : decode cX5_fit 0 = .ok (.iload_n 0, 1) := dk_26 (dk_at dksX5_fit_0 0 rfl rfl)
theorem dX5_fit_1 : decode cX5_fit 1 = .ok (.tableswitch 47 0 3 #[31, 36, 41, 45], 31) := by decide +kernel
theorem dX5_fit_32 : decode cX5_fit 32 = .ok (.lload_n 1, 1) := dk_31 (dk_at dksX5_fit_2 0 rfl rfl)
theorem dX5_fit_33 : decode cX5_fit 33 = .ok (.l2i, 1) := dk_136 (dk_at dksX5_fit_2 1 rfl rfl)
theorem dX5_fit_34 : decode cX5_fit 34 = .ok (.i2b, 1) := dk_145 (dk_at dksX5_fit_2 2 rfl rfl)
theorem dX5_fit_35 : decode cX5_fit 35 = .ok (.i2l, 1) := dk_133 (dk_at dksX5_fit_2 3 rfl rfl)
theorem dX5_fit_36 : decode cX5_fit 36 = .ok (.lreturn, 1) := dk_173 (dk_at dksX5_fit_2 4 rfl rfl)
theorem dX5_fit_37 : decode cX5_fit 37 = .ok (.lload_n 1, 1) := dk_31 (dk_at dksX5_fit_2 5 rfl rfl)
theorem dX5_fit_38 : decode cX5_fit 38 = .ok (.l2i, 1) := dk_136 (dk_at dksX5_fit_2 6 rfl rfl)
theorem dX5_fit_39 : decode cX5_fit 39 = .ok (.i2s, 1) := dk_147 (dk_at dksX5_fit_2 7 rfl rfl)
theorem dX5_fit_40 : decode cX5_fit 40 = .ok (.i2l, 1) := dk_133 (dk_at dksX5_fit_2 8 rfl rfl)
theorem dX5_fit_41 : decode cX5_fit 41 = .ok (.lreturn, 1) := dk_173 (dk_at dksX5_fit_2 9 rfl rfl)
theorem dX5_fit_42 : decode cX5_fit 42 = .ok (.lload_n 1, 1) := dk_31 (dk_at dksX5_fit_2 10 rfl rfl)
theorem dX5_fit_43 : decode cX5_fit 43 = .ok (.l2i, 1) := dk_136 (dk_at dksX5_fit_2 11 rfl rfl)
theorem dX5_fit_44 : decode cX5_fit 44 = .ok (.i2l, 1) := dk_133 (dk_at dksX5_fit_2 12 rfl rfl)
theorem dX5_fit_45 : decode cX5_fit 45 = .ok (.lreturn, 1) := dk_173 (dk_at dksX5_fit_2 13 rfl rfl)
theorem dX5_fit_46 : decode cX5_fit 46 = .ok (.lload_n 1, 1) := dk_31 (dk_at dksX5_fit_2 14 rfl rfl)
theorem dX5_fit_47 : decode cX5_fit 47 = .ok (.lreturn, 1) := dk_173 (dk_at dksX5_fit_2 15 rfl rfl)
theorem dX5_fit_48 : decode cX5_fit 48 = .ok (.lload_n 1, 1) := dk_31 (dk_at dksX5_fit_2 16 rfl rfl)
theorem dX5_fit_49 : decode cX5_fit 49 = .ok (.lconst 0, 1) := dk_9 (dk_at dksX5_fit_2 17 rfl rfl)
theorem dX5_fit_50 : decode cX5_fit 50 = .ok (.lcmp, 1) := dk_148 (dk_at dksX5_fit_2 18 rfl rfl)
theorem dX5_fit_51 : decode cX5_fit 51 = .ok (.ifCond .eq 7, 3) := dk_153 0 7 (dk_at dksX5_fit_2 19 rfl rfl)
theorem dX5_fit_54 : decode cX5_fit 54 = .ok (.lconst 1, 1) := dk_10 (dk_at dksX5_fit_2 22 rfl rfl)
theorem dX5_fit_55 : decode cX5_fit 55 = .ok (.goto 4, 3) := dk_167 0 4 (dk_at dksX5_fit_3 0 rfl rfl)
theorem dX5_fit_58 : decode cX5_fit 58 = .ok (.lconst 0, 1) := dk_9 (dk_at dksX5_fit_3 3 rfl rfl)
theorem dX5_fit_59 : decode cX5_fit 59 = .ok (.lreturn, 1) := dk_173 (dk_at dksX5_fit_3 4 rfl rfl)
abbrev cX5_read : ByteArray := prog_13_method_55_code
def yX5_read : MethodName := ⟨RX5, "read", "(II)J"⟩
def dkwX5_read_1 : List UInt8 := [4, 100, 184, 0, 54, 153, 0, 14, 42, 180, 0, 47, 27, 50, 28, 47, 167, 0, 6, 20, 0, 104, 173]
abbrev dktX5_read_1 : List UInt8 := dkwX5_read_1 ++ []
def dkwX5_read_0 : List UInt8 := [27, 184, 0, 161, 153, 0, 39, 42, 180, 0, 39, 27, 46, 155, 0, 30, 28, 3, 42, 180, 0, 42, 27, 46]
abbrev dktX5_read_0 : List UInt8 := dkwX5_read_0 ++ dktX5_read_1
theorem dksX5_read_0 : cX5_read.data.toList.drop 0 = dktX5_read_0 := by decide +kernel
theorem dksX5_read_1 : cX5_read.data.toList.drop 24 = dktX5_read_1 := dk_seg dksX5_read_0 24 rfl rfl
theorem dX5_read_0 : decode cX5_read 0 = .ok (.iload_n 1, 1) := dk_27 (dk_at dksX5_read_0 0 rfl rfl)
theorem dX5_read_1 : decode cX5_read 1 = .ok (.invokestatic 161, 3) := dk_184 0 161 (dk_at dksX5_read_0 1 rfl rfl)
theorem dX5_read_4 : decode cX5_read 4 = .ok (.ifCond .eq 39, 3) := dk_153 0 39 (dk_at dksX5_read_0 4 rfl rfl)
theorem dX5_read_7 : decode cX5_read 7 = .ok (.aload_n 0, 1) := dk_42 (dk_at dksX5_read_0 7 rfl rfl)
theorem dX5_read_8 : decode cX5_read 8 = .ok (.getfield 39, 3) := dk_180 0 39 (dk_at dksX5_read_0 8 rfl rfl)
theorem dX5_read_11 : decode cX5_read 11 = .ok (.iload_n 1, 1) := dk_27 (dk_at dksX5_read_0 11 rfl rfl)
theorem dX5_read_12 : decode cX5_read 12 = .ok (.iaload, 1) := dk_46 (dk_at dksX5_read_0 12 rfl rfl)
theorem dX5_read_13 : decode cX5_read 13 = .ok (.ifCond .lt 30, 3) := dk_155 0 30 (dk_at dksX5_read_0 13 rfl rfl)
theorem dX5_read_16 : decode cX5_read 16 = .ok (.iload_n 2, 1) := dk_28 (dk_at dksX5_read_0 16 rfl rfl)
theorem dX5_read_17 : decode cX5_read 17 = .ok (.iconst 0, 1) := dk_3 (dk_at dksX5_read_0 17 rfl rfl)
theorem dX5_read_18 : decode cX5_read 18 = .ok (.aload_n 0, 1) := dk_42 (dk_at dksX5_read_0 18 rfl rfl)
theorem dX5_read_19 : decode cX5_read 19 = .ok (.getfield 42, 3) := dk_180 0 42 (dk_at dksX5_read_0 19 rfl rfl)
theorem dX5_read_22 : decode cX5_read 22 = .ok (.iload_n 1, 1) := dk_27 (dk_at dksX5_read_0 22 rfl rfl)
theorem dX5_read_23 : decode cX5_read 23 = .ok (.iaload, 1) := dk_46 (dk_at dksX5_read_0 23 rfl rfl)
theorem dX5_read_24 : decode cX5_read 24 = .ok (.iconst 1, 1) := dk_4 (dk_at dksX5_read_1 0 rfl rfl)
theorem dX5_read_25 : decode cX5_read 25 = .ok (.isub, 1) := dk_100 (dk_at dksX5_read_1 1 rfl rfl)
theorem dX5_read_26 : decode cX5_read 26 = .ok (.invokestatic 54, 3) := dk_184 0 54 (dk_at dksX5_read_1 2 rfl rfl)
theorem dX5_read_29 : decode cX5_read 29 = .ok (.ifCond .eq 14, 3) := dk_153 0 14 (dk_at dksX5_read_1 5 rfl rfl)
theorem dX5_read_32 : decode cX5_read 32 = .ok (.aload_n 0, 1) := dk_42 (dk_at dksX5_read_1 8 rfl rfl)
theorem dX5_read_33 : decode cX5_read 33 = .ok (.getfield 47, 3) := dk_180 0 47 (dk_at dksX5_read_1 9 rfl rfl)
theorem dX5_read_36 : decode cX5_read 36 = .ok (.iload_n 1, 1) := dk_27 (dk_at dksX5_read_1 12 rfl rfl)
theorem dX5_read_37 : decode cX5_read 37 = .ok (.aaload, 1) := dk_50 (dk_at dksX5_read_1 13 rfl rfl)
theorem dX5_read_38 : decode cX5_read 38 = .ok (.iload_n 2, 1) := dk_28 (dk_at dksX5_read_1 14 rfl rfl)
theorem dX5_read_39 : decode cX5_read 39 = .ok (.laload, 1) := dk_47 (dk_at dksX5_read_1 15 rfl rfl)
theorem dX5_read_40 : decode cX5_read 40 = .ok (.goto 6, 3) := dk_167 0 6 (dk_at dksX5_read_1 16 rfl rfl)
theorem dX5_read_43 : decode cX5_read 43 = .ok (.ldc2_w 104, 3) := dk_20 0 104 (dk_at dksX5_read_1 19 rfl rfl)
theorem dX5_read_46 : decode cX5_read 46 = .ok (.lreturn, 1) := dk_173 (dk_at dksX5_read_1 22 rfl rfl)
abbrev cX5_shift : ByteArray := prog_13_method_56_code
def yX5_shift : MethodName := ⟨RX5, "shift", "(IIIII)I"⟩
def dkwX5_shift_8 : List UInt8 := [47, 80, 132, 6, 1, 167, 255, 227, 21, 5, 172]
abbrev dktX5_shift_8 : List UInt8 := dkwX5_shift_8 ++ []
def dkwX5_shift_7 : List UInt8 := [21, 6, 21, 5, 162, 0, 28, 42, 180, 0, 47, 29, 50, 21, 4, 21, 6, 96, 42, 180, 0, 50, 21, 6]
abbrev dktX5_shift_7 : List UInt8 := dkwX5_shift_7 ++ dktX5_shift_8
def dkwX5_shift_6 : List UInt8 := [21, 6, 42, 180, 0, 47, 27, 50, 28, 21, 6, 96, 47, 80, 132, 6, 1, 167, 255, 228, 3, 54, 6]
abbrev dktX5_shift_6 : List UInt8 := dkwX5_shift_6 ++ dktX5_shift_7
def dkwX5_shift_5 : List UInt8 := [21, 5, 100, 164, 0, 6, 16, 243, 172, 3, 54, 6, 21, 6, 21, 5, 162, 0, 27, 42, 180, 0, 50]
abbrev dktX5_shift_5 : List UInt8 := dkwX5_shift_5 ++ dktX5_shift_6
def dkwX5_shift_4 : List UInt8 := [163, 0, 30, 28, 42, 180, 0, 42, 27, 46, 21, 5, 100, 163, 0, 17, 21, 4, 42, 180, 0, 42, 29, 46]
abbrev dktX5_shift_4 : List UInt8 := dkwX5_shift_4 ++ dktX5_shift_5
def dkwX5_shift_3 : List UInt8 := [155, 0, 52, 21, 5, 42, 180, 0, 42, 27, 46, 163, 0, 41, 21, 5, 42, 180, 0, 42, 29, 46]
abbrev dktX5_shift_3 : List UInt8 := dkwX5_shift_3 ++ dktX5_shift_4
def dkwX5_shift_2 : List UInt8 := [180, 0, 39, 29, 46, 159, 0, 6, 16, 244, 172, 21, 5, 155, 0, 61, 28, 155, 0, 57, 21, 4]
abbrev dktX5_shift_2 : List UInt8 := dkwX5_shift_2 ++ dktX5_shift_3
def dkwX5_shift_1 : List UInt8 := [155, 0, 12, 42, 180, 0, 39, 29, 46, 156, 0, 6, 16, 245, 172, 42, 180, 0, 39, 27, 46, 42]
abbrev dktX5_shift_1 : List UInt8 := dkwX5_shift_1 ++ dktX5_shift_2
def dkwX5_shift_0 : List UInt8 := [27, 184, 0, 161, 153, 0, 10, 29, 184, 0, 161, 154, 0, 5, 2, 172, 42, 180, 0, 39, 27, 46]
abbrev dktX5_shift_0 : List UInt8 := dkwX5_shift_0 ++ dktX5_shift_1
theorem dksX5_shift_0 : cX5_shift.data.toList.drop 0 = dktX5_shift_0 := by decide +kernel
theorem dksX5_shift_1 : cX5_shift.data.toList.drop 22 = dktX5_shift_1 := dk_seg dksX5_shift_0 22 rfl rfl
theorem dksX5_shift_2 : cX5_shift.data.toList.drop 44 = dktX5_shift_2 := dk_seg dksX5_shift_1 22 rfl rfl
theorem dksX5_shift_3 : cX5_shift.data.toList.drop 66 = dktX5_shift_3 := dk_seg dksX5_shift_2 22 rfl rfl
theorem dksX5_shift_4 : cX5_shift.data.toList.drop 88 = dktX5_shift_4 := dk_seg dksX5_shift_3 22 rfl rfl
theorem dksX5_shift_5 : cX5_shift.data.toList.drop 112 = dktX5_shift_5 := dk_seg dksX5_shift_4 24 rfl rfl
theorem dksX5_shift_6 : cX5_shift.data.toList.drop 135 = dktX5_shift_6 := dk_seg dksX5_shift_5 23 rfl rfl
theorem dksX5_shift_7 : cX5_shift.data.toList.drop 158 = dktX5_shift_7 := dk_seg dksX5_shift_6 23 rfl rfl
theorem dksX5_shift_8 : cX5_shift.data.toList.drop 182 = dktX5_shift_8 := dk_seg dksX5_shift_7 24 rfl rfl
theorem dX5_shift_0 : decode cX5_shift 0 = .ok (.iload_n 1, 1) := dk_27 (dk_at dksX5_shift_0 0 rfl rfl)
theorem dX5_shift_1 : decode cX5_shift 1 = .ok (.invokestatic 161, 3) := dk_184 0 161 (dk_at dksX5_shift_0 1 rfl rfl)
theorem dX5_shift_4 : decode cX5_shift 4 = .ok (.ifCond .eq 10, 3) := dk_153 0 10 (dk_at dksX5_shift_0 4 rfl rfl)
theorem dX5_shift_7 : decode cX5_shift 7 = .ok (.iload_n 3, 1) := dk_29 (dk_at dksX5_shift_0 7 rfl rfl)
theorem dX5_shift_8 : decode cX5_shift 8 = .ok (.invokestatic 161, 3) := dk_184 0 161 (dk_at dksX5_shift_0 8 rfl rfl)
theorem dX5_shift_11 : decode cX5_shift 11 = .ok (.ifCond .ne 5, 3) := dk_154 0 5 (dk_at dksX5_shift_0 11 rfl rfl)
theorem dX5_shift_14 : decode cX5_shift 14 = .ok (.iconst (-1), 1) := dk_2 (dk_at dksX5_shift_0 14 rfl rfl)
theorem dX5_shift_15 : decode cX5_shift 15 = .ok (.ireturn, 1) := dk_172 (dk_at dksX5_shift_0 15 rfl rfl)
theorem dX5_shift_16 : decode cX5_shift 16 = .ok (.aload_n 0, 1) := dk_42 (dk_at dksX5_shift_0 16 rfl rfl)
theorem dX5_shift_17 : decode cX5_shift 17 = .ok (.getfield 39, 3) := dk_180 0 39 (dk_at dksX5_shift_0 17 rfl rfl)
theorem dX5_shift_20 : decode cX5_shift 20 = .ok (.iload_n 1, 1) := dk_27 (dk_at dksX5_shift_0 20 rfl rfl)
theorem dX5_shift_21 : decode cX5_shift 21 = .ok (.iaload, 1) := dk_46 (dk_at dksX5_shift_0 21 rfl rfl)
theorem dX5_shift_22 : decode cX5_shift 22 = .ok (.ifCond .lt 12, 3) := dk_155 0 12 (dk_at dksX5_shift_1 0 rfl rfl)
theorem dX5_shift_25 : decode cX5_shift 25 = .ok (.aload_n 0, 1) := dk_42 (dk_at dksX5_shift_1 3 rfl rfl)
theorem dX5_shift_26 : decode cX5_shift 26 = .ok (.getfield 39, 3) := dk_180 0 39 (dk_at dksX5_shift_1 4 rfl rfl)
theorem dX5_shift_29 : decode cX5_shift 29 = .ok (.iload_n 3, 1) := dk_29 (dk_at dksX5_shift_1 7 rfl rfl)
theorem dX5_shift_30 : decode cX5_shift 30 = .ok (.iaload, 1) := dk_46 (dk_at dksX5_shift_1 8 rfl rfl)
theorem dX5_shift_31 : decode cX5_shift 31 = .ok (.ifCond .ge 6, 3) := dk_156 0 6 (dk_at dksX5_shift_1 9 rfl rfl)
theorem dX5_shift_34 : decode cX5_shift 34 = .ok (.bipush (-11), 2) := dk_16 245 (dk_at dksX5_shift_1 12 rfl rfl)
theorem dX5_shift_36 : decode cX5_shift 36 = .ok (.ireturn, 1) := dk_172 (dk_at dksX5_shift_1 14 rfl rfl)
theorem dX5_shift_37 : decode cX5_shift 37 = .ok (.aload_n 0, 1) := dk_42 (dk_at dksX5_shift_1 15 rfl rfl)
theorem dX5_shift_38 : decode cX5_shift 38 = .ok (.getfield 39, 3) := dk_180 0 39 (dk_at dksX5_shift_1 16 rfl rfl)
theorem dX5_shift_41 : decode cX5_shift 41 = .ok (.iload_n 1, 1) := dk_27 (dk_at dksX5_shift_1 19 rfl rfl)
theorem dX5_shift_42 : decode cX5_shift 42 = .ok (.iaload, 1) := dk_46 (dk_at dksX5_shift_1 20 rfl rfl)
theorem dX5_shift_43 : decode cX5_shift 43 = .ok (.aload_n 0, 1) := dk_42 (dk_at dksX5_shift_1 21 rfl rfl)
theorem dX5_shift_44 : decode cX5_shift 44 = .ok (.getfield 39, 3) := dk_180 0 39 (dk_at dksX5_shift_2 0 rfl rfl)
theorem dX5_shift_47 : decode cX5_shift 47 = .ok (.iload_n 3, 1) := dk_29 (dk_at dksX5_shift_2 3 rfl rfl)
theorem dX5_shift_48 : decode cX5_shift 48 = .ok (.iaload, 1) := dk_46 (dk_at dksX5_shift_2 4 rfl rfl)
theorem dX5_shift_49 : decode cX5_shift 49 = .ok (.if_icmp .eq 6, 3) := dk_159 0 6 (dk_at dksX5_shift_2 5 rfl rfl)
theorem dX5_shift_52 : decode cX5_shift 52 = .ok (.bipush (-12), 2) := dk_16 244 (dk_at dksX5_shift_2 8 rfl rfl)
theorem dX5_shift_54 : decode cX5_shift 54 = .ok (.ireturn, 1) := dk_172 (dk_at dksX5_shift_2 10 rfl rfl)
theorem dX5_shift_55 : decode cX5_shift 55 = .ok (.iload 5, 2) := dk_21 5 (dk_at dksX5_shift_2 11 rfl rfl)
theorem dX5_shift_57 : decode cX5_shift 57 = .ok (.ifCond .lt 61, 3) := dk_155 0 61 (dk_at dksX5_shift_2 13 rfl rfl)
theorem dX5_shift_60 : decode cX5_shift 60 = .ok (.iload_n 2, 1) := dk_28 (dk_at dksX5_shift_2 16 rfl rfl)
theorem dX5_shift_61 : decode cX5_shift 61 = .ok (.ifCond .lt 57, 3) := dk_155 0 57 (dk_at dksX5_shift_2 17 rfl rfl)
theorem dX5_shift_64 : decode cX5_shift 64 = .ok (.iload 4, 2) := dk_21 4 (dk_at dksX5_shift_2 20 rfl rfl)
theorem dX5_shift_66 : decode cX5_shift 66 = .ok (.ifCond .lt 52, 3) := dk_155 0 52 (dk_at dksX5_shift_3 0 rfl rfl)
theorem dX5_shift_69 : decode cX5_shift 69 = .ok (.iload 5, 2) := dk_21 5 (dk_at dksX5_shift_3 3 rfl rfl)
theorem dX5_shift_71 : decode cX5_shift 71 = .ok (.aload_n 0, 1) := dk_42 (dk_at dksX5_shift_3 5 rfl rfl)
theorem dX5_shift_72 : decode cX5_shift 72 = .ok (.getfield 42, 3) := dk_180 0 42 (dk_at dksX5_shift_3 6 rfl rfl)
theorem dX5_shift_75 : decode cX5_shift 75 = .ok (.iload_n 1, 1) := dk_27 (dk_at dksX5_shift_3 9 rfl rfl)
theorem dX5_shift_76 : decode cX5_shift 76 = .ok (.iaload, 1) := dk_46 (dk_at dksX5_shift_3 10 rfl rfl)
theorem dX5_shift_77 : decode cX5_shift 77 = .ok (.if_icmp .gt 41, 3) := dk_163 0 41 (dk_at dksX5_shift_3 11 rfl rfl)
theorem dX5_shift_80 : decode cX5_shift 80 = .ok (.iload 5, 2) := dk_21 5 (dk_at dksX5_shift_3 14 rfl rfl)
theorem dX5_shift_82 : decode cX5_shift 82 = .ok (.aload_n 0, 1) := dk_42 (dk_at dksX5_shift_3 16 rfl rfl)
theorem dX5_shift_83 : decode cX5_shift 83 = .ok (.getfield 42, 3) := dk_180 0 42 (dk_at dksX5_shift_3 17 rfl rfl)
theorem dX5_shift_86 : decode cX5_shift 86 = .ok (.iload_n 3, 1) := dk_29 (dk_at dksX5_shift_3 20 rfl rfl)
theorem dX5_shift_87 : decode cX5_shift 87 = .ok (.iaload, 1) := dk_46 (dk_at dksX5_shift_3 21 rfl rfl)
theorem dX5_shift_88 : decode cX5_shift 88 = .ok (.if_icmp .gt 30, 3) := dk_163 0 30 (dk_at dksX5_shift_4 0 rfl rfl)
theorem dX5_shift_91 : decode cX5_shift 91 = .ok (.iload_n 2, 1) := dk_28 (dk_at dksX5_shift_4 3 rfl rfl)
theorem dX5_shift_92 : decode cX5_shift 92 = .ok (.aload_n 0, 1) := dk_42 (dk_at dksX5_shift_4 4 rfl rfl)
theorem dX5_shift_93 : decode cX5_shift 93 = .ok (.getfield 42, 3) := dk_180 0 42 (dk_at dksX5_shift_4 5 rfl rfl)
theorem dX5_shift_96 : decode cX5_shift 96 = .ok (.iload_n 1, 1) := dk_27 (dk_at dksX5_shift_4 8 rfl rfl)
theorem dX5_shift_97 : decode cX5_shift 97 = .ok (.iaload, 1) := dk_46 (dk_at dksX5_shift_4 9 rfl rfl)
theorem dX5_shift_98 : decode cX5_shift 98 = .ok (.iload 5, 2) := dk_21 5 (dk_at dksX5_shift_4 10 rfl rfl)
theorem dX5_shift_100 : decode cX5_shift 100 = .ok (.isub, 1) := dk_100 (dk_at dksX5_shift_4 12 rfl rfl)
theorem dX5_shift_101 : decode cX5_shift 101 = .ok (.if_icmp .gt 17, 3) := dk_163 0 17 (dk_at dksX5_shift_4 13 rfl rfl)
theorem dX5_shift_104 : decode cX5_shift 104 = .ok (.iload 4, 2) := dk_21 4 (dk_at dksX5_shift_4 16 rfl rfl)
theorem dX5_shift_106 : decode cX5_shift 106 = .ok (.aload_n 0, 1) := dk_42 (dk_at dksX5_shift_4 18 rfl rfl)
theorem dX5_shift_107 : decode cX5_shift 107 = .ok (.getfield 42, 3) := dk_180 0 42 (dk_at dksX5_shift_4 19 rfl rfl)
theorem dX5_shift_110 : decode cX5_shift 110 = .ok (.iload_n 3, 1) := dk_29 (dk_at dksX5_shift_4 22 rfl rfl)
theorem dX5_shift_111 : decode cX5_shift 111 = .ok (.iaload, 1) := dk_46 (dk_at dksX5_shift_4 23 rfl rfl)
theorem dX5_shift_112 : decode cX5_shift 112 = .ok (.iload 5, 2) := dk_21 5 (dk_at dksX5_shift_5 0 rfl rfl)
theorem dX5_shift_114 : decode cX5_shift 114 = .ok (.isub, 1) := dk_100 (dk_at dksX5_shift_5 2 rfl rfl)
theorem dX5_shift_115 : decode cX5_shift 115 = .ok (.if_icmp .le 6, 3) := dk_164 0 6 (dk_at dksX5_shift_5 3 rfl rfl)
theorem dX5_shift_118 : decode cX5_shift 118 = .ok (.bipush (-13), 2) := dk_16 243 (dk_at dksX5_shift_5 6 rfl rfl)
theorem dX5_shift_120 : decode cX5_shift 120 = .ok (.ireturn, 1) := dk_172 (dk_at dksX5_shift_5 8 rfl rfl)
theorem dX5_shift_121 : decode cX5_shift 121 = .ok (.iconst 0, 1) := dk_3 (dk_at dksX5_shift_5 9 rfl rfl)
theorem dX5_shift_122 : decode cX5_shift 122 = .ok (.istore 6, 2) := dk_54 6 (dk_at dksX5_shift_5 10 rfl rfl)
theorem dX5_shift_124 : decode cX5_shift 124 = .ok (.iload 6, 2) := dk_21 6 (dk_at dksX5_shift_5 12 rfl rfl)
theorem dX5_shift_126 : decode cX5_shift 126 = .ok (.iload 5, 2) := dk_21 5 (dk_at dksX5_shift_5 14 rfl rfl)
theorem dX5_shift_128 : decode cX5_shift 128 = .ok (.if_icmp .ge 27, 3) := dk_162 0 27 (dk_at dksX5_shift_5 16 rfl rfl)
theorem dX5_shift_131 : decode cX5_shift 131 = .ok (.aload_n 0, 1) := dk_42 (dk_at dksX5_shift_5 19 rfl rfl)
theorem dX5_shift_132 : decode cX5_shift 132 = .ok (.getfield 50, 3) := dk_180 0 50 (dk_at dksX5_shift_5 20 rfl rfl)
theorem dX5_shift_135 : decode cX5_shift 135 = .ok (.iload 6, 2) := dk_21 6 (dk_at dksX5_shift_6 0 rfl rfl)
theorem dX5_shift_137 : decode cX5_shift 137 = .ok (.aload_n 0, 1) := dk_42 (dk_at dksX5_shift_6 2 rfl rfl)
theorem dX5_shift_138 : decode cX5_shift 138 = .ok (.getfield 47, 3) := dk_180 0 47 (dk_at dksX5_shift_6 3 rfl rfl)
theorem dX5_shift_141 : decode cX5_shift 141 = .ok (.iload_n 1, 1) := dk_27 (dk_at dksX5_shift_6 6 rfl rfl)
theorem dX5_shift_142 : decode cX5_shift 142 = .ok (.aaload, 1) := dk_50 (dk_at dksX5_shift_6 7 rfl rfl)
theorem dX5_shift_143 : decode cX5_shift 143 = .ok (.iload_n 2, 1) := dk_28 (dk_at dksX5_shift_6 8 rfl rfl)
theorem dX5_shift_144 : decode cX5_shift 144 = .ok (.iload 6, 2) := dk_21 6 (dk_at dksX5_shift_6 9 rfl rfl)
theorem dX5_shift_146 : decode cX5_shift 146 = .ok (.iadd, 1) := dk_96 (dk_at dksX5_shift_6 11 rfl rfl)
theorem dX5_shift_147 : decode cX5_shift 147 = .ok (.laload, 1) := dk_47 (dk_at dksX5_shift_6 12 rfl rfl)
theorem dX5_shift_148 : decode cX5_shift 148 = .ok (.lastore, 1) := dk_80 (dk_at dksX5_shift_6 13 rfl rfl)
theorem dX5_shift_149 : decode cX5_shift 149 = .ok (.iinc 6 1, 3) := dk_132 6 1 (dk_at dksX5_shift_6 14 rfl rfl)
theorem dX5_shift_152 : decode cX5_shift 152 = .ok (.goto (-28), 3) := dk_167 255 228 (dk_at dksX5_shift_6 17 rfl rfl)
theorem dX5_shift_155 : decode cX5_shift 155 = .ok (.iconst 0, 1) := dk_3 (dk_at dksX5_shift_6 20 rfl rfl)
theorem dX5_shift_156 : decode cX5_shift 156 = .ok (.istore 6, 2) := dk_54 6 (dk_at dksX5_shift_6 21 rfl rfl)
theorem dX5_shift_158 : decode cX5_shift 158 = .ok (.iload 6, 2) := dk_21 6 (dk_at dksX5_shift_7 0 rfl rfl)
theorem dX5_shift_160 : decode cX5_shift 160 = .ok (.iload 5, 2) := dk_21 5 (dk_at dksX5_shift_7 2 rfl rfl)
theorem dX5_shift_162 : decode cX5_shift 162 = .ok (.if_icmp .ge 28, 3) := dk_162 0 28 (dk_at dksX5_shift_7 4 rfl rfl)
theorem dX5_shift_165 : decode cX5_shift 165 = .ok (.aload_n 0, 1) := dk_42 (dk_at dksX5_shift_7 7 rfl rfl)
theorem dX5_shift_166 : decode cX5_shift 166 = .ok (.getfield 47, 3) := dk_180 0 47 (dk_at dksX5_shift_7 8 rfl rfl)
theorem dX5_shift_169 : decode cX5_shift 169 = .ok (.iload_n 3, 1) := dk_29 (dk_at dksX5_shift_7 11 rfl rfl)
theorem dX5_shift_170 : decode cX5_shift 170 = .ok (.aaload, 1) := dk_50 (dk_at dksX5_shift_7 12 rfl rfl)
theorem dX5_shift_171 : decode cX5_shift 171 = .ok (.iload 4, 2) := dk_21 4 (dk_at dksX5_shift_7 13 rfl rfl)
theorem dX5_shift_173 : decode cX5_shift 173 = .ok (.iload 6, 2) := dk_21 6 (dk_at dksX5_shift_7 15 rfl rfl)
theorem dX5_shift_175 : decode cX5_shift 175 = .ok (.iadd, 1) := dk_96 (dk_at dksX5_shift_7 17 rfl rfl)
theorem dX5_shift_176 : decode cX5_shift 176 = .ok (.aload_n 0, 1) := dk_42 (dk_at dksX5_shift_7 18 rfl rfl)
theorem dX5_shift_177 : decode cX5_shift 177 = .ok (.getfield 50, 3) := dk_180 0 50 (dk_at dksX5_shift_7 19 rfl rfl)
theorem dX5_shift_180 : decode cX5_shift 180 = .ok (.iload 6, 2) := dk_21 6 (dk_at dksX5_shift_7 22 rfl rfl)
theorem dX5_shift_182 : decode cX5_shift 182 = .ok (.laload, 1) := dk_47 (dk_at dksX5_shift_8 0 rfl rfl)
theorem dX5_shift_183 : decode cX5_shift 183 = .ok (.lastore, 1) := dk_80 (dk_at dksX5_shift_8 1 rfl rfl)
theorem dX5_shift_184 : decode cX5_shift 184 = .ok (.iinc 6 1, 3) := dk_132 6 1 (dk_at dksX5_shift_8 2 rfl rfl)
theorem dX5_shift_187 : decode cX5_shift 187 = .ok (.goto (-29), 3) := dk_167 255 227 (dk_at dksX5_shift_8 5 rfl rfl)
theorem dX5_shift_190 : decode cX5_shift 190 = .ok (.iload 5, 2) := dk_21 5 (dk_at dksX5_shift_8 8 rfl rfl)
theorem dX5_shift_192 : decode cX5_shift 192 = .ok (.ireturn, 1) := dk_172 (dk_at dksX5_shift_8 10 rfl rfl)
theorem q82 : (Jvm.Cond.initialized "SegmentedCacheModel") ∈ lw_all := lw_g (lw_at lw_m1 14 rfl) rfl
theorem q1056 : (Jvm.Cond.selects "SegmentedCacheModel" ({ cls := "java/lang/Object", name := "getClass", desc := "()Ljava/lang/Class;" } : Jvm.MethodName) ({ cls := "java/lang/Object", name := "getClass", desc := "()Ljava/lang/Class;" } : Jvm.MethodName)) ∈ lw_all := lw_g (lw_at lw_m5 28 rfl) rfl
theorem q1331 : (Jvm.Cond.selects "SegmentedCacheModel" ({ cls := "java/lang/Object", name := "equals", desc := "(Ljava/lang/Object;)Z" } : Jvm.MethodName) ({ cls := "java/lang/Object", name := "equals", desc := "(Ljava/lang/Object;)Z" } : Jvm.MethodName)) ∈ lw_all := lw_g (lw_at lw_m6 63 rfl) rfl
theorem q1696 : (Jvm.Cond.selects "SegmentedCacheModel" ({ cls := "java/lang/Object", name := "hashCode", desc := "()I" } : Jvm.MethodName) ({ cls := "java/lang/Object", name := "hashCode", desc := "()I" } : Jvm.MethodName)) ∈ lw_all := lw_g (lw_at lw_m7 188 rfl) rfl
theorem q2732 : (Jvm.Cond.instantiable "SegmentedCacheModel" (19 : Nat)) ∈ lw_all := lw_g (lw_at lw_m12 24 rfl) rfl
theorem q2734 : (Jvm.Cond.instanceMethod ({ cls := "SegmentedCacheModel", name := "<init>", desc := "()V" } : Jvm.MethodName)) ∈ lw_all := lw_g (lw_at lw_m12 26 rfl) rfl
theorem q2735 : (Jvm.Cond.code ({ cls := "SegmentedCacheModel", name := "<init>", desc := "()V" } : Jvm.MethodName) prog_13_method_1_code (2 : Nat) (Option.none : Option Jvm.ClassFile.FieldType)) ∈ lw_all := lw_g (lw_at lw_m12 27 rfl) rfl
theorem q2736 : (Jvm.Cond.methodLink "SegmentedCacheModel" (5 : Nat) ({ cls := "java/lang/Object", name := "<init>", desc := "()V" } : Jvm.MethodName)) ∈ lw_all := lw_g (lw_at lw_m12 28 rfl) rfl
theorem q2737 : (Jvm.Cond.classLink "SegmentedCacheModel" (45 : Nat) "[[J") ∈ lw_all := lw_g (lw_at lw_m12 29 rfl) rfl
theorem q2739 : (Jvm.Cond.fieldLink "SegmentedCacheModel" (11 : Nat) "SegmentedCacheModel" "g" "[I") ∈ lw_all := lw_g (lw_at lw_m12 31 rfl) rfl
theorem q2740 : (Jvm.Cond.fieldLink "SegmentedCacheModel" (15 : Nat) "SegmentedCacheModel" "saved" "[I") ∈ lw_all := lw_g (lw_at lw_m12 32 rfl) rfl
theorem q2741 : (Jvm.Cond.fieldLink "SegmentedCacheModel" (18 : Nat) "SegmentedCacheModel" "kept" "[I") ∈ lw_all := lw_g (lw_at lw_m12 33 rfl) rfl
theorem q2742 : (Jvm.Cond.fieldLink "SegmentedCacheModel" (164 : Nat) "SegmentedCacheModel" "isKept" "Z") ∈ lw_all := lw_g (lw_at lw_m12 34 rfl) rfl
theorem q2743 : (Jvm.Cond.fieldLink "SegmentedCacheModel" (21 : Nat) "SegmentedCacheModel" "going" "[I") ∈ lw_all := lw_g (lw_at lw_m12 35 rfl) rfl
theorem q2744 : (Jvm.Cond.fieldLink "SegmentedCacheModel" (62 : Nat) "SegmentedCacheModel" "goingMany" "I") ∈ lw_all := lw_g (lw_at lw_m12 36 rfl) rfl
theorem q2745 : (Jvm.Cond.fieldLink "SegmentedCacheModel" (24 : Nat) "SegmentedCacheModel" "text" "[I") ∈ lw_all := lw_g (lw_at lw_m12 37 rfl) rfl
theorem q2746 : (Jvm.Cond.fieldLink "SegmentedCacheModel" (124 : Nat) "SegmentedCacheModel" "textMany" "I") ∈ lw_all := lw_g (lw_at lw_m12 38 rfl) rfl
theorem q2747 : (Jvm.Cond.fieldLink "SegmentedCacheModel" (27 : Nat) "SegmentedCacheModel" "acts" "[I") ∈ lw_all := lw_g (lw_at lw_m12 39 rfl) rfl
theorem q2748 : (Jvm.Cond.fieldLink "SegmentedCacheModel" (30 : Nat) "SegmentedCacheModel" "keys" "[I") ∈ lw_all := lw_g (lw_at lw_m12 40 rfl) rfl
theorem q2749 : (Jvm.Cond.fieldLink "SegmentedCacheModel" (33 : Nat) "SegmentedCacheModel" "weights" "[I") ∈ lw_all := lw_g (lw_at lw_m12 41 rfl) rfl
theorem q2750 : (Jvm.Cond.fieldLink "SegmentedCacheModel" (36 : Nat) "SegmentedCacheModel" "many" "[I") ∈ lw_all := lw_g (lw_at lw_m12 42 rfl) rfl
theorem q2751 : (Jvm.Cond.fieldLink "SegmentedCacheModel" (139 : Nat) "SegmentedCacheModel" "traces" "I") ∈ lw_all := lw_g (lw_at lw_m12 43 rfl) rfl
theorem q2752 : (Jvm.Cond.fieldLink "SegmentedCacheModel" (39 : Nat) "SegmentedCacheModel" "tapeSort" "[I") ∈ lw_all := lw_g (lw_at lw_m12 44 rfl) rfl
theorem q2753 : (Jvm.Cond.fieldLink "SegmentedCacheModel" (42 : Nat) "SegmentedCacheModel" "tapeSize" "[I") ∈ lw_all := lw_g (lw_at lw_m12 45 rfl) rfl
theorem q2754 : (Jvm.Cond.fieldLink "SegmentedCacheModel" (47 : Nat) "SegmentedCacheModel" "tapes" "[[J") ∈ lw_all := lw_g (lw_at lw_m12 46 rfl) rfl
theorem q2755 : (Jvm.Cond.fieldLink "SegmentedCacheModel" (50 : Nat) "SegmentedCacheModel" "moved" "[J") ∈ lw_all := lw_g (lw_at lw_m12 47 rfl) rfl
theorem q2756 : (Jvm.Cond.fieldLink "SegmentedCacheModel" (130 : Nat) "SegmentedCacheModel" "spot" "I") ∈ lw_all := lw_g (lw_at lw_m12 48 rfl) rfl
theorem q2757 : (Jvm.Cond.fieldLink "SegmentedCacheModel" (127 : Nat) "SegmentedCacheModel" "fault" "I") ∈ lw_all := lw_g (lw_at lw_m12 49 rfl) rfl
theorem q2758 : (Jvm.Cond.laysFinal "SegmentedCacheModel" "SegmentedCacheModel" "g" "[I") ∈ lw_all := lw_g (lw_at lw_m12 50 rfl) rfl
theorem q2759 : (Jvm.Cond.soleField "SegmentedCacheModel" "g") ∈ lw_all := lw_g (lw_at lw_m12 51 rfl) rfl
theorem q2760 : (Jvm.Cond.laysFinal "SegmentedCacheModel" "SegmentedCacheModel" "saved" "[I") ∈ lw_all := lw_g (lw_at lw_m12 52 rfl) rfl
theorem q2761 : (Jvm.Cond.soleField "SegmentedCacheModel" "saved") ∈ lw_all := lw_g (lw_at lw_m12 53 rfl) rfl
theorem q2762 : (Jvm.Cond.laysFinal "SegmentedCacheModel" "SegmentedCacheModel" "kept" "[I") ∈ lw_all := lw_g (lw_at lw_m12 54 rfl) rfl
theorem q2763 : (Jvm.Cond.soleField "SegmentedCacheModel" "kept") ∈ lw_all := lw_g (lw_at lw_m12 55 rfl) rfl
theorem q2764 : (Jvm.Cond.lays "SegmentedCacheModel" "SegmentedCacheModel" "isKept" "Z") ∈ lw_all := lw_g (lw_at lw_m12 56 rfl) rfl
theorem q2765 : (Jvm.Cond.soleField "SegmentedCacheModel" "isKept") ∈ lw_all := lw_g (lw_at lw_m12 57 rfl) rfl
theorem q2766 : (Jvm.Cond.laysFinal "SegmentedCacheModel" "SegmentedCacheModel" "going" "[I") ∈ lw_all := lw_g (lw_at lw_m12 58 rfl) rfl
theorem q2767 : (Jvm.Cond.soleField "SegmentedCacheModel" "going") ∈ lw_all := lw_g (lw_at lw_m12 59 rfl) rfl
theorem q2768 : (Jvm.Cond.lays "SegmentedCacheModel" "SegmentedCacheModel" "goingMany" "I") ∈ lw_all := lw_g (lw_at lw_m12 60 rfl) rfl
theorem q2769 : (Jvm.Cond.soleField "SegmentedCacheModel" "goingMany") ∈ lw_all := lw_g (lw_at lw_m12 61 rfl) rfl
theorem q2770 : (Jvm.Cond.laysFinal "SegmentedCacheModel" "SegmentedCacheModel" "text" "[I") ∈ lw_all := lw_g (lw_at lw_m12 62 rfl) rfl
theorem q2771 : (Jvm.Cond.soleField "SegmentedCacheModel" "text") ∈ lw_all := lw_g (lw_at lw_m12 63 rfl) rfl
theorem q2772 : (Jvm.Cond.lays "SegmentedCacheModel" "SegmentedCacheModel" "textMany" "I") ∈ lw_all := lw_g (lw_at lw_m12 64 rfl) rfl
theorem q2773 : (Jvm.Cond.soleField "SegmentedCacheModel" "textMany") ∈ lw_all := lw_g (lw_at lw_m12 65 rfl) rfl
theorem q2774 : (Jvm.Cond.laysFinal "SegmentedCacheModel" "SegmentedCacheModel" "acts" "[I") ∈ lw_all := lw_g (lw_at lw_m12 66 rfl) rfl
theorem q2775 : (Jvm.Cond.soleField "SegmentedCacheModel" "acts") ∈ lw_all := lw_g (lw_at lw_m12 67 rfl) rfl
theorem q2776 : (Jvm.Cond.laysFinal "SegmentedCacheModel" "SegmentedCacheModel" "keys" "[I") ∈ lw_all := lw_g (lw_at lw_m12 68 rfl) rfl
theorem q2777 : (Jvm.Cond.soleField "SegmentedCacheModel" "keys") ∈ lw_all := lw_g (lw_at lw_m12 69 rfl) rfl
theorem q2778 : (Jvm.Cond.laysFinal "SegmentedCacheModel" "SegmentedCacheModel" "weights" "[I") ∈ lw_all := lw_g (lw_at lw_m12 70 rfl) rfl
theorem q2779 : (Jvm.Cond.soleField "SegmentedCacheModel" "weights") ∈ lw_all := lw_g (lw_at lw_m12 71 rfl) rfl
theorem q2780 : (Jvm.Cond.laysFinal "SegmentedCacheModel" "SegmentedCacheModel" "many" "[I") ∈ lw_all := lw_g (lw_at lw_m12 72 rfl) rfl
theorem q2781 : (Jvm.Cond.soleField "SegmentedCacheModel" "many") ∈ lw_all := lw_g (lw_at lw_m12 73 rfl) rfl
theorem q2782 : (Jvm.Cond.lays "SegmentedCacheModel" "SegmentedCacheModel" "traces" "I") ∈ lw_all := lw_g (lw_at lw_m12 74 rfl) rfl
theorem q2783 : (Jvm.Cond.soleField "SegmentedCacheModel" "traces") ∈ lw_all := lw_g (lw_at lw_m12 75 rfl) rfl
theorem q2784 : (Jvm.Cond.laysFinal "SegmentedCacheModel" "SegmentedCacheModel" "tapeSort" "[I") ∈ lw_all := lw_g (lw_at lw_m12 76 rfl) rfl
theorem q2785 : (Jvm.Cond.soleField "SegmentedCacheModel" "tapeSort") ∈ lw_all := lw_g (lw_at lw_m12 77 rfl) rfl
theorem q2786 : (Jvm.Cond.laysFinal "SegmentedCacheModel" "SegmentedCacheModel" "tapeSize" "[I") ∈ lw_all := lw_g (lw_at lw_m12 78 rfl) rfl
theorem q2787 : (Jvm.Cond.soleField "SegmentedCacheModel" "tapeSize") ∈ lw_all := lw_g (lw_at lw_m12 79 rfl) rfl
theorem q2788 : (Jvm.Cond.laysFinal "SegmentedCacheModel" "SegmentedCacheModel" "tapes" "[[J") ∈ lw_all := lw_g (lw_at lw_m12 80 rfl) rfl
theorem q2789 : (Jvm.Cond.soleField "SegmentedCacheModel" "tapes") ∈ lw_all := lw_g (lw_at lw_m12 81 rfl) rfl
theorem q2790 : (Jvm.Cond.laysFinal "SegmentedCacheModel" "SegmentedCacheModel" "moved" "[J") ∈ lw_all := lw_g (lw_at lw_m12 82 rfl) rfl
theorem q2791 : (Jvm.Cond.soleField "SegmentedCacheModel" "moved") ∈ lw_all := lw_g (lw_at lw_m12 83 rfl) rfl
theorem q2792 : (Jvm.Cond.lays "SegmentedCacheModel" "SegmentedCacheModel" "spot" "I") ∈ lw_all := lw_g (lw_at lw_m12 84 rfl) rfl
theorem q2793 : (Jvm.Cond.soleField "SegmentedCacheModel" "spot") ∈ lw_all := lw_g (lw_at lw_m12 85 rfl) rfl
theorem q2794 : (Jvm.Cond.lays "SegmentedCacheModel" "SegmentedCacheModel" "fault" "I") ∈ lw_all := lw_g (lw_at lw_m12 86 rfl) rfl
theorem q2795 : (Jvm.Cond.soleField "SegmentedCacheModel" "fault") ∈ lw_all := lw_g (lw_at lw_m12 87 rfl) rfl
theorem q2796 : (Jvm.Cond.superclass "SegmentedCacheModel" "java/lang/Object") ∈ lw_all := lw_g (lw_at lw_m12 88 rfl) rfl
theorem q2798 : (Jvm.Cond.instanceMethod ({ cls := "SegmentedCacheModel", name := "set", desc := "(II)I" } : Jvm.MethodName)) ∈ lw_all := lw_g (lw_at lw_m12 90 rfl) rfl
theorem q2799 : (Jvm.Cond.selects "SegmentedCacheModel" ({ cls := "SegmentedCacheModel", name := "set", desc := "(II)I" } : Jvm.MethodName) ({ cls := "SegmentedCacheModel", name := "set", desc := "(II)I" } : Jvm.MethodName)) ∈ lw_all := lw_g (lw_at lw_m12 91 rfl) rfl
theorem q2800 : (Jvm.Cond.code ({ cls := "SegmentedCacheModel", name := "set", desc := "(II)I" } : Jvm.MethodName) prog_13_method_18_code (5 : Nat) (Option.some Jvm.ClassFile.FieldType.int)) ∈ lw_all := lw_g (lw_at lw_m12 92 rfl) rfl
theorem q2801 : (Jvm.Cond.methodLink "SegmentedCacheModel" (54 : Nat) ({ cls := "SegmentedCacheModel", name := "in", desc := "(III)Z" } : Jvm.MethodName)) ∈ lw_all := lw_g (lw_at lw_m12 93 rfl) rfl
theorem q2802 : (Jvm.Cond.static ({ cls := "SegmentedCacheModel", name := "in", desc := "(III)Z" } : Jvm.MethodName)) ∈ lw_all := lw_g (lw_at lw_m12 94 rfl) rfl
theorem q2803 : (Jvm.Cond.code ({ cls := "SegmentedCacheModel", name := "in", desc := "(III)Z" } : Jvm.MethodName) prog_13_method_2_code (3 : Nat) (Option.some Jvm.ClassFile.FieldType.boolean)) ∈ lw_all := lw_g (lw_at lw_m12 95 rfl) rfl
theorem q2804 : (Jvm.Cond.methodLink "SegmentedCacheModel" (93 : Nat) ({ cls := "SegmentedCacheModel", name := "capacity", desc := "(I)V" } : Jvm.MethodName)) ∈ lw_all := lw_g (lw_at lw_m12 96 rfl) rfl
theorem q2805 : (Jvm.Cond.privateMethod ({ cls := "SegmentedCacheModel", name := "capacity", desc := "(I)V" } : Jvm.MethodName)) ∈ lw_tbl := lw_at lw_m12 97 rfl
theorem q2806 : (Jvm.Cond.instanceMethod ({ cls := "SegmentedCacheModel", name := "capacity", desc := "(I)V" } : Jvm.MethodName)) ∈ lw_all := lw_g (lw_at lw_m12 98 rfl) rfl
theorem q2807 : (Jvm.Cond.code ({ cls := "SegmentedCacheModel", name := "capacity", desc := "(I)V" } : Jvm.MethodName) prog_13_method_17_code (2 : Nat) (Option.none : Option Jvm.ClassFile.FieldType)) ∈ lw_all := lw_g (lw_at lw_m12 99 rfl) rfl
theorem q2808 : (Jvm.Cond.methodLink "SegmentedCacheModel" (86 : Nat) ({ cls := "SegmentedCacheModel", name := "trim", desc := "()V" } : Jvm.MethodName)) ∈ lw_all := lw_g (lw_at lw_m12 100 rfl) rfl
theorem q2809 : (Jvm.Cond.privateMethod ({ cls := "SegmentedCacheModel", name := "trim", desc := "()V" } : Jvm.MethodName)) ∈ lw_tbl := lw_at lw_m12 101 rfl
theorem q2810 : (Jvm.Cond.instanceMethod ({ cls := "SegmentedCacheModel", name := "trim", desc := "()V" } : Jvm.MethodName)) ∈ lw_all := lw_g (lw_at lw_m12 102 rfl) rfl
theorem q2811 : (Jvm.Cond.code ({ cls := "SegmentedCacheModel", name := "trim", desc := "()V" } : Jvm.MethodName) prog_13_method_12_code (2 : Nat) (Option.none : Option Jvm.ClassFile.FieldType)) ∈ lw_all := lw_g (lw_at lw_m12 103 rfl) rfl
theorem q2812 : (Jvm.Cond.methodLink "SegmentedCacheModel" (73 : Nat) ({ cls := "SegmentedCacheModel", name := "sinks", desc := "()V" } : Jvm.MethodName)) ∈ lw_all := lw_g (lw_at lw_m12 104 rfl) rfl
theorem q2813 : (Jvm.Cond.privateMethod ({ cls := "SegmentedCacheModel", name := "sinks", desc := "()V" } : Jvm.MethodName)) ∈ lw_tbl := lw_at lw_m12 105 rfl
theorem q2814 : (Jvm.Cond.instanceMethod ({ cls := "SegmentedCacheModel", name := "sinks", desc := "()V" } : Jvm.MethodName)) ∈ lw_all := lw_g (lw_at lw_m12 106 rfl) rfl
theorem q2815 : (Jvm.Cond.code ({ cls := "SegmentedCacheModel", name := "sinks", desc := "()V" } : Jvm.MethodName) prog_13_method_10_code (2 : Nat) (Option.none : Option Jvm.ClassFile.FieldType)) ∈ lw_all := lw_g (lw_at lw_m12 107 rfl) rfl
theorem q2816 : (Jvm.Cond.methodLink "SegmentedCacheModel" (66 : Nat) ({ cls := "SegmentedCacheModel", name := "oldest", desc := "(IZ)I" } : Jvm.MethodName)) ∈ lw_all := lw_g (lw_at lw_m12 108 rfl) rfl
theorem q2817 : (Jvm.Cond.privateMethod ({ cls := "SegmentedCacheModel", name := "oldest", desc := "(IZ)I" } : Jvm.MethodName)) ∈ lw_tbl := lw_at lw_m12 109 rfl
theorem q2818 : (Jvm.Cond.instanceMethod ({ cls := "SegmentedCacheModel", name := "oldest", desc := "(IZ)I" } : Jvm.MethodName)) ∈ lw_all := lw_g (lw_at lw_m12 110 rfl) rfl
theorem q2819 : (Jvm.Cond.code ({ cls := "SegmentedCacheModel", name := "oldest", desc := "(IZ)I" } : Jvm.MethodName) prog_13_method_8_code (5 : Nat) (Option.some Jvm.ClassFile.FieldType.int)) ∈ lw_all := lw_g (lw_at lw_m12 111 rfl) rfl
theorem q2820 : (Jvm.Cond.methodLink "SegmentedCacheModel" (58 : Nat) ({ cls := "SegmentedCacheModel", name := "goes", desc := "(II)V" } : Jvm.MethodName)) ∈ lw_all := lw_g (lw_at lw_m12 112 rfl) rfl
theorem q2821 : (Jvm.Cond.privateMethod ({ cls := "SegmentedCacheModel", name := "goes", desc := "(II)V" } : Jvm.MethodName)) ∈ lw_tbl := lw_at lw_m12 113 rfl
theorem q2822 : (Jvm.Cond.instanceMethod ({ cls := "SegmentedCacheModel", name := "goes", desc := "(II)V" } : Jvm.MethodName)) ∈ lw_all := lw_g (lw_at lw_m12 114 rfl) rfl
theorem q2823 : (Jvm.Cond.code ({ cls := "SegmentedCacheModel", name := "goes", desc := "(II)V" } : Jvm.MethodName) prog_13_method_5_code (3 : Nat) (Option.none : Option Jvm.ClassFile.FieldType)) ∈ lw_all := lw_g (lw_at lw_m12 115 rfl) rfl
theorem q2824 : (Jvm.Cond.methodLink "SegmentedCacheModel" (76 : Nat) ({ cls := "SegmentedCacheModel", name := "lets", desc := "()V" } : Jvm.MethodName)) ∈ lw_all := lw_g (lw_at lw_m12 116 rfl) rfl
theorem q2825 : (Jvm.Cond.privateMethod ({ cls := "SegmentedCacheModel", name := "lets", desc := "()V" } : Jvm.MethodName)) ∈ lw_tbl := lw_at lw_m12 117 rfl
theorem q2826 : (Jvm.Cond.instanceMethod ({ cls := "SegmentedCacheModel", name := "lets", desc := "()V" } : Jvm.MethodName)) ∈ lw_all := lw_g (lw_at lw_m12 118 rfl) rfl
theorem q2827 : (Jvm.Cond.code ({ cls := "SegmentedCacheModel", name := "lets", desc := "()V" } : Jvm.MethodName) prog_13_method_11_code (3 : Nat) (Option.none : Option Jvm.ClassFile.FieldType)) ∈ lw_all := lw_g (lw_at lw_m12 119 rfl) rfl
theorem q2828 : (Jvm.Cond.methodLink "SegmentedCacheModel" (70 : Nat) ({ cls := "SegmentedCacheModel", name := "went", desc := "(II)V" } : Jvm.MethodName)) ∈ lw_all := lw_g (lw_at lw_m12 120 rfl) rfl
theorem q2829 : (Jvm.Cond.privateMethod ({ cls := "SegmentedCacheModel", name := "went", desc := "(II)V" } : Jvm.MethodName)) ∈ lw_tbl := lw_at lw_m12 121 rfl
theorem q2830 : (Jvm.Cond.instanceMethod ({ cls := "SegmentedCacheModel", name := "went", desc := "(II)V" } : Jvm.MethodName)) ∈ lw_all := lw_g (lw_at lw_m12 122 rfl) rfl
theorem q2831 : (Jvm.Cond.code ({ cls := "SegmentedCacheModel", name := "went", desc := "(II)V" } : Jvm.MethodName) prog_13_method_9_code (4 : Nat) (Option.none : Option Jvm.ClassFile.FieldType)) ∈ lw_all := lw_g (lw_at lw_m12 123 rfl) rfl
theorem q2833 : (Jvm.Cond.instanceMethod ({ cls := "SegmentedCacheModel", name := "told", desc := "(I)I" } : Jvm.MethodName)) ∈ lw_all := lw_g (lw_at lw_m12 125 rfl) rfl
theorem q2834 : (Jvm.Cond.selects "SegmentedCacheModel" ({ cls := "SegmentedCacheModel", name := "told", desc := "(I)I" } : Jvm.MethodName) ({ cls := "SegmentedCacheModel", name := "told", desc := "(I)I" } : Jvm.MethodName)) ∈ lw_all := lw_g (lw_at lw_m12 126 rfl) rfl
theorem q2835 : (Jvm.Cond.code ({ cls := "SegmentedCacheModel", name := "told", desc := "(I)I" } : Jvm.MethodName) prog_13_method_19_code (2 : Nat) (Option.some Jvm.ClassFile.FieldType.int)) ∈ lw_all := lw_g (lw_at lw_m12 127 rfl) rfl
theorem q2837 : (Jvm.Cond.instanceMethod ({ cls := "SegmentedCacheModel", name := "put", desc := "(IIIII)I" } : Jvm.MethodName)) ∈ lw_all := lw_g (lw_at lw_m12 129 rfl) rfl
theorem q2838 : (Jvm.Cond.selects "SegmentedCacheModel" ({ cls := "SegmentedCacheModel", name := "put", desc := "(IIIII)I" } : Jvm.MethodName) ({ cls := "SegmentedCacheModel", name := "put", desc := "(IIIII)I" } : Jvm.MethodName)) ∈ lw_all := lw_g (lw_at lw_m12 130 rfl) rfl
theorem q2839 : (Jvm.Cond.code ({ cls := "SegmentedCacheModel", name := "put", desc := "(IIIII)I" } : Jvm.MethodName) prog_13_method_20_code (6 : Nat) (Option.some Jvm.ClassFile.FieldType.int)) ∈ lw_all := lw_g (lw_at lw_m12 131 rfl) rfl
theorem q2840 : (Jvm.Cond.methodLink "SegmentedCacheModel" (96 : Nat) ({ cls := "SegmentedCacheModel", name := "isKey", desc := "(II)Z" } : Jvm.MethodName)) ∈ lw_all := lw_g (lw_at lw_m12 132 rfl) rfl
theorem q2841 : (Jvm.Cond.static ({ cls := "SegmentedCacheModel", name := "isKey", desc := "(II)Z" } : Jvm.MethodName)) ∈ lw_all := lw_g (lw_at lw_m12 133 rfl) rfl
theorem q2842 : (Jvm.Cond.code ({ cls := "SegmentedCacheModel", name := "isKey", desc := "(II)Z" } : Jvm.MethodName) prog_13_method_3_code (2 : Nat) (Option.some Jvm.ClassFile.FieldType.boolean)) ∈ lw_all := lw_g (lw_at lw_m12 134 rfl) rfl
theorem q2843 : (Jvm.Cond.methodLink "SegmentedCacheModel" (100 : Nat) ({ cls := "SegmentedCacheModel", name := "putIn", desc := "(IIII)I" } : Jvm.MethodName)) ∈ lw_all := lw_g (lw_at lw_m12 135 rfl) rfl
theorem q2844 : (Jvm.Cond.privateMethod ({ cls := "SegmentedCacheModel", name := "putIn", desc := "(IIII)I" } : Jvm.MethodName)) ∈ lw_tbl := lw_at lw_m12 136 rfl
theorem q2845 : (Jvm.Cond.instanceMethod ({ cls := "SegmentedCacheModel", name := "putIn", desc := "(IIII)I" } : Jvm.MethodName)) ∈ lw_all := lw_g (lw_at lw_m12 137 rfl) rfl
theorem q2846 : (Jvm.Cond.code ({ cls := "SegmentedCacheModel", name := "putIn", desc := "(IIII)I" } : Jvm.MethodName) prog_13_method_14_code (6 : Nat) (Option.some Jvm.ClassFile.FieldType.int)) ∈ lw_all := lw_g (lw_at lw_m12 138 rfl) rfl
theorem q2847 : (Jvm.Cond.methodLink "SegmentedCacheModel" (79 : Nat) ({ cls := "SegmentedCacheModel", name := "weighs", desc := "(II)V" } : Jvm.MethodName)) ∈ lw_all := lw_g (lw_at lw_m12 139 rfl) rfl
theorem q2848 : (Jvm.Cond.privateMethod ({ cls := "SegmentedCacheModel", name := "weighs", desc := "(II)V" } : Jvm.MethodName)) ∈ lw_tbl := lw_at lw_m12 140 rfl
theorem q2849 : (Jvm.Cond.instanceMethod ({ cls := "SegmentedCacheModel", name := "weighs", desc := "(II)V" } : Jvm.MethodName)) ∈ lw_all := lw_g (lw_at lw_m12 141 rfl) rfl
theorem q2850 : (Jvm.Cond.code ({ cls := "SegmentedCacheModel", name := "weighs", desc := "(II)V" } : Jvm.MethodName) prog_13_method_6_code (3 : Nat) (Option.none : Option Jvm.ClassFile.FieldType)) ∈ lw_all := lw_g (lw_at lw_m12 142 rfl) rfl
theorem q2851 : (Jvm.Cond.methodLink "SegmentedCacheModel" (82 : Nat) ({ cls := "SegmentedCacheModel", name := "hit", desc := "(I)V" } : Jvm.MethodName)) ∈ lw_all := lw_g (lw_at lw_m12 143 rfl) rfl
theorem q2852 : (Jvm.Cond.privateMethod ({ cls := "SegmentedCacheModel", name := "hit", desc := "(I)V" } : Jvm.MethodName)) ∈ lw_tbl := lw_at lw_m12 144 rfl
theorem q2853 : (Jvm.Cond.instanceMethod ({ cls := "SegmentedCacheModel", name := "hit", desc := "(I)V" } : Jvm.MethodName)) ∈ lw_all := lw_g (lw_at lw_m12 145 rfl) rfl
theorem q2854 : (Jvm.Cond.code ({ cls := "SegmentedCacheModel", name := "hit", desc := "(I)V" } : Jvm.MethodName) prog_13_method_13_code (2 : Nat) (Option.none : Option Jvm.ClassFile.FieldType)) ∈ lw_all := lw_g (lw_at lw_m12 146 rfl) rfl
theorem q2856 : (Jvm.Cond.instanceMethod ({ cls := "SegmentedCacheModel", name := "get", desc := "(II)J" } : Jvm.MethodName)) ∈ lw_all := lw_g (lw_at lw_m12 148 rfl) rfl
theorem q2857 : (Jvm.Cond.selects "SegmentedCacheModel" ({ cls := "SegmentedCacheModel", name := "get", desc := "(II)J" } : Jvm.MethodName) ({ cls := "SegmentedCacheModel", name := "get", desc := "(II)J" } : Jvm.MethodName)) ∈ lw_all := lw_g (lw_at lw_m12 149 rfl) rfl
theorem q2858 : (Jvm.Cond.code ({ cls := "SegmentedCacheModel", name := "get", desc := "(II)J" } : Jvm.MethodName) prog_13_method_21_code (5 : Nat) (Option.some Jvm.ClassFile.FieldType.long)) ∈ lw_all := lw_g (lw_at lw_m12 150 rfl) rfl
theorem q2859 : (Jvm.Cond.constantLong "SegmentedCacheModel" (104 : Nat) (-9223372036854775808 : Int64)) ∈ lw_all := lw_g (lw_at lw_m12 151 rfl) rfl
theorem q2860 : (Jvm.Cond.methodLink "SegmentedCacheModel" (106 : Nat) ({ cls := "SegmentedCacheModel", name := "gets", desc := "(I)Z" } : Jvm.MethodName)) ∈ lw_all := lw_g (lw_at lw_m12 152 rfl) rfl
theorem q2861 : (Jvm.Cond.privateMethod ({ cls := "SegmentedCacheModel", name := "gets", desc := "(I)Z" } : Jvm.MethodName)) ∈ lw_tbl := lw_at lw_m12 153 rfl
theorem q2862 : (Jvm.Cond.instanceMethod ({ cls := "SegmentedCacheModel", name := "gets", desc := "(I)Z" } : Jvm.MethodName)) ∈ lw_all := lw_g (lw_at lw_m12 154 rfl) rfl
theorem q2863 : (Jvm.Cond.code ({ cls := "SegmentedCacheModel", name := "gets", desc := "(I)Z" } : Jvm.MethodName) prog_13_method_15_code (2 : Nat) (Option.some Jvm.ClassFile.FieldType.boolean)) ∈ lw_all := lw_g (lw_at lw_m12 155 rfl) rfl
theorem q2864 : (Jvm.Cond.methodLink "SegmentedCacheModel" (89 : Nat) ({ cls := "SegmentedCacheModel", name := "isThing", desc := "(I)Z" } : Jvm.MethodName)) ∈ lw_all := lw_g (lw_at lw_m12 156 rfl) rfl
theorem q2865 : (Jvm.Cond.privateMethod ({ cls := "SegmentedCacheModel", name := "isThing", desc := "(I)Z" } : Jvm.MethodName)) ∈ lw_tbl := lw_at lw_m12 157 rfl
theorem q2866 : (Jvm.Cond.instanceMethod ({ cls := "SegmentedCacheModel", name := "isThing", desc := "(I)Z" } : Jvm.MethodName)) ∈ lw_all := lw_g (lw_at lw_m12 158 rfl) rfl
theorem q2867 : (Jvm.Cond.code ({ cls := "SegmentedCacheModel", name := "isThing", desc := "(I)Z" } : Jvm.MethodName) prog_13_method_7_code (2 : Nat) (Option.some Jvm.ClassFile.FieldType.boolean)) ∈ lw_all := lw_g (lw_at lw_m12 159 rfl) rfl
theorem q2869 : (Jvm.Cond.instanceMethod ({ cls := "SegmentedCacheModel", name := "drop", desc := "(II)I" } : Jvm.MethodName)) ∈ lw_all := lw_g (lw_at lw_m12 161 rfl) rfl
theorem q2870 : (Jvm.Cond.selects "SegmentedCacheModel" ({ cls := "SegmentedCacheModel", name := "drop", desc := "(II)I" } : Jvm.MethodName) ({ cls := "SegmentedCacheModel", name := "drop", desc := "(II)I" } : Jvm.MethodName)) ∈ lw_all := lw_g (lw_at lw_m12 162 rfl) rfl
theorem q2871 : (Jvm.Cond.code ({ cls := "SegmentedCacheModel", name := "drop", desc := "(II)I" } : Jvm.MethodName) prog_13_method_22_code (3 : Nat) (Option.some Jvm.ClassFile.FieldType.int)) ∈ lw_all := lw_g (lw_at lw_m12 163 rfl) rfl
theorem q2872 : (Jvm.Cond.methodLink "SegmentedCacheModel" (109 : Nat) ({ cls := "SegmentedCacheModel", name := "drops", desc := "(I)I" } : Jvm.MethodName)) ∈ lw_all := lw_g (lw_at lw_m12 164 rfl) rfl
theorem q2873 : (Jvm.Cond.privateMethod ({ cls := "SegmentedCacheModel", name := "drops", desc := "(I)I" } : Jvm.MethodName)) ∈ lw_tbl := lw_at lw_m12 165 rfl
theorem q2874 : (Jvm.Cond.instanceMethod ({ cls := "SegmentedCacheModel", name := "drops", desc := "(I)I" } : Jvm.MethodName)) ∈ lw_all := lw_g (lw_at lw_m12 166 rfl) rfl
theorem q2875 : (Jvm.Cond.code ({ cls := "SegmentedCacheModel", name := "drops", desc := "(I)I" } : Jvm.MethodName) prog_13_method_16_code (3 : Nat) (Option.some Jvm.ClassFile.FieldType.int)) ∈ lw_all := lw_g (lw_at lw_m12 167 rfl) rfl
theorem q2877 : (Jvm.Cond.instanceMethod ({ cls := "SegmentedCacheModel", name := "pin", desc := "(IIZ)I" } : Jvm.MethodName)) ∈ lw_all := lw_g (lw_at lw_m12 169 rfl) rfl
theorem q2878 : (Jvm.Cond.selects "SegmentedCacheModel" ({ cls := "SegmentedCacheModel", name := "pin", desc := "(IIZ)I" } : Jvm.MethodName) ({ cls := "SegmentedCacheModel", name := "pin", desc := "(IIZ)I" } : Jvm.MethodName)) ∈ lw_all := lw_g (lw_at lw_m12 170 rfl) rfl
theorem q2879 : (Jvm.Cond.code ({ cls := "SegmentedCacheModel", name := "pin", desc := "(IIZ)I" } : Jvm.MethodName) prog_13_method_23_code (6 : Nat) (Option.some Jvm.ClassFile.FieldType.int)) ∈ lw_all := lw_g (lw_at lw_m12 171 rfl) rfl
theorem q2881 : (Jvm.Cond.instanceMethod ({ cls := "SegmentedCacheModel", name := "of", desc := "(III)I" } : Jvm.MethodName)) ∈ lw_all := lw_g (lw_at lw_m12 173 rfl) rfl
theorem q2882 : (Jvm.Cond.selects "SegmentedCacheModel" ({ cls := "SegmentedCacheModel", name := "of", desc := "(III)I" } : Jvm.MethodName) ({ cls := "SegmentedCacheModel", name := "of", desc := "(III)I" } : Jvm.MethodName)) ∈ lw_all := lw_g (lw_at lw_m12 174 rfl) rfl
theorem q2883 : (Jvm.Cond.code ({ cls := "SegmentedCacheModel", name := "of", desc := "(III)I" } : Jvm.MethodName) prog_13_method_25_code (6 : Nat) (Option.some Jvm.ClassFile.FieldType.int)) ∈ lw_all := lw_g (lw_at lw_m12 175 rfl) rfl
theorem q2884 : (Jvm.Cond.methodLink "SegmentedCacheModel" (113 : Nat) ({ cls := "SegmentedCacheModel", name := "placeOf", desc := "(I)I" } : Jvm.MethodName)) ∈ lw_all := lw_g (lw_at lw_m12 176 rfl) rfl
theorem q2885 : (Jvm.Cond.privateMethod ({ cls := "SegmentedCacheModel", name := "placeOf", desc := "(I)I" } : Jvm.MethodName)) ∈ lw_tbl := lw_at lw_m12 177 rfl
theorem q2886 : (Jvm.Cond.instanceMethod ({ cls := "SegmentedCacheModel", name := "placeOf", desc := "(I)I" } : Jvm.MethodName)) ∈ lw_all := lw_g (lw_at lw_m12 178 rfl) rfl
theorem q2887 : (Jvm.Cond.code ({ cls := "SegmentedCacheModel", name := "placeOf", desc := "(I)I" } : Jvm.MethodName) prog_13_method_24_code (4 : Nat) (Option.some Jvm.ClassFile.FieldType.int)) ∈ lw_all := lw_g (lw_at lw_m12 179 rfl) rfl
theorem q2889 : (Jvm.Cond.instanceMethod ({ cls := "SegmentedCacheModel", name := "key", desc := "(II)I" } : Jvm.MethodName)) ∈ lw_all := lw_g (lw_at lw_m12 181 rfl) rfl
theorem q2890 : (Jvm.Cond.selects "SegmentedCacheModel" ({ cls := "SegmentedCacheModel", name := "key", desc := "(II)I" } : Jvm.MethodName) ({ cls := "SegmentedCacheModel", name := "key", desc := "(II)I" } : Jvm.MethodName)) ∈ lw_all := lw_g (lw_at lw_m12 182 rfl) rfl
theorem q2891 : (Jvm.Cond.code ({ cls := "SegmentedCacheModel", name := "key", desc := "(II)I" } : Jvm.MethodName) prog_13_method_27_code (3 : Nat) (Option.some Jvm.ClassFile.FieldType.int)) ∈ lw_all := lw_g (lw_at lw_m12 183 rfl) rfl
theorem q2892 : (Jvm.Cond.methodLink "SegmentedCacheModel" (116 : Nat) ({ cls := "SegmentedCacheModel", name := "keyAt", desc := "(II)I" } : Jvm.MethodName)) ∈ lw_all := lw_g (lw_at lw_m12 184 rfl) rfl
theorem q2893 : (Jvm.Cond.privateMethod ({ cls := "SegmentedCacheModel", name := "keyAt", desc := "(II)I" } : Jvm.MethodName)) ∈ lw_tbl := lw_at lw_m12 185 rfl
theorem q2894 : (Jvm.Cond.instanceMethod ({ cls := "SegmentedCacheModel", name := "keyAt", desc := "(II)I" } : Jvm.MethodName)) ∈ lw_all := lw_g (lw_at lw_m12 186 rfl) rfl
theorem q2895 : (Jvm.Cond.code ({ cls := "SegmentedCacheModel", name := "keyAt", desc := "(II)I" } : Jvm.MethodName) prog_13_method_26_code (4 : Nat) (Option.some Jvm.ClassFile.FieldType.int)) ∈ lw_all := lw_g (lw_at lw_m12 187 rfl) rfl
theorem q2897 : (Jvm.Cond.instanceMethod ({ cls := "SegmentedCacheModel", name := "gone", desc := "(I)I" } : Jvm.MethodName)) ∈ lw_all := lw_g (lw_at lw_m12 189 rfl) rfl
theorem q2898 : (Jvm.Cond.selects "SegmentedCacheModel" ({ cls := "SegmentedCacheModel", name := "gone", desc := "(I)I" } : Jvm.MethodName) ({ cls := "SegmentedCacheModel", name := "gone", desc := "(I)I" } : Jvm.MethodName)) ∈ lw_all := lw_g (lw_at lw_m12 190 rfl) rfl
theorem q2899 : (Jvm.Cond.code ({ cls := "SegmentedCacheModel", name := "gone", desc := "(I)I" } : Jvm.MethodName) prog_13_method_28_code (2 : Nat) (Option.some Jvm.ClassFile.FieldType.int)) ∈ lw_all := lw_g (lw_at lw_m12 191 rfl) rfl
theorem q2901 : (Jvm.Cond.instanceMethod ({ cls := "SegmentedCacheModel", name := "victim", desc := "(I)I" } : Jvm.MethodName)) ∈ lw_all := lw_g (lw_at lw_m12 193 rfl) rfl
theorem q2902 : (Jvm.Cond.selects "SegmentedCacheModel" ({ cls := "SegmentedCacheModel", name := "victim", desc := "(I)I" } : Jvm.MethodName) ({ cls := "SegmentedCacheModel", name := "victim", desc := "(I)I" } : Jvm.MethodName)) ∈ lw_all := lw_g (lw_at lw_m12 194 rfl) rfl
theorem q2903 : (Jvm.Cond.code ({ cls := "SegmentedCacheModel", name := "victim", desc := "(I)I" } : Jvm.MethodName) prog_13_method_29_code (3 : Nat) (Option.some Jvm.ClassFile.FieldType.int)) ∈ lw_all := lw_g (lw_at lw_m12 195 rfl) rfl
theorem q2904 : (Jvm.Cond.methodLink "SegmentedCacheModel" (120 : Nat) ({ cls := "SegmentedCacheModel", name := "copy", desc := "([I[I)V" } : Jvm.MethodName)) ∈ lw_all := lw_g (lw_at lw_m12 196 rfl) rfl
theorem q2905 : (Jvm.Cond.static ({ cls := "SegmentedCacheModel", name := "copy", desc := "([I[I)V" } : Jvm.MethodName)) ∈ lw_all := lw_g (lw_at lw_m12 197 rfl) rfl
theorem q2906 : (Jvm.Cond.code ({ cls := "SegmentedCacheModel", name := "copy", desc := "([I[I)V" } : Jvm.MethodName) prog_13_method_4_code (3 : Nat) (Option.none : Option Jvm.ClassFile.FieldType)) ∈ lw_all := lw_g (lw_at lw_m12 198 rfl) rfl
theorem q2908 : (Jvm.Cond.instanceMethod ({ cls := "SegmentedCacheModel", name := "feed", desc := "(I)I" } : Jvm.MethodName)) ∈ lw_all := lw_g (lw_at lw_m12 200 rfl) rfl
theorem q2909 : (Jvm.Cond.selects "SegmentedCacheModel" ({ cls := "SegmentedCacheModel", name := "feed", desc := "(I)I" } : Jvm.MethodName) ({ cls := "SegmentedCacheModel", name := "feed", desc := "(I)I" } : Jvm.MethodName)) ∈ lw_all := lw_g (lw_at lw_m12 201 rfl) rfl
theorem q2910 : (Jvm.Cond.code ({ cls := "SegmentedCacheModel", name := "feed", desc := "(I)I" } : Jvm.MethodName) prog_13_method_30_code (2 : Nat) (Option.some Jvm.ClassFile.FieldType.int)) ∈ lw_all := lw_g (lw_at lw_m12 202 rfl) rfl
theorem q2912 : (Jvm.Cond.instanceMethod ({ cls := "SegmentedCacheModel", name := "trace", desc := "()I" } : Jvm.MethodName)) ∈ lw_all := lw_g (lw_at lw_m12 204 rfl) rfl
theorem q2913 : (Jvm.Cond.selects "SegmentedCacheModel" ({ cls := "SegmentedCacheModel", name := "trace", desc := "()I" } : Jvm.MethodName) ({ cls := "SegmentedCacheModel", name := "trace", desc := "()I" } : Jvm.MethodName)) ∈ lw_all := lw_g (lw_at lw_m12 205 rfl) rfl
theorem q2914 : (Jvm.Cond.code ({ cls := "SegmentedCacheModel", name := "trace", desc := "()I" } : Jvm.MethodName) prog_13_method_34_code (2 : Nat) (Option.some Jvm.ClassFile.FieldType.int)) ∈ lw_all := lw_g (lw_at lw_m12 206 rfl) rfl
theorem q2915 : (Jvm.Cond.methodLink "SegmentedCacheModel" (142 : Nat) ({ cls := "SegmentedCacheModel", name := "clause", desc := "(I)V" } : Jvm.MethodName)) ∈ lw_all := lw_g (lw_at lw_m12 207 rfl) rfl
theorem q2916 : (Jvm.Cond.privateMethod ({ cls := "SegmentedCacheModel", name := "clause", desc := "(I)V" } : Jvm.MethodName)) ∈ lw_tbl := lw_at lw_m12 208 rfl
theorem q2917 : (Jvm.Cond.instanceMethod ({ cls := "SegmentedCacheModel", name := "clause", desc := "(I)V" } : Jvm.MethodName)) ∈ lw_all := lw_g (lw_at lw_m12 209 rfl) rfl
theorem q2918 : (Jvm.Cond.code ({ cls := "SegmentedCacheModel", name := "clause", desc := "(I)V" } : Jvm.MethodName) prog_13_method_33_code (5 : Nat) (Option.none : Option Jvm.ClassFile.FieldType)) ∈ lw_all := lw_g (lw_at lw_m12 210 rfl) rfl
theorem q2919 : (Jvm.Cond.methodLink "SegmentedCacheModel" (133 : Nat) ({ cls := "SegmentedCacheModel", name := "sees", desc := "(II)Z" } : Jvm.MethodName)) ∈ lw_all := lw_g (lw_at lw_m12 211 rfl) rfl
theorem q2920 : (Jvm.Cond.privateMethod ({ cls := "SegmentedCacheModel", name := "sees", desc := "(II)Z" } : Jvm.MethodName)) ∈ lw_tbl := lw_at lw_m12 212 rfl
theorem q2921 : (Jvm.Cond.instanceMethod ({ cls := "SegmentedCacheModel", name := "sees", desc := "(II)Z" } : Jvm.MethodName)) ∈ lw_all := lw_g (lw_at lw_m12 213 rfl) rfl
theorem q2922 : (Jvm.Cond.code ({ cls := "SegmentedCacheModel", name := "sees", desc := "(II)Z" } : Jvm.MethodName) prog_13_method_31_code (3 : Nat) (Option.some Jvm.ClassFile.FieldType.boolean)) ∈ lw_all := lw_g (lw_at lw_m12 214 rfl) rfl
theorem q2923 : (Jvm.Cond.methodLink "SegmentedCacheModel" (136 : Nat) ({ cls := "SegmentedCacheModel", name := "must", desc := "(II)I" } : Jvm.MethodName)) ∈ lw_all := lw_g (lw_at lw_m12 215 rfl) rfl
theorem q2924 : (Jvm.Cond.privateMethod ({ cls := "SegmentedCacheModel", name := "must", desc := "(II)I" } : Jvm.MethodName)) ∈ lw_tbl := lw_at lw_m12 216 rfl
theorem q2925 : (Jvm.Cond.instanceMethod ({ cls := "SegmentedCacheModel", name := "must", desc := "(II)I" } : Jvm.MethodName)) ∈ lw_all := lw_g (lw_at lw_m12 217 rfl) rfl
theorem q2926 : (Jvm.Cond.code ({ cls := "SegmentedCacheModel", name := "must", desc := "(II)I" } : Jvm.MethodName) prog_13_method_32_code (3 : Nat) (Option.some Jvm.ClassFile.FieldType.int)) ∈ lw_all := lw_g (lw_at lw_m12 218 rfl) rfl
theorem q2928 : (Jvm.Cond.instanceMethod ({ cls := "SegmentedCacheModel", name := "run", desc := "(I)I" } : Jvm.MethodName)) ∈ lw_all := lw_g (lw_at lw_m12 220 rfl) rfl
theorem q2929 : (Jvm.Cond.selects "SegmentedCacheModel" ({ cls := "SegmentedCacheModel", name := "run", desc := "(I)I" } : Jvm.MethodName) ({ cls := "SegmentedCacheModel", name := "run", desc := "(I)I" } : Jvm.MethodName)) ∈ lw_all := lw_g (lw_at lw_m12 221 rfl) rfl
theorem q2930 : (Jvm.Cond.code ({ cls := "SegmentedCacheModel", name := "run", desc := "(I)I" } : Jvm.MethodName) prog_13_method_37_code (2 : Nat) (Option.some Jvm.ClassFile.FieldType.int)) ∈ lw_all := lw_g (lw_at lw_m12 222 rfl) rfl
theorem q2931 : (Jvm.Cond.methodLink "SegmentedCacheModel" (145 : Nat) ({ cls := "SegmentedCacheModel", name := "isTrace", desc := "(I)Z" } : Jvm.MethodName)) ∈ lw_all := lw_g (lw_at lw_m12 223 rfl) rfl
theorem q2932 : (Jvm.Cond.privateMethod ({ cls := "SegmentedCacheModel", name := "isTrace", desc := "(I)Z" } : Jvm.MethodName)) ∈ lw_tbl := lw_at lw_m12 224 rfl
theorem q2933 : (Jvm.Cond.instanceMethod ({ cls := "SegmentedCacheModel", name := "isTrace", desc := "(I)Z" } : Jvm.MethodName)) ∈ lw_all := lw_g (lw_at lw_m12 225 rfl) rfl
theorem q2934 : (Jvm.Cond.code ({ cls := "SegmentedCacheModel", name := "isTrace", desc := "(I)Z" } : Jvm.MethodName) prog_13_method_36_code (2 : Nat) (Option.some Jvm.ClassFile.FieldType.boolean)) ∈ lw_all := lw_g (lw_at lw_m12 226 rfl) rfl
theorem q2935 : (Jvm.Cond.methodLink "SegmentedCacheModel" (148 : Nat) ({ cls := "SegmentedCacheModel", name := "runs", desc := "(I)I" } : Jvm.MethodName)) ∈ lw_all := lw_g (lw_at lw_m12 227 rfl) rfl
theorem q2936 : (Jvm.Cond.privateMethod ({ cls := "SegmentedCacheModel", name := "runs", desc := "(I)I" } : Jvm.MethodName)) ∈ lw_tbl := lw_at lw_m12 228 rfl
theorem q2937 : (Jvm.Cond.instanceMethod ({ cls := "SegmentedCacheModel", name := "runs", desc := "(I)I" } : Jvm.MethodName)) ∈ lw_all := lw_g (lw_at lw_m12 229 rfl) rfl
theorem q2938 : (Jvm.Cond.code ({ cls := "SegmentedCacheModel", name := "runs", desc := "(I)I" } : Jvm.MethodName) prog_13_method_35_code (4 : Nat) (Option.some Jvm.ClassFile.FieldType.int)) ∈ lw_all := lw_g (lw_at lw_m12 230 rfl) rfl
theorem q2940 : (Jvm.Cond.instanceMethod ({ cls := "SegmentedCacheModel", name := "would", desc := "(II)I" } : Jvm.MethodName)) ∈ lw_all := lw_g (lw_at lw_m12 232 rfl) rfl
theorem q2941 : (Jvm.Cond.selects "SegmentedCacheModel" ({ cls := "SegmentedCacheModel", name := "would", desc := "(II)I" } : Jvm.MethodName) ({ cls := "SegmentedCacheModel", name := "would", desc := "(II)I" } : Jvm.MethodName)) ∈ lw_all := lw_g (lw_at lw_m12 233 rfl) rfl
theorem q2942 : (Jvm.Cond.code ({ cls := "SegmentedCacheModel", name := "would", desc := "(II)I" } : Jvm.MethodName) prog_13_method_38_code (4 : Nat) (Option.some Jvm.ClassFile.FieldType.int)) ∈ lw_all := lw_g (lw_at lw_m12 234 rfl) rfl
theorem q2944 : (Jvm.Cond.instanceMethod ({ cls := "SegmentedCacheModel", name := "need", desc := "(II)I" } : Jvm.MethodName)) ∈ lw_all := lw_g (lw_at lw_m12 236 rfl) rfl
theorem q2945 : (Jvm.Cond.selects "SegmentedCacheModel" ({ cls := "SegmentedCacheModel", name := "need", desc := "(II)I" } : Jvm.MethodName) ({ cls := "SegmentedCacheModel", name := "need", desc := "(II)I" } : Jvm.MethodName)) ∈ lw_all := lw_g (lw_at lw_m12 237 rfl) rfl
theorem q2946 : (Jvm.Cond.code ({ cls := "SegmentedCacheModel", name := "need", desc := "(II)I" } : Jvm.MethodName) prog_13_method_39_code (5 : Nat) (Option.some Jvm.ClassFile.FieldType.int)) ∈ lw_all := lw_g (lw_at lw_m12 238 rfl) rfl
theorem q2948 : (Jvm.Cond.instanceMethod ({ cls := "SegmentedCacheModel", name := "odds", desc := "(III)J" } : Jvm.MethodName)) ∈ lw_all := lw_g (lw_at lw_m13 0 rfl) rfl
theorem q2949 : (Jvm.Cond.selects "SegmentedCacheModel" ({ cls := "SegmentedCacheModel", name := "odds", desc := "(III)J" } : Jvm.MethodName) ({ cls := "SegmentedCacheModel", name := "odds", desc := "(III)J" } : Jvm.MethodName)) ∈ lw_all := lw_g (lw_at lw_m13 1 rfl) rfl
theorem q2950 : (Jvm.Cond.code ({ cls := "SegmentedCacheModel", name := "odds", desc := "(III)J" } : Jvm.MethodName) prog_13_method_42_code (6 : Nat) (Option.some Jvm.ClassFile.FieldType.long)) ∈ lw_all := lw_g (lw_at lw_m13 2 rfl) rfl
theorem q2951 : (Jvm.Cond.methodLink "SegmentedCacheModel" (154 : Nat) ({ cls := "SegmentedCacheModel", name := "part", desc := "(III)J" } : Jvm.MethodName)) ∈ lw_all := lw_g (lw_at lw_m13 3 rfl) rfl
theorem q2952 : (Jvm.Cond.static ({ cls := "SegmentedCacheModel", name := "part", desc := "(III)J" } : Jvm.MethodName)) ∈ lw_all := lw_g (lw_at lw_m13 4 rfl) rfl
theorem q2953 : (Jvm.Cond.code ({ cls := "SegmentedCacheModel", name := "part", desc := "(III)J" } : Jvm.MethodName) prog_13_method_41_code (4 : Nat) (Option.some Jvm.ClassFile.FieldType.long)) ∈ lw_all := lw_g (lw_at lw_m13 5 rfl) rfl
theorem q2954 : (Jvm.Cond.methodLink "SegmentedCacheModel" (151 : Nat) ({ cls := "SegmentedCacheModel", name := "common", desc := "(II)I" } : Jvm.MethodName)) ∈ lw_all := lw_g (lw_at lw_m13 6 rfl) rfl
theorem q2955 : (Jvm.Cond.static ({ cls := "SegmentedCacheModel", name := "common", desc := "(II)I" } : Jvm.MethodName)) ∈ lw_all := lw_g (lw_at lw_m13 7 rfl) rfl
theorem q2956 : (Jvm.Cond.code ({ cls := "SegmentedCacheModel", name := "common", desc := "(II)I" } : Jvm.MethodName) prog_13_method_40_code (5 : Nat) (Option.some Jvm.ClassFile.FieldType.int)) ∈ lw_all := lw_g (lw_at lw_m13 8 rfl) rfl
theorem q2958 : (Jvm.Cond.instanceMethod ({ cls := "SegmentedCacheModel", name := "mean", desc := "(II)J" } : Jvm.MethodName)) ∈ lw_all := lw_g (lw_at lw_m13 10 rfl) rfl
theorem q2959 : (Jvm.Cond.selects "SegmentedCacheModel" ({ cls := "SegmentedCacheModel", name := "mean", desc := "(II)J" } : Jvm.MethodName) ({ cls := "SegmentedCacheModel", name := "mean", desc := "(II)J" } : Jvm.MethodName)) ∈ lw_all := lw_g (lw_at lw_m13 11 rfl) rfl
theorem q2960 : (Jvm.Cond.code ({ cls := "SegmentedCacheModel", name := "mean", desc := "(II)J" } : Jvm.MethodName) prog_13_method_44_code (5 : Nat) (Option.some Jvm.ClassFile.FieldType.long)) ∈ lw_all := lw_g (lw_at lw_m13 12 rfl) rfl
theorem q2961 : (Jvm.Cond.methodLink "SegmentedCacheModel" (158 : Nat) ({ cls := "SegmentedCacheModel", name := "manyAt", desc := "(I)I" } : Jvm.MethodName)) ∈ lw_all := lw_g (lw_at lw_m13 13 rfl) rfl
theorem q2962 : (Jvm.Cond.privateMethod ({ cls := "SegmentedCacheModel", name := "manyAt", desc := "(I)I" } : Jvm.MethodName)) ∈ lw_tbl := lw_at lw_m13 14 rfl
theorem q2963 : (Jvm.Cond.instanceMethod ({ cls := "SegmentedCacheModel", name := "manyAt", desc := "(I)I" } : Jvm.MethodName)) ∈ lw_all := lw_g (lw_at lw_m13 15 rfl) rfl
theorem q2964 : (Jvm.Cond.code ({ cls := "SegmentedCacheModel", name := "manyAt", desc := "(I)I" } : Jvm.MethodName) prog_13_method_43_code (4 : Nat) (Option.some Jvm.ClassFile.FieldType.int)) ∈ lw_all := lw_g (lw_at lw_m13 16 rfl) rfl
theorem q2966 : (Jvm.Cond.instanceMethod ({ cls := "SegmentedCacheModel", name := "book", desc := "(III)I" } : Jvm.MethodName)) ∈ lw_all := lw_g (lw_at lw_m13 18 rfl) rfl
theorem q2967 : (Jvm.Cond.selects "SegmentedCacheModel" ({ cls := "SegmentedCacheModel", name := "book", desc := "(III)I" } : Jvm.MethodName) ({ cls := "SegmentedCacheModel", name := "book", desc := "(III)I" } : Jvm.MethodName)) ∈ lw_all := lw_g (lw_at lw_m13 19 rfl) rfl
theorem q2968 : (Jvm.Cond.code ({ cls := "SegmentedCacheModel", name := "book", desc := "(III)I" } : Jvm.MethodName) prog_13_method_45_code (4 : Nat) (Option.some Jvm.ClassFile.FieldType.int)) ∈ lw_all := lw_g (lw_at lw_m13 20 rfl) rfl
theorem q2970 : (Jvm.Cond.instanceMethod ({ cls := "SegmentedCacheModel", name := "looked", desc := "()I" } : Jvm.MethodName)) ∈ lw_all := lw_g (lw_at lw_m13 22 rfl) rfl
theorem q2971 : (Jvm.Cond.selects "SegmentedCacheModel" ({ cls := "SegmentedCacheModel", name := "looked", desc := "()I" } : Jvm.MethodName) ({ cls := "SegmentedCacheModel", name := "looked", desc := "()I" } : Jvm.MethodName)) ∈ lw_all := lw_g (lw_at lw_m13 23 rfl) rfl
theorem q2972 : (Jvm.Cond.code ({ cls := "SegmentedCacheModel", name := "looked", desc := "()I" } : Jvm.MethodName) prog_13_method_46_code (2 : Nat) (Option.some Jvm.ClassFile.FieldType.int)) ∈ lw_all := lw_g (lw_at lw_m13 24 rfl) rfl
theorem q2974 : (Jvm.Cond.instanceMethod ({ cls := "SegmentedCacheModel", name := "judge", desc := "(II)I" } : Jvm.MethodName)) ∈ lw_all := lw_g (lw_at lw_m13 26 rfl) rfl
theorem q2975 : (Jvm.Cond.selects "SegmentedCacheModel" ({ cls := "SegmentedCacheModel", name := "judge", desc := "(II)I" } : Jvm.MethodName) ({ cls := "SegmentedCacheModel", name := "judge", desc := "(II)I" } : Jvm.MethodName)) ∈ lw_all := lw_g (lw_at lw_m13 27 rfl) rfl
theorem q2976 : (Jvm.Cond.code ({ cls := "SegmentedCacheModel", name := "judge", desc := "(II)I" } : Jvm.MethodName) prog_13_method_48_code (5 : Nat) (Option.some Jvm.ClassFile.FieldType.int)) ∈ lw_all := lw_g (lw_at lw_m13 28 rfl) rfl
theorem q2977 : (Jvm.Cond.methodLink "SegmentedCacheModel" (161 : Nat) ({ cls := "SegmentedCacheModel", name := "isTape", desc := "(I)Z" } : Jvm.MethodName)) ∈ lw_all := lw_g (lw_at lw_m13 29 rfl) rfl
theorem q2978 : (Jvm.Cond.static ({ cls := "SegmentedCacheModel", name := "isTape", desc := "(I)Z" } : Jvm.MethodName)) ∈ lw_all := lw_g (lw_at lw_m13 30 rfl) rfl
theorem q2979 : (Jvm.Cond.code ({ cls := "SegmentedCacheModel", name := "isTape", desc := "(I)Z" } : Jvm.MethodName) prog_13_method_47_code (1 : Nat) (Option.some Jvm.ClassFile.FieldType.boolean)) ∈ lw_all := lw_g (lw_at lw_m13 31 rfl) rfl
theorem q2981 : (Jvm.Cond.instanceMethod ({ cls := "SegmentedCacheModel", name := "image", desc := "()I" } : Jvm.MethodName)) ∈ lw_all := lw_g (lw_at lw_m13 33 rfl) rfl
theorem q2982 : (Jvm.Cond.selects "SegmentedCacheModel" ({ cls := "SegmentedCacheModel", name := "image", desc := "()I" } : Jvm.MethodName) ({ cls := "SegmentedCacheModel", name := "image", desc := "()I" } : Jvm.MethodName)) ∈ lw_all := lw_g (lw_at lw_m13 34 rfl) rfl
theorem q2983 : (Jvm.Cond.code ({ cls := "SegmentedCacheModel", name := "image", desc := "()I" } : Jvm.MethodName) prog_13_method_49_code (1 : Nat) (Option.some Jvm.ClassFile.FieldType.int)) ∈ lw_all := lw_g (lw_at lw_m13 35 rfl) rfl
theorem q2985 : (Jvm.Cond.instanceMethod ({ cls := "SegmentedCacheModel", name := "undo", desc := "()I" } : Jvm.MethodName)) ∈ lw_all := lw_g (lw_at lw_m13 37 rfl) rfl
theorem q2986 : (Jvm.Cond.selects "SegmentedCacheModel" ({ cls := "SegmentedCacheModel", name := "undo", desc := "()I" } : Jvm.MethodName) ({ cls := "SegmentedCacheModel", name := "undo", desc := "()I" } : Jvm.MethodName)) ∈ lw_all := lw_g (lw_at lw_m13 38 rfl) rfl
theorem q2987 : (Jvm.Cond.code ({ cls := "SegmentedCacheModel", name := "undo", desc := "()I" } : Jvm.MethodName) prog_13_method_50_code (1 : Nat) (Option.some Jvm.ClassFile.FieldType.int)) ∈ lw_all := lw_g (lw_at lw_m13 39 rfl) rfl
theorem q2989 : (Jvm.Cond.instanceMethod ({ cls := "SegmentedCacheModel", name := "count", desc := "(I)I" } : Jvm.MethodName)) ∈ lw_all := lw_g (lw_at lw_m13 41 rfl) rfl
theorem q2990 : (Jvm.Cond.selects "SegmentedCacheModel" ({ cls := "SegmentedCacheModel", name := "count", desc := "(I)I" } : Jvm.MethodName) ({ cls := "SegmentedCacheModel", name := "count", desc := "(I)I" } : Jvm.MethodName)) ∈ lw_all := lw_g (lw_at lw_m13 42 rfl) rfl
theorem q2991 : (Jvm.Cond.code ({ cls := "SegmentedCacheModel", name := "count", desc := "(I)I" } : Jvm.MethodName) prog_13_method_51_code (2 : Nat) (Option.some Jvm.ClassFile.FieldType.int)) ∈ lw_all := lw_g (lw_at lw_m13 43 rfl) rfl
theorem q2993 : (Jvm.Cond.instanceMethod ({ cls := "SegmentedCacheModel", name := "tape", desc := "(III)I" } : Jvm.MethodName)) ∈ lw_all := lw_g (lw_at lw_m13 45 rfl) rfl
theorem q2994 : (Jvm.Cond.selects "SegmentedCacheModel" ({ cls := "SegmentedCacheModel", name := "tape", desc := "(III)I" } : Jvm.MethodName) ({ cls := "SegmentedCacheModel", name := "tape", desc := "(III)I" } : Jvm.MethodName)) ∈ lw_all := lw_g (lw_at lw_m13 46 rfl) rfl
theorem q2995 : (Jvm.Cond.code ({ cls := "SegmentedCacheModel", name := "tape", desc := "(III)I" } : Jvm.MethodName) prog_13_method_52_code (5 : Nat) (Option.some Jvm.ClassFile.FieldType.int)) ∈ lw_all := lw_g (lw_at lw_m13 47 rfl) rfl
theorem q2997 : (Jvm.Cond.instanceMethod ({ cls := "SegmentedCacheModel", name := "item", desc := "(IIJ)I" } : Jvm.MethodName)) ∈ lw_all := lw_g (lw_at lw_m13 49 rfl) rfl
theorem q2998 : (Jvm.Cond.selects "SegmentedCacheModel" ({ cls := "SegmentedCacheModel", name := "item", desc := "(IIJ)I" } : Jvm.MethodName) ({ cls := "SegmentedCacheModel", name := "item", desc := "(IIJ)I" } : Jvm.MethodName)) ∈ lw_all := lw_g (lw_at lw_m13 50 rfl) rfl
theorem q2999 : (Jvm.Cond.code ({ cls := "SegmentedCacheModel", name := "item", desc := "(IIJ)I" } : Jvm.MethodName) prog_13_method_54_code (5 : Nat) (Option.some Jvm.ClassFile.FieldType.int)) ∈ lw_all := lw_g (lw_at lw_m13 51 rfl) rfl
theorem q3000 : (Jvm.Cond.methodLink "SegmentedCacheModel" (168 : Nat) ({ cls := "SegmentedCacheModel", name := "fit", desc := "(IJ)J" } : Jvm.MethodName)) ∈ lw_all := lw_g (lw_at lw_m13 52 rfl) rfl
theorem q3001 : (Jvm.Cond.static ({ cls := "SegmentedCacheModel", name := "fit", desc := "(IJ)J" } : Jvm.MethodName)) ∈ lw_all := lw_g (lw_at lw_m13 53 rfl) rfl
theorem q3002 : (Jvm.Cond.code ({ cls := "SegmentedCacheModel", name := "fit", desc := "(IJ)J" } : Jvm.MethodName) prog_13_method_53_code (3 : Nat) (Option.some Jvm.ClassFile.FieldType.long)) ∈ lw_all := lw_g (lw_at lw_m13 54 rfl) rfl
theorem q3004 : (Jvm.Cond.instanceMethod ({ cls := "SegmentedCacheModel", name := "read", desc := "(II)J" } : Jvm.MethodName)) ∈ lw_all := lw_g (lw_at lw_m13 56 rfl) rfl
theorem q3005 : (Jvm.Cond.selects "SegmentedCacheModel" ({ cls := "SegmentedCacheModel", name := "read", desc := "(II)J" } : Jvm.MethodName) ({ cls := "SegmentedCacheModel", name := "read", desc := "(II)J" } : Jvm.MethodName)) ∈ lw_all := lw_g (lw_at lw_m13 57 rfl) rfl
theorem q3006 : (Jvm.Cond.code ({ cls := "SegmentedCacheModel", name := "read", desc := "(II)J" } : Jvm.MethodName) prog_13_method_55_code (3 : Nat) (Option.some Jvm.ClassFile.FieldType.long)) ∈ lw_all := lw_g (lw_at lw_m13 58 rfl) rfl
theorem q3008 : (Jvm.Cond.instanceMethod ({ cls := "SegmentedCacheModel", name := "shift", desc := "(IIIII)I" } : Jvm.MethodName)) ∈ lw_all := lw_g (lw_at lw_m13 60 rfl) rfl
theorem q3009 : (Jvm.Cond.selects "SegmentedCacheModel" ({ cls := "SegmentedCacheModel", name := "shift", desc := "(IIIII)I" } : Jvm.MethodName) ({ cls := "SegmentedCacheModel", name := "shift", desc := "(IIIII)I" } : Jvm.MethodName)) ∈ lw_all := lw_g (lw_at lw_m13 61 rfl) rfl
theorem q3010 : (Jvm.Cond.code ({ cls := "SegmentedCacheModel", name := "shift", desc := "(IIIII)I" } : Jvm.MethodName) prog_13_method_56_code (7 : Nat) (Option.some Jvm.ClassFile.FieldType.int)) ∈ lw_all := lw_g (lw_at lw_m13 62 rfl) rfl
theorem q3051 : (Jvm.Cond.castable "SegmentedCacheModel" "java/lang/Object") ∈ lw_tbl := lw_at lw_m13 103 rfl
theorem in_X5 : ∀ w ∈ wsX50, w ∈ lw_all := lw_in wsX50 [2758, 2760, 2762, 2764, 2766, 2768, 2770, 2772, 2774, 2776, 2778, 2780, 2782, 2784, 2786, 2788, 2790, 2792, 2794] (by decide +kernel) (by decide +kernel)
/-! SegmentedCache$Going -/
set_option maxRecDepth 100000
def RX6 : String := "SegmentedCache$Going"
def TX6 : u_T := fun k => match k with
  | 0 => ("SegmentedCache$Going", "key", "LSegmentedCache$Key;", true)
  | _ => ("SegmentedCache$Going", "thing", "LSegmentedCache$Thing;", true)
def tyX6 : Nat → FieldType := fun k => match k with
  | 0 => .object "SegmentedCache$Key"
  | _ => .object "SegmentedCache$Thing"
abbrev wsX60 : List Cond := u_ws RX6 TX6 2
theorem nmX6 : ∀ a, a < 2 → ∀ b, b < 2 → a ≠ b → (TX6 a).2.1 ≠ (TX6 b).2.1 := by decide +kernel
theorem tyX6_ok : ∀ k, k < 2 → parseFieldDescriptor (TX6 k).2.2.1 = some (tyX6 k) := by decide +kernel
abbrev cX6_init : ByteArray := prog_5_method_1_code
def yX6_init : MethodName := ⟨RX6, "<init>", "(LSegmentedCache$Key;LSegmentedCache$Thing;)V"⟩
def dkwX6_init_0 : List UInt8 := [42, 183, 0, 1, 42, 43, 181, 0, 7, 42, 44, 181, 0, 13, 177]
abbrev dktX6_init_0 : List UInt8 := dkwX6_init_0 ++ []
theorem dksX6_init_0 : cX6_init.data.toList.drop 0 = dktX6_init_0 := by decide +kernel
theorem dX6_init_0 : decode cX6_init 0 = .ok (.aload_n 0, 1) := dk_42 (dk_at dksX6_init_0 0 rfl rfl)
theorem dX6_init_1 : decode cX6_init 1 = .ok (.invokespecial 1, 3) := dk_183 0 1 (dk_at dksX6_init_0 1 rfl rfl)
theorem dX6_init_4 : decode cX6_init 4 = .ok (.aload_n 0, 1) := dk_42 (dk_at dksX6_init_0 4 rfl rfl)
theorem dX6_init_5 : decode cX6_init 5 = .ok (.aload_n 1, 1) := dk_43 (dk_at dksX6_init_0 5 rfl rfl)
theorem dX6_init_6 : decode cX6_init 6 = .ok (.putfield 7, 3) := dk_181 0 7 (dk_at dksX6_init_0 6 rfl rfl)
theorem dX6_init_9 : decode cX6_init 9 = .ok (.aload_n 0, 1) := dk_42 (dk_at dksX6_init_0 9 rfl rfl)
theorem dX6_init_10 : decode cX6_init 10 = .ok (.aload_n 2, 1) := dk_44 (dk_at dksX6_init_0 10 rfl rfl)
theorem dX6_init_11 : decode cX6_init 11 = .ok (.putfield 13, 3) := dk_181 0 13 (dk_at dksX6_init_0 11 rfl rfl)
theorem dX6_init_14 : decode cX6_init 14 = .ok (.return_, 1) := dk_177 (dk_at dksX6_init_0 14 rfl rfl)
theorem q106 : (Jvm.Cond.initialized "SegmentedCache$Going") ∈ lw_all := lw_g (lw_at lw_m1 38 rfl) rfl
theorem q1049 : (Jvm.Cond.selects "SegmentedCache$Going" ({ cls := "java/lang/Object", name := "getClass", desc := "()Ljava/lang/Class;" } : Jvm.MethodName) ({ cls := "java/lang/Object", name := "getClass", desc := "()Ljava/lang/Class;" } : Jvm.MethodName)) ∈ lw_all := lw_g (lw_at lw_m5 21 rfl) rfl
theorem q1188 : (Jvm.Cond.instantiable "SegmentedCache$Going" (2 : Nat)) ∈ lw_all := lw_g (lw_at lw_m5 160 rfl) rfl
theorem q1219 : (Jvm.Cond.instanceMethod ({ cls := "SegmentedCache$Going", name := "<init>", desc := "(LSegmentedCache$Key;LSegmentedCache$Thing;)V" } : Jvm.MethodName)) ∈ lw_all := lw_g (lw_at lw_m5 191 rfl) rfl
theorem q1220 : (Jvm.Cond.code ({ cls := "SegmentedCache$Going", name := "<init>", desc := "(LSegmentedCache$Key;LSegmentedCache$Thing;)V" } : Jvm.MethodName) prog_5_method_1_code (3 : Nat) (Option.none : Option Jvm.ClassFile.FieldType)) ∈ lw_all := lw_g (lw_at lw_m5 192 rfl) rfl
theorem q1221 : (Jvm.Cond.methodLink "SegmentedCache$Going" (1 : Nat) ({ cls := "java/lang/Object", name := "<init>", desc := "()V" } : Jvm.MethodName)) ∈ lw_all := lw_g (lw_at lw_m5 193 rfl) rfl
theorem q1222 : (Jvm.Cond.fieldLink "SegmentedCache$Going" (7 : Nat) "SegmentedCache$Going" "key" "LSegmentedCache$Key;") ∈ lw_all := lw_g (lw_at lw_m5 194 rfl) rfl
theorem q1224 : (Jvm.Cond.fieldLink "SegmentedCache$Going" (13 : Nat) "SegmentedCache$Going" "thing" "LSegmentedCache$Thing;") ∈ lw_all := lw_g (lw_at lw_m5 196 rfl) rfl
theorem q1227 : (Jvm.Cond.laysFinal "SegmentedCache$Going" "SegmentedCache$Going" "key" "LSegmentedCache$Key;") ∈ lw_all := lw_g (lw_at lw_m5 199 rfl) rfl
theorem q1228 : (Jvm.Cond.soleField "SegmentedCache$Going" "key") ∈ lw_all := lw_g (lw_at lw_m5 200 rfl) rfl
theorem q1229 : (Jvm.Cond.laysFinal "SegmentedCache$Going" "SegmentedCache$Going" "thing" "LSegmentedCache$Thing;") ∈ lw_all := lw_g (lw_at lw_m5 201 rfl) rfl
theorem q1230 : (Jvm.Cond.soleField "SegmentedCache$Going" "thing") ∈ lw_all := lw_g (lw_at lw_m5 202 rfl) rfl
theorem q1231 : (Jvm.Cond.superclass "SegmentedCache$Going" "java/lang/Object") ∈ lw_all := lw_g (lw_at lw_m5 203 rfl) rfl
theorem q1321 : (Jvm.Cond.selects "SegmentedCache$Going" ({ cls := "java/lang/Object", name := "equals", desc := "(Ljava/lang/Object;)Z" } : Jvm.MethodName) ({ cls := "java/lang/Object", name := "equals", desc := "(Ljava/lang/Object;)Z" } : Jvm.MethodName)) ∈ lw_all := lw_g (lw_at lw_m6 53 rfl) rfl
theorem q1687 : (Jvm.Cond.selects "SegmentedCache$Going" ({ cls := "java/lang/Object", name := "hashCode", desc := "()I" } : Jvm.MethodName) ({ cls := "java/lang/Object", name := "hashCode", desc := "()I" } : Jvm.MethodName)) ∈ lw_all := lw_g (lw_at lw_m7 179 rfl) rfl
theorem q3054 : (Jvm.Cond.castable "SegmentedCache$Going" "java/lang/Object") ∈ lw_tbl := lw_at lw_m13 106 rfl
theorem in_X6 : ∀ w ∈ wsX60, w ∈ lw_all := lw_in wsX60 [1227, 1229] (by decide +kernel) (by decide +kernel)
/-! SegmentedCache$Thing -/
set_option maxRecDepth 100000
def RX7 : String := "SegmentedCache$Thing"
def TX7 : u_T := fun k => match k with
  | 0 => ("SegmentedCache$Thing", "value", "I", false)
  | 1 => ("SegmentedCache$Thing", "weight", "I", false)
  | 2 => ("SegmentedCache$Thing", "cost", "I", false)
  | 3 => ("SegmentedCache$Thing", "hits", "I", false)
  | 4 => ("SegmentedCache$Thing", "chances", "I", false)
  | _ => ("SegmentedCache$Thing", "isPinned", "Z", false)
def tyX7 : Nat → FieldType := fun k => match k with
  | 0 => .int
  | 1 => .int
  | 2 => .int
  | 3 => .int
  | 4 => .int
  | _ => .boolean
abbrev wsX70 : List Cond := u_ws RX7 TX7 6
theorem nmX7 : ∀ a, a < 6 → ∀ b, b < 6 → a ≠ b → (TX7 a).2.1 ≠ (TX7 b).2.1 := by decide +kernel
theorem tyX7_ok : ∀ k, k < 6 → parseFieldDescriptor (TX7 k).2.2.1 = some (tyX7 k) := by decide +kernel
abbrev cX7_init : ByteArray := prog_11_method_2_code
def yX7_init : MethodName := ⟨RX7, "<init>", "(I)V"⟩
def dkwX7_init_0 : List UInt8 := [42, 3, 27, 3, 3, 183, 0, 22, 177]
abbrev dktX7_init_0 : List UInt8 := dkwX7_init_0 ++ []
theorem dksX7_init_0 : cX7_init.data.toList.drop 0 = dktX7_init_0 := by decide +kernel
theorem dX7_init_0 : decode cX7_init 0 = .ok (.aload_n 0, 1) := dk_42 (dk_at dksX7_init_0 0 rfl rfl)
theorem dX7_init_1 : decode cX7_init 1 = .ok (.iconst 0, 1) := dk_3 (dk_at dksX7_init_0 1 rfl rfl)
theorem dX7_init_2 : decode cX7_init 2 = .ok (.iload_n 1, 1) := dk_27 (dk_at dksX7_init_0 2 rfl rfl)
theorem dX7_init_3 : decode cX7_init 3 = .ok (.iconst 0, 1) := dk_3 (dk_at dksX7_init_0 3 rfl rfl)
theorem dX7_init_4 : decode cX7_init 4 = .ok (.iconst 0, 1) := dk_3 (dk_at dksX7_init_0 4 rfl rfl)
theorem dX7_init_5 : decode cX7_init 5 = .ok (.invokespecial 22, 3) := dk_183 0 22 (dk_at dksX7_init_0 5 rfl rfl)
theorem dX7_init_8 : decode cX7_init 8 = .ok (.return_, 1) := dk_177 (dk_at dksX7_init_0 8 rfl rfl)
abbrev cX7_init_2 : ByteArray := prog_11_method_1_code
def yX7_init_2 : MethodName := ⟨RX7, "<init>", "(IIII)V"⟩
def dkwX7_init_2_1 : List UInt8 := [181, 0, 19, 177]
abbrev dktX7_init_2_1 : List UInt8 := dkwX7_init_2_1 ++ []
def dkwX7_init_2_0 : List UInt8 := [42, 183, 0, 1, 42, 27, 181, 0, 7, 42, 28, 181, 0, 13, 42, 29, 181, 0, 16, 42, 21, 4]
abbrev dktX7_init_2_0 : List UInt8 := dkwX7_init_2_0 ++ dktX7_init_2_1
theorem dksX7_init_2_0 : cX7_init_2.data.toList.drop 0 = dktX7_init_2_0 := by decide +kernel
theorem dksX7_init_2_1 : cX7_init_2.data.toList.drop 22 = dktX7_init_2_1 := dk_seg dksX7_init_2_0 22 rfl rfl
theorem dX7_init_2_0 : decode cX7_init_2 0 = .ok (.aload_n 0, 1) := dk_42 (dk_at dksX7_init_2_0 0 rfl rfl)
theorem dX7_init_2_1 : decode cX7_init_2 1 = .ok (.invokespecial 1, 3) := dk_183 0 1 (dk_at dksX7_init_2_0 1 rfl rfl)
theorem dX7_init_2_4 : decode cX7_init_2 4 = .ok (.aload_n 0, 1) := dk_42 (dk_at dksX7_init_2_0 4 rfl rfl)
theorem dX7_init_2_5 : decode cX7_init_2 5 = .ok (.iload_n 1, 1) := dk_27 (dk_at dksX7_init_2_0 5 rfl rfl)
theorem dX7_init_2_6 : decode cX7_init_2 6 = .ok (.putfield 7, 3) := dk_181 0 7 (dk_at dksX7_init_2_0 6 rfl rfl)
theorem dX7_init_2_9 : decode cX7_init_2 9 = .ok (.aload_n 0, 1) := dk_42 (dk_at dksX7_init_2_0 9 rfl rfl)
theorem dX7_init_2_10 : decode cX7_init_2 10 = .ok (.iload_n 2, 1) := dk_28 (dk_at dksX7_init_2_0 10 rfl rfl)
theorem dX7_init_2_11 : decode cX7_init_2 11 = .ok (.putfield 13, 3) := dk_181 0 13 (dk_at dksX7_init_2_0 11 rfl rfl)
theorem dX7_init_2_14 : decode cX7_init_2 14 = .ok (.aload_n 0, 1) := dk_42 (dk_at dksX7_init_2_0 14 rfl rfl)
theorem dX7_init_2_15 : decode cX7_init_2 15 = .ok (.iload_n 3, 1) := dk_29 (dk_at dksX7_init_2_0 15 rfl rfl)
theorem dX7_init_2_16 : decode cX7_init_2 16 = .ok (.putfield 16, 3) := dk_181 0 16 (dk_at dksX7_init_2_0 16 rfl rfl)
theorem dX7_init_2_19 : decode cX7_init_2 19 = .ok (.aload_n 0, 1) := dk_42 (dk_at dksX7_init_2_0 19 rfl rfl)
theorem dX7_init_2_20 : decode cX7_init_2 20 = .ok (.iload 4, 2) := dk_21 4 (dk_at dksX7_init_2_0 20 rfl rfl)
theorem dX7_init_2_22 : decode cX7_init_2 22 = .ok (.putfield 19, 3) := dk_181 0 19 (dk_at dksX7_init_2_1 0 rfl rfl)
theorem dX7_init_2_25 : decode cX7_init_2 25 = .ok (.return_, 1) := dk_177 (dk_at dksX7_init_2_1 3 rfl rfl)
abbrev cX7_init_3 : ByteArray := prog_11_method_3_code
def yX7_init_3 : MethodName := ⟨RX7, "<init>", "(LSegmentedCache$Thing;)V"⟩
def dkwX7_init_3_1 : List UInt8 := [180, 0, 25, 181, 0, 25, 42, 43, 180, 0, 28, 181, 0, 28, 177]
abbrev dktX7_init_3_1 : List UInt8 := dkwX7_init_3_1 ++ []
def dkwX7_init_3_0 : List UInt8 := [42, 43, 180, 0, 7, 43, 180, 0, 13, 43, 180, 0, 16, 43, 180, 0, 19, 183, 0, 22, 42, 43]
abbrev dktX7_init_3_0 : List UInt8 := dkwX7_init_3_0 ++ dktX7_init_3_1
theorem dksX7_init_3_0 : cX7_init_3.data.toList.drop 0 = dktX7_init_3_0 := by decide +kernel
theorem dksX7_init_3_1 : cX7_init_3.data.toList.drop 22 = dktX7_init_3_1 := dk_seg dksX7_init_3_0 22 rfl rfl
theorem dX7_init_3_0 : decode cX7_init_3 0 = .ok (.aload_n 0, 1) := dk_42 (dk_at dksX7_init_3_0 0 rfl rfl)
theorem dX7_init_3_1 : decode cX7_init_3 1 = .ok (.aload_n 1, 1) := dk_43 (dk_at dksX7_init_3_0 1 rfl rfl)
theorem dX7_init_3_2 : decode cX7_init_3 2 = .ok (.getfield 7, 3) := dk_180 0 7 (dk_at dksX7_init_3_0 2 rfl rfl)
theorem dX7_init_3_5 : decode cX7_init_3 5 = .ok (.aload_n 1, 1) := dk_43 (dk_at dksX7_init_3_0 5 rfl rfl)
theorem dX7_init_3_6 : decode cX7_init_3 6 = .ok (.getfield 13, 3) := dk_180 0 13 (dk_at dksX7_init_3_0 6 rfl rfl)
theorem dX7_init_3_9 : decode cX7_init_3 9 = .ok (.aload_n 1, 1) := dk_43 (dk_at dksX7_init_3_0 9 rfl rfl)
theorem dX7_init_3_10 : decode cX7_init_3 10 = .ok (.getfield 16, 3) := dk_180 0 16 (dk_at dksX7_init_3_0 10 rfl rfl)
theorem dX7_init_3_13 : decode cX7_init_3 13 = .ok (.aload_n 1, 1) := dk_43 (dk_at dksX7_init_3_0 13 rfl rfl)
theorem dX7_init_3_14 : decode cX7_init_3 14 = .ok (.getfield 19, 3) := dk_180 0 19 (dk_at dksX7_init_3_0 14 rfl rfl)
theorem dX7_init_3_17 : decode cX7_init_3 17 = .ok (.invokespecial 22, 3) := dk_183 0 22 (dk_at dksX7_init_3_0 17 rfl rfl)
theorem dX7_init_3_20 : decode cX7_init_3 20 = .ok (.aload_n 0, 1) := dk_42 (dk_at dksX7_init_3_0 20 rfl rfl)
theorem dX7_init_3_21 : decode cX7_init_3 21 = .ok (.aload_n 1, 1) := dk_43 (dk_at dksX7_init_3_0 21 rfl rfl)
theorem dX7_init_3_22 : decode cX7_init_3 22 = .ok (.getfield 25, 3) := dk_180 0 25 (dk_at dksX7_init_3_1 0 rfl rfl)
theorem dX7_init_3_25 : decode cX7_init_3 25 = .ok (.putfield 25, 3) := dk_181 0 25 (dk_at dksX7_init_3_1 3 rfl rfl)
theorem dX7_init_3_28 : decode cX7_init_3 28 = .ok (.aload_n 0, 1) := dk_42 (dk_at dksX7_init_3_1 6 rfl rfl)
theorem dX7_init_3_29 : decode cX7_init_3 29 = .ok (.aload_n 1, 1) := dk_43 (dk_at dksX7_init_3_1 7 rfl rfl)
theorem dX7_init_3_30 : decode cX7_init_3 30 = .ok (.getfield 28, 3) := dk_180 0 28 (dk_at dksX7_init_3_1 8 rfl rfl)
theorem dX7_init_3_33 : decode cX7_init_3 33 = .ok (.putfield 28, 3) := dk_181 0 28 (dk_at dksX7_init_3_1 11 rfl rfl)
theorem dX7_init_3_36 : decode cX7_init_3 36 = .ok (.return_, 1) := dk_177 (dk_at dksX7_init_3_1 14 rfl rfl)
theorem q115 : (Jvm.Cond.initialized "SegmentedCache$Thing") ∈ lw_all := lw_g (lw_at lw_m1 47 rfl) rfl
theorem q1055 : (Jvm.Cond.selects "SegmentedCache$Thing" ({ cls := "java/lang/Object", name := "getClass", desc := "()Ljava/lang/Class;" } : Jvm.MethodName) ({ cls := "java/lang/Object", name := "getClass", desc := "()Ljava/lang/Class;" } : Jvm.MethodName)) ∈ lw_all := lw_g (lw_at lw_m5 27 rfl) rfl
theorem q1330 : (Jvm.Cond.selects "SegmentedCache$Thing" ({ cls := "java/lang/Object", name := "equals", desc := "(Ljava/lang/Object;)Z" } : Jvm.MethodName) ({ cls := "java/lang/Object", name := "equals", desc := "(Ljava/lang/Object;)Z" } : Jvm.MethodName)) ∈ lw_all := lw_g (lw_at lw_m6 62 rfl) rfl
theorem q1695 : (Jvm.Cond.selects "SegmentedCache$Thing" ({ cls := "java/lang/Object", name := "hashCode", desc := "()I" } : Jvm.MethodName) ({ cls := "java/lang/Object", name := "hashCode", desc := "()I" } : Jvm.MethodName)) ∈ lw_all := lw_g (lw_at lw_m7 187 rfl) rfl
theorem q1877 : (Jvm.Cond.instantiable "SegmentedCache$Thing" (6 : Nat)) ∈ lw_all := lw_g (lw_at lw_m8 129 rfl) rfl
theorem q1879 : (Jvm.Cond.instanceMethod ({ cls := "SegmentedCache$Thing", name := "<init>", desc := "(I)V" } : Jvm.MethodName)) ∈ lw_all := lw_g (lw_at lw_m8 131 rfl) rfl
theorem q1880 : (Jvm.Cond.code ({ cls := "SegmentedCache$Thing", name := "<init>", desc := "(I)V" } : Jvm.MethodName) prog_11_method_2_code (2 : Nat) (Option.none : Option Jvm.ClassFile.FieldType)) ∈ lw_all := lw_g (lw_at lw_m8 132 rfl) rfl
theorem q1881 : (Jvm.Cond.methodLink "SegmentedCache$Thing" (22 : Nat) ({ cls := "SegmentedCache$Thing", name := "<init>", desc := "(IIII)V" } : Jvm.MethodName)) ∈ lw_all := lw_g (lw_at lw_m8 133 rfl) rfl
theorem q1882 : (Jvm.Cond.instanceMethod ({ cls := "SegmentedCache$Thing", name := "<init>", desc := "(IIII)V" } : Jvm.MethodName)) ∈ lw_all := lw_g (lw_at lw_m8 134 rfl) rfl
theorem q1883 : (Jvm.Cond.code ({ cls := "SegmentedCache$Thing", name := "<init>", desc := "(IIII)V" } : Jvm.MethodName) prog_11_method_1_code (5 : Nat) (Option.none : Option Jvm.ClassFile.FieldType)) ∈ lw_all := lw_g (lw_at lw_m8 135 rfl) rfl
theorem q1884 : (Jvm.Cond.methodLink "SegmentedCache$Thing" (1 : Nat) ({ cls := "java/lang/Object", name := "<init>", desc := "()V" } : Jvm.MethodName)) ∈ lw_all := lw_g (lw_at lw_m8 136 rfl) rfl
theorem q1885 : (Jvm.Cond.fieldLink "SegmentedCache$Thing" (7 : Nat) "SegmentedCache$Thing" "value" "I") ∈ lw_all := lw_g (lw_at lw_m8 137 rfl) rfl
theorem q1888 : (Jvm.Cond.fieldLink "SegmentedCache$Thing" (13 : Nat) "SegmentedCache$Thing" "weight" "I") ∈ lw_all := lw_g (lw_at lw_m8 140 rfl) rfl
theorem q1893 : (Jvm.Cond.fieldLink "SegmentedCache$Thing" (16 : Nat) "SegmentedCache$Thing" "cost" "I") ∈ lw_all := lw_g (lw_at lw_m8 145 rfl) rfl
theorem q1896 : (Jvm.Cond.fieldLink "SegmentedCache$Thing" (25 : Nat) "SegmentedCache$Thing" "hits" "I") ∈ lw_all := lw_g (lw_at lw_m8 148 rfl) rfl
theorem q1900 : (Jvm.Cond.fieldLink "SegmentedCache$Thing" (19 : Nat) "SegmentedCache$Thing" "chances" "I") ∈ lw_all := lw_g (lw_at lw_m8 152 rfl) rfl
theorem q1904 : (Jvm.Cond.fieldLink "SegmentedCache$Thing" (28 : Nat) "SegmentedCache$Thing" "isPinned" "Z") ∈ lw_all := lw_g (lw_at lw_m8 156 rfl) rfl
theorem q1908 : (Jvm.Cond.lays "SegmentedCache$Thing" "SegmentedCache$Thing" "value" "I") ∈ lw_all := lw_g (lw_at lw_m8 160 rfl) rfl
theorem q1909 : (Jvm.Cond.soleField "SegmentedCache$Thing" "value") ∈ lw_all := lw_g (lw_at lw_m8 161 rfl) rfl
theorem q1910 : (Jvm.Cond.lays "SegmentedCache$Thing" "SegmentedCache$Thing" "weight" "I") ∈ lw_all := lw_g (lw_at lw_m8 162 rfl) rfl
theorem q1911 : (Jvm.Cond.soleField "SegmentedCache$Thing" "weight") ∈ lw_all := lw_g (lw_at lw_m8 163 rfl) rfl
theorem q1912 : (Jvm.Cond.lays "SegmentedCache$Thing" "SegmentedCache$Thing" "cost" "I") ∈ lw_all := lw_g (lw_at lw_m8 164 rfl) rfl
theorem q1913 : (Jvm.Cond.soleField "SegmentedCache$Thing" "cost") ∈ lw_all := lw_g (lw_at lw_m8 165 rfl) rfl
theorem q1914 : (Jvm.Cond.lays "SegmentedCache$Thing" "SegmentedCache$Thing" "hits" "I") ∈ lw_all := lw_g (lw_at lw_m8 166 rfl) rfl
theorem q1915 : (Jvm.Cond.soleField "SegmentedCache$Thing" "hits") ∈ lw_all := lw_g (lw_at lw_m8 167 rfl) rfl
theorem q1916 : (Jvm.Cond.lays "SegmentedCache$Thing" "SegmentedCache$Thing" "chances" "I") ∈ lw_all := lw_g (lw_at lw_m8 168 rfl) rfl
theorem q1917 : (Jvm.Cond.soleField "SegmentedCache$Thing" "chances") ∈ lw_all := lw_g (lw_at lw_m8 169 rfl) rfl
theorem q1918 : (Jvm.Cond.lays "SegmentedCache$Thing" "SegmentedCache$Thing" "isPinned" "Z") ∈ lw_all := lw_g (lw_at lw_m8 170 rfl) rfl
theorem q1919 : (Jvm.Cond.soleField "SegmentedCache$Thing" "isPinned") ∈ lw_all := lw_g (lw_at lw_m8 171 rfl) rfl
theorem q1920 : (Jvm.Cond.superclass "SegmentedCache$Thing" "java/lang/Object") ∈ lw_all := lw_g (lw_at lw_m8 172 rfl) rfl
theorem q2628 : (Jvm.Cond.instanceMethod ({ cls := "SegmentedCache$Thing", name := "<init>", desc := "(LSegmentedCache$Thing;)V" } : Jvm.MethodName)) ∈ lw_all := lw_g (lw_at lw_m11 160 rfl) rfl
theorem q2629 : (Jvm.Cond.code ({ cls := "SegmentedCache$Thing", name := "<init>", desc := "(LSegmentedCache$Thing;)V" } : Jvm.MethodName) prog_11_method_3_code (2 : Nat) (Option.none : Option Jvm.ClassFile.FieldType)) ∈ lw_all := lw_g (lw_at lw_m11 161 rfl) rfl
theorem q3057 : (Jvm.Cond.castable "SegmentedCache$Thing" "java/lang/Object") ∈ lw_tbl := lw_at lw_m13 109 rfl
theorem in_X7 : ∀ w ∈ wsX70, w ∈ lw_all := lw_in wsX70 [1908, 1910, 1912, 1914, 1916, 1918] (by decide +kernel) (by decide +kernel)
/-! SegmentedCache$Key -/
set_option maxRecDepth 100000
def RX8 : String := "SegmentedCache$Key"
def TX8 : u_T := fun k => match k with
  | 0 => ("SegmentedCache$Key", "space", "I", true)
  | _ => ("SegmentedCache$Key", "number", "I", true)
def tyX8 : Nat → FieldType := fun k => match k with
  | 0 => .int
  | _ => .int
abbrev wsX80 : List Cond := u_ws RX8 TX8 2
theorem nmX8 : ∀ a, a < 2 → ∀ b, b < 2 → a ≠ b → (TX8 a).2.1 ≠ (TX8 b).2.1 := by decide +kernel
theorem tyX8_ok : ∀ k, k < 2 → parseFieldDescriptor (TX8 k).2.2.1 = some (tyX8 k) := by decide +kernel
abbrev cX8_equals : ByteArray := prog_6_method_2_code
def yX8_equals : MethodName := ⟨RX8, "equals", "(Ljava/lang/Object;)Z"⟩
def dkwX8_equals_1 : List UInt8 := [180, 0, 15, 42, 180, 0, 15, 160, 0, 7, 4, 167, 0, 4, 3, 172]
abbrev dktX8_equals_1 : List UInt8 := dkwX8_equals_1 ++ []
def dkwX8_equals_0 : List UInt8 := [43, 193, 0, 10, 153, 0, 34, 43, 192, 0, 10, 77, 44, 180, 0, 9, 42, 180, 0, 9, 160, 0, 18, 44]
abbrev dktX8_equals_0 : List UInt8 := dkwX8_equals_0 ++ dktX8_equals_1
theorem dksX8_equals_0 : cX8_equals.data.toList.drop 0 = dktX8_equals_0 := by decide +kernel
theorem dksX8_equals_1 : cX8_equals.data.toList.drop 24 = dktX8_equals_1 := dk_seg dksX8_equals_0 24 rfl rfl
theorem dX8_equals_0 : decode cX8_equals 0 = .ok (.aload_n 1, 1) := dk_43 (dk_at dksX8_equals_0 0 rfl rfl)
theorem dX8_equals_1 : decode cX8_equals 1 = .ok (.instanceof 10, 3) := dk_193 0 10 (dk_at dksX8_equals_0 1 rfl rfl)
theorem dX8_equals_4 : decode cX8_equals 4 = .ok (.ifCond .eq 34, 3) := dk_153 0 34 (dk_at dksX8_equals_0 4 rfl rfl)
theorem dX8_equals_7 : decode cX8_equals 7 = .ok (.aload_n 1, 1) := dk_43 (dk_at dksX8_equals_0 7 rfl rfl)
theorem dX8_equals_8 : decode cX8_equals 8 = .ok (.checkcast 10, 3) := dk_192 0 10 (dk_at dksX8_equals_0 8 rfl rfl)
theorem dX8_equals_11 : decode cX8_equals 11 = .ok (.astore_n 2, 1) := dk_77 (dk_at dksX8_equals_0 11 rfl rfl)
theorem dX8_equals_12 : decode cX8_equals 12 = .ok (.aload_n 2, 1) := dk_44 (dk_at dksX8_equals_0 12 rfl rfl)
theorem dX8_equals_13 : decode cX8_equals 13 = .ok (.getfield 9, 3) := dk_180 0 9 (dk_at dksX8_equals_0 13 rfl rfl)
theorem dX8_equals_16 : decode cX8_equals 16 = .ok (.aload_n 0, 1) := dk_42 (dk_at dksX8_equals_0 16 rfl rfl)
theorem dX8_equals_17 : decode cX8_equals 17 = .ok (.getfield 9, 3) := dk_180 0 9 (dk_at dksX8_equals_0 17 rfl rfl)
theorem dX8_equals_20 : decode cX8_equals 20 = .ok (.if_icmp .ne 18, 3) := dk_160 0 18 (dk_at dksX8_equals_0 20 rfl rfl)
theorem dX8_equals_23 : decode cX8_equals 23 = .ok (.aload_n 2, 1) := dk_44 (dk_at dksX8_equals_0 23 rfl rfl)
theorem dX8_equals_24 : decode cX8_equals 24 = .ok (.getfield 15, 3) := dk_180 0 15 (dk_at dksX8_equals_1 0 rfl rfl)
theorem dX8_equals_27 : decode cX8_equals 27 = .ok (.aload_n 0, 1) := dk_42 (dk_at dksX8_equals_1 3 rfl rfl)
theorem dX8_equals_28 : decode cX8_equals 28 = .ok (.getfield 15, 3) := dk_180 0 15 (dk_at dksX8_equals_1 4 rfl rfl)
theorem dX8_equals_31 : decode cX8_equals 31 = .ok (.if_icmp .ne 7, 3) := dk_160 0 7 (dk_at dksX8_equals_1 7 rfl rfl)
theorem dX8_equals_34 : decode cX8_equals 34 = .ok (.iconst 1, 1) := dk_4 (dk_at dksX8_equals_1 10 rfl rfl)
theorem dX8_equals_35 : decode cX8_equals 35 = .ok (.goto 4, 3) := dk_167 0 4 (dk_at dksX8_equals_1 11 rfl rfl)
theorem dX8_equals_38 : decode cX8_equals 38 = .ok (.iconst 0, 1) := dk_3 (dk_at dksX8_equals_1 14 rfl rfl)
theorem dX8_equals_39 : decode cX8_equals 39 = .ok (.ireturn, 1) := dk_172 (dk_at dksX8_equals_1 15 rfl rfl)
abbrev cX8_hashCode : ByteArray := prog_6_method_3_code
def yX8_hashCode : MethodName := ⟨RX8, "hashCode", "()I"⟩
def dkwX8_hashCode_0 : List UInt8 := [16, 101, 42, 180, 0, 9, 104, 42, 180, 0, 15, 96, 172]
abbrev dktX8_hashCode_0 : List UInt8 := dkwX8_hashCode_0 ++ []
theorem dksX8_hashCode_0 : cX8_hashCode.data.toList.drop 0 = dktX8_hashCode_0 := by decide +kernel
theorem dX8_hashCode_0 : decode cX8_hashCode 0 = .ok (.bipush 101, 2) := dk_16 101 (dk_at dksX8_hashCode_0 0 rfl rfl)
theorem dX8_hashCode_2 : decode cX8_hashCode 2 = .ok (.aload_n 0, 1) := dk_42 (dk_at dksX8_hashCode_0 2 rfl rfl)
theorem dX8_hashCode_3 : decode cX8_hashCode 3 = .ok (.getfield 9, 3) := dk_180 0 9 (dk_at dksX8_hashCode_0 3 rfl rfl)
theorem dX8_hashCode_6 : decode cX8_hashCode 6 = .ok (.imul, 1) := dk_104 (dk_at dksX8_hashCode_0 6 rfl rfl)
theorem dX8_hashCode_7 : decode cX8_hashCode 7 = .ok (.aload_n 0, 1) := dk_42 (dk_at dksX8_hashCode_0 7 rfl rfl)
theorem dX8_hashCode_8 : decode cX8_hashCode 8 = .ok (.getfield 15, 3) := dk_180 0 15 (dk_at dksX8_hashCode_0 8 rfl rfl)
theorem dX8_hashCode_11 : decode cX8_hashCode 11 = .ok (.iadd, 1) := dk_96 (dk_at dksX8_hashCode_0 11 rfl rfl)
theorem dX8_hashCode_12 : decode cX8_hashCode 12 = .ok (.ireturn, 1) := dk_172 (dk_at dksX8_hashCode_0 12 rfl rfl)
abbrev cX8_init : ByteArray := prog_6_method_1_code
def yX8_init : MethodName := ⟨RX8, "<init>", "(II)V"⟩
def dkwX8_init_0 : List UInt8 := [42, 183, 0, 3, 42, 27, 181, 0, 9, 42, 28, 181, 0, 15, 177]
abbrev dktX8_init_0 : List UInt8 := dkwX8_init_0 ++ []
theorem dksX8_init_0 : cX8_init.data.toList.drop 0 = dktX8_init_0 := by decide +kernel
theorem dX8_init_0 : decode cX8_init 0 = .ok (.aload_n 0, 1) := dk_42 (dk_at dksX8_init_0 0 rfl rfl)
theorem dX8_init_1 : decode cX8_init 1 = .ok (.invokespecial 3, 3) := dk_183 0 3 (dk_at dksX8_init_0 1 rfl rfl)
theorem dX8_init_4 : decode cX8_init 4 = .ok (.aload_n 0, 1) := dk_42 (dk_at dksX8_init_0 4 rfl rfl)
theorem dX8_init_5 : decode cX8_init 5 = .ok (.iload_n 1, 1) := dk_27 (dk_at dksX8_init_0 5 rfl rfl)
theorem dX8_init_6 : decode cX8_init 6 = .ok (.putfield 9, 3) := dk_181 0 9 (dk_at dksX8_init_0 6 rfl rfl)
theorem dX8_init_9 : decode cX8_init 9 = .ok (.aload_n 0, 1) := dk_42 (dk_at dksX8_init_0 9 rfl rfl)
theorem dX8_init_10 : decode cX8_init 10 = .ok (.iload_n 2, 1) := dk_28 (dk_at dksX8_init_0 10 rfl rfl)
theorem dX8_init_11 : decode cX8_init 11 = .ok (.putfield 15, 3) := dk_181 0 15 (dk_at dksX8_init_0 11 rfl rfl)
theorem dX8_init_14 : decode cX8_init 14 = .ok (.return_, 1) := dk_177 (dk_at dksX8_init_0 14 rfl rfl)
abbrev cX8_told : ByteArray := prog_6_method_4_code
def yX8_told : MethodName := ⟨RX8, "told", "()I"⟩
def dkwX8_told_0 : List UInt8 := [16, 100, 42, 180, 0, 9, 104, 42, 180, 0, 15, 96, 172]
abbrev dktX8_told_0 : List UInt8 := dkwX8_told_0 ++ []
theorem dksX8_told_0 : cX8_told.data.toList.drop 0 = dktX8_told_0 := by decide +kernel
theorem dX8_told_0 : decode cX8_told 0 = .ok (.bipush 100, 2) := dk_16 100 (dk_at dksX8_told_0 0 rfl rfl)
theorem dX8_told_2 : decode cX8_told 2 = .ok (.aload_n 0, 1) := dk_42 (dk_at dksX8_told_0 2 rfl rfl)
theorem dX8_told_3 : decode cX8_told 3 = .ok (.getfield 9, 3) := dk_180 0 9 (dk_at dksX8_told_0 3 rfl rfl)
theorem dX8_told_6 : decode cX8_told 6 = .ok (.imul, 1) := dk_104 (dk_at dksX8_told_0 6 rfl rfl)
theorem dX8_told_7 : decode cX8_told 7 = .ok (.aload_n 0, 1) := dk_42 (dk_at dksX8_told_0 7 rfl rfl)
theorem dX8_told_8 : decode cX8_told 8 = .ok (.getfield 15, 3) := dk_180 0 15 (dk_at dksX8_told_0 8 rfl rfl)
theorem dX8_told_11 : decode cX8_told 11 = .ok (.iadd, 1) := dk_96 (dk_at dksX8_told_0 11 rfl rfl)
theorem dX8_told_12 : decode cX8_told 12 = .ok (.ireturn, 1) := dk_172 (dk_at dksX8_told_0 12 rfl rfl)
theorem q117 : (Jvm.Cond.initialized "SegmentedCache$Key") ∈ lw_all := lw_g (lw_at lw_m1 49 rfl) rfl
theorem q1050 : (Jvm.Cond.selects "SegmentedCache$Key" ({ cls := "java/lang/Object", name := "getClass", desc := "()Ljava/lang/Class;" } : Jvm.MethodName) ({ cls := "java/lang/Object", name := "getClass", desc := "()Ljava/lang/Class;" } : Jvm.MethodName)) ∈ lw_all := lw_g (lw_at lw_m5 22 rfl) rfl
theorem q1322 : (Jvm.Cond.selects "SegmentedCache$Key" ({ cls := "java/lang/Object", name := "equals", desc := "(Ljava/lang/Object;)Z" } : Jvm.MethodName) ({ cls := "SegmentedCache$Key", name := "equals", desc := "(Ljava/lang/Object;)Z" } : Jvm.MethodName)) ∈ lw_all := lw_g (lw_at lw_m6 54 rfl) rfl
theorem q1323 : (Jvm.Cond.instanceMethod ({ cls := "SegmentedCache$Key", name := "equals", desc := "(Ljava/lang/Object;)Z" } : Jvm.MethodName)) ∈ lw_all := lw_g (lw_at lw_m6 55 rfl) rfl
theorem q1324 : (Jvm.Cond.code ({ cls := "SegmentedCache$Key", name := "equals", desc := "(Ljava/lang/Object;)Z" } : Jvm.MethodName) prog_6_method_2_code (3 : Nat) (Option.some Jvm.ClassFile.FieldType.boolean)) ∈ lw_all := lw_g (lw_at lw_m6 56 rfl) rfl
theorem q1325 : (Jvm.Cond.classLink "SegmentedCache$Key" (10 : Nat) "SegmentedCache$Key") ∈ lw_all := lw_g (lw_at lw_m6 57 rfl) rfl
theorem q1688 : (Jvm.Cond.selects "SegmentedCache$Key" ({ cls := "java/lang/Object", name := "hashCode", desc := "()I" } : Jvm.MethodName) ({ cls := "SegmentedCache$Key", name := "hashCode", desc := "()I" } : Jvm.MethodName)) ∈ lw_all := lw_g (lw_at lw_m7 180 rfl) rfl
theorem q1689 : (Jvm.Cond.instanceMethod ({ cls := "SegmentedCache$Key", name := "hashCode", desc := "()I" } : Jvm.MethodName)) ∈ lw_all := lw_g (lw_at lw_m7 181 rfl) rfl
theorem q1690 : (Jvm.Cond.code ({ cls := "SegmentedCache$Key", name := "hashCode", desc := "()I" } : Jvm.MethodName) prog_6_method_3_code (1 : Nat) (Option.some Jvm.ClassFile.FieldType.int)) ∈ lw_all := lw_g (lw_at lw_m7 182 rfl) rfl
theorem q1998 : (Jvm.Cond.instantiable "SegmentedCache$Key" (2 : Nat)) ∈ lw_all := lw_g (lw_at lw_m9 10 rfl) rfl
theorem q2000 : (Jvm.Cond.instanceMethod ({ cls := "SegmentedCache$Key", name := "<init>", desc := "(II)V" } : Jvm.MethodName)) ∈ lw_all := lw_g (lw_at lw_m9 12 rfl) rfl
theorem q2001 : (Jvm.Cond.code ({ cls := "SegmentedCache$Key", name := "<init>", desc := "(II)V" } : Jvm.MethodName) prog_6_method_1_code (3 : Nat) (Option.none : Option Jvm.ClassFile.FieldType)) ∈ lw_all := lw_g (lw_at lw_m9 13 rfl) rfl
theorem q2002 : (Jvm.Cond.methodLink "SegmentedCache$Key" (3 : Nat) ({ cls := "java/lang/Object", name := "<init>", desc := "()V" } : Jvm.MethodName)) ∈ lw_all := lw_g (lw_at lw_m9 14 rfl) rfl
theorem q2003 : (Jvm.Cond.fieldLink "SegmentedCache$Key" (9 : Nat) "SegmentedCache$Key" "space" "I") ∈ lw_all := lw_g (lw_at lw_m9 15 rfl) rfl
theorem q2004 : (Jvm.Cond.fieldLink "SegmentedCache$Key" (15 : Nat) "SegmentedCache$Key" "number" "I") ∈ lw_all := lw_g (lw_at lw_m9 16 rfl) rfl
theorem q2005 : (Jvm.Cond.laysFinal "SegmentedCache$Key" "SegmentedCache$Key" "space" "I") ∈ lw_all := lw_g (lw_at lw_m9 17 rfl) rfl
theorem q2006 : (Jvm.Cond.soleField "SegmentedCache$Key" "space") ∈ lw_all := lw_g (lw_at lw_m9 18 rfl) rfl
theorem q2007 : (Jvm.Cond.laysFinal "SegmentedCache$Key" "SegmentedCache$Key" "number" "I") ∈ lw_all := lw_g (lw_at lw_m9 19 rfl) rfl
theorem q2008 : (Jvm.Cond.soleField "SegmentedCache$Key" "number") ∈ lw_all := lw_g (lw_at lw_m9 20 rfl) rfl
theorem q2009 : (Jvm.Cond.superclass "SegmentedCache$Key" "java/lang/Object") ∈ lw_all := lw_g (lw_at lw_m9 21 rfl) rfl
theorem q2133 : (Jvm.Cond.instanceMethod ({ cls := "SegmentedCache$Key", name := "told", desc := "()I" } : Jvm.MethodName)) ∈ lw_all := lw_g (lw_at lw_m9 145 rfl) rfl
theorem q2134 : (Jvm.Cond.selects "SegmentedCache$Key" ({ cls := "SegmentedCache$Key", name := "told", desc := "()I" } : Jvm.MethodName) ({ cls := "SegmentedCache$Key", name := "told", desc := "()I" } : Jvm.MethodName)) ∈ lw_all := lw_g (lw_at lw_m9 146 rfl) rfl
theorem q2135 : (Jvm.Cond.code ({ cls := "SegmentedCache$Key", name := "told", desc := "()I" } : Jvm.MethodName) prog_6_method_4_code (1 : Nat) (Option.some Jvm.ClassFile.FieldType.int)) ∈ lw_all := lw_g (lw_at lw_m9 147 rfl) rfl
theorem q3028 : (Jvm.Cond.selects "SegmentedCache$Key" ({ cls := "SegmentedCache$Key", name := "equals", desc := "(Ljava/lang/Object;)Z" } : Jvm.MethodName) ({ cls := "SegmentedCache$Key", name := "equals", desc := "(Ljava/lang/Object;)Z" } : Jvm.MethodName)) ∈ lw_all := lw_g (lw_at lw_m13 80 rfl) rfl
theorem q3041 : (Jvm.Cond.castable "SegmentedCache$Key" "java/lang/Object") ∈ lw_tbl := lw_at lw_m13 93 rfl
theorem in_X8 : ∀ w ∈ wsX80, w ∈ lw_all := lw_in wsX80 [2005, 2007] (by decide +kernel) (by decide +kernel)
/-! SegmentedCache$Reader -/
set_option maxRecDepth 100000
def RX9 : String := "SegmentedCache$Reader"
def TX9 : u_T := fun k => match k with
  | 0 => ("SegmentedCache$Reader", "text", "[B", true)
  | 1 => ("SegmentedCache$Reader", "size", "I", true)
  | 2 => ("SegmentedCache$Reader", "at", "I", false)
  | _ => ("SegmentedCache$Reader", "read", "Ljava/util/LinkedList;", true)
def tyX9 : Nat → FieldType := fun k => match k with
  | 0 => .array .byte
  | 1 => .int
  | 2 => .int
  | _ => .object "java/util/LinkedList"
abbrev wsX90 : List Cond := u_ws RX9 TX9 4
theorem nmX9 : ∀ a, a < 4 → ∀ b, b < 4 → a ≠ b → (TX9 a).2.1 ≠ (TX9 b).2.1 := by decide +kernel
theorem tyX9_ok : ∀ k, k < 4 → parseFieldDescriptor (TX9 k).2.2.1 = some (tyX9 k) := by decide +kernel
abbrev cX9_init : ByteArray := prog_8_method_1_code
def yX9_init : MethodName := ⟨RX9, "<init>", "([BI)V"⟩
def dkwX9_init_1 : List UInt8 := [181, 0, 22, 177]
abbrev dktX9_init_1 : List UInt8 := dkwX9_init_1 ++ []
def dkwX9_init_0 : List UInt8 := [42, 183, 0, 3, 42, 187, 0, 9, 89, 183, 0, 11, 181, 0, 12, 42, 43, 181, 0, 18, 42, 28]
abbrev dktX9_init_0 : List UInt8 := dkwX9_init_0 ++ dktX9_init_1
theorem dksX9_init_0 : cX9_init.data.toList.drop 0 = dktX9_init_0 := by decide +kernel
theorem dksX9_init_1 : cX9_init.data.toList.drop 22 = dktX9_init_1 := dk_seg dksX9_init_0 22 rfl rfl
theorem dX9_init_0 : decode cX9_init 0 = .ok (.aload_n 0, 1) := dk_42 (dk_at dksX9_init_0 0 rfl rfl)
theorem dX9_init_1 : decode cX9_init 1 = .ok (.invokespecial 3, 3) := dk_183 0 3 (dk_at dksX9_init_0 1 rfl rfl)
theorem dX9_init_4 : decode cX9_init 4 = .ok (.aload_n 0, 1) := dk_42 (dk_at dksX9_init_0 4 rfl rfl)
theorem dX9_init_5 : decode cX9_init 5 = .ok (.new 9, 3) := dk_187 0 9 (dk_at dksX9_init_0 5 rfl rfl)
theorem dX9_init_8 : decode cX9_init 8 = .ok (.dup, 1) := dk_89 (dk_at dksX9_init_0 8 rfl rfl)
theorem dX9_init_9 : decode cX9_init 9 = .ok (.invokespecial 11, 3) := dk_183 0 11 (dk_at dksX9_init_0 9 rfl rfl)
theorem dX9_init_12 : decode cX9_init 12 = .ok (.putfield 12, 3) := dk_181 0 12 (dk_at dksX9_init_0 12 rfl rfl)
theorem dX9_init_15 : decode cX9_init 15 = .ok (.aload_n 0, 1) := dk_42 (dk_at dksX9_init_0 15 rfl rfl)
theorem dX9_init_16 : decode cX9_init 16 = .ok (.aload_n 1, 1) := dk_43 (dk_at dksX9_init_0 16 rfl rfl)
theorem dX9_init_17 : decode cX9_init 17 = .ok (.putfield 18, 3) := dk_181 0 18 (dk_at dksX9_init_0 17 rfl rfl)
theorem dX9_init_20 : decode cX9_init 20 = .ok (.aload_n 0, 1) := dk_42 (dk_at dksX9_init_0 20 rfl rfl)
theorem dX9_init_21 : decode cX9_init 21 = .ok (.iload_n 2, 1) := dk_28 (dk_at dksX9_init_0 21 rfl rfl)
theorem dX9_init_22 : decode cX9_init 22 = .ok (.putfield 22, 3) := dk_181 0 22 (dk_at dksX9_init_1 0 rfl rfl)
theorem dX9_init_25 : decode cX9_init 25 = .ok (.return_, 1) := dk_177 (dk_at dksX9_init_1 3 rfl rfl)
abbrev cX9_whole : ByteArray := prog_8_method_6_code
def yX9_whole : MethodName := ⟨RX9, "whole", "()Ljava/util/LinkedList;"⟩
def dkwX9_whole_3 : List UInt8 := [89, 42, 180, 0, 26, 183, 0, 39, 191, 42, 180, 0, 12, 176]
abbrev dktX9_whole_3 : List UInt8 := dkwX9_whole_3 ++ []
def dkwX9_whole_2 : List UInt8 := [182, 0, 63, 182, 0, 67, 87, 167, 255, 213, 42, 180, 0, 26, 42, 180, 0, 22, 162, 0, 15, 187, 0, 37]
abbrev dktX9_whole_2 : List UInt8 := dkwX9_whole_2 ++ dktX9_whole_3
def dkwX9_whole_1 : List UInt8 := [42, 182, 0, 29, 16, 59, 160, 0, 28, 42, 89, 180, 0, 26, 4, 96, 181, 0, 26, 42, 180, 0, 12, 42]
abbrev dktX9_whole_1 : List UInt8 := dkwX9_whole_1 ++ dktX9_whole_2
def dkwX9_whole_0 : List UInt8 := [42, 180, 0, 12, 42, 182, 0, 63, 182, 0, 67, 87, 42, 180, 0, 12, 182, 0, 71, 16, 20, 162, 0, 37]
abbrev dktX9_whole_0 : List UInt8 := dkwX9_whole_0 ++ dktX9_whole_1
theorem dksX9_whole_0 : cX9_whole.data.toList.drop 0 = dktX9_whole_0 := by decide +kernel
theorem dksX9_whole_1 : cX9_whole.data.toList.drop 24 = dktX9_whole_1 := dk_seg dksX9_whole_0 24 rfl rfl
theorem dksX9_whole_2 : cX9_whole.data.toList.drop 48 = dktX9_whole_2 := dk_seg dksX9_whole_1 24 rfl rfl
theorem dksX9_whole_3 : cX9_whole.data.toList.drop 72 = dktX9_whole_3 := dk_seg dksX9_whole_2 24 rfl rfl
theorem dX9_whole_0 : decode cX9_whole 0 = .ok (.aload_n 0, 1) := dk_42 (dk_at dksX9_whole_0 0 rfl rfl)
theorem dX9_whole_1 : decode cX9_whole 1 = .ok (.getfield 12, 3) := dk_180 0 12 (dk_at dksX9_whole_0 1 rfl rfl)
theorem dX9_whole_4 : decode cX9_whole 4 = .ok (.aload_n 0, 1) := dk_42 (dk_at dksX9_whole_0 4 rfl rfl)
theorem dX9_whole_5 : decode cX9_whole 5 = .ok (.invokevirtual 63, 3) := dk_182 0 63 (dk_at dksX9_whole_0 5 rfl rfl)
theorem dX9_whole_8 : decode cX9_whole 8 = .ok (.invokevirtual 67, 3) := dk_182 0 67 (dk_at dksX9_whole_0 8 rfl rfl)
theorem dX9_whole_11 : decode cX9_whole 11 = .ok (.pop, 1) := dk_87 (dk_at dksX9_whole_0 11 rfl rfl)
theorem dX9_whole_12 : decode cX9_whole 12 = .ok (.aload_n 0, 1) := dk_42 (dk_at dksX9_whole_0 12 rfl rfl)
theorem dX9_whole_13 : decode cX9_whole 13 = .ok (.getfield 12, 3) := dk_180 0 12 (dk_at dksX9_whole_0 13 rfl rfl)
theorem dX9_whole_16 : decode cX9_whole 16 = .ok (.invokevirtual 71, 3) := dk_182 0 71 (dk_at dksX9_whole_0 16 rfl rfl)
theorem dX9_whole_19 : decode cX9_whole 19 = .ok (.bipush 20, 2) := dk_16 20 (dk_at dksX9_whole_0 19 rfl rfl)
theorem dX9_whole_21 : decode cX9_whole 21 = .ok (.if_icmp .ge 37, 3) := dk_162 0 37 (dk_at dksX9_whole_0 21 rfl rfl)
theorem dX9_whole_24 : decode cX9_whole 24 = .ok (.aload_n 0, 1) := dk_42 (dk_at dksX9_whole_1 0 rfl rfl)
theorem dX9_whole_25 : decode cX9_whole 25 = .ok (.invokevirtual 29, 3) := dk_182 0 29 (dk_at dksX9_whole_1 1 rfl rfl)
theorem dX9_whole_28 : decode cX9_whole 28 = .ok (.bipush 59, 2) := dk_16 59 (dk_at dksX9_whole_1 4 rfl rfl)
theorem dX9_whole_30 : decode cX9_whole 30 = .ok (.if_icmp .ne 28, 3) := dk_160 0 28 (dk_at dksX9_whole_1 6 rfl rfl)
theorem dX9_whole_33 : decode cX9_whole 33 = .ok (.aload_n 0, 1) := dk_42 (dk_at dksX9_whole_1 9 rfl rfl)
theorem dX9_whole_34 : decode cX9_whole 34 = .ok (.dup, 1) := dk_89 (dk_at dksX9_whole_1 10 rfl rfl)
theorem dX9_whole_35 : decode cX9_whole 35 = .ok (.getfield 26, 3) := dk_180 0 26 (dk_at dksX9_whole_1 11 rfl rfl)
theorem dX9_whole_38 : decode cX9_whole 38 = .ok (.iconst 1, 1) := dk_4 (dk_at dksX9_whole_1 14 rfl rfl)
theorem dX9_whole_39 : decode cX9_whole 39 = .ok (.iadd, 1) := dk_96 (dk_at dksX9_whole_1 15 rfl rfl)
theorem dX9_whole_40 : decode cX9_whole 40 = .ok (.putfield 26, 3) := dk_181 0 26 (dk_at dksX9_whole_1 16 rfl rfl)
theorem dX9_whole_43 : decode cX9_whole 43 = .ok (.aload_n 0, 1) := dk_42 (dk_at dksX9_whole_1 19 rfl rfl)
theorem dX9_whole_44 : decode cX9_whole 44 = .ok (.getfield 12, 3) := dk_180 0 12 (dk_at dksX9_whole_1 20 rfl rfl)
theorem dX9_whole_47 : decode cX9_whole 47 = .ok (.aload_n 0, 1) := dk_42 (dk_at dksX9_whole_1 23 rfl rfl)
theorem dX9_whole_48 : decode cX9_whole 48 = .ok (.invokevirtual 63, 3) := dk_182 0 63 (dk_at dksX9_whole_2 0 rfl rfl)
theorem dX9_whole_51 : decode cX9_whole 51 = .ok (.invokevirtual 67, 3) := dk_182 0 67 (dk_at dksX9_whole_2 3 rfl rfl)
theorem dX9_whole_54 : decode cX9_whole 54 = .ok (.pop, 1) := dk_87 (dk_at dksX9_whole_2 6 rfl rfl)
theorem dX9_whole_55 : decode cX9_whole 55 = .ok (.goto (-43), 3) := dk_167 255 213 (dk_at dksX9_whole_2 7 rfl rfl)
theorem dX9_whole_58 : decode cX9_whole 58 = .ok (.aload_n 0, 1) := dk_42 (dk_at dksX9_whole_2 10 rfl rfl)
theorem dX9_whole_59 : decode cX9_whole 59 = .ok (.getfield 26, 3) := dk_180 0 26 (dk_at dksX9_whole_2 11 rfl rfl)
theorem dX9_whole_62 : decode cX9_whole 62 = .ok (.aload_n 0, 1) := dk_42 (dk_at dksX9_whole_2 14 rfl rfl)
theorem dX9_whole_63 : decode cX9_whole 63 = .ok (.getfield 22, 3) := dk_180 0 22 (dk_at dksX9_whole_2 15 rfl rfl)
theorem dX9_whole_66 : decode cX9_whole 66 = .ok (.if_icmp .ge 15, 3) := dk_162 0 15 (dk_at dksX9_whole_2 18 rfl rfl)
theorem dX9_whole_69 : decode cX9_whole 69 = .ok (.new 37, 3) := dk_187 0 37 (dk_at dksX9_whole_2 21 rfl rfl)
theorem dX9_whole_72 : decode cX9_whole 72 = .ok (.dup, 1) := dk_89 (dk_at dksX9_whole_3 0 rfl rfl)
theorem dX9_whole_73 : decode cX9_whole 73 = .ok (.aload_n 0, 1) := dk_42 (dk_at dksX9_whole_3 1 rfl rfl)
theorem dX9_whole_74 : decode cX9_whole 74 = .ok (.getfield 26, 3) := dk_180 0 26 (dk_at dksX9_whole_3 2 rfl rfl)
theorem dX9_whole_77 : decode cX9_whole 77 = .ok (.invokespecial 39, 3) := dk_183 0 39 (dk_at dksX9_whole_3 5 rfl rfl)
theorem dX9_whole_80 : decode cX9_whole 80 = .ok (.athrow, 1) := dk_191 (dk_at dksX9_whole_3 8 rfl rfl)
theorem dX9_whole_81 : decode cX9_whole 81 = .ok (.aload_n 0, 1) := dk_42 (dk_at dksX9_whole_3 9 rfl rfl)
theorem dX9_whole_82 : decode cX9_whole 82 = .ok (.getfield 12, 3) := dk_180 0 12 (dk_at dksX9_whole_3 10 rfl rfl)
theorem dX9_whole_85 : decode cX9_whole 85 = .ok (.areturn, 1) := dk_176 (dk_at dksX9_whole_3 13 rfl rfl)
abbrev cX9_clause : ByteArray := prog_8_method_5_code
def yX9_clause : MethodName := ⟨RX9, "clause", "()LSegmentedCache$Clause;"⟩
def dkwX9_clause_5 : List UInt8 := [42, 180, 0, 26, 183, 0, 39, 191]
abbrev dktX9_clause_5 : List UInt8 := dkwX9_clause_5 ++ []
def dkwX9_clause_4 : List UInt8 := [187, 0, 51, 89, 27, 44, 42, 16, 49, 16, 57, 182, 0, 42, 4, 96, 183, 0, 60, 176, 187, 0, 37, 89]
abbrev dktX9_clause_4 : List UInt8 := dkwX9_clause_4 ++ dktX9_clause_5
def dkwX9_clause_3 : List UInt8 := [89, 180, 0, 26, 4, 96, 181, 0, 26, 42, 182, 0, 53, 77, 42, 16, 61, 16, 61, 182, 0, 42, 87]
abbrev dktX9_clause_3 : List UInt8 := dkwX9_clause_3 ++ dktX9_clause_4
def dkwX9_clause_2 : List UInt8 := [42, 89, 180, 0, 26, 4, 96, 181, 0, 26, 187, 0, 51, 89, 27, 42, 182, 0, 53, 183, 0, 57, 176, 42]
abbrev dktX9_clause_2 : List UInt8 := dkwX9_clause_2 ++ dktX9_clause_3
def dkwX9_clause_1 : List UInt8 := [171, 0, 0, 0, 0, 101, 0, 0, 0, 3, 0, 0, 0, 103, 0, 0, 0, 34, 0, 0, 0, 112, 0, 0, 0, 57, 0, 0, 0, 120, 0, 0, 0, 34]
abbrev dktX9_clause_1 : List UInt8 := dkwX9_clause_1 ++ dktX9_clause_2
def dkwX9_clause_0 : List UInt8 := [42, 182, 0, 29, 60, 27]
abbrev dktX9_clause_0 : List UInt8 := dkwX9_clause_0 ++ dktX9_clause_1
theorem dksX9_clause_0 : cX9_clause.data.toList.drop 0 = dktX9_clause_0 := by decide +kernel
theorem dksX9_clause_1 : cX9_clause.data.toList.drop 6 = dktX9_clause_1 := dk_seg dksX9_clause_0 6 rfl rfl
theorem dksX9_clause_2 : cX9_clause.data.toList.drop 40 = dktX9_clause_2 := dk_seg dksX9_clause_1 34 rfl rfl
theorem dksX9_clause_3 : cX9_clause.data.toList.drop 64 = dktX9_clause_3 := dk_seg dksX9_clause_2 24 rfl rfl
theorem dksX9_clause_4 : cX9_clause.data.toList.drop 87 = dktX9_clause_4 := dk_seg dksX9_clause_3 23 rfl rfl
theorem dksX9_clause_5 : cX9_clause.data.toList.drop 111 = dktX9_clause_5 := dk_seg dksX9_clause_4 24 rfl rfl
theorem dX9_clause_0 : decode cX9_clause 0 = .ok (.aload_n 0, 1) := dk_42 (dk_at dksX9_clause_0 0 rfl rfl)
theorem dX9_clause_1 : decode cX9_clause 1 = .ok (.invokevirtual 29, 3) := dk_182 0 29 (dk_at dksX9_clause_0 1 rfl rfl)
theorem dX9_clause_4 : decode cX9_clause 4 = .ok (.istore_n 1, 1) := dk_60 (dk_at dksX9_clause_0 4 rfl rfl)
theorem dX9_clause_5 : decode cX9_clause 5 = .ok (.iload_n 1, 1) := dk_27 (dk_at dksX9_clause_0 5 rfl rfl)
theorem dX9_clause_6 : decode cX9_clause 6 = .ok (.lookupswitch 101 #[(103, 34), (112, 57), (120, 34)], 34) := by decide +kernel
theorem dX9_clause_40 : decode cX9_clause 40 = .ok (.aload_n 0, 1) := dk_42 (dk_at dksX9_clause_2 0 rfl rfl)
theorem dX9_clause_41 : decode cX9_clause 41 = .ok (.dup, 1) := dk_89 (dk_at dksX9_clause_2 1 rfl rfl)
theorem dX9_clause_42 : decode cX9_clause 42 = .ok (.getfield 26, 3) := dk_180 0 26 (dk_at dksX9_clause_2 2 rfl rfl)
theorem dX9_clause_45 : decode cX9_clause 45 = .ok (.iconst 1, 1) := dk_4 (dk_at dksX9_clause_2 5 rfl rfl)
theorem dX9_clause_46 : decode cX9_clause 46 = .ok (.iadd, 1) := dk_96 (dk_at dksX9_clause_2 6 rfl rfl)
theorem dX9_clause_47 : decode cX9_clause 47 = .ok (.putfield 26, 3) := dk_181 0 26 (dk_at dksX9_clause_2 7 rfl rfl)
theorem dX9_clause_50 : decode cX9_clause 50 = .ok (.new 51, 3) := dk_187 0 51 (dk_at dksX9_clause_2 10 rfl rfl)
theorem dX9_clause_53 : decode cX9_clause 53 = .ok (.dup, 1) := dk_89 (dk_at dksX9_clause_2 13 rfl rfl)
theorem dX9_clause_54 : decode cX9_clause 54 = .ok (.iload_n 1, 1) := dk_27 (dk_at dksX9_clause_2 14 rfl rfl)
theorem dX9_clause_55 : decode cX9_clause 55 = .ok (.aload_n 0, 1) := dk_42 (dk_at dksX9_clause_2 15 rfl rfl)
theorem dX9_clause_56 : decode cX9_clause 56 = .ok (.invokevirtual 53, 3) := dk_182 0 53 (dk_at dksX9_clause_2 16 rfl rfl)
theorem dX9_clause_59 : decode cX9_clause 59 = .ok (.invokespecial 57, 3) := dk_183 0 57 (dk_at dksX9_clause_2 19 rfl rfl)
theorem dX9_clause_62 : decode cX9_clause 62 = .ok (.areturn, 1) := dk_176 (dk_at dksX9_clause_2 22 rfl rfl)
theorem dX9_clause_63 : decode cX9_clause 63 = .ok (.aload_n 0, 1) := dk_42 (dk_at dksX9_clause_2 23 rfl rfl)
theorem dX9_clause_64 : decode cX9_clause 64 = .ok (.dup, 1) := dk_89 (dk_at dksX9_clause_3 0 rfl rfl)
theorem dX9_clause_65 : decode cX9_clause 65 = .ok (.getfield 26, 3) := dk_180 0 26 (dk_at dksX9_clause_3 1 rfl rfl)
theorem dX9_clause_68 : decode cX9_clause 68 = .ok (.iconst 1, 1) := dk_4 (dk_at dksX9_clause_3 4 rfl rfl)
theorem dX9_clause_69 : decode cX9_clause 69 = .ok (.iadd, 1) := dk_96 (dk_at dksX9_clause_3 5 rfl rfl)
theorem dX9_clause_70 : decode cX9_clause 70 = .ok (.putfield 26, 3) := dk_181 0 26 (dk_at dksX9_clause_3 6 rfl rfl)
theorem dX9_clause_73 : decode cX9_clause 73 = .ok (.aload_n 0, 1) := dk_42 (dk_at dksX9_clause_3 9 rfl rfl)
theorem dX9_clause_74 : decode cX9_clause 74 = .ok (.invokevirtual 53, 3) := dk_182 0 53 (dk_at dksX9_clause_3 10 rfl rfl)
theorem dX9_clause_77 : decode cX9_clause 77 = .ok (.astore_n 2, 1) := dk_77 (dk_at dksX9_clause_3 13 rfl rfl)
theorem dX9_clause_78 : decode cX9_clause 78 = .ok (.aload_n 0, 1) := dk_42 (dk_at dksX9_clause_3 14 rfl rfl)
theorem dX9_clause_79 : decode cX9_clause 79 = .ok (.bipush 61, 2) := dk_16 61 (dk_at dksX9_clause_3 15 rfl rfl)
theorem dX9_clause_81 : decode cX9_clause 81 = .ok (.bipush 61, 2) := dk_16 61 (dk_at dksX9_clause_3 17 rfl rfl)
theorem dX9_clause_83 : decode cX9_clause 83 = .ok (.invokevirtual 42, 3) := dk_182 0 42 (dk_at dksX9_clause_3 19 rfl rfl)
theorem dX9_clause_86 : decode cX9_clause 86 = .ok (.pop, 1) := dk_87 (dk_at dksX9_clause_3 22 rfl rfl)
theorem dX9_clause_87 : decode cX9_clause 87 = .ok (.new 51, 3) := dk_187 0 51 (dk_at dksX9_clause_4 0 rfl rfl)
theorem dX9_clause_90 : decode cX9_clause 90 = .ok (.dup, 1) := dk_89 (dk_at dksX9_clause_4 3 rfl rfl)
theorem dX9_clause_91 : decode cX9_clause 91 = .ok (.iload_n 1, 1) := dk_27 (dk_at dksX9_clause_4 4 rfl rfl)
theorem dX9_clause_92 : decode cX9_clause 92 = .ok (.aload_n 2, 1) := dk_44 (dk_at dksX9_clause_4 5 rfl rfl)
theorem dX9_clause_93 : decode cX9_clause 93 = .ok (.aload_n 0, 1) := dk_42 (dk_at dksX9_clause_4 6 rfl rfl)
theorem dX9_clause_94 : decode cX9_clause 94 = .ok (.bipush 49, 2) := dk_16 49 (dk_at dksX9_clause_4 7 rfl rfl)
theorem dX9_clause_96 : decode cX9_clause 96 = .ok (.bipush 57, 2) := dk_16 57 (dk_at dksX9_clause_4 9 rfl rfl)
theorem dX9_clause_98 : decode cX9_clause 98 = .ok (.invokevirtual 42, 3) := dk_182 0 42 (dk_at dksX9_clause_4 11 rfl rfl)
theorem dX9_clause_101 : decode cX9_clause 101 = .ok (.iconst 1, 1) := dk_4 (dk_at dksX9_clause_4 14 rfl rfl)
theorem dX9_clause_102 : decode cX9_clause 102 = .ok (.iadd, 1) := dk_96 (dk_at dksX9_clause_4 15 rfl rfl)
theorem dX9_clause_103 : decode cX9_clause 103 = .ok (.invokespecial 60, 3) := dk_183 0 60 (dk_at dksX9_clause_4 16 rfl rfl)
theorem dX9_clause_106 : decode cX9_clause 106 = .ok (.areturn, 1) := dk_176 (dk_at dksX9_clause_4 19 rfl rfl)
theorem dX9_clause_107 : decode cX9_clause 107 = .ok (.new 37, 3) := dk_187 0 37 (dk_at dksX9_clause_4 20 rfl rfl)
theorem dX9_clause_110 : decode cX9_clause 110 = .ok (.dup, 1) := dk_89 (dk_at dksX9_clause_4 23 rfl rfl)
theorem dX9_clause_111 : decode cX9_clause 111 = .ok (.aload_n 0, 1) := dk_42 (dk_at dksX9_clause_5 0 rfl rfl)
theorem dX9_clause_112 : decode cX9_clause 112 = .ok (.getfield 26, 3) := dk_180 0 26 (dk_at dksX9_clause_5 1 rfl rfl)
theorem dX9_clause_115 : decode cX9_clause 115 = .ok (.invokespecial 39, 3) := dk_183 0 39 (dk_at dksX9_clause_5 4 rfl rfl)
theorem dX9_clause_118 : decode cX9_clause 118 = .ok (.athrow, 1) := dk_191 (dk_at dksX9_clause_5 7 rfl rfl)
abbrev cX9_here : ByteArray := prog_8_method_2_code
def yX9_here : MethodName := ⟨RX9, "here", "()I"⟩
def dkwX9_here_1 : List UInt8 := [172]
abbrev dktX9_here_1 : List UInt8 := dkwX9_here_1 ++ []
def dkwX9_here_0 : List UInt8 := [42, 180, 0, 26, 42, 180, 0, 22, 162, 0, 15, 42, 180, 0, 18, 42, 180, 0, 26, 51, 167, 0, 4, 2]
abbrev dktX9_here_0 : List UInt8 := dkwX9_here_0 ++ dktX9_here_1
theorem dksX9_here_0 : cX9_here.data.toList.drop 0 = dktX9_here_0 := by decide +kernel
theorem dksX9_here_1 : cX9_here.data.toList.drop 24 = dktX9_here_1 := dk_seg dksX9_here_0 24 rfl rfl
theorem dX9_here_0 : decode cX9_here 0 = .ok (.aload_n 0, 1) := dk_42 (dk_at dksX9_here_0 0 rfl rfl)
theorem dX9_here_1 : decode cX9_here 1 = .ok (.getfield 26, 3) := dk_180 0 26 (dk_at dksX9_here_0 1 rfl rfl)
theorem dX9_here_4 : decode cX9_here 4 = .ok (.aload_n 0, 1) := dk_42 (dk_at dksX9_here_0 4 rfl rfl)
theorem dX9_here_5 : decode cX9_here 5 = .ok (.getfield 22, 3) := dk_180 0 22 (dk_at dksX9_here_0 5 rfl rfl)
theorem dX9_here_8 : decode cX9_here 8 = .ok (.if_icmp .ge 15, 3) := dk_162 0 15 (dk_at dksX9_here_0 8 rfl rfl)
theorem dX9_here_11 : decode cX9_here 11 = .ok (.aload_n 0, 1) := dk_42 (dk_at dksX9_here_0 11 rfl rfl)
theorem dX9_here_12 : decode cX9_here 12 = .ok (.getfield 18, 3) := dk_180 0 18 (dk_at dksX9_here_0 12 rfl rfl)
theorem dX9_here_15 : decode cX9_here 15 = .ok (.aload_n 0, 1) := dk_42 (dk_at dksX9_here_0 15 rfl rfl)
theorem dX9_here_16 : decode cX9_here 16 = .ok (.getfield 26, 3) := dk_180 0 26 (dk_at dksX9_here_0 16 rfl rfl)
theorem dX9_here_19 : decode cX9_here 19 = .ok (.baload, 1) := dk_51 (dk_at dksX9_here_0 19 rfl rfl)
theorem dX9_here_20 : decode cX9_here 20 = .ok (.goto 4, 3) := dk_167 0 4 (dk_at dksX9_here_0 20 rfl rfl)
theorem dX9_here_23 : decode cX9_here 23 = .ok (.iconst (-1), 1) := dk_2 (dk_at dksX9_here_0 23 rfl rfl)
theorem dX9_here_24 : decode cX9_here 24 = .ok (.ireturn, 1) := dk_172 (dk_at dksX9_here_1 0 rfl rfl)
abbrev cX9_key : ByteArray := prog_8_method_4_code
def yX9_key : MethodName := ⟨RX9, "key", "()LSegmentedCache$Key;"⟩
def dkwX9_key_2 : List UInt8 := [187, 0, 46, 89, 27, 28, 183, 0, 48, 176]
abbrev dktX9_key_2 : List UInt8 := dkwX9_key_2 ++ []
def dkwX9_key_1 : List UInt8 := [16, 57, 184, 0, 33, 153, 0, 17, 16, 10, 28, 104, 42, 16, 48, 16, 57, 182, 0, 42, 96, 61]
abbrev dktX9_key_1 : List UInt8 := dkwX9_key_1 ++ dktX9_key_2
def dkwX9_key_0 : List UInt8 := [42, 16, 97, 16, 100, 182, 0, 42, 60, 42, 16, 48, 16, 57, 182, 0, 42, 61, 42, 182, 0, 29, 16, 48]
abbrev dktX9_key_0 : List UInt8 := dkwX9_key_0 ++ dktX9_key_1
theorem dksX9_key_0 : cX9_key.data.toList.drop 0 = dktX9_key_0 := by decide +kernel
theorem dksX9_key_1 : cX9_key.data.toList.drop 24 = dktX9_key_1 := dk_seg dksX9_key_0 24 rfl rfl
theorem dksX9_key_2 : cX9_key.data.toList.drop 46 = dktX9_key_2 := dk_seg dksX9_key_1 22 rfl rfl
theorem dX9_key_0 : decode cX9_key 0 = .ok (.aload_n 0, 1) := dk_42 (dk_at dksX9_key_0 0 rfl rfl)
theorem dX9_key_1 : decode cX9_key 1 = .ok (.bipush 97, 2) := dk_16 97 (dk_at dksX9_key_0 1 rfl rfl)
theorem dX9_key_3 : decode cX9_key 3 = .ok (.bipush 100, 2) := dk_16 100 (dk_at dksX9_key_0 3 rfl rfl)
theorem dX9_key_5 : decode cX9_key 5 = .ok (.invokevirtual 42, 3) := dk_182 0 42 (dk_at dksX9_key_0 5 rfl rfl)
theorem dX9_key_8 : decode cX9_key 8 = .ok (.istore_n 1, 1) := dk_60 (dk_at dksX9_key_0 8 rfl rfl)
theorem dX9_key_9 : decode cX9_key 9 = .ok (.aload_n 0, 1) := dk_42 (dk_at dksX9_key_0 9 rfl rfl)
theorem dX9_key_10 : decode cX9_key 10 = .ok (.bipush 48, 2) := dk_16 48 (dk_at dksX9_key_0 10 rfl rfl)
theorem dX9_key_12 : decode cX9_key 12 = .ok (.bipush 57, 2) := dk_16 57 (dk_at dksX9_key_0 12 rfl rfl)
theorem dX9_key_14 : decode cX9_key 14 = .ok (.invokevirtual 42, 3) := dk_182 0 42 (dk_at dksX9_key_0 14 rfl rfl)
theorem dX9_key_17 : decode cX9_key 17 = .ok (.istore_n 2, 1) := dk_61 (dk_at dksX9_key_0 17 rfl rfl)
theorem dX9_key_18 : decode cX9_key 18 = .ok (.aload_n 0, 1) := dk_42 (dk_at dksX9_key_0 18 rfl rfl)
theorem dX9_key_19 : decode cX9_key 19 = .ok (.invokevirtual 29, 3) := dk_182 0 29 (dk_at dksX9_key_0 19 rfl rfl)
theorem dX9_key_22 : decode cX9_key 22 = .ok (.bipush 48, 2) := dk_16 48 (dk_at dksX9_key_0 22 rfl rfl)
theorem dX9_key_24 : decode cX9_key 24 = .ok (.bipush 57, 2) := dk_16 57 (dk_at dksX9_key_1 0 rfl rfl)
theorem dX9_key_26 : decode cX9_key 26 = .ok (.invokestatic 33, 3) := dk_184 0 33 (dk_at dksX9_key_1 2 rfl rfl)
theorem dX9_key_29 : decode cX9_key 29 = .ok (.ifCond .eq 17, 3) := dk_153 0 17 (dk_at dksX9_key_1 5 rfl rfl)
theorem dX9_key_32 : decode cX9_key 32 = .ok (.bipush 10, 2) := dk_16 10 (dk_at dksX9_key_1 8 rfl rfl)
theorem dX9_key_34 : decode cX9_key 34 = .ok (.iload_n 2, 1) := dk_28 (dk_at dksX9_key_1 10 rfl rfl)
theorem dX9_key_35 : decode cX9_key 35 = .ok (.imul, 1) := dk_104 (dk_at dksX9_key_1 11 rfl rfl)
theorem dX9_key_36 : decode cX9_key 36 = .ok (.aload_n 0, 1) := dk_42 (dk_at dksX9_key_1 12 rfl rfl)
theorem dX9_key_37 : decode cX9_key 37 = .ok (.bipush 48, 2) := dk_16 48 (dk_at dksX9_key_1 13 rfl rfl)
theorem dX9_key_39 : decode cX9_key 39 = .ok (.bipush 57, 2) := dk_16 57 (dk_at dksX9_key_1 15 rfl rfl)
theorem dX9_key_41 : decode cX9_key 41 = .ok (.invokevirtual 42, 3) := dk_182 0 42 (dk_at dksX9_key_1 17 rfl rfl)
theorem dX9_key_44 : decode cX9_key 44 = .ok (.iadd, 1) := dk_96 (dk_at dksX9_key_1 20 rfl rfl)
theorem dX9_key_45 : decode cX9_key 45 = .ok (.istore_n 2, 1) := dk_61 (dk_at dksX9_key_1 21 rfl rfl)
theorem dX9_key_46 : decode cX9_key 46 = .ok (.new 46, 3) := dk_187 0 46 (dk_at dksX9_key_2 0 rfl rfl)
theorem dX9_key_49 : decode cX9_key 49 = .ok (.dup, 1) := dk_89 (dk_at dksX9_key_2 3 rfl rfl)
theorem dX9_key_50 : decode cX9_key 50 = .ok (.iload_n 1, 1) := dk_27 (dk_at dksX9_key_2 4 rfl rfl)
theorem dX9_key_51 : decode cX9_key 51 = .ok (.iload_n 2, 1) := dk_28 (dk_at dksX9_key_2 5 rfl rfl)
theorem dX9_key_52 : decode cX9_key 52 = .ok (.invokespecial 48, 3) := dk_183 0 48 (dk_at dksX9_key_2 6 rfl rfl)
theorem dX9_key_55 : decode cX9_key 55 = .ok (.areturn, 1) := dk_176 (dk_at dksX9_key_2 9 rfl rfl)
abbrev cX9_next : ByteArray := prog_8_method_3_code
def yX9_next : MethodName := ⟨RX9, "next", "(II)I"⟩
def dkwX9_next_1 : List UInt8 := [42, 180, 0, 18, 42, 89, 180, 0, 26, 90, 4, 96, 181, 0, 26, 51, 27, 100, 172]
abbrev dktX9_next_1 : List UInt8 := dkwX9_next_1 ++ []
def dkwX9_next_0 : List UInt8 := [42, 182, 0, 29, 27, 28, 184, 0, 33, 154, 0, 15, 187, 0, 37, 89, 42, 180, 0, 26, 183, 0, 39, 191]
abbrev dktX9_next_0 : List UInt8 := dkwX9_next_0 ++ dktX9_next_1
theorem dksX9_next_0 : cX9_next.data.toList.drop 0 = dktX9_next_0 := by decide +kernel
theorem dksX9_next_1 : cX9_next.data.toList.drop 24 = dktX9_next_1 := dk_seg dksX9_next_0 24 rfl rfl
theorem dX9_next_0 : decode cX9_next 0 = .ok (.aload_n 0, 1) := dk_42 (dk_at dksX9_next_0 0 rfl rfl)
theorem dX9_next_1 : decode cX9_next 1 = .ok (.invokevirtual 29, 3) := dk_182 0 29 (dk_at dksX9_next_0 1 rfl rfl)
theorem dX9_next_4 : decode cX9_next 4 = .ok (.iload_n 1, 1) := dk_27 (dk_at dksX9_next_0 4 rfl rfl)
theorem dX9_next_5 : decode cX9_next 5 = .ok (.iload_n 2, 1) := dk_28 (dk_at dksX9_next_0 5 rfl rfl)
theorem dX9_next_6 : decode cX9_next 6 = .ok (.invokestatic 33, 3) := dk_184 0 33 (dk_at dksX9_next_0 6 rfl rfl)
theorem dX9_next_9 : decode cX9_next 9 = .ok (.ifCond .ne 15, 3) := dk_154 0 15 (dk_at dksX9_next_0 9 rfl rfl)
theorem dX9_next_12 : decode cX9_next 12 = .ok (.new 37, 3) := dk_187 0 37 (dk_at dksX9_next_0 12 rfl rfl)
theorem dX9_next_15 : decode cX9_next 15 = .ok (.dup, 1) := dk_89 (dk_at dksX9_next_0 15 rfl rfl)
theorem dX9_next_16 : decode cX9_next 16 = .ok (.aload_n 0, 1) := dk_42 (dk_at dksX9_next_0 16 rfl rfl)
theorem dX9_next_17 : decode cX9_next 17 = .ok (.getfield 26, 3) := dk_180 0 26 (dk_at dksX9_next_0 17 rfl rfl)
theorem dX9_next_20 : decode cX9_next 20 = .ok (.invokespecial 39, 3) := dk_183 0 39 (dk_at dksX9_next_0 20 rfl rfl)
theorem dX9_next_23 : decode cX9_next 23 = .ok (.athrow, 1) := dk_191 (dk_at dksX9_next_0 23 rfl rfl)
theorem dX9_next_24 : decode cX9_next 24 = .ok (.aload_n 0, 1) := dk_42 (dk_at dksX9_next_1 0 rfl rfl)
theorem dX9_next_25 : decode cX9_next 25 = .ok (.getfield 18, 3) := dk_180 0 18 (dk_at dksX9_next_1 1 rfl rfl)
theorem dX9_next_28 : decode cX9_next 28 = .ok (.aload_n 0, 1) := dk_42 (dk_at dksX9_next_1 4 rfl rfl)
theorem dX9_next_29 : decode cX9_next 29 = .ok (.dup, 1) := dk_89 (dk_at dksX9_next_1 5 rfl rfl)
theorem dX9_next_30 : decode cX9_next 30 = .ok (.getfield 26, 3) := dk_180 0 26 (dk_at dksX9_next_1 6 rfl rfl)
theorem dX9_next_33 : decode cX9_next 33 = .ok (.dup_x1, 1) := dk_90 (dk_at dksX9_next_1 9 rfl rfl)
theorem dX9_next_34 : decode cX9_next 34 = .ok (.iconst 1, 1) := dk_4 (dk_at dksX9_next_1 10 rfl rfl)
theorem dX9_next_35 : decode cX9_next 35 = .ok (.iadd, 1) := dk_96 (dk_at dksX9_next_1 11 rfl rfl)
theorem dX9_next_36 : decode cX9_next 36 = .ok (.putfield 26, 3) := dk_181 0 26 (dk_at dksX9_next_1 12 rfl rfl)
theorem dX9_next_39 : decode cX9_next 39 = .ok (.baload, 1) := dk_51 (dk_at dksX9_next_1 15 rfl rfl)
theorem dX9_next_40 : decode cX9_next 40 = .ok (.iload_n 1, 1) := dk_27 (dk_at dksX9_next_1 16 rfl rfl)
theorem dX9_next_41 : decode cX9_next 41 = .ok (.isub, 1) := dk_100 (dk_at dksX9_next_1 17 rfl rfl)
theorem dX9_next_42 : decode cX9_next 42 = .ok (.ireturn, 1) := dk_172 (dk_at dksX9_next_1 18 rfl rfl)
theorem q120 : (Jvm.Cond.initialized "SegmentedCache$Reader") ∈ lw_all := lw_g (lw_at lw_m1 52 rfl) rfl
theorem q1052 : (Jvm.Cond.selects "SegmentedCache$Reader" ({ cls := "java/lang/Object", name := "getClass", desc := "()Ljava/lang/Class;" } : Jvm.MethodName) ({ cls := "java/lang/Object", name := "getClass", desc := "()Ljava/lang/Class;" } : Jvm.MethodName)) ∈ lw_all := lw_g (lw_at lw_m5 24 rfl) rfl
theorem q1327 : (Jvm.Cond.selects "SegmentedCache$Reader" ({ cls := "java/lang/Object", name := "equals", desc := "(Ljava/lang/Object;)Z" } : Jvm.MethodName) ({ cls := "java/lang/Object", name := "equals", desc := "(Ljava/lang/Object;)Z" } : Jvm.MethodName)) ∈ lw_all := lw_g (lw_at lw_m6 59 rfl) rfl
theorem q1692 : (Jvm.Cond.selects "SegmentedCache$Reader" ({ cls := "java/lang/Object", name := "hashCode", desc := "()I" } : Jvm.MethodName) ({ cls := "java/lang/Object", name := "hashCode", desc := "()I" } : Jvm.MethodName)) ∈ lw_all := lw_g (lw_at lw_m7 184 rfl) rfl
theorem q2251 : (Jvm.Cond.instantiable "SegmentedCache$Reader" (4 : Nat)) ∈ lw_all := lw_g (lw_at lw_m10 23 rfl) rfl
theorem q2253 : (Jvm.Cond.instanceMethod ({ cls := "SegmentedCache$Reader", name := "<init>", desc := "([BI)V" } : Jvm.MethodName)) ∈ lw_all := lw_g (lw_at lw_m10 25 rfl) rfl
theorem q2254 : (Jvm.Cond.code ({ cls := "SegmentedCache$Reader", name := "<init>", desc := "([BI)V" } : Jvm.MethodName) prog_8_method_1_code (3 : Nat) (Option.none : Option Jvm.ClassFile.FieldType)) ∈ lw_all := lw_g (lw_at lw_m10 26 rfl) rfl
theorem q2255 : (Jvm.Cond.methodLink "SegmentedCache$Reader" (3 : Nat) ({ cls := "java/lang/Object", name := "<init>", desc := "()V" } : Jvm.MethodName)) ∈ lw_all := lw_g (lw_at lw_m10 27 rfl) rfl
theorem q2256 : (Jvm.Cond.classLink "SegmentedCache$Reader" (9 : Nat) "java/util/LinkedList") ∈ lw_all := lw_g (lw_at lw_m10 28 rfl) rfl
theorem q2257 : (Jvm.Cond.methodLink "SegmentedCache$Reader" (11 : Nat) ({ cls := "java/util/LinkedList", name := "<init>", desc := "()V" } : Jvm.MethodName)) ∈ lw_all := lw_g (lw_at lw_m10 29 rfl) rfl
theorem q2258 : (Jvm.Cond.fieldLink "SegmentedCache$Reader" (18 : Nat) "SegmentedCache$Reader" "text" "[B") ∈ lw_all := lw_g (lw_at lw_m10 30 rfl) rfl
theorem q2259 : (Jvm.Cond.fieldLink "SegmentedCache$Reader" (22 : Nat) "SegmentedCache$Reader" "size" "I") ∈ lw_all := lw_g (lw_at lw_m10 31 rfl) rfl
theorem q2260 : (Jvm.Cond.fieldLink "SegmentedCache$Reader" (26 : Nat) "SegmentedCache$Reader" "at" "I") ∈ lw_all := lw_g (lw_at lw_m10 32 rfl) rfl
theorem q2261 : (Jvm.Cond.fieldLink "SegmentedCache$Reader" (12 : Nat) "SegmentedCache$Reader" "read" "Ljava/util/LinkedList;") ∈ lw_all := lw_g (lw_at lw_m10 33 rfl) rfl
theorem q2262 : (Jvm.Cond.laysFinal "SegmentedCache$Reader" "SegmentedCache$Reader" "text" "[B") ∈ lw_all := lw_g (lw_at lw_m10 34 rfl) rfl
theorem q2263 : (Jvm.Cond.soleField "SegmentedCache$Reader" "text") ∈ lw_all := lw_g (lw_at lw_m10 35 rfl) rfl
theorem q2264 : (Jvm.Cond.laysFinal "SegmentedCache$Reader" "SegmentedCache$Reader" "size" "I") ∈ lw_all := lw_g (lw_at lw_m10 36 rfl) rfl
theorem q2265 : (Jvm.Cond.soleField "SegmentedCache$Reader" "size") ∈ lw_all := lw_g (lw_at lw_m10 37 rfl) rfl
theorem q2266 : (Jvm.Cond.lays "SegmentedCache$Reader" "SegmentedCache$Reader" "at" "I") ∈ lw_all := lw_g (lw_at lw_m10 38 rfl) rfl
theorem q2267 : (Jvm.Cond.soleField "SegmentedCache$Reader" "at") ∈ lw_all := lw_g (lw_at lw_m10 39 rfl) rfl
theorem q2268 : (Jvm.Cond.laysFinal "SegmentedCache$Reader" "SegmentedCache$Reader" "read" "Ljava/util/LinkedList;") ∈ lw_all := lw_g (lw_at lw_m10 40 rfl) rfl
theorem q2269 : (Jvm.Cond.soleField "SegmentedCache$Reader" "read") ∈ lw_all := lw_g (lw_at lw_m10 41 rfl) rfl
theorem q2270 : (Jvm.Cond.superclass "SegmentedCache$Reader" "java/lang/Object") ∈ lw_all := lw_g (lw_at lw_m10 42 rfl) rfl
theorem q2272 : (Jvm.Cond.instanceMethod ({ cls := "SegmentedCache$Reader", name := "whole", desc := "()Ljava/util/LinkedList;" } : Jvm.MethodName)) ∈ lw_all := lw_g (lw_at lw_m10 44 rfl) rfl
theorem q2273 : (Jvm.Cond.selects "SegmentedCache$Reader" ({ cls := "SegmentedCache$Reader", name := "whole", desc := "()Ljava/util/LinkedList;" } : Jvm.MethodName) ({ cls := "SegmentedCache$Reader", name := "whole", desc := "()Ljava/util/LinkedList;" } : Jvm.MethodName)) ∈ lw_all := lw_g (lw_at lw_m10 45 rfl) rfl
theorem q2274 : (Jvm.Cond.code ({ cls := "SegmentedCache$Reader", name := "whole", desc := "()Ljava/util/LinkedList;" } : Jvm.MethodName) prog_8_method_6_code (1 : Nat) (Option.some (Jvm.ClassFile.FieldType.object "java/util/LinkedList"))) ∈ lw_all := lw_g (lw_at lw_m10 46 rfl) rfl
theorem q2275 : (Jvm.Cond.methodLink "SegmentedCache$Reader" (63 : Nat) ({ cls := "SegmentedCache$Reader", name := "clause", desc := "()LSegmentedCache$Clause;" } : Jvm.MethodName)) ∈ lw_all := lw_g (lw_at lw_m10 47 rfl) rfl
theorem q2276 : (Jvm.Cond.privateMethod ({ cls := "SegmentedCache$Reader", name := "clause", desc := "()LSegmentedCache$Clause;" } : Jvm.MethodName)) ∈ lw_tbl := lw_at lw_m10 48 rfl
theorem q2277 : (Jvm.Cond.instanceMethod ({ cls := "SegmentedCache$Reader", name := "clause", desc := "()LSegmentedCache$Clause;" } : Jvm.MethodName)) ∈ lw_all := lw_g (lw_at lw_m10 49 rfl) rfl
theorem q2278 : (Jvm.Cond.code ({ cls := "SegmentedCache$Reader", name := "clause", desc := "()LSegmentedCache$Clause;" } : Jvm.MethodName) prog_8_method_5_code (3 : Nat) (Option.some (Jvm.ClassFile.FieldType.object "SegmentedCache$Clause"))) ∈ lw_all := lw_g (lw_at lw_m10 50 rfl) rfl
theorem q2279 : (Jvm.Cond.methodLink "SegmentedCache$Reader" (29 : Nat) ({ cls := "SegmentedCache$Reader", name := "here", desc := "()I" } : Jvm.MethodName)) ∈ lw_all := lw_g (lw_at lw_m10 51 rfl) rfl
theorem q2280 : (Jvm.Cond.privateMethod ({ cls := "SegmentedCache$Reader", name := "here", desc := "()I" } : Jvm.MethodName)) ∈ lw_tbl := lw_at lw_m10 52 rfl
theorem q2281 : (Jvm.Cond.instanceMethod ({ cls := "SegmentedCache$Reader", name := "here", desc := "()I" } : Jvm.MethodName)) ∈ lw_all := lw_g (lw_at lw_m10 53 rfl) rfl
theorem q2282 : (Jvm.Cond.code ({ cls := "SegmentedCache$Reader", name := "here", desc := "()I" } : Jvm.MethodName) prog_8_method_2_code (1 : Nat) (Option.some Jvm.ClassFile.FieldType.int)) ∈ lw_all := lw_g (lw_at lw_m10 54 rfl) rfl
theorem q2283 : (Jvm.Cond.classLink "SegmentedCache$Reader" (51 : Nat) "SegmentedCache$Clause") ∈ lw_all := lw_g (lw_at lw_m10 55 rfl) rfl
theorem q2285 : (Jvm.Cond.methodLink "SegmentedCache$Reader" (53 : Nat) ({ cls := "SegmentedCache$Reader", name := "key", desc := "()LSegmentedCache$Key;" } : Jvm.MethodName)) ∈ lw_all := lw_g (lw_at lw_m10 57 rfl) rfl
theorem q2286 : (Jvm.Cond.privateMethod ({ cls := "SegmentedCache$Reader", name := "key", desc := "()LSegmentedCache$Key;" } : Jvm.MethodName)) ∈ lw_tbl := lw_at lw_m10 58 rfl
theorem q2287 : (Jvm.Cond.instanceMethod ({ cls := "SegmentedCache$Reader", name := "key", desc := "()LSegmentedCache$Key;" } : Jvm.MethodName)) ∈ lw_all := lw_g (lw_at lw_m10 59 rfl) rfl
theorem q2288 : (Jvm.Cond.code ({ cls := "SegmentedCache$Reader", name := "key", desc := "()LSegmentedCache$Key;" } : Jvm.MethodName) prog_8_method_4_code (3 : Nat) (Option.some (Jvm.ClassFile.FieldType.object "SegmentedCache$Key"))) ∈ lw_all := lw_g (lw_at lw_m10 60 rfl) rfl
theorem q2289 : (Jvm.Cond.methodLink "SegmentedCache$Reader" (42 : Nat) ({ cls := "SegmentedCache$Reader", name := "next", desc := "(II)I" } : Jvm.MethodName)) ∈ lw_all := lw_g (lw_at lw_m10 61 rfl) rfl
theorem q2290 : (Jvm.Cond.privateMethod ({ cls := "SegmentedCache$Reader", name := "next", desc := "(II)I" } : Jvm.MethodName)) ∈ lw_tbl := lw_at lw_m10 62 rfl
theorem q2291 : (Jvm.Cond.instanceMethod ({ cls := "SegmentedCache$Reader", name := "next", desc := "(II)I" } : Jvm.MethodName)) ∈ lw_all := lw_g (lw_at lw_m10 63 rfl) rfl
theorem q2292 : (Jvm.Cond.code ({ cls := "SegmentedCache$Reader", name := "next", desc := "(II)I" } : Jvm.MethodName) prog_8_method_3_code (3 : Nat) (Option.some Jvm.ClassFile.FieldType.int)) ∈ lw_all := lw_g (lw_at lw_m10 64 rfl) rfl
theorem q2293 : (Jvm.Cond.methodLinkNest "SegmentedCache$Reader" (33 : Nat) ({ cls := "SegmentedCache", name := "in", desc := "(III)Z" } : Jvm.MethodName) "SegmentedCache") ∈ lw_tbl := lw_at lw_m10 65 rfl
theorem q2294 : (Jvm.Cond.classLink "SegmentedCache$Reader" (37 : Nat) "SegmentedCache$Off") ∈ lw_all := lw_g (lw_at lw_m10 66 rfl) rfl
theorem q2303 : (Jvm.Cond.methodLink "SegmentedCache$Reader" (39 : Nat) ({ cls := "SegmentedCache$Off", name := "<init>", desc := "(I)V" } : Jvm.MethodName)) ∈ lw_all := lw_g (lw_at lw_m10 75 rfl) rfl
theorem q2313 : (Jvm.Cond.classLink "SegmentedCache$Reader" (46 : Nat) "SegmentedCache$Key") ∈ lw_all := lw_g (lw_at lw_m10 85 rfl) rfl
theorem q2314 : (Jvm.Cond.methodLink "SegmentedCache$Reader" (48 : Nat) ({ cls := "SegmentedCache$Key", name := "<init>", desc := "(II)V" } : Jvm.MethodName)) ∈ lw_all := lw_g (lw_at lw_m10 86 rfl) rfl
theorem q2315 : (Jvm.Cond.methodLink "SegmentedCache$Reader" (57 : Nat) ({ cls := "SegmentedCache$Clause", name := "<init>", desc := "(ILSegmentedCache$Key;)V" } : Jvm.MethodName)) ∈ lw_all := lw_g (lw_at lw_m10 87 rfl) rfl
theorem q2338 : (Jvm.Cond.methodLink "SegmentedCache$Reader" (60 : Nat) ({ cls := "SegmentedCache$Clause", name := "<init>", desc := "(ILSegmentedCache$Key;I)V" } : Jvm.MethodName)) ∈ lw_all := lw_g (lw_at lw_m10 110 rfl) rfl
theorem q2339 : (Jvm.Cond.methodLink "SegmentedCache$Reader" (67 : Nat) ({ cls := "java/util/LinkedList", name := "add", desc := "(Ljava/lang/Object;)Z" } : Jvm.MethodName)) ∈ lw_all := lw_g (lw_at lw_m10 111 rfl) rfl
theorem q2368 : (Jvm.Cond.methodLink "SegmentedCache$Reader" (71 : Nat) ({ cls := "java/util/LinkedList", name := "size", desc := "()I" } : Jvm.MethodName)) ∈ lw_all := lw_g (lw_at lw_m10 140 rfl) rfl
theorem q3062 : (Jvm.Cond.castable "SegmentedCache$Reader" "java/lang/Object") ∈ lw_tbl := lw_at lw_m13 114 rfl
theorem in_X9 : ∀ w ∈ wsX90, w ∈ lw_all := lw_in wsX90 [2262, 2264, 2266, 2268] (by decide +kernel) (by decide +kernel)
/-! SegmentedCache$Clause -/
set_option maxRecDepth 100000
def RX10 : String := "SegmentedCache$Clause"
def TX10 : u_T := fun k => match k with
  | 0 => ("SegmentedCache$Clause", "sign", "I", true)
  | 1 => ("SegmentedCache$Clause", "weight", "I", true)
  | _ => ("SegmentedCache$Clause", "key", "LSegmentedCache$Key;", true)
def tyX10 : Nat → FieldType := fun k => match k with
  | 0 => .int
  | 1 => .int
  | _ => .object "SegmentedCache$Key"
abbrev wsX100 : List Cond := u_ws RX10 TX10 3
theorem nmX10 : ∀ a, a < 3 → ∀ b, b < 3 → a ≠ b → (TX10 a).2.1 ≠ (TX10 b).2.1 := by decide +kernel
theorem tyX10_ok : ∀ k, k < 3 → parseFieldDescriptor (TX10 k).2.2.1 = some (tyX10 k) := by decide +kernel
abbrev cX10_init : ByteArray := prog_4_method_2_code
def yX10_init : MethodName := ⟨RX10, "<init>", "(ILSegmentedCache$Key;)V"⟩
def dkwX10_init_0 : List UInt8 := [42, 27, 44, 3, 183, 0, 20, 177]
abbrev dktX10_init_0 : List UInt8 := dkwX10_init_0 ++ []
theorem dksX10_init_0 : cX10_init.data.toList.drop 0 = dktX10_init_0 := by decide +kernel
theorem dX10_init_0 : decode cX10_init 0 = .ok (.aload_n 0, 1) := dk_42 (dk_at dksX10_init_0 0 rfl rfl)
theorem dX10_init_1 : decode cX10_init 1 = .ok (.iload_n 1, 1) := dk_27 (dk_at dksX10_init_0 1 rfl rfl)
theorem dX10_init_2 : decode cX10_init 2 = .ok (.aload_n 2, 1) := dk_44 (dk_at dksX10_init_0 2 rfl rfl)
theorem dX10_init_3 : decode cX10_init 3 = .ok (.iconst 0, 1) := dk_3 (dk_at dksX10_init_0 3 rfl rfl)
theorem dX10_init_4 : decode cX10_init 4 = .ok (.invokespecial 20, 3) := dk_183 0 20 (dk_at dksX10_init_0 4 rfl rfl)
theorem dX10_init_7 : decode cX10_init 7 = .ok (.return_, 1) := dk_177 (dk_at dksX10_init_0 7 rfl rfl)
abbrev cX10_init_2 : ByteArray := prog_4_method_1_code
def yX10_init_2 : MethodName := ⟨RX10, "<init>", "(ILSegmentedCache$Key;I)V"⟩
def dkwX10_init_2_0 : List UInt8 := [42, 183, 0, 1, 42, 27, 181, 0, 7, 42, 44, 181, 0, 13, 42, 29, 181, 0, 17, 177]
abbrev dktX10_init_2_0 : List UInt8 := dkwX10_init_2_0 ++ []
theorem dksX10_init_2_0 : cX10_init_2.data.toList.drop 0 = dktX10_init_2_0 := by decide +kernel
theorem dX10_init_2_0 : decode cX10_init_2 0 = .ok (.aload_n 0, 1) := dk_42 (dk_at dksX10_init_2_0 0 rfl rfl)
theorem dX10_init_2_1 : decode cX10_init_2 1 = .ok (.invokespecial 1, 3) := dk_183 0 1 (dk_at dksX10_init_2_0 1 rfl rfl)
theorem dX10_init_2_4 : decode cX10_init_2 4 = .ok (.aload_n 0, 1) := dk_42 (dk_at dksX10_init_2_0 4 rfl rfl)
theorem dX10_init_2_5 : decode cX10_init_2 5 = .ok (.iload_n 1, 1) := dk_27 (dk_at dksX10_init_2_0 5 rfl rfl)
theorem dX10_init_2_6 : decode cX10_init_2 6 = .ok (.putfield 7, 3) := dk_181 0 7 (dk_at dksX10_init_2_0 6 rfl rfl)
theorem dX10_init_2_9 : decode cX10_init_2 9 = .ok (.aload_n 0, 1) := dk_42 (dk_at dksX10_init_2_0 9 rfl rfl)
theorem dX10_init_2_10 : decode cX10_init_2 10 = .ok (.aload_n 2, 1) := dk_44 (dk_at dksX10_init_2_0 10 rfl rfl)
theorem dX10_init_2_11 : decode cX10_init_2 11 = .ok (.putfield 13, 3) := dk_181 0 13 (dk_at dksX10_init_2_0 11 rfl rfl)
theorem dX10_init_2_14 : decode cX10_init_2 14 = .ok (.aload_n 0, 1) := dk_42 (dk_at dksX10_init_2_0 14 rfl rfl)
theorem dX10_init_2_15 : decode cX10_init_2 15 = .ok (.iload_n 3, 1) := dk_29 (dk_at dksX10_init_2_0 15 rfl rfl)
theorem dX10_init_2_16 : decode cX10_init_2 16 = .ok (.putfield 17, 3) := dk_181 0 17 (dk_at dksX10_init_2_0 16 rfl rfl)
theorem dX10_init_2_19 : decode cX10_init_2 19 = .ok (.return_, 1) := dk_177 (dk_at dksX10_init_2_0 19 rfl rfl)
theorem q121 : (Jvm.Cond.initialized "SegmentedCache$Clause") ∈ lw_all := lw_g (lw_at lw_m1 53 rfl) rfl
theorem q1048 : (Jvm.Cond.selects "SegmentedCache$Clause" ({ cls := "java/lang/Object", name := "getClass", desc := "()Ljava/lang/Class;" } : Jvm.MethodName) ({ cls := "java/lang/Object", name := "getClass", desc := "()Ljava/lang/Class;" } : Jvm.MethodName)) ∈ lw_all := lw_g (lw_at lw_m5 20 rfl) rfl
theorem q1320 : (Jvm.Cond.selects "SegmentedCache$Clause" ({ cls := "java/lang/Object", name := "equals", desc := "(Ljava/lang/Object;)Z" } : Jvm.MethodName) ({ cls := "java/lang/Object", name := "equals", desc := "(Ljava/lang/Object;)Z" } : Jvm.MethodName)) ∈ lw_all := lw_g (lw_at lw_m6 52 rfl) rfl
theorem q1686 : (Jvm.Cond.selects "SegmentedCache$Clause" ({ cls := "java/lang/Object", name := "hashCode", desc := "()I" } : Jvm.MethodName) ({ cls := "java/lang/Object", name := "hashCode", desc := "()I" } : Jvm.MethodName)) ∈ lw_all := lw_g (lw_at lw_m7 178 rfl) rfl
theorem q2284 : (Jvm.Cond.instantiable "SegmentedCache$Clause" (3 : Nat)) ∈ lw_all := lw_g (lw_at lw_m10 56 rfl) rfl
theorem q2316 : (Jvm.Cond.instanceMethod ({ cls := "SegmentedCache$Clause", name := "<init>", desc := "(ILSegmentedCache$Key;)V" } : Jvm.MethodName)) ∈ lw_all := lw_g (lw_at lw_m10 88 rfl) rfl
theorem q2317 : (Jvm.Cond.code ({ cls := "SegmentedCache$Clause", name := "<init>", desc := "(ILSegmentedCache$Key;)V" } : Jvm.MethodName) prog_4_method_2_code (3 : Nat) (Option.none : Option Jvm.ClassFile.FieldType)) ∈ lw_all := lw_g (lw_at lw_m10 89 rfl) rfl
theorem q2318 : (Jvm.Cond.methodLink "SegmentedCache$Clause" (20 : Nat) ({ cls := "SegmentedCache$Clause", name := "<init>", desc := "(ILSegmentedCache$Key;I)V" } : Jvm.MethodName)) ∈ lw_all := lw_g (lw_at lw_m10 90 rfl) rfl
theorem q2319 : (Jvm.Cond.instanceMethod ({ cls := "SegmentedCache$Clause", name := "<init>", desc := "(ILSegmentedCache$Key;I)V" } : Jvm.MethodName)) ∈ lw_all := lw_g (lw_at lw_m10 91 rfl) rfl
theorem q2320 : (Jvm.Cond.code ({ cls := "SegmentedCache$Clause", name := "<init>", desc := "(ILSegmentedCache$Key;I)V" } : Jvm.MethodName) prog_4_method_1_code (4 : Nat) (Option.none : Option Jvm.ClassFile.FieldType)) ∈ lw_all := lw_g (lw_at lw_m10 92 rfl) rfl
theorem q2321 : (Jvm.Cond.methodLink "SegmentedCache$Clause" (1 : Nat) ({ cls := "java/lang/Object", name := "<init>", desc := "()V" } : Jvm.MethodName)) ∈ lw_all := lw_g (lw_at lw_m10 93 rfl) rfl
theorem q2322 : (Jvm.Cond.fieldLink "SegmentedCache$Clause" (7 : Nat) "SegmentedCache$Clause" "sign" "I") ∈ lw_all := lw_g (lw_at lw_m10 94 rfl) rfl
theorem q2325 : (Jvm.Cond.fieldLink "SegmentedCache$Clause" (17 : Nat) "SegmentedCache$Clause" "weight" "I") ∈ lw_all := lw_g (lw_at lw_m10 97 rfl) rfl
theorem q2328 : (Jvm.Cond.fieldLink "SegmentedCache$Clause" (13 : Nat) "SegmentedCache$Clause" "key" "LSegmentedCache$Key;") ∈ lw_all := lw_g (lw_at lw_m10 100 rfl) rfl
theorem q2331 : (Jvm.Cond.laysFinal "SegmentedCache$Clause" "SegmentedCache$Clause" "sign" "I") ∈ lw_all := lw_g (lw_at lw_m10 103 rfl) rfl
theorem q2332 : (Jvm.Cond.soleField "SegmentedCache$Clause" "sign") ∈ lw_all := lw_g (lw_at lw_m10 104 rfl) rfl
theorem q2333 : (Jvm.Cond.laysFinal "SegmentedCache$Clause" "SegmentedCache$Clause" "weight" "I") ∈ lw_all := lw_g (lw_at lw_m10 105 rfl) rfl
theorem q2334 : (Jvm.Cond.soleField "SegmentedCache$Clause" "weight") ∈ lw_all := lw_g (lw_at lw_m10 106 rfl) rfl
theorem q2335 : (Jvm.Cond.laysFinal "SegmentedCache$Clause" "SegmentedCache$Clause" "key" "LSegmentedCache$Key;") ∈ lw_all := lw_g (lw_at lw_m10 107 rfl) rfl
theorem q2336 : (Jvm.Cond.soleField "SegmentedCache$Clause" "key") ∈ lw_all := lw_g (lw_at lw_m10 108 rfl) rfl
theorem q2337 : (Jvm.Cond.superclass "SegmentedCache$Clause" "java/lang/Object") ∈ lw_all := lw_g (lw_at lw_m10 109 rfl) rfl
theorem q3063 : (Jvm.Cond.castable "SegmentedCache$Clause" "java/lang/Object") ∈ lw_tbl := lw_at lw_m13 115 rfl
theorem in_X10 : ∀ w ∈ wsX100, w ∈ lw_all := lw_in wsX100 [2331, 2333, 2335] (by decide +kernel) (by decide +kernel)
/-! SegmentedCache$Off -/
set_option maxRecDepth 100000
def RX11 : String := "SegmentedCache$Off"
def TX11 : u_T := fun k => match k with
  | 0 => ("java/lang/Throwable", "cause", "Ljava/lang/Throwable;", false)
  | 1 => ("java/lang/Throwable", "stackTrace", "[Ljava/lang/StackTraceElement;", false)
  | 2 => ("java/lang/Throwable", "suppressedExceptions", "Ljava/util/List;", false)
  | 3 => ("java/lang/Throwable", "detailMessage", "Ljava/lang/String;", false)
  | 4 => ("java/lang/Throwable", "backtrace", "Ljava/lang/Object;", false)
  | 5 => ("java/lang/Throwable", "depth", "I", false)
  | _ => ("SegmentedCache$Off", "place", "I", true)
def tyX11 : Nat → FieldType := fun k => match k with
  | 0 => .object "java/lang/Throwable"
  | 1 => .array (.object "java/lang/StackTraceElement")
  | 2 => .object "java/util/List"
  | 3 => .object "java/lang/String"
  | 4 => .object "java/lang/Object"
  | 5 => .int
  | _ => .int
abbrev wsX110 : List Cond := u_ws RX11 TX11 7
theorem nmX11 : ∀ a, a < 7 → ∀ b, b < 7 → a ≠ b → (TX11 a).2.1 ≠ (TX11 b).2.1 := by decide +kernel
theorem tyX11_ok : ∀ k, k < 7 → parseFieldDescriptor (TX11 k).2.2.1 = some (tyX11 k) := by decide +kernel
abbrev cX11_init : ByteArray := prog_7_method_1_code
def yX11_init : MethodName := ⟨RX11, "<init>", "(I)V"⟩
def dkwX11_init_0 : List UInt8 := [42, 183, 0, 1, 42, 27, 181, 0, 7, 177]
abbrev dktX11_init_0 : List UInt8 := dkwX11_init_0 ++ []
theorem dksX11_init_0 : cX11_init.data.toList.drop 0 = dktX11_init_0 := by decide +kernel
theorem dX11_init_0 : decode cX11_init 0 = .ok (.aload_n 0, 1) := dk_42 (dk_at dksX11_init_0 0 rfl rfl)
theorem dX11_init_1 : decode cX11_init 1 = .ok (.invokespecial 1, 3) := dk_183 0 1 (dk_at dksX11_init_0 1 rfl rfl)
theorem dX11_init_4 : decode cX11_init 4 = .ok (.aload_n 0, 1) := dk_42 (dk_at dksX11_init_0 4 rfl rfl)
theorem dX11_init_5 : decode cX11_init 5 = .ok (.iload_n 1, 1) := dk_27 (dk_at dksX11_init_0 5 rfl rfl)
theorem dX11_init_6 : decode cX11_init 6 = .ok (.putfield 7, 3) := dk_181 0 7 (dk_at dksX11_init_0 6 rfl rfl)
theorem dX11_init_9 : decode cX11_init 9 = .ok (.return_, 1) := dk_177 (dk_at dksX11_init_0 9 rfl rfl)
theorem q122 : (Jvm.Cond.initialized "SegmentedCache$Off") ∈ lw_all := lw_g (lw_at lw_m1 54 rfl) rfl
theorem q687 : (Jvm.Cond.selects "SegmentedCache$Off" ({ cls := "java/lang/Throwable", name := "fillInStackTrace", desc := "()Ljava/lang/Throwable;" } : Jvm.MethodName) ({ cls := "java/lang/Throwable", name := "fillInStackTrace", desc := "()Ljava/lang/Throwable;" } : Jvm.MethodName)) ∈ lw_all := lw_g (lw_at lw_m3 139 rfl) rfl
theorem q1031 : (Jvm.Cond.selects "SegmentedCache$Off" ({ cls := "java/lang/Throwable", name := "toString", desc := "()Ljava/lang/String;" } : Jvm.MethodName) ({ cls := "java/lang/Throwable", name := "toString", desc := "()Ljava/lang/String;" } : Jvm.MethodName)) ∈ lw_all := lw_g (lw_at lw_m5 3 rfl) rfl
theorem q1051 : (Jvm.Cond.selects "SegmentedCache$Off" ({ cls := "java/lang/Object", name := "getClass", desc := "()Ljava/lang/Class;" } : Jvm.MethodName) ({ cls := "java/lang/Object", name := "getClass", desc := "()Ljava/lang/Class;" } : Jvm.MethodName)) ∈ lw_all := lw_g (lw_at lw_m5 23 rfl) rfl
theorem q1090 : (Jvm.Cond.selects "SegmentedCache$Off" ({ cls := "java/lang/Throwable", name := "getLocalizedMessage", desc := "()Ljava/lang/String;" } : Jvm.MethodName) ({ cls := "java/lang/Throwable", name := "getLocalizedMessage", desc := "()Ljava/lang/String;" } : Jvm.MethodName)) ∈ lw_all := lw_g (lw_at lw_m5 62 rfl) rfl
theorem q1104 : (Jvm.Cond.selects "SegmentedCache$Off" ({ cls := "java/lang/Throwable", name := "getMessage", desc := "()Ljava/lang/String;" } : Jvm.MethodName) ({ cls := "java/lang/Throwable", name := "getMessage", desc := "()Ljava/lang/String;" } : Jvm.MethodName)) ∈ lw_all := lw_g (lw_at lw_m5 76 rfl) rfl
theorem q1326 : (Jvm.Cond.selects "SegmentedCache$Off" ({ cls := "java/lang/Object", name := "equals", desc := "(Ljava/lang/Object;)Z" } : Jvm.MethodName) ({ cls := "java/lang/Object", name := "equals", desc := "(Ljava/lang/Object;)Z" } : Jvm.MethodName)) ∈ lw_all := lw_g (lw_at lw_m6 58 rfl) rfl
theorem q1691 : (Jvm.Cond.selects "SegmentedCache$Off" ({ cls := "java/lang/Object", name := "hashCode", desc := "()I" } : Jvm.MethodName) ({ cls := "java/lang/Object", name := "hashCode", desc := "()I" } : Jvm.MethodName)) ∈ lw_all := lw_g (lw_at lw_m7 183 rfl) rfl
theorem q2295 : (Jvm.Cond.instantiable "SegmentedCache$Off" (7 : Nat)) ∈ lw_all := lw_g (lw_at lw_m10 67 rfl) rfl
theorem q2296 : (Jvm.Cond.castable "SegmentedCache$Off" "SegmentedCache$Off") ∈ lw_tbl := lw_at lw_m10 68 rfl
theorem q2297 : (Jvm.Cond.selects "SegmentedCache$Off" ({ cls := "java/lang/Throwable", name := "fillInStackTrace", desc := "(I)Ljava/lang/Throwable;" } : Jvm.MethodName) ({ cls := "java/lang/Throwable", name := "fillInStackTrace", desc := "(I)Ljava/lang/Throwable;" } : Jvm.MethodName)) ∈ lw_all := lw_g (lw_at lw_m10 69 rfl) rfl
theorem q2298 : (Jvm.Cond.lays "SegmentedCache$Off" "java/lang/Throwable" "cause" "Ljava/lang/Throwable;") ∈ lw_all := lw_g (lw_at lw_m10 70 rfl) rfl
theorem q2299 : (Jvm.Cond.lays "SegmentedCache$Off" "java/lang/Throwable" "stackTrace" "[Ljava/lang/StackTraceElement;") ∈ lw_all := lw_g (lw_at lw_m10 71 rfl) rfl
theorem q2300 : (Jvm.Cond.lays "SegmentedCache$Off" "java/lang/Throwable" "suppressedExceptions" "Ljava/util/List;") ∈ lw_all := lw_g (lw_at lw_m10 72 rfl) rfl
theorem q2301 : (Jvm.Cond.lays "SegmentedCache$Off" "java/lang/Throwable" "detailMessage" "Ljava/lang/String;") ∈ lw_all := lw_g (lw_at lw_m10 73 rfl) rfl
theorem q2302 : (Jvm.Cond.lays "SegmentedCache$Off" "java/lang/Throwable" "backtrace" "Ljava/lang/Object;") ∈ lw_all := lw_g (lw_at lw_m10 74 rfl) rfl
theorem q2304 : (Jvm.Cond.instanceMethod ({ cls := "SegmentedCache$Off", name := "<init>", desc := "(I)V" } : Jvm.MethodName)) ∈ lw_all := lw_g (lw_at lw_m10 76 rfl) rfl
theorem q2305 : (Jvm.Cond.code ({ cls := "SegmentedCache$Off", name := "<init>", desc := "(I)V" } : Jvm.MethodName) prog_7_method_1_code (2 : Nat) (Option.none : Option Jvm.ClassFile.FieldType)) ∈ lw_all := lw_g (lw_at lw_m10 77 rfl) rfl
theorem q2306 : (Jvm.Cond.methodLink "SegmentedCache$Off" (1 : Nat) ({ cls := "java/lang/RuntimeException", name := "<init>", desc := "()V" } : Jvm.MethodName)) ∈ lw_all := lw_g (lw_at lw_m10 78 rfl) rfl
theorem q2307 : (Jvm.Cond.fieldLink "SegmentedCache$Off" (7 : Nat) "SegmentedCache$Off" "place" "I") ∈ lw_all := lw_g (lw_at lw_m10 79 rfl) rfl
theorem q2309 : (Jvm.Cond.laysFinal "SegmentedCache$Off" "SegmentedCache$Off" "place" "I") ∈ lw_all := lw_g (lw_at lw_m10 81 rfl) rfl
theorem q2310 : (Jvm.Cond.soleField "SegmentedCache$Off" "place") ∈ lw_all := lw_g (lw_at lw_m10 82 rfl) rfl
theorem q2311 : (Jvm.Cond.lays "SegmentedCache$Off" "java/lang/Throwable" "depth" "I") ∈ lw_all := lw_g (lw_at lw_m10 83 rfl) rfl
theorem q2312 : (Jvm.Cond.superclass "SegmentedCache$Off" "java/lang/RuntimeException") ∈ lw_all := lw_g (lw_at lw_m10 84 rfl) rfl
theorem q3064 : (Jvm.Cond.castable "SegmentedCache$Off" "java/lang/Object") ∈ lw_tbl := lw_at lw_m13 116 rfl
theorem in_X11 : ∀ w ∈ wsX110, w ∈ lw_all := lw_in wsX110 [2298, 2299, 2300, 2301, 2302, 2311, 2309] (by decide +kernel) (by decide +kernel)
/-! the law's own entry -/
set_option maxRecDepth 100000
abbrev cL_law : ByteArray := code
def dkwL_law_41 : List UInt8 := [46, 42, 29, 8, 96, 46, 182, 0, 131, 159, 0, 5, 3, 172, 132, 3, 6, 167, 251, 218, 4, 172]
abbrev dktL_law_41 : List UInt8 := dkwL_law_41 ++ []
def dkwL_law_40 : List UInt8 := [46, 182, 0, 128, 44, 42, 29, 4, 96, 46, 42, 29, 5, 96, 46, 42, 29, 6, 96, 46, 42, 29, 7, 96]
abbrev dktL_law_40 : List UInt8 := dkwL_law_40 ++ dktL_law_41
def dkwL_law_39 : List UInt8 := [42, 29, 4, 96, 46, 42, 29, 5, 96, 46, 42, 29, 6, 96, 46, 42, 29, 7, 96, 46, 42, 29, 8, 96]
abbrev dktL_law_39 : List UInt8 := dkwL_law_39 ++ dktL_law_40
def dkwL_law_38 : List UInt8 := [182, 0, 124, 44, 42, 29, 4, 96, 46, 42, 29, 5, 96, 46, 182, 0, 127, 148, 153, 0, 68, 3, 172, 43]
abbrev dktL_law_38 : List UInt8 := dkwL_law_38 ++ dktL_law_39
def dkwL_law_37 : List UInt8 := [20, 0, 117, 127, 129, 182, 0, 123, 159, 0, 102, 3, 172, 43, 42, 29, 4, 96, 46, 42, 29, 5, 96, 46]
abbrev dktL_law_37 : List UInt8 := dkwL_law_37 ++ dktL_law_38
def dkwL_law_36 : List UInt8 := [29, 4, 96, 46, 42, 29, 5, 96, 46, 42, 29, 6, 96, 46, 133, 16, 32, 121, 42, 29, 7, 96, 46, 133]
abbrev dktL_law_36 : List UInt8 := dkwL_law_36 ++ dktL_law_37
def dkwL_law_35 : List UInt8 := [29, 6, 96, 46, 133, 16, 32, 121, 42, 29, 7, 96, 46, 133, 20, 0, 117, 127, 129, 182, 0, 119, 44, 42]
abbrev dktL_law_35 : List UInt8 := dkwL_law_35 ++ dktL_law_36
def dkwL_law_34 : List UInt8 := [29, 6, 96, 46, 182, 0, 116, 159, 0, 175, 3, 172, 43, 42, 29, 4, 96, 46, 42, 29, 5, 96, 46, 42]
abbrev dktL_law_34 : List UInt8 := dkwL_law_34 ++ dktL_law_35
def dkwL_law_33 : List UInt8 := [29, 5, 96, 46, 42, 29, 6, 96, 46, 182, 0, 113, 44, 42, 29, 4, 96, 46, 42, 29, 5, 96, 46, 42]
abbrev dktL_law_33 : List UInt8 := dkwL_law_33 ++ dktL_law_34
def dkwL_law_32 : List UInt8 := [182, 0, 109, 44, 42, 29, 4, 96, 46, 182, 0, 112, 159, 0, 218, 3, 172, 43, 42, 29, 4, 96, 46, 42]
abbrev dktL_law_32 : List UInt8 := dkwL_law_32 ++ dktL_law_33
def dkwL_law_31 : List UInt8 := [159, 0, 254, 3, 172, 43, 182, 0, 105, 44, 182, 0, 108, 159, 0, 241, 3, 172, 43, 42, 29, 4, 96, 46]
abbrev dktL_law_31 : List UInt8 := dkwL_law_31 ++ dktL_law_32
def dkwL_law_30 : List UInt8 := [46, 42, 29, 5, 96, 46, 182, 0, 100, 159, 1, 11, 3, 172, 43, 182, 0, 101, 44, 182, 0, 104]
abbrev dktL_law_30 : List UInt8 := dkwL_law_30 ++ dktL_law_31
def dkwL_law_29 : List UInt8 := [159, 1, 44, 3, 172, 43, 42, 29, 4, 96, 46, 42, 29, 5, 96, 46, 182, 0, 97, 44, 42, 29, 4, 96]
abbrev dktL_law_29 : List UInt8 := dkwL_law_29 ++ dktL_law_30
def dkwL_law_28 : List UInt8 := [96, 46, 42, 29, 6, 96, 46, 182, 0, 92, 159, 1, 57, 3, 172, 43, 182, 0, 93, 44, 182, 0, 96]
abbrev dktL_law_28 : List UInt8 := dkwL_law_28 ++ dktL_law_29
def dkwL_law_27 : List UInt8 := [96, 46, 42, 29, 5, 96, 46, 42, 29, 6, 96, 46, 182, 0, 89, 44, 42, 29, 4, 96, 46, 42, 29, 5]
abbrev dktL_law_27 : List UInt8 := dkwL_law_27 ++ dktL_law_28
def dkwL_law_26 : List UInt8 := [44, 42, 29, 4, 96, 46, 42, 29, 5, 96, 46, 182, 0, 88, 148, 153, 1, 100, 3, 172, 43, 42, 29, 4]
abbrev dktL_law_26 : List UInt8 := dkwL_law_26 ++ dktL_law_27
def dkwL_law_25 : List UInt8 := [46, 182, 0, 84, 148, 153, 1, 134, 3, 172, 43, 42, 29, 4, 96, 46, 42, 29, 5, 96, 46, 182, 0, 85]
abbrev dktL_law_25 : List UInt8 := dkwL_law_25 ++ dktL_law_26
def dkwL_law_24 : List UInt8 := [46, 42, 29, 6, 96, 46, 182, 0, 80, 44, 42, 29, 4, 96, 46, 42, 29, 5, 96, 46, 42, 29, 6, 96]
abbrev dktL_law_24 : List UInt8 := dkwL_law_24 ++ dktL_law_25
def dkwL_law_23 : List UInt8 := [46, 42, 29, 5, 96, 46, 182, 0, 79, 159, 1, 178, 3, 172, 43, 42, 29, 4, 96, 46, 42, 29, 5, 96]
abbrev dktL_law_23 : List UInt8 := dkwL_law_23 ++ dktL_law_24
def dkwL_law_22 : List UInt8 := [159, 1, 211, 3, 172, 43, 42, 29, 4, 96, 46, 42, 29, 5, 96, 46, 182, 0, 76, 44, 42, 29, 4, 96]
abbrev dktL_law_22 : List UInt8 := dkwL_law_22 ++ dktL_law_23
def dkwL_law_21 : List UInt8 := [96, 46, 42, 29, 5, 96, 46, 182, 0, 72, 44, 42, 29, 4, 96, 46, 42, 29, 5, 96, 46, 182, 0, 75]
abbrev dktL_law_21 : List UInt8 := dkwL_law_21 ++ dktL_law_22
def dkwL_law_20 : List UInt8 := [4, 96, 46, 182, 0, 68, 44, 42, 29, 4, 96, 46, 182, 0, 71, 159, 1, 244, 3, 172, 43, 42, 29, 4]
abbrev dktL_law_20 : List UInt8 := dkwL_law_20 ++ dktL_law_21
def dkwL_law_19 : List UInt8 := [182, 0, 62, 159, 2, 24, 3, 172, 43, 182, 0, 63, 44, 182, 0, 67, 159, 2, 11, 3, 172, 43, 42, 29]
abbrev dktL_law_19 : List UInt8 := dkwL_law_19 ++ dktL_law_20
def dkwL_law_18 : List UInt8 := [182, 0, 58, 159, 2, 47, 3, 172, 43, 42, 29, 4, 96, 46, 182, 0, 59, 44, 42, 29, 4, 96, 46]
abbrev dktL_law_18 : List UInt8 := dkwL_law_18 ++ dktL_law_19
def dkwL_law_17 : List UInt8 := [182, 0, 54, 159, 2, 70, 3, 172, 43, 42, 29, 4, 96, 46, 182, 0, 55, 44, 42, 29, 4, 96, 46]
abbrev dktL_law_17 : List UInt8 := dkwL_law_17 ++ dktL_law_18
def dkwL_law_16 : List UInt8 := [46, 182, 0, 50, 159, 2, 93, 3, 172, 43, 42, 29, 4, 96, 46, 182, 0, 51, 44, 42, 29, 4, 96, 46]
abbrev dktL_law_16 : List UInt8 := dkwL_law_16 ++ dktL_law_17
def dkwL_law_15 : List UInt8 := [43, 42, 29, 4, 96, 46, 42, 29, 5, 96, 46, 182, 0, 47, 44, 42, 29, 4, 96, 46, 42, 29, 5, 96]
abbrev dktL_law_15 : List UInt8 := dkwL_law_15 ++ dktL_law_16
def dkwL_law_14 : List UInt8 := [44, 42, 29, 4, 96, 46, 42, 29, 5, 96, 46, 42, 29, 6, 96, 46, 182, 0, 46, 159, 2, 126, 3, 172]
abbrev dktL_law_14 : List UInt8 := dkwL_law_14 ++ dktL_law_15
def dkwL_law_13 : List UInt8 := [159, 2, 169, 3, 172, 43, 42, 29, 4, 96, 46, 42, 29, 5, 96, 46, 42, 29, 6, 96, 46, 182, 0, 42]
abbrev dktL_law_13 : List UInt8 := dkwL_law_13 ++ dktL_law_14
def dkwL_law_12 : List UInt8 := [4, 96, 46, 42, 29, 5, 96, 46, 42, 29, 6, 96, 46, 153, 0, 7, 4, 167, 0, 4, 3, 182, 0, 41]
abbrev dktL_law_12 : List UInt8 := dkwL_law_12 ++ dktL_law_13
def dkwL_law_11 : List UInt8 := [42, 29, 5, 96, 46, 42, 29, 6, 96, 46, 153, 0, 7, 4, 167, 0, 4, 3, 182, 0, 37, 44, 42, 29]
abbrev dktL_law_11 : List UInt8 := dkwL_law_11 ++ dktL_law_12
def dkwL_law_10 : List UInt8 := [42, 29, 4, 96, 46, 42, 29, 5, 96, 46, 182, 0, 36, 159, 2, 228, 3, 172, 43, 42, 29, 4, 96, 46]
abbrev dktL_law_10 : List UInt8 := dkwL_law_10 ++ dktL_law_11
def dkwL_law_9 : List UInt8 := [182, 0, 32, 148, 153, 3, 5, 3, 172, 43, 42, 29, 4, 96, 46, 42, 29, 5, 96, 46, 182, 0, 33, 44]
abbrev dktL_law_9 : List UInt8 := dkwL_law_9 ++ dktL_law_10
def dkwL_law_8 : List UInt8 := [42, 29, 4, 96, 46, 42, 29, 5, 96, 46, 182, 0, 28, 44, 42, 29, 4, 96, 46, 42, 29, 5, 96, 46]
abbrev dktL_law_8 : List UInt8 := dkwL_law_8 ++ dktL_law_9
def dkwL_law_7 : List UInt8 := [42, 29, 6, 96, 46, 42, 29, 7, 96, 46, 42, 29, 8, 96, 46, 182, 0, 27, 159, 3, 39, 3, 172, 43]
abbrev dktL_law_7 : List UInt8 := dkwL_law_7 ++ dktL_law_8
def dkwL_law_6 : List UInt8 := [42, 29, 7, 96, 46, 42, 29, 8, 96, 46, 182, 0, 23, 44, 42, 29, 4, 96, 46, 42, 29, 5, 96, 46]
abbrev dktL_law_6 : List UInt8 := dkwL_law_6 ++ dktL_law_7
def dkwL_law_5 : List UInt8 := [182, 0, 22, 159, 3, 102, 3, 172, 43, 42, 29, 4, 96, 46, 42, 29, 5, 96, 46, 42, 29, 6, 96, 46]
abbrev dktL_law_5 : List UInt8 := dkwL_law_5 ++ dktL_law_6
def dkwL_law_4 : List UInt8 := [46, 182, 0, 17, 159, 3, 125, 3, 172, 43, 42, 29, 4, 96, 46, 182, 0, 18, 44, 42, 29, 4, 96, 46]
abbrev dktL_law_4 : List UInt8 := dkwL_law_4 ++ dktL_law_5
def dkwL_law_3 : List UInt8 := [43, 42, 29, 4, 96, 46, 42, 29, 5, 96, 46, 182, 0, 13, 44, 42, 29, 4, 96, 46, 42, 29, 5, 96]
abbrev dktL_law_3 : List UInt8 := dkwL_law_3 ++ dktL_law_4
def dkwL_law_2 : List UInt8 := [170, 0, 0, 0, 0, 4, 20, 0, 0, 0, 0, 0, 0, 0, 26, 0, 0, 0, 123, 0, 0, 0, 156, 0, 0, 0, 179, 0, 0, 0, 242, 0, 0, 1, 20, 0, 0, 1, 53, 0, 0, 1, 112, 0, 0, 1, 155, 0, 0, 1, 188, 0, 0, 1, 211, 0, 0, 1, 234, 0, 0, 2, 1, 0, 0, 2, 14, 0, 0, 2, 37, 0, 0, 2, 70, 0, 0, 2, 103, 0, 0, 2, 147, 0, 0, 2, 181, 0, 0, 2, 224, 0, 0, 2, 237, 0, 0, 3, 14, 0, 0, 3, 27, 0, 0, 3, 40, 0, 0, 3, 63, 0, 0, 3, 106, 0, 0, 3, 179, 0, 0, 3, 213]
abbrev dktL_law_2 : List UInt8 := dkwL_law_2 ++ dktL_law_3
def dkwL_law_1 : List UInt8 := [163, 4, 35, 42, 29, 46, 16, 31, 126]
abbrev dktL_law_1 : List UInt8 := dkwL_law_1 ++ dktL_law_2
def dkwL_law_0 : List UInt8 := [187, 0, 7, 89, 183, 0, 9, 76, 187, 0, 10, 89, 183, 0, 12, 77, 3, 62, 29, 42, 190, 16, 6, 100]
abbrev dktL_law_0 : List UInt8 := dkwL_law_0 ++ dktL_law_1
theorem dksL_law_0 : cL_law.data.toList.drop 0 = dktL_law_0 := by decide +kernel
theorem dksL_law_1 : cL_law.data.toList.drop 24 = dktL_law_1 := dk_seg dksL_law_0 24 rfl rfl
theorem dksL_law_2 : cL_law.data.toList.drop 33 = dktL_law_2 := dk_seg dksL_law_1 9 rfl rfl
theorem dksL_law_3 : cL_law.data.toList.drop 156 = dktL_law_3 := dk_seg dksL_law_2 123 rfl rfl
theorem dksL_law_4 : cL_law.data.toList.drop 180 = dktL_law_4 := dk_seg dksL_law_3 24 rfl rfl
theorem dksL_law_5 : cL_law.data.toList.drop 204 = dktL_law_5 := dk_seg dksL_law_4 24 rfl rfl
theorem dksL_law_6 : cL_law.data.toList.drop 228 = dktL_law_6 := dk_seg dksL_law_5 24 rfl rfl
theorem dksL_law_7 : cL_law.data.toList.drop 252 = dktL_law_7 := dk_seg dksL_law_6 24 rfl rfl
theorem dksL_law_8 : cL_law.data.toList.drop 276 = dktL_law_8 := dk_seg dksL_law_7 24 rfl rfl
theorem dksL_law_9 : cL_law.data.toList.drop 300 = dktL_law_9 := dk_seg dksL_law_8 24 rfl rfl
theorem dksL_law_10 : cL_law.data.toList.drop 324 = dktL_law_10 := dk_seg dksL_law_9 24 rfl rfl
theorem dksL_law_11 : cL_law.data.toList.drop 348 = dktL_law_11 := dk_seg dksL_law_10 24 rfl rfl
theorem dksL_law_12 : cL_law.data.toList.drop 372 = dktL_law_12 := dk_seg dksL_law_11 24 rfl rfl
theorem dksL_law_13 : cL_law.data.toList.drop 396 = dktL_law_13 := dk_seg dksL_law_12 24 rfl rfl
theorem dksL_law_14 : cL_law.data.toList.drop 420 = dktL_law_14 := dk_seg dksL_law_13 24 rfl rfl
theorem dksL_law_15 : cL_law.data.toList.drop 444 = dktL_law_15 := dk_seg dksL_law_14 24 rfl rfl
theorem dksL_law_16 : cL_law.data.toList.drop 468 = dktL_law_16 := dk_seg dksL_law_15 24 rfl rfl
theorem dksL_law_17 : cL_law.data.toList.drop 492 = dktL_law_17 := dk_seg dksL_law_16 24 rfl rfl
theorem dksL_law_18 : cL_law.data.toList.drop 515 = dktL_law_18 := dk_seg dksL_law_17 23 rfl rfl
theorem dksL_law_19 : cL_law.data.toList.drop 538 = dktL_law_19 := dk_seg dksL_law_18 23 rfl rfl
theorem dksL_law_20 : cL_law.data.toList.drop 562 = dktL_law_20 := dk_seg dksL_law_19 24 rfl rfl
theorem dksL_law_21 : cL_law.data.toList.drop 586 = dktL_law_21 := dk_seg dksL_law_20 24 rfl rfl
theorem dksL_law_22 : cL_law.data.toList.drop 610 = dktL_law_22 := dk_seg dksL_law_21 24 rfl rfl
theorem dksL_law_23 : cL_law.data.toList.drop 634 = dktL_law_23 := dk_seg dksL_law_22 24 rfl rfl
theorem dksL_law_24 : cL_law.data.toList.drop 658 = dktL_law_24 := dk_seg dksL_law_23 24 rfl rfl
theorem dksL_law_25 : cL_law.data.toList.drop 682 = dktL_law_25 := dk_seg dksL_law_24 24 rfl rfl
theorem dksL_law_26 : cL_law.data.toList.drop 706 = dktL_law_26 := dk_seg dksL_law_25 24 rfl rfl
theorem dksL_law_27 : cL_law.data.toList.drop 730 = dktL_law_27 := dk_seg dksL_law_26 24 rfl rfl
theorem dksL_law_28 : cL_law.data.toList.drop 754 = dktL_law_28 := dk_seg dksL_law_27 24 rfl rfl
theorem dksL_law_29 : cL_law.data.toList.drop 777 = dktL_law_29 := dk_seg dksL_law_28 23 rfl rfl
theorem dksL_law_30 : cL_law.data.toList.drop 801 = dktL_law_30 := dk_seg dksL_law_29 24 rfl rfl
theorem dksL_law_31 : cL_law.data.toList.drop 823 = dktL_law_31 := dk_seg dksL_law_30 22 rfl rfl
theorem dksL_law_32 : cL_law.data.toList.drop 847 = dktL_law_32 := dk_seg dksL_law_31 24 rfl rfl
theorem dksL_law_33 : cL_law.data.toList.drop 871 = dktL_law_33 := dk_seg dksL_law_32 24 rfl rfl
theorem dksL_law_34 : cL_law.data.toList.drop 895 = dktL_law_34 := dk_seg dksL_law_33 24 rfl rfl
theorem dksL_law_35 : cL_law.data.toList.drop 919 = dktL_law_35 := dk_seg dksL_law_34 24 rfl rfl
theorem dksL_law_36 : cL_law.data.toList.drop 943 = dktL_law_36 := dk_seg dksL_law_35 24 rfl rfl
theorem dksL_law_37 : cL_law.data.toList.drop 967 = dktL_law_37 := dk_seg dksL_law_36 24 rfl rfl
theorem dksL_law_38 : cL_law.data.toList.drop 991 = dktL_law_38 := dk_seg dksL_law_37 24 rfl rfl
theorem dksL_law_39 : cL_law.data.toList.drop 1015 = dktL_law_39 := dk_seg dksL_law_38 24 rfl rfl
theorem dksL_law_40 : cL_law.data.toList.drop 1039 = dktL_law_40 := dk_seg dksL_law_39 24 rfl rfl
theorem dksL_law_41 : cL_law.data.toList.drop 1063 = dktL_law_41 := dk_seg dksL_law_40 24 rfl rfl
theorem dL_law_0 : decode cL_law 0 = .ok (.new 7, 3) := dk_187 0 7 (dk_at dksL_law_0 0 rfl rfl)
theorem dL_law_3 : decode cL_law 3 = .ok (.dup, 1) := dk_89 (dk_at dksL_law_0 3 rfl rfl)
theorem dL_law_4 : decode cL_law 4 = .ok (.invokespecial 9, 3) := dk_183 0 9 (dk_at dksL_law_0 4 rfl rfl)
theorem dL_law_7 : decode cL_law 7 = .ok (.astore_n 1, 1) := dk_76 (dk_at dksL_law_0 7 rfl rfl)
theorem dL_law_8 : decode cL_law 8 = .ok (.new 10, 3) := dk_187 0 10 (dk_at dksL_law_0 8 rfl rfl)
theorem dL_law_11 : decode cL_law 11 = .ok (.dup, 1) := dk_89 (dk_at dksL_law_0 11 rfl rfl)
theorem dL_law_12 : decode cL_law 12 = .ok (.invokespecial 12, 3) := dk_183 0 12 (dk_at dksL_law_0 12 rfl rfl)
theorem dL_law_15 : decode cL_law 15 = .ok (.astore_n 2, 1) := dk_77 (dk_at dksL_law_0 15 rfl rfl)
theorem dL_law_16 : decode cL_law 16 = .ok (.iconst 0, 1) := dk_3 (dk_at dksL_law_0 16 rfl rfl)
theorem dL_law_17 : decode cL_law 17 = .ok (.istore_n 3, 1) := dk_62 (dk_at dksL_law_0 17 rfl rfl)
theorem dL_law_18 : decode cL_law 18 = .ok (.iload_n 3, 1) := dk_29 (dk_at dksL_law_0 18 rfl rfl)
theorem dL_law_19 : decode cL_law 19 = .ok (.aload_n 0, 1) := dk_42 (dk_at dksL_law_0 19 rfl rfl)
theorem dL_law_20 : decode cL_law 20 = .ok (.arraylength, 1) := dk_190 (dk_at dksL_law_0 20 rfl rfl)
theorem dL_law_21 : decode cL_law 21 = .ok (.bipush 6, 2) := dk_16 6 (dk_at dksL_law_0 21 rfl rfl)
theorem dL_law_23 : decode cL_law 23 = .ok (.isub, 1) := dk_100 (dk_at dksL_law_0 23 rfl rfl)
theorem dL_law_24 : decode cL_law 24 = .ok (.if_icmp .gt 1059, 3) := dk_163 4 35 (dk_at dksL_law_1 0 rfl rfl)
theorem dL_law_27 : decode cL_law 27 = .ok (.aload_n 0, 1) := dk_42 (dk_at dksL_law_1 3 rfl rfl)
theorem dL_law_28 : decode cL_law 28 = .ok (.iload_n 3, 1) := dk_29 (dk_at dksL_law_1 4 rfl rfl)
theorem dL_law_29 : decode cL_law 29 = .ok (.iaload, 1) := dk_46 (dk_at dksL_law_1 5 rfl rfl)
theorem dL_law_30 : decode cL_law 30 = .ok (.bipush 31, 2) := dk_16 31 (dk_at dksL_law_1 6 rfl rfl)
theorem dL_law_32 : decode cL_law 32 = .ok (.iand, 1) := dk_126 (dk_at dksL_law_1 8 rfl rfl)
theorem dL_law_33 : decode cL_law 33 = .ok (.tableswitch 1044 0 26 #[123, 156, 179, 242, 276, 309, 368, 411, 444, 467, 490, 513, 526, 549, 582, 615, 659, 693, 736, 749, 782, 795, 808, 831, 874, 947, 981], 123) := by decide +kernel
theorem dL_law_156 : decode cL_law 156 = .ok (.aload_n 1, 1) := dk_43 (dk_at dksL_law_3 0 rfl rfl)
theorem dL_law_157 : decode cL_law 157 = .ok (.aload_n 0, 1) := dk_42 (dk_at dksL_law_3 1 rfl rfl)
theorem dL_law_158 : decode cL_law 158 = .ok (.iload_n 3, 1) := dk_29 (dk_at dksL_law_3 2 rfl rfl)
theorem dL_law_159 : decode cL_law 159 = .ok (.iconst 1, 1) := dk_4 (dk_at dksL_law_3 3 rfl rfl)
theorem dL_law_160 : decode cL_law 160 = .ok (.iadd, 1) := dk_96 (dk_at dksL_law_3 4 rfl rfl)
theorem dL_law_161 : decode cL_law 161 = .ok (.iaload, 1) := dk_46 (dk_at dksL_law_3 5 rfl rfl)
theorem dL_law_162 : decode cL_law 162 = .ok (.aload_n 0, 1) := dk_42 (dk_at dksL_law_3 6 rfl rfl)
theorem dL_law_163 : decode cL_law 163 = .ok (.iload_n 3, 1) := dk_29 (dk_at dksL_law_3 7 rfl rfl)
theorem dL_law_164 : decode cL_law 164 = .ok (.iconst 2, 1) := dk_5 (dk_at dksL_law_3 8 rfl rfl)
theorem dL_law_165 : decode cL_law 165 = .ok (.iadd, 1) := dk_96 (dk_at dksL_law_3 9 rfl rfl)
theorem dL_law_166 : decode cL_law 166 = .ok (.iaload, 1) := dk_46 (dk_at dksL_law_3 10 rfl rfl)
theorem dL_law_167 : decode cL_law 167 = .ok (.invokevirtual 13, 3) := dk_182 0 13 (dk_at dksL_law_3 11 rfl rfl)
theorem dL_law_170 : decode cL_law 170 = .ok (.aload_n 2, 1) := dk_44 (dk_at dksL_law_3 14 rfl rfl)
theorem dL_law_171 : decode cL_law 171 = .ok (.aload_n 0, 1) := dk_42 (dk_at dksL_law_3 15 rfl rfl)
theorem dL_law_172 : decode cL_law 172 = .ok (.iload_n 3, 1) := dk_29 (dk_at dksL_law_3 16 rfl rfl)
theorem dL_law_173 : decode cL_law 173 = .ok (.iconst 1, 1) := dk_4 (dk_at dksL_law_3 17 rfl rfl)
theorem dL_law_174 : decode cL_law 174 = .ok (.iadd, 1) := dk_96 (dk_at dksL_law_3 18 rfl rfl)
theorem dL_law_175 : decode cL_law 175 = .ok (.iaload, 1) := dk_46 (dk_at dksL_law_3 19 rfl rfl)
theorem dL_law_176 : decode cL_law 176 = .ok (.aload_n 0, 1) := dk_42 (dk_at dksL_law_3 20 rfl rfl)
theorem dL_law_177 : decode cL_law 177 = .ok (.iload_n 3, 1) := dk_29 (dk_at dksL_law_3 21 rfl rfl)
theorem dL_law_178 : decode cL_law 178 = .ok (.iconst 2, 1) := dk_5 (dk_at dksL_law_3 22 rfl rfl)
theorem dL_law_179 : decode cL_law 179 = .ok (.iadd, 1) := dk_96 (dk_at dksL_law_3 23 rfl rfl)
theorem dL_law_180 : decode cL_law 180 = .ok (.iaload, 1) := dk_46 (dk_at dksL_law_4 0 rfl rfl)
theorem dL_law_181 : decode cL_law 181 = .ok (.invokevirtual 17, 3) := dk_182 0 17 (dk_at dksL_law_4 1 rfl rfl)
theorem dL_law_184 : decode cL_law 184 = .ok (.if_icmp .eq 893, 3) := dk_159 3 125 (dk_at dksL_law_4 4 rfl rfl)
theorem dL_law_187 : decode cL_law 187 = .ok (.iconst 0, 1) := dk_3 (dk_at dksL_law_4 7 rfl rfl)
theorem dL_law_188 : decode cL_law 188 = .ok (.ireturn, 1) := dk_172 (dk_at dksL_law_4 8 rfl rfl)
theorem dL_law_189 : decode cL_law 189 = .ok (.aload_n 1, 1) := dk_43 (dk_at dksL_law_4 9 rfl rfl)
theorem dL_law_190 : decode cL_law 190 = .ok (.aload_n 0, 1) := dk_42 (dk_at dksL_law_4 10 rfl rfl)
theorem dL_law_191 : decode cL_law 191 = .ok (.iload_n 3, 1) := dk_29 (dk_at dksL_law_4 11 rfl rfl)
theorem dL_law_192 : decode cL_law 192 = .ok (.iconst 1, 1) := dk_4 (dk_at dksL_law_4 12 rfl rfl)
theorem dL_law_193 : decode cL_law 193 = .ok (.iadd, 1) := dk_96 (dk_at dksL_law_4 13 rfl rfl)
theorem dL_law_194 : decode cL_law 194 = .ok (.iaload, 1) := dk_46 (dk_at dksL_law_4 14 rfl rfl)
theorem dL_law_195 : decode cL_law 195 = .ok (.invokevirtual 18, 3) := dk_182 0 18 (dk_at dksL_law_4 15 rfl rfl)
theorem dL_law_198 : decode cL_law 198 = .ok (.aload_n 2, 1) := dk_44 (dk_at dksL_law_4 18 rfl rfl)
theorem dL_law_199 : decode cL_law 199 = .ok (.aload_n 0, 1) := dk_42 (dk_at dksL_law_4 19 rfl rfl)
theorem dL_law_200 : decode cL_law 200 = .ok (.iload_n 3, 1) := dk_29 (dk_at dksL_law_4 20 rfl rfl)
theorem dL_law_201 : decode cL_law 201 = .ok (.iconst 1, 1) := dk_4 (dk_at dksL_law_4 21 rfl rfl)
theorem dL_law_202 : decode cL_law 202 = .ok (.iadd, 1) := dk_96 (dk_at dksL_law_4 22 rfl rfl)
theorem dL_law_203 : decode cL_law 203 = .ok (.iaload, 1) := dk_46 (dk_at dksL_law_4 23 rfl rfl)
theorem dL_law_204 : decode cL_law 204 = .ok (.invokevirtual 22, 3) := dk_182 0 22 (dk_at dksL_law_5 0 rfl rfl)
theorem dL_law_207 : decode cL_law 207 = .ok (.if_icmp .eq 870, 3) := dk_159 3 102 (dk_at dksL_law_5 3 rfl rfl)
theorem dL_law_210 : decode cL_law 210 = .ok (.iconst 0, 1) := dk_3 (dk_at dksL_law_5 6 rfl rfl)
theorem dL_law_211 : decode cL_law 211 = .ok (.ireturn, 1) := dk_172 (dk_at dksL_law_5 7 rfl rfl)
theorem dL_law_212 : decode cL_law 212 = .ok (.aload_n 1, 1) := dk_43 (dk_at dksL_law_5 8 rfl rfl)
theorem dL_law_213 : decode cL_law 213 = .ok (.aload_n 0, 1) := dk_42 (dk_at dksL_law_5 9 rfl rfl)
theorem dL_law_214 : decode cL_law 214 = .ok (.iload_n 3, 1) := dk_29 (dk_at dksL_law_5 10 rfl rfl)
theorem dL_law_215 : decode cL_law 215 = .ok (.iconst 1, 1) := dk_4 (dk_at dksL_law_5 11 rfl rfl)
theorem dL_law_216 : decode cL_law 216 = .ok (.iadd, 1) := dk_96 (dk_at dksL_law_5 12 rfl rfl)
theorem dL_law_217 : decode cL_law 217 = .ok (.iaload, 1) := dk_46 (dk_at dksL_law_5 13 rfl rfl)
theorem dL_law_218 : decode cL_law 218 = .ok (.aload_n 0, 1) := dk_42 (dk_at dksL_law_5 14 rfl rfl)
theorem dL_law_219 : decode cL_law 219 = .ok (.iload_n 3, 1) := dk_29 (dk_at dksL_law_5 15 rfl rfl)
theorem dL_law_220 : decode cL_law 220 = .ok (.iconst 2, 1) := dk_5 (dk_at dksL_law_5 16 rfl rfl)
theorem dL_law_221 : decode cL_law 221 = .ok (.iadd, 1) := dk_96 (dk_at dksL_law_5 17 rfl rfl)
theorem dL_law_222 : decode cL_law 222 = .ok (.iaload, 1) := dk_46 (dk_at dksL_law_5 18 rfl rfl)
theorem dL_law_223 : decode cL_law 223 = .ok (.aload_n 0, 1) := dk_42 (dk_at dksL_law_5 19 rfl rfl)
theorem dL_law_224 : decode cL_law 224 = .ok (.iload_n 3, 1) := dk_29 (dk_at dksL_law_5 20 rfl rfl)
theorem dL_law_225 : decode cL_law 225 = .ok (.iconst 3, 1) := dk_6 (dk_at dksL_law_5 21 rfl rfl)
theorem dL_law_226 : decode cL_law 226 = .ok (.iadd, 1) := dk_96 (dk_at dksL_law_5 22 rfl rfl)
theorem dL_law_227 : decode cL_law 227 = .ok (.iaload, 1) := dk_46 (dk_at dksL_law_5 23 rfl rfl)
theorem dL_law_228 : decode cL_law 228 = .ok (.aload_n 0, 1) := dk_42 (dk_at dksL_law_6 0 rfl rfl)
theorem dL_law_229 : decode cL_law 229 = .ok (.iload_n 3, 1) := dk_29 (dk_at dksL_law_6 1 rfl rfl)
theorem dL_law_230 : decode cL_law 230 = .ok (.iconst 4, 1) := dk_7 (dk_at dksL_law_6 2 rfl rfl)
theorem dL_law_231 : decode cL_law 231 = .ok (.iadd, 1) := dk_96 (dk_at dksL_law_6 3 rfl rfl)
theorem dL_law_232 : decode cL_law 232 = .ok (.iaload, 1) := dk_46 (dk_at dksL_law_6 4 rfl rfl)
theorem dL_law_233 : decode cL_law 233 = .ok (.aload_n 0, 1) := dk_42 (dk_at dksL_law_6 5 rfl rfl)
theorem dL_law_234 : decode cL_law 234 = .ok (.iload_n 3, 1) := dk_29 (dk_at dksL_law_6 6 rfl rfl)
theorem dL_law_235 : decode cL_law 235 = .ok (.iconst 5, 1) := dk_8 (dk_at dksL_law_6 7 rfl rfl)
theorem dL_law_236 : decode cL_law 236 = .ok (.iadd, 1) := dk_96 (dk_at dksL_law_6 8 rfl rfl)
theorem dL_law_237 : decode cL_law 237 = .ok (.iaload, 1) := dk_46 (dk_at dksL_law_6 9 rfl rfl)
theorem dL_law_238 : decode cL_law 238 = .ok (.invokevirtual 23, 3) := dk_182 0 23 (dk_at dksL_law_6 10 rfl rfl)
theorem dL_law_241 : decode cL_law 241 = .ok (.aload_n 2, 1) := dk_44 (dk_at dksL_law_6 13 rfl rfl)
theorem dL_law_242 : decode cL_law 242 = .ok (.aload_n 0, 1) := dk_42 (dk_at dksL_law_6 14 rfl rfl)
theorem dL_law_243 : decode cL_law 243 = .ok (.iload_n 3, 1) := dk_29 (dk_at dksL_law_6 15 rfl rfl)
theorem dL_law_244 : decode cL_law 244 = .ok (.iconst 1, 1) := dk_4 (dk_at dksL_law_6 16 rfl rfl)
theorem dL_law_245 : decode cL_law 245 = .ok (.iadd, 1) := dk_96 (dk_at dksL_law_6 17 rfl rfl)
theorem dL_law_246 : decode cL_law 246 = .ok (.iaload, 1) := dk_46 (dk_at dksL_law_6 18 rfl rfl)
theorem dL_law_247 : decode cL_law 247 = .ok (.aload_n 0, 1) := dk_42 (dk_at dksL_law_6 19 rfl rfl)
theorem dL_law_248 : decode cL_law 248 = .ok (.iload_n 3, 1) := dk_29 (dk_at dksL_law_6 20 rfl rfl)
theorem dL_law_249 : decode cL_law 249 = .ok (.iconst 2, 1) := dk_5 (dk_at dksL_law_6 21 rfl rfl)
theorem dL_law_250 : decode cL_law 250 = .ok (.iadd, 1) := dk_96 (dk_at dksL_law_6 22 rfl rfl)
theorem dL_law_251 : decode cL_law 251 = .ok (.iaload, 1) := dk_46 (dk_at dksL_law_6 23 rfl rfl)
theorem dL_law_252 : decode cL_law 252 = .ok (.aload_n 0, 1) := dk_42 (dk_at dksL_law_7 0 rfl rfl)
theorem dL_law_253 : decode cL_law 253 = .ok (.iload_n 3, 1) := dk_29 (dk_at dksL_law_7 1 rfl rfl)
theorem dL_law_254 : decode cL_law 254 = .ok (.iconst 3, 1) := dk_6 (dk_at dksL_law_7 2 rfl rfl)
theorem dL_law_255 : decode cL_law 255 = .ok (.iadd, 1) := dk_96 (dk_at dksL_law_7 3 rfl rfl)
theorem dL_law_256 : decode cL_law 256 = .ok (.iaload, 1) := dk_46 (dk_at dksL_law_7 4 rfl rfl)
theorem dL_law_257 : decode cL_law 257 = .ok (.aload_n 0, 1) := dk_42 (dk_at dksL_law_7 5 rfl rfl)
theorem dL_law_258 : decode cL_law 258 = .ok (.iload_n 3, 1) := dk_29 (dk_at dksL_law_7 6 rfl rfl)
theorem dL_law_259 : decode cL_law 259 = .ok (.iconst 4, 1) := dk_7 (dk_at dksL_law_7 7 rfl rfl)
theorem dL_law_260 : decode cL_law 260 = .ok (.iadd, 1) := dk_96 (dk_at dksL_law_7 8 rfl rfl)
theorem dL_law_261 : decode cL_law 261 = .ok (.iaload, 1) := dk_46 (dk_at dksL_law_7 9 rfl rfl)
theorem dL_law_262 : decode cL_law 262 = .ok (.aload_n 0, 1) := dk_42 (dk_at dksL_law_7 10 rfl rfl)
theorem dL_law_263 : decode cL_law 263 = .ok (.iload_n 3, 1) := dk_29 (dk_at dksL_law_7 11 rfl rfl)
theorem dL_law_264 : decode cL_law 264 = .ok (.iconst 5, 1) := dk_8 (dk_at dksL_law_7 12 rfl rfl)
theorem dL_law_265 : decode cL_law 265 = .ok (.iadd, 1) := dk_96 (dk_at dksL_law_7 13 rfl rfl)
theorem dL_law_266 : decode cL_law 266 = .ok (.iaload, 1) := dk_46 (dk_at dksL_law_7 14 rfl rfl)
theorem dL_law_267 : decode cL_law 267 = .ok (.invokevirtual 27, 3) := dk_182 0 27 (dk_at dksL_law_7 15 rfl rfl)
theorem dL_law_270 : decode cL_law 270 = .ok (.if_icmp .eq 807, 3) := dk_159 3 39 (dk_at dksL_law_7 18 rfl rfl)
theorem dL_law_273 : decode cL_law 273 = .ok (.iconst 0, 1) := dk_3 (dk_at dksL_law_7 21 rfl rfl)
theorem dL_law_274 : decode cL_law 274 = .ok (.ireturn, 1) := dk_172 (dk_at dksL_law_7 22 rfl rfl)
theorem dL_law_275 : decode cL_law 275 = .ok (.aload_n 1, 1) := dk_43 (dk_at dksL_law_7 23 rfl rfl)
theorem dL_law_276 : decode cL_law 276 = .ok (.aload_n 0, 1) := dk_42 (dk_at dksL_law_8 0 rfl rfl)
theorem dL_law_277 : decode cL_law 277 = .ok (.iload_n 3, 1) := dk_29 (dk_at dksL_law_8 1 rfl rfl)
theorem dL_law_278 : decode cL_law 278 = .ok (.iconst 1, 1) := dk_4 (dk_at dksL_law_8 2 rfl rfl)
theorem dL_law_279 : decode cL_law 279 = .ok (.iadd, 1) := dk_96 (dk_at dksL_law_8 3 rfl rfl)
theorem dL_law_280 : decode cL_law 280 = .ok (.iaload, 1) := dk_46 (dk_at dksL_law_8 4 rfl rfl)
theorem dL_law_281 : decode cL_law 281 = .ok (.aload_n 0, 1) := dk_42 (dk_at dksL_law_8 5 rfl rfl)
theorem dL_law_282 : decode cL_law 282 = .ok (.iload_n 3, 1) := dk_29 (dk_at dksL_law_8 6 rfl rfl)
theorem dL_law_283 : decode cL_law 283 = .ok (.iconst 2, 1) := dk_5 (dk_at dksL_law_8 7 rfl rfl)
theorem dL_law_284 : decode cL_law 284 = .ok (.iadd, 1) := dk_96 (dk_at dksL_law_8 8 rfl rfl)
theorem dL_law_285 : decode cL_law 285 = .ok (.iaload, 1) := dk_46 (dk_at dksL_law_8 9 rfl rfl)
theorem dL_law_286 : decode cL_law 286 = .ok (.invokevirtual 28, 3) := dk_182 0 28 (dk_at dksL_law_8 10 rfl rfl)
theorem dL_law_289 : decode cL_law 289 = .ok (.aload_n 2, 1) := dk_44 (dk_at dksL_law_8 13 rfl rfl)
theorem dL_law_290 : decode cL_law 290 = .ok (.aload_n 0, 1) := dk_42 (dk_at dksL_law_8 14 rfl rfl)
theorem dL_law_291 : decode cL_law 291 = .ok (.iload_n 3, 1) := dk_29 (dk_at dksL_law_8 15 rfl rfl)
theorem dL_law_292 : decode cL_law 292 = .ok (.iconst 1, 1) := dk_4 (dk_at dksL_law_8 16 rfl rfl)
theorem dL_law_293 : decode cL_law 293 = .ok (.iadd, 1) := dk_96 (dk_at dksL_law_8 17 rfl rfl)
theorem dL_law_294 : decode cL_law 294 = .ok (.iaload, 1) := dk_46 (dk_at dksL_law_8 18 rfl rfl)
theorem dL_law_295 : decode cL_law 295 = .ok (.aload_n 0, 1) := dk_42 (dk_at dksL_law_8 19 rfl rfl)
theorem dL_law_296 : decode cL_law 296 = .ok (.iload_n 3, 1) := dk_29 (dk_at dksL_law_8 20 rfl rfl)
theorem dL_law_297 : decode cL_law 297 = .ok (.iconst 2, 1) := dk_5 (dk_at dksL_law_8 21 rfl rfl)
theorem dL_law_298 : decode cL_law 298 = .ok (.iadd, 1) := dk_96 (dk_at dksL_law_8 22 rfl rfl)
theorem dL_law_299 : decode cL_law 299 = .ok (.iaload, 1) := dk_46 (dk_at dksL_law_8 23 rfl rfl)
theorem dL_law_300 : decode cL_law 300 = .ok (.invokevirtual 32, 3) := dk_182 0 32 (dk_at dksL_law_9 0 rfl rfl)
theorem dL_law_303 : decode cL_law 303 = .ok (.lcmp, 1) := dk_148 (dk_at dksL_law_9 3 rfl rfl)
theorem dL_law_304 : decode cL_law 304 = .ok (.ifCond .eq 773, 3) := dk_153 3 5 (dk_at dksL_law_9 4 rfl rfl)
theorem dL_law_307 : decode cL_law 307 = .ok (.iconst 0, 1) := dk_3 (dk_at dksL_law_9 7 rfl rfl)
theorem dL_law_308 : decode cL_law 308 = .ok (.ireturn, 1) := dk_172 (dk_at dksL_law_9 8 rfl rfl)
theorem dL_law_309 : decode cL_law 309 = .ok (.aload_n 1, 1) := dk_43 (dk_at dksL_law_9 9 rfl rfl)
theorem dL_law_310 : decode cL_law 310 = .ok (.aload_n 0, 1) := dk_42 (dk_at dksL_law_9 10 rfl rfl)
theorem dL_law_311 : decode cL_law 311 = .ok (.iload_n 3, 1) := dk_29 (dk_at dksL_law_9 11 rfl rfl)
theorem dL_law_312 : decode cL_law 312 = .ok (.iconst 1, 1) := dk_4 (dk_at dksL_law_9 12 rfl rfl)
theorem dL_law_313 : decode cL_law 313 = .ok (.iadd, 1) := dk_96 (dk_at dksL_law_9 13 rfl rfl)
theorem dL_law_314 : decode cL_law 314 = .ok (.iaload, 1) := dk_46 (dk_at dksL_law_9 14 rfl rfl)
theorem dL_law_315 : decode cL_law 315 = .ok (.aload_n 0, 1) := dk_42 (dk_at dksL_law_9 15 rfl rfl)
theorem dL_law_316 : decode cL_law 316 = .ok (.iload_n 3, 1) := dk_29 (dk_at dksL_law_9 16 rfl rfl)
theorem dL_law_317 : decode cL_law 317 = .ok (.iconst 2, 1) := dk_5 (dk_at dksL_law_9 17 rfl rfl)
theorem dL_law_318 : decode cL_law 318 = .ok (.iadd, 1) := dk_96 (dk_at dksL_law_9 18 rfl rfl)
theorem dL_law_319 : decode cL_law 319 = .ok (.iaload, 1) := dk_46 (dk_at dksL_law_9 19 rfl rfl)
theorem dL_law_320 : decode cL_law 320 = .ok (.invokevirtual 33, 3) := dk_182 0 33 (dk_at dksL_law_9 20 rfl rfl)
theorem dL_law_323 : decode cL_law 323 = .ok (.aload_n 2, 1) := dk_44 (dk_at dksL_law_9 23 rfl rfl)
theorem dL_law_324 : decode cL_law 324 = .ok (.aload_n 0, 1) := dk_42 (dk_at dksL_law_10 0 rfl rfl)
theorem dL_law_325 : decode cL_law 325 = .ok (.iload_n 3, 1) := dk_29 (dk_at dksL_law_10 1 rfl rfl)
theorem dL_law_326 : decode cL_law 326 = .ok (.iconst 1, 1) := dk_4 (dk_at dksL_law_10 2 rfl rfl)
theorem dL_law_327 : decode cL_law 327 = .ok (.iadd, 1) := dk_96 (dk_at dksL_law_10 3 rfl rfl)
theorem dL_law_328 : decode cL_law 328 = .ok (.iaload, 1) := dk_46 (dk_at dksL_law_10 4 rfl rfl)
theorem dL_law_329 : decode cL_law 329 = .ok (.aload_n 0, 1) := dk_42 (dk_at dksL_law_10 5 rfl rfl)
theorem dL_law_330 : decode cL_law 330 = .ok (.iload_n 3, 1) := dk_29 (dk_at dksL_law_10 6 rfl rfl)
theorem dL_law_331 : decode cL_law 331 = .ok (.iconst 2, 1) := dk_5 (dk_at dksL_law_10 7 rfl rfl)
theorem dL_law_332 : decode cL_law 332 = .ok (.iadd, 1) := dk_96 (dk_at dksL_law_10 8 rfl rfl)
theorem dL_law_333 : decode cL_law 333 = .ok (.iaload, 1) := dk_46 (dk_at dksL_law_10 9 rfl rfl)
theorem dL_law_334 : decode cL_law 334 = .ok (.invokevirtual 36, 3) := dk_182 0 36 (dk_at dksL_law_10 10 rfl rfl)
theorem dL_law_337 : decode cL_law 337 = .ok (.if_icmp .eq 740, 3) := dk_159 2 228 (dk_at dksL_law_10 13 rfl rfl)
theorem dL_law_340 : decode cL_law 340 = .ok (.iconst 0, 1) := dk_3 (dk_at dksL_law_10 16 rfl rfl)
theorem dL_law_341 : decode cL_law 341 = .ok (.ireturn, 1) := dk_172 (dk_at dksL_law_10 17 rfl rfl)
theorem dL_law_342 : decode cL_law 342 = .ok (.aload_n 1, 1) := dk_43 (dk_at dksL_law_10 18 rfl rfl)
theorem dL_law_343 : decode cL_law 343 = .ok (.aload_n 0, 1) := dk_42 (dk_at dksL_law_10 19 rfl rfl)
theorem dL_law_344 : decode cL_law 344 = .ok (.iload_n 3, 1) := dk_29 (dk_at dksL_law_10 20 rfl rfl)
theorem dL_law_345 : decode cL_law 345 = .ok (.iconst 1, 1) := dk_4 (dk_at dksL_law_10 21 rfl rfl)
theorem dL_law_346 : decode cL_law 346 = .ok (.iadd, 1) := dk_96 (dk_at dksL_law_10 22 rfl rfl)
theorem dL_law_347 : decode cL_law 347 = .ok (.iaload, 1) := dk_46 (dk_at dksL_law_10 23 rfl rfl)
theorem dL_law_348 : decode cL_law 348 = .ok (.aload_n 0, 1) := dk_42 (dk_at dksL_law_11 0 rfl rfl)
theorem dL_law_349 : decode cL_law 349 = .ok (.iload_n 3, 1) := dk_29 (dk_at dksL_law_11 1 rfl rfl)
theorem dL_law_350 : decode cL_law 350 = .ok (.iconst 2, 1) := dk_5 (dk_at dksL_law_11 2 rfl rfl)
theorem dL_law_351 : decode cL_law 351 = .ok (.iadd, 1) := dk_96 (dk_at dksL_law_11 3 rfl rfl)
theorem dL_law_352 : decode cL_law 352 = .ok (.iaload, 1) := dk_46 (dk_at dksL_law_11 4 rfl rfl)
theorem dL_law_353 : decode cL_law 353 = .ok (.aload_n 0, 1) := dk_42 (dk_at dksL_law_11 5 rfl rfl)
theorem dL_law_354 : decode cL_law 354 = .ok (.iload_n 3, 1) := dk_29 (dk_at dksL_law_11 6 rfl rfl)
theorem dL_law_355 : decode cL_law 355 = .ok (.iconst 3, 1) := dk_6 (dk_at dksL_law_11 7 rfl rfl)
theorem dL_law_356 : decode cL_law 356 = .ok (.iadd, 1) := dk_96 (dk_at dksL_law_11 8 rfl rfl)
theorem dL_law_357 : decode cL_law 357 = .ok (.iaload, 1) := dk_46 (dk_at dksL_law_11 9 rfl rfl)
theorem dL_law_358 : decode cL_law 358 = .ok (.ifCond .eq 7, 3) := dk_153 0 7 (dk_at dksL_law_11 10 rfl rfl)
theorem dL_law_361 : decode cL_law 361 = .ok (.iconst 1, 1) := dk_4 (dk_at dksL_law_11 13 rfl rfl)
theorem dL_law_362 : decode cL_law 362 = .ok (.goto 4, 3) := dk_167 0 4 (dk_at dksL_law_11 14 rfl rfl)
theorem dL_law_365 : decode cL_law 365 = .ok (.iconst 0, 1) := dk_3 (dk_at dksL_law_11 17 rfl rfl)
theorem dL_law_366 : decode cL_law 366 = .ok (.invokevirtual 37, 3) := dk_182 0 37 (dk_at dksL_law_11 18 rfl rfl)
theorem dL_law_369 : decode cL_law 369 = .ok (.aload_n 2, 1) := dk_44 (dk_at dksL_law_11 21 rfl rfl)
theorem dL_law_370 : decode cL_law 370 = .ok (.aload_n 0, 1) := dk_42 (dk_at dksL_law_11 22 rfl rfl)
theorem dL_law_371 : decode cL_law 371 = .ok (.iload_n 3, 1) := dk_29 (dk_at dksL_law_11 23 rfl rfl)
theorem dL_law_372 : decode cL_law 372 = .ok (.iconst 1, 1) := dk_4 (dk_at dksL_law_12 0 rfl rfl)
theorem dL_law_373 : decode cL_law 373 = .ok (.iadd, 1) := dk_96 (dk_at dksL_law_12 1 rfl rfl)
theorem dL_law_374 : decode cL_law 374 = .ok (.iaload, 1) := dk_46 (dk_at dksL_law_12 2 rfl rfl)
theorem dL_law_375 : decode cL_law 375 = .ok (.aload_n 0, 1) := dk_42 (dk_at dksL_law_12 3 rfl rfl)
theorem dL_law_376 : decode cL_law 376 = .ok (.iload_n 3, 1) := dk_29 (dk_at dksL_law_12 4 rfl rfl)
theorem dL_law_377 : decode cL_law 377 = .ok (.iconst 2, 1) := dk_5 (dk_at dksL_law_12 5 rfl rfl)
theorem dL_law_378 : decode cL_law 378 = .ok (.iadd, 1) := dk_96 (dk_at dksL_law_12 6 rfl rfl)
theorem dL_law_379 : decode cL_law 379 = .ok (.iaload, 1) := dk_46 (dk_at dksL_law_12 7 rfl rfl)
theorem dL_law_380 : decode cL_law 380 = .ok (.aload_n 0, 1) := dk_42 (dk_at dksL_law_12 8 rfl rfl)
theorem dL_law_381 : decode cL_law 381 = .ok (.iload_n 3, 1) := dk_29 (dk_at dksL_law_12 9 rfl rfl)
theorem dL_law_382 : decode cL_law 382 = .ok (.iconst 3, 1) := dk_6 (dk_at dksL_law_12 10 rfl rfl)
theorem dL_law_383 : decode cL_law 383 = .ok (.iadd, 1) := dk_96 (dk_at dksL_law_12 11 rfl rfl)
theorem dL_law_384 : decode cL_law 384 = .ok (.iaload, 1) := dk_46 (dk_at dksL_law_12 12 rfl rfl)
theorem dL_law_385 : decode cL_law 385 = .ok (.ifCond .eq 7, 3) := dk_153 0 7 (dk_at dksL_law_12 13 rfl rfl)
theorem dL_law_388 : decode cL_law 388 = .ok (.iconst 1, 1) := dk_4 (dk_at dksL_law_12 16 rfl rfl)
theorem dL_law_389 : decode cL_law 389 = .ok (.goto 4, 3) := dk_167 0 4 (dk_at dksL_law_12 17 rfl rfl)
theorem dL_law_392 : decode cL_law 392 = .ok (.iconst 0, 1) := dk_3 (dk_at dksL_law_12 20 rfl rfl)
theorem dL_law_393 : decode cL_law 393 = .ok (.invokevirtual 41, 3) := dk_182 0 41 (dk_at dksL_law_12 21 rfl rfl)
theorem dL_law_396 : decode cL_law 396 = .ok (.if_icmp .eq 681, 3) := dk_159 2 169 (dk_at dksL_law_13 0 rfl rfl)
theorem dL_law_399 : decode cL_law 399 = .ok (.iconst 0, 1) := dk_3 (dk_at dksL_law_13 3 rfl rfl)
theorem dL_law_400 : decode cL_law 400 = .ok (.ireturn, 1) := dk_172 (dk_at dksL_law_13 4 rfl rfl)
theorem dL_law_401 : decode cL_law 401 = .ok (.aload_n 1, 1) := dk_43 (dk_at dksL_law_13 5 rfl rfl)
theorem dL_law_402 : decode cL_law 402 = .ok (.aload_n 0, 1) := dk_42 (dk_at dksL_law_13 6 rfl rfl)
theorem dL_law_403 : decode cL_law 403 = .ok (.iload_n 3, 1) := dk_29 (dk_at dksL_law_13 7 rfl rfl)
theorem dL_law_404 : decode cL_law 404 = .ok (.iconst 1, 1) := dk_4 (dk_at dksL_law_13 8 rfl rfl)
theorem dL_law_405 : decode cL_law 405 = .ok (.iadd, 1) := dk_96 (dk_at dksL_law_13 9 rfl rfl)
theorem dL_law_406 : decode cL_law 406 = .ok (.iaload, 1) := dk_46 (dk_at dksL_law_13 10 rfl rfl)
theorem dL_law_407 : decode cL_law 407 = .ok (.aload_n 0, 1) := dk_42 (dk_at dksL_law_13 11 rfl rfl)
theorem dL_law_408 : decode cL_law 408 = .ok (.iload_n 3, 1) := dk_29 (dk_at dksL_law_13 12 rfl rfl)
theorem dL_law_409 : decode cL_law 409 = .ok (.iconst 2, 1) := dk_5 (dk_at dksL_law_13 13 rfl rfl)
theorem dL_law_410 : decode cL_law 410 = .ok (.iadd, 1) := dk_96 (dk_at dksL_law_13 14 rfl rfl)
theorem dL_law_411 : decode cL_law 411 = .ok (.iaload, 1) := dk_46 (dk_at dksL_law_13 15 rfl rfl)
theorem dL_law_412 : decode cL_law 412 = .ok (.aload_n 0, 1) := dk_42 (dk_at dksL_law_13 16 rfl rfl)
theorem dL_law_413 : decode cL_law 413 = .ok (.iload_n 3, 1) := dk_29 (dk_at dksL_law_13 17 rfl rfl)
theorem dL_law_414 : decode cL_law 414 = .ok (.iconst 3, 1) := dk_6 (dk_at dksL_law_13 18 rfl rfl)
theorem dL_law_415 : decode cL_law 415 = .ok (.iadd, 1) := dk_96 (dk_at dksL_law_13 19 rfl rfl)
theorem dL_law_416 : decode cL_law 416 = .ok (.iaload, 1) := dk_46 (dk_at dksL_law_13 20 rfl rfl)
theorem dL_law_417 : decode cL_law 417 = .ok (.invokevirtual 42, 3) := dk_182 0 42 (dk_at dksL_law_13 21 rfl rfl)
theorem dL_law_420 : decode cL_law 420 = .ok (.aload_n 2, 1) := dk_44 (dk_at dksL_law_14 0 rfl rfl)
theorem dL_law_421 : decode cL_law 421 = .ok (.aload_n 0, 1) := dk_42 (dk_at dksL_law_14 1 rfl rfl)
theorem dL_law_422 : decode cL_law 422 = .ok (.iload_n 3, 1) := dk_29 (dk_at dksL_law_14 2 rfl rfl)
theorem dL_law_423 : decode cL_law 423 = .ok (.iconst 1, 1) := dk_4 (dk_at dksL_law_14 3 rfl rfl)
theorem dL_law_424 : decode cL_law 424 = .ok (.iadd, 1) := dk_96 (dk_at dksL_law_14 4 rfl rfl)
theorem dL_law_425 : decode cL_law 425 = .ok (.iaload, 1) := dk_46 (dk_at dksL_law_14 5 rfl rfl)
theorem dL_law_426 : decode cL_law 426 = .ok (.aload_n 0, 1) := dk_42 (dk_at dksL_law_14 6 rfl rfl)
theorem dL_law_427 : decode cL_law 427 = .ok (.iload_n 3, 1) := dk_29 (dk_at dksL_law_14 7 rfl rfl)
theorem dL_law_428 : decode cL_law 428 = .ok (.iconst 2, 1) := dk_5 (dk_at dksL_law_14 8 rfl rfl)
theorem dL_law_429 : decode cL_law 429 = .ok (.iadd, 1) := dk_96 (dk_at dksL_law_14 9 rfl rfl)
theorem dL_law_430 : decode cL_law 430 = .ok (.iaload, 1) := dk_46 (dk_at dksL_law_14 10 rfl rfl)
theorem dL_law_431 : decode cL_law 431 = .ok (.aload_n 0, 1) := dk_42 (dk_at dksL_law_14 11 rfl rfl)
theorem dL_law_432 : decode cL_law 432 = .ok (.iload_n 3, 1) := dk_29 (dk_at dksL_law_14 12 rfl rfl)
theorem dL_law_433 : decode cL_law 433 = .ok (.iconst 3, 1) := dk_6 (dk_at dksL_law_14 13 rfl rfl)
theorem dL_law_434 : decode cL_law 434 = .ok (.iadd, 1) := dk_96 (dk_at dksL_law_14 14 rfl rfl)
theorem dL_law_435 : decode cL_law 435 = .ok (.iaload, 1) := dk_46 (dk_at dksL_law_14 15 rfl rfl)
theorem dL_law_436 : decode cL_law 436 = .ok (.invokevirtual 46, 3) := dk_182 0 46 (dk_at dksL_law_14 16 rfl rfl)
theorem dL_law_439 : decode cL_law 439 = .ok (.if_icmp .eq 638, 3) := dk_159 2 126 (dk_at dksL_law_14 19 rfl rfl)
theorem dL_law_442 : decode cL_law 442 = .ok (.iconst 0, 1) := dk_3 (dk_at dksL_law_14 22 rfl rfl)
theorem dL_law_443 : decode cL_law 443 = .ok (.ireturn, 1) := dk_172 (dk_at dksL_law_14 23 rfl rfl)
theorem dL_law_444 : decode cL_law 444 = .ok (.aload_n 1, 1) := dk_43 (dk_at dksL_law_15 0 rfl rfl)
theorem dL_law_445 : decode cL_law 445 = .ok (.aload_n 0, 1) := dk_42 (dk_at dksL_law_15 1 rfl rfl)
theorem dL_law_446 : decode cL_law 446 = .ok (.iload_n 3, 1) := dk_29 (dk_at dksL_law_15 2 rfl rfl)
theorem dL_law_447 : decode cL_law 447 = .ok (.iconst 1, 1) := dk_4 (dk_at dksL_law_15 3 rfl rfl)
theorem dL_law_448 : decode cL_law 448 = .ok (.iadd, 1) := dk_96 (dk_at dksL_law_15 4 rfl rfl)
theorem dL_law_449 : decode cL_law 449 = .ok (.iaload, 1) := dk_46 (dk_at dksL_law_15 5 rfl rfl)
theorem dL_law_450 : decode cL_law 450 = .ok (.aload_n 0, 1) := dk_42 (dk_at dksL_law_15 6 rfl rfl)
theorem dL_law_451 : decode cL_law 451 = .ok (.iload_n 3, 1) := dk_29 (dk_at dksL_law_15 7 rfl rfl)
theorem dL_law_452 : decode cL_law 452 = .ok (.iconst 2, 1) := dk_5 (dk_at dksL_law_15 8 rfl rfl)
theorem dL_law_453 : decode cL_law 453 = .ok (.iadd, 1) := dk_96 (dk_at dksL_law_15 9 rfl rfl)
theorem dL_law_454 : decode cL_law 454 = .ok (.iaload, 1) := dk_46 (dk_at dksL_law_15 10 rfl rfl)
theorem dL_law_455 : decode cL_law 455 = .ok (.invokevirtual 47, 3) := dk_182 0 47 (dk_at dksL_law_15 11 rfl rfl)
theorem dL_law_458 : decode cL_law 458 = .ok (.aload_n 2, 1) := dk_44 (dk_at dksL_law_15 14 rfl rfl)
theorem dL_law_459 : decode cL_law 459 = .ok (.aload_n 0, 1) := dk_42 (dk_at dksL_law_15 15 rfl rfl)
theorem dL_law_460 : decode cL_law 460 = .ok (.iload_n 3, 1) := dk_29 (dk_at dksL_law_15 16 rfl rfl)
theorem dL_law_461 : decode cL_law 461 = .ok (.iconst 1, 1) := dk_4 (dk_at dksL_law_15 17 rfl rfl)
theorem dL_law_462 : decode cL_law 462 = .ok (.iadd, 1) := dk_96 (dk_at dksL_law_15 18 rfl rfl)
theorem dL_law_463 : decode cL_law 463 = .ok (.iaload, 1) := dk_46 (dk_at dksL_law_15 19 rfl rfl)
theorem dL_law_464 : decode cL_law 464 = .ok (.aload_n 0, 1) := dk_42 (dk_at dksL_law_15 20 rfl rfl)
theorem dL_law_465 : decode cL_law 465 = .ok (.iload_n 3, 1) := dk_29 (dk_at dksL_law_15 21 rfl rfl)
theorem dL_law_466 : decode cL_law 466 = .ok (.iconst 2, 1) := dk_5 (dk_at dksL_law_15 22 rfl rfl)
theorem dL_law_467 : decode cL_law 467 = .ok (.iadd, 1) := dk_96 (dk_at dksL_law_15 23 rfl rfl)
theorem dL_law_468 : decode cL_law 468 = .ok (.iaload, 1) := dk_46 (dk_at dksL_law_16 0 rfl rfl)
theorem dL_law_469 : decode cL_law 469 = .ok (.invokevirtual 50, 3) := dk_182 0 50 (dk_at dksL_law_16 1 rfl rfl)
theorem dL_law_472 : decode cL_law 472 = .ok (.if_icmp .eq 605, 3) := dk_159 2 93 (dk_at dksL_law_16 4 rfl rfl)
theorem dL_law_475 : decode cL_law 475 = .ok (.iconst 0, 1) := dk_3 (dk_at dksL_law_16 7 rfl rfl)
theorem dL_law_476 : decode cL_law 476 = .ok (.ireturn, 1) := dk_172 (dk_at dksL_law_16 8 rfl rfl)
theorem dL_law_477 : decode cL_law 477 = .ok (.aload_n 1, 1) := dk_43 (dk_at dksL_law_16 9 rfl rfl)
theorem dL_law_478 : decode cL_law 478 = .ok (.aload_n 0, 1) := dk_42 (dk_at dksL_law_16 10 rfl rfl)
theorem dL_law_479 : decode cL_law 479 = .ok (.iload_n 3, 1) := dk_29 (dk_at dksL_law_16 11 rfl rfl)
theorem dL_law_480 : decode cL_law 480 = .ok (.iconst 1, 1) := dk_4 (dk_at dksL_law_16 12 rfl rfl)
theorem dL_law_481 : decode cL_law 481 = .ok (.iadd, 1) := dk_96 (dk_at dksL_law_16 13 rfl rfl)
theorem dL_law_482 : decode cL_law 482 = .ok (.iaload, 1) := dk_46 (dk_at dksL_law_16 14 rfl rfl)
theorem dL_law_483 : decode cL_law 483 = .ok (.invokevirtual 51, 3) := dk_182 0 51 (dk_at dksL_law_16 15 rfl rfl)
theorem dL_law_486 : decode cL_law 486 = .ok (.aload_n 2, 1) := dk_44 (dk_at dksL_law_16 18 rfl rfl)
theorem dL_law_487 : decode cL_law 487 = .ok (.aload_n 0, 1) := dk_42 (dk_at dksL_law_16 19 rfl rfl)
theorem dL_law_488 : decode cL_law 488 = .ok (.iload_n 3, 1) := dk_29 (dk_at dksL_law_16 20 rfl rfl)
theorem dL_law_489 : decode cL_law 489 = .ok (.iconst 1, 1) := dk_4 (dk_at dksL_law_16 21 rfl rfl)
theorem dL_law_490 : decode cL_law 490 = .ok (.iadd, 1) := dk_96 (dk_at dksL_law_16 22 rfl rfl)
theorem dL_law_491 : decode cL_law 491 = .ok (.iaload, 1) := dk_46 (dk_at dksL_law_16 23 rfl rfl)
theorem dL_law_492 : decode cL_law 492 = .ok (.invokevirtual 54, 3) := dk_182 0 54 (dk_at dksL_law_17 0 rfl rfl)
theorem dL_law_495 : decode cL_law 495 = .ok (.if_icmp .eq 582, 3) := dk_159 2 70 (dk_at dksL_law_17 3 rfl rfl)
theorem dL_law_498 : decode cL_law 498 = .ok (.iconst 0, 1) := dk_3 (dk_at dksL_law_17 6 rfl rfl)
theorem dL_law_499 : decode cL_law 499 = .ok (.ireturn, 1) := dk_172 (dk_at dksL_law_17 7 rfl rfl)
theorem dL_law_500 : decode cL_law 500 = .ok (.aload_n 1, 1) := dk_43 (dk_at dksL_law_17 8 rfl rfl)
theorem dL_law_501 : decode cL_law 501 = .ok (.aload_n 0, 1) := dk_42 (dk_at dksL_law_17 9 rfl rfl)
theorem dL_law_502 : decode cL_law 502 = .ok (.iload_n 3, 1) := dk_29 (dk_at dksL_law_17 10 rfl rfl)
theorem dL_law_503 : decode cL_law 503 = .ok (.iconst 1, 1) := dk_4 (dk_at dksL_law_17 11 rfl rfl)
theorem dL_law_504 : decode cL_law 504 = .ok (.iadd, 1) := dk_96 (dk_at dksL_law_17 12 rfl rfl)
theorem dL_law_505 : decode cL_law 505 = .ok (.iaload, 1) := dk_46 (dk_at dksL_law_17 13 rfl rfl)
theorem dL_law_506 : decode cL_law 506 = .ok (.invokevirtual 55, 3) := dk_182 0 55 (dk_at dksL_law_17 14 rfl rfl)
theorem dL_law_509 : decode cL_law 509 = .ok (.aload_n 2, 1) := dk_44 (dk_at dksL_law_17 17 rfl rfl)
theorem dL_law_510 : decode cL_law 510 = .ok (.aload_n 0, 1) := dk_42 (dk_at dksL_law_17 18 rfl rfl)
theorem dL_law_511 : decode cL_law 511 = .ok (.iload_n 3, 1) := dk_29 (dk_at dksL_law_17 19 rfl rfl)
theorem dL_law_512 : decode cL_law 512 = .ok (.iconst 1, 1) := dk_4 (dk_at dksL_law_17 20 rfl rfl)
theorem dL_law_513 : decode cL_law 513 = .ok (.iadd, 1) := dk_96 (dk_at dksL_law_17 21 rfl rfl)
theorem dL_law_514 : decode cL_law 514 = .ok (.iaload, 1) := dk_46 (dk_at dksL_law_17 22 rfl rfl)
theorem dL_law_515 : decode cL_law 515 = .ok (.invokevirtual 58, 3) := dk_182 0 58 (dk_at dksL_law_18 0 rfl rfl)
theorem dL_law_518 : decode cL_law 518 = .ok (.if_icmp .eq 559, 3) := dk_159 2 47 (dk_at dksL_law_18 3 rfl rfl)
theorem dL_law_521 : decode cL_law 521 = .ok (.iconst 0, 1) := dk_3 (dk_at dksL_law_18 6 rfl rfl)
theorem dL_law_522 : decode cL_law 522 = .ok (.ireturn, 1) := dk_172 (dk_at dksL_law_18 7 rfl rfl)
theorem dL_law_523 : decode cL_law 523 = .ok (.aload_n 1, 1) := dk_43 (dk_at dksL_law_18 8 rfl rfl)
theorem dL_law_524 : decode cL_law 524 = .ok (.aload_n 0, 1) := dk_42 (dk_at dksL_law_18 9 rfl rfl)
theorem dL_law_525 : decode cL_law 525 = .ok (.iload_n 3, 1) := dk_29 (dk_at dksL_law_18 10 rfl rfl)
theorem dL_law_526 : decode cL_law 526 = .ok (.iconst 1, 1) := dk_4 (dk_at dksL_law_18 11 rfl rfl)
theorem dL_law_527 : decode cL_law 527 = .ok (.iadd, 1) := dk_96 (dk_at dksL_law_18 12 rfl rfl)
theorem dL_law_528 : decode cL_law 528 = .ok (.iaload, 1) := dk_46 (dk_at dksL_law_18 13 rfl rfl)
theorem dL_law_529 : decode cL_law 529 = .ok (.invokevirtual 59, 3) := dk_182 0 59 (dk_at dksL_law_18 14 rfl rfl)
theorem dL_law_532 : decode cL_law 532 = .ok (.aload_n 2, 1) := dk_44 (dk_at dksL_law_18 17 rfl rfl)
theorem dL_law_533 : decode cL_law 533 = .ok (.aload_n 0, 1) := dk_42 (dk_at dksL_law_18 18 rfl rfl)
theorem dL_law_534 : decode cL_law 534 = .ok (.iload_n 3, 1) := dk_29 (dk_at dksL_law_18 19 rfl rfl)
theorem dL_law_535 : decode cL_law 535 = .ok (.iconst 1, 1) := dk_4 (dk_at dksL_law_18 20 rfl rfl)
theorem dL_law_536 : decode cL_law 536 = .ok (.iadd, 1) := dk_96 (dk_at dksL_law_18 21 rfl rfl)
theorem dL_law_537 : decode cL_law 537 = .ok (.iaload, 1) := dk_46 (dk_at dksL_law_18 22 rfl rfl)
theorem dL_law_538 : decode cL_law 538 = .ok (.invokevirtual 62, 3) := dk_182 0 62 (dk_at dksL_law_19 0 rfl rfl)
theorem dL_law_541 : decode cL_law 541 = .ok (.if_icmp .eq 536, 3) := dk_159 2 24 (dk_at dksL_law_19 3 rfl rfl)
theorem dL_law_544 : decode cL_law 544 = .ok (.iconst 0, 1) := dk_3 (dk_at dksL_law_19 6 rfl rfl)
theorem dL_law_545 : decode cL_law 545 = .ok (.ireturn, 1) := dk_172 (dk_at dksL_law_19 7 rfl rfl)
theorem dL_law_546 : decode cL_law 546 = .ok (.aload_n 1, 1) := dk_43 (dk_at dksL_law_19 8 rfl rfl)
theorem dL_law_547 : decode cL_law 547 = .ok (.invokevirtual 63, 3) := dk_182 0 63 (dk_at dksL_law_19 9 rfl rfl)
theorem dL_law_550 : decode cL_law 550 = .ok (.aload_n 2, 1) := dk_44 (dk_at dksL_law_19 12 rfl rfl)
theorem dL_law_551 : decode cL_law 551 = .ok (.invokevirtual 67, 3) := dk_182 0 67 (dk_at dksL_law_19 13 rfl rfl)
theorem dL_law_554 : decode cL_law 554 = .ok (.if_icmp .eq 523, 3) := dk_159 2 11 (dk_at dksL_law_19 16 rfl rfl)
theorem dL_law_557 : decode cL_law 557 = .ok (.iconst 0, 1) := dk_3 (dk_at dksL_law_19 19 rfl rfl)
theorem dL_law_558 : decode cL_law 558 = .ok (.ireturn, 1) := dk_172 (dk_at dksL_law_19 20 rfl rfl)
theorem dL_law_559 : decode cL_law 559 = .ok (.aload_n 1, 1) := dk_43 (dk_at dksL_law_19 21 rfl rfl)
theorem dL_law_560 : decode cL_law 560 = .ok (.aload_n 0, 1) := dk_42 (dk_at dksL_law_19 22 rfl rfl)
theorem dL_law_561 : decode cL_law 561 = .ok (.iload_n 3, 1) := dk_29 (dk_at dksL_law_19 23 rfl rfl)
theorem dL_law_562 : decode cL_law 562 = .ok (.iconst 1, 1) := dk_4 (dk_at dksL_law_20 0 rfl rfl)
theorem dL_law_563 : decode cL_law 563 = .ok (.iadd, 1) := dk_96 (dk_at dksL_law_20 1 rfl rfl)
theorem dL_law_564 : decode cL_law 564 = .ok (.iaload, 1) := dk_46 (dk_at dksL_law_20 2 rfl rfl)
theorem dL_law_565 : decode cL_law 565 = .ok (.invokevirtual 68, 3) := dk_182 0 68 (dk_at dksL_law_20 3 rfl rfl)
theorem dL_law_568 : decode cL_law 568 = .ok (.aload_n 2, 1) := dk_44 (dk_at dksL_law_20 6 rfl rfl)
theorem dL_law_569 : decode cL_law 569 = .ok (.aload_n 0, 1) := dk_42 (dk_at dksL_law_20 7 rfl rfl)
theorem dL_law_570 : decode cL_law 570 = .ok (.iload_n 3, 1) := dk_29 (dk_at dksL_law_20 8 rfl rfl)
theorem dL_law_571 : decode cL_law 571 = .ok (.iconst 1, 1) := dk_4 (dk_at dksL_law_20 9 rfl rfl)
theorem dL_law_572 : decode cL_law 572 = .ok (.iadd, 1) := dk_96 (dk_at dksL_law_20 10 rfl rfl)
theorem dL_law_573 : decode cL_law 573 = .ok (.iaload, 1) := dk_46 (dk_at dksL_law_20 11 rfl rfl)
theorem dL_law_574 : decode cL_law 574 = .ok (.invokevirtual 71, 3) := dk_182 0 71 (dk_at dksL_law_20 12 rfl rfl)
theorem dL_law_577 : decode cL_law 577 = .ok (.if_icmp .eq 500, 3) := dk_159 1 244 (dk_at dksL_law_20 15 rfl rfl)
theorem dL_law_580 : decode cL_law 580 = .ok (.iconst 0, 1) := dk_3 (dk_at dksL_law_20 18 rfl rfl)
theorem dL_law_581 : decode cL_law 581 = .ok (.ireturn, 1) := dk_172 (dk_at dksL_law_20 19 rfl rfl)
theorem dL_law_582 : decode cL_law 582 = .ok (.aload_n 1, 1) := dk_43 (dk_at dksL_law_20 20 rfl rfl)
theorem dL_law_583 : decode cL_law 583 = .ok (.aload_n 0, 1) := dk_42 (dk_at dksL_law_20 21 rfl rfl)
theorem dL_law_584 : decode cL_law 584 = .ok (.iload_n 3, 1) := dk_29 (dk_at dksL_law_20 22 rfl rfl)
theorem dL_law_585 : decode cL_law 585 = .ok (.iconst 1, 1) := dk_4 (dk_at dksL_law_20 23 rfl rfl)
theorem dL_law_586 : decode cL_law 586 = .ok (.iadd, 1) := dk_96 (dk_at dksL_law_21 0 rfl rfl)
theorem dL_law_587 : decode cL_law 587 = .ok (.iaload, 1) := dk_46 (dk_at dksL_law_21 1 rfl rfl)
theorem dL_law_588 : decode cL_law 588 = .ok (.aload_n 0, 1) := dk_42 (dk_at dksL_law_21 2 rfl rfl)
theorem dL_law_589 : decode cL_law 589 = .ok (.iload_n 3, 1) := dk_29 (dk_at dksL_law_21 3 rfl rfl)
theorem dL_law_590 : decode cL_law 590 = .ok (.iconst 2, 1) := dk_5 (dk_at dksL_law_21 4 rfl rfl)
theorem dL_law_591 : decode cL_law 591 = .ok (.iadd, 1) := dk_96 (dk_at dksL_law_21 5 rfl rfl)
theorem dL_law_592 : decode cL_law 592 = .ok (.iaload, 1) := dk_46 (dk_at dksL_law_21 6 rfl rfl)
theorem dL_law_593 : decode cL_law 593 = .ok (.invokevirtual 72, 3) := dk_182 0 72 (dk_at dksL_law_21 7 rfl rfl)
theorem dL_law_596 : decode cL_law 596 = .ok (.aload_n 2, 1) := dk_44 (dk_at dksL_law_21 10 rfl rfl)
theorem dL_law_597 : decode cL_law 597 = .ok (.aload_n 0, 1) := dk_42 (dk_at dksL_law_21 11 rfl rfl)
theorem dL_law_598 : decode cL_law 598 = .ok (.iload_n 3, 1) := dk_29 (dk_at dksL_law_21 12 rfl rfl)
theorem dL_law_599 : decode cL_law 599 = .ok (.iconst 1, 1) := dk_4 (dk_at dksL_law_21 13 rfl rfl)
theorem dL_law_600 : decode cL_law 600 = .ok (.iadd, 1) := dk_96 (dk_at dksL_law_21 14 rfl rfl)
theorem dL_law_601 : decode cL_law 601 = .ok (.iaload, 1) := dk_46 (dk_at dksL_law_21 15 rfl rfl)
theorem dL_law_602 : decode cL_law 602 = .ok (.aload_n 0, 1) := dk_42 (dk_at dksL_law_21 16 rfl rfl)
theorem dL_law_603 : decode cL_law 603 = .ok (.iload_n 3, 1) := dk_29 (dk_at dksL_law_21 17 rfl rfl)
theorem dL_law_604 : decode cL_law 604 = .ok (.iconst 2, 1) := dk_5 (dk_at dksL_law_21 18 rfl rfl)
theorem dL_law_605 : decode cL_law 605 = .ok (.iadd, 1) := dk_96 (dk_at dksL_law_21 19 rfl rfl)
theorem dL_law_606 : decode cL_law 606 = .ok (.iaload, 1) := dk_46 (dk_at dksL_law_21 20 rfl rfl)
theorem dL_law_607 : decode cL_law 607 = .ok (.invokevirtual 75, 3) := dk_182 0 75 (dk_at dksL_law_21 21 rfl rfl)
theorem dL_law_610 : decode cL_law 610 = .ok (.if_icmp .eq 467, 3) := dk_159 1 211 (dk_at dksL_law_22 0 rfl rfl)
theorem dL_law_613 : decode cL_law 613 = .ok (.iconst 0, 1) := dk_3 (dk_at dksL_law_22 3 rfl rfl)
theorem dL_law_614 : decode cL_law 614 = .ok (.ireturn, 1) := dk_172 (dk_at dksL_law_22 4 rfl rfl)
theorem dL_law_615 : decode cL_law 615 = .ok (.aload_n 1, 1) := dk_43 (dk_at dksL_law_22 5 rfl rfl)
theorem dL_law_616 : decode cL_law 616 = .ok (.aload_n 0, 1) := dk_42 (dk_at dksL_law_22 6 rfl rfl)
theorem dL_law_617 : decode cL_law 617 = .ok (.iload_n 3, 1) := dk_29 (dk_at dksL_law_22 7 rfl rfl)
theorem dL_law_618 : decode cL_law 618 = .ok (.iconst 1, 1) := dk_4 (dk_at dksL_law_22 8 rfl rfl)
theorem dL_law_619 : decode cL_law 619 = .ok (.iadd, 1) := dk_96 (dk_at dksL_law_22 9 rfl rfl)
theorem dL_law_620 : decode cL_law 620 = .ok (.iaload, 1) := dk_46 (dk_at dksL_law_22 10 rfl rfl)
theorem dL_law_621 : decode cL_law 621 = .ok (.aload_n 0, 1) := dk_42 (dk_at dksL_law_22 11 rfl rfl)
theorem dL_law_622 : decode cL_law 622 = .ok (.iload_n 3, 1) := dk_29 (dk_at dksL_law_22 12 rfl rfl)
theorem dL_law_623 : decode cL_law 623 = .ok (.iconst 2, 1) := dk_5 (dk_at dksL_law_22 13 rfl rfl)
theorem dL_law_624 : decode cL_law 624 = .ok (.iadd, 1) := dk_96 (dk_at dksL_law_22 14 rfl rfl)
theorem dL_law_625 : decode cL_law 625 = .ok (.iaload, 1) := dk_46 (dk_at dksL_law_22 15 rfl rfl)
theorem dL_law_626 : decode cL_law 626 = .ok (.invokevirtual 76, 3) := dk_182 0 76 (dk_at dksL_law_22 16 rfl rfl)
theorem dL_law_629 : decode cL_law 629 = .ok (.aload_n 2, 1) := dk_44 (dk_at dksL_law_22 19 rfl rfl)
theorem dL_law_630 : decode cL_law 630 = .ok (.aload_n 0, 1) := dk_42 (dk_at dksL_law_22 20 rfl rfl)
theorem dL_law_631 : decode cL_law 631 = .ok (.iload_n 3, 1) := dk_29 (dk_at dksL_law_22 21 rfl rfl)
theorem dL_law_632 : decode cL_law 632 = .ok (.iconst 1, 1) := dk_4 (dk_at dksL_law_22 22 rfl rfl)
theorem dL_law_633 : decode cL_law 633 = .ok (.iadd, 1) := dk_96 (dk_at dksL_law_22 23 rfl rfl)
theorem dL_law_634 : decode cL_law 634 = .ok (.iaload, 1) := dk_46 (dk_at dksL_law_23 0 rfl rfl)
theorem dL_law_635 : decode cL_law 635 = .ok (.aload_n 0, 1) := dk_42 (dk_at dksL_law_23 1 rfl rfl)
theorem dL_law_636 : decode cL_law 636 = .ok (.iload_n 3, 1) := dk_29 (dk_at dksL_law_23 2 rfl rfl)
theorem dL_law_637 : decode cL_law 637 = .ok (.iconst 2, 1) := dk_5 (dk_at dksL_law_23 3 rfl rfl)
theorem dL_law_638 : decode cL_law 638 = .ok (.iadd, 1) := dk_96 (dk_at dksL_law_23 4 rfl rfl)
theorem dL_law_639 : decode cL_law 639 = .ok (.iaload, 1) := dk_46 (dk_at dksL_law_23 5 rfl rfl)
theorem dL_law_640 : decode cL_law 640 = .ok (.invokevirtual 79, 3) := dk_182 0 79 (dk_at dksL_law_23 6 rfl rfl)
theorem dL_law_643 : decode cL_law 643 = .ok (.if_icmp .eq 434, 3) := dk_159 1 178 (dk_at dksL_law_23 9 rfl rfl)
theorem dL_law_646 : decode cL_law 646 = .ok (.iconst 0, 1) := dk_3 (dk_at dksL_law_23 12 rfl rfl)
theorem dL_law_647 : decode cL_law 647 = .ok (.ireturn, 1) := dk_172 (dk_at dksL_law_23 13 rfl rfl)
theorem dL_law_648 : decode cL_law 648 = .ok (.aload_n 1, 1) := dk_43 (dk_at dksL_law_23 14 rfl rfl)
theorem dL_law_649 : decode cL_law 649 = .ok (.aload_n 0, 1) := dk_42 (dk_at dksL_law_23 15 rfl rfl)
theorem dL_law_650 : decode cL_law 650 = .ok (.iload_n 3, 1) := dk_29 (dk_at dksL_law_23 16 rfl rfl)
theorem dL_law_651 : decode cL_law 651 = .ok (.iconst 1, 1) := dk_4 (dk_at dksL_law_23 17 rfl rfl)
theorem dL_law_652 : decode cL_law 652 = .ok (.iadd, 1) := dk_96 (dk_at dksL_law_23 18 rfl rfl)
theorem dL_law_653 : decode cL_law 653 = .ok (.iaload, 1) := dk_46 (dk_at dksL_law_23 19 rfl rfl)
theorem dL_law_654 : decode cL_law 654 = .ok (.aload_n 0, 1) := dk_42 (dk_at dksL_law_23 20 rfl rfl)
theorem dL_law_655 : decode cL_law 655 = .ok (.iload_n 3, 1) := dk_29 (dk_at dksL_law_23 21 rfl rfl)
theorem dL_law_656 : decode cL_law 656 = .ok (.iconst 2, 1) := dk_5 (dk_at dksL_law_23 22 rfl rfl)
theorem dL_law_657 : decode cL_law 657 = .ok (.iadd, 1) := dk_96 (dk_at dksL_law_23 23 rfl rfl)
theorem dL_law_658 : decode cL_law 658 = .ok (.iaload, 1) := dk_46 (dk_at dksL_law_24 0 rfl rfl)
theorem dL_law_659 : decode cL_law 659 = .ok (.aload_n 0, 1) := dk_42 (dk_at dksL_law_24 1 rfl rfl)
theorem dL_law_660 : decode cL_law 660 = .ok (.iload_n 3, 1) := dk_29 (dk_at dksL_law_24 2 rfl rfl)
theorem dL_law_661 : decode cL_law 661 = .ok (.iconst 3, 1) := dk_6 (dk_at dksL_law_24 3 rfl rfl)
theorem dL_law_662 : decode cL_law 662 = .ok (.iadd, 1) := dk_96 (dk_at dksL_law_24 4 rfl rfl)
theorem dL_law_663 : decode cL_law 663 = .ok (.iaload, 1) := dk_46 (dk_at dksL_law_24 5 rfl rfl)
theorem dL_law_664 : decode cL_law 664 = .ok (.invokevirtual 80, 3) := dk_182 0 80 (dk_at dksL_law_24 6 rfl rfl)
theorem dL_law_667 : decode cL_law 667 = .ok (.aload_n 2, 1) := dk_44 (dk_at dksL_law_24 9 rfl rfl)
theorem dL_law_668 : decode cL_law 668 = .ok (.aload_n 0, 1) := dk_42 (dk_at dksL_law_24 10 rfl rfl)
theorem dL_law_669 : decode cL_law 669 = .ok (.iload_n 3, 1) := dk_29 (dk_at dksL_law_24 11 rfl rfl)
theorem dL_law_670 : decode cL_law 670 = .ok (.iconst 1, 1) := dk_4 (dk_at dksL_law_24 12 rfl rfl)
theorem dL_law_671 : decode cL_law 671 = .ok (.iadd, 1) := dk_96 (dk_at dksL_law_24 13 rfl rfl)
theorem dL_law_672 : decode cL_law 672 = .ok (.iaload, 1) := dk_46 (dk_at dksL_law_24 14 rfl rfl)
theorem dL_law_673 : decode cL_law 673 = .ok (.aload_n 0, 1) := dk_42 (dk_at dksL_law_24 15 rfl rfl)
theorem dL_law_674 : decode cL_law 674 = .ok (.iload_n 3, 1) := dk_29 (dk_at dksL_law_24 16 rfl rfl)
theorem dL_law_675 : decode cL_law 675 = .ok (.iconst 2, 1) := dk_5 (dk_at dksL_law_24 17 rfl rfl)
theorem dL_law_676 : decode cL_law 676 = .ok (.iadd, 1) := dk_96 (dk_at dksL_law_24 18 rfl rfl)
theorem dL_law_677 : decode cL_law 677 = .ok (.iaload, 1) := dk_46 (dk_at dksL_law_24 19 rfl rfl)
theorem dL_law_678 : decode cL_law 678 = .ok (.aload_n 0, 1) := dk_42 (dk_at dksL_law_24 20 rfl rfl)
theorem dL_law_679 : decode cL_law 679 = .ok (.iload_n 3, 1) := dk_29 (dk_at dksL_law_24 21 rfl rfl)
theorem dL_law_680 : decode cL_law 680 = .ok (.iconst 3, 1) := dk_6 (dk_at dksL_law_24 22 rfl rfl)
theorem dL_law_681 : decode cL_law 681 = .ok (.iadd, 1) := dk_96 (dk_at dksL_law_24 23 rfl rfl)
theorem dL_law_682 : decode cL_law 682 = .ok (.iaload, 1) := dk_46 (dk_at dksL_law_25 0 rfl rfl)
theorem dL_law_683 : decode cL_law 683 = .ok (.invokevirtual 84, 3) := dk_182 0 84 (dk_at dksL_law_25 1 rfl rfl)
theorem dL_law_686 : decode cL_law 686 = .ok (.lcmp, 1) := dk_148 (dk_at dksL_law_25 4 rfl rfl)
theorem dL_law_687 : decode cL_law 687 = .ok (.ifCond .eq 390, 3) := dk_153 1 134 (dk_at dksL_law_25 5 rfl rfl)
theorem dL_law_690 : decode cL_law 690 = .ok (.iconst 0, 1) := dk_3 (dk_at dksL_law_25 8 rfl rfl)
theorem dL_law_691 : decode cL_law 691 = .ok (.ireturn, 1) := dk_172 (dk_at dksL_law_25 9 rfl rfl)
theorem dL_law_692 : decode cL_law 692 = .ok (.aload_n 1, 1) := dk_43 (dk_at dksL_law_25 10 rfl rfl)
theorem dL_law_693 : decode cL_law 693 = .ok (.aload_n 0, 1) := dk_42 (dk_at dksL_law_25 11 rfl rfl)
theorem dL_law_694 : decode cL_law 694 = .ok (.iload_n 3, 1) := dk_29 (dk_at dksL_law_25 12 rfl rfl)
theorem dL_law_695 : decode cL_law 695 = .ok (.iconst 1, 1) := dk_4 (dk_at dksL_law_25 13 rfl rfl)
theorem dL_law_696 : decode cL_law 696 = .ok (.iadd, 1) := dk_96 (dk_at dksL_law_25 14 rfl rfl)
theorem dL_law_697 : decode cL_law 697 = .ok (.iaload, 1) := dk_46 (dk_at dksL_law_25 15 rfl rfl)
theorem dL_law_698 : decode cL_law 698 = .ok (.aload_n 0, 1) := dk_42 (dk_at dksL_law_25 16 rfl rfl)
theorem dL_law_699 : decode cL_law 699 = .ok (.iload_n 3, 1) := dk_29 (dk_at dksL_law_25 17 rfl rfl)
theorem dL_law_700 : decode cL_law 700 = .ok (.iconst 2, 1) := dk_5 (dk_at dksL_law_25 18 rfl rfl)
theorem dL_law_701 : decode cL_law 701 = .ok (.iadd, 1) := dk_96 (dk_at dksL_law_25 19 rfl rfl)
theorem dL_law_702 : decode cL_law 702 = .ok (.iaload, 1) := dk_46 (dk_at dksL_law_25 20 rfl rfl)
theorem dL_law_703 : decode cL_law 703 = .ok (.invokevirtual 85, 3) := dk_182 0 85 (dk_at dksL_law_25 21 rfl rfl)
theorem dL_law_706 : decode cL_law 706 = .ok (.aload_n 2, 1) := dk_44 (dk_at dksL_law_26 0 rfl rfl)
theorem dL_law_707 : decode cL_law 707 = .ok (.aload_n 0, 1) := dk_42 (dk_at dksL_law_26 1 rfl rfl)
theorem dL_law_708 : decode cL_law 708 = .ok (.iload_n 3, 1) := dk_29 (dk_at dksL_law_26 2 rfl rfl)
theorem dL_law_709 : decode cL_law 709 = .ok (.iconst 1, 1) := dk_4 (dk_at dksL_law_26 3 rfl rfl)
theorem dL_law_710 : decode cL_law 710 = .ok (.iadd, 1) := dk_96 (dk_at dksL_law_26 4 rfl rfl)
theorem dL_law_711 : decode cL_law 711 = .ok (.iaload, 1) := dk_46 (dk_at dksL_law_26 5 rfl rfl)
theorem dL_law_712 : decode cL_law 712 = .ok (.aload_n 0, 1) := dk_42 (dk_at dksL_law_26 6 rfl rfl)
theorem dL_law_713 : decode cL_law 713 = .ok (.iload_n 3, 1) := dk_29 (dk_at dksL_law_26 7 rfl rfl)
theorem dL_law_714 : decode cL_law 714 = .ok (.iconst 2, 1) := dk_5 (dk_at dksL_law_26 8 rfl rfl)
theorem dL_law_715 : decode cL_law 715 = .ok (.iadd, 1) := dk_96 (dk_at dksL_law_26 9 rfl rfl)
theorem dL_law_716 : decode cL_law 716 = .ok (.iaload, 1) := dk_46 (dk_at dksL_law_26 10 rfl rfl)
theorem dL_law_717 : decode cL_law 717 = .ok (.invokevirtual 88, 3) := dk_182 0 88 (dk_at dksL_law_26 11 rfl rfl)
theorem dL_law_720 : decode cL_law 720 = .ok (.lcmp, 1) := dk_148 (dk_at dksL_law_26 14 rfl rfl)
theorem dL_law_721 : decode cL_law 721 = .ok (.ifCond .eq 356, 3) := dk_153 1 100 (dk_at dksL_law_26 15 rfl rfl)
theorem dL_law_724 : decode cL_law 724 = .ok (.iconst 0, 1) := dk_3 (dk_at dksL_law_26 18 rfl rfl)
theorem dL_law_725 : decode cL_law 725 = .ok (.ireturn, 1) := dk_172 (dk_at dksL_law_26 19 rfl rfl)
theorem dL_law_726 : decode cL_law 726 = .ok (.aload_n 1, 1) := dk_43 (dk_at dksL_law_26 20 rfl rfl)
theorem dL_law_727 : decode cL_law 727 = .ok (.aload_n 0, 1) := dk_42 (dk_at dksL_law_26 21 rfl rfl)
theorem dL_law_728 : decode cL_law 728 = .ok (.iload_n 3, 1) := dk_29 (dk_at dksL_law_26 22 rfl rfl)
theorem dL_law_729 : decode cL_law 729 = .ok (.iconst 1, 1) := dk_4 (dk_at dksL_law_26 23 rfl rfl)
theorem dL_law_730 : decode cL_law 730 = .ok (.iadd, 1) := dk_96 (dk_at dksL_law_27 0 rfl rfl)
theorem dL_law_731 : decode cL_law 731 = .ok (.iaload, 1) := dk_46 (dk_at dksL_law_27 1 rfl rfl)
theorem dL_law_732 : decode cL_law 732 = .ok (.aload_n 0, 1) := dk_42 (dk_at dksL_law_27 2 rfl rfl)
theorem dL_law_733 : decode cL_law 733 = .ok (.iload_n 3, 1) := dk_29 (dk_at dksL_law_27 3 rfl rfl)
theorem dL_law_734 : decode cL_law 734 = .ok (.iconst 2, 1) := dk_5 (dk_at dksL_law_27 4 rfl rfl)
theorem dL_law_735 : decode cL_law 735 = .ok (.iadd, 1) := dk_96 (dk_at dksL_law_27 5 rfl rfl)
theorem dL_law_736 : decode cL_law 736 = .ok (.iaload, 1) := dk_46 (dk_at dksL_law_27 6 rfl rfl)
theorem dL_law_737 : decode cL_law 737 = .ok (.aload_n 0, 1) := dk_42 (dk_at dksL_law_27 7 rfl rfl)
theorem dL_law_738 : decode cL_law 738 = .ok (.iload_n 3, 1) := dk_29 (dk_at dksL_law_27 8 rfl rfl)
theorem dL_law_739 : decode cL_law 739 = .ok (.iconst 3, 1) := dk_6 (dk_at dksL_law_27 9 rfl rfl)
theorem dL_law_740 : decode cL_law 740 = .ok (.iadd, 1) := dk_96 (dk_at dksL_law_27 10 rfl rfl)
theorem dL_law_741 : decode cL_law 741 = .ok (.iaload, 1) := dk_46 (dk_at dksL_law_27 11 rfl rfl)
theorem dL_law_742 : decode cL_law 742 = .ok (.invokevirtual 89, 3) := dk_182 0 89 (dk_at dksL_law_27 12 rfl rfl)
theorem dL_law_745 : decode cL_law 745 = .ok (.aload_n 2, 1) := dk_44 (dk_at dksL_law_27 15 rfl rfl)
theorem dL_law_746 : decode cL_law 746 = .ok (.aload_n 0, 1) := dk_42 (dk_at dksL_law_27 16 rfl rfl)
theorem dL_law_747 : decode cL_law 747 = .ok (.iload_n 3, 1) := dk_29 (dk_at dksL_law_27 17 rfl rfl)
theorem dL_law_748 : decode cL_law 748 = .ok (.iconst 1, 1) := dk_4 (dk_at dksL_law_27 18 rfl rfl)
theorem dL_law_749 : decode cL_law 749 = .ok (.iadd, 1) := dk_96 (dk_at dksL_law_27 19 rfl rfl)
theorem dL_law_750 : decode cL_law 750 = .ok (.iaload, 1) := dk_46 (dk_at dksL_law_27 20 rfl rfl)
theorem dL_law_751 : decode cL_law 751 = .ok (.aload_n 0, 1) := dk_42 (dk_at dksL_law_27 21 rfl rfl)
theorem dL_law_752 : decode cL_law 752 = .ok (.iload_n 3, 1) := dk_29 (dk_at dksL_law_27 22 rfl rfl)
theorem dL_law_753 : decode cL_law 753 = .ok (.iconst 2, 1) := dk_5 (dk_at dksL_law_27 23 rfl rfl)
theorem dL_law_754 : decode cL_law 754 = .ok (.iadd, 1) := dk_96 (dk_at dksL_law_28 0 rfl rfl)
theorem dL_law_755 : decode cL_law 755 = .ok (.iaload, 1) := dk_46 (dk_at dksL_law_28 1 rfl rfl)
theorem dL_law_756 : decode cL_law 756 = .ok (.aload_n 0, 1) := dk_42 (dk_at dksL_law_28 2 rfl rfl)
theorem dL_law_757 : decode cL_law 757 = .ok (.iload_n 3, 1) := dk_29 (dk_at dksL_law_28 3 rfl rfl)
theorem dL_law_758 : decode cL_law 758 = .ok (.iconst 3, 1) := dk_6 (dk_at dksL_law_28 4 rfl rfl)
theorem dL_law_759 : decode cL_law 759 = .ok (.iadd, 1) := dk_96 (dk_at dksL_law_28 5 rfl rfl)
theorem dL_law_760 : decode cL_law 760 = .ok (.iaload, 1) := dk_46 (dk_at dksL_law_28 6 rfl rfl)
theorem dL_law_761 : decode cL_law 761 = .ok (.invokevirtual 92, 3) := dk_182 0 92 (dk_at dksL_law_28 7 rfl rfl)
theorem dL_law_764 : decode cL_law 764 = .ok (.if_icmp .eq 313, 3) := dk_159 1 57 (dk_at dksL_law_28 10 rfl rfl)
theorem dL_law_767 : decode cL_law 767 = .ok (.iconst 0, 1) := dk_3 (dk_at dksL_law_28 13 rfl rfl)
theorem dL_law_768 : decode cL_law 768 = .ok (.ireturn, 1) := dk_172 (dk_at dksL_law_28 14 rfl rfl)
theorem dL_law_769 : decode cL_law 769 = .ok (.aload_n 1, 1) := dk_43 (dk_at dksL_law_28 15 rfl rfl)
theorem dL_law_770 : decode cL_law 770 = .ok (.invokevirtual 93, 3) := dk_182 0 93 (dk_at dksL_law_28 16 rfl rfl)
theorem dL_law_773 : decode cL_law 773 = .ok (.aload_n 2, 1) := dk_44 (dk_at dksL_law_28 19 rfl rfl)
theorem dL_law_774 : decode cL_law 774 = .ok (.invokevirtual 96, 3) := dk_182 0 96 (dk_at dksL_law_28 20 rfl rfl)
theorem dL_law_777 : decode cL_law 777 = .ok (.if_icmp .eq 300, 3) := dk_159 1 44 (dk_at dksL_law_29 0 rfl rfl)
theorem dL_law_780 : decode cL_law 780 = .ok (.iconst 0, 1) := dk_3 (dk_at dksL_law_29 3 rfl rfl)
theorem dL_law_781 : decode cL_law 781 = .ok (.ireturn, 1) := dk_172 (dk_at dksL_law_29 4 rfl rfl)
theorem dL_law_782 : decode cL_law 782 = .ok (.aload_n 1, 1) := dk_43 (dk_at dksL_law_29 5 rfl rfl)
theorem dL_law_783 : decode cL_law 783 = .ok (.aload_n 0, 1) := dk_42 (dk_at dksL_law_29 6 rfl rfl)
theorem dL_law_784 : decode cL_law 784 = .ok (.iload_n 3, 1) := dk_29 (dk_at dksL_law_29 7 rfl rfl)
theorem dL_law_785 : decode cL_law 785 = .ok (.iconst 1, 1) := dk_4 (dk_at dksL_law_29 8 rfl rfl)
theorem dL_law_786 : decode cL_law 786 = .ok (.iadd, 1) := dk_96 (dk_at dksL_law_29 9 rfl rfl)
theorem dL_law_787 : decode cL_law 787 = .ok (.iaload, 1) := dk_46 (dk_at dksL_law_29 10 rfl rfl)
theorem dL_law_788 : decode cL_law 788 = .ok (.aload_n 0, 1) := dk_42 (dk_at dksL_law_29 11 rfl rfl)
theorem dL_law_789 : decode cL_law 789 = .ok (.iload_n 3, 1) := dk_29 (dk_at dksL_law_29 12 rfl rfl)
theorem dL_law_790 : decode cL_law 790 = .ok (.iconst 2, 1) := dk_5 (dk_at dksL_law_29 13 rfl rfl)
theorem dL_law_791 : decode cL_law 791 = .ok (.iadd, 1) := dk_96 (dk_at dksL_law_29 14 rfl rfl)
theorem dL_law_792 : decode cL_law 792 = .ok (.iaload, 1) := dk_46 (dk_at dksL_law_29 15 rfl rfl)
theorem dL_law_793 : decode cL_law 793 = .ok (.invokevirtual 97, 3) := dk_182 0 97 (dk_at dksL_law_29 16 rfl rfl)
theorem dL_law_796 : decode cL_law 796 = .ok (.aload_n 2, 1) := dk_44 (dk_at dksL_law_29 19 rfl rfl)
theorem dL_law_797 : decode cL_law 797 = .ok (.aload_n 0, 1) := dk_42 (dk_at dksL_law_29 20 rfl rfl)
theorem dL_law_798 : decode cL_law 798 = .ok (.iload_n 3, 1) := dk_29 (dk_at dksL_law_29 21 rfl rfl)
theorem dL_law_799 : decode cL_law 799 = .ok (.iconst 1, 1) := dk_4 (dk_at dksL_law_29 22 rfl rfl)
theorem dL_law_800 : decode cL_law 800 = .ok (.iadd, 1) := dk_96 (dk_at dksL_law_29 23 rfl rfl)
theorem dL_law_801 : decode cL_law 801 = .ok (.iaload, 1) := dk_46 (dk_at dksL_law_30 0 rfl rfl)
theorem dL_law_802 : decode cL_law 802 = .ok (.aload_n 0, 1) := dk_42 (dk_at dksL_law_30 1 rfl rfl)
theorem dL_law_803 : decode cL_law 803 = .ok (.iload_n 3, 1) := dk_29 (dk_at dksL_law_30 2 rfl rfl)
theorem dL_law_804 : decode cL_law 804 = .ok (.iconst 2, 1) := dk_5 (dk_at dksL_law_30 3 rfl rfl)
theorem dL_law_805 : decode cL_law 805 = .ok (.iadd, 1) := dk_96 (dk_at dksL_law_30 4 rfl rfl)
theorem dL_law_806 : decode cL_law 806 = .ok (.iaload, 1) := dk_46 (dk_at dksL_law_30 5 rfl rfl)
theorem dL_law_807 : decode cL_law 807 = .ok (.invokevirtual 100, 3) := dk_182 0 100 (dk_at dksL_law_30 6 rfl rfl)
theorem dL_law_810 : decode cL_law 810 = .ok (.if_icmp .eq 267, 3) := dk_159 1 11 (dk_at dksL_law_30 9 rfl rfl)
theorem dL_law_813 : decode cL_law 813 = .ok (.iconst 0, 1) := dk_3 (dk_at dksL_law_30 12 rfl rfl)
theorem dL_law_814 : decode cL_law 814 = .ok (.ireturn, 1) := dk_172 (dk_at dksL_law_30 13 rfl rfl)
theorem dL_law_815 : decode cL_law 815 = .ok (.aload_n 1, 1) := dk_43 (dk_at dksL_law_30 14 rfl rfl)
theorem dL_law_816 : decode cL_law 816 = .ok (.invokevirtual 101, 3) := dk_182 0 101 (dk_at dksL_law_30 15 rfl rfl)
theorem dL_law_819 : decode cL_law 819 = .ok (.aload_n 2, 1) := dk_44 (dk_at dksL_law_30 18 rfl rfl)
theorem dL_law_820 : decode cL_law 820 = .ok (.invokevirtual 104, 3) := dk_182 0 104 (dk_at dksL_law_30 19 rfl rfl)
theorem dL_law_823 : decode cL_law 823 = .ok (.if_icmp .eq 254, 3) := dk_159 0 254 (dk_at dksL_law_31 0 rfl rfl)
theorem dL_law_826 : decode cL_law 826 = .ok (.iconst 0, 1) := dk_3 (dk_at dksL_law_31 3 rfl rfl)
theorem dL_law_827 : decode cL_law 827 = .ok (.ireturn, 1) := dk_172 (dk_at dksL_law_31 4 rfl rfl)
theorem dL_law_828 : decode cL_law 828 = .ok (.aload_n 1, 1) := dk_43 (dk_at dksL_law_31 5 rfl rfl)
theorem dL_law_829 : decode cL_law 829 = .ok (.invokevirtual 105, 3) := dk_182 0 105 (dk_at dksL_law_31 6 rfl rfl)
theorem dL_law_832 : decode cL_law 832 = .ok (.aload_n 2, 1) := dk_44 (dk_at dksL_law_31 9 rfl rfl)
theorem dL_law_833 : decode cL_law 833 = .ok (.invokevirtual 108, 3) := dk_182 0 108 (dk_at dksL_law_31 10 rfl rfl)
theorem dL_law_836 : decode cL_law 836 = .ok (.if_icmp .eq 241, 3) := dk_159 0 241 (dk_at dksL_law_31 13 rfl rfl)
theorem dL_law_839 : decode cL_law 839 = .ok (.iconst 0, 1) := dk_3 (dk_at dksL_law_31 16 rfl rfl)
theorem dL_law_840 : decode cL_law 840 = .ok (.ireturn, 1) := dk_172 (dk_at dksL_law_31 17 rfl rfl)
theorem dL_law_841 : decode cL_law 841 = .ok (.aload_n 1, 1) := dk_43 (dk_at dksL_law_31 18 rfl rfl)
theorem dL_law_842 : decode cL_law 842 = .ok (.aload_n 0, 1) := dk_42 (dk_at dksL_law_31 19 rfl rfl)
theorem dL_law_843 : decode cL_law 843 = .ok (.iload_n 3, 1) := dk_29 (dk_at dksL_law_31 20 rfl rfl)
theorem dL_law_844 : decode cL_law 844 = .ok (.iconst 1, 1) := dk_4 (dk_at dksL_law_31 21 rfl rfl)
theorem dL_law_845 : decode cL_law 845 = .ok (.iadd, 1) := dk_96 (dk_at dksL_law_31 22 rfl rfl)
theorem dL_law_846 : decode cL_law 846 = .ok (.iaload, 1) := dk_46 (dk_at dksL_law_31 23 rfl rfl)
theorem dL_law_847 : decode cL_law 847 = .ok (.invokevirtual 109, 3) := dk_182 0 109 (dk_at dksL_law_32 0 rfl rfl)
theorem dL_law_850 : decode cL_law 850 = .ok (.aload_n 2, 1) := dk_44 (dk_at dksL_law_32 3 rfl rfl)
theorem dL_law_851 : decode cL_law 851 = .ok (.aload_n 0, 1) := dk_42 (dk_at dksL_law_32 4 rfl rfl)
theorem dL_law_852 : decode cL_law 852 = .ok (.iload_n 3, 1) := dk_29 (dk_at dksL_law_32 5 rfl rfl)
theorem dL_law_853 : decode cL_law 853 = .ok (.iconst 1, 1) := dk_4 (dk_at dksL_law_32 6 rfl rfl)
theorem dL_law_854 : decode cL_law 854 = .ok (.iadd, 1) := dk_96 (dk_at dksL_law_32 7 rfl rfl)
theorem dL_law_855 : decode cL_law 855 = .ok (.iaload, 1) := dk_46 (dk_at dksL_law_32 8 rfl rfl)
theorem dL_law_856 : decode cL_law 856 = .ok (.invokevirtual 112, 3) := dk_182 0 112 (dk_at dksL_law_32 9 rfl rfl)
theorem dL_law_859 : decode cL_law 859 = .ok (.if_icmp .eq 218, 3) := dk_159 0 218 (dk_at dksL_law_32 12 rfl rfl)
theorem dL_law_862 : decode cL_law 862 = .ok (.iconst 0, 1) := dk_3 (dk_at dksL_law_32 15 rfl rfl)
theorem dL_law_863 : decode cL_law 863 = .ok (.ireturn, 1) := dk_172 (dk_at dksL_law_32 16 rfl rfl)
theorem dL_law_864 : decode cL_law 864 = .ok (.aload_n 1, 1) := dk_43 (dk_at dksL_law_32 17 rfl rfl)
theorem dL_law_865 : decode cL_law 865 = .ok (.aload_n 0, 1) := dk_42 (dk_at dksL_law_32 18 rfl rfl)
theorem dL_law_866 : decode cL_law 866 = .ok (.iload_n 3, 1) := dk_29 (dk_at dksL_law_32 19 rfl rfl)
theorem dL_law_867 : decode cL_law 867 = .ok (.iconst 1, 1) := dk_4 (dk_at dksL_law_32 20 rfl rfl)
theorem dL_law_868 : decode cL_law 868 = .ok (.iadd, 1) := dk_96 (dk_at dksL_law_32 21 rfl rfl)
theorem dL_law_869 : decode cL_law 869 = .ok (.iaload, 1) := dk_46 (dk_at dksL_law_32 22 rfl rfl)
theorem dL_law_870 : decode cL_law 870 = .ok (.aload_n 0, 1) := dk_42 (dk_at dksL_law_32 23 rfl rfl)
theorem dL_law_871 : decode cL_law 871 = .ok (.iload_n 3, 1) := dk_29 (dk_at dksL_law_33 0 rfl rfl)
theorem dL_law_872 : decode cL_law 872 = .ok (.iconst 2, 1) := dk_5 (dk_at dksL_law_33 1 rfl rfl)
theorem dL_law_873 : decode cL_law 873 = .ok (.iadd, 1) := dk_96 (dk_at dksL_law_33 2 rfl rfl)
theorem dL_law_874 : decode cL_law 874 = .ok (.iaload, 1) := dk_46 (dk_at dksL_law_33 3 rfl rfl)
theorem dL_law_875 : decode cL_law 875 = .ok (.aload_n 0, 1) := dk_42 (dk_at dksL_law_33 4 rfl rfl)
theorem dL_law_876 : decode cL_law 876 = .ok (.iload_n 3, 1) := dk_29 (dk_at dksL_law_33 5 rfl rfl)
theorem dL_law_877 : decode cL_law 877 = .ok (.iconst 3, 1) := dk_6 (dk_at dksL_law_33 6 rfl rfl)
theorem dL_law_878 : decode cL_law 878 = .ok (.iadd, 1) := dk_96 (dk_at dksL_law_33 7 rfl rfl)
theorem dL_law_879 : decode cL_law 879 = .ok (.iaload, 1) := dk_46 (dk_at dksL_law_33 8 rfl rfl)
theorem dL_law_880 : decode cL_law 880 = .ok (.invokevirtual 113, 3) := dk_182 0 113 (dk_at dksL_law_33 9 rfl rfl)
theorem dL_law_883 : decode cL_law 883 = .ok (.aload_n 2, 1) := dk_44 (dk_at dksL_law_33 12 rfl rfl)
theorem dL_law_884 : decode cL_law 884 = .ok (.aload_n 0, 1) := dk_42 (dk_at dksL_law_33 13 rfl rfl)
theorem dL_law_885 : decode cL_law 885 = .ok (.iload_n 3, 1) := dk_29 (dk_at dksL_law_33 14 rfl rfl)
theorem dL_law_886 : decode cL_law 886 = .ok (.iconst 1, 1) := dk_4 (dk_at dksL_law_33 15 rfl rfl)
theorem dL_law_887 : decode cL_law 887 = .ok (.iadd, 1) := dk_96 (dk_at dksL_law_33 16 rfl rfl)
theorem dL_law_888 : decode cL_law 888 = .ok (.iaload, 1) := dk_46 (dk_at dksL_law_33 17 rfl rfl)
theorem dL_law_889 : decode cL_law 889 = .ok (.aload_n 0, 1) := dk_42 (dk_at dksL_law_33 18 rfl rfl)
theorem dL_law_890 : decode cL_law 890 = .ok (.iload_n 3, 1) := dk_29 (dk_at dksL_law_33 19 rfl rfl)
theorem dL_law_891 : decode cL_law 891 = .ok (.iconst 2, 1) := dk_5 (dk_at dksL_law_33 20 rfl rfl)
theorem dL_law_892 : decode cL_law 892 = .ok (.iadd, 1) := dk_96 (dk_at dksL_law_33 21 rfl rfl)
theorem dL_law_893 : decode cL_law 893 = .ok (.iaload, 1) := dk_46 (dk_at dksL_law_33 22 rfl rfl)
theorem dL_law_894 : decode cL_law 894 = .ok (.aload_n 0, 1) := dk_42 (dk_at dksL_law_33 23 rfl rfl)
theorem dL_law_895 : decode cL_law 895 = .ok (.iload_n 3, 1) := dk_29 (dk_at dksL_law_34 0 rfl rfl)
theorem dL_law_896 : decode cL_law 896 = .ok (.iconst 3, 1) := dk_6 (dk_at dksL_law_34 1 rfl rfl)
theorem dL_law_897 : decode cL_law 897 = .ok (.iadd, 1) := dk_96 (dk_at dksL_law_34 2 rfl rfl)
theorem dL_law_898 : decode cL_law 898 = .ok (.iaload, 1) := dk_46 (dk_at dksL_law_34 3 rfl rfl)
theorem dL_law_899 : decode cL_law 899 = .ok (.invokevirtual 116, 3) := dk_182 0 116 (dk_at dksL_law_34 4 rfl rfl)
theorem dL_law_902 : decode cL_law 902 = .ok (.if_icmp .eq 175, 3) := dk_159 0 175 (dk_at dksL_law_34 7 rfl rfl)
theorem dL_law_905 : decode cL_law 905 = .ok (.iconst 0, 1) := dk_3 (dk_at dksL_law_34 10 rfl rfl)
theorem dL_law_906 : decode cL_law 906 = .ok (.ireturn, 1) := dk_172 (dk_at dksL_law_34 11 rfl rfl)
theorem dL_law_907 : decode cL_law 907 = .ok (.aload_n 1, 1) := dk_43 (dk_at dksL_law_34 12 rfl rfl)
theorem dL_law_908 : decode cL_law 908 = .ok (.aload_n 0, 1) := dk_42 (dk_at dksL_law_34 13 rfl rfl)
theorem dL_law_909 : decode cL_law 909 = .ok (.iload_n 3, 1) := dk_29 (dk_at dksL_law_34 14 rfl rfl)
theorem dL_law_910 : decode cL_law 910 = .ok (.iconst 1, 1) := dk_4 (dk_at dksL_law_34 15 rfl rfl)
theorem dL_law_911 : decode cL_law 911 = .ok (.iadd, 1) := dk_96 (dk_at dksL_law_34 16 rfl rfl)
theorem dL_law_912 : decode cL_law 912 = .ok (.iaload, 1) := dk_46 (dk_at dksL_law_34 17 rfl rfl)
theorem dL_law_913 : decode cL_law 913 = .ok (.aload_n 0, 1) := dk_42 (dk_at dksL_law_34 18 rfl rfl)
theorem dL_law_914 : decode cL_law 914 = .ok (.iload_n 3, 1) := dk_29 (dk_at dksL_law_34 19 rfl rfl)
theorem dL_law_915 : decode cL_law 915 = .ok (.iconst 2, 1) := dk_5 (dk_at dksL_law_34 20 rfl rfl)
theorem dL_law_916 : decode cL_law 916 = .ok (.iadd, 1) := dk_96 (dk_at dksL_law_34 21 rfl rfl)
theorem dL_law_917 : decode cL_law 917 = .ok (.iaload, 1) := dk_46 (dk_at dksL_law_34 22 rfl rfl)
theorem dL_law_918 : decode cL_law 918 = .ok (.aload_n 0, 1) := dk_42 (dk_at dksL_law_34 23 rfl rfl)
theorem dL_law_919 : decode cL_law 919 = .ok (.iload_n 3, 1) := dk_29 (dk_at dksL_law_35 0 rfl rfl)
theorem dL_law_920 : decode cL_law 920 = .ok (.iconst 3, 1) := dk_6 (dk_at dksL_law_35 1 rfl rfl)
theorem dL_law_921 : decode cL_law 921 = .ok (.iadd, 1) := dk_96 (dk_at dksL_law_35 2 rfl rfl)
theorem dL_law_922 : decode cL_law 922 = .ok (.iaload, 1) := dk_46 (dk_at dksL_law_35 3 rfl rfl)
theorem dL_law_923 : decode cL_law 923 = .ok (.i2l, 1) := dk_133 (dk_at dksL_law_35 4 rfl rfl)
theorem dL_law_924 : decode cL_law 924 = .ok (.bipush 32, 2) := dk_16 32 (dk_at dksL_law_35 5 rfl rfl)
theorem dL_law_926 : decode cL_law 926 = .ok (.lshl, 1) := dk_121 (dk_at dksL_law_35 7 rfl rfl)
theorem dL_law_927 : decode cL_law 927 = .ok (.aload_n 0, 1) := dk_42 (dk_at dksL_law_35 8 rfl rfl)
theorem dL_law_928 : decode cL_law 928 = .ok (.iload_n 3, 1) := dk_29 (dk_at dksL_law_35 9 rfl rfl)
theorem dL_law_929 : decode cL_law 929 = .ok (.iconst 4, 1) := dk_7 (dk_at dksL_law_35 10 rfl rfl)
theorem dL_law_930 : decode cL_law 930 = .ok (.iadd, 1) := dk_96 (dk_at dksL_law_35 11 rfl rfl)
theorem dL_law_931 : decode cL_law 931 = .ok (.iaload, 1) := dk_46 (dk_at dksL_law_35 12 rfl rfl)
theorem dL_law_932 : decode cL_law 932 = .ok (.i2l, 1) := dk_133 (dk_at dksL_law_35 13 rfl rfl)
theorem dL_law_933 : decode cL_law 933 = .ok (.ldc2_w 117, 3) := dk_20 0 117 (dk_at dksL_law_35 14 rfl rfl)
theorem dL_law_936 : decode cL_law 936 = .ok (.land, 1) := dk_127 (dk_at dksL_law_35 17 rfl rfl)
theorem dL_law_937 : decode cL_law 937 = .ok (.lor, 1) := dk_129 (dk_at dksL_law_35 18 rfl rfl)
theorem dL_law_938 : decode cL_law 938 = .ok (.invokevirtual 119, 3) := dk_182 0 119 (dk_at dksL_law_35 19 rfl rfl)
theorem dL_law_941 : decode cL_law 941 = .ok (.aload_n 2, 1) := dk_44 (dk_at dksL_law_35 22 rfl rfl)
theorem dL_law_942 : decode cL_law 942 = .ok (.aload_n 0, 1) := dk_42 (dk_at dksL_law_35 23 rfl rfl)
theorem dL_law_943 : decode cL_law 943 = .ok (.iload_n 3, 1) := dk_29 (dk_at dksL_law_36 0 rfl rfl)
theorem dL_law_944 : decode cL_law 944 = .ok (.iconst 1, 1) := dk_4 (dk_at dksL_law_36 1 rfl rfl)
theorem dL_law_945 : decode cL_law 945 = .ok (.iadd, 1) := dk_96 (dk_at dksL_law_36 2 rfl rfl)
theorem dL_law_946 : decode cL_law 946 = .ok (.iaload, 1) := dk_46 (dk_at dksL_law_36 3 rfl rfl)
theorem dL_law_947 : decode cL_law 947 = .ok (.aload_n 0, 1) := dk_42 (dk_at dksL_law_36 4 rfl rfl)
theorem dL_law_948 : decode cL_law 948 = .ok (.iload_n 3, 1) := dk_29 (dk_at dksL_law_36 5 rfl rfl)
theorem dL_law_949 : decode cL_law 949 = .ok (.iconst 2, 1) := dk_5 (dk_at dksL_law_36 6 rfl rfl)
theorem dL_law_950 : decode cL_law 950 = .ok (.iadd, 1) := dk_96 (dk_at dksL_law_36 7 rfl rfl)
theorem dL_law_951 : decode cL_law 951 = .ok (.iaload, 1) := dk_46 (dk_at dksL_law_36 8 rfl rfl)
theorem dL_law_952 : decode cL_law 952 = .ok (.aload_n 0, 1) := dk_42 (dk_at dksL_law_36 9 rfl rfl)
theorem dL_law_953 : decode cL_law 953 = .ok (.iload_n 3, 1) := dk_29 (dk_at dksL_law_36 10 rfl rfl)
theorem dL_law_954 : decode cL_law 954 = .ok (.iconst 3, 1) := dk_6 (dk_at dksL_law_36 11 rfl rfl)
theorem dL_law_955 : decode cL_law 955 = .ok (.iadd, 1) := dk_96 (dk_at dksL_law_36 12 rfl rfl)
theorem dL_law_956 : decode cL_law 956 = .ok (.iaload, 1) := dk_46 (dk_at dksL_law_36 13 rfl rfl)
theorem dL_law_957 : decode cL_law 957 = .ok (.i2l, 1) := dk_133 (dk_at dksL_law_36 14 rfl rfl)
theorem dL_law_958 : decode cL_law 958 = .ok (.bipush 32, 2) := dk_16 32 (dk_at dksL_law_36 15 rfl rfl)
theorem dL_law_960 : decode cL_law 960 = .ok (.lshl, 1) := dk_121 (dk_at dksL_law_36 17 rfl rfl)
theorem dL_law_961 : decode cL_law 961 = .ok (.aload_n 0, 1) := dk_42 (dk_at dksL_law_36 18 rfl rfl)
theorem dL_law_962 : decode cL_law 962 = .ok (.iload_n 3, 1) := dk_29 (dk_at dksL_law_36 19 rfl rfl)
theorem dL_law_963 : decode cL_law 963 = .ok (.iconst 4, 1) := dk_7 (dk_at dksL_law_36 20 rfl rfl)
theorem dL_law_964 : decode cL_law 964 = .ok (.iadd, 1) := dk_96 (dk_at dksL_law_36 21 rfl rfl)
theorem dL_law_965 : decode cL_law 965 = .ok (.iaload, 1) := dk_46 (dk_at dksL_law_36 22 rfl rfl)
theorem dL_law_966 : decode cL_law 966 = .ok (.i2l, 1) := dk_133 (dk_at dksL_law_36 23 rfl rfl)
theorem dL_law_967 : decode cL_law 967 = .ok (.ldc2_w 117, 3) := dk_20 0 117 (dk_at dksL_law_37 0 rfl rfl)
theorem dL_law_970 : decode cL_law 970 = .ok (.land, 1) := dk_127 (dk_at dksL_law_37 3 rfl rfl)
theorem dL_law_971 : decode cL_law 971 = .ok (.lor, 1) := dk_129 (dk_at dksL_law_37 4 rfl rfl)
theorem dL_law_972 : decode cL_law 972 = .ok (.invokevirtual 123, 3) := dk_182 0 123 (dk_at dksL_law_37 5 rfl rfl)
theorem dL_law_975 : decode cL_law 975 = .ok (.if_icmp .eq 102, 3) := dk_159 0 102 (dk_at dksL_law_37 8 rfl rfl)
theorem dL_law_978 : decode cL_law 978 = .ok (.iconst 0, 1) := dk_3 (dk_at dksL_law_37 11 rfl rfl)
theorem dL_law_979 : decode cL_law 979 = .ok (.ireturn, 1) := dk_172 (dk_at dksL_law_37 12 rfl rfl)
theorem dL_law_980 : decode cL_law 980 = .ok (.aload_n 1, 1) := dk_43 (dk_at dksL_law_37 13 rfl rfl)
theorem dL_law_981 : decode cL_law 981 = .ok (.aload_n 0, 1) := dk_42 (dk_at dksL_law_37 14 rfl rfl)
theorem dL_law_982 : decode cL_law 982 = .ok (.iload_n 3, 1) := dk_29 (dk_at dksL_law_37 15 rfl rfl)
theorem dL_law_983 : decode cL_law 983 = .ok (.iconst 1, 1) := dk_4 (dk_at dksL_law_37 16 rfl rfl)
theorem dL_law_984 : decode cL_law 984 = .ok (.iadd, 1) := dk_96 (dk_at dksL_law_37 17 rfl rfl)
theorem dL_law_985 : decode cL_law 985 = .ok (.iaload, 1) := dk_46 (dk_at dksL_law_37 18 rfl rfl)
theorem dL_law_986 : decode cL_law 986 = .ok (.aload_n 0, 1) := dk_42 (dk_at dksL_law_37 19 rfl rfl)
theorem dL_law_987 : decode cL_law 987 = .ok (.iload_n 3, 1) := dk_29 (dk_at dksL_law_37 20 rfl rfl)
theorem dL_law_988 : decode cL_law 988 = .ok (.iconst 2, 1) := dk_5 (dk_at dksL_law_37 21 rfl rfl)
theorem dL_law_989 : decode cL_law 989 = .ok (.iadd, 1) := dk_96 (dk_at dksL_law_37 22 rfl rfl)
theorem dL_law_990 : decode cL_law 990 = .ok (.iaload, 1) := dk_46 (dk_at dksL_law_37 23 rfl rfl)
theorem dL_law_991 : decode cL_law 991 = .ok (.invokevirtual 124, 3) := dk_182 0 124 (dk_at dksL_law_38 0 rfl rfl)
theorem dL_law_994 : decode cL_law 994 = .ok (.aload_n 2, 1) := dk_44 (dk_at dksL_law_38 3 rfl rfl)
theorem dL_law_995 : decode cL_law 995 = .ok (.aload_n 0, 1) := dk_42 (dk_at dksL_law_38 4 rfl rfl)
theorem dL_law_996 : decode cL_law 996 = .ok (.iload_n 3, 1) := dk_29 (dk_at dksL_law_38 5 rfl rfl)
theorem dL_law_997 : decode cL_law 997 = .ok (.iconst 1, 1) := dk_4 (dk_at dksL_law_38 6 rfl rfl)
theorem dL_law_998 : decode cL_law 998 = .ok (.iadd, 1) := dk_96 (dk_at dksL_law_38 7 rfl rfl)
theorem dL_law_999 : decode cL_law 999 = .ok (.iaload, 1) := dk_46 (dk_at dksL_law_38 8 rfl rfl)
theorem dL_law_1000 : decode cL_law 1000 = .ok (.aload_n 0, 1) := dk_42 (dk_at dksL_law_38 9 rfl rfl)
theorem dL_law_1001 : decode cL_law 1001 = .ok (.iload_n 3, 1) := dk_29 (dk_at dksL_law_38 10 rfl rfl)
theorem dL_law_1002 : decode cL_law 1002 = .ok (.iconst 2, 1) := dk_5 (dk_at dksL_law_38 11 rfl rfl)
theorem dL_law_1003 : decode cL_law 1003 = .ok (.iadd, 1) := dk_96 (dk_at dksL_law_38 12 rfl rfl)
theorem dL_law_1004 : decode cL_law 1004 = .ok (.iaload, 1) := dk_46 (dk_at dksL_law_38 13 rfl rfl)
theorem dL_law_1005 : decode cL_law 1005 = .ok (.invokevirtual 127, 3) := dk_182 0 127 (dk_at dksL_law_38 14 rfl rfl)
theorem dL_law_1008 : decode cL_law 1008 = .ok (.lcmp, 1) := dk_148 (dk_at dksL_law_38 17 rfl rfl)
theorem dL_law_1009 : decode cL_law 1009 = .ok (.ifCond .eq 68, 3) := dk_153 0 68 (dk_at dksL_law_38 18 rfl rfl)
theorem dL_law_1012 : decode cL_law 1012 = .ok (.iconst 0, 1) := dk_3 (dk_at dksL_law_38 21 rfl rfl)
theorem dL_law_1013 : decode cL_law 1013 = .ok (.ireturn, 1) := dk_172 (dk_at dksL_law_38 22 rfl rfl)
theorem dL_law_1014 : decode cL_law 1014 = .ok (.aload_n 1, 1) := dk_43 (dk_at dksL_law_38 23 rfl rfl)
theorem dL_law_1015 : decode cL_law 1015 = .ok (.aload_n 0, 1) := dk_42 (dk_at dksL_law_39 0 rfl rfl)
theorem dL_law_1016 : decode cL_law 1016 = .ok (.iload_n 3, 1) := dk_29 (dk_at dksL_law_39 1 rfl rfl)
theorem dL_law_1017 : decode cL_law 1017 = .ok (.iconst 1, 1) := dk_4 (dk_at dksL_law_39 2 rfl rfl)
theorem dL_law_1018 : decode cL_law 1018 = .ok (.iadd, 1) := dk_96 (dk_at dksL_law_39 3 rfl rfl)
theorem dL_law_1019 : decode cL_law 1019 = .ok (.iaload, 1) := dk_46 (dk_at dksL_law_39 4 rfl rfl)
theorem dL_law_1020 : decode cL_law 1020 = .ok (.aload_n 0, 1) := dk_42 (dk_at dksL_law_39 5 rfl rfl)
theorem dL_law_1021 : decode cL_law 1021 = .ok (.iload_n 3, 1) := dk_29 (dk_at dksL_law_39 6 rfl rfl)
theorem dL_law_1022 : decode cL_law 1022 = .ok (.iconst 2, 1) := dk_5 (dk_at dksL_law_39 7 rfl rfl)
theorem dL_law_1023 : decode cL_law 1023 = .ok (.iadd, 1) := dk_96 (dk_at dksL_law_39 8 rfl rfl)
theorem dL_law_1024 : decode cL_law 1024 = .ok (.iaload, 1) := dk_46 (dk_at dksL_law_39 9 rfl rfl)
theorem dL_law_1025 : decode cL_law 1025 = .ok (.aload_n 0, 1) := dk_42 (dk_at dksL_law_39 10 rfl rfl)
theorem dL_law_1026 : decode cL_law 1026 = .ok (.iload_n 3, 1) := dk_29 (dk_at dksL_law_39 11 rfl rfl)
theorem dL_law_1027 : decode cL_law 1027 = .ok (.iconst 3, 1) := dk_6 (dk_at dksL_law_39 12 rfl rfl)
theorem dL_law_1028 : decode cL_law 1028 = .ok (.iadd, 1) := dk_96 (dk_at dksL_law_39 13 rfl rfl)
theorem dL_law_1029 : decode cL_law 1029 = .ok (.iaload, 1) := dk_46 (dk_at dksL_law_39 14 rfl rfl)
theorem dL_law_1030 : decode cL_law 1030 = .ok (.aload_n 0, 1) := dk_42 (dk_at dksL_law_39 15 rfl rfl)
theorem dL_law_1031 : decode cL_law 1031 = .ok (.iload_n 3, 1) := dk_29 (dk_at dksL_law_39 16 rfl rfl)
theorem dL_law_1032 : decode cL_law 1032 = .ok (.iconst 4, 1) := dk_7 (dk_at dksL_law_39 17 rfl rfl)
theorem dL_law_1033 : decode cL_law 1033 = .ok (.iadd, 1) := dk_96 (dk_at dksL_law_39 18 rfl rfl)
theorem dL_law_1034 : decode cL_law 1034 = .ok (.iaload, 1) := dk_46 (dk_at dksL_law_39 19 rfl rfl)
theorem dL_law_1035 : decode cL_law 1035 = .ok (.aload_n 0, 1) := dk_42 (dk_at dksL_law_39 20 rfl rfl)
theorem dL_law_1036 : decode cL_law 1036 = .ok (.iload_n 3, 1) := dk_29 (dk_at dksL_law_39 21 rfl rfl)
theorem dL_law_1037 : decode cL_law 1037 = .ok (.iconst 5, 1) := dk_8 (dk_at dksL_law_39 22 rfl rfl)
theorem dL_law_1038 : decode cL_law 1038 = .ok (.iadd, 1) := dk_96 (dk_at dksL_law_39 23 rfl rfl)
theorem dL_law_1039 : decode cL_law 1039 = .ok (.iaload, 1) := dk_46 (dk_at dksL_law_40 0 rfl rfl)
theorem dL_law_1040 : decode cL_law 1040 = .ok (.invokevirtual 128, 3) := dk_182 0 128 (dk_at dksL_law_40 1 rfl rfl)
theorem dL_law_1043 : decode cL_law 1043 = .ok (.aload_n 2, 1) := dk_44 (dk_at dksL_law_40 4 rfl rfl)
theorem dL_law_1044 : decode cL_law 1044 = .ok (.aload_n 0, 1) := dk_42 (dk_at dksL_law_40 5 rfl rfl)
theorem dL_law_1045 : decode cL_law 1045 = .ok (.iload_n 3, 1) := dk_29 (dk_at dksL_law_40 6 rfl rfl)
theorem dL_law_1046 : decode cL_law 1046 = .ok (.iconst 1, 1) := dk_4 (dk_at dksL_law_40 7 rfl rfl)
theorem dL_law_1047 : decode cL_law 1047 = .ok (.iadd, 1) := dk_96 (dk_at dksL_law_40 8 rfl rfl)
theorem dL_law_1048 : decode cL_law 1048 = .ok (.iaload, 1) := dk_46 (dk_at dksL_law_40 9 rfl rfl)
theorem dL_law_1049 : decode cL_law 1049 = .ok (.aload_n 0, 1) := dk_42 (dk_at dksL_law_40 10 rfl rfl)
theorem dL_law_1050 : decode cL_law 1050 = .ok (.iload_n 3, 1) := dk_29 (dk_at dksL_law_40 11 rfl rfl)
theorem dL_law_1051 : decode cL_law 1051 = .ok (.iconst 2, 1) := dk_5 (dk_at dksL_law_40 12 rfl rfl)
theorem dL_law_1052 : decode cL_law 1052 = .ok (.iadd, 1) := dk_96 (dk_at dksL_law_40 13 rfl rfl)
theorem dL_law_1053 : decode cL_law 1053 = .ok (.iaload, 1) := dk_46 (dk_at dksL_law_40 14 rfl rfl)
theorem dL_law_1054 : decode cL_law 1054 = .ok (.aload_n 0, 1) := dk_42 (dk_at dksL_law_40 15 rfl rfl)
theorem dL_law_1055 : decode cL_law 1055 = .ok (.iload_n 3, 1) := dk_29 (dk_at dksL_law_40 16 rfl rfl)
theorem dL_law_1056 : decode cL_law 1056 = .ok (.iconst 3, 1) := dk_6 (dk_at dksL_law_40 17 rfl rfl)
theorem dL_law_1057 : decode cL_law 1057 = .ok (.iadd, 1) := dk_96 (dk_at dksL_law_40 18 rfl rfl)
theorem dL_law_1058 : decode cL_law 1058 = .ok (.iaload, 1) := dk_46 (dk_at dksL_law_40 19 rfl rfl)
theorem dL_law_1059 : decode cL_law 1059 = .ok (.aload_n 0, 1) := dk_42 (dk_at dksL_law_40 20 rfl rfl)
theorem dL_law_1060 : decode cL_law 1060 = .ok (.iload_n 3, 1) := dk_29 (dk_at dksL_law_40 21 rfl rfl)
theorem dL_law_1061 : decode cL_law 1061 = .ok (.iconst 4, 1) := dk_7 (dk_at dksL_law_40 22 rfl rfl)
theorem dL_law_1062 : decode cL_law 1062 = .ok (.iadd, 1) := dk_96 (dk_at dksL_law_40 23 rfl rfl)
theorem dL_law_1063 : decode cL_law 1063 = .ok (.iaload, 1) := dk_46 (dk_at dksL_law_41 0 rfl rfl)
theorem dL_law_1064 : decode cL_law 1064 = .ok (.aload_n 0, 1) := dk_42 (dk_at dksL_law_41 1 rfl rfl)
theorem dL_law_1065 : decode cL_law 1065 = .ok (.iload_n 3, 1) := dk_29 (dk_at dksL_law_41 2 rfl rfl)
theorem dL_law_1066 : decode cL_law 1066 = .ok (.iconst 5, 1) := dk_8 (dk_at dksL_law_41 3 rfl rfl)
theorem dL_law_1067 : decode cL_law 1067 = .ok (.iadd, 1) := dk_96 (dk_at dksL_law_41 4 rfl rfl)
theorem dL_law_1068 : decode cL_law 1068 = .ok (.iaload, 1) := dk_46 (dk_at dksL_law_41 5 rfl rfl)
theorem dL_law_1069 : decode cL_law 1069 = .ok (.invokevirtual 131, 3) := dk_182 0 131 (dk_at dksL_law_41 6 rfl rfl)
theorem dL_law_1072 : decode cL_law 1072 = .ok (.if_icmp .eq 5, 3) := dk_159 0 5 (dk_at dksL_law_41 9 rfl rfl)
theorem dL_law_1075 : decode cL_law 1075 = .ok (.iconst 0, 1) := dk_3 (dk_at dksL_law_41 12 rfl rfl)
theorem dL_law_1076 : decode cL_law 1076 = .ok (.ireturn, 1) := dk_172 (dk_at dksL_law_41 13 rfl rfl)
theorem dL_law_1077 : decode cL_law 1077 = .ok (.iinc 3 6, 3) := dk_132 3 6 (dk_at dksL_law_41 14 rfl rfl)
theorem dL_law_1080 : decode cL_law 1080 = .ok (.goto (-1062), 3) := dk_167 251 218 (dk_at dksL_law_41 17 rfl rfl)
theorem dL_law_1083 : decode cL_law 1083 = .ok (.iconst 1, 1) := dk_4 (dk_at dksL_law_41 20 rfl rfl)
theorem dL_law_1084 : decode cL_law 1084 = .ok (.ireturn, 1) := dk_172 (dk_at dksL_law_41 21 rfl rfl)
