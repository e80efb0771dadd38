/-! java/util/AbstractMap -/
set_option maxRecDepth 100000
def RJ0 : String := "java/util/AbstractMap"
abbrev cJ0_init : ByteArray := prog_47_method_1_code
def yJ0_init : MethodName := ⟨RJ0, "<init>", "()V"⟩
theorem dJ0_init_0 : decode cJ0_init 0 = .ok (.aload_n 0, 1) := by decide +kernel
theorem dJ0_init_1 : decode cJ0_init 1 = .ok (.invokespecial 1, 3) := by decide +kernel
theorem dJ0_init_4 : decode cJ0_init 4 = .ok (.return_, 1) := by decide +kernel
theorem q72 : (Jvm.Cond.initialized "java/util/AbstractMap") ∈ lw_all := lw_g (lw_at lw_m1 4 rfl) rfl
theorem q161 : (Jvm.Cond.instanceMethod ({ cls := "java/util/AbstractMap", name := "<init>", desc := "()V" } : Jvm.MethodName)) ∈ lw_all := lw_g (lw_at lw_m1 93 rfl) rfl
theorem q162 : (Jvm.Cond.code ({ cls := "java/util/AbstractMap", name := "<init>", desc := "()V" } : Jvm.MethodName) prog_47_method_1_code (1 : Nat) (Option.none : Option Jvm.ClassFile.FieldType)) ∈ lw_all := lw_g (lw_at lw_m1 94 rfl) rfl
theorem q163 : (Jvm.Cond.methodLink "java/util/AbstractMap" (1 : Nat) ({ cls := "java/lang/Object", name := "<init>", desc := "()V" } : Jvm.MethodName)) ∈ lw_all := lw_g (lw_at lw_m1 95 rfl) rfl
theorem q206 : (Jvm.Cond.soleField "java/util/AbstractMap" "keySet") ∈ lw_all := lw_g (lw_at lw_m1 138 rfl) rfl
theorem q208 : (Jvm.Cond.soleField "java/util/AbstractMap" "values") ∈ lw_all := lw_g (lw_at lw_m1 140 rfl) rfl
/-! java/util/HashMap -/
set_option maxRecDepth 100000
def RJ1 : String := "java/util/HashMap"
abbrev cJ1_init : ByteArray := prog_57_method_7_code
def yJ1_init : MethodName := ⟨RJ1, "<init>", "()V"⟩
def dkwJ1_init_0 : List UInt8 := [42, 183, 0, 43, 42, 18, 92, 181, 0, 81, 177]
abbrev dktJ1_init_0 : List UInt8 := dkwJ1_init_0 ++ []
theorem dksJ1_init_0 : cJ1_init.data.toList.drop 0 = dktJ1_init_0 := by decide +kernel
theorem dJ1_init_0 : decode cJ1_init 0 = .ok (.aload_n 0, 1) := dk_42 (dk_at dksJ1_init_0 0 rfl rfl)
theorem dJ1_init_1 : decode cJ1_init 1 = .ok (.invokespecial 43, 3) := dk_183 0 43 (dk_at dksJ1_init_0 1 rfl rfl)
theorem dJ1_init_4 : decode cJ1_init 4 = .ok (.aload_n 0, 1) := dk_42 (dk_at dksJ1_init_0 4 rfl rfl)
theorem dJ1_init_5 : decode cJ1_init 5 = .ok (.ldc 92, 2) := dk_18 92 (dk_at dksJ1_init_0 5 rfl rfl)
theorem dJ1_init_7 : decode cJ1_init 7 = .ok (.putfield 81, 3) := dk_181 0 81 (dk_at dksJ1_init_0 7 rfl rfl)
theorem dJ1_init_10 : decode cJ1_init 10 = .ok (.return_, 1) := dk_177 (dk_at dksJ1_init_0 10 rfl rfl)
abbrev cJ1_removeNode : ByteArray := prog_57_method_21_code
def yJ1_removeNode : MethodName := ⟨RJ1, "removeNode", "(ILjava/lang/Object;Ljava/lang/Object;ZZ)Ljava/util/HashMap$Node;"⟩
def dkwJ1_removeNode_12 : List UInt8 := [181, 0, 156, 42, 25, 10, 182, 0, 236, 25, 10, 176, 1, 176]
abbrev dktJ1_removeNode_12 : List UInt8 := dkwJ1_removeNode_12 ++ []
def dkwJ1_removeNode_11 : List UInt8 := [180, 0, 177, 181, 0, 177, 42, 89, 180, 0, 202, 4, 96, 181, 0, 202, 42, 89, 180, 0, 156, 4, 100]
abbrev dktJ1_removeNode_11 : List UInt8 := dkwJ1_removeNode_11 ++ dktJ1_removeNode_12
def dkwJ1_removeNode_10 : List UInt8 := [25, 10, 25, 7, 166, 0, 16, 25, 6, 21, 9, 25, 10, 180, 0, 177, 83, 167, 0, 13, 25, 7, 25, 10]
abbrev dktJ1_removeNode_10 : List UInt8 := dkwJ1_removeNode_10 ++ dktJ1_removeNode_11
def dkwJ1_removeNode_9 : List UInt8 := [25, 10, 193, 0, 180, 153, 0, 19, 25, 10, 192, 0, 180, 42, 25, 6, 21, 5, 182, 0, 232, 167, 0, 33]
abbrev dktJ1_removeNode_9 : List UInt8 := dkwJ1_removeNode_9 ++ dktJ1_removeNode_10
def dkwJ1_removeNode_8 : List UInt8 := [180, 0, 162, 89, 58, 13, 45, 165, 0, 16, 45, 198, 0, 95, 45, 25, 13, 182, 0, 173, 153, 0, 86]
abbrev dktJ1_removeNode_8 : List UInt8 := dkwJ1_removeNode_8 ++ dktJ1_removeNode_9
def dkwJ1_removeNode_7 : List UInt8 := [25, 11, 180, 0, 177, 89, 58, 11, 199, 255, 203, 25, 10, 198, 0, 116, 21, 4, 153, 0, 28, 25, 10]
abbrev dktJ1_removeNode_7 : List UInt8 := dkwJ1_removeNode_7 ++ dktJ1_removeNode_8
def dkwJ1_removeNode_6 : List UInt8 := [198, 0, 19, 44, 25, 12, 182, 0, 173, 153, 0, 10, 25, 11, 58, 10, 167, 0, 18, 25, 11, 58, 7]
abbrev dktJ1_removeNode_6 : List UInt8 := dkwJ1_removeNode_6 ++ dktJ1_removeNode_7
def dkwJ1_removeNode_5 : List UInt8 := [25, 11, 180, 0, 168, 27, 160, 0, 35, 25, 11, 180, 0, 170, 89, 58, 12, 44, 165, 0, 16, 44]
abbrev dktJ1_removeNode_5 : List UInt8 := dkwJ1_removeNode_5 ++ dktJ1_removeNode_6
def dkwJ1_removeNode_4 : List UInt8 := [25, 7, 193, 0, 180, 153, 0, 18, 25, 7, 192, 0, 180, 27, 44, 182, 0, 182, 58, 10, 167, 0, 59]
abbrev dktJ1_removeNode_4 : List UInt8 := dkwJ1_removeNode_4 ++ dktJ1_removeNode_5
def dkwJ1_removeNode_3 : List UInt8 := [182, 0, 173, 153, 0, 10, 25, 7, 58, 10, 167, 0, 93, 25, 7, 180, 0, 177, 89, 58, 11, 198, 0, 82]
abbrev dktJ1_removeNode_3 : List UInt8 := dkwJ1_removeNode_3 ++ dktJ1_removeNode_4
def dkwJ1_removeNode_2 : List UInt8 := [160, 0, 35, 25, 7, 180, 0, 170, 89, 58, 12, 44, 165, 0, 16, 44, 198, 0, 19, 44, 25, 12]
abbrev dktJ1_removeNode_2 : List UInt8 := dkwJ1_removeNode_2 ++ dktJ1_removeNode_3
def dkwJ1_removeNode_1 : List UInt8 := [100, 27, 126, 89, 54, 9, 50, 89, 58, 7, 198, 0, 255, 1, 58, 10, 25, 7, 180, 0, 168, 27]
abbrev dktJ1_removeNode_1 : List UInt8 := dkwJ1_removeNode_1 ++ dktJ1_removeNode_2
def dkwJ1_removeNode_0 : List UInt8 := [42, 180, 0, 105, 89, 58, 6, 198, 1, 26, 25, 6, 190, 89, 54, 8, 158, 1, 17, 25, 6, 21, 8, 4]
abbrev dktJ1_removeNode_0 : List UInt8 := dkwJ1_removeNode_0 ++ dktJ1_removeNode_1
theorem dksJ1_removeNode_0 : cJ1_removeNode.data.toList.drop 0 = dktJ1_removeNode_0 := by decide +kernel
theorem dksJ1_removeNode_1 : cJ1_removeNode.data.toList.drop 24 = dktJ1_removeNode_1 := dk_seg dksJ1_removeNode_0 24 rfl rfl
theorem dksJ1_removeNode_2 : cJ1_removeNode.data.toList.drop 46 = dktJ1_removeNode_2 := dk_seg dksJ1_removeNode_1 22 rfl rfl
theorem dksJ1_removeNode_3 : cJ1_removeNode.data.toList.drop 68 = dktJ1_removeNode_3 := dk_seg dksJ1_removeNode_2 22 rfl rfl
theorem dksJ1_removeNode_4 : cJ1_removeNode.data.toList.drop 92 = dktJ1_removeNode_4 := dk_seg dksJ1_removeNode_3 24 rfl rfl
theorem dksJ1_removeNode_5 : cJ1_removeNode.data.toList.drop 115 = dktJ1_removeNode_5 := dk_seg dksJ1_removeNode_4 23 rfl rfl
theorem dksJ1_removeNode_6 : cJ1_removeNode.data.toList.drop 137 = dktJ1_removeNode_6 := dk_seg dksJ1_removeNode_5 22 rfl rfl
theorem dksJ1_removeNode_7 : cJ1_removeNode.data.toList.drop 160 = dktJ1_removeNode_7 := dk_seg dksJ1_removeNode_6 23 rfl rfl
theorem dksJ1_removeNode_8 : cJ1_removeNode.data.toList.drop 183 = dktJ1_removeNode_8 := dk_seg dksJ1_removeNode_7 23 rfl rfl
theorem dksJ1_removeNode_9 : cJ1_removeNode.data.toList.drop 206 = dktJ1_removeNode_9 := dk_seg dksJ1_removeNode_8 23 rfl rfl
theorem dksJ1_removeNode_10 : cJ1_removeNode.data.toList.drop 230 = dktJ1_removeNode_10 := dk_seg dksJ1_removeNode_9 24 rfl rfl
theorem dksJ1_removeNode_11 : cJ1_removeNode.data.toList.drop 254 = dktJ1_removeNode_11 := dk_seg dksJ1_removeNode_10 24 rfl rfl
theorem dksJ1_removeNode_12 : cJ1_removeNode.data.toList.drop 277 = dktJ1_removeNode_12 := dk_seg dksJ1_removeNode_11 23 rfl rfl
theorem dJ1_removeNode_0 : decode cJ1_removeNode 0 = .ok (.aload_n 0, 1) := dk_42 (dk_at dksJ1_removeNode_0 0 rfl rfl)
theorem dJ1_removeNode_1 : decode cJ1_removeNode 1 = .ok (.getfield 105, 3) := dk_180 0 105 (dk_at dksJ1_removeNode_0 1 rfl rfl)
theorem dJ1_removeNode_4 : decode cJ1_removeNode 4 = .ok (.dup, 1) := dk_89 (dk_at dksJ1_removeNode_0 4 rfl rfl)
theorem dJ1_removeNode_5 : decode cJ1_removeNode 5 = .ok (.astore 6, 2) := dk_58 6 (dk_at dksJ1_removeNode_0 5 rfl rfl)
theorem dJ1_removeNode_7 : decode cJ1_removeNode 7 = .ok (.ifnull 282, 3) := dk_198 1 26 (dk_at dksJ1_removeNode_0 7 rfl rfl)
theorem dJ1_removeNode_10 : decode cJ1_removeNode 10 = .ok (.aload 6, 2) := dk_25 6 (dk_at dksJ1_removeNode_0 10 rfl rfl)
theorem dJ1_removeNode_12 : decode cJ1_removeNode 12 = .ok (.arraylength, 1) := dk_190 (dk_at dksJ1_removeNode_0 12 rfl rfl)
theorem dJ1_removeNode_13 : decode cJ1_removeNode 13 = .ok (.dup, 1) := dk_89 (dk_at dksJ1_removeNode_0 13 rfl rfl)
theorem dJ1_removeNode_14 : decode cJ1_removeNode 14 = .ok (.istore 8, 2) := dk_54 8 (dk_at dksJ1_removeNode_0 14 rfl rfl)
theorem dJ1_removeNode_16 : decode cJ1_removeNode 16 = .ok (.ifCond .le 273, 3) := dk_158 1 17 (dk_at dksJ1_removeNode_0 16 rfl rfl)
theorem dJ1_removeNode_19 : decode cJ1_removeNode 19 = .ok (.aload 6, 2) := dk_25 6 (dk_at dksJ1_removeNode_0 19 rfl rfl)
theorem dJ1_removeNode_21 : decode cJ1_removeNode 21 = .ok (.iload 8, 2) := dk_21 8 (dk_at dksJ1_removeNode_0 21 rfl rfl)
theorem dJ1_removeNode_23 : decode cJ1_removeNode 23 = .ok (.iconst 1, 1) := dk_4 (dk_at dksJ1_removeNode_0 23 rfl rfl)
theorem dJ1_removeNode_24 : decode cJ1_removeNode 24 = .ok (.isub, 1) := dk_100 (dk_at dksJ1_removeNode_1 0 rfl rfl)
theorem dJ1_removeNode_25 : decode cJ1_removeNode 25 = .ok (.iload_n 1, 1) := dk_27 (dk_at dksJ1_removeNode_1 1 rfl rfl)
theorem dJ1_removeNode_26 : decode cJ1_removeNode 26 = .ok (.iand, 1) := dk_126 (dk_at dksJ1_removeNode_1 2 rfl rfl)
theorem dJ1_removeNode_27 : decode cJ1_removeNode 27 = .ok (.dup, 1) := dk_89 (dk_at dksJ1_removeNode_1 3 rfl rfl)
theorem dJ1_removeNode_28 : decode cJ1_removeNode 28 = .ok (.istore 9, 2) := dk_54 9 (dk_at dksJ1_removeNode_1 4 rfl rfl)
theorem dJ1_removeNode_30 : decode cJ1_removeNode 30 = .ok (.aaload, 1) := dk_50 (dk_at dksJ1_removeNode_1 6 rfl rfl)
theorem dJ1_removeNode_31 : decode cJ1_removeNode 31 = .ok (.dup, 1) := dk_89 (dk_at dksJ1_removeNode_1 7 rfl rfl)
theorem dJ1_removeNode_32 : decode cJ1_removeNode 32 = .ok (.astore 7, 2) := dk_58 7 (dk_at dksJ1_removeNode_1 8 rfl rfl)
theorem dJ1_removeNode_34 : decode cJ1_removeNode 34 = .ok (.ifnull 255, 3) := dk_198 0 255 (dk_at dksJ1_removeNode_1 10 rfl rfl)
theorem dJ1_removeNode_37 : decode cJ1_removeNode 37 = .ok (.aconst_null, 1) := dk_1 (dk_at dksJ1_removeNode_1 13 rfl rfl)
theorem dJ1_removeNode_38 : decode cJ1_removeNode 38 = .ok (.astore 10, 2) := dk_58 10 (dk_at dksJ1_removeNode_1 14 rfl rfl)
theorem dJ1_removeNode_40 : decode cJ1_removeNode 40 = .ok (.aload 7, 2) := dk_25 7 (dk_at dksJ1_removeNode_1 16 rfl rfl)
theorem dJ1_removeNode_42 : decode cJ1_removeNode 42 = .ok (.getfield 168, 3) := dk_180 0 168 (dk_at dksJ1_removeNode_1 18 rfl rfl)
theorem dJ1_removeNode_45 : decode cJ1_removeNode 45 = .ok (.iload_n 1, 1) := dk_27 (dk_at dksJ1_removeNode_1 21 rfl rfl)
theorem dJ1_removeNode_46 : decode cJ1_removeNode 46 = .ok (.if_icmp .ne 35, 3) := dk_160 0 35 (dk_at dksJ1_removeNode_2 0 rfl rfl)
theorem dJ1_removeNode_49 : decode cJ1_removeNode 49 = .ok (.aload 7, 2) := dk_25 7 (dk_at dksJ1_removeNode_2 3 rfl rfl)
theorem dJ1_removeNode_51 : decode cJ1_removeNode 51 = .ok (.getfield 170, 3) := dk_180 0 170 (dk_at dksJ1_removeNode_2 5 rfl rfl)
theorem dJ1_removeNode_54 : decode cJ1_removeNode 54 = .ok (.dup, 1) := dk_89 (dk_at dksJ1_removeNode_2 8 rfl rfl)
theorem dJ1_removeNode_55 : decode cJ1_removeNode 55 = .ok (.astore 12, 2) := dk_58 12 (dk_at dksJ1_removeNode_2 9 rfl rfl)
theorem dJ1_removeNode_57 : decode cJ1_removeNode 57 = .ok (.aload_n 2, 1) := dk_44 (dk_at dksJ1_removeNode_2 11 rfl rfl)
theorem dJ1_removeNode_58 : decode cJ1_removeNode 58 = .ok (.if_acmp .eq 16, 3) := dk_165 0 16 (dk_at dksJ1_removeNode_2 12 rfl rfl)
theorem dJ1_removeNode_61 : decode cJ1_removeNode 61 = .ok (.aload_n 2, 1) := dk_44 (dk_at dksJ1_removeNode_2 15 rfl rfl)
theorem dJ1_removeNode_62 : decode cJ1_removeNode 62 = .ok (.ifnull 19, 3) := dk_198 0 19 (dk_at dksJ1_removeNode_2 16 rfl rfl)
theorem dJ1_removeNode_65 : decode cJ1_removeNode 65 = .ok (.aload_n 2, 1) := dk_44 (dk_at dksJ1_removeNode_2 19 rfl rfl)
theorem dJ1_removeNode_66 : decode cJ1_removeNode 66 = .ok (.aload 12, 2) := dk_25 12 (dk_at dksJ1_removeNode_2 20 rfl rfl)
theorem dJ1_removeNode_68 : decode cJ1_removeNode 68 = .ok (.invokevirtual 173, 3) := dk_182 0 173 (dk_at dksJ1_removeNode_3 0 rfl rfl)
theorem dJ1_removeNode_71 : decode cJ1_removeNode 71 = .ok (.ifCond .eq 10, 3) := dk_153 0 10 (dk_at dksJ1_removeNode_3 3 rfl rfl)
theorem dJ1_removeNode_74 : decode cJ1_removeNode 74 = .ok (.aload 7, 2) := dk_25 7 (dk_at dksJ1_removeNode_3 6 rfl rfl)
theorem dJ1_removeNode_76 : decode cJ1_removeNode 76 = .ok (.astore 10, 2) := dk_58 10 (dk_at dksJ1_removeNode_3 8 rfl rfl)
theorem dJ1_removeNode_78 : decode cJ1_removeNode 78 = .ok (.goto 93, 3) := dk_167 0 93 (dk_at dksJ1_removeNode_3 10 rfl rfl)
theorem dJ1_removeNode_81 : decode cJ1_removeNode 81 = .ok (.aload 7, 2) := dk_25 7 (dk_at dksJ1_removeNode_3 13 rfl rfl)
theorem dJ1_removeNode_83 : decode cJ1_removeNode 83 = .ok (.getfield 177, 3) := dk_180 0 177 (dk_at dksJ1_removeNode_3 15 rfl rfl)
theorem dJ1_removeNode_86 : decode cJ1_removeNode 86 = .ok (.dup, 1) := dk_89 (dk_at dksJ1_removeNode_3 18 rfl rfl)
theorem dJ1_removeNode_87 : decode cJ1_removeNode 87 = .ok (.astore 11, 2) := dk_58 11 (dk_at dksJ1_removeNode_3 19 rfl rfl)
theorem dJ1_removeNode_89 : decode cJ1_removeNode 89 = .ok (.ifnull 82, 3) := dk_198 0 82 (dk_at dksJ1_removeNode_3 21 rfl rfl)
theorem dJ1_removeNode_92 : decode cJ1_removeNode 92 = .ok (.aload 7, 2) := dk_25 7 (dk_at dksJ1_removeNode_4 0 rfl rfl)
theorem dJ1_removeNode_94 : decode cJ1_removeNode 94 = .ok (.instanceof 180, 3) := dk_193 0 180 (dk_at dksJ1_removeNode_4 2 rfl rfl)
theorem dJ1_removeNode_97 : decode cJ1_removeNode 97 = .ok (.ifCond .eq 18, 3) := dk_153 0 18 (dk_at dksJ1_removeNode_4 5 rfl rfl)
theorem dJ1_removeNode_100 : decode cJ1_removeNode 100 = .ok (.aload 7, 2) := dk_25 7 (dk_at dksJ1_removeNode_4 8 rfl rfl)
theorem dJ1_removeNode_102 : decode cJ1_removeNode 102 = .ok (.checkcast 180, 3) := dk_192 0 180 (dk_at dksJ1_removeNode_4 10 rfl rfl)
theorem dJ1_removeNode_105 : decode cJ1_removeNode 105 = .ok (.iload_n 1, 1) := dk_27 (dk_at dksJ1_removeNode_4 13 rfl rfl)
theorem dJ1_removeNode_106 : decode cJ1_removeNode 106 = .ok (.aload_n 2, 1) := dk_44 (dk_at dksJ1_removeNode_4 14 rfl rfl)
theorem dJ1_removeNode_107 : decode cJ1_removeNode 107 = .ok (.invokevirtual 182, 3) := dk_182 0 182 (dk_at dksJ1_removeNode_4 15 rfl rfl)
theorem dJ1_removeNode_110 : decode cJ1_removeNode 110 = .ok (.astore 10, 2) := dk_58 10 (dk_at dksJ1_removeNode_4 18 rfl rfl)
theorem dJ1_removeNode_112 : decode cJ1_removeNode 112 = .ok (.goto 59, 3) := dk_167 0 59 (dk_at dksJ1_removeNode_4 20 rfl rfl)
theorem dJ1_removeNode_115 : decode cJ1_removeNode 115 = .ok (.aload 11, 2) := dk_25 11 (dk_at dksJ1_removeNode_5 0 rfl rfl)
theorem dJ1_removeNode_117 : decode cJ1_removeNode 117 = .ok (.getfield 168, 3) := dk_180 0 168 (dk_at dksJ1_removeNode_5 2 rfl rfl)
theorem dJ1_removeNode_120 : decode cJ1_removeNode 120 = .ok (.iload_n 1, 1) := dk_27 (dk_at dksJ1_removeNode_5 5 rfl rfl)
theorem dJ1_removeNode_121 : decode cJ1_removeNode 121 = .ok (.if_icmp .ne 35, 3) := dk_160 0 35 (dk_at dksJ1_removeNode_5 6 rfl rfl)
theorem dJ1_removeNode_124 : decode cJ1_removeNode 124 = .ok (.aload 11, 2) := dk_25 11 (dk_at dksJ1_removeNode_5 9 rfl rfl)
theorem dJ1_removeNode_126 : decode cJ1_removeNode 126 = .ok (.getfield 170, 3) := dk_180 0 170 (dk_at dksJ1_removeNode_5 11 rfl rfl)
theorem dJ1_removeNode_129 : decode cJ1_removeNode 129 = .ok (.dup, 1) := dk_89 (dk_at dksJ1_removeNode_5 14 rfl rfl)
theorem dJ1_removeNode_130 : decode cJ1_removeNode 130 = .ok (.astore 12, 2) := dk_58 12 (dk_at dksJ1_removeNode_5 15 rfl rfl)
theorem dJ1_removeNode_132 : decode cJ1_removeNode 132 = .ok (.aload_n 2, 1) := dk_44 (dk_at dksJ1_removeNode_5 17 rfl rfl)
theorem dJ1_removeNode_133 : decode cJ1_removeNode 133 = .ok (.if_acmp .eq 16, 3) := dk_165 0 16 (dk_at dksJ1_removeNode_5 18 rfl rfl)
theorem dJ1_removeNode_136 : decode cJ1_removeNode 136 = .ok (.aload_n 2, 1) := dk_44 (dk_at dksJ1_removeNode_5 21 rfl rfl)
theorem dJ1_removeNode_137 : decode cJ1_removeNode 137 = .ok (.ifnull 19, 3) := dk_198 0 19 (dk_at dksJ1_removeNode_6 0 rfl rfl)
theorem dJ1_removeNode_140 : decode cJ1_removeNode 140 = .ok (.aload_n 2, 1) := dk_44 (dk_at dksJ1_removeNode_6 3 rfl rfl)
theorem dJ1_removeNode_141 : decode cJ1_removeNode 141 = .ok (.aload 12, 2) := dk_25 12 (dk_at dksJ1_removeNode_6 4 rfl rfl)
theorem dJ1_removeNode_143 : decode cJ1_removeNode 143 = .ok (.invokevirtual 173, 3) := dk_182 0 173 (dk_at dksJ1_removeNode_6 6 rfl rfl)
theorem dJ1_removeNode_146 : decode cJ1_removeNode 146 = .ok (.ifCond .eq 10, 3) := dk_153 0 10 (dk_at dksJ1_removeNode_6 9 rfl rfl)
theorem dJ1_removeNode_149 : decode cJ1_removeNode 149 = .ok (.aload 11, 2) := dk_25 11 (dk_at dksJ1_removeNode_6 12 rfl rfl)
theorem dJ1_removeNode_151 : decode cJ1_removeNode 151 = .ok (.astore 10, 2) := dk_58 10 (dk_at dksJ1_removeNode_6 14 rfl rfl)
theorem dJ1_removeNode_153 : decode cJ1_removeNode 153 = .ok (.goto 18, 3) := dk_167 0 18 (dk_at dksJ1_removeNode_6 16 rfl rfl)
theorem dJ1_removeNode_156 : decode cJ1_removeNode 156 = .ok (.aload 11, 2) := dk_25 11 (dk_at dksJ1_removeNode_6 19 rfl rfl)
theorem dJ1_removeNode_158 : decode cJ1_removeNode 158 = .ok (.astore 7, 2) := dk_58 7 (dk_at dksJ1_removeNode_6 21 rfl rfl)
theorem dJ1_removeNode_160 : decode cJ1_removeNode 160 = .ok (.aload 11, 2) := dk_25 11 (dk_at dksJ1_removeNode_7 0 rfl rfl)
theorem dJ1_removeNode_162 : decode cJ1_removeNode 162 = .ok (.getfield 177, 3) := dk_180 0 177 (dk_at dksJ1_removeNode_7 2 rfl rfl)
theorem dJ1_removeNode_165 : decode cJ1_removeNode 165 = .ok (.dup, 1) := dk_89 (dk_at dksJ1_removeNode_7 5 rfl rfl)
theorem dJ1_removeNode_166 : decode cJ1_removeNode 166 = .ok (.astore 11, 2) := dk_58 11 (dk_at dksJ1_removeNode_7 6 rfl rfl)
theorem dJ1_removeNode_168 : decode cJ1_removeNode 168 = .ok (.ifnonnull (-53), 3) := dk_199 255 203 (dk_at dksJ1_removeNode_7 8 rfl rfl)
theorem dJ1_removeNode_171 : decode cJ1_removeNode 171 = .ok (.aload 10, 2) := dk_25 10 (dk_at dksJ1_removeNode_7 11 rfl rfl)
theorem dJ1_removeNode_173 : decode cJ1_removeNode 173 = .ok (.ifnull 116, 3) := dk_198 0 116 (dk_at dksJ1_removeNode_7 13 rfl rfl)
theorem dJ1_removeNode_176 : decode cJ1_removeNode 176 = .ok (.iload 4, 2) := dk_21 4 (dk_at dksJ1_removeNode_7 16 rfl rfl)
theorem dJ1_removeNode_178 : decode cJ1_removeNode 178 = .ok (.ifCond .eq 28, 3) := dk_153 0 28 (dk_at dksJ1_removeNode_7 18 rfl rfl)
theorem dJ1_removeNode_181 : decode cJ1_removeNode 181 = .ok (.aload 10, 2) := dk_25 10 (dk_at dksJ1_removeNode_7 21 rfl rfl)
theorem dJ1_removeNode_183 : decode cJ1_removeNode 183 = .ok (.getfield 162, 3) := dk_180 0 162 (dk_at dksJ1_removeNode_8 0 rfl rfl)
theorem dJ1_removeNode_186 : decode cJ1_removeNode 186 = .ok (.dup, 1) := dk_89 (dk_at dksJ1_removeNode_8 3 rfl rfl)
theorem dJ1_removeNode_187 : decode cJ1_removeNode 187 = .ok (.astore 13, 2) := dk_58 13 (dk_at dksJ1_removeNode_8 4 rfl rfl)
theorem dJ1_removeNode_189 : decode cJ1_removeNode 189 = .ok (.aload_n 3, 1) := dk_45 (dk_at dksJ1_removeNode_8 6 rfl rfl)
theorem dJ1_removeNode_190 : decode cJ1_removeNode 190 = .ok (.if_acmp .eq 16, 3) := dk_165 0 16 (dk_at dksJ1_removeNode_8 7 rfl rfl)
theorem dJ1_removeNode_193 : decode cJ1_removeNode 193 = .ok (.aload_n 3, 1) := dk_45 (dk_at dksJ1_removeNode_8 10 rfl rfl)
theorem dJ1_removeNode_194 : decode cJ1_removeNode 194 = .ok (.ifnull 95, 3) := dk_198 0 95 (dk_at dksJ1_removeNode_8 11 rfl rfl)
theorem dJ1_removeNode_197 : decode cJ1_removeNode 197 = .ok (.aload_n 3, 1) := dk_45 (dk_at dksJ1_removeNode_8 14 rfl rfl)
theorem dJ1_removeNode_198 : decode cJ1_removeNode 198 = .ok (.aload 13, 2) := dk_25 13 (dk_at dksJ1_removeNode_8 15 rfl rfl)
theorem dJ1_removeNode_200 : decode cJ1_removeNode 200 = .ok (.invokevirtual 173, 3) := dk_182 0 173 (dk_at dksJ1_removeNode_8 17 rfl rfl)
theorem dJ1_removeNode_203 : decode cJ1_removeNode 203 = .ok (.ifCond .eq 86, 3) := dk_153 0 86 (dk_at dksJ1_removeNode_8 20 rfl rfl)
theorem dJ1_removeNode_206 : decode cJ1_removeNode 206 = .ok (.aload 10, 2) := dk_25 10 (dk_at dksJ1_removeNode_9 0 rfl rfl)
theorem dJ1_removeNode_208 : decode cJ1_removeNode 208 = .ok (.instanceof 180, 3) := dk_193 0 180 (dk_at dksJ1_removeNode_9 2 rfl rfl)
theorem dJ1_removeNode_211 : decode cJ1_removeNode 211 = .ok (.ifCond .eq 19, 3) := dk_153 0 19 (dk_at dksJ1_removeNode_9 5 rfl rfl)
theorem dJ1_removeNode_214 : decode cJ1_removeNode 214 = .ok (.aload 10, 2) := dk_25 10 (dk_at dksJ1_removeNode_9 8 rfl rfl)
theorem dJ1_removeNode_216 : decode cJ1_removeNode 216 = .ok (.checkcast 180, 3) := dk_192 0 180 (dk_at dksJ1_removeNode_9 10 rfl rfl)
theorem dJ1_removeNode_219 : decode cJ1_removeNode 219 = .ok (.aload_n 0, 1) := dk_42 (dk_at dksJ1_removeNode_9 13 rfl rfl)
theorem dJ1_removeNode_220 : decode cJ1_removeNode 220 = .ok (.aload 6, 2) := dk_25 6 (dk_at dksJ1_removeNode_9 14 rfl rfl)
theorem dJ1_removeNode_222 : decode cJ1_removeNode 222 = .ok (.iload 5, 2) := dk_21 5 (dk_at dksJ1_removeNode_9 16 rfl rfl)
theorem dJ1_removeNode_224 : decode cJ1_removeNode 224 = .ok (.invokevirtual 232, 3) := dk_182 0 232 (dk_at dksJ1_removeNode_9 18 rfl rfl)
theorem dJ1_removeNode_227 : decode cJ1_removeNode 227 = .ok (.goto 33, 3) := dk_167 0 33 (dk_at dksJ1_removeNode_9 21 rfl rfl)
theorem dJ1_removeNode_230 : decode cJ1_removeNode 230 = .ok (.aload 10, 2) := dk_25 10 (dk_at dksJ1_removeNode_10 0 rfl rfl)
theorem dJ1_removeNode_232 : decode cJ1_removeNode 232 = .ok (.aload 7, 2) := dk_25 7 (dk_at dksJ1_removeNode_10 2 rfl rfl)
theorem dJ1_removeNode_234 : decode cJ1_removeNode 234 = .ok (.if_acmp .ne 16, 3) := dk_166 0 16 (dk_at dksJ1_removeNode_10 4 rfl rfl)
theorem dJ1_removeNode_237 : decode cJ1_removeNode 237 = .ok (.aload 6, 2) := dk_25 6 (dk_at dksJ1_removeNode_10 7 rfl rfl)
theorem dJ1_removeNode_239 : decode cJ1_removeNode 239 = .ok (.iload 9, 2) := dk_21 9 (dk_at dksJ1_removeNode_10 9 rfl rfl)
theorem dJ1_removeNode_241 : decode cJ1_removeNode 241 = .ok (.aload 10, 2) := dk_25 10 (dk_at dksJ1_removeNode_10 11 rfl rfl)
theorem dJ1_removeNode_243 : decode cJ1_removeNode 243 = .ok (.getfield 177, 3) := dk_180 0 177 (dk_at dksJ1_removeNode_10 13 rfl rfl)
theorem dJ1_removeNode_246 : decode cJ1_removeNode 246 = .ok (.aastore, 1) := dk_83 (dk_at dksJ1_removeNode_10 16 rfl rfl)
theorem dJ1_removeNode_247 : decode cJ1_removeNode 247 = .ok (.goto 13, 3) := dk_167 0 13 (dk_at dksJ1_removeNode_10 17 rfl rfl)
theorem dJ1_removeNode_250 : decode cJ1_removeNode 250 = .ok (.aload 7, 2) := dk_25 7 (dk_at dksJ1_removeNode_10 20 rfl rfl)
theorem dJ1_removeNode_252 : decode cJ1_removeNode 252 = .ok (.aload 10, 2) := dk_25 10 (dk_at dksJ1_removeNode_10 22 rfl rfl)
theorem dJ1_removeNode_254 : decode cJ1_removeNode 254 = .ok (.getfield 177, 3) := dk_180 0 177 (dk_at dksJ1_removeNode_11 0 rfl rfl)
theorem dJ1_removeNode_257 : decode cJ1_removeNode 257 = .ok (.putfield 177, 3) := dk_181 0 177 (dk_at dksJ1_removeNode_11 3 rfl rfl)
theorem dJ1_removeNode_260 : decode cJ1_removeNode 260 = .ok (.aload_n 0, 1) := dk_42 (dk_at dksJ1_removeNode_11 6 rfl rfl)
theorem dJ1_removeNode_261 : decode cJ1_removeNode 261 = .ok (.dup, 1) := dk_89 (dk_at dksJ1_removeNode_11 7 rfl rfl)
theorem dJ1_removeNode_262 : decode cJ1_removeNode 262 = .ok (.getfield 202, 3) := dk_180 0 202 (dk_at dksJ1_removeNode_11 8 rfl rfl)
theorem dJ1_removeNode_265 : decode cJ1_removeNode 265 = .ok (.iconst 1, 1) := dk_4 (dk_at dksJ1_removeNode_11 11 rfl rfl)
theorem dJ1_removeNode_266 : decode cJ1_removeNode 266 = .ok (.iadd, 1) := dk_96 (dk_at dksJ1_removeNode_11 12 rfl rfl)
theorem dJ1_removeNode_267 : decode cJ1_removeNode 267 = .ok (.putfield 202, 3) := dk_181 0 202 (dk_at dksJ1_removeNode_11 13 rfl rfl)
theorem dJ1_removeNode_270 : decode cJ1_removeNode 270 = .ok (.aload_n 0, 1) := dk_42 (dk_at dksJ1_removeNode_11 16 rfl rfl)
theorem dJ1_removeNode_271 : decode cJ1_removeNode 271 = .ok (.dup, 1) := dk_89 (dk_at dksJ1_removeNode_11 17 rfl rfl)
theorem dJ1_removeNode_272 : decode cJ1_removeNode 272 = .ok (.getfield 156, 3) := dk_180 0 156 (dk_at dksJ1_removeNode_11 18 rfl rfl)
theorem dJ1_removeNode_275 : decode cJ1_removeNode 275 = .ok (.iconst 1, 1) := dk_4 (dk_at dksJ1_removeNode_11 21 rfl rfl)
theorem dJ1_removeNode_276 : decode cJ1_removeNode 276 = .ok (.isub, 1) := dk_100 (dk_at dksJ1_removeNode_11 22 rfl rfl)
theorem dJ1_removeNode_277 : decode cJ1_removeNode 277 = .ok (.putfield 156, 3) := dk_181 0 156 (dk_at dksJ1_removeNode_12 0 rfl rfl)
theorem dJ1_removeNode_280 : decode cJ1_removeNode 280 = .ok (.aload_n 0, 1) := dk_42 (dk_at dksJ1_removeNode_12 3 rfl rfl)
theorem dJ1_removeNode_281 : decode cJ1_removeNode 281 = .ok (.aload 10, 2) := dk_25 10 (dk_at dksJ1_removeNode_12 4 rfl rfl)
theorem dJ1_removeNode_283 : decode cJ1_removeNode 283 = .ok (.invokevirtual 236, 3) := dk_182 0 236 (dk_at dksJ1_removeNode_12 6 rfl rfl)
theorem dJ1_removeNode_286 : decode cJ1_removeNode 286 = .ok (.aload 10, 2) := dk_25 10 (dk_at dksJ1_removeNode_12 9 rfl rfl)
theorem dJ1_removeNode_288 : decode cJ1_removeNode 288 = .ok (.areturn, 1) := dk_176 (dk_at dksJ1_removeNode_12 11 rfl rfl)
theorem dJ1_removeNode_289 : decode cJ1_removeNode 289 = .ok (.aconst_null, 1) := dk_1 (dk_at dksJ1_removeNode_12 12 rfl rfl)
theorem dJ1_removeNode_290 : decode cJ1_removeNode 290 = .ok (.areturn, 1) := dk_176 (dk_at dksJ1_removeNode_12 13 rfl rfl)
abbrev cJ1_put : ByteArray := prog_57_method_15_code
def yJ1_put : MethodName := ⟨RJ1, "put", "(Ljava/lang/Object;Ljava/lang/Object;)Ljava/lang/Object;"⟩
def dkwJ1_put_0 : List UInt8 := [42, 43, 184, 0, 149, 43, 44, 3, 4, 182, 0, 152, 176]
abbrev dktJ1_put_0 : List UInt8 := dkwJ1_put_0 ++ []
theorem dksJ1_put_0 : cJ1_put.data.toList.drop 0 = dktJ1_put_0 := by decide +kernel
theorem dJ1_put_0 : decode cJ1_put 0 = .ok (.aload_n 0, 1) := dk_42 (dk_at dksJ1_put_0 0 rfl rfl)
theorem dJ1_put_1 : decode cJ1_put 1 = .ok (.aload_n 1, 1) := dk_43 (dk_at dksJ1_put_0 1 rfl rfl)
theorem dJ1_put_2 : decode cJ1_put 2 = .ok (.invokestatic 149, 3) := dk_184 0 149 (dk_at dksJ1_put_0 2 rfl rfl)
theorem dJ1_put_5 : decode cJ1_put 5 = .ok (.aload_n 1, 1) := dk_43 (dk_at dksJ1_put_0 5 rfl rfl)
theorem dJ1_put_6 : decode cJ1_put 6 = .ok (.aload_n 2, 1) := dk_44 (dk_at dksJ1_put_0 6 rfl rfl)
theorem dJ1_put_7 : decode cJ1_put 7 = .ok (.iconst 0, 1) := dk_3 (dk_at dksJ1_put_0 7 rfl rfl)
theorem dJ1_put_8 : decode cJ1_put 8 = .ok (.iconst 1, 1) := dk_4 (dk_at dksJ1_put_0 8 rfl rfl)
theorem dJ1_put_9 : decode cJ1_put 9 = .ok (.invokevirtual 152, 3) := dk_182 0 152 (dk_at dksJ1_put_0 9 rfl rfl)
theorem dJ1_put_12 : decode cJ1_put 12 = .ok (.areturn, 1) := dk_176 (dk_at dksJ1_put_0 12 rfl rfl)
abbrev cJ1_hash : ByteArray := prog_57_method_1_code
def yJ1_hash : MethodName := ⟨RJ1, "hash", "(Ljava/lang/Object;)I"⟩
def dkwJ1_hash_0 : List UInt8 := [42, 199, 0, 7, 3, 167, 0, 14, 42, 182, 0, 1, 89, 60, 27, 16, 16, 124, 130, 172]
abbrev dktJ1_hash_0 : List UInt8 := dkwJ1_hash_0 ++ []
theorem dksJ1_hash_0 : cJ1_hash.data.toList.drop 0 = dktJ1_hash_0 := by decide +kernel
theorem dJ1_hash_0 : decode cJ1_hash 0 = .ok (.aload_n 0, 1) := dk_42 (dk_at dksJ1_hash_0 0 rfl rfl)
theorem dJ1_hash_1 : decode cJ1_hash 1 = .ok (.ifnonnull 7, 3) := dk_199 0 7 (dk_at dksJ1_hash_0 1 rfl rfl)
theorem dJ1_hash_4 : decode cJ1_hash 4 = .ok (.iconst 0, 1) := dk_3 (dk_at dksJ1_hash_0 4 rfl rfl)
theorem dJ1_hash_5 : decode cJ1_hash 5 = .ok (.goto 14, 3) := dk_167 0 14 (dk_at dksJ1_hash_0 5 rfl rfl)
theorem dJ1_hash_8 : decode cJ1_hash 8 = .ok (.aload_n 0, 1) := dk_42 (dk_at dksJ1_hash_0 8 rfl rfl)
theorem dJ1_hash_9 : decode cJ1_hash 9 = .ok (.invokevirtual 1, 3) := dk_182 0 1 (dk_at dksJ1_hash_0 9 rfl rfl)
theorem dJ1_hash_12 : decode cJ1_hash 12 = .ok (.dup, 1) := dk_89 (dk_at dksJ1_hash_0 12 rfl rfl)
theorem dJ1_hash_13 : decode cJ1_hash 13 = .ok (.istore_n 1, 1) := dk_60 (dk_at dksJ1_hash_0 13 rfl rfl)
theorem dJ1_hash_14 : decode cJ1_hash 14 = .ok (.iload_n 1, 1) := dk_27 (dk_at dksJ1_hash_0 14 rfl rfl)
theorem dJ1_hash_15 : decode cJ1_hash 15 = .ok (.bipush 16, 2) := dk_16 16 (dk_at dksJ1_hash_0 15 rfl rfl)
theorem dJ1_hash_17 : decode cJ1_hash 17 = .ok (.iushr, 1) := dk_124 (dk_at dksJ1_hash_0 17 rfl rfl)
theorem dJ1_hash_18 : decode cJ1_hash 18 = .ok (.ixor, 1) := dk_130 (dk_at dksJ1_hash_0 18 rfl rfl)
theorem dJ1_hash_19 : decode cJ1_hash 19 = .ok (.ireturn, 1) := dk_172 (dk_at dksJ1_hash_0 19 rfl rfl)
abbrev cJ1_putVal : ByteArray := prog_57_method_16_code
def yJ1_putVal : MethodName := ⟨RJ1, "putVal", "(ILjava/lang/Object;Ljava/lang/Object;ZZ)Ljava/lang/Object;"⟩
def dkwJ1_putVal_12 : List UInt8 := [181, 0, 156, 42, 180, 0, 88, 164, 0, 8, 42, 182, 0, 117, 87, 42, 21, 5, 182, 0, 205, 1, 176]
abbrev dktJ1_putVal_12 : List UInt8 := dkwJ1_putVal_12 ++ []
def dkwJ1_putVal_11 : List UInt8 := [182, 0, 198, 25, 12, 176, 42, 89, 180, 0, 202, 4, 96, 181, 0, 202, 42, 89, 180, 0, 156, 4, 96, 90]
abbrev dktJ1_putVal_11 : List UInt8 := dkwJ1_putVal_11 ++ dktJ1_putVal_12
def dkwJ1_putVal_10 : List UInt8 := [180, 0, 162, 58, 12, 21, 4, 153, 0, 8, 25, 12, 199, 0, 9, 25, 10, 45, 181, 0, 162, 42, 25, 10]
abbrev dktJ1_putVal_10 : List UInt8 := dkwJ1_putVal_10 ++ dktJ1_putVal_11
def dkwJ1_putVal_9 : List UInt8 := [153, 0, 6, 167, 0, 13, 25, 10, 58, 7, 132, 12, 1, 167, 255, 171, 25, 10, 198, 0, 35, 25, 10]
abbrev dktJ1_putVal_9 : List UInt8 := dkwJ1_putVal_9 ++ dktJ1_putVal_10
def dkwJ1_putVal_8 : List UInt8 := [25, 10, 180, 0, 170, 89, 58, 11, 44, 165, 0, 29, 44, 198, 0, 15, 44, 25, 11, 182, 0, 173]
abbrev dktJ1_putVal_8 : List UInt8 := dkwJ1_putVal_8 ++ dktJ1_putVal_9
def dkwJ1_putVal_7 : List UInt8 := [16, 7, 161, 0, 60, 42, 25, 6, 27, 182, 0, 194, 167, 0, 50, 25, 10, 180, 0, 168, 27, 160, 0, 31]
abbrev dktJ1_putVal_7 : List UInt8 := dkwJ1_putVal_7 ++ dktJ1_putVal_8
def dkwJ1_putVal_6 : List UInt8 := [180, 0, 177, 89, 58, 10, 199, 0, 33, 25, 7, 42, 27, 44, 45, 1, 182, 0, 186, 181, 0, 177, 21, 12]
abbrev dktJ1_putVal_6 : List UInt8 := dkwJ1_putVal_6 ++ dktJ1_putVal_7
def dkwJ1_putVal_5 : List UInt8 := [192, 0, 180, 42, 25, 6, 27, 44, 45, 182, 0, 190, 58, 10, 167, 0, 94, 3, 54, 12, 25, 7]
abbrev dktJ1_putVal_5 : List UInt8 := dkwJ1_putVal_5 ++ dktJ1_putVal_6
def dkwJ1_putVal_4 : List UInt8 := [182, 0, 173, 153, 0, 10, 25, 7, 58, 10, 167, 0, 121, 25, 7, 193, 0, 180, 153, 0, 22, 25, 7]
abbrev dktJ1_putVal_4 : List UInt8 := dkwJ1_putVal_4 ++ dktJ1_putVal_5
def dkwJ1_putVal_3 : List UInt8 := [160, 0, 35, 25, 7, 180, 0, 170, 89, 58, 11, 44, 165, 0, 16, 44, 198, 0, 19, 44, 25, 11]
abbrev dktJ1_putVal_3 : List UInt8 := dkwJ1_putVal_3 ++ dktJ1_putVal_4
def dkwJ1_putVal_2 : List UInt8 := [25, 6, 21, 9, 42, 27, 44, 45, 1, 182, 0, 186, 83, 167, 0, 199, 25, 7, 180, 0, 168, 27]
abbrev dktJ1_putVal_2 : List UInt8 := dkwJ1_putVal_2 ++ dktJ1_putVal_3
def dkwJ1_putVal_1 : List UInt8 := [58, 6, 190, 54, 8, 25, 6, 21, 8, 4, 100, 27, 126, 89, 54, 9, 50, 89, 58, 7, 199, 0, 19]
abbrev dktJ1_putVal_1 : List UInt8 := dkwJ1_putVal_1 ++ dktJ1_putVal_2
def dkwJ1_putVal_0 : List UInt8 := [42, 180, 0, 105, 89, 58, 6, 198, 0, 12, 25, 6, 190, 89, 54, 8, 154, 0, 13, 42, 182, 0, 117, 89]
abbrev dktJ1_putVal_0 : List UInt8 := dkwJ1_putVal_0 ++ dktJ1_putVal_1
theorem dksJ1_putVal_0 : cJ1_putVal.data.toList.drop 0 = dktJ1_putVal_0 := by decide +kernel
theorem dksJ1_putVal_1 : cJ1_putVal.data.toList.drop 24 = dktJ1_putVal_1 := dk_seg dksJ1_putVal_0 24 rfl rfl
theorem dksJ1_putVal_2 : cJ1_putVal.data.toList.drop 47 = dktJ1_putVal_2 := dk_seg dksJ1_putVal_1 23 rfl rfl
theorem dksJ1_putVal_3 : cJ1_putVal.data.toList.drop 69 = dktJ1_putVal_3 := dk_seg dksJ1_putVal_2 22 rfl rfl
theorem dksJ1_putVal_4 : cJ1_putVal.data.toList.drop 91 = dktJ1_putVal_4 := dk_seg dksJ1_putVal_3 22 rfl rfl
theorem dksJ1_putVal_5 : cJ1_putVal.data.toList.drop 114 = dktJ1_putVal_5 := dk_seg dksJ1_putVal_4 23 rfl rfl
theorem dksJ1_putVal_6 : cJ1_putVal.data.toList.drop 136 = dktJ1_putVal_6 := dk_seg dksJ1_putVal_5 22 rfl rfl
theorem dksJ1_putVal_7 : cJ1_putVal.data.toList.drop 160 = dktJ1_putVal_7 := dk_seg dksJ1_putVal_6 24 rfl rfl
theorem dksJ1_putVal_8 : cJ1_putVal.data.toList.drop 184 = dktJ1_putVal_8 := dk_seg dksJ1_putVal_7 24 rfl rfl
theorem dksJ1_putVal_9 : cJ1_putVal.data.toList.drop 206 = dktJ1_putVal_9 := dk_seg dksJ1_putVal_8 22 rfl rfl
theorem dksJ1_putVal_10 : cJ1_putVal.data.toList.drop 229 = dktJ1_putVal_10 := dk_seg dksJ1_putVal_9 23 rfl rfl
theorem dksJ1_putVal_11 : cJ1_putVal.data.toList.drop 253 = dktJ1_putVal_11 := dk_seg dksJ1_putVal_10 24 rfl rfl
theorem dksJ1_putVal_12 : cJ1_putVal.data.toList.drop 277 = dktJ1_putVal_12 := dk_seg dksJ1_putVal_11 24 rfl rfl
theorem dJ1_putVal_0 : decode cJ1_putVal 0 = .ok (.aload_n 0, 1) := dk_42 (dk_at dksJ1_putVal_0 0 rfl rfl)
theorem dJ1_putVal_1 : decode cJ1_putVal 1 = .ok (.getfield 105, 3) := dk_180 0 105 (dk_at dksJ1_putVal_0 1 rfl rfl)
theorem dJ1_putVal_4 : decode cJ1_putVal 4 = .ok (.dup, 1) := dk_89 (dk_at dksJ1_putVal_0 4 rfl rfl)
theorem dJ1_putVal_5 : decode cJ1_putVal 5 = .ok (.astore 6, 2) := dk_58 6 (dk_at dksJ1_putVal_0 5 rfl rfl)
theorem dJ1_putVal_7 : decode cJ1_putVal 7 = .ok (.ifnull 12, 3) := dk_198 0 12 (dk_at dksJ1_putVal_0 7 rfl rfl)
theorem dJ1_putVal_10 : decode cJ1_putVal 10 = .ok (.aload 6, 2) := dk_25 6 (dk_at dksJ1_putVal_0 10 rfl rfl)
theorem dJ1_putVal_12 : decode cJ1_putVal 12 = .ok (.arraylength, 1) := dk_190 (dk_at dksJ1_putVal_0 12 rfl rfl)
theorem dJ1_putVal_13 : decode cJ1_putVal 13 = .ok (.dup, 1) := dk_89 (dk_at dksJ1_putVal_0 13 rfl rfl)
theorem dJ1_putVal_14 : decode cJ1_putVal 14 = .ok (.istore 8, 2) := dk_54 8 (dk_at dksJ1_putVal_0 14 rfl rfl)
theorem dJ1_putVal_16 : decode cJ1_putVal 16 = .ok (.ifCond .ne 13, 3) := dk_154 0 13 (dk_at dksJ1_putVal_0 16 rfl rfl)
theorem dJ1_putVal_19 : decode cJ1_putVal 19 = .ok (.aload_n 0, 1) := dk_42 (dk_at dksJ1_putVal_0 19 rfl rfl)
theorem dJ1_putVal_20 : decode cJ1_putVal 20 = .ok (.invokevirtual 117, 3) := dk_182 0 117 (dk_at dksJ1_putVal_0 20 rfl rfl)
theorem dJ1_putVal_23 : decode cJ1_putVal 23 = .ok (.dup, 1) := dk_89 (dk_at dksJ1_putVal_0 23 rfl rfl)
theorem dJ1_putVal_24 : decode cJ1_putVal 24 = .ok (.astore 6, 2) := dk_58 6 (dk_at dksJ1_putVal_1 0 rfl rfl)
theorem dJ1_putVal_26 : decode cJ1_putVal 26 = .ok (.arraylength, 1) := dk_190 (dk_at dksJ1_putVal_1 2 rfl rfl)
theorem dJ1_putVal_27 : decode cJ1_putVal 27 = .ok (.istore 8, 2) := dk_54 8 (dk_at dksJ1_putVal_1 3 rfl rfl)
theorem dJ1_putVal_29 : decode cJ1_putVal 29 = .ok (.aload 6, 2) := dk_25 6 (dk_at dksJ1_putVal_1 5 rfl rfl)
theorem dJ1_putVal_31 : decode cJ1_putVal 31 = .ok (.iload 8, 2) := dk_21 8 (dk_at dksJ1_putVal_1 7 rfl rfl)
theorem dJ1_putVal_33 : decode cJ1_putVal 33 = .ok (.iconst 1, 1) := dk_4 (dk_at dksJ1_putVal_1 9 rfl rfl)
theorem dJ1_putVal_34 : decode cJ1_putVal 34 = .ok (.isub, 1) := dk_100 (dk_at dksJ1_putVal_1 10 rfl rfl)
theorem dJ1_putVal_35 : decode cJ1_putVal 35 = .ok (.iload_n 1, 1) := dk_27 (dk_at dksJ1_putVal_1 11 rfl rfl)
theorem dJ1_putVal_36 : decode cJ1_putVal 36 = .ok (.iand, 1) := dk_126 (dk_at dksJ1_putVal_1 12 rfl rfl)
theorem dJ1_putVal_37 : decode cJ1_putVal 37 = .ok (.dup, 1) := dk_89 (dk_at dksJ1_putVal_1 13 rfl rfl)
theorem dJ1_putVal_38 : decode cJ1_putVal 38 = .ok (.istore 9, 2) := dk_54 9 (dk_at dksJ1_putVal_1 14 rfl rfl)
theorem dJ1_putVal_40 : decode cJ1_putVal 40 = .ok (.aaload, 1) := dk_50 (dk_at dksJ1_putVal_1 16 rfl rfl)
theorem dJ1_putVal_41 : decode cJ1_putVal 41 = .ok (.dup, 1) := dk_89 (dk_at dksJ1_putVal_1 17 rfl rfl)
theorem dJ1_putVal_42 : decode cJ1_putVal 42 = .ok (.astore 7, 2) := dk_58 7 (dk_at dksJ1_putVal_1 18 rfl rfl)
theorem dJ1_putVal_44 : decode cJ1_putVal 44 = .ok (.ifnonnull 19, 3) := dk_199 0 19 (dk_at dksJ1_putVal_1 20 rfl rfl)
theorem dJ1_putVal_47 : decode cJ1_putVal 47 = .ok (.aload 6, 2) := dk_25 6 (dk_at dksJ1_putVal_2 0 rfl rfl)
theorem dJ1_putVal_49 : decode cJ1_putVal 49 = .ok (.iload 9, 2) := dk_21 9 (dk_at dksJ1_putVal_2 2 rfl rfl)
theorem dJ1_putVal_51 : decode cJ1_putVal 51 = .ok (.aload_n 0, 1) := dk_42 (dk_at dksJ1_putVal_2 4 rfl rfl)
theorem dJ1_putVal_52 : decode cJ1_putVal 52 = .ok (.iload_n 1, 1) := dk_27 (dk_at dksJ1_putVal_2 5 rfl rfl)
theorem dJ1_putVal_53 : decode cJ1_putVal 53 = .ok (.aload_n 2, 1) := dk_44 (dk_at dksJ1_putVal_2 6 rfl rfl)
theorem dJ1_putVal_54 : decode cJ1_putVal 54 = .ok (.aload_n 3, 1) := dk_45 (dk_at dksJ1_putVal_2 7 rfl rfl)
theorem dJ1_putVal_55 : decode cJ1_putVal 55 = .ok (.aconst_null, 1) := dk_1 (dk_at dksJ1_putVal_2 8 rfl rfl)
theorem dJ1_putVal_56 : decode cJ1_putVal 56 = .ok (.invokevirtual 186, 3) := dk_182 0 186 (dk_at dksJ1_putVal_2 9 rfl rfl)
theorem dJ1_putVal_59 : decode cJ1_putVal 59 = .ok (.aastore, 1) := dk_83 (dk_at dksJ1_putVal_2 12 rfl rfl)
theorem dJ1_putVal_60 : decode cJ1_putVal 60 = .ok (.goto 199, 3) := dk_167 0 199 (dk_at dksJ1_putVal_2 13 rfl rfl)
theorem dJ1_putVal_63 : decode cJ1_putVal 63 = .ok (.aload 7, 2) := dk_25 7 (dk_at dksJ1_putVal_2 16 rfl rfl)
theorem dJ1_putVal_65 : decode cJ1_putVal 65 = .ok (.getfield 168, 3) := dk_180 0 168 (dk_at dksJ1_putVal_2 18 rfl rfl)
theorem dJ1_putVal_68 : decode cJ1_putVal 68 = .ok (.iload_n 1, 1) := dk_27 (dk_at dksJ1_putVal_2 21 rfl rfl)
theorem dJ1_putVal_69 : decode cJ1_putVal 69 = .ok (.if_icmp .ne 35, 3) := dk_160 0 35 (dk_at dksJ1_putVal_3 0 rfl rfl)
theorem dJ1_putVal_72 : decode cJ1_putVal 72 = .ok (.aload 7, 2) := dk_25 7 (dk_at dksJ1_putVal_3 3 rfl rfl)
theorem dJ1_putVal_74 : decode cJ1_putVal 74 = .ok (.getfield 170, 3) := dk_180 0 170 (dk_at dksJ1_putVal_3 5 rfl rfl)
theorem dJ1_putVal_77 : decode cJ1_putVal 77 = .ok (.dup, 1) := dk_89 (dk_at dksJ1_putVal_3 8 rfl rfl)
theorem dJ1_putVal_78 : decode cJ1_putVal 78 = .ok (.astore 11, 2) := dk_58 11 (dk_at dksJ1_putVal_3 9 rfl rfl)
theorem dJ1_putVal_80 : decode cJ1_putVal 80 = .ok (.aload_n 2, 1) := dk_44 (dk_at dksJ1_putVal_3 11 rfl rfl)
theorem dJ1_putVal_81 : decode cJ1_putVal 81 = .ok (.if_acmp .eq 16, 3) := dk_165 0 16 (dk_at dksJ1_putVal_3 12 rfl rfl)
theorem dJ1_putVal_84 : decode cJ1_putVal 84 = .ok (.aload_n 2, 1) := dk_44 (dk_at dksJ1_putVal_3 15 rfl rfl)
theorem dJ1_putVal_85 : decode cJ1_putVal 85 = .ok (.ifnull 19, 3) := dk_198 0 19 (dk_at dksJ1_putVal_3 16 rfl rfl)
theorem dJ1_putVal_88 : decode cJ1_putVal 88 = .ok (.aload_n 2, 1) := dk_44 (dk_at dksJ1_putVal_3 19 rfl rfl)
theorem dJ1_putVal_89 : decode cJ1_putVal 89 = .ok (.aload 11, 2) := dk_25 11 (dk_at dksJ1_putVal_3 20 rfl rfl)
theorem dJ1_putVal_91 : decode cJ1_putVal 91 = .ok (.invokevirtual 173, 3) := dk_182 0 173 (dk_at dksJ1_putVal_4 0 rfl rfl)
theorem dJ1_putVal_94 : decode cJ1_putVal 94 = .ok (.ifCond .eq 10, 3) := dk_153 0 10 (dk_at dksJ1_putVal_4 3 rfl rfl)
theorem dJ1_putVal_97 : decode cJ1_putVal 97 = .ok (.aload 7, 2) := dk_25 7 (dk_at dksJ1_putVal_4 6 rfl rfl)
theorem dJ1_putVal_99 : decode cJ1_putVal 99 = .ok (.astore 10, 2) := dk_58 10 (dk_at dksJ1_putVal_4 8 rfl rfl)
theorem dJ1_putVal_101 : decode cJ1_putVal 101 = .ok (.goto 121, 3) := dk_167 0 121 (dk_at dksJ1_putVal_4 10 rfl rfl)
theorem dJ1_putVal_104 : decode cJ1_putVal 104 = .ok (.aload 7, 2) := dk_25 7 (dk_at dksJ1_putVal_4 13 rfl rfl)
theorem dJ1_putVal_106 : decode cJ1_putVal 106 = .ok (.instanceof 180, 3) := dk_193 0 180 (dk_at dksJ1_putVal_4 15 rfl rfl)
theorem dJ1_putVal_109 : decode cJ1_putVal 109 = .ok (.ifCond .eq 22, 3) := dk_153 0 22 (dk_at dksJ1_putVal_4 18 rfl rfl)
theorem dJ1_putVal_112 : decode cJ1_putVal 112 = .ok (.aload 7, 2) := dk_25 7 (dk_at dksJ1_putVal_4 21 rfl rfl)
theorem dJ1_putVal_114 : decode cJ1_putVal 114 = .ok (.checkcast 180, 3) := dk_192 0 180 (dk_at dksJ1_putVal_5 0 rfl rfl)
theorem dJ1_putVal_117 : decode cJ1_putVal 117 = .ok (.aload_n 0, 1) := dk_42 (dk_at dksJ1_putVal_5 3 rfl rfl)
theorem dJ1_putVal_118 : decode cJ1_putVal 118 = .ok (.aload 6, 2) := dk_25 6 (dk_at dksJ1_putVal_5 4 rfl rfl)
theorem dJ1_putVal_120 : decode cJ1_putVal 120 = .ok (.iload_n 1, 1) := dk_27 (dk_at dksJ1_putVal_5 6 rfl rfl)
theorem dJ1_putVal_121 : decode cJ1_putVal 121 = .ok (.aload_n 2, 1) := dk_44 (dk_at dksJ1_putVal_5 7 rfl rfl)
theorem dJ1_putVal_122 : decode cJ1_putVal 122 = .ok (.aload_n 3, 1) := dk_45 (dk_at dksJ1_putVal_5 8 rfl rfl)
theorem dJ1_putVal_123 : decode cJ1_putVal 123 = .ok (.invokevirtual 190, 3) := dk_182 0 190 (dk_at dksJ1_putVal_5 9 rfl rfl)
theorem dJ1_putVal_126 : decode cJ1_putVal 126 = .ok (.astore 10, 2) := dk_58 10 (dk_at dksJ1_putVal_5 12 rfl rfl)
theorem dJ1_putVal_128 : decode cJ1_putVal 128 = .ok (.goto 94, 3) := dk_167 0 94 (dk_at dksJ1_putVal_5 14 rfl rfl)
theorem dJ1_putVal_131 : decode cJ1_putVal 131 = .ok (.iconst 0, 1) := dk_3 (dk_at dksJ1_putVal_5 17 rfl rfl)
theorem dJ1_putVal_132 : decode cJ1_putVal 132 = .ok (.istore 12, 2) := dk_54 12 (dk_at dksJ1_putVal_5 18 rfl rfl)
theorem dJ1_putVal_134 : decode cJ1_putVal 134 = .ok (.aload 7, 2) := dk_25 7 (dk_at dksJ1_putVal_5 20 rfl rfl)
theorem dJ1_putVal_136 : decode cJ1_putVal 136 = .ok (.getfield 177, 3) := dk_180 0 177 (dk_at dksJ1_putVal_6 0 rfl rfl)
theorem dJ1_putVal_139 : decode cJ1_putVal 139 = .ok (.dup, 1) := dk_89 (dk_at dksJ1_putVal_6 3 rfl rfl)
theorem dJ1_putVal_140 : decode cJ1_putVal 140 = .ok (.astore 10, 2) := dk_58 10 (dk_at dksJ1_putVal_6 4 rfl rfl)
theorem dJ1_putVal_142 : decode cJ1_putVal 142 = .ok (.ifnonnull 33, 3) := dk_199 0 33 (dk_at dksJ1_putVal_6 6 rfl rfl)
theorem dJ1_putVal_145 : decode cJ1_putVal 145 = .ok (.aload 7, 2) := dk_25 7 (dk_at dksJ1_putVal_6 9 rfl rfl)
theorem dJ1_putVal_147 : decode cJ1_putVal 147 = .ok (.aload_n 0, 1) := dk_42 (dk_at dksJ1_putVal_6 11 rfl rfl)
theorem dJ1_putVal_148 : decode cJ1_putVal 148 = .ok (.iload_n 1, 1) := dk_27 (dk_at dksJ1_putVal_6 12 rfl rfl)
theorem dJ1_putVal_149 : decode cJ1_putVal 149 = .ok (.aload_n 2, 1) := dk_44 (dk_at dksJ1_putVal_6 13 rfl rfl)
theorem dJ1_putVal_150 : decode cJ1_putVal 150 = .ok (.aload_n 3, 1) := dk_45 (dk_at dksJ1_putVal_6 14 rfl rfl)
theorem dJ1_putVal_151 : decode cJ1_putVal 151 = .ok (.aconst_null, 1) := dk_1 (dk_at dksJ1_putVal_6 15 rfl rfl)
theorem dJ1_putVal_152 : decode cJ1_putVal 152 = .ok (.invokevirtual 186, 3) := dk_182 0 186 (dk_at dksJ1_putVal_6 16 rfl rfl)
theorem dJ1_putVal_155 : decode cJ1_putVal 155 = .ok (.putfield 177, 3) := dk_181 0 177 (dk_at dksJ1_putVal_6 19 rfl rfl)
theorem dJ1_putVal_158 : decode cJ1_putVal 158 = .ok (.iload 12, 2) := dk_21 12 (dk_at dksJ1_putVal_6 22 rfl rfl)
theorem dJ1_putVal_160 : decode cJ1_putVal 160 = .ok (.bipush 7, 2) := dk_16 7 (dk_at dksJ1_putVal_7 0 rfl rfl)
theorem dJ1_putVal_162 : decode cJ1_putVal 162 = .ok (.if_icmp .lt 60, 3) := dk_161 0 60 (dk_at dksJ1_putVal_7 2 rfl rfl)
theorem dJ1_putVal_165 : decode cJ1_putVal 165 = .ok (.aload_n 0, 1) := dk_42 (dk_at dksJ1_putVal_7 5 rfl rfl)
theorem dJ1_putVal_166 : decode cJ1_putVal 166 = .ok (.aload 6, 2) := dk_25 6 (dk_at dksJ1_putVal_7 6 rfl rfl)
theorem dJ1_putVal_168 : decode cJ1_putVal 168 = .ok (.iload_n 1, 1) := dk_27 (dk_at dksJ1_putVal_7 8 rfl rfl)
theorem dJ1_putVal_169 : decode cJ1_putVal 169 = .ok (.invokevirtual 194, 3) := dk_182 0 194 (dk_at dksJ1_putVal_7 9 rfl rfl)
theorem dJ1_putVal_172 : decode cJ1_putVal 172 = .ok (.goto 50, 3) := dk_167 0 50 (dk_at dksJ1_putVal_7 12 rfl rfl)
theorem dJ1_putVal_175 : decode cJ1_putVal 175 = .ok (.aload 10, 2) := dk_25 10 (dk_at dksJ1_putVal_7 15 rfl rfl)
theorem dJ1_putVal_177 : decode cJ1_putVal 177 = .ok (.getfield 168, 3) := dk_180 0 168 (dk_at dksJ1_putVal_7 17 rfl rfl)
theorem dJ1_putVal_180 : decode cJ1_putVal 180 = .ok (.iload_n 1, 1) := dk_27 (dk_at dksJ1_putVal_7 20 rfl rfl)
theorem dJ1_putVal_181 : decode cJ1_putVal 181 = .ok (.if_icmp .ne 31, 3) := dk_160 0 31 (dk_at dksJ1_putVal_7 21 rfl rfl)
theorem dJ1_putVal_184 : decode cJ1_putVal 184 = .ok (.aload 10, 2) := dk_25 10 (dk_at dksJ1_putVal_8 0 rfl rfl)
theorem dJ1_putVal_186 : decode cJ1_putVal 186 = .ok (.getfield 170, 3) := dk_180 0 170 (dk_at dksJ1_putVal_8 2 rfl rfl)
theorem dJ1_putVal_189 : decode cJ1_putVal 189 = .ok (.dup, 1) := dk_89 (dk_at dksJ1_putVal_8 5 rfl rfl)
theorem dJ1_putVal_190 : decode cJ1_putVal 190 = .ok (.astore 11, 2) := dk_58 11 (dk_at dksJ1_putVal_8 6 rfl rfl)
theorem dJ1_putVal_192 : decode cJ1_putVal 192 = .ok (.aload_n 2, 1) := dk_44 (dk_at dksJ1_putVal_8 8 rfl rfl)
theorem dJ1_putVal_193 : decode cJ1_putVal 193 = .ok (.if_acmp .eq 29, 3) := dk_165 0 29 (dk_at dksJ1_putVal_8 9 rfl rfl)
theorem dJ1_putVal_196 : decode cJ1_putVal 196 = .ok (.aload_n 2, 1) := dk_44 (dk_at dksJ1_putVal_8 12 rfl rfl)
theorem dJ1_putVal_197 : decode cJ1_putVal 197 = .ok (.ifnull 15, 3) := dk_198 0 15 (dk_at dksJ1_putVal_8 13 rfl rfl)
theorem dJ1_putVal_200 : decode cJ1_putVal 200 = .ok (.aload_n 2, 1) := dk_44 (dk_at dksJ1_putVal_8 16 rfl rfl)
theorem dJ1_putVal_201 : decode cJ1_putVal 201 = .ok (.aload 11, 2) := dk_25 11 (dk_at dksJ1_putVal_8 17 rfl rfl)
theorem dJ1_putVal_203 : decode cJ1_putVal 203 = .ok (.invokevirtual 173, 3) := dk_182 0 173 (dk_at dksJ1_putVal_8 19 rfl rfl)
theorem dJ1_putVal_206 : decode cJ1_putVal 206 = .ok (.ifCond .eq 6, 3) := dk_153 0 6 (dk_at dksJ1_putVal_9 0 rfl rfl)
theorem dJ1_putVal_209 : decode cJ1_putVal 209 = .ok (.goto 13, 3) := dk_167 0 13 (dk_at dksJ1_putVal_9 3 rfl rfl)
theorem dJ1_putVal_212 : decode cJ1_putVal 212 = .ok (.aload 10, 2) := dk_25 10 (dk_at dksJ1_putVal_9 6 rfl rfl)
theorem dJ1_putVal_214 : decode cJ1_putVal 214 = .ok (.astore 7, 2) := dk_58 7 (dk_at dksJ1_putVal_9 8 rfl rfl)
theorem dJ1_putVal_216 : decode cJ1_putVal 216 = .ok (.iinc 12 1, 3) := dk_132 12 1 (dk_at dksJ1_putVal_9 10 rfl rfl)
theorem dJ1_putVal_219 : decode cJ1_putVal 219 = .ok (.goto (-85), 3) := dk_167 255 171 (dk_at dksJ1_putVal_9 13 rfl rfl)
theorem dJ1_putVal_222 : decode cJ1_putVal 222 = .ok (.aload 10, 2) := dk_25 10 (dk_at dksJ1_putVal_9 16 rfl rfl)
theorem dJ1_putVal_224 : decode cJ1_putVal 224 = .ok (.ifnull 35, 3) := dk_198 0 35 (dk_at dksJ1_putVal_9 18 rfl rfl)
theorem dJ1_putVal_227 : decode cJ1_putVal 227 = .ok (.aload 10, 2) := dk_25 10 (dk_at dksJ1_putVal_9 21 rfl rfl)
theorem dJ1_putVal_229 : decode cJ1_putVal 229 = .ok (.getfield 162, 3) := dk_180 0 162 (dk_at dksJ1_putVal_10 0 rfl rfl)
theorem dJ1_putVal_232 : decode cJ1_putVal 232 = .ok (.astore 12, 2) := dk_58 12 (dk_at dksJ1_putVal_10 3 rfl rfl)
theorem dJ1_putVal_234 : decode cJ1_putVal 234 = .ok (.iload 4, 2) := dk_21 4 (dk_at dksJ1_putVal_10 5 rfl rfl)
theorem dJ1_putVal_236 : decode cJ1_putVal 236 = .ok (.ifCond .eq 8, 3) := dk_153 0 8 (dk_at dksJ1_putVal_10 7 rfl rfl)
theorem dJ1_putVal_239 : decode cJ1_putVal 239 = .ok (.aload 12, 2) := dk_25 12 (dk_at dksJ1_putVal_10 10 rfl rfl)
theorem dJ1_putVal_241 : decode cJ1_putVal 241 = .ok (.ifnonnull 9, 3) := dk_199 0 9 (dk_at dksJ1_putVal_10 12 rfl rfl)
theorem dJ1_putVal_244 : decode cJ1_putVal 244 = .ok (.aload 10, 2) := dk_25 10 (dk_at dksJ1_putVal_10 15 rfl rfl)
theorem dJ1_putVal_246 : decode cJ1_putVal 246 = .ok (.aload_n 3, 1) := dk_45 (dk_at dksJ1_putVal_10 17 rfl rfl)
theorem dJ1_putVal_247 : decode cJ1_putVal 247 = .ok (.putfield 162, 3) := dk_181 0 162 (dk_at dksJ1_putVal_10 18 rfl rfl)
theorem dJ1_putVal_250 : decode cJ1_putVal 250 = .ok (.aload_n 0, 1) := dk_42 (dk_at dksJ1_putVal_10 21 rfl rfl)
theorem dJ1_putVal_251 : decode cJ1_putVal 251 = .ok (.aload 10, 2) := dk_25 10 (dk_at dksJ1_putVal_10 22 rfl rfl)
theorem dJ1_putVal_253 : decode cJ1_putVal 253 = .ok (.invokevirtual 198, 3) := dk_182 0 198 (dk_at dksJ1_putVal_11 0 rfl rfl)
theorem dJ1_putVal_256 : decode cJ1_putVal 256 = .ok (.aload 12, 2) := dk_25 12 (dk_at dksJ1_putVal_11 3 rfl rfl)
theorem dJ1_putVal_258 : decode cJ1_putVal 258 = .ok (.areturn, 1) := dk_176 (dk_at dksJ1_putVal_11 5 rfl rfl)
theorem dJ1_putVal_259 : decode cJ1_putVal 259 = .ok (.aload_n 0, 1) := dk_42 (dk_at dksJ1_putVal_11 6 rfl rfl)
theorem dJ1_putVal_260 : decode cJ1_putVal 260 = .ok (.dup, 1) := dk_89 (dk_at dksJ1_putVal_11 7 rfl rfl)
theorem dJ1_putVal_261 : decode cJ1_putVal 261 = .ok (.getfield 202, 3) := dk_180 0 202 (dk_at dksJ1_putVal_11 8 rfl rfl)
theorem dJ1_putVal_264 : decode cJ1_putVal 264 = .ok (.iconst 1, 1) := dk_4 (dk_at dksJ1_putVal_11 11 rfl rfl)
theorem dJ1_putVal_265 : decode cJ1_putVal 265 = .ok (.iadd, 1) := dk_96 (dk_at dksJ1_putVal_11 12 rfl rfl)
theorem dJ1_putVal_266 : decode cJ1_putVal 266 = .ok (.putfield 202, 3) := dk_181 0 202 (dk_at dksJ1_putVal_11 13 rfl rfl)
theorem dJ1_putVal_269 : decode cJ1_putVal 269 = .ok (.aload_n 0, 1) := dk_42 (dk_at dksJ1_putVal_11 16 rfl rfl)
theorem dJ1_putVal_270 : decode cJ1_putVal 270 = .ok (.dup, 1) := dk_89 (dk_at dksJ1_putVal_11 17 rfl rfl)
theorem dJ1_putVal_271 : decode cJ1_putVal 271 = .ok (.getfield 156, 3) := dk_180 0 156 (dk_at dksJ1_putVal_11 18 rfl rfl)
theorem dJ1_putVal_274 : decode cJ1_putVal 274 = .ok (.iconst 1, 1) := dk_4 (dk_at dksJ1_putVal_11 21 rfl rfl)
theorem dJ1_putVal_275 : decode cJ1_putVal 275 = .ok (.iadd, 1) := dk_96 (dk_at dksJ1_putVal_11 22 rfl rfl)
theorem dJ1_putVal_276 : decode cJ1_putVal 276 = .ok (.dup_x1, 1) := dk_90 (dk_at dksJ1_putVal_11 23 rfl rfl)
theorem dJ1_putVal_277 : decode cJ1_putVal 277 = .ok (.putfield 156, 3) := dk_181 0 156 (dk_at dksJ1_putVal_12 0 rfl rfl)
theorem dJ1_putVal_280 : decode cJ1_putVal 280 = .ok (.aload_n 0, 1) := dk_42 (dk_at dksJ1_putVal_12 3 rfl rfl)
theorem dJ1_putVal_281 : decode cJ1_putVal 281 = .ok (.getfield 88, 3) := dk_180 0 88 (dk_at dksJ1_putVal_12 4 rfl rfl)
theorem dJ1_putVal_284 : decode cJ1_putVal 284 = .ok (.if_icmp .le 8, 3) := dk_164 0 8 (dk_at dksJ1_putVal_12 7 rfl rfl)
theorem dJ1_putVal_287 : decode cJ1_putVal 287 = .ok (.aload_n 0, 1) := dk_42 (dk_at dksJ1_putVal_12 10 rfl rfl)
theorem dJ1_putVal_288 : decode cJ1_putVal 288 = .ok (.invokevirtual 117, 3) := dk_182 0 117 (dk_at dksJ1_putVal_12 11 rfl rfl)
theorem dJ1_putVal_291 : decode cJ1_putVal 291 = .ok (.pop, 1) := dk_87 (dk_at dksJ1_putVal_12 14 rfl rfl)
theorem dJ1_putVal_292 : decode cJ1_putVal 292 = .ok (.aload_n 0, 1) := dk_42 (dk_at dksJ1_putVal_12 15 rfl rfl)
theorem dJ1_putVal_293 : decode cJ1_putVal 293 = .ok (.iload 5, 2) := dk_21 5 (dk_at dksJ1_putVal_12 16 rfl rfl)
theorem dJ1_putVal_295 : decode cJ1_putVal 295 = .ok (.invokevirtual 205, 3) := dk_182 0 205 (dk_at dksJ1_putVal_12 18 rfl rfl)
theorem dJ1_putVal_298 : decode cJ1_putVal 298 = .ok (.aconst_null, 1) := dk_1 (dk_at dksJ1_putVal_12 21 rfl rfl)
theorem dJ1_putVal_299 : decode cJ1_putVal 299 = .ok (.areturn, 1) := dk_176 (dk_at dksJ1_putVal_12 22 rfl rfl)
abbrev cJ1_resize : ByteArray := prog_57_method_17_code
def yJ1_resize : MethodName := ⟨RJ1, "resize", "()[Ljava/util/HashMap$Node;"⟩
def dkwJ1_resize_15 : List UInt8 := [25, 6, 176]
abbrev dktJ1_resize_15 : List UInt8 := dkwJ1_resize_15 ++ []
def dkwJ1_resize_14 : List UInt8 := [198, 0, 18, 25, 12, 1, 181, 0, 177, 25, 6, 21, 7, 28, 96, 25, 11, 83, 132, 7, 1, 167, 255, 57]
abbrev dktJ1_resize_14 : List UInt8 := dkwJ1_resize_14 ++ dktJ1_resize_15
def dkwJ1_resize_13 : List UInt8 := [199, 255, 185, 25, 10, 198, 0, 16, 25, 10, 1, 181, 0, 177, 25, 6, 21, 7, 25, 9, 83, 25, 12]
abbrev dktJ1_resize_13 : List UInt8 := dkwJ1_resize_13 ++ dktJ1_resize_14
def dkwJ1_resize_12 : List UInt8 := [25, 8, 58, 11, 167, 0, 10, 25, 12, 25, 8, 181, 0, 177, 25, 8, 58, 12, 25, 13, 89, 58, 8]
abbrev dktJ1_resize_12 : List UInt8 := dkwJ1_resize_12 ++ dktJ1_resize_13
def dkwJ1_resize_11 : List UInt8 := [58, 9, 167, 0, 10, 25, 10, 25, 8, 181, 0, 177, 25, 8, 58, 10, 167, 0, 26, 25, 12, 199, 0, 10]
abbrev dktJ1_resize_11 : List UInt8 := dkwJ1_resize_11 ++ dktJ1_resize_12
def dkwJ1_resize_10 : List UInt8 := [25, 8, 180, 0, 177, 58, 13, 25, 8, 180, 0, 168, 28, 126, 154, 0, 29, 25, 10, 199, 0, 10, 25, 8]
abbrev dktJ1_resize_10 : List UInt8 := dkwJ1_resize_10 ++ dktJ1_resize_11
def dkwJ1_resize_9 : List UInt8 := [42, 25, 6, 21, 7, 28, 182, 0, 211, 167, 0, 127, 1, 58, 9, 1, 58, 10, 1, 58, 11, 1, 58, 12]
abbrev dktJ1_resize_9 : List UInt8 := dkwJ1_resize_9 ++ dktJ1_resize_10
def dkwJ1_resize_8 : List UInt8 := [21, 4, 4, 100, 126, 25, 8, 83, 167, 0, 152, 25, 8, 193, 0, 180, 153, 0, 20, 25, 8, 192, 0, 180]
abbrev dktJ1_resize_8 : List UInt8 := dkwJ1_resize_8 ++ dktJ1_resize_9
def dkwJ1_resize_7 : List UInt8 := [198, 0, 183, 43, 21, 7, 1, 83, 25, 8, 180, 0, 177, 199, 0, 21, 25, 6, 25, 8, 180, 0, 168]
abbrev dktJ1_resize_7 : List UInt8 := dkwJ1_resize_7 ++ dktJ1_resize_8
def dkwJ1_resize_6 : List UInt8 := [181, 0, 105, 43, 198, 0, 208, 3, 54, 7, 21, 7, 28, 162, 0, 199, 43, 21, 7, 50, 89, 58, 8]
abbrev dktJ1_resize_6 : List UInt8 := dkwJ1_resize_6 ++ dktJ1_resize_7
def dkwJ1_resize_5 : List UInt8 := [167, 0, 5, 18, 209, 54, 5, 42, 21, 5, 181, 0, 88, 21, 4, 189, 0, 163, 58, 6, 42, 25, 6]
abbrev dktJ1_resize_5 : List UInt8 := dkwJ1_resize_5 ++ dktJ1_resize_6
def dkwJ1_resize_4 : List UInt8 := [180, 0, 81, 106, 56, 6, 21, 4, 18, 42, 162, 0, 17, 23, 6, 18, 210, 150, 156, 0, 9, 23, 6, 139]
abbrev dktJ1_resize_4 : List UInt8 := dkwJ1_resize_4 ++ dktJ1_resize_5
def dkwJ1_resize_3 : List UInt8 := [54, 4, 167, 0, 11, 16, 16, 54, 4, 16, 12, 54, 5, 21, 5, 154, 0, 38, 21, 4, 134, 42]
abbrev dktJ1_resize_3 : List UInt8 := dkwJ1_resize_3 ++ dktJ1_resize_4
def dkwJ1_resize_2 : List UInt8 := [18, 42, 162, 0, 35, 28, 16, 16, 161, 0, 29, 29, 4, 120, 54, 5, 167, 0, 21, 29, 158, 0, 9, 29]
abbrev dktJ1_resize_2 : List UInt8 := dkwJ1_resize_2 ++ dktJ1_resize_3
def dkwJ1_resize_1 : List UInt8 := [28, 158, 0, 42, 28, 18, 42, 161, 0, 11, 42, 18, 209, 181, 0, 88, 43, 176, 28, 4, 120, 89, 54, 4]
abbrev dktJ1_resize_1 : List UInt8 := dkwJ1_resize_1 ++ dktJ1_resize_2
def dkwJ1_resize_0 : List UInt8 := [42, 180, 0, 105, 76, 43, 199, 0, 7, 3, 167, 0, 5, 43, 190, 61, 42, 180, 0, 88, 62, 3, 54, 5]
abbrev dktJ1_resize_0 : List UInt8 := dkwJ1_resize_0 ++ dktJ1_resize_1
theorem dksJ1_resize_0 : cJ1_resize.data.toList.drop 0 = dktJ1_resize_0 := by decide +kernel
theorem dksJ1_resize_1 : cJ1_resize.data.toList.drop 24 = dktJ1_resize_1 := dk_seg dksJ1_resize_0 24 rfl rfl
theorem dksJ1_resize_2 : cJ1_resize.data.toList.drop 48 = dktJ1_resize_2 := dk_seg dksJ1_resize_1 24 rfl rfl
theorem dksJ1_resize_3 : cJ1_resize.data.toList.drop 72 = dktJ1_resize_3 := dk_seg dksJ1_resize_2 24 rfl rfl
theorem dksJ1_resize_4 : cJ1_resize.data.toList.drop 94 = dktJ1_resize_4 := dk_seg dksJ1_resize_3 22 rfl rfl
theorem dksJ1_resize_5 : cJ1_resize.data.toList.drop 118 = dktJ1_resize_5 := dk_seg dksJ1_resize_4 24 rfl rfl
theorem dksJ1_resize_6 : cJ1_resize.data.toList.drop 141 = dktJ1_resize_6 := dk_seg dksJ1_resize_5 23 rfl rfl
theorem dksJ1_resize_7 : cJ1_resize.data.toList.drop 164 = dktJ1_resize_7 := dk_seg dksJ1_resize_6 23 rfl rfl
theorem dksJ1_resize_8 : cJ1_resize.data.toList.drop 187 = dktJ1_resize_8 := dk_seg dksJ1_resize_7 23 rfl rfl
theorem dksJ1_resize_9 : cJ1_resize.data.toList.drop 211 = dktJ1_resize_9 := dk_seg dksJ1_resize_8 24 rfl rfl
theorem dksJ1_resize_10 : cJ1_resize.data.toList.drop 235 = dktJ1_resize_10 := dk_seg dksJ1_resize_9 24 rfl rfl
theorem dksJ1_resize_11 : cJ1_resize.data.toList.drop 259 = dktJ1_resize_11 := dk_seg dksJ1_resize_10 24 rfl rfl
theorem dksJ1_resize_12 : cJ1_resize.data.toList.drop 283 = dktJ1_resize_12 := dk_seg dksJ1_resize_11 24 rfl rfl
theorem dksJ1_resize_13 : cJ1_resize.data.toList.drop 306 = dktJ1_resize_13 := dk_seg dksJ1_resize_12 23 rfl rfl
theorem dksJ1_resize_14 : cJ1_resize.data.toList.drop 329 = dktJ1_resize_14 := dk_seg dksJ1_resize_13 23 rfl rfl
theorem dksJ1_resize_15 : cJ1_resize.data.toList.drop 353 = dktJ1_resize_15 := dk_seg dksJ1_resize_14 24 rfl rfl
theorem dJ1_resize_0 : decode cJ1_resize 0 = .ok (.aload_n 0, 1) := dk_42 (dk_at dksJ1_resize_0 0 rfl rfl)
theorem dJ1_resize_1 : decode cJ1_resize 1 = .ok (.getfield 105, 3) := dk_180 0 105 (dk_at dksJ1_resize_0 1 rfl rfl)
theorem dJ1_resize_4 : decode cJ1_resize 4 = .ok (.astore_n 1, 1) := dk_76 (dk_at dksJ1_resize_0 4 rfl rfl)
theorem dJ1_resize_5 : decode cJ1_resize 5 = .ok (.aload_n 1, 1) := dk_43 (dk_at dksJ1_resize_0 5 rfl rfl)
theorem dJ1_resize_6 : decode cJ1_resize 6 = .ok (.ifnonnull 7, 3) := dk_199 0 7 (dk_at dksJ1_resize_0 6 rfl rfl)
theorem dJ1_resize_9 : decode cJ1_resize 9 = .ok (.iconst 0, 1) := dk_3 (dk_at dksJ1_resize_0 9 rfl rfl)
theorem dJ1_resize_10 : decode cJ1_resize 10 = .ok (.goto 5, 3) := dk_167 0 5 (dk_at dksJ1_resize_0 10 rfl rfl)
theorem dJ1_resize_13 : decode cJ1_resize 13 = .ok (.aload_n 1, 1) := dk_43 (dk_at dksJ1_resize_0 13 rfl rfl)
theorem dJ1_resize_14 : decode cJ1_resize 14 = .ok (.arraylength, 1) := dk_190 (dk_at dksJ1_resize_0 14 rfl rfl)
theorem dJ1_resize_15 : decode cJ1_resize 15 = .ok (.istore_n 2, 1) := dk_61 (dk_at dksJ1_resize_0 15 rfl rfl)
theorem dJ1_resize_16 : decode cJ1_resize 16 = .ok (.aload_n 0, 1) := dk_42 (dk_at dksJ1_resize_0 16 rfl rfl)
theorem dJ1_resize_17 : decode cJ1_resize 17 = .ok (.getfield 88, 3) := dk_180 0 88 (dk_at dksJ1_resize_0 17 rfl rfl)
theorem dJ1_resize_20 : decode cJ1_resize 20 = .ok (.istore_n 3, 1) := dk_62 (dk_at dksJ1_resize_0 20 rfl rfl)
theorem dJ1_resize_21 : decode cJ1_resize 21 = .ok (.iconst 0, 1) := dk_3 (dk_at dksJ1_resize_0 21 rfl rfl)
theorem dJ1_resize_22 : decode cJ1_resize 22 = .ok (.istore 5, 2) := dk_54 5 (dk_at dksJ1_resize_0 22 rfl rfl)
theorem dJ1_resize_24 : decode cJ1_resize 24 = .ok (.iload_n 2, 1) := dk_28 (dk_at dksJ1_resize_1 0 rfl rfl)
theorem dJ1_resize_25 : decode cJ1_resize 25 = .ok (.ifCond .le 42, 3) := dk_158 0 42 (dk_at dksJ1_resize_1 1 rfl rfl)
theorem dJ1_resize_28 : decode cJ1_resize 28 = .ok (.iload_n 2, 1) := dk_28 (dk_at dksJ1_resize_1 4 rfl rfl)
theorem dJ1_resize_29 : decode cJ1_resize 29 = .ok (.ldc 42, 2) := dk_18 42 (dk_at dksJ1_resize_1 5 rfl rfl)
theorem dJ1_resize_31 : decode cJ1_resize 31 = .ok (.if_icmp .lt 11, 3) := dk_161 0 11 (dk_at dksJ1_resize_1 7 rfl rfl)
theorem dJ1_resize_34 : decode cJ1_resize 34 = .ok (.aload_n 0, 1) := dk_42 (dk_at dksJ1_resize_1 10 rfl rfl)
theorem dJ1_resize_35 : decode cJ1_resize 35 = .ok (.ldc 209, 2) := dk_18 209 (dk_at dksJ1_resize_1 11 rfl rfl)
theorem dJ1_resize_37 : decode cJ1_resize 37 = .ok (.putfield 88, 3) := dk_181 0 88 (dk_at dksJ1_resize_1 13 rfl rfl)
theorem dJ1_resize_40 : decode cJ1_resize 40 = .ok (.aload_n 1, 1) := dk_43 (dk_at dksJ1_resize_1 16 rfl rfl)
theorem dJ1_resize_41 : decode cJ1_resize 41 = .ok (.areturn, 1) := dk_176 (dk_at dksJ1_resize_1 17 rfl rfl)
theorem dJ1_resize_42 : decode cJ1_resize 42 = .ok (.iload_n 2, 1) := dk_28 (dk_at dksJ1_resize_1 18 rfl rfl)
theorem dJ1_resize_43 : decode cJ1_resize 43 = .ok (.iconst 1, 1) := dk_4 (dk_at dksJ1_resize_1 19 rfl rfl)
theorem dJ1_resize_44 : decode cJ1_resize 44 = .ok (.ishl, 1) := dk_120 (dk_at dksJ1_resize_1 20 rfl rfl)
theorem dJ1_resize_45 : decode cJ1_resize 45 = .ok (.dup, 1) := dk_89 (dk_at dksJ1_resize_1 21 rfl rfl)
theorem dJ1_resize_46 : decode cJ1_resize 46 = .ok (.istore 4, 2) := dk_54 4 (dk_at dksJ1_resize_1 22 rfl rfl)
theorem dJ1_resize_48 : decode cJ1_resize 48 = .ok (.ldc 42, 2) := dk_18 42 (dk_at dksJ1_resize_2 0 rfl rfl)
theorem dJ1_resize_50 : decode cJ1_resize 50 = .ok (.if_icmp .ge 35, 3) := dk_162 0 35 (dk_at dksJ1_resize_2 2 rfl rfl)
theorem dJ1_resize_53 : decode cJ1_resize 53 = .ok (.iload_n 2, 1) := dk_28 (dk_at dksJ1_resize_2 5 rfl rfl)
theorem dJ1_resize_54 : decode cJ1_resize 54 = .ok (.bipush 16, 2) := dk_16 16 (dk_at dksJ1_resize_2 6 rfl rfl)
theorem dJ1_resize_56 : decode cJ1_resize 56 = .ok (.if_icmp .lt 29, 3) := dk_161 0 29 (dk_at dksJ1_resize_2 8 rfl rfl)
theorem dJ1_resize_59 : decode cJ1_resize 59 = .ok (.iload_n 3, 1) := dk_29 (dk_at dksJ1_resize_2 11 rfl rfl)
theorem dJ1_resize_60 : decode cJ1_resize 60 = .ok (.iconst 1, 1) := dk_4 (dk_at dksJ1_resize_2 12 rfl rfl)
theorem dJ1_resize_61 : decode cJ1_resize 61 = .ok (.ishl, 1) := dk_120 (dk_at dksJ1_resize_2 13 rfl rfl)
theorem dJ1_resize_62 : decode cJ1_resize 62 = .ok (.istore 5, 2) := dk_54 5 (dk_at dksJ1_resize_2 14 rfl rfl)
theorem dJ1_resize_64 : decode cJ1_resize 64 = .ok (.goto 21, 3) := dk_167 0 21 (dk_at dksJ1_resize_2 16 rfl rfl)
theorem dJ1_resize_67 : decode cJ1_resize 67 = .ok (.iload_n 3, 1) := dk_29 (dk_at dksJ1_resize_2 19 rfl rfl)
theorem dJ1_resize_68 : decode cJ1_resize 68 = .ok (.ifCond .le 9, 3) := dk_158 0 9 (dk_at dksJ1_resize_2 20 rfl rfl)
theorem dJ1_resize_71 : decode cJ1_resize 71 = .ok (.iload_n 3, 1) := dk_29 (dk_at dksJ1_resize_2 23 rfl rfl)
theorem dJ1_resize_72 : decode cJ1_resize 72 = .ok (.istore 4, 2) := dk_54 4 (dk_at dksJ1_resize_3 0 rfl rfl)
theorem dJ1_resize_74 : decode cJ1_resize 74 = .ok (.goto 11, 3) := dk_167 0 11 (dk_at dksJ1_resize_3 2 rfl rfl)
theorem dJ1_resize_77 : decode cJ1_resize 77 = .ok (.bipush 16, 2) := dk_16 16 (dk_at dksJ1_resize_3 5 rfl rfl)
theorem dJ1_resize_79 : decode cJ1_resize 79 = .ok (.istore 4, 2) := dk_54 4 (dk_at dksJ1_resize_3 7 rfl rfl)
theorem dJ1_resize_81 : decode cJ1_resize 81 = .ok (.bipush 12, 2) := dk_16 12 (dk_at dksJ1_resize_3 9 rfl rfl)
theorem dJ1_resize_83 : decode cJ1_resize 83 = .ok (.istore 5, 2) := dk_54 5 (dk_at dksJ1_resize_3 11 rfl rfl)
theorem dJ1_resize_85 : decode cJ1_resize 85 = .ok (.iload 5, 2) := dk_21 5 (dk_at dksJ1_resize_3 13 rfl rfl)
theorem dJ1_resize_87 : decode cJ1_resize 87 = .ok (.ifCond .ne 38, 3) := dk_154 0 38 (dk_at dksJ1_resize_3 15 rfl rfl)
theorem dJ1_resize_90 : decode cJ1_resize 90 = .ok (.iload 4, 2) := dk_21 4 (dk_at dksJ1_resize_3 18 rfl rfl)
theorem dJ1_resize_92 : decode cJ1_resize 92 = .ok (.i2f, 1) := dk_134 (dk_at dksJ1_resize_3 20 rfl rfl)
theorem dJ1_resize_93 : decode cJ1_resize 93 = .ok (.aload_n 0, 1) := dk_42 (dk_at dksJ1_resize_3 21 rfl rfl)
theorem dJ1_resize_94 : decode cJ1_resize 94 = .ok (.getfield 81, 3) := dk_180 0 81 (dk_at dksJ1_resize_4 0 rfl rfl)
theorem dJ1_resize_97 : decode cJ1_resize 97 = .ok (.fmul, 1) := dk_106 (dk_at dksJ1_resize_4 3 rfl rfl)
theorem dJ1_resize_98 : decode cJ1_resize 98 = .ok (.fstore 6, 2) := dk_56 6 (dk_at dksJ1_resize_4 4 rfl rfl)
theorem dJ1_resize_100 : decode cJ1_resize 100 = .ok (.iload 4, 2) := dk_21 4 (dk_at dksJ1_resize_4 6 rfl rfl)
theorem dJ1_resize_102 : decode cJ1_resize 102 = .ok (.ldc 42, 2) := dk_18 42 (dk_at dksJ1_resize_4 8 rfl rfl)
theorem dJ1_resize_104 : decode cJ1_resize 104 = .ok (.if_icmp .ge 17, 3) := dk_162 0 17 (dk_at dksJ1_resize_4 10 rfl rfl)
theorem dJ1_resize_107 : decode cJ1_resize 107 = .ok (.fload 6, 2) := dk_23 6 (dk_at dksJ1_resize_4 13 rfl rfl)
theorem dJ1_resize_109 : decode cJ1_resize 109 = .ok (.ldc 210, 2) := dk_18 210 (dk_at dksJ1_resize_4 15 rfl rfl)
theorem dJ1_resize_111 : decode cJ1_resize 111 = .ok (.fcmp .g, 1) := dk_150 (dk_at dksJ1_resize_4 17 rfl rfl)
theorem dJ1_resize_112 : decode cJ1_resize 112 = .ok (.ifCond .ge 9, 3) := dk_156 0 9 (dk_at dksJ1_resize_4 18 rfl rfl)
theorem dJ1_resize_115 : decode cJ1_resize 115 = .ok (.fload 6, 2) := dk_23 6 (dk_at dksJ1_resize_4 21 rfl rfl)
theorem dJ1_resize_117 : decode cJ1_resize 117 = .ok (.f2i, 1) := dk_139 (dk_at dksJ1_resize_4 23 rfl rfl)
theorem dJ1_resize_118 : decode cJ1_resize 118 = .ok (.goto 5, 3) := dk_167 0 5 (dk_at dksJ1_resize_5 0 rfl rfl)
theorem dJ1_resize_121 : decode cJ1_resize 121 = .ok (.ldc 209, 2) := dk_18 209 (dk_at dksJ1_resize_5 3 rfl rfl)
theorem dJ1_resize_123 : decode cJ1_resize 123 = .ok (.istore 5, 2) := dk_54 5 (dk_at dksJ1_resize_5 5 rfl rfl)
theorem dJ1_resize_125 : decode cJ1_resize 125 = .ok (.aload_n 0, 1) := dk_42 (dk_at dksJ1_resize_5 7 rfl rfl)
theorem dJ1_resize_126 : decode cJ1_resize 126 = .ok (.iload 5, 2) := dk_21 5 (dk_at dksJ1_resize_5 8 rfl rfl)
theorem dJ1_resize_128 : decode cJ1_resize 128 = .ok (.putfield 88, 3) := dk_181 0 88 (dk_at dksJ1_resize_5 10 rfl rfl)
theorem dJ1_resize_131 : decode cJ1_resize 131 = .ok (.iload 4, 2) := dk_21 4 (dk_at dksJ1_resize_5 13 rfl rfl)
theorem dJ1_resize_133 : decode cJ1_resize 133 = .ok (.anewarray 163, 3) := dk_189 0 163 (dk_at dksJ1_resize_5 15 rfl rfl)
theorem dJ1_resize_136 : decode cJ1_resize 136 = .ok (.astore 6, 2) := dk_58 6 (dk_at dksJ1_resize_5 18 rfl rfl)
theorem dJ1_resize_138 : decode cJ1_resize 138 = .ok (.aload_n 0, 1) := dk_42 (dk_at dksJ1_resize_5 20 rfl rfl)
theorem dJ1_resize_139 : decode cJ1_resize 139 = .ok (.aload 6, 2) := dk_25 6 (dk_at dksJ1_resize_5 21 rfl rfl)
theorem dJ1_resize_141 : decode cJ1_resize 141 = .ok (.putfield 105, 3) := dk_181 0 105 (dk_at dksJ1_resize_6 0 rfl rfl)
theorem dJ1_resize_144 : decode cJ1_resize 144 = .ok (.aload_n 1, 1) := dk_43 (dk_at dksJ1_resize_6 3 rfl rfl)
theorem dJ1_resize_145 : decode cJ1_resize 145 = .ok (.ifnull 208, 3) := dk_198 0 208 (dk_at dksJ1_resize_6 4 rfl rfl)
theorem dJ1_resize_148 : decode cJ1_resize 148 = .ok (.iconst 0, 1) := dk_3 (dk_at dksJ1_resize_6 7 rfl rfl)
theorem dJ1_resize_149 : decode cJ1_resize 149 = .ok (.istore 7, 2) := dk_54 7 (dk_at dksJ1_resize_6 8 rfl rfl)
theorem dJ1_resize_151 : decode cJ1_resize 151 = .ok (.iload 7, 2) := dk_21 7 (dk_at dksJ1_resize_6 10 rfl rfl)
theorem dJ1_resize_153 : decode cJ1_resize 153 = .ok (.iload_n 2, 1) := dk_28 (dk_at dksJ1_resize_6 12 rfl rfl)
theorem dJ1_resize_154 : decode cJ1_resize 154 = .ok (.if_icmp .ge 199, 3) := dk_162 0 199 (dk_at dksJ1_resize_6 13 rfl rfl)
theorem dJ1_resize_157 : decode cJ1_resize 157 = .ok (.aload_n 1, 1) := dk_43 (dk_at dksJ1_resize_6 16 rfl rfl)
theorem dJ1_resize_158 : decode cJ1_resize 158 = .ok (.iload 7, 2) := dk_21 7 (dk_at dksJ1_resize_6 17 rfl rfl)
theorem dJ1_resize_160 : decode cJ1_resize 160 = .ok (.aaload, 1) := dk_50 (dk_at dksJ1_resize_6 19 rfl rfl)
theorem dJ1_resize_161 : decode cJ1_resize 161 = .ok (.dup, 1) := dk_89 (dk_at dksJ1_resize_6 20 rfl rfl)
theorem dJ1_resize_162 : decode cJ1_resize 162 = .ok (.astore 8, 2) := dk_58 8 (dk_at dksJ1_resize_6 21 rfl rfl)
theorem dJ1_resize_164 : decode cJ1_resize 164 = .ok (.ifnull 183, 3) := dk_198 0 183 (dk_at dksJ1_resize_7 0 rfl rfl)
theorem dJ1_resize_167 : decode cJ1_resize 167 = .ok (.aload_n 1, 1) := dk_43 (dk_at dksJ1_resize_7 3 rfl rfl)
theorem dJ1_resize_168 : decode cJ1_resize 168 = .ok (.iload 7, 2) := dk_21 7 (dk_at dksJ1_resize_7 4 rfl rfl)
theorem dJ1_resize_170 : decode cJ1_resize 170 = .ok (.aconst_null, 1) := dk_1 (dk_at dksJ1_resize_7 6 rfl rfl)
theorem dJ1_resize_171 : decode cJ1_resize 171 = .ok (.aastore, 1) := dk_83 (dk_at dksJ1_resize_7 7 rfl rfl)
theorem dJ1_resize_172 : decode cJ1_resize 172 = .ok (.aload 8, 2) := dk_25 8 (dk_at dksJ1_resize_7 8 rfl rfl)
theorem dJ1_resize_174 : decode cJ1_resize 174 = .ok (.getfield 177, 3) := dk_180 0 177 (dk_at dksJ1_resize_7 10 rfl rfl)
theorem dJ1_resize_177 : decode cJ1_resize 177 = .ok (.ifnonnull 21, 3) := dk_199 0 21 (dk_at dksJ1_resize_7 13 rfl rfl)
theorem dJ1_resize_180 : decode cJ1_resize 180 = .ok (.aload 6, 2) := dk_25 6 (dk_at dksJ1_resize_7 16 rfl rfl)
theorem dJ1_resize_182 : decode cJ1_resize 182 = .ok (.aload 8, 2) := dk_25 8 (dk_at dksJ1_resize_7 18 rfl rfl)
theorem dJ1_resize_184 : decode cJ1_resize 184 = .ok (.getfield 168, 3) := dk_180 0 168 (dk_at dksJ1_resize_7 20 rfl rfl)
theorem dJ1_resize_187 : decode cJ1_resize 187 = .ok (.iload 4, 2) := dk_21 4 (dk_at dksJ1_resize_8 0 rfl rfl)
theorem dJ1_resize_189 : decode cJ1_resize 189 = .ok (.iconst 1, 1) := dk_4 (dk_at dksJ1_resize_8 2 rfl rfl)
theorem dJ1_resize_190 : decode cJ1_resize 190 = .ok (.isub, 1) := dk_100 (dk_at dksJ1_resize_8 3 rfl rfl)
theorem dJ1_resize_191 : decode cJ1_resize 191 = .ok (.iand, 1) := dk_126 (dk_at dksJ1_resize_8 4 rfl rfl)
theorem dJ1_resize_192 : decode cJ1_resize 192 = .ok (.aload 8, 2) := dk_25 8 (dk_at dksJ1_resize_8 5 rfl rfl)
theorem dJ1_resize_194 : decode cJ1_resize 194 = .ok (.aastore, 1) := dk_83 (dk_at dksJ1_resize_8 7 rfl rfl)
theorem dJ1_resize_195 : decode cJ1_resize 195 = .ok (.goto 152, 3) := dk_167 0 152 (dk_at dksJ1_resize_8 8 rfl rfl)
theorem dJ1_resize_198 : decode cJ1_resize 198 = .ok (.aload 8, 2) := dk_25 8 (dk_at dksJ1_resize_8 11 rfl rfl)
theorem dJ1_resize_200 : decode cJ1_resize 200 = .ok (.instanceof 180, 3) := dk_193 0 180 (dk_at dksJ1_resize_8 13 rfl rfl)
theorem dJ1_resize_203 : decode cJ1_resize 203 = .ok (.ifCond .eq 20, 3) := dk_153 0 20 (dk_at dksJ1_resize_8 16 rfl rfl)
theorem dJ1_resize_206 : decode cJ1_resize 206 = .ok (.aload 8, 2) := dk_25 8 (dk_at dksJ1_resize_8 19 rfl rfl)
theorem dJ1_resize_208 : decode cJ1_resize 208 = .ok (.checkcast 180, 3) := dk_192 0 180 (dk_at dksJ1_resize_8 21 rfl rfl)
theorem dJ1_resize_211 : decode cJ1_resize 211 = .ok (.aload_n 0, 1) := dk_42 (dk_at dksJ1_resize_9 0 rfl rfl)
theorem dJ1_resize_212 : decode cJ1_resize 212 = .ok (.aload 6, 2) := dk_25 6 (dk_at dksJ1_resize_9 1 rfl rfl)
theorem dJ1_resize_214 : decode cJ1_resize 214 = .ok (.iload 7, 2) := dk_21 7 (dk_at dksJ1_resize_9 3 rfl rfl)
theorem dJ1_resize_216 : decode cJ1_resize 216 = .ok (.iload_n 2, 1) := dk_28 (dk_at dksJ1_resize_9 5 rfl rfl)
theorem dJ1_resize_217 : decode cJ1_resize 217 = .ok (.invokevirtual 211, 3) := dk_182 0 211 (dk_at dksJ1_resize_9 6 rfl rfl)
theorem dJ1_resize_220 : decode cJ1_resize 220 = .ok (.goto 127, 3) := dk_167 0 127 (dk_at dksJ1_resize_9 9 rfl rfl)
theorem dJ1_resize_223 : decode cJ1_resize 223 = .ok (.aconst_null, 1) := dk_1 (dk_at dksJ1_resize_9 12 rfl rfl)
theorem dJ1_resize_224 : decode cJ1_resize 224 = .ok (.astore 9, 2) := dk_58 9 (dk_at dksJ1_resize_9 13 rfl rfl)
theorem dJ1_resize_226 : decode cJ1_resize 226 = .ok (.aconst_null, 1) := dk_1 (dk_at dksJ1_resize_9 15 rfl rfl)
theorem dJ1_resize_227 : decode cJ1_resize 227 = .ok (.astore 10, 2) := dk_58 10 (dk_at dksJ1_resize_9 16 rfl rfl)
theorem dJ1_resize_229 : decode cJ1_resize 229 = .ok (.aconst_null, 1) := dk_1 (dk_at dksJ1_resize_9 18 rfl rfl)
theorem dJ1_resize_230 : decode cJ1_resize 230 = .ok (.astore 11, 2) := dk_58 11 (dk_at dksJ1_resize_9 19 rfl rfl)
theorem dJ1_resize_232 : decode cJ1_resize 232 = .ok (.aconst_null, 1) := dk_1 (dk_at dksJ1_resize_9 21 rfl rfl)
theorem dJ1_resize_233 : decode cJ1_resize 233 = .ok (.astore 12, 2) := dk_58 12 (dk_at dksJ1_resize_9 22 rfl rfl)
theorem dJ1_resize_235 : decode cJ1_resize 235 = .ok (.aload 8, 2) := dk_25 8 (dk_at dksJ1_resize_10 0 rfl rfl)
theorem dJ1_resize_237 : decode cJ1_resize 237 = .ok (.getfield 177, 3) := dk_180 0 177 (dk_at dksJ1_resize_10 2 rfl rfl)
theorem dJ1_resize_240 : decode cJ1_resize 240 = .ok (.astore 13, 2) := dk_58 13 (dk_at dksJ1_resize_10 5 rfl rfl)
theorem dJ1_resize_242 : decode cJ1_resize 242 = .ok (.aload 8, 2) := dk_25 8 (dk_at dksJ1_resize_10 7 rfl rfl)
theorem dJ1_resize_244 : decode cJ1_resize 244 = .ok (.getfield 168, 3) := dk_180 0 168 (dk_at dksJ1_resize_10 9 rfl rfl)
theorem dJ1_resize_247 : decode cJ1_resize 247 = .ok (.iload_n 2, 1) := dk_28 (dk_at dksJ1_resize_10 12 rfl rfl)
theorem dJ1_resize_248 : decode cJ1_resize 248 = .ok (.iand, 1) := dk_126 (dk_at dksJ1_resize_10 13 rfl rfl)
theorem dJ1_resize_249 : decode cJ1_resize 249 = .ok (.ifCond .ne 29, 3) := dk_154 0 29 (dk_at dksJ1_resize_10 14 rfl rfl)
theorem dJ1_resize_252 : decode cJ1_resize 252 = .ok (.aload 10, 2) := dk_25 10 (dk_at dksJ1_resize_10 17 rfl rfl)
theorem dJ1_resize_254 : decode cJ1_resize 254 = .ok (.ifnonnull 10, 3) := dk_199 0 10 (dk_at dksJ1_resize_10 19 rfl rfl)
theorem dJ1_resize_257 : decode cJ1_resize 257 = .ok (.aload 8, 2) := dk_25 8 (dk_at dksJ1_resize_10 22 rfl rfl)
theorem dJ1_resize_259 : decode cJ1_resize 259 = .ok (.astore 9, 2) := dk_58 9 (dk_at dksJ1_resize_11 0 rfl rfl)
theorem dJ1_resize_261 : decode cJ1_resize 261 = .ok (.goto 10, 3) := dk_167 0 10 (dk_at dksJ1_resize_11 2 rfl rfl)
theorem dJ1_resize_264 : decode cJ1_resize 264 = .ok (.aload 10, 2) := dk_25 10 (dk_at dksJ1_resize_11 5 rfl rfl)
theorem dJ1_resize_266 : decode cJ1_resize 266 = .ok (.aload 8, 2) := dk_25 8 (dk_at dksJ1_resize_11 7 rfl rfl)
theorem dJ1_resize_268 : decode cJ1_resize 268 = .ok (.putfield 177, 3) := dk_181 0 177 (dk_at dksJ1_resize_11 9 rfl rfl)
theorem dJ1_resize_271 : decode cJ1_resize 271 = .ok (.aload 8, 2) := dk_25 8 (dk_at dksJ1_resize_11 12 rfl rfl)
theorem dJ1_resize_273 : decode cJ1_resize 273 = .ok (.astore 10, 2) := dk_58 10 (dk_at dksJ1_resize_11 14 rfl rfl)
theorem dJ1_resize_275 : decode cJ1_resize 275 = .ok (.goto 26, 3) := dk_167 0 26 (dk_at dksJ1_resize_11 16 rfl rfl)
theorem dJ1_resize_278 : decode cJ1_resize 278 = .ok (.aload 12, 2) := dk_25 12 (dk_at dksJ1_resize_11 19 rfl rfl)
theorem dJ1_resize_280 : decode cJ1_resize 280 = .ok (.ifnonnull 10, 3) := dk_199 0 10 (dk_at dksJ1_resize_11 21 rfl rfl)
theorem dJ1_resize_283 : decode cJ1_resize 283 = .ok (.aload 8, 2) := dk_25 8 (dk_at dksJ1_resize_12 0 rfl rfl)
theorem dJ1_resize_285 : decode cJ1_resize 285 = .ok (.astore 11, 2) := dk_58 11 (dk_at dksJ1_resize_12 2 rfl rfl)
theorem dJ1_resize_287 : decode cJ1_resize 287 = .ok (.goto 10, 3) := dk_167 0 10 (dk_at dksJ1_resize_12 4 rfl rfl)
theorem dJ1_resize_290 : decode cJ1_resize 290 = .ok (.aload 12, 2) := dk_25 12 (dk_at dksJ1_resize_12 7 rfl rfl)
theorem dJ1_resize_292 : decode cJ1_resize 292 = .ok (.aload 8, 2) := dk_25 8 (dk_at dksJ1_resize_12 9 rfl rfl)
theorem dJ1_resize_294 : decode cJ1_resize 294 = .ok (.putfield 177, 3) := dk_181 0 177 (dk_at dksJ1_resize_12 11 rfl rfl)
theorem dJ1_resize_297 : decode cJ1_resize 297 = .ok (.aload 8, 2) := dk_25 8 (dk_at dksJ1_resize_12 14 rfl rfl)
theorem dJ1_resize_299 : decode cJ1_resize 299 = .ok (.astore 12, 2) := dk_58 12 (dk_at dksJ1_resize_12 16 rfl rfl)
theorem dJ1_resize_301 : decode cJ1_resize 301 = .ok (.aload 13, 2) := dk_25 13 (dk_at dksJ1_resize_12 18 rfl rfl)
theorem dJ1_resize_303 : decode cJ1_resize 303 = .ok (.dup, 1) := dk_89 (dk_at dksJ1_resize_12 20 rfl rfl)
theorem dJ1_resize_304 : decode cJ1_resize 304 = .ok (.astore 8, 2) := dk_58 8 (dk_at dksJ1_resize_12 21 rfl rfl)
theorem dJ1_resize_306 : decode cJ1_resize 306 = .ok (.ifnonnull (-71), 3) := dk_199 255 185 (dk_at dksJ1_resize_13 0 rfl rfl)
theorem dJ1_resize_309 : decode cJ1_resize 309 = .ok (.aload 10, 2) := dk_25 10 (dk_at dksJ1_resize_13 3 rfl rfl)
theorem dJ1_resize_311 : decode cJ1_resize 311 = .ok (.ifnull 16, 3) := dk_198 0 16 (dk_at dksJ1_resize_13 5 rfl rfl)
theorem dJ1_resize_314 : decode cJ1_resize 314 = .ok (.aload 10, 2) := dk_25 10 (dk_at dksJ1_resize_13 8 rfl rfl)
theorem dJ1_resize_316 : decode cJ1_resize 316 = .ok (.aconst_null, 1) := dk_1 (dk_at dksJ1_resize_13 10 rfl rfl)
theorem dJ1_resize_317 : decode cJ1_resize 317 = .ok (.putfield 177, 3) := dk_181 0 177 (dk_at dksJ1_resize_13 11 rfl rfl)
theorem dJ1_resize_320 : decode cJ1_resize 320 = .ok (.aload 6, 2) := dk_25 6 (dk_at dksJ1_resize_13 14 rfl rfl)
theorem dJ1_resize_322 : decode cJ1_resize 322 = .ok (.iload 7, 2) := dk_21 7 (dk_at dksJ1_resize_13 16 rfl rfl)
theorem dJ1_resize_324 : decode cJ1_resize 324 = .ok (.aload 9, 2) := dk_25 9 (dk_at dksJ1_resize_13 18 rfl rfl)
theorem dJ1_resize_326 : decode cJ1_resize 326 = .ok (.aastore, 1) := dk_83 (dk_at dksJ1_resize_13 20 rfl rfl)
theorem dJ1_resize_327 : decode cJ1_resize 327 = .ok (.aload 12, 2) := dk_25 12 (dk_at dksJ1_resize_13 21 rfl rfl)
theorem dJ1_resize_329 : decode cJ1_resize 329 = .ok (.ifnull 18, 3) := dk_198 0 18 (dk_at dksJ1_resize_14 0 rfl rfl)
theorem dJ1_resize_332 : decode cJ1_resize 332 = .ok (.aload 12, 2) := dk_25 12 (dk_at dksJ1_resize_14 3 rfl rfl)
theorem dJ1_resize_334 : decode cJ1_resize 334 = .ok (.aconst_null, 1) := dk_1 (dk_at dksJ1_resize_14 5 rfl rfl)
theorem dJ1_resize_335 : decode cJ1_resize 335 = .ok (.putfield 177, 3) := dk_181 0 177 (dk_at dksJ1_resize_14 6 rfl rfl)
theorem dJ1_resize_338 : decode cJ1_resize 338 = .ok (.aload 6, 2) := dk_25 6 (dk_at dksJ1_resize_14 9 rfl rfl)
theorem dJ1_resize_340 : decode cJ1_resize 340 = .ok (.iload 7, 2) := dk_21 7 (dk_at dksJ1_resize_14 11 rfl rfl)
theorem dJ1_resize_342 : decode cJ1_resize 342 = .ok (.iload_n 2, 1) := dk_28 (dk_at dksJ1_resize_14 13 rfl rfl)
theorem dJ1_resize_343 : decode cJ1_resize 343 = .ok (.iadd, 1) := dk_96 (dk_at dksJ1_resize_14 14 rfl rfl)
theorem dJ1_resize_344 : decode cJ1_resize 344 = .ok (.aload 11, 2) := dk_25 11 (dk_at dksJ1_resize_14 15 rfl rfl)
theorem dJ1_resize_346 : decode cJ1_resize 346 = .ok (.aastore, 1) := dk_83 (dk_at dksJ1_resize_14 17 rfl rfl)
theorem dJ1_resize_347 : decode cJ1_resize 347 = .ok (.iinc 7 1, 3) := dk_132 7 1 (dk_at dksJ1_resize_14 18 rfl rfl)
theorem dJ1_resize_350 : decode cJ1_resize 350 = .ok (.goto (-199), 3) := dk_167 255 57 (dk_at dksJ1_resize_14 21 rfl rfl)
theorem dJ1_resize_353 : decode cJ1_resize 353 = .ok (.aload 6, 2) := dk_25 6 (dk_at dksJ1_resize_15 0 rfl rfl)
theorem dJ1_resize_355 : decode cJ1_resize 355 = .ok (.areturn, 1) := dk_176 (dk_at dksJ1_resize_15 2 rfl rfl)
abbrev cJ1_treeifyBin : ByteArray := prog_57_method_18_code
def yJ1_treeifyBin : MethodName := ⟨RJ1, "treeifyBin", "([Ljava/util/HashMap$Node;I)V"⟩
def dkwJ1_treeifyBin_4 : List UInt8 := [21, 4, 25, 6, 91, 83, 198, 0, 9, 25, 6, 43, 182, 0, 224, 177]
abbrev dktJ1_treeifyBin_4 : List UInt8 := dkwJ1_treeifyBin_4 ++ []
def dkwJ1_treeifyBin_3 : List UInt8 := [25, 7, 25, 8, 181, 0, 223, 25, 8, 58, 7, 25, 5, 180, 0, 177, 89, 58, 5, 199, 255, 209, 43]
abbrev dktJ1_treeifyBin_3 : List UInt8 := dkwJ1_treeifyBin_3 ++ dktJ1_treeifyBin_4
def dkwJ1_treeifyBin_2 : List UInt8 := [182, 0, 215, 58, 8, 25, 7, 199, 0, 10, 25, 8, 58, 6, 167, 0, 17, 25, 8, 25, 7, 181, 0, 219]
abbrev dktJ1_treeifyBin_2 : List UInt8 := dkwJ1_treeifyBin_2 ++ dktJ1_treeifyBin_3
def dkwJ1_treeifyBin_1 : List UInt8 := [100, 28, 126, 89, 54, 4, 50, 89, 58, 5, 198, 0, 75, 1, 58, 6, 1, 58, 7, 42, 25, 5, 1]
abbrev dktJ1_treeifyBin_1 : List UInt8 := dkwJ1_treeifyBin_1 ++ dktJ1_treeifyBin_2
def dkwJ1_treeifyBin_0 : List UInt8 := [43, 198, 0, 12, 43, 190, 89, 62, 16, 64, 162, 0, 11, 42, 182, 0, 117, 87, 167, 0, 91, 43, 29, 4]
abbrev dktJ1_treeifyBin_0 : List UInt8 := dkwJ1_treeifyBin_0 ++ dktJ1_treeifyBin_1
theorem dksJ1_treeifyBin_0 : cJ1_treeifyBin.data.toList.drop 0 = dktJ1_treeifyBin_0 := by decide +kernel
theorem dksJ1_treeifyBin_1 : cJ1_treeifyBin.data.toList.drop 24 = dktJ1_treeifyBin_1 := dk_seg dksJ1_treeifyBin_0 24 rfl rfl
theorem dksJ1_treeifyBin_2 : cJ1_treeifyBin.data.toList.drop 47 = dktJ1_treeifyBin_2 := dk_seg dksJ1_treeifyBin_1 23 rfl rfl
theorem dksJ1_treeifyBin_3 : cJ1_treeifyBin.data.toList.drop 71 = dktJ1_treeifyBin_3 := dk_seg dksJ1_treeifyBin_2 24 rfl rfl
theorem dksJ1_treeifyBin_4 : cJ1_treeifyBin.data.toList.drop 94 = dktJ1_treeifyBin_4 := dk_seg dksJ1_treeifyBin_3 23 rfl rfl
theorem dJ1_treeifyBin_0 : decode cJ1_treeifyBin 0 = .ok (.aload_n 1, 1) := dk_43 (dk_at dksJ1_treeifyBin_0 0 rfl rfl)
theorem dJ1_treeifyBin_1 : decode cJ1_treeifyBin 1 = .ok (.ifnull 12, 3) := dk_198 0 12 (dk_at dksJ1_treeifyBin_0 1 rfl rfl)
theorem dJ1_treeifyBin_4 : decode cJ1_treeifyBin 4 = .ok (.aload_n 1, 1) := dk_43 (dk_at dksJ1_treeifyBin_0 4 rfl rfl)
theorem dJ1_treeifyBin_5 : decode cJ1_treeifyBin 5 = .ok (.arraylength, 1) := dk_190 (dk_at dksJ1_treeifyBin_0 5 rfl rfl)
theorem dJ1_treeifyBin_6 : decode cJ1_treeifyBin 6 = .ok (.dup, 1) := dk_89 (dk_at dksJ1_treeifyBin_0 6 rfl rfl)
theorem dJ1_treeifyBin_7 : decode cJ1_treeifyBin 7 = .ok (.istore_n 3, 1) := dk_62 (dk_at dksJ1_treeifyBin_0 7 rfl rfl)
theorem dJ1_treeifyBin_8 : decode cJ1_treeifyBin 8 = .ok (.bipush 64, 2) := dk_16 64 (dk_at dksJ1_treeifyBin_0 8 rfl rfl)
theorem dJ1_treeifyBin_10 : decode cJ1_treeifyBin 10 = .ok (.if_icmp .ge 11, 3) := dk_162 0 11 (dk_at dksJ1_treeifyBin_0 10 rfl rfl)
theorem dJ1_treeifyBin_13 : decode cJ1_treeifyBin 13 = .ok (.aload_n 0, 1) := dk_42 (dk_at dksJ1_treeifyBin_0 13 rfl rfl)
theorem dJ1_treeifyBin_14 : decode cJ1_treeifyBin 14 = .ok (.invokevirtual 117, 3) := dk_182 0 117 (dk_at dksJ1_treeifyBin_0 14 rfl rfl)
theorem dJ1_treeifyBin_17 : decode cJ1_treeifyBin 17 = .ok (.pop, 1) := dk_87 (dk_at dksJ1_treeifyBin_0 17 rfl rfl)
theorem dJ1_treeifyBin_18 : decode cJ1_treeifyBin 18 = .ok (.goto 91, 3) := dk_167 0 91 (dk_at dksJ1_treeifyBin_0 18 rfl rfl)
theorem dJ1_treeifyBin_21 : decode cJ1_treeifyBin 21 = .ok (.aload_n 1, 1) := dk_43 (dk_at dksJ1_treeifyBin_0 21 rfl rfl)
theorem dJ1_treeifyBin_22 : decode cJ1_treeifyBin 22 = .ok (.iload_n 3, 1) := dk_29 (dk_at dksJ1_treeifyBin_0 22 rfl rfl)
theorem dJ1_treeifyBin_23 : decode cJ1_treeifyBin 23 = .ok (.iconst 1, 1) := dk_4 (dk_at dksJ1_treeifyBin_0 23 rfl rfl)
theorem dJ1_treeifyBin_24 : decode cJ1_treeifyBin 24 = .ok (.isub, 1) := dk_100 (dk_at dksJ1_treeifyBin_1 0 rfl rfl)
theorem dJ1_treeifyBin_25 : decode cJ1_treeifyBin 25 = .ok (.iload_n 2, 1) := dk_28 (dk_at dksJ1_treeifyBin_1 1 rfl rfl)
theorem dJ1_treeifyBin_26 : decode cJ1_treeifyBin 26 = .ok (.iand, 1) := dk_126 (dk_at dksJ1_treeifyBin_1 2 rfl rfl)
theorem dJ1_treeifyBin_27 : decode cJ1_treeifyBin 27 = .ok (.dup, 1) := dk_89 (dk_at dksJ1_treeifyBin_1 3 rfl rfl)
theorem dJ1_treeifyBin_28 : decode cJ1_treeifyBin 28 = .ok (.istore 4, 2) := dk_54 4 (dk_at dksJ1_treeifyBin_1 4 rfl rfl)
theorem dJ1_treeifyBin_30 : decode cJ1_treeifyBin 30 = .ok (.aaload, 1) := dk_50 (dk_at dksJ1_treeifyBin_1 6 rfl rfl)
theorem dJ1_treeifyBin_31 : decode cJ1_treeifyBin 31 = .ok (.dup, 1) := dk_89 (dk_at dksJ1_treeifyBin_1 7 rfl rfl)
theorem dJ1_treeifyBin_32 : decode cJ1_treeifyBin 32 = .ok (.astore 5, 2) := dk_58 5 (dk_at dksJ1_treeifyBin_1 8 rfl rfl)
theorem dJ1_treeifyBin_34 : decode cJ1_treeifyBin 34 = .ok (.ifnull 75, 3) := dk_198 0 75 (dk_at dksJ1_treeifyBin_1 10 rfl rfl)
theorem dJ1_treeifyBin_37 : decode cJ1_treeifyBin 37 = .ok (.aconst_null, 1) := dk_1 (dk_at dksJ1_treeifyBin_1 13 rfl rfl)
theorem dJ1_treeifyBin_38 : decode cJ1_treeifyBin 38 = .ok (.astore 6, 2) := dk_58 6 (dk_at dksJ1_treeifyBin_1 14 rfl rfl)
theorem dJ1_treeifyBin_40 : decode cJ1_treeifyBin 40 = .ok (.aconst_null, 1) := dk_1 (dk_at dksJ1_treeifyBin_1 16 rfl rfl)
theorem dJ1_treeifyBin_41 : decode cJ1_treeifyBin 41 = .ok (.astore 7, 2) := dk_58 7 (dk_at dksJ1_treeifyBin_1 17 rfl rfl)
theorem dJ1_treeifyBin_43 : decode cJ1_treeifyBin 43 = .ok (.aload_n 0, 1) := dk_42 (dk_at dksJ1_treeifyBin_1 19 rfl rfl)
theorem dJ1_treeifyBin_44 : decode cJ1_treeifyBin 44 = .ok (.aload 5, 2) := dk_25 5 (dk_at dksJ1_treeifyBin_1 20 rfl rfl)
theorem dJ1_treeifyBin_46 : decode cJ1_treeifyBin 46 = .ok (.aconst_null, 1) := dk_1 (dk_at dksJ1_treeifyBin_1 22 rfl rfl)
theorem dJ1_treeifyBin_47 : decode cJ1_treeifyBin 47 = .ok (.invokevirtual 215, 3) := dk_182 0 215 (dk_at dksJ1_treeifyBin_2 0 rfl rfl)
theorem dJ1_treeifyBin_50 : decode cJ1_treeifyBin 50 = .ok (.astore 8, 2) := dk_58 8 (dk_at dksJ1_treeifyBin_2 3 rfl rfl)
theorem dJ1_treeifyBin_52 : decode cJ1_treeifyBin 52 = .ok (.aload 7, 2) := dk_25 7 (dk_at dksJ1_treeifyBin_2 5 rfl rfl)
theorem dJ1_treeifyBin_54 : decode cJ1_treeifyBin 54 = .ok (.ifnonnull 10, 3) := dk_199 0 10 (dk_at dksJ1_treeifyBin_2 7 rfl rfl)
theorem dJ1_treeifyBin_57 : decode cJ1_treeifyBin 57 = .ok (.aload 8, 2) := dk_25 8 (dk_at dksJ1_treeifyBin_2 10 rfl rfl)
theorem dJ1_treeifyBin_59 : decode cJ1_treeifyBin 59 = .ok (.astore 6, 2) := dk_58 6 (dk_at dksJ1_treeifyBin_2 12 rfl rfl)
theorem dJ1_treeifyBin_61 : decode cJ1_treeifyBin 61 = .ok (.goto 17, 3) := dk_167 0 17 (dk_at dksJ1_treeifyBin_2 14 rfl rfl)
theorem dJ1_treeifyBin_64 : decode cJ1_treeifyBin 64 = .ok (.aload 8, 2) := dk_25 8 (dk_at dksJ1_treeifyBin_2 17 rfl rfl)
theorem dJ1_treeifyBin_66 : decode cJ1_treeifyBin 66 = .ok (.aload 7, 2) := dk_25 7 (dk_at dksJ1_treeifyBin_2 19 rfl rfl)
theorem dJ1_treeifyBin_68 : decode cJ1_treeifyBin 68 = .ok (.putfield 219, 3) := dk_181 0 219 (dk_at dksJ1_treeifyBin_2 21 rfl rfl)
theorem dJ1_treeifyBin_71 : decode cJ1_treeifyBin 71 = .ok (.aload 7, 2) := dk_25 7 (dk_at dksJ1_treeifyBin_3 0 rfl rfl)
theorem dJ1_treeifyBin_73 : decode cJ1_treeifyBin 73 = .ok (.aload 8, 2) := dk_25 8 (dk_at dksJ1_treeifyBin_3 2 rfl rfl)
theorem dJ1_treeifyBin_75 : decode cJ1_treeifyBin 75 = .ok (.putfield 223, 3) := dk_181 0 223 (dk_at dksJ1_treeifyBin_3 4 rfl rfl)
theorem dJ1_treeifyBin_78 : decode cJ1_treeifyBin 78 = .ok (.aload 8, 2) := dk_25 8 (dk_at dksJ1_treeifyBin_3 7 rfl rfl)
theorem dJ1_treeifyBin_80 : decode cJ1_treeifyBin 80 = .ok (.astore 7, 2) := dk_58 7 (dk_at dksJ1_treeifyBin_3 9 rfl rfl)
theorem dJ1_treeifyBin_82 : decode cJ1_treeifyBin 82 = .ok (.aload 5, 2) := dk_25 5 (dk_at dksJ1_treeifyBin_3 11 rfl rfl)
theorem dJ1_treeifyBin_84 : decode cJ1_treeifyBin 84 = .ok (.getfield 177, 3) := dk_180 0 177 (dk_at dksJ1_treeifyBin_3 13 rfl rfl)
theorem dJ1_treeifyBin_87 : decode cJ1_treeifyBin 87 = .ok (.dup, 1) := dk_89 (dk_at dksJ1_treeifyBin_3 16 rfl rfl)
theorem dJ1_treeifyBin_88 : decode cJ1_treeifyBin 88 = .ok (.astore 5, 2) := dk_58 5 (dk_at dksJ1_treeifyBin_3 17 rfl rfl)
theorem dJ1_treeifyBin_90 : decode cJ1_treeifyBin 90 = .ok (.ifnonnull (-47), 3) := dk_199 255 209 (dk_at dksJ1_treeifyBin_3 19 rfl rfl)
theorem dJ1_treeifyBin_93 : decode cJ1_treeifyBin 93 = .ok (.aload_n 1, 1) := dk_43 (dk_at dksJ1_treeifyBin_3 22 rfl rfl)
theorem dJ1_treeifyBin_94 : decode cJ1_treeifyBin 94 = .ok (.iload 4, 2) := dk_21 4 (dk_at dksJ1_treeifyBin_4 0 rfl rfl)
theorem dJ1_treeifyBin_96 : decode cJ1_treeifyBin 96 = .ok (.aload 6, 2) := dk_25 6 (dk_at dksJ1_treeifyBin_4 2 rfl rfl)
theorem dJ1_treeifyBin_98 : decode cJ1_treeifyBin 98 = .ok (.dup_x2, 1) := dk_91 (dk_at dksJ1_treeifyBin_4 4 rfl rfl)
theorem dJ1_treeifyBin_99 : decode cJ1_treeifyBin 99 = .ok (.aastore, 1) := dk_83 (dk_at dksJ1_treeifyBin_4 5 rfl rfl)
theorem dJ1_treeifyBin_100 : decode cJ1_treeifyBin 100 = .ok (.ifnull 9, 3) := dk_198 0 9 (dk_at dksJ1_treeifyBin_4 6 rfl rfl)
theorem dJ1_treeifyBin_103 : decode cJ1_treeifyBin 103 = .ok (.aload 6, 2) := dk_25 6 (dk_at dksJ1_treeifyBin_4 9 rfl rfl)
theorem dJ1_treeifyBin_105 : decode cJ1_treeifyBin 105 = .ok (.aload_n 1, 1) := dk_43 (dk_at dksJ1_treeifyBin_4 11 rfl rfl)
theorem dJ1_treeifyBin_106 : decode cJ1_treeifyBin 106 = .ok (.invokevirtual 224, 3) := dk_182 0 224 (dk_at dksJ1_treeifyBin_4 12 rfl rfl)
theorem dJ1_treeifyBin_109 : decode cJ1_treeifyBin 109 = .ok (.return_, 1) := dk_177 (dk_at dksJ1_treeifyBin_4 15 rfl rfl)
abbrev cJ1_getNode : ByteArray := prog_57_method_13_code
def yJ1_getNode : MethodName := ⟨RJ1, "getNode", "(Ljava/lang/Object;)Ljava/util/HashMap$Node;"⟩
def dkwJ1_getNode_6 : List UInt8 := [89, 58, 4, 199, 255, 210, 1, 176]
abbrev dktJ1_getNode_6 : List UInt8 := dkwJ1_getNode_6 ++ []
def dkwJ1_getNode_5 : List UInt8 := [165, 0, 16, 43, 198, 0, 15, 43, 25, 7, 182, 0, 173, 153, 0, 6, 25, 4, 176, 25, 4, 180, 0, 177]
abbrev dktJ1_getNode_5 : List UInt8 := dkwJ1_getNode_5 ++ dktJ1_getNode_6
def dkwJ1_getNode_4 : List UInt8 := [43, 182, 0, 182, 176, 25, 4, 180, 0, 168, 21, 6, 160, 0, 31, 25, 4, 180, 0, 170, 89, 58, 7, 43]
abbrev dktJ1_getNode_4 : List UInt8 := dkwJ1_getNode_4 ++ dktJ1_getNode_5
def dkwJ1_getNode_3 : List UInt8 := [176, 45, 180, 0, 177, 89, 58, 4, 198, 0, 70, 45, 193, 0, 180, 153, 0, 14, 45, 192, 0, 180, 21, 6]
abbrev dktJ1_getNode_3 : List UInt8 := dkwJ1_getNode_3 ++ dktJ1_getNode_4
def dkwJ1_getNode_2 : List UInt8 := [180, 0, 170, 89, 58, 7, 43, 165, 0, 16, 43, 198, 0, 14, 43, 25, 7, 182, 0, 173, 153, 0, 5, 45]
abbrev dktJ1_getNode_2 : List UInt8 := dkwJ1_getNode_2 ++ dktJ1_getNode_3
def dkwJ1_getNode_1 : List UInt8 := [184, 0, 149, 89, 54, 6, 126, 50, 89, 78, 198, 0, 115, 45, 180, 0, 168, 21, 6, 160, 0, 29, 45]
abbrev dktJ1_getNode_1 : List UInt8 := dkwJ1_getNode_1 ++ dktJ1_getNode_2
def dkwJ1_getNode_0 : List UInt8 := [42, 180, 0, 105, 89, 77, 198, 0, 142, 44, 190, 89, 54, 5, 158, 0, 134, 44, 21, 5, 4, 100, 43]
abbrev dktJ1_getNode_0 : List UInt8 := dkwJ1_getNode_0 ++ dktJ1_getNode_1
theorem dksJ1_getNode_0 : cJ1_getNode.data.toList.drop 0 = dktJ1_getNode_0 := by decide +kernel
theorem dksJ1_getNode_1 : cJ1_getNode.data.toList.drop 23 = dktJ1_getNode_1 := dk_seg dksJ1_getNode_0 23 rfl rfl
theorem dksJ1_getNode_2 : cJ1_getNode.data.toList.drop 46 = dktJ1_getNode_2 := dk_seg dksJ1_getNode_1 23 rfl rfl
theorem dksJ1_getNode_3 : cJ1_getNode.data.toList.drop 70 = dktJ1_getNode_3 := dk_seg dksJ1_getNode_2 24 rfl rfl
theorem dksJ1_getNode_4 : cJ1_getNode.data.toList.drop 94 = dktJ1_getNode_4 := dk_seg dksJ1_getNode_3 24 rfl rfl
theorem dksJ1_getNode_5 : cJ1_getNode.data.toList.drop 118 = dktJ1_getNode_5 := dk_seg dksJ1_getNode_4 24 rfl rfl
theorem dksJ1_getNode_6 : cJ1_getNode.data.toList.drop 142 = dktJ1_getNode_6 := dk_seg dksJ1_getNode_5 24 rfl rfl
theorem dJ1_getNode_0 : decode cJ1_getNode 0 = .ok (.aload_n 0, 1) := dk_42 (dk_at dksJ1_getNode_0 0 rfl rfl)
theorem dJ1_getNode_1 : decode cJ1_getNode 1 = .ok (.getfield 105, 3) := dk_180 0 105 (dk_at dksJ1_getNode_0 1 rfl rfl)
theorem dJ1_getNode_4 : decode cJ1_getNode 4 = .ok (.dup, 1) := dk_89 (dk_at dksJ1_getNode_0 4 rfl rfl)
theorem dJ1_getNode_5 : decode cJ1_getNode 5 = .ok (.astore_n 2, 1) := dk_77 (dk_at dksJ1_getNode_0 5 rfl rfl)
theorem dJ1_getNode_6 : decode cJ1_getNode 6 = .ok (.ifnull 142, 3) := dk_198 0 142 (dk_at dksJ1_getNode_0 6 rfl rfl)
theorem dJ1_getNode_9 : decode cJ1_getNode 9 = .ok (.aload_n 2, 1) := dk_44 (dk_at dksJ1_getNode_0 9 rfl rfl)
theorem dJ1_getNode_10 : decode cJ1_getNode 10 = .ok (.arraylength, 1) := dk_190 (dk_at dksJ1_getNode_0 10 rfl rfl)
theorem dJ1_getNode_11 : decode cJ1_getNode 11 = .ok (.dup, 1) := dk_89 (dk_at dksJ1_getNode_0 11 rfl rfl)
theorem dJ1_getNode_12 : decode cJ1_getNode 12 = .ok (.istore 5, 2) := dk_54 5 (dk_at dksJ1_getNode_0 12 rfl rfl)
theorem dJ1_getNode_14 : decode cJ1_getNode 14 = .ok (.ifCond .le 134, 3) := dk_158 0 134 (dk_at dksJ1_getNode_0 14 rfl rfl)
theorem dJ1_getNode_17 : decode cJ1_getNode 17 = .ok (.aload_n 2, 1) := dk_44 (dk_at dksJ1_getNode_0 17 rfl rfl)
theorem dJ1_getNode_18 : decode cJ1_getNode 18 = .ok (.iload 5, 2) := dk_21 5 (dk_at dksJ1_getNode_0 18 rfl rfl)
theorem dJ1_getNode_20 : decode cJ1_getNode 20 = .ok (.iconst 1, 1) := dk_4 (dk_at dksJ1_getNode_0 20 rfl rfl)
theorem dJ1_getNode_21 : decode cJ1_getNode 21 = .ok (.isub, 1) := dk_100 (dk_at dksJ1_getNode_0 21 rfl rfl)
theorem dJ1_getNode_22 : decode cJ1_getNode 22 = .ok (.aload_n 1, 1) := dk_43 (dk_at dksJ1_getNode_0 22 rfl rfl)
theorem dJ1_getNode_23 : decode cJ1_getNode 23 = .ok (.invokestatic 149, 3) := dk_184 0 149 (dk_at dksJ1_getNode_1 0 rfl rfl)
theorem dJ1_getNode_26 : decode cJ1_getNode 26 = .ok (.dup, 1) := dk_89 (dk_at dksJ1_getNode_1 3 rfl rfl)
theorem dJ1_getNode_27 : decode cJ1_getNode 27 = .ok (.istore 6, 2) := dk_54 6 (dk_at dksJ1_getNode_1 4 rfl rfl)
theorem dJ1_getNode_29 : decode cJ1_getNode 29 = .ok (.iand, 1) := dk_126 (dk_at dksJ1_getNode_1 6 rfl rfl)
theorem dJ1_getNode_30 : decode cJ1_getNode 30 = .ok (.aaload, 1) := dk_50 (dk_at dksJ1_getNode_1 7 rfl rfl)
theorem dJ1_getNode_31 : decode cJ1_getNode 31 = .ok (.dup, 1) := dk_89 (dk_at dksJ1_getNode_1 8 rfl rfl)
theorem dJ1_getNode_32 : decode cJ1_getNode 32 = .ok (.astore_n 3, 1) := dk_78 (dk_at dksJ1_getNode_1 9 rfl rfl)
theorem dJ1_getNode_33 : decode cJ1_getNode 33 = .ok (.ifnull 115, 3) := dk_198 0 115 (dk_at dksJ1_getNode_1 10 rfl rfl)
theorem dJ1_getNode_36 : decode cJ1_getNode 36 = .ok (.aload_n 3, 1) := dk_45 (dk_at dksJ1_getNode_1 13 rfl rfl)
theorem dJ1_getNode_37 : decode cJ1_getNode 37 = .ok (.getfield 168, 3) := dk_180 0 168 (dk_at dksJ1_getNode_1 14 rfl rfl)
theorem dJ1_getNode_40 : decode cJ1_getNode 40 = .ok (.iload 6, 2) := dk_21 6 (dk_at dksJ1_getNode_1 17 rfl rfl)
theorem dJ1_getNode_42 : decode cJ1_getNode 42 = .ok (.if_icmp .ne 29, 3) := dk_160 0 29 (dk_at dksJ1_getNode_1 19 rfl rfl)
theorem dJ1_getNode_45 : decode cJ1_getNode 45 = .ok (.aload_n 3, 1) := dk_45 (dk_at dksJ1_getNode_1 22 rfl rfl)
theorem dJ1_getNode_46 : decode cJ1_getNode 46 = .ok (.getfield 170, 3) := dk_180 0 170 (dk_at dksJ1_getNode_2 0 rfl rfl)
theorem dJ1_getNode_49 : decode cJ1_getNode 49 = .ok (.dup, 1) := dk_89 (dk_at dksJ1_getNode_2 3 rfl rfl)
theorem dJ1_getNode_50 : decode cJ1_getNode 50 = .ok (.astore 7, 2) := dk_58 7 (dk_at dksJ1_getNode_2 4 rfl rfl)
theorem dJ1_getNode_52 : decode cJ1_getNode 52 = .ok (.aload_n 1, 1) := dk_43 (dk_at dksJ1_getNode_2 6 rfl rfl)
theorem dJ1_getNode_53 : decode cJ1_getNode 53 = .ok (.if_acmp .eq 16, 3) := dk_165 0 16 (dk_at dksJ1_getNode_2 7 rfl rfl)
theorem dJ1_getNode_56 : decode cJ1_getNode 56 = .ok (.aload_n 1, 1) := dk_43 (dk_at dksJ1_getNode_2 10 rfl rfl)
theorem dJ1_getNode_57 : decode cJ1_getNode 57 = .ok (.ifnull 14, 3) := dk_198 0 14 (dk_at dksJ1_getNode_2 11 rfl rfl)
theorem dJ1_getNode_60 : decode cJ1_getNode 60 = .ok (.aload_n 1, 1) := dk_43 (dk_at dksJ1_getNode_2 14 rfl rfl)
theorem dJ1_getNode_61 : decode cJ1_getNode 61 = .ok (.aload 7, 2) := dk_25 7 (dk_at dksJ1_getNode_2 15 rfl rfl)
theorem dJ1_getNode_63 : decode cJ1_getNode 63 = .ok (.invokevirtual 173, 3) := dk_182 0 173 (dk_at dksJ1_getNode_2 17 rfl rfl)
theorem dJ1_getNode_66 : decode cJ1_getNode 66 = .ok (.ifCond .eq 5, 3) := dk_153 0 5 (dk_at dksJ1_getNode_2 20 rfl rfl)
theorem dJ1_getNode_69 : decode cJ1_getNode 69 = .ok (.aload_n 3, 1) := dk_45 (dk_at dksJ1_getNode_2 23 rfl rfl)
theorem dJ1_getNode_70 : decode cJ1_getNode 70 = .ok (.areturn, 1) := dk_176 (dk_at dksJ1_getNode_3 0 rfl rfl)
theorem dJ1_getNode_71 : decode cJ1_getNode 71 = .ok (.aload_n 3, 1) := dk_45 (dk_at dksJ1_getNode_3 1 rfl rfl)
theorem dJ1_getNode_72 : decode cJ1_getNode 72 = .ok (.getfield 177, 3) := dk_180 0 177 (dk_at dksJ1_getNode_3 2 rfl rfl)
theorem dJ1_getNode_75 : decode cJ1_getNode 75 = .ok (.dup, 1) := dk_89 (dk_at dksJ1_getNode_3 5 rfl rfl)
theorem dJ1_getNode_76 : decode cJ1_getNode 76 = .ok (.astore 4, 2) := dk_58 4 (dk_at dksJ1_getNode_3 6 rfl rfl)
theorem dJ1_getNode_78 : decode cJ1_getNode 78 = .ok (.ifnull 70, 3) := dk_198 0 70 (dk_at dksJ1_getNode_3 8 rfl rfl)
theorem dJ1_getNode_81 : decode cJ1_getNode 81 = .ok (.aload_n 3, 1) := dk_45 (dk_at dksJ1_getNode_3 11 rfl rfl)
theorem dJ1_getNode_82 : decode cJ1_getNode 82 = .ok (.instanceof 180, 3) := dk_193 0 180 (dk_at dksJ1_getNode_3 12 rfl rfl)
theorem dJ1_getNode_85 : decode cJ1_getNode 85 = .ok (.ifCond .eq 14, 3) := dk_153 0 14 (dk_at dksJ1_getNode_3 15 rfl rfl)
theorem dJ1_getNode_88 : decode cJ1_getNode 88 = .ok (.aload_n 3, 1) := dk_45 (dk_at dksJ1_getNode_3 18 rfl rfl)
theorem dJ1_getNode_89 : decode cJ1_getNode 89 = .ok (.checkcast 180, 3) := dk_192 0 180 (dk_at dksJ1_getNode_3 19 rfl rfl)
theorem dJ1_getNode_92 : decode cJ1_getNode 92 = .ok (.iload 6, 2) := dk_21 6 (dk_at dksJ1_getNode_3 22 rfl rfl)
theorem dJ1_getNode_94 : decode cJ1_getNode 94 = .ok (.aload_n 1, 1) := dk_43 (dk_at dksJ1_getNode_4 0 rfl rfl)
theorem dJ1_getNode_95 : decode cJ1_getNode 95 = .ok (.invokevirtual 182, 3) := dk_182 0 182 (dk_at dksJ1_getNode_4 1 rfl rfl)
theorem dJ1_getNode_98 : decode cJ1_getNode 98 = .ok (.areturn, 1) := dk_176 (dk_at dksJ1_getNode_4 4 rfl rfl)
theorem dJ1_getNode_99 : decode cJ1_getNode 99 = .ok (.aload 4, 2) := dk_25 4 (dk_at dksJ1_getNode_4 5 rfl rfl)
theorem dJ1_getNode_101 : decode cJ1_getNode 101 = .ok (.getfield 168, 3) := dk_180 0 168 (dk_at dksJ1_getNode_4 7 rfl rfl)
theorem dJ1_getNode_104 : decode cJ1_getNode 104 = .ok (.iload 6, 2) := dk_21 6 (dk_at dksJ1_getNode_4 10 rfl rfl)
theorem dJ1_getNode_106 : decode cJ1_getNode 106 = .ok (.if_icmp .ne 31, 3) := dk_160 0 31 (dk_at dksJ1_getNode_4 12 rfl rfl)
theorem dJ1_getNode_109 : decode cJ1_getNode 109 = .ok (.aload 4, 2) := dk_25 4 (dk_at dksJ1_getNode_4 15 rfl rfl)
theorem dJ1_getNode_111 : decode cJ1_getNode 111 = .ok (.getfield 170, 3) := dk_180 0 170 (dk_at dksJ1_getNode_4 17 rfl rfl)
theorem dJ1_getNode_114 : decode cJ1_getNode 114 = .ok (.dup, 1) := dk_89 (dk_at dksJ1_getNode_4 20 rfl rfl)
theorem dJ1_getNode_115 : decode cJ1_getNode 115 = .ok (.astore 7, 2) := dk_58 7 (dk_at dksJ1_getNode_4 21 rfl rfl)
theorem dJ1_getNode_117 : decode cJ1_getNode 117 = .ok (.aload_n 1, 1) := dk_43 (dk_at dksJ1_getNode_4 23 rfl rfl)
theorem dJ1_getNode_118 : decode cJ1_getNode 118 = .ok (.if_acmp .eq 16, 3) := dk_165 0 16 (dk_at dksJ1_getNode_5 0 rfl rfl)
theorem dJ1_getNode_121 : decode cJ1_getNode 121 = .ok (.aload_n 1, 1) := dk_43 (dk_at dksJ1_getNode_5 3 rfl rfl)
theorem dJ1_getNode_122 : decode cJ1_getNode 122 = .ok (.ifnull 15, 3) := dk_198 0 15 (dk_at dksJ1_getNode_5 4 rfl rfl)
theorem dJ1_getNode_125 : decode cJ1_getNode 125 = .ok (.aload_n 1, 1) := dk_43 (dk_at dksJ1_getNode_5 7 rfl rfl)
theorem dJ1_getNode_126 : decode cJ1_getNode 126 = .ok (.aload 7, 2) := dk_25 7 (dk_at dksJ1_getNode_5 8 rfl rfl)
theorem dJ1_getNode_128 : decode cJ1_getNode 128 = .ok (.invokevirtual 173, 3) := dk_182 0 173 (dk_at dksJ1_getNode_5 10 rfl rfl)
theorem dJ1_getNode_131 : decode cJ1_getNode 131 = .ok (.ifCond .eq 6, 3) := dk_153 0 6 (dk_at dksJ1_getNode_5 13 rfl rfl)
theorem dJ1_getNode_134 : decode cJ1_getNode 134 = .ok (.aload 4, 2) := dk_25 4 (dk_at dksJ1_getNode_5 16 rfl rfl)
theorem dJ1_getNode_136 : decode cJ1_getNode 136 = .ok (.areturn, 1) := dk_176 (dk_at dksJ1_getNode_5 18 rfl rfl)
theorem dJ1_getNode_137 : decode cJ1_getNode 137 = .ok (.aload 4, 2) := dk_25 4 (dk_at dksJ1_getNode_5 19 rfl rfl)
theorem dJ1_getNode_139 : decode cJ1_getNode 139 = .ok (.getfield 177, 3) := dk_180 0 177 (dk_at dksJ1_getNode_5 21 rfl rfl)
theorem dJ1_getNode_142 : decode cJ1_getNode 142 = .ok (.dup, 1) := dk_89 (dk_at dksJ1_getNode_6 0 rfl rfl)
theorem dJ1_getNode_143 : decode cJ1_getNode 143 = .ok (.astore 4, 2) := dk_58 4 (dk_at dksJ1_getNode_6 1 rfl rfl)
theorem dJ1_getNode_145 : decode cJ1_getNode 145 = .ok (.ifnonnull (-46), 3) := dk_199 255 210 (dk_at dksJ1_getNode_6 3 rfl rfl)
theorem dJ1_getNode_148 : decode cJ1_getNode 148 = .ok (.aconst_null, 1) := dk_1 (dk_at dksJ1_getNode_6 6 rfl rfl)
theorem dJ1_getNode_149 : decode cJ1_getNode 149 = .ok (.areturn, 1) := dk_176 (dk_at dksJ1_getNode_6 7 rfl rfl)
abbrev cJ1_containsKey : ByteArray := prog_57_method_14_code
def yJ1_containsKey : MethodName := ⟨RJ1, "containsKey", "(Ljava/lang/Object;)Z"⟩
def dkwJ1_containsKey_0 : List UInt8 := [42, 43, 182, 0, 158, 198, 0, 7, 4, 167, 0, 4, 3, 172]
abbrev dktJ1_containsKey_0 : List UInt8 := dkwJ1_containsKey_0 ++ []
theorem dksJ1_containsKey_0 : cJ1_containsKey.data.toList.drop 0 = dktJ1_containsKey_0 := by decide +kernel
theorem dJ1_containsKey_0 : decode cJ1_containsKey 0 = .ok (.aload_n 0, 1) := dk_42 (dk_at dksJ1_containsKey_0 0 rfl rfl)
theorem dJ1_containsKey_1 : decode cJ1_containsKey 1 = .ok (.aload_n 1, 1) := dk_43 (dk_at dksJ1_containsKey_0 1 rfl rfl)
theorem dJ1_containsKey_2 : decode cJ1_containsKey 2 = .ok (.invokevirtual 158, 3) := dk_182 0 158 (dk_at dksJ1_containsKey_0 2 rfl rfl)
theorem dJ1_containsKey_5 : decode cJ1_containsKey 5 = .ok (.ifnull 7, 3) := dk_198 0 7 (dk_at dksJ1_containsKey_0 5 rfl rfl)
theorem dJ1_containsKey_8 : decode cJ1_containsKey 8 = .ok (.iconst 1, 1) := dk_4 (dk_at dksJ1_containsKey_0 8 rfl rfl)
theorem dJ1_containsKey_9 : decode cJ1_containsKey 9 = .ok (.goto 4, 3) := dk_167 0 4 (dk_at dksJ1_containsKey_0 9 rfl rfl)
theorem dJ1_containsKey_12 : decode cJ1_containsKey 12 = .ok (.iconst 0, 1) := dk_3 (dk_at dksJ1_containsKey_0 12 rfl rfl)
theorem dJ1_containsKey_13 : decode cJ1_containsKey 13 = .ok (.ireturn, 1) := dk_172 (dk_at dksJ1_containsKey_0 13 rfl rfl)
abbrev cJ1_remove : ByteArray := prog_57_method_20_code
def yJ1_remove : MethodName := ⟨RJ1, "remove", "(Ljava/lang/Object;)Ljava/lang/Object;"⟩
def dkwJ1_remove_1 : List UInt8 := [180, 0, 162, 176]
abbrev dktJ1_remove_1 : List UInt8 := dkwJ1_remove_1 ++ []
def dkwJ1_remove_0 : List UInt8 := [42, 43, 184, 0, 149, 43, 1, 3, 4, 182, 0, 228, 89, 77, 199, 0, 7, 1, 167, 0, 7, 44]
abbrev dktJ1_remove_0 : List UInt8 := dkwJ1_remove_0 ++ dktJ1_remove_1
theorem dksJ1_remove_0 : cJ1_remove.data.toList.drop 0 = dktJ1_remove_0 := by decide +kernel
theorem dksJ1_remove_1 : cJ1_remove.data.toList.drop 22 = dktJ1_remove_1 := dk_seg dksJ1_remove_0 22 rfl rfl
theorem dJ1_remove_0 : decode cJ1_remove 0 = .ok (.aload_n 0, 1) := dk_42 (dk_at dksJ1_remove_0 0 rfl rfl)
theorem dJ1_remove_1 : decode cJ1_remove 1 = .ok (.aload_n 1, 1) := dk_43 (dk_at dksJ1_remove_0 1 rfl rfl)
theorem dJ1_remove_2 : decode cJ1_remove 2 = .ok (.invokestatic 149, 3) := dk_184 0 149 (dk_at dksJ1_remove_0 2 rfl rfl)
theorem dJ1_remove_5 : decode cJ1_remove 5 = .ok (.aload_n 1, 1) := dk_43 (dk_at dksJ1_remove_0 5 rfl rfl)
theorem dJ1_remove_6 : decode cJ1_remove 6 = .ok (.aconst_null, 1) := dk_1 (dk_at dksJ1_remove_0 6 rfl rfl)
theorem dJ1_remove_7 : decode cJ1_remove 7 = .ok (.iconst 0, 1) := dk_3 (dk_at dksJ1_remove_0 7 rfl rfl)
theorem dJ1_remove_8 : decode cJ1_remove 8 = .ok (.iconst 1, 1) := dk_4 (dk_at dksJ1_remove_0 8 rfl rfl)
theorem dJ1_remove_9 : decode cJ1_remove 9 = .ok (.invokevirtual 228, 3) := dk_182 0 228 (dk_at dksJ1_remove_0 9 rfl rfl)
theorem dJ1_remove_12 : decode cJ1_remove 12 = .ok (.dup, 1) := dk_89 (dk_at dksJ1_remove_0 12 rfl rfl)
theorem dJ1_remove_13 : decode cJ1_remove 13 = .ok (.astore_n 2, 1) := dk_77 (dk_at dksJ1_remove_0 13 rfl rfl)
theorem dJ1_remove_14 : decode cJ1_remove 14 = .ok (.ifnonnull 7, 3) := dk_199 0 7 (dk_at dksJ1_remove_0 14 rfl rfl)
theorem dJ1_remove_17 : decode cJ1_remove 17 = .ok (.aconst_null, 1) := dk_1 (dk_at dksJ1_remove_0 17 rfl rfl)
theorem dJ1_remove_18 : decode cJ1_remove 18 = .ok (.goto 7, 3) := dk_167 0 7 (dk_at dksJ1_remove_0 18 rfl rfl)
theorem dJ1_remove_21 : decode cJ1_remove 21 = .ok (.aload_n 2, 1) := dk_44 (dk_at dksJ1_remove_0 21 rfl rfl)
theorem dJ1_remove_22 : decode cJ1_remove 22 = .ok (.getfield 162, 3) := dk_180 0 162 (dk_at dksJ1_remove_1 0 rfl rfl)
theorem dJ1_remove_25 : decode cJ1_remove 25 = .ok (.areturn, 1) := dk_176 (dk_at dksJ1_remove_1 3 rfl rfl)
abbrev cJ1_size : ByteArray := prog_57_method_10_code
def yJ1_size : MethodName := ⟨RJ1, "size", "()I"⟩
theorem dJ1_size_0 : decode cJ1_size 0 = .ok (.aload_n 0, 1) := by decide +kernel
theorem dJ1_size_1 : decode cJ1_size 1 = .ok (.getfield 156, 3) := by decide +kernel
theorem dJ1_size_4 : decode cJ1_size 4 = .ok (.ireturn, 1) := by decide +kernel
abbrev cJ1_clear : ByteArray := prog_57_method_22_code
def yJ1_clear : MethodName := ⟨RJ1, "clear", "()V"⟩
def dkwJ1_clear_2 : List UInt8 := [167, 255, 243, 177]
abbrev dktJ1_clear_2 : List UInt8 := dkwJ1_clear_2 ++ []
def dkwJ1_clear_1 : List UInt8 := [158, 0, 26, 42, 3, 181, 0, 156, 3, 61, 28, 43, 190, 162, 0, 13, 43, 28, 1, 83, 132, 2, 1]
abbrev dktJ1_clear_1 : List UInt8 := dkwJ1_clear_1 ++ dktJ1_clear_2
def dkwJ1_clear_0 : List UInt8 := [42, 89, 180, 0, 202, 4, 96, 181, 0, 202, 42, 180, 0, 105, 89, 76, 198, 0, 33, 42, 180, 0, 156]
abbrev dktJ1_clear_0 : List UInt8 := dkwJ1_clear_0 ++ dktJ1_clear_1
theorem dksJ1_clear_0 : cJ1_clear.data.toList.drop 0 = dktJ1_clear_0 := by decide +kernel
theorem dksJ1_clear_1 : cJ1_clear.data.toList.drop 23 = dktJ1_clear_1 := dk_seg dksJ1_clear_0 23 rfl rfl
theorem dksJ1_clear_2 : cJ1_clear.data.toList.drop 46 = dktJ1_clear_2 := dk_seg dksJ1_clear_1 23 rfl rfl
theorem dJ1_clear_0 : decode cJ1_clear 0 = .ok (.aload_n 0, 1) := dk_42 (dk_at dksJ1_clear_0 0 rfl rfl)
theorem dJ1_clear_1 : decode cJ1_clear 1 = .ok (.dup, 1) := dk_89 (dk_at dksJ1_clear_0 1 rfl rfl)
theorem dJ1_clear_2 : decode cJ1_clear 2 = .ok (.getfield 202, 3) := dk_180 0 202 (dk_at dksJ1_clear_0 2 rfl rfl)
theorem dJ1_clear_5 : decode cJ1_clear 5 = .ok (.iconst 1, 1) := dk_4 (dk_at dksJ1_clear_0 5 rfl rfl)
theorem dJ1_clear_6 : decode cJ1_clear 6 = .ok (.iadd, 1) := dk_96 (dk_at dksJ1_clear_0 6 rfl rfl)
theorem dJ1_clear_7 : decode cJ1_clear 7 = .ok (.putfield 202, 3) := dk_181 0 202 (dk_at dksJ1_clear_0 7 rfl rfl)
theorem dJ1_clear_10 : decode cJ1_clear 10 = .ok (.aload_n 0, 1) := dk_42 (dk_at dksJ1_clear_0 10 rfl rfl)
theorem dJ1_clear_11 : decode cJ1_clear 11 = .ok (.getfield 105, 3) := dk_180 0 105 (dk_at dksJ1_clear_0 11 rfl rfl)
theorem dJ1_clear_14 : decode cJ1_clear 14 = .ok (.dup, 1) := dk_89 (dk_at dksJ1_clear_0 14 rfl rfl)
theorem dJ1_clear_15 : decode cJ1_clear 15 = .ok (.astore_n 1, 1) := dk_76 (dk_at dksJ1_clear_0 15 rfl rfl)
theorem dJ1_clear_16 : decode cJ1_clear 16 = .ok (.ifnull 33, 3) := dk_198 0 33 (dk_at dksJ1_clear_0 16 rfl rfl)
theorem dJ1_clear_19 : decode cJ1_clear 19 = .ok (.aload_n 0, 1) := dk_42 (dk_at dksJ1_clear_0 19 rfl rfl)
theorem dJ1_clear_20 : decode cJ1_clear 20 = .ok (.getfield 156, 3) := dk_180 0 156 (dk_at dksJ1_clear_0 20 rfl rfl)
theorem dJ1_clear_23 : decode cJ1_clear 23 = .ok (.ifCond .le 26, 3) := dk_158 0 26 (dk_at dksJ1_clear_1 0 rfl rfl)
theorem dJ1_clear_26 : decode cJ1_clear 26 = .ok (.aload_n 0, 1) := dk_42 (dk_at dksJ1_clear_1 3 rfl rfl)
theorem dJ1_clear_27 : decode cJ1_clear 27 = .ok (.iconst 0, 1) := dk_3 (dk_at dksJ1_clear_1 4 rfl rfl)
theorem dJ1_clear_28 : decode cJ1_clear 28 = .ok (.putfield 156, 3) := dk_181 0 156 (dk_at dksJ1_clear_1 5 rfl rfl)
theorem dJ1_clear_31 : decode cJ1_clear 31 = .ok (.iconst 0, 1) := dk_3 (dk_at dksJ1_clear_1 8 rfl rfl)
theorem dJ1_clear_32 : decode cJ1_clear 32 = .ok (.istore_n 2, 1) := dk_61 (dk_at dksJ1_clear_1 9 rfl rfl)
theorem dJ1_clear_33 : decode cJ1_clear 33 = .ok (.iload_n 2, 1) := dk_28 (dk_at dksJ1_clear_1 10 rfl rfl)
theorem dJ1_clear_34 : decode cJ1_clear 34 = .ok (.aload_n 1, 1) := dk_43 (dk_at dksJ1_clear_1 11 rfl rfl)
theorem dJ1_clear_35 : decode cJ1_clear 35 = .ok (.arraylength, 1) := dk_190 (dk_at dksJ1_clear_1 12 rfl rfl)
theorem dJ1_clear_36 : decode cJ1_clear 36 = .ok (.if_icmp .ge 13, 3) := dk_162 0 13 (dk_at dksJ1_clear_1 13 rfl rfl)
theorem dJ1_clear_39 : decode cJ1_clear 39 = .ok (.aload_n 1, 1) := dk_43 (dk_at dksJ1_clear_1 16 rfl rfl)
theorem dJ1_clear_40 : decode cJ1_clear 40 = .ok (.iload_n 2, 1) := dk_28 (dk_at dksJ1_clear_1 17 rfl rfl)
theorem dJ1_clear_41 : decode cJ1_clear 41 = .ok (.aconst_null, 1) := dk_1 (dk_at dksJ1_clear_1 18 rfl rfl)
theorem dJ1_clear_42 : decode cJ1_clear 42 = .ok (.aastore, 1) := dk_83 (dk_at dksJ1_clear_1 19 rfl rfl)
theorem dJ1_clear_43 : decode cJ1_clear 43 = .ok (.iinc 2 1, 3) := dk_132 2 1 (dk_at dksJ1_clear_1 20 rfl rfl)
theorem dJ1_clear_46 : decode cJ1_clear 46 = .ok (.goto (-13), 3) := dk_167 255 243 (dk_at dksJ1_clear_2 0 rfl rfl)
theorem dJ1_clear_49 : decode cJ1_clear 49 = .ok (.return_, 1) := dk_177 (dk_at dksJ1_clear_2 3 rfl rfl)
theorem q73 : (Jvm.Cond.initialized "java/util/HashMap") ∈ lw_all := lw_g (lw_at lw_m1 5 rfl) rfl
theorem q158 : (Jvm.Cond.instanceMethod ({ cls := "java/util/HashMap", name := "<init>", desc := "()V" } : Jvm.MethodName)) ∈ lw_all := lw_g (lw_at lw_m1 90 rfl) rfl
theorem q159 : (Jvm.Cond.code ({ cls := "java/util/HashMap", name := "<init>", desc := "()V" } : Jvm.MethodName) prog_57_method_7_code (1 : Nat) (Option.none : Option Jvm.ClassFile.FieldType)) ∈ lw_all := lw_g (lw_at lw_m1 91 rfl) rfl
theorem q160 : (Jvm.Cond.methodLink "java/util/HashMap" (43 : Nat) ({ cls := "java/util/AbstractMap", name := "<init>", desc := "()V" } : Jvm.MethodName)) ∈ lw_all := lw_g (lw_at lw_m1 92 rfl) rfl
theorem q164 : (Jvm.Cond.constantFloat "java/util/HashMap" (92 : Nat) (1061158912 : UInt32)) ∈ lw_all := lw_g (lw_at lw_m1 96 rfl) rfl
theorem q171 : (Jvm.Cond.fieldLink "java/util/HashMap" (105 : Nat) "java/util/HashMap" "table" "[Ljava/util/HashMap$Node;") ∈ lw_all := lw_g (lw_at lw_m1 103 rfl) rfl
theorem q174 : (Jvm.Cond.fieldLink "java/util/HashMap" (156 : Nat) "java/util/HashMap" "size" "I") ∈ lw_all := lw_g (lw_at lw_m1 106 rfl) rfl
theorem q178 : (Jvm.Cond.fieldLink "java/util/HashMap" (202 : Nat) "java/util/HashMap" "modCount" "I") ∈ lw_all := lw_g (lw_at lw_m1 110 rfl) rfl
theorem q179 : (Jvm.Cond.fieldLink "java/util/HashMap" (88 : Nat) "java/util/HashMap" "threshold" "I") ∈ lw_all := lw_g (lw_at lw_m1 111 rfl) rfl
theorem q180 : (Jvm.Cond.fieldLink "java/util/HashMap" (81 : Nat) "java/util/HashMap" "loadFactor" "F") ∈ lw_all := lw_g (lw_at lw_m1 112 rfl) rfl
theorem q194 : (Jvm.Cond.soleField "java/util/HashMap" "table") ∈ lw_all := lw_g (lw_at lw_m1 126 rfl) rfl
theorem q196 : (Jvm.Cond.soleField "java/util/HashMap" "entrySet") ∈ lw_all := lw_g (lw_at lw_m1 128 rfl) rfl
theorem q198 : (Jvm.Cond.soleField "java/util/HashMap" "size") ∈ lw_all := lw_g (lw_at lw_m1 130 rfl) rfl
theorem q200 : (Jvm.Cond.soleField "java/util/HashMap" "modCount") ∈ lw_all := lw_g (lw_at lw_m1 132 rfl) rfl
theorem q202 : (Jvm.Cond.soleField "java/util/HashMap" "threshold") ∈ lw_all := lw_g (lw_at lw_m1 134 rfl) rfl
theorem q204 : (Jvm.Cond.soleField "java/util/HashMap" "loadFactor") ∈ lw_all := lw_g (lw_at lw_m1 136 rfl) rfl
theorem q1309 : (Jvm.Cond.declares ({ cls := "java/util/HashMap", name := "removeNode", desc := "(ILjava/lang/Object;Ljava/lang/Object;ZZ)Ljava/util/HashMap$Node;" } : Jvm.MethodName)) ∈ lw_tbl := lw_at lw_m6 41 rfl
theorem q1311 : (Jvm.Cond.instanceMethod ({ cls := "java/util/HashMap", name := "removeNode", desc := "(ILjava/lang/Object;Ljava/lang/Object;ZZ)Ljava/util/HashMap$Node;" } : Jvm.MethodName)) ∈ lw_all := lw_g (lw_at lw_m6 43 rfl) rfl
theorem q1312 : (Jvm.Cond.code ({ cls := "java/util/HashMap", name := "removeNode", desc := "(ILjava/lang/Object;Ljava/lang/Object;ZZ)Ljava/util/HashMap$Node;" } : Jvm.MethodName) prog_57_method_21_code (14 : Nat) (Option.some (Jvm.ClassFile.FieldType.object "java/util/HashMap$Node"))) ∈ lw_all := lw_g (lw_at lw_m6 44 rfl) rfl
theorem q1314 : (Jvm.Cond.methodLink "java/util/HashMap" (173 : Nat) ({ cls := "java/lang/Object", name := "equals", desc := "(Ljava/lang/Object;)Z" } : Jvm.MethodName)) ∈ lw_all := lw_g (lw_at lw_m6 46 rfl) rfl
theorem q1350 : (Jvm.Cond.classLink "java/util/HashMap" (180 : Nat) "java/util/HashMap$TreeNode") ∈ lw_all := lw_g (lw_at lw_m6 82 rfl) rfl
theorem q1351 : (Jvm.Cond.methodLink "java/util/HashMap" (182 : Nat) ({ cls := "java/util/HashMap$TreeNode", name := "getTreeNode", desc := "(ILjava/lang/Object;)Ljava/util/HashMap$TreeNode;" } : Jvm.MethodName)) ∈ lw_all := lw_g (lw_at lw_m6 83 rfl) rfl
theorem q1365 : (Jvm.Cond.static ({ cls := "java/util/HashMap", name := "comparableClassFor", desc := "(Ljava/lang/Object;)Ljava/lang/Class;" } : Jvm.MethodName)) ∈ lw_all := lw_g (lw_at lw_m6 97 rfl) rfl
theorem q1366 : (Jvm.Cond.code ({ cls := "java/util/HashMap", name := "comparableClassFor", desc := "(Ljava/lang/Object;)Ljava/lang/Class;" } : Jvm.MethodName) prog_57_method_2_code (9 : Nat) (Option.some (Jvm.ClassFile.FieldType.object "java/lang/Class"))) ∈ lw_all := lw_g (lw_at lw_m6 98 rfl) rfl
theorem q1367 : (Jvm.Cond.classLink "java/util/HashMap" (7 : Nat) "java/lang/Comparable") ∈ lw_all := lw_g (lw_at lw_m6 99 rfl) rfl
theorem q1368 : (Jvm.Cond.methodLink "java/util/HashMap" (9 : Nat) ({ cls := "java/lang/Object", name := "getClass", desc := "()Ljava/lang/Class;" } : Jvm.MethodName)) ∈ lw_all := lw_g (lw_at lw_m6 100 rfl) rfl
theorem q1369 : (Jvm.Cond.classLink "java/util/HashMap" (13 : Nat) "java/lang/String") ∈ lw_all := lw_g (lw_at lw_m6 101 rfl) rfl
theorem q1371 : (Jvm.Cond.static ({ cls := "java/util/HashMap", name := "compareComparables", desc := "(Ljava/lang/Class;Ljava/lang/Object;Ljava/lang/Object;)I" } : Jvm.MethodName)) ∈ lw_all := lw_g (lw_at lw_m6 103 rfl) rfl
theorem q1372 : (Jvm.Cond.code ({ cls := "java/util/HashMap", name := "compareComparables", desc := "(Ljava/lang/Class;Ljava/lang/Object;Ljava/lang/Object;)I" } : Jvm.MethodName) prog_57_method_3_code (3 : Nat) (Option.some Jvm.ClassFile.FieldType.int)) ∈ lw_all := lw_g (lw_at lw_m6 104 rfl) rfl
theorem q1373 : (Jvm.Cond.interfaceEntry "java/util/HashMap" (30 : Nat)) ∈ lw_tbl := lw_at lw_m6 105 rfl
theorem q1374 : (Jvm.Cond.methodLink "java/util/HashMap" (30 : Nat) ({ cls := "java/lang/Comparable", name := "compareTo", desc := "(Ljava/lang/Object;)I" } : Jvm.MethodName)) ∈ lw_all := lw_g (lw_at lw_m6 106 rfl) rfl
theorem q1555 : (Jvm.Cond.methodLink "java/util/HashMap" (232 : Nat) ({ cls := "java/util/HashMap$TreeNode", name := "removeTreeNode", desc := "(Ljava/util/HashMap;[Ljava/util/HashMap$Node;Z)V" } : Jvm.MethodName)) ∈ lw_all := lw_g (lw_at lw_m7 47 rfl) rfl
theorem q1565 : (Jvm.Cond.instanceMethod ({ cls := "java/util/HashMap", name := "replacementNode", desc := "(Ljava/util/HashMap$Node;Ljava/util/HashMap$Node;)Ljava/util/HashMap$Node;" } : Jvm.MethodName)) ∈ lw_all := lw_g (lw_at lw_m7 57 rfl) rfl
theorem q1566 : (Jvm.Cond.sameMethod "java/util/HashMap" "java/util/HashMap" "replacementNode" "(Ljava/util/HashMap$Node;Ljava/util/HashMap$Node;)Ljava/util/HashMap$Node;") ∈ lw_all := lw_g (lw_at lw_m7 58 rfl) rfl
theorem q1589 : (Jvm.Cond.fieldLink "java/util/HashMap" (168 : Nat) "java/util/HashMap$Node" "hash" "I") ∈ lw_all := lw_g (lw_at lw_m7 81 rfl) rfl
theorem q1596 : (Jvm.Cond.fieldLink "java/util/HashMap" (170 : Nat) "java/util/HashMap$Node" "key" "Ljava/lang/Object;") ∈ lw_all := lw_g (lw_at lw_m7 88 rfl) rfl
theorem q1601 : (Jvm.Cond.fieldLink "java/util/HashMap" (162 : Nat) "java/util/HashMap$Node" "value" "Ljava/lang/Object;") ∈ lw_all := lw_g (lw_at lw_m7 93 rfl) rfl
theorem q1607 : (Jvm.Cond.fieldLink "java/util/HashMap" (177 : Nat) "java/util/HashMap$Node" "next" "Ljava/util/HashMap$Node;") ∈ lw_all := lw_g (lw_at lw_m7 99 rfl) rfl
theorem q1608 : (Jvm.Cond.fieldLink "java/util/HashMap" (223 : Nat) "java/util/HashMap$TreeNode" "next" "Ljava/util/HashMap$Node;") ∈ lw_all := lw_g (lw_at lw_m7 100 rfl) rfl
theorem q1626 : (Jvm.Cond.declares ({ cls := "java/util/HashMap", name := "replacementNode", desc := "(Ljava/util/HashMap$Node;Ljava/util/HashMap$Node;)Ljava/util/HashMap$Node;" } : Jvm.MethodName)) ∈ lw_tbl := lw_at lw_m7 118 rfl
theorem q1641 : (Jvm.Cond.methodLink "java/util/HashMap" (236 : Nat) ({ cls := "java/util/HashMap", name := "afterNodeRemoval", desc := "(Ljava/util/HashMap$Node;)V" } : Jvm.MethodName)) ∈ lw_all := lw_g (lw_at lw_m7 133 rfl) rfl
theorem q1642 : (Jvm.Cond.instanceMethod ({ cls := "java/util/HashMap", name := "afterNodeRemoval", desc := "(Ljava/util/HashMap$Node;)V" } : Jvm.MethodName)) ∈ lw_all := lw_g (lw_at lw_m7 134 rfl) rfl
theorem q1643 : (Jvm.Cond.sameMethod "java/util/HashMap" "java/util/HashMap" "afterNodeRemoval" "(Ljava/util/HashMap$Node;)V") ∈ lw_all := lw_g (lw_at lw_m7 135 rfl) rfl
theorem q1647 : (Jvm.Cond.declares ({ cls := "java/util/HashMap", name := "afterNodeRemoval", desc := "(Ljava/util/HashMap$Node;)V" } : Jvm.MethodName)) ∈ lw_tbl := lw_at lw_m7 139 rfl
theorem q1672 : (Jvm.Cond.declares ({ cls := "java/util/HashMap", name := "put", desc := "(Ljava/lang/Object;Ljava/lang/Object;)Ljava/lang/Object;" } : Jvm.MethodName)) ∈ lw_tbl := lw_at lw_m7 164 rfl
theorem q1674 : (Jvm.Cond.instanceMethod ({ cls := "java/util/HashMap", name := "put", desc := "(Ljava/lang/Object;Ljava/lang/Object;)Ljava/lang/Object;" } : Jvm.MethodName)) ∈ lw_all := lw_g (lw_at lw_m7 166 rfl) rfl
theorem q1675 : (Jvm.Cond.code ({ cls := "java/util/HashMap", name := "put", desc := "(Ljava/lang/Object;Ljava/lang/Object;)Ljava/lang/Object;" } : Jvm.MethodName) prog_57_method_15_code (3 : Nat) (Option.some (Jvm.ClassFile.FieldType.object "java/lang/Object"))) ∈ lw_all := lw_g (lw_at lw_m7 167 rfl) rfl
theorem q1676 : (Jvm.Cond.methodLink "java/util/HashMap" (149 : Nat) ({ cls := "java/util/HashMap", name := "hash", desc := "(Ljava/lang/Object;)I" } : Jvm.MethodName)) ∈ lw_all := lw_g (lw_at lw_m7 168 rfl) rfl
theorem q1677 : (Jvm.Cond.static ({ cls := "java/util/HashMap", name := "hash", desc := "(Ljava/lang/Object;)I" } : Jvm.MethodName)) ∈ lw_all := lw_g (lw_at lw_m7 169 rfl) rfl
theorem q1678 : (Jvm.Cond.code ({ cls := "java/util/HashMap", name := "hash", desc := "(Ljava/lang/Object;)I" } : Jvm.MethodName) prog_57_method_1_code (2 : Nat) (Option.some Jvm.ClassFile.FieldType.int)) ∈ lw_all := lw_g (lw_at lw_m7 170 rfl) rfl
theorem q1680 : (Jvm.Cond.methodLink "java/util/HashMap" (1 : Nat) ({ cls := "java/lang/Object", name := "hashCode", desc := "()I" } : Jvm.MethodName)) ∈ lw_all := lw_g (lw_at lw_m7 172 rfl) rfl
theorem q1760 : (Jvm.Cond.methodLink "java/util/HashMap" (152 : Nat) ({ cls := "java/util/HashMap", name := "putVal", desc := "(ILjava/lang/Object;Ljava/lang/Object;ZZ)Ljava/lang/Object;" } : Jvm.MethodName)) ∈ lw_all := lw_g (lw_at lw_m8 12 rfl) rfl
theorem q1761 : (Jvm.Cond.instanceMethod ({ cls := "java/util/HashMap", name := "putVal", desc := "(ILjava/lang/Object;Ljava/lang/Object;ZZ)Ljava/lang/Object;" } : Jvm.MethodName)) ∈ lw_all := lw_g (lw_at lw_m8 13 rfl) rfl
theorem q1762 : (Jvm.Cond.sameMethod "java/util/HashMap" "java/util/HashMap" "putVal" "(ILjava/lang/Object;Ljava/lang/Object;ZZ)Ljava/lang/Object;") ∈ lw_all := lw_g (lw_at lw_m8 14 rfl) rfl
theorem q1764 : (Jvm.Cond.code ({ cls := "java/util/HashMap", name := "putVal", desc := "(ILjava/lang/Object;Ljava/lang/Object;ZZ)Ljava/lang/Object;" } : Jvm.MethodName) prog_57_method_16_code (13 : Nat) (Option.some (Jvm.ClassFile.FieldType.object "java/lang/Object"))) ∈ lw_all := lw_g (lw_at lw_m8 16 rfl) rfl
theorem q1765 : (Jvm.Cond.methodLink "java/util/HashMap" (117 : Nat) ({ cls := "java/util/HashMap", name := "resize", desc := "()[Ljava/util/HashMap$Node;" } : Jvm.MethodName)) ∈ lw_all := lw_g (lw_at lw_m8 17 rfl) rfl
theorem q1766 : (Jvm.Cond.instanceMethod ({ cls := "java/util/HashMap", name := "resize", desc := "()[Ljava/util/HashMap$Node;" } : Jvm.MethodName)) ∈ lw_all := lw_g (lw_at lw_m8 18 rfl) rfl
theorem q1767 : (Jvm.Cond.sameMethod "java/util/HashMap" "java/util/HashMap" "resize" "()[Ljava/util/HashMap$Node;") ∈ lw_all := lw_g (lw_at lw_m8 19 rfl) rfl
theorem q1769 : (Jvm.Cond.code ({ cls := "java/util/HashMap", name := "resize", desc := "()[Ljava/util/HashMap$Node;" } : Jvm.MethodName) prog_57_method_17_code (14 : Nat) (Option.some (Jvm.ClassFile.FieldType.array (Jvm.ClassFile.FieldType.object "java/util/HashMap$Node")))) ∈ lw_all := lw_g (lw_at lw_m8 21 rfl) rfl
theorem q1770 : (Jvm.Cond.constant "java/util/HashMap" (42 : Nat) (1073741824 : Int32)) ∈ lw_all := lw_g (lw_at lw_m8 22 rfl) rfl
theorem q1771 : (Jvm.Cond.constant "java/util/HashMap" (209 : Nat) (2147483647 : Int32)) ∈ lw_all := lw_g (lw_at lw_m8 23 rfl) rfl
theorem q1772 : (Jvm.Cond.constantFloat "java/util/HashMap" (210 : Nat) (1317011456 : UInt32)) ∈ lw_all := lw_g (lw_at lw_m8 24 rfl) rfl
theorem q1773 : (Jvm.Cond.classLink "java/util/HashMap" (163 : Nat) "java/util/HashMap$Node") ∈ lw_all := lw_g (lw_at lw_m8 25 rfl) rfl
theorem q1775 : (Jvm.Cond.methodLink "java/util/HashMap" (211 : Nat) ({ cls := "java/util/HashMap$TreeNode", name := "split", desc := "(Ljava/util/HashMap;[Ljava/util/HashMap$Node;II)V" } : Jvm.MethodName)) ∈ lw_all := lw_g (lw_at lw_m8 27 rfl) rfl
theorem q1786 : (Jvm.Cond.methodLink "java/util/HashMap" (186 : Nat) ({ cls := "java/util/HashMap", name := "newNode", desc := "(ILjava/lang/Object;Ljava/lang/Object;Ljava/util/HashMap$Node;)Ljava/util/HashMap$Node;" } : Jvm.MethodName)) ∈ lw_all := lw_g (lw_at lw_m8 38 rfl) rfl
theorem q1787 : (Jvm.Cond.instanceMethod ({ cls := "java/util/HashMap", name := "newNode", desc := "(ILjava/lang/Object;Ljava/lang/Object;Ljava/util/HashMap$Node;)Ljava/util/HashMap$Node;" } : Jvm.MethodName)) ∈ lw_all := lw_g (lw_at lw_m8 39 rfl) rfl
theorem q1788 : (Jvm.Cond.sameMethod "java/util/HashMap" "java/util/HashMap" "newNode" "(ILjava/lang/Object;Ljava/lang/Object;Ljava/util/HashMap$Node;)Ljava/util/HashMap$Node;") ∈ lw_all := lw_g (lw_at lw_m8 40 rfl) rfl
theorem q1796 : (Jvm.Cond.declares ({ cls := "java/util/HashMap", name := "newNode", desc := "(ILjava/lang/Object;Ljava/lang/Object;Ljava/util/HashMap$Node;)Ljava/util/HashMap$Node;" } : Jvm.MethodName)) ∈ lw_tbl := lw_at lw_m8 48 rfl
theorem q1797 : (Jvm.Cond.methodLink "java/util/HashMap" (190 : Nat) ({ cls := "java/util/HashMap$TreeNode", name := "putTreeVal", desc := "(Ljava/util/HashMap;[Ljava/util/HashMap$Node;ILjava/lang/Object;Ljava/lang/Object;)Ljava/util/HashMap$TreeNode;" } : Jvm.MethodName)) ∈ lw_all := lw_g (lw_at lw_m8 49 rfl) rfl
theorem q1802 : (Jvm.Cond.instanceMethod ({ cls := "java/util/HashMap", name := "newTreeNode", desc := "(ILjava/lang/Object;Ljava/lang/Object;Ljava/util/HashMap$Node;)Ljava/util/HashMap$TreeNode;" } : Jvm.MethodName)) ∈ lw_all := lw_g (lw_at lw_m8 54 rfl) rfl
theorem q1803 : (Jvm.Cond.sameMethod "java/util/HashMap" "java/util/HashMap" "newTreeNode" "(ILjava/lang/Object;Ljava/lang/Object;Ljava/util/HashMap$Node;)Ljava/util/HashMap$TreeNode;") ∈ lw_all := lw_g (lw_at lw_m8 55 rfl) rfl
theorem q1817 : (Jvm.Cond.fieldLink "java/util/HashMap" (219 : Nat) "java/util/HashMap$TreeNode" "prev" "Ljava/util/HashMap$TreeNode;") ∈ lw_all := lw_g (lw_at lw_m8 69 rfl) rfl
theorem q1836 : (Jvm.Cond.declares ({ cls := "java/util/HashMap", name := "newTreeNode", desc := "(ILjava/lang/Object;Ljava/lang/Object;Ljava/util/HashMap$Node;)Ljava/util/HashMap$TreeNode;" } : Jvm.MethodName)) ∈ lw_tbl := lw_at lw_m8 88 rfl
theorem q1837 : (Jvm.Cond.methodLink "java/util/HashMap" (194 : Nat) ({ cls := "java/util/HashMap", name := "treeifyBin", desc := "([Ljava/util/HashMap$Node;I)V" } : Jvm.MethodName)) ∈ lw_all := lw_g (lw_at lw_m8 89 rfl) rfl
theorem q1838 : (Jvm.Cond.instanceMethod ({ cls := "java/util/HashMap", name := "treeifyBin", desc := "([Ljava/util/HashMap$Node;I)V" } : Jvm.MethodName)) ∈ lw_all := lw_g (lw_at lw_m8 90 rfl) rfl
theorem q1839 : (Jvm.Cond.sameMethod "java/util/HashMap" "java/util/HashMap" "treeifyBin" "([Ljava/util/HashMap$Node;I)V") ∈ lw_all := lw_g (lw_at lw_m8 91 rfl) rfl
theorem q1841 : (Jvm.Cond.code ({ cls := "java/util/HashMap", name := "treeifyBin", desc := "([Ljava/util/HashMap$Node;I)V" } : Jvm.MethodName) prog_57_method_18_code (9 : Nat) (Option.none : Option Jvm.ClassFile.FieldType)) ∈ lw_all := lw_g (lw_at lw_m8 93 rfl) rfl
theorem q1842 : (Jvm.Cond.methodLink "java/util/HashMap" (215 : Nat) ({ cls := "java/util/HashMap", name := "replacementTreeNode", desc := "(Ljava/util/HashMap$Node;Ljava/util/HashMap$Node;)Ljava/util/HashMap$TreeNode;" } : Jvm.MethodName)) ∈ lw_all := lw_g (lw_at lw_m8 94 rfl) rfl
theorem q1843 : (Jvm.Cond.instanceMethod ({ cls := "java/util/HashMap", name := "replacementTreeNode", desc := "(Ljava/util/HashMap$Node;Ljava/util/HashMap$Node;)Ljava/util/HashMap$TreeNode;" } : Jvm.MethodName)) ∈ lw_all := lw_g (lw_at lw_m8 95 rfl) rfl
theorem q1844 : (Jvm.Cond.sameMethod "java/util/HashMap" "java/util/HashMap" "replacementTreeNode" "(Ljava/util/HashMap$Node;Ljava/util/HashMap$Node;)Ljava/util/HashMap$TreeNode;") ∈ lw_all := lw_g (lw_at lw_m8 96 rfl) rfl
theorem q1848 : (Jvm.Cond.declares ({ cls := "java/util/HashMap", name := "replacementTreeNode", desc := "(Ljava/util/HashMap$Node;Ljava/util/HashMap$Node;)Ljava/util/HashMap$TreeNode;" } : Jvm.MethodName)) ∈ lw_tbl := lw_at lw_m8 100 rfl
theorem q1849 : (Jvm.Cond.methodLink "java/util/HashMap" (224 : Nat) ({ cls := "java/util/HashMap$TreeNode", name := "treeify", desc := "([Ljava/util/HashMap$Node;)V" } : Jvm.MethodName)) ∈ lw_all := lw_g (lw_at lw_m8 101 rfl) rfl
theorem q1850 : (Jvm.Cond.methodLink "java/util/HashMap" (198 : Nat) ({ cls := "java/util/HashMap", name := "afterNodeAccess", desc := "(Ljava/util/HashMap$Node;)V" } : Jvm.MethodName)) ∈ lw_all := lw_g (lw_at lw_m8 102 rfl) rfl
theorem q1851 : (Jvm.Cond.instanceMethod ({ cls := "java/util/HashMap", name := "afterNodeAccess", desc := "(Ljava/util/HashMap$Node;)V" } : Jvm.MethodName)) ∈ lw_all := lw_g (lw_at lw_m8 103 rfl) rfl
theorem q1852 : (Jvm.Cond.sameMethod "java/util/HashMap" "java/util/HashMap" "afterNodeAccess" "(Ljava/util/HashMap$Node;)V") ∈ lw_all := lw_g (lw_at lw_m8 104 rfl) rfl
theorem q1856 : (Jvm.Cond.declares ({ cls := "java/util/HashMap", name := "afterNodeAccess", desc := "(Ljava/util/HashMap$Node;)V" } : Jvm.MethodName)) ∈ lw_tbl := lw_at lw_m8 108 rfl
theorem q1857 : (Jvm.Cond.methodLink "java/util/HashMap" (205 : Nat) ({ cls := "java/util/HashMap", name := "afterNodeInsertion", desc := "(Z)V" } : Jvm.MethodName)) ∈ lw_all := lw_g (lw_at lw_m8 109 rfl) rfl
theorem q1858 : (Jvm.Cond.instanceMethod ({ cls := "java/util/HashMap", name := "afterNodeInsertion", desc := "(Z)V" } : Jvm.MethodName)) ∈ lw_all := lw_g (lw_at lw_m8 110 rfl) rfl
theorem q1859 : (Jvm.Cond.sameMethod "java/util/HashMap" "java/util/HashMap" "afterNodeInsertion" "(Z)V") ∈ lw_all := lw_g (lw_at lw_m8 111 rfl) rfl
theorem q1867 : (Jvm.Cond.declares ({ cls := "java/util/HashMap", name := "afterNodeInsertion", desc := "(Z)V" } : Jvm.MethodName)) ∈ lw_tbl := lw_at lw_m8 119 rfl
theorem q2024 : (Jvm.Cond.declares ({ cls := "java/util/HashMap", name := "getNode", desc := "(Ljava/lang/Object;)Ljava/util/HashMap$Node;" } : Jvm.MethodName)) ∈ lw_tbl := lw_at lw_m9 36 rfl
theorem q2026 : (Jvm.Cond.instanceMethod ({ cls := "java/util/HashMap", name := "getNode", desc := "(Ljava/lang/Object;)Ljava/util/HashMap$Node;" } : Jvm.MethodName)) ∈ lw_all := lw_g (lw_at lw_m9 38 rfl) rfl
theorem q2027 : (Jvm.Cond.code ({ cls := "java/util/HashMap", name := "getNode", desc := "(Ljava/lang/Object;)Ljava/util/HashMap$Node;" } : Jvm.MethodName) prog_57_method_13_code (8 : Nat) (Option.some (Jvm.ClassFile.FieldType.object "java/util/HashMap$Node"))) ∈ lw_all := lw_g (lw_at lw_m9 39 rfl) rfl
theorem q2040 : (Jvm.Cond.declares ({ cls := "java/util/HashMap", name := "containsKey", desc := "(Ljava/lang/Object;)Z" } : Jvm.MethodName)) ∈ lw_tbl := lw_at lw_m9 52 rfl
theorem q2042 : (Jvm.Cond.instanceMethod ({ cls := "java/util/HashMap", name := "containsKey", desc := "(Ljava/lang/Object;)Z" } : Jvm.MethodName)) ∈ lw_all := lw_g (lw_at lw_m9 54 rfl) rfl
theorem q2043 : (Jvm.Cond.code ({ cls := "java/util/HashMap", name := "containsKey", desc := "(Ljava/lang/Object;)Z" } : Jvm.MethodName) prog_57_method_14_code (2 : Nat) (Option.some Jvm.ClassFile.FieldType.boolean)) ∈ lw_all := lw_g (lw_at lw_m9 55 rfl) rfl
theorem q2044 : (Jvm.Cond.methodLink "java/util/HashMap" (158 : Nat) ({ cls := "java/util/HashMap", name := "getNode", desc := "(Ljava/lang/Object;)Ljava/util/HashMap$Node;" } : Jvm.MethodName)) ∈ lw_all := lw_g (lw_at lw_m9 56 rfl) rfl
theorem q2057 : (Jvm.Cond.declares ({ cls := "java/util/HashMap", name := "remove", desc := "(Ljava/lang/Object;)Ljava/lang/Object;" } : Jvm.MethodName)) ∈ lw_tbl := lw_at lw_m9 69 rfl
theorem q2059 : (Jvm.Cond.instanceMethod ({ cls := "java/util/HashMap", name := "remove", desc := "(Ljava/lang/Object;)Ljava/lang/Object;" } : Jvm.MethodName)) ∈ lw_all := lw_g (lw_at lw_m9 71 rfl) rfl
theorem q2060 : (Jvm.Cond.code ({ cls := "java/util/HashMap", name := "remove", desc := "(Ljava/lang/Object;)Ljava/lang/Object;" } : Jvm.MethodName) prog_57_method_20_code (3 : Nat) (Option.some (Jvm.ClassFile.FieldType.object "java/lang/Object"))) ∈ lw_all := lw_g (lw_at lw_m9 72 rfl) rfl
theorem q2061 : (Jvm.Cond.methodLink "java/util/HashMap" (228 : Nat) ({ cls := "java/util/HashMap", name := "removeNode", desc := "(ILjava/lang/Object;Ljava/lang/Object;ZZ)Ljava/util/HashMap$Node;" } : Jvm.MethodName)) ∈ lw_all := lw_g (lw_at lw_m9 73 rfl) rfl
theorem q2564 : (Jvm.Cond.declares ({ cls := "java/util/HashMap", name := "size", desc := "()I" } : Jvm.MethodName)) ∈ lw_tbl := lw_at lw_m11 96 rfl
theorem q2566 : (Jvm.Cond.instanceMethod ({ cls := "java/util/HashMap", name := "size", desc := "()I" } : Jvm.MethodName)) ∈ lw_all := lw_g (lw_at lw_m11 98 rfl) rfl
theorem q2567 : (Jvm.Cond.code ({ cls := "java/util/HashMap", name := "size", desc := "()I" } : Jvm.MethodName) prog_57_method_10_code (1 : Nat) (Option.some Jvm.ClassFile.FieldType.int)) ∈ lw_all := lw_g (lw_at lw_m11 99 rfl) rfl
theorem q2625 : (Jvm.Cond.instanceMethod ({ cls := "java/util/HashMap", name := "clear", desc := "()V" } : Jvm.MethodName)) ∈ lw_all := lw_g (lw_at lw_m11 157 rfl) rfl
theorem q2626 : (Jvm.Cond.code ({ cls := "java/util/HashMap", name := "clear", desc := "()V" } : Jvm.MethodName) prog_57_method_22_code (3 : Nat) (Option.none : Option Jvm.ClassFile.FieldType)) ∈ lw_all := lw_g (lw_at lw_m11 158 rfl) rfl
theorem q3024 : (Jvm.Cond.sameMethod "java/util/HashMap" "java/util/HashMap" "getNode" "(Ljava/lang/Object;)Ljava/util/HashMap$Node;") ∈ lw_all := lw_g (lw_at lw_m13 76 rfl) rfl
theorem q3026 : (Jvm.Cond.sameMethod "java/util/HashMap" "java/util/HashMap" "removeNode" "(ILjava/lang/Object;Ljava/lang/Object;ZZ)Ljava/util/HashMap$Node;") ∈ lw_all := lw_g (lw_at lw_m13 78 rfl) rfl
theorem q3031 : (Jvm.Cond.sameMethod "java/util/HashMap" "java/util/HashMap" "clear" "()V") ∈ lw_all := lw_g (lw_at lw_m13 83 rfl) rfl
/-! java/util/LinkedHashMap -/
set_option maxRecDepth 100000
def RJ2 : String := "java/util/LinkedHashMap"
def TJ2 : u_T := fun k => match k with
  | 0 => ("java/util/HashMap", "table", "[Ljava/util/HashMap$Node;", false)
  | 1 => ("java/util/HashMap", "entrySet", "Ljava/util/Set;", false)
  | 2 => ("java/util/HashMap", "size", "I", false)
  | 3 => ("java/util/HashMap", "modCount", "I", false)
  | 4 => ("java/util/HashMap", "threshold", "I", false)
  | 5 => ("java/util/HashMap", "loadFactor", "F", true)
  | 6 => ("java/util/AbstractMap", "keySet", "Ljava/util/Set;", false)
  | 7 => ("java/util/AbstractMap", "values", "Ljava/util/Collection;", false)
  | 8 => ("java/util/LinkedHashMap", "head", "Ljava/util/LinkedHashMap$Entry;", false)
  | 9 => ("java/util/LinkedHashMap", "tail", "Ljava/util/LinkedHashMap$Entry;", false)
  | 10 => ("java/util/LinkedHashMap", "accessOrder", "Z", true)
  | _ => ("java/util/LinkedHashMap", "putMode", "I", false)
def tyJ2 : Nat → FieldType := fun k => match k with
  | 0 => .array (.object "java/util/HashMap$Node")
  | 1 => .object "java/util/Set"
  | 2 => .int
  | 3 => .int
  | 4 => .int
  | 5 => .float
  | 6 => .object "java/util/Set"
  | 7 => .object "java/util/Collection"
  | 8 => .object "java/util/LinkedHashMap$Entry"
  | 9 => .object "java/util/LinkedHashMap$Entry"
  | 10 => .boolean
  | _ => .int
abbrev wsJ20 : List Cond := u_ws RJ2 TJ2 12
theorem nmJ2 : ∀ a, a < 12 → ∀ b, b < 12 → a ≠ b → (TJ2 a).2.1 ≠ (TJ2 b).2.1 := by decide +kernel
theorem tyJ2_ok : ∀ k, k < 12 → parseFieldDescriptor (TJ2 k).2.2.1 = some (tyJ2 k) := by decide +kernel
abbrev cJ2_init : ByteArray := prog_61_method_16_code
def yJ2_init : MethodName := ⟨RJ2, "<init>", "()V"⟩
def dkwJ2_init_0 : List UInt8 := [42, 183, 0, 87, 42, 3, 181, 0, 1, 42, 3, 181, 0, 64, 177]
abbrev dktJ2_init_0 : List UInt8 := dkwJ2_init_0 ++ []
theorem dksJ2_init_0 : cJ2_init.data.toList.drop 0 = dktJ2_init_0 := by decide +kernel
theorem dJ2_init_0 : decode cJ2_init 0 = .ok (.aload_n 0, 1) := dk_42 (dk_at dksJ2_init_0 0 rfl rfl)
theorem dJ2_init_1 : decode cJ2_init 1 = .ok (.invokespecial 87, 3) := dk_183 0 87 (dk_at dksJ2_init_0 1 rfl rfl)
theorem dJ2_init_4 : decode cJ2_init 4 = .ok (.aload_n 0, 1) := dk_42 (dk_at dksJ2_init_0 4 rfl rfl)
theorem dJ2_init_5 : decode cJ2_init 5 = .ok (.iconst 0, 1) := dk_3 (dk_at dksJ2_init_0 5 rfl rfl)
theorem dJ2_init_6 : decode cJ2_init 6 = .ok (.putfield 1, 3) := dk_181 0 1 (dk_at dksJ2_init_0 6 rfl rfl)
theorem dJ2_init_9 : decode cJ2_init 9 = .ok (.aload_n 0, 1) := dk_42 (dk_at dksJ2_init_0 9 rfl rfl)
theorem dJ2_init_10 : decode cJ2_init 10 = .ok (.iconst 0, 1) := dk_3 (dk_at dksJ2_init_0 10 rfl rfl)
theorem dJ2_init_11 : decode cJ2_init 11 = .ok (.putfield 64, 3) := dk_181 0 64 (dk_at dksJ2_init_0 11 rfl rfl)
theorem dJ2_init_14 : decode cJ2_init 14 = .ok (.return_, 1) := dk_177 (dk_at dksJ2_init_0 14 rfl rfl)
abbrev cJ2_entrySet : ByteArray := prog_61_method_32_code
def yJ2_entrySet : MethodName := ⟨RJ2, "entrySet", "()Ljava/util/Set;"⟩
theorem dJ2_entrySet_0 : decode cJ2_entrySet 0 = .ok (.aload_n 0, 1) := by decide +kernel
theorem dJ2_entrySet_1 : decode cJ2_entrySet 1 = .ok (.invokevirtual 148, 3) := by decide +kernel
theorem dJ2_entrySet_4 : decode cJ2_entrySet 4 = .ok (.areturn, 1) := by decide +kernel
abbrev cJ2_sequencedEntrySet : ByteArray := prog_61_method_33_code
def yJ2_sequencedEntrySet : MethodName := ⟨RJ2, "sequencedEntrySet", "()Ljava/util/SequencedSet;"⟩
def dkwJ2_sequencedEntrySet_1 : List UInt8 := [44, 176, 43, 192, 0, 126, 176]
abbrev dktJ2_sequencedEntrySet_1 : List UInt8 := dkwJ2_sequencedEntrySet_1 ++ []
def dkwJ2_sequencedEntrySet_0 : List UInt8 := [42, 180, 0, 151, 76, 43, 199, 0, 20, 187, 0, 154, 89, 42, 3, 183, 0, 156, 77, 42, 44, 181, 0, 151]
abbrev dktJ2_sequencedEntrySet_0 : List UInt8 := dkwJ2_sequencedEntrySet_0 ++ dktJ2_sequencedEntrySet_1
theorem dksJ2_sequencedEntrySet_0 : cJ2_sequencedEntrySet.data.toList.drop 0 = dktJ2_sequencedEntrySet_0 := by decide +kernel
theorem dksJ2_sequencedEntrySet_1 : cJ2_sequencedEntrySet.data.toList.drop 24 = dktJ2_sequencedEntrySet_1 := dk_seg dksJ2_sequencedEntrySet_0 24 rfl rfl
theorem dJ2_sequencedEntrySet_0 : decode cJ2_sequencedEntrySet 0 = .ok (.aload_n 0, 1) := dk_42 (dk_at dksJ2_sequencedEntrySet_0 0 rfl rfl)
theorem dJ2_sequencedEntrySet_1 : decode cJ2_sequencedEntrySet 1 = .ok (.getfield 151, 3) := dk_180 0 151 (dk_at dksJ2_sequencedEntrySet_0 1 rfl rfl)
theorem dJ2_sequencedEntrySet_4 : decode cJ2_sequencedEntrySet 4 = .ok (.astore_n 1, 1) := dk_76 (dk_at dksJ2_sequencedEntrySet_0 4 rfl rfl)
theorem dJ2_sequencedEntrySet_5 : decode cJ2_sequencedEntrySet 5 = .ok (.aload_n 1, 1) := dk_43 (dk_at dksJ2_sequencedEntrySet_0 5 rfl rfl)
theorem dJ2_sequencedEntrySet_6 : decode cJ2_sequencedEntrySet 6 = .ok (.ifnonnull 20, 3) := dk_199 0 20 (dk_at dksJ2_sequencedEntrySet_0 6 rfl rfl)
theorem dJ2_sequencedEntrySet_9 : decode cJ2_sequencedEntrySet 9 = .ok (.new 154, 3) := dk_187 0 154 (dk_at dksJ2_sequencedEntrySet_0 9 rfl rfl)
theorem dJ2_sequencedEntrySet_12 : decode cJ2_sequencedEntrySet 12 = .ok (.dup, 1) := dk_89 (dk_at dksJ2_sequencedEntrySet_0 12 rfl rfl)
theorem dJ2_sequencedEntrySet_13 : decode cJ2_sequencedEntrySet 13 = .ok (.aload_n 0, 1) := dk_42 (dk_at dksJ2_sequencedEntrySet_0 13 rfl rfl)
theorem dJ2_sequencedEntrySet_14 : decode cJ2_sequencedEntrySet 14 = .ok (.iconst 0, 1) := dk_3 (dk_at dksJ2_sequencedEntrySet_0 14 rfl rfl)
theorem dJ2_sequencedEntrySet_15 : decode cJ2_sequencedEntrySet 15 = .ok (.invokespecial 156, 3) := dk_183 0 156 (dk_at dksJ2_sequencedEntrySet_0 15 rfl rfl)
theorem dJ2_sequencedEntrySet_18 : decode cJ2_sequencedEntrySet 18 = .ok (.astore_n 2, 1) := dk_77 (dk_at dksJ2_sequencedEntrySet_0 18 rfl rfl)
theorem dJ2_sequencedEntrySet_19 : decode cJ2_sequencedEntrySet 19 = .ok (.aload_n 0, 1) := dk_42 (dk_at dksJ2_sequencedEntrySet_0 19 rfl rfl)
theorem dJ2_sequencedEntrySet_20 : decode cJ2_sequencedEntrySet 20 = .ok (.aload_n 2, 1) := dk_44 (dk_at dksJ2_sequencedEntrySet_0 20 rfl rfl)
theorem dJ2_sequencedEntrySet_21 : decode cJ2_sequencedEntrySet 21 = .ok (.putfield 151, 3) := dk_181 0 151 (dk_at dksJ2_sequencedEntrySet_0 21 rfl rfl)
theorem dJ2_sequencedEntrySet_24 : decode cJ2_sequencedEntrySet 24 = .ok (.aload_n 2, 1) := dk_44 (dk_at dksJ2_sequencedEntrySet_1 0 rfl rfl)
theorem dJ2_sequencedEntrySet_25 : decode cJ2_sequencedEntrySet 25 = .ok (.areturn, 1) := dk_176 (dk_at dksJ2_sequencedEntrySet_1 1 rfl rfl)
theorem dJ2_sequencedEntrySet_26 : decode cJ2_sequencedEntrySet 26 = .ok (.aload_n 1, 1) := dk_43 (dk_at dksJ2_sequencedEntrySet_1 2 rfl rfl)
theorem dJ2_sequencedEntrySet_27 : decode cJ2_sequencedEntrySet 27 = .ok (.checkcast 126, 3) := dk_192 0 126 (dk_at dksJ2_sequencedEntrySet_1 3 rfl rfl)
theorem dJ2_sequencedEntrySet_30 : decode cJ2_sequencedEntrySet 30 = .ok (.areturn, 1) := dk_176 (dk_at dksJ2_sequencedEntrySet_1 6 rfl rfl)
abbrev cJ2_afterNodeRemoval : ByteArray := prog_61_method_8_code
def yJ2_afterNodeRemoval : MethodName := ⟨RJ2, "afterNodeRemoval", "(Ljava/util/HashMap$Node;)V"⟩
def dkwJ2_afterNodeRemoval_2 : List UInt8 := [199, 0, 11, 42, 45, 181, 0, 11, 167, 0, 9, 25, 4, 45, 181, 0, 19, 177]
abbrev dktJ2_afterNodeRemoval_2 : List UInt8 := dkwJ2_afterNodeRemoval_2 ++ []
def dkwJ2_afterNodeRemoval_1 : List UInt8 := [181, 0, 19, 45, 199, 0, 12, 42, 25, 4, 181, 0, 7, 167, 0, 9, 45, 25, 4, 181, 0, 14, 25, 4]
abbrev dktJ2_afterNodeRemoval_1 : List UInt8 := dkwJ2_afterNodeRemoval_1 ++ dktJ2_afterNodeRemoval_2
def dkwJ2_afterNodeRemoval_0 : List UInt8 := [43, 192, 0, 15, 77, 44, 180, 0, 19, 78, 44, 180, 0, 14, 58, 4, 44, 44, 1, 90, 181, 0, 14]
abbrev dktJ2_afterNodeRemoval_0 : List UInt8 := dkwJ2_afterNodeRemoval_0 ++ dktJ2_afterNodeRemoval_1
theorem dksJ2_afterNodeRemoval_0 : cJ2_afterNodeRemoval.data.toList.drop 0 = dktJ2_afterNodeRemoval_0 := by decide +kernel
theorem dksJ2_afterNodeRemoval_1 : cJ2_afterNodeRemoval.data.toList.drop 23 = dktJ2_afterNodeRemoval_1 := dk_seg dksJ2_afterNodeRemoval_0 23 rfl rfl
theorem dksJ2_afterNodeRemoval_2 : cJ2_afterNodeRemoval.data.toList.drop 47 = dktJ2_afterNodeRemoval_2 := dk_seg dksJ2_afterNodeRemoval_1 24 rfl rfl
theorem dJ2_afterNodeRemoval_0 : decode cJ2_afterNodeRemoval 0 = .ok (.aload_n 1, 1) := dk_43 (dk_at dksJ2_afterNodeRemoval_0 0 rfl rfl)
theorem dJ2_afterNodeRemoval_1 : decode cJ2_afterNodeRemoval 1 = .ok (.checkcast 15, 3) := dk_192 0 15 (dk_at dksJ2_afterNodeRemoval_0 1 rfl rfl)
theorem dJ2_afterNodeRemoval_4 : decode cJ2_afterNodeRemoval 4 = .ok (.astore_n 2, 1) := dk_77 (dk_at dksJ2_afterNodeRemoval_0 4 rfl rfl)
theorem dJ2_afterNodeRemoval_5 : decode cJ2_afterNodeRemoval 5 = .ok (.aload_n 2, 1) := dk_44 (dk_at dksJ2_afterNodeRemoval_0 5 rfl rfl)
theorem dJ2_afterNodeRemoval_6 : decode cJ2_afterNodeRemoval 6 = .ok (.getfield 19, 3) := dk_180 0 19 (dk_at dksJ2_afterNodeRemoval_0 6 rfl rfl)
theorem dJ2_afterNodeRemoval_9 : decode cJ2_afterNodeRemoval 9 = .ok (.astore_n 3, 1) := dk_78 (dk_at dksJ2_afterNodeRemoval_0 9 rfl rfl)
theorem dJ2_afterNodeRemoval_10 : decode cJ2_afterNodeRemoval 10 = .ok (.aload_n 2, 1) := dk_44 (dk_at dksJ2_afterNodeRemoval_0 10 rfl rfl)
theorem dJ2_afterNodeRemoval_11 : decode cJ2_afterNodeRemoval 11 = .ok (.getfield 14, 3) := dk_180 0 14 (dk_at dksJ2_afterNodeRemoval_0 11 rfl rfl)
theorem dJ2_afterNodeRemoval_14 : decode cJ2_afterNodeRemoval 14 = .ok (.astore 4, 2) := dk_58 4 (dk_at dksJ2_afterNodeRemoval_0 14 rfl rfl)
theorem dJ2_afterNodeRemoval_16 : decode cJ2_afterNodeRemoval 16 = .ok (.aload_n 2, 1) := dk_44 (dk_at dksJ2_afterNodeRemoval_0 16 rfl rfl)
theorem dJ2_afterNodeRemoval_17 : decode cJ2_afterNodeRemoval 17 = .ok (.aload_n 2, 1) := dk_44 (dk_at dksJ2_afterNodeRemoval_0 17 rfl rfl)
theorem dJ2_afterNodeRemoval_18 : decode cJ2_afterNodeRemoval 18 = .ok (.aconst_null, 1) := dk_1 (dk_at dksJ2_afterNodeRemoval_0 18 rfl rfl)
theorem dJ2_afterNodeRemoval_19 : decode cJ2_afterNodeRemoval 19 = .ok (.dup_x1, 1) := dk_90 (dk_at dksJ2_afterNodeRemoval_0 19 rfl rfl)
theorem dJ2_afterNodeRemoval_20 : decode cJ2_afterNodeRemoval 20 = .ok (.putfield 14, 3) := dk_181 0 14 (dk_at dksJ2_afterNodeRemoval_0 20 rfl rfl)
theorem dJ2_afterNodeRemoval_23 : decode cJ2_afterNodeRemoval 23 = .ok (.putfield 19, 3) := dk_181 0 19 (dk_at dksJ2_afterNodeRemoval_1 0 rfl rfl)
theorem dJ2_afterNodeRemoval_26 : decode cJ2_afterNodeRemoval 26 = .ok (.aload_n 3, 1) := dk_45 (dk_at dksJ2_afterNodeRemoval_1 3 rfl rfl)
theorem dJ2_afterNodeRemoval_27 : decode cJ2_afterNodeRemoval 27 = .ok (.ifnonnull 12, 3) := dk_199 0 12 (dk_at dksJ2_afterNodeRemoval_1 4 rfl rfl)
theorem dJ2_afterNodeRemoval_30 : decode cJ2_afterNodeRemoval 30 = .ok (.aload_n 0, 1) := dk_42 (dk_at dksJ2_afterNodeRemoval_1 7 rfl rfl)
theorem dJ2_afterNodeRemoval_31 : decode cJ2_afterNodeRemoval 31 = .ok (.aload 4, 2) := dk_25 4 (dk_at dksJ2_afterNodeRemoval_1 8 rfl rfl)
theorem dJ2_afterNodeRemoval_33 : decode cJ2_afterNodeRemoval 33 = .ok (.putfield 7, 3) := dk_181 0 7 (dk_at dksJ2_afterNodeRemoval_1 10 rfl rfl)
theorem dJ2_afterNodeRemoval_36 : decode cJ2_afterNodeRemoval 36 = .ok (.goto 9, 3) := dk_167 0 9 (dk_at dksJ2_afterNodeRemoval_1 13 rfl rfl)
theorem dJ2_afterNodeRemoval_39 : decode cJ2_afterNodeRemoval 39 = .ok (.aload_n 3, 1) := dk_45 (dk_at dksJ2_afterNodeRemoval_1 16 rfl rfl)
theorem dJ2_afterNodeRemoval_40 : decode cJ2_afterNodeRemoval 40 = .ok (.aload 4, 2) := dk_25 4 (dk_at dksJ2_afterNodeRemoval_1 17 rfl rfl)
theorem dJ2_afterNodeRemoval_42 : decode cJ2_afterNodeRemoval 42 = .ok (.putfield 14, 3) := dk_181 0 14 (dk_at dksJ2_afterNodeRemoval_1 19 rfl rfl)
theorem dJ2_afterNodeRemoval_45 : decode cJ2_afterNodeRemoval 45 = .ok (.aload 4, 2) := dk_25 4 (dk_at dksJ2_afterNodeRemoval_1 22 rfl rfl)
theorem dJ2_afterNodeRemoval_47 : decode cJ2_afterNodeRemoval 47 = .ok (.ifnonnull 11, 3) := dk_199 0 11 (dk_at dksJ2_afterNodeRemoval_2 0 rfl rfl)
theorem dJ2_afterNodeRemoval_50 : decode cJ2_afterNodeRemoval 50 = .ok (.aload_n 0, 1) := dk_42 (dk_at dksJ2_afterNodeRemoval_2 3 rfl rfl)
theorem dJ2_afterNodeRemoval_51 : decode cJ2_afterNodeRemoval 51 = .ok (.aload_n 3, 1) := dk_45 (dk_at dksJ2_afterNodeRemoval_2 4 rfl rfl)
theorem dJ2_afterNodeRemoval_52 : decode cJ2_afterNodeRemoval 52 = .ok (.putfield 11, 3) := dk_181 0 11 (dk_at dksJ2_afterNodeRemoval_2 5 rfl rfl)
theorem dJ2_afterNodeRemoval_55 : decode cJ2_afterNodeRemoval 55 = .ok (.goto 9, 3) := dk_167 0 9 (dk_at dksJ2_afterNodeRemoval_2 8 rfl rfl)
theorem dJ2_afterNodeRemoval_58 : decode cJ2_afterNodeRemoval 58 = .ok (.aload 4, 2) := dk_25 4 (dk_at dksJ2_afterNodeRemoval_2 11 rfl rfl)
theorem dJ2_afterNodeRemoval_60 : decode cJ2_afterNodeRemoval 60 = .ok (.aload_n 3, 1) := dk_45 (dk_at dksJ2_afterNodeRemoval_2 13 rfl rfl)
theorem dJ2_afterNodeRemoval_61 : decode cJ2_afterNodeRemoval 61 = .ok (.putfield 19, 3) := dk_181 0 19 (dk_at dksJ2_afterNodeRemoval_2 14 rfl rfl)
theorem dJ2_afterNodeRemoval_64 : decode cJ2_afterNodeRemoval 64 = .ok (.return_, 1) := dk_177 (dk_at dksJ2_afterNodeRemoval_2 17 rfl rfl)
abbrev cJ2_newNode : ByteArray := prog_61_method_4_code
def yJ2_newNode : MethodName := ⟨RJ2, "newNode", "(ILjava/lang/Object;Ljava/lang/Object;Ljava/util/HashMap$Node;)Ljava/util/HashMap$Node;"⟩
def dkwJ2_newNode_0 : List UInt8 := [187, 0, 15, 89, 27, 44, 45, 25, 4, 183, 0, 28, 58, 5, 42, 25, 5, 182, 0, 32, 25, 5, 176]
abbrev dktJ2_newNode_0 : List UInt8 := dkwJ2_newNode_0 ++ []
theorem dksJ2_newNode_0 : cJ2_newNode.data.toList.drop 0 = dktJ2_newNode_0 := by decide +kernel
theorem dJ2_newNode_0 : decode cJ2_newNode 0 = .ok (.new 15, 3) := dk_187 0 15 (dk_at dksJ2_newNode_0 0 rfl rfl)
theorem dJ2_newNode_3 : decode cJ2_newNode 3 = .ok (.dup, 1) := dk_89 (dk_at dksJ2_newNode_0 3 rfl rfl)
theorem dJ2_newNode_4 : decode cJ2_newNode 4 = .ok (.iload_n 1, 1) := dk_27 (dk_at dksJ2_newNode_0 4 rfl rfl)
theorem dJ2_newNode_5 : decode cJ2_newNode 5 = .ok (.aload_n 2, 1) := dk_44 (dk_at dksJ2_newNode_0 5 rfl rfl)
theorem dJ2_newNode_6 : decode cJ2_newNode 6 = .ok (.aload_n 3, 1) := dk_45 (dk_at dksJ2_newNode_0 6 rfl rfl)
theorem dJ2_newNode_7 : decode cJ2_newNode 7 = .ok (.aload 4, 2) := dk_25 4 (dk_at dksJ2_newNode_0 7 rfl rfl)
theorem dJ2_newNode_9 : decode cJ2_newNode 9 = .ok (.invokespecial 28, 3) := dk_183 0 28 (dk_at dksJ2_newNode_0 9 rfl rfl)
theorem dJ2_newNode_12 : decode cJ2_newNode 12 = .ok (.astore 5, 2) := dk_58 5 (dk_at dksJ2_newNode_0 12 rfl rfl)
theorem dJ2_newNode_14 : decode cJ2_newNode 14 = .ok (.aload_n 0, 1) := dk_42 (dk_at dksJ2_newNode_0 14 rfl rfl)
theorem dJ2_newNode_15 : decode cJ2_newNode 15 = .ok (.aload 5, 2) := dk_25 5 (dk_at dksJ2_newNode_0 15 rfl rfl)
theorem dJ2_newNode_17 : decode cJ2_newNode 17 = .ok (.invokevirtual 32, 3) := dk_182 0 32 (dk_at dksJ2_newNode_0 17 rfl rfl)
theorem dJ2_newNode_20 : decode cJ2_newNode 20 = .ok (.aload 5, 2) := dk_25 5 (dk_at dksJ2_newNode_0 20 rfl rfl)
theorem dJ2_newNode_22 : decode cJ2_newNode 22 = .ok (.areturn, 1) := dk_176 (dk_at dksJ2_newNode_0 22 rfl rfl)
abbrev cJ2_linkNodeAtEnd : ByteArray := prog_61_method_1_code
def yJ2_linkNodeAtEnd : MethodName := ⟨RJ2, "linkNodeAtEnd", "(Ljava/util/LinkedHashMap$Entry;)V"⟩
def dkwJ2_linkNodeAtEnd_3 : List UInt8 := [181, 0, 14, 177]
abbrev dktJ2_linkNodeAtEnd_3 : List UInt8 := dkwJ2_linkNodeAtEnd_3 ++ []
def dkwJ2_linkNodeAtEnd_2 : List UInt8 := [42, 43, 181, 0, 11, 44, 199, 0, 11, 42, 43, 181, 0, 7, 167, 0, 13, 43, 44, 181, 0, 19, 44, 43]
abbrev dktJ2_linkNodeAtEnd_2 : List UInt8 := dkwJ2_linkNodeAtEnd_2 ++ dktJ2_linkNodeAtEnd_3
def dkwJ2_linkNodeAtEnd_1 : List UInt8 := [181, 0, 11, 167, 0, 13, 43, 44, 181, 0, 14, 44, 43, 181, 0, 19, 167, 0, 35, 42, 180, 0, 11, 77]
abbrev dktJ2_linkNodeAtEnd_1 : List UInt8 := dkwJ2_linkNodeAtEnd_1 ++ dktJ2_linkNodeAtEnd_2
def dkwJ2_linkNodeAtEnd_0 : List UInt8 := [42, 180, 0, 1, 4, 160, 0, 38, 42, 180, 0, 7, 77, 42, 43, 181, 0, 7, 44, 199, 0, 11, 42, 43]
abbrev dktJ2_linkNodeAtEnd_0 : List UInt8 := dkwJ2_linkNodeAtEnd_0 ++ dktJ2_linkNodeAtEnd_1
theorem dksJ2_linkNodeAtEnd_0 : cJ2_linkNodeAtEnd.data.toList.drop 0 = dktJ2_linkNodeAtEnd_0 := by decide +kernel
theorem dksJ2_linkNodeAtEnd_1 : cJ2_linkNodeAtEnd.data.toList.drop 24 = dktJ2_linkNodeAtEnd_1 := dk_seg dksJ2_linkNodeAtEnd_0 24 rfl rfl
theorem dksJ2_linkNodeAtEnd_2 : cJ2_linkNodeAtEnd.data.toList.drop 48 = dktJ2_linkNodeAtEnd_2 := dk_seg dksJ2_linkNodeAtEnd_1 24 rfl rfl
theorem dksJ2_linkNodeAtEnd_3 : cJ2_linkNodeAtEnd.data.toList.drop 72 = dktJ2_linkNodeAtEnd_3 := dk_seg dksJ2_linkNodeAtEnd_2 24 rfl rfl
theorem dJ2_linkNodeAtEnd_0 : decode cJ2_linkNodeAtEnd 0 = .ok (.aload_n 0, 1) := dk_42 (dk_at dksJ2_linkNodeAtEnd_0 0 rfl rfl)
theorem dJ2_linkNodeAtEnd_1 : decode cJ2_linkNodeAtEnd 1 = .ok (.getfield 1, 3) := dk_180 0 1 (dk_at dksJ2_linkNodeAtEnd_0 1 rfl rfl)
theorem dJ2_linkNodeAtEnd_4 : decode cJ2_linkNodeAtEnd 4 = .ok (.iconst 1, 1) := dk_4 (dk_at dksJ2_linkNodeAtEnd_0 4 rfl rfl)
theorem dJ2_linkNodeAtEnd_5 : decode cJ2_linkNodeAtEnd 5 = .ok (.if_icmp .ne 38, 3) := dk_160 0 38 (dk_at dksJ2_linkNodeAtEnd_0 5 rfl rfl)
theorem dJ2_linkNodeAtEnd_8 : decode cJ2_linkNodeAtEnd 8 = .ok (.aload_n 0, 1) := dk_42 (dk_at dksJ2_linkNodeAtEnd_0 8 rfl rfl)
theorem dJ2_linkNodeAtEnd_9 : decode cJ2_linkNodeAtEnd 9 = .ok (.getfield 7, 3) := dk_180 0 7 (dk_at dksJ2_linkNodeAtEnd_0 9 rfl rfl)
theorem dJ2_linkNodeAtEnd_12 : decode cJ2_linkNodeAtEnd 12 = .ok (.astore_n 2, 1) := dk_77 (dk_at dksJ2_linkNodeAtEnd_0 12 rfl rfl)
theorem dJ2_linkNodeAtEnd_13 : decode cJ2_linkNodeAtEnd 13 = .ok (.aload_n 0, 1) := dk_42 (dk_at dksJ2_linkNodeAtEnd_0 13 rfl rfl)
theorem dJ2_linkNodeAtEnd_14 : decode cJ2_linkNodeAtEnd 14 = .ok (.aload_n 1, 1) := dk_43 (dk_at dksJ2_linkNodeAtEnd_0 14 rfl rfl)
theorem dJ2_linkNodeAtEnd_15 : decode cJ2_linkNodeAtEnd 15 = .ok (.putfield 7, 3) := dk_181 0 7 (dk_at dksJ2_linkNodeAtEnd_0 15 rfl rfl)
theorem dJ2_linkNodeAtEnd_18 : decode cJ2_linkNodeAtEnd 18 = .ok (.aload_n 2, 1) := dk_44 (dk_at dksJ2_linkNodeAtEnd_0 18 rfl rfl)
theorem dJ2_linkNodeAtEnd_19 : decode cJ2_linkNodeAtEnd 19 = .ok (.ifnonnull 11, 3) := dk_199 0 11 (dk_at dksJ2_linkNodeAtEnd_0 19 rfl rfl)
theorem dJ2_linkNodeAtEnd_22 : decode cJ2_linkNodeAtEnd 22 = .ok (.aload_n 0, 1) := dk_42 (dk_at dksJ2_linkNodeAtEnd_0 22 rfl rfl)
theorem dJ2_linkNodeAtEnd_23 : decode cJ2_linkNodeAtEnd 23 = .ok (.aload_n 1, 1) := dk_43 (dk_at dksJ2_linkNodeAtEnd_0 23 rfl rfl)
theorem dJ2_linkNodeAtEnd_24 : decode cJ2_linkNodeAtEnd 24 = .ok (.putfield 11, 3) := dk_181 0 11 (dk_at dksJ2_linkNodeAtEnd_1 0 rfl rfl)
theorem dJ2_linkNodeAtEnd_27 : decode cJ2_linkNodeAtEnd 27 = .ok (.goto 13, 3) := dk_167 0 13 (dk_at dksJ2_linkNodeAtEnd_1 3 rfl rfl)
theorem dJ2_linkNodeAtEnd_30 : decode cJ2_linkNodeAtEnd 30 = .ok (.aload_n 1, 1) := dk_43 (dk_at dksJ2_linkNodeAtEnd_1 6 rfl rfl)
theorem dJ2_linkNodeAtEnd_31 : decode cJ2_linkNodeAtEnd 31 = .ok (.aload_n 2, 1) := dk_44 (dk_at dksJ2_linkNodeAtEnd_1 7 rfl rfl)
theorem dJ2_linkNodeAtEnd_32 : decode cJ2_linkNodeAtEnd 32 = .ok (.putfield 14, 3) := dk_181 0 14 (dk_at dksJ2_linkNodeAtEnd_1 8 rfl rfl)
theorem dJ2_linkNodeAtEnd_35 : decode cJ2_linkNodeAtEnd 35 = .ok (.aload_n 2, 1) := dk_44 (dk_at dksJ2_linkNodeAtEnd_1 11 rfl rfl)
theorem dJ2_linkNodeAtEnd_36 : decode cJ2_linkNodeAtEnd 36 = .ok (.aload_n 1, 1) := dk_43 (dk_at dksJ2_linkNodeAtEnd_1 12 rfl rfl)
theorem dJ2_linkNodeAtEnd_37 : decode cJ2_linkNodeAtEnd 37 = .ok (.putfield 19, 3) := dk_181 0 19 (dk_at dksJ2_linkNodeAtEnd_1 13 rfl rfl)
theorem dJ2_linkNodeAtEnd_40 : decode cJ2_linkNodeAtEnd 40 = .ok (.goto 35, 3) := dk_167 0 35 (dk_at dksJ2_linkNodeAtEnd_1 16 rfl rfl)
theorem dJ2_linkNodeAtEnd_43 : decode cJ2_linkNodeAtEnd 43 = .ok (.aload_n 0, 1) := dk_42 (dk_at dksJ2_linkNodeAtEnd_1 19 rfl rfl)
theorem dJ2_linkNodeAtEnd_44 : decode cJ2_linkNodeAtEnd 44 = .ok (.getfield 11, 3) := dk_180 0 11 (dk_at dksJ2_linkNodeAtEnd_1 20 rfl rfl)
theorem dJ2_linkNodeAtEnd_47 : decode cJ2_linkNodeAtEnd 47 = .ok (.astore_n 2, 1) := dk_77 (dk_at dksJ2_linkNodeAtEnd_1 23 rfl rfl)
theorem dJ2_linkNodeAtEnd_48 : decode cJ2_linkNodeAtEnd 48 = .ok (.aload_n 0, 1) := dk_42 (dk_at dksJ2_linkNodeAtEnd_2 0 rfl rfl)
theorem dJ2_linkNodeAtEnd_49 : decode cJ2_linkNodeAtEnd 49 = .ok (.aload_n 1, 1) := dk_43 (dk_at dksJ2_linkNodeAtEnd_2 1 rfl rfl)
theorem dJ2_linkNodeAtEnd_50 : decode cJ2_linkNodeAtEnd 50 = .ok (.putfield 11, 3) := dk_181 0 11 (dk_at dksJ2_linkNodeAtEnd_2 2 rfl rfl)
theorem dJ2_linkNodeAtEnd_53 : decode cJ2_linkNodeAtEnd 53 = .ok (.aload_n 2, 1) := dk_44 (dk_at dksJ2_linkNodeAtEnd_2 5 rfl rfl)
theorem dJ2_linkNodeAtEnd_54 : decode cJ2_linkNodeAtEnd 54 = .ok (.ifnonnull 11, 3) := dk_199 0 11 (dk_at dksJ2_linkNodeAtEnd_2 6 rfl rfl)
theorem dJ2_linkNodeAtEnd_57 : decode cJ2_linkNodeAtEnd 57 = .ok (.aload_n 0, 1) := dk_42 (dk_at dksJ2_linkNodeAtEnd_2 9 rfl rfl)
theorem dJ2_linkNodeAtEnd_58 : decode cJ2_linkNodeAtEnd 58 = .ok (.aload_n 1, 1) := dk_43 (dk_at dksJ2_linkNodeAtEnd_2 10 rfl rfl)
theorem dJ2_linkNodeAtEnd_59 : decode cJ2_linkNodeAtEnd 59 = .ok (.putfield 7, 3) := dk_181 0 7 (dk_at dksJ2_linkNodeAtEnd_2 11 rfl rfl)
theorem dJ2_linkNodeAtEnd_62 : decode cJ2_linkNodeAtEnd 62 = .ok (.goto 13, 3) := dk_167 0 13 (dk_at dksJ2_linkNodeAtEnd_2 14 rfl rfl)
theorem dJ2_linkNodeAtEnd_65 : decode cJ2_linkNodeAtEnd 65 = .ok (.aload_n 1, 1) := dk_43 (dk_at dksJ2_linkNodeAtEnd_2 17 rfl rfl)
theorem dJ2_linkNodeAtEnd_66 : decode cJ2_linkNodeAtEnd 66 = .ok (.aload_n 2, 1) := dk_44 (dk_at dksJ2_linkNodeAtEnd_2 18 rfl rfl)
theorem dJ2_linkNodeAtEnd_67 : decode cJ2_linkNodeAtEnd 67 = .ok (.putfield 19, 3) := dk_181 0 19 (dk_at dksJ2_linkNodeAtEnd_2 19 rfl rfl)
theorem dJ2_linkNodeAtEnd_70 : decode cJ2_linkNodeAtEnd 70 = .ok (.aload_n 2, 1) := dk_44 (dk_at dksJ2_linkNodeAtEnd_2 22 rfl rfl)
theorem dJ2_linkNodeAtEnd_71 : decode cJ2_linkNodeAtEnd 71 = .ok (.aload_n 1, 1) := dk_43 (dk_at dksJ2_linkNodeAtEnd_2 23 rfl rfl)
theorem dJ2_linkNodeAtEnd_72 : decode cJ2_linkNodeAtEnd 72 = .ok (.putfield 14, 3) := dk_181 0 14 (dk_at dksJ2_linkNodeAtEnd_3 0 rfl rfl)
theorem dJ2_linkNodeAtEnd_75 : decode cJ2_linkNodeAtEnd 75 = .ok (.return_, 1) := dk_177 (dk_at dksJ2_linkNodeAtEnd_3 3 rfl rfl)
abbrev cJ2_afterNodeAccess : ByteArray := prog_61_method_10_code
def yJ2_afterNodeAccess : MethodName := ⟨RJ2, "afterNodeAccess", "(Ljava/util/HashMap$Node;)V"⟩
def dkwJ2_afterNodeAccess_11 : List UInt8 := [181, 0, 7, 42, 89, 180, 0, 68, 4, 96, 181, 0, 68, 177]
abbrev dktJ2_afterNodeAccess_11 : List UInt8 := dkwJ2_afterNodeAccess_11 ++ []
def dkwJ2_afterNodeAccess_10 : List UInt8 := [25, 4, 181, 0, 11, 167, 0, 15, 25, 4, 45, 181, 0, 14, 45, 25, 4, 181, 0, 19, 42, 25, 4]
abbrev dktJ2_afterNodeAccess_10 : List UInt8 := dkwJ2_afterNodeAccess_10 ++ dktJ2_afterNodeAccess_11
def dkwJ2_afterNodeAccess_9 : List UInt8 := [25, 5, 198, 0, 13, 25, 5, 25, 6, 181, 0, 14, 167, 0, 6, 25, 6, 78, 45, 199, 0, 12, 42]
abbrev dktJ2_afterNodeAccess_9 : List UInt8 := dkwJ2_afterNodeAccess_9 ++ dktJ2_afterNodeAccess_10
def dkwJ2_afterNodeAccess_8 : List UInt8 := [181, 0, 19, 25, 6, 199, 0, 12, 42, 25, 5, 181, 0, 11, 167, 0, 10, 25, 6, 25, 5, 181, 0, 19]
abbrev dktJ2_afterNodeAccess_8 : List UInt8 := dkwJ2_afterNodeAccess_8 ++ dktJ2_afterNodeAccess_9
def dkwJ2_afterNodeAccess_7 : List UInt8 := [43, 192, 0, 15, 58, 4, 25, 4, 180, 0, 19, 58, 5, 25, 4, 180, 0, 14, 58, 6, 25, 4, 1]
abbrev dktJ2_afterNodeAccess_7 : List UInt8 := dkwJ2_afterNodeAccess_7 ++ dktJ2_afterNodeAccess_8
def dkwJ2_afterNodeAccess_6 : List UInt8 := [181, 0, 68, 167, 0, 127, 42, 180, 0, 1, 4, 160, 0, 119, 42, 180, 0, 7, 89, 78, 43, 165, 0, 109]
abbrev dktJ2_afterNodeAccess_6 : List UInt8 := dkwJ2_afterNodeAccess_6 ++ dktJ2_afterNodeAccess_7
def dkwJ2_afterNodeAccess_5 : List UInt8 := [181, 0, 19, 44, 25, 4, 181, 0, 14, 42, 25, 4, 181, 0, 11, 42, 89, 180, 0, 68, 4, 96]
abbrev dktJ2_afterNodeAccess_5 : List UInt8 := dkwJ2_afterNodeAccess_5 ++ dktJ2_afterNodeAccess_6
def dkwJ2_afterNodeAccess_4 : List UInt8 := [167, 0, 6, 25, 5, 77, 44, 199, 0, 12, 42, 25, 4, 181, 0, 7, 167, 0, 15, 25, 4, 44]
abbrev dktJ2_afterNodeAccess_4 : List UInt8 := dkwJ2_afterNodeAccess_4 ++ dktJ2_afterNodeAccess_5
def dkwJ2_afterNodeAccess_3 : List UInt8 := [167, 0, 10, 25, 5, 25, 6, 181, 0, 14, 25, 6, 198, 0, 13, 25, 6, 25, 5, 181, 0, 19]
abbrev dktJ2_afterNodeAccess_3 : List UInt8 := dkwJ2_afterNodeAccess_3 ++ dktJ2_afterNodeAccess_4
def dkwJ2_afterNodeAccess_2 : List UInt8 := [180, 0, 14, 58, 6, 25, 4, 1, 181, 0, 14, 25, 5, 199, 0, 12, 42, 25, 6, 181, 0, 7]
abbrev dktJ2_afterNodeAccess_2 : List UInt8 := dkwJ2_afterNodeAccess_2 ++ dktJ2_afterNodeAccess_3
def dkwJ2_afterNodeAccess_1 : List UInt8 := [180, 0, 11, 89, 77, 43, 165, 0, 112, 43, 192, 0, 15, 58, 4, 25, 4, 180, 0, 19, 58, 5, 25, 4]
abbrev dktJ2_afterNodeAccess_1 : List UInt8 := dkwJ2_afterNodeAccess_1 ++ dktJ2_afterNodeAccess_2
def dkwJ2_afterNodeAccess_0 : List UInt8 := [42, 180, 0, 1, 5, 159, 0, 17, 42, 180, 0, 1, 154, 0, 129, 42, 180, 0, 64, 153, 0, 122, 42]
abbrev dktJ2_afterNodeAccess_0 : List UInt8 := dkwJ2_afterNodeAccess_0 ++ dktJ2_afterNodeAccess_1
theorem dksJ2_afterNodeAccess_0 : cJ2_afterNodeAccess.data.toList.drop 0 = dktJ2_afterNodeAccess_0 := by decide +kernel
theorem dksJ2_afterNodeAccess_1 : cJ2_afterNodeAccess.data.toList.drop 23 = dktJ2_afterNodeAccess_1 := dk_seg dksJ2_afterNodeAccess_0 23 rfl rfl
theorem dksJ2_afterNodeAccess_2 : cJ2_afterNodeAccess.data.toList.drop 47 = dktJ2_afterNodeAccess_2 := dk_seg dksJ2_afterNodeAccess_1 24 rfl rfl
theorem dksJ2_afterNodeAccess_3 : cJ2_afterNodeAccess.data.toList.drop 69 = dktJ2_afterNodeAccess_3 := dk_seg dksJ2_afterNodeAccess_2 22 rfl rfl
theorem dksJ2_afterNodeAccess_4 : cJ2_afterNodeAccess.data.toList.drop 91 = dktJ2_afterNodeAccess_4 := dk_seg dksJ2_afterNodeAccess_3 22 rfl rfl
theorem dksJ2_afterNodeAccess_5 : cJ2_afterNodeAccess.data.toList.drop 113 = dktJ2_afterNodeAccess_5 := dk_seg dksJ2_afterNodeAccess_4 22 rfl rfl
theorem dksJ2_afterNodeAccess_6 : cJ2_afterNodeAccess.data.toList.drop 135 = dktJ2_afterNodeAccess_6 := dk_seg dksJ2_afterNodeAccess_5 22 rfl rfl
theorem dksJ2_afterNodeAccess_7 : cJ2_afterNodeAccess.data.toList.drop 159 = dktJ2_afterNodeAccess_7 := dk_seg dksJ2_afterNodeAccess_6 24 rfl rfl
theorem dksJ2_afterNodeAccess_8 : cJ2_afterNodeAccess.data.toList.drop 182 = dktJ2_afterNodeAccess_8 := dk_seg dksJ2_afterNodeAccess_7 23 rfl rfl
theorem dksJ2_afterNodeAccess_9 : cJ2_afterNodeAccess.data.toList.drop 206 = dktJ2_afterNodeAccess_9 := dk_seg dksJ2_afterNodeAccess_8 24 rfl rfl
theorem dksJ2_afterNodeAccess_10 : cJ2_afterNodeAccess.data.toList.drop 229 = dktJ2_afterNodeAccess_10 := dk_seg dksJ2_afterNodeAccess_9 23 rfl rfl
theorem dksJ2_afterNodeAccess_11 : cJ2_afterNodeAccess.data.toList.drop 252 = dktJ2_afterNodeAccess_11 := dk_seg dksJ2_afterNodeAccess_10 23 rfl rfl
theorem dJ2_afterNodeAccess_0 : decode cJ2_afterNodeAccess 0 = .ok (.aload_n 0, 1) := dk_42 (dk_at dksJ2_afterNodeAccess_0 0 rfl rfl)
theorem dJ2_afterNodeAccess_1 : decode cJ2_afterNodeAccess 1 = .ok (.getfield 1, 3) := dk_180 0 1 (dk_at dksJ2_afterNodeAccess_0 1 rfl rfl)
theorem dJ2_afterNodeAccess_4 : decode cJ2_afterNodeAccess 4 = .ok (.iconst 2, 1) := dk_5 (dk_at dksJ2_afterNodeAccess_0 4 rfl rfl)
theorem dJ2_afterNodeAccess_5 : decode cJ2_afterNodeAccess 5 = .ok (.if_icmp .eq 17, 3) := dk_159 0 17 (dk_at dksJ2_afterNodeAccess_0 5 rfl rfl)
theorem dJ2_afterNodeAccess_8 : decode cJ2_afterNodeAccess 8 = .ok (.aload_n 0, 1) := dk_42 (dk_at dksJ2_afterNodeAccess_0 8 rfl rfl)
theorem dJ2_afterNodeAccess_9 : decode cJ2_afterNodeAccess 9 = .ok (.getfield 1, 3) := dk_180 0 1 (dk_at dksJ2_afterNodeAccess_0 9 rfl rfl)
theorem dJ2_afterNodeAccess_12 : decode cJ2_afterNodeAccess 12 = .ok (.ifCond .ne 129, 3) := dk_154 0 129 (dk_at dksJ2_afterNodeAccess_0 12 rfl rfl)
theorem dJ2_afterNodeAccess_15 : decode cJ2_afterNodeAccess 15 = .ok (.aload_n 0, 1) := dk_42 (dk_at dksJ2_afterNodeAccess_0 15 rfl rfl)
theorem dJ2_afterNodeAccess_16 : decode cJ2_afterNodeAccess 16 = .ok (.getfield 64, 3) := dk_180 0 64 (dk_at dksJ2_afterNodeAccess_0 16 rfl rfl)
theorem dJ2_afterNodeAccess_19 : decode cJ2_afterNodeAccess 19 = .ok (.ifCond .eq 122, 3) := dk_153 0 122 (dk_at dksJ2_afterNodeAccess_0 19 rfl rfl)
theorem dJ2_afterNodeAccess_22 : decode cJ2_afterNodeAccess 22 = .ok (.aload_n 0, 1) := dk_42 (dk_at dksJ2_afterNodeAccess_0 22 rfl rfl)
theorem dJ2_afterNodeAccess_23 : decode cJ2_afterNodeAccess 23 = .ok (.getfield 11, 3) := dk_180 0 11 (dk_at dksJ2_afterNodeAccess_1 0 rfl rfl)
theorem dJ2_afterNodeAccess_26 : decode cJ2_afterNodeAccess 26 = .ok (.dup, 1) := dk_89 (dk_at dksJ2_afterNodeAccess_1 3 rfl rfl)
theorem dJ2_afterNodeAccess_27 : decode cJ2_afterNodeAccess 27 = .ok (.astore_n 2, 1) := dk_77 (dk_at dksJ2_afterNodeAccess_1 4 rfl rfl)
theorem dJ2_afterNodeAccess_28 : decode cJ2_afterNodeAccess 28 = .ok (.aload_n 1, 1) := dk_43 (dk_at dksJ2_afterNodeAccess_1 5 rfl rfl)
theorem dJ2_afterNodeAccess_29 : decode cJ2_afterNodeAccess 29 = .ok (.if_acmp .eq 112, 3) := dk_165 0 112 (dk_at dksJ2_afterNodeAccess_1 6 rfl rfl)
theorem dJ2_afterNodeAccess_32 : decode cJ2_afterNodeAccess 32 = .ok (.aload_n 1, 1) := dk_43 (dk_at dksJ2_afterNodeAccess_1 9 rfl rfl)
theorem dJ2_afterNodeAccess_33 : decode cJ2_afterNodeAccess 33 = .ok (.checkcast 15, 3) := dk_192 0 15 (dk_at dksJ2_afterNodeAccess_1 10 rfl rfl)
theorem dJ2_afterNodeAccess_36 : decode cJ2_afterNodeAccess 36 = .ok (.astore 4, 2) := dk_58 4 (dk_at dksJ2_afterNodeAccess_1 13 rfl rfl)
theorem dJ2_afterNodeAccess_38 : decode cJ2_afterNodeAccess 38 = .ok (.aload 4, 2) := dk_25 4 (dk_at dksJ2_afterNodeAccess_1 15 rfl rfl)
theorem dJ2_afterNodeAccess_40 : decode cJ2_afterNodeAccess 40 = .ok (.getfield 19, 3) := dk_180 0 19 (dk_at dksJ2_afterNodeAccess_1 17 rfl rfl)
theorem dJ2_afterNodeAccess_43 : decode cJ2_afterNodeAccess 43 = .ok (.astore 5, 2) := dk_58 5 (dk_at dksJ2_afterNodeAccess_1 20 rfl rfl)
theorem dJ2_afterNodeAccess_45 : decode cJ2_afterNodeAccess 45 = .ok (.aload 4, 2) := dk_25 4 (dk_at dksJ2_afterNodeAccess_1 22 rfl rfl)
theorem dJ2_afterNodeAccess_47 : decode cJ2_afterNodeAccess 47 = .ok (.getfield 14, 3) := dk_180 0 14 (dk_at dksJ2_afterNodeAccess_2 0 rfl rfl)
theorem dJ2_afterNodeAccess_50 : decode cJ2_afterNodeAccess 50 = .ok (.astore 6, 2) := dk_58 6 (dk_at dksJ2_afterNodeAccess_2 3 rfl rfl)
theorem dJ2_afterNodeAccess_52 : decode cJ2_afterNodeAccess 52 = .ok (.aload 4, 2) := dk_25 4 (dk_at dksJ2_afterNodeAccess_2 5 rfl rfl)
theorem dJ2_afterNodeAccess_54 : decode cJ2_afterNodeAccess 54 = .ok (.aconst_null, 1) := dk_1 (dk_at dksJ2_afterNodeAccess_2 7 rfl rfl)
theorem dJ2_afterNodeAccess_55 : decode cJ2_afterNodeAccess 55 = .ok (.putfield 14, 3) := dk_181 0 14 (dk_at dksJ2_afterNodeAccess_2 8 rfl rfl)
theorem dJ2_afterNodeAccess_58 : decode cJ2_afterNodeAccess 58 = .ok (.aload 5, 2) := dk_25 5 (dk_at dksJ2_afterNodeAccess_2 11 rfl rfl)
theorem dJ2_afterNodeAccess_60 : decode cJ2_afterNodeAccess 60 = .ok (.ifnonnull 12, 3) := dk_199 0 12 (dk_at dksJ2_afterNodeAccess_2 13 rfl rfl)
theorem dJ2_afterNodeAccess_63 : decode cJ2_afterNodeAccess 63 = .ok (.aload_n 0, 1) := dk_42 (dk_at dksJ2_afterNodeAccess_2 16 rfl rfl)
theorem dJ2_afterNodeAccess_64 : decode cJ2_afterNodeAccess 64 = .ok (.aload 6, 2) := dk_25 6 (dk_at dksJ2_afterNodeAccess_2 17 rfl rfl)
theorem dJ2_afterNodeAccess_66 : decode cJ2_afterNodeAccess 66 = .ok (.putfield 7, 3) := dk_181 0 7 (dk_at dksJ2_afterNodeAccess_2 19 rfl rfl)
theorem dJ2_afterNodeAccess_69 : decode cJ2_afterNodeAccess 69 = .ok (.goto 10, 3) := dk_167 0 10 (dk_at dksJ2_afterNodeAccess_3 0 rfl rfl)
theorem dJ2_afterNodeAccess_72 : decode cJ2_afterNodeAccess 72 = .ok (.aload 5, 2) := dk_25 5 (dk_at dksJ2_afterNodeAccess_3 3 rfl rfl)
theorem dJ2_afterNodeAccess_74 : decode cJ2_afterNodeAccess 74 = .ok (.aload 6, 2) := dk_25 6 (dk_at dksJ2_afterNodeAccess_3 5 rfl rfl)
theorem dJ2_afterNodeAccess_76 : decode cJ2_afterNodeAccess 76 = .ok (.putfield 14, 3) := dk_181 0 14 (dk_at dksJ2_afterNodeAccess_3 7 rfl rfl)
theorem dJ2_afterNodeAccess_79 : decode cJ2_afterNodeAccess 79 = .ok (.aload 6, 2) := dk_25 6 (dk_at dksJ2_afterNodeAccess_3 10 rfl rfl)
theorem dJ2_afterNodeAccess_81 : decode cJ2_afterNodeAccess 81 = .ok (.ifnull 13, 3) := dk_198 0 13 (dk_at dksJ2_afterNodeAccess_3 12 rfl rfl)
theorem dJ2_afterNodeAccess_84 : decode cJ2_afterNodeAccess 84 = .ok (.aload 6, 2) := dk_25 6 (dk_at dksJ2_afterNodeAccess_3 15 rfl rfl)
theorem dJ2_afterNodeAccess_86 : decode cJ2_afterNodeAccess 86 = .ok (.aload 5, 2) := dk_25 5 (dk_at dksJ2_afterNodeAccess_3 17 rfl rfl)
theorem dJ2_afterNodeAccess_88 : decode cJ2_afterNodeAccess 88 = .ok (.putfield 19, 3) := dk_181 0 19 (dk_at dksJ2_afterNodeAccess_3 19 rfl rfl)
theorem dJ2_afterNodeAccess_91 : decode cJ2_afterNodeAccess 91 = .ok (.goto 6, 3) := dk_167 0 6 (dk_at dksJ2_afterNodeAccess_4 0 rfl rfl)
theorem dJ2_afterNodeAccess_94 : decode cJ2_afterNodeAccess 94 = .ok (.aload 5, 2) := dk_25 5 (dk_at dksJ2_afterNodeAccess_4 3 rfl rfl)
theorem dJ2_afterNodeAccess_96 : decode cJ2_afterNodeAccess 96 = .ok (.astore_n 2, 1) := dk_77 (dk_at dksJ2_afterNodeAccess_4 5 rfl rfl)
theorem dJ2_afterNodeAccess_97 : decode cJ2_afterNodeAccess 97 = .ok (.aload_n 2, 1) := dk_44 (dk_at dksJ2_afterNodeAccess_4 6 rfl rfl)
theorem dJ2_afterNodeAccess_98 : decode cJ2_afterNodeAccess 98 = .ok (.ifnonnull 12, 3) := dk_199 0 12 (dk_at dksJ2_afterNodeAccess_4 7 rfl rfl)
theorem dJ2_afterNodeAccess_101 : decode cJ2_afterNodeAccess 101 = .ok (.aload_n 0, 1) := dk_42 (dk_at dksJ2_afterNodeAccess_4 10 rfl rfl)
theorem dJ2_afterNodeAccess_102 : decode cJ2_afterNodeAccess 102 = .ok (.aload 4, 2) := dk_25 4 (dk_at dksJ2_afterNodeAccess_4 11 rfl rfl)
theorem dJ2_afterNodeAccess_104 : decode cJ2_afterNodeAccess 104 = .ok (.putfield 7, 3) := dk_181 0 7 (dk_at dksJ2_afterNodeAccess_4 13 rfl rfl)
theorem dJ2_afterNodeAccess_107 : decode cJ2_afterNodeAccess 107 = .ok (.goto 15, 3) := dk_167 0 15 (dk_at dksJ2_afterNodeAccess_4 16 rfl rfl)
theorem dJ2_afterNodeAccess_110 : decode cJ2_afterNodeAccess 110 = .ok (.aload 4, 2) := dk_25 4 (dk_at dksJ2_afterNodeAccess_4 19 rfl rfl)
theorem dJ2_afterNodeAccess_112 : decode cJ2_afterNodeAccess 112 = .ok (.aload_n 2, 1) := dk_44 (dk_at dksJ2_afterNodeAccess_4 21 rfl rfl)
theorem dJ2_afterNodeAccess_113 : decode cJ2_afterNodeAccess 113 = .ok (.putfield 19, 3) := dk_181 0 19 (dk_at dksJ2_afterNodeAccess_5 0 rfl rfl)
theorem dJ2_afterNodeAccess_116 : decode cJ2_afterNodeAccess 116 = .ok (.aload_n 2, 1) := dk_44 (dk_at dksJ2_afterNodeAccess_5 3 rfl rfl)
theorem dJ2_afterNodeAccess_117 : decode cJ2_afterNodeAccess 117 = .ok (.aload 4, 2) := dk_25 4 (dk_at dksJ2_afterNodeAccess_5 4 rfl rfl)
theorem dJ2_afterNodeAccess_119 : decode cJ2_afterNodeAccess 119 = .ok (.putfield 14, 3) := dk_181 0 14 (dk_at dksJ2_afterNodeAccess_5 6 rfl rfl)
theorem dJ2_afterNodeAccess_122 : decode cJ2_afterNodeAccess 122 = .ok (.aload_n 0, 1) := dk_42 (dk_at dksJ2_afterNodeAccess_5 9 rfl rfl)
theorem dJ2_afterNodeAccess_123 : decode cJ2_afterNodeAccess 123 = .ok (.aload 4, 2) := dk_25 4 (dk_at dksJ2_afterNodeAccess_5 10 rfl rfl)
theorem dJ2_afterNodeAccess_125 : decode cJ2_afterNodeAccess 125 = .ok (.putfield 11, 3) := dk_181 0 11 (dk_at dksJ2_afterNodeAccess_5 12 rfl rfl)
theorem dJ2_afterNodeAccess_128 : decode cJ2_afterNodeAccess 128 = .ok (.aload_n 0, 1) := dk_42 (dk_at dksJ2_afterNodeAccess_5 15 rfl rfl)
theorem dJ2_afterNodeAccess_129 : decode cJ2_afterNodeAccess 129 = .ok (.dup, 1) := dk_89 (dk_at dksJ2_afterNodeAccess_5 16 rfl rfl)
theorem dJ2_afterNodeAccess_130 : decode cJ2_afterNodeAccess 130 = .ok (.getfield 68, 3) := dk_180 0 68 (dk_at dksJ2_afterNodeAccess_5 17 rfl rfl)
theorem dJ2_afterNodeAccess_133 : decode cJ2_afterNodeAccess 133 = .ok (.iconst 1, 1) := dk_4 (dk_at dksJ2_afterNodeAccess_5 20 rfl rfl)
theorem dJ2_afterNodeAccess_134 : decode cJ2_afterNodeAccess 134 = .ok (.iadd, 1) := dk_96 (dk_at dksJ2_afterNodeAccess_5 21 rfl rfl)
theorem dJ2_afterNodeAccess_135 : decode cJ2_afterNodeAccess 135 = .ok (.putfield 68, 3) := dk_181 0 68 (dk_at dksJ2_afterNodeAccess_6 0 rfl rfl)
theorem dJ2_afterNodeAccess_138 : decode cJ2_afterNodeAccess 138 = .ok (.goto 127, 3) := dk_167 0 127 (dk_at dksJ2_afterNodeAccess_6 3 rfl rfl)
theorem dJ2_afterNodeAccess_141 : decode cJ2_afterNodeAccess 141 = .ok (.aload_n 0, 1) := dk_42 (dk_at dksJ2_afterNodeAccess_6 6 rfl rfl)
theorem dJ2_afterNodeAccess_142 : decode cJ2_afterNodeAccess 142 = .ok (.getfield 1, 3) := dk_180 0 1 (dk_at dksJ2_afterNodeAccess_6 7 rfl rfl)
theorem dJ2_afterNodeAccess_145 : decode cJ2_afterNodeAccess 145 = .ok (.iconst 1, 1) := dk_4 (dk_at dksJ2_afterNodeAccess_6 10 rfl rfl)
theorem dJ2_afterNodeAccess_146 : decode cJ2_afterNodeAccess 146 = .ok (.if_icmp .ne 119, 3) := dk_160 0 119 (dk_at dksJ2_afterNodeAccess_6 11 rfl rfl)
theorem dJ2_afterNodeAccess_149 : decode cJ2_afterNodeAccess 149 = .ok (.aload_n 0, 1) := dk_42 (dk_at dksJ2_afterNodeAccess_6 14 rfl rfl)
theorem dJ2_afterNodeAccess_150 : decode cJ2_afterNodeAccess 150 = .ok (.getfield 7, 3) := dk_180 0 7 (dk_at dksJ2_afterNodeAccess_6 15 rfl rfl)
theorem dJ2_afterNodeAccess_153 : decode cJ2_afterNodeAccess 153 = .ok (.dup, 1) := dk_89 (dk_at dksJ2_afterNodeAccess_6 18 rfl rfl)
theorem dJ2_afterNodeAccess_154 : decode cJ2_afterNodeAccess 154 = .ok (.astore_n 3, 1) := dk_78 (dk_at dksJ2_afterNodeAccess_6 19 rfl rfl)
theorem dJ2_afterNodeAccess_155 : decode cJ2_afterNodeAccess 155 = .ok (.aload_n 1, 1) := dk_43 (dk_at dksJ2_afterNodeAccess_6 20 rfl rfl)
theorem dJ2_afterNodeAccess_156 : decode cJ2_afterNodeAccess 156 = .ok (.if_acmp .eq 109, 3) := dk_165 0 109 (dk_at dksJ2_afterNodeAccess_6 21 rfl rfl)
theorem dJ2_afterNodeAccess_159 : decode cJ2_afterNodeAccess 159 = .ok (.aload_n 1, 1) := dk_43 (dk_at dksJ2_afterNodeAccess_7 0 rfl rfl)
theorem dJ2_afterNodeAccess_160 : decode cJ2_afterNodeAccess 160 = .ok (.checkcast 15, 3) := dk_192 0 15 (dk_at dksJ2_afterNodeAccess_7 1 rfl rfl)
theorem dJ2_afterNodeAccess_163 : decode cJ2_afterNodeAccess 163 = .ok (.astore 4, 2) := dk_58 4 (dk_at dksJ2_afterNodeAccess_7 4 rfl rfl)
theorem dJ2_afterNodeAccess_165 : decode cJ2_afterNodeAccess 165 = .ok (.aload 4, 2) := dk_25 4 (dk_at dksJ2_afterNodeAccess_7 6 rfl rfl)
theorem dJ2_afterNodeAccess_167 : decode cJ2_afterNodeAccess 167 = .ok (.getfield 19, 3) := dk_180 0 19 (dk_at dksJ2_afterNodeAccess_7 8 rfl rfl)
theorem dJ2_afterNodeAccess_170 : decode cJ2_afterNodeAccess 170 = .ok (.astore 5, 2) := dk_58 5 (dk_at dksJ2_afterNodeAccess_7 11 rfl rfl)
theorem dJ2_afterNodeAccess_172 : decode cJ2_afterNodeAccess 172 = .ok (.aload 4, 2) := dk_25 4 (dk_at dksJ2_afterNodeAccess_7 13 rfl rfl)
theorem dJ2_afterNodeAccess_174 : decode cJ2_afterNodeAccess 174 = .ok (.getfield 14, 3) := dk_180 0 14 (dk_at dksJ2_afterNodeAccess_7 15 rfl rfl)
theorem dJ2_afterNodeAccess_177 : decode cJ2_afterNodeAccess 177 = .ok (.astore 6, 2) := dk_58 6 (dk_at dksJ2_afterNodeAccess_7 18 rfl rfl)
theorem dJ2_afterNodeAccess_179 : decode cJ2_afterNodeAccess 179 = .ok (.aload 4, 2) := dk_25 4 (dk_at dksJ2_afterNodeAccess_7 20 rfl rfl)
theorem dJ2_afterNodeAccess_181 : decode cJ2_afterNodeAccess 181 = .ok (.aconst_null, 1) := dk_1 (dk_at dksJ2_afterNodeAccess_7 22 rfl rfl)
theorem dJ2_afterNodeAccess_182 : decode cJ2_afterNodeAccess 182 = .ok (.putfield 19, 3) := dk_181 0 19 (dk_at dksJ2_afterNodeAccess_8 0 rfl rfl)
theorem dJ2_afterNodeAccess_185 : decode cJ2_afterNodeAccess 185 = .ok (.aload 6, 2) := dk_25 6 (dk_at dksJ2_afterNodeAccess_8 3 rfl rfl)
theorem dJ2_afterNodeAccess_187 : decode cJ2_afterNodeAccess 187 = .ok (.ifnonnull 12, 3) := dk_199 0 12 (dk_at dksJ2_afterNodeAccess_8 5 rfl rfl)
theorem dJ2_afterNodeAccess_190 : decode cJ2_afterNodeAccess 190 = .ok (.aload_n 0, 1) := dk_42 (dk_at dksJ2_afterNodeAccess_8 8 rfl rfl)
theorem dJ2_afterNodeAccess_191 : decode cJ2_afterNodeAccess 191 = .ok (.aload 5, 2) := dk_25 5 (dk_at dksJ2_afterNodeAccess_8 9 rfl rfl)
theorem dJ2_afterNodeAccess_193 : decode cJ2_afterNodeAccess 193 = .ok (.putfield 11, 3) := dk_181 0 11 (dk_at dksJ2_afterNodeAccess_8 11 rfl rfl)
theorem dJ2_afterNodeAccess_196 : decode cJ2_afterNodeAccess 196 = .ok (.goto 10, 3) := dk_167 0 10 (dk_at dksJ2_afterNodeAccess_8 14 rfl rfl)
theorem dJ2_afterNodeAccess_199 : decode cJ2_afterNodeAccess 199 = .ok (.aload 6, 2) := dk_25 6 (dk_at dksJ2_afterNodeAccess_8 17 rfl rfl)
theorem dJ2_afterNodeAccess_201 : decode cJ2_afterNodeAccess 201 = .ok (.aload 5, 2) := dk_25 5 (dk_at dksJ2_afterNodeAccess_8 19 rfl rfl)
theorem dJ2_afterNodeAccess_203 : decode cJ2_afterNodeAccess 203 = .ok (.putfield 19, 3) := dk_181 0 19 (dk_at dksJ2_afterNodeAccess_8 21 rfl rfl)
theorem dJ2_afterNodeAccess_206 : decode cJ2_afterNodeAccess 206 = .ok (.aload 5, 2) := dk_25 5 (dk_at dksJ2_afterNodeAccess_9 0 rfl rfl)
theorem dJ2_afterNodeAccess_208 : decode cJ2_afterNodeAccess 208 = .ok (.ifnull 13, 3) := dk_198 0 13 (dk_at dksJ2_afterNodeAccess_9 2 rfl rfl)
theorem dJ2_afterNodeAccess_211 : decode cJ2_afterNodeAccess 211 = .ok (.aload 5, 2) := dk_25 5 (dk_at dksJ2_afterNodeAccess_9 5 rfl rfl)
theorem dJ2_afterNodeAccess_213 : decode cJ2_afterNodeAccess 213 = .ok (.aload 6, 2) := dk_25 6 (dk_at dksJ2_afterNodeAccess_9 7 rfl rfl)
theorem dJ2_afterNodeAccess_215 : decode cJ2_afterNodeAccess 215 = .ok (.putfield 14, 3) := dk_181 0 14 (dk_at dksJ2_afterNodeAccess_9 9 rfl rfl)
theorem dJ2_afterNodeAccess_218 : decode cJ2_afterNodeAccess 218 = .ok (.goto 6, 3) := dk_167 0 6 (dk_at dksJ2_afterNodeAccess_9 12 rfl rfl)
theorem dJ2_afterNodeAccess_221 : decode cJ2_afterNodeAccess 221 = .ok (.aload 6, 2) := dk_25 6 (dk_at dksJ2_afterNodeAccess_9 15 rfl rfl)
theorem dJ2_afterNodeAccess_223 : decode cJ2_afterNodeAccess 223 = .ok (.astore_n 3, 1) := dk_78 (dk_at dksJ2_afterNodeAccess_9 17 rfl rfl)
theorem dJ2_afterNodeAccess_224 : decode cJ2_afterNodeAccess 224 = .ok (.aload_n 3, 1) := dk_45 (dk_at dksJ2_afterNodeAccess_9 18 rfl rfl)
theorem dJ2_afterNodeAccess_225 : decode cJ2_afterNodeAccess 225 = .ok (.ifnonnull 12, 3) := dk_199 0 12 (dk_at dksJ2_afterNodeAccess_9 19 rfl rfl)
theorem dJ2_afterNodeAccess_228 : decode cJ2_afterNodeAccess 228 = .ok (.aload_n 0, 1) := dk_42 (dk_at dksJ2_afterNodeAccess_9 22 rfl rfl)
theorem dJ2_afterNodeAccess_229 : decode cJ2_afterNodeAccess 229 = .ok (.aload 4, 2) := dk_25 4 (dk_at dksJ2_afterNodeAccess_10 0 rfl rfl)
theorem dJ2_afterNodeAccess_231 : decode cJ2_afterNodeAccess 231 = .ok (.putfield 11, 3) := dk_181 0 11 (dk_at dksJ2_afterNodeAccess_10 2 rfl rfl)
theorem dJ2_afterNodeAccess_234 : decode cJ2_afterNodeAccess 234 = .ok (.goto 15, 3) := dk_167 0 15 (dk_at dksJ2_afterNodeAccess_10 5 rfl rfl)
theorem dJ2_afterNodeAccess_237 : decode cJ2_afterNodeAccess 237 = .ok (.aload 4, 2) := dk_25 4 (dk_at dksJ2_afterNodeAccess_10 8 rfl rfl)
theorem dJ2_afterNodeAccess_239 : decode cJ2_afterNodeAccess 239 = .ok (.aload_n 3, 1) := dk_45 (dk_at dksJ2_afterNodeAccess_10 10 rfl rfl)
theorem dJ2_afterNodeAccess_240 : decode cJ2_afterNodeAccess 240 = .ok (.putfield 14, 3) := dk_181 0 14 (dk_at dksJ2_afterNodeAccess_10 11 rfl rfl)
theorem dJ2_afterNodeAccess_243 : decode cJ2_afterNodeAccess 243 = .ok (.aload_n 3, 1) := dk_45 (dk_at dksJ2_afterNodeAccess_10 14 rfl rfl)
theorem dJ2_afterNodeAccess_244 : decode cJ2_afterNodeAccess 244 = .ok (.aload 4, 2) := dk_25 4 (dk_at dksJ2_afterNodeAccess_10 15 rfl rfl)
theorem dJ2_afterNodeAccess_246 : decode cJ2_afterNodeAccess 246 = .ok (.putfield 19, 3) := dk_181 0 19 (dk_at dksJ2_afterNodeAccess_10 17 rfl rfl)
theorem dJ2_afterNodeAccess_249 : decode cJ2_afterNodeAccess 249 = .ok (.aload_n 0, 1) := dk_42 (dk_at dksJ2_afterNodeAccess_10 20 rfl rfl)
theorem dJ2_afterNodeAccess_250 : decode cJ2_afterNodeAccess 250 = .ok (.aload 4, 2) := dk_25 4 (dk_at dksJ2_afterNodeAccess_10 21 rfl rfl)
theorem dJ2_afterNodeAccess_252 : decode cJ2_afterNodeAccess 252 = .ok (.putfield 7, 3) := dk_181 0 7 (dk_at dksJ2_afterNodeAccess_11 0 rfl rfl)
theorem dJ2_afterNodeAccess_255 : decode cJ2_afterNodeAccess 255 = .ok (.aload_n 0, 1) := dk_42 (dk_at dksJ2_afterNodeAccess_11 3 rfl rfl)
theorem dJ2_afterNodeAccess_256 : decode cJ2_afterNodeAccess 256 = .ok (.dup, 1) := dk_89 (dk_at dksJ2_afterNodeAccess_11 4 rfl rfl)
theorem dJ2_afterNodeAccess_257 : decode cJ2_afterNodeAccess 257 = .ok (.getfield 68, 3) := dk_180 0 68 (dk_at dksJ2_afterNodeAccess_11 5 rfl rfl)
theorem dJ2_afterNodeAccess_260 : decode cJ2_afterNodeAccess 260 = .ok (.iconst 1, 1) := dk_4 (dk_at dksJ2_afterNodeAccess_11 8 rfl rfl)
theorem dJ2_afterNodeAccess_261 : decode cJ2_afterNodeAccess 261 = .ok (.iadd, 1) := dk_96 (dk_at dksJ2_afterNodeAccess_11 9 rfl rfl)
theorem dJ2_afterNodeAccess_262 : decode cJ2_afterNodeAccess 262 = .ok (.putfield 68, 3) := dk_181 0 68 (dk_at dksJ2_afterNodeAccess_11 10 rfl rfl)
theorem dJ2_afterNodeAccess_265 : decode cJ2_afterNodeAccess 265 = .ok (.return_, 1) := dk_177 (dk_at dksJ2_afterNodeAccess_11 13 rfl rfl)
abbrev cJ2_afterNodeInsertion : ByteArray := prog_61_method_9_code
def yJ2_afterNodeInsertion : MethodName := ⟨RJ2, "afterNodeInsertion", "(Z)V"⟩
def dkwJ2_afterNodeInsertion_1 : List UInt8 := [180, 0, 39, 78, 42, 45, 184, 0, 57, 45, 1, 3, 4, 182, 0, 60, 87, 177]
abbrev dktJ2_afterNodeInsertion_1 : List UInt8 := dkwJ2_afterNodeInsertion_1 ++ []
def dkwJ2_afterNodeInsertion_0 : List UInt8 := [27, 153, 0, 38, 42, 180, 0, 7, 89, 77, 198, 0, 29, 42, 44, 182, 0, 53, 153, 0, 21, 44]
abbrev dktJ2_afterNodeInsertion_0 : List UInt8 := dkwJ2_afterNodeInsertion_0 ++ dktJ2_afterNodeInsertion_1
theorem dksJ2_afterNodeInsertion_0 : cJ2_afterNodeInsertion.data.toList.drop 0 = dktJ2_afterNodeInsertion_0 := by decide +kernel
theorem dksJ2_afterNodeInsertion_1 : cJ2_afterNodeInsertion.data.toList.drop 22 = dktJ2_afterNodeInsertion_1 := dk_seg dksJ2_afterNodeInsertion_0 22 rfl rfl
theorem dJ2_afterNodeInsertion_0 : decode cJ2_afterNodeInsertion 0 = .ok (.iload_n 1, 1) := dk_27 (dk_at dksJ2_afterNodeInsertion_0 0 rfl rfl)
theorem dJ2_afterNodeInsertion_1 : decode cJ2_afterNodeInsertion 1 = .ok (.ifCond .eq 38, 3) := dk_153 0 38 (dk_at dksJ2_afterNodeInsertion_0 1 rfl rfl)
theorem dJ2_afterNodeInsertion_4 : decode cJ2_afterNodeInsertion 4 = .ok (.aload_n 0, 1) := dk_42 (dk_at dksJ2_afterNodeInsertion_0 4 rfl rfl)
theorem dJ2_afterNodeInsertion_5 : decode cJ2_afterNodeInsertion 5 = .ok (.getfield 7, 3) := dk_180 0 7 (dk_at dksJ2_afterNodeInsertion_0 5 rfl rfl)
theorem dJ2_afterNodeInsertion_8 : decode cJ2_afterNodeInsertion 8 = .ok (.dup, 1) := dk_89 (dk_at dksJ2_afterNodeInsertion_0 8 rfl rfl)
theorem dJ2_afterNodeInsertion_9 : decode cJ2_afterNodeInsertion 9 = .ok (.astore_n 2, 1) := dk_77 (dk_at dksJ2_afterNodeInsertion_0 9 rfl rfl)
theorem dJ2_afterNodeInsertion_10 : decode cJ2_afterNodeInsertion 10 = .ok (.ifnull 29, 3) := dk_198 0 29 (dk_at dksJ2_afterNodeInsertion_0 10 rfl rfl)
theorem dJ2_afterNodeInsertion_13 : decode cJ2_afterNodeInsertion 13 = .ok (.aload_n 0, 1) := dk_42 (dk_at dksJ2_afterNodeInsertion_0 13 rfl rfl)
theorem dJ2_afterNodeInsertion_14 : decode cJ2_afterNodeInsertion 14 = .ok (.aload_n 2, 1) := dk_44 (dk_at dksJ2_afterNodeInsertion_0 14 rfl rfl)
theorem dJ2_afterNodeInsertion_15 : decode cJ2_afterNodeInsertion 15 = .ok (.invokevirtual 53, 3) := dk_182 0 53 (dk_at dksJ2_afterNodeInsertion_0 15 rfl rfl)
theorem dJ2_afterNodeInsertion_18 : decode cJ2_afterNodeInsertion 18 = .ok (.ifCond .eq 21, 3) := dk_153 0 21 (dk_at dksJ2_afterNodeInsertion_0 18 rfl rfl)
theorem dJ2_afterNodeInsertion_21 : decode cJ2_afterNodeInsertion 21 = .ok (.aload_n 2, 1) := dk_44 (dk_at dksJ2_afterNodeInsertion_0 21 rfl rfl)
theorem dJ2_afterNodeInsertion_22 : decode cJ2_afterNodeInsertion 22 = .ok (.getfield 39, 3) := dk_180 0 39 (dk_at dksJ2_afterNodeInsertion_1 0 rfl rfl)
theorem dJ2_afterNodeInsertion_25 : decode cJ2_afterNodeInsertion 25 = .ok (.astore_n 3, 1) := dk_78 (dk_at dksJ2_afterNodeInsertion_1 3 rfl rfl)
theorem dJ2_afterNodeInsertion_26 : decode cJ2_afterNodeInsertion 26 = .ok (.aload_n 0, 1) := dk_42 (dk_at dksJ2_afterNodeInsertion_1 4 rfl rfl)
theorem dJ2_afterNodeInsertion_27 : decode cJ2_afterNodeInsertion 27 = .ok (.aload_n 3, 1) := dk_45 (dk_at dksJ2_afterNodeInsertion_1 5 rfl rfl)
theorem dJ2_afterNodeInsertion_28 : decode cJ2_afterNodeInsertion 28 = .ok (.invokestatic 57, 3) := dk_184 0 57 (dk_at dksJ2_afterNodeInsertion_1 6 rfl rfl)
theorem dJ2_afterNodeInsertion_31 : decode cJ2_afterNodeInsertion 31 = .ok (.aload_n 3, 1) := dk_45 (dk_at dksJ2_afterNodeInsertion_1 9 rfl rfl)
theorem dJ2_afterNodeInsertion_32 : decode cJ2_afterNodeInsertion 32 = .ok (.aconst_null, 1) := dk_1 (dk_at dksJ2_afterNodeInsertion_1 10 rfl rfl)
theorem dJ2_afterNodeInsertion_33 : decode cJ2_afterNodeInsertion 33 = .ok (.iconst 0, 1) := dk_3 (dk_at dksJ2_afterNodeInsertion_1 11 rfl rfl)
theorem dJ2_afterNodeInsertion_34 : decode cJ2_afterNodeInsertion 34 = .ok (.iconst 1, 1) := dk_4 (dk_at dksJ2_afterNodeInsertion_1 12 rfl rfl)
theorem dJ2_afterNodeInsertion_35 : decode cJ2_afterNodeInsertion 35 = .ok (.invokevirtual 60, 3) := dk_182 0 60 (dk_at dksJ2_afterNodeInsertion_1 13 rfl rfl)
theorem dJ2_afterNodeInsertion_38 : decode cJ2_afterNodeInsertion 38 = .ok (.pop, 1) := dk_87 (dk_at dksJ2_afterNodeInsertion_1 16 rfl rfl)
theorem dJ2_afterNodeInsertion_39 : decode cJ2_afterNodeInsertion 39 = .ok (.return_, 1) := dk_177 (dk_at dksJ2_afterNodeInsertion_1 17 rfl rfl)
abbrev cJ2_removeEldestEntry : ByteArray := prog_61_method_23_code
def yJ2_removeEldestEntry : MethodName := ⟨RJ2, "removeEldestEntry", "(Ljava/util/Map$Entry;)Z"⟩
theorem dJ2_removeEldestEntry_0 : decode cJ2_removeEldestEntry 0 = .ok (.iconst 0, 1) := by decide +kernel
theorem dJ2_removeEldestEntry_1 : decode cJ2_removeEldestEntry 1 = .ok (.ireturn, 1) := by decide +kernel
abbrev cJ2_get : ByteArray := prog_61_method_20_code
def yJ2_get : MethodName := ⟨RJ2, "get", "(Ljava/lang/Object;)Ljava/lang/Object;"⟩
def dkwJ2_get_1 : List UInt8 := [44, 180, 0, 107, 176]
abbrev dktJ2_get_1 : List UInt8 := dkwJ2_get_1 ++ []
def dkwJ2_get_0 : List UInt8 := [42, 43, 182, 0, 99, 89, 77, 199, 0, 5, 1, 176, 42, 180, 0, 64, 153, 0, 8, 42, 44, 182, 0, 103]
abbrev dktJ2_get_0 : List UInt8 := dkwJ2_get_0 ++ dktJ2_get_1
theorem dksJ2_get_0 : cJ2_get.data.toList.drop 0 = dktJ2_get_0 := by decide +kernel
theorem dksJ2_get_1 : cJ2_get.data.toList.drop 24 = dktJ2_get_1 := dk_seg dksJ2_get_0 24 rfl rfl
theorem dJ2_get_0 : decode cJ2_get 0 = .ok (.aload_n 0, 1) := dk_42 (dk_at dksJ2_get_0 0 rfl rfl)
theorem dJ2_get_1 : decode cJ2_get 1 = .ok (.aload_n 1, 1) := dk_43 (dk_at dksJ2_get_0 1 rfl rfl)
theorem dJ2_get_2 : decode cJ2_get 2 = .ok (.invokevirtual 99, 3) := dk_182 0 99 (dk_at dksJ2_get_0 2 rfl rfl)
theorem dJ2_get_5 : decode cJ2_get 5 = .ok (.dup, 1) := dk_89 (dk_at dksJ2_get_0 5 rfl rfl)
theorem dJ2_get_6 : decode cJ2_get 6 = .ok (.astore_n 2, 1) := dk_77 (dk_at dksJ2_get_0 6 rfl rfl)
theorem dJ2_get_7 : decode cJ2_get 7 = .ok (.ifnonnull 5, 3) := dk_199 0 5 (dk_at dksJ2_get_0 7 rfl rfl)
theorem dJ2_get_10 : decode cJ2_get 10 = .ok (.aconst_null, 1) := dk_1 (dk_at dksJ2_get_0 10 rfl rfl)
theorem dJ2_get_11 : decode cJ2_get 11 = .ok (.areturn, 1) := dk_176 (dk_at dksJ2_get_0 11 rfl rfl)
theorem dJ2_get_12 : decode cJ2_get 12 = .ok (.aload_n 0, 1) := dk_42 (dk_at dksJ2_get_0 12 rfl rfl)
theorem dJ2_get_13 : decode cJ2_get 13 = .ok (.getfield 64, 3) := dk_180 0 64 (dk_at dksJ2_get_0 13 rfl rfl)
theorem dJ2_get_16 : decode cJ2_get 16 = .ok (.ifCond .eq 8, 3) := dk_153 0 8 (dk_at dksJ2_get_0 16 rfl rfl)
theorem dJ2_get_19 : decode cJ2_get 19 = .ok (.aload_n 0, 1) := dk_42 (dk_at dksJ2_get_0 19 rfl rfl)
theorem dJ2_get_20 : decode cJ2_get 20 = .ok (.aload_n 2, 1) := dk_44 (dk_at dksJ2_get_0 20 rfl rfl)
theorem dJ2_get_21 : decode cJ2_get 21 = .ok (.invokevirtual 103, 3) := dk_182 0 103 (dk_at dksJ2_get_0 21 rfl rfl)
theorem dJ2_get_24 : decode cJ2_get 24 = .ok (.aload_n 2, 1) := dk_44 (dk_at dksJ2_get_1 0 rfl rfl)
theorem dJ2_get_25 : decode cJ2_get 25 = .ok (.getfield 107, 3) := dk_180 0 107 (dk_at dksJ2_get_1 1 rfl rfl)
theorem dJ2_get_28 : decode cJ2_get 28 = .ok (.areturn, 1) := dk_176 (dk_at dksJ2_get_1 4 rfl rfl)
abbrev cJ2_keySet : ByteArray := prog_61_method_24_code
def yJ2_keySet : MethodName := ⟨RJ2, "keySet", "()Ljava/util/Set;"⟩
theorem dJ2_keySet_0 : decode cJ2_keySet 0 = .ok (.aload_n 0, 1) := by decide +kernel
theorem dJ2_keySet_1 : decode cJ2_keySet 1 = .ok (.invokevirtual 113, 3) := by decide +kernel
theorem dJ2_keySet_4 : decode cJ2_keySet 4 = .ok (.areturn, 1) := by decide +kernel
abbrev cJ2_sequencedKeySet : ByteArray := prog_61_method_25_code
def yJ2_sequencedKeySet : MethodName := ⟨RJ2, "sequencedKeySet", "()Ljava/util/SequencedSet;"⟩
def dkwJ2_sequencedKeySet_1 : List UInt8 := [44, 176, 43, 192, 0, 126, 176]
abbrev dktJ2_sequencedKeySet_1 : List UInt8 := dkwJ2_sequencedKeySet_1 ++ []
def dkwJ2_sequencedKeySet_0 : List UInt8 := [42, 180, 0, 117, 76, 43, 199, 0, 20, 187, 0, 121, 89, 42, 3, 183, 0, 123, 77, 42, 44, 181, 0, 117]
abbrev dktJ2_sequencedKeySet_0 : List UInt8 := dkwJ2_sequencedKeySet_0 ++ dktJ2_sequencedKeySet_1
theorem dksJ2_sequencedKeySet_0 : cJ2_sequencedKeySet.data.toList.drop 0 = dktJ2_sequencedKeySet_0 := by decide +kernel
theorem dksJ2_sequencedKeySet_1 : cJ2_sequencedKeySet.data.toList.drop 24 = dktJ2_sequencedKeySet_1 := dk_seg dksJ2_sequencedKeySet_0 24 rfl rfl
theorem dJ2_sequencedKeySet_0 : decode cJ2_sequencedKeySet 0 = .ok (.aload_n 0, 1) := dk_42 (dk_at dksJ2_sequencedKeySet_0 0 rfl rfl)
theorem dJ2_sequencedKeySet_1 : decode cJ2_sequencedKeySet 1 = .ok (.getfield 117, 3) := dk_180 0 117 (dk_at dksJ2_sequencedKeySet_0 1 rfl rfl)
theorem dJ2_sequencedKeySet_4 : decode cJ2_sequencedKeySet 4 = .ok (.astore_n 1, 1) := dk_76 (dk_at dksJ2_sequencedKeySet_0 4 rfl rfl)
theorem dJ2_sequencedKeySet_5 : decode cJ2_sequencedKeySet 5 = .ok (.aload_n 1, 1) := dk_43 (dk_at dksJ2_sequencedKeySet_0 5 rfl rfl)
theorem dJ2_sequencedKeySet_6 : decode cJ2_sequencedKeySet 6 = .ok (.ifnonnull 20, 3) := dk_199 0 20 (dk_at dksJ2_sequencedKeySet_0 6 rfl rfl)
theorem dJ2_sequencedKeySet_9 : decode cJ2_sequencedKeySet 9 = .ok (.new 121, 3) := dk_187 0 121 (dk_at dksJ2_sequencedKeySet_0 9 rfl rfl)
theorem dJ2_sequencedKeySet_12 : decode cJ2_sequencedKeySet 12 = .ok (.dup, 1) := dk_89 (dk_at dksJ2_sequencedKeySet_0 12 rfl rfl)
theorem dJ2_sequencedKeySet_13 : decode cJ2_sequencedKeySet 13 = .ok (.aload_n 0, 1) := dk_42 (dk_at dksJ2_sequencedKeySet_0 13 rfl rfl)
theorem dJ2_sequencedKeySet_14 : decode cJ2_sequencedKeySet 14 = .ok (.iconst 0, 1) := dk_3 (dk_at dksJ2_sequencedKeySet_0 14 rfl rfl)
theorem dJ2_sequencedKeySet_15 : decode cJ2_sequencedKeySet 15 = .ok (.invokespecial 123, 3) := dk_183 0 123 (dk_at dksJ2_sequencedKeySet_0 15 rfl rfl)
theorem dJ2_sequencedKeySet_18 : decode cJ2_sequencedKeySet 18 = .ok (.astore_n 2, 1) := dk_77 (dk_at dksJ2_sequencedKeySet_0 18 rfl rfl)
theorem dJ2_sequencedKeySet_19 : decode cJ2_sequencedKeySet 19 = .ok (.aload_n 0, 1) := dk_42 (dk_at dksJ2_sequencedKeySet_0 19 rfl rfl)
theorem dJ2_sequencedKeySet_20 : decode cJ2_sequencedKeySet 20 = .ok (.aload_n 2, 1) := dk_44 (dk_at dksJ2_sequencedKeySet_0 20 rfl rfl)
theorem dJ2_sequencedKeySet_21 : decode cJ2_sequencedKeySet 21 = .ok (.putfield 117, 3) := dk_181 0 117 (dk_at dksJ2_sequencedKeySet_0 21 rfl rfl)
theorem dJ2_sequencedKeySet_24 : decode cJ2_sequencedKeySet 24 = .ok (.aload_n 2, 1) := dk_44 (dk_at dksJ2_sequencedKeySet_1 0 rfl rfl)
theorem dJ2_sequencedKeySet_25 : decode cJ2_sequencedKeySet 25 = .ok (.areturn, 1) := dk_176 (dk_at dksJ2_sequencedKeySet_1 1 rfl rfl)
theorem dJ2_sequencedKeySet_26 : decode cJ2_sequencedKeySet 26 = .ok (.aload_n 1, 1) := dk_43 (dk_at dksJ2_sequencedKeySet_1 2 rfl rfl)
theorem dJ2_sequencedKeySet_27 : decode cJ2_sequencedKeySet 27 = .ok (.checkcast 126, 3) := dk_192 0 126 (dk_at dksJ2_sequencedKeySet_1 3 rfl rfl)
theorem dJ2_sequencedKeySet_30 : decode cJ2_sequencedKeySet 30 = .ok (.areturn, 1) := dk_176 (dk_at dksJ2_sequencedKeySet_1 6 rfl rfl)
abbrev cJ2_values : ByteArray := prog_61_method_30_code
def yJ2_values : MethodName := ⟨RJ2, "values", "()Ljava/util/Collection;"⟩
theorem dJ2_values_0 : decode cJ2_values 0 = .ok (.aload_n 0, 1) := by decide +kernel
theorem dJ2_values_1 : decode cJ2_values 1 = .ok (.invokevirtual 135, 3) := by decide +kernel
theorem dJ2_values_4 : decode cJ2_values 4 = .ok (.areturn, 1) := by decide +kernel
abbrev cJ2_sequencedValues : ByteArray := prog_61_method_31_code
def yJ2_sequencedValues : MethodName := ⟨RJ2, "sequencedValues", "()Ljava/util/SequencedCollection;"⟩
def dkwJ2_sequencedValues_1 : List UInt8 := [44, 176, 43, 192, 0, 146, 176]
abbrev dktJ2_sequencedValues_1 : List UInt8 := dkwJ2_sequencedValues_1 ++ []
def dkwJ2_sequencedValues_0 : List UInt8 := [42, 180, 0, 139, 76, 43, 199, 0, 20, 187, 0, 143, 89, 42, 3, 183, 0, 145, 77, 42, 44, 181, 0, 139]
abbrev dktJ2_sequencedValues_0 : List UInt8 := dkwJ2_sequencedValues_0 ++ dktJ2_sequencedValues_1
theorem dksJ2_sequencedValues_0 : cJ2_sequencedValues.data.toList.drop 0 = dktJ2_sequencedValues_0 := by decide +kernel
theorem dksJ2_sequencedValues_1 : cJ2_sequencedValues.data.toList.drop 24 = dktJ2_sequencedValues_1 := dk_seg dksJ2_sequencedValues_0 24 rfl rfl
theorem dJ2_sequencedValues_0 : decode cJ2_sequencedValues 0 = .ok (.aload_n 0, 1) := dk_42 (dk_at dksJ2_sequencedValues_0 0 rfl rfl)
theorem dJ2_sequencedValues_1 : decode cJ2_sequencedValues 1 = .ok (.getfield 139, 3) := dk_180 0 139 (dk_at dksJ2_sequencedValues_0 1 rfl rfl)
theorem dJ2_sequencedValues_4 : decode cJ2_sequencedValues 4 = .ok (.astore_n 1, 1) := dk_76 (dk_at dksJ2_sequencedValues_0 4 rfl rfl)
theorem dJ2_sequencedValues_5 : decode cJ2_sequencedValues 5 = .ok (.aload_n 1, 1) := dk_43 (dk_at dksJ2_sequencedValues_0 5 rfl rfl)
theorem dJ2_sequencedValues_6 : decode cJ2_sequencedValues 6 = .ok (.ifnonnull 20, 3) := dk_199 0 20 (dk_at dksJ2_sequencedValues_0 6 rfl rfl)
theorem dJ2_sequencedValues_9 : decode cJ2_sequencedValues 9 = .ok (.new 143, 3) := dk_187 0 143 (dk_at dksJ2_sequencedValues_0 9 rfl rfl)
theorem dJ2_sequencedValues_12 : decode cJ2_sequencedValues 12 = .ok (.dup, 1) := dk_89 (dk_at dksJ2_sequencedValues_0 12 rfl rfl)
theorem dJ2_sequencedValues_13 : decode cJ2_sequencedValues 13 = .ok (.aload_n 0, 1) := dk_42 (dk_at dksJ2_sequencedValues_0 13 rfl rfl)
theorem dJ2_sequencedValues_14 : decode cJ2_sequencedValues 14 = .ok (.iconst 0, 1) := dk_3 (dk_at dksJ2_sequencedValues_0 14 rfl rfl)
theorem dJ2_sequencedValues_15 : decode cJ2_sequencedValues 15 = .ok (.invokespecial 145, 3) := dk_183 0 145 (dk_at dksJ2_sequencedValues_0 15 rfl rfl)
theorem dJ2_sequencedValues_18 : decode cJ2_sequencedValues 18 = .ok (.astore_n 2, 1) := dk_77 (dk_at dksJ2_sequencedValues_0 18 rfl rfl)
theorem dJ2_sequencedValues_19 : decode cJ2_sequencedValues 19 = .ok (.aload_n 0, 1) := dk_42 (dk_at dksJ2_sequencedValues_0 19 rfl rfl)
theorem dJ2_sequencedValues_20 : decode cJ2_sequencedValues 20 = .ok (.aload_n 2, 1) := dk_44 (dk_at dksJ2_sequencedValues_0 20 rfl rfl)
theorem dJ2_sequencedValues_21 : decode cJ2_sequencedValues 21 = .ok (.putfield 139, 3) := dk_181 0 139 (dk_at dksJ2_sequencedValues_0 21 rfl rfl)
theorem dJ2_sequencedValues_24 : decode cJ2_sequencedValues 24 = .ok (.aload_n 2, 1) := dk_44 (dk_at dksJ2_sequencedValues_1 0 rfl rfl)
theorem dJ2_sequencedValues_25 : decode cJ2_sequencedValues 25 = .ok (.areturn, 1) := dk_176 (dk_at dksJ2_sequencedValues_1 1 rfl rfl)
theorem dJ2_sequencedValues_26 : decode cJ2_sequencedValues 26 = .ok (.aload_n 1, 1) := dk_43 (dk_at dksJ2_sequencedValues_1 2 rfl rfl)
theorem dJ2_sequencedValues_27 : decode cJ2_sequencedValues 27 = .ok (.checkcast 146, 3) := dk_192 0 146 (dk_at dksJ2_sequencedValues_1 3 rfl rfl)
theorem dJ2_sequencedValues_30 : decode cJ2_sequencedValues 30 = .ok (.areturn, 1) := dk_176 (dk_at dksJ2_sequencedValues_1 6 rfl rfl)
abbrev cJ2_clear : ByteArray := prog_61_method_22_code
def yJ2_clear : MethodName := ⟨RJ2, "clear", "()V"⟩
def dkwJ2_clear_0 : List UInt8 := [42, 183, 0, 110, 42, 42, 1, 90, 181, 0, 11, 181, 0, 7, 177]
abbrev dktJ2_clear_0 : List UInt8 := dkwJ2_clear_0 ++ []
theorem dksJ2_clear_0 : cJ2_clear.data.toList.drop 0 = dktJ2_clear_0 := by decide +kernel
theorem dJ2_clear_0 : decode cJ2_clear 0 = .ok (.aload_n 0, 1) := dk_42 (dk_at dksJ2_clear_0 0 rfl rfl)
theorem dJ2_clear_1 : decode cJ2_clear 1 = .ok (.invokespecial 110, 3) := dk_183 0 110 (dk_at dksJ2_clear_0 1 rfl rfl)
theorem dJ2_clear_4 : decode cJ2_clear 4 = .ok (.aload_n 0, 1) := dk_42 (dk_at dksJ2_clear_0 4 rfl rfl)
theorem dJ2_clear_5 : decode cJ2_clear 5 = .ok (.aload_n 0, 1) := dk_42 (dk_at dksJ2_clear_0 5 rfl rfl)
theorem dJ2_clear_6 : decode cJ2_clear 6 = .ok (.aconst_null, 1) := dk_1 (dk_at dksJ2_clear_0 6 rfl rfl)
theorem dJ2_clear_7 : decode cJ2_clear 7 = .ok (.dup_x1, 1) := dk_90 (dk_at dksJ2_clear_0 7 rfl rfl)
theorem dJ2_clear_8 : decode cJ2_clear 8 = .ok (.putfield 11, 3) := dk_181 0 11 (dk_at dksJ2_clear_0 8 rfl rfl)
theorem dJ2_clear_11 : decode cJ2_clear 11 = .ok (.putfield 7, 3) := dk_181 0 7 (dk_at dksJ2_clear_0 11 rfl rfl)
theorem dJ2_clear_14 : decode cJ2_clear 14 = .ok (.return_, 1) := dk_177 (dk_at dksJ2_clear_0 14 rfl rfl)
theorem q74 : (Jvm.Cond.initialized "java/util/LinkedHashMap") ∈ lw_all := lw_g (lw_at lw_m1 6 rfl) rfl
theorem q153 : (Jvm.Cond.instantiable "java/util/LinkedHashMap" (12 : Nat)) ∈ lw_all := lw_g (lw_at lw_m1 85 rfl) rfl
theorem q155 : (Jvm.Cond.instanceMethod ({ cls := "java/util/LinkedHashMap", name := "<init>", desc := "()V" } : Jvm.MethodName)) ∈ lw_all := lw_g (lw_at lw_m1 87 rfl) rfl
theorem q156 : (Jvm.Cond.code ({ cls := "java/util/LinkedHashMap", name := "<init>", desc := "()V" } : Jvm.MethodName) prog_61_method_16_code (1 : Nat) (Option.none : Option Jvm.ClassFile.FieldType)) ∈ lw_all := lw_g (lw_at lw_m1 88 rfl) rfl
theorem q157 : (Jvm.Cond.methodLink "java/util/LinkedHashMap" (87 : Nat) ({ cls := "java/util/HashMap", name := "<init>", desc := "()V" } : Jvm.MethodName)) ∈ lw_all := lw_g (lw_at lw_m1 89 rfl) rfl
theorem q165 : (Jvm.Cond.fieldLink "java/util/LinkedHashMap" (7 : Nat) "java/util/LinkedHashMap" "head" "Ljava/util/LinkedHashMap$Entry;") ∈ lw_all := lw_g (lw_at lw_m1 97 rfl) rfl
theorem q168 : (Jvm.Cond.fieldLink "java/util/LinkedHashMap" (11 : Nat) "java/util/LinkedHashMap" "tail" "Ljava/util/LinkedHashMap$Entry;") ∈ lw_all := lw_g (lw_at lw_m1 100 rfl) rfl
theorem q169 : (Jvm.Cond.fieldLink "java/util/LinkedHashMap" (64 : Nat) "java/util/LinkedHashMap" "accessOrder" "Z") ∈ lw_all := lw_g (lw_at lw_m1 101 rfl) rfl
theorem q170 : (Jvm.Cond.fieldLink "java/util/LinkedHashMap" (1 : Nat) "java/util/LinkedHashMap" "putMode" "I") ∈ lw_all := lw_g (lw_at lw_m1 102 rfl) rfl
theorem q172 : (Jvm.Cond.fieldLink "java/util/LinkedHashMap" (151 : Nat) "java/util/LinkedHashMap" "entrySet" "Ljava/util/Set;") ∈ lw_all := lw_g (lw_at lw_m1 104 rfl) rfl
theorem q173 : (Jvm.Cond.sameField "java/util/LinkedHashMap" "java/util/HashMap" "entrySet" "Ljava/util/Set;") ∈ lw_all := lw_g (lw_at lw_m1 105 rfl) rfl
theorem q176 : (Jvm.Cond.sameField "java/util/LinkedHashMap" "java/util/HashMap" "modCount" "I") ∈ lw_all := lw_g (lw_at lw_m1 108 rfl) rfl
theorem q177 : (Jvm.Cond.fieldLink "java/util/LinkedHashMap" (68 : Nat) "java/util/LinkedHashMap" "modCount" "I") ∈ lw_all := lw_g (lw_at lw_m1 109 rfl) rfl
theorem q181 : (Jvm.Cond.fieldLink "java/util/LinkedHashMap" (117 : Nat) "java/util/LinkedHashMap" "keySet" "Ljava/util/Set;") ∈ lw_all := lw_g (lw_at lw_m1 113 rfl) rfl
theorem q182 : (Jvm.Cond.sameField "java/util/LinkedHashMap" "java/util/AbstractMap" "keySet" "Ljava/util/Set;") ∈ lw_all := lw_g (lw_at lw_m1 114 rfl) rfl
theorem q183 : (Jvm.Cond.fieldLink "java/util/LinkedHashMap" (139 : Nat) "java/util/LinkedHashMap" "values" "Ljava/util/Collection;") ∈ lw_all := lw_g (lw_at lw_m1 115 rfl) rfl
theorem q184 : (Jvm.Cond.sameField "java/util/LinkedHashMap" "java/util/AbstractMap" "values" "Ljava/util/Collection;") ∈ lw_all := lw_g (lw_at lw_m1 116 rfl) rfl
theorem q185 : (Jvm.Cond.lays "java/util/LinkedHashMap" "java/util/LinkedHashMap" "head" "Ljava/util/LinkedHashMap$Entry;") ∈ lw_all := lw_g (lw_at lw_m1 117 rfl) rfl
theorem q186 : (Jvm.Cond.soleField "java/util/LinkedHashMap" "head") ∈ lw_all := lw_g (lw_at lw_m1 118 rfl) rfl
theorem q187 : (Jvm.Cond.lays "java/util/LinkedHashMap" "java/util/LinkedHashMap" "tail" "Ljava/util/LinkedHashMap$Entry;") ∈ lw_all := lw_g (lw_at lw_m1 119 rfl) rfl
theorem q188 : (Jvm.Cond.soleField "java/util/LinkedHashMap" "tail") ∈ lw_all := lw_g (lw_at lw_m1 120 rfl) rfl
theorem q189 : (Jvm.Cond.laysFinal "java/util/LinkedHashMap" "java/util/LinkedHashMap" "accessOrder" "Z") ∈ lw_all := lw_g (lw_at lw_m1 121 rfl) rfl
theorem q190 : (Jvm.Cond.soleField "java/util/LinkedHashMap" "accessOrder") ∈ lw_all := lw_g (lw_at lw_m1 122 rfl) rfl
theorem q191 : (Jvm.Cond.lays "java/util/LinkedHashMap" "java/util/LinkedHashMap" "putMode" "I") ∈ lw_all := lw_g (lw_at lw_m1 123 rfl) rfl
theorem q192 : (Jvm.Cond.soleField "java/util/LinkedHashMap" "putMode") ∈ lw_all := lw_g (lw_at lw_m1 124 rfl) rfl
theorem q193 : (Jvm.Cond.lays "java/util/LinkedHashMap" "java/util/HashMap" "table" "[Ljava/util/HashMap$Node;") ∈ lw_all := lw_g (lw_at lw_m1 125 rfl) rfl
theorem q195 : (Jvm.Cond.lays "java/util/LinkedHashMap" "java/util/HashMap" "entrySet" "Ljava/util/Set;") ∈ lw_all := lw_g (lw_at lw_m1 127 rfl) rfl
theorem q197 : (Jvm.Cond.lays "java/util/LinkedHashMap" "java/util/HashMap" "size" "I") ∈ lw_all := lw_g (lw_at lw_m1 129 rfl) rfl
theorem q199 : (Jvm.Cond.lays "java/util/LinkedHashMap" "java/util/HashMap" "modCount" "I") ∈ lw_all := lw_g (lw_at lw_m1 131 rfl) rfl
theorem q201 : (Jvm.Cond.lays "java/util/LinkedHashMap" "java/util/HashMap" "threshold" "I") ∈ lw_all := lw_g (lw_at lw_m1 133 rfl) rfl
theorem q203 : (Jvm.Cond.laysFinal "java/util/LinkedHashMap" "java/util/HashMap" "loadFactor" "F") ∈ lw_all := lw_g (lw_at lw_m1 135 rfl) rfl
theorem q205 : (Jvm.Cond.lays "java/util/LinkedHashMap" "java/util/AbstractMap" "keySet" "Ljava/util/Set;") ∈ lw_all := lw_g (lw_at lw_m1 137 rfl) rfl
theorem q207 : (Jvm.Cond.lays "java/util/LinkedHashMap" "java/util/AbstractMap" "values" "Ljava/util/Collection;") ∈ lw_all := lw_g (lw_at lw_m1 139 rfl) rfl
theorem q209 : (Jvm.Cond.superclass "java/util/LinkedHashMap" "java/util/HashMap") ∈ lw_all := lw_g (lw_at lw_m1 141 rfl) rfl
theorem q509 : (Jvm.Cond.instanceMethod ({ cls := "java/util/LinkedHashMap", name := "entrySet", desc := "()Ljava/util/Set;" } : Jvm.MethodName)) ∈ lw_all := lw_g (lw_at lw_m2 201 rfl) rfl
theorem q510 : (Jvm.Cond.selects "java/util/LinkedHashMap" ({ cls := "java/util/LinkedHashMap", name := "entrySet", desc := "()Ljava/util/Set;" } : Jvm.MethodName) ({ cls := "java/util/LinkedHashMap", name := "entrySet", desc := "()Ljava/util/Set;" } : Jvm.MethodName)) ∈ lw_all := lw_g (lw_at lw_m2 202 rfl) rfl
theorem q511 : (Jvm.Cond.code ({ cls := "java/util/LinkedHashMap", name := "entrySet", desc := "()Ljava/util/Set;" } : Jvm.MethodName) prog_61_method_32_code (1 : Nat) (Option.some (Jvm.ClassFile.FieldType.object "java/util/Set"))) ∈ lw_all := lw_g (lw_at lw_m2 203 rfl) rfl
theorem q512 : (Jvm.Cond.methodLink "java/util/LinkedHashMap" (148 : Nat) ({ cls := "java/util/LinkedHashMap", name := "sequencedEntrySet", desc := "()Ljava/util/SequencedSet;" } : Jvm.MethodName)) ∈ lw_all := lw_g (lw_at lw_m2 204 rfl) rfl
theorem q513 : (Jvm.Cond.instanceMethod ({ cls := "java/util/LinkedHashMap", name := "sequencedEntrySet", desc := "()Ljava/util/SequencedSet;" } : Jvm.MethodName)) ∈ lw_all := lw_g (lw_at lw_m2 205 rfl) rfl
theorem q514 : (Jvm.Cond.selects "java/util/LinkedHashMap" ({ cls := "java/util/LinkedHashMap", name := "sequencedEntrySet", desc := "()Ljava/util/SequencedSet;" } : Jvm.MethodName) ({ cls := "java/util/LinkedHashMap", name := "sequencedEntrySet", desc := "()Ljava/util/SequencedSet;" } : Jvm.MethodName)) ∈ lw_all := lw_g (lw_at lw_m2 206 rfl) rfl
theorem q515 : (Jvm.Cond.code ({ cls := "java/util/LinkedHashMap", name := "sequencedEntrySet", desc := "()Ljava/util/SequencedSet;" } : Jvm.MethodName) prog_61_method_33_code (3 : Nat) (Option.some (Jvm.ClassFile.FieldType.object "java/util/SequencedSet"))) ∈ lw_all := lw_g (lw_at lw_m2 207 rfl) rfl
theorem q516 : (Jvm.Cond.classLink "java/util/LinkedHashMap" (154 : Nat) "java/util/LinkedHashMap$LinkedEntrySet") ∈ lw_all := lw_g (lw_at lw_m2 208 rfl) rfl
theorem q518 : (Jvm.Cond.methodLink "java/util/LinkedHashMap" (156 : Nat) ({ cls := "java/util/LinkedHashMap$LinkedEntrySet", name := "<init>", desc := "(Ljava/util/LinkedHashMap;Z)V" } : Jvm.MethodName)) ∈ lw_all := lw_g (lw_at lw_m2 210 rfl) rfl
theorem q532 : (Jvm.Cond.classLink "java/util/LinkedHashMap" (126 : Nat) "java/util/SequencedSet") ∈ lw_all := lw_g (lw_at lw_m2 224 rfl) rfl
theorem q1073 : (Jvm.Cond.selects "java/util/LinkedHashMap" ({ cls := "java/lang/Object", name := "getClass", desc := "()Ljava/lang/Class;" } : Jvm.MethodName) ({ cls := "java/lang/Object", name := "getClass", desc := "()Ljava/lang/Class;" } : Jvm.MethodName)) ∈ lw_all := lw_g (lw_at lw_m5 45 rfl) rfl
theorem q1308 : (Jvm.Cond.sameMethod "java/util/LinkedHashMap" "java/util/HashMap" "removeNode" "(ILjava/lang/Object;Ljava/lang/Object;ZZ)Ljava/util/HashMap$Node;") ∈ lw_all := lw_g (lw_at lw_m6 40 rfl) rfl
theorem q1310 : (Jvm.Cond.selects "java/util/LinkedHashMap" ({ cls := "java/util/LinkedHashMap", name := "removeNode", desc := "(ILjava/lang/Object;Ljava/lang/Object;ZZ)Ljava/util/HashMap$Node;" } : Jvm.MethodName) ({ cls := "java/util/HashMap", name := "removeNode", desc := "(ILjava/lang/Object;Ljava/lang/Object;ZZ)Ljava/util/HashMap$Node;" } : Jvm.MethodName)) ∈ lw_all := lw_g (lw_at lw_m6 42 rfl) rfl
theorem q1567 : (Jvm.Cond.selects "java/util/LinkedHashMap" ({ cls := "java/util/HashMap", name := "replacementNode", desc := "(Ljava/util/HashMap$Node;Ljava/util/HashMap$Node;)Ljava/util/HashMap$Node;" } : Jvm.MethodName) ({ cls := "java/util/LinkedHashMap", name := "replacementNode", desc := "(Ljava/util/HashMap$Node;Ljava/util/HashMap$Node;)Ljava/util/HashMap$Node;" } : Jvm.MethodName)) ∈ lw_all := lw_g (lw_at lw_m7 59 rfl) rfl
theorem q1568 : (Jvm.Cond.instanceMethod ({ cls := "java/util/LinkedHashMap", name := "replacementNode", desc := "(Ljava/util/HashMap$Node;Ljava/util/HashMap$Node;)Ljava/util/HashMap$Node;" } : Jvm.MethodName)) ∈ lw_all := lw_g (lw_at lw_m7 60 rfl) rfl
theorem q1569 : (Jvm.Cond.code ({ cls := "java/util/LinkedHashMap", name := "replacementNode", desc := "(Ljava/util/HashMap$Node;Ljava/util/HashMap$Node;)Ljava/util/HashMap$Node;" } : Jvm.MethodName) prog_61_method_5_code (5 : Nat) (Option.some (Jvm.ClassFile.FieldType.object "java/util/HashMap$Node"))) ∈ lw_all := lw_g (lw_at lw_m7 61 rfl) rfl
theorem q1570 : (Jvm.Cond.classLink "java/util/LinkedHashMap" (15 : Nat) "java/util/LinkedHashMap$Entry") ∈ lw_all := lw_g (lw_at lw_m7 62 rfl) rfl
theorem q1572 : (Jvm.Cond.methodLink "java/util/LinkedHashMap" (28 : Nat) ({ cls := "java/util/LinkedHashMap$Entry", name := "<init>", desc := "(ILjava/lang/Object;Ljava/lang/Object;Ljava/util/HashMap$Node;)V" } : Jvm.MethodName)) ∈ lw_all := lw_g (lw_at lw_m7 64 rfl) rfl
theorem q1579 : (Jvm.Cond.fieldLink "java/util/LinkedHashMap" (19 : Nat) "java/util/LinkedHashMap$Entry" "before" "Ljava/util/LinkedHashMap$Entry;") ∈ lw_all := lw_g (lw_at lw_m7 71 rfl) rfl
theorem q1581 : (Jvm.Cond.fieldLink "java/util/LinkedHashMap" (14 : Nat) "java/util/LinkedHashMap$Entry" "after" "Ljava/util/LinkedHashMap$Entry;") ∈ lw_all := lw_g (lw_at lw_m7 73 rfl) rfl
theorem q1587 : (Jvm.Cond.fieldLink "java/util/LinkedHashMap" (36 : Nat) "java/util/LinkedHashMap$Entry" "hash" "I") ∈ lw_all := lw_g (lw_at lw_m7 79 rfl) rfl
theorem q1594 : (Jvm.Cond.fieldLink "java/util/LinkedHashMap" (39 : Nat) "java/util/LinkedHashMap$Entry" "key" "Ljava/lang/Object;") ∈ lw_all := lw_g (lw_at lw_m7 86 rfl) rfl
theorem q1600 : (Jvm.Cond.fieldLink "java/util/LinkedHashMap" (43 : Nat) "java/util/LinkedHashMap$Entry" "value" "Ljava/lang/Object;") ∈ lw_all := lw_g (lw_at lw_m7 92 rfl) rfl
theorem q1602 : (Jvm.Cond.fieldLink "java/util/LinkedHashMap" (107 : Nat) "java/util/HashMap$Node" "value" "Ljava/lang/Object;") ∈ lw_all := lw_g (lw_at lw_m7 94 rfl) rfl
theorem q1622 : (Jvm.Cond.methodLink "java/util/LinkedHashMap" (46 : Nat) ({ cls := "java/util/LinkedHashMap", name := "transferLinks", desc := "(Ljava/util/LinkedHashMap$Entry;Ljava/util/LinkedHashMap$Entry;)V" } : Jvm.MethodName)) ∈ lw_all := lw_g (lw_at lw_m7 114 rfl) rfl
theorem q1623 : (Jvm.Cond.privateMethod ({ cls := "java/util/LinkedHashMap", name := "transferLinks", desc := "(Ljava/util/LinkedHashMap$Entry;Ljava/util/LinkedHashMap$Entry;)V" } : Jvm.MethodName)) ∈ lw_tbl := lw_at lw_m7 115 rfl
theorem q1624 : (Jvm.Cond.instanceMethod ({ cls := "java/util/LinkedHashMap", name := "transferLinks", desc := "(Ljava/util/LinkedHashMap$Entry;Ljava/util/LinkedHashMap$Entry;)V" } : Jvm.MethodName)) ∈ lw_all := lw_g (lw_at lw_m7 116 rfl) rfl
theorem q1625 : (Jvm.Cond.code ({ cls := "java/util/LinkedHashMap", name := "transferLinks", desc := "(Ljava/util/LinkedHashMap$Entry;Ljava/util/LinkedHashMap$Entry;)V" } : Jvm.MethodName) prog_61_method_2_code (5 : Nat) (Option.none : Option Jvm.ClassFile.FieldType)) ∈ lw_all := lw_g (lw_at lw_m7 117 rfl) rfl
theorem q1644 : (Jvm.Cond.selects "java/util/LinkedHashMap" ({ cls := "java/util/HashMap", name := "afterNodeRemoval", desc := "(Ljava/util/HashMap$Node;)V" } : Jvm.MethodName) ({ cls := "java/util/LinkedHashMap", name := "afterNodeRemoval", desc := "(Ljava/util/HashMap$Node;)V" } : Jvm.MethodName)) ∈ lw_all := lw_g (lw_at lw_m7 136 rfl) rfl
theorem q1645 : (Jvm.Cond.instanceMethod ({ cls := "java/util/LinkedHashMap", name := "afterNodeRemoval", desc := "(Ljava/util/HashMap$Node;)V" } : Jvm.MethodName)) ∈ lw_all := lw_g (lw_at lw_m7 137 rfl) rfl
theorem q1646 : (Jvm.Cond.code ({ cls := "java/util/LinkedHashMap", name := "afterNodeRemoval", desc := "(Ljava/util/HashMap$Node;)V" } : Jvm.MethodName) prog_61_method_8_code (5 : Nat) (Option.none : Option Jvm.ClassFile.FieldType)) ∈ lw_all := lw_g (lw_at lw_m7 138 rfl) rfl
theorem q1671 : (Jvm.Cond.sameMethod "java/util/LinkedHashMap" "java/util/HashMap" "put" "(Ljava/lang/Object;Ljava/lang/Object;)Ljava/lang/Object;") ∈ lw_all := lw_g (lw_at lw_m7 163 rfl) rfl
theorem q1673 : (Jvm.Cond.selects "java/util/LinkedHashMap" ({ cls := "java/util/LinkedHashMap", name := "put", desc := "(Ljava/lang/Object;Ljava/lang/Object;)Ljava/lang/Object;" } : Jvm.MethodName) ({ cls := "java/util/HashMap", name := "put", desc := "(Ljava/lang/Object;Ljava/lang/Object;)Ljava/lang/Object;" } : Jvm.MethodName)) ∈ lw_all := lw_g (lw_at lw_m7 165 rfl) rfl
theorem q1763 : (Jvm.Cond.selects "java/util/LinkedHashMap" ({ cls := "java/util/HashMap", name := "putVal", desc := "(ILjava/lang/Object;Ljava/lang/Object;ZZ)Ljava/lang/Object;" } : Jvm.MethodName) ({ cls := "java/util/HashMap", name := "putVal", desc := "(ILjava/lang/Object;Ljava/lang/Object;ZZ)Ljava/lang/Object;" } : Jvm.MethodName)) ∈ lw_all := lw_g (lw_at lw_m8 15 rfl) rfl
theorem q1768 : (Jvm.Cond.selects "java/util/LinkedHashMap" ({ cls := "java/util/HashMap", name := "resize", desc := "()[Ljava/util/HashMap$Node;" } : Jvm.MethodName) ({ cls := "java/util/HashMap", name := "resize", desc := "()[Ljava/util/HashMap$Node;" } : Jvm.MethodName)) ∈ lw_all := lw_g (lw_at lw_m8 20 rfl) rfl
theorem q1789 : (Jvm.Cond.selects "java/util/LinkedHashMap" ({ cls := "java/util/HashMap", name := "newNode", desc := "(ILjava/lang/Object;Ljava/lang/Object;Ljava/util/HashMap$Node;)Ljava/util/HashMap$Node;" } : Jvm.MethodName) ({ cls := "java/util/LinkedHashMap", name := "newNode", desc := "(ILjava/lang/Object;Ljava/lang/Object;Ljava/util/HashMap$Node;)Ljava/util/HashMap$Node;" } : Jvm.MethodName)) ∈ lw_all := lw_g (lw_at lw_m8 41 rfl) rfl
theorem q1790 : (Jvm.Cond.instanceMethod ({ cls := "java/util/LinkedHashMap", name := "newNode", desc := "(ILjava/lang/Object;Ljava/lang/Object;Ljava/util/HashMap$Node;)Ljava/util/HashMap$Node;" } : Jvm.MethodName)) ∈ lw_all := lw_g (lw_at lw_m8 42 rfl) rfl
theorem q1791 : (Jvm.Cond.code ({ cls := "java/util/LinkedHashMap", name := "newNode", desc := "(ILjava/lang/Object;Ljava/lang/Object;Ljava/util/HashMap$Node;)Ljava/util/HashMap$Node;" } : Jvm.MethodName) prog_61_method_4_code (6 : Nat) (Option.some (Jvm.ClassFile.FieldType.object "java/util/HashMap$Node"))) ∈ lw_all := lw_g (lw_at lw_m8 43 rfl) rfl
theorem q1792 : (Jvm.Cond.methodLink "java/util/LinkedHashMap" (32 : Nat) ({ cls := "java/util/LinkedHashMap", name := "linkNodeAtEnd", desc := "(Ljava/util/LinkedHashMap$Entry;)V" } : Jvm.MethodName)) ∈ lw_all := lw_g (lw_at lw_m8 44 rfl) rfl
theorem q1793 : (Jvm.Cond.privateMethod ({ cls := "java/util/LinkedHashMap", name := "linkNodeAtEnd", desc := "(Ljava/util/LinkedHashMap$Entry;)V" } : Jvm.MethodName)) ∈ lw_tbl := lw_at lw_m8 45 rfl
theorem q1794 : (Jvm.Cond.instanceMethod ({ cls := "java/util/LinkedHashMap", name := "linkNodeAtEnd", desc := "(Ljava/util/LinkedHashMap$Entry;)V" } : Jvm.MethodName)) ∈ lw_all := lw_g (lw_at lw_m8 46 rfl) rfl
theorem q1795 : (Jvm.Cond.code ({ cls := "java/util/LinkedHashMap", name := "linkNodeAtEnd", desc := "(Ljava/util/LinkedHashMap$Entry;)V" } : Jvm.MethodName) prog_61_method_1_code (3 : Nat) (Option.none : Option Jvm.ClassFile.FieldType)) ∈ lw_all := lw_g (lw_at lw_m8 47 rfl) rfl
theorem q1804 : (Jvm.Cond.selects "java/util/LinkedHashMap" ({ cls := "java/util/HashMap", name := "newTreeNode", desc := "(ILjava/lang/Object;Ljava/lang/Object;Ljava/util/HashMap$Node;)Ljava/util/HashMap$TreeNode;" } : Jvm.MethodName) ({ cls := "java/util/LinkedHashMap", name := "newTreeNode", desc := "(ILjava/lang/Object;Ljava/lang/Object;Ljava/util/HashMap$Node;)Ljava/util/HashMap$TreeNode;" } : Jvm.MethodName)) ∈ lw_all := lw_g (lw_at lw_m8 56 rfl) rfl
theorem q1805 : (Jvm.Cond.instanceMethod ({ cls := "java/util/LinkedHashMap", name := "newTreeNode", desc := "(ILjava/lang/Object;Ljava/lang/Object;Ljava/util/HashMap$Node;)Ljava/util/HashMap$TreeNode;" } : Jvm.MethodName)) ∈ lw_all := lw_g (lw_at lw_m8 57 rfl) rfl
theorem q1806 : (Jvm.Cond.code ({ cls := "java/util/LinkedHashMap", name := "newTreeNode", desc := "(ILjava/lang/Object;Ljava/lang/Object;Ljava/util/HashMap$Node;)Ljava/util/HashMap$TreeNode;" } : Jvm.MethodName) prog_61_method_6_code (6 : Nat) (Option.some (Jvm.ClassFile.FieldType.object "java/util/HashMap$TreeNode"))) ∈ lw_all := lw_g (lw_at lw_m8 58 rfl) rfl
theorem q1807 : (Jvm.Cond.classLink "java/util/LinkedHashMap" (50 : Nat) "java/util/HashMap$TreeNode") ∈ lw_all := lw_g (lw_at lw_m8 59 rfl) rfl
theorem q1809 : (Jvm.Cond.methodLink "java/util/LinkedHashMap" (52 : Nat) ({ cls := "java/util/HashMap$TreeNode", name := "<init>", desc := "(ILjava/lang/Object;Ljava/lang/Object;Ljava/util/HashMap$Node;)V" } : Jvm.MethodName)) ∈ lw_all := lw_g (lw_at lw_m8 61 rfl) rfl
theorem q1840 : (Jvm.Cond.selects "java/util/LinkedHashMap" ({ cls := "java/util/HashMap", name := "treeifyBin", desc := "([Ljava/util/HashMap$Node;I)V" } : Jvm.MethodName) ({ cls := "java/util/HashMap", name := "treeifyBin", desc := "([Ljava/util/HashMap$Node;I)V" } : Jvm.MethodName)) ∈ lw_all := lw_g (lw_at lw_m8 92 rfl) rfl
theorem q1845 : (Jvm.Cond.selects "java/util/LinkedHashMap" ({ cls := "java/util/HashMap", name := "replacementTreeNode", desc := "(Ljava/util/HashMap$Node;Ljava/util/HashMap$Node;)Ljava/util/HashMap$TreeNode;" } : Jvm.MethodName) ({ cls := "java/util/LinkedHashMap", name := "replacementTreeNode", desc := "(Ljava/util/HashMap$Node;Ljava/util/HashMap$Node;)Ljava/util/HashMap$TreeNode;" } : Jvm.MethodName)) ∈ lw_all := lw_g (lw_at lw_m8 97 rfl) rfl
theorem q1846 : (Jvm.Cond.instanceMethod ({ cls := "java/util/LinkedHashMap", name := "replacementTreeNode", desc := "(Ljava/util/HashMap$Node;Ljava/util/HashMap$Node;)Ljava/util/HashMap$TreeNode;" } : Jvm.MethodName)) ∈ lw_all := lw_g (lw_at lw_m8 98 rfl) rfl
theorem q1847 : (Jvm.Cond.code ({ cls := "java/util/LinkedHashMap", name := "replacementTreeNode", desc := "(Ljava/util/HashMap$Node;Ljava/util/HashMap$Node;)Ljava/util/HashMap$TreeNode;" } : Jvm.MethodName) prog_61_method_7_code (5 : Nat) (Option.some (Jvm.ClassFile.FieldType.object "java/util/HashMap$TreeNode"))) ∈ lw_all := lw_g (lw_at lw_m8 99 rfl) rfl
theorem q1853 : (Jvm.Cond.selects "java/util/LinkedHashMap" ({ cls := "java/util/HashMap", name := "afterNodeAccess", desc := "(Ljava/util/HashMap$Node;)V" } : Jvm.MethodName) ({ cls := "java/util/LinkedHashMap", name := "afterNodeAccess", desc := "(Ljava/util/HashMap$Node;)V" } : Jvm.MethodName)) ∈ lw_all := lw_g (lw_at lw_m8 105 rfl) rfl
theorem q1854 : (Jvm.Cond.instanceMethod ({ cls := "java/util/LinkedHashMap", name := "afterNodeAccess", desc := "(Ljava/util/HashMap$Node;)V" } : Jvm.MethodName)) ∈ lw_all := lw_g (lw_at lw_m8 106 rfl) rfl
theorem q1855 : (Jvm.Cond.code ({ cls := "java/util/LinkedHashMap", name := "afterNodeAccess", desc := "(Ljava/util/HashMap$Node;)V" } : Jvm.MethodName) prog_61_method_10_code (7 : Nat) (Option.none : Option Jvm.ClassFile.FieldType)) ∈ lw_all := lw_g (lw_at lw_m8 107 rfl) rfl
theorem q1860 : (Jvm.Cond.selects "java/util/LinkedHashMap" ({ cls := "java/util/HashMap", name := "afterNodeInsertion", desc := "(Z)V" } : Jvm.MethodName) ({ cls := "java/util/LinkedHashMap", name := "afterNodeInsertion", desc := "(Z)V" } : Jvm.MethodName)) ∈ lw_all := lw_g (lw_at lw_m8 112 rfl) rfl
theorem q1861 : (Jvm.Cond.instanceMethod ({ cls := "java/util/LinkedHashMap", name := "afterNodeInsertion", desc := "(Z)V" } : Jvm.MethodName)) ∈ lw_all := lw_g (lw_at lw_m8 113 rfl) rfl
theorem q1862 : (Jvm.Cond.code ({ cls := "java/util/LinkedHashMap", name := "afterNodeInsertion", desc := "(Z)V" } : Jvm.MethodName) prog_61_method_9_code (4 : Nat) (Option.none : Option Jvm.ClassFile.FieldType)) ∈ lw_all := lw_g (lw_at lw_m8 114 rfl) rfl
theorem q1863 : (Jvm.Cond.methodLink "java/util/LinkedHashMap" (53 : Nat) ({ cls := "java/util/LinkedHashMap", name := "removeEldestEntry", desc := "(Ljava/util/Map$Entry;)Z" } : Jvm.MethodName)) ∈ lw_all := lw_g (lw_at lw_m8 115 rfl) rfl
theorem q1864 : (Jvm.Cond.instanceMethod ({ cls := "java/util/LinkedHashMap", name := "removeEldestEntry", desc := "(Ljava/util/Map$Entry;)Z" } : Jvm.MethodName)) ∈ lw_all := lw_g (lw_at lw_m8 116 rfl) rfl
theorem q1865 : (Jvm.Cond.selects "java/util/LinkedHashMap" ({ cls := "java/util/LinkedHashMap", name := "removeEldestEntry", desc := "(Ljava/util/Map$Entry;)Z" } : Jvm.MethodName) ({ cls := "java/util/LinkedHashMap", name := "removeEldestEntry", desc := "(Ljava/util/Map$Entry;)Z" } : Jvm.MethodName)) ∈ lw_all := lw_g (lw_at lw_m8 117 rfl) rfl
theorem q1866 : (Jvm.Cond.code ({ cls := "java/util/LinkedHashMap", name := "removeEldestEntry", desc := "(Ljava/util/Map$Entry;)Z" } : Jvm.MethodName) prog_61_method_23_code (2 : Nat) (Option.some Jvm.ClassFile.FieldType.boolean)) ∈ lw_all := lw_g (lw_at lw_m8 118 rfl) rfl
theorem q2019 : (Jvm.Cond.instanceMethod ({ cls := "java/util/LinkedHashMap", name := "get", desc := "(Ljava/lang/Object;)Ljava/lang/Object;" } : Jvm.MethodName)) ∈ lw_all := lw_g (lw_at lw_m9 31 rfl) rfl
theorem q2020 : (Jvm.Cond.selects "java/util/LinkedHashMap" ({ cls := "java/util/LinkedHashMap", name := "get", desc := "(Ljava/lang/Object;)Ljava/lang/Object;" } : Jvm.MethodName) ({ cls := "java/util/LinkedHashMap", name := "get", desc := "(Ljava/lang/Object;)Ljava/lang/Object;" } : Jvm.MethodName)) ∈ lw_all := lw_g (lw_at lw_m9 32 rfl) rfl
theorem q2021 : (Jvm.Cond.code ({ cls := "java/util/LinkedHashMap", name := "get", desc := "(Ljava/lang/Object;)Ljava/lang/Object;" } : Jvm.MethodName) prog_61_method_20_code (3 : Nat) (Option.some (Jvm.ClassFile.FieldType.object "java/lang/Object"))) ∈ lw_all := lw_g (lw_at lw_m9 33 rfl) rfl
theorem q2022 : (Jvm.Cond.methodLink "java/util/LinkedHashMap" (99 : Nat) ({ cls := "java/util/LinkedHashMap", name := "getNode", desc := "(Ljava/lang/Object;)Ljava/util/HashMap$Node;" } : Jvm.MethodName)) ∈ lw_all := lw_g (lw_at lw_m9 34 rfl) rfl
theorem q2023 : (Jvm.Cond.sameMethod "java/util/LinkedHashMap" "java/util/HashMap" "getNode" "(Ljava/lang/Object;)Ljava/util/HashMap$Node;") ∈ lw_all := lw_g (lw_at lw_m9 35 rfl) rfl
theorem q2025 : (Jvm.Cond.selects "java/util/LinkedHashMap" ({ cls := "java/util/LinkedHashMap", name := "getNode", desc := "(Ljava/lang/Object;)Ljava/util/HashMap$Node;" } : Jvm.MethodName) ({ cls := "java/util/HashMap", name := "getNode", desc := "(Ljava/lang/Object;)Ljava/util/HashMap$Node;" } : Jvm.MethodName)) ∈ lw_all := lw_g (lw_at lw_m9 37 rfl) rfl
theorem q2028 : (Jvm.Cond.methodLink "java/util/LinkedHashMap" (103 : Nat) ({ cls := "java/util/LinkedHashMap", name := "afterNodeAccess", desc := "(Ljava/util/HashMap$Node;)V" } : Jvm.MethodName)) ∈ lw_all := lw_g (lw_at lw_m9 40 rfl) rfl
theorem q2039 : (Jvm.Cond.sameMethod "java/util/LinkedHashMap" "java/util/HashMap" "containsKey" "(Ljava/lang/Object;)Z") ∈ lw_all := lw_g (lw_at lw_m9 51 rfl) rfl
theorem q2041 : (Jvm.Cond.selects "java/util/LinkedHashMap" ({ cls := "java/util/LinkedHashMap", name := "containsKey", desc := "(Ljava/lang/Object;)Z" } : Jvm.MethodName) ({ cls := "java/util/HashMap", name := "containsKey", desc := "(Ljava/lang/Object;)Z" } : Jvm.MethodName)) ∈ lw_all := lw_g (lw_at lw_m9 53 rfl) rfl
theorem q2056 : (Jvm.Cond.sameMethod "java/util/LinkedHashMap" "java/util/HashMap" "remove" "(Ljava/lang/Object;)Ljava/lang/Object;") ∈ lw_all := lw_g (lw_at lw_m9 68 rfl) rfl
theorem q2058 : (Jvm.Cond.selects "java/util/LinkedHashMap" ({ cls := "java/util/LinkedHashMap", name := "remove", desc := "(Ljava/lang/Object;)Ljava/lang/Object;" } : Jvm.MethodName) ({ cls := "java/util/HashMap", name := "remove", desc := "(Ljava/lang/Object;)Ljava/lang/Object;" } : Jvm.MethodName)) ∈ lw_all := lw_g (lw_at lw_m9 70 rfl) rfl
theorem q2103 : (Jvm.Cond.instanceMethod ({ cls := "java/util/LinkedHashMap", name := "keySet", desc := "()Ljava/util/Set;" } : Jvm.MethodName)) ∈ lw_all := lw_g (lw_at lw_m9 115 rfl) rfl
theorem q2104 : (Jvm.Cond.selects "java/util/LinkedHashMap" ({ cls := "java/util/LinkedHashMap", name := "keySet", desc := "()Ljava/util/Set;" } : Jvm.MethodName) ({ cls := "java/util/LinkedHashMap", name := "keySet", desc := "()Ljava/util/Set;" } : Jvm.MethodName)) ∈ lw_all := lw_g (lw_at lw_m9 116 rfl) rfl
theorem q2105 : (Jvm.Cond.code ({ cls := "java/util/LinkedHashMap", name := "keySet", desc := "()Ljava/util/Set;" } : Jvm.MethodName) prog_61_method_24_code (1 : Nat) (Option.some (Jvm.ClassFile.FieldType.object "java/util/Set"))) ∈ lw_all := lw_g (lw_at lw_m9 117 rfl) rfl
theorem q2106 : (Jvm.Cond.methodLink "java/util/LinkedHashMap" (113 : Nat) ({ cls := "java/util/LinkedHashMap", name := "sequencedKeySet", desc := "()Ljava/util/SequencedSet;" } : Jvm.MethodName)) ∈ lw_all := lw_g (lw_at lw_m9 118 rfl) rfl
theorem q2107 : (Jvm.Cond.instanceMethod ({ cls := "java/util/LinkedHashMap", name := "sequencedKeySet", desc := "()Ljava/util/SequencedSet;" } : Jvm.MethodName)) ∈ lw_all := lw_g (lw_at lw_m9 119 rfl) rfl
theorem q2108 : (Jvm.Cond.selects "java/util/LinkedHashMap" ({ cls := "java/util/LinkedHashMap", name := "sequencedKeySet", desc := "()Ljava/util/SequencedSet;" } : Jvm.MethodName) ({ cls := "java/util/LinkedHashMap", name := "sequencedKeySet", desc := "()Ljava/util/SequencedSet;" } : Jvm.MethodName)) ∈ lw_all := lw_g (lw_at lw_m9 120 rfl) rfl
theorem q2109 : (Jvm.Cond.code ({ cls := "java/util/LinkedHashMap", name := "sequencedKeySet", desc := "()Ljava/util/SequencedSet;" } : Jvm.MethodName) prog_61_method_25_code (3 : Nat) (Option.some (Jvm.ClassFile.FieldType.object "java/util/SequencedSet"))) ∈ lw_all := lw_g (lw_at lw_m9 121 rfl) rfl
theorem q2110 : (Jvm.Cond.classLink "java/util/LinkedHashMap" (121 : Nat) "java/util/LinkedHashMap$LinkedKeySet") ∈ lw_all := lw_g (lw_at lw_m9 122 rfl) rfl
theorem q2112 : (Jvm.Cond.methodLink "java/util/LinkedHashMap" (123 : Nat) ({ cls := "java/util/LinkedHashMap$LinkedKeySet", name := "<init>", desc := "(Ljava/util/LinkedHashMap;Z)V" } : Jvm.MethodName)) ∈ lw_all := lw_g (lw_at lw_m9 124 rfl) rfl
theorem q2507 : (Jvm.Cond.instanceMethod ({ cls := "java/util/LinkedHashMap", name := "values", desc := "()Ljava/util/Collection;" } : Jvm.MethodName)) ∈ lw_all := lw_g (lw_at lw_m11 39 rfl) rfl
theorem q2508 : (Jvm.Cond.selects "java/util/LinkedHashMap" ({ cls := "java/util/LinkedHashMap", name := "values", desc := "()Ljava/util/Collection;" } : Jvm.MethodName) ({ cls := "java/util/LinkedHashMap", name := "values", desc := "()Ljava/util/Collection;" } : Jvm.MethodName)) ∈ lw_all := lw_g (lw_at lw_m11 40 rfl) rfl
theorem q2509 : (Jvm.Cond.code ({ cls := "java/util/LinkedHashMap", name := "values", desc := "()Ljava/util/Collection;" } : Jvm.MethodName) prog_61_method_30_code (1 : Nat) (Option.some (Jvm.ClassFile.FieldType.object "java/util/Collection"))) ∈ lw_all := lw_g (lw_at lw_m11 41 rfl) rfl
theorem q2510 : (Jvm.Cond.methodLink "java/util/LinkedHashMap" (135 : Nat) ({ cls := "java/util/LinkedHashMap", name := "sequencedValues", desc := "()Ljava/util/SequencedCollection;" } : Jvm.MethodName)) ∈ lw_all := lw_g (lw_at lw_m11 42 rfl) rfl
theorem q2511 : (Jvm.Cond.instanceMethod ({ cls := "java/util/LinkedHashMap", name := "sequencedValues", desc := "()Ljava/util/SequencedCollection;" } : Jvm.MethodName)) ∈ lw_all := lw_g (lw_at lw_m11 43 rfl) rfl
theorem q2512 : (Jvm.Cond.selects "java/util/LinkedHashMap" ({ cls := "java/util/LinkedHashMap", name := "sequencedValues", desc := "()Ljava/util/SequencedCollection;" } : Jvm.MethodName) ({ cls := "java/util/LinkedHashMap", name := "sequencedValues", desc := "()Ljava/util/SequencedCollection;" } : Jvm.MethodName)) ∈ lw_all := lw_g (lw_at lw_m11 44 rfl) rfl
theorem q2513 : (Jvm.Cond.code ({ cls := "java/util/LinkedHashMap", name := "sequencedValues", desc := "()Ljava/util/SequencedCollection;" } : Jvm.MethodName) prog_61_method_31_code (3 : Nat) (Option.some (Jvm.ClassFile.FieldType.object "java/util/SequencedCollection"))) ∈ lw_all := lw_g (lw_at lw_m11 45 rfl) rfl
theorem q2514 : (Jvm.Cond.classLink "java/util/LinkedHashMap" (143 : Nat) "java/util/LinkedHashMap$LinkedValues") ∈ lw_all := lw_g (lw_at lw_m11 46 rfl) rfl
theorem q2516 : (Jvm.Cond.methodLink "java/util/LinkedHashMap" (145 : Nat) ({ cls := "java/util/LinkedHashMap$LinkedValues", name := "<init>", desc := "(Ljava/util/LinkedHashMap;Z)V" } : Jvm.MethodName)) ∈ lw_all := lw_g (lw_at lw_m11 48 rfl) rfl
theorem q2527 : (Jvm.Cond.classLink "java/util/LinkedHashMap" (146 : Nat) "java/util/SequencedCollection") ∈ lw_all := lw_g (lw_at lw_m11 59 rfl) rfl
theorem q2563 : (Jvm.Cond.sameMethod "java/util/LinkedHashMap" "java/util/HashMap" "size" "()I") ∈ lw_all := lw_g (lw_at lw_m11 95 rfl) rfl
theorem q2565 : (Jvm.Cond.selects "java/util/LinkedHashMap" ({ cls := "java/util/LinkedHashMap", name := "size", desc := "()I" } : Jvm.MethodName) ({ cls := "java/util/HashMap", name := "size", desc := "()I" } : Jvm.MethodName)) ∈ lw_all := lw_g (lw_at lw_m11 97 rfl) rfl
theorem q2621 : (Jvm.Cond.instanceMethod ({ cls := "java/util/LinkedHashMap", name := "clear", desc := "()V" } : Jvm.MethodName)) ∈ lw_all := lw_g (lw_at lw_m11 153 rfl) rfl
theorem q2622 : (Jvm.Cond.selects "java/util/LinkedHashMap" ({ cls := "java/util/LinkedHashMap", name := "clear", desc := "()V" } : Jvm.MethodName) ({ cls := "java/util/LinkedHashMap", name := "clear", desc := "()V" } : Jvm.MethodName)) ∈ lw_all := lw_g (lw_at lw_m11 154 rfl) rfl
theorem q2623 : (Jvm.Cond.code ({ cls := "java/util/LinkedHashMap", name := "clear", desc := "()V" } : Jvm.MethodName) prog_61_method_22_code (1 : Nat) (Option.none : Option Jvm.ClassFile.FieldType)) ∈ lw_all := lw_g (lw_at lw_m11 155 rfl) rfl
theorem q2624 : (Jvm.Cond.methodLink "java/util/LinkedHashMap" (110 : Nat) ({ cls := "java/util/HashMap", name := "clear", desc := "()V" } : Jvm.MethodName)) ∈ lw_all := lw_g (lw_at lw_m11 156 rfl) rfl
theorem q3023 : (Jvm.Cond.selects "java/util/LinkedHashMap" ({ cls := "java/util/LinkedHashMap", name := "afterNodeAccess", desc := "(Ljava/util/HashMap$Node;)V" } : Jvm.MethodName) ({ cls := "java/util/LinkedHashMap", name := "afterNodeAccess", desc := "(Ljava/util/HashMap$Node;)V" } : Jvm.MethodName)) ∈ lw_all := lw_g (lw_at lw_m13 75 rfl) rfl
theorem q3025 : (Jvm.Cond.selects "java/util/LinkedHashMap" ({ cls := "java/util/HashMap", name := "getNode", desc := "(Ljava/lang/Object;)Ljava/util/HashMap$Node;" } : Jvm.MethodName) ({ cls := "java/util/HashMap", name := "getNode", desc := "(Ljava/lang/Object;)Ljava/util/HashMap$Node;" } : Jvm.MethodName)) ∈ lw_all := lw_g (lw_at lw_m13 77 rfl) rfl
theorem q3027 : (Jvm.Cond.selects "java/util/LinkedHashMap" ({ cls := "java/util/HashMap", name := "removeNode", desc := "(ILjava/lang/Object;Ljava/lang/Object;ZZ)Ljava/util/HashMap$Node;" } : Jvm.MethodName) ({ cls := "java/util/HashMap", name := "removeNode", desc := "(ILjava/lang/Object;Ljava/lang/Object;ZZ)Ljava/util/HashMap$Node;" } : Jvm.MethodName)) ∈ lw_all := lw_g (lw_at lw_m13 79 rfl) rfl
theorem q3047 : (Jvm.Cond.castable "java/util/LinkedHashMap" "java/lang/Object") ∈ lw_tbl := lw_at lw_m13 99 rfl
theorem in_J2 : ∀ w ∈ wsJ20, w ∈ lw_all := lw_in wsJ20 [193, 195, 197, 199, 201, 203, 205, 207, 185, 187, 189, 191] (by decide +kernel) (by decide +kernel)
/-! java/util/AbstractCollection -/
set_option maxRecDepth 100000
def RJ3 : String := "java/util/AbstractCollection"
abbrev cJ3_init : ByteArray := prog_43_method_1_code
def yJ3_init : MethodName := ⟨RJ3, "<init>", "()V"⟩
theorem dJ3_init_0 : decode cJ3_init 0 = .ok (.aload_n 0, 1) := by decide +kernel
theorem dJ3_init_1 : decode cJ3_init 1 = .ok (.invokespecial 1, 3) := by decide +kernel
theorem dJ3_init_4 : decode cJ3_init 4 = .ok (.return_, 1) := by decide +kernel
theorem q75 : (Jvm.Cond.initialized "java/util/AbstractCollection") ∈ lw_all := lw_g (lw_at lw_m1 7 rfl) rfl
theorem q231 : (Jvm.Cond.instanceMethod ({ cls := "java/util/AbstractCollection", name := "<init>", desc := "()V" } : Jvm.MethodName)) ∈ lw_all := lw_g (lw_at lw_m1 163 rfl) rfl
theorem q232 : (Jvm.Cond.code ({ cls := "java/util/AbstractCollection", name := "<init>", desc := "()V" } : Jvm.MethodName) prog_43_method_1_code (1 : Nat) (Option.none : Option Jvm.ClassFile.FieldType)) ∈ lw_all := lw_g (lw_at lw_m1 164 rfl) rfl
theorem q233 : (Jvm.Cond.methodLink "java/util/AbstractCollection" (1 : Nat) ({ cls := "java/lang/Object", name := "<init>", desc := "()V" } : Jvm.MethodName)) ∈ lw_all := lw_g (lw_at lw_m1 165 rfl) rfl
theorem q598 : (Jvm.Cond.declares ({ cls := "java/util/AbstractCollection", name := "size", desc := "()I" } : Jvm.MethodName)) ∈ lw_tbl := lw_at lw_m3 50 rfl
/-! java/util/ArrayDeque -/
set_option maxRecDepth 100000
def RJ4 : String := "java/util/ArrayDeque"
def TJ4 : u_T := fun k => match k with
  | 0 => ("java/util/ArrayDeque", "elements", "[Ljava/lang/Object;", false)
  | 1 => ("java/util/ArrayDeque", "head", "I", false)
  | _ => ("java/util/ArrayDeque", "tail", "I", false)
def tyJ4 : Nat → FieldType := fun k => match k with
  | 0 => .array (.object "java/lang/Object")
  | 1 => .int
  | _ => .int
abbrev wsJ40 : List Cond := u_ws RJ4 TJ4 3
theorem nmJ4 : ∀ a, a < 3 → ∀ b, b < 3 → a ≠ b → (TJ4 a).2.1 ≠ (TJ4 b).2.1 := by decide +kernel
theorem tyJ4_ok : ∀ k, k < 3 → parseFieldDescriptor (TJ4 k).2.2.1 = some (tyJ4 k) := by decide +kernel
abbrev cJ4_init : ByteArray := prog_50_method_3_code
def yJ4_init : MethodName := ⟨RJ4, "<init>", "()V"⟩
def dkwJ4_init_0 : List UInt8 := [42, 183, 0, 42, 42, 16, 17, 189, 0, 47, 181, 0, 3, 177]
abbrev dktJ4_init_0 : List UInt8 := dkwJ4_init_0 ++ []
theorem dksJ4_init_0 : cJ4_init.data.toList.drop 0 = dktJ4_init_0 := by decide +kernel
theorem dJ4_init_0 : decode cJ4_init 0 = .ok (.aload_n 0, 1) := dk_42 (dk_at dksJ4_init_0 0 rfl rfl)
theorem dJ4_init_1 : decode cJ4_init 1 = .ok (.invokespecial 42, 3) := dk_183 0 42 (dk_at dksJ4_init_0 1 rfl rfl)
theorem dJ4_init_4 : decode cJ4_init 4 = .ok (.aload_n 0, 1) := dk_42 (dk_at dksJ4_init_0 4 rfl rfl)
theorem dJ4_init_5 : decode cJ4_init 5 = .ok (.bipush 17, 2) := dk_16 17 (dk_at dksJ4_init_0 5 rfl rfl)
theorem dJ4_init_7 : decode cJ4_init 7 = .ok (.anewarray 47, 3) := dk_189 0 47 (dk_at dksJ4_init_0 7 rfl rfl)
theorem dJ4_init_10 : decode cJ4_init 10 = .ok (.putfield 3, 3) := dk_181 0 3 (dk_at dksJ4_init_0 10 rfl rfl)
theorem dJ4_init_13 : decode cJ4_init 13 = .ok (.return_, 1) := dk_177 (dk_at dksJ4_init_0 13 rfl rfl)
abbrev cJ4_nonNullElementAt : ByteArray := prog_50_method_11_code
def yJ4_nonNullElementAt : MethodName := ⟨RJ4, "nonNullElementAt", "([Ljava/lang/Object;I)Ljava/lang/Object;"⟩
def dkwJ4_nonNullElementAt_0 : List UInt8 := [42, 27, 50, 77, 44, 199, 0, 11, 187, 0, 62, 89, 183, 0, 64, 191, 44, 176]
abbrev dktJ4_nonNullElementAt_0 : List UInt8 := dkwJ4_nonNullElementAt_0 ++ []
theorem dksJ4_nonNullElementAt_0 : cJ4_nonNullElementAt.data.toList.drop 0 = dktJ4_nonNullElementAt_0 := by decide +kernel
theorem dJ4_nonNullElementAt_0 : decode cJ4_nonNullElementAt 0 = .ok (.aload_n 0, 1) := dk_42 (dk_at dksJ4_nonNullElementAt_0 0 rfl rfl)
theorem dJ4_nonNullElementAt_1 : decode cJ4_nonNullElementAt 1 = .ok (.iload_n 1, 1) := dk_27 (dk_at dksJ4_nonNullElementAt_0 1 rfl rfl)
theorem dJ4_nonNullElementAt_2 : decode cJ4_nonNullElementAt 2 = .ok (.aaload, 1) := dk_50 (dk_at dksJ4_nonNullElementAt_0 2 rfl rfl)
theorem dJ4_nonNullElementAt_3 : decode cJ4_nonNullElementAt 3 = .ok (.astore_n 2, 1) := dk_77 (dk_at dksJ4_nonNullElementAt_0 3 rfl rfl)
theorem dJ4_nonNullElementAt_4 : decode cJ4_nonNullElementAt 4 = .ok (.aload_n 2, 1) := dk_44 (dk_at dksJ4_nonNullElementAt_0 4 rfl rfl)
theorem dJ4_nonNullElementAt_5 : decode cJ4_nonNullElementAt 5 = .ok (.ifnonnull 11, 3) := dk_199 0 11 (dk_at dksJ4_nonNullElementAt_0 5 rfl rfl)
theorem dJ4_nonNullElementAt_8 : decode cJ4_nonNullElementAt 8 = .ok (.new 62, 3) := dk_187 0 62 (dk_at dksJ4_nonNullElementAt_0 8 rfl rfl)
theorem dJ4_nonNullElementAt_11 : decode cJ4_nonNullElementAt 11 = .ok (.dup, 1) := dk_89 (dk_at dksJ4_nonNullElementAt_0 11 rfl rfl)
theorem dJ4_nonNullElementAt_12 : decode cJ4_nonNullElementAt 12 = .ok (.invokespecial 64, 3) := dk_183 0 64 (dk_at dksJ4_nonNullElementAt_0 12 rfl rfl)
theorem dJ4_nonNullElementAt_15 : decode cJ4_nonNullElementAt 15 = .ok (.athrow, 1) := dk_191 (dk_at dksJ4_nonNullElementAt_0 15 rfl rfl)
theorem dJ4_nonNullElementAt_16 : decode cJ4_nonNullElementAt 16 = .ok (.aload_n 2, 1) := dk_44 (dk_at dksJ4_nonNullElementAt_0 16 rfl rfl)
theorem dJ4_nonNullElementAt_17 : decode cJ4_nonNullElementAt 17 = .ok (.areturn, 1) := dk_176 (dk_at dksJ4_nonNullElementAt_0 17 rfl rfl)
abbrev cJ4_inc : ByteArray := prog_50_method_6_code
def yJ4_inc : MethodName := ⟨RJ4, "inc", "(II)I"⟩
def dkwJ4_inc_0 : List UInt8 := [132, 0, 1, 26, 27, 161, 0, 5, 3, 59, 26, 172]
abbrev dktJ4_inc_0 : List UInt8 := dkwJ4_inc_0 ++ []
theorem dksJ4_inc_0 : cJ4_inc.data.toList.drop 0 = dktJ4_inc_0 := by decide +kernel
theorem dJ4_inc_0 : decode cJ4_inc 0 = .ok (.iinc 0 1, 3) := dk_132 0 1 (dk_at dksJ4_inc_0 0 rfl rfl)
theorem dJ4_inc_3 : decode cJ4_inc 3 = .ok (.iload_n 0, 1) := dk_26 (dk_at dksJ4_inc_0 3 rfl rfl)
theorem dJ4_inc_4 : decode cJ4_inc 4 = .ok (.iload_n 1, 1) := dk_27 (dk_at dksJ4_inc_0 4 rfl rfl)
theorem dJ4_inc_5 : decode cJ4_inc 5 = .ok (.if_icmp .lt 5, 3) := dk_161 0 5 (dk_at dksJ4_inc_0 5 rfl rfl)
theorem dJ4_inc_8 : decode cJ4_inc 8 = .ok (.iconst 0, 1) := dk_3 (dk_at dksJ4_inc_0 8 rfl rfl)
theorem dJ4_inc_9 : decode cJ4_inc 9 = .ok (.istore_n 0, 1) := dk_59 (dk_at dksJ4_inc_0 9 rfl rfl)
theorem dJ4_inc_10 : decode cJ4_inc 10 = .ok (.iload_n 0, 1) := dk_26 (dk_at dksJ4_inc_0 10 rfl rfl)
theorem dJ4_inc_11 : decode cJ4_inc 11 = .ok (.ireturn, 1) := dk_172 (dk_at dksJ4_inc_0 11 rfl rfl)
abbrev cJ4_delete : ByteArray := prog_50_method_36_code
def yJ4_delete : MethodName := ⟨RJ4, "delete", "(I)Z"⟩
def dkwJ4_delete_8 : List UInt8 := [4, 172]
abbrev dktJ4_delete_8 : List UInt8 := dkwJ4_delete_8 ++ []
def dkwJ4_delete_7 : List UInt8 := [4, 100, 44, 3, 50, 83, 44, 4, 44, 3, 21, 5, 4, 100, 184, 0, 27, 44, 42, 180, 0, 20, 1, 83]
abbrev dktJ4_delete_7 : List UInt8 := dkwJ4_delete_7 ++ dktJ4_delete_8
def dkwJ4_delete_6 : List UInt8 := [21, 7, 184, 0, 27, 167, 0, 36, 44, 27, 4, 96, 44, 27, 29, 27, 4, 96, 100, 184, 0, 27, 44, 29]
abbrev dktJ4_delete_6 : List UInt8 := dkwJ4_delete_6 ++ dktJ4_delete_7
def dkwJ4_delete_5 : List UInt8 := [21, 5, 29, 184, 0, 68, 181, 0, 20, 27, 42, 180, 0, 20, 163, 0, 17, 44, 27, 4, 96, 44, 27]
abbrev dktJ4_delete_5 : List UInt8 := dkwJ4_delete_5 ++ dktJ4_delete_6
def dkwJ4_delete_4 : List UInt8 := [96, 100, 184, 0, 27, 44, 21, 4, 1, 83, 42, 21, 4, 29, 184, 0, 74, 181, 0, 24, 3, 172, 42]
abbrev dktJ4_delete_4 : List UInt8 := dkwJ4_delete_4 ++ dktJ4_delete_5
def dkwJ4_delete_3 : List UInt8 := [27, 184, 0, 27, 44, 3, 44, 29, 4, 100, 50, 83, 44, 21, 4, 44, 21, 4, 4, 96, 21, 6, 27, 4]
abbrev dktJ4_delete_3 : List UInt8 := dkwJ4_delete_3 ++ dktJ4_delete_4
def dkwJ4_delete_2 : List UInt8 := [27, 163, 0, 19, 44, 21, 4, 44, 21, 4, 4, 96, 21, 6, 184, 0, 27, 167, 0, 36, 44, 3, 44, 4]
abbrev dktJ4_delete_2 : List UInt8 := dkwJ4_delete_2 ++ dktJ4_delete_3
def dkwJ4_delete_1 : List UInt8 := [180, 0, 20, 89, 54, 5, 27, 29, 184, 0, 127, 4, 100, 54, 7, 21, 6, 21, 7, 162, 0, 75, 21, 4]
abbrev dktJ4_delete_1 : List UInt8 := dkwJ4_delete_1 ++ dktJ4_delete_2
def dkwJ4_delete_0 : List UInt8 := [42, 180, 0, 3, 77, 44, 190, 62, 27, 42, 180, 0, 24, 89, 54, 4, 29, 184, 0, 127, 54, 6, 42]
abbrev dktJ4_delete_0 : List UInt8 := dkwJ4_delete_0 ++ dktJ4_delete_1
theorem dksJ4_delete_0 : cJ4_delete.data.toList.drop 0 = dktJ4_delete_0 := by decide +kernel
theorem dksJ4_delete_1 : cJ4_delete.data.toList.drop 23 = dktJ4_delete_1 := dk_seg dksJ4_delete_0 23 rfl rfl
theorem dksJ4_delete_2 : cJ4_delete.data.toList.drop 47 = dktJ4_delete_2 := dk_seg dksJ4_delete_1 24 rfl rfl
theorem dksJ4_delete_3 : cJ4_delete.data.toList.drop 71 = dktJ4_delete_3 := dk_seg dksJ4_delete_2 24 rfl rfl
theorem dksJ4_delete_4 : cJ4_delete.data.toList.drop 95 = dktJ4_delete_4 := dk_seg dksJ4_delete_3 24 rfl rfl
theorem dksJ4_delete_5 : cJ4_delete.data.toList.drop 118 = dktJ4_delete_5 := dk_seg dksJ4_delete_4 23 rfl rfl
theorem dksJ4_delete_6 : cJ4_delete.data.toList.drop 141 = dktJ4_delete_6 := dk_seg dksJ4_delete_5 23 rfl rfl
theorem dksJ4_delete_7 : cJ4_delete.data.toList.drop 165 = dktJ4_delete_7 := dk_seg dksJ4_delete_6 24 rfl rfl
theorem dksJ4_delete_8 : cJ4_delete.data.toList.drop 189 = dktJ4_delete_8 := dk_seg dksJ4_delete_7 24 rfl rfl
theorem dJ4_delete_0 : decode cJ4_delete 0 = .ok (.aload_n 0, 1) := dk_42 (dk_at dksJ4_delete_0 0 rfl rfl)
theorem dJ4_delete_1 : decode cJ4_delete 1 = .ok (.getfield 3, 3) := dk_180 0 3 (dk_at dksJ4_delete_0 1 rfl rfl)
theorem dJ4_delete_4 : decode cJ4_delete 4 = .ok (.astore_n 2, 1) := dk_77 (dk_at dksJ4_delete_0 4 rfl rfl)
theorem dJ4_delete_5 : decode cJ4_delete 5 = .ok (.aload_n 2, 1) := dk_44 (dk_at dksJ4_delete_0 5 rfl rfl)
theorem dJ4_delete_6 : decode cJ4_delete 6 = .ok (.arraylength, 1) := dk_190 (dk_at dksJ4_delete_0 6 rfl rfl)
theorem dJ4_delete_7 : decode cJ4_delete 7 = .ok (.istore_n 3, 1) := dk_62 (dk_at dksJ4_delete_0 7 rfl rfl)
theorem dJ4_delete_8 : decode cJ4_delete 8 = .ok (.iload_n 1, 1) := dk_27 (dk_at dksJ4_delete_0 8 rfl rfl)
theorem dJ4_delete_9 : decode cJ4_delete 9 = .ok (.aload_n 0, 1) := dk_42 (dk_at dksJ4_delete_0 9 rfl rfl)
theorem dJ4_delete_10 : decode cJ4_delete 10 = .ok (.getfield 24, 3) := dk_180 0 24 (dk_at dksJ4_delete_0 10 rfl rfl)
theorem dJ4_delete_13 : decode cJ4_delete 13 = .ok (.dup, 1) := dk_89 (dk_at dksJ4_delete_0 13 rfl rfl)
theorem dJ4_delete_14 : decode cJ4_delete 14 = .ok (.istore 4, 2) := dk_54 4 (dk_at dksJ4_delete_0 14 rfl rfl)
theorem dJ4_delete_16 : decode cJ4_delete 16 = .ok (.iload_n 3, 1) := dk_29 (dk_at dksJ4_delete_0 16 rfl rfl)
theorem dJ4_delete_17 : decode cJ4_delete 17 = .ok (.invokestatic 127, 3) := dk_184 0 127 (dk_at dksJ4_delete_0 17 rfl rfl)
theorem dJ4_delete_20 : decode cJ4_delete 20 = .ok (.istore 6, 2) := dk_54 6 (dk_at dksJ4_delete_0 20 rfl rfl)
theorem dJ4_delete_22 : decode cJ4_delete 22 = .ok (.aload_n 0, 1) := dk_42 (dk_at dksJ4_delete_0 22 rfl rfl)
theorem dJ4_delete_23 : decode cJ4_delete 23 = .ok (.getfield 20, 3) := dk_180 0 20 (dk_at dksJ4_delete_1 0 rfl rfl)
theorem dJ4_delete_26 : decode cJ4_delete 26 = .ok (.dup, 1) := dk_89 (dk_at dksJ4_delete_1 3 rfl rfl)
theorem dJ4_delete_27 : decode cJ4_delete 27 = .ok (.istore 5, 2) := dk_54 5 (dk_at dksJ4_delete_1 4 rfl rfl)
theorem dJ4_delete_29 : decode cJ4_delete 29 = .ok (.iload_n 1, 1) := dk_27 (dk_at dksJ4_delete_1 6 rfl rfl)
theorem dJ4_delete_30 : decode cJ4_delete 30 = .ok (.iload_n 3, 1) := dk_29 (dk_at dksJ4_delete_1 7 rfl rfl)
theorem dJ4_delete_31 : decode cJ4_delete 31 = .ok (.invokestatic 127, 3) := dk_184 0 127 (dk_at dksJ4_delete_1 8 rfl rfl)
theorem dJ4_delete_34 : decode cJ4_delete 34 = .ok (.iconst 1, 1) := dk_4 (dk_at dksJ4_delete_1 11 rfl rfl)
theorem dJ4_delete_35 : decode cJ4_delete 35 = .ok (.isub, 1) := dk_100 (dk_at dksJ4_delete_1 12 rfl rfl)
theorem dJ4_delete_36 : decode cJ4_delete 36 = .ok (.istore 7, 2) := dk_54 7 (dk_at dksJ4_delete_1 13 rfl rfl)
theorem dJ4_delete_38 : decode cJ4_delete 38 = .ok (.iload 6, 2) := dk_21 6 (dk_at dksJ4_delete_1 15 rfl rfl)
theorem dJ4_delete_40 : decode cJ4_delete 40 = .ok (.iload 7, 2) := dk_21 7 (dk_at dksJ4_delete_1 17 rfl rfl)
theorem dJ4_delete_42 : decode cJ4_delete 42 = .ok (.if_icmp .ge 75, 3) := dk_162 0 75 (dk_at dksJ4_delete_1 19 rfl rfl)
theorem dJ4_delete_45 : decode cJ4_delete 45 = .ok (.iload 4, 2) := dk_21 4 (dk_at dksJ4_delete_1 22 rfl rfl)
theorem dJ4_delete_47 : decode cJ4_delete 47 = .ok (.iload_n 1, 1) := dk_27 (dk_at dksJ4_delete_2 0 rfl rfl)
theorem dJ4_delete_48 : decode cJ4_delete 48 = .ok (.if_icmp .gt 19, 3) := dk_163 0 19 (dk_at dksJ4_delete_2 1 rfl rfl)
theorem dJ4_delete_51 : decode cJ4_delete 51 = .ok (.aload_n 2, 1) := dk_44 (dk_at dksJ4_delete_2 4 rfl rfl)
theorem dJ4_delete_52 : decode cJ4_delete 52 = .ok (.iload 4, 2) := dk_21 4 (dk_at dksJ4_delete_2 5 rfl rfl)
theorem dJ4_delete_54 : decode cJ4_delete 54 = .ok (.aload_n 2, 1) := dk_44 (dk_at dksJ4_delete_2 7 rfl rfl)
theorem dJ4_delete_55 : decode cJ4_delete 55 = .ok (.iload 4, 2) := dk_21 4 (dk_at dksJ4_delete_2 8 rfl rfl)
theorem dJ4_delete_57 : decode cJ4_delete 57 = .ok (.iconst 1, 1) := dk_4 (dk_at dksJ4_delete_2 10 rfl rfl)
theorem dJ4_delete_58 : decode cJ4_delete 58 = .ok (.iadd, 1) := dk_96 (dk_at dksJ4_delete_2 11 rfl rfl)
theorem dJ4_delete_59 : decode cJ4_delete 59 = .ok (.iload 6, 2) := dk_21 6 (dk_at dksJ4_delete_2 12 rfl rfl)
theorem dJ4_delete_61 : decode cJ4_delete 61 = .ok (.invokestatic 27, 3) := dk_184 0 27 (dk_at dksJ4_delete_2 14 rfl rfl)
theorem dJ4_delete_64 : decode cJ4_delete 64 = .ok (.goto 36, 3) := dk_167 0 36 (dk_at dksJ4_delete_2 17 rfl rfl)
theorem dJ4_delete_67 : decode cJ4_delete 67 = .ok (.aload_n 2, 1) := dk_44 (dk_at dksJ4_delete_2 20 rfl rfl)
theorem dJ4_delete_68 : decode cJ4_delete 68 = .ok (.iconst 0, 1) := dk_3 (dk_at dksJ4_delete_2 21 rfl rfl)
theorem dJ4_delete_69 : decode cJ4_delete 69 = .ok (.aload_n 2, 1) := dk_44 (dk_at dksJ4_delete_2 22 rfl rfl)
theorem dJ4_delete_70 : decode cJ4_delete 70 = .ok (.iconst 1, 1) := dk_4 (dk_at dksJ4_delete_2 23 rfl rfl)
theorem dJ4_delete_71 : decode cJ4_delete 71 = .ok (.iload_n 1, 1) := dk_27 (dk_at dksJ4_delete_3 0 rfl rfl)
theorem dJ4_delete_72 : decode cJ4_delete 72 = .ok (.invokestatic 27, 3) := dk_184 0 27 (dk_at dksJ4_delete_3 1 rfl rfl)
theorem dJ4_delete_75 : decode cJ4_delete 75 = .ok (.aload_n 2, 1) := dk_44 (dk_at dksJ4_delete_3 4 rfl rfl)
theorem dJ4_delete_76 : decode cJ4_delete 76 = .ok (.iconst 0, 1) := dk_3 (dk_at dksJ4_delete_3 5 rfl rfl)
theorem dJ4_delete_77 : decode cJ4_delete 77 = .ok (.aload_n 2, 1) := dk_44 (dk_at dksJ4_delete_3 6 rfl rfl)
theorem dJ4_delete_78 : decode cJ4_delete 78 = .ok (.iload_n 3, 1) := dk_29 (dk_at dksJ4_delete_3 7 rfl rfl)
theorem dJ4_delete_79 : decode cJ4_delete 79 = .ok (.iconst 1, 1) := dk_4 (dk_at dksJ4_delete_3 8 rfl rfl)
theorem dJ4_delete_80 : decode cJ4_delete 80 = .ok (.isub, 1) := dk_100 (dk_at dksJ4_delete_3 9 rfl rfl)
theorem dJ4_delete_81 : decode cJ4_delete 81 = .ok (.aaload, 1) := dk_50 (dk_at dksJ4_delete_3 10 rfl rfl)
theorem dJ4_delete_82 : decode cJ4_delete 82 = .ok (.aastore, 1) := dk_83 (dk_at dksJ4_delete_3 11 rfl rfl)
theorem dJ4_delete_83 : decode cJ4_delete 83 = .ok (.aload_n 2, 1) := dk_44 (dk_at dksJ4_delete_3 12 rfl rfl)
theorem dJ4_delete_84 : decode cJ4_delete 84 = .ok (.iload 4, 2) := dk_21 4 (dk_at dksJ4_delete_3 13 rfl rfl)
theorem dJ4_delete_86 : decode cJ4_delete 86 = .ok (.aload_n 2, 1) := dk_44 (dk_at dksJ4_delete_3 15 rfl rfl)
theorem dJ4_delete_87 : decode cJ4_delete 87 = .ok (.iload 4, 2) := dk_21 4 (dk_at dksJ4_delete_3 16 rfl rfl)
theorem dJ4_delete_89 : decode cJ4_delete 89 = .ok (.iconst 1, 1) := dk_4 (dk_at dksJ4_delete_3 18 rfl rfl)
theorem dJ4_delete_90 : decode cJ4_delete 90 = .ok (.iadd, 1) := dk_96 (dk_at dksJ4_delete_3 19 rfl rfl)
theorem dJ4_delete_91 : decode cJ4_delete 91 = .ok (.iload 6, 2) := dk_21 6 (dk_at dksJ4_delete_3 20 rfl rfl)
theorem dJ4_delete_93 : decode cJ4_delete 93 = .ok (.iload_n 1, 1) := dk_27 (dk_at dksJ4_delete_3 22 rfl rfl)
theorem dJ4_delete_94 : decode cJ4_delete 94 = .ok (.iconst 1, 1) := dk_4 (dk_at dksJ4_delete_3 23 rfl rfl)
theorem dJ4_delete_95 : decode cJ4_delete 95 = .ok (.iadd, 1) := dk_96 (dk_at dksJ4_delete_4 0 rfl rfl)
theorem dJ4_delete_96 : decode cJ4_delete 96 = .ok (.isub, 1) := dk_100 (dk_at dksJ4_delete_4 1 rfl rfl)
theorem dJ4_delete_97 : decode cJ4_delete 97 = .ok (.invokestatic 27, 3) := dk_184 0 27 (dk_at dksJ4_delete_4 2 rfl rfl)
theorem dJ4_delete_100 : decode cJ4_delete 100 = .ok (.aload_n 2, 1) := dk_44 (dk_at dksJ4_delete_4 5 rfl rfl)
theorem dJ4_delete_101 : decode cJ4_delete 101 = .ok (.iload 4, 2) := dk_21 4 (dk_at dksJ4_delete_4 6 rfl rfl)
theorem dJ4_delete_103 : decode cJ4_delete 103 = .ok (.aconst_null, 1) := dk_1 (dk_at dksJ4_delete_4 8 rfl rfl)
theorem dJ4_delete_104 : decode cJ4_delete 104 = .ok (.aastore, 1) := dk_83 (dk_at dksJ4_delete_4 9 rfl rfl)
theorem dJ4_delete_105 : decode cJ4_delete 105 = .ok (.aload_n 0, 1) := dk_42 (dk_at dksJ4_delete_4 10 rfl rfl)
theorem dJ4_delete_106 : decode cJ4_delete 106 = .ok (.iload 4, 2) := dk_21 4 (dk_at dksJ4_delete_4 11 rfl rfl)
theorem dJ4_delete_108 : decode cJ4_delete 108 = .ok (.iload_n 3, 1) := dk_29 (dk_at dksJ4_delete_4 13 rfl rfl)
theorem dJ4_delete_109 : decode cJ4_delete 109 = .ok (.invokestatic 74, 3) := dk_184 0 74 (dk_at dksJ4_delete_4 14 rfl rfl)
theorem dJ4_delete_112 : decode cJ4_delete 112 = .ok (.putfield 24, 3) := dk_181 0 24 (dk_at dksJ4_delete_4 17 rfl rfl)
theorem dJ4_delete_115 : decode cJ4_delete 115 = .ok (.iconst 0, 1) := dk_3 (dk_at dksJ4_delete_4 20 rfl rfl)
theorem dJ4_delete_116 : decode cJ4_delete 116 = .ok (.ireturn, 1) := dk_172 (dk_at dksJ4_delete_4 21 rfl rfl)
theorem dJ4_delete_117 : decode cJ4_delete 117 = .ok (.aload_n 0, 1) := dk_42 (dk_at dksJ4_delete_4 22 rfl rfl)
theorem dJ4_delete_118 : decode cJ4_delete 118 = .ok (.iload 5, 2) := dk_21 5 (dk_at dksJ4_delete_5 0 rfl rfl)
theorem dJ4_delete_120 : decode cJ4_delete 120 = .ok (.iload_n 3, 1) := dk_29 (dk_at dksJ4_delete_5 2 rfl rfl)
theorem dJ4_delete_121 : decode cJ4_delete 121 = .ok (.invokestatic 68, 3) := dk_184 0 68 (dk_at dksJ4_delete_5 3 rfl rfl)
theorem dJ4_delete_124 : decode cJ4_delete 124 = .ok (.putfield 20, 3) := dk_181 0 20 (dk_at dksJ4_delete_5 6 rfl rfl)
theorem dJ4_delete_127 : decode cJ4_delete 127 = .ok (.iload_n 1, 1) := dk_27 (dk_at dksJ4_delete_5 9 rfl rfl)
theorem dJ4_delete_128 : decode cJ4_delete 128 = .ok (.aload_n 0, 1) := dk_42 (dk_at dksJ4_delete_5 10 rfl rfl)
theorem dJ4_delete_129 : decode cJ4_delete 129 = .ok (.getfield 20, 3) := dk_180 0 20 (dk_at dksJ4_delete_5 11 rfl rfl)
theorem dJ4_delete_132 : decode cJ4_delete 132 = .ok (.if_icmp .gt 17, 3) := dk_163 0 17 (dk_at dksJ4_delete_5 14 rfl rfl)
theorem dJ4_delete_135 : decode cJ4_delete 135 = .ok (.aload_n 2, 1) := dk_44 (dk_at dksJ4_delete_5 17 rfl rfl)
theorem dJ4_delete_136 : decode cJ4_delete 136 = .ok (.iload_n 1, 1) := dk_27 (dk_at dksJ4_delete_5 18 rfl rfl)
theorem dJ4_delete_137 : decode cJ4_delete 137 = .ok (.iconst 1, 1) := dk_4 (dk_at dksJ4_delete_5 19 rfl rfl)
theorem dJ4_delete_138 : decode cJ4_delete 138 = .ok (.iadd, 1) := dk_96 (dk_at dksJ4_delete_5 20 rfl rfl)
theorem dJ4_delete_139 : decode cJ4_delete 139 = .ok (.aload_n 2, 1) := dk_44 (dk_at dksJ4_delete_5 21 rfl rfl)
theorem dJ4_delete_140 : decode cJ4_delete 140 = .ok (.iload_n 1, 1) := dk_27 (dk_at dksJ4_delete_5 22 rfl rfl)
theorem dJ4_delete_141 : decode cJ4_delete 141 = .ok (.iload 7, 2) := dk_21 7 (dk_at dksJ4_delete_6 0 rfl rfl)
theorem dJ4_delete_143 : decode cJ4_delete 143 = .ok (.invokestatic 27, 3) := dk_184 0 27 (dk_at dksJ4_delete_6 2 rfl rfl)
theorem dJ4_delete_146 : decode cJ4_delete 146 = .ok (.goto 36, 3) := dk_167 0 36 (dk_at dksJ4_delete_6 5 rfl rfl)
theorem dJ4_delete_149 : decode cJ4_delete 149 = .ok (.aload_n 2, 1) := dk_44 (dk_at dksJ4_delete_6 8 rfl rfl)
theorem dJ4_delete_150 : decode cJ4_delete 150 = .ok (.iload_n 1, 1) := dk_27 (dk_at dksJ4_delete_6 9 rfl rfl)
theorem dJ4_delete_151 : decode cJ4_delete 151 = .ok (.iconst 1, 1) := dk_4 (dk_at dksJ4_delete_6 10 rfl rfl)
theorem dJ4_delete_152 : decode cJ4_delete 152 = .ok (.iadd, 1) := dk_96 (dk_at dksJ4_delete_6 11 rfl rfl)
theorem dJ4_delete_153 : decode cJ4_delete 153 = .ok (.aload_n 2, 1) := dk_44 (dk_at dksJ4_delete_6 12 rfl rfl)
theorem dJ4_delete_154 : decode cJ4_delete 154 = .ok (.iload_n 1, 1) := dk_27 (dk_at dksJ4_delete_6 13 rfl rfl)
theorem dJ4_delete_155 : decode cJ4_delete 155 = .ok (.iload_n 3, 1) := dk_29 (dk_at dksJ4_delete_6 14 rfl rfl)
theorem dJ4_delete_156 : decode cJ4_delete 156 = .ok (.iload_n 1, 1) := dk_27 (dk_at dksJ4_delete_6 15 rfl rfl)
theorem dJ4_delete_157 : decode cJ4_delete 157 = .ok (.iconst 1, 1) := dk_4 (dk_at dksJ4_delete_6 16 rfl rfl)
theorem dJ4_delete_158 : decode cJ4_delete 158 = .ok (.iadd, 1) := dk_96 (dk_at dksJ4_delete_6 17 rfl rfl)
theorem dJ4_delete_159 : decode cJ4_delete 159 = .ok (.isub, 1) := dk_100 (dk_at dksJ4_delete_6 18 rfl rfl)
theorem dJ4_delete_160 : decode cJ4_delete 160 = .ok (.invokestatic 27, 3) := dk_184 0 27 (dk_at dksJ4_delete_6 19 rfl rfl)
theorem dJ4_delete_163 : decode cJ4_delete 163 = .ok (.aload_n 2, 1) := dk_44 (dk_at dksJ4_delete_6 22 rfl rfl)
theorem dJ4_delete_164 : decode cJ4_delete 164 = .ok (.iload_n 3, 1) := dk_29 (dk_at dksJ4_delete_6 23 rfl rfl)
theorem dJ4_delete_165 : decode cJ4_delete 165 = .ok (.iconst 1, 1) := dk_4 (dk_at dksJ4_delete_7 0 rfl rfl)
theorem dJ4_delete_166 : decode cJ4_delete 166 = .ok (.isub, 1) := dk_100 (dk_at dksJ4_delete_7 1 rfl rfl)
theorem dJ4_delete_167 : decode cJ4_delete 167 = .ok (.aload_n 2, 1) := dk_44 (dk_at dksJ4_delete_7 2 rfl rfl)
theorem dJ4_delete_168 : decode cJ4_delete 168 = .ok (.iconst 0, 1) := dk_3 (dk_at dksJ4_delete_7 3 rfl rfl)
theorem dJ4_delete_169 : decode cJ4_delete 169 = .ok (.aaload, 1) := dk_50 (dk_at dksJ4_delete_7 4 rfl rfl)
theorem dJ4_delete_170 : decode cJ4_delete 170 = .ok (.aastore, 1) := dk_83 (dk_at dksJ4_delete_7 5 rfl rfl)
theorem dJ4_delete_171 : decode cJ4_delete 171 = .ok (.aload_n 2, 1) := dk_44 (dk_at dksJ4_delete_7 6 rfl rfl)
theorem dJ4_delete_172 : decode cJ4_delete 172 = .ok (.iconst 1, 1) := dk_4 (dk_at dksJ4_delete_7 7 rfl rfl)
theorem dJ4_delete_173 : decode cJ4_delete 173 = .ok (.aload_n 2, 1) := dk_44 (dk_at dksJ4_delete_7 8 rfl rfl)
theorem dJ4_delete_174 : decode cJ4_delete 174 = .ok (.iconst 0, 1) := dk_3 (dk_at dksJ4_delete_7 9 rfl rfl)
theorem dJ4_delete_175 : decode cJ4_delete 175 = .ok (.iload 5, 2) := dk_21 5 (dk_at dksJ4_delete_7 10 rfl rfl)
theorem dJ4_delete_177 : decode cJ4_delete 177 = .ok (.iconst 1, 1) := dk_4 (dk_at dksJ4_delete_7 12 rfl rfl)
theorem dJ4_delete_178 : decode cJ4_delete 178 = .ok (.isub, 1) := dk_100 (dk_at dksJ4_delete_7 13 rfl rfl)
theorem dJ4_delete_179 : decode cJ4_delete 179 = .ok (.invokestatic 27, 3) := dk_184 0 27 (dk_at dksJ4_delete_7 14 rfl rfl)
theorem dJ4_delete_182 : decode cJ4_delete 182 = .ok (.aload_n 2, 1) := dk_44 (dk_at dksJ4_delete_7 17 rfl rfl)
theorem dJ4_delete_183 : decode cJ4_delete 183 = .ok (.aload_n 0, 1) := dk_42 (dk_at dksJ4_delete_7 18 rfl rfl)
theorem dJ4_delete_184 : decode cJ4_delete 184 = .ok (.getfield 20, 3) := dk_180 0 20 (dk_at dksJ4_delete_7 19 rfl rfl)
theorem dJ4_delete_187 : decode cJ4_delete 187 = .ok (.aconst_null, 1) := dk_1 (dk_at dksJ4_delete_7 22 rfl rfl)
theorem dJ4_delete_188 : decode cJ4_delete 188 = .ok (.aastore, 1) := dk_83 (dk_at dksJ4_delete_7 23 rfl rfl)
theorem dJ4_delete_189 : decode cJ4_delete 189 = .ok (.iconst 1, 1) := dk_4 (dk_at dksJ4_delete_8 0 rfl rfl)
theorem dJ4_delete_190 : decode cJ4_delete 190 = .ok (.ireturn, 1) := dk_172 (dk_at dksJ4_delete_8 1 rfl rfl)
abbrev cJ4_sub : ByteArray := prog_50_method_9_code
def yJ4_sub : MethodName := ⟨RJ4, "sub", "(III)I"⟩
def dkwJ4_sub_0 : List UInt8 := [26, 27, 100, 89, 59, 156, 0, 7, 26, 28, 96, 59, 26, 172]
abbrev dktJ4_sub_0 : List UInt8 := dkwJ4_sub_0 ++ []
theorem dksJ4_sub_0 : cJ4_sub.data.toList.drop 0 = dktJ4_sub_0 := by decide +kernel
theorem dJ4_sub_0 : decode cJ4_sub 0 = .ok (.iload_n 0, 1) := dk_26 (dk_at dksJ4_sub_0 0 rfl rfl)
theorem dJ4_sub_1 : decode cJ4_sub 1 = .ok (.iload_n 1, 1) := dk_27 (dk_at dksJ4_sub_0 1 rfl rfl)
theorem dJ4_sub_2 : decode cJ4_sub 2 = .ok (.isub, 1) := dk_100 (dk_at dksJ4_sub_0 2 rfl rfl)
theorem dJ4_sub_3 : decode cJ4_sub 3 = .ok (.dup, 1) := dk_89 (dk_at dksJ4_sub_0 3 rfl rfl)
theorem dJ4_sub_4 : decode cJ4_sub 4 = .ok (.istore_n 0, 1) := dk_59 (dk_at dksJ4_sub_0 4 rfl rfl)
theorem dJ4_sub_5 : decode cJ4_sub 5 = .ok (.ifCond .ge 7, 3) := dk_156 0 7 (dk_at dksJ4_sub_0 5 rfl rfl)
theorem dJ4_sub_8 : decode cJ4_sub 8 = .ok (.iload_n 0, 1) := dk_26 (dk_at dksJ4_sub_0 8 rfl rfl)
theorem dJ4_sub_9 : decode cJ4_sub 9 = .ok (.iload_n 2, 1) := dk_28 (dk_at dksJ4_sub_0 9 rfl rfl)
theorem dJ4_sub_10 : decode cJ4_sub 10 = .ok (.iadd, 1) := dk_96 (dk_at dksJ4_sub_0 10 rfl rfl)
theorem dJ4_sub_11 : decode cJ4_sub 11 = .ok (.istore_n 0, 1) := dk_59 (dk_at dksJ4_sub_0 11 rfl rfl)
theorem dJ4_sub_12 : decode cJ4_sub 12 = .ok (.iload_n 0, 1) := dk_26 (dk_at dksJ4_sub_0 12 rfl rfl)
theorem dJ4_sub_13 : decode cJ4_sub 13 = .ok (.ireturn, 1) := dk_172 (dk_at dksJ4_sub_0 13 rfl rfl)
abbrev cJ4_dec : ByteArray := prog_50_method_7_code
def yJ4_dec : MethodName := ⟨RJ4, "dec", "(II)I"⟩
def dkwJ4_dec_0 : List UInt8 := [132, 0, 255, 26, 156, 0, 7, 27, 4, 100, 59, 26, 172]
abbrev dktJ4_dec_0 : List UInt8 := dkwJ4_dec_0 ++ []
theorem dksJ4_dec_0 : cJ4_dec.data.toList.drop 0 = dktJ4_dec_0 := by decide +kernel
theorem dJ4_dec_0 : decode cJ4_dec 0 = .ok (.iinc 0 (-1), 3) := dk_132 0 255 (dk_at dksJ4_dec_0 0 rfl rfl)
theorem dJ4_dec_3 : decode cJ4_dec 3 = .ok (.iload_n 0, 1) := dk_26 (dk_at dksJ4_dec_0 3 rfl rfl)
theorem dJ4_dec_4 : decode cJ4_dec 4 = .ok (.ifCond .ge 7, 3) := dk_156 0 7 (dk_at dksJ4_dec_0 4 rfl rfl)
theorem dJ4_dec_7 : decode cJ4_dec 7 = .ok (.iload_n 1, 1) := dk_27 (dk_at dksJ4_dec_0 7 rfl rfl)
theorem dJ4_dec_8 : decode cJ4_dec 8 = .ok (.iconst 1, 1) := dk_4 (dk_at dksJ4_dec_0 8 rfl rfl)
theorem dJ4_dec_9 : decode cJ4_dec 9 = .ok (.isub, 1) := dk_100 (dk_at dksJ4_dec_0 9 rfl rfl)
theorem dJ4_dec_10 : decode cJ4_dec 10 = .ok (.istore_n 0, 1) := dk_59 (dk_at dksJ4_dec_0 10 rfl rfl)
theorem dJ4_dec_11 : decode cJ4_dec 11 = .ok (.iload_n 0, 1) := dk_26 (dk_at dksJ4_dec_0 11 rfl rfl)
theorem dJ4_dec_12 : decode cJ4_dec 12 = .ok (.ireturn, 1) := dk_172 (dk_at dksJ4_dec_0 12 rfl rfl)
abbrev cJ4_addFirst : ByteArray := prog_50_method_12_code
def yJ4_addFirst : MethodName := ⟨RJ4, "addFirst", "(Ljava/lang/Object;)V"⟩
def dkwJ4_addFirst_2 : List UInt8 := [182, 0, 71, 177]
abbrev dktJ4_addFirst_2 : List UInt8 := dkwJ4_addFirst_2 ++ []
def dkwJ4_addFirst_1 : List UInt8 := [190, 184, 0, 68, 90, 181, 0, 24, 43, 83, 42, 180, 0, 24, 42, 180, 0, 20, 160, 0, 8, 42, 4]
abbrev dktJ4_addFirst_1 : List UInt8 := dkwJ4_addFirst_1 ++ dktJ4_addFirst_2
def dkwJ4_addFirst_0 : List UInt8 := [43, 199, 0, 11, 187, 0, 65, 89, 183, 0, 67, 191, 42, 180, 0, 3, 77, 44, 42, 42, 180, 0, 24, 44]
abbrev dktJ4_addFirst_0 : List UInt8 := dkwJ4_addFirst_0 ++ dktJ4_addFirst_1
theorem dksJ4_addFirst_0 : cJ4_addFirst.data.toList.drop 0 = dktJ4_addFirst_0 := by decide +kernel
theorem dksJ4_addFirst_1 : cJ4_addFirst.data.toList.drop 24 = dktJ4_addFirst_1 := dk_seg dksJ4_addFirst_0 24 rfl rfl
theorem dksJ4_addFirst_2 : cJ4_addFirst.data.toList.drop 47 = dktJ4_addFirst_2 := dk_seg dksJ4_addFirst_1 23 rfl rfl
theorem dJ4_addFirst_0 : decode cJ4_addFirst 0 = .ok (.aload_n 1, 1) := dk_43 (dk_at dksJ4_addFirst_0 0 rfl rfl)
theorem dJ4_addFirst_1 : decode cJ4_addFirst 1 = .ok (.ifnonnull 11, 3) := dk_199 0 11 (dk_at dksJ4_addFirst_0 1 rfl rfl)
theorem dJ4_addFirst_4 : decode cJ4_addFirst 4 = .ok (.new 65, 3) := dk_187 0 65 (dk_at dksJ4_addFirst_0 4 rfl rfl)
theorem dJ4_addFirst_7 : decode cJ4_addFirst 7 = .ok (.dup, 1) := dk_89 (dk_at dksJ4_addFirst_0 7 rfl rfl)
theorem dJ4_addFirst_8 : decode cJ4_addFirst 8 = .ok (.invokespecial 67, 3) := dk_183 0 67 (dk_at dksJ4_addFirst_0 8 rfl rfl)
theorem dJ4_addFirst_11 : decode cJ4_addFirst 11 = .ok (.athrow, 1) := dk_191 (dk_at dksJ4_addFirst_0 11 rfl rfl)
theorem dJ4_addFirst_12 : decode cJ4_addFirst 12 = .ok (.aload_n 0, 1) := dk_42 (dk_at dksJ4_addFirst_0 12 rfl rfl)
theorem dJ4_addFirst_13 : decode cJ4_addFirst 13 = .ok (.getfield 3, 3) := dk_180 0 3 (dk_at dksJ4_addFirst_0 13 rfl rfl)
theorem dJ4_addFirst_16 : decode cJ4_addFirst 16 = .ok (.astore_n 2, 1) := dk_77 (dk_at dksJ4_addFirst_0 16 rfl rfl)
theorem dJ4_addFirst_17 : decode cJ4_addFirst 17 = .ok (.aload_n 2, 1) := dk_44 (dk_at dksJ4_addFirst_0 17 rfl rfl)
theorem dJ4_addFirst_18 : decode cJ4_addFirst 18 = .ok (.aload_n 0, 1) := dk_42 (dk_at dksJ4_addFirst_0 18 rfl rfl)
theorem dJ4_addFirst_19 : decode cJ4_addFirst 19 = .ok (.aload_n 0, 1) := dk_42 (dk_at dksJ4_addFirst_0 19 rfl rfl)
theorem dJ4_addFirst_20 : decode cJ4_addFirst 20 = .ok (.getfield 24, 3) := dk_180 0 24 (dk_at dksJ4_addFirst_0 20 rfl rfl)
theorem dJ4_addFirst_23 : decode cJ4_addFirst 23 = .ok (.aload_n 2, 1) := dk_44 (dk_at dksJ4_addFirst_0 23 rfl rfl)
theorem dJ4_addFirst_24 : decode cJ4_addFirst 24 = .ok (.arraylength, 1) := dk_190 (dk_at dksJ4_addFirst_1 0 rfl rfl)
theorem dJ4_addFirst_25 : decode cJ4_addFirst 25 = .ok (.invokestatic 68, 3) := dk_184 0 68 (dk_at dksJ4_addFirst_1 1 rfl rfl)
theorem dJ4_addFirst_28 : decode cJ4_addFirst 28 = .ok (.dup_x1, 1) := dk_90 (dk_at dksJ4_addFirst_1 4 rfl rfl)
theorem dJ4_addFirst_29 : decode cJ4_addFirst 29 = .ok (.putfield 24, 3) := dk_181 0 24 (dk_at dksJ4_addFirst_1 5 rfl rfl)
theorem dJ4_addFirst_32 : decode cJ4_addFirst 32 = .ok (.aload_n 1, 1) := dk_43 (dk_at dksJ4_addFirst_1 8 rfl rfl)
theorem dJ4_addFirst_33 : decode cJ4_addFirst 33 = .ok (.aastore, 1) := dk_83 (dk_at dksJ4_addFirst_1 9 rfl rfl)
theorem dJ4_addFirst_34 : decode cJ4_addFirst 34 = .ok (.aload_n 0, 1) := dk_42 (dk_at dksJ4_addFirst_1 10 rfl rfl)
theorem dJ4_addFirst_35 : decode cJ4_addFirst 35 = .ok (.getfield 24, 3) := dk_180 0 24 (dk_at dksJ4_addFirst_1 11 rfl rfl)
theorem dJ4_addFirst_38 : decode cJ4_addFirst 38 = .ok (.aload_n 0, 1) := dk_42 (dk_at dksJ4_addFirst_1 14 rfl rfl)
theorem dJ4_addFirst_39 : decode cJ4_addFirst 39 = .ok (.getfield 20, 3) := dk_180 0 20 (dk_at dksJ4_addFirst_1 15 rfl rfl)
theorem dJ4_addFirst_42 : decode cJ4_addFirst 42 = .ok (.if_icmp .ne 8, 3) := dk_160 0 8 (dk_at dksJ4_addFirst_1 18 rfl rfl)
theorem dJ4_addFirst_45 : decode cJ4_addFirst 45 = .ok (.aload_n 0, 1) := dk_42 (dk_at dksJ4_addFirst_1 21 rfl rfl)
theorem dJ4_addFirst_46 : decode cJ4_addFirst 46 = .ok (.iconst 1, 1) := dk_4 (dk_at dksJ4_addFirst_1 22 rfl rfl)
theorem dJ4_addFirst_47 : decode cJ4_addFirst 47 = .ok (.invokevirtual 71, 3) := dk_182 0 71 (dk_at dksJ4_addFirst_2 0 rfl rfl)
theorem dJ4_addFirst_50 : decode cJ4_addFirst 50 = .ok (.return_, 1) := dk_177 (dk_at dksJ4_addFirst_2 3 rfl rfl)
abbrev cJ4_grow : ByteArray := prog_50_method_1_code
def yJ4_grow : MethodName := ⟨RJ4, "grow", "(I)V"⟩
def dkwJ4_grow_7 : List UInt8 := [177]
abbrev dktJ4_grow_7 : List UInt8 := dkwJ4_grow_7 ++ []
def dkwJ4_grow_6 : List UInt8 := [181, 0, 24, 54, 8, 21, 7, 21, 8, 162, 0, 15, 25, 5, 21, 7, 1, 83, 132, 7, 1, 167, 255, 240]
abbrev dktJ4_grow_6 : List UInt8 := dkwJ4_grow_6 ++ dktJ4_grow_7
def dkwJ4_grow_5 : List UInt8 := [42, 180, 0, 24, 100, 184, 0, 27, 42, 180, 0, 24, 54, 7, 42, 89, 180, 0, 24, 21, 6, 96, 90]
abbrev dktJ4_grow_5 : List UInt8 := dkwJ4_grow_5 ++ dktJ4_grow_6
def dkwJ4_grow_4 : List UInt8 := [198, 0, 71, 29, 28, 100, 54, 6, 25, 5, 42, 180, 0, 24, 25, 5, 42, 180, 0, 24, 21, 6, 96, 28]
abbrev dktJ4_grow_4 : List UInt8 := dkwJ4_grow_4 ++ dktJ4_grow_5
def dkwJ4_grow_3 : List UInt8 := [180, 0, 24, 161, 0, 24, 42, 180, 0, 20, 42, 180, 0, 24, 160, 0, 81, 25, 5, 42, 180, 0, 24, 50]
abbrev dktJ4_grow_3 : List UInt8 := dkwJ4_grow_3 ++ dktJ4_grow_4
def dkwJ4_grow_2 : List UInt8 := [182, 0, 10, 62, 42, 42, 180, 0, 3, 29, 184, 0, 14, 90, 181, 0, 3, 58, 5, 42, 180, 0, 20, 42]
abbrev dktJ4_grow_2 : List UInt8 := dkwJ4_grow_2 ++ dktJ4_grow_3
def dkwJ4_grow_1 : List UInt8 := [21, 4, 27, 161, 0, 15, 28, 21, 4, 96, 89, 62, 18, 9, 100, 158, 0, 11, 42, 27, 21, 4]
abbrev dktJ4_grow_1 : List UInt8 := dkwJ4_grow_1 ++ dktJ4_grow_2
def dkwJ4_grow_0 : List UInt8 := [42, 180, 0, 3, 190, 61, 28, 16, 64, 162, 0, 9, 28, 5, 96, 167, 0, 6, 28, 4, 122, 54, 4]
abbrev dktJ4_grow_0 : List UInt8 := dkwJ4_grow_0 ++ dktJ4_grow_1
theorem dksJ4_grow_0 : cJ4_grow.data.toList.drop 0 = dktJ4_grow_0 := by decide +kernel
theorem dksJ4_grow_1 : cJ4_grow.data.toList.drop 23 = dktJ4_grow_1 := dk_seg dksJ4_grow_0 23 rfl rfl
theorem dksJ4_grow_2 : cJ4_grow.data.toList.drop 45 = dktJ4_grow_2 := dk_seg dksJ4_grow_1 22 rfl rfl
theorem dksJ4_grow_3 : cJ4_grow.data.toList.drop 69 = dktJ4_grow_3 := dk_seg dksJ4_grow_2 24 rfl rfl
theorem dksJ4_grow_4 : cJ4_grow.data.toList.drop 93 = dktJ4_grow_4 := dk_seg dksJ4_grow_3 24 rfl rfl
theorem dksJ4_grow_5 : cJ4_grow.data.toList.drop 117 = dktJ4_grow_5 := dk_seg dksJ4_grow_4 24 rfl rfl
theorem dksJ4_grow_6 : cJ4_grow.data.toList.drop 140 = dktJ4_grow_6 := dk_seg dksJ4_grow_5 23 rfl rfl
theorem dksJ4_grow_7 : cJ4_grow.data.toList.drop 164 = dktJ4_grow_7 := dk_seg dksJ4_grow_6 24 rfl rfl
theorem dJ4_grow_0 : decode cJ4_grow 0 = .ok (.aload_n 0, 1) := dk_42 (dk_at dksJ4_grow_0 0 rfl rfl)
theorem dJ4_grow_1 : decode cJ4_grow 1 = .ok (.getfield 3, 3) := dk_180 0 3 (dk_at dksJ4_grow_0 1 rfl rfl)
theorem dJ4_grow_4 : decode cJ4_grow 4 = .ok (.arraylength, 1) := dk_190 (dk_at dksJ4_grow_0 4 rfl rfl)
theorem dJ4_grow_5 : decode cJ4_grow 5 = .ok (.istore_n 2, 1) := dk_61 (dk_at dksJ4_grow_0 5 rfl rfl)
theorem dJ4_grow_6 : decode cJ4_grow 6 = .ok (.iload_n 2, 1) := dk_28 (dk_at dksJ4_grow_0 6 rfl rfl)
theorem dJ4_grow_7 : decode cJ4_grow 7 = .ok (.bipush 64, 2) := dk_16 64 (dk_at dksJ4_grow_0 7 rfl rfl)
theorem dJ4_grow_9 : decode cJ4_grow 9 = .ok (.if_icmp .ge 9, 3) := dk_162 0 9 (dk_at dksJ4_grow_0 9 rfl rfl)
theorem dJ4_grow_12 : decode cJ4_grow 12 = .ok (.iload_n 2, 1) := dk_28 (dk_at dksJ4_grow_0 12 rfl rfl)
theorem dJ4_grow_13 : decode cJ4_grow 13 = .ok (.iconst 2, 1) := dk_5 (dk_at dksJ4_grow_0 13 rfl rfl)
theorem dJ4_grow_14 : decode cJ4_grow 14 = .ok (.iadd, 1) := dk_96 (dk_at dksJ4_grow_0 14 rfl rfl)
theorem dJ4_grow_15 : decode cJ4_grow 15 = .ok (.goto 6, 3) := dk_167 0 6 (dk_at dksJ4_grow_0 15 rfl rfl)
theorem dJ4_grow_18 : decode cJ4_grow 18 = .ok (.iload_n 2, 1) := dk_28 (dk_at dksJ4_grow_0 18 rfl rfl)
theorem dJ4_grow_19 : decode cJ4_grow 19 = .ok (.iconst 1, 1) := dk_4 (dk_at dksJ4_grow_0 19 rfl rfl)
theorem dJ4_grow_20 : decode cJ4_grow 20 = .ok (.ishr, 1) := dk_122 (dk_at dksJ4_grow_0 20 rfl rfl)
theorem dJ4_grow_21 : decode cJ4_grow 21 = .ok (.istore 4, 2) := dk_54 4 (dk_at dksJ4_grow_0 21 rfl rfl)
theorem dJ4_grow_23 : decode cJ4_grow 23 = .ok (.iload 4, 2) := dk_21 4 (dk_at dksJ4_grow_1 0 rfl rfl)
theorem dJ4_grow_25 : decode cJ4_grow 25 = .ok (.iload_n 1, 1) := dk_27 (dk_at dksJ4_grow_1 2 rfl rfl)
theorem dJ4_grow_26 : decode cJ4_grow 26 = .ok (.if_icmp .lt 15, 3) := dk_161 0 15 (dk_at dksJ4_grow_1 3 rfl rfl)
theorem dJ4_grow_29 : decode cJ4_grow 29 = .ok (.iload_n 2, 1) := dk_28 (dk_at dksJ4_grow_1 6 rfl rfl)
theorem dJ4_grow_30 : decode cJ4_grow 30 = .ok (.iload 4, 2) := dk_21 4 (dk_at dksJ4_grow_1 7 rfl rfl)
theorem dJ4_grow_32 : decode cJ4_grow 32 = .ok (.iadd, 1) := dk_96 (dk_at dksJ4_grow_1 9 rfl rfl)
theorem dJ4_grow_33 : decode cJ4_grow 33 = .ok (.dup, 1) := dk_89 (dk_at dksJ4_grow_1 10 rfl rfl)
theorem dJ4_grow_34 : decode cJ4_grow 34 = .ok (.istore_n 3, 1) := dk_62 (dk_at dksJ4_grow_1 11 rfl rfl)
theorem dJ4_grow_35 : decode cJ4_grow 35 = .ok (.ldc 9, 2) := dk_18 9 (dk_at dksJ4_grow_1 12 rfl rfl)
theorem dJ4_grow_37 : decode cJ4_grow 37 = .ok (.isub, 1) := dk_100 (dk_at dksJ4_grow_1 14 rfl rfl)
theorem dJ4_grow_38 : decode cJ4_grow 38 = .ok (.ifCond .le 11, 3) := dk_158 0 11 (dk_at dksJ4_grow_1 15 rfl rfl)
theorem dJ4_grow_41 : decode cJ4_grow 41 = .ok (.aload_n 0, 1) := dk_42 (dk_at dksJ4_grow_1 18 rfl rfl)
theorem dJ4_grow_42 : decode cJ4_grow 42 = .ok (.iload_n 1, 1) := dk_27 (dk_at dksJ4_grow_1 19 rfl rfl)
theorem dJ4_grow_43 : decode cJ4_grow 43 = .ok (.iload 4, 2) := dk_21 4 (dk_at dksJ4_grow_1 20 rfl rfl)
theorem dJ4_grow_45 : decode cJ4_grow 45 = .ok (.invokevirtual 10, 3) := dk_182 0 10 (dk_at dksJ4_grow_2 0 rfl rfl)
theorem dJ4_grow_48 : decode cJ4_grow 48 = .ok (.istore_n 3, 1) := dk_62 (dk_at dksJ4_grow_2 3 rfl rfl)
theorem dJ4_grow_49 : decode cJ4_grow 49 = .ok (.aload_n 0, 1) := dk_42 (dk_at dksJ4_grow_2 4 rfl rfl)
theorem dJ4_grow_50 : decode cJ4_grow 50 = .ok (.aload_n 0, 1) := dk_42 (dk_at dksJ4_grow_2 5 rfl rfl)
theorem dJ4_grow_51 : decode cJ4_grow 51 = .ok (.getfield 3, 3) := dk_180 0 3 (dk_at dksJ4_grow_2 6 rfl rfl)
theorem dJ4_grow_54 : decode cJ4_grow 54 = .ok (.iload_n 3, 1) := dk_29 (dk_at dksJ4_grow_2 9 rfl rfl)
theorem dJ4_grow_55 : decode cJ4_grow 55 = .ok (.invokestatic 14, 3) := dk_184 0 14 (dk_at dksJ4_grow_2 10 rfl rfl)
theorem dJ4_grow_58 : decode cJ4_grow 58 = .ok (.dup_x1, 1) := dk_90 (dk_at dksJ4_grow_2 13 rfl rfl)
theorem dJ4_grow_59 : decode cJ4_grow 59 = .ok (.putfield 3, 3) := dk_181 0 3 (dk_at dksJ4_grow_2 14 rfl rfl)
theorem dJ4_grow_62 : decode cJ4_grow 62 = .ok (.astore 5, 2) := dk_58 5 (dk_at dksJ4_grow_2 17 rfl rfl)
theorem dJ4_grow_64 : decode cJ4_grow 64 = .ok (.aload_n 0, 1) := dk_42 (dk_at dksJ4_grow_2 19 rfl rfl)
theorem dJ4_grow_65 : decode cJ4_grow 65 = .ok (.getfield 20, 3) := dk_180 0 20 (dk_at dksJ4_grow_2 20 rfl rfl)
theorem dJ4_grow_68 : decode cJ4_grow 68 = .ok (.aload_n 0, 1) := dk_42 (dk_at dksJ4_grow_2 23 rfl rfl)
theorem dJ4_grow_69 : decode cJ4_grow 69 = .ok (.getfield 24, 3) := dk_180 0 24 (dk_at dksJ4_grow_3 0 rfl rfl)
theorem dJ4_grow_72 : decode cJ4_grow 72 = .ok (.if_icmp .lt 24, 3) := dk_161 0 24 (dk_at dksJ4_grow_3 3 rfl rfl)
theorem dJ4_grow_75 : decode cJ4_grow 75 = .ok (.aload_n 0, 1) := dk_42 (dk_at dksJ4_grow_3 6 rfl rfl)
theorem dJ4_grow_76 : decode cJ4_grow 76 = .ok (.getfield 20, 3) := dk_180 0 20 (dk_at dksJ4_grow_3 7 rfl rfl)
theorem dJ4_grow_79 : decode cJ4_grow 79 = .ok (.aload_n 0, 1) := dk_42 (dk_at dksJ4_grow_3 10 rfl rfl)
theorem dJ4_grow_80 : decode cJ4_grow 80 = .ok (.getfield 24, 3) := dk_180 0 24 (dk_at dksJ4_grow_3 11 rfl rfl)
theorem dJ4_grow_83 : decode cJ4_grow 83 = .ok (.if_icmp .ne 81, 3) := dk_160 0 81 (dk_at dksJ4_grow_3 14 rfl rfl)
theorem dJ4_grow_86 : decode cJ4_grow 86 = .ok (.aload 5, 2) := dk_25 5 (dk_at dksJ4_grow_3 17 rfl rfl)
theorem dJ4_grow_88 : decode cJ4_grow 88 = .ok (.aload_n 0, 1) := dk_42 (dk_at dksJ4_grow_3 19 rfl rfl)
theorem dJ4_grow_89 : decode cJ4_grow 89 = .ok (.getfield 24, 3) := dk_180 0 24 (dk_at dksJ4_grow_3 20 rfl rfl)
theorem dJ4_grow_92 : decode cJ4_grow 92 = .ok (.aaload, 1) := dk_50 (dk_at dksJ4_grow_3 23 rfl rfl)
theorem dJ4_grow_93 : decode cJ4_grow 93 = .ok (.ifnull 71, 3) := dk_198 0 71 (dk_at dksJ4_grow_4 0 rfl rfl)
theorem dJ4_grow_96 : decode cJ4_grow 96 = .ok (.iload_n 3, 1) := dk_29 (dk_at dksJ4_grow_4 3 rfl rfl)
theorem dJ4_grow_97 : decode cJ4_grow 97 = .ok (.iload_n 2, 1) := dk_28 (dk_at dksJ4_grow_4 4 rfl rfl)
theorem dJ4_grow_98 : decode cJ4_grow 98 = .ok (.isub, 1) := dk_100 (dk_at dksJ4_grow_4 5 rfl rfl)
theorem dJ4_grow_99 : decode cJ4_grow 99 = .ok (.istore 6, 2) := dk_54 6 (dk_at dksJ4_grow_4 6 rfl rfl)
theorem dJ4_grow_101 : decode cJ4_grow 101 = .ok (.aload 5, 2) := dk_25 5 (dk_at dksJ4_grow_4 8 rfl rfl)
theorem dJ4_grow_103 : decode cJ4_grow 103 = .ok (.aload_n 0, 1) := dk_42 (dk_at dksJ4_grow_4 10 rfl rfl)
theorem dJ4_grow_104 : decode cJ4_grow 104 = .ok (.getfield 24, 3) := dk_180 0 24 (dk_at dksJ4_grow_4 11 rfl rfl)
theorem dJ4_grow_107 : decode cJ4_grow 107 = .ok (.aload 5, 2) := dk_25 5 (dk_at dksJ4_grow_4 14 rfl rfl)
theorem dJ4_grow_109 : decode cJ4_grow 109 = .ok (.aload_n 0, 1) := dk_42 (dk_at dksJ4_grow_4 16 rfl rfl)
theorem dJ4_grow_110 : decode cJ4_grow 110 = .ok (.getfield 24, 3) := dk_180 0 24 (dk_at dksJ4_grow_4 17 rfl rfl)
theorem dJ4_grow_113 : decode cJ4_grow 113 = .ok (.iload 6, 2) := dk_21 6 (dk_at dksJ4_grow_4 20 rfl rfl)
theorem dJ4_grow_115 : decode cJ4_grow 115 = .ok (.iadd, 1) := dk_96 (dk_at dksJ4_grow_4 22 rfl rfl)
theorem dJ4_grow_116 : decode cJ4_grow 116 = .ok (.iload_n 2, 1) := dk_28 (dk_at dksJ4_grow_4 23 rfl rfl)
theorem dJ4_grow_117 : decode cJ4_grow 117 = .ok (.aload_n 0, 1) := dk_42 (dk_at dksJ4_grow_5 0 rfl rfl)
theorem dJ4_grow_118 : decode cJ4_grow 118 = .ok (.getfield 24, 3) := dk_180 0 24 (dk_at dksJ4_grow_5 1 rfl rfl)
theorem dJ4_grow_121 : decode cJ4_grow 121 = .ok (.isub, 1) := dk_100 (dk_at dksJ4_grow_5 4 rfl rfl)
theorem dJ4_grow_122 : decode cJ4_grow 122 = .ok (.invokestatic 27, 3) := dk_184 0 27 (dk_at dksJ4_grow_5 5 rfl rfl)
theorem dJ4_grow_125 : decode cJ4_grow 125 = .ok (.aload_n 0, 1) := dk_42 (dk_at dksJ4_grow_5 8 rfl rfl)
theorem dJ4_grow_126 : decode cJ4_grow 126 = .ok (.getfield 24, 3) := dk_180 0 24 (dk_at dksJ4_grow_5 9 rfl rfl)
theorem dJ4_grow_129 : decode cJ4_grow 129 = .ok (.istore 7, 2) := dk_54 7 (dk_at dksJ4_grow_5 12 rfl rfl)
theorem dJ4_grow_131 : decode cJ4_grow 131 = .ok (.aload_n 0, 1) := dk_42 (dk_at dksJ4_grow_5 14 rfl rfl)
theorem dJ4_grow_132 : decode cJ4_grow 132 = .ok (.dup, 1) := dk_89 (dk_at dksJ4_grow_5 15 rfl rfl)
theorem dJ4_grow_133 : decode cJ4_grow 133 = .ok (.getfield 24, 3) := dk_180 0 24 (dk_at dksJ4_grow_5 16 rfl rfl)
theorem dJ4_grow_136 : decode cJ4_grow 136 = .ok (.iload 6, 2) := dk_21 6 (dk_at dksJ4_grow_5 19 rfl rfl)
theorem dJ4_grow_138 : decode cJ4_grow 138 = .ok (.iadd, 1) := dk_96 (dk_at dksJ4_grow_5 21 rfl rfl)
theorem dJ4_grow_139 : decode cJ4_grow 139 = .ok (.dup_x1, 1) := dk_90 (dk_at dksJ4_grow_5 22 rfl rfl)
theorem dJ4_grow_140 : decode cJ4_grow 140 = .ok (.putfield 24, 3) := dk_181 0 24 (dk_at dksJ4_grow_6 0 rfl rfl)
theorem dJ4_grow_143 : decode cJ4_grow 143 = .ok (.istore 8, 2) := dk_54 8 (dk_at dksJ4_grow_6 3 rfl rfl)
theorem dJ4_grow_145 : decode cJ4_grow 145 = .ok (.iload 7, 2) := dk_21 7 (dk_at dksJ4_grow_6 5 rfl rfl)
theorem dJ4_grow_147 : decode cJ4_grow 147 = .ok (.iload 8, 2) := dk_21 8 (dk_at dksJ4_grow_6 7 rfl rfl)
theorem dJ4_grow_149 : decode cJ4_grow 149 = .ok (.if_icmp .ge 15, 3) := dk_162 0 15 (dk_at dksJ4_grow_6 9 rfl rfl)
theorem dJ4_grow_152 : decode cJ4_grow 152 = .ok (.aload 5, 2) := dk_25 5 (dk_at dksJ4_grow_6 12 rfl rfl)
theorem dJ4_grow_154 : decode cJ4_grow 154 = .ok (.iload 7, 2) := dk_21 7 (dk_at dksJ4_grow_6 14 rfl rfl)
theorem dJ4_grow_156 : decode cJ4_grow 156 = .ok (.aconst_null, 1) := dk_1 (dk_at dksJ4_grow_6 16 rfl rfl)
theorem dJ4_grow_157 : decode cJ4_grow 157 = .ok (.aastore, 1) := dk_83 (dk_at dksJ4_grow_6 17 rfl rfl)
theorem dJ4_grow_158 : decode cJ4_grow 158 = .ok (.iinc 7 1, 3) := dk_132 7 1 (dk_at dksJ4_grow_6 18 rfl rfl)
theorem dJ4_grow_161 : decode cJ4_grow 161 = .ok (.goto (-16), 3) := dk_167 255 240 (dk_at dksJ4_grow_6 21 rfl rfl)
theorem dJ4_grow_164 : decode cJ4_grow 164 = .ok (.return_, 1) := dk_177 (dk_at dksJ4_grow_7 0 rfl rfl)
abbrev cJ4_newCapacity : ByteArray := prog_50_method_2_code
def yJ4_newCapacity : MethodName := ⟨RJ4, "newCapacity", "(II)I"⟩
def dkwJ4_newCapacity_2 : List UInt8 := [18, 9, 100, 156, 0, 9, 29, 28, 96, 167, 0, 5, 18, 9, 172]
abbrev dktJ4_newCapacity_2 : List UInt8 := dkwJ4_newCapacity_2 ++ []
def dkwJ4_newCapacity_1 : List UInt8 := [187, 0, 33, 89, 18, 35, 183, 0, 37, 191, 18, 41, 172, 27, 28, 164, 0, 6, 21, 4, 172, 29, 28, 96]
abbrev dktJ4_newCapacity_1 : List UInt8 := dkwJ4_newCapacity_1 ++ dktJ4_newCapacity_2
def dkwJ4_newCapacity_0 : List UInt8 := [42, 180, 0, 3, 190, 62, 29, 27, 96, 89, 54, 4, 18, 9, 100, 158, 0, 21, 21, 4, 156, 0, 13]
abbrev dktJ4_newCapacity_0 : List UInt8 := dkwJ4_newCapacity_0 ++ dktJ4_newCapacity_1
theorem dksJ4_newCapacity_0 : cJ4_newCapacity.data.toList.drop 0 = dktJ4_newCapacity_0 := by decide +kernel
theorem dksJ4_newCapacity_1 : cJ4_newCapacity.data.toList.drop 23 = dktJ4_newCapacity_1 := dk_seg dksJ4_newCapacity_0 23 rfl rfl
theorem dksJ4_newCapacity_2 : cJ4_newCapacity.data.toList.drop 47 = dktJ4_newCapacity_2 := dk_seg dksJ4_newCapacity_1 24 rfl rfl
theorem dJ4_newCapacity_0 : decode cJ4_newCapacity 0 = .ok (.aload_n 0, 1) := dk_42 (dk_at dksJ4_newCapacity_0 0 rfl rfl)
theorem dJ4_newCapacity_1 : decode cJ4_newCapacity 1 = .ok (.getfield 3, 3) := dk_180 0 3 (dk_at dksJ4_newCapacity_0 1 rfl rfl)
theorem dJ4_newCapacity_4 : decode cJ4_newCapacity 4 = .ok (.arraylength, 1) := dk_190 (dk_at dksJ4_newCapacity_0 4 rfl rfl)
theorem dJ4_newCapacity_5 : decode cJ4_newCapacity 5 = .ok (.istore_n 3, 1) := dk_62 (dk_at dksJ4_newCapacity_0 5 rfl rfl)
theorem dJ4_newCapacity_6 : decode cJ4_newCapacity 6 = .ok (.iload_n 3, 1) := dk_29 (dk_at dksJ4_newCapacity_0 6 rfl rfl)
theorem dJ4_newCapacity_7 : decode cJ4_newCapacity 7 = .ok (.iload_n 1, 1) := dk_27 (dk_at dksJ4_newCapacity_0 7 rfl rfl)
theorem dJ4_newCapacity_8 : decode cJ4_newCapacity 8 = .ok (.iadd, 1) := dk_96 (dk_at dksJ4_newCapacity_0 8 rfl rfl)
theorem dJ4_newCapacity_9 : decode cJ4_newCapacity 9 = .ok (.dup, 1) := dk_89 (dk_at dksJ4_newCapacity_0 9 rfl rfl)
theorem dJ4_newCapacity_10 : decode cJ4_newCapacity 10 = .ok (.istore 4, 2) := dk_54 4 (dk_at dksJ4_newCapacity_0 10 rfl rfl)
theorem dJ4_newCapacity_12 : decode cJ4_newCapacity 12 = .ok (.ldc 9, 2) := dk_18 9 (dk_at dksJ4_newCapacity_0 12 rfl rfl)
theorem dJ4_newCapacity_14 : decode cJ4_newCapacity 14 = .ok (.isub, 1) := dk_100 (dk_at dksJ4_newCapacity_0 14 rfl rfl)
theorem dJ4_newCapacity_15 : decode cJ4_newCapacity 15 = .ok (.ifCond .le 21, 3) := dk_158 0 21 (dk_at dksJ4_newCapacity_0 15 rfl rfl)
theorem dJ4_newCapacity_18 : decode cJ4_newCapacity 18 = .ok (.iload 4, 2) := dk_21 4 (dk_at dksJ4_newCapacity_0 18 rfl rfl)
theorem dJ4_newCapacity_20 : decode cJ4_newCapacity 20 = .ok (.ifCond .ge 13, 3) := dk_156 0 13 (dk_at dksJ4_newCapacity_0 20 rfl rfl)
theorem dJ4_newCapacity_23 : decode cJ4_newCapacity 23 = .ok (.new 33, 3) := dk_187 0 33 (dk_at dksJ4_newCapacity_1 0 rfl rfl)
theorem dJ4_newCapacity_26 : decode cJ4_newCapacity 26 = .ok (.dup, 1) := dk_89 (dk_at dksJ4_newCapacity_1 3 rfl rfl)
theorem dJ4_newCapacity_27 : decode cJ4_newCapacity 27 = .ok (.ldc 35, 2) := dk_18 35 (dk_at dksJ4_newCapacity_1 4 rfl rfl)
theorem dJ4_newCapacity_29 : decode cJ4_newCapacity 29 = .ok (.invokespecial 37, 3) := dk_183 0 37 (dk_at dksJ4_newCapacity_1 6 rfl rfl)
theorem dJ4_newCapacity_32 : decode cJ4_newCapacity 32 = .ok (.athrow, 1) := dk_191 (dk_at dksJ4_newCapacity_1 9 rfl rfl)
theorem dJ4_newCapacity_33 : decode cJ4_newCapacity 33 = .ok (.ldc 41, 2) := dk_18 41 (dk_at dksJ4_newCapacity_1 10 rfl rfl)
theorem dJ4_newCapacity_35 : decode cJ4_newCapacity 35 = .ok (.ireturn, 1) := dk_172 (dk_at dksJ4_newCapacity_1 12 rfl rfl)
theorem dJ4_newCapacity_36 : decode cJ4_newCapacity 36 = .ok (.iload_n 1, 1) := dk_27 (dk_at dksJ4_newCapacity_1 13 rfl rfl)
theorem dJ4_newCapacity_37 : decode cJ4_newCapacity 37 = .ok (.iload_n 2, 1) := dk_28 (dk_at dksJ4_newCapacity_1 14 rfl rfl)
theorem dJ4_newCapacity_38 : decode cJ4_newCapacity 38 = .ok (.if_icmp .le 6, 3) := dk_164 0 6 (dk_at dksJ4_newCapacity_1 15 rfl rfl)
theorem dJ4_newCapacity_41 : decode cJ4_newCapacity 41 = .ok (.iload 4, 2) := dk_21 4 (dk_at dksJ4_newCapacity_1 18 rfl rfl)
theorem dJ4_newCapacity_43 : decode cJ4_newCapacity 43 = .ok (.ireturn, 1) := dk_172 (dk_at dksJ4_newCapacity_1 20 rfl rfl)
theorem dJ4_newCapacity_44 : decode cJ4_newCapacity 44 = .ok (.iload_n 3, 1) := dk_29 (dk_at dksJ4_newCapacity_1 21 rfl rfl)
theorem dJ4_newCapacity_45 : decode cJ4_newCapacity 45 = .ok (.iload_n 2, 1) := dk_28 (dk_at dksJ4_newCapacity_1 22 rfl rfl)
theorem dJ4_newCapacity_46 : decode cJ4_newCapacity 46 = .ok (.iadd, 1) := dk_96 (dk_at dksJ4_newCapacity_1 23 rfl rfl)
theorem dJ4_newCapacity_47 : decode cJ4_newCapacity 47 = .ok (.ldc 9, 2) := dk_18 9 (dk_at dksJ4_newCapacity_2 0 rfl rfl)
theorem dJ4_newCapacity_49 : decode cJ4_newCapacity 49 = .ok (.isub, 1) := dk_100 (dk_at dksJ4_newCapacity_2 2 rfl rfl)
theorem dJ4_newCapacity_50 : decode cJ4_newCapacity 50 = .ok (.ifCond .ge 9, 3) := dk_156 0 9 (dk_at dksJ4_newCapacity_2 3 rfl rfl)
theorem dJ4_newCapacity_53 : decode cJ4_newCapacity 53 = .ok (.iload_n 3, 1) := dk_29 (dk_at dksJ4_newCapacity_2 6 rfl rfl)
theorem dJ4_newCapacity_54 : decode cJ4_newCapacity 54 = .ok (.iload_n 2, 1) := dk_28 (dk_at dksJ4_newCapacity_2 7 rfl rfl)
theorem dJ4_newCapacity_55 : decode cJ4_newCapacity 55 = .ok (.iadd, 1) := dk_96 (dk_at dksJ4_newCapacity_2 8 rfl rfl)
theorem dJ4_newCapacity_56 : decode cJ4_newCapacity 56 = .ok (.goto 5, 3) := dk_167 0 5 (dk_at dksJ4_newCapacity_2 9 rfl rfl)
theorem dJ4_newCapacity_59 : decode cJ4_newCapacity 59 = .ok (.ldc 9, 2) := dk_18 9 (dk_at dksJ4_newCapacity_2 12 rfl rfl)
theorem dJ4_newCapacity_61 : decode cJ4_newCapacity 61 = .ok (.ireturn, 1) := dk_172 (dk_at dksJ4_newCapacity_2 14 rfl rfl)
abbrev cJ4_size : ByteArray := prog_50_method_37_code
def yJ4_size : MethodName := ⟨RJ4, "size", "()I"⟩
def dkwJ4_size_0 : List UInt8 := [42, 180, 0, 20, 42, 180, 0, 24, 42, 180, 0, 3, 190, 184, 0, 127, 172]
abbrev dktJ4_size_0 : List UInt8 := dkwJ4_size_0 ++ []
theorem dksJ4_size_0 : cJ4_size.data.toList.drop 0 = dktJ4_size_0 := by decide +kernel
theorem dJ4_size_0 : decode cJ4_size 0 = .ok (.aload_n 0, 1) := dk_42 (dk_at dksJ4_size_0 0 rfl rfl)
theorem dJ4_size_1 : decode cJ4_size 1 = .ok (.getfield 20, 3) := dk_180 0 20 (dk_at dksJ4_size_0 1 rfl rfl)
theorem dJ4_size_4 : decode cJ4_size 4 = .ok (.aload_n 0, 1) := dk_42 (dk_at dksJ4_size_0 4 rfl rfl)
theorem dJ4_size_5 : decode cJ4_size 5 = .ok (.getfield 24, 3) := dk_180 0 24 (dk_at dksJ4_size_0 5 rfl rfl)
theorem dJ4_size_8 : decode cJ4_size 8 = .ok (.aload_n 0, 1) := dk_42 (dk_at dksJ4_size_0 8 rfl rfl)
theorem dJ4_size_9 : decode cJ4_size 9 = .ok (.getfield 3, 3) := dk_180 0 3 (dk_at dksJ4_size_0 9 rfl rfl)
theorem dJ4_size_12 : decode cJ4_size 12 = .ok (.arraylength, 1) := dk_190 (dk_at dksJ4_size_0 12 rfl rfl)
theorem dJ4_size_13 : decode cJ4_size 13 = .ok (.invokestatic 127, 3) := dk_184 0 127 (dk_at dksJ4_size_0 13 rfl rfl)
theorem dJ4_size_16 : decode cJ4_size 16 = .ok (.ireturn, 1) := dk_172 (dk_at dksJ4_size_0 16 rfl rfl)
abbrev cJ4_pollLast : ByteArray := prog_50_method_21_code
def yJ4_pollLast : MethodName := ⟨RJ4, "pollLast", "()Ljava/lang/Object;"⟩
def dkwJ4_pollLast_1 : List UInt8 := [198, 0, 12, 43, 42, 28, 90, 181, 0, 20, 1, 83, 45, 176]
abbrev dktJ4_pollLast_1 : List UInt8 := dkwJ4_pollLast_1 ++ []
def dkwJ4_pollLast_0 : List UInt8 := [42, 180, 0, 3, 89, 76, 42, 180, 0, 20, 43, 190, 184, 0, 68, 89, 61, 184, 0, 103, 78, 45]
abbrev dktJ4_pollLast_0 : List UInt8 := dkwJ4_pollLast_0 ++ dktJ4_pollLast_1
theorem dksJ4_pollLast_0 : cJ4_pollLast.data.toList.drop 0 = dktJ4_pollLast_0 := by decide +kernel
theorem dksJ4_pollLast_1 : cJ4_pollLast.data.toList.drop 22 = dktJ4_pollLast_1 := dk_seg dksJ4_pollLast_0 22 rfl rfl
theorem dJ4_pollLast_0 : decode cJ4_pollLast 0 = .ok (.aload_n 0, 1) := dk_42 (dk_at dksJ4_pollLast_0 0 rfl rfl)
theorem dJ4_pollLast_1 : decode cJ4_pollLast 1 = .ok (.getfield 3, 3) := dk_180 0 3 (dk_at dksJ4_pollLast_0 1 rfl rfl)
theorem dJ4_pollLast_4 : decode cJ4_pollLast 4 = .ok (.dup, 1) := dk_89 (dk_at dksJ4_pollLast_0 4 rfl rfl)
theorem dJ4_pollLast_5 : decode cJ4_pollLast 5 = .ok (.astore_n 1, 1) := dk_76 (dk_at dksJ4_pollLast_0 5 rfl rfl)
theorem dJ4_pollLast_6 : decode cJ4_pollLast 6 = .ok (.aload_n 0, 1) := dk_42 (dk_at dksJ4_pollLast_0 6 rfl rfl)
theorem dJ4_pollLast_7 : decode cJ4_pollLast 7 = .ok (.getfield 20, 3) := dk_180 0 20 (dk_at dksJ4_pollLast_0 7 rfl rfl)
theorem dJ4_pollLast_10 : decode cJ4_pollLast 10 = .ok (.aload_n 1, 1) := dk_43 (dk_at dksJ4_pollLast_0 10 rfl rfl)
theorem dJ4_pollLast_11 : decode cJ4_pollLast 11 = .ok (.arraylength, 1) := dk_190 (dk_at dksJ4_pollLast_0 11 rfl rfl)
theorem dJ4_pollLast_12 : decode cJ4_pollLast 12 = .ok (.invokestatic 68, 3) := dk_184 0 68 (dk_at dksJ4_pollLast_0 12 rfl rfl)
theorem dJ4_pollLast_15 : decode cJ4_pollLast 15 = .ok (.dup, 1) := dk_89 (dk_at dksJ4_pollLast_0 15 rfl rfl)
theorem dJ4_pollLast_16 : decode cJ4_pollLast 16 = .ok (.istore_n 2, 1) := dk_61 (dk_at dksJ4_pollLast_0 16 rfl rfl)
theorem dJ4_pollLast_17 : decode cJ4_pollLast 17 = .ok (.invokestatic 103, 3) := dk_184 0 103 (dk_at dksJ4_pollLast_0 17 rfl rfl)
theorem dJ4_pollLast_20 : decode cJ4_pollLast 20 = .ok (.astore_n 3, 1) := dk_78 (dk_at dksJ4_pollLast_0 20 rfl rfl)
theorem dJ4_pollLast_21 : decode cJ4_pollLast 21 = .ok (.aload_n 3, 1) := dk_45 (dk_at dksJ4_pollLast_0 21 rfl rfl)
theorem dJ4_pollLast_22 : decode cJ4_pollLast 22 = .ok (.ifnull 12, 3) := dk_198 0 12 (dk_at dksJ4_pollLast_1 0 rfl rfl)
theorem dJ4_pollLast_25 : decode cJ4_pollLast 25 = .ok (.aload_n 1, 1) := dk_43 (dk_at dksJ4_pollLast_1 3 rfl rfl)
theorem dJ4_pollLast_26 : decode cJ4_pollLast 26 = .ok (.aload_n 0, 1) := dk_42 (dk_at dksJ4_pollLast_1 4 rfl rfl)
theorem dJ4_pollLast_27 : decode cJ4_pollLast 27 = .ok (.iload_n 2, 1) := dk_28 (dk_at dksJ4_pollLast_1 5 rfl rfl)
theorem dJ4_pollLast_28 : decode cJ4_pollLast 28 = .ok (.dup_x1, 1) := dk_90 (dk_at dksJ4_pollLast_1 6 rfl rfl)
theorem dJ4_pollLast_29 : decode cJ4_pollLast 29 = .ok (.putfield 20, 3) := dk_181 0 20 (dk_at dksJ4_pollLast_1 7 rfl rfl)
theorem dJ4_pollLast_32 : decode cJ4_pollLast 32 = .ok (.aconst_null, 1) := dk_1 (dk_at dksJ4_pollLast_1 10 rfl rfl)
theorem dJ4_pollLast_33 : decode cJ4_pollLast 33 = .ok (.aastore, 1) := dk_83 (dk_at dksJ4_pollLast_1 11 rfl rfl)
theorem dJ4_pollLast_34 : decode cJ4_pollLast 34 = .ok (.aload_n 3, 1) := dk_45 (dk_at dksJ4_pollLast_1 12 rfl rfl)
theorem dJ4_pollLast_35 : decode cJ4_pollLast 35 = .ok (.areturn, 1) := dk_176 (dk_at dksJ4_pollLast_1 13 rfl rfl)
abbrev cJ4_elementAt : ByteArray := prog_50_method_10_code
def yJ4_elementAt : MethodName := ⟨RJ4, "elementAt", "([Ljava/lang/Object;I)Ljava/lang/Object;"⟩
def dkwJ4_elementAt_0 : List UInt8 := [42, 27, 50, 176]
abbrev dktJ4_elementAt_0 : List UInt8 := dkwJ4_elementAt_0 ++ []
theorem dksJ4_elementAt_0 : cJ4_elementAt.data.toList.drop 0 = dktJ4_elementAt_0 := by decide +kernel
theorem dJ4_elementAt_0 : decode cJ4_elementAt 0 = .ok (.aload_n 0, 1) := dk_42 (dk_at dksJ4_elementAt_0 0 rfl rfl)
theorem dJ4_elementAt_1 : decode cJ4_elementAt 1 = .ok (.iload_n 1, 1) := dk_27 (dk_at dksJ4_elementAt_0 1 rfl rfl)
theorem dJ4_elementAt_2 : decode cJ4_elementAt 2 = .ok (.aaload, 1) := dk_50 (dk_at dksJ4_elementAt_0 2 rfl rfl)
theorem dJ4_elementAt_3 : decode cJ4_elementAt 3 = .ok (.areturn, 1) := dk_176 (dk_at dksJ4_elementAt_0 3 rfl rfl)
abbrev cJ4_iterator : ByteArray := prog_50_method_39_code
def yJ4_iterator : MethodName := ⟨RJ4, "iterator", "()Ljava/util/Iterator;"⟩
def dkwJ4_iterator_0 : List UInt8 := [187, 0, 131, 89, 42, 183, 0, 133, 176]
abbrev dktJ4_iterator_0 : List UInt8 := dkwJ4_iterator_0 ++ []
theorem dksJ4_iterator_0 : cJ4_iterator.data.toList.drop 0 = dktJ4_iterator_0 := by decide +kernel
theorem dJ4_iterator_0 : decode cJ4_iterator 0 = .ok (.new 131, 3) := dk_187 0 131 (dk_at dksJ4_iterator_0 0 rfl rfl)
theorem dJ4_iterator_3 : decode cJ4_iterator 3 = .ok (.dup, 1) := dk_89 (dk_at dksJ4_iterator_0 3 rfl rfl)
theorem dJ4_iterator_4 : decode cJ4_iterator 4 = .ok (.aload_n 0, 1) := dk_42 (dk_at dksJ4_iterator_0 4 rfl rfl)
theorem dJ4_iterator_5 : decode cJ4_iterator 5 = .ok (.invokespecial 133, 3) := dk_183 0 133 (dk_at dksJ4_iterator_0 5 rfl rfl)
theorem dJ4_iterator_8 : decode cJ4_iterator 8 = .ok (.areturn, 1) := dk_176 (dk_at dksJ4_iterator_0 8 rfl rfl)
abbrev cJ4_clear : ByteArray := prog_50_method_53_code
def yJ4_clear : MethodName := ⟨RJ4, "clear", "()V"⟩
def dkwJ4_clear_1 : List UInt8 := [181, 0, 24, 177]
abbrev dktJ4_clear_1 : List UInt8 := dkwJ4_clear_1 ++ []
def dkwJ4_clear_0 : List UInt8 := [42, 180, 0, 3, 42, 180, 0, 24, 42, 180, 0, 20, 184, 0, 181, 42, 42, 3, 90, 181, 0, 20]
abbrev dktJ4_clear_0 : List UInt8 := dkwJ4_clear_0 ++ dktJ4_clear_1
theorem dksJ4_clear_0 : cJ4_clear.data.toList.drop 0 = dktJ4_clear_0 := by decide +kernel
theorem dksJ4_clear_1 : cJ4_clear.data.toList.drop 22 = dktJ4_clear_1 := dk_seg dksJ4_clear_0 22 rfl rfl
theorem dJ4_clear_0 : decode cJ4_clear 0 = .ok (.aload_n 0, 1) := dk_42 (dk_at dksJ4_clear_0 0 rfl rfl)
theorem dJ4_clear_1 : decode cJ4_clear 1 = .ok (.getfield 3, 3) := dk_180 0 3 (dk_at dksJ4_clear_0 1 rfl rfl)
theorem dJ4_clear_4 : decode cJ4_clear 4 = .ok (.aload_n 0, 1) := dk_42 (dk_at dksJ4_clear_0 4 rfl rfl)
theorem dJ4_clear_5 : decode cJ4_clear 5 = .ok (.getfield 24, 3) := dk_180 0 24 (dk_at dksJ4_clear_0 5 rfl rfl)
theorem dJ4_clear_8 : decode cJ4_clear 8 = .ok (.aload_n 0, 1) := dk_42 (dk_at dksJ4_clear_0 8 rfl rfl)
theorem dJ4_clear_9 : decode cJ4_clear 9 = .ok (.getfield 20, 3) := dk_180 0 20 (dk_at dksJ4_clear_0 9 rfl rfl)
theorem dJ4_clear_12 : decode cJ4_clear 12 = .ok (.invokestatic 181, 3) := dk_184 0 181 (dk_at dksJ4_clear_0 12 rfl rfl)
theorem dJ4_clear_15 : decode cJ4_clear 15 = .ok (.aload_n 0, 1) := dk_42 (dk_at dksJ4_clear_0 15 rfl rfl)
theorem dJ4_clear_16 : decode cJ4_clear 16 = .ok (.aload_n 0, 1) := dk_42 (dk_at dksJ4_clear_0 16 rfl rfl)
theorem dJ4_clear_17 : decode cJ4_clear 17 = .ok (.iconst 0, 1) := dk_3 (dk_at dksJ4_clear_0 17 rfl rfl)
theorem dJ4_clear_18 : decode cJ4_clear 18 = .ok (.dup_x1, 1) := dk_90 (dk_at dksJ4_clear_0 18 rfl rfl)
theorem dJ4_clear_19 : decode cJ4_clear 19 = .ok (.putfield 20, 3) := dk_181 0 20 (dk_at dksJ4_clear_0 19 rfl rfl)
theorem dJ4_clear_22 : decode cJ4_clear 22 = .ok (.putfield 24, 3) := dk_181 0 24 (dk_at dksJ4_clear_1 0 rfl rfl)
theorem dJ4_clear_25 : decode cJ4_clear 25 = .ok (.return_, 1) := dk_177 (dk_at dksJ4_clear_1 3 rfl rfl)
abbrev cJ4_circularClear : ByteArray := prog_50_method_54_code
def yJ4_circularClear : MethodName := ⟨RJ4, "circularClear", "([Ljava/lang/Object;II)V"⟩
def dkwJ4_circularClear_1 : List UInt8 := [167, 255, 244, 29, 28, 160, 0, 6, 167, 0, 10, 3, 60, 28, 62, 167, 255, 229, 177]
abbrev dktJ4_circularClear_1 : List UInt8 := dkwJ4_circularClear_1 ++ []
def dkwJ4_circularClear_0 : List UInt8 := [27, 28, 163, 0, 7, 28, 167, 0, 5, 42, 190, 62, 27, 29, 162, 0, 13, 42, 27, 1, 83, 132, 1, 1]
abbrev dktJ4_circularClear_0 : List UInt8 := dkwJ4_circularClear_0 ++ dktJ4_circularClear_1
theorem dksJ4_circularClear_0 : cJ4_circularClear.data.toList.drop 0 = dktJ4_circularClear_0 := by decide +kernel
theorem dksJ4_circularClear_1 : cJ4_circularClear.data.toList.drop 24 = dktJ4_circularClear_1 := dk_seg dksJ4_circularClear_0 24 rfl rfl
theorem dJ4_circularClear_0 : decode cJ4_circularClear 0 = .ok (.iload_n 1, 1) := dk_27 (dk_at dksJ4_circularClear_0 0 rfl rfl)
theorem dJ4_circularClear_1 : decode cJ4_circularClear 1 = .ok (.iload_n 2, 1) := dk_28 (dk_at dksJ4_circularClear_0 1 rfl rfl)
theorem dJ4_circularClear_2 : decode cJ4_circularClear 2 = .ok (.if_icmp .gt 7, 3) := dk_163 0 7 (dk_at dksJ4_circularClear_0 2 rfl rfl)
theorem dJ4_circularClear_5 : decode cJ4_circularClear 5 = .ok (.iload_n 2, 1) := dk_28 (dk_at dksJ4_circularClear_0 5 rfl rfl)
theorem dJ4_circularClear_6 : decode cJ4_circularClear 6 = .ok (.goto 5, 3) := dk_167 0 5 (dk_at dksJ4_circularClear_0 6 rfl rfl)
theorem dJ4_circularClear_9 : decode cJ4_circularClear 9 = .ok (.aload_n 0, 1) := dk_42 (dk_at dksJ4_circularClear_0 9 rfl rfl)
theorem dJ4_circularClear_10 : decode cJ4_circularClear 10 = .ok (.arraylength, 1) := dk_190 (dk_at dksJ4_circularClear_0 10 rfl rfl)
theorem dJ4_circularClear_11 : decode cJ4_circularClear 11 = .ok (.istore_n 3, 1) := dk_62 (dk_at dksJ4_circularClear_0 11 rfl rfl)
theorem dJ4_circularClear_12 : decode cJ4_circularClear 12 = .ok (.iload_n 1, 1) := dk_27 (dk_at dksJ4_circularClear_0 12 rfl rfl)
theorem dJ4_circularClear_13 : decode cJ4_circularClear 13 = .ok (.iload_n 3, 1) := dk_29 (dk_at dksJ4_circularClear_0 13 rfl rfl)
theorem dJ4_circularClear_14 : decode cJ4_circularClear 14 = .ok (.if_icmp .ge 13, 3) := dk_162 0 13 (dk_at dksJ4_circularClear_0 14 rfl rfl)
theorem dJ4_circularClear_17 : decode cJ4_circularClear 17 = .ok (.aload_n 0, 1) := dk_42 (dk_at dksJ4_circularClear_0 17 rfl rfl)
theorem dJ4_circularClear_18 : decode cJ4_circularClear 18 = .ok (.iload_n 1, 1) := dk_27 (dk_at dksJ4_circularClear_0 18 rfl rfl)
theorem dJ4_circularClear_19 : decode cJ4_circularClear 19 = .ok (.aconst_null, 1) := dk_1 (dk_at dksJ4_circularClear_0 19 rfl rfl)
theorem dJ4_circularClear_20 : decode cJ4_circularClear 20 = .ok (.aastore, 1) := dk_83 (dk_at dksJ4_circularClear_0 20 rfl rfl)
theorem dJ4_circularClear_21 : decode cJ4_circularClear 21 = .ok (.iinc 1 1, 3) := dk_132 1 1 (dk_at dksJ4_circularClear_0 21 rfl rfl)
theorem dJ4_circularClear_24 : decode cJ4_circularClear 24 = .ok (.goto (-12), 3) := dk_167 255 244 (dk_at dksJ4_circularClear_1 0 rfl rfl)
theorem dJ4_circularClear_27 : decode cJ4_circularClear 27 = .ok (.iload_n 3, 1) := dk_29 (dk_at dksJ4_circularClear_1 3 rfl rfl)
theorem dJ4_circularClear_28 : decode cJ4_circularClear 28 = .ok (.iload_n 2, 1) := dk_28 (dk_at dksJ4_circularClear_1 4 rfl rfl)
theorem dJ4_circularClear_29 : decode cJ4_circularClear 29 = .ok (.if_icmp .ne 6, 3) := dk_160 0 6 (dk_at dksJ4_circularClear_1 5 rfl rfl)
theorem dJ4_circularClear_32 : decode cJ4_circularClear 32 = .ok (.goto 10, 3) := dk_167 0 10 (dk_at dksJ4_circularClear_1 8 rfl rfl)
theorem dJ4_circularClear_35 : decode cJ4_circularClear 35 = .ok (.iconst 0, 1) := dk_3 (dk_at dksJ4_circularClear_1 11 rfl rfl)
theorem dJ4_circularClear_36 : decode cJ4_circularClear 36 = .ok (.istore_n 1, 1) := dk_60 (dk_at dksJ4_circularClear_1 12 rfl rfl)
theorem dJ4_circularClear_37 : decode cJ4_circularClear 37 = .ok (.iload_n 2, 1) := dk_28 (dk_at dksJ4_circularClear_1 13 rfl rfl)
theorem dJ4_circularClear_38 : decode cJ4_circularClear 38 = .ok (.istore_n 3, 1) := dk_62 (dk_at dksJ4_circularClear_1 14 rfl rfl)
theorem dJ4_circularClear_39 : decode cJ4_circularClear 39 = .ok (.goto (-27), 3) := dk_167 255 229 (dk_at dksJ4_circularClear_1 15 rfl rfl)
theorem dJ4_circularClear_42 : decode cJ4_circularClear 42 = .ok (.return_, 1) := dk_177 (dk_at dksJ4_circularClear_1 18 rfl rfl)
abbrev cJ4_addLast : ByteArray := prog_50_method_13_code
def yJ4_addLast : MethodName := ⟨RJ4, "addLast", "(Ljava/lang/Object;)V"⟩
def dkwJ4_addLast_2 : List UInt8 := [182, 0, 71, 177]
abbrev dktJ4_addLast_2 : List UInt8 := dkwJ4_addLast_2 ++ []
def dkwJ4_addLast_1 : List UInt8 := [42, 180, 0, 24, 42, 42, 180, 0, 20, 44, 190, 184, 0, 74, 90, 181, 0, 20, 160, 0, 8, 42, 4]
abbrev dktJ4_addLast_1 : List UInt8 := dkwJ4_addLast_1 ++ dktJ4_addLast_2
def dkwJ4_addLast_0 : List UInt8 := [43, 199, 0, 11, 187, 0, 65, 89, 183, 0, 67, 191, 42, 180, 0, 3, 77, 44, 42, 180, 0, 20, 43, 83]
abbrev dktJ4_addLast_0 : List UInt8 := dkwJ4_addLast_0 ++ dktJ4_addLast_1
theorem dksJ4_addLast_0 : cJ4_addLast.data.toList.drop 0 = dktJ4_addLast_0 := by decide +kernel
theorem dksJ4_addLast_1 : cJ4_addLast.data.toList.drop 24 = dktJ4_addLast_1 := dk_seg dksJ4_addLast_0 24 rfl rfl
theorem dksJ4_addLast_2 : cJ4_addLast.data.toList.drop 47 = dktJ4_addLast_2 := dk_seg dksJ4_addLast_1 23 rfl rfl
theorem dJ4_addLast_0 : decode cJ4_addLast 0 = .ok (.aload_n 1, 1) := dk_43 (dk_at dksJ4_addLast_0 0 rfl rfl)
theorem dJ4_addLast_1 : decode cJ4_addLast 1 = .ok (.ifnonnull 11, 3) := dk_199 0 11 (dk_at dksJ4_addLast_0 1 rfl rfl)
theorem dJ4_addLast_4 : decode cJ4_addLast 4 = .ok (.new 65, 3) := dk_187 0 65 (dk_at dksJ4_addLast_0 4 rfl rfl)
theorem dJ4_addLast_7 : decode cJ4_addLast 7 = .ok (.dup, 1) := dk_89 (dk_at dksJ4_addLast_0 7 rfl rfl)
theorem dJ4_addLast_8 : decode cJ4_addLast 8 = .ok (.invokespecial 67, 3) := dk_183 0 67 (dk_at dksJ4_addLast_0 8 rfl rfl)
theorem dJ4_addLast_11 : decode cJ4_addLast 11 = .ok (.athrow, 1) := dk_191 (dk_at dksJ4_addLast_0 11 rfl rfl)
theorem dJ4_addLast_12 : decode cJ4_addLast 12 = .ok (.aload_n 0, 1) := dk_42 (dk_at dksJ4_addLast_0 12 rfl rfl)
theorem dJ4_addLast_13 : decode cJ4_addLast 13 = .ok (.getfield 3, 3) := dk_180 0 3 (dk_at dksJ4_addLast_0 13 rfl rfl)
theorem dJ4_addLast_16 : decode cJ4_addLast 16 = .ok (.astore_n 2, 1) := dk_77 (dk_at dksJ4_addLast_0 16 rfl rfl)
theorem dJ4_addLast_17 : decode cJ4_addLast 17 = .ok (.aload_n 2, 1) := dk_44 (dk_at dksJ4_addLast_0 17 rfl rfl)
theorem dJ4_addLast_18 : decode cJ4_addLast 18 = .ok (.aload_n 0, 1) := dk_42 (dk_at dksJ4_addLast_0 18 rfl rfl)
theorem dJ4_addLast_19 : decode cJ4_addLast 19 = .ok (.getfield 20, 3) := dk_180 0 20 (dk_at dksJ4_addLast_0 19 rfl rfl)
theorem dJ4_addLast_22 : decode cJ4_addLast 22 = .ok (.aload_n 1, 1) := dk_43 (dk_at dksJ4_addLast_0 22 rfl rfl)
theorem dJ4_addLast_23 : decode cJ4_addLast 23 = .ok (.aastore, 1) := dk_83 (dk_at dksJ4_addLast_0 23 rfl rfl)
theorem dJ4_addLast_24 : decode cJ4_addLast 24 = .ok (.aload_n 0, 1) := dk_42 (dk_at dksJ4_addLast_1 0 rfl rfl)
theorem dJ4_addLast_25 : decode cJ4_addLast 25 = .ok (.getfield 24, 3) := dk_180 0 24 (dk_at dksJ4_addLast_1 1 rfl rfl)
theorem dJ4_addLast_28 : decode cJ4_addLast 28 = .ok (.aload_n 0, 1) := dk_42 (dk_at dksJ4_addLast_1 4 rfl rfl)
theorem dJ4_addLast_29 : decode cJ4_addLast 29 = .ok (.aload_n 0, 1) := dk_42 (dk_at dksJ4_addLast_1 5 rfl rfl)
theorem dJ4_addLast_30 : decode cJ4_addLast 30 = .ok (.getfield 20, 3) := dk_180 0 20 (dk_at dksJ4_addLast_1 6 rfl rfl)
theorem dJ4_addLast_33 : decode cJ4_addLast 33 = .ok (.aload_n 2, 1) := dk_44 (dk_at dksJ4_addLast_1 9 rfl rfl)
theorem dJ4_addLast_34 : decode cJ4_addLast 34 = .ok (.arraylength, 1) := dk_190 (dk_at dksJ4_addLast_1 10 rfl rfl)
theorem dJ4_addLast_35 : decode cJ4_addLast 35 = .ok (.invokestatic 74, 3) := dk_184 0 74 (dk_at dksJ4_addLast_1 11 rfl rfl)
theorem dJ4_addLast_38 : decode cJ4_addLast 38 = .ok (.dup_x1, 1) := dk_90 (dk_at dksJ4_addLast_1 14 rfl rfl)
theorem dJ4_addLast_39 : decode cJ4_addLast 39 = .ok (.putfield 20, 3) := dk_181 0 20 (dk_at dksJ4_addLast_1 15 rfl rfl)
theorem dJ4_addLast_42 : decode cJ4_addLast 42 = .ok (.if_icmp .ne 8, 3) := dk_160 0 8 (dk_at dksJ4_addLast_1 18 rfl rfl)
theorem dJ4_addLast_45 : decode cJ4_addLast 45 = .ok (.aload_n 0, 1) := dk_42 (dk_at dksJ4_addLast_1 21 rfl rfl)
theorem dJ4_addLast_46 : decode cJ4_addLast 46 = .ok (.iconst 1, 1) := dk_4 (dk_at dksJ4_addLast_1 22 rfl rfl)
theorem dJ4_addLast_47 : decode cJ4_addLast 47 = .ok (.invokevirtual 71, 3) := dk_182 0 71 (dk_at dksJ4_addLast_2 0 rfl rfl)
theorem dJ4_addLast_50 : decode cJ4_addLast 50 = .ok (.return_, 1) := dk_177 (dk_at dksJ4_addLast_2 3 rfl rfl)
theorem q76 : (Jvm.Cond.initialized "java/util/ArrayDeque") ∈ lw_all := lw_g (lw_at lw_m1 8 rfl) rfl
theorem q226 : (Jvm.Cond.instantiable "java/util/ArrayDeque" (3 : Nat)) ∈ lw_all := lw_g (lw_at lw_m1 158 rfl) rfl
theorem q228 : (Jvm.Cond.instanceMethod ({ cls := "java/util/ArrayDeque", name := "<init>", desc := "()V" } : Jvm.MethodName)) ∈ lw_all := lw_g (lw_at lw_m1 160 rfl) rfl
theorem q229 : (Jvm.Cond.code ({ cls := "java/util/ArrayDeque", name := "<init>", desc := "()V" } : Jvm.MethodName) prog_50_method_3_code (1 : Nat) (Option.none : Option Jvm.ClassFile.FieldType)) ∈ lw_all := lw_g (lw_at lw_m1 161 rfl) rfl
theorem q230 : (Jvm.Cond.methodLink "java/util/ArrayDeque" (42 : Nat) ({ cls := "java/util/AbstractCollection", name := "<init>", desc := "()V" } : Jvm.MethodName)) ∈ lw_all := lw_g (lw_at lw_m1 162 rfl) rfl
theorem q234 : (Jvm.Cond.classLink "java/util/ArrayDeque" (47 : Nat) "java/lang/Object") ∈ lw_all := lw_g (lw_at lw_m1 166 rfl) rfl
theorem q236 : (Jvm.Cond.fieldLink "java/util/ArrayDeque" (3 : Nat) "java/util/ArrayDeque" "elements" "[Ljava/lang/Object;") ∈ lw_all := lw_g (lw_at lw_m1 168 rfl) rfl
theorem q239 : (Jvm.Cond.fieldLink "java/util/ArrayDeque" (24 : Nat) "java/util/ArrayDeque" "head" "I") ∈ lw_all := lw_g (lw_at lw_m1 171 rfl) rfl
theorem q240 : (Jvm.Cond.fieldLink "java/util/ArrayDeque" (20 : Nat) "java/util/ArrayDeque" "tail" "I") ∈ lw_all := lw_g (lw_at lw_m1 172 rfl) rfl
theorem q241 : (Jvm.Cond.lays "java/util/ArrayDeque" "java/util/ArrayDeque" "elements" "[Ljava/lang/Object;") ∈ lw_all := lw_g (lw_at lw_m1 173 rfl) rfl
theorem q242 : (Jvm.Cond.soleField "java/util/ArrayDeque" "elements") ∈ lw_all := lw_g (lw_at lw_m1 174 rfl) rfl
theorem q243 : (Jvm.Cond.lays "java/util/ArrayDeque" "java/util/ArrayDeque" "head" "I") ∈ lw_all := lw_g (lw_at lw_m1 175 rfl) rfl
theorem q244 : (Jvm.Cond.soleField "java/util/ArrayDeque" "head") ∈ lw_all := lw_g (lw_at lw_m1 176 rfl) rfl
theorem q245 : (Jvm.Cond.lays "java/util/ArrayDeque" "java/util/ArrayDeque" "tail" "I") ∈ lw_all := lw_g (lw_at lw_m1 177 rfl) rfl
theorem q246 : (Jvm.Cond.soleField "java/util/ArrayDeque" "tail") ∈ lw_all := lw_g (lw_at lw_m1 178 rfl) rfl
theorem q247 : (Jvm.Cond.superclass "java/util/ArrayDeque" "java/util/AbstractCollection") ∈ lw_all := lw_g (lw_at lw_m1 179 rfl) rfl
theorem q1068 : (Jvm.Cond.selects "java/util/ArrayDeque" ({ cls := "java/lang/Object", name := "getClass", desc := "()Ljava/lang/Class;" } : Jvm.MethodName) ({ cls := "java/lang/Object", name := "getClass", desc := "()Ljava/lang/Class;" } : Jvm.MethodName)) ∈ lw_all := lw_g (lw_at lw_m5 40 rfl) rfl
theorem q1133 : (Jvm.Cond.static ({ cls := "java/util/ArrayDeque", name := "nonNullElementAt", desc := "([Ljava/lang/Object;I)Ljava/lang/Object;" } : Jvm.MethodName)) ∈ lw_all := lw_g (lw_at lw_m5 105 rfl) rfl
theorem q1134 : (Jvm.Cond.code ({ cls := "java/util/ArrayDeque", name := "nonNullElementAt", desc := "([Ljava/lang/Object;I)Ljava/lang/Object;" } : Jvm.MethodName) prog_50_method_11_code (3 : Nat) (Option.some (Jvm.ClassFile.FieldType.object "java/lang/Object"))) ∈ lw_all := lw_g (lw_at lw_m5 106 rfl) rfl
theorem q1136 : (Jvm.Cond.static ({ cls := "java/util/ArrayDeque", name := "inc", desc := "(II)I" } : Jvm.MethodName)) ∈ lw_all := lw_g (lw_at lw_m5 108 rfl) rfl
theorem q1137 : (Jvm.Cond.code ({ cls := "java/util/ArrayDeque", name := "inc", desc := "(II)I" } : Jvm.MethodName) prog_50_method_6_code (2 : Nat) (Option.some Jvm.ClassFile.FieldType.int)) ∈ lw_all := lw_g (lw_at lw_m5 109 rfl) rfl
theorem q1286 : (Jvm.Cond.instanceMethod ({ cls := "java/util/ArrayDeque", name := "delete", desc := "(I)Z" } : Jvm.MethodName)) ∈ lw_all := lw_g (lw_at lw_m6 18 rfl) rfl
theorem q1287 : (Jvm.Cond.selects "java/util/ArrayDeque" ({ cls := "java/util/ArrayDeque", name := "delete", desc := "(I)Z" } : Jvm.MethodName) ({ cls := "java/util/ArrayDeque", name := "delete", desc := "(I)Z" } : Jvm.MethodName)) ∈ lw_all := lw_g (lw_at lw_m6 19 rfl) rfl
theorem q1288 : (Jvm.Cond.code ({ cls := "java/util/ArrayDeque", name := "delete", desc := "(I)Z" } : Jvm.MethodName) prog_50_method_36_code (8 : Nat) (Option.some Jvm.ClassFile.FieldType.boolean)) ∈ lw_all := lw_g (lw_at lw_m6 20 rfl) rfl
theorem q1289 : (Jvm.Cond.methodLink "java/util/ArrayDeque" (127 : Nat) ({ cls := "java/util/ArrayDeque", name := "sub", desc := "(III)I" } : Jvm.MethodName)) ∈ lw_all := lw_g (lw_at lw_m6 21 rfl) rfl
theorem q1290 : (Jvm.Cond.static ({ cls := "java/util/ArrayDeque", name := "sub", desc := "(III)I" } : Jvm.MethodName)) ∈ lw_all := lw_g (lw_at lw_m6 22 rfl) rfl
theorem q1291 : (Jvm.Cond.code ({ cls := "java/util/ArrayDeque", name := "sub", desc := "(III)I" } : Jvm.MethodName) prog_50_method_9_code (3 : Nat) (Option.some Jvm.ClassFile.FieldType.int)) ∈ lw_all := lw_g (lw_at lw_m6 23 rfl) rfl
theorem q1292 : (Jvm.Cond.methodLink "java/util/ArrayDeque" (27 : Nat) ({ cls := "java/lang/System", name := "arraycopy", desc := "(Ljava/lang/Object;ILjava/lang/Object;II)V" } : Jvm.MethodName)) ∈ lw_all := lw_g (lw_at lw_m6 24 rfl) rfl
theorem q1293 : (Jvm.Cond.methodLink "java/util/ArrayDeque" (74 : Nat) ({ cls := "java/util/ArrayDeque", name := "inc", desc := "(II)I" } : Jvm.MethodName)) ∈ lw_all := lw_g (lw_at lw_m6 25 rfl) rfl
theorem q1294 : (Jvm.Cond.methodLink "java/util/ArrayDeque" (68 : Nat) ({ cls := "java/util/ArrayDeque", name := "dec", desc := "(II)I" } : Jvm.MethodName)) ∈ lw_all := lw_g (lw_at lw_m6 26 rfl) rfl
theorem q1295 : (Jvm.Cond.static ({ cls := "java/util/ArrayDeque", name := "dec", desc := "(II)I" } : Jvm.MethodName)) ∈ lw_all := lw_g (lw_at lw_m6 27 rfl) rfl
theorem q1296 : (Jvm.Cond.code ({ cls := "java/util/ArrayDeque", name := "dec", desc := "(II)I" } : Jvm.MethodName) prog_50_method_7_code (2 : Nat) (Option.some Jvm.ClassFile.FieldType.int)) ∈ lw_all := lw_g (lw_at lw_m6 28 rfl) rfl
theorem q1922 : (Jvm.Cond.instanceMethod ({ cls := "java/util/ArrayDeque", name := "addFirst", desc := "(Ljava/lang/Object;)V" } : Jvm.MethodName)) ∈ lw_all := lw_g (lw_at lw_m8 174 rfl) rfl
theorem q1923 : (Jvm.Cond.selects "java/util/ArrayDeque" ({ cls := "java/util/ArrayDeque", name := "addFirst", desc := "(Ljava/lang/Object;)V" } : Jvm.MethodName) ({ cls := "java/util/ArrayDeque", name := "addFirst", desc := "(Ljava/lang/Object;)V" } : Jvm.MethodName)) ∈ lw_all := lw_g (lw_at lw_m8 175 rfl) rfl
theorem q1924 : (Jvm.Cond.code ({ cls := "java/util/ArrayDeque", name := "addFirst", desc := "(Ljava/lang/Object;)V" } : Jvm.MethodName) prog_50_method_12_code (3 : Nat) (Option.none : Option Jvm.ClassFile.FieldType)) ∈ lw_all := lw_g (lw_at lw_m8 176 rfl) rfl
theorem q1925 : (Jvm.Cond.classLink "java/util/ArrayDeque" (65 : Nat) "java/lang/NullPointerException") ∈ lw_all := lw_g (lw_at lw_m8 177 rfl) rfl
theorem q1933 : (Jvm.Cond.methodLink "java/util/ArrayDeque" (67 : Nat) ({ cls := "java/lang/NullPointerException", name := "<init>", desc := "()V" } : Jvm.MethodName)) ∈ lw_all := lw_g (lw_at lw_m8 185 rfl) rfl
theorem q1944 : (Jvm.Cond.methodLink "java/util/ArrayDeque" (71 : Nat) ({ cls := "java/util/ArrayDeque", name := "grow", desc := "(I)V" } : Jvm.MethodName)) ∈ lw_all := lw_g (lw_at lw_m8 196 rfl) rfl
theorem q1945 : (Jvm.Cond.privateMethod ({ cls := "java/util/ArrayDeque", name := "grow", desc := "(I)V" } : Jvm.MethodName)) ∈ lw_tbl := lw_at lw_m8 197 rfl
theorem q1946 : (Jvm.Cond.instanceMethod ({ cls := "java/util/ArrayDeque", name := "grow", desc := "(I)V" } : Jvm.MethodName)) ∈ lw_all := lw_g (lw_at lw_m8 198 rfl) rfl
theorem q1947 : (Jvm.Cond.code ({ cls := "java/util/ArrayDeque", name := "grow", desc := "(I)V" } : Jvm.MethodName) prog_50_method_1_code (9 : Nat) (Option.none : Option Jvm.ClassFile.FieldType)) ∈ lw_all := lw_g (lw_at lw_m8 199 rfl) rfl
theorem q1948 : (Jvm.Cond.constant "java/util/ArrayDeque" (9 : Nat) (2147483639 : Int32)) ∈ lw_all := lw_g (lw_at lw_m8 200 rfl) rfl
theorem q1949 : (Jvm.Cond.methodLink "java/util/ArrayDeque" (10 : Nat) ({ cls := "java/util/ArrayDeque", name := "newCapacity", desc := "(II)I" } : Jvm.MethodName)) ∈ lw_all := lw_g (lw_at lw_m8 201 rfl) rfl
theorem q1950 : (Jvm.Cond.privateMethod ({ cls := "java/util/ArrayDeque", name := "newCapacity", desc := "(II)I" } : Jvm.MethodName)) ∈ lw_tbl := lw_at lw_m8 202 rfl
theorem q1951 : (Jvm.Cond.instanceMethod ({ cls := "java/util/ArrayDeque", name := "newCapacity", desc := "(II)I" } : Jvm.MethodName)) ∈ lw_all := lw_g (lw_at lw_m8 203 rfl) rfl
theorem q1952 : (Jvm.Cond.code ({ cls := "java/util/ArrayDeque", name := "newCapacity", desc := "(II)I" } : Jvm.MethodName) prog_50_method_2_code (5 : Nat) (Option.some Jvm.ClassFile.FieldType.int)) ∈ lw_all := lw_g (lw_at lw_m8 204 rfl) rfl
theorem q1953 : (Jvm.Cond.constant "java/util/ArrayDeque" (41 : Nat) (2147483647 : Int32)) ∈ lw_all := lw_g (lw_at lw_m8 205 rfl) rfl
theorem q1954 : (Jvm.Cond.methodLink "java/util/ArrayDeque" (14 : Nat) ({ cls := "java/util/Arrays", name := "copyOf", desc := "([Ljava/lang/Object;I)[Ljava/lang/Object;" } : Jvm.MethodName)) ∈ lw_all := lw_g (lw_at lw_m8 206 rfl) rfl
theorem q1964 : (Jvm.Cond.instanceMethod ({ cls := "java/util/ArrayDeque", name := "size", desc := "()I" } : Jvm.MethodName)) ∈ lw_all := lw_g (lw_at lw_m8 216 rfl) rfl
theorem q1965 : (Jvm.Cond.selects "java/util/ArrayDeque" ({ cls := "java/util/ArrayDeque", name := "size", desc := "()I" } : Jvm.MethodName) ({ cls := "java/util/ArrayDeque", name := "size", desc := "()I" } : Jvm.MethodName)) ∈ lw_all := lw_g (lw_at lw_m8 217 rfl) rfl
theorem q1966 : (Jvm.Cond.code ({ cls := "java/util/ArrayDeque", name := "size", desc := "()I" } : Jvm.MethodName) prog_50_method_37_code (1 : Nat) (Option.some Jvm.ClassFile.FieldType.int)) ∈ lw_all := lw_g (lw_at lw_m8 218 rfl) rfl
theorem q1968 : (Jvm.Cond.instanceMethod ({ cls := "java/util/ArrayDeque", name := "pollLast", desc := "()Ljava/lang/Object;" } : Jvm.MethodName)) ∈ lw_all := lw_g (lw_at lw_m8 220 rfl) rfl
theorem q1969 : (Jvm.Cond.selects "java/util/ArrayDeque" ({ cls := "java/util/ArrayDeque", name := "pollLast", desc := "()Ljava/lang/Object;" } : Jvm.MethodName) ({ cls := "java/util/ArrayDeque", name := "pollLast", desc := "()Ljava/lang/Object;" } : Jvm.MethodName)) ∈ lw_all := lw_g (lw_at lw_m8 221 rfl) rfl
theorem q1970 : (Jvm.Cond.code ({ cls := "java/util/ArrayDeque", name := "pollLast", desc := "()Ljava/lang/Object;" } : Jvm.MethodName) prog_50_method_21_code (4 : Nat) (Option.some (Jvm.ClassFile.FieldType.object "java/lang/Object"))) ∈ lw_all := lw_g (lw_at lw_m8 222 rfl) rfl
theorem q1971 : (Jvm.Cond.methodLink "java/util/ArrayDeque" (103 : Nat) ({ cls := "java/util/ArrayDeque", name := "elementAt", desc := "([Ljava/lang/Object;I)Ljava/lang/Object;" } : Jvm.MethodName)) ∈ lw_all := lw_g (lw_at lw_m8 223 rfl) rfl
theorem q1972 : (Jvm.Cond.static ({ cls := "java/util/ArrayDeque", name := "elementAt", desc := "([Ljava/lang/Object;I)Ljava/lang/Object;" } : Jvm.MethodName)) ∈ lw_all := lw_g (lw_at lw_m8 224 rfl) rfl
theorem q1973 : (Jvm.Cond.code ({ cls := "java/util/ArrayDeque", name := "elementAt", desc := "([Ljava/lang/Object;I)Ljava/lang/Object;" } : Jvm.MethodName) prog_50_method_10_code (2 : Nat) (Option.some (Jvm.ClassFile.FieldType.object "java/lang/Object"))) ∈ lw_all := lw_g (lw_at lw_m8 225 rfl) rfl
theorem q2144 : (Jvm.Cond.instanceMethod ({ cls := "java/util/ArrayDeque", name := "iterator", desc := "()Ljava/util/Iterator;" } : Jvm.MethodName)) ∈ lw_all := lw_g (lw_at lw_m9 156 rfl) rfl
theorem q2145 : (Jvm.Cond.selects "java/util/ArrayDeque" ({ cls := "java/util/ArrayDeque", name := "iterator", desc := "()Ljava/util/Iterator;" } : Jvm.MethodName) ({ cls := "java/util/ArrayDeque", name := "iterator", desc := "()Ljava/util/Iterator;" } : Jvm.MethodName)) ∈ lw_all := lw_g (lw_at lw_m9 157 rfl) rfl
theorem q2146 : (Jvm.Cond.code ({ cls := "java/util/ArrayDeque", name := "iterator", desc := "()Ljava/util/Iterator;" } : Jvm.MethodName) prog_50_method_39_code (1 : Nat) (Option.some (Jvm.ClassFile.FieldType.object "java/util/Iterator"))) ∈ lw_all := lw_g (lw_at lw_m9 158 rfl) rfl
theorem q2147 : (Jvm.Cond.classLink "java/util/ArrayDeque" (131 : Nat) "java/util/ArrayDeque$DeqIterator") ∈ lw_all := lw_g (lw_at lw_m9 159 rfl) rfl
theorem q2149 : (Jvm.Cond.methodLink "java/util/ArrayDeque" (133 : Nat) ({ cls := "java/util/ArrayDeque$DeqIterator", name := "<init>", desc := "(Ljava/util/ArrayDeque;)V" } : Jvm.MethodName)) ∈ lw_all := lw_g (lw_at lw_m9 161 rfl) rfl
theorem q2532 : (Jvm.Cond.castable "java/util/ArrayDeque" "java/util/Collection") ∈ lw_tbl := lw_at lw_m11 64 rfl
theorem q2533 : (Jvm.Cond.selects "java/util/ArrayDeque" ({ cls := "java/util/Collection", name := "iterator", desc := "()Ljava/util/Iterator;" } : Jvm.MethodName) ({ cls := "java/util/ArrayDeque", name := "iterator", desc := "()Ljava/util/Iterator;" } : Jvm.MethodName)) ∈ lw_all := lw_g (lw_at lw_m11 65 rfl) rfl
theorem q2534 : (Jvm.Cond.unhidden "java/util/ArrayDeque" "iterator" "()Ljava/util/Iterator;") ∈ lw_tbl := lw_at lw_m11 66 rfl
theorem q2535 : (Jvm.Cond.publicMethod ({ cls := "java/util/ArrayDeque", name := "iterator", desc := "()Ljava/util/Iterator;" } : Jvm.MethodName)) ∈ lw_tbl := lw_at lw_m11 67 rfl
theorem q2631 : (Jvm.Cond.instanceMethod ({ cls := "java/util/ArrayDeque", name := "clear", desc := "()V" } : Jvm.MethodName)) ∈ lw_all := lw_g (lw_at lw_m11 163 rfl) rfl
theorem q2632 : (Jvm.Cond.selects "java/util/ArrayDeque" ({ cls := "java/util/ArrayDeque", name := "clear", desc := "()V" } : Jvm.MethodName) ({ cls := "java/util/ArrayDeque", name := "clear", desc := "()V" } : Jvm.MethodName)) ∈ lw_all := lw_g (lw_at lw_m11 164 rfl) rfl
theorem q2633 : (Jvm.Cond.code ({ cls := "java/util/ArrayDeque", name := "clear", desc := "()V" } : Jvm.MethodName) prog_50_method_53_code (1 : Nat) (Option.none : Option Jvm.ClassFile.FieldType)) ∈ lw_all := lw_g (lw_at lw_m11 165 rfl) rfl
theorem q2634 : (Jvm.Cond.methodLink "java/util/ArrayDeque" (181 : Nat) ({ cls := "java/util/ArrayDeque", name := "circularClear", desc := "([Ljava/lang/Object;II)V" } : Jvm.MethodName)) ∈ lw_all := lw_g (lw_at lw_m11 166 rfl) rfl
theorem q2635 : (Jvm.Cond.static ({ cls := "java/util/ArrayDeque", name := "circularClear", desc := "([Ljava/lang/Object;II)V" } : Jvm.MethodName)) ∈ lw_all := lw_g (lw_at lw_m11 167 rfl) rfl
theorem q2636 : (Jvm.Cond.code ({ cls := "java/util/ArrayDeque", name := "circularClear", desc := "([Ljava/lang/Object;II)V" } : Jvm.MethodName) prog_50_method_54_code (4 : Nat) (Option.none : Option Jvm.ClassFile.FieldType)) ∈ lw_all := lw_g (lw_at lw_m11 168 rfl) rfl
theorem q2640 : (Jvm.Cond.instanceMethod ({ cls := "java/util/ArrayDeque", name := "addLast", desc := "(Ljava/lang/Object;)V" } : Jvm.MethodName)) ∈ lw_all := lw_g (lw_at lw_m11 172 rfl) rfl
theorem q2641 : (Jvm.Cond.selects "java/util/ArrayDeque" ({ cls := "java/util/ArrayDeque", name := "addLast", desc := "(Ljava/lang/Object;)V" } : Jvm.MethodName) ({ cls := "java/util/ArrayDeque", name := "addLast", desc := "(Ljava/lang/Object;)V" } : Jvm.MethodName)) ∈ lw_all := lw_g (lw_at lw_m11 173 rfl) rfl
theorem q2642 : (Jvm.Cond.code ({ cls := "java/util/ArrayDeque", name := "addLast", desc := "(Ljava/lang/Object;)V" } : Jvm.MethodName) prog_50_method_13_code (3 : Nat) (Option.none : Option Jvm.ClassFile.FieldType)) ∈ lw_all := lw_g (lw_at lw_m11 174 rfl) rfl
theorem q3036 : (Jvm.Cond.castable "java/util/ArrayDeque" "java/util/SequencedCollection") ∈ lw_tbl := lw_at lw_m13 88 rfl
theorem q3048 : (Jvm.Cond.castable "java/util/ArrayDeque" "java/lang/Object") ∈ lw_tbl := lw_at lw_m13 100 rfl
theorem in_J4 : ∀ w ∈ wsJ40, w ∈ lw_all := lw_in wsJ40 [241, 243, 245] (by decide +kernel) (by decide +kernel)
/-! java/util/AbstractList -/
set_option maxRecDepth 100000
def RJ5 : String := "java/util/AbstractList"
abbrev cJ5_init : ByteArray := prog_44_method_1_code
def yJ5_init : MethodName := ⟨RJ5, "<init>", "()V"⟩
def dkwJ5_init_0 : List UInt8 := [42, 183, 0, 1, 42, 3, 181, 0, 7, 177]
abbrev dktJ5_init_0 : List UInt8 := dkwJ5_init_0 ++ []
theorem dksJ5_init_0 : cJ5_init.data.toList.drop 0 = dktJ5_init_0 := by decide +kernel
theorem dJ5_init_0 : decode cJ5_init 0 = .ok (.aload_n 0, 1) := dk_42 (dk_at dksJ5_init_0 0 rfl rfl)
theorem dJ5_init_1 : decode cJ5_init 1 = .ok (.invokespecial 1, 3) := dk_183 0 1 (dk_at dksJ5_init_0 1 rfl rfl)
theorem dJ5_init_4 : decode cJ5_init 4 = .ok (.aload_n 0, 1) := dk_42 (dk_at dksJ5_init_0 4 rfl rfl)
theorem dJ5_init_5 : decode cJ5_init 5 = .ok (.iconst 0, 1) := dk_3 (dk_at dksJ5_init_0 5 rfl rfl)
theorem dJ5_init_6 : decode cJ5_init 6 = .ok (.putfield 7, 3) := dk_181 0 7 (dk_at dksJ5_init_0 6 rfl rfl)
theorem dJ5_init_9 : decode cJ5_init 9 = .ok (.return_, 1) := dk_177 (dk_at dksJ5_init_0 9 rfl rfl)
abbrev cJ5_listIterator : ByteArray := prog_44_method_12_code
def yJ5_listIterator : MethodName := ⟨RJ5, "listIterator", "()Ljava/util/ListIterator;"⟩
def dkwJ5_listIterator_0 : List UInt8 := [42, 3, 182, 0, 47, 176]
abbrev dktJ5_listIterator_0 : List UInt8 := dkwJ5_listIterator_0 ++ []
theorem dksJ5_listIterator_0 : cJ5_listIterator.data.toList.drop 0 = dktJ5_listIterator_0 := by decide +kernel
theorem dJ5_listIterator_0 : decode cJ5_listIterator 0 = .ok (.aload_n 0, 1) := dk_42 (dk_at dksJ5_listIterator_0 0 rfl rfl)
theorem dJ5_listIterator_1 : decode cJ5_listIterator 1 = .ok (.iconst 0, 1) := dk_3 (dk_at dksJ5_listIterator_0 1 rfl rfl)
theorem dJ5_listIterator_2 : decode cJ5_listIterator 2 = .ok (.invokevirtual 47, 3) := dk_182 0 47 (dk_at dksJ5_listIterator_0 2 rfl rfl)
theorem dJ5_listIterator_5 : decode cJ5_listIterator 5 = .ok (.areturn, 1) := dk_176 (dk_at dksJ5_listIterator_0 5 rfl rfl)
theorem q78 : (Jvm.Cond.initialized "java/util/AbstractList") ∈ lw_all := lw_g (lw_at lw_m1 10 rfl) rfl
theorem q398 : (Jvm.Cond.instanceMethod ({ cls := "java/util/AbstractList", name := "<init>", desc := "()V" } : Jvm.MethodName)) ∈ lw_all := lw_g (lw_at lw_m2 90 rfl) rfl
theorem q399 : (Jvm.Cond.code ({ cls := "java/util/AbstractList", name := "<init>", desc := "()V" } : Jvm.MethodName) prog_44_method_1_code (1 : Nat) (Option.none : Option Jvm.ClassFile.FieldType)) ∈ lw_all := lw_g (lw_at lw_m2 91 rfl) rfl
theorem q400 : (Jvm.Cond.methodLink "java/util/AbstractList" (1 : Nat) ({ cls := "java/util/AbstractCollection", name := "<init>", desc := "()V" } : Jvm.MethodName)) ∈ lw_all := lw_g (lw_at lw_m2 92 rfl) rfl
theorem q405 : (Jvm.Cond.fieldLink "java/util/AbstractList" (7 : Nat) "java/util/AbstractList" "modCount" "I") ∈ lw_all := lw_g (lw_at lw_m2 97 rfl) rfl
theorem q417 : (Jvm.Cond.soleField "java/util/AbstractList" "modCount") ∈ lw_all := lw_g (lw_at lw_m2 109 rfl) rfl
theorem q597 : (Jvm.Cond.sameMethod "java/util/AbstractList" "java/util/AbstractCollection" "size" "()I") ∈ lw_all := lw_g (lw_at lw_m3 49 rfl) rfl
theorem q641 : (Jvm.Cond.declares ({ cls := "java/util/AbstractList", name := "get", desc := "(I)Ljava/lang/Object;" } : Jvm.MethodName)) ∈ lw_tbl := lw_at lw_m3 93 rfl
theorem q642 : (Jvm.Cond.sameMethod "java/util/AbstractList" "java/util/AbstractList" "get" "(I)Ljava/lang/Object;") ∈ lw_all := lw_g (lw_at lw_m3 94 rfl) rfl
theorem q1257 : (Jvm.Cond.instanceMethod ({ cls := "java/util/AbstractList", name := "remove", desc := "(I)Ljava/lang/Object;" } : Jvm.MethodName)) ∈ lw_all := lw_g (lw_at lw_m5 229 rfl) rfl
theorem q1258 : (Jvm.Cond.sameMethod "java/util/AbstractList" "java/util/AbstractList" "remove" "(I)Ljava/lang/Object;") ∈ lw_all := lw_g (lw_at lw_m5 230 rfl) rfl
theorem q1266 : (Jvm.Cond.declares ({ cls := "java/util/AbstractList", name := "remove", desc := "(I)Ljava/lang/Object;" } : Jvm.MethodName)) ∈ lw_tbl := lw_at lw_m5 238 rfl
theorem q2391 : (Jvm.Cond.declares ({ cls := "java/util/AbstractList", name := "listIterator", desc := "()Ljava/util/ListIterator;" } : Jvm.MethodName)) ∈ lw_tbl := lw_at lw_m10 163 rfl
theorem q2393 : (Jvm.Cond.instanceMethod ({ cls := "java/util/AbstractList", name := "listIterator", desc := "()Ljava/util/ListIterator;" } : Jvm.MethodName)) ∈ lw_all := lw_g (lw_at lw_m10 165 rfl) rfl
theorem q2394 : (Jvm.Cond.code ({ cls := "java/util/AbstractList", name := "listIterator", desc := "()Ljava/util/ListIterator;" } : Jvm.MethodName) prog_44_method_12_code (1 : Nat) (Option.some (Jvm.ClassFile.FieldType.object "java/util/ListIterator"))) ∈ lw_all := lw_g (lw_at lw_m10 166 rfl) rfl
theorem q2395 : (Jvm.Cond.methodLink "java/util/AbstractList" (47 : Nat) ({ cls := "java/util/AbstractList", name := "listIterator", desc := "(I)Ljava/util/ListIterator;" } : Jvm.MethodName)) ∈ lw_all := lw_g (lw_at lw_m10 167 rfl) rfl
theorem q2396 : (Jvm.Cond.instanceMethod ({ cls := "java/util/AbstractList", name := "listIterator", desc := "(I)Ljava/util/ListIterator;" } : Jvm.MethodName)) ∈ lw_all := lw_g (lw_at lw_m10 168 rfl) rfl
theorem q2397 : (Jvm.Cond.sameMethod "java/util/AbstractList" "java/util/AbstractList" "listIterator" "(I)Ljava/util/ListIterator;") ∈ lw_all := lw_g (lw_at lw_m10 169 rfl) rfl
theorem q2432 : (Jvm.Cond.declares ({ cls := "java/util/AbstractList", name := "listIterator", desc := "(I)Ljava/util/ListIterator;" } : Jvm.MethodName)) ∈ lw_tbl := lw_at lw_m10 204 rfl
/-! java/util/AbstractSequentialList -/
set_option maxRecDepth 100000
def RJ6 : String := "java/util/AbstractSequentialList"
abbrev cJ6_init : ByteArray := prog_48_method_1_code
def yJ6_init : MethodName := ⟨RJ6, "<init>", "()V"⟩
theorem dJ6_init_0 : decode cJ6_init 0 = .ok (.aload_n 0, 1) := by decide +kernel
theorem dJ6_init_1 : decode cJ6_init 1 = .ok (.invokespecial 1, 3) := by decide +kernel
theorem dJ6_init_4 : decode cJ6_init 4 = .ok (.return_, 1) := by decide +kernel
abbrev cJ6_iterator : ByteArray := prog_48_method_7_code
def yJ6_iterator : MethodName := ⟨RJ6, "iterator", "()Ljava/util/Iterator;"⟩
theorem dJ6_iterator_0 : decode cJ6_iterator 0 = .ok (.aload_n 0, 1) := by decide +kernel
theorem dJ6_iterator_1 : decode cJ6_iterator 1 = .ok (.invokevirtual 65, 3) := by decide +kernel
theorem dJ6_iterator_4 : decode cJ6_iterator 4 = .ok (.areturn, 1) := by decide +kernel
theorem q79 : (Jvm.Cond.initialized "java/util/AbstractSequentialList") ∈ lw_all := lw_g (lw_at lw_m1 11 rfl) rfl
theorem q395 : (Jvm.Cond.instanceMethod ({ cls := "java/util/AbstractSequentialList", name := "<init>", desc := "()V" } : Jvm.MethodName)) ∈ lw_all := lw_g (lw_at lw_m2 87 rfl) rfl
theorem q396 : (Jvm.Cond.code ({ cls := "java/util/AbstractSequentialList", name := "<init>", desc := "()V" } : Jvm.MethodName) prog_48_method_1_code (1 : Nat) (Option.none : Option Jvm.ClassFile.FieldType)) ∈ lw_all := lw_g (lw_at lw_m2 88 rfl) rfl
theorem q397 : (Jvm.Cond.methodLink "java/util/AbstractSequentialList" (1 : Nat) ({ cls := "java/util/AbstractList", name := "<init>", desc := "()V" } : Jvm.MethodName)) ∈ lw_all := lw_g (lw_at lw_m2 89 rfl) rfl
theorem q2385 : (Jvm.Cond.declares ({ cls := "java/util/AbstractSequentialList", name := "iterator", desc := "()Ljava/util/Iterator;" } : Jvm.MethodName)) ∈ lw_tbl := lw_at lw_m10 157 rfl
theorem q2387 : (Jvm.Cond.instanceMethod ({ cls := "java/util/AbstractSequentialList", name := "iterator", desc := "()Ljava/util/Iterator;" } : Jvm.MethodName)) ∈ lw_all := lw_g (lw_at lw_m10 159 rfl) rfl
theorem q2388 : (Jvm.Cond.code ({ cls := "java/util/AbstractSequentialList", name := "iterator", desc := "()Ljava/util/Iterator;" } : Jvm.MethodName) prog_48_method_7_code (1 : Nat) (Option.some (Jvm.ClassFile.FieldType.object "java/util/Iterator"))) ∈ lw_all := lw_g (lw_at lw_m10 160 rfl) rfl
theorem q2389 : (Jvm.Cond.methodLink "java/util/AbstractSequentialList" (65 : Nat) ({ cls := "java/util/AbstractSequentialList", name := "listIterator", desc := "()Ljava/util/ListIterator;" } : Jvm.MethodName)) ∈ lw_all := lw_g (lw_at lw_m10 161 rfl) rfl
theorem q2390 : (Jvm.Cond.sameMethod "java/util/AbstractSequentialList" "java/util/AbstractList" "listIterator" "()Ljava/util/ListIterator;") ∈ lw_all := lw_g (lw_at lw_m10 162 rfl) rfl
theorem q2561 : (Jvm.Cond.publicMethod ({ cls := "java/util/AbstractSequentialList", name := "iterator", desc := "()Ljava/util/Iterator;" } : Jvm.MethodName)) ∈ lw_tbl := lw_at lw_m11 93 rfl
/-! java/util/LinkedList -/
set_option maxRecDepth 100000
def RJ7 : String := "java/util/LinkedList"
def TJ7 : u_T := fun k => match k with
  | 0 => ("java/util/AbstractList", "modCount", "I", false)
  | 1 => ("java/util/LinkedList", "size", "I", false)
  | 2 => ("java/util/LinkedList", "first", "Ljava/util/LinkedList$Node;", false)
  | _ => ("java/util/LinkedList", "last", "Ljava/util/LinkedList$Node;", false)
def tyJ7 : Nat → FieldType := fun k => match k with
  | 0 => .int
  | 1 => .int
  | 2 => .object "java/util/LinkedList$Node"
  | _ => .object "java/util/LinkedList$Node"
abbrev wsJ70 : List Cond := u_ws RJ7 TJ7 4
theorem nmJ7 : ∀ a, a < 4 → ∀ b, b < 4 → a ≠ b → (TJ7 a).2.1 ≠ (TJ7 b).2.1 := by decide +kernel
theorem tyJ7_ok : ∀ k, k < 4 → parseFieldDescriptor (TJ7 k).2.2.1 = some (tyJ7 k) := by decide +kernel
abbrev cJ7_init : ByteArray := prog_70_method_1_code
def yJ7_init : MethodName := ⟨RJ7, "<init>", "()V"⟩
def dkwJ7_init_0 : List UInt8 := [42, 183, 0, 1, 42, 3, 181, 0, 7, 177]
abbrev dktJ7_init_0 : List UInt8 := dkwJ7_init_0 ++ []
theorem dksJ7_init_0 : cJ7_init.data.toList.drop 0 = dktJ7_init_0 := by decide +kernel
theorem dJ7_init_0 : decode cJ7_init 0 = .ok (.aload_n 0, 1) := dk_42 (dk_at dksJ7_init_0 0 rfl rfl)
theorem dJ7_init_1 : decode cJ7_init 1 = .ok (.invokespecial 1, 3) := dk_183 0 1 (dk_at dksJ7_init_0 1 rfl rfl)
theorem dJ7_init_4 : decode cJ7_init 4 = .ok (.aload_n 0, 1) := dk_42 (dk_at dksJ7_init_0 4 rfl rfl)
theorem dJ7_init_5 : decode cJ7_init 5 = .ok (.iconst 0, 1) := dk_3 (dk_at dksJ7_init_0 5 rfl rfl)
theorem dJ7_init_6 : decode cJ7_init 6 = .ok (.putfield 7, 3) := dk_181 0 7 (dk_at dksJ7_init_0 6 rfl rfl)
theorem dJ7_init_9 : decode cJ7_init 9 = .ok (.return_, 1) := dk_177 (dk_at dksJ7_init_0 9 rfl rfl)
abbrev cJ7_size : ByteArray := prog_70_method_16_code
def yJ7_size : MethodName := ⟨RJ7, "size", "()I"⟩
theorem dJ7_size_0 : decode cJ7_size 0 = .ok (.aload_n 0, 1) := by decide +kernel
theorem dJ7_size_1 : decode cJ7_size 1 = .ok (.getfield 7, 3) := by decide +kernel
theorem dJ7_size_4 : decode cJ7_size 4 = .ok (.ireturn, 1) := by decide +kernel
abbrev cJ7_get : ByteArray := prog_70_method_22_code
def yJ7_get : MethodName := ⟨RJ7, "get", "(I)Ljava/lang/Object;"⟩
def dkwJ7_get_0 : List UInt8 := [42, 27, 182, 0, 90, 42, 27, 182, 0, 86, 180, 0, 39, 176]
abbrev dktJ7_get_0 : List UInt8 := dkwJ7_get_0 ++ []
theorem dksJ7_get_0 : cJ7_get.data.toList.drop 0 = dktJ7_get_0 := by decide +kernel
theorem dJ7_get_0 : decode cJ7_get 0 = .ok (.aload_n 0, 1) := dk_42 (dk_at dksJ7_get_0 0 rfl rfl)
theorem dJ7_get_1 : decode cJ7_get 1 = .ok (.iload_n 1, 1) := dk_27 (dk_at dksJ7_get_0 1 rfl rfl)
theorem dJ7_get_2 : decode cJ7_get 2 = .ok (.invokevirtual 90, 3) := dk_182 0 90 (dk_at dksJ7_get_0 2 rfl rfl)
theorem dJ7_get_5 : decode cJ7_get 5 = .ok (.aload_n 0, 1) := dk_42 (dk_at dksJ7_get_0 5 rfl rfl)
theorem dJ7_get_6 : decode cJ7_get 6 = .ok (.iload_n 1, 1) := dk_27 (dk_at dksJ7_get_0 6 rfl rfl)
theorem dJ7_get_7 : decode cJ7_get 7 = .ok (.invokevirtual 86, 3) := dk_182 0 86 (dk_at dksJ7_get_0 7 rfl rfl)
theorem dJ7_get_10 : decode cJ7_get 10 = .ok (.getfield 39, 3) := dk_180 0 39 (dk_at dksJ7_get_0 10 rfl rfl)
theorem dJ7_get_13 : decode cJ7_get 13 = .ok (.areturn, 1) := dk_176 (dk_at dksJ7_get_0 13 rfl rfl)
abbrev cJ7_checkElementIndex : ByteArray := prog_70_method_29_code
def yJ7_checkElementIndex : MethodName := ⟨RJ7, "checkElementIndex", "(I)V"⟩
def dkwJ7_checkElementIndex_0 : List UInt8 := [42, 27, 182, 0, 115, 154, 0, 16, 187, 0, 119, 89, 42, 27, 182, 0, 121, 183, 0, 125, 191, 177]
abbrev dktJ7_checkElementIndex_0 : List UInt8 := dkwJ7_checkElementIndex_0 ++ []
theorem dksJ7_checkElementIndex_0 : cJ7_checkElementIndex.data.toList.drop 0 = dktJ7_checkElementIndex_0 := by decide +kernel
theorem dJ7_checkElementIndex_0 : decode cJ7_checkElementIndex 0 = .ok (.aload_n 0, 1) := dk_42 (dk_at dksJ7_checkElementIndex_0 0 rfl rfl)
theorem dJ7_checkElementIndex_1 : decode cJ7_checkElementIndex 1 = .ok (.iload_n 1, 1) := dk_27 (dk_at dksJ7_checkElementIndex_0 1 rfl rfl)
theorem dJ7_checkElementIndex_2 : decode cJ7_checkElementIndex 2 = .ok (.invokevirtual 115, 3) := dk_182 0 115 (dk_at dksJ7_checkElementIndex_0 2 rfl rfl)
theorem dJ7_checkElementIndex_5 : decode cJ7_checkElementIndex 5 = .ok (.ifCond .ne 16, 3) := dk_154 0 16 (dk_at dksJ7_checkElementIndex_0 5 rfl rfl)
theorem dJ7_checkElementIndex_8 : decode cJ7_checkElementIndex 8 = .ok (.new 119, 3) := dk_187 0 119 (dk_at dksJ7_checkElementIndex_0 8 rfl rfl)
theorem dJ7_checkElementIndex_11 : decode cJ7_checkElementIndex 11 = .ok (.dup, 1) := dk_89 (dk_at dksJ7_checkElementIndex_0 11 rfl rfl)
theorem dJ7_checkElementIndex_12 : decode cJ7_checkElementIndex 12 = .ok (.aload_n 0, 1) := dk_42 (dk_at dksJ7_checkElementIndex_0 12 rfl rfl)
theorem dJ7_checkElementIndex_13 : decode cJ7_checkElementIndex 13 = .ok (.iload_n 1, 1) := dk_27 (dk_at dksJ7_checkElementIndex_0 13 rfl rfl)
theorem dJ7_checkElementIndex_14 : decode cJ7_checkElementIndex 14 = .ok (.invokevirtual 121, 3) := dk_182 0 121 (dk_at dksJ7_checkElementIndex_0 14 rfl rfl)
theorem dJ7_checkElementIndex_17 : decode cJ7_checkElementIndex 17 = .ok (.invokespecial 125, 3) := dk_183 0 125 (dk_at dksJ7_checkElementIndex_0 17 rfl rfl)
theorem dJ7_checkElementIndex_20 : decode cJ7_checkElementIndex 20 = .ok (.athrow, 1) := dk_191 (dk_at dksJ7_checkElementIndex_0 20 rfl rfl)
theorem dJ7_checkElementIndex_21 : decode cJ7_checkElementIndex 21 = .ok (.return_, 1) := dk_177 (dk_at dksJ7_checkElementIndex_0 21 rfl rfl)
abbrev cJ7_isElementIndex : ByteArray := prog_70_method_26_code
def yJ7_isElementIndex : MethodName := ⟨RJ7, "isElementIndex", "(I)Z"⟩
def dkwJ7_isElementIndex_0 : List UInt8 := [27, 155, 0, 15, 27, 42, 180, 0, 7, 162, 0, 7, 4, 167, 0, 4, 3, 172]
abbrev dktJ7_isElementIndex_0 : List UInt8 := dkwJ7_isElementIndex_0 ++ []
theorem dksJ7_isElementIndex_0 : cJ7_isElementIndex.data.toList.drop 0 = dktJ7_isElementIndex_0 := by decide +kernel
theorem dJ7_isElementIndex_0 : decode cJ7_isElementIndex 0 = .ok (.iload_n 1, 1) := dk_27 (dk_at dksJ7_isElementIndex_0 0 rfl rfl)
theorem dJ7_isElementIndex_1 : decode cJ7_isElementIndex 1 = .ok (.ifCond .lt 15, 3) := dk_155 0 15 (dk_at dksJ7_isElementIndex_0 1 rfl rfl)
theorem dJ7_isElementIndex_4 : decode cJ7_isElementIndex 4 = .ok (.iload_n 1, 1) := dk_27 (dk_at dksJ7_isElementIndex_0 4 rfl rfl)
theorem dJ7_isElementIndex_5 : decode cJ7_isElementIndex 5 = .ok (.aload_n 0, 1) := dk_42 (dk_at dksJ7_isElementIndex_0 5 rfl rfl)
theorem dJ7_isElementIndex_6 : decode cJ7_isElementIndex 6 = .ok (.getfield 7, 3) := dk_180 0 7 (dk_at dksJ7_isElementIndex_0 6 rfl rfl)
theorem dJ7_isElementIndex_9 : decode cJ7_isElementIndex 9 = .ok (.if_icmp .ge 7, 3) := dk_162 0 7 (dk_at dksJ7_isElementIndex_0 9 rfl rfl)
theorem dJ7_isElementIndex_12 : decode cJ7_isElementIndex 12 = .ok (.iconst 1, 1) := dk_4 (dk_at dksJ7_isElementIndex_0 12 rfl rfl)
theorem dJ7_isElementIndex_13 : decode cJ7_isElementIndex 13 = .ok (.goto 4, 3) := dk_167 0 4 (dk_at dksJ7_isElementIndex_0 13 rfl rfl)
theorem dJ7_isElementIndex_16 : decode cJ7_isElementIndex 16 = .ok (.iconst 0, 1) := dk_3 (dk_at dksJ7_isElementIndex_0 16 rfl rfl)
theorem dJ7_isElementIndex_17 : decode cJ7_isElementIndex 17 = .ok (.ireturn, 1) := dk_172 (dk_at dksJ7_isElementIndex_0 17 rfl rfl)
abbrev cJ7_outOfBoundsMsg : ByteArray := prog_70_method_28_code
def yJ7_outOfBoundsMsg : MethodName := ⟨RJ7, "outOfBoundsMsg", "(I)Ljava/lang/String;"⟩
def dkwJ7_outOfBoundsMsg_1 : List UInt8 := [180, 0, 7, 182, 0, 106, 182, 0, 111, 176]
abbrev dktJ7_outOfBoundsMsg_1 : List UInt8 := dkwJ7_outOfBoundsMsg_1 ++ []
def dkwJ7_outOfBoundsMsg_0 : List UInt8 := [187, 0, 97, 89, 183, 0, 99, 18, 100, 182, 0, 102, 27, 182, 0, 106, 18, 109, 182, 0, 102, 42]
abbrev dktJ7_outOfBoundsMsg_0 : List UInt8 := dkwJ7_outOfBoundsMsg_0 ++ dktJ7_outOfBoundsMsg_1
theorem dksJ7_outOfBoundsMsg_0 : cJ7_outOfBoundsMsg.data.toList.drop 0 = dktJ7_outOfBoundsMsg_0 := by decide +kernel
theorem dksJ7_outOfBoundsMsg_1 : cJ7_outOfBoundsMsg.data.toList.drop 22 = dktJ7_outOfBoundsMsg_1 := dk_seg dksJ7_outOfBoundsMsg_0 22 rfl rfl
theorem dJ7_outOfBoundsMsg_0 : decode cJ7_outOfBoundsMsg 0 = .ok (.new 97, 3) := dk_187 0 97 (dk_at dksJ7_outOfBoundsMsg_0 0 rfl rfl)
theorem dJ7_outOfBoundsMsg_3 : decode cJ7_outOfBoundsMsg 3 = .ok (.dup, 1) := dk_89 (dk_at dksJ7_outOfBoundsMsg_0 3 rfl rfl)
theorem dJ7_outOfBoundsMsg_4 : decode cJ7_outOfBoundsMsg 4 = .ok (.invokespecial 99, 3) := dk_183 0 99 (dk_at dksJ7_outOfBoundsMsg_0 4 rfl rfl)
theorem dJ7_outOfBoundsMsg_7 : decode cJ7_outOfBoundsMsg 7 = .ok (.ldc 100, 2) := dk_18 100 (dk_at dksJ7_outOfBoundsMsg_0 7 rfl rfl)
theorem dJ7_outOfBoundsMsg_9 : decode cJ7_outOfBoundsMsg 9 = .ok (.invokevirtual 102, 3) := dk_182 0 102 (dk_at dksJ7_outOfBoundsMsg_0 9 rfl rfl)
theorem dJ7_outOfBoundsMsg_12 : decode cJ7_outOfBoundsMsg 12 = .ok (.iload_n 1, 1) := dk_27 (dk_at dksJ7_outOfBoundsMsg_0 12 rfl rfl)
theorem dJ7_outOfBoundsMsg_13 : decode cJ7_outOfBoundsMsg 13 = .ok (.invokevirtual 106, 3) := dk_182 0 106 (dk_at dksJ7_outOfBoundsMsg_0 13 rfl rfl)
theorem dJ7_outOfBoundsMsg_16 : decode cJ7_outOfBoundsMsg 16 = .ok (.ldc 109, 2) := dk_18 109 (dk_at dksJ7_outOfBoundsMsg_0 16 rfl rfl)
theorem dJ7_outOfBoundsMsg_18 : decode cJ7_outOfBoundsMsg 18 = .ok (.invokevirtual 102, 3) := dk_182 0 102 (dk_at dksJ7_outOfBoundsMsg_0 18 rfl rfl)
theorem dJ7_outOfBoundsMsg_21 : decode cJ7_outOfBoundsMsg 21 = .ok (.aload_n 0, 1) := dk_42 (dk_at dksJ7_outOfBoundsMsg_0 21 rfl rfl)
theorem dJ7_outOfBoundsMsg_22 : decode cJ7_outOfBoundsMsg 22 = .ok (.getfield 7, 3) := dk_180 0 7 (dk_at dksJ7_outOfBoundsMsg_1 0 rfl rfl)
theorem dJ7_outOfBoundsMsg_25 : decode cJ7_outOfBoundsMsg 25 = .ok (.invokevirtual 106, 3) := dk_182 0 106 (dk_at dksJ7_outOfBoundsMsg_1 3 rfl rfl)
theorem dJ7_outOfBoundsMsg_28 : decode cJ7_outOfBoundsMsg 28 = .ok (.invokevirtual 111, 3) := dk_182 0 111 (dk_at dksJ7_outOfBoundsMsg_1 6 rfl rfl)
theorem dJ7_outOfBoundsMsg_31 : decode cJ7_outOfBoundsMsg 31 = .ok (.areturn, 1) := dk_176 (dk_at dksJ7_outOfBoundsMsg_1 9 rfl rfl)
abbrev cJ7_node : ByteArray := prog_70_method_31_code
def yJ7_node : MethodName := ⟨RJ7, "node", "(I)Ljava/util/LinkedList$Node;"⟩
def dkwJ7_node_2 : List UInt8 := [29, 27, 164, 0, 14, 44, 180, 0, 30, 77, 132, 3, 255, 167, 255, 243, 44, 176]
abbrev dktJ7_node_2 : List UInt8 := dkwJ7_node_2 ++ []
def dkwJ7_node_1 : List UInt8 := [180, 0, 36, 77, 132, 3, 1, 167, 255, 243, 44, 176, 42, 180, 0, 27, 77, 42, 180, 0, 7, 4, 100, 62]
abbrev dktJ7_node_1 : List UInt8 := dkwJ7_node_1 ++ dktJ7_node_2
def dkwJ7_node_0 : List UInt8 := [27, 42, 180, 0, 7, 4, 122, 162, 0, 28, 42, 180, 0, 18, 77, 3, 62, 29, 27, 162, 0, 14, 44]
abbrev dktJ7_node_0 : List UInt8 := dkwJ7_node_0 ++ dktJ7_node_1
theorem dksJ7_node_0 : cJ7_node.data.toList.drop 0 = dktJ7_node_0 := by decide +kernel
theorem dksJ7_node_1 : cJ7_node.data.toList.drop 23 = dktJ7_node_1 := dk_seg dksJ7_node_0 23 rfl rfl
theorem dksJ7_node_2 : cJ7_node.data.toList.drop 47 = dktJ7_node_2 := dk_seg dksJ7_node_1 24 rfl rfl
theorem dJ7_node_0 : decode cJ7_node 0 = .ok (.iload_n 1, 1) := dk_27 (dk_at dksJ7_node_0 0 rfl rfl)
theorem dJ7_node_1 : decode cJ7_node 1 = .ok (.aload_n 0, 1) := dk_42 (dk_at dksJ7_node_0 1 rfl rfl)
theorem dJ7_node_2 : decode cJ7_node 2 = .ok (.getfield 7, 3) := dk_180 0 7 (dk_at dksJ7_node_0 2 rfl rfl)
theorem dJ7_node_5 : decode cJ7_node 5 = .ok (.iconst 1, 1) := dk_4 (dk_at dksJ7_node_0 5 rfl rfl)
theorem dJ7_node_6 : decode cJ7_node 6 = .ok (.ishr, 1) := dk_122 (dk_at dksJ7_node_0 6 rfl rfl)
theorem dJ7_node_7 : decode cJ7_node 7 = .ok (.if_icmp .ge 28, 3) := dk_162 0 28 (dk_at dksJ7_node_0 7 rfl rfl)
theorem dJ7_node_10 : decode cJ7_node 10 = .ok (.aload_n 0, 1) := dk_42 (dk_at dksJ7_node_0 10 rfl rfl)
theorem dJ7_node_11 : decode cJ7_node 11 = .ok (.getfield 18, 3) := dk_180 0 18 (dk_at dksJ7_node_0 11 rfl rfl)
theorem dJ7_node_14 : decode cJ7_node 14 = .ok (.astore_n 2, 1) := dk_77 (dk_at dksJ7_node_0 14 rfl rfl)
theorem dJ7_node_15 : decode cJ7_node 15 = .ok (.iconst 0, 1) := dk_3 (dk_at dksJ7_node_0 15 rfl rfl)
theorem dJ7_node_16 : decode cJ7_node 16 = .ok (.istore_n 3, 1) := dk_62 (dk_at dksJ7_node_0 16 rfl rfl)
theorem dJ7_node_17 : decode cJ7_node 17 = .ok (.iload_n 3, 1) := dk_29 (dk_at dksJ7_node_0 17 rfl rfl)
theorem dJ7_node_18 : decode cJ7_node 18 = .ok (.iload_n 1, 1) := dk_27 (dk_at dksJ7_node_0 18 rfl rfl)
theorem dJ7_node_19 : decode cJ7_node 19 = .ok (.if_icmp .ge 14, 3) := dk_162 0 14 (dk_at dksJ7_node_0 19 rfl rfl)
theorem dJ7_node_22 : decode cJ7_node 22 = .ok (.aload_n 2, 1) := dk_44 (dk_at dksJ7_node_0 22 rfl rfl)
theorem dJ7_node_23 : decode cJ7_node 23 = .ok (.getfield 36, 3) := dk_180 0 36 (dk_at dksJ7_node_1 0 rfl rfl)
theorem dJ7_node_26 : decode cJ7_node 26 = .ok (.astore_n 2, 1) := dk_77 (dk_at dksJ7_node_1 3 rfl rfl)
theorem dJ7_node_27 : decode cJ7_node 27 = .ok (.iinc 3 1, 3) := dk_132 3 1 (dk_at dksJ7_node_1 4 rfl rfl)
theorem dJ7_node_30 : decode cJ7_node 30 = .ok (.goto (-13), 3) := dk_167 255 243 (dk_at dksJ7_node_1 7 rfl rfl)
theorem dJ7_node_33 : decode cJ7_node 33 = .ok (.aload_n 2, 1) := dk_44 (dk_at dksJ7_node_1 10 rfl rfl)
theorem dJ7_node_34 : decode cJ7_node 34 = .ok (.areturn, 1) := dk_176 (dk_at dksJ7_node_1 11 rfl rfl)
theorem dJ7_node_35 : decode cJ7_node 35 = .ok (.aload_n 0, 1) := dk_42 (dk_at dksJ7_node_1 12 rfl rfl)
theorem dJ7_node_36 : decode cJ7_node 36 = .ok (.getfield 27, 3) := dk_180 0 27 (dk_at dksJ7_node_1 13 rfl rfl)
theorem dJ7_node_39 : decode cJ7_node 39 = .ok (.astore_n 2, 1) := dk_77 (dk_at dksJ7_node_1 16 rfl rfl)
theorem dJ7_node_40 : decode cJ7_node 40 = .ok (.aload_n 0, 1) := dk_42 (dk_at dksJ7_node_1 17 rfl rfl)
theorem dJ7_node_41 : decode cJ7_node 41 = .ok (.getfield 7, 3) := dk_180 0 7 (dk_at dksJ7_node_1 18 rfl rfl)
theorem dJ7_node_44 : decode cJ7_node 44 = .ok (.iconst 1, 1) := dk_4 (dk_at dksJ7_node_1 21 rfl rfl)
theorem dJ7_node_45 : decode cJ7_node 45 = .ok (.isub, 1) := dk_100 (dk_at dksJ7_node_1 22 rfl rfl)
theorem dJ7_node_46 : decode cJ7_node 46 = .ok (.istore_n 3, 1) := dk_62 (dk_at dksJ7_node_1 23 rfl rfl)
theorem dJ7_node_47 : decode cJ7_node 47 = .ok (.iload_n 3, 1) := dk_29 (dk_at dksJ7_node_2 0 rfl rfl)
theorem dJ7_node_48 : decode cJ7_node 48 = .ok (.iload_n 1, 1) := dk_27 (dk_at dksJ7_node_2 1 rfl rfl)
theorem dJ7_node_49 : decode cJ7_node 49 = .ok (.if_icmp .le 14, 3) := dk_164 0 14 (dk_at dksJ7_node_2 2 rfl rfl)
theorem dJ7_node_52 : decode cJ7_node 52 = .ok (.aload_n 2, 1) := dk_44 (dk_at dksJ7_node_2 5 rfl rfl)
theorem dJ7_node_53 : decode cJ7_node 53 = .ok (.getfield 30, 3) := dk_180 0 30 (dk_at dksJ7_node_2 6 rfl rfl)
theorem dJ7_node_56 : decode cJ7_node 56 = .ok (.astore_n 2, 1) := dk_77 (dk_at dksJ7_node_2 9 rfl rfl)
theorem dJ7_node_57 : decode cJ7_node 57 = .ok (.iinc 3 (-1), 3) := dk_132 3 255 (dk_at dksJ7_node_2 10 rfl rfl)
theorem dJ7_node_60 : decode cJ7_node 60 = .ok (.goto (-13), 3) := dk_167 255 243 (dk_at dksJ7_node_2 13 rfl rfl)
theorem dJ7_node_63 : decode cJ7_node 63 = .ok (.aload_n 2, 1) := dk_44 (dk_at dksJ7_node_2 16 rfl rfl)
theorem dJ7_node_64 : decode cJ7_node 64 = .ok (.areturn, 1) := dk_176 (dk_at dksJ7_node_2 17 rfl rfl)
abbrev cJ7_remove : ByteArray := prog_70_method_25_code
def yJ7_remove : MethodName := ⟨RJ7, "remove", "(I)Ljava/lang/Object;"⟩
def dkwJ7_remove_0 : List UInt8 := [42, 27, 182, 0, 90, 42, 42, 27, 182, 0, 86, 182, 0, 64, 176]
abbrev dktJ7_remove_0 : List UInt8 := dkwJ7_remove_0 ++ []
theorem dksJ7_remove_0 : cJ7_remove.data.toList.drop 0 = dktJ7_remove_0 := by decide +kernel
theorem dJ7_remove_0 : decode cJ7_remove 0 = .ok (.aload_n 0, 1) := dk_42 (dk_at dksJ7_remove_0 0 rfl rfl)
theorem dJ7_remove_1 : decode cJ7_remove 1 = .ok (.iload_n 1, 1) := dk_27 (dk_at dksJ7_remove_0 1 rfl rfl)
theorem dJ7_remove_2 : decode cJ7_remove 2 = .ok (.invokevirtual 90, 3) := dk_182 0 90 (dk_at dksJ7_remove_0 2 rfl rfl)
theorem dJ7_remove_5 : decode cJ7_remove 5 = .ok (.aload_n 0, 1) := dk_42 (dk_at dksJ7_remove_0 5 rfl rfl)
theorem dJ7_remove_6 : decode cJ7_remove 6 = .ok (.aload_n 0, 1) := dk_42 (dk_at dksJ7_remove_0 6 rfl rfl)
theorem dJ7_remove_7 : decode cJ7_remove 7 = .ok (.iload_n 1, 1) := dk_27 (dk_at dksJ7_remove_0 7 rfl rfl)
theorem dJ7_remove_8 : decode cJ7_remove 8 = .ok (.invokevirtual 86, 3) := dk_182 0 86 (dk_at dksJ7_remove_0 8 rfl rfl)
theorem dJ7_remove_11 : decode cJ7_remove 11 = .ok (.invokevirtual 64, 3) := dk_182 0 64 (dk_at dksJ7_remove_0 11 rfl rfl)
theorem dJ7_remove_14 : decode cJ7_remove 14 = .ok (.areturn, 1) := dk_176 (dk_at dksJ7_remove_0 14 rfl rfl)
abbrev cJ7_unlink : ByteArray := prog_70_method_8_code
def yJ7_unlink : MethodName := ⟨RJ7, "unlink", "(Ljava/util/LinkedList$Node;)Ljava/lang/Object;"⟩
def dkwJ7_unlink_3 : List UInt8 := [180, 0, 7, 4, 100, 181, 0, 7, 42, 89, 180, 0, 33, 4, 96, 181, 0, 33, 44, 176]
abbrev dktJ7_unlink_3 : List UInt8 := dkwJ7_unlink_3 ++ []
def dkwJ7_unlink_2 : List UInt8 := [181, 0, 27, 167, 0, 14, 45, 25, 4, 181, 0, 30, 43, 1, 181, 0, 36, 43, 1, 181, 0, 39, 42, 89]
abbrev dktJ7_unlink_2 : List UInt8 := dkwJ7_unlink_2 ++ dktJ7_unlink_3
def dkwJ7_unlink_1 : List UInt8 := [181, 0, 18, 167, 0, 14, 25, 4, 45, 181, 0, 36, 43, 1, 181, 0, 30, 45, 199, 0, 12, 42, 25, 4]
abbrev dktJ7_unlink_1 : List UInt8 := dkwJ7_unlink_1 ++ dktJ7_unlink_2
def dkwJ7_unlink_0 : List UInt8 := [43, 180, 0, 39, 77, 43, 180, 0, 36, 78, 43, 180, 0, 30, 58, 4, 25, 4, 199, 0, 11, 42, 45]
abbrev dktJ7_unlink_0 : List UInt8 := dkwJ7_unlink_0 ++ dktJ7_unlink_1
theorem dksJ7_unlink_0 : cJ7_unlink.data.toList.drop 0 = dktJ7_unlink_0 := by decide +kernel
theorem dksJ7_unlink_1 : cJ7_unlink.data.toList.drop 23 = dktJ7_unlink_1 := dk_seg dksJ7_unlink_0 23 rfl rfl
theorem dksJ7_unlink_2 : cJ7_unlink.data.toList.drop 47 = dktJ7_unlink_2 := dk_seg dksJ7_unlink_1 24 rfl rfl
theorem dksJ7_unlink_3 : cJ7_unlink.data.toList.drop 71 = dktJ7_unlink_3 := dk_seg dksJ7_unlink_2 24 rfl rfl
theorem dJ7_unlink_0 : decode cJ7_unlink 0 = .ok (.aload_n 1, 1) := dk_43 (dk_at dksJ7_unlink_0 0 rfl rfl)
theorem dJ7_unlink_1 : decode cJ7_unlink 1 = .ok (.getfield 39, 3) := dk_180 0 39 (dk_at dksJ7_unlink_0 1 rfl rfl)
theorem dJ7_unlink_4 : decode cJ7_unlink 4 = .ok (.astore_n 2, 1) := dk_77 (dk_at dksJ7_unlink_0 4 rfl rfl)
theorem dJ7_unlink_5 : decode cJ7_unlink 5 = .ok (.aload_n 1, 1) := dk_43 (dk_at dksJ7_unlink_0 5 rfl rfl)
theorem dJ7_unlink_6 : decode cJ7_unlink 6 = .ok (.getfield 36, 3) := dk_180 0 36 (dk_at dksJ7_unlink_0 6 rfl rfl)
theorem dJ7_unlink_9 : decode cJ7_unlink 9 = .ok (.astore_n 3, 1) := dk_78 (dk_at dksJ7_unlink_0 9 rfl rfl)
theorem dJ7_unlink_10 : decode cJ7_unlink 10 = .ok (.aload_n 1, 1) := dk_43 (dk_at dksJ7_unlink_0 10 rfl rfl)
theorem dJ7_unlink_11 : decode cJ7_unlink 11 = .ok (.getfield 30, 3) := dk_180 0 30 (dk_at dksJ7_unlink_0 11 rfl rfl)
theorem dJ7_unlink_14 : decode cJ7_unlink 14 = .ok (.astore 4, 2) := dk_58 4 (dk_at dksJ7_unlink_0 14 rfl rfl)
theorem dJ7_unlink_16 : decode cJ7_unlink 16 = .ok (.aload 4, 2) := dk_25 4 (dk_at dksJ7_unlink_0 16 rfl rfl)
theorem dJ7_unlink_18 : decode cJ7_unlink 18 = .ok (.ifnonnull 11, 3) := dk_199 0 11 (dk_at dksJ7_unlink_0 18 rfl rfl)
theorem dJ7_unlink_21 : decode cJ7_unlink 21 = .ok (.aload_n 0, 1) := dk_42 (dk_at dksJ7_unlink_0 21 rfl rfl)
theorem dJ7_unlink_22 : decode cJ7_unlink 22 = .ok (.aload_n 3, 1) := dk_45 (dk_at dksJ7_unlink_0 22 rfl rfl)
theorem dJ7_unlink_23 : decode cJ7_unlink 23 = .ok (.putfield 18, 3) := dk_181 0 18 (dk_at dksJ7_unlink_1 0 rfl rfl)
theorem dJ7_unlink_26 : decode cJ7_unlink 26 = .ok (.goto 14, 3) := dk_167 0 14 (dk_at dksJ7_unlink_1 3 rfl rfl)
theorem dJ7_unlink_29 : decode cJ7_unlink 29 = .ok (.aload 4, 2) := dk_25 4 (dk_at dksJ7_unlink_1 6 rfl rfl)
theorem dJ7_unlink_31 : decode cJ7_unlink 31 = .ok (.aload_n 3, 1) := dk_45 (dk_at dksJ7_unlink_1 8 rfl rfl)
theorem dJ7_unlink_32 : decode cJ7_unlink 32 = .ok (.putfield 36, 3) := dk_181 0 36 (dk_at dksJ7_unlink_1 9 rfl rfl)
theorem dJ7_unlink_35 : decode cJ7_unlink 35 = .ok (.aload_n 1, 1) := dk_43 (dk_at dksJ7_unlink_1 12 rfl rfl)
theorem dJ7_unlink_36 : decode cJ7_unlink 36 = .ok (.aconst_null, 1) := dk_1 (dk_at dksJ7_unlink_1 13 rfl rfl)
theorem dJ7_unlink_37 : decode cJ7_unlink 37 = .ok (.putfield 30, 3) := dk_181 0 30 (dk_at dksJ7_unlink_1 14 rfl rfl)
theorem dJ7_unlink_40 : decode cJ7_unlink 40 = .ok (.aload_n 3, 1) := dk_45 (dk_at dksJ7_unlink_1 17 rfl rfl)
theorem dJ7_unlink_41 : decode cJ7_unlink 41 = .ok (.ifnonnull 12, 3) := dk_199 0 12 (dk_at dksJ7_unlink_1 18 rfl rfl)
theorem dJ7_unlink_44 : decode cJ7_unlink 44 = .ok (.aload_n 0, 1) := dk_42 (dk_at dksJ7_unlink_1 21 rfl rfl)
theorem dJ7_unlink_45 : decode cJ7_unlink 45 = .ok (.aload 4, 2) := dk_25 4 (dk_at dksJ7_unlink_1 22 rfl rfl)
theorem dJ7_unlink_47 : decode cJ7_unlink 47 = .ok (.putfield 27, 3) := dk_181 0 27 (dk_at dksJ7_unlink_2 0 rfl rfl)
theorem dJ7_unlink_50 : decode cJ7_unlink 50 = .ok (.goto 14, 3) := dk_167 0 14 (dk_at dksJ7_unlink_2 3 rfl rfl)
theorem dJ7_unlink_53 : decode cJ7_unlink 53 = .ok (.aload_n 3, 1) := dk_45 (dk_at dksJ7_unlink_2 6 rfl rfl)
theorem dJ7_unlink_54 : decode cJ7_unlink 54 = .ok (.aload 4, 2) := dk_25 4 (dk_at dksJ7_unlink_2 7 rfl rfl)
theorem dJ7_unlink_56 : decode cJ7_unlink 56 = .ok (.putfield 30, 3) := dk_181 0 30 (dk_at dksJ7_unlink_2 9 rfl rfl)
theorem dJ7_unlink_59 : decode cJ7_unlink 59 = .ok (.aload_n 1, 1) := dk_43 (dk_at dksJ7_unlink_2 12 rfl rfl)
theorem dJ7_unlink_60 : decode cJ7_unlink 60 = .ok (.aconst_null, 1) := dk_1 (dk_at dksJ7_unlink_2 13 rfl rfl)
theorem dJ7_unlink_61 : decode cJ7_unlink 61 = .ok (.putfield 36, 3) := dk_181 0 36 (dk_at dksJ7_unlink_2 14 rfl rfl)
theorem dJ7_unlink_64 : decode cJ7_unlink 64 = .ok (.aload_n 1, 1) := dk_43 (dk_at dksJ7_unlink_2 17 rfl rfl)
theorem dJ7_unlink_65 : decode cJ7_unlink 65 = .ok (.aconst_null, 1) := dk_1 (dk_at dksJ7_unlink_2 18 rfl rfl)
theorem dJ7_unlink_66 : decode cJ7_unlink 66 = .ok (.putfield 39, 3) := dk_181 0 39 (dk_at dksJ7_unlink_2 19 rfl rfl)
theorem dJ7_unlink_69 : decode cJ7_unlink 69 = .ok (.aload_n 0, 1) := dk_42 (dk_at dksJ7_unlink_2 22 rfl rfl)
theorem dJ7_unlink_70 : decode cJ7_unlink 70 = .ok (.dup, 1) := dk_89 (dk_at dksJ7_unlink_2 23 rfl rfl)
theorem dJ7_unlink_71 : decode cJ7_unlink 71 = .ok (.getfield 7, 3) := dk_180 0 7 (dk_at dksJ7_unlink_3 0 rfl rfl)
theorem dJ7_unlink_74 : decode cJ7_unlink 74 = .ok (.iconst 1, 1) := dk_4 (dk_at dksJ7_unlink_3 3 rfl rfl)
theorem dJ7_unlink_75 : decode cJ7_unlink 75 = .ok (.isub, 1) := dk_100 (dk_at dksJ7_unlink_3 4 rfl rfl)
theorem dJ7_unlink_76 : decode cJ7_unlink 76 = .ok (.putfield 7, 3) := dk_181 0 7 (dk_at dksJ7_unlink_3 5 rfl rfl)
theorem dJ7_unlink_79 : decode cJ7_unlink 79 = .ok (.aload_n 0, 1) := dk_42 (dk_at dksJ7_unlink_3 8 rfl rfl)
theorem dJ7_unlink_80 : decode cJ7_unlink 80 = .ok (.dup, 1) := dk_89 (dk_at dksJ7_unlink_3 9 rfl rfl)
theorem dJ7_unlink_81 : decode cJ7_unlink 81 = .ok (.getfield 33, 3) := dk_180 0 33 (dk_at dksJ7_unlink_3 10 rfl rfl)
theorem dJ7_unlink_84 : decode cJ7_unlink 84 = .ok (.iconst 1, 1) := dk_4 (dk_at dksJ7_unlink_3 13 rfl rfl)
theorem dJ7_unlink_85 : decode cJ7_unlink 85 = .ok (.iadd, 1) := dk_96 (dk_at dksJ7_unlink_3 14 rfl rfl)
theorem dJ7_unlink_86 : decode cJ7_unlink 86 = .ok (.putfield 33, 3) := dk_181 0 33 (dk_at dksJ7_unlink_3 15 rfl rfl)
theorem dJ7_unlink_89 : decode cJ7_unlink 89 = .ok (.aload_n 2, 1) := dk_44 (dk_at dksJ7_unlink_3 18 rfl rfl)
theorem dJ7_unlink_90 : decode cJ7_unlink 90 = .ok (.areturn, 1) := dk_176 (dk_at dksJ7_unlink_3 19 rfl rfl)
abbrev cJ7_add : ByteArray := prog_70_method_17_code
def yJ7_add : MethodName := ⟨RJ7, "add", "(Ljava/lang/Object;)Z"⟩
def dkwJ7_add_0 : List UInt8 := [42, 43, 182, 0, 57, 4, 172]
abbrev dktJ7_add_0 : List UInt8 := dkwJ7_add_0 ++ []
theorem dksJ7_add_0 : cJ7_add.data.toList.drop 0 = dktJ7_add_0 := by decide +kernel
theorem dJ7_add_0 : decode cJ7_add 0 = .ok (.aload_n 0, 1) := dk_42 (dk_at dksJ7_add_0 0 rfl rfl)
theorem dJ7_add_1 : decode cJ7_add 1 = .ok (.aload_n 1, 1) := dk_43 (dk_at dksJ7_add_0 1 rfl rfl)
theorem dJ7_add_2 : decode cJ7_add 2 = .ok (.invokevirtual 57, 3) := dk_182 0 57 (dk_at dksJ7_add_0 2 rfl rfl)
theorem dJ7_add_5 : decode cJ7_add 5 = .ok (.iconst 1, 1) := dk_4 (dk_at dksJ7_add_0 5 rfl rfl)
theorem dJ7_add_6 : decode cJ7_add 6 = .ok (.ireturn, 1) := dk_172 (dk_at dksJ7_add_0 6 rfl rfl)
abbrev cJ7_linkLast : ByteArray := prog_70_method_4_code
def yJ7_linkLast : MethodName := ⟨RJ7, "linkLast", "(Ljava/lang/Object;)V"⟩
def dkwJ7_linkLast_2 : List UInt8 := [181, 0, 7, 42, 89, 180, 0, 33, 4, 96, 181, 0, 33, 177]
abbrev dktJ7_linkLast_2 : List UInt8 := dkwJ7_linkLast_2 ++ []
def dkwJ7_linkLast_1 : List UInt8 := [199, 0, 11, 42, 45, 181, 0, 18, 167, 0, 8, 44, 45, 181, 0, 36, 42, 89, 180, 0, 7, 4, 96]
abbrev dktJ7_linkLast_1 : List UInt8 := dkwJ7_linkLast_1 ++ dktJ7_linkLast_2
def dkwJ7_linkLast_0 : List UInt8 := [42, 180, 0, 27, 77, 187, 0, 22, 89, 44, 43, 1, 183, 0, 24, 78, 42, 45, 181, 0, 27, 44]
abbrev dktJ7_linkLast_0 : List UInt8 := dkwJ7_linkLast_0 ++ dktJ7_linkLast_1
theorem dksJ7_linkLast_0 : cJ7_linkLast.data.toList.drop 0 = dktJ7_linkLast_0 := by decide +kernel
theorem dksJ7_linkLast_1 : cJ7_linkLast.data.toList.drop 22 = dktJ7_linkLast_1 := dk_seg dksJ7_linkLast_0 22 rfl rfl
theorem dksJ7_linkLast_2 : cJ7_linkLast.data.toList.drop 45 = dktJ7_linkLast_2 := dk_seg dksJ7_linkLast_1 23 rfl rfl
theorem dJ7_linkLast_0 : decode cJ7_linkLast 0 = .ok (.aload_n 0, 1) := dk_42 (dk_at dksJ7_linkLast_0 0 rfl rfl)
theorem dJ7_linkLast_1 : decode cJ7_linkLast 1 = .ok (.getfield 27, 3) := dk_180 0 27 (dk_at dksJ7_linkLast_0 1 rfl rfl)
theorem dJ7_linkLast_4 : decode cJ7_linkLast 4 = .ok (.astore_n 2, 1) := dk_77 (dk_at dksJ7_linkLast_0 4 rfl rfl)
theorem dJ7_linkLast_5 : decode cJ7_linkLast 5 = .ok (.new 22, 3) := dk_187 0 22 (dk_at dksJ7_linkLast_0 5 rfl rfl)
theorem dJ7_linkLast_8 : decode cJ7_linkLast 8 = .ok (.dup, 1) := dk_89 (dk_at dksJ7_linkLast_0 8 rfl rfl)
theorem dJ7_linkLast_9 : decode cJ7_linkLast 9 = .ok (.aload_n 2, 1) := dk_44 (dk_at dksJ7_linkLast_0 9 rfl rfl)
theorem dJ7_linkLast_10 : decode cJ7_linkLast 10 = .ok (.aload_n 1, 1) := dk_43 (dk_at dksJ7_linkLast_0 10 rfl rfl)
theorem dJ7_linkLast_11 : decode cJ7_linkLast 11 = .ok (.aconst_null, 1) := dk_1 (dk_at dksJ7_linkLast_0 11 rfl rfl)
theorem dJ7_linkLast_12 : decode cJ7_linkLast 12 = .ok (.invokespecial 24, 3) := dk_183 0 24 (dk_at dksJ7_linkLast_0 12 rfl rfl)
theorem dJ7_linkLast_15 : decode cJ7_linkLast 15 = .ok (.astore_n 3, 1) := dk_78 (dk_at dksJ7_linkLast_0 15 rfl rfl)
theorem dJ7_linkLast_16 : decode cJ7_linkLast 16 = .ok (.aload_n 0, 1) := dk_42 (dk_at dksJ7_linkLast_0 16 rfl rfl)
theorem dJ7_linkLast_17 : decode cJ7_linkLast 17 = .ok (.aload_n 3, 1) := dk_45 (dk_at dksJ7_linkLast_0 17 rfl rfl)
theorem dJ7_linkLast_18 : decode cJ7_linkLast 18 = .ok (.putfield 27, 3) := dk_181 0 27 (dk_at dksJ7_linkLast_0 18 rfl rfl)
theorem dJ7_linkLast_21 : decode cJ7_linkLast 21 = .ok (.aload_n 2, 1) := dk_44 (dk_at dksJ7_linkLast_0 21 rfl rfl)
theorem dJ7_linkLast_22 : decode cJ7_linkLast 22 = .ok (.ifnonnull 11, 3) := dk_199 0 11 (dk_at dksJ7_linkLast_1 0 rfl rfl)
theorem dJ7_linkLast_25 : decode cJ7_linkLast 25 = .ok (.aload_n 0, 1) := dk_42 (dk_at dksJ7_linkLast_1 3 rfl rfl)
theorem dJ7_linkLast_26 : decode cJ7_linkLast 26 = .ok (.aload_n 3, 1) := dk_45 (dk_at dksJ7_linkLast_1 4 rfl rfl)
theorem dJ7_linkLast_27 : decode cJ7_linkLast 27 = .ok (.putfield 18, 3) := dk_181 0 18 (dk_at dksJ7_linkLast_1 5 rfl rfl)
theorem dJ7_linkLast_30 : decode cJ7_linkLast 30 = .ok (.goto 8, 3) := dk_167 0 8 (dk_at dksJ7_linkLast_1 8 rfl rfl)
theorem dJ7_linkLast_33 : decode cJ7_linkLast 33 = .ok (.aload_n 2, 1) := dk_44 (dk_at dksJ7_linkLast_1 11 rfl rfl)
theorem dJ7_linkLast_34 : decode cJ7_linkLast 34 = .ok (.aload_n 3, 1) := dk_45 (dk_at dksJ7_linkLast_1 12 rfl rfl)
theorem dJ7_linkLast_35 : decode cJ7_linkLast 35 = .ok (.putfield 36, 3) := dk_181 0 36 (dk_at dksJ7_linkLast_1 13 rfl rfl)
theorem dJ7_linkLast_38 : decode cJ7_linkLast 38 = .ok (.aload_n 0, 1) := dk_42 (dk_at dksJ7_linkLast_1 16 rfl rfl)
theorem dJ7_linkLast_39 : decode cJ7_linkLast 39 = .ok (.dup, 1) := dk_89 (dk_at dksJ7_linkLast_1 17 rfl rfl)
theorem dJ7_linkLast_40 : decode cJ7_linkLast 40 = .ok (.getfield 7, 3) := dk_180 0 7 (dk_at dksJ7_linkLast_1 18 rfl rfl)
theorem dJ7_linkLast_43 : decode cJ7_linkLast 43 = .ok (.iconst 1, 1) := dk_4 (dk_at dksJ7_linkLast_1 21 rfl rfl)
theorem dJ7_linkLast_44 : decode cJ7_linkLast 44 = .ok (.iadd, 1) := dk_96 (dk_at dksJ7_linkLast_1 22 rfl rfl)
theorem dJ7_linkLast_45 : decode cJ7_linkLast 45 = .ok (.putfield 7, 3) := dk_181 0 7 (dk_at dksJ7_linkLast_2 0 rfl rfl)
theorem dJ7_linkLast_48 : decode cJ7_linkLast 48 = .ok (.aload_n 0, 1) := dk_42 (dk_at dksJ7_linkLast_2 3 rfl rfl)
theorem dJ7_linkLast_49 : decode cJ7_linkLast 49 = .ok (.dup, 1) := dk_89 (dk_at dksJ7_linkLast_2 4 rfl rfl)
theorem dJ7_linkLast_50 : decode cJ7_linkLast 50 = .ok (.getfield 33, 3) := dk_180 0 33 (dk_at dksJ7_linkLast_2 5 rfl rfl)
theorem dJ7_linkLast_53 : decode cJ7_linkLast 53 = .ok (.iconst 1, 1) := dk_4 (dk_at dksJ7_linkLast_2 8 rfl rfl)
theorem dJ7_linkLast_54 : decode cJ7_linkLast 54 = .ok (.iadd, 1) := dk_96 (dk_at dksJ7_linkLast_2 9 rfl rfl)
theorem dJ7_linkLast_55 : decode cJ7_linkLast 55 = .ok (.putfield 33, 3) := dk_181 0 33 (dk_at dksJ7_linkLast_2 10 rfl rfl)
theorem dJ7_linkLast_58 : decode cJ7_linkLast 58 = .ok (.return_, 1) := dk_177 (dk_at dksJ7_linkLast_2 13 rfl rfl)
abbrev cJ7_listIterator : ByteArray := prog_70_method_49_code
def yJ7_listIterator : MethodName := ⟨RJ7, "listIterator", "(I)Ljava/util/ListIterator;"⟩
def dkwJ7_listIterator_0 : List UInt8 := [42, 27, 182, 0, 76, 187, 0, 150, 89, 42, 27, 183, 0, 152, 176]
abbrev dktJ7_listIterator_0 : List UInt8 := dkwJ7_listIterator_0 ++ []
theorem dksJ7_listIterator_0 : cJ7_listIterator.data.toList.drop 0 = dktJ7_listIterator_0 := by decide +kernel
theorem dJ7_listIterator_0 : decode cJ7_listIterator 0 = .ok (.aload_n 0, 1) := dk_42 (dk_at dksJ7_listIterator_0 0 rfl rfl)
theorem dJ7_listIterator_1 : decode cJ7_listIterator 1 = .ok (.iload_n 1, 1) := dk_27 (dk_at dksJ7_listIterator_0 1 rfl rfl)
theorem dJ7_listIterator_2 : decode cJ7_listIterator 2 = .ok (.invokevirtual 76, 3) := dk_182 0 76 (dk_at dksJ7_listIterator_0 2 rfl rfl)
theorem dJ7_listIterator_5 : decode cJ7_listIterator 5 = .ok (.new 150, 3) := dk_187 0 150 (dk_at dksJ7_listIterator_0 5 rfl rfl)
theorem dJ7_listIterator_8 : decode cJ7_listIterator 8 = .ok (.dup, 1) := dk_89 (dk_at dksJ7_listIterator_0 8 rfl rfl)
theorem dJ7_listIterator_9 : decode cJ7_listIterator 9 = .ok (.aload_n 0, 1) := dk_42 (dk_at dksJ7_listIterator_0 9 rfl rfl)
theorem dJ7_listIterator_10 : decode cJ7_listIterator 10 = .ok (.iload_n 1, 1) := dk_27 (dk_at dksJ7_listIterator_0 10 rfl rfl)
theorem dJ7_listIterator_11 : decode cJ7_listIterator 11 = .ok (.invokespecial 152, 3) := dk_183 0 152 (dk_at dksJ7_listIterator_0 11 rfl rfl)
theorem dJ7_listIterator_14 : decode cJ7_listIterator 14 = .ok (.areturn, 1) := dk_176 (dk_at dksJ7_listIterator_0 14 rfl rfl)
abbrev cJ7_checkPositionIndex : ByteArray := prog_70_method_30_code
def yJ7_checkPositionIndex : MethodName := ⟨RJ7, "checkPositionIndex", "(I)V"⟩
def dkwJ7_checkPositionIndex_0 : List UInt8 := [42, 27, 182, 0, 128, 154, 0, 16, 187, 0, 119, 89, 42, 27, 182, 0, 121, 183, 0, 125, 191, 177]
abbrev dktJ7_checkPositionIndex_0 : List UInt8 := dkwJ7_checkPositionIndex_0 ++ []
theorem dksJ7_checkPositionIndex_0 : cJ7_checkPositionIndex.data.toList.drop 0 = dktJ7_checkPositionIndex_0 := by decide +kernel
theorem dJ7_checkPositionIndex_0 : decode cJ7_checkPositionIndex 0 = .ok (.aload_n 0, 1) := dk_42 (dk_at dksJ7_checkPositionIndex_0 0 rfl rfl)
theorem dJ7_checkPositionIndex_1 : decode cJ7_checkPositionIndex 1 = .ok (.iload_n 1, 1) := dk_27 (dk_at dksJ7_checkPositionIndex_0 1 rfl rfl)
theorem dJ7_checkPositionIndex_2 : decode cJ7_checkPositionIndex 2 = .ok (.invokevirtual 128, 3) := dk_182 0 128 (dk_at dksJ7_checkPositionIndex_0 2 rfl rfl)
theorem dJ7_checkPositionIndex_5 : decode cJ7_checkPositionIndex 5 = .ok (.ifCond .ne 16, 3) := dk_154 0 16 (dk_at dksJ7_checkPositionIndex_0 5 rfl rfl)
theorem dJ7_checkPositionIndex_8 : decode cJ7_checkPositionIndex 8 = .ok (.new 119, 3) := dk_187 0 119 (dk_at dksJ7_checkPositionIndex_0 8 rfl rfl)
theorem dJ7_checkPositionIndex_11 : decode cJ7_checkPositionIndex 11 = .ok (.dup, 1) := dk_89 (dk_at dksJ7_checkPositionIndex_0 11 rfl rfl)
theorem dJ7_checkPositionIndex_12 : decode cJ7_checkPositionIndex 12 = .ok (.aload_n 0, 1) := dk_42 (dk_at dksJ7_checkPositionIndex_0 12 rfl rfl)
theorem dJ7_checkPositionIndex_13 : decode cJ7_checkPositionIndex 13 = .ok (.iload_n 1, 1) := dk_27 (dk_at dksJ7_checkPositionIndex_0 13 rfl rfl)
theorem dJ7_checkPositionIndex_14 : decode cJ7_checkPositionIndex 14 = .ok (.invokevirtual 121, 3) := dk_182 0 121 (dk_at dksJ7_checkPositionIndex_0 14 rfl rfl)
theorem dJ7_checkPositionIndex_17 : decode cJ7_checkPositionIndex 17 = .ok (.invokespecial 125, 3) := dk_183 0 125 (dk_at dksJ7_checkPositionIndex_0 17 rfl rfl)
theorem dJ7_checkPositionIndex_20 : decode cJ7_checkPositionIndex 20 = .ok (.athrow, 1) := dk_191 (dk_at dksJ7_checkPositionIndex_0 20 rfl rfl)
theorem dJ7_checkPositionIndex_21 : decode cJ7_checkPositionIndex 21 = .ok (.return_, 1) := dk_177 (dk_at dksJ7_checkPositionIndex_0 21 rfl rfl)
abbrev cJ7_isPositionIndex : ByteArray := prog_70_method_27_code
def yJ7_isPositionIndex : MethodName := ⟨RJ7, "isPositionIndex", "(I)Z"⟩
def dkwJ7_isPositionIndex_0 : List UInt8 := [27, 155, 0, 15, 27, 42, 180, 0, 7, 163, 0, 7, 4, 167, 0, 4, 3, 172]
abbrev dktJ7_isPositionIndex_0 : List UInt8 := dkwJ7_isPositionIndex_0 ++ []
theorem dksJ7_isPositionIndex_0 : cJ7_isPositionIndex.data.toList.drop 0 = dktJ7_isPositionIndex_0 := by decide +kernel
theorem dJ7_isPositionIndex_0 : decode cJ7_isPositionIndex 0 = .ok (.iload_n 1, 1) := dk_27 (dk_at dksJ7_isPositionIndex_0 0 rfl rfl)
theorem dJ7_isPositionIndex_1 : decode cJ7_isPositionIndex 1 = .ok (.ifCond .lt 15, 3) := dk_155 0 15 (dk_at dksJ7_isPositionIndex_0 1 rfl rfl)
theorem dJ7_isPositionIndex_4 : decode cJ7_isPositionIndex 4 = .ok (.iload_n 1, 1) := dk_27 (dk_at dksJ7_isPositionIndex_0 4 rfl rfl)
theorem dJ7_isPositionIndex_5 : decode cJ7_isPositionIndex 5 = .ok (.aload_n 0, 1) := dk_42 (dk_at dksJ7_isPositionIndex_0 5 rfl rfl)
theorem dJ7_isPositionIndex_6 : decode cJ7_isPositionIndex 6 = .ok (.getfield 7, 3) := dk_180 0 7 (dk_at dksJ7_isPositionIndex_0 6 rfl rfl)
theorem dJ7_isPositionIndex_9 : decode cJ7_isPositionIndex 9 = .ok (.if_icmp .gt 7, 3) := dk_163 0 7 (dk_at dksJ7_isPositionIndex_0 9 rfl rfl)
theorem dJ7_isPositionIndex_12 : decode cJ7_isPositionIndex 12 = .ok (.iconst 1, 1) := dk_4 (dk_at dksJ7_isPositionIndex_0 12 rfl rfl)
theorem dJ7_isPositionIndex_13 : decode cJ7_isPositionIndex 13 = .ok (.goto 4, 3) := dk_167 0 4 (dk_at dksJ7_isPositionIndex_0 13 rfl rfl)
theorem dJ7_isPositionIndex_16 : decode cJ7_isPositionIndex 16 = .ok (.iconst 0, 1) := dk_3 (dk_at dksJ7_isPositionIndex_0 16 rfl rfl)
theorem dJ7_isPositionIndex_17 : decode cJ7_isPositionIndex 17 = .ok (.ireturn, 1) := dk_172 (dk_at dksJ7_isPositionIndex_0 17 rfl rfl)
theorem q80 : (Jvm.Cond.initialized "java/util/LinkedList") ∈ lw_all := lw_g (lw_at lw_m1 12 rfl) rfl
theorem q390 : (Jvm.Cond.instantiable "java/util/LinkedList" (4 : Nat)) ∈ lw_all := lw_g (lw_at lw_m2 82 rfl) rfl
theorem q392 : (Jvm.Cond.instanceMethod ({ cls := "java/util/LinkedList", name := "<init>", desc := "()V" } : Jvm.MethodName)) ∈ lw_all := lw_g (lw_at lw_m2 84 rfl) rfl
theorem q393 : (Jvm.Cond.code ({ cls := "java/util/LinkedList", name := "<init>", desc := "()V" } : Jvm.MethodName) prog_70_method_1_code (1 : Nat) (Option.none : Option Jvm.ClassFile.FieldType)) ∈ lw_all := lw_g (lw_at lw_m2 85 rfl) rfl
theorem q394 : (Jvm.Cond.methodLink "java/util/LinkedList" (1 : Nat) ({ cls := "java/util/AbstractSequentialList", name := "<init>", desc := "()V" } : Jvm.MethodName)) ∈ lw_all := lw_g (lw_at lw_m2 86 rfl) rfl
theorem q401 : (Jvm.Cond.fieldLink "java/util/LinkedList" (7 : Nat) "java/util/LinkedList" "size" "I") ∈ lw_all := lw_g (lw_at lw_m2 93 rfl) rfl
theorem q403 : (Jvm.Cond.fieldLink "java/util/LinkedList" (18 : Nat) "java/util/LinkedList" "first" "Ljava/util/LinkedList$Node;") ∈ lw_all := lw_g (lw_at lw_m2 95 rfl) rfl
theorem q404 : (Jvm.Cond.fieldLink "java/util/LinkedList" (27 : Nat) "java/util/LinkedList" "last" "Ljava/util/LinkedList$Node;") ∈ lw_all := lw_g (lw_at lw_m2 96 rfl) rfl
theorem q407 : (Jvm.Cond.sameField "java/util/LinkedList" "java/util/AbstractList" "modCount" "I") ∈ lw_all := lw_g (lw_at lw_m2 99 rfl) rfl
theorem q409 : (Jvm.Cond.fieldLink "java/util/LinkedList" (33 : Nat) "java/util/LinkedList" "modCount" "I") ∈ lw_all := lw_g (lw_at lw_m2 101 rfl) rfl
theorem q410 : (Jvm.Cond.lays "java/util/LinkedList" "java/util/LinkedList" "size" "I") ∈ lw_all := lw_g (lw_at lw_m2 102 rfl) rfl
theorem q411 : (Jvm.Cond.soleField "java/util/LinkedList" "size") ∈ lw_all := lw_g (lw_at lw_m2 103 rfl) rfl
theorem q412 : (Jvm.Cond.lays "java/util/LinkedList" "java/util/LinkedList" "first" "Ljava/util/LinkedList$Node;") ∈ lw_all := lw_g (lw_at lw_m2 104 rfl) rfl
theorem q413 : (Jvm.Cond.soleField "java/util/LinkedList" "first") ∈ lw_all := lw_g (lw_at lw_m2 105 rfl) rfl
theorem q414 : (Jvm.Cond.lays "java/util/LinkedList" "java/util/LinkedList" "last" "Ljava/util/LinkedList$Node;") ∈ lw_all := lw_g (lw_at lw_m2 106 rfl) rfl
theorem q415 : (Jvm.Cond.soleField "java/util/LinkedList" "last") ∈ lw_all := lw_g (lw_at lw_m2 107 rfl) rfl
theorem q416 : (Jvm.Cond.lays "java/util/LinkedList" "java/util/AbstractList" "modCount" "I") ∈ lw_all := lw_g (lw_at lw_m2 108 rfl) rfl
theorem q418 : (Jvm.Cond.superclass "java/util/LinkedList" "java/util/AbstractSequentialList") ∈ lw_all := lw_g (lw_at lw_m2 110 rfl) rfl
theorem q599 : (Jvm.Cond.selects "java/util/LinkedList" ({ cls := "java/util/AbstractList", name := "size", desc := "()I" } : Jvm.MethodName) ({ cls := "java/util/LinkedList", name := "size", desc := "()I" } : Jvm.MethodName)) ∈ lw_all := lw_g (lw_at lw_m3 51 rfl) rfl
theorem q600 : (Jvm.Cond.instanceMethod ({ cls := "java/util/LinkedList", name := "size", desc := "()I" } : Jvm.MethodName)) ∈ lw_all := lw_g (lw_at lw_m3 52 rfl) rfl
theorem q601 : (Jvm.Cond.code ({ cls := "java/util/LinkedList", name := "size", desc := "()I" } : Jvm.MethodName) prog_70_method_16_code (1 : Nat) (Option.some Jvm.ClassFile.FieldType.int)) ∈ lw_all := lw_g (lw_at lw_m3 53 rfl) rfl
theorem q643 : (Jvm.Cond.selects "java/util/LinkedList" ({ cls := "java/util/AbstractList", name := "get", desc := "(I)Ljava/lang/Object;" } : Jvm.MethodName) ({ cls := "java/util/LinkedList", name := "get", desc := "(I)Ljava/lang/Object;" } : Jvm.MethodName)) ∈ lw_all := lw_g (lw_at lw_m3 95 rfl) rfl
theorem q644 : (Jvm.Cond.instanceMethod ({ cls := "java/util/LinkedList", name := "get", desc := "(I)Ljava/lang/Object;" } : Jvm.MethodName)) ∈ lw_all := lw_g (lw_at lw_m3 96 rfl) rfl
theorem q645 : (Jvm.Cond.code ({ cls := "java/util/LinkedList", name := "get", desc := "(I)Ljava/lang/Object;" } : Jvm.MethodName) prog_70_method_22_code (2 : Nat) (Option.some (Jvm.ClassFile.FieldType.object "java/lang/Object"))) ∈ lw_all := lw_g (lw_at lw_m3 97 rfl) rfl
theorem q646 : (Jvm.Cond.methodLink "java/util/LinkedList" (90 : Nat) ({ cls := "java/util/LinkedList", name := "checkElementIndex", desc := "(I)V" } : Jvm.MethodName)) ∈ lw_all := lw_g (lw_at lw_m3 98 rfl) rfl
theorem q647 : (Jvm.Cond.privateMethod ({ cls := "java/util/LinkedList", name := "checkElementIndex", desc := "(I)V" } : Jvm.MethodName)) ∈ lw_tbl := lw_at lw_m3 99 rfl
theorem q648 : (Jvm.Cond.instanceMethod ({ cls := "java/util/LinkedList", name := "checkElementIndex", desc := "(I)V" } : Jvm.MethodName)) ∈ lw_all := lw_g (lw_at lw_m3 100 rfl) rfl
theorem q649 : (Jvm.Cond.code ({ cls := "java/util/LinkedList", name := "checkElementIndex", desc := "(I)V" } : Jvm.MethodName) prog_70_method_29_code (2 : Nat) (Option.none : Option Jvm.ClassFile.FieldType)) ∈ lw_all := lw_g (lw_at lw_m3 101 rfl) rfl
theorem q650 : (Jvm.Cond.methodLink "java/util/LinkedList" (115 : Nat) ({ cls := "java/util/LinkedList", name := "isElementIndex", desc := "(I)Z" } : Jvm.MethodName)) ∈ lw_all := lw_g (lw_at lw_m3 102 rfl) rfl
theorem q651 : (Jvm.Cond.privateMethod ({ cls := "java/util/LinkedList", name := "isElementIndex", desc := "(I)Z" } : Jvm.MethodName)) ∈ lw_tbl := lw_at lw_m3 103 rfl
theorem q652 : (Jvm.Cond.instanceMethod ({ cls := "java/util/LinkedList", name := "isElementIndex", desc := "(I)Z" } : Jvm.MethodName)) ∈ lw_all := lw_g (lw_at lw_m3 104 rfl) rfl
theorem q653 : (Jvm.Cond.code ({ cls := "java/util/LinkedList", name := "isElementIndex", desc := "(I)Z" } : Jvm.MethodName) prog_70_method_26_code (2 : Nat) (Option.some Jvm.ClassFile.FieldType.boolean)) ∈ lw_all := lw_g (lw_at lw_m3 105 rfl) rfl
theorem q654 : (Jvm.Cond.classLink "java/util/LinkedList" (119 : Nat) "java/lang/IndexOutOfBoundsException") ∈ lw_all := lw_g (lw_at lw_m3 106 rfl) rfl
theorem q715 : (Jvm.Cond.methodLink "java/util/LinkedList" (121 : Nat) ({ cls := "java/util/LinkedList", name := "outOfBoundsMsg", desc := "(I)Ljava/lang/String;" } : Jvm.MethodName)) ∈ lw_all := lw_g (lw_at lw_m3 167 rfl) rfl
theorem q716 : (Jvm.Cond.privateMethod ({ cls := "java/util/LinkedList", name := "outOfBoundsMsg", desc := "(I)Ljava/lang/String;" } : Jvm.MethodName)) ∈ lw_tbl := lw_at lw_m3 168 rfl
theorem q717 : (Jvm.Cond.instanceMethod ({ cls := "java/util/LinkedList", name := "outOfBoundsMsg", desc := "(I)Ljava/lang/String;" } : Jvm.MethodName)) ∈ lw_all := lw_g (lw_at lw_m3 169 rfl) rfl
theorem q718 : (Jvm.Cond.code ({ cls := "java/util/LinkedList", name := "outOfBoundsMsg", desc := "(I)Ljava/lang/String;" } : Jvm.MethodName) prog_70_method_28_code (2 : Nat) (Option.some (Jvm.ClassFile.FieldType.object "java/lang/String"))) ∈ lw_all := lw_g (lw_at lw_m3 170 rfl) rfl
theorem q719 : (Jvm.Cond.classLink "java/util/LinkedList" (97 : Nat) "java/lang/StringBuilder") ∈ lw_all := lw_g (lw_at lw_m3 171 rfl) rfl
theorem q721 : (Jvm.Cond.methodLink "java/util/LinkedList" (99 : Nat) ({ cls := "java/lang/StringBuilder", name := "<init>", desc := "()V" } : Jvm.MethodName)) ∈ lw_all := lw_g (lw_at lw_m3 173 rfl) rfl
theorem q782 : (Jvm.Cond.stringRef "java/util/LinkedList" (100 : Nat) "Index: ") ∈ lw_tbl := lw_at lw_m3 234 rfl
theorem q783 : (Jvm.Cond.methodLink "java/util/LinkedList" (102 : Nat) ({ cls := "java/lang/StringBuilder", name := "append", desc := "(Ljava/lang/String;)Ljava/lang/StringBuilder;" } : Jvm.MethodName)) ∈ lw_all := lw_g (lw_at lw_m3 235 rfl) rfl
theorem q901 : (Jvm.Cond.methodLink "java/util/LinkedList" (106 : Nat) ({ cls := "java/lang/StringBuilder", name := "append", desc := "(I)Ljava/lang/StringBuilder;" } : Jvm.MethodName)) ∈ lw_all := lw_g (lw_at lw_m4 113 rfl) rfl
theorem q926 : (Jvm.Cond.stringRef "java/util/LinkedList" (109 : Nat) ", Size: ") ∈ lw_tbl := lw_at lw_m4 138 rfl
theorem q927 : (Jvm.Cond.methodLink "java/util/LinkedList" (111 : Nat) ({ cls := "java/lang/StringBuilder", name := "toString", desc := "()Ljava/lang/String;" } : Jvm.MethodName)) ∈ lw_all := lw_g (lw_at lw_m4 139 rfl) rfl
theorem q989 : (Jvm.Cond.methodLink "java/util/LinkedList" (125 : Nat) ({ cls := "java/lang/IndexOutOfBoundsException", name := "<init>", desc := "(Ljava/lang/String;)V" } : Jvm.MethodName)) ∈ lw_all := lw_g (lw_at lw_m4 201 rfl) rfl
theorem q1003 : (Jvm.Cond.methodLink "java/util/LinkedList" (86 : Nat) ({ cls := "java/util/LinkedList", name := "node", desc := "(I)Ljava/util/LinkedList$Node;" } : Jvm.MethodName)) ∈ lw_all := lw_g (lw_at lw_m4 215 rfl) rfl
theorem q1004 : (Jvm.Cond.instanceMethod ({ cls := "java/util/LinkedList", name := "node", desc := "(I)Ljava/util/LinkedList$Node;" } : Jvm.MethodName)) ∈ lw_all := lw_g (lw_at lw_m4 216 rfl) rfl
theorem q1005 : (Jvm.Cond.selects "java/util/LinkedList" ({ cls := "java/util/LinkedList", name := "node", desc := "(I)Ljava/util/LinkedList$Node;" } : Jvm.MethodName) ({ cls := "java/util/LinkedList", name := "node", desc := "(I)Ljava/util/LinkedList$Node;" } : Jvm.MethodName)) ∈ lw_all := lw_g (lw_at lw_m4 217 rfl) rfl
theorem q1006 : (Jvm.Cond.code ({ cls := "java/util/LinkedList", name := "node", desc := "(I)Ljava/util/LinkedList$Node;" } : Jvm.MethodName) prog_70_method_31_code (4 : Nat) (Option.some (Jvm.ClassFile.FieldType.object "java/util/LinkedList$Node"))) ∈ lw_all := lw_g (lw_at lw_m4 218 rfl) rfl
theorem q1081 : (Jvm.Cond.selects "java/util/LinkedList" ({ cls := "java/lang/Object", name := "getClass", desc := "()Ljava/lang/Class;" } : Jvm.MethodName) ({ cls := "java/lang/Object", name := "getClass", desc := "()Ljava/lang/Class;" } : Jvm.MethodName)) ∈ lw_all := lw_g (lw_at lw_m5 53 rfl) rfl
theorem q1259 : (Jvm.Cond.selects "java/util/LinkedList" ({ cls := "java/util/AbstractList", name := "remove", desc := "(I)Ljava/lang/Object;" } : Jvm.MethodName) ({ cls := "java/util/LinkedList", name := "remove", desc := "(I)Ljava/lang/Object;" } : Jvm.MethodName)) ∈ lw_all := lw_g (lw_at lw_m5 231 rfl) rfl
theorem q1260 : (Jvm.Cond.instanceMethod ({ cls := "java/util/LinkedList", name := "remove", desc := "(I)Ljava/lang/Object;" } : Jvm.MethodName)) ∈ lw_all := lw_g (lw_at lw_m5 232 rfl) rfl
theorem q1261 : (Jvm.Cond.code ({ cls := "java/util/LinkedList", name := "remove", desc := "(I)Ljava/lang/Object;" } : Jvm.MethodName) prog_70_method_25_code (2 : Nat) (Option.some (Jvm.ClassFile.FieldType.object "java/lang/Object"))) ∈ lw_all := lw_g (lw_at lw_m5 233 rfl) rfl
theorem q1262 : (Jvm.Cond.methodLink "java/util/LinkedList" (64 : Nat) ({ cls := "java/util/LinkedList", name := "unlink", desc := "(Ljava/util/LinkedList$Node;)Ljava/lang/Object;" } : Jvm.MethodName)) ∈ lw_all := lw_g (lw_at lw_m5 234 rfl) rfl
theorem q1263 : (Jvm.Cond.instanceMethod ({ cls := "java/util/LinkedList", name := "unlink", desc := "(Ljava/util/LinkedList$Node;)Ljava/lang/Object;" } : Jvm.MethodName)) ∈ lw_all := lw_g (lw_at lw_m5 235 rfl) rfl
theorem q1264 : (Jvm.Cond.selects "java/util/LinkedList" ({ cls := "java/util/LinkedList", name := "unlink", desc := "(Ljava/util/LinkedList$Node;)Ljava/lang/Object;" } : Jvm.MethodName) ({ cls := "java/util/LinkedList", name := "unlink", desc := "(Ljava/util/LinkedList$Node;)Ljava/lang/Object;" } : Jvm.MethodName)) ∈ lw_all := lw_g (lw_at lw_m5 236 rfl) rfl
theorem q1265 : (Jvm.Cond.code ({ cls := "java/util/LinkedList", name := "unlink", desc := "(Ljava/util/LinkedList$Node;)Ljava/lang/Object;" } : Jvm.MethodName) prog_70_method_8_code (5 : Nat) (Option.some (Jvm.ClassFile.FieldType.object "java/lang/Object"))) ∈ lw_all := lw_g (lw_at lw_m5 237 rfl) rfl
theorem q2340 : (Jvm.Cond.instanceMethod ({ cls := "java/util/LinkedList", name := "add", desc := "(Ljava/lang/Object;)Z" } : Jvm.MethodName)) ∈ lw_all := lw_g (lw_at lw_m10 112 rfl) rfl
theorem q2341 : (Jvm.Cond.selects "java/util/LinkedList" ({ cls := "java/util/LinkedList", name := "add", desc := "(Ljava/lang/Object;)Z" } : Jvm.MethodName) ({ cls := "java/util/LinkedList", name := "add", desc := "(Ljava/lang/Object;)Z" } : Jvm.MethodName)) ∈ lw_all := lw_g (lw_at lw_m10 113 rfl) rfl
theorem q2342 : (Jvm.Cond.code ({ cls := "java/util/LinkedList", name := "add", desc := "(Ljava/lang/Object;)Z" } : Jvm.MethodName) prog_70_method_17_code (2 : Nat) (Option.some Jvm.ClassFile.FieldType.boolean)) ∈ lw_all := lw_g (lw_at lw_m10 114 rfl) rfl
theorem q2343 : (Jvm.Cond.methodLink "java/util/LinkedList" (57 : Nat) ({ cls := "java/util/LinkedList", name := "linkLast", desc := "(Ljava/lang/Object;)V" } : Jvm.MethodName)) ∈ lw_all := lw_g (lw_at lw_m10 115 rfl) rfl
theorem q2344 : (Jvm.Cond.instanceMethod ({ cls := "java/util/LinkedList", name := "linkLast", desc := "(Ljava/lang/Object;)V" } : Jvm.MethodName)) ∈ lw_all := lw_g (lw_at lw_m10 116 rfl) rfl
theorem q2345 : (Jvm.Cond.selects "java/util/LinkedList" ({ cls := "java/util/LinkedList", name := "linkLast", desc := "(Ljava/lang/Object;)V" } : Jvm.MethodName) ({ cls := "java/util/LinkedList", name := "linkLast", desc := "(Ljava/lang/Object;)V" } : Jvm.MethodName)) ∈ lw_all := lw_g (lw_at lw_m10 117 rfl) rfl
theorem q2346 : (Jvm.Cond.code ({ cls := "java/util/LinkedList", name := "linkLast", desc := "(Ljava/lang/Object;)V" } : Jvm.MethodName) prog_70_method_4_code (4 : Nat) (Option.none : Option Jvm.ClassFile.FieldType)) ∈ lw_all := lw_g (lw_at lw_m10 118 rfl) rfl
theorem q2347 : (Jvm.Cond.classLink "java/util/LinkedList" (22 : Nat) "java/util/LinkedList$Node") ∈ lw_all := lw_g (lw_at lw_m10 119 rfl) rfl
theorem q2349 : (Jvm.Cond.methodLink "java/util/LinkedList" (24 : Nat) ({ cls := "java/util/LinkedList$Node", name := "<init>", desc := "(Ljava/util/LinkedList$Node;Ljava/lang/Object;Ljava/util/LinkedList$Node;)V" } : Jvm.MethodName)) ∈ lw_all := lw_g (lw_at lw_m10 121 rfl) rfl
theorem q2355 : (Jvm.Cond.fieldLink "java/util/LinkedList" (39 : Nat) "java/util/LinkedList$Node" "item" "Ljava/lang/Object;") ∈ lw_all := lw_g (lw_at lw_m10 127 rfl) rfl
theorem q2358 : (Jvm.Cond.fieldLink "java/util/LinkedList" (36 : Nat) "java/util/LinkedList$Node" "next" "Ljava/util/LinkedList$Node;") ∈ lw_all := lw_g (lw_at lw_m10 130 rfl) rfl
theorem q2360 : (Jvm.Cond.fieldLink "java/util/LinkedList" (30 : Nat) "java/util/LinkedList$Node" "prev" "Ljava/util/LinkedList$Node;") ∈ lw_all := lw_g (lw_at lw_m10 132 rfl) rfl
theorem q2384 : (Jvm.Cond.sameMethod "java/util/LinkedList" "java/util/AbstractSequentialList" "iterator" "()Ljava/util/Iterator;") ∈ lw_all := lw_g (lw_at lw_m10 156 rfl) rfl
theorem q2386 : (Jvm.Cond.selects "java/util/LinkedList" ({ cls := "java/util/LinkedList", name := "iterator", desc := "()Ljava/util/Iterator;" } : Jvm.MethodName) ({ cls := "java/util/AbstractSequentialList", name := "iterator", desc := "()Ljava/util/Iterator;" } : Jvm.MethodName)) ∈ lw_all := lw_g (lw_at lw_m10 158 rfl) rfl
theorem q2392 : (Jvm.Cond.selects "java/util/LinkedList" ({ cls := "java/util/AbstractSequentialList", name := "listIterator", desc := "()Ljava/util/ListIterator;" } : Jvm.MethodName) ({ cls := "java/util/AbstractList", name := "listIterator", desc := "()Ljava/util/ListIterator;" } : Jvm.MethodName)) ∈ lw_all := lw_g (lw_at lw_m10 164 rfl) rfl
theorem q2398 : (Jvm.Cond.selects "java/util/LinkedList" ({ cls := "java/util/AbstractList", name := "listIterator", desc := "(I)Ljava/util/ListIterator;" } : Jvm.MethodName) ({ cls := "java/util/LinkedList", name := "listIterator", desc := "(I)Ljava/util/ListIterator;" } : Jvm.MethodName)) ∈ lw_all := lw_g (lw_at lw_m10 170 rfl) rfl
theorem q2399 : (Jvm.Cond.instanceMethod ({ cls := "java/util/LinkedList", name := "listIterator", desc := "(I)Ljava/util/ListIterator;" } : Jvm.MethodName)) ∈ lw_all := lw_g (lw_at lw_m10 171 rfl) rfl
theorem q2400 : (Jvm.Cond.code ({ cls := "java/util/LinkedList", name := "listIterator", desc := "(I)Ljava/util/ListIterator;" } : Jvm.MethodName) prog_70_method_49_code (2 : Nat) (Option.some (Jvm.ClassFile.FieldType.object "java/util/ListIterator"))) ∈ lw_all := lw_g (lw_at lw_m10 172 rfl) rfl
theorem q2401 : (Jvm.Cond.methodLink "java/util/LinkedList" (76 : Nat) ({ cls := "java/util/LinkedList", name := "checkPositionIndex", desc := "(I)V" } : Jvm.MethodName)) ∈ lw_all := lw_g (lw_at lw_m10 173 rfl) rfl
theorem q2402 : (Jvm.Cond.privateMethod ({ cls := "java/util/LinkedList", name := "checkPositionIndex", desc := "(I)V" } : Jvm.MethodName)) ∈ lw_tbl := lw_at lw_m10 174 rfl
theorem q2403 : (Jvm.Cond.instanceMethod ({ cls := "java/util/LinkedList", name := "checkPositionIndex", desc := "(I)V" } : Jvm.MethodName)) ∈ lw_all := lw_g (lw_at lw_m10 175 rfl) rfl
theorem q2404 : (Jvm.Cond.code ({ cls := "java/util/LinkedList", name := "checkPositionIndex", desc := "(I)V" } : Jvm.MethodName) prog_70_method_30_code (2 : Nat) (Option.none : Option Jvm.ClassFile.FieldType)) ∈ lw_all := lw_g (lw_at lw_m10 176 rfl) rfl
theorem q2405 : (Jvm.Cond.methodLink "java/util/LinkedList" (128 : Nat) ({ cls := "java/util/LinkedList", name := "isPositionIndex", desc := "(I)Z" } : Jvm.MethodName)) ∈ lw_all := lw_g (lw_at lw_m10 177 rfl) rfl
theorem q2406 : (Jvm.Cond.privateMethod ({ cls := "java/util/LinkedList", name := "isPositionIndex", desc := "(I)Z" } : Jvm.MethodName)) ∈ lw_tbl := lw_at lw_m10 178 rfl
theorem q2407 : (Jvm.Cond.instanceMethod ({ cls := "java/util/LinkedList", name := "isPositionIndex", desc := "(I)Z" } : Jvm.MethodName)) ∈ lw_all := lw_g (lw_at lw_m10 179 rfl) rfl
theorem q2408 : (Jvm.Cond.code ({ cls := "java/util/LinkedList", name := "isPositionIndex", desc := "(I)Z" } : Jvm.MethodName) prog_70_method_27_code (2 : Nat) (Option.some Jvm.ClassFile.FieldType.boolean)) ∈ lw_all := lw_g (lw_at lw_m10 180 rfl) rfl
theorem q2409 : (Jvm.Cond.classLink "java/util/LinkedList" (150 : Nat) "java/util/LinkedList$ListItr") ∈ lw_all := lw_g (lw_at lw_m10 181 rfl) rfl
theorem q2411 : (Jvm.Cond.methodLink "java/util/LinkedList" (152 : Nat) ({ cls := "java/util/LinkedList$ListItr", name := "<init>", desc := "(Ljava/util/LinkedList;I)V" } : Jvm.MethodName)) ∈ lw_all := lw_g (lw_at lw_m10 183 rfl) rfl
theorem q2558 : (Jvm.Cond.castable "java/util/LinkedList" "java/util/Collection") ∈ lw_tbl := lw_at lw_m11 90 rfl
theorem q2559 : (Jvm.Cond.selects "java/util/LinkedList" ({ cls := "java/util/Collection", name := "iterator", desc := "()Ljava/util/Iterator;" } : Jvm.MethodName) ({ cls := "java/util/AbstractSequentialList", name := "iterator", desc := "()Ljava/util/Iterator;" } : Jvm.MethodName)) ∈ lw_all := lw_g (lw_at lw_m11 91 rfl) rfl
theorem q2560 : (Jvm.Cond.unhidden "java/util/LinkedList" "iterator" "()Ljava/util/Iterator;") ∈ lw_tbl := lw_at lw_m11 92 rfl
theorem q3029 : (Jvm.Cond.selects "java/util/LinkedList" ({ cls := "java/util/LinkedList", name := "size", desc := "()I" } : Jvm.MethodName) ({ cls := "java/util/LinkedList", name := "size", desc := "()I" } : Jvm.MethodName)) ∈ lw_all := lw_g (lw_at lw_m13 81 rfl) rfl
theorem q3030 : (Jvm.Cond.selects "java/util/LinkedList" ({ cls := "java/util/LinkedList", name := "get", desc := "(I)Ljava/lang/Object;" } : Jvm.MethodName) ({ cls := "java/util/LinkedList", name := "get", desc := "(I)Ljava/lang/Object;" } : Jvm.MethodName)) ∈ lw_all := lw_g (lw_at lw_m13 82 rfl) rfl
theorem q3040 : (Jvm.Cond.castable "java/util/LinkedList" "java/util/SequencedCollection") ∈ lw_tbl := lw_at lw_m13 92 rfl
theorem q3050 : (Jvm.Cond.castable "java/util/LinkedList" "java/lang/Object") ∈ lw_tbl := lw_at lw_m13 102 rfl
theorem in_J7 : ∀ w ∈ wsJ70, w ∈ lw_all := lw_in wsJ70 [416, 410, 412, 414] (by decide +kernel) (by decide +kernel)
/-! java/lang/Math -/
set_option maxRecDepth 100000
def RJ8 : String := "java/lang/Math"
abbrev cJ8_min : ByteArray := prog_29_method_69_code
def yJ8_min : MethodName := ⟨RJ8, "min", "(II)I"⟩
def dkwJ8_min_0 : List UInt8 := [26, 27, 163, 0, 7, 26, 167, 0, 4, 27, 172]
abbrev dktJ8_min_0 : List UInt8 := dkwJ8_min_0 ++ []
theorem dksJ8_min_0 : cJ8_min.data.toList.drop 0 = dktJ8_min_0 := by decide +kernel
theorem dJ8_min_0 : decode cJ8_min 0 = .ok (.iload_n 0, 1) := dk_26 (dk_at dksJ8_min_0 0 rfl rfl)
theorem dJ8_min_1 : decode cJ8_min 1 = .ok (.iload_n 1, 1) := dk_27 (dk_at dksJ8_min_0 1 rfl rfl)
theorem dJ8_min_2 : decode cJ8_min 2 = .ok (.if_icmp .gt 7, 3) := dk_163 0 7 (dk_at dksJ8_min_0 2 rfl rfl)
theorem dJ8_min_5 : decode cJ8_min 5 = .ok (.iload_n 0, 1) := dk_26 (dk_at dksJ8_min_0 5 rfl rfl)
theorem dJ8_min_6 : decode cJ8_min 6 = .ok (.goto 4, 3) := dk_167 0 4 (dk_at dksJ8_min_0 6 rfl rfl)
theorem dJ8_min_9 : decode cJ8_min 9 = .ok (.iload_n 1, 1) := dk_27 (dk_at dksJ8_min_0 9 rfl rfl)
theorem dJ8_min_10 : decode cJ8_min 10 = .ok (.ireturn, 1) := dk_172 (dk_at dksJ8_min_0 10 rfl rfl)
abbrev cJ8_max : ByteArray := prog_29_method_65_code
def yJ8_max : MethodName := ⟨RJ8, "max", "(II)I"⟩
def dkwJ8_max_0 : List UInt8 := [26, 27, 161, 0, 7, 26, 167, 0, 4, 27, 172]
abbrev dktJ8_max_0 : List UInt8 := dkwJ8_max_0 ++ []
theorem dksJ8_max_0 : cJ8_max.data.toList.drop 0 = dktJ8_max_0 := by decide +kernel
theorem dJ8_max_0 : decode cJ8_max 0 = .ok (.iload_n 0, 1) := dk_26 (dk_at dksJ8_max_0 0 rfl rfl)
theorem dJ8_max_1 : decode cJ8_max 1 = .ok (.iload_n 1, 1) := dk_27 (dk_at dksJ8_max_0 1 rfl rfl)
theorem dJ8_max_2 : decode cJ8_max 2 = .ok (.if_icmp .lt 7, 3) := dk_161 0 7 (dk_at dksJ8_max_0 2 rfl rfl)
theorem dJ8_max_5 : decode cJ8_max 5 = .ok (.iload_n 0, 1) := dk_26 (dk_at dksJ8_max_0 5 rfl rfl)
theorem dJ8_max_6 : decode cJ8_max 6 = .ok (.goto 4, 3) := dk_167 0 4 (dk_at dksJ8_max_0 6 rfl rfl)
theorem dJ8_max_9 : decode cJ8_max 9 = .ok (.iload_n 1, 1) := dk_27 (dk_at dksJ8_max_0 9 rfl rfl)
theorem dJ8_max_10 : decode cJ8_max 10 = .ok (.ireturn, 1) := dk_172 (dk_at dksJ8_max_0 10 rfl rfl)
theorem q83 : (Jvm.Cond.initialized "java/lang/Math") ∈ lw_all := lw_g (lw_at lw_m1 15 rfl) rfl
theorem q494 : (Jvm.Cond.static ({ cls := "java/lang/Math", name := "min", desc := "(II)I" } : Jvm.MethodName)) ∈ lw_all := lw_g (lw_at lw_m2 186 rfl) rfl
theorem q495 : (Jvm.Cond.code ({ cls := "java/lang/Math", name := "min", desc := "(II)I" } : Jvm.MethodName) prog_29_method_69_code (2 : Nat) (Option.some Jvm.ClassFile.FieldType.int)) ∈ lw_all := lw_g (lw_at lw_m2 187 rfl) rfl
theorem q806 : (Jvm.Cond.static ({ cls := "java/lang/Math", name := "max", desc := "(II)I" } : Jvm.MethodName)) ∈ lw_all := lw_g (lw_at lw_m4 18 rfl) rfl
theorem q807 : (Jvm.Cond.code ({ cls := "java/lang/Math", name := "max", desc := "(II)I" } : Jvm.MethodName) prog_29_method_65_code (2 : Nat) (Option.some Jvm.ClassFile.FieldType.int)) ∈ lw_all := lw_g (lw_at lw_m4 19 rfl) rfl
/-! java/util/AbstractSet -/
set_option maxRecDepth 100000
def RJ9 : String := "java/util/AbstractSet"
abbrev cJ9_init : ByteArray := prog_49_method_1_code
def yJ9_init : MethodName := ⟨RJ9, "<init>", "()V"⟩
theorem dJ9_init_0 : decode cJ9_init 0 = .ok (.aload_n 0, 1) := by decide +kernel
theorem dJ9_init_1 : decode cJ9_init 1 = .ok (.invokespecial 1, 3) := by decide +kernel
theorem dJ9_init_4 : decode cJ9_init 4 = .ok (.return_, 1) := by decide +kernel
theorem q84 : (Jvm.Cond.initialized "java/util/AbstractSet") ∈ lw_all := lw_g (lw_at lw_m1 16 rfl) rfl
theorem q522 : (Jvm.Cond.instanceMethod ({ cls := "java/util/AbstractSet", name := "<init>", desc := "()V" } : Jvm.MethodName)) ∈ lw_all := lw_g (lw_at lw_m2 214 rfl) rfl
theorem q523 : (Jvm.Cond.code ({ cls := "java/util/AbstractSet", name := "<init>", desc := "()V" } : Jvm.MethodName) prog_49_method_1_code (1 : Nat) (Option.none : Option Jvm.ClassFile.FieldType)) ∈ lw_all := lw_g (lw_at lw_m2 215 rfl) rfl
theorem q524 : (Jvm.Cond.methodLink "java/util/AbstractSet" (1 : Nat) ({ cls := "java/util/AbstractCollection", name := "<init>", desc := "()V" } : Jvm.MethodName)) ∈ lw_all := lw_g (lw_at lw_m2 216 rfl) rfl
/-! java/util/LinkedHashMap$LinkedEntrySet -/
set_option maxRecDepth 100000
def RJ10 : String := "java/util/LinkedHashMap$LinkedEntrySet"
def TJ10 : u_T := fun k => match k with
  | 0 => ("java/util/LinkedHashMap$LinkedEntrySet", "reversed", "Z", true)
  | _ => ("java/util/LinkedHashMap$LinkedEntrySet", "this$0", "Ljava/util/LinkedHashMap;", true)
def tyJ10 : Nat → FieldType := fun k => match k with
  | 0 => .boolean
  | _ => .object "java/util/LinkedHashMap"
abbrev wsJ100 : List Cond := u_ws RJ10 TJ10 2
theorem nmJ10 : ∀ a, a < 2 → ∀ b, b < 2 → a ≠ b → (TJ10 a).2.1 ≠ (TJ10 b).2.1 := by decide +kernel
theorem tyJ10_ok : ∀ k, k < 2 → parseFieldDescriptor (TJ10 k).2.2.1 = some (tyJ10 k) := by decide +kernel
abbrev cJ10_init : ByteArray := prog_64_method_1_code
def yJ10_init : MethodName := ⟨RJ10, "<init>", "(Ljava/util/LinkedHashMap;Z)V"⟩
def dkwJ10_init_0 : List UInt8 := [42, 43, 181, 0, 1, 42, 183, 0, 7, 42, 28, 181, 0, 13, 177]
abbrev dktJ10_init_0 : List UInt8 := dkwJ10_init_0 ++ []
theorem dksJ10_init_0 : cJ10_init.data.toList.drop 0 = dktJ10_init_0 := by decide +kernel
theorem dJ10_init_0 : decode cJ10_init 0 = .ok (.aload_n 0, 1) := dk_42 (dk_at dksJ10_init_0 0 rfl rfl)
theorem dJ10_init_1 : decode cJ10_init 1 = .ok (.aload_n 1, 1) := dk_43 (dk_at dksJ10_init_0 1 rfl rfl)
theorem dJ10_init_2 : decode cJ10_init 2 = .ok (.putfield 1, 3) := dk_181 0 1 (dk_at dksJ10_init_0 2 rfl rfl)
theorem dJ10_init_5 : decode cJ10_init 5 = .ok (.aload_n 0, 1) := dk_42 (dk_at dksJ10_init_0 5 rfl rfl)
theorem dJ10_init_6 : decode cJ10_init 6 = .ok (.invokespecial 7, 3) := dk_183 0 7 (dk_at dksJ10_init_0 6 rfl rfl)
theorem dJ10_init_9 : decode cJ10_init 9 = .ok (.aload_n 0, 1) := dk_42 (dk_at dksJ10_init_0 9 rfl rfl)
theorem dJ10_init_10 : decode cJ10_init 10 = .ok (.iload_n 2, 1) := dk_28 (dk_at dksJ10_init_0 10 rfl rfl)
theorem dJ10_init_11 : decode cJ10_init 11 = .ok (.putfield 13, 3) := dk_181 0 13 (dk_at dksJ10_init_0 11 rfl rfl)
theorem dJ10_init_14 : decode cJ10_init 14 = .ok (.return_, 1) := dk_177 (dk_at dksJ10_init_0 14 rfl rfl)
abbrev cJ10_iterator : ByteArray := prog_64_method_4_code
def yJ10_iterator : MethodName := ⟨RJ10, "iterator", "()Ljava/util/Iterator;"⟩
def dkwJ10_iterator_0 : List UInt8 := [187, 0, 26, 89, 42, 180, 0, 1, 42, 180, 0, 13, 183, 0, 28, 176]
abbrev dktJ10_iterator_0 : List UInt8 := dkwJ10_iterator_0 ++ []
theorem dksJ10_iterator_0 : cJ10_iterator.data.toList.drop 0 = dktJ10_iterator_0 := by decide +kernel
theorem dJ10_iterator_0 : decode cJ10_iterator 0 = .ok (.new 26, 3) := dk_187 0 26 (dk_at dksJ10_iterator_0 0 rfl rfl)
theorem dJ10_iterator_3 : decode cJ10_iterator 3 = .ok (.dup, 1) := dk_89 (dk_at dksJ10_iterator_0 3 rfl rfl)
theorem dJ10_iterator_4 : decode cJ10_iterator 4 = .ok (.aload_n 0, 1) := dk_42 (dk_at dksJ10_iterator_0 4 rfl rfl)
theorem dJ10_iterator_5 : decode cJ10_iterator 5 = .ok (.getfield 1, 3) := dk_180 0 1 (dk_at dksJ10_iterator_0 5 rfl rfl)
theorem dJ10_iterator_8 : decode cJ10_iterator 8 = .ok (.aload_n 0, 1) := dk_42 (dk_at dksJ10_iterator_0 8 rfl rfl)
theorem dJ10_iterator_9 : decode cJ10_iterator 9 = .ok (.getfield 13, 3) := dk_180 0 13 (dk_at dksJ10_iterator_0 9 rfl rfl)
theorem dJ10_iterator_12 : decode cJ10_iterator 12 = .ok (.invokespecial 28, 3) := dk_183 0 28 (dk_at dksJ10_iterator_0 12 rfl rfl)
theorem dJ10_iterator_15 : decode cJ10_iterator 15 = .ok (.areturn, 1) := dk_176 (dk_at dksJ10_iterator_0 15 rfl rfl)
theorem q85 : (Jvm.Cond.initialized "java/util/LinkedHashMap$LinkedEntrySet") ∈ lw_all := lw_g (lw_at lw_m1 17 rfl) rfl
theorem q517 : (Jvm.Cond.instantiable "java/util/LinkedHashMap$LinkedEntrySet" (2 : Nat)) ∈ lw_all := lw_g (lw_at lw_m2 209 rfl) rfl
theorem q519 : (Jvm.Cond.instanceMethod ({ cls := "java/util/LinkedHashMap$LinkedEntrySet", name := "<init>", desc := "(Ljava/util/LinkedHashMap;Z)V" } : Jvm.MethodName)) ∈ lw_all := lw_g (lw_at lw_m2 211 rfl) rfl
theorem q520 : (Jvm.Cond.code ({ cls := "java/util/LinkedHashMap$LinkedEntrySet", name := "<init>", desc := "(Ljava/util/LinkedHashMap;Z)V" } : Jvm.MethodName) prog_64_method_1_code (3 : Nat) (Option.none : Option Jvm.ClassFile.FieldType)) ∈ lw_all := lw_g (lw_at lw_m2 212 rfl) rfl
theorem q521 : (Jvm.Cond.methodLink "java/util/LinkedHashMap$LinkedEntrySet" (7 : Nat) ({ cls := "java/util/AbstractSet", name := "<init>", desc := "()V" } : Jvm.MethodName)) ∈ lw_all := lw_g (lw_at lw_m2 213 rfl) rfl
theorem q525 : (Jvm.Cond.fieldLink "java/util/LinkedHashMap$LinkedEntrySet" (13 : Nat) "java/util/LinkedHashMap$LinkedEntrySet" "reversed" "Z") ∈ lw_all := lw_g (lw_at lw_m2 217 rfl) rfl
theorem q526 : (Jvm.Cond.fieldLink "java/util/LinkedHashMap$LinkedEntrySet" (1 : Nat) "java/util/LinkedHashMap$LinkedEntrySet" "this$0" "Ljava/util/LinkedHashMap;") ∈ lw_all := lw_g (lw_at lw_m2 218 rfl) rfl
theorem q527 : (Jvm.Cond.laysFinal "java/util/LinkedHashMap$LinkedEntrySet" "java/util/LinkedHashMap$LinkedEntrySet" "reversed" "Z") ∈ lw_all := lw_g (lw_at lw_m2 219 rfl) rfl
theorem q528 : (Jvm.Cond.soleField "java/util/LinkedHashMap$LinkedEntrySet" "reversed") ∈ lw_all := lw_g (lw_at lw_m2 220 rfl) rfl
theorem q529 : (Jvm.Cond.laysFinal "java/util/LinkedHashMap$LinkedEntrySet" "java/util/LinkedHashMap$LinkedEntrySet" "this$0" "Ljava/util/LinkedHashMap;") ∈ lw_all := lw_g (lw_at lw_m2 221 rfl) rfl
theorem q530 : (Jvm.Cond.soleField "java/util/LinkedHashMap$LinkedEntrySet" "this$0") ∈ lw_all := lw_g (lw_at lw_m2 222 rfl) rfl
theorem q531 : (Jvm.Cond.superclass "java/util/LinkedHashMap$LinkedEntrySet" "java/util/AbstractSet") ∈ lw_all := lw_g (lw_at lw_m2 223 rfl) rfl
theorem q537 : (Jvm.Cond.castable "java/util/LinkedHashMap$LinkedEntrySet" "java/util/Set") ∈ lw_tbl := lw_at lw_m2 229 rfl
theorem q538 : (Jvm.Cond.selects "java/util/LinkedHashMap$LinkedEntrySet" ({ cls := "java/util/Set", name := "iterator", desc := "()Ljava/util/Iterator;" } : Jvm.MethodName) ({ cls := "java/util/LinkedHashMap$LinkedEntrySet", name := "iterator", desc := "()Ljava/util/Iterator;" } : Jvm.MethodName)) ∈ lw_all := lw_g (lw_at lw_m2 230 rfl) rfl
theorem q539 : (Jvm.Cond.unhidden "java/util/LinkedHashMap$LinkedEntrySet" "iterator" "()Ljava/util/Iterator;") ∈ lw_tbl := lw_at lw_m2 231 rfl
theorem q540 : (Jvm.Cond.instanceMethod ({ cls := "java/util/LinkedHashMap$LinkedEntrySet", name := "iterator", desc := "()Ljava/util/Iterator;" } : Jvm.MethodName)) ∈ lw_all := lw_g (lw_at lw_m2 232 rfl) rfl
theorem q541 : (Jvm.Cond.publicMethod ({ cls := "java/util/LinkedHashMap$LinkedEntrySet", name := "iterator", desc := "()Ljava/util/Iterator;" } : Jvm.MethodName)) ∈ lw_tbl := lw_at lw_m2 233 rfl
theorem q542 : (Jvm.Cond.code ({ cls := "java/util/LinkedHashMap$LinkedEntrySet", name := "iterator", desc := "()Ljava/util/Iterator;" } : Jvm.MethodName) prog_64_method_4_code (1 : Nat) (Option.some (Jvm.ClassFile.FieldType.object "java/util/Iterator"))) ∈ lw_all := lw_g (lw_at lw_m2 234 rfl) rfl
theorem q543 : (Jvm.Cond.classLink "java/util/LinkedHashMap$LinkedEntrySet" (26 : Nat) "java/util/LinkedHashMap$LinkedEntryIterator") ∈ lw_all := lw_g (lw_at lw_m2 235 rfl) rfl
theorem q545 : (Jvm.Cond.methodLink "java/util/LinkedHashMap$LinkedEntrySet" (28 : Nat) ({ cls := "java/util/LinkedHashMap$LinkedEntryIterator", name := "<init>", desc := "(Ljava/util/LinkedHashMap;Z)V" } : Jvm.MethodName)) ∈ lw_all := lw_g (lw_at lw_m2 237 rfl) rfl
theorem q1076 : (Jvm.Cond.selects "java/util/LinkedHashMap$LinkedEntrySet" ({ cls := "java/lang/Object", name := "getClass", desc := "()Ljava/lang/Class;" } : Jvm.MethodName) ({ cls := "java/lang/Object", name := "getClass", desc := "()Ljava/lang/Class;" } : Jvm.MethodName)) ∈ lw_all := lw_g (lw_at lw_m5 48 rfl) rfl
theorem q2536 : (Jvm.Cond.castable "java/util/LinkedHashMap$LinkedEntrySet" "java/util/Collection") ∈ lw_tbl := lw_at lw_m11 68 rfl
theorem q2537 : (Jvm.Cond.selects "java/util/LinkedHashMap$LinkedEntrySet" ({ cls := "java/util/Collection", name := "iterator", desc := "()Ljava/util/Iterator;" } : Jvm.MethodName) ({ cls := "java/util/LinkedHashMap$LinkedEntrySet", name := "iterator", desc := "()Ljava/util/Iterator;" } : Jvm.MethodName)) ∈ lw_all := lw_g (lw_at lw_m11 69 rfl) rfl
theorem q3033 : (Jvm.Cond.castable "java/util/LinkedHashMap$LinkedEntrySet" "java/util/SequencedSet") ∈ lw_tbl := lw_at lw_m13 85 rfl
theorem q3037 : (Jvm.Cond.castable "java/util/LinkedHashMap$LinkedEntrySet" "java/util/SequencedCollection") ∈ lw_tbl := lw_at lw_m13 89 rfl
theorem q3052 : (Jvm.Cond.castable "java/util/LinkedHashMap$LinkedEntrySet" "java/lang/Object") ∈ lw_tbl := lw_at lw_m13 104 rfl
theorem in_J10 : ∀ w ∈ wsJ100, w ∈ lw_all := lw_in wsJ100 [527, 529] (by decide +kernel) (by decide +kernel)
/-! java/util/LinkedHashMap$LinkedHashIterator -/
set_option maxRecDepth 100000
def RJ11 : String := "java/util/LinkedHashMap$LinkedHashIterator"
abbrev cJ11_init : ByteArray := prog_65_method_1_code
def yJ11_init : MethodName := ⟨RJ11, "<init>", "(Ljava/util/LinkedHashMap;Z)V"⟩
def dkwJ11_init_1 : List UInt8 := [167, 0, 7, 43, 180, 0, 23, 181, 0, 26, 42, 43, 180, 0, 29, 181, 0, 33, 42, 1, 181, 0, 36, 177]
abbrev dktJ11_init_1 : List UInt8 := dkwJ11_init_1 ++ []
def dkwJ11_init_0 : List UInt8 := [42, 43, 181, 0, 1, 42, 183, 0, 7, 42, 28, 181, 0, 13, 42, 28, 153, 0, 10, 43, 180, 0, 17]
abbrev dktJ11_init_0 : List UInt8 := dkwJ11_init_0 ++ dktJ11_init_1
theorem dksJ11_init_0 : cJ11_init.data.toList.drop 0 = dktJ11_init_0 := by decide +kernel
theorem dksJ11_init_1 : cJ11_init.data.toList.drop 23 = dktJ11_init_1 := dk_seg dksJ11_init_0 23 rfl rfl
theorem dJ11_init_0 : decode cJ11_init 0 = .ok (.aload_n 0, 1) := dk_42 (dk_at dksJ11_init_0 0 rfl rfl)
theorem dJ11_init_1 : decode cJ11_init 1 = .ok (.aload_n 1, 1) := dk_43 (dk_at dksJ11_init_0 1 rfl rfl)
theorem dJ11_init_2 : decode cJ11_init 2 = .ok (.putfield 1, 3) := dk_181 0 1 (dk_at dksJ11_init_0 2 rfl rfl)
theorem dJ11_init_5 : decode cJ11_init 5 = .ok (.aload_n 0, 1) := dk_42 (dk_at dksJ11_init_0 5 rfl rfl)
theorem dJ11_init_6 : decode cJ11_init 6 = .ok (.invokespecial 7, 3) := dk_183 0 7 (dk_at dksJ11_init_0 6 rfl rfl)
theorem dJ11_init_9 : decode cJ11_init 9 = .ok (.aload_n 0, 1) := dk_42 (dk_at dksJ11_init_0 9 rfl rfl)
theorem dJ11_init_10 : decode cJ11_init 10 = .ok (.iload_n 2, 1) := dk_28 (dk_at dksJ11_init_0 10 rfl rfl)
theorem dJ11_init_11 : decode cJ11_init 11 = .ok (.putfield 13, 3) := dk_181 0 13 (dk_at dksJ11_init_0 11 rfl rfl)
theorem dJ11_init_14 : decode cJ11_init 14 = .ok (.aload_n 0, 1) := dk_42 (dk_at dksJ11_init_0 14 rfl rfl)
theorem dJ11_init_15 : decode cJ11_init 15 = .ok (.iload_n 2, 1) := dk_28 (dk_at dksJ11_init_0 15 rfl rfl)
theorem dJ11_init_16 : decode cJ11_init 16 = .ok (.ifCond .eq 10, 3) := dk_153 0 10 (dk_at dksJ11_init_0 16 rfl rfl)
theorem dJ11_init_19 : decode cJ11_init 19 = .ok (.aload_n 1, 1) := dk_43 (dk_at dksJ11_init_0 19 rfl rfl)
theorem dJ11_init_20 : decode cJ11_init 20 = .ok (.getfield 17, 3) := dk_180 0 17 (dk_at dksJ11_init_0 20 rfl rfl)
theorem dJ11_init_23 : decode cJ11_init 23 = .ok (.goto 7, 3) := dk_167 0 7 (dk_at dksJ11_init_1 0 rfl rfl)
theorem dJ11_init_26 : decode cJ11_init 26 = .ok (.aload_n 1, 1) := dk_43 (dk_at dksJ11_init_1 3 rfl rfl)
theorem dJ11_init_27 : decode cJ11_init 27 = .ok (.getfield 23, 3) := dk_180 0 23 (dk_at dksJ11_init_1 4 rfl rfl)
theorem dJ11_init_30 : decode cJ11_init 30 = .ok (.putfield 26, 3) := dk_181 0 26 (dk_at dksJ11_init_1 7 rfl rfl)
theorem dJ11_init_33 : decode cJ11_init 33 = .ok (.aload_n 0, 1) := dk_42 (dk_at dksJ11_init_1 10 rfl rfl)
theorem dJ11_init_34 : decode cJ11_init 34 = .ok (.aload_n 1, 1) := dk_43 (dk_at dksJ11_init_1 11 rfl rfl)
theorem dJ11_init_35 : decode cJ11_init 35 = .ok (.getfield 29, 3) := dk_180 0 29 (dk_at dksJ11_init_1 12 rfl rfl)
theorem dJ11_init_38 : decode cJ11_init 38 = .ok (.putfield 33, 3) := dk_181 0 33 (dk_at dksJ11_init_1 15 rfl rfl)
theorem dJ11_init_41 : decode cJ11_init 41 = .ok (.aload_n 0, 1) := dk_42 (dk_at dksJ11_init_1 18 rfl rfl)
theorem dJ11_init_42 : decode cJ11_init 42 = .ok (.aconst_null, 1) := dk_1 (dk_at dksJ11_init_1 19 rfl rfl)
theorem dJ11_init_43 : decode cJ11_init 43 = .ok (.putfield 36, 3) := dk_181 0 36 (dk_at dksJ11_init_1 20 rfl rfl)
theorem dJ11_init_46 : decode cJ11_init 46 = .ok (.return_, 1) := dk_177 (dk_at dksJ11_init_1 23 rfl rfl)
abbrev cJ11_hasNext : ByteArray := prog_65_method_2_code
def yJ11_hasNext : MethodName := ⟨RJ11, "hasNext", "()Z"⟩
def dkwJ11_hasNext_0 : List UInt8 := [42, 180, 0, 26, 198, 0, 7, 4, 167, 0, 4, 3, 172]
abbrev dktJ11_hasNext_0 : List UInt8 := dkwJ11_hasNext_0 ++ []
theorem dksJ11_hasNext_0 : cJ11_hasNext.data.toList.drop 0 = dktJ11_hasNext_0 := by decide +kernel
theorem dJ11_hasNext_0 : decode cJ11_hasNext 0 = .ok (.aload_n 0, 1) := dk_42 (dk_at dksJ11_hasNext_0 0 rfl rfl)
theorem dJ11_hasNext_1 : decode cJ11_hasNext 1 = .ok (.getfield 26, 3) := dk_180 0 26 (dk_at dksJ11_hasNext_0 1 rfl rfl)
theorem dJ11_hasNext_4 : decode cJ11_hasNext 4 = .ok (.ifnull 7, 3) := dk_198 0 7 (dk_at dksJ11_hasNext_0 4 rfl rfl)
theorem dJ11_hasNext_7 : decode cJ11_hasNext 7 = .ok (.iconst 1, 1) := dk_4 (dk_at dksJ11_hasNext_0 7 rfl rfl)
theorem dJ11_hasNext_8 : decode cJ11_hasNext 8 = .ok (.goto 4, 3) := dk_167 0 4 (dk_at dksJ11_hasNext_0 8 rfl rfl)
theorem dJ11_hasNext_11 : decode cJ11_hasNext 11 = .ok (.iconst 0, 1) := dk_3 (dk_at dksJ11_hasNext_0 11 rfl rfl)
theorem dJ11_hasNext_12 : decode cJ11_hasNext 12 = .ok (.ireturn, 1) := dk_172 (dk_at dksJ11_hasNext_0 12 rfl rfl)
abbrev cJ11_nextNode : ByteArray := prog_65_method_3_code
def yJ11_nextNode : MethodName := ⟨RJ11, "nextNode", "()Ljava/util/LinkedHashMap$Entry;"⟩
def dkwJ11_nextNode_2 : List UInt8 := [180, 0, 13, 153, 0, 10, 43, 180, 0, 45, 167, 0, 7, 43, 180, 0, 50, 181, 0, 26, 43, 176]
abbrev dktJ11_nextNode_2 : List UInt8 := dkwJ11_nextNode_2 ++ []
def dkwJ11_nextNode_1 : List UInt8 := [183, 0, 41, 191, 43, 199, 0, 11, 187, 0, 42, 89, 183, 0, 44, 191, 42, 43, 181, 0, 36, 42, 42]
abbrev dktJ11_nextNode_1 : List UInt8 := dkwJ11_nextNode_1 ++ dktJ11_nextNode_2
def dkwJ11_nextNode_0 : List UInt8 := [42, 180, 0, 26, 76, 42, 180, 0, 1, 180, 0, 29, 42, 180, 0, 33, 159, 0, 11, 187, 0, 39, 89]
abbrev dktJ11_nextNode_0 : List UInt8 := dkwJ11_nextNode_0 ++ dktJ11_nextNode_1
theorem dksJ11_nextNode_0 : cJ11_nextNode.data.toList.drop 0 = dktJ11_nextNode_0 := by decide +kernel
theorem dksJ11_nextNode_1 : cJ11_nextNode.data.toList.drop 23 = dktJ11_nextNode_1 := dk_seg dksJ11_nextNode_0 23 rfl rfl
theorem dksJ11_nextNode_2 : cJ11_nextNode.data.toList.drop 46 = dktJ11_nextNode_2 := dk_seg dksJ11_nextNode_1 23 rfl rfl
theorem dJ11_nextNode_0 : decode cJ11_nextNode 0 = .ok (.aload_n 0, 1) := dk_42 (dk_at dksJ11_nextNode_0 0 rfl rfl)
theorem dJ11_nextNode_1 : decode cJ11_nextNode 1 = .ok (.getfield 26, 3) := dk_180 0 26 (dk_at dksJ11_nextNode_0 1 rfl rfl)
theorem dJ11_nextNode_4 : decode cJ11_nextNode 4 = .ok (.astore_n 1, 1) := dk_76 (dk_at dksJ11_nextNode_0 4 rfl rfl)
theorem dJ11_nextNode_5 : decode cJ11_nextNode 5 = .ok (.aload_n 0, 1) := dk_42 (dk_at dksJ11_nextNode_0 5 rfl rfl)
theorem dJ11_nextNode_6 : decode cJ11_nextNode 6 = .ok (.getfield 1, 3) := dk_180 0 1 (dk_at dksJ11_nextNode_0 6 rfl rfl)
theorem dJ11_nextNode_9 : decode cJ11_nextNode 9 = .ok (.getfield 29, 3) := dk_180 0 29 (dk_at dksJ11_nextNode_0 9 rfl rfl)
theorem dJ11_nextNode_12 : decode cJ11_nextNode 12 = .ok (.aload_n 0, 1) := dk_42 (dk_at dksJ11_nextNode_0 12 rfl rfl)
theorem dJ11_nextNode_13 : decode cJ11_nextNode 13 = .ok (.getfield 33, 3) := dk_180 0 33 (dk_at dksJ11_nextNode_0 13 rfl rfl)
theorem dJ11_nextNode_16 : decode cJ11_nextNode 16 = .ok (.if_icmp .eq 11, 3) := dk_159 0 11 (dk_at dksJ11_nextNode_0 16 rfl rfl)
theorem dJ11_nextNode_19 : decode cJ11_nextNode 19 = .ok (.new 39, 3) := dk_187 0 39 (dk_at dksJ11_nextNode_0 19 rfl rfl)
theorem dJ11_nextNode_22 : decode cJ11_nextNode 22 = .ok (.dup, 1) := dk_89 (dk_at dksJ11_nextNode_0 22 rfl rfl)
theorem dJ11_nextNode_23 : decode cJ11_nextNode 23 = .ok (.invokespecial 41, 3) := dk_183 0 41 (dk_at dksJ11_nextNode_1 0 rfl rfl)
theorem dJ11_nextNode_26 : decode cJ11_nextNode 26 = .ok (.athrow, 1) := dk_191 (dk_at dksJ11_nextNode_1 3 rfl rfl)
theorem dJ11_nextNode_27 : decode cJ11_nextNode 27 = .ok (.aload_n 1, 1) := dk_43 (dk_at dksJ11_nextNode_1 4 rfl rfl)
theorem dJ11_nextNode_28 : decode cJ11_nextNode 28 = .ok (.ifnonnull 11, 3) := dk_199 0 11 (dk_at dksJ11_nextNode_1 5 rfl rfl)
theorem dJ11_nextNode_31 : decode cJ11_nextNode 31 = .ok (.new 42, 3) := dk_187 0 42 (dk_at dksJ11_nextNode_1 8 rfl rfl)
theorem dJ11_nextNode_34 : decode cJ11_nextNode 34 = .ok (.dup, 1) := dk_89 (dk_at dksJ11_nextNode_1 11 rfl rfl)
theorem dJ11_nextNode_35 : decode cJ11_nextNode 35 = .ok (.invokespecial 44, 3) := dk_183 0 44 (dk_at dksJ11_nextNode_1 12 rfl rfl)
theorem dJ11_nextNode_38 : decode cJ11_nextNode 38 = .ok (.athrow, 1) := dk_191 (dk_at dksJ11_nextNode_1 15 rfl rfl)
theorem dJ11_nextNode_39 : decode cJ11_nextNode 39 = .ok (.aload_n 0, 1) := dk_42 (dk_at dksJ11_nextNode_1 16 rfl rfl)
theorem dJ11_nextNode_40 : decode cJ11_nextNode 40 = .ok (.aload_n 1, 1) := dk_43 (dk_at dksJ11_nextNode_1 17 rfl rfl)
theorem dJ11_nextNode_41 : decode cJ11_nextNode 41 = .ok (.putfield 36, 3) := dk_181 0 36 (dk_at dksJ11_nextNode_1 18 rfl rfl)
theorem dJ11_nextNode_44 : decode cJ11_nextNode 44 = .ok (.aload_n 0, 1) := dk_42 (dk_at dksJ11_nextNode_1 21 rfl rfl)
theorem dJ11_nextNode_45 : decode cJ11_nextNode 45 = .ok (.aload_n 0, 1) := dk_42 (dk_at dksJ11_nextNode_1 22 rfl rfl)
theorem dJ11_nextNode_46 : decode cJ11_nextNode 46 = .ok (.getfield 13, 3) := dk_180 0 13 (dk_at dksJ11_nextNode_2 0 rfl rfl)
theorem dJ11_nextNode_49 : decode cJ11_nextNode 49 = .ok (.ifCond .eq 10, 3) := dk_153 0 10 (dk_at dksJ11_nextNode_2 3 rfl rfl)
theorem dJ11_nextNode_52 : decode cJ11_nextNode 52 = .ok (.aload_n 1, 1) := dk_43 (dk_at dksJ11_nextNode_2 6 rfl rfl)
theorem dJ11_nextNode_53 : decode cJ11_nextNode 53 = .ok (.getfield 45, 3) := dk_180 0 45 (dk_at dksJ11_nextNode_2 7 rfl rfl)
theorem dJ11_nextNode_56 : decode cJ11_nextNode 56 = .ok (.goto 7, 3) := dk_167 0 7 (dk_at dksJ11_nextNode_2 10 rfl rfl)
theorem dJ11_nextNode_59 : decode cJ11_nextNode 59 = .ok (.aload_n 1, 1) := dk_43 (dk_at dksJ11_nextNode_2 13 rfl rfl)
theorem dJ11_nextNode_60 : decode cJ11_nextNode 60 = .ok (.getfield 50, 3) := dk_180 0 50 (dk_at dksJ11_nextNode_2 14 rfl rfl)
theorem dJ11_nextNode_63 : decode cJ11_nextNode 63 = .ok (.putfield 26, 3) := dk_181 0 26 (dk_at dksJ11_nextNode_2 17 rfl rfl)
theorem dJ11_nextNode_66 : decode cJ11_nextNode 66 = .ok (.aload_n 1, 1) := dk_43 (dk_at dksJ11_nextNode_2 20 rfl rfl)
theorem dJ11_nextNode_67 : decode cJ11_nextNode 67 = .ok (.areturn, 1) := dk_176 (dk_at dksJ11_nextNode_2 21 rfl rfl)
abbrev cJ11_remove : ByteArray := prog_65_method_4_code
def yJ11_remove : MethodName := ⟨RJ11, "remove", "()V"⟩
def dkwJ11_remove_3 : List UInt8 := [181, 0, 33, 177]
abbrev dktJ11_remove_3 : List UInt8 := dkwJ11_remove_3 ++ []
def dkwJ11_remove_2 : List UInt8 := [43, 180, 0, 56, 43, 180, 0, 61, 1, 3, 3, 182, 0, 65, 87, 42, 42, 180, 0, 1, 180, 0, 29]
abbrev dktJ11_remove_2 : List UInt8 := dkwJ11_remove_2 ++ dktJ11_remove_3
def dkwJ11_remove_1 : List UInt8 := [42, 180, 0, 33, 159, 0, 11, 187, 0, 39, 89, 183, 0, 41, 191, 42, 1, 181, 0, 36, 42, 180, 0, 1]
abbrev dktJ11_remove_1 : List UInt8 := dkwJ11_remove_1 ++ dktJ11_remove_2
def dkwJ11_remove_0 : List UInt8 := [42, 180, 0, 36, 76, 43, 199, 0, 11, 187, 0, 53, 89, 183, 0, 55, 191, 42, 180, 0, 1, 180, 0, 29]
abbrev dktJ11_remove_0 : List UInt8 := dkwJ11_remove_0 ++ dktJ11_remove_1
theorem dksJ11_remove_0 : cJ11_remove.data.toList.drop 0 = dktJ11_remove_0 := by decide +kernel
theorem dksJ11_remove_1 : cJ11_remove.data.toList.drop 24 = dktJ11_remove_1 := dk_seg dksJ11_remove_0 24 rfl rfl
theorem dksJ11_remove_2 : cJ11_remove.data.toList.drop 48 = dktJ11_remove_2 := dk_seg dksJ11_remove_1 24 rfl rfl
theorem dksJ11_remove_3 : cJ11_remove.data.toList.drop 71 = dktJ11_remove_3 := dk_seg dksJ11_remove_2 23 rfl rfl
theorem dJ11_remove_0 : decode cJ11_remove 0 = .ok (.aload_n 0, 1) := dk_42 (dk_at dksJ11_remove_0 0 rfl rfl)
theorem dJ11_remove_1 : decode cJ11_remove 1 = .ok (.getfield 36, 3) := dk_180 0 36 (dk_at dksJ11_remove_0 1 rfl rfl)
theorem dJ11_remove_4 : decode cJ11_remove 4 = .ok (.astore_n 1, 1) := dk_76 (dk_at dksJ11_remove_0 4 rfl rfl)
theorem dJ11_remove_5 : decode cJ11_remove 5 = .ok (.aload_n 1, 1) := dk_43 (dk_at dksJ11_remove_0 5 rfl rfl)
theorem dJ11_remove_6 : decode cJ11_remove 6 = .ok (.ifnonnull 11, 3) := dk_199 0 11 (dk_at dksJ11_remove_0 6 rfl rfl)
theorem dJ11_remove_9 : decode cJ11_remove 9 = .ok (.new 53, 3) := dk_187 0 53 (dk_at dksJ11_remove_0 9 rfl rfl)
theorem dJ11_remove_12 : decode cJ11_remove 12 = .ok (.dup, 1) := dk_89 (dk_at dksJ11_remove_0 12 rfl rfl)
theorem dJ11_remove_13 : decode cJ11_remove 13 = .ok (.invokespecial 55, 3) := dk_183 0 55 (dk_at dksJ11_remove_0 13 rfl rfl)
theorem dJ11_remove_16 : decode cJ11_remove 16 = .ok (.athrow, 1) := dk_191 (dk_at dksJ11_remove_0 16 rfl rfl)
theorem dJ11_remove_17 : decode cJ11_remove 17 = .ok (.aload_n 0, 1) := dk_42 (dk_at dksJ11_remove_0 17 rfl rfl)
theorem dJ11_remove_18 : decode cJ11_remove 18 = .ok (.getfield 1, 3) := dk_180 0 1 (dk_at dksJ11_remove_0 18 rfl rfl)
theorem dJ11_remove_21 : decode cJ11_remove 21 = .ok (.getfield 29, 3) := dk_180 0 29 (dk_at dksJ11_remove_0 21 rfl rfl)
theorem dJ11_remove_24 : decode cJ11_remove 24 = .ok (.aload_n 0, 1) := dk_42 (dk_at dksJ11_remove_1 0 rfl rfl)
theorem dJ11_remove_25 : decode cJ11_remove 25 = .ok (.getfield 33, 3) := dk_180 0 33 (dk_at dksJ11_remove_1 1 rfl rfl)
theorem dJ11_remove_28 : decode cJ11_remove 28 = .ok (.if_icmp .eq 11, 3) := dk_159 0 11 (dk_at dksJ11_remove_1 4 rfl rfl)
theorem dJ11_remove_31 : decode cJ11_remove 31 = .ok (.new 39, 3) := dk_187 0 39 (dk_at dksJ11_remove_1 7 rfl rfl)
theorem dJ11_remove_34 : decode cJ11_remove 34 = .ok (.dup, 1) := dk_89 (dk_at dksJ11_remove_1 10 rfl rfl)
theorem dJ11_remove_35 : decode cJ11_remove 35 = .ok (.invokespecial 41, 3) := dk_183 0 41 (dk_at dksJ11_remove_1 11 rfl rfl)
theorem dJ11_remove_38 : decode cJ11_remove 38 = .ok (.athrow, 1) := dk_191 (dk_at dksJ11_remove_1 14 rfl rfl)
theorem dJ11_remove_39 : decode cJ11_remove 39 = .ok (.aload_n 0, 1) := dk_42 (dk_at dksJ11_remove_1 15 rfl rfl)
theorem dJ11_remove_40 : decode cJ11_remove 40 = .ok (.aconst_null, 1) := dk_1 (dk_at dksJ11_remove_1 16 rfl rfl)
theorem dJ11_remove_41 : decode cJ11_remove 41 = .ok (.putfield 36, 3) := dk_181 0 36 (dk_at dksJ11_remove_1 17 rfl rfl)
theorem dJ11_remove_44 : decode cJ11_remove 44 = .ok (.aload_n 0, 1) := dk_42 (dk_at dksJ11_remove_1 20 rfl rfl)
theorem dJ11_remove_45 : decode cJ11_remove 45 = .ok (.getfield 1, 3) := dk_180 0 1 (dk_at dksJ11_remove_1 21 rfl rfl)
theorem dJ11_remove_48 : decode cJ11_remove 48 = .ok (.aload_n 1, 1) := dk_43 (dk_at dksJ11_remove_2 0 rfl rfl)
theorem dJ11_remove_49 : decode cJ11_remove 49 = .ok (.getfield 56, 3) := dk_180 0 56 (dk_at dksJ11_remove_2 1 rfl rfl)
theorem dJ11_remove_52 : decode cJ11_remove 52 = .ok (.aload_n 1, 1) := dk_43 (dk_at dksJ11_remove_2 4 rfl rfl)
theorem dJ11_remove_53 : decode cJ11_remove 53 = .ok (.getfield 61, 3) := dk_180 0 61 (dk_at dksJ11_remove_2 5 rfl rfl)
theorem dJ11_remove_56 : decode cJ11_remove 56 = .ok (.aconst_null, 1) := dk_1 (dk_at dksJ11_remove_2 8 rfl rfl)
theorem dJ11_remove_57 : decode cJ11_remove 57 = .ok (.iconst 0, 1) := dk_3 (dk_at dksJ11_remove_2 9 rfl rfl)
theorem dJ11_remove_58 : decode cJ11_remove 58 = .ok (.iconst 0, 1) := dk_3 (dk_at dksJ11_remove_2 10 rfl rfl)
theorem dJ11_remove_59 : decode cJ11_remove 59 = .ok (.invokevirtual 65, 3) := dk_182 0 65 (dk_at dksJ11_remove_2 11 rfl rfl)
theorem dJ11_remove_62 : decode cJ11_remove 62 = .ok (.pop, 1) := dk_87 (dk_at dksJ11_remove_2 14 rfl rfl)
theorem dJ11_remove_63 : decode cJ11_remove 63 = .ok (.aload_n 0, 1) := dk_42 (dk_at dksJ11_remove_2 15 rfl rfl)
theorem dJ11_remove_64 : decode cJ11_remove 64 = .ok (.aload_n 0, 1) := dk_42 (dk_at dksJ11_remove_2 16 rfl rfl)
theorem dJ11_remove_65 : decode cJ11_remove 65 = .ok (.getfield 1, 3) := dk_180 0 1 (dk_at dksJ11_remove_2 17 rfl rfl)
theorem dJ11_remove_68 : decode cJ11_remove 68 = .ok (.getfield 29, 3) := dk_180 0 29 (dk_at dksJ11_remove_2 20 rfl rfl)
theorem dJ11_remove_71 : decode cJ11_remove 71 = .ok (.putfield 33, 3) := dk_181 0 33 (dk_at dksJ11_remove_3 0 rfl rfl)
theorem dJ11_remove_74 : decode cJ11_remove 74 = .ok (.return_, 1) := dk_177 (dk_at dksJ11_remove_3 3 rfl rfl)
theorem q86 : (Jvm.Cond.initialized "java/util/LinkedHashMap$LinkedHashIterator") ∈ lw_all := lw_g (lw_at lw_m1 18 rfl) rfl
theorem q166 : (Jvm.Cond.fieldLink "java/util/LinkedHashMap$LinkedHashIterator" (23 : Nat) "java/util/LinkedHashMap" "head" "Ljava/util/LinkedHashMap$Entry;") ∈ lw_all := lw_g (lw_at lw_m1 98 rfl) rfl
theorem q167 : (Jvm.Cond.fieldLink "java/util/LinkedHashMap$LinkedHashIterator" (17 : Nat) "java/util/LinkedHashMap" "tail" "Ljava/util/LinkedHashMap$Entry;") ∈ lw_all := lw_g (lw_at lw_m1 99 rfl) rfl
theorem q175 : (Jvm.Cond.fieldLink "java/util/LinkedHashMap$LinkedHashIterator" (29 : Nat) "java/util/LinkedHashMap" "modCount" "I") ∈ lw_all := lw_g (lw_at lw_m1 107 rfl) rfl
theorem q549 : (Jvm.Cond.instanceMethod ({ cls := "java/util/LinkedHashMap$LinkedHashIterator", name := "<init>", desc := "(Ljava/util/LinkedHashMap;Z)V" } : Jvm.MethodName)) ∈ lw_all := lw_g (lw_at lw_m3 1 rfl) rfl
theorem q550 : (Jvm.Cond.code ({ cls := "java/util/LinkedHashMap$LinkedHashIterator", name := "<init>", desc := "(Ljava/util/LinkedHashMap;Z)V" } : Jvm.MethodName) prog_65_method_1_code (3 : Nat) (Option.none : Option Jvm.ClassFile.FieldType)) ∈ lw_all := lw_g (lw_at lw_m3 2 rfl) rfl
theorem q551 : (Jvm.Cond.methodLink "java/util/LinkedHashMap$LinkedHashIterator" (7 : Nat) ({ cls := "java/lang/Object", name := "<init>", desc := "()V" } : Jvm.MethodName)) ∈ lw_all := lw_g (lw_at lw_m3 3 rfl) rfl
theorem q552 : (Jvm.Cond.fieldLink "java/util/LinkedHashMap$LinkedHashIterator" (26 : Nat) "java/util/LinkedHashMap$LinkedHashIterator" "next" "Ljava/util/LinkedHashMap$Entry;") ∈ lw_all := lw_g (lw_at lw_m3 4 rfl) rfl
theorem q553 : (Jvm.Cond.fieldLink "java/util/LinkedHashMap$LinkedHashIterator" (36 : Nat) "java/util/LinkedHashMap$LinkedHashIterator" "current" "Ljava/util/LinkedHashMap$Entry;") ∈ lw_all := lw_g (lw_at lw_m3 5 rfl) rfl
theorem q554 : (Jvm.Cond.fieldLink "java/util/LinkedHashMap$LinkedHashIterator" (33 : Nat) "java/util/LinkedHashMap$LinkedHashIterator" "expectedModCount" "I") ∈ lw_all := lw_g (lw_at lw_m3 6 rfl) rfl
theorem q555 : (Jvm.Cond.fieldLink "java/util/LinkedHashMap$LinkedHashIterator" (13 : Nat) "java/util/LinkedHashMap$LinkedHashIterator" "reversed" "Z") ∈ lw_all := lw_g (lw_at lw_m3 7 rfl) rfl
theorem q556 : (Jvm.Cond.fieldLink "java/util/LinkedHashMap$LinkedHashIterator" (1 : Nat) "java/util/LinkedHashMap$LinkedHashIterator" "this$0" "Ljava/util/LinkedHashMap;") ∈ lw_all := lw_g (lw_at lw_m3 8 rfl) rfl
theorem q558 : (Jvm.Cond.soleField "java/util/LinkedHashMap$LinkedHashIterator" "next") ∈ lw_all := lw_g (lw_at lw_m3 10 rfl) rfl
theorem q560 : (Jvm.Cond.soleField "java/util/LinkedHashMap$LinkedHashIterator" "current") ∈ lw_all := lw_g (lw_at lw_m3 12 rfl) rfl
theorem q562 : (Jvm.Cond.soleField "java/util/LinkedHashMap$LinkedHashIterator" "expectedModCount") ∈ lw_all := lw_g (lw_at lw_m3 14 rfl) rfl
theorem q564 : (Jvm.Cond.soleField "java/util/LinkedHashMap$LinkedHashIterator" "reversed") ∈ lw_all := lw_g (lw_at lw_m3 16 rfl) rfl
theorem q566 : (Jvm.Cond.soleField "java/util/LinkedHashMap$LinkedHashIterator" "this$0") ∈ lw_all := lw_g (lw_at lw_m3 18 rfl) rfl
theorem q611 : (Jvm.Cond.instanceMethod ({ cls := "java/util/LinkedHashMap$LinkedHashIterator", name := "hasNext", desc := "()Z" } : Jvm.MethodName)) ∈ lw_all := lw_g (lw_at lw_m3 63 rfl) rfl
theorem q612 : (Jvm.Cond.publicMethod ({ cls := "java/util/LinkedHashMap$LinkedHashIterator", name := "hasNext", desc := "()Z" } : Jvm.MethodName)) ∈ lw_tbl := lw_at lw_m3 64 rfl
theorem q613 : (Jvm.Cond.code ({ cls := "java/util/LinkedHashMap$LinkedHashIterator", name := "hasNext", desc := "()Z" } : Jvm.MethodName) prog_65_method_2_code (1 : Nat) (Option.some Jvm.ClassFile.FieldType.boolean)) ∈ lw_all := lw_g (lw_at lw_m3 65 rfl) rfl
theorem q1149 : (Jvm.Cond.declares ({ cls := "java/util/LinkedHashMap$LinkedHashIterator", name := "nextNode", desc := "()Ljava/util/LinkedHashMap$Entry;" } : Jvm.MethodName)) ∈ lw_tbl := lw_at lw_m5 121 rfl
theorem q1151 : (Jvm.Cond.instanceMethod ({ cls := "java/util/LinkedHashMap$LinkedHashIterator", name := "nextNode", desc := "()Ljava/util/LinkedHashMap$Entry;" } : Jvm.MethodName)) ∈ lw_all := lw_g (lw_at lw_m5 123 rfl) rfl
theorem q1152 : (Jvm.Cond.code ({ cls := "java/util/LinkedHashMap$LinkedHashIterator", name := "nextNode", desc := "()Ljava/util/LinkedHashMap$Entry;" } : Jvm.MethodName) prog_65_method_3_code (2 : Nat) (Option.some (Jvm.ClassFile.FieldType.object "java/util/LinkedHashMap$Entry"))) ∈ lw_all := lw_g (lw_at lw_m5 124 rfl) rfl
theorem q1304 : (Jvm.Cond.instanceMethod ({ cls := "java/util/LinkedHashMap$LinkedHashIterator", name := "remove", desc := "()V" } : Jvm.MethodName)) ∈ lw_all := lw_g (lw_at lw_m6 36 rfl) rfl
theorem q1305 : (Jvm.Cond.publicMethod ({ cls := "java/util/LinkedHashMap$LinkedHashIterator", name := "remove", desc := "()V" } : Jvm.MethodName)) ∈ lw_tbl := lw_at lw_m6 37 rfl
theorem q1306 : (Jvm.Cond.code ({ cls := "java/util/LinkedHashMap$LinkedHashIterator", name := "remove", desc := "()V" } : Jvm.MethodName) prog_65_method_4_code (2 : Nat) (Option.none : Option Jvm.ClassFile.FieldType)) ∈ lw_all := lw_g (lw_at lw_m6 38 rfl) rfl
theorem q1307 : (Jvm.Cond.methodLink "java/util/LinkedHashMap$LinkedHashIterator" (65 : Nat) ({ cls := "java/util/LinkedHashMap", name := "removeNode", desc := "(ILjava/lang/Object;Ljava/lang/Object;ZZ)Ljava/util/HashMap$Node;" } : Jvm.MethodName)) ∈ lw_all := lw_g (lw_at lw_m6 39 rfl) rfl
theorem q1580 : (Jvm.Cond.fieldLink "java/util/LinkedHashMap$LinkedHashIterator" (45 : Nat) "java/util/LinkedHashMap$Entry" "before" "Ljava/util/LinkedHashMap$Entry;") ∈ lw_all := lw_g (lw_at lw_m7 72 rfl) rfl
theorem q1582 : (Jvm.Cond.fieldLink "java/util/LinkedHashMap$LinkedHashIterator" (50 : Nat) "java/util/LinkedHashMap$Entry" "after" "Ljava/util/LinkedHashMap$Entry;") ∈ lw_all := lw_g (lw_at lw_m7 74 rfl) rfl
theorem q1586 : (Jvm.Cond.fieldLink "java/util/LinkedHashMap$LinkedHashIterator" (56 : Nat) "java/util/HashMap$Node" "hash" "I") ∈ lw_all := lw_g (lw_at lw_m7 78 rfl) rfl
theorem q1593 : (Jvm.Cond.fieldLink "java/util/LinkedHashMap$LinkedHashIterator" (61 : Nat) "java/util/HashMap$Node" "key" "Ljava/lang/Object;") ∈ lw_all := lw_g (lw_at lw_m7 85 rfl) rfl
/-! java/util/LinkedHashMap$LinkedEntryIterator -/
set_option maxRecDepth 100000
def RJ12 : String := "java/util/LinkedHashMap$LinkedEntryIterator"
def TJ12 : u_T := fun k => match k with
  | 0 => ("java/util/LinkedHashMap$LinkedHashIterator", "next", "Ljava/util/LinkedHashMap$Entry;", false)
  | 1 => ("java/util/LinkedHashMap$LinkedHashIterator", "current", "Ljava/util/LinkedHashMap$Entry;", false)
  | 2 => ("java/util/LinkedHashMap$LinkedHashIterator", "expectedModCount", "I", false)
  | 3 => ("java/util/LinkedHashMap$LinkedHashIterator", "reversed", "Z", false)
  | _ => ("java/util/LinkedHashMap$LinkedHashIterator", "this$0", "Ljava/util/LinkedHashMap;", true)
def tyJ12 : Nat → FieldType := fun k => match k with
  | 0 => .object "java/util/LinkedHashMap$Entry"
  | 1 => .object "java/util/LinkedHashMap$Entry"
  | 2 => .int
  | 3 => .boolean
  | _ => .object "java/util/LinkedHashMap"
abbrev wsJ120 : List Cond := u_ws RJ12 TJ12 5
theorem nmJ12 : ∀ a, a < 5 → ∀ b, b < 5 → a ≠ b → (TJ12 a).2.1 ≠ (TJ12 b).2.1 := by decide +kernel
theorem tyJ12_ok : ∀ k, k < 5 → parseFieldDescriptor (TJ12 k).2.2.1 = some (tyJ12 k) := by decide +kernel
abbrev cJ12_init : ByteArray := prog_63_method_1_code
def yJ12_init : MethodName := ⟨RJ12, "<init>", "(Ljava/util/LinkedHashMap;Z)V"⟩
def dkwJ12_init_0 : List UInt8 := [42, 43, 28, 183, 0, 1, 177]
abbrev dktJ12_init_0 : List UInt8 := dkwJ12_init_0 ++ []
theorem dksJ12_init_0 : cJ12_init.data.toList.drop 0 = dktJ12_init_0 := by decide +kernel
theorem dJ12_init_0 : decode cJ12_init 0 = .ok (.aload_n 0, 1) := dk_42 (dk_at dksJ12_init_0 0 rfl rfl)
theorem dJ12_init_1 : decode cJ12_init 1 = .ok (.aload_n 1, 1) := dk_43 (dk_at dksJ12_init_0 1 rfl rfl)
theorem dJ12_init_2 : decode cJ12_init 2 = .ok (.iload_n 2, 1) := dk_28 (dk_at dksJ12_init_0 2 rfl rfl)
theorem dJ12_init_3 : decode cJ12_init 3 = .ok (.invokespecial 1, 3) := dk_183 0 1 (dk_at dksJ12_init_0 3 rfl rfl)
theorem dJ12_init_6 : decode cJ12_init 6 = .ok (.return_, 1) := dk_177 (dk_at dksJ12_init_0 6 rfl rfl)
abbrev cJ12_next : ByteArray := prog_63_method_3_code
def yJ12_next : MethodName := ⟨RJ12, "next", "()Ljava/lang/Object;"⟩
theorem dJ12_next_0 : decode cJ12_next 0 = .ok (.aload_n 0, 1) := by decide +kernel
theorem dJ12_next_1 : decode cJ12_next 1 = .ok (.invokevirtual 13, 3) := by decide +kernel
theorem dJ12_next_4 : decode cJ12_next 4 = .ok (.areturn, 1) := by decide +kernel
abbrev cJ12_next_2 : ByteArray := prog_63_method_2_code
def yJ12_next_2 : MethodName := ⟨RJ12, "next", "()Ljava/util/Map$Entry;"⟩
theorem dJ12_next_2_0 : decode cJ12_next_2 0 = .ok (.aload_n 0, 1) := by decide +kernel
theorem dJ12_next_2_1 : decode cJ12_next_2 1 = .ok (.invokevirtual 7, 3) := by decide +kernel
theorem dJ12_next_2_4 : decode cJ12_next_2 4 = .ok (.areturn, 1) := by decide +kernel
theorem q87 : (Jvm.Cond.initialized "java/util/LinkedHashMap$LinkedEntryIterator") ∈ lw_all := lw_g (lw_at lw_m1 19 rfl) rfl
theorem q544 : (Jvm.Cond.instantiable "java/util/LinkedHashMap$LinkedEntryIterator" (5 : Nat)) ∈ lw_all := lw_g (lw_at lw_m2 236 rfl) rfl
theorem q546 : (Jvm.Cond.instanceMethod ({ cls := "java/util/LinkedHashMap$LinkedEntryIterator", name := "<init>", desc := "(Ljava/util/LinkedHashMap;Z)V" } : Jvm.MethodName)) ∈ lw_all := lw_g (lw_at lw_m2 238 rfl) rfl
theorem q547 : (Jvm.Cond.code ({ cls := "java/util/LinkedHashMap$LinkedEntryIterator", name := "<init>", desc := "(Ljava/util/LinkedHashMap;Z)V" } : Jvm.MethodName) prog_63_method_1_code (3 : Nat) (Option.none : Option Jvm.ClassFile.FieldType)) ∈ lw_all := lw_g (lw_at lw_m2 239 rfl) rfl
theorem q548 : (Jvm.Cond.methodLink "java/util/LinkedHashMap$LinkedEntryIterator" (1 : Nat) ({ cls := "java/util/LinkedHashMap$LinkedHashIterator", name := "<init>", desc := "(Ljava/util/LinkedHashMap;Z)V" } : Jvm.MethodName)) ∈ lw_all := lw_g (lw_at lw_m3 0 rfl) rfl
theorem q557 : (Jvm.Cond.lays "java/util/LinkedHashMap$LinkedEntryIterator" "java/util/LinkedHashMap$LinkedHashIterator" "next" "Ljava/util/LinkedHashMap$Entry;") ∈ lw_all := lw_g (lw_at lw_m3 9 rfl) rfl
theorem q559 : (Jvm.Cond.lays "java/util/LinkedHashMap$LinkedEntryIterator" "java/util/LinkedHashMap$LinkedHashIterator" "current" "Ljava/util/LinkedHashMap$Entry;") ∈ lw_all := lw_g (lw_at lw_m3 11 rfl) rfl
theorem q561 : (Jvm.Cond.lays "java/util/LinkedHashMap$LinkedEntryIterator" "java/util/LinkedHashMap$LinkedHashIterator" "expectedModCount" "I") ∈ lw_all := lw_g (lw_at lw_m3 13 rfl) rfl
theorem q563 : (Jvm.Cond.lays "java/util/LinkedHashMap$LinkedEntryIterator" "java/util/LinkedHashMap$LinkedHashIterator" "reversed" "Z") ∈ lw_all := lw_g (lw_at lw_m3 15 rfl) rfl
theorem q565 : (Jvm.Cond.laysFinal "java/util/LinkedHashMap$LinkedEntryIterator" "java/util/LinkedHashMap$LinkedHashIterator" "this$0" "Ljava/util/LinkedHashMap;") ∈ lw_all := lw_g (lw_at lw_m3 17 rfl) rfl
theorem q567 : (Jvm.Cond.superclass "java/util/LinkedHashMap$LinkedEntryIterator" "java/util/LinkedHashMap$LinkedHashIterator") ∈ lw_all := lw_g (lw_at lw_m3 19 rfl) rfl
theorem q608 : (Jvm.Cond.castable "java/util/LinkedHashMap$LinkedEntryIterator" "java/util/Iterator") ∈ lw_tbl := lw_at lw_m3 60 rfl
theorem q609 : (Jvm.Cond.selects "java/util/LinkedHashMap$LinkedEntryIterator" ({ cls := "java/util/Iterator", name := "hasNext", desc := "()Z" } : Jvm.MethodName) ({ cls := "java/util/LinkedHashMap$LinkedHashIterator", name := "hasNext", desc := "()Z" } : Jvm.MethodName)) ∈ lw_all := lw_g (lw_at lw_m3 61 rfl) rfl
theorem q610 : (Jvm.Cond.unhidden "java/util/LinkedHashMap$LinkedEntryIterator" "hasNext" "()Z") ∈ lw_tbl := lw_at lw_m3 62 rfl
theorem q1075 : (Jvm.Cond.selects "java/util/LinkedHashMap$LinkedEntryIterator" ({ cls := "java/lang/Object", name := "getClass", desc := "()Ljava/lang/Class;" } : Jvm.MethodName) ({ cls := "java/lang/Object", name := "getClass", desc := "()Ljava/lang/Class;" } : Jvm.MethodName)) ∈ lw_all := lw_g (lw_at lw_m5 47 rfl) rfl
theorem q1138 : (Jvm.Cond.selects "java/util/LinkedHashMap$LinkedEntryIterator" ({ cls := "java/util/Iterator", name := "next", desc := "()Ljava/lang/Object;" } : Jvm.MethodName) ({ cls := "java/util/LinkedHashMap$LinkedEntryIterator", name := "next", desc := "()Ljava/lang/Object;" } : Jvm.MethodName)) ∈ lw_all := lw_g (lw_at lw_m5 110 rfl) rfl
theorem q1139 : (Jvm.Cond.unhidden "java/util/LinkedHashMap$LinkedEntryIterator" "next" "()Ljava/lang/Object;") ∈ lw_tbl := lw_at lw_m5 111 rfl
theorem q1140 : (Jvm.Cond.instanceMethod ({ cls := "java/util/LinkedHashMap$LinkedEntryIterator", name := "next", desc := "()Ljava/lang/Object;" } : Jvm.MethodName)) ∈ lw_all := lw_g (lw_at lw_m5 112 rfl) rfl
theorem q1141 : (Jvm.Cond.publicMethod ({ cls := "java/util/LinkedHashMap$LinkedEntryIterator", name := "next", desc := "()Ljava/lang/Object;" } : Jvm.MethodName)) ∈ lw_tbl := lw_at lw_m5 113 rfl
theorem q1142 : (Jvm.Cond.code ({ cls := "java/util/LinkedHashMap$LinkedEntryIterator", name := "next", desc := "()Ljava/lang/Object;" } : Jvm.MethodName) prog_63_method_3_code (1 : Nat) (Option.some (Jvm.ClassFile.FieldType.object "java/lang/Object"))) ∈ lw_all := lw_g (lw_at lw_m5 114 rfl) rfl
theorem q1143 : (Jvm.Cond.methodLink "java/util/LinkedHashMap$LinkedEntryIterator" (13 : Nat) ({ cls := "java/util/LinkedHashMap$LinkedEntryIterator", name := "next", desc := "()Ljava/util/Map$Entry;" } : Jvm.MethodName)) ∈ lw_all := lw_g (lw_at lw_m5 115 rfl) rfl
theorem q1144 : (Jvm.Cond.instanceMethod ({ cls := "java/util/LinkedHashMap$LinkedEntryIterator", name := "next", desc := "()Ljava/util/Map$Entry;" } : Jvm.MethodName)) ∈ lw_all := lw_g (lw_at lw_m5 116 rfl) rfl
theorem q1145 : (Jvm.Cond.selects "java/util/LinkedHashMap$LinkedEntryIterator" ({ cls := "java/util/LinkedHashMap$LinkedEntryIterator", name := "next", desc := "()Ljava/util/Map$Entry;" } : Jvm.MethodName) ({ cls := "java/util/LinkedHashMap$LinkedEntryIterator", name := "next", desc := "()Ljava/util/Map$Entry;" } : Jvm.MethodName)) ∈ lw_all := lw_g (lw_at lw_m5 117 rfl) rfl
theorem q1146 : (Jvm.Cond.code ({ cls := "java/util/LinkedHashMap$LinkedEntryIterator", name := "next", desc := "()Ljava/util/Map$Entry;" } : Jvm.MethodName) prog_63_method_2_code (1 : Nat) (Option.some (Jvm.ClassFile.FieldType.object "java/util/Map$Entry"))) ∈ lw_all := lw_g (lw_at lw_m5 118 rfl) rfl
theorem q1147 : (Jvm.Cond.methodLink "java/util/LinkedHashMap$LinkedEntryIterator" (7 : Nat) ({ cls := "java/util/LinkedHashMap$LinkedEntryIterator", name := "nextNode", desc := "()Ljava/util/LinkedHashMap$Entry;" } : Jvm.MethodName)) ∈ lw_all := lw_g (lw_at lw_m5 119 rfl) rfl
theorem q1148 : (Jvm.Cond.sameMethod "java/util/LinkedHashMap$LinkedEntryIterator" "java/util/LinkedHashMap$LinkedHashIterator" "nextNode" "()Ljava/util/LinkedHashMap$Entry;") ∈ lw_all := lw_g (lw_at lw_m5 120 rfl) rfl
theorem q1150 : (Jvm.Cond.selects "java/util/LinkedHashMap$LinkedEntryIterator" ({ cls := "java/util/LinkedHashMap$LinkedEntryIterator", name := "nextNode", desc := "()Ljava/util/LinkedHashMap$Entry;" } : Jvm.MethodName) ({ cls := "java/util/LinkedHashMap$LinkedHashIterator", name := "nextNode", desc := "()Ljava/util/LinkedHashMap$Entry;" } : Jvm.MethodName)) ∈ lw_all := lw_g (lw_at lw_m5 122 rfl) rfl
theorem q1302 : (Jvm.Cond.selects "java/util/LinkedHashMap$LinkedEntryIterator" ({ cls := "java/util/Iterator", name := "remove", desc := "()V" } : Jvm.MethodName) ({ cls := "java/util/LinkedHashMap$LinkedHashIterator", name := "remove", desc := "()V" } : Jvm.MethodName)) ∈ lw_all := lw_g (lw_at lw_m6 34 rfl) rfl
theorem q1303 : (Jvm.Cond.unhidden "java/util/LinkedHashMap$LinkedEntryIterator" "remove" "()V") ∈ lw_tbl := lw_at lw_m6 35 rfl
theorem q3053 : (Jvm.Cond.castable "java/util/LinkedHashMap$LinkedEntryIterator" "java/lang/Object") ∈ lw_tbl := lw_at lw_m13 105 rfl
theorem in_J12 : ∀ w ∈ wsJ120, w ∈ lw_all := lw_in wsJ120 [557, 559, 561, 563, 565] (by decide +kernel) (by decide +kernel)
/-! java/util/LinkedHashMap$LinkedKeyIterator -/
set_option maxRecDepth 100000
def RJ13 : String := "java/util/LinkedHashMap$LinkedKeyIterator"
def TJ13 : u_T := fun k => match k with
  | 0 => ("java/util/LinkedHashMap$LinkedHashIterator", "next", "Ljava/util/LinkedHashMap$Entry;", false)
  | 1 => ("java/util/LinkedHashMap$LinkedHashIterator", "current", "Ljava/util/LinkedHashMap$Entry;", false)
  | 2 => ("java/util/LinkedHashMap$LinkedHashIterator", "expectedModCount", "I", false)
  | 3 => ("java/util/LinkedHashMap$LinkedHashIterator", "reversed", "Z", false)
  | _ => ("java/util/LinkedHashMap$LinkedHashIterator", "this$0", "Ljava/util/LinkedHashMap;", true)
def tyJ13 : Nat → FieldType := fun k => match k with
  | 0 => .object "java/util/LinkedHashMap$Entry"
  | 1 => .object "java/util/LinkedHashMap$Entry"
  | 2 => .int
  | 3 => .boolean
  | _ => .object "java/util/LinkedHashMap"
abbrev wsJ130 : List Cond := u_ws RJ13 TJ13 5
theorem nmJ13 : ∀ a, a < 5 → ∀ b, b < 5 → a ≠ b → (TJ13 a).2.1 ≠ (TJ13 b).2.1 := by decide +kernel
theorem tyJ13_ok : ∀ k, k < 5 → parseFieldDescriptor (TJ13 k).2.2.1 = some (tyJ13 k) := by decide +kernel
abbrev cJ13_init : ByteArray := prog_66_method_1_code
def yJ13_init : MethodName := ⟨RJ13, "<init>", "(Ljava/util/LinkedHashMap;Z)V"⟩
def dkwJ13_init_0 : List UInt8 := [42, 43, 28, 183, 0, 1, 177]
abbrev dktJ13_init_0 : List UInt8 := dkwJ13_init_0 ++ []
theorem dksJ13_init_0 : cJ13_init.data.toList.drop 0 = dktJ13_init_0 := by decide +kernel
theorem dJ13_init_0 : decode cJ13_init 0 = .ok (.aload_n 0, 1) := dk_42 (dk_at dksJ13_init_0 0 rfl rfl)
theorem dJ13_init_1 : decode cJ13_init 1 = .ok (.aload_n 1, 1) := dk_43 (dk_at dksJ13_init_0 1 rfl rfl)
theorem dJ13_init_2 : decode cJ13_init 2 = .ok (.iload_n 2, 1) := dk_28 (dk_at dksJ13_init_0 2 rfl rfl)
theorem dJ13_init_3 : decode cJ13_init 3 = .ok (.invokespecial 1, 3) := dk_183 0 1 (dk_at dksJ13_init_0 3 rfl rfl)
theorem dJ13_init_6 : decode cJ13_init 6 = .ok (.return_, 1) := dk_177 (dk_at dksJ13_init_0 6 rfl rfl)
abbrev cJ13_next : ByteArray := prog_66_method_2_code
def yJ13_next : MethodName := ⟨RJ13, "next", "()Ljava/lang/Object;"⟩
def dkwJ13_next_0 : List UInt8 := [42, 182, 0, 7, 182, 0, 13, 176]
abbrev dktJ13_next_0 : List UInt8 := dkwJ13_next_0 ++ []
theorem dksJ13_next_0 : cJ13_next.data.toList.drop 0 = dktJ13_next_0 := by decide +kernel
theorem dJ13_next_0 : decode cJ13_next 0 = .ok (.aload_n 0, 1) := dk_42 (dk_at dksJ13_next_0 0 rfl rfl)
theorem dJ13_next_1 : decode cJ13_next 1 = .ok (.invokevirtual 7, 3) := dk_182 0 7 (dk_at dksJ13_next_0 1 rfl rfl)
theorem dJ13_next_4 : decode cJ13_next 4 = .ok (.invokevirtual 13, 3) := dk_182 0 13 (dk_at dksJ13_next_0 4 rfl rfl)
theorem dJ13_next_7 : decode cJ13_next 7 = .ok (.areturn, 1) := dk_176 (dk_at dksJ13_next_0 7 rfl rfl)
theorem q88 : (Jvm.Cond.initialized "java/util/LinkedHashMap$LinkedKeyIterator") ∈ lw_all := lw_g (lw_at lw_m1 20 rfl) rfl
theorem q575 : (Jvm.Cond.instantiable "java/util/LinkedHashMap$LinkedKeyIterator" (5 : Nat)) ∈ lw_all := lw_g (lw_at lw_m3 27 rfl) rfl
theorem q577 : (Jvm.Cond.instanceMethod ({ cls := "java/util/LinkedHashMap$LinkedKeyIterator", name := "<init>", desc := "(Ljava/util/LinkedHashMap;Z)V" } : Jvm.MethodName)) ∈ lw_all := lw_g (lw_at lw_m3 29 rfl) rfl
theorem q578 : (Jvm.Cond.code ({ cls := "java/util/LinkedHashMap$LinkedKeyIterator", name := "<init>", desc := "(Ljava/util/LinkedHashMap;Z)V" } : Jvm.MethodName) prog_66_method_1_code (3 : Nat) (Option.none : Option Jvm.ClassFile.FieldType)) ∈ lw_all := lw_g (lw_at lw_m3 30 rfl) rfl
theorem q579 : (Jvm.Cond.methodLink "java/util/LinkedHashMap$LinkedKeyIterator" (1 : Nat) ({ cls := "java/util/LinkedHashMap$LinkedHashIterator", name := "<init>", desc := "(Ljava/util/LinkedHashMap;Z)V" } : Jvm.MethodName)) ∈ lw_all := lw_g (lw_at lw_m3 31 rfl) rfl
theorem q580 : (Jvm.Cond.lays "java/util/LinkedHashMap$LinkedKeyIterator" "java/util/LinkedHashMap$LinkedHashIterator" "next" "Ljava/util/LinkedHashMap$Entry;") ∈ lw_all := lw_g (lw_at lw_m3 32 rfl) rfl
theorem q581 : (Jvm.Cond.lays "java/util/LinkedHashMap$LinkedKeyIterator" "java/util/LinkedHashMap$LinkedHashIterator" "current" "Ljava/util/LinkedHashMap$Entry;") ∈ lw_all := lw_g (lw_at lw_m3 33 rfl) rfl
theorem q582 : (Jvm.Cond.lays "java/util/LinkedHashMap$LinkedKeyIterator" "java/util/LinkedHashMap$LinkedHashIterator" "expectedModCount" "I") ∈ lw_all := lw_g (lw_at lw_m3 34 rfl) rfl
theorem q583 : (Jvm.Cond.lays "java/util/LinkedHashMap$LinkedKeyIterator" "java/util/LinkedHashMap$LinkedHashIterator" "reversed" "Z") ∈ lw_all := lw_g (lw_at lw_m3 35 rfl) rfl
theorem q584 : (Jvm.Cond.laysFinal "java/util/LinkedHashMap$LinkedKeyIterator" "java/util/LinkedHashMap$LinkedHashIterator" "this$0" "Ljava/util/LinkedHashMap;") ∈ lw_all := lw_g (lw_at lw_m3 36 rfl) rfl
theorem q585 : (Jvm.Cond.superclass "java/util/LinkedHashMap$LinkedKeyIterator" "java/util/LinkedHashMap$LinkedHashIterator") ∈ lw_all := lw_g (lw_at lw_m3 37 rfl) rfl
theorem q614 : (Jvm.Cond.castable "java/util/LinkedHashMap$LinkedKeyIterator" "java/util/Iterator") ∈ lw_tbl := lw_at lw_m3 66 rfl
theorem q615 : (Jvm.Cond.selects "java/util/LinkedHashMap$LinkedKeyIterator" ({ cls := "java/util/Iterator", name := "hasNext", desc := "()Z" } : Jvm.MethodName) ({ cls := "java/util/LinkedHashMap$LinkedHashIterator", name := "hasNext", desc := "()Z" } : Jvm.MethodName)) ∈ lw_all := lw_g (lw_at lw_m3 67 rfl) rfl
theorem q616 : (Jvm.Cond.unhidden "java/util/LinkedHashMap$LinkedKeyIterator" "hasNext" "()Z") ∈ lw_tbl := lw_at lw_m3 68 rfl
theorem q1077 : (Jvm.Cond.selects "java/util/LinkedHashMap$LinkedKeyIterator" ({ cls := "java/lang/Object", name := "getClass", desc := "()Ljava/lang/Class;" } : Jvm.MethodName) ({ cls := "java/lang/Object", name := "getClass", desc := "()Ljava/lang/Class;" } : Jvm.MethodName)) ∈ lw_all := lw_g (lw_at lw_m5 49 rfl) rfl
theorem q1153 : (Jvm.Cond.selects "java/util/LinkedHashMap$LinkedKeyIterator" ({ cls := "java/util/Iterator", name := "next", desc := "()Ljava/lang/Object;" } : Jvm.MethodName) ({ cls := "java/util/LinkedHashMap$LinkedKeyIterator", name := "next", desc := "()Ljava/lang/Object;" } : Jvm.MethodName)) ∈ lw_all := lw_g (lw_at lw_m5 125 rfl) rfl
theorem q1154 : (Jvm.Cond.unhidden "java/util/LinkedHashMap$LinkedKeyIterator" "next" "()Ljava/lang/Object;") ∈ lw_tbl := lw_at lw_m5 126 rfl
theorem q1155 : (Jvm.Cond.instanceMethod ({ cls := "java/util/LinkedHashMap$LinkedKeyIterator", name := "next", desc := "()Ljava/lang/Object;" } : Jvm.MethodName)) ∈ lw_all := lw_g (lw_at lw_m5 127 rfl) rfl
theorem q1156 : (Jvm.Cond.publicMethod ({ cls := "java/util/LinkedHashMap$LinkedKeyIterator", name := "next", desc := "()Ljava/lang/Object;" } : Jvm.MethodName)) ∈ lw_tbl := lw_at lw_m5 128 rfl
theorem q1157 : (Jvm.Cond.code ({ cls := "java/util/LinkedHashMap$LinkedKeyIterator", name := "next", desc := "()Ljava/lang/Object;" } : Jvm.MethodName) prog_66_method_2_code (1 : Nat) (Option.some (Jvm.ClassFile.FieldType.object "java/lang/Object"))) ∈ lw_all := lw_g (lw_at lw_m5 129 rfl) rfl
theorem q1158 : (Jvm.Cond.methodLink "java/util/LinkedHashMap$LinkedKeyIterator" (7 : Nat) ({ cls := "java/util/LinkedHashMap$LinkedKeyIterator", name := "nextNode", desc := "()Ljava/util/LinkedHashMap$Entry;" } : Jvm.MethodName)) ∈ lw_all := lw_g (lw_at lw_m5 130 rfl) rfl
theorem q1159 : (Jvm.Cond.sameMethod "java/util/LinkedHashMap$LinkedKeyIterator" "java/util/LinkedHashMap$LinkedHashIterator" "nextNode" "()Ljava/util/LinkedHashMap$Entry;") ∈ lw_all := lw_g (lw_at lw_m5 131 rfl) rfl
theorem q1160 : (Jvm.Cond.selects "java/util/LinkedHashMap$LinkedKeyIterator" ({ cls := "java/util/LinkedHashMap$LinkedKeyIterator", name := "nextNode", desc := "()Ljava/util/LinkedHashMap$Entry;" } : Jvm.MethodName) ({ cls := "java/util/LinkedHashMap$LinkedHashIterator", name := "nextNode", desc := "()Ljava/util/LinkedHashMap$Entry;" } : Jvm.MethodName)) ∈ lw_all := lw_g (lw_at lw_m5 132 rfl) rfl
theorem q1161 : (Jvm.Cond.methodLink "java/util/LinkedHashMap$LinkedKeyIterator" (13 : Nat) ({ cls := "java/util/LinkedHashMap$Entry", name := "getKey", desc := "()Ljava/lang/Object;" } : Jvm.MethodName)) ∈ lw_all := lw_g (lw_at lw_m5 133 rfl) rfl
theorem q1648 : (Jvm.Cond.selects "java/util/LinkedHashMap$LinkedKeyIterator" ({ cls := "java/util/Iterator", name := "remove", desc := "()V" } : Jvm.MethodName) ({ cls := "java/util/LinkedHashMap$LinkedHashIterator", name := "remove", desc := "()V" } : Jvm.MethodName)) ∈ lw_all := lw_g (lw_at lw_m7 140 rfl) rfl
theorem q1649 : (Jvm.Cond.unhidden "java/util/LinkedHashMap$LinkedKeyIterator" "remove" "()V") ∈ lw_tbl := lw_at lw_m7 141 rfl
theorem q3060 : (Jvm.Cond.castable "java/util/LinkedHashMap$LinkedKeyIterator" "java/lang/Object") ∈ lw_tbl := lw_at lw_m13 112 rfl
theorem in_J13 : ∀ w ∈ wsJ130, w ∈ lw_all := lw_in wsJ130 [580, 581, 582, 583, 584] (by decide +kernel) (by decide +kernel)
/-! java/util/HashMap$Node -/
set_option maxRecDepth 100000
def RJ33 : String := "java/util/HashMap$Node"
abbrev cJ33_getKey : ByteArray := prog_58_method_2_code
def yJ33_getKey : MethodName := ⟨RJ33, "getKey", "()Ljava/lang/Object;"⟩
theorem dJ33_getKey_0 : decode cJ33_getKey 0 = .ok (.aload_n 0, 1) := by decide +kernel
theorem dJ33_getKey_1 : decode cJ33_getKey 1 = .ok (.getfield 13, 3) := by decide +kernel
theorem dJ33_getKey_4 : decode cJ33_getKey 4 = .ok (.areturn, 1) := by decide +kernel
abbrev cJ33_getValue : ByteArray := prog_58_method_3_code
def yJ33_getValue : MethodName := ⟨RJ33, "getValue", "()Ljava/lang/Object;"⟩
theorem dJ33_getValue_0 : decode cJ33_getValue 0 = .ok (.aload_n 0, 1) := by decide +kernel
theorem dJ33_getValue_1 : decode cJ33_getValue 1 = .ok (.getfield 17, 3) := by decide +kernel
theorem dJ33_getValue_4 : decode cJ33_getValue 4 = .ok (.areturn, 1) := by decide +kernel
abbrev cJ33_init : ByteArray := prog_58_method_1_code
def yJ33_init : MethodName := ⟨RJ33, "<init>", "(ILjava/lang/Object;Ljava/lang/Object;Ljava/util/HashMap$Node;)V"⟩
def dkwJ33_init_1 : List UInt8 := [181, 0, 20, 177]
abbrev dktJ33_init_1 : List UInt8 := dkwJ33_init_1 ++ []
def dkwJ33_init_0 : List UInt8 := [42, 183, 0, 1, 42, 27, 181, 0, 7, 42, 44, 181, 0, 13, 42, 45, 181, 0, 17, 42, 25, 4]
abbrev dktJ33_init_0 : List UInt8 := dkwJ33_init_0 ++ dktJ33_init_1
theorem dksJ33_init_0 : cJ33_init.data.toList.drop 0 = dktJ33_init_0 := by decide +kernel
theorem dksJ33_init_1 : cJ33_init.data.toList.drop 22 = dktJ33_init_1 := dk_seg dksJ33_init_0 22 rfl rfl
theorem dJ33_init_0 : decode cJ33_init 0 = .ok (.aload_n 0, 1) := dk_42 (dk_at dksJ33_init_0 0 rfl rfl)
theorem dJ33_init_1 : decode cJ33_init 1 = .ok (.invokespecial 1, 3) := dk_183 0 1 (dk_at dksJ33_init_0 1 rfl rfl)
theorem dJ33_init_4 : decode cJ33_init 4 = .ok (.aload_n 0, 1) := dk_42 (dk_at dksJ33_init_0 4 rfl rfl)
theorem dJ33_init_5 : decode cJ33_init 5 = .ok (.iload_n 1, 1) := dk_27 (dk_at dksJ33_init_0 5 rfl rfl)
theorem dJ33_init_6 : decode cJ33_init 6 = .ok (.putfield 7, 3) := dk_181 0 7 (dk_at dksJ33_init_0 6 rfl rfl)
theorem dJ33_init_9 : decode cJ33_init 9 = .ok (.aload_n 0, 1) := dk_42 (dk_at dksJ33_init_0 9 rfl rfl)
theorem dJ33_init_10 : decode cJ33_init 10 = .ok (.aload_n 2, 1) := dk_44 (dk_at dksJ33_init_0 10 rfl rfl)
theorem dJ33_init_11 : decode cJ33_init 11 = .ok (.putfield 13, 3) := dk_181 0 13 (dk_at dksJ33_init_0 11 rfl rfl)
theorem dJ33_init_14 : decode cJ33_init 14 = .ok (.aload_n 0, 1) := dk_42 (dk_at dksJ33_init_0 14 rfl rfl)
theorem dJ33_init_15 : decode cJ33_init 15 = .ok (.aload_n 3, 1) := dk_45 (dk_at dksJ33_init_0 15 rfl rfl)
theorem dJ33_init_16 : decode cJ33_init 16 = .ok (.putfield 17, 3) := dk_181 0 17 (dk_at dksJ33_init_0 16 rfl rfl)
theorem dJ33_init_19 : decode cJ33_init 19 = .ok (.aload_n 0, 1) := dk_42 (dk_at dksJ33_init_0 19 rfl rfl)
theorem dJ33_init_20 : decode cJ33_init 20 = .ok (.aload 4, 2) := dk_25 4 (dk_at dksJ33_init_0 20 rfl rfl)
theorem dJ33_init_22 : decode cJ33_init 22 = .ok (.putfield 20, 3) := dk_181 0 20 (dk_at dksJ33_init_1 0 rfl rfl)
theorem dJ33_init_25 : decode cJ33_init 25 = .ok (.return_, 1) := dk_177 (dk_at dksJ33_init_1 3 rfl rfl)
theorem q112 : (Jvm.Cond.initialized "java/util/HashMap$Node") ∈ lw_all := lw_g (lw_at lw_m1 44 rfl) rfl
theorem q1071 : (Jvm.Cond.selects "java/util/HashMap$Node" ({ cls := "java/lang/Object", name := "getClass", desc := "()Ljava/lang/Class;" } : Jvm.MethodName) ({ cls := "java/lang/Object", name := "getClass", desc := "()Ljava/lang/Class;" } : Jvm.MethodName)) ∈ lw_all := lw_g (lw_at lw_m5 43 rfl) rfl
theorem q1163 : (Jvm.Cond.declares ({ cls := "java/util/HashMap$Node", name := "getKey", desc := "()Ljava/lang/Object;" } : Jvm.MethodName)) ∈ lw_tbl := lw_at lw_m5 135 rfl
theorem q1166 : (Jvm.Cond.instanceMethod ({ cls := "java/util/HashMap$Node", name := "getKey", desc := "()Ljava/lang/Object;" } : Jvm.MethodName)) ∈ lw_all := lw_g (lw_at lw_m5 138 rfl) rfl
theorem q1167 : (Jvm.Cond.code ({ cls := "java/util/HashMap$Node", name := "getKey", desc := "()Ljava/lang/Object;" } : Jvm.MethodName) prog_58_method_2_code (1 : Nat) (Option.some (Jvm.ClassFile.FieldType.object "java/lang/Object"))) ∈ lw_all := lw_g (lw_at lw_m5 139 rfl) rfl
theorem q1193 : (Jvm.Cond.castable "java/util/HashMap$Node" "java/util/Map$Entry") ∈ lw_tbl := lw_at lw_m5 165 rfl
theorem q1194 : (Jvm.Cond.selects "java/util/HashMap$Node" ({ cls := "java/util/Map$Entry", name := "getKey", desc := "()Ljava/lang/Object;" } : Jvm.MethodName) ({ cls := "java/util/HashMap$Node", name := "getKey", desc := "()Ljava/lang/Object;" } : Jvm.MethodName)) ∈ lw_all := lw_g (lw_at lw_m5 166 rfl) rfl
theorem q1195 : (Jvm.Cond.unhidden "java/util/HashMap$Node" "getKey" "()Ljava/lang/Object;") ∈ lw_tbl := lw_at lw_m5 167 rfl
theorem q1196 : (Jvm.Cond.publicMethod ({ cls := "java/util/HashMap$Node", name := "getKey", desc := "()Ljava/lang/Object;" } : Jvm.MethodName)) ∈ lw_tbl := lw_at lw_m5 168 rfl
theorem q1208 : (Jvm.Cond.selects "java/util/HashMap$Node" ({ cls := "java/util/Map$Entry", name := "getValue", desc := "()Ljava/lang/Object;" } : Jvm.MethodName) ({ cls := "java/util/HashMap$Node", name := "getValue", desc := "()Ljava/lang/Object;" } : Jvm.MethodName)) ∈ lw_all := lw_g (lw_at lw_m5 180 rfl) rfl
theorem q1209 : (Jvm.Cond.unhidden "java/util/HashMap$Node" "getValue" "()Ljava/lang/Object;") ∈ lw_tbl := lw_at lw_m5 181 rfl
theorem q1210 : (Jvm.Cond.instanceMethod ({ cls := "java/util/HashMap$Node", name := "getValue", desc := "()Ljava/lang/Object;" } : Jvm.MethodName)) ∈ lw_all := lw_g (lw_at lw_m5 182 rfl) rfl
theorem q1211 : (Jvm.Cond.publicMethod ({ cls := "java/util/HashMap$Node", name := "getValue", desc := "()Ljava/lang/Object;" } : Jvm.MethodName)) ∈ lw_tbl := lw_at lw_m5 183 rfl
theorem q1212 : (Jvm.Cond.code ({ cls := "java/util/HashMap$Node", name := "getValue", desc := "()Ljava/lang/Object;" } : Jvm.MethodName) prog_58_method_3_code (1 : Nat) (Option.some (Jvm.ClassFile.FieldType.object "java/lang/Object"))) ∈ lw_all := lw_g (lw_at lw_m5 184 rfl) rfl
theorem q1576 : (Jvm.Cond.instanceMethod ({ cls := "java/util/HashMap$Node", name := "<init>", desc := "(ILjava/lang/Object;Ljava/lang/Object;Ljava/util/HashMap$Node;)V" } : Jvm.MethodName)) ∈ lw_all := lw_g (lw_at lw_m7 68 rfl) rfl
theorem q1577 : (Jvm.Cond.code ({ cls := "java/util/HashMap$Node", name := "<init>", desc := "(ILjava/lang/Object;Ljava/lang/Object;Ljava/util/HashMap$Node;)V" } : Jvm.MethodName) prog_58_method_1_code (5 : Nat) (Option.none : Option Jvm.ClassFile.FieldType)) ∈ lw_all := lw_g (lw_at lw_m7 69 rfl) rfl
theorem q1578 : (Jvm.Cond.methodLink "java/util/HashMap$Node" (1 : Nat) ({ cls := "java/lang/Object", name := "<init>", desc := "()V" } : Jvm.MethodName)) ∈ lw_all := lw_g (lw_at lw_m7 70 rfl) rfl
theorem q1583 : (Jvm.Cond.fieldLink "java/util/HashMap$Node" (7 : Nat) "java/util/HashMap$Node" "hash" "I") ∈ lw_all := lw_g (lw_at lw_m7 75 rfl) rfl
theorem q1590 : (Jvm.Cond.fieldLink "java/util/HashMap$Node" (13 : Nat) "java/util/HashMap$Node" "key" "Ljava/lang/Object;") ∈ lw_all := lw_g (lw_at lw_m7 82 rfl) rfl
theorem q1597 : (Jvm.Cond.fieldLink "java/util/HashMap$Node" (17 : Nat) "java/util/HashMap$Node" "value" "Ljava/lang/Object;") ∈ lw_all := lw_g (lw_at lw_m7 89 rfl) rfl
theorem q1603 : (Jvm.Cond.fieldLink "java/util/HashMap$Node" (20 : Nat) "java/util/HashMap$Node" "next" "Ljava/util/HashMap$Node;") ∈ lw_all := lw_g (lw_at lw_m7 95 rfl) rfl
theorem q1614 : (Jvm.Cond.soleField "java/util/HashMap$Node" "hash") ∈ lw_all := lw_g (lw_at lw_m7 106 rfl) rfl
theorem q1616 : (Jvm.Cond.soleField "java/util/HashMap$Node" "key") ∈ lw_all := lw_g (lw_at lw_m7 108 rfl) rfl
theorem q1618 : (Jvm.Cond.soleField "java/util/HashMap$Node" "value") ∈ lw_all := lw_g (lw_at lw_m7 110 rfl) rfl
theorem q1620 : (Jvm.Cond.soleField "java/util/HashMap$Node" "next") ∈ lw_all := lw_g (lw_at lw_m7 112 rfl) rfl
theorem q3043 : (Jvm.Cond.castable "java/util/HashMap$Node" "java/lang/Object") ∈ lw_tbl := lw_at lw_m13 95 rfl
/-! java/util/LinkedHashMap$Entry -/
set_option maxRecDepth 100000
def RJ34 : String := "java/util/LinkedHashMap$Entry"
def TJ34 : u_T := fun k => match k with
  | 0 => ("java/util/HashMap$Node", "hash", "I", true)
  | 1 => ("java/util/HashMap$Node", "key", "Ljava/lang/Object;", true)
  | 2 => ("java/util/HashMap$Node", "value", "Ljava/lang/Object;", false)
  | 3 => ("java/util/HashMap$Node", "next", "Ljava/util/HashMap$Node;", false)
  | 4 => ("java/util/LinkedHashMap$Entry", "before", "Ljava/util/LinkedHashMap$Entry;", false)
  | _ => ("java/util/LinkedHashMap$Entry", "after", "Ljava/util/LinkedHashMap$Entry;", false)
def tyJ34 : Nat → FieldType := fun k => match k with
  | 0 => .int
  | 1 => .object "java/lang/Object"
  | 2 => .object "java/lang/Object"
  | 3 => .object "java/util/HashMap$Node"
  | 4 => .object "java/util/LinkedHashMap$Entry"
  | _ => .object "java/util/LinkedHashMap$Entry"
abbrev wsJ340 : List Cond := u_ws RJ34 TJ34 6
theorem nmJ34 : ∀ a, a < 6 → ∀ b, b < 6 → a ≠ b → (TJ34 a).2.1 ≠ (TJ34 b).2.1 := by decide +kernel
theorem tyJ34_ok : ∀ k, k < 6 → parseFieldDescriptor (TJ34 k).2.2.1 = some (tyJ34 k) := by decide +kernel
abbrev cJ34_init : ByteArray := prog_62_method_1_code
def yJ34_init : MethodName := ⟨RJ34, "<init>", "(ILjava/lang/Object;Ljava/lang/Object;Ljava/util/HashMap$Node;)V"⟩
def dkwJ34_init_0 : List UInt8 := [42, 27, 44, 45, 25, 4, 183, 0, 1, 177]
abbrev dktJ34_init_0 : List UInt8 := dkwJ34_init_0 ++ []
theorem dksJ34_init_0 : cJ34_init.data.toList.drop 0 = dktJ34_init_0 := by decide +kernel
theorem dJ34_init_0 : decode cJ34_init 0 = .ok (.aload_n 0, 1) := dk_42 (dk_at dksJ34_init_0 0 rfl rfl)
theorem dJ34_init_1 : decode cJ34_init 1 = .ok (.iload_n 1, 1) := dk_27 (dk_at dksJ34_init_0 1 rfl rfl)
theorem dJ34_init_2 : decode cJ34_init 2 = .ok (.aload_n 2, 1) := dk_44 (dk_at dksJ34_init_0 2 rfl rfl)
theorem dJ34_init_3 : decode cJ34_init 3 = .ok (.aload_n 3, 1) := dk_45 (dk_at dksJ34_init_0 3 rfl rfl)
theorem dJ34_init_4 : decode cJ34_init 4 = .ok (.aload 4, 2) := dk_25 4 (dk_at dksJ34_init_0 4 rfl rfl)
theorem dJ34_init_6 : decode cJ34_init 6 = .ok (.invokespecial 1, 3) := dk_183 0 1 (dk_at dksJ34_init_0 6 rfl rfl)
theorem dJ34_init_9 : decode cJ34_init 9 = .ok (.return_, 1) := dk_177 (dk_at dksJ34_init_0 9 rfl rfl)
theorem q113 : (Jvm.Cond.initialized "java/util/LinkedHashMap$Entry") ∈ lw_all := lw_g (lw_at lw_m1 45 rfl) rfl
theorem q1074 : (Jvm.Cond.selects "java/util/LinkedHashMap$Entry" ({ cls := "java/lang/Object", name := "getClass", desc := "()Ljava/lang/Class;" } : Jvm.MethodName) ({ cls := "java/lang/Object", name := "getClass", desc := "()Ljava/lang/Class;" } : Jvm.MethodName)) ∈ lw_all := lw_g (lw_at lw_m5 46 rfl) rfl
theorem q1162 : (Jvm.Cond.sameMethod "java/util/LinkedHashMap$Entry" "java/util/HashMap$Node" "getKey" "()Ljava/lang/Object;") ∈ lw_all := lw_g (lw_at lw_m5 134 rfl) rfl
theorem q1165 : (Jvm.Cond.selects "java/util/LinkedHashMap$Entry" ({ cls := "java/util/LinkedHashMap$Entry", name := "getKey", desc := "()Ljava/lang/Object;" } : Jvm.MethodName) ({ cls := "java/util/HashMap$Node", name := "getKey", desc := "()Ljava/lang/Object;" } : Jvm.MethodName)) ∈ lw_all := lw_g (lw_at lw_m5 137 rfl) rfl
theorem q1200 : (Jvm.Cond.castable "java/util/LinkedHashMap$Entry" "java/util/Map$Entry") ∈ lw_tbl := lw_at lw_m5 172 rfl
theorem q1201 : (Jvm.Cond.selects "java/util/LinkedHashMap$Entry" ({ cls := "java/util/Map$Entry", name := "getKey", desc := "()Ljava/lang/Object;" } : Jvm.MethodName) ({ cls := "java/util/HashMap$Node", name := "getKey", desc := "()Ljava/lang/Object;" } : Jvm.MethodName)) ∈ lw_all := lw_g (lw_at lw_m5 173 rfl) rfl
theorem q1202 : (Jvm.Cond.unhidden "java/util/LinkedHashMap$Entry" "getKey" "()Ljava/lang/Object;") ∈ lw_tbl := lw_at lw_m5 174 rfl
theorem q1215 : (Jvm.Cond.selects "java/util/LinkedHashMap$Entry" ({ cls := "java/util/Map$Entry", name := "getValue", desc := "()Ljava/lang/Object;" } : Jvm.MethodName) ({ cls := "java/util/HashMap$Node", name := "getValue", desc := "()Ljava/lang/Object;" } : Jvm.MethodName)) ∈ lw_all := lw_g (lw_at lw_m5 187 rfl) rfl
theorem q1216 : (Jvm.Cond.unhidden "java/util/LinkedHashMap$Entry" "getValue" "()Ljava/lang/Object;") ∈ lw_tbl := lw_at lw_m5 188 rfl
theorem q1571 : (Jvm.Cond.instantiable "java/util/LinkedHashMap$Entry" (6 : Nat)) ∈ lw_all := lw_g (lw_at lw_m7 63 rfl) rfl
theorem q1573 : (Jvm.Cond.instanceMethod ({ cls := "java/util/LinkedHashMap$Entry", name := "<init>", desc := "(ILjava/lang/Object;Ljava/lang/Object;Ljava/util/HashMap$Node;)V" } : Jvm.MethodName)) ∈ lw_all := lw_g (lw_at lw_m7 65 rfl) rfl
theorem q1574 : (Jvm.Cond.code ({ cls := "java/util/LinkedHashMap$Entry", name := "<init>", desc := "(ILjava/lang/Object;Ljava/lang/Object;Ljava/util/HashMap$Node;)V" } : Jvm.MethodName) prog_62_method_1_code (5 : Nat) (Option.none : Option Jvm.ClassFile.FieldType)) ∈ lw_all := lw_g (lw_at lw_m7 66 rfl) rfl
theorem q1575 : (Jvm.Cond.methodLink "java/util/LinkedHashMap$Entry" (1 : Nat) ({ cls := "java/util/HashMap$Node", name := "<init>", desc := "(ILjava/lang/Object;Ljava/lang/Object;Ljava/util/HashMap$Node;)V" } : Jvm.MethodName)) ∈ lw_all := lw_g (lw_at lw_m7 67 rfl) rfl
theorem q1588 : (Jvm.Cond.sameField "java/util/LinkedHashMap$Entry" "java/util/HashMap$Node" "hash" "I") ∈ lw_all := lw_g (lw_at lw_m7 80 rfl) rfl
theorem q1595 : (Jvm.Cond.sameField "java/util/LinkedHashMap$Entry" "java/util/HashMap$Node" "key" "Ljava/lang/Object;") ∈ lw_all := lw_g (lw_at lw_m7 87 rfl) rfl
theorem q1599 : (Jvm.Cond.sameField "java/util/LinkedHashMap$Entry" "java/util/HashMap$Node" "value" "Ljava/lang/Object;") ∈ lw_all := lw_g (lw_at lw_m7 91 rfl) rfl
theorem q1609 : (Jvm.Cond.lays "java/util/LinkedHashMap$Entry" "java/util/LinkedHashMap$Entry" "before" "Ljava/util/LinkedHashMap$Entry;") ∈ lw_all := lw_g (lw_at lw_m7 101 rfl) rfl
theorem q1610 : (Jvm.Cond.soleField "java/util/LinkedHashMap$Entry" "before") ∈ lw_all := lw_g (lw_at lw_m7 102 rfl) rfl
theorem q1611 : (Jvm.Cond.lays "java/util/LinkedHashMap$Entry" "java/util/LinkedHashMap$Entry" "after" "Ljava/util/LinkedHashMap$Entry;") ∈ lw_all := lw_g (lw_at lw_m7 103 rfl) rfl
theorem q1612 : (Jvm.Cond.soleField "java/util/LinkedHashMap$Entry" "after") ∈ lw_all := lw_g (lw_at lw_m7 104 rfl) rfl
theorem q1613 : (Jvm.Cond.laysFinal "java/util/LinkedHashMap$Entry" "java/util/HashMap$Node" "hash" "I") ∈ lw_all := lw_g (lw_at lw_m7 105 rfl) rfl
theorem q1615 : (Jvm.Cond.laysFinal "java/util/LinkedHashMap$Entry" "java/util/HashMap$Node" "key" "Ljava/lang/Object;") ∈ lw_all := lw_g (lw_at lw_m7 107 rfl) rfl
theorem q1617 : (Jvm.Cond.lays "java/util/LinkedHashMap$Entry" "java/util/HashMap$Node" "value" "Ljava/lang/Object;") ∈ lw_all := lw_g (lw_at lw_m7 109 rfl) rfl
theorem q1619 : (Jvm.Cond.lays "java/util/LinkedHashMap$Entry" "java/util/HashMap$Node" "next" "Ljava/util/HashMap$Node;") ∈ lw_all := lw_g (lw_at lw_m7 111 rfl) rfl
theorem q1621 : (Jvm.Cond.superclass "java/util/LinkedHashMap$Entry" "java/util/HashMap$Node") ∈ lw_all := lw_g (lw_at lw_m7 113 rfl) rfl
theorem q3055 : (Jvm.Cond.castable "java/util/LinkedHashMap$Entry" "java/lang/Object") ∈ lw_tbl := lw_at lw_m13 107 rfl
theorem q3083 : (Jvm.Cond.castable "java/util/LinkedHashMap$Entry" "java/util/HashMap$Node") ∈ lw_tbl := lw_at lw_m13 135 rfl
theorem in_J34 : ∀ w ∈ wsJ340, w ∈ lw_all := lw_in wsJ340 [1613, 1615, 1617, 1619, 1609, 1611] (by decide +kernel) (by decide +kernel)
/-! java/util/LinkedHashMap$LinkedKeySet -/
set_option maxRecDepth 100000
def RJ37 : String := "java/util/LinkedHashMap$LinkedKeySet"
def TJ37 : u_T := fun k => match k with
  | 0 => ("java/util/LinkedHashMap$LinkedKeySet", "reversed", "Z", true)
  | _ => ("java/util/LinkedHashMap$LinkedKeySet", "this$0", "Ljava/util/LinkedHashMap;", true)
def tyJ37 : Nat → FieldType := fun k => match k with
  | 0 => .boolean
  | _ => .object "java/util/LinkedHashMap"
abbrev wsJ370 : List Cond := u_ws RJ37 TJ37 2
theorem nmJ37 : ∀ a, a < 2 → ∀ b, b < 2 → a ≠ b → (TJ37 a).2.1 ≠ (TJ37 b).2.1 := by decide +kernel
theorem tyJ37_ok : ∀ k, k < 2 → parseFieldDescriptor (TJ37 k).2.2.1 = some (tyJ37 k) := by decide +kernel
abbrev cJ37_iterator : ByteArray := prog_67_method_4_code
def yJ37_iterator : MethodName := ⟨RJ37, "iterator", "()Ljava/util/Iterator;"⟩
def dkwJ37_iterator_0 : List UInt8 := [187, 0, 26, 89, 42, 180, 0, 1, 42, 180, 0, 13, 183, 0, 28, 176]
abbrev dktJ37_iterator_0 : List UInt8 := dkwJ37_iterator_0 ++ []
theorem dksJ37_iterator_0 : cJ37_iterator.data.toList.drop 0 = dktJ37_iterator_0 := by decide +kernel
theorem dJ37_iterator_0 : decode cJ37_iterator 0 = .ok (.new 26, 3) := dk_187 0 26 (dk_at dksJ37_iterator_0 0 rfl rfl)
theorem dJ37_iterator_3 : decode cJ37_iterator 3 = .ok (.dup, 1) := dk_89 (dk_at dksJ37_iterator_0 3 rfl rfl)
theorem dJ37_iterator_4 : decode cJ37_iterator 4 = .ok (.aload_n 0, 1) := dk_42 (dk_at dksJ37_iterator_0 4 rfl rfl)
theorem dJ37_iterator_5 : decode cJ37_iterator 5 = .ok (.getfield 1, 3) := dk_180 0 1 (dk_at dksJ37_iterator_0 5 rfl rfl)
theorem dJ37_iterator_8 : decode cJ37_iterator 8 = .ok (.aload_n 0, 1) := dk_42 (dk_at dksJ37_iterator_0 8 rfl rfl)
theorem dJ37_iterator_9 : decode cJ37_iterator 9 = .ok (.getfield 13, 3) := dk_180 0 13 (dk_at dksJ37_iterator_0 9 rfl rfl)
theorem dJ37_iterator_12 : decode cJ37_iterator 12 = .ok (.invokespecial 28, 3) := dk_183 0 28 (dk_at dksJ37_iterator_0 12 rfl rfl)
theorem dJ37_iterator_15 : decode cJ37_iterator 15 = .ok (.areturn, 1) := dk_176 (dk_at dksJ37_iterator_0 15 rfl rfl)
abbrev cJ37_init : ByteArray := prog_67_method_1_code
def yJ37_init : MethodName := ⟨RJ37, "<init>", "(Ljava/util/LinkedHashMap;Z)V"⟩
def dkwJ37_init_0 : List UInt8 := [42, 43, 181, 0, 1, 42, 183, 0, 7, 42, 28, 181, 0, 13, 177]
abbrev dktJ37_init_0 : List UInt8 := dkwJ37_init_0 ++ []
theorem dksJ37_init_0 : cJ37_init.data.toList.drop 0 = dktJ37_init_0 := by decide +kernel
theorem dJ37_init_0 : decode cJ37_init 0 = .ok (.aload_n 0, 1) := dk_42 (dk_at dksJ37_init_0 0 rfl rfl)
theorem dJ37_init_1 : decode cJ37_init 1 = .ok (.aload_n 1, 1) := dk_43 (dk_at dksJ37_init_0 1 rfl rfl)
theorem dJ37_init_2 : decode cJ37_init 2 = .ok (.putfield 1, 3) := dk_181 0 1 (dk_at dksJ37_init_0 2 rfl rfl)
theorem dJ37_init_5 : decode cJ37_init 5 = .ok (.aload_n 0, 1) := dk_42 (dk_at dksJ37_init_0 5 rfl rfl)
theorem dJ37_init_6 : decode cJ37_init 6 = .ok (.invokespecial 7, 3) := dk_183 0 7 (dk_at dksJ37_init_0 6 rfl rfl)
theorem dJ37_init_9 : decode cJ37_init 9 = .ok (.aload_n 0, 1) := dk_42 (dk_at dksJ37_init_0 9 rfl rfl)
theorem dJ37_init_10 : decode cJ37_init 10 = .ok (.iload_n 2, 1) := dk_28 (dk_at dksJ37_init_0 10 rfl rfl)
theorem dJ37_init_11 : decode cJ37_init 11 = .ok (.putfield 13, 3) := dk_181 0 13 (dk_at dksJ37_init_0 11 rfl rfl)
theorem dJ37_init_14 : decode cJ37_init 14 = .ok (.return_, 1) := dk_177 (dk_at dksJ37_init_0 14 rfl rfl)
theorem q118 : (Jvm.Cond.initialized "java/util/LinkedHashMap$LinkedKeySet") ∈ lw_all := lw_g (lw_at lw_m1 50 rfl) rfl
theorem q568 : (Jvm.Cond.castable "java/util/LinkedHashMap$LinkedKeySet" "java/util/Set") ∈ lw_tbl := lw_at lw_m3 20 rfl
theorem q569 : (Jvm.Cond.selects "java/util/LinkedHashMap$LinkedKeySet" ({ cls := "java/util/Set", name := "iterator", desc := "()Ljava/util/Iterator;" } : Jvm.MethodName) ({ cls := "java/util/LinkedHashMap$LinkedKeySet", name := "iterator", desc := "()Ljava/util/Iterator;" } : Jvm.MethodName)) ∈ lw_all := lw_g (lw_at lw_m3 21 rfl) rfl
theorem q570 : (Jvm.Cond.unhidden "java/util/LinkedHashMap$LinkedKeySet" "iterator" "()Ljava/util/Iterator;") ∈ lw_tbl := lw_at lw_m3 22 rfl
theorem q571 : (Jvm.Cond.instanceMethod ({ cls := "java/util/LinkedHashMap$LinkedKeySet", name := "iterator", desc := "()Ljava/util/Iterator;" } : Jvm.MethodName)) ∈ lw_all := lw_g (lw_at lw_m3 23 rfl) rfl
theorem q572 : (Jvm.Cond.publicMethod ({ cls := "java/util/LinkedHashMap$LinkedKeySet", name := "iterator", desc := "()Ljava/util/Iterator;" } : Jvm.MethodName)) ∈ lw_tbl := lw_at lw_m3 24 rfl
theorem q573 : (Jvm.Cond.code ({ cls := "java/util/LinkedHashMap$LinkedKeySet", name := "iterator", desc := "()Ljava/util/Iterator;" } : Jvm.MethodName) prog_67_method_4_code (1 : Nat) (Option.some (Jvm.ClassFile.FieldType.object "java/util/Iterator"))) ∈ lw_all := lw_g (lw_at lw_m3 25 rfl) rfl
theorem q574 : (Jvm.Cond.classLink "java/util/LinkedHashMap$LinkedKeySet" (26 : Nat) "java/util/LinkedHashMap$LinkedKeyIterator") ∈ lw_all := lw_g (lw_at lw_m3 26 rfl) rfl
theorem q576 : (Jvm.Cond.methodLink "java/util/LinkedHashMap$LinkedKeySet" (28 : Nat) ({ cls := "java/util/LinkedHashMap$LinkedKeyIterator", name := "<init>", desc := "(Ljava/util/LinkedHashMap;Z)V" } : Jvm.MethodName)) ∈ lw_all := lw_g (lw_at lw_m3 28 rfl) rfl
theorem q1078 : (Jvm.Cond.selects "java/util/LinkedHashMap$LinkedKeySet" ({ cls := "java/lang/Object", name := "getClass", desc := "()Ljava/lang/Class;" } : Jvm.MethodName) ({ cls := "java/lang/Object", name := "getClass", desc := "()Ljava/lang/Class;" } : Jvm.MethodName)) ∈ lw_all := lw_g (lw_at lw_m5 50 rfl) rfl
theorem q2111 : (Jvm.Cond.instantiable "java/util/LinkedHashMap$LinkedKeySet" (2 : Nat)) ∈ lw_all := lw_g (lw_at lw_m9 123 rfl) rfl
theorem q2113 : (Jvm.Cond.instanceMethod ({ cls := "java/util/LinkedHashMap$LinkedKeySet", name := "<init>", desc := "(Ljava/util/LinkedHashMap;Z)V" } : Jvm.MethodName)) ∈ lw_all := lw_g (lw_at lw_m9 125 rfl) rfl
theorem q2114 : (Jvm.Cond.code ({ cls := "java/util/LinkedHashMap$LinkedKeySet", name := "<init>", desc := "(Ljava/util/LinkedHashMap;Z)V" } : Jvm.MethodName) prog_67_method_1_code (3 : Nat) (Option.none : Option Jvm.ClassFile.FieldType)) ∈ lw_all := lw_g (lw_at lw_m9 126 rfl) rfl
theorem q2115 : (Jvm.Cond.methodLink "java/util/LinkedHashMap$LinkedKeySet" (7 : Nat) ({ cls := "java/util/AbstractSet", name := "<init>", desc := "()V" } : Jvm.MethodName)) ∈ lw_all := lw_g (lw_at lw_m9 127 rfl) rfl
theorem q2116 : (Jvm.Cond.fieldLink "java/util/LinkedHashMap$LinkedKeySet" (13 : Nat) "java/util/LinkedHashMap$LinkedKeySet" "reversed" "Z") ∈ lw_all := lw_g (lw_at lw_m9 128 rfl) rfl
theorem q2117 : (Jvm.Cond.fieldLink "java/util/LinkedHashMap$LinkedKeySet" (1 : Nat) "java/util/LinkedHashMap$LinkedKeySet" "this$0" "Ljava/util/LinkedHashMap;") ∈ lw_all := lw_g (lw_at lw_m9 129 rfl) rfl
theorem q2118 : (Jvm.Cond.laysFinal "java/util/LinkedHashMap$LinkedKeySet" "java/util/LinkedHashMap$LinkedKeySet" "reversed" "Z") ∈ lw_all := lw_g (lw_at lw_m9 130 rfl) rfl
theorem q2119 : (Jvm.Cond.soleField "java/util/LinkedHashMap$LinkedKeySet" "reversed") ∈ lw_all := lw_g (lw_at lw_m9 131 rfl) rfl
theorem q2120 : (Jvm.Cond.laysFinal "java/util/LinkedHashMap$LinkedKeySet" "java/util/LinkedHashMap$LinkedKeySet" "this$0" "Ljava/util/LinkedHashMap;") ∈ lw_all := lw_g (lw_at lw_m9 132 rfl) rfl
theorem q2121 : (Jvm.Cond.soleField "java/util/LinkedHashMap$LinkedKeySet" "this$0") ∈ lw_all := lw_g (lw_at lw_m9 133 rfl) rfl
theorem q2122 : (Jvm.Cond.superclass "java/util/LinkedHashMap$LinkedKeySet" "java/util/AbstractSet") ∈ lw_all := lw_g (lw_at lw_m9 134 rfl) rfl
theorem q2538 : (Jvm.Cond.castable "java/util/LinkedHashMap$LinkedKeySet" "java/util/Collection") ∈ lw_tbl := lw_at lw_m11 70 rfl
theorem q2539 : (Jvm.Cond.selects "java/util/LinkedHashMap$LinkedKeySet" ({ cls := "java/util/Collection", name := "iterator", desc := "()Ljava/util/Iterator;" } : Jvm.MethodName) ({ cls := "java/util/LinkedHashMap$LinkedKeySet", name := "iterator", desc := "()Ljava/util/Iterator;" } : Jvm.MethodName)) ∈ lw_all := lw_g (lw_at lw_m11 71 rfl) rfl
theorem q3034 : (Jvm.Cond.castable "java/util/LinkedHashMap$LinkedKeySet" "java/util/SequencedSet") ∈ lw_tbl := lw_at lw_m13 86 rfl
theorem q3038 : (Jvm.Cond.castable "java/util/LinkedHashMap$LinkedKeySet" "java/util/SequencedCollection") ∈ lw_tbl := lw_at lw_m13 90 rfl
theorem q3059 : (Jvm.Cond.castable "java/util/LinkedHashMap$LinkedKeySet" "java/lang/Object") ∈ lw_tbl := lw_at lw_m13 111 rfl
theorem in_J37 : ∀ w ∈ wsJ370, w ∈ lw_all := lw_in wsJ370 [2118, 2120] (by decide +kernel) (by decide +kernel)
/-! java/util/ArrayDeque$DeqIterator -/
set_option maxRecDepth 100000
def RJ38 : String := "java/util/ArrayDeque$DeqIterator"
def TJ38 : u_T := fun k => match k with
  | 0 => ("java/util/ArrayDeque$DeqIterator", "cursor", "I", false)
  | 1 => ("java/util/ArrayDeque$DeqIterator", "remaining", "I", false)
  | 2 => ("java/util/ArrayDeque$DeqIterator", "lastRet", "I", false)
  | _ => ("java/util/ArrayDeque$DeqIterator", "this$0", "Ljava/util/ArrayDeque;", true)
def tyJ38 : Nat → FieldType := fun k => match k with
  | 0 => .int
  | 1 => .int
  | 2 => .int
  | _ => .object "java/util/ArrayDeque"
abbrev wsJ380 : List Cond := u_ws RJ38 TJ38 4
theorem nmJ38 : ∀ a, a < 4 → ∀ b, b < 4 → a ≠ b → (TJ38 a).2.1 ≠ (TJ38 b).2.1 := by decide +kernel
theorem tyJ38_ok : ∀ k, k < 4 → parseFieldDescriptor (TJ38 k).2.2.1 = some (tyJ38 k) := by decide +kernel
abbrev cJ38_hasNext : ByteArray := prog_51_method_2_code
def yJ38_hasNext : MethodName := ⟨RJ38, "hasNext", "()Z"⟩
def dkwJ38_hasNext_0 : List UInt8 := [42, 180, 0, 19, 158, 0, 7, 4, 167, 0, 4, 3, 172]
abbrev dktJ38_hasNext_0 : List UInt8 := dkwJ38_hasNext_0 ++ []
theorem dksJ38_hasNext_0 : cJ38_hasNext.data.toList.drop 0 = dktJ38_hasNext_0 := by decide +kernel
theorem dJ38_hasNext_0 : decode cJ38_hasNext 0 = .ok (.aload_n 0, 1) := dk_42 (dk_at dksJ38_hasNext_0 0 rfl rfl)
theorem dJ38_hasNext_1 : decode cJ38_hasNext 1 = .ok (.getfield 19, 3) := dk_180 0 19 (dk_at dksJ38_hasNext_0 1 rfl rfl)
theorem dJ38_hasNext_4 : decode cJ38_hasNext 4 = .ok (.ifCond .le 7, 3) := dk_158 0 7 (dk_at dksJ38_hasNext_0 4 rfl rfl)
theorem dJ38_hasNext_7 : decode cJ38_hasNext 7 = .ok (.iconst 1, 1) := dk_4 (dk_at dksJ38_hasNext_0 7 rfl rfl)
theorem dJ38_hasNext_8 : decode cJ38_hasNext 8 = .ok (.goto 4, 3) := dk_167 0 4 (dk_at dksJ38_hasNext_0 8 rfl rfl)
theorem dJ38_hasNext_11 : decode cJ38_hasNext 11 = .ok (.iconst 0, 1) := dk_3 (dk_at dksJ38_hasNext_0 11 rfl rfl)
theorem dJ38_hasNext_12 : decode cJ38_hasNext 12 = .ok (.ireturn, 1) := dk_172 (dk_at dksJ38_hasNext_0 12 rfl rfl)
abbrev cJ38_next : ByteArray := prog_51_method_3_code
def yJ38_next : MethodName := ⟨RJ38, "next", "()Ljava/lang/Object;"⟩
def dkwJ38_next_2 : List UInt8 := [181, 0, 29, 42, 89, 180, 0, 19, 4, 100, 181, 0, 19, 44, 176]
abbrev dktJ38_next_2 : List UInt8 := dkwJ38_next_2 ++ []
def dkwJ38_next_1 : List UInt8 := [42, 180, 0, 29, 184, 0, 39, 77, 42, 42, 42, 180, 0, 29, 90, 181, 0, 23, 43, 190, 184, 0, 43]
abbrev dktJ38_next_1 : List UInt8 := dkwJ38_next_1 ++ dktJ38_next_2
def dkwJ38_next_0 : List UInt8 := [42, 180, 0, 19, 157, 0, 11, 187, 0, 32, 89, 183, 0, 34, 191, 42, 180, 0, 1, 180, 0, 35, 76, 43]
abbrev dktJ38_next_0 : List UInt8 := dkwJ38_next_0 ++ dktJ38_next_1
theorem dksJ38_next_0 : cJ38_next.data.toList.drop 0 = dktJ38_next_0 := by decide +kernel
theorem dksJ38_next_1 : cJ38_next.data.toList.drop 24 = dktJ38_next_1 := dk_seg dksJ38_next_0 24 rfl rfl
theorem dksJ38_next_2 : cJ38_next.data.toList.drop 47 = dktJ38_next_2 := dk_seg dksJ38_next_1 23 rfl rfl
theorem dJ38_next_0 : decode cJ38_next 0 = .ok (.aload_n 0, 1) := dk_42 (dk_at dksJ38_next_0 0 rfl rfl)
theorem dJ38_next_1 : decode cJ38_next 1 = .ok (.getfield 19, 3) := dk_180 0 19 (dk_at dksJ38_next_0 1 rfl rfl)
theorem dJ38_next_4 : decode cJ38_next 4 = .ok (.ifCond .gt 11, 3) := dk_157 0 11 (dk_at dksJ38_next_0 4 rfl rfl)
theorem dJ38_next_7 : decode cJ38_next 7 = .ok (.new 32, 3) := dk_187 0 32 (dk_at dksJ38_next_0 7 rfl rfl)
theorem dJ38_next_10 : decode cJ38_next 10 = .ok (.dup, 1) := dk_89 (dk_at dksJ38_next_0 10 rfl rfl)
theorem dJ38_next_11 : decode cJ38_next 11 = .ok (.invokespecial 34, 3) := dk_183 0 34 (dk_at dksJ38_next_0 11 rfl rfl)
theorem dJ38_next_14 : decode cJ38_next 14 = .ok (.athrow, 1) := dk_191 (dk_at dksJ38_next_0 14 rfl rfl)
theorem dJ38_next_15 : decode cJ38_next 15 = .ok (.aload_n 0, 1) := dk_42 (dk_at dksJ38_next_0 15 rfl rfl)
theorem dJ38_next_16 : decode cJ38_next 16 = .ok (.getfield 1, 3) := dk_180 0 1 (dk_at dksJ38_next_0 16 rfl rfl)
theorem dJ38_next_19 : decode cJ38_next 19 = .ok (.getfield 35, 3) := dk_180 0 35 (dk_at dksJ38_next_0 19 rfl rfl)
theorem dJ38_next_22 : decode cJ38_next 22 = .ok (.astore_n 1, 1) := dk_76 (dk_at dksJ38_next_0 22 rfl rfl)
theorem dJ38_next_23 : decode cJ38_next 23 = .ok (.aload_n 1, 1) := dk_43 (dk_at dksJ38_next_0 23 rfl rfl)
theorem dJ38_next_24 : decode cJ38_next 24 = .ok (.aload_n 0, 1) := dk_42 (dk_at dksJ38_next_1 0 rfl rfl)
theorem dJ38_next_25 : decode cJ38_next 25 = .ok (.getfield 29, 3) := dk_180 0 29 (dk_at dksJ38_next_1 1 rfl rfl)
theorem dJ38_next_28 : decode cJ38_next 28 = .ok (.invokestatic 39, 3) := dk_184 0 39 (dk_at dksJ38_next_1 4 rfl rfl)
theorem dJ38_next_31 : decode cJ38_next 31 = .ok (.astore_n 2, 1) := dk_77 (dk_at dksJ38_next_1 7 rfl rfl)
theorem dJ38_next_32 : decode cJ38_next 32 = .ok (.aload_n 0, 1) := dk_42 (dk_at dksJ38_next_1 8 rfl rfl)
theorem dJ38_next_33 : decode cJ38_next 33 = .ok (.aload_n 0, 1) := dk_42 (dk_at dksJ38_next_1 9 rfl rfl)
theorem dJ38_next_34 : decode cJ38_next 34 = .ok (.aload_n 0, 1) := dk_42 (dk_at dksJ38_next_1 10 rfl rfl)
theorem dJ38_next_35 : decode cJ38_next 35 = .ok (.getfield 29, 3) := dk_180 0 29 (dk_at dksJ38_next_1 11 rfl rfl)
theorem dJ38_next_38 : decode cJ38_next 38 = .ok (.dup_x1, 1) := dk_90 (dk_at dksJ38_next_1 14 rfl rfl)
theorem dJ38_next_39 : decode cJ38_next 39 = .ok (.putfield 23, 3) := dk_181 0 23 (dk_at dksJ38_next_1 15 rfl rfl)
theorem dJ38_next_42 : decode cJ38_next 42 = .ok (.aload_n 1, 1) := dk_43 (dk_at dksJ38_next_1 18 rfl rfl)
theorem dJ38_next_43 : decode cJ38_next 43 = .ok (.arraylength, 1) := dk_190 (dk_at dksJ38_next_1 19 rfl rfl)
theorem dJ38_next_44 : decode cJ38_next 44 = .ok (.invokestatic 43, 3) := dk_184 0 43 (dk_at dksJ38_next_1 20 rfl rfl)
theorem dJ38_next_47 : decode cJ38_next 47 = .ok (.putfield 29, 3) := dk_181 0 29 (dk_at dksJ38_next_2 0 rfl rfl)
theorem dJ38_next_50 : decode cJ38_next 50 = .ok (.aload_n 0, 1) := dk_42 (dk_at dksJ38_next_2 3 rfl rfl)
theorem dJ38_next_51 : decode cJ38_next 51 = .ok (.dup, 1) := dk_89 (dk_at dksJ38_next_2 4 rfl rfl)
theorem dJ38_next_52 : decode cJ38_next 52 = .ok (.getfield 19, 3) := dk_180 0 19 (dk_at dksJ38_next_2 5 rfl rfl)
theorem dJ38_next_55 : decode cJ38_next 55 = .ok (.iconst 1, 1) := dk_4 (dk_at dksJ38_next_2 8 rfl rfl)
theorem dJ38_next_56 : decode cJ38_next 56 = .ok (.isub, 1) := dk_100 (dk_at dksJ38_next_2 9 rfl rfl)
theorem dJ38_next_57 : decode cJ38_next 57 = .ok (.putfield 19, 3) := dk_181 0 19 (dk_at dksJ38_next_2 10 rfl rfl)
theorem dJ38_next_60 : decode cJ38_next 60 = .ok (.aload_n 2, 1) := dk_44 (dk_at dksJ38_next_2 13 rfl rfl)
theorem dJ38_next_61 : decode cJ38_next 61 = .ok (.areturn, 1) := dk_176 (dk_at dksJ38_next_2 14 rfl rfl)
abbrev cJ38_remove : ByteArray := prog_51_method_5_code
def yJ38_remove : MethodName := ⟨RJ38, "remove", "()V"⟩
def dkwJ38_remove_1 : List UInt8 := [182, 0, 53, 182, 0, 57, 42, 2, 181, 0, 23, 177]
abbrev dktJ38_remove_1 : List UInt8 := dkwJ38_remove_1 ++ []
def dkwJ38_remove_0 : List UInt8 := [42, 180, 0, 23, 156, 0, 11, 187, 0, 50, 89, 183, 0, 52, 191, 42, 42, 180, 0, 1, 42, 180, 0, 23]
abbrev dktJ38_remove_0 : List UInt8 := dkwJ38_remove_0 ++ dktJ38_remove_1
theorem dksJ38_remove_0 : cJ38_remove.data.toList.drop 0 = dktJ38_remove_0 := by decide +kernel
theorem dksJ38_remove_1 : cJ38_remove.data.toList.drop 24 = dktJ38_remove_1 := dk_seg dksJ38_remove_0 24 rfl rfl
theorem dJ38_remove_0 : decode cJ38_remove 0 = .ok (.aload_n 0, 1) := dk_42 (dk_at dksJ38_remove_0 0 rfl rfl)
theorem dJ38_remove_1 : decode cJ38_remove 1 = .ok (.getfield 23, 3) := dk_180 0 23 (dk_at dksJ38_remove_0 1 rfl rfl)
theorem dJ38_remove_4 : decode cJ38_remove 4 = .ok (.ifCond .ge 11, 3) := dk_156 0 11 (dk_at dksJ38_remove_0 4 rfl rfl)
theorem dJ38_remove_7 : decode cJ38_remove 7 = .ok (.new 50, 3) := dk_187 0 50 (dk_at dksJ38_remove_0 7 rfl rfl)
theorem dJ38_remove_10 : decode cJ38_remove 10 = .ok (.dup, 1) := dk_89 (dk_at dksJ38_remove_0 10 rfl rfl)
theorem dJ38_remove_11 : decode cJ38_remove 11 = .ok (.invokespecial 52, 3) := dk_183 0 52 (dk_at dksJ38_remove_0 11 rfl rfl)
theorem dJ38_remove_14 : decode cJ38_remove 14 = .ok (.athrow, 1) := dk_191 (dk_at dksJ38_remove_0 14 rfl rfl)
theorem dJ38_remove_15 : decode cJ38_remove 15 = .ok (.aload_n 0, 1) := dk_42 (dk_at dksJ38_remove_0 15 rfl rfl)
theorem dJ38_remove_16 : decode cJ38_remove 16 = .ok (.aload_n 0, 1) := dk_42 (dk_at dksJ38_remove_0 16 rfl rfl)
theorem dJ38_remove_17 : decode cJ38_remove 17 = .ok (.getfield 1, 3) := dk_180 0 1 (dk_at dksJ38_remove_0 17 rfl rfl)
theorem dJ38_remove_20 : decode cJ38_remove 20 = .ok (.aload_n 0, 1) := dk_42 (dk_at dksJ38_remove_0 20 rfl rfl)
theorem dJ38_remove_21 : decode cJ38_remove 21 = .ok (.getfield 23, 3) := dk_180 0 23 (dk_at dksJ38_remove_0 21 rfl rfl)
theorem dJ38_remove_24 : decode cJ38_remove 24 = .ok (.invokevirtual 53, 3) := dk_182 0 53 (dk_at dksJ38_remove_1 0 rfl rfl)
theorem dJ38_remove_27 : decode cJ38_remove 27 = .ok (.invokevirtual 57, 3) := dk_182 0 57 (dk_at dksJ38_remove_1 3 rfl rfl)
theorem dJ38_remove_30 : decode cJ38_remove 30 = .ok (.aload_n 0, 1) := dk_42 (dk_at dksJ38_remove_1 6 rfl rfl)
theorem dJ38_remove_31 : decode cJ38_remove 31 = .ok (.iconst (-1), 1) := dk_2 (dk_at dksJ38_remove_1 7 rfl rfl)
theorem dJ38_remove_32 : decode cJ38_remove 32 = .ok (.putfield 23, 3) := dk_181 0 23 (dk_at dksJ38_remove_1 8 rfl rfl)
theorem dJ38_remove_35 : decode cJ38_remove 35 = .ok (.return_, 1) := dk_177 (dk_at dksJ38_remove_1 11 rfl rfl)
abbrev cJ38_postDelete : ByteArray := prog_51_method_4_code
def yJ38_postDelete : MethodName := ⟨RJ38, "postDelete", "(Z)V"⟩
def dkwJ38_postDelete_0 : List UInt8 := [27, 153, 0, 22, 42, 42, 180, 0, 29, 42, 180, 0, 1, 180, 0, 35, 190, 184, 0, 47, 181, 0, 29, 177]
abbrev dktJ38_postDelete_0 : List UInt8 := dkwJ38_postDelete_0 ++ []
theorem dksJ38_postDelete_0 : cJ38_postDelete.data.toList.drop 0 = dktJ38_postDelete_0 := by decide +kernel
theorem dJ38_postDelete_0 : decode cJ38_postDelete 0 = .ok (.iload_n 1, 1) := dk_27 (dk_at dksJ38_postDelete_0 0 rfl rfl)
theorem dJ38_postDelete_1 : decode cJ38_postDelete 1 = .ok (.ifCond .eq 22, 3) := dk_153 0 22 (dk_at dksJ38_postDelete_0 1 rfl rfl)
theorem dJ38_postDelete_4 : decode cJ38_postDelete 4 = .ok (.aload_n 0, 1) := dk_42 (dk_at dksJ38_postDelete_0 4 rfl rfl)
theorem dJ38_postDelete_5 : decode cJ38_postDelete 5 = .ok (.aload_n 0, 1) := dk_42 (dk_at dksJ38_postDelete_0 5 rfl rfl)
theorem dJ38_postDelete_6 : decode cJ38_postDelete 6 = .ok (.getfield 29, 3) := dk_180 0 29 (dk_at dksJ38_postDelete_0 6 rfl rfl)
theorem dJ38_postDelete_9 : decode cJ38_postDelete 9 = .ok (.aload_n 0, 1) := dk_42 (dk_at dksJ38_postDelete_0 9 rfl rfl)
theorem dJ38_postDelete_10 : decode cJ38_postDelete 10 = .ok (.getfield 1, 3) := dk_180 0 1 (dk_at dksJ38_postDelete_0 10 rfl rfl)
theorem dJ38_postDelete_13 : decode cJ38_postDelete 13 = .ok (.getfield 35, 3) := dk_180 0 35 (dk_at dksJ38_postDelete_0 13 rfl rfl)
theorem dJ38_postDelete_16 : decode cJ38_postDelete 16 = .ok (.arraylength, 1) := dk_190 (dk_at dksJ38_postDelete_0 16 rfl rfl)
theorem dJ38_postDelete_17 : decode cJ38_postDelete 17 = .ok (.invokestatic 47, 3) := dk_184 0 47 (dk_at dksJ38_postDelete_0 17 rfl rfl)
theorem dJ38_postDelete_20 : decode cJ38_postDelete 20 = .ok (.putfield 29, 3) := dk_181 0 29 (dk_at dksJ38_postDelete_0 20 rfl rfl)
theorem dJ38_postDelete_23 : decode cJ38_postDelete 23 = .ok (.return_, 1) := dk_177 (dk_at dksJ38_postDelete_0 23 rfl rfl)
abbrev cJ38_init : ByteArray := prog_51_method_1_code
def yJ38_init : MethodName := ⟨RJ38, "<init>", "(Ljava/util/ArrayDeque;)V"⟩
def dkwJ38_init_1 : List UInt8 := [181, 0, 23, 42, 43, 180, 0, 26, 181, 0, 29, 177]
abbrev dktJ38_init_1 : List UInt8 := dkwJ38_init_1 ++ []
def dkwJ38_init_0 : List UInt8 := [42, 43, 181, 0, 1, 42, 183, 0, 7, 42, 42, 180, 0, 1, 182, 0, 13, 181, 0, 19, 42, 2]
abbrev dktJ38_init_0 : List UInt8 := dkwJ38_init_0 ++ dktJ38_init_1
theorem dksJ38_init_0 : cJ38_init.data.toList.drop 0 = dktJ38_init_0 := by decide +kernel
theorem dksJ38_init_1 : cJ38_init.data.toList.drop 22 = dktJ38_init_1 := dk_seg dksJ38_init_0 22 rfl rfl
theorem dJ38_init_0 : decode cJ38_init 0 = .ok (.aload_n 0, 1) := dk_42 (dk_at dksJ38_init_0 0 rfl rfl)
theorem dJ38_init_1 : decode cJ38_init 1 = .ok (.aload_n 1, 1) := dk_43 (dk_at dksJ38_init_0 1 rfl rfl)
theorem dJ38_init_2 : decode cJ38_init 2 = .ok (.putfield 1, 3) := dk_181 0 1 (dk_at dksJ38_init_0 2 rfl rfl)
theorem dJ38_init_5 : decode cJ38_init 5 = .ok (.aload_n 0, 1) := dk_42 (dk_at dksJ38_init_0 5 rfl rfl)
theorem dJ38_init_6 : decode cJ38_init 6 = .ok (.invokespecial 7, 3) := dk_183 0 7 (dk_at dksJ38_init_0 6 rfl rfl)
theorem dJ38_init_9 : decode cJ38_init 9 = .ok (.aload_n 0, 1) := dk_42 (dk_at dksJ38_init_0 9 rfl rfl)
theorem dJ38_init_10 : decode cJ38_init 10 = .ok (.aload_n 0, 1) := dk_42 (dk_at dksJ38_init_0 10 rfl rfl)
theorem dJ38_init_11 : decode cJ38_init 11 = .ok (.getfield 1, 3) := dk_180 0 1 (dk_at dksJ38_init_0 11 rfl rfl)
theorem dJ38_init_14 : decode cJ38_init 14 = .ok (.invokevirtual 13, 3) := dk_182 0 13 (dk_at dksJ38_init_0 14 rfl rfl)
theorem dJ38_init_17 : decode cJ38_init 17 = .ok (.putfield 19, 3) := dk_181 0 19 (dk_at dksJ38_init_0 17 rfl rfl)
theorem dJ38_init_20 : decode cJ38_init 20 = .ok (.aload_n 0, 1) := dk_42 (dk_at dksJ38_init_0 20 rfl rfl)
theorem dJ38_init_21 : decode cJ38_init 21 = .ok (.iconst (-1), 1) := dk_2 (dk_at dksJ38_init_0 21 rfl rfl)
theorem dJ38_init_22 : decode cJ38_init 22 = .ok (.putfield 23, 3) := dk_181 0 23 (dk_at dksJ38_init_1 0 rfl rfl)
theorem dJ38_init_25 : decode cJ38_init 25 = .ok (.aload_n 0, 1) := dk_42 (dk_at dksJ38_init_1 3 rfl rfl)
theorem dJ38_init_26 : decode cJ38_init 26 = .ok (.aload_n 1, 1) := dk_43 (dk_at dksJ38_init_1 4 rfl rfl)
theorem dJ38_init_27 : decode cJ38_init 27 = .ok (.getfield 26, 3) := dk_180 0 26 (dk_at dksJ38_init_1 5 rfl rfl)
theorem dJ38_init_30 : decode cJ38_init 30 = .ok (.putfield 29, 3) := dk_181 0 29 (dk_at dksJ38_init_1 8 rfl rfl)
theorem dJ38_init_33 : decode cJ38_init 33 = .ok (.return_, 1) := dk_177 (dk_at dksJ38_init_1 11 rfl rfl)
theorem q119 : (Jvm.Cond.initialized "java/util/ArrayDeque$DeqIterator") ∈ lw_all := lw_g (lw_at lw_m1 51 rfl) rfl
theorem q237 : (Jvm.Cond.fieldLink "java/util/ArrayDeque$DeqIterator" (35 : Nat) "java/util/ArrayDeque" "elements" "[Ljava/lang/Object;") ∈ lw_all := lw_g (lw_at lw_m1 169 rfl) rfl
theorem q238 : (Jvm.Cond.fieldLink "java/util/ArrayDeque$DeqIterator" (26 : Nat) "java/util/ArrayDeque" "head" "I") ∈ lw_all := lw_g (lw_at lw_m1 170 rfl) rfl
theorem q602 : (Jvm.Cond.castable "java/util/ArrayDeque$DeqIterator" "java/util/Iterator") ∈ lw_tbl := lw_at lw_m3 54 rfl
theorem q603 : (Jvm.Cond.selects "java/util/ArrayDeque$DeqIterator" ({ cls := "java/util/Iterator", name := "hasNext", desc := "()Z" } : Jvm.MethodName) ({ cls := "java/util/ArrayDeque$DeqIterator", name := "hasNext", desc := "()Z" } : Jvm.MethodName)) ∈ lw_all := lw_g (lw_at lw_m3 55 rfl) rfl
theorem q604 : (Jvm.Cond.unhidden "java/util/ArrayDeque$DeqIterator" "hasNext" "()Z") ∈ lw_tbl := lw_at lw_m3 56 rfl
theorem q605 : (Jvm.Cond.instanceMethod ({ cls := "java/util/ArrayDeque$DeqIterator", name := "hasNext", desc := "()Z" } : Jvm.MethodName)) ∈ lw_all := lw_g (lw_at lw_m3 57 rfl) rfl
theorem q606 : (Jvm.Cond.publicMethod ({ cls := "java/util/ArrayDeque$DeqIterator", name := "hasNext", desc := "()Z" } : Jvm.MethodName)) ∈ lw_tbl := lw_at lw_m3 58 rfl
theorem q607 : (Jvm.Cond.code ({ cls := "java/util/ArrayDeque$DeqIterator", name := "hasNext", desc := "()Z" } : Jvm.MethodName) prog_51_method_2_code (1 : Nat) (Option.some Jvm.ClassFile.FieldType.boolean)) ∈ lw_all := lw_g (lw_at lw_m3 59 rfl) rfl
theorem q1069 : (Jvm.Cond.selects "java/util/ArrayDeque$DeqIterator" ({ cls := "java/lang/Object", name := "getClass", desc := "()Ljava/lang/Class;" } : Jvm.MethodName) ({ cls := "java/lang/Object", name := "getClass", desc := "()Ljava/lang/Class;" } : Jvm.MethodName)) ∈ lw_all := lw_g (lw_at lw_m5 41 rfl) rfl
theorem q1127 : (Jvm.Cond.selects "java/util/ArrayDeque$DeqIterator" ({ cls := "java/util/Iterator", name := "next", desc := "()Ljava/lang/Object;" } : Jvm.MethodName) ({ cls := "java/util/ArrayDeque$DeqIterator", name := "next", desc := "()Ljava/lang/Object;" } : Jvm.MethodName)) ∈ lw_all := lw_g (lw_at lw_m5 99 rfl) rfl
theorem q1128 : (Jvm.Cond.unhidden "java/util/ArrayDeque$DeqIterator" "next" "()Ljava/lang/Object;") ∈ lw_tbl := lw_at lw_m5 100 rfl
theorem q1129 : (Jvm.Cond.instanceMethod ({ cls := "java/util/ArrayDeque$DeqIterator", name := "next", desc := "()Ljava/lang/Object;" } : Jvm.MethodName)) ∈ lw_all := lw_g (lw_at lw_m5 101 rfl) rfl
theorem q1130 : (Jvm.Cond.publicMethod ({ cls := "java/util/ArrayDeque$DeqIterator", name := "next", desc := "()Ljava/lang/Object;" } : Jvm.MethodName)) ∈ lw_tbl := lw_at lw_m5 102 rfl
theorem q1131 : (Jvm.Cond.code ({ cls := "java/util/ArrayDeque$DeqIterator", name := "next", desc := "()Ljava/lang/Object;" } : Jvm.MethodName) prog_51_method_3_code (3 : Nat) (Option.some (Jvm.ClassFile.FieldType.object "java/lang/Object"))) ∈ lw_all := lw_g (lw_at lw_m5 103 rfl) rfl
theorem q1132 : (Jvm.Cond.methodLink "java/util/ArrayDeque$DeqIterator" (39 : Nat) ({ cls := "java/util/ArrayDeque", name := "nonNullElementAt", desc := "([Ljava/lang/Object;I)Ljava/lang/Object;" } : Jvm.MethodName)) ∈ lw_all := lw_g (lw_at lw_m5 104 rfl) rfl
theorem q1135 : (Jvm.Cond.methodLink "java/util/ArrayDeque$DeqIterator" (43 : Nat) ({ cls := "java/util/ArrayDeque", name := "inc", desc := "(II)I" } : Jvm.MethodName)) ∈ lw_all := lw_g (lw_at lw_m5 107 rfl) rfl
theorem q1280 : (Jvm.Cond.selects "java/util/ArrayDeque$DeqIterator" ({ cls := "java/util/Iterator", name := "remove", desc := "()V" } : Jvm.MethodName) ({ cls := "java/util/ArrayDeque$DeqIterator", name := "remove", desc := "()V" } : Jvm.MethodName)) ∈ lw_all := lw_g (lw_at lw_m6 12 rfl) rfl
theorem q1281 : (Jvm.Cond.unhidden "java/util/ArrayDeque$DeqIterator" "remove" "()V") ∈ lw_tbl := lw_at lw_m6 13 rfl
theorem q1282 : (Jvm.Cond.instanceMethod ({ cls := "java/util/ArrayDeque$DeqIterator", name := "remove", desc := "()V" } : Jvm.MethodName)) ∈ lw_all := lw_g (lw_at lw_m6 14 rfl) rfl
theorem q1283 : (Jvm.Cond.publicMethod ({ cls := "java/util/ArrayDeque$DeqIterator", name := "remove", desc := "()V" } : Jvm.MethodName)) ∈ lw_tbl := lw_at lw_m6 15 rfl
theorem q1284 : (Jvm.Cond.code ({ cls := "java/util/ArrayDeque$DeqIterator", name := "remove", desc := "()V" } : Jvm.MethodName) prog_51_method_5_code (1 : Nat) (Option.none : Option Jvm.ClassFile.FieldType)) ∈ lw_all := lw_g (lw_at lw_m6 16 rfl) rfl
theorem q1285 : (Jvm.Cond.methodLink "java/util/ArrayDeque$DeqIterator" (53 : Nat) ({ cls := "java/util/ArrayDeque", name := "delete", desc := "(I)Z" } : Jvm.MethodName)) ∈ lw_all := lw_g (lw_at lw_m6 17 rfl) rfl
theorem q1297 : (Jvm.Cond.methodLink "java/util/ArrayDeque$DeqIterator" (57 : Nat) ({ cls := "java/util/ArrayDeque$DeqIterator", name := "postDelete", desc := "(Z)V" } : Jvm.MethodName)) ∈ lw_all := lw_g (lw_at lw_m6 29 rfl) rfl
theorem q1298 : (Jvm.Cond.instanceMethod ({ cls := "java/util/ArrayDeque$DeqIterator", name := "postDelete", desc := "(Z)V" } : Jvm.MethodName)) ∈ lw_all := lw_g (lw_at lw_m6 30 rfl) rfl
theorem q1299 : (Jvm.Cond.selects "java/util/ArrayDeque$DeqIterator" ({ cls := "java/util/ArrayDeque$DeqIterator", name := "postDelete", desc := "(Z)V" } : Jvm.MethodName) ({ cls := "java/util/ArrayDeque$DeqIterator", name := "postDelete", desc := "(Z)V" } : Jvm.MethodName)) ∈ lw_all := lw_g (lw_at lw_m6 31 rfl) rfl
theorem q1300 : (Jvm.Cond.code ({ cls := "java/util/ArrayDeque$DeqIterator", name := "postDelete", desc := "(Z)V" } : Jvm.MethodName) prog_51_method_4_code (2 : Nat) (Option.none : Option Jvm.ClassFile.FieldType)) ∈ lw_all := lw_g (lw_at lw_m6 32 rfl) rfl
theorem q1301 : (Jvm.Cond.methodLink "java/util/ArrayDeque$DeqIterator" (47 : Nat) ({ cls := "java/util/ArrayDeque", name := "dec", desc := "(II)I" } : Jvm.MethodName)) ∈ lw_all := lw_g (lw_at lw_m6 33 rfl) rfl
theorem q2148 : (Jvm.Cond.instantiable "java/util/ArrayDeque$DeqIterator" (4 : Nat)) ∈ lw_all := lw_g (lw_at lw_m9 160 rfl) rfl
theorem q2150 : (Jvm.Cond.instanceMethod ({ cls := "java/util/ArrayDeque$DeqIterator", name := "<init>", desc := "(Ljava/util/ArrayDeque;)V" } : Jvm.MethodName)) ∈ lw_all := lw_g (lw_at lw_m9 162 rfl) rfl
theorem q2151 : (Jvm.Cond.code ({ cls := "java/util/ArrayDeque$DeqIterator", name := "<init>", desc := "(Ljava/util/ArrayDeque;)V" } : Jvm.MethodName) prog_51_method_1_code (2 : Nat) (Option.none : Option Jvm.ClassFile.FieldType)) ∈ lw_all := lw_g (lw_at lw_m9 163 rfl) rfl
theorem q2152 : (Jvm.Cond.methodLink "java/util/ArrayDeque$DeqIterator" (7 : Nat) ({ cls := "java/lang/Object", name := "<init>", desc := "()V" } : Jvm.MethodName)) ∈ lw_all := lw_g (lw_at lw_m9 164 rfl) rfl
theorem q2153 : (Jvm.Cond.methodLink "java/util/ArrayDeque$DeqIterator" (13 : Nat) ({ cls := "java/util/ArrayDeque", name := "size", desc := "()I" } : Jvm.MethodName)) ∈ lw_all := lw_g (lw_at lw_m9 165 rfl) rfl
theorem q2154 : (Jvm.Cond.fieldLink "java/util/ArrayDeque$DeqIterator" (29 : Nat) "java/util/ArrayDeque$DeqIterator" "cursor" "I") ∈ lw_all := lw_g (lw_at lw_m9 166 rfl) rfl
theorem q2155 : (Jvm.Cond.fieldLink "java/util/ArrayDeque$DeqIterator" (19 : Nat) "java/util/ArrayDeque$DeqIterator" "remaining" "I") ∈ lw_all := lw_g (lw_at lw_m9 167 rfl) rfl
theorem q2156 : (Jvm.Cond.fieldLink "java/util/ArrayDeque$DeqIterator" (23 : Nat) "java/util/ArrayDeque$DeqIterator" "lastRet" "I") ∈ lw_all := lw_g (lw_at lw_m9 168 rfl) rfl
theorem q2157 : (Jvm.Cond.fieldLink "java/util/ArrayDeque$DeqIterator" (1 : Nat) "java/util/ArrayDeque$DeqIterator" "this$0" "Ljava/util/ArrayDeque;") ∈ lw_all := lw_g (lw_at lw_m9 169 rfl) rfl
theorem q2158 : (Jvm.Cond.lays "java/util/ArrayDeque$DeqIterator" "java/util/ArrayDeque$DeqIterator" "cursor" "I") ∈ lw_all := lw_g (lw_at lw_m9 170 rfl) rfl
theorem q2159 : (Jvm.Cond.soleField "java/util/ArrayDeque$DeqIterator" "cursor") ∈ lw_all := lw_g (lw_at lw_m9 171 rfl) rfl
theorem q2160 : (Jvm.Cond.lays "java/util/ArrayDeque$DeqIterator" "java/util/ArrayDeque$DeqIterator" "remaining" "I") ∈ lw_all := lw_g (lw_at lw_m9 172 rfl) rfl
theorem q2161 : (Jvm.Cond.soleField "java/util/ArrayDeque$DeqIterator" "remaining") ∈ lw_all := lw_g (lw_at lw_m9 173 rfl) rfl
theorem q2162 : (Jvm.Cond.lays "java/util/ArrayDeque$DeqIterator" "java/util/ArrayDeque$DeqIterator" "lastRet" "I") ∈ lw_all := lw_g (lw_at lw_m9 174 rfl) rfl
theorem q2163 : (Jvm.Cond.soleField "java/util/ArrayDeque$DeqIterator" "lastRet") ∈ lw_all := lw_g (lw_at lw_m9 175 rfl) rfl
theorem q2164 : (Jvm.Cond.laysFinal "java/util/ArrayDeque$DeqIterator" "java/util/ArrayDeque$DeqIterator" "this$0" "Ljava/util/ArrayDeque;") ∈ lw_all := lw_g (lw_at lw_m9 176 rfl) rfl
theorem q2165 : (Jvm.Cond.soleField "java/util/ArrayDeque$DeqIterator" "this$0") ∈ lw_all := lw_g (lw_at lw_m9 177 rfl) rfl
theorem q2166 : (Jvm.Cond.superclass "java/util/ArrayDeque$DeqIterator" "java/lang/Object") ∈ lw_all := lw_g (lw_at lw_m9 178 rfl) rfl
theorem q3061 : (Jvm.Cond.castable "java/util/ArrayDeque$DeqIterator" "java/lang/Object") ∈ lw_tbl := lw_at lw_m13 113 rfl
theorem in_J38 : ∀ w ∈ wsJ380, w ∈ lw_all := lw_in wsJ380 [2158, 2160, 2162, 2164] (by decide +kernel) (by decide +kernel)
/-! java/util/LinkedList$Node -/
set_option maxRecDepth 100000
def RJ39 : String := "java/util/LinkedList$Node"
def TJ39 : u_T := fun k => match k with
  | 0 => ("java/util/LinkedList$Node", "item", "Ljava/lang/Object;", false)
  | 1 => ("java/util/LinkedList$Node", "next", "Ljava/util/LinkedList$Node;", false)
  | _ => ("java/util/LinkedList$Node", "prev", "Ljava/util/LinkedList$Node;", false)
def tyJ39 : Nat → FieldType := fun k => match k with
  | 0 => .object "java/lang/Object"
  | 1 => .object "java/util/LinkedList$Node"
  | _ => .object "java/util/LinkedList$Node"
abbrev wsJ390 : List Cond := u_ws RJ39 TJ39 3
theorem nmJ39 : ∀ a, a < 3 → ∀ b, b < 3 → a ≠ b → (TJ39 a).2.1 ≠ (TJ39 b).2.1 := by decide +kernel
theorem tyJ39_ok : ∀ k, k < 3 → parseFieldDescriptor (TJ39 k).2.2.1 = some (tyJ39 k) := by decide +kernel
abbrev cJ39_init : ByteArray := prog_72_method_1_code
def yJ39_init : MethodName := ⟨RJ39, "<init>", "(Ljava/util/LinkedList$Node;Ljava/lang/Object;Ljava/util/LinkedList$Node;)V"⟩
def dkwJ39_init_0 : List UInt8 := [42, 183, 0, 1, 42, 44, 181, 0, 7, 42, 45, 181, 0, 13, 42, 43, 181, 0, 17, 177]
abbrev dktJ39_init_0 : List UInt8 := dkwJ39_init_0 ++ []
theorem dksJ39_init_0 : cJ39_init.data.toList.drop 0 = dktJ39_init_0 := by decide +kernel
theorem dJ39_init_0 : decode cJ39_init 0 = .ok (.aload_n 0, 1) := dk_42 (dk_at dksJ39_init_0 0 rfl rfl)
theorem dJ39_init_1 : decode cJ39_init 1 = .ok (.invokespecial 1, 3) := dk_183 0 1 (dk_at dksJ39_init_0 1 rfl rfl)
theorem dJ39_init_4 : decode cJ39_init 4 = .ok (.aload_n 0, 1) := dk_42 (dk_at dksJ39_init_0 4 rfl rfl)
theorem dJ39_init_5 : decode cJ39_init 5 = .ok (.aload_n 2, 1) := dk_44 (dk_at dksJ39_init_0 5 rfl rfl)
theorem dJ39_init_6 : decode cJ39_init 6 = .ok (.putfield 7, 3) := dk_181 0 7 (dk_at dksJ39_init_0 6 rfl rfl)
theorem dJ39_init_9 : decode cJ39_init 9 = .ok (.aload_n 0, 1) := dk_42 (dk_at dksJ39_init_0 9 rfl rfl)
theorem dJ39_init_10 : decode cJ39_init 10 = .ok (.aload_n 3, 1) := dk_45 (dk_at dksJ39_init_0 10 rfl rfl)
theorem dJ39_init_11 : decode cJ39_init 11 = .ok (.putfield 13, 3) := dk_181 0 13 (dk_at dksJ39_init_0 11 rfl rfl)
theorem dJ39_init_14 : decode cJ39_init 14 = .ok (.aload_n 0, 1) := dk_42 (dk_at dksJ39_init_0 14 rfl rfl)
theorem dJ39_init_15 : decode cJ39_init 15 = .ok (.aload_n 1, 1) := dk_43 (dk_at dksJ39_init_0 15 rfl rfl)
theorem dJ39_init_16 : decode cJ39_init 16 = .ok (.putfield 17, 3) := dk_181 0 17 (dk_at dksJ39_init_0 16 rfl rfl)
theorem dJ39_init_19 : decode cJ39_init 19 = .ok (.return_, 1) := dk_177 (dk_at dksJ39_init_0 19 rfl rfl)
theorem q123 : (Jvm.Cond.initialized "java/util/LinkedList$Node") ∈ lw_all := lw_g (lw_at lw_m1 55 rfl) rfl
theorem q1083 : (Jvm.Cond.selects "java/util/LinkedList$Node" ({ cls := "java/lang/Object", name := "getClass", desc := "()Ljava/lang/Class;" } : Jvm.MethodName) ({ cls := "java/lang/Object", name := "getClass", desc := "()Ljava/lang/Class;" } : Jvm.MethodName)) ∈ lw_all := lw_g (lw_at lw_m5 55 rfl) rfl
theorem q2348 : (Jvm.Cond.instantiable "java/util/LinkedList$Node" (3 : Nat)) ∈ lw_all := lw_g (lw_at lw_m10 120 rfl) rfl
theorem q2350 : (Jvm.Cond.instanceMethod ({ cls := "java/util/LinkedList$Node", name := "<init>", desc := "(Ljava/util/LinkedList$Node;Ljava/lang/Object;Ljava/util/LinkedList$Node;)V" } : Jvm.MethodName)) ∈ lw_all := lw_g (lw_at lw_m10 122 rfl) rfl
theorem q2351 : (Jvm.Cond.code ({ cls := "java/util/LinkedList$Node", name := "<init>", desc := "(Ljava/util/LinkedList$Node;Ljava/lang/Object;Ljava/util/LinkedList$Node;)V" } : Jvm.MethodName) prog_72_method_1_code (4 : Nat) (Option.none : Option Jvm.ClassFile.FieldType)) ∈ lw_all := lw_g (lw_at lw_m10 123 rfl) rfl
theorem q2352 : (Jvm.Cond.methodLink "java/util/LinkedList$Node" (1 : Nat) ({ cls := "java/lang/Object", name := "<init>", desc := "()V" } : Jvm.MethodName)) ∈ lw_all := lw_g (lw_at lw_m10 124 rfl) rfl
theorem q2353 : (Jvm.Cond.fieldLink "java/util/LinkedList$Node" (7 : Nat) "java/util/LinkedList$Node" "item" "Ljava/lang/Object;") ∈ lw_all := lw_g (lw_at lw_m10 125 rfl) rfl
theorem q2356 : (Jvm.Cond.fieldLink "java/util/LinkedList$Node" (13 : Nat) "java/util/LinkedList$Node" "next" "Ljava/util/LinkedList$Node;") ∈ lw_all := lw_g (lw_at lw_m10 128 rfl) rfl
theorem q2359 : (Jvm.Cond.fieldLink "java/util/LinkedList$Node" (17 : Nat) "java/util/LinkedList$Node" "prev" "Ljava/util/LinkedList$Node;") ∈ lw_all := lw_g (lw_at lw_m10 131 rfl) rfl
theorem q2361 : (Jvm.Cond.lays "java/util/LinkedList$Node" "java/util/LinkedList$Node" "item" "Ljava/lang/Object;") ∈ lw_all := lw_g (lw_at lw_m10 133 rfl) rfl
theorem q2362 : (Jvm.Cond.soleField "java/util/LinkedList$Node" "item") ∈ lw_all := lw_g (lw_at lw_m10 134 rfl) rfl
theorem q2363 : (Jvm.Cond.lays "java/util/LinkedList$Node" "java/util/LinkedList$Node" "next" "Ljava/util/LinkedList$Node;") ∈ lw_all := lw_g (lw_at lw_m10 135 rfl) rfl
theorem q2364 : (Jvm.Cond.soleField "java/util/LinkedList$Node" "next") ∈ lw_all := lw_g (lw_at lw_m10 136 rfl) rfl
theorem q2365 : (Jvm.Cond.lays "java/util/LinkedList$Node" "java/util/LinkedList$Node" "prev" "Ljava/util/LinkedList$Node;") ∈ lw_all := lw_g (lw_at lw_m10 137 rfl) rfl
theorem q2366 : (Jvm.Cond.soleField "java/util/LinkedList$Node" "prev") ∈ lw_all := lw_g (lw_at lw_m10 138 rfl) rfl
theorem q2367 : (Jvm.Cond.superclass "java/util/LinkedList$Node" "java/lang/Object") ∈ lw_all := lw_g (lw_at lw_m10 139 rfl) rfl
theorem q3065 : (Jvm.Cond.castable "java/util/LinkedList$Node" "java/lang/Object") ∈ lw_tbl := lw_at lw_m13 117 rfl
theorem in_J39 : ∀ w ∈ wsJ390, w ∈ lw_all := lw_in wsJ390 [2361, 2363, 2365] (by decide +kernel) (by decide +kernel)
/-! java/util/LinkedList$ListItr -/
set_option maxRecDepth 100000
def RJ41 : String := "java/util/LinkedList$ListItr"
def TJ41 : u_T := fun k => match k with
  | 0 => ("java/util/LinkedList$ListItr", "lastReturned", "Ljava/util/LinkedList$Node;", false)
  | 1 => ("java/util/LinkedList$ListItr", "next", "Ljava/util/LinkedList$Node;", false)
  | 2 => ("java/util/LinkedList$ListItr", "nextIndex", "I", false)
  | 3 => ("java/util/LinkedList$ListItr", "expectedModCount", "I", false)
  | _ => ("java/util/LinkedList$ListItr", "this$0", "Ljava/util/LinkedList;", true)
def tyJ41 : Nat → FieldType := fun k => match k with
  | 0 => .object "java/util/LinkedList$Node"
  | 1 => .object "java/util/LinkedList$Node"
  | 2 => .int
  | 3 => .int
  | _ => .object "java/util/LinkedList"
abbrev wsJ410 : List Cond := u_ws RJ41 TJ41 5
theorem nmJ41 : ∀ a, a < 5 → ∀ b, b < 5 → a ≠ b → (TJ41 a).2.1 ≠ (TJ41 b).2.1 := by decide +kernel
theorem tyJ41_ok : ∀ k, k < 5 → parseFieldDescriptor (TJ41 k).2.2.1 = some (tyJ41 k) := by decide +kernel
abbrev cJ41_hasNext : ByteArray := prog_71_method_2_code
def yJ41_hasNext : MethodName := ⟨RJ41, "hasNext", "()Z"⟩
def dkwJ41_hasNext_0 : List UInt8 := [42, 180, 0, 33, 42, 180, 0, 1, 180, 0, 22, 162, 0, 7, 4, 167, 0, 4, 3, 172]
abbrev dktJ41_hasNext_0 : List UInt8 := dkwJ41_hasNext_0 ++ []
theorem dksJ41_hasNext_0 : cJ41_hasNext.data.toList.drop 0 = dktJ41_hasNext_0 := by decide +kernel
theorem dJ41_hasNext_0 : decode cJ41_hasNext 0 = .ok (.aload_n 0, 1) := dk_42 (dk_at dksJ41_hasNext_0 0 rfl rfl)
theorem dJ41_hasNext_1 : decode cJ41_hasNext 1 = .ok (.getfield 33, 3) := dk_180 0 33 (dk_at dksJ41_hasNext_0 1 rfl rfl)
theorem dJ41_hasNext_4 : decode cJ41_hasNext 4 = .ok (.aload_n 0, 1) := dk_42 (dk_at dksJ41_hasNext_0 4 rfl rfl)
theorem dJ41_hasNext_5 : decode cJ41_hasNext 5 = .ok (.getfield 1, 3) := dk_180 0 1 (dk_at dksJ41_hasNext_0 5 rfl rfl)
theorem dJ41_hasNext_8 : decode cJ41_hasNext 8 = .ok (.getfield 22, 3) := dk_180 0 22 (dk_at dksJ41_hasNext_0 8 rfl rfl)
theorem dJ41_hasNext_11 : decode cJ41_hasNext 11 = .ok (.if_icmp .ge 7, 3) := dk_162 0 7 (dk_at dksJ41_hasNext_0 11 rfl rfl)
theorem dJ41_hasNext_14 : decode cJ41_hasNext 14 = .ok (.iconst 1, 1) := dk_4 (dk_at dksJ41_hasNext_0 14 rfl rfl)
theorem dJ41_hasNext_15 : decode cJ41_hasNext 15 = .ok (.goto 4, 3) := dk_167 0 4 (dk_at dksJ41_hasNext_0 15 rfl rfl)
theorem dJ41_hasNext_18 : decode cJ41_hasNext 18 = .ok (.iconst 0, 1) := dk_3 (dk_at dksJ41_hasNext_0 18 rfl rfl)
theorem dJ41_hasNext_19 : decode cJ41_hasNext 19 = .ok (.ireturn, 1) := dk_172 (dk_at dksJ41_hasNext_0 19 rfl rfl)
abbrev cJ41_next : ByteArray := prog_71_method_3_code
def yJ41_next : MethodName := ⟨RJ41, "next", "()Ljava/lang/Object;"⟩
def dkwJ41_next_2 : List UInt8 := [42, 180, 0, 46, 180, 0, 52, 176]
abbrev dktJ41_next_2 : List UInt8 := dkwJ41_next_2 ++ []
def dkwJ41_next_1 : List UInt8 := [181, 0, 46, 42, 42, 180, 0, 29, 180, 0, 49, 181, 0, 29, 42, 89, 180, 0, 33, 4, 96, 181, 0, 33]
abbrev dktJ41_next_1 : List UInt8 := dkwJ41_next_1 ++ dktJ41_next_2
def dkwJ41_next_0 : List UInt8 := [42, 182, 0, 36, 42, 182, 0, 39, 154, 0, 11, 187, 0, 43, 89, 183, 0, 45, 191, 42, 42, 180, 0, 29]
abbrev dktJ41_next_0 : List UInt8 := dkwJ41_next_0 ++ dktJ41_next_1
theorem dksJ41_next_0 : cJ41_next.data.toList.drop 0 = dktJ41_next_0 := by decide +kernel
theorem dksJ41_next_1 : cJ41_next.data.toList.drop 24 = dktJ41_next_1 := dk_seg dksJ41_next_0 24 rfl rfl
theorem dksJ41_next_2 : cJ41_next.data.toList.drop 48 = dktJ41_next_2 := dk_seg dksJ41_next_1 24 rfl rfl
theorem dJ41_next_0 : decode cJ41_next 0 = .ok (.aload_n 0, 1) := dk_42 (dk_at dksJ41_next_0 0 rfl rfl)
theorem dJ41_next_1 : decode cJ41_next 1 = .ok (.invokevirtual 36, 3) := dk_182 0 36 (dk_at dksJ41_next_0 1 rfl rfl)
theorem dJ41_next_4 : decode cJ41_next 4 = .ok (.aload_n 0, 1) := dk_42 (dk_at dksJ41_next_0 4 rfl rfl)
theorem dJ41_next_5 : decode cJ41_next 5 = .ok (.invokevirtual 39, 3) := dk_182 0 39 (dk_at dksJ41_next_0 5 rfl rfl)
theorem dJ41_next_8 : decode cJ41_next 8 = .ok (.ifCond .ne 11, 3) := dk_154 0 11 (dk_at dksJ41_next_0 8 rfl rfl)
theorem dJ41_next_11 : decode cJ41_next 11 = .ok (.new 43, 3) := dk_187 0 43 (dk_at dksJ41_next_0 11 rfl rfl)
theorem dJ41_next_14 : decode cJ41_next 14 = .ok (.dup, 1) := dk_89 (dk_at dksJ41_next_0 14 rfl rfl)
theorem dJ41_next_15 : decode cJ41_next 15 = .ok (.invokespecial 45, 3) := dk_183 0 45 (dk_at dksJ41_next_0 15 rfl rfl)
theorem dJ41_next_18 : decode cJ41_next 18 = .ok (.athrow, 1) := dk_191 (dk_at dksJ41_next_0 18 rfl rfl)
theorem dJ41_next_19 : decode cJ41_next 19 = .ok (.aload_n 0, 1) := dk_42 (dk_at dksJ41_next_0 19 rfl rfl)
theorem dJ41_next_20 : decode cJ41_next 20 = .ok (.aload_n 0, 1) := dk_42 (dk_at dksJ41_next_0 20 rfl rfl)
theorem dJ41_next_21 : decode cJ41_next 21 = .ok (.getfield 29, 3) := dk_180 0 29 (dk_at dksJ41_next_0 21 rfl rfl)
theorem dJ41_next_24 : decode cJ41_next 24 = .ok (.putfield 46, 3) := dk_181 0 46 (dk_at dksJ41_next_1 0 rfl rfl)
theorem dJ41_next_27 : decode cJ41_next 27 = .ok (.aload_n 0, 1) := dk_42 (dk_at dksJ41_next_1 3 rfl rfl)
theorem dJ41_next_28 : decode cJ41_next 28 = .ok (.aload_n 0, 1) := dk_42 (dk_at dksJ41_next_1 4 rfl rfl)
theorem dJ41_next_29 : decode cJ41_next 29 = .ok (.getfield 29, 3) := dk_180 0 29 (dk_at dksJ41_next_1 5 rfl rfl)
theorem dJ41_next_32 : decode cJ41_next 32 = .ok (.getfield 49, 3) := dk_180 0 49 (dk_at dksJ41_next_1 8 rfl rfl)
theorem dJ41_next_35 : decode cJ41_next 35 = .ok (.putfield 29, 3) := dk_181 0 29 (dk_at dksJ41_next_1 11 rfl rfl)
theorem dJ41_next_38 : decode cJ41_next 38 = .ok (.aload_n 0, 1) := dk_42 (dk_at dksJ41_next_1 14 rfl rfl)
theorem dJ41_next_39 : decode cJ41_next 39 = .ok (.dup, 1) := dk_89 (dk_at dksJ41_next_1 15 rfl rfl)
theorem dJ41_next_40 : decode cJ41_next 40 = .ok (.getfield 33, 3) := dk_180 0 33 (dk_at dksJ41_next_1 16 rfl rfl)
theorem dJ41_next_43 : decode cJ41_next 43 = .ok (.iconst 1, 1) := dk_4 (dk_at dksJ41_next_1 19 rfl rfl)
theorem dJ41_next_44 : decode cJ41_next 44 = .ok (.iadd, 1) := dk_96 (dk_at dksJ41_next_1 20 rfl rfl)
theorem dJ41_next_45 : decode cJ41_next 45 = .ok (.putfield 33, 3) := dk_181 0 33 (dk_at dksJ41_next_1 21 rfl rfl)
theorem dJ41_next_48 : decode cJ41_next 48 = .ok (.aload_n 0, 1) := dk_42 (dk_at dksJ41_next_2 0 rfl rfl)
theorem dJ41_next_49 : decode cJ41_next 49 = .ok (.getfield 46, 3) := dk_180 0 46 (dk_at dksJ41_next_2 1 rfl rfl)
theorem dJ41_next_52 : decode cJ41_next 52 = .ok (.getfield 52, 3) := dk_180 0 52 (dk_at dksJ41_next_2 4 rfl rfl)
theorem dJ41_next_55 : decode cJ41_next 55 = .ok (.areturn, 1) := dk_176 (dk_at dksJ41_next_2 7 rfl rfl)
abbrev cJ41_checkForComodification : ByteArray := prog_71_method_12_code
def yJ41_checkForComodification : MethodName := ⟨RJ41, "checkForComodification", "()V"⟩
def dkwJ41_checkForComodification_0 : List UInt8 := [42, 180, 0, 1, 180, 0, 13, 42, 180, 0, 19, 159, 0, 11, 187, 0, 91, 89, 183, 0, 93, 191, 177]
abbrev dktJ41_checkForComodification_0 : List UInt8 := dkwJ41_checkForComodification_0 ++ []
theorem dksJ41_checkForComodification_0 : cJ41_checkForComodification.data.toList.drop 0 = dktJ41_checkForComodification_0 := by decide +kernel
theorem dJ41_checkForComodification_0 : decode cJ41_checkForComodification 0 = .ok (.aload_n 0, 1) := dk_42 (dk_at dksJ41_checkForComodification_0 0 rfl rfl)
theorem dJ41_checkForComodification_1 : decode cJ41_checkForComodification 1 = .ok (.getfield 1, 3) := dk_180 0 1 (dk_at dksJ41_checkForComodification_0 1 rfl rfl)
theorem dJ41_checkForComodification_4 : decode cJ41_checkForComodification 4 = .ok (.getfield 13, 3) := dk_180 0 13 (dk_at dksJ41_checkForComodification_0 4 rfl rfl)
theorem dJ41_checkForComodification_7 : decode cJ41_checkForComodification 7 = .ok (.aload_n 0, 1) := dk_42 (dk_at dksJ41_checkForComodification_0 7 rfl rfl)
theorem dJ41_checkForComodification_8 : decode cJ41_checkForComodification 8 = .ok (.getfield 19, 3) := dk_180 0 19 (dk_at dksJ41_checkForComodification_0 8 rfl rfl)
theorem dJ41_checkForComodification_11 : decode cJ41_checkForComodification 11 = .ok (.if_icmp .eq 11, 3) := dk_159 0 11 (dk_at dksJ41_checkForComodification_0 11 rfl rfl)
theorem dJ41_checkForComodification_14 : decode cJ41_checkForComodification 14 = .ok (.new 91, 3) := dk_187 0 91 (dk_at dksJ41_checkForComodification_0 14 rfl rfl)
theorem dJ41_checkForComodification_17 : decode cJ41_checkForComodification 17 = .ok (.dup, 1) := dk_89 (dk_at dksJ41_checkForComodification_0 17 rfl rfl)
theorem dJ41_checkForComodification_18 : decode cJ41_checkForComodification 18 = .ok (.invokespecial 93, 3) := dk_183 0 93 (dk_at dksJ41_checkForComodification_0 18 rfl rfl)
theorem dJ41_checkForComodification_21 : decode cJ41_checkForComodification 21 = .ok (.athrow, 1) := dk_191 (dk_at dksJ41_checkForComodification_0 21 rfl rfl)
theorem dJ41_checkForComodification_22 : decode cJ41_checkForComodification 22 = .ok (.return_, 1) := dk_177 (dk_at dksJ41_checkForComodification_0 22 rfl rfl)
abbrev cJ41_remove : ByteArray := prog_71_method_8_code
def yJ41_remove : MethodName := ⟨RJ41, "remove", "()V"⟩
def dkwJ41_remove_3 : List UInt8 := [181, 0, 46, 42, 89, 180, 0, 19, 4, 96, 181, 0, 19, 177]
abbrev dktJ41_remove_3 : List UInt8 := dkwJ41_remove_3 ++ []
def dkwJ41_remove_2 : List UInt8 := [166, 0, 11, 42, 43, 181, 0, 29, 167, 0, 13, 42, 89, 180, 0, 33, 4, 100, 181, 0, 33, 42, 1]
abbrev dktJ41_remove_2 : List UInt8 := dkwJ41_remove_2 ++ dktJ41_remove_3
def dkwJ41_remove_1 : List UInt8 := [180, 0, 49, 76, 42, 180, 0, 1, 42, 180, 0, 46, 182, 0, 68, 87, 42, 180, 0, 29, 42, 180, 0, 46]
abbrev dktJ41_remove_1 : List UInt8 := dkwJ41_remove_1 ++ dktJ41_remove_2
def dkwJ41_remove_0 : List UInt8 := [42, 182, 0, 36, 42, 180, 0, 46, 199, 0, 11, 187, 0, 65, 89, 183, 0, 67, 191, 42, 180, 0, 46]
abbrev dktJ41_remove_0 : List UInt8 := dkwJ41_remove_0 ++ dktJ41_remove_1
theorem dksJ41_remove_0 : cJ41_remove.data.toList.drop 0 = dktJ41_remove_0 := by decide +kernel
theorem dksJ41_remove_1 : cJ41_remove.data.toList.drop 23 = dktJ41_remove_1 := dk_seg dksJ41_remove_0 23 rfl rfl
theorem dksJ41_remove_2 : cJ41_remove.data.toList.drop 47 = dktJ41_remove_2 := dk_seg dksJ41_remove_1 24 rfl rfl
theorem dksJ41_remove_3 : cJ41_remove.data.toList.drop 70 = dktJ41_remove_3 := dk_seg dksJ41_remove_2 23 rfl rfl
theorem dJ41_remove_0 : decode cJ41_remove 0 = .ok (.aload_n 0, 1) := dk_42 (dk_at dksJ41_remove_0 0 rfl rfl)
theorem dJ41_remove_1 : decode cJ41_remove 1 = .ok (.invokevirtual 36, 3) := dk_182 0 36 (dk_at dksJ41_remove_0 1 rfl rfl)
theorem dJ41_remove_4 : decode cJ41_remove 4 = .ok (.aload_n 0, 1) := dk_42 (dk_at dksJ41_remove_0 4 rfl rfl)
theorem dJ41_remove_5 : decode cJ41_remove 5 = .ok (.getfield 46, 3) := dk_180 0 46 (dk_at dksJ41_remove_0 5 rfl rfl)
theorem dJ41_remove_8 : decode cJ41_remove 8 = .ok (.ifnonnull 11, 3) := dk_199 0 11 (dk_at dksJ41_remove_0 8 rfl rfl)
theorem dJ41_remove_11 : decode cJ41_remove 11 = .ok (.new 65, 3) := dk_187 0 65 (dk_at dksJ41_remove_0 11 rfl rfl)
theorem dJ41_remove_14 : decode cJ41_remove 14 = .ok (.dup, 1) := dk_89 (dk_at dksJ41_remove_0 14 rfl rfl)
theorem dJ41_remove_15 : decode cJ41_remove 15 = .ok (.invokespecial 67, 3) := dk_183 0 67 (dk_at dksJ41_remove_0 15 rfl rfl)
theorem dJ41_remove_18 : decode cJ41_remove 18 = .ok (.athrow, 1) := dk_191 (dk_at dksJ41_remove_0 18 rfl rfl)
theorem dJ41_remove_19 : decode cJ41_remove 19 = .ok (.aload_n 0, 1) := dk_42 (dk_at dksJ41_remove_0 19 rfl rfl)
theorem dJ41_remove_20 : decode cJ41_remove 20 = .ok (.getfield 46, 3) := dk_180 0 46 (dk_at dksJ41_remove_0 20 rfl rfl)
theorem dJ41_remove_23 : decode cJ41_remove 23 = .ok (.getfield 49, 3) := dk_180 0 49 (dk_at dksJ41_remove_1 0 rfl rfl)
theorem dJ41_remove_26 : decode cJ41_remove 26 = .ok (.astore_n 1, 1) := dk_76 (dk_at dksJ41_remove_1 3 rfl rfl)
theorem dJ41_remove_27 : decode cJ41_remove 27 = .ok (.aload_n 0, 1) := dk_42 (dk_at dksJ41_remove_1 4 rfl rfl)
theorem dJ41_remove_28 : decode cJ41_remove 28 = .ok (.getfield 1, 3) := dk_180 0 1 (dk_at dksJ41_remove_1 5 rfl rfl)
theorem dJ41_remove_31 : decode cJ41_remove 31 = .ok (.aload_n 0, 1) := dk_42 (dk_at dksJ41_remove_1 8 rfl rfl)
theorem dJ41_remove_32 : decode cJ41_remove 32 = .ok (.getfield 46, 3) := dk_180 0 46 (dk_at dksJ41_remove_1 9 rfl rfl)
theorem dJ41_remove_35 : decode cJ41_remove 35 = .ok (.invokevirtual 68, 3) := dk_182 0 68 (dk_at dksJ41_remove_1 12 rfl rfl)
theorem dJ41_remove_38 : decode cJ41_remove 38 = .ok (.pop, 1) := dk_87 (dk_at dksJ41_remove_1 15 rfl rfl)
theorem dJ41_remove_39 : decode cJ41_remove 39 = .ok (.aload_n 0, 1) := dk_42 (dk_at dksJ41_remove_1 16 rfl rfl)
theorem dJ41_remove_40 : decode cJ41_remove 40 = .ok (.getfield 29, 3) := dk_180 0 29 (dk_at dksJ41_remove_1 17 rfl rfl)
theorem dJ41_remove_43 : decode cJ41_remove 43 = .ok (.aload_n 0, 1) := dk_42 (dk_at dksJ41_remove_1 20 rfl rfl)
theorem dJ41_remove_44 : decode cJ41_remove 44 = .ok (.getfield 46, 3) := dk_180 0 46 (dk_at dksJ41_remove_1 21 rfl rfl)
theorem dJ41_remove_47 : decode cJ41_remove 47 = .ok (.if_acmp .ne 11, 3) := dk_166 0 11 (dk_at dksJ41_remove_2 0 rfl rfl)
theorem dJ41_remove_50 : decode cJ41_remove 50 = .ok (.aload_n 0, 1) := dk_42 (dk_at dksJ41_remove_2 3 rfl rfl)
theorem dJ41_remove_51 : decode cJ41_remove 51 = .ok (.aload_n 1, 1) := dk_43 (dk_at dksJ41_remove_2 4 rfl rfl)
theorem dJ41_remove_52 : decode cJ41_remove 52 = .ok (.putfield 29, 3) := dk_181 0 29 (dk_at dksJ41_remove_2 5 rfl rfl)
theorem dJ41_remove_55 : decode cJ41_remove 55 = .ok (.goto 13, 3) := dk_167 0 13 (dk_at dksJ41_remove_2 8 rfl rfl)
theorem dJ41_remove_58 : decode cJ41_remove 58 = .ok (.aload_n 0, 1) := dk_42 (dk_at dksJ41_remove_2 11 rfl rfl)
theorem dJ41_remove_59 : decode cJ41_remove 59 = .ok (.dup, 1) := dk_89 (dk_at dksJ41_remove_2 12 rfl rfl)
theorem dJ41_remove_60 : decode cJ41_remove 60 = .ok (.getfield 33, 3) := dk_180 0 33 (dk_at dksJ41_remove_2 13 rfl rfl)
theorem dJ41_remove_63 : decode cJ41_remove 63 = .ok (.iconst 1, 1) := dk_4 (dk_at dksJ41_remove_2 16 rfl rfl)
theorem dJ41_remove_64 : decode cJ41_remove 64 = .ok (.isub, 1) := dk_100 (dk_at dksJ41_remove_2 17 rfl rfl)
theorem dJ41_remove_65 : decode cJ41_remove 65 = .ok (.putfield 33, 3) := dk_181 0 33 (dk_at dksJ41_remove_2 18 rfl rfl)
theorem dJ41_remove_68 : decode cJ41_remove 68 = .ok (.aload_n 0, 1) := dk_42 (dk_at dksJ41_remove_2 21 rfl rfl)
theorem dJ41_remove_69 : decode cJ41_remove 69 = .ok (.aconst_null, 1) := dk_1 (dk_at dksJ41_remove_2 22 rfl rfl)
theorem dJ41_remove_70 : decode cJ41_remove 70 = .ok (.putfield 46, 3) := dk_181 0 46 (dk_at dksJ41_remove_3 0 rfl rfl)
theorem dJ41_remove_73 : decode cJ41_remove 73 = .ok (.aload_n 0, 1) := dk_42 (dk_at dksJ41_remove_3 3 rfl rfl)
theorem dJ41_remove_74 : decode cJ41_remove 74 = .ok (.dup, 1) := dk_89 (dk_at dksJ41_remove_3 4 rfl rfl)
theorem dJ41_remove_75 : decode cJ41_remove 75 = .ok (.getfield 19, 3) := dk_180 0 19 (dk_at dksJ41_remove_3 5 rfl rfl)
theorem dJ41_remove_78 : decode cJ41_remove 78 = .ok (.iconst 1, 1) := dk_4 (dk_at dksJ41_remove_3 8 rfl rfl)
theorem dJ41_remove_79 : decode cJ41_remove 79 = .ok (.iadd, 1) := dk_96 (dk_at dksJ41_remove_3 9 rfl rfl)
theorem dJ41_remove_80 : decode cJ41_remove 80 = .ok (.putfield 19, 3) := dk_181 0 19 (dk_at dksJ41_remove_3 10 rfl rfl)
theorem dJ41_remove_83 : decode cJ41_remove 83 = .ok (.return_, 1) := dk_177 (dk_at dksJ41_remove_3 13 rfl rfl)
abbrev cJ41_init : ByteArray := prog_71_method_1_code
def yJ41_init : MethodName := ⟨RJ41, "<init>", "(Ljava/util/LinkedList;I)V"⟩
def dkwJ41_init_1 : List UInt8 := [180, 0, 22, 160, 0, 7, 1, 167, 0, 8, 43, 28, 182, 0, 25, 181, 0, 29, 42, 28, 181, 0, 33, 177]
abbrev dktJ41_init_1 : List UInt8 := dkwJ41_init_1 ++ []
def dkwJ41_init_0 : List UInt8 := [42, 43, 181, 0, 1, 42, 183, 0, 7, 42, 42, 180, 0, 1, 180, 0, 13, 181, 0, 19, 42, 28, 43]
abbrev dktJ41_init_0 : List UInt8 := dkwJ41_init_0 ++ dktJ41_init_1
theorem dksJ41_init_0 : cJ41_init.data.toList.drop 0 = dktJ41_init_0 := by decide +kernel
theorem dksJ41_init_1 : cJ41_init.data.toList.drop 23 = dktJ41_init_1 := dk_seg dksJ41_init_0 23 rfl rfl
theorem dJ41_init_0 : decode cJ41_init 0 = .ok (.aload_n 0, 1) := dk_42 (dk_at dksJ41_init_0 0 rfl rfl)
theorem dJ41_init_1 : decode cJ41_init 1 = .ok (.aload_n 1, 1) := dk_43 (dk_at dksJ41_init_0 1 rfl rfl)
theorem dJ41_init_2 : decode cJ41_init 2 = .ok (.putfield 1, 3) := dk_181 0 1 (dk_at dksJ41_init_0 2 rfl rfl)
theorem dJ41_init_5 : decode cJ41_init 5 = .ok (.aload_n 0, 1) := dk_42 (dk_at dksJ41_init_0 5 rfl rfl)
theorem dJ41_init_6 : decode cJ41_init 6 = .ok (.invokespecial 7, 3) := dk_183 0 7 (dk_at dksJ41_init_0 6 rfl rfl)
theorem dJ41_init_9 : decode cJ41_init 9 = .ok (.aload_n 0, 1) := dk_42 (dk_at dksJ41_init_0 9 rfl rfl)
theorem dJ41_init_10 : decode cJ41_init 10 = .ok (.aload_n 0, 1) := dk_42 (dk_at dksJ41_init_0 10 rfl rfl)
theorem dJ41_init_11 : decode cJ41_init 11 = .ok (.getfield 1, 3) := dk_180 0 1 (dk_at dksJ41_init_0 11 rfl rfl)
theorem dJ41_init_14 : decode cJ41_init 14 = .ok (.getfield 13, 3) := dk_180 0 13 (dk_at dksJ41_init_0 14 rfl rfl)
theorem dJ41_init_17 : decode cJ41_init 17 = .ok (.putfield 19, 3) := dk_181 0 19 (dk_at dksJ41_init_0 17 rfl rfl)
theorem dJ41_init_20 : decode cJ41_init 20 = .ok (.aload_n 0, 1) := dk_42 (dk_at dksJ41_init_0 20 rfl rfl)
theorem dJ41_init_21 : decode cJ41_init 21 = .ok (.iload_n 2, 1) := dk_28 (dk_at dksJ41_init_0 21 rfl rfl)
theorem dJ41_init_22 : decode cJ41_init 22 = .ok (.aload_n 1, 1) := dk_43 (dk_at dksJ41_init_0 22 rfl rfl)
theorem dJ41_init_23 : decode cJ41_init 23 = .ok (.getfield 22, 3) := dk_180 0 22 (dk_at dksJ41_init_1 0 rfl rfl)
theorem dJ41_init_26 : decode cJ41_init 26 = .ok (.if_icmp .ne 7, 3) := dk_160 0 7 (dk_at dksJ41_init_1 3 rfl rfl)
theorem dJ41_init_29 : decode cJ41_init 29 = .ok (.aconst_null, 1) := dk_1 (dk_at dksJ41_init_1 6 rfl rfl)
theorem dJ41_init_30 : decode cJ41_init 30 = .ok (.goto 8, 3) := dk_167 0 8 (dk_at dksJ41_init_1 7 rfl rfl)
theorem dJ41_init_33 : decode cJ41_init 33 = .ok (.aload_n 1, 1) := dk_43 (dk_at dksJ41_init_1 10 rfl rfl)
theorem dJ41_init_34 : decode cJ41_init 34 = .ok (.iload_n 2, 1) := dk_28 (dk_at dksJ41_init_1 11 rfl rfl)
theorem dJ41_init_35 : decode cJ41_init 35 = .ok (.invokevirtual 25, 3) := dk_182 0 25 (dk_at dksJ41_init_1 12 rfl rfl)
theorem dJ41_init_38 : decode cJ41_init 38 = .ok (.putfield 29, 3) := dk_181 0 29 (dk_at dksJ41_init_1 15 rfl rfl)
theorem dJ41_init_41 : decode cJ41_init 41 = .ok (.aload_n 0, 1) := dk_42 (dk_at dksJ41_init_1 18 rfl rfl)
theorem dJ41_init_42 : decode cJ41_init 42 = .ok (.iload_n 2, 1) := dk_28 (dk_at dksJ41_init_1 19 rfl rfl)
theorem dJ41_init_43 : decode cJ41_init 43 = .ok (.putfield 33, 3) := dk_181 0 33 (dk_at dksJ41_init_1 20 rfl rfl)
theorem dJ41_init_46 : decode cJ41_init 46 = .ok (.return_, 1) := dk_177 (dk_at dksJ41_init_1 23 rfl rfl)
theorem q126 : (Jvm.Cond.initialized "java/util/LinkedList$ListItr") ∈ lw_all := lw_g (lw_at lw_m1 58 rfl) rfl
theorem q402 : (Jvm.Cond.fieldLink "java/util/LinkedList$ListItr" (22 : Nat) "java/util/LinkedList" "size" "I") ∈ lw_all := lw_g (lw_at lw_m2 94 rfl) rfl
theorem q406 : (Jvm.Cond.fieldLink "java/util/LinkedList$ListItr" (13 : Nat) "java/util/LinkedList" "modCount" "I") ∈ lw_all := lw_g (lw_at lw_m2 98 rfl) rfl
theorem q620 : (Jvm.Cond.castable "java/util/LinkedList$ListItr" "java/util/Iterator") ∈ lw_tbl := lw_at lw_m3 72 rfl
theorem q621 : (Jvm.Cond.selects "java/util/LinkedList$ListItr" ({ cls := "java/util/Iterator", name := "hasNext", desc := "()Z" } : Jvm.MethodName) ({ cls := "java/util/LinkedList$ListItr", name := "hasNext", desc := "()Z" } : Jvm.MethodName)) ∈ lw_all := lw_g (lw_at lw_m3 73 rfl) rfl
theorem q622 : (Jvm.Cond.unhidden "java/util/LinkedList$ListItr" "hasNext" "()Z") ∈ lw_tbl := lw_at lw_m3 74 rfl
theorem q623 : (Jvm.Cond.instanceMethod ({ cls := "java/util/LinkedList$ListItr", name := "hasNext", desc := "()Z" } : Jvm.MethodName)) ∈ lw_all := lw_g (lw_at lw_m3 75 rfl) rfl
theorem q624 : (Jvm.Cond.publicMethod ({ cls := "java/util/LinkedList$ListItr", name := "hasNext", desc := "()Z" } : Jvm.MethodName)) ∈ lw_tbl := lw_at lw_m3 76 rfl
theorem q625 : (Jvm.Cond.code ({ cls := "java/util/LinkedList$ListItr", name := "hasNext", desc := "()Z" } : Jvm.MethodName) prog_71_method_2_code (1 : Nat) (Option.some Jvm.ClassFile.FieldType.boolean)) ∈ lw_all := lw_g (lw_at lw_m3 77 rfl) rfl
theorem q1082 : (Jvm.Cond.selects "java/util/LinkedList$ListItr" ({ cls := "java/lang/Object", name := "getClass", desc := "()Ljava/lang/Class;" } : Jvm.MethodName) ({ cls := "java/lang/Object", name := "getClass", desc := "()Ljava/lang/Class;" } : Jvm.MethodName)) ∈ lw_all := lw_g (lw_at lw_m5 54 rfl) rfl
theorem q1176 : (Jvm.Cond.selects "java/util/LinkedList$ListItr" ({ cls := "java/util/Iterator", name := "next", desc := "()Ljava/lang/Object;" } : Jvm.MethodName) ({ cls := "java/util/LinkedList$ListItr", name := "next", desc := "()Ljava/lang/Object;" } : Jvm.MethodName)) ∈ lw_all := lw_g (lw_at lw_m5 148 rfl) rfl
theorem q1177 : (Jvm.Cond.unhidden "java/util/LinkedList$ListItr" "next" "()Ljava/lang/Object;") ∈ lw_tbl := lw_at lw_m5 149 rfl
theorem q1178 : (Jvm.Cond.instanceMethod ({ cls := "java/util/LinkedList$ListItr", name := "next", desc := "()Ljava/lang/Object;" } : Jvm.MethodName)) ∈ lw_all := lw_g (lw_at lw_m5 150 rfl) rfl
theorem q1179 : (Jvm.Cond.publicMethod ({ cls := "java/util/LinkedList$ListItr", name := "next", desc := "()Ljava/lang/Object;" } : Jvm.MethodName)) ∈ lw_tbl := lw_at lw_m5 151 rfl
theorem q1180 : (Jvm.Cond.code ({ cls := "java/util/LinkedList$ListItr", name := "next", desc := "()Ljava/lang/Object;" } : Jvm.MethodName) prog_71_method_3_code (1 : Nat) (Option.some (Jvm.ClassFile.FieldType.object "java/lang/Object"))) ∈ lw_all := lw_g (lw_at lw_m5 152 rfl) rfl
theorem q1181 : (Jvm.Cond.methodLink "java/util/LinkedList$ListItr" (36 : Nat) ({ cls := "java/util/LinkedList$ListItr", name := "checkForComodification", desc := "()V" } : Jvm.MethodName)) ∈ lw_all := lw_g (lw_at lw_m5 153 rfl) rfl
theorem q1182 : (Jvm.Cond.instanceMethod ({ cls := "java/util/LinkedList$ListItr", name := "checkForComodification", desc := "()V" } : Jvm.MethodName)) ∈ lw_all := lw_g (lw_at lw_m5 154 rfl) rfl
theorem q1183 : (Jvm.Cond.selects "java/util/LinkedList$ListItr" ({ cls := "java/util/LinkedList$ListItr", name := "checkForComodification", desc := "()V" } : Jvm.MethodName) ({ cls := "java/util/LinkedList$ListItr", name := "checkForComodification", desc := "()V" } : Jvm.MethodName)) ∈ lw_all := lw_g (lw_at lw_m5 155 rfl) rfl
theorem q1184 : (Jvm.Cond.code ({ cls := "java/util/LinkedList$ListItr", name := "checkForComodification", desc := "()V" } : Jvm.MethodName) prog_71_method_12_code (1 : Nat) (Option.none : Option Jvm.ClassFile.FieldType)) ∈ lw_all := lw_g (lw_at lw_m5 156 rfl) rfl
theorem q1185 : (Jvm.Cond.methodLink "java/util/LinkedList$ListItr" (39 : Nat) ({ cls := "java/util/LinkedList$ListItr", name := "hasNext", desc := "()Z" } : Jvm.MethodName)) ∈ lw_all := lw_g (lw_at lw_m5 157 rfl) rfl
theorem q1652 : (Jvm.Cond.selects "java/util/LinkedList$ListItr" ({ cls := "java/util/Iterator", name := "remove", desc := "()V" } : Jvm.MethodName) ({ cls := "java/util/LinkedList$ListItr", name := "remove", desc := "()V" } : Jvm.MethodName)) ∈ lw_all := lw_g (lw_at lw_m7 144 rfl) rfl
theorem q1653 : (Jvm.Cond.unhidden "java/util/LinkedList$ListItr" "remove" "()V") ∈ lw_tbl := lw_at lw_m7 145 rfl
theorem q1654 : (Jvm.Cond.instanceMethod ({ cls := "java/util/LinkedList$ListItr", name := "remove", desc := "()V" } : Jvm.MethodName)) ∈ lw_all := lw_g (lw_at lw_m7 146 rfl) rfl
theorem q1655 : (Jvm.Cond.publicMethod ({ cls := "java/util/LinkedList$ListItr", name := "remove", desc := "()V" } : Jvm.MethodName)) ∈ lw_tbl := lw_at lw_m7 147 rfl
theorem q1656 : (Jvm.Cond.code ({ cls := "java/util/LinkedList$ListItr", name := "remove", desc := "()V" } : Jvm.MethodName) prog_71_method_8_code (2 : Nat) (Option.none : Option Jvm.ClassFile.FieldType)) ∈ lw_all := lw_g (lw_at lw_m7 148 rfl) rfl
theorem q1657 : (Jvm.Cond.methodLink "java/util/LinkedList$ListItr" (68 : Nat) ({ cls := "java/util/LinkedList", name := "unlink", desc := "(Ljava/util/LinkedList$Node;)Ljava/lang/Object;" } : Jvm.MethodName)) ∈ lw_all := lw_g (lw_at lw_m7 149 rfl) rfl
theorem q2354 : (Jvm.Cond.fieldLink "java/util/LinkedList$ListItr" (52 : Nat) "java/util/LinkedList$Node" "item" "Ljava/lang/Object;") ∈ lw_all := lw_g (lw_at lw_m10 126 rfl) rfl
theorem q2357 : (Jvm.Cond.fieldLink "java/util/LinkedList$ListItr" (49 : Nat) "java/util/LinkedList$Node" "next" "Ljava/util/LinkedList$Node;") ∈ lw_all := lw_g (lw_at lw_m10 129 rfl) rfl
theorem q2410 : (Jvm.Cond.instantiable "java/util/LinkedList$ListItr" (5 : Nat)) ∈ lw_all := lw_g (lw_at lw_m10 182 rfl) rfl
theorem q2412 : (Jvm.Cond.instanceMethod ({ cls := "java/util/LinkedList$ListItr", name := "<init>", desc := "(Ljava/util/LinkedList;I)V" } : Jvm.MethodName)) ∈ lw_all := lw_g (lw_at lw_m10 184 rfl) rfl
theorem q2413 : (Jvm.Cond.code ({ cls := "java/util/LinkedList$ListItr", name := "<init>", desc := "(Ljava/util/LinkedList;I)V" } : Jvm.MethodName) prog_71_method_1_code (3 : Nat) (Option.none : Option Jvm.ClassFile.FieldType)) ∈ lw_all := lw_g (lw_at lw_m10 185 rfl) rfl
theorem q2414 : (Jvm.Cond.methodLink "java/util/LinkedList$ListItr" (7 : Nat) ({ cls := "java/lang/Object", name := "<init>", desc := "()V" } : Jvm.MethodName)) ∈ lw_all := lw_g (lw_at lw_m10 186 rfl) rfl
theorem q2415 : (Jvm.Cond.methodLink "java/util/LinkedList$ListItr" (25 : Nat) ({ cls := "java/util/LinkedList", name := "node", desc := "(I)Ljava/util/LinkedList$Node;" } : Jvm.MethodName)) ∈ lw_all := lw_g (lw_at lw_m10 187 rfl) rfl
theorem q2416 : (Jvm.Cond.fieldLink "java/util/LinkedList$ListItr" (46 : Nat) "java/util/LinkedList$ListItr" "lastReturned" "Ljava/util/LinkedList$Node;") ∈ lw_all := lw_g (lw_at lw_m10 188 rfl) rfl
theorem q2417 : (Jvm.Cond.fieldLink "java/util/LinkedList$ListItr" (29 : Nat) "java/util/LinkedList$ListItr" "next" "Ljava/util/LinkedList$Node;") ∈ lw_all := lw_g (lw_at lw_m10 189 rfl) rfl
theorem q2418 : (Jvm.Cond.fieldLink "java/util/LinkedList$ListItr" (33 : Nat) "java/util/LinkedList$ListItr" "nextIndex" "I") ∈ lw_all := lw_g (lw_at lw_m10 190 rfl) rfl
theorem q2419 : (Jvm.Cond.fieldLink "java/util/LinkedList$ListItr" (19 : Nat) "java/util/LinkedList$ListItr" "expectedModCount" "I") ∈ lw_all := lw_g (lw_at lw_m10 191 rfl) rfl
theorem q2420 : (Jvm.Cond.fieldLink "java/util/LinkedList$ListItr" (1 : Nat) "java/util/LinkedList$ListItr" "this$0" "Ljava/util/LinkedList;") ∈ lw_all := lw_g (lw_at lw_m10 192 rfl) rfl
theorem q2421 : (Jvm.Cond.lays "java/util/LinkedList$ListItr" "java/util/LinkedList$ListItr" "lastReturned" "Ljava/util/LinkedList$Node;") ∈ lw_all := lw_g (lw_at lw_m10 193 rfl) rfl
theorem q2422 : (Jvm.Cond.soleField "java/util/LinkedList$ListItr" "lastReturned") ∈ lw_all := lw_g (lw_at lw_m10 194 rfl) rfl
theorem q2423 : (Jvm.Cond.lays "java/util/LinkedList$ListItr" "java/util/LinkedList$ListItr" "next" "Ljava/util/LinkedList$Node;") ∈ lw_all := lw_g (lw_at lw_m10 195 rfl) rfl
theorem q2424 : (Jvm.Cond.soleField "java/util/LinkedList$ListItr" "next") ∈ lw_all := lw_g (lw_at lw_m10 196 rfl) rfl
theorem q2425 : (Jvm.Cond.lays "java/util/LinkedList$ListItr" "java/util/LinkedList$ListItr" "nextIndex" "I") ∈ lw_all := lw_g (lw_at lw_m10 197 rfl) rfl
theorem q2426 : (Jvm.Cond.soleField "java/util/LinkedList$ListItr" "nextIndex") ∈ lw_all := lw_g (lw_at lw_m10 198 rfl) rfl
theorem q2427 : (Jvm.Cond.lays "java/util/LinkedList$ListItr" "java/util/LinkedList$ListItr" "expectedModCount" "I") ∈ lw_all := lw_g (lw_at lw_m10 199 rfl) rfl
theorem q2428 : (Jvm.Cond.soleField "java/util/LinkedList$ListItr" "expectedModCount") ∈ lw_all := lw_g (lw_at lw_m10 200 rfl) rfl
theorem q2429 : (Jvm.Cond.laysFinal "java/util/LinkedList$ListItr" "java/util/LinkedList$ListItr" "this$0" "Ljava/util/LinkedList;") ∈ lw_all := lw_g (lw_at lw_m10 201 rfl) rfl
theorem q2430 : (Jvm.Cond.soleField "java/util/LinkedList$ListItr" "this$0") ∈ lw_all := lw_g (lw_at lw_m10 202 rfl) rfl
theorem q2431 : (Jvm.Cond.superclass "java/util/LinkedList$ListItr" "java/lang/Object") ∈ lw_all := lw_g (lw_at lw_m10 203 rfl) rfl
theorem q3021 : (Jvm.Cond.selects "java/util/LinkedList$ListItr" ({ cls := "java/util/LinkedList$ListItr", name := "hasNext", desc := "()Z" } : Jvm.MethodName) ({ cls := "java/util/LinkedList$ListItr", name := "hasNext", desc := "()Z" } : Jvm.MethodName)) ∈ lw_all := lw_g (lw_at lw_m13 73 rfl) rfl
theorem q3071 : (Jvm.Cond.castable "java/util/LinkedList$ListItr" "java/lang/Object") ∈ lw_tbl := lw_at lw_m13 123 rfl
theorem in_J41 : ∀ w ∈ wsJ410, w ∈ lw_all := lw_in wsJ410 [2421, 2423, 2425, 2427, 2429] (by decide +kernel) (by decide +kernel)
/-! java/util/LinkedHashMap$LinkedValues -/
set_option maxRecDepth 100000
def RJ42 : String := "java/util/LinkedHashMap$LinkedValues"
def TJ42 : u_T := fun k => match k with
  | 0 => ("java/util/LinkedHashMap$LinkedValues", "reversed", "Z", true)
  | _ => ("java/util/LinkedHashMap$LinkedValues", "this$0", "Ljava/util/LinkedHashMap;", true)
def tyJ42 : Nat → FieldType := fun k => match k with
  | 0 => .boolean
  | _ => .object "java/util/LinkedHashMap"
abbrev wsJ420 : List Cond := u_ws RJ42 TJ42 2
theorem nmJ42 : ∀ a, a < 2 → ∀ b, b < 2 → a ≠ b → (TJ42 a).2.1 ≠ (TJ42 b).2.1 := by decide +kernel
theorem tyJ42_ok : ∀ k, k < 2 → parseFieldDescriptor (TJ42 k).2.2.1 = some (tyJ42 k) := by decide +kernel
abbrev cJ42_init : ByteArray := prog_69_method_1_code
def yJ42_init : MethodName := ⟨RJ42, "<init>", "(Ljava/util/LinkedHashMap;Z)V"⟩
def dkwJ42_init_0 : List UInt8 := [42, 43, 181, 0, 1, 42, 183, 0, 7, 42, 28, 181, 0, 13, 177]
abbrev dktJ42_init_0 : List UInt8 := dkwJ42_init_0 ++ []
theorem dksJ42_init_0 : cJ42_init.data.toList.drop 0 = dktJ42_init_0 := by decide +kernel
theorem dJ42_init_0 : decode cJ42_init 0 = .ok (.aload_n 0, 1) := dk_42 (dk_at dksJ42_init_0 0 rfl rfl)
theorem dJ42_init_1 : decode cJ42_init 1 = .ok (.aload_n 1, 1) := dk_43 (dk_at dksJ42_init_0 1 rfl rfl)
theorem dJ42_init_2 : decode cJ42_init 2 = .ok (.putfield 1, 3) := dk_181 0 1 (dk_at dksJ42_init_0 2 rfl rfl)
theorem dJ42_init_5 : decode cJ42_init 5 = .ok (.aload_n 0, 1) := dk_42 (dk_at dksJ42_init_0 5 rfl rfl)
theorem dJ42_init_6 : decode cJ42_init 6 = .ok (.invokespecial 7, 3) := dk_183 0 7 (dk_at dksJ42_init_0 6 rfl rfl)
theorem dJ42_init_9 : decode cJ42_init 9 = .ok (.aload_n 0, 1) := dk_42 (dk_at dksJ42_init_0 9 rfl rfl)
theorem dJ42_init_10 : decode cJ42_init 10 = .ok (.iload_n 2, 1) := dk_28 (dk_at dksJ42_init_0 10 rfl rfl)
theorem dJ42_init_11 : decode cJ42_init 11 = .ok (.putfield 13, 3) := dk_181 0 13 (dk_at dksJ42_init_0 11 rfl rfl)
theorem dJ42_init_14 : decode cJ42_init 14 = .ok (.return_, 1) := dk_177 (dk_at dksJ42_init_0 14 rfl rfl)
abbrev cJ42_iterator : ByteArray := prog_69_method_4_code
def yJ42_iterator : MethodName := ⟨RJ42, "iterator", "()Ljava/util/Iterator;"⟩
def dkwJ42_iterator_0 : List UInt8 := [187, 0, 26, 89, 42, 180, 0, 1, 42, 180, 0, 13, 183, 0, 28, 176]
abbrev dktJ42_iterator_0 : List UInt8 := dkwJ42_iterator_0 ++ []
theorem dksJ42_iterator_0 : cJ42_iterator.data.toList.drop 0 = dktJ42_iterator_0 := by decide +kernel
theorem dJ42_iterator_0 : decode cJ42_iterator 0 = .ok (.new 26, 3) := dk_187 0 26 (dk_at dksJ42_iterator_0 0 rfl rfl)
theorem dJ42_iterator_3 : decode cJ42_iterator 3 = .ok (.dup, 1) := dk_89 (dk_at dksJ42_iterator_0 3 rfl rfl)
theorem dJ42_iterator_4 : decode cJ42_iterator 4 = .ok (.aload_n 0, 1) := dk_42 (dk_at dksJ42_iterator_0 4 rfl rfl)
theorem dJ42_iterator_5 : decode cJ42_iterator 5 = .ok (.getfield 1, 3) := dk_180 0 1 (dk_at dksJ42_iterator_0 5 rfl rfl)
theorem dJ42_iterator_8 : decode cJ42_iterator 8 = .ok (.aload_n 0, 1) := dk_42 (dk_at dksJ42_iterator_0 8 rfl rfl)
theorem dJ42_iterator_9 : decode cJ42_iterator 9 = .ok (.getfield 13, 3) := dk_180 0 13 (dk_at dksJ42_iterator_0 9 rfl rfl)
theorem dJ42_iterator_12 : decode cJ42_iterator 12 = .ok (.invokespecial 28, 3) := dk_183 0 28 (dk_at dksJ42_iterator_0 12 rfl rfl)
theorem dJ42_iterator_15 : decode cJ42_iterator 15 = .ok (.areturn, 1) := dk_176 (dk_at dksJ42_iterator_0 15 rfl rfl)
theorem q127 : (Jvm.Cond.initialized "java/util/LinkedHashMap$LinkedValues") ∈ lw_all := lw_g (lw_at lw_m1 59 rfl) rfl
theorem q1080 : (Jvm.Cond.selects "java/util/LinkedHashMap$LinkedValues" ({ cls := "java/lang/Object", name := "getClass", desc := "()Ljava/lang/Class;" } : Jvm.MethodName) ({ cls := "java/lang/Object", name := "getClass", desc := "()Ljava/lang/Class;" } : Jvm.MethodName)) ∈ lw_all := lw_g (lw_at lw_m5 52 rfl) rfl
theorem q2515 : (Jvm.Cond.instantiable "java/util/LinkedHashMap$LinkedValues" (2 : Nat)) ∈ lw_all := lw_g (lw_at lw_m11 47 rfl) rfl
theorem q2517 : (Jvm.Cond.instanceMethod ({ cls := "java/util/LinkedHashMap$LinkedValues", name := "<init>", desc := "(Ljava/util/LinkedHashMap;Z)V" } : Jvm.MethodName)) ∈ lw_all := lw_g (lw_at lw_m11 49 rfl) rfl
theorem q2518 : (Jvm.Cond.code ({ cls := "java/util/LinkedHashMap$LinkedValues", name := "<init>", desc := "(Ljava/util/LinkedHashMap;Z)V" } : Jvm.MethodName) prog_69_method_1_code (3 : Nat) (Option.none : Option Jvm.ClassFile.FieldType)) ∈ lw_all := lw_g (lw_at lw_m11 50 rfl) rfl
theorem q2519 : (Jvm.Cond.methodLink "java/util/LinkedHashMap$LinkedValues" (7 : Nat) ({ cls := "java/util/AbstractCollection", name := "<init>", desc := "()V" } : Jvm.MethodName)) ∈ lw_all := lw_g (lw_at lw_m11 51 rfl) rfl
theorem q2520 : (Jvm.Cond.fieldLink "java/util/LinkedHashMap$LinkedValues" (13 : Nat) "java/util/LinkedHashMap$LinkedValues" "reversed" "Z") ∈ lw_all := lw_g (lw_at lw_m11 52 rfl) rfl
theorem q2521 : (Jvm.Cond.fieldLink "java/util/LinkedHashMap$LinkedValues" (1 : Nat) "java/util/LinkedHashMap$LinkedValues" "this$0" "Ljava/util/LinkedHashMap;") ∈ lw_all := lw_g (lw_at lw_m11 53 rfl) rfl
theorem q2522 : (Jvm.Cond.laysFinal "java/util/LinkedHashMap$LinkedValues" "java/util/LinkedHashMap$LinkedValues" "reversed" "Z") ∈ lw_all := lw_g (lw_at lw_m11 54 rfl) rfl
theorem q2523 : (Jvm.Cond.soleField "java/util/LinkedHashMap$LinkedValues" "reversed") ∈ lw_all := lw_g (lw_at lw_m11 55 rfl) rfl
theorem q2524 : (Jvm.Cond.laysFinal "java/util/LinkedHashMap$LinkedValues" "java/util/LinkedHashMap$LinkedValues" "this$0" "Ljava/util/LinkedHashMap;") ∈ lw_all := lw_g (lw_at lw_m11 56 rfl) rfl
theorem q2525 : (Jvm.Cond.soleField "java/util/LinkedHashMap$LinkedValues" "this$0") ∈ lw_all := lw_g (lw_at lw_m11 57 rfl) rfl
theorem q2526 : (Jvm.Cond.superclass "java/util/LinkedHashMap$LinkedValues" "java/util/AbstractCollection") ∈ lw_all := lw_g (lw_at lw_m11 58 rfl) rfl
theorem q2540 : (Jvm.Cond.castable "java/util/LinkedHashMap$LinkedValues" "java/util/Collection") ∈ lw_tbl := lw_at lw_m11 72 rfl
theorem q2541 : (Jvm.Cond.selects "java/util/LinkedHashMap$LinkedValues" ({ cls := "java/util/Collection", name := "iterator", desc := "()Ljava/util/Iterator;" } : Jvm.MethodName) ({ cls := "java/util/LinkedHashMap$LinkedValues", name := "iterator", desc := "()Ljava/util/Iterator;" } : Jvm.MethodName)) ∈ lw_all := lw_g (lw_at lw_m11 73 rfl) rfl
theorem q2542 : (Jvm.Cond.unhidden "java/util/LinkedHashMap$LinkedValues" "iterator" "()Ljava/util/Iterator;") ∈ lw_tbl := lw_at lw_m11 74 rfl
theorem q2543 : (Jvm.Cond.instanceMethod ({ cls := "java/util/LinkedHashMap$LinkedValues", name := "iterator", desc := "()Ljava/util/Iterator;" } : Jvm.MethodName)) ∈ lw_all := lw_g (lw_at lw_m11 75 rfl) rfl
theorem q2544 : (Jvm.Cond.publicMethod ({ cls := "java/util/LinkedHashMap$LinkedValues", name := "iterator", desc := "()Ljava/util/Iterator;" } : Jvm.MethodName)) ∈ lw_tbl := lw_at lw_m11 76 rfl
theorem q2545 : (Jvm.Cond.code ({ cls := "java/util/LinkedHashMap$LinkedValues", name := "iterator", desc := "()Ljava/util/Iterator;" } : Jvm.MethodName) prog_69_method_4_code (1 : Nat) (Option.some (Jvm.ClassFile.FieldType.object "java/util/Iterator"))) ∈ lw_all := lw_g (lw_at lw_m11 77 rfl) rfl
theorem q2546 : (Jvm.Cond.classLink "java/util/LinkedHashMap$LinkedValues" (26 : Nat) "java/util/LinkedHashMap$LinkedValueIterator") ∈ lw_all := lw_g (lw_at lw_m11 78 rfl) rfl
theorem q2548 : (Jvm.Cond.methodLink "java/util/LinkedHashMap$LinkedValues" (28 : Nat) ({ cls := "java/util/LinkedHashMap$LinkedValueIterator", name := "<init>", desc := "(Ljava/util/LinkedHashMap;Z)V" } : Jvm.MethodName)) ∈ lw_all := lw_g (lw_at lw_m11 80 rfl) rfl
theorem q3039 : (Jvm.Cond.castable "java/util/LinkedHashMap$LinkedValues" "java/util/SequencedCollection") ∈ lw_tbl := lw_at lw_m13 91 rfl
theorem q3077 : (Jvm.Cond.castable "java/util/LinkedHashMap$LinkedValues" "java/lang/Object") ∈ lw_tbl := lw_at lw_m13 129 rfl
theorem in_J42 : ∀ w ∈ wsJ420, w ∈ lw_all := lw_in wsJ420 [2522, 2524] (by decide +kernel) (by decide +kernel)
/-! java/util/LinkedHashMap$LinkedValueIterator -/
set_option maxRecDepth 100000
def RJ43 : String := "java/util/LinkedHashMap$LinkedValueIterator"
def TJ43 : u_T := fun k => match k with
  | 0 => ("java/util/LinkedHashMap$LinkedHashIterator", "next", "Ljava/util/LinkedHashMap$Entry;", false)
  | 1 => ("java/util/LinkedHashMap$LinkedHashIterator", "current", "Ljava/util/LinkedHashMap$Entry;", false)
  | 2 => ("java/util/LinkedHashMap$LinkedHashIterator", "expectedModCount", "I", false)
  | 3 => ("java/util/LinkedHashMap$LinkedHashIterator", "reversed", "Z", false)
  | _ => ("java/util/LinkedHashMap$LinkedHashIterator", "this$0", "Ljava/util/LinkedHashMap;", true)
def tyJ43 : Nat → FieldType := fun k => match k with
  | 0 => .object "java/util/LinkedHashMap$Entry"
  | 1 => .object "java/util/LinkedHashMap$Entry"
  | 2 => .int
  | 3 => .boolean
  | _ => .object "java/util/LinkedHashMap"
abbrev wsJ430 : List Cond := u_ws RJ43 TJ43 5
theorem nmJ43 : ∀ a, a < 5 → ∀ b, b < 5 → a ≠ b → (TJ43 a).2.1 ≠ (TJ43 b).2.1 := by decide +kernel
theorem tyJ43_ok : ∀ k, k < 5 → parseFieldDescriptor (TJ43 k).2.2.1 = some (tyJ43 k) := by decide +kernel
abbrev cJ43_next : ByteArray := prog_68_method_2_code
def yJ43_next : MethodName := ⟨RJ43, "next", "()Ljava/lang/Object;"⟩
def dkwJ43_next_0 : List UInt8 := [42, 182, 0, 7, 180, 0, 13, 176]
abbrev dktJ43_next_0 : List UInt8 := dkwJ43_next_0 ++ []
theorem dksJ43_next_0 : cJ43_next.data.toList.drop 0 = dktJ43_next_0 := by decide +kernel
theorem dJ43_next_0 : decode cJ43_next 0 = .ok (.aload_n 0, 1) := dk_42 (dk_at dksJ43_next_0 0 rfl rfl)
theorem dJ43_next_1 : decode cJ43_next 1 = .ok (.invokevirtual 7, 3) := dk_182 0 7 (dk_at dksJ43_next_0 1 rfl rfl)
theorem dJ43_next_4 : decode cJ43_next 4 = .ok (.getfield 13, 3) := dk_180 0 13 (dk_at dksJ43_next_0 4 rfl rfl)
theorem dJ43_next_7 : decode cJ43_next 7 = .ok (.areturn, 1) := dk_176 (dk_at dksJ43_next_0 7 rfl rfl)
abbrev cJ43_init : ByteArray := prog_68_method_1_code
def yJ43_init : MethodName := ⟨RJ43, "<init>", "(Ljava/util/LinkedHashMap;Z)V"⟩
def dkwJ43_init_0 : List UInt8 := [42, 43, 28, 183, 0, 1, 177]
abbrev dktJ43_init_0 : List UInt8 := dkwJ43_init_0 ++ []
theorem dksJ43_init_0 : cJ43_init.data.toList.drop 0 = dktJ43_init_0 := by decide +kernel
theorem dJ43_init_0 : decode cJ43_init 0 = .ok (.aload_n 0, 1) := dk_42 (dk_at dksJ43_init_0 0 rfl rfl)
theorem dJ43_init_1 : decode cJ43_init 1 = .ok (.aload_n 1, 1) := dk_43 (dk_at dksJ43_init_0 1 rfl rfl)
theorem dJ43_init_2 : decode cJ43_init 2 = .ok (.iload_n 2, 1) := dk_28 (dk_at dksJ43_init_0 2 rfl rfl)
theorem dJ43_init_3 : decode cJ43_init 3 = .ok (.invokespecial 1, 3) := dk_183 0 1 (dk_at dksJ43_init_0 3 rfl rfl)
theorem dJ43_init_6 : decode cJ43_init 6 = .ok (.return_, 1) := dk_177 (dk_at dksJ43_init_0 6 rfl rfl)
theorem q128 : (Jvm.Cond.initialized "java/util/LinkedHashMap$LinkedValueIterator") ∈ lw_all := lw_g (lw_at lw_m1 60 rfl) rfl
theorem q617 : (Jvm.Cond.castable "java/util/LinkedHashMap$LinkedValueIterator" "java/util/Iterator") ∈ lw_tbl := lw_at lw_m3 69 rfl
theorem q618 : (Jvm.Cond.selects "java/util/LinkedHashMap$LinkedValueIterator" ({ cls := "java/util/Iterator", name := "hasNext", desc := "()Z" } : Jvm.MethodName) ({ cls := "java/util/LinkedHashMap$LinkedHashIterator", name := "hasNext", desc := "()Z" } : Jvm.MethodName)) ∈ lw_all := lw_g (lw_at lw_m3 70 rfl) rfl
theorem q619 : (Jvm.Cond.unhidden "java/util/LinkedHashMap$LinkedValueIterator" "hasNext" "()Z") ∈ lw_tbl := lw_at lw_m3 71 rfl
theorem q1079 : (Jvm.Cond.selects "java/util/LinkedHashMap$LinkedValueIterator" ({ cls := "java/lang/Object", name := "getClass", desc := "()Ljava/lang/Class;" } : Jvm.MethodName) ({ cls := "java/lang/Object", name := "getClass", desc := "()Ljava/lang/Class;" } : Jvm.MethodName)) ∈ lw_all := lw_g (lw_at lw_m5 51 rfl) rfl
theorem q1168 : (Jvm.Cond.selects "java/util/LinkedHashMap$LinkedValueIterator" ({ cls := "java/util/Iterator", name := "next", desc := "()Ljava/lang/Object;" } : Jvm.MethodName) ({ cls := "java/util/LinkedHashMap$LinkedValueIterator", name := "next", desc := "()Ljava/lang/Object;" } : Jvm.MethodName)) ∈ lw_all := lw_g (lw_at lw_m5 140 rfl) rfl
theorem q1169 : (Jvm.Cond.unhidden "java/util/LinkedHashMap$LinkedValueIterator" "next" "()Ljava/lang/Object;") ∈ lw_tbl := lw_at lw_m5 141 rfl
theorem q1170 : (Jvm.Cond.instanceMethod ({ cls := "java/util/LinkedHashMap$LinkedValueIterator", name := "next", desc := "()Ljava/lang/Object;" } : Jvm.MethodName)) ∈ lw_all := lw_g (lw_at lw_m5 142 rfl) rfl
theorem q1171 : (Jvm.Cond.publicMethod ({ cls := "java/util/LinkedHashMap$LinkedValueIterator", name := "next", desc := "()Ljava/lang/Object;" } : Jvm.MethodName)) ∈ lw_tbl := lw_at lw_m5 143 rfl
theorem q1172 : (Jvm.Cond.code ({ cls := "java/util/LinkedHashMap$LinkedValueIterator", name := "next", desc := "()Ljava/lang/Object;" } : Jvm.MethodName) prog_68_method_2_code (1 : Nat) (Option.some (Jvm.ClassFile.FieldType.object "java/lang/Object"))) ∈ lw_all := lw_g (lw_at lw_m5 144 rfl) rfl
theorem q1173 : (Jvm.Cond.methodLink "java/util/LinkedHashMap$LinkedValueIterator" (7 : Nat) ({ cls := "java/util/LinkedHashMap$LinkedValueIterator", name := "nextNode", desc := "()Ljava/util/LinkedHashMap$Entry;" } : Jvm.MethodName)) ∈ lw_all := lw_g (lw_at lw_m5 145 rfl) rfl
theorem q1174 : (Jvm.Cond.sameMethod "java/util/LinkedHashMap$LinkedValueIterator" "java/util/LinkedHashMap$LinkedHashIterator" "nextNode" "()Ljava/util/LinkedHashMap$Entry;") ∈ lw_all := lw_g (lw_at lw_m5 146 rfl) rfl
theorem q1175 : (Jvm.Cond.selects "java/util/LinkedHashMap$LinkedValueIterator" ({ cls := "java/util/LinkedHashMap$LinkedValueIterator", name := "nextNode", desc := "()Ljava/util/LinkedHashMap$Entry;" } : Jvm.MethodName) ({ cls := "java/util/LinkedHashMap$LinkedHashIterator", name := "nextNode", desc := "()Ljava/util/LinkedHashMap$Entry;" } : Jvm.MethodName)) ∈ lw_all := lw_g (lw_at lw_m5 147 rfl) rfl
theorem q1598 : (Jvm.Cond.fieldLink "java/util/LinkedHashMap$LinkedValueIterator" (13 : Nat) "java/util/LinkedHashMap$Entry" "value" "Ljava/lang/Object;") ∈ lw_all := lw_g (lw_at lw_m7 90 rfl) rfl
theorem q1650 : (Jvm.Cond.selects "java/util/LinkedHashMap$LinkedValueIterator" ({ cls := "java/util/Iterator", name := "remove", desc := "()V" } : Jvm.MethodName) ({ cls := "java/util/LinkedHashMap$LinkedHashIterator", name := "remove", desc := "()V" } : Jvm.MethodName)) ∈ lw_all := lw_g (lw_at lw_m7 142 rfl) rfl
theorem q1651 : (Jvm.Cond.unhidden "java/util/LinkedHashMap$LinkedValueIterator" "remove" "()V") ∈ lw_tbl := lw_at lw_m7 143 rfl
theorem q2547 : (Jvm.Cond.instantiable "java/util/LinkedHashMap$LinkedValueIterator" (5 : Nat)) ∈ lw_all := lw_g (lw_at lw_m11 79 rfl) rfl
theorem q2549 : (Jvm.Cond.instanceMethod ({ cls := "java/util/LinkedHashMap$LinkedValueIterator", name := "<init>", desc := "(Ljava/util/LinkedHashMap;Z)V" } : Jvm.MethodName)) ∈ lw_all := lw_g (lw_at lw_m11 81 rfl) rfl
theorem q2550 : (Jvm.Cond.code ({ cls := "java/util/LinkedHashMap$LinkedValueIterator", name := "<init>", desc := "(Ljava/util/LinkedHashMap;Z)V" } : Jvm.MethodName) prog_68_method_1_code (3 : Nat) (Option.none : Option Jvm.ClassFile.FieldType)) ∈ lw_all := lw_g (lw_at lw_m11 82 rfl) rfl
theorem q2551 : (Jvm.Cond.methodLink "java/util/LinkedHashMap$LinkedValueIterator" (1 : Nat) ({ cls := "java/util/LinkedHashMap$LinkedHashIterator", name := "<init>", desc := "(Ljava/util/LinkedHashMap;Z)V" } : Jvm.MethodName)) ∈ lw_all := lw_g (lw_at lw_m11 83 rfl) rfl
theorem q2552 : (Jvm.Cond.lays "java/util/LinkedHashMap$LinkedValueIterator" "java/util/LinkedHashMap$LinkedHashIterator" "next" "Ljava/util/LinkedHashMap$Entry;") ∈ lw_all := lw_g (lw_at lw_m11 84 rfl) rfl
theorem q2553 : (Jvm.Cond.lays "java/util/LinkedHashMap$LinkedValueIterator" "java/util/LinkedHashMap$LinkedHashIterator" "current" "Ljava/util/LinkedHashMap$Entry;") ∈ lw_all := lw_g (lw_at lw_m11 85 rfl) rfl
theorem q2554 : (Jvm.Cond.lays "java/util/LinkedHashMap$LinkedValueIterator" "java/util/LinkedHashMap$LinkedHashIterator" "expectedModCount" "I") ∈ lw_all := lw_g (lw_at lw_m11 86 rfl) rfl
theorem q2555 : (Jvm.Cond.lays "java/util/LinkedHashMap$LinkedValueIterator" "java/util/LinkedHashMap$LinkedHashIterator" "reversed" "Z") ∈ lw_all := lw_g (lw_at lw_m11 87 rfl) rfl
theorem q2556 : (Jvm.Cond.laysFinal "java/util/LinkedHashMap$LinkedValueIterator" "java/util/LinkedHashMap$LinkedHashIterator" "this$0" "Ljava/util/LinkedHashMap;") ∈ lw_all := lw_g (lw_at lw_m11 88 rfl) rfl
theorem q2557 : (Jvm.Cond.superclass "java/util/LinkedHashMap$LinkedValueIterator" "java/util/LinkedHashMap$LinkedHashIterator") ∈ lw_all := lw_g (lw_at lw_m11 89 rfl) rfl
theorem q3078 : (Jvm.Cond.castable "java/util/LinkedHashMap$LinkedValueIterator" "java/lang/Object") ∈ lw_tbl := lw_at lw_m13 130 rfl
theorem in_J43 : ∀ w ∈ wsJ430, w ∈ lw_all := lw_in wsJ430 [2552, 2553, 2554, 2555, 2556] (by decide +kernel) (by decide +kernel)
/-! java/lang/Throwable -/
set_option maxRecDepth 100000
def RJ14 : String := "java/lang/Throwable"
def TJ14 : u_T := fun k => match k with
  | 0 => ("java/lang/Throwable", "cause", "Ljava/lang/Throwable;", false)
  | 1 => ("java/lang/Throwable", "stackTrace", "[Ljava/lang/StackTraceElement;", false)
  | 2 => ("java/lang/Throwable", "suppressedExceptions", "Ljava/util/List;", false)
  | 3 => ("java/lang/Throwable", "detailMessage", "Ljava/lang/String;", false)
  | _ => ("java/lang/Throwable", "backtrace", "Ljava/lang/Object;", false)
def tyJ14 : Nat → FieldType := fun k => match k with
  | 0 => .object "java/lang/Throwable"
  | 1 => .array (.object "java/lang/StackTraceElement")
  | 2 => .object "java/util/List"
  | 3 => .object "java/lang/String"
  | _ => .object "java/lang/Object"
abbrev wsJ140 : List Cond := u_ws RJ14 TJ14 5
theorem nmJ14 : ∀ a, a < 5 → ∀ b, b < 5 → a ≠ b → (TJ14 a).2.1 ≠ (TJ14 b).2.1 := by decide +kernel
theorem tyJ14_ok : ∀ k, k < 5 → parseFieldDescriptor (TJ14 k).2.2.1 = some (tyJ14 k) := by decide +kernel
abbrev cJ14_init : ByteArray := prog_40_method_1_code
def yJ14_init : MethodName := ⟨RJ14, "<init>", "()V"⟩
def dkwJ14_init_1 : List UInt8 := [182, 0, 27, 87, 177]
abbrev dktJ14_init_1 : List UInt8 := dkwJ14_init_1 ++ []
def dkwJ14_init_0 : List UInt8 := [42, 183, 0, 1, 42, 42, 181, 0, 7, 42, 178, 0, 13, 181, 0, 17, 42, 178, 0, 20, 181, 0, 24, 42]
abbrev dktJ14_init_0 : List UInt8 := dkwJ14_init_0 ++ dktJ14_init_1
theorem dksJ14_init_0 : cJ14_init.data.toList.drop 0 = dktJ14_init_0 := by decide +kernel
theorem dksJ14_init_1 : cJ14_init.data.toList.drop 24 = dktJ14_init_1 := dk_seg dksJ14_init_0 24 rfl rfl
theorem dJ14_init_0 : decode cJ14_init 0 = .ok (.aload_n 0, 1) := dk_42 (dk_at dksJ14_init_0 0 rfl rfl)
theorem dJ14_init_1 : decode cJ14_init 1 = .ok (.invokespecial 1, 3) := dk_183 0 1 (dk_at dksJ14_init_0 1 rfl rfl)
theorem dJ14_init_4 : decode cJ14_init 4 = .ok (.aload_n 0, 1) := dk_42 (dk_at dksJ14_init_0 4 rfl rfl)
theorem dJ14_init_5 : decode cJ14_init 5 = .ok (.aload_n 0, 1) := dk_42 (dk_at dksJ14_init_0 5 rfl rfl)
theorem dJ14_init_6 : decode cJ14_init 6 = .ok (.putfield 7, 3) := dk_181 0 7 (dk_at dksJ14_init_0 6 rfl rfl)
theorem dJ14_init_9 : decode cJ14_init 9 = .ok (.aload_n 0, 1) := dk_42 (dk_at dksJ14_init_0 9 rfl rfl)
theorem dJ14_init_10 : decode cJ14_init 10 = .ok (.getstatic 13, 3) := dk_178 0 13 (dk_at dksJ14_init_0 10 rfl rfl)
theorem dJ14_init_13 : decode cJ14_init 13 = .ok (.putfield 17, 3) := dk_181 0 17 (dk_at dksJ14_init_0 13 rfl rfl)
theorem dJ14_init_16 : decode cJ14_init 16 = .ok (.aload_n 0, 1) := dk_42 (dk_at dksJ14_init_0 16 rfl rfl)
theorem dJ14_init_17 : decode cJ14_init 17 = .ok (.getstatic 20, 3) := dk_178 0 20 (dk_at dksJ14_init_0 17 rfl rfl)
theorem dJ14_init_20 : decode cJ14_init 20 = .ok (.putfield 24, 3) := dk_181 0 24 (dk_at dksJ14_init_0 20 rfl rfl)
theorem dJ14_init_23 : decode cJ14_init 23 = .ok (.aload_n 0, 1) := dk_42 (dk_at dksJ14_init_0 23 rfl rfl)
theorem dJ14_init_24 : decode cJ14_init 24 = .ok (.invokevirtual 27, 3) := dk_182 0 27 (dk_at dksJ14_init_1 0 rfl rfl)
theorem dJ14_init_27 : decode cJ14_init 27 = .ok (.pop, 1) := dk_87 (dk_at dksJ14_init_1 3 rfl rfl)
theorem dJ14_init_28 : decode cJ14_init 28 = .ok (.return_, 1) := dk_177 (dk_at dksJ14_init_1 4 rfl rfl)
abbrev cJ14_init_2 : ByteArray := prog_40_method_2_code
def yJ14_init_2 : MethodName := ⟨RJ14, "<init>", "(Ljava/lang/String;)V"⟩
def dkwJ14_init_2_1 : List UInt8 := [182, 0, 27, 87, 42, 43, 181, 0, 31, 177]
abbrev dktJ14_init_2_1 : List UInt8 := dkwJ14_init_2_1 ++ []
def dkwJ14_init_2_0 : List UInt8 := [42, 183, 0, 1, 42, 42, 181, 0, 7, 42, 178, 0, 13, 181, 0, 17, 42, 178, 0, 20, 181, 0, 24, 42]
abbrev dktJ14_init_2_0 : List UInt8 := dkwJ14_init_2_0 ++ dktJ14_init_2_1
theorem dksJ14_init_2_0 : cJ14_init_2.data.toList.drop 0 = dktJ14_init_2_0 := by decide +kernel
theorem dksJ14_init_2_1 : cJ14_init_2.data.toList.drop 24 = dktJ14_init_2_1 := dk_seg dksJ14_init_2_0 24 rfl rfl
theorem dJ14_init_2_0 : decode cJ14_init_2 0 = .ok (.aload_n 0, 1) := dk_42 (dk_at dksJ14_init_2_0 0 rfl rfl)
theorem dJ14_init_2_1 : decode cJ14_init_2 1 = .ok (.invokespecial 1, 3) := dk_183 0 1 (dk_at dksJ14_init_2_0 1 rfl rfl)
theorem dJ14_init_2_4 : decode cJ14_init_2 4 = .ok (.aload_n 0, 1) := dk_42 (dk_at dksJ14_init_2_0 4 rfl rfl)
theorem dJ14_init_2_5 : decode cJ14_init_2 5 = .ok (.aload_n 0, 1) := dk_42 (dk_at dksJ14_init_2_0 5 rfl rfl)
theorem dJ14_init_2_6 : decode cJ14_init_2 6 = .ok (.putfield 7, 3) := dk_181 0 7 (dk_at dksJ14_init_2_0 6 rfl rfl)
theorem dJ14_init_2_9 : decode cJ14_init_2 9 = .ok (.aload_n 0, 1) := dk_42 (dk_at dksJ14_init_2_0 9 rfl rfl)
theorem dJ14_init_2_10 : decode cJ14_init_2 10 = .ok (.getstatic 13, 3) := dk_178 0 13 (dk_at dksJ14_init_2_0 10 rfl rfl)
theorem dJ14_init_2_13 : decode cJ14_init_2 13 = .ok (.putfield 17, 3) := dk_181 0 17 (dk_at dksJ14_init_2_0 13 rfl rfl)
theorem dJ14_init_2_16 : decode cJ14_init_2 16 = .ok (.aload_n 0, 1) := dk_42 (dk_at dksJ14_init_2_0 16 rfl rfl)
theorem dJ14_init_2_17 : decode cJ14_init_2 17 = .ok (.getstatic 20, 3) := dk_178 0 20 (dk_at dksJ14_init_2_0 17 rfl rfl)
theorem dJ14_init_2_20 : decode cJ14_init_2 20 = .ok (.putfield 24, 3) := dk_181 0 24 (dk_at dksJ14_init_2_0 20 rfl rfl)
theorem dJ14_init_2_23 : decode cJ14_init_2 23 = .ok (.aload_n 0, 1) := dk_42 (dk_at dksJ14_init_2_0 23 rfl rfl)
theorem dJ14_init_2_24 : decode cJ14_init_2 24 = .ok (.invokevirtual 27, 3) := dk_182 0 27 (dk_at dksJ14_init_2_1 0 rfl rfl)
theorem dJ14_init_2_27 : decode cJ14_init_2 27 = .ok (.pop, 1) := dk_87 (dk_at dksJ14_init_2_1 3 rfl rfl)
theorem dJ14_init_2_28 : decode cJ14_init_2 28 = .ok (.aload_n 0, 1) := dk_42 (dk_at dksJ14_init_2_1 4 rfl rfl)
theorem dJ14_init_2_29 : decode cJ14_init_2 29 = .ok (.aload_n 1, 1) := dk_43 (dk_at dksJ14_init_2_1 5 rfl rfl)
theorem dJ14_init_2_30 : decode cJ14_init_2 30 = .ok (.putfield 31, 3) := dk_181 0 31 (dk_at dksJ14_init_2_1 6 rfl rfl)
theorem dJ14_init_2_33 : decode cJ14_init_2 33 = .ok (.return_, 1) := dk_177 (dk_at dksJ14_init_2_1 9 rfl rfl)
abbrev cJ14_init_3 : ByteArray := prog_40_method_4_code
def yJ14_init_3 : MethodName := ⟨RJ14, "<init>", "(Ljava/lang/Throwable;)V"⟩
def dkwJ14_init_3_2 : List UInt8 := [181, 0, 7, 177]
abbrev dktJ14_init_3_2 : List UInt8 := dkwJ14_init_3_2 ++ []
def dkwJ14_init_3_1 : List UInt8 := [182, 0, 27, 87, 42, 43, 199, 0, 7, 1, 167, 0, 7, 43, 182, 0, 35, 181, 0, 31, 42, 43]
abbrev dktJ14_init_3_1 : List UInt8 := dkwJ14_init_3_1 ++ dktJ14_init_3_2
def dkwJ14_init_3_0 : List UInt8 := [42, 183, 0, 1, 42, 42, 181, 0, 7, 42, 178, 0, 13, 181, 0, 17, 42, 178, 0, 20, 181, 0, 24, 42]
abbrev dktJ14_init_3_0 : List UInt8 := dkwJ14_init_3_0 ++ dktJ14_init_3_1
theorem dksJ14_init_3_0 : cJ14_init_3.data.toList.drop 0 = dktJ14_init_3_0 := by decide +kernel
theorem dksJ14_init_3_1 : cJ14_init_3.data.toList.drop 24 = dktJ14_init_3_1 := dk_seg dksJ14_init_3_0 24 rfl rfl
theorem dksJ14_init_3_2 : cJ14_init_3.data.toList.drop 46 = dktJ14_init_3_2 := dk_seg dksJ14_init_3_1 22 rfl rfl
theorem dJ14_init_3_0 : decode cJ14_init_3 0 = .ok (.aload_n 0, 1) := dk_42 (dk_at dksJ14_init_3_0 0 rfl rfl)
theorem dJ14_init_3_1 : decode cJ14_init_3 1 = .ok (.invokespecial 1, 3) := dk_183 0 1 (dk_at dksJ14_init_3_0 1 rfl rfl)
theorem dJ14_init_3_4 : decode cJ14_init_3 4 = .ok (.aload_n 0, 1) := dk_42 (dk_at dksJ14_init_3_0 4 rfl rfl)
theorem dJ14_init_3_5 : decode cJ14_init_3 5 = .ok (.aload_n 0, 1) := dk_42 (dk_at dksJ14_init_3_0 5 rfl rfl)
theorem dJ14_init_3_6 : decode cJ14_init_3 6 = .ok (.putfield 7, 3) := dk_181 0 7 (dk_at dksJ14_init_3_0 6 rfl rfl)
theorem dJ14_init_3_9 : decode cJ14_init_3 9 = .ok (.aload_n 0, 1) := dk_42 (dk_at dksJ14_init_3_0 9 rfl rfl)
theorem dJ14_init_3_10 : decode cJ14_init_3 10 = .ok (.getstatic 13, 3) := dk_178 0 13 (dk_at dksJ14_init_3_0 10 rfl rfl)
theorem dJ14_init_3_13 : decode cJ14_init_3 13 = .ok (.putfield 17, 3) := dk_181 0 17 (dk_at dksJ14_init_3_0 13 rfl rfl)
theorem dJ14_init_3_16 : decode cJ14_init_3 16 = .ok (.aload_n 0, 1) := dk_42 (dk_at dksJ14_init_3_0 16 rfl rfl)
theorem dJ14_init_3_17 : decode cJ14_init_3 17 = .ok (.getstatic 20, 3) := dk_178 0 20 (dk_at dksJ14_init_3_0 17 rfl rfl)
theorem dJ14_init_3_20 : decode cJ14_init_3 20 = .ok (.putfield 24, 3) := dk_181 0 24 (dk_at dksJ14_init_3_0 20 rfl rfl)
theorem dJ14_init_3_23 : decode cJ14_init_3 23 = .ok (.aload_n 0, 1) := dk_42 (dk_at dksJ14_init_3_0 23 rfl rfl)
theorem dJ14_init_3_24 : decode cJ14_init_3 24 = .ok (.invokevirtual 27, 3) := dk_182 0 27 (dk_at dksJ14_init_3_1 0 rfl rfl)
theorem dJ14_init_3_27 : decode cJ14_init_3 27 = .ok (.pop, 1) := dk_87 (dk_at dksJ14_init_3_1 3 rfl rfl)
theorem dJ14_init_3_28 : decode cJ14_init_3 28 = .ok (.aload_n 0, 1) := dk_42 (dk_at dksJ14_init_3_1 4 rfl rfl)
theorem dJ14_init_3_29 : decode cJ14_init_3 29 = .ok (.aload_n 1, 1) := dk_43 (dk_at dksJ14_init_3_1 5 rfl rfl)
theorem dJ14_init_3_30 : decode cJ14_init_3 30 = .ok (.ifnonnull 7, 3) := dk_199 0 7 (dk_at dksJ14_init_3_1 6 rfl rfl)
theorem dJ14_init_3_33 : decode cJ14_init_3 33 = .ok (.aconst_null, 1) := dk_1 (dk_at dksJ14_init_3_1 9 rfl rfl)
theorem dJ14_init_3_34 : decode cJ14_init_3 34 = .ok (.goto 7, 3) := dk_167 0 7 (dk_at dksJ14_init_3_1 10 rfl rfl)
theorem dJ14_init_3_37 : decode cJ14_init_3 37 = .ok (.aload_n 1, 1) := dk_43 (dk_at dksJ14_init_3_1 13 rfl rfl)
theorem dJ14_init_3_38 : decode cJ14_init_3 38 = .ok (.invokevirtual 35, 3) := dk_182 0 35 (dk_at dksJ14_init_3_1 14 rfl rfl)
theorem dJ14_init_3_41 : decode cJ14_init_3 41 = .ok (.putfield 31, 3) := dk_181 0 31 (dk_at dksJ14_init_3_1 17 rfl rfl)
theorem dJ14_init_3_44 : decode cJ14_init_3 44 = .ok (.aload_n 0, 1) := dk_42 (dk_at dksJ14_init_3_1 20 rfl rfl)
theorem dJ14_init_3_45 : decode cJ14_init_3 45 = .ok (.aload_n 1, 1) := dk_43 (dk_at dksJ14_init_3_1 21 rfl rfl)
theorem dJ14_init_3_46 : decode cJ14_init_3 46 = .ok (.putfield 7, 3) := dk_181 0 7 (dk_at dksJ14_init_3_2 0 rfl rfl)
theorem dJ14_init_3_49 : decode cJ14_init_3 49 = .ok (.return_, 1) := dk_177 (dk_at dksJ14_init_3_2 3 rfl rfl)
abbrev cJ14_toString : ByteArray := prog_40_method_11_code
def yJ14_toString : MethodName := ⟨RJ14, "toString", "()Ljava/lang/String;"⟩
def dkwJ14_toString_1 : List UInt8 := [43, 182, 0, 49, 18, 81, 182, 0, 49, 44, 182, 0, 49, 182, 0, 60, 167, 0, 4, 43, 176]
abbrev dktJ14_toString_1 : List UInt8 := dkwJ14_toString_1 ++ []
def dkwJ14_toString_0 : List UInt8 := [42, 182, 0, 69, 182, 0, 73, 76, 42, 182, 0, 78, 77, 44, 198, 0, 29, 187, 0, 44, 89, 183, 0, 46]
abbrev dktJ14_toString_0 : List UInt8 := dkwJ14_toString_0 ++ dktJ14_toString_1
theorem dksJ14_toString_0 : cJ14_toString.data.toList.drop 0 = dktJ14_toString_0 := by decide +kernel
theorem dksJ14_toString_1 : cJ14_toString.data.toList.drop 24 = dktJ14_toString_1 := dk_seg dksJ14_toString_0 24 rfl rfl
theorem dJ14_toString_0 : decode cJ14_toString 0 = .ok (.aload_n 0, 1) := dk_42 (dk_at dksJ14_toString_0 0 rfl rfl)
theorem dJ14_toString_1 : decode cJ14_toString 1 = .ok (.invokevirtual 69, 3) := dk_182 0 69 (dk_at dksJ14_toString_0 1 rfl rfl)
theorem dJ14_toString_4 : decode cJ14_toString 4 = .ok (.invokevirtual 73, 3) := dk_182 0 73 (dk_at dksJ14_toString_0 4 rfl rfl)
theorem dJ14_toString_7 : decode cJ14_toString 7 = .ok (.astore_n 1, 1) := dk_76 (dk_at dksJ14_toString_0 7 rfl rfl)
theorem dJ14_toString_8 : decode cJ14_toString 8 = .ok (.aload_n 0, 1) := dk_42 (dk_at dksJ14_toString_0 8 rfl rfl)
theorem dJ14_toString_9 : decode cJ14_toString 9 = .ok (.invokevirtual 78, 3) := dk_182 0 78 (dk_at dksJ14_toString_0 9 rfl rfl)
theorem dJ14_toString_12 : decode cJ14_toString 12 = .ok (.astore_n 2, 1) := dk_77 (dk_at dksJ14_toString_0 12 rfl rfl)
theorem dJ14_toString_13 : decode cJ14_toString 13 = .ok (.aload_n 2, 1) := dk_44 (dk_at dksJ14_toString_0 13 rfl rfl)
theorem dJ14_toString_14 : decode cJ14_toString 14 = .ok (.ifnull 29, 3) := dk_198 0 29 (dk_at dksJ14_toString_0 14 rfl rfl)
theorem dJ14_toString_17 : decode cJ14_toString 17 = .ok (.new 44, 3) := dk_187 0 44 (dk_at dksJ14_toString_0 17 rfl rfl)
theorem dJ14_toString_20 : decode cJ14_toString 20 = .ok (.dup, 1) := dk_89 (dk_at dksJ14_toString_0 20 rfl rfl)
theorem dJ14_toString_21 : decode cJ14_toString 21 = .ok (.invokespecial 46, 3) := dk_183 0 46 (dk_at dksJ14_toString_0 21 rfl rfl)
theorem dJ14_toString_24 : decode cJ14_toString 24 = .ok (.aload_n 1, 1) := dk_43 (dk_at dksJ14_toString_1 0 rfl rfl)
theorem dJ14_toString_25 : decode cJ14_toString 25 = .ok (.invokevirtual 49, 3) := dk_182 0 49 (dk_at dksJ14_toString_1 1 rfl rfl)
theorem dJ14_toString_28 : decode cJ14_toString 28 = .ok (.ldc 81, 2) := dk_18 81 (dk_at dksJ14_toString_1 4 rfl rfl)
theorem dJ14_toString_30 : decode cJ14_toString 30 = .ok (.invokevirtual 49, 3) := dk_182 0 49 (dk_at dksJ14_toString_1 6 rfl rfl)
theorem dJ14_toString_33 : decode cJ14_toString 33 = .ok (.aload_n 2, 1) := dk_44 (dk_at dksJ14_toString_1 9 rfl rfl)
theorem dJ14_toString_34 : decode cJ14_toString 34 = .ok (.invokevirtual 49, 3) := dk_182 0 49 (dk_at dksJ14_toString_1 10 rfl rfl)
theorem dJ14_toString_37 : decode cJ14_toString 37 = .ok (.invokevirtual 60, 3) := dk_182 0 60 (dk_at dksJ14_toString_1 13 rfl rfl)
theorem dJ14_toString_40 : decode cJ14_toString 40 = .ok (.goto 4, 3) := dk_167 0 4 (dk_at dksJ14_toString_1 16 rfl rfl)
theorem dJ14_toString_43 : decode cJ14_toString 43 = .ok (.aload_n 1, 1) := dk_43 (dk_at dksJ14_toString_1 19 rfl rfl)
theorem dJ14_toString_44 : decode cJ14_toString 44 = .ok (.areturn, 1) := dk_176 (dk_at dksJ14_toString_1 20 rfl rfl)
abbrev cJ14_getLocalizedMessage : ByteArray := prog_40_method_7_code
def yJ14_getLocalizedMessage : MethodName := ⟨RJ14, "getLocalizedMessage", "()Ljava/lang/String;"⟩
theorem dJ14_getLocalizedMessage_0 : decode cJ14_getLocalizedMessage 0 = .ok (.aload_n 0, 1) := by decide +kernel
theorem dJ14_getLocalizedMessage_1 : decode cJ14_getLocalizedMessage 1 = .ok (.invokevirtual 39, 3) := by decide +kernel
theorem dJ14_getLocalizedMessage_4 : decode cJ14_getLocalizedMessage 4 = .ok (.areturn, 1) := by decide +kernel
abbrev cJ14_getMessage : ByteArray := prog_40_method_6_code
def yJ14_getMessage : MethodName := ⟨RJ14, "getMessage", "()Ljava/lang/String;"⟩
theorem dJ14_getMessage_0 : decode cJ14_getMessage 0 = .ok (.aload_n 0, 1) := by decide +kernel
theorem dJ14_getMessage_1 : decode cJ14_getMessage 1 = .ok (.getfield 31, 3) := by decide +kernel
theorem dJ14_getMessage_4 : decode cJ14_getMessage 4 = .ok (.areturn, 1) := by decide +kernel
theorem q89 : (Jvm.Cond.initialized "java/lang/Throwable") ∈ lw_all := lw_g (lw_at lw_m1 21 rfl) rfl
theorem q661 : (Jvm.Cond.declares ({ cls := "java/lang/Throwable", name := "<init>", desc := "()V" } : Jvm.MethodName)) ∈ lw_tbl := lw_at lw_m3 113 rfl
theorem q662 : (Jvm.Cond.declares ({ cls := "java/lang/Throwable", name := "<init>", desc := "(Ljava/lang/String;)V" } : Jvm.MethodName)) ∈ lw_tbl := lw_at lw_m3 114 rfl
theorem q666 : (Jvm.Cond.lays "java/lang/Throwable" "java/lang/Throwable" "cause" "Ljava/lang/Throwable;") ∈ lw_all := lw_g (lw_at lw_m3 118 rfl) rfl
theorem q668 : (Jvm.Cond.lays "java/lang/Throwable" "java/lang/Throwable" "stackTrace" "[Ljava/lang/StackTraceElement;") ∈ lw_all := lw_g (lw_at lw_m3 120 rfl) rfl
theorem q670 : (Jvm.Cond.lays "java/lang/Throwable" "java/lang/Throwable" "suppressedExceptions" "Ljava/util/List;") ∈ lw_all := lw_g (lw_at lw_m3 122 rfl) rfl
theorem q672 : (Jvm.Cond.lays "java/lang/Throwable" "java/lang/Throwable" "detailMessage" "Ljava/lang/String;") ∈ lw_all := lw_g (lw_at lw_m3 124 rfl) rfl
theorem q674 : (Jvm.Cond.lays "java/lang/Throwable" "java/lang/Throwable" "backtrace" "Ljava/lang/Object;") ∈ lw_all := lw_g (lw_at lw_m3 126 rfl) rfl
theorem q675 : (Jvm.Cond.fieldLink "java/lang/Throwable" (198 : Nat) "java/lang/Throwable" "backtrace" "Ljava/lang/Object;") ∈ lw_all := lw_g (lw_at lw_m3 127 rfl) rfl
theorem q676 : (Jvm.Cond.superclass "java/lang/Throwable" "java/lang/Object") ∈ lw_all := lw_g (lw_at lw_m3 128 rfl) rfl
theorem q677 : (Jvm.Cond.instanceMethod ({ cls := "java/lang/Throwable", name := "<init>", desc := "()V" } : Jvm.MethodName)) ∈ lw_all := lw_g (lw_at lw_m3 129 rfl) rfl
theorem q678 : (Jvm.Cond.code ({ cls := "java/lang/Throwable", name := "<init>", desc := "()V" } : Jvm.MethodName) prog_40_method_1_code (1 : Nat) (Option.none : Option Jvm.ClassFile.FieldType)) ∈ lw_all := lw_g (lw_at lw_m3 130 rfl) rfl
theorem q679 : (Jvm.Cond.methodLink "java/lang/Throwable" (1 : Nat) ({ cls := "java/lang/Object", name := "<init>", desc := "()V" } : Jvm.MethodName)) ∈ lw_all := lw_g (lw_at lw_m3 131 rfl) rfl
theorem q680 : (Jvm.Cond.fieldLink "java/lang/Throwable" (13 : Nat) "java/lang/Throwable" "UNASSIGNED_STACK" "[Ljava/lang/StackTraceElement;") ∈ lw_all := lw_g (lw_at lw_m3 132 rfl) rfl
theorem q681 : (Jvm.Cond.laysStatic "java/lang/Throwable" "UNASSIGNED_STACK" "[Ljava/lang/StackTraceElement;") ∈ lw_tbl := lw_at lw_m3 133 rfl
theorem q682 : (Jvm.Cond.fieldLink "java/lang/Throwable" (20 : Nat) "java/lang/Throwable" "SUPPRESSED_SENTINEL" "Ljava/util/List;") ∈ lw_all := lw_g (lw_at lw_m3 134 rfl) rfl
theorem q683 : (Jvm.Cond.laysStatic "java/lang/Throwable" "SUPPRESSED_SENTINEL" "Ljava/util/List;") ∈ lw_tbl := lw_at lw_m3 135 rfl
theorem q684 : (Jvm.Cond.methodLink "java/lang/Throwable" (27 : Nat) ({ cls := "java/lang/Throwable", name := "fillInStackTrace", desc := "()Ljava/lang/Throwable;" } : Jvm.MethodName)) ∈ lw_all := lw_g (lw_at lw_m3 136 rfl) rfl
theorem q685 : (Jvm.Cond.instanceMethod ({ cls := "java/lang/Throwable", name := "fillInStackTrace", desc := "()Ljava/lang/Throwable;" } : Jvm.MethodName)) ∈ lw_all := lw_g (lw_at lw_m3 137 rfl) rfl
theorem q686 : (Jvm.Cond.sameMethod "java/lang/Throwable" "java/lang/Throwable" "fillInStackTrace" "()Ljava/lang/Throwable;") ∈ lw_all := lw_g (lw_at lw_m3 138 rfl) rfl
theorem q703 : (Jvm.Cond.declares ({ cls := "java/lang/Throwable", name := "fillInStackTrace", desc := "()Ljava/lang/Throwable;" } : Jvm.MethodName)) ∈ lw_tbl := lw_at lw_m3 155 rfl
theorem q709 : (Jvm.Cond.codeSync ({ cls := "java/lang/Throwable", name := "fillInStackTrace", desc := "()Ljava/lang/Throwable;" } : Jvm.MethodName) prog_40_method_18_code (1 : Nat) (Option.some (Jvm.ClassFile.FieldType.object "java/lang/Throwable"))) ∈ lw_all := lw_g (lw_at lw_m3 161 rfl) rfl
theorem q710 : (Jvm.Cond.methodLink "java/lang/Throwable" (202 : Nat) ({ cls := "java/lang/Throwable", name := "fillInStackTrace", desc := "(I)Ljava/lang/Throwable;" } : Jvm.MethodName)) ∈ lw_all := lw_g (lw_at lw_m3 162 rfl) rfl
theorem q711 : (Jvm.Cond.privateMethod ({ cls := "java/lang/Throwable", name := "fillInStackTrace", desc := "(I)Ljava/lang/Throwable;" } : Jvm.MethodName)) ∈ lw_tbl := lw_at lw_m3 163 rfl
theorem q712 : (Jvm.Cond.instanceMethod ({ cls := "java/lang/Throwable", name := "fillInStackTrace", desc := "(I)Ljava/lang/Throwable;" } : Jvm.MethodName)) ∈ lw_all := lw_g (lw_at lw_m3 164 rfl) rfl
theorem q713 : (Jvm.Cond.instantiable "java/lang/Throwable" (6 : Nat)) ∈ lw_all := lw_g (lw_at lw_m3 165 rfl) rfl
theorem q714 : (Jvm.Cond.native ({ cls := "java/lang/Throwable", name := "fillInStackTrace", desc := "(I)Ljava/lang/Throwable;" } : Jvm.MethodName)) ∈ lw_all := lw_g (lw_at lw_m3 166 rfl) rfl
theorem q755 : (Jvm.Cond.fieldLink "java/lang/Throwable" (198 : Nat) "java/lang/Throwable" "backtrace" "Ljava/lang/Object;") ∈ lw_all := lw_g (lw_at lw_m3 207 rfl) rfl
theorem q756 : (Jvm.Cond.fieldLink "java/lang/Throwable" (31 : Nat) "java/lang/Throwable" "detailMessage" "Ljava/lang/String;") ∈ lw_all := lw_g (lw_at lw_m3 208 rfl) rfl
theorem q757 : (Jvm.Cond.fieldLink "java/lang/Throwable" (7 : Nat) "java/lang/Throwable" "cause" "Ljava/lang/Throwable;") ∈ lw_all := lw_g (lw_at lw_m3 209 rfl) rfl
theorem q758 : (Jvm.Cond.fieldLink "java/lang/Throwable" (17 : Nat) "java/lang/Throwable" "stackTrace" "[Ljava/lang/StackTraceElement;") ∈ lw_all := lw_g (lw_at lw_m3 210 rfl) rfl
theorem q759 : (Jvm.Cond.fieldLink "java/lang/Throwable" (24 : Nat) "java/lang/Throwable" "suppressedExceptions" "Ljava/util/List;") ∈ lw_all := lw_g (lw_at lw_m3 211 rfl) rfl
theorem q760 : (Jvm.Cond.soleField "java/lang/Throwable" "backtrace") ∈ lw_all := lw_g (lw_at lw_m3 212 rfl) rfl
theorem q761 : (Jvm.Cond.soleField "java/lang/Throwable" "detailMessage") ∈ lw_all := lw_g (lw_at lw_m3 213 rfl) rfl
theorem q762 : (Jvm.Cond.soleField "java/lang/Throwable" "cause") ∈ lw_all := lw_g (lw_at lw_m3 214 rfl) rfl
theorem q763 : (Jvm.Cond.soleField "java/lang/Throwable" "stackTrace") ∈ lw_all := lw_g (lw_at lw_m3 215 rfl) rfl
theorem q765 : (Jvm.Cond.soleField "java/lang/Throwable" "depth") ∈ lw_all := lw_g (lw_at lw_m3 217 rfl) rfl
theorem q766 : (Jvm.Cond.soleField "java/lang/Throwable" "suppressedExceptions") ∈ lw_all := lw_g (lw_at lw_m3 218 rfl) rfl
theorem q999 : (Jvm.Cond.instanceMethod ({ cls := "java/lang/Throwable", name := "<init>", desc := "(Ljava/lang/String;)V" } : Jvm.MethodName)) ∈ lw_all := lw_g (lw_at lw_m4 211 rfl) rfl
theorem q1000 : (Jvm.Cond.code ({ cls := "java/lang/Throwable", name := "<init>", desc := "(Ljava/lang/String;)V" } : Jvm.MethodName) prog_40_method_2_code (2 : Nat) (Option.none : Option Jvm.ClassFile.FieldType)) ∈ lw_all := lw_g (lw_at lw_m4 212 rfl) rfl
theorem q1026 : (Jvm.Cond.instanceMethod ({ cls := "java/lang/Throwable", name := "<init>", desc := "(Ljava/lang/Throwable;)V" } : Jvm.MethodName)) ∈ lw_all := lw_g (lw_at lw_m4 238 rfl) rfl
theorem q1027 : (Jvm.Cond.code ({ cls := "java/lang/Throwable", name := "<init>", desc := "(Ljava/lang/Throwable;)V" } : Jvm.MethodName) prog_40_method_4_code (2 : Nat) (Option.none : Option Jvm.ClassFile.FieldType)) ∈ lw_all := lw_g (lw_at lw_m4 239 rfl) rfl
theorem q1028 : (Jvm.Cond.methodLink "java/lang/Throwable" (35 : Nat) ({ cls := "java/lang/Throwable", name := "toString", desc := "()Ljava/lang/String;" } : Jvm.MethodName)) ∈ lw_all := lw_g (lw_at lw_m5 0 rfl) rfl
theorem q1029 : (Jvm.Cond.instanceMethod ({ cls := "java/lang/Throwable", name := "toString", desc := "()Ljava/lang/String;" } : Jvm.MethodName)) ∈ lw_all := lw_g (lw_at lw_m5 1 rfl) rfl
theorem q1030 : (Jvm.Cond.sameMethod "java/lang/Throwable" "java/lang/Throwable" "toString" "()Ljava/lang/String;") ∈ lw_all := lw_g (lw_at lw_m5 2 rfl) rfl
theorem q1041 : (Jvm.Cond.code ({ cls := "java/lang/Throwable", name := "toString", desc := "()Ljava/lang/String;" } : Jvm.MethodName) prog_40_method_11_code (3 : Nat) (Option.some (Jvm.ClassFile.FieldType.object "java/lang/String"))) ∈ lw_all := lw_g (lw_at lw_m5 13 rfl) rfl
theorem q1042 : (Jvm.Cond.methodLink "java/lang/Throwable" (69 : Nat) ({ cls := "java/lang/Object", name := "getClass", desc := "()Ljava/lang/Class;" } : Jvm.MethodName)) ∈ lw_all := lw_g (lw_at lw_m5 14 rfl) rfl
theorem q1087 : (Jvm.Cond.methodLink "java/lang/Throwable" (78 : Nat) ({ cls := "java/lang/Throwable", name := "getLocalizedMessage", desc := "()Ljava/lang/String;" } : Jvm.MethodName)) ∈ lw_all := lw_g (lw_at lw_m5 59 rfl) rfl
theorem q1088 : (Jvm.Cond.instanceMethod ({ cls := "java/lang/Throwable", name := "getLocalizedMessage", desc := "()Ljava/lang/String;" } : Jvm.MethodName)) ∈ lw_all := lw_g (lw_at lw_m5 60 rfl) rfl
theorem q1089 : (Jvm.Cond.sameMethod "java/lang/Throwable" "java/lang/Throwable" "getLocalizedMessage" "()Ljava/lang/String;") ∈ lw_all := lw_g (lw_at lw_m5 61 rfl) rfl
theorem q1100 : (Jvm.Cond.code ({ cls := "java/lang/Throwable", name := "getLocalizedMessage", desc := "()Ljava/lang/String;" } : Jvm.MethodName) prog_40_method_7_code (1 : Nat) (Option.some (Jvm.ClassFile.FieldType.object "java/lang/String"))) ∈ lw_all := lw_g (lw_at lw_m5 72 rfl) rfl
theorem q1101 : (Jvm.Cond.methodLink "java/lang/Throwable" (39 : Nat) ({ cls := "java/lang/Throwable", name := "getMessage", desc := "()Ljava/lang/String;" } : Jvm.MethodName)) ∈ lw_all := lw_g (lw_at lw_m5 73 rfl) rfl
theorem q1102 : (Jvm.Cond.instanceMethod ({ cls := "java/lang/Throwable", name := "getMessage", desc := "()Ljava/lang/String;" } : Jvm.MethodName)) ∈ lw_all := lw_g (lw_at lw_m5 74 rfl) rfl
theorem q1103 : (Jvm.Cond.sameMethod "java/lang/Throwable" "java/lang/Throwable" "getMessage" "()Ljava/lang/String;") ∈ lw_all := lw_g (lw_at lw_m5 75 rfl) rfl
theorem q1116 : (Jvm.Cond.declares ({ cls := "java/lang/Throwable", name := "getMessage", desc := "()Ljava/lang/String;" } : Jvm.MethodName)) ∈ lw_tbl := lw_at lw_m5 88 rfl
theorem q1119 : (Jvm.Cond.code ({ cls := "java/lang/Throwable", name := "getMessage", desc := "()Ljava/lang/String;" } : Jvm.MethodName) prog_40_method_6_code (1 : Nat) (Option.some (Jvm.ClassFile.FieldType.object "java/lang/String"))) ∈ lw_all := lw_g (lw_at lw_m5 91 rfl) rfl
theorem q1120 : (Jvm.Cond.classLink "java/lang/Throwable" (44 : Nat) "java/lang/StringBuilder") ∈ lw_all := lw_g (lw_at lw_m5 92 rfl) rfl
theorem q1121 : (Jvm.Cond.methodLink "java/lang/Throwable" (46 : Nat) ({ cls := "java/lang/StringBuilder", name := "<init>", desc := "()V" } : Jvm.MethodName)) ∈ lw_all := lw_g (lw_at lw_m5 93 rfl) rfl
theorem q1122 : (Jvm.Cond.methodLink "java/lang/Throwable" (49 : Nat) ({ cls := "java/lang/StringBuilder", name := "append", desc := "(Ljava/lang/String;)Ljava/lang/StringBuilder;" } : Jvm.MethodName)) ∈ lw_all := lw_g (lw_at lw_m5 94 rfl) rfl
theorem q1123 : (Jvm.Cond.stringRef "java/lang/Throwable" (81 : Nat) ": ") ∈ lw_tbl := lw_at lw_m5 95 rfl
theorem q1124 : (Jvm.Cond.methodLink "java/lang/Throwable" (60 : Nat) ({ cls := "java/lang/StringBuilder", name := "toString", desc := "()Ljava/lang/String;" } : Jvm.MethodName)) ∈ lw_all := lw_g (lw_at lw_m5 96 rfl) rfl
theorem q3012 : (Jvm.Cond.sameMethod "java/lang/Throwable" "java/lang/Throwable" "fillInStackTrace" "(I)Ljava/lang/Throwable;") ∈ lw_all := lw_g (lw_at lw_m13 64 rfl) rfl
theorem q3082 : (Jvm.Cond.castable "java/lang/Throwable" "java/lang/Object") ∈ lw_tbl := lw_at lw_m13 134 rfl
theorem in_J14 : ∀ w ∈ wsJ140, w ∈ lw_all := lw_in wsJ140 [666, 668, 670, 672, 674] (by decide +kernel) (by decide +kernel)
/-! java/lang/Exception -/
set_option maxRecDepth 100000
def RJ15 : String := "java/lang/Exception"
abbrev cJ15_init : ByteArray := prog_23_method_1_code
def yJ15_init : MethodName := ⟨RJ15, "<init>", "()V"⟩
theorem dJ15_init_0 : decode cJ15_init 0 = .ok (.aload_n 0, 1) := by decide +kernel
theorem dJ15_init_1 : decode cJ15_init 1 = .ok (.invokespecial 1, 3) := by decide +kernel
theorem dJ15_init_4 : decode cJ15_init 4 = .ok (.return_, 1) := by decide +kernel
abbrev cJ15_init_2 : ByteArray := prog_23_method_2_code
def yJ15_init_2 : MethodName := ⟨RJ15, "<init>", "(Ljava/lang/String;)V"⟩
def dkwJ15_init_2_0 : List UInt8 := [42, 43, 183, 0, 7, 177]
abbrev dktJ15_init_2_0 : List UInt8 := dkwJ15_init_2_0 ++ []
theorem dksJ15_init_2_0 : cJ15_init_2.data.toList.drop 0 = dktJ15_init_2_0 := by decide +kernel
theorem dJ15_init_2_0 : decode cJ15_init_2 0 = .ok (.aload_n 0, 1) := dk_42 (dk_at dksJ15_init_2_0 0 rfl rfl)
theorem dJ15_init_2_1 : decode cJ15_init_2 1 = .ok (.aload_n 1, 1) := dk_43 (dk_at dksJ15_init_2_0 1 rfl rfl)
theorem dJ15_init_2_2 : decode cJ15_init_2 2 = .ok (.invokespecial 7, 3) := dk_183 0 7 (dk_at dksJ15_init_2_0 2 rfl rfl)
theorem dJ15_init_2_5 : decode cJ15_init_2 5 = .ok (.return_, 1) := dk_177 (dk_at dksJ15_init_2_0 5 rfl rfl)
abbrev cJ15_init_3 : ByteArray := prog_23_method_4_code
def yJ15_init_3 : MethodName := ⟨RJ15, "<init>", "(Ljava/lang/Throwable;)V"⟩
def dkwJ15_init_3_0 : List UInt8 := [42, 43, 183, 0, 13, 177]
abbrev dktJ15_init_3_0 : List UInt8 := dkwJ15_init_3_0 ++ []
theorem dksJ15_init_3_0 : cJ15_init_3.data.toList.drop 0 = dktJ15_init_3_0 := by decide +kernel
theorem dJ15_init_3_0 : decode cJ15_init_3 0 = .ok (.aload_n 0, 1) := dk_42 (dk_at dksJ15_init_3_0 0 rfl rfl)
theorem dJ15_init_3_1 : decode cJ15_init_3 1 = .ok (.aload_n 1, 1) := dk_43 (dk_at dksJ15_init_3_0 1 rfl rfl)
theorem dJ15_init_3_2 : decode cJ15_init_3 2 = .ok (.invokespecial 13, 3) := dk_183 0 13 (dk_at dksJ15_init_3_0 2 rfl rfl)
theorem dJ15_init_3_5 : decode cJ15_init_3 5 = .ok (.return_, 1) := dk_177 (dk_at dksJ15_init_3_0 5 rfl rfl)
theorem q90 : (Jvm.Cond.initialized "java/lang/Exception") ∈ lw_all := lw_g (lw_at lw_m1 22 rfl) rfl
theorem q659 : (Jvm.Cond.declares ({ cls := "java/lang/Exception", name := "<init>", desc := "()V" } : Jvm.MethodName)) ∈ lw_tbl := lw_at lw_m3 111 rfl
theorem q660 : (Jvm.Cond.declares ({ cls := "java/lang/Exception", name := "<init>", desc := "(Ljava/lang/String;)V" } : Jvm.MethodName)) ∈ lw_tbl := lw_at lw_m3 112 rfl
theorem q706 : (Jvm.Cond.superclass "java/lang/Exception" "java/lang/Throwable") ∈ lw_all := lw_g (lw_at lw_m3 158 rfl) rfl
theorem q752 : (Jvm.Cond.instanceMethod ({ cls := "java/lang/Exception", name := "<init>", desc := "()V" } : Jvm.MethodName)) ∈ lw_all := lw_g (lw_at lw_m3 204 rfl) rfl
theorem q753 : (Jvm.Cond.code ({ cls := "java/lang/Exception", name := "<init>", desc := "()V" } : Jvm.MethodName) prog_23_method_1_code (1 : Nat) (Option.none : Option Jvm.ClassFile.FieldType)) ∈ lw_all := lw_g (lw_at lw_m3 205 rfl) rfl
theorem q754 : (Jvm.Cond.methodLink "java/lang/Exception" (1 : Nat) ({ cls := "java/lang/Throwable", name := "<init>", desc := "()V" } : Jvm.MethodName)) ∈ lw_all := lw_g (lw_at lw_m3 206 rfl) rfl
theorem q996 : (Jvm.Cond.instanceMethod ({ cls := "java/lang/Exception", name := "<init>", desc := "(Ljava/lang/String;)V" } : Jvm.MethodName)) ∈ lw_all := lw_g (lw_at lw_m4 208 rfl) rfl
theorem q997 : (Jvm.Cond.code ({ cls := "java/lang/Exception", name := "<init>", desc := "(Ljava/lang/String;)V" } : Jvm.MethodName) prog_23_method_2_code (2 : Nat) (Option.none : Option Jvm.ClassFile.FieldType)) ∈ lw_all := lw_g (lw_at lw_m4 209 rfl) rfl
theorem q998 : (Jvm.Cond.methodLink "java/lang/Exception" (7 : Nat) ({ cls := "java/lang/Throwable", name := "<init>", desc := "(Ljava/lang/String;)V" } : Jvm.MethodName)) ∈ lw_all := lw_g (lw_at lw_m4 210 rfl) rfl
theorem q1023 : (Jvm.Cond.instanceMethod ({ cls := "java/lang/Exception", name := "<init>", desc := "(Ljava/lang/Throwable;)V" } : Jvm.MethodName)) ∈ lw_all := lw_g (lw_at lw_m4 235 rfl) rfl
theorem q1024 : (Jvm.Cond.code ({ cls := "java/lang/Exception", name := "<init>", desc := "(Ljava/lang/Throwable;)V" } : Jvm.MethodName) prog_23_method_4_code (2 : Nat) (Option.none : Option Jvm.ClassFile.FieldType)) ∈ lw_all := lw_g (lw_at lw_m4 236 rfl) rfl
theorem q1025 : (Jvm.Cond.methodLink "java/lang/Exception" (13 : Nat) ({ cls := "java/lang/Throwable", name := "<init>", desc := "(Ljava/lang/Throwable;)V" } : Jvm.MethodName)) ∈ lw_all := lw_g (lw_at lw_m4 237 rfl) rfl
/-! java/lang/RuntimeException -/
set_option maxRecDepth 100000
def RJ16 : String := "java/lang/RuntimeException"
abbrev cJ16_init : ByteArray := prog_33_method_1_code
def yJ16_init : MethodName := ⟨RJ16, "<init>", "()V"⟩
theorem dJ16_init_0 : decode cJ16_init 0 = .ok (.aload_n 0, 1) := by decide +kernel
theorem dJ16_init_1 : decode cJ16_init 1 = .ok (.invokespecial 1, 3) := by decide +kernel
theorem dJ16_init_4 : decode cJ16_init 4 = .ok (.return_, 1) := by decide +kernel
abbrev cJ16_init_2 : ByteArray := prog_33_method_2_code
def yJ16_init_2 : MethodName := ⟨RJ16, "<init>", "(Ljava/lang/String;)V"⟩
def dkwJ16_init_2_0 : List UInt8 := [42, 43, 183, 0, 7, 177]
abbrev dktJ16_init_2_0 : List UInt8 := dkwJ16_init_2_0 ++ []
theorem dksJ16_init_2_0 : cJ16_init_2.data.toList.drop 0 = dktJ16_init_2_0 := by decide +kernel
theorem dJ16_init_2_0 : decode cJ16_init_2 0 = .ok (.aload_n 0, 1) := dk_42 (dk_at dksJ16_init_2_0 0 rfl rfl)
theorem dJ16_init_2_1 : decode cJ16_init_2 1 = .ok (.aload_n 1, 1) := dk_43 (dk_at dksJ16_init_2_0 1 rfl rfl)
theorem dJ16_init_2_2 : decode cJ16_init_2 2 = .ok (.invokespecial 7, 3) := dk_183 0 7 (dk_at dksJ16_init_2_0 2 rfl rfl)
theorem dJ16_init_2_5 : decode cJ16_init_2 5 = .ok (.return_, 1) := dk_177 (dk_at dksJ16_init_2_0 5 rfl rfl)
abbrev cJ16_init_3 : ByteArray := prog_33_method_4_code
def yJ16_init_3 : MethodName := ⟨RJ16, "<init>", "(Ljava/lang/Throwable;)V"⟩
def dkwJ16_init_3_0 : List UInt8 := [42, 43, 183, 0, 13, 177]
abbrev dktJ16_init_3_0 : List UInt8 := dkwJ16_init_3_0 ++ []
theorem dksJ16_init_3_0 : cJ16_init_3.data.toList.drop 0 = dktJ16_init_3_0 := by decide +kernel
theorem dJ16_init_3_0 : decode cJ16_init_3 0 = .ok (.aload_n 0, 1) := dk_42 (dk_at dksJ16_init_3_0 0 rfl rfl)
theorem dJ16_init_3_1 : decode cJ16_init_3 1 = .ok (.aload_n 1, 1) := dk_43 (dk_at dksJ16_init_3_0 1 rfl rfl)
theorem dJ16_init_3_2 : decode cJ16_init_3 2 = .ok (.invokespecial 13, 3) := dk_183 0 13 (dk_at dksJ16_init_3_0 2 rfl rfl)
theorem dJ16_init_3_5 : decode cJ16_init_3 5 = .ok (.return_, 1) := dk_177 (dk_at dksJ16_init_3_0 5 rfl rfl)
theorem q91 : (Jvm.Cond.initialized "java/lang/RuntimeException") ∈ lw_all := lw_g (lw_at lw_m1 23 rfl) rfl
theorem q657 : (Jvm.Cond.declares ({ cls := "java/lang/RuntimeException", name := "<init>", desc := "()V" } : Jvm.MethodName)) ∈ lw_tbl := lw_at lw_m3 109 rfl
theorem q658 : (Jvm.Cond.declares ({ cls := "java/lang/RuntimeException", name := "<init>", desc := "(Ljava/lang/String;)V" } : Jvm.MethodName)) ∈ lw_tbl := lw_at lw_m3 110 rfl
theorem q702 : (Jvm.Cond.sameMethod "java/lang/RuntimeException" "java/lang/Throwable" "fillInStackTrace" "()Ljava/lang/Throwable;") ∈ lw_all := lw_g (lw_at lw_m3 154 rfl) rfl
theorem q705 : (Jvm.Cond.superclass "java/lang/RuntimeException" "java/lang/Exception") ∈ lw_all := lw_g (lw_at lw_m3 157 rfl) rfl
theorem q749 : (Jvm.Cond.instanceMethod ({ cls := "java/lang/RuntimeException", name := "<init>", desc := "()V" } : Jvm.MethodName)) ∈ lw_all := lw_g (lw_at lw_m3 201 rfl) rfl
theorem q750 : (Jvm.Cond.code ({ cls := "java/lang/RuntimeException", name := "<init>", desc := "()V" } : Jvm.MethodName) prog_33_method_1_code (1 : Nat) (Option.none : Option Jvm.ClassFile.FieldType)) ∈ lw_all := lw_g (lw_at lw_m3 202 rfl) rfl
theorem q751 : (Jvm.Cond.methodLink "java/lang/RuntimeException" (1 : Nat) ({ cls := "java/lang/Exception", name := "<init>", desc := "()V" } : Jvm.MethodName)) ∈ lw_all := lw_g (lw_at lw_m3 203 rfl) rfl
theorem q993 : (Jvm.Cond.instanceMethod ({ cls := "java/lang/RuntimeException", name := "<init>", desc := "(Ljava/lang/String;)V" } : Jvm.MethodName)) ∈ lw_all := lw_g (lw_at lw_m4 205 rfl) rfl
theorem q994 : (Jvm.Cond.code ({ cls := "java/lang/RuntimeException", name := "<init>", desc := "(Ljava/lang/String;)V" } : Jvm.MethodName) prog_33_method_2_code (2 : Nat) (Option.none : Option Jvm.ClassFile.FieldType)) ∈ lw_all := lw_g (lw_at lw_m4 206 rfl) rfl
theorem q995 : (Jvm.Cond.methodLink "java/lang/RuntimeException" (7 : Nat) ({ cls := "java/lang/Exception", name := "<init>", desc := "(Ljava/lang/String;)V" } : Jvm.MethodName)) ∈ lw_all := lw_g (lw_at lw_m4 207 rfl) rfl
theorem q1020 : (Jvm.Cond.instanceMethod ({ cls := "java/lang/RuntimeException", name := "<init>", desc := "(Ljava/lang/Throwable;)V" } : Jvm.MethodName)) ∈ lw_all := lw_g (lw_at lw_m4 232 rfl) rfl
theorem q1021 : (Jvm.Cond.code ({ cls := "java/lang/RuntimeException", name := "<init>", desc := "(Ljava/lang/Throwable;)V" } : Jvm.MethodName) prog_33_method_4_code (2 : Nat) (Option.none : Option Jvm.ClassFile.FieldType)) ∈ lw_all := lw_g (lw_at lw_m4 233 rfl) rfl
theorem q1022 : (Jvm.Cond.methodLink "java/lang/RuntimeException" (13 : Nat) ({ cls := "java/lang/Exception", name := "<init>", desc := "(Ljava/lang/Throwable;)V" } : Jvm.MethodName)) ∈ lw_all := lw_g (lw_at lw_m4 234 rfl) rfl
theorem q1115 : (Jvm.Cond.sameMethod "java/lang/RuntimeException" "java/lang/Throwable" "getMessage" "()Ljava/lang/String;") ∈ lw_all := lw_g (lw_at lw_m5 87 rfl) rfl
theorem q2603 : (Jvm.Cond.castable "java/lang/RuntimeException" "java/lang/Throwable") ∈ lw_tbl := lw_at lw_m11 135 rfl
/-! java/lang/IndexOutOfBoundsException -/
set_option maxRecDepth 100000
def RJ17 : String := "java/lang/IndexOutOfBoundsException"
def TJ17 : u_T := fun k => match k with
  | 0 => ("java/lang/Throwable", "cause", "Ljava/lang/Throwable;", false)
  | 1 => ("java/lang/Throwable", "stackTrace", "[Ljava/lang/StackTraceElement;", false)
  | 2 => ("java/lang/Throwable", "suppressedExceptions", "Ljava/util/List;", false)
  | 3 => ("java/lang/Throwable", "detailMessage", "Ljava/lang/String;", false)
  | 4 => ("java/lang/Throwable", "backtrace", "Ljava/lang/Object;", false)
  | _ => ("java/lang/Throwable", "depth", "I", false)
def tyJ17 : Nat → FieldType := fun k => match k with
  | 0 => .object "java/lang/Throwable"
  | 1 => .array (.object "java/lang/StackTraceElement")
  | 2 => .object "java/util/List"
  | 3 => .object "java/lang/String"
  | 4 => .object "java/lang/Object"
  | _ => .int
abbrev wsJ170 : List Cond := u_ws RJ17 TJ17 6
theorem nmJ17 : ∀ a, a < 6 → ∀ b, b < 6 → a ≠ b → (TJ17 a).2.1 ≠ (TJ17 b).2.1 := by decide +kernel
theorem tyJ17_ok : ∀ k, k < 6 → parseFieldDescriptor (TJ17 k).2.2.1 = some (tyJ17 k) := by decide +kernel
abbrev cJ17_init : ByteArray := prog_25_method_2_code
def yJ17_init : MethodName := ⟨RJ17, "<init>", "(Ljava/lang/String;)V"⟩
def dkwJ17_init_0 : List UInt8 := [42, 43, 183, 0, 7, 177]
abbrev dktJ17_init_0 : List UInt8 := dkwJ17_init_0 ++ []
theorem dksJ17_init_0 : cJ17_init.data.toList.drop 0 = dktJ17_init_0 := by decide +kernel
theorem dJ17_init_0 : decode cJ17_init 0 = .ok (.aload_n 0, 1) := dk_42 (dk_at dksJ17_init_0 0 rfl rfl)
theorem dJ17_init_1 : decode cJ17_init 1 = .ok (.aload_n 1, 1) := dk_43 (dk_at dksJ17_init_0 1 rfl rfl)
theorem dJ17_init_2 : decode cJ17_init 2 = .ok (.invokespecial 7, 3) := dk_183 0 7 (dk_at dksJ17_init_0 2 rfl rfl)
theorem dJ17_init_5 : decode cJ17_init 5 = .ok (.return_, 1) := dk_177 (dk_at dksJ17_init_0 5 rfl rfl)
theorem q92 : (Jvm.Cond.initialized "java/lang/IndexOutOfBoundsException") ∈ lw_all := lw_g (lw_at lw_m1 24 rfl) rfl
theorem q655 : (Jvm.Cond.instantiable "java/lang/IndexOutOfBoundsException" (6 : Nat)) ∈ lw_all := lw_g (lw_at lw_m3 107 rfl) rfl
theorem q656 : (Jvm.Cond.castable "java/lang/IndexOutOfBoundsException" "java/lang/IndexOutOfBoundsException") ∈ lw_tbl := lw_at lw_m3 108 rfl
theorem q663 : (Jvm.Cond.selects "java/lang/IndexOutOfBoundsException" ({ cls := "java/lang/Throwable", name := "fillInStackTrace", desc := "(I)Ljava/lang/Throwable;" } : Jvm.MethodName) ({ cls := "java/lang/Throwable", name := "fillInStackTrace", desc := "(I)Ljava/lang/Throwable;" } : Jvm.MethodName)) ∈ lw_all := lw_g (lw_at lw_m3 115 rfl) rfl
theorem q664 : (Jvm.Cond.selects "java/lang/IndexOutOfBoundsException" ({ cls := "java/lang/Throwable", name := "fillInStackTrace", desc := "()Ljava/lang/Throwable;" } : Jvm.MethodName) ({ cls := "java/lang/Throwable", name := "fillInStackTrace", desc := "()Ljava/lang/Throwable;" } : Jvm.MethodName)) ∈ lw_all := lw_g (lw_at lw_m3 116 rfl) rfl
theorem q665 : (Jvm.Cond.lays "java/lang/IndexOutOfBoundsException" "java/lang/Throwable" "cause" "Ljava/lang/Throwable;") ∈ lw_all := lw_g (lw_at lw_m3 117 rfl) rfl
theorem q667 : (Jvm.Cond.lays "java/lang/IndexOutOfBoundsException" "java/lang/Throwable" "stackTrace" "[Ljava/lang/StackTraceElement;") ∈ lw_all := lw_g (lw_at lw_m3 119 rfl) rfl
theorem q669 : (Jvm.Cond.lays "java/lang/IndexOutOfBoundsException" "java/lang/Throwable" "suppressedExceptions" "Ljava/util/List;") ∈ lw_all := lw_g (lw_at lw_m3 121 rfl) rfl
theorem q671 : (Jvm.Cond.lays "java/lang/IndexOutOfBoundsException" "java/lang/Throwable" "detailMessage" "Ljava/lang/String;") ∈ lw_all := lw_g (lw_at lw_m3 123 rfl) rfl
theorem q673 : (Jvm.Cond.lays "java/lang/IndexOutOfBoundsException" "java/lang/Throwable" "backtrace" "Ljava/lang/Object;") ∈ lw_all := lw_g (lw_at lw_m3 125 rfl) rfl
theorem q990 : (Jvm.Cond.instanceMethod ({ cls := "java/lang/IndexOutOfBoundsException", name := "<init>", desc := "(Ljava/lang/String;)V" } : Jvm.MethodName)) ∈ lw_all := lw_g (lw_at lw_m4 202 rfl) rfl
theorem q991 : (Jvm.Cond.code ({ cls := "java/lang/IndexOutOfBoundsException", name := "<init>", desc := "(Ljava/lang/String;)V" } : Jvm.MethodName) prog_25_method_2_code (2 : Nat) (Option.none : Option Jvm.ClassFile.FieldType)) ∈ lw_all := lw_g (lw_at lw_m4 203 rfl) rfl
theorem q992 : (Jvm.Cond.methodLink "java/lang/IndexOutOfBoundsException" (7 : Nat) ({ cls := "java/lang/RuntimeException", name := "<init>", desc := "(Ljava/lang/String;)V" } : Jvm.MethodName)) ∈ lw_all := lw_g (lw_at lw_m4 204 rfl) rfl
theorem q1001 : (Jvm.Cond.lays "java/lang/IndexOutOfBoundsException" "java/lang/Throwable" "depth" "I") ∈ lw_all := lw_g (lw_at lw_m4 213 rfl) rfl
theorem q1002 : (Jvm.Cond.superclass "java/lang/IndexOutOfBoundsException" "java/lang/RuntimeException") ∈ lw_all := lw_g (lw_at lw_m4 214 rfl) rfl
theorem q1036 : (Jvm.Cond.selects "java/lang/IndexOutOfBoundsException" ({ cls := "java/lang/Throwable", name := "toString", desc := "()Ljava/lang/String;" } : Jvm.MethodName) ({ cls := "java/lang/Throwable", name := "toString", desc := "()Ljava/lang/String;" } : Jvm.MethodName)) ∈ lw_all := lw_g (lw_at lw_m5 8 rfl) rfl
theorem q1061 : (Jvm.Cond.selects "java/lang/IndexOutOfBoundsException" ({ cls := "java/lang/Object", name := "getClass", desc := "()Ljava/lang/Class;" } : Jvm.MethodName) ({ cls := "java/lang/Object", name := "getClass", desc := "()Ljava/lang/Class;" } : Jvm.MethodName)) ∈ lw_all := lw_g (lw_at lw_m5 33 rfl) rfl
theorem q1095 : (Jvm.Cond.selects "java/lang/IndexOutOfBoundsException" ({ cls := "java/lang/Throwable", name := "getLocalizedMessage", desc := "()Ljava/lang/String;" } : Jvm.MethodName) ({ cls := "java/lang/Throwable", name := "getLocalizedMessage", desc := "()Ljava/lang/String;" } : Jvm.MethodName)) ∈ lw_all := lw_g (lw_at lw_m5 67 rfl) rfl
theorem q1109 : (Jvm.Cond.selects "java/lang/IndexOutOfBoundsException" ({ cls := "java/lang/Throwable", name := "getMessage", desc := "()Ljava/lang/String;" } : Jvm.MethodName) ({ cls := "java/lang/Throwable", name := "getMessage", desc := "()Ljava/lang/String;" } : Jvm.MethodName)) ∈ lw_all := lw_g (lw_at lw_m5 81 rfl) rfl
theorem q1336 : (Jvm.Cond.selects "java/lang/IndexOutOfBoundsException" ({ cls := "java/lang/Object", name := "equals", desc := "(Ljava/lang/Object;)Z" } : Jvm.MethodName) ({ cls := "java/lang/Object", name := "equals", desc := "(Ljava/lang/Object;)Z" } : Jvm.MethodName)) ∈ lw_all := lw_g (lw_at lw_m6 68 rfl) rfl
theorem q1701 : (Jvm.Cond.selects "java/lang/IndexOutOfBoundsException" ({ cls := "java/lang/Object", name := "hashCode", desc := "()I" } : Jvm.MethodName) ({ cls := "java/lang/Object", name := "hashCode", desc := "()I" } : Jvm.MethodName)) ∈ lw_all := lw_g (lw_at lw_m7 193 rfl) rfl
theorem q2728 : (Jvm.Cond.declares ({ cls := "java/lang/IndexOutOfBoundsException", name := "<init>", desc := "()V" } : Jvm.MethodName)) ∈ lw_tbl := lw_at lw_m12 20 rfl
theorem q2729 : (Jvm.Cond.declares ({ cls := "java/lang/IndexOutOfBoundsException", name := "<init>", desc := "(Ljava/lang/String;)V" } : Jvm.MethodName)) ∈ lw_tbl := lw_at lw_m12 21 rfl
theorem q3066 : (Jvm.Cond.castable "java/lang/IndexOutOfBoundsException" "java/lang/Object") ∈ lw_tbl := lw_at lw_m13 118 rfl
theorem in_J17 : ∀ w ∈ wsJ170, w ∈ lw_all := lw_in wsJ170 [665, 667, 669, 671, 673, 1001] (by decide +kernel) (by decide +kernel)
/-! java/lang/NegativeArraySizeException -/
set_option maxRecDepth 100000
def RJ22 : String := "java/lang/NegativeArraySizeException"
def TJ22 : u_T := fun k => match k with
  | 0 => ("java/lang/Throwable", "cause", "Ljava/lang/Throwable;", false)
  | 1 => ("java/lang/Throwable", "stackTrace", "[Ljava/lang/StackTraceElement;", false)
  | 2 => ("java/lang/Throwable", "suppressedExceptions", "Ljava/util/List;", false)
  | 3 => ("java/lang/Throwable", "detailMessage", "Ljava/lang/String;", false)
  | 4 => ("java/lang/Throwable", "backtrace", "Ljava/lang/Object;", false)
  | _ => ("java/lang/Throwable", "depth", "I", false)
def tyJ22 : Nat → FieldType := fun k => match k with
  | 0 => .object "java/lang/Throwable"
  | 1 => .array (.object "java/lang/StackTraceElement")
  | 2 => .object "java/util/List"
  | 3 => .object "java/lang/String"
  | 4 => .object "java/lang/Object"
  | _ => .int
abbrev wsJ220 : List Cond := u_ws RJ22 TJ22 6
theorem nmJ22 : ∀ a, a < 6 → ∀ b, b < 6 → a ≠ b → (TJ22 a).2.1 ≠ (TJ22 b).2.1 := by decide +kernel
theorem tyJ22_ok : ∀ k, k < 6 → parseFieldDescriptor (TJ22 k).2.2.1 = some (tyJ22 k) := by decide +kernel
abbrev cJ22_init : ByteArray := prog_30_method_1_code
def yJ22_init : MethodName := ⟨RJ22, "<init>", "()V"⟩
theorem dJ22_init_0 : decode cJ22_init 0 = .ok (.aload_n 0, 1) := by decide +kernel
theorem dJ22_init_1 : decode cJ22_init 1 = .ok (.invokespecial 1, 3) := by decide +kernel
theorem dJ22_init_4 : decode cJ22_init 4 = .ok (.return_, 1) := by decide +kernel
abbrev cJ22_init_2 : ByteArray := prog_30_method_2_code
def yJ22_init_2 : MethodName := ⟨RJ22, "<init>", "(Ljava/lang/String;)V"⟩
def dkwJ22_init_2_0 : List UInt8 := [42, 43, 183, 0, 7, 177]
abbrev dktJ22_init_2_0 : List UInt8 := dkwJ22_init_2_0 ++ []
theorem dksJ22_init_2_0 : cJ22_init_2.data.toList.drop 0 = dktJ22_init_2_0 := by decide +kernel
theorem dJ22_init_2_0 : decode cJ22_init_2 0 = .ok (.aload_n 0, 1) := dk_42 (dk_at dksJ22_init_2_0 0 rfl rfl)
theorem dJ22_init_2_1 : decode cJ22_init_2 1 = .ok (.aload_n 1, 1) := dk_43 (dk_at dksJ22_init_2_0 1 rfl rfl)
theorem dJ22_init_2_2 : decode cJ22_init_2 2 = .ok (.invokespecial 7, 3) := dk_183 0 7 (dk_at dksJ22_init_2_0 2 rfl rfl)
theorem dJ22_init_2_5 : decode cJ22_init_2 5 = .ok (.return_, 1) := dk_177 (dk_at dksJ22_init_2_0 5 rfl rfl)
theorem q97 : (Jvm.Cond.initialized "java/lang/NegativeArraySizeException") ∈ lw_all := lw_g (lw_at lw_m1 29 rfl) rfl
theorem q692 : (Jvm.Cond.selects "java/lang/NegativeArraySizeException" ({ cls := "java/lang/Throwable", name := "fillInStackTrace", desc := "()Ljava/lang/Throwable;" } : Jvm.MethodName) ({ cls := "java/lang/Throwable", name := "fillInStackTrace", desc := "()Ljava/lang/Throwable;" } : Jvm.MethodName)) ∈ lw_all := lw_g (lw_at lw_m3 144 rfl) rfl
theorem q737 : (Jvm.Cond.instantiable "java/lang/NegativeArraySizeException" (6 : Nat)) ∈ lw_all := lw_g (lw_at lw_m3 189 rfl) rfl
theorem q738 : (Jvm.Cond.castable "java/lang/NegativeArraySizeException" "java/lang/NegativeArraySizeException") ∈ lw_tbl := lw_at lw_m3 190 rfl
theorem q739 : (Jvm.Cond.selects "java/lang/NegativeArraySizeException" ({ cls := "java/lang/Throwable", name := "fillInStackTrace", desc := "(I)Ljava/lang/Throwable;" } : Jvm.MethodName) ({ cls := "java/lang/Throwable", name := "fillInStackTrace", desc := "(I)Ljava/lang/Throwable;" } : Jvm.MethodName)) ∈ lw_all := lw_g (lw_at lw_m3 191 rfl) rfl
theorem q740 : (Jvm.Cond.lays "java/lang/NegativeArraySizeException" "java/lang/Throwable" "cause" "Ljava/lang/Throwable;") ∈ lw_all := lw_g (lw_at lw_m3 192 rfl) rfl
theorem q741 : (Jvm.Cond.lays "java/lang/NegativeArraySizeException" "java/lang/Throwable" "stackTrace" "[Ljava/lang/StackTraceElement;") ∈ lw_all := lw_g (lw_at lw_m3 193 rfl) rfl
theorem q742 : (Jvm.Cond.lays "java/lang/NegativeArraySizeException" "java/lang/Throwable" "suppressedExceptions" "Ljava/util/List;") ∈ lw_all := lw_g (lw_at lw_m3 194 rfl) rfl
theorem q743 : (Jvm.Cond.lays "java/lang/NegativeArraySizeException" "java/lang/Throwable" "detailMessage" "Ljava/lang/String;") ∈ lw_all := lw_g (lw_at lw_m3 195 rfl) rfl
theorem q744 : (Jvm.Cond.lays "java/lang/NegativeArraySizeException" "java/lang/Throwable" "backtrace" "Ljava/lang/Object;") ∈ lw_all := lw_g (lw_at lw_m3 196 rfl) rfl
theorem q746 : (Jvm.Cond.instanceMethod ({ cls := "java/lang/NegativeArraySizeException", name := "<init>", desc := "()V" } : Jvm.MethodName)) ∈ lw_all := lw_g (lw_at lw_m3 198 rfl) rfl
theorem q747 : (Jvm.Cond.code ({ cls := "java/lang/NegativeArraySizeException", name := "<init>", desc := "()V" } : Jvm.MethodName) prog_30_method_1_code (1 : Nat) (Option.none : Option Jvm.ClassFile.FieldType)) ∈ lw_all := lw_g (lw_at lw_m3 199 rfl) rfl
theorem q748 : (Jvm.Cond.methodLink "java/lang/NegativeArraySizeException" (1 : Nat) ({ cls := "java/lang/RuntimeException", name := "<init>", desc := "()V" } : Jvm.MethodName)) ∈ lw_all := lw_g (lw_at lw_m3 200 rfl) rfl
theorem q764 : (Jvm.Cond.lays "java/lang/NegativeArraySizeException" "java/lang/Throwable" "depth" "I") ∈ lw_all := lw_g (lw_at lw_m3 216 rfl) rfl
theorem q767 : (Jvm.Cond.superclass "java/lang/NegativeArraySizeException" "java/lang/RuntimeException") ∈ lw_all := lw_g (lw_at lw_m3 219 rfl) rfl
theorem q1037 : (Jvm.Cond.selects "java/lang/NegativeArraySizeException" ({ cls := "java/lang/Throwable", name := "toString", desc := "()Ljava/lang/String;" } : Jvm.MethodName) ({ cls := "java/lang/Throwable", name := "toString", desc := "()Ljava/lang/String;" } : Jvm.MethodName)) ∈ lw_all := lw_g (lw_at lw_m5 9 rfl) rfl
theorem q1062 : (Jvm.Cond.selects "java/lang/NegativeArraySizeException" ({ cls := "java/lang/Object", name := "getClass", desc := "()Ljava/lang/Class;" } : Jvm.MethodName) ({ cls := "java/lang/Object", name := "getClass", desc := "()Ljava/lang/Class;" } : Jvm.MethodName)) ∈ lw_all := lw_g (lw_at lw_m5 34 rfl) rfl
theorem q1096 : (Jvm.Cond.selects "java/lang/NegativeArraySizeException" ({ cls := "java/lang/Throwable", name := "getLocalizedMessage", desc := "()Ljava/lang/String;" } : Jvm.MethodName) ({ cls := "java/lang/Throwable", name := "getLocalizedMessage", desc := "()Ljava/lang/String;" } : Jvm.MethodName)) ∈ lw_all := lw_g (lw_at lw_m5 68 rfl) rfl
theorem q1110 : (Jvm.Cond.selects "java/lang/NegativeArraySizeException" ({ cls := "java/lang/Throwable", name := "getMessage", desc := "()Ljava/lang/String;" } : Jvm.MethodName) ({ cls := "java/lang/Throwable", name := "getMessage", desc := "()Ljava/lang/String;" } : Jvm.MethodName)) ∈ lw_all := lw_g (lw_at lw_m5 82 rfl) rfl
theorem q1337 : (Jvm.Cond.selects "java/lang/NegativeArraySizeException" ({ cls := "java/lang/Object", name := "equals", desc := "(Ljava/lang/Object;)Z" } : Jvm.MethodName) ({ cls := "java/lang/Object", name := "equals", desc := "(Ljava/lang/Object;)Z" } : Jvm.MethodName)) ∈ lw_all := lw_g (lw_at lw_m6 69 rfl) rfl
theorem q1702 : (Jvm.Cond.selects "java/lang/NegativeArraySizeException" ({ cls := "java/lang/Object", name := "hashCode", desc := "()I" } : Jvm.MethodName) ({ cls := "java/lang/Object", name := "hashCode", desc := "()I" } : Jvm.MethodName)) ∈ lw_all := lw_g (lw_at lw_m7 194 rfl) rfl
theorem q2660 : (Jvm.Cond.instanceMethod ({ cls := "java/lang/NegativeArraySizeException", name := "<init>", desc := "(Ljava/lang/String;)V" } : Jvm.MethodName)) ∈ lw_all := lw_g (lw_at lw_m11 192 rfl) rfl
theorem q2661 : (Jvm.Cond.code ({ cls := "java/lang/NegativeArraySizeException", name := "<init>", desc := "(Ljava/lang/String;)V" } : Jvm.MethodName) prog_30_method_2_code (2 : Nat) (Option.none : Option Jvm.ClassFile.FieldType)) ∈ lw_all := lw_g (lw_at lw_m11 193 rfl) rfl
theorem q2662 : (Jvm.Cond.methodLink "java/lang/NegativeArraySizeException" (7 : Nat) ({ cls := "java/lang/RuntimeException", name := "<init>", desc := "(Ljava/lang/String;)V" } : Jvm.MethodName)) ∈ lw_all := lw_g (lw_at lw_m11 194 rfl) rfl
theorem q3068 : (Jvm.Cond.castable "java/lang/NegativeArraySizeException" "java/lang/Object") ∈ lw_tbl := lw_at lw_m13 120 rfl
theorem in_J22 : ∀ w ∈ wsJ220, w ∈ lw_all := lw_in wsJ220 [740, 741, 742, 743, 744, 764] (by decide +kernel) (by decide +kernel)
/-! java/util/Arrays -/
set_option maxRecDepth 100000
def RJ24 : String := "java/util/Arrays"
abbrev cJ24_copyOf : ByteArray := prog_53_method_121_code
def yJ24_copyOf : MethodName := ⟨RJ24, "copyOf", "([BI)[B"⟩
def dkwJ24_copyOf_1 : List UInt8 := [27, 184, 1, 48, 184, 0, 150, 44, 176]
abbrev dktJ24_copyOf_1 : List UInt8 := dkwJ24_copyOf_1 ++ []
def dkwJ24_copyOf_0 : List UInt8 := [27, 42, 190, 160, 0, 11, 42, 182, 1, 54, 192, 1, 55, 176, 27, 188, 8, 77, 42, 3, 44, 3, 42, 190]
abbrev dktJ24_copyOf_0 : List UInt8 := dkwJ24_copyOf_0 ++ dktJ24_copyOf_1
theorem dksJ24_copyOf_0 : cJ24_copyOf.data.toList.drop 0 = dktJ24_copyOf_0 := by decide +kernel
theorem dksJ24_copyOf_1 : cJ24_copyOf.data.toList.drop 24 = dktJ24_copyOf_1 := dk_seg dksJ24_copyOf_0 24 rfl rfl
theorem dJ24_copyOf_0 : decode cJ24_copyOf 0 = .ok (.iload_n 1, 1) := dk_27 (dk_at dksJ24_copyOf_0 0 rfl rfl)
theorem dJ24_copyOf_1 : decode cJ24_copyOf 1 = .ok (.aload_n 0, 1) := dk_42 (dk_at dksJ24_copyOf_0 1 rfl rfl)
theorem dJ24_copyOf_2 : decode cJ24_copyOf 2 = .ok (.arraylength, 1) := dk_190 (dk_at dksJ24_copyOf_0 2 rfl rfl)
theorem dJ24_copyOf_3 : decode cJ24_copyOf 3 = .ok (.if_icmp .ne 11, 3) := dk_160 0 11 (dk_at dksJ24_copyOf_0 3 rfl rfl)
theorem dJ24_copyOf_6 : decode cJ24_copyOf 6 = .ok (.aload_n 0, 1) := dk_42 (dk_at dksJ24_copyOf_0 6 rfl rfl)
theorem dJ24_copyOf_7 : decode cJ24_copyOf 7 = .ok (.invokevirtual 310, 3) := dk_182 1 54 (dk_at dksJ24_copyOf_0 7 rfl rfl)
theorem dJ24_copyOf_10 : decode cJ24_copyOf 10 = .ok (.checkcast 311, 3) := dk_192 1 55 (dk_at dksJ24_copyOf_0 10 rfl rfl)
theorem dJ24_copyOf_13 : decode cJ24_copyOf 13 = .ok (.areturn, 1) := dk_176 (dk_at dksJ24_copyOf_0 13 rfl rfl)
theorem dJ24_copyOf_14 : decode cJ24_copyOf 14 = .ok (.iload_n 1, 1) := dk_27 (dk_at dksJ24_copyOf_0 14 rfl rfl)
theorem dJ24_copyOf_15 : decode cJ24_copyOf 15 = .ok (.newarray .byte, 2) := dk_188_8 (dk_at dksJ24_copyOf_0 15 rfl rfl)
theorem dJ24_copyOf_17 : decode cJ24_copyOf 17 = .ok (.astore_n 2, 1) := dk_77 (dk_at dksJ24_copyOf_0 17 rfl rfl)
theorem dJ24_copyOf_18 : decode cJ24_copyOf 18 = .ok (.aload_n 0, 1) := dk_42 (dk_at dksJ24_copyOf_0 18 rfl rfl)
theorem dJ24_copyOf_19 : decode cJ24_copyOf 19 = .ok (.iconst 0, 1) := dk_3 (dk_at dksJ24_copyOf_0 19 rfl rfl)
theorem dJ24_copyOf_20 : decode cJ24_copyOf 20 = .ok (.aload_n 2, 1) := dk_44 (dk_at dksJ24_copyOf_0 20 rfl rfl)
theorem dJ24_copyOf_21 : decode cJ24_copyOf 21 = .ok (.iconst 0, 1) := dk_3 (dk_at dksJ24_copyOf_0 21 rfl rfl)
theorem dJ24_copyOf_22 : decode cJ24_copyOf 22 = .ok (.aload_n 0, 1) := dk_42 (dk_at dksJ24_copyOf_0 22 rfl rfl)
theorem dJ24_copyOf_23 : decode cJ24_copyOf 23 = .ok (.arraylength, 1) := dk_190 (dk_at dksJ24_copyOf_0 23 rfl rfl)
theorem dJ24_copyOf_24 : decode cJ24_copyOf 24 = .ok (.iload_n 1, 1) := dk_27 (dk_at dksJ24_copyOf_1 0 rfl rfl)
theorem dJ24_copyOf_25 : decode cJ24_copyOf 25 = .ok (.invokestatic 304, 3) := dk_184 1 48 (dk_at dksJ24_copyOf_1 1 rfl rfl)
theorem dJ24_copyOf_28 : decode cJ24_copyOf 28 = .ok (.invokestatic 150, 3) := dk_184 0 150 (dk_at dksJ24_copyOf_1 4 rfl rfl)
theorem dJ24_copyOf_31 : decode cJ24_copyOf 31 = .ok (.aload_n 2, 1) := dk_44 (dk_at dksJ24_copyOf_1 7 rfl rfl)
theorem dJ24_copyOf_32 : decode cJ24_copyOf 32 = .ok (.areturn, 1) := dk_176 (dk_at dksJ24_copyOf_1 8 rfl rfl)
abbrev cJ24_copyOfRange : ByteArray := prog_53_method_132_code
def yJ24_copyOfRange : MethodName := ⟨RJ24, "copyOfRange", "([BII)[B"⟩
def dkwJ24_copyOfRange_1 : List UInt8 := [176]
abbrev dktJ24_copyOfRange_1 : List UInt8 := dkwJ24_copyOfRange_1 ++ []
def dkwJ24_copyOfRange_0 : List UInt8 := [27, 154, 0, 9, 28, 42, 190, 159, 0, 10, 42, 27, 28, 184, 1, 83, 176, 42, 182, 1, 54, 192, 1, 55]
abbrev dktJ24_copyOfRange_0 : List UInt8 := dkwJ24_copyOfRange_0 ++ dktJ24_copyOfRange_1
theorem dksJ24_copyOfRange_0 : cJ24_copyOfRange.data.toList.drop 0 = dktJ24_copyOfRange_0 := by decide +kernel
theorem dksJ24_copyOfRange_1 : cJ24_copyOfRange.data.toList.drop 24 = dktJ24_copyOfRange_1 := dk_seg dksJ24_copyOfRange_0 24 rfl rfl
theorem dJ24_copyOfRange_0 : decode cJ24_copyOfRange 0 = .ok (.iload_n 1, 1) := dk_27 (dk_at dksJ24_copyOfRange_0 0 rfl rfl)
theorem dJ24_copyOfRange_1 : decode cJ24_copyOfRange 1 = .ok (.ifCond .ne 9, 3) := dk_154 0 9 (dk_at dksJ24_copyOfRange_0 1 rfl rfl)
theorem dJ24_copyOfRange_4 : decode cJ24_copyOfRange 4 = .ok (.iload_n 2, 1) := dk_28 (dk_at dksJ24_copyOfRange_0 4 rfl rfl)
theorem dJ24_copyOfRange_5 : decode cJ24_copyOfRange 5 = .ok (.aload_n 0, 1) := dk_42 (dk_at dksJ24_copyOfRange_0 5 rfl rfl)
theorem dJ24_copyOfRange_6 : decode cJ24_copyOfRange 6 = .ok (.arraylength, 1) := dk_190 (dk_at dksJ24_copyOfRange_0 6 rfl rfl)
theorem dJ24_copyOfRange_7 : decode cJ24_copyOfRange 7 = .ok (.if_icmp .eq 10, 3) := dk_159 0 10 (dk_at dksJ24_copyOfRange_0 7 rfl rfl)
theorem dJ24_copyOfRange_10 : decode cJ24_copyOfRange 10 = .ok (.aload_n 0, 1) := dk_42 (dk_at dksJ24_copyOfRange_0 10 rfl rfl)
theorem dJ24_copyOfRange_11 : decode cJ24_copyOfRange 11 = .ok (.iload_n 1, 1) := dk_27 (dk_at dksJ24_copyOfRange_0 11 rfl rfl)
theorem dJ24_copyOfRange_12 : decode cJ24_copyOfRange 12 = .ok (.iload_n 2, 1) := dk_28 (dk_at dksJ24_copyOfRange_0 12 rfl rfl)
theorem dJ24_copyOfRange_13 : decode cJ24_copyOfRange 13 = .ok (.invokestatic 339, 3) := dk_184 1 83 (dk_at dksJ24_copyOfRange_0 13 rfl rfl)
theorem dJ24_copyOfRange_16 : decode cJ24_copyOfRange 16 = .ok (.areturn, 1) := dk_176 (dk_at dksJ24_copyOfRange_0 16 rfl rfl)
theorem dJ24_copyOfRange_17 : decode cJ24_copyOfRange 17 = .ok (.aload_n 0, 1) := dk_42 (dk_at dksJ24_copyOfRange_0 17 rfl rfl)
theorem dJ24_copyOfRange_18 : decode cJ24_copyOfRange 18 = .ok (.invokevirtual 310, 3) := dk_182 1 54 (dk_at dksJ24_copyOfRange_0 18 rfl rfl)
theorem dJ24_copyOfRange_21 : decode cJ24_copyOfRange 21 = .ok (.checkcast 311, 3) := dk_192 1 55 (dk_at dksJ24_copyOfRange_0 21 rfl rfl)
theorem dJ24_copyOfRange_24 : decode cJ24_copyOfRange 24 = .ok (.areturn, 1) := dk_176 (dk_at dksJ24_copyOfRange_1 0 rfl rfl)
abbrev cJ24_copyOfRangeByte : ByteArray := prog_53_method_133_code
def yJ24_copyOfRangeByte : MethodName := ⟨RJ24, "copyOfRangeByte", "([BII)[B"⟩
def dkwJ24_copyOfRangeByte_1 : List UInt8 := [184, 1, 48, 184, 0, 150, 25, 4, 176]
abbrev dktJ24_copyOfRangeByte_1 : List UInt8 := dkwJ24_copyOfRangeByte_1 ++ []
def dkwJ24_copyOfRangeByte_0 : List UInt8 := [27, 28, 184, 1, 87, 28, 27, 100, 62, 29, 188, 8, 58, 4, 42, 27, 25, 4, 3, 42, 190, 27, 100, 29]
abbrev dktJ24_copyOfRangeByte_0 : List UInt8 := dkwJ24_copyOfRangeByte_0 ++ dktJ24_copyOfRangeByte_1
theorem dksJ24_copyOfRangeByte_0 : cJ24_copyOfRangeByte.data.toList.drop 0 = dktJ24_copyOfRangeByte_0 := by decide +kernel
theorem dksJ24_copyOfRangeByte_1 : cJ24_copyOfRangeByte.data.toList.drop 24 = dktJ24_copyOfRangeByte_1 := dk_seg dksJ24_copyOfRangeByte_0 24 rfl rfl
theorem dJ24_copyOfRangeByte_0 : decode cJ24_copyOfRangeByte 0 = .ok (.iload_n 1, 1) := dk_27 (dk_at dksJ24_copyOfRangeByte_0 0 rfl rfl)
theorem dJ24_copyOfRangeByte_1 : decode cJ24_copyOfRangeByte 1 = .ok (.iload_n 2, 1) := dk_28 (dk_at dksJ24_copyOfRangeByte_0 1 rfl rfl)
theorem dJ24_copyOfRangeByte_2 : decode cJ24_copyOfRangeByte 2 = .ok (.invokestatic 343, 3) := dk_184 1 87 (dk_at dksJ24_copyOfRangeByte_0 2 rfl rfl)
theorem dJ24_copyOfRangeByte_5 : decode cJ24_copyOfRangeByte 5 = .ok (.iload_n 2, 1) := dk_28 (dk_at dksJ24_copyOfRangeByte_0 5 rfl rfl)
theorem dJ24_copyOfRangeByte_6 : decode cJ24_copyOfRangeByte 6 = .ok (.iload_n 1, 1) := dk_27 (dk_at dksJ24_copyOfRangeByte_0 6 rfl rfl)
theorem dJ24_copyOfRangeByte_7 : decode cJ24_copyOfRangeByte 7 = .ok (.isub, 1) := dk_100 (dk_at dksJ24_copyOfRangeByte_0 7 rfl rfl)
theorem dJ24_copyOfRangeByte_8 : decode cJ24_copyOfRangeByte 8 = .ok (.istore_n 3, 1) := dk_62 (dk_at dksJ24_copyOfRangeByte_0 8 rfl rfl)
theorem dJ24_copyOfRangeByte_9 : decode cJ24_copyOfRangeByte 9 = .ok (.iload_n 3, 1) := dk_29 (dk_at dksJ24_copyOfRangeByte_0 9 rfl rfl)
theorem dJ24_copyOfRangeByte_10 : decode cJ24_copyOfRangeByte 10 = .ok (.newarray .byte, 2) := dk_188_8 (dk_at dksJ24_copyOfRangeByte_0 10 rfl rfl)
theorem dJ24_copyOfRangeByte_12 : decode cJ24_copyOfRangeByte 12 = .ok (.astore 4, 2) := dk_58 4 (dk_at dksJ24_copyOfRangeByte_0 12 rfl rfl)
theorem dJ24_copyOfRangeByte_14 : decode cJ24_copyOfRangeByte 14 = .ok (.aload_n 0, 1) := dk_42 (dk_at dksJ24_copyOfRangeByte_0 14 rfl rfl)
theorem dJ24_copyOfRangeByte_15 : decode cJ24_copyOfRangeByte 15 = .ok (.iload_n 1, 1) := dk_27 (dk_at dksJ24_copyOfRangeByte_0 15 rfl rfl)
theorem dJ24_copyOfRangeByte_16 : decode cJ24_copyOfRangeByte 16 = .ok (.aload 4, 2) := dk_25 4 (dk_at dksJ24_copyOfRangeByte_0 16 rfl rfl)
theorem dJ24_copyOfRangeByte_18 : decode cJ24_copyOfRangeByte 18 = .ok (.iconst 0, 1) := dk_3 (dk_at dksJ24_copyOfRangeByte_0 18 rfl rfl)
theorem dJ24_copyOfRangeByte_19 : decode cJ24_copyOfRangeByte 19 = .ok (.aload_n 0, 1) := dk_42 (dk_at dksJ24_copyOfRangeByte_0 19 rfl rfl)
theorem dJ24_copyOfRangeByte_20 : decode cJ24_copyOfRangeByte 20 = .ok (.arraylength, 1) := dk_190 (dk_at dksJ24_copyOfRangeByte_0 20 rfl rfl)
theorem dJ24_copyOfRangeByte_21 : decode cJ24_copyOfRangeByte 21 = .ok (.iload_n 1, 1) := dk_27 (dk_at dksJ24_copyOfRangeByte_0 21 rfl rfl)
theorem dJ24_copyOfRangeByte_22 : decode cJ24_copyOfRangeByte 22 = .ok (.isub, 1) := dk_100 (dk_at dksJ24_copyOfRangeByte_0 22 rfl rfl)
theorem dJ24_copyOfRangeByte_23 : decode cJ24_copyOfRangeByte 23 = .ok (.iload_n 3, 1) := dk_29 (dk_at dksJ24_copyOfRangeByte_0 23 rfl rfl)
theorem dJ24_copyOfRangeByte_24 : decode cJ24_copyOfRangeByte 24 = .ok (.invokestatic 304, 3) := dk_184 1 48 (dk_at dksJ24_copyOfRangeByte_1 0 rfl rfl)
theorem dJ24_copyOfRangeByte_27 : decode cJ24_copyOfRangeByte 27 = .ok (.invokestatic 150, 3) := dk_184 0 150 (dk_at dksJ24_copyOfRangeByte_1 3 rfl rfl)
theorem dJ24_copyOfRangeByte_30 : decode cJ24_copyOfRangeByte 30 = .ok (.aload 4, 2) := dk_25 4 (dk_at dksJ24_copyOfRangeByte_1 6 rfl rfl)
theorem dJ24_copyOfRangeByte_32 : decode cJ24_copyOfRangeByte 32 = .ok (.areturn, 1) := dk_176 (dk_at dksJ24_copyOfRangeByte_1 8 rfl rfl)
abbrev cJ24_checkLength : ByteArray := prog_53_method_131_code
def yJ24_checkLength : MethodName := ⟨RJ24, "checkLength", "(II)V"⟩
def dkwJ24_checkLength_1 : List UInt8 := [182, 0, 50, 27, 182, 0, 54, 182, 0, 61, 183, 0, 65, 191, 177]
abbrev dktJ24_checkLength_1 : List UInt8 := dkwJ24_checkLength_1 ++ []
def dkwJ24_checkLength_0 : List UInt8 := [27, 26, 162, 0, 35, 187, 0, 43, 89, 187, 0, 45, 89, 183, 0, 47, 26, 182, 0, 54, 19, 1, 81]
abbrev dktJ24_checkLength_0 : List UInt8 := dkwJ24_checkLength_0 ++ dktJ24_checkLength_1
theorem dksJ24_checkLength_0 : cJ24_checkLength.data.toList.drop 0 = dktJ24_checkLength_0 := by decide +kernel
theorem dksJ24_checkLength_1 : cJ24_checkLength.data.toList.drop 23 = dktJ24_checkLength_1 := dk_seg dksJ24_checkLength_0 23 rfl rfl
theorem dJ24_checkLength_0 : decode cJ24_checkLength 0 = .ok (.iload_n 1, 1) := dk_27 (dk_at dksJ24_checkLength_0 0 rfl rfl)
theorem dJ24_checkLength_1 : decode cJ24_checkLength 1 = .ok (.iload_n 0, 1) := dk_26 (dk_at dksJ24_checkLength_0 1 rfl rfl)
theorem dJ24_checkLength_2 : decode cJ24_checkLength 2 = .ok (.if_icmp .ge 35, 3) := dk_162 0 35 (dk_at dksJ24_checkLength_0 2 rfl rfl)
theorem dJ24_checkLength_5 : decode cJ24_checkLength 5 = .ok (.new 43, 3) := dk_187 0 43 (dk_at dksJ24_checkLength_0 5 rfl rfl)
theorem dJ24_checkLength_8 : decode cJ24_checkLength 8 = .ok (.dup, 1) := dk_89 (dk_at dksJ24_checkLength_0 8 rfl rfl)
theorem dJ24_checkLength_9 : decode cJ24_checkLength 9 = .ok (.new 45, 3) := dk_187 0 45 (dk_at dksJ24_checkLength_0 9 rfl rfl)
theorem dJ24_checkLength_12 : decode cJ24_checkLength 12 = .ok (.dup, 1) := dk_89 (dk_at dksJ24_checkLength_0 12 rfl rfl)
theorem dJ24_checkLength_13 : decode cJ24_checkLength 13 = .ok (.invokespecial 47, 3) := dk_183 0 47 (dk_at dksJ24_checkLength_0 13 rfl rfl)
theorem dJ24_checkLength_16 : decode cJ24_checkLength 16 = .ok (.iload_n 0, 1) := dk_26 (dk_at dksJ24_checkLength_0 16 rfl rfl)
theorem dJ24_checkLength_17 : decode cJ24_checkLength 17 = .ok (.invokevirtual 54, 3) := dk_182 0 54 (dk_at dksJ24_checkLength_0 17 rfl rfl)
theorem dJ24_checkLength_20 : decode cJ24_checkLength 20 = .ok (.ldc_w 337, 3) := dk_19 1 81 (dk_at dksJ24_checkLength_0 20 rfl rfl)
theorem dJ24_checkLength_23 : decode cJ24_checkLength 23 = .ok (.invokevirtual 50, 3) := dk_182 0 50 (dk_at dksJ24_checkLength_1 0 rfl rfl)
theorem dJ24_checkLength_26 : decode cJ24_checkLength 26 = .ok (.iload_n 1, 1) := dk_27 (dk_at dksJ24_checkLength_1 3 rfl rfl)
theorem dJ24_checkLength_27 : decode cJ24_checkLength 27 = .ok (.invokevirtual 54, 3) := dk_182 0 54 (dk_at dksJ24_checkLength_1 4 rfl rfl)
theorem dJ24_checkLength_30 : decode cJ24_checkLength 30 = .ok (.invokevirtual 61, 3) := dk_182 0 61 (dk_at dksJ24_checkLength_1 7 rfl rfl)
theorem dJ24_checkLength_33 : decode cJ24_checkLength 33 = .ok (.invokespecial 65, 3) := dk_183 0 65 (dk_at dksJ24_checkLength_1 10 rfl rfl)
theorem dJ24_checkLength_36 : decode cJ24_checkLength 36 = .ok (.athrow, 1) := dk_191 (dk_at dksJ24_checkLength_1 13 rfl rfl)
theorem dJ24_checkLength_37 : decode cJ24_checkLength 37 = .ok (.return_, 1) := dk_177 (dk_at dksJ24_checkLength_1 14 rfl rfl)
abbrev cJ24_copyOf_2 : ByteArray := prog_53_method_119_code
def yJ24_copyOf_2 : MethodName := ⟨RJ24, "copyOf", "([Ljava/lang/Object;I)[Ljava/lang/Object;"⟩
def dkwJ24_copyOf_2_0 : List UInt8 := [42, 27, 42, 182, 0, 86, 184, 1, 44, 176]
abbrev dktJ24_copyOf_2_0 : List UInt8 := dkwJ24_copyOf_2_0 ++ []
theorem dksJ24_copyOf_2_0 : cJ24_copyOf_2.data.toList.drop 0 = dktJ24_copyOf_2_0 := by decide +kernel
theorem dJ24_copyOf_2_0 : decode cJ24_copyOf_2 0 = .ok (.aload_n 0, 1) := dk_42 (dk_at dksJ24_copyOf_2_0 0 rfl rfl)
theorem dJ24_copyOf_2_1 : decode cJ24_copyOf_2 1 = .ok (.iload_n 1, 1) := dk_27 (dk_at dksJ24_copyOf_2_0 1 rfl rfl)
theorem dJ24_copyOf_2_2 : decode cJ24_copyOf_2 2 = .ok (.aload_n 0, 1) := dk_42 (dk_at dksJ24_copyOf_2_0 2 rfl rfl)
theorem dJ24_copyOf_2_3 : decode cJ24_copyOf_2 3 = .ok (.invokevirtual 86, 3) := dk_182 0 86 (dk_at dksJ24_copyOf_2_0 3 rfl rfl)
theorem dJ24_copyOf_2_6 : decode cJ24_copyOf_2 6 = .ok (.invokestatic 300, 3) := dk_184 1 44 (dk_at dksJ24_copyOf_2_0 6 rfl rfl)
theorem dJ24_copyOf_2_9 : decode cJ24_copyOf_2 9 = .ok (.areturn, 1) := dk_176 (dk_at dksJ24_copyOf_2_0 9 rfl rfl)
abbrev cJ24_copyOf_3 : ByteArray := prog_53_method_120_code
def yJ24_copyOf_3 : MethodName := ⟨RJ24, "copyOf", "([Ljava/lang/Object;ILjava/lang/Class;)[Ljava/lang/Object;"⟩
def dkwJ24_copyOf_3_1 : List UInt8 := [78, 42, 3, 45, 3, 42, 190, 27, 184, 1, 48, 184, 0, 150, 45, 176]
abbrev dktJ24_copyOf_3_1 : List UInt8 := dkwJ24_copyOf_3_1 ++ []
def dkwJ24_copyOf_3_0 : List UInt8 := [44, 18, 110, 166, 0, 10, 27, 189, 0, 2, 167, 0, 14, 44, 182, 0, 90, 27, 184, 0, 95, 192, 0, 110]
abbrev dktJ24_copyOf_3_0 : List UInt8 := dkwJ24_copyOf_3_0 ++ dktJ24_copyOf_3_1
theorem dksJ24_copyOf_3_0 : cJ24_copyOf_3.data.toList.drop 0 = dktJ24_copyOf_3_0 := by decide +kernel
theorem dksJ24_copyOf_3_1 : cJ24_copyOf_3.data.toList.drop 24 = dktJ24_copyOf_3_1 := dk_seg dksJ24_copyOf_3_0 24 rfl rfl
theorem dJ24_copyOf_3_0 : decode cJ24_copyOf_3 0 = .ok (.aload_n 2, 1) := dk_44 (dk_at dksJ24_copyOf_3_0 0 rfl rfl)
theorem dJ24_copyOf_3_1 : decode cJ24_copyOf_3 1 = .ok (.ldc 110, 2) := dk_18 110 (dk_at dksJ24_copyOf_3_0 1 rfl rfl)
theorem dJ24_copyOf_3_3 : decode cJ24_copyOf_3 3 = .ok (.if_acmp .ne 10, 3) := dk_166 0 10 (dk_at dksJ24_copyOf_3_0 3 rfl rfl)
theorem dJ24_copyOf_3_6 : decode cJ24_copyOf_3 6 = .ok (.iload_n 1, 1) := dk_27 (dk_at dksJ24_copyOf_3_0 6 rfl rfl)
theorem dJ24_copyOf_3_7 : decode cJ24_copyOf_3 7 = .ok (.anewarray 2, 3) := dk_189 0 2 (dk_at dksJ24_copyOf_3_0 7 rfl rfl)
theorem dJ24_copyOf_3_10 : decode cJ24_copyOf_3 10 = .ok (.goto 14, 3) := dk_167 0 14 (dk_at dksJ24_copyOf_3_0 10 rfl rfl)
theorem dJ24_copyOf_3_13 : decode cJ24_copyOf_3 13 = .ok (.aload_n 2, 1) := dk_44 (dk_at dksJ24_copyOf_3_0 13 rfl rfl)
theorem dJ24_copyOf_3_14 : decode cJ24_copyOf_3 14 = .ok (.invokevirtual 90, 3) := dk_182 0 90 (dk_at dksJ24_copyOf_3_0 14 rfl rfl)
theorem dJ24_copyOf_3_17 : decode cJ24_copyOf_3 17 = .ok (.iload_n 1, 1) := dk_27 (dk_at dksJ24_copyOf_3_0 17 rfl rfl)
theorem dJ24_copyOf_3_18 : decode cJ24_copyOf_3 18 = .ok (.invokestatic 95, 3) := dk_184 0 95 (dk_at dksJ24_copyOf_3_0 18 rfl rfl)
theorem dJ24_copyOf_3_21 : decode cJ24_copyOf_3 21 = .ok (.checkcast 110, 3) := dk_192 0 110 (dk_at dksJ24_copyOf_3_0 21 rfl rfl)
theorem dJ24_copyOf_3_24 : decode cJ24_copyOf_3 24 = .ok (.astore_n 3, 1) := dk_78 (dk_at dksJ24_copyOf_3_1 0 rfl rfl)
theorem dJ24_copyOf_3_25 : decode cJ24_copyOf_3 25 = .ok (.aload_n 0, 1) := dk_42 (dk_at dksJ24_copyOf_3_1 1 rfl rfl)
theorem dJ24_copyOf_3_26 : decode cJ24_copyOf_3 26 = .ok (.iconst 0, 1) := dk_3 (dk_at dksJ24_copyOf_3_1 2 rfl rfl)
theorem dJ24_copyOf_3_27 : decode cJ24_copyOf_3 27 = .ok (.aload_n 3, 1) := dk_45 (dk_at dksJ24_copyOf_3_1 3 rfl rfl)
theorem dJ24_copyOf_3_28 : decode cJ24_copyOf_3 28 = .ok (.iconst 0, 1) := dk_3 (dk_at dksJ24_copyOf_3_1 4 rfl rfl)
theorem dJ24_copyOf_3_29 : decode cJ24_copyOf_3 29 = .ok (.aload_n 0, 1) := dk_42 (dk_at dksJ24_copyOf_3_1 5 rfl rfl)
theorem dJ24_copyOf_3_30 : decode cJ24_copyOf_3 30 = .ok (.arraylength, 1) := dk_190 (dk_at dksJ24_copyOf_3_1 6 rfl rfl)
theorem dJ24_copyOf_3_31 : decode cJ24_copyOf_3 31 = .ok (.iload_n 1, 1) := dk_27 (dk_at dksJ24_copyOf_3_1 7 rfl rfl)
theorem dJ24_copyOf_3_32 : decode cJ24_copyOf_3 32 = .ok (.invokestatic 304, 3) := dk_184 1 48 (dk_at dksJ24_copyOf_3_1 8 rfl rfl)
theorem dJ24_copyOf_3_35 : decode cJ24_copyOf_3 35 = .ok (.invokestatic 150, 3) := dk_184 0 150 (dk_at dksJ24_copyOf_3_1 11 rfl rfl)
theorem dJ24_copyOf_3_38 : decode cJ24_copyOf_3 38 = .ok (.aload_n 3, 1) := dk_45 (dk_at dksJ24_copyOf_3_1 14 rfl rfl)
theorem dJ24_copyOf_3_39 : decode cJ24_copyOf_3 39 = .ok (.areturn, 1) := dk_176 (dk_at dksJ24_copyOf_3_1 15 rfl rfl)
theorem q99 : (Jvm.Cond.initialized "java/util/Arrays") ∈ lw_all := lw_g (lw_at lw_m1 31 rfl) rfl
theorem q814 : (Jvm.Cond.static ({ cls := "java/util/Arrays", name := "copyOf", desc := "([BI)[B" } : Jvm.MethodName)) ∈ lw_all := lw_g (lw_at lw_m4 26 rfl) rfl
theorem q815 : (Jvm.Cond.code ({ cls := "java/util/Arrays", name := "copyOf", desc := "([BI)[B" } : Jvm.MethodName) prog_53_method_121_code (3 : Nat) (Option.some (Jvm.ClassFile.FieldType.array Jvm.ClassFile.FieldType.byte))) ∈ lw_all := lw_g (lw_at lw_m4 27 rfl) rfl
theorem q816 : (Jvm.Cond.methodLink "java/util/Arrays" (310 : Nat) ({ cls := "[B", name := "clone", desc := "()Ljava/lang/Object;" } : Jvm.MethodName)) ∈ lw_all := lw_g (lw_at lw_m4 28 rfl) rfl
theorem q822 : (Jvm.Cond.classLink "java/util/Arrays" (311 : Nat) "[B") ∈ lw_all := lw_g (lw_at lw_m4 34 rfl) rfl
theorem q823 : (Jvm.Cond.methodLink "java/util/Arrays" (304 : Nat) ({ cls := "java/lang/Math", name := "min", desc := "(II)I" } : Jvm.MethodName)) ∈ lw_all := lw_g (lw_at lw_m4 35 rfl) rfl
theorem q824 : (Jvm.Cond.methodLink "java/util/Arrays" (150 : Nat) ({ cls := "java/lang/System", name := "arraycopy", desc := "(Ljava/lang/Object;ILjava/lang/Object;II)V" } : Jvm.MethodName)) ∈ lw_all := lw_g (lw_at lw_m4 36 rfl) rfl
theorem q955 : (Jvm.Cond.static ({ cls := "java/util/Arrays", name := "copyOfRange", desc := "([BII)[B" } : Jvm.MethodName)) ∈ lw_all := lw_g (lw_at lw_m4 167 rfl) rfl
theorem q956 : (Jvm.Cond.code ({ cls := "java/util/Arrays", name := "copyOfRange", desc := "([BII)[B" } : Jvm.MethodName) prog_53_method_132_code (3 : Nat) (Option.some (Jvm.ClassFile.FieldType.array Jvm.ClassFile.FieldType.byte))) ∈ lw_all := lw_g (lw_at lw_m4 168 rfl) rfl
theorem q957 : (Jvm.Cond.methodLink "java/util/Arrays" (339 : Nat) ({ cls := "java/util/Arrays", name := "copyOfRangeByte", desc := "([BII)[B" } : Jvm.MethodName)) ∈ lw_all := lw_g (lw_at lw_m4 169 rfl) rfl
theorem q958 : (Jvm.Cond.static ({ cls := "java/util/Arrays", name := "copyOfRangeByte", desc := "([BII)[B" } : Jvm.MethodName)) ∈ lw_all := lw_g (lw_at lw_m4 170 rfl) rfl
theorem q959 : (Jvm.Cond.code ({ cls := "java/util/Arrays", name := "copyOfRangeByte", desc := "([BII)[B" } : Jvm.MethodName) prog_53_method_133_code (5 : Nat) (Option.some (Jvm.ClassFile.FieldType.array Jvm.ClassFile.FieldType.byte))) ∈ lw_all := lw_g (lw_at lw_m4 171 rfl) rfl
theorem q960 : (Jvm.Cond.methodLink "java/util/Arrays" (343 : Nat) ({ cls := "java/util/Arrays", name := "checkLength", desc := "(II)V" } : Jvm.MethodName)) ∈ lw_all := lw_g (lw_at lw_m4 172 rfl) rfl
theorem q961 : (Jvm.Cond.static ({ cls := "java/util/Arrays", name := "checkLength", desc := "(II)V" } : Jvm.MethodName)) ∈ lw_all := lw_g (lw_at lw_m4 173 rfl) rfl
theorem q962 : (Jvm.Cond.code ({ cls := "java/util/Arrays", name := "checkLength", desc := "(II)V" } : Jvm.MethodName) prog_53_method_131_code (2 : Nat) (Option.none : Option Jvm.ClassFile.FieldType)) ∈ lw_all := lw_g (lw_at lw_m4 174 rfl) rfl
theorem q1955 : (Jvm.Cond.static ({ cls := "java/util/Arrays", name := "copyOf", desc := "([Ljava/lang/Object;I)[Ljava/lang/Object;" } : Jvm.MethodName)) ∈ lw_all := lw_g (lw_at lw_m8 207 rfl) rfl
theorem q1956 : (Jvm.Cond.code ({ cls := "java/util/Arrays", name := "copyOf", desc := "([Ljava/lang/Object;I)[Ljava/lang/Object;" } : Jvm.MethodName) prog_53_method_119_code (2 : Nat) (Option.some (Jvm.ClassFile.FieldType.array (Jvm.ClassFile.FieldType.object "java/lang/Object")))) ∈ lw_all := lw_g (lw_at lw_m8 208 rfl) rfl
theorem q1957 : (Jvm.Cond.methodLink "java/util/Arrays" (86 : Nat) ({ cls := "java/lang/Object", name := "getClass", desc := "()Ljava/lang/Class;" } : Jvm.MethodName)) ∈ lw_all := lw_g (lw_at lw_m8 209 rfl) rfl
theorem q1958 : (Jvm.Cond.methodLink "java/util/Arrays" (300 : Nat) ({ cls := "java/util/Arrays", name := "copyOf", desc := "([Ljava/lang/Object;ILjava/lang/Class;)[Ljava/lang/Object;" } : Jvm.MethodName)) ∈ lw_all := lw_g (lw_at lw_m8 210 rfl) rfl
theorem q1959 : (Jvm.Cond.static ({ cls := "java/util/Arrays", name := "copyOf", desc := "([Ljava/lang/Object;ILjava/lang/Class;)[Ljava/lang/Object;" } : Jvm.MethodName)) ∈ lw_all := lw_g (lw_at lw_m8 211 rfl) rfl
theorem q1960 : (Jvm.Cond.code ({ cls := "java/util/Arrays", name := "copyOf", desc := "([Ljava/lang/Object;ILjava/lang/Class;)[Ljava/lang/Object;" } : Jvm.MethodName) prog_53_method_120_code (4 : Nat) (Option.some (Jvm.ClassFile.FieldType.array (Jvm.ClassFile.FieldType.object "java/lang/Object")))) ∈ lw_all := lw_g (lw_at lw_m8 212 rfl) rfl
theorem q1961 : (Jvm.Cond.classLink "java/util/Arrays" (110 : Nat) "[Ljava/lang/Object;") ∈ lw_all := lw_g (lw_at lw_m8 213 rfl) rfl
theorem q1962 : (Jvm.Cond.classLink "java/util/Arrays" (2 : Nat) "java/lang/Object") ∈ lw_all := lw_g (lw_at lw_m8 214 rfl) rfl
/-! java/lang/NullPointerException -/
set_option maxRecDepth 100000
def RJ36 : String := "java/lang/NullPointerException"
def TJ36 : u_T := fun k => match k with
  | 0 => ("java/lang/Throwable", "cause", "Ljava/lang/Throwable;", false)
  | 1 => ("java/lang/Throwable", "stackTrace", "[Ljava/lang/StackTraceElement;", false)
  | 2 => ("java/lang/Throwable", "suppressedExceptions", "Ljava/util/List;", false)
  | 3 => ("java/lang/Throwable", "detailMessage", "Ljava/lang/String;", false)
  | 4 => ("java/lang/Throwable", "backtrace", "Ljava/lang/Object;", false)
  | 5 => ("java/lang/Throwable", "depth", "I", false)
  | 6 => ("java/lang/NullPointerException", "extendedMessageState", "I", false)
  | _ => ("java/lang/NullPointerException", "extendedMessage", "Ljava/lang/String;", false)
def tyJ36 : Nat → FieldType := fun k => match k with
  | 0 => .object "java/lang/Throwable"
  | 1 => .array (.object "java/lang/StackTraceElement")
  | 2 => .object "java/util/List"
  | 3 => .object "java/lang/String"
  | 4 => .object "java/lang/Object"
  | 5 => .int
  | 6 => .int
  | _ => .object "java/lang/String"
abbrev wsJ360 : List Cond := u_ws RJ36 TJ36 8
theorem nmJ36 : ∀ a, a < 8 → ∀ b, b < 8 → a ≠ b → (TJ36 a).2.1 ≠ (TJ36 b).2.1 := by decide +kernel
theorem tyJ36_ok : ∀ k, k < 8 → parseFieldDescriptor (TJ36 k).2.2.1 = some (tyJ36 k) := by decide +kernel
abbrev cJ36_getMessage : ByteArray := prog_31_method_4_code
def yJ36_getMessage : MethodName := ⟨RJ36, "getMessage", "()Ljava/lang/String;"⟩
def dkwJ36_getMessage_2 : List UInt8 := [176]
abbrev dktJ36_getMessage_2 : List UInt8 := dkwJ36_getMessage_2 ++ []
def dkwJ36_getMessage_1 : List UInt8 := [182, 0, 16, 181, 0, 20, 42, 5, 181, 0, 10, 42, 180, 0, 20, 44, 195, 176, 78, 44, 195, 45, 191, 43]
abbrev dktJ36_getMessage_1 : List UInt8 := dkwJ36_getMessage_1 ++ dktJ36_getMessage_2
def dkwJ36_getMessage_0 : List UInt8 := [42, 183, 0, 28, 76, 43, 199, 0, 40, 42, 89, 77, 194, 42, 180, 0, 10, 4, 160, 0, 16, 42, 42]
abbrev dktJ36_getMessage_0 : List UInt8 := dkwJ36_getMessage_0 ++ dktJ36_getMessage_1
theorem dksJ36_getMessage_0 : cJ36_getMessage.data.toList.drop 0 = dktJ36_getMessage_0 := by decide +kernel
theorem dksJ36_getMessage_1 : cJ36_getMessage.data.toList.drop 23 = dktJ36_getMessage_1 := dk_seg dksJ36_getMessage_0 23 rfl rfl
theorem dksJ36_getMessage_2 : cJ36_getMessage.data.toList.drop 47 = dktJ36_getMessage_2 := dk_seg dksJ36_getMessage_1 24 rfl rfl
theorem dJ36_getMessage_0 : decode cJ36_getMessage 0 = .ok (.aload_n 0, 1) := dk_42 (dk_at dksJ36_getMessage_0 0 rfl rfl)
theorem dJ36_getMessage_1 : decode cJ36_getMessage 1 = .ok (.invokespecial 28, 3) := dk_183 0 28 (dk_at dksJ36_getMessage_0 1 rfl rfl)
theorem dJ36_getMessage_4 : decode cJ36_getMessage 4 = .ok (.astore_n 1, 1) := dk_76 (dk_at dksJ36_getMessage_0 4 rfl rfl)
theorem dJ36_getMessage_5 : decode cJ36_getMessage 5 = .ok (.aload_n 1, 1) := dk_43 (dk_at dksJ36_getMessage_0 5 rfl rfl)
theorem dJ36_getMessage_6 : decode cJ36_getMessage 6 = .ok (.ifnonnull 40, 3) := dk_199 0 40 (dk_at dksJ36_getMessage_0 6 rfl rfl)
theorem dJ36_getMessage_9 : decode cJ36_getMessage 9 = .ok (.aload_n 0, 1) := dk_42 (dk_at dksJ36_getMessage_0 9 rfl rfl)
theorem dJ36_getMessage_10 : decode cJ36_getMessage 10 = .ok (.dup, 1) := dk_89 (dk_at dksJ36_getMessage_0 10 rfl rfl)
theorem dJ36_getMessage_11 : decode cJ36_getMessage 11 = .ok (.astore_n 2, 1) := dk_77 (dk_at dksJ36_getMessage_0 11 rfl rfl)
theorem dJ36_getMessage_12 : decode cJ36_getMessage 12 = .ok (.monitorenter, 1) := dk_194 (dk_at dksJ36_getMessage_0 12 rfl rfl)
theorem dJ36_getMessage_13 : decode cJ36_getMessage 13 = .ok (.aload_n 0, 1) := dk_42 (dk_at dksJ36_getMessage_0 13 rfl rfl)
theorem dJ36_getMessage_14 : decode cJ36_getMessage 14 = .ok (.getfield 10, 3) := dk_180 0 10 (dk_at dksJ36_getMessage_0 14 rfl rfl)
theorem dJ36_getMessage_17 : decode cJ36_getMessage 17 = .ok (.iconst 1, 1) := dk_4 (dk_at dksJ36_getMessage_0 17 rfl rfl)
theorem dJ36_getMessage_18 : decode cJ36_getMessage 18 = .ok (.if_icmp .ne 16, 3) := dk_160 0 16 (dk_at dksJ36_getMessage_0 18 rfl rfl)
theorem dJ36_getMessage_21 : decode cJ36_getMessage 21 = .ok (.aload_n 0, 1) := dk_42 (dk_at dksJ36_getMessage_0 21 rfl rfl)
theorem dJ36_getMessage_22 : decode cJ36_getMessage 22 = .ok (.aload_n 0, 1) := dk_42 (dk_at dksJ36_getMessage_0 22 rfl rfl)
theorem dJ36_getMessage_23 : decode cJ36_getMessage 23 = .ok (.invokevirtual 16, 3) := dk_182 0 16 (dk_at dksJ36_getMessage_1 0 rfl rfl)
theorem dJ36_getMessage_26 : decode cJ36_getMessage 26 = .ok (.putfield 20, 3) := dk_181 0 20 (dk_at dksJ36_getMessage_1 3 rfl rfl)
theorem dJ36_getMessage_29 : decode cJ36_getMessage 29 = .ok (.aload_n 0, 1) := dk_42 (dk_at dksJ36_getMessage_1 6 rfl rfl)
theorem dJ36_getMessage_30 : decode cJ36_getMessage 30 = .ok (.iconst 2, 1) := dk_5 (dk_at dksJ36_getMessage_1 7 rfl rfl)
theorem dJ36_getMessage_31 : decode cJ36_getMessage 31 = .ok (.putfield 10, 3) := dk_181 0 10 (dk_at dksJ36_getMessage_1 8 rfl rfl)
theorem dJ36_getMessage_34 : decode cJ36_getMessage 34 = .ok (.aload_n 0, 1) := dk_42 (dk_at dksJ36_getMessage_1 11 rfl rfl)
theorem dJ36_getMessage_35 : decode cJ36_getMessage 35 = .ok (.getfield 20, 3) := dk_180 0 20 (dk_at dksJ36_getMessage_1 12 rfl rfl)
theorem dJ36_getMessage_38 : decode cJ36_getMessage 38 = .ok (.aload_n 2, 1) := dk_44 (dk_at dksJ36_getMessage_1 15 rfl rfl)
theorem dJ36_getMessage_39 : decode cJ36_getMessage 39 = .ok (.monitorexit, 1) := dk_195 (dk_at dksJ36_getMessage_1 16 rfl rfl)
theorem dJ36_getMessage_40 : decode cJ36_getMessage 40 = .ok (.areturn, 1) := dk_176 (dk_at dksJ36_getMessage_1 17 rfl rfl)
theorem dJ36_getMessage_41 : decode cJ36_getMessage 41 = .ok (.astore_n 3, 1) := dk_78 (dk_at dksJ36_getMessage_1 18 rfl rfl)
theorem dJ36_getMessage_42 : decode cJ36_getMessage 42 = .ok (.aload_n 2, 1) := dk_44 (dk_at dksJ36_getMessage_1 19 rfl rfl)
theorem dJ36_getMessage_43 : decode cJ36_getMessage 43 = .ok (.monitorexit, 1) := dk_195 (dk_at dksJ36_getMessage_1 20 rfl rfl)
theorem dJ36_getMessage_44 : decode cJ36_getMessage 44 = .ok (.aload_n 3, 1) := dk_45 (dk_at dksJ36_getMessage_1 21 rfl rfl)
theorem dJ36_getMessage_45 : decode cJ36_getMessage 45 = .ok (.athrow, 1) := dk_191 (dk_at dksJ36_getMessage_1 22 rfl rfl)
theorem dJ36_getMessage_46 : decode cJ36_getMessage 46 = .ok (.aload_n 1, 1) := dk_43 (dk_at dksJ36_getMessage_1 23 rfl rfl)
theorem dJ36_getMessage_47 : decode cJ36_getMessage 47 = .ok (.areturn, 1) := dk_176 (dk_at dksJ36_getMessage_2 0 rfl rfl)
abbrev cJ36_init : ByteArray := prog_31_method_1_code
def yJ36_init : MethodName := ⟨RJ36, "<init>", "()V"⟩
theorem dJ36_init_0 : decode cJ36_init 0 = .ok (.aload_n 0, 1) := by decide +kernel
theorem dJ36_init_1 : decode cJ36_init 1 = .ok (.invokespecial 1, 3) := by decide +kernel
theorem dJ36_init_4 : decode cJ36_init 4 = .ok (.return_, 1) := by decide +kernel
theorem q116 : (Jvm.Cond.initialized "java/lang/NullPointerException") ∈ lw_all := lw_g (lw_at lw_m1 48 rfl) rfl
theorem q693 : (Jvm.Cond.selects "java/lang/NullPointerException" ({ cls := "java/lang/Throwable", name := "fillInStackTrace", desc := "()Ljava/lang/Throwable;" } : Jvm.MethodName) ({ cls := "java/lang/NullPointerException", name := "fillInStackTrace", desc := "()Ljava/lang/Throwable;" } : Jvm.MethodName)) ∈ lw_all := lw_g (lw_at lw_m3 145 rfl) rfl
theorem q694 : (Jvm.Cond.instanceMethod ({ cls := "java/lang/NullPointerException", name := "fillInStackTrace", desc := "()Ljava/lang/Throwable;" } : Jvm.MethodName)) ∈ lw_all := lw_g (lw_at lw_m3 146 rfl) rfl
theorem q695 : (Jvm.Cond.codeSync ({ cls := "java/lang/NullPointerException", name := "fillInStackTrace", desc := "()Ljava/lang/Throwable;" } : Jvm.MethodName) prog_31_method_3_code (1 : Nat) (Option.some (Jvm.ClassFile.FieldType.object "java/lang/Throwable"))) ∈ lw_all := lw_g (lw_at lw_m3 147 rfl) rfl
theorem q696 : (Jvm.Cond.methodLink "java/lang/NullPointerException" (16 : Nat) ({ cls := "java/lang/NullPointerException", name := "getExtendedNPEMessage", desc := "()Ljava/lang/String;" } : Jvm.MethodName)) ∈ lw_all := lw_g (lw_at lw_m3 148 rfl) rfl
theorem q697 : (Jvm.Cond.privateMethod ({ cls := "java/lang/NullPointerException", name := "getExtendedNPEMessage", desc := "()Ljava/lang/String;" } : Jvm.MethodName)) ∈ lw_tbl := lw_at lw_m3 149 rfl
theorem q698 : (Jvm.Cond.instanceMethod ({ cls := "java/lang/NullPointerException", name := "getExtendedNPEMessage", desc := "()Ljava/lang/String;" } : Jvm.MethodName)) ∈ lw_all := lw_g (lw_at lw_m3 150 rfl) rfl
theorem q699 : (Jvm.Cond.instantiable "java/lang/NullPointerException" (8 : Nat)) ∈ lw_all := lw_g (lw_at lw_m3 151 rfl) rfl
theorem q700 : (Jvm.Cond.native ({ cls := "java/lang/NullPointerException", name := "getExtendedNPEMessage", desc := "()Ljava/lang/String;" } : Jvm.MethodName)) ∈ lw_all := lw_g (lw_at lw_m3 152 rfl) rfl
theorem q701 : (Jvm.Cond.methodLink "java/lang/NullPointerException" (24 : Nat) ({ cls := "java/lang/RuntimeException", name := "fillInStackTrace", desc := "()Ljava/lang/Throwable;" } : Jvm.MethodName)) ∈ lw_all := lw_g (lw_at lw_m3 153 rfl) rfl
theorem q704 : (Jvm.Cond.superclass "java/lang/NullPointerException" "java/lang/RuntimeException") ∈ lw_all := lw_g (lw_at lw_m3 156 rfl) rfl
theorem q1038 : (Jvm.Cond.selects "java/lang/NullPointerException" ({ cls := "java/lang/Throwable", name := "toString", desc := "()Ljava/lang/String;" } : Jvm.MethodName) ({ cls := "java/lang/Throwable", name := "toString", desc := "()Ljava/lang/String;" } : Jvm.MethodName)) ∈ lw_all := lw_g (lw_at lw_m5 10 rfl) rfl
theorem q1063 : (Jvm.Cond.selects "java/lang/NullPointerException" ({ cls := "java/lang/Object", name := "getClass", desc := "()Ljava/lang/Class;" } : Jvm.MethodName) ({ cls := "java/lang/Object", name := "getClass", desc := "()Ljava/lang/Class;" } : Jvm.MethodName)) ∈ lw_all := lw_g (lw_at lw_m5 35 rfl) rfl
theorem q1097 : (Jvm.Cond.selects "java/lang/NullPointerException" ({ cls := "java/lang/Throwable", name := "getLocalizedMessage", desc := "()Ljava/lang/String;" } : Jvm.MethodName) ({ cls := "java/lang/Throwable", name := "getLocalizedMessage", desc := "()Ljava/lang/String;" } : Jvm.MethodName)) ∈ lw_all := lw_g (lw_at lw_m5 69 rfl) rfl
theorem q1111 : (Jvm.Cond.selects "java/lang/NullPointerException" ({ cls := "java/lang/Throwable", name := "getMessage", desc := "()Ljava/lang/String;" } : Jvm.MethodName) ({ cls := "java/lang/NullPointerException", name := "getMessage", desc := "()Ljava/lang/String;" } : Jvm.MethodName)) ∈ lw_all := lw_g (lw_at lw_m5 83 rfl) rfl
theorem q1112 : (Jvm.Cond.instanceMethod ({ cls := "java/lang/NullPointerException", name := "getMessage", desc := "()Ljava/lang/String;" } : Jvm.MethodName)) ∈ lw_all := lw_g (lw_at lw_m5 84 rfl) rfl
theorem q1113 : (Jvm.Cond.codeWith ({ cls := "java/lang/NullPointerException", name := "getMessage", desc := "()Ljava/lang/String;" } : Jvm.MethodName) prog_31_method_4_code (4 : Nat) (Option.some (Jvm.ClassFile.FieldType.object "java/lang/String")) [((13 : Nat), (40 : Nat), (41 : Nat), (0 : Nat)), ((41 : Nat), (44 : Nat), (41 : Nat), (0 : Nat))]) ∈ lw_all := lw_g (lw_at lw_m5 85 rfl) rfl
theorem q1114 : (Jvm.Cond.methodLink "java/lang/NullPointerException" (28 : Nat) ({ cls := "java/lang/RuntimeException", name := "getMessage", desc := "()Ljava/lang/String;" } : Jvm.MethodName)) ∈ lw_all := lw_g (lw_at lw_m5 86 rfl) rfl
theorem q1338 : (Jvm.Cond.selects "java/lang/NullPointerException" ({ cls := "java/lang/Object", name := "equals", desc := "(Ljava/lang/Object;)Z" } : Jvm.MethodName) ({ cls := "java/lang/Object", name := "equals", desc := "(Ljava/lang/Object;)Z" } : Jvm.MethodName)) ∈ lw_all := lw_g (lw_at lw_m6 70 rfl) rfl
theorem q1703 : (Jvm.Cond.selects "java/lang/NullPointerException" ({ cls := "java/lang/Object", name := "hashCode", desc := "()I" } : Jvm.MethodName) ({ cls := "java/lang/Object", name := "hashCode", desc := "()I" } : Jvm.MethodName)) ∈ lw_all := lw_g (lw_at lw_m7 195 rfl) rfl
theorem q1926 : (Jvm.Cond.castable "java/lang/NullPointerException" "java/lang/NullPointerException") ∈ lw_tbl := lw_at lw_m8 178 rfl
theorem q1927 : (Jvm.Cond.selects "java/lang/NullPointerException" ({ cls := "java/lang/Throwable", name := "fillInStackTrace", desc := "(I)Ljava/lang/Throwable;" } : Jvm.MethodName) ({ cls := "java/lang/Throwable", name := "fillInStackTrace", desc := "(I)Ljava/lang/Throwable;" } : Jvm.MethodName)) ∈ lw_all := lw_g (lw_at lw_m8 179 rfl) rfl
theorem q1928 : (Jvm.Cond.lays "java/lang/NullPointerException" "java/lang/Throwable" "cause" "Ljava/lang/Throwable;") ∈ lw_all := lw_g (lw_at lw_m8 180 rfl) rfl
theorem q1929 : (Jvm.Cond.lays "java/lang/NullPointerException" "java/lang/Throwable" "stackTrace" "[Ljava/lang/StackTraceElement;") ∈ lw_all := lw_g (lw_at lw_m8 181 rfl) rfl
theorem q1930 : (Jvm.Cond.lays "java/lang/NullPointerException" "java/lang/Throwable" "suppressedExceptions" "Ljava/util/List;") ∈ lw_all := lw_g (lw_at lw_m8 182 rfl) rfl
theorem q1931 : (Jvm.Cond.lays "java/lang/NullPointerException" "java/lang/Throwable" "detailMessage" "Ljava/lang/String;") ∈ lw_all := lw_g (lw_at lw_m8 183 rfl) rfl
theorem q1932 : (Jvm.Cond.lays "java/lang/NullPointerException" "java/lang/Throwable" "backtrace" "Ljava/lang/Object;") ∈ lw_all := lw_g (lw_at lw_m8 184 rfl) rfl
theorem q1934 : (Jvm.Cond.instanceMethod ({ cls := "java/lang/NullPointerException", name := "<init>", desc := "()V" } : Jvm.MethodName)) ∈ lw_all := lw_g (lw_at lw_m8 186 rfl) rfl
theorem q1935 : (Jvm.Cond.code ({ cls := "java/lang/NullPointerException", name := "<init>", desc := "()V" } : Jvm.MethodName) prog_31_method_1_code (1 : Nat) (Option.none : Option Jvm.ClassFile.FieldType)) ∈ lw_all := lw_g (lw_at lw_m8 187 rfl) rfl
theorem q1936 : (Jvm.Cond.methodLink "java/lang/NullPointerException" (1 : Nat) ({ cls := "java/lang/RuntimeException", name := "<init>", desc := "()V" } : Jvm.MethodName)) ∈ lw_all := lw_g (lw_at lw_m8 188 rfl) rfl
theorem q1937 : (Jvm.Cond.fieldLink "java/lang/NullPointerException" (10 : Nat) "java/lang/NullPointerException" "extendedMessageState" "I") ∈ lw_all := lw_g (lw_at lw_m8 189 rfl) rfl
theorem q1938 : (Jvm.Cond.fieldLink "java/lang/NullPointerException" (20 : Nat) "java/lang/NullPointerException" "extendedMessage" "Ljava/lang/String;") ∈ lw_all := lw_g (lw_at lw_m8 190 rfl) rfl
theorem q1939 : (Jvm.Cond.lays "java/lang/NullPointerException" "java/lang/NullPointerException" "extendedMessageState" "I") ∈ lw_all := lw_g (lw_at lw_m8 191 rfl) rfl
theorem q1940 : (Jvm.Cond.soleField "java/lang/NullPointerException" "extendedMessageState") ∈ lw_all := lw_g (lw_at lw_m8 192 rfl) rfl
theorem q1941 : (Jvm.Cond.lays "java/lang/NullPointerException" "java/lang/NullPointerException" "extendedMessage" "Ljava/lang/String;") ∈ lw_all := lw_g (lw_at lw_m8 193 rfl) rfl
theorem q1942 : (Jvm.Cond.soleField "java/lang/NullPointerException" "extendedMessage") ∈ lw_all := lw_g (lw_at lw_m8 194 rfl) rfl
theorem q1943 : (Jvm.Cond.lays "java/lang/NullPointerException" "java/lang/Throwable" "depth" "I") ∈ lw_all := lw_g (lw_at lw_m8 195 rfl) rfl
theorem q3058 : (Jvm.Cond.castable "java/lang/NullPointerException" "java/lang/Object") ∈ lw_tbl := lw_at lw_m13 110 rfl
theorem in_J36 : ∀ w ∈ wsJ360, w ∈ lw_all := lw_in wsJ360 [1928, 1929, 1930, 1931, 1932, 1943, 1939, 1941] (by decide +kernel) (by decide +kernel)
/-! java/lang/ClassCastException -/
set_option maxRecDepth 100000
def RJ44 : String := "java/lang/ClassCastException"
def TJ44 : u_T := fun k => match k with
  | 0 => ("java/lang/Throwable", "backtrace", "Ljava/lang/Object;", false)
  | 1 => ("java/lang/Throwable", "detailMessage", "Ljava/lang/String;", false)
  | 2 => ("java/lang/Throwable", "cause", "Ljava/lang/Throwable;", false)
  | 3 => ("java/lang/Throwable", "stackTrace", "[Ljava/lang/StackTraceElement;", false)
  | 4 => ("java/lang/Throwable", "depth", "I", false)
  | _ => ("java/lang/Throwable", "suppressedExceptions", "Ljava/util/List;", false)
def tyJ44 : Nat → FieldType := fun k => match k with
  | 0 => .object "java/lang/Object"
  | 1 => .object "java/lang/String"
  | 2 => .object "java/lang/Throwable"
  | 3 => .array (.object "java/lang/StackTraceElement")
  | 4 => .int
  | _ => .object "java/util/List"
abbrev wsJ440 : List Cond := u_ws RJ44 TJ44 6
theorem nmJ44 : ∀ a, a < 6 → ∀ b, b < 6 → a ≠ b → (TJ44 a).2.1 ≠ (TJ44 b).2.1 := by decide +kernel
theorem tyJ44_ok : ∀ k, k < 6 → parseFieldDescriptor (TJ44 k).2.2.1 = some (tyJ44 k) := by decide +kernel
abbrev cJ44_init : ByteArray := prog_20_method_2_code
def yJ44_init : MethodName := ⟨RJ44, "<init>", "(Ljava/lang/String;)V"⟩
def dkwJ44_init_0 : List UInt8 := [42, 43, 183, 0, 7, 177]
abbrev dktJ44_init_0 : List UInt8 := dkwJ44_init_0 ++ []
theorem dksJ44_init_0 : cJ44_init.data.toList.drop 0 = dktJ44_init_0 := by decide +kernel
theorem dJ44_init_0 : decode cJ44_init 0 = .ok (.aload_n 0, 1) := dk_42 (dk_at dksJ44_init_0 0 rfl rfl)
theorem dJ44_init_1 : decode cJ44_init 1 = .ok (.aload_n 1, 1) := dk_43 (dk_at dksJ44_init_0 1 rfl rfl)
theorem dJ44_init_2 : decode cJ44_init 2 = .ok (.invokespecial 7, 3) := dk_183 0 7 (dk_at dksJ44_init_0 2 rfl rfl)
theorem dJ44_init_5 : decode cJ44_init 5 = .ok (.return_, 1) := dk_177 (dk_at dksJ44_init_0 5 rfl rfl)
theorem q129 : (Jvm.Cond.initialized "java/lang/ClassCastException") ∈ lw_all := lw_g (lw_at lw_m1 61 rfl) rfl
theorem q690 : (Jvm.Cond.selects "java/lang/ClassCastException" ({ cls := "java/lang/Throwable", name := "fillInStackTrace", desc := "()Ljava/lang/Throwable;" } : Jvm.MethodName) ({ cls := "java/lang/Throwable", name := "fillInStackTrace", desc := "()Ljava/lang/Throwable;" } : Jvm.MethodName)) ∈ lw_all := lw_g (lw_at lw_m3 142 rfl) rfl
theorem q1034 : (Jvm.Cond.selects "java/lang/ClassCastException" ({ cls := "java/lang/Throwable", name := "toString", desc := "()Ljava/lang/String;" } : Jvm.MethodName) ({ cls := "java/lang/Throwable", name := "toString", desc := "()Ljava/lang/String;" } : Jvm.MethodName)) ∈ lw_all := lw_g (lw_at lw_m5 6 rfl) rfl
theorem q1059 : (Jvm.Cond.selects "java/lang/ClassCastException" ({ cls := "java/lang/Object", name := "getClass", desc := "()Ljava/lang/Class;" } : Jvm.MethodName) ({ cls := "java/lang/Object", name := "getClass", desc := "()Ljava/lang/Class;" } : Jvm.MethodName)) ∈ lw_all := lw_g (lw_at lw_m5 31 rfl) rfl
theorem q1093 : (Jvm.Cond.selects "java/lang/ClassCastException" ({ cls := "java/lang/Throwable", name := "getLocalizedMessage", desc := "()Ljava/lang/String;" } : Jvm.MethodName) ({ cls := "java/lang/Throwable", name := "getLocalizedMessage", desc := "()Ljava/lang/String;" } : Jvm.MethodName)) ∈ lw_all := lw_g (lw_at lw_m5 65 rfl) rfl
theorem q1107 : (Jvm.Cond.selects "java/lang/ClassCastException" ({ cls := "java/lang/Throwable", name := "getMessage", desc := "()Ljava/lang/String;" } : Jvm.MethodName) ({ cls := "java/lang/Throwable", name := "getMessage", desc := "()Ljava/lang/String;" } : Jvm.MethodName)) ∈ lw_all := lw_g (lw_at lw_m5 79 rfl) rfl
theorem q1334 : (Jvm.Cond.selects "java/lang/ClassCastException" ({ cls := "java/lang/Object", name := "equals", desc := "(Ljava/lang/Object;)Z" } : Jvm.MethodName) ({ cls := "java/lang/Object", name := "equals", desc := "(Ljava/lang/Object;)Z" } : Jvm.MethodName)) ∈ lw_all := lw_g (lw_at lw_m6 66 rfl) rfl
theorem q1699 : (Jvm.Cond.selects "java/lang/ClassCastException" ({ cls := "java/lang/Object", name := "hashCode", desc := "()I" } : Jvm.MethodName) ({ cls := "java/lang/Object", name := "hashCode", desc := "()I" } : Jvm.MethodName)) ∈ lw_all := lw_g (lw_at lw_m7 191 rfl) rfl
theorem q2581 : (Jvm.Cond.instantiable "java/lang/ClassCastException" (6 : Nat)) ∈ lw_all := lw_g (lw_at lw_m11 113 rfl) rfl
theorem q2582 : (Jvm.Cond.instanceMethod ({ cls := "java/lang/ClassCastException", name := "<init>", desc := "(Ljava/lang/String;)V" } : Jvm.MethodName)) ∈ lw_all := lw_g (lw_at lw_m11 114 rfl) rfl
theorem q2583 : (Jvm.Cond.code ({ cls := "java/lang/ClassCastException", name := "<init>", desc := "(Ljava/lang/String;)V" } : Jvm.MethodName) prog_20_method_2_code (2 : Nat) (Option.none : Option Jvm.ClassFile.FieldType)) ∈ lw_all := lw_g (lw_at lw_m11 115 rfl) rfl
theorem q2584 : (Jvm.Cond.methodLink "java/lang/ClassCastException" (7 : Nat) ({ cls := "java/lang/RuntimeException", name := "<init>", desc := "(Ljava/lang/String;)V" } : Jvm.MethodName)) ∈ lw_all := lw_g (lw_at lw_m11 116 rfl) rfl
theorem q2585 : (Jvm.Cond.lays "java/lang/ClassCastException" "java/lang/Throwable" "backtrace" "Ljava/lang/Object;") ∈ lw_all := lw_g (lw_at lw_m11 117 rfl) rfl
theorem q2586 : (Jvm.Cond.lays "java/lang/ClassCastException" "java/lang/Throwable" "detailMessage" "Ljava/lang/String;") ∈ lw_all := lw_g (lw_at lw_m11 118 rfl) rfl
theorem q2587 : (Jvm.Cond.lays "java/lang/ClassCastException" "java/lang/Throwable" "cause" "Ljava/lang/Throwable;") ∈ lw_all := lw_g (lw_at lw_m11 119 rfl) rfl
theorem q2588 : (Jvm.Cond.lays "java/lang/ClassCastException" "java/lang/Throwable" "stackTrace" "[Ljava/lang/StackTraceElement;") ∈ lw_all := lw_g (lw_at lw_m11 120 rfl) rfl
theorem q2589 : (Jvm.Cond.lays "java/lang/ClassCastException" "java/lang/Throwable" "depth" "I") ∈ lw_all := lw_g (lw_at lw_m11 121 rfl) rfl
theorem q2590 : (Jvm.Cond.lays "java/lang/ClassCastException" "java/lang/Throwable" "suppressedExceptions" "Ljava/util/List;") ∈ lw_all := lw_g (lw_at lw_m11 122 rfl) rfl
theorem q2591 : (Jvm.Cond.superclass "java/lang/ClassCastException" "java/lang/RuntimeException") ∈ lw_all := lw_g (lw_at lw_m11 123 rfl) rfl
theorem q2592 : (Jvm.Cond.castable "java/lang/ClassCastException" "java/lang/ClassCastException") ∈ lw_tbl := lw_at lw_m11 124 rfl
theorem q2593 : (Jvm.Cond.selects "java/lang/ClassCastException" ({ cls := "java/lang/Throwable", name := "fillInStackTrace", desc := "(I)Ljava/lang/Throwable;" } : Jvm.MethodName) ({ cls := "java/lang/Throwable", name := "fillInStackTrace", desc := "(I)Ljava/lang/Throwable;" } : Jvm.MethodName)) ∈ lw_all := lw_g (lw_at lw_m11 125 rfl) rfl
theorem q3079 : (Jvm.Cond.castable "java/lang/ClassCastException" "java/lang/Object") ∈ lw_tbl := lw_at lw_m13 131 rfl
theorem in_J44 : ∀ w ∈ wsJ440, w ∈ lw_all := lw_in wsJ440 [2585, 2586, 2587, 2588, 2589, 2590] (by decide +kernel) (by decide +kernel)
/-! java/lang/ArrayStoreException -/
set_option maxRecDepth 100000
def RJ45 : String := "java/lang/ArrayStoreException"
def TJ45 : u_T := fun k => match k with
  | 0 => ("java/lang/Throwable", "backtrace", "Ljava/lang/Object;", false)
  | 1 => ("java/lang/Throwable", "detailMessage", "Ljava/lang/String;", false)
  | 2 => ("java/lang/Throwable", "cause", "Ljava/lang/Throwable;", false)
  | 3 => ("java/lang/Throwable", "stackTrace", "[Ljava/lang/StackTraceElement;", false)
  | 4 => ("java/lang/Throwable", "depth", "I", false)
  | _ => ("java/lang/Throwable", "suppressedExceptions", "Ljava/util/List;", false)
def tyJ45 : Nat → FieldType := fun k => match k with
  | 0 => .object "java/lang/Object"
  | 1 => .object "java/lang/String"
  | 2 => .object "java/lang/Throwable"
  | 3 => .array (.object "java/lang/StackTraceElement")
  | 4 => .int
  | _ => .object "java/util/List"
abbrev wsJ450 : List Cond := u_ws RJ45 TJ45 6
theorem nmJ45 : ∀ a, a < 6 → ∀ b, b < 6 → a ≠ b → (TJ45 a).2.1 ≠ (TJ45 b).2.1 := by decide +kernel
theorem tyJ45_ok : ∀ k, k < 6 → parseFieldDescriptor (TJ45 k).2.2.1 = some (tyJ45 k) := by decide +kernel
abbrev cJ45_init : ByteArray := prog_18_method_2_code
def yJ45_init : MethodName := ⟨RJ45, "<init>", "(Ljava/lang/String;)V"⟩
def dkwJ45_init_0 : List UInt8 := [42, 43, 183, 0, 7, 177]
abbrev dktJ45_init_0 : List UInt8 := dkwJ45_init_0 ++ []
theorem dksJ45_init_0 : cJ45_init.data.toList.drop 0 = dktJ45_init_0 := by decide +kernel
theorem dJ45_init_0 : decode cJ45_init 0 = .ok (.aload_n 0, 1) := dk_42 (dk_at dksJ45_init_0 0 rfl rfl)
theorem dJ45_init_1 : decode cJ45_init 1 = .ok (.aload_n 1, 1) := dk_43 (dk_at dksJ45_init_0 1 rfl rfl)
theorem dJ45_init_2 : decode cJ45_init 2 = .ok (.invokespecial 7, 3) := dk_183 0 7 (dk_at dksJ45_init_0 2 rfl rfl)
theorem dJ45_init_5 : decode cJ45_init 5 = .ok (.return_, 1) := dk_177 (dk_at dksJ45_init_0 5 rfl rfl)
theorem q130 : (Jvm.Cond.initialized "java/lang/ArrayStoreException") ∈ lw_all := lw_g (lw_at lw_m1 62 rfl) rfl
theorem q689 : (Jvm.Cond.selects "java/lang/ArrayStoreException" ({ cls := "java/lang/Throwable", name := "fillInStackTrace", desc := "()Ljava/lang/Throwable;" } : Jvm.MethodName) ({ cls := "java/lang/Throwable", name := "fillInStackTrace", desc := "()Ljava/lang/Throwable;" } : Jvm.MethodName)) ∈ lw_all := lw_g (lw_at lw_m3 141 rfl) rfl
theorem q1033 : (Jvm.Cond.selects "java/lang/ArrayStoreException" ({ cls := "java/lang/Throwable", name := "toString", desc := "()Ljava/lang/String;" } : Jvm.MethodName) ({ cls := "java/lang/Throwable", name := "toString", desc := "()Ljava/lang/String;" } : Jvm.MethodName)) ∈ lw_all := lw_g (lw_at lw_m5 5 rfl) rfl
theorem q1058 : (Jvm.Cond.selects "java/lang/ArrayStoreException" ({ cls := "java/lang/Object", name := "getClass", desc := "()Ljava/lang/Class;" } : Jvm.MethodName) ({ cls := "java/lang/Object", name := "getClass", desc := "()Ljava/lang/Class;" } : Jvm.MethodName)) ∈ lw_all := lw_g (lw_at lw_m5 30 rfl) rfl
theorem q1092 : (Jvm.Cond.selects "java/lang/ArrayStoreException" ({ cls := "java/lang/Throwable", name := "getLocalizedMessage", desc := "()Ljava/lang/String;" } : Jvm.MethodName) ({ cls := "java/lang/Throwable", name := "getLocalizedMessage", desc := "()Ljava/lang/String;" } : Jvm.MethodName)) ∈ lw_all := lw_g (lw_at lw_m5 64 rfl) rfl
theorem q1106 : (Jvm.Cond.selects "java/lang/ArrayStoreException" ({ cls := "java/lang/Throwable", name := "getMessage", desc := "()Ljava/lang/String;" } : Jvm.MethodName) ({ cls := "java/lang/Throwable", name := "getMessage", desc := "()Ljava/lang/String;" } : Jvm.MethodName)) ∈ lw_all := lw_g (lw_at lw_m5 78 rfl) rfl
theorem q1333 : (Jvm.Cond.selects "java/lang/ArrayStoreException" ({ cls := "java/lang/Object", name := "equals", desc := "(Ljava/lang/Object;)Z" } : Jvm.MethodName) ({ cls := "java/lang/Object", name := "equals", desc := "(Ljava/lang/Object;)Z" } : Jvm.MethodName)) ∈ lw_all := lw_g (lw_at lw_m6 65 rfl) rfl
theorem q1698 : (Jvm.Cond.selects "java/lang/ArrayStoreException" ({ cls := "java/lang/Object", name := "hashCode", desc := "()I" } : Jvm.MethodName) ({ cls := "java/lang/Object", name := "hashCode", desc := "()I" } : Jvm.MethodName)) ∈ lw_all := lw_g (lw_at lw_m7 190 rfl) rfl
theorem q2702 : (Jvm.Cond.instantiable "java/lang/ArrayStoreException" (6 : Nat)) ∈ lw_all := lw_g (lw_at lw_m11 234 rfl) rfl
theorem q2703 : (Jvm.Cond.instanceMethod ({ cls := "java/lang/ArrayStoreException", name := "<init>", desc := "(Ljava/lang/String;)V" } : Jvm.MethodName)) ∈ lw_all := lw_g (lw_at lw_m11 235 rfl) rfl
theorem q2704 : (Jvm.Cond.code ({ cls := "java/lang/ArrayStoreException", name := "<init>", desc := "(Ljava/lang/String;)V" } : Jvm.MethodName) prog_18_method_2_code (2 : Nat) (Option.none : Option Jvm.ClassFile.FieldType)) ∈ lw_all := lw_g (lw_at lw_m11 236 rfl) rfl
theorem q2705 : (Jvm.Cond.methodLink "java/lang/ArrayStoreException" (7 : Nat) ({ cls := "java/lang/RuntimeException", name := "<init>", desc := "(Ljava/lang/String;)V" } : Jvm.MethodName)) ∈ lw_all := lw_g (lw_at lw_m11 237 rfl) rfl
theorem q2706 : (Jvm.Cond.lays "java/lang/ArrayStoreException" "java/lang/Throwable" "backtrace" "Ljava/lang/Object;") ∈ lw_all := lw_g (lw_at lw_m11 238 rfl) rfl
theorem q2707 : (Jvm.Cond.lays "java/lang/ArrayStoreException" "java/lang/Throwable" "detailMessage" "Ljava/lang/String;") ∈ lw_all := lw_g (lw_at lw_m11 239 rfl) rfl
theorem q2708 : (Jvm.Cond.lays "java/lang/ArrayStoreException" "java/lang/Throwable" "cause" "Ljava/lang/Throwable;") ∈ lw_all := lw_g (lw_at lw_m12 0 rfl) rfl
theorem q2709 : (Jvm.Cond.lays "java/lang/ArrayStoreException" "java/lang/Throwable" "stackTrace" "[Ljava/lang/StackTraceElement;") ∈ lw_all := lw_g (lw_at lw_m12 1 rfl) rfl
theorem q2710 : (Jvm.Cond.lays "java/lang/ArrayStoreException" "java/lang/Throwable" "depth" "I") ∈ lw_all := lw_g (lw_at lw_m12 2 rfl) rfl
theorem q2711 : (Jvm.Cond.lays "java/lang/ArrayStoreException" "java/lang/Throwable" "suppressedExceptions" "Ljava/util/List;") ∈ lw_all := lw_g (lw_at lw_m12 3 rfl) rfl
theorem q2712 : (Jvm.Cond.superclass "java/lang/ArrayStoreException" "java/lang/RuntimeException") ∈ lw_all := lw_g (lw_at lw_m12 4 rfl) rfl
theorem q2713 : (Jvm.Cond.castable "java/lang/ArrayStoreException" "java/lang/ArrayStoreException") ∈ lw_tbl := lw_at lw_m12 5 rfl
theorem q2714 : (Jvm.Cond.selects "java/lang/ArrayStoreException" ({ cls := "java/lang/Throwable", name := "fillInStackTrace", desc := "(I)Ljava/lang/Throwable;" } : Jvm.MethodName) ({ cls := "java/lang/Throwable", name := "fillInStackTrace", desc := "(I)Ljava/lang/Throwable;" } : Jvm.MethodName)) ∈ lw_all := lw_g (lw_at lw_m12 6 rfl) rfl
theorem q3080 : (Jvm.Cond.castable "java/lang/ArrayStoreException" "java/lang/Object") ∈ lw_tbl := lw_at lw_m13 132 rfl
theorem in_J45 : ∀ w ∈ wsJ450, w ∈ lw_all := lw_in wsJ450 [2706, 2707, 2708, 2709, 2710, 2711] (by decide +kernel) (by decide +kernel)
/-! java/lang/ArrayIndexOutOfBoundsException -/
set_option maxRecDepth 100000
def RJ46 : String := "java/lang/ArrayIndexOutOfBoundsException"
def TJ46 : u_T := fun k => match k with
  | 0 => ("java/lang/Throwable", "backtrace", "Ljava/lang/Object;", false)
  | 1 => ("java/lang/Throwable", "detailMessage", "Ljava/lang/String;", false)
  | 2 => ("java/lang/Throwable", "cause", "Ljava/lang/Throwable;", false)
  | 3 => ("java/lang/Throwable", "stackTrace", "[Ljava/lang/StackTraceElement;", false)
  | 4 => ("java/lang/Throwable", "depth", "I", false)
  | _ => ("java/lang/Throwable", "suppressedExceptions", "Ljava/util/List;", false)
def tyJ46 : Nat → FieldType := fun k => match k with
  | 0 => .object "java/lang/Object"
  | 1 => .object "java/lang/String"
  | 2 => .object "java/lang/Throwable"
  | 3 => .array (.object "java/lang/StackTraceElement")
  | 4 => .int
  | _ => .object "java/util/List"
abbrev wsJ460 : List Cond := u_ws RJ46 TJ46 6
theorem nmJ46 : ∀ a, a < 6 → ∀ b, b < 6 → a ≠ b → (TJ46 a).2.1 ≠ (TJ46 b).2.1 := by decide +kernel
theorem tyJ46_ok : ∀ k, k < 6 → parseFieldDescriptor (TJ46 k).2.2.1 = some (tyJ46 k) := by decide +kernel
abbrev cJ46_init : ByteArray := prog_17_method_2_code
def yJ46_init : MethodName := ⟨RJ46, "<init>", "(Ljava/lang/String;)V"⟩
def dkwJ46_init_0 : List UInt8 := [42, 43, 183, 0, 7, 177]
abbrev dktJ46_init_0 : List UInt8 := dkwJ46_init_0 ++ []
theorem dksJ46_init_0 : cJ46_init.data.toList.drop 0 = dktJ46_init_0 := by decide +kernel
theorem dJ46_init_0 : decode cJ46_init 0 = .ok (.aload_n 0, 1) := dk_42 (dk_at dksJ46_init_0 0 rfl rfl)
theorem dJ46_init_1 : decode cJ46_init 1 = .ok (.aload_n 1, 1) := dk_43 (dk_at dksJ46_init_0 1 rfl rfl)
theorem dJ46_init_2 : decode cJ46_init 2 = .ok (.invokespecial 7, 3) := dk_183 0 7 (dk_at dksJ46_init_0 2 rfl rfl)
theorem dJ46_init_5 : decode cJ46_init 5 = .ok (.return_, 1) := dk_177 (dk_at dksJ46_init_0 5 rfl rfl)
theorem q131 : (Jvm.Cond.initialized "java/lang/ArrayIndexOutOfBoundsException") ∈ lw_all := lw_g (lw_at lw_m1 63 rfl) rfl
theorem q688 : (Jvm.Cond.selects "java/lang/ArrayIndexOutOfBoundsException" ({ cls := "java/lang/Throwable", name := "fillInStackTrace", desc := "()Ljava/lang/Throwable;" } : Jvm.MethodName) ({ cls := "java/lang/Throwable", name := "fillInStackTrace", desc := "()Ljava/lang/Throwable;" } : Jvm.MethodName)) ∈ lw_all := lw_g (lw_at lw_m3 140 rfl) rfl
theorem q1032 : (Jvm.Cond.selects "java/lang/ArrayIndexOutOfBoundsException" ({ cls := "java/lang/Throwable", name := "toString", desc := "()Ljava/lang/String;" } : Jvm.MethodName) ({ cls := "java/lang/Throwable", name := "toString", desc := "()Ljava/lang/String;" } : Jvm.MethodName)) ∈ lw_all := lw_g (lw_at lw_m5 4 rfl) rfl
theorem q1057 : (Jvm.Cond.selects "java/lang/ArrayIndexOutOfBoundsException" ({ cls := "java/lang/Object", name := "getClass", desc := "()Ljava/lang/Class;" } : Jvm.MethodName) ({ cls := "java/lang/Object", name := "getClass", desc := "()Ljava/lang/Class;" } : Jvm.MethodName)) ∈ lw_all := lw_g (lw_at lw_m5 29 rfl) rfl
theorem q1091 : (Jvm.Cond.selects "java/lang/ArrayIndexOutOfBoundsException" ({ cls := "java/lang/Throwable", name := "getLocalizedMessage", desc := "()Ljava/lang/String;" } : Jvm.MethodName) ({ cls := "java/lang/Throwable", name := "getLocalizedMessage", desc := "()Ljava/lang/String;" } : Jvm.MethodName)) ∈ lw_all := lw_g (lw_at lw_m5 63 rfl) rfl
theorem q1105 : (Jvm.Cond.selects "java/lang/ArrayIndexOutOfBoundsException" ({ cls := "java/lang/Throwable", name := "getMessage", desc := "()Ljava/lang/String;" } : Jvm.MethodName) ({ cls := "java/lang/Throwable", name := "getMessage", desc := "()Ljava/lang/String;" } : Jvm.MethodName)) ∈ lw_all := lw_g (lw_at lw_m5 77 rfl) rfl
theorem q1332 : (Jvm.Cond.selects "java/lang/ArrayIndexOutOfBoundsException" ({ cls := "java/lang/Object", name := "equals", desc := "(Ljava/lang/Object;)Z" } : Jvm.MethodName) ({ cls := "java/lang/Object", name := "equals", desc := "(Ljava/lang/Object;)Z" } : Jvm.MethodName)) ∈ lw_all := lw_g (lw_at lw_m6 64 rfl) rfl
theorem q1697 : (Jvm.Cond.selects "java/lang/ArrayIndexOutOfBoundsException" ({ cls := "java/lang/Object", name := "hashCode", desc := "()I" } : Jvm.MethodName) ({ cls := "java/lang/Object", name := "hashCode", desc := "()I" } : Jvm.MethodName)) ∈ lw_all := lw_g (lw_at lw_m7 189 rfl) rfl
theorem q2716 : (Jvm.Cond.instantiable "java/lang/ArrayIndexOutOfBoundsException" (6 : Nat)) ∈ lw_all := lw_g (lw_at lw_m12 8 rfl) rfl
theorem q2717 : (Jvm.Cond.instanceMethod ({ cls := "java/lang/ArrayIndexOutOfBoundsException", name := "<init>", desc := "(Ljava/lang/String;)V" } : Jvm.MethodName)) ∈ lw_all := lw_g (lw_at lw_m12 9 rfl) rfl
theorem q2718 : (Jvm.Cond.code ({ cls := "java/lang/ArrayIndexOutOfBoundsException", name := "<init>", desc := "(Ljava/lang/String;)V" } : Jvm.MethodName) prog_17_method_2_code (2 : Nat) (Option.none : Option Jvm.ClassFile.FieldType)) ∈ lw_all := lw_g (lw_at lw_m12 10 rfl) rfl
theorem q2719 : (Jvm.Cond.methodLink "java/lang/ArrayIndexOutOfBoundsException" (7 : Nat) ({ cls := "java/lang/IndexOutOfBoundsException", name := "<init>", desc := "(Ljava/lang/String;)V" } : Jvm.MethodName)) ∈ lw_all := lw_g (lw_at lw_m12 11 rfl) rfl
theorem q2720 : (Jvm.Cond.lays "java/lang/ArrayIndexOutOfBoundsException" "java/lang/Throwable" "backtrace" "Ljava/lang/Object;") ∈ lw_all := lw_g (lw_at lw_m12 12 rfl) rfl
theorem q2721 : (Jvm.Cond.lays "java/lang/ArrayIndexOutOfBoundsException" "java/lang/Throwable" "detailMessage" "Ljava/lang/String;") ∈ lw_all := lw_g (lw_at lw_m12 13 rfl) rfl
theorem q2722 : (Jvm.Cond.lays "java/lang/ArrayIndexOutOfBoundsException" "java/lang/Throwable" "cause" "Ljava/lang/Throwable;") ∈ lw_all := lw_g (lw_at lw_m12 14 rfl) rfl
theorem q2723 : (Jvm.Cond.lays "java/lang/ArrayIndexOutOfBoundsException" "java/lang/Throwable" "stackTrace" "[Ljava/lang/StackTraceElement;") ∈ lw_all := lw_g (lw_at lw_m12 15 rfl) rfl
theorem q2724 : (Jvm.Cond.lays "java/lang/ArrayIndexOutOfBoundsException" "java/lang/Throwable" "depth" "I") ∈ lw_all := lw_g (lw_at lw_m12 16 rfl) rfl
theorem q2725 : (Jvm.Cond.lays "java/lang/ArrayIndexOutOfBoundsException" "java/lang/Throwable" "suppressedExceptions" "Ljava/util/List;") ∈ lw_all := lw_g (lw_at lw_m12 17 rfl) rfl
theorem q2726 : (Jvm.Cond.superclass "java/lang/ArrayIndexOutOfBoundsException" "java/lang/IndexOutOfBoundsException") ∈ lw_all := lw_g (lw_at lw_m12 18 rfl) rfl
theorem q2727 : (Jvm.Cond.castable "java/lang/ArrayIndexOutOfBoundsException" "java/lang/ArrayIndexOutOfBoundsException") ∈ lw_tbl := lw_at lw_m12 19 rfl
theorem q2730 : (Jvm.Cond.selects "java/lang/ArrayIndexOutOfBoundsException" ({ cls := "java/lang/Throwable", name := "fillInStackTrace", desc := "(I)Ljava/lang/Throwable;" } : Jvm.MethodName) ({ cls := "java/lang/Throwable", name := "fillInStackTrace", desc := "(I)Ljava/lang/Throwable;" } : Jvm.MethodName)) ∈ lw_all := lw_g (lw_at lw_m12 22 rfl) rfl
theorem q3032 : (Jvm.Cond.castable "java/lang/ArrayIndexOutOfBoundsException" "java/lang/IndexOutOfBoundsException") ∈ lw_tbl := lw_at lw_m13 84 rfl
theorem q3081 : (Jvm.Cond.castable "java/lang/ArrayIndexOutOfBoundsException" "java/lang/Object") ∈ lw_tbl := lw_at lw_m13 133 rfl
theorem in_J46 : ∀ w ∈ wsJ460, w ∈ lw_all := lw_in wsJ460 [2720, 2721, 2722, 2723, 2724, 2725] (by decide +kernel) (by decide +kernel)
/-! java/lang/Object -/
set_option maxRecDepth 100000
def RJ47 : String := "java/lang/Object"
abbrev cJ47_init : ByteArray := object_method_1_code
def yJ47_init : MethodName := ⟨RJ47, "<init>", "()V"⟩
theorem dJ47_init_0 : decode cJ47_init 0 = .ok (.return_, 1) := by decide +kernel
abbrev cJ47_equals : ByteArray := object_method_4_code
def yJ47_equals : MethodName := ⟨RJ47, "equals", "(Ljava/lang/Object;)Z"⟩
def dkwJ47_equals_0 : List UInt8 := [42, 43, 166, 0, 7, 4, 167, 0, 4, 3, 172]
abbrev dktJ47_equals_0 : List UInt8 := dkwJ47_equals_0 ++ []
theorem dksJ47_equals_0 : cJ47_equals.data.toList.drop 0 = dktJ47_equals_0 := by decide +kernel
theorem dJ47_equals_0 : decode cJ47_equals 0 = .ok (.aload_n 0, 1) := dk_42 (dk_at dksJ47_equals_0 0 rfl rfl)
theorem dJ47_equals_1 : decode cJ47_equals 1 = .ok (.aload_n 1, 1) := dk_43 (dk_at dksJ47_equals_0 1 rfl rfl)
theorem dJ47_equals_2 : decode cJ47_equals 2 = .ok (.if_acmp .ne 7, 3) := dk_166 0 7 (dk_at dksJ47_equals_0 2 rfl rfl)
theorem dJ47_equals_5 : decode cJ47_equals 5 = .ok (.iconst 1, 1) := dk_4 (dk_at dksJ47_equals_0 5 rfl rfl)
theorem dJ47_equals_6 : decode cJ47_equals 6 = .ok (.goto 4, 3) := dk_167 0 4 (dk_at dksJ47_equals_0 6 rfl rfl)
theorem dJ47_equals_9 : decode cJ47_equals 9 = .ok (.iconst 0, 1) := dk_3 (dk_at dksJ47_equals_0 9 rfl rfl)
theorem dJ47_equals_10 : decode cJ47_equals 10 = .ok (.ireturn, 1) := dk_172 (dk_at dksJ47_equals_0 10 rfl rfl)
theorem q138 : (Jvm.Cond.instanceMethod ({ cls := "java/lang/Object", name := "<init>", desc := "()V" } : Jvm.MethodName)) ∈ lw_all := lw_g (lw_at lw_m1 70 rfl) rfl
theorem q139 : (Jvm.Cond.code ({ cls := "java/lang/Object", name := "<init>", desc := "()V" } : Jvm.MethodName) object_method_1_code (1 : Nat) (Option.none : Option Jvm.ClassFile.FieldType)) ∈ lw_all := lw_g (lw_at lw_m1 71 rfl) rfl
theorem q818 : (Jvm.Cond.native ({ cls := "java/lang/Object", name := "clone", desc := "()Ljava/lang/Object;" } : Jvm.MethodName)) ∈ lw_all := lw_g (lw_at lw_m4 30 rfl) rfl
theorem q819 : (Jvm.Cond.instanceMethod ({ cls := "java/lang/Object", name := "clone", desc := "()Ljava/lang/Object;" } : Jvm.MethodName)) ∈ lw_all := lw_g (lw_at lw_m4 31 rfl) rfl
theorem q1043 : (Jvm.Cond.instanceMethod ({ cls := "java/lang/Object", name := "getClass", desc := "()Ljava/lang/Class;" } : Jvm.MethodName)) ∈ lw_all := lw_g (lw_at lw_m5 15 rfl) rfl
theorem q1044 : (Jvm.Cond.sameMethod "java/lang/Object" "java/lang/Object" "getClass" "()Ljava/lang/Class;") ∈ lw_all := lw_g (lw_at lw_m5 16 rfl) rfl
theorem q1086 : (Jvm.Cond.native ({ cls := "java/lang/Object", name := "getClass", desc := "()Ljava/lang/Class;" } : Jvm.MethodName)) ∈ lw_all := lw_g (lw_at lw_m5 58 rfl) rfl
theorem q1313 : (Jvm.Cond.declares ({ cls := "java/lang/Object", name := "equals", desc := "(Ljava/lang/Object;)Z" } : Jvm.MethodName)) ∈ lw_tbl := lw_at lw_m6 45 rfl
theorem q1315 : (Jvm.Cond.instanceMethod ({ cls := "java/lang/Object", name := "equals", desc := "(Ljava/lang/Object;)Z" } : Jvm.MethodName)) ∈ lw_all := lw_g (lw_at lw_m6 47 rfl) rfl
theorem q1316 : (Jvm.Cond.sameMethod "java/lang/Object" "java/lang/Object" "equals" "(Ljava/lang/Object;)Z") ∈ lw_all := lw_g (lw_at lw_m6 48 rfl) rfl
theorem q1349 : (Jvm.Cond.code ({ cls := "java/lang/Object", name := "equals", desc := "(Ljava/lang/Object;)Z" } : Jvm.MethodName) object_method_4_code (2 : Nat) (Option.some Jvm.ClassFile.FieldType.boolean)) ∈ lw_all := lw_g (lw_at lw_m6 81 rfl) rfl
theorem q1679 : (Jvm.Cond.declares ({ cls := "java/lang/Object", name := "hashCode", desc := "()I" } : Jvm.MethodName)) ∈ lw_tbl := lw_at lw_m7 171 rfl
theorem q1681 : (Jvm.Cond.instanceMethod ({ cls := "java/lang/Object", name := "hashCode", desc := "()I" } : Jvm.MethodName)) ∈ lw_all := lw_g (lw_at lw_m7 173 rfl) rfl
theorem q1682 : (Jvm.Cond.sameMethod "java/lang/Object" "java/lang/Object" "hashCode" "()I") ∈ lw_all := lw_g (lw_at lw_m7 174 rfl) rfl
theorem q1759 : (Jvm.Cond.native ({ cls := "java/lang/Object", name := "hashCode", desc := "()I" } : Jvm.MethodName)) ∈ lw_all := lw_g (lw_at lw_m8 11 rfl) rfl
theorem q3087 : (Jvm.Cond.declares ({ cls := "java/lang/Object", name := "getClass", desc := "()Ljava/lang/Class;" } : Jvm.MethodName)) ∈ lw_tbl := lw_at lw_m13 139 rfl
/-! java/lang/System$2 -/
set_option maxRecDepth 100000
def RJ48 : String := "java/lang/System$2"
abbrev cJ48_getUTF16Char : ByteArray := prog_39_method_45_code
def yJ48_getUTF16Char : MethodName := ⟨RJ48, "getUTF16Char", "([BI)C"⟩
def dkwJ48_getUTF16Char_0 : List UInt8 := [43, 28, 184, 0, 185, 172]
abbrev dktJ48_getUTF16Char_0 : List UInt8 := dkwJ48_getUTF16Char_0 ++ []
theorem dksJ48_getUTF16Char_0 : cJ48_getUTF16Char.data.toList.drop 0 = dktJ48_getUTF16Char_0 := by decide +kernel
theorem dJ48_getUTF16Char_0 : decode cJ48_getUTF16Char 0 = .ok (.aload_n 1, 1) := dk_43 (dk_at dksJ48_getUTF16Char_0 0 rfl rfl)
theorem dJ48_getUTF16Char_1 : decode cJ48_getUTF16Char 1 = .ok (.iload_n 2, 1) := dk_28 (dk_at dksJ48_getUTF16Char_0 1 rfl rfl)
theorem dJ48_getUTF16Char_2 : decode cJ48_getUTF16Char 2 = .ok (.invokestatic 185, 3) := dk_184 0 185 (dk_at dksJ48_getUTF16Char_0 2 rfl rfl)
theorem dJ48_getUTF16Char_5 : decode cJ48_getUTF16Char 5 = .ok (.ireturn, 1) := dk_172 (dk_at dksJ48_getUTF16Char_0 5 rfl rfl)
theorem q1066 : (Jvm.Cond.selects "java/lang/System$2" ({ cls := "java/lang/Object", name := "getClass", desc := "()Ljava/lang/Class;" } : Jvm.MethodName) ({ cls := "java/lang/Object", name := "getClass", desc := "()Ljava/lang/Class;" } : Jvm.MethodName)) ∈ lw_all := lw_g (lw_at lw_m5 38 rfl) rfl
theorem q1347 : (Jvm.Cond.selects "java/lang/System$2" ({ cls := "java/lang/Object", name := "equals", desc := "(Ljava/lang/Object;)Z" } : Jvm.MethodName) ({ cls := "java/lang/Object", name := "equals", desc := "(Ljava/lang/Object;)Z" } : Jvm.MethodName)) ∈ lw_all := lw_g (lw_at lw_m6 79 rfl) rfl
theorem q1730 : (Jvm.Cond.castable "java/lang/System$2" "jdk/internal/access/JavaLangAccess") ∈ lw_tbl := lw_at lw_m7 222 rfl
theorem q1731 : (Jvm.Cond.selects "java/lang/System$2" ({ cls := "jdk/internal/access/JavaLangAccess", name := "getUTF16Char", desc := "([BI)C" } : Jvm.MethodName) ({ cls := "java/lang/System$2", name := "getUTF16Char", desc := "([BI)C" } : Jvm.MethodName)) ∈ lw_all := lw_g (lw_at lw_m7 223 rfl) rfl
theorem q1732 : (Jvm.Cond.unhidden "java/lang/System$2" "getUTF16Char" "([BI)C") ∈ lw_tbl := lw_at lw_m7 224 rfl
theorem q1733 : (Jvm.Cond.instanceMethod ({ cls := "java/lang/System$2", name := "getUTF16Char", desc := "([BI)C" } : Jvm.MethodName)) ∈ lw_all := lw_g (lw_at lw_m7 225 rfl) rfl
theorem q1734 : (Jvm.Cond.publicMethod ({ cls := "java/lang/System$2", name := "getUTF16Char", desc := "([BI)C" } : Jvm.MethodName)) ∈ lw_tbl := lw_at lw_m7 226 rfl
theorem q1735 : (Jvm.Cond.code ({ cls := "java/lang/System$2", name := "getUTF16Char", desc := "([BI)C" } : Jvm.MethodName) prog_39_method_45_code (3 : Nat) (Option.some Jvm.ClassFile.FieldType.char)) ∈ lw_all := lw_g (lw_at lw_m7 227 rfl) rfl
theorem q1736 : (Jvm.Cond.methodLink "java/lang/System$2" (185 : Nat) ({ cls := "java/lang/StringUTF16", name := "getChar", desc := "([BI)C" } : Jvm.MethodName)) ∈ lw_all := lw_g (lw_at lw_m7 228 rfl) rfl
theorem q1757 : (Jvm.Cond.selects "java/lang/System$2" ({ cls := "java/lang/Object", name := "hashCode", desc := "()I" } : Jvm.MethodName) ({ cls := "java/lang/Object", name := "hashCode", desc := "()I" } : Jvm.MethodName)) ∈ lw_all := lw_g (lw_at lw_m8 9 rfl) rfl
theorem q3075 : (Jvm.Cond.castable "java/lang/System$2" "java/lang/Object") ∈ lw_tbl := lw_at lw_m13 127 rfl
/-! java/util/AbstractList$Itr -/
set_option maxRecDepth 100000
def RJ40 : String := "java/util/AbstractList$Itr"
abbrev cJ40_hasNext : ByteArray := prog_45_method_2_code
def yJ40_hasNext : MethodName := ⟨RJ40, "hasNext", "()Z"⟩
def dkwJ40_hasNext_0 : List UInt8 := [42, 180, 0, 13, 42, 180, 0, 1, 182, 0, 28, 159, 0, 7, 4, 167, 0, 4, 3, 172]
abbrev dktJ40_hasNext_0 : List UInt8 := dkwJ40_hasNext_0 ++ []
theorem dksJ40_hasNext_0 : cJ40_hasNext.data.toList.drop 0 = dktJ40_hasNext_0 := by decide +kernel
theorem dJ40_hasNext_0 : decode cJ40_hasNext 0 = .ok (.aload_n 0, 1) := dk_42 (dk_at dksJ40_hasNext_0 0 rfl rfl)
theorem dJ40_hasNext_1 : decode cJ40_hasNext 1 = .ok (.getfield 13, 3) := dk_180 0 13 (dk_at dksJ40_hasNext_0 1 rfl rfl)
theorem dJ40_hasNext_4 : decode cJ40_hasNext 4 = .ok (.aload_n 0, 1) := dk_42 (dk_at dksJ40_hasNext_0 4 rfl rfl)
theorem dJ40_hasNext_5 : decode cJ40_hasNext 5 = .ok (.getfield 1, 3) := dk_180 0 1 (dk_at dksJ40_hasNext_0 5 rfl rfl)
theorem dJ40_hasNext_8 : decode cJ40_hasNext 8 = .ok (.invokevirtual 28, 3) := dk_182 0 28 (dk_at dksJ40_hasNext_0 8 rfl rfl)
theorem dJ40_hasNext_11 : decode cJ40_hasNext 11 = .ok (.if_icmp .eq 7, 3) := dk_159 0 7 (dk_at dksJ40_hasNext_0 11 rfl rfl)
theorem dJ40_hasNext_14 : decode cJ40_hasNext 14 = .ok (.iconst 1, 1) := dk_4 (dk_at dksJ40_hasNext_0 14 rfl rfl)
theorem dJ40_hasNext_15 : decode cJ40_hasNext 15 = .ok (.goto 4, 3) := dk_167 0 4 (dk_at dksJ40_hasNext_0 15 rfl rfl)
theorem dJ40_hasNext_18 : decode cJ40_hasNext 18 = .ok (.iconst 0, 1) := dk_3 (dk_at dksJ40_hasNext_0 18 rfl rfl)
theorem dJ40_hasNext_19 : decode cJ40_hasNext 19 = .ok (.ireturn, 1) := dk_172 (dk_at dksJ40_hasNext_0 19 rfl rfl)
abbrev cJ40_next : ByteArray := prog_45_method_3_code
def yJ40_next : MethodName := ⟨RJ40, "next", "()Ljava/lang/Object;"⟩
def dkwJ40_next_1 : List UInt8 := [27, 4, 96, 181, 0, 13, 44, 176, 76, 42, 182, 0, 32, 187, 0, 41, 89, 43, 183, 0, 43, 191]
abbrev dktJ40_next_1 : List UInt8 := dkwJ40_next_1 ++ []
def dkwJ40_next_0 : List UInt8 := [42, 182, 0, 32, 42, 180, 0, 13, 60, 42, 180, 0, 1, 27, 182, 0, 35, 77, 42, 27, 181, 0, 17, 42]
abbrev dktJ40_next_0 : List UInt8 := dkwJ40_next_0 ++ dktJ40_next_1
theorem dksJ40_next_0 : cJ40_next.data.toList.drop 0 = dktJ40_next_0 := by decide +kernel
theorem dksJ40_next_1 : cJ40_next.data.toList.drop 24 = dktJ40_next_1 := dk_seg dksJ40_next_0 24 rfl rfl
theorem dJ40_next_0 : decode cJ40_next 0 = .ok (.aload_n 0, 1) := dk_42 (dk_at dksJ40_next_0 0 rfl rfl)
theorem dJ40_next_1 : decode cJ40_next 1 = .ok (.invokevirtual 32, 3) := dk_182 0 32 (dk_at dksJ40_next_0 1 rfl rfl)
theorem dJ40_next_4 : decode cJ40_next 4 = .ok (.aload_n 0, 1) := dk_42 (dk_at dksJ40_next_0 4 rfl rfl)
theorem dJ40_next_5 : decode cJ40_next 5 = .ok (.getfield 13, 3) := dk_180 0 13 (dk_at dksJ40_next_0 5 rfl rfl)
theorem dJ40_next_8 : decode cJ40_next 8 = .ok (.istore_n 1, 1) := dk_60 (dk_at dksJ40_next_0 8 rfl rfl)
theorem dJ40_next_9 : decode cJ40_next 9 = .ok (.aload_n 0, 1) := dk_42 (dk_at dksJ40_next_0 9 rfl rfl)
theorem dJ40_next_10 : decode cJ40_next 10 = .ok (.getfield 1, 3) := dk_180 0 1 (dk_at dksJ40_next_0 10 rfl rfl)
theorem dJ40_next_13 : decode cJ40_next 13 = .ok (.iload_n 1, 1) := dk_27 (dk_at dksJ40_next_0 13 rfl rfl)
theorem dJ40_next_14 : decode cJ40_next 14 = .ok (.invokevirtual 35, 3) := dk_182 0 35 (dk_at dksJ40_next_0 14 rfl rfl)
theorem dJ40_next_17 : decode cJ40_next 17 = .ok (.astore_n 2, 1) := dk_77 (dk_at dksJ40_next_0 17 rfl rfl)
theorem dJ40_next_18 : decode cJ40_next 18 = .ok (.aload_n 0, 1) := dk_42 (dk_at dksJ40_next_0 18 rfl rfl)
theorem dJ40_next_19 : decode cJ40_next 19 = .ok (.iload_n 1, 1) := dk_27 (dk_at dksJ40_next_0 19 rfl rfl)
theorem dJ40_next_20 : decode cJ40_next 20 = .ok (.putfield 17, 3) := dk_181 0 17 (dk_at dksJ40_next_0 20 rfl rfl)
theorem dJ40_next_23 : decode cJ40_next 23 = .ok (.aload_n 0, 1) := dk_42 (dk_at dksJ40_next_0 23 rfl rfl)
theorem dJ40_next_24 : decode cJ40_next 24 = .ok (.iload_n 1, 1) := dk_27 (dk_at dksJ40_next_1 0 rfl rfl)
theorem dJ40_next_25 : decode cJ40_next 25 = .ok (.iconst 1, 1) := dk_4 (dk_at dksJ40_next_1 1 rfl rfl)
theorem dJ40_next_26 : decode cJ40_next 26 = .ok (.iadd, 1) := dk_96 (dk_at dksJ40_next_1 2 rfl rfl)
theorem dJ40_next_27 : decode cJ40_next 27 = .ok (.putfield 13, 3) := dk_181 0 13 (dk_at dksJ40_next_1 3 rfl rfl)
theorem dJ40_next_30 : decode cJ40_next 30 = .ok (.aload_n 2, 1) := dk_44 (dk_at dksJ40_next_1 6 rfl rfl)
theorem dJ40_next_31 : decode cJ40_next 31 = .ok (.areturn, 1) := dk_176 (dk_at dksJ40_next_1 7 rfl rfl)
theorem dJ40_next_32 : decode cJ40_next 32 = .ok (.astore_n 1, 1) := dk_76 (dk_at dksJ40_next_1 8 rfl rfl)
theorem dJ40_next_33 : decode cJ40_next 33 = .ok (.aload_n 0, 1) := dk_42 (dk_at dksJ40_next_1 9 rfl rfl)
theorem dJ40_next_34 : decode cJ40_next 34 = .ok (.invokevirtual 32, 3) := dk_182 0 32 (dk_at dksJ40_next_1 10 rfl rfl)
theorem dJ40_next_37 : decode cJ40_next 37 = .ok (.new 41, 3) := dk_187 0 41 (dk_at dksJ40_next_1 13 rfl rfl)
theorem dJ40_next_40 : decode cJ40_next 40 = .ok (.dup, 1) := dk_89 (dk_at dksJ40_next_1 16 rfl rfl)
theorem dJ40_next_41 : decode cJ40_next 41 = .ok (.aload_n 1, 1) := dk_43 (dk_at dksJ40_next_1 17 rfl rfl)
theorem dJ40_next_42 : decode cJ40_next 42 = .ok (.invokespecial 43, 3) := dk_183 0 43 (dk_at dksJ40_next_1 18 rfl rfl)
theorem dJ40_next_45 : decode cJ40_next 45 = .ok (.athrow, 1) := dk_191 (dk_at dksJ40_next_1 21 rfl rfl)
abbrev cJ40_checkForComodification : ByteArray := prog_45_method_5_code
def yJ40_checkForComodification : MethodName := ⟨RJ40, "checkForComodification", "()V"⟩
def dkwJ40_checkForComodification_0 : List UInt8 := [42, 180, 0, 1, 180, 0, 20, 42, 180, 0, 25, 159, 0, 11, 187, 0, 52, 89, 183, 0, 54, 191, 177]
abbrev dktJ40_checkForComodification_0 : List UInt8 := dkwJ40_checkForComodification_0 ++ []
theorem dksJ40_checkForComodification_0 : cJ40_checkForComodification.data.toList.drop 0 = dktJ40_checkForComodification_0 := by decide +kernel
theorem dJ40_checkForComodification_0 : decode cJ40_checkForComodification 0 = .ok (.aload_n 0, 1) := dk_42 (dk_at dksJ40_checkForComodification_0 0 rfl rfl)
theorem dJ40_checkForComodification_1 : decode cJ40_checkForComodification 1 = .ok (.getfield 1, 3) := dk_180 0 1 (dk_at dksJ40_checkForComodification_0 1 rfl rfl)
theorem dJ40_checkForComodification_4 : decode cJ40_checkForComodification 4 = .ok (.getfield 20, 3) := dk_180 0 20 (dk_at dksJ40_checkForComodification_0 4 rfl rfl)
theorem dJ40_checkForComodification_7 : decode cJ40_checkForComodification 7 = .ok (.aload_n 0, 1) := dk_42 (dk_at dksJ40_checkForComodification_0 7 rfl rfl)
theorem dJ40_checkForComodification_8 : decode cJ40_checkForComodification 8 = .ok (.getfield 25, 3) := dk_180 0 25 (dk_at dksJ40_checkForComodification_0 8 rfl rfl)
theorem dJ40_checkForComodification_11 : decode cJ40_checkForComodification 11 = .ok (.if_icmp .eq 11, 3) := dk_159 0 11 (dk_at dksJ40_checkForComodification_0 11 rfl rfl)
theorem dJ40_checkForComodification_14 : decode cJ40_checkForComodification 14 = .ok (.new 52, 3) := dk_187 0 52 (dk_at dksJ40_checkForComodification_0 14 rfl rfl)
theorem dJ40_checkForComodification_17 : decode cJ40_checkForComodification 17 = .ok (.dup, 1) := dk_89 (dk_at dksJ40_checkForComodification_0 17 rfl rfl)
theorem dJ40_checkForComodification_18 : decode cJ40_checkForComodification 18 = .ok (.invokespecial 54, 3) := dk_183 0 54 (dk_at dksJ40_checkForComodification_0 18 rfl rfl)
theorem dJ40_checkForComodification_21 : decode cJ40_checkForComodification 21 = .ok (.athrow, 1) := dk_191 (dk_at dksJ40_checkForComodification_0 21 rfl rfl)
theorem dJ40_checkForComodification_22 : decode cJ40_checkForComodification 22 = .ok (.return_, 1) := dk_177 (dk_at dksJ40_checkForComodification_0 22 rfl rfl)
abbrev cJ40_remove : ByteArray := prog_45_method_4_code
def yJ40_remove : MethodName := ⟨RJ40, "remove", "()V"⟩
def dkwJ40_remove_3 : List UInt8 := [187, 0, 52, 89, 183, 0, 54, 191, 177]
abbrev dktJ40_remove_3 : List UInt8 := dkwJ40_remove_3 ++ []
def dkwJ40_remove_2 : List UInt8 := [100, 181, 0, 13, 42, 2, 181, 0, 17, 42, 42, 180, 0, 1, 180, 0, 20, 181, 0, 25, 167, 0, 12, 76]
abbrev dktJ40_remove_2 : List UInt8 := dkwJ40_remove_2 ++ dktJ40_remove_3
def dkwJ40_remove_1 : List UInt8 := [180, 0, 17, 182, 0, 49, 87, 42, 180, 0, 17, 42, 180, 0, 13, 162, 0, 13, 42, 89, 180, 0, 13, 4]
abbrev dktJ40_remove_1 : List UInt8 := dkwJ40_remove_1 ++ dktJ40_remove_2
def dkwJ40_remove_0 : List UInt8 := [42, 180, 0, 17, 156, 0, 11, 187, 0, 46, 89, 183, 0, 48, 191, 42, 182, 0, 32, 42, 180, 0, 1, 42]
abbrev dktJ40_remove_0 : List UInt8 := dkwJ40_remove_0 ++ dktJ40_remove_1
theorem dksJ40_remove_0 : cJ40_remove.data.toList.drop 0 = dktJ40_remove_0 := by decide +kernel
theorem dksJ40_remove_1 : cJ40_remove.data.toList.drop 24 = dktJ40_remove_1 := dk_seg dksJ40_remove_0 24 rfl rfl
theorem dksJ40_remove_2 : cJ40_remove.data.toList.drop 48 = dktJ40_remove_2 := dk_seg dksJ40_remove_1 24 rfl rfl
theorem dksJ40_remove_3 : cJ40_remove.data.toList.drop 72 = dktJ40_remove_3 := dk_seg dksJ40_remove_2 24 rfl rfl
theorem dJ40_remove_0 : decode cJ40_remove 0 = .ok (.aload_n 0, 1) := dk_42 (dk_at dksJ40_remove_0 0 rfl rfl)
theorem dJ40_remove_1 : decode cJ40_remove 1 = .ok (.getfield 17, 3) := dk_180 0 17 (dk_at dksJ40_remove_0 1 rfl rfl)
theorem dJ40_remove_4 : decode cJ40_remove 4 = .ok (.ifCond .ge 11, 3) := dk_156 0 11 (dk_at dksJ40_remove_0 4 rfl rfl)
theorem dJ40_remove_7 : decode cJ40_remove 7 = .ok (.new 46, 3) := dk_187 0 46 (dk_at dksJ40_remove_0 7 rfl rfl)
theorem dJ40_remove_10 : decode cJ40_remove 10 = .ok (.dup, 1) := dk_89 (dk_at dksJ40_remove_0 10 rfl rfl)
theorem dJ40_remove_11 : decode cJ40_remove 11 = .ok (.invokespecial 48, 3) := dk_183 0 48 (dk_at dksJ40_remove_0 11 rfl rfl)
theorem dJ40_remove_14 : decode cJ40_remove 14 = .ok (.athrow, 1) := dk_191 (dk_at dksJ40_remove_0 14 rfl rfl)
theorem dJ40_remove_15 : decode cJ40_remove 15 = .ok (.aload_n 0, 1) := dk_42 (dk_at dksJ40_remove_0 15 rfl rfl)
theorem dJ40_remove_16 : decode cJ40_remove 16 = .ok (.invokevirtual 32, 3) := dk_182 0 32 (dk_at dksJ40_remove_0 16 rfl rfl)
theorem dJ40_remove_19 : decode cJ40_remove 19 = .ok (.aload_n 0, 1) := dk_42 (dk_at dksJ40_remove_0 19 rfl rfl)
theorem dJ40_remove_20 : decode cJ40_remove 20 = .ok (.getfield 1, 3) := dk_180 0 1 (dk_at dksJ40_remove_0 20 rfl rfl)
theorem dJ40_remove_23 : decode cJ40_remove 23 = .ok (.aload_n 0, 1) := dk_42 (dk_at dksJ40_remove_0 23 rfl rfl)
theorem dJ40_remove_24 : decode cJ40_remove 24 = .ok (.getfield 17, 3) := dk_180 0 17 (dk_at dksJ40_remove_1 0 rfl rfl)
theorem dJ40_remove_27 : decode cJ40_remove 27 = .ok (.invokevirtual 49, 3) := dk_182 0 49 (dk_at dksJ40_remove_1 3 rfl rfl)
theorem dJ40_remove_30 : decode cJ40_remove 30 = .ok (.pop, 1) := dk_87 (dk_at dksJ40_remove_1 6 rfl rfl)
theorem dJ40_remove_31 : decode cJ40_remove 31 = .ok (.aload_n 0, 1) := dk_42 (dk_at dksJ40_remove_1 7 rfl rfl)
theorem dJ40_remove_32 : decode cJ40_remove 32 = .ok (.getfield 17, 3) := dk_180 0 17 (dk_at dksJ40_remove_1 8 rfl rfl)
theorem dJ40_remove_35 : decode cJ40_remove 35 = .ok (.aload_n 0, 1) := dk_42 (dk_at dksJ40_remove_1 11 rfl rfl)
theorem dJ40_remove_36 : decode cJ40_remove 36 = .ok (.getfield 13, 3) := dk_180 0 13 (dk_at dksJ40_remove_1 12 rfl rfl)
theorem dJ40_remove_39 : decode cJ40_remove 39 = .ok (.if_icmp .ge 13, 3) := dk_162 0 13 (dk_at dksJ40_remove_1 15 rfl rfl)
theorem dJ40_remove_42 : decode cJ40_remove 42 = .ok (.aload_n 0, 1) := dk_42 (dk_at dksJ40_remove_1 18 rfl rfl)
theorem dJ40_remove_43 : decode cJ40_remove 43 = .ok (.dup, 1) := dk_89 (dk_at dksJ40_remove_1 19 rfl rfl)
theorem dJ40_remove_44 : decode cJ40_remove 44 = .ok (.getfield 13, 3) := dk_180 0 13 (dk_at dksJ40_remove_1 20 rfl rfl)
theorem dJ40_remove_47 : decode cJ40_remove 47 = .ok (.iconst 1, 1) := dk_4 (dk_at dksJ40_remove_1 23 rfl rfl)
theorem dJ40_remove_48 : decode cJ40_remove 48 = .ok (.isub, 1) := dk_100 (dk_at dksJ40_remove_2 0 rfl rfl)
theorem dJ40_remove_49 : decode cJ40_remove 49 = .ok (.putfield 13, 3) := dk_181 0 13 (dk_at dksJ40_remove_2 1 rfl rfl)
theorem dJ40_remove_52 : decode cJ40_remove 52 = .ok (.aload_n 0, 1) := dk_42 (dk_at dksJ40_remove_2 4 rfl rfl)
theorem dJ40_remove_53 : decode cJ40_remove 53 = .ok (.iconst (-1), 1) := dk_2 (dk_at dksJ40_remove_2 5 rfl rfl)
theorem dJ40_remove_54 : decode cJ40_remove 54 = .ok (.putfield 17, 3) := dk_181 0 17 (dk_at dksJ40_remove_2 6 rfl rfl)
theorem dJ40_remove_57 : decode cJ40_remove 57 = .ok (.aload_n 0, 1) := dk_42 (dk_at dksJ40_remove_2 9 rfl rfl)
theorem dJ40_remove_58 : decode cJ40_remove 58 = .ok (.aload_n 0, 1) := dk_42 (dk_at dksJ40_remove_2 10 rfl rfl)
theorem dJ40_remove_59 : decode cJ40_remove 59 = .ok (.getfield 1, 3) := dk_180 0 1 (dk_at dksJ40_remove_2 11 rfl rfl)
theorem dJ40_remove_62 : decode cJ40_remove 62 = .ok (.getfield 20, 3) := dk_180 0 20 (dk_at dksJ40_remove_2 14 rfl rfl)
theorem dJ40_remove_65 : decode cJ40_remove 65 = .ok (.putfield 25, 3) := dk_181 0 25 (dk_at dksJ40_remove_2 17 rfl rfl)
theorem dJ40_remove_68 : decode cJ40_remove 68 = .ok (.goto 12, 3) := dk_167 0 12 (dk_at dksJ40_remove_2 20 rfl rfl)
theorem dJ40_remove_71 : decode cJ40_remove 71 = .ok (.astore_n 1, 1) := dk_76 (dk_at dksJ40_remove_2 23 rfl rfl)
theorem dJ40_remove_72 : decode cJ40_remove 72 = .ok (.new 52, 3) := dk_187 0 52 (dk_at dksJ40_remove_3 0 rfl rfl)
theorem dJ40_remove_75 : decode cJ40_remove 75 = .ok (.dup, 1) := dk_89 (dk_at dksJ40_remove_3 3 rfl rfl)
theorem dJ40_remove_76 : decode cJ40_remove 76 = .ok (.invokespecial 54, 3) := dk_183 0 54 (dk_at dksJ40_remove_3 4 rfl rfl)
theorem dJ40_remove_79 : decode cJ40_remove 79 = .ok (.athrow, 1) := dk_191 (dk_at dksJ40_remove_3 7 rfl rfl)
theorem dJ40_remove_80 : decode cJ40_remove 80 = .ok (.return_, 1) := dk_177 (dk_at dksJ40_remove_3 8 rfl rfl)
theorem q124 : (Jvm.Cond.initialized "java/util/AbstractList$Itr") ∈ lw_all := lw_g (lw_at lw_m1 56 rfl) rfl
theorem q408 : (Jvm.Cond.fieldLink "java/util/AbstractList$Itr" (20 : Nat) "java/util/AbstractList" "modCount" "I") ∈ lw_all := lw_g (lw_at lw_m2 100 rfl) rfl
theorem q593 : (Jvm.Cond.instanceMethod ({ cls := "java/util/AbstractList$Itr", name := "hasNext", desc := "()Z" } : Jvm.MethodName)) ∈ lw_all := lw_g (lw_at lw_m3 45 rfl) rfl
theorem q594 : (Jvm.Cond.publicMethod ({ cls := "java/util/AbstractList$Itr", name := "hasNext", desc := "()Z" } : Jvm.MethodName)) ∈ lw_tbl := lw_at lw_m3 46 rfl
theorem q595 : (Jvm.Cond.code ({ cls := "java/util/AbstractList$Itr", name := "hasNext", desc := "()Z" } : Jvm.MethodName) prog_45_method_2_code (1 : Nat) (Option.some Jvm.ClassFile.FieldType.boolean)) ∈ lw_all := lw_g (lw_at lw_m3 47 rfl) rfl
theorem q596 : (Jvm.Cond.methodLink "java/util/AbstractList$Itr" (28 : Nat) ({ cls := "java/util/AbstractList", name := "size", desc := "()I" } : Jvm.MethodName)) ∈ lw_all := lw_g (lw_at lw_m3 48 rfl) rfl
theorem q632 : (Jvm.Cond.instanceMethod ({ cls := "java/util/AbstractList$Itr", name := "next", desc := "()Ljava/lang/Object;" } : Jvm.MethodName)) ∈ lw_all := lw_g (lw_at lw_m3 84 rfl) rfl
theorem q633 : (Jvm.Cond.publicMethod ({ cls := "java/util/AbstractList$Itr", name := "next", desc := "()Ljava/lang/Object;" } : Jvm.MethodName)) ∈ lw_tbl := lw_at lw_m3 85 rfl
theorem q634 : (Jvm.Cond.codeWith ({ cls := "java/util/AbstractList$Itr", name := "next", desc := "()Ljava/lang/Object;" } : Jvm.MethodName) prog_45_method_3_code (3 : Nat) (Option.some (Jvm.ClassFile.FieldType.object "java/lang/Object")) [((4 : Nat), (31 : Nat), (32 : Nat), (39 : Nat))]) ∈ lw_all := lw_g (lw_at lw_m3 86 rfl) rfl
theorem q635 : (Jvm.Cond.methodLink "java/util/AbstractList$Itr" (32 : Nat) ({ cls := "java/util/AbstractList$Itr", name := "checkForComodification", desc := "()V" } : Jvm.MethodName)) ∈ lw_all := lw_g (lw_at lw_m3 87 rfl) rfl
theorem q636 : (Jvm.Cond.instanceMethod ({ cls := "java/util/AbstractList$Itr", name := "checkForComodification", desc := "()V" } : Jvm.MethodName)) ∈ lw_all := lw_g (lw_at lw_m3 88 rfl) rfl
theorem q637 : (Jvm.Cond.sameMethod "java/util/AbstractList$Itr" "java/util/AbstractList$Itr" "checkForComodification" "()V") ∈ lw_all := lw_g (lw_at lw_m3 89 rfl) rfl
theorem q639 : (Jvm.Cond.code ({ cls := "java/util/AbstractList$Itr", name := "checkForComodification", desc := "()V" } : Jvm.MethodName) prog_45_method_5_code (1 : Nat) (Option.none : Option Jvm.ClassFile.FieldType)) ∈ lw_all := lw_g (lw_at lw_m3 91 rfl) rfl
theorem q640 : (Jvm.Cond.methodLink "java/util/AbstractList$Itr" (35 : Nat) ({ cls := "java/util/AbstractList", name := "get", desc := "(I)Ljava/lang/Object;" } : Jvm.MethodName)) ∈ lw_all := lw_g (lw_at lw_m3 92 rfl) rfl
theorem q1007 : (Jvm.Cond.classLink "java/util/AbstractList$Itr" (41 : Nat) "java/util/NoSuchElementException") ∈ lw_all := lw_g (lw_at lw_m4 219 rfl) rfl
theorem q1016 : (Jvm.Cond.methodLink "java/util/AbstractList$Itr" (43 : Nat) ({ cls := "java/util/NoSuchElementException", name := "<init>", desc := "(Ljava/lang/Throwable;)V" } : Jvm.MethodName)) ∈ lw_all := lw_g (lw_at lw_m4 228 rfl) rfl
theorem q1238 : (Jvm.Cond.instanceMethod ({ cls := "java/util/AbstractList$Itr", name := "remove", desc := "()V" } : Jvm.MethodName)) ∈ lw_all := lw_g (lw_at lw_m5 210 rfl) rfl
theorem q1239 : (Jvm.Cond.publicMethod ({ cls := "java/util/AbstractList$Itr", name := "remove", desc := "()V" } : Jvm.MethodName)) ∈ lw_tbl := lw_at lw_m5 211 rfl
theorem q1240 : (Jvm.Cond.codeWith ({ cls := "java/util/AbstractList$Itr", name := "remove", desc := "()V" } : Jvm.MethodName) prog_45_method_4_code (2 : Nat) (Option.none : Option Jvm.ClassFile.FieldType) [((19 : Nat), (68 : Nat), (71 : Nat), (39 : Nat))]) ∈ lw_all := lw_g (lw_at lw_m5 212 rfl) rfl
theorem q1241 : (Jvm.Cond.classLink "java/util/AbstractList$Itr" (46 : Nat) "java/lang/IllegalStateException") ∈ lw_all := lw_g (lw_at lw_m5 213 rfl) rfl
theorem q1250 : (Jvm.Cond.methodLink "java/util/AbstractList$Itr" (48 : Nat) ({ cls := "java/lang/IllegalStateException", name := "<init>", desc := "()V" } : Jvm.MethodName)) ∈ lw_all := lw_g (lw_at lw_m5 222 rfl) rfl
theorem q1256 : (Jvm.Cond.methodLink "java/util/AbstractList$Itr" (49 : Nat) ({ cls := "java/util/AbstractList", name := "remove", desc := "(I)Ljava/lang/Object;" } : Jvm.MethodName)) ∈ lw_all := lw_g (lw_at lw_m5 228 rfl) rfl
theorem q1267 : (Jvm.Cond.classLink "java/util/AbstractList$Itr" (52 : Nat) "java/util/ConcurrentModificationException") ∈ lw_all := lw_g (lw_at lw_m5 239 rfl) rfl
theorem q1269 : (Jvm.Cond.methodLink "java/util/AbstractList$Itr" (54 : Nat) ({ cls := "java/util/ConcurrentModificationException", name := "<init>", desc := "()V" } : Jvm.MethodName)) ∈ lw_all := lw_g (lw_at lw_m6 1 rfl) rfl
theorem q3100 : (Jvm.Cond.fieldLink "java/util/AbstractList$Itr" (13 : Nat) "java/util/AbstractList$Itr" "cursor" "I") ∈ lw_all := lw_g (lw_at lw_m13 152 rfl) rfl
theorem q3101 : (Jvm.Cond.fieldLink "java/util/AbstractList$Itr" (1 : Nat) "java/util/AbstractList$Itr" "this$0" "Ljava/util/AbstractList;") ∈ lw_all := lw_g (lw_at lw_m13 153 rfl) rfl
theorem q3102 : (Jvm.Cond.fieldLink "java/util/AbstractList$Itr" (25 : Nat) "java/util/AbstractList$Itr" "expectedModCount" "I") ∈ lw_all := lw_g (lw_at lw_m13 154 rfl) rfl
theorem q3103 : (Jvm.Cond.fieldLink "java/util/AbstractList$Itr" (17 : Nat) "java/util/AbstractList$Itr" "lastRet" "I") ∈ lw_all := lw_g (lw_at lw_m13 155 rfl) rfl
theorem q68 : (Jvm.Cond.initialized "SegmentedCacheLaw") ∈ lw_all := lw_g (lw_at lw_m1 0 rfl) rfl
set_option maxRecDepth 100000
theorem q132 : (Jvm.Cond.classLink "SegmentedCacheLaw" (7 : Nat) "SegmentedCache") ∈ lw_all := lw_g (lw_at lw_m1 64 rfl) rfl
theorem q134 : (Jvm.Cond.methodLink "SegmentedCacheLaw" (9 : Nat) ({ cls := "SegmentedCache", name := "<init>", desc := "()V" } : Jvm.MethodName)) ∈ lw_all := lw_g (lw_at lw_m1 66 rfl) rfl
theorem q480 : (Jvm.Cond.methodLink "SegmentedCacheLaw" (13 : Nat) ({ cls := "SegmentedCache", name := "set", desc := "(II)I" } : Jvm.MethodName)) ∈ lw_all := lw_g (lw_at lw_m2 172 rfl) rfl
theorem q1983 : (Jvm.Cond.methodLink "SegmentedCacheLaw" (18 : Nat) ({ cls := "SegmentedCache", name := "told", desc := "(I)I" } : Jvm.MethodName)) ∈ lw_all := lw_g (lw_at lw_m8 235 rfl) rfl
theorem q1991 : (Jvm.Cond.methodLink "SegmentedCacheLaw" (23 : Nat) ({ cls := "SegmentedCache", name := "put", desc := "(IIIII)I" } : Jvm.MethodName)) ∈ lw_all := lw_g (lw_at lw_m9 3 rfl) rfl
theorem q2065 : (Jvm.Cond.methodLink "SegmentedCacheLaw" (28 : Nat) ({ cls := "SegmentedCache", name := "get", desc := "(II)J" } : Jvm.MethodName)) ∈ lw_all := lw_g (lw_at lw_m9 77 rfl) rfl
theorem q2074 : (Jvm.Cond.methodLink "SegmentedCacheLaw" (33 : Nat) ({ cls := "SegmentedCache", name := "drop", desc := "(II)I" } : Jvm.MethodName)) ∈ lw_all := lw_g (lw_at lw_m9 86 rfl) rfl
theorem q2082 : (Jvm.Cond.methodLink "SegmentedCacheLaw" (37 : Nat) ({ cls := "SegmentedCache", name := "pin", desc := "(IIZ)I" } : Jvm.MethodName)) ∈ lw_all := lw_g (lw_at lw_m9 94 rfl) rfl
theorem q2087 : (Jvm.Cond.methodLink "SegmentedCacheLaw" (42 : Nat) ({ cls := "SegmentedCache", name := "of", desc := "(III)I" } : Jvm.MethodName)) ∈ lw_all := lw_g (lw_at lw_m9 99 rfl) rfl
theorem q2124 : (Jvm.Cond.methodLink "SegmentedCacheLaw" (47 : Nat) ({ cls := "SegmentedCache", name := "key", desc := "(II)I" } : Jvm.MethodName)) ∈ lw_all := lw_g (lw_at lw_m9 136 rfl) rfl
theorem q2136 : (Jvm.Cond.methodLink "SegmentedCacheLaw" (51 : Nat) ({ cls := "SegmentedCache", name := "gone", desc := "(I)I" } : Jvm.MethodName)) ∈ lw_all := lw_g (lw_at lw_m9 148 rfl) rfl
theorem q2172 : (Jvm.Cond.methodLink "SegmentedCacheLaw" (55 : Nat) ({ cls := "SegmentedCache", name := "victim", desc := "(I)I" } : Jvm.MethodName)) ∈ lw_all := lw_g (lw_at lw_m9 184 rfl) rfl
theorem q2240 : (Jvm.Cond.methodLink "SegmentedCacheLaw" (59 : Nat) ({ cls := "SegmentedCache", name := "feed", desc := "(I)I" } : Jvm.MethodName)) ∈ lw_all := lw_g (lw_at lw_m10 12 rfl) rfl
theorem q2244 : (Jvm.Cond.methodLink "SegmentedCacheLaw" (63 : Nat) ({ cls := "SegmentedCache", name := "trace", desc := "()I" } : Jvm.MethodName)) ∈ lw_all := lw_g (lw_at lw_m10 16 rfl) rfl
theorem q2370 : (Jvm.Cond.methodLink "SegmentedCacheLaw" (68 : Nat) ({ cls := "SegmentedCache", name := "run", desc := "(I)I" } : Jvm.MethodName)) ∈ lw_all := lw_g (lw_at lw_m10 142 rfl) rfl
theorem q2441 : (Jvm.Cond.methodLink "SegmentedCacheLaw" (72 : Nat) ({ cls := "SegmentedCache", name := "would", desc := "(II)I" } : Jvm.MethodName)) ∈ lw_all := lw_g (lw_at lw_m10 213 rfl) rfl
theorem q2478 : (Jvm.Cond.methodLink "SegmentedCacheLaw" (76 : Nat) ({ cls := "SegmentedCache", name := "need", desc := "(II)I" } : Jvm.MethodName)) ∈ lw_all := lw_g (lw_at lw_m11 10 rfl) rfl
theorem q2492 : (Jvm.Cond.methodLink "SegmentedCacheLaw" (80 : Nat) ({ cls := "SegmentedCache", name := "odds", desc := "(III)J" } : Jvm.MethodName)) ∈ lw_all := lw_g (lw_at lw_m11 24 rfl) rfl
theorem q2502 : (Jvm.Cond.methodLink "SegmentedCacheLaw" (85 : Nat) ({ cls := "SegmentedCache", name := "mean", desc := "(II)J" } : Jvm.MethodName)) ∈ lw_all := lw_g (lw_at lw_m11 34 rfl) rfl
theorem q2568 : (Jvm.Cond.methodLink "SegmentedCacheLaw" (89 : Nat) ({ cls := "SegmentedCache", name := "book", desc := "(III)I" } : Jvm.MethodName)) ∈ lw_all := lw_g (lw_at lw_m11 100 rfl) rfl
theorem q2572 : (Jvm.Cond.methodLink "SegmentedCacheLaw" (93 : Nat) ({ cls := "SegmentedCache", name := "looked", desc := "()I" } : Jvm.MethodName)) ∈ lw_all := lw_g (lw_at lw_m11 104 rfl) rfl
theorem q2576 : (Jvm.Cond.methodLink "SegmentedCacheLaw" (97 : Nat) ({ cls := "SegmentedCache", name := "judge", desc := "(II)I" } : Jvm.MethodName)) ∈ lw_all := lw_g (lw_at lw_m11 108 rfl) rfl
theorem q2608 : (Jvm.Cond.methodLink "SegmentedCacheLaw" (101 : Nat) ({ cls := "SegmentedCache", name := "image", desc := "()I" } : Jvm.MethodName)) ∈ lw_all := lw_g (lw_at lw_m11 140 rfl) rfl
theorem q2647 : (Jvm.Cond.methodLink "SegmentedCacheLaw" (105 : Nat) ({ cls := "SegmentedCache", name := "undo", desc := "()I" } : Jvm.MethodName)) ∈ lw_all := lw_g (lw_at lw_m11 179 rfl) rfl
theorem q2651 : (Jvm.Cond.methodLink "SegmentedCacheLaw" (109 : Nat) ({ cls := "SegmentedCache", name := "count", desc := "(I)I" } : Jvm.MethodName)) ∈ lw_all := lw_g (lw_at lw_m11 183 rfl) rfl
theorem q2655 : (Jvm.Cond.methodLink "SegmentedCacheLaw" (113 : Nat) ({ cls := "SegmentedCache", name := "tape", desc := "(III)I" } : Jvm.MethodName)) ∈ lw_all := lw_g (lw_at lw_m11 187 rfl) rfl
theorem q2668 : (Jvm.Cond.methodLink "SegmentedCacheLaw" (119 : Nat) ({ cls := "SegmentedCache", name := "item", desc := "(IIJ)I" } : Jvm.MethodName)) ∈ lw_all := lw_g (lw_at lw_m11 200 rfl) rfl
theorem q2692 : (Jvm.Cond.methodLink "SegmentedCacheLaw" (124 : Nat) ({ cls := "SegmentedCache", name := "read", desc := "(II)J" } : Jvm.MethodName)) ∈ lw_all := lw_g (lw_at lw_m11 224 rfl) rfl
theorem q2697 : (Jvm.Cond.methodLink "SegmentedCacheLaw" (128 : Nat) ({ cls := "SegmentedCache", name := "shift", desc := "(IIIII)I" } : Jvm.MethodName)) ∈ lw_all := lw_g (lw_at lw_m11 229 rfl) rfl
theorem q2731 : (Jvm.Cond.classLink "SegmentedCacheLaw" (10 : Nat) "SegmentedCacheModel") ∈ lw_all := lw_g (lw_at lw_m12 23 rfl) rfl
theorem q2733 : (Jvm.Cond.methodLink "SegmentedCacheLaw" (12 : Nat) ({ cls := "SegmentedCacheModel", name := "<init>", desc := "()V" } : Jvm.MethodName)) ∈ lw_all := lw_g (lw_at lw_m12 25 rfl) rfl
theorem q2797 : (Jvm.Cond.methodLink "SegmentedCacheLaw" (17 : Nat) ({ cls := "SegmentedCacheModel", name := "set", desc := "(II)I" } : Jvm.MethodName)) ∈ lw_all := lw_g (lw_at lw_m12 89 rfl) rfl
theorem q2832 : (Jvm.Cond.methodLink "SegmentedCacheLaw" (22 : Nat) ({ cls := "SegmentedCacheModel", name := "told", desc := "(I)I" } : Jvm.MethodName)) ∈ lw_all := lw_g (lw_at lw_m12 124 rfl) rfl
theorem q2836 : (Jvm.Cond.methodLink "SegmentedCacheLaw" (27 : Nat) ({ cls := "SegmentedCacheModel", name := "put", desc := "(IIIII)I" } : Jvm.MethodName)) ∈ lw_all := lw_g (lw_at lw_m12 128 rfl) rfl
theorem q2855 : (Jvm.Cond.methodLink "SegmentedCacheLaw" (32 : Nat) ({ cls := "SegmentedCacheModel", name := "get", desc := "(II)J" } : Jvm.MethodName)) ∈ lw_all := lw_g (lw_at lw_m12 147 rfl) rfl
theorem q2868 : (Jvm.Cond.methodLink "SegmentedCacheLaw" (36 : Nat) ({ cls := "SegmentedCacheModel", name := "drop", desc := "(II)I" } : Jvm.MethodName)) ∈ lw_all := lw_g (lw_at lw_m12 160 rfl) rfl
theorem q2876 : (Jvm.Cond.methodLink "SegmentedCacheLaw" (41 : Nat) ({ cls := "SegmentedCacheModel", name := "pin", desc := "(IIZ)I" } : Jvm.MethodName)) ∈ lw_all := lw_g (lw_at lw_m12 168 rfl) rfl
theorem q2880 : (Jvm.Cond.methodLink "SegmentedCacheLaw" (46 : Nat) ({ cls := "SegmentedCacheModel", name := "of", desc := "(III)I" } : Jvm.MethodName)) ∈ lw_all := lw_g (lw_at lw_m12 172 rfl) rfl
theorem q2888 : (Jvm.Cond.methodLink "SegmentedCacheLaw" (50 : Nat) ({ cls := "SegmentedCacheModel", name := "key", desc := "(II)I" } : Jvm.MethodName)) ∈ lw_all := lw_g (lw_at lw_m12 180 rfl) rfl
theorem q2896 : (Jvm.Cond.methodLink "SegmentedCacheLaw" (54 : Nat) ({ cls := "SegmentedCacheModel", name := "gone", desc := "(I)I" } : Jvm.MethodName)) ∈ lw_all := lw_g (lw_at lw_m12 188 rfl) rfl
theorem q2900 : (Jvm.Cond.methodLink "SegmentedCacheLaw" (58 : Nat) ({ cls := "SegmentedCacheModel", name := "victim", desc := "(I)I" } : Jvm.MethodName)) ∈ lw_all := lw_g (lw_at lw_m12 192 rfl) rfl
theorem q2907 : (Jvm.Cond.methodLink "SegmentedCacheLaw" (62 : Nat) ({ cls := "SegmentedCacheModel", name := "feed", desc := "(I)I" } : Jvm.MethodName)) ∈ lw_all := lw_g (lw_at lw_m12 199 rfl) rfl
theorem q2911 : (Jvm.Cond.methodLink "SegmentedCacheLaw" (67 : Nat) ({ cls := "SegmentedCacheModel", name := "trace", desc := "()I" } : Jvm.MethodName)) ∈ lw_all := lw_g (lw_at lw_m12 203 rfl) rfl
theorem q2927 : (Jvm.Cond.methodLink "SegmentedCacheLaw" (71 : Nat) ({ cls := "SegmentedCacheModel", name := "run", desc := "(I)I" } : Jvm.MethodName)) ∈ lw_all := lw_g (lw_at lw_m12 219 rfl) rfl
theorem q2939 : (Jvm.Cond.methodLink "SegmentedCacheLaw" (75 : Nat) ({ cls := "SegmentedCacheModel", name := "would", desc := "(II)I" } : Jvm.MethodName)) ∈ lw_all := lw_g (lw_at lw_m12 231 rfl) rfl
theorem q2943 : (Jvm.Cond.methodLink "SegmentedCacheLaw" (79 : Nat) ({ cls := "SegmentedCacheModel", name := "need", desc := "(II)I" } : Jvm.MethodName)) ∈ lw_all := lw_g (lw_at lw_m12 235 rfl) rfl
theorem q2947 : (Jvm.Cond.methodLink "SegmentedCacheLaw" (84 : Nat) ({ cls := "SegmentedCacheModel", name := "odds", desc := "(III)J" } : Jvm.MethodName)) ∈ lw_all := lw_g (lw_at lw_m12 239 rfl) rfl
theorem q2957 : (Jvm.Cond.methodLink "SegmentedCacheLaw" (88 : Nat) ({ cls := "SegmentedCacheModel", name := "mean", desc := "(II)J" } : Jvm.MethodName)) ∈ lw_all := lw_g (lw_at lw_m13 9 rfl) rfl
theorem q2965 : (Jvm.Cond.methodLink "SegmentedCacheLaw" (92 : Nat) ({ cls := "SegmentedCacheModel", name := "book", desc := "(III)I" } : Jvm.MethodName)) ∈ lw_all := lw_g (lw_at lw_m13 17 rfl) rfl
theorem q2969 : (Jvm.Cond.methodLink "SegmentedCacheLaw" (96 : Nat) ({ cls := "SegmentedCacheModel", name := "looked", desc := "()I" } : Jvm.MethodName)) ∈ lw_all := lw_g (lw_at lw_m13 21 rfl) rfl
theorem q2973 : (Jvm.Cond.methodLink "SegmentedCacheLaw" (100 : Nat) ({ cls := "SegmentedCacheModel", name := "judge", desc := "(II)I" } : Jvm.MethodName)) ∈ lw_all := lw_g (lw_at lw_m13 25 rfl) rfl
theorem q2980 : (Jvm.Cond.methodLink "SegmentedCacheLaw" (104 : Nat) ({ cls := "SegmentedCacheModel", name := "image", desc := "()I" } : Jvm.MethodName)) ∈ lw_all := lw_g (lw_at lw_m13 32 rfl) rfl
theorem q2984 : (Jvm.Cond.methodLink "SegmentedCacheLaw" (108 : Nat) ({ cls := "SegmentedCacheModel", name := "undo", desc := "()I" } : Jvm.MethodName)) ∈ lw_all := lw_g (lw_at lw_m13 36 rfl) rfl
theorem q2988 : (Jvm.Cond.methodLink "SegmentedCacheLaw" (112 : Nat) ({ cls := "SegmentedCacheModel", name := "count", desc := "(I)I" } : Jvm.MethodName)) ∈ lw_all := lw_g (lw_at lw_m13 40 rfl) rfl
theorem q2992 : (Jvm.Cond.methodLink "SegmentedCacheLaw" (116 : Nat) ({ cls := "SegmentedCacheModel", name := "tape", desc := "(III)I" } : Jvm.MethodName)) ∈ lw_all := lw_g (lw_at lw_m13 44 rfl) rfl
theorem q2996 : (Jvm.Cond.methodLink "SegmentedCacheLaw" (123 : Nat) ({ cls := "SegmentedCacheModel", name := "item", desc := "(IIJ)I" } : Jvm.MethodName)) ∈ lw_all := lw_g (lw_at lw_m13 48 rfl) rfl
theorem q3003 : (Jvm.Cond.methodLink "SegmentedCacheLaw" (127 : Nat) ({ cls := "SegmentedCacheModel", name := "read", desc := "(II)J" } : Jvm.MethodName)) ∈ lw_all := lw_g (lw_at lw_m13 55 rfl) rfl
theorem q3007 : (Jvm.Cond.methodLink "SegmentedCacheLaw" (131 : Nat) ({ cls := "SegmentedCacheModel", name := "shift", desc := "(IIIII)I" } : Jvm.MethodName)) ∈ lw_all := lw_g (lw_at lw_m13 59 rfl) rfl
theorem q3011 : (Jvm.Cond.constantLong "SegmentedCacheLaw" (117 : Nat) (4294967295 : Int64)) ∈ lw_all := lw_g (lw_at lw_m13 63 rfl) rfl
theorem q817 : (Jvm.Cond.sameMethod "[B" "java/lang/Object" "clone" "()Ljava/lang/Object;") ∈ lw_all := lw_g (lw_at lw_m4 29 rfl) rfl
set_option maxRecDepth 100000
theorem q820 : (Jvm.Cond.selects "[B" ({ cls := "[B", name := "clone", desc := "()Ljava/lang/Object;" } : Jvm.MethodName) ({ cls := "java/lang/Object", name := "clone", desc := "()Ljava/lang/Object;" } : Jvm.MethodName)) ∈ lw_all := lw_g (lw_at lw_m4 32 rfl) rfl
theorem q821 : (Jvm.Cond.castable "[B" "java/lang/Cloneable") ∈ lw_tbl := lw_at lw_m4 33 rfl
theorem q3091 : (Jvm.Cond.castable "[B" "java/lang/Object") ∈ lw_tbl := lw_at lw_m13 143 rfl
theorem q3089 : (Jvm.Cond.castable "[I" "java/lang/Object") ∈ lw_tbl := lw_at lw_m13 141 rfl
set_option maxRecDepth 100000
theorem q3097 : (Jvm.Cond.castable "[J" "java/lang/Object") ∈ lw_tbl := lw_at lw_m13 149 rfl
set_option maxRecDepth 100000
theorem q3095 : (Jvm.Cond.castable "[LSegmentedCache$Cache$Queue;" "java/lang/Object") ∈ lw_tbl := lw_at lw_m13 147 rfl
set_option maxRecDepth 100000
theorem q3092 : (Jvm.Cond.castable "[LSegmentedCache$Key;" "java/lang/Object") ∈ lw_tbl := lw_at lw_m13 144 rfl
set_option maxRecDepth 100000
theorem q3093 : (Jvm.Cond.castable "[LSegmentedCache$Tape;" "java/lang/Object") ∈ lw_tbl := lw_at lw_m13 145 rfl
set_option maxRecDepth 100000
theorem q3085 : (Jvm.Cond.sameMethod "[Ljava/lang/Object;" "java/lang/Object" "getClass" "()Ljava/lang/Class;") ∈ lw_all := lw_g (lw_at lw_m13 137 rfl) rfl
set_option maxRecDepth 100000
theorem q3086 : (Jvm.Cond.selects "[Ljava/lang/Object;" ({ cls := "java/lang/Object", name := "getClass", desc := "()Ljava/lang/Class;" } : Jvm.MethodName) ({ cls := "java/lang/Object", name := "getClass", desc := "()Ljava/lang/Class;" } : Jvm.MethodName)) ∈ lw_all := lw_g (lw_at lw_m13 138 rfl) rfl
theorem q3088 : (Jvm.Cond.castable "[Ljava/lang/Object;" "java/lang/Object") ∈ lw_tbl := lw_at lw_m13 140 rfl
theorem q3094 : (Jvm.Cond.castable "[Ljava/util/HashMap$Node;" "java/lang/Object") ∈ lw_tbl := lw_at lw_m13 146 rfl
set_option maxRecDepth 100000
theorem q3096 : (Jvm.Cond.castable "[S" "java/lang/Object") ∈ lw_tbl := lw_at lw_m13 148 rfl
set_option maxRecDepth 100000
theorem q3090 : (Jvm.Cond.castable "[Z" "java/lang/Object") ∈ lw_tbl := lw_at lw_m13 142 rfl
set_option maxRecDepth 100000
theorem q3098 : (Jvm.Cond.castable "[[J" "java/lang/Object") ∈ lw_tbl := lw_at lw_m13 150 rfl
set_option maxRecDepth 100000
theorem q1375 : (Jvm.Cond.interfaceMethod "java/lang/Comparable" "java/lang/Comparable" "compareTo" "(Ljava/lang/Object;)I") ∈ lw_tbl := lw_at lw_m6 107 rfl
set_option maxRecDepth 100000
theorem q1376 : (Jvm.Cond.declares ({ cls := "java/lang/Comparable", name := "compareTo", desc := "(Ljava/lang/Object;)I" } : Jvm.MethodName)) ∈ lw_tbl := lw_at lw_m6 108 rfl
theorem q103 : (Jvm.Cond.initialized "java/lang/Number") ∈ lw_all := lw_g (lw_at lw_m1 35 rfl) rfl
set_option maxRecDepth 100000
theorem q100 : (Jvm.Cond.initialized "java/lang/System") ∈ lw_all := lw_g (lw_at lw_m1 32 rfl) rfl
set_option maxRecDepth 100000
theorem q825 : (Jvm.Cond.static ({ cls := "java/lang/System", name := "arraycopy", desc := "(Ljava/lang/Object;ILjava/lang/Object;II)V" } : Jvm.MethodName)) ∈ lw_all := lw_g (lw_at lw_m4 37 rfl) rfl
theorem q826 : (Jvm.Cond.native ({ cls := "java/lang/System", name := "arraycopy", desc := "(Ljava/lang/Object;ILjava/lang/Object;II)V" } : Jvm.MethodName)) ∈ lw_all := lw_g (lw_at lw_m4 38 rfl) rfl
theorem q125 : (Jvm.Cond.initialized "java/util/AbstractList$ListItr") ∈ lw_all := lw_g (lw_at lw_m1 57 rfl) rfl
set_option maxRecDepth 100000
theorem q590 : (Jvm.Cond.castable "java/util/AbstractList$ListItr" "java/util/Iterator") ∈ lw_tbl := lw_at lw_m3 42 rfl
theorem q591 : (Jvm.Cond.selects "java/util/AbstractList$ListItr" ({ cls := "java/util/Iterator", name := "hasNext", desc := "()Z" } : Jvm.MethodName) ({ cls := "java/util/AbstractList$Itr", name := "hasNext", desc := "()Z" } : Jvm.MethodName)) ∈ lw_all := lw_g (lw_at lw_m3 43 rfl) rfl
theorem q592 : (Jvm.Cond.unhidden "java/util/AbstractList$ListItr" "hasNext" "()Z") ∈ lw_tbl := lw_at lw_m3 44 rfl
theorem q630 : (Jvm.Cond.selects "java/util/AbstractList$ListItr" ({ cls := "java/util/Iterator", name := "next", desc := "()Ljava/lang/Object;" } : Jvm.MethodName) ({ cls := "java/util/AbstractList$Itr", name := "next", desc := "()Ljava/lang/Object;" } : Jvm.MethodName)) ∈ lw_all := lw_g (lw_at lw_m3 82 rfl) rfl
theorem q631 : (Jvm.Cond.unhidden "java/util/AbstractList$ListItr" "next" "()Ljava/lang/Object;") ∈ lw_tbl := lw_at lw_m3 83 rfl
theorem q638 : (Jvm.Cond.selects "java/util/AbstractList$ListItr" ({ cls := "java/util/AbstractList$Itr", name := "checkForComodification", desc := "()V" } : Jvm.MethodName) ({ cls := "java/util/AbstractList$Itr", name := "checkForComodification", desc := "()V" } : Jvm.MethodName)) ∈ lw_all := lw_g (lw_at lw_m3 90 rfl) rfl
theorem q1067 : (Jvm.Cond.selects "java/util/AbstractList$ListItr" ({ cls := "java/lang/Object", name := "getClass", desc := "()Ljava/lang/Class;" } : Jvm.MethodName) ({ cls := "java/lang/Object", name := "getClass", desc := "()Ljava/lang/Class;" } : Jvm.MethodName)) ∈ lw_all := lw_g (lw_at lw_m5 39 rfl) rfl
theorem q1236 : (Jvm.Cond.selects "java/util/AbstractList$ListItr" ({ cls := "java/util/Iterator", name := "remove", desc := "()V" } : Jvm.MethodName) ({ cls := "java/util/AbstractList$Itr", name := "remove", desc := "()V" } : Jvm.MethodName)) ∈ lw_all := lw_g (lw_at lw_m5 208 rfl) rfl
theorem q1237 : (Jvm.Cond.unhidden "java/util/AbstractList$ListItr" "remove" "()V") ∈ lw_tbl := lw_at lw_m5 209 rfl
theorem q3070 : (Jvm.Cond.castable "java/util/AbstractList$ListItr" "java/lang/Object") ∈ lw_tbl := lw_at lw_m13 122 rfl
theorem q3104 : (Jvm.Cond.fieldLink "java/util/AbstractList$ListItr" (1 : Nat) "java/util/AbstractList$ListItr" "this$0" "Ljava/util/AbstractList;") ∈ lw_all := lw_g (lw_at lw_m13 156 rfl) rfl
theorem q3105 : (Jvm.Cond.fieldLink "java/util/AbstractList$ListItr" (13 : Nat) "java/util/AbstractList$ListItr" "cursor" "I") ∈ lw_all := lw_g (lw_at lw_m13 157 rfl) rfl
theorem q3106 : (Jvm.Cond.sameField "java/util/AbstractList$ListItr" "java/util/AbstractList$Itr" "cursor" "I") ∈ lw_all := lw_g (lw_at lw_m13 158 rfl) rfl
theorem q2530 : (Jvm.Cond.interfaceMethod "java/util/Collection" "java/util/Collection" "iterator" "()Ljava/util/Iterator;") ∈ lw_tbl := lw_at lw_m11 62 rfl
set_option maxRecDepth 100000
theorem q2531 : (Jvm.Cond.declares ({ cls := "java/util/Collection", name := "iterator", desc := "()Ljava/util/Iterator;" } : Jvm.MethodName)) ∈ lw_tbl := lw_at lw_m11 63 rfl
theorem q588 : (Jvm.Cond.interfaceMethod "java/util/Iterator" "java/util/Iterator" "hasNext" "()Z") ∈ lw_tbl := lw_at lw_m3 40 rfl
set_option maxRecDepth 100000
theorem q589 : (Jvm.Cond.declares ({ cls := "java/util/Iterator", name := "hasNext", desc := "()Z" } : Jvm.MethodName)) ∈ lw_tbl := lw_at lw_m3 41 rfl
theorem q628 : (Jvm.Cond.interfaceMethod "java/util/Iterator" "java/util/Iterator" "next" "()Ljava/lang/Object;") ∈ lw_tbl := lw_at lw_m3 80 rfl
theorem q629 : (Jvm.Cond.declares ({ cls := "java/util/Iterator", name := "next", desc := "()Ljava/lang/Object;" } : Jvm.MethodName)) ∈ lw_tbl := lw_at lw_m3 81 rfl
theorem q1234 : (Jvm.Cond.interfaceMethod "java/util/Iterator" "java/util/Iterator" "remove" "()V") ∈ lw_tbl := lw_at lw_m5 206 rfl
theorem q1235 : (Jvm.Cond.declares ({ cls := "java/util/Iterator", name := "remove", desc := "()V" } : Jvm.MethodName)) ∈ lw_tbl := lw_at lw_m5 207 rfl
theorem q1191 : (Jvm.Cond.interfaceMethod "java/util/Map$Entry" "java/util/Map$Entry" "getKey" "()Ljava/lang/Object;") ∈ lw_tbl := lw_at lw_m5 163 rfl
set_option maxRecDepth 100000
theorem q1192 : (Jvm.Cond.declares ({ cls := "java/util/Map$Entry", name := "getKey", desc := "()Ljava/lang/Object;" } : Jvm.MethodName)) ∈ lw_tbl := lw_at lw_m5 164 rfl
theorem q1206 : (Jvm.Cond.interfaceMethod "java/util/Map$Entry" "java/util/Map$Entry" "getValue" "()Ljava/lang/Object;") ∈ lw_tbl := lw_at lw_m5 178 rfl
theorem q1207 : (Jvm.Cond.declares ({ cls := "java/util/Map$Entry", name := "getValue", desc := "()Ljava/lang/Object;" } : Jvm.MethodName)) ∈ lw_tbl := lw_at lw_m5 179 rfl
theorem q535 : (Jvm.Cond.interfaceMethod "java/util/Set" "java/util/Set" "iterator" "()Ljava/util/Iterator;") ∈ lw_tbl := lw_at lw_m2 227 rfl
set_option maxRecDepth 100000
theorem q536 : (Jvm.Cond.declares ({ cls := "java/util/Set", name := "iterator", desc := "()Ljava/util/Iterator;" } : Jvm.MethodName)) ∈ lw_tbl := lw_at lw_m2 228 rfl
theorem q1728 : (Jvm.Cond.interfaceMethod "jdk/internal/access/JavaLangAccess" "jdk/internal/access/JavaLangAccess" "getUTF16Char" "([BI)C") ∈ lw_tbl := lw_at lw_m7 220 rfl
set_option maxRecDepth 100000
theorem q1729 : (Jvm.Cond.declares ({ cls := "jdk/internal/access/JavaLangAccess", name := "getUTF16Char", desc := "([BI)C" } : Jvm.MethodName)) ∈ lw_tbl := lw_at lw_m7 221 rfl
theorem q110 : (Jvm.Cond.initialized "jdk/internal/misc/UnsafeConstants") ∈ lw_all := lw_g (lw_at lw_m1 42 rfl) rfl
set_option maxRecDepth 100000
theorem q1434 : (Jvm.Cond.laysStatic "jdk/internal/misc/UnsafeConstants" "BIG_ENDIAN" "Z") ∈ lw_tbl := lw_at lw_m6 166 rfl
theorem q235 : (Jvm.Cond.arrayOver (Jvm.ClassFile.FieldType.object "java/lang/Object")) ∈ lw_tbl := lw_at lw_m1 167 rfl
set_option maxRecDepth 100000
theorem q387 : (Jvm.Cond.arrayClass Jvm.ClassFile.FieldType.int) ∈ lw_all := lw_g (lw_at lw_m2 79 rfl) rfl
theorem q388 : (Jvm.Cond.arrayClass Jvm.ClassFile.FieldType.boolean) ∈ lw_all := lw_g (lw_at lw_m2 80 rfl) rfl
theorem q419 : (Jvm.Cond.arrayClass Jvm.ClassFile.FieldType.byte) ∈ lw_all := lw_g (lw_at lw_m2 111 rfl) rfl
theorem q421 : (Jvm.Cond.arrayOver (Jvm.ClassFile.FieldType.object "SegmentedCache$Key")) ∈ lw_tbl := lw_at lw_m2 113 rfl
theorem q423 : (Jvm.Cond.arrayOver (Jvm.ClassFile.FieldType.object "SegmentedCache$Tape")) ∈ lw_tbl := lw_at lw_m2 115 rfl
theorem q1774 : (Jvm.Cond.arrayOver (Jvm.ClassFile.FieldType.object "java/util/HashMap$Node")) ∈ lw_tbl := lw_at lw_m8 26 rfl
theorem q1978 : (Jvm.Cond.arrayOver (Jvm.ClassFile.FieldType.object "SegmentedCache$Cache$Queue")) ∈ lw_tbl := lw_at lw_m8 230 rfl
theorem q2666 : (Jvm.Cond.arrayClass Jvm.ClassFile.FieldType.short) ∈ lw_all := lw_g (lw_at lw_m11 198 rfl) rfl
theorem q2667 : (Jvm.Cond.arrayClass Jvm.ClassFile.FieldType.long) ∈ lw_all := lw_g (lw_at lw_m11 199 rfl) rfl
theorem q2738 : (Jvm.Cond.arrayOver (Jvm.ClassFile.FieldType.array Jvm.ClassFile.FieldType.long)) ∈ lw_tbl := lw_at lw_m12 30 rfl
theorem q3099 : (Jvm.Cond.arrayClass Jvm.ClassFile.FieldType.char) ∈ lw_all := lw_g (lw_at lw_m13 151 rfl) rfl
