/-! ShareStreamsModel -/
set_option maxRecDepth 100000
def RX2 : String := "ShareStreamsModel"
def TX2 : u_T := fun k => match k with
  | 0 => ("ShareStreamsModel", "all", "[I", true)
  | 1 => ("ShareStreamsModel", "kept", "[I", true)
  | 2 => ("ShareStreamsModel", "history", "[I", true)
  | 3 => ("ShareStreamsModel", "historyLong", "I", false)
  | 4 => ("ShareStreamsModel", "snapshot", "[I", true)
  | 5 => ("ShareStreamsModel", "isTaken", "I", false)
  | 6 => ("ShareStreamsModel", "words", "[J", true)
  | 7 => ("ShareStreamsModel", "bits", "[I", true)
  | 8 => ("ShareStreamsModel", "register", "[I", true)
  | 9 => ("ShareStreamsModel", "exact", "[I", true)
  | 10 => ("ShareStreamsModel", "text", "[I", true)
  | 11 => ("ShareStreamsModel", "textLong", "I", false)
  | 12 => ("ShareStreamsModel", "spot", "I", false)
  | 13 => ("ShareStreamsModel", "read", "[I", true)
  | 14 => ("ShareStreamsModel", "readMany", "I", false)
  | 15 => ("ShareStreamsModel", "number", "I", false)
  | 16 => ("ShareStreamsModel", "deep", "[I", true)
  | _ => ("ShareStreamsModel", "sources", "[I", true)
def tyX2 : Nat → FieldType := fun k => match k with
  | 0 => .array .int
  | 1 => .array .int
  | 2 => .array .int
  | 3 => .int
  | 4 => .array .int
  | 5 => .int
  | 6 => .array .long
  | 7 => .array .int
  | 8 => .array .int
  | 9 => .array .int
  | 10 => .array .int
  | 11 => .int
  | 12 => .int
  | 13 => .array .int
  | 14 => .int
  | 15 => .int
  | 16 => .array .int
  | _ => .array .int
abbrev wsX20 : List Cond := u_ws RX2 TX2 18
set_option maxRecDepth 100000 in
theorem nmX2 : ∀ a, a < 18 → ∀ b, b < 18 → a ≠ b → (TX2 a).2.1 ≠ (TX2 b).2.1 := by decide +kernel
set_option maxRecDepth 100000 in
theorem tyX2_ok : ∀ k, k < 18 → parseFieldDescriptor (TX2 k).2.2.1 = some (tyX2 k) := by decide +kernel
abbrev cX2_init : ByteArray := prog_8_method_1_code
def yX2_init : MethodName := ⟨RX2, "<init>", "()V"⟩
def dkwX2_init_7 : List UInt8 := [20, 0, 57, 80, 42, 180, 0, 22, 16, 6, 20, 0, 59, 80, 177]
abbrev dktX2_init_7 : List UInt8 := dkwX2_init_7 ++ []
def dkwX2_init_6 : List UInt8 := [180, 0, 22, 6, 20, 0, 53, 80, 42, 180, 0, 22, 7, 20, 0, 55, 80, 42, 180, 0, 22, 8]
abbrev dktX2_init_6 : List UInt8 := dkwX2_init_6 ++ dktX2_init_7
def dkwX2_init_5 : List UInt8 := [20, 0, 47, 80, 42, 180, 0, 22, 4, 20, 0, 49, 80, 42, 180, 0, 22, 5, 20, 0, 51, 80, 42]
abbrev dktX2_init_5 : List UInt8 := dkwX2_init_5 ++ dktX2_init_6
def dkwX2_init_4 : List UInt8 := [42, 16, 16, 188, 10, 181, 0, 44, 42, 180, 0, 7, 4, 17, 1, 0, 79, 42, 180, 0, 22, 3]
abbrev dktX2_init_4 : List UInt8 := dkwX2_init_4 ++ dktX2_init_5
def dkwX2_init_3 : List UInt8 := [42, 16, 80, 188, 10, 181, 0, 35, 42, 16, 80, 188, 10, 181, 0, 38, 42, 16, 16, 188, 10, 181, 0, 41]
abbrev dktX2_init_3 : List UInt8 := dkwX2_init_3 ++ dktX2_init_4
def dkwX2_init_2 : List UInt8 := [17, 62, 128, 188, 10, 181, 0, 26, 42, 16, 16, 188, 10, 181, 0, 29, 42, 16, 16, 188, 10, 181, 0, 32]
abbrev dktX2_init_2 : List UInt8 := dkwX2_init_2 ++ dktX2_init_3
def dkwX2_init_1 : List UInt8 := [188, 10, 181, 0, 16, 42, 16, 66, 188, 10, 181, 0, 19, 42, 16, 7, 188, 11, 181, 0, 22, 42]
abbrev dktX2_init_1 : List UInt8 := dkwX2_init_1 ++ dktX2_init_2
def dkwX2_init_0 : List UInt8 := [42, 183, 0, 1, 42, 16, 66, 188, 10, 181, 0, 7, 42, 16, 66, 188, 10, 181, 0, 13, 42, 17, 1, 8]
abbrev dktX2_init_0 : List UInt8 := dkwX2_init_0 ++ dktX2_init_1
theorem dksX2_init_0 : cX2_init.data.toList.drop 0 = dktX2_init_0 := by decide +kernel
theorem dksX2_init_1 : cX2_init.data.toList.drop 24 = dktX2_init_1 := dk_seg dksX2_init_0 24 rfl rfl
theorem dksX2_init_2 : cX2_init.data.toList.drop 46 = dktX2_init_2 := dk_seg dksX2_init_1 22 rfl rfl
theorem dksX2_init_3 : cX2_init.data.toList.drop 70 = dktX2_init_3 := dk_seg dksX2_init_2 24 rfl rfl
theorem dksX2_init_4 : cX2_init.data.toList.drop 94 = dktX2_init_4 := dk_seg dksX2_init_3 24 rfl rfl
theorem dksX2_init_5 : cX2_init.data.toList.drop 116 = dktX2_init_5 := dk_seg dksX2_init_4 22 rfl rfl
theorem dksX2_init_6 : cX2_init.data.toList.drop 139 = dktX2_init_6 := dk_seg dksX2_init_5 23 rfl rfl
theorem dksX2_init_7 : cX2_init.data.toList.drop 161 = dktX2_init_7 := dk_seg dksX2_init_6 22 rfl rfl
theorem dX2_init_0 : decode cX2_init 0 = .ok (.aload_n 0, 1) := dk_42 (dk_at dksX2_init_0 0 rfl rfl)
theorem dX2_init_1 : decode cX2_init 1 = .ok (.invokespecial 1, 3) := dk_183 0 1 (dk_at dksX2_init_0 1 rfl rfl)
theorem dX2_init_4 : decode cX2_init 4 = .ok (.aload_n 0, 1) := dk_42 (dk_at dksX2_init_0 4 rfl rfl)
theorem dX2_init_5 : decode cX2_init 5 = .ok (.bipush 66, 2) := dk_16 66 (dk_at dksX2_init_0 5 rfl rfl)
theorem dX2_init_7 : decode cX2_init 7 = .ok (.newarray .int, 2) := dk_188_10 (dk_at dksX2_init_0 7 rfl rfl)
theorem dX2_init_9 : decode cX2_init 9 = .ok (.putfield 7, 3) := dk_181 0 7 (dk_at dksX2_init_0 9 rfl rfl)
theorem dX2_init_12 : decode cX2_init 12 = .ok (.aload_n 0, 1) := dk_42 (dk_at dksX2_init_0 12 rfl rfl)
theorem dX2_init_13 : decode cX2_init 13 = .ok (.bipush 66, 2) := dk_16 66 (dk_at dksX2_init_0 13 rfl rfl)
theorem dX2_init_15 : decode cX2_init 15 = .ok (.newarray .int, 2) := dk_188_10 (dk_at dksX2_init_0 15 rfl rfl)
theorem dX2_init_17 : decode cX2_init 17 = .ok (.putfield 13, 3) := dk_181 0 13 (dk_at dksX2_init_0 17 rfl rfl)
theorem dX2_init_20 : decode cX2_init 20 = .ok (.aload_n 0, 1) := dk_42 (dk_at dksX2_init_0 20 rfl rfl)
theorem dX2_init_21 : decode cX2_init 21 = .ok (.sipush 264, 3) := dk_17 1 8 (dk_at dksX2_init_0 21 rfl rfl)
theorem dX2_init_24 : decode cX2_init 24 = .ok (.newarray .int, 2) := dk_188_10 (dk_at dksX2_init_1 0 rfl rfl)
theorem dX2_init_26 : decode cX2_init 26 = .ok (.putfield 16, 3) := dk_181 0 16 (dk_at dksX2_init_1 2 rfl rfl)
theorem dX2_init_29 : decode cX2_init 29 = .ok (.aload_n 0, 1) := dk_42 (dk_at dksX2_init_1 5 rfl rfl)
theorem dX2_init_30 : decode cX2_init 30 = .ok (.bipush 66, 2) := dk_16 66 (dk_at dksX2_init_1 6 rfl rfl)
theorem dX2_init_32 : decode cX2_init 32 = .ok (.newarray .int, 2) := dk_188_10 (dk_at dksX2_init_1 8 rfl rfl)
theorem dX2_init_34 : decode cX2_init 34 = .ok (.putfield 19, 3) := dk_181 0 19 (dk_at dksX2_init_1 10 rfl rfl)
theorem dX2_init_37 : decode cX2_init 37 = .ok (.aload_n 0, 1) := dk_42 (dk_at dksX2_init_1 13 rfl rfl)
theorem dX2_init_38 : decode cX2_init 38 = .ok (.bipush 7, 2) := dk_16 7 (dk_at dksX2_init_1 14 rfl rfl)
theorem dX2_init_40 : decode cX2_init 40 = .ok (.newarray .long, 2) := dk_188_11 (dk_at dksX2_init_1 16 rfl rfl)
theorem dX2_init_42 : decode cX2_init 42 = .ok (.putfield 22, 3) := dk_181 0 22 (dk_at dksX2_init_1 18 rfl rfl)
theorem dX2_init_45 : decode cX2_init 45 = .ok (.aload_n 0, 1) := dk_42 (dk_at dksX2_init_1 21 rfl rfl)
theorem dX2_init_46 : decode cX2_init 46 = .ok (.sipush 16000, 3) := dk_17 62 128 (dk_at dksX2_init_2 0 rfl rfl)
theorem dX2_init_49 : decode cX2_init 49 = .ok (.newarray .int, 2) := dk_188_10 (dk_at dksX2_init_2 3 rfl rfl)
theorem dX2_init_51 : decode cX2_init 51 = .ok (.putfield 26, 3) := dk_181 0 26 (dk_at dksX2_init_2 5 rfl rfl)
theorem dX2_init_54 : decode cX2_init 54 = .ok (.aload_n 0, 1) := dk_42 (dk_at dksX2_init_2 8 rfl rfl)
theorem dX2_init_55 : decode cX2_init 55 = .ok (.bipush 16, 2) := dk_16 16 (dk_at dksX2_init_2 9 rfl rfl)
theorem dX2_init_57 : decode cX2_init 57 = .ok (.newarray .int, 2) := dk_188_10 (dk_at dksX2_init_2 11 rfl rfl)
theorem dX2_init_59 : decode cX2_init 59 = .ok (.putfield 29, 3) := dk_181 0 29 (dk_at dksX2_init_2 13 rfl rfl)
theorem dX2_init_62 : decode cX2_init 62 = .ok (.aload_n 0, 1) := dk_42 (dk_at dksX2_init_2 16 rfl rfl)
theorem dX2_init_63 : decode cX2_init 63 = .ok (.bipush 16, 2) := dk_16 16 (dk_at dksX2_init_2 17 rfl rfl)
theorem dX2_init_65 : decode cX2_init 65 = .ok (.newarray .int, 2) := dk_188_10 (dk_at dksX2_init_2 19 rfl rfl)
theorem dX2_init_67 : decode cX2_init 67 = .ok (.putfield 32, 3) := dk_181 0 32 (dk_at dksX2_init_2 21 rfl rfl)
theorem dX2_init_70 : decode cX2_init 70 = .ok (.aload_n 0, 1) := dk_42 (dk_at dksX2_init_3 0 rfl rfl)
theorem dX2_init_71 : decode cX2_init 71 = .ok (.bipush 80, 2) := dk_16 80 (dk_at dksX2_init_3 1 rfl rfl)
theorem dX2_init_73 : decode cX2_init 73 = .ok (.newarray .int, 2) := dk_188_10 (dk_at dksX2_init_3 3 rfl rfl)
theorem dX2_init_75 : decode cX2_init 75 = .ok (.putfield 35, 3) := dk_181 0 35 (dk_at dksX2_init_3 5 rfl rfl)
theorem dX2_init_78 : decode cX2_init 78 = .ok (.aload_n 0, 1) := dk_42 (dk_at dksX2_init_3 8 rfl rfl)
theorem dX2_init_79 : decode cX2_init 79 = .ok (.bipush 80, 2) := dk_16 80 (dk_at dksX2_init_3 9 rfl rfl)
theorem dX2_init_81 : decode cX2_init 81 = .ok (.newarray .int, 2) := dk_188_10 (dk_at dksX2_init_3 11 rfl rfl)
theorem dX2_init_83 : decode cX2_init 83 = .ok (.putfield 38, 3) := dk_181 0 38 (dk_at dksX2_init_3 13 rfl rfl)
theorem dX2_init_86 : decode cX2_init 86 = .ok (.aload_n 0, 1) := dk_42 (dk_at dksX2_init_3 16 rfl rfl)
theorem dX2_init_87 : decode cX2_init 87 = .ok (.bipush 16, 2) := dk_16 16 (dk_at dksX2_init_3 17 rfl rfl)
theorem dX2_init_89 : decode cX2_init 89 = .ok (.newarray .int, 2) := dk_188_10 (dk_at dksX2_init_3 19 rfl rfl)
theorem dX2_init_91 : decode cX2_init 91 = .ok (.putfield 41, 3) := dk_181 0 41 (dk_at dksX2_init_3 21 rfl rfl)
theorem dX2_init_94 : decode cX2_init 94 = .ok (.aload_n 0, 1) := dk_42 (dk_at dksX2_init_4 0 rfl rfl)
theorem dX2_init_95 : decode cX2_init 95 = .ok (.bipush 16, 2) := dk_16 16 (dk_at dksX2_init_4 1 rfl rfl)
theorem dX2_init_97 : decode cX2_init 97 = .ok (.newarray .int, 2) := dk_188_10 (dk_at dksX2_init_4 3 rfl rfl)
theorem dX2_init_99 : decode cX2_init 99 = .ok (.putfield 44, 3) := dk_181 0 44 (dk_at dksX2_init_4 5 rfl rfl)
theorem dX2_init_102 : decode cX2_init 102 = .ok (.aload_n 0, 1) := dk_42 (dk_at dksX2_init_4 8 rfl rfl)
theorem dX2_init_103 : decode cX2_init 103 = .ok (.getfield 7, 3) := dk_180 0 7 (dk_at dksX2_init_4 9 rfl rfl)
theorem dX2_init_106 : decode cX2_init 106 = .ok (.iconst 1, 1) := dk_4 (dk_at dksX2_init_4 12 rfl rfl)
theorem dX2_init_107 : decode cX2_init 107 = .ok (.sipush 256, 3) := dk_17 1 0 (dk_at dksX2_init_4 13 rfl rfl)
theorem dX2_init_110 : decode cX2_init 110 = .ok (.iastore, 1) := dk_79 (dk_at dksX2_init_4 16 rfl rfl)
theorem dX2_init_111 : decode cX2_init 111 = .ok (.aload_n 0, 1) := dk_42 (dk_at dksX2_init_4 17 rfl rfl)
theorem dX2_init_112 : decode cX2_init 112 = .ok (.getfield 22, 3) := dk_180 0 22 (dk_at dksX2_init_4 18 rfl rfl)
theorem dX2_init_115 : decode cX2_init 115 = .ok (.iconst 0, 1) := dk_3 (dk_at dksX2_init_4 21 rfl rfl)
theorem dX2_init_116 : decode cX2_init 116 = .ok (.ldc2_w 47, 3) := dk_20 0 47 (dk_at dksX2_init_5 0 rfl rfl)
theorem dX2_init_119 : decode cX2_init 119 = .ok (.lastore, 1) := dk_80 (dk_at dksX2_init_5 3 rfl rfl)
theorem dX2_init_120 : decode cX2_init 120 = .ok (.aload_n 0, 1) := dk_42 (dk_at dksX2_init_5 4 rfl rfl)
theorem dX2_init_121 : decode cX2_init 121 = .ok (.getfield 22, 3) := dk_180 0 22 (dk_at dksX2_init_5 5 rfl rfl)
theorem dX2_init_124 : decode cX2_init 124 = .ok (.iconst 1, 1) := dk_4 (dk_at dksX2_init_5 8 rfl rfl)
theorem dX2_init_125 : decode cX2_init 125 = .ok (.ldc2_w 49, 3) := dk_20 0 49 (dk_at dksX2_init_5 9 rfl rfl)
theorem dX2_init_128 : decode cX2_init 128 = .ok (.lastore, 1) := dk_80 (dk_at dksX2_init_5 12 rfl rfl)
theorem dX2_init_129 : decode cX2_init 129 = .ok (.aload_n 0, 1) := dk_42 (dk_at dksX2_init_5 13 rfl rfl)
theorem dX2_init_130 : decode cX2_init 130 = .ok (.getfield 22, 3) := dk_180 0 22 (dk_at dksX2_init_5 14 rfl rfl)
theorem dX2_init_133 : decode cX2_init 133 = .ok (.iconst 2, 1) := dk_5 (dk_at dksX2_init_5 17 rfl rfl)
theorem dX2_init_134 : decode cX2_init 134 = .ok (.ldc2_w 51, 3) := dk_20 0 51 (dk_at dksX2_init_5 18 rfl rfl)
theorem dX2_init_137 : decode cX2_init 137 = .ok (.lastore, 1) := dk_80 (dk_at dksX2_init_5 21 rfl rfl)
theorem dX2_init_138 : decode cX2_init 138 = .ok (.aload_n 0, 1) := dk_42 (dk_at dksX2_init_5 22 rfl rfl)
theorem dX2_init_139 : decode cX2_init 139 = .ok (.getfield 22, 3) := dk_180 0 22 (dk_at dksX2_init_6 0 rfl rfl)
theorem dX2_init_142 : decode cX2_init 142 = .ok (.iconst 3, 1) := dk_6 (dk_at dksX2_init_6 3 rfl rfl)
theorem dX2_init_143 : decode cX2_init 143 = .ok (.ldc2_w 53, 3) := dk_20 0 53 (dk_at dksX2_init_6 4 rfl rfl)
theorem dX2_init_146 : decode cX2_init 146 = .ok (.lastore, 1) := dk_80 (dk_at dksX2_init_6 7 rfl rfl)
theorem dX2_init_147 : decode cX2_init 147 = .ok (.aload_n 0, 1) := dk_42 (dk_at dksX2_init_6 8 rfl rfl)
theorem dX2_init_148 : decode cX2_init 148 = .ok (.getfield 22, 3) := dk_180 0 22 (dk_at dksX2_init_6 9 rfl rfl)
theorem dX2_init_151 : decode cX2_init 151 = .ok (.iconst 4, 1) := dk_7 (dk_at dksX2_init_6 12 rfl rfl)
theorem dX2_init_152 : decode cX2_init 152 = .ok (.ldc2_w 55, 3) := dk_20 0 55 (dk_at dksX2_init_6 13 rfl rfl)
theorem dX2_init_155 : decode cX2_init 155 = .ok (.lastore, 1) := dk_80 (dk_at dksX2_init_6 16 rfl rfl)
theorem dX2_init_156 : decode cX2_init 156 = .ok (.aload_n 0, 1) := dk_42 (dk_at dksX2_init_6 17 rfl rfl)
theorem dX2_init_157 : decode cX2_init 157 = .ok (.getfield 22, 3) := dk_180 0 22 (dk_at dksX2_init_6 18 rfl rfl)
theorem dX2_init_160 : decode cX2_init 160 = .ok (.iconst 5, 1) := dk_8 (dk_at dksX2_init_6 21 rfl rfl)
theorem dX2_init_161 : decode cX2_init 161 = .ok (.ldc2_w 57, 3) := dk_20 0 57 (dk_at dksX2_init_7 0 rfl rfl)
theorem dX2_init_164 : decode cX2_init 164 = .ok (.lastore, 1) := dk_80 (dk_at dksX2_init_7 3 rfl rfl)
theorem dX2_init_165 : decode cX2_init 165 = .ok (.aload_n 0, 1) := dk_42 (dk_at dksX2_init_7 4 rfl rfl)
theorem dX2_init_166 : decode cX2_init 166 = .ok (.getfield 22, 3) := dk_180 0 22 (dk_at dksX2_init_7 5 rfl rfl)
theorem dX2_init_169 : decode cX2_init 169 = .ok (.bipush 6, 2) := dk_16 6 (dk_at dksX2_init_7 8 rfl rfl)
theorem dX2_init_171 : decode cX2_init 171 = .ok (.ldc2_w 59, 3) := dk_20 0 59 (dk_at dksX2_init_7 10 rfl rfl)
theorem dX2_init_174 : decode cX2_init 174 = .ok (.lastore, 1) := dk_80 (dk_at dksX2_init_7 13 rfl rfl)
theorem dX2_init_175 : decode cX2_init 175 = .ok (.return_, 1) := dk_177 (dk_at dksX2_init_7 14 rfl rfl)
abbrev cX2_source : ByteArray := prog_8_method_11_code
def yX2_source : MethodName := ⟨RX2, "source", "(II)I"⟩
def dkwX2_source_1 : List UInt8 := [42, 3, 27, 28, 18, 85, 182, 0, 86, 167, 0, 5, 18, 90, 172]
abbrev dktX2_source_1 : List UInt8 := dkwX2_source_1 ++ []
def dkwX2_source_0 : List UInt8 := [27, 133, 9, 20, 0, 81, 184, 0, 65, 153, 0, 27, 28, 133, 10, 20, 0, 83, 184, 0, 65, 153, 0, 15]
abbrev dktX2_source_0 : List UInt8 := dkwX2_source_0 ++ dktX2_source_1
theorem dksX2_source_0 : cX2_source.data.toList.drop 0 = dktX2_source_0 := by decide +kernel
theorem dksX2_source_1 : cX2_source.data.toList.drop 24 = dktX2_source_1 := dk_seg dksX2_source_0 24 rfl rfl
theorem dX2_source_0 : decode cX2_source 0 = .ok (.iload_n 1, 1) := dk_27 (dk_at dksX2_source_0 0 rfl rfl)
theorem dX2_source_1 : decode cX2_source 1 = .ok (.i2l, 1) := dk_133 (dk_at dksX2_source_0 1 rfl rfl)
theorem dX2_source_2 : decode cX2_source 2 = .ok (.lconst 0, 1) := dk_9 (dk_at dksX2_source_0 2 rfl rfl)
theorem dX2_source_3 : decode cX2_source 3 = .ok (.ldc2_w 81, 3) := dk_20 0 81 (dk_at dksX2_source_0 3 rfl rfl)
theorem dX2_source_6 : decode cX2_source 6 = .ok (.invokestatic 65, 3) := dk_184 0 65 (dk_at dksX2_source_0 6 rfl rfl)
theorem dX2_source_9 : decode cX2_source 9 = .ok (.ifCond .eq 27, 3) := dk_153 0 27 (dk_at dksX2_source_0 9 rfl rfl)
theorem dX2_source_12 : decode cX2_source 12 = .ok (.iload_n 2, 1) := dk_28 (dk_at dksX2_source_0 12 rfl rfl)
theorem dX2_source_13 : decode cX2_source 13 = .ok (.i2l, 1) := dk_133 (dk_at dksX2_source_0 13 rfl rfl)
theorem dX2_source_14 : decode cX2_source 14 = .ok (.lconst 1, 1) := dk_10 (dk_at dksX2_source_0 14 rfl rfl)
theorem dX2_source_15 : decode cX2_source 15 = .ok (.ldc2_w 83, 3) := dk_20 0 83 (dk_at dksX2_source_0 15 rfl rfl)
theorem dX2_source_18 : decode cX2_source 18 = .ok (.invokestatic 65, 3) := dk_184 0 65 (dk_at dksX2_source_0 18 rfl rfl)
theorem dX2_source_21 : decode cX2_source 21 = .ok (.ifCond .eq 15, 3) := dk_153 0 15 (dk_at dksX2_source_0 21 rfl rfl)
theorem dX2_source_24 : decode cX2_source 24 = .ok (.aload_n 0, 1) := dk_42 (dk_at dksX2_source_1 0 rfl rfl)
theorem dX2_source_25 : decode cX2_source 25 = .ok (.iconst 0, 1) := dk_3 (dk_at dksX2_source_1 1 rfl rfl)
theorem dX2_source_26 : decode cX2_source 26 = .ok (.iload_n 1, 1) := dk_27 (dk_at dksX2_source_1 2 rfl rfl)
theorem dX2_source_27 : decode cX2_source 27 = .ok (.iload_n 2, 1) := dk_28 (dk_at dksX2_source_1 3 rfl rfl)
theorem dX2_source_28 : decode cX2_source 28 = .ok (.ldc 85, 2) := dk_18 85 (dk_at dksX2_source_1 4 rfl rfl)
theorem dX2_source_30 : decode cX2_source 30 = .ok (.invokevirtual 86, 3) := dk_182 0 86 (dk_at dksX2_source_1 6 rfl rfl)
theorem dX2_source_33 : decode cX2_source 33 = .ok (.goto 5, 3) := dk_167 0 5 (dk_at dksX2_source_1 9 rfl rfl)
theorem dX2_source_36 : decode cX2_source 36 = .ok (.ldc 90, 2) := dk_18 90 (dk_at dksX2_source_1 12 rfl rfl)
theorem dX2_source_38 : decode cX2_source 38 = .ok (.ireturn, 1) := dk_172 (dk_at dksX2_source_1 14 rfl rfl)
abbrev cX2_in : ByteArray := prog_8_method_3_code
def yX2_in : MethodName := ⟨RX2, "in", "(JJJ)Z"⟩
def dkwX2_in_0 : List UInt8 := [30, 32, 148, 155, 0, 14, 30, 22, 4, 148, 157, 0, 7, 4, 167, 0, 4, 3, 172]
abbrev dktX2_in_0 : List UInt8 := dkwX2_in_0 ++ []
theorem dksX2_in_0 : cX2_in.data.toList.drop 0 = dktX2_in_0 := by decide +kernel
theorem dX2_in_0 : decode cX2_in 0 = .ok (.lload_n 0, 1) := dk_30 (dk_at dksX2_in_0 0 rfl rfl)
theorem dX2_in_1 : decode cX2_in 1 = .ok (.lload_n 2, 1) := dk_32 (dk_at dksX2_in_0 1 rfl rfl)
theorem dX2_in_2 : decode cX2_in 2 = .ok (.lcmp, 1) := dk_148 (dk_at dksX2_in_0 2 rfl rfl)
theorem dX2_in_3 : decode cX2_in 3 = .ok (.ifCond .lt 14, 3) := dk_155 0 14 (dk_at dksX2_in_0 3 rfl rfl)
theorem dX2_in_6 : decode cX2_in 6 = .ok (.lload_n 0, 1) := dk_30 (dk_at dksX2_in_0 6 rfl rfl)
theorem dX2_in_7 : decode cX2_in 7 = .ok (.lload 4, 2) := dk_22 4 (dk_at dksX2_in_0 7 rfl rfl)
theorem dX2_in_9 : decode cX2_in 9 = .ok (.lcmp, 1) := dk_148 (dk_at dksX2_in_0 9 rfl rfl)
theorem dX2_in_10 : decode cX2_in 10 = .ok (.ifCond .gt 7, 3) := dk_157 0 7 (dk_at dksX2_in_0 10 rfl rfl)
theorem dX2_in_13 : decode cX2_in 13 = .ok (.iconst 1, 1) := dk_4 (dk_at dksX2_in_0 13 rfl rfl)
theorem dX2_in_14 : decode cX2_in 14 = .ok (.goto 4, 3) := dk_167 0 4 (dk_at dksX2_in_0 14 rfl rfl)
theorem dX2_in_17 : decode cX2_in 17 = .ok (.iconst 0, 1) := dk_3 (dk_at dksX2_in_0 17 rfl rfl)
theorem dX2_in_18 : decode cX2_in 18 = .ok (.ireturn, 1) := dk_172 (dk_at dksX2_in_0 18 rfl rfl)
abbrev cX2_adds : ByteArray := prog_8_method_10_code
def yX2_adds : MethodName := ⟨RX2, "adds", "(IIII)I"⟩
def dkwX2_adds_1 : List UInt8 := [182, 0, 73, 42, 42, 180, 0, 7, 3, 46, 4, 100, 182, 0, 77, 172]
abbrev dktX2_adds_1 : List UInt8 := dkwX2_adds_1 ++ []
def dkwX2_adds_0 : List UInt8 := [42, 180, 0, 7, 3, 46, 16, 16, 160, 0, 6, 18, 69, 172, 42, 182, 0, 70, 42, 27, 28, 29, 21, 4]
abbrev dktX2_adds_0 : List UInt8 := dkwX2_adds_0 ++ dktX2_adds_1
theorem dksX2_adds_0 : cX2_adds.data.toList.drop 0 = dktX2_adds_0 := by decide +kernel
theorem dksX2_adds_1 : cX2_adds.data.toList.drop 24 = dktX2_adds_1 := dk_seg dksX2_adds_0 24 rfl rfl
theorem dX2_adds_0 : decode cX2_adds 0 = .ok (.aload_n 0, 1) := dk_42 (dk_at dksX2_adds_0 0 rfl rfl)
theorem dX2_adds_1 : decode cX2_adds 1 = .ok (.getfield 7, 3) := dk_180 0 7 (dk_at dksX2_adds_0 1 rfl rfl)
theorem dX2_adds_4 : decode cX2_adds 4 = .ok (.iconst 0, 1) := dk_3 (dk_at dksX2_adds_0 4 rfl rfl)
theorem dX2_adds_5 : decode cX2_adds 5 = .ok (.iaload, 1) := dk_46 (dk_at dksX2_adds_0 5 rfl rfl)
theorem dX2_adds_6 : decode cX2_adds 6 = .ok (.bipush 16, 2) := dk_16 16 (dk_at dksX2_adds_0 6 rfl rfl)
theorem dX2_adds_8 : decode cX2_adds 8 = .ok (.if_icmp .ne 6, 3) := dk_160 0 6 (dk_at dksX2_adds_0 8 rfl rfl)
theorem dX2_adds_11 : decode cX2_adds 11 = .ok (.ldc 69, 2) := dk_18 69 (dk_at dksX2_adds_0 11 rfl rfl)
theorem dX2_adds_13 : decode cX2_adds 13 = .ok (.ireturn, 1) := dk_172 (dk_at dksX2_adds_0 13 rfl rfl)
theorem dX2_adds_14 : decode cX2_adds 14 = .ok (.aload_n 0, 1) := dk_42 (dk_at dksX2_adds_0 14 rfl rfl)
theorem dX2_adds_15 : decode cX2_adds 15 = .ok (.invokevirtual 70, 3) := dk_182 0 70 (dk_at dksX2_adds_0 15 rfl rfl)
theorem dX2_adds_18 : decode cX2_adds 18 = .ok (.aload_n 0, 1) := dk_42 (dk_at dksX2_adds_0 18 rfl rfl)
theorem dX2_adds_19 : decode cX2_adds 19 = .ok (.iload_n 1, 1) := dk_27 (dk_at dksX2_adds_0 19 rfl rfl)
theorem dX2_adds_20 : decode cX2_adds 20 = .ok (.iload_n 2, 1) := dk_28 (dk_at dksX2_adds_0 20 rfl rfl)
theorem dX2_adds_21 : decode cX2_adds 21 = .ok (.iload_n 3, 1) := dk_29 (dk_at dksX2_adds_0 21 rfl rfl)
theorem dX2_adds_22 : decode cX2_adds 22 = .ok (.iload 4, 2) := dk_21 4 (dk_at dksX2_adds_0 22 rfl rfl)
theorem dX2_adds_24 : decode cX2_adds 24 = .ok (.invokevirtual 73, 3) := dk_182 0 73 (dk_at dksX2_adds_1 0 rfl rfl)
theorem dX2_adds_27 : decode cX2_adds 27 = .ok (.aload_n 0, 1) := dk_42 (dk_at dksX2_adds_1 3 rfl rfl)
theorem dX2_adds_28 : decode cX2_adds 28 = .ok (.aload_n 0, 1) := dk_42 (dk_at dksX2_adds_1 4 rfl rfl)
theorem dX2_adds_29 : decode cX2_adds 29 = .ok (.getfield 7, 3) := dk_180 0 7 (dk_at dksX2_adds_1 5 rfl rfl)
theorem dX2_adds_32 : decode cX2_adds 32 = .ok (.iconst 0, 1) := dk_3 (dk_at dksX2_adds_1 8 rfl rfl)
theorem dX2_adds_33 : decode cX2_adds 33 = .ok (.iaload, 1) := dk_46 (dk_at dksX2_adds_1 9 rfl rfl)
theorem dX2_adds_34 : decode cX2_adds 34 = .ok (.iconst 1, 1) := dk_4 (dk_at dksX2_adds_1 10 rfl rfl)
theorem dX2_adds_35 : decode cX2_adds 35 = .ok (.isub, 1) := dk_100 (dk_at dksX2_adds_1 11 rfl rfl)
theorem dX2_adds_36 : decode cX2_adds 36 = .ok (.invokevirtual 77, 3) := dk_182 0 77 (dk_at dksX2_adds_1 12 rfl rfl)
theorem dX2_adds_39 : decode cX2_adds 39 = .ok (.ireturn, 1) := dk_172 (dk_at dksX2_adds_1 15 rfl rfl)
abbrev cX2_remember : ByteArray := prog_8_method_4_code
def yX2_remember : MethodName := ⟨RX2, "remember", "()V"⟩
def dkwX2_remember_1 : List UInt8 := [167, 255, 235, 177]
abbrev dktX2_remember_1 : List UInt8 := dkwX2_remember_1 ++ []
def dkwX2_remember_0 : List UInt8 := [3, 60, 27, 16, 66, 162, 0, 21, 42, 180, 0, 13, 27, 42, 180, 0, 7, 27, 46, 79, 132, 1, 1]
abbrev dktX2_remember_0 : List UInt8 := dkwX2_remember_0 ++ dktX2_remember_1
theorem dksX2_remember_0 : cX2_remember.data.toList.drop 0 = dktX2_remember_0 := by decide +kernel
theorem dksX2_remember_1 : cX2_remember.data.toList.drop 23 = dktX2_remember_1 := dk_seg dksX2_remember_0 23 rfl rfl
theorem dX2_remember_0 : decode cX2_remember 0 = .ok (.iconst 0, 1) := dk_3 (dk_at dksX2_remember_0 0 rfl rfl)
theorem dX2_remember_1 : decode cX2_remember 1 = .ok (.istore_n 1, 1) := dk_60 (dk_at dksX2_remember_0 1 rfl rfl)
theorem dX2_remember_2 : decode cX2_remember 2 = .ok (.iload_n 1, 1) := dk_27 (dk_at dksX2_remember_0 2 rfl rfl)
theorem dX2_remember_3 : decode cX2_remember 3 = .ok (.bipush 66, 2) := dk_16 66 (dk_at dksX2_remember_0 3 rfl rfl)
theorem dX2_remember_5 : decode cX2_remember 5 = .ok (.if_icmp .ge 21, 3) := dk_162 0 21 (dk_at dksX2_remember_0 5 rfl rfl)
theorem dX2_remember_8 : decode cX2_remember 8 = .ok (.aload_n 0, 1) := dk_42 (dk_at dksX2_remember_0 8 rfl rfl)
theorem dX2_remember_9 : decode cX2_remember 9 = .ok (.getfield 13, 3) := dk_180 0 13 (dk_at dksX2_remember_0 9 rfl rfl)
theorem dX2_remember_12 : decode cX2_remember 12 = .ok (.iload_n 1, 1) := dk_27 (dk_at dksX2_remember_0 12 rfl rfl)
theorem dX2_remember_13 : decode cX2_remember 13 = .ok (.aload_n 0, 1) := dk_42 (dk_at dksX2_remember_0 13 rfl rfl)
theorem dX2_remember_14 : decode cX2_remember 14 = .ok (.getfield 7, 3) := dk_180 0 7 (dk_at dksX2_remember_0 14 rfl rfl)
theorem dX2_remember_17 : decode cX2_remember 17 = .ok (.iload_n 1, 1) := dk_27 (dk_at dksX2_remember_0 17 rfl rfl)
theorem dX2_remember_18 : decode cX2_remember 18 = .ok (.iaload, 1) := dk_46 (dk_at dksX2_remember_0 18 rfl rfl)
theorem dX2_remember_19 : decode cX2_remember 19 = .ok (.iastore, 1) := dk_79 (dk_at dksX2_remember_0 19 rfl rfl)
theorem dX2_remember_20 : decode cX2_remember 20 = .ok (.iinc 1 1, 3) := dk_132 1 1 (dk_at dksX2_remember_0 20 rfl rfl)
theorem dX2_remember_23 : decode cX2_remember 23 = .ok (.goto (-21), 3) := dk_167 255 235 (dk_at dksX2_remember_1 0 rfl rfl)
theorem dX2_remember_26 : decode cX2_remember 26 = .ok (.return_, 1) := dk_177 (dk_at dksX2_remember_1 3 rfl rfl)
abbrev cX2_puts : ByteArray := prog_8_method_9_code
def yX2_puts : MethodName := ⟨RX2, "puts", "(IIII)V"⟩
def dkwX2_puts_2 : List UInt8 := [21, 4, 79, 42, 180, 0, 7, 3, 92, 46, 4, 96, 79, 177]
abbrev dktX2_puts_2 : List UInt8 := dkwX2_puts_2 ++ []
def dkwX2_puts_1 : List UInt8 := [21, 5, 4, 96, 28, 79, 42, 180, 0, 7, 21, 5, 5, 96, 29, 79, 42, 180, 0, 7, 21, 5, 6, 96]
abbrev dktX2_puts_1 : List UInt8 := dkwX2_puts_1 ++ dktX2_puts_2
def dkwX2_puts_0 : List UInt8 := [5, 7, 42, 180, 0, 7, 3, 46, 104, 96, 54, 5, 42, 180, 0, 7, 21, 5, 27, 79, 42, 180, 0, 7]
abbrev dktX2_puts_0 : List UInt8 := dkwX2_puts_0 ++ dktX2_puts_1
theorem dksX2_puts_0 : cX2_puts.data.toList.drop 0 = dktX2_puts_0 := by decide +kernel
theorem dksX2_puts_1 : cX2_puts.data.toList.drop 24 = dktX2_puts_1 := dk_seg dksX2_puts_0 24 rfl rfl
theorem dksX2_puts_2 : cX2_puts.data.toList.drop 48 = dktX2_puts_2 := dk_seg dksX2_puts_1 24 rfl rfl
theorem dX2_puts_0 : decode cX2_puts 0 = .ok (.iconst 2, 1) := dk_5 (dk_at dksX2_puts_0 0 rfl rfl)
theorem dX2_puts_1 : decode cX2_puts 1 = .ok (.iconst 4, 1) := dk_7 (dk_at dksX2_puts_0 1 rfl rfl)
theorem dX2_puts_2 : decode cX2_puts 2 = .ok (.aload_n 0, 1) := dk_42 (dk_at dksX2_puts_0 2 rfl rfl)
theorem dX2_puts_3 : decode cX2_puts 3 = .ok (.getfield 7, 3) := dk_180 0 7 (dk_at dksX2_puts_0 3 rfl rfl)
theorem dX2_puts_6 : decode cX2_puts 6 = .ok (.iconst 0, 1) := dk_3 (dk_at dksX2_puts_0 6 rfl rfl)
theorem dX2_puts_7 : decode cX2_puts 7 = .ok (.iaload, 1) := dk_46 (dk_at dksX2_puts_0 7 rfl rfl)
theorem dX2_puts_8 : decode cX2_puts 8 = .ok (.imul, 1) := dk_104 (dk_at dksX2_puts_0 8 rfl rfl)
theorem dX2_puts_9 : decode cX2_puts 9 = .ok (.iadd, 1) := dk_96 (dk_at dksX2_puts_0 9 rfl rfl)
theorem dX2_puts_10 : decode cX2_puts 10 = .ok (.istore 5, 2) := dk_54 5 (dk_at dksX2_puts_0 10 rfl rfl)
theorem dX2_puts_12 : decode cX2_puts 12 = .ok (.aload_n 0, 1) := dk_42 (dk_at dksX2_puts_0 12 rfl rfl)
theorem dX2_puts_13 : decode cX2_puts 13 = .ok (.getfield 7, 3) := dk_180 0 7 (dk_at dksX2_puts_0 13 rfl rfl)
theorem dX2_puts_16 : decode cX2_puts 16 = .ok (.iload 5, 2) := dk_21 5 (dk_at dksX2_puts_0 16 rfl rfl)
theorem dX2_puts_18 : decode cX2_puts 18 = .ok (.iload_n 1, 1) := dk_27 (dk_at dksX2_puts_0 18 rfl rfl)
theorem dX2_puts_19 : decode cX2_puts 19 = .ok (.iastore, 1) := dk_79 (dk_at dksX2_puts_0 19 rfl rfl)
theorem dX2_puts_20 : decode cX2_puts 20 = .ok (.aload_n 0, 1) := dk_42 (dk_at dksX2_puts_0 20 rfl rfl)
theorem dX2_puts_21 : decode cX2_puts 21 = .ok (.getfield 7, 3) := dk_180 0 7 (dk_at dksX2_puts_0 21 rfl rfl)
theorem dX2_puts_24 : decode cX2_puts 24 = .ok (.iload 5, 2) := dk_21 5 (dk_at dksX2_puts_1 0 rfl rfl)
theorem dX2_puts_26 : decode cX2_puts 26 = .ok (.iconst 1, 1) := dk_4 (dk_at dksX2_puts_1 2 rfl rfl)
theorem dX2_puts_27 : decode cX2_puts 27 = .ok (.iadd, 1) := dk_96 (dk_at dksX2_puts_1 3 rfl rfl)
theorem dX2_puts_28 : decode cX2_puts 28 = .ok (.iload_n 2, 1) := dk_28 (dk_at dksX2_puts_1 4 rfl rfl)
theorem dX2_puts_29 : decode cX2_puts 29 = .ok (.iastore, 1) := dk_79 (dk_at dksX2_puts_1 5 rfl rfl)
theorem dX2_puts_30 : decode cX2_puts 30 = .ok (.aload_n 0, 1) := dk_42 (dk_at dksX2_puts_1 6 rfl rfl)
theorem dX2_puts_31 : decode cX2_puts 31 = .ok (.getfield 7, 3) := dk_180 0 7 (dk_at dksX2_puts_1 7 rfl rfl)
theorem dX2_puts_34 : decode cX2_puts 34 = .ok (.iload 5, 2) := dk_21 5 (dk_at dksX2_puts_1 10 rfl rfl)
theorem dX2_puts_36 : decode cX2_puts 36 = .ok (.iconst 2, 1) := dk_5 (dk_at dksX2_puts_1 12 rfl rfl)
theorem dX2_puts_37 : decode cX2_puts 37 = .ok (.iadd, 1) := dk_96 (dk_at dksX2_puts_1 13 rfl rfl)
theorem dX2_puts_38 : decode cX2_puts 38 = .ok (.iload_n 3, 1) := dk_29 (dk_at dksX2_puts_1 14 rfl rfl)
theorem dX2_puts_39 : decode cX2_puts 39 = .ok (.iastore, 1) := dk_79 (dk_at dksX2_puts_1 15 rfl rfl)
theorem dX2_puts_40 : decode cX2_puts 40 = .ok (.aload_n 0, 1) := dk_42 (dk_at dksX2_puts_1 16 rfl rfl)
theorem dX2_puts_41 : decode cX2_puts 41 = .ok (.getfield 7, 3) := dk_180 0 7 (dk_at dksX2_puts_1 17 rfl rfl)
theorem dX2_puts_44 : decode cX2_puts 44 = .ok (.iload 5, 2) := dk_21 5 (dk_at dksX2_puts_1 20 rfl rfl)
theorem dX2_puts_46 : decode cX2_puts 46 = .ok (.iconst 3, 1) := dk_6 (dk_at dksX2_puts_1 22 rfl rfl)
theorem dX2_puts_47 : decode cX2_puts 47 = .ok (.iadd, 1) := dk_96 (dk_at dksX2_puts_1 23 rfl rfl)
theorem dX2_puts_48 : decode cX2_puts 48 = .ok (.iload 4, 2) := dk_21 4 (dk_at dksX2_puts_2 0 rfl rfl)
theorem dX2_puts_50 : decode cX2_puts 50 = .ok (.iastore, 1) := dk_79 (dk_at dksX2_puts_2 2 rfl rfl)
theorem dX2_puts_51 : decode cX2_puts 51 = .ok (.aload_n 0, 1) := dk_42 (dk_at dksX2_puts_2 3 rfl rfl)
theorem dX2_puts_52 : decode cX2_puts 52 = .ok (.getfield 7, 3) := dk_180 0 7 (dk_at dksX2_puts_2 4 rfl rfl)
theorem dX2_puts_55 : decode cX2_puts 55 = .ok (.iconst 0, 1) := dk_3 (dk_at dksX2_puts_2 7 rfl rfl)
theorem dX2_puts_56 : decode cX2_puts 56 = .ok (.dup2, 1) := dk_92 (dk_at dksX2_puts_2 8 rfl rfl)
theorem dX2_puts_57 : decode cX2_puts 57 = .ok (.iaload, 1) := dk_46 (dk_at dksX2_puts_2 9 rfl rfl)
theorem dX2_puts_58 : decode cX2_puts 58 = .ok (.iconst 1, 1) := dk_4 (dk_at dksX2_puts_2 10 rfl rfl)
theorem dX2_puts_59 : decode cX2_puts 59 = .ok (.iadd, 1) := dk_96 (dk_at dksX2_puts_2 11 rfl rfl)
theorem dX2_puts_60 : decode cX2_puts 60 = .ok (.iastore, 1) := dk_79 (dk_at dksX2_puts_2 12 rfl rfl)
theorem dX2_puts_61 : decode cX2_puts 61 = .ok (.return_, 1) := dk_177 (dk_at dksX2_puts_2 13 rfl rfl)
abbrev cX2_acted : ByteArray := prog_8_method_5_code
def yX2_acted : MethodName := ⟨RX2, "acted", "(I)I"⟩
def dkwX2_acted_4 : List UInt8 := [172]
abbrev dktX2_acted_4 : List UInt8 := dkwX2_acted_4 ++ []
def dkwX2_acted_3 : List UInt8 := [42, 180, 0, 13, 28, 46, 79, 132, 2, 1, 167, 255, 227, 42, 89, 180, 0, 61, 4, 96, 181, 0, 61, 27]
abbrev dktX2_acted_3 : List UInt8 := dkwX2_acted_3 ++ dktX2_acted_4
def dkwX2_acted_2 : List UInt8 := [181, 0, 61, 3, 61, 28, 16, 66, 162, 0, 29, 42, 180, 0, 16, 16, 66, 42, 180, 0, 61, 104, 28, 96]
abbrev dktX2_acted_2 : List UInt8 := dkwX2_acted_2 ++ dktX2_acted_3
def dkwX2_acted_1 : List UInt8 := [180, 0, 16, 28, 16, 66, 96, 46, 79, 132, 2, 1, 167, 255, 231, 42, 89, 180, 0, 61, 4, 100]
abbrev dktX2_acted_1 : List UInt8 := dkwX2_acted_1 ++ dktX2_acted_2
def dkwX2_acted_0 : List UInt8 := [42, 180, 0, 61, 7, 160, 0, 43, 3, 61, 28, 17, 0, 198, 162, 0, 24, 42, 180, 0, 16, 28, 42]
abbrev dktX2_acted_0 : List UInt8 := dkwX2_acted_0 ++ dktX2_acted_1
theorem dksX2_acted_0 : cX2_acted.data.toList.drop 0 = dktX2_acted_0 := by decide +kernel
theorem dksX2_acted_1 : cX2_acted.data.toList.drop 23 = dktX2_acted_1 := dk_seg dksX2_acted_0 23 rfl rfl
theorem dksX2_acted_2 : cX2_acted.data.toList.drop 45 = dktX2_acted_2 := dk_seg dksX2_acted_1 22 rfl rfl
theorem dksX2_acted_3 : cX2_acted.data.toList.drop 69 = dktX2_acted_3 := dk_seg dksX2_acted_2 24 rfl rfl
theorem dksX2_acted_4 : cX2_acted.data.toList.drop 93 = dktX2_acted_4 := dk_seg dksX2_acted_3 24 rfl rfl
theorem dX2_acted_0 : decode cX2_acted 0 = .ok (.aload_n 0, 1) := dk_42 (dk_at dksX2_acted_0 0 rfl rfl)
theorem dX2_acted_1 : decode cX2_acted 1 = .ok (.getfield 61, 3) := dk_180 0 61 (dk_at dksX2_acted_0 1 rfl rfl)
theorem dX2_acted_4 : decode cX2_acted 4 = .ok (.iconst 4, 1) := dk_7 (dk_at dksX2_acted_0 4 rfl rfl)
theorem dX2_acted_5 : decode cX2_acted 5 = .ok (.if_icmp .ne 43, 3) := dk_160 0 43 (dk_at dksX2_acted_0 5 rfl rfl)
theorem dX2_acted_8 : decode cX2_acted 8 = .ok (.iconst 0, 1) := dk_3 (dk_at dksX2_acted_0 8 rfl rfl)
theorem dX2_acted_9 : decode cX2_acted 9 = .ok (.istore_n 2, 1) := dk_61 (dk_at dksX2_acted_0 9 rfl rfl)
theorem dX2_acted_10 : decode cX2_acted 10 = .ok (.iload_n 2, 1) := dk_28 (dk_at dksX2_acted_0 10 rfl rfl)
theorem dX2_acted_11 : decode cX2_acted 11 = .ok (.sipush 198, 3) := dk_17 0 198 (dk_at dksX2_acted_0 11 rfl rfl)
theorem dX2_acted_14 : decode cX2_acted 14 = .ok (.if_icmp .ge 24, 3) := dk_162 0 24 (dk_at dksX2_acted_0 14 rfl rfl)
theorem dX2_acted_17 : decode cX2_acted 17 = .ok (.aload_n 0, 1) := dk_42 (dk_at dksX2_acted_0 17 rfl rfl)
theorem dX2_acted_18 : decode cX2_acted 18 = .ok (.getfield 16, 3) := dk_180 0 16 (dk_at dksX2_acted_0 18 rfl rfl)
theorem dX2_acted_21 : decode cX2_acted 21 = .ok (.iload_n 2, 1) := dk_28 (dk_at dksX2_acted_0 21 rfl rfl)
theorem dX2_acted_22 : decode cX2_acted 22 = .ok (.aload_n 0, 1) := dk_42 (dk_at dksX2_acted_0 22 rfl rfl)
theorem dX2_acted_23 : decode cX2_acted 23 = .ok (.getfield 16, 3) := dk_180 0 16 (dk_at dksX2_acted_1 0 rfl rfl)
theorem dX2_acted_26 : decode cX2_acted 26 = .ok (.iload_n 2, 1) := dk_28 (dk_at dksX2_acted_1 3 rfl rfl)
theorem dX2_acted_27 : decode cX2_acted 27 = .ok (.bipush 66, 2) := dk_16 66 (dk_at dksX2_acted_1 4 rfl rfl)
theorem dX2_acted_29 : decode cX2_acted 29 = .ok (.iadd, 1) := dk_96 (dk_at dksX2_acted_1 6 rfl rfl)
theorem dX2_acted_30 : decode cX2_acted 30 = .ok (.iaload, 1) := dk_46 (dk_at dksX2_acted_1 7 rfl rfl)
theorem dX2_acted_31 : decode cX2_acted 31 = .ok (.iastore, 1) := dk_79 (dk_at dksX2_acted_1 8 rfl rfl)
theorem dX2_acted_32 : decode cX2_acted 32 = .ok (.iinc 2 1, 3) := dk_132 2 1 (dk_at dksX2_acted_1 9 rfl rfl)
theorem dX2_acted_35 : decode cX2_acted 35 = .ok (.goto (-25), 3) := dk_167 255 231 (dk_at dksX2_acted_1 12 rfl rfl)
theorem dX2_acted_38 : decode cX2_acted 38 = .ok (.aload_n 0, 1) := dk_42 (dk_at dksX2_acted_1 15 rfl rfl)
theorem dX2_acted_39 : decode cX2_acted 39 = .ok (.dup, 1) := dk_89 (dk_at dksX2_acted_1 16 rfl rfl)
theorem dX2_acted_40 : decode cX2_acted 40 = .ok (.getfield 61, 3) := dk_180 0 61 (dk_at dksX2_acted_1 17 rfl rfl)
theorem dX2_acted_43 : decode cX2_acted 43 = .ok (.iconst 1, 1) := dk_4 (dk_at dksX2_acted_1 20 rfl rfl)
theorem dX2_acted_44 : decode cX2_acted 44 = .ok (.isub, 1) := dk_100 (dk_at dksX2_acted_1 21 rfl rfl)
theorem dX2_acted_45 : decode cX2_acted 45 = .ok (.putfield 61, 3) := dk_181 0 61 (dk_at dksX2_acted_2 0 rfl rfl)
theorem dX2_acted_48 : decode cX2_acted 48 = .ok (.iconst 0, 1) := dk_3 (dk_at dksX2_acted_2 3 rfl rfl)
theorem dX2_acted_49 : decode cX2_acted 49 = .ok (.istore_n 2, 1) := dk_61 (dk_at dksX2_acted_2 4 rfl rfl)
theorem dX2_acted_50 : decode cX2_acted 50 = .ok (.iload_n 2, 1) := dk_28 (dk_at dksX2_acted_2 5 rfl rfl)
theorem dX2_acted_51 : decode cX2_acted 51 = .ok (.bipush 66, 2) := dk_16 66 (dk_at dksX2_acted_2 6 rfl rfl)
theorem dX2_acted_53 : decode cX2_acted 53 = .ok (.if_icmp .ge 29, 3) := dk_162 0 29 (dk_at dksX2_acted_2 8 rfl rfl)
theorem dX2_acted_56 : decode cX2_acted 56 = .ok (.aload_n 0, 1) := dk_42 (dk_at dksX2_acted_2 11 rfl rfl)
theorem dX2_acted_57 : decode cX2_acted 57 = .ok (.getfield 16, 3) := dk_180 0 16 (dk_at dksX2_acted_2 12 rfl rfl)
theorem dX2_acted_60 : decode cX2_acted 60 = .ok (.bipush 66, 2) := dk_16 66 (dk_at dksX2_acted_2 15 rfl rfl)
theorem dX2_acted_62 : decode cX2_acted 62 = .ok (.aload_n 0, 1) := dk_42 (dk_at dksX2_acted_2 17 rfl rfl)
theorem dX2_acted_63 : decode cX2_acted 63 = .ok (.getfield 61, 3) := dk_180 0 61 (dk_at dksX2_acted_2 18 rfl rfl)
theorem dX2_acted_66 : decode cX2_acted 66 = .ok (.imul, 1) := dk_104 (dk_at dksX2_acted_2 21 rfl rfl)
theorem dX2_acted_67 : decode cX2_acted 67 = .ok (.iload_n 2, 1) := dk_28 (dk_at dksX2_acted_2 22 rfl rfl)
theorem dX2_acted_68 : decode cX2_acted 68 = .ok (.iadd, 1) := dk_96 (dk_at dksX2_acted_2 23 rfl rfl)
theorem dX2_acted_69 : decode cX2_acted 69 = .ok (.aload_n 0, 1) := dk_42 (dk_at dksX2_acted_3 0 rfl rfl)
theorem dX2_acted_70 : decode cX2_acted 70 = .ok (.getfield 13, 3) := dk_180 0 13 (dk_at dksX2_acted_3 1 rfl rfl)
theorem dX2_acted_73 : decode cX2_acted 73 = .ok (.iload_n 2, 1) := dk_28 (dk_at dksX2_acted_3 4 rfl rfl)
theorem dX2_acted_74 : decode cX2_acted 74 = .ok (.iaload, 1) := dk_46 (dk_at dksX2_acted_3 5 rfl rfl)
theorem dX2_acted_75 : decode cX2_acted 75 = .ok (.iastore, 1) := dk_79 (dk_at dksX2_acted_3 6 rfl rfl)
theorem dX2_acted_76 : decode cX2_acted 76 = .ok (.iinc 2 1, 3) := dk_132 2 1 (dk_at dksX2_acted_3 7 rfl rfl)
theorem dX2_acted_79 : decode cX2_acted 79 = .ok (.goto (-29), 3) := dk_167 255 227 (dk_at dksX2_acted_3 10 rfl rfl)
theorem dX2_acted_82 : decode cX2_acted 82 = .ok (.aload_n 0, 1) := dk_42 (dk_at dksX2_acted_3 13 rfl rfl)
theorem dX2_acted_83 : decode cX2_acted 83 = .ok (.dup, 1) := dk_89 (dk_at dksX2_acted_3 14 rfl rfl)
theorem dX2_acted_84 : decode cX2_acted 84 = .ok (.getfield 61, 3) := dk_180 0 61 (dk_at dksX2_acted_3 15 rfl rfl)
theorem dX2_acted_87 : decode cX2_acted 87 = .ok (.iconst 1, 1) := dk_4 (dk_at dksX2_acted_3 18 rfl rfl)
theorem dX2_acted_88 : decode cX2_acted 88 = .ok (.iadd, 1) := dk_96 (dk_at dksX2_acted_3 19 rfl rfl)
theorem dX2_acted_89 : decode cX2_acted 89 = .ok (.putfield 61, 3) := dk_181 0 61 (dk_at dksX2_acted_3 20 rfl rfl)
theorem dX2_acted_92 : decode cX2_acted 92 = .ok (.iload_n 1, 1) := dk_27 (dk_at dksX2_acted_3 23 rfl rfl)
theorem dX2_acted_93 : decode cX2_acted 93 = .ok (.ireturn, 1) := dk_172 (dk_at dksX2_acted_4 0 rfl rfl)
abbrev cX2_gate : ByteArray := prog_8_method_12_code
def yX2_gate : MethodName := ⟨RX2, "gate", "(III)I"⟩
def dkwX2_gate_1 : List UInt8 := [20, 0, 96, 184, 0, 65, 153, 0, 15, 42, 27, 28, 29, 18, 85, 182, 0, 86, 167, 0, 5, 18, 90, 172]
abbrev dktX2_gate_1 : List UInt8 := dkwX2_gate_1 ++ []
def dkwX2_gate_0 : List UInt8 := [42, 28, 182, 0, 91, 153, 0, 11, 42, 29, 182, 0, 91, 154, 0, 6, 18, 95, 172, 27, 133, 10]
abbrev dktX2_gate_0 : List UInt8 := dkwX2_gate_0 ++ dktX2_gate_1
theorem dksX2_gate_0 : cX2_gate.data.toList.drop 0 = dktX2_gate_0 := by decide +kernel
theorem dksX2_gate_1 : cX2_gate.data.toList.drop 22 = dktX2_gate_1 := dk_seg dksX2_gate_0 22 rfl rfl
theorem dX2_gate_0 : decode cX2_gate 0 = .ok (.aload_n 0, 1) := dk_42 (dk_at dksX2_gate_0 0 rfl rfl)
theorem dX2_gate_1 : decode cX2_gate 1 = .ok (.iload_n 2, 1) := dk_28 (dk_at dksX2_gate_0 1 rfl rfl)
theorem dX2_gate_2 : decode cX2_gate 2 = .ok (.invokevirtual 91, 3) := dk_182 0 91 (dk_at dksX2_gate_0 2 rfl rfl)
theorem dX2_gate_5 : decode cX2_gate 5 = .ok (.ifCond .eq 11, 3) := dk_153 0 11 (dk_at dksX2_gate_0 5 rfl rfl)
theorem dX2_gate_8 : decode cX2_gate 8 = .ok (.aload_n 0, 1) := dk_42 (dk_at dksX2_gate_0 8 rfl rfl)
theorem dX2_gate_9 : decode cX2_gate 9 = .ok (.iload_n 3, 1) := dk_29 (dk_at dksX2_gate_0 9 rfl rfl)
theorem dX2_gate_10 : decode cX2_gate 10 = .ok (.invokevirtual 91, 3) := dk_182 0 91 (dk_at dksX2_gate_0 10 rfl rfl)
theorem dX2_gate_13 : decode cX2_gate 13 = .ok (.ifCond .ne 6, 3) := dk_154 0 6 (dk_at dksX2_gate_0 13 rfl rfl)
theorem dX2_gate_16 : decode cX2_gate 16 = .ok (.ldc 95, 2) := dk_18 95 (dk_at dksX2_gate_0 16 rfl rfl)
theorem dX2_gate_18 : decode cX2_gate 18 = .ok (.ireturn, 1) := dk_172 (dk_at dksX2_gate_0 18 rfl rfl)
theorem dX2_gate_19 : decode cX2_gate 19 = .ok (.iload_n 1, 1) := dk_27 (dk_at dksX2_gate_0 19 rfl rfl)
theorem dX2_gate_20 : decode cX2_gate 20 = .ok (.i2l, 1) := dk_133 (dk_at dksX2_gate_0 20 rfl rfl)
theorem dX2_gate_21 : decode cX2_gate 21 = .ok (.lconst 1, 1) := dk_10 (dk_at dksX2_gate_0 21 rfl rfl)
theorem dX2_gate_22 : decode cX2_gate 22 = .ok (.ldc2_w 96, 3) := dk_20 0 96 (dk_at dksX2_gate_1 0 rfl rfl)
theorem dX2_gate_25 : decode cX2_gate 25 = .ok (.invokestatic 65, 3) := dk_184 0 65 (dk_at dksX2_gate_1 3 rfl rfl)
theorem dX2_gate_28 : decode cX2_gate 28 = .ok (.ifCond .eq 15, 3) := dk_153 0 15 (dk_at dksX2_gate_1 6 rfl rfl)
theorem dX2_gate_31 : decode cX2_gate 31 = .ok (.aload_n 0, 1) := dk_42 (dk_at dksX2_gate_1 9 rfl rfl)
theorem dX2_gate_32 : decode cX2_gate 32 = .ok (.iload_n 1, 1) := dk_27 (dk_at dksX2_gate_1 10 rfl rfl)
theorem dX2_gate_33 : decode cX2_gate 33 = .ok (.iload_n 2, 1) := dk_28 (dk_at dksX2_gate_1 11 rfl rfl)
theorem dX2_gate_34 : decode cX2_gate 34 = .ok (.iload_n 3, 1) := dk_29 (dk_at dksX2_gate_1 12 rfl rfl)
theorem dX2_gate_35 : decode cX2_gate 35 = .ok (.ldc 85, 2) := dk_18 85 (dk_at dksX2_gate_1 13 rfl rfl)
theorem dX2_gate_37 : decode cX2_gate 37 = .ok (.invokevirtual 86, 3) := dk_182 0 86 (dk_at dksX2_gate_1 15 rfl rfl)
theorem dX2_gate_40 : decode cX2_gate 40 = .ok (.goto 5, 3) := dk_167 0 5 (dk_at dksX2_gate_1 18 rfl rfl)
theorem dX2_gate_43 : decode cX2_gate 43 = .ok (.ldc 90, 2) := dk_18 90 (dk_at dksX2_gate_1 21 rfl rfl)
theorem dX2_gate_45 : decode cX2_gate 45 = .ok (.ireturn, 1) := dk_172 (dk_at dksX2_gate_1 23 rfl rfl)
abbrev cX2_isLine : ByteArray := prog_8_method_6_code
def yX2_isLine : MethodName := ⟨RX2, "isLine", "(I)Z"⟩
def dkwX2_isLine_0 : List UInt8 := [27, 133, 9, 42, 180, 0, 7, 3, 46, 133, 10, 101, 184, 0, 65, 172]
abbrev dktX2_isLine_0 : List UInt8 := dkwX2_isLine_0 ++ []
theorem dksX2_isLine_0 : cX2_isLine.data.toList.drop 0 = dktX2_isLine_0 := by decide +kernel
theorem dX2_isLine_0 : decode cX2_isLine 0 = .ok (.iload_n 1, 1) := dk_27 (dk_at dksX2_isLine_0 0 rfl rfl)
theorem dX2_isLine_1 : decode cX2_isLine 1 = .ok (.i2l, 1) := dk_133 (dk_at dksX2_isLine_0 1 rfl rfl)
theorem dX2_isLine_2 : decode cX2_isLine 2 = .ok (.lconst 0, 1) := dk_9 (dk_at dksX2_isLine_0 2 rfl rfl)
theorem dX2_isLine_3 : decode cX2_isLine 3 = .ok (.aload_n 0, 1) := dk_42 (dk_at dksX2_isLine_0 3 rfl rfl)
theorem dX2_isLine_4 : decode cX2_isLine 4 = .ok (.getfield 7, 3) := dk_180 0 7 (dk_at dksX2_isLine_0 4 rfl rfl)
theorem dX2_isLine_7 : decode cX2_isLine 7 = .ok (.iconst 0, 1) := dk_3 (dk_at dksX2_isLine_0 7 rfl rfl)
theorem dX2_isLine_8 : decode cX2_isLine 8 = .ok (.iaload, 1) := dk_46 (dk_at dksX2_isLine_0 8 rfl rfl)
theorem dX2_isLine_9 : decode cX2_isLine 9 = .ok (.i2l, 1) := dk_133 (dk_at dksX2_isLine_0 9 rfl rfl)
theorem dX2_isLine_10 : decode cX2_isLine 10 = .ok (.lconst 1, 1) := dk_10 (dk_at dksX2_isLine_0 10 rfl rfl)
theorem dX2_isLine_11 : decode cX2_isLine 11 = .ok (.lsub, 1) := dk_101 (dk_at dksX2_isLine_0 11 rfl rfl)
theorem dX2_isLine_12 : decode cX2_isLine 12 = .ok (.invokestatic 65, 3) := dk_184 0 65 (dk_at dksX2_isLine_0 12 rfl rfl)
theorem dX2_isLine_15 : decode cX2_isLine 15 = .ok (.ireturn, 1) := dk_172 (dk_at dksX2_isLine_0 15 rfl rfl)
abbrev cX2_choose : ByteArray := prog_8_method_13_code
def yX2_choose : MethodName := ⟨RX2, "choose", "(III)I"⟩
def dkwX2_choose_1 : List UInt8 := [42, 7, 27, 28, 29, 182, 0, 86, 167, 0, 5, 18, 95, 172]
abbrev dktX2_choose_1 : List UInt8 := dkwX2_choose_1 ++ []
def dkwX2_choose_0 : List UInt8 := [42, 27, 182, 0, 91, 153, 0, 30, 42, 28, 182, 0, 91, 153, 0, 22, 42, 29, 182, 0, 91, 153, 0, 14]
abbrev dktX2_choose_0 : List UInt8 := dkwX2_choose_0 ++ dktX2_choose_1
theorem dksX2_choose_0 : cX2_choose.data.toList.drop 0 = dktX2_choose_0 := by decide +kernel
theorem dksX2_choose_1 : cX2_choose.data.toList.drop 24 = dktX2_choose_1 := dk_seg dksX2_choose_0 24 rfl rfl
theorem dX2_choose_0 : decode cX2_choose 0 = .ok (.aload_n 0, 1) := dk_42 (dk_at dksX2_choose_0 0 rfl rfl)
theorem dX2_choose_1 : decode cX2_choose 1 = .ok (.iload_n 1, 1) := dk_27 (dk_at dksX2_choose_0 1 rfl rfl)
theorem dX2_choose_2 : decode cX2_choose 2 = .ok (.invokevirtual 91, 3) := dk_182 0 91 (dk_at dksX2_choose_0 2 rfl rfl)
theorem dX2_choose_5 : decode cX2_choose 5 = .ok (.ifCond .eq 30, 3) := dk_153 0 30 (dk_at dksX2_choose_0 5 rfl rfl)
theorem dX2_choose_8 : decode cX2_choose 8 = .ok (.aload_n 0, 1) := dk_42 (dk_at dksX2_choose_0 8 rfl rfl)
theorem dX2_choose_9 : decode cX2_choose 9 = .ok (.iload_n 2, 1) := dk_28 (dk_at dksX2_choose_0 9 rfl rfl)
theorem dX2_choose_10 : decode cX2_choose 10 = .ok (.invokevirtual 91, 3) := dk_182 0 91 (dk_at dksX2_choose_0 10 rfl rfl)
theorem dX2_choose_13 : decode cX2_choose 13 = .ok (.ifCond .eq 22, 3) := dk_153 0 22 (dk_at dksX2_choose_0 13 rfl rfl)
theorem dX2_choose_16 : decode cX2_choose 16 = .ok (.aload_n 0, 1) := dk_42 (dk_at dksX2_choose_0 16 rfl rfl)
theorem dX2_choose_17 : decode cX2_choose 17 = .ok (.iload_n 3, 1) := dk_29 (dk_at dksX2_choose_0 17 rfl rfl)
theorem dX2_choose_18 : decode cX2_choose 18 = .ok (.invokevirtual 91, 3) := dk_182 0 91 (dk_at dksX2_choose_0 18 rfl rfl)
theorem dX2_choose_21 : decode cX2_choose 21 = .ok (.ifCond .eq 14, 3) := dk_153 0 14 (dk_at dksX2_choose_0 21 rfl rfl)
theorem dX2_choose_24 : decode cX2_choose 24 = .ok (.aload_n 0, 1) := dk_42 (dk_at dksX2_choose_1 0 rfl rfl)
theorem dX2_choose_25 : decode cX2_choose 25 = .ok (.iconst 4, 1) := dk_7 (dk_at dksX2_choose_1 1 rfl rfl)
theorem dX2_choose_26 : decode cX2_choose 26 = .ok (.iload_n 1, 1) := dk_27 (dk_at dksX2_choose_1 2 rfl rfl)
theorem dX2_choose_27 : decode cX2_choose 27 = .ok (.iload_n 2, 1) := dk_28 (dk_at dksX2_choose_1 3 rfl rfl)
theorem dX2_choose_28 : decode cX2_choose 28 = .ok (.iload_n 3, 1) := dk_29 (dk_at dksX2_choose_1 4 rfl rfl)
theorem dX2_choose_29 : decode cX2_choose 29 = .ok (.invokevirtual 86, 3) := dk_182 0 86 (dk_at dksX2_choose_1 5 rfl rfl)
theorem dX2_choose_32 : decode cX2_choose 32 = .ok (.goto 5, 3) := dk_167 0 5 (dk_at dksX2_choose_1 8 rfl rfl)
theorem dX2_choose_35 : decode cX2_choose 35 = .ok (.ldc 95, 2) := dk_18 95 (dk_at dksX2_choose_1 11 rfl rfl)
theorem dX2_choose_37 : decode cX2_choose 37 = .ok (.ireturn, 1) := dk_172 (dk_at dksX2_choose_1 13 rfl rfl)
abbrev cX2_turn : ByteArray := prog_8_method_14_code
def yX2_turn : MethodName := ⟨RX2, "turn", "(I)I"⟩
def dkwX2_turn_0 : List UInt8 := [42, 27, 182, 0, 91, 153, 0, 16, 42, 8, 27, 18, 85, 18, 85, 182, 0, 86, 167, 0, 5, 18, 95, 172]
abbrev dktX2_turn_0 : List UInt8 := dkwX2_turn_0 ++ []
theorem dksX2_turn_0 : cX2_turn.data.toList.drop 0 = dktX2_turn_0 := by decide +kernel
theorem dX2_turn_0 : decode cX2_turn 0 = .ok (.aload_n 0, 1) := dk_42 (dk_at dksX2_turn_0 0 rfl rfl)
theorem dX2_turn_1 : decode cX2_turn 1 = .ok (.iload_n 1, 1) := dk_27 (dk_at dksX2_turn_0 1 rfl rfl)
theorem dX2_turn_2 : decode cX2_turn 2 = .ok (.invokevirtual 91, 3) := dk_182 0 91 (dk_at dksX2_turn_0 2 rfl rfl)
theorem dX2_turn_5 : decode cX2_turn 5 = .ok (.ifCond .eq 16, 3) := dk_153 0 16 (dk_at dksX2_turn_0 5 rfl rfl)
theorem dX2_turn_8 : decode cX2_turn 8 = .ok (.aload_n 0, 1) := dk_42 (dk_at dksX2_turn_0 8 rfl rfl)
theorem dX2_turn_9 : decode cX2_turn 9 = .ok (.iconst 5, 1) := dk_8 (dk_at dksX2_turn_0 9 rfl rfl)
theorem dX2_turn_10 : decode cX2_turn 10 = .ok (.iload_n 1, 1) := dk_27 (dk_at dksX2_turn_0 10 rfl rfl)
theorem dX2_turn_11 : decode cX2_turn 11 = .ok (.ldc 85, 2) := dk_18 85 (dk_at dksX2_turn_0 11 rfl rfl)
theorem dX2_turn_13 : decode cX2_turn 13 = .ok (.ldc 85, 2) := dk_18 85 (dk_at dksX2_turn_0 13 rfl rfl)
theorem dX2_turn_15 : decode cX2_turn 15 = .ok (.invokevirtual 86, 3) := dk_182 0 86 (dk_at dksX2_turn_0 15 rfl rfl)
theorem dX2_turn_18 : decode cX2_turn 18 = .ok (.goto 5, 3) := dk_167 0 5 (dk_at dksX2_turn_0 18 rfl rfl)
theorem dX2_turn_21 : decode cX2_turn 21 = .ok (.ldc 95, 2) := dk_18 95 (dk_at dksX2_turn_0 21 rfl rfl)
theorem dX2_turn_23 : decode cX2_turn 23 = .ok (.ireturn, 1) := dk_172 (dk_at dksX2_turn_0 23 rfl rfl)
abbrev cX2_delay : ByteArray := prog_8_method_15_code
def yX2_delay : MethodName := ⟨RX2, "delay", "(II)I"⟩
def dkwX2_delay_1 : List UInt8 := [16, 6, 27, 28, 18, 85, 182, 0, 86, 167, 0, 5, 18, 90, 172]
abbrev dktX2_delay_1 : List UInt8 := dkwX2_delay_1 ++ []
def dkwX2_delay_0 : List UInt8 := [42, 27, 182, 0, 91, 154, 0, 6, 18, 95, 172, 28, 133, 10, 20, 0, 98, 184, 0, 65, 153, 0, 16, 42]
abbrev dktX2_delay_0 : List UInt8 := dkwX2_delay_0 ++ dktX2_delay_1
theorem dksX2_delay_0 : cX2_delay.data.toList.drop 0 = dktX2_delay_0 := by decide +kernel
theorem dksX2_delay_1 : cX2_delay.data.toList.drop 24 = dktX2_delay_1 := dk_seg dksX2_delay_0 24 rfl rfl
theorem dX2_delay_0 : decode cX2_delay 0 = .ok (.aload_n 0, 1) := dk_42 (dk_at dksX2_delay_0 0 rfl rfl)
theorem dX2_delay_1 : decode cX2_delay 1 = .ok (.iload_n 1, 1) := dk_27 (dk_at dksX2_delay_0 1 rfl rfl)
theorem dX2_delay_2 : decode cX2_delay 2 = .ok (.invokevirtual 91, 3) := dk_182 0 91 (dk_at dksX2_delay_0 2 rfl rfl)
theorem dX2_delay_5 : decode cX2_delay 5 = .ok (.ifCond .ne 6, 3) := dk_154 0 6 (dk_at dksX2_delay_0 5 rfl rfl)
theorem dX2_delay_8 : decode cX2_delay 8 = .ok (.ldc 95, 2) := dk_18 95 (dk_at dksX2_delay_0 8 rfl rfl)
theorem dX2_delay_10 : decode cX2_delay 10 = .ok (.ireturn, 1) := dk_172 (dk_at dksX2_delay_0 10 rfl rfl)
theorem dX2_delay_11 : decode cX2_delay 11 = .ok (.iload_n 2, 1) := dk_28 (dk_at dksX2_delay_0 11 rfl rfl)
theorem dX2_delay_12 : decode cX2_delay 12 = .ok (.i2l, 1) := dk_133 (dk_at dksX2_delay_0 12 rfl rfl)
theorem dX2_delay_13 : decode cX2_delay 13 = .ok (.lconst 1, 1) := dk_10 (dk_at dksX2_delay_0 13 rfl rfl)
theorem dX2_delay_14 : decode cX2_delay 14 = .ok (.ldc2_w 98, 3) := dk_20 0 98 (dk_at dksX2_delay_0 14 rfl rfl)
theorem dX2_delay_17 : decode cX2_delay 17 = .ok (.invokestatic 65, 3) := dk_184 0 65 (dk_at dksX2_delay_0 17 rfl rfl)
theorem dX2_delay_20 : decode cX2_delay 20 = .ok (.ifCond .eq 16, 3) := dk_153 0 16 (dk_at dksX2_delay_0 20 rfl rfl)
theorem dX2_delay_23 : decode cX2_delay 23 = .ok (.aload_n 0, 1) := dk_42 (dk_at dksX2_delay_0 23 rfl rfl)
theorem dX2_delay_24 : decode cX2_delay 24 = .ok (.bipush 6, 2) := dk_16 6 (dk_at dksX2_delay_1 0 rfl rfl)
theorem dX2_delay_26 : decode cX2_delay 26 = .ok (.iload_n 1, 1) := dk_27 (dk_at dksX2_delay_1 2 rfl rfl)
theorem dX2_delay_27 : decode cX2_delay 27 = .ok (.iload_n 2, 1) := dk_28 (dk_at dksX2_delay_1 3 rfl rfl)
theorem dX2_delay_28 : decode cX2_delay 28 = .ok (.ldc 85, 2) := dk_18 85 (dk_at dksX2_delay_1 4 rfl rfl)
theorem dX2_delay_30 : decode cX2_delay 30 = .ok (.invokevirtual 86, 3) := dk_182 0 86 (dk_at dksX2_delay_1 6 rfl rfl)
theorem dX2_delay_33 : decode cX2_delay 33 = .ok (.goto 5, 3) := dk_167 0 5 (dk_at dksX2_delay_1 9 rfl rfl)
theorem dX2_delay_36 : decode cX2_delay 36 = .ok (.ldc 90, 2) := dk_18 90 (dk_at dksX2_delay_1 12 rfl rfl)
theorem dX2_delay_38 : decode cX2_delay 38 = .ok (.ireturn, 1) := dk_172 (dk_at dksX2_delay_1 14 rfl rfl)
abbrev cX2_reseed : ByteArray := prog_8_method_16_code
def yX2_reseed : MethodName := ⟨RX2, "reseed", "(III)I"⟩
def dkwX2_reseed_4 : List UInt8 := [180, 0, 7, 5, 7, 27, 104, 96, 5, 96, 29, 79, 42, 21, 4, 182, 0, 77, 172]
abbrev dktX2_reseed_4 : List UInt8 := dkwX2_reseed_4 ++ []
def dkwX2_reseed_3 : List UInt8 := [160, 0, 6, 18, 85, 172, 42, 182, 0, 70, 42, 180, 0, 7, 5, 7, 27, 104, 96, 4, 96, 28, 79, 42]
abbrev dktX2_reseed_3 : List UInt8 := dkwX2_reseed_3 ++ dktX2_reseed_4
def dkwX2_reseed_2 : List UInt8 := [18, 104, 172, 42, 27, 4, 182, 0, 100, 54, 4, 21, 4, 28, 160, 0, 16, 42, 27, 5, 182, 0, 100, 29]
abbrev dktX2_reseed_2 : List UInt8 := dkwX2_reseed_2 ++ dktX2_reseed_3
def dkwX2_reseed_1 : List UInt8 := [133, 10, 20, 0, 83, 184, 0, 65, 154, 0, 6, 18, 90, 172, 42, 27, 3, 182, 0, 100, 153, 0, 6]
abbrev dktX2_reseed_1 : List UInt8 := dkwX2_reseed_1 ++ dktX2_reseed_2
def dkwX2_reseed_0 : List UInt8 := [42, 27, 182, 0, 91, 154, 0, 6, 18, 95, 172, 28, 133, 9, 20, 0, 81, 184, 0, 65, 153, 0, 15, 29]
abbrev dktX2_reseed_0 : List UInt8 := dkwX2_reseed_0 ++ dktX2_reseed_1
theorem dksX2_reseed_0 : cX2_reseed.data.toList.drop 0 = dktX2_reseed_0 := by decide +kernel
theorem dksX2_reseed_1 : cX2_reseed.data.toList.drop 24 = dktX2_reseed_1 := dk_seg dksX2_reseed_0 24 rfl rfl
theorem dksX2_reseed_2 : cX2_reseed.data.toList.drop 47 = dktX2_reseed_2 := dk_seg dksX2_reseed_1 23 rfl rfl
theorem dksX2_reseed_3 : cX2_reseed.data.toList.drop 71 = dktX2_reseed_3 := dk_seg dksX2_reseed_2 24 rfl rfl
theorem dksX2_reseed_4 : cX2_reseed.data.toList.drop 95 = dktX2_reseed_4 := dk_seg dksX2_reseed_3 24 rfl rfl
theorem dX2_reseed_0 : decode cX2_reseed 0 = .ok (.aload_n 0, 1) := dk_42 (dk_at dksX2_reseed_0 0 rfl rfl)
theorem dX2_reseed_1 : decode cX2_reseed 1 = .ok (.iload_n 1, 1) := dk_27 (dk_at dksX2_reseed_0 1 rfl rfl)
theorem dX2_reseed_2 : decode cX2_reseed 2 = .ok (.invokevirtual 91, 3) := dk_182 0 91 (dk_at dksX2_reseed_0 2 rfl rfl)
theorem dX2_reseed_5 : decode cX2_reseed 5 = .ok (.ifCond .ne 6, 3) := dk_154 0 6 (dk_at dksX2_reseed_0 5 rfl rfl)
theorem dX2_reseed_8 : decode cX2_reseed 8 = .ok (.ldc 95, 2) := dk_18 95 (dk_at dksX2_reseed_0 8 rfl rfl)
theorem dX2_reseed_10 : decode cX2_reseed 10 = .ok (.ireturn, 1) := dk_172 (dk_at dksX2_reseed_0 10 rfl rfl)
theorem dX2_reseed_11 : decode cX2_reseed 11 = .ok (.iload_n 2, 1) := dk_28 (dk_at dksX2_reseed_0 11 rfl rfl)
theorem dX2_reseed_12 : decode cX2_reseed 12 = .ok (.i2l, 1) := dk_133 (dk_at dksX2_reseed_0 12 rfl rfl)
theorem dX2_reseed_13 : decode cX2_reseed 13 = .ok (.lconst 0, 1) := dk_9 (dk_at dksX2_reseed_0 13 rfl rfl)
theorem dX2_reseed_14 : decode cX2_reseed 14 = .ok (.ldc2_w 81, 3) := dk_20 0 81 (dk_at dksX2_reseed_0 14 rfl rfl)
theorem dX2_reseed_17 : decode cX2_reseed 17 = .ok (.invokestatic 65, 3) := dk_184 0 65 (dk_at dksX2_reseed_0 17 rfl rfl)
theorem dX2_reseed_20 : decode cX2_reseed 20 = .ok (.ifCond .eq 15, 3) := dk_153 0 15 (dk_at dksX2_reseed_0 20 rfl rfl)
theorem dX2_reseed_23 : decode cX2_reseed 23 = .ok (.iload_n 3, 1) := dk_29 (dk_at dksX2_reseed_0 23 rfl rfl)
theorem dX2_reseed_24 : decode cX2_reseed 24 = .ok (.i2l, 1) := dk_133 (dk_at dksX2_reseed_1 0 rfl rfl)
theorem dX2_reseed_25 : decode cX2_reseed 25 = .ok (.lconst 1, 1) := dk_10 (dk_at dksX2_reseed_1 1 rfl rfl)
theorem dX2_reseed_26 : decode cX2_reseed 26 = .ok (.ldc2_w 83, 3) := dk_20 0 83 (dk_at dksX2_reseed_1 2 rfl rfl)
theorem dX2_reseed_29 : decode cX2_reseed 29 = .ok (.invokestatic 65, 3) := dk_184 0 65 (dk_at dksX2_reseed_1 5 rfl rfl)
theorem dX2_reseed_32 : decode cX2_reseed 32 = .ok (.ifCond .ne 6, 3) := dk_154 0 6 (dk_at dksX2_reseed_1 8 rfl rfl)
theorem dX2_reseed_35 : decode cX2_reseed 35 = .ok (.ldc 90, 2) := dk_18 90 (dk_at dksX2_reseed_1 11 rfl rfl)
theorem dX2_reseed_37 : decode cX2_reseed 37 = .ok (.ireturn, 1) := dk_172 (dk_at dksX2_reseed_1 13 rfl rfl)
theorem dX2_reseed_38 : decode cX2_reseed 38 = .ok (.aload_n 0, 1) := dk_42 (dk_at dksX2_reseed_1 14 rfl rfl)
theorem dX2_reseed_39 : decode cX2_reseed 39 = .ok (.iload_n 1, 1) := dk_27 (dk_at dksX2_reseed_1 15 rfl rfl)
theorem dX2_reseed_40 : decode cX2_reseed 40 = .ok (.iconst 0, 1) := dk_3 (dk_at dksX2_reseed_1 16 rfl rfl)
theorem dX2_reseed_41 : decode cX2_reseed 41 = .ok (.invokevirtual 100, 3) := dk_182 0 100 (dk_at dksX2_reseed_1 17 rfl rfl)
theorem dX2_reseed_44 : decode cX2_reseed 44 = .ok (.ifCond .eq 6, 3) := dk_153 0 6 (dk_at dksX2_reseed_1 20 rfl rfl)
theorem dX2_reseed_47 : decode cX2_reseed 47 = .ok (.ldc 104, 2) := dk_18 104 (dk_at dksX2_reseed_2 0 rfl rfl)
theorem dX2_reseed_49 : decode cX2_reseed 49 = .ok (.ireturn, 1) := dk_172 (dk_at dksX2_reseed_2 2 rfl rfl)
theorem dX2_reseed_50 : decode cX2_reseed 50 = .ok (.aload_n 0, 1) := dk_42 (dk_at dksX2_reseed_2 3 rfl rfl)
theorem dX2_reseed_51 : decode cX2_reseed 51 = .ok (.iload_n 1, 1) := dk_27 (dk_at dksX2_reseed_2 4 rfl rfl)
theorem dX2_reseed_52 : decode cX2_reseed 52 = .ok (.iconst 1, 1) := dk_4 (dk_at dksX2_reseed_2 5 rfl rfl)
theorem dX2_reseed_53 : decode cX2_reseed 53 = .ok (.invokevirtual 100, 3) := dk_182 0 100 (dk_at dksX2_reseed_2 6 rfl rfl)
theorem dX2_reseed_56 : decode cX2_reseed 56 = .ok (.istore 4, 2) := dk_54 4 (dk_at dksX2_reseed_2 9 rfl rfl)
theorem dX2_reseed_58 : decode cX2_reseed 58 = .ok (.iload 4, 2) := dk_21 4 (dk_at dksX2_reseed_2 11 rfl rfl)
theorem dX2_reseed_60 : decode cX2_reseed 60 = .ok (.iload_n 2, 1) := dk_28 (dk_at dksX2_reseed_2 13 rfl rfl)
theorem dX2_reseed_61 : decode cX2_reseed 61 = .ok (.if_icmp .ne 16, 3) := dk_160 0 16 (dk_at dksX2_reseed_2 14 rfl rfl)
theorem dX2_reseed_64 : decode cX2_reseed 64 = .ok (.aload_n 0, 1) := dk_42 (dk_at dksX2_reseed_2 17 rfl rfl)
theorem dX2_reseed_65 : decode cX2_reseed 65 = .ok (.iload_n 1, 1) := dk_27 (dk_at dksX2_reseed_2 18 rfl rfl)
theorem dX2_reseed_66 : decode cX2_reseed 66 = .ok (.iconst 2, 1) := dk_5 (dk_at dksX2_reseed_2 19 rfl rfl)
theorem dX2_reseed_67 : decode cX2_reseed 67 = .ok (.invokevirtual 100, 3) := dk_182 0 100 (dk_at dksX2_reseed_2 20 rfl rfl)
theorem dX2_reseed_70 : decode cX2_reseed 70 = .ok (.iload_n 3, 1) := dk_29 (dk_at dksX2_reseed_2 23 rfl rfl)
theorem dX2_reseed_71 : decode cX2_reseed 71 = .ok (.if_icmp .ne 6, 3) := dk_160 0 6 (dk_at dksX2_reseed_3 0 rfl rfl)
theorem dX2_reseed_74 : decode cX2_reseed 74 = .ok (.ldc 85, 2) := dk_18 85 (dk_at dksX2_reseed_3 3 rfl rfl)
theorem dX2_reseed_76 : decode cX2_reseed 76 = .ok (.ireturn, 1) := dk_172 (dk_at dksX2_reseed_3 5 rfl rfl)
theorem dX2_reseed_77 : decode cX2_reseed 77 = .ok (.aload_n 0, 1) := dk_42 (dk_at dksX2_reseed_3 6 rfl rfl)
theorem dX2_reseed_78 : decode cX2_reseed 78 = .ok (.invokevirtual 70, 3) := dk_182 0 70 (dk_at dksX2_reseed_3 7 rfl rfl)
theorem dX2_reseed_81 : decode cX2_reseed 81 = .ok (.aload_n 0, 1) := dk_42 (dk_at dksX2_reseed_3 10 rfl rfl)
theorem dX2_reseed_82 : decode cX2_reseed 82 = .ok (.getfield 7, 3) := dk_180 0 7 (dk_at dksX2_reseed_3 11 rfl rfl)
theorem dX2_reseed_85 : decode cX2_reseed 85 = .ok (.iconst 2, 1) := dk_5 (dk_at dksX2_reseed_3 14 rfl rfl)
theorem dX2_reseed_86 : decode cX2_reseed 86 = .ok (.iconst 4, 1) := dk_7 (dk_at dksX2_reseed_3 15 rfl rfl)
theorem dX2_reseed_87 : decode cX2_reseed 87 = .ok (.iload_n 1, 1) := dk_27 (dk_at dksX2_reseed_3 16 rfl rfl)
theorem dX2_reseed_88 : decode cX2_reseed 88 = .ok (.imul, 1) := dk_104 (dk_at dksX2_reseed_3 17 rfl rfl)
theorem dX2_reseed_89 : decode cX2_reseed 89 = .ok (.iadd, 1) := dk_96 (dk_at dksX2_reseed_3 18 rfl rfl)
theorem dX2_reseed_90 : decode cX2_reseed 90 = .ok (.iconst 1, 1) := dk_4 (dk_at dksX2_reseed_3 19 rfl rfl)
theorem dX2_reseed_91 : decode cX2_reseed 91 = .ok (.iadd, 1) := dk_96 (dk_at dksX2_reseed_3 20 rfl rfl)
theorem dX2_reseed_92 : decode cX2_reseed 92 = .ok (.iload_n 2, 1) := dk_28 (dk_at dksX2_reseed_3 21 rfl rfl)
theorem dX2_reseed_93 : decode cX2_reseed 93 = .ok (.iastore, 1) := dk_79 (dk_at dksX2_reseed_3 22 rfl rfl)
theorem dX2_reseed_94 : decode cX2_reseed 94 = .ok (.aload_n 0, 1) := dk_42 (dk_at dksX2_reseed_3 23 rfl rfl)
theorem dX2_reseed_95 : decode cX2_reseed 95 = .ok (.getfield 7, 3) := dk_180 0 7 (dk_at dksX2_reseed_4 0 rfl rfl)
theorem dX2_reseed_98 : decode cX2_reseed 98 = .ok (.iconst 2, 1) := dk_5 (dk_at dksX2_reseed_4 3 rfl rfl)
theorem dX2_reseed_99 : decode cX2_reseed 99 = .ok (.iconst 4, 1) := dk_7 (dk_at dksX2_reseed_4 4 rfl rfl)
theorem dX2_reseed_100 : decode cX2_reseed 100 = .ok (.iload_n 1, 1) := dk_27 (dk_at dksX2_reseed_4 5 rfl rfl)
theorem dX2_reseed_101 : decode cX2_reseed 101 = .ok (.imul, 1) := dk_104 (dk_at dksX2_reseed_4 6 rfl rfl)
theorem dX2_reseed_102 : decode cX2_reseed 102 = .ok (.iadd, 1) := dk_96 (dk_at dksX2_reseed_4 7 rfl rfl)
theorem dX2_reseed_103 : decode cX2_reseed 103 = .ok (.iconst 2, 1) := dk_5 (dk_at dksX2_reseed_4 8 rfl rfl)
theorem dX2_reseed_104 : decode cX2_reseed 104 = .ok (.iadd, 1) := dk_96 (dk_at dksX2_reseed_4 9 rfl rfl)
theorem dX2_reseed_105 : decode cX2_reseed 105 = .ok (.iload_n 3, 1) := dk_29 (dk_at dksX2_reseed_4 10 rfl rfl)
theorem dX2_reseed_106 : decode cX2_reseed 106 = .ok (.iastore, 1) := dk_79 (dk_at dksX2_reseed_4 11 rfl rfl)
theorem dX2_reseed_107 : decode cX2_reseed 107 = .ok (.aload_n 0, 1) := dk_42 (dk_at dksX2_reseed_4 12 rfl rfl)
theorem dX2_reseed_108 : decode cX2_reseed 108 = .ok (.iload 4, 2) := dk_21 4 (dk_at dksX2_reseed_4 13 rfl rfl)
theorem dX2_reseed_110 : decode cX2_reseed 110 = .ok (.invokevirtual 77, 3) := dk_182 0 77 (dk_at dksX2_reseed_4 15 rfl rfl)
theorem dX2_reseed_113 : decode cX2_reseed 113 = .ok (.ireturn, 1) := dk_172 (dk_at dksX2_reseed_4 18 rfl rfl)
abbrev cX2_of : ByteArray := prog_8_method_7_code
def yX2_of : MethodName := ⟨RX2, "of", "(II)I"⟩
def dkwX2_of_0 : List UInt8 := [42, 180, 0, 7, 5, 7, 27, 104, 96, 28, 96, 46, 172]
abbrev dktX2_of_0 : List UInt8 := dkwX2_of_0 ++ []
theorem dksX2_of_0 : cX2_of.data.toList.drop 0 = dktX2_of_0 := by decide +kernel
theorem dX2_of_0 : decode cX2_of 0 = .ok (.aload_n 0, 1) := dk_42 (dk_at dksX2_of_0 0 rfl rfl)
theorem dX2_of_1 : decode cX2_of 1 = .ok (.getfield 7, 3) := dk_180 0 7 (dk_at dksX2_of_0 1 rfl rfl)
theorem dX2_of_4 : decode cX2_of 4 = .ok (.iconst 2, 1) := dk_5 (dk_at dksX2_of_0 4 rfl rfl)
theorem dX2_of_5 : decode cX2_of 5 = .ok (.iconst 4, 1) := dk_7 (dk_at dksX2_of_0 5 rfl rfl)
theorem dX2_of_6 : decode cX2_of 6 = .ok (.iload_n 1, 1) := dk_27 (dk_at dksX2_of_0 6 rfl rfl)
theorem dX2_of_7 : decode cX2_of 7 = .ok (.imul, 1) := dk_104 (dk_at dksX2_of_0 7 rfl rfl)
theorem dX2_of_8 : decode cX2_of 8 = .ok (.iadd, 1) := dk_96 (dk_at dksX2_of_0 8 rfl rfl)
theorem dX2_of_9 : decode cX2_of 9 = .ok (.iload_n 2, 1) := dk_28 (dk_at dksX2_of_0 9 rfl rfl)
theorem dX2_of_10 : decode cX2_of 10 = .ok (.iadd, 1) := dk_96 (dk_at dksX2_of_0 10 rfl rfl)
theorem dX2_of_11 : decode cX2_of 11 = .ok (.iaload, 1) := dk_46 (dk_at dksX2_of_0 11 rfl rfl)
theorem dX2_of_12 : decode cX2_of 12 = .ok (.ireturn, 1) := dk_172 (dk_at dksX2_of_0 12 rfl rfl)
abbrev cX2_removeLast : ByteArray := prog_8_method_17_code
def yX2_removeLast : MethodName := ⟨RX2, "removeLast", "()I"⟩
def dkwX2_removeLast_1 : List UInt8 := [100, 79, 42, 42, 180, 0, 7, 3, 46, 182, 0, 77, 172]
abbrev dktX2_removeLast_1 : List UInt8 := dkwX2_removeLast_1 ++ []
def dkwX2_removeLast_0 : List UInt8 := [42, 180, 0, 7, 3, 46, 154, 0, 6, 18, 85, 172, 42, 182, 0, 70, 42, 180, 0, 7, 3, 92, 46, 4]
abbrev dktX2_removeLast_0 : List UInt8 := dkwX2_removeLast_0 ++ dktX2_removeLast_1
theorem dksX2_removeLast_0 : cX2_removeLast.data.toList.drop 0 = dktX2_removeLast_0 := by decide +kernel
theorem dksX2_removeLast_1 : cX2_removeLast.data.toList.drop 24 = dktX2_removeLast_1 := dk_seg dksX2_removeLast_0 24 rfl rfl
theorem dX2_removeLast_0 : decode cX2_removeLast 0 = .ok (.aload_n 0, 1) := dk_42 (dk_at dksX2_removeLast_0 0 rfl rfl)
theorem dX2_removeLast_1 : decode cX2_removeLast 1 = .ok (.getfield 7, 3) := dk_180 0 7 (dk_at dksX2_removeLast_0 1 rfl rfl)
theorem dX2_removeLast_4 : decode cX2_removeLast 4 = .ok (.iconst 0, 1) := dk_3 (dk_at dksX2_removeLast_0 4 rfl rfl)
theorem dX2_removeLast_5 : decode cX2_removeLast 5 = .ok (.iaload, 1) := dk_46 (dk_at dksX2_removeLast_0 5 rfl rfl)
theorem dX2_removeLast_6 : decode cX2_removeLast 6 = .ok (.ifCond .ne 6, 3) := dk_154 0 6 (dk_at dksX2_removeLast_0 6 rfl rfl)
theorem dX2_removeLast_9 : decode cX2_removeLast 9 = .ok (.ldc 85, 2) := dk_18 85 (dk_at dksX2_removeLast_0 9 rfl rfl)
theorem dX2_removeLast_11 : decode cX2_removeLast 11 = .ok (.ireturn, 1) := dk_172 (dk_at dksX2_removeLast_0 11 rfl rfl)
theorem dX2_removeLast_12 : decode cX2_removeLast 12 = .ok (.aload_n 0, 1) := dk_42 (dk_at dksX2_removeLast_0 12 rfl rfl)
theorem dX2_removeLast_13 : decode cX2_removeLast 13 = .ok (.invokevirtual 70, 3) := dk_182 0 70 (dk_at dksX2_removeLast_0 13 rfl rfl)
theorem dX2_removeLast_16 : decode cX2_removeLast 16 = .ok (.aload_n 0, 1) := dk_42 (dk_at dksX2_removeLast_0 16 rfl rfl)
theorem dX2_removeLast_17 : decode cX2_removeLast 17 = .ok (.getfield 7, 3) := dk_180 0 7 (dk_at dksX2_removeLast_0 17 rfl rfl)
theorem dX2_removeLast_20 : decode cX2_removeLast 20 = .ok (.iconst 0, 1) := dk_3 (dk_at dksX2_removeLast_0 20 rfl rfl)
theorem dX2_removeLast_21 : decode cX2_removeLast 21 = .ok (.dup2, 1) := dk_92 (dk_at dksX2_removeLast_0 21 rfl rfl)
theorem dX2_removeLast_22 : decode cX2_removeLast 22 = .ok (.iaload, 1) := dk_46 (dk_at dksX2_removeLast_0 22 rfl rfl)
theorem dX2_removeLast_23 : decode cX2_removeLast 23 = .ok (.iconst 1, 1) := dk_4 (dk_at dksX2_removeLast_0 23 rfl rfl)
theorem dX2_removeLast_24 : decode cX2_removeLast 24 = .ok (.isub, 1) := dk_100 (dk_at dksX2_removeLast_1 0 rfl rfl)
theorem dX2_removeLast_25 : decode cX2_removeLast 25 = .ok (.iastore, 1) := dk_79 (dk_at dksX2_removeLast_1 1 rfl rfl)
theorem dX2_removeLast_26 : decode cX2_removeLast 26 = .ok (.aload_n 0, 1) := dk_42 (dk_at dksX2_removeLast_1 2 rfl rfl)
theorem dX2_removeLast_27 : decode cX2_removeLast 27 = .ok (.aload_n 0, 1) := dk_42 (dk_at dksX2_removeLast_1 3 rfl rfl)
theorem dX2_removeLast_28 : decode cX2_removeLast 28 = .ok (.getfield 7, 3) := dk_180 0 7 (dk_at dksX2_removeLast_1 4 rfl rfl)
theorem dX2_removeLast_31 : decode cX2_removeLast 31 = .ok (.iconst 0, 1) := dk_3 (dk_at dksX2_removeLast_1 7 rfl rfl)
theorem dX2_removeLast_32 : decode cX2_removeLast 32 = .ok (.iaload, 1) := dk_46 (dk_at dksX2_removeLast_1 8 rfl rfl)
theorem dX2_removeLast_33 : decode cX2_removeLast 33 = .ok (.invokevirtual 77, 3) := dk_182 0 77 (dk_at dksX2_removeLast_1 9 rfl rfl)
theorem dX2_removeLast_36 : decode cX2_removeLast 36 = .ok (.ireturn, 1) := dk_172 (dk_at dksX2_removeLast_1 12 rfl rfl)
abbrev cX2_setLength : ByteArray := prog_8_method_18_code
def yX2_setLength : MethodName := ⟨RX2, "setLength", "(I)I"⟩
def dkwX2_setLength_1 : List UInt8 := [160, 0, 6, 18, 85, 172, 42, 182, 0, 70, 42, 180, 0, 7, 4, 27, 79, 42, 28, 182, 0, 77, 172]
abbrev dktX2_setLength_1 : List UInt8 := dkwX2_setLength_1 ++ []
def dkwX2_setLength_0 : List UInt8 := [27, 133, 10, 20, 0, 105, 184, 0, 65, 154, 0, 6, 18, 90, 172, 42, 180, 0, 7, 4, 46, 61, 28, 27]
abbrev dktX2_setLength_0 : List UInt8 := dkwX2_setLength_0 ++ dktX2_setLength_1
theorem dksX2_setLength_0 : cX2_setLength.data.toList.drop 0 = dktX2_setLength_0 := by decide +kernel
theorem dksX2_setLength_1 : cX2_setLength.data.toList.drop 24 = dktX2_setLength_1 := dk_seg dksX2_setLength_0 24 rfl rfl
theorem dX2_setLength_0 : decode cX2_setLength 0 = .ok (.iload_n 1, 1) := dk_27 (dk_at dksX2_setLength_0 0 rfl rfl)
theorem dX2_setLength_1 : decode cX2_setLength 1 = .ok (.i2l, 1) := dk_133 (dk_at dksX2_setLength_0 1 rfl rfl)
theorem dX2_setLength_2 : decode cX2_setLength 2 = .ok (.lconst 1, 1) := dk_10 (dk_at dksX2_setLength_0 2 rfl rfl)
theorem dX2_setLength_3 : decode cX2_setLength 3 = .ok (.ldc2_w 105, 3) := dk_20 0 105 (dk_at dksX2_setLength_0 3 rfl rfl)
theorem dX2_setLength_6 : decode cX2_setLength 6 = .ok (.invokestatic 65, 3) := dk_184 0 65 (dk_at dksX2_setLength_0 6 rfl rfl)
theorem dX2_setLength_9 : decode cX2_setLength 9 = .ok (.ifCond .ne 6, 3) := dk_154 0 6 (dk_at dksX2_setLength_0 9 rfl rfl)
theorem dX2_setLength_12 : decode cX2_setLength 12 = .ok (.ldc 90, 2) := dk_18 90 (dk_at dksX2_setLength_0 12 rfl rfl)
theorem dX2_setLength_14 : decode cX2_setLength 14 = .ok (.ireturn, 1) := dk_172 (dk_at dksX2_setLength_0 14 rfl rfl)
theorem dX2_setLength_15 : decode cX2_setLength 15 = .ok (.aload_n 0, 1) := dk_42 (dk_at dksX2_setLength_0 15 rfl rfl)
theorem dX2_setLength_16 : decode cX2_setLength 16 = .ok (.getfield 7, 3) := dk_180 0 7 (dk_at dksX2_setLength_0 16 rfl rfl)
theorem dX2_setLength_19 : decode cX2_setLength 19 = .ok (.iconst 1, 1) := dk_4 (dk_at dksX2_setLength_0 19 rfl rfl)
theorem dX2_setLength_20 : decode cX2_setLength 20 = .ok (.iaload, 1) := dk_46 (dk_at dksX2_setLength_0 20 rfl rfl)
theorem dX2_setLength_21 : decode cX2_setLength 21 = .ok (.istore_n 2, 1) := dk_61 (dk_at dksX2_setLength_0 21 rfl rfl)
theorem dX2_setLength_22 : decode cX2_setLength 22 = .ok (.iload_n 2, 1) := dk_28 (dk_at dksX2_setLength_0 22 rfl rfl)
theorem dX2_setLength_23 : decode cX2_setLength 23 = .ok (.iload_n 1, 1) := dk_27 (dk_at dksX2_setLength_0 23 rfl rfl)
theorem dX2_setLength_24 : decode cX2_setLength 24 = .ok (.if_icmp .ne 6, 3) := dk_160 0 6 (dk_at dksX2_setLength_1 0 rfl rfl)
theorem dX2_setLength_27 : decode cX2_setLength 27 = .ok (.ldc 85, 2) := dk_18 85 (dk_at dksX2_setLength_1 3 rfl rfl)
theorem dX2_setLength_29 : decode cX2_setLength 29 = .ok (.ireturn, 1) := dk_172 (dk_at dksX2_setLength_1 5 rfl rfl)
theorem dX2_setLength_30 : decode cX2_setLength 30 = .ok (.aload_n 0, 1) := dk_42 (dk_at dksX2_setLength_1 6 rfl rfl)
theorem dX2_setLength_31 : decode cX2_setLength 31 = .ok (.invokevirtual 70, 3) := dk_182 0 70 (dk_at dksX2_setLength_1 7 rfl rfl)
theorem dX2_setLength_34 : decode cX2_setLength 34 = .ok (.aload_n 0, 1) := dk_42 (dk_at dksX2_setLength_1 10 rfl rfl)
theorem dX2_setLength_35 : decode cX2_setLength 35 = .ok (.getfield 7, 3) := dk_180 0 7 (dk_at dksX2_setLength_1 11 rfl rfl)
theorem dX2_setLength_38 : decode cX2_setLength 38 = .ok (.iconst 1, 1) := dk_4 (dk_at dksX2_setLength_1 14 rfl rfl)
theorem dX2_setLength_39 : decode cX2_setLength 39 = .ok (.iload_n 1, 1) := dk_27 (dk_at dksX2_setLength_1 15 rfl rfl)
theorem dX2_setLength_40 : decode cX2_setLength 40 = .ok (.iastore, 1) := dk_79 (dk_at dksX2_setLength_1 16 rfl rfl)
theorem dX2_setLength_41 : decode cX2_setLength 41 = .ok (.aload_n 0, 1) := dk_42 (dk_at dksX2_setLength_1 17 rfl rfl)
theorem dX2_setLength_42 : decode cX2_setLength 42 = .ok (.iload_n 2, 1) := dk_28 (dk_at dksX2_setLength_1 18 rfl rfl)
theorem dX2_setLength_43 : decode cX2_setLength 43 = .ok (.invokevirtual 77, 3) := dk_182 0 77 (dk_at dksX2_setLength_1 19 rfl rfl)
theorem dX2_setLength_46 : decode cX2_setLength 46 = .ok (.ireturn, 1) := dk_172 (dk_at dksX2_setLength_1 22 rfl rfl)
abbrev cX2_type : ByteArray := prog_8_method_28_code
def yX2_type : MethodName := ⟨RX2, "type", "(C)I"⟩
def dkwX2_type_1 : List UInt8 := [180, 0, 140, 4, 96, 181, 0, 140, 42, 180, 0, 140, 172]
abbrev dktX2_type_1 : List UInt8 := dkwX2_type_1 ++ []
def dkwX2_type_0 : List UInt8 := [42, 180, 0, 140, 16, 80, 160, 0, 6, 18, 69, 172, 42, 180, 0, 35, 42, 180, 0, 140, 27, 79, 42, 89]
abbrev dktX2_type_0 : List UInt8 := dkwX2_type_0 ++ dktX2_type_1
theorem dksX2_type_0 : cX2_type.data.toList.drop 0 = dktX2_type_0 := by decide +kernel
theorem dksX2_type_1 : cX2_type.data.toList.drop 24 = dktX2_type_1 := dk_seg dksX2_type_0 24 rfl rfl
theorem dX2_type_0 : decode cX2_type 0 = .ok (.aload_n 0, 1) := dk_42 (dk_at dksX2_type_0 0 rfl rfl)
theorem dX2_type_1 : decode cX2_type 1 = .ok (.getfield 140, 3) := dk_180 0 140 (dk_at dksX2_type_0 1 rfl rfl)
theorem dX2_type_4 : decode cX2_type 4 = .ok (.bipush 80, 2) := dk_16 80 (dk_at dksX2_type_0 4 rfl rfl)
theorem dX2_type_6 : decode cX2_type 6 = .ok (.if_icmp .ne 6, 3) := dk_160 0 6 (dk_at dksX2_type_0 6 rfl rfl)
theorem dX2_type_9 : decode cX2_type 9 = .ok (.ldc 69, 2) := dk_18 69 (dk_at dksX2_type_0 9 rfl rfl)
theorem dX2_type_11 : decode cX2_type 11 = .ok (.ireturn, 1) := dk_172 (dk_at dksX2_type_0 11 rfl rfl)
theorem dX2_type_12 : decode cX2_type 12 = .ok (.aload_n 0, 1) := dk_42 (dk_at dksX2_type_0 12 rfl rfl)
theorem dX2_type_13 : decode cX2_type 13 = .ok (.getfield 35, 3) := dk_180 0 35 (dk_at dksX2_type_0 13 rfl rfl)
theorem dX2_type_16 : decode cX2_type 16 = .ok (.aload_n 0, 1) := dk_42 (dk_at dksX2_type_0 16 rfl rfl)
theorem dX2_type_17 : decode cX2_type 17 = .ok (.getfield 140, 3) := dk_180 0 140 (dk_at dksX2_type_0 17 rfl rfl)
theorem dX2_type_20 : decode cX2_type 20 = .ok (.iload_n 1, 1) := dk_27 (dk_at dksX2_type_0 20 rfl rfl)
theorem dX2_type_21 : decode cX2_type 21 = .ok (.iastore, 1) := dk_79 (dk_at dksX2_type_0 21 rfl rfl)
theorem dX2_type_22 : decode cX2_type 22 = .ok (.aload_n 0, 1) := dk_42 (dk_at dksX2_type_0 22 rfl rfl)
theorem dX2_type_23 : decode cX2_type 23 = .ok (.dup, 1) := dk_89 (dk_at dksX2_type_0 23 rfl rfl)
theorem dX2_type_24 : decode cX2_type 24 = .ok (.getfield 140, 3) := dk_180 0 140 (dk_at dksX2_type_1 0 rfl rfl)
theorem dX2_type_27 : decode cX2_type 27 = .ok (.iconst 1, 1) := dk_4 (dk_at dksX2_type_1 3 rfl rfl)
theorem dX2_type_28 : decode cX2_type 28 = .ok (.iadd, 1) := dk_96 (dk_at dksX2_type_1 4 rfl rfl)
theorem dX2_type_29 : decode cX2_type 29 = .ok (.putfield 140, 3) := dk_181 0 140 (dk_at dksX2_type_1 5 rfl rfl)
theorem dX2_type_32 : decode cX2_type 32 = .ok (.aload_n 0, 1) := dk_42 (dk_at dksX2_type_1 8 rfl rfl)
theorem dX2_type_33 : decode cX2_type 33 = .ok (.getfield 140, 3) := dk_180 0 140 (dk_at dksX2_type_1 9 rfl rfl)
theorem dX2_type_36 : decode cX2_type 36 = .ok (.ireturn, 1) := dk_172 (dk_at dksX2_type_1 12 rfl rfl)
abbrev cX2_clearText : ByteArray := prog_8_method_29_code
def yX2_clearText : MethodName := ⟨RX2, "clearText", "()I"⟩
def dkwX2_clearText_0 : List UInt8 := [42, 180, 0, 140, 60, 42, 3, 181, 0, 140, 27, 172]
abbrev dktX2_clearText_0 : List UInt8 := dkwX2_clearText_0 ++ []
theorem dksX2_clearText_0 : cX2_clearText.data.toList.drop 0 = dktX2_clearText_0 := by decide +kernel
theorem dX2_clearText_0 : decode cX2_clearText 0 = .ok (.aload_n 0, 1) := dk_42 (dk_at dksX2_clearText_0 0 rfl rfl)
theorem dX2_clearText_1 : decode cX2_clearText 1 = .ok (.getfield 140, 3) := dk_180 0 140 (dk_at dksX2_clearText_0 1 rfl rfl)
theorem dX2_clearText_4 : decode cX2_clearText 4 = .ok (.istore_n 1, 1) := dk_60 (dk_at dksX2_clearText_0 4 rfl rfl)
theorem dX2_clearText_5 : decode cX2_clearText 5 = .ok (.aload_n 0, 1) := dk_42 (dk_at dksX2_clearText_0 5 rfl rfl)
theorem dX2_clearText_6 : decode cX2_clearText 6 = .ok (.iconst 0, 1) := dk_3 (dk_at dksX2_clearText_0 6 rfl rfl)
theorem dX2_clearText_7 : decode cX2_clearText 7 = .ok (.putfield 140, 3) := dk_181 0 140 (dk_at dksX2_clearText_0 7 rfl rfl)
theorem dX2_clearText_10 : decode cX2_clearText 10 = .ok (.iload_n 1, 1) := dk_27 (dk_at dksX2_clearText_0 10 rfl rfl)
theorem dX2_clearText_11 : decode cX2_clearText 11 = .ok (.ireturn, 1) := dk_172 (dk_at dksX2_clearText_0 11 rfl rfl)
abbrev cX2_readCircuit : ByteArray := prog_8_method_40_code
def yX2_readCircuit : MethodName := ⟨RX2, "readCircuit", "()I"⟩
def dkwX2_readCircuit_5 : List UInt8 := [42, 42, 180, 0, 7, 3, 46, 182, 0, 77, 172]
abbrev dktX2_readCircuit_5 : List UInt8 := dkwX2_readCircuit_5 ++ []
def dkwX2_readCircuit_4 : List UInt8 := [180, 0, 38, 28, 5, 96, 46, 42, 180, 0, 38, 28, 6, 96, 46, 182, 0, 73, 132, 2, 4, 167, 255, 209]
abbrev dktX2_readCircuit_4 : List UInt8 := dkwX2_readCircuit_4 ++ dktX2_readCircuit_5
def dkwX2_readCircuit_3 : List UInt8 := [180, 0, 166, 104, 162, 0, 43, 42, 42, 180, 0, 38, 28, 46, 42, 180, 0, 38, 28, 4, 96, 46, 42]
abbrev dktX2_readCircuit_3 : List UInt8 := dkwX2_readCircuit_3 ++ dktX2_readCircuit_4
def dkwX2_readCircuit_2 : List UInt8 := [3, 46, 42, 180, 0, 166, 96, 16, 16, 164, 0, 6, 18, 69, 172, 42, 182, 0, 70, 3, 61, 28, 7, 42]
abbrev dktX2_readCircuit_2 : List UInt8 := dkwX2_readCircuit_2 ++ dktX2_readCircuit_3
def dkwX2_readCircuit_1 : List UInt8 := [162, 0, 20, 42, 28, 182, 0, 187, 154, 0, 6, 18, 95, 172, 132, 2, 1, 167, 255, 234, 42, 180, 0, 7]
abbrev dktX2_readCircuit_1 : List UInt8 := dkwX2_readCircuit_1 ++ dktX2_readCircuit_2
def dkwX2_readCircuit_0 : List UInt8 := [42, 182, 0, 183, 60, 27, 18, 85, 159, 0, 8, 18, 186, 27, 100, 172, 3, 61, 28, 42, 180, 0, 166]
abbrev dktX2_readCircuit_0 : List UInt8 := dkwX2_readCircuit_0 ++ dktX2_readCircuit_1
theorem dksX2_readCircuit_0 : cX2_readCircuit.data.toList.drop 0 = dktX2_readCircuit_0 := by decide +kernel
theorem dksX2_readCircuit_1 : cX2_readCircuit.data.toList.drop 23 = dktX2_readCircuit_1 := dk_seg dksX2_readCircuit_0 23 rfl rfl
theorem dksX2_readCircuit_2 : cX2_readCircuit.data.toList.drop 47 = dktX2_readCircuit_2 := dk_seg dksX2_readCircuit_1 24 rfl rfl
theorem dksX2_readCircuit_3 : cX2_readCircuit.data.toList.drop 71 = dktX2_readCircuit_3 := dk_seg dksX2_readCircuit_2 24 rfl rfl
theorem dksX2_readCircuit_4 : cX2_readCircuit.data.toList.drop 94 = dktX2_readCircuit_4 := dk_seg dksX2_readCircuit_3 23 rfl rfl
theorem dksX2_readCircuit_5 : cX2_readCircuit.data.toList.drop 118 = dktX2_readCircuit_5 := dk_seg dksX2_readCircuit_4 24 rfl rfl
theorem dX2_readCircuit_0 : decode cX2_readCircuit 0 = .ok (.aload_n 0, 1) := dk_42 (dk_at dksX2_readCircuit_0 0 rfl rfl)
theorem dX2_readCircuit_1 : decode cX2_readCircuit 1 = .ok (.invokevirtual 183, 3) := dk_182 0 183 (dk_at dksX2_readCircuit_0 1 rfl rfl)
theorem dX2_readCircuit_4 : decode cX2_readCircuit 4 = .ok (.istore_n 1, 1) := dk_60 (dk_at dksX2_readCircuit_0 4 rfl rfl)
theorem dX2_readCircuit_5 : decode cX2_readCircuit 5 = .ok (.iload_n 1, 1) := dk_27 (dk_at dksX2_readCircuit_0 5 rfl rfl)
theorem dX2_readCircuit_6 : decode cX2_readCircuit 6 = .ok (.ldc 85, 2) := dk_18 85 (dk_at dksX2_readCircuit_0 6 rfl rfl)
theorem dX2_readCircuit_8 : decode cX2_readCircuit 8 = .ok (.if_icmp .eq 8, 3) := dk_159 0 8 (dk_at dksX2_readCircuit_0 8 rfl rfl)
theorem dX2_readCircuit_11 : decode cX2_readCircuit 11 = .ok (.ldc 186, 2) := dk_18 186 (dk_at dksX2_readCircuit_0 11 rfl rfl)
theorem dX2_readCircuit_13 : decode cX2_readCircuit 13 = .ok (.iload_n 1, 1) := dk_27 (dk_at dksX2_readCircuit_0 13 rfl rfl)
theorem dX2_readCircuit_14 : decode cX2_readCircuit 14 = .ok (.isub, 1) := dk_100 (dk_at dksX2_readCircuit_0 14 rfl rfl)
theorem dX2_readCircuit_15 : decode cX2_readCircuit 15 = .ok (.ireturn, 1) := dk_172 (dk_at dksX2_readCircuit_0 15 rfl rfl)
theorem dX2_readCircuit_16 : decode cX2_readCircuit 16 = .ok (.iconst 0, 1) := dk_3 (dk_at dksX2_readCircuit_0 16 rfl rfl)
theorem dX2_readCircuit_17 : decode cX2_readCircuit 17 = .ok (.istore_n 2, 1) := dk_61 (dk_at dksX2_readCircuit_0 17 rfl rfl)
theorem dX2_readCircuit_18 : decode cX2_readCircuit 18 = .ok (.iload_n 2, 1) := dk_28 (dk_at dksX2_readCircuit_0 18 rfl rfl)
theorem dX2_readCircuit_19 : decode cX2_readCircuit 19 = .ok (.aload_n 0, 1) := dk_42 (dk_at dksX2_readCircuit_0 19 rfl rfl)
theorem dX2_readCircuit_20 : decode cX2_readCircuit 20 = .ok (.getfield 166, 3) := dk_180 0 166 (dk_at dksX2_readCircuit_0 20 rfl rfl)
theorem dX2_readCircuit_23 : decode cX2_readCircuit 23 = .ok (.if_icmp .ge 20, 3) := dk_162 0 20 (dk_at dksX2_readCircuit_1 0 rfl rfl)
theorem dX2_readCircuit_26 : decode cX2_readCircuit 26 = .ok (.aload_n 0, 1) := dk_42 (dk_at dksX2_readCircuit_1 3 rfl rfl)
theorem dX2_readCircuit_27 : decode cX2_readCircuit 27 = .ok (.iload_n 2, 1) := dk_28 (dk_at dksX2_readCircuit_1 4 rfl rfl)
theorem dX2_readCircuit_28 : decode cX2_readCircuit 28 = .ok (.invokevirtual 187, 3) := dk_182 0 187 (dk_at dksX2_readCircuit_1 5 rfl rfl)
theorem dX2_readCircuit_31 : decode cX2_readCircuit 31 = .ok (.ifCond .ne 6, 3) := dk_154 0 6 (dk_at dksX2_readCircuit_1 8 rfl rfl)
theorem dX2_readCircuit_34 : decode cX2_readCircuit 34 = .ok (.ldc 95, 2) := dk_18 95 (dk_at dksX2_readCircuit_1 11 rfl rfl)
theorem dX2_readCircuit_36 : decode cX2_readCircuit 36 = .ok (.ireturn, 1) := dk_172 (dk_at dksX2_readCircuit_1 13 rfl rfl)
theorem dX2_readCircuit_37 : decode cX2_readCircuit 37 = .ok (.iinc 2 1, 3) := dk_132 2 1 (dk_at dksX2_readCircuit_1 14 rfl rfl)
theorem dX2_readCircuit_40 : decode cX2_readCircuit 40 = .ok (.goto (-22), 3) := dk_167 255 234 (dk_at dksX2_readCircuit_1 17 rfl rfl)
theorem dX2_readCircuit_43 : decode cX2_readCircuit 43 = .ok (.aload_n 0, 1) := dk_42 (dk_at dksX2_readCircuit_1 20 rfl rfl)
theorem dX2_readCircuit_44 : decode cX2_readCircuit 44 = .ok (.getfield 7, 3) := dk_180 0 7 (dk_at dksX2_readCircuit_1 21 rfl rfl)
theorem dX2_readCircuit_47 : decode cX2_readCircuit 47 = .ok (.iconst 0, 1) := dk_3 (dk_at dksX2_readCircuit_2 0 rfl rfl)
theorem dX2_readCircuit_48 : decode cX2_readCircuit 48 = .ok (.iaload, 1) := dk_46 (dk_at dksX2_readCircuit_2 1 rfl rfl)
theorem dX2_readCircuit_49 : decode cX2_readCircuit 49 = .ok (.aload_n 0, 1) := dk_42 (dk_at dksX2_readCircuit_2 2 rfl rfl)
theorem dX2_readCircuit_50 : decode cX2_readCircuit 50 = .ok (.getfield 166, 3) := dk_180 0 166 (dk_at dksX2_readCircuit_2 3 rfl rfl)
theorem dX2_readCircuit_53 : decode cX2_readCircuit 53 = .ok (.iadd, 1) := dk_96 (dk_at dksX2_readCircuit_2 6 rfl rfl)
theorem dX2_readCircuit_54 : decode cX2_readCircuit 54 = .ok (.bipush 16, 2) := dk_16 16 (dk_at dksX2_readCircuit_2 7 rfl rfl)
theorem dX2_readCircuit_56 : decode cX2_readCircuit 56 = .ok (.if_icmp .le 6, 3) := dk_164 0 6 (dk_at dksX2_readCircuit_2 9 rfl rfl)
theorem dX2_readCircuit_59 : decode cX2_readCircuit 59 = .ok (.ldc 69, 2) := dk_18 69 (dk_at dksX2_readCircuit_2 12 rfl rfl)
theorem dX2_readCircuit_61 : decode cX2_readCircuit 61 = .ok (.ireturn, 1) := dk_172 (dk_at dksX2_readCircuit_2 14 rfl rfl)
theorem dX2_readCircuit_62 : decode cX2_readCircuit 62 = .ok (.aload_n 0, 1) := dk_42 (dk_at dksX2_readCircuit_2 15 rfl rfl)
theorem dX2_readCircuit_63 : decode cX2_readCircuit 63 = .ok (.invokevirtual 70, 3) := dk_182 0 70 (dk_at dksX2_readCircuit_2 16 rfl rfl)
theorem dX2_readCircuit_66 : decode cX2_readCircuit 66 = .ok (.iconst 0, 1) := dk_3 (dk_at dksX2_readCircuit_2 19 rfl rfl)
theorem dX2_readCircuit_67 : decode cX2_readCircuit 67 = .ok (.istore_n 2, 1) := dk_61 (dk_at dksX2_readCircuit_2 20 rfl rfl)
theorem dX2_readCircuit_68 : decode cX2_readCircuit 68 = .ok (.iload_n 2, 1) := dk_28 (dk_at dksX2_readCircuit_2 21 rfl rfl)
theorem dX2_readCircuit_69 : decode cX2_readCircuit 69 = .ok (.iconst 4, 1) := dk_7 (dk_at dksX2_readCircuit_2 22 rfl rfl)
theorem dX2_readCircuit_70 : decode cX2_readCircuit 70 = .ok (.aload_n 0, 1) := dk_42 (dk_at dksX2_readCircuit_2 23 rfl rfl)
theorem dX2_readCircuit_71 : decode cX2_readCircuit 71 = .ok (.getfield 166, 3) := dk_180 0 166 (dk_at dksX2_readCircuit_3 0 rfl rfl)
theorem dX2_readCircuit_74 : decode cX2_readCircuit 74 = .ok (.imul, 1) := dk_104 (dk_at dksX2_readCircuit_3 3 rfl rfl)
theorem dX2_readCircuit_75 : decode cX2_readCircuit 75 = .ok (.if_icmp .ge 43, 3) := dk_162 0 43 (dk_at dksX2_readCircuit_3 4 rfl rfl)
theorem dX2_readCircuit_78 : decode cX2_readCircuit 78 = .ok (.aload_n 0, 1) := dk_42 (dk_at dksX2_readCircuit_3 7 rfl rfl)
theorem dX2_readCircuit_79 : decode cX2_readCircuit 79 = .ok (.aload_n 0, 1) := dk_42 (dk_at dksX2_readCircuit_3 8 rfl rfl)
theorem dX2_readCircuit_80 : decode cX2_readCircuit 80 = .ok (.getfield 38, 3) := dk_180 0 38 (dk_at dksX2_readCircuit_3 9 rfl rfl)
theorem dX2_readCircuit_83 : decode cX2_readCircuit 83 = .ok (.iload_n 2, 1) := dk_28 (dk_at dksX2_readCircuit_3 12 rfl rfl)
theorem dX2_readCircuit_84 : decode cX2_readCircuit 84 = .ok (.iaload, 1) := dk_46 (dk_at dksX2_readCircuit_3 13 rfl rfl)
theorem dX2_readCircuit_85 : decode cX2_readCircuit 85 = .ok (.aload_n 0, 1) := dk_42 (dk_at dksX2_readCircuit_3 14 rfl rfl)
theorem dX2_readCircuit_86 : decode cX2_readCircuit 86 = .ok (.getfield 38, 3) := dk_180 0 38 (dk_at dksX2_readCircuit_3 15 rfl rfl)
theorem dX2_readCircuit_89 : decode cX2_readCircuit 89 = .ok (.iload_n 2, 1) := dk_28 (dk_at dksX2_readCircuit_3 18 rfl rfl)
theorem dX2_readCircuit_90 : decode cX2_readCircuit 90 = .ok (.iconst 1, 1) := dk_4 (dk_at dksX2_readCircuit_3 19 rfl rfl)
theorem dX2_readCircuit_91 : decode cX2_readCircuit 91 = .ok (.iadd, 1) := dk_96 (dk_at dksX2_readCircuit_3 20 rfl rfl)
theorem dX2_readCircuit_92 : decode cX2_readCircuit 92 = .ok (.iaload, 1) := dk_46 (dk_at dksX2_readCircuit_3 21 rfl rfl)
theorem dX2_readCircuit_93 : decode cX2_readCircuit 93 = .ok (.aload_n 0, 1) := dk_42 (dk_at dksX2_readCircuit_3 22 rfl rfl)
theorem dX2_readCircuit_94 : decode cX2_readCircuit 94 = .ok (.getfield 38, 3) := dk_180 0 38 (dk_at dksX2_readCircuit_4 0 rfl rfl)
theorem dX2_readCircuit_97 : decode cX2_readCircuit 97 = .ok (.iload_n 2, 1) := dk_28 (dk_at dksX2_readCircuit_4 3 rfl rfl)
theorem dX2_readCircuit_98 : decode cX2_readCircuit 98 = .ok (.iconst 2, 1) := dk_5 (dk_at dksX2_readCircuit_4 4 rfl rfl)
theorem dX2_readCircuit_99 : decode cX2_readCircuit 99 = .ok (.iadd, 1) := dk_96 (dk_at dksX2_readCircuit_4 5 rfl rfl)
theorem dX2_readCircuit_100 : decode cX2_readCircuit 100 = .ok (.iaload, 1) := dk_46 (dk_at dksX2_readCircuit_4 6 rfl rfl)
theorem dX2_readCircuit_101 : decode cX2_readCircuit 101 = .ok (.aload_n 0, 1) := dk_42 (dk_at dksX2_readCircuit_4 7 rfl rfl)
theorem dX2_readCircuit_102 : decode cX2_readCircuit 102 = .ok (.getfield 38, 3) := dk_180 0 38 (dk_at dksX2_readCircuit_4 8 rfl rfl)
theorem dX2_readCircuit_105 : decode cX2_readCircuit 105 = .ok (.iload_n 2, 1) := dk_28 (dk_at dksX2_readCircuit_4 11 rfl rfl)
theorem dX2_readCircuit_106 : decode cX2_readCircuit 106 = .ok (.iconst 3, 1) := dk_6 (dk_at dksX2_readCircuit_4 12 rfl rfl)
theorem dX2_readCircuit_107 : decode cX2_readCircuit 107 = .ok (.iadd, 1) := dk_96 (dk_at dksX2_readCircuit_4 13 rfl rfl)
theorem dX2_readCircuit_108 : decode cX2_readCircuit 108 = .ok (.iaload, 1) := dk_46 (dk_at dksX2_readCircuit_4 14 rfl rfl)
theorem dX2_readCircuit_109 : decode cX2_readCircuit 109 = .ok (.invokevirtual 73, 3) := dk_182 0 73 (dk_at dksX2_readCircuit_4 15 rfl rfl)
theorem dX2_readCircuit_112 : decode cX2_readCircuit 112 = .ok (.iinc 2 4, 3) := dk_132 2 4 (dk_at dksX2_readCircuit_4 18 rfl rfl)
theorem dX2_readCircuit_115 : decode cX2_readCircuit 115 = .ok (.goto (-47), 3) := dk_167 255 209 (dk_at dksX2_readCircuit_4 21 rfl rfl)
theorem dX2_readCircuit_118 : decode cX2_readCircuit 118 = .ok (.aload_n 0, 1) := dk_42 (dk_at dksX2_readCircuit_5 0 rfl rfl)
theorem dX2_readCircuit_119 : decode cX2_readCircuit 119 = .ok (.aload_n 0, 1) := dk_42 (dk_at dksX2_readCircuit_5 1 rfl rfl)
theorem dX2_readCircuit_120 : decode cX2_readCircuit 120 = .ok (.getfield 7, 3) := dk_180 0 7 (dk_at dksX2_readCircuit_5 2 rfl rfl)
theorem dX2_readCircuit_123 : decode cX2_readCircuit 123 = .ok (.iconst 0, 1) := dk_3 (dk_at dksX2_readCircuit_5 5 rfl rfl)
theorem dX2_readCircuit_124 : decode cX2_readCircuit 124 = .ok (.iaload, 1) := dk_46 (dk_at dksX2_readCircuit_5 6 rfl rfl)
theorem dX2_readCircuit_125 : decode cX2_readCircuit 125 = .ok (.invokevirtual 77, 3) := dk_182 0 77 (dk_at dksX2_readCircuit_5 7 rfl rfl)
theorem dX2_readCircuit_128 : decode cX2_readCircuit 128 = .ok (.ireturn, 1) := dk_172 (dk_at dksX2_readCircuit_5 10 rfl rfl)
abbrev cX2_fault : ByteArray := prog_8_method_38_code
def yX2_fault : MethodName := ⟨RX2, "fault", "()I"⟩
def dkwX2_fault_2 : List UInt8 := [160, 0, 8, 18, 85, 167, 0, 7, 42, 180, 0, 147, 172]
abbrev dktX2_fault_2 : List UInt8 := dkwX2_fault_2 ++ []
def dkwX2_fault_1 : List UInt8 := [180, 0, 147, 172, 42, 16, 59, 182, 0, 157, 60, 167, 255, 233, 42, 180, 0, 147, 42, 180, 0, 140]
abbrev dktX2_fault_1 : List UInt8 := dkwX2_fault_1 ++ dktX2_fault_2
def dkwX2_fault_0 : List UInt8 := [42, 3, 181, 0, 147, 42, 3, 181, 0, 166, 4, 60, 27, 153, 0, 25, 42, 182, 0, 176, 154, 0, 8, 42]
abbrev dktX2_fault_0 : List UInt8 := dkwX2_fault_0 ++ dktX2_fault_1
theorem dksX2_fault_0 : cX2_fault.data.toList.drop 0 = dktX2_fault_0 := by decide +kernel
theorem dksX2_fault_1 : cX2_fault.data.toList.drop 24 = dktX2_fault_1 := dk_seg dksX2_fault_0 24 rfl rfl
theorem dksX2_fault_2 : cX2_fault.data.toList.drop 46 = dktX2_fault_2 := dk_seg dksX2_fault_1 22 rfl rfl
theorem dX2_fault_0 : decode cX2_fault 0 = .ok (.aload_n 0, 1) := dk_42 (dk_at dksX2_fault_0 0 rfl rfl)
theorem dX2_fault_1 : decode cX2_fault 1 = .ok (.iconst 0, 1) := dk_3 (dk_at dksX2_fault_0 1 rfl rfl)
theorem dX2_fault_2 : decode cX2_fault 2 = .ok (.putfield 147, 3) := dk_181 0 147 (dk_at dksX2_fault_0 2 rfl rfl)
theorem dX2_fault_5 : decode cX2_fault 5 = .ok (.aload_n 0, 1) := dk_42 (dk_at dksX2_fault_0 5 rfl rfl)
theorem dX2_fault_6 : decode cX2_fault 6 = .ok (.iconst 0, 1) := dk_3 (dk_at dksX2_fault_0 6 rfl rfl)
theorem dX2_fault_7 : decode cX2_fault 7 = .ok (.putfield 166, 3) := dk_181 0 166 (dk_at dksX2_fault_0 7 rfl rfl)
theorem dX2_fault_10 : decode cX2_fault 10 = .ok (.iconst 1, 1) := dk_4 (dk_at dksX2_fault_0 10 rfl rfl)
theorem dX2_fault_11 : decode cX2_fault 11 = .ok (.istore_n 1, 1) := dk_60 (dk_at dksX2_fault_0 11 rfl rfl)
theorem dX2_fault_12 : decode cX2_fault 12 = .ok (.iload_n 1, 1) := dk_27 (dk_at dksX2_fault_0 12 rfl rfl)
theorem dX2_fault_13 : decode cX2_fault 13 = .ok (.ifCond .eq 25, 3) := dk_153 0 25 (dk_at dksX2_fault_0 13 rfl rfl)
theorem dX2_fault_16 : decode cX2_fault 16 = .ok (.aload_n 0, 1) := dk_42 (dk_at dksX2_fault_0 16 rfl rfl)
theorem dX2_fault_17 : decode cX2_fault 17 = .ok (.invokevirtual 176, 3) := dk_182 0 176 (dk_at dksX2_fault_0 17 rfl rfl)
theorem dX2_fault_20 : decode cX2_fault 20 = .ok (.ifCond .ne 8, 3) := dk_154 0 8 (dk_at dksX2_fault_0 20 rfl rfl)
theorem dX2_fault_23 : decode cX2_fault 23 = .ok (.aload_n 0, 1) := dk_42 (dk_at dksX2_fault_0 23 rfl rfl)
theorem dX2_fault_24 : decode cX2_fault 24 = .ok (.getfield 147, 3) := dk_180 0 147 (dk_at dksX2_fault_1 0 rfl rfl)
theorem dX2_fault_27 : decode cX2_fault 27 = .ok (.ireturn, 1) := dk_172 (dk_at dksX2_fault_1 3 rfl rfl)
theorem dX2_fault_28 : decode cX2_fault 28 = .ok (.aload_n 0, 1) := dk_42 (dk_at dksX2_fault_1 4 rfl rfl)
theorem dX2_fault_29 : decode cX2_fault 29 = .ok (.bipush 59, 2) := dk_16 59 (dk_at dksX2_fault_1 5 rfl rfl)
theorem dX2_fault_31 : decode cX2_fault 31 = .ok (.invokevirtual 157, 3) := dk_182 0 157 (dk_at dksX2_fault_1 7 rfl rfl)
theorem dX2_fault_34 : decode cX2_fault 34 = .ok (.istore_n 1, 1) := dk_60 (dk_at dksX2_fault_1 10 rfl rfl)
theorem dX2_fault_35 : decode cX2_fault 35 = .ok (.goto (-23), 3) := dk_167 255 233 (dk_at dksX2_fault_1 11 rfl rfl)
theorem dX2_fault_38 : decode cX2_fault 38 = .ok (.aload_n 0, 1) := dk_42 (dk_at dksX2_fault_1 14 rfl rfl)
theorem dX2_fault_39 : decode cX2_fault 39 = .ok (.getfield 147, 3) := dk_180 0 147 (dk_at dksX2_fault_1 15 rfl rfl)
theorem dX2_fault_42 : decode cX2_fault 42 = .ok (.aload_n 0, 1) := dk_42 (dk_at dksX2_fault_1 18 rfl rfl)
theorem dX2_fault_43 : decode cX2_fault 43 = .ok (.getfield 140, 3) := dk_180 0 140 (dk_at dksX2_fault_1 19 rfl rfl)
theorem dX2_fault_46 : decode cX2_fault 46 = .ok (.if_icmp .ne 8, 3) := dk_160 0 8 (dk_at dksX2_fault_2 0 rfl rfl)
theorem dX2_fault_49 : decode cX2_fault 49 = .ok (.ldc 85, 2) := dk_18 85 (dk_at dksX2_fault_2 3 rfl rfl)
theorem dX2_fault_51 : decode cX2_fault 51 = .ok (.goto 7, 3) := dk_167 0 7 (dk_at dksX2_fault_2 5 rfl rfl)
theorem dX2_fault_54 : decode cX2_fault 54 = .ok (.aload_n 0, 1) := dk_42 (dk_at dksX2_fault_2 8 rfl rfl)
theorem dX2_fault_55 : decode cX2_fault 55 = .ok (.getfield 147, 3) := dk_180 0 147 (dk_at dksX2_fault_2 9 rfl rfl)
theorem dX2_fault_58 : decode cX2_fault 58 = .ok (.ireturn, 1) := dk_172 (dk_at dksX2_fault_2 12 rfl rfl)
abbrev cX2_readsLine : ByteArray := prog_8_method_37_code
def yX2_readsLine : MethodName := ⟨RX2, "readsLine", "()Z"⟩
def dkwX2_readsLine_4 : List UInt8 := [167, 255, 237, 42, 89, 180, 0, 166, 4, 96, 181, 0, 166, 4, 172]
abbrev dktX2_readsLine_4 : List UInt8 := dkwX2_readsLine_4 ++ []
def dkwX2_readsLine_3 : List UInt8 := [167, 255, 233, 4, 62, 29, 28, 163, 0, 20, 42, 27, 29, 182, 0, 173, 154, 0, 5, 3, 172, 132, 3, 1]
abbrev dktX2_readsLine_3 : List UInt8 := dkwX2_readsLine_3 ++ dktX2_readsLine_4
def dkwX2_readsLine_2 : List UInt8 := [7, 162, 0, 24, 42, 180, 0, 38, 7, 42, 180, 0, 166, 104, 29, 96, 18, 85, 79, 132, 3, 1]
abbrev dktX2_readsLine_2 : List UInt8 := dkwX2_readsLine_2 ++ dktX2_readsLine_3
def dkwX2_readsLine_1 : List UInt8 := [160, 0, 7, 4, 167, 0, 4, 5, 61, 42, 180, 0, 38, 7, 42, 180, 0, 166, 104, 27, 79, 4, 62, 29]
abbrev dktX2_readsLine_1 : List UInt8 := dkwX2_readsLine_1 ++ dktX2_readsLine_2
def dkwX2_readsLine_0 : List UInt8 := [42, 182, 0, 169, 60, 27, 18, 85, 160, 0, 5, 3, 172, 27, 7, 160, 0, 7, 6, 167, 0, 13, 27, 8]
abbrev dktX2_readsLine_0 : List UInt8 := dkwX2_readsLine_0 ++ dktX2_readsLine_1
theorem dksX2_readsLine_0 : cX2_readsLine.data.toList.drop 0 = dktX2_readsLine_0 := by decide +kernel
theorem dksX2_readsLine_1 : cX2_readsLine.data.toList.drop 24 = dktX2_readsLine_1 := dk_seg dksX2_readsLine_0 24 rfl rfl
theorem dksX2_readsLine_2 : cX2_readsLine.data.toList.drop 48 = dktX2_readsLine_2 := dk_seg dksX2_readsLine_1 24 rfl rfl
theorem dksX2_readsLine_3 : cX2_readsLine.data.toList.drop 70 = dktX2_readsLine_3 := dk_seg dksX2_readsLine_2 22 rfl rfl
theorem dksX2_readsLine_4 : cX2_readsLine.data.toList.drop 94 = dktX2_readsLine_4 := dk_seg dksX2_readsLine_3 24 rfl rfl
theorem dX2_readsLine_0 : decode cX2_readsLine 0 = .ok (.aload_n 0, 1) := dk_42 (dk_at dksX2_readsLine_0 0 rfl rfl)
theorem dX2_readsLine_1 : decode cX2_readsLine 1 = .ok (.invokevirtual 169, 3) := dk_182 0 169 (dk_at dksX2_readsLine_0 1 rfl rfl)
theorem dX2_readsLine_4 : decode cX2_readsLine 4 = .ok (.istore_n 1, 1) := dk_60 (dk_at dksX2_readsLine_0 4 rfl rfl)
theorem dX2_readsLine_5 : decode cX2_readsLine 5 = .ok (.iload_n 1, 1) := dk_27 (dk_at dksX2_readsLine_0 5 rfl rfl)
theorem dX2_readsLine_6 : decode cX2_readsLine 6 = .ok (.ldc 85, 2) := dk_18 85 (dk_at dksX2_readsLine_0 6 rfl rfl)
theorem dX2_readsLine_8 : decode cX2_readsLine 8 = .ok (.if_icmp .ne 5, 3) := dk_160 0 5 (dk_at dksX2_readsLine_0 8 rfl rfl)
theorem dX2_readsLine_11 : decode cX2_readsLine 11 = .ok (.iconst 0, 1) := dk_3 (dk_at dksX2_readsLine_0 11 rfl rfl)
theorem dX2_readsLine_12 : decode cX2_readsLine 12 = .ok (.ireturn, 1) := dk_172 (dk_at dksX2_readsLine_0 12 rfl rfl)
theorem dX2_readsLine_13 : decode cX2_readsLine 13 = .ok (.iload_n 1, 1) := dk_27 (dk_at dksX2_readsLine_0 13 rfl rfl)
theorem dX2_readsLine_14 : decode cX2_readsLine 14 = .ok (.iconst 4, 1) := dk_7 (dk_at dksX2_readsLine_0 14 rfl rfl)
theorem dX2_readsLine_15 : decode cX2_readsLine 15 = .ok (.if_icmp .ne 7, 3) := dk_160 0 7 (dk_at dksX2_readsLine_0 15 rfl rfl)
theorem dX2_readsLine_18 : decode cX2_readsLine 18 = .ok (.iconst 3, 1) := dk_6 (dk_at dksX2_readsLine_0 18 rfl rfl)
theorem dX2_readsLine_19 : decode cX2_readsLine 19 = .ok (.goto 13, 3) := dk_167 0 13 (dk_at dksX2_readsLine_0 19 rfl rfl)
theorem dX2_readsLine_22 : decode cX2_readsLine 22 = .ok (.iload_n 1, 1) := dk_27 (dk_at dksX2_readsLine_0 22 rfl rfl)
theorem dX2_readsLine_23 : decode cX2_readsLine 23 = .ok (.iconst 5, 1) := dk_8 (dk_at dksX2_readsLine_0 23 rfl rfl)
theorem dX2_readsLine_24 : decode cX2_readsLine 24 = .ok (.if_icmp .ne 7, 3) := dk_160 0 7 (dk_at dksX2_readsLine_1 0 rfl rfl)
theorem dX2_readsLine_27 : decode cX2_readsLine 27 = .ok (.iconst 1, 1) := dk_4 (dk_at dksX2_readsLine_1 3 rfl rfl)
theorem dX2_readsLine_28 : decode cX2_readsLine 28 = .ok (.goto 4, 3) := dk_167 0 4 (dk_at dksX2_readsLine_1 4 rfl rfl)
theorem dX2_readsLine_31 : decode cX2_readsLine 31 = .ok (.iconst 2, 1) := dk_5 (dk_at dksX2_readsLine_1 7 rfl rfl)
theorem dX2_readsLine_32 : decode cX2_readsLine 32 = .ok (.istore_n 2, 1) := dk_61 (dk_at dksX2_readsLine_1 8 rfl rfl)
theorem dX2_readsLine_33 : decode cX2_readsLine 33 = .ok (.aload_n 0, 1) := dk_42 (dk_at dksX2_readsLine_1 9 rfl rfl)
theorem dX2_readsLine_34 : decode cX2_readsLine 34 = .ok (.getfield 38, 3) := dk_180 0 38 (dk_at dksX2_readsLine_1 10 rfl rfl)
theorem dX2_readsLine_37 : decode cX2_readsLine 37 = .ok (.iconst 4, 1) := dk_7 (dk_at dksX2_readsLine_1 13 rfl rfl)
theorem dX2_readsLine_38 : decode cX2_readsLine 38 = .ok (.aload_n 0, 1) := dk_42 (dk_at dksX2_readsLine_1 14 rfl rfl)
theorem dX2_readsLine_39 : decode cX2_readsLine 39 = .ok (.getfield 166, 3) := dk_180 0 166 (dk_at dksX2_readsLine_1 15 rfl rfl)
theorem dX2_readsLine_42 : decode cX2_readsLine 42 = .ok (.imul, 1) := dk_104 (dk_at dksX2_readsLine_1 18 rfl rfl)
theorem dX2_readsLine_43 : decode cX2_readsLine 43 = .ok (.iload_n 1, 1) := dk_27 (dk_at dksX2_readsLine_1 19 rfl rfl)
theorem dX2_readsLine_44 : decode cX2_readsLine 44 = .ok (.iastore, 1) := dk_79 (dk_at dksX2_readsLine_1 20 rfl rfl)
theorem dX2_readsLine_45 : decode cX2_readsLine 45 = .ok (.iconst 1, 1) := dk_4 (dk_at dksX2_readsLine_1 21 rfl rfl)
theorem dX2_readsLine_46 : decode cX2_readsLine 46 = .ok (.istore_n 3, 1) := dk_62 (dk_at dksX2_readsLine_1 22 rfl rfl)
theorem dX2_readsLine_47 : decode cX2_readsLine 47 = .ok (.iload_n 3, 1) := dk_29 (dk_at dksX2_readsLine_1 23 rfl rfl)
theorem dX2_readsLine_48 : decode cX2_readsLine 48 = .ok (.iconst 4, 1) := dk_7 (dk_at dksX2_readsLine_2 0 rfl rfl)
theorem dX2_readsLine_49 : decode cX2_readsLine 49 = .ok (.if_icmp .ge 24, 3) := dk_162 0 24 (dk_at dksX2_readsLine_2 1 rfl rfl)
theorem dX2_readsLine_52 : decode cX2_readsLine 52 = .ok (.aload_n 0, 1) := dk_42 (dk_at dksX2_readsLine_2 4 rfl rfl)
theorem dX2_readsLine_53 : decode cX2_readsLine 53 = .ok (.getfield 38, 3) := dk_180 0 38 (dk_at dksX2_readsLine_2 5 rfl rfl)
theorem dX2_readsLine_56 : decode cX2_readsLine 56 = .ok (.iconst 4, 1) := dk_7 (dk_at dksX2_readsLine_2 8 rfl rfl)
theorem dX2_readsLine_57 : decode cX2_readsLine 57 = .ok (.aload_n 0, 1) := dk_42 (dk_at dksX2_readsLine_2 9 rfl rfl)
theorem dX2_readsLine_58 : decode cX2_readsLine 58 = .ok (.getfield 166, 3) := dk_180 0 166 (dk_at dksX2_readsLine_2 10 rfl rfl)
theorem dX2_readsLine_61 : decode cX2_readsLine 61 = .ok (.imul, 1) := dk_104 (dk_at dksX2_readsLine_2 13 rfl rfl)
theorem dX2_readsLine_62 : decode cX2_readsLine 62 = .ok (.iload_n 3, 1) := dk_29 (dk_at dksX2_readsLine_2 14 rfl rfl)
theorem dX2_readsLine_63 : decode cX2_readsLine 63 = .ok (.iadd, 1) := dk_96 (dk_at dksX2_readsLine_2 15 rfl rfl)
theorem dX2_readsLine_64 : decode cX2_readsLine 64 = .ok (.ldc 85, 2) := dk_18 85 (dk_at dksX2_readsLine_2 16 rfl rfl)
theorem dX2_readsLine_66 : decode cX2_readsLine 66 = .ok (.iastore, 1) := dk_79 (dk_at dksX2_readsLine_2 18 rfl rfl)
theorem dX2_readsLine_67 : decode cX2_readsLine 67 = .ok (.iinc 3 1, 3) := dk_132 3 1 (dk_at dksX2_readsLine_2 19 rfl rfl)
theorem dX2_readsLine_70 : decode cX2_readsLine 70 = .ok (.goto (-23), 3) := dk_167 255 233 (dk_at dksX2_readsLine_3 0 rfl rfl)
theorem dX2_readsLine_73 : decode cX2_readsLine 73 = .ok (.iconst 1, 1) := dk_4 (dk_at dksX2_readsLine_3 3 rfl rfl)
theorem dX2_readsLine_74 : decode cX2_readsLine 74 = .ok (.istore_n 3, 1) := dk_62 (dk_at dksX2_readsLine_3 4 rfl rfl)
theorem dX2_readsLine_75 : decode cX2_readsLine 75 = .ok (.iload_n 3, 1) := dk_29 (dk_at dksX2_readsLine_3 5 rfl rfl)
theorem dX2_readsLine_76 : decode cX2_readsLine 76 = .ok (.iload_n 2, 1) := dk_28 (dk_at dksX2_readsLine_3 6 rfl rfl)
theorem dX2_readsLine_77 : decode cX2_readsLine 77 = .ok (.if_icmp .gt 20, 3) := dk_163 0 20 (dk_at dksX2_readsLine_3 7 rfl rfl)
theorem dX2_readsLine_80 : decode cX2_readsLine 80 = .ok (.aload_n 0, 1) := dk_42 (dk_at dksX2_readsLine_3 10 rfl rfl)
theorem dX2_readsLine_81 : decode cX2_readsLine 81 = .ok (.iload_n 1, 1) := dk_27 (dk_at dksX2_readsLine_3 11 rfl rfl)
theorem dX2_readsLine_82 : decode cX2_readsLine 82 = .ok (.iload_n 3, 1) := dk_29 (dk_at dksX2_readsLine_3 12 rfl rfl)
theorem dX2_readsLine_83 : decode cX2_readsLine 83 = .ok (.invokevirtual 173, 3) := dk_182 0 173 (dk_at dksX2_readsLine_3 13 rfl rfl)
theorem dX2_readsLine_86 : decode cX2_readsLine 86 = .ok (.ifCond .ne 5, 3) := dk_154 0 5 (dk_at dksX2_readsLine_3 16 rfl rfl)
theorem dX2_readsLine_89 : decode cX2_readsLine 89 = .ok (.iconst 0, 1) := dk_3 (dk_at dksX2_readsLine_3 19 rfl rfl)
theorem dX2_readsLine_90 : decode cX2_readsLine 90 = .ok (.ireturn, 1) := dk_172 (dk_at dksX2_readsLine_3 20 rfl rfl)
theorem dX2_readsLine_91 : decode cX2_readsLine 91 = .ok (.iinc 3 1, 3) := dk_132 3 1 (dk_at dksX2_readsLine_3 21 rfl rfl)
theorem dX2_readsLine_94 : decode cX2_readsLine 94 = .ok (.goto (-19), 3) := dk_167 255 237 (dk_at dksX2_readsLine_4 0 rfl rfl)
theorem dX2_readsLine_97 : decode cX2_readsLine 97 = .ok (.aload_n 0, 1) := dk_42 (dk_at dksX2_readsLine_4 3 rfl rfl)
theorem dX2_readsLine_98 : decode cX2_readsLine 98 = .ok (.dup, 1) := dk_89 (dk_at dksX2_readsLine_4 4 rfl rfl)
theorem dX2_readsLine_99 : decode cX2_readsLine 99 = .ok (.getfield 166, 3) := dk_180 0 166 (dk_at dksX2_readsLine_4 5 rfl rfl)
theorem dX2_readsLine_102 : decode cX2_readsLine 102 = .ok (.iconst 1, 1) := dk_4 (dk_at dksX2_readsLine_4 8 rfl rfl)
theorem dX2_readsLine_103 : decode cX2_readsLine 103 = .ok (.iadd, 1) := dk_96 (dk_at dksX2_readsLine_4 9 rfl rfl)
theorem dX2_readsLine_104 : decode cX2_readsLine 104 = .ok (.putfield 166, 3) := dk_181 0 166 (dk_at dksX2_readsLine_4 10 rfl rfl)
theorem dX2_readsLine_107 : decode cX2_readsLine 107 = .ok (.iconst 1, 1) := dk_4 (dk_at dksX2_readsLine_4 13 rfl rfl)
theorem dX2_readsLine_108 : decode cX2_readsLine 108 = .ok (.ireturn, 1) := dk_172 (dk_at dksX2_readsLine_4 14 rfl rfl)
abbrev cX2_readsWord : ByteArray := prog_8_method_32_code
def yX2_readsWord : MethodName := ⟨RX2, "readsWord", "()I"⟩
def dkwX2_readsWord_3 : List UInt8 := [96, 181, 0, 147, 28, 172]
abbrev dktX2_readsWord_3 : List UInt8 := dkwX2_readsWord_3 ++ []
def dkwX2_readsWord_2 : List UInt8 := [184, 0, 143, 160, 0, 7, 29, 167, 0, 4, 28, 61, 132, 3, 1, 167, 255, 202, 42, 89, 180, 0, 147, 27]
abbrev dktX2_readsWord_2 : List UInt8 := dkwX2_readsWord_2 ++ dktX2_readsWord_3
def dkwX2_readsWord_1 : List UInt8 := [54, 4, 21, 4, 27, 164, 0, 8, 21, 4, 167, 0, 4, 27, 60, 21, 4, 42, 180, 0, 22, 29, 47]
abbrev dktX2_readsWord_1 : List UInt8 := dkwX2_readsWord_1 ++ dktX2_readsWord_2
def dkwX2_readsWord_0 : List UInt8 := [3, 60, 18, 85, 61, 3, 62, 29, 16, 7, 162, 0, 54, 42, 42, 180, 0, 22, 29, 47, 182, 0, 150]
abbrev dktX2_readsWord_0 : List UInt8 := dkwX2_readsWord_0 ++ dktX2_readsWord_1
theorem dksX2_readsWord_0 : cX2_readsWord.data.toList.drop 0 = dktX2_readsWord_0 := by decide +kernel
theorem dksX2_readsWord_1 : cX2_readsWord.data.toList.drop 23 = dktX2_readsWord_1 := dk_seg dksX2_readsWord_0 23 rfl rfl
theorem dksX2_readsWord_2 : cX2_readsWord.data.toList.drop 46 = dktX2_readsWord_2 := dk_seg dksX2_readsWord_1 23 rfl rfl
theorem dksX2_readsWord_3 : cX2_readsWord.data.toList.drop 70 = dktX2_readsWord_3 := dk_seg dksX2_readsWord_2 24 rfl rfl
theorem dX2_readsWord_0 : decode cX2_readsWord 0 = .ok (.iconst 0, 1) := dk_3 (dk_at dksX2_readsWord_0 0 rfl rfl)
theorem dX2_readsWord_1 : decode cX2_readsWord 1 = .ok (.istore_n 1, 1) := dk_60 (dk_at dksX2_readsWord_0 1 rfl rfl)
theorem dX2_readsWord_2 : decode cX2_readsWord 2 = .ok (.ldc 85, 2) := dk_18 85 (dk_at dksX2_readsWord_0 2 rfl rfl)
theorem dX2_readsWord_4 : decode cX2_readsWord 4 = .ok (.istore_n 2, 1) := dk_61 (dk_at dksX2_readsWord_0 4 rfl rfl)
theorem dX2_readsWord_5 : decode cX2_readsWord 5 = .ok (.iconst 0, 1) := dk_3 (dk_at dksX2_readsWord_0 5 rfl rfl)
theorem dX2_readsWord_6 : decode cX2_readsWord 6 = .ok (.istore_n 3, 1) := dk_62 (dk_at dksX2_readsWord_0 6 rfl rfl)
theorem dX2_readsWord_7 : decode cX2_readsWord 7 = .ok (.iload_n 3, 1) := dk_29 (dk_at dksX2_readsWord_0 7 rfl rfl)
theorem dX2_readsWord_8 : decode cX2_readsWord 8 = .ok (.bipush 7, 2) := dk_16 7 (dk_at dksX2_readsWord_0 8 rfl rfl)
theorem dX2_readsWord_10 : decode cX2_readsWord 10 = .ok (.if_icmp .ge 54, 3) := dk_162 0 54 (dk_at dksX2_readsWord_0 10 rfl rfl)
theorem dX2_readsWord_13 : decode cX2_readsWord 13 = .ok (.aload_n 0, 1) := dk_42 (dk_at dksX2_readsWord_0 13 rfl rfl)
theorem dX2_readsWord_14 : decode cX2_readsWord 14 = .ok (.aload_n 0, 1) := dk_42 (dk_at dksX2_readsWord_0 14 rfl rfl)
theorem dX2_readsWord_15 : decode cX2_readsWord 15 = .ok (.getfield 22, 3) := dk_180 0 22 (dk_at dksX2_readsWord_0 15 rfl rfl)
theorem dX2_readsWord_18 : decode cX2_readsWord 18 = .ok (.iload_n 3, 1) := dk_29 (dk_at dksX2_readsWord_0 18 rfl rfl)
theorem dX2_readsWord_19 : decode cX2_readsWord 19 = .ok (.laload, 1) := dk_47 (dk_at dksX2_readsWord_0 19 rfl rfl)
theorem dX2_readsWord_20 : decode cX2_readsWord 20 = .ok (.invokevirtual 150, 3) := dk_182 0 150 (dk_at dksX2_readsWord_0 20 rfl rfl)
theorem dX2_readsWord_23 : decode cX2_readsWord 23 = .ok (.istore 4, 2) := dk_54 4 (dk_at dksX2_readsWord_1 0 rfl rfl)
theorem dX2_readsWord_25 : decode cX2_readsWord 25 = .ok (.iload 4, 2) := dk_21 4 (dk_at dksX2_readsWord_1 2 rfl rfl)
theorem dX2_readsWord_27 : decode cX2_readsWord 27 = .ok (.iload_n 1, 1) := dk_27 (dk_at dksX2_readsWord_1 4 rfl rfl)
theorem dX2_readsWord_28 : decode cX2_readsWord 28 = .ok (.if_icmp .le 8, 3) := dk_164 0 8 (dk_at dksX2_readsWord_1 5 rfl rfl)
theorem dX2_readsWord_31 : decode cX2_readsWord 31 = .ok (.iload 4, 2) := dk_21 4 (dk_at dksX2_readsWord_1 8 rfl rfl)
theorem dX2_readsWord_33 : decode cX2_readsWord 33 = .ok (.goto 4, 3) := dk_167 0 4 (dk_at dksX2_readsWord_1 10 rfl rfl)
theorem dX2_readsWord_36 : decode cX2_readsWord 36 = .ok (.iload_n 1, 1) := dk_27 (dk_at dksX2_readsWord_1 13 rfl rfl)
theorem dX2_readsWord_37 : decode cX2_readsWord 37 = .ok (.istore_n 1, 1) := dk_60 (dk_at dksX2_readsWord_1 14 rfl rfl)
theorem dX2_readsWord_38 : decode cX2_readsWord 38 = .ok (.iload 4, 2) := dk_21 4 (dk_at dksX2_readsWord_1 15 rfl rfl)
theorem dX2_readsWord_40 : decode cX2_readsWord 40 = .ok (.aload_n 0, 1) := dk_42 (dk_at dksX2_readsWord_1 17 rfl rfl)
theorem dX2_readsWord_41 : decode cX2_readsWord 41 = .ok (.getfield 22, 3) := dk_180 0 22 (dk_at dksX2_readsWord_1 18 rfl rfl)
theorem dX2_readsWord_44 : decode cX2_readsWord 44 = .ok (.iload_n 3, 1) := dk_29 (dk_at dksX2_readsWord_1 21 rfl rfl)
theorem dX2_readsWord_45 : decode cX2_readsWord 45 = .ok (.laload, 1) := dk_47 (dk_at dksX2_readsWord_1 22 rfl rfl)
theorem dX2_readsWord_46 : decode cX2_readsWord 46 = .ok (.invokestatic 143, 3) := dk_184 0 143 (dk_at dksX2_readsWord_2 0 rfl rfl)
theorem dX2_readsWord_49 : decode cX2_readsWord 49 = .ok (.if_icmp .ne 7, 3) := dk_160 0 7 (dk_at dksX2_readsWord_2 3 rfl rfl)
theorem dX2_readsWord_52 : decode cX2_readsWord 52 = .ok (.iload_n 3, 1) := dk_29 (dk_at dksX2_readsWord_2 6 rfl rfl)
theorem dX2_readsWord_53 : decode cX2_readsWord 53 = .ok (.goto 4, 3) := dk_167 0 4 (dk_at dksX2_readsWord_2 7 rfl rfl)
theorem dX2_readsWord_56 : decode cX2_readsWord 56 = .ok (.iload_n 2, 1) := dk_28 (dk_at dksX2_readsWord_2 10 rfl rfl)
theorem dX2_readsWord_57 : decode cX2_readsWord 57 = .ok (.istore_n 2, 1) := dk_61 (dk_at dksX2_readsWord_2 11 rfl rfl)
theorem dX2_readsWord_58 : decode cX2_readsWord 58 = .ok (.iinc 3 1, 3) := dk_132 3 1 (dk_at dksX2_readsWord_2 12 rfl rfl)
theorem dX2_readsWord_61 : decode cX2_readsWord 61 = .ok (.goto (-54), 3) := dk_167 255 202 (dk_at dksX2_readsWord_2 15 rfl rfl)
theorem dX2_readsWord_64 : decode cX2_readsWord 64 = .ok (.aload_n 0, 1) := dk_42 (dk_at dksX2_readsWord_2 18 rfl rfl)
theorem dX2_readsWord_65 : decode cX2_readsWord 65 = .ok (.dup, 1) := dk_89 (dk_at dksX2_readsWord_2 19 rfl rfl)
theorem dX2_readsWord_66 : decode cX2_readsWord 66 = .ok (.getfield 147, 3) := dk_180 0 147 (dk_at dksX2_readsWord_2 20 rfl rfl)
theorem dX2_readsWord_69 : decode cX2_readsWord 69 = .ok (.iload_n 1, 1) := dk_27 (dk_at dksX2_readsWord_2 23 rfl rfl)
theorem dX2_readsWord_70 : decode cX2_readsWord 70 = .ok (.iadd, 1) := dk_96 (dk_at dksX2_readsWord_3 0 rfl rfl)
theorem dX2_readsWord_71 : decode cX2_readsWord 71 = .ok (.putfield 147, 3) := dk_181 0 147 (dk_at dksX2_readsWord_3 1 rfl rfl)
theorem dX2_readsWord_74 : decode cX2_readsWord 74 = .ok (.iload_n 2, 1) := dk_28 (dk_at dksX2_readsWord_3 4 rfl rfl)
theorem dX2_readsWord_75 : decode cX2_readsWord 75 = .ok (.ireturn, 1) := dk_172 (dk_at dksX2_readsWord_3 5 rfl rfl)
abbrev cX2_likeness : ByteArray := prog_8_method_31_code
def yX2_likeness : MethodName := ⟨RX2, "likeness", "(J)I"⟩
def dkwX2_likeness_2 : List UInt8 := [100, 21, 4, 100, 104, 123, 20, 0, 83, 127, 148, 154, 0, 9, 132, 4, 1, 167, 255, 201, 21, 4, 172]
abbrev dktX2_likeness_2 : List UInt8 := dkwX2_likeness_2 ++ []
def dkwX2_likeness_1 : List UInt8 := [180, 0, 140, 162, 0, 41, 42, 180, 0, 35, 42, 180, 0, 147, 21, 4, 96, 46, 133, 31, 16, 8, 29, 4]
abbrev dktX2_likeness_1 : List UInt8 := dkwX2_likeness_1 ++ dktX2_likeness_2
def dkwX2_likeness_0 : List UInt8 := [31, 184, 0, 143, 62, 3, 54, 4, 21, 4, 29, 162, 0, 55, 42, 180, 0, 147, 21, 4, 96, 42]
abbrev dktX2_likeness_0 : List UInt8 := dkwX2_likeness_0 ++ dktX2_likeness_1
theorem dksX2_likeness_0 : cX2_likeness.data.toList.drop 0 = dktX2_likeness_0 := by decide +kernel
theorem dksX2_likeness_1 : cX2_likeness.data.toList.drop 22 = dktX2_likeness_1 := dk_seg dksX2_likeness_0 22 rfl rfl
theorem dksX2_likeness_2 : cX2_likeness.data.toList.drop 46 = dktX2_likeness_2 := dk_seg dksX2_likeness_1 24 rfl rfl
theorem dX2_likeness_0 : decode cX2_likeness 0 = .ok (.lload_n 1, 1) := dk_31 (dk_at dksX2_likeness_0 0 rfl rfl)
theorem dX2_likeness_1 : decode cX2_likeness 1 = .ok (.invokestatic 143, 3) := dk_184 0 143 (dk_at dksX2_likeness_0 1 rfl rfl)
theorem dX2_likeness_4 : decode cX2_likeness 4 = .ok (.istore_n 3, 1) := dk_62 (dk_at dksX2_likeness_0 4 rfl rfl)
theorem dX2_likeness_5 : decode cX2_likeness 5 = .ok (.iconst 0, 1) := dk_3 (dk_at dksX2_likeness_0 5 rfl rfl)
theorem dX2_likeness_6 : decode cX2_likeness 6 = .ok (.istore 4, 2) := dk_54 4 (dk_at dksX2_likeness_0 6 rfl rfl)
theorem dX2_likeness_8 : decode cX2_likeness 8 = .ok (.iload 4, 2) := dk_21 4 (dk_at dksX2_likeness_0 8 rfl rfl)
theorem dX2_likeness_10 : decode cX2_likeness 10 = .ok (.iload_n 3, 1) := dk_29 (dk_at dksX2_likeness_0 10 rfl rfl)
theorem dX2_likeness_11 : decode cX2_likeness 11 = .ok (.if_icmp .ge 55, 3) := dk_162 0 55 (dk_at dksX2_likeness_0 11 rfl rfl)
theorem dX2_likeness_14 : decode cX2_likeness 14 = .ok (.aload_n 0, 1) := dk_42 (dk_at dksX2_likeness_0 14 rfl rfl)
theorem dX2_likeness_15 : decode cX2_likeness 15 = .ok (.getfield 147, 3) := dk_180 0 147 (dk_at dksX2_likeness_0 15 rfl rfl)
theorem dX2_likeness_18 : decode cX2_likeness 18 = .ok (.iload 4, 2) := dk_21 4 (dk_at dksX2_likeness_0 18 rfl rfl)
theorem dX2_likeness_20 : decode cX2_likeness 20 = .ok (.iadd, 1) := dk_96 (dk_at dksX2_likeness_0 20 rfl rfl)
theorem dX2_likeness_21 : decode cX2_likeness 21 = .ok (.aload_n 0, 1) := dk_42 (dk_at dksX2_likeness_0 21 rfl rfl)
theorem dX2_likeness_22 : decode cX2_likeness 22 = .ok (.getfield 140, 3) := dk_180 0 140 (dk_at dksX2_likeness_1 0 rfl rfl)
theorem dX2_likeness_25 : decode cX2_likeness 25 = .ok (.if_icmp .ge 41, 3) := dk_162 0 41 (dk_at dksX2_likeness_1 3 rfl rfl)
theorem dX2_likeness_28 : decode cX2_likeness 28 = .ok (.aload_n 0, 1) := dk_42 (dk_at dksX2_likeness_1 6 rfl rfl)
theorem dX2_likeness_29 : decode cX2_likeness 29 = .ok (.getfield 35, 3) := dk_180 0 35 (dk_at dksX2_likeness_1 7 rfl rfl)
theorem dX2_likeness_32 : decode cX2_likeness 32 = .ok (.aload_n 0, 1) := dk_42 (dk_at dksX2_likeness_1 10 rfl rfl)
theorem dX2_likeness_33 : decode cX2_likeness 33 = .ok (.getfield 147, 3) := dk_180 0 147 (dk_at dksX2_likeness_1 11 rfl rfl)
theorem dX2_likeness_36 : decode cX2_likeness 36 = .ok (.iload 4, 2) := dk_21 4 (dk_at dksX2_likeness_1 14 rfl rfl)
theorem dX2_likeness_38 : decode cX2_likeness 38 = .ok (.iadd, 1) := dk_96 (dk_at dksX2_likeness_1 16 rfl rfl)
theorem dX2_likeness_39 : decode cX2_likeness 39 = .ok (.iaload, 1) := dk_46 (dk_at dksX2_likeness_1 17 rfl rfl)
theorem dX2_likeness_40 : decode cX2_likeness 40 = .ok (.i2l, 1) := dk_133 (dk_at dksX2_likeness_1 18 rfl rfl)
theorem dX2_likeness_41 : decode cX2_likeness 41 = .ok (.lload_n 1, 1) := dk_31 (dk_at dksX2_likeness_1 19 rfl rfl)
theorem dX2_likeness_42 : decode cX2_likeness 42 = .ok (.bipush 8, 2) := dk_16 8 (dk_at dksX2_likeness_1 20 rfl rfl)
theorem dX2_likeness_44 : decode cX2_likeness 44 = .ok (.iload_n 3, 1) := dk_29 (dk_at dksX2_likeness_1 22 rfl rfl)
theorem dX2_likeness_45 : decode cX2_likeness 45 = .ok (.iconst 1, 1) := dk_4 (dk_at dksX2_likeness_1 23 rfl rfl)
theorem dX2_likeness_46 : decode cX2_likeness 46 = .ok (.isub, 1) := dk_100 (dk_at dksX2_likeness_2 0 rfl rfl)
theorem dX2_likeness_47 : decode cX2_likeness 47 = .ok (.iload 4, 2) := dk_21 4 (dk_at dksX2_likeness_2 1 rfl rfl)
theorem dX2_likeness_49 : decode cX2_likeness 49 = .ok (.isub, 1) := dk_100 (dk_at dksX2_likeness_2 3 rfl rfl)
theorem dX2_likeness_50 : decode cX2_likeness 50 = .ok (.imul, 1) := dk_104 (dk_at dksX2_likeness_2 4 rfl rfl)
theorem dX2_likeness_51 : decode cX2_likeness 51 = .ok (.lshr, 1) := dk_123 (dk_at dksX2_likeness_2 5 rfl rfl)
theorem dX2_likeness_52 : decode cX2_likeness 52 = .ok (.ldc2_w 83, 3) := dk_20 0 83 (dk_at dksX2_likeness_2 6 rfl rfl)
theorem dX2_likeness_55 : decode cX2_likeness 55 = .ok (.land, 1) := dk_127 (dk_at dksX2_likeness_2 9 rfl rfl)
theorem dX2_likeness_56 : decode cX2_likeness 56 = .ok (.lcmp, 1) := dk_148 (dk_at dksX2_likeness_2 10 rfl rfl)
theorem dX2_likeness_57 : decode cX2_likeness 57 = .ok (.ifCond .ne 9, 3) := dk_154 0 9 (dk_at dksX2_likeness_2 11 rfl rfl)
theorem dX2_likeness_60 : decode cX2_likeness 60 = .ok (.iinc 4 1, 3) := dk_132 4 1 (dk_at dksX2_likeness_2 14 rfl rfl)
theorem dX2_likeness_63 : decode cX2_likeness 63 = .ok (.goto (-55), 3) := dk_167 255 201 (dk_at dksX2_likeness_2 17 rfl rfl)
theorem dX2_likeness_66 : decode cX2_likeness 66 = .ok (.iload 4, 2) := dk_21 4 (dk_at dksX2_likeness_2 20 rfl rfl)
theorem dX2_likeness_68 : decode cX2_likeness 68 = .ok (.ireturn, 1) := dk_172 (dk_at dksX2_likeness_2 22 rfl rfl)
abbrev cX2_sizeOf : ByteArray := prog_8_method_30_code
def yX2_sizeOf : MethodName := ⟨RX2, "sizeOf", "(J)I"⟩
def dkwX2_sizeOf_0 : List UInt8 := [3, 61, 30, 66, 33, 9, 148, 158, 0, 14, 132, 2, 1, 33, 16, 8, 123, 66, 167, 255, 242, 28, 172]
abbrev dktX2_sizeOf_0 : List UInt8 := dkwX2_sizeOf_0 ++ []
theorem dksX2_sizeOf_0 : cX2_sizeOf.data.toList.drop 0 = dktX2_sizeOf_0 := by decide +kernel
theorem dX2_sizeOf_0 : decode cX2_sizeOf 0 = .ok (.iconst 0, 1) := dk_3 (dk_at dksX2_sizeOf_0 0 rfl rfl)
theorem dX2_sizeOf_1 : decode cX2_sizeOf 1 = .ok (.istore_n 2, 1) := dk_61 (dk_at dksX2_sizeOf_0 1 rfl rfl)
theorem dX2_sizeOf_2 : decode cX2_sizeOf 2 = .ok (.lload_n 0, 1) := dk_30 (dk_at dksX2_sizeOf_0 2 rfl rfl)
theorem dX2_sizeOf_3 : decode cX2_sizeOf 3 = .ok (.lstore_n 3, 1) := dk_66 (dk_at dksX2_sizeOf_0 3 rfl rfl)
theorem dX2_sizeOf_4 : decode cX2_sizeOf 4 = .ok (.lload_n 3, 1) := dk_33 (dk_at dksX2_sizeOf_0 4 rfl rfl)
theorem dX2_sizeOf_5 : decode cX2_sizeOf 5 = .ok (.lconst 0, 1) := dk_9 (dk_at dksX2_sizeOf_0 5 rfl rfl)
theorem dX2_sizeOf_6 : decode cX2_sizeOf 6 = .ok (.lcmp, 1) := dk_148 (dk_at dksX2_sizeOf_0 6 rfl rfl)
theorem dX2_sizeOf_7 : decode cX2_sizeOf 7 = .ok (.ifCond .le 14, 3) := dk_158 0 14 (dk_at dksX2_sizeOf_0 7 rfl rfl)
theorem dX2_sizeOf_10 : decode cX2_sizeOf 10 = .ok (.iinc 2 1, 3) := dk_132 2 1 (dk_at dksX2_sizeOf_0 10 rfl rfl)
theorem dX2_sizeOf_13 : decode cX2_sizeOf 13 = .ok (.lload_n 3, 1) := dk_33 (dk_at dksX2_sizeOf_0 13 rfl rfl)
theorem dX2_sizeOf_14 : decode cX2_sizeOf 14 = .ok (.bipush 8, 2) := dk_16 8 (dk_at dksX2_sizeOf_0 14 rfl rfl)
theorem dX2_sizeOf_16 : decode cX2_sizeOf 16 = .ok (.lshr, 1) := dk_123 (dk_at dksX2_sizeOf_0 16 rfl rfl)
theorem dX2_sizeOf_17 : decode cX2_sizeOf 17 = .ok (.lstore_n 3, 1) := dk_66 (dk_at dksX2_sizeOf_0 17 rfl rfl)
theorem dX2_sizeOf_18 : decode cX2_sizeOf 18 = .ok (.goto (-14), 3) := dk_167 255 242 (dk_at dksX2_sizeOf_0 18 rfl rfl)
theorem dX2_sizeOf_21 : decode cX2_sizeOf 21 = .ok (.iload_n 2, 1) := dk_28 (dk_at dksX2_sizeOf_0 21 rfl rfl)
theorem dX2_sizeOf_22 : decode cX2_sizeOf 22 = .ok (.ireturn, 1) := dk_172 (dk_at dksX2_sizeOf_0 22 rfl rfl)
abbrev cX2_readsPart : ByteArray := prog_8_method_36_code
def yX2_readsPart : MethodName := ⟨RX2, "readsPart", "(II)Z"⟩
def dkwX2_readsPart_4 : List UInt8 := [180, 0, 166, 104, 28, 96, 42, 180, 0, 160, 79, 21, 5, 172]
abbrev dktX2_readsPart_4 : List UInt8 := dkwX2_readsPart_4 ++ []
def dkwX2_readsPart_3 : List UInt8 := [154, 0, 9, 17, 1, 0, 167, 0, 5, 16, 15, 182, 0, 163, 54, 5, 42, 180, 0, 38, 7, 42]
abbrev dktX2_readsPart_3 : List UInt8 := dkwX2_readsPart_3 ++ dktX2_readsPart_4
def dkwX2_readsPart_2 : List UInt8 := [3, 29, 153, 0, 8, 16, 60, 167, 0, 26, 21, 4, 153, 0, 9, 17, 0, 255, 167, 0, 15, 27]
abbrev dktX2_readsPart_2 : List UInt8 := dkwX2_readsPart_2 ++ dktX2_readsPart_3
def dkwX2_readsPart_1 : List UInt8 := [160, 0, 7, 4, 167, 0, 4, 3, 54, 4, 42, 29, 154, 0, 8, 21, 4, 153, 0, 7, 4, 167, 0, 4]
abbrev dktX2_readsPart_1 : List UInt8 := dkwX2_readsPart_1 ++ dktX2_readsPart_2
def dkwX2_readsPart_0 : List UInt8 := [27, 16, 6, 160, 0, 12, 28, 5, 160, 0, 7, 4, 167, 0, 4, 3, 62, 27, 154, 0, 12, 28, 5]
abbrev dktX2_readsPart_0 : List UInt8 := dkwX2_readsPart_0 ++ dktX2_readsPart_1
theorem dksX2_readsPart_0 : cX2_readsPart.data.toList.drop 0 = dktX2_readsPart_0 := by decide +kernel
theorem dksX2_readsPart_1 : cX2_readsPart.data.toList.drop 23 = dktX2_readsPart_1 := dk_seg dksX2_readsPart_0 23 rfl rfl
theorem dksX2_readsPart_2 : cX2_readsPart.data.toList.drop 47 = dktX2_readsPart_2 := dk_seg dksX2_readsPart_1 24 rfl rfl
theorem dksX2_readsPart_3 : cX2_readsPart.data.toList.drop 69 = dktX2_readsPart_3 := dk_seg dksX2_readsPart_2 22 rfl rfl
theorem dksX2_readsPart_4 : cX2_readsPart.data.toList.drop 91 = dktX2_readsPart_4 := dk_seg dksX2_readsPart_3 22 rfl rfl
theorem dX2_readsPart_0 : decode cX2_readsPart 0 = .ok (.iload_n 1, 1) := dk_27 (dk_at dksX2_readsPart_0 0 rfl rfl)
theorem dX2_readsPart_1 : decode cX2_readsPart 1 = .ok (.bipush 6, 2) := dk_16 6 (dk_at dksX2_readsPart_0 1 rfl rfl)
theorem dX2_readsPart_3 : decode cX2_readsPart 3 = .ok (.if_icmp .ne 12, 3) := dk_160 0 12 (dk_at dksX2_readsPart_0 3 rfl rfl)
theorem dX2_readsPart_6 : decode cX2_readsPart 6 = .ok (.iload_n 2, 1) := dk_28 (dk_at dksX2_readsPart_0 6 rfl rfl)
theorem dX2_readsPart_7 : decode cX2_readsPart 7 = .ok (.iconst 2, 1) := dk_5 (dk_at dksX2_readsPart_0 7 rfl rfl)
theorem dX2_readsPart_8 : decode cX2_readsPart 8 = .ok (.if_icmp .ne 7, 3) := dk_160 0 7 (dk_at dksX2_readsPart_0 8 rfl rfl)
theorem dX2_readsPart_11 : decode cX2_readsPart 11 = .ok (.iconst 1, 1) := dk_4 (dk_at dksX2_readsPart_0 11 rfl rfl)
theorem dX2_readsPart_12 : decode cX2_readsPart 12 = .ok (.goto 4, 3) := dk_167 0 4 (dk_at dksX2_readsPart_0 12 rfl rfl)
theorem dX2_readsPart_15 : decode cX2_readsPart 15 = .ok (.iconst 0, 1) := dk_3 (dk_at dksX2_readsPart_0 15 rfl rfl)
theorem dX2_readsPart_16 : decode cX2_readsPart 16 = .ok (.istore_n 3, 1) := dk_62 (dk_at dksX2_readsPart_0 16 rfl rfl)
theorem dX2_readsPart_17 : decode cX2_readsPart 17 = .ok (.iload_n 1, 1) := dk_27 (dk_at dksX2_readsPart_0 17 rfl rfl)
theorem dX2_readsPart_18 : decode cX2_readsPart 18 = .ok (.ifCond .ne 12, 3) := dk_154 0 12 (dk_at dksX2_readsPart_0 18 rfl rfl)
theorem dX2_readsPart_21 : decode cX2_readsPart 21 = .ok (.iload_n 2, 1) := dk_28 (dk_at dksX2_readsPart_0 21 rfl rfl)
theorem dX2_readsPart_22 : decode cX2_readsPart 22 = .ok (.iconst 2, 1) := dk_5 (dk_at dksX2_readsPart_0 22 rfl rfl)
theorem dX2_readsPart_23 : decode cX2_readsPart 23 = .ok (.if_icmp .ne 7, 3) := dk_160 0 7 (dk_at dksX2_readsPart_1 0 rfl rfl)
theorem dX2_readsPart_26 : decode cX2_readsPart 26 = .ok (.iconst 1, 1) := dk_4 (dk_at dksX2_readsPart_1 3 rfl rfl)
theorem dX2_readsPart_27 : decode cX2_readsPart 27 = .ok (.goto 4, 3) := dk_167 0 4 (dk_at dksX2_readsPart_1 4 rfl rfl)
theorem dX2_readsPart_30 : decode cX2_readsPart 30 = .ok (.iconst 0, 1) := dk_3 (dk_at dksX2_readsPart_1 7 rfl rfl)
theorem dX2_readsPart_31 : decode cX2_readsPart 31 = .ok (.istore 4, 2) := dk_54 4 (dk_at dksX2_readsPart_1 8 rfl rfl)
theorem dX2_readsPart_33 : decode cX2_readsPart 33 = .ok (.aload_n 0, 1) := dk_42 (dk_at dksX2_readsPart_1 10 rfl rfl)
theorem dX2_readsPart_34 : decode cX2_readsPart 34 = .ok (.iload_n 3, 1) := dk_29 (dk_at dksX2_readsPart_1 11 rfl rfl)
theorem dX2_readsPart_35 : decode cX2_readsPart 35 = .ok (.ifCond .ne 8, 3) := dk_154 0 8 (dk_at dksX2_readsPart_1 12 rfl rfl)
theorem dX2_readsPart_38 : decode cX2_readsPart 38 = .ok (.iload 4, 2) := dk_21 4 (dk_at dksX2_readsPart_1 15 rfl rfl)
theorem dX2_readsPart_40 : decode cX2_readsPart 40 = .ok (.ifCond .eq 7, 3) := dk_153 0 7 (dk_at dksX2_readsPart_1 17 rfl rfl)
theorem dX2_readsPart_43 : decode cX2_readsPart 43 = .ok (.iconst 1, 1) := dk_4 (dk_at dksX2_readsPart_1 20 rfl rfl)
theorem dX2_readsPart_44 : decode cX2_readsPart 44 = .ok (.goto 4, 3) := dk_167 0 4 (dk_at dksX2_readsPart_1 21 rfl rfl)
theorem dX2_readsPart_47 : decode cX2_readsPart 47 = .ok (.iconst 0, 1) := dk_3 (dk_at dksX2_readsPart_2 0 rfl rfl)
theorem dX2_readsPart_48 : decode cX2_readsPart 48 = .ok (.iload_n 3, 1) := dk_29 (dk_at dksX2_readsPart_2 1 rfl rfl)
theorem dX2_readsPart_49 : decode cX2_readsPart 49 = .ok (.ifCond .eq 8, 3) := dk_153 0 8 (dk_at dksX2_readsPart_2 2 rfl rfl)
theorem dX2_readsPart_52 : decode cX2_readsPart 52 = .ok (.bipush 60, 2) := dk_16 60 (dk_at dksX2_readsPart_2 5 rfl rfl)
theorem dX2_readsPart_54 : decode cX2_readsPart 54 = .ok (.goto 26, 3) := dk_167 0 26 (dk_at dksX2_readsPart_2 7 rfl rfl)
theorem dX2_readsPart_57 : decode cX2_readsPart 57 = .ok (.iload 4, 2) := dk_21 4 (dk_at dksX2_readsPart_2 10 rfl rfl)
theorem dX2_readsPart_59 : decode cX2_readsPart 59 = .ok (.ifCond .eq 9, 3) := dk_153 0 9 (dk_at dksX2_readsPart_2 12 rfl rfl)
theorem dX2_readsPart_62 : decode cX2_readsPart 62 = .ok (.sipush 255, 3) := dk_17 0 255 (dk_at dksX2_readsPart_2 15 rfl rfl)
theorem dX2_readsPart_65 : decode cX2_readsPart 65 = .ok (.goto 15, 3) := dk_167 0 15 (dk_at dksX2_readsPart_2 18 rfl rfl)
theorem dX2_readsPart_68 : decode cX2_readsPart 68 = .ok (.iload_n 1, 1) := dk_27 (dk_at dksX2_readsPart_2 21 rfl rfl)
theorem dX2_readsPart_69 : decode cX2_readsPart 69 = .ok (.ifCond .ne 9, 3) := dk_154 0 9 (dk_at dksX2_readsPart_3 0 rfl rfl)
theorem dX2_readsPart_72 : decode cX2_readsPart 72 = .ok (.sipush 256, 3) := dk_17 1 0 (dk_at dksX2_readsPart_3 3 rfl rfl)
theorem dX2_readsPart_75 : decode cX2_readsPart 75 = .ok (.goto 5, 3) := dk_167 0 5 (dk_at dksX2_readsPart_3 6 rfl rfl)
theorem dX2_readsPart_78 : decode cX2_readsPart 78 = .ok (.bipush 15, 2) := dk_16 15 (dk_at dksX2_readsPart_3 9 rfl rfl)
theorem dX2_readsPart_80 : decode cX2_readsPart 80 = .ok (.invokevirtual 163, 3) := dk_182 0 163 (dk_at dksX2_readsPart_3 11 rfl rfl)
theorem dX2_readsPart_83 : decode cX2_readsPart 83 = .ok (.istore 5, 2) := dk_54 5 (dk_at dksX2_readsPart_3 14 rfl rfl)
theorem dX2_readsPart_85 : decode cX2_readsPart 85 = .ok (.aload_n 0, 1) := dk_42 (dk_at dksX2_readsPart_3 16 rfl rfl)
theorem dX2_readsPart_86 : decode cX2_readsPart 86 = .ok (.getfield 38, 3) := dk_180 0 38 (dk_at dksX2_readsPart_3 17 rfl rfl)
theorem dX2_readsPart_89 : decode cX2_readsPart 89 = .ok (.iconst 4, 1) := dk_7 (dk_at dksX2_readsPart_3 20 rfl rfl)
theorem dX2_readsPart_90 : decode cX2_readsPart 90 = .ok (.aload_n 0, 1) := dk_42 (dk_at dksX2_readsPart_3 21 rfl rfl)
theorem dX2_readsPart_91 : decode cX2_readsPart 91 = .ok (.getfield 166, 3) := dk_180 0 166 (dk_at dksX2_readsPart_4 0 rfl rfl)
theorem dX2_readsPart_94 : decode cX2_readsPart 94 = .ok (.imul, 1) := dk_104 (dk_at dksX2_readsPart_4 3 rfl rfl)
theorem dX2_readsPart_95 : decode cX2_readsPart 95 = .ok (.iload_n 2, 1) := dk_28 (dk_at dksX2_readsPart_4 4 rfl rfl)
theorem dX2_readsPart_96 : decode cX2_readsPart 96 = .ok (.iadd, 1) := dk_96 (dk_at dksX2_readsPart_4 5 rfl rfl)
theorem dX2_readsPart_97 : decode cX2_readsPart 97 = .ok (.aload_n 0, 1) := dk_42 (dk_at dksX2_readsPart_4 6 rfl rfl)
theorem dX2_readsPart_98 : decode cX2_readsPart 98 = .ok (.getfield 160, 3) := dk_180 0 160 (dk_at dksX2_readsPart_4 7 rfl rfl)
theorem dX2_readsPart_101 : decode cX2_readsPart 101 = .ok (.iastore, 1) := dk_79 (dk_at dksX2_readsPart_4 10 rfl rfl)
theorem dX2_readsPart_102 : decode cX2_readsPart 102 = .ok (.iload 5, 2) := dk_21 5 (dk_at dksX2_readsPart_4 11 rfl rfl)
theorem dX2_readsPart_104 : decode cX2_readsPart 104 = .ok (.ireturn, 1) := dk_172 (dk_at dksX2_readsPart_4 13 rfl rfl)
abbrev cX2_readsNumber : ByteArray := prog_8_method_35_code
def yX2_readsNumber : MethodName := ⟨RX2, "readsNumber", "(II)Z"⟩
def dkwX2_readsNumber_6 : List UInt8 := [181, 0, 147, 167, 255, 180, 4, 172]
abbrev dktX2_readsNumber_6 : List UInt8 := dkwX2_readsNumber_6 ++ []
def dkwX2_readsNumber_5 : List UInt8 := [42, 180, 0, 35, 42, 180, 0, 147, 46, 96, 16, 48, 100, 181, 0, 160, 42, 89, 180, 0, 147, 4, 96]
abbrev dktX2_readsNumber_5 : List UInt8 := dkwX2_readsNumber_5 ++ dktX2_readsNumber_6
def dkwX2_readsNumber_4 : List UInt8 := [180, 0, 35, 42, 180, 0, 147, 46, 96, 16, 48, 100, 28, 163, 0, 40, 42, 16, 10, 42, 180, 0, 160, 104]
abbrev dktX2_readsNumber_4 : List UInt8 := dkwX2_readsNumber_4 ++ dktX2_readsNumber_5
def dkwX2_readsNumber_3 : List UInt8 := [158, 0, 75, 42, 16, 48, 16, 57, 182, 0, 153, 153, 0, 64, 16, 10, 42, 180, 0, 160, 104, 42]
abbrev dktX2_readsNumber_3 : List UInt8 := dkwX2_readsNumber_3 ++ dktX2_readsNumber_4
def dkwX2_readsNumber_2 : List UInt8 := [180, 0, 147, 46, 16, 48, 100, 181, 0, 160, 42, 89, 180, 0, 147, 4, 96, 181, 0, 147, 42, 180, 0, 160]
abbrev dktX2_readsNumber_2 : List UInt8 := dkwX2_readsNumber_2 ++ dktX2_readsNumber_3
def dkwX2_readsNumber_1 : List UInt8 := [180, 0, 35, 42, 180, 0, 147, 46, 16, 48, 100, 28, 164, 0, 5, 3, 172, 42, 42, 180, 0, 35, 42]
abbrev dktX2_readsNumber_1 : List UInt8 := dkwX2_readsNumber_1 ++ dktX2_readsNumber_2
def dkwX2_readsNumber_0 : List UInt8 := [42, 16, 32, 182, 0, 157, 153, 0, 32, 42, 16, 48, 27, 96, 16, 57, 182, 0, 153, 153, 0, 19, 42]
abbrev dktX2_readsNumber_0 : List UInt8 := dkwX2_readsNumber_0 ++ dktX2_readsNumber_1
theorem dksX2_readsNumber_0 : cX2_readsNumber.data.toList.drop 0 = dktX2_readsNumber_0 := by decide +kernel
theorem dksX2_readsNumber_1 : cX2_readsNumber.data.toList.drop 23 = dktX2_readsNumber_1 := dk_seg dksX2_readsNumber_0 23 rfl rfl
theorem dksX2_readsNumber_2 : cX2_readsNumber.data.toList.drop 46 = dktX2_readsNumber_2 := dk_seg dksX2_readsNumber_1 23 rfl rfl
theorem dksX2_readsNumber_3 : cX2_readsNumber.data.toList.drop 70 = dktX2_readsNumber_3 := dk_seg dksX2_readsNumber_2 24 rfl rfl
theorem dksX2_readsNumber_4 : cX2_readsNumber.data.toList.drop 92 = dktX2_readsNumber_4 := dk_seg dksX2_readsNumber_3 22 rfl rfl
theorem dksX2_readsNumber_5 : cX2_readsNumber.data.toList.drop 116 = dktX2_readsNumber_5 := dk_seg dksX2_readsNumber_4 24 rfl rfl
theorem dksX2_readsNumber_6 : cX2_readsNumber.data.toList.drop 139 = dktX2_readsNumber_6 := dk_seg dksX2_readsNumber_5 23 rfl rfl
theorem dX2_readsNumber_0 : decode cX2_readsNumber 0 = .ok (.aload_n 0, 1) := dk_42 (dk_at dksX2_readsNumber_0 0 rfl rfl)
theorem dX2_readsNumber_1 : decode cX2_readsNumber 1 = .ok (.bipush 32, 2) := dk_16 32 (dk_at dksX2_readsNumber_0 1 rfl rfl)
theorem dX2_readsNumber_3 : decode cX2_readsNumber 3 = .ok (.invokevirtual 157, 3) := dk_182 0 157 (dk_at dksX2_readsNumber_0 3 rfl rfl)
theorem dX2_readsNumber_6 : decode cX2_readsNumber 6 = .ok (.ifCond .eq 32, 3) := dk_153 0 32 (dk_at dksX2_readsNumber_0 6 rfl rfl)
theorem dX2_readsNumber_9 : decode cX2_readsNumber 9 = .ok (.aload_n 0, 1) := dk_42 (dk_at dksX2_readsNumber_0 9 rfl rfl)
theorem dX2_readsNumber_10 : decode cX2_readsNumber 10 = .ok (.bipush 48, 2) := dk_16 48 (dk_at dksX2_readsNumber_0 10 rfl rfl)
theorem dX2_readsNumber_12 : decode cX2_readsNumber 12 = .ok (.iload_n 1, 1) := dk_27 (dk_at dksX2_readsNumber_0 12 rfl rfl)
theorem dX2_readsNumber_13 : decode cX2_readsNumber 13 = .ok (.iadd, 1) := dk_96 (dk_at dksX2_readsNumber_0 13 rfl rfl)
theorem dX2_readsNumber_14 : decode cX2_readsNumber 14 = .ok (.bipush 57, 2) := dk_16 57 (dk_at dksX2_readsNumber_0 14 rfl rfl)
theorem dX2_readsNumber_16 : decode cX2_readsNumber 16 = .ok (.invokevirtual 153, 3) := dk_182 0 153 (dk_at dksX2_readsNumber_0 16 rfl rfl)
theorem dX2_readsNumber_19 : decode cX2_readsNumber 19 = .ok (.ifCond .eq 19, 3) := dk_153 0 19 (dk_at dksX2_readsNumber_0 19 rfl rfl)
theorem dX2_readsNumber_22 : decode cX2_readsNumber 22 = .ok (.aload_n 0, 1) := dk_42 (dk_at dksX2_readsNumber_0 22 rfl rfl)
theorem dX2_readsNumber_23 : decode cX2_readsNumber 23 = .ok (.getfield 35, 3) := dk_180 0 35 (dk_at dksX2_readsNumber_1 0 rfl rfl)
theorem dX2_readsNumber_26 : decode cX2_readsNumber 26 = .ok (.aload_n 0, 1) := dk_42 (dk_at dksX2_readsNumber_1 3 rfl rfl)
theorem dX2_readsNumber_27 : decode cX2_readsNumber 27 = .ok (.getfield 147, 3) := dk_180 0 147 (dk_at dksX2_readsNumber_1 4 rfl rfl)
theorem dX2_readsNumber_30 : decode cX2_readsNumber 30 = .ok (.iaload, 1) := dk_46 (dk_at dksX2_readsNumber_1 7 rfl rfl)
theorem dX2_readsNumber_31 : decode cX2_readsNumber 31 = .ok (.bipush 48, 2) := dk_16 48 (dk_at dksX2_readsNumber_1 8 rfl rfl)
theorem dX2_readsNumber_33 : decode cX2_readsNumber 33 = .ok (.isub, 1) := dk_100 (dk_at dksX2_readsNumber_1 10 rfl rfl)
theorem dX2_readsNumber_34 : decode cX2_readsNumber 34 = .ok (.iload_n 2, 1) := dk_28 (dk_at dksX2_readsNumber_1 11 rfl rfl)
theorem dX2_readsNumber_35 : decode cX2_readsNumber 35 = .ok (.if_icmp .le 5, 3) := dk_164 0 5 (dk_at dksX2_readsNumber_1 12 rfl rfl)
theorem dX2_readsNumber_38 : decode cX2_readsNumber 38 = .ok (.iconst 0, 1) := dk_3 (dk_at dksX2_readsNumber_1 15 rfl rfl)
theorem dX2_readsNumber_39 : decode cX2_readsNumber 39 = .ok (.ireturn, 1) := dk_172 (dk_at dksX2_readsNumber_1 16 rfl rfl)
theorem dX2_readsNumber_40 : decode cX2_readsNumber 40 = .ok (.aload_n 0, 1) := dk_42 (dk_at dksX2_readsNumber_1 17 rfl rfl)
theorem dX2_readsNumber_41 : decode cX2_readsNumber 41 = .ok (.aload_n 0, 1) := dk_42 (dk_at dksX2_readsNumber_1 18 rfl rfl)
theorem dX2_readsNumber_42 : decode cX2_readsNumber 42 = .ok (.getfield 35, 3) := dk_180 0 35 (dk_at dksX2_readsNumber_1 19 rfl rfl)
theorem dX2_readsNumber_45 : decode cX2_readsNumber 45 = .ok (.aload_n 0, 1) := dk_42 (dk_at dksX2_readsNumber_1 22 rfl rfl)
theorem dX2_readsNumber_46 : decode cX2_readsNumber 46 = .ok (.getfield 147, 3) := dk_180 0 147 (dk_at dksX2_readsNumber_2 0 rfl rfl)
theorem dX2_readsNumber_49 : decode cX2_readsNumber 49 = .ok (.iaload, 1) := dk_46 (dk_at dksX2_readsNumber_2 3 rfl rfl)
theorem dX2_readsNumber_50 : decode cX2_readsNumber 50 = .ok (.bipush 48, 2) := dk_16 48 (dk_at dksX2_readsNumber_2 4 rfl rfl)
theorem dX2_readsNumber_52 : decode cX2_readsNumber 52 = .ok (.isub, 1) := dk_100 (dk_at dksX2_readsNumber_2 6 rfl rfl)
theorem dX2_readsNumber_53 : decode cX2_readsNumber 53 = .ok (.putfield 160, 3) := dk_181 0 160 (dk_at dksX2_readsNumber_2 7 rfl rfl)
theorem dX2_readsNumber_56 : decode cX2_readsNumber 56 = .ok (.aload_n 0, 1) := dk_42 (dk_at dksX2_readsNumber_2 10 rfl rfl)
theorem dX2_readsNumber_57 : decode cX2_readsNumber 57 = .ok (.dup, 1) := dk_89 (dk_at dksX2_readsNumber_2 11 rfl rfl)
theorem dX2_readsNumber_58 : decode cX2_readsNumber 58 = .ok (.getfield 147, 3) := dk_180 0 147 (dk_at dksX2_readsNumber_2 12 rfl rfl)
theorem dX2_readsNumber_61 : decode cX2_readsNumber 61 = .ok (.iconst 1, 1) := dk_4 (dk_at dksX2_readsNumber_2 15 rfl rfl)
theorem dX2_readsNumber_62 : decode cX2_readsNumber 62 = .ok (.iadd, 1) := dk_96 (dk_at dksX2_readsNumber_2 16 rfl rfl)
theorem dX2_readsNumber_63 : decode cX2_readsNumber 63 = .ok (.putfield 147, 3) := dk_181 0 147 (dk_at dksX2_readsNumber_2 17 rfl rfl)
theorem dX2_readsNumber_66 : decode cX2_readsNumber 66 = .ok (.aload_n 0, 1) := dk_42 (dk_at dksX2_readsNumber_2 20 rfl rfl)
theorem dX2_readsNumber_67 : decode cX2_readsNumber 67 = .ok (.getfield 160, 3) := dk_180 0 160 (dk_at dksX2_readsNumber_2 21 rfl rfl)
theorem dX2_readsNumber_70 : decode cX2_readsNumber 70 = .ok (.ifCond .le 75, 3) := dk_158 0 75 (dk_at dksX2_readsNumber_3 0 rfl rfl)
theorem dX2_readsNumber_73 : decode cX2_readsNumber 73 = .ok (.aload_n 0, 1) := dk_42 (dk_at dksX2_readsNumber_3 3 rfl rfl)
theorem dX2_readsNumber_74 : decode cX2_readsNumber 74 = .ok (.bipush 48, 2) := dk_16 48 (dk_at dksX2_readsNumber_3 4 rfl rfl)
theorem dX2_readsNumber_76 : decode cX2_readsNumber 76 = .ok (.bipush 57, 2) := dk_16 57 (dk_at dksX2_readsNumber_3 6 rfl rfl)
theorem dX2_readsNumber_78 : decode cX2_readsNumber 78 = .ok (.invokevirtual 153, 3) := dk_182 0 153 (dk_at dksX2_readsNumber_3 8 rfl rfl)
theorem dX2_readsNumber_81 : decode cX2_readsNumber 81 = .ok (.ifCond .eq 64, 3) := dk_153 0 64 (dk_at dksX2_readsNumber_3 11 rfl rfl)
theorem dX2_readsNumber_84 : decode cX2_readsNumber 84 = .ok (.bipush 10, 2) := dk_16 10 (dk_at dksX2_readsNumber_3 14 rfl rfl)
theorem dX2_readsNumber_86 : decode cX2_readsNumber 86 = .ok (.aload_n 0, 1) := dk_42 (dk_at dksX2_readsNumber_3 16 rfl rfl)
theorem dX2_readsNumber_87 : decode cX2_readsNumber 87 = .ok (.getfield 160, 3) := dk_180 0 160 (dk_at dksX2_readsNumber_3 17 rfl rfl)
theorem dX2_readsNumber_90 : decode cX2_readsNumber 90 = .ok (.imul, 1) := dk_104 (dk_at dksX2_readsNumber_3 20 rfl rfl)
theorem dX2_readsNumber_91 : decode cX2_readsNumber 91 = .ok (.aload_n 0, 1) := dk_42 (dk_at dksX2_readsNumber_3 21 rfl rfl)
theorem dX2_readsNumber_92 : decode cX2_readsNumber 92 = .ok (.getfield 35, 3) := dk_180 0 35 (dk_at dksX2_readsNumber_4 0 rfl rfl)
theorem dX2_readsNumber_95 : decode cX2_readsNumber 95 = .ok (.aload_n 0, 1) := dk_42 (dk_at dksX2_readsNumber_4 3 rfl rfl)
theorem dX2_readsNumber_96 : decode cX2_readsNumber 96 = .ok (.getfield 147, 3) := dk_180 0 147 (dk_at dksX2_readsNumber_4 4 rfl rfl)
theorem dX2_readsNumber_99 : decode cX2_readsNumber 99 = .ok (.iaload, 1) := dk_46 (dk_at dksX2_readsNumber_4 7 rfl rfl)
theorem dX2_readsNumber_100 : decode cX2_readsNumber 100 = .ok (.iadd, 1) := dk_96 (dk_at dksX2_readsNumber_4 8 rfl rfl)
theorem dX2_readsNumber_101 : decode cX2_readsNumber 101 = .ok (.bipush 48, 2) := dk_16 48 (dk_at dksX2_readsNumber_4 9 rfl rfl)
theorem dX2_readsNumber_103 : decode cX2_readsNumber 103 = .ok (.isub, 1) := dk_100 (dk_at dksX2_readsNumber_4 11 rfl rfl)
theorem dX2_readsNumber_104 : decode cX2_readsNumber 104 = .ok (.iload_n 2, 1) := dk_28 (dk_at dksX2_readsNumber_4 12 rfl rfl)
theorem dX2_readsNumber_105 : decode cX2_readsNumber 105 = .ok (.if_icmp .gt 40, 3) := dk_163 0 40 (dk_at dksX2_readsNumber_4 13 rfl rfl)
theorem dX2_readsNumber_108 : decode cX2_readsNumber 108 = .ok (.aload_n 0, 1) := dk_42 (dk_at dksX2_readsNumber_4 16 rfl rfl)
theorem dX2_readsNumber_109 : decode cX2_readsNumber 109 = .ok (.bipush 10, 2) := dk_16 10 (dk_at dksX2_readsNumber_4 17 rfl rfl)
theorem dX2_readsNumber_111 : decode cX2_readsNumber 111 = .ok (.aload_n 0, 1) := dk_42 (dk_at dksX2_readsNumber_4 19 rfl rfl)
theorem dX2_readsNumber_112 : decode cX2_readsNumber 112 = .ok (.getfield 160, 3) := dk_180 0 160 (dk_at dksX2_readsNumber_4 20 rfl rfl)
theorem dX2_readsNumber_115 : decode cX2_readsNumber 115 = .ok (.imul, 1) := dk_104 (dk_at dksX2_readsNumber_4 23 rfl rfl)
theorem dX2_readsNumber_116 : decode cX2_readsNumber 116 = .ok (.aload_n 0, 1) := dk_42 (dk_at dksX2_readsNumber_5 0 rfl rfl)
theorem dX2_readsNumber_117 : decode cX2_readsNumber 117 = .ok (.getfield 35, 3) := dk_180 0 35 (dk_at dksX2_readsNumber_5 1 rfl rfl)
theorem dX2_readsNumber_120 : decode cX2_readsNumber 120 = .ok (.aload_n 0, 1) := dk_42 (dk_at dksX2_readsNumber_5 4 rfl rfl)
theorem dX2_readsNumber_121 : decode cX2_readsNumber 121 = .ok (.getfield 147, 3) := dk_180 0 147 (dk_at dksX2_readsNumber_5 5 rfl rfl)
theorem dX2_readsNumber_124 : decode cX2_readsNumber 124 = .ok (.iaload, 1) := dk_46 (dk_at dksX2_readsNumber_5 8 rfl rfl)
theorem dX2_readsNumber_125 : decode cX2_readsNumber 125 = .ok (.iadd, 1) := dk_96 (dk_at dksX2_readsNumber_5 9 rfl rfl)
theorem dX2_readsNumber_126 : decode cX2_readsNumber 126 = .ok (.bipush 48, 2) := dk_16 48 (dk_at dksX2_readsNumber_5 10 rfl rfl)
theorem dX2_readsNumber_128 : decode cX2_readsNumber 128 = .ok (.isub, 1) := dk_100 (dk_at dksX2_readsNumber_5 12 rfl rfl)
theorem dX2_readsNumber_129 : decode cX2_readsNumber 129 = .ok (.putfield 160, 3) := dk_181 0 160 (dk_at dksX2_readsNumber_5 13 rfl rfl)
theorem dX2_readsNumber_132 : decode cX2_readsNumber 132 = .ok (.aload_n 0, 1) := dk_42 (dk_at dksX2_readsNumber_5 16 rfl rfl)
theorem dX2_readsNumber_133 : decode cX2_readsNumber 133 = .ok (.dup, 1) := dk_89 (dk_at dksX2_readsNumber_5 17 rfl rfl)
theorem dX2_readsNumber_134 : decode cX2_readsNumber 134 = .ok (.getfield 147, 3) := dk_180 0 147 (dk_at dksX2_readsNumber_5 18 rfl rfl)
theorem dX2_readsNumber_137 : decode cX2_readsNumber 137 = .ok (.iconst 1, 1) := dk_4 (dk_at dksX2_readsNumber_5 21 rfl rfl)
theorem dX2_readsNumber_138 : decode cX2_readsNumber 138 = .ok (.iadd, 1) := dk_96 (dk_at dksX2_readsNumber_5 22 rfl rfl)
theorem dX2_readsNumber_139 : decode cX2_readsNumber 139 = .ok (.putfield 147, 3) := dk_181 0 147 (dk_at dksX2_readsNumber_6 0 rfl rfl)
theorem dX2_readsNumber_142 : decode cX2_readsNumber 142 = .ok (.goto (-76), 3) := dk_167 255 180 (dk_at dksX2_readsNumber_6 3 rfl rfl)
theorem dX2_readsNumber_145 : decode cX2_readsNumber 145 = .ok (.iconst 1, 1) := dk_4 (dk_at dksX2_readsNumber_6 6 rfl rfl)
theorem dX2_readsNumber_146 : decode cX2_readsNumber 146 = .ok (.ireturn, 1) := dk_172 (dk_at dksX2_readsNumber_6 7 rfl rfl)
abbrev cX2_takes : ByteArray := prog_8_method_34_code
def yX2_takes : MethodName := ⟨RX2, "takes", "(I)Z"⟩
def dkwX2_takes_1 : List UInt8 := [181, 0, 147, 28, 172]
abbrev dktX2_takes_1 : List UInt8 := dkwX2_takes_1 ++ []
def dkwX2_takes_0 : List UInt8 := [42, 27, 27, 182, 0, 153, 61, 42, 89, 180, 0, 147, 28, 153, 0, 7, 4, 167, 0, 4, 3, 96]
abbrev dktX2_takes_0 : List UInt8 := dkwX2_takes_0 ++ dktX2_takes_1
theorem dksX2_takes_0 : cX2_takes.data.toList.drop 0 = dktX2_takes_0 := by decide +kernel
theorem dksX2_takes_1 : cX2_takes.data.toList.drop 22 = dktX2_takes_1 := dk_seg dksX2_takes_0 22 rfl rfl
theorem dX2_takes_0 : decode cX2_takes 0 = .ok (.aload_n 0, 1) := dk_42 (dk_at dksX2_takes_0 0 rfl rfl)
theorem dX2_takes_1 : decode cX2_takes 1 = .ok (.iload_n 1, 1) := dk_27 (dk_at dksX2_takes_0 1 rfl rfl)
theorem dX2_takes_2 : decode cX2_takes 2 = .ok (.iload_n 1, 1) := dk_27 (dk_at dksX2_takes_0 2 rfl rfl)
theorem dX2_takes_3 : decode cX2_takes 3 = .ok (.invokevirtual 153, 3) := dk_182 0 153 (dk_at dksX2_takes_0 3 rfl rfl)
theorem dX2_takes_6 : decode cX2_takes 6 = .ok (.istore_n 2, 1) := dk_61 (dk_at dksX2_takes_0 6 rfl rfl)
theorem dX2_takes_7 : decode cX2_takes 7 = .ok (.aload_n 0, 1) := dk_42 (dk_at dksX2_takes_0 7 rfl rfl)
theorem dX2_takes_8 : decode cX2_takes 8 = .ok (.dup, 1) := dk_89 (dk_at dksX2_takes_0 8 rfl rfl)
theorem dX2_takes_9 : decode cX2_takes 9 = .ok (.getfield 147, 3) := dk_180 0 147 (dk_at dksX2_takes_0 9 rfl rfl)
theorem dX2_takes_12 : decode cX2_takes 12 = .ok (.iload_n 2, 1) := dk_28 (dk_at dksX2_takes_0 12 rfl rfl)
theorem dX2_takes_13 : decode cX2_takes 13 = .ok (.ifCond .eq 7, 3) := dk_153 0 7 (dk_at dksX2_takes_0 13 rfl rfl)
theorem dX2_takes_16 : decode cX2_takes 16 = .ok (.iconst 1, 1) := dk_4 (dk_at dksX2_takes_0 16 rfl rfl)
theorem dX2_takes_17 : decode cX2_takes 17 = .ok (.goto 4, 3) := dk_167 0 4 (dk_at dksX2_takes_0 17 rfl rfl)
theorem dX2_takes_20 : decode cX2_takes 20 = .ok (.iconst 0, 1) := dk_3 (dk_at dksX2_takes_0 20 rfl rfl)
theorem dX2_takes_21 : decode cX2_takes 21 = .ok (.iadd, 1) := dk_96 (dk_at dksX2_takes_0 21 rfl rfl)
theorem dX2_takes_22 : decode cX2_takes 22 = .ok (.putfield 147, 3) := dk_181 0 147 (dk_at dksX2_takes_1 0 rfl rfl)
theorem dX2_takes_25 : decode cX2_takes 25 = .ok (.iload_n 2, 1) := dk_28 (dk_at dksX2_takes_1 3 rfl rfl)
theorem dX2_takes_26 : decode cX2_takes 26 = .ok (.ireturn, 1) := dk_172 (dk_at dksX2_takes_1 4 rfl rfl)
abbrev cX2_isHere : ByteArray := prog_8_method_33_code
def yX2_isHere : MethodName := ⟨RX2, "isHere", "(II)Z"⟩
def dkwX2_isHere_1 : List UInt8 := [133, 184, 0, 65, 153, 0, 7, 4, 167, 0, 4, 3, 172]
abbrev dktX2_isHere_1 : List UInt8 := dkwX2_isHere_1 ++ []
def dkwX2_isHere_0 : List UInt8 := [42, 180, 0, 147, 42, 180, 0, 140, 162, 0, 27, 42, 180, 0, 35, 42, 180, 0, 147, 46, 133, 27, 133, 28]
abbrev dktX2_isHere_0 : List UInt8 := dkwX2_isHere_0 ++ dktX2_isHere_1
theorem dksX2_isHere_0 : cX2_isHere.data.toList.drop 0 = dktX2_isHere_0 := by decide +kernel
theorem dksX2_isHere_1 : cX2_isHere.data.toList.drop 24 = dktX2_isHere_1 := dk_seg dksX2_isHere_0 24 rfl rfl
theorem dX2_isHere_0 : decode cX2_isHere 0 = .ok (.aload_n 0, 1) := dk_42 (dk_at dksX2_isHere_0 0 rfl rfl)
theorem dX2_isHere_1 : decode cX2_isHere 1 = .ok (.getfield 147, 3) := dk_180 0 147 (dk_at dksX2_isHere_0 1 rfl rfl)
theorem dX2_isHere_4 : decode cX2_isHere 4 = .ok (.aload_n 0, 1) := dk_42 (dk_at dksX2_isHere_0 4 rfl rfl)
theorem dX2_isHere_5 : decode cX2_isHere 5 = .ok (.getfield 140, 3) := dk_180 0 140 (dk_at dksX2_isHere_0 5 rfl rfl)
theorem dX2_isHere_8 : decode cX2_isHere 8 = .ok (.if_icmp .ge 27, 3) := dk_162 0 27 (dk_at dksX2_isHere_0 8 rfl rfl)
theorem dX2_isHere_11 : decode cX2_isHere 11 = .ok (.aload_n 0, 1) := dk_42 (dk_at dksX2_isHere_0 11 rfl rfl)
theorem dX2_isHere_12 : decode cX2_isHere 12 = .ok (.getfield 35, 3) := dk_180 0 35 (dk_at dksX2_isHere_0 12 rfl rfl)
theorem dX2_isHere_15 : decode cX2_isHere 15 = .ok (.aload_n 0, 1) := dk_42 (dk_at dksX2_isHere_0 15 rfl rfl)
theorem dX2_isHere_16 : decode cX2_isHere 16 = .ok (.getfield 147, 3) := dk_180 0 147 (dk_at dksX2_isHere_0 16 rfl rfl)
theorem dX2_isHere_19 : decode cX2_isHere 19 = .ok (.iaload, 1) := dk_46 (dk_at dksX2_isHere_0 19 rfl rfl)
theorem dX2_isHere_20 : decode cX2_isHere 20 = .ok (.i2l, 1) := dk_133 (dk_at dksX2_isHere_0 20 rfl rfl)
theorem dX2_isHere_21 : decode cX2_isHere 21 = .ok (.iload_n 1, 1) := dk_27 (dk_at dksX2_isHere_0 21 rfl rfl)
theorem dX2_isHere_22 : decode cX2_isHere 22 = .ok (.i2l, 1) := dk_133 (dk_at dksX2_isHere_0 22 rfl rfl)
theorem dX2_isHere_23 : decode cX2_isHere 23 = .ok (.iload_n 2, 1) := dk_28 (dk_at dksX2_isHere_0 23 rfl rfl)
theorem dX2_isHere_24 : decode cX2_isHere 24 = .ok (.i2l, 1) := dk_133 (dk_at dksX2_isHere_1 0 rfl rfl)
theorem dX2_isHere_25 : decode cX2_isHere 25 = .ok (.invokestatic 65, 3) := dk_184 0 65 (dk_at dksX2_isHere_1 1 rfl rfl)
theorem dX2_isHere_28 : decode cX2_isHere 28 = .ok (.ifCond .eq 7, 3) := dk_153 0 7 (dk_at dksX2_isHere_1 4 rfl rfl)
theorem dX2_isHere_31 : decode cX2_isHere 31 = .ok (.iconst 1, 1) := dk_4 (dk_at dksX2_isHere_1 7 rfl rfl)
theorem dX2_isHere_32 : decode cX2_isHere 32 = .ok (.goto 4, 3) := dk_167 0 4 (dk_at dksX2_isHere_1 8 rfl rfl)
theorem dX2_isHere_35 : decode cX2_isHere 35 = .ok (.iconst 0, 1) := dk_3 (dk_at dksX2_isHere_1 11 rfl rfl)
theorem dX2_isHere_36 : decode cX2_isHere 36 = .ok (.ireturn, 1) := dk_172 (dk_at dksX2_isHere_1 12 rfl rfl)
abbrev cX2_isAhead : ByteArray := prog_8_method_39_code
def yX2_isAhead : MethodName := ⟨RX2, "isAhead", "(I)Z"⟩
def dkwX2_isAhead_2 : List UInt8 := [3, 61, 132, 3, 1, 167, 255, 207, 28, 172]
abbrev dktX2_isAhead_2 : List UInt8 := dkwX2_isAhead_2 ++ []
def dkwX2_isAhead_1 : List UInt8 := [180, 0, 38, 7, 27, 104, 29, 96, 46, 42, 180, 0, 7, 3, 46, 27, 96, 162, 0, 7, 4, 167, 0, 4]
abbrev dktX2_isAhead_1 : List UInt8 := dkwX2_isAhead_1 ++ dktX2_isAhead_2
def dkwX2_isAhead_0 : List UInt8 := [4, 61, 4, 62, 29, 42, 180, 0, 38, 7, 27, 104, 46, 184, 0, 180, 163, 0, 40, 28, 153, 0, 28, 42]
abbrev dktX2_isAhead_0 : List UInt8 := dkwX2_isAhead_0 ++ dktX2_isAhead_1
theorem dksX2_isAhead_0 : cX2_isAhead.data.toList.drop 0 = dktX2_isAhead_0 := by decide +kernel
theorem dksX2_isAhead_1 : cX2_isAhead.data.toList.drop 24 = dktX2_isAhead_1 := dk_seg dksX2_isAhead_0 24 rfl rfl
theorem dksX2_isAhead_2 : cX2_isAhead.data.toList.drop 48 = dktX2_isAhead_2 := dk_seg dksX2_isAhead_1 24 rfl rfl
theorem dX2_isAhead_0 : decode cX2_isAhead 0 = .ok (.iconst 1, 1) := dk_4 (dk_at dksX2_isAhead_0 0 rfl rfl)
theorem dX2_isAhead_1 : decode cX2_isAhead 1 = .ok (.istore_n 2, 1) := dk_61 (dk_at dksX2_isAhead_0 1 rfl rfl)
theorem dX2_isAhead_2 : decode cX2_isAhead 2 = .ok (.iconst 1, 1) := dk_4 (dk_at dksX2_isAhead_0 2 rfl rfl)
theorem dX2_isAhead_3 : decode cX2_isAhead 3 = .ok (.istore_n 3, 1) := dk_62 (dk_at dksX2_isAhead_0 3 rfl rfl)
theorem dX2_isAhead_4 : decode cX2_isAhead 4 = .ok (.iload_n 3, 1) := dk_29 (dk_at dksX2_isAhead_0 4 rfl rfl)
theorem dX2_isAhead_5 : decode cX2_isAhead 5 = .ok (.aload_n 0, 1) := dk_42 (dk_at dksX2_isAhead_0 5 rfl rfl)
theorem dX2_isAhead_6 : decode cX2_isAhead 6 = .ok (.getfield 38, 3) := dk_180 0 38 (dk_at dksX2_isAhead_0 6 rfl rfl)
theorem dX2_isAhead_9 : decode cX2_isAhead 9 = .ok (.iconst 4, 1) := dk_7 (dk_at dksX2_isAhead_0 9 rfl rfl)
theorem dX2_isAhead_10 : decode cX2_isAhead 10 = .ok (.iload_n 1, 1) := dk_27 (dk_at dksX2_isAhead_0 10 rfl rfl)
theorem dX2_isAhead_11 : decode cX2_isAhead 11 = .ok (.imul, 1) := dk_104 (dk_at dksX2_isAhead_0 11 rfl rfl)
theorem dX2_isAhead_12 : decode cX2_isAhead 12 = .ok (.iaload, 1) := dk_46 (dk_at dksX2_isAhead_0 12 rfl rfl)
theorem dX2_isAhead_13 : decode cX2_isAhead 13 = .ok (.invokestatic 180, 3) := dk_184 0 180 (dk_at dksX2_isAhead_0 13 rfl rfl)
theorem dX2_isAhead_16 : decode cX2_isAhead 16 = .ok (.if_icmp .gt 40, 3) := dk_163 0 40 (dk_at dksX2_isAhead_0 16 rfl rfl)
theorem dX2_isAhead_19 : decode cX2_isAhead 19 = .ok (.iload_n 2, 1) := dk_28 (dk_at dksX2_isAhead_0 19 rfl rfl)
theorem dX2_isAhead_20 : decode cX2_isAhead 20 = .ok (.ifCond .eq 28, 3) := dk_153 0 28 (dk_at dksX2_isAhead_0 20 rfl rfl)
theorem dX2_isAhead_23 : decode cX2_isAhead 23 = .ok (.aload_n 0, 1) := dk_42 (dk_at dksX2_isAhead_0 23 rfl rfl)
theorem dX2_isAhead_24 : decode cX2_isAhead 24 = .ok (.getfield 38, 3) := dk_180 0 38 (dk_at dksX2_isAhead_1 0 rfl rfl)
theorem dX2_isAhead_27 : decode cX2_isAhead 27 = .ok (.iconst 4, 1) := dk_7 (dk_at dksX2_isAhead_1 3 rfl rfl)
theorem dX2_isAhead_28 : decode cX2_isAhead 28 = .ok (.iload_n 1, 1) := dk_27 (dk_at dksX2_isAhead_1 4 rfl rfl)
theorem dX2_isAhead_29 : decode cX2_isAhead 29 = .ok (.imul, 1) := dk_104 (dk_at dksX2_isAhead_1 5 rfl rfl)
theorem dX2_isAhead_30 : decode cX2_isAhead 30 = .ok (.iload_n 3, 1) := dk_29 (dk_at dksX2_isAhead_1 6 rfl rfl)
theorem dX2_isAhead_31 : decode cX2_isAhead 31 = .ok (.iadd, 1) := dk_96 (dk_at dksX2_isAhead_1 7 rfl rfl)
theorem dX2_isAhead_32 : decode cX2_isAhead 32 = .ok (.iaload, 1) := dk_46 (dk_at dksX2_isAhead_1 8 rfl rfl)
theorem dX2_isAhead_33 : decode cX2_isAhead 33 = .ok (.aload_n 0, 1) := dk_42 (dk_at dksX2_isAhead_1 9 rfl rfl)
theorem dX2_isAhead_34 : decode cX2_isAhead 34 = .ok (.getfield 7, 3) := dk_180 0 7 (dk_at dksX2_isAhead_1 10 rfl rfl)
theorem dX2_isAhead_37 : decode cX2_isAhead 37 = .ok (.iconst 0, 1) := dk_3 (dk_at dksX2_isAhead_1 13 rfl rfl)
theorem dX2_isAhead_38 : decode cX2_isAhead 38 = .ok (.iaload, 1) := dk_46 (dk_at dksX2_isAhead_1 14 rfl rfl)
theorem dX2_isAhead_39 : decode cX2_isAhead 39 = .ok (.iload_n 1, 1) := dk_27 (dk_at dksX2_isAhead_1 15 rfl rfl)
theorem dX2_isAhead_40 : decode cX2_isAhead 40 = .ok (.iadd, 1) := dk_96 (dk_at dksX2_isAhead_1 16 rfl rfl)
theorem dX2_isAhead_41 : decode cX2_isAhead 41 = .ok (.if_icmp .ge 7, 3) := dk_162 0 7 (dk_at dksX2_isAhead_1 17 rfl rfl)
theorem dX2_isAhead_44 : decode cX2_isAhead 44 = .ok (.iconst 1, 1) := dk_4 (dk_at dksX2_isAhead_1 20 rfl rfl)
theorem dX2_isAhead_45 : decode cX2_isAhead 45 = .ok (.goto 4, 3) := dk_167 0 4 (dk_at dksX2_isAhead_1 21 rfl rfl)
theorem dX2_isAhead_48 : decode cX2_isAhead 48 = .ok (.iconst 0, 1) := dk_3 (dk_at dksX2_isAhead_2 0 rfl rfl)
theorem dX2_isAhead_49 : decode cX2_isAhead 49 = .ok (.istore_n 2, 1) := dk_61 (dk_at dksX2_isAhead_2 1 rfl rfl)
theorem dX2_isAhead_50 : decode cX2_isAhead 50 = .ok (.iinc 3 1, 3) := dk_132 3 1 (dk_at dksX2_isAhead_2 2 rfl rfl)
theorem dX2_isAhead_53 : decode cX2_isAhead 53 = .ok (.goto (-49), 3) := dk_167 255 207 (dk_at dksX2_isAhead_2 5 rfl rfl)
theorem dX2_isAhead_56 : decode cX2_isAhead 56 = .ok (.iload_n 2, 1) := dk_28 (dk_at dksX2_isAhead_2 8 rfl rfl)
theorem dX2_isAhead_57 : decode cX2_isAhead 57 = .ok (.ireturn, 1) := dk_172 (dk_at dksX2_isAhead_2 9 rfl rfl)
abbrev cX2_linesBy : ByteArray := prog_8_method_8_code
def yX2_linesBy : MethodName := ⟨RX2, "linesBy", "(I)I"⟩
def dkwX2_linesBy_1 : List UInt8 := [167, 0, 4, 4, 172]
abbrev dktX2_linesBy_1 : List UInt8 := dkwX2_linesBy_1 ++ []
def dkwX2_linesBy_0 : List UInt8 := [26, 154, 0, 7, 3, 167, 0, 22, 26, 7, 160, 0, 7, 6, 167, 0, 13, 26, 7, 162, 0, 7, 5]
abbrev dktX2_linesBy_0 : List UInt8 := dkwX2_linesBy_0 ++ dktX2_linesBy_1
theorem dksX2_linesBy_0 : cX2_linesBy.data.toList.drop 0 = dktX2_linesBy_0 := by decide +kernel
theorem dksX2_linesBy_1 : cX2_linesBy.data.toList.drop 23 = dktX2_linesBy_1 := dk_seg dksX2_linesBy_0 23 rfl rfl
theorem dX2_linesBy_0 : decode cX2_linesBy 0 = .ok (.iload_n 0, 1) := dk_26 (dk_at dksX2_linesBy_0 0 rfl rfl)
theorem dX2_linesBy_1 : decode cX2_linesBy 1 = .ok (.ifCond .ne 7, 3) := dk_154 0 7 (dk_at dksX2_linesBy_0 1 rfl rfl)
theorem dX2_linesBy_4 : decode cX2_linesBy 4 = .ok (.iconst 0, 1) := dk_3 (dk_at dksX2_linesBy_0 4 rfl rfl)
theorem dX2_linesBy_5 : decode cX2_linesBy 5 = .ok (.goto 22, 3) := dk_167 0 22 (dk_at dksX2_linesBy_0 5 rfl rfl)
theorem dX2_linesBy_8 : decode cX2_linesBy 8 = .ok (.iload_n 0, 1) := dk_26 (dk_at dksX2_linesBy_0 8 rfl rfl)
theorem dX2_linesBy_9 : decode cX2_linesBy 9 = .ok (.iconst 4, 1) := dk_7 (dk_at dksX2_linesBy_0 9 rfl rfl)
theorem dX2_linesBy_10 : decode cX2_linesBy 10 = .ok (.if_icmp .ne 7, 3) := dk_160 0 7 (dk_at dksX2_linesBy_0 10 rfl rfl)
theorem dX2_linesBy_13 : decode cX2_linesBy 13 = .ok (.iconst 3, 1) := dk_6 (dk_at dksX2_linesBy_0 13 rfl rfl)
theorem dX2_linesBy_14 : decode cX2_linesBy 14 = .ok (.goto 13, 3) := dk_167 0 13 (dk_at dksX2_linesBy_0 14 rfl rfl)
theorem dX2_linesBy_17 : decode cX2_linesBy 17 = .ok (.iload_n 0, 1) := dk_26 (dk_at dksX2_linesBy_0 17 rfl rfl)
theorem dX2_linesBy_18 : decode cX2_linesBy 18 = .ok (.iconst 4, 1) := dk_7 (dk_at dksX2_linesBy_0 18 rfl rfl)
theorem dX2_linesBy_19 : decode cX2_linesBy 19 = .ok (.if_icmp .ge 7, 3) := dk_162 0 7 (dk_at dksX2_linesBy_0 19 rfl rfl)
theorem dX2_linesBy_22 : decode cX2_linesBy 22 = .ok (.iconst 2, 1) := dk_5 (dk_at dksX2_linesBy_0 22 rfl rfl)
theorem dX2_linesBy_23 : decode cX2_linesBy 23 = .ok (.goto 4, 3) := dk_167 0 4 (dk_at dksX2_linesBy_1 0 rfl rfl)
theorem dX2_linesBy_26 : decode cX2_linesBy 26 = .ok (.iconst 1, 1) := dk_4 (dk_at dksX2_linesBy_1 3 rfl rfl)
theorem dX2_linesBy_27 : decode cX2_linesBy 27 = .ok (.ireturn, 1) := dk_172 (dk_at dksX2_linesBy_1 4 rfl rfl)
abbrev cX2_undo : ByteArray := prog_8_method_41_code
def yX2_undo : MethodName := ⟨RX2, "undo", "()I"⟩
def dkwX2_undo_2 : List UInt8 := [79, 132, 1, 1, 167, 255, 227, 42, 180, 0, 61, 172]
abbrev dktX2_undo_2 : List UInt8 := dkwX2_undo_2 ++ []
def dkwX2_undo_1 : List UInt8 := [16, 66, 162, 0, 29, 42, 180, 0, 7, 27, 42, 180, 0, 16, 16, 66, 42, 180, 0, 61, 104, 27, 96, 46]
abbrev dktX2_undo_1 : List UInt8 := dkwX2_undo_1 ++ dktX2_undo_2
def dkwX2_undo_0 : List UInt8 := [42, 180, 0, 61, 154, 0, 6, 18, 85, 172, 42, 89, 180, 0, 61, 4, 100, 181, 0, 61, 3, 60, 27]
abbrev dktX2_undo_0 : List UInt8 := dkwX2_undo_0 ++ dktX2_undo_1
theorem dksX2_undo_0 : cX2_undo.data.toList.drop 0 = dktX2_undo_0 := by decide +kernel
theorem dksX2_undo_1 : cX2_undo.data.toList.drop 23 = dktX2_undo_1 := dk_seg dksX2_undo_0 23 rfl rfl
theorem dksX2_undo_2 : cX2_undo.data.toList.drop 47 = dktX2_undo_2 := dk_seg dksX2_undo_1 24 rfl rfl
theorem dX2_undo_0 : decode cX2_undo 0 = .ok (.aload_n 0, 1) := dk_42 (dk_at dksX2_undo_0 0 rfl rfl)
theorem dX2_undo_1 : decode cX2_undo 1 = .ok (.getfield 61, 3) := dk_180 0 61 (dk_at dksX2_undo_0 1 rfl rfl)
theorem dX2_undo_4 : decode cX2_undo 4 = .ok (.ifCond .ne 6, 3) := dk_154 0 6 (dk_at dksX2_undo_0 4 rfl rfl)
theorem dX2_undo_7 : decode cX2_undo 7 = .ok (.ldc 85, 2) := dk_18 85 (dk_at dksX2_undo_0 7 rfl rfl)
theorem dX2_undo_9 : decode cX2_undo 9 = .ok (.ireturn, 1) := dk_172 (dk_at dksX2_undo_0 9 rfl rfl)
theorem dX2_undo_10 : decode cX2_undo 10 = .ok (.aload_n 0, 1) := dk_42 (dk_at dksX2_undo_0 10 rfl rfl)
theorem dX2_undo_11 : decode cX2_undo 11 = .ok (.dup, 1) := dk_89 (dk_at dksX2_undo_0 11 rfl rfl)
theorem dX2_undo_12 : decode cX2_undo 12 = .ok (.getfield 61, 3) := dk_180 0 61 (dk_at dksX2_undo_0 12 rfl rfl)
theorem dX2_undo_15 : decode cX2_undo 15 = .ok (.iconst 1, 1) := dk_4 (dk_at dksX2_undo_0 15 rfl rfl)
theorem dX2_undo_16 : decode cX2_undo 16 = .ok (.isub, 1) := dk_100 (dk_at dksX2_undo_0 16 rfl rfl)
theorem dX2_undo_17 : decode cX2_undo 17 = .ok (.putfield 61, 3) := dk_181 0 61 (dk_at dksX2_undo_0 17 rfl rfl)
theorem dX2_undo_20 : decode cX2_undo 20 = .ok (.iconst 0, 1) := dk_3 (dk_at dksX2_undo_0 20 rfl rfl)
theorem dX2_undo_21 : decode cX2_undo 21 = .ok (.istore_n 1, 1) := dk_60 (dk_at dksX2_undo_0 21 rfl rfl)
theorem dX2_undo_22 : decode cX2_undo 22 = .ok (.iload_n 1, 1) := dk_27 (dk_at dksX2_undo_0 22 rfl rfl)
theorem dX2_undo_23 : decode cX2_undo 23 = .ok (.bipush 66, 2) := dk_16 66 (dk_at dksX2_undo_1 0 rfl rfl)
theorem dX2_undo_25 : decode cX2_undo 25 = .ok (.if_icmp .ge 29, 3) := dk_162 0 29 (dk_at dksX2_undo_1 2 rfl rfl)
theorem dX2_undo_28 : decode cX2_undo 28 = .ok (.aload_n 0, 1) := dk_42 (dk_at dksX2_undo_1 5 rfl rfl)
theorem dX2_undo_29 : decode cX2_undo 29 = .ok (.getfield 7, 3) := dk_180 0 7 (dk_at dksX2_undo_1 6 rfl rfl)
theorem dX2_undo_32 : decode cX2_undo 32 = .ok (.iload_n 1, 1) := dk_27 (dk_at dksX2_undo_1 9 rfl rfl)
theorem dX2_undo_33 : decode cX2_undo 33 = .ok (.aload_n 0, 1) := dk_42 (dk_at dksX2_undo_1 10 rfl rfl)
theorem dX2_undo_34 : decode cX2_undo 34 = .ok (.getfield 16, 3) := dk_180 0 16 (dk_at dksX2_undo_1 11 rfl rfl)
theorem dX2_undo_37 : decode cX2_undo 37 = .ok (.bipush 66, 2) := dk_16 66 (dk_at dksX2_undo_1 14 rfl rfl)
theorem dX2_undo_39 : decode cX2_undo 39 = .ok (.aload_n 0, 1) := dk_42 (dk_at dksX2_undo_1 16 rfl rfl)
theorem dX2_undo_40 : decode cX2_undo 40 = .ok (.getfield 61, 3) := dk_180 0 61 (dk_at dksX2_undo_1 17 rfl rfl)
theorem dX2_undo_43 : decode cX2_undo 43 = .ok (.imul, 1) := dk_104 (dk_at dksX2_undo_1 20 rfl rfl)
theorem dX2_undo_44 : decode cX2_undo 44 = .ok (.iload_n 1, 1) := dk_27 (dk_at dksX2_undo_1 21 rfl rfl)
theorem dX2_undo_45 : decode cX2_undo 45 = .ok (.iadd, 1) := dk_96 (dk_at dksX2_undo_1 22 rfl rfl)
theorem dX2_undo_46 : decode cX2_undo 46 = .ok (.iaload, 1) := dk_46 (dk_at dksX2_undo_1 23 rfl rfl)
theorem dX2_undo_47 : decode cX2_undo 47 = .ok (.iastore, 1) := dk_79 (dk_at dksX2_undo_2 0 rfl rfl)
theorem dX2_undo_48 : decode cX2_undo 48 = .ok (.iinc 1 1, 3) := dk_132 1 1 (dk_at dksX2_undo_2 1 rfl rfl)
theorem dX2_undo_51 : decode cX2_undo 51 = .ok (.goto (-29), 3) := dk_167 255 227 (dk_at dksX2_undo_2 4 rfl rfl)
theorem dX2_undo_54 : decode cX2_undo 54 = .ok (.aload_n 0, 1) := dk_42 (dk_at dksX2_undo_2 7 rfl rfl)
theorem dX2_undo_55 : decode cX2_undo 55 = .ok (.getfield 61, 3) := dk_180 0 61 (dk_at dksX2_undo_2 8 rfl rfl)
theorem dX2_undo_58 : decode cX2_undo 58 = .ok (.ireturn, 1) := dk_172 (dk_at dksX2_undo_2 11 rfl rfl)
abbrev cX2_keep : ByteArray := prog_8_method_42_code
def yX2_keep : MethodName := ⟨RX2, "keep", "()I"⟩
def dkwX2_keep_1 : List UInt8 := [167, 255, 235, 42, 4, 181, 0, 190, 42, 180, 0, 7, 3, 46, 172]
abbrev dktX2_keep_1 : List UInt8 := dkwX2_keep_1 ++ []
def dkwX2_keep_0 : List UInt8 := [3, 60, 27, 16, 66, 162, 0, 21, 42, 180, 0, 19, 27, 42, 180, 0, 7, 27, 46, 79, 132, 1, 1]
abbrev dktX2_keep_0 : List UInt8 := dkwX2_keep_0 ++ dktX2_keep_1
theorem dksX2_keep_0 : cX2_keep.data.toList.drop 0 = dktX2_keep_0 := by decide +kernel
theorem dksX2_keep_1 : cX2_keep.data.toList.drop 23 = dktX2_keep_1 := dk_seg dksX2_keep_0 23 rfl rfl
theorem dX2_keep_0 : decode cX2_keep 0 = .ok (.iconst 0, 1) := dk_3 (dk_at dksX2_keep_0 0 rfl rfl)
theorem dX2_keep_1 : decode cX2_keep 1 = .ok (.istore_n 1, 1) := dk_60 (dk_at dksX2_keep_0 1 rfl rfl)
theorem dX2_keep_2 : decode cX2_keep 2 = .ok (.iload_n 1, 1) := dk_27 (dk_at dksX2_keep_0 2 rfl rfl)
theorem dX2_keep_3 : decode cX2_keep 3 = .ok (.bipush 66, 2) := dk_16 66 (dk_at dksX2_keep_0 3 rfl rfl)
theorem dX2_keep_5 : decode cX2_keep 5 = .ok (.if_icmp .ge 21, 3) := dk_162 0 21 (dk_at dksX2_keep_0 5 rfl rfl)
theorem dX2_keep_8 : decode cX2_keep 8 = .ok (.aload_n 0, 1) := dk_42 (dk_at dksX2_keep_0 8 rfl rfl)
theorem dX2_keep_9 : decode cX2_keep 9 = .ok (.getfield 19, 3) := dk_180 0 19 (dk_at dksX2_keep_0 9 rfl rfl)
theorem dX2_keep_12 : decode cX2_keep 12 = .ok (.iload_n 1, 1) := dk_27 (dk_at dksX2_keep_0 12 rfl rfl)
theorem dX2_keep_13 : decode cX2_keep 13 = .ok (.aload_n 0, 1) := dk_42 (dk_at dksX2_keep_0 13 rfl rfl)
theorem dX2_keep_14 : decode cX2_keep 14 = .ok (.getfield 7, 3) := dk_180 0 7 (dk_at dksX2_keep_0 14 rfl rfl)
theorem dX2_keep_17 : decode cX2_keep 17 = .ok (.iload_n 1, 1) := dk_27 (dk_at dksX2_keep_0 17 rfl rfl)
theorem dX2_keep_18 : decode cX2_keep 18 = .ok (.iaload, 1) := dk_46 (dk_at dksX2_keep_0 18 rfl rfl)
theorem dX2_keep_19 : decode cX2_keep 19 = .ok (.iastore, 1) := dk_79 (dk_at dksX2_keep_0 19 rfl rfl)
theorem dX2_keep_20 : decode cX2_keep 20 = .ok (.iinc 1 1, 3) := dk_132 1 1 (dk_at dksX2_keep_0 20 rfl rfl)
theorem dX2_keep_23 : decode cX2_keep 23 = .ok (.goto (-21), 3) := dk_167 255 235 (dk_at dksX2_keep_1 0 rfl rfl)
theorem dX2_keep_26 : decode cX2_keep 26 = .ok (.aload_n 0, 1) := dk_42 (dk_at dksX2_keep_1 3 rfl rfl)
theorem dX2_keep_27 : decode cX2_keep 27 = .ok (.iconst 1, 1) := dk_4 (dk_at dksX2_keep_1 4 rfl rfl)
theorem dX2_keep_28 : decode cX2_keep 28 = .ok (.putfield 190, 3) := dk_181 0 190 (dk_at dksX2_keep_1 5 rfl rfl)
theorem dX2_keep_31 : decode cX2_keep 31 = .ok (.aload_n 0, 1) := dk_42 (dk_at dksX2_keep_1 8 rfl rfl)
theorem dX2_keep_32 : decode cX2_keep 32 = .ok (.getfield 7, 3) := dk_180 0 7 (dk_at dksX2_keep_1 9 rfl rfl)
theorem dX2_keep_35 : decode cX2_keep 35 = .ok (.iconst 0, 1) := dk_3 (dk_at dksX2_keep_1 12 rfl rfl)
theorem dX2_keep_36 : decode cX2_keep 36 = .ok (.iaload, 1) := dk_46 (dk_at dksX2_keep_1 13 rfl rfl)
theorem dX2_keep_37 : decode cX2_keep 37 = .ok (.ireturn, 1) := dk_172 (dk_at dksX2_keep_1 14 rfl rfl)
abbrev cX2_restore : ByteArray := prog_8_method_43_code
def yX2_restore : MethodName := ⟨RX2, "restore", "()I"⟩
def dkwX2_restore_2 : List UInt8 := [182, 0, 77, 172]
abbrev dktX2_restore_2 : List UInt8 := dkwX2_restore_2 ++ []
def dkwX2_restore_1 : List UInt8 := [180, 0, 7, 27, 42, 180, 0, 19, 27, 46, 79, 132, 1, 1, 167, 255, 235, 42, 42, 180, 0, 7, 3, 46]
abbrev dktX2_restore_1 : List UInt8 := dkwX2_restore_1 ++ dktX2_restore_2
def dkwX2_restore_0 : List UInt8 := [42, 180, 0, 190, 154, 0, 6, 18, 85, 172, 42, 182, 0, 70, 3, 60, 27, 16, 66, 162, 0, 21, 42]
abbrev dktX2_restore_0 : List UInt8 := dkwX2_restore_0 ++ dktX2_restore_1
theorem dksX2_restore_0 : cX2_restore.data.toList.drop 0 = dktX2_restore_0 := by decide +kernel
theorem dksX2_restore_1 : cX2_restore.data.toList.drop 23 = dktX2_restore_1 := dk_seg dksX2_restore_0 23 rfl rfl
theorem dksX2_restore_2 : cX2_restore.data.toList.drop 47 = dktX2_restore_2 := dk_seg dksX2_restore_1 24 rfl rfl
theorem dX2_restore_0 : decode cX2_restore 0 = .ok (.aload_n 0, 1) := dk_42 (dk_at dksX2_restore_0 0 rfl rfl)
theorem dX2_restore_1 : decode cX2_restore 1 = .ok (.getfield 190, 3) := dk_180 0 190 (dk_at dksX2_restore_0 1 rfl rfl)
theorem dX2_restore_4 : decode cX2_restore 4 = .ok (.ifCond .ne 6, 3) := dk_154 0 6 (dk_at dksX2_restore_0 4 rfl rfl)
theorem dX2_restore_7 : decode cX2_restore 7 = .ok (.ldc 85, 2) := dk_18 85 (dk_at dksX2_restore_0 7 rfl rfl)
theorem dX2_restore_9 : decode cX2_restore 9 = .ok (.ireturn, 1) := dk_172 (dk_at dksX2_restore_0 9 rfl rfl)
theorem dX2_restore_10 : decode cX2_restore 10 = .ok (.aload_n 0, 1) := dk_42 (dk_at dksX2_restore_0 10 rfl rfl)
theorem dX2_restore_11 : decode cX2_restore 11 = .ok (.invokevirtual 70, 3) := dk_182 0 70 (dk_at dksX2_restore_0 11 rfl rfl)
theorem dX2_restore_14 : decode cX2_restore 14 = .ok (.iconst 0, 1) := dk_3 (dk_at dksX2_restore_0 14 rfl rfl)
theorem dX2_restore_15 : decode cX2_restore 15 = .ok (.istore_n 1, 1) := dk_60 (dk_at dksX2_restore_0 15 rfl rfl)
theorem dX2_restore_16 : decode cX2_restore 16 = .ok (.iload_n 1, 1) := dk_27 (dk_at dksX2_restore_0 16 rfl rfl)
theorem dX2_restore_17 : decode cX2_restore 17 = .ok (.bipush 66, 2) := dk_16 66 (dk_at dksX2_restore_0 17 rfl rfl)
theorem dX2_restore_19 : decode cX2_restore 19 = .ok (.if_icmp .ge 21, 3) := dk_162 0 21 (dk_at dksX2_restore_0 19 rfl rfl)
theorem dX2_restore_22 : decode cX2_restore 22 = .ok (.aload_n 0, 1) := dk_42 (dk_at dksX2_restore_0 22 rfl rfl)
theorem dX2_restore_23 : decode cX2_restore 23 = .ok (.getfield 7, 3) := dk_180 0 7 (dk_at dksX2_restore_1 0 rfl rfl)
theorem dX2_restore_26 : decode cX2_restore 26 = .ok (.iload_n 1, 1) := dk_27 (dk_at dksX2_restore_1 3 rfl rfl)
theorem dX2_restore_27 : decode cX2_restore 27 = .ok (.aload_n 0, 1) := dk_42 (dk_at dksX2_restore_1 4 rfl rfl)
theorem dX2_restore_28 : decode cX2_restore 28 = .ok (.getfield 19, 3) := dk_180 0 19 (dk_at dksX2_restore_1 5 rfl rfl)
theorem dX2_restore_31 : decode cX2_restore 31 = .ok (.iload_n 1, 1) := dk_27 (dk_at dksX2_restore_1 8 rfl rfl)
theorem dX2_restore_32 : decode cX2_restore 32 = .ok (.iaload, 1) := dk_46 (dk_at dksX2_restore_1 9 rfl rfl)
theorem dX2_restore_33 : decode cX2_restore 33 = .ok (.iastore, 1) := dk_79 (dk_at dksX2_restore_1 10 rfl rfl)
theorem dX2_restore_34 : decode cX2_restore 34 = .ok (.iinc 1 1, 3) := dk_132 1 1 (dk_at dksX2_restore_1 11 rfl rfl)
theorem dX2_restore_37 : decode cX2_restore 37 = .ok (.goto (-21), 3) := dk_167 255 235 (dk_at dksX2_restore_1 14 rfl rfl)
theorem dX2_restore_40 : decode cX2_restore 40 = .ok (.aload_n 0, 1) := dk_42 (dk_at dksX2_restore_1 17 rfl rfl)
theorem dX2_restore_41 : decode cX2_restore 41 = .ok (.aload_n 0, 1) := dk_42 (dk_at dksX2_restore_1 18 rfl rfl)
theorem dX2_restore_42 : decode cX2_restore 42 = .ok (.getfield 7, 3) := dk_180 0 7 (dk_at dksX2_restore_1 19 rfl rfl)
theorem dX2_restore_45 : decode cX2_restore 45 = .ok (.iconst 0, 1) := dk_3 (dk_at dksX2_restore_1 22 rfl rfl)
theorem dX2_restore_46 : decode cX2_restore 46 = .ok (.iaload, 1) := dk_46 (dk_at dksX2_restore_1 23 rfl rfl)
theorem dX2_restore_47 : decode cX2_restore 47 = .ok (.invokevirtual 77, 3) := dk_182 0 77 (dk_at dksX2_restore_2 0 rfl rfl)
theorem dX2_restore_50 : decode cX2_restore 50 = .ok (.ireturn, 1) := dk_172 (dk_at dksX2_restore_2 3 rfl rfl)
abbrev cX2_line : ByteArray := prog_8_method_46_code
def yX2_line : MethodName := ⟨RX2, "line", "(II)I"⟩
def dkwX2_line_5 : List UInt8 := [21, 4, 29, 182, 0, 136, 172, 42, 180, 0, 41, 27, 46, 172, 42, 180, 0, 44, 27, 46, 184, 0, 198, 172]
abbrev dktX2_line_5 : List UInt8 := dkwX2_line_5 ++ []
def dkwX2_line_4 : List UInt8 := [21, 4, 172, 21, 4, 133, 20, 0, 118, 105, 29, 133, 109, 136, 172, 42, 180, 0, 32, 27, 46, 172, 42, 27]
abbrev dktX2_line_4 : List UInt8 := dkwX2_line_4 ++ dktX2_line_5
def dkwX2_line_3 : List UInt8 := [170, 0, 0, 0, 0, 0, 73, 0, 0, 0, 4, 0, 0, 0, 8, 0, 0, 0, 35, 0, 0, 0, 38, 0, 0, 0, 50, 0, 0, 0, 57, 0, 0, 0, 66]
abbrev dktX2_line_3 : List UInt8 := dkwX2_line_3 ++ dktX2_line_4
def dkwX2_line_2 : List UInt8 := [29, 182, 0, 125, 42, 27, 182, 0, 129, 42, 182, 0, 195, 42, 27, 29, 182, 0, 133, 54, 4, 28]
abbrev dktX2_line_2 : List UInt8 := dkwX2_line_2 ++ dktX2_line_3
def dkwX2_line_1 : List UInt8 := [18, 90, 172, 28, 7, 162, 0, 10, 42, 27, 28, 182, 0, 100, 172, 42, 180, 0, 7, 4, 46, 62, 42, 27]
abbrev dktX2_line_1 : List UInt8 := dkwX2_line_1 ++ dktX2_line_2
def dkwX2_line_0 : List UInt8 := [42, 27, 182, 0, 91, 154, 0, 6, 18, 95, 172, 28, 133, 9, 20, 0, 193, 184, 0, 65, 154, 0, 6]
abbrev dktX2_line_0 : List UInt8 := dkwX2_line_0 ++ dktX2_line_1
theorem dksX2_line_0 : cX2_line.data.toList.drop 0 = dktX2_line_0 := by decide +kernel
theorem dksX2_line_1 : cX2_line.data.toList.drop 23 = dktX2_line_1 := dk_seg dksX2_line_0 23 rfl rfl
theorem dksX2_line_2 : cX2_line.data.toList.drop 47 = dktX2_line_2 := dk_seg dksX2_line_1 24 rfl rfl
theorem dksX2_line_3 : cX2_line.data.toList.drop 69 = dktX2_line_3 := dk_seg dksX2_line_2 22 rfl rfl
theorem dksX2_line_4 : cX2_line.data.toList.drop 104 = dktX2_line_4 := dk_seg dksX2_line_3 35 rfl rfl
theorem dksX2_line_5 : cX2_line.data.toList.drop 128 = dktX2_line_5 := dk_seg dksX2_line_4 24 rfl rfl
theorem dX2_line_0 : decode cX2_line 0 = .ok (.aload_n 0, 1) := dk_42 (dk_at dksX2_line_0 0 rfl rfl)
theorem dX2_line_1 : decode cX2_line 1 = .ok (.iload_n 1, 1) := dk_27 (dk_at dksX2_line_0 1 rfl rfl)
theorem dX2_line_2 : decode cX2_line 2 = .ok (.invokevirtual 91, 3) := dk_182 0 91 (dk_at dksX2_line_0 2 rfl rfl)
theorem dX2_line_5 : decode cX2_line 5 = .ok (.ifCond .ne 6, 3) := dk_154 0 6 (dk_at dksX2_line_0 5 rfl rfl)
theorem dX2_line_8 : decode cX2_line 8 = .ok (.ldc 95, 2) := dk_18 95 (dk_at dksX2_line_0 8 rfl rfl)
theorem dX2_line_10 : decode cX2_line 10 = .ok (.ireturn, 1) := dk_172 (dk_at dksX2_line_0 10 rfl rfl)
theorem dX2_line_11 : decode cX2_line 11 = .ok (.iload_n 2, 1) := dk_28 (dk_at dksX2_line_0 11 rfl rfl)
theorem dX2_line_12 : decode cX2_line 12 = .ok (.i2l, 1) := dk_133 (dk_at dksX2_line_0 12 rfl rfl)
theorem dX2_line_13 : decode cX2_line 13 = .ok (.lconst 0, 1) := dk_9 (dk_at dksX2_line_0 13 rfl rfl)
theorem dX2_line_14 : decode cX2_line 14 = .ok (.ldc2_w 193, 3) := dk_20 0 193 (dk_at dksX2_line_0 14 rfl rfl)
theorem dX2_line_17 : decode cX2_line 17 = .ok (.invokestatic 65, 3) := dk_184 0 65 (dk_at dksX2_line_0 17 rfl rfl)
theorem dX2_line_20 : decode cX2_line 20 = .ok (.ifCond .ne 6, 3) := dk_154 0 6 (dk_at dksX2_line_0 20 rfl rfl)
theorem dX2_line_23 : decode cX2_line 23 = .ok (.ldc 90, 2) := dk_18 90 (dk_at dksX2_line_1 0 rfl rfl)
theorem dX2_line_25 : decode cX2_line 25 = .ok (.ireturn, 1) := dk_172 (dk_at dksX2_line_1 2 rfl rfl)
theorem dX2_line_26 : decode cX2_line 26 = .ok (.iload_n 2, 1) := dk_28 (dk_at dksX2_line_1 3 rfl rfl)
theorem dX2_line_27 : decode cX2_line 27 = .ok (.iconst 4, 1) := dk_7 (dk_at dksX2_line_1 4 rfl rfl)
theorem dX2_line_28 : decode cX2_line 28 = .ok (.if_icmp .ge 10, 3) := dk_162 0 10 (dk_at dksX2_line_1 5 rfl rfl)
theorem dX2_line_31 : decode cX2_line 31 = .ok (.aload_n 0, 1) := dk_42 (dk_at dksX2_line_1 8 rfl rfl)
theorem dX2_line_32 : decode cX2_line 32 = .ok (.iload_n 1, 1) := dk_27 (dk_at dksX2_line_1 9 rfl rfl)
theorem dX2_line_33 : decode cX2_line 33 = .ok (.iload_n 2, 1) := dk_28 (dk_at dksX2_line_1 10 rfl rfl)
theorem dX2_line_34 : decode cX2_line 34 = .ok (.invokevirtual 100, 3) := dk_182 0 100 (dk_at dksX2_line_1 11 rfl rfl)
theorem dX2_line_37 : decode cX2_line 37 = .ok (.ireturn, 1) := dk_172 (dk_at dksX2_line_1 14 rfl rfl)
theorem dX2_line_38 : decode cX2_line 38 = .ok (.aload_n 0, 1) := dk_42 (dk_at dksX2_line_1 15 rfl rfl)
theorem dX2_line_39 : decode cX2_line 39 = .ok (.getfield 7, 3) := dk_180 0 7 (dk_at dksX2_line_1 16 rfl rfl)
theorem dX2_line_42 : decode cX2_line 42 = .ok (.iconst 1, 1) := dk_4 (dk_at dksX2_line_1 19 rfl rfl)
theorem dX2_line_43 : decode cX2_line 43 = .ok (.iaload, 1) := dk_46 (dk_at dksX2_line_1 20 rfl rfl)
theorem dX2_line_44 : decode cX2_line 44 = .ok (.istore_n 3, 1) := dk_62 (dk_at dksX2_line_1 21 rfl rfl)
theorem dX2_line_45 : decode cX2_line 45 = .ok (.aload_n 0, 1) := dk_42 (dk_at dksX2_line_1 22 rfl rfl)
theorem dX2_line_46 : decode cX2_line 46 = .ok (.iload_n 1, 1) := dk_27 (dk_at dksX2_line_1 23 rfl rfl)
theorem dX2_line_47 : decode cX2_line 47 = .ok (.iload_n 3, 1) := dk_29 (dk_at dksX2_line_2 0 rfl rfl)
theorem dX2_line_48 : decode cX2_line 48 = .ok (.invokevirtual 125, 3) := dk_182 0 125 (dk_at dksX2_line_2 1 rfl rfl)
theorem dX2_line_51 : decode cX2_line 51 = .ok (.aload_n 0, 1) := dk_42 (dk_at dksX2_line_2 4 rfl rfl)
theorem dX2_line_52 : decode cX2_line 52 = .ok (.iload_n 1, 1) := dk_27 (dk_at dksX2_line_2 5 rfl rfl)
theorem dX2_line_53 : decode cX2_line 53 = .ok (.invokevirtual 129, 3) := dk_182 0 129 (dk_at dksX2_line_2 6 rfl rfl)
theorem dX2_line_56 : decode cX2_line 56 = .ok (.aload_n 0, 1) := dk_42 (dk_at dksX2_line_2 9 rfl rfl)
theorem dX2_line_57 : decode cX2_line 57 = .ok (.invokevirtual 195, 3) := dk_182 0 195 (dk_at dksX2_line_2 10 rfl rfl)
theorem dX2_line_60 : decode cX2_line 60 = .ok (.aload_n 0, 1) := dk_42 (dk_at dksX2_line_2 13 rfl rfl)
theorem dX2_line_61 : decode cX2_line 61 = .ok (.iload_n 1, 1) := dk_27 (dk_at dksX2_line_2 14 rfl rfl)
theorem dX2_line_62 : decode cX2_line 62 = .ok (.iload_n 3, 1) := dk_29 (dk_at dksX2_line_2 15 rfl rfl)
theorem dX2_line_63 : decode cX2_line 63 = .ok (.invokevirtual 133, 3) := dk_182 0 133 (dk_at dksX2_line_2 16 rfl rfl)
theorem dX2_line_66 : decode cX2_line 66 = .ok (.istore 4, 2) := dk_54 4 (dk_at dksX2_line_2 19 rfl rfl)
theorem dX2_line_68 : decode cX2_line 68 = .ok (.iload_n 2, 1) := dk_28 (dk_at dksX2_line_2 21 rfl rfl)
theorem dX2_line_69 : decode cX2_line 69 = .ok (.tableswitch 73 4 8 #[35, 38, 50, 57, 66], 35) := by decide +kernel
theorem dX2_line_104 : decode cX2_line 104 = .ok (.iload 4, 2) := dk_21 4 (dk_at dksX2_line_4 0 rfl rfl)
theorem dX2_line_106 : decode cX2_line 106 = .ok (.ireturn, 1) := dk_172 (dk_at dksX2_line_4 2 rfl rfl)
theorem dX2_line_107 : decode cX2_line 107 = .ok (.iload 4, 2) := dk_21 4 (dk_at dksX2_line_4 3 rfl rfl)
theorem dX2_line_109 : decode cX2_line 109 = .ok (.i2l, 1) := dk_133 (dk_at dksX2_line_4 5 rfl rfl)
theorem dX2_line_110 : decode cX2_line 110 = .ok (.ldc2_w 118, 3) := dk_20 0 118 (dk_at dksX2_line_4 6 rfl rfl)
theorem dX2_line_113 : decode cX2_line 113 = .ok (.lmul, 1) := dk_105 (dk_at dksX2_line_4 9 rfl rfl)
theorem dX2_line_114 : decode cX2_line 114 = .ok (.iload_n 3, 1) := dk_29 (dk_at dksX2_line_4 10 rfl rfl)
theorem dX2_line_115 : decode cX2_line 115 = .ok (.i2l, 1) := dk_133 (dk_at dksX2_line_4 11 rfl rfl)
theorem dX2_line_116 : decode cX2_line 116 = .ok (.ldiv, 1) := dk_109 (dk_at dksX2_line_4 12 rfl rfl)
theorem dX2_line_117 : decode cX2_line 117 = .ok (.l2i, 1) := dk_136 (dk_at dksX2_line_4 13 rfl rfl)
theorem dX2_line_118 : decode cX2_line 118 = .ok (.ireturn, 1) := dk_172 (dk_at dksX2_line_4 14 rfl rfl)
theorem dX2_line_119 : decode cX2_line 119 = .ok (.aload_n 0, 1) := dk_42 (dk_at dksX2_line_4 15 rfl rfl)
theorem dX2_line_120 : decode cX2_line 120 = .ok (.getfield 32, 3) := dk_180 0 32 (dk_at dksX2_line_4 16 rfl rfl)
theorem dX2_line_123 : decode cX2_line 123 = .ok (.iload_n 1, 1) := dk_27 (dk_at dksX2_line_4 19 rfl rfl)
theorem dX2_line_124 : decode cX2_line 124 = .ok (.iaload, 1) := dk_46 (dk_at dksX2_line_4 20 rfl rfl)
theorem dX2_line_125 : decode cX2_line 125 = .ok (.ireturn, 1) := dk_172 (dk_at dksX2_line_4 21 rfl rfl)
theorem dX2_line_126 : decode cX2_line 126 = .ok (.aload_n 0, 1) := dk_42 (dk_at dksX2_line_4 22 rfl rfl)
theorem dX2_line_127 : decode cX2_line 127 = .ok (.iload_n 1, 1) := dk_27 (dk_at dksX2_line_4 23 rfl rfl)
theorem dX2_line_128 : decode cX2_line 128 = .ok (.iload 4, 2) := dk_21 4 (dk_at dksX2_line_5 0 rfl rfl)
theorem dX2_line_130 : decode cX2_line 130 = .ok (.iload_n 3, 1) := dk_29 (dk_at dksX2_line_5 2 rfl rfl)
theorem dX2_line_131 : decode cX2_line 131 = .ok (.invokevirtual 136, 3) := dk_182 0 136 (dk_at dksX2_line_5 3 rfl rfl)
theorem dX2_line_134 : decode cX2_line 134 = .ok (.ireturn, 1) := dk_172 (dk_at dksX2_line_5 6 rfl rfl)
theorem dX2_line_135 : decode cX2_line 135 = .ok (.aload_n 0, 1) := dk_42 (dk_at dksX2_line_5 7 rfl rfl)
theorem dX2_line_136 : decode cX2_line 136 = .ok (.getfield 41, 3) := dk_180 0 41 (dk_at dksX2_line_5 8 rfl rfl)
theorem dX2_line_139 : decode cX2_line 139 = .ok (.iload_n 1, 1) := dk_27 (dk_at dksX2_line_5 11 rfl rfl)
theorem dX2_line_140 : decode cX2_line 140 = .ok (.iaload, 1) := dk_46 (dk_at dksX2_line_5 12 rfl rfl)
theorem dX2_line_141 : decode cX2_line 141 = .ok (.ireturn, 1) := dk_172 (dk_at dksX2_line_5 13 rfl rfl)
theorem dX2_line_142 : decode cX2_line 142 = .ok (.aload_n 0, 1) := dk_42 (dk_at dksX2_line_5 14 rfl rfl)
theorem dX2_line_143 : decode cX2_line 143 = .ok (.getfield 44, 3) := dk_180 0 44 (dk_at dksX2_line_5 15 rfl rfl)
theorem dX2_line_146 : decode cX2_line 146 = .ok (.iload_n 1, 1) := dk_27 (dk_at dksX2_line_5 18 rfl rfl)
theorem dX2_line_147 : decode cX2_line 147 = .ok (.iaload, 1) := dk_46 (dk_at dksX2_line_5 19 rfl rfl)
theorem dX2_line_148 : decode cX2_line 148 = .ok (.invokestatic 198, 3) := dk_184 0 198 (dk_at dksX2_line_5 20 rfl rfl)
theorem dX2_line_151 : decode cX2_line 151 = .ok (.ireturn, 1) := dk_172 (dk_at dksX2_line_5 23 rfl rfl)
abbrev cX2_lays : ByteArray := prog_8_method_22_code
def yX2_lays : MethodName := ⟨RX2, "lays", "(II)V"⟩
def dkwX2_lays_3 : List UInt8 := [167, 0, 4, 3, 79, 132, 4, 1, 167, 255, 199, 132, 3, 1, 167, 255, 173, 177]
abbrev dktX2_lays_3 : List UInt8 := dkwX2_lays_3 ++ []
def dkwX2_lays_2 : List UInt8 := [42, 180, 0, 29, 29, 42, 29, 3, 182, 0, 100, 154, 0, 15, 42, 180, 0, 29, 29, 46, 184, 0, 113]
abbrev dktX2_lays_2 : List UInt8 := dkwX2_lays_2 ++ dktX2_lays_3
def dkwX2_lays_1 : List UInt8 := [28, 162, 0, 57, 42, 180, 0, 26, 17, 3, 232, 29, 104, 21, 4, 96, 42, 29, 21, 4, 182, 0, 110, 79]
abbrev dktX2_lays_1 : List UInt8 := dkwX2_lays_1 ++ dktX2_lays_2
def dkwX2_lays_0 : List UInt8 := [3, 62, 29, 27, 163, 0, 84, 42, 180, 0, 29, 29, 42, 29, 5, 182, 0, 100, 79, 3, 54, 4, 21, 4]
abbrev dktX2_lays_0 : List UInt8 := dkwX2_lays_0 ++ dktX2_lays_1
theorem dksX2_lays_0 : cX2_lays.data.toList.drop 0 = dktX2_lays_0 := by decide +kernel
theorem dksX2_lays_1 : cX2_lays.data.toList.drop 24 = dktX2_lays_1 := dk_seg dksX2_lays_0 24 rfl rfl
theorem dksX2_lays_2 : cX2_lays.data.toList.drop 48 = dktX2_lays_2 := dk_seg dksX2_lays_1 24 rfl rfl
theorem dksX2_lays_3 : cX2_lays.data.toList.drop 71 = dktX2_lays_3 := dk_seg dksX2_lays_2 23 rfl rfl
theorem dX2_lays_0 : decode cX2_lays 0 = .ok (.iconst 0, 1) := dk_3 (dk_at dksX2_lays_0 0 rfl rfl)
theorem dX2_lays_1 : decode cX2_lays 1 = .ok (.istore_n 3, 1) := dk_62 (dk_at dksX2_lays_0 1 rfl rfl)
theorem dX2_lays_2 : decode cX2_lays 2 = .ok (.iload_n 3, 1) := dk_29 (dk_at dksX2_lays_0 2 rfl rfl)
theorem dX2_lays_3 : decode cX2_lays 3 = .ok (.iload_n 1, 1) := dk_27 (dk_at dksX2_lays_0 3 rfl rfl)
theorem dX2_lays_4 : decode cX2_lays 4 = .ok (.if_icmp .gt 84, 3) := dk_163 0 84 (dk_at dksX2_lays_0 4 rfl rfl)
theorem dX2_lays_7 : decode cX2_lays 7 = .ok (.aload_n 0, 1) := dk_42 (dk_at dksX2_lays_0 7 rfl rfl)
theorem dX2_lays_8 : decode cX2_lays 8 = .ok (.getfield 29, 3) := dk_180 0 29 (dk_at dksX2_lays_0 8 rfl rfl)
theorem dX2_lays_11 : decode cX2_lays 11 = .ok (.iload_n 3, 1) := dk_29 (dk_at dksX2_lays_0 11 rfl rfl)
theorem dX2_lays_12 : decode cX2_lays 12 = .ok (.aload_n 0, 1) := dk_42 (dk_at dksX2_lays_0 12 rfl rfl)
theorem dX2_lays_13 : decode cX2_lays 13 = .ok (.iload_n 3, 1) := dk_29 (dk_at dksX2_lays_0 13 rfl rfl)
theorem dX2_lays_14 : decode cX2_lays 14 = .ok (.iconst 2, 1) := dk_5 (dk_at dksX2_lays_0 14 rfl rfl)
theorem dX2_lays_15 : decode cX2_lays 15 = .ok (.invokevirtual 100, 3) := dk_182 0 100 (dk_at dksX2_lays_0 15 rfl rfl)
theorem dX2_lays_18 : decode cX2_lays 18 = .ok (.iastore, 1) := dk_79 (dk_at dksX2_lays_0 18 rfl rfl)
theorem dX2_lays_19 : decode cX2_lays 19 = .ok (.iconst 0, 1) := dk_3 (dk_at dksX2_lays_0 19 rfl rfl)
theorem dX2_lays_20 : decode cX2_lays 20 = .ok (.istore 4, 2) := dk_54 4 (dk_at dksX2_lays_0 20 rfl rfl)
theorem dX2_lays_22 : decode cX2_lays 22 = .ok (.iload 4, 2) := dk_21 4 (dk_at dksX2_lays_0 22 rfl rfl)
theorem dX2_lays_24 : decode cX2_lays 24 = .ok (.iload_n 2, 1) := dk_28 (dk_at dksX2_lays_1 0 rfl rfl)
theorem dX2_lays_25 : decode cX2_lays 25 = .ok (.if_icmp .ge 57, 3) := dk_162 0 57 (dk_at dksX2_lays_1 1 rfl rfl)
theorem dX2_lays_28 : decode cX2_lays 28 = .ok (.aload_n 0, 1) := dk_42 (dk_at dksX2_lays_1 4 rfl rfl)
theorem dX2_lays_29 : decode cX2_lays 29 = .ok (.getfield 26, 3) := dk_180 0 26 (dk_at dksX2_lays_1 5 rfl rfl)
theorem dX2_lays_32 : decode cX2_lays 32 = .ok (.sipush 1000, 3) := dk_17 3 232 (dk_at dksX2_lays_1 8 rfl rfl)
theorem dX2_lays_35 : decode cX2_lays 35 = .ok (.iload_n 3, 1) := dk_29 (dk_at dksX2_lays_1 11 rfl rfl)
theorem dX2_lays_36 : decode cX2_lays 36 = .ok (.imul, 1) := dk_104 (dk_at dksX2_lays_1 12 rfl rfl)
theorem dX2_lays_37 : decode cX2_lays 37 = .ok (.iload 4, 2) := dk_21 4 (dk_at dksX2_lays_1 13 rfl rfl)
theorem dX2_lays_39 : decode cX2_lays 39 = .ok (.iadd, 1) := dk_96 (dk_at dksX2_lays_1 15 rfl rfl)
theorem dX2_lays_40 : decode cX2_lays 40 = .ok (.aload_n 0, 1) := dk_42 (dk_at dksX2_lays_1 16 rfl rfl)
theorem dX2_lays_41 : decode cX2_lays 41 = .ok (.iload_n 3, 1) := dk_29 (dk_at dksX2_lays_1 17 rfl rfl)
theorem dX2_lays_42 : decode cX2_lays 42 = .ok (.iload 4, 2) := dk_21 4 (dk_at dksX2_lays_1 18 rfl rfl)
theorem dX2_lays_44 : decode cX2_lays 44 = .ok (.invokevirtual 110, 3) := dk_182 0 110 (dk_at dksX2_lays_1 20 rfl rfl)
theorem dX2_lays_47 : decode cX2_lays 47 = .ok (.iastore, 1) := dk_79 (dk_at dksX2_lays_1 23 rfl rfl)
theorem dX2_lays_48 : decode cX2_lays 48 = .ok (.aload_n 0, 1) := dk_42 (dk_at dksX2_lays_2 0 rfl rfl)
theorem dX2_lays_49 : decode cX2_lays 49 = .ok (.getfield 29, 3) := dk_180 0 29 (dk_at dksX2_lays_2 1 rfl rfl)
theorem dX2_lays_52 : decode cX2_lays 52 = .ok (.iload_n 3, 1) := dk_29 (dk_at dksX2_lays_2 4 rfl rfl)
theorem dX2_lays_53 : decode cX2_lays 53 = .ok (.aload_n 0, 1) := dk_42 (dk_at dksX2_lays_2 5 rfl rfl)
theorem dX2_lays_54 : decode cX2_lays 54 = .ok (.iload_n 3, 1) := dk_29 (dk_at dksX2_lays_2 6 rfl rfl)
theorem dX2_lays_55 : decode cX2_lays 55 = .ok (.iconst 0, 1) := dk_3 (dk_at dksX2_lays_2 7 rfl rfl)
theorem dX2_lays_56 : decode cX2_lays 56 = .ok (.invokevirtual 100, 3) := dk_182 0 100 (dk_at dksX2_lays_2 8 rfl rfl)
theorem dX2_lays_59 : decode cX2_lays 59 = .ok (.ifCond .ne 15, 3) := dk_154 0 15 (dk_at dksX2_lays_2 11 rfl rfl)
theorem dX2_lays_62 : decode cX2_lays 62 = .ok (.aload_n 0, 1) := dk_42 (dk_at dksX2_lays_2 14 rfl rfl)
theorem dX2_lays_63 : decode cX2_lays 63 = .ok (.getfield 29, 3) := dk_180 0 29 (dk_at dksX2_lays_2 15 rfl rfl)
theorem dX2_lays_66 : decode cX2_lays 66 = .ok (.iload_n 3, 1) := dk_29 (dk_at dksX2_lays_2 18 rfl rfl)
theorem dX2_lays_67 : decode cX2_lays 67 = .ok (.iaload, 1) := dk_46 (dk_at dksX2_lays_2 19 rfl rfl)
theorem dX2_lays_68 : decode cX2_lays 68 = .ok (.invokestatic 113, 3) := dk_184 0 113 (dk_at dksX2_lays_2 20 rfl rfl)
theorem dX2_lays_71 : decode cX2_lays 71 = .ok (.goto 4, 3) := dk_167 0 4 (dk_at dksX2_lays_3 0 rfl rfl)
theorem dX2_lays_74 : decode cX2_lays 74 = .ok (.iconst 0, 1) := dk_3 (dk_at dksX2_lays_3 3 rfl rfl)
theorem dX2_lays_75 : decode cX2_lays 75 = .ok (.iastore, 1) := dk_79 (dk_at dksX2_lays_3 4 rfl rfl)
theorem dX2_lays_76 : decode cX2_lays 76 = .ok (.iinc 4 1, 3) := dk_132 4 1 (dk_at dksX2_lays_3 5 rfl rfl)
theorem dX2_lays_79 : decode cX2_lays 79 = .ok (.goto (-57), 3) := dk_167 255 199 (dk_at dksX2_lays_3 8 rfl rfl)
theorem dX2_lays_82 : decode cX2_lays 82 = .ok (.iinc 3 1, 3) := dk_132 3 1 (dk_at dksX2_lays_3 11 rfl rfl)
theorem dX2_lays_85 : decode cX2_lays 85 = .ok (.goto (-83), 3) := dk_167 255 173 (dk_at dksX2_lays_3 14 rfl rfl)
theorem dX2_lays_88 : decode cX2_lays 88 = .ok (.return_, 1) := dk_177 (dk_at dksX2_lays_3 17 rfl rfl)
abbrev cX2_bitOf : ByteArray := prog_8_method_21_code
def yX2_bitOf : MethodName := ⟨RX2, "bitOf", "(II)I"⟩
def dkwX2_bitOf_7 : List UInt8 := [172]
abbrev dktX2_bitOf_7 : List UInt8 := dkwX2_bitOf_7 ++ []
def dkwX2_bitOf_6 : List UInt8 := [182, 0, 107, 100, 172, 28, 21, 4, 162, 0, 7, 3, 167, 0, 12, 42, 29, 28, 21, 4, 100, 182, 0, 107]
abbrev dktX2_bitOf_6 : List UInt8 := dkwX2_bitOf_6 ++ dktX2_bitOf_7
def dkwX2_bitOf_5 : List UInt8 := [182, 0, 107, 4, 160, 0, 7, 29, 167, 0, 5, 21, 4, 28, 182, 0, 107, 172, 4, 42, 29, 28]
abbrev dktX2_bitOf_5 : List UInt8 := dkwX2_bitOf_5 ++ dktX2_bitOf_6
def dkwX2_bitOf_4 : List UInt8 := [29, 28, 182, 0, 107, 42, 21, 4, 28, 182, 0, 107, 130, 172, 42, 42, 42, 27, 6, 182, 0, 100, 28]
abbrev dktX2_bitOf_4 : List UInt8 := dkwX2_bitOf_4 ++ dktX2_bitOf_5
def dkwX2_bitOf_3 : List UInt8 := [21, 4, 28, 182, 0, 107, 126, 172, 42, 29, 28, 182, 0, 107, 42, 21, 4, 28, 182, 0, 107, 128, 172, 42]
abbrev dktX2_bitOf_3 : List UInt8 := dkwX2_bitOf_3 ++ dktX2_bitOf_4
def dkwX2_bitOf_2 : List UInt8 := [42, 180, 0, 29, 27, 46, 29, 163, 0, 7, 4, 167, 0, 4, 3, 172, 42, 29, 28, 182, 0, 107, 42]
abbrev dktX2_bitOf_2 : List UInt8 := dkwX2_bitOf_2 ++ dktX2_bitOf_3
def dkwX2_bitOf_1 : List UInt8 := [170, 0, 0, 0, 0, 0, 136, 0, 0, 0, 0, 0, 0, 0, 5, 0, 0, 0, 39, 0, 0, 0, 55, 0, 0, 0, 70, 0, 0, 0, 85, 0, 0, 0, 100, 0, 0, 0, 127]
abbrev dktX2_bitOf_1 : List UInt8 := dkwX2_bitOf_1 ++ dktX2_bitOf_2
def dkwX2_bitOf_0 : List UInt8 := [42, 27, 4, 182, 0, 100, 62, 42, 27, 5, 182, 0, 100, 54, 4, 42, 27, 3, 182, 0, 100]
abbrev dktX2_bitOf_0 : List UInt8 := dkwX2_bitOf_0 ++ dktX2_bitOf_1
theorem dksX2_bitOf_0 : cX2_bitOf.data.toList.drop 0 = dktX2_bitOf_0 := by decide +kernel
theorem dksX2_bitOf_1 : cX2_bitOf.data.toList.drop 21 = dktX2_bitOf_1 := dk_seg dksX2_bitOf_0 21 rfl rfl
theorem dksX2_bitOf_2 : cX2_bitOf.data.toList.drop 60 = dktX2_bitOf_2 := dk_seg dksX2_bitOf_1 39 rfl rfl
theorem dksX2_bitOf_3 : cX2_bitOf.data.toList.drop 83 = dktX2_bitOf_3 := dk_seg dksX2_bitOf_2 23 rfl rfl
theorem dksX2_bitOf_4 : cX2_bitOf.data.toList.drop 107 = dktX2_bitOf_4 := dk_seg dksX2_bitOf_3 24 rfl rfl
theorem dksX2_bitOf_5 : cX2_bitOf.data.toList.drop 130 = dktX2_bitOf_5 := dk_seg dksX2_bitOf_4 23 rfl rfl
theorem dksX2_bitOf_6 : cX2_bitOf.data.toList.drop 152 = dktX2_bitOf_6 := dk_seg dksX2_bitOf_5 22 rfl rfl
theorem dksX2_bitOf_7 : cX2_bitOf.data.toList.drop 176 = dktX2_bitOf_7 := dk_seg dksX2_bitOf_6 24 rfl rfl
theorem dX2_bitOf_0 : decode cX2_bitOf 0 = .ok (.aload_n 0, 1) := dk_42 (dk_at dksX2_bitOf_0 0 rfl rfl)
theorem dX2_bitOf_1 : decode cX2_bitOf 1 = .ok (.iload_n 1, 1) := dk_27 (dk_at dksX2_bitOf_0 1 rfl rfl)
theorem dX2_bitOf_2 : decode cX2_bitOf 2 = .ok (.iconst 1, 1) := dk_4 (dk_at dksX2_bitOf_0 2 rfl rfl)
theorem dX2_bitOf_3 : decode cX2_bitOf 3 = .ok (.invokevirtual 100, 3) := dk_182 0 100 (dk_at dksX2_bitOf_0 3 rfl rfl)
theorem dX2_bitOf_6 : decode cX2_bitOf 6 = .ok (.istore_n 3, 1) := dk_62 (dk_at dksX2_bitOf_0 6 rfl rfl)
theorem dX2_bitOf_7 : decode cX2_bitOf 7 = .ok (.aload_n 0, 1) := dk_42 (dk_at dksX2_bitOf_0 7 rfl rfl)
theorem dX2_bitOf_8 : decode cX2_bitOf 8 = .ok (.iload_n 1, 1) := dk_27 (dk_at dksX2_bitOf_0 8 rfl rfl)
theorem dX2_bitOf_9 : decode cX2_bitOf 9 = .ok (.iconst 2, 1) := dk_5 (dk_at dksX2_bitOf_0 9 rfl rfl)
theorem dX2_bitOf_10 : decode cX2_bitOf 10 = .ok (.invokevirtual 100, 3) := dk_182 0 100 (dk_at dksX2_bitOf_0 10 rfl rfl)
theorem dX2_bitOf_13 : decode cX2_bitOf 13 = .ok (.istore 4, 2) := dk_54 4 (dk_at dksX2_bitOf_0 13 rfl rfl)
theorem dX2_bitOf_15 : decode cX2_bitOf 15 = .ok (.aload_n 0, 1) := dk_42 (dk_at dksX2_bitOf_0 15 rfl rfl)
theorem dX2_bitOf_16 : decode cX2_bitOf 16 = .ok (.iload_n 1, 1) := dk_27 (dk_at dksX2_bitOf_0 16 rfl rfl)
theorem dX2_bitOf_17 : decode cX2_bitOf 17 = .ok (.iconst 0, 1) := dk_3 (dk_at dksX2_bitOf_0 17 rfl rfl)
theorem dX2_bitOf_18 : decode cX2_bitOf 18 = .ok (.invokevirtual 100, 3) := dk_182 0 100 (dk_at dksX2_bitOf_0 18 rfl rfl)
theorem dX2_bitOf_21 : decode cX2_bitOf 21 = .ok (.tableswitch 136 0 5 #[39, 55, 70, 85, 100, 127], 39) := by decide +kernel
theorem dX2_bitOf_60 : decode cX2_bitOf 60 = .ok (.aload_n 0, 1) := dk_42 (dk_at dksX2_bitOf_2 0 rfl rfl)
theorem dX2_bitOf_61 : decode cX2_bitOf 61 = .ok (.getfield 29, 3) := dk_180 0 29 (dk_at dksX2_bitOf_2 1 rfl rfl)
theorem dX2_bitOf_64 : decode cX2_bitOf 64 = .ok (.iload_n 1, 1) := dk_27 (dk_at dksX2_bitOf_2 4 rfl rfl)
theorem dX2_bitOf_65 : decode cX2_bitOf 65 = .ok (.iaload, 1) := dk_46 (dk_at dksX2_bitOf_2 5 rfl rfl)
theorem dX2_bitOf_66 : decode cX2_bitOf 66 = .ok (.iload_n 3, 1) := dk_29 (dk_at dksX2_bitOf_2 6 rfl rfl)
theorem dX2_bitOf_67 : decode cX2_bitOf 67 = .ok (.if_icmp .gt 7, 3) := dk_163 0 7 (dk_at dksX2_bitOf_2 7 rfl rfl)
theorem dX2_bitOf_70 : decode cX2_bitOf 70 = .ok (.iconst 1, 1) := dk_4 (dk_at dksX2_bitOf_2 10 rfl rfl)
theorem dX2_bitOf_71 : decode cX2_bitOf 71 = .ok (.goto 4, 3) := dk_167 0 4 (dk_at dksX2_bitOf_2 11 rfl rfl)
theorem dX2_bitOf_74 : decode cX2_bitOf 74 = .ok (.iconst 0, 1) := dk_3 (dk_at dksX2_bitOf_2 14 rfl rfl)
theorem dX2_bitOf_75 : decode cX2_bitOf 75 = .ok (.ireturn, 1) := dk_172 (dk_at dksX2_bitOf_2 15 rfl rfl)
theorem dX2_bitOf_76 : decode cX2_bitOf 76 = .ok (.aload_n 0, 1) := dk_42 (dk_at dksX2_bitOf_2 16 rfl rfl)
theorem dX2_bitOf_77 : decode cX2_bitOf 77 = .ok (.iload_n 3, 1) := dk_29 (dk_at dksX2_bitOf_2 17 rfl rfl)
theorem dX2_bitOf_78 : decode cX2_bitOf 78 = .ok (.iload_n 2, 1) := dk_28 (dk_at dksX2_bitOf_2 18 rfl rfl)
theorem dX2_bitOf_79 : decode cX2_bitOf 79 = .ok (.invokevirtual 107, 3) := dk_182 0 107 (dk_at dksX2_bitOf_2 19 rfl rfl)
theorem dX2_bitOf_82 : decode cX2_bitOf 82 = .ok (.aload_n 0, 1) := dk_42 (dk_at dksX2_bitOf_2 22 rfl rfl)
theorem dX2_bitOf_83 : decode cX2_bitOf 83 = .ok (.iload 4, 2) := dk_21 4 (dk_at dksX2_bitOf_3 0 rfl rfl)
theorem dX2_bitOf_85 : decode cX2_bitOf 85 = .ok (.iload_n 2, 1) := dk_28 (dk_at dksX2_bitOf_3 2 rfl rfl)
theorem dX2_bitOf_86 : decode cX2_bitOf 86 = .ok (.invokevirtual 107, 3) := dk_182 0 107 (dk_at dksX2_bitOf_3 3 rfl rfl)
theorem dX2_bitOf_89 : decode cX2_bitOf 89 = .ok (.iand, 1) := dk_126 (dk_at dksX2_bitOf_3 6 rfl rfl)
theorem dX2_bitOf_90 : decode cX2_bitOf 90 = .ok (.ireturn, 1) := dk_172 (dk_at dksX2_bitOf_3 7 rfl rfl)
theorem dX2_bitOf_91 : decode cX2_bitOf 91 = .ok (.aload_n 0, 1) := dk_42 (dk_at dksX2_bitOf_3 8 rfl rfl)
theorem dX2_bitOf_92 : decode cX2_bitOf 92 = .ok (.iload_n 3, 1) := dk_29 (dk_at dksX2_bitOf_3 9 rfl rfl)
theorem dX2_bitOf_93 : decode cX2_bitOf 93 = .ok (.iload_n 2, 1) := dk_28 (dk_at dksX2_bitOf_3 10 rfl rfl)
theorem dX2_bitOf_94 : decode cX2_bitOf 94 = .ok (.invokevirtual 107, 3) := dk_182 0 107 (dk_at dksX2_bitOf_3 11 rfl rfl)
theorem dX2_bitOf_97 : decode cX2_bitOf 97 = .ok (.aload_n 0, 1) := dk_42 (dk_at dksX2_bitOf_3 14 rfl rfl)
theorem dX2_bitOf_98 : decode cX2_bitOf 98 = .ok (.iload 4, 2) := dk_21 4 (dk_at dksX2_bitOf_3 15 rfl rfl)
theorem dX2_bitOf_100 : decode cX2_bitOf 100 = .ok (.iload_n 2, 1) := dk_28 (dk_at dksX2_bitOf_3 17 rfl rfl)
theorem dX2_bitOf_101 : decode cX2_bitOf 101 = .ok (.invokevirtual 107, 3) := dk_182 0 107 (dk_at dksX2_bitOf_3 18 rfl rfl)
theorem dX2_bitOf_104 : decode cX2_bitOf 104 = .ok (.ior, 1) := dk_128 (dk_at dksX2_bitOf_3 21 rfl rfl)
theorem dX2_bitOf_105 : decode cX2_bitOf 105 = .ok (.ireturn, 1) := dk_172 (dk_at dksX2_bitOf_3 22 rfl rfl)
theorem dX2_bitOf_106 : decode cX2_bitOf 106 = .ok (.aload_n 0, 1) := dk_42 (dk_at dksX2_bitOf_3 23 rfl rfl)
theorem dX2_bitOf_107 : decode cX2_bitOf 107 = .ok (.iload_n 3, 1) := dk_29 (dk_at dksX2_bitOf_4 0 rfl rfl)
theorem dX2_bitOf_108 : decode cX2_bitOf 108 = .ok (.iload_n 2, 1) := dk_28 (dk_at dksX2_bitOf_4 1 rfl rfl)
theorem dX2_bitOf_109 : decode cX2_bitOf 109 = .ok (.invokevirtual 107, 3) := dk_182 0 107 (dk_at dksX2_bitOf_4 2 rfl rfl)
theorem dX2_bitOf_112 : decode cX2_bitOf 112 = .ok (.aload_n 0, 1) := dk_42 (dk_at dksX2_bitOf_4 5 rfl rfl)
theorem dX2_bitOf_113 : decode cX2_bitOf 113 = .ok (.iload 4, 2) := dk_21 4 (dk_at dksX2_bitOf_4 6 rfl rfl)
theorem dX2_bitOf_115 : decode cX2_bitOf 115 = .ok (.iload_n 2, 1) := dk_28 (dk_at dksX2_bitOf_4 8 rfl rfl)
theorem dX2_bitOf_116 : decode cX2_bitOf 116 = .ok (.invokevirtual 107, 3) := dk_182 0 107 (dk_at dksX2_bitOf_4 9 rfl rfl)
theorem dX2_bitOf_119 : decode cX2_bitOf 119 = .ok (.ixor, 1) := dk_130 (dk_at dksX2_bitOf_4 12 rfl rfl)
theorem dX2_bitOf_120 : decode cX2_bitOf 120 = .ok (.ireturn, 1) := dk_172 (dk_at dksX2_bitOf_4 13 rfl rfl)
theorem dX2_bitOf_121 : decode cX2_bitOf 121 = .ok (.aload_n 0, 1) := dk_42 (dk_at dksX2_bitOf_4 14 rfl rfl)
theorem dX2_bitOf_122 : decode cX2_bitOf 122 = .ok (.aload_n 0, 1) := dk_42 (dk_at dksX2_bitOf_4 15 rfl rfl)
theorem dX2_bitOf_123 : decode cX2_bitOf 123 = .ok (.aload_n 0, 1) := dk_42 (dk_at dksX2_bitOf_4 16 rfl rfl)
theorem dX2_bitOf_124 : decode cX2_bitOf 124 = .ok (.iload_n 1, 1) := dk_27 (dk_at dksX2_bitOf_4 17 rfl rfl)
theorem dX2_bitOf_125 : decode cX2_bitOf 125 = .ok (.iconst 3, 1) := dk_6 (dk_at dksX2_bitOf_4 18 rfl rfl)
theorem dX2_bitOf_126 : decode cX2_bitOf 126 = .ok (.invokevirtual 100, 3) := dk_182 0 100 (dk_at dksX2_bitOf_4 19 rfl rfl)
theorem dX2_bitOf_129 : decode cX2_bitOf 129 = .ok (.iload_n 2, 1) := dk_28 (dk_at dksX2_bitOf_4 22 rfl rfl)
theorem dX2_bitOf_130 : decode cX2_bitOf 130 = .ok (.invokevirtual 107, 3) := dk_182 0 107 (dk_at dksX2_bitOf_5 0 rfl rfl)
theorem dX2_bitOf_133 : decode cX2_bitOf 133 = .ok (.iconst 1, 1) := dk_4 (dk_at dksX2_bitOf_5 3 rfl rfl)
theorem dX2_bitOf_134 : decode cX2_bitOf 134 = .ok (.if_icmp .ne 7, 3) := dk_160 0 7 (dk_at dksX2_bitOf_5 4 rfl rfl)
theorem dX2_bitOf_137 : decode cX2_bitOf 137 = .ok (.iload_n 3, 1) := dk_29 (dk_at dksX2_bitOf_5 7 rfl rfl)
theorem dX2_bitOf_138 : decode cX2_bitOf 138 = .ok (.goto 5, 3) := dk_167 0 5 (dk_at dksX2_bitOf_5 8 rfl rfl)
theorem dX2_bitOf_141 : decode cX2_bitOf 141 = .ok (.iload 4, 2) := dk_21 4 (dk_at dksX2_bitOf_5 11 rfl rfl)
theorem dX2_bitOf_143 : decode cX2_bitOf 143 = .ok (.iload_n 2, 1) := dk_28 (dk_at dksX2_bitOf_5 13 rfl rfl)
theorem dX2_bitOf_144 : decode cX2_bitOf 144 = .ok (.invokevirtual 107, 3) := dk_182 0 107 (dk_at dksX2_bitOf_5 14 rfl rfl)
theorem dX2_bitOf_147 : decode cX2_bitOf 147 = .ok (.ireturn, 1) := dk_172 (dk_at dksX2_bitOf_5 17 rfl rfl)
theorem dX2_bitOf_148 : decode cX2_bitOf 148 = .ok (.iconst 1, 1) := dk_4 (dk_at dksX2_bitOf_5 18 rfl rfl)
theorem dX2_bitOf_149 : decode cX2_bitOf 149 = .ok (.aload_n 0, 1) := dk_42 (dk_at dksX2_bitOf_5 19 rfl rfl)
theorem dX2_bitOf_150 : decode cX2_bitOf 150 = .ok (.iload_n 3, 1) := dk_29 (dk_at dksX2_bitOf_5 20 rfl rfl)
theorem dX2_bitOf_151 : decode cX2_bitOf 151 = .ok (.iload_n 2, 1) := dk_28 (dk_at dksX2_bitOf_5 21 rfl rfl)
theorem dX2_bitOf_152 : decode cX2_bitOf 152 = .ok (.invokevirtual 107, 3) := dk_182 0 107 (dk_at dksX2_bitOf_6 0 rfl rfl)
theorem dX2_bitOf_155 : decode cX2_bitOf 155 = .ok (.isub, 1) := dk_100 (dk_at dksX2_bitOf_6 3 rfl rfl)
theorem dX2_bitOf_156 : decode cX2_bitOf 156 = .ok (.ireturn, 1) := dk_172 (dk_at dksX2_bitOf_6 4 rfl rfl)
theorem dX2_bitOf_157 : decode cX2_bitOf 157 = .ok (.iload_n 2, 1) := dk_28 (dk_at dksX2_bitOf_6 5 rfl rfl)
theorem dX2_bitOf_158 : decode cX2_bitOf 158 = .ok (.iload 4, 2) := dk_21 4 (dk_at dksX2_bitOf_6 6 rfl rfl)
theorem dX2_bitOf_160 : decode cX2_bitOf 160 = .ok (.if_icmp .ge 7, 3) := dk_162 0 7 (dk_at dksX2_bitOf_6 8 rfl rfl)
theorem dX2_bitOf_163 : decode cX2_bitOf 163 = .ok (.iconst 0, 1) := dk_3 (dk_at dksX2_bitOf_6 11 rfl rfl)
theorem dX2_bitOf_164 : decode cX2_bitOf 164 = .ok (.goto 12, 3) := dk_167 0 12 (dk_at dksX2_bitOf_6 12 rfl rfl)
theorem dX2_bitOf_167 : decode cX2_bitOf 167 = .ok (.aload_n 0, 1) := dk_42 (dk_at dksX2_bitOf_6 15 rfl rfl)
theorem dX2_bitOf_168 : decode cX2_bitOf 168 = .ok (.iload_n 3, 1) := dk_29 (dk_at dksX2_bitOf_6 16 rfl rfl)
theorem dX2_bitOf_169 : decode cX2_bitOf 169 = .ok (.iload_n 2, 1) := dk_28 (dk_at dksX2_bitOf_6 17 rfl rfl)
theorem dX2_bitOf_170 : decode cX2_bitOf 170 = .ok (.iload 4, 2) := dk_21 4 (dk_at dksX2_bitOf_6 18 rfl rfl)
theorem dX2_bitOf_172 : decode cX2_bitOf 172 = .ok (.isub, 1) := dk_100 (dk_at dksX2_bitOf_6 20 rfl rfl)
theorem dX2_bitOf_173 : decode cX2_bitOf 173 = .ok (.invokevirtual 107, 3) := dk_182 0 107 (dk_at dksX2_bitOf_6 21 rfl rfl)
theorem dX2_bitOf_176 : decode cX2_bitOf 176 = .ok (.ireturn, 1) := dk_172 (dk_at dksX2_bitOf_7 0 rfl rfl)
abbrev cX2_bitAt : ByteArray := prog_8_method_19_code
def yX2_bitAt : MethodName := ⟨RX2, "bitAt", "(II)I"⟩
def dkwX2_bitAt_0 : List UInt8 := [42, 180, 0, 26, 17, 3, 232, 27, 104, 28, 96, 46, 172]
abbrev dktX2_bitAt_0 : List UInt8 := dkwX2_bitAt_0 ++ []
theorem dksX2_bitAt_0 : cX2_bitAt.data.toList.drop 0 = dktX2_bitAt_0 := by decide +kernel
theorem dX2_bitAt_0 : decode cX2_bitAt 0 = .ok (.aload_n 0, 1) := dk_42 (dk_at dksX2_bitAt_0 0 rfl rfl)
theorem dX2_bitAt_1 : decode cX2_bitAt 1 = .ok (.getfield 26, 3) := dk_180 0 26 (dk_at dksX2_bitAt_0 1 rfl rfl)
theorem dX2_bitAt_4 : decode cX2_bitAt 4 = .ok (.sipush 1000, 3) := dk_17 3 232 (dk_at dksX2_bitAt_0 4 rfl rfl)
theorem dX2_bitAt_7 : decode cX2_bitAt 7 = .ok (.iload_n 1, 1) := dk_27 (dk_at dksX2_bitAt_0 7 rfl rfl)
theorem dX2_bitAt_8 : decode cX2_bitAt 8 = .ok (.imul, 1) := dk_104 (dk_at dksX2_bitAt_0 8 rfl rfl)
theorem dX2_bitAt_9 : decode cX2_bitAt 9 = .ok (.iload_n 2, 1) := dk_28 (dk_at dksX2_bitAt_0 9 rfl rfl)
theorem dX2_bitAt_10 : decode cX2_bitAt 10 = .ok (.iadd, 1) := dk_96 (dk_at dksX2_bitAt_0 10 rfl rfl)
theorem dX2_bitAt_11 : decode cX2_bitAt 11 = .ok (.iaload, 1) := dk_46 (dk_at dksX2_bitAt_0 11 rfl rfl)
theorem dX2_bitAt_12 : decode cX2_bitAt 12 = .ok (.ireturn, 1) := dk_172 (dk_at dksX2_bitAt_0 12 rfl rfl)
abbrev cX2_goesOn : ByteArray := prog_8_method_20_code
def yX2_goesOn : MethodName := ⟨RX2, "goesOn", "(I)I"⟩
def dkwX2_goesOn_0 : List UInt8 := [5, 26, 104, 60, 27, 17, 0, 255, 164, 0, 14, 27, 17, 1, 0, 100, 16, 29, 130, 167, 0, 4, 27, 172]
abbrev dktX2_goesOn_0 : List UInt8 := dkwX2_goesOn_0 ++ []
theorem dksX2_goesOn_0 : cX2_goesOn.data.toList.drop 0 = dktX2_goesOn_0 := by decide +kernel
theorem dX2_goesOn_0 : decode cX2_goesOn 0 = .ok (.iconst 2, 1) := dk_5 (dk_at dksX2_goesOn_0 0 rfl rfl)
theorem dX2_goesOn_1 : decode cX2_goesOn 1 = .ok (.iload_n 0, 1) := dk_26 (dk_at dksX2_goesOn_0 1 rfl rfl)
theorem dX2_goesOn_2 : decode cX2_goesOn 2 = .ok (.imul, 1) := dk_104 (dk_at dksX2_goesOn_0 2 rfl rfl)
theorem dX2_goesOn_3 : decode cX2_goesOn 3 = .ok (.istore_n 1, 1) := dk_60 (dk_at dksX2_goesOn_0 3 rfl rfl)
theorem dX2_goesOn_4 : decode cX2_goesOn 4 = .ok (.iload_n 1, 1) := dk_27 (dk_at dksX2_goesOn_0 4 rfl rfl)
theorem dX2_goesOn_5 : decode cX2_goesOn 5 = .ok (.sipush 255, 3) := dk_17 0 255 (dk_at dksX2_goesOn_0 5 rfl rfl)
theorem dX2_goesOn_8 : decode cX2_goesOn 8 = .ok (.if_icmp .le 14, 3) := dk_164 0 14 (dk_at dksX2_goesOn_0 8 rfl rfl)
theorem dX2_goesOn_11 : decode cX2_goesOn 11 = .ok (.iload_n 1, 1) := dk_27 (dk_at dksX2_goesOn_0 11 rfl rfl)
theorem dX2_goesOn_12 : decode cX2_goesOn 12 = .ok (.sipush 256, 3) := dk_17 1 0 (dk_at dksX2_goesOn_0 12 rfl rfl)
theorem dX2_goesOn_15 : decode cX2_goesOn 15 = .ok (.isub, 1) := dk_100 (dk_at dksX2_goesOn_0 15 rfl rfl)
theorem dX2_goesOn_16 : decode cX2_goesOn 16 = .ok (.bipush 29, 2) := dk_16 29 (dk_at dksX2_goesOn_0 16 rfl rfl)
theorem dX2_goesOn_18 : decode cX2_goesOn 18 = .ok (.ixor, 1) := dk_130 (dk_at dksX2_goesOn_0 18 rfl rfl)
theorem dX2_goesOn_19 : decode cX2_goesOn 19 = .ok (.goto 4, 3) := dk_167 0 4 (dk_at dksX2_goesOn_0 19 rfl rfl)
theorem dX2_goesOn_22 : decode cX2_goesOn 22 = .ok (.iload_n 1, 1) := dk_27 (dk_at dksX2_goesOn_0 22 rfl rfl)
theorem dX2_goesOn_23 : decode cX2_goesOn 23 = .ok (.ireturn, 1) := dk_172 (dk_at dksX2_goesOn_0 23 rfl rfl)
abbrev cX2_findsExact : ByteArray := prog_8_method_24_code
def yX2_findsExact : MethodName := ⟨RX2, "findsExact", "(I)V"⟩
def dkwX2_findsExact_9 : List UInt8 := [167, 0, 5, 22, 12, 55, 12, 42, 180, 0, 32, 28, 22, 12, 136, 79, 132, 2, 1, 167, 255, 33, 177]
abbrev dktX2_findsExact_9 : List UInt8 := dkwX2_findsExact_9 ++ []
def dkwX2_findsExact_8 : List UInt8 := [160, 0, 25, 22, 4, 22, 10, 105, 22, 6, 20, 0, 118, 22, 10, 101, 105, 97, 20, 0, 118, 109]
abbrev dktX2_findsExact_8 : List UInt8 := dkwX2_findsExact_8 ++ dktX2_findsExact_9
def dkwX2_findsExact_7 : List UInt8 := [55, 12, 29, 154, 0, 17, 42, 28, 4, 182, 0, 100, 133, 20, 0, 81, 105, 167, 0, 32, 29, 7]
abbrev dktX2_findsExact_7 : List UInt8 := dkwX2_findsExact_7 ++ dktX2_findsExact_8
def dkwX2_findsExact_6 : List UInt8 := [22, 8, 105, 101, 167, 0, 19, 29, 8, 160, 0, 12, 20, 0, 118, 22, 4, 101, 167, 0, 5, 22, 4]
abbrev dktX2_findsExact_6 : List UInt8 := dkwX2_findsExact_6 ++ dktX2_findsExact_7
def dkwX2_findsExact_5 : List UInt8 := [22, 4, 22, 6, 97, 22, 8, 101, 167, 0, 39, 29, 6, 160, 0, 18, 22, 4, 22, 6, 97, 20, 0, 120]
abbrev dktX2_findsExact_5 : List UInt8 := dkwX2_findsExact_5 ++ dktX2_findsExact_6
def dkwX2_findsExact_4 : List UInt8 := [46, 133, 167, 0, 4, 9, 55, 10, 29, 4, 160, 0, 8, 22, 8, 167, 0, 55, 29, 5, 160, 0, 14]
abbrev dktX2_findsExact_4 : List UInt8 := dkwX2_findsExact_4 ++ dktX2_findsExact_5
def dkwX2_findsExact_3 : List UInt8 := [22, 6, 105, 20, 0, 118, 109, 55, 8, 29, 7, 160, 0, 18, 42, 180, 0, 32, 42, 28, 6, 182, 0, 100]
abbrev dktX2_findsExact_3 : List UInt8 := dkwX2_findsExact_3 ++ dktX2_findsExact_4
def dkwX2_findsExact_2 : List UInt8 := [153, 0, 18, 42, 180, 0, 32, 42, 28, 5, 182, 0, 100, 46, 133, 167, 0, 4, 9, 55, 6, 22, 4]
abbrev dktX2_findsExact_2 : List UInt8 := dkwX2_findsExact_2 ++ dktX2_findsExact_3
def dkwX2_findsExact_1 : List UInt8 := [180, 0, 32, 42, 28, 4, 182, 0, 100, 46, 133, 55, 4, 29, 133, 10, 20, 0, 116, 184, 0, 65]
abbrev dktX2_findsExact_1 : List UInt8 := dkwX2_findsExact_1 ++ dktX2_findsExact_2
def dkwX2_findsExact_0 : List UInt8 := [3, 61, 28, 27, 163, 0, 224, 42, 28, 3, 182, 0, 100, 62, 29, 154, 0, 7, 9, 167, 0, 15, 42]
abbrev dktX2_findsExact_0 : List UInt8 := dkwX2_findsExact_0 ++ dktX2_findsExact_1
theorem dksX2_findsExact_0 : cX2_findsExact.data.toList.drop 0 = dktX2_findsExact_0 := by decide +kernel
theorem dksX2_findsExact_1 : cX2_findsExact.data.toList.drop 23 = dktX2_findsExact_1 := dk_seg dksX2_findsExact_0 23 rfl rfl
theorem dksX2_findsExact_2 : cX2_findsExact.data.toList.drop 45 = dktX2_findsExact_2 := dk_seg dksX2_findsExact_1 22 rfl rfl
theorem dksX2_findsExact_3 : cX2_findsExact.data.toList.drop 68 = dktX2_findsExact_3 := dk_seg dksX2_findsExact_2 23 rfl rfl
theorem dksX2_findsExact_4 : cX2_findsExact.data.toList.drop 92 = dktX2_findsExact_4 := dk_seg dksX2_findsExact_3 24 rfl rfl
theorem dksX2_findsExact_5 : cX2_findsExact.data.toList.drop 115 = dktX2_findsExact_5 := dk_seg dksX2_findsExact_4 23 rfl rfl
theorem dksX2_findsExact_6 : cX2_findsExact.data.toList.drop 139 = dktX2_findsExact_6 := dk_seg dksX2_findsExact_5 24 rfl rfl
theorem dksX2_findsExact_7 : cX2_findsExact.data.toList.drop 162 = dktX2_findsExact_7 := dk_seg dksX2_findsExact_6 23 rfl rfl
theorem dksX2_findsExact_8 : cX2_findsExact.data.toList.drop 184 = dktX2_findsExact_8 := dk_seg dksX2_findsExact_7 22 rfl rfl
theorem dksX2_findsExact_9 : cX2_findsExact.data.toList.drop 206 = dktX2_findsExact_9 := dk_seg dksX2_findsExact_8 22 rfl rfl
theorem dX2_findsExact_0 : decode cX2_findsExact 0 = .ok (.iconst 0, 1) := dk_3 (dk_at dksX2_findsExact_0 0 rfl rfl)
theorem dX2_findsExact_1 : decode cX2_findsExact 1 = .ok (.istore_n 2, 1) := dk_61 (dk_at dksX2_findsExact_0 1 rfl rfl)
theorem dX2_findsExact_2 : decode cX2_findsExact 2 = .ok (.iload_n 2, 1) := dk_28 (dk_at dksX2_findsExact_0 2 rfl rfl)
theorem dX2_findsExact_3 : decode cX2_findsExact 3 = .ok (.iload_n 1, 1) := dk_27 (dk_at dksX2_findsExact_0 3 rfl rfl)
theorem dX2_findsExact_4 : decode cX2_findsExact 4 = .ok (.if_icmp .gt 224, 3) := dk_163 0 224 (dk_at dksX2_findsExact_0 4 rfl rfl)
theorem dX2_findsExact_7 : decode cX2_findsExact 7 = .ok (.aload_n 0, 1) := dk_42 (dk_at dksX2_findsExact_0 7 rfl rfl)
theorem dX2_findsExact_8 : decode cX2_findsExact 8 = .ok (.iload_n 2, 1) := dk_28 (dk_at dksX2_findsExact_0 8 rfl rfl)
theorem dX2_findsExact_9 : decode cX2_findsExact 9 = .ok (.iconst 0, 1) := dk_3 (dk_at dksX2_findsExact_0 9 rfl rfl)
theorem dX2_findsExact_10 : decode cX2_findsExact 10 = .ok (.invokevirtual 100, 3) := dk_182 0 100 (dk_at dksX2_findsExact_0 10 rfl rfl)
theorem dX2_findsExact_13 : decode cX2_findsExact 13 = .ok (.istore_n 3, 1) := dk_62 (dk_at dksX2_findsExact_0 13 rfl rfl)
theorem dX2_findsExact_14 : decode cX2_findsExact 14 = .ok (.iload_n 3, 1) := dk_29 (dk_at dksX2_findsExact_0 14 rfl rfl)
theorem dX2_findsExact_15 : decode cX2_findsExact 15 = .ok (.ifCond .ne 7, 3) := dk_154 0 7 (dk_at dksX2_findsExact_0 15 rfl rfl)
theorem dX2_findsExact_18 : decode cX2_findsExact 18 = .ok (.lconst 0, 1) := dk_9 (dk_at dksX2_findsExact_0 18 rfl rfl)
theorem dX2_findsExact_19 : decode cX2_findsExact 19 = .ok (.goto 15, 3) := dk_167 0 15 (dk_at dksX2_findsExact_0 19 rfl rfl)
theorem dX2_findsExact_22 : decode cX2_findsExact 22 = .ok (.aload_n 0, 1) := dk_42 (dk_at dksX2_findsExact_0 22 rfl rfl)
theorem dX2_findsExact_23 : decode cX2_findsExact 23 = .ok (.getfield 32, 3) := dk_180 0 32 (dk_at dksX2_findsExact_1 0 rfl rfl)
theorem dX2_findsExact_26 : decode cX2_findsExact 26 = .ok (.aload_n 0, 1) := dk_42 (dk_at dksX2_findsExact_1 3 rfl rfl)
theorem dX2_findsExact_27 : decode cX2_findsExact 27 = .ok (.iload_n 2, 1) := dk_28 (dk_at dksX2_findsExact_1 4 rfl rfl)
theorem dX2_findsExact_28 : decode cX2_findsExact 28 = .ok (.iconst 1, 1) := dk_4 (dk_at dksX2_findsExact_1 5 rfl rfl)
theorem dX2_findsExact_29 : decode cX2_findsExact 29 = .ok (.invokevirtual 100, 3) := dk_182 0 100 (dk_at dksX2_findsExact_1 6 rfl rfl)
theorem dX2_findsExact_32 : decode cX2_findsExact 32 = .ok (.iaload, 1) := dk_46 (dk_at dksX2_findsExact_1 9 rfl rfl)
theorem dX2_findsExact_33 : decode cX2_findsExact 33 = .ok (.i2l, 1) := dk_133 (dk_at dksX2_findsExact_1 10 rfl rfl)
theorem dX2_findsExact_34 : decode cX2_findsExact 34 = .ok (.lstore 4, 2) := dk_55 4 (dk_at dksX2_findsExact_1 11 rfl rfl)
theorem dX2_findsExact_36 : decode cX2_findsExact 36 = .ok (.iload_n 3, 1) := dk_29 (dk_at dksX2_findsExact_1 13 rfl rfl)
theorem dX2_findsExact_37 : decode cX2_findsExact 37 = .ok (.i2l, 1) := dk_133 (dk_at dksX2_findsExact_1 14 rfl rfl)
theorem dX2_findsExact_38 : decode cX2_findsExact 38 = .ok (.lconst 1, 1) := dk_10 (dk_at dksX2_findsExact_1 15 rfl rfl)
theorem dX2_findsExact_39 : decode cX2_findsExact 39 = .ok (.ldc2_w 116, 3) := dk_20 0 116 (dk_at dksX2_findsExact_1 16 rfl rfl)
theorem dX2_findsExact_42 : decode cX2_findsExact 42 = .ok (.invokestatic 65, 3) := dk_184 0 65 (dk_at dksX2_findsExact_1 19 rfl rfl)
theorem dX2_findsExact_45 : decode cX2_findsExact 45 = .ok (.ifCond .eq 18, 3) := dk_153 0 18 (dk_at dksX2_findsExact_2 0 rfl rfl)
theorem dX2_findsExact_48 : decode cX2_findsExact 48 = .ok (.aload_n 0, 1) := dk_42 (dk_at dksX2_findsExact_2 3 rfl rfl)
theorem dX2_findsExact_49 : decode cX2_findsExact 49 = .ok (.getfield 32, 3) := dk_180 0 32 (dk_at dksX2_findsExact_2 4 rfl rfl)
theorem dX2_findsExact_52 : decode cX2_findsExact 52 = .ok (.aload_n 0, 1) := dk_42 (dk_at dksX2_findsExact_2 7 rfl rfl)
theorem dX2_findsExact_53 : decode cX2_findsExact 53 = .ok (.iload_n 2, 1) := dk_28 (dk_at dksX2_findsExact_2 8 rfl rfl)
theorem dX2_findsExact_54 : decode cX2_findsExact 54 = .ok (.iconst 2, 1) := dk_5 (dk_at dksX2_findsExact_2 9 rfl rfl)
theorem dX2_findsExact_55 : decode cX2_findsExact 55 = .ok (.invokevirtual 100, 3) := dk_182 0 100 (dk_at dksX2_findsExact_2 10 rfl rfl)
theorem dX2_findsExact_58 : decode cX2_findsExact 58 = .ok (.iaload, 1) := dk_46 (dk_at dksX2_findsExact_2 13 rfl rfl)
theorem dX2_findsExact_59 : decode cX2_findsExact 59 = .ok (.i2l, 1) := dk_133 (dk_at dksX2_findsExact_2 14 rfl rfl)
theorem dX2_findsExact_60 : decode cX2_findsExact 60 = .ok (.goto 4, 3) := dk_167 0 4 (dk_at dksX2_findsExact_2 15 rfl rfl)
theorem dX2_findsExact_63 : decode cX2_findsExact 63 = .ok (.lconst 0, 1) := dk_9 (dk_at dksX2_findsExact_2 18 rfl rfl)
theorem dX2_findsExact_64 : decode cX2_findsExact 64 = .ok (.lstore 6, 2) := dk_55 6 (dk_at dksX2_findsExact_2 19 rfl rfl)
theorem dX2_findsExact_66 : decode cX2_findsExact 66 = .ok (.lload 4, 2) := dk_22 4 (dk_at dksX2_findsExact_2 21 rfl rfl)
theorem dX2_findsExact_68 : decode cX2_findsExact 68 = .ok (.lload 6, 2) := dk_22 6 (dk_at dksX2_findsExact_3 0 rfl rfl)
theorem dX2_findsExact_70 : decode cX2_findsExact 70 = .ok (.lmul, 1) := dk_105 (dk_at dksX2_findsExact_3 2 rfl rfl)
theorem dX2_findsExact_71 : decode cX2_findsExact 71 = .ok (.ldc2_w 118, 3) := dk_20 0 118 (dk_at dksX2_findsExact_3 3 rfl rfl)
theorem dX2_findsExact_74 : decode cX2_findsExact 74 = .ok (.ldiv, 1) := dk_109 (dk_at dksX2_findsExact_3 6 rfl rfl)
theorem dX2_findsExact_75 : decode cX2_findsExact 75 = .ok (.lstore 8, 2) := dk_55 8 (dk_at dksX2_findsExact_3 7 rfl rfl)
theorem dX2_findsExact_77 : decode cX2_findsExact 77 = .ok (.iload_n 3, 1) := dk_29 (dk_at dksX2_findsExact_3 9 rfl rfl)
theorem dX2_findsExact_78 : decode cX2_findsExact 78 = .ok (.iconst 4, 1) := dk_7 (dk_at dksX2_findsExact_3 10 rfl rfl)
theorem dX2_findsExact_79 : decode cX2_findsExact 79 = .ok (.if_icmp .ne 18, 3) := dk_160 0 18 (dk_at dksX2_findsExact_3 11 rfl rfl)
theorem dX2_findsExact_82 : decode cX2_findsExact 82 = .ok (.aload_n 0, 1) := dk_42 (dk_at dksX2_findsExact_3 14 rfl rfl)
theorem dX2_findsExact_83 : decode cX2_findsExact 83 = .ok (.getfield 32, 3) := dk_180 0 32 (dk_at dksX2_findsExact_3 15 rfl rfl)
theorem dX2_findsExact_86 : decode cX2_findsExact 86 = .ok (.aload_n 0, 1) := dk_42 (dk_at dksX2_findsExact_3 18 rfl rfl)
theorem dX2_findsExact_87 : decode cX2_findsExact 87 = .ok (.iload_n 2, 1) := dk_28 (dk_at dksX2_findsExact_3 19 rfl rfl)
theorem dX2_findsExact_88 : decode cX2_findsExact 88 = .ok (.iconst 3, 1) := dk_6 (dk_at dksX2_findsExact_3 20 rfl rfl)
theorem dX2_findsExact_89 : decode cX2_findsExact 89 = .ok (.invokevirtual 100, 3) := dk_182 0 100 (dk_at dksX2_findsExact_3 21 rfl rfl)
theorem dX2_findsExact_92 : decode cX2_findsExact 92 = .ok (.iaload, 1) := dk_46 (dk_at dksX2_findsExact_4 0 rfl rfl)
theorem dX2_findsExact_93 : decode cX2_findsExact 93 = .ok (.i2l, 1) := dk_133 (dk_at dksX2_findsExact_4 1 rfl rfl)
theorem dX2_findsExact_94 : decode cX2_findsExact 94 = .ok (.goto 4, 3) := dk_167 0 4 (dk_at dksX2_findsExact_4 2 rfl rfl)
theorem dX2_findsExact_97 : decode cX2_findsExact 97 = .ok (.lconst 0, 1) := dk_9 (dk_at dksX2_findsExact_4 5 rfl rfl)
theorem dX2_findsExact_98 : decode cX2_findsExact 98 = .ok (.lstore 10, 2) := dk_55 10 (dk_at dksX2_findsExact_4 6 rfl rfl)
theorem dX2_findsExact_100 : decode cX2_findsExact 100 = .ok (.iload_n 3, 1) := dk_29 (dk_at dksX2_findsExact_4 8 rfl rfl)
theorem dX2_findsExact_101 : decode cX2_findsExact 101 = .ok (.iconst 1, 1) := dk_4 (dk_at dksX2_findsExact_4 9 rfl rfl)
theorem dX2_findsExact_102 : decode cX2_findsExact 102 = .ok (.if_icmp .ne 8, 3) := dk_160 0 8 (dk_at dksX2_findsExact_4 10 rfl rfl)
theorem dX2_findsExact_105 : decode cX2_findsExact 105 = .ok (.lload 8, 2) := dk_22 8 (dk_at dksX2_findsExact_4 13 rfl rfl)
theorem dX2_findsExact_107 : decode cX2_findsExact 107 = .ok (.goto 55, 3) := dk_167 0 55 (dk_at dksX2_findsExact_4 15 rfl rfl)
theorem dX2_findsExact_110 : decode cX2_findsExact 110 = .ok (.iload_n 3, 1) := dk_29 (dk_at dksX2_findsExact_4 18 rfl rfl)
theorem dX2_findsExact_111 : decode cX2_findsExact 111 = .ok (.iconst 2, 1) := dk_5 (dk_at dksX2_findsExact_4 19 rfl rfl)
theorem dX2_findsExact_112 : decode cX2_findsExact 112 = .ok (.if_icmp .ne 14, 3) := dk_160 0 14 (dk_at dksX2_findsExact_4 20 rfl rfl)
theorem dX2_findsExact_115 : decode cX2_findsExact 115 = .ok (.lload 4, 2) := dk_22 4 (dk_at dksX2_findsExact_5 0 rfl rfl)
theorem dX2_findsExact_117 : decode cX2_findsExact 117 = .ok (.lload 6, 2) := dk_22 6 (dk_at dksX2_findsExact_5 2 rfl rfl)
theorem dX2_findsExact_119 : decode cX2_findsExact 119 = .ok (.ladd, 1) := dk_97 (dk_at dksX2_findsExact_5 4 rfl rfl)
theorem dX2_findsExact_120 : decode cX2_findsExact 120 = .ok (.lload 8, 2) := dk_22 8 (dk_at dksX2_findsExact_5 5 rfl rfl)
theorem dX2_findsExact_122 : decode cX2_findsExact 122 = .ok (.lsub, 1) := dk_101 (dk_at dksX2_findsExact_5 7 rfl rfl)
theorem dX2_findsExact_123 : decode cX2_findsExact 123 = .ok (.goto 39, 3) := dk_167 0 39 (dk_at dksX2_findsExact_5 8 rfl rfl)
theorem dX2_findsExact_126 : decode cX2_findsExact 126 = .ok (.iload_n 3, 1) := dk_29 (dk_at dksX2_findsExact_5 11 rfl rfl)
theorem dX2_findsExact_127 : decode cX2_findsExact 127 = .ok (.iconst 3, 1) := dk_6 (dk_at dksX2_findsExact_5 12 rfl rfl)
theorem dX2_findsExact_128 : decode cX2_findsExact 128 = .ok (.if_icmp .ne 18, 3) := dk_160 0 18 (dk_at dksX2_findsExact_5 13 rfl rfl)
theorem dX2_findsExact_131 : decode cX2_findsExact 131 = .ok (.lload 4, 2) := dk_22 4 (dk_at dksX2_findsExact_5 16 rfl rfl)
theorem dX2_findsExact_133 : decode cX2_findsExact 133 = .ok (.lload 6, 2) := dk_22 6 (dk_at dksX2_findsExact_5 18 rfl rfl)
theorem dX2_findsExact_135 : decode cX2_findsExact 135 = .ok (.ladd, 1) := dk_97 (dk_at dksX2_findsExact_5 20 rfl rfl)
theorem dX2_findsExact_136 : decode cX2_findsExact 136 = .ok (.ldc2_w 120, 3) := dk_20 0 120 (dk_at dksX2_findsExact_5 21 rfl rfl)
theorem dX2_findsExact_139 : decode cX2_findsExact 139 = .ok (.lload 8, 2) := dk_22 8 (dk_at dksX2_findsExact_6 0 rfl rfl)
theorem dX2_findsExact_141 : decode cX2_findsExact 141 = .ok (.lmul, 1) := dk_105 (dk_at dksX2_findsExact_6 2 rfl rfl)
theorem dX2_findsExact_142 : decode cX2_findsExact 142 = .ok (.lsub, 1) := dk_101 (dk_at dksX2_findsExact_6 3 rfl rfl)
theorem dX2_findsExact_143 : decode cX2_findsExact 143 = .ok (.goto 19, 3) := dk_167 0 19 (dk_at dksX2_findsExact_6 4 rfl rfl)
theorem dX2_findsExact_146 : decode cX2_findsExact 146 = .ok (.iload_n 3, 1) := dk_29 (dk_at dksX2_findsExact_6 7 rfl rfl)
theorem dX2_findsExact_147 : decode cX2_findsExact 147 = .ok (.iconst 5, 1) := dk_8 (dk_at dksX2_findsExact_6 8 rfl rfl)
theorem dX2_findsExact_148 : decode cX2_findsExact 148 = .ok (.if_icmp .ne 12, 3) := dk_160 0 12 (dk_at dksX2_findsExact_6 9 rfl rfl)
theorem dX2_findsExact_151 : decode cX2_findsExact 151 = .ok (.ldc2_w 118, 3) := dk_20 0 118 (dk_at dksX2_findsExact_6 12 rfl rfl)
theorem dX2_findsExact_154 : decode cX2_findsExact 154 = .ok (.lload 4, 2) := dk_22 4 (dk_at dksX2_findsExact_6 15 rfl rfl)
theorem dX2_findsExact_156 : decode cX2_findsExact 156 = .ok (.lsub, 1) := dk_101 (dk_at dksX2_findsExact_6 17 rfl rfl)
theorem dX2_findsExact_157 : decode cX2_findsExact 157 = .ok (.goto 5, 3) := dk_167 0 5 (dk_at dksX2_findsExact_6 18 rfl rfl)
theorem dX2_findsExact_160 : decode cX2_findsExact 160 = .ok (.lload 4, 2) := dk_22 4 (dk_at dksX2_findsExact_6 21 rfl rfl)
theorem dX2_findsExact_162 : decode cX2_findsExact 162 = .ok (.lstore 12, 2) := dk_55 12 (dk_at dksX2_findsExact_7 0 rfl rfl)
theorem dX2_findsExact_164 : decode cX2_findsExact 164 = .ok (.iload_n 3, 1) := dk_29 (dk_at dksX2_findsExact_7 2 rfl rfl)
theorem dX2_findsExact_165 : decode cX2_findsExact 165 = .ok (.ifCond .ne 17, 3) := dk_154 0 17 (dk_at dksX2_findsExact_7 3 rfl rfl)
theorem dX2_findsExact_168 : decode cX2_findsExact 168 = .ok (.aload_n 0, 1) := dk_42 (dk_at dksX2_findsExact_7 6 rfl rfl)
theorem dX2_findsExact_169 : decode cX2_findsExact 169 = .ok (.iload_n 2, 1) := dk_28 (dk_at dksX2_findsExact_7 7 rfl rfl)
theorem dX2_findsExact_170 : decode cX2_findsExact 170 = .ok (.iconst 1, 1) := dk_4 (dk_at dksX2_findsExact_7 8 rfl rfl)
theorem dX2_findsExact_171 : decode cX2_findsExact 171 = .ok (.invokevirtual 100, 3) := dk_182 0 100 (dk_at dksX2_findsExact_7 9 rfl rfl)
theorem dX2_findsExact_174 : decode cX2_findsExact 174 = .ok (.i2l, 1) := dk_133 (dk_at dksX2_findsExact_7 12 rfl rfl)
theorem dX2_findsExact_175 : decode cX2_findsExact 175 = .ok (.ldc2_w 81, 3) := dk_20 0 81 (dk_at dksX2_findsExact_7 13 rfl rfl)
theorem dX2_findsExact_178 : decode cX2_findsExact 178 = .ok (.lmul, 1) := dk_105 (dk_at dksX2_findsExact_7 16 rfl rfl)
theorem dX2_findsExact_179 : decode cX2_findsExact 179 = .ok (.goto 32, 3) := dk_167 0 32 (dk_at dksX2_findsExact_7 17 rfl rfl)
theorem dX2_findsExact_182 : decode cX2_findsExact 182 = .ok (.iload_n 3, 1) := dk_29 (dk_at dksX2_findsExact_7 20 rfl rfl)
theorem dX2_findsExact_183 : decode cX2_findsExact 183 = .ok (.iconst 4, 1) := dk_7 (dk_at dksX2_findsExact_7 21 rfl rfl)
theorem dX2_findsExact_184 : decode cX2_findsExact 184 = .ok (.if_icmp .ne 25, 3) := dk_160 0 25 (dk_at dksX2_findsExact_8 0 rfl rfl)
theorem dX2_findsExact_187 : decode cX2_findsExact 187 = .ok (.lload 4, 2) := dk_22 4 (dk_at dksX2_findsExact_8 3 rfl rfl)
theorem dX2_findsExact_189 : decode cX2_findsExact 189 = .ok (.lload 10, 2) := dk_22 10 (dk_at dksX2_findsExact_8 5 rfl rfl)
theorem dX2_findsExact_191 : decode cX2_findsExact 191 = .ok (.lmul, 1) := dk_105 (dk_at dksX2_findsExact_8 7 rfl rfl)
theorem dX2_findsExact_192 : decode cX2_findsExact 192 = .ok (.lload 6, 2) := dk_22 6 (dk_at dksX2_findsExact_8 8 rfl rfl)
theorem dX2_findsExact_194 : decode cX2_findsExact 194 = .ok (.ldc2_w 118, 3) := dk_20 0 118 (dk_at dksX2_findsExact_8 10 rfl rfl)
theorem dX2_findsExact_197 : decode cX2_findsExact 197 = .ok (.lload 10, 2) := dk_22 10 (dk_at dksX2_findsExact_8 13 rfl rfl)
theorem dX2_findsExact_199 : decode cX2_findsExact 199 = .ok (.lsub, 1) := dk_101 (dk_at dksX2_findsExact_8 15 rfl rfl)
theorem dX2_findsExact_200 : decode cX2_findsExact 200 = .ok (.lmul, 1) := dk_105 (dk_at dksX2_findsExact_8 16 rfl rfl)
theorem dX2_findsExact_201 : decode cX2_findsExact 201 = .ok (.ladd, 1) := dk_97 (dk_at dksX2_findsExact_8 17 rfl rfl)
theorem dX2_findsExact_202 : decode cX2_findsExact 202 = .ok (.ldc2_w 118, 3) := dk_20 0 118 (dk_at dksX2_findsExact_8 18 rfl rfl)
theorem dX2_findsExact_205 : decode cX2_findsExact 205 = .ok (.ldiv, 1) := dk_109 (dk_at dksX2_findsExact_8 21 rfl rfl)
theorem dX2_findsExact_206 : decode cX2_findsExact 206 = .ok (.goto 5, 3) := dk_167 0 5 (dk_at dksX2_findsExact_9 0 rfl rfl)
theorem dX2_findsExact_209 : decode cX2_findsExact 209 = .ok (.lload 12, 2) := dk_22 12 (dk_at dksX2_findsExact_9 3 rfl rfl)
theorem dX2_findsExact_211 : decode cX2_findsExact 211 = .ok (.lstore 12, 2) := dk_55 12 (dk_at dksX2_findsExact_9 5 rfl rfl)
theorem dX2_findsExact_213 : decode cX2_findsExact 213 = .ok (.aload_n 0, 1) := dk_42 (dk_at dksX2_findsExact_9 7 rfl rfl)
theorem dX2_findsExact_214 : decode cX2_findsExact 214 = .ok (.getfield 32, 3) := dk_180 0 32 (dk_at dksX2_findsExact_9 8 rfl rfl)
theorem dX2_findsExact_217 : decode cX2_findsExact 217 = .ok (.iload_n 2, 1) := dk_28 (dk_at dksX2_findsExact_9 11 rfl rfl)
theorem dX2_findsExact_218 : decode cX2_findsExact 218 = .ok (.lload 12, 2) := dk_22 12 (dk_at dksX2_findsExact_9 12 rfl rfl)
theorem dX2_findsExact_220 : decode cX2_findsExact 220 = .ok (.l2i, 1) := dk_136 (dk_at dksX2_findsExact_9 14 rfl rfl)
theorem dX2_findsExact_221 : decode cX2_findsExact 221 = .ok (.iastore, 1) := dk_79 (dk_at dksX2_findsExact_9 15 rfl rfl)
theorem dX2_findsExact_222 : decode cX2_findsExact 222 = .ok (.iinc 2 1, 3) := dk_132 2 1 (dk_at dksX2_findsExact_9 16 rfl rfl)
theorem dX2_findsExact_225 : decode cX2_findsExact 225 = .ok (.goto (-223), 3) := dk_167 255 33 (dk_at dksX2_findsExact_9 19 rfl rfl)
theorem dX2_findsExact_228 : decode cX2_findsExact 228 = .ok (.return_, 1) := dk_177 (dk_at dksX2_findsExact_9 22 rfl rfl)
abbrev cX2_findsDepths : ByteArray := prog_8_method_44_code
def yX2_findsDepths : MethodName := ⟨RX2, "findsDepths", "()V"⟩
def dkwX2_findsDepths_5 : List UInt8 := [46, 42, 180, 0, 44, 21, 4, 46, 128, 79, 132, 3, 1, 167, 255, 182, 132, 1, 1, 167, 255, 122, 177]
abbrev dktX2_findsDepths_5 : List UInt8 := dkwX2_findsDepths_5 ++ []
def dkwX2_findsDepths_4 : List UInt8 := [180, 0, 41, 21, 4, 46, 4, 96, 167, 0, 9, 42, 180, 0, 41, 27, 46, 79, 42, 180, 0, 44, 27, 92]
abbrev dktX2_findsDepths_4 : List UInt8 := dkwX2_findsDepths_4 ++ dktX2_findsDepths_5
def dkwX2_findsDepths_3 : List UInt8 := [180, 0, 41, 27, 42, 180, 0, 41, 21, 4, 46, 4, 96, 42, 180, 0, 41, 27, 46, 164, 0, 15, 42]
abbrev dktX2_findsDepths_3 : List UInt8 := dkwX2_findsDepths_3 ++ dktX2_findsDepths_4
def dkwX2_findsDepths_2 : List UInt8 := [27, 120, 167, 0, 4, 3, 79, 4, 62, 29, 28, 163, 0, 75, 42, 27, 29, 182, 0, 100, 54, 4, 42]
abbrev dktX2_findsDepths_2 : List UInt8 := dkwX2_findsDepths_2 ++ dktX2_findsDepths_3
def dkwX2_findsDepths_1 : List UInt8 := [180, 0, 41, 27, 28, 154, 0, 7, 3, 167, 0, 4, 4, 79, 42, 180, 0, 44, 27, 28, 154, 0, 9, 4]
abbrev dktX2_findsDepths_1 : List UInt8 := dkwX2_findsDepths_1 ++ dktX2_findsDepths_2
def dkwX2_findsDepths_0 : List UInt8 := [3, 60, 27, 42, 180, 0, 7, 3, 46, 162, 0, 130, 42, 27, 3, 182, 0, 100, 184, 0, 180, 61, 42]
abbrev dktX2_findsDepths_0 : List UInt8 := dkwX2_findsDepths_0 ++ dktX2_findsDepths_1
theorem dksX2_findsDepths_0 : cX2_findsDepths.data.toList.drop 0 = dktX2_findsDepths_0 := by decide +kernel
theorem dksX2_findsDepths_1 : cX2_findsDepths.data.toList.drop 23 = dktX2_findsDepths_1 := dk_seg dksX2_findsDepths_0 23 rfl rfl
theorem dksX2_findsDepths_2 : cX2_findsDepths.data.toList.drop 47 = dktX2_findsDepths_2 := dk_seg dksX2_findsDepths_1 24 rfl rfl
theorem dksX2_findsDepths_3 : cX2_findsDepths.data.toList.drop 70 = dktX2_findsDepths_3 := dk_seg dksX2_findsDepths_2 23 rfl rfl
theorem dksX2_findsDepths_4 : cX2_findsDepths.data.toList.drop 93 = dktX2_findsDepths_4 := dk_seg dksX2_findsDepths_3 23 rfl rfl
theorem dksX2_findsDepths_5 : cX2_findsDepths.data.toList.drop 117 = dktX2_findsDepths_5 := dk_seg dksX2_findsDepths_4 24 rfl rfl
theorem dX2_findsDepths_0 : decode cX2_findsDepths 0 = .ok (.iconst 0, 1) := dk_3 (dk_at dksX2_findsDepths_0 0 rfl rfl)
theorem dX2_findsDepths_1 : decode cX2_findsDepths 1 = .ok (.istore_n 1, 1) := dk_60 (dk_at dksX2_findsDepths_0 1 rfl rfl)
theorem dX2_findsDepths_2 : decode cX2_findsDepths 2 = .ok (.iload_n 1, 1) := dk_27 (dk_at dksX2_findsDepths_0 2 rfl rfl)
theorem dX2_findsDepths_3 : decode cX2_findsDepths 3 = .ok (.aload_n 0, 1) := dk_42 (dk_at dksX2_findsDepths_0 3 rfl rfl)
theorem dX2_findsDepths_4 : decode cX2_findsDepths 4 = .ok (.getfield 7, 3) := dk_180 0 7 (dk_at dksX2_findsDepths_0 4 rfl rfl)
theorem dX2_findsDepths_7 : decode cX2_findsDepths 7 = .ok (.iconst 0, 1) := dk_3 (dk_at dksX2_findsDepths_0 7 rfl rfl)
theorem dX2_findsDepths_8 : decode cX2_findsDepths 8 = .ok (.iaload, 1) := dk_46 (dk_at dksX2_findsDepths_0 8 rfl rfl)
theorem dX2_findsDepths_9 : decode cX2_findsDepths 9 = .ok (.if_icmp .ge 130, 3) := dk_162 0 130 (dk_at dksX2_findsDepths_0 9 rfl rfl)
theorem dX2_findsDepths_12 : decode cX2_findsDepths 12 = .ok (.aload_n 0, 1) := dk_42 (dk_at dksX2_findsDepths_0 12 rfl rfl)
theorem dX2_findsDepths_13 : decode cX2_findsDepths 13 = .ok (.iload_n 1, 1) := dk_27 (dk_at dksX2_findsDepths_0 13 rfl rfl)
theorem dX2_findsDepths_14 : decode cX2_findsDepths 14 = .ok (.iconst 0, 1) := dk_3 (dk_at dksX2_findsDepths_0 14 rfl rfl)
theorem dX2_findsDepths_15 : decode cX2_findsDepths 15 = .ok (.invokevirtual 100, 3) := dk_182 0 100 (dk_at dksX2_findsDepths_0 15 rfl rfl)
theorem dX2_findsDepths_18 : decode cX2_findsDepths 18 = .ok (.invokestatic 180, 3) := dk_184 0 180 (dk_at dksX2_findsDepths_0 18 rfl rfl)
theorem dX2_findsDepths_21 : decode cX2_findsDepths 21 = .ok (.istore_n 2, 1) := dk_61 (dk_at dksX2_findsDepths_0 21 rfl rfl)
theorem dX2_findsDepths_22 : decode cX2_findsDepths 22 = .ok (.aload_n 0, 1) := dk_42 (dk_at dksX2_findsDepths_0 22 rfl rfl)
theorem dX2_findsDepths_23 : decode cX2_findsDepths 23 = .ok (.getfield 41, 3) := dk_180 0 41 (dk_at dksX2_findsDepths_1 0 rfl rfl)
theorem dX2_findsDepths_26 : decode cX2_findsDepths 26 = .ok (.iload_n 1, 1) := dk_27 (dk_at dksX2_findsDepths_1 3 rfl rfl)
theorem dX2_findsDepths_27 : decode cX2_findsDepths 27 = .ok (.iload_n 2, 1) := dk_28 (dk_at dksX2_findsDepths_1 4 rfl rfl)
theorem dX2_findsDepths_28 : decode cX2_findsDepths 28 = .ok (.ifCond .ne 7, 3) := dk_154 0 7 (dk_at dksX2_findsDepths_1 5 rfl rfl)
theorem dX2_findsDepths_31 : decode cX2_findsDepths 31 = .ok (.iconst 0, 1) := dk_3 (dk_at dksX2_findsDepths_1 8 rfl rfl)
theorem dX2_findsDepths_32 : decode cX2_findsDepths 32 = .ok (.goto 4, 3) := dk_167 0 4 (dk_at dksX2_findsDepths_1 9 rfl rfl)
theorem dX2_findsDepths_35 : decode cX2_findsDepths 35 = .ok (.iconst 1, 1) := dk_4 (dk_at dksX2_findsDepths_1 12 rfl rfl)
theorem dX2_findsDepths_36 : decode cX2_findsDepths 36 = .ok (.iastore, 1) := dk_79 (dk_at dksX2_findsDepths_1 13 rfl rfl)
theorem dX2_findsDepths_37 : decode cX2_findsDepths 37 = .ok (.aload_n 0, 1) := dk_42 (dk_at dksX2_findsDepths_1 14 rfl rfl)
theorem dX2_findsDepths_38 : decode cX2_findsDepths 38 = .ok (.getfield 44, 3) := dk_180 0 44 (dk_at dksX2_findsDepths_1 15 rfl rfl)
theorem dX2_findsDepths_41 : decode cX2_findsDepths 41 = .ok (.iload_n 1, 1) := dk_27 (dk_at dksX2_findsDepths_1 18 rfl rfl)
theorem dX2_findsDepths_42 : decode cX2_findsDepths 42 = .ok (.iload_n 2, 1) := dk_28 (dk_at dksX2_findsDepths_1 19 rfl rfl)
theorem dX2_findsDepths_43 : decode cX2_findsDepths 43 = .ok (.ifCond .ne 9, 3) := dk_154 0 9 (dk_at dksX2_findsDepths_1 20 rfl rfl)
theorem dX2_findsDepths_46 : decode cX2_findsDepths 46 = .ok (.iconst 1, 1) := dk_4 (dk_at dksX2_findsDepths_1 23 rfl rfl)
theorem dX2_findsDepths_47 : decode cX2_findsDepths 47 = .ok (.iload_n 1, 1) := dk_27 (dk_at dksX2_findsDepths_2 0 rfl rfl)
theorem dX2_findsDepths_48 : decode cX2_findsDepths 48 = .ok (.ishl, 1) := dk_120 (dk_at dksX2_findsDepths_2 1 rfl rfl)
theorem dX2_findsDepths_49 : decode cX2_findsDepths 49 = .ok (.goto 4, 3) := dk_167 0 4 (dk_at dksX2_findsDepths_2 2 rfl rfl)
theorem dX2_findsDepths_52 : decode cX2_findsDepths 52 = .ok (.iconst 0, 1) := dk_3 (dk_at dksX2_findsDepths_2 5 rfl rfl)
theorem dX2_findsDepths_53 : decode cX2_findsDepths 53 = .ok (.iastore, 1) := dk_79 (dk_at dksX2_findsDepths_2 6 rfl rfl)
theorem dX2_findsDepths_54 : decode cX2_findsDepths 54 = .ok (.iconst 1, 1) := dk_4 (dk_at dksX2_findsDepths_2 7 rfl rfl)
theorem dX2_findsDepths_55 : decode cX2_findsDepths 55 = .ok (.istore_n 3, 1) := dk_62 (dk_at dksX2_findsDepths_2 8 rfl rfl)
theorem dX2_findsDepths_56 : decode cX2_findsDepths 56 = .ok (.iload_n 3, 1) := dk_29 (dk_at dksX2_findsDepths_2 9 rfl rfl)
theorem dX2_findsDepths_57 : decode cX2_findsDepths 57 = .ok (.iload_n 2, 1) := dk_28 (dk_at dksX2_findsDepths_2 10 rfl rfl)
theorem dX2_findsDepths_58 : decode cX2_findsDepths 58 = .ok (.if_icmp .gt 75, 3) := dk_163 0 75 (dk_at dksX2_findsDepths_2 11 rfl rfl)
theorem dX2_findsDepths_61 : decode cX2_findsDepths 61 = .ok (.aload_n 0, 1) := dk_42 (dk_at dksX2_findsDepths_2 14 rfl rfl)
theorem dX2_findsDepths_62 : decode cX2_findsDepths 62 = .ok (.iload_n 1, 1) := dk_27 (dk_at dksX2_findsDepths_2 15 rfl rfl)
theorem dX2_findsDepths_63 : decode cX2_findsDepths 63 = .ok (.iload_n 3, 1) := dk_29 (dk_at dksX2_findsDepths_2 16 rfl rfl)
theorem dX2_findsDepths_64 : decode cX2_findsDepths 64 = .ok (.invokevirtual 100, 3) := dk_182 0 100 (dk_at dksX2_findsDepths_2 17 rfl rfl)
theorem dX2_findsDepths_67 : decode cX2_findsDepths 67 = .ok (.istore 4, 2) := dk_54 4 (dk_at dksX2_findsDepths_2 20 rfl rfl)
theorem dX2_findsDepths_69 : decode cX2_findsDepths 69 = .ok (.aload_n 0, 1) := dk_42 (dk_at dksX2_findsDepths_2 22 rfl rfl)
theorem dX2_findsDepths_70 : decode cX2_findsDepths 70 = .ok (.getfield 41, 3) := dk_180 0 41 (dk_at dksX2_findsDepths_3 0 rfl rfl)
theorem dX2_findsDepths_73 : decode cX2_findsDepths 73 = .ok (.iload_n 1, 1) := dk_27 (dk_at dksX2_findsDepths_3 3 rfl rfl)
theorem dX2_findsDepths_74 : decode cX2_findsDepths 74 = .ok (.aload_n 0, 1) := dk_42 (dk_at dksX2_findsDepths_3 4 rfl rfl)
theorem dX2_findsDepths_75 : decode cX2_findsDepths 75 = .ok (.getfield 41, 3) := dk_180 0 41 (dk_at dksX2_findsDepths_3 5 rfl rfl)
theorem dX2_findsDepths_78 : decode cX2_findsDepths 78 = .ok (.iload 4, 2) := dk_21 4 (dk_at dksX2_findsDepths_3 8 rfl rfl)
theorem dX2_findsDepths_80 : decode cX2_findsDepths 80 = .ok (.iaload, 1) := dk_46 (dk_at dksX2_findsDepths_3 10 rfl rfl)
theorem dX2_findsDepths_81 : decode cX2_findsDepths 81 = .ok (.iconst 1, 1) := dk_4 (dk_at dksX2_findsDepths_3 11 rfl rfl)
theorem dX2_findsDepths_82 : decode cX2_findsDepths 82 = .ok (.iadd, 1) := dk_96 (dk_at dksX2_findsDepths_3 12 rfl rfl)
theorem dX2_findsDepths_83 : decode cX2_findsDepths 83 = .ok (.aload_n 0, 1) := dk_42 (dk_at dksX2_findsDepths_3 13 rfl rfl)
theorem dX2_findsDepths_84 : decode cX2_findsDepths 84 = .ok (.getfield 41, 3) := dk_180 0 41 (dk_at dksX2_findsDepths_3 14 rfl rfl)
theorem dX2_findsDepths_87 : decode cX2_findsDepths 87 = .ok (.iload_n 1, 1) := dk_27 (dk_at dksX2_findsDepths_3 17 rfl rfl)
theorem dX2_findsDepths_88 : decode cX2_findsDepths 88 = .ok (.iaload, 1) := dk_46 (dk_at dksX2_findsDepths_3 18 rfl rfl)
theorem dX2_findsDepths_89 : decode cX2_findsDepths 89 = .ok (.if_icmp .le 15, 3) := dk_164 0 15 (dk_at dksX2_findsDepths_3 19 rfl rfl)
theorem dX2_findsDepths_92 : decode cX2_findsDepths 92 = .ok (.aload_n 0, 1) := dk_42 (dk_at dksX2_findsDepths_3 22 rfl rfl)
theorem dX2_findsDepths_93 : decode cX2_findsDepths 93 = .ok (.getfield 41, 3) := dk_180 0 41 (dk_at dksX2_findsDepths_4 0 rfl rfl)
theorem dX2_findsDepths_96 : decode cX2_findsDepths 96 = .ok (.iload 4, 2) := dk_21 4 (dk_at dksX2_findsDepths_4 3 rfl rfl)
theorem dX2_findsDepths_98 : decode cX2_findsDepths 98 = .ok (.iaload, 1) := dk_46 (dk_at dksX2_findsDepths_4 5 rfl rfl)
theorem dX2_findsDepths_99 : decode cX2_findsDepths 99 = .ok (.iconst 1, 1) := dk_4 (dk_at dksX2_findsDepths_4 6 rfl rfl)
theorem dX2_findsDepths_100 : decode cX2_findsDepths 100 = .ok (.iadd, 1) := dk_96 (dk_at dksX2_findsDepths_4 7 rfl rfl)
theorem dX2_findsDepths_101 : decode cX2_findsDepths 101 = .ok (.goto 9, 3) := dk_167 0 9 (dk_at dksX2_findsDepths_4 8 rfl rfl)
theorem dX2_findsDepths_104 : decode cX2_findsDepths 104 = .ok (.aload_n 0, 1) := dk_42 (dk_at dksX2_findsDepths_4 11 rfl rfl)
theorem dX2_findsDepths_105 : decode cX2_findsDepths 105 = .ok (.getfield 41, 3) := dk_180 0 41 (dk_at dksX2_findsDepths_4 12 rfl rfl)
theorem dX2_findsDepths_108 : decode cX2_findsDepths 108 = .ok (.iload_n 1, 1) := dk_27 (dk_at dksX2_findsDepths_4 15 rfl rfl)
theorem dX2_findsDepths_109 : decode cX2_findsDepths 109 = .ok (.iaload, 1) := dk_46 (dk_at dksX2_findsDepths_4 16 rfl rfl)
theorem dX2_findsDepths_110 : decode cX2_findsDepths 110 = .ok (.iastore, 1) := dk_79 (dk_at dksX2_findsDepths_4 17 rfl rfl)
theorem dX2_findsDepths_111 : decode cX2_findsDepths 111 = .ok (.aload_n 0, 1) := dk_42 (dk_at dksX2_findsDepths_4 18 rfl rfl)
theorem dX2_findsDepths_112 : decode cX2_findsDepths 112 = .ok (.getfield 44, 3) := dk_180 0 44 (dk_at dksX2_findsDepths_4 19 rfl rfl)
theorem dX2_findsDepths_115 : decode cX2_findsDepths 115 = .ok (.iload_n 1, 1) := dk_27 (dk_at dksX2_findsDepths_4 22 rfl rfl)
theorem dX2_findsDepths_116 : decode cX2_findsDepths 116 = .ok (.dup2, 1) := dk_92 (dk_at dksX2_findsDepths_4 23 rfl rfl)
theorem dX2_findsDepths_117 : decode cX2_findsDepths 117 = .ok (.iaload, 1) := dk_46 (dk_at dksX2_findsDepths_5 0 rfl rfl)
theorem dX2_findsDepths_118 : decode cX2_findsDepths 118 = .ok (.aload_n 0, 1) := dk_42 (dk_at dksX2_findsDepths_5 1 rfl rfl)
theorem dX2_findsDepths_119 : decode cX2_findsDepths 119 = .ok (.getfield 44, 3) := dk_180 0 44 (dk_at dksX2_findsDepths_5 2 rfl rfl)
theorem dX2_findsDepths_122 : decode cX2_findsDepths 122 = .ok (.iload 4, 2) := dk_21 4 (dk_at dksX2_findsDepths_5 5 rfl rfl)
theorem dX2_findsDepths_124 : decode cX2_findsDepths 124 = .ok (.iaload, 1) := dk_46 (dk_at dksX2_findsDepths_5 7 rfl rfl)
theorem dX2_findsDepths_125 : decode cX2_findsDepths 125 = .ok (.ior, 1) := dk_128 (dk_at dksX2_findsDepths_5 8 rfl rfl)
theorem dX2_findsDepths_126 : decode cX2_findsDepths 126 = .ok (.iastore, 1) := dk_79 (dk_at dksX2_findsDepths_5 9 rfl rfl)
theorem dX2_findsDepths_127 : decode cX2_findsDepths 127 = .ok (.iinc 3 1, 3) := dk_132 3 1 (dk_at dksX2_findsDepths_5 10 rfl rfl)
theorem dX2_findsDepths_130 : decode cX2_findsDepths 130 = .ok (.goto (-74), 3) := dk_167 255 182 (dk_at dksX2_findsDepths_5 13 rfl rfl)
theorem dX2_findsDepths_133 : decode cX2_findsDepths 133 = .ok (.iinc 1 1, 3) := dk_132 1 1 (dk_at dksX2_findsDepths_5 16 rfl rfl)
theorem dX2_findsDepths_136 : decode cX2_findsDepths 136 = .ok (.goto (-134), 3) := dk_167 255 122 (dk_at dksX2_findsDepths_5 19 rfl rfl)
theorem dX2_findsDepths_139 : decode cX2_findsDepths 139 = .ok (.return_, 1) := dk_177 (dk_at dksX2_findsDepths_5 22 rfl rfl)
abbrev cX2_countOf : ByteArray := prog_8_method_23_code
def yX2_countOf : MethodName := ⟨RX2, "countOf", "(II)I"⟩
def dkwX2_countOf_1 : List UInt8 := [167, 255, 237, 29, 172]
abbrev dktX2_countOf_1 : List UInt8 := dkwX2_countOf_1 ++ []
def dkwX2_countOf_0 : List UInt8 := [3, 62, 3, 54, 4, 21, 4, 28, 162, 0, 19, 29, 42, 27, 21, 4, 182, 0, 107, 96, 62, 132, 4, 1]
abbrev dktX2_countOf_0 : List UInt8 := dkwX2_countOf_0 ++ dktX2_countOf_1
theorem dksX2_countOf_0 : cX2_countOf.data.toList.drop 0 = dktX2_countOf_0 := by decide +kernel
theorem dksX2_countOf_1 : cX2_countOf.data.toList.drop 24 = dktX2_countOf_1 := dk_seg dksX2_countOf_0 24 rfl rfl
theorem dX2_countOf_0 : decode cX2_countOf 0 = .ok (.iconst 0, 1) := dk_3 (dk_at dksX2_countOf_0 0 rfl rfl)
theorem dX2_countOf_1 : decode cX2_countOf 1 = .ok (.istore_n 3, 1) := dk_62 (dk_at dksX2_countOf_0 1 rfl rfl)
theorem dX2_countOf_2 : decode cX2_countOf 2 = .ok (.iconst 0, 1) := dk_3 (dk_at dksX2_countOf_0 2 rfl rfl)
theorem dX2_countOf_3 : decode cX2_countOf 3 = .ok (.istore 4, 2) := dk_54 4 (dk_at dksX2_countOf_0 3 rfl rfl)
theorem dX2_countOf_5 : decode cX2_countOf 5 = .ok (.iload 4, 2) := dk_21 4 (dk_at dksX2_countOf_0 5 rfl rfl)
theorem dX2_countOf_7 : decode cX2_countOf 7 = .ok (.iload_n 2, 1) := dk_28 (dk_at dksX2_countOf_0 7 rfl rfl)
theorem dX2_countOf_8 : decode cX2_countOf 8 = .ok (.if_icmp .ge 19, 3) := dk_162 0 19 (dk_at dksX2_countOf_0 8 rfl rfl)
theorem dX2_countOf_11 : decode cX2_countOf 11 = .ok (.iload_n 3, 1) := dk_29 (dk_at dksX2_countOf_0 11 rfl rfl)
theorem dX2_countOf_12 : decode cX2_countOf 12 = .ok (.aload_n 0, 1) := dk_42 (dk_at dksX2_countOf_0 12 rfl rfl)
theorem dX2_countOf_13 : decode cX2_countOf 13 = .ok (.iload_n 1, 1) := dk_27 (dk_at dksX2_countOf_0 13 rfl rfl)
theorem dX2_countOf_14 : decode cX2_countOf 14 = .ok (.iload 4, 2) := dk_21 4 (dk_at dksX2_countOf_0 14 rfl rfl)
theorem dX2_countOf_16 : decode cX2_countOf 16 = .ok (.invokevirtual 107, 3) := dk_182 0 107 (dk_at dksX2_countOf_0 16 rfl rfl)
theorem dX2_countOf_19 : decode cX2_countOf 19 = .ok (.iadd, 1) := dk_96 (dk_at dksX2_countOf_0 19 rfl rfl)
theorem dX2_countOf_20 : decode cX2_countOf 20 = .ok (.istore_n 3, 1) := dk_62 (dk_at dksX2_countOf_0 20 rfl rfl)
theorem dX2_countOf_21 : decode cX2_countOf 21 = .ok (.iinc 4 1, 3) := dk_132 4 1 (dk_at dksX2_countOf_0 21 rfl rfl)
theorem dX2_countOf_24 : decode cX2_countOf 24 = .ok (.goto (-19), 3) := dk_167 255 237 (dk_at dksX2_countOf_1 0 rfl rfl)
theorem dX2_countOf_27 : decode cX2_countOf 27 = .ok (.iload_n 3, 1) := dk_29 (dk_at dksX2_countOf_1 3 rfl rfl)
theorem dX2_countOf_28 : decode cX2_countOf 28 = .ok (.ireturn, 1) := dk_172 (dk_at dksX2_countOf_1 4 rfl rfl)
abbrev cX2_errorBy : ByteArray := prog_8_method_26_code
def yX2_errorBy : MethodName := ⟨RX2, "errorBy", "(III)I"⟩
def dkwX2_errorBy_0 : List UInt8 := [28, 133, 20, 0, 118, 105, 29, 133, 109, 136, 42, 180, 0, 32, 27, 46, 184, 0, 122, 172]
abbrev dktX2_errorBy_0 : List UInt8 := dkwX2_errorBy_0 ++ []
theorem dksX2_errorBy_0 : cX2_errorBy.data.toList.drop 0 = dktX2_errorBy_0 := by decide +kernel
theorem dX2_errorBy_0 : decode cX2_errorBy 0 = .ok (.iload_n 2, 1) := dk_28 (dk_at dksX2_errorBy_0 0 rfl rfl)
theorem dX2_errorBy_1 : decode cX2_errorBy 1 = .ok (.i2l, 1) := dk_133 (dk_at dksX2_errorBy_0 1 rfl rfl)
theorem dX2_errorBy_2 : decode cX2_errorBy 2 = .ok (.ldc2_w 118, 3) := dk_20 0 118 (dk_at dksX2_errorBy_0 2 rfl rfl)
theorem dX2_errorBy_5 : decode cX2_errorBy 5 = .ok (.lmul, 1) := dk_105 (dk_at dksX2_errorBy_0 5 rfl rfl)
theorem dX2_errorBy_6 : decode cX2_errorBy 6 = .ok (.iload_n 3, 1) := dk_29 (dk_at dksX2_errorBy_0 6 rfl rfl)
theorem dX2_errorBy_7 : decode cX2_errorBy 7 = .ok (.i2l, 1) := dk_133 (dk_at dksX2_errorBy_0 7 rfl rfl)
theorem dX2_errorBy_8 : decode cX2_errorBy 8 = .ok (.ldiv, 1) := dk_109 (dk_at dksX2_errorBy_0 8 rfl rfl)
theorem dX2_errorBy_9 : decode cX2_errorBy 9 = .ok (.l2i, 1) := dk_136 (dk_at dksX2_errorBy_0 9 rfl rfl)
theorem dX2_errorBy_10 : decode cX2_errorBy 10 = .ok (.aload_n 0, 1) := dk_42 (dk_at dksX2_errorBy_0 10 rfl rfl)
theorem dX2_errorBy_11 : decode cX2_errorBy 11 = .ok (.getfield 32, 3) := dk_180 0 32 (dk_at dksX2_errorBy_0 11 rfl rfl)
theorem dX2_errorBy_14 : decode cX2_errorBy 14 = .ok (.iload_n 1, 1) := dk_27 (dk_at dksX2_errorBy_0 14 rfl rfl)
theorem dX2_errorBy_15 : decode cX2_errorBy 15 = .ok (.iaload, 1) := dk_46 (dk_at dksX2_errorBy_0 15 rfl rfl)
theorem dX2_errorBy_16 : decode cX2_errorBy 16 = .ok (.invokestatic 122, 3) := dk_184 0 122 (dk_at dksX2_errorBy_0 16 rfl rfl)
theorem dX2_errorBy_19 : decode cX2_errorBy 19 = .ok (.ireturn, 1) := dk_172 (dk_at dksX2_errorBy_0 19 rfl rfl)
abbrev cX2_apart : ByteArray := prog_8_method_25_code
def yX2_apart : MethodName := ⟨RX2, "apart", "(II)I"⟩
def dkwX2_apart_0 : List UInt8 := [26, 27, 162, 0, 9, 27, 26, 100, 167, 0, 6, 26, 27, 100, 172]
abbrev dktX2_apart_0 : List UInt8 := dkwX2_apart_0 ++ []
theorem dksX2_apart_0 : cX2_apart.data.toList.drop 0 = dktX2_apart_0 := by decide +kernel
theorem dX2_apart_0 : decode cX2_apart 0 = .ok (.iload_n 0, 1) := dk_26 (dk_at dksX2_apart_0 0 rfl rfl)
theorem dX2_apart_1 : decode cX2_apart 1 = .ok (.iload_n 1, 1) := dk_27 (dk_at dksX2_apart_0 1 rfl rfl)
theorem dX2_apart_2 : decode cX2_apart 2 = .ok (.if_icmp .ge 9, 3) := dk_162 0 9 (dk_at dksX2_apart_0 2 rfl rfl)
theorem dX2_apart_5 : decode cX2_apart 5 = .ok (.iload_n 1, 1) := dk_27 (dk_at dksX2_apart_0 5 rfl rfl)
theorem dX2_apart_6 : decode cX2_apart 6 = .ok (.iload_n 0, 1) := dk_26 (dk_at dksX2_apart_0 6 rfl rfl)
theorem dX2_apart_7 : decode cX2_apart 7 = .ok (.isub, 1) := dk_100 (dk_at dksX2_apart_0 7 rfl rfl)
theorem dX2_apart_8 : decode cX2_apart 8 = .ok (.goto 6, 3) := dk_167 0 6 (dk_at dksX2_apart_0 8 rfl rfl)
theorem dX2_apart_11 : decode cX2_apart 11 = .ok (.iload_n 0, 1) := dk_26 (dk_at dksX2_apart_0 11 rfl rfl)
theorem dX2_apart_12 : decode cX2_apart 12 = .ok (.iload_n 1, 1) := dk_27 (dk_at dksX2_apart_0 12 rfl rfl)
theorem dX2_apart_13 : decode cX2_apart 13 = .ok (.isub, 1) := dk_100 (dk_at dksX2_apart_0 13 rfl rfl)
theorem dX2_apart_14 : decode cX2_apart 14 = .ok (.ireturn, 1) := dk_172 (dk_at dksX2_apart_0 14 rfl rfl)
abbrev cX2_bitsOf : ByteArray := prog_8_method_45_code
def yX2_bitsOf : MethodName := ⟨RX2, "bitsOf", "(I)I"⟩
def dkwX2_bitsOf_0 : List UInt8 := [3, 60, 26, 61, 28, 153, 0, 15, 132, 1, 1, 28, 28, 4, 100, 126, 61, 167, 255, 243, 27, 172]
abbrev dktX2_bitsOf_0 : List UInt8 := dkwX2_bitsOf_0 ++ []
theorem dksX2_bitsOf_0 : cX2_bitsOf.data.toList.drop 0 = dktX2_bitsOf_0 := by decide +kernel
theorem dX2_bitsOf_0 : decode cX2_bitsOf 0 = .ok (.iconst 0, 1) := dk_3 (dk_at dksX2_bitsOf_0 0 rfl rfl)
theorem dX2_bitsOf_1 : decode cX2_bitsOf 1 = .ok (.istore_n 1, 1) := dk_60 (dk_at dksX2_bitsOf_0 1 rfl rfl)
theorem dX2_bitsOf_2 : decode cX2_bitsOf 2 = .ok (.iload_n 0, 1) := dk_26 (dk_at dksX2_bitsOf_0 2 rfl rfl)
theorem dX2_bitsOf_3 : decode cX2_bitsOf 3 = .ok (.istore_n 2, 1) := dk_61 (dk_at dksX2_bitsOf_0 3 rfl rfl)
theorem dX2_bitsOf_4 : decode cX2_bitsOf 4 = .ok (.iload_n 2, 1) := dk_28 (dk_at dksX2_bitsOf_0 4 rfl rfl)
theorem dX2_bitsOf_5 : decode cX2_bitsOf 5 = .ok (.ifCond .eq 15, 3) := dk_153 0 15 (dk_at dksX2_bitsOf_0 5 rfl rfl)
theorem dX2_bitsOf_8 : decode cX2_bitsOf 8 = .ok (.iinc 1 1, 3) := dk_132 1 1 (dk_at dksX2_bitsOf_0 8 rfl rfl)
theorem dX2_bitsOf_11 : decode cX2_bitsOf 11 = .ok (.iload_n 2, 1) := dk_28 (dk_at dksX2_bitsOf_0 11 rfl rfl)
theorem dX2_bitsOf_12 : decode cX2_bitsOf 12 = .ok (.iload_n 2, 1) := dk_28 (dk_at dksX2_bitsOf_0 12 rfl rfl)
theorem dX2_bitsOf_13 : decode cX2_bitsOf 13 = .ok (.iconst 1, 1) := dk_4 (dk_at dksX2_bitsOf_0 13 rfl rfl)
theorem dX2_bitsOf_14 : decode cX2_bitsOf 14 = .ok (.isub, 1) := dk_100 (dk_at dksX2_bitsOf_0 14 rfl rfl)
theorem dX2_bitsOf_15 : decode cX2_bitsOf 15 = .ok (.iand, 1) := dk_126 (dk_at dksX2_bitsOf_0 15 rfl rfl)
theorem dX2_bitsOf_16 : decode cX2_bitsOf 16 = .ok (.istore_n 2, 1) := dk_61 (dk_at dksX2_bitsOf_0 16 rfl rfl)
theorem dX2_bitsOf_17 : decode cX2_bitsOf 17 = .ok (.goto (-13), 3) := dk_167 255 243 (dk_at dksX2_bitsOf_0 17 rfl rfl)
theorem dX2_bitsOf_20 : decode cX2_bitsOf 20 = .ok (.iload_n 1, 1) := dk_27 (dk_at dksX2_bitsOf_0 20 rfl rfl)
theorem dX2_bitsOf_21 : decode cX2_bitsOf 21 = .ok (.ireturn, 1) := dk_172 (dk_at dksX2_bitsOf_0 21 rfl rfl)
abbrev cX2_bit : ByteArray := prog_8_method_47_code
def yX2_bit : MethodName := ⟨RX2, "bit", "(II)I"⟩
def dkwX2_bit_1 : List UInt8 := [18, 90, 172, 42, 27, 28, 4, 96, 182, 0, 125, 42, 27, 28, 182, 0, 107, 172]
abbrev dktX2_bit_1 : List UInt8 := dkwX2_bit_1 ++ []
def dkwX2_bit_0 : List UInt8 := [42, 27, 182, 0, 91, 154, 0, 6, 18, 95, 172, 28, 133, 9, 20, 0, 201, 184, 0, 65, 154, 0, 6]
abbrev dktX2_bit_0 : List UInt8 := dkwX2_bit_0 ++ dktX2_bit_1
theorem dksX2_bit_0 : cX2_bit.data.toList.drop 0 = dktX2_bit_0 := by decide +kernel
theorem dksX2_bit_1 : cX2_bit.data.toList.drop 23 = dktX2_bit_1 := dk_seg dksX2_bit_0 23 rfl rfl
theorem dX2_bit_0 : decode cX2_bit 0 = .ok (.aload_n 0, 1) := dk_42 (dk_at dksX2_bit_0 0 rfl rfl)
theorem dX2_bit_1 : decode cX2_bit 1 = .ok (.iload_n 1, 1) := dk_27 (dk_at dksX2_bit_0 1 rfl rfl)
theorem dX2_bit_2 : decode cX2_bit 2 = .ok (.invokevirtual 91, 3) := dk_182 0 91 (dk_at dksX2_bit_0 2 rfl rfl)
theorem dX2_bit_5 : decode cX2_bit 5 = .ok (.ifCond .ne 6, 3) := dk_154 0 6 (dk_at dksX2_bit_0 5 rfl rfl)
theorem dX2_bit_8 : decode cX2_bit 8 = .ok (.ldc 95, 2) := dk_18 95 (dk_at dksX2_bit_0 8 rfl rfl)
theorem dX2_bit_10 : decode cX2_bit 10 = .ok (.ireturn, 1) := dk_172 (dk_at dksX2_bit_0 10 rfl rfl)
theorem dX2_bit_11 : decode cX2_bit 11 = .ok (.iload_n 2, 1) := dk_28 (dk_at dksX2_bit_0 11 rfl rfl)
theorem dX2_bit_12 : decode cX2_bit 12 = .ok (.i2l, 1) := dk_133 (dk_at dksX2_bit_0 12 rfl rfl)
theorem dX2_bit_13 : decode cX2_bit 13 = .ok (.lconst 0, 1) := dk_9 (dk_at dksX2_bit_0 13 rfl rfl)
theorem dX2_bit_14 : decode cX2_bit 14 = .ok (.ldc2_w 201, 3) := dk_20 0 201 (dk_at dksX2_bit_0 14 rfl rfl)
theorem dX2_bit_17 : decode cX2_bit 17 = .ok (.invokestatic 65, 3) := dk_184 0 65 (dk_at dksX2_bit_0 17 rfl rfl)
theorem dX2_bit_20 : decode cX2_bit 20 = .ok (.ifCond .ne 6, 3) := dk_154 0 6 (dk_at dksX2_bit_0 20 rfl rfl)
theorem dX2_bit_23 : decode cX2_bit 23 = .ok (.ldc 90, 2) := dk_18 90 (dk_at dksX2_bit_1 0 rfl rfl)
theorem dX2_bit_25 : decode cX2_bit 25 = .ok (.ireturn, 1) := dk_172 (dk_at dksX2_bit_1 2 rfl rfl)
theorem dX2_bit_26 : decode cX2_bit 26 = .ok (.aload_n 0, 1) := dk_42 (dk_at dksX2_bit_1 3 rfl rfl)
theorem dX2_bit_27 : decode cX2_bit 27 = .ok (.iload_n 1, 1) := dk_27 (dk_at dksX2_bit_1 4 rfl rfl)
theorem dX2_bit_28 : decode cX2_bit 28 = .ok (.iload_n 2, 1) := dk_28 (dk_at dksX2_bit_1 5 rfl rfl)
theorem dX2_bit_29 : decode cX2_bit 29 = .ok (.iconst 1, 1) := dk_4 (dk_at dksX2_bit_1 6 rfl rfl)
theorem dX2_bit_30 : decode cX2_bit 30 = .ok (.iadd, 1) := dk_96 (dk_at dksX2_bit_1 7 rfl rfl)
theorem dX2_bit_31 : decode cX2_bit 31 = .ok (.invokevirtual 125, 3) := dk_182 0 125 (dk_at dksX2_bit_1 8 rfl rfl)
theorem dX2_bit_34 : decode cX2_bit 34 = .ok (.aload_n 0, 1) := dk_42 (dk_at dksX2_bit_1 11 rfl rfl)
theorem dX2_bit_35 : decode cX2_bit 35 = .ok (.iload_n 1, 1) := dk_27 (dk_at dksX2_bit_1 12 rfl rfl)
theorem dX2_bit_36 : decode cX2_bit 36 = .ok (.iload_n 2, 1) := dk_28 (dk_at dksX2_bit_1 13 rfl rfl)
theorem dX2_bit_37 : decode cX2_bit 37 = .ok (.invokevirtual 107, 3) := dk_182 0 107 (dk_at dksX2_bit_1 14 rfl rfl)
theorem dX2_bit_40 : decode cX2_bit 40 = .ok (.ireturn, 1) := dk_172 (dk_at dksX2_bit_1 17 rfl rfl)
abbrev cX2_overlap : ByteArray := prog_8_method_48_code
def yX2_overlap : MethodName := ⟨RX2, "overlap", "(II)I"⟩
def dkwX2_overlap_4 : List UInt8 := [182, 0, 133, 133, 105, 101, 55, 6, 22, 6, 20, 0, 118, 105, 29, 133, 29, 133, 105, 109, 136, 172]
abbrev dktX2_overlap_4 : List UInt8 := dkwX2_overlap_4 ++ []
def dkwX2_overlap_3 : List UInt8 := [97, 55, 4, 132, 6, 1, 167, 255, 226, 22, 4, 29, 133, 105, 42, 27, 29, 182, 0, 133, 133, 42, 28, 29]
abbrev dktX2_overlap_3 : List UInt8 := dkwX2_overlap_3 ++ dktX2_overlap_4
def dkwX2_overlap_2 : List UInt8 := [21, 6, 29, 162, 0, 30, 22, 4, 42, 27, 21, 6, 182, 0, 107, 42, 28, 21, 6, 182, 0, 107, 126, 133]
abbrev dktX2_overlap_2 : List UInt8 := dkwX2_overlap_2 ++ dktX2_overlap_3
def dkwX2_overlap_1 : List UInt8 := [46, 62, 42, 27, 28, 164, 0, 7, 27, 167, 0, 4, 28, 29, 182, 0, 125, 9, 55, 4, 3, 54, 6]
abbrev dktX2_overlap_1 : List UInt8 := dkwX2_overlap_1 ++ dktX2_overlap_2
def dkwX2_overlap_0 : List UInt8 := [42, 27, 182, 0, 91, 153, 0, 11, 42, 28, 182, 0, 91, 154, 0, 6, 18, 95, 172, 42, 180, 0, 7, 4]
abbrev dktX2_overlap_0 : List UInt8 := dkwX2_overlap_0 ++ dktX2_overlap_1
theorem dksX2_overlap_0 : cX2_overlap.data.toList.drop 0 = dktX2_overlap_0 := by decide +kernel
theorem dksX2_overlap_1 : cX2_overlap.data.toList.drop 24 = dktX2_overlap_1 := dk_seg dksX2_overlap_0 24 rfl rfl
theorem dksX2_overlap_2 : cX2_overlap.data.toList.drop 47 = dktX2_overlap_2 := dk_seg dksX2_overlap_1 23 rfl rfl
theorem dksX2_overlap_3 : cX2_overlap.data.toList.drop 71 = dktX2_overlap_3 := dk_seg dksX2_overlap_2 24 rfl rfl
theorem dksX2_overlap_4 : cX2_overlap.data.toList.drop 95 = dktX2_overlap_4 := dk_seg dksX2_overlap_3 24 rfl rfl
theorem dX2_overlap_0 : decode cX2_overlap 0 = .ok (.aload_n 0, 1) := dk_42 (dk_at dksX2_overlap_0 0 rfl rfl)
theorem dX2_overlap_1 : decode cX2_overlap 1 = .ok (.iload_n 1, 1) := dk_27 (dk_at dksX2_overlap_0 1 rfl rfl)
theorem dX2_overlap_2 : decode cX2_overlap 2 = .ok (.invokevirtual 91, 3) := dk_182 0 91 (dk_at dksX2_overlap_0 2 rfl rfl)
theorem dX2_overlap_5 : decode cX2_overlap 5 = .ok (.ifCond .eq 11, 3) := dk_153 0 11 (dk_at dksX2_overlap_0 5 rfl rfl)
theorem dX2_overlap_8 : decode cX2_overlap 8 = .ok (.aload_n 0, 1) := dk_42 (dk_at dksX2_overlap_0 8 rfl rfl)
theorem dX2_overlap_9 : decode cX2_overlap 9 = .ok (.iload_n 2, 1) := dk_28 (dk_at dksX2_overlap_0 9 rfl rfl)
theorem dX2_overlap_10 : decode cX2_overlap 10 = .ok (.invokevirtual 91, 3) := dk_182 0 91 (dk_at dksX2_overlap_0 10 rfl rfl)
theorem dX2_overlap_13 : decode cX2_overlap 13 = .ok (.ifCond .ne 6, 3) := dk_154 0 6 (dk_at dksX2_overlap_0 13 rfl rfl)
theorem dX2_overlap_16 : decode cX2_overlap 16 = .ok (.ldc 95, 2) := dk_18 95 (dk_at dksX2_overlap_0 16 rfl rfl)
theorem dX2_overlap_18 : decode cX2_overlap 18 = .ok (.ireturn, 1) := dk_172 (dk_at dksX2_overlap_0 18 rfl rfl)
theorem dX2_overlap_19 : decode cX2_overlap 19 = .ok (.aload_n 0, 1) := dk_42 (dk_at dksX2_overlap_0 19 rfl rfl)
theorem dX2_overlap_20 : decode cX2_overlap 20 = .ok (.getfield 7, 3) := dk_180 0 7 (dk_at dksX2_overlap_0 20 rfl rfl)
theorem dX2_overlap_23 : decode cX2_overlap 23 = .ok (.iconst 1, 1) := dk_4 (dk_at dksX2_overlap_0 23 rfl rfl)
theorem dX2_overlap_24 : decode cX2_overlap 24 = .ok (.iaload, 1) := dk_46 (dk_at dksX2_overlap_1 0 rfl rfl)
theorem dX2_overlap_25 : decode cX2_overlap 25 = .ok (.istore_n 3, 1) := dk_62 (dk_at dksX2_overlap_1 1 rfl rfl)
theorem dX2_overlap_26 : decode cX2_overlap 26 = .ok (.aload_n 0, 1) := dk_42 (dk_at dksX2_overlap_1 2 rfl rfl)
theorem dX2_overlap_27 : decode cX2_overlap 27 = .ok (.iload_n 1, 1) := dk_27 (dk_at dksX2_overlap_1 3 rfl rfl)
theorem dX2_overlap_28 : decode cX2_overlap 28 = .ok (.iload_n 2, 1) := dk_28 (dk_at dksX2_overlap_1 4 rfl rfl)
theorem dX2_overlap_29 : decode cX2_overlap 29 = .ok (.if_icmp .le 7, 3) := dk_164 0 7 (dk_at dksX2_overlap_1 5 rfl rfl)
theorem dX2_overlap_32 : decode cX2_overlap 32 = .ok (.iload_n 1, 1) := dk_27 (dk_at dksX2_overlap_1 8 rfl rfl)
theorem dX2_overlap_33 : decode cX2_overlap 33 = .ok (.goto 4, 3) := dk_167 0 4 (dk_at dksX2_overlap_1 9 rfl rfl)
theorem dX2_overlap_36 : decode cX2_overlap 36 = .ok (.iload_n 2, 1) := dk_28 (dk_at dksX2_overlap_1 12 rfl rfl)
theorem dX2_overlap_37 : decode cX2_overlap 37 = .ok (.iload_n 3, 1) := dk_29 (dk_at dksX2_overlap_1 13 rfl rfl)
theorem dX2_overlap_38 : decode cX2_overlap 38 = .ok (.invokevirtual 125, 3) := dk_182 0 125 (dk_at dksX2_overlap_1 14 rfl rfl)
theorem dX2_overlap_41 : decode cX2_overlap 41 = .ok (.lconst 0, 1) := dk_9 (dk_at dksX2_overlap_1 17 rfl rfl)
theorem dX2_overlap_42 : decode cX2_overlap 42 = .ok (.lstore 4, 2) := dk_55 4 (dk_at dksX2_overlap_1 18 rfl rfl)
theorem dX2_overlap_44 : decode cX2_overlap 44 = .ok (.iconst 0, 1) := dk_3 (dk_at dksX2_overlap_1 20 rfl rfl)
theorem dX2_overlap_45 : decode cX2_overlap 45 = .ok (.istore 6, 2) := dk_54 6 (dk_at dksX2_overlap_1 21 rfl rfl)
theorem dX2_overlap_47 : decode cX2_overlap 47 = .ok (.iload 6, 2) := dk_21 6 (dk_at dksX2_overlap_2 0 rfl rfl)
theorem dX2_overlap_49 : decode cX2_overlap 49 = .ok (.iload_n 3, 1) := dk_29 (dk_at dksX2_overlap_2 2 rfl rfl)
theorem dX2_overlap_50 : decode cX2_overlap 50 = .ok (.if_icmp .ge 30, 3) := dk_162 0 30 (dk_at dksX2_overlap_2 3 rfl rfl)
theorem dX2_overlap_53 : decode cX2_overlap 53 = .ok (.lload 4, 2) := dk_22 4 (dk_at dksX2_overlap_2 6 rfl rfl)
theorem dX2_overlap_55 : decode cX2_overlap 55 = .ok (.aload_n 0, 1) := dk_42 (dk_at dksX2_overlap_2 8 rfl rfl)
theorem dX2_overlap_56 : decode cX2_overlap 56 = .ok (.iload_n 1, 1) := dk_27 (dk_at dksX2_overlap_2 9 rfl rfl)
theorem dX2_overlap_57 : decode cX2_overlap 57 = .ok (.iload 6, 2) := dk_21 6 (dk_at dksX2_overlap_2 10 rfl rfl)
theorem dX2_overlap_59 : decode cX2_overlap 59 = .ok (.invokevirtual 107, 3) := dk_182 0 107 (dk_at dksX2_overlap_2 12 rfl rfl)
theorem dX2_overlap_62 : decode cX2_overlap 62 = .ok (.aload_n 0, 1) := dk_42 (dk_at dksX2_overlap_2 15 rfl rfl)
theorem dX2_overlap_63 : decode cX2_overlap 63 = .ok (.iload_n 2, 1) := dk_28 (dk_at dksX2_overlap_2 16 rfl rfl)
theorem dX2_overlap_64 : decode cX2_overlap 64 = .ok (.iload 6, 2) := dk_21 6 (dk_at dksX2_overlap_2 17 rfl rfl)
theorem dX2_overlap_66 : decode cX2_overlap 66 = .ok (.invokevirtual 107, 3) := dk_182 0 107 (dk_at dksX2_overlap_2 19 rfl rfl)
theorem dX2_overlap_69 : decode cX2_overlap 69 = .ok (.iand, 1) := dk_126 (dk_at dksX2_overlap_2 22 rfl rfl)
theorem dX2_overlap_70 : decode cX2_overlap 70 = .ok (.i2l, 1) := dk_133 (dk_at dksX2_overlap_2 23 rfl rfl)
theorem dX2_overlap_71 : decode cX2_overlap 71 = .ok (.ladd, 1) := dk_97 (dk_at dksX2_overlap_3 0 rfl rfl)
theorem dX2_overlap_72 : decode cX2_overlap 72 = .ok (.lstore 4, 2) := dk_55 4 (dk_at dksX2_overlap_3 1 rfl rfl)
theorem dX2_overlap_74 : decode cX2_overlap 74 = .ok (.iinc 6 1, 3) := dk_132 6 1 (dk_at dksX2_overlap_3 3 rfl rfl)
theorem dX2_overlap_77 : decode cX2_overlap 77 = .ok (.goto (-30), 3) := dk_167 255 226 (dk_at dksX2_overlap_3 6 rfl rfl)
theorem dX2_overlap_80 : decode cX2_overlap 80 = .ok (.lload 4, 2) := dk_22 4 (dk_at dksX2_overlap_3 9 rfl rfl)
theorem dX2_overlap_82 : decode cX2_overlap 82 = .ok (.iload_n 3, 1) := dk_29 (dk_at dksX2_overlap_3 11 rfl rfl)
theorem dX2_overlap_83 : decode cX2_overlap 83 = .ok (.i2l, 1) := dk_133 (dk_at dksX2_overlap_3 12 rfl rfl)
theorem dX2_overlap_84 : decode cX2_overlap 84 = .ok (.lmul, 1) := dk_105 (dk_at dksX2_overlap_3 13 rfl rfl)
theorem dX2_overlap_85 : decode cX2_overlap 85 = .ok (.aload_n 0, 1) := dk_42 (dk_at dksX2_overlap_3 14 rfl rfl)
theorem dX2_overlap_86 : decode cX2_overlap 86 = .ok (.iload_n 1, 1) := dk_27 (dk_at dksX2_overlap_3 15 rfl rfl)
theorem dX2_overlap_87 : decode cX2_overlap 87 = .ok (.iload_n 3, 1) := dk_29 (dk_at dksX2_overlap_3 16 rfl rfl)
theorem dX2_overlap_88 : decode cX2_overlap 88 = .ok (.invokevirtual 133, 3) := dk_182 0 133 (dk_at dksX2_overlap_3 17 rfl rfl)
theorem dX2_overlap_91 : decode cX2_overlap 91 = .ok (.i2l, 1) := dk_133 (dk_at dksX2_overlap_3 20 rfl rfl)
theorem dX2_overlap_92 : decode cX2_overlap 92 = .ok (.aload_n 0, 1) := dk_42 (dk_at dksX2_overlap_3 21 rfl rfl)
theorem dX2_overlap_93 : decode cX2_overlap 93 = .ok (.iload_n 2, 1) := dk_28 (dk_at dksX2_overlap_3 22 rfl rfl)
theorem dX2_overlap_94 : decode cX2_overlap 94 = .ok (.iload_n 3, 1) := dk_29 (dk_at dksX2_overlap_3 23 rfl rfl)
theorem dX2_overlap_95 : decode cX2_overlap 95 = .ok (.invokevirtual 133, 3) := dk_182 0 133 (dk_at dksX2_overlap_4 0 rfl rfl)
theorem dX2_overlap_98 : decode cX2_overlap 98 = .ok (.i2l, 1) := dk_133 (dk_at dksX2_overlap_4 3 rfl rfl)
theorem dX2_overlap_99 : decode cX2_overlap 99 = .ok (.lmul, 1) := dk_105 (dk_at dksX2_overlap_4 4 rfl rfl)
theorem dX2_overlap_100 : decode cX2_overlap 100 = .ok (.lsub, 1) := dk_101 (dk_at dksX2_overlap_4 5 rfl rfl)
theorem dX2_overlap_101 : decode cX2_overlap 101 = .ok (.lstore 6, 2) := dk_55 6 (dk_at dksX2_overlap_4 6 rfl rfl)
theorem dX2_overlap_103 : decode cX2_overlap 103 = .ok (.lload 6, 2) := dk_22 6 (dk_at dksX2_overlap_4 8 rfl rfl)
theorem dX2_overlap_105 : decode cX2_overlap 105 = .ok (.ldc2_w 118, 3) := dk_20 0 118 (dk_at dksX2_overlap_4 10 rfl rfl)
theorem dX2_overlap_108 : decode cX2_overlap 108 = .ok (.lmul, 1) := dk_105 (dk_at dksX2_overlap_4 13 rfl rfl)
theorem dX2_overlap_109 : decode cX2_overlap 109 = .ok (.iload_n 3, 1) := dk_29 (dk_at dksX2_overlap_4 14 rfl rfl)
theorem dX2_overlap_110 : decode cX2_overlap 110 = .ok (.i2l, 1) := dk_133 (dk_at dksX2_overlap_4 15 rfl rfl)
theorem dX2_overlap_111 : decode cX2_overlap 111 = .ok (.iload_n 3, 1) := dk_29 (dk_at dksX2_overlap_4 16 rfl rfl)
theorem dX2_overlap_112 : decode cX2_overlap 112 = .ok (.i2l, 1) := dk_133 (dk_at dksX2_overlap_4 17 rfl rfl)
theorem dX2_overlap_113 : decode cX2_overlap 113 = .ok (.lmul, 1) := dk_105 (dk_at dksX2_overlap_4 18 rfl rfl)
theorem dX2_overlap_114 : decode cX2_overlap 114 = .ok (.ldiv, 1) := dk_109 (dk_at dksX2_overlap_4 19 rfl rfl)
theorem dX2_overlap_115 : decode cX2_overlap 115 = .ok (.l2i, 1) := dk_136 (dk_at dksX2_overlap_4 20 rfl rfl)
theorem dX2_overlap_116 : decode cX2_overlap 116 = .ok (.ireturn, 1) := dk_172 (dk_at dksX2_overlap_4 21 rfl rfl)
abbrev cX2_errorAt : ByteArray := prog_8_method_49_code
def yX2_errorAt : MethodName := ⟨RX2, "errorAt", "(II)I"⟩
def dkwX2_errorAt_1 : List UInt8 := [27, 28, 182, 0, 203, 167, 0, 5, 18, 90, 172]
abbrev dktX2_errorAt_1 : List UInt8 := dkwX2_errorAt_1 ++ []
def dkwX2_errorAt_0 : List UInt8 := [42, 27, 182, 0, 91, 154, 0, 6, 18, 95, 172, 28, 133, 10, 20, 0, 105, 184, 0, 65, 153, 0, 12, 42]
abbrev dktX2_errorAt_0 : List UInt8 := dkwX2_errorAt_0 ++ dktX2_errorAt_1
theorem dksX2_errorAt_0 : cX2_errorAt.data.toList.drop 0 = dktX2_errorAt_0 := by decide +kernel
theorem dksX2_errorAt_1 : cX2_errorAt.data.toList.drop 24 = dktX2_errorAt_1 := dk_seg dksX2_errorAt_0 24 rfl rfl
theorem dX2_errorAt_0 : decode cX2_errorAt 0 = .ok (.aload_n 0, 1) := dk_42 (dk_at dksX2_errorAt_0 0 rfl rfl)
theorem dX2_errorAt_1 : decode cX2_errorAt 1 = .ok (.iload_n 1, 1) := dk_27 (dk_at dksX2_errorAt_0 1 rfl rfl)
theorem dX2_errorAt_2 : decode cX2_errorAt 2 = .ok (.invokevirtual 91, 3) := dk_182 0 91 (dk_at dksX2_errorAt_0 2 rfl rfl)
theorem dX2_errorAt_5 : decode cX2_errorAt 5 = .ok (.ifCond .ne 6, 3) := dk_154 0 6 (dk_at dksX2_errorAt_0 5 rfl rfl)
theorem dX2_errorAt_8 : decode cX2_errorAt 8 = .ok (.ldc 95, 2) := dk_18 95 (dk_at dksX2_errorAt_0 8 rfl rfl)
theorem dX2_errorAt_10 : decode cX2_errorAt 10 = .ok (.ireturn, 1) := dk_172 (dk_at dksX2_errorAt_0 10 rfl rfl)
theorem dX2_errorAt_11 : decode cX2_errorAt 11 = .ok (.iload_n 2, 1) := dk_28 (dk_at dksX2_errorAt_0 11 rfl rfl)
theorem dX2_errorAt_12 : decode cX2_errorAt 12 = .ok (.i2l, 1) := dk_133 (dk_at dksX2_errorAt_0 12 rfl rfl)
theorem dX2_errorAt_13 : decode cX2_errorAt 13 = .ok (.lconst 1, 1) := dk_10 (dk_at dksX2_errorAt_0 13 rfl rfl)
theorem dX2_errorAt_14 : decode cX2_errorAt 14 = .ok (.ldc2_w 105, 3) := dk_20 0 105 (dk_at dksX2_errorAt_0 14 rfl rfl)
theorem dX2_errorAt_17 : decode cX2_errorAt 17 = .ok (.invokestatic 65, 3) := dk_184 0 65 (dk_at dksX2_errorAt_0 17 rfl rfl)
theorem dX2_errorAt_20 : decode cX2_errorAt 20 = .ok (.ifCond .eq 12, 3) := dk_153 0 12 (dk_at dksX2_errorAt_0 20 rfl rfl)
theorem dX2_errorAt_23 : decode cX2_errorAt 23 = .ok (.aload_n 0, 1) := dk_42 (dk_at dksX2_errorAt_0 23 rfl rfl)
theorem dX2_errorAt_24 : decode cX2_errorAt 24 = .ok (.iload_n 1, 1) := dk_27 (dk_at dksX2_errorAt_1 0 rfl rfl)
theorem dX2_errorAt_25 : decode cX2_errorAt 25 = .ok (.iload_n 2, 1) := dk_28 (dk_at dksX2_errorAt_1 1 rfl rfl)
theorem dX2_errorAt_26 : decode cX2_errorAt 26 = .ok (.invokevirtual 203, 3) := dk_182 0 203 (dk_at dksX2_errorAt_1 2 rfl rfl)
theorem dX2_errorAt_29 : decode cX2_errorAt 29 = .ok (.goto 5, 3) := dk_167 0 5 (dk_at dksX2_errorAt_1 5 rfl rfl)
theorem dX2_errorAt_32 : decode cX2_errorAt 32 = .ok (.ldc 90, 2) := dk_18 90 (dk_at dksX2_errorAt_1 8 rfl rfl)
theorem dX2_errorAt_34 : decode cX2_errorAt 34 = .ok (.ireturn, 1) := dk_172 (dk_at dksX2_errorAt_1 10 rfl rfl)
abbrev cX2_errorOf : ByteArray := prog_8_method_27_code
def yX2_errorOf : MethodName := ⟨RX2, "errorOf", "(II)I"⟩
def dkwX2_errorOf_0 : List UInt8 := [42, 27, 28, 182, 0, 125, 42, 27, 182, 0, 129, 42, 27, 42, 27, 28, 182, 0, 133, 28, 182, 0, 136, 172]
abbrev dktX2_errorOf_0 : List UInt8 := dkwX2_errorOf_0 ++ []
theorem dksX2_errorOf_0 : cX2_errorOf.data.toList.drop 0 = dktX2_errorOf_0 := by decide +kernel
theorem dX2_errorOf_0 : decode cX2_errorOf 0 = .ok (.aload_n 0, 1) := dk_42 (dk_at dksX2_errorOf_0 0 rfl rfl)
theorem dX2_errorOf_1 : decode cX2_errorOf 1 = .ok (.iload_n 1, 1) := dk_27 (dk_at dksX2_errorOf_0 1 rfl rfl)
theorem dX2_errorOf_2 : decode cX2_errorOf 2 = .ok (.iload_n 2, 1) := dk_28 (dk_at dksX2_errorOf_0 2 rfl rfl)
theorem dX2_errorOf_3 : decode cX2_errorOf 3 = .ok (.invokevirtual 125, 3) := dk_182 0 125 (dk_at dksX2_errorOf_0 3 rfl rfl)
theorem dX2_errorOf_6 : decode cX2_errorOf 6 = .ok (.aload_n 0, 1) := dk_42 (dk_at dksX2_errorOf_0 6 rfl rfl)
theorem dX2_errorOf_7 : decode cX2_errorOf 7 = .ok (.iload_n 1, 1) := dk_27 (dk_at dksX2_errorOf_0 7 rfl rfl)
theorem dX2_errorOf_8 : decode cX2_errorOf 8 = .ok (.invokevirtual 129, 3) := dk_182 0 129 (dk_at dksX2_errorOf_0 8 rfl rfl)
theorem dX2_errorOf_11 : decode cX2_errorOf 11 = .ok (.aload_n 0, 1) := dk_42 (dk_at dksX2_errorOf_0 11 rfl rfl)
theorem dX2_errorOf_12 : decode cX2_errorOf 12 = .ok (.iload_n 1, 1) := dk_27 (dk_at dksX2_errorOf_0 12 rfl rfl)
theorem dX2_errorOf_13 : decode cX2_errorOf 13 = .ok (.aload_n 0, 1) := dk_42 (dk_at dksX2_errorOf_0 13 rfl rfl)
theorem dX2_errorOf_14 : decode cX2_errorOf 14 = .ok (.iload_n 1, 1) := dk_27 (dk_at dksX2_errorOf_0 14 rfl rfl)
theorem dX2_errorOf_15 : decode cX2_errorOf 15 = .ok (.iload_n 2, 1) := dk_28 (dk_at dksX2_errorOf_0 15 rfl rfl)
theorem dX2_errorOf_16 : decode cX2_errorOf 16 = .ok (.invokevirtual 133, 3) := dk_182 0 133 (dk_at dksX2_errorOf_0 16 rfl rfl)
theorem dX2_errorOf_19 : decode cX2_errorOf 19 = .ok (.iload_n 2, 1) := dk_28 (dk_at dksX2_errorOf_0 19 rfl rfl)
theorem dX2_errorOf_20 : decode cX2_errorOf 20 = .ok (.invokevirtual 136, 3) := dk_182 0 136 (dk_at dksX2_errorOf_0 20 rfl rfl)
theorem dX2_errorOf_23 : decode cX2_errorOf 23 = .ok (.ireturn, 1) := dk_172 (dk_at dksX2_errorOf_0 23 rfl rfl)
abbrev cX2_settles : ByteArray := prog_8_method_50_code
def yX2_settles : MethodName := ⟨RX2, "settles", "(II)I"⟩
def dkwX2_settles_4 : List UInt8 := [167, 255, 220, 21, 4, 172]
abbrev dktX2_settles_4 : List UInt8 := dkwX2_settles_4 ++ []
def dkwX2_settles_3 : List UInt8 := [163, 0, 25, 21, 5, 54, 4, 29, 42, 27, 21, 5, 4, 100, 182, 0, 107, 100, 62, 132, 5, 255]
abbrev dktX2_settles_3 : List UInt8 := dkwX2_settles_3 ++ dktX2_settles_4
def dkwX2_settles_2 : List UInt8 := [62, 18, 85, 54, 4, 17, 3, 232, 54, 5, 21, 5, 158, 0, 37, 42, 27, 29, 21, 5, 182, 0, 136, 28]
abbrev dktX2_settles_2 : List UInt8 := dkwX2_settles_2 ++ dktX2_settles_3
def dkwX2_settles_1 : List UInt8 := [18, 90, 172, 42, 27, 17, 3, 232, 182, 0, 125, 42, 27, 182, 0, 129, 42, 27, 17, 3, 232, 182, 0, 133]
abbrev dktX2_settles_1 : List UInt8 := dkwX2_settles_1 ++ dktX2_settles_2
def dkwX2_settles_0 : List UInt8 := [42, 27, 182, 0, 91, 154, 0, 6, 18, 95, 172, 28, 133, 9, 20, 0, 118, 184, 0, 65, 154, 0, 6]
abbrev dktX2_settles_0 : List UInt8 := dkwX2_settles_0 ++ dktX2_settles_1
theorem dksX2_settles_0 : cX2_settles.data.toList.drop 0 = dktX2_settles_0 := by decide +kernel
theorem dksX2_settles_1 : cX2_settles.data.toList.drop 23 = dktX2_settles_1 := dk_seg dksX2_settles_0 23 rfl rfl
theorem dksX2_settles_2 : cX2_settles.data.toList.drop 47 = dktX2_settles_2 := dk_seg dksX2_settles_1 24 rfl rfl
theorem dksX2_settles_3 : cX2_settles.data.toList.drop 71 = dktX2_settles_3 := dk_seg dksX2_settles_2 24 rfl rfl
theorem dksX2_settles_4 : cX2_settles.data.toList.drop 93 = dktX2_settles_4 := dk_seg dksX2_settles_3 22 rfl rfl
theorem dX2_settles_0 : decode cX2_settles 0 = .ok (.aload_n 0, 1) := dk_42 (dk_at dksX2_settles_0 0 rfl rfl)
theorem dX2_settles_1 : decode cX2_settles 1 = .ok (.iload_n 1, 1) := dk_27 (dk_at dksX2_settles_0 1 rfl rfl)
theorem dX2_settles_2 : decode cX2_settles 2 = .ok (.invokevirtual 91, 3) := dk_182 0 91 (dk_at dksX2_settles_0 2 rfl rfl)
theorem dX2_settles_5 : decode cX2_settles 5 = .ok (.ifCond .ne 6, 3) := dk_154 0 6 (dk_at dksX2_settles_0 5 rfl rfl)
theorem dX2_settles_8 : decode cX2_settles 8 = .ok (.ldc 95, 2) := dk_18 95 (dk_at dksX2_settles_0 8 rfl rfl)
theorem dX2_settles_10 : decode cX2_settles 10 = .ok (.ireturn, 1) := dk_172 (dk_at dksX2_settles_0 10 rfl rfl)
theorem dX2_settles_11 : decode cX2_settles 11 = .ok (.iload_n 2, 1) := dk_28 (dk_at dksX2_settles_0 11 rfl rfl)
theorem dX2_settles_12 : decode cX2_settles 12 = .ok (.i2l, 1) := dk_133 (dk_at dksX2_settles_0 12 rfl rfl)
theorem dX2_settles_13 : decode cX2_settles 13 = .ok (.lconst 0, 1) := dk_9 (dk_at dksX2_settles_0 13 rfl rfl)
theorem dX2_settles_14 : decode cX2_settles 14 = .ok (.ldc2_w 118, 3) := dk_20 0 118 (dk_at dksX2_settles_0 14 rfl rfl)
theorem dX2_settles_17 : decode cX2_settles 17 = .ok (.invokestatic 65, 3) := dk_184 0 65 (dk_at dksX2_settles_0 17 rfl rfl)
theorem dX2_settles_20 : decode cX2_settles 20 = .ok (.ifCond .ne 6, 3) := dk_154 0 6 (dk_at dksX2_settles_0 20 rfl rfl)
theorem dX2_settles_23 : decode cX2_settles 23 = .ok (.ldc 90, 2) := dk_18 90 (dk_at dksX2_settles_1 0 rfl rfl)
theorem dX2_settles_25 : decode cX2_settles 25 = .ok (.ireturn, 1) := dk_172 (dk_at dksX2_settles_1 2 rfl rfl)
theorem dX2_settles_26 : decode cX2_settles 26 = .ok (.aload_n 0, 1) := dk_42 (dk_at dksX2_settles_1 3 rfl rfl)
theorem dX2_settles_27 : decode cX2_settles 27 = .ok (.iload_n 1, 1) := dk_27 (dk_at dksX2_settles_1 4 rfl rfl)
theorem dX2_settles_28 : decode cX2_settles 28 = .ok (.sipush 1000, 3) := dk_17 3 232 (dk_at dksX2_settles_1 5 rfl rfl)
theorem dX2_settles_31 : decode cX2_settles 31 = .ok (.invokevirtual 125, 3) := dk_182 0 125 (dk_at dksX2_settles_1 8 rfl rfl)
theorem dX2_settles_34 : decode cX2_settles 34 = .ok (.aload_n 0, 1) := dk_42 (dk_at dksX2_settles_1 11 rfl rfl)
theorem dX2_settles_35 : decode cX2_settles 35 = .ok (.iload_n 1, 1) := dk_27 (dk_at dksX2_settles_1 12 rfl rfl)
theorem dX2_settles_36 : decode cX2_settles 36 = .ok (.invokevirtual 129, 3) := dk_182 0 129 (dk_at dksX2_settles_1 13 rfl rfl)
theorem dX2_settles_39 : decode cX2_settles 39 = .ok (.aload_n 0, 1) := dk_42 (dk_at dksX2_settles_1 16 rfl rfl)
theorem dX2_settles_40 : decode cX2_settles 40 = .ok (.iload_n 1, 1) := dk_27 (dk_at dksX2_settles_1 17 rfl rfl)
theorem dX2_settles_41 : decode cX2_settles 41 = .ok (.sipush 1000, 3) := dk_17 3 232 (dk_at dksX2_settles_1 18 rfl rfl)
theorem dX2_settles_44 : decode cX2_settles 44 = .ok (.invokevirtual 133, 3) := dk_182 0 133 (dk_at dksX2_settles_1 21 rfl rfl)
theorem dX2_settles_47 : decode cX2_settles 47 = .ok (.istore_n 3, 1) := dk_62 (dk_at dksX2_settles_2 0 rfl rfl)
theorem dX2_settles_48 : decode cX2_settles 48 = .ok (.ldc 85, 2) := dk_18 85 (dk_at dksX2_settles_2 1 rfl rfl)
theorem dX2_settles_50 : decode cX2_settles 50 = .ok (.istore 4, 2) := dk_54 4 (dk_at dksX2_settles_2 3 rfl rfl)
theorem dX2_settles_52 : decode cX2_settles 52 = .ok (.sipush 1000, 3) := dk_17 3 232 (dk_at dksX2_settles_2 5 rfl rfl)
theorem dX2_settles_55 : decode cX2_settles 55 = .ok (.istore 5, 2) := dk_54 5 (dk_at dksX2_settles_2 8 rfl rfl)
theorem dX2_settles_57 : decode cX2_settles 57 = .ok (.iload 5, 2) := dk_21 5 (dk_at dksX2_settles_2 10 rfl rfl)
theorem dX2_settles_59 : decode cX2_settles 59 = .ok (.ifCond .le 37, 3) := dk_158 0 37 (dk_at dksX2_settles_2 12 rfl rfl)
theorem dX2_settles_62 : decode cX2_settles 62 = .ok (.aload_n 0, 1) := dk_42 (dk_at dksX2_settles_2 15 rfl rfl)
theorem dX2_settles_63 : decode cX2_settles 63 = .ok (.iload_n 1, 1) := dk_27 (dk_at dksX2_settles_2 16 rfl rfl)
theorem dX2_settles_64 : decode cX2_settles 64 = .ok (.iload_n 3, 1) := dk_29 (dk_at dksX2_settles_2 17 rfl rfl)
theorem dX2_settles_65 : decode cX2_settles 65 = .ok (.iload 5, 2) := dk_21 5 (dk_at dksX2_settles_2 18 rfl rfl)
theorem dX2_settles_67 : decode cX2_settles 67 = .ok (.invokevirtual 136, 3) := dk_182 0 136 (dk_at dksX2_settles_2 20 rfl rfl)
theorem dX2_settles_70 : decode cX2_settles 70 = .ok (.iload_n 2, 1) := dk_28 (dk_at dksX2_settles_2 23 rfl rfl)
theorem dX2_settles_71 : decode cX2_settles 71 = .ok (.if_icmp .gt 25, 3) := dk_163 0 25 (dk_at dksX2_settles_3 0 rfl rfl)
theorem dX2_settles_74 : decode cX2_settles 74 = .ok (.iload 5, 2) := dk_21 5 (dk_at dksX2_settles_3 3 rfl rfl)
theorem dX2_settles_76 : decode cX2_settles 76 = .ok (.istore 4, 2) := dk_54 4 (dk_at dksX2_settles_3 5 rfl rfl)
theorem dX2_settles_78 : decode cX2_settles 78 = .ok (.iload_n 3, 1) := dk_29 (dk_at dksX2_settles_3 7 rfl rfl)
theorem dX2_settles_79 : decode cX2_settles 79 = .ok (.aload_n 0, 1) := dk_42 (dk_at dksX2_settles_3 8 rfl rfl)
theorem dX2_settles_80 : decode cX2_settles 80 = .ok (.iload_n 1, 1) := dk_27 (dk_at dksX2_settles_3 9 rfl rfl)
theorem dX2_settles_81 : decode cX2_settles 81 = .ok (.iload 5, 2) := dk_21 5 (dk_at dksX2_settles_3 10 rfl rfl)
theorem dX2_settles_83 : decode cX2_settles 83 = .ok (.iconst 1, 1) := dk_4 (dk_at dksX2_settles_3 12 rfl rfl)
theorem dX2_settles_84 : decode cX2_settles 84 = .ok (.isub, 1) := dk_100 (dk_at dksX2_settles_3 13 rfl rfl)
theorem dX2_settles_85 : decode cX2_settles 85 = .ok (.invokevirtual 107, 3) := dk_182 0 107 (dk_at dksX2_settles_3 14 rfl rfl)
theorem dX2_settles_88 : decode cX2_settles 88 = .ok (.isub, 1) := dk_100 (dk_at dksX2_settles_3 17 rfl rfl)
theorem dX2_settles_89 : decode cX2_settles 89 = .ok (.istore_n 3, 1) := dk_62 (dk_at dksX2_settles_3 18 rfl rfl)
theorem dX2_settles_90 : decode cX2_settles 90 = .ok (.iinc 5 (-1), 3) := dk_132 5 255 (dk_at dksX2_settles_3 19 rfl rfl)
theorem dX2_settles_93 : decode cX2_settles 93 = .ok (.goto (-36), 3) := dk_167 255 220 (dk_at dksX2_settles_4 0 rfl rfl)
theorem dX2_settles_96 : decode cX2_settles 96 = .ok (.iload 4, 2) := dk_21 4 (dk_at dksX2_settles_4 3 rfl rfl)
theorem dX2_settles_98 : decode cX2_settles 98 = .ok (.ireturn, 1) := dk_172 (dk_at dksX2_settles_4 5 rfl rfl)
abbrev cX2_bestSeed : ByteArray := prog_8_method_51_code
def yX2_bestSeed : MethodName := ⟨RX2, "bestSeed", "(III)I"⟩
def dkwX2_bestSeed_6 : List UInt8 := [167, 255, 185, 42, 180, 0, 7, 21, 4, 21, 5, 79, 29, 154, 0, 8, 21, 6, 167, 0, 5, 21, 7, 172]
abbrev dktX2_bestSeed_6 : List UInt8 := dkwX2_bestSeed_6 ++ []
def dkwX2_bestSeed_5 : List UInt8 := [21, 6, 54, 6, 21, 6, 21, 8, 160, 0, 8, 21, 9, 167, 0, 5, 21, 7, 54, 7, 132, 8, 1]
abbrev dktX2_bestSeed_5 : List UInt8 := dkwX2_bestSeed_5 ++ dktX2_bestSeed_6
def dkwX2_bestSeed_4 : List UInt8 := [46, 182, 0, 203, 54, 9, 21, 8, 4, 159, 0, 10, 21, 9, 21, 7, 162, 0, 8, 21, 8, 167, 0, 5]
abbrev dktX2_bestSeed_4 : List UInt8 := dkwX2_bestSeed_4 ++ dktX2_bestSeed_5
def dkwX2_bestSeed_3 : List UInt8 := [21, 8, 17, 1, 0, 162, 0, 69, 42, 180, 0, 7, 21, 4, 21, 8, 79, 42, 28, 42, 180, 0, 7, 4]
abbrev dktX2_bestSeed_3 : List UInt8 := dkwX2_bestSeed_3 ++ dktX2_bestSeed_4
def dkwX2_bestSeed_2 : List UInt8 := [104, 96, 5, 96, 54, 4, 42, 180, 0, 7, 21, 4, 46, 54, 5, 3, 54, 6, 3, 54, 7, 4, 54, 8]
abbrev dktX2_bestSeed_2 : List UInt8 := dkwX2_bestSeed_2 ++ dktX2_bestSeed_3
def dkwX2_bestSeed_1 : List UInt8 := [184, 0, 65, 154, 0, 6, 18, 90, 172, 42, 27, 3, 182, 0, 100, 153, 0, 6, 18, 104, 172, 5, 7, 27]
abbrev dktX2_bestSeed_1 : List UInt8 := dkwX2_bestSeed_1 ++ dktX2_bestSeed_2
def dkwX2_bestSeed_0 : List UInt8 := [42, 27, 182, 0, 91, 153, 0, 11, 42, 28, 182, 0, 91, 154, 0, 6, 18, 95, 172, 29, 133, 9, 10]
abbrev dktX2_bestSeed_0 : List UInt8 := dkwX2_bestSeed_0 ++ dktX2_bestSeed_1
theorem dksX2_bestSeed_0 : cX2_bestSeed.data.toList.drop 0 = dktX2_bestSeed_0 := by decide +kernel
theorem dksX2_bestSeed_1 : cX2_bestSeed.data.toList.drop 23 = dktX2_bestSeed_1 := dk_seg dksX2_bestSeed_0 23 rfl rfl
theorem dksX2_bestSeed_2 : cX2_bestSeed.data.toList.drop 47 = dktX2_bestSeed_2 := dk_seg dksX2_bestSeed_1 24 rfl rfl
theorem dksX2_bestSeed_3 : cX2_bestSeed.data.toList.drop 71 = dktX2_bestSeed_3 := dk_seg dksX2_bestSeed_2 24 rfl rfl
theorem dksX2_bestSeed_4 : cX2_bestSeed.data.toList.drop 95 = dktX2_bestSeed_4 := dk_seg dksX2_bestSeed_3 24 rfl rfl
theorem dksX2_bestSeed_5 : cX2_bestSeed.data.toList.drop 119 = dktX2_bestSeed_5 := dk_seg dksX2_bestSeed_4 24 rfl rfl
theorem dksX2_bestSeed_6 : cX2_bestSeed.data.toList.drop 142 = dktX2_bestSeed_6 := dk_seg dksX2_bestSeed_5 23 rfl rfl
theorem dX2_bestSeed_0 : decode cX2_bestSeed 0 = .ok (.aload_n 0, 1) := dk_42 (dk_at dksX2_bestSeed_0 0 rfl rfl)
theorem dX2_bestSeed_1 : decode cX2_bestSeed 1 = .ok (.iload_n 1, 1) := dk_27 (dk_at dksX2_bestSeed_0 1 rfl rfl)
theorem dX2_bestSeed_2 : decode cX2_bestSeed 2 = .ok (.invokevirtual 91, 3) := dk_182 0 91 (dk_at dksX2_bestSeed_0 2 rfl rfl)
theorem dX2_bestSeed_5 : decode cX2_bestSeed 5 = .ok (.ifCond .eq 11, 3) := dk_153 0 11 (dk_at dksX2_bestSeed_0 5 rfl rfl)
theorem dX2_bestSeed_8 : decode cX2_bestSeed 8 = .ok (.aload_n 0, 1) := dk_42 (dk_at dksX2_bestSeed_0 8 rfl rfl)
theorem dX2_bestSeed_9 : decode cX2_bestSeed 9 = .ok (.iload_n 2, 1) := dk_28 (dk_at dksX2_bestSeed_0 9 rfl rfl)
theorem dX2_bestSeed_10 : decode cX2_bestSeed 10 = .ok (.invokevirtual 91, 3) := dk_182 0 91 (dk_at dksX2_bestSeed_0 10 rfl rfl)
theorem dX2_bestSeed_13 : decode cX2_bestSeed 13 = .ok (.ifCond .ne 6, 3) := dk_154 0 6 (dk_at dksX2_bestSeed_0 13 rfl rfl)
theorem dX2_bestSeed_16 : decode cX2_bestSeed 16 = .ok (.ldc 95, 2) := dk_18 95 (dk_at dksX2_bestSeed_0 16 rfl rfl)
theorem dX2_bestSeed_18 : decode cX2_bestSeed 18 = .ok (.ireturn, 1) := dk_172 (dk_at dksX2_bestSeed_0 18 rfl rfl)
theorem dX2_bestSeed_19 : decode cX2_bestSeed 19 = .ok (.iload_n 3, 1) := dk_29 (dk_at dksX2_bestSeed_0 19 rfl rfl)
theorem dX2_bestSeed_20 : decode cX2_bestSeed 20 = .ok (.i2l, 1) := dk_133 (dk_at dksX2_bestSeed_0 20 rfl rfl)
theorem dX2_bestSeed_21 : decode cX2_bestSeed 21 = .ok (.lconst 0, 1) := dk_9 (dk_at dksX2_bestSeed_0 21 rfl rfl)
theorem dX2_bestSeed_22 : decode cX2_bestSeed 22 = .ok (.lconst 1, 1) := dk_10 (dk_at dksX2_bestSeed_0 22 rfl rfl)
theorem dX2_bestSeed_23 : decode cX2_bestSeed 23 = .ok (.invokestatic 65, 3) := dk_184 0 65 (dk_at dksX2_bestSeed_1 0 rfl rfl)
theorem dX2_bestSeed_26 : decode cX2_bestSeed 26 = .ok (.ifCond .ne 6, 3) := dk_154 0 6 (dk_at dksX2_bestSeed_1 3 rfl rfl)
theorem dX2_bestSeed_29 : decode cX2_bestSeed 29 = .ok (.ldc 90, 2) := dk_18 90 (dk_at dksX2_bestSeed_1 6 rfl rfl)
theorem dX2_bestSeed_31 : decode cX2_bestSeed 31 = .ok (.ireturn, 1) := dk_172 (dk_at dksX2_bestSeed_1 8 rfl rfl)
theorem dX2_bestSeed_32 : decode cX2_bestSeed 32 = .ok (.aload_n 0, 1) := dk_42 (dk_at dksX2_bestSeed_1 9 rfl rfl)
theorem dX2_bestSeed_33 : decode cX2_bestSeed 33 = .ok (.iload_n 1, 1) := dk_27 (dk_at dksX2_bestSeed_1 10 rfl rfl)
theorem dX2_bestSeed_34 : decode cX2_bestSeed 34 = .ok (.iconst 0, 1) := dk_3 (dk_at dksX2_bestSeed_1 11 rfl rfl)
theorem dX2_bestSeed_35 : decode cX2_bestSeed 35 = .ok (.invokevirtual 100, 3) := dk_182 0 100 (dk_at dksX2_bestSeed_1 12 rfl rfl)
theorem dX2_bestSeed_38 : decode cX2_bestSeed 38 = .ok (.ifCond .eq 6, 3) := dk_153 0 6 (dk_at dksX2_bestSeed_1 15 rfl rfl)
theorem dX2_bestSeed_41 : decode cX2_bestSeed 41 = .ok (.ldc 104, 2) := dk_18 104 (dk_at dksX2_bestSeed_1 18 rfl rfl)
theorem dX2_bestSeed_43 : decode cX2_bestSeed 43 = .ok (.ireturn, 1) := dk_172 (dk_at dksX2_bestSeed_1 20 rfl rfl)
theorem dX2_bestSeed_44 : decode cX2_bestSeed 44 = .ok (.iconst 2, 1) := dk_5 (dk_at dksX2_bestSeed_1 21 rfl rfl)
theorem dX2_bestSeed_45 : decode cX2_bestSeed 45 = .ok (.iconst 4, 1) := dk_7 (dk_at dksX2_bestSeed_1 22 rfl rfl)
theorem dX2_bestSeed_46 : decode cX2_bestSeed 46 = .ok (.iload_n 1, 1) := dk_27 (dk_at dksX2_bestSeed_1 23 rfl rfl)
theorem dX2_bestSeed_47 : decode cX2_bestSeed 47 = .ok (.imul, 1) := dk_104 (dk_at dksX2_bestSeed_2 0 rfl rfl)
theorem dX2_bestSeed_48 : decode cX2_bestSeed 48 = .ok (.iadd, 1) := dk_96 (dk_at dksX2_bestSeed_2 1 rfl rfl)
theorem dX2_bestSeed_49 : decode cX2_bestSeed 49 = .ok (.iconst 2, 1) := dk_5 (dk_at dksX2_bestSeed_2 2 rfl rfl)
theorem dX2_bestSeed_50 : decode cX2_bestSeed 50 = .ok (.iadd, 1) := dk_96 (dk_at dksX2_bestSeed_2 3 rfl rfl)
theorem dX2_bestSeed_51 : decode cX2_bestSeed 51 = .ok (.istore 4, 2) := dk_54 4 (dk_at dksX2_bestSeed_2 4 rfl rfl)
theorem dX2_bestSeed_53 : decode cX2_bestSeed 53 = .ok (.aload_n 0, 1) := dk_42 (dk_at dksX2_bestSeed_2 6 rfl rfl)
theorem dX2_bestSeed_54 : decode cX2_bestSeed 54 = .ok (.getfield 7, 3) := dk_180 0 7 (dk_at dksX2_bestSeed_2 7 rfl rfl)
theorem dX2_bestSeed_57 : decode cX2_bestSeed 57 = .ok (.iload 4, 2) := dk_21 4 (dk_at dksX2_bestSeed_2 10 rfl rfl)
theorem dX2_bestSeed_59 : decode cX2_bestSeed 59 = .ok (.iaload, 1) := dk_46 (dk_at dksX2_bestSeed_2 12 rfl rfl)
theorem dX2_bestSeed_60 : decode cX2_bestSeed 60 = .ok (.istore 5, 2) := dk_54 5 (dk_at dksX2_bestSeed_2 13 rfl rfl)
theorem dX2_bestSeed_62 : decode cX2_bestSeed 62 = .ok (.iconst 0, 1) := dk_3 (dk_at dksX2_bestSeed_2 15 rfl rfl)
theorem dX2_bestSeed_63 : decode cX2_bestSeed 63 = .ok (.istore 6, 2) := dk_54 6 (dk_at dksX2_bestSeed_2 16 rfl rfl)
theorem dX2_bestSeed_65 : decode cX2_bestSeed 65 = .ok (.iconst 0, 1) := dk_3 (dk_at dksX2_bestSeed_2 18 rfl rfl)
theorem dX2_bestSeed_66 : decode cX2_bestSeed 66 = .ok (.istore 7, 2) := dk_54 7 (dk_at dksX2_bestSeed_2 19 rfl rfl)
theorem dX2_bestSeed_68 : decode cX2_bestSeed 68 = .ok (.iconst 1, 1) := dk_4 (dk_at dksX2_bestSeed_2 21 rfl rfl)
theorem dX2_bestSeed_69 : decode cX2_bestSeed 69 = .ok (.istore 8, 2) := dk_54 8 (dk_at dksX2_bestSeed_2 22 rfl rfl)
theorem dX2_bestSeed_71 : decode cX2_bestSeed 71 = .ok (.iload 8, 2) := dk_21 8 (dk_at dksX2_bestSeed_3 0 rfl rfl)
theorem dX2_bestSeed_73 : decode cX2_bestSeed 73 = .ok (.sipush 256, 3) := dk_17 1 0 (dk_at dksX2_bestSeed_3 2 rfl rfl)
theorem dX2_bestSeed_76 : decode cX2_bestSeed 76 = .ok (.if_icmp .ge 69, 3) := dk_162 0 69 (dk_at dksX2_bestSeed_3 5 rfl rfl)
theorem dX2_bestSeed_79 : decode cX2_bestSeed 79 = .ok (.aload_n 0, 1) := dk_42 (dk_at dksX2_bestSeed_3 8 rfl rfl)
theorem dX2_bestSeed_80 : decode cX2_bestSeed 80 = .ok (.getfield 7, 3) := dk_180 0 7 (dk_at dksX2_bestSeed_3 9 rfl rfl)
theorem dX2_bestSeed_83 : decode cX2_bestSeed 83 = .ok (.iload 4, 2) := dk_21 4 (dk_at dksX2_bestSeed_3 12 rfl rfl)
theorem dX2_bestSeed_85 : decode cX2_bestSeed 85 = .ok (.iload 8, 2) := dk_21 8 (dk_at dksX2_bestSeed_3 14 rfl rfl)
theorem dX2_bestSeed_87 : decode cX2_bestSeed 87 = .ok (.iastore, 1) := dk_79 (dk_at dksX2_bestSeed_3 16 rfl rfl)
theorem dX2_bestSeed_88 : decode cX2_bestSeed 88 = .ok (.aload_n 0, 1) := dk_42 (dk_at dksX2_bestSeed_3 17 rfl rfl)
theorem dX2_bestSeed_89 : decode cX2_bestSeed 89 = .ok (.iload_n 2, 1) := dk_28 (dk_at dksX2_bestSeed_3 18 rfl rfl)
theorem dX2_bestSeed_90 : decode cX2_bestSeed 90 = .ok (.aload_n 0, 1) := dk_42 (dk_at dksX2_bestSeed_3 19 rfl rfl)
theorem dX2_bestSeed_91 : decode cX2_bestSeed 91 = .ok (.getfield 7, 3) := dk_180 0 7 (dk_at dksX2_bestSeed_3 20 rfl rfl)
theorem dX2_bestSeed_94 : decode cX2_bestSeed 94 = .ok (.iconst 1, 1) := dk_4 (dk_at dksX2_bestSeed_3 23 rfl rfl)
theorem dX2_bestSeed_95 : decode cX2_bestSeed 95 = .ok (.iaload, 1) := dk_46 (dk_at dksX2_bestSeed_4 0 rfl rfl)
theorem dX2_bestSeed_96 : decode cX2_bestSeed 96 = .ok (.invokevirtual 203, 3) := dk_182 0 203 (dk_at dksX2_bestSeed_4 1 rfl rfl)
theorem dX2_bestSeed_99 : decode cX2_bestSeed 99 = .ok (.istore 9, 2) := dk_54 9 (dk_at dksX2_bestSeed_4 4 rfl rfl)
theorem dX2_bestSeed_101 : decode cX2_bestSeed 101 = .ok (.iload 8, 2) := dk_21 8 (dk_at dksX2_bestSeed_4 6 rfl rfl)
theorem dX2_bestSeed_103 : decode cX2_bestSeed 103 = .ok (.iconst 1, 1) := dk_4 (dk_at dksX2_bestSeed_4 8 rfl rfl)
theorem dX2_bestSeed_104 : decode cX2_bestSeed 104 = .ok (.if_icmp .eq 10, 3) := dk_159 0 10 (dk_at dksX2_bestSeed_4 9 rfl rfl)
theorem dX2_bestSeed_107 : decode cX2_bestSeed 107 = .ok (.iload 9, 2) := dk_21 9 (dk_at dksX2_bestSeed_4 12 rfl rfl)
theorem dX2_bestSeed_109 : decode cX2_bestSeed 109 = .ok (.iload 7, 2) := dk_21 7 (dk_at dksX2_bestSeed_4 14 rfl rfl)
theorem dX2_bestSeed_111 : decode cX2_bestSeed 111 = .ok (.if_icmp .ge 8, 3) := dk_162 0 8 (dk_at dksX2_bestSeed_4 16 rfl rfl)
theorem dX2_bestSeed_114 : decode cX2_bestSeed 114 = .ok (.iload 8, 2) := dk_21 8 (dk_at dksX2_bestSeed_4 19 rfl rfl)
theorem dX2_bestSeed_116 : decode cX2_bestSeed 116 = .ok (.goto 5, 3) := dk_167 0 5 (dk_at dksX2_bestSeed_4 21 rfl rfl)
theorem dX2_bestSeed_119 : decode cX2_bestSeed 119 = .ok (.iload 6, 2) := dk_21 6 (dk_at dksX2_bestSeed_5 0 rfl rfl)
theorem dX2_bestSeed_121 : decode cX2_bestSeed 121 = .ok (.istore 6, 2) := dk_54 6 (dk_at dksX2_bestSeed_5 2 rfl rfl)
theorem dX2_bestSeed_123 : decode cX2_bestSeed 123 = .ok (.iload 6, 2) := dk_21 6 (dk_at dksX2_bestSeed_5 4 rfl rfl)
theorem dX2_bestSeed_125 : decode cX2_bestSeed 125 = .ok (.iload 8, 2) := dk_21 8 (dk_at dksX2_bestSeed_5 6 rfl rfl)
theorem dX2_bestSeed_127 : decode cX2_bestSeed 127 = .ok (.if_icmp .ne 8, 3) := dk_160 0 8 (dk_at dksX2_bestSeed_5 8 rfl rfl)
theorem dX2_bestSeed_130 : decode cX2_bestSeed 130 = .ok (.iload 9, 2) := dk_21 9 (dk_at dksX2_bestSeed_5 11 rfl rfl)
theorem dX2_bestSeed_132 : decode cX2_bestSeed 132 = .ok (.goto 5, 3) := dk_167 0 5 (dk_at dksX2_bestSeed_5 13 rfl rfl)
theorem dX2_bestSeed_135 : decode cX2_bestSeed 135 = .ok (.iload 7, 2) := dk_21 7 (dk_at dksX2_bestSeed_5 16 rfl rfl)
theorem dX2_bestSeed_137 : decode cX2_bestSeed 137 = .ok (.istore 7, 2) := dk_54 7 (dk_at dksX2_bestSeed_5 18 rfl rfl)
theorem dX2_bestSeed_139 : decode cX2_bestSeed 139 = .ok (.iinc 8 1, 3) := dk_132 8 1 (dk_at dksX2_bestSeed_5 20 rfl rfl)
theorem dX2_bestSeed_142 : decode cX2_bestSeed 142 = .ok (.goto (-71), 3) := dk_167 255 185 (dk_at dksX2_bestSeed_6 0 rfl rfl)
theorem dX2_bestSeed_145 : decode cX2_bestSeed 145 = .ok (.aload_n 0, 1) := dk_42 (dk_at dksX2_bestSeed_6 3 rfl rfl)
theorem dX2_bestSeed_146 : decode cX2_bestSeed 146 = .ok (.getfield 7, 3) := dk_180 0 7 (dk_at dksX2_bestSeed_6 4 rfl rfl)
theorem dX2_bestSeed_149 : decode cX2_bestSeed 149 = .ok (.iload 4, 2) := dk_21 4 (dk_at dksX2_bestSeed_6 7 rfl rfl)
theorem dX2_bestSeed_151 : decode cX2_bestSeed 151 = .ok (.iload 5, 2) := dk_21 5 (dk_at dksX2_bestSeed_6 9 rfl rfl)
theorem dX2_bestSeed_153 : decode cX2_bestSeed 153 = .ok (.iastore, 1) := dk_79 (dk_at dksX2_bestSeed_6 11 rfl rfl)
theorem dX2_bestSeed_154 : decode cX2_bestSeed 154 = .ok (.iload_n 3, 1) := dk_29 (dk_at dksX2_bestSeed_6 12 rfl rfl)
theorem dX2_bestSeed_155 : decode cX2_bestSeed 155 = .ok (.ifCond .ne 8, 3) := dk_154 0 8 (dk_at dksX2_bestSeed_6 13 rfl rfl)
theorem dX2_bestSeed_158 : decode cX2_bestSeed 158 = .ok (.iload 6, 2) := dk_21 6 (dk_at dksX2_bestSeed_6 16 rfl rfl)
theorem dX2_bestSeed_160 : decode cX2_bestSeed 160 = .ok (.goto 5, 3) := dk_167 0 5 (dk_at dksX2_bestSeed_6 18 rfl rfl)
theorem dX2_bestSeed_163 : decode cX2_bestSeed 163 = .ok (.iload 7, 2) := dk_21 7 (dk_at dksX2_bestSeed_6 21 rfl rfl)
theorem dX2_bestSeed_165 : decode cX2_bestSeed 165 = .ok (.ireturn, 1) := dk_172 (dk_at dksX2_bestSeed_6 23 rfl rfl)
abbrev cX2_unlike : ByteArray := prog_8_method_52_code
def yX2_unlike : MethodName := ⟨RX2, "unlike", "(I)I"⟩
def dkwX2_unlike_2 : List UInt8 := [159, 0, 7, 4, 167, 0, 4, 3, 96, 61, 132, 3, 1, 167, 255, 219, 28, 172]
abbrev dktX2_unlike_2 : List UInt8 := dkwX2_unlike_2 ++ []
def dkwX2_unlike_1 : List UInt8 := [29, 17, 0, 255, 162, 0, 36, 28, 42, 27, 29, 182, 0, 107, 42, 27, 29, 17, 0, 255, 96, 182, 0, 107]
abbrev dktX2_unlike_1 : List UInt8 := dkwX2_unlike_1 ++ dktX2_unlike_2
def dkwX2_unlike_0 : List UInt8 := [42, 27, 182, 0, 91, 154, 0, 6, 18, 95, 172, 42, 27, 17, 1, 254, 182, 0, 125, 3, 61, 16, 60, 62]
abbrev dktX2_unlike_0 : List UInt8 := dkwX2_unlike_0 ++ dktX2_unlike_1
theorem dksX2_unlike_0 : cX2_unlike.data.toList.drop 0 = dktX2_unlike_0 := by decide +kernel
theorem dksX2_unlike_1 : cX2_unlike.data.toList.drop 24 = dktX2_unlike_1 := dk_seg dksX2_unlike_0 24 rfl rfl
theorem dksX2_unlike_2 : cX2_unlike.data.toList.drop 48 = dktX2_unlike_2 := dk_seg dksX2_unlike_1 24 rfl rfl
theorem dX2_unlike_0 : decode cX2_unlike 0 = .ok (.aload_n 0, 1) := dk_42 (dk_at dksX2_unlike_0 0 rfl rfl)
theorem dX2_unlike_1 : decode cX2_unlike 1 = .ok (.iload_n 1, 1) := dk_27 (dk_at dksX2_unlike_0 1 rfl rfl)
theorem dX2_unlike_2 : decode cX2_unlike 2 = .ok (.invokevirtual 91, 3) := dk_182 0 91 (dk_at dksX2_unlike_0 2 rfl rfl)
theorem dX2_unlike_5 : decode cX2_unlike 5 = .ok (.ifCond .ne 6, 3) := dk_154 0 6 (dk_at dksX2_unlike_0 5 rfl rfl)
theorem dX2_unlike_8 : decode cX2_unlike 8 = .ok (.ldc 95, 2) := dk_18 95 (dk_at dksX2_unlike_0 8 rfl rfl)
theorem dX2_unlike_10 : decode cX2_unlike 10 = .ok (.ireturn, 1) := dk_172 (dk_at dksX2_unlike_0 10 rfl rfl)
theorem dX2_unlike_11 : decode cX2_unlike 11 = .ok (.aload_n 0, 1) := dk_42 (dk_at dksX2_unlike_0 11 rfl rfl)
theorem dX2_unlike_12 : decode cX2_unlike 12 = .ok (.iload_n 1, 1) := dk_27 (dk_at dksX2_unlike_0 12 rfl rfl)
theorem dX2_unlike_13 : decode cX2_unlike 13 = .ok (.sipush 510, 3) := dk_17 1 254 (dk_at dksX2_unlike_0 13 rfl rfl)
theorem dX2_unlike_16 : decode cX2_unlike 16 = .ok (.invokevirtual 125, 3) := dk_182 0 125 (dk_at dksX2_unlike_0 16 rfl rfl)
theorem dX2_unlike_19 : decode cX2_unlike 19 = .ok (.iconst 0, 1) := dk_3 (dk_at dksX2_unlike_0 19 rfl rfl)
theorem dX2_unlike_20 : decode cX2_unlike 20 = .ok (.istore_n 2, 1) := dk_61 (dk_at dksX2_unlike_0 20 rfl rfl)
theorem dX2_unlike_21 : decode cX2_unlike 21 = .ok (.bipush 60, 2) := dk_16 60 (dk_at dksX2_unlike_0 21 rfl rfl)
theorem dX2_unlike_23 : decode cX2_unlike 23 = .ok (.istore_n 3, 1) := dk_62 (dk_at dksX2_unlike_0 23 rfl rfl)
theorem dX2_unlike_24 : decode cX2_unlike 24 = .ok (.iload_n 3, 1) := dk_29 (dk_at dksX2_unlike_1 0 rfl rfl)
theorem dX2_unlike_25 : decode cX2_unlike 25 = .ok (.sipush 255, 3) := dk_17 0 255 (dk_at dksX2_unlike_1 1 rfl rfl)
theorem dX2_unlike_28 : decode cX2_unlike 28 = .ok (.if_icmp .ge 36, 3) := dk_162 0 36 (dk_at dksX2_unlike_1 4 rfl rfl)
theorem dX2_unlike_31 : decode cX2_unlike 31 = .ok (.iload_n 2, 1) := dk_28 (dk_at dksX2_unlike_1 7 rfl rfl)
theorem dX2_unlike_32 : decode cX2_unlike 32 = .ok (.aload_n 0, 1) := dk_42 (dk_at dksX2_unlike_1 8 rfl rfl)
theorem dX2_unlike_33 : decode cX2_unlike 33 = .ok (.iload_n 1, 1) := dk_27 (dk_at dksX2_unlike_1 9 rfl rfl)
theorem dX2_unlike_34 : decode cX2_unlike 34 = .ok (.iload_n 3, 1) := dk_29 (dk_at dksX2_unlike_1 10 rfl rfl)
theorem dX2_unlike_35 : decode cX2_unlike 35 = .ok (.invokevirtual 107, 3) := dk_182 0 107 (dk_at dksX2_unlike_1 11 rfl rfl)
theorem dX2_unlike_38 : decode cX2_unlike 38 = .ok (.aload_n 0, 1) := dk_42 (dk_at dksX2_unlike_1 14 rfl rfl)
theorem dX2_unlike_39 : decode cX2_unlike 39 = .ok (.iload_n 1, 1) := dk_27 (dk_at dksX2_unlike_1 15 rfl rfl)
theorem dX2_unlike_40 : decode cX2_unlike 40 = .ok (.iload_n 3, 1) := dk_29 (dk_at dksX2_unlike_1 16 rfl rfl)
theorem dX2_unlike_41 : decode cX2_unlike 41 = .ok (.sipush 255, 3) := dk_17 0 255 (dk_at dksX2_unlike_1 17 rfl rfl)
theorem dX2_unlike_44 : decode cX2_unlike 44 = .ok (.iadd, 1) := dk_96 (dk_at dksX2_unlike_1 20 rfl rfl)
theorem dX2_unlike_45 : decode cX2_unlike 45 = .ok (.invokevirtual 107, 3) := dk_182 0 107 (dk_at dksX2_unlike_1 21 rfl rfl)
theorem dX2_unlike_48 : decode cX2_unlike 48 = .ok (.if_icmp .eq 7, 3) := dk_159 0 7 (dk_at dksX2_unlike_2 0 rfl rfl)
theorem dX2_unlike_51 : decode cX2_unlike 51 = .ok (.iconst 1, 1) := dk_4 (dk_at dksX2_unlike_2 3 rfl rfl)
theorem dX2_unlike_52 : decode cX2_unlike 52 = .ok (.goto 4, 3) := dk_167 0 4 (dk_at dksX2_unlike_2 4 rfl rfl)
theorem dX2_unlike_55 : decode cX2_unlike 55 = .ok (.iconst 0, 1) := dk_3 (dk_at dksX2_unlike_2 7 rfl rfl)
theorem dX2_unlike_56 : decode cX2_unlike 56 = .ok (.iadd, 1) := dk_96 (dk_at dksX2_unlike_2 8 rfl rfl)
theorem dX2_unlike_57 : decode cX2_unlike 57 = .ok (.istore_n 2, 1) := dk_61 (dk_at dksX2_unlike_2 9 rfl rfl)
theorem dX2_unlike_58 : decode cX2_unlike 58 = .ok (.iinc 3 1, 3) := dk_132 3 1 (dk_at dksX2_unlike_2 10 rfl rfl)
theorem dX2_unlike_61 : decode cX2_unlike 61 = .ok (.goto (-37), 3) := dk_167 255 219 (dk_at dksX2_unlike_2 13 rfl rfl)
theorem dX2_unlike_64 : decode cX2_unlike 64 = .ok (.iload_n 2, 1) := dk_28 (dk_at dksX2_unlike_2 16 rfl rfl)
theorem dX2_unlike_65 : decode cX2_unlike 65 = .ok (.ireturn, 1) := dk_172 (dk_at dksX2_unlike_2 17 rfl rfl)
abbrev cX2_count : ByteArray := prog_8_method_57_code
def yX2_count : MethodName := ⟨RX2, "count", "(I)I"⟩
def dkwX2_count_3 : List UInt8 := [42, 182, 0, 212, 172, 42, 182, 0, 215, 172, 42, 180, 0, 61, 172, 42, 180, 0, 140, 172, 18, 90, 172]
abbrev dktX2_count_3 : List UInt8 := dkwX2_count_3 ++ []
def dkwX2_count_2 : List UInt8 := [42, 180, 0, 7, 3, 46, 172, 42, 180, 0, 7, 4, 46, 172, 42, 182, 0, 206, 172, 42, 182, 0, 209, 172]
abbrev dktX2_count_2 : List UInt8 := dkwX2_count_2 ++ dktX2_count_3
def dkwX2_count_1 : List UInt8 := [170, 0, 0, 0, 0, 0, 91, 0, 0, 0, 0, 0, 0, 0, 7, 0, 0, 0, 47, 0, 0, 0, 54, 0, 0, 0, 61, 0, 0, 0, 66, 0, 0, 0, 71, 0, 0, 0, 76, 0, 0, 0, 81, 0, 0, 0, 86]
abbrev dktX2_count_1 : List UInt8 := dkwX2_count_1 ++ dktX2_count_2
def dkwX2_count_0 : List UInt8 := [27]
abbrev dktX2_count_0 : List UInt8 := dkwX2_count_0 ++ dktX2_count_1
theorem dksX2_count_0 : cX2_count.data.toList.drop 0 = dktX2_count_0 := by decide +kernel
theorem dksX2_count_1 : cX2_count.data.toList.drop 1 = dktX2_count_1 := dk_seg dksX2_count_0 1 rfl rfl
theorem dksX2_count_2 : cX2_count.data.toList.drop 48 = dktX2_count_2 := dk_seg dksX2_count_1 47 rfl rfl
theorem dksX2_count_3 : cX2_count.data.toList.drop 72 = dktX2_count_3 := dk_seg dksX2_count_2 24 rfl rfl
theorem dX2_count_0 : decode cX2_count 0 = .ok (.iload_n 1, 1) := dk_27 (dk_at dksX2_count_0 0 rfl rfl)
theorem dX2_count_1 : decode cX2_count 1 = .ok (.tableswitch 91 0 7 #[47, 54, 61, 66, 71, 76, 81, 86], 47) := by decide +kernel
theorem dX2_count_48 : decode cX2_count 48 = .ok (.aload_n 0, 1) := dk_42 (dk_at dksX2_count_2 0 rfl rfl)
theorem dX2_count_49 : decode cX2_count 49 = .ok (.getfield 7, 3) := dk_180 0 7 (dk_at dksX2_count_2 1 rfl rfl)
theorem dX2_count_52 : decode cX2_count 52 = .ok (.iconst 0, 1) := dk_3 (dk_at dksX2_count_2 4 rfl rfl)
theorem dX2_count_53 : decode cX2_count 53 = .ok (.iaload, 1) := dk_46 (dk_at dksX2_count_2 5 rfl rfl)
theorem dX2_count_54 : decode cX2_count 54 = .ok (.ireturn, 1) := dk_172 (dk_at dksX2_count_2 6 rfl rfl)
theorem dX2_count_55 : decode cX2_count 55 = .ok (.aload_n 0, 1) := dk_42 (dk_at dksX2_count_2 7 rfl rfl)
theorem dX2_count_56 : decode cX2_count 56 = .ok (.getfield 7, 3) := dk_180 0 7 (dk_at dksX2_count_2 8 rfl rfl)
theorem dX2_count_59 : decode cX2_count 59 = .ok (.iconst 1, 1) := dk_4 (dk_at dksX2_count_2 11 rfl rfl)
theorem dX2_count_60 : decode cX2_count 60 = .ok (.iaload, 1) := dk_46 (dk_at dksX2_count_2 12 rfl rfl)
theorem dX2_count_61 : decode cX2_count 61 = .ok (.ireturn, 1) := dk_172 (dk_at dksX2_count_2 13 rfl rfl)
theorem dX2_count_62 : decode cX2_count 62 = .ok (.aload_n 0, 1) := dk_42 (dk_at dksX2_count_2 14 rfl rfl)
theorem dX2_count_63 : decode cX2_count 63 = .ok (.invokevirtual 206, 3) := dk_182 0 206 (dk_at dksX2_count_2 15 rfl rfl)
theorem dX2_count_66 : decode cX2_count 66 = .ok (.ireturn, 1) := dk_172 (dk_at dksX2_count_2 18 rfl rfl)
theorem dX2_count_67 : decode cX2_count 67 = .ok (.aload_n 0, 1) := dk_42 (dk_at dksX2_count_2 19 rfl rfl)
theorem dX2_count_68 : decode cX2_count 68 = .ok (.invokevirtual 209, 3) := dk_182 0 209 (dk_at dksX2_count_2 20 rfl rfl)
theorem dX2_count_71 : decode cX2_count 71 = .ok (.ireturn, 1) := dk_172 (dk_at dksX2_count_2 23 rfl rfl)
theorem dX2_count_72 : decode cX2_count 72 = .ok (.aload_n 0, 1) := dk_42 (dk_at dksX2_count_3 0 rfl rfl)
theorem dX2_count_73 : decode cX2_count 73 = .ok (.invokevirtual 212, 3) := dk_182 0 212 (dk_at dksX2_count_3 1 rfl rfl)
theorem dX2_count_76 : decode cX2_count 76 = .ok (.ireturn, 1) := dk_172 (dk_at dksX2_count_3 4 rfl rfl)
theorem dX2_count_77 : decode cX2_count 77 = .ok (.aload_n 0, 1) := dk_42 (dk_at dksX2_count_3 5 rfl rfl)
theorem dX2_count_78 : decode cX2_count 78 = .ok (.invokevirtual 215, 3) := dk_182 0 215 (dk_at dksX2_count_3 6 rfl rfl)
theorem dX2_count_81 : decode cX2_count 81 = .ok (.ireturn, 1) := dk_172 (dk_at dksX2_count_3 9 rfl rfl)
theorem dX2_count_82 : decode cX2_count 82 = .ok (.aload_n 0, 1) := dk_42 (dk_at dksX2_count_3 10 rfl rfl)
theorem dX2_count_83 : decode cX2_count 83 = .ok (.getfield 61, 3) := dk_180 0 61 (dk_at dksX2_count_3 11 rfl rfl)
theorem dX2_count_86 : decode cX2_count 86 = .ok (.ireturn, 1) := dk_172 (dk_at dksX2_count_3 14 rfl rfl)
theorem dX2_count_87 : decode cX2_count 87 = .ok (.aload_n 0, 1) := dk_42 (dk_at dksX2_count_3 15 rfl rfl)
theorem dX2_count_88 : decode cX2_count 88 = .ok (.getfield 140, 3) := dk_180 0 140 (dk_at dksX2_count_3 16 rfl rfl)
theorem dX2_count_91 : decode cX2_count 91 = .ok (.ireturn, 1) := dk_172 (dk_at dksX2_count_3 19 rfl rfl)
theorem dX2_count_92 : decode cX2_count 92 = .ok (.ldc 90, 2) := dk_18 90 (dk_at dksX2_count_3 20 rfl rfl)
theorem dX2_count_94 : decode cX2_count 94 = .ok (.ireturn, 1) := dk_172 (dk_at dksX2_count_3 22 rfl rfl)
abbrev cX2_manySources : ByteArray := prog_8_method_53_code
def yX2_manySources : MethodName := ⟨RX2, "manySources", "()I"⟩
def dkwX2_manySources_1 : List UInt8 := [4, 167, 0, 4, 3, 96, 60, 132, 2, 1, 167, 255, 226, 27, 172]
abbrev dktX2_manySources_1 : List UInt8 := dkwX2_manySources_1 ++ []
def dkwX2_manySources_0 : List UInt8 := [3, 60, 3, 61, 28, 42, 180, 0, 7, 3, 46, 162, 0, 26, 27, 42, 28, 3, 182, 0, 100, 154, 0, 7]
abbrev dktX2_manySources_0 : List UInt8 := dkwX2_manySources_0 ++ dktX2_manySources_1
theorem dksX2_manySources_0 : cX2_manySources.data.toList.drop 0 = dktX2_manySources_0 := by decide +kernel
theorem dksX2_manySources_1 : cX2_manySources.data.toList.drop 24 = dktX2_manySources_1 := dk_seg dksX2_manySources_0 24 rfl rfl
theorem dX2_manySources_0 : decode cX2_manySources 0 = .ok (.iconst 0, 1) := dk_3 (dk_at dksX2_manySources_0 0 rfl rfl)
theorem dX2_manySources_1 : decode cX2_manySources 1 = .ok (.istore_n 1, 1) := dk_60 (dk_at dksX2_manySources_0 1 rfl rfl)
theorem dX2_manySources_2 : decode cX2_manySources 2 = .ok (.iconst 0, 1) := dk_3 (dk_at dksX2_manySources_0 2 rfl rfl)
theorem dX2_manySources_3 : decode cX2_manySources 3 = .ok (.istore_n 2, 1) := dk_61 (dk_at dksX2_manySources_0 3 rfl rfl)
theorem dX2_manySources_4 : decode cX2_manySources 4 = .ok (.iload_n 2, 1) := dk_28 (dk_at dksX2_manySources_0 4 rfl rfl)
theorem dX2_manySources_5 : decode cX2_manySources 5 = .ok (.aload_n 0, 1) := dk_42 (dk_at dksX2_manySources_0 5 rfl rfl)
theorem dX2_manySources_6 : decode cX2_manySources 6 = .ok (.getfield 7, 3) := dk_180 0 7 (dk_at dksX2_manySources_0 6 rfl rfl)
theorem dX2_manySources_9 : decode cX2_manySources 9 = .ok (.iconst 0, 1) := dk_3 (dk_at dksX2_manySources_0 9 rfl rfl)
theorem dX2_manySources_10 : decode cX2_manySources 10 = .ok (.iaload, 1) := dk_46 (dk_at dksX2_manySources_0 10 rfl rfl)
theorem dX2_manySources_11 : decode cX2_manySources 11 = .ok (.if_icmp .ge 26, 3) := dk_162 0 26 (dk_at dksX2_manySources_0 11 rfl rfl)
theorem dX2_manySources_14 : decode cX2_manySources 14 = .ok (.iload_n 1, 1) := dk_27 (dk_at dksX2_manySources_0 14 rfl rfl)
theorem dX2_manySources_15 : decode cX2_manySources 15 = .ok (.aload_n 0, 1) := dk_42 (dk_at dksX2_manySources_0 15 rfl rfl)
theorem dX2_manySources_16 : decode cX2_manySources 16 = .ok (.iload_n 2, 1) := dk_28 (dk_at dksX2_manySources_0 16 rfl rfl)
theorem dX2_manySources_17 : decode cX2_manySources 17 = .ok (.iconst 0, 1) := dk_3 (dk_at dksX2_manySources_0 17 rfl rfl)
theorem dX2_manySources_18 : decode cX2_manySources 18 = .ok (.invokevirtual 100, 3) := dk_182 0 100 (dk_at dksX2_manySources_0 18 rfl rfl)
theorem dX2_manySources_21 : decode cX2_manySources 21 = .ok (.ifCond .ne 7, 3) := dk_154 0 7 (dk_at dksX2_manySources_0 21 rfl rfl)
theorem dX2_manySources_24 : decode cX2_manySources 24 = .ok (.iconst 1, 1) := dk_4 (dk_at dksX2_manySources_1 0 rfl rfl)
theorem dX2_manySources_25 : decode cX2_manySources 25 = .ok (.goto 4, 3) := dk_167 0 4 (dk_at dksX2_manySources_1 1 rfl rfl)
theorem dX2_manySources_28 : decode cX2_manySources 28 = .ok (.iconst 0, 1) := dk_3 (dk_at dksX2_manySources_1 4 rfl rfl)
theorem dX2_manySources_29 : decode cX2_manySources 29 = .ok (.iadd, 1) := dk_96 (dk_at dksX2_manySources_1 5 rfl rfl)
theorem dX2_manySources_30 : decode cX2_manySources 30 = .ok (.istore_n 1, 1) := dk_60 (dk_at dksX2_manySources_1 6 rfl rfl)
theorem dX2_manySources_31 : decode cX2_manySources 31 = .ok (.iinc 2 1, 3) := dk_132 2 1 (dk_at dksX2_manySources_1 7 rfl rfl)
theorem dX2_manySources_34 : decode cX2_manySources 34 = .ok (.goto (-30), 3) := dk_167 255 226 (dk_at dksX2_manySources_1 10 rfl rfl)
theorem dX2_manySources_37 : decode cX2_manySources 37 = .ok (.iload_n 1, 1) := dk_27 (dk_at dksX2_manySources_1 13 rfl rfl)
theorem dX2_manySources_38 : decode cX2_manySources 38 = .ok (.ireturn, 1) := dk_172 (dk_at dksX2_manySources_1 14 rfl rfl)
abbrev cX2_errors : ByteArray := prog_8_method_54_code
def yX2_errors : MethodName := ⟨RX2, "errors", "()I"⟩
def dkwX2_errors_1 : List UInt8 := [182, 0, 203, 96, 60, 132, 2, 1, 167, 255, 229, 27, 172]
abbrev dktX2_errors_1 : List UInt8 := dkwX2_errors_1 ++ []
def dkwX2_errors_0 : List UInt8 := [3, 60, 3, 61, 28, 42, 180, 0, 7, 3, 46, 162, 0, 23, 27, 42, 28, 42, 180, 0, 7, 4, 46]
abbrev dktX2_errors_0 : List UInt8 := dkwX2_errors_0 ++ dktX2_errors_1
theorem dksX2_errors_0 : cX2_errors.data.toList.drop 0 = dktX2_errors_0 := by decide +kernel
theorem dksX2_errors_1 : cX2_errors.data.toList.drop 23 = dktX2_errors_1 := dk_seg dksX2_errors_0 23 rfl rfl
theorem dX2_errors_0 : decode cX2_errors 0 = .ok (.iconst 0, 1) := dk_3 (dk_at dksX2_errors_0 0 rfl rfl)
theorem dX2_errors_1 : decode cX2_errors 1 = .ok (.istore_n 1, 1) := dk_60 (dk_at dksX2_errors_0 1 rfl rfl)
theorem dX2_errors_2 : decode cX2_errors 2 = .ok (.iconst 0, 1) := dk_3 (dk_at dksX2_errors_0 2 rfl rfl)
theorem dX2_errors_3 : decode cX2_errors 3 = .ok (.istore_n 2, 1) := dk_61 (dk_at dksX2_errors_0 3 rfl rfl)
theorem dX2_errors_4 : decode cX2_errors 4 = .ok (.iload_n 2, 1) := dk_28 (dk_at dksX2_errors_0 4 rfl rfl)
theorem dX2_errors_5 : decode cX2_errors 5 = .ok (.aload_n 0, 1) := dk_42 (dk_at dksX2_errors_0 5 rfl rfl)
theorem dX2_errors_6 : decode cX2_errors 6 = .ok (.getfield 7, 3) := dk_180 0 7 (dk_at dksX2_errors_0 6 rfl rfl)
theorem dX2_errors_9 : decode cX2_errors 9 = .ok (.iconst 0, 1) := dk_3 (dk_at dksX2_errors_0 9 rfl rfl)
theorem dX2_errors_10 : decode cX2_errors 10 = .ok (.iaload, 1) := dk_46 (dk_at dksX2_errors_0 10 rfl rfl)
theorem dX2_errors_11 : decode cX2_errors 11 = .ok (.if_icmp .ge 23, 3) := dk_162 0 23 (dk_at dksX2_errors_0 11 rfl rfl)
theorem dX2_errors_14 : decode cX2_errors 14 = .ok (.iload_n 1, 1) := dk_27 (dk_at dksX2_errors_0 14 rfl rfl)
theorem dX2_errors_15 : decode cX2_errors 15 = .ok (.aload_n 0, 1) := dk_42 (dk_at dksX2_errors_0 15 rfl rfl)
theorem dX2_errors_16 : decode cX2_errors 16 = .ok (.iload_n 2, 1) := dk_28 (dk_at dksX2_errors_0 16 rfl rfl)
theorem dX2_errors_17 : decode cX2_errors 17 = .ok (.aload_n 0, 1) := dk_42 (dk_at dksX2_errors_0 17 rfl rfl)
theorem dX2_errors_18 : decode cX2_errors 18 = .ok (.getfield 7, 3) := dk_180 0 7 (dk_at dksX2_errors_0 18 rfl rfl)
theorem dX2_errors_21 : decode cX2_errors 21 = .ok (.iconst 1, 1) := dk_4 (dk_at dksX2_errors_0 21 rfl rfl)
theorem dX2_errors_22 : decode cX2_errors 22 = .ok (.iaload, 1) := dk_46 (dk_at dksX2_errors_0 22 rfl rfl)
theorem dX2_errors_23 : decode cX2_errors 23 = .ok (.invokevirtual 203, 3) := dk_182 0 203 (dk_at dksX2_errors_1 0 rfl rfl)
theorem dX2_errors_26 : decode cX2_errors 26 = .ok (.iadd, 1) := dk_96 (dk_at dksX2_errors_1 3 rfl rfl)
theorem dX2_errors_27 : decode cX2_errors 27 = .ok (.istore_n 1, 1) := dk_60 (dk_at dksX2_errors_1 4 rfl rfl)
theorem dX2_errors_28 : decode cX2_errors 28 = .ok (.iinc 2 1, 3) := dk_132 2 1 (dk_at dksX2_errors_1 5 rfl rfl)
theorem dX2_errors_31 : decode cX2_errors 31 = .ok (.goto (-27), 3) := dk_167 255 229 (dk_at dksX2_errors_1 8 rfl rfl)
theorem dX2_errors_34 : decode cX2_errors 34 = .ok (.iload_n 1, 1) := dk_27 (dk_at dksX2_errors_1 11 rfl rfl)
theorem dX2_errors_35 : decode cX2_errors 35 = .ok (.ireturn, 1) := dk_172 (dk_at dksX2_errors_1 12 rfl rfl)
abbrev cX2_worst : ByteArray := prog_8_method_55_code
def yX2_worst : MethodName := ⟨RX2, "worst", "()I"⟩
def dkwX2_worst_2 : List UInt8 := [21, 4, 167, 0, 4, 28, 61, 132, 3, 1, 167, 255, 205, 27, 172]
abbrev dktX2_worst_2 : List UInt8 := dkwX2_worst_2 ++ []
def dkwX2_worst_1 : List UInt8 := [46, 182, 0, 203, 54, 4, 21, 4, 28, 164, 0, 7, 29, 167, 0, 4, 27, 60, 21, 4, 28, 164, 0, 8]
abbrev dktX2_worst_1 : List UInt8 := dkwX2_worst_1 ++ dktX2_worst_2
def dkwX2_worst_0 : List UInt8 := [18, 85, 60, 2, 61, 3, 62, 29, 42, 180, 0, 7, 3, 46, 162, 0, 47, 42, 29, 42, 180, 0, 7, 4]
abbrev dktX2_worst_0 : List UInt8 := dkwX2_worst_0 ++ dktX2_worst_1
theorem dksX2_worst_0 : cX2_worst.data.toList.drop 0 = dktX2_worst_0 := by decide +kernel
theorem dksX2_worst_1 : cX2_worst.data.toList.drop 24 = dktX2_worst_1 := dk_seg dksX2_worst_0 24 rfl rfl
theorem dksX2_worst_2 : cX2_worst.data.toList.drop 48 = dktX2_worst_2 := dk_seg dksX2_worst_1 24 rfl rfl
theorem dX2_worst_0 : decode cX2_worst 0 = .ok (.ldc 85, 2) := dk_18 85 (dk_at dksX2_worst_0 0 rfl rfl)
theorem dX2_worst_2 : decode cX2_worst 2 = .ok (.istore_n 1, 1) := dk_60 (dk_at dksX2_worst_0 2 rfl rfl)
theorem dX2_worst_3 : decode cX2_worst 3 = .ok (.iconst (-1), 1) := dk_2 (dk_at dksX2_worst_0 3 rfl rfl)
theorem dX2_worst_4 : decode cX2_worst 4 = .ok (.istore_n 2, 1) := dk_61 (dk_at dksX2_worst_0 4 rfl rfl)
theorem dX2_worst_5 : decode cX2_worst 5 = .ok (.iconst 0, 1) := dk_3 (dk_at dksX2_worst_0 5 rfl rfl)
theorem dX2_worst_6 : decode cX2_worst 6 = .ok (.istore_n 3, 1) := dk_62 (dk_at dksX2_worst_0 6 rfl rfl)
theorem dX2_worst_7 : decode cX2_worst 7 = .ok (.iload_n 3, 1) := dk_29 (dk_at dksX2_worst_0 7 rfl rfl)
theorem dX2_worst_8 : decode cX2_worst 8 = .ok (.aload_n 0, 1) := dk_42 (dk_at dksX2_worst_0 8 rfl rfl)
theorem dX2_worst_9 : decode cX2_worst 9 = .ok (.getfield 7, 3) := dk_180 0 7 (dk_at dksX2_worst_0 9 rfl rfl)
theorem dX2_worst_12 : decode cX2_worst 12 = .ok (.iconst 0, 1) := dk_3 (dk_at dksX2_worst_0 12 rfl rfl)
theorem dX2_worst_13 : decode cX2_worst 13 = .ok (.iaload, 1) := dk_46 (dk_at dksX2_worst_0 13 rfl rfl)
theorem dX2_worst_14 : decode cX2_worst 14 = .ok (.if_icmp .ge 47, 3) := dk_162 0 47 (dk_at dksX2_worst_0 14 rfl rfl)
theorem dX2_worst_17 : decode cX2_worst 17 = .ok (.aload_n 0, 1) := dk_42 (dk_at dksX2_worst_0 17 rfl rfl)
theorem dX2_worst_18 : decode cX2_worst 18 = .ok (.iload_n 3, 1) := dk_29 (dk_at dksX2_worst_0 18 rfl rfl)
theorem dX2_worst_19 : decode cX2_worst 19 = .ok (.aload_n 0, 1) := dk_42 (dk_at dksX2_worst_0 19 rfl rfl)
theorem dX2_worst_20 : decode cX2_worst 20 = .ok (.getfield 7, 3) := dk_180 0 7 (dk_at dksX2_worst_0 20 rfl rfl)
theorem dX2_worst_23 : decode cX2_worst 23 = .ok (.iconst 1, 1) := dk_4 (dk_at dksX2_worst_0 23 rfl rfl)
theorem dX2_worst_24 : decode cX2_worst 24 = .ok (.iaload, 1) := dk_46 (dk_at dksX2_worst_1 0 rfl rfl)
theorem dX2_worst_25 : decode cX2_worst 25 = .ok (.invokevirtual 203, 3) := dk_182 0 203 (dk_at dksX2_worst_1 1 rfl rfl)
theorem dX2_worst_28 : decode cX2_worst 28 = .ok (.istore 4, 2) := dk_54 4 (dk_at dksX2_worst_1 4 rfl rfl)
theorem dX2_worst_30 : decode cX2_worst 30 = .ok (.iload 4, 2) := dk_21 4 (dk_at dksX2_worst_1 6 rfl rfl)
theorem dX2_worst_32 : decode cX2_worst 32 = .ok (.iload_n 2, 1) := dk_28 (dk_at dksX2_worst_1 8 rfl rfl)
theorem dX2_worst_33 : decode cX2_worst 33 = .ok (.if_icmp .le 7, 3) := dk_164 0 7 (dk_at dksX2_worst_1 9 rfl rfl)
theorem dX2_worst_36 : decode cX2_worst 36 = .ok (.iload_n 3, 1) := dk_29 (dk_at dksX2_worst_1 12 rfl rfl)
theorem dX2_worst_37 : decode cX2_worst 37 = .ok (.goto 4, 3) := dk_167 0 4 (dk_at dksX2_worst_1 13 rfl rfl)
theorem dX2_worst_40 : decode cX2_worst 40 = .ok (.iload_n 1, 1) := dk_27 (dk_at dksX2_worst_1 16 rfl rfl)
theorem dX2_worst_41 : decode cX2_worst 41 = .ok (.istore_n 1, 1) := dk_60 (dk_at dksX2_worst_1 17 rfl rfl)
theorem dX2_worst_42 : decode cX2_worst 42 = .ok (.iload 4, 2) := dk_21 4 (dk_at dksX2_worst_1 18 rfl rfl)
theorem dX2_worst_44 : decode cX2_worst 44 = .ok (.iload_n 2, 1) := dk_28 (dk_at dksX2_worst_1 20 rfl rfl)
theorem dX2_worst_45 : decode cX2_worst 45 = .ok (.if_icmp .le 8, 3) := dk_164 0 8 (dk_at dksX2_worst_1 21 rfl rfl)
theorem dX2_worst_48 : decode cX2_worst 48 = .ok (.iload 4, 2) := dk_21 4 (dk_at dksX2_worst_2 0 rfl rfl)
theorem dX2_worst_50 : decode cX2_worst 50 = .ok (.goto 4, 3) := dk_167 0 4 (dk_at dksX2_worst_2 2 rfl rfl)
theorem dX2_worst_53 : decode cX2_worst 53 = .ok (.iload_n 2, 1) := dk_28 (dk_at dksX2_worst_2 5 rfl rfl)
theorem dX2_worst_54 : decode cX2_worst 54 = .ok (.istore_n 2, 1) := dk_61 (dk_at dksX2_worst_2 6 rfl rfl)
theorem dX2_worst_55 : decode cX2_worst 55 = .ok (.iinc 3 1, 3) := dk_132 3 1 (dk_at dksX2_worst_2 7 rfl rfl)
theorem dX2_worst_58 : decode cX2_worst 58 = .ok (.goto (-51), 3) := dk_167 255 205 (dk_at dksX2_worst_2 10 rfl rfl)
theorem dX2_worst_61 : decode cX2_worst 61 = .ok (.iload_n 1, 1) := dk_27 (dk_at dksX2_worst_2 13 rfl rfl)
theorem dX2_worst_62 : decode cX2_worst 62 = .ok (.ireturn, 1) := dk_172 (dk_at dksX2_worst_2 14 rfl rfl)
abbrev cX2_deepest : ByteArray := prog_8_method_56_code
def yX2_deepest : MethodName := ⟨RX2, "deepest", "()I"⟩
def dkwX2_deepest_1 : List UInt8 := [27, 164, 0, 12, 42, 180, 0, 41, 28, 46, 167, 0, 4, 27, 60, 132, 2, 1, 167, 255, 222, 27, 172]
abbrev dktX2_deepest_1 : List UInt8 := dkwX2_deepest_1 ++ []
def dkwX2_deepest_0 : List UInt8 := [42, 182, 0, 195, 3, 60, 3, 61, 28, 42, 180, 0, 7, 3, 46, 162, 0, 30, 42, 180, 0, 41, 28, 46]
abbrev dktX2_deepest_0 : List UInt8 := dkwX2_deepest_0 ++ dktX2_deepest_1
theorem dksX2_deepest_0 : cX2_deepest.data.toList.drop 0 = dktX2_deepest_0 := by decide +kernel
theorem dksX2_deepest_1 : cX2_deepest.data.toList.drop 24 = dktX2_deepest_1 := dk_seg dksX2_deepest_0 24 rfl rfl
theorem dX2_deepest_0 : decode cX2_deepest 0 = .ok (.aload_n 0, 1) := dk_42 (dk_at dksX2_deepest_0 0 rfl rfl)
theorem dX2_deepest_1 : decode cX2_deepest 1 = .ok (.invokevirtual 195, 3) := dk_182 0 195 (dk_at dksX2_deepest_0 1 rfl rfl)
theorem dX2_deepest_4 : decode cX2_deepest 4 = .ok (.iconst 0, 1) := dk_3 (dk_at dksX2_deepest_0 4 rfl rfl)
theorem dX2_deepest_5 : decode cX2_deepest 5 = .ok (.istore_n 1, 1) := dk_60 (dk_at dksX2_deepest_0 5 rfl rfl)
theorem dX2_deepest_6 : decode cX2_deepest 6 = .ok (.iconst 0, 1) := dk_3 (dk_at dksX2_deepest_0 6 rfl rfl)
theorem dX2_deepest_7 : decode cX2_deepest 7 = .ok (.istore_n 2, 1) := dk_61 (dk_at dksX2_deepest_0 7 rfl rfl)
theorem dX2_deepest_8 : decode cX2_deepest 8 = .ok (.iload_n 2, 1) := dk_28 (dk_at dksX2_deepest_0 8 rfl rfl)
theorem dX2_deepest_9 : decode cX2_deepest 9 = .ok (.aload_n 0, 1) := dk_42 (dk_at dksX2_deepest_0 9 rfl rfl)
theorem dX2_deepest_10 : decode cX2_deepest 10 = .ok (.getfield 7, 3) := dk_180 0 7 (dk_at dksX2_deepest_0 10 rfl rfl)
theorem dX2_deepest_13 : decode cX2_deepest 13 = .ok (.iconst 0, 1) := dk_3 (dk_at dksX2_deepest_0 13 rfl rfl)
theorem dX2_deepest_14 : decode cX2_deepest 14 = .ok (.iaload, 1) := dk_46 (dk_at dksX2_deepest_0 14 rfl rfl)
theorem dX2_deepest_15 : decode cX2_deepest 15 = .ok (.if_icmp .ge 30, 3) := dk_162 0 30 (dk_at dksX2_deepest_0 15 rfl rfl)
theorem dX2_deepest_18 : decode cX2_deepest 18 = .ok (.aload_n 0, 1) := dk_42 (dk_at dksX2_deepest_0 18 rfl rfl)
theorem dX2_deepest_19 : decode cX2_deepest 19 = .ok (.getfield 41, 3) := dk_180 0 41 (dk_at dksX2_deepest_0 19 rfl rfl)
theorem dX2_deepest_22 : decode cX2_deepest 22 = .ok (.iload_n 2, 1) := dk_28 (dk_at dksX2_deepest_0 22 rfl rfl)
theorem dX2_deepest_23 : decode cX2_deepest 23 = .ok (.iaload, 1) := dk_46 (dk_at dksX2_deepest_0 23 rfl rfl)
theorem dX2_deepest_24 : decode cX2_deepest 24 = .ok (.iload_n 1, 1) := dk_27 (dk_at dksX2_deepest_1 0 rfl rfl)
theorem dX2_deepest_25 : decode cX2_deepest 25 = .ok (.if_icmp .le 12, 3) := dk_164 0 12 (dk_at dksX2_deepest_1 1 rfl rfl)
theorem dX2_deepest_28 : decode cX2_deepest 28 = .ok (.aload_n 0, 1) := dk_42 (dk_at dksX2_deepest_1 4 rfl rfl)
theorem dX2_deepest_29 : decode cX2_deepest 29 = .ok (.getfield 41, 3) := dk_180 0 41 (dk_at dksX2_deepest_1 5 rfl rfl)
theorem dX2_deepest_32 : decode cX2_deepest 32 = .ok (.iload_n 2, 1) := dk_28 (dk_at dksX2_deepest_1 8 rfl rfl)
theorem dX2_deepest_33 : decode cX2_deepest 33 = .ok (.iaload, 1) := dk_46 (dk_at dksX2_deepest_1 9 rfl rfl)
theorem dX2_deepest_34 : decode cX2_deepest 34 = .ok (.goto 4, 3) := dk_167 0 4 (dk_at dksX2_deepest_1 10 rfl rfl)
theorem dX2_deepest_37 : decode cX2_deepest 37 = .ok (.iload_n 1, 1) := dk_27 (dk_at dksX2_deepest_1 13 rfl rfl)
theorem dX2_deepest_38 : decode cX2_deepest 38 = .ok (.istore_n 1, 1) := dk_60 (dk_at dksX2_deepest_1 14 rfl rfl)
theorem dX2_deepest_39 : decode cX2_deepest 39 = .ok (.iinc 2 1, 3) := dk_132 2 1 (dk_at dksX2_deepest_1 15 rfl rfl)
theorem dX2_deepest_42 : decode cX2_deepest 42 = .ok (.goto (-34), 3) := dk_167 255 222 (dk_at dksX2_deepest_1 18 rfl rfl)
theorem dX2_deepest_45 : decode cX2_deepest 45 = .ok (.iload_n 1, 1) := dk_27 (dk_at dksX2_deepest_1 21 rfl rfl)
theorem dX2_deepest_46 : decode cX2_deepest 46 = .ok (.ireturn, 1) := dk_172 (dk_at dksX2_deepest_1 22 rfl rfl)
theorem q53 : (Jvm.Cond.initialized "ShareStreamsModel") ∈ lw_all := lw_g (lw_at lw_m1 10 rfl) rfl
theorem q269 : (Jvm.Cond.selects "ShareStreamsModel" ({ cls := "java/lang/Object", name := "getClass", desc := "()Ljava/lang/Class;" } : Jvm.MethodName) ({ cls := "java/lang/Object", name := "getClass", desc := "()Ljava/lang/Class;" } : Jvm.MethodName)) ∈ lw_all := lw_g (lw_at lw_m1 226 rfl) rfl
theorem q926 : (Jvm.Cond.instantiable "ShareStreamsModel" (18 : Nat)) ∈ lw_all := lw_g (lw_at lw_m4 163 rfl) rfl
theorem q928 : (Jvm.Cond.instanceMethod ({ cls := "ShareStreamsModel", name := "<init>", desc := "()V" } : Jvm.MethodName)) ∈ lw_all := lw_g (lw_at lw_m4 165 rfl) rfl
theorem q929 : (Jvm.Cond.code ({ cls := "ShareStreamsModel", name := "<init>", desc := "()V" } : Jvm.MethodName) prog_8_method_1_code (1 : Nat) (Option.none : Option Jvm.ClassFile.FieldType)) ∈ lw_all := lw_g (lw_at lw_m4 166 rfl) rfl
theorem q930 : (Jvm.Cond.methodLink "ShareStreamsModel" (1 : Nat) ({ cls := "java/lang/Object", name := "<init>", desc := "()V" } : Jvm.MethodName)) ∈ lw_all := lw_g (lw_at lw_m4 167 rfl) rfl
theorem q931 : (Jvm.Cond.constantLong "ShareStreamsModel" (47 : Nat) (126922548994917 : Int64)) ∈ lw_all := lw_g (lw_at lw_m4 168 rfl) rfl
theorem q932 : (Jvm.Cond.constantLong "ShareStreamsModel" (49 : Nat) (6385252 : Int64)) ∈ lw_all := lw_g (lw_at lw_m4 169 rfl) rfl
theorem q933 : (Jvm.Cond.constantLong "ShareStreamsModel" (51 : Nat) (28530 : Int64)) ∈ lw_all := lw_g (lw_at lw_m4 170 rfl) rfl
theorem q934 : (Jvm.Cond.constantLong "ShareStreamsModel" (53 : Nat) (7892850 : Int64)) ∈ lw_all := lw_g (lw_at lw_m4 171 rfl) rfl
theorem q935 : (Jvm.Cond.constantLong "ShareStreamsModel" (55 : Nat) (7173496 : Int64)) ∈ lw_all := lw_g (lw_at lw_m4 172 rfl) rfl
theorem q936 : (Jvm.Cond.constantLong "ShareStreamsModel" (57 : Nat) (7237492 : Int64)) ∈ lw_all := lw_g (lw_at lw_m4 173 rfl) rfl
theorem q937 : (Jvm.Cond.constantLong "ShareStreamsModel" (59 : Nat) (431198331257 : Int64)) ∈ lw_all := lw_g (lw_at lw_m4 174 rfl) rfl
theorem q938 : (Jvm.Cond.fieldLink "ShareStreamsModel" (7 : Nat) "ShareStreamsModel" "all" "[I") ∈ lw_all := lw_g (lw_at lw_m4 175 rfl) rfl
theorem q939 : (Jvm.Cond.fieldLink "ShareStreamsModel" (13 : Nat) "ShareStreamsModel" "kept" "[I") ∈ lw_all := lw_g (lw_at lw_m4 176 rfl) rfl
theorem q940 : (Jvm.Cond.fieldLink "ShareStreamsModel" (16 : Nat) "ShareStreamsModel" "history" "[I") ∈ lw_all := lw_g (lw_at lw_m4 177 rfl) rfl
theorem q941 : (Jvm.Cond.fieldLink "ShareStreamsModel" (61 : Nat) "ShareStreamsModel" "historyLong" "I") ∈ lw_all := lw_g (lw_at lw_m4 178 rfl) rfl
theorem q942 : (Jvm.Cond.fieldLink "ShareStreamsModel" (19 : Nat) "ShareStreamsModel" "snapshot" "[I") ∈ lw_all := lw_g (lw_at lw_m4 179 rfl) rfl
theorem q943 : (Jvm.Cond.fieldLink "ShareStreamsModel" (190 : Nat) "ShareStreamsModel" "isTaken" "I") ∈ lw_all := lw_g (lw_at lw_m4 180 rfl) rfl
theorem q944 : (Jvm.Cond.fieldLink "ShareStreamsModel" (22 : Nat) "ShareStreamsModel" "words" "[J") ∈ lw_all := lw_g (lw_at lw_m4 181 rfl) rfl
theorem q945 : (Jvm.Cond.fieldLink "ShareStreamsModel" (26 : Nat) "ShareStreamsModel" "bits" "[I") ∈ lw_all := lw_g (lw_at lw_m4 182 rfl) rfl
theorem q946 : (Jvm.Cond.fieldLink "ShareStreamsModel" (29 : Nat) "ShareStreamsModel" "register" "[I") ∈ lw_all := lw_g (lw_at lw_m4 183 rfl) rfl
theorem q947 : (Jvm.Cond.fieldLink "ShareStreamsModel" (32 : Nat) "ShareStreamsModel" "exact" "[I") ∈ lw_all := lw_g (lw_at lw_m4 184 rfl) rfl
theorem q948 : (Jvm.Cond.fieldLink "ShareStreamsModel" (35 : Nat) "ShareStreamsModel" "text" "[I") ∈ lw_all := lw_g (lw_at lw_m4 185 rfl) rfl
theorem q949 : (Jvm.Cond.fieldLink "ShareStreamsModel" (140 : Nat) "ShareStreamsModel" "textLong" "I") ∈ lw_all := lw_g (lw_at lw_m4 186 rfl) rfl
theorem q950 : (Jvm.Cond.fieldLink "ShareStreamsModel" (147 : Nat) "ShareStreamsModel" "spot" "I") ∈ lw_all := lw_g (lw_at lw_m4 187 rfl) rfl
theorem q951 : (Jvm.Cond.fieldLink "ShareStreamsModel" (38 : Nat) "ShareStreamsModel" "read" "[I") ∈ lw_all := lw_g (lw_at lw_m4 188 rfl) rfl
theorem q952 : (Jvm.Cond.fieldLink "ShareStreamsModel" (166 : Nat) "ShareStreamsModel" "readMany" "I") ∈ lw_all := lw_g (lw_at lw_m4 189 rfl) rfl
theorem q953 : (Jvm.Cond.fieldLink "ShareStreamsModel" (160 : Nat) "ShareStreamsModel" "number" "I") ∈ lw_all := lw_g (lw_at lw_m4 190 rfl) rfl
theorem q954 : (Jvm.Cond.fieldLink "ShareStreamsModel" (41 : Nat) "ShareStreamsModel" "deep" "[I") ∈ lw_all := lw_g (lw_at lw_m4 191 rfl) rfl
theorem q955 : (Jvm.Cond.fieldLink "ShareStreamsModel" (44 : Nat) "ShareStreamsModel" "sources" "[I") ∈ lw_all := lw_g (lw_at lw_m4 192 rfl) rfl
theorem q956 : (Jvm.Cond.laysFinal "ShareStreamsModel" "ShareStreamsModel" "all" "[I") ∈ lw_all := lw_g (lw_at lw_m4 193 rfl) rfl
theorem q957 : (Jvm.Cond.soleField "ShareStreamsModel" "all") ∈ lw_all := lw_g (lw_at lw_m4 194 rfl) rfl
theorem q958 : (Jvm.Cond.laysFinal "ShareStreamsModel" "ShareStreamsModel" "kept" "[I") ∈ lw_all := lw_g (lw_at lw_m4 195 rfl) rfl
theorem q959 : (Jvm.Cond.soleField "ShareStreamsModel" "kept") ∈ lw_all := lw_g (lw_at lw_m4 196 rfl) rfl
theorem q960 : (Jvm.Cond.laysFinal "ShareStreamsModel" "ShareStreamsModel" "history" "[I") ∈ lw_all := lw_g (lw_at lw_m4 197 rfl) rfl
theorem q961 : (Jvm.Cond.soleField "ShareStreamsModel" "history") ∈ lw_all := lw_g (lw_at lw_m4 198 rfl) rfl
theorem q962 : (Jvm.Cond.lays "ShareStreamsModel" "ShareStreamsModel" "historyLong" "I") ∈ lw_all := lw_g (lw_at lw_m4 199 rfl) rfl
theorem q963 : (Jvm.Cond.soleField "ShareStreamsModel" "historyLong") ∈ lw_all := lw_g (lw_at lw_m4 200 rfl) rfl
theorem q964 : (Jvm.Cond.laysFinal "ShareStreamsModel" "ShareStreamsModel" "snapshot" "[I") ∈ lw_all := lw_g (lw_at lw_m4 201 rfl) rfl
theorem q965 : (Jvm.Cond.soleField "ShareStreamsModel" "snapshot") ∈ lw_all := lw_g (lw_at lw_m4 202 rfl) rfl
theorem q966 : (Jvm.Cond.lays "ShareStreamsModel" "ShareStreamsModel" "isTaken" "I") ∈ lw_all := lw_g (lw_at lw_m4 203 rfl) rfl
theorem q967 : (Jvm.Cond.soleField "ShareStreamsModel" "isTaken") ∈ lw_all := lw_g (lw_at lw_m4 204 rfl) rfl
theorem q968 : (Jvm.Cond.laysFinal "ShareStreamsModel" "ShareStreamsModel" "words" "[J") ∈ lw_all := lw_g (lw_at lw_m4 205 rfl) rfl
theorem q969 : (Jvm.Cond.soleField "ShareStreamsModel" "words") ∈ lw_all := lw_g (lw_at lw_m4 206 rfl) rfl
theorem q970 : (Jvm.Cond.laysFinal "ShareStreamsModel" "ShareStreamsModel" "bits" "[I") ∈ lw_all := lw_g (lw_at lw_m4 207 rfl) rfl
theorem q971 : (Jvm.Cond.soleField "ShareStreamsModel" "bits") ∈ lw_all := lw_g (lw_at lw_m4 208 rfl) rfl
theorem q972 : (Jvm.Cond.laysFinal "ShareStreamsModel" "ShareStreamsModel" "register" "[I") ∈ lw_all := lw_g (lw_at lw_m4 209 rfl) rfl
theorem q973 : (Jvm.Cond.soleField "ShareStreamsModel" "register") ∈ lw_all := lw_g (lw_at lw_m4 210 rfl) rfl
theorem q974 : (Jvm.Cond.laysFinal "ShareStreamsModel" "ShareStreamsModel" "exact" "[I") ∈ lw_all := lw_g (lw_at lw_m4 211 rfl) rfl
theorem q975 : (Jvm.Cond.soleField "ShareStreamsModel" "exact") ∈ lw_all := lw_g (lw_at lw_m4 212 rfl) rfl
theorem q976 : (Jvm.Cond.laysFinal "ShareStreamsModel" "ShareStreamsModel" "text" "[I") ∈ lw_all := lw_g (lw_at lw_m4 213 rfl) rfl
theorem q977 : (Jvm.Cond.soleField "ShareStreamsModel" "text") ∈ lw_all := lw_g (lw_at lw_m4 214 rfl) rfl
theorem q978 : (Jvm.Cond.lays "ShareStreamsModel" "ShareStreamsModel" "textLong" "I") ∈ lw_all := lw_g (lw_at lw_m4 215 rfl) rfl
theorem q979 : (Jvm.Cond.soleField "ShareStreamsModel" "textLong") ∈ lw_all := lw_g (lw_at lw_m4 216 rfl) rfl
theorem q980 : (Jvm.Cond.lays "ShareStreamsModel" "ShareStreamsModel" "spot" "I") ∈ lw_all := lw_g (lw_at lw_m4 217 rfl) rfl
theorem q981 : (Jvm.Cond.soleField "ShareStreamsModel" "spot") ∈ lw_all := lw_g (lw_at lw_m4 218 rfl) rfl
theorem q982 : (Jvm.Cond.laysFinal "ShareStreamsModel" "ShareStreamsModel" "read" "[I") ∈ lw_all := lw_g (lw_at lw_m4 219 rfl) rfl
theorem q983 : (Jvm.Cond.soleField "ShareStreamsModel" "read") ∈ lw_all := lw_g (lw_at lw_m4 220 rfl) rfl
theorem q984 : (Jvm.Cond.lays "ShareStreamsModel" "ShareStreamsModel" "readMany" "I") ∈ lw_all := lw_g (lw_at lw_m4 221 rfl) rfl
theorem q985 : (Jvm.Cond.soleField "ShareStreamsModel" "readMany") ∈ lw_all := lw_g (lw_at lw_m4 222 rfl) rfl
theorem q986 : (Jvm.Cond.lays "ShareStreamsModel" "ShareStreamsModel" "number" "I") ∈ lw_all := lw_g (lw_at lw_m4 223 rfl) rfl
theorem q987 : (Jvm.Cond.soleField "ShareStreamsModel" "number") ∈ lw_all := lw_g (lw_at lw_m4 224 rfl) rfl
theorem q988 : (Jvm.Cond.laysFinal "ShareStreamsModel" "ShareStreamsModel" "deep" "[I") ∈ lw_all := lw_g (lw_at lw_m4 225 rfl) rfl
theorem q989 : (Jvm.Cond.soleField "ShareStreamsModel" "deep") ∈ lw_all := lw_g (lw_at lw_m4 226 rfl) rfl
theorem q990 : (Jvm.Cond.laysFinal "ShareStreamsModel" "ShareStreamsModel" "sources" "[I") ∈ lw_all := lw_g (lw_at lw_m4 227 rfl) rfl
theorem q991 : (Jvm.Cond.soleField "ShareStreamsModel" "sources") ∈ lw_all := lw_g (lw_at lw_m4 228 rfl) rfl
theorem q992 : (Jvm.Cond.superclass "ShareStreamsModel" "java/lang/Object") ∈ lw_all := lw_g (lw_at lw_m4 229 rfl) rfl
theorem q995 : (Jvm.Cond.instanceMethod ({ cls := "ShareStreamsModel", name := "source", desc := "(II)I" } : Jvm.MethodName)) ∈ lw_all := lw_g (lw_at lw_m4 232 rfl) rfl
theorem q996 : (Jvm.Cond.selects "ShareStreamsModel" ({ cls := "ShareStreamsModel", name := "source", desc := "(II)I" } : Jvm.MethodName) ({ cls := "ShareStreamsModel", name := "source", desc := "(II)I" } : Jvm.MethodName)) ∈ lw_all := lw_g (lw_at lw_m4 233 rfl) rfl
theorem q997 : (Jvm.Cond.code ({ cls := "ShareStreamsModel", name := "source", desc := "(II)I" } : Jvm.MethodName) prog_8_method_11_code (3 : Nat) (Option.some Jvm.ClassFile.FieldType.int)) ∈ lw_all := lw_g (lw_at lw_m4 234 rfl) rfl
theorem q998 : (Jvm.Cond.constantLong "ShareStreamsModel" (81 : Nat) (256 : Int64)) ∈ lw_all := lw_g (lw_at lw_m4 235 rfl) rfl
theorem q999 : (Jvm.Cond.methodLink "ShareStreamsModel" (65 : Nat) ({ cls := "ShareStreamsModel", name := "in", desc := "(JJJ)Z" } : Jvm.MethodName)) ∈ lw_all := lw_g (lw_at lw_m4 236 rfl) rfl
theorem q1000 : (Jvm.Cond.static ({ cls := "ShareStreamsModel", name := "in", desc := "(JJJ)Z" } : Jvm.MethodName)) ∈ lw_all := lw_g (lw_at lw_m4 237 rfl) rfl
theorem q1001 : (Jvm.Cond.code ({ cls := "ShareStreamsModel", name := "in", desc := "(JJJ)Z" } : Jvm.MethodName) prog_8_method_3_code (6 : Nat) (Option.some Jvm.ClassFile.FieldType.boolean)) ∈ lw_all := lw_g (lw_at lw_m4 238 rfl) rfl
theorem q1002 : (Jvm.Cond.constantLong "ShareStreamsModel" (83 : Nat) (255 : Int64)) ∈ lw_all := lw_g (lw_at lw_m4 239 rfl) rfl
theorem q1003 : (Jvm.Cond.constant "ShareStreamsModel" (85 : Nat) (-100000005 : Int32)) ∈ lw_all := lw_g (lw_at lw_m5 0 rfl) rfl
theorem q1004 : (Jvm.Cond.methodLink "ShareStreamsModel" (86 : Nat) ({ cls := "ShareStreamsModel", name := "adds", desc := "(IIII)I" } : Jvm.MethodName)) ∈ lw_all := lw_g (lw_at lw_m5 1 rfl) rfl
theorem q1005 : (Jvm.Cond.privateMethod ({ cls := "ShareStreamsModel", name := "adds", desc := "(IIII)I" } : Jvm.MethodName)) ∈ lw_tbl := lw_at lw_m5 2 rfl
theorem q1006 : (Jvm.Cond.instanceMethod ({ cls := "ShareStreamsModel", name := "adds", desc := "(IIII)I" } : Jvm.MethodName)) ∈ lw_all := lw_g (lw_at lw_m5 3 rfl) rfl
theorem q1007 : (Jvm.Cond.code ({ cls := "ShareStreamsModel", name := "adds", desc := "(IIII)I" } : Jvm.MethodName) prog_8_method_10_code (5 : Nat) (Option.some Jvm.ClassFile.FieldType.int)) ∈ lw_all := lw_g (lw_at lw_m5 4 rfl) rfl
theorem q1008 : (Jvm.Cond.constant "ShareStreamsModel" (69 : Nat) (-100000003 : Int32)) ∈ lw_all := lw_g (lw_at lw_m5 5 rfl) rfl
theorem q1009 : (Jvm.Cond.methodLink "ShareStreamsModel" (70 : Nat) ({ cls := "ShareStreamsModel", name := "remember", desc := "()V" } : Jvm.MethodName)) ∈ lw_all := lw_g (lw_at lw_m5 6 rfl) rfl
theorem q1010 : (Jvm.Cond.privateMethod ({ cls := "ShareStreamsModel", name := "remember", desc := "()V" } : Jvm.MethodName)) ∈ lw_tbl := lw_at lw_m5 7 rfl
theorem q1011 : (Jvm.Cond.instanceMethod ({ cls := "ShareStreamsModel", name := "remember", desc := "()V" } : Jvm.MethodName)) ∈ lw_all := lw_g (lw_at lw_m5 8 rfl) rfl
theorem q1012 : (Jvm.Cond.code ({ cls := "ShareStreamsModel", name := "remember", desc := "()V" } : Jvm.MethodName) prog_8_method_4_code (2 : Nat) (Option.none : Option Jvm.ClassFile.FieldType)) ∈ lw_all := lw_g (lw_at lw_m5 9 rfl) rfl
theorem q1013 : (Jvm.Cond.methodLink "ShareStreamsModel" (73 : Nat) ({ cls := "ShareStreamsModel", name := "puts", desc := "(IIII)V" } : Jvm.MethodName)) ∈ lw_all := lw_g (lw_at lw_m5 10 rfl) rfl
theorem q1014 : (Jvm.Cond.privateMethod ({ cls := "ShareStreamsModel", name := "puts", desc := "(IIII)V" } : Jvm.MethodName)) ∈ lw_tbl := lw_at lw_m5 11 rfl
theorem q1015 : (Jvm.Cond.instanceMethod ({ cls := "ShareStreamsModel", name := "puts", desc := "(IIII)V" } : Jvm.MethodName)) ∈ lw_all := lw_g (lw_at lw_m5 12 rfl) rfl
theorem q1016 : (Jvm.Cond.code ({ cls := "ShareStreamsModel", name := "puts", desc := "(IIII)V" } : Jvm.MethodName) prog_8_method_9_code (6 : Nat) (Option.none : Option Jvm.ClassFile.FieldType)) ∈ lw_all := lw_g (lw_at lw_m5 13 rfl) rfl
theorem q1017 : (Jvm.Cond.methodLink "ShareStreamsModel" (77 : Nat) ({ cls := "ShareStreamsModel", name := "acted", desc := "(I)I" } : Jvm.MethodName)) ∈ lw_all := lw_g (lw_at lw_m5 14 rfl) rfl
theorem q1018 : (Jvm.Cond.privateMethod ({ cls := "ShareStreamsModel", name := "acted", desc := "(I)I" } : Jvm.MethodName)) ∈ lw_tbl := lw_at lw_m5 15 rfl
theorem q1019 : (Jvm.Cond.instanceMethod ({ cls := "ShareStreamsModel", name := "acted", desc := "(I)I" } : Jvm.MethodName)) ∈ lw_all := lw_g (lw_at lw_m5 16 rfl) rfl
theorem q1020 : (Jvm.Cond.code ({ cls := "ShareStreamsModel", name := "acted", desc := "(I)I" } : Jvm.MethodName) prog_8_method_5_code (3 : Nat) (Option.some Jvm.ClassFile.FieldType.int)) ∈ lw_all := lw_g (lw_at lw_m5 17 rfl) rfl
theorem q1021 : (Jvm.Cond.constant "ShareStreamsModel" (90 : Nat) (-100000002 : Int32)) ∈ lw_all := lw_g (lw_at lw_m5 18 rfl) rfl
theorem q1023 : (Jvm.Cond.instanceMethod ({ cls := "ShareStreamsModel", name := "gate", desc := "(III)I" } : Jvm.MethodName)) ∈ lw_all := lw_g (lw_at lw_m5 20 rfl) rfl
theorem q1024 : (Jvm.Cond.selects "ShareStreamsModel" ({ cls := "ShareStreamsModel", name := "gate", desc := "(III)I" } : Jvm.MethodName) ({ cls := "ShareStreamsModel", name := "gate", desc := "(III)I" } : Jvm.MethodName)) ∈ lw_all := lw_g (lw_at lw_m5 21 rfl) rfl
theorem q1025 : (Jvm.Cond.code ({ cls := "ShareStreamsModel", name := "gate", desc := "(III)I" } : Jvm.MethodName) prog_8_method_12_code (4 : Nat) (Option.some Jvm.ClassFile.FieldType.int)) ∈ lw_all := lw_g (lw_at lw_m5 22 rfl) rfl
theorem q1026 : (Jvm.Cond.methodLink "ShareStreamsModel" (91 : Nat) ({ cls := "ShareStreamsModel", name := "isLine", desc := "(I)Z" } : Jvm.MethodName)) ∈ lw_all := lw_g (lw_at lw_m5 23 rfl) rfl
theorem q1027 : (Jvm.Cond.privateMethod ({ cls := "ShareStreamsModel", name := "isLine", desc := "(I)Z" } : Jvm.MethodName)) ∈ lw_tbl := lw_at lw_m5 24 rfl
theorem q1028 : (Jvm.Cond.instanceMethod ({ cls := "ShareStreamsModel", name := "isLine", desc := "(I)Z" } : Jvm.MethodName)) ∈ lw_all := lw_g (lw_at lw_m5 25 rfl) rfl
theorem q1029 : (Jvm.Cond.code ({ cls := "ShareStreamsModel", name := "isLine", desc := "(I)Z" } : Jvm.MethodName) prog_8_method_6_code (2 : Nat) (Option.some Jvm.ClassFile.FieldType.boolean)) ∈ lw_all := lw_g (lw_at lw_m5 26 rfl) rfl
theorem q1030 : (Jvm.Cond.constant "ShareStreamsModel" (95 : Nat) (-100000001 : Int32)) ∈ lw_all := lw_g (lw_at lw_m5 27 rfl) rfl
theorem q1031 : (Jvm.Cond.constantLong "ShareStreamsModel" (96 : Nat) (3 : Int64)) ∈ lw_all := lw_g (lw_at lw_m5 28 rfl) rfl
theorem q1033 : (Jvm.Cond.instanceMethod ({ cls := "ShareStreamsModel", name := "choose", desc := "(III)I" } : Jvm.MethodName)) ∈ lw_all := lw_g (lw_at lw_m5 30 rfl) rfl
theorem q1034 : (Jvm.Cond.selects "ShareStreamsModel" ({ cls := "ShareStreamsModel", name := "choose", desc := "(III)I" } : Jvm.MethodName) ({ cls := "ShareStreamsModel", name := "choose", desc := "(III)I" } : Jvm.MethodName)) ∈ lw_all := lw_g (lw_at lw_m5 31 rfl) rfl
theorem q1035 : (Jvm.Cond.code ({ cls := "ShareStreamsModel", name := "choose", desc := "(III)I" } : Jvm.MethodName) prog_8_method_13_code (4 : Nat) (Option.some Jvm.ClassFile.FieldType.int)) ∈ lw_all := lw_g (lw_at lw_m5 32 rfl) rfl
theorem q1037 : (Jvm.Cond.instanceMethod ({ cls := "ShareStreamsModel", name := "turn", desc := "(I)I" } : Jvm.MethodName)) ∈ lw_all := lw_g (lw_at lw_m5 34 rfl) rfl
theorem q1038 : (Jvm.Cond.selects "ShareStreamsModel" ({ cls := "ShareStreamsModel", name := "turn", desc := "(I)I" } : Jvm.MethodName) ({ cls := "ShareStreamsModel", name := "turn", desc := "(I)I" } : Jvm.MethodName)) ∈ lw_all := lw_g (lw_at lw_m5 35 rfl) rfl
theorem q1039 : (Jvm.Cond.code ({ cls := "ShareStreamsModel", name := "turn", desc := "(I)I" } : Jvm.MethodName) prog_8_method_14_code (2 : Nat) (Option.some Jvm.ClassFile.FieldType.int)) ∈ lw_all := lw_g (lw_at lw_m5 36 rfl) rfl
theorem q1041 : (Jvm.Cond.instanceMethod ({ cls := "ShareStreamsModel", name := "delay", desc := "(II)I" } : Jvm.MethodName)) ∈ lw_all := lw_g (lw_at lw_m5 38 rfl) rfl
theorem q1042 : (Jvm.Cond.selects "ShareStreamsModel" ({ cls := "ShareStreamsModel", name := "delay", desc := "(II)I" } : Jvm.MethodName) ({ cls := "ShareStreamsModel", name := "delay", desc := "(II)I" } : Jvm.MethodName)) ∈ lw_all := lw_g (lw_at lw_m5 39 rfl) rfl
theorem q1043 : (Jvm.Cond.code ({ cls := "ShareStreamsModel", name := "delay", desc := "(II)I" } : Jvm.MethodName) prog_8_method_15_code (3 : Nat) (Option.some Jvm.ClassFile.FieldType.int)) ∈ lw_all := lw_g (lw_at lw_m5 40 rfl) rfl
theorem q1044 : (Jvm.Cond.constantLong "ShareStreamsModel" (98 : Nat) (60 : Int64)) ∈ lw_all := lw_g (lw_at lw_m5 41 rfl) rfl
theorem q1046 : (Jvm.Cond.instanceMethod ({ cls := "ShareStreamsModel", name := "reseed", desc := "(III)I" } : Jvm.MethodName)) ∈ lw_all := lw_g (lw_at lw_m5 43 rfl) rfl
theorem q1047 : (Jvm.Cond.selects "ShareStreamsModel" ({ cls := "ShareStreamsModel", name := "reseed", desc := "(III)I" } : Jvm.MethodName) ({ cls := "ShareStreamsModel", name := "reseed", desc := "(III)I" } : Jvm.MethodName)) ∈ lw_all := lw_g (lw_at lw_m5 44 rfl) rfl
theorem q1048 : (Jvm.Cond.code ({ cls := "ShareStreamsModel", name := "reseed", desc := "(III)I" } : Jvm.MethodName) prog_8_method_16_code (5 : Nat) (Option.some Jvm.ClassFile.FieldType.int)) ∈ lw_all := lw_g (lw_at lw_m5 45 rfl) rfl
theorem q1049 : (Jvm.Cond.methodLink "ShareStreamsModel" (100 : Nat) ({ cls := "ShareStreamsModel", name := "of", desc := "(II)I" } : Jvm.MethodName)) ∈ lw_all := lw_g (lw_at lw_m5 46 rfl) rfl
theorem q1050 : (Jvm.Cond.privateMethod ({ cls := "ShareStreamsModel", name := "of", desc := "(II)I" } : Jvm.MethodName)) ∈ lw_tbl := lw_at lw_m5 47 rfl
theorem q1051 : (Jvm.Cond.instanceMethod ({ cls := "ShareStreamsModel", name := "of", desc := "(II)I" } : Jvm.MethodName)) ∈ lw_all := lw_g (lw_at lw_m5 48 rfl) rfl
theorem q1052 : (Jvm.Cond.code ({ cls := "ShareStreamsModel", name := "of", desc := "(II)I" } : Jvm.MethodName) prog_8_method_7_code (3 : Nat) (Option.some Jvm.ClassFile.FieldType.int)) ∈ lw_all := lw_g (lw_at lw_m5 49 rfl) rfl
theorem q1053 : (Jvm.Cond.constant "ShareStreamsModel" (104 : Nat) (-100000004 : Int32)) ∈ lw_all := lw_g (lw_at lw_m5 50 rfl) rfl
theorem q1055 : (Jvm.Cond.instanceMethod ({ cls := "ShareStreamsModel", name := "removeLast", desc := "()I" } : Jvm.MethodName)) ∈ lw_all := lw_g (lw_at lw_m5 52 rfl) rfl
theorem q1056 : (Jvm.Cond.selects "ShareStreamsModel" ({ cls := "ShareStreamsModel", name := "removeLast", desc := "()I" } : Jvm.MethodName) ({ cls := "ShareStreamsModel", name := "removeLast", desc := "()I" } : Jvm.MethodName)) ∈ lw_all := lw_g (lw_at lw_m5 53 rfl) rfl
theorem q1057 : (Jvm.Cond.code ({ cls := "ShareStreamsModel", name := "removeLast", desc := "()I" } : Jvm.MethodName) prog_8_method_17_code (1 : Nat) (Option.some Jvm.ClassFile.FieldType.int)) ∈ lw_all := lw_g (lw_at lw_m5 54 rfl) rfl
theorem q1059 : (Jvm.Cond.instanceMethod ({ cls := "ShareStreamsModel", name := "setLength", desc := "(I)I" } : Jvm.MethodName)) ∈ lw_all := lw_g (lw_at lw_m5 56 rfl) rfl
theorem q1060 : (Jvm.Cond.selects "ShareStreamsModel" ({ cls := "ShareStreamsModel", name := "setLength", desc := "(I)I" } : Jvm.MethodName) ({ cls := "ShareStreamsModel", name := "setLength", desc := "(I)I" } : Jvm.MethodName)) ∈ lw_all := lw_g (lw_at lw_m5 57 rfl) rfl
theorem q1061 : (Jvm.Cond.code ({ cls := "ShareStreamsModel", name := "setLength", desc := "(I)I" } : Jvm.MethodName) prog_8_method_18_code (3 : Nat) (Option.some Jvm.ClassFile.FieldType.int)) ∈ lw_all := lw_g (lw_at lw_m5 58 rfl) rfl
theorem q1062 : (Jvm.Cond.constantLong "ShareStreamsModel" (105 : Nat) (1000 : Int64)) ∈ lw_all := lw_g (lw_at lw_m5 59 rfl) rfl
theorem q1064 : (Jvm.Cond.instanceMethod ({ cls := "ShareStreamsModel", name := "type", desc := "(C)I" } : Jvm.MethodName)) ∈ lw_all := lw_g (lw_at lw_m5 61 rfl) rfl
theorem q1065 : (Jvm.Cond.selects "ShareStreamsModel" ({ cls := "ShareStreamsModel", name := "type", desc := "(C)I" } : Jvm.MethodName) ({ cls := "ShareStreamsModel", name := "type", desc := "(C)I" } : Jvm.MethodName)) ∈ lw_all := lw_g (lw_at lw_m5 62 rfl) rfl
theorem q1066 : (Jvm.Cond.code ({ cls := "ShareStreamsModel", name := "type", desc := "(C)I" } : Jvm.MethodName) prog_8_method_28_code (2 : Nat) (Option.some Jvm.ClassFile.FieldType.int)) ∈ lw_all := lw_g (lw_at lw_m5 63 rfl) rfl
theorem q1068 : (Jvm.Cond.instanceMethod ({ cls := "ShareStreamsModel", name := "clearText", desc := "()I" } : Jvm.MethodName)) ∈ lw_all := lw_g (lw_at lw_m5 65 rfl) rfl
theorem q1069 : (Jvm.Cond.selects "ShareStreamsModel" ({ cls := "ShareStreamsModel", name := "clearText", desc := "()I" } : Jvm.MethodName) ({ cls := "ShareStreamsModel", name := "clearText", desc := "()I" } : Jvm.MethodName)) ∈ lw_all := lw_g (lw_at lw_m5 66 rfl) rfl
theorem q1070 : (Jvm.Cond.code ({ cls := "ShareStreamsModel", name := "clearText", desc := "()I" } : Jvm.MethodName) prog_8_method_29_code (2 : Nat) (Option.some Jvm.ClassFile.FieldType.int)) ∈ lw_all := lw_g (lw_at lw_m5 67 rfl) rfl
theorem q1072 : (Jvm.Cond.instanceMethod ({ cls := "ShareStreamsModel", name := "readCircuit", desc := "()I" } : Jvm.MethodName)) ∈ lw_all := lw_g (lw_at lw_m5 69 rfl) rfl
theorem q1073 : (Jvm.Cond.selects "ShareStreamsModel" ({ cls := "ShareStreamsModel", name := "readCircuit", desc := "()I" } : Jvm.MethodName) ({ cls := "ShareStreamsModel", name := "readCircuit", desc := "()I" } : Jvm.MethodName)) ∈ lw_all := lw_g (lw_at lw_m5 70 rfl) rfl
theorem q1074 : (Jvm.Cond.code ({ cls := "ShareStreamsModel", name := "readCircuit", desc := "()I" } : Jvm.MethodName) prog_8_method_40_code (3 : Nat) (Option.some Jvm.ClassFile.FieldType.int)) ∈ lw_all := lw_g (lw_at lw_m5 71 rfl) rfl
theorem q1075 : (Jvm.Cond.methodLink "ShareStreamsModel" (183 : Nat) ({ cls := "ShareStreamsModel", name := "fault", desc := "()I" } : Jvm.MethodName)) ∈ lw_all := lw_g (lw_at lw_m5 72 rfl) rfl
theorem q1076 : (Jvm.Cond.privateMethod ({ cls := "ShareStreamsModel", name := "fault", desc := "()I" } : Jvm.MethodName)) ∈ lw_tbl := lw_at lw_m5 73 rfl
theorem q1077 : (Jvm.Cond.instanceMethod ({ cls := "ShareStreamsModel", name := "fault", desc := "()I" } : Jvm.MethodName)) ∈ lw_all := lw_g (lw_at lw_m5 74 rfl) rfl
theorem q1078 : (Jvm.Cond.code ({ cls := "ShareStreamsModel", name := "fault", desc := "()I" } : Jvm.MethodName) prog_8_method_38_code (2 : Nat) (Option.some Jvm.ClassFile.FieldType.int)) ∈ lw_all := lw_g (lw_at lw_m5 75 rfl) rfl
theorem q1079 : (Jvm.Cond.methodLink "ShareStreamsModel" (176 : Nat) ({ cls := "ShareStreamsModel", name := "readsLine", desc := "()Z" } : Jvm.MethodName)) ∈ lw_all := lw_g (lw_at lw_m5 76 rfl) rfl
theorem q1080 : (Jvm.Cond.privateMethod ({ cls := "ShareStreamsModel", name := "readsLine", desc := "()Z" } : Jvm.MethodName)) ∈ lw_tbl := lw_at lw_m5 77 rfl
theorem q1081 : (Jvm.Cond.instanceMethod ({ cls := "ShareStreamsModel", name := "readsLine", desc := "()Z" } : Jvm.MethodName)) ∈ lw_all := lw_g (lw_at lw_m5 78 rfl) rfl
theorem q1082 : (Jvm.Cond.code ({ cls := "ShareStreamsModel", name := "readsLine", desc := "()Z" } : Jvm.MethodName) prog_8_method_37_code (4 : Nat) (Option.some Jvm.ClassFile.FieldType.boolean)) ∈ lw_all := lw_g (lw_at lw_m5 79 rfl) rfl
theorem q1083 : (Jvm.Cond.methodLink "ShareStreamsModel" (169 : Nat) ({ cls := "ShareStreamsModel", name := "readsWord", desc := "()I" } : Jvm.MethodName)) ∈ lw_all := lw_g (lw_at lw_m5 80 rfl) rfl
theorem q1084 : (Jvm.Cond.privateMethod ({ cls := "ShareStreamsModel", name := "readsWord", desc := "()I" } : Jvm.MethodName)) ∈ lw_tbl := lw_at lw_m5 81 rfl
theorem q1085 : (Jvm.Cond.instanceMethod ({ cls := "ShareStreamsModel", name := "readsWord", desc := "()I" } : Jvm.MethodName)) ∈ lw_all := lw_g (lw_at lw_m5 82 rfl) rfl
theorem q1086 : (Jvm.Cond.code ({ cls := "ShareStreamsModel", name := "readsWord", desc := "()I" } : Jvm.MethodName) prog_8_method_32_code (5 : Nat) (Option.some Jvm.ClassFile.FieldType.int)) ∈ lw_all := lw_g (lw_at lw_m5 83 rfl) rfl
theorem q1087 : (Jvm.Cond.methodLink "ShareStreamsModel" (150 : Nat) ({ cls := "ShareStreamsModel", name := "likeness", desc := "(J)I" } : Jvm.MethodName)) ∈ lw_all := lw_g (lw_at lw_m5 84 rfl) rfl
theorem q1088 : (Jvm.Cond.privateMethod ({ cls := "ShareStreamsModel", name := "likeness", desc := "(J)I" } : Jvm.MethodName)) ∈ lw_tbl := lw_at lw_m5 85 rfl
theorem q1089 : (Jvm.Cond.instanceMethod ({ cls := "ShareStreamsModel", name := "likeness", desc := "(J)I" } : Jvm.MethodName)) ∈ lw_all := lw_g (lw_at lw_m5 86 rfl) rfl
theorem q1090 : (Jvm.Cond.code ({ cls := "ShareStreamsModel", name := "likeness", desc := "(J)I" } : Jvm.MethodName) prog_8_method_31_code (5 : Nat) (Option.some Jvm.ClassFile.FieldType.int)) ∈ lw_all := lw_g (lw_at lw_m5 87 rfl) rfl
theorem q1091 : (Jvm.Cond.methodLink "ShareStreamsModel" (143 : Nat) ({ cls := "ShareStreamsModel", name := "sizeOf", desc := "(J)I" } : Jvm.MethodName)) ∈ lw_all := lw_g (lw_at lw_m5 88 rfl) rfl
theorem q1092 : (Jvm.Cond.static ({ cls := "ShareStreamsModel", name := "sizeOf", desc := "(J)I" } : Jvm.MethodName)) ∈ lw_all := lw_g (lw_at lw_m5 89 rfl) rfl
theorem q1093 : (Jvm.Cond.code ({ cls := "ShareStreamsModel", name := "sizeOf", desc := "(J)I" } : Jvm.MethodName) prog_8_method_30_code (5 : Nat) (Option.some Jvm.ClassFile.FieldType.int)) ∈ lw_all := lw_g (lw_at lw_m5 90 rfl) rfl
theorem q1094 : (Jvm.Cond.methodLink "ShareStreamsModel" (173 : Nat) ({ cls := "ShareStreamsModel", name := "readsPart", desc := "(II)Z" } : Jvm.MethodName)) ∈ lw_all := lw_g (lw_at lw_m5 91 rfl) rfl
theorem q1095 : (Jvm.Cond.privateMethod ({ cls := "ShareStreamsModel", name := "readsPart", desc := "(II)Z" } : Jvm.MethodName)) ∈ lw_tbl := lw_at lw_m5 92 rfl
theorem q1096 : (Jvm.Cond.instanceMethod ({ cls := "ShareStreamsModel", name := "readsPart", desc := "(II)Z" } : Jvm.MethodName)) ∈ lw_all := lw_g (lw_at lw_m5 93 rfl) rfl
theorem q1097 : (Jvm.Cond.code ({ cls := "ShareStreamsModel", name := "readsPart", desc := "(II)Z" } : Jvm.MethodName) prog_8_method_36_code (6 : Nat) (Option.some Jvm.ClassFile.FieldType.boolean)) ∈ lw_all := lw_g (lw_at lw_m5 94 rfl) rfl
theorem q1098 : (Jvm.Cond.methodLink "ShareStreamsModel" (163 : Nat) ({ cls := "ShareStreamsModel", name := "readsNumber", desc := "(II)Z" } : Jvm.MethodName)) ∈ lw_all := lw_g (lw_at lw_m5 95 rfl) rfl
theorem q1099 : (Jvm.Cond.privateMethod ({ cls := "ShareStreamsModel", name := "readsNumber", desc := "(II)Z" } : Jvm.MethodName)) ∈ lw_tbl := lw_at lw_m5 96 rfl
theorem q1100 : (Jvm.Cond.instanceMethod ({ cls := "ShareStreamsModel", name := "readsNumber", desc := "(II)Z" } : Jvm.MethodName)) ∈ lw_all := lw_g (lw_at lw_m5 97 rfl) rfl
theorem q1101 : (Jvm.Cond.code ({ cls := "ShareStreamsModel", name := "readsNumber", desc := "(II)Z" } : Jvm.MethodName) prog_8_method_35_code (3 : Nat) (Option.some Jvm.ClassFile.FieldType.boolean)) ∈ lw_all := lw_g (lw_at lw_m5 98 rfl) rfl
theorem q1102 : (Jvm.Cond.methodLink "ShareStreamsModel" (157 : Nat) ({ cls := "ShareStreamsModel", name := "takes", desc := "(I)Z" } : Jvm.MethodName)) ∈ lw_all := lw_g (lw_at lw_m5 99 rfl) rfl
theorem q1103 : (Jvm.Cond.privateMethod ({ cls := "ShareStreamsModel", name := "takes", desc := "(I)Z" } : Jvm.MethodName)) ∈ lw_tbl := lw_at lw_m5 100 rfl
theorem q1104 : (Jvm.Cond.instanceMethod ({ cls := "ShareStreamsModel", name := "takes", desc := "(I)Z" } : Jvm.MethodName)) ∈ lw_all := lw_g (lw_at lw_m5 101 rfl) rfl
theorem q1105 : (Jvm.Cond.code ({ cls := "ShareStreamsModel", name := "takes", desc := "(I)Z" } : Jvm.MethodName) prog_8_method_34_code (3 : Nat) (Option.some Jvm.ClassFile.FieldType.boolean)) ∈ lw_all := lw_g (lw_at lw_m5 102 rfl) rfl
theorem q1106 : (Jvm.Cond.methodLink "ShareStreamsModel" (153 : Nat) ({ cls := "ShareStreamsModel", name := "isHere", desc := "(II)Z" } : Jvm.MethodName)) ∈ lw_all := lw_g (lw_at lw_m5 103 rfl) rfl
theorem q1107 : (Jvm.Cond.privateMethod ({ cls := "ShareStreamsModel", name := "isHere", desc := "(II)Z" } : Jvm.MethodName)) ∈ lw_tbl := lw_at lw_m5 104 rfl
theorem q1108 : (Jvm.Cond.instanceMethod ({ cls := "ShareStreamsModel", name := "isHere", desc := "(II)Z" } : Jvm.MethodName)) ∈ lw_all := lw_g (lw_at lw_m5 105 rfl) rfl
theorem q1109 : (Jvm.Cond.code ({ cls := "ShareStreamsModel", name := "isHere", desc := "(II)Z" } : Jvm.MethodName) prog_8_method_33_code (3 : Nat) (Option.some Jvm.ClassFile.FieldType.boolean)) ∈ lw_all := lw_g (lw_at lw_m5 106 rfl) rfl
theorem q1110 : (Jvm.Cond.constant "ShareStreamsModel" (186 : Nat) (-100000100 : Int32)) ∈ lw_all := lw_g (lw_at lw_m5 107 rfl) rfl
theorem q1111 : (Jvm.Cond.methodLink "ShareStreamsModel" (187 : Nat) ({ cls := "ShareStreamsModel", name := "isAhead", desc := "(I)Z" } : Jvm.MethodName)) ∈ lw_all := lw_g (lw_at lw_m5 108 rfl) rfl
theorem q1112 : (Jvm.Cond.privateMethod ({ cls := "ShareStreamsModel", name := "isAhead", desc := "(I)Z" } : Jvm.MethodName)) ∈ lw_tbl := lw_at lw_m5 109 rfl
theorem q1113 : (Jvm.Cond.instanceMethod ({ cls := "ShareStreamsModel", name := "isAhead", desc := "(I)Z" } : Jvm.MethodName)) ∈ lw_all := lw_g (lw_at lw_m5 110 rfl) rfl
theorem q1114 : (Jvm.Cond.code ({ cls := "ShareStreamsModel", name := "isAhead", desc := "(I)Z" } : Jvm.MethodName) prog_8_method_39_code (4 : Nat) (Option.some Jvm.ClassFile.FieldType.boolean)) ∈ lw_all := lw_g (lw_at lw_m5 111 rfl) rfl
theorem q1115 : (Jvm.Cond.methodLink "ShareStreamsModel" (180 : Nat) ({ cls := "ShareStreamsModel", name := "linesBy", desc := "(I)I" } : Jvm.MethodName)) ∈ lw_all := lw_g (lw_at lw_m5 112 rfl) rfl
theorem q1116 : (Jvm.Cond.static ({ cls := "ShareStreamsModel", name := "linesBy", desc := "(I)I" } : Jvm.MethodName)) ∈ lw_all := lw_g (lw_at lw_m5 113 rfl) rfl
theorem q1117 : (Jvm.Cond.code ({ cls := "ShareStreamsModel", name := "linesBy", desc := "(I)I" } : Jvm.MethodName) prog_8_method_8_code (1 : Nat) (Option.some Jvm.ClassFile.FieldType.int)) ∈ lw_all := lw_g (lw_at lw_m5 114 rfl) rfl
theorem q1119 : (Jvm.Cond.instanceMethod ({ cls := "ShareStreamsModel", name := "undo", desc := "()I" } : Jvm.MethodName)) ∈ lw_all := lw_g (lw_at lw_m5 116 rfl) rfl
theorem q1120 : (Jvm.Cond.selects "ShareStreamsModel" ({ cls := "ShareStreamsModel", name := "undo", desc := "()I" } : Jvm.MethodName) ({ cls := "ShareStreamsModel", name := "undo", desc := "()I" } : Jvm.MethodName)) ∈ lw_all := lw_g (lw_at lw_m5 117 rfl) rfl
theorem q1121 : (Jvm.Cond.code ({ cls := "ShareStreamsModel", name := "undo", desc := "()I" } : Jvm.MethodName) prog_8_method_41_code (2 : Nat) (Option.some Jvm.ClassFile.FieldType.int)) ∈ lw_all := lw_g (lw_at lw_m5 118 rfl) rfl
theorem q1123 : (Jvm.Cond.instanceMethod ({ cls := "ShareStreamsModel", name := "keep", desc := "()I" } : Jvm.MethodName)) ∈ lw_all := lw_g (lw_at lw_m5 120 rfl) rfl
theorem q1124 : (Jvm.Cond.selects "ShareStreamsModel" ({ cls := "ShareStreamsModel", name := "keep", desc := "()I" } : Jvm.MethodName) ({ cls := "ShareStreamsModel", name := "keep", desc := "()I" } : Jvm.MethodName)) ∈ lw_all := lw_g (lw_at lw_m5 121 rfl) rfl
theorem q1125 : (Jvm.Cond.code ({ cls := "ShareStreamsModel", name := "keep", desc := "()I" } : Jvm.MethodName) prog_8_method_42_code (2 : Nat) (Option.some Jvm.ClassFile.FieldType.int)) ∈ lw_all := lw_g (lw_at lw_m5 122 rfl) rfl
theorem q1127 : (Jvm.Cond.instanceMethod ({ cls := "ShareStreamsModel", name := "restore", desc := "()I" } : Jvm.MethodName)) ∈ lw_all := lw_g (lw_at lw_m5 124 rfl) rfl
theorem q1128 : (Jvm.Cond.selects "ShareStreamsModel" ({ cls := "ShareStreamsModel", name := "restore", desc := "()I" } : Jvm.MethodName) ({ cls := "ShareStreamsModel", name := "restore", desc := "()I" } : Jvm.MethodName)) ∈ lw_all := lw_g (lw_at lw_m5 125 rfl) rfl
theorem q1129 : (Jvm.Cond.code ({ cls := "ShareStreamsModel", name := "restore", desc := "()I" } : Jvm.MethodName) prog_8_method_43_code (2 : Nat) (Option.some Jvm.ClassFile.FieldType.int)) ∈ lw_all := lw_g (lw_at lw_m5 126 rfl) rfl
theorem q1131 : (Jvm.Cond.instanceMethod ({ cls := "ShareStreamsModel", name := "line", desc := "(II)I" } : Jvm.MethodName)) ∈ lw_all := lw_g (lw_at lw_m5 128 rfl) rfl
theorem q1132 : (Jvm.Cond.selects "ShareStreamsModel" ({ cls := "ShareStreamsModel", name := "line", desc := "(II)I" } : Jvm.MethodName) ({ cls := "ShareStreamsModel", name := "line", desc := "(II)I" } : Jvm.MethodName)) ∈ lw_all := lw_g (lw_at lw_m5 129 rfl) rfl
theorem q1133 : (Jvm.Cond.code ({ cls := "ShareStreamsModel", name := "line", desc := "(II)I" } : Jvm.MethodName) prog_8_method_46_code (5 : Nat) (Option.some Jvm.ClassFile.FieldType.int)) ∈ lw_all := lw_g (lw_at lw_m5 130 rfl) rfl
theorem q1134 : (Jvm.Cond.constantLong "ShareStreamsModel" (193 : Nat) (9 : Int64)) ∈ lw_all := lw_g (lw_at lw_m5 131 rfl) rfl
theorem q1135 : (Jvm.Cond.methodLink "ShareStreamsModel" (125 : Nat) ({ cls := "ShareStreamsModel", name := "lays", desc := "(II)V" } : Jvm.MethodName)) ∈ lw_all := lw_g (lw_at lw_m5 132 rfl) rfl
theorem q1136 : (Jvm.Cond.privateMethod ({ cls := "ShareStreamsModel", name := "lays", desc := "(II)V" } : Jvm.MethodName)) ∈ lw_tbl := lw_at lw_m5 133 rfl
theorem q1137 : (Jvm.Cond.instanceMethod ({ cls := "ShareStreamsModel", name := "lays", desc := "(II)V" } : Jvm.MethodName)) ∈ lw_all := lw_g (lw_at lw_m5 134 rfl) rfl
theorem q1138 : (Jvm.Cond.code ({ cls := "ShareStreamsModel", name := "lays", desc := "(II)V" } : Jvm.MethodName) prog_8_method_22_code (5 : Nat) (Option.none : Option Jvm.ClassFile.FieldType)) ∈ lw_all := lw_g (lw_at lw_m5 135 rfl) rfl
theorem q1139 : (Jvm.Cond.methodLink "ShareStreamsModel" (110 : Nat) ({ cls := "ShareStreamsModel", name := "bitOf", desc := "(II)I" } : Jvm.MethodName)) ∈ lw_all := lw_g (lw_at lw_m5 136 rfl) rfl
theorem q1140 : (Jvm.Cond.privateMethod ({ cls := "ShareStreamsModel", name := "bitOf", desc := "(II)I" } : Jvm.MethodName)) ∈ lw_tbl := lw_at lw_m5 137 rfl
theorem q1141 : (Jvm.Cond.instanceMethod ({ cls := "ShareStreamsModel", name := "bitOf", desc := "(II)I" } : Jvm.MethodName)) ∈ lw_all := lw_g (lw_at lw_m5 138 rfl) rfl
theorem q1142 : (Jvm.Cond.code ({ cls := "ShareStreamsModel", name := "bitOf", desc := "(II)I" } : Jvm.MethodName) prog_8_method_21_code (5 : Nat) (Option.some Jvm.ClassFile.FieldType.int)) ∈ lw_all := lw_g (lw_at lw_m5 139 rfl) rfl
theorem q1143 : (Jvm.Cond.methodLink "ShareStreamsModel" (107 : Nat) ({ cls := "ShareStreamsModel", name := "bitAt", desc := "(II)I" } : Jvm.MethodName)) ∈ lw_all := lw_g (lw_at lw_m5 140 rfl) rfl
theorem q1144 : (Jvm.Cond.privateMethod ({ cls := "ShareStreamsModel", name := "bitAt", desc := "(II)I" } : Jvm.MethodName)) ∈ lw_tbl := lw_at lw_m5 141 rfl
theorem q1145 : (Jvm.Cond.instanceMethod ({ cls := "ShareStreamsModel", name := "bitAt", desc := "(II)I" } : Jvm.MethodName)) ∈ lw_all := lw_g (lw_at lw_m5 142 rfl) rfl
theorem q1146 : (Jvm.Cond.code ({ cls := "ShareStreamsModel", name := "bitAt", desc := "(II)I" } : Jvm.MethodName) prog_8_method_19_code (3 : Nat) (Option.some Jvm.ClassFile.FieldType.int)) ∈ lw_all := lw_g (lw_at lw_m5 143 rfl) rfl
theorem q1147 : (Jvm.Cond.methodLink "ShareStreamsModel" (113 : Nat) ({ cls := "ShareStreamsModel", name := "goesOn", desc := "(I)I" } : Jvm.MethodName)) ∈ lw_all := lw_g (lw_at lw_m5 144 rfl) rfl
theorem q1148 : (Jvm.Cond.static ({ cls := "ShareStreamsModel", name := "goesOn", desc := "(I)I" } : Jvm.MethodName)) ∈ lw_all := lw_g (lw_at lw_m5 145 rfl) rfl
theorem q1149 : (Jvm.Cond.code ({ cls := "ShareStreamsModel", name := "goesOn", desc := "(I)I" } : Jvm.MethodName) prog_8_method_20_code (2 : Nat) (Option.some Jvm.ClassFile.FieldType.int)) ∈ lw_all := lw_g (lw_at lw_m5 146 rfl) rfl
theorem q1150 : (Jvm.Cond.methodLink "ShareStreamsModel" (129 : Nat) ({ cls := "ShareStreamsModel", name := "findsExact", desc := "(I)V" } : Jvm.MethodName)) ∈ lw_all := lw_g (lw_at lw_m5 147 rfl) rfl
theorem q1151 : (Jvm.Cond.privateMethod ({ cls := "ShareStreamsModel", name := "findsExact", desc := "(I)V" } : Jvm.MethodName)) ∈ lw_tbl := lw_at lw_m5 148 rfl
theorem q1152 : (Jvm.Cond.instanceMethod ({ cls := "ShareStreamsModel", name := "findsExact", desc := "(I)V" } : Jvm.MethodName)) ∈ lw_all := lw_g (lw_at lw_m5 149 rfl) rfl
theorem q1153 : (Jvm.Cond.code ({ cls := "ShareStreamsModel", name := "findsExact", desc := "(I)V" } : Jvm.MethodName) prog_8_method_24_code (14 : Nat) (Option.none : Option Jvm.ClassFile.FieldType)) ∈ lw_all := lw_g (lw_at lw_m5 150 rfl) rfl
theorem q1154 : (Jvm.Cond.constantLong "ShareStreamsModel" (116 : Nat) (4 : Int64)) ∈ lw_all := lw_g (lw_at lw_m5 151 rfl) rfl
theorem q1155 : (Jvm.Cond.constantLong "ShareStreamsModel" (118 : Nat) (65536 : Int64)) ∈ lw_all := lw_g (lw_at lw_m5 152 rfl) rfl
theorem q1156 : (Jvm.Cond.constantLong "ShareStreamsModel" (120 : Nat) (2 : Int64)) ∈ lw_all := lw_g (lw_at lw_m5 153 rfl) rfl
theorem q1157 : (Jvm.Cond.methodLink "ShareStreamsModel" (195 : Nat) ({ cls := "ShareStreamsModel", name := "findsDepths", desc := "()V" } : Jvm.MethodName)) ∈ lw_all := lw_g (lw_at lw_m5 154 rfl) rfl
theorem q1158 : (Jvm.Cond.privateMethod ({ cls := "ShareStreamsModel", name := "findsDepths", desc := "()V" } : Jvm.MethodName)) ∈ lw_tbl := lw_at lw_m5 155 rfl
theorem q1159 : (Jvm.Cond.instanceMethod ({ cls := "ShareStreamsModel", name := "findsDepths", desc := "()V" } : Jvm.MethodName)) ∈ lw_all := lw_g (lw_at lw_m5 156 rfl) rfl
theorem q1160 : (Jvm.Cond.code ({ cls := "ShareStreamsModel", name := "findsDepths", desc := "()V" } : Jvm.MethodName) prog_8_method_44_code (5 : Nat) (Option.none : Option Jvm.ClassFile.FieldType)) ∈ lw_all := lw_g (lw_at lw_m5 157 rfl) rfl
theorem q1161 : (Jvm.Cond.methodLink "ShareStreamsModel" (133 : Nat) ({ cls := "ShareStreamsModel", name := "countOf", desc := "(II)I" } : Jvm.MethodName)) ∈ lw_all := lw_g (lw_at lw_m5 158 rfl) rfl
theorem q1162 : (Jvm.Cond.privateMethod ({ cls := "ShareStreamsModel", name := "countOf", desc := "(II)I" } : Jvm.MethodName)) ∈ lw_tbl := lw_at lw_m5 159 rfl
theorem q1163 : (Jvm.Cond.instanceMethod ({ cls := "ShareStreamsModel", name := "countOf", desc := "(II)I" } : Jvm.MethodName)) ∈ lw_all := lw_g (lw_at lw_m5 160 rfl) rfl
theorem q1164 : (Jvm.Cond.code ({ cls := "ShareStreamsModel", name := "countOf", desc := "(II)I" } : Jvm.MethodName) prog_8_method_23_code (5 : Nat) (Option.some Jvm.ClassFile.FieldType.int)) ∈ lw_all := lw_g (lw_at lw_m5 161 rfl) rfl
theorem q1165 : (Jvm.Cond.methodLink "ShareStreamsModel" (136 : Nat) ({ cls := "ShareStreamsModel", name := "errorBy", desc := "(III)I" } : Jvm.MethodName)) ∈ lw_all := lw_g (lw_at lw_m5 162 rfl) rfl
theorem q1166 : (Jvm.Cond.privateMethod ({ cls := "ShareStreamsModel", name := "errorBy", desc := "(III)I" } : Jvm.MethodName)) ∈ lw_tbl := lw_at lw_m5 163 rfl
theorem q1167 : (Jvm.Cond.instanceMethod ({ cls := "ShareStreamsModel", name := "errorBy", desc := "(III)I" } : Jvm.MethodName)) ∈ lw_all := lw_g (lw_at lw_m5 164 rfl) rfl
theorem q1168 : (Jvm.Cond.code ({ cls := "ShareStreamsModel", name := "errorBy", desc := "(III)I" } : Jvm.MethodName) prog_8_method_26_code (4 : Nat) (Option.some Jvm.ClassFile.FieldType.int)) ∈ lw_all := lw_g (lw_at lw_m5 165 rfl) rfl
theorem q1169 : (Jvm.Cond.methodLink "ShareStreamsModel" (122 : Nat) ({ cls := "ShareStreamsModel", name := "apart", desc := "(II)I" } : Jvm.MethodName)) ∈ lw_all := lw_g (lw_at lw_m5 166 rfl) rfl
theorem q1170 : (Jvm.Cond.static ({ cls := "ShareStreamsModel", name := "apart", desc := "(II)I" } : Jvm.MethodName)) ∈ lw_all := lw_g (lw_at lw_m5 167 rfl) rfl
theorem q1171 : (Jvm.Cond.code ({ cls := "ShareStreamsModel", name := "apart", desc := "(II)I" } : Jvm.MethodName) prog_8_method_25_code (2 : Nat) (Option.some Jvm.ClassFile.FieldType.int)) ∈ lw_all := lw_g (lw_at lw_m5 168 rfl) rfl
theorem q1172 : (Jvm.Cond.methodLink "ShareStreamsModel" (198 : Nat) ({ cls := "ShareStreamsModel", name := "bitsOf", desc := "(I)I" } : Jvm.MethodName)) ∈ lw_all := lw_g (lw_at lw_m5 169 rfl) rfl
theorem q1173 : (Jvm.Cond.static ({ cls := "ShareStreamsModel", name := "bitsOf", desc := "(I)I" } : Jvm.MethodName)) ∈ lw_all := lw_g (lw_at lw_m5 170 rfl) rfl
theorem q1174 : (Jvm.Cond.code ({ cls := "ShareStreamsModel", name := "bitsOf", desc := "(I)I" } : Jvm.MethodName) prog_8_method_45_code (3 : Nat) (Option.some Jvm.ClassFile.FieldType.int)) ∈ lw_all := lw_g (lw_at lw_m5 171 rfl) rfl
theorem q1176 : (Jvm.Cond.instanceMethod ({ cls := "ShareStreamsModel", name := "bit", desc := "(II)I" } : Jvm.MethodName)) ∈ lw_all := lw_g (lw_at lw_m5 173 rfl) rfl
theorem q1177 : (Jvm.Cond.selects "ShareStreamsModel" ({ cls := "ShareStreamsModel", name := "bit", desc := "(II)I" } : Jvm.MethodName) ({ cls := "ShareStreamsModel", name := "bit", desc := "(II)I" } : Jvm.MethodName)) ∈ lw_all := lw_g (lw_at lw_m5 174 rfl) rfl
theorem q1178 : (Jvm.Cond.code ({ cls := "ShareStreamsModel", name := "bit", desc := "(II)I" } : Jvm.MethodName) prog_8_method_47_code (3 : Nat) (Option.some Jvm.ClassFile.FieldType.int)) ∈ lw_all := lw_g (lw_at lw_m5 175 rfl) rfl
theorem q1179 : (Jvm.Cond.constantLong "ShareStreamsModel" (201 : Nat) (999 : Int64)) ∈ lw_all := lw_g (lw_at lw_m5 176 rfl) rfl
theorem q1181 : (Jvm.Cond.instanceMethod ({ cls := "ShareStreamsModel", name := "overlap", desc := "(II)I" } : Jvm.MethodName)) ∈ lw_all := lw_g (lw_at lw_m5 178 rfl) rfl
theorem q1182 : (Jvm.Cond.selects "ShareStreamsModel" ({ cls := "ShareStreamsModel", name := "overlap", desc := "(II)I" } : Jvm.MethodName) ({ cls := "ShareStreamsModel", name := "overlap", desc := "(II)I" } : Jvm.MethodName)) ∈ lw_all := lw_g (lw_at lw_m5 179 rfl) rfl
theorem q1183 : (Jvm.Cond.code ({ cls := "ShareStreamsModel", name := "overlap", desc := "(II)I" } : Jvm.MethodName) prog_8_method_48_code (8 : Nat) (Option.some Jvm.ClassFile.FieldType.int)) ∈ lw_all := lw_g (lw_at lw_m5 180 rfl) rfl
theorem q1185 : (Jvm.Cond.instanceMethod ({ cls := "ShareStreamsModel", name := "errorAt", desc := "(II)I" } : Jvm.MethodName)) ∈ lw_all := lw_g (lw_at lw_m5 182 rfl) rfl
theorem q1186 : (Jvm.Cond.selects "ShareStreamsModel" ({ cls := "ShareStreamsModel", name := "errorAt", desc := "(II)I" } : Jvm.MethodName) ({ cls := "ShareStreamsModel", name := "errorAt", desc := "(II)I" } : Jvm.MethodName)) ∈ lw_all := lw_g (lw_at lw_m5 183 rfl) rfl
theorem q1187 : (Jvm.Cond.code ({ cls := "ShareStreamsModel", name := "errorAt", desc := "(II)I" } : Jvm.MethodName) prog_8_method_49_code (3 : Nat) (Option.some Jvm.ClassFile.FieldType.int)) ∈ lw_all := lw_g (lw_at lw_m5 184 rfl) rfl
theorem q1188 : (Jvm.Cond.methodLink "ShareStreamsModel" (203 : Nat) ({ cls := "ShareStreamsModel", name := "errorOf", desc := "(II)I" } : Jvm.MethodName)) ∈ lw_all := lw_g (lw_at lw_m5 185 rfl) rfl
theorem q1189 : (Jvm.Cond.privateMethod ({ cls := "ShareStreamsModel", name := "errorOf", desc := "(II)I" } : Jvm.MethodName)) ∈ lw_tbl := lw_at lw_m5 186 rfl
theorem q1190 : (Jvm.Cond.instanceMethod ({ cls := "ShareStreamsModel", name := "errorOf", desc := "(II)I" } : Jvm.MethodName)) ∈ lw_all := lw_g (lw_at lw_m5 187 rfl) rfl
theorem q1191 : (Jvm.Cond.code ({ cls := "ShareStreamsModel", name := "errorOf", desc := "(II)I" } : Jvm.MethodName) prog_8_method_27_code (3 : Nat) (Option.some Jvm.ClassFile.FieldType.int)) ∈ lw_all := lw_g (lw_at lw_m5 188 rfl) rfl
theorem q1193 : (Jvm.Cond.instanceMethod ({ cls := "ShareStreamsModel", name := "settles", desc := "(II)I" } : Jvm.MethodName)) ∈ lw_all := lw_g (lw_at lw_m5 190 rfl) rfl
theorem q1194 : (Jvm.Cond.selects "ShareStreamsModel" ({ cls := "ShareStreamsModel", name := "settles", desc := "(II)I" } : Jvm.MethodName) ({ cls := "ShareStreamsModel", name := "settles", desc := "(II)I" } : Jvm.MethodName)) ∈ lw_all := lw_g (lw_at lw_m5 191 rfl) rfl
theorem q1195 : (Jvm.Cond.code ({ cls := "ShareStreamsModel", name := "settles", desc := "(II)I" } : Jvm.MethodName) prog_8_method_50_code (6 : Nat) (Option.some Jvm.ClassFile.FieldType.int)) ∈ lw_all := lw_g (lw_at lw_m5 192 rfl) rfl
theorem q1197 : (Jvm.Cond.instanceMethod ({ cls := "ShareStreamsModel", name := "bestSeed", desc := "(III)I" } : Jvm.MethodName)) ∈ lw_all := lw_g (lw_at lw_m5 194 rfl) rfl
theorem q1198 : (Jvm.Cond.selects "ShareStreamsModel" ({ cls := "ShareStreamsModel", name := "bestSeed", desc := "(III)I" } : Jvm.MethodName) ({ cls := "ShareStreamsModel", name := "bestSeed", desc := "(III)I" } : Jvm.MethodName)) ∈ lw_all := lw_g (lw_at lw_m5 195 rfl) rfl
theorem q1199 : (Jvm.Cond.code ({ cls := "ShareStreamsModel", name := "bestSeed", desc := "(III)I" } : Jvm.MethodName) prog_8_method_51_code (10 : Nat) (Option.some Jvm.ClassFile.FieldType.int)) ∈ lw_all := lw_g (lw_at lw_m5 196 rfl) rfl
theorem q1201 : (Jvm.Cond.instanceMethod ({ cls := "ShareStreamsModel", name := "unlike", desc := "(I)I" } : Jvm.MethodName)) ∈ lw_all := lw_g (lw_at lw_m5 198 rfl) rfl
theorem q1202 : (Jvm.Cond.selects "ShareStreamsModel" ({ cls := "ShareStreamsModel", name := "unlike", desc := "(I)I" } : Jvm.MethodName) ({ cls := "ShareStreamsModel", name := "unlike", desc := "(I)I" } : Jvm.MethodName)) ∈ lw_all := lw_g (lw_at lw_m5 199 rfl) rfl
theorem q1203 : (Jvm.Cond.code ({ cls := "ShareStreamsModel", name := "unlike", desc := "(I)I" } : Jvm.MethodName) prog_8_method_52_code (4 : Nat) (Option.some Jvm.ClassFile.FieldType.int)) ∈ lw_all := lw_g (lw_at lw_m5 200 rfl) rfl
theorem q1205 : (Jvm.Cond.instanceMethod ({ cls := "ShareStreamsModel", name := "count", desc := "(I)I" } : Jvm.MethodName)) ∈ lw_all := lw_g (lw_at lw_m5 202 rfl) rfl
theorem q1206 : (Jvm.Cond.selects "ShareStreamsModel" ({ cls := "ShareStreamsModel", name := "count", desc := "(I)I" } : Jvm.MethodName) ({ cls := "ShareStreamsModel", name := "count", desc := "(I)I" } : Jvm.MethodName)) ∈ lw_all := lw_g (lw_at lw_m5 203 rfl) rfl
theorem q1207 : (Jvm.Cond.code ({ cls := "ShareStreamsModel", name := "count", desc := "(I)I" } : Jvm.MethodName) prog_8_method_57_code (2 : Nat) (Option.some Jvm.ClassFile.FieldType.int)) ∈ lw_all := lw_g (lw_at lw_m5 204 rfl) rfl
theorem q1208 : (Jvm.Cond.methodLink "ShareStreamsModel" (206 : Nat) ({ cls := "ShareStreamsModel", name := "manySources", desc := "()I" } : Jvm.MethodName)) ∈ lw_all := lw_g (lw_at lw_m5 205 rfl) rfl
theorem q1209 : (Jvm.Cond.privateMethod ({ cls := "ShareStreamsModel", name := "manySources", desc := "()I" } : Jvm.MethodName)) ∈ lw_tbl := lw_at lw_m5 206 rfl
theorem q1210 : (Jvm.Cond.instanceMethod ({ cls := "ShareStreamsModel", name := "manySources", desc := "()I" } : Jvm.MethodName)) ∈ lw_all := lw_g (lw_at lw_m5 207 rfl) rfl
theorem q1211 : (Jvm.Cond.code ({ cls := "ShareStreamsModel", name := "manySources", desc := "()I" } : Jvm.MethodName) prog_8_method_53_code (3 : Nat) (Option.some Jvm.ClassFile.FieldType.int)) ∈ lw_all := lw_g (lw_at lw_m5 208 rfl) rfl
theorem q1212 : (Jvm.Cond.methodLink "ShareStreamsModel" (209 : Nat) ({ cls := "ShareStreamsModel", name := "errors", desc := "()I" } : Jvm.MethodName)) ∈ lw_all := lw_g (lw_at lw_m5 209 rfl) rfl
theorem q1213 : (Jvm.Cond.privateMethod ({ cls := "ShareStreamsModel", name := "errors", desc := "()I" } : Jvm.MethodName)) ∈ lw_tbl := lw_at lw_m5 210 rfl
theorem q1214 : (Jvm.Cond.instanceMethod ({ cls := "ShareStreamsModel", name := "errors", desc := "()I" } : Jvm.MethodName)) ∈ lw_all := lw_g (lw_at lw_m5 211 rfl) rfl
theorem q1215 : (Jvm.Cond.code ({ cls := "ShareStreamsModel", name := "errors", desc := "()I" } : Jvm.MethodName) prog_8_method_54_code (3 : Nat) (Option.some Jvm.ClassFile.FieldType.int)) ∈ lw_all := lw_g (lw_at lw_m5 212 rfl) rfl
theorem q1216 : (Jvm.Cond.methodLink "ShareStreamsModel" (212 : Nat) ({ cls := "ShareStreamsModel", name := "worst", desc := "()I" } : Jvm.MethodName)) ∈ lw_all := lw_g (lw_at lw_m5 213 rfl) rfl
theorem q1217 : (Jvm.Cond.privateMethod ({ cls := "ShareStreamsModel", name := "worst", desc := "()I" } : Jvm.MethodName)) ∈ lw_tbl := lw_at lw_m5 214 rfl
theorem q1218 : (Jvm.Cond.instanceMethod ({ cls := "ShareStreamsModel", name := "worst", desc := "()I" } : Jvm.MethodName)) ∈ lw_all := lw_g (lw_at lw_m5 215 rfl) rfl
theorem q1219 : (Jvm.Cond.code ({ cls := "ShareStreamsModel", name := "worst", desc := "()I" } : Jvm.MethodName) prog_8_method_55_code (5 : Nat) (Option.some Jvm.ClassFile.FieldType.int)) ∈ lw_all := lw_g (lw_at lw_m5 216 rfl) rfl
theorem q1220 : (Jvm.Cond.methodLink "ShareStreamsModel" (215 : Nat) ({ cls := "ShareStreamsModel", name := "deepest", desc := "()I" } : Jvm.MethodName)) ∈ lw_all := lw_g (lw_at lw_m5 217 rfl) rfl
theorem q1221 : (Jvm.Cond.privateMethod ({ cls := "ShareStreamsModel", name := "deepest", desc := "()I" } : Jvm.MethodName)) ∈ lw_tbl := lw_at lw_m5 218 rfl
theorem q1222 : (Jvm.Cond.instanceMethod ({ cls := "ShareStreamsModel", name := "deepest", desc := "()I" } : Jvm.MethodName)) ∈ lw_all := lw_g (lw_at lw_m5 219 rfl) rfl
theorem q1223 : (Jvm.Cond.code ({ cls := "ShareStreamsModel", name := "deepest", desc := "()I" } : Jvm.MethodName) prog_8_method_56_code (3 : Nat) (Option.some Jvm.ClassFile.FieldType.int)) ∈ lw_all := lw_g (lw_at lw_m5 220 rfl) rfl
theorem q1239 : (Jvm.Cond.castable "ShareStreamsModel" "java/lang/Object") ∈ lw_tbl := lw_at lw_m5 236 rfl
theorem in_X2 : ∀ w ∈ wsX20, w ∈ lw_all := lw_in wsX20 [956, 958, 960, 962, 964, 966, 968, 970, 972, 974, 976, 978, 980, 982, 984, 986, 988, 990] (by decide +kernel) (by decide +kernel)
