/-! DimpleWells -/
set_option maxRecDepth 100000
def RX1 : String := "DimpleWells"
def TX1 : u_T := fun k => match k with
  | 0 => ("DimpleWells", "told", "LDimpleWells$Told;", false)
  | 1 => ("DimpleWells", "law", "LDimpleWells$Term;", false)
  | 2 => ("DimpleWells", "facts", "[I", true)
  | 3 => ("DimpleWells", "bookOf", "[I", true)
  | 4 => ("DimpleWells", "refused", "[I", true)
  | 5 => ("DimpleWells", "now", "LDimpleWells$Season;", true)
  | 6 => ("DimpleWells", "probe", "LDimpleWells$Season;", true)
  | 7 => ("DimpleWells", "past", "[LDimpleWells$Season;", true)
  | 8 => ("DimpleWells", "images", "[LDimpleWells$Season;", true)
  | 9 => ("DimpleWells", "imagePast", "[LDimpleWells$Season;", true)
  | 10 => ("DimpleWells", "imageWorks", "[I", true)
  | 11 => ("DimpleWells", "works", "I", false)
  | 12 => ("DimpleWells", "refusedSteps", "I", false)
  | 13 => ("DimpleWells", "lineMany", "I", false)
  | 14 => ("DimpleWells", "seedNow", "I", false)
  | 15 => ("DimpleWells", "taped", "I", false)
  | 16 => ("DimpleWells", "faultAt", "I", false)
  | 17 => ("DimpleWells", "imageMany", "I", false)
  | 18 => ("DimpleWells", "tape", "[B", true)
  | 19 => ("DimpleWells", "where", "[I", true)
  | 20 => ("DimpleWells", "bestWhere", "[I", true)
  | 21 => ("DimpleWells", "mostWater", "I", false)
  | _ => ("DimpleWells", "leftBy", "[I", true)
def tyX1 : Nat → FieldType := fun k => match k with
  | 0 => .object "DimpleWells$Told"
  | 1 => .object "DimpleWells$Term"
  | 2 => .array .int
  | 3 => .array .int
  | 4 => .array .int
  | 5 => .object "DimpleWells$Season"
  | 6 => .object "DimpleWells$Season"
  | 7 => .array (.object "DimpleWells$Season")
  | 8 => .array (.object "DimpleWells$Season")
  | 9 => .array (.object "DimpleWells$Season")
  | 10 => .array .int
  | 11 => .int
  | 12 => .int
  | 13 => .int
  | 14 => .int
  | 15 => .int
  | 16 => .int
  | 17 => .int
  | 18 => .array .byte
  | 19 => .array .int
  | 20 => .array .int
  | 21 => .int
  | _ => .array .int
abbrev wsX10 : List Cond := u_ws RX1 TX1 23
set_option maxRecDepth 100000 in
theorem nmX1 : ∀ a, a < 23 → ∀ b, b < 23 → a ≠ b → (TX1 a).2.1 ≠ (TX1 b).2.1 := by decide +kernel
set_option maxRecDepth 100000 in
theorem tyX1_ok : ∀ k, k < 23 → parseFieldDescriptor (TX1 k).2.2.1 = some (tyX1 k) := by decide +kernel
abbrev cX1_init : ByteArray := prog_1_method_2_code
def yX1_init : MethodName := ⟨RX1, "<init>", "()V"⟩
def dkwX1_init_6 : List UInt8 := [42, 182, 0, 92, 177]
abbrev dktX1_init_6 : List UInt8 := dkwX1_init_6 ++ []
def dkwX1_init_5 : List UInt8 := [42, 16, 6, 188, 10, 181, 0, 83, 42, 16, 6, 188, 10, 181, 0, 86, 42, 16, 41, 188, 10, 181, 0, 89]
abbrev dktX1_init_5 : List UInt8 := dkwX1_init_5 ++ dktX1_init_6
def dkwX1_init_4 : List UInt8 := [181, 0, 69, 42, 6, 188, 10, 181, 0, 72, 42, 2, 181, 0, 75, 42, 17, 2, 88, 188, 8, 181, 0, 79]
abbrev dktX1_init_4 : List UInt8 := dkwX1_init_4 ++ dktX1_init_5
def dkwX1_init_3 : List UInt8 := [16, 16, 189, 0, 50, 181, 0, 62, 42, 6, 189, 0, 50, 181, 0, 66, 42, 16, 48, 189, 0, 50]
abbrev dktX1_init_3 : List UInt8 := dkwX1_init_3 ++ dktX1_init_4
def dkwX1_init_2 : List UInt8 := [187, 0, 50, 89, 42, 183, 0, 52, 181, 0, 55, 42, 187, 0, 50, 89, 42, 183, 0, 52, 181, 0, 59, 42]
abbrev dktX1_init_2 : List UInt8 := dkwX1_init_2 ++ dktX1_init_3
def dkwX1_init_1 : List UInt8 := [16, 10, 188, 10, 181, 0, 40, 42, 16, 6, 188, 10, 181, 0, 44, 42, 5, 188, 10, 181, 0, 47, 42]
abbrev dktX1_init_1 : List UInt8 := dkwX1_init_1 ++ dktX1_init_2
def dkwX1_init_0 : List UInt8 := [42, 183, 0, 20, 42, 187, 0, 25, 89, 183, 0, 27, 181, 0, 28, 42, 184, 0, 32, 181, 0, 36, 42]
abbrev dktX1_init_0 : List UInt8 := dkwX1_init_0 ++ dktX1_init_1
theorem dksX1_init_0 : cX1_init.data.toList.drop 0 = dktX1_init_0 := by decide +kernel
theorem dksX1_init_1 : cX1_init.data.toList.drop 23 = dktX1_init_1 := dk_seg dksX1_init_0 23 rfl rfl
theorem dksX1_init_2 : cX1_init.data.toList.drop 46 = dktX1_init_2 := dk_seg dksX1_init_1 23 rfl rfl
theorem dksX1_init_3 : cX1_init.data.toList.drop 70 = dktX1_init_3 := dk_seg dksX1_init_2 24 rfl rfl
theorem dksX1_init_4 : cX1_init.data.toList.drop 92 = dktX1_init_4 := dk_seg dksX1_init_3 22 rfl rfl
theorem dksX1_init_5 : cX1_init.data.toList.drop 116 = dktX1_init_5 := dk_seg dksX1_init_4 24 rfl rfl
theorem dksX1_init_6 : cX1_init.data.toList.drop 140 = dktX1_init_6 := dk_seg dksX1_init_5 24 rfl rfl
theorem dX1_init_0 : decode cX1_init 0 = .ok (.aload_n 0, 1) := dk_42 (dk_at dksX1_init_0 0 rfl rfl)
theorem dX1_init_1 : decode cX1_init 1 = .ok (.invokespecial 20, 3) := dk_183 0 20 (dk_at dksX1_init_0 1 rfl rfl)
theorem dX1_init_4 : decode cX1_init 4 = .ok (.aload_n 0, 1) := dk_42 (dk_at dksX1_init_0 4 rfl rfl)
theorem dX1_init_5 : decode cX1_init 5 = .ok (.new 25, 3) := dk_187 0 25 (dk_at dksX1_init_0 5 rfl rfl)
theorem dX1_init_8 : decode cX1_init 8 = .ok (.dup, 1) := dk_89 (dk_at dksX1_init_0 8 rfl rfl)
theorem dX1_init_9 : decode cX1_init 9 = .ok (.invokespecial 27, 3) := dk_183 0 27 (dk_at dksX1_init_0 9 rfl rfl)
theorem dX1_init_12 : decode cX1_init 12 = .ok (.putfield 28, 3) := dk_181 0 28 (dk_at dksX1_init_0 12 rfl rfl)
theorem dX1_init_15 : decode cX1_init 15 = .ok (.aload_n 0, 1) := dk_42 (dk_at dksX1_init_0 15 rfl rfl)
theorem dX1_init_16 : decode cX1_init 16 = .ok (.invokestatic 32, 3) := dk_184 0 32 (dk_at dksX1_init_0 16 rfl rfl)
theorem dX1_init_19 : decode cX1_init 19 = .ok (.putfield 36, 3) := dk_181 0 36 (dk_at dksX1_init_0 19 rfl rfl)
theorem dX1_init_22 : decode cX1_init 22 = .ok (.aload_n 0, 1) := dk_42 (dk_at dksX1_init_0 22 rfl rfl)
theorem dX1_init_23 : decode cX1_init 23 = .ok (.bipush 10, 2) := dk_16 10 (dk_at dksX1_init_1 0 rfl rfl)
theorem dX1_init_25 : decode cX1_init 25 = .ok (.newarray .int, 2) := dk_188_10 (dk_at dksX1_init_1 2 rfl rfl)
theorem dX1_init_27 : decode cX1_init 27 = .ok (.putfield 40, 3) := dk_181 0 40 (dk_at dksX1_init_1 4 rfl rfl)
theorem dX1_init_30 : decode cX1_init 30 = .ok (.aload_n 0, 1) := dk_42 (dk_at dksX1_init_1 7 rfl rfl)
theorem dX1_init_31 : decode cX1_init 31 = .ok (.bipush 6, 2) := dk_16 6 (dk_at dksX1_init_1 8 rfl rfl)
theorem dX1_init_33 : decode cX1_init 33 = .ok (.newarray .int, 2) := dk_188_10 (dk_at dksX1_init_1 10 rfl rfl)
theorem dX1_init_35 : decode cX1_init 35 = .ok (.putfield 44, 3) := dk_181 0 44 (dk_at dksX1_init_1 12 rfl rfl)
theorem dX1_init_38 : decode cX1_init 38 = .ok (.aload_n 0, 1) := dk_42 (dk_at dksX1_init_1 15 rfl rfl)
theorem dX1_init_39 : decode cX1_init 39 = .ok (.iconst 2, 1) := dk_5 (dk_at dksX1_init_1 16 rfl rfl)
theorem dX1_init_40 : decode cX1_init 40 = .ok (.newarray .int, 2) := dk_188_10 (dk_at dksX1_init_1 17 rfl rfl)
theorem dX1_init_42 : decode cX1_init 42 = .ok (.putfield 47, 3) := dk_181 0 47 (dk_at dksX1_init_1 19 rfl rfl)
theorem dX1_init_45 : decode cX1_init 45 = .ok (.aload_n 0, 1) := dk_42 (dk_at dksX1_init_1 22 rfl rfl)
theorem dX1_init_46 : decode cX1_init 46 = .ok (.new 50, 3) := dk_187 0 50 (dk_at dksX1_init_2 0 rfl rfl)
theorem dX1_init_49 : decode cX1_init 49 = .ok (.dup, 1) := dk_89 (dk_at dksX1_init_2 3 rfl rfl)
theorem dX1_init_50 : decode cX1_init 50 = .ok (.aload_n 0, 1) := dk_42 (dk_at dksX1_init_2 4 rfl rfl)
theorem dX1_init_51 : decode cX1_init 51 = .ok (.invokespecial 52, 3) := dk_183 0 52 (dk_at dksX1_init_2 5 rfl rfl)
theorem dX1_init_54 : decode cX1_init 54 = .ok (.putfield 55, 3) := dk_181 0 55 (dk_at dksX1_init_2 8 rfl rfl)
theorem dX1_init_57 : decode cX1_init 57 = .ok (.aload_n 0, 1) := dk_42 (dk_at dksX1_init_2 11 rfl rfl)
theorem dX1_init_58 : decode cX1_init 58 = .ok (.new 50, 3) := dk_187 0 50 (dk_at dksX1_init_2 12 rfl rfl)
theorem dX1_init_61 : decode cX1_init 61 = .ok (.dup, 1) := dk_89 (dk_at dksX1_init_2 15 rfl rfl)
theorem dX1_init_62 : decode cX1_init 62 = .ok (.aload_n 0, 1) := dk_42 (dk_at dksX1_init_2 16 rfl rfl)
theorem dX1_init_63 : decode cX1_init 63 = .ok (.invokespecial 52, 3) := dk_183 0 52 (dk_at dksX1_init_2 17 rfl rfl)
theorem dX1_init_66 : decode cX1_init 66 = .ok (.putfield 59, 3) := dk_181 0 59 (dk_at dksX1_init_2 20 rfl rfl)
theorem dX1_init_69 : decode cX1_init 69 = .ok (.aload_n 0, 1) := dk_42 (dk_at dksX1_init_2 23 rfl rfl)
theorem dX1_init_70 : decode cX1_init 70 = .ok (.bipush 16, 2) := dk_16 16 (dk_at dksX1_init_3 0 rfl rfl)
theorem dX1_init_72 : decode cX1_init 72 = .ok (.anewarray 50, 3) := dk_189 0 50 (dk_at dksX1_init_3 2 rfl rfl)
theorem dX1_init_75 : decode cX1_init 75 = .ok (.putfield 62, 3) := dk_181 0 62 (dk_at dksX1_init_3 5 rfl rfl)
theorem dX1_init_78 : decode cX1_init 78 = .ok (.aload_n 0, 1) := dk_42 (dk_at dksX1_init_3 8 rfl rfl)
theorem dX1_init_79 : decode cX1_init 79 = .ok (.iconst 3, 1) := dk_6 (dk_at dksX1_init_3 9 rfl rfl)
theorem dX1_init_80 : decode cX1_init 80 = .ok (.anewarray 50, 3) := dk_189 0 50 (dk_at dksX1_init_3 10 rfl rfl)
theorem dX1_init_83 : decode cX1_init 83 = .ok (.putfield 66, 3) := dk_181 0 66 (dk_at dksX1_init_3 13 rfl rfl)
theorem dX1_init_86 : decode cX1_init 86 = .ok (.aload_n 0, 1) := dk_42 (dk_at dksX1_init_3 16 rfl rfl)
theorem dX1_init_87 : decode cX1_init 87 = .ok (.bipush 48, 2) := dk_16 48 (dk_at dksX1_init_3 17 rfl rfl)
theorem dX1_init_89 : decode cX1_init 89 = .ok (.anewarray 50, 3) := dk_189 0 50 (dk_at dksX1_init_3 19 rfl rfl)
theorem dX1_init_92 : decode cX1_init 92 = .ok (.putfield 69, 3) := dk_181 0 69 (dk_at dksX1_init_4 0 rfl rfl)
theorem dX1_init_95 : decode cX1_init 95 = .ok (.aload_n 0, 1) := dk_42 (dk_at dksX1_init_4 3 rfl rfl)
theorem dX1_init_96 : decode cX1_init 96 = .ok (.iconst 3, 1) := dk_6 (dk_at dksX1_init_4 4 rfl rfl)
theorem dX1_init_97 : decode cX1_init 97 = .ok (.newarray .int, 2) := dk_188_10 (dk_at dksX1_init_4 5 rfl rfl)
theorem dX1_init_99 : decode cX1_init 99 = .ok (.putfield 72, 3) := dk_181 0 72 (dk_at dksX1_init_4 7 rfl rfl)
theorem dX1_init_102 : decode cX1_init 102 = .ok (.aload_n 0, 1) := dk_42 (dk_at dksX1_init_4 10 rfl rfl)
theorem dX1_init_103 : decode cX1_init 103 = .ok (.iconst (-1), 1) := dk_2 (dk_at dksX1_init_4 11 rfl rfl)
theorem dX1_init_104 : decode cX1_init 104 = .ok (.putfield 75, 3) := dk_181 0 75 (dk_at dksX1_init_4 12 rfl rfl)
theorem dX1_init_107 : decode cX1_init 107 = .ok (.aload_n 0, 1) := dk_42 (dk_at dksX1_init_4 15 rfl rfl)
theorem dX1_init_108 : decode cX1_init 108 = .ok (.sipush 600, 3) := dk_17 2 88 (dk_at dksX1_init_4 16 rfl rfl)
theorem dX1_init_111 : decode cX1_init 111 = .ok (.newarray .byte, 2) := dk_188_8 (dk_at dksX1_init_4 19 rfl rfl)
theorem dX1_init_113 : decode cX1_init 113 = .ok (.putfield 79, 3) := dk_181 0 79 (dk_at dksX1_init_4 21 rfl rfl)
theorem dX1_init_116 : decode cX1_init 116 = .ok (.aload_n 0, 1) := dk_42 (dk_at dksX1_init_5 0 rfl rfl)
theorem dX1_init_117 : decode cX1_init 117 = .ok (.bipush 6, 2) := dk_16 6 (dk_at dksX1_init_5 1 rfl rfl)
theorem dX1_init_119 : decode cX1_init 119 = .ok (.newarray .int, 2) := dk_188_10 (dk_at dksX1_init_5 3 rfl rfl)
theorem dX1_init_121 : decode cX1_init 121 = .ok (.putfield 83, 3) := dk_181 0 83 (dk_at dksX1_init_5 5 rfl rfl)
theorem dX1_init_124 : decode cX1_init 124 = .ok (.aload_n 0, 1) := dk_42 (dk_at dksX1_init_5 8 rfl rfl)
theorem dX1_init_125 : decode cX1_init 125 = .ok (.bipush 6, 2) := dk_16 6 (dk_at dksX1_init_5 9 rfl rfl)
theorem dX1_init_127 : decode cX1_init 127 = .ok (.newarray .int, 2) := dk_188_10 (dk_at dksX1_init_5 11 rfl rfl)
theorem dX1_init_129 : decode cX1_init 129 = .ok (.putfield 86, 3) := dk_181 0 86 (dk_at dksX1_init_5 13 rfl rfl)
theorem dX1_init_132 : decode cX1_init 132 = .ok (.aload_n 0, 1) := dk_42 (dk_at dksX1_init_5 16 rfl rfl)
theorem dX1_init_133 : decode cX1_init 133 = .ok (.bipush 41, 2) := dk_16 41 (dk_at dksX1_init_5 17 rfl rfl)
theorem dX1_init_135 : decode cX1_init 135 = .ok (.newarray .int, 2) := dk_188_10 (dk_at dksX1_init_5 19 rfl rfl)
theorem dX1_init_137 : decode cX1_init 137 = .ok (.putfield 89, 3) := dk_181 0 89 (dk_at dksX1_init_5 21 rfl rfl)
theorem dX1_init_140 : decode cX1_init 140 = .ok (.aload_n 0, 1) := dk_42 (dk_at dksX1_init_6 0 rfl rfl)
theorem dX1_init_141 : decode cX1_init 141 = .ok (.invokevirtual 92, 3) := dk_182 0 92 (dk_at dksX1_init_6 1 rfl rfl)
theorem dX1_init_144 : decode cX1_init 144 = .ok (.return_, 1) := dk_177 (dk_at dksX1_init_6 4 rfl rfl)
abbrev cX1_custom : ByteArray := prog_1_method_1_code
def yX1_custom : MethodName := ⟨RX1, "custom", "()LDimpleWells$Term;"⟩
def dkwX1_custom_3 : List UInt8 := [183, 0, 19, 187, 0, 3, 89, 8, 183, 0, 7, 183, 0, 19, 176]
abbrev dktX1_custom_3 : List UInt8 := dkwX1_custom_3 ++ []
def dkwX1_custom_2 : List UInt8 := [187, 0, 11, 89, 187, 0, 3, 89, 5, 183, 0, 7, 187, 0, 13, 89, 6, 183, 0, 15, 183, 0, 16]
abbrev dktX1_custom_2 : List UInt8 := dkwX1_custom_2 ++ dktX1_custom_3
def dkwX1_custom_1 : List UInt8 := [187, 0, 3, 89, 4, 183, 0, 7, 187, 0, 13, 89, 5, 183, 0, 15, 183, 0, 16, 183, 0, 19]
abbrev dktX1_custom_1 : List UInt8 := dkwX1_custom_1 ++ dktX1_custom_2
def dkwX1_custom_0 : List UInt8 := [187, 0, 1, 89, 187, 0, 1, 89, 187, 0, 1, 89, 187, 0, 3, 89, 3, 183, 0, 7, 187, 0, 11, 89]
abbrev dktX1_custom_0 : List UInt8 := dkwX1_custom_0 ++ dktX1_custom_1
theorem dksX1_custom_0 : cX1_custom.data.toList.drop 0 = dktX1_custom_0 := by decide +kernel
theorem dksX1_custom_1 : cX1_custom.data.toList.drop 24 = dktX1_custom_1 := dk_seg dksX1_custom_0 24 rfl rfl
theorem dksX1_custom_2 : cX1_custom.data.toList.drop 46 = dktX1_custom_2 := dk_seg dksX1_custom_1 22 rfl rfl
theorem dksX1_custom_3 : cX1_custom.data.toList.drop 69 = dktX1_custom_3 := dk_seg dksX1_custom_2 23 rfl rfl
theorem dX1_custom_0 : decode cX1_custom 0 = .ok (.new 1, 3) := dk_187 0 1 (dk_at dksX1_custom_0 0 rfl rfl)
theorem dX1_custom_3 : decode cX1_custom 3 = .ok (.dup, 1) := dk_89 (dk_at dksX1_custom_0 3 rfl rfl)
theorem dX1_custom_4 : decode cX1_custom 4 = .ok (.new 1, 3) := dk_187 0 1 (dk_at dksX1_custom_0 4 rfl rfl)
theorem dX1_custom_7 : decode cX1_custom 7 = .ok (.dup, 1) := dk_89 (dk_at dksX1_custom_0 7 rfl rfl)
theorem dX1_custom_8 : decode cX1_custom 8 = .ok (.new 1, 3) := dk_187 0 1 (dk_at dksX1_custom_0 8 rfl rfl)
theorem dX1_custom_11 : decode cX1_custom 11 = .ok (.dup, 1) := dk_89 (dk_at dksX1_custom_0 11 rfl rfl)
theorem dX1_custom_12 : decode cX1_custom 12 = .ok (.new 3, 3) := dk_187 0 3 (dk_at dksX1_custom_0 12 rfl rfl)
theorem dX1_custom_15 : decode cX1_custom 15 = .ok (.dup, 1) := dk_89 (dk_at dksX1_custom_0 15 rfl rfl)
theorem dX1_custom_16 : decode cX1_custom 16 = .ok (.iconst 0, 1) := dk_3 (dk_at dksX1_custom_0 16 rfl rfl)
theorem dX1_custom_17 : decode cX1_custom 17 = .ok (.invokespecial 7, 3) := dk_183 0 7 (dk_at dksX1_custom_0 17 rfl rfl)
theorem dX1_custom_20 : decode cX1_custom 20 = .ok (.new 11, 3) := dk_187 0 11 (dk_at dksX1_custom_0 20 rfl rfl)
theorem dX1_custom_23 : decode cX1_custom 23 = .ok (.dup, 1) := dk_89 (dk_at dksX1_custom_0 23 rfl rfl)
theorem dX1_custom_24 : decode cX1_custom 24 = .ok (.new 3, 3) := dk_187 0 3 (dk_at dksX1_custom_1 0 rfl rfl)
theorem dX1_custom_27 : decode cX1_custom 27 = .ok (.dup, 1) := dk_89 (dk_at dksX1_custom_1 3 rfl rfl)
theorem dX1_custom_28 : decode cX1_custom 28 = .ok (.iconst 1, 1) := dk_4 (dk_at dksX1_custom_1 4 rfl rfl)
theorem dX1_custom_29 : decode cX1_custom 29 = .ok (.invokespecial 7, 3) := dk_183 0 7 (dk_at dksX1_custom_1 5 rfl rfl)
theorem dX1_custom_32 : decode cX1_custom 32 = .ok (.new 13, 3) := dk_187 0 13 (dk_at dksX1_custom_1 8 rfl rfl)
theorem dX1_custom_35 : decode cX1_custom 35 = .ok (.dup, 1) := dk_89 (dk_at dksX1_custom_1 11 rfl rfl)
theorem dX1_custom_36 : decode cX1_custom 36 = .ok (.iconst 2, 1) := dk_5 (dk_at dksX1_custom_1 12 rfl rfl)
theorem dX1_custom_37 : decode cX1_custom 37 = .ok (.invokespecial 15, 3) := dk_183 0 15 (dk_at dksX1_custom_1 13 rfl rfl)
theorem dX1_custom_40 : decode cX1_custom 40 = .ok (.invokespecial 16, 3) := dk_183 0 16 (dk_at dksX1_custom_1 16 rfl rfl)
theorem dX1_custom_43 : decode cX1_custom 43 = .ok (.invokespecial 19, 3) := dk_183 0 19 (dk_at dksX1_custom_1 19 rfl rfl)
theorem dX1_custom_46 : decode cX1_custom 46 = .ok (.new 11, 3) := dk_187 0 11 (dk_at dksX1_custom_2 0 rfl rfl)
theorem dX1_custom_49 : decode cX1_custom 49 = .ok (.dup, 1) := dk_89 (dk_at dksX1_custom_2 3 rfl rfl)
theorem dX1_custom_50 : decode cX1_custom 50 = .ok (.new 3, 3) := dk_187 0 3 (dk_at dksX1_custom_2 4 rfl rfl)
theorem dX1_custom_53 : decode cX1_custom 53 = .ok (.dup, 1) := dk_89 (dk_at dksX1_custom_2 7 rfl rfl)
theorem dX1_custom_54 : decode cX1_custom 54 = .ok (.iconst 2, 1) := dk_5 (dk_at dksX1_custom_2 8 rfl rfl)
theorem dX1_custom_55 : decode cX1_custom 55 = .ok (.invokespecial 7, 3) := dk_183 0 7 (dk_at dksX1_custom_2 9 rfl rfl)
theorem dX1_custom_58 : decode cX1_custom 58 = .ok (.new 13, 3) := dk_187 0 13 (dk_at dksX1_custom_2 12 rfl rfl)
theorem dX1_custom_61 : decode cX1_custom 61 = .ok (.dup, 1) := dk_89 (dk_at dksX1_custom_2 15 rfl rfl)
theorem dX1_custom_62 : decode cX1_custom 62 = .ok (.iconst 3, 1) := dk_6 (dk_at dksX1_custom_2 16 rfl rfl)
theorem dX1_custom_63 : decode cX1_custom 63 = .ok (.invokespecial 15, 3) := dk_183 0 15 (dk_at dksX1_custom_2 17 rfl rfl)
theorem dX1_custom_66 : decode cX1_custom 66 = .ok (.invokespecial 16, 3) := dk_183 0 16 (dk_at dksX1_custom_2 20 rfl rfl)
theorem dX1_custom_69 : decode cX1_custom 69 = .ok (.invokespecial 19, 3) := dk_183 0 19 (dk_at dksX1_custom_3 0 rfl rfl)
theorem dX1_custom_72 : decode cX1_custom 72 = .ok (.new 3, 3) := dk_187 0 3 (dk_at dksX1_custom_3 3 rfl rfl)
theorem dX1_custom_75 : decode cX1_custom 75 = .ok (.dup, 1) := dk_89 (dk_at dksX1_custom_3 6 rfl rfl)
theorem dX1_custom_76 : decode cX1_custom 76 = .ok (.iconst 5, 1) := dk_8 (dk_at dksX1_custom_3 7 rfl rfl)
theorem dX1_custom_77 : decode cX1_custom 77 = .ok (.invokespecial 7, 3) := dk_183 0 7 (dk_at dksX1_custom_3 8 rfl rfl)
theorem dX1_custom_80 : decode cX1_custom 80 = .ok (.invokespecial 19, 3) := dk_183 0 19 (dk_at dksX1_custom_3 11 rfl rfl)
theorem dX1_custom_83 : decode cX1_custom 83 = .ok (.areturn, 1) := dk_176 (dk_at dksX1_custom_3 14 rfl rfl)
abbrev cX1_begins : ByteArray := prog_1_method_3_code
def yX1_begins : MethodName := ⟨RX1, "begins", "()V"⟩
def dkwX1_begins_2 : List UInt8 := [42, 3, 181, 0, 104, 42, 3, 181, 0, 107, 177]
abbrev dktX1_begins_2 : List UInt8 := dkwX1_begins_2 ++ []
def dkwX1_begins_1 : List UInt8 := [132, 1, 1, 167, 255, 240, 42, 180, 0, 55, 182, 0, 95, 87, 42, 3, 181, 0, 98, 42, 3, 181, 0, 101]
abbrev dktX1_begins_1 : List UInt8 := dkwX1_begins_1 ++ dktX1_begins_2
def dkwX1_begins_0 : List UInt8 := [42, 184, 0, 32, 181, 0, 36, 3, 60, 27, 16, 6, 162, 0, 16, 42, 180, 0, 44, 27, 2, 79]
abbrev dktX1_begins_0 : List UInt8 := dkwX1_begins_0 ++ dktX1_begins_1
theorem dksX1_begins_0 : cX1_begins.data.toList.drop 0 = dktX1_begins_0 := by decide +kernel
theorem dksX1_begins_1 : cX1_begins.data.toList.drop 22 = dktX1_begins_1 := dk_seg dksX1_begins_0 22 rfl rfl
theorem dksX1_begins_2 : cX1_begins.data.toList.drop 46 = dktX1_begins_2 := dk_seg dksX1_begins_1 24 rfl rfl
theorem dX1_begins_0 : decode cX1_begins 0 = .ok (.aload_n 0, 1) := dk_42 (dk_at dksX1_begins_0 0 rfl rfl)
theorem dX1_begins_1 : decode cX1_begins 1 = .ok (.invokestatic 32, 3) := dk_184 0 32 (dk_at dksX1_begins_0 1 rfl rfl)
theorem dX1_begins_4 : decode cX1_begins 4 = .ok (.putfield 36, 3) := dk_181 0 36 (dk_at dksX1_begins_0 4 rfl rfl)
theorem dX1_begins_7 : decode cX1_begins 7 = .ok (.iconst 0, 1) := dk_3 (dk_at dksX1_begins_0 7 rfl rfl)
theorem dX1_begins_8 : decode cX1_begins 8 = .ok (.istore_n 1, 1) := dk_60 (dk_at dksX1_begins_0 8 rfl rfl)
theorem dX1_begins_9 : decode cX1_begins 9 = .ok (.iload_n 1, 1) := dk_27 (dk_at dksX1_begins_0 9 rfl rfl)
theorem dX1_begins_10 : decode cX1_begins 10 = .ok (.bipush 6, 2) := dk_16 6 (dk_at dksX1_begins_0 10 rfl rfl)
theorem dX1_begins_12 : decode cX1_begins 12 = .ok (.if_icmp .ge 16, 3) := dk_162 0 16 (dk_at dksX1_begins_0 12 rfl rfl)
theorem dX1_begins_15 : decode cX1_begins 15 = .ok (.aload_n 0, 1) := dk_42 (dk_at dksX1_begins_0 15 rfl rfl)
theorem dX1_begins_16 : decode cX1_begins 16 = .ok (.getfield 44, 3) := dk_180 0 44 (dk_at dksX1_begins_0 16 rfl rfl)
theorem dX1_begins_19 : decode cX1_begins 19 = .ok (.iload_n 1, 1) := dk_27 (dk_at dksX1_begins_0 19 rfl rfl)
theorem dX1_begins_20 : decode cX1_begins 20 = .ok (.iconst (-1), 1) := dk_2 (dk_at dksX1_begins_0 20 rfl rfl)
theorem dX1_begins_21 : decode cX1_begins 21 = .ok (.iastore, 1) := dk_79 (dk_at dksX1_begins_0 21 rfl rfl)
theorem dX1_begins_22 : decode cX1_begins 22 = .ok (.iinc 1 1, 3) := dk_132 1 1 (dk_at dksX1_begins_1 0 rfl rfl)
theorem dX1_begins_25 : decode cX1_begins 25 = .ok (.goto (-16), 3) := dk_167 255 240 (dk_at dksX1_begins_1 3 rfl rfl)
theorem dX1_begins_28 : decode cX1_begins 28 = .ok (.aload_n 0, 1) := dk_42 (dk_at dksX1_begins_1 6 rfl rfl)
theorem dX1_begins_29 : decode cX1_begins 29 = .ok (.getfield 55, 3) := dk_180 0 55 (dk_at dksX1_begins_1 7 rfl rfl)
theorem dX1_begins_32 : decode cX1_begins 32 = .ok (.invokevirtual 95, 3) := dk_182 0 95 (dk_at dksX1_begins_1 10 rfl rfl)
theorem dX1_begins_35 : decode cX1_begins 35 = .ok (.pop, 1) := dk_87 (dk_at dksX1_begins_1 13 rfl rfl)
theorem dX1_begins_36 : decode cX1_begins 36 = .ok (.aload_n 0, 1) := dk_42 (dk_at dksX1_begins_1 14 rfl rfl)
theorem dX1_begins_37 : decode cX1_begins 37 = .ok (.iconst 0, 1) := dk_3 (dk_at dksX1_begins_1 15 rfl rfl)
theorem dX1_begins_38 : decode cX1_begins 38 = .ok (.putfield 98, 3) := dk_181 0 98 (dk_at dksX1_begins_1 16 rfl rfl)
theorem dX1_begins_41 : decode cX1_begins 41 = .ok (.aload_n 0, 1) := dk_42 (dk_at dksX1_begins_1 19 rfl rfl)
theorem dX1_begins_42 : decode cX1_begins 42 = .ok (.iconst 0, 1) := dk_3 (dk_at dksX1_begins_1 20 rfl rfl)
theorem dX1_begins_43 : decode cX1_begins 43 = .ok (.putfield 101, 3) := dk_181 0 101 (dk_at dksX1_begins_1 21 rfl rfl)
theorem dX1_begins_46 : decode cX1_begins 46 = .ok (.aload_n 0, 1) := dk_42 (dk_at dksX1_begins_2 0 rfl rfl)
theorem dX1_begins_47 : decode cX1_begins 47 = .ok (.iconst 0, 1) := dk_3 (dk_at dksX1_begins_2 1 rfl rfl)
theorem dX1_begins_48 : decode cX1_begins 48 = .ok (.putfield 104, 3) := dk_181 0 104 (dk_at dksX1_begins_2 2 rfl rfl)
theorem dX1_begins_51 : decode cX1_begins 51 = .ok (.aload_n 0, 1) := dk_42 (dk_at dksX1_begins_2 5 rfl rfl)
theorem dX1_begins_52 : decode cX1_begins 52 = .ok (.iconst 0, 1) := dk_3 (dk_at dksX1_begins_2 6 rfl rfl)
theorem dX1_begins_53 : decode cX1_begins 53 = .ok (.putfield 107, 3) := dk_181 0 107 (dk_at dksX1_begins_2 7 rfl rfl)
theorem dX1_begins_56 : decode cX1_begins 56 = .ok (.return_, 1) := dk_177 (dk_at dksX1_begins_2 10 rfl rfl)
abbrev cX1_feed : ByteArray := prog_1_method_16_code
def yX1_feed : MethodName := ⟨RX1, "feed", "(IIIII)I"⟩
def dkwX1_feed_2 : List UInt8 := [172]
abbrev dktX1_feed_2 : List UInt8 := dkwX1_feed_2 ++ []
def dkwX1_feed_1 : List UInt8 := [182, 0, 163, 42, 29, 182, 0, 163, 42, 21, 4, 182, 0, 163, 42, 21, 5, 182, 0, 163, 42, 180, 0, 160]
abbrev dktX1_feed_1 : List UInt8 := dkwX1_feed_1 ++ dktX1_feed_2
def dkwX1_feed_0 : List UInt8 := [42, 180, 0, 160, 16, 20, 96, 17, 2, 88, 164, 0, 5, 2, 172, 42, 27, 182, 0, 163, 42, 28]
abbrev dktX1_feed_0 : List UInt8 := dkwX1_feed_0 ++ dktX1_feed_1
theorem dksX1_feed_0 : cX1_feed.data.toList.drop 0 = dktX1_feed_0 := by decide +kernel
theorem dksX1_feed_1 : cX1_feed.data.toList.drop 22 = dktX1_feed_1 := dk_seg dksX1_feed_0 22 rfl rfl
theorem dksX1_feed_2 : cX1_feed.data.toList.drop 46 = dktX1_feed_2 := dk_seg dksX1_feed_1 24 rfl rfl
theorem dX1_feed_0 : decode cX1_feed 0 = .ok (.aload_n 0, 1) := dk_42 (dk_at dksX1_feed_0 0 rfl rfl)
theorem dX1_feed_1 : decode cX1_feed 1 = .ok (.getfield 160, 3) := dk_180 0 160 (dk_at dksX1_feed_0 1 rfl rfl)
theorem dX1_feed_4 : decode cX1_feed 4 = .ok (.bipush 20, 2) := dk_16 20 (dk_at dksX1_feed_0 4 rfl rfl)
theorem dX1_feed_6 : decode cX1_feed 6 = .ok (.iadd, 1) := dk_96 (dk_at dksX1_feed_0 6 rfl rfl)
theorem dX1_feed_7 : decode cX1_feed 7 = .ok (.sipush 600, 3) := dk_17 2 88 (dk_at dksX1_feed_0 7 rfl rfl)
theorem dX1_feed_10 : decode cX1_feed 10 = .ok (.if_icmp .le 5, 3) := dk_164 0 5 (dk_at dksX1_feed_0 10 rfl rfl)
theorem dX1_feed_13 : decode cX1_feed 13 = .ok (.iconst (-1), 1) := dk_2 (dk_at dksX1_feed_0 13 rfl rfl)
theorem dX1_feed_14 : decode cX1_feed 14 = .ok (.ireturn, 1) := dk_172 (dk_at dksX1_feed_0 14 rfl rfl)
theorem dX1_feed_15 : decode cX1_feed 15 = .ok (.aload_n 0, 1) := dk_42 (dk_at dksX1_feed_0 15 rfl rfl)
theorem dX1_feed_16 : decode cX1_feed 16 = .ok (.iload_n 1, 1) := dk_27 (dk_at dksX1_feed_0 16 rfl rfl)
theorem dX1_feed_17 : decode cX1_feed 17 = .ok (.invokevirtual 163, 3) := dk_182 0 163 (dk_at dksX1_feed_0 17 rfl rfl)
theorem dX1_feed_20 : decode cX1_feed 20 = .ok (.aload_n 0, 1) := dk_42 (dk_at dksX1_feed_0 20 rfl rfl)
theorem dX1_feed_21 : decode cX1_feed 21 = .ok (.iload_n 2, 1) := dk_28 (dk_at dksX1_feed_0 21 rfl rfl)
theorem dX1_feed_22 : decode cX1_feed 22 = .ok (.invokevirtual 163, 3) := dk_182 0 163 (dk_at dksX1_feed_1 0 rfl rfl)
theorem dX1_feed_25 : decode cX1_feed 25 = .ok (.aload_n 0, 1) := dk_42 (dk_at dksX1_feed_1 3 rfl rfl)
theorem dX1_feed_26 : decode cX1_feed 26 = .ok (.iload_n 3, 1) := dk_29 (dk_at dksX1_feed_1 4 rfl rfl)
theorem dX1_feed_27 : decode cX1_feed 27 = .ok (.invokevirtual 163, 3) := dk_182 0 163 (dk_at dksX1_feed_1 5 rfl rfl)
theorem dX1_feed_30 : decode cX1_feed 30 = .ok (.aload_n 0, 1) := dk_42 (dk_at dksX1_feed_1 8 rfl rfl)
theorem dX1_feed_31 : decode cX1_feed 31 = .ok (.iload 4, 2) := dk_21 4 (dk_at dksX1_feed_1 9 rfl rfl)
theorem dX1_feed_33 : decode cX1_feed 33 = .ok (.invokevirtual 163, 3) := dk_182 0 163 (dk_at dksX1_feed_1 11 rfl rfl)
theorem dX1_feed_36 : decode cX1_feed 36 = .ok (.aload_n 0, 1) := dk_42 (dk_at dksX1_feed_1 14 rfl rfl)
theorem dX1_feed_37 : decode cX1_feed 37 = .ok (.iload 5, 2) := dk_21 5 (dk_at dksX1_feed_1 15 rfl rfl)
theorem dX1_feed_39 : decode cX1_feed 39 = .ok (.invokevirtual 163, 3) := dk_182 0 163 (dk_at dksX1_feed_1 17 rfl rfl)
theorem dX1_feed_42 : decode cX1_feed 42 = .ok (.aload_n 0, 1) := dk_42 (dk_at dksX1_feed_1 20 rfl rfl)
theorem dX1_feed_43 : decode cX1_feed 43 = .ok (.getfield 160, 3) := dk_180 0 160 (dk_at dksX1_feed_1 21 rfl rfl)
theorem dX1_feed_46 : decode cX1_feed 46 = .ok (.ireturn, 1) := dk_172 (dk_at dksX1_feed_2 0 rfl rfl)
abbrev cX1_put : ByteArray := prog_1_method_17_code
def yX1_put : MethodName := ⟨RX1, "put", "(I)V"⟩
def dkwX1_put_1 : List UInt8 := [180, 0, 160, 4, 96, 181, 0, 160, 132, 2, 248, 167, 255, 226, 177]
abbrev dktX1_put_1 : List UInt8 := dkwX1_put_1 ++ []
def dkwX1_put_0 : List UInt8 := [16, 24, 61, 28, 155, 0, 32, 42, 180, 0, 79, 42, 180, 0, 160, 27, 28, 122, 145, 84, 42, 89]
abbrev dktX1_put_0 : List UInt8 := dkwX1_put_0 ++ dktX1_put_1
theorem dksX1_put_0 : cX1_put.data.toList.drop 0 = dktX1_put_0 := by decide +kernel
theorem dksX1_put_1 : cX1_put.data.toList.drop 22 = dktX1_put_1 := dk_seg dksX1_put_0 22 rfl rfl
theorem dX1_put_0 : decode cX1_put 0 = .ok (.bipush 24, 2) := dk_16 24 (dk_at dksX1_put_0 0 rfl rfl)
theorem dX1_put_2 : decode cX1_put 2 = .ok (.istore_n 2, 1) := dk_61 (dk_at dksX1_put_0 2 rfl rfl)
theorem dX1_put_3 : decode cX1_put 3 = .ok (.iload_n 2, 1) := dk_28 (dk_at dksX1_put_0 3 rfl rfl)
theorem dX1_put_4 : decode cX1_put 4 = .ok (.ifCond .lt 32, 3) := dk_155 0 32 (dk_at dksX1_put_0 4 rfl rfl)
theorem dX1_put_7 : decode cX1_put 7 = .ok (.aload_n 0, 1) := dk_42 (dk_at dksX1_put_0 7 rfl rfl)
theorem dX1_put_8 : decode cX1_put 8 = .ok (.getfield 79, 3) := dk_180 0 79 (dk_at dksX1_put_0 8 rfl rfl)
theorem dX1_put_11 : decode cX1_put 11 = .ok (.aload_n 0, 1) := dk_42 (dk_at dksX1_put_0 11 rfl rfl)
theorem dX1_put_12 : decode cX1_put 12 = .ok (.getfield 160, 3) := dk_180 0 160 (dk_at dksX1_put_0 12 rfl rfl)
theorem dX1_put_15 : decode cX1_put 15 = .ok (.iload_n 1, 1) := dk_27 (dk_at dksX1_put_0 15 rfl rfl)
theorem dX1_put_16 : decode cX1_put 16 = .ok (.iload_n 2, 1) := dk_28 (dk_at dksX1_put_0 16 rfl rfl)
theorem dX1_put_17 : decode cX1_put 17 = .ok (.ishr, 1) := dk_122 (dk_at dksX1_put_0 17 rfl rfl)
theorem dX1_put_18 : decode cX1_put 18 = .ok (.i2b, 1) := dk_145 (dk_at dksX1_put_0 18 rfl rfl)
theorem dX1_put_19 : decode cX1_put 19 = .ok (.bastore, 1) := dk_84 (dk_at dksX1_put_0 19 rfl rfl)
theorem dX1_put_20 : decode cX1_put 20 = .ok (.aload_n 0, 1) := dk_42 (dk_at dksX1_put_0 20 rfl rfl)
theorem dX1_put_21 : decode cX1_put 21 = .ok (.dup, 1) := dk_89 (dk_at dksX1_put_0 21 rfl rfl)
theorem dX1_put_22 : decode cX1_put 22 = .ok (.getfield 160, 3) := dk_180 0 160 (dk_at dksX1_put_1 0 rfl rfl)
theorem dX1_put_25 : decode cX1_put 25 = .ok (.iconst 1, 1) := dk_4 (dk_at dksX1_put_1 3 rfl rfl)
theorem dX1_put_26 : decode cX1_put 26 = .ok (.iadd, 1) := dk_96 (dk_at dksX1_put_1 4 rfl rfl)
theorem dX1_put_27 : decode cX1_put 27 = .ok (.putfield 160, 3) := dk_181 0 160 (dk_at dksX1_put_1 5 rfl rfl)
theorem dX1_put_30 : decode cX1_put 30 = .ok (.iinc 2 (-8), 3) := dk_132 2 248 (dk_at dksX1_put_1 8 rfl rfl)
theorem dX1_put_33 : decode cX1_put 33 = .ok (.goto (-30), 3) := dk_167 255 226 (dk_at dksX1_put_1 11 rfl rfl)
theorem dX1_put_36 : decode cX1_put 36 = .ok (.return_, 1) := dk_177 (dk_at dksX1_put_1 14 rfl rfl)
abbrev cX1_fault : ByteArray := prog_1_method_23_code
def yX1_fault : MethodName := ⟨RX1, "fault", "()I"⟩
theorem dX1_fault_0 : decode cX1_fault 0 = .ok (.aload_n 0, 1) := by decide +kernel
theorem dX1_fault_1 : decode cX1_fault 1 = .ok (.getfield 75, 3) := by decide +kernel
theorem dX1_fault_4 : decode cX1_fault 4 = .ok (.ireturn, 1) := by decide +kernel
abbrev cX1_undo : ByteArray := prog_1_method_24_code
def yX1_undo : MethodName := ⟨RX1, "undo", "()I"⟩
def dkwX1_undo_1 : List UInt8 := [180, 0, 62, 42, 180, 0, 98, 50, 182, 0, 239, 87, 42, 3, 181, 0, 101, 42, 180, 0, 98, 172]
abbrev dktX1_undo_1 : List UInt8 := dkwX1_undo_1 ++ []
def dkwX1_undo_0 : List UInt8 := [42, 180, 0, 98, 154, 0, 5, 2, 172, 42, 89, 180, 0, 98, 4, 100, 181, 0, 98, 42, 180, 0, 55, 42]
abbrev dktX1_undo_0 : List UInt8 := dkwX1_undo_0 ++ dktX1_undo_1
theorem dksX1_undo_0 : cX1_undo.data.toList.drop 0 = dktX1_undo_0 := by decide +kernel
theorem dksX1_undo_1 : cX1_undo.data.toList.drop 24 = dktX1_undo_1 := dk_seg dksX1_undo_0 24 rfl rfl
theorem dX1_undo_0 : decode cX1_undo 0 = .ok (.aload_n 0, 1) := dk_42 (dk_at dksX1_undo_0 0 rfl rfl)
theorem dX1_undo_1 : decode cX1_undo 1 = .ok (.getfield 98, 3) := dk_180 0 98 (dk_at dksX1_undo_0 1 rfl rfl)
theorem dX1_undo_4 : decode cX1_undo 4 = .ok (.ifCond .ne 5, 3) := dk_154 0 5 (dk_at dksX1_undo_0 4 rfl rfl)
theorem dX1_undo_7 : decode cX1_undo 7 = .ok (.iconst (-1), 1) := dk_2 (dk_at dksX1_undo_0 7 rfl rfl)
theorem dX1_undo_8 : decode cX1_undo 8 = .ok (.ireturn, 1) := dk_172 (dk_at dksX1_undo_0 8 rfl rfl)
theorem dX1_undo_9 : decode cX1_undo 9 = .ok (.aload_n 0, 1) := dk_42 (dk_at dksX1_undo_0 9 rfl rfl)
theorem dX1_undo_10 : decode cX1_undo 10 = .ok (.dup, 1) := dk_89 (dk_at dksX1_undo_0 10 rfl rfl)
theorem dX1_undo_11 : decode cX1_undo 11 = .ok (.getfield 98, 3) := dk_180 0 98 (dk_at dksX1_undo_0 11 rfl rfl)
theorem dX1_undo_14 : decode cX1_undo 14 = .ok (.iconst 1, 1) := dk_4 (dk_at dksX1_undo_0 14 rfl rfl)
theorem dX1_undo_15 : decode cX1_undo 15 = .ok (.isub, 1) := dk_100 (dk_at dksX1_undo_0 15 rfl rfl)
theorem dX1_undo_16 : decode cX1_undo 16 = .ok (.putfield 98, 3) := dk_181 0 98 (dk_at dksX1_undo_0 16 rfl rfl)
theorem dX1_undo_19 : decode cX1_undo 19 = .ok (.aload_n 0, 1) := dk_42 (dk_at dksX1_undo_0 19 rfl rfl)
theorem dX1_undo_20 : decode cX1_undo 20 = .ok (.getfield 55, 3) := dk_180 0 55 (dk_at dksX1_undo_0 20 rfl rfl)
theorem dX1_undo_23 : decode cX1_undo 23 = .ok (.aload_n 0, 1) := dk_42 (dk_at dksX1_undo_0 23 rfl rfl)
theorem dX1_undo_24 : decode cX1_undo 24 = .ok (.getfield 62, 3) := dk_180 0 62 (dk_at dksX1_undo_1 0 rfl rfl)
theorem dX1_undo_27 : decode cX1_undo 27 = .ok (.aload_n 0, 1) := dk_42 (dk_at dksX1_undo_1 3 rfl rfl)
theorem dX1_undo_28 : decode cX1_undo 28 = .ok (.getfield 98, 3) := dk_180 0 98 (dk_at dksX1_undo_1 4 rfl rfl)
theorem dX1_undo_31 : decode cX1_undo 31 = .ok (.aaload, 1) := dk_50 (dk_at dksX1_undo_1 7 rfl rfl)
theorem dX1_undo_32 : decode cX1_undo 32 = .ok (.invokevirtual 239, 3) := dk_182 0 239 (dk_at dksX1_undo_1 8 rfl rfl)
theorem dX1_undo_35 : decode cX1_undo 35 = .ok (.pop, 1) := dk_87 (dk_at dksX1_undo_1 11 rfl rfl)
theorem dX1_undo_36 : decode cX1_undo 36 = .ok (.aload_n 0, 1) := dk_42 (dk_at dksX1_undo_1 12 rfl rfl)
theorem dX1_undo_37 : decode cX1_undo 37 = .ok (.iconst 0, 1) := dk_3 (dk_at dksX1_undo_1 13 rfl rfl)
theorem dX1_undo_38 : decode cX1_undo 38 = .ok (.putfield 101, 3) := dk_181 0 101 (dk_at dksX1_undo_1 14 rfl rfl)
theorem dX1_undo_41 : decode cX1_undo 41 = .ok (.aload_n 0, 1) := dk_42 (dk_at dksX1_undo_1 17 rfl rfl)
theorem dX1_undo_42 : decode cX1_undo 42 = .ok (.getfield 98, 3) := dk_180 0 98 (dk_at dksX1_undo_1 18 rfl rfl)
theorem dX1_undo_45 : decode cX1_undo 45 = .ok (.ireturn, 1) := dk_172 (dk_at dksX1_undo_1 21 rfl rfl)
abbrev cX1_dry : ByteArray := prog_1_method_39_code
def yX1_dry : MethodName := ⟨RX1, "dry", "()I"⟩
def dkwX1_dry_1 : List UInt8 := [180, 1, 9, 182, 1, 15, 158, 0, 5, 28, 172, 43, 182, 1, 81, 132, 2, 1, 167, 255, 230, 2, 172]
abbrev dktX1_dry_1 : List UInt8 := dkwX1_dry_1 ++ []
def dkwX1_dry_0 : List UInt8 := [42, 180, 0, 59, 42, 180, 0, 55, 182, 0, 239, 76, 3, 61, 28, 16, 99, 163, 0, 26, 43, 43]
abbrev dktX1_dry_0 : List UInt8 := dkwX1_dry_0 ++ dktX1_dry_1
theorem dksX1_dry_0 : cX1_dry.data.toList.drop 0 = dktX1_dry_0 := by decide +kernel
theorem dksX1_dry_1 : cX1_dry.data.toList.drop 22 = dktX1_dry_1 := dk_seg dksX1_dry_0 22 rfl rfl
theorem dX1_dry_0 : decode cX1_dry 0 = .ok (.aload_n 0, 1) := dk_42 (dk_at dksX1_dry_0 0 rfl rfl)
theorem dX1_dry_1 : decode cX1_dry 1 = .ok (.getfield 59, 3) := dk_180 0 59 (dk_at dksX1_dry_0 1 rfl rfl)
theorem dX1_dry_4 : decode cX1_dry 4 = .ok (.aload_n 0, 1) := dk_42 (dk_at dksX1_dry_0 4 rfl rfl)
theorem dX1_dry_5 : decode cX1_dry 5 = .ok (.getfield 55, 3) := dk_180 0 55 (dk_at dksX1_dry_0 5 rfl rfl)
theorem dX1_dry_8 : decode cX1_dry 8 = .ok (.invokevirtual 239, 3) := dk_182 0 239 (dk_at dksX1_dry_0 8 rfl rfl)
theorem dX1_dry_11 : decode cX1_dry 11 = .ok (.astore_n 1, 1) := dk_76 (dk_at dksX1_dry_0 11 rfl rfl)
theorem dX1_dry_12 : decode cX1_dry 12 = .ok (.iconst 0, 1) := dk_3 (dk_at dksX1_dry_0 12 rfl rfl)
theorem dX1_dry_13 : decode cX1_dry 13 = .ok (.istore_n 2, 1) := dk_61 (dk_at dksX1_dry_0 13 rfl rfl)
theorem dX1_dry_14 : decode cX1_dry 14 = .ok (.iload_n 2, 1) := dk_28 (dk_at dksX1_dry_0 14 rfl rfl)
theorem dX1_dry_15 : decode cX1_dry 15 = .ok (.bipush 99, 2) := dk_16 99 (dk_at dksX1_dry_0 15 rfl rfl)
theorem dX1_dry_17 : decode cX1_dry 17 = .ok (.if_icmp .gt 26, 3) := dk_163 0 26 (dk_at dksX1_dry_0 17 rfl rfl)
theorem dX1_dry_20 : decode cX1_dry 20 = .ok (.aload_n 1, 1) := dk_43 (dk_at dksX1_dry_0 20 rfl rfl)
theorem dX1_dry_21 : decode cX1_dry 21 = .ok (.aload_n 1, 1) := dk_43 (dk_at dksX1_dry_0 21 rfl rfl)
theorem dX1_dry_22 : decode cX1_dry 22 = .ok (.getfield 265, 3) := dk_180 1 9 (dk_at dksX1_dry_1 0 rfl rfl)
theorem dX1_dry_25 : decode cX1_dry 25 = .ok (.invokevirtual 271, 3) := dk_182 1 15 (dk_at dksX1_dry_1 3 rfl rfl)
theorem dX1_dry_28 : decode cX1_dry 28 = .ok (.ifCond .le 5, 3) := dk_158 0 5 (dk_at dksX1_dry_1 6 rfl rfl)
theorem dX1_dry_31 : decode cX1_dry 31 = .ok (.iload_n 2, 1) := dk_28 (dk_at dksX1_dry_1 9 rfl rfl)
theorem dX1_dry_32 : decode cX1_dry 32 = .ok (.ireturn, 1) := dk_172 (dk_at dksX1_dry_1 10 rfl rfl)
theorem dX1_dry_33 : decode cX1_dry 33 = .ok (.aload_n 1, 1) := dk_43 (dk_at dksX1_dry_1 11 rfl rfl)
theorem dX1_dry_34 : decode cX1_dry 34 = .ok (.invokevirtual 337, 3) := dk_182 1 81 (dk_at dksX1_dry_1 12 rfl rfl)
theorem dX1_dry_37 : decode cX1_dry 37 = .ok (.iinc 2 1, 3) := dk_132 2 1 (dk_at dksX1_dry_1 15 rfl rfl)
theorem dX1_dry_40 : decode cX1_dry 40 = .ok (.goto (-26), 3) := dk_167 255 230 (dk_at dksX1_dry_1 18 rfl rfl)
theorem dX1_dry_43 : decode cX1_dry 43 = .ok (.iconst (-1), 1) := dk_2 (dk_at dksX1_dry_1 21 rfl rfl)
theorem dX1_dry_44 : decode cX1_dry 44 = .ok (.ireturn, 1) := dk_172 (dk_at dksX1_dry_1 22 rfl rfl)
abbrev cX1_persons : ByteArray := prog_1_method_4_code
def yX1_persons : MethodName := ⟨RX1, "persons", "()I"⟩
def dkwX1_persons_0 : List UInt8 := [42, 180, 0, 28, 180, 0, 110, 182, 0, 114, 172]
abbrev dktX1_persons_0 : List UInt8 := dkwX1_persons_0 ++ []
theorem dksX1_persons_0 : cX1_persons.data.toList.drop 0 = dktX1_persons_0 := by decide +kernel
theorem dX1_persons_0 : decode cX1_persons 0 = .ok (.aload_n 0, 1) := dk_42 (dk_at dksX1_persons_0 0 rfl rfl)
theorem dX1_persons_1 : decode cX1_persons 1 = .ok (.getfield 28, 3) := dk_180 0 28 (dk_at dksX1_persons_0 1 rfl rfl)
theorem dX1_persons_4 : decode cX1_persons 4 = .ok (.getfield 110, 3) := dk_180 0 110 (dk_at dksX1_persons_0 4 rfl rfl)
theorem dX1_persons_7 : decode cX1_persons 7 = .ok (.invokevirtual 114, 3) := dk_182 0 114 (dk_at dksX1_persons_0 7 rfl rfl)
theorem dX1_persons_10 : decode cX1_persons 10 = .ok (.ireturn, 1) := dk_172 (dk_at dksX1_persons_0 10 rfl rfl)
abbrev cX1_best : ByteArray := prog_1_method_43_code
def yX1_best : MethodName := ⟨RX1, "best", "()I"⟩
def dkwX1_best_0 : List UInt8 := [42, 182, 1, 98, 42, 180, 1, 84, 172]
abbrev dktX1_best_0 : List UInt8 := dkwX1_best_0 ++ []
theorem dksX1_best_0 : cX1_best.data.toList.drop 0 = dktX1_best_0 := by decide +kernel
theorem dX1_best_0 : decode cX1_best 0 = .ok (.aload_n 0, 1) := dk_42 (dk_at dksX1_best_0 0 rfl rfl)
theorem dX1_best_1 : decode cX1_best 1 = .ok (.invokevirtual 354, 3) := dk_182 1 98 (dk_at dksX1_best_0 1 rfl rfl)
theorem dX1_best_4 : decode cX1_best 4 = .ok (.aload_n 0, 1) := dk_42 (dk_at dksX1_best_0 4 rfl rfl)
theorem dX1_best_5 : decode cX1_best 5 = .ok (.getfield 340, 3) := dk_180 1 84 (dk_at dksX1_best_0 5 rfl rfl)
theorem dX1_best_8 : decode cX1_best 8 = .ok (.ireturn, 1) := dk_172 (dk_at dksX1_best_0 8 rfl rfl)
abbrev cX1_findBest : ByteArray := prog_1_method_42_code
def yX1_findBest : MethodName := ⟨RX1, "findBest", "()V"⟩
def dkwX1_findBest_1 : List UInt8 := [182, 1, 91, 177]
abbrev dktX1_findBest_1 : List UInt8 := dkwX1_findBest_1 ++ []
def dkwX1_findBest_0 : List UInt8 := [42, 2, 181, 1, 84, 42, 3, 42, 182, 1, 95, 42, 180, 0, 55, 180, 1, 12, 2, 130, 126, 3]
abbrev dktX1_findBest_0 : List UInt8 := dkwX1_findBest_0 ++ dktX1_findBest_1
theorem dksX1_findBest_0 : cX1_findBest.data.toList.drop 0 = dktX1_findBest_0 := by decide +kernel
theorem dksX1_findBest_1 : cX1_findBest.data.toList.drop 22 = dktX1_findBest_1 := dk_seg dksX1_findBest_0 22 rfl rfl
theorem dX1_findBest_0 : decode cX1_findBest 0 = .ok (.aload_n 0, 1) := dk_42 (dk_at dksX1_findBest_0 0 rfl rfl)
theorem dX1_findBest_1 : decode cX1_findBest 1 = .ok (.iconst (-1), 1) := dk_2 (dk_at dksX1_findBest_0 1 rfl rfl)
theorem dX1_findBest_2 : decode cX1_findBest 2 = .ok (.putfield 340, 3) := dk_181 1 84 (dk_at dksX1_findBest_0 2 rfl rfl)
theorem dX1_findBest_5 : decode cX1_findBest 5 = .ok (.aload_n 0, 1) := dk_42 (dk_at dksX1_findBest_0 5 rfl rfl)
theorem dX1_findBest_6 : decode cX1_findBest 6 = .ok (.iconst 0, 1) := dk_3 (dk_at dksX1_findBest_0 6 rfl rfl)
theorem dX1_findBest_7 : decode cX1_findBest 7 = .ok (.aload_n 0, 1) := dk_42 (dk_at dksX1_findBest_0 7 rfl rfl)
theorem dX1_findBest_8 : decode cX1_findBest 8 = .ok (.invokevirtual 351, 3) := dk_182 1 95 (dk_at dksX1_findBest_0 8 rfl rfl)
theorem dX1_findBest_11 : decode cX1_findBest 11 = .ok (.aload_n 0, 1) := dk_42 (dk_at dksX1_findBest_0 11 rfl rfl)
theorem dX1_findBest_12 : decode cX1_findBest 12 = .ok (.getfield 55, 3) := dk_180 0 55 (dk_at dksX1_findBest_0 12 rfl rfl)
theorem dX1_findBest_15 : decode cX1_findBest 15 = .ok (.getfield 268, 3) := dk_180 1 12 (dk_at dksX1_findBest_0 15 rfl rfl)
theorem dX1_findBest_18 : decode cX1_findBest 18 = .ok (.iconst (-1), 1) := dk_2 (dk_at dksX1_findBest_0 18 rfl rfl)
theorem dX1_findBest_19 : decode cX1_findBest 19 = .ok (.ixor, 1) := dk_130 (dk_at dksX1_findBest_0 19 rfl rfl)
theorem dX1_findBest_20 : decode cX1_findBest 20 = .ok (.iand, 1) := dk_126 (dk_at dksX1_findBest_0 20 rfl rfl)
theorem dX1_findBest_21 : decode cX1_findBest 21 = .ok (.iconst 0, 1) := dk_3 (dk_at dksX1_findBest_0 21 rfl rfl)
theorem dX1_findBest_22 : decode cX1_findBest 22 = .ok (.invokevirtual 347, 3) := dk_182 1 91 (dk_at dksX1_findBest_1 0 rfl rfl)
theorem dX1_findBest_25 : decode cX1_findBest 25 = .ok (.return_, 1) := dk_177 (dk_at dksX1_findBest_1 3 rfl rfl)
abbrev cX1_all : ByteArray := prog_1_method_41_code
def yX1_all : MethodName := ⟨RX1, "all", "()I"⟩
def dkwX1_all_0 : List UInt8 := [4, 42, 182, 0, 152, 120, 4, 100, 172]
abbrev dktX1_all_0 : List UInt8 := dkwX1_all_0 ++ []
theorem dksX1_all_0 : cX1_all.data.toList.drop 0 = dktX1_all_0 := by decide +kernel
theorem dX1_all_0 : decode cX1_all 0 = .ok (.iconst 1, 1) := dk_4 (dk_at dksX1_all_0 0 rfl rfl)
theorem dX1_all_1 : decode cX1_all 1 = .ok (.aload_n 0, 1) := dk_42 (dk_at dksX1_all_0 1 rfl rfl)
theorem dX1_all_2 : decode cX1_all 2 = .ok (.invokevirtual 152, 3) := dk_182 0 152 (dk_at dksX1_all_0 2 rfl rfl)
theorem dX1_all_5 : decode cX1_all 5 = .ok (.ishl, 1) := dk_120 (dk_at dksX1_all_0 5 rfl rfl)
theorem dX1_all_6 : decode cX1_all 6 = .ok (.iconst 1, 1) := dk_4 (dk_at dksX1_all_0 6 rfl rfl)
theorem dX1_all_7 : decode cX1_all 7 = .ok (.isub, 1) := dk_100 (dk_at dksX1_all_0 7 rfl rfl)
theorem dX1_all_8 : decode cX1_all 8 = .ok (.ireturn, 1) := dk_172 (dk_at dksX1_all_0 8 rfl rfl)
abbrev cX1_givesOn : ByteArray := prog_1_method_40_code
def yX1_givesOn : MethodName := ⟨RX1, "givesOn", "(III)V"⟩
def dkwX1_givesOn_5 : List UInt8 := [182, 1, 91, 177]
abbrev dktX1_givesOn_5 : List UInt8 := dkwX1_givesOn_5 ++ []
def dkwX1_givesOn_4 : List UInt8 := [182, 1, 91, 132, 4, 1, 167, 255, 197, 42, 180, 0, 83, 27, 2, 79, 42, 27, 4, 96, 28, 29]
abbrev dktX1_givesOn_4 : List UInt8 := dkwX1_givesOn_4 ++ dktX1_givesOn_5
def dkwX1_givesOn_3 : List UInt8 := [27, 4, 96, 28, 4, 21, 4, 120, 2, 130, 126, 29, 42, 180, 0, 55, 27, 21, 4, 182, 1, 74, 96]
abbrev dktX1_givesOn_3 : List UInt8 := dkwX1_givesOn_3 ++ dktX1_givesOn_4
def dkwX1_givesOn_2 : List UInt8 := [162, 0, 56, 28, 21, 4, 184, 1, 87, 154, 0, 6, 167, 0, 38, 42, 180, 0, 83, 27, 21, 4, 79, 42]
abbrev dktX1_givesOn_2 : List UInt8 := dkwX1_givesOn_2 ++ dktX1_givesOn_3
def dkwX1_givesOn_1 : List UInt8 := [180, 0, 83, 3, 42, 180, 0, 86, 3, 16, 6, 184, 0, 230, 177, 3, 54, 4, 21, 4, 42, 182, 0, 152]
abbrev dktX1_givesOn_1 : List UInt8 := dkwX1_givesOn_1 ++ dktX1_givesOn_2
def dkwX1_givesOn_0 : List UInt8 := [27, 42, 182, 0, 158, 160, 0, 33, 29, 42, 180, 1, 84, 163, 0, 4, 177, 42, 29, 181, 1, 84, 42]
abbrev dktX1_givesOn_0 : List UInt8 := dkwX1_givesOn_0 ++ dktX1_givesOn_1
theorem dksX1_givesOn_0 : cX1_givesOn.data.toList.drop 0 = dktX1_givesOn_0 := by decide +kernel
theorem dksX1_givesOn_1 : cX1_givesOn.data.toList.drop 23 = dktX1_givesOn_1 := dk_seg dksX1_givesOn_0 23 rfl rfl
theorem dksX1_givesOn_2 : cX1_givesOn.data.toList.drop 47 = dktX1_givesOn_2 := dk_seg dksX1_givesOn_1 24 rfl rfl
theorem dksX1_givesOn_3 : cX1_givesOn.data.toList.drop 71 = dktX1_givesOn_3 := dk_seg dksX1_givesOn_2 24 rfl rfl
theorem dksX1_givesOn_4 : cX1_givesOn.data.toList.drop 94 = dktX1_givesOn_4 := dk_seg dksX1_givesOn_3 23 rfl rfl
theorem dksX1_givesOn_5 : cX1_givesOn.data.toList.drop 116 = dktX1_givesOn_5 := dk_seg dksX1_givesOn_4 22 rfl rfl
theorem dX1_givesOn_0 : decode cX1_givesOn 0 = .ok (.iload_n 1, 1) := dk_27 (dk_at dksX1_givesOn_0 0 rfl rfl)
theorem dX1_givesOn_1 : decode cX1_givesOn 1 = .ok (.aload_n 0, 1) := dk_42 (dk_at dksX1_givesOn_0 1 rfl rfl)
theorem dX1_givesOn_2 : decode cX1_givesOn 2 = .ok (.invokevirtual 158, 3) := dk_182 0 158 (dk_at dksX1_givesOn_0 2 rfl rfl)
theorem dX1_givesOn_5 : decode cX1_givesOn 5 = .ok (.if_icmp .ne 33, 3) := dk_160 0 33 (dk_at dksX1_givesOn_0 5 rfl rfl)
theorem dX1_givesOn_8 : decode cX1_givesOn 8 = .ok (.iload_n 3, 1) := dk_29 (dk_at dksX1_givesOn_0 8 rfl rfl)
theorem dX1_givesOn_9 : decode cX1_givesOn 9 = .ok (.aload_n 0, 1) := dk_42 (dk_at dksX1_givesOn_0 9 rfl rfl)
theorem dX1_givesOn_10 : decode cX1_givesOn 10 = .ok (.getfield 340, 3) := dk_180 1 84 (dk_at dksX1_givesOn_0 10 rfl rfl)
theorem dX1_givesOn_13 : decode cX1_givesOn 13 = .ok (.if_icmp .gt 4, 3) := dk_163 0 4 (dk_at dksX1_givesOn_0 13 rfl rfl)
theorem dX1_givesOn_16 : decode cX1_givesOn 16 = .ok (.return_, 1) := dk_177 (dk_at dksX1_givesOn_0 16 rfl rfl)
theorem dX1_givesOn_17 : decode cX1_givesOn 17 = .ok (.aload_n 0, 1) := dk_42 (dk_at dksX1_givesOn_0 17 rfl rfl)
theorem dX1_givesOn_18 : decode cX1_givesOn 18 = .ok (.iload_n 3, 1) := dk_29 (dk_at dksX1_givesOn_0 18 rfl rfl)
theorem dX1_givesOn_19 : decode cX1_givesOn 19 = .ok (.putfield 340, 3) := dk_181 1 84 (dk_at dksX1_givesOn_0 19 rfl rfl)
theorem dX1_givesOn_22 : decode cX1_givesOn 22 = .ok (.aload_n 0, 1) := dk_42 (dk_at dksX1_givesOn_0 22 rfl rfl)
theorem dX1_givesOn_23 : decode cX1_givesOn 23 = .ok (.getfield 83, 3) := dk_180 0 83 (dk_at dksX1_givesOn_1 0 rfl rfl)
theorem dX1_givesOn_26 : decode cX1_givesOn 26 = .ok (.iconst 0, 1) := dk_3 (dk_at dksX1_givesOn_1 3 rfl rfl)
theorem dX1_givesOn_27 : decode cX1_givesOn 27 = .ok (.aload_n 0, 1) := dk_42 (dk_at dksX1_givesOn_1 4 rfl rfl)
theorem dX1_givesOn_28 : decode cX1_givesOn 28 = .ok (.getfield 86, 3) := dk_180 0 86 (dk_at dksX1_givesOn_1 5 rfl rfl)
theorem dX1_givesOn_31 : decode cX1_givesOn 31 = .ok (.iconst 0, 1) := dk_3 (dk_at dksX1_givesOn_1 8 rfl rfl)
theorem dX1_givesOn_32 : decode cX1_givesOn 32 = .ok (.bipush 6, 2) := dk_16 6 (dk_at dksX1_givesOn_1 9 rfl rfl)
theorem dX1_givesOn_34 : decode cX1_givesOn 34 = .ok (.invokestatic 230, 3) := dk_184 0 230 (dk_at dksX1_givesOn_1 11 rfl rfl)
theorem dX1_givesOn_37 : decode cX1_givesOn 37 = .ok (.return_, 1) := dk_177 (dk_at dksX1_givesOn_1 14 rfl rfl)
theorem dX1_givesOn_38 : decode cX1_givesOn 38 = .ok (.iconst 0, 1) := dk_3 (dk_at dksX1_givesOn_1 15 rfl rfl)
theorem dX1_givesOn_39 : decode cX1_givesOn 39 = .ok (.istore 4, 2) := dk_54 4 (dk_at dksX1_givesOn_1 16 rfl rfl)
theorem dX1_givesOn_41 : decode cX1_givesOn 41 = .ok (.iload 4, 2) := dk_21 4 (dk_at dksX1_givesOn_1 18 rfl rfl)
theorem dX1_givesOn_43 : decode cX1_givesOn 43 = .ok (.aload_n 0, 1) := dk_42 (dk_at dksX1_givesOn_1 20 rfl rfl)
theorem dX1_givesOn_44 : decode cX1_givesOn 44 = .ok (.invokevirtual 152, 3) := dk_182 0 152 (dk_at dksX1_givesOn_1 21 rfl rfl)
theorem dX1_givesOn_47 : decode cX1_givesOn 47 = .ok (.if_icmp .ge 56, 3) := dk_162 0 56 (dk_at dksX1_givesOn_2 0 rfl rfl)
theorem dX1_givesOn_50 : decode cX1_givesOn 50 = .ok (.iload_n 2, 1) := dk_28 (dk_at dksX1_givesOn_2 3 rfl rfl)
theorem dX1_givesOn_51 : decode cX1_givesOn 51 = .ok (.iload 4, 2) := dk_21 4 (dk_at dksX1_givesOn_2 4 rfl rfl)
theorem dX1_givesOn_53 : decode cX1_givesOn 53 = .ok (.invokestatic 343, 3) := dk_184 1 87 (dk_at dksX1_givesOn_2 6 rfl rfl)
theorem dX1_givesOn_56 : decode cX1_givesOn 56 = .ok (.ifCond .ne 6, 3) := dk_154 0 6 (dk_at dksX1_givesOn_2 9 rfl rfl)
theorem dX1_givesOn_59 : decode cX1_givesOn 59 = .ok (.goto 38, 3) := dk_167 0 38 (dk_at dksX1_givesOn_2 12 rfl rfl)
theorem dX1_givesOn_62 : decode cX1_givesOn 62 = .ok (.aload_n 0, 1) := dk_42 (dk_at dksX1_givesOn_2 15 rfl rfl)
theorem dX1_givesOn_63 : decode cX1_givesOn 63 = .ok (.getfield 83, 3) := dk_180 0 83 (dk_at dksX1_givesOn_2 16 rfl rfl)
theorem dX1_givesOn_66 : decode cX1_givesOn 66 = .ok (.iload_n 1, 1) := dk_27 (dk_at dksX1_givesOn_2 19 rfl rfl)
theorem dX1_givesOn_67 : decode cX1_givesOn 67 = .ok (.iload 4, 2) := dk_21 4 (dk_at dksX1_givesOn_2 20 rfl rfl)
theorem dX1_givesOn_69 : decode cX1_givesOn 69 = .ok (.iastore, 1) := dk_79 (dk_at dksX1_givesOn_2 22 rfl rfl)
theorem dX1_givesOn_70 : decode cX1_givesOn 70 = .ok (.aload_n 0, 1) := dk_42 (dk_at dksX1_givesOn_2 23 rfl rfl)
theorem dX1_givesOn_71 : decode cX1_givesOn 71 = .ok (.iload_n 1, 1) := dk_27 (dk_at dksX1_givesOn_3 0 rfl rfl)
theorem dX1_givesOn_72 : decode cX1_givesOn 72 = .ok (.iconst 1, 1) := dk_4 (dk_at dksX1_givesOn_3 1 rfl rfl)
theorem dX1_givesOn_73 : decode cX1_givesOn 73 = .ok (.iadd, 1) := dk_96 (dk_at dksX1_givesOn_3 2 rfl rfl)
theorem dX1_givesOn_74 : decode cX1_givesOn 74 = .ok (.iload_n 2, 1) := dk_28 (dk_at dksX1_givesOn_3 3 rfl rfl)
theorem dX1_givesOn_75 : decode cX1_givesOn 75 = .ok (.iconst 1, 1) := dk_4 (dk_at dksX1_givesOn_3 4 rfl rfl)
theorem dX1_givesOn_76 : decode cX1_givesOn 76 = .ok (.iload 4, 2) := dk_21 4 (dk_at dksX1_givesOn_3 5 rfl rfl)
theorem dX1_givesOn_78 : decode cX1_givesOn 78 = .ok (.ishl, 1) := dk_120 (dk_at dksX1_givesOn_3 7 rfl rfl)
theorem dX1_givesOn_79 : decode cX1_givesOn 79 = .ok (.iconst (-1), 1) := dk_2 (dk_at dksX1_givesOn_3 8 rfl rfl)
theorem dX1_givesOn_80 : decode cX1_givesOn 80 = .ok (.ixor, 1) := dk_130 (dk_at dksX1_givesOn_3 9 rfl rfl)
theorem dX1_givesOn_81 : decode cX1_givesOn 81 = .ok (.iand, 1) := dk_126 (dk_at dksX1_givesOn_3 10 rfl rfl)
theorem dX1_givesOn_82 : decode cX1_givesOn 82 = .ok (.iload_n 3, 1) := dk_29 (dk_at dksX1_givesOn_3 11 rfl rfl)
theorem dX1_givesOn_83 : decode cX1_givesOn 83 = .ok (.aload_n 0, 1) := dk_42 (dk_at dksX1_givesOn_3 12 rfl rfl)
theorem dX1_givesOn_84 : decode cX1_givesOn 84 = .ok (.getfield 55, 3) := dk_180 0 55 (dk_at dksX1_givesOn_3 13 rfl rfl)
theorem dX1_givesOn_87 : decode cX1_givesOn 87 = .ok (.iload_n 1, 1) := dk_27 (dk_at dksX1_givesOn_3 16 rfl rfl)
theorem dX1_givesOn_88 : decode cX1_givesOn 88 = .ok (.iload 4, 2) := dk_21 4 (dk_at dksX1_givesOn_3 17 rfl rfl)
theorem dX1_givesOn_90 : decode cX1_givesOn 90 = .ok (.invokevirtual 330, 3) := dk_182 1 74 (dk_at dksX1_givesOn_3 19 rfl rfl)
theorem dX1_givesOn_93 : decode cX1_givesOn 93 = .ok (.iadd, 1) := dk_96 (dk_at dksX1_givesOn_3 22 rfl rfl)
theorem dX1_givesOn_94 : decode cX1_givesOn 94 = .ok (.invokevirtual 347, 3) := dk_182 1 91 (dk_at dksX1_givesOn_4 0 rfl rfl)
theorem dX1_givesOn_97 : decode cX1_givesOn 97 = .ok (.iinc 4 1, 3) := dk_132 4 1 (dk_at dksX1_givesOn_4 3 rfl rfl)
theorem dX1_givesOn_100 : decode cX1_givesOn 100 = .ok (.goto (-59), 3) := dk_167 255 197 (dk_at dksX1_givesOn_4 6 rfl rfl)
theorem dX1_givesOn_103 : decode cX1_givesOn 103 = .ok (.aload_n 0, 1) := dk_42 (dk_at dksX1_givesOn_4 9 rfl rfl)
theorem dX1_givesOn_104 : decode cX1_givesOn 104 = .ok (.getfield 83, 3) := dk_180 0 83 (dk_at dksX1_givesOn_4 10 rfl rfl)
theorem dX1_givesOn_107 : decode cX1_givesOn 107 = .ok (.iload_n 1, 1) := dk_27 (dk_at dksX1_givesOn_4 13 rfl rfl)
theorem dX1_givesOn_108 : decode cX1_givesOn 108 = .ok (.iconst (-1), 1) := dk_2 (dk_at dksX1_givesOn_4 14 rfl rfl)
theorem dX1_givesOn_109 : decode cX1_givesOn 109 = .ok (.iastore, 1) := dk_79 (dk_at dksX1_givesOn_4 15 rfl rfl)
theorem dX1_givesOn_110 : decode cX1_givesOn 110 = .ok (.aload_n 0, 1) := dk_42 (dk_at dksX1_givesOn_4 16 rfl rfl)
theorem dX1_givesOn_111 : decode cX1_givesOn 111 = .ok (.iload_n 1, 1) := dk_27 (dk_at dksX1_givesOn_4 17 rfl rfl)
theorem dX1_givesOn_112 : decode cX1_givesOn 112 = .ok (.iconst 1, 1) := dk_4 (dk_at dksX1_givesOn_4 18 rfl rfl)
theorem dX1_givesOn_113 : decode cX1_givesOn 113 = .ok (.iadd, 1) := dk_96 (dk_at dksX1_givesOn_4 19 rfl rfl)
theorem dX1_givesOn_114 : decode cX1_givesOn 114 = .ok (.iload_n 2, 1) := dk_28 (dk_at dksX1_givesOn_4 20 rfl rfl)
theorem dX1_givesOn_115 : decode cX1_givesOn 115 = .ok (.iload_n 3, 1) := dk_29 (dk_at dksX1_givesOn_4 21 rfl rfl)
theorem dX1_givesOn_116 : decode cX1_givesOn 116 = .ok (.invokevirtual 347, 3) := dk_182 1 91 (dk_at dksX1_givesOn_5 0 rfl rfl)
theorem dX1_givesOn_119 : decode cX1_givesOn 119 = .ok (.return_, 1) := dk_177 (dk_at dksX1_givesOn_5 3 rfl rfl)
abbrev cX1_jokes : ByteArray := prog_1_method_5_code
def yX1_jokes : MethodName := ⟨RX1, "jokes", "()I"⟩
def dkwX1_jokes_0 : List UInt8 := [42, 180, 0, 28, 180, 0, 120, 182, 0, 114, 172]
abbrev dktX1_jokes_0 : List UInt8 := dkwX1_jokes_0 ++ []
theorem dksX1_jokes_0 : cX1_jokes.data.toList.drop 0 = dktX1_jokes_0 := by decide +kernel
theorem dX1_jokes_0 : decode cX1_jokes 0 = .ok (.aload_n 0, 1) := dk_42 (dk_at dksX1_jokes_0 0 rfl rfl)
theorem dX1_jokes_1 : decode cX1_jokes 1 = .ok (.getfield 28, 3) := dk_180 0 28 (dk_at dksX1_jokes_0 1 rfl rfl)
theorem dX1_jokes_4 : decode cX1_jokes 4 = .ok (.getfield 120, 3) := dk_180 0 120 (dk_at dksX1_jokes_0 4 rfl rfl)
theorem dX1_jokes_7 : decode cX1_jokes 7 = .ok (.invokevirtual 114, 3) := dk_182 0 114 (dk_at dksX1_jokes_0 7 rfl rfl)
theorem dX1_jokes_10 : decode cX1_jokes 10 = .ok (.ireturn, 1) := dk_172 (dk_at dksX1_jokes_0 10 rfl rfl)
abbrev cX1_has : ByteArray := prog_1_method_15_code
def yX1_has : MethodName := ⟨RX1, "has", "(II)Z"⟩
def dkwX1_has_0 : List UInt8 := [26, 27, 122, 4, 126, 4, 160, 0, 7, 4, 167, 0, 4, 3, 172]
abbrev dktX1_has_0 : List UInt8 := dkwX1_has_0 ++ []
theorem dksX1_has_0 : cX1_has.data.toList.drop 0 = dktX1_has_0 := by decide +kernel
theorem dX1_has_0 : decode cX1_has 0 = .ok (.iload_n 0, 1) := dk_26 (dk_at dksX1_has_0 0 rfl rfl)
theorem dX1_has_1 : decode cX1_has 1 = .ok (.iload_n 1, 1) := dk_27 (dk_at dksX1_has_0 1 rfl rfl)
theorem dX1_has_2 : decode cX1_has 2 = .ok (.ishr, 1) := dk_122 (dk_at dksX1_has_0 2 rfl rfl)
theorem dX1_has_3 : decode cX1_has 3 = .ok (.iconst 1, 1) := dk_4 (dk_at dksX1_has_0 3 rfl rfl)
theorem dX1_has_4 : decode cX1_has 4 = .ok (.iand, 1) := dk_126 (dk_at dksX1_has_0 4 rfl rfl)
theorem dX1_has_5 : decode cX1_has 5 = .ok (.iconst 1, 1) := dk_4 (dk_at dksX1_has_0 5 rfl rfl)
theorem dX1_has_6 : decode cX1_has 6 = .ok (.if_icmp .ne 7, 3) := dk_160 0 7 (dk_at dksX1_has_0 6 rfl rfl)
theorem dX1_has_9 : decode cX1_has 9 = .ok (.iconst 1, 1) := dk_4 (dk_at dksX1_has_0 9 rfl rfl)
theorem dX1_has_10 : decode cX1_has 10 = .ok (.goto 4, 3) := dk_167 0 4 (dk_at dksX1_has_0 10 rfl rfl)
theorem dX1_has_13 : decode cX1_has 13 = .ok (.iconst 0, 1) := dk_3 (dk_at dksX1_has_0 13 rfl rfl)
theorem dX1_has_14 : decode cX1_has 14 = .ok (.ireturn, 1) := dk_172 (dk_at dksX1_has_0 14 rfl rfl)
abbrev cX1_personOf : ByteArray := prog_1_method_6_code
def yX1_personOf : MethodName := ⟨RX1, "personOf", "(I)LDimpleWells$Person;"⟩
def dkwX1_personOf_0 : List UInt8 := [42, 180, 0, 28, 180, 0, 110, 27, 182, 0, 123, 192, 0, 127, 176]
abbrev dktX1_personOf_0 : List UInt8 := dkwX1_personOf_0 ++ []
theorem dksX1_personOf_0 : cX1_personOf.data.toList.drop 0 = dktX1_personOf_0 := by decide +kernel
theorem dX1_personOf_0 : decode cX1_personOf 0 = .ok (.aload_n 0, 1) := dk_42 (dk_at dksX1_personOf_0 0 rfl rfl)
theorem dX1_personOf_1 : decode cX1_personOf 1 = .ok (.getfield 28, 3) := dk_180 0 28 (dk_at dksX1_personOf_0 1 rfl rfl)
theorem dX1_personOf_4 : decode cX1_personOf 4 = .ok (.getfield 110, 3) := dk_180 0 110 (dk_at dksX1_personOf_0 4 rfl rfl)
theorem dX1_personOf_7 : decode cX1_personOf 7 = .ok (.iload_n 1, 1) := dk_27 (dk_at dksX1_personOf_0 7 rfl rfl)
theorem dX1_personOf_8 : decode cX1_personOf 8 = .ok (.invokevirtual 123, 3) := dk_182 0 123 (dk_at dksX1_personOf_0 8 rfl rfl)
theorem dX1_personOf_11 : decode cX1_personOf 11 = .ok (.checkcast 127, 3) := dk_192 0 127 (dk_at dksX1_personOf_0 11 rfl rfl)
theorem dX1_personOf_14 : decode cX1_personOf 14 = .ok (.areturn, 1) := dk_176 (dk_at dksX1_personOf_0 14 rfl rfl)
abbrev cX1_jokeOf : ByteArray := prog_1_method_7_code
def yX1_jokeOf : MethodName := ⟨RX1, "jokeOf", "(I)LDimpleWells$Joke;"⟩
def dkwX1_jokeOf_0 : List UInt8 := [42, 180, 0, 28, 180, 0, 120, 27, 182, 0, 123, 192, 0, 129, 176]
abbrev dktX1_jokeOf_0 : List UInt8 := dkwX1_jokeOf_0 ++ []
theorem dksX1_jokeOf_0 : cX1_jokeOf.data.toList.drop 0 = dktX1_jokeOf_0 := by decide +kernel
theorem dX1_jokeOf_0 : decode cX1_jokeOf 0 = .ok (.aload_n 0, 1) := dk_42 (dk_at dksX1_jokeOf_0 0 rfl rfl)
theorem dX1_jokeOf_1 : decode cX1_jokeOf 1 = .ok (.getfield 28, 3) := dk_180 0 28 (dk_at dksX1_jokeOf_0 1 rfl rfl)
theorem dX1_jokeOf_4 : decode cX1_jokeOf 4 = .ok (.getfield 120, 3) := dk_180 0 120 (dk_at dksX1_jokeOf_0 4 rfl rfl)
theorem dX1_jokeOf_7 : decode cX1_jokeOf 7 = .ok (.iload_n 1, 1) := dk_27 (dk_at dksX1_jokeOf_0 7 rfl rfl)
theorem dX1_jokeOf_8 : decode cX1_jokeOf 8 = .ok (.invokevirtual 123, 3) := dk_182 0 123 (dk_at dksX1_jokeOf_0 8 rfl rfl)
theorem dX1_jokeOf_11 : decode cX1_jokeOf 11 = .ok (.checkcast 129, 3) := dk_192 0 129 (dk_at dksX1_jokeOf_0 11 rfl rfl)
theorem dX1_jokeOf_14 : decode cX1_jokeOf 14 = .ok (.areturn, 1) := dk_176 (dk_at dksX1_jokeOf_0 14 rfl rfl)
abbrev cX1_laughOf : ByteArray := prog_1_method_8_code
def yX1_laughOf : MethodName := ⟨RX1, "laughOf", "(IIIIIIIIII)I"⟩
def dkwX1_laughOf_4 : List UInt8 := [182, 0, 131, 184, 0, 137, 184, 0, 143, 172]
abbrev dktX1_laughOf_4 : List UInt8 := dkwX1_laughOf_4 ++ []
def dkwX1_laughOf_3 : List UInt8 := [21, 9, 79, 42, 180, 0, 40, 16, 9, 21, 10, 79, 3, 16, 40, 42, 180, 0, 36, 42, 180, 0, 40]
abbrev dktX1_laughOf_3 : List UInt8 := dkwX1_laughOf_3 ++ dktX1_laughOf_4
def dkwX1_laughOf_2 : List UInt8 := [180, 0, 40, 16, 6, 21, 7, 79, 42, 180, 0, 40, 16, 7, 21, 8, 79, 42, 180, 0, 40, 16, 8]
abbrev dktX1_laughOf_2 : List UInt8 := dkwX1_laughOf_2 ++ dktX1_laughOf_3
def dkwX1_laughOf_1 : List UInt8 := [180, 0, 40, 6, 21, 4, 79, 42, 180, 0, 40, 7, 21, 5, 79, 42, 180, 0, 40, 8, 21, 6, 79, 42]
abbrev dktX1_laughOf_1 : List UInt8 := dkwX1_laughOf_1 ++ dktX1_laughOf_2
def dkwX1_laughOf_0 : List UInt8 := [42, 180, 0, 40, 3, 27, 79, 42, 180, 0, 40, 4, 28, 79, 42, 180, 0, 40, 5, 29, 79, 42]
abbrev dktX1_laughOf_0 : List UInt8 := dkwX1_laughOf_0 ++ dktX1_laughOf_1
theorem dksX1_laughOf_0 : cX1_laughOf.data.toList.drop 0 = dktX1_laughOf_0 := by decide +kernel
theorem dksX1_laughOf_1 : cX1_laughOf.data.toList.drop 22 = dktX1_laughOf_1 := dk_seg dksX1_laughOf_0 22 rfl rfl
theorem dksX1_laughOf_2 : cX1_laughOf.data.toList.drop 46 = dktX1_laughOf_2 := dk_seg dksX1_laughOf_1 24 rfl rfl
theorem dksX1_laughOf_3 : cX1_laughOf.data.toList.drop 69 = dktX1_laughOf_3 := dk_seg dksX1_laughOf_2 23 rfl rfl
theorem dksX1_laughOf_4 : cX1_laughOf.data.toList.drop 92 = dktX1_laughOf_4 := dk_seg dksX1_laughOf_3 23 rfl rfl
theorem dX1_laughOf_0 : decode cX1_laughOf 0 = .ok (.aload_n 0, 1) := dk_42 (dk_at dksX1_laughOf_0 0 rfl rfl)
theorem dX1_laughOf_1 : decode cX1_laughOf 1 = .ok (.getfield 40, 3) := dk_180 0 40 (dk_at dksX1_laughOf_0 1 rfl rfl)
theorem dX1_laughOf_4 : decode cX1_laughOf 4 = .ok (.iconst 0, 1) := dk_3 (dk_at dksX1_laughOf_0 4 rfl rfl)
theorem dX1_laughOf_5 : decode cX1_laughOf 5 = .ok (.iload_n 1, 1) := dk_27 (dk_at dksX1_laughOf_0 5 rfl rfl)
theorem dX1_laughOf_6 : decode cX1_laughOf 6 = .ok (.iastore, 1) := dk_79 (dk_at dksX1_laughOf_0 6 rfl rfl)
theorem dX1_laughOf_7 : decode cX1_laughOf 7 = .ok (.aload_n 0, 1) := dk_42 (dk_at dksX1_laughOf_0 7 rfl rfl)
theorem dX1_laughOf_8 : decode cX1_laughOf 8 = .ok (.getfield 40, 3) := dk_180 0 40 (dk_at dksX1_laughOf_0 8 rfl rfl)
theorem dX1_laughOf_11 : decode cX1_laughOf 11 = .ok (.iconst 1, 1) := dk_4 (dk_at dksX1_laughOf_0 11 rfl rfl)
theorem dX1_laughOf_12 : decode cX1_laughOf 12 = .ok (.iload_n 2, 1) := dk_28 (dk_at dksX1_laughOf_0 12 rfl rfl)
theorem dX1_laughOf_13 : decode cX1_laughOf 13 = .ok (.iastore, 1) := dk_79 (dk_at dksX1_laughOf_0 13 rfl rfl)
theorem dX1_laughOf_14 : decode cX1_laughOf 14 = .ok (.aload_n 0, 1) := dk_42 (dk_at dksX1_laughOf_0 14 rfl rfl)
theorem dX1_laughOf_15 : decode cX1_laughOf 15 = .ok (.getfield 40, 3) := dk_180 0 40 (dk_at dksX1_laughOf_0 15 rfl rfl)
theorem dX1_laughOf_18 : decode cX1_laughOf 18 = .ok (.iconst 2, 1) := dk_5 (dk_at dksX1_laughOf_0 18 rfl rfl)
theorem dX1_laughOf_19 : decode cX1_laughOf 19 = .ok (.iload_n 3, 1) := dk_29 (dk_at dksX1_laughOf_0 19 rfl rfl)
theorem dX1_laughOf_20 : decode cX1_laughOf 20 = .ok (.iastore, 1) := dk_79 (dk_at dksX1_laughOf_0 20 rfl rfl)
theorem dX1_laughOf_21 : decode cX1_laughOf 21 = .ok (.aload_n 0, 1) := dk_42 (dk_at dksX1_laughOf_0 21 rfl rfl)
theorem dX1_laughOf_22 : decode cX1_laughOf 22 = .ok (.getfield 40, 3) := dk_180 0 40 (dk_at dksX1_laughOf_1 0 rfl rfl)
theorem dX1_laughOf_25 : decode cX1_laughOf 25 = .ok (.iconst 3, 1) := dk_6 (dk_at dksX1_laughOf_1 3 rfl rfl)
theorem dX1_laughOf_26 : decode cX1_laughOf 26 = .ok (.iload 4, 2) := dk_21 4 (dk_at dksX1_laughOf_1 4 rfl rfl)
theorem dX1_laughOf_28 : decode cX1_laughOf 28 = .ok (.iastore, 1) := dk_79 (dk_at dksX1_laughOf_1 6 rfl rfl)
theorem dX1_laughOf_29 : decode cX1_laughOf 29 = .ok (.aload_n 0, 1) := dk_42 (dk_at dksX1_laughOf_1 7 rfl rfl)
theorem dX1_laughOf_30 : decode cX1_laughOf 30 = .ok (.getfield 40, 3) := dk_180 0 40 (dk_at dksX1_laughOf_1 8 rfl rfl)
theorem dX1_laughOf_33 : decode cX1_laughOf 33 = .ok (.iconst 4, 1) := dk_7 (dk_at dksX1_laughOf_1 11 rfl rfl)
theorem dX1_laughOf_34 : decode cX1_laughOf 34 = .ok (.iload 5, 2) := dk_21 5 (dk_at dksX1_laughOf_1 12 rfl rfl)
theorem dX1_laughOf_36 : decode cX1_laughOf 36 = .ok (.iastore, 1) := dk_79 (dk_at dksX1_laughOf_1 14 rfl rfl)
theorem dX1_laughOf_37 : decode cX1_laughOf 37 = .ok (.aload_n 0, 1) := dk_42 (dk_at dksX1_laughOf_1 15 rfl rfl)
theorem dX1_laughOf_38 : decode cX1_laughOf 38 = .ok (.getfield 40, 3) := dk_180 0 40 (dk_at dksX1_laughOf_1 16 rfl rfl)
theorem dX1_laughOf_41 : decode cX1_laughOf 41 = .ok (.iconst 5, 1) := dk_8 (dk_at dksX1_laughOf_1 19 rfl rfl)
theorem dX1_laughOf_42 : decode cX1_laughOf 42 = .ok (.iload 6, 2) := dk_21 6 (dk_at dksX1_laughOf_1 20 rfl rfl)
theorem dX1_laughOf_44 : decode cX1_laughOf 44 = .ok (.iastore, 1) := dk_79 (dk_at dksX1_laughOf_1 22 rfl rfl)
theorem dX1_laughOf_45 : decode cX1_laughOf 45 = .ok (.aload_n 0, 1) := dk_42 (dk_at dksX1_laughOf_1 23 rfl rfl)
theorem dX1_laughOf_46 : decode cX1_laughOf 46 = .ok (.getfield 40, 3) := dk_180 0 40 (dk_at dksX1_laughOf_2 0 rfl rfl)
theorem dX1_laughOf_49 : decode cX1_laughOf 49 = .ok (.bipush 6, 2) := dk_16 6 (dk_at dksX1_laughOf_2 3 rfl rfl)
theorem dX1_laughOf_51 : decode cX1_laughOf 51 = .ok (.iload 7, 2) := dk_21 7 (dk_at dksX1_laughOf_2 5 rfl rfl)
theorem dX1_laughOf_53 : decode cX1_laughOf 53 = .ok (.iastore, 1) := dk_79 (dk_at dksX1_laughOf_2 7 rfl rfl)
theorem dX1_laughOf_54 : decode cX1_laughOf 54 = .ok (.aload_n 0, 1) := dk_42 (dk_at dksX1_laughOf_2 8 rfl rfl)
theorem dX1_laughOf_55 : decode cX1_laughOf 55 = .ok (.getfield 40, 3) := dk_180 0 40 (dk_at dksX1_laughOf_2 9 rfl rfl)
theorem dX1_laughOf_58 : decode cX1_laughOf 58 = .ok (.bipush 7, 2) := dk_16 7 (dk_at dksX1_laughOf_2 12 rfl rfl)
theorem dX1_laughOf_60 : decode cX1_laughOf 60 = .ok (.iload 8, 2) := dk_21 8 (dk_at dksX1_laughOf_2 14 rfl rfl)
theorem dX1_laughOf_62 : decode cX1_laughOf 62 = .ok (.iastore, 1) := dk_79 (dk_at dksX1_laughOf_2 16 rfl rfl)
theorem dX1_laughOf_63 : decode cX1_laughOf 63 = .ok (.aload_n 0, 1) := dk_42 (dk_at dksX1_laughOf_2 17 rfl rfl)
theorem dX1_laughOf_64 : decode cX1_laughOf 64 = .ok (.getfield 40, 3) := dk_180 0 40 (dk_at dksX1_laughOf_2 18 rfl rfl)
theorem dX1_laughOf_67 : decode cX1_laughOf 67 = .ok (.bipush 8, 2) := dk_16 8 (dk_at dksX1_laughOf_2 21 rfl rfl)
theorem dX1_laughOf_69 : decode cX1_laughOf 69 = .ok (.iload 9, 2) := dk_21 9 (dk_at dksX1_laughOf_3 0 rfl rfl)
theorem dX1_laughOf_71 : decode cX1_laughOf 71 = .ok (.iastore, 1) := dk_79 (dk_at dksX1_laughOf_3 2 rfl rfl)
theorem dX1_laughOf_72 : decode cX1_laughOf 72 = .ok (.aload_n 0, 1) := dk_42 (dk_at dksX1_laughOf_3 3 rfl rfl)
theorem dX1_laughOf_73 : decode cX1_laughOf 73 = .ok (.getfield 40, 3) := dk_180 0 40 (dk_at dksX1_laughOf_3 4 rfl rfl)
theorem dX1_laughOf_76 : decode cX1_laughOf 76 = .ok (.bipush 9, 2) := dk_16 9 (dk_at dksX1_laughOf_3 7 rfl rfl)
theorem dX1_laughOf_78 : decode cX1_laughOf 78 = .ok (.iload 10, 2) := dk_21 10 (dk_at dksX1_laughOf_3 9 rfl rfl)
theorem dX1_laughOf_80 : decode cX1_laughOf 80 = .ok (.iastore, 1) := dk_79 (dk_at dksX1_laughOf_3 11 rfl rfl)
theorem dX1_laughOf_81 : decode cX1_laughOf 81 = .ok (.iconst 0, 1) := dk_3 (dk_at dksX1_laughOf_3 12 rfl rfl)
theorem dX1_laughOf_82 : decode cX1_laughOf 82 = .ok (.bipush 40, 2) := dk_16 40 (dk_at dksX1_laughOf_3 13 rfl rfl)
theorem dX1_laughOf_84 : decode cX1_laughOf 84 = .ok (.aload_n 0, 1) := dk_42 (dk_at dksX1_laughOf_3 15 rfl rfl)
theorem dX1_laughOf_85 : decode cX1_laughOf 85 = .ok (.getfield 36, 3) := dk_180 0 36 (dk_at dksX1_laughOf_3 16 rfl rfl)
theorem dX1_laughOf_88 : decode cX1_laughOf 88 = .ok (.aload_n 0, 1) := dk_42 (dk_at dksX1_laughOf_3 19 rfl rfl)
theorem dX1_laughOf_89 : decode cX1_laughOf 89 = .ok (.getfield 40, 3) := dk_180 0 40 (dk_at dksX1_laughOf_3 20 rfl rfl)
theorem dX1_laughOf_92 : decode cX1_laughOf 92 = .ok (.invokevirtual 131, 3) := dk_182 0 131 (dk_at dksX1_laughOf_4 0 rfl rfl)
theorem dX1_laughOf_95 : decode cX1_laughOf 95 = .ok (.invokestatic 137, 3) := dk_184 0 137 (dk_at dksX1_laughOf_4 3 rfl rfl)
theorem dX1_laughOf_98 : decode cX1_laughOf 98 = .ok (.invokestatic 143, 3) := dk_184 0 143 (dk_at dksX1_laughOf_4 6 rfl rfl)
theorem dX1_laughOf_101 : decode cX1_laughOf 101 = .ok (.ireturn, 1) := dk_172 (dk_at dksX1_laughOf_4 9 rfl rfl)
abbrev cX1_comfort : ByteArray := prog_1_method_55_code
def yX1_comfort : MethodName := ⟨RX1, "comfort", "()I"⟩
def dkwX1_comfort_2 : List UInt8 := [184, 1, 104, 28, 184, 1, 104, 162, 0, 5, 29, 61, 132, 3, 1, 167, 255, 212, 28, 172]
abbrev dktX1_comfort_2 : List UInt8 := dkwX1_comfort_2 ++ []
def dkwX1_comfort_1 : List UInt8 := [163, 0, 42, 27, 42, 180, 0, 28, 29, 182, 1, 125, 2, 130, 126, 154, 0, 21, 28, 2, 159, 0, 14, 29]
abbrev dktX1_comfort_1 : List UInt8 := dkwX1_comfort_1 ++ dktX1_comfort_2
def dkwX1_comfort_0 : List UInt8 := [42, 180, 0, 55, 42, 180, 0, 55, 180, 1, 3, 182, 1, 6, 60, 2, 61, 3, 62, 29, 42, 182, 1, 95]
abbrev dktX1_comfort_0 : List UInt8 := dkwX1_comfort_0 ++ dktX1_comfort_1
theorem dksX1_comfort_0 : cX1_comfort.data.toList.drop 0 = dktX1_comfort_0 := by decide +kernel
theorem dksX1_comfort_1 : cX1_comfort.data.toList.drop 24 = dktX1_comfort_1 := dk_seg dksX1_comfort_0 24 rfl rfl
theorem dksX1_comfort_2 : cX1_comfort.data.toList.drop 48 = dktX1_comfort_2 := dk_seg dksX1_comfort_1 24 rfl rfl
theorem dX1_comfort_0 : decode cX1_comfort 0 = .ok (.aload_n 0, 1) := dk_42 (dk_at dksX1_comfort_0 0 rfl rfl)
theorem dX1_comfort_1 : decode cX1_comfort 1 = .ok (.getfield 55, 3) := dk_180 0 55 (dk_at dksX1_comfort_0 1 rfl rfl)
theorem dX1_comfort_4 : decode cX1_comfort 4 = .ok (.aload_n 0, 1) := dk_42 (dk_at dksX1_comfort_0 4 rfl rfl)
theorem dX1_comfort_5 : decode cX1_comfort 5 = .ok (.getfield 55, 3) := dk_180 0 55 (dk_at dksX1_comfort_0 5 rfl rfl)
theorem dX1_comfort_8 : decode cX1_comfort 8 = .ok (.getfield 259, 3) := dk_180 1 3 (dk_at dksX1_comfort_0 8 rfl rfl)
theorem dX1_comfort_11 : decode cX1_comfort 11 = .ok (.invokevirtual 262, 3) := dk_182 1 6 (dk_at dksX1_comfort_0 11 rfl rfl)
theorem dX1_comfort_14 : decode cX1_comfort 14 = .ok (.istore_n 1, 1) := dk_60 (dk_at dksX1_comfort_0 14 rfl rfl)
theorem dX1_comfort_15 : decode cX1_comfort 15 = .ok (.iconst (-1), 1) := dk_2 (dk_at dksX1_comfort_0 15 rfl rfl)
theorem dX1_comfort_16 : decode cX1_comfort 16 = .ok (.istore_n 2, 1) := dk_61 (dk_at dksX1_comfort_0 16 rfl rfl)
theorem dX1_comfort_17 : decode cX1_comfort 17 = .ok (.iconst 0, 1) := dk_3 (dk_at dksX1_comfort_0 17 rfl rfl)
theorem dX1_comfort_18 : decode cX1_comfort 18 = .ok (.istore_n 3, 1) := dk_62 (dk_at dksX1_comfort_0 18 rfl rfl)
theorem dX1_comfort_19 : decode cX1_comfort 19 = .ok (.iload_n 3, 1) := dk_29 (dk_at dksX1_comfort_0 19 rfl rfl)
theorem dX1_comfort_20 : decode cX1_comfort 20 = .ok (.aload_n 0, 1) := dk_42 (dk_at dksX1_comfort_0 20 rfl rfl)
theorem dX1_comfort_21 : decode cX1_comfort 21 = .ok (.invokevirtual 351, 3) := dk_182 1 95 (dk_at dksX1_comfort_0 21 rfl rfl)
theorem dX1_comfort_24 : decode cX1_comfort 24 = .ok (.if_icmp .gt 42, 3) := dk_163 0 42 (dk_at dksX1_comfort_1 0 rfl rfl)
theorem dX1_comfort_27 : decode cX1_comfort 27 = .ok (.iload_n 1, 1) := dk_27 (dk_at dksX1_comfort_1 3 rfl rfl)
theorem dX1_comfort_28 : decode cX1_comfort 28 = .ok (.aload_n 0, 1) := dk_42 (dk_at dksX1_comfort_1 4 rfl rfl)
theorem dX1_comfort_29 : decode cX1_comfort 29 = .ok (.getfield 28, 3) := dk_180 0 28 (dk_at dksX1_comfort_1 5 rfl rfl)
theorem dX1_comfort_32 : decode cX1_comfort 32 = .ok (.iload_n 3, 1) := dk_29 (dk_at dksX1_comfort_1 8 rfl rfl)
theorem dX1_comfort_33 : decode cX1_comfort 33 = .ok (.invokevirtual 381, 3) := dk_182 1 125 (dk_at dksX1_comfort_1 9 rfl rfl)
theorem dX1_comfort_36 : decode cX1_comfort 36 = .ok (.iconst (-1), 1) := dk_2 (dk_at dksX1_comfort_1 12 rfl rfl)
theorem dX1_comfort_37 : decode cX1_comfort 37 = .ok (.ixor, 1) := dk_130 (dk_at dksX1_comfort_1 13 rfl rfl)
theorem dX1_comfort_38 : decode cX1_comfort 38 = .ok (.iand, 1) := dk_126 (dk_at dksX1_comfort_1 14 rfl rfl)
theorem dX1_comfort_39 : decode cX1_comfort 39 = .ok (.ifCond .ne 21, 3) := dk_154 0 21 (dk_at dksX1_comfort_1 15 rfl rfl)
theorem dX1_comfort_42 : decode cX1_comfort 42 = .ok (.iload_n 2, 1) := dk_28 (dk_at dksX1_comfort_1 18 rfl rfl)
theorem dX1_comfort_43 : decode cX1_comfort 43 = .ok (.iconst (-1), 1) := dk_2 (dk_at dksX1_comfort_1 19 rfl rfl)
theorem dX1_comfort_44 : decode cX1_comfort 44 = .ok (.if_icmp .eq 14, 3) := dk_159 0 14 (dk_at dksX1_comfort_1 20 rfl rfl)
theorem dX1_comfort_47 : decode cX1_comfort 47 = .ok (.iload_n 3, 1) := dk_29 (dk_at dksX1_comfort_1 23 rfl rfl)
theorem dX1_comfort_48 : decode cX1_comfort 48 = .ok (.invokestatic 360, 3) := dk_184 1 104 (dk_at dksX1_comfort_2 0 rfl rfl)
theorem dX1_comfort_51 : decode cX1_comfort 51 = .ok (.iload_n 2, 1) := dk_28 (dk_at dksX1_comfort_2 3 rfl rfl)
theorem dX1_comfort_52 : decode cX1_comfort 52 = .ok (.invokestatic 360, 3) := dk_184 1 104 (dk_at dksX1_comfort_2 4 rfl rfl)
theorem dX1_comfort_55 : decode cX1_comfort 55 = .ok (.if_icmp .ge 5, 3) := dk_162 0 5 (dk_at dksX1_comfort_2 7 rfl rfl)
theorem dX1_comfort_58 : decode cX1_comfort 58 = .ok (.iload_n 3, 1) := dk_29 (dk_at dksX1_comfort_2 10 rfl rfl)
theorem dX1_comfort_59 : decode cX1_comfort 59 = .ok (.istore_n 2, 1) := dk_61 (dk_at dksX1_comfort_2 11 rfl rfl)
theorem dX1_comfort_60 : decode cX1_comfort 60 = .ok (.iinc 3 1, 3) := dk_132 3 1 (dk_at dksX1_comfort_2 12 rfl rfl)
theorem dX1_comfort_63 : decode cX1_comfort 63 = .ok (.goto (-44), 3) := dk_167 255 212 (dk_at dksX1_comfort_2 15 rfl rfl)
theorem dX1_comfort_66 : decode cX1_comfort 66 = .ok (.iload_n 2, 1) := dk_28 (dk_at dksX1_comfort_2 18 rfl rfl)
theorem dX1_comfort_67 : decode cX1_comfort 67 = .ok (.ireturn, 1) := dk_172 (dk_at dksX1_comfort_2 19 rfl rfl)
abbrev cX1_parts : ByteArray := prog_1_method_57_code
def yX1_parts : MethodName := ⟨RX1, "parts", "()I"⟩
def dkwX1_parts_3 : List UInt8 := [167, 255, 193, 28, 172]
abbrev dktX1_parts_3 : List UInt8 := dkwX1_parts_3 ++ []
def dkwX1_parts_2 : List UInt8 := [180, 0, 28, 21, 4, 182, 1, 125, 54, 4, 167, 255, 231, 27, 21, 4, 128, 60, 132, 2, 1, 132, 3, 1]
abbrev dktX1_parts_2 : List UInt8 := dkwX1_parts_2 ++ dktX1_parts_3
def dkwX1_parts_1 : List UInt8 := [167, 0, 44, 4, 29, 120, 54, 4, 42, 180, 0, 28, 21, 4, 182, 1, 125, 21, 4, 159, 0, 17, 42]
abbrev dktX1_parts_1 : List UInt8 := dkwX1_parts_1 ++ dktX1_parts_2
def dkwX1_parts_0 : List UInt8 := [3, 60, 3, 61, 3, 62, 29, 42, 182, 0, 152, 162, 0, 61, 27, 29, 184, 1, 87, 153, 0, 6]
abbrev dktX1_parts_0 : List UInt8 := dkwX1_parts_0 ++ dktX1_parts_1
theorem dksX1_parts_0 : cX1_parts.data.toList.drop 0 = dktX1_parts_0 := by decide +kernel
theorem dksX1_parts_1 : cX1_parts.data.toList.drop 22 = dktX1_parts_1 := dk_seg dksX1_parts_0 22 rfl rfl
theorem dksX1_parts_2 : cX1_parts.data.toList.drop 45 = dktX1_parts_2 := dk_seg dksX1_parts_1 23 rfl rfl
theorem dksX1_parts_3 : cX1_parts.data.toList.drop 69 = dktX1_parts_3 := dk_seg dksX1_parts_2 24 rfl rfl
theorem dX1_parts_0 : decode cX1_parts 0 = .ok (.iconst 0, 1) := dk_3 (dk_at dksX1_parts_0 0 rfl rfl)
theorem dX1_parts_1 : decode cX1_parts 1 = .ok (.istore_n 1, 1) := dk_60 (dk_at dksX1_parts_0 1 rfl rfl)
theorem dX1_parts_2 : decode cX1_parts 2 = .ok (.iconst 0, 1) := dk_3 (dk_at dksX1_parts_0 2 rfl rfl)
theorem dX1_parts_3 : decode cX1_parts 3 = .ok (.istore_n 2, 1) := dk_61 (dk_at dksX1_parts_0 3 rfl rfl)
theorem dX1_parts_4 : decode cX1_parts 4 = .ok (.iconst 0, 1) := dk_3 (dk_at dksX1_parts_0 4 rfl rfl)
theorem dX1_parts_5 : decode cX1_parts 5 = .ok (.istore_n 3, 1) := dk_62 (dk_at dksX1_parts_0 5 rfl rfl)
theorem dX1_parts_6 : decode cX1_parts 6 = .ok (.iload_n 3, 1) := dk_29 (dk_at dksX1_parts_0 6 rfl rfl)
theorem dX1_parts_7 : decode cX1_parts 7 = .ok (.aload_n 0, 1) := dk_42 (dk_at dksX1_parts_0 7 rfl rfl)
theorem dX1_parts_8 : decode cX1_parts 8 = .ok (.invokevirtual 152, 3) := dk_182 0 152 (dk_at dksX1_parts_0 8 rfl rfl)
theorem dX1_parts_11 : decode cX1_parts 11 = .ok (.if_icmp .ge 61, 3) := dk_162 0 61 (dk_at dksX1_parts_0 11 rfl rfl)
theorem dX1_parts_14 : decode cX1_parts 14 = .ok (.iload_n 1, 1) := dk_27 (dk_at dksX1_parts_0 14 rfl rfl)
theorem dX1_parts_15 : decode cX1_parts 15 = .ok (.iload_n 3, 1) := dk_29 (dk_at dksX1_parts_0 15 rfl rfl)
theorem dX1_parts_16 : decode cX1_parts 16 = .ok (.invokestatic 343, 3) := dk_184 1 87 (dk_at dksX1_parts_0 16 rfl rfl)
theorem dX1_parts_19 : decode cX1_parts 19 = .ok (.ifCond .eq 6, 3) := dk_153 0 6 (dk_at dksX1_parts_0 19 rfl rfl)
theorem dX1_parts_22 : decode cX1_parts 22 = .ok (.goto 44, 3) := dk_167 0 44 (dk_at dksX1_parts_1 0 rfl rfl)
theorem dX1_parts_25 : decode cX1_parts 25 = .ok (.iconst 1, 1) := dk_4 (dk_at dksX1_parts_1 3 rfl rfl)
theorem dX1_parts_26 : decode cX1_parts 26 = .ok (.iload_n 3, 1) := dk_29 (dk_at dksX1_parts_1 4 rfl rfl)
theorem dX1_parts_27 : decode cX1_parts 27 = .ok (.ishl, 1) := dk_120 (dk_at dksX1_parts_1 5 rfl rfl)
theorem dX1_parts_28 : decode cX1_parts 28 = .ok (.istore 4, 2) := dk_54 4 (dk_at dksX1_parts_1 6 rfl rfl)
theorem dX1_parts_30 : decode cX1_parts 30 = .ok (.aload_n 0, 1) := dk_42 (dk_at dksX1_parts_1 8 rfl rfl)
theorem dX1_parts_31 : decode cX1_parts 31 = .ok (.getfield 28, 3) := dk_180 0 28 (dk_at dksX1_parts_1 9 rfl rfl)
theorem dX1_parts_34 : decode cX1_parts 34 = .ok (.iload 4, 2) := dk_21 4 (dk_at dksX1_parts_1 12 rfl rfl)
theorem dX1_parts_36 : decode cX1_parts 36 = .ok (.invokevirtual 381, 3) := dk_182 1 125 (dk_at dksX1_parts_1 14 rfl rfl)
theorem dX1_parts_39 : decode cX1_parts 39 = .ok (.iload 4, 2) := dk_21 4 (dk_at dksX1_parts_1 17 rfl rfl)
theorem dX1_parts_41 : decode cX1_parts 41 = .ok (.if_icmp .eq 17, 3) := dk_159 0 17 (dk_at dksX1_parts_1 19 rfl rfl)
theorem dX1_parts_44 : decode cX1_parts 44 = .ok (.aload_n 0, 1) := dk_42 (dk_at dksX1_parts_1 22 rfl rfl)
theorem dX1_parts_45 : decode cX1_parts 45 = .ok (.getfield 28, 3) := dk_180 0 28 (dk_at dksX1_parts_2 0 rfl rfl)
theorem dX1_parts_48 : decode cX1_parts 48 = .ok (.iload 4, 2) := dk_21 4 (dk_at dksX1_parts_2 3 rfl rfl)
theorem dX1_parts_50 : decode cX1_parts 50 = .ok (.invokevirtual 381, 3) := dk_182 1 125 (dk_at dksX1_parts_2 5 rfl rfl)
theorem dX1_parts_53 : decode cX1_parts 53 = .ok (.istore 4, 2) := dk_54 4 (dk_at dksX1_parts_2 8 rfl rfl)
theorem dX1_parts_55 : decode cX1_parts 55 = .ok (.goto (-25), 3) := dk_167 255 231 (dk_at dksX1_parts_2 10 rfl rfl)
theorem dX1_parts_58 : decode cX1_parts 58 = .ok (.iload_n 1, 1) := dk_27 (dk_at dksX1_parts_2 13 rfl rfl)
theorem dX1_parts_59 : decode cX1_parts 59 = .ok (.iload 4, 2) := dk_21 4 (dk_at dksX1_parts_2 14 rfl rfl)
theorem dX1_parts_61 : decode cX1_parts 61 = .ok (.ior, 1) := dk_128 (dk_at dksX1_parts_2 16 rfl rfl)
theorem dX1_parts_62 : decode cX1_parts 62 = .ok (.istore_n 1, 1) := dk_60 (dk_at dksX1_parts_2 17 rfl rfl)
theorem dX1_parts_63 : decode cX1_parts 63 = .ok (.iinc 2 1, 3) := dk_132 2 1 (dk_at dksX1_parts_2 18 rfl rfl)
theorem dX1_parts_66 : decode cX1_parts 66 = .ok (.iinc 3 1, 3) := dk_132 3 1 (dk_at dksX1_parts_2 21 rfl rfl)
theorem dX1_parts_69 : decode cX1_parts 69 = .ok (.goto (-63), 3) := dk_167 255 193 (dk_at dksX1_parts_3 0 rfl rfl)
theorem dX1_parts_72 : decode cX1_parts 72 = .ok (.iload_n 2, 1) := dk_28 (dk_at dksX1_parts_3 3 rfl rfl)
theorem dX1_parts_73 : decode cX1_parts 73 = .ok (.ireturn, 1) := dk_172 (dk_at dksX1_parts_3 4 rfl rfl)
abbrev cX1_image : ByteArray := prog_1_method_72_code
def yX1_image : MethodName := ⟨RX1, "image", "()I"⟩
def dkwX1_image_3 : List UInt8 := [180, 0, 107, 42, 180, 0, 98, 79, 42, 89, 180, 0, 107, 4, 96, 181, 0, 107, 42, 180, 0, 107, 172]
abbrev dktX1_image_3 : List UInt8 := dkwX1_image_3 ++ []
def dkwX1_image_2 : List UInt8 := [104, 27, 96, 42, 180, 0, 62, 27, 50, 182, 0, 204, 132, 1, 1, 167, 255, 222, 42, 180, 0, 72, 42]
abbrev dktX1_image_2 : List UInt8 := dkwX1_image_2 ++ dktX1_image_3
def dkwX1_image_1 : List UInt8 := [182, 0, 204, 3, 60, 27, 42, 180, 0, 98, 162, 0, 32, 42, 42, 180, 0, 69, 16, 16, 42, 180, 0, 107]
abbrev dktX1_image_1 : List UInt8 := dkwX1_image_1 ++ dktX1_image_2
def dkwX1_image_0 : List UInt8 := [42, 180, 0, 107, 6, 160, 0, 5, 2, 172, 42, 42, 180, 0, 66, 42, 180, 0, 107, 42, 180, 0, 55]
abbrev dktX1_image_0 : List UInt8 := dkwX1_image_0 ++ dktX1_image_1
theorem dksX1_image_0 : cX1_image.data.toList.drop 0 = dktX1_image_0 := by decide +kernel
theorem dksX1_image_1 : cX1_image.data.toList.drop 23 = dktX1_image_1 := dk_seg dksX1_image_0 23 rfl rfl
theorem dksX1_image_2 : cX1_image.data.toList.drop 47 = dktX1_image_2 := dk_seg dksX1_image_1 24 rfl rfl
theorem dksX1_image_3 : cX1_image.data.toList.drop 70 = dktX1_image_3 := dk_seg dksX1_image_2 23 rfl rfl
theorem dX1_image_0 : decode cX1_image 0 = .ok (.aload_n 0, 1) := dk_42 (dk_at dksX1_image_0 0 rfl rfl)
theorem dX1_image_1 : decode cX1_image 1 = .ok (.getfield 107, 3) := dk_180 0 107 (dk_at dksX1_image_0 1 rfl rfl)
theorem dX1_image_4 : decode cX1_image 4 = .ok (.iconst 3, 1) := dk_6 (dk_at dksX1_image_0 4 rfl rfl)
theorem dX1_image_5 : decode cX1_image 5 = .ok (.if_icmp .ne 5, 3) := dk_160 0 5 (dk_at dksX1_image_0 5 rfl rfl)
theorem dX1_image_8 : decode cX1_image 8 = .ok (.iconst (-1), 1) := dk_2 (dk_at dksX1_image_0 8 rfl rfl)
theorem dX1_image_9 : decode cX1_image 9 = .ok (.ireturn, 1) := dk_172 (dk_at dksX1_image_0 9 rfl rfl)
theorem dX1_image_10 : decode cX1_image 10 = .ok (.aload_n 0, 1) := dk_42 (dk_at dksX1_image_0 10 rfl rfl)
theorem dX1_image_11 : decode cX1_image 11 = .ok (.aload_n 0, 1) := dk_42 (dk_at dksX1_image_0 11 rfl rfl)
theorem dX1_image_12 : decode cX1_image 12 = .ok (.getfield 66, 3) := dk_180 0 66 (dk_at dksX1_image_0 12 rfl rfl)
theorem dX1_image_15 : decode cX1_image 15 = .ok (.aload_n 0, 1) := dk_42 (dk_at dksX1_image_0 15 rfl rfl)
theorem dX1_image_16 : decode cX1_image 16 = .ok (.getfield 107, 3) := dk_180 0 107 (dk_at dksX1_image_0 16 rfl rfl)
theorem dX1_image_19 : decode cX1_image 19 = .ok (.aload_n 0, 1) := dk_42 (dk_at dksX1_image_0 19 rfl rfl)
theorem dX1_image_20 : decode cX1_image 20 = .ok (.getfield 55, 3) := dk_180 0 55 (dk_at dksX1_image_0 20 rfl rfl)
theorem dX1_image_23 : decode cX1_image 23 = .ok (.invokevirtual 204, 3) := dk_182 0 204 (dk_at dksX1_image_1 0 rfl rfl)
theorem dX1_image_26 : decode cX1_image 26 = .ok (.iconst 0, 1) := dk_3 (dk_at dksX1_image_1 3 rfl rfl)
theorem dX1_image_27 : decode cX1_image 27 = .ok (.istore_n 1, 1) := dk_60 (dk_at dksX1_image_1 4 rfl rfl)
theorem dX1_image_28 : decode cX1_image 28 = .ok (.iload_n 1, 1) := dk_27 (dk_at dksX1_image_1 5 rfl rfl)
theorem dX1_image_29 : decode cX1_image 29 = .ok (.aload_n 0, 1) := dk_42 (dk_at dksX1_image_1 6 rfl rfl)
theorem dX1_image_30 : decode cX1_image 30 = .ok (.getfield 98, 3) := dk_180 0 98 (dk_at dksX1_image_1 7 rfl rfl)
theorem dX1_image_33 : decode cX1_image 33 = .ok (.if_icmp .ge 32, 3) := dk_162 0 32 (dk_at dksX1_image_1 10 rfl rfl)
theorem dX1_image_36 : decode cX1_image 36 = .ok (.aload_n 0, 1) := dk_42 (dk_at dksX1_image_1 13 rfl rfl)
theorem dX1_image_37 : decode cX1_image 37 = .ok (.aload_n 0, 1) := dk_42 (dk_at dksX1_image_1 14 rfl rfl)
theorem dX1_image_38 : decode cX1_image 38 = .ok (.getfield 69, 3) := dk_180 0 69 (dk_at dksX1_image_1 15 rfl rfl)
theorem dX1_image_41 : decode cX1_image 41 = .ok (.bipush 16, 2) := dk_16 16 (dk_at dksX1_image_1 18 rfl rfl)
theorem dX1_image_43 : decode cX1_image 43 = .ok (.aload_n 0, 1) := dk_42 (dk_at dksX1_image_1 20 rfl rfl)
theorem dX1_image_44 : decode cX1_image 44 = .ok (.getfield 107, 3) := dk_180 0 107 (dk_at dksX1_image_1 21 rfl rfl)
theorem dX1_image_47 : decode cX1_image 47 = .ok (.imul, 1) := dk_104 (dk_at dksX1_image_2 0 rfl rfl)
theorem dX1_image_48 : decode cX1_image 48 = .ok (.iload_n 1, 1) := dk_27 (dk_at dksX1_image_2 1 rfl rfl)
theorem dX1_image_49 : decode cX1_image 49 = .ok (.iadd, 1) := dk_96 (dk_at dksX1_image_2 2 rfl rfl)
theorem dX1_image_50 : decode cX1_image 50 = .ok (.aload_n 0, 1) := dk_42 (dk_at dksX1_image_2 3 rfl rfl)
theorem dX1_image_51 : decode cX1_image 51 = .ok (.getfield 62, 3) := dk_180 0 62 (dk_at dksX1_image_2 4 rfl rfl)
theorem dX1_image_54 : decode cX1_image 54 = .ok (.iload_n 1, 1) := dk_27 (dk_at dksX1_image_2 7 rfl rfl)
theorem dX1_image_55 : decode cX1_image 55 = .ok (.aaload, 1) := dk_50 (dk_at dksX1_image_2 8 rfl rfl)
theorem dX1_image_56 : decode cX1_image 56 = .ok (.invokevirtual 204, 3) := dk_182 0 204 (dk_at dksX1_image_2 9 rfl rfl)
theorem dX1_image_59 : decode cX1_image 59 = .ok (.iinc 1 1, 3) := dk_132 1 1 (dk_at dksX1_image_2 12 rfl rfl)
theorem dX1_image_62 : decode cX1_image 62 = .ok (.goto (-34), 3) := dk_167 255 222 (dk_at dksX1_image_2 15 rfl rfl)
theorem dX1_image_65 : decode cX1_image 65 = .ok (.aload_n 0, 1) := dk_42 (dk_at dksX1_image_2 18 rfl rfl)
theorem dX1_image_66 : decode cX1_image 66 = .ok (.getfield 72, 3) := dk_180 0 72 (dk_at dksX1_image_2 19 rfl rfl)
theorem dX1_image_69 : decode cX1_image 69 = .ok (.aload_n 0, 1) := dk_42 (dk_at dksX1_image_2 22 rfl rfl)
theorem dX1_image_70 : decode cX1_image 70 = .ok (.getfield 107, 3) := dk_180 0 107 (dk_at dksX1_image_3 0 rfl rfl)
theorem dX1_image_73 : decode cX1_image 73 = .ok (.aload_n 0, 1) := dk_42 (dk_at dksX1_image_3 3 rfl rfl)
theorem dX1_image_74 : decode cX1_image 74 = .ok (.getfield 98, 3) := dk_180 0 98 (dk_at dksX1_image_3 4 rfl rfl)
theorem dX1_image_77 : decode cX1_image 77 = .ok (.iastore, 1) := dk_79 (dk_at dksX1_image_3 7 rfl rfl)
theorem dX1_image_78 : decode cX1_image 78 = .ok (.aload_n 0, 1) := dk_42 (dk_at dksX1_image_3 8 rfl rfl)
theorem dX1_image_79 : decode cX1_image 79 = .ok (.dup, 1) := dk_89 (dk_at dksX1_image_3 9 rfl rfl)
theorem dX1_image_80 : decode cX1_image 80 = .ok (.getfield 107, 3) := dk_180 0 107 (dk_at dksX1_image_3 10 rfl rfl)
theorem dX1_image_83 : decode cX1_image 83 = .ok (.iconst 1, 1) := dk_4 (dk_at dksX1_image_3 13 rfl rfl)
theorem dX1_image_84 : decode cX1_image 84 = .ok (.iadd, 1) := dk_96 (dk_at dksX1_image_3 14 rfl rfl)
theorem dX1_image_85 : decode cX1_image 85 = .ok (.putfield 107, 3) := dk_181 0 107 (dk_at dksX1_image_3 15 rfl rfl)
theorem dX1_image_88 : decode cX1_image 88 = .ok (.aload_n 0, 1) := dk_42 (dk_at dksX1_image_3 18 rfl rfl)
theorem dX1_image_89 : decode cX1_image 89 = .ok (.getfield 107, 3) := dk_180 0 107 (dk_at dksX1_image_3 19 rfl rfl)
theorem dX1_image_92 : decode cX1_image 92 = .ok (.ireturn, 1) := dk_172 (dk_at dksX1_image_3 22 rfl rfl)
abbrev cX1_kept : ByteArray := prog_1_method_71_code
def yX1_kept : MethodName := ⟨RX1, "kept", "([LDimpleWells$Season;ILDimpleWells$Season;)V"⟩
def dkwX1_kept_1 : List UInt8 := [87, 177]
abbrev dktX1_kept_1 : List UInt8 := dkwX1_kept_1 ++ []
def dkwX1_kept_0 : List UInt8 := [43, 28, 50, 199, 0, 14, 43, 28, 187, 0, 50, 89, 42, 183, 0, 52, 83, 43, 28, 50, 45, 182, 0, 239]
abbrev dktX1_kept_0 : List UInt8 := dkwX1_kept_0 ++ dktX1_kept_1
theorem dksX1_kept_0 : cX1_kept.data.toList.drop 0 = dktX1_kept_0 := by decide +kernel
theorem dksX1_kept_1 : cX1_kept.data.toList.drop 24 = dktX1_kept_1 := dk_seg dksX1_kept_0 24 rfl rfl
theorem dX1_kept_0 : decode cX1_kept 0 = .ok (.aload_n 1, 1) := dk_43 (dk_at dksX1_kept_0 0 rfl rfl)
theorem dX1_kept_1 : decode cX1_kept 1 = .ok (.iload_n 2, 1) := dk_28 (dk_at dksX1_kept_0 1 rfl rfl)
theorem dX1_kept_2 : decode cX1_kept 2 = .ok (.aaload, 1) := dk_50 (dk_at dksX1_kept_0 2 rfl rfl)
theorem dX1_kept_3 : decode cX1_kept 3 = .ok (.ifnonnull 14, 3) := dk_199 0 14 (dk_at dksX1_kept_0 3 rfl rfl)
theorem dX1_kept_6 : decode cX1_kept 6 = .ok (.aload_n 1, 1) := dk_43 (dk_at dksX1_kept_0 6 rfl rfl)
theorem dX1_kept_7 : decode cX1_kept 7 = .ok (.iload_n 2, 1) := dk_28 (dk_at dksX1_kept_0 7 rfl rfl)
theorem dX1_kept_8 : decode cX1_kept 8 = .ok (.new 50, 3) := dk_187 0 50 (dk_at dksX1_kept_0 8 rfl rfl)
theorem dX1_kept_11 : decode cX1_kept 11 = .ok (.dup, 1) := dk_89 (dk_at dksX1_kept_0 11 rfl rfl)
theorem dX1_kept_12 : decode cX1_kept 12 = .ok (.aload_n 0, 1) := dk_42 (dk_at dksX1_kept_0 12 rfl rfl)
theorem dX1_kept_13 : decode cX1_kept 13 = .ok (.invokespecial 52, 3) := dk_183 0 52 (dk_at dksX1_kept_0 13 rfl rfl)
theorem dX1_kept_16 : decode cX1_kept 16 = .ok (.aastore, 1) := dk_83 (dk_at dksX1_kept_0 16 rfl rfl)
theorem dX1_kept_17 : decode cX1_kept 17 = .ok (.aload_n 1, 1) := dk_43 (dk_at dksX1_kept_0 17 rfl rfl)
theorem dX1_kept_18 : decode cX1_kept 18 = .ok (.iload_n 2, 1) := dk_28 (dk_at dksX1_kept_0 18 rfl rfl)
theorem dX1_kept_19 : decode cX1_kept 19 = .ok (.aaload, 1) := dk_50 (dk_at dksX1_kept_0 19 rfl rfl)
theorem dX1_kept_20 : decode cX1_kept 20 = .ok (.aload_n 3, 1) := dk_45 (dk_at dksX1_kept_0 20 rfl rfl)
theorem dX1_kept_21 : decode cX1_kept 21 = .ok (.invokevirtual 239, 3) := dk_182 0 239 (dk_at dksX1_kept_0 21 rfl rfl)
theorem dX1_kept_24 : decode cX1_kept 24 = .ok (.pop, 1) := dk_87 (dk_at dksX1_kept_1 0 rfl rfl)
theorem dX1_kept_25 : decode cX1_kept 25 = .ok (.return_, 1) := dk_177 (dk_at dksX1_kept_1 1 rfl rfl)
abbrev cX1_restore : ByteArray := prog_1_method_73_code
def yX1_restore : MethodName := ⟨RX1, "restore", "()I"⟩
def dkwX1_restore_4 : List UInt8 := [42, 180, 0, 107, 172]
abbrev dktX1_restore_4 : List UInt8 := dkwX1_restore_4 ++ []
def dkwX1_restore_3 : List UInt8 := [16, 16, 42, 180, 0, 107, 104, 27, 96, 50, 182, 0, 204, 132, 1, 1, 167, 255, 222, 42, 3, 181, 0, 101]
abbrev dktX1_restore_3 : List UInt8 := dkwX1_restore_3 ++ dktX1_restore_4
def dkwX1_restore_2 : List UInt8 := [181, 0, 98, 3, 60, 27, 42, 180, 0, 98, 162, 0, 32, 42, 42, 180, 0, 62, 27, 42, 180, 0, 69]
abbrev dktX1_restore_2 : List UInt8 := dkwX1_restore_2 ++ dktX1_restore_3
def dkwX1_restore_1 : List UInt8 := [180, 0, 66, 42, 180, 0, 107, 50, 182, 0, 239, 87, 42, 42, 180, 0, 72, 42, 180, 0, 107, 46]
abbrev dktX1_restore_1 : List UInt8 := dkwX1_restore_1 ++ dktX1_restore_2
def dkwX1_restore_0 : List UInt8 := [42, 180, 0, 107, 154, 0, 5, 2, 172, 42, 89, 180, 0, 107, 4, 100, 181, 0, 107, 42, 180, 0, 55, 42]
abbrev dktX1_restore_0 : List UInt8 := dkwX1_restore_0 ++ dktX1_restore_1
theorem dksX1_restore_0 : cX1_restore.data.toList.drop 0 = dktX1_restore_0 := by decide +kernel
theorem dksX1_restore_1 : cX1_restore.data.toList.drop 24 = dktX1_restore_1 := dk_seg dksX1_restore_0 24 rfl rfl
theorem dksX1_restore_2 : cX1_restore.data.toList.drop 46 = dktX1_restore_2 := dk_seg dksX1_restore_1 22 rfl rfl
theorem dksX1_restore_3 : cX1_restore.data.toList.drop 69 = dktX1_restore_3 := dk_seg dksX1_restore_2 23 rfl rfl
theorem dksX1_restore_4 : cX1_restore.data.toList.drop 93 = dktX1_restore_4 := dk_seg dksX1_restore_3 24 rfl rfl
theorem dX1_restore_0 : decode cX1_restore 0 = .ok (.aload_n 0, 1) := dk_42 (dk_at dksX1_restore_0 0 rfl rfl)
theorem dX1_restore_1 : decode cX1_restore 1 = .ok (.getfield 107, 3) := dk_180 0 107 (dk_at dksX1_restore_0 1 rfl rfl)
theorem dX1_restore_4 : decode cX1_restore 4 = .ok (.ifCond .ne 5, 3) := dk_154 0 5 (dk_at dksX1_restore_0 4 rfl rfl)
theorem dX1_restore_7 : decode cX1_restore 7 = .ok (.iconst (-1), 1) := dk_2 (dk_at dksX1_restore_0 7 rfl rfl)
theorem dX1_restore_8 : decode cX1_restore 8 = .ok (.ireturn, 1) := dk_172 (dk_at dksX1_restore_0 8 rfl rfl)
theorem dX1_restore_9 : decode cX1_restore 9 = .ok (.aload_n 0, 1) := dk_42 (dk_at dksX1_restore_0 9 rfl rfl)
theorem dX1_restore_10 : decode cX1_restore 10 = .ok (.dup, 1) := dk_89 (dk_at dksX1_restore_0 10 rfl rfl)
theorem dX1_restore_11 : decode cX1_restore 11 = .ok (.getfield 107, 3) := dk_180 0 107 (dk_at dksX1_restore_0 11 rfl rfl)
theorem dX1_restore_14 : decode cX1_restore 14 = .ok (.iconst 1, 1) := dk_4 (dk_at dksX1_restore_0 14 rfl rfl)
theorem dX1_restore_15 : decode cX1_restore 15 = .ok (.isub, 1) := dk_100 (dk_at dksX1_restore_0 15 rfl rfl)
theorem dX1_restore_16 : decode cX1_restore 16 = .ok (.putfield 107, 3) := dk_181 0 107 (dk_at dksX1_restore_0 16 rfl rfl)
theorem dX1_restore_19 : decode cX1_restore 19 = .ok (.aload_n 0, 1) := dk_42 (dk_at dksX1_restore_0 19 rfl rfl)
theorem dX1_restore_20 : decode cX1_restore 20 = .ok (.getfield 55, 3) := dk_180 0 55 (dk_at dksX1_restore_0 20 rfl rfl)
theorem dX1_restore_23 : decode cX1_restore 23 = .ok (.aload_n 0, 1) := dk_42 (dk_at dksX1_restore_0 23 rfl rfl)
theorem dX1_restore_24 : decode cX1_restore 24 = .ok (.getfield 66, 3) := dk_180 0 66 (dk_at dksX1_restore_1 0 rfl rfl)
theorem dX1_restore_27 : decode cX1_restore 27 = .ok (.aload_n 0, 1) := dk_42 (dk_at dksX1_restore_1 3 rfl rfl)
theorem dX1_restore_28 : decode cX1_restore 28 = .ok (.getfield 107, 3) := dk_180 0 107 (dk_at dksX1_restore_1 4 rfl rfl)
theorem dX1_restore_31 : decode cX1_restore 31 = .ok (.aaload, 1) := dk_50 (dk_at dksX1_restore_1 7 rfl rfl)
theorem dX1_restore_32 : decode cX1_restore 32 = .ok (.invokevirtual 239, 3) := dk_182 0 239 (dk_at dksX1_restore_1 8 rfl rfl)
theorem dX1_restore_35 : decode cX1_restore 35 = .ok (.pop, 1) := dk_87 (dk_at dksX1_restore_1 11 rfl rfl)
theorem dX1_restore_36 : decode cX1_restore 36 = .ok (.aload_n 0, 1) := dk_42 (dk_at dksX1_restore_1 12 rfl rfl)
theorem dX1_restore_37 : decode cX1_restore 37 = .ok (.aload_n 0, 1) := dk_42 (dk_at dksX1_restore_1 13 rfl rfl)
theorem dX1_restore_38 : decode cX1_restore 38 = .ok (.getfield 72, 3) := dk_180 0 72 (dk_at dksX1_restore_1 14 rfl rfl)
theorem dX1_restore_41 : decode cX1_restore 41 = .ok (.aload_n 0, 1) := dk_42 (dk_at dksX1_restore_1 17 rfl rfl)
theorem dX1_restore_42 : decode cX1_restore 42 = .ok (.getfield 107, 3) := dk_180 0 107 (dk_at dksX1_restore_1 18 rfl rfl)
theorem dX1_restore_45 : decode cX1_restore 45 = .ok (.iaload, 1) := dk_46 (dk_at dksX1_restore_1 21 rfl rfl)
theorem dX1_restore_46 : decode cX1_restore 46 = .ok (.putfield 98, 3) := dk_181 0 98 (dk_at dksX1_restore_2 0 rfl rfl)
theorem dX1_restore_49 : decode cX1_restore 49 = .ok (.iconst 0, 1) := dk_3 (dk_at dksX1_restore_2 3 rfl rfl)
theorem dX1_restore_50 : decode cX1_restore 50 = .ok (.istore_n 1, 1) := dk_60 (dk_at dksX1_restore_2 4 rfl rfl)
theorem dX1_restore_51 : decode cX1_restore 51 = .ok (.iload_n 1, 1) := dk_27 (dk_at dksX1_restore_2 5 rfl rfl)
theorem dX1_restore_52 : decode cX1_restore 52 = .ok (.aload_n 0, 1) := dk_42 (dk_at dksX1_restore_2 6 rfl rfl)
theorem dX1_restore_53 : decode cX1_restore 53 = .ok (.getfield 98, 3) := dk_180 0 98 (dk_at dksX1_restore_2 7 rfl rfl)
theorem dX1_restore_56 : decode cX1_restore 56 = .ok (.if_icmp .ge 32, 3) := dk_162 0 32 (dk_at dksX1_restore_2 10 rfl rfl)
theorem dX1_restore_59 : decode cX1_restore 59 = .ok (.aload_n 0, 1) := dk_42 (dk_at dksX1_restore_2 13 rfl rfl)
theorem dX1_restore_60 : decode cX1_restore 60 = .ok (.aload_n 0, 1) := dk_42 (dk_at dksX1_restore_2 14 rfl rfl)
theorem dX1_restore_61 : decode cX1_restore 61 = .ok (.getfield 62, 3) := dk_180 0 62 (dk_at dksX1_restore_2 15 rfl rfl)
theorem dX1_restore_64 : decode cX1_restore 64 = .ok (.iload_n 1, 1) := dk_27 (dk_at dksX1_restore_2 18 rfl rfl)
theorem dX1_restore_65 : decode cX1_restore 65 = .ok (.aload_n 0, 1) := dk_42 (dk_at dksX1_restore_2 19 rfl rfl)
theorem dX1_restore_66 : decode cX1_restore 66 = .ok (.getfield 69, 3) := dk_180 0 69 (dk_at dksX1_restore_2 20 rfl rfl)
theorem dX1_restore_69 : decode cX1_restore 69 = .ok (.bipush 16, 2) := dk_16 16 (dk_at dksX1_restore_3 0 rfl rfl)
theorem dX1_restore_71 : decode cX1_restore 71 = .ok (.aload_n 0, 1) := dk_42 (dk_at dksX1_restore_3 2 rfl rfl)
theorem dX1_restore_72 : decode cX1_restore 72 = .ok (.getfield 107, 3) := dk_180 0 107 (dk_at dksX1_restore_3 3 rfl rfl)
theorem dX1_restore_75 : decode cX1_restore 75 = .ok (.imul, 1) := dk_104 (dk_at dksX1_restore_3 6 rfl rfl)
theorem dX1_restore_76 : decode cX1_restore 76 = .ok (.iload_n 1, 1) := dk_27 (dk_at dksX1_restore_3 7 rfl rfl)
theorem dX1_restore_77 : decode cX1_restore 77 = .ok (.iadd, 1) := dk_96 (dk_at dksX1_restore_3 8 rfl rfl)
theorem dX1_restore_78 : decode cX1_restore 78 = .ok (.aaload, 1) := dk_50 (dk_at dksX1_restore_3 9 rfl rfl)
theorem dX1_restore_79 : decode cX1_restore 79 = .ok (.invokevirtual 204, 3) := dk_182 0 204 (dk_at dksX1_restore_3 10 rfl rfl)
theorem dX1_restore_82 : decode cX1_restore 82 = .ok (.iinc 1 1, 3) := dk_132 1 1 (dk_at dksX1_restore_3 13 rfl rfl)
theorem dX1_restore_85 : decode cX1_restore 85 = .ok (.goto (-34), 3) := dk_167 255 222 (dk_at dksX1_restore_3 16 rfl rfl)
theorem dX1_restore_88 : decode cX1_restore 88 = .ok (.aload_n 0, 1) := dk_42 (dk_at dksX1_restore_3 19 rfl rfl)
theorem dX1_restore_89 : decode cX1_restore 89 = .ok (.iconst 0, 1) := dk_3 (dk_at dksX1_restore_3 20 rfl rfl)
theorem dX1_restore_90 : decode cX1_restore 90 = .ok (.putfield 101, 3) := dk_181 0 101 (dk_at dksX1_restore_3 21 rfl rfl)
theorem dX1_restore_93 : decode cX1_restore 93 = .ok (.aload_n 0, 1) := dk_42 (dk_at dksX1_restore_4 0 rfl rfl)
theorem dX1_restore_94 : decode cX1_restore 94 = .ok (.getfield 107, 3) := dk_180 0 107 (dk_at dksX1_restore_4 1 rfl rfl)
theorem dX1_restore_97 : decode cX1_restore 97 = .ok (.ireturn, 1) := dk_172 (dk_at dksX1_restore_4 4 rfl rfl)
abbrev cX1_status : ByteArray := prog_1_method_74_code
def yX1_status : MethodName := ⟨RX1, "status", "(I)I"⟩
def dkwX1_status_0 : List UInt8 := [27, 184, 1, 55, 153, 0, 12, 42, 180, 0, 47, 27, 46, 167, 0, 4, 2, 172]
abbrev dktX1_status_0 : List UInt8 := dkwX1_status_0 ++ []
theorem dksX1_status_0 : cX1_status.data.toList.drop 0 = dktX1_status_0 := by decide +kernel
theorem dX1_status_0 : decode cX1_status 0 = .ok (.iload_n 1, 1) := dk_27 (dk_at dksX1_status_0 0 rfl rfl)
theorem dX1_status_1 : decode cX1_status 1 = .ok (.invokestatic 311, 3) := dk_184 1 55 (dk_at dksX1_status_0 1 rfl rfl)
theorem dX1_status_4 : decode cX1_status 4 = .ok (.ifCond .eq 12, 3) := dk_153 0 12 (dk_at dksX1_status_0 4 rfl rfl)
theorem dX1_status_7 : decode cX1_status 7 = .ok (.aload_n 0, 1) := dk_42 (dk_at dksX1_status_0 7 rfl rfl)
theorem dX1_status_8 : decode cX1_status 8 = .ok (.getfield 47, 3) := dk_180 0 47 (dk_at dksX1_status_0 8 rfl rfl)
theorem dX1_status_11 : decode cX1_status 11 = .ok (.iload_n 1, 1) := dk_27 (dk_at dksX1_status_0 11 rfl rfl)
theorem dX1_status_12 : decode cX1_status 12 = .ok (.iaload, 1) := dk_46 (dk_at dksX1_status_0 12 rfl rfl)
theorem dX1_status_13 : decode cX1_status 13 = .ok (.goto 4, 3) := dk_167 0 4 (dk_at dksX1_status_0 13 rfl rfl)
theorem dX1_status_16 : decode cX1_status 16 = .ok (.iconst (-1), 1) := dk_2 (dk_at dksX1_status_0 16 rfl rfl)
theorem dX1_status_17 : decode cX1_status 17 = .ok (.ireturn, 1) := dk_172 (dk_at dksX1_status_0 17 rfl rfl)
abbrev cX1_isPart : ByteArray := prog_1_method_13_code
def yX1_isPart : MethodName := ⟨RX1, "isPart", "(I)Z"⟩
def dkwX1_isPart_0 : List UInt8 := [26, 153, 0, 8, 26, 4, 160, 0, 7, 4, 167, 0, 4, 3, 172]
abbrev dktX1_isPart_0 : List UInt8 := dkwX1_isPart_0 ++ []
theorem dksX1_isPart_0 : cX1_isPart.data.toList.drop 0 = dktX1_isPart_0 := by decide +kernel
theorem dX1_isPart_0 : decode cX1_isPart 0 = .ok (.iload_n 0, 1) := dk_26 (dk_at dksX1_isPart_0 0 rfl rfl)
theorem dX1_isPart_1 : decode cX1_isPart 1 = .ok (.ifCond .eq 8, 3) := dk_153 0 8 (dk_at dksX1_isPart_0 1 rfl rfl)
theorem dX1_isPart_4 : decode cX1_isPart 4 = .ok (.iload_n 0, 1) := dk_26 (dk_at dksX1_isPart_0 4 rfl rfl)
theorem dX1_isPart_5 : decode cX1_isPart 5 = .ok (.iconst 1, 1) := dk_4 (dk_at dksX1_isPart_0 5 rfl rfl)
theorem dX1_isPart_6 : decode cX1_isPart 6 = .ok (.if_icmp .ne 7, 3) := dk_160 0 7 (dk_at dksX1_isPart_0 6 rfl rfl)
theorem dX1_isPart_9 : decode cX1_isPart 9 = .ok (.iconst 1, 1) := dk_4 (dk_at dksX1_isPart_0 9 rfl rfl)
theorem dX1_isPart_10 : decode cX1_isPart 10 = .ok (.goto 4, 3) := dk_167 0 4 (dk_at dksX1_isPart_0 10 rfl rfl)
theorem dX1_isPart_13 : decode cX1_isPart 13 = .ok (.iconst 0, 1) := dk_3 (dk_at dksX1_isPart_0 13 rfl rfl)
theorem dX1_isPart_14 : decode cX1_isPart 14 = .ok (.ireturn, 1) := dk_172 (dk_at dksX1_isPart_0 14 rfl rfl)
abbrev cX1_count : ByteArray := prog_1_method_75_code
def yX1_count : MethodName := ⟨RX1, "count", "(I)I"⟩
def dkwX1_count_1 : List UInt8 := [5, 160, 0, 10, 42, 180, 0, 98, 167, 0, 4, 2, 172]
abbrev dktX1_count_1 : List UInt8 := dkwX1_count_1 ++ []
def dkwX1_count_0 : List UInt8 := [27, 154, 0, 10, 42, 180, 0, 107, 167, 0, 28, 27, 4, 160, 0, 10, 42, 180, 0, 160, 167, 0, 16, 27]
abbrev dktX1_count_0 : List UInt8 := dkwX1_count_0 ++ dktX1_count_1
theorem dksX1_count_0 : cX1_count.data.toList.drop 0 = dktX1_count_0 := by decide +kernel
theorem dksX1_count_1 : cX1_count.data.toList.drop 24 = dktX1_count_1 := dk_seg dksX1_count_0 24 rfl rfl
theorem dX1_count_0 : decode cX1_count 0 = .ok (.iload_n 1, 1) := dk_27 (dk_at dksX1_count_0 0 rfl rfl)
theorem dX1_count_1 : decode cX1_count 1 = .ok (.ifCond .ne 10, 3) := dk_154 0 10 (dk_at dksX1_count_0 1 rfl rfl)
theorem dX1_count_4 : decode cX1_count 4 = .ok (.aload_n 0, 1) := dk_42 (dk_at dksX1_count_0 4 rfl rfl)
theorem dX1_count_5 : decode cX1_count 5 = .ok (.getfield 107, 3) := dk_180 0 107 (dk_at dksX1_count_0 5 rfl rfl)
theorem dX1_count_8 : decode cX1_count 8 = .ok (.goto 28, 3) := dk_167 0 28 (dk_at dksX1_count_0 8 rfl rfl)
theorem dX1_count_11 : decode cX1_count 11 = .ok (.iload_n 1, 1) := dk_27 (dk_at dksX1_count_0 11 rfl rfl)
theorem dX1_count_12 : decode cX1_count 12 = .ok (.iconst 1, 1) := dk_4 (dk_at dksX1_count_0 12 rfl rfl)
theorem dX1_count_13 : decode cX1_count 13 = .ok (.if_icmp .ne 10, 3) := dk_160 0 10 (dk_at dksX1_count_0 13 rfl rfl)
theorem dX1_count_16 : decode cX1_count 16 = .ok (.aload_n 0, 1) := dk_42 (dk_at dksX1_count_0 16 rfl rfl)
theorem dX1_count_17 : decode cX1_count 17 = .ok (.getfield 160, 3) := dk_180 0 160 (dk_at dksX1_count_0 17 rfl rfl)
theorem dX1_count_20 : decode cX1_count 20 = .ok (.goto 16, 3) := dk_167 0 16 (dk_at dksX1_count_0 20 rfl rfl)
theorem dX1_count_23 : decode cX1_count 23 = .ok (.iload_n 1, 1) := dk_27 (dk_at dksX1_count_0 23 rfl rfl)
theorem dX1_count_24 : decode cX1_count 24 = .ok (.iconst 2, 1) := dk_5 (dk_at dksX1_count_1 0 rfl rfl)
theorem dX1_count_25 : decode cX1_count 25 = .ok (.if_icmp .ne 10, 3) := dk_160 0 10 (dk_at dksX1_count_1 1 rfl rfl)
theorem dX1_count_28 : decode cX1_count 28 = .ok (.aload_n 0, 1) := dk_42 (dk_at dksX1_count_1 4 rfl rfl)
theorem dX1_count_29 : decode cX1_count 29 = .ok (.getfield 98, 3) := dk_180 0 98 (dk_at dksX1_count_1 5 rfl rfl)
theorem dX1_count_32 : decode cX1_count 32 = .ok (.goto 4, 3) := dk_167 0 4 (dk_at dksX1_count_1 8 rfl rfl)
theorem dX1_count_35 : decode cX1_count 35 = .ok (.iconst (-1), 1) := dk_2 (dk_at dksX1_count_1 11 rfl rfl)
theorem dX1_count_36 : decode cX1_count 36 = .ok (.ireturn, 1) := dk_172 (dk_at dksX1_count_1 12 rfl rfl)
abbrev cX1_land : ByteArray := prog_1_method_19_code
def yX1_land : MethodName := ⟨RX1, "land", "(I)I"⟩
def dkwX1_land_3 : List UInt8 := [181, 0, 160, 29, 172, 58, 4, 42, 3, 181, 0, 160, 25, 4, 191]
abbrev dktX1_land_3 : List UInt8 := dkwX1_land_3 ++ []
def dkwX1_land_2 : List UInt8 := [182, 0, 92, 42, 182, 0, 152, 61, 42, 3, 181, 0, 160, 28, 172, 77, 42, 44, 182, 0, 187, 62, 42, 3]
abbrev dktX1_land_2 : List UInt8 := dkwX1_land_2 ++ dktX1_land_3
def dkwX1_land_1 : List UInt8 := [181, 0, 75, 42, 187, 0, 178, 89, 42, 180, 0, 79, 27, 183, 0, 180, 182, 0, 183, 181, 0, 28, 42]
abbrev dktX1_land_1 : List UInt8 := dkwX1_land_1 ++ dktX1_land_2
def dkwX1_land_0 : List UInt8 := [42, 27, 155, 0, 15, 27, 42, 180, 0, 160, 163, 0, 7, 4, 167, 0, 4, 3, 182, 0, 174, 42, 2]
abbrev dktX1_land_0 : List UInt8 := dkwX1_land_0 ++ dktX1_land_1
theorem dksX1_land_0 : cX1_land.data.toList.drop 0 = dktX1_land_0 := by decide +kernel
theorem dksX1_land_1 : cX1_land.data.toList.drop 23 = dktX1_land_1 := dk_seg dksX1_land_0 23 rfl rfl
theorem dksX1_land_2 : cX1_land.data.toList.drop 46 = dktX1_land_2 := dk_seg dksX1_land_1 23 rfl rfl
theorem dksX1_land_3 : cX1_land.data.toList.drop 70 = dktX1_land_3 := dk_seg dksX1_land_2 24 rfl rfl
theorem dX1_land_0 : decode cX1_land 0 = .ok (.aload_n 0, 1) := dk_42 (dk_at dksX1_land_0 0 rfl rfl)
theorem dX1_land_1 : decode cX1_land 1 = .ok (.iload_n 1, 1) := dk_27 (dk_at dksX1_land_0 1 rfl rfl)
theorem dX1_land_2 : decode cX1_land 2 = .ok (.ifCond .lt 15, 3) := dk_155 0 15 (dk_at dksX1_land_0 2 rfl rfl)
theorem dX1_land_5 : decode cX1_land 5 = .ok (.iload_n 1, 1) := dk_27 (dk_at dksX1_land_0 5 rfl rfl)
theorem dX1_land_6 : decode cX1_land 6 = .ok (.aload_n 0, 1) := dk_42 (dk_at dksX1_land_0 6 rfl rfl)
theorem dX1_land_7 : decode cX1_land 7 = .ok (.getfield 160, 3) := dk_180 0 160 (dk_at dksX1_land_0 7 rfl rfl)
theorem dX1_land_10 : decode cX1_land 10 = .ok (.if_icmp .gt 7, 3) := dk_163 0 7 (dk_at dksX1_land_0 10 rfl rfl)
theorem dX1_land_13 : decode cX1_land 13 = .ok (.iconst 1, 1) := dk_4 (dk_at dksX1_land_0 13 rfl rfl)
theorem dX1_land_14 : decode cX1_land 14 = .ok (.goto 4, 3) := dk_167 0 4 (dk_at dksX1_land_0 14 rfl rfl)
theorem dX1_land_17 : decode cX1_land 17 = .ok (.iconst 0, 1) := dk_3 (dk_at dksX1_land_0 17 rfl rfl)
theorem dX1_land_18 : decode cX1_land 18 = .ok (.invokevirtual 174, 3) := dk_182 0 174 (dk_at dksX1_land_0 18 rfl rfl)
theorem dX1_land_21 : decode cX1_land 21 = .ok (.aload_n 0, 1) := dk_42 (dk_at dksX1_land_0 21 rfl rfl)
theorem dX1_land_22 : decode cX1_land 22 = .ok (.iconst (-1), 1) := dk_2 (dk_at dksX1_land_0 22 rfl rfl)
theorem dX1_land_23 : decode cX1_land 23 = .ok (.putfield 75, 3) := dk_181 0 75 (dk_at dksX1_land_1 0 rfl rfl)
theorem dX1_land_26 : decode cX1_land 26 = .ok (.aload_n 0, 1) := dk_42 (dk_at dksX1_land_1 3 rfl rfl)
theorem dX1_land_27 : decode cX1_land 27 = .ok (.new 178, 3) := dk_187 0 178 (dk_at dksX1_land_1 4 rfl rfl)
theorem dX1_land_30 : decode cX1_land 30 = .ok (.dup, 1) := dk_89 (dk_at dksX1_land_1 7 rfl rfl)
theorem dX1_land_31 : decode cX1_land 31 = .ok (.aload_n 0, 1) := dk_42 (dk_at dksX1_land_1 8 rfl rfl)
theorem dX1_land_32 : decode cX1_land 32 = .ok (.getfield 79, 3) := dk_180 0 79 (dk_at dksX1_land_1 9 rfl rfl)
theorem dX1_land_35 : decode cX1_land 35 = .ok (.iload_n 1, 1) := dk_27 (dk_at dksX1_land_1 12 rfl rfl)
theorem dX1_land_36 : decode cX1_land 36 = .ok (.invokespecial 180, 3) := dk_183 0 180 (dk_at dksX1_land_1 13 rfl rfl)
theorem dX1_land_39 : decode cX1_land 39 = .ok (.invokevirtual 183, 3) := dk_182 0 183 (dk_at dksX1_land_1 16 rfl rfl)
theorem dX1_land_42 : decode cX1_land 42 = .ok (.putfield 28, 3) := dk_181 0 28 (dk_at dksX1_land_1 19 rfl rfl)
theorem dX1_land_45 : decode cX1_land 45 = .ok (.aload_n 0, 1) := dk_42 (dk_at dksX1_land_1 22 rfl rfl)
theorem dX1_land_46 : decode cX1_land 46 = .ok (.invokevirtual 92, 3) := dk_182 0 92 (dk_at dksX1_land_2 0 rfl rfl)
theorem dX1_land_49 : decode cX1_land 49 = .ok (.aload_n 0, 1) := dk_42 (dk_at dksX1_land_2 3 rfl rfl)
theorem dX1_land_50 : decode cX1_land 50 = .ok (.invokevirtual 152, 3) := dk_182 0 152 (dk_at dksX1_land_2 4 rfl rfl)
theorem dX1_land_53 : decode cX1_land 53 = .ok (.istore_n 2, 1) := dk_61 (dk_at dksX1_land_2 7 rfl rfl)
theorem dX1_land_54 : decode cX1_land 54 = .ok (.aload_n 0, 1) := dk_42 (dk_at dksX1_land_2 8 rfl rfl)
theorem dX1_land_55 : decode cX1_land 55 = .ok (.iconst 0, 1) := dk_3 (dk_at dksX1_land_2 9 rfl rfl)
theorem dX1_land_56 : decode cX1_land 56 = .ok (.putfield 160, 3) := dk_181 0 160 (dk_at dksX1_land_2 10 rfl rfl)
theorem dX1_land_59 : decode cX1_land 59 = .ok (.iload_n 2, 1) := dk_28 (dk_at dksX1_land_2 13 rfl rfl)
theorem dX1_land_60 : decode cX1_land 60 = .ok (.ireturn, 1) := dk_172 (dk_at dksX1_land_2 14 rfl rfl)
theorem dX1_land_61 : decode cX1_land 61 = .ok (.astore_n 2, 1) := dk_77 (dk_at dksX1_land_2 15 rfl rfl)
theorem dX1_land_62 : decode cX1_land 62 = .ok (.aload_n 0, 1) := dk_42 (dk_at dksX1_land_2 16 rfl rfl)
theorem dX1_land_63 : decode cX1_land 63 = .ok (.aload_n 2, 1) := dk_44 (dk_at dksX1_land_2 17 rfl rfl)
theorem dX1_land_64 : decode cX1_land 64 = .ok (.invokevirtual 187, 3) := dk_182 0 187 (dk_at dksX1_land_2 18 rfl rfl)
theorem dX1_land_67 : decode cX1_land 67 = .ok (.istore_n 3, 1) := dk_62 (dk_at dksX1_land_2 21 rfl rfl)
theorem dX1_land_68 : decode cX1_land 68 = .ok (.aload_n 0, 1) := dk_42 (dk_at dksX1_land_2 22 rfl rfl)
theorem dX1_land_69 : decode cX1_land 69 = .ok (.iconst 0, 1) := dk_3 (dk_at dksX1_land_2 23 rfl rfl)
theorem dX1_land_70 : decode cX1_land 70 = .ok (.putfield 160, 3) := dk_181 0 160 (dk_at dksX1_land_3 0 rfl rfl)
theorem dX1_land_73 : decode cX1_land 73 = .ok (.iload_n 3, 1) := dk_29 (dk_at dksX1_land_3 3 rfl rfl)
theorem dX1_land_74 : decode cX1_land 74 = .ok (.ireturn, 1) := dk_172 (dk_at dksX1_land_3 4 rfl rfl)
theorem dX1_land_75 : decode cX1_land 75 = .ok (.astore 4, 2) := dk_58 4 (dk_at dksX1_land_3 5 rfl rfl)
theorem dX1_land_77 : decode cX1_land 77 = .ok (.aload_n 0, 1) := dk_42 (dk_at dksX1_land_3 7 rfl rfl)
theorem dX1_land_78 : decode cX1_land 78 = .ok (.iconst 0, 1) := dk_3 (dk_at dksX1_land_3 8 rfl rfl)
theorem dX1_land_79 : decode cX1_land 79 = .ok (.putfield 160, 3) := dk_181 0 160 (dk_at dksX1_land_3 9 rfl rfl)
theorem dX1_land_82 : decode cX1_land 82 = .ok (.aload 4, 2) := dk_25 4 (dk_at dksX1_land_3 12 rfl rfl)
theorem dX1_land_84 : decode cX1_land 84 = .ok (.athrow, 1) := dk_191 (dk_at dksX1_land_3 14 rfl rfl)
abbrev cX1_need : ByteArray := prog_1_method_9_code
def yX1_need : MethodName := ⟨RX1, "need", "(Z)V"⟩
def dkwX1_need_0 : List UInt8 := [27, 153, 0, 4, 177, 42, 180, 0, 47, 4, 92, 46, 4, 96, 79, 187, 0, 146, 89, 183, 0, 148, 191]
abbrev dktX1_need_0 : List UInt8 := dkwX1_need_0 ++ []
theorem dksX1_need_0 : cX1_need.data.toList.drop 0 = dktX1_need_0 := by decide +kernel
theorem dX1_need_0 : decode cX1_need 0 = .ok (.iload_n 1, 1) := dk_27 (dk_at dksX1_need_0 0 rfl rfl)
theorem dX1_need_1 : decode cX1_need 1 = .ok (.ifCond .eq 4, 3) := dk_153 0 4 (dk_at dksX1_need_0 1 rfl rfl)
theorem dX1_need_4 : decode cX1_need 4 = .ok (.return_, 1) := dk_177 (dk_at dksX1_need_0 4 rfl rfl)
theorem dX1_need_5 : decode cX1_need 5 = .ok (.aload_n 0, 1) := dk_42 (dk_at dksX1_need_0 5 rfl rfl)
theorem dX1_need_6 : decode cX1_need 6 = .ok (.getfield 47, 3) := dk_180 0 47 (dk_at dksX1_need_0 6 rfl rfl)
theorem dX1_need_9 : decode cX1_need 9 = .ok (.iconst 1, 1) := dk_4 (dk_at dksX1_need_0 9 rfl rfl)
theorem dX1_need_10 : decode cX1_need 10 = .ok (.dup2, 1) := dk_92 (dk_at dksX1_need_0 10 rfl rfl)
theorem dX1_need_11 : decode cX1_need 11 = .ok (.iaload, 1) := dk_46 (dk_at dksX1_need_0 11 rfl rfl)
theorem dX1_need_12 : decode cX1_need 12 = .ok (.iconst 1, 1) := dk_4 (dk_at dksX1_need_0 12 rfl rfl)
theorem dX1_need_13 : decode cX1_need 13 = .ok (.iadd, 1) := dk_96 (dk_at dksX1_need_0 13 rfl rfl)
theorem dX1_need_14 : decode cX1_need 14 = .ok (.iastore, 1) := dk_79 (dk_at dksX1_need_0 14 rfl rfl)
theorem dX1_need_15 : decode cX1_need 15 = .ok (.new 146, 3) := dk_187 0 146 (dk_at dksX1_need_0 15 rfl rfl)
theorem dX1_need_18 : decode cX1_need 18 = .ok (.dup, 1) := dk_89 (dk_at dksX1_need_0 18 rfl rfl)
theorem dX1_need_19 : decode cX1_need 19 = .ok (.invokespecial 148, 3) := dk_183 0 148 (dk_at dksX1_need_0 19 rfl rfl)
theorem dX1_need_22 : decode cX1_need 22 = .ok (.athrow, 1) := dk_191 (dk_at dksX1_need_0 22 rfl rfl)
abbrev cX1_failed : ByteArray := prog_1_method_18_code
def yX1_failed : MethodName := ⟨RX1, "failed", "(LDimpleWells$Wrong;)I"⟩
def dkwX1_failed_0 : List UInt8 := [42, 43, 180, 0, 166, 181, 0, 75, 43, 180, 0, 171, 16, 10, 100, 172]
abbrev dktX1_failed_0 : List UInt8 := dkwX1_failed_0 ++ []
theorem dksX1_failed_0 : cX1_failed.data.toList.drop 0 = dktX1_failed_0 := by decide +kernel
theorem dX1_failed_0 : decode cX1_failed 0 = .ok (.aload_n 0, 1) := dk_42 (dk_at dksX1_failed_0 0 rfl rfl)
theorem dX1_failed_1 : decode cX1_failed 1 = .ok (.aload_n 1, 1) := dk_43 (dk_at dksX1_failed_0 1 rfl rfl)
theorem dX1_failed_2 : decode cX1_failed 2 = .ok (.getfield 166, 3) := dk_180 0 166 (dk_at dksX1_failed_0 2 rfl rfl)
theorem dX1_failed_5 : decode cX1_failed 5 = .ok (.putfield 75, 3) := dk_181 0 75 (dk_at dksX1_failed_0 5 rfl rfl)
theorem dX1_failed_8 : decode cX1_failed 8 = .ok (.aload_n 1, 1) := dk_43 (dk_at dksX1_failed_0 8 rfl rfl)
theorem dX1_failed_9 : decode cX1_failed 9 = .ok (.getfield 171, 3) := dk_180 0 171 (dk_at dksX1_failed_0 9 rfl rfl)
theorem dX1_failed_12 : decode cX1_failed 12 = .ok (.bipush 10, 2) := dk_16 10 (dk_at dksX1_failed_0 12 rfl rfl)
theorem dX1_failed_14 : decode cX1_failed 14 = .ok (.isub, 1) := dk_100 (dk_at dksX1_failed_0 14 rfl rfl)
theorem dX1_failed_15 : decode cX1_failed 15 = .ok (.ireturn, 1) := dk_172 (dk_at dksX1_failed_0 15 rfl rfl)
abbrev cX1_law : ByteArray := prog_1_method_20_code
def yX1_law : MethodName := ⟨RX1, "law", "(I)I"⟩
def dkwX1_law_3 : List UInt8 := [181, 0, 160, 29, 172, 58, 4, 42, 3, 181, 0, 160, 25, 4, 191]
abbrev dktX1_law_3 : List UInt8 := dkwX1_law_3 ++ []
def dkwX1_law_2 : List UInt8 := [182, 0, 194, 181, 0, 36, 4, 61, 42, 3, 181, 0, 160, 28, 172, 77, 42, 44, 182, 0, 187, 62, 42, 3]
abbrev dktX1_law_2 : List UInt8 := dkwX1_law_2 ++ dktX1_law_3
def dkwX1_law_1 : List UInt8 := [3, 182, 0, 174, 42, 2, 181, 0, 75, 42, 187, 0, 191, 89, 42, 180, 0, 79, 27, 183, 0, 193]
abbrev dktX1_law_1 : List UInt8 := dkwX1_law_1 ++ dktX1_law_2
def dkwX1_law_0 : List UInt8 := [42, 27, 155, 0, 22, 27, 42, 180, 0, 160, 163, 0, 14, 27, 17, 0, 150, 163, 0, 7, 4, 167, 0, 4]
abbrev dktX1_law_0 : List UInt8 := dkwX1_law_0 ++ dktX1_law_1
theorem dksX1_law_0 : cX1_law.data.toList.drop 0 = dktX1_law_0 := by decide +kernel
theorem dksX1_law_1 : cX1_law.data.toList.drop 24 = dktX1_law_1 := dk_seg dksX1_law_0 24 rfl rfl
theorem dksX1_law_2 : cX1_law.data.toList.drop 46 = dktX1_law_2 := dk_seg dksX1_law_1 22 rfl rfl
theorem dksX1_law_3 : cX1_law.data.toList.drop 70 = dktX1_law_3 := dk_seg dksX1_law_2 24 rfl rfl
theorem dX1_law_0 : decode cX1_law 0 = .ok (.aload_n 0, 1) := dk_42 (dk_at dksX1_law_0 0 rfl rfl)
theorem dX1_law_1 : decode cX1_law 1 = .ok (.iload_n 1, 1) := dk_27 (dk_at dksX1_law_0 1 rfl rfl)
theorem dX1_law_2 : decode cX1_law 2 = .ok (.ifCond .lt 22, 3) := dk_155 0 22 (dk_at dksX1_law_0 2 rfl rfl)
theorem dX1_law_5 : decode cX1_law 5 = .ok (.iload_n 1, 1) := dk_27 (dk_at dksX1_law_0 5 rfl rfl)
theorem dX1_law_6 : decode cX1_law 6 = .ok (.aload_n 0, 1) := dk_42 (dk_at dksX1_law_0 6 rfl rfl)
theorem dX1_law_7 : decode cX1_law 7 = .ok (.getfield 160, 3) := dk_180 0 160 (dk_at dksX1_law_0 7 rfl rfl)
theorem dX1_law_10 : decode cX1_law 10 = .ok (.if_icmp .gt 14, 3) := dk_163 0 14 (dk_at dksX1_law_0 10 rfl rfl)
theorem dX1_law_13 : decode cX1_law 13 = .ok (.iload_n 1, 1) := dk_27 (dk_at dksX1_law_0 13 rfl rfl)
theorem dX1_law_14 : decode cX1_law 14 = .ok (.sipush 150, 3) := dk_17 0 150 (dk_at dksX1_law_0 14 rfl rfl)
theorem dX1_law_17 : decode cX1_law 17 = .ok (.if_icmp .gt 7, 3) := dk_163 0 7 (dk_at dksX1_law_0 17 rfl rfl)
theorem dX1_law_20 : decode cX1_law 20 = .ok (.iconst 1, 1) := dk_4 (dk_at dksX1_law_0 20 rfl rfl)
theorem dX1_law_21 : decode cX1_law 21 = .ok (.goto 4, 3) := dk_167 0 4 (dk_at dksX1_law_0 21 rfl rfl)
theorem dX1_law_24 : decode cX1_law 24 = .ok (.iconst 0, 1) := dk_3 (dk_at dksX1_law_1 0 rfl rfl)
theorem dX1_law_25 : decode cX1_law 25 = .ok (.invokevirtual 174, 3) := dk_182 0 174 (dk_at dksX1_law_1 1 rfl rfl)
theorem dX1_law_28 : decode cX1_law 28 = .ok (.aload_n 0, 1) := dk_42 (dk_at dksX1_law_1 4 rfl rfl)
theorem dX1_law_29 : decode cX1_law 29 = .ok (.iconst (-1), 1) := dk_2 (dk_at dksX1_law_1 5 rfl rfl)
theorem dX1_law_30 : decode cX1_law 30 = .ok (.putfield 75, 3) := dk_181 0 75 (dk_at dksX1_law_1 6 rfl rfl)
theorem dX1_law_33 : decode cX1_law 33 = .ok (.aload_n 0, 1) := dk_42 (dk_at dksX1_law_1 9 rfl rfl)
theorem dX1_law_34 : decode cX1_law 34 = .ok (.new 191, 3) := dk_187 0 191 (dk_at dksX1_law_1 10 rfl rfl)
theorem dX1_law_37 : decode cX1_law 37 = .ok (.dup, 1) := dk_89 (dk_at dksX1_law_1 13 rfl rfl)
theorem dX1_law_38 : decode cX1_law 38 = .ok (.aload_n 0, 1) := dk_42 (dk_at dksX1_law_1 14 rfl rfl)
theorem dX1_law_39 : decode cX1_law 39 = .ok (.getfield 79, 3) := dk_180 0 79 (dk_at dksX1_law_1 15 rfl rfl)
theorem dX1_law_42 : decode cX1_law 42 = .ok (.iload_n 1, 1) := dk_27 (dk_at dksX1_law_1 18 rfl rfl)
theorem dX1_law_43 : decode cX1_law 43 = .ok (.invokespecial 193, 3) := dk_183 0 193 (dk_at dksX1_law_1 19 rfl rfl)
theorem dX1_law_46 : decode cX1_law 46 = .ok (.invokevirtual 194, 3) := dk_182 0 194 (dk_at dksX1_law_2 0 rfl rfl)
theorem dX1_law_49 : decode cX1_law 49 = .ok (.putfield 36, 3) := dk_181 0 36 (dk_at dksX1_law_2 3 rfl rfl)
theorem dX1_law_52 : decode cX1_law 52 = .ok (.iconst 1, 1) := dk_4 (dk_at dksX1_law_2 6 rfl rfl)
theorem dX1_law_53 : decode cX1_law 53 = .ok (.istore_n 2, 1) := dk_61 (dk_at dksX1_law_2 7 rfl rfl)
theorem dX1_law_54 : decode cX1_law 54 = .ok (.aload_n 0, 1) := dk_42 (dk_at dksX1_law_2 8 rfl rfl)
theorem dX1_law_55 : decode cX1_law 55 = .ok (.iconst 0, 1) := dk_3 (dk_at dksX1_law_2 9 rfl rfl)
theorem dX1_law_56 : decode cX1_law 56 = .ok (.putfield 160, 3) := dk_181 0 160 (dk_at dksX1_law_2 10 rfl rfl)
theorem dX1_law_59 : decode cX1_law 59 = .ok (.iload_n 2, 1) := dk_28 (dk_at dksX1_law_2 13 rfl rfl)
theorem dX1_law_60 : decode cX1_law 60 = .ok (.ireturn, 1) := dk_172 (dk_at dksX1_law_2 14 rfl rfl)
theorem dX1_law_61 : decode cX1_law 61 = .ok (.astore_n 2, 1) := dk_77 (dk_at dksX1_law_2 15 rfl rfl)
theorem dX1_law_62 : decode cX1_law 62 = .ok (.aload_n 0, 1) := dk_42 (dk_at dksX1_law_2 16 rfl rfl)
theorem dX1_law_63 : decode cX1_law 63 = .ok (.aload_n 2, 1) := dk_44 (dk_at dksX1_law_2 17 rfl rfl)
theorem dX1_law_64 : decode cX1_law 64 = .ok (.invokevirtual 187, 3) := dk_182 0 187 (dk_at dksX1_law_2 18 rfl rfl)
theorem dX1_law_67 : decode cX1_law 67 = .ok (.istore_n 3, 1) := dk_62 (dk_at dksX1_law_2 21 rfl rfl)
theorem dX1_law_68 : decode cX1_law 68 = .ok (.aload_n 0, 1) := dk_42 (dk_at dksX1_law_2 22 rfl rfl)
theorem dX1_law_69 : decode cX1_law 69 = .ok (.iconst 0, 1) := dk_3 (dk_at dksX1_law_2 23 rfl rfl)
theorem dX1_law_70 : decode cX1_law 70 = .ok (.putfield 160, 3) := dk_181 0 160 (dk_at dksX1_law_3 0 rfl rfl)
theorem dX1_law_73 : decode cX1_law 73 = .ok (.iload_n 3, 1) := dk_29 (dk_at dksX1_law_3 3 rfl rfl)
theorem dX1_law_74 : decode cX1_law 74 = .ok (.ireturn, 1) := dk_172 (dk_at dksX1_law_3 4 rfl rfl)
theorem dX1_law_75 : decode cX1_law 75 = .ok (.astore 4, 2) := dk_58 4 (dk_at dksX1_law_3 5 rfl rfl)
theorem dX1_law_77 : decode cX1_law 77 = .ok (.aload_n 0, 1) := dk_42 (dk_at dksX1_law_3 7 rfl rfl)
theorem dX1_law_78 : decode cX1_law 78 = .ok (.iconst 0, 1) := dk_3 (dk_at dksX1_law_3 8 rfl rfl)
theorem dX1_law_79 : decode cX1_law 79 = .ok (.putfield 160, 3) := dk_181 0 160 (dk_at dksX1_law_3 9 rfl rfl)
theorem dX1_law_82 : decode cX1_law 82 = .ok (.aload 4, 2) := dk_25 4 (dk_at dksX1_law_3 12 rfl rfl)
theorem dX1_law_84 : decode cX1_law 84 = .ok (.athrow, 1) := dk_191 (dk_at dksX1_law_3 14 rfl rfl)
abbrev cX1_work : ByteArray := prog_1_method_21_code
def yX1_work : MethodName := ⟨RX1, "work", "(I)I"⟩
def dkwX1_work_8 : List UInt8 := [181, 0, 160, 29, 172, 58, 4, 42, 3, 181, 0, 160, 25, 4, 191]
abbrev dktX1_work_8 : List UInt8 := dkwX1_work_8 ++ []
def dkwX1_work_7 : List UInt8 := [180, 0, 55, 180, 0, 211, 62, 42, 3, 181, 0, 160, 29, 172, 77, 42, 44, 182, 0, 187, 62, 42, 3]
abbrev dktX1_work_7 : List UInt8 := dkwX1_work_7 ++ dktX1_work_8
def dkwX1_work_6 : List UInt8 := [180, 0, 55, 182, 0, 218, 132, 3, 1, 167, 255, 230, 42, 42, 180, 0, 55, 180, 0, 214, 181, 0, 101, 42]
abbrev dktX1_work_6 : List UInt8 := dkwX1_work_6 ++ dktX1_work_7
def dkwX1_work_5 : List UInt8 := [181, 0, 214, 3, 62, 29, 44, 182, 0, 114, 162, 0, 24, 44, 29, 182, 0, 123, 192, 0, 216, 42]
abbrev dktX1_work_5 : List UInt8 := dkwX1_work_5 ++ dktX1_work_6
def dkwX1_work_4 : List UInt8 := [181, 0, 98, 42, 180, 0, 55, 3, 181, 0, 208, 42, 180, 0, 55, 3, 181, 0, 211, 42, 180, 0, 55, 3]
abbrev dktX1_work_4 : List UInt8 := dkwX1_work_4 ++ dktX1_work_5
def dkwX1_work_3 : List UInt8 := [77, 42, 42, 180, 0, 62, 42, 180, 0, 98, 42, 180, 0, 55, 182, 0, 204, 42, 89, 180, 0, 98, 4, 96]
abbrev dktX1_work_3 : List UInt8 := dkwX1_work_3 ++ dktX1_work_4
def dkwX1_work_2 : List UInt8 := [181, 0, 160, 28, 172, 187, 0, 196, 89, 42, 180, 0, 79, 27, 42, 180, 0, 28, 183, 0, 198, 182, 0, 201]
abbrev dktX1_work_2 : List UInt8 := dkwX1_work_2 ++ dktX1_work_3
def dkwX1_work_1 : List UInt8 := [3, 182, 0, 174, 42, 2, 181, 0, 75, 42, 180, 0, 98, 16, 16, 160, 0, 13, 16, 236, 61, 42, 3]
abbrev dktX1_work_1 : List UInt8 := dkwX1_work_1 ++ dktX1_work_2
def dkwX1_work_0 : List UInt8 := [42, 27, 155, 0, 22, 27, 42, 180, 0, 160, 163, 0, 14, 27, 17, 0, 150, 163, 0, 7, 4, 167, 0, 4]
abbrev dktX1_work_0 : List UInt8 := dkwX1_work_0 ++ dktX1_work_1
theorem dksX1_work_0 : cX1_work.data.toList.drop 0 = dktX1_work_0 := by decide +kernel
theorem dksX1_work_1 : cX1_work.data.toList.drop 24 = dktX1_work_1 := dk_seg dksX1_work_0 24 rfl rfl
theorem dksX1_work_2 : cX1_work.data.toList.drop 47 = dktX1_work_2 := dk_seg dksX1_work_1 23 rfl rfl
theorem dksX1_work_3 : cX1_work.data.toList.drop 71 = dktX1_work_3 := dk_seg dksX1_work_2 24 rfl rfl
theorem dksX1_work_4 : cX1_work.data.toList.drop 95 = dktX1_work_4 := dk_seg dksX1_work_3 24 rfl rfl
theorem dksX1_work_5 : cX1_work.data.toList.drop 119 = dktX1_work_5 := dk_seg dksX1_work_4 24 rfl rfl
theorem dksX1_work_6 : cX1_work.data.toList.drop 141 = dktX1_work_6 := dk_seg dksX1_work_5 22 rfl rfl
theorem dksX1_work_7 : cX1_work.data.toList.drop 165 = dktX1_work_7 := dk_seg dksX1_work_6 24 rfl rfl
theorem dksX1_work_8 : cX1_work.data.toList.drop 188 = dktX1_work_8 := dk_seg dksX1_work_7 23 rfl rfl
theorem dX1_work_0 : decode cX1_work 0 = .ok (.aload_n 0, 1) := dk_42 (dk_at dksX1_work_0 0 rfl rfl)
theorem dX1_work_1 : decode cX1_work 1 = .ok (.iload_n 1, 1) := dk_27 (dk_at dksX1_work_0 1 rfl rfl)
theorem dX1_work_2 : decode cX1_work 2 = .ok (.ifCond .lt 22, 3) := dk_155 0 22 (dk_at dksX1_work_0 2 rfl rfl)
theorem dX1_work_5 : decode cX1_work 5 = .ok (.iload_n 1, 1) := dk_27 (dk_at dksX1_work_0 5 rfl rfl)
theorem dX1_work_6 : decode cX1_work 6 = .ok (.aload_n 0, 1) := dk_42 (dk_at dksX1_work_0 6 rfl rfl)
theorem dX1_work_7 : decode cX1_work 7 = .ok (.getfield 160, 3) := dk_180 0 160 (dk_at dksX1_work_0 7 rfl rfl)
theorem dX1_work_10 : decode cX1_work 10 = .ok (.if_icmp .gt 14, 3) := dk_163 0 14 (dk_at dksX1_work_0 10 rfl rfl)
theorem dX1_work_13 : decode cX1_work 13 = .ok (.iload_n 1, 1) := dk_27 (dk_at dksX1_work_0 13 rfl rfl)
theorem dX1_work_14 : decode cX1_work 14 = .ok (.sipush 150, 3) := dk_17 0 150 (dk_at dksX1_work_0 14 rfl rfl)
theorem dX1_work_17 : decode cX1_work 17 = .ok (.if_icmp .gt 7, 3) := dk_163 0 7 (dk_at dksX1_work_0 17 rfl rfl)
theorem dX1_work_20 : decode cX1_work 20 = .ok (.iconst 1, 1) := dk_4 (dk_at dksX1_work_0 20 rfl rfl)
theorem dX1_work_21 : decode cX1_work 21 = .ok (.goto 4, 3) := dk_167 0 4 (dk_at dksX1_work_0 21 rfl rfl)
theorem dX1_work_24 : decode cX1_work 24 = .ok (.iconst 0, 1) := dk_3 (dk_at dksX1_work_1 0 rfl rfl)
theorem dX1_work_25 : decode cX1_work 25 = .ok (.invokevirtual 174, 3) := dk_182 0 174 (dk_at dksX1_work_1 1 rfl rfl)
theorem dX1_work_28 : decode cX1_work 28 = .ok (.aload_n 0, 1) := dk_42 (dk_at dksX1_work_1 4 rfl rfl)
theorem dX1_work_29 : decode cX1_work 29 = .ok (.iconst (-1), 1) := dk_2 (dk_at dksX1_work_1 5 rfl rfl)
theorem dX1_work_30 : decode cX1_work 30 = .ok (.putfield 75, 3) := dk_181 0 75 (dk_at dksX1_work_1 6 rfl rfl)
theorem dX1_work_33 : decode cX1_work 33 = .ok (.aload_n 0, 1) := dk_42 (dk_at dksX1_work_1 9 rfl rfl)
theorem dX1_work_34 : decode cX1_work 34 = .ok (.getfield 98, 3) := dk_180 0 98 (dk_at dksX1_work_1 10 rfl rfl)
theorem dX1_work_37 : decode cX1_work 37 = .ok (.bipush 16, 2) := dk_16 16 (dk_at dksX1_work_1 13 rfl rfl)
theorem dX1_work_39 : decode cX1_work 39 = .ok (.if_icmp .ne 13, 3) := dk_160 0 13 (dk_at dksX1_work_1 15 rfl rfl)
theorem dX1_work_42 : decode cX1_work 42 = .ok (.bipush (-20), 2) := dk_16 236 (dk_at dksX1_work_1 18 rfl rfl)
theorem dX1_work_44 : decode cX1_work 44 = .ok (.istore_n 2, 1) := dk_61 (dk_at dksX1_work_1 20 rfl rfl)
theorem dX1_work_45 : decode cX1_work 45 = .ok (.aload_n 0, 1) := dk_42 (dk_at dksX1_work_1 21 rfl rfl)
theorem dX1_work_46 : decode cX1_work 46 = .ok (.iconst 0, 1) := dk_3 (dk_at dksX1_work_1 22 rfl rfl)
theorem dX1_work_47 : decode cX1_work 47 = .ok (.putfield 160, 3) := dk_181 0 160 (dk_at dksX1_work_2 0 rfl rfl)
theorem dX1_work_50 : decode cX1_work 50 = .ok (.iload_n 2, 1) := dk_28 (dk_at dksX1_work_2 3 rfl rfl)
theorem dX1_work_51 : decode cX1_work 51 = .ok (.ireturn, 1) := dk_172 (dk_at dksX1_work_2 4 rfl rfl)
theorem dX1_work_52 : decode cX1_work 52 = .ok (.new 196, 3) := dk_187 0 196 (dk_at dksX1_work_2 5 rfl rfl)
theorem dX1_work_55 : decode cX1_work 55 = .ok (.dup, 1) := dk_89 (dk_at dksX1_work_2 8 rfl rfl)
theorem dX1_work_56 : decode cX1_work 56 = .ok (.aload_n 0, 1) := dk_42 (dk_at dksX1_work_2 9 rfl rfl)
theorem dX1_work_57 : decode cX1_work 57 = .ok (.getfield 79, 3) := dk_180 0 79 (dk_at dksX1_work_2 10 rfl rfl)
theorem dX1_work_60 : decode cX1_work 60 = .ok (.iload_n 1, 1) := dk_27 (dk_at dksX1_work_2 13 rfl rfl)
theorem dX1_work_61 : decode cX1_work 61 = .ok (.aload_n 0, 1) := dk_42 (dk_at dksX1_work_2 14 rfl rfl)
theorem dX1_work_62 : decode cX1_work 62 = .ok (.getfield 28, 3) := dk_180 0 28 (dk_at dksX1_work_2 15 rfl rfl)
theorem dX1_work_65 : decode cX1_work 65 = .ok (.invokespecial 198, 3) := dk_183 0 198 (dk_at dksX1_work_2 18 rfl rfl)
theorem dX1_work_68 : decode cX1_work 68 = .ok (.invokevirtual 201, 3) := dk_182 0 201 (dk_at dksX1_work_2 21 rfl rfl)
theorem dX1_work_71 : decode cX1_work 71 = .ok (.astore_n 2, 1) := dk_77 (dk_at dksX1_work_3 0 rfl rfl)
theorem dX1_work_72 : decode cX1_work 72 = .ok (.aload_n 0, 1) := dk_42 (dk_at dksX1_work_3 1 rfl rfl)
theorem dX1_work_73 : decode cX1_work 73 = .ok (.aload_n 0, 1) := dk_42 (dk_at dksX1_work_3 2 rfl rfl)
theorem dX1_work_74 : decode cX1_work 74 = .ok (.getfield 62, 3) := dk_180 0 62 (dk_at dksX1_work_3 3 rfl rfl)
theorem dX1_work_77 : decode cX1_work 77 = .ok (.aload_n 0, 1) := dk_42 (dk_at dksX1_work_3 6 rfl rfl)
theorem dX1_work_78 : decode cX1_work 78 = .ok (.getfield 98, 3) := dk_180 0 98 (dk_at dksX1_work_3 7 rfl rfl)
theorem dX1_work_81 : decode cX1_work 81 = .ok (.aload_n 0, 1) := dk_42 (dk_at dksX1_work_3 10 rfl rfl)
theorem dX1_work_82 : decode cX1_work 82 = .ok (.getfield 55, 3) := dk_180 0 55 (dk_at dksX1_work_3 11 rfl rfl)
theorem dX1_work_85 : decode cX1_work 85 = .ok (.invokevirtual 204, 3) := dk_182 0 204 (dk_at dksX1_work_3 14 rfl rfl)
theorem dX1_work_88 : decode cX1_work 88 = .ok (.aload_n 0, 1) := dk_42 (dk_at dksX1_work_3 17 rfl rfl)
theorem dX1_work_89 : decode cX1_work 89 = .ok (.dup, 1) := dk_89 (dk_at dksX1_work_3 18 rfl rfl)
theorem dX1_work_90 : decode cX1_work 90 = .ok (.getfield 98, 3) := dk_180 0 98 (dk_at dksX1_work_3 19 rfl rfl)
theorem dX1_work_93 : decode cX1_work 93 = .ok (.iconst 1, 1) := dk_4 (dk_at dksX1_work_3 22 rfl rfl)
theorem dX1_work_94 : decode cX1_work 94 = .ok (.iadd, 1) := dk_96 (dk_at dksX1_work_3 23 rfl rfl)
theorem dX1_work_95 : decode cX1_work 95 = .ok (.putfield 98, 3) := dk_181 0 98 (dk_at dksX1_work_4 0 rfl rfl)
theorem dX1_work_98 : decode cX1_work 98 = .ok (.aload_n 0, 1) := dk_42 (dk_at dksX1_work_4 3 rfl rfl)
theorem dX1_work_99 : decode cX1_work 99 = .ok (.getfield 55, 3) := dk_180 0 55 (dk_at dksX1_work_4 4 rfl rfl)
theorem dX1_work_102 : decode cX1_work 102 = .ok (.iconst 0, 1) := dk_3 (dk_at dksX1_work_4 7 rfl rfl)
theorem dX1_work_103 : decode cX1_work 103 = .ok (.putfield 208, 3) := dk_181 0 208 (dk_at dksX1_work_4 8 rfl rfl)
theorem dX1_work_106 : decode cX1_work 106 = .ok (.aload_n 0, 1) := dk_42 (dk_at dksX1_work_4 11 rfl rfl)
theorem dX1_work_107 : decode cX1_work 107 = .ok (.getfield 55, 3) := dk_180 0 55 (dk_at dksX1_work_4 12 rfl rfl)
theorem dX1_work_110 : decode cX1_work 110 = .ok (.iconst 0, 1) := dk_3 (dk_at dksX1_work_4 15 rfl rfl)
theorem dX1_work_111 : decode cX1_work 111 = .ok (.putfield 211, 3) := dk_181 0 211 (dk_at dksX1_work_4 16 rfl rfl)
theorem dX1_work_114 : decode cX1_work 114 = .ok (.aload_n 0, 1) := dk_42 (dk_at dksX1_work_4 19 rfl rfl)
theorem dX1_work_115 : decode cX1_work 115 = .ok (.getfield 55, 3) := dk_180 0 55 (dk_at dksX1_work_4 20 rfl rfl)
theorem dX1_work_118 : decode cX1_work 118 = .ok (.iconst 0, 1) := dk_3 (dk_at dksX1_work_4 23 rfl rfl)
theorem dX1_work_119 : decode cX1_work 119 = .ok (.putfield 214, 3) := dk_181 0 214 (dk_at dksX1_work_5 0 rfl rfl)
theorem dX1_work_122 : decode cX1_work 122 = .ok (.iconst 0, 1) := dk_3 (dk_at dksX1_work_5 3 rfl rfl)
theorem dX1_work_123 : decode cX1_work 123 = .ok (.istore_n 3, 1) := dk_62 (dk_at dksX1_work_5 4 rfl rfl)
theorem dX1_work_124 : decode cX1_work 124 = .ok (.iload_n 3, 1) := dk_29 (dk_at dksX1_work_5 5 rfl rfl)
theorem dX1_work_125 : decode cX1_work 125 = .ok (.aload_n 2, 1) := dk_44 (dk_at dksX1_work_5 6 rfl rfl)
theorem dX1_work_126 : decode cX1_work 126 = .ok (.invokevirtual 114, 3) := dk_182 0 114 (dk_at dksX1_work_5 7 rfl rfl)
theorem dX1_work_129 : decode cX1_work 129 = .ok (.if_icmp .ge 24, 3) := dk_162 0 24 (dk_at dksX1_work_5 10 rfl rfl)
theorem dX1_work_132 : decode cX1_work 132 = .ok (.aload_n 2, 1) := dk_44 (dk_at dksX1_work_5 13 rfl rfl)
theorem dX1_work_133 : decode cX1_work 133 = .ok (.iload_n 3, 1) := dk_29 (dk_at dksX1_work_5 14 rfl rfl)
theorem dX1_work_134 : decode cX1_work 134 = .ok (.invokevirtual 123, 3) := dk_182 0 123 (dk_at dksX1_work_5 15 rfl rfl)
theorem dX1_work_137 : decode cX1_work 137 = .ok (.checkcast 216, 3) := dk_192 0 216 (dk_at dksX1_work_5 18 rfl rfl)
theorem dX1_work_140 : decode cX1_work 140 = .ok (.aload_n 0, 1) := dk_42 (dk_at dksX1_work_5 21 rfl rfl)
theorem dX1_work_141 : decode cX1_work 141 = .ok (.getfield 55, 3) := dk_180 0 55 (dk_at dksX1_work_6 0 rfl rfl)
theorem dX1_work_144 : decode cX1_work 144 = .ok (.invokevirtual 218, 3) := dk_182 0 218 (dk_at dksX1_work_6 3 rfl rfl)
theorem dX1_work_147 : decode cX1_work 147 = .ok (.iinc 3 1, 3) := dk_132 3 1 (dk_at dksX1_work_6 6 rfl rfl)
theorem dX1_work_150 : decode cX1_work 150 = .ok (.goto (-26), 3) := dk_167 255 230 (dk_at dksX1_work_6 9 rfl rfl)
theorem dX1_work_153 : decode cX1_work 153 = .ok (.aload_n 0, 1) := dk_42 (dk_at dksX1_work_6 12 rfl rfl)
theorem dX1_work_154 : decode cX1_work 154 = .ok (.aload_n 0, 1) := dk_42 (dk_at dksX1_work_6 13 rfl rfl)
theorem dX1_work_155 : decode cX1_work 155 = .ok (.getfield 55, 3) := dk_180 0 55 (dk_at dksX1_work_6 14 rfl rfl)
theorem dX1_work_158 : decode cX1_work 158 = .ok (.getfield 214, 3) := dk_180 0 214 (dk_at dksX1_work_6 17 rfl rfl)
theorem dX1_work_161 : decode cX1_work 161 = .ok (.putfield 101, 3) := dk_181 0 101 (dk_at dksX1_work_6 20 rfl rfl)
theorem dX1_work_164 : decode cX1_work 164 = .ok (.aload_n 0, 1) := dk_42 (dk_at dksX1_work_6 23 rfl rfl)
theorem dX1_work_165 : decode cX1_work 165 = .ok (.getfield 55, 3) := dk_180 0 55 (dk_at dksX1_work_7 0 rfl rfl)
theorem dX1_work_168 : decode cX1_work 168 = .ok (.getfield 211, 3) := dk_180 0 211 (dk_at dksX1_work_7 3 rfl rfl)
theorem dX1_work_171 : decode cX1_work 171 = .ok (.istore_n 3, 1) := dk_62 (dk_at dksX1_work_7 6 rfl rfl)
theorem dX1_work_172 : decode cX1_work 172 = .ok (.aload_n 0, 1) := dk_42 (dk_at dksX1_work_7 7 rfl rfl)
theorem dX1_work_173 : decode cX1_work 173 = .ok (.iconst 0, 1) := dk_3 (dk_at dksX1_work_7 8 rfl rfl)
theorem dX1_work_174 : decode cX1_work 174 = .ok (.putfield 160, 3) := dk_181 0 160 (dk_at dksX1_work_7 9 rfl rfl)
theorem dX1_work_177 : decode cX1_work 177 = .ok (.iload_n 3, 1) := dk_29 (dk_at dksX1_work_7 12 rfl rfl)
theorem dX1_work_178 : decode cX1_work 178 = .ok (.ireturn, 1) := dk_172 (dk_at dksX1_work_7 13 rfl rfl)
theorem dX1_work_179 : decode cX1_work 179 = .ok (.astore_n 2, 1) := dk_77 (dk_at dksX1_work_7 14 rfl rfl)
theorem dX1_work_180 : decode cX1_work 180 = .ok (.aload_n 0, 1) := dk_42 (dk_at dksX1_work_7 15 rfl rfl)
theorem dX1_work_181 : decode cX1_work 181 = .ok (.aload_n 2, 1) := dk_44 (dk_at dksX1_work_7 16 rfl rfl)
theorem dX1_work_182 : decode cX1_work 182 = .ok (.invokevirtual 187, 3) := dk_182 0 187 (dk_at dksX1_work_7 17 rfl rfl)
theorem dX1_work_185 : decode cX1_work 185 = .ok (.istore_n 3, 1) := dk_62 (dk_at dksX1_work_7 20 rfl rfl)
theorem dX1_work_186 : decode cX1_work 186 = .ok (.aload_n 0, 1) := dk_42 (dk_at dksX1_work_7 21 rfl rfl)
theorem dX1_work_187 : decode cX1_work 187 = .ok (.iconst 0, 1) := dk_3 (dk_at dksX1_work_7 22 rfl rfl)
theorem dX1_work_188 : decode cX1_work 188 = .ok (.putfield 160, 3) := dk_181 0 160 (dk_at dksX1_work_8 0 rfl rfl)
theorem dX1_work_191 : decode cX1_work 191 = .ok (.iload_n 3, 1) := dk_29 (dk_at dksX1_work_8 3 rfl rfl)
theorem dX1_work_192 : decode cX1_work 192 = .ok (.ireturn, 1) := dk_172 (dk_at dksX1_work_8 4 rfl rfl)
theorem dX1_work_193 : decode cX1_work 193 = .ok (.astore 4, 2) := dk_58 4 (dk_at dksX1_work_8 5 rfl rfl)
theorem dX1_work_195 : decode cX1_work 195 = .ok (.aload_n 0, 1) := dk_42 (dk_at dksX1_work_8 7 rfl rfl)
theorem dX1_work_196 : decode cX1_work 196 = .ok (.iconst 0, 1) := dk_3 (dk_at dksX1_work_8 8 rfl rfl)
theorem dX1_work_197 : decode cX1_work 197 = .ok (.putfield 160, 3) := dk_181 0 160 (dk_at dksX1_work_8 9 rfl rfl)
theorem dX1_work_200 : decode cX1_work 200 = .ok (.aload 4, 2) := dk_25 4 (dk_at dksX1_work_8 12 rfl rfl)
theorem dX1_work_202 : decode cX1_work 202 = .ok (.athrow, 1) := dk_191 (dk_at dksX1_work_8 14 rfl rfl)
abbrev cX1_book : ByteArray := prog_1_method_22_code
def yX1_book : MethodName := ⟨RX1, "book", "(I)I"⟩
def dkwX1_book_4 : List UInt8 := [29, 172, 58, 4, 42, 3, 181, 0, 160, 25, 4, 191]
abbrev dktX1_book_4 : List UInt8 := dkwX1_book_4 ++ []
def dkwX1_book_3 : List UInt8 := [42, 180, 0, 104, 62, 42, 3, 181, 0, 160, 29, 172, 77, 42, 44, 182, 0, 187, 62, 42, 3, 181, 0, 160]
abbrev dktX1_book_3 : List UInt8 := dkwX1_book_3 ++ dktX1_book_4
def dkwX1_book_2 : List UInt8 := [77, 44, 182, 0, 227, 3, 42, 180, 0, 44, 3, 16, 6, 184, 0, 230, 42, 44, 180, 0, 236, 181, 0, 104]
abbrev dktX1_book_2 : List UInt8 := dkwX1_book_2 ++ dktX1_book_3
def dkwX1_book_1 : List UInt8 := [182, 0, 174, 42, 2, 181, 0, 75, 187, 0, 222, 89, 42, 180, 0, 79, 27, 42, 182, 0, 158, 183, 0, 224]
abbrev dktX1_book_1 : List UInt8 := dkwX1_book_1 ++ dktX1_book_2
def dkwX1_book_0 : List UInt8 := [42, 27, 155, 0, 21, 27, 42, 180, 0, 160, 163, 0, 13, 27, 16, 60, 163, 0, 7, 4, 167, 0, 4, 3]
abbrev dktX1_book_0 : List UInt8 := dkwX1_book_0 ++ dktX1_book_1
theorem dksX1_book_0 : cX1_book.data.toList.drop 0 = dktX1_book_0 := by decide +kernel
theorem dksX1_book_1 : cX1_book.data.toList.drop 24 = dktX1_book_1 := dk_seg dksX1_book_0 24 rfl rfl
theorem dksX1_book_2 : cX1_book.data.toList.drop 48 = dktX1_book_2 := dk_seg dksX1_book_1 24 rfl rfl
theorem dksX1_book_3 : cX1_book.data.toList.drop 72 = dktX1_book_3 := dk_seg dksX1_book_2 24 rfl rfl
theorem dksX1_book_4 : cX1_book.data.toList.drop 96 = dktX1_book_4 := dk_seg dksX1_book_3 24 rfl rfl
theorem dX1_book_0 : decode cX1_book 0 = .ok (.aload_n 0, 1) := dk_42 (dk_at dksX1_book_0 0 rfl rfl)
theorem dX1_book_1 : decode cX1_book 1 = .ok (.iload_n 1, 1) := dk_27 (dk_at dksX1_book_0 1 rfl rfl)
theorem dX1_book_2 : decode cX1_book 2 = .ok (.ifCond .lt 21, 3) := dk_155 0 21 (dk_at dksX1_book_0 2 rfl rfl)
theorem dX1_book_5 : decode cX1_book 5 = .ok (.iload_n 1, 1) := dk_27 (dk_at dksX1_book_0 5 rfl rfl)
theorem dX1_book_6 : decode cX1_book 6 = .ok (.aload_n 0, 1) := dk_42 (dk_at dksX1_book_0 6 rfl rfl)
theorem dX1_book_7 : decode cX1_book 7 = .ok (.getfield 160, 3) := dk_180 0 160 (dk_at dksX1_book_0 7 rfl rfl)
theorem dX1_book_10 : decode cX1_book 10 = .ok (.if_icmp .gt 13, 3) := dk_163 0 13 (dk_at dksX1_book_0 10 rfl rfl)
theorem dX1_book_13 : decode cX1_book 13 = .ok (.iload_n 1, 1) := dk_27 (dk_at dksX1_book_0 13 rfl rfl)
theorem dX1_book_14 : decode cX1_book 14 = .ok (.bipush 60, 2) := dk_16 60 (dk_at dksX1_book_0 14 rfl rfl)
theorem dX1_book_16 : decode cX1_book 16 = .ok (.if_icmp .gt 7, 3) := dk_163 0 7 (dk_at dksX1_book_0 16 rfl rfl)
theorem dX1_book_19 : decode cX1_book 19 = .ok (.iconst 1, 1) := dk_4 (dk_at dksX1_book_0 19 rfl rfl)
theorem dX1_book_20 : decode cX1_book 20 = .ok (.goto 4, 3) := dk_167 0 4 (dk_at dksX1_book_0 20 rfl rfl)
theorem dX1_book_23 : decode cX1_book 23 = .ok (.iconst 0, 1) := dk_3 (dk_at dksX1_book_0 23 rfl rfl)
theorem dX1_book_24 : decode cX1_book 24 = .ok (.invokevirtual 174, 3) := dk_182 0 174 (dk_at dksX1_book_1 0 rfl rfl)
theorem dX1_book_27 : decode cX1_book 27 = .ok (.aload_n 0, 1) := dk_42 (dk_at dksX1_book_1 3 rfl rfl)
theorem dX1_book_28 : decode cX1_book 28 = .ok (.iconst (-1), 1) := dk_2 (dk_at dksX1_book_1 4 rfl rfl)
theorem dX1_book_29 : decode cX1_book 29 = .ok (.putfield 75, 3) := dk_181 0 75 (dk_at dksX1_book_1 5 rfl rfl)
theorem dX1_book_32 : decode cX1_book 32 = .ok (.new 222, 3) := dk_187 0 222 (dk_at dksX1_book_1 8 rfl rfl)
theorem dX1_book_35 : decode cX1_book 35 = .ok (.dup, 1) := dk_89 (dk_at dksX1_book_1 11 rfl rfl)
theorem dX1_book_36 : decode cX1_book 36 = .ok (.aload_n 0, 1) := dk_42 (dk_at dksX1_book_1 12 rfl rfl)
theorem dX1_book_37 : decode cX1_book 37 = .ok (.getfield 79, 3) := dk_180 0 79 (dk_at dksX1_book_1 13 rfl rfl)
theorem dX1_book_40 : decode cX1_book 40 = .ok (.iload_n 1, 1) := dk_27 (dk_at dksX1_book_1 16 rfl rfl)
theorem dX1_book_41 : decode cX1_book 41 = .ok (.aload_n 0, 1) := dk_42 (dk_at dksX1_book_1 17 rfl rfl)
theorem dX1_book_42 : decode cX1_book 42 = .ok (.invokevirtual 158, 3) := dk_182 0 158 (dk_at dksX1_book_1 18 rfl rfl)
theorem dX1_book_45 : decode cX1_book 45 = .ok (.invokespecial 224, 3) := dk_183 0 224 (dk_at dksX1_book_1 21 rfl rfl)
theorem dX1_book_48 : decode cX1_book 48 = .ok (.astore_n 2, 1) := dk_77 (dk_at dksX1_book_2 0 rfl rfl)
theorem dX1_book_49 : decode cX1_book 49 = .ok (.aload_n 2, 1) := dk_44 (dk_at dksX1_book_2 1 rfl rfl)
theorem dX1_book_50 : decode cX1_book 50 = .ok (.invokevirtual 227, 3) := dk_182 0 227 (dk_at dksX1_book_2 2 rfl rfl)
theorem dX1_book_53 : decode cX1_book 53 = .ok (.iconst 0, 1) := dk_3 (dk_at dksX1_book_2 5 rfl rfl)
theorem dX1_book_54 : decode cX1_book 54 = .ok (.aload_n 0, 1) := dk_42 (dk_at dksX1_book_2 6 rfl rfl)
theorem dX1_book_55 : decode cX1_book 55 = .ok (.getfield 44, 3) := dk_180 0 44 (dk_at dksX1_book_2 7 rfl rfl)
theorem dX1_book_58 : decode cX1_book 58 = .ok (.iconst 0, 1) := dk_3 (dk_at dksX1_book_2 10 rfl rfl)
theorem dX1_book_59 : decode cX1_book 59 = .ok (.bipush 6, 2) := dk_16 6 (dk_at dksX1_book_2 11 rfl rfl)
theorem dX1_book_61 : decode cX1_book 61 = .ok (.invokestatic 230, 3) := dk_184 0 230 (dk_at dksX1_book_2 13 rfl rfl)
theorem dX1_book_64 : decode cX1_book 64 = .ok (.aload_n 0, 1) := dk_42 (dk_at dksX1_book_2 16 rfl rfl)
theorem dX1_book_65 : decode cX1_book 65 = .ok (.aload_n 2, 1) := dk_44 (dk_at dksX1_book_2 17 rfl rfl)
theorem dX1_book_66 : decode cX1_book 66 = .ok (.getfield 236, 3) := dk_180 0 236 (dk_at dksX1_book_2 18 rfl rfl)
theorem dX1_book_69 : decode cX1_book 69 = .ok (.putfield 104, 3) := dk_181 0 104 (dk_at dksX1_book_2 21 rfl rfl)
theorem dX1_book_72 : decode cX1_book 72 = .ok (.aload_n 0, 1) := dk_42 (dk_at dksX1_book_3 0 rfl rfl)
theorem dX1_book_73 : decode cX1_book 73 = .ok (.getfield 104, 3) := dk_180 0 104 (dk_at dksX1_book_3 1 rfl rfl)
theorem dX1_book_76 : decode cX1_book 76 = .ok (.istore_n 3, 1) := dk_62 (dk_at dksX1_book_3 4 rfl rfl)
theorem dX1_book_77 : decode cX1_book 77 = .ok (.aload_n 0, 1) := dk_42 (dk_at dksX1_book_3 5 rfl rfl)
theorem dX1_book_78 : decode cX1_book 78 = .ok (.iconst 0, 1) := dk_3 (dk_at dksX1_book_3 6 rfl rfl)
theorem dX1_book_79 : decode cX1_book 79 = .ok (.putfield 160, 3) := dk_181 0 160 (dk_at dksX1_book_3 7 rfl rfl)
theorem dX1_book_82 : decode cX1_book 82 = .ok (.iload_n 3, 1) := dk_29 (dk_at dksX1_book_3 10 rfl rfl)
theorem dX1_book_83 : decode cX1_book 83 = .ok (.ireturn, 1) := dk_172 (dk_at dksX1_book_3 11 rfl rfl)
theorem dX1_book_84 : decode cX1_book 84 = .ok (.astore_n 2, 1) := dk_77 (dk_at dksX1_book_3 12 rfl rfl)
theorem dX1_book_85 : decode cX1_book 85 = .ok (.aload_n 0, 1) := dk_42 (dk_at dksX1_book_3 13 rfl rfl)
theorem dX1_book_86 : decode cX1_book 86 = .ok (.aload_n 2, 1) := dk_44 (dk_at dksX1_book_3 14 rfl rfl)
theorem dX1_book_87 : decode cX1_book 87 = .ok (.invokevirtual 187, 3) := dk_182 0 187 (dk_at dksX1_book_3 15 rfl rfl)
theorem dX1_book_90 : decode cX1_book 90 = .ok (.istore_n 3, 1) := dk_62 (dk_at dksX1_book_3 18 rfl rfl)
theorem dX1_book_91 : decode cX1_book 91 = .ok (.aload_n 0, 1) := dk_42 (dk_at dksX1_book_3 19 rfl rfl)
theorem dX1_book_92 : decode cX1_book 92 = .ok (.iconst 0, 1) := dk_3 (dk_at dksX1_book_3 20 rfl rfl)
theorem dX1_book_93 : decode cX1_book 93 = .ok (.putfield 160, 3) := dk_181 0 160 (dk_at dksX1_book_3 21 rfl rfl)
theorem dX1_book_96 : decode cX1_book 96 = .ok (.iload_n 3, 1) := dk_29 (dk_at dksX1_book_4 0 rfl rfl)
theorem dX1_book_97 : decode cX1_book 97 = .ok (.ireturn, 1) := dk_172 (dk_at dksX1_book_4 1 rfl rfl)
theorem dX1_book_98 : decode cX1_book 98 = .ok (.astore 4, 2) := dk_58 4 (dk_at dksX1_book_4 2 rfl rfl)
theorem dX1_book_100 : decode cX1_book 100 = .ok (.aload_n 0, 1) := dk_42 (dk_at dksX1_book_4 4 rfl rfl)
theorem dX1_book_101 : decode cX1_book 101 = .ok (.iconst 0, 1) := dk_3 (dk_at dksX1_book_4 5 rfl rfl)
theorem dX1_book_102 : decode cX1_book 102 = .ok (.putfield 160, 3) := dk_181 0 160 (dk_at dksX1_book_4 6 rfl rfl)
theorem dX1_book_105 : decode cX1_book 105 = .ok (.aload 4, 2) := dk_25 4 (dk_at dksX1_book_4 9 rfl rfl)
theorem dX1_book_107 : decode cX1_book 107 = .ok (.athrow, 1) := dk_191 (dk_at dksX1_book_4 11 rfl rfl)
abbrev cX1_told : ByteArray := prog_1_method_25_code
def yX1_told : MethodName := ⟨RX1, "told", "(I)I"⟩
def dkwX1_told_6 : List UInt8 := [180, 0, 55, 42, 180, 0, 55, 180, 1, 9, 182, 1, 15, 172]
abbrev dktX1_told_6 : List UInt8 := dkwX1_told_6 ++ []
def dkwX1_told_5 : List UInt8 := [182, 1, 6, 172, 42, 180, 0, 55, 180, 1, 12, 172, 42, 180, 0, 104, 172, 42, 180, 0, 101, 172, 42]
abbrev dktX1_told_5 : List UInt8 := dkwX1_told_5 ++ dktX1_told_6
def dkwX1_told_4 : List UInt8 := [42, 180, 0, 55, 180, 1, 3, 182, 1, 6, 172, 42, 180, 0, 55, 42, 180, 0, 55, 180, 1, 9]
abbrev dktX1_told_4 : List UInt8 := dkwX1_told_4 ++ dktX1_told_5
def dkwX1_told_3 : List UInt8 := [180, 0, 250, 172, 42, 180, 0, 55, 180, 0, 253, 172, 42, 180, 0, 28, 180, 1, 0, 172, 42, 180, 0, 55]
abbrev dktX1_told_3 : List UInt8 := dkwX1_told_3 ++ dktX1_told_4
def dkwX1_told_2 : List UInt8 := [42, 182, 0, 152, 172, 42, 182, 0, 158, 172, 42, 180, 0, 28, 180, 0, 247, 172, 42, 180, 0, 55]
abbrev dktX1_told_2 : List UInt8 := dkwX1_told_2 ++ dktX1_told_3
def dkwX1_told_1 : List UInt8 := [170, 0, 0, 0, 0, 0, 0, 150, 0, 0, 0, 0, 0, 0, 0, 10, 0, 0, 0, 60, 0, 0, 0, 65, 0, 0, 0, 70, 0, 0, 0, 78, 0, 0, 0, 86, 0, 0, 0, 94, 0, 0, 0, 102, 0, 0, 0, 117, 0, 0, 0, 132, 0, 0, 0, 140, 0, 0, 0, 145]
abbrev dktX1_told_1 : List UInt8 := dkwX1_told_1 ++ dktX1_told_2
def dkwX1_told_0 : List UInt8 := [42, 27, 3, 16, 11, 184, 0, 243, 182, 0, 174, 27]
abbrev dktX1_told_0 : List UInt8 := dkwX1_told_0 ++ dktX1_told_1
theorem dksX1_told_0 : cX1_told.data.toList.drop 0 = dktX1_told_0 := by decide +kernel
theorem dksX1_told_1 : cX1_told.data.toList.drop 12 = dktX1_told_1 := dk_seg dksX1_told_0 12 rfl rfl
theorem dksX1_told_2 : cX1_told.data.toList.drop 72 = dktX1_told_2 := dk_seg dksX1_told_1 60 rfl rfl
theorem dksX1_told_3 : cX1_told.data.toList.drop 94 = dktX1_told_3 := dk_seg dksX1_told_2 22 rfl rfl
theorem dksX1_told_4 : cX1_told.data.toList.drop 118 = dktX1_told_4 := dk_seg dksX1_told_3 24 rfl rfl
theorem dksX1_told_5 : cX1_told.data.toList.drop 140 = dktX1_told_5 := dk_seg dksX1_told_4 22 rfl rfl
theorem dksX1_told_6 : cX1_told.data.toList.drop 163 = dktX1_told_6 := dk_seg dksX1_told_5 23 rfl rfl
theorem dX1_told_0 : decode cX1_told 0 = .ok (.aload_n 0, 1) := dk_42 (dk_at dksX1_told_0 0 rfl rfl)
theorem dX1_told_1 : decode cX1_told 1 = .ok (.iload_n 1, 1) := dk_27 (dk_at dksX1_told_0 1 rfl rfl)
theorem dX1_told_2 : decode cX1_told 2 = .ok (.iconst 0, 1) := dk_3 (dk_at dksX1_told_0 2 rfl rfl)
theorem dX1_told_3 : decode cX1_told 3 = .ok (.bipush 11, 2) := dk_16 11 (dk_at dksX1_told_0 3 rfl rfl)
theorem dX1_told_5 : decode cX1_told 5 = .ok (.invokestatic 243, 3) := dk_184 0 243 (dk_at dksX1_told_0 5 rfl rfl)
theorem dX1_told_8 : decode cX1_told 8 = .ok (.invokevirtual 174, 3) := dk_182 0 174 (dk_at dksX1_told_0 8 rfl rfl)
theorem dX1_told_11 : decode cX1_told 11 = .ok (.iload_n 1, 1) := dk_27 (dk_at dksX1_told_0 11 rfl rfl)
theorem dX1_told_12 : decode cX1_told 12 = .ok (.tableswitch 150 0 10 #[60, 65, 70, 78, 86, 94, 102, 117, 132, 140, 145], 60) := by decide +kernel
theorem dX1_told_72 : decode cX1_told 72 = .ok (.aload_n 0, 1) := dk_42 (dk_at dksX1_told_2 0 rfl rfl)
theorem dX1_told_73 : decode cX1_told 73 = .ok (.invokevirtual 152, 3) := dk_182 0 152 (dk_at dksX1_told_2 1 rfl rfl)
theorem dX1_told_76 : decode cX1_told 76 = .ok (.ireturn, 1) := dk_172 (dk_at dksX1_told_2 4 rfl rfl)
theorem dX1_told_77 : decode cX1_told 77 = .ok (.aload_n 0, 1) := dk_42 (dk_at dksX1_told_2 5 rfl rfl)
theorem dX1_told_78 : decode cX1_told 78 = .ok (.invokevirtual 158, 3) := dk_182 0 158 (dk_at dksX1_told_2 6 rfl rfl)
theorem dX1_told_81 : decode cX1_told 81 = .ok (.ireturn, 1) := dk_172 (dk_at dksX1_told_2 9 rfl rfl)
theorem dX1_told_82 : decode cX1_told 82 = .ok (.aload_n 0, 1) := dk_42 (dk_at dksX1_told_2 10 rfl rfl)
theorem dX1_told_83 : decode cX1_told 83 = .ok (.getfield 28, 3) := dk_180 0 28 (dk_at dksX1_told_2 11 rfl rfl)
theorem dX1_told_86 : decode cX1_told 86 = .ok (.getfield 247, 3) := dk_180 0 247 (dk_at dksX1_told_2 14 rfl rfl)
theorem dX1_told_89 : decode cX1_told 89 = .ok (.ireturn, 1) := dk_172 (dk_at dksX1_told_2 17 rfl rfl)
theorem dX1_told_90 : decode cX1_told 90 = .ok (.aload_n 0, 1) := dk_42 (dk_at dksX1_told_2 18 rfl rfl)
theorem dX1_told_91 : decode cX1_told 91 = .ok (.getfield 55, 3) := dk_180 0 55 (dk_at dksX1_told_2 19 rfl rfl)
theorem dX1_told_94 : decode cX1_told 94 = .ok (.getfield 250, 3) := dk_180 0 250 (dk_at dksX1_told_3 0 rfl rfl)
theorem dX1_told_97 : decode cX1_told 97 = .ok (.ireturn, 1) := dk_172 (dk_at dksX1_told_3 3 rfl rfl)
theorem dX1_told_98 : decode cX1_told 98 = .ok (.aload_n 0, 1) := dk_42 (dk_at dksX1_told_3 4 rfl rfl)
theorem dX1_told_99 : decode cX1_told 99 = .ok (.getfield 55, 3) := dk_180 0 55 (dk_at dksX1_told_3 5 rfl rfl)
theorem dX1_told_102 : decode cX1_told 102 = .ok (.getfield 253, 3) := dk_180 0 253 (dk_at dksX1_told_3 8 rfl rfl)
theorem dX1_told_105 : decode cX1_told 105 = .ok (.ireturn, 1) := dk_172 (dk_at dksX1_told_3 11 rfl rfl)
theorem dX1_told_106 : decode cX1_told 106 = .ok (.aload_n 0, 1) := dk_42 (dk_at dksX1_told_3 12 rfl rfl)
theorem dX1_told_107 : decode cX1_told 107 = .ok (.getfield 28, 3) := dk_180 0 28 (dk_at dksX1_told_3 13 rfl rfl)
theorem dX1_told_110 : decode cX1_told 110 = .ok (.getfield 256, 3) := dk_180 1 0 (dk_at dksX1_told_3 16 rfl rfl)
theorem dX1_told_113 : decode cX1_told 113 = .ok (.ireturn, 1) := dk_172 (dk_at dksX1_told_3 19 rfl rfl)
theorem dX1_told_114 : decode cX1_told 114 = .ok (.aload_n 0, 1) := dk_42 (dk_at dksX1_told_3 20 rfl rfl)
theorem dX1_told_115 : decode cX1_told 115 = .ok (.getfield 55, 3) := dk_180 0 55 (dk_at dksX1_told_3 21 rfl rfl)
theorem dX1_told_118 : decode cX1_told 118 = .ok (.aload_n 0, 1) := dk_42 (dk_at dksX1_told_4 0 rfl rfl)
theorem dX1_told_119 : decode cX1_told 119 = .ok (.getfield 55, 3) := dk_180 0 55 (dk_at dksX1_told_4 1 rfl rfl)
theorem dX1_told_122 : decode cX1_told 122 = .ok (.getfield 259, 3) := dk_180 1 3 (dk_at dksX1_told_4 4 rfl rfl)
theorem dX1_told_125 : decode cX1_told 125 = .ok (.invokevirtual 262, 3) := dk_182 1 6 (dk_at dksX1_told_4 7 rfl rfl)
theorem dX1_told_128 : decode cX1_told 128 = .ok (.ireturn, 1) := dk_172 (dk_at dksX1_told_4 10 rfl rfl)
theorem dX1_told_129 : decode cX1_told 129 = .ok (.aload_n 0, 1) := dk_42 (dk_at dksX1_told_4 11 rfl rfl)
theorem dX1_told_130 : decode cX1_told 130 = .ok (.getfield 55, 3) := dk_180 0 55 (dk_at dksX1_told_4 12 rfl rfl)
theorem dX1_told_133 : decode cX1_told 133 = .ok (.aload_n 0, 1) := dk_42 (dk_at dksX1_told_4 15 rfl rfl)
theorem dX1_told_134 : decode cX1_told 134 = .ok (.getfield 55, 3) := dk_180 0 55 (dk_at dksX1_told_4 16 rfl rfl)
theorem dX1_told_137 : decode cX1_told 137 = .ok (.getfield 265, 3) := dk_180 1 9 (dk_at dksX1_told_4 19 rfl rfl)
theorem dX1_told_140 : decode cX1_told 140 = .ok (.invokevirtual 262, 3) := dk_182 1 6 (dk_at dksX1_told_5 0 rfl rfl)
theorem dX1_told_143 : decode cX1_told 143 = .ok (.ireturn, 1) := dk_172 (dk_at dksX1_told_5 3 rfl rfl)
theorem dX1_told_144 : decode cX1_told 144 = .ok (.aload_n 0, 1) := dk_42 (dk_at dksX1_told_5 4 rfl rfl)
theorem dX1_told_145 : decode cX1_told 145 = .ok (.getfield 55, 3) := dk_180 0 55 (dk_at dksX1_told_5 5 rfl rfl)
theorem dX1_told_148 : decode cX1_told 148 = .ok (.getfield 268, 3) := dk_180 1 12 (dk_at dksX1_told_5 8 rfl rfl)
theorem dX1_told_151 : decode cX1_told 151 = .ok (.ireturn, 1) := dk_172 (dk_at dksX1_told_5 11 rfl rfl)
theorem dX1_told_152 : decode cX1_told 152 = .ok (.aload_n 0, 1) := dk_42 (dk_at dksX1_told_5 12 rfl rfl)
theorem dX1_told_153 : decode cX1_told 153 = .ok (.getfield 104, 3) := dk_180 0 104 (dk_at dksX1_told_5 13 rfl rfl)
theorem dX1_told_156 : decode cX1_told 156 = .ok (.ireturn, 1) := dk_172 (dk_at dksX1_told_5 16 rfl rfl)
theorem dX1_told_157 : decode cX1_told 157 = .ok (.aload_n 0, 1) := dk_42 (dk_at dksX1_told_5 17 rfl rfl)
theorem dX1_told_158 : decode cX1_told 158 = .ok (.getfield 101, 3) := dk_180 0 101 (dk_at dksX1_told_5 18 rfl rfl)
theorem dX1_told_161 : decode cX1_told 161 = .ok (.ireturn, 1) := dk_172 (dk_at dksX1_told_5 21 rfl rfl)
theorem dX1_told_162 : decode cX1_told 162 = .ok (.aload_n 0, 1) := dk_42 (dk_at dksX1_told_5 22 rfl rfl)
theorem dX1_told_163 : decode cX1_told 163 = .ok (.getfield 55, 3) := dk_180 0 55 (dk_at dksX1_told_6 0 rfl rfl)
theorem dX1_told_166 : decode cX1_told 166 = .ok (.aload_n 0, 1) := dk_42 (dk_at dksX1_told_6 3 rfl rfl)
theorem dX1_told_167 : decode cX1_told 167 = .ok (.getfield 55, 3) := dk_180 0 55 (dk_at dksX1_told_6 4 rfl rfl)
theorem dX1_told_170 : decode cX1_told 170 = .ok (.getfield 265, 3) := dk_180 1 9 (dk_at dksX1_told_6 7 rfl rfl)
theorem dX1_told_173 : decode cX1_told 173 = .ok (.invokevirtual 271, 3) := dk_182 1 15 (dk_at dksX1_told_6 10 rfl rfl)
theorem dX1_told_176 : decode cX1_told 176 = .ok (.ireturn, 1) := dk_172 (dk_at dksX1_told_6 13 rfl rfl)
abbrev cX1_isIn : ByteArray := prog_1_method_14_code
def yX1_isIn : MethodName := ⟨RX1, "isIn", "(III)Z"⟩
def dkwX1_isIn_0 : List UInt8 := [26, 27, 161, 0, 12, 26, 28, 163, 0, 7, 4, 167, 0, 4, 3, 172]
abbrev dktX1_isIn_0 : List UInt8 := dkwX1_isIn_0 ++ []
theorem dksX1_isIn_0 : cX1_isIn.data.toList.drop 0 = dktX1_isIn_0 := by decide +kernel
theorem dX1_isIn_0 : decode cX1_isIn 0 = .ok (.iload_n 0, 1) := dk_26 (dk_at dksX1_isIn_0 0 rfl rfl)
theorem dX1_isIn_1 : decode cX1_isIn 1 = .ok (.iload_n 1, 1) := dk_27 (dk_at dksX1_isIn_0 1 rfl rfl)
theorem dX1_isIn_2 : decode cX1_isIn 2 = .ok (.if_icmp .lt 12, 3) := dk_161 0 12 (dk_at dksX1_isIn_0 2 rfl rfl)
theorem dX1_isIn_5 : decode cX1_isIn 5 = .ok (.iload_n 0, 1) := dk_26 (dk_at dksX1_isIn_0 5 rfl rfl)
theorem dX1_isIn_6 : decode cX1_isIn 6 = .ok (.iload_n 2, 1) := dk_28 (dk_at dksX1_isIn_0 6 rfl rfl)
theorem dX1_isIn_7 : decode cX1_isIn 7 = .ok (.if_icmp .gt 7, 3) := dk_163 0 7 (dk_at dksX1_isIn_0 7 rfl rfl)
theorem dX1_isIn_10 : decode cX1_isIn 10 = .ok (.iconst 1, 1) := dk_4 (dk_at dksX1_isIn_0 10 rfl rfl)
theorem dX1_isIn_11 : decode cX1_isIn 11 = .ok (.goto 4, 3) := dk_167 0 4 (dk_at dksX1_isIn_0 11 rfl rfl)
theorem dX1_isIn_14 : decode cX1_isIn 14 = .ok (.iconst 0, 1) := dk_3 (dk_at dksX1_isIn_0 14 rfl rfl)
theorem dX1_isIn_15 : decode cX1_isIn 15 = .ok (.ireturn, 1) := dk_172 (dk_at dksX1_isIn_0 15 rfl rfl)
abbrev cX1_person : ByteArray := prog_1_method_26_code
def yX1_person : MethodName := ⟨RX1, "person", "(II)I"⟩
def dkwX1_person_5 : List UInt8 := [42, 180, 0, 28, 180, 1, 37, 27, 46, 172]
abbrev dktX1_person_5 : List UInt8 := dkwX1_person_5 ++ []
def dkwX1_person_4 : List UInt8 := [122, 4, 126, 172, 42, 180, 0, 55, 180, 1, 31, 27, 46, 172, 42, 180, 0, 55, 180, 1, 34, 27, 46, 172]
abbrev dktX1_person_4 : List UInt8 := dkwX1_person_4 ++ dktX1_person_5
def dkwX1_person_3 : List UInt8 := [180, 1, 3, 27, 46, 172, 42, 180, 0, 55, 180, 1, 9, 27, 46, 172, 42, 180, 0, 55, 180, 1, 12, 27]
abbrev dktX1_person_3 : List UInt8 := dkwX1_person_3 ++ dktX1_person_4
def dkwX1_person_2 : List UInt8 := [42, 27, 182, 1, 21, 180, 1, 25, 172, 42, 27, 182, 1, 21, 180, 1, 28, 172, 42, 180, 0, 55]
abbrev dktX1_person_2 : List UInt8 := dkwX1_person_2 ++ dktX1_person_3
def dkwX1_person_1 : List UInt8 := [170, 0, 0, 0, 0, 0, 113, 0, 0, 0, 0, 0, 0, 0, 6, 0, 0, 0, 43, 0, 0, 0, 52, 0, 0, 0, 61, 0, 0, 0, 71, 0, 0, 0, 81, 0, 0, 0, 93, 0, 0, 0, 103]
abbrev dktX1_person_1 : List UInt8 := dkwX1_person_1 ++ dktX1_person_2
def dkwX1_person_0 : List UInt8 := [42, 27, 182, 1, 18, 42, 28, 3, 16, 7, 184, 0, 243, 182, 0, 174, 28]
abbrev dktX1_person_0 : List UInt8 := dkwX1_person_0 ++ dktX1_person_1
theorem dksX1_person_0 : cX1_person.data.toList.drop 0 = dktX1_person_0 := by decide +kernel
theorem dksX1_person_1 : cX1_person.data.toList.drop 17 = dktX1_person_1 := dk_seg dksX1_person_0 17 rfl rfl
theorem dksX1_person_2 : cX1_person.data.toList.drop 60 = dktX1_person_2 := dk_seg dksX1_person_1 43 rfl rfl
theorem dksX1_person_3 : cX1_person.data.toList.drop 82 = dktX1_person_3 := dk_seg dksX1_person_2 22 rfl rfl
theorem dksX1_person_4 : cX1_person.data.toList.drop 106 = dktX1_person_4 := dk_seg dksX1_person_3 24 rfl rfl
theorem dksX1_person_5 : cX1_person.data.toList.drop 130 = dktX1_person_5 := dk_seg dksX1_person_4 24 rfl rfl
theorem dX1_person_0 : decode cX1_person 0 = .ok (.aload_n 0, 1) := dk_42 (dk_at dksX1_person_0 0 rfl rfl)
theorem dX1_person_1 : decode cX1_person 1 = .ok (.iload_n 1, 1) := dk_27 (dk_at dksX1_person_0 1 rfl rfl)
theorem dX1_person_2 : decode cX1_person 2 = .ok (.invokevirtual 274, 3) := dk_182 1 18 (dk_at dksX1_person_0 2 rfl rfl)
theorem dX1_person_5 : decode cX1_person 5 = .ok (.aload_n 0, 1) := dk_42 (dk_at dksX1_person_0 5 rfl rfl)
theorem dX1_person_6 : decode cX1_person 6 = .ok (.iload_n 2, 1) := dk_28 (dk_at dksX1_person_0 6 rfl rfl)
theorem dX1_person_7 : decode cX1_person 7 = .ok (.iconst 0, 1) := dk_3 (dk_at dksX1_person_0 7 rfl rfl)
theorem dX1_person_8 : decode cX1_person 8 = .ok (.bipush 7, 2) := dk_16 7 (dk_at dksX1_person_0 8 rfl rfl)
theorem dX1_person_10 : decode cX1_person 10 = .ok (.invokestatic 243, 3) := dk_184 0 243 (dk_at dksX1_person_0 10 rfl rfl)
theorem dX1_person_13 : decode cX1_person 13 = .ok (.invokevirtual 174, 3) := dk_182 0 174 (dk_at dksX1_person_0 13 rfl rfl)
theorem dX1_person_16 : decode cX1_person 16 = .ok (.iload_n 2, 1) := dk_28 (dk_at dksX1_person_0 16 rfl rfl)
theorem dX1_person_17 : decode cX1_person 17 = .ok (.tableswitch 113 0 6 #[43, 52, 61, 71, 81, 93, 103], 43) := by decide +kernel
theorem dX1_person_60 : decode cX1_person 60 = .ok (.aload_n 0, 1) := dk_42 (dk_at dksX1_person_2 0 rfl rfl)
theorem dX1_person_61 : decode cX1_person 61 = .ok (.iload_n 1, 1) := dk_27 (dk_at dksX1_person_2 1 rfl rfl)
theorem dX1_person_62 : decode cX1_person 62 = .ok (.invokevirtual 277, 3) := dk_182 1 21 (dk_at dksX1_person_2 2 rfl rfl)
theorem dX1_person_65 : decode cX1_person 65 = .ok (.getfield 281, 3) := dk_180 1 25 (dk_at dksX1_person_2 5 rfl rfl)
theorem dX1_person_68 : decode cX1_person 68 = .ok (.ireturn, 1) := dk_172 (dk_at dksX1_person_2 8 rfl rfl)
theorem dX1_person_69 : decode cX1_person 69 = .ok (.aload_n 0, 1) := dk_42 (dk_at dksX1_person_2 9 rfl rfl)
theorem dX1_person_70 : decode cX1_person 70 = .ok (.iload_n 1, 1) := dk_27 (dk_at dksX1_person_2 10 rfl rfl)
theorem dX1_person_71 : decode cX1_person 71 = .ok (.invokevirtual 277, 3) := dk_182 1 21 (dk_at dksX1_person_2 11 rfl rfl)
theorem dX1_person_74 : decode cX1_person 74 = .ok (.getfield 284, 3) := dk_180 1 28 (dk_at dksX1_person_2 14 rfl rfl)
theorem dX1_person_77 : decode cX1_person 77 = .ok (.ireturn, 1) := dk_172 (dk_at dksX1_person_2 17 rfl rfl)
theorem dX1_person_78 : decode cX1_person 78 = .ok (.aload_n 0, 1) := dk_42 (dk_at dksX1_person_2 18 rfl rfl)
theorem dX1_person_79 : decode cX1_person 79 = .ok (.getfield 55, 3) := dk_180 0 55 (dk_at dksX1_person_2 19 rfl rfl)
theorem dX1_person_82 : decode cX1_person 82 = .ok (.getfield 259, 3) := dk_180 1 3 (dk_at dksX1_person_3 0 rfl rfl)
theorem dX1_person_85 : decode cX1_person 85 = .ok (.iload_n 1, 1) := dk_27 (dk_at dksX1_person_3 3 rfl rfl)
theorem dX1_person_86 : decode cX1_person 86 = .ok (.iaload, 1) := dk_46 (dk_at dksX1_person_3 4 rfl rfl)
theorem dX1_person_87 : decode cX1_person 87 = .ok (.ireturn, 1) := dk_172 (dk_at dksX1_person_3 5 rfl rfl)
theorem dX1_person_88 : decode cX1_person 88 = .ok (.aload_n 0, 1) := dk_42 (dk_at dksX1_person_3 6 rfl rfl)
theorem dX1_person_89 : decode cX1_person 89 = .ok (.getfield 55, 3) := dk_180 0 55 (dk_at dksX1_person_3 7 rfl rfl)
theorem dX1_person_92 : decode cX1_person 92 = .ok (.getfield 265, 3) := dk_180 1 9 (dk_at dksX1_person_3 10 rfl rfl)
theorem dX1_person_95 : decode cX1_person 95 = .ok (.iload_n 1, 1) := dk_27 (dk_at dksX1_person_3 13 rfl rfl)
theorem dX1_person_96 : decode cX1_person 96 = .ok (.iaload, 1) := dk_46 (dk_at dksX1_person_3 14 rfl rfl)
theorem dX1_person_97 : decode cX1_person 97 = .ok (.ireturn, 1) := dk_172 (dk_at dksX1_person_3 15 rfl rfl)
theorem dX1_person_98 : decode cX1_person 98 = .ok (.aload_n 0, 1) := dk_42 (dk_at dksX1_person_3 16 rfl rfl)
theorem dX1_person_99 : decode cX1_person 99 = .ok (.getfield 55, 3) := dk_180 0 55 (dk_at dksX1_person_3 17 rfl rfl)
theorem dX1_person_102 : decode cX1_person 102 = .ok (.getfield 268, 3) := dk_180 1 12 (dk_at dksX1_person_3 20 rfl rfl)
theorem dX1_person_105 : decode cX1_person 105 = .ok (.iload_n 1, 1) := dk_27 (dk_at dksX1_person_3 23 rfl rfl)
theorem dX1_person_106 : decode cX1_person 106 = .ok (.ishr, 1) := dk_122 (dk_at dksX1_person_4 0 rfl rfl)
theorem dX1_person_107 : decode cX1_person 107 = .ok (.iconst 1, 1) := dk_4 (dk_at dksX1_person_4 1 rfl rfl)
theorem dX1_person_108 : decode cX1_person 108 = .ok (.iand, 1) := dk_126 (dk_at dksX1_person_4 2 rfl rfl)
theorem dX1_person_109 : decode cX1_person 109 = .ok (.ireturn, 1) := dk_172 (dk_at dksX1_person_4 3 rfl rfl)
theorem dX1_person_110 : decode cX1_person 110 = .ok (.aload_n 0, 1) := dk_42 (dk_at dksX1_person_4 4 rfl rfl)
theorem dX1_person_111 : decode cX1_person 111 = .ok (.getfield 55, 3) := dk_180 0 55 (dk_at dksX1_person_4 5 rfl rfl)
theorem dX1_person_114 : decode cX1_person 114 = .ok (.getfield 287, 3) := dk_180 1 31 (dk_at dksX1_person_4 8 rfl rfl)
theorem dX1_person_117 : decode cX1_person 117 = .ok (.iload_n 1, 1) := dk_27 (dk_at dksX1_person_4 11 rfl rfl)
theorem dX1_person_118 : decode cX1_person 118 = .ok (.iaload, 1) := dk_46 (dk_at dksX1_person_4 12 rfl rfl)
theorem dX1_person_119 : decode cX1_person 119 = .ok (.ireturn, 1) := dk_172 (dk_at dksX1_person_4 13 rfl rfl)
theorem dX1_person_120 : decode cX1_person 120 = .ok (.aload_n 0, 1) := dk_42 (dk_at dksX1_person_4 14 rfl rfl)
theorem dX1_person_121 : decode cX1_person 121 = .ok (.getfield 55, 3) := dk_180 0 55 (dk_at dksX1_person_4 15 rfl rfl)
theorem dX1_person_124 : decode cX1_person 124 = .ok (.getfield 290, 3) := dk_180 1 34 (dk_at dksX1_person_4 18 rfl rfl)
theorem dX1_person_127 : decode cX1_person 127 = .ok (.iload_n 1, 1) := dk_27 (dk_at dksX1_person_4 21 rfl rfl)
theorem dX1_person_128 : decode cX1_person 128 = .ok (.iaload, 1) := dk_46 (dk_at dksX1_person_4 22 rfl rfl)
theorem dX1_person_129 : decode cX1_person 129 = .ok (.ireturn, 1) := dk_172 (dk_at dksX1_person_4 23 rfl rfl)
theorem dX1_person_130 : decode cX1_person 130 = .ok (.aload_n 0, 1) := dk_42 (dk_at dksX1_person_5 0 rfl rfl)
theorem dX1_person_131 : decode cX1_person 131 = .ok (.getfield 28, 3) := dk_180 0 28 (dk_at dksX1_person_5 1 rfl rfl)
theorem dX1_person_134 : decode cX1_person 134 = .ok (.getfield 293, 3) := dk_180 1 37 (dk_at dksX1_person_5 4 rfl rfl)
theorem dX1_person_137 : decode cX1_person 137 = .ok (.iload_n 1, 1) := dk_27 (dk_at dksX1_person_5 7 rfl rfl)
theorem dX1_person_138 : decode cX1_person 138 = .ok (.iaload, 1) := dk_46 (dk_at dksX1_person_5 8 rfl rfl)
theorem dX1_person_139 : decode cX1_person 139 = .ok (.ireturn, 1) := dk_172 (dk_at dksX1_person_5 9 rfl rfl)
abbrev cX1_needPerson : ByteArray := prog_1_method_11_code
def yX1_needPerson : MethodName := ⟨RX1, "needPerson", "(I)V"⟩
def dkwX1_needPerson_0 : List UInt8 := [42, 27, 42, 182, 0, 152, 182, 0, 154, 177]
abbrev dktX1_needPerson_0 : List UInt8 := dkwX1_needPerson_0 ++ []
theorem dksX1_needPerson_0 : cX1_needPerson.data.toList.drop 0 = dktX1_needPerson_0 := by decide +kernel
theorem dX1_needPerson_0 : decode cX1_needPerson 0 = .ok (.aload_n 0, 1) := dk_42 (dk_at dksX1_needPerson_0 0 rfl rfl)
theorem dX1_needPerson_1 : decode cX1_needPerson 1 = .ok (.iload_n 1, 1) := dk_27 (dk_at dksX1_needPerson_0 1 rfl rfl)
theorem dX1_needPerson_2 : decode cX1_needPerson 2 = .ok (.aload_n 0, 1) := dk_42 (dk_at dksX1_needPerson_0 2 rfl rfl)
theorem dX1_needPerson_3 : decode cX1_needPerson 3 = .ok (.invokevirtual 152, 3) := dk_182 0 152 (dk_at dksX1_needPerson_0 3 rfl rfl)
theorem dX1_needPerson_6 : decode cX1_needPerson 6 = .ok (.invokevirtual 154, 3) := dk_182 0 154 (dk_at dksX1_needPerson_0 6 rfl rfl)
theorem dX1_needPerson_9 : decode cX1_needPerson 9 = .ok (.return_, 1) := dk_177 (dk_at dksX1_needPerson_0 9 rfl rfl)
abbrev cX1_needThere : ByteArray := prog_1_method_10_code
def yX1_needThere : MethodName := ⟨RX1, "needThere", "(II)V"⟩
def dkwX1_needThere_1 : List UInt8 := [183, 0, 151, 191]
abbrev dktX1_needThere_1 : List UInt8 := dkwX1_needThere_1 ++ []
def dkwX1_needThere_0 : List UInt8 := [27, 155, 0, 9, 27, 28, 162, 0, 4, 177, 42, 180, 0, 47, 3, 92, 46, 4, 96, 79, 187, 0, 149, 89]
abbrev dktX1_needThere_0 : List UInt8 := dkwX1_needThere_0 ++ dktX1_needThere_1
theorem dksX1_needThere_0 : cX1_needThere.data.toList.drop 0 = dktX1_needThere_0 := by decide +kernel
theorem dksX1_needThere_1 : cX1_needThere.data.toList.drop 24 = dktX1_needThere_1 := dk_seg dksX1_needThere_0 24 rfl rfl
theorem dX1_needThere_0 : decode cX1_needThere 0 = .ok (.iload_n 1, 1) := dk_27 (dk_at dksX1_needThere_0 0 rfl rfl)
theorem dX1_needThere_1 : decode cX1_needThere 1 = .ok (.ifCond .lt 9, 3) := dk_155 0 9 (dk_at dksX1_needThere_0 1 rfl rfl)
theorem dX1_needThere_4 : decode cX1_needThere 4 = .ok (.iload_n 1, 1) := dk_27 (dk_at dksX1_needThere_0 4 rfl rfl)
theorem dX1_needThere_5 : decode cX1_needThere 5 = .ok (.iload_n 2, 1) := dk_28 (dk_at dksX1_needThere_0 5 rfl rfl)
theorem dX1_needThere_6 : decode cX1_needThere 6 = .ok (.if_icmp .ge 4, 3) := dk_162 0 4 (dk_at dksX1_needThere_0 6 rfl rfl)
theorem dX1_needThere_9 : decode cX1_needThere 9 = .ok (.return_, 1) := dk_177 (dk_at dksX1_needThere_0 9 rfl rfl)
theorem dX1_needThere_10 : decode cX1_needThere 10 = .ok (.aload_n 0, 1) := dk_42 (dk_at dksX1_needThere_0 10 rfl rfl)
theorem dX1_needThere_11 : decode cX1_needThere 11 = .ok (.getfield 47, 3) := dk_180 0 47 (dk_at dksX1_needThere_0 11 rfl rfl)
theorem dX1_needThere_14 : decode cX1_needThere 14 = .ok (.iconst 0, 1) := dk_3 (dk_at dksX1_needThere_0 14 rfl rfl)
theorem dX1_needThere_15 : decode cX1_needThere 15 = .ok (.dup2, 1) := dk_92 (dk_at dksX1_needThere_0 15 rfl rfl)
theorem dX1_needThere_16 : decode cX1_needThere 16 = .ok (.iaload, 1) := dk_46 (dk_at dksX1_needThere_0 16 rfl rfl)
theorem dX1_needThere_17 : decode cX1_needThere 17 = .ok (.iconst 1, 1) := dk_4 (dk_at dksX1_needThere_0 17 rfl rfl)
theorem dX1_needThere_18 : decode cX1_needThere 18 = .ok (.iadd, 1) := dk_96 (dk_at dksX1_needThere_0 18 rfl rfl)
theorem dX1_needThere_19 : decode cX1_needThere 19 = .ok (.iastore, 1) := dk_79 (dk_at dksX1_needThere_0 19 rfl rfl)
theorem dX1_needThere_20 : decode cX1_needThere 20 = .ok (.new 149, 3) := dk_187 0 149 (dk_at dksX1_needThere_0 20 rfl rfl)
theorem dX1_needThere_23 : decode cX1_needThere 23 = .ok (.dup, 1) := dk_89 (dk_at dksX1_needThere_0 23 rfl rfl)
theorem dX1_needThere_24 : decode cX1_needThere 24 = .ok (.invokespecial 151, 3) := dk_183 0 151 (dk_at dksX1_needThere_1 0 rfl rfl)
theorem dX1_needThere_27 : decode cX1_needThere 27 = .ok (.athrow, 1) := dk_191 (dk_at dksX1_needThere_1 3 rfl rfl)
abbrev cX1_joke : ByteArray := prog_1_method_27_code
def yX1_joke : MethodName := ⟨RX1, "joke", "(II)I"⟩
def dkwX1_joke_2 : List UInt8 := [180, 0, 55, 27, 182, 1, 51, 172]
abbrev dktX1_joke_2 : List UInt8 := dkwX1_joke_2 ++ []
def dkwX1_joke_1 : List UInt8 := [180, 1, 47, 167, 0, 27, 28, 4, 160, 0, 14, 42, 27, 182, 1, 43, 180, 1, 48, 167, 0, 11, 42]
abbrev dktX1_joke_1 : List UInt8 := dkwX1_joke_1 ++ dktX1_joke_2
def dkwX1_joke_0 : List UInt8 := [42, 27, 182, 1, 40, 42, 28, 3, 5, 184, 0, 243, 182, 0, 174, 28, 154, 0, 14, 42, 27, 182, 1, 43]
abbrev dktX1_joke_0 : List UInt8 := dkwX1_joke_0 ++ dktX1_joke_1
theorem dksX1_joke_0 : cX1_joke.data.toList.drop 0 = dktX1_joke_0 := by decide +kernel
theorem dksX1_joke_1 : cX1_joke.data.toList.drop 24 = dktX1_joke_1 := dk_seg dksX1_joke_0 24 rfl rfl
theorem dksX1_joke_2 : cX1_joke.data.toList.drop 47 = dktX1_joke_2 := dk_seg dksX1_joke_1 23 rfl rfl
theorem dX1_joke_0 : decode cX1_joke 0 = .ok (.aload_n 0, 1) := dk_42 (dk_at dksX1_joke_0 0 rfl rfl)
theorem dX1_joke_1 : decode cX1_joke 1 = .ok (.iload_n 1, 1) := dk_27 (dk_at dksX1_joke_0 1 rfl rfl)
theorem dX1_joke_2 : decode cX1_joke 2 = .ok (.invokevirtual 296, 3) := dk_182 1 40 (dk_at dksX1_joke_0 2 rfl rfl)
theorem dX1_joke_5 : decode cX1_joke 5 = .ok (.aload_n 0, 1) := dk_42 (dk_at dksX1_joke_0 5 rfl rfl)
theorem dX1_joke_6 : decode cX1_joke 6 = .ok (.iload_n 2, 1) := dk_28 (dk_at dksX1_joke_0 6 rfl rfl)
theorem dX1_joke_7 : decode cX1_joke 7 = .ok (.iconst 0, 1) := dk_3 (dk_at dksX1_joke_0 7 rfl rfl)
theorem dX1_joke_8 : decode cX1_joke 8 = .ok (.iconst 2, 1) := dk_5 (dk_at dksX1_joke_0 8 rfl rfl)
theorem dX1_joke_9 : decode cX1_joke 9 = .ok (.invokestatic 243, 3) := dk_184 0 243 (dk_at dksX1_joke_0 9 rfl rfl)
theorem dX1_joke_12 : decode cX1_joke 12 = .ok (.invokevirtual 174, 3) := dk_182 0 174 (dk_at dksX1_joke_0 12 rfl rfl)
theorem dX1_joke_15 : decode cX1_joke 15 = .ok (.iload_n 2, 1) := dk_28 (dk_at dksX1_joke_0 15 rfl rfl)
theorem dX1_joke_16 : decode cX1_joke 16 = .ok (.ifCond .ne 14, 3) := dk_154 0 14 (dk_at dksX1_joke_0 16 rfl rfl)
theorem dX1_joke_19 : decode cX1_joke 19 = .ok (.aload_n 0, 1) := dk_42 (dk_at dksX1_joke_0 19 rfl rfl)
theorem dX1_joke_20 : decode cX1_joke 20 = .ok (.iload_n 1, 1) := dk_27 (dk_at dksX1_joke_0 20 rfl rfl)
theorem dX1_joke_21 : decode cX1_joke 21 = .ok (.invokevirtual 299, 3) := dk_182 1 43 (dk_at dksX1_joke_0 21 rfl rfl)
theorem dX1_joke_24 : decode cX1_joke 24 = .ok (.getfield 303, 3) := dk_180 1 47 (dk_at dksX1_joke_1 0 rfl rfl)
theorem dX1_joke_27 : decode cX1_joke 27 = .ok (.goto 27, 3) := dk_167 0 27 (dk_at dksX1_joke_1 3 rfl rfl)
theorem dX1_joke_30 : decode cX1_joke 30 = .ok (.iload_n 2, 1) := dk_28 (dk_at dksX1_joke_1 6 rfl rfl)
theorem dX1_joke_31 : decode cX1_joke 31 = .ok (.iconst 1, 1) := dk_4 (dk_at dksX1_joke_1 7 rfl rfl)
theorem dX1_joke_32 : decode cX1_joke 32 = .ok (.if_icmp .ne 14, 3) := dk_160 0 14 (dk_at dksX1_joke_1 8 rfl rfl)
theorem dX1_joke_35 : decode cX1_joke 35 = .ok (.aload_n 0, 1) := dk_42 (dk_at dksX1_joke_1 11 rfl rfl)
theorem dX1_joke_36 : decode cX1_joke 36 = .ok (.iload_n 1, 1) := dk_27 (dk_at dksX1_joke_1 12 rfl rfl)
theorem dX1_joke_37 : decode cX1_joke 37 = .ok (.invokevirtual 299, 3) := dk_182 1 43 (dk_at dksX1_joke_1 13 rfl rfl)
theorem dX1_joke_40 : decode cX1_joke 40 = .ok (.getfield 304, 3) := dk_180 1 48 (dk_at dksX1_joke_1 16 rfl rfl)
theorem dX1_joke_43 : decode cX1_joke 43 = .ok (.goto 11, 3) := dk_167 0 11 (dk_at dksX1_joke_1 19 rfl rfl)
theorem dX1_joke_46 : decode cX1_joke 46 = .ok (.aload_n 0, 1) := dk_42 (dk_at dksX1_joke_1 22 rfl rfl)
theorem dX1_joke_47 : decode cX1_joke 47 = .ok (.getfield 55, 3) := dk_180 0 55 (dk_at dksX1_joke_2 0 rfl rfl)
theorem dX1_joke_50 : decode cX1_joke 50 = .ok (.iload_n 1, 1) := dk_27 (dk_at dksX1_joke_2 3 rfl rfl)
theorem dX1_joke_51 : decode cX1_joke 51 = .ok (.invokevirtual 307, 3) := dk_182 1 51 (dk_at dksX1_joke_2 4 rfl rfl)
theorem dX1_joke_54 : decode cX1_joke 54 = .ok (.ireturn, 1) := dk_172 (dk_at dksX1_joke_2 7 rfl rfl)
abbrev cX1_needJoke : ByteArray := prog_1_method_12_code
def yX1_needJoke : MethodName := ⟨RX1, "needJoke", "(I)V"⟩
def dkwX1_needJoke_0 : List UInt8 := [42, 27, 42, 182, 0, 158, 182, 0, 154, 177]
abbrev dktX1_needJoke_0 : List UInt8 := dkwX1_needJoke_0 ++ []
theorem dksX1_needJoke_0 : cX1_needJoke.data.toList.drop 0 = dktX1_needJoke_0 := by decide +kernel
theorem dX1_needJoke_0 : decode cX1_needJoke 0 = .ok (.aload_n 0, 1) := dk_42 (dk_at dksX1_needJoke_0 0 rfl rfl)
theorem dX1_needJoke_1 : decode cX1_needJoke 1 = .ok (.iload_n 1, 1) := dk_27 (dk_at dksX1_needJoke_0 1 rfl rfl)
theorem dX1_needJoke_2 : decode cX1_needJoke 2 = .ok (.aload_n 0, 1) := dk_42 (dk_at dksX1_needJoke_0 2 rfl rfl)
theorem dX1_needJoke_3 : decode cX1_needJoke 3 = .ok (.invokevirtual 158, 3) := dk_182 0 158 (dk_at dksX1_needJoke_0 3 rfl rfl)
theorem dX1_needJoke_6 : decode cX1_needJoke 6 = .ok (.invokevirtual 154, 3) := dk_182 0 154 (dk_at dksX1_needJoke_0 6 rfl rfl)
theorem dX1_needJoke_9 : decode cX1_needJoke 9 = .ok (.return_, 1) := dk_177 (dk_at dksX1_needJoke_0 9 rfl rfl)
abbrev cX1_street : ByteArray := prog_1_method_28_code
def yX1_street : MethodName := ⟨RX1, "street", "(II)I"⟩
def dkwX1_street_1 : List UInt8 := [42, 180, 0, 28, 180, 1, 59, 27, 46, 167, 0, 12, 42, 180, 0, 28, 180, 1, 62, 27, 46, 172]
abbrev dktX1_street_1 : List UInt8 := dkwX1_street_1 ++ []
def dkwX1_street_0 : List UInt8 := [42, 27, 42, 180, 0, 28, 180, 0, 247, 182, 0, 154, 42, 28, 184, 1, 55, 182, 0, 174, 28, 154, 0, 15]
abbrev dktX1_street_0 : List UInt8 := dkwX1_street_0 ++ dktX1_street_1
theorem dksX1_street_0 : cX1_street.data.toList.drop 0 = dktX1_street_0 := by decide +kernel
theorem dksX1_street_1 : cX1_street.data.toList.drop 24 = dktX1_street_1 := dk_seg dksX1_street_0 24 rfl rfl
theorem dX1_street_0 : decode cX1_street 0 = .ok (.aload_n 0, 1) := dk_42 (dk_at dksX1_street_0 0 rfl rfl)
theorem dX1_street_1 : decode cX1_street 1 = .ok (.iload_n 1, 1) := dk_27 (dk_at dksX1_street_0 1 rfl rfl)
theorem dX1_street_2 : decode cX1_street 2 = .ok (.aload_n 0, 1) := dk_42 (dk_at dksX1_street_0 2 rfl rfl)
theorem dX1_street_3 : decode cX1_street 3 = .ok (.getfield 28, 3) := dk_180 0 28 (dk_at dksX1_street_0 3 rfl rfl)
theorem dX1_street_6 : decode cX1_street 6 = .ok (.getfield 247, 3) := dk_180 0 247 (dk_at dksX1_street_0 6 rfl rfl)
theorem dX1_street_9 : decode cX1_street 9 = .ok (.invokevirtual 154, 3) := dk_182 0 154 (dk_at dksX1_street_0 9 rfl rfl)
theorem dX1_street_12 : decode cX1_street 12 = .ok (.aload_n 0, 1) := dk_42 (dk_at dksX1_street_0 12 rfl rfl)
theorem dX1_street_13 : decode cX1_street 13 = .ok (.iload_n 2, 1) := dk_28 (dk_at dksX1_street_0 13 rfl rfl)
theorem dX1_street_14 : decode cX1_street 14 = .ok (.invokestatic 311, 3) := dk_184 1 55 (dk_at dksX1_street_0 14 rfl rfl)
theorem dX1_street_17 : decode cX1_street 17 = .ok (.invokevirtual 174, 3) := dk_182 0 174 (dk_at dksX1_street_0 17 rfl rfl)
theorem dX1_street_20 : decode cX1_street 20 = .ok (.iload_n 2, 1) := dk_28 (dk_at dksX1_street_0 20 rfl rfl)
theorem dX1_street_21 : decode cX1_street 21 = .ok (.ifCond .ne 15, 3) := dk_154 0 15 (dk_at dksX1_street_0 21 rfl rfl)
theorem dX1_street_24 : decode cX1_street 24 = .ok (.aload_n 0, 1) := dk_42 (dk_at dksX1_street_1 0 rfl rfl)
theorem dX1_street_25 : decode cX1_street 25 = .ok (.getfield 28, 3) := dk_180 0 28 (dk_at dksX1_street_1 1 rfl rfl)
theorem dX1_street_28 : decode cX1_street 28 = .ok (.getfield 315, 3) := dk_180 1 59 (dk_at dksX1_street_1 4 rfl rfl)
theorem dX1_street_31 : decode cX1_street 31 = .ok (.iload_n 1, 1) := dk_27 (dk_at dksX1_street_1 7 rfl rfl)
theorem dX1_street_32 : decode cX1_street 32 = .ok (.iaload, 1) := dk_46 (dk_at dksX1_street_1 8 rfl rfl)
theorem dX1_street_33 : decode cX1_street 33 = .ok (.goto 12, 3) := dk_167 0 12 (dk_at dksX1_street_1 9 rfl rfl)
theorem dX1_street_36 : decode cX1_street 36 = .ok (.aload_n 0, 1) := dk_42 (dk_at dksX1_street_1 12 rfl rfl)
theorem dX1_street_37 : decode cX1_street 37 = .ok (.getfield 28, 3) := dk_180 0 28 (dk_at dksX1_street_1 13 rfl rfl)
theorem dX1_street_40 : decode cX1_street 40 = .ok (.getfield 318, 3) := dk_180 1 62 (dk_at dksX1_street_1 16 rfl rfl)
theorem dX1_street_43 : decode cX1_street 43 = .ok (.iload_n 1, 1) := dk_27 (dk_at dksX1_street_1 19 rfl rfl)
theorem dX1_street_44 : decode cX1_street 44 = .ok (.iaload, 1) := dk_46 (dk_at dksX1_street_1 20 rfl rfl)
theorem dX1_street_45 : decode cX1_street 45 = .ok (.ireturn, 1) := dk_172 (dk_at dksX1_street_1 21 rfl rfl)
abbrev cX1_worn : ByteArray := prog_1_method_30_code
def yX1_worn : MethodName := ⟨RX1, "worn", "(II)I"⟩
def dkwX1_worn_0 : List UInt8 := [42, 27, 28, 182, 1, 65, 42, 180, 0, 55, 180, 1, 68, 16, 7, 27, 104, 28, 96, 46, 172]
abbrev dktX1_worn_0 : List UInt8 := dkwX1_worn_0 ++ []
theorem dksX1_worn_0 : cX1_worn.data.toList.drop 0 = dktX1_worn_0 := by decide +kernel
theorem dX1_worn_0 : decode cX1_worn 0 = .ok (.aload_n 0, 1) := dk_42 (dk_at dksX1_worn_0 0 rfl rfl)
theorem dX1_worn_1 : decode cX1_worn 1 = .ok (.iload_n 1, 1) := dk_27 (dk_at dksX1_worn_0 1 rfl rfl)
theorem dX1_worn_2 : decode cX1_worn 2 = .ok (.iload_n 2, 1) := dk_28 (dk_at dksX1_worn_0 2 rfl rfl)
theorem dX1_worn_3 : decode cX1_worn 3 = .ok (.invokevirtual 321, 3) := dk_182 1 65 (dk_at dksX1_worn_0 3 rfl rfl)
theorem dX1_worn_6 : decode cX1_worn 6 = .ok (.aload_n 0, 1) := dk_42 (dk_at dksX1_worn_0 6 rfl rfl)
theorem dX1_worn_7 : decode cX1_worn 7 = .ok (.getfield 55, 3) := dk_180 0 55 (dk_at dksX1_worn_0 7 rfl rfl)
theorem dX1_worn_10 : decode cX1_worn 10 = .ok (.getfield 324, 3) := dk_180 1 68 (dk_at dksX1_worn_0 10 rfl rfl)
theorem dX1_worn_13 : decode cX1_worn 13 = .ok (.bipush 7, 2) := dk_16 7 (dk_at dksX1_worn_0 13 rfl rfl)
theorem dX1_worn_15 : decode cX1_worn 15 = .ok (.iload_n 1, 1) := dk_27 (dk_at dksX1_worn_0 15 rfl rfl)
theorem dX1_worn_16 : decode cX1_worn 16 = .ok (.imul, 1) := dk_104 (dk_at dksX1_worn_0 16 rfl rfl)
theorem dX1_worn_17 : decode cX1_worn 17 = .ok (.iload_n 2, 1) := dk_28 (dk_at dksX1_worn_0 17 rfl rfl)
theorem dX1_worn_18 : decode cX1_worn 18 = .ok (.iadd, 1) := dk_96 (dk_at dksX1_worn_0 18 rfl rfl)
theorem dX1_worn_19 : decode cX1_worn 19 = .ok (.iaload, 1) := dk_46 (dk_at dksX1_worn_0 19 rfl rfl)
theorem dX1_worn_20 : decode cX1_worn 20 = .ok (.ireturn, 1) := dk_172 (dk_at dksX1_worn_0 20 rfl rfl)
abbrev cX1_needTwo : ByteArray := prog_1_method_29_code
def yX1_needTwo : MethodName := ⟨RX1, "needTwo", "(II)V"⟩
def dkwX1_needTwo_0 : List UInt8 := [42, 27, 182, 1, 40, 42, 28, 182, 1, 18, 177]
abbrev dktX1_needTwo_0 : List UInt8 := dkwX1_needTwo_0 ++ []
theorem dksX1_needTwo_0 : cX1_needTwo.data.toList.drop 0 = dktX1_needTwo_0 := by decide +kernel
theorem dX1_needTwo_0 : decode cX1_needTwo 0 = .ok (.aload_n 0, 1) := dk_42 (dk_at dksX1_needTwo_0 0 rfl rfl)
theorem dX1_needTwo_1 : decode cX1_needTwo 1 = .ok (.iload_n 1, 1) := dk_27 (dk_at dksX1_needTwo_0 1 rfl rfl)
theorem dX1_needTwo_2 : decode cX1_needTwo 2 = .ok (.invokevirtual 296, 3) := dk_182 1 40 (dk_at dksX1_needTwo_0 2 rfl rfl)
theorem dX1_needTwo_5 : decode cX1_needTwo 5 = .ok (.aload_n 0, 1) := dk_42 (dk_at dksX1_needTwo_0 5 rfl rfl)
theorem dX1_needTwo_6 : decode cX1_needTwo 6 = .ok (.iload_n 2, 1) := dk_28 (dk_at dksX1_needTwo_0 6 rfl rfl)
theorem dX1_needTwo_7 : decode cX1_needTwo 7 = .ok (.invokevirtual 274, 3) := dk_182 1 18 (dk_at dksX1_needTwo_0 7 rfl rfl)
theorem dX1_needTwo_10 : decode cX1_needTwo 10 = .ok (.return_, 1) := dk_177 (dk_at dksX1_needTwo_0 10 rfl rfl)
abbrev cX1_laugh : ByteArray := prog_1_method_31_code
def yX1_laugh : MethodName := ⟨RX1, "laugh", "(II)I"⟩
def dkwX1_laugh_0 : List UInt8 := [42, 27, 28, 182, 1, 65, 42, 180, 0, 55, 27, 28, 182, 1, 71, 172]
abbrev dktX1_laugh_0 : List UInt8 := dkwX1_laugh_0 ++ []
theorem dksX1_laugh_0 : cX1_laugh.data.toList.drop 0 = dktX1_laugh_0 := by decide +kernel
theorem dX1_laugh_0 : decode cX1_laugh 0 = .ok (.aload_n 0, 1) := dk_42 (dk_at dksX1_laugh_0 0 rfl rfl)
theorem dX1_laugh_1 : decode cX1_laugh 1 = .ok (.iload_n 1, 1) := dk_27 (dk_at dksX1_laugh_0 1 rfl rfl)
theorem dX1_laugh_2 : decode cX1_laugh 2 = .ok (.iload_n 2, 1) := dk_28 (dk_at dksX1_laugh_0 2 rfl rfl)
theorem dX1_laugh_3 : decode cX1_laugh 3 = .ok (.invokevirtual 321, 3) := dk_182 1 65 (dk_at dksX1_laugh_0 3 rfl rfl)
theorem dX1_laugh_6 : decode cX1_laugh 6 = .ok (.aload_n 0, 1) := dk_42 (dk_at dksX1_laugh_0 6 rfl rfl)
theorem dX1_laugh_7 : decode cX1_laugh 7 = .ok (.getfield 55, 3) := dk_180 0 55 (dk_at dksX1_laugh_0 7 rfl rfl)
theorem dX1_laugh_10 : decode cX1_laugh 10 = .ok (.iload_n 1, 1) := dk_27 (dk_at dksX1_laugh_0 10 rfl rfl)
theorem dX1_laugh_11 : decode cX1_laugh 11 = .ok (.iload_n 2, 1) := dk_28 (dk_at dksX1_laugh_0 11 rfl rfl)
theorem dX1_laugh_12 : decode cX1_laugh 12 = .ok (.invokevirtual 327, 3) := dk_182 1 71 (dk_at dksX1_laugh_0 12 rfl rfl)
theorem dX1_laugh_15 : decode cX1_laugh 15 = .ok (.ireturn, 1) := dk_172 (dk_at dksX1_laugh_0 15 rfl rfl)
abbrev cX1_water : ByteArray := prog_1_method_32_code
def yX1_water : MethodName := ⟨RX1, "water", "(II)I"⟩
def dkwX1_water_0 : List UInt8 := [42, 27, 28, 182, 1, 65, 42, 180, 0, 55, 27, 28, 182, 1, 74, 172]
abbrev dktX1_water_0 : List UInt8 := dkwX1_water_0 ++ []
theorem dksX1_water_0 : cX1_water.data.toList.drop 0 = dktX1_water_0 := by decide +kernel
theorem dX1_water_0 : decode cX1_water 0 = .ok (.aload_n 0, 1) := dk_42 (dk_at dksX1_water_0 0 rfl rfl)
theorem dX1_water_1 : decode cX1_water 1 = .ok (.iload_n 1, 1) := dk_27 (dk_at dksX1_water_0 1 rfl rfl)
theorem dX1_water_2 : decode cX1_water 2 = .ok (.iload_n 2, 1) := dk_28 (dk_at dksX1_water_0 2 rfl rfl)
theorem dX1_water_3 : decode cX1_water 3 = .ok (.invokevirtual 321, 3) := dk_182 1 65 (dk_at dksX1_water_0 3 rfl rfl)
theorem dX1_water_6 : decode cX1_water 6 = .ok (.aload_n 0, 1) := dk_42 (dk_at dksX1_water_0 6 rfl rfl)
theorem dX1_water_7 : decode cX1_water 7 = .ok (.getfield 55, 3) := dk_180 0 55 (dk_at dksX1_water_0 7 rfl rfl)
theorem dX1_water_10 : decode cX1_water 10 = .ok (.iload_n 1, 1) := dk_27 (dk_at dksX1_water_0 10 rfl rfl)
theorem dX1_water_11 : decode cX1_water 11 = .ok (.iload_n 2, 1) := dk_28 (dk_at dksX1_water_0 11 rfl rfl)
theorem dX1_water_12 : decode cX1_water 12 = .ok (.invokevirtual 330, 3) := dk_182 1 74 (dk_at dksX1_water_0 12 rfl rfl)
theorem dX1_water_15 : decode cX1_water 15 = .ok (.ireturn, 1) := dk_172 (dk_at dksX1_water_0 15 rfl rfl)
abbrev cX1_would : ByteArray := prog_1_method_33_code
def yX1_would : MethodName := ⟨RX1, "would", "(IIIIIIIIII)I"⟩
def dkwX1_would_6 : List UInt8 := [172]
abbrev dktX1_would_6 : List UInt8 := dkwX1_would_6 ++ []
def dkwX1_would_5 : List UInt8 := [182, 0, 174, 42, 27, 28, 29, 21, 4, 21, 5, 21, 6, 21, 7, 21, 8, 21, 9, 21, 10, 182, 1, 77]
abbrev dktX1_would_5 : List UInt8 := dkwX1_would_5 ++ dktX1_would_6
def dkwX1_would_4 : List UInt8 := [184, 0, 243, 153, 0, 18, 21, 10, 3, 16, 6, 184, 0, 243, 153, 0, 7, 4, 167, 0, 4, 3]
abbrev dktX1_would_4 : List UInt8 := dkwX1_would_4 ++ dktX1_would_5
def dkwX1_would_3 : List UInt8 := [184, 0, 243, 153, 0, 41, 21, 8, 3, 16, 99, 184, 0, 243, 153, 0, 30, 21, 9, 3, 17, 1, 144]
abbrev dktX1_would_3 : List UInt8 := dkwX1_would_3 ++ dktX1_would_4
def dkwX1_would_2 : List UInt8 := [6, 184, 0, 243, 153, 0, 63, 21, 6, 3, 16, 9, 184, 0, 243, 153, 0, 52, 21, 7, 3, 16, 6]
abbrev dktX1_would_2 : List UInt8 := dkwX1_would_2 ++ dktX1_would_3
def dkwX1_would_1 : List UInt8 := [17, 3, 231, 184, 0, 243, 153, 0, 85, 21, 4, 3, 17, 3, 231, 184, 0, 243, 153, 0, 73, 21, 5, 3]
abbrev dktX1_would_1 : List UInt8 := dkwX1_would_1 ++ dktX1_would_2
def dkwX1_would_0 : List UInt8 := [42, 27, 4, 16, 20, 184, 0, 243, 153, 0, 106, 28, 3, 16, 9, 184, 0, 243, 153, 0, 96, 29, 3]
abbrev dktX1_would_0 : List UInt8 := dkwX1_would_0 ++ dktX1_would_1
theorem dksX1_would_0 : cX1_would.data.toList.drop 0 = dktX1_would_0 := by decide +kernel
theorem dksX1_would_1 : cX1_would.data.toList.drop 23 = dktX1_would_1 := dk_seg dksX1_would_0 23 rfl rfl
theorem dksX1_would_2 : cX1_would.data.toList.drop 47 = dktX1_would_2 := dk_seg dksX1_would_1 24 rfl rfl
theorem dksX1_would_3 : cX1_would.data.toList.drop 70 = dktX1_would_3 := dk_seg dksX1_would_2 23 rfl rfl
theorem dksX1_would_4 : cX1_would.data.toList.drop 93 = dktX1_would_4 := dk_seg dksX1_would_3 23 rfl rfl
theorem dksX1_would_5 : cX1_would.data.toList.drop 115 = dktX1_would_5 := dk_seg dksX1_would_4 22 rfl rfl
theorem dksX1_would_6 : cX1_would.data.toList.drop 139 = dktX1_would_6 := dk_seg dksX1_would_5 24 rfl rfl
theorem dX1_would_0 : decode cX1_would 0 = .ok (.aload_n 0, 1) := dk_42 (dk_at dksX1_would_0 0 rfl rfl)
theorem dX1_would_1 : decode cX1_would 1 = .ok (.iload_n 1, 1) := dk_27 (dk_at dksX1_would_0 1 rfl rfl)
theorem dX1_would_2 : decode cX1_would 2 = .ok (.iconst 1, 1) := dk_4 (dk_at dksX1_would_0 2 rfl rfl)
theorem dX1_would_3 : decode cX1_would 3 = .ok (.bipush 20, 2) := dk_16 20 (dk_at dksX1_would_0 3 rfl rfl)
theorem dX1_would_5 : decode cX1_would 5 = .ok (.invokestatic 243, 3) := dk_184 0 243 (dk_at dksX1_would_0 5 rfl rfl)
theorem dX1_would_8 : decode cX1_would 8 = .ok (.ifCond .eq 106, 3) := dk_153 0 106 (dk_at dksX1_would_0 8 rfl rfl)
theorem dX1_would_11 : decode cX1_would 11 = .ok (.iload_n 2, 1) := dk_28 (dk_at dksX1_would_0 11 rfl rfl)
theorem dX1_would_12 : decode cX1_would 12 = .ok (.iconst 0, 1) := dk_3 (dk_at dksX1_would_0 12 rfl rfl)
theorem dX1_would_13 : decode cX1_would 13 = .ok (.bipush 9, 2) := dk_16 9 (dk_at dksX1_would_0 13 rfl rfl)
theorem dX1_would_15 : decode cX1_would 15 = .ok (.invokestatic 243, 3) := dk_184 0 243 (dk_at dksX1_would_0 15 rfl rfl)
theorem dX1_would_18 : decode cX1_would 18 = .ok (.ifCond .eq 96, 3) := dk_153 0 96 (dk_at dksX1_would_0 18 rfl rfl)
theorem dX1_would_21 : decode cX1_would 21 = .ok (.iload_n 3, 1) := dk_29 (dk_at dksX1_would_0 21 rfl rfl)
theorem dX1_would_22 : decode cX1_would 22 = .ok (.iconst 0, 1) := dk_3 (dk_at dksX1_would_0 22 rfl rfl)
theorem dX1_would_23 : decode cX1_would 23 = .ok (.sipush 999, 3) := dk_17 3 231 (dk_at dksX1_would_1 0 rfl rfl)
theorem dX1_would_26 : decode cX1_would 26 = .ok (.invokestatic 243, 3) := dk_184 0 243 (dk_at dksX1_would_1 3 rfl rfl)
theorem dX1_would_29 : decode cX1_would 29 = .ok (.ifCond .eq 85, 3) := dk_153 0 85 (dk_at dksX1_would_1 6 rfl rfl)
theorem dX1_would_32 : decode cX1_would 32 = .ok (.iload 4, 2) := dk_21 4 (dk_at dksX1_would_1 9 rfl rfl)
theorem dX1_would_34 : decode cX1_would 34 = .ok (.iconst 0, 1) := dk_3 (dk_at dksX1_would_1 11 rfl rfl)
theorem dX1_would_35 : decode cX1_would 35 = .ok (.sipush 999, 3) := dk_17 3 231 (dk_at dksX1_would_1 12 rfl rfl)
theorem dX1_would_38 : decode cX1_would 38 = .ok (.invokestatic 243, 3) := dk_184 0 243 (dk_at dksX1_would_1 15 rfl rfl)
theorem dX1_would_41 : decode cX1_would 41 = .ok (.ifCond .eq 73, 3) := dk_153 0 73 (dk_at dksX1_would_1 18 rfl rfl)
theorem dX1_would_44 : decode cX1_would 44 = .ok (.iload 5, 2) := dk_21 5 (dk_at dksX1_would_1 21 rfl rfl)
theorem dX1_would_46 : decode cX1_would 46 = .ok (.iconst 0, 1) := dk_3 (dk_at dksX1_would_1 23 rfl rfl)
theorem dX1_would_47 : decode cX1_would 47 = .ok (.iconst 3, 1) := dk_6 (dk_at dksX1_would_2 0 rfl rfl)
theorem dX1_would_48 : decode cX1_would 48 = .ok (.invokestatic 243, 3) := dk_184 0 243 (dk_at dksX1_would_2 1 rfl rfl)
theorem dX1_would_51 : decode cX1_would 51 = .ok (.ifCond .eq 63, 3) := dk_153 0 63 (dk_at dksX1_would_2 4 rfl rfl)
theorem dX1_would_54 : decode cX1_would 54 = .ok (.iload 6, 2) := dk_21 6 (dk_at dksX1_would_2 7 rfl rfl)
theorem dX1_would_56 : decode cX1_would 56 = .ok (.iconst 0, 1) := dk_3 (dk_at dksX1_would_2 9 rfl rfl)
theorem dX1_would_57 : decode cX1_would 57 = .ok (.bipush 9, 2) := dk_16 9 (dk_at dksX1_would_2 10 rfl rfl)
theorem dX1_would_59 : decode cX1_would 59 = .ok (.invokestatic 243, 3) := dk_184 0 243 (dk_at dksX1_would_2 12 rfl rfl)
theorem dX1_would_62 : decode cX1_would 62 = .ok (.ifCond .eq 52, 3) := dk_153 0 52 (dk_at dksX1_would_2 15 rfl rfl)
theorem dX1_would_65 : decode cX1_would 65 = .ok (.iload 7, 2) := dk_21 7 (dk_at dksX1_would_2 18 rfl rfl)
theorem dX1_would_67 : decode cX1_would 67 = .ok (.iconst 0, 1) := dk_3 (dk_at dksX1_would_2 20 rfl rfl)
theorem dX1_would_68 : decode cX1_would 68 = .ok (.bipush 6, 2) := dk_16 6 (dk_at dksX1_would_2 21 rfl rfl)
theorem dX1_would_70 : decode cX1_would 70 = .ok (.invokestatic 243, 3) := dk_184 0 243 (dk_at dksX1_would_3 0 rfl rfl)
theorem dX1_would_73 : decode cX1_would 73 = .ok (.ifCond .eq 41, 3) := dk_153 0 41 (dk_at dksX1_would_3 3 rfl rfl)
theorem dX1_would_76 : decode cX1_would 76 = .ok (.iload 8, 2) := dk_21 8 (dk_at dksX1_would_3 6 rfl rfl)
theorem dX1_would_78 : decode cX1_would 78 = .ok (.iconst 0, 1) := dk_3 (dk_at dksX1_would_3 8 rfl rfl)
theorem dX1_would_79 : decode cX1_would 79 = .ok (.bipush 99, 2) := dk_16 99 (dk_at dksX1_would_3 9 rfl rfl)
theorem dX1_would_81 : decode cX1_would 81 = .ok (.invokestatic 243, 3) := dk_184 0 243 (dk_at dksX1_would_3 11 rfl rfl)
theorem dX1_would_84 : decode cX1_would 84 = .ok (.ifCond .eq 30, 3) := dk_153 0 30 (dk_at dksX1_would_3 14 rfl rfl)
theorem dX1_would_87 : decode cX1_would 87 = .ok (.iload 9, 2) := dk_21 9 (dk_at dksX1_would_3 17 rfl rfl)
theorem dX1_would_89 : decode cX1_would 89 = .ok (.iconst 0, 1) := dk_3 (dk_at dksX1_would_3 19 rfl rfl)
theorem dX1_would_90 : decode cX1_would 90 = .ok (.sipush 400, 3) := dk_17 1 144 (dk_at dksX1_would_3 20 rfl rfl)
theorem dX1_would_93 : decode cX1_would 93 = .ok (.invokestatic 243, 3) := dk_184 0 243 (dk_at dksX1_would_4 0 rfl rfl)
theorem dX1_would_96 : decode cX1_would 96 = .ok (.ifCond .eq 18, 3) := dk_153 0 18 (dk_at dksX1_would_4 3 rfl rfl)
theorem dX1_would_99 : decode cX1_would 99 = .ok (.iload 10, 2) := dk_21 10 (dk_at dksX1_would_4 6 rfl rfl)
theorem dX1_would_101 : decode cX1_would 101 = .ok (.iconst 0, 1) := dk_3 (dk_at dksX1_would_4 8 rfl rfl)
theorem dX1_would_102 : decode cX1_would 102 = .ok (.bipush 6, 2) := dk_16 6 (dk_at dksX1_would_4 9 rfl rfl)
theorem dX1_would_104 : decode cX1_would 104 = .ok (.invokestatic 243, 3) := dk_184 0 243 (dk_at dksX1_would_4 11 rfl rfl)
theorem dX1_would_107 : decode cX1_would 107 = .ok (.ifCond .eq 7, 3) := dk_153 0 7 (dk_at dksX1_would_4 14 rfl rfl)
theorem dX1_would_110 : decode cX1_would 110 = .ok (.iconst 1, 1) := dk_4 (dk_at dksX1_would_4 17 rfl rfl)
theorem dX1_would_111 : decode cX1_would 111 = .ok (.goto 4, 3) := dk_167 0 4 (dk_at dksX1_would_4 18 rfl rfl)
theorem dX1_would_114 : decode cX1_would 114 = .ok (.iconst 0, 1) := dk_3 (dk_at dksX1_would_4 21 rfl rfl)
theorem dX1_would_115 : decode cX1_would 115 = .ok (.invokevirtual 174, 3) := dk_182 0 174 (dk_at dksX1_would_5 0 rfl rfl)
theorem dX1_would_118 : decode cX1_would 118 = .ok (.aload_n 0, 1) := dk_42 (dk_at dksX1_would_5 3 rfl rfl)
theorem dX1_would_119 : decode cX1_would 119 = .ok (.iload_n 1, 1) := dk_27 (dk_at dksX1_would_5 4 rfl rfl)
theorem dX1_would_120 : decode cX1_would 120 = .ok (.iload_n 2, 1) := dk_28 (dk_at dksX1_would_5 5 rfl rfl)
theorem dX1_would_121 : decode cX1_would 121 = .ok (.iload_n 3, 1) := dk_29 (dk_at dksX1_would_5 6 rfl rfl)
theorem dX1_would_122 : decode cX1_would 122 = .ok (.iload 4, 2) := dk_21 4 (dk_at dksX1_would_5 7 rfl rfl)
theorem dX1_would_124 : decode cX1_would 124 = .ok (.iload 5, 2) := dk_21 5 (dk_at dksX1_would_5 9 rfl rfl)
theorem dX1_would_126 : decode cX1_would 126 = .ok (.iload 6, 2) := dk_21 6 (dk_at dksX1_would_5 11 rfl rfl)
theorem dX1_would_128 : decode cX1_would 128 = .ok (.iload 7, 2) := dk_21 7 (dk_at dksX1_would_5 13 rfl rfl)
theorem dX1_would_130 : decode cX1_would 130 = .ok (.iload 8, 2) := dk_21 8 (dk_at dksX1_would_5 15 rfl rfl)
theorem dX1_would_132 : decode cX1_would 132 = .ok (.iload 9, 2) := dk_21 9 (dk_at dksX1_would_5 17 rfl rfl)
theorem dX1_would_134 : decode cX1_would 134 = .ok (.iload 10, 2) := dk_21 10 (dk_at dksX1_would_5 19 rfl rfl)
theorem dX1_would_136 : decode cX1_would 136 = .ok (.invokevirtual 333, 3) := dk_182 1 77 (dk_at dksX1_would_5 21 rfl rfl)
theorem dX1_would_139 : decode cX1_would 139 = .ok (.ireturn, 1) := dk_172 (dk_at dksX1_would_6 0 rfl rfl)
abbrev cX1_ahead : ByteArray := prog_1_method_38_code
def yX1_ahead : MethodName := ⟨RX1, "ahead", "(II)I"⟩
def dkwX1_ahead_4 : List UInt8 := [172]
abbrev dktX1_ahead_4 : List UInt8 := dkwX1_ahead_4 ++ []
def dkwX1_ahead_3 : List UInt8 := [28, 4, 160, 0, 14, 45, 45, 180, 1, 9, 182, 1, 6, 167, 0, 11, 45, 45, 180, 1, 9, 182, 1, 15]
abbrev dktX1_ahead_3 : List UInt8 := dkwX1_ahead_3 ++ dktX1_ahead_4
def dkwX1_ahead_2 : List UInt8 := [162, 0, 13, 45, 182, 1, 81, 132, 4, 1, 167, 255, 243, 28, 154, 0, 10, 45, 180, 0, 253, 167, 0, 27]
abbrev dktX1_ahead_2 : List UInt8 := dkwX1_ahead_2 ++ dktX1_ahead_3
def dkwX1_ahead_1 : List UInt8 := [3, 182, 0, 174, 42, 180, 0, 59, 42, 180, 0, 55, 182, 0, 239, 78, 3, 54, 4, 21, 4, 27]
abbrev dktX1_ahead_1 : List UInt8 := dkwX1_ahead_1 ++ dktX1_ahead_2
def dkwX1_ahead_0 : List UInt8 := [42, 27, 3, 16, 99, 184, 0, 243, 153, 0, 16, 28, 3, 5, 184, 0, 243, 153, 0, 7, 4, 167, 0, 4]
abbrev dktX1_ahead_0 : List UInt8 := dkwX1_ahead_0 ++ dktX1_ahead_1
theorem dksX1_ahead_0 : cX1_ahead.data.toList.drop 0 = dktX1_ahead_0 := by decide +kernel
theorem dksX1_ahead_1 : cX1_ahead.data.toList.drop 24 = dktX1_ahead_1 := dk_seg dksX1_ahead_0 24 rfl rfl
theorem dksX1_ahead_2 : cX1_ahead.data.toList.drop 46 = dktX1_ahead_2 := dk_seg dksX1_ahead_1 22 rfl rfl
theorem dksX1_ahead_3 : cX1_ahead.data.toList.drop 70 = dktX1_ahead_3 := dk_seg dksX1_ahead_2 24 rfl rfl
theorem dksX1_ahead_4 : cX1_ahead.data.toList.drop 94 = dktX1_ahead_4 := dk_seg dksX1_ahead_3 24 rfl rfl
theorem dX1_ahead_0 : decode cX1_ahead 0 = .ok (.aload_n 0, 1) := dk_42 (dk_at dksX1_ahead_0 0 rfl rfl)
theorem dX1_ahead_1 : decode cX1_ahead 1 = .ok (.iload_n 1, 1) := dk_27 (dk_at dksX1_ahead_0 1 rfl rfl)
theorem dX1_ahead_2 : decode cX1_ahead 2 = .ok (.iconst 0, 1) := dk_3 (dk_at dksX1_ahead_0 2 rfl rfl)
theorem dX1_ahead_3 : decode cX1_ahead 3 = .ok (.bipush 99, 2) := dk_16 99 (dk_at dksX1_ahead_0 3 rfl rfl)
theorem dX1_ahead_5 : decode cX1_ahead 5 = .ok (.invokestatic 243, 3) := dk_184 0 243 (dk_at dksX1_ahead_0 5 rfl rfl)
theorem dX1_ahead_8 : decode cX1_ahead 8 = .ok (.ifCond .eq 16, 3) := dk_153 0 16 (dk_at dksX1_ahead_0 8 rfl rfl)
theorem dX1_ahead_11 : decode cX1_ahead 11 = .ok (.iload_n 2, 1) := dk_28 (dk_at dksX1_ahead_0 11 rfl rfl)
theorem dX1_ahead_12 : decode cX1_ahead 12 = .ok (.iconst 0, 1) := dk_3 (dk_at dksX1_ahead_0 12 rfl rfl)
theorem dX1_ahead_13 : decode cX1_ahead 13 = .ok (.iconst 2, 1) := dk_5 (dk_at dksX1_ahead_0 13 rfl rfl)
theorem dX1_ahead_14 : decode cX1_ahead 14 = .ok (.invokestatic 243, 3) := dk_184 0 243 (dk_at dksX1_ahead_0 14 rfl rfl)
theorem dX1_ahead_17 : decode cX1_ahead 17 = .ok (.ifCond .eq 7, 3) := dk_153 0 7 (dk_at dksX1_ahead_0 17 rfl rfl)
theorem dX1_ahead_20 : decode cX1_ahead 20 = .ok (.iconst 1, 1) := dk_4 (dk_at dksX1_ahead_0 20 rfl rfl)
theorem dX1_ahead_21 : decode cX1_ahead 21 = .ok (.goto 4, 3) := dk_167 0 4 (dk_at dksX1_ahead_0 21 rfl rfl)
theorem dX1_ahead_24 : decode cX1_ahead 24 = .ok (.iconst 0, 1) := dk_3 (dk_at dksX1_ahead_1 0 rfl rfl)
theorem dX1_ahead_25 : decode cX1_ahead 25 = .ok (.invokevirtual 174, 3) := dk_182 0 174 (dk_at dksX1_ahead_1 1 rfl rfl)
theorem dX1_ahead_28 : decode cX1_ahead 28 = .ok (.aload_n 0, 1) := dk_42 (dk_at dksX1_ahead_1 4 rfl rfl)
theorem dX1_ahead_29 : decode cX1_ahead 29 = .ok (.getfield 59, 3) := dk_180 0 59 (dk_at dksX1_ahead_1 5 rfl rfl)
theorem dX1_ahead_32 : decode cX1_ahead 32 = .ok (.aload_n 0, 1) := dk_42 (dk_at dksX1_ahead_1 8 rfl rfl)
theorem dX1_ahead_33 : decode cX1_ahead 33 = .ok (.getfield 55, 3) := dk_180 0 55 (dk_at dksX1_ahead_1 9 rfl rfl)
theorem dX1_ahead_36 : decode cX1_ahead 36 = .ok (.invokevirtual 239, 3) := dk_182 0 239 (dk_at dksX1_ahead_1 12 rfl rfl)
theorem dX1_ahead_39 : decode cX1_ahead 39 = .ok (.astore_n 3, 1) := dk_78 (dk_at dksX1_ahead_1 15 rfl rfl)
theorem dX1_ahead_40 : decode cX1_ahead 40 = .ok (.iconst 0, 1) := dk_3 (dk_at dksX1_ahead_1 16 rfl rfl)
theorem dX1_ahead_41 : decode cX1_ahead 41 = .ok (.istore 4, 2) := dk_54 4 (dk_at dksX1_ahead_1 17 rfl rfl)
theorem dX1_ahead_43 : decode cX1_ahead 43 = .ok (.iload 4, 2) := dk_21 4 (dk_at dksX1_ahead_1 19 rfl rfl)
theorem dX1_ahead_45 : decode cX1_ahead 45 = .ok (.iload_n 1, 1) := dk_27 (dk_at dksX1_ahead_1 21 rfl rfl)
theorem dX1_ahead_46 : decode cX1_ahead 46 = .ok (.if_icmp .ge 13, 3) := dk_162 0 13 (dk_at dksX1_ahead_2 0 rfl rfl)
theorem dX1_ahead_49 : decode cX1_ahead 49 = .ok (.aload_n 3, 1) := dk_45 (dk_at dksX1_ahead_2 3 rfl rfl)
theorem dX1_ahead_50 : decode cX1_ahead 50 = .ok (.invokevirtual 337, 3) := dk_182 1 81 (dk_at dksX1_ahead_2 4 rfl rfl)
theorem dX1_ahead_53 : decode cX1_ahead 53 = .ok (.iinc 4 1, 3) := dk_132 4 1 (dk_at dksX1_ahead_2 7 rfl rfl)
theorem dX1_ahead_56 : decode cX1_ahead 56 = .ok (.goto (-13), 3) := dk_167 255 243 (dk_at dksX1_ahead_2 10 rfl rfl)
theorem dX1_ahead_59 : decode cX1_ahead 59 = .ok (.iload_n 2, 1) := dk_28 (dk_at dksX1_ahead_2 13 rfl rfl)
theorem dX1_ahead_60 : decode cX1_ahead 60 = .ok (.ifCond .ne 10, 3) := dk_154 0 10 (dk_at dksX1_ahead_2 14 rfl rfl)
theorem dX1_ahead_63 : decode cX1_ahead 63 = .ok (.aload_n 3, 1) := dk_45 (dk_at dksX1_ahead_2 17 rfl rfl)
theorem dX1_ahead_64 : decode cX1_ahead 64 = .ok (.getfield 253, 3) := dk_180 0 253 (dk_at dksX1_ahead_2 18 rfl rfl)
theorem dX1_ahead_67 : decode cX1_ahead 67 = .ok (.goto 27, 3) := dk_167 0 27 (dk_at dksX1_ahead_2 21 rfl rfl)
theorem dX1_ahead_70 : decode cX1_ahead 70 = .ok (.iload_n 2, 1) := dk_28 (dk_at dksX1_ahead_3 0 rfl rfl)
theorem dX1_ahead_71 : decode cX1_ahead 71 = .ok (.iconst 1, 1) := dk_4 (dk_at dksX1_ahead_3 1 rfl rfl)
theorem dX1_ahead_72 : decode cX1_ahead 72 = .ok (.if_icmp .ne 14, 3) := dk_160 0 14 (dk_at dksX1_ahead_3 2 rfl rfl)
theorem dX1_ahead_75 : decode cX1_ahead 75 = .ok (.aload_n 3, 1) := dk_45 (dk_at dksX1_ahead_3 5 rfl rfl)
theorem dX1_ahead_76 : decode cX1_ahead 76 = .ok (.aload_n 3, 1) := dk_45 (dk_at dksX1_ahead_3 6 rfl rfl)
theorem dX1_ahead_77 : decode cX1_ahead 77 = .ok (.getfield 265, 3) := dk_180 1 9 (dk_at dksX1_ahead_3 7 rfl rfl)
theorem dX1_ahead_80 : decode cX1_ahead 80 = .ok (.invokevirtual 262, 3) := dk_182 1 6 (dk_at dksX1_ahead_3 10 rfl rfl)
theorem dX1_ahead_83 : decode cX1_ahead 83 = .ok (.goto 11, 3) := dk_167 0 11 (dk_at dksX1_ahead_3 13 rfl rfl)
theorem dX1_ahead_86 : decode cX1_ahead 86 = .ok (.aload_n 3, 1) := dk_45 (dk_at dksX1_ahead_3 16 rfl rfl)
theorem dX1_ahead_87 : decode cX1_ahead 87 = .ok (.aload_n 3, 1) := dk_45 (dk_at dksX1_ahead_3 17 rfl rfl)
theorem dX1_ahead_88 : decode cX1_ahead 88 = .ok (.getfield 265, 3) := dk_180 1 9 (dk_at dksX1_ahead_3 18 rfl rfl)
theorem dX1_ahead_91 : decode cX1_ahead 91 = .ok (.invokevirtual 271, 3) := dk_182 1 15 (dk_at dksX1_ahead_3 21 rfl rfl)
theorem dX1_ahead_94 : decode cX1_ahead 94 = .ok (.ireturn, 1) := dk_172 (dk_at dksX1_ahead_4 0 rfl rfl)
abbrev cX1_given : ByteArray := prog_1_method_44_code
def yX1_given : MethodName := ⟨RX1, "given", "(I)I"⟩
def dkwX1_given_0 : List UInt8 := [42, 27, 182, 1, 40, 42, 182, 1, 98, 42, 180, 0, 86, 27, 46, 172]
abbrev dktX1_given_0 : List UInt8 := dkwX1_given_0 ++ []
theorem dksX1_given_0 : cX1_given.data.toList.drop 0 = dktX1_given_0 := by decide +kernel
theorem dX1_given_0 : decode cX1_given 0 = .ok (.aload_n 0, 1) := dk_42 (dk_at dksX1_given_0 0 rfl rfl)
theorem dX1_given_1 : decode cX1_given 1 = .ok (.iload_n 1, 1) := dk_27 (dk_at dksX1_given_0 1 rfl rfl)
theorem dX1_given_2 : decode cX1_given 2 = .ok (.invokevirtual 296, 3) := dk_182 1 40 (dk_at dksX1_given_0 2 rfl rfl)
theorem dX1_given_5 : decode cX1_given 5 = .ok (.aload_n 0, 1) := dk_42 (dk_at dksX1_given_0 5 rfl rfl)
theorem dX1_given_6 : decode cX1_given 6 = .ok (.invokevirtual 354, 3) := dk_182 1 98 (dk_at dksX1_given_0 6 rfl rfl)
theorem dX1_given_9 : decode cX1_given 9 = .ok (.aload_n 0, 1) := dk_42 (dk_at dksX1_given_0 9 rfl rfl)
theorem dX1_given_10 : decode cX1_given 10 = .ok (.getfield 86, 3) := dk_180 0 86 (dk_at dksX1_given_0 10 rfl rfl)
theorem dX1_given_13 : decode cX1_given 13 = .ok (.iload_n 1, 1) := dk_27 (dk_at dksX1_given_0 13 rfl rfl)
theorem dX1_given_14 : decode cX1_given 14 = .ok (.iaload, 1) := dk_46 (dk_at dksX1_given_0 14 rfl rfl)
theorem dX1_given_15 : decode cX1_given 15 = .ok (.ireturn, 1) := dk_172 (dk_at dksX1_given_0 15 rfl rfl)
abbrev cX1_enough : ByteArray := prog_1_method_47_code
def yX1_enough : MethodName := ⟨RX1, "enough", "(I)I"⟩
def dkwX1_enough_3 : List UInt8 := [172]
abbrev dktX1_enough_3 : List UInt8 := dkwX1_enough_3 ++ []
def dkwX1_enough_2 : List UInt8 := [184, 1, 104, 162, 0, 14, 42, 29, 27, 182, 1, 109, 153, 0, 5, 29, 61, 132, 3, 1, 167, 255, 206, 28]
abbrev dktX1_enough_2 : List UInt8 := dkwX1_enough_2 ++ dktX1_enough_3
def dkwX1_enough_1 : List UInt8 := [29, 42, 180, 0, 55, 180, 1, 12, 126, 154, 0, 30, 28, 2, 159, 0, 14, 29, 184, 1, 104, 28]
abbrev dktX1_enough_1 : List UInt8 := dkwX1_enough_1 ++ dktX1_enough_2
def dkwX1_enough_0 : List UInt8 := [42, 27, 3, 17, 3, 231, 184, 0, 243, 182, 0, 174, 2, 61, 3, 62, 29, 42, 182, 1, 95, 163, 0, 48]
abbrev dktX1_enough_0 : List UInt8 := dkwX1_enough_0 ++ dktX1_enough_1
theorem dksX1_enough_0 : cX1_enough.data.toList.drop 0 = dktX1_enough_0 := by decide +kernel
theorem dksX1_enough_1 : cX1_enough.data.toList.drop 24 = dktX1_enough_1 := dk_seg dksX1_enough_0 24 rfl rfl
theorem dksX1_enough_2 : cX1_enough.data.toList.drop 46 = dktX1_enough_2 := dk_seg dksX1_enough_1 22 rfl rfl
theorem dksX1_enough_3 : cX1_enough.data.toList.drop 70 = dktX1_enough_3 := dk_seg dksX1_enough_2 24 rfl rfl
theorem dX1_enough_0 : decode cX1_enough 0 = .ok (.aload_n 0, 1) := dk_42 (dk_at dksX1_enough_0 0 rfl rfl)
theorem dX1_enough_1 : decode cX1_enough 1 = .ok (.iload_n 1, 1) := dk_27 (dk_at dksX1_enough_0 1 rfl rfl)
theorem dX1_enough_2 : decode cX1_enough 2 = .ok (.iconst 0, 1) := dk_3 (dk_at dksX1_enough_0 2 rfl rfl)
theorem dX1_enough_3 : decode cX1_enough 3 = .ok (.sipush 999, 3) := dk_17 3 231 (dk_at dksX1_enough_0 3 rfl rfl)
theorem dX1_enough_6 : decode cX1_enough 6 = .ok (.invokestatic 243, 3) := dk_184 0 243 (dk_at dksX1_enough_0 6 rfl rfl)
theorem dX1_enough_9 : decode cX1_enough 9 = .ok (.invokevirtual 174, 3) := dk_182 0 174 (dk_at dksX1_enough_0 9 rfl rfl)
theorem dX1_enough_12 : decode cX1_enough 12 = .ok (.iconst (-1), 1) := dk_2 (dk_at dksX1_enough_0 12 rfl rfl)
theorem dX1_enough_13 : decode cX1_enough 13 = .ok (.istore_n 2, 1) := dk_61 (dk_at dksX1_enough_0 13 rfl rfl)
theorem dX1_enough_14 : decode cX1_enough 14 = .ok (.iconst 0, 1) := dk_3 (dk_at dksX1_enough_0 14 rfl rfl)
theorem dX1_enough_15 : decode cX1_enough 15 = .ok (.istore_n 3, 1) := dk_62 (dk_at dksX1_enough_0 15 rfl rfl)
theorem dX1_enough_16 : decode cX1_enough 16 = .ok (.iload_n 3, 1) := dk_29 (dk_at dksX1_enough_0 16 rfl rfl)
theorem dX1_enough_17 : decode cX1_enough 17 = .ok (.aload_n 0, 1) := dk_42 (dk_at dksX1_enough_0 17 rfl rfl)
theorem dX1_enough_18 : decode cX1_enough 18 = .ok (.invokevirtual 351, 3) := dk_182 1 95 (dk_at dksX1_enough_0 18 rfl rfl)
theorem dX1_enough_21 : decode cX1_enough 21 = .ok (.if_icmp .gt 48, 3) := dk_163 0 48 (dk_at dksX1_enough_0 21 rfl rfl)
theorem dX1_enough_24 : decode cX1_enough 24 = .ok (.iload_n 3, 1) := dk_29 (dk_at dksX1_enough_1 0 rfl rfl)
theorem dX1_enough_25 : decode cX1_enough 25 = .ok (.aload_n 0, 1) := dk_42 (dk_at dksX1_enough_1 1 rfl rfl)
theorem dX1_enough_26 : decode cX1_enough 26 = .ok (.getfield 55, 3) := dk_180 0 55 (dk_at dksX1_enough_1 2 rfl rfl)
theorem dX1_enough_29 : decode cX1_enough 29 = .ok (.getfield 268, 3) := dk_180 1 12 (dk_at dksX1_enough_1 5 rfl rfl)
theorem dX1_enough_32 : decode cX1_enough 32 = .ok (.iand, 1) := dk_126 (dk_at dksX1_enough_1 8 rfl rfl)
theorem dX1_enough_33 : decode cX1_enough 33 = .ok (.ifCond .ne 30, 3) := dk_154 0 30 (dk_at dksX1_enough_1 9 rfl rfl)
theorem dX1_enough_36 : decode cX1_enough 36 = .ok (.iload_n 2, 1) := dk_28 (dk_at dksX1_enough_1 12 rfl rfl)
theorem dX1_enough_37 : decode cX1_enough 37 = .ok (.iconst (-1), 1) := dk_2 (dk_at dksX1_enough_1 13 rfl rfl)
theorem dX1_enough_38 : decode cX1_enough 38 = .ok (.if_icmp .eq 14, 3) := dk_159 0 14 (dk_at dksX1_enough_1 14 rfl rfl)
theorem dX1_enough_41 : decode cX1_enough 41 = .ok (.iload_n 3, 1) := dk_29 (dk_at dksX1_enough_1 17 rfl rfl)
theorem dX1_enough_42 : decode cX1_enough 42 = .ok (.invokestatic 360, 3) := dk_184 1 104 (dk_at dksX1_enough_1 18 rfl rfl)
theorem dX1_enough_45 : decode cX1_enough 45 = .ok (.iload_n 2, 1) := dk_28 (dk_at dksX1_enough_1 21 rfl rfl)
theorem dX1_enough_46 : decode cX1_enough 46 = .ok (.invokestatic 360, 3) := dk_184 1 104 (dk_at dksX1_enough_2 0 rfl rfl)
theorem dX1_enough_49 : decode cX1_enough 49 = .ok (.if_icmp .ge 14, 3) := dk_162 0 14 (dk_at dksX1_enough_2 3 rfl rfl)
theorem dX1_enough_52 : decode cX1_enough 52 = .ok (.aload_n 0, 1) := dk_42 (dk_at dksX1_enough_2 6 rfl rfl)
theorem dX1_enough_53 : decode cX1_enough 53 = .ok (.iload_n 3, 1) := dk_29 (dk_at dksX1_enough_2 7 rfl rfl)
theorem dX1_enough_54 : decode cX1_enough 54 = .ok (.iload_n 1, 1) := dk_27 (dk_at dksX1_enough_2 8 rfl rfl)
theorem dX1_enough_55 : decode cX1_enough 55 = .ok (.invokevirtual 365, 3) := dk_182 1 109 (dk_at dksX1_enough_2 9 rfl rfl)
theorem dX1_enough_58 : decode cX1_enough 58 = .ok (.ifCond .eq 5, 3) := dk_153 0 5 (dk_at dksX1_enough_2 12 rfl rfl)
theorem dX1_enough_61 : decode cX1_enough 61 = .ok (.iload_n 3, 1) := dk_29 (dk_at dksX1_enough_2 15 rfl rfl)
theorem dX1_enough_62 : decode cX1_enough 62 = .ok (.istore_n 2, 1) := dk_61 (dk_at dksX1_enough_2 16 rfl rfl)
theorem dX1_enough_63 : decode cX1_enough 63 = .ok (.iinc 3 1, 3) := dk_132 3 1 (dk_at dksX1_enough_2 17 rfl rfl)
theorem dX1_enough_66 : decode cX1_enough 66 = .ok (.goto (-50), 3) := dk_167 255 206 (dk_at dksX1_enough_2 20 rfl rfl)
theorem dX1_enough_69 : decode cX1_enough 69 = .ok (.iload_n 2, 1) := dk_28 (dk_at dksX1_enough_2 23 rfl rfl)
theorem dX1_enough_70 : decode cX1_enough 70 = .ok (.ireturn, 1) := dk_172 (dk_at dksX1_enough_3 0 rfl rfl)
abbrev cX1_isEnough : ByteArray := prog_1_method_46_code
def yX1_isEnough : MethodName := ⟨RX1, "isEnough", "(II)Z"⟩
def dkwX1_isEnough_2 : List UInt8 := [17, 3, 231, 29, 184, 0, 137, 28, 161, 0, 7, 4, 167, 0, 4, 3, 172]
abbrev dktX1_isEnough_2 : List UInt8 := dkwX1_isEnough_2 ++ []
def dkwX1_isEnough_1 : List UInt8 := [184, 1, 87, 153, 0, 12, 42, 21, 4, 182, 1, 101, 167, 0, 4, 3, 96, 62, 132, 4, 1, 167, 255, 222]
abbrev dktX1_isEnough_1 : List UInt8 := dkwX1_isEnough_1 ++ dktX1_isEnough_2
def dkwX1_isEnough_0 : List UInt8 := [42, 180, 0, 55, 180, 0, 253, 62, 3, 54, 4, 21, 4, 42, 182, 0, 152, 162, 0, 31, 29, 27, 21, 4]
abbrev dktX1_isEnough_0 : List UInt8 := dkwX1_isEnough_0 ++ dktX1_isEnough_1
theorem dksX1_isEnough_0 : cX1_isEnough.data.toList.drop 0 = dktX1_isEnough_0 := by decide +kernel
theorem dksX1_isEnough_1 : cX1_isEnough.data.toList.drop 24 = dktX1_isEnough_1 := dk_seg dksX1_isEnough_0 24 rfl rfl
theorem dksX1_isEnough_2 : cX1_isEnough.data.toList.drop 48 = dktX1_isEnough_2 := dk_seg dksX1_isEnough_1 24 rfl rfl
theorem dX1_isEnough_0 : decode cX1_isEnough 0 = .ok (.aload_n 0, 1) := dk_42 (dk_at dksX1_isEnough_0 0 rfl rfl)
theorem dX1_isEnough_1 : decode cX1_isEnough 1 = .ok (.getfield 55, 3) := dk_180 0 55 (dk_at dksX1_isEnough_0 1 rfl rfl)
theorem dX1_isEnough_4 : decode cX1_isEnough 4 = .ok (.getfield 253, 3) := dk_180 0 253 (dk_at dksX1_isEnough_0 4 rfl rfl)
theorem dX1_isEnough_7 : decode cX1_isEnough 7 = .ok (.istore_n 3, 1) := dk_62 (dk_at dksX1_isEnough_0 7 rfl rfl)
theorem dX1_isEnough_8 : decode cX1_isEnough 8 = .ok (.iconst 0, 1) := dk_3 (dk_at dksX1_isEnough_0 8 rfl rfl)
theorem dX1_isEnough_9 : decode cX1_isEnough 9 = .ok (.istore 4, 2) := dk_54 4 (dk_at dksX1_isEnough_0 9 rfl rfl)
theorem dX1_isEnough_11 : decode cX1_isEnough 11 = .ok (.iload 4, 2) := dk_21 4 (dk_at dksX1_isEnough_0 11 rfl rfl)
theorem dX1_isEnough_13 : decode cX1_isEnough 13 = .ok (.aload_n 0, 1) := dk_42 (dk_at dksX1_isEnough_0 13 rfl rfl)
theorem dX1_isEnough_14 : decode cX1_isEnough 14 = .ok (.invokevirtual 152, 3) := dk_182 0 152 (dk_at dksX1_isEnough_0 14 rfl rfl)
theorem dX1_isEnough_17 : decode cX1_isEnough 17 = .ok (.if_icmp .ge 31, 3) := dk_162 0 31 (dk_at dksX1_isEnough_0 17 rfl rfl)
theorem dX1_isEnough_20 : decode cX1_isEnough 20 = .ok (.iload_n 3, 1) := dk_29 (dk_at dksX1_isEnough_0 20 rfl rfl)
theorem dX1_isEnough_21 : decode cX1_isEnough 21 = .ok (.iload_n 1, 1) := dk_27 (dk_at dksX1_isEnough_0 21 rfl rfl)
theorem dX1_isEnough_22 : decode cX1_isEnough 22 = .ok (.iload 4, 2) := dk_21 4 (dk_at dksX1_isEnough_0 22 rfl rfl)
theorem dX1_isEnough_24 : decode cX1_isEnough 24 = .ok (.invokestatic 343, 3) := dk_184 1 87 (dk_at dksX1_isEnough_1 0 rfl rfl)
theorem dX1_isEnough_27 : decode cX1_isEnough 27 = .ok (.ifCond .eq 12, 3) := dk_153 0 12 (dk_at dksX1_isEnough_1 3 rfl rfl)
theorem dX1_isEnough_30 : decode cX1_isEnough 30 = .ok (.aload_n 0, 1) := dk_42 (dk_at dksX1_isEnough_1 6 rfl rfl)
theorem dX1_isEnough_31 : decode cX1_isEnough 31 = .ok (.iload 4, 2) := dk_21 4 (dk_at dksX1_isEnough_1 7 rfl rfl)
theorem dX1_isEnough_33 : decode cX1_isEnough 33 = .ok (.invokevirtual 357, 3) := dk_182 1 101 (dk_at dksX1_isEnough_1 9 rfl rfl)
theorem dX1_isEnough_36 : decode cX1_isEnough 36 = .ok (.goto 4, 3) := dk_167 0 4 (dk_at dksX1_isEnough_1 12 rfl rfl)
theorem dX1_isEnough_39 : decode cX1_isEnough 39 = .ok (.iconst 0, 1) := dk_3 (dk_at dksX1_isEnough_1 15 rfl rfl)
theorem dX1_isEnough_40 : decode cX1_isEnough 40 = .ok (.iadd, 1) := dk_96 (dk_at dksX1_isEnough_1 16 rfl rfl)
theorem dX1_isEnough_41 : decode cX1_isEnough 41 = .ok (.istore_n 3, 1) := dk_62 (dk_at dksX1_isEnough_1 17 rfl rfl)
theorem dX1_isEnough_42 : decode cX1_isEnough 42 = .ok (.iinc 4 1, 3) := dk_132 4 1 (dk_at dksX1_isEnough_1 18 rfl rfl)
theorem dX1_isEnough_45 : decode cX1_isEnough 45 = .ok (.goto (-34), 3) := dk_167 255 222 (dk_at dksX1_isEnough_1 21 rfl rfl)
theorem dX1_isEnough_48 : decode cX1_isEnough 48 = .ok (.sipush 999, 3) := dk_17 3 231 (dk_at dksX1_isEnough_2 0 rfl rfl)
theorem dX1_isEnough_51 : decode cX1_isEnough 51 = .ok (.iload_n 3, 1) := dk_29 (dk_at dksX1_isEnough_2 3 rfl rfl)
theorem dX1_isEnough_52 : decode cX1_isEnough 52 = .ok (.invokestatic 137, 3) := dk_184 0 137 (dk_at dksX1_isEnough_2 4 rfl rfl)
theorem dX1_isEnough_55 : decode cX1_isEnough 55 = .ok (.iload_n 2, 1) := dk_28 (dk_at dksX1_isEnough_2 7 rfl rfl)
theorem dX1_isEnough_56 : decode cX1_isEnough 56 = .ok (.if_icmp .lt 7, 3) := dk_161 0 7 (dk_at dksX1_isEnough_2 8 rfl rfl)
theorem dX1_isEnough_59 : decode cX1_isEnough 59 = .ok (.iconst 1, 1) := dk_4 (dk_at dksX1_isEnough_2 11 rfl rfl)
theorem dX1_isEnough_60 : decode cX1_isEnough 60 = .ok (.goto 4, 3) := dk_167 0 4 (dk_at dksX1_isEnough_2 12 rfl rfl)
theorem dX1_isEnough_63 : decode cX1_isEnough 63 = .ok (.iconst 0, 1) := dk_3 (dk_at dksX1_isEnough_2 15 rfl rfl)
theorem dX1_isEnough_64 : decode cX1_isEnough 64 = .ok (.ireturn, 1) := dk_172 (dk_at dksX1_isEnough_2 16 rfl rfl)
abbrev cX1_mostOf : ByteArray := prog_1_method_45_code
def yX1_mostOf : MethodName := ⟨RX1, "mostOf", "(I)I"⟩
def dkwX1_mostOf_1 : List UInt8 := [184, 0, 143, 61, 132, 3, 1, 167, 255, 231, 28, 172]
abbrev dktX1_mostOf_1 : List UInt8 := dkwX1_mostOf_1 ++ []
def dkwX1_mostOf_0 : List UInt8 := [3, 61, 3, 62, 29, 42, 182, 0, 158, 162, 0, 23, 28, 42, 180, 0, 55, 29, 27, 182, 1, 74]
abbrev dktX1_mostOf_0 : List UInt8 := dkwX1_mostOf_0 ++ dktX1_mostOf_1
theorem dksX1_mostOf_0 : cX1_mostOf.data.toList.drop 0 = dktX1_mostOf_0 := by decide +kernel
theorem dksX1_mostOf_1 : cX1_mostOf.data.toList.drop 22 = dktX1_mostOf_1 := dk_seg dksX1_mostOf_0 22 rfl rfl
theorem dX1_mostOf_0 : decode cX1_mostOf 0 = .ok (.iconst 0, 1) := dk_3 (dk_at dksX1_mostOf_0 0 rfl rfl)
theorem dX1_mostOf_1 : decode cX1_mostOf 1 = .ok (.istore_n 2, 1) := dk_61 (dk_at dksX1_mostOf_0 1 rfl rfl)
theorem dX1_mostOf_2 : decode cX1_mostOf 2 = .ok (.iconst 0, 1) := dk_3 (dk_at dksX1_mostOf_0 2 rfl rfl)
theorem dX1_mostOf_3 : decode cX1_mostOf 3 = .ok (.istore_n 3, 1) := dk_62 (dk_at dksX1_mostOf_0 3 rfl rfl)
theorem dX1_mostOf_4 : decode cX1_mostOf 4 = .ok (.iload_n 3, 1) := dk_29 (dk_at dksX1_mostOf_0 4 rfl rfl)
theorem dX1_mostOf_5 : decode cX1_mostOf 5 = .ok (.aload_n 0, 1) := dk_42 (dk_at dksX1_mostOf_0 5 rfl rfl)
theorem dX1_mostOf_6 : decode cX1_mostOf 6 = .ok (.invokevirtual 158, 3) := dk_182 0 158 (dk_at dksX1_mostOf_0 6 rfl rfl)
theorem dX1_mostOf_9 : decode cX1_mostOf 9 = .ok (.if_icmp .ge 23, 3) := dk_162 0 23 (dk_at dksX1_mostOf_0 9 rfl rfl)
theorem dX1_mostOf_12 : decode cX1_mostOf 12 = .ok (.iload_n 2, 1) := dk_28 (dk_at dksX1_mostOf_0 12 rfl rfl)
theorem dX1_mostOf_13 : decode cX1_mostOf 13 = .ok (.aload_n 0, 1) := dk_42 (dk_at dksX1_mostOf_0 13 rfl rfl)
theorem dX1_mostOf_14 : decode cX1_mostOf 14 = .ok (.getfield 55, 3) := dk_180 0 55 (dk_at dksX1_mostOf_0 14 rfl rfl)
theorem dX1_mostOf_17 : decode cX1_mostOf 17 = .ok (.iload_n 3, 1) := dk_29 (dk_at dksX1_mostOf_0 17 rfl rfl)
theorem dX1_mostOf_18 : decode cX1_mostOf 18 = .ok (.iload_n 1, 1) := dk_27 (dk_at dksX1_mostOf_0 18 rfl rfl)
theorem dX1_mostOf_19 : decode cX1_mostOf 19 = .ok (.invokevirtual 330, 3) := dk_182 1 74 (dk_at dksX1_mostOf_0 19 rfl rfl)
theorem dX1_mostOf_22 : decode cX1_mostOf 22 = .ok (.invokestatic 143, 3) := dk_184 0 143 (dk_at dksX1_mostOf_1 0 rfl rfl)
theorem dX1_mostOf_25 : decode cX1_mostOf 25 = .ok (.istore_n 2, 1) := dk_61 (dk_at dksX1_mostOf_1 3 rfl rfl)
theorem dX1_mostOf_26 : decode cX1_mostOf 26 = .ok (.iinc 3 1, 3) := dk_132 3 1 (dk_at dksX1_mostOf_1 4 rfl rfl)
theorem dX1_mostOf_29 : decode cX1_mostOf 29 = .ok (.goto (-25), 3) := dk_167 255 231 (dk_at dksX1_mostOf_1 7 rfl rfl)
theorem dX1_mostOf_32 : decode cX1_mostOf 32 = .ok (.iload_n 2, 1) := dk_28 (dk_at dksX1_mostOf_1 10 rfl rfl)
theorem dX1_mostOf_33 : decode cX1_mostOf 33 = .ok (.ireturn, 1) := dk_172 (dk_at dksX1_mostOf_1 11 rfl rfl)
abbrev cX1_lasts : ByteArray := prog_1_method_49_code
def yX1_lasts : MethodName := ⟨RX1, "lasts", "(II)I"⟩
def dkwX1_lasts_0 : List UInt8 := [42, 27, 28, 182, 1, 65, 42, 27, 28, 182, 1, 116, 172]
abbrev dktX1_lasts_0 : List UInt8 := dkwX1_lasts_0 ++ []
theorem dksX1_lasts_0 : cX1_lasts.data.toList.drop 0 = dktX1_lasts_0 := by decide +kernel
theorem dX1_lasts_0 : decode cX1_lasts 0 = .ok (.aload_n 0, 1) := dk_42 (dk_at dksX1_lasts_0 0 rfl rfl)
theorem dX1_lasts_1 : decode cX1_lasts 1 = .ok (.iload_n 1, 1) := dk_27 (dk_at dksX1_lasts_0 1 rfl rfl)
theorem dX1_lasts_2 : decode cX1_lasts 2 = .ok (.iload_n 2, 1) := dk_28 (dk_at dksX1_lasts_0 2 rfl rfl)
theorem dX1_lasts_3 : decode cX1_lasts 3 = .ok (.invokevirtual 321, 3) := dk_182 1 65 (dk_at dksX1_lasts_0 3 rfl rfl)
theorem dX1_lasts_6 : decode cX1_lasts 6 = .ok (.aload_n 0, 1) := dk_42 (dk_at dksX1_lasts_0 6 rfl rfl)
theorem dX1_lasts_7 : decode cX1_lasts 7 = .ok (.iload_n 1, 1) := dk_27 (dk_at dksX1_lasts_0 7 rfl rfl)
theorem dX1_lasts_8 : decode cX1_lasts 8 = .ok (.iload_n 2, 1) := dk_28 (dk_at dksX1_lasts_0 8 rfl rfl)
theorem dX1_lasts_9 : decode cX1_lasts 9 = .ok (.invokevirtual 372, 3) := dk_182 1 116 (dk_at dksX1_lasts_0 9 rfl rfl)
theorem dX1_lasts_12 : decode cX1_lasts 12 = .ok (.ireturn, 1) := dk_172 (dk_at dksX1_lasts_0 12 rfl rfl)
abbrev cX1_lastsBy : ByteArray := prog_1_method_48_code
def yX1_lastsBy : MethodName := ⟨RX1, "lastsBy", "(II)I"⟩
def dkwX1_lastsBy_1 : List UInt8 := [180, 0, 55, 180, 1, 3, 28, 46, 182, 1, 112, 158, 0, 9, 132, 3, 1, 167, 255, 217, 29, 172]
abbrev dktX1_lastsBy_1 : List UInt8 := dkwX1_lastsBy_1 ++ []
def dkwX1_lastsBy_0 : List UInt8 := [3, 62, 29, 16, 99, 162, 0, 39, 42, 180, 0, 55, 27, 28, 29, 42, 28, 182, 1, 21, 180, 1, 28, 42]
abbrev dktX1_lastsBy_0 : List UInt8 := dkwX1_lastsBy_0 ++ dktX1_lastsBy_1
theorem dksX1_lastsBy_0 : cX1_lastsBy.data.toList.drop 0 = dktX1_lastsBy_0 := by decide +kernel
theorem dksX1_lastsBy_1 : cX1_lastsBy.data.toList.drop 24 = dktX1_lastsBy_1 := dk_seg dksX1_lastsBy_0 24 rfl rfl
theorem dX1_lastsBy_0 : decode cX1_lastsBy 0 = .ok (.iconst 0, 1) := dk_3 (dk_at dksX1_lastsBy_0 0 rfl rfl)
theorem dX1_lastsBy_1 : decode cX1_lastsBy 1 = .ok (.istore_n 3, 1) := dk_62 (dk_at dksX1_lastsBy_0 1 rfl rfl)
theorem dX1_lastsBy_2 : decode cX1_lastsBy 2 = .ok (.iload_n 3, 1) := dk_29 (dk_at dksX1_lastsBy_0 2 rfl rfl)
theorem dX1_lastsBy_3 : decode cX1_lastsBy 3 = .ok (.bipush 99, 2) := dk_16 99 (dk_at dksX1_lastsBy_0 3 rfl rfl)
theorem dX1_lastsBy_5 : decode cX1_lastsBy 5 = .ok (.if_icmp .ge 39, 3) := dk_162 0 39 (dk_at dksX1_lastsBy_0 5 rfl rfl)
theorem dX1_lastsBy_8 : decode cX1_lastsBy 8 = .ok (.aload_n 0, 1) := dk_42 (dk_at dksX1_lastsBy_0 8 rfl rfl)
theorem dX1_lastsBy_9 : decode cX1_lastsBy 9 = .ok (.getfield 55, 3) := dk_180 0 55 (dk_at dksX1_lastsBy_0 9 rfl rfl)
theorem dX1_lastsBy_12 : decode cX1_lastsBy 12 = .ok (.iload_n 1, 1) := dk_27 (dk_at dksX1_lastsBy_0 12 rfl rfl)
theorem dX1_lastsBy_13 : decode cX1_lastsBy 13 = .ok (.iload_n 2, 1) := dk_28 (dk_at dksX1_lastsBy_0 13 rfl rfl)
theorem dX1_lastsBy_14 : decode cX1_lastsBy 14 = .ok (.iload_n 3, 1) := dk_29 (dk_at dksX1_lastsBy_0 14 rfl rfl)
theorem dX1_lastsBy_15 : decode cX1_lastsBy 15 = .ok (.aload_n 0, 1) := dk_42 (dk_at dksX1_lastsBy_0 15 rfl rfl)
theorem dX1_lastsBy_16 : decode cX1_lastsBy 16 = .ok (.iload_n 2, 1) := dk_28 (dk_at dksX1_lastsBy_0 16 rfl rfl)
theorem dX1_lastsBy_17 : decode cX1_lastsBy 17 = .ok (.invokevirtual 277, 3) := dk_182 1 21 (dk_at dksX1_lastsBy_0 17 rfl rfl)
theorem dX1_lastsBy_20 : decode cX1_lastsBy 20 = .ok (.getfield 284, 3) := dk_180 1 28 (dk_at dksX1_lastsBy_0 20 rfl rfl)
theorem dX1_lastsBy_23 : decode cX1_lastsBy 23 = .ok (.aload_n 0, 1) := dk_42 (dk_at dksX1_lastsBy_0 23 rfl rfl)
theorem dX1_lastsBy_24 : decode cX1_lastsBy 24 = .ok (.getfield 55, 3) := dk_180 0 55 (dk_at dksX1_lastsBy_1 0 rfl rfl)
theorem dX1_lastsBy_27 : decode cX1_lastsBy 27 = .ok (.getfield 259, 3) := dk_180 1 3 (dk_at dksX1_lastsBy_1 3 rfl rfl)
theorem dX1_lastsBy_30 : decode cX1_lastsBy 30 = .ok (.iload_n 2, 1) := dk_28 (dk_at dksX1_lastsBy_1 6 rfl rfl)
theorem dX1_lastsBy_31 : decode cX1_lastsBy 31 = .ok (.iaload, 1) := dk_46 (dk_at dksX1_lastsBy_1 7 rfl rfl)
theorem dX1_lastsBy_32 : decode cX1_lastsBy 32 = .ok (.invokevirtual 368, 3) := dk_182 1 112 (dk_at dksX1_lastsBy_1 8 rfl rfl)
theorem dX1_lastsBy_35 : decode cX1_lastsBy 35 = .ok (.ifCond .le 9, 3) := dk_158 0 9 (dk_at dksX1_lastsBy_1 11 rfl rfl)
theorem dX1_lastsBy_38 : decode cX1_lastsBy 38 = .ok (.iinc 3 1, 3) := dk_132 3 1 (dk_at dksX1_lastsBy_1 14 rfl rfl)
theorem dX1_lastsBy_41 : decode cX1_lastsBy 41 = .ok (.goto (-39), 3) := dk_167 255 217 (dk_at dksX1_lastsBy_1 17 rfl rfl)
theorem dX1_lastsBy_44 : decode cX1_lastsBy 44 = .ok (.iload_n 3, 1) := dk_29 (dk_at dksX1_lastsBy_1 20 rfl rfl)
theorem dX1_lastsBy_45 : decode cX1_lastsBy 45 = .ok (.ireturn, 1) := dk_172 (dk_at dksX1_lastsBy_1 21 rfl rfl)
abbrev cX1_well : ByteArray := prog_1_method_50_code
def yX1_well : MethodName := ⟨RX1, "well", "(II)I"⟩
def dkwX1_well_3 : List UInt8 := [180, 1, 25, 104, 172]
abbrev dktX1_well_3 : List UInt8 := dkwX1_well_3 ++ []
def dkwX1_well_2 : List UInt8 := [180, 1, 3, 28, 46, 182, 1, 112, 96, 62, 132, 5, 1, 167, 255, 215, 29, 42, 28, 182, 1, 21]
abbrev dktX1_well_2 : List UInt8 := dkwX1_well_2 ++ dktX1_well_3
def dkwX1_well_1 : List UInt8 := [162, 0, 40, 29, 42, 180, 0, 55, 27, 28, 21, 5, 42, 28, 182, 1, 21, 180, 1, 28, 42, 180, 0, 55]
abbrev dktX1_well_1 : List UInt8 := dkwX1_well_1 ++ dktX1_well_2
def dkwX1_well_0 : List UInt8 := [42, 27, 28, 182, 1, 65, 3, 62, 42, 27, 28, 182, 1, 116, 54, 4, 3, 54, 5, 21, 5, 21, 4]
abbrev dktX1_well_0 : List UInt8 := dkwX1_well_0 ++ dktX1_well_1
theorem dksX1_well_0 : cX1_well.data.toList.drop 0 = dktX1_well_0 := by decide +kernel
theorem dksX1_well_1 : cX1_well.data.toList.drop 23 = dktX1_well_1 := dk_seg dksX1_well_0 23 rfl rfl
theorem dksX1_well_2 : cX1_well.data.toList.drop 47 = dktX1_well_2 := dk_seg dksX1_well_1 24 rfl rfl
theorem dksX1_well_3 : cX1_well.data.toList.drop 69 = dktX1_well_3 := dk_seg dksX1_well_2 22 rfl rfl
theorem dX1_well_0 : decode cX1_well 0 = .ok (.aload_n 0, 1) := dk_42 (dk_at dksX1_well_0 0 rfl rfl)
theorem dX1_well_1 : decode cX1_well 1 = .ok (.iload_n 1, 1) := dk_27 (dk_at dksX1_well_0 1 rfl rfl)
theorem dX1_well_2 : decode cX1_well 2 = .ok (.iload_n 2, 1) := dk_28 (dk_at dksX1_well_0 2 rfl rfl)
theorem dX1_well_3 : decode cX1_well 3 = .ok (.invokevirtual 321, 3) := dk_182 1 65 (dk_at dksX1_well_0 3 rfl rfl)
theorem dX1_well_6 : decode cX1_well 6 = .ok (.iconst 0, 1) := dk_3 (dk_at dksX1_well_0 6 rfl rfl)
theorem dX1_well_7 : decode cX1_well 7 = .ok (.istore_n 3, 1) := dk_62 (dk_at dksX1_well_0 7 rfl rfl)
theorem dX1_well_8 : decode cX1_well 8 = .ok (.aload_n 0, 1) := dk_42 (dk_at dksX1_well_0 8 rfl rfl)
theorem dX1_well_9 : decode cX1_well 9 = .ok (.iload_n 1, 1) := dk_27 (dk_at dksX1_well_0 9 rfl rfl)
theorem dX1_well_10 : decode cX1_well 10 = .ok (.iload_n 2, 1) := dk_28 (dk_at dksX1_well_0 10 rfl rfl)
theorem dX1_well_11 : decode cX1_well 11 = .ok (.invokevirtual 372, 3) := dk_182 1 116 (dk_at dksX1_well_0 11 rfl rfl)
theorem dX1_well_14 : decode cX1_well 14 = .ok (.istore 4, 2) := dk_54 4 (dk_at dksX1_well_0 14 rfl rfl)
theorem dX1_well_16 : decode cX1_well 16 = .ok (.iconst 0, 1) := dk_3 (dk_at dksX1_well_0 16 rfl rfl)
theorem dX1_well_17 : decode cX1_well 17 = .ok (.istore 5, 2) := dk_54 5 (dk_at dksX1_well_0 17 rfl rfl)
theorem dX1_well_19 : decode cX1_well 19 = .ok (.iload 5, 2) := dk_21 5 (dk_at dksX1_well_0 19 rfl rfl)
theorem dX1_well_21 : decode cX1_well 21 = .ok (.iload 4, 2) := dk_21 4 (dk_at dksX1_well_0 21 rfl rfl)
theorem dX1_well_23 : decode cX1_well 23 = .ok (.if_icmp .ge 40, 3) := dk_162 0 40 (dk_at dksX1_well_1 0 rfl rfl)
theorem dX1_well_26 : decode cX1_well 26 = .ok (.iload_n 3, 1) := dk_29 (dk_at dksX1_well_1 3 rfl rfl)
theorem dX1_well_27 : decode cX1_well 27 = .ok (.aload_n 0, 1) := dk_42 (dk_at dksX1_well_1 4 rfl rfl)
theorem dX1_well_28 : decode cX1_well 28 = .ok (.getfield 55, 3) := dk_180 0 55 (dk_at dksX1_well_1 5 rfl rfl)
theorem dX1_well_31 : decode cX1_well 31 = .ok (.iload_n 1, 1) := dk_27 (dk_at dksX1_well_1 8 rfl rfl)
theorem dX1_well_32 : decode cX1_well 32 = .ok (.iload_n 2, 1) := dk_28 (dk_at dksX1_well_1 9 rfl rfl)
theorem dX1_well_33 : decode cX1_well 33 = .ok (.iload 5, 2) := dk_21 5 (dk_at dksX1_well_1 10 rfl rfl)
theorem dX1_well_35 : decode cX1_well 35 = .ok (.aload_n 0, 1) := dk_42 (dk_at dksX1_well_1 12 rfl rfl)
theorem dX1_well_36 : decode cX1_well 36 = .ok (.iload_n 2, 1) := dk_28 (dk_at dksX1_well_1 13 rfl rfl)
theorem dX1_well_37 : decode cX1_well 37 = .ok (.invokevirtual 277, 3) := dk_182 1 21 (dk_at dksX1_well_1 14 rfl rfl)
theorem dX1_well_40 : decode cX1_well 40 = .ok (.getfield 284, 3) := dk_180 1 28 (dk_at dksX1_well_1 17 rfl rfl)
theorem dX1_well_43 : decode cX1_well 43 = .ok (.aload_n 0, 1) := dk_42 (dk_at dksX1_well_1 20 rfl rfl)
theorem dX1_well_44 : decode cX1_well 44 = .ok (.getfield 55, 3) := dk_180 0 55 (dk_at dksX1_well_1 21 rfl rfl)
theorem dX1_well_47 : decode cX1_well 47 = .ok (.getfield 259, 3) := dk_180 1 3 (dk_at dksX1_well_2 0 rfl rfl)
theorem dX1_well_50 : decode cX1_well 50 = .ok (.iload_n 2, 1) := dk_28 (dk_at dksX1_well_2 3 rfl rfl)
theorem dX1_well_51 : decode cX1_well 51 = .ok (.iaload, 1) := dk_46 (dk_at dksX1_well_2 4 rfl rfl)
theorem dX1_well_52 : decode cX1_well 52 = .ok (.invokevirtual 368, 3) := dk_182 1 112 (dk_at dksX1_well_2 5 rfl rfl)
theorem dX1_well_55 : decode cX1_well 55 = .ok (.iadd, 1) := dk_96 (dk_at dksX1_well_2 8 rfl rfl)
theorem dX1_well_56 : decode cX1_well 56 = .ok (.istore_n 3, 1) := dk_62 (dk_at dksX1_well_2 9 rfl rfl)
theorem dX1_well_57 : decode cX1_well 57 = .ok (.iinc 5 1, 3) := dk_132 5 1 (dk_at dksX1_well_2 10 rfl rfl)
theorem dX1_well_60 : decode cX1_well 60 = .ok (.goto (-41), 3) := dk_167 255 215 (dk_at dksX1_well_2 13 rfl rfl)
theorem dX1_well_63 : decode cX1_well 63 = .ok (.iload_n 3, 1) := dk_29 (dk_at dksX1_well_2 16 rfl rfl)
theorem dX1_well_64 : decode cX1_well 64 = .ok (.aload_n 0, 1) := dk_42 (dk_at dksX1_well_2 17 rfl rfl)
theorem dX1_well_65 : decode cX1_well 65 = .ok (.iload_n 2, 1) := dk_28 (dk_at dksX1_well_2 18 rfl rfl)
theorem dX1_well_66 : decode cX1_well 66 = .ok (.invokevirtual 277, 3) := dk_182 1 21 (dk_at dksX1_well_2 19 rfl rfl)
theorem dX1_well_69 : decode cX1_well 69 = .ok (.getfield 281, 3) := dk_180 1 25 (dk_at dksX1_well_3 0 rfl rfl)
theorem dX1_well_72 : decode cX1_well 72 = .ok (.imul, 1) := dk_104 (dk_at dksX1_well_3 3 rfl rfl)
theorem dX1_well_73 : decode cX1_well 73 = .ok (.ireturn, 1) := dk_172 (dk_at dksX1_well_3 4 rfl rfl)
abbrev cX1_fits : ByteArray := prog_1_method_52_code
def yX1_fits : MethodName := ⟨RX1, "fits", "(II)I"⟩
def dkwX1_fits_4 : List UInt8 := [172]
abbrev dktX1_fits_4 : List UInt8 := dkwX1_fits_4 ++ []
def dkwX1_fits_3 : List UInt8 := [54, 4, 132, 6, 1, 167, 255, 212, 132, 5, 1, 167, 255, 196, 28, 154, 0, 7, 29, 167, 0, 5, 21, 4]
abbrev dktX1_fits_3 : List UInt8 := dkwX1_fits_3 ++ dktX1_fits_4
def dkwX1_fits_2 : List UInt8 := [154, 0, 6, 167, 0, 22, 132, 3, 1, 21, 4, 2, 160, 0, 13, 16, 10, 21, 5, 104, 21, 6, 96]
abbrev dktX1_fits_2 : List UInt8 := dkwX1_fits_2 ++ dktX1_fits_3
def dkwX1_fits_1 : List UInt8 := [16, 10, 162, 0, 59, 3, 54, 6, 21, 6, 16, 9, 163, 0, 43, 42, 27, 21, 5, 21, 6, 182, 1, 119]
abbrev dktX1_fits_1 : List UInt8 := dkwX1_fits_1 ++ dktX1_fits_2
def dkwX1_fits_0 : List UInt8 := [42, 27, 182, 1, 18, 42, 28, 184, 1, 55, 182, 0, 174, 3, 62, 2, 54, 4, 3, 54, 5, 21, 5]
abbrev dktX1_fits_0 : List UInt8 := dkwX1_fits_0 ++ dktX1_fits_1
theorem dksX1_fits_0 : cX1_fits.data.toList.drop 0 = dktX1_fits_0 := by decide +kernel
theorem dksX1_fits_1 : cX1_fits.data.toList.drop 23 = dktX1_fits_1 := dk_seg dksX1_fits_0 23 rfl rfl
theorem dksX1_fits_2 : cX1_fits.data.toList.drop 47 = dktX1_fits_2 := dk_seg dksX1_fits_1 24 rfl rfl
theorem dksX1_fits_3 : cX1_fits.data.toList.drop 70 = dktX1_fits_3 := dk_seg dksX1_fits_2 23 rfl rfl
theorem dksX1_fits_4 : cX1_fits.data.toList.drop 94 = dktX1_fits_4 := dk_seg dksX1_fits_3 24 rfl rfl
theorem dX1_fits_0 : decode cX1_fits 0 = .ok (.aload_n 0, 1) := dk_42 (dk_at dksX1_fits_0 0 rfl rfl)
theorem dX1_fits_1 : decode cX1_fits 1 = .ok (.iload_n 1, 1) := dk_27 (dk_at dksX1_fits_0 1 rfl rfl)
theorem dX1_fits_2 : decode cX1_fits 2 = .ok (.invokevirtual 274, 3) := dk_182 1 18 (dk_at dksX1_fits_0 2 rfl rfl)
theorem dX1_fits_5 : decode cX1_fits 5 = .ok (.aload_n 0, 1) := dk_42 (dk_at dksX1_fits_0 5 rfl rfl)
theorem dX1_fits_6 : decode cX1_fits 6 = .ok (.iload_n 2, 1) := dk_28 (dk_at dksX1_fits_0 6 rfl rfl)
theorem dX1_fits_7 : decode cX1_fits 7 = .ok (.invokestatic 311, 3) := dk_184 1 55 (dk_at dksX1_fits_0 7 rfl rfl)
theorem dX1_fits_10 : decode cX1_fits 10 = .ok (.invokevirtual 174, 3) := dk_182 0 174 (dk_at dksX1_fits_0 10 rfl rfl)
theorem dX1_fits_13 : decode cX1_fits 13 = .ok (.iconst 0, 1) := dk_3 (dk_at dksX1_fits_0 13 rfl rfl)
theorem dX1_fits_14 : decode cX1_fits 14 = .ok (.istore_n 3, 1) := dk_62 (dk_at dksX1_fits_0 14 rfl rfl)
theorem dX1_fits_15 : decode cX1_fits 15 = .ok (.iconst (-1), 1) := dk_2 (dk_at dksX1_fits_0 15 rfl rfl)
theorem dX1_fits_16 : decode cX1_fits 16 = .ok (.istore 4, 2) := dk_54 4 (dk_at dksX1_fits_0 16 rfl rfl)
theorem dX1_fits_18 : decode cX1_fits 18 = .ok (.iconst 0, 1) := dk_3 (dk_at dksX1_fits_0 18 rfl rfl)
theorem dX1_fits_19 : decode cX1_fits 19 = .ok (.istore 5, 2) := dk_54 5 (dk_at dksX1_fits_0 19 rfl rfl)
theorem dX1_fits_21 : decode cX1_fits 21 = .ok (.iload 5, 2) := dk_21 5 (dk_at dksX1_fits_0 21 rfl rfl)
theorem dX1_fits_23 : decode cX1_fits 23 = .ok (.bipush 10, 2) := dk_16 10 (dk_at dksX1_fits_1 0 rfl rfl)
theorem dX1_fits_25 : decode cX1_fits 25 = .ok (.if_icmp .ge 59, 3) := dk_162 0 59 (dk_at dksX1_fits_1 2 rfl rfl)
theorem dX1_fits_28 : decode cX1_fits 28 = .ok (.iconst 0, 1) := dk_3 (dk_at dksX1_fits_1 5 rfl rfl)
theorem dX1_fits_29 : decode cX1_fits 29 = .ok (.istore 6, 2) := dk_54 6 (dk_at dksX1_fits_1 6 rfl rfl)
theorem dX1_fits_31 : decode cX1_fits 31 = .ok (.iload 6, 2) := dk_21 6 (dk_at dksX1_fits_1 8 rfl rfl)
theorem dX1_fits_33 : decode cX1_fits 33 = .ok (.bipush 9, 2) := dk_16 9 (dk_at dksX1_fits_1 10 rfl rfl)
theorem dX1_fits_35 : decode cX1_fits 35 = .ok (.if_icmp .gt 43, 3) := dk_163 0 43 (dk_at dksX1_fits_1 12 rfl rfl)
theorem dX1_fits_38 : decode cX1_fits 38 = .ok (.aload_n 0, 1) := dk_42 (dk_at dksX1_fits_1 15 rfl rfl)
theorem dX1_fits_39 : decode cX1_fits 39 = .ok (.iload_n 1, 1) := dk_27 (dk_at dksX1_fits_1 16 rfl rfl)
theorem dX1_fits_40 : decode cX1_fits 40 = .ok (.iload 5, 2) := dk_21 5 (dk_at dksX1_fits_1 17 rfl rfl)
theorem dX1_fits_42 : decode cX1_fits 42 = .ok (.iload 6, 2) := dk_21 6 (dk_at dksX1_fits_1 19 rfl rfl)
theorem dX1_fits_44 : decode cX1_fits 44 = .ok (.invokevirtual 375, 3) := dk_182 1 119 (dk_at dksX1_fits_1 21 rfl rfl)
theorem dX1_fits_47 : decode cX1_fits 47 = .ok (.ifCond .ne 6, 3) := dk_154 0 6 (dk_at dksX1_fits_2 0 rfl rfl)
theorem dX1_fits_50 : decode cX1_fits 50 = .ok (.goto 22, 3) := dk_167 0 22 (dk_at dksX1_fits_2 3 rfl rfl)
theorem dX1_fits_53 : decode cX1_fits 53 = .ok (.iinc 3 1, 3) := dk_132 3 1 (dk_at dksX1_fits_2 6 rfl rfl)
theorem dX1_fits_56 : decode cX1_fits 56 = .ok (.iload 4, 2) := dk_21 4 (dk_at dksX1_fits_2 9 rfl rfl)
theorem dX1_fits_58 : decode cX1_fits 58 = .ok (.iconst (-1), 1) := dk_2 (dk_at dksX1_fits_2 11 rfl rfl)
theorem dX1_fits_59 : decode cX1_fits 59 = .ok (.if_icmp .ne 13, 3) := dk_160 0 13 (dk_at dksX1_fits_2 12 rfl rfl)
theorem dX1_fits_62 : decode cX1_fits 62 = .ok (.bipush 10, 2) := dk_16 10 (dk_at dksX1_fits_2 15 rfl rfl)
theorem dX1_fits_64 : decode cX1_fits 64 = .ok (.iload 5, 2) := dk_21 5 (dk_at dksX1_fits_2 17 rfl rfl)
theorem dX1_fits_66 : decode cX1_fits 66 = .ok (.imul, 1) := dk_104 (dk_at dksX1_fits_2 19 rfl rfl)
theorem dX1_fits_67 : decode cX1_fits 67 = .ok (.iload 6, 2) := dk_21 6 (dk_at dksX1_fits_2 20 rfl rfl)
theorem dX1_fits_69 : decode cX1_fits 69 = .ok (.iadd, 1) := dk_96 (dk_at dksX1_fits_2 22 rfl rfl)
theorem dX1_fits_70 : decode cX1_fits 70 = .ok (.istore 4, 2) := dk_54 4 (dk_at dksX1_fits_3 0 rfl rfl)
theorem dX1_fits_72 : decode cX1_fits 72 = .ok (.iinc 6 1, 3) := dk_132 6 1 (dk_at dksX1_fits_3 2 rfl rfl)
theorem dX1_fits_75 : decode cX1_fits 75 = .ok (.goto (-44), 3) := dk_167 255 212 (dk_at dksX1_fits_3 5 rfl rfl)
theorem dX1_fits_78 : decode cX1_fits 78 = .ok (.iinc 5 1, 3) := dk_132 5 1 (dk_at dksX1_fits_3 8 rfl rfl)
theorem dX1_fits_81 : decode cX1_fits 81 = .ok (.goto (-60), 3) := dk_167 255 196 (dk_at dksX1_fits_3 11 rfl rfl)
theorem dX1_fits_84 : decode cX1_fits 84 = .ok (.iload_n 2, 1) := dk_28 (dk_at dksX1_fits_3 14 rfl rfl)
theorem dX1_fits_85 : decode cX1_fits 85 = .ok (.ifCond .ne 7, 3) := dk_154 0 7 (dk_at dksX1_fits_3 15 rfl rfl)
theorem dX1_fits_88 : decode cX1_fits 88 = .ok (.iload_n 3, 1) := dk_29 (dk_at dksX1_fits_3 18 rfl rfl)
theorem dX1_fits_89 : decode cX1_fits 89 = .ok (.goto 5, 3) := dk_167 0 5 (dk_at dksX1_fits_3 19 rfl rfl)
theorem dX1_fits_92 : decode cX1_fits 92 = .ok (.iload 4, 2) := dk_21 4 (dk_at dksX1_fits_3 22 rfl rfl)
theorem dX1_fits_94 : decode cX1_fits 94 = .ok (.ireturn, 1) := dk_172 (dk_at dksX1_fits_4 0 rfl rfl)
abbrev cX1_isFit : ByteArray := prog_1_method_51_code
def yX1_isFit : MethodName := ⟨RX1, "isFit", "(III)Z"⟩
def dkwX1_isFit_2 : List UInt8 := [132, 4, 1, 167, 255, 208, 4, 172]
abbrev dktX1_isFit_2 : List UInt8 := dkwX1_isFit_2 ++ []
def dkwX1_isFit_1 : List UInt8 := [180, 0, 55, 21, 4, 27, 3, 28, 29, 182, 1, 112, 42, 180, 0, 44, 21, 4, 46, 159, 0, 5, 3, 172]
abbrev dktX1_isFit_1 : List UInt8 := dkwX1_isFit_1 ++ dktX1_isFit_2
def dkwX1_isFit_0 : List UInt8 := [3, 54, 4, 21, 4, 42, 182, 0, 158, 162, 0, 45, 42, 180, 0, 44, 21, 4, 46, 2, 159, 0, 28, 42]
abbrev dktX1_isFit_0 : List UInt8 := dkwX1_isFit_0 ++ dktX1_isFit_1
theorem dksX1_isFit_0 : cX1_isFit.data.toList.drop 0 = dktX1_isFit_0 := by decide +kernel
theorem dksX1_isFit_1 : cX1_isFit.data.toList.drop 24 = dktX1_isFit_1 := dk_seg dksX1_isFit_0 24 rfl rfl
theorem dksX1_isFit_2 : cX1_isFit.data.toList.drop 48 = dktX1_isFit_2 := dk_seg dksX1_isFit_1 24 rfl rfl
theorem dX1_isFit_0 : decode cX1_isFit 0 = .ok (.iconst 0, 1) := dk_3 (dk_at dksX1_isFit_0 0 rfl rfl)
theorem dX1_isFit_1 : decode cX1_isFit 1 = .ok (.istore 4, 2) := dk_54 4 (dk_at dksX1_isFit_0 1 rfl rfl)
theorem dX1_isFit_3 : decode cX1_isFit 3 = .ok (.iload 4, 2) := dk_21 4 (dk_at dksX1_isFit_0 3 rfl rfl)
theorem dX1_isFit_5 : decode cX1_isFit 5 = .ok (.aload_n 0, 1) := dk_42 (dk_at dksX1_isFit_0 5 rfl rfl)
theorem dX1_isFit_6 : decode cX1_isFit 6 = .ok (.invokevirtual 158, 3) := dk_182 0 158 (dk_at dksX1_isFit_0 6 rfl rfl)
theorem dX1_isFit_9 : decode cX1_isFit 9 = .ok (.if_icmp .ge 45, 3) := dk_162 0 45 (dk_at dksX1_isFit_0 9 rfl rfl)
theorem dX1_isFit_12 : decode cX1_isFit 12 = .ok (.aload_n 0, 1) := dk_42 (dk_at dksX1_isFit_0 12 rfl rfl)
theorem dX1_isFit_13 : decode cX1_isFit 13 = .ok (.getfield 44, 3) := dk_180 0 44 (dk_at dksX1_isFit_0 13 rfl rfl)
theorem dX1_isFit_16 : decode cX1_isFit 16 = .ok (.iload 4, 2) := dk_21 4 (dk_at dksX1_isFit_0 16 rfl rfl)
theorem dX1_isFit_18 : decode cX1_isFit 18 = .ok (.iaload, 1) := dk_46 (dk_at dksX1_isFit_0 18 rfl rfl)
theorem dX1_isFit_19 : decode cX1_isFit 19 = .ok (.iconst (-1), 1) := dk_2 (dk_at dksX1_isFit_0 19 rfl rfl)
theorem dX1_isFit_20 : decode cX1_isFit 20 = .ok (.if_icmp .eq 28, 3) := dk_159 0 28 (dk_at dksX1_isFit_0 20 rfl rfl)
theorem dX1_isFit_23 : decode cX1_isFit 23 = .ok (.aload_n 0, 1) := dk_42 (dk_at dksX1_isFit_0 23 rfl rfl)
theorem dX1_isFit_24 : decode cX1_isFit 24 = .ok (.getfield 55, 3) := dk_180 0 55 (dk_at dksX1_isFit_1 0 rfl rfl)
theorem dX1_isFit_27 : decode cX1_isFit 27 = .ok (.iload 4, 2) := dk_21 4 (dk_at dksX1_isFit_1 3 rfl rfl)
theorem dX1_isFit_29 : decode cX1_isFit 29 = .ok (.iload_n 1, 1) := dk_27 (dk_at dksX1_isFit_1 5 rfl rfl)
theorem dX1_isFit_30 : decode cX1_isFit 30 = .ok (.iconst 0, 1) := dk_3 (dk_at dksX1_isFit_1 6 rfl rfl)
theorem dX1_isFit_31 : decode cX1_isFit 31 = .ok (.iload_n 2, 1) := dk_28 (dk_at dksX1_isFit_1 7 rfl rfl)
theorem dX1_isFit_32 : decode cX1_isFit 32 = .ok (.iload_n 3, 1) := dk_29 (dk_at dksX1_isFit_1 8 rfl rfl)
theorem dX1_isFit_33 : decode cX1_isFit 33 = .ok (.invokevirtual 368, 3) := dk_182 1 112 (dk_at dksX1_isFit_1 9 rfl rfl)
theorem dX1_isFit_36 : decode cX1_isFit 36 = .ok (.aload_n 0, 1) := dk_42 (dk_at dksX1_isFit_1 12 rfl rfl)
theorem dX1_isFit_37 : decode cX1_isFit 37 = .ok (.getfield 44, 3) := dk_180 0 44 (dk_at dksX1_isFit_1 13 rfl rfl)
theorem dX1_isFit_40 : decode cX1_isFit 40 = .ok (.iload 4, 2) := dk_21 4 (dk_at dksX1_isFit_1 16 rfl rfl)
theorem dX1_isFit_42 : decode cX1_isFit 42 = .ok (.iaload, 1) := dk_46 (dk_at dksX1_isFit_1 18 rfl rfl)
theorem dX1_isFit_43 : decode cX1_isFit 43 = .ok (.if_icmp .eq 5, 3) := dk_159 0 5 (dk_at dksX1_isFit_1 19 rfl rfl)
theorem dX1_isFit_46 : decode cX1_isFit 46 = .ok (.iconst 0, 1) := dk_3 (dk_at dksX1_isFit_1 22 rfl rfl)
theorem dX1_isFit_47 : decode cX1_isFit 47 = .ok (.ireturn, 1) := dk_172 (dk_at dksX1_isFit_1 23 rfl rfl)
theorem dX1_isFit_48 : decode cX1_isFit 48 = .ok (.iinc 4 1, 3) := dk_132 4 1 (dk_at dksX1_isFit_2 0 rfl rfl)
theorem dX1_isFit_51 : decode cX1_isFit 51 = .ok (.goto (-48), 3) := dk_167 255 208 (dk_at dksX1_isFit_2 3 rfl rfl)
theorem dX1_isFit_54 : decode cX1_isFit 54 = .ok (.iconst 1, 1) := dk_4 (dk_at dksX1_isFit_2 6 rfl rfl)
theorem dX1_isFit_55 : decode cX1_isFit 55 = .ok (.ireturn, 1) := dk_172 (dk_at dksX1_isFit_2 7 rfl rfl)
abbrev cX1_look : ByteArray := prog_1_method_54_code
def yX1_look : MethodName := ⟨RX1, "look", "(II)I"⟩
def dkwX1_look_3 : List UInt8 := [21, 6, 54, 4, 132, 5, 1, 167, 255, 199, 28, 154, 0, 7, 29, 167, 0, 5, 21, 4, 172]
abbrev dktX1_look_3 : List UInt8 := dkwX1_look_3 ++ []
def dkwX1_look_2 : List UInt8 := [182, 1, 122, 54, 6, 29, 2, 159, 0, 13, 21, 6, 21, 4, 161, 0, 6, 167, 0, 10, 21, 5, 62]
abbrev dktX1_look_2 : List UInt8 := dkwX1_look_2 ++ dktX1_look_3
def dkwX1_look_1 : List UInt8 := [182, 0, 158, 162, 0, 54, 42, 180, 0, 44, 21, 5, 46, 2, 159, 0, 6, 167, 0, 34, 42, 21, 5, 27]
abbrev dktX1_look_1 : List UInt8 := dkwX1_look_1 ++ dktX1_look_2
def dkwX1_look_0 : List UInt8 := [42, 27, 182, 1, 18, 42, 28, 184, 1, 55, 182, 0, 174, 2, 62, 2, 54, 4, 3, 54, 5, 21, 5, 42]
abbrev dktX1_look_0 : List UInt8 := dkwX1_look_0 ++ dktX1_look_1
theorem dksX1_look_0 : cX1_look.data.toList.drop 0 = dktX1_look_0 := by decide +kernel
theorem dksX1_look_1 : cX1_look.data.toList.drop 24 = dktX1_look_1 := dk_seg dksX1_look_0 24 rfl rfl
theorem dksX1_look_2 : cX1_look.data.toList.drop 48 = dktX1_look_2 := dk_seg dksX1_look_1 24 rfl rfl
theorem dksX1_look_3 : cX1_look.data.toList.drop 71 = dktX1_look_3 := dk_seg dksX1_look_2 23 rfl rfl
theorem dX1_look_0 : decode cX1_look 0 = .ok (.aload_n 0, 1) := dk_42 (dk_at dksX1_look_0 0 rfl rfl)
theorem dX1_look_1 : decode cX1_look 1 = .ok (.iload_n 1, 1) := dk_27 (dk_at dksX1_look_0 1 rfl rfl)
theorem dX1_look_2 : decode cX1_look 2 = .ok (.invokevirtual 274, 3) := dk_182 1 18 (dk_at dksX1_look_0 2 rfl rfl)
theorem dX1_look_5 : decode cX1_look 5 = .ok (.aload_n 0, 1) := dk_42 (dk_at dksX1_look_0 5 rfl rfl)
theorem dX1_look_6 : decode cX1_look 6 = .ok (.iload_n 2, 1) := dk_28 (dk_at dksX1_look_0 6 rfl rfl)
theorem dX1_look_7 : decode cX1_look 7 = .ok (.invokestatic 311, 3) := dk_184 1 55 (dk_at dksX1_look_0 7 rfl rfl)
theorem dX1_look_10 : decode cX1_look 10 = .ok (.invokevirtual 174, 3) := dk_182 0 174 (dk_at dksX1_look_0 10 rfl rfl)
theorem dX1_look_13 : decode cX1_look 13 = .ok (.iconst (-1), 1) := dk_2 (dk_at dksX1_look_0 13 rfl rfl)
theorem dX1_look_14 : decode cX1_look 14 = .ok (.istore_n 3, 1) := dk_62 (dk_at dksX1_look_0 14 rfl rfl)
theorem dX1_look_15 : decode cX1_look 15 = .ok (.iconst (-1), 1) := dk_2 (dk_at dksX1_look_0 15 rfl rfl)
theorem dX1_look_16 : decode cX1_look 16 = .ok (.istore 4, 2) := dk_54 4 (dk_at dksX1_look_0 16 rfl rfl)
theorem dX1_look_18 : decode cX1_look 18 = .ok (.iconst 0, 1) := dk_3 (dk_at dksX1_look_0 18 rfl rfl)
theorem dX1_look_19 : decode cX1_look 19 = .ok (.istore 5, 2) := dk_54 5 (dk_at dksX1_look_0 19 rfl rfl)
theorem dX1_look_21 : decode cX1_look 21 = .ok (.iload 5, 2) := dk_21 5 (dk_at dksX1_look_0 21 rfl rfl)
theorem dX1_look_23 : decode cX1_look 23 = .ok (.aload_n 0, 1) := dk_42 (dk_at dksX1_look_0 23 rfl rfl)
theorem dX1_look_24 : decode cX1_look 24 = .ok (.invokevirtual 158, 3) := dk_182 0 158 (dk_at dksX1_look_1 0 rfl rfl)
theorem dX1_look_27 : decode cX1_look 27 = .ok (.if_icmp .ge 54, 3) := dk_162 0 54 (dk_at dksX1_look_1 3 rfl rfl)
theorem dX1_look_30 : decode cX1_look 30 = .ok (.aload_n 0, 1) := dk_42 (dk_at dksX1_look_1 6 rfl rfl)
theorem dX1_look_31 : decode cX1_look 31 = .ok (.getfield 44, 3) := dk_180 0 44 (dk_at dksX1_look_1 7 rfl rfl)
theorem dX1_look_34 : decode cX1_look 34 = .ok (.iload 5, 2) := dk_21 5 (dk_at dksX1_look_1 10 rfl rfl)
theorem dX1_look_36 : decode cX1_look 36 = .ok (.iaload, 1) := dk_46 (dk_at dksX1_look_1 12 rfl rfl)
theorem dX1_look_37 : decode cX1_look 37 = .ok (.iconst (-1), 1) := dk_2 (dk_at dksX1_look_1 13 rfl rfl)
theorem dX1_look_38 : decode cX1_look 38 = .ok (.if_icmp .eq 6, 3) := dk_159 0 6 (dk_at dksX1_look_1 14 rfl rfl)
theorem dX1_look_41 : decode cX1_look 41 = .ok (.goto 34, 3) := dk_167 0 34 (dk_at dksX1_look_1 17 rfl rfl)
theorem dX1_look_44 : decode cX1_look 44 = .ok (.aload_n 0, 1) := dk_42 (dk_at dksX1_look_1 20 rfl rfl)
theorem dX1_look_45 : decode cX1_look 45 = .ok (.iload 5, 2) := dk_21 5 (dk_at dksX1_look_1 21 rfl rfl)
theorem dX1_look_47 : decode cX1_look 47 = .ok (.iload_n 1, 1) := dk_27 (dk_at dksX1_look_1 23 rfl rfl)
theorem dX1_look_48 : decode cX1_look 48 = .ok (.invokevirtual 378, 3) := dk_182 1 122 (dk_at dksX1_look_2 0 rfl rfl)
theorem dX1_look_51 : decode cX1_look 51 = .ok (.istore 6, 2) := dk_54 6 (dk_at dksX1_look_2 3 rfl rfl)
theorem dX1_look_53 : decode cX1_look 53 = .ok (.iload_n 3, 1) := dk_29 (dk_at dksX1_look_2 5 rfl rfl)
theorem dX1_look_54 : decode cX1_look 54 = .ok (.iconst (-1), 1) := dk_2 (dk_at dksX1_look_2 6 rfl rfl)
theorem dX1_look_55 : decode cX1_look 55 = .ok (.if_icmp .eq 13, 3) := dk_159 0 13 (dk_at dksX1_look_2 7 rfl rfl)
theorem dX1_look_58 : decode cX1_look 58 = .ok (.iload 6, 2) := dk_21 6 (dk_at dksX1_look_2 10 rfl rfl)
theorem dX1_look_60 : decode cX1_look 60 = .ok (.iload 4, 2) := dk_21 4 (dk_at dksX1_look_2 12 rfl rfl)
theorem dX1_look_62 : decode cX1_look 62 = .ok (.if_icmp .lt 6, 3) := dk_161 0 6 (dk_at dksX1_look_2 14 rfl rfl)
theorem dX1_look_65 : decode cX1_look 65 = .ok (.goto 10, 3) := dk_167 0 10 (dk_at dksX1_look_2 17 rfl rfl)
theorem dX1_look_68 : decode cX1_look 68 = .ok (.iload 5, 2) := dk_21 5 (dk_at dksX1_look_2 20 rfl rfl)
theorem dX1_look_70 : decode cX1_look 70 = .ok (.istore_n 3, 1) := dk_62 (dk_at dksX1_look_2 22 rfl rfl)
theorem dX1_look_71 : decode cX1_look 71 = .ok (.iload 6, 2) := dk_21 6 (dk_at dksX1_look_3 0 rfl rfl)
theorem dX1_look_73 : decode cX1_look 73 = .ok (.istore 4, 2) := dk_54 4 (dk_at dksX1_look_3 2 rfl rfl)
theorem dX1_look_75 : decode cX1_look 75 = .ok (.iinc 5 1, 3) := dk_132 5 1 (dk_at dksX1_look_3 4 rfl rfl)
theorem dX1_look_78 : decode cX1_look 78 = .ok (.goto (-57), 3) := dk_167 255 199 (dk_at dksX1_look_3 7 rfl rfl)
theorem dX1_look_81 : decode cX1_look 81 = .ok (.iload_n 2, 1) := dk_28 (dk_at dksX1_look_3 10 rfl rfl)
theorem dX1_look_82 : decode cX1_look 82 = .ok (.ifCond .ne 7, 3) := dk_154 0 7 (dk_at dksX1_look_3 11 rfl rfl)
theorem dX1_look_85 : decode cX1_look 85 = .ok (.iload_n 3, 1) := dk_29 (dk_at dksX1_look_3 14 rfl rfl)
theorem dX1_look_86 : decode cX1_look 86 = .ok (.goto 5, 3) := dk_167 0 5 (dk_at dksX1_look_3 15 rfl rfl)
theorem dX1_look_89 : decode cX1_look 89 = .ok (.iload 4, 2) := dk_21 4 (dk_at dksX1_look_3 18 rfl rfl)
theorem dX1_look_91 : decode cX1_look 91 = .ok (.ireturn, 1) := dk_172 (dk_at dksX1_look_3 20 rfl rfl)
abbrev cX1_worstAt : ByteArray := prog_1_method_53_code
def yX1_worstAt : MethodName := ⟨RX1, "worstAt", "(II)I"⟩
def dkwX1_worstAt_4 : List UInt8 := [184, 0, 143, 62, 132, 5, 1, 167, 255, 192, 132, 4, 1, 167, 255, 176, 29, 172]
abbrev dktX1_worstAt_4 : List UInt8 := dkwX1_worstAt_4 ++ []
def dkwX1_worstAt_3 : List UInt8 := [182, 1, 112, 54, 6, 42, 180, 0, 89, 21, 6, 92, 46, 4, 96, 79, 29, 42, 180, 0, 89, 21, 6, 46]
abbrev dktX1_worstAt_3 : List UInt8 := dkwX1_worstAt_3 ++ dktX1_worstAt_4
def dkwX1_worstAt_2 : List UInt8 := [21, 5, 182, 1, 119, 154, 0, 6, 167, 0, 42, 42, 180, 0, 55, 27, 28, 3, 21, 4, 21, 5]
abbrev dktX1_worstAt_2 : List UInt8 := dkwX1_worstAt_2 ++ dktX1_worstAt_3
def dkwX1_worstAt_1 : List UInt8 := [54, 4, 21, 4, 16, 10, 162, 0, 79, 3, 54, 5, 21, 5, 16, 9, 163, 0, 63, 42, 28, 21, 4]
abbrev dktX1_worstAt_1 : List UInt8 := dkwX1_worstAt_1 ++ dktX1_worstAt_2
def dkwX1_worstAt_0 : List UInt8 := [3, 62, 29, 16, 40, 163, 0, 16, 42, 180, 0, 89, 29, 3, 79, 132, 3, 1, 167, 255, 240, 3, 62, 3]
abbrev dktX1_worstAt_0 : List UInt8 := dkwX1_worstAt_0 ++ dktX1_worstAt_1
theorem dksX1_worstAt_0 : cX1_worstAt.data.toList.drop 0 = dktX1_worstAt_0 := by decide +kernel
theorem dksX1_worstAt_1 : cX1_worstAt.data.toList.drop 24 = dktX1_worstAt_1 := dk_seg dksX1_worstAt_0 24 rfl rfl
theorem dksX1_worstAt_2 : cX1_worstAt.data.toList.drop 47 = dktX1_worstAt_2 := dk_seg dksX1_worstAt_1 23 rfl rfl
theorem dksX1_worstAt_3 : cX1_worstAt.data.toList.drop 69 = dktX1_worstAt_3 := dk_seg dksX1_worstAt_2 22 rfl rfl
theorem dksX1_worstAt_4 : cX1_worstAt.data.toList.drop 93 = dktX1_worstAt_4 := dk_seg dksX1_worstAt_3 24 rfl rfl
theorem dX1_worstAt_0 : decode cX1_worstAt 0 = .ok (.iconst 0, 1) := dk_3 (dk_at dksX1_worstAt_0 0 rfl rfl)
theorem dX1_worstAt_1 : decode cX1_worstAt 1 = .ok (.istore_n 3, 1) := dk_62 (dk_at dksX1_worstAt_0 1 rfl rfl)
theorem dX1_worstAt_2 : decode cX1_worstAt 2 = .ok (.iload_n 3, 1) := dk_29 (dk_at dksX1_worstAt_0 2 rfl rfl)
theorem dX1_worstAt_3 : decode cX1_worstAt 3 = .ok (.bipush 40, 2) := dk_16 40 (dk_at dksX1_worstAt_0 3 rfl rfl)
theorem dX1_worstAt_5 : decode cX1_worstAt 5 = .ok (.if_icmp .gt 16, 3) := dk_163 0 16 (dk_at dksX1_worstAt_0 5 rfl rfl)
theorem dX1_worstAt_8 : decode cX1_worstAt 8 = .ok (.aload_n 0, 1) := dk_42 (dk_at dksX1_worstAt_0 8 rfl rfl)
theorem dX1_worstAt_9 : decode cX1_worstAt 9 = .ok (.getfield 89, 3) := dk_180 0 89 (dk_at dksX1_worstAt_0 9 rfl rfl)
theorem dX1_worstAt_12 : decode cX1_worstAt 12 = .ok (.iload_n 3, 1) := dk_29 (dk_at dksX1_worstAt_0 12 rfl rfl)
theorem dX1_worstAt_13 : decode cX1_worstAt 13 = .ok (.iconst 0, 1) := dk_3 (dk_at dksX1_worstAt_0 13 rfl rfl)
theorem dX1_worstAt_14 : decode cX1_worstAt 14 = .ok (.iastore, 1) := dk_79 (dk_at dksX1_worstAt_0 14 rfl rfl)
theorem dX1_worstAt_15 : decode cX1_worstAt 15 = .ok (.iinc 3 1, 3) := dk_132 3 1 (dk_at dksX1_worstAt_0 15 rfl rfl)
theorem dX1_worstAt_18 : decode cX1_worstAt 18 = .ok (.goto (-16), 3) := dk_167 255 240 (dk_at dksX1_worstAt_0 18 rfl rfl)
theorem dX1_worstAt_21 : decode cX1_worstAt 21 = .ok (.iconst 0, 1) := dk_3 (dk_at dksX1_worstAt_0 21 rfl rfl)
theorem dX1_worstAt_22 : decode cX1_worstAt 22 = .ok (.istore_n 3, 1) := dk_62 (dk_at dksX1_worstAt_0 22 rfl rfl)
theorem dX1_worstAt_23 : decode cX1_worstAt 23 = .ok (.iconst 0, 1) := dk_3 (dk_at dksX1_worstAt_0 23 rfl rfl)
theorem dX1_worstAt_24 : decode cX1_worstAt 24 = .ok (.istore 4, 2) := dk_54 4 (dk_at dksX1_worstAt_1 0 rfl rfl)
theorem dX1_worstAt_26 : decode cX1_worstAt 26 = .ok (.iload 4, 2) := dk_21 4 (dk_at dksX1_worstAt_1 2 rfl rfl)
theorem dX1_worstAt_28 : decode cX1_worstAt 28 = .ok (.bipush 10, 2) := dk_16 10 (dk_at dksX1_worstAt_1 4 rfl rfl)
theorem dX1_worstAt_30 : decode cX1_worstAt 30 = .ok (.if_icmp .ge 79, 3) := dk_162 0 79 (dk_at dksX1_worstAt_1 6 rfl rfl)
theorem dX1_worstAt_33 : decode cX1_worstAt 33 = .ok (.iconst 0, 1) := dk_3 (dk_at dksX1_worstAt_1 9 rfl rfl)
theorem dX1_worstAt_34 : decode cX1_worstAt 34 = .ok (.istore 5, 2) := dk_54 5 (dk_at dksX1_worstAt_1 10 rfl rfl)
theorem dX1_worstAt_36 : decode cX1_worstAt 36 = .ok (.iload 5, 2) := dk_21 5 (dk_at dksX1_worstAt_1 12 rfl rfl)
theorem dX1_worstAt_38 : decode cX1_worstAt 38 = .ok (.bipush 9, 2) := dk_16 9 (dk_at dksX1_worstAt_1 14 rfl rfl)
theorem dX1_worstAt_40 : decode cX1_worstAt 40 = .ok (.if_icmp .gt 63, 3) := dk_163 0 63 (dk_at dksX1_worstAt_1 16 rfl rfl)
theorem dX1_worstAt_43 : decode cX1_worstAt 43 = .ok (.aload_n 0, 1) := dk_42 (dk_at dksX1_worstAt_1 19 rfl rfl)
theorem dX1_worstAt_44 : decode cX1_worstAt 44 = .ok (.iload_n 2, 1) := dk_28 (dk_at dksX1_worstAt_1 20 rfl rfl)
theorem dX1_worstAt_45 : decode cX1_worstAt 45 = .ok (.iload 4, 2) := dk_21 4 (dk_at dksX1_worstAt_1 21 rfl rfl)
theorem dX1_worstAt_47 : decode cX1_worstAt 47 = .ok (.iload 5, 2) := dk_21 5 (dk_at dksX1_worstAt_2 0 rfl rfl)
theorem dX1_worstAt_49 : decode cX1_worstAt 49 = .ok (.invokevirtual 375, 3) := dk_182 1 119 (dk_at dksX1_worstAt_2 2 rfl rfl)
theorem dX1_worstAt_52 : decode cX1_worstAt 52 = .ok (.ifCond .ne 6, 3) := dk_154 0 6 (dk_at dksX1_worstAt_2 5 rfl rfl)
theorem dX1_worstAt_55 : decode cX1_worstAt 55 = .ok (.goto 42, 3) := dk_167 0 42 (dk_at dksX1_worstAt_2 8 rfl rfl)
theorem dX1_worstAt_58 : decode cX1_worstAt 58 = .ok (.aload_n 0, 1) := dk_42 (dk_at dksX1_worstAt_2 11 rfl rfl)
theorem dX1_worstAt_59 : decode cX1_worstAt 59 = .ok (.getfield 55, 3) := dk_180 0 55 (dk_at dksX1_worstAt_2 12 rfl rfl)
theorem dX1_worstAt_62 : decode cX1_worstAt 62 = .ok (.iload_n 1, 1) := dk_27 (dk_at dksX1_worstAt_2 15 rfl rfl)
theorem dX1_worstAt_63 : decode cX1_worstAt 63 = .ok (.iload_n 2, 1) := dk_28 (dk_at dksX1_worstAt_2 16 rfl rfl)
theorem dX1_worstAt_64 : decode cX1_worstAt 64 = .ok (.iconst 0, 1) := dk_3 (dk_at dksX1_worstAt_2 17 rfl rfl)
theorem dX1_worstAt_65 : decode cX1_worstAt 65 = .ok (.iload 4, 2) := dk_21 4 (dk_at dksX1_worstAt_2 18 rfl rfl)
theorem dX1_worstAt_67 : decode cX1_worstAt 67 = .ok (.iload 5, 2) := dk_21 5 (dk_at dksX1_worstAt_2 20 rfl rfl)
theorem dX1_worstAt_69 : decode cX1_worstAt 69 = .ok (.invokevirtual 368, 3) := dk_182 1 112 (dk_at dksX1_worstAt_3 0 rfl rfl)
theorem dX1_worstAt_72 : decode cX1_worstAt 72 = .ok (.istore 6, 2) := dk_54 6 (dk_at dksX1_worstAt_3 3 rfl rfl)
theorem dX1_worstAt_74 : decode cX1_worstAt 74 = .ok (.aload_n 0, 1) := dk_42 (dk_at dksX1_worstAt_3 5 rfl rfl)
theorem dX1_worstAt_75 : decode cX1_worstAt 75 = .ok (.getfield 89, 3) := dk_180 0 89 (dk_at dksX1_worstAt_3 6 rfl rfl)
theorem dX1_worstAt_78 : decode cX1_worstAt 78 = .ok (.iload 6, 2) := dk_21 6 (dk_at dksX1_worstAt_3 9 rfl rfl)
theorem dX1_worstAt_80 : decode cX1_worstAt 80 = .ok (.dup2, 1) := dk_92 (dk_at dksX1_worstAt_3 11 rfl rfl)
theorem dX1_worstAt_81 : decode cX1_worstAt 81 = .ok (.iaload, 1) := dk_46 (dk_at dksX1_worstAt_3 12 rfl rfl)
theorem dX1_worstAt_82 : decode cX1_worstAt 82 = .ok (.iconst 1, 1) := dk_4 (dk_at dksX1_worstAt_3 13 rfl rfl)
theorem dX1_worstAt_83 : decode cX1_worstAt 83 = .ok (.iadd, 1) := dk_96 (dk_at dksX1_worstAt_3 14 rfl rfl)
theorem dX1_worstAt_84 : decode cX1_worstAt 84 = .ok (.iastore, 1) := dk_79 (dk_at dksX1_worstAt_3 15 rfl rfl)
theorem dX1_worstAt_85 : decode cX1_worstAt 85 = .ok (.iload_n 3, 1) := dk_29 (dk_at dksX1_worstAt_3 16 rfl rfl)
theorem dX1_worstAt_86 : decode cX1_worstAt 86 = .ok (.aload_n 0, 1) := dk_42 (dk_at dksX1_worstAt_3 17 rfl rfl)
theorem dX1_worstAt_87 : decode cX1_worstAt 87 = .ok (.getfield 89, 3) := dk_180 0 89 (dk_at dksX1_worstAt_3 18 rfl rfl)
theorem dX1_worstAt_90 : decode cX1_worstAt 90 = .ok (.iload 6, 2) := dk_21 6 (dk_at dksX1_worstAt_3 21 rfl rfl)
theorem dX1_worstAt_92 : decode cX1_worstAt 92 = .ok (.iaload, 1) := dk_46 (dk_at dksX1_worstAt_3 23 rfl rfl)
theorem dX1_worstAt_93 : decode cX1_worstAt 93 = .ok (.invokestatic 143, 3) := dk_184 0 143 (dk_at dksX1_worstAt_4 0 rfl rfl)
theorem dX1_worstAt_96 : decode cX1_worstAt 96 = .ok (.istore_n 3, 1) := dk_62 (dk_at dksX1_worstAt_4 3 rfl rfl)
theorem dX1_worstAt_97 : decode cX1_worstAt 97 = .ok (.iinc 5 1, 3) := dk_132 5 1 (dk_at dksX1_worstAt_4 4 rfl rfl)
theorem dX1_worstAt_100 : decode cX1_worstAt 100 = .ok (.goto (-64), 3) := dk_167 255 192 (dk_at dksX1_worstAt_4 7 rfl rfl)
theorem dX1_worstAt_103 : decode cX1_worstAt 103 = .ok (.iinc 4 1, 3) := dk_132 4 1 (dk_at dksX1_worstAt_4 10 rfl rfl)
theorem dX1_worstAt_106 : decode cX1_worstAt 106 = .ok (.goto (-80), 3) := dk_167 255 176 (dk_at dksX1_worstAt_4 13 rfl rfl)
theorem dX1_worstAt_109 : decode cX1_worstAt 109 = .ok (.iload_n 3, 1) := dk_29 (dk_at dksX1_worstAt_4 16 rfl rfl)
theorem dX1_worstAt_110 : decode cX1_worstAt 110 = .ok (.ireturn, 1) := dk_172 (dk_at dksX1_worstAt_4 17 rfl rfl)
abbrev cX1_way : ByteArray := prog_1_method_56_code
def yX1_way : MethodName := ⟨RX1, "way", "(II)I"⟩
def dkwX1_way_2 : List UInt8 := [167, 255, 226, 2, 172]
abbrev dktX1_way_2 : List UInt8 := dkwX1_way_2 ++ []
def dkwX1_way_1 : List UInt8 := [29, 28, 184, 1, 87, 153, 0, 6, 21, 4, 172, 42, 180, 0, 28, 29, 182, 1, 125, 62, 132, 4, 1]
abbrev dktX1_way_1 : List UInt8 := dkwX1_way_1 ++ dktX1_way_2
def dkwX1_way_0 : List UInt8 := [42, 27, 182, 1, 18, 42, 28, 182, 1, 18, 4, 27, 120, 62, 3, 54, 4, 21, 4, 16, 7, 162, 0, 29]
abbrev dktX1_way_0 : List UInt8 := dkwX1_way_0 ++ dktX1_way_1
theorem dksX1_way_0 : cX1_way.data.toList.drop 0 = dktX1_way_0 := by decide +kernel
theorem dksX1_way_1 : cX1_way.data.toList.drop 24 = dktX1_way_1 := dk_seg dksX1_way_0 24 rfl rfl
theorem dksX1_way_2 : cX1_way.data.toList.drop 47 = dktX1_way_2 := dk_seg dksX1_way_1 23 rfl rfl
theorem dX1_way_0 : decode cX1_way 0 = .ok (.aload_n 0, 1) := dk_42 (dk_at dksX1_way_0 0 rfl rfl)
theorem dX1_way_1 : decode cX1_way 1 = .ok (.iload_n 1, 1) := dk_27 (dk_at dksX1_way_0 1 rfl rfl)
theorem dX1_way_2 : decode cX1_way 2 = .ok (.invokevirtual 274, 3) := dk_182 1 18 (dk_at dksX1_way_0 2 rfl rfl)
theorem dX1_way_5 : decode cX1_way 5 = .ok (.aload_n 0, 1) := dk_42 (dk_at dksX1_way_0 5 rfl rfl)
theorem dX1_way_6 : decode cX1_way 6 = .ok (.iload_n 2, 1) := dk_28 (dk_at dksX1_way_0 6 rfl rfl)
theorem dX1_way_7 : decode cX1_way 7 = .ok (.invokevirtual 274, 3) := dk_182 1 18 (dk_at dksX1_way_0 7 rfl rfl)
theorem dX1_way_10 : decode cX1_way 10 = .ok (.iconst 1, 1) := dk_4 (dk_at dksX1_way_0 10 rfl rfl)
theorem dX1_way_11 : decode cX1_way 11 = .ok (.iload_n 1, 1) := dk_27 (dk_at dksX1_way_0 11 rfl rfl)
theorem dX1_way_12 : decode cX1_way 12 = .ok (.ishl, 1) := dk_120 (dk_at dksX1_way_0 12 rfl rfl)
theorem dX1_way_13 : decode cX1_way 13 = .ok (.istore_n 3, 1) := dk_62 (dk_at dksX1_way_0 13 rfl rfl)
theorem dX1_way_14 : decode cX1_way 14 = .ok (.iconst 0, 1) := dk_3 (dk_at dksX1_way_0 14 rfl rfl)
theorem dX1_way_15 : decode cX1_way 15 = .ok (.istore 4, 2) := dk_54 4 (dk_at dksX1_way_0 15 rfl rfl)
theorem dX1_way_17 : decode cX1_way 17 = .ok (.iload 4, 2) := dk_21 4 (dk_at dksX1_way_0 17 rfl rfl)
theorem dX1_way_19 : decode cX1_way 19 = .ok (.bipush 7, 2) := dk_16 7 (dk_at dksX1_way_0 19 rfl rfl)
theorem dX1_way_21 : decode cX1_way 21 = .ok (.if_icmp .ge 29, 3) := dk_162 0 29 (dk_at dksX1_way_0 21 rfl rfl)
theorem dX1_way_24 : decode cX1_way 24 = .ok (.iload_n 3, 1) := dk_29 (dk_at dksX1_way_1 0 rfl rfl)
theorem dX1_way_25 : decode cX1_way 25 = .ok (.iload_n 2, 1) := dk_28 (dk_at dksX1_way_1 1 rfl rfl)
theorem dX1_way_26 : decode cX1_way 26 = .ok (.invokestatic 343, 3) := dk_184 1 87 (dk_at dksX1_way_1 2 rfl rfl)
theorem dX1_way_29 : decode cX1_way 29 = .ok (.ifCond .eq 6, 3) := dk_153 0 6 (dk_at dksX1_way_1 5 rfl rfl)
theorem dX1_way_32 : decode cX1_way 32 = .ok (.iload 4, 2) := dk_21 4 (dk_at dksX1_way_1 8 rfl rfl)
theorem dX1_way_34 : decode cX1_way 34 = .ok (.ireturn, 1) := dk_172 (dk_at dksX1_way_1 10 rfl rfl)
theorem dX1_way_35 : decode cX1_way 35 = .ok (.aload_n 0, 1) := dk_42 (dk_at dksX1_way_1 11 rfl rfl)
theorem dX1_way_36 : decode cX1_way 36 = .ok (.getfield 28, 3) := dk_180 0 28 (dk_at dksX1_way_1 12 rfl rfl)
theorem dX1_way_39 : decode cX1_way 39 = .ok (.iload_n 3, 1) := dk_29 (dk_at dksX1_way_1 15 rfl rfl)
theorem dX1_way_40 : decode cX1_way 40 = .ok (.invokevirtual 381, 3) := dk_182 1 125 (dk_at dksX1_way_1 16 rfl rfl)
theorem dX1_way_43 : decode cX1_way 43 = .ok (.istore_n 3, 1) := dk_62 (dk_at dksX1_way_1 19 rfl rfl)
theorem dX1_way_44 : decode cX1_way 44 = .ok (.iinc 4 1, 3) := dk_132 4 1 (dk_at dksX1_way_1 20 rfl rfl)
theorem dX1_way_47 : decode cX1_way 47 = .ok (.goto (-30), 3) := dk_167 255 226 (dk_at dksX1_way_2 0 rfl rfl)
theorem dX1_way_50 : decode cX1_way 50 = .ok (.iconst (-1), 1) := dk_2 (dk_at dksX1_way_2 3 rfl rfl)
theorem dX1_way_51 : decode cX1_way 51 = .ok (.ireturn, 1) := dk_172 (dk_at dksX1_way_2 4 rfl rfl)
abbrev cX1_comedians : ByteArray := prog_1_method_60_code
def yX1_comedians : MethodName := ⟨RX1, "comedians", "(IIII)I"⟩
def dkwX1_comedians_7 : List UInt8 := [184, 1, 128, 21, 6, 16, 10, 112, 21, 6, 16, 10, 108, 27, 28, 184, 1, 128, 96, 172]
abbrev dktX1_comedians_7 : List UInt8 := dkwX1_comedians_7 ++ []
def dkwX1_comedians_6 : List UInt8 := [21, 6, 2, 160, 0, 7, 3, 167, 0, 34, 21, 6, 16, 10, 108, 21, 6, 16, 10, 112, 27, 28]
abbrev dktX1_comedians_6 : List UInt8 := dkwX1_comedians_6 ++ dktX1_comedians_7
def dkwX1_comedians_5 : List UInt8 := [167, 255, 197, 21, 4, 154, 0, 8, 21, 5, 167, 0, 55, 21, 4, 4, 160, 0, 8, 21, 6, 167, 0, 44]
abbrev dktX1_comedians_5 : List UInt8 := dkwX1_comedians_5 ++ dktX1_comedians_6
def dkwX1_comedians_4 : List UInt8 := [2, 160, 0, 13, 16, 10, 21, 7, 104, 21, 8, 96, 54, 6, 132, 8, 1, 167, 255, 212, 132, 7, 1]
abbrev dktX1_comedians_4 : List UInt8 := dkwX1_comedians_4 ++ dktX1_comedians_5
def dkwX1_comedians_3 : List UInt8 := [162, 0, 44, 21, 7, 21, 8, 27, 28, 29, 184, 1, 132, 154, 0, 6, 167, 0, 22, 132, 5, 1, 21, 6]
abbrev dktX1_comedians_3 : List UInt8 := dkwX1_comedians_3 ++ dktX1_comedians_4
def dkwX1_comedians_2 : List UInt8 := [182, 0, 174, 3, 54, 5, 2, 54, 6, 3, 54, 7, 21, 7, 29, 162, 0, 59, 3, 54, 8, 21, 8, 29]
abbrev dktX1_comedians_2 : List UInt8 := dkwX1_comedians_2 ++ dktX1_comedians_3
def dkwX1_comedians_1 : List UInt8 := [16, 6, 184, 0, 243, 153, 0, 17, 21, 4, 3, 5, 184, 0, 243, 153, 0, 7, 4, 167, 0, 4, 3]
abbrev dktX1_comedians_1 : List UInt8 := dkwX1_comedians_1 ++ dktX1_comedians_2
def dkwX1_comedians_0 : List UInt8 := [42, 27, 3, 16, 99, 184, 0, 243, 153, 0, 37, 28, 3, 16, 20, 184, 0, 243, 153, 0, 27, 29, 4]
abbrev dktX1_comedians_0 : List UInt8 := dkwX1_comedians_0 ++ dktX1_comedians_1
theorem dksX1_comedians_0 : cX1_comedians.data.toList.drop 0 = dktX1_comedians_0 := by decide +kernel
theorem dksX1_comedians_1 : cX1_comedians.data.toList.drop 23 = dktX1_comedians_1 := dk_seg dksX1_comedians_0 23 rfl rfl
theorem dksX1_comedians_2 : cX1_comedians.data.toList.drop 46 = dktX1_comedians_2 := dk_seg dksX1_comedians_1 23 rfl rfl
theorem dksX1_comedians_3 : cX1_comedians.data.toList.drop 70 = dktX1_comedians_3 := dk_seg dksX1_comedians_2 24 rfl rfl
theorem dksX1_comedians_4 : cX1_comedians.data.toList.drop 94 = dktX1_comedians_4 := dk_seg dksX1_comedians_3 24 rfl rfl
theorem dksX1_comedians_5 : cX1_comedians.data.toList.drop 117 = dktX1_comedians_5 := dk_seg dksX1_comedians_4 23 rfl rfl
theorem dksX1_comedians_6 : cX1_comedians.data.toList.drop 141 = dktX1_comedians_6 := dk_seg dksX1_comedians_5 24 rfl rfl
theorem dksX1_comedians_7 : cX1_comedians.data.toList.drop 163 = dktX1_comedians_7 := dk_seg dksX1_comedians_6 22 rfl rfl
theorem dX1_comedians_0 : decode cX1_comedians 0 = .ok (.aload_n 0, 1) := dk_42 (dk_at dksX1_comedians_0 0 rfl rfl)
theorem dX1_comedians_1 : decode cX1_comedians 1 = .ok (.iload_n 1, 1) := dk_27 (dk_at dksX1_comedians_0 1 rfl rfl)
theorem dX1_comedians_2 : decode cX1_comedians 2 = .ok (.iconst 0, 1) := dk_3 (dk_at dksX1_comedians_0 2 rfl rfl)
theorem dX1_comedians_3 : decode cX1_comedians 3 = .ok (.bipush 99, 2) := dk_16 99 (dk_at dksX1_comedians_0 3 rfl rfl)
theorem dX1_comedians_5 : decode cX1_comedians 5 = .ok (.invokestatic 243, 3) := dk_184 0 243 (dk_at dksX1_comedians_0 5 rfl rfl)
theorem dX1_comedians_8 : decode cX1_comedians 8 = .ok (.ifCond .eq 37, 3) := dk_153 0 37 (dk_at dksX1_comedians_0 8 rfl rfl)
theorem dX1_comedians_11 : decode cX1_comedians 11 = .ok (.iload_n 2, 1) := dk_28 (dk_at dksX1_comedians_0 11 rfl rfl)
theorem dX1_comedians_12 : decode cX1_comedians 12 = .ok (.iconst 0, 1) := dk_3 (dk_at dksX1_comedians_0 12 rfl rfl)
theorem dX1_comedians_13 : decode cX1_comedians 13 = .ok (.bipush 20, 2) := dk_16 20 (dk_at dksX1_comedians_0 13 rfl rfl)
theorem dX1_comedians_15 : decode cX1_comedians 15 = .ok (.invokestatic 243, 3) := dk_184 0 243 (dk_at dksX1_comedians_0 15 rfl rfl)
theorem dX1_comedians_18 : decode cX1_comedians 18 = .ok (.ifCond .eq 27, 3) := dk_153 0 27 (dk_at dksX1_comedians_0 18 rfl rfl)
theorem dX1_comedians_21 : decode cX1_comedians 21 = .ok (.iload_n 3, 1) := dk_29 (dk_at dksX1_comedians_0 21 rfl rfl)
theorem dX1_comedians_22 : decode cX1_comedians 22 = .ok (.iconst 1, 1) := dk_4 (dk_at dksX1_comedians_0 22 rfl rfl)
theorem dX1_comedians_23 : decode cX1_comedians 23 = .ok (.bipush 6, 2) := dk_16 6 (dk_at dksX1_comedians_1 0 rfl rfl)
theorem dX1_comedians_25 : decode cX1_comedians 25 = .ok (.invokestatic 243, 3) := dk_184 0 243 (dk_at dksX1_comedians_1 2 rfl rfl)
theorem dX1_comedians_28 : decode cX1_comedians 28 = .ok (.ifCond .eq 17, 3) := dk_153 0 17 (dk_at dksX1_comedians_1 5 rfl rfl)
theorem dX1_comedians_31 : decode cX1_comedians 31 = .ok (.iload 4, 2) := dk_21 4 (dk_at dksX1_comedians_1 8 rfl rfl)
theorem dX1_comedians_33 : decode cX1_comedians 33 = .ok (.iconst 0, 1) := dk_3 (dk_at dksX1_comedians_1 10 rfl rfl)
theorem dX1_comedians_34 : decode cX1_comedians 34 = .ok (.iconst 2, 1) := dk_5 (dk_at dksX1_comedians_1 11 rfl rfl)
theorem dX1_comedians_35 : decode cX1_comedians 35 = .ok (.invokestatic 243, 3) := dk_184 0 243 (dk_at dksX1_comedians_1 12 rfl rfl)
theorem dX1_comedians_38 : decode cX1_comedians 38 = .ok (.ifCond .eq 7, 3) := dk_153 0 7 (dk_at dksX1_comedians_1 15 rfl rfl)
theorem dX1_comedians_41 : decode cX1_comedians 41 = .ok (.iconst 1, 1) := dk_4 (dk_at dksX1_comedians_1 18 rfl rfl)
theorem dX1_comedians_42 : decode cX1_comedians 42 = .ok (.goto 4, 3) := dk_167 0 4 (dk_at dksX1_comedians_1 19 rfl rfl)
theorem dX1_comedians_45 : decode cX1_comedians 45 = .ok (.iconst 0, 1) := dk_3 (dk_at dksX1_comedians_1 22 rfl rfl)
theorem dX1_comedians_46 : decode cX1_comedians 46 = .ok (.invokevirtual 174, 3) := dk_182 0 174 (dk_at dksX1_comedians_2 0 rfl rfl)
theorem dX1_comedians_49 : decode cX1_comedians 49 = .ok (.iconst 0, 1) := dk_3 (dk_at dksX1_comedians_2 3 rfl rfl)
theorem dX1_comedians_50 : decode cX1_comedians 50 = .ok (.istore 5, 2) := dk_54 5 (dk_at dksX1_comedians_2 4 rfl rfl)
theorem dX1_comedians_52 : decode cX1_comedians 52 = .ok (.iconst (-1), 1) := dk_2 (dk_at dksX1_comedians_2 6 rfl rfl)
theorem dX1_comedians_53 : decode cX1_comedians 53 = .ok (.istore 6, 2) := dk_54 6 (dk_at dksX1_comedians_2 7 rfl rfl)
theorem dX1_comedians_55 : decode cX1_comedians 55 = .ok (.iconst 0, 1) := dk_3 (dk_at dksX1_comedians_2 9 rfl rfl)
theorem dX1_comedians_56 : decode cX1_comedians 56 = .ok (.istore 7, 2) := dk_54 7 (dk_at dksX1_comedians_2 10 rfl rfl)
theorem dX1_comedians_58 : decode cX1_comedians 58 = .ok (.iload 7, 2) := dk_21 7 (dk_at dksX1_comedians_2 12 rfl rfl)
theorem dX1_comedians_60 : decode cX1_comedians 60 = .ok (.iload_n 3, 1) := dk_29 (dk_at dksX1_comedians_2 14 rfl rfl)
theorem dX1_comedians_61 : decode cX1_comedians 61 = .ok (.if_icmp .ge 59, 3) := dk_162 0 59 (dk_at dksX1_comedians_2 15 rfl rfl)
theorem dX1_comedians_64 : decode cX1_comedians 64 = .ok (.iconst 0, 1) := dk_3 (dk_at dksX1_comedians_2 18 rfl rfl)
theorem dX1_comedians_65 : decode cX1_comedians 65 = .ok (.istore 8, 2) := dk_54 8 (dk_at dksX1_comedians_2 19 rfl rfl)
theorem dX1_comedians_67 : decode cX1_comedians 67 = .ok (.iload 8, 2) := dk_21 8 (dk_at dksX1_comedians_2 21 rfl rfl)
theorem dX1_comedians_69 : decode cX1_comedians 69 = .ok (.iload_n 3, 1) := dk_29 (dk_at dksX1_comedians_2 23 rfl rfl)
theorem dX1_comedians_70 : decode cX1_comedians 70 = .ok (.if_icmp .ge 44, 3) := dk_162 0 44 (dk_at dksX1_comedians_3 0 rfl rfl)
theorem dX1_comedians_73 : decode cX1_comedians 73 = .ok (.iload 7, 2) := dk_21 7 (dk_at dksX1_comedians_3 3 rfl rfl)
theorem dX1_comedians_75 : decode cX1_comedians 75 = .ok (.iload 8, 2) := dk_21 8 (dk_at dksX1_comedians_3 5 rfl rfl)
theorem dX1_comedians_77 : decode cX1_comedians 77 = .ok (.iload_n 1, 1) := dk_27 (dk_at dksX1_comedians_3 7 rfl rfl)
theorem dX1_comedians_78 : decode cX1_comedians 78 = .ok (.iload_n 2, 1) := dk_28 (dk_at dksX1_comedians_3 8 rfl rfl)
theorem dX1_comedians_79 : decode cX1_comedians 79 = .ok (.iload_n 3, 1) := dk_29 (dk_at dksX1_comedians_3 9 rfl rfl)
theorem dX1_comedians_80 : decode cX1_comedians 80 = .ok (.invokestatic 388, 3) := dk_184 1 132 (dk_at dksX1_comedians_3 10 rfl rfl)
theorem dX1_comedians_83 : decode cX1_comedians 83 = .ok (.ifCond .ne 6, 3) := dk_154 0 6 (dk_at dksX1_comedians_3 13 rfl rfl)
theorem dX1_comedians_86 : decode cX1_comedians 86 = .ok (.goto 22, 3) := dk_167 0 22 (dk_at dksX1_comedians_3 16 rfl rfl)
theorem dX1_comedians_89 : decode cX1_comedians 89 = .ok (.iinc 5 1, 3) := dk_132 5 1 (dk_at dksX1_comedians_3 19 rfl rfl)
theorem dX1_comedians_92 : decode cX1_comedians 92 = .ok (.iload 6, 2) := dk_21 6 (dk_at dksX1_comedians_3 22 rfl rfl)
theorem dX1_comedians_94 : decode cX1_comedians 94 = .ok (.iconst (-1), 1) := dk_2 (dk_at dksX1_comedians_4 0 rfl rfl)
theorem dX1_comedians_95 : decode cX1_comedians 95 = .ok (.if_icmp .ne 13, 3) := dk_160 0 13 (dk_at dksX1_comedians_4 1 rfl rfl)
theorem dX1_comedians_98 : decode cX1_comedians 98 = .ok (.bipush 10, 2) := dk_16 10 (dk_at dksX1_comedians_4 4 rfl rfl)
theorem dX1_comedians_100 : decode cX1_comedians 100 = .ok (.iload 7, 2) := dk_21 7 (dk_at dksX1_comedians_4 6 rfl rfl)
theorem dX1_comedians_102 : decode cX1_comedians 102 = .ok (.imul, 1) := dk_104 (dk_at dksX1_comedians_4 8 rfl rfl)
theorem dX1_comedians_103 : decode cX1_comedians 103 = .ok (.iload 8, 2) := dk_21 8 (dk_at dksX1_comedians_4 9 rfl rfl)
theorem dX1_comedians_105 : decode cX1_comedians 105 = .ok (.iadd, 1) := dk_96 (dk_at dksX1_comedians_4 11 rfl rfl)
theorem dX1_comedians_106 : decode cX1_comedians 106 = .ok (.istore 6, 2) := dk_54 6 (dk_at dksX1_comedians_4 12 rfl rfl)
theorem dX1_comedians_108 : decode cX1_comedians 108 = .ok (.iinc 8 1, 3) := dk_132 8 1 (dk_at dksX1_comedians_4 14 rfl rfl)
theorem dX1_comedians_111 : decode cX1_comedians 111 = .ok (.goto (-44), 3) := dk_167 255 212 (dk_at dksX1_comedians_4 17 rfl rfl)
theorem dX1_comedians_114 : decode cX1_comedians 114 = .ok (.iinc 7 1, 3) := dk_132 7 1 (dk_at dksX1_comedians_4 20 rfl rfl)
theorem dX1_comedians_117 : decode cX1_comedians 117 = .ok (.goto (-59), 3) := dk_167 255 197 (dk_at dksX1_comedians_5 0 rfl rfl)
theorem dX1_comedians_120 : decode cX1_comedians 120 = .ok (.iload 4, 2) := dk_21 4 (dk_at dksX1_comedians_5 3 rfl rfl)
theorem dX1_comedians_122 : decode cX1_comedians 122 = .ok (.ifCond .ne 8, 3) := dk_154 0 8 (dk_at dksX1_comedians_5 5 rfl rfl)
theorem dX1_comedians_125 : decode cX1_comedians 125 = .ok (.iload 5, 2) := dk_21 5 (dk_at dksX1_comedians_5 8 rfl rfl)
theorem dX1_comedians_127 : decode cX1_comedians 127 = .ok (.goto 55, 3) := dk_167 0 55 (dk_at dksX1_comedians_5 10 rfl rfl)
theorem dX1_comedians_130 : decode cX1_comedians 130 = .ok (.iload 4, 2) := dk_21 4 (dk_at dksX1_comedians_5 13 rfl rfl)
theorem dX1_comedians_132 : decode cX1_comedians 132 = .ok (.iconst 1, 1) := dk_4 (dk_at dksX1_comedians_5 15 rfl rfl)
theorem dX1_comedians_133 : decode cX1_comedians 133 = .ok (.if_icmp .ne 8, 3) := dk_160 0 8 (dk_at dksX1_comedians_5 16 rfl rfl)
theorem dX1_comedians_136 : decode cX1_comedians 136 = .ok (.iload 6, 2) := dk_21 6 (dk_at dksX1_comedians_5 19 rfl rfl)
theorem dX1_comedians_138 : decode cX1_comedians 138 = .ok (.goto 44, 3) := dk_167 0 44 (dk_at dksX1_comedians_5 21 rfl rfl)
theorem dX1_comedians_141 : decode cX1_comedians 141 = .ok (.iload 6, 2) := dk_21 6 (dk_at dksX1_comedians_6 0 rfl rfl)
theorem dX1_comedians_143 : decode cX1_comedians 143 = .ok (.iconst (-1), 1) := dk_2 (dk_at dksX1_comedians_6 2 rfl rfl)
theorem dX1_comedians_144 : decode cX1_comedians 144 = .ok (.if_icmp .ne 7, 3) := dk_160 0 7 (dk_at dksX1_comedians_6 3 rfl rfl)
theorem dX1_comedians_147 : decode cX1_comedians 147 = .ok (.iconst 0, 1) := dk_3 (dk_at dksX1_comedians_6 6 rfl rfl)
theorem dX1_comedians_148 : decode cX1_comedians 148 = .ok (.goto 34, 3) := dk_167 0 34 (dk_at dksX1_comedians_6 7 rfl rfl)
theorem dX1_comedians_151 : decode cX1_comedians 151 = .ok (.iload 6, 2) := dk_21 6 (dk_at dksX1_comedians_6 10 rfl rfl)
theorem dX1_comedians_153 : decode cX1_comedians 153 = .ok (.bipush 10, 2) := dk_16 10 (dk_at dksX1_comedians_6 12 rfl rfl)
theorem dX1_comedians_155 : decode cX1_comedians 155 = .ok (.idiv, 1) := dk_108 (dk_at dksX1_comedians_6 14 rfl rfl)
theorem dX1_comedians_156 : decode cX1_comedians 156 = .ok (.iload 6, 2) := dk_21 6 (dk_at dksX1_comedians_6 15 rfl rfl)
theorem dX1_comedians_158 : decode cX1_comedians 158 = .ok (.bipush 10, 2) := dk_16 10 (dk_at dksX1_comedians_6 17 rfl rfl)
theorem dX1_comedians_160 : decode cX1_comedians 160 = .ok (.irem, 1) := dk_112 (dk_at dksX1_comedians_6 19 rfl rfl)
theorem dX1_comedians_161 : decode cX1_comedians 161 = .ok (.iload_n 1, 1) := dk_27 (dk_at dksX1_comedians_6 20 rfl rfl)
theorem dX1_comedians_162 : decode cX1_comedians 162 = .ok (.iload_n 2, 1) := dk_28 (dk_at dksX1_comedians_6 21 rfl rfl)
theorem dX1_comedians_163 : decode cX1_comedians 163 = .ok (.invokestatic 384, 3) := dk_184 1 128 (dk_at dksX1_comedians_7 0 rfl rfl)
theorem dX1_comedians_166 : decode cX1_comedians 166 = .ok (.iload 6, 2) := dk_21 6 (dk_at dksX1_comedians_7 3 rfl rfl)
theorem dX1_comedians_168 : decode cX1_comedians 168 = .ok (.bipush 10, 2) := dk_16 10 (dk_at dksX1_comedians_7 5 rfl rfl)
theorem dX1_comedians_170 : decode cX1_comedians 170 = .ok (.irem, 1) := dk_112 (dk_at dksX1_comedians_7 7 rfl rfl)
theorem dX1_comedians_171 : decode cX1_comedians 171 = .ok (.iload 6, 2) := dk_21 6 (dk_at dksX1_comedians_7 8 rfl rfl)
theorem dX1_comedians_173 : decode cX1_comedians 173 = .ok (.bipush 10, 2) := dk_16 10 (dk_at dksX1_comedians_7 10 rfl rfl)
theorem dX1_comedians_175 : decode cX1_comedians 175 = .ok (.idiv, 1) := dk_108 (dk_at dksX1_comedians_7 12 rfl rfl)
theorem dX1_comedians_176 : decode cX1_comedians 176 = .ok (.iload_n 1, 1) := dk_27 (dk_at dksX1_comedians_7 13 rfl rfl)
theorem dX1_comedians_177 : decode cX1_comedians 177 = .ok (.iload_n 2, 1) := dk_28 (dk_at dksX1_comedians_7 14 rfl rfl)
theorem dX1_comedians_178 : decode cX1_comedians 178 = .ok (.invokestatic 384, 3) := dk_184 1 128 (dk_at dksX1_comedians_7 15 rfl rfl)
theorem dX1_comedians_181 : decode cX1_comedians 181 = .ok (.iadd, 1) := dk_96 (dk_at dksX1_comedians_7 18 rfl rfl)
theorem dX1_comedians_182 : decode cX1_comedians 182 = .ok (.ireturn, 1) := dk_172 (dk_at dksX1_comedians_7 19 rfl rfl)
abbrev cX1_isRest : ByteArray := prog_1_method_59_code
def yX1_isRest : MethodName := ⟨RX1, "isRest", "(IIIII)Z"⟩
def dkwX1_isRest_2 : List UInt8 := [3, 172, 132, 5, 1, 167, 255, 208, 4, 172]
abbrev dktX1_isRest_2 : List UInt8 := dkwX1_isRest_2 ++ []
def dkwX1_isRest_1 : List UInt8 := [184, 1, 128, 163, 0, 21, 21, 5, 26, 28, 29, 184, 1, 128, 27, 26, 28, 29, 184, 1, 128, 164, 0, 5]
abbrev dktX1_isRest_1 : List UInt8 := dkwX1_isRest_1 ++ dktX1_isRest_2
def dkwX1_isRest_0 : List UInt8 := [3, 54, 5, 21, 5, 21, 4, 162, 0, 47, 21, 5, 27, 28, 29, 184, 1, 128, 26, 27, 28, 29]
abbrev dktX1_isRest_0 : List UInt8 := dkwX1_isRest_0 ++ dktX1_isRest_1
theorem dksX1_isRest_0 : cX1_isRest.data.toList.drop 0 = dktX1_isRest_0 := by decide +kernel
theorem dksX1_isRest_1 : cX1_isRest.data.toList.drop 22 = dktX1_isRest_1 := dk_seg dksX1_isRest_0 22 rfl rfl
theorem dksX1_isRest_2 : cX1_isRest.data.toList.drop 46 = dktX1_isRest_2 := dk_seg dksX1_isRest_1 24 rfl rfl
theorem dX1_isRest_0 : decode cX1_isRest 0 = .ok (.iconst 0, 1) := dk_3 (dk_at dksX1_isRest_0 0 rfl rfl)
theorem dX1_isRest_1 : decode cX1_isRest 1 = .ok (.istore 5, 2) := dk_54 5 (dk_at dksX1_isRest_0 1 rfl rfl)
theorem dX1_isRest_3 : decode cX1_isRest 3 = .ok (.iload 5, 2) := dk_21 5 (dk_at dksX1_isRest_0 3 rfl rfl)
theorem dX1_isRest_5 : decode cX1_isRest 5 = .ok (.iload 4, 2) := dk_21 4 (dk_at dksX1_isRest_0 5 rfl rfl)
theorem dX1_isRest_7 : decode cX1_isRest 7 = .ok (.if_icmp .ge 47, 3) := dk_162 0 47 (dk_at dksX1_isRest_0 7 rfl rfl)
theorem dX1_isRest_10 : decode cX1_isRest 10 = .ok (.iload 5, 2) := dk_21 5 (dk_at dksX1_isRest_0 10 rfl rfl)
theorem dX1_isRest_12 : decode cX1_isRest 12 = .ok (.iload_n 1, 1) := dk_27 (dk_at dksX1_isRest_0 12 rfl rfl)
theorem dX1_isRest_13 : decode cX1_isRest 13 = .ok (.iload_n 2, 1) := dk_28 (dk_at dksX1_isRest_0 13 rfl rfl)
theorem dX1_isRest_14 : decode cX1_isRest 14 = .ok (.iload_n 3, 1) := dk_29 (dk_at dksX1_isRest_0 14 rfl rfl)
theorem dX1_isRest_15 : decode cX1_isRest 15 = .ok (.invokestatic 384, 3) := dk_184 1 128 (dk_at dksX1_isRest_0 15 rfl rfl)
theorem dX1_isRest_18 : decode cX1_isRest 18 = .ok (.iload_n 0, 1) := dk_26 (dk_at dksX1_isRest_0 18 rfl rfl)
theorem dX1_isRest_19 : decode cX1_isRest 19 = .ok (.iload_n 1, 1) := dk_27 (dk_at dksX1_isRest_0 19 rfl rfl)
theorem dX1_isRest_20 : decode cX1_isRest 20 = .ok (.iload_n 2, 1) := dk_28 (dk_at dksX1_isRest_0 20 rfl rfl)
theorem dX1_isRest_21 : decode cX1_isRest 21 = .ok (.iload_n 3, 1) := dk_29 (dk_at dksX1_isRest_0 21 rfl rfl)
theorem dX1_isRest_22 : decode cX1_isRest 22 = .ok (.invokestatic 384, 3) := dk_184 1 128 (dk_at dksX1_isRest_1 0 rfl rfl)
theorem dX1_isRest_25 : decode cX1_isRest 25 = .ok (.if_icmp .gt 21, 3) := dk_163 0 21 (dk_at dksX1_isRest_1 3 rfl rfl)
theorem dX1_isRest_28 : decode cX1_isRest 28 = .ok (.iload 5, 2) := dk_21 5 (dk_at dksX1_isRest_1 6 rfl rfl)
theorem dX1_isRest_30 : decode cX1_isRest 30 = .ok (.iload_n 0, 1) := dk_26 (dk_at dksX1_isRest_1 8 rfl rfl)
theorem dX1_isRest_31 : decode cX1_isRest 31 = .ok (.iload_n 2, 1) := dk_28 (dk_at dksX1_isRest_1 9 rfl rfl)
theorem dX1_isRest_32 : decode cX1_isRest 32 = .ok (.iload_n 3, 1) := dk_29 (dk_at dksX1_isRest_1 10 rfl rfl)
theorem dX1_isRest_33 : decode cX1_isRest 33 = .ok (.invokestatic 384, 3) := dk_184 1 128 (dk_at dksX1_isRest_1 11 rfl rfl)
theorem dX1_isRest_36 : decode cX1_isRest 36 = .ok (.iload_n 1, 1) := dk_27 (dk_at dksX1_isRest_1 14 rfl rfl)
theorem dX1_isRest_37 : decode cX1_isRest 37 = .ok (.iload_n 0, 1) := dk_26 (dk_at dksX1_isRest_1 15 rfl rfl)
theorem dX1_isRest_38 : decode cX1_isRest 38 = .ok (.iload_n 2, 1) := dk_28 (dk_at dksX1_isRest_1 16 rfl rfl)
theorem dX1_isRest_39 : decode cX1_isRest 39 = .ok (.iload_n 3, 1) := dk_29 (dk_at dksX1_isRest_1 17 rfl rfl)
theorem dX1_isRest_40 : decode cX1_isRest 40 = .ok (.invokestatic 384, 3) := dk_184 1 128 (dk_at dksX1_isRest_1 18 rfl rfl)
theorem dX1_isRest_43 : decode cX1_isRest 43 = .ok (.if_icmp .le 5, 3) := dk_164 0 5 (dk_at dksX1_isRest_1 21 rfl rfl)
theorem dX1_isRest_46 : decode cX1_isRest 46 = .ok (.iconst 0, 1) := dk_3 (dk_at dksX1_isRest_2 0 rfl rfl)
theorem dX1_isRest_47 : decode cX1_isRest 47 = .ok (.ireturn, 1) := dk_172 (dk_at dksX1_isRest_2 1 rfl rfl)
theorem dX1_isRest_48 : decode cX1_isRest 48 = .ok (.iinc 5 1, 3) := dk_132 5 1 (dk_at dksX1_isRest_2 2 rfl rfl)
theorem dX1_isRest_51 : decode cX1_isRest 51 = .ok (.goto (-48), 3) := dk_167 255 208 (dk_at dksX1_isRest_2 5 rfl rfl)
theorem dX1_isRest_54 : decode cX1_isRest 54 = .ok (.iconst 1, 1) := dk_4 (dk_at dksX1_isRest_2 8 rfl rfl)
theorem dX1_isRest_55 : decode cX1_isRest 55 = .ok (.ireturn, 1) := dk_172 (dk_at dksX1_isRest_2 9 rfl rfl)
abbrev cX1_hasBy : ByteArray := prog_1_method_58_code
def yX1_hasBy : MethodName := ⟨RX1, "hasBy", "(IIII)I"⟩
def dkwX1_hasBy_1 : List UInt8 := [100, 172]
abbrev dktX1_hasBy_1 : List UInt8 := dkwX1_hasBy_1 ++ []
def dkwX1_hasBy_0 : List UInt8 := [26, 27, 164, 0, 7, 28, 167, 0, 15, 26, 27, 160, 0, 9, 28, 5, 108, 167, 0, 4, 3, 29, 26, 104]
abbrev dktX1_hasBy_0 : List UInt8 := dkwX1_hasBy_0 ++ dktX1_hasBy_1
theorem dksX1_hasBy_0 : cX1_hasBy.data.toList.drop 0 = dktX1_hasBy_0 := by decide +kernel
theorem dksX1_hasBy_1 : cX1_hasBy.data.toList.drop 24 = dktX1_hasBy_1 := dk_seg dksX1_hasBy_0 24 rfl rfl
theorem dX1_hasBy_0 : decode cX1_hasBy 0 = .ok (.iload_n 0, 1) := dk_26 (dk_at dksX1_hasBy_0 0 rfl rfl)
theorem dX1_hasBy_1 : decode cX1_hasBy 1 = .ok (.iload_n 1, 1) := dk_27 (dk_at dksX1_hasBy_0 1 rfl rfl)
theorem dX1_hasBy_2 : decode cX1_hasBy 2 = .ok (.if_icmp .le 7, 3) := dk_164 0 7 (dk_at dksX1_hasBy_0 2 rfl rfl)
theorem dX1_hasBy_5 : decode cX1_hasBy 5 = .ok (.iload_n 2, 1) := dk_28 (dk_at dksX1_hasBy_0 5 rfl rfl)
theorem dX1_hasBy_6 : decode cX1_hasBy 6 = .ok (.goto 15, 3) := dk_167 0 15 (dk_at dksX1_hasBy_0 6 rfl rfl)
theorem dX1_hasBy_9 : decode cX1_hasBy 9 = .ok (.iload_n 0, 1) := dk_26 (dk_at dksX1_hasBy_0 9 rfl rfl)
theorem dX1_hasBy_10 : decode cX1_hasBy 10 = .ok (.iload_n 1, 1) := dk_27 (dk_at dksX1_hasBy_0 10 rfl rfl)
theorem dX1_hasBy_11 : decode cX1_hasBy 11 = .ok (.if_icmp .ne 9, 3) := dk_160 0 9 (dk_at dksX1_hasBy_0 11 rfl rfl)
theorem dX1_hasBy_14 : decode cX1_hasBy 14 = .ok (.iload_n 2, 1) := dk_28 (dk_at dksX1_hasBy_0 14 rfl rfl)
theorem dX1_hasBy_15 : decode cX1_hasBy 15 = .ok (.iconst 2, 1) := dk_5 (dk_at dksX1_hasBy_0 15 rfl rfl)
theorem dX1_hasBy_16 : decode cX1_hasBy 16 = .ok (.idiv, 1) := dk_108 (dk_at dksX1_hasBy_0 16 rfl rfl)
theorem dX1_hasBy_17 : decode cX1_hasBy 17 = .ok (.goto 4, 3) := dk_167 0 4 (dk_at dksX1_hasBy_0 17 rfl rfl)
theorem dX1_hasBy_20 : decode cX1_hasBy 20 = .ok (.iconst 0, 1) := dk_3 (dk_at dksX1_hasBy_0 20 rfl rfl)
theorem dX1_hasBy_21 : decode cX1_hasBy 21 = .ok (.iload_n 3, 1) := dk_29 (dk_at dksX1_hasBy_0 21 rfl rfl)
theorem dX1_hasBy_22 : decode cX1_hasBy 22 = .ok (.iload_n 0, 1) := dk_26 (dk_at dksX1_hasBy_0 22 rfl rfl)
theorem dX1_hasBy_23 : decode cX1_hasBy 23 = .ok (.imul, 1) := dk_104 (dk_at dksX1_hasBy_0 23 rfl rfl)
theorem dX1_hasBy_24 : decode cX1_hasBy 24 = .ok (.isub, 1) := dk_100 (dk_at dksX1_hasBy_1 0 rfl rfl)
theorem dX1_hasBy_25 : decode cX1_hasBy 25 = .ok (.ireturn, 1) := dk_172 (dk_at dksX1_hasBy_1 1 rfl rfl)
abbrev cX1_some : ByteArray := prog_1_method_63_code
def yX1_some : MethodName := ⟨RX1, "some", "(IIII)J"⟩
def dkwX1_some_6 : List UInt8 := [154, 0, 8, 22, 5, 167, 0, 5, 22, 7, 22, 9, 109, 173]
abbrev dktX1_some_6 : List UInt8 := dkwX1_some_6 ++ []
def dkwX1_some_5 : List UInt8 := [153, 0, 21, 22, 9, 22, 11, 113, 55, 13, 22, 11, 55, 9, 22, 13, 55, 11, 167, 255, 234, 21, 4]
abbrev dktX1_some_5 : List UInt8 := dkwX1_some_5 ++ dktX1_some_6
def dkwX1_some_4 : List UInt8 := [167, 255, 215, 20, 1, 144, 27, 184, 1, 140, 55, 7, 22, 5, 55, 9, 22, 7, 55, 11, 22, 11, 9, 148]
abbrev dktX1_some_4 : List UInt8 := dkwX1_some_4 ++ dktX1_some_5
def dkwX1_some_3 : List UInt8 := [184, 1, 140, 105, 16, 16, 29, 100, 133, 27, 21, 7, 100, 184, 1, 140, 105, 97, 55, 5, 132, 7, 1]
abbrev dktX1_some_3 : List UInt8 := dkwX1_some_3 ++ dktX1_some_4
def dkwX1_some_2 : List UInt8 := [9, 55, 5, 28, 54, 7, 21, 7, 27, 163, 0, 41, 22, 5, 27, 21, 7, 184, 1, 136, 29, 133, 21, 7]
abbrev dktX1_some_2 : List UInt8 := dkwX1_some_2 ++ dktX1_some_3
def dkwX1_some_1 : List UInt8 := [16, 16, 184, 0, 243, 153, 0, 15, 21, 4, 184, 1, 55, 153, 0, 7, 4, 167, 0, 4, 3, 182, 0, 174]
abbrev dktX1_some_1 : List UInt8 := dkwX1_some_1 ++ dktX1_some_2
def dkwX1_some_0 : List UInt8 := [42, 27, 3, 16, 12, 184, 0, 243, 153, 0, 35, 28, 3, 16, 13, 184, 0, 243, 153, 0, 25, 29, 3]
abbrev dktX1_some_0 : List UInt8 := dkwX1_some_0 ++ dktX1_some_1
theorem dksX1_some_0 : cX1_some.data.toList.drop 0 = dktX1_some_0 := by decide +kernel
theorem dksX1_some_1 : cX1_some.data.toList.drop 23 = dktX1_some_1 := dk_seg dksX1_some_0 23 rfl rfl
theorem dksX1_some_2 : cX1_some.data.toList.drop 47 = dktX1_some_2 := dk_seg dksX1_some_1 24 rfl rfl
theorem dksX1_some_3 : cX1_some.data.toList.drop 71 = dktX1_some_3 := dk_seg dksX1_some_2 24 rfl rfl
theorem dksX1_some_4 : cX1_some.data.toList.drop 94 = dktX1_some_4 := dk_seg dksX1_some_3 23 rfl rfl
theorem dksX1_some_5 : cX1_some.data.toList.drop 118 = dktX1_some_5 := dk_seg dksX1_some_4 24 rfl rfl
theorem dksX1_some_6 : cX1_some.data.toList.drop 141 = dktX1_some_6 := dk_seg dksX1_some_5 23 rfl rfl
theorem dX1_some_0 : decode cX1_some 0 = .ok (.aload_n 0, 1) := dk_42 (dk_at dksX1_some_0 0 rfl rfl)
theorem dX1_some_1 : decode cX1_some 1 = .ok (.iload_n 1, 1) := dk_27 (dk_at dksX1_some_0 1 rfl rfl)
theorem dX1_some_2 : decode cX1_some 2 = .ok (.iconst 0, 1) := dk_3 (dk_at dksX1_some_0 2 rfl rfl)
theorem dX1_some_3 : decode cX1_some 3 = .ok (.bipush 12, 2) := dk_16 12 (dk_at dksX1_some_0 3 rfl rfl)
theorem dX1_some_5 : decode cX1_some 5 = .ok (.invokestatic 243, 3) := dk_184 0 243 (dk_at dksX1_some_0 5 rfl rfl)
theorem dX1_some_8 : decode cX1_some 8 = .ok (.ifCond .eq 35, 3) := dk_153 0 35 (dk_at dksX1_some_0 8 rfl rfl)
theorem dX1_some_11 : decode cX1_some 11 = .ok (.iload_n 2, 1) := dk_28 (dk_at dksX1_some_0 11 rfl rfl)
theorem dX1_some_12 : decode cX1_some 12 = .ok (.iconst 0, 1) := dk_3 (dk_at dksX1_some_0 12 rfl rfl)
theorem dX1_some_13 : decode cX1_some 13 = .ok (.bipush 13, 2) := dk_16 13 (dk_at dksX1_some_0 13 rfl rfl)
theorem dX1_some_15 : decode cX1_some 15 = .ok (.invokestatic 243, 3) := dk_184 0 243 (dk_at dksX1_some_0 15 rfl rfl)
theorem dX1_some_18 : decode cX1_some 18 = .ok (.ifCond .eq 25, 3) := dk_153 0 25 (dk_at dksX1_some_0 18 rfl rfl)
theorem dX1_some_21 : decode cX1_some 21 = .ok (.iload_n 3, 1) := dk_29 (dk_at dksX1_some_0 21 rfl rfl)
theorem dX1_some_22 : decode cX1_some 22 = .ok (.iconst 0, 1) := dk_3 (dk_at dksX1_some_0 22 rfl rfl)
theorem dX1_some_23 : decode cX1_some 23 = .ok (.bipush 16, 2) := dk_16 16 (dk_at dksX1_some_1 0 rfl rfl)
theorem dX1_some_25 : decode cX1_some 25 = .ok (.invokestatic 243, 3) := dk_184 0 243 (dk_at dksX1_some_1 2 rfl rfl)
theorem dX1_some_28 : decode cX1_some 28 = .ok (.ifCond .eq 15, 3) := dk_153 0 15 (dk_at dksX1_some_1 5 rfl rfl)
theorem dX1_some_31 : decode cX1_some 31 = .ok (.iload 4, 2) := dk_21 4 (dk_at dksX1_some_1 8 rfl rfl)
theorem dX1_some_33 : decode cX1_some 33 = .ok (.invokestatic 311, 3) := dk_184 1 55 (dk_at dksX1_some_1 10 rfl rfl)
theorem dX1_some_36 : decode cX1_some 36 = .ok (.ifCond .eq 7, 3) := dk_153 0 7 (dk_at dksX1_some_1 13 rfl rfl)
theorem dX1_some_39 : decode cX1_some 39 = .ok (.iconst 1, 1) := dk_4 (dk_at dksX1_some_1 16 rfl rfl)
theorem dX1_some_40 : decode cX1_some 40 = .ok (.goto 4, 3) := dk_167 0 4 (dk_at dksX1_some_1 17 rfl rfl)
theorem dX1_some_43 : decode cX1_some 43 = .ok (.iconst 0, 1) := dk_3 (dk_at dksX1_some_1 20 rfl rfl)
theorem dX1_some_44 : decode cX1_some 44 = .ok (.invokevirtual 174, 3) := dk_182 0 174 (dk_at dksX1_some_1 21 rfl rfl)
theorem dX1_some_47 : decode cX1_some 47 = .ok (.lconst 0, 1) := dk_9 (dk_at dksX1_some_2 0 rfl rfl)
theorem dX1_some_48 : decode cX1_some 48 = .ok (.lstore 5, 2) := dk_55 5 (dk_at dksX1_some_2 1 rfl rfl)
theorem dX1_some_50 : decode cX1_some 50 = .ok (.iload_n 2, 1) := dk_28 (dk_at dksX1_some_2 3 rfl rfl)
theorem dX1_some_51 : decode cX1_some 51 = .ok (.istore 7, 2) := dk_54 7 (dk_at dksX1_some_2 4 rfl rfl)
theorem dX1_some_53 : decode cX1_some 53 = .ok (.iload 7, 2) := dk_21 7 (dk_at dksX1_some_2 6 rfl rfl)
theorem dX1_some_55 : decode cX1_some 55 = .ok (.iload_n 1, 1) := dk_27 (dk_at dksX1_some_2 8 rfl rfl)
theorem dX1_some_56 : decode cX1_some 56 = .ok (.if_icmp .gt 41, 3) := dk_163 0 41 (dk_at dksX1_some_2 9 rfl rfl)
theorem dX1_some_59 : decode cX1_some 59 = .ok (.lload 5, 2) := dk_22 5 (dk_at dksX1_some_2 12 rfl rfl)
theorem dX1_some_61 : decode cX1_some 61 = .ok (.iload_n 1, 1) := dk_27 (dk_at dksX1_some_2 14 rfl rfl)
theorem dX1_some_62 : decode cX1_some 62 = .ok (.iload 7, 2) := dk_21 7 (dk_at dksX1_some_2 15 rfl rfl)
theorem dX1_some_64 : decode cX1_some 64 = .ok (.invokestatic 392, 3) := dk_184 1 136 (dk_at dksX1_some_2 17 rfl rfl)
theorem dX1_some_67 : decode cX1_some 67 = .ok (.iload_n 3, 1) := dk_29 (dk_at dksX1_some_2 20 rfl rfl)
theorem dX1_some_68 : decode cX1_some 68 = .ok (.i2l, 1) := dk_133 (dk_at dksX1_some_2 21 rfl rfl)
theorem dX1_some_69 : decode cX1_some 69 = .ok (.iload 7, 2) := dk_21 7 (dk_at dksX1_some_2 22 rfl rfl)
theorem dX1_some_71 : decode cX1_some 71 = .ok (.invokestatic 396, 3) := dk_184 1 140 (dk_at dksX1_some_3 0 rfl rfl)
theorem dX1_some_74 : decode cX1_some 74 = .ok (.lmul, 1) := dk_105 (dk_at dksX1_some_3 3 rfl rfl)
theorem dX1_some_75 : decode cX1_some 75 = .ok (.bipush 16, 2) := dk_16 16 (dk_at dksX1_some_3 4 rfl rfl)
theorem dX1_some_77 : decode cX1_some 77 = .ok (.iload_n 3, 1) := dk_29 (dk_at dksX1_some_3 6 rfl rfl)
theorem dX1_some_78 : decode cX1_some 78 = .ok (.isub, 1) := dk_100 (dk_at dksX1_some_3 7 rfl rfl)
theorem dX1_some_79 : decode cX1_some 79 = .ok (.i2l, 1) := dk_133 (dk_at dksX1_some_3 8 rfl rfl)
theorem dX1_some_80 : decode cX1_some 80 = .ok (.iload_n 1, 1) := dk_27 (dk_at dksX1_some_3 9 rfl rfl)
theorem dX1_some_81 : decode cX1_some 81 = .ok (.iload 7, 2) := dk_21 7 (dk_at dksX1_some_3 10 rfl rfl)
theorem dX1_some_83 : decode cX1_some 83 = .ok (.isub, 1) := dk_100 (dk_at dksX1_some_3 12 rfl rfl)
theorem dX1_some_84 : decode cX1_some 84 = .ok (.invokestatic 396, 3) := dk_184 1 140 (dk_at dksX1_some_3 13 rfl rfl)
theorem dX1_some_87 : decode cX1_some 87 = .ok (.lmul, 1) := dk_105 (dk_at dksX1_some_3 16 rfl rfl)
theorem dX1_some_88 : decode cX1_some 88 = .ok (.ladd, 1) := dk_97 (dk_at dksX1_some_3 17 rfl rfl)
theorem dX1_some_89 : decode cX1_some 89 = .ok (.lstore 5, 2) := dk_55 5 (dk_at dksX1_some_3 18 rfl rfl)
theorem dX1_some_91 : decode cX1_some 91 = .ok (.iinc 7 1, 3) := dk_132 7 1 (dk_at dksX1_some_3 20 rfl rfl)
theorem dX1_some_94 : decode cX1_some 94 = .ok (.goto (-41), 3) := dk_167 255 215 (dk_at dksX1_some_4 0 rfl rfl)
theorem dX1_some_97 : decode cX1_some 97 = .ok (.ldc2_w 400, 3) := dk_20 1 144 (dk_at dksX1_some_4 3 rfl rfl)
theorem dX1_some_100 : decode cX1_some 100 = .ok (.iload_n 1, 1) := dk_27 (dk_at dksX1_some_4 6 rfl rfl)
theorem dX1_some_101 : decode cX1_some 101 = .ok (.invokestatic 396, 3) := dk_184 1 140 (dk_at dksX1_some_4 7 rfl rfl)
theorem dX1_some_104 : decode cX1_some 104 = .ok (.lstore 7, 2) := dk_55 7 (dk_at dksX1_some_4 10 rfl rfl)
theorem dX1_some_106 : decode cX1_some 106 = .ok (.lload 5, 2) := dk_22 5 (dk_at dksX1_some_4 12 rfl rfl)
theorem dX1_some_108 : decode cX1_some 108 = .ok (.lstore 9, 2) := dk_55 9 (dk_at dksX1_some_4 14 rfl rfl)
theorem dX1_some_110 : decode cX1_some 110 = .ok (.lload 7, 2) := dk_22 7 (dk_at dksX1_some_4 16 rfl rfl)
theorem dX1_some_112 : decode cX1_some 112 = .ok (.lstore 11, 2) := dk_55 11 (dk_at dksX1_some_4 18 rfl rfl)
theorem dX1_some_114 : decode cX1_some 114 = .ok (.lload 11, 2) := dk_22 11 (dk_at dksX1_some_4 20 rfl rfl)
theorem dX1_some_116 : decode cX1_some 116 = .ok (.lconst 0, 1) := dk_9 (dk_at dksX1_some_4 22 rfl rfl)
theorem dX1_some_117 : decode cX1_some 117 = .ok (.lcmp, 1) := dk_148 (dk_at dksX1_some_4 23 rfl rfl)
theorem dX1_some_118 : decode cX1_some 118 = .ok (.ifCond .eq 21, 3) := dk_153 0 21 (dk_at dksX1_some_5 0 rfl rfl)
theorem dX1_some_121 : decode cX1_some 121 = .ok (.lload 9, 2) := dk_22 9 (dk_at dksX1_some_5 3 rfl rfl)
theorem dX1_some_123 : decode cX1_some 123 = .ok (.lload 11, 2) := dk_22 11 (dk_at dksX1_some_5 5 rfl rfl)
theorem dX1_some_125 : decode cX1_some 125 = .ok (.lrem, 1) := dk_113 (dk_at dksX1_some_5 7 rfl rfl)
theorem dX1_some_126 : decode cX1_some 126 = .ok (.lstore 13, 2) := dk_55 13 (dk_at dksX1_some_5 8 rfl rfl)
theorem dX1_some_128 : decode cX1_some 128 = .ok (.lload 11, 2) := dk_22 11 (dk_at dksX1_some_5 10 rfl rfl)
theorem dX1_some_130 : decode cX1_some 130 = .ok (.lstore 9, 2) := dk_55 9 (dk_at dksX1_some_5 12 rfl rfl)
theorem dX1_some_132 : decode cX1_some 132 = .ok (.lload 13, 2) := dk_22 13 (dk_at dksX1_some_5 14 rfl rfl)
theorem dX1_some_134 : decode cX1_some 134 = .ok (.lstore 11, 2) := dk_55 11 (dk_at dksX1_some_5 16 rfl rfl)
theorem dX1_some_136 : decode cX1_some 136 = .ok (.goto (-22), 3) := dk_167 255 234 (dk_at dksX1_some_5 18 rfl rfl)
theorem dX1_some_139 : decode cX1_some 139 = .ok (.iload 4, 2) := dk_21 4 (dk_at dksX1_some_5 21 rfl rfl)
theorem dX1_some_141 : decode cX1_some 141 = .ok (.ifCond .ne 8, 3) := dk_154 0 8 (dk_at dksX1_some_6 0 rfl rfl)
theorem dX1_some_144 : decode cX1_some 144 = .ok (.lload 5, 2) := dk_22 5 (dk_at dksX1_some_6 3 rfl rfl)
theorem dX1_some_146 : decode cX1_some 146 = .ok (.goto 5, 3) := dk_167 0 5 (dk_at dksX1_some_6 5 rfl rfl)
theorem dX1_some_149 : decode cX1_some 149 = .ok (.lload 7, 2) := dk_22 7 (dk_at dksX1_some_6 8 rfl rfl)
theorem dX1_some_151 : decode cX1_some 151 = .ok (.lload 9, 2) := dk_22 9 (dk_at dksX1_some_6 10 rfl rfl)
theorem dX1_some_153 : decode cX1_some 153 = .ok (.ldiv, 1) := dk_109 (dk_at dksX1_some_6 12 rfl rfl)
theorem dX1_some_154 : decode cX1_some 154 = .ok (.lreturn, 1) := dk_173 (dk_at dksX1_some_6 13 rfl rfl)
abbrev cX1_ways : ByteArray := prog_1_method_62_code
def yX1_ways : MethodName := ⟨RX1, "ways", "(II)J"⟩
def dkwX1_ways_1 : List UInt8 := [65, 132, 4, 1, 167, 255, 233, 32, 173]
abbrev dktX1_ways_1 : List UInt8 := dkwX1_ways_1 ++ []
def dkwX1_ways_0 : List UInt8 := [10, 65, 3, 54, 4, 21, 4, 27, 162, 0, 23, 32, 26, 21, 4, 100, 133, 105, 21, 4, 4, 96, 133, 109]
abbrev dktX1_ways_0 : List UInt8 := dkwX1_ways_0 ++ dktX1_ways_1
theorem dksX1_ways_0 : cX1_ways.data.toList.drop 0 = dktX1_ways_0 := by decide +kernel
theorem dksX1_ways_1 : cX1_ways.data.toList.drop 24 = dktX1_ways_1 := dk_seg dksX1_ways_0 24 rfl rfl
theorem dX1_ways_0 : decode cX1_ways 0 = .ok (.lconst 1, 1) := dk_10 (dk_at dksX1_ways_0 0 rfl rfl)
theorem dX1_ways_1 : decode cX1_ways 1 = .ok (.lstore_n 2, 1) := dk_65 (dk_at dksX1_ways_0 1 rfl rfl)
theorem dX1_ways_2 : decode cX1_ways 2 = .ok (.iconst 0, 1) := dk_3 (dk_at dksX1_ways_0 2 rfl rfl)
theorem dX1_ways_3 : decode cX1_ways 3 = .ok (.istore 4, 2) := dk_54 4 (dk_at dksX1_ways_0 3 rfl rfl)
theorem dX1_ways_5 : decode cX1_ways 5 = .ok (.iload 4, 2) := dk_21 4 (dk_at dksX1_ways_0 5 rfl rfl)
theorem dX1_ways_7 : decode cX1_ways 7 = .ok (.iload_n 1, 1) := dk_27 (dk_at dksX1_ways_0 7 rfl rfl)
theorem dX1_ways_8 : decode cX1_ways 8 = .ok (.if_icmp .ge 23, 3) := dk_162 0 23 (dk_at dksX1_ways_0 8 rfl rfl)
theorem dX1_ways_11 : decode cX1_ways 11 = .ok (.lload_n 2, 1) := dk_32 (dk_at dksX1_ways_0 11 rfl rfl)
theorem dX1_ways_12 : decode cX1_ways 12 = .ok (.iload_n 0, 1) := dk_26 (dk_at dksX1_ways_0 12 rfl rfl)
theorem dX1_ways_13 : decode cX1_ways 13 = .ok (.iload 4, 2) := dk_21 4 (dk_at dksX1_ways_0 13 rfl rfl)
theorem dX1_ways_15 : decode cX1_ways 15 = .ok (.isub, 1) := dk_100 (dk_at dksX1_ways_0 15 rfl rfl)
theorem dX1_ways_16 : decode cX1_ways 16 = .ok (.i2l, 1) := dk_133 (dk_at dksX1_ways_0 16 rfl rfl)
theorem dX1_ways_17 : decode cX1_ways 17 = .ok (.lmul, 1) := dk_105 (dk_at dksX1_ways_0 17 rfl rfl)
theorem dX1_ways_18 : decode cX1_ways 18 = .ok (.iload 4, 2) := dk_21 4 (dk_at dksX1_ways_0 18 rfl rfl)
theorem dX1_ways_20 : decode cX1_ways 20 = .ok (.iconst 1, 1) := dk_4 (dk_at dksX1_ways_0 20 rfl rfl)
theorem dX1_ways_21 : decode cX1_ways 21 = .ok (.iadd, 1) := dk_96 (dk_at dksX1_ways_0 21 rfl rfl)
theorem dX1_ways_22 : decode cX1_ways 22 = .ok (.i2l, 1) := dk_133 (dk_at dksX1_ways_0 22 rfl rfl)
theorem dX1_ways_23 : decode cX1_ways 23 = .ok (.ldiv, 1) := dk_109 (dk_at dksX1_ways_0 23 rfl rfl)
theorem dX1_ways_24 : decode cX1_ways 24 = .ok (.lstore_n 2, 1) := dk_65 (dk_at dksX1_ways_1 0 rfl rfl)
theorem dX1_ways_25 : decode cX1_ways 25 = .ok (.iinc 4 1, 3) := dk_132 4 1 (dk_at dksX1_ways_1 1 rfl rfl)
theorem dX1_ways_28 : decode cX1_ways 28 = .ok (.goto (-23), 3) := dk_167 255 233 (dk_at dksX1_ways_1 4 rfl rfl)
theorem dX1_ways_31 : decode cX1_ways 31 = .ok (.lload_n 2, 1) := dk_32 (dk_at dksX1_ways_1 7 rfl rfl)
theorem dX1_ways_32 : decode cX1_ways 32 = .ok (.lreturn, 1) := dk_173 (dk_at dksX1_ways_1 8 rfl rfl)
abbrev cX1_power : ByteArray := prog_1_method_61_code
def yX1_power : MethodName := ⟨RX1, "power", "(JI)J"⟩
def dkwX1_power_0 : List UInt8 := [10, 66, 3, 54, 5, 21, 5, 28, 162, 0, 13, 33, 30, 105, 66, 132, 5, 1, 167, 255, 243, 33, 173]
abbrev dktX1_power_0 : List UInt8 := dkwX1_power_0 ++ []
theorem dksX1_power_0 : cX1_power.data.toList.drop 0 = dktX1_power_0 := by decide +kernel
theorem dX1_power_0 : decode cX1_power 0 = .ok (.lconst 1, 1) := dk_10 (dk_at dksX1_power_0 0 rfl rfl)
theorem dX1_power_1 : decode cX1_power 1 = .ok (.lstore_n 3, 1) := dk_66 (dk_at dksX1_power_0 1 rfl rfl)
theorem dX1_power_2 : decode cX1_power 2 = .ok (.iconst 0, 1) := dk_3 (dk_at dksX1_power_0 2 rfl rfl)
theorem dX1_power_3 : decode cX1_power 3 = .ok (.istore 5, 2) := dk_54 5 (dk_at dksX1_power_0 3 rfl rfl)
theorem dX1_power_5 : decode cX1_power 5 = .ok (.iload 5, 2) := dk_21 5 (dk_at dksX1_power_0 5 rfl rfl)
theorem dX1_power_7 : decode cX1_power 7 = .ok (.iload_n 2, 1) := dk_28 (dk_at dksX1_power_0 7 rfl rfl)
theorem dX1_power_8 : decode cX1_power 8 = .ok (.if_icmp .ge 13, 3) := dk_162 0 13 (dk_at dksX1_power_0 8 rfl rfl)
theorem dX1_power_11 : decode cX1_power 11 = .ok (.lload_n 3, 1) := dk_33 (dk_at dksX1_power_0 11 rfl rfl)
theorem dX1_power_12 : decode cX1_power 12 = .ok (.lload_n 0, 1) := dk_30 (dk_at dksX1_power_0 12 rfl rfl)
theorem dX1_power_13 : decode cX1_power 13 = .ok (.lmul, 1) := dk_105 (dk_at dksX1_power_0 13 rfl rfl)
theorem dX1_power_14 : decode cX1_power 14 = .ok (.lstore_n 3, 1) := dk_66 (dk_at dksX1_power_0 14 rfl rfl)
theorem dX1_power_15 : decode cX1_power 15 = .ok (.iinc 5 1, 3) := dk_132 5 1 (dk_at dksX1_power_0 15 rfl rfl)
theorem dX1_power_18 : decode cX1_power 18 = .ok (.goto (-13), 3) := dk_167 255 243 (dk_at dksX1_power_0 18 rfl rfl)
theorem dX1_power_21 : decode cX1_power 21 = .ok (.lload_n 3, 1) := dk_33 (dk_at dksX1_power_0 21 rfl rfl)
theorem dX1_power_22 : decode cX1_power 22 = .ok (.lreturn, 1) := dk_173 (dk_at dksX1_power_0 22 rfl rfl)
abbrev cX1_share : ByteArray := prog_1_method_65_code
def yX1_share : MethodName := ⟨RX1, "share", "(III)I"⟩
def dkwX1_share_3 : List UInt8 := [153, 0, 20, 21, 4, 42, 180, 0, 55, 180, 1, 9, 27, 46, 184, 0, 137, 167, 0, 4, 3, 172]
abbrev dktX1_share_3 : List UInt8 := dkwX1_share_3 ++ []
def dkwX1_share_2 : List UInt8 := [42, 28, 21, 4, 4, 96, 182, 1, 146, 29, 163, 0, 9, 132, 4, 1, 167, 255, 233, 28, 27, 184, 1, 87]
abbrev dktX1_share_2 : List UInt8 := dkwX1_share_2 ++ dktX1_share_3
def dkwX1_share_1 : List UInt8 := [184, 0, 243, 153, 0, 7, 4, 167, 0, 4, 3, 182, 0, 174, 3, 54, 4, 21, 4, 16, 99, 162, 0, 22]
abbrev dktX1_share_1 : List UInt8 := dkwX1_share_1 ++ dktX1_share_2
def dkwX1_share_0 : List UInt8 := [42, 27, 182, 1, 18, 42, 28, 155, 0, 26, 28, 42, 182, 1, 95, 163, 0, 18, 29, 3, 17, 3, 231]
abbrev dktX1_share_0 : List UInt8 := dkwX1_share_0 ++ dktX1_share_1
theorem dksX1_share_0 : cX1_share.data.toList.drop 0 = dktX1_share_0 := by decide +kernel
theorem dksX1_share_1 : cX1_share.data.toList.drop 23 = dktX1_share_1 := dk_seg dksX1_share_0 23 rfl rfl
theorem dksX1_share_2 : cX1_share.data.toList.drop 47 = dktX1_share_2 := dk_seg dksX1_share_1 24 rfl rfl
theorem dksX1_share_3 : cX1_share.data.toList.drop 71 = dktX1_share_3 := dk_seg dksX1_share_2 24 rfl rfl
theorem dX1_share_0 : decode cX1_share 0 = .ok (.aload_n 0, 1) := dk_42 (dk_at dksX1_share_0 0 rfl rfl)
theorem dX1_share_1 : decode cX1_share 1 = .ok (.iload_n 1, 1) := dk_27 (dk_at dksX1_share_0 1 rfl rfl)
theorem dX1_share_2 : decode cX1_share 2 = .ok (.invokevirtual 274, 3) := dk_182 1 18 (dk_at dksX1_share_0 2 rfl rfl)
theorem dX1_share_5 : decode cX1_share 5 = .ok (.aload_n 0, 1) := dk_42 (dk_at dksX1_share_0 5 rfl rfl)
theorem dX1_share_6 : decode cX1_share 6 = .ok (.iload_n 2, 1) := dk_28 (dk_at dksX1_share_0 6 rfl rfl)
theorem dX1_share_7 : decode cX1_share 7 = .ok (.ifCond .lt 26, 3) := dk_155 0 26 (dk_at dksX1_share_0 7 rfl rfl)
theorem dX1_share_10 : decode cX1_share 10 = .ok (.iload_n 2, 1) := dk_28 (dk_at dksX1_share_0 10 rfl rfl)
theorem dX1_share_11 : decode cX1_share 11 = .ok (.aload_n 0, 1) := dk_42 (dk_at dksX1_share_0 11 rfl rfl)
theorem dX1_share_12 : decode cX1_share 12 = .ok (.invokevirtual 351, 3) := dk_182 1 95 (dk_at dksX1_share_0 12 rfl rfl)
theorem dX1_share_15 : decode cX1_share 15 = .ok (.if_icmp .gt 18, 3) := dk_163 0 18 (dk_at dksX1_share_0 15 rfl rfl)
theorem dX1_share_18 : decode cX1_share 18 = .ok (.iload_n 3, 1) := dk_29 (dk_at dksX1_share_0 18 rfl rfl)
theorem dX1_share_19 : decode cX1_share 19 = .ok (.iconst 0, 1) := dk_3 (dk_at dksX1_share_0 19 rfl rfl)
theorem dX1_share_20 : decode cX1_share 20 = .ok (.sipush 999, 3) := dk_17 3 231 (dk_at dksX1_share_0 20 rfl rfl)
theorem dX1_share_23 : decode cX1_share 23 = .ok (.invokestatic 243, 3) := dk_184 0 243 (dk_at dksX1_share_1 0 rfl rfl)
theorem dX1_share_26 : decode cX1_share 26 = .ok (.ifCond .eq 7, 3) := dk_153 0 7 (dk_at dksX1_share_1 3 rfl rfl)
theorem dX1_share_29 : decode cX1_share 29 = .ok (.iconst 1, 1) := dk_4 (dk_at dksX1_share_1 6 rfl rfl)
theorem dX1_share_30 : decode cX1_share 30 = .ok (.goto 4, 3) := dk_167 0 4 (dk_at dksX1_share_1 7 rfl rfl)
theorem dX1_share_33 : decode cX1_share 33 = .ok (.iconst 0, 1) := dk_3 (dk_at dksX1_share_1 10 rfl rfl)
theorem dX1_share_34 : decode cX1_share 34 = .ok (.invokevirtual 174, 3) := dk_182 0 174 (dk_at dksX1_share_1 11 rfl rfl)
theorem dX1_share_37 : decode cX1_share 37 = .ok (.iconst 0, 1) := dk_3 (dk_at dksX1_share_1 14 rfl rfl)
theorem dX1_share_38 : decode cX1_share 38 = .ok (.istore 4, 2) := dk_54 4 (dk_at dksX1_share_1 15 rfl rfl)
theorem dX1_share_40 : decode cX1_share 40 = .ok (.iload 4, 2) := dk_21 4 (dk_at dksX1_share_1 17 rfl rfl)
theorem dX1_share_42 : decode cX1_share 42 = .ok (.bipush 99, 2) := dk_16 99 (dk_at dksX1_share_1 19 rfl rfl)
theorem dX1_share_44 : decode cX1_share 44 = .ok (.if_icmp .ge 22, 3) := dk_162 0 22 (dk_at dksX1_share_1 21 rfl rfl)
theorem dX1_share_47 : decode cX1_share 47 = .ok (.aload_n 0, 1) := dk_42 (dk_at dksX1_share_2 0 rfl rfl)
theorem dX1_share_48 : decode cX1_share 48 = .ok (.iload_n 2, 1) := dk_28 (dk_at dksX1_share_2 1 rfl rfl)
theorem dX1_share_49 : decode cX1_share 49 = .ok (.iload 4, 2) := dk_21 4 (dk_at dksX1_share_2 2 rfl rfl)
theorem dX1_share_51 : decode cX1_share 51 = .ok (.iconst 1, 1) := dk_4 (dk_at dksX1_share_2 4 rfl rfl)
theorem dX1_share_52 : decode cX1_share 52 = .ok (.iadd, 1) := dk_96 (dk_at dksX1_share_2 5 rfl rfl)
theorem dX1_share_53 : decode cX1_share 53 = .ok (.invokevirtual 402, 3) := dk_182 1 146 (dk_at dksX1_share_2 6 rfl rfl)
theorem dX1_share_56 : decode cX1_share 56 = .ok (.iload_n 3, 1) := dk_29 (dk_at dksX1_share_2 9 rfl rfl)
theorem dX1_share_57 : decode cX1_share 57 = .ok (.if_icmp .gt 9, 3) := dk_163 0 9 (dk_at dksX1_share_2 10 rfl rfl)
theorem dX1_share_60 : decode cX1_share 60 = .ok (.iinc 4 1, 3) := dk_132 4 1 (dk_at dksX1_share_2 13 rfl rfl)
theorem dX1_share_63 : decode cX1_share 63 = .ok (.goto (-23), 3) := dk_167 255 233 (dk_at dksX1_share_2 16 rfl rfl)
theorem dX1_share_66 : decode cX1_share 66 = .ok (.iload_n 2, 1) := dk_28 (dk_at dksX1_share_2 19 rfl rfl)
theorem dX1_share_67 : decode cX1_share 67 = .ok (.iload_n 1, 1) := dk_27 (dk_at dksX1_share_2 20 rfl rfl)
theorem dX1_share_68 : decode cX1_share 68 = .ok (.invokestatic 343, 3) := dk_184 1 87 (dk_at dksX1_share_2 21 rfl rfl)
theorem dX1_share_71 : decode cX1_share 71 = .ok (.ifCond .eq 20, 3) := dk_153 0 20 (dk_at dksX1_share_3 0 rfl rfl)
theorem dX1_share_74 : decode cX1_share 74 = .ok (.iload 4, 2) := dk_21 4 (dk_at dksX1_share_3 3 rfl rfl)
theorem dX1_share_76 : decode cX1_share 76 = .ok (.aload_n 0, 1) := dk_42 (dk_at dksX1_share_3 5 rfl rfl)
theorem dX1_share_77 : decode cX1_share 77 = .ok (.getfield 55, 3) := dk_180 0 55 (dk_at dksX1_share_3 6 rfl rfl)
theorem dX1_share_80 : decode cX1_share 80 = .ok (.getfield 265, 3) := dk_180 1 9 (dk_at dksX1_share_3 9 rfl rfl)
theorem dX1_share_83 : decode cX1_share 83 = .ok (.iload_n 1, 1) := dk_27 (dk_at dksX1_share_3 12 rfl rfl)
theorem dX1_share_84 : decode cX1_share 84 = .ok (.iaload, 1) := dk_46 (dk_at dksX1_share_3 13 rfl rfl)
theorem dX1_share_85 : decode cX1_share 85 = .ok (.invokestatic 137, 3) := dk_184 0 137 (dk_at dksX1_share_3 14 rfl rfl)
theorem dX1_share_88 : decode cX1_share 88 = .ok (.goto 4, 3) := dk_167 0 4 (dk_at dksX1_share_3 17 rfl rfl)
theorem dX1_share_91 : decode cX1_share 91 = .ok (.iconst 0, 1) := dk_3 (dk_at dksX1_share_3 20 rfl rfl)
theorem dX1_share_92 : decode cX1_share 92 = .ok (.ireturn, 1) := dk_172 (dk_at dksX1_share_3 21 rfl rfl)
abbrev cX1_shared : ByteArray := prog_1_method_64_code
def yX1_shared : MethodName := ⟨RX1, "shared", "(II)I"⟩
def dkwX1_shared_2 : List UInt8 := [167, 255, 214, 29, 172]
abbrev dktX1_shared_2 : List UInt8 := dkwX1_shared_2 ++ []
def dkwX1_shared_1 : List UInt8 := [28, 42, 180, 0, 55, 180, 1, 9, 21, 4, 46, 184, 0, 137, 167, 0, 4, 3, 96, 62, 132, 4, 1]
abbrev dktX1_shared_1 : List UInt8 := dkwX1_shared_1 ++ dktX1_shared_2
def dkwX1_shared_0 : List UInt8 := [3, 62, 3, 54, 4, 21, 4, 42, 182, 0, 152, 162, 0, 39, 29, 27, 21, 4, 184, 1, 87, 153, 0, 20]
abbrev dktX1_shared_0 : List UInt8 := dkwX1_shared_0 ++ dktX1_shared_1
theorem dksX1_shared_0 : cX1_shared.data.toList.drop 0 = dktX1_shared_0 := by decide +kernel
theorem dksX1_shared_1 : cX1_shared.data.toList.drop 24 = dktX1_shared_1 := dk_seg dksX1_shared_0 24 rfl rfl
theorem dksX1_shared_2 : cX1_shared.data.toList.drop 47 = dktX1_shared_2 := dk_seg dksX1_shared_1 23 rfl rfl
theorem dX1_shared_0 : decode cX1_shared 0 = .ok (.iconst 0, 1) := dk_3 (dk_at dksX1_shared_0 0 rfl rfl)
theorem dX1_shared_1 : decode cX1_shared 1 = .ok (.istore_n 3, 1) := dk_62 (dk_at dksX1_shared_0 1 rfl rfl)
theorem dX1_shared_2 : decode cX1_shared 2 = .ok (.iconst 0, 1) := dk_3 (dk_at dksX1_shared_0 2 rfl rfl)
theorem dX1_shared_3 : decode cX1_shared 3 = .ok (.istore 4, 2) := dk_54 4 (dk_at dksX1_shared_0 3 rfl rfl)
theorem dX1_shared_5 : decode cX1_shared 5 = .ok (.iload 4, 2) := dk_21 4 (dk_at dksX1_shared_0 5 rfl rfl)
theorem dX1_shared_7 : decode cX1_shared 7 = .ok (.aload_n 0, 1) := dk_42 (dk_at dksX1_shared_0 7 rfl rfl)
theorem dX1_shared_8 : decode cX1_shared 8 = .ok (.invokevirtual 152, 3) := dk_182 0 152 (dk_at dksX1_shared_0 8 rfl rfl)
theorem dX1_shared_11 : decode cX1_shared 11 = .ok (.if_icmp .ge 39, 3) := dk_162 0 39 (dk_at dksX1_shared_0 11 rfl rfl)
theorem dX1_shared_14 : decode cX1_shared 14 = .ok (.iload_n 3, 1) := dk_29 (dk_at dksX1_shared_0 14 rfl rfl)
theorem dX1_shared_15 : decode cX1_shared 15 = .ok (.iload_n 1, 1) := dk_27 (dk_at dksX1_shared_0 15 rfl rfl)
theorem dX1_shared_16 : decode cX1_shared 16 = .ok (.iload 4, 2) := dk_21 4 (dk_at dksX1_shared_0 16 rfl rfl)
theorem dX1_shared_18 : decode cX1_shared 18 = .ok (.invokestatic 343, 3) := dk_184 1 87 (dk_at dksX1_shared_0 18 rfl rfl)
theorem dX1_shared_21 : decode cX1_shared 21 = .ok (.ifCond .eq 20, 3) := dk_153 0 20 (dk_at dksX1_shared_0 21 rfl rfl)
theorem dX1_shared_24 : decode cX1_shared 24 = .ok (.iload_n 2, 1) := dk_28 (dk_at dksX1_shared_1 0 rfl rfl)
theorem dX1_shared_25 : decode cX1_shared 25 = .ok (.aload_n 0, 1) := dk_42 (dk_at dksX1_shared_1 1 rfl rfl)
theorem dX1_shared_26 : decode cX1_shared 26 = .ok (.getfield 55, 3) := dk_180 0 55 (dk_at dksX1_shared_1 2 rfl rfl)
theorem dX1_shared_29 : decode cX1_shared 29 = .ok (.getfield 265, 3) := dk_180 1 9 (dk_at dksX1_shared_1 5 rfl rfl)
theorem dX1_shared_32 : decode cX1_shared 32 = .ok (.iload 4, 2) := dk_21 4 (dk_at dksX1_shared_1 8 rfl rfl)
theorem dX1_shared_34 : decode cX1_shared 34 = .ok (.iaload, 1) := dk_46 (dk_at dksX1_shared_1 10 rfl rfl)
theorem dX1_shared_35 : decode cX1_shared 35 = .ok (.invokestatic 137, 3) := dk_184 0 137 (dk_at dksX1_shared_1 11 rfl rfl)
theorem dX1_shared_38 : decode cX1_shared 38 = .ok (.goto 4, 3) := dk_167 0 4 (dk_at dksX1_shared_1 14 rfl rfl)
theorem dX1_shared_41 : decode cX1_shared 41 = .ok (.iconst 0, 1) := dk_3 (dk_at dksX1_shared_1 17 rfl rfl)
theorem dX1_shared_42 : decode cX1_shared 42 = .ok (.iadd, 1) := dk_96 (dk_at dksX1_shared_1 18 rfl rfl)
theorem dX1_shared_43 : decode cX1_shared 43 = .ok (.istore_n 3, 1) := dk_62 (dk_at dksX1_shared_1 19 rfl rfl)
theorem dX1_shared_44 : decode cX1_shared 44 = .ok (.iinc 4 1, 3) := dk_132 4 1 (dk_at dksX1_shared_1 20 rfl rfl)
theorem dX1_shared_47 : decode cX1_shared 47 = .ok (.goto (-42), 3) := dk_167 255 214 (dk_at dksX1_shared_2 0 rfl rfl)
theorem dX1_shared_50 : decode cX1_shared 50 = .ok (.iload_n 3, 1) := dk_29 (dk_at dksX1_shared_2 3 rfl rfl)
theorem dX1_shared_51 : decode cX1_shared 51 = .ok (.ireturn, 1) := dk_172 (dk_at dksX1_shared_2 4 rfl rfl)
abbrev cX1_likes : ByteArray := prog_1_method_34_code
def yX1_likes : MethodName := ⟨RX1, "likes", "(II)I"⟩
def dkwX1_likes_3 : List UInt8 := [29, 167, 0, 12, 42, 180, 0, 55, 29, 27, 182, 1, 71, 172]
abbrev dktX1_likes_3 : List UInt8 := dkwX1_likes_3 ++ []
def dkwX1_likes_2 : List UInt8 := [182, 1, 71, 164, 0, 6, 21, 4, 62, 132, 4, 1, 167, 255, 214, 28, 153, 0, 8, 29, 2, 160, 0, 7]
abbrev dktX1_likes_2 : List UInt8 := dkwX1_likes_2 ++ dktX1_likes_3
def dkwX1_likes_1 : List UInt8 := [162, 0, 39, 29, 2, 159, 0, 25, 42, 180, 0, 55, 21, 4, 27, 182, 1, 71, 42, 180, 0, 55, 29, 27]
abbrev dktX1_likes_1 : List UInt8 := dkwX1_likes_1 ++ dktX1_likes_2
def dkwX1_likes_0 : List UInt8 := [42, 27, 182, 1, 18, 42, 28, 184, 1, 55, 182, 0, 174, 2, 62, 3, 54, 4, 21, 4, 42, 182, 0, 158]
abbrev dktX1_likes_0 : List UInt8 := dkwX1_likes_0 ++ dktX1_likes_1
theorem dksX1_likes_0 : cX1_likes.data.toList.drop 0 = dktX1_likes_0 := by decide +kernel
theorem dksX1_likes_1 : cX1_likes.data.toList.drop 24 = dktX1_likes_1 := dk_seg dksX1_likes_0 24 rfl rfl
theorem dksX1_likes_2 : cX1_likes.data.toList.drop 48 = dktX1_likes_2 := dk_seg dksX1_likes_1 24 rfl rfl
theorem dksX1_likes_3 : cX1_likes.data.toList.drop 72 = dktX1_likes_3 := dk_seg dksX1_likes_2 24 rfl rfl
theorem dX1_likes_0 : decode cX1_likes 0 = .ok (.aload_n 0, 1) := dk_42 (dk_at dksX1_likes_0 0 rfl rfl)
theorem dX1_likes_1 : decode cX1_likes 1 = .ok (.iload_n 1, 1) := dk_27 (dk_at dksX1_likes_0 1 rfl rfl)
theorem dX1_likes_2 : decode cX1_likes 2 = .ok (.invokevirtual 274, 3) := dk_182 1 18 (dk_at dksX1_likes_0 2 rfl rfl)
theorem dX1_likes_5 : decode cX1_likes 5 = .ok (.aload_n 0, 1) := dk_42 (dk_at dksX1_likes_0 5 rfl rfl)
theorem dX1_likes_6 : decode cX1_likes 6 = .ok (.iload_n 2, 1) := dk_28 (dk_at dksX1_likes_0 6 rfl rfl)
theorem dX1_likes_7 : decode cX1_likes 7 = .ok (.invokestatic 311, 3) := dk_184 1 55 (dk_at dksX1_likes_0 7 rfl rfl)
theorem dX1_likes_10 : decode cX1_likes 10 = .ok (.invokevirtual 174, 3) := dk_182 0 174 (dk_at dksX1_likes_0 10 rfl rfl)
theorem dX1_likes_13 : decode cX1_likes 13 = .ok (.iconst (-1), 1) := dk_2 (dk_at dksX1_likes_0 13 rfl rfl)
theorem dX1_likes_14 : decode cX1_likes 14 = .ok (.istore_n 3, 1) := dk_62 (dk_at dksX1_likes_0 14 rfl rfl)
theorem dX1_likes_15 : decode cX1_likes 15 = .ok (.iconst 0, 1) := dk_3 (dk_at dksX1_likes_0 15 rfl rfl)
theorem dX1_likes_16 : decode cX1_likes 16 = .ok (.istore 4, 2) := dk_54 4 (dk_at dksX1_likes_0 16 rfl rfl)
theorem dX1_likes_18 : decode cX1_likes 18 = .ok (.iload 4, 2) := dk_21 4 (dk_at dksX1_likes_0 18 rfl rfl)
theorem dX1_likes_20 : decode cX1_likes 20 = .ok (.aload_n 0, 1) := dk_42 (dk_at dksX1_likes_0 20 rfl rfl)
theorem dX1_likes_21 : decode cX1_likes 21 = .ok (.invokevirtual 158, 3) := dk_182 0 158 (dk_at dksX1_likes_0 21 rfl rfl)
theorem dX1_likes_24 : decode cX1_likes 24 = .ok (.if_icmp .ge 39, 3) := dk_162 0 39 (dk_at dksX1_likes_1 0 rfl rfl)
theorem dX1_likes_27 : decode cX1_likes 27 = .ok (.iload_n 3, 1) := dk_29 (dk_at dksX1_likes_1 3 rfl rfl)
theorem dX1_likes_28 : decode cX1_likes 28 = .ok (.iconst (-1), 1) := dk_2 (dk_at dksX1_likes_1 4 rfl rfl)
theorem dX1_likes_29 : decode cX1_likes 29 = .ok (.if_icmp .eq 25, 3) := dk_159 0 25 (dk_at dksX1_likes_1 5 rfl rfl)
theorem dX1_likes_32 : decode cX1_likes 32 = .ok (.aload_n 0, 1) := dk_42 (dk_at dksX1_likes_1 8 rfl rfl)
theorem dX1_likes_33 : decode cX1_likes 33 = .ok (.getfield 55, 3) := dk_180 0 55 (dk_at dksX1_likes_1 9 rfl rfl)
theorem dX1_likes_36 : decode cX1_likes 36 = .ok (.iload 4, 2) := dk_21 4 (dk_at dksX1_likes_1 12 rfl rfl)
theorem dX1_likes_38 : decode cX1_likes 38 = .ok (.iload_n 1, 1) := dk_27 (dk_at dksX1_likes_1 14 rfl rfl)
theorem dX1_likes_39 : decode cX1_likes 39 = .ok (.invokevirtual 327, 3) := dk_182 1 71 (dk_at dksX1_likes_1 15 rfl rfl)
theorem dX1_likes_42 : decode cX1_likes 42 = .ok (.aload_n 0, 1) := dk_42 (dk_at dksX1_likes_1 18 rfl rfl)
theorem dX1_likes_43 : decode cX1_likes 43 = .ok (.getfield 55, 3) := dk_180 0 55 (dk_at dksX1_likes_1 19 rfl rfl)
theorem dX1_likes_46 : decode cX1_likes 46 = .ok (.iload_n 3, 1) := dk_29 (dk_at dksX1_likes_1 22 rfl rfl)
theorem dX1_likes_47 : decode cX1_likes 47 = .ok (.iload_n 1, 1) := dk_27 (dk_at dksX1_likes_1 23 rfl rfl)
theorem dX1_likes_48 : decode cX1_likes 48 = .ok (.invokevirtual 327, 3) := dk_182 1 71 (dk_at dksX1_likes_2 0 rfl rfl)
theorem dX1_likes_51 : decode cX1_likes 51 = .ok (.if_icmp .le 6, 3) := dk_164 0 6 (dk_at dksX1_likes_2 3 rfl rfl)
theorem dX1_likes_54 : decode cX1_likes 54 = .ok (.iload 4, 2) := dk_21 4 (dk_at dksX1_likes_2 6 rfl rfl)
theorem dX1_likes_56 : decode cX1_likes 56 = .ok (.istore_n 3, 1) := dk_62 (dk_at dksX1_likes_2 8 rfl rfl)
theorem dX1_likes_57 : decode cX1_likes 57 = .ok (.iinc 4 1, 3) := dk_132 4 1 (dk_at dksX1_likes_2 9 rfl rfl)
theorem dX1_likes_60 : decode cX1_likes 60 = .ok (.goto (-42), 3) := dk_167 255 214 (dk_at dksX1_likes_2 12 rfl rfl)
theorem dX1_likes_63 : decode cX1_likes 63 = .ok (.iload_n 2, 1) := dk_28 (dk_at dksX1_likes_2 15 rfl rfl)
theorem dX1_likes_64 : decode cX1_likes 64 = .ok (.ifCond .eq 8, 3) := dk_153 0 8 (dk_at dksX1_likes_2 16 rfl rfl)
theorem dX1_likes_67 : decode cX1_likes 67 = .ok (.iload_n 3, 1) := dk_29 (dk_at dksX1_likes_2 19 rfl rfl)
theorem dX1_likes_68 : decode cX1_likes 68 = .ok (.iconst (-1), 1) := dk_2 (dk_at dksX1_likes_2 20 rfl rfl)
theorem dX1_likes_69 : decode cX1_likes 69 = .ok (.if_icmp .ne 7, 3) := dk_160 0 7 (dk_at dksX1_likes_2 21 rfl rfl)
theorem dX1_likes_72 : decode cX1_likes 72 = .ok (.iload_n 3, 1) := dk_29 (dk_at dksX1_likes_3 0 rfl rfl)
theorem dX1_likes_73 : decode cX1_likes 73 = .ok (.goto 12, 3) := dk_167 0 12 (dk_at dksX1_likes_3 1 rfl rfl)
theorem dX1_likes_76 : decode cX1_likes 76 = .ok (.aload_n 0, 1) := dk_42 (dk_at dksX1_likes_3 4 rfl rfl)
theorem dX1_likes_77 : decode cX1_likes 77 = .ok (.getfield 55, 3) := dk_180 0 55 (dk_at dksX1_likes_3 5 rfl rfl)
theorem dX1_likes_80 : decode cX1_likes 80 = .ok (.iload_n 3, 1) := dk_29 (dk_at dksX1_likes_3 8 rfl rfl)
theorem dX1_likes_81 : decode cX1_likes 81 = .ok (.iload_n 1, 1) := dk_27 (dk_at dksX1_likes_3 9 rfl rfl)
theorem dX1_likes_82 : decode cX1_likes 82 = .ok (.invokevirtual 327, 3) := dk_182 1 71 (dk_at dksX1_likes_3 10 rfl rfl)
theorem dX1_likes_85 : decode cX1_likes 85 = .ok (.ireturn, 1) := dk_172 (dk_at dksX1_likes_3 13 rfl rfl)
abbrev cX1_solemn : ByteArray := prog_1_method_35_code
def yX1_solemn : MethodName := ⟨RX1, "solemn", "(I)I"⟩
def dkwX1_solemn_1 : List UInt8 := [182, 1, 71, 154, 0, 9, 4, 29, 120, 167, 0, 4, 3, 128, 61, 132, 3, 1, 167, 255, 223, 28, 172]
abbrev dktX1_solemn_1 : List UInt8 := dkwX1_solemn_1 ++ []
def dkwX1_solemn_0 : List UInt8 := [42, 27, 182, 1, 40, 3, 61, 3, 62, 29, 42, 182, 0, 152, 162, 0, 31, 28, 42, 180, 0, 55, 27, 29]
abbrev dktX1_solemn_0 : List UInt8 := dkwX1_solemn_0 ++ dktX1_solemn_1
theorem dksX1_solemn_0 : cX1_solemn.data.toList.drop 0 = dktX1_solemn_0 := by decide +kernel
theorem dksX1_solemn_1 : cX1_solemn.data.toList.drop 24 = dktX1_solemn_1 := dk_seg dksX1_solemn_0 24 rfl rfl
theorem dX1_solemn_0 : decode cX1_solemn 0 = .ok (.aload_n 0, 1) := dk_42 (dk_at dksX1_solemn_0 0 rfl rfl)
theorem dX1_solemn_1 : decode cX1_solemn 1 = .ok (.iload_n 1, 1) := dk_27 (dk_at dksX1_solemn_0 1 rfl rfl)
theorem dX1_solemn_2 : decode cX1_solemn 2 = .ok (.invokevirtual 296, 3) := dk_182 1 40 (dk_at dksX1_solemn_0 2 rfl rfl)
theorem dX1_solemn_5 : decode cX1_solemn 5 = .ok (.iconst 0, 1) := dk_3 (dk_at dksX1_solemn_0 5 rfl rfl)
theorem dX1_solemn_6 : decode cX1_solemn 6 = .ok (.istore_n 2, 1) := dk_61 (dk_at dksX1_solemn_0 6 rfl rfl)
theorem dX1_solemn_7 : decode cX1_solemn 7 = .ok (.iconst 0, 1) := dk_3 (dk_at dksX1_solemn_0 7 rfl rfl)
theorem dX1_solemn_8 : decode cX1_solemn 8 = .ok (.istore_n 3, 1) := dk_62 (dk_at dksX1_solemn_0 8 rfl rfl)
theorem dX1_solemn_9 : decode cX1_solemn 9 = .ok (.iload_n 3, 1) := dk_29 (dk_at dksX1_solemn_0 9 rfl rfl)
theorem dX1_solemn_10 : decode cX1_solemn 10 = .ok (.aload_n 0, 1) := dk_42 (dk_at dksX1_solemn_0 10 rfl rfl)
theorem dX1_solemn_11 : decode cX1_solemn 11 = .ok (.invokevirtual 152, 3) := dk_182 0 152 (dk_at dksX1_solemn_0 11 rfl rfl)
theorem dX1_solemn_14 : decode cX1_solemn 14 = .ok (.if_icmp .ge 31, 3) := dk_162 0 31 (dk_at dksX1_solemn_0 14 rfl rfl)
theorem dX1_solemn_17 : decode cX1_solemn 17 = .ok (.iload_n 2, 1) := dk_28 (dk_at dksX1_solemn_0 17 rfl rfl)
theorem dX1_solemn_18 : decode cX1_solemn 18 = .ok (.aload_n 0, 1) := dk_42 (dk_at dksX1_solemn_0 18 rfl rfl)
theorem dX1_solemn_19 : decode cX1_solemn 19 = .ok (.getfield 55, 3) := dk_180 0 55 (dk_at dksX1_solemn_0 19 rfl rfl)
theorem dX1_solemn_22 : decode cX1_solemn 22 = .ok (.iload_n 1, 1) := dk_27 (dk_at dksX1_solemn_0 22 rfl rfl)
theorem dX1_solemn_23 : decode cX1_solemn 23 = .ok (.iload_n 3, 1) := dk_29 (dk_at dksX1_solemn_0 23 rfl rfl)
theorem dX1_solemn_24 : decode cX1_solemn 24 = .ok (.invokevirtual 327, 3) := dk_182 1 71 (dk_at dksX1_solemn_1 0 rfl rfl)
theorem dX1_solemn_27 : decode cX1_solemn 27 = .ok (.ifCond .ne 9, 3) := dk_154 0 9 (dk_at dksX1_solemn_1 3 rfl rfl)
theorem dX1_solemn_30 : decode cX1_solemn 30 = .ok (.iconst 1, 1) := dk_4 (dk_at dksX1_solemn_1 6 rfl rfl)
theorem dX1_solemn_31 : decode cX1_solemn 31 = .ok (.iload_n 3, 1) := dk_29 (dk_at dksX1_solemn_1 7 rfl rfl)
theorem dX1_solemn_32 : decode cX1_solemn 32 = .ok (.ishl, 1) := dk_120 (dk_at dksX1_solemn_1 8 rfl rfl)
theorem dX1_solemn_33 : decode cX1_solemn 33 = .ok (.goto 4, 3) := dk_167 0 4 (dk_at dksX1_solemn_1 9 rfl rfl)
theorem dX1_solemn_36 : decode cX1_solemn 36 = .ok (.iconst 0, 1) := dk_3 (dk_at dksX1_solemn_1 12 rfl rfl)
theorem dX1_solemn_37 : decode cX1_solemn 37 = .ok (.ior, 1) := dk_128 (dk_at dksX1_solemn_1 13 rfl rfl)
theorem dX1_solemn_38 : decode cX1_solemn 38 = .ok (.istore_n 2, 1) := dk_61 (dk_at dksX1_solemn_1 14 rfl rfl)
theorem dX1_solemn_39 : decode cX1_solemn 39 = .ok (.iinc 3 1, 3) := dk_132 3 1 (dk_at dksX1_solemn_1 15 rfl rfl)
theorem dX1_solemn_42 : decode cX1_solemn 42 = .ok (.goto (-33), 3) := dk_167 255 223 (dk_at dksX1_solemn_1 18 rfl rfl)
theorem dX1_solemn_45 : decode cX1_solemn 45 = .ok (.iload_n 2, 1) := dk_28 (dk_at dksX1_solemn_1 21 rfl rfl)
theorem dX1_solemn_46 : decode cX1_solemn 46 = .ok (.ireturn, 1) := dk_172 (dk_at dksX1_solemn_1 22 rfl rfl)
abbrev cX1_driest : ByteArray := prog_1_method_36_code
def yX1_driest : MethodName := ⟨RX1, "driest", "(I)I"⟩
def dkwX1_driest_3 : List UInt8 := [42, 180, 0, 55, 180, 1, 9, 28, 46, 172]
abbrev dktX1_driest_3 : List UInt8 := dkwX1_driest_3 ++ []
def dkwX1_driest_2 : List UInt8 := [164, 0, 5, 29, 61, 132, 3, 1, 167, 255, 213, 27, 153, 0, 8, 28, 2, 160, 0, 7, 28, 167, 0, 12]
abbrev dktX1_driest_2 : List UInt8 := dkwX1_driest_2 ++ dktX1_driest_3
def dkwX1_driest_1 : List UInt8 := [180, 1, 9, 29, 46, 28, 2, 160, 0, 7, 3, 167, 0, 12, 42, 180, 0, 55, 180, 1, 9, 28, 46]
abbrev dktX1_driest_1 : List UInt8 := dkwX1_driest_1 ++ dktX1_driest_2
def dkwX1_driest_0 : List UInt8 := [42, 27, 184, 1, 55, 182, 0, 174, 2, 61, 3, 62, 29, 42, 182, 0, 152, 162, 0, 41, 42, 180, 0, 55]
abbrev dktX1_driest_0 : List UInt8 := dkwX1_driest_0 ++ dktX1_driest_1
theorem dksX1_driest_0 : cX1_driest.data.toList.drop 0 = dktX1_driest_0 := by decide +kernel
theorem dksX1_driest_1 : cX1_driest.data.toList.drop 24 = dktX1_driest_1 := dk_seg dksX1_driest_0 24 rfl rfl
theorem dksX1_driest_2 : cX1_driest.data.toList.drop 47 = dktX1_driest_2 := dk_seg dksX1_driest_1 23 rfl rfl
theorem dksX1_driest_3 : cX1_driest.data.toList.drop 71 = dktX1_driest_3 := dk_seg dksX1_driest_2 24 rfl rfl
theorem dX1_driest_0 : decode cX1_driest 0 = .ok (.aload_n 0, 1) := dk_42 (dk_at dksX1_driest_0 0 rfl rfl)
theorem dX1_driest_1 : decode cX1_driest 1 = .ok (.iload_n 1, 1) := dk_27 (dk_at dksX1_driest_0 1 rfl rfl)
theorem dX1_driest_2 : decode cX1_driest 2 = .ok (.invokestatic 311, 3) := dk_184 1 55 (dk_at dksX1_driest_0 2 rfl rfl)
theorem dX1_driest_5 : decode cX1_driest 5 = .ok (.invokevirtual 174, 3) := dk_182 0 174 (dk_at dksX1_driest_0 5 rfl rfl)
theorem dX1_driest_8 : decode cX1_driest 8 = .ok (.iconst (-1), 1) := dk_2 (dk_at dksX1_driest_0 8 rfl rfl)
theorem dX1_driest_9 : decode cX1_driest 9 = .ok (.istore_n 2, 1) := dk_61 (dk_at dksX1_driest_0 9 rfl rfl)
theorem dX1_driest_10 : decode cX1_driest 10 = .ok (.iconst 0, 1) := dk_3 (dk_at dksX1_driest_0 10 rfl rfl)
theorem dX1_driest_11 : decode cX1_driest 11 = .ok (.istore_n 3, 1) := dk_62 (dk_at dksX1_driest_0 11 rfl rfl)
theorem dX1_driest_12 : decode cX1_driest 12 = .ok (.iload_n 3, 1) := dk_29 (dk_at dksX1_driest_0 12 rfl rfl)
theorem dX1_driest_13 : decode cX1_driest 13 = .ok (.aload_n 0, 1) := dk_42 (dk_at dksX1_driest_0 13 rfl rfl)
theorem dX1_driest_14 : decode cX1_driest 14 = .ok (.invokevirtual 152, 3) := dk_182 0 152 (dk_at dksX1_driest_0 14 rfl rfl)
theorem dX1_driest_17 : decode cX1_driest 17 = .ok (.if_icmp .ge 41, 3) := dk_162 0 41 (dk_at dksX1_driest_0 17 rfl rfl)
theorem dX1_driest_20 : decode cX1_driest 20 = .ok (.aload_n 0, 1) := dk_42 (dk_at dksX1_driest_0 20 rfl rfl)
theorem dX1_driest_21 : decode cX1_driest 21 = .ok (.getfield 55, 3) := dk_180 0 55 (dk_at dksX1_driest_0 21 rfl rfl)
theorem dX1_driest_24 : decode cX1_driest 24 = .ok (.getfield 265, 3) := dk_180 1 9 (dk_at dksX1_driest_1 0 rfl rfl)
theorem dX1_driest_27 : decode cX1_driest 27 = .ok (.iload_n 3, 1) := dk_29 (dk_at dksX1_driest_1 3 rfl rfl)
theorem dX1_driest_28 : decode cX1_driest 28 = .ok (.iaload, 1) := dk_46 (dk_at dksX1_driest_1 4 rfl rfl)
theorem dX1_driest_29 : decode cX1_driest 29 = .ok (.iload_n 2, 1) := dk_28 (dk_at dksX1_driest_1 5 rfl rfl)
theorem dX1_driest_30 : decode cX1_driest 30 = .ok (.iconst (-1), 1) := dk_2 (dk_at dksX1_driest_1 6 rfl rfl)
theorem dX1_driest_31 : decode cX1_driest 31 = .ok (.if_icmp .ne 7, 3) := dk_160 0 7 (dk_at dksX1_driest_1 7 rfl rfl)
theorem dX1_driest_34 : decode cX1_driest 34 = .ok (.iconst 0, 1) := dk_3 (dk_at dksX1_driest_1 10 rfl rfl)
theorem dX1_driest_35 : decode cX1_driest 35 = .ok (.goto 12, 3) := dk_167 0 12 (dk_at dksX1_driest_1 11 rfl rfl)
theorem dX1_driest_38 : decode cX1_driest 38 = .ok (.aload_n 0, 1) := dk_42 (dk_at dksX1_driest_1 14 rfl rfl)
theorem dX1_driest_39 : decode cX1_driest 39 = .ok (.getfield 55, 3) := dk_180 0 55 (dk_at dksX1_driest_1 15 rfl rfl)
theorem dX1_driest_42 : decode cX1_driest 42 = .ok (.getfield 265, 3) := dk_180 1 9 (dk_at dksX1_driest_1 18 rfl rfl)
theorem dX1_driest_45 : decode cX1_driest 45 = .ok (.iload_n 2, 1) := dk_28 (dk_at dksX1_driest_1 21 rfl rfl)
theorem dX1_driest_46 : decode cX1_driest 46 = .ok (.iaload, 1) := dk_46 (dk_at dksX1_driest_1 22 rfl rfl)
theorem dX1_driest_47 : decode cX1_driest 47 = .ok (.if_icmp .le 5, 3) := dk_164 0 5 (dk_at dksX1_driest_2 0 rfl rfl)
theorem dX1_driest_50 : decode cX1_driest 50 = .ok (.iload_n 3, 1) := dk_29 (dk_at dksX1_driest_2 3 rfl rfl)
theorem dX1_driest_51 : decode cX1_driest 51 = .ok (.istore_n 2, 1) := dk_61 (dk_at dksX1_driest_2 4 rfl rfl)
theorem dX1_driest_52 : decode cX1_driest 52 = .ok (.iinc 3 1, 3) := dk_132 3 1 (dk_at dksX1_driest_2 5 rfl rfl)
theorem dX1_driest_55 : decode cX1_driest 55 = .ok (.goto (-43), 3) := dk_167 255 213 (dk_at dksX1_driest_2 8 rfl rfl)
theorem dX1_driest_58 : decode cX1_driest 58 = .ok (.iload_n 1, 1) := dk_27 (dk_at dksX1_driest_2 11 rfl rfl)
theorem dX1_driest_59 : decode cX1_driest 59 = .ok (.ifCond .eq 8, 3) := dk_153 0 8 (dk_at dksX1_driest_2 12 rfl rfl)
theorem dX1_driest_62 : decode cX1_driest 62 = .ok (.iload_n 2, 1) := dk_28 (dk_at dksX1_driest_2 15 rfl rfl)
theorem dX1_driest_63 : decode cX1_driest 63 = .ok (.iconst (-1), 1) := dk_2 (dk_at dksX1_driest_2 16 rfl rfl)
theorem dX1_driest_64 : decode cX1_driest 64 = .ok (.if_icmp .ne 7, 3) := dk_160 0 7 (dk_at dksX1_driest_2 17 rfl rfl)
theorem dX1_driest_67 : decode cX1_driest 67 = .ok (.iload_n 2, 1) := dk_28 (dk_at dksX1_driest_2 20 rfl rfl)
theorem dX1_driest_68 : decode cX1_driest 68 = .ok (.goto 12, 3) := dk_167 0 12 (dk_at dksX1_driest_2 21 rfl rfl)
theorem dX1_driest_71 : decode cX1_driest 71 = .ok (.aload_n 0, 1) := dk_42 (dk_at dksX1_driest_3 0 rfl rfl)
theorem dX1_driest_72 : decode cX1_driest 72 = .ok (.getfield 55, 3) := dk_180 0 55 (dk_at dksX1_driest_3 1 rfl rfl)
theorem dX1_driest_75 : decode cX1_driest 75 = .ok (.getfield 265, 3) := dk_180 1 9 (dk_at dksX1_driest_3 4 rfl rfl)
theorem dX1_driest_78 : decode cX1_driest 78 = .ok (.iload_n 2, 1) := dk_28 (dk_at dksX1_driest_3 7 rfl rfl)
theorem dX1_driest_79 : decode cX1_driest 79 = .ok (.iaload, 1) := dk_46 (dk_at dksX1_driest_3 8 rfl rfl)
theorem dX1_driest_80 : decode cX1_driest 80 = .ok (.ireturn, 1) := dk_172 (dk_at dksX1_driest_3 9 rfl rfl)
abbrev cX1_alike : ByteArray := prog_1_method_37_code
def yX1_alike : MethodName := ⟨RX1, "alike", "(I)I"⟩
def dkwX1_alike_4 : List UInt8 := [154, 0, 7, 28, 167, 0, 4, 29, 172]
abbrev dktX1_alike_4 : List UInt8 := dkwX1_alike_4 ++ []
def dkwX1_alike_3 : List UInt8 := [16, 10, 21, 4, 104, 21, 5, 96, 62, 132, 5, 1, 167, 255, 203, 132, 4, 1, 167, 255, 182, 27]
abbrev dktX1_alike_3 : List UInt8 := dkwX1_alike_3 ++ dktX1_alike_4
def dkwX1_alike_2 : List UInt8 := [42, 21, 5, 182, 1, 21, 180, 1, 28, 159, 0, 6, 167, 0, 20, 132, 2, 1, 29, 2, 160, 0, 12]
abbrev dktX1_alike_2 : List UInt8 := dkwX1_alike_2 ++ dktX1_alike_3
def dkwX1_alike_1 : List UInt8 := [21, 4, 4, 96, 54, 5, 21, 5, 42, 182, 0, 152, 162, 0, 50, 42, 21, 4, 182, 1, 21, 180, 1, 28]
abbrev dktX1_alike_1 : List UInt8 := dkwX1_alike_1 ++ dktX1_alike_2
def dkwX1_alike_0 : List UInt8 := [42, 27, 184, 1, 55, 182, 0, 174, 3, 61, 2, 62, 3, 54, 4, 21, 4, 42, 182, 0, 152, 162, 0, 71]
abbrev dktX1_alike_0 : List UInt8 := dkwX1_alike_0 ++ dktX1_alike_1
theorem dksX1_alike_0 : cX1_alike.data.toList.drop 0 = dktX1_alike_0 := by decide +kernel
theorem dksX1_alike_1 : cX1_alike.data.toList.drop 24 = dktX1_alike_1 := dk_seg dksX1_alike_0 24 rfl rfl
theorem dksX1_alike_2 : cX1_alike.data.toList.drop 48 = dktX1_alike_2 := dk_seg dksX1_alike_1 24 rfl rfl
theorem dksX1_alike_3 : cX1_alike.data.toList.drop 71 = dktX1_alike_3 := dk_seg dksX1_alike_2 23 rfl rfl
theorem dksX1_alike_4 : cX1_alike.data.toList.drop 93 = dktX1_alike_4 := dk_seg dksX1_alike_3 22 rfl rfl
theorem dX1_alike_0 : decode cX1_alike 0 = .ok (.aload_n 0, 1) := dk_42 (dk_at dksX1_alike_0 0 rfl rfl)
theorem dX1_alike_1 : decode cX1_alike 1 = .ok (.iload_n 1, 1) := dk_27 (dk_at dksX1_alike_0 1 rfl rfl)
theorem dX1_alike_2 : decode cX1_alike 2 = .ok (.invokestatic 311, 3) := dk_184 1 55 (dk_at dksX1_alike_0 2 rfl rfl)
theorem dX1_alike_5 : decode cX1_alike 5 = .ok (.invokevirtual 174, 3) := dk_182 0 174 (dk_at dksX1_alike_0 5 rfl rfl)
theorem dX1_alike_8 : decode cX1_alike 8 = .ok (.iconst 0, 1) := dk_3 (dk_at dksX1_alike_0 8 rfl rfl)
theorem dX1_alike_9 : decode cX1_alike 9 = .ok (.istore_n 2, 1) := dk_61 (dk_at dksX1_alike_0 9 rfl rfl)
theorem dX1_alike_10 : decode cX1_alike 10 = .ok (.iconst (-1), 1) := dk_2 (dk_at dksX1_alike_0 10 rfl rfl)
theorem dX1_alike_11 : decode cX1_alike 11 = .ok (.istore_n 3, 1) := dk_62 (dk_at dksX1_alike_0 11 rfl rfl)
theorem dX1_alike_12 : decode cX1_alike 12 = .ok (.iconst 0, 1) := dk_3 (dk_at dksX1_alike_0 12 rfl rfl)
theorem dX1_alike_13 : decode cX1_alike 13 = .ok (.istore 4, 2) := dk_54 4 (dk_at dksX1_alike_0 13 rfl rfl)
theorem dX1_alike_15 : decode cX1_alike 15 = .ok (.iload 4, 2) := dk_21 4 (dk_at dksX1_alike_0 15 rfl rfl)
theorem dX1_alike_17 : decode cX1_alike 17 = .ok (.aload_n 0, 1) := dk_42 (dk_at dksX1_alike_0 17 rfl rfl)
theorem dX1_alike_18 : decode cX1_alike 18 = .ok (.invokevirtual 152, 3) := dk_182 0 152 (dk_at dksX1_alike_0 18 rfl rfl)
theorem dX1_alike_21 : decode cX1_alike 21 = .ok (.if_icmp .ge 71, 3) := dk_162 0 71 (dk_at dksX1_alike_0 21 rfl rfl)
theorem dX1_alike_24 : decode cX1_alike 24 = .ok (.iload 4, 2) := dk_21 4 (dk_at dksX1_alike_1 0 rfl rfl)
theorem dX1_alike_26 : decode cX1_alike 26 = .ok (.iconst 1, 1) := dk_4 (dk_at dksX1_alike_1 2 rfl rfl)
theorem dX1_alike_27 : decode cX1_alike 27 = .ok (.iadd, 1) := dk_96 (dk_at dksX1_alike_1 3 rfl rfl)
theorem dX1_alike_28 : decode cX1_alike 28 = .ok (.istore 5, 2) := dk_54 5 (dk_at dksX1_alike_1 4 rfl rfl)
theorem dX1_alike_30 : decode cX1_alike 30 = .ok (.iload 5, 2) := dk_21 5 (dk_at dksX1_alike_1 6 rfl rfl)
theorem dX1_alike_32 : decode cX1_alike 32 = .ok (.aload_n 0, 1) := dk_42 (dk_at dksX1_alike_1 8 rfl rfl)
theorem dX1_alike_33 : decode cX1_alike 33 = .ok (.invokevirtual 152, 3) := dk_182 0 152 (dk_at dksX1_alike_1 9 rfl rfl)
theorem dX1_alike_36 : decode cX1_alike 36 = .ok (.if_icmp .ge 50, 3) := dk_162 0 50 (dk_at dksX1_alike_1 12 rfl rfl)
theorem dX1_alike_39 : decode cX1_alike 39 = .ok (.aload_n 0, 1) := dk_42 (dk_at dksX1_alike_1 15 rfl rfl)
theorem dX1_alike_40 : decode cX1_alike 40 = .ok (.iload 4, 2) := dk_21 4 (dk_at dksX1_alike_1 16 rfl rfl)
theorem dX1_alike_42 : decode cX1_alike 42 = .ok (.invokevirtual 277, 3) := dk_182 1 21 (dk_at dksX1_alike_1 18 rfl rfl)
theorem dX1_alike_45 : decode cX1_alike 45 = .ok (.getfield 284, 3) := dk_180 1 28 (dk_at dksX1_alike_1 21 rfl rfl)
theorem dX1_alike_48 : decode cX1_alike 48 = .ok (.aload_n 0, 1) := dk_42 (dk_at dksX1_alike_2 0 rfl rfl)
theorem dX1_alike_49 : decode cX1_alike 49 = .ok (.iload 5, 2) := dk_21 5 (dk_at dksX1_alike_2 1 rfl rfl)
theorem dX1_alike_51 : decode cX1_alike 51 = .ok (.invokevirtual 277, 3) := dk_182 1 21 (dk_at dksX1_alike_2 3 rfl rfl)
theorem dX1_alike_54 : decode cX1_alike 54 = .ok (.getfield 284, 3) := dk_180 1 28 (dk_at dksX1_alike_2 6 rfl rfl)
theorem dX1_alike_57 : decode cX1_alike 57 = .ok (.if_icmp .eq 6, 3) := dk_159 0 6 (dk_at dksX1_alike_2 9 rfl rfl)
theorem dX1_alike_60 : decode cX1_alike 60 = .ok (.goto 20, 3) := dk_167 0 20 (dk_at dksX1_alike_2 12 rfl rfl)
theorem dX1_alike_63 : decode cX1_alike 63 = .ok (.iinc 2 1, 3) := dk_132 2 1 (dk_at dksX1_alike_2 15 rfl rfl)
theorem dX1_alike_66 : decode cX1_alike 66 = .ok (.iload_n 3, 1) := dk_29 (dk_at dksX1_alike_2 18 rfl rfl)
theorem dX1_alike_67 : decode cX1_alike 67 = .ok (.iconst (-1), 1) := dk_2 (dk_at dksX1_alike_2 19 rfl rfl)
theorem dX1_alike_68 : decode cX1_alike 68 = .ok (.if_icmp .ne 12, 3) := dk_160 0 12 (dk_at dksX1_alike_2 20 rfl rfl)
theorem dX1_alike_71 : decode cX1_alike 71 = .ok (.bipush 10, 2) := dk_16 10 (dk_at dksX1_alike_3 0 rfl rfl)
theorem dX1_alike_73 : decode cX1_alike 73 = .ok (.iload 4, 2) := dk_21 4 (dk_at dksX1_alike_3 2 rfl rfl)
theorem dX1_alike_75 : decode cX1_alike 75 = .ok (.imul, 1) := dk_104 (dk_at dksX1_alike_3 4 rfl rfl)
theorem dX1_alike_76 : decode cX1_alike 76 = .ok (.iload 5, 2) := dk_21 5 (dk_at dksX1_alike_3 5 rfl rfl)
theorem dX1_alike_78 : decode cX1_alike 78 = .ok (.iadd, 1) := dk_96 (dk_at dksX1_alike_3 7 rfl rfl)
theorem dX1_alike_79 : decode cX1_alike 79 = .ok (.istore_n 3, 1) := dk_62 (dk_at dksX1_alike_3 8 rfl rfl)
theorem dX1_alike_80 : decode cX1_alike 80 = .ok (.iinc 5 1, 3) := dk_132 5 1 (dk_at dksX1_alike_3 9 rfl rfl)
theorem dX1_alike_83 : decode cX1_alike 83 = .ok (.goto (-53), 3) := dk_167 255 203 (dk_at dksX1_alike_3 12 rfl rfl)
theorem dX1_alike_86 : decode cX1_alike 86 = .ok (.iinc 4 1, 3) := dk_132 4 1 (dk_at dksX1_alike_3 15 rfl rfl)
theorem dX1_alike_89 : decode cX1_alike 89 = .ok (.goto (-74), 3) := dk_167 255 182 (dk_at dksX1_alike_3 18 rfl rfl)
theorem dX1_alike_92 : decode cX1_alike 92 = .ok (.iload_n 1, 1) := dk_27 (dk_at dksX1_alike_3 21 rfl rfl)
theorem dX1_alike_93 : decode cX1_alike 93 = .ok (.ifCond .ne 7, 3) := dk_154 0 7 (dk_at dksX1_alike_4 0 rfl rfl)
theorem dX1_alike_96 : decode cX1_alike 96 = .ok (.iload_n 2, 1) := dk_28 (dk_at dksX1_alike_4 3 rfl rfl)
theorem dX1_alike_97 : decode cX1_alike 97 = .ok (.goto 4, 3) := dk_167 0 4 (dk_at dksX1_alike_4 4 rfl rfl)
theorem dX1_alike_100 : decode cX1_alike 100 = .ok (.iload_n 3, 1) := dk_29 (dk_at dksX1_alike_4 7 rfl rfl)
theorem dX1_alike_101 : decode cX1_alike 101 = .ok (.ireturn, 1) := dk_172 (dk_at dksX1_alike_4 8 rfl rfl)
abbrev cX1_year : ByteArray := prog_1_method_69_code
def yX1_year : MethodName := ⟨RX1, "year", "(IIII)I"⟩
def dkwX1_year_4 : List UInt8 := [180, 1, 9, 182, 1, 15, 167, 0, 13, 25, 5, 25, 5, 180, 1, 3, 182, 1, 6, 172]
abbrev dktX1_year_4 : List UInt8 := dkwX1_year_4 ++ []
def dkwX1_year_3 : List UInt8 := [180, 0, 55, 180, 1, 34, 182, 1, 15, 100, 167, 0, 32, 21, 4, 5, 160, 0, 16, 25, 5, 25, 5]
abbrev dktX1_year_3 : List UInt8 := dkwX1_year_3 ++ dktX1_year_4
def dkwX1_year_2 : List UInt8 := [167, 0, 66, 21, 4, 4, 160, 0, 31, 25, 5, 25, 5, 180, 1, 34, 182, 1, 15, 42, 180, 0, 55, 42]
abbrev dktX1_year_2 : List UInt8 := dkwX1_year_2 ++ dktX1_year_3
def dkwX1_year_1 : List UInt8 := [182, 0, 174, 42, 27, 28, 29, 182, 1, 165, 58, 5, 21, 4, 154, 0, 11, 25, 5, 180, 0, 253]
abbrev dktX1_year_1 : List UInt8 := dkwX1_year_1 ++ dktX1_year_2
def dkwX1_year_0 : List UInt8 := [42, 28, 29, 184, 1, 162, 153, 0, 17, 21, 4, 3, 6, 184, 0, 243, 153, 0, 7, 4, 167, 0, 4, 3]
abbrev dktX1_year_0 : List UInt8 := dkwX1_year_0 ++ dktX1_year_1
theorem dksX1_year_0 : cX1_year.data.toList.drop 0 = dktX1_year_0 := by decide +kernel
theorem dksX1_year_1 : cX1_year.data.toList.drop 24 = dktX1_year_1 := dk_seg dksX1_year_0 24 rfl rfl
theorem dksX1_year_2 : cX1_year.data.toList.drop 46 = dktX1_year_2 := dk_seg dksX1_year_1 22 rfl rfl
theorem dksX1_year_3 : cX1_year.data.toList.drop 70 = dktX1_year_3 := dk_seg dksX1_year_2 24 rfl rfl
theorem dksX1_year_4 : cX1_year.data.toList.drop 93 = dktX1_year_4 := dk_seg dksX1_year_3 23 rfl rfl
theorem dX1_year_0 : decode cX1_year 0 = .ok (.aload_n 0, 1) := dk_42 (dk_at dksX1_year_0 0 rfl rfl)
theorem dX1_year_1 : decode cX1_year 1 = .ok (.iload_n 2, 1) := dk_28 (dk_at dksX1_year_0 1 rfl rfl)
theorem dX1_year_2 : decode cX1_year 2 = .ok (.iload_n 3, 1) := dk_29 (dk_at dksX1_year_0 2 rfl rfl)
theorem dX1_year_3 : decode cX1_year 3 = .ok (.invokestatic 418, 3) := dk_184 1 162 (dk_at dksX1_year_0 3 rfl rfl)
theorem dX1_year_6 : decode cX1_year 6 = .ok (.ifCond .eq 17, 3) := dk_153 0 17 (dk_at dksX1_year_0 6 rfl rfl)
theorem dX1_year_9 : decode cX1_year 9 = .ok (.iload 4, 2) := dk_21 4 (dk_at dksX1_year_0 9 rfl rfl)
theorem dX1_year_11 : decode cX1_year 11 = .ok (.iconst 0, 1) := dk_3 (dk_at dksX1_year_0 11 rfl rfl)
theorem dX1_year_12 : decode cX1_year 12 = .ok (.iconst 3, 1) := dk_6 (dk_at dksX1_year_0 12 rfl rfl)
theorem dX1_year_13 : decode cX1_year 13 = .ok (.invokestatic 243, 3) := dk_184 0 243 (dk_at dksX1_year_0 13 rfl rfl)
theorem dX1_year_16 : decode cX1_year 16 = .ok (.ifCond .eq 7, 3) := dk_153 0 7 (dk_at dksX1_year_0 16 rfl rfl)
theorem dX1_year_19 : decode cX1_year 19 = .ok (.iconst 1, 1) := dk_4 (dk_at dksX1_year_0 19 rfl rfl)
theorem dX1_year_20 : decode cX1_year 20 = .ok (.goto 4, 3) := dk_167 0 4 (dk_at dksX1_year_0 20 rfl rfl)
theorem dX1_year_23 : decode cX1_year 23 = .ok (.iconst 0, 1) := dk_3 (dk_at dksX1_year_0 23 rfl rfl)
theorem dX1_year_24 : decode cX1_year 24 = .ok (.invokevirtual 174, 3) := dk_182 0 174 (dk_at dksX1_year_1 0 rfl rfl)
theorem dX1_year_27 : decode cX1_year 27 = .ok (.aload_n 0, 1) := dk_42 (dk_at dksX1_year_1 3 rfl rfl)
theorem dX1_year_28 : decode cX1_year 28 = .ok (.iload_n 1, 1) := dk_27 (dk_at dksX1_year_1 4 rfl rfl)
theorem dX1_year_29 : decode cX1_year 29 = .ok (.iload_n 2, 1) := dk_28 (dk_at dksX1_year_1 5 rfl rfl)
theorem dX1_year_30 : decode cX1_year 30 = .ok (.iload_n 3, 1) := dk_29 (dk_at dksX1_year_1 6 rfl rfl)
theorem dX1_year_31 : decode cX1_year 31 = .ok (.invokevirtual 421, 3) := dk_182 1 165 (dk_at dksX1_year_1 7 rfl rfl)
theorem dX1_year_34 : decode cX1_year 34 = .ok (.astore 5, 2) := dk_58 5 (dk_at dksX1_year_1 10 rfl rfl)
theorem dX1_year_36 : decode cX1_year 36 = .ok (.iload 4, 2) := dk_21 4 (dk_at dksX1_year_1 12 rfl rfl)
theorem dX1_year_38 : decode cX1_year 38 = .ok (.ifCond .ne 11, 3) := dk_154 0 11 (dk_at dksX1_year_1 14 rfl rfl)
theorem dX1_year_41 : decode cX1_year 41 = .ok (.aload 5, 2) := dk_25 5 (dk_at dksX1_year_1 17 rfl rfl)
theorem dX1_year_43 : decode cX1_year 43 = .ok (.getfield 253, 3) := dk_180 0 253 (dk_at dksX1_year_1 19 rfl rfl)
theorem dX1_year_46 : decode cX1_year 46 = .ok (.goto 66, 3) := dk_167 0 66 (dk_at dksX1_year_2 0 rfl rfl)
theorem dX1_year_49 : decode cX1_year 49 = .ok (.iload 4, 2) := dk_21 4 (dk_at dksX1_year_2 3 rfl rfl)
theorem dX1_year_51 : decode cX1_year 51 = .ok (.iconst 1, 1) := dk_4 (dk_at dksX1_year_2 5 rfl rfl)
theorem dX1_year_52 : decode cX1_year 52 = .ok (.if_icmp .ne 31, 3) := dk_160 0 31 (dk_at dksX1_year_2 6 rfl rfl)
theorem dX1_year_55 : decode cX1_year 55 = .ok (.aload 5, 2) := dk_25 5 (dk_at dksX1_year_2 9 rfl rfl)
theorem dX1_year_57 : decode cX1_year 57 = .ok (.aload 5, 2) := dk_25 5 (dk_at dksX1_year_2 11 rfl rfl)
theorem dX1_year_59 : decode cX1_year 59 = .ok (.getfield 290, 3) := dk_180 1 34 (dk_at dksX1_year_2 13 rfl rfl)
theorem dX1_year_62 : decode cX1_year 62 = .ok (.invokevirtual 271, 3) := dk_182 1 15 (dk_at dksX1_year_2 16 rfl rfl)
theorem dX1_year_65 : decode cX1_year 65 = .ok (.aload_n 0, 1) := dk_42 (dk_at dksX1_year_2 19 rfl rfl)
theorem dX1_year_66 : decode cX1_year 66 = .ok (.getfield 55, 3) := dk_180 0 55 (dk_at dksX1_year_2 20 rfl rfl)
theorem dX1_year_69 : decode cX1_year 69 = .ok (.aload_n 0, 1) := dk_42 (dk_at dksX1_year_2 23 rfl rfl)
theorem dX1_year_70 : decode cX1_year 70 = .ok (.getfield 55, 3) := dk_180 0 55 (dk_at dksX1_year_3 0 rfl rfl)
theorem dX1_year_73 : decode cX1_year 73 = .ok (.getfield 290, 3) := dk_180 1 34 (dk_at dksX1_year_3 3 rfl rfl)
theorem dX1_year_76 : decode cX1_year 76 = .ok (.invokevirtual 271, 3) := dk_182 1 15 (dk_at dksX1_year_3 6 rfl rfl)
theorem dX1_year_79 : decode cX1_year 79 = .ok (.isub, 1) := dk_100 (dk_at dksX1_year_3 9 rfl rfl)
theorem dX1_year_80 : decode cX1_year 80 = .ok (.goto 32, 3) := dk_167 0 32 (dk_at dksX1_year_3 10 rfl rfl)
theorem dX1_year_83 : decode cX1_year 83 = .ok (.iload 4, 2) := dk_21 4 (dk_at dksX1_year_3 13 rfl rfl)
theorem dX1_year_85 : decode cX1_year 85 = .ok (.iconst 2, 1) := dk_5 (dk_at dksX1_year_3 15 rfl rfl)
theorem dX1_year_86 : decode cX1_year 86 = .ok (.if_icmp .ne 16, 3) := dk_160 0 16 (dk_at dksX1_year_3 16 rfl rfl)
theorem dX1_year_89 : decode cX1_year 89 = .ok (.aload 5, 2) := dk_25 5 (dk_at dksX1_year_3 19 rfl rfl)
theorem dX1_year_91 : decode cX1_year 91 = .ok (.aload 5, 2) := dk_25 5 (dk_at dksX1_year_3 21 rfl rfl)
theorem dX1_year_93 : decode cX1_year 93 = .ok (.getfield 265, 3) := dk_180 1 9 (dk_at dksX1_year_4 0 rfl rfl)
theorem dX1_year_96 : decode cX1_year 96 = .ok (.invokevirtual 271, 3) := dk_182 1 15 (dk_at dksX1_year_4 3 rfl rfl)
theorem dX1_year_99 : decode cX1_year 99 = .ok (.goto 13, 3) := dk_167 0 13 (dk_at dksX1_year_4 6 rfl rfl)
theorem dX1_year_102 : decode cX1_year 102 = .ok (.aload 5, 2) := dk_25 5 (dk_at dksX1_year_4 9 rfl rfl)
theorem dX1_year_104 : decode cX1_year 104 = .ok (.aload 5, 2) := dk_25 5 (dk_at dksX1_year_4 11 rfl rfl)
theorem dX1_year_106 : decode cX1_year 106 = .ok (.getfield 259, 3) := dk_180 1 3 (dk_at dksX1_year_4 13 rfl rfl)
theorem dX1_year_109 : decode cX1_year 109 = .ok (.invokevirtual 262, 3) := dk_182 1 6 (dk_at dksX1_year_4 16 rfl rfl)
theorem dX1_year_112 : decode cX1_year 112 = .ok (.ireturn, 1) := dk_172 (dk_at dksX1_year_4 19 rfl rfl)
abbrev cX1_isYear : ByteArray := prog_1_method_68_code
def yX1_isYear : MethodName := ⟨RX1, "isYear", "(II)Z"⟩
def dkwX1_isYear_1 : List UInt8 := [3, 172]
abbrev dktX1_isYear_1 : List UInt8 := dkwX1_isYear_1 ++ []
def dkwX1_isYear_0 : List UInt8 := [26, 4, 16, 96, 184, 0, 243, 153, 0, 17, 27, 3, 16, 16, 184, 0, 243, 153, 0, 7, 4, 167, 0, 4]
abbrev dktX1_isYear_0 : List UInt8 := dkwX1_isYear_0 ++ dktX1_isYear_1
theorem dksX1_isYear_0 : cX1_isYear.data.toList.drop 0 = dktX1_isYear_0 := by decide +kernel
theorem dksX1_isYear_1 : cX1_isYear.data.toList.drop 24 = dktX1_isYear_1 := dk_seg dksX1_isYear_0 24 rfl rfl
theorem dX1_isYear_0 : decode cX1_isYear 0 = .ok (.iload_n 0, 1) := dk_26 (dk_at dksX1_isYear_0 0 rfl rfl)
theorem dX1_isYear_1 : decode cX1_isYear 1 = .ok (.iconst 1, 1) := dk_4 (dk_at dksX1_isYear_0 1 rfl rfl)
theorem dX1_isYear_2 : decode cX1_isYear 2 = .ok (.bipush 96, 2) := dk_16 96 (dk_at dksX1_isYear_0 2 rfl rfl)
theorem dX1_isYear_4 : decode cX1_isYear 4 = .ok (.invokestatic 243, 3) := dk_184 0 243 (dk_at dksX1_isYear_0 4 rfl rfl)
theorem dX1_isYear_7 : decode cX1_isYear 7 = .ok (.ifCond .eq 17, 3) := dk_153 0 17 (dk_at dksX1_isYear_0 7 rfl rfl)
theorem dX1_isYear_10 : decode cX1_isYear 10 = .ok (.iload_n 1, 1) := dk_27 (dk_at dksX1_isYear_0 10 rfl rfl)
theorem dX1_isYear_11 : decode cX1_isYear 11 = .ok (.iconst 0, 1) := dk_3 (dk_at dksX1_isYear_0 11 rfl rfl)
theorem dX1_isYear_12 : decode cX1_isYear 12 = .ok (.bipush 16, 2) := dk_16 16 (dk_at dksX1_isYear_0 12 rfl rfl)
theorem dX1_isYear_14 : decode cX1_isYear 14 = .ok (.invokestatic 243, 3) := dk_184 0 243 (dk_at dksX1_isYear_0 14 rfl rfl)
theorem dX1_isYear_17 : decode cX1_isYear 17 = .ok (.ifCond .eq 7, 3) := dk_153 0 7 (dk_at dksX1_isYear_0 17 rfl rfl)
theorem dX1_isYear_20 : decode cX1_isYear 20 = .ok (.iconst 1, 1) := dk_4 (dk_at dksX1_isYear_0 20 rfl rfl)
theorem dX1_isYear_21 : decode cX1_isYear 21 = .ok (.goto 4, 3) := dk_167 0 4 (dk_at dksX1_isYear_0 21 rfl rfl)
theorem dX1_isYear_24 : decode cX1_isYear 24 = .ok (.iconst 0, 1) := dk_3 (dk_at dksX1_isYear_1 0 rfl rfl)
theorem dX1_isYear_25 : decode cX1_isYear 25 = .ok (.ireturn, 1) := dk_172 (dk_at dksX1_isYear_1 1 rfl rfl)
abbrev cX1_yearBy : ByteArray := prog_1_method_67_code
def yX1_yearBy : MethodName := ⟨RX1, "yearBy", "(III)LDimpleWells$Season;"⟩
def dkwX1_yearBy_4 : List UInt8 := [182, 1, 81, 132, 5, 1, 167, 255, 179, 25, 4, 176]
abbrev dktX1_yearBy_4 : List UInt8 := dkwX1_yearBy_4 ++ []
def dkwX1_yearBy_3 : List UInt8 := [87, 42, 16, 16, 182, 1, 153, 29, 162, 0, 12, 25, 4, 21, 7, 6, 182, 1, 159, 87, 25, 4]
abbrev dktX1_yearBy_3 : List UInt8 := dkwX1_yearBy_3 ++ dktX1_yearBy_4
def dkwX1_yearBy_2 : List UInt8 := [182, 1, 153, 54, 6, 42, 42, 182, 0, 152, 182, 1, 153, 54, 7, 25, 4, 21, 6, 21, 7, 182, 1, 156]
abbrev dktX1_yearBy_2 : List UInt8 := dkwX1_yearBy_2 ++ dktX1_yearBy_3
def dkwX1_yearBy_1 : List UInt8 := [162, 0, 77, 42, 182, 0, 158, 158, 0, 59, 42, 182, 0, 152, 158, 0, 52, 42, 42, 182, 0, 158]
abbrev dktX1_yearBy_1 : List UInt8 := dkwX1_yearBy_1 ++ dktX1_yearBy_2
def dkwX1_yearBy_0 : List UInt8 := [42, 180, 0, 59, 42, 180, 0, 55, 182, 0, 239, 58, 4, 42, 27, 181, 1, 149, 3, 54, 5, 21, 5, 28]
abbrev dktX1_yearBy_0 : List UInt8 := dkwX1_yearBy_0 ++ dktX1_yearBy_1
theorem dksX1_yearBy_0 : cX1_yearBy.data.toList.drop 0 = dktX1_yearBy_0 := by decide +kernel
theorem dksX1_yearBy_1 : cX1_yearBy.data.toList.drop 24 = dktX1_yearBy_1 := dk_seg dksX1_yearBy_0 24 rfl rfl
theorem dksX1_yearBy_2 : cX1_yearBy.data.toList.drop 46 = dktX1_yearBy_2 := dk_seg dksX1_yearBy_1 22 rfl rfl
theorem dksX1_yearBy_3 : cX1_yearBy.data.toList.drop 70 = dktX1_yearBy_3 := dk_seg dksX1_yearBy_2 24 rfl rfl
theorem dksX1_yearBy_4 : cX1_yearBy.data.toList.drop 92 = dktX1_yearBy_4 := dk_seg dksX1_yearBy_3 22 rfl rfl
theorem dX1_yearBy_0 : decode cX1_yearBy 0 = .ok (.aload_n 0, 1) := dk_42 (dk_at dksX1_yearBy_0 0 rfl rfl)
theorem dX1_yearBy_1 : decode cX1_yearBy 1 = .ok (.getfield 59, 3) := dk_180 0 59 (dk_at dksX1_yearBy_0 1 rfl rfl)
theorem dX1_yearBy_4 : decode cX1_yearBy 4 = .ok (.aload_n 0, 1) := dk_42 (dk_at dksX1_yearBy_0 4 rfl rfl)
theorem dX1_yearBy_5 : decode cX1_yearBy 5 = .ok (.getfield 55, 3) := dk_180 0 55 (dk_at dksX1_yearBy_0 5 rfl rfl)
theorem dX1_yearBy_8 : decode cX1_yearBy 8 = .ok (.invokevirtual 239, 3) := dk_182 0 239 (dk_at dksX1_yearBy_0 8 rfl rfl)
theorem dX1_yearBy_11 : decode cX1_yearBy 11 = .ok (.astore 4, 2) := dk_58 4 (dk_at dksX1_yearBy_0 11 rfl rfl)
theorem dX1_yearBy_13 : decode cX1_yearBy 13 = .ok (.aload_n 0, 1) := dk_42 (dk_at dksX1_yearBy_0 13 rfl rfl)
theorem dX1_yearBy_14 : decode cX1_yearBy 14 = .ok (.iload_n 1, 1) := dk_27 (dk_at dksX1_yearBy_0 14 rfl rfl)
theorem dX1_yearBy_15 : decode cX1_yearBy 15 = .ok (.putfield 405, 3) := dk_181 1 149 (dk_at dksX1_yearBy_0 15 rfl rfl)
theorem dX1_yearBy_18 : decode cX1_yearBy 18 = .ok (.iconst 0, 1) := dk_3 (dk_at dksX1_yearBy_0 18 rfl rfl)
theorem dX1_yearBy_19 : decode cX1_yearBy 19 = .ok (.istore 5, 2) := dk_54 5 (dk_at dksX1_yearBy_0 19 rfl rfl)
theorem dX1_yearBy_21 : decode cX1_yearBy 21 = .ok (.iload 5, 2) := dk_21 5 (dk_at dksX1_yearBy_0 21 rfl rfl)
theorem dX1_yearBy_23 : decode cX1_yearBy 23 = .ok (.iload_n 2, 1) := dk_28 (dk_at dksX1_yearBy_0 23 rfl rfl)
theorem dX1_yearBy_24 : decode cX1_yearBy 24 = .ok (.if_icmp .ge 77, 3) := dk_162 0 77 (dk_at dksX1_yearBy_1 0 rfl rfl)
theorem dX1_yearBy_27 : decode cX1_yearBy 27 = .ok (.aload_n 0, 1) := dk_42 (dk_at dksX1_yearBy_1 3 rfl rfl)
theorem dX1_yearBy_28 : decode cX1_yearBy 28 = .ok (.invokevirtual 158, 3) := dk_182 0 158 (dk_at dksX1_yearBy_1 4 rfl rfl)
theorem dX1_yearBy_31 : decode cX1_yearBy 31 = .ok (.ifCond .le 59, 3) := dk_158 0 59 (dk_at dksX1_yearBy_1 7 rfl rfl)
theorem dX1_yearBy_34 : decode cX1_yearBy 34 = .ok (.aload_n 0, 1) := dk_42 (dk_at dksX1_yearBy_1 10 rfl rfl)
theorem dX1_yearBy_35 : decode cX1_yearBy 35 = .ok (.invokevirtual 152, 3) := dk_182 0 152 (dk_at dksX1_yearBy_1 11 rfl rfl)
theorem dX1_yearBy_38 : decode cX1_yearBy 38 = .ok (.ifCond .le 52, 3) := dk_158 0 52 (dk_at dksX1_yearBy_1 14 rfl rfl)
theorem dX1_yearBy_41 : decode cX1_yearBy 41 = .ok (.aload_n 0, 1) := dk_42 (dk_at dksX1_yearBy_1 17 rfl rfl)
theorem dX1_yearBy_42 : decode cX1_yearBy 42 = .ok (.aload_n 0, 1) := dk_42 (dk_at dksX1_yearBy_1 18 rfl rfl)
theorem dX1_yearBy_43 : decode cX1_yearBy 43 = .ok (.invokevirtual 158, 3) := dk_182 0 158 (dk_at dksX1_yearBy_1 19 rfl rfl)
theorem dX1_yearBy_46 : decode cX1_yearBy 46 = .ok (.invokevirtual 409, 3) := dk_182 1 153 (dk_at dksX1_yearBy_2 0 rfl rfl)
theorem dX1_yearBy_49 : decode cX1_yearBy 49 = .ok (.istore 6, 2) := dk_54 6 (dk_at dksX1_yearBy_2 3 rfl rfl)
theorem dX1_yearBy_51 : decode cX1_yearBy 51 = .ok (.aload_n 0, 1) := dk_42 (dk_at dksX1_yearBy_2 5 rfl rfl)
theorem dX1_yearBy_52 : decode cX1_yearBy 52 = .ok (.aload_n 0, 1) := dk_42 (dk_at dksX1_yearBy_2 6 rfl rfl)
theorem dX1_yearBy_53 : decode cX1_yearBy 53 = .ok (.invokevirtual 152, 3) := dk_182 0 152 (dk_at dksX1_yearBy_2 7 rfl rfl)
theorem dX1_yearBy_56 : decode cX1_yearBy 56 = .ok (.invokevirtual 409, 3) := dk_182 1 153 (dk_at dksX1_yearBy_2 10 rfl rfl)
theorem dX1_yearBy_59 : decode cX1_yearBy 59 = .ok (.istore 7, 2) := dk_54 7 (dk_at dksX1_yearBy_2 13 rfl rfl)
theorem dX1_yearBy_61 : decode cX1_yearBy 61 = .ok (.aload 4, 2) := dk_25 4 (dk_at dksX1_yearBy_2 15 rfl rfl)
theorem dX1_yearBy_63 : decode cX1_yearBy 63 = .ok (.iload 6, 2) := dk_21 6 (dk_at dksX1_yearBy_2 17 rfl rfl)
theorem dX1_yearBy_65 : decode cX1_yearBy 65 = .ok (.iload 7, 2) := dk_21 7 (dk_at dksX1_yearBy_2 19 rfl rfl)
theorem dX1_yearBy_67 : decode cX1_yearBy 67 = .ok (.invokevirtual 412, 3) := dk_182 1 156 (dk_at dksX1_yearBy_2 21 rfl rfl)
theorem dX1_yearBy_70 : decode cX1_yearBy 70 = .ok (.pop, 1) := dk_87 (dk_at dksX1_yearBy_3 0 rfl rfl)
theorem dX1_yearBy_71 : decode cX1_yearBy 71 = .ok (.aload_n 0, 1) := dk_42 (dk_at dksX1_yearBy_3 1 rfl rfl)
theorem dX1_yearBy_72 : decode cX1_yearBy 72 = .ok (.bipush 16, 2) := dk_16 16 (dk_at dksX1_yearBy_3 2 rfl rfl)
theorem dX1_yearBy_74 : decode cX1_yearBy 74 = .ok (.invokevirtual 409, 3) := dk_182 1 153 (dk_at dksX1_yearBy_3 4 rfl rfl)
theorem dX1_yearBy_77 : decode cX1_yearBy 77 = .ok (.iload_n 3, 1) := dk_29 (dk_at dksX1_yearBy_3 7 rfl rfl)
theorem dX1_yearBy_78 : decode cX1_yearBy 78 = .ok (.if_icmp .ge 12, 3) := dk_162 0 12 (dk_at dksX1_yearBy_3 8 rfl rfl)
theorem dX1_yearBy_81 : decode cX1_yearBy 81 = .ok (.aload 4, 2) := dk_25 4 (dk_at dksX1_yearBy_3 11 rfl rfl)
theorem dX1_yearBy_83 : decode cX1_yearBy 83 = .ok (.iload 7, 2) := dk_21 7 (dk_at dksX1_yearBy_3 13 rfl rfl)
theorem dX1_yearBy_85 : decode cX1_yearBy 85 = .ok (.iconst 3, 1) := dk_6 (dk_at dksX1_yearBy_3 15 rfl rfl)
theorem dX1_yearBy_86 : decode cX1_yearBy 86 = .ok (.invokevirtual 415, 3) := dk_182 1 159 (dk_at dksX1_yearBy_3 16 rfl rfl)
theorem dX1_yearBy_89 : decode cX1_yearBy 89 = .ok (.pop, 1) := dk_87 (dk_at dksX1_yearBy_3 19 rfl rfl)
theorem dX1_yearBy_90 : decode cX1_yearBy 90 = .ok (.aload 4, 2) := dk_25 4 (dk_at dksX1_yearBy_3 20 rfl rfl)
theorem dX1_yearBy_92 : decode cX1_yearBy 92 = .ok (.invokevirtual 337, 3) := dk_182 1 81 (dk_at dksX1_yearBy_4 0 rfl rfl)
theorem dX1_yearBy_95 : decode cX1_yearBy 95 = .ok (.iinc 5 1, 3) := dk_132 5 1 (dk_at dksX1_yearBy_4 3 rfl rfl)
theorem dX1_yearBy_98 : decode cX1_yearBy 98 = .ok (.goto (-77), 3) := dk_167 255 179 (dk_at dksX1_yearBy_4 6 rfl rfl)
theorem dX1_yearBy_101 : decode cX1_yearBy 101 = .ok (.aload 4, 2) := dk_25 4 (dk_at dksX1_yearBy_4 9 rfl rfl)
theorem dX1_yearBy_103 : decode cX1_yearBy 103 = .ok (.areturn, 1) := dk_176 (dk_at dksX1_yearBy_4 11 rfl rfl)
abbrev cX1_draw : ByteArray := prog_1_method_66_code
def yX1_draw : MethodName := ⟨RX1, "draw", "(I)I"⟩
def dkwX1_draw_1 : List UInt8 := [17, 127, 255, 126, 27, 112, 172]
abbrev dktX1_draw_1 : List UInt8 := dkwX1_draw_1 ++ []
def dkwX1_draw_0 : List UInt8 := [42, 42, 180, 1, 149, 19, 1, 152, 104, 17, 48, 57, 96, 181, 1, 149, 42, 180, 1, 149, 16, 16, 122]
abbrev dktX1_draw_0 : List UInt8 := dkwX1_draw_0 ++ dktX1_draw_1
theorem dksX1_draw_0 : cX1_draw.data.toList.drop 0 = dktX1_draw_0 := by decide +kernel
theorem dksX1_draw_1 : cX1_draw.data.toList.drop 23 = dktX1_draw_1 := dk_seg dksX1_draw_0 23 rfl rfl
theorem dX1_draw_0 : decode cX1_draw 0 = .ok (.aload_n 0, 1) := dk_42 (dk_at dksX1_draw_0 0 rfl rfl)
theorem dX1_draw_1 : decode cX1_draw 1 = .ok (.aload_n 0, 1) := dk_42 (dk_at dksX1_draw_0 1 rfl rfl)
theorem dX1_draw_2 : decode cX1_draw 2 = .ok (.getfield 405, 3) := dk_180 1 149 (dk_at dksX1_draw_0 2 rfl rfl)
theorem dX1_draw_5 : decode cX1_draw 5 = .ok (.ldc_w 408, 3) := dk_19 1 152 (dk_at dksX1_draw_0 5 rfl rfl)
theorem dX1_draw_8 : decode cX1_draw 8 = .ok (.imul, 1) := dk_104 (dk_at dksX1_draw_0 8 rfl rfl)
theorem dX1_draw_9 : decode cX1_draw 9 = .ok (.sipush 12345, 3) := dk_17 48 57 (dk_at dksX1_draw_0 9 rfl rfl)
theorem dX1_draw_12 : decode cX1_draw 12 = .ok (.iadd, 1) := dk_96 (dk_at dksX1_draw_0 12 rfl rfl)
theorem dX1_draw_13 : decode cX1_draw 13 = .ok (.putfield 405, 3) := dk_181 1 149 (dk_at dksX1_draw_0 13 rfl rfl)
theorem dX1_draw_16 : decode cX1_draw 16 = .ok (.aload_n 0, 1) := dk_42 (dk_at dksX1_draw_0 16 rfl rfl)
theorem dX1_draw_17 : decode cX1_draw 17 = .ok (.getfield 405, 3) := dk_180 1 149 (dk_at dksX1_draw_0 17 rfl rfl)
theorem dX1_draw_20 : decode cX1_draw 20 = .ok (.bipush 16, 2) := dk_16 16 (dk_at dksX1_draw_0 20 rfl rfl)
theorem dX1_draw_22 : decode cX1_draw 22 = .ok (.ishr, 1) := dk_122 (dk_at dksX1_draw_0 22 rfl rfl)
theorem dX1_draw_23 : decode cX1_draw 23 = .ok (.sipush 32767, 3) := dk_17 127 255 (dk_at dksX1_draw_1 0 rfl rfl)
theorem dX1_draw_26 : decode cX1_draw 26 = .ok (.iand, 1) := dk_126 (dk_at dksX1_draw_1 3 rfl rfl)
theorem dX1_draw_27 : decode cX1_draw 27 = .ok (.iload_n 1, 1) := dk_27 (dk_at dksX1_draw_1 4 rfl rfl)
theorem dX1_draw_28 : decode cX1_draw 28 = .ok (.irem, 1) := dk_112 (dk_at dksX1_draw_1 5 rfl rfl)
theorem dX1_draw_29 : decode cX1_draw 29 = .ok (.ireturn, 1) := dk_172 (dk_at dksX1_draw_1 6 rfl rfl)
abbrev cX1_span : ByteArray := prog_1_method_70_code
def yX1_span : MethodName := ⟨RX1, "span", "(IIIIII)I"⟩
def dkwX1_span_7 : List UInt8 := [21, 5, 4, 160, 0, 8, 21, 8, 167, 0, 5, 21, 9, 172]
abbrev dktX1_span_7 : List UInt8 := dkwX1_span_7 ++ []
def dkwX1_span_6 : List UInt8 := [167, 0, 4, 3, 96, 54, 9, 132, 10, 1, 167, 255, 175, 21, 5, 154, 0, 8, 21, 7, 167, 0, 16]
abbrev dktX1_span_6 : List UInt8 := dkwX1_span_6 ++ dktX1_span_7
def dkwX1_span_5 : List UInt8 := [180, 0, 253, 184, 0, 143, 54, 8, 21, 9, 25, 11, 180, 1, 9, 21, 6, 46, 158, 0, 7, 4]
abbrev dktX1_span_5 : List UInt8 := dkwX1_span_5 ++ dktX1_span_6
def dkwX1_span_4 : List UInt8 := [180, 0, 253, 167, 0, 13, 21, 7, 25, 11, 180, 0, 253, 184, 0, 137, 54, 7, 21, 8, 25, 11]
abbrev dktX1_span_4 : List UInt8 := dkwX1_span_4 ++ dktX1_span_5
def dkwX1_span_3 : List UInt8 := [162, 0, 81, 42, 27, 21, 10, 96, 29, 21, 4, 182, 1, 165, 58, 11, 21, 7, 2, 160, 0, 11, 25, 11]
abbrev dktX1_span_3 : List UInt8 := dkwX1_span_3 ++ dktX1_span_4
def dkwX1_span_2 : List UInt8 := [167, 0, 4, 3, 182, 0, 174, 2, 54, 7, 3, 54, 8, 3, 54, 9, 3, 54, 10, 21, 10, 28]
abbrev dktX1_span_2 : List UInt8 := dkwX1_span_2 ++ dktX1_span_3
def dkwX1_span_1 : List UInt8 := [184, 0, 243, 153, 0, 22, 21, 6, 3, 42, 182, 0, 152, 4, 100, 184, 0, 243, 153, 0, 7, 4]
abbrev dktX1_span_1 : List UInt8 := dkwX1_span_1 ++ dktX1_span_2
def dkwX1_span_0 : List UInt8 := [42, 28, 4, 16, 20, 184, 0, 243, 153, 0, 41, 29, 21, 4, 184, 1, 162, 153, 0, 32, 21, 5, 3, 5]
abbrev dktX1_span_0 : List UInt8 := dkwX1_span_0 ++ dktX1_span_1
theorem dksX1_span_0 : cX1_span.data.toList.drop 0 = dktX1_span_0 := by decide +kernel
theorem dksX1_span_1 : cX1_span.data.toList.drop 24 = dktX1_span_1 := dk_seg dksX1_span_0 24 rfl rfl
theorem dksX1_span_2 : cX1_span.data.toList.drop 46 = dktX1_span_2 := dk_seg dksX1_span_1 22 rfl rfl
theorem dksX1_span_3 : cX1_span.data.toList.drop 68 = dktX1_span_3 := dk_seg dksX1_span_2 22 rfl rfl
theorem dksX1_span_4 : cX1_span.data.toList.drop 92 = dktX1_span_4 := dk_seg dksX1_span_3 24 rfl rfl
theorem dksX1_span_5 : cX1_span.data.toList.drop 114 = dktX1_span_5 := dk_seg dksX1_span_4 22 rfl rfl
theorem dksX1_span_6 : cX1_span.data.toList.drop 136 = dktX1_span_6 := dk_seg dksX1_span_5 22 rfl rfl
theorem dksX1_span_7 : cX1_span.data.toList.drop 159 = dktX1_span_7 := dk_seg dksX1_span_6 23 rfl rfl
theorem dX1_span_0 : decode cX1_span 0 = .ok (.aload_n 0, 1) := dk_42 (dk_at dksX1_span_0 0 rfl rfl)
theorem dX1_span_1 : decode cX1_span 1 = .ok (.iload_n 2, 1) := dk_28 (dk_at dksX1_span_0 1 rfl rfl)
theorem dX1_span_2 : decode cX1_span 2 = .ok (.iconst 1, 1) := dk_4 (dk_at dksX1_span_0 2 rfl rfl)
theorem dX1_span_3 : decode cX1_span 3 = .ok (.bipush 20, 2) := dk_16 20 (dk_at dksX1_span_0 3 rfl rfl)
theorem dX1_span_5 : decode cX1_span 5 = .ok (.invokestatic 243, 3) := dk_184 0 243 (dk_at dksX1_span_0 5 rfl rfl)
theorem dX1_span_8 : decode cX1_span 8 = .ok (.ifCond .eq 41, 3) := dk_153 0 41 (dk_at dksX1_span_0 8 rfl rfl)
theorem dX1_span_11 : decode cX1_span 11 = .ok (.iload_n 3, 1) := dk_29 (dk_at dksX1_span_0 11 rfl rfl)
theorem dX1_span_12 : decode cX1_span 12 = .ok (.iload 4, 2) := dk_21 4 (dk_at dksX1_span_0 12 rfl rfl)
theorem dX1_span_14 : decode cX1_span 14 = .ok (.invokestatic 418, 3) := dk_184 1 162 (dk_at dksX1_span_0 14 rfl rfl)
theorem dX1_span_17 : decode cX1_span 17 = .ok (.ifCond .eq 32, 3) := dk_153 0 32 (dk_at dksX1_span_0 17 rfl rfl)
theorem dX1_span_20 : decode cX1_span 20 = .ok (.iload 5, 2) := dk_21 5 (dk_at dksX1_span_0 20 rfl rfl)
theorem dX1_span_22 : decode cX1_span 22 = .ok (.iconst 0, 1) := dk_3 (dk_at dksX1_span_0 22 rfl rfl)
theorem dX1_span_23 : decode cX1_span 23 = .ok (.iconst 2, 1) := dk_5 (dk_at dksX1_span_0 23 rfl rfl)
theorem dX1_span_24 : decode cX1_span 24 = .ok (.invokestatic 243, 3) := dk_184 0 243 (dk_at dksX1_span_1 0 rfl rfl)
theorem dX1_span_27 : decode cX1_span 27 = .ok (.ifCond .eq 22, 3) := dk_153 0 22 (dk_at dksX1_span_1 3 rfl rfl)
theorem dX1_span_30 : decode cX1_span 30 = .ok (.iload 6, 2) := dk_21 6 (dk_at dksX1_span_1 6 rfl rfl)
theorem dX1_span_32 : decode cX1_span 32 = .ok (.iconst 0, 1) := dk_3 (dk_at dksX1_span_1 8 rfl rfl)
theorem dX1_span_33 : decode cX1_span 33 = .ok (.aload_n 0, 1) := dk_42 (dk_at dksX1_span_1 9 rfl rfl)
theorem dX1_span_34 : decode cX1_span 34 = .ok (.invokevirtual 152, 3) := dk_182 0 152 (dk_at dksX1_span_1 10 rfl rfl)
theorem dX1_span_37 : decode cX1_span 37 = .ok (.iconst 1, 1) := dk_4 (dk_at dksX1_span_1 13 rfl rfl)
theorem dX1_span_38 : decode cX1_span 38 = .ok (.isub, 1) := dk_100 (dk_at dksX1_span_1 14 rfl rfl)
theorem dX1_span_39 : decode cX1_span 39 = .ok (.invokestatic 243, 3) := dk_184 0 243 (dk_at dksX1_span_1 15 rfl rfl)
theorem dX1_span_42 : decode cX1_span 42 = .ok (.ifCond .eq 7, 3) := dk_153 0 7 (dk_at dksX1_span_1 18 rfl rfl)
theorem dX1_span_45 : decode cX1_span 45 = .ok (.iconst 1, 1) := dk_4 (dk_at dksX1_span_1 21 rfl rfl)
theorem dX1_span_46 : decode cX1_span 46 = .ok (.goto 4, 3) := dk_167 0 4 (dk_at dksX1_span_2 0 rfl rfl)
theorem dX1_span_49 : decode cX1_span 49 = .ok (.iconst 0, 1) := dk_3 (dk_at dksX1_span_2 3 rfl rfl)
theorem dX1_span_50 : decode cX1_span 50 = .ok (.invokevirtual 174, 3) := dk_182 0 174 (dk_at dksX1_span_2 4 rfl rfl)
theorem dX1_span_53 : decode cX1_span 53 = .ok (.iconst (-1), 1) := dk_2 (dk_at dksX1_span_2 7 rfl rfl)
theorem dX1_span_54 : decode cX1_span 54 = .ok (.istore 7, 2) := dk_54 7 (dk_at dksX1_span_2 8 rfl rfl)
theorem dX1_span_56 : decode cX1_span 56 = .ok (.iconst 0, 1) := dk_3 (dk_at dksX1_span_2 10 rfl rfl)
theorem dX1_span_57 : decode cX1_span 57 = .ok (.istore 8, 2) := dk_54 8 (dk_at dksX1_span_2 11 rfl rfl)
theorem dX1_span_59 : decode cX1_span 59 = .ok (.iconst 0, 1) := dk_3 (dk_at dksX1_span_2 13 rfl rfl)
theorem dX1_span_60 : decode cX1_span 60 = .ok (.istore 9, 2) := dk_54 9 (dk_at dksX1_span_2 14 rfl rfl)
theorem dX1_span_62 : decode cX1_span 62 = .ok (.iconst 0, 1) := dk_3 (dk_at dksX1_span_2 16 rfl rfl)
theorem dX1_span_63 : decode cX1_span 63 = .ok (.istore 10, 2) := dk_54 10 (dk_at dksX1_span_2 17 rfl rfl)
theorem dX1_span_65 : decode cX1_span 65 = .ok (.iload 10, 2) := dk_21 10 (dk_at dksX1_span_2 19 rfl rfl)
theorem dX1_span_67 : decode cX1_span 67 = .ok (.iload_n 2, 1) := dk_28 (dk_at dksX1_span_2 21 rfl rfl)
theorem dX1_span_68 : decode cX1_span 68 = .ok (.if_icmp .ge 81, 3) := dk_162 0 81 (dk_at dksX1_span_3 0 rfl rfl)
theorem dX1_span_71 : decode cX1_span 71 = .ok (.aload_n 0, 1) := dk_42 (dk_at dksX1_span_3 3 rfl rfl)
theorem dX1_span_72 : decode cX1_span 72 = .ok (.iload_n 1, 1) := dk_27 (dk_at dksX1_span_3 4 rfl rfl)
theorem dX1_span_73 : decode cX1_span 73 = .ok (.iload 10, 2) := dk_21 10 (dk_at dksX1_span_3 5 rfl rfl)
theorem dX1_span_75 : decode cX1_span 75 = .ok (.iadd, 1) := dk_96 (dk_at dksX1_span_3 7 rfl rfl)
theorem dX1_span_76 : decode cX1_span 76 = .ok (.iload_n 3, 1) := dk_29 (dk_at dksX1_span_3 8 rfl rfl)
theorem dX1_span_77 : decode cX1_span 77 = .ok (.iload 4, 2) := dk_21 4 (dk_at dksX1_span_3 9 rfl rfl)
theorem dX1_span_79 : decode cX1_span 79 = .ok (.invokevirtual 421, 3) := dk_182 1 165 (dk_at dksX1_span_3 11 rfl rfl)
theorem dX1_span_82 : decode cX1_span 82 = .ok (.astore 11, 2) := dk_58 11 (dk_at dksX1_span_3 14 rfl rfl)
theorem dX1_span_84 : decode cX1_span 84 = .ok (.iload 7, 2) := dk_21 7 (dk_at dksX1_span_3 16 rfl rfl)
theorem dX1_span_86 : decode cX1_span 86 = .ok (.iconst (-1), 1) := dk_2 (dk_at dksX1_span_3 18 rfl rfl)
theorem dX1_span_87 : decode cX1_span 87 = .ok (.if_icmp .ne 11, 3) := dk_160 0 11 (dk_at dksX1_span_3 19 rfl rfl)
theorem dX1_span_90 : decode cX1_span 90 = .ok (.aload 11, 2) := dk_25 11 (dk_at dksX1_span_3 22 rfl rfl)
theorem dX1_span_92 : decode cX1_span 92 = .ok (.getfield 253, 3) := dk_180 0 253 (dk_at dksX1_span_4 0 rfl rfl)
theorem dX1_span_95 : decode cX1_span 95 = .ok (.goto 13, 3) := dk_167 0 13 (dk_at dksX1_span_4 3 rfl rfl)
theorem dX1_span_98 : decode cX1_span 98 = .ok (.iload 7, 2) := dk_21 7 (dk_at dksX1_span_4 6 rfl rfl)
theorem dX1_span_100 : decode cX1_span 100 = .ok (.aload 11, 2) := dk_25 11 (dk_at dksX1_span_4 8 rfl rfl)
theorem dX1_span_102 : decode cX1_span 102 = .ok (.getfield 253, 3) := dk_180 0 253 (dk_at dksX1_span_4 10 rfl rfl)
theorem dX1_span_105 : decode cX1_span 105 = .ok (.invokestatic 137, 3) := dk_184 0 137 (dk_at dksX1_span_4 13 rfl rfl)
theorem dX1_span_108 : decode cX1_span 108 = .ok (.istore 7, 2) := dk_54 7 (dk_at dksX1_span_4 16 rfl rfl)
theorem dX1_span_110 : decode cX1_span 110 = .ok (.iload 8, 2) := dk_21 8 (dk_at dksX1_span_4 18 rfl rfl)
theorem dX1_span_112 : decode cX1_span 112 = .ok (.aload 11, 2) := dk_25 11 (dk_at dksX1_span_4 20 rfl rfl)
theorem dX1_span_114 : decode cX1_span 114 = .ok (.getfield 253, 3) := dk_180 0 253 (dk_at dksX1_span_5 0 rfl rfl)
theorem dX1_span_117 : decode cX1_span 117 = .ok (.invokestatic 143, 3) := dk_184 0 143 (dk_at dksX1_span_5 3 rfl rfl)
theorem dX1_span_120 : decode cX1_span 120 = .ok (.istore 8, 2) := dk_54 8 (dk_at dksX1_span_5 6 rfl rfl)
theorem dX1_span_122 : decode cX1_span 122 = .ok (.iload 9, 2) := dk_21 9 (dk_at dksX1_span_5 8 rfl rfl)
theorem dX1_span_124 : decode cX1_span 124 = .ok (.aload 11, 2) := dk_25 11 (dk_at dksX1_span_5 10 rfl rfl)
theorem dX1_span_126 : decode cX1_span 126 = .ok (.getfield 265, 3) := dk_180 1 9 (dk_at dksX1_span_5 12 rfl rfl)
theorem dX1_span_129 : decode cX1_span 129 = .ok (.iload 6, 2) := dk_21 6 (dk_at dksX1_span_5 15 rfl rfl)
theorem dX1_span_131 : decode cX1_span 131 = .ok (.iaload, 1) := dk_46 (dk_at dksX1_span_5 17 rfl rfl)
theorem dX1_span_132 : decode cX1_span 132 = .ok (.ifCond .le 7, 3) := dk_158 0 7 (dk_at dksX1_span_5 18 rfl rfl)
theorem dX1_span_135 : decode cX1_span 135 = .ok (.iconst 1, 1) := dk_4 (dk_at dksX1_span_5 21 rfl rfl)
theorem dX1_span_136 : decode cX1_span 136 = .ok (.goto 4, 3) := dk_167 0 4 (dk_at dksX1_span_6 0 rfl rfl)
theorem dX1_span_139 : decode cX1_span 139 = .ok (.iconst 0, 1) := dk_3 (dk_at dksX1_span_6 3 rfl rfl)
theorem dX1_span_140 : decode cX1_span 140 = .ok (.iadd, 1) := dk_96 (dk_at dksX1_span_6 4 rfl rfl)
theorem dX1_span_141 : decode cX1_span 141 = .ok (.istore 9, 2) := dk_54 9 (dk_at dksX1_span_6 5 rfl rfl)
theorem dX1_span_143 : decode cX1_span 143 = .ok (.iinc 10 1, 3) := dk_132 10 1 (dk_at dksX1_span_6 7 rfl rfl)
theorem dX1_span_146 : decode cX1_span 146 = .ok (.goto (-81), 3) := dk_167 255 175 (dk_at dksX1_span_6 10 rfl rfl)
theorem dX1_span_149 : decode cX1_span 149 = .ok (.iload 5, 2) := dk_21 5 (dk_at dksX1_span_6 13 rfl rfl)
theorem dX1_span_151 : decode cX1_span 151 = .ok (.ifCond .ne 8, 3) := dk_154 0 8 (dk_at dksX1_span_6 15 rfl rfl)
theorem dX1_span_154 : decode cX1_span 154 = .ok (.iload 7, 2) := dk_21 7 (dk_at dksX1_span_6 18 rfl rfl)
theorem dX1_span_156 : decode cX1_span 156 = .ok (.goto 16, 3) := dk_167 0 16 (dk_at dksX1_span_6 20 rfl rfl)
theorem dX1_span_159 : decode cX1_span 159 = .ok (.iload 5, 2) := dk_21 5 (dk_at dksX1_span_7 0 rfl rfl)
theorem dX1_span_161 : decode cX1_span 161 = .ok (.iconst 1, 1) := dk_4 (dk_at dksX1_span_7 2 rfl rfl)
theorem dX1_span_162 : decode cX1_span 162 = .ok (.if_icmp .ne 8, 3) := dk_160 0 8 (dk_at dksX1_span_7 3 rfl rfl)
theorem dX1_span_165 : decode cX1_span 165 = .ok (.iload 8, 2) := dk_21 8 (dk_at dksX1_span_7 6 rfl rfl)
theorem dX1_span_167 : decode cX1_span 167 = .ok (.goto 5, 3) := dk_167 0 5 (dk_at dksX1_span_7 8 rfl rfl)
theorem dX1_span_170 : decode cX1_span 170 = .ok (.iload 9, 2) := dk_21 9 (dk_at dksX1_span_7 11 rfl rfl)
theorem dX1_span_172 : decode cX1_span 172 = .ok (.ireturn, 1) := dk_172 (dk_at dksX1_span_7 13 rfl rfl)
theorem q97 : (Jvm.Cond.initialized "DimpleWells") ∈ lw_all := lw_g (lw_at lw_m1 1 rfl) rfl
theorem q150 : (Jvm.Cond.instantiable "DimpleWells" (23 : Nat)) ∈ lw_all := lw_g (lw_at lw_m1 54 rfl) rfl
theorem q152 : (Jvm.Cond.instanceMethod ({ cls := "DimpleWells", name := "<init>", desc := "()V" } : Jvm.MethodName)) ∈ lw_all := lw_g (lw_at lw_m1 56 rfl) rfl
theorem q153 : (Jvm.Cond.code ({ cls := "DimpleWells", name := "<init>", desc := "()V" } : Jvm.MethodName) prog_1_method_2_code (1 : Nat) (Option.none : Option Jvm.ClassFile.FieldType)) ∈ lw_all := lw_g (lw_at lw_m1 57 rfl) rfl
theorem q154 : (Jvm.Cond.methodLink "DimpleWells" (20 : Nat) ({ cls := "java/lang/Object", name := "<init>", desc := "()V" } : Jvm.MethodName)) ∈ lw_all := lw_g (lw_at lw_m1 58 rfl) rfl
theorem q157 : (Jvm.Cond.classLink "DimpleWells" (25 : Nat) "DimpleWells$Told") ∈ lw_all := lw_g (lw_at lw_m1 61 rfl) rfl
theorem q159 : (Jvm.Cond.methodLinkNest "DimpleWells" (27 : Nat) ({ cls := "DimpleWells$Told", name := "<init>", desc := "()V" } : Jvm.MethodName) "DimpleWells") ∈ lw_tbl := lw_at lw_m1 63 rfl
theorem q508 : (Jvm.Cond.fieldLinkNest "DimpleWells" (110 : Nat) "DimpleWells$Told" "persons" "Ljava/util/ArrayList;" "DimpleWells") ∈ lw_tbl := lw_at lw_m2 172 rfl
theorem q511 : (Jvm.Cond.fieldLinkNest "DimpleWells" (120 : Nat) "DimpleWells$Told" "jokes" "Ljava/util/ArrayList;" "DimpleWells") ∈ lw_tbl := lw_at lw_m2 175 rfl
theorem q516 : (Jvm.Cond.fieldLinkNest "DimpleWells" (293 : Nat) "DimpleWells$Told" "next" "[I" "DimpleWells") ∈ lw_tbl := lw_at lw_m2 180 rfl
theorem q518 : (Jvm.Cond.fieldLinkNest "DimpleWells" (315 : Nat) "DimpleWells$Told" "one" "[I" "DimpleWells") ∈ lw_tbl := lw_at lw_m2 182 rfl
theorem q520 : (Jvm.Cond.fieldLinkNest "DimpleWells" (318 : Nat) "DimpleWells$Told" "other" "[I" "DimpleWells") ∈ lw_tbl := lw_at lw_m2 184 rfl
theorem q523 : (Jvm.Cond.fieldLinkNest "DimpleWells" (247 : Nat) "DimpleWells$Told" "streets" "I" "DimpleWells") ∈ lw_tbl := lw_at lw_m2 187 rfl
theorem q530 : (Jvm.Cond.fieldLinkNest "DimpleWells" (256 : Nat) "DimpleWells$Told" "drink" "I" "DimpleWells") ∈ lw_tbl := lw_at lw_m2 194 rfl
theorem q552 : (Jvm.Cond.methodLink "DimpleWells" (32 : Nat) ({ cls := "DimpleWells", name := "custom", desc := "()LDimpleWells$Term;" } : Jvm.MethodName)) ∈ lw_all := lw_g (lw_at lw_m2 216 rfl) rfl
theorem q553 : (Jvm.Cond.static ({ cls := "DimpleWells", name := "custom", desc := "()LDimpleWells$Term;" } : Jvm.MethodName)) ∈ lw_all := lw_g (lw_at lw_m2 217 rfl) rfl
theorem q554 : (Jvm.Cond.code ({ cls := "DimpleWells", name := "custom", desc := "()LDimpleWells$Term;" } : Jvm.MethodName) prog_1_method_1_code (0 : Nat) (Option.some (Jvm.ClassFile.FieldType.object "DimpleWells$Term"))) ∈ lw_all := lw_g (lw_at lw_m2 218 rfl) rfl
theorem q555 : (Jvm.Cond.classLink "DimpleWells" (1 : Nat) "DimpleWells$Minus") ∈ lw_all := lw_g (lw_at lw_m2 219 rfl) rfl
theorem q557 : (Jvm.Cond.classLink "DimpleWells" (3 : Nat) "DimpleWells$Fact") ∈ lw_all := lw_g (lw_at lw_m2 221 rfl) rfl
theorem q559 : (Jvm.Cond.methodLink "DimpleWells" (7 : Nat) ({ cls := "DimpleWells$Fact", name := "<init>", desc := "(I)V" } : Jvm.MethodName)) ∈ lw_all := lw_g (lw_at lw_m2 223 rfl) rfl
theorem q570 : (Jvm.Cond.classLink "DimpleWells" (11 : Nat) "DimpleWells$Times") ∈ lw_all := lw_g (lw_at lw_m2 234 rfl) rfl
theorem q572 : (Jvm.Cond.classLink "DimpleWells" (13 : Nat) "DimpleWells$Plain") ∈ lw_all := lw_g (lw_at lw_m2 236 rfl) rfl
theorem q574 : (Jvm.Cond.methodLink "DimpleWells" (15 : Nat) ({ cls := "DimpleWells$Plain", name := "<init>", desc := "(I)V" } : Jvm.MethodName)) ∈ lw_all := lw_g (lw_at lw_m2 238 rfl) rfl
theorem q582 : (Jvm.Cond.methodLink "DimpleWells" (16 : Nat) ({ cls := "DimpleWells$Times", name := "<init>", desc := "(LDimpleWells$Term;LDimpleWells$Term;)V" } : Jvm.MethodName)) ∈ lw_all := lw_g (lw_at lw_m3 6 rfl) rfl
theorem q596 : (Jvm.Cond.methodLink "DimpleWells" (19 : Nat) ({ cls := "DimpleWells$Minus", name := "<init>", desc := "(LDimpleWells$Term;LDimpleWells$Term;)V" } : Jvm.MethodName)) ∈ lw_all := lw_g (lw_at lw_m3 20 rfl) rfl
theorem q603 : (Jvm.Cond.classLink "DimpleWells" (50 : Nat) "DimpleWells$Season") ∈ lw_all := lw_g (lw_at lw_m3 27 rfl) rfl
theorem q605 : (Jvm.Cond.methodLinkNest "DimpleWells" (52 : Nat) ({ cls := "DimpleWells$Season", name := "<init>", desc := "(LDimpleWells;)V" } : Jvm.MethodName) "DimpleWells") ∈ lw_tbl := lw_at lw_m3 29 rfl
theorem q610 : (Jvm.Cond.fieldLinkNest "DimpleWells" (259 : Nat) "DimpleWells$Season" "grief" "[I" "DimpleWells") ∈ lw_tbl := lw_at lw_m3 34 rfl
theorem q612 : (Jvm.Cond.fieldLinkNest "DimpleWells" (265 : Nat) "DimpleWells$Season" "thirst" "[I" "DimpleWells") ∈ lw_tbl := lw_at lw_m3 36 rfl
theorem q614 : (Jvm.Cond.fieldLinkNest "DimpleWells" (287 : Nat) "DimpleWells$Season" "heard" "[I" "DimpleWells") ∈ lw_tbl := lw_at lw_m3 38 rfl
theorem q616 : (Jvm.Cond.fieldLinkNest "DimpleWells" (290 : Nat) "DimpleWells$Season" "laughed" "[I" "DimpleWells") ∈ lw_tbl := lw_at lw_m3 40 rfl
theorem q618 : (Jvm.Cond.fieldLinkNest "DimpleWells" (324 : Nat) "DimpleWells$Season" "worn" "[I" "DimpleWells") ∈ lw_tbl := lw_at lw_m3 42 rfl
theorem q620 : (Jvm.Cond.fieldLinkNest "DimpleWells" (268 : Nat) "DimpleWells$Season" "busy" "I" "DimpleWells") ∈ lw_tbl := lw_at lw_m3 44 rfl
theorem q622 : (Jvm.Cond.fieldLinkNest "DimpleWells" (253 : Nat) "DimpleWells$Season" "jug" "I" "DimpleWells") ∈ lw_tbl := lw_at lw_m3 46 rfl
theorem q624 : (Jvm.Cond.fieldLinkNest "DimpleWells" (250 : Nat) "DimpleWells$Season" "day" "I" "DimpleWells") ∈ lw_tbl := lw_at lw_m3 48 rfl
theorem q627 : (Jvm.Cond.fieldLinkNest "DimpleWells" (208 : Nat) "DimpleWells$Season" "steps" "I" "DimpleWells") ∈ lw_tbl := lw_at lw_m3 51 rfl
theorem q629 : (Jvm.Cond.fieldLinkNest "DimpleWells" (211 : Nat) "DimpleWells$Season" "done" "I" "DimpleWells") ∈ lw_tbl := lw_at lw_m3 53 rfl
theorem q631 : (Jvm.Cond.fieldLinkNest "DimpleWells" (214 : Nat) "DimpleWells$Season" "refused" "I" "DimpleWells") ∈ lw_tbl := lw_at lw_m3 55 rfl
theorem q659 : (Jvm.Cond.methodLink "DimpleWells" (92 : Nat) ({ cls := "DimpleWells", name := "begins", desc := "()V" } : Jvm.MethodName)) ∈ lw_all := lw_g (lw_at lw_m3 83 rfl) rfl
theorem q660 : (Jvm.Cond.privateMethod ({ cls := "DimpleWells", name := "begins", desc := "()V" } : Jvm.MethodName)) ∈ lw_tbl := lw_at lw_m3 84 rfl
theorem q661 : (Jvm.Cond.instanceMethod ({ cls := "DimpleWells", name := "begins", desc := "()V" } : Jvm.MethodName)) ∈ lw_all := lw_g (lw_at lw_m3 85 rfl) rfl
theorem q662 : (Jvm.Cond.code ({ cls := "DimpleWells", name := "begins", desc := "()V" } : Jvm.MethodName) prog_1_method_3_code (2 : Nat) (Option.none : Option Jvm.ClassFile.FieldType)) ∈ lw_all := lw_g (lw_at lw_m3 86 rfl) rfl
theorem q663 : (Jvm.Cond.methodLink "DimpleWells" (95 : Nat) ({ cls := "DimpleWells$Season", name := "begins", desc := "()LDimpleWells$Season;" } : Jvm.MethodName)) ∈ lw_all := lw_g (lw_at lw_m3 87 rfl) rfl
theorem q667 : (Jvm.Cond.fieldLink "DimpleWells" (28 : Nat) "DimpleWells" "told" "LDimpleWells$Told;") ∈ lw_all := lw_g (lw_at lw_m3 91 rfl) rfl
theorem q669 : (Jvm.Cond.fieldLink "DimpleWells" (36 : Nat) "DimpleWells" "law" "LDimpleWells$Term;") ∈ lw_all := lw_g (lw_at lw_m3 93 rfl) rfl
theorem q670 : (Jvm.Cond.fieldLink "DimpleWells" (40 : Nat) "DimpleWells" "facts" "[I") ∈ lw_all := lw_g (lw_at lw_m3 94 rfl) rfl
theorem q671 : (Jvm.Cond.fieldLink "DimpleWells" (44 : Nat) "DimpleWells" "bookOf" "[I") ∈ lw_all := lw_g (lw_at lw_m3 95 rfl) rfl
theorem q672 : (Jvm.Cond.fieldLink "DimpleWells" (47 : Nat) "DimpleWells" "refused" "[I") ∈ lw_all := lw_g (lw_at lw_m3 96 rfl) rfl
theorem q673 : (Jvm.Cond.fieldLink "DimpleWells" (55 : Nat) "DimpleWells" "now" "LDimpleWells$Season;") ∈ lw_all := lw_g (lw_at lw_m3 97 rfl) rfl
theorem q674 : (Jvm.Cond.fieldLink "DimpleWells" (59 : Nat) "DimpleWells" "probe" "LDimpleWells$Season;") ∈ lw_all := lw_g (lw_at lw_m3 98 rfl) rfl
theorem q675 : (Jvm.Cond.fieldLink "DimpleWells" (62 : Nat) "DimpleWells" "past" "[LDimpleWells$Season;") ∈ lw_all := lw_g (lw_at lw_m3 99 rfl) rfl
theorem q676 : (Jvm.Cond.fieldLink "DimpleWells" (66 : Nat) "DimpleWells" "images" "[LDimpleWells$Season;") ∈ lw_all := lw_g (lw_at lw_m3 100 rfl) rfl
theorem q677 : (Jvm.Cond.fieldLink "DimpleWells" (69 : Nat) "DimpleWells" "imagePast" "[LDimpleWells$Season;") ∈ lw_all := lw_g (lw_at lw_m3 101 rfl) rfl
theorem q678 : (Jvm.Cond.fieldLink "DimpleWells" (72 : Nat) "DimpleWells" "imageWorks" "[I") ∈ lw_all := lw_g (lw_at lw_m3 102 rfl) rfl
theorem q679 : (Jvm.Cond.fieldLink "DimpleWells" (98 : Nat) "DimpleWells" "works" "I") ∈ lw_all := lw_g (lw_at lw_m3 103 rfl) rfl
theorem q680 : (Jvm.Cond.fieldLink "DimpleWells" (101 : Nat) "DimpleWells" "refusedSteps" "I") ∈ lw_all := lw_g (lw_at lw_m3 104 rfl) rfl
theorem q681 : (Jvm.Cond.fieldLink "DimpleWells" (104 : Nat) "DimpleWells" "lineMany" "I") ∈ lw_all := lw_g (lw_at lw_m3 105 rfl) rfl
theorem q682 : (Jvm.Cond.fieldLink "DimpleWells" (405 : Nat) "DimpleWells" "seedNow" "I") ∈ lw_all := lw_g (lw_at lw_m3 106 rfl) rfl
theorem q683 : (Jvm.Cond.fieldLink "DimpleWells" (160 : Nat) "DimpleWells" "taped" "I") ∈ lw_all := lw_g (lw_at lw_m3 107 rfl) rfl
theorem q684 : (Jvm.Cond.fieldLink "DimpleWells" (75 : Nat) "DimpleWells" "faultAt" "I") ∈ lw_all := lw_g (lw_at lw_m3 108 rfl) rfl
theorem q685 : (Jvm.Cond.fieldLink "DimpleWells" (107 : Nat) "DimpleWells" "imageMany" "I") ∈ lw_all := lw_g (lw_at lw_m3 109 rfl) rfl
theorem q686 : (Jvm.Cond.fieldLink "DimpleWells" (79 : Nat) "DimpleWells" "tape" "[B") ∈ lw_all := lw_g (lw_at lw_m3 110 rfl) rfl
theorem q687 : (Jvm.Cond.fieldLink "DimpleWells" (83 : Nat) "DimpleWells" "where" "[I") ∈ lw_all := lw_g (lw_at lw_m3 111 rfl) rfl
theorem q688 : (Jvm.Cond.fieldLink "DimpleWells" (86 : Nat) "DimpleWells" "bestWhere" "[I") ∈ lw_all := lw_g (lw_at lw_m3 112 rfl) rfl
theorem q689 : (Jvm.Cond.fieldLink "DimpleWells" (340 : Nat) "DimpleWells" "mostWater" "I") ∈ lw_all := lw_g (lw_at lw_m3 113 rfl) rfl
theorem q690 : (Jvm.Cond.fieldLink "DimpleWells" (89 : Nat) "DimpleWells" "leftBy" "[I") ∈ lw_all := lw_g (lw_at lw_m3 114 rfl) rfl
theorem q691 : (Jvm.Cond.lays "DimpleWells" "DimpleWells" "told" "LDimpleWells$Told;") ∈ lw_all := lw_g (lw_at lw_m3 115 rfl) rfl
theorem q692 : (Jvm.Cond.soleField "DimpleWells" "told") ∈ lw_all := lw_g (lw_at lw_m3 116 rfl) rfl
theorem q693 : (Jvm.Cond.lays "DimpleWells" "DimpleWells" "law" "LDimpleWells$Term;") ∈ lw_all := lw_g (lw_at lw_m3 117 rfl) rfl
theorem q694 : (Jvm.Cond.soleField "DimpleWells" "law") ∈ lw_all := lw_g (lw_at lw_m3 118 rfl) rfl
theorem q695 : (Jvm.Cond.laysFinal "DimpleWells" "DimpleWells" "facts" "[I") ∈ lw_all := lw_g (lw_at lw_m3 119 rfl) rfl
theorem q696 : (Jvm.Cond.soleField "DimpleWells" "facts") ∈ lw_all := lw_g (lw_at lw_m3 120 rfl) rfl
theorem q697 : (Jvm.Cond.laysFinal "DimpleWells" "DimpleWells" "bookOf" "[I") ∈ lw_all := lw_g (lw_at lw_m3 121 rfl) rfl
theorem q698 : (Jvm.Cond.soleField "DimpleWells" "bookOf") ∈ lw_all := lw_g (lw_at lw_m3 122 rfl) rfl
theorem q699 : (Jvm.Cond.laysFinal "DimpleWells" "DimpleWells" "refused" "[I") ∈ lw_all := lw_g (lw_at lw_m3 123 rfl) rfl
theorem q700 : (Jvm.Cond.soleField "DimpleWells" "refused") ∈ lw_all := lw_g (lw_at lw_m3 124 rfl) rfl
theorem q701 : (Jvm.Cond.laysFinal "DimpleWells" "DimpleWells" "now" "LDimpleWells$Season;") ∈ lw_all := lw_g (lw_at lw_m3 125 rfl) rfl
theorem q702 : (Jvm.Cond.soleField "DimpleWells" "now") ∈ lw_all := lw_g (lw_at lw_m3 126 rfl) rfl
theorem q703 : (Jvm.Cond.laysFinal "DimpleWells" "DimpleWells" "probe" "LDimpleWells$Season;") ∈ lw_all := lw_g (lw_at lw_m3 127 rfl) rfl
theorem q704 : (Jvm.Cond.soleField "DimpleWells" "probe") ∈ lw_all := lw_g (lw_at lw_m3 128 rfl) rfl
theorem q705 : (Jvm.Cond.laysFinal "DimpleWells" "DimpleWells" "past" "[LDimpleWells$Season;") ∈ lw_all := lw_g (lw_at lw_m3 129 rfl) rfl
theorem q706 : (Jvm.Cond.soleField "DimpleWells" "past") ∈ lw_all := lw_g (lw_at lw_m3 130 rfl) rfl
theorem q707 : (Jvm.Cond.laysFinal "DimpleWells" "DimpleWells" "images" "[LDimpleWells$Season;") ∈ lw_all := lw_g (lw_at lw_m3 131 rfl) rfl
theorem q708 : (Jvm.Cond.soleField "DimpleWells" "images") ∈ lw_all := lw_g (lw_at lw_m3 132 rfl) rfl
theorem q709 : (Jvm.Cond.laysFinal "DimpleWells" "DimpleWells" "imagePast" "[LDimpleWells$Season;") ∈ lw_all := lw_g (lw_at lw_m3 133 rfl) rfl
theorem q710 : (Jvm.Cond.soleField "DimpleWells" "imagePast") ∈ lw_all := lw_g (lw_at lw_m3 134 rfl) rfl
theorem q711 : (Jvm.Cond.laysFinal "DimpleWells" "DimpleWells" "imageWorks" "[I") ∈ lw_all := lw_g (lw_at lw_m3 135 rfl) rfl
theorem q712 : (Jvm.Cond.soleField "DimpleWells" "imageWorks") ∈ lw_all := lw_g (lw_at lw_m3 136 rfl) rfl
theorem q713 : (Jvm.Cond.lays "DimpleWells" "DimpleWells" "works" "I") ∈ lw_all := lw_g (lw_at lw_m3 137 rfl) rfl
theorem q714 : (Jvm.Cond.soleField "DimpleWells" "works") ∈ lw_all := lw_g (lw_at lw_m3 138 rfl) rfl
theorem q715 : (Jvm.Cond.lays "DimpleWells" "DimpleWells" "refusedSteps" "I") ∈ lw_all := lw_g (lw_at lw_m3 139 rfl) rfl
theorem q716 : (Jvm.Cond.soleField "DimpleWells" "refusedSteps") ∈ lw_all := lw_g (lw_at lw_m3 140 rfl) rfl
theorem q717 : (Jvm.Cond.lays "DimpleWells" "DimpleWells" "lineMany" "I") ∈ lw_all := lw_g (lw_at lw_m3 141 rfl) rfl
theorem q718 : (Jvm.Cond.soleField "DimpleWells" "lineMany") ∈ lw_all := lw_g (lw_at lw_m3 142 rfl) rfl
theorem q719 : (Jvm.Cond.lays "DimpleWells" "DimpleWells" "seedNow" "I") ∈ lw_all := lw_g (lw_at lw_m3 143 rfl) rfl
theorem q720 : (Jvm.Cond.soleField "DimpleWells" "seedNow") ∈ lw_all := lw_g (lw_at lw_m3 144 rfl) rfl
theorem q721 : (Jvm.Cond.lays "DimpleWells" "DimpleWells" "taped" "I") ∈ lw_all := lw_g (lw_at lw_m3 145 rfl) rfl
theorem q722 : (Jvm.Cond.soleField "DimpleWells" "taped") ∈ lw_all := lw_g (lw_at lw_m3 146 rfl) rfl
theorem q723 : (Jvm.Cond.lays "DimpleWells" "DimpleWells" "faultAt" "I") ∈ lw_all := lw_g (lw_at lw_m3 147 rfl) rfl
theorem q724 : (Jvm.Cond.soleField "DimpleWells" "faultAt") ∈ lw_all := lw_g (lw_at lw_m3 148 rfl) rfl
theorem q725 : (Jvm.Cond.lays "DimpleWells" "DimpleWells" "imageMany" "I") ∈ lw_all := lw_g (lw_at lw_m3 149 rfl) rfl
theorem q726 : (Jvm.Cond.soleField "DimpleWells" "imageMany") ∈ lw_all := lw_g (lw_at lw_m3 150 rfl) rfl
theorem q727 : (Jvm.Cond.laysFinal "DimpleWells" "DimpleWells" "tape" "[B") ∈ lw_all := lw_g (lw_at lw_m3 151 rfl) rfl
theorem q728 : (Jvm.Cond.soleField "DimpleWells" "tape") ∈ lw_all := lw_g (lw_at lw_m3 152 rfl) rfl
theorem q729 : (Jvm.Cond.laysFinal "DimpleWells" "DimpleWells" "where" "[I") ∈ lw_all := lw_g (lw_at lw_m3 153 rfl) rfl
theorem q730 : (Jvm.Cond.soleField "DimpleWells" "where") ∈ lw_all := lw_g (lw_at lw_m3 154 rfl) rfl
theorem q731 : (Jvm.Cond.laysFinal "DimpleWells" "DimpleWells" "bestWhere" "[I") ∈ lw_all := lw_g (lw_at lw_m3 155 rfl) rfl
theorem q732 : (Jvm.Cond.soleField "DimpleWells" "bestWhere") ∈ lw_all := lw_g (lw_at lw_m3 156 rfl) rfl
theorem q733 : (Jvm.Cond.lays "DimpleWells" "DimpleWells" "mostWater" "I") ∈ lw_all := lw_g (lw_at lw_m3 157 rfl) rfl
theorem q734 : (Jvm.Cond.soleField "DimpleWells" "mostWater") ∈ lw_all := lw_g (lw_at lw_m3 158 rfl) rfl
theorem q735 : (Jvm.Cond.laysFinal "DimpleWells" "DimpleWells" "leftBy" "[I") ∈ lw_all := lw_g (lw_at lw_m3 159 rfl) rfl
theorem q736 : (Jvm.Cond.soleField "DimpleWells" "leftBy") ∈ lw_all := lw_g (lw_at lw_m3 160 rfl) rfl
theorem q737 : (Jvm.Cond.superclass "DimpleWells" "java/lang/Object") ∈ lw_all := lw_g (lw_at lw_m3 161 rfl) rfl
theorem q739 : (Jvm.Cond.instanceMethod ({ cls := "DimpleWells", name := "feed", desc := "(IIIII)I" } : Jvm.MethodName)) ∈ lw_all := lw_g (lw_at lw_m3 163 rfl) rfl
theorem q740 : (Jvm.Cond.selects "DimpleWells" ({ cls := "DimpleWells", name := "feed", desc := "(IIIII)I" } : Jvm.MethodName) ({ cls := "DimpleWells", name := "feed", desc := "(IIIII)I" } : Jvm.MethodName)) ∈ lw_all := lw_g (lw_at lw_m3 164 rfl) rfl
theorem q741 : (Jvm.Cond.code ({ cls := "DimpleWells", name := "feed", desc := "(IIIII)I" } : Jvm.MethodName) prog_1_method_16_code (6 : Nat) (Option.some Jvm.ClassFile.FieldType.int)) ∈ lw_all := lw_g (lw_at lw_m3 165 rfl) rfl
theorem q742 : (Jvm.Cond.methodLink "DimpleWells" (163 : Nat) ({ cls := "DimpleWells", name := "put", desc := "(I)V" } : Jvm.MethodName)) ∈ lw_all := lw_g (lw_at lw_m3 166 rfl) rfl
theorem q743 : (Jvm.Cond.privateMethod ({ cls := "DimpleWells", name := "put", desc := "(I)V" } : Jvm.MethodName)) ∈ lw_tbl := lw_at lw_m3 167 rfl
theorem q744 : (Jvm.Cond.instanceMethod ({ cls := "DimpleWells", name := "put", desc := "(I)V" } : Jvm.MethodName)) ∈ lw_all := lw_g (lw_at lw_m3 168 rfl) rfl
theorem q745 : (Jvm.Cond.code ({ cls := "DimpleWells", name := "put", desc := "(I)V" } : Jvm.MethodName) prog_1_method_17_code (3 : Nat) (Option.none : Option Jvm.ClassFile.FieldType)) ∈ lw_all := lw_g (lw_at lw_m3 169 rfl) rfl
theorem q747 : (Jvm.Cond.instanceMethod ({ cls := "DimpleWells", name := "fault", desc := "()I" } : Jvm.MethodName)) ∈ lw_all := lw_g (lw_at lw_m3 171 rfl) rfl
theorem q748 : (Jvm.Cond.selects "DimpleWells" ({ cls := "DimpleWells", name := "fault", desc := "()I" } : Jvm.MethodName) ({ cls := "DimpleWells", name := "fault", desc := "()I" } : Jvm.MethodName)) ∈ lw_all := lw_g (lw_at lw_m3 172 rfl) rfl
theorem q749 : (Jvm.Cond.code ({ cls := "DimpleWells", name := "fault", desc := "()I" } : Jvm.MethodName) prog_1_method_23_code (1 : Nat) (Option.some Jvm.ClassFile.FieldType.int)) ∈ lw_all := lw_g (lw_at lw_m3 173 rfl) rfl
theorem q751 : (Jvm.Cond.instanceMethod ({ cls := "DimpleWells", name := "undo", desc := "()I" } : Jvm.MethodName)) ∈ lw_all := lw_g (lw_at lw_m3 175 rfl) rfl
theorem q752 : (Jvm.Cond.selects "DimpleWells" ({ cls := "DimpleWells", name := "undo", desc := "()I" } : Jvm.MethodName) ({ cls := "DimpleWells", name := "undo", desc := "()I" } : Jvm.MethodName)) ∈ lw_all := lw_g (lw_at lw_m3 176 rfl) rfl
theorem q753 : (Jvm.Cond.code ({ cls := "DimpleWells", name := "undo", desc := "()I" } : Jvm.MethodName) prog_1_method_24_code (1 : Nat) (Option.some Jvm.ClassFile.FieldType.int)) ∈ lw_all := lw_g (lw_at lw_m3 177 rfl) rfl
theorem q754 : (Jvm.Cond.methodLink "DimpleWells" (239 : Nat) ({ cls := "DimpleWells$Season", name := "becomes", desc := "(LDimpleWells$Season;)LDimpleWells$Season;" } : Jvm.MethodName)) ∈ lw_all := lw_g (lw_at lw_m3 178 rfl) rfl
theorem q760 : (Jvm.Cond.instanceMethod ({ cls := "DimpleWells", name := "dry", desc := "()I" } : Jvm.MethodName)) ∈ lw_all := lw_g (lw_at lw_m3 184 rfl) rfl
theorem q761 : (Jvm.Cond.selects "DimpleWells" ({ cls := "DimpleWells", name := "dry", desc := "()I" } : Jvm.MethodName) ({ cls := "DimpleWells", name := "dry", desc := "()I" } : Jvm.MethodName)) ∈ lw_all := lw_g (lw_at lw_m3 185 rfl) rfl
theorem q762 : (Jvm.Cond.code ({ cls := "DimpleWells", name := "dry", desc := "()I" } : Jvm.MethodName) prog_1_method_39_code (3 : Nat) (Option.some Jvm.ClassFile.FieldType.int)) ∈ lw_all := lw_g (lw_at lw_m3 186 rfl) rfl
theorem q763 : (Jvm.Cond.methodLink "DimpleWells" (271 : Nat) ({ cls := "DimpleWells$Season", name := "sum", desc := "([I)I" } : Jvm.MethodName)) ∈ lw_all := lw_g (lw_at lw_m3 187 rfl) rfl
theorem q768 : (Jvm.Cond.privateMethod ({ cls := "DimpleWells", name := "persons", desc := "()I" } : Jvm.MethodName)) ∈ lw_tbl := lw_at lw_m3 192 rfl
theorem q769 : (Jvm.Cond.instanceMethod ({ cls := "DimpleWells", name := "persons", desc := "()I" } : Jvm.MethodName)) ∈ lw_all := lw_g (lw_at lw_m3 193 rfl) rfl
theorem q770 : (Jvm.Cond.code ({ cls := "DimpleWells", name := "persons", desc := "()I" } : Jvm.MethodName) prog_1_method_4_code (1 : Nat) (Option.some Jvm.ClassFile.FieldType.int)) ∈ lw_all := lw_g (lw_at lw_m3 194 rfl) rfl
theorem q771 : (Jvm.Cond.methodLink "DimpleWells" (114 : Nat) ({ cls := "java/util/ArrayList", name := "size", desc := "()I" } : Jvm.MethodName)) ∈ lw_all := lw_g (lw_at lw_m3 195 rfl) rfl
theorem q775 : (Jvm.Cond.methodLink "DimpleWells" (337 : Nat) ({ cls := "DimpleWells$Season", name := "passes", desc := "()V" } : Jvm.MethodName)) ∈ lw_all := lw_g (lw_at lw_m3 199 rfl) rfl
theorem q782 : (Jvm.Cond.instanceMethod ({ cls := "DimpleWells", name := "best", desc := "()I" } : Jvm.MethodName)) ∈ lw_all := lw_g (lw_at lw_m3 206 rfl) rfl
theorem q783 : (Jvm.Cond.selects "DimpleWells" ({ cls := "DimpleWells", name := "best", desc := "()I" } : Jvm.MethodName) ({ cls := "DimpleWells", name := "best", desc := "()I" } : Jvm.MethodName)) ∈ lw_all := lw_g (lw_at lw_m3 207 rfl) rfl
theorem q784 : (Jvm.Cond.code ({ cls := "DimpleWells", name := "best", desc := "()I" } : Jvm.MethodName) prog_1_method_43_code (1 : Nat) (Option.some Jvm.ClassFile.FieldType.int)) ∈ lw_all := lw_g (lw_at lw_m3 208 rfl) rfl
theorem q785 : (Jvm.Cond.methodLink "DimpleWells" (354 : Nat) ({ cls := "DimpleWells", name := "findBest", desc := "()V" } : Jvm.MethodName)) ∈ lw_all := lw_g (lw_at lw_m3 209 rfl) rfl
theorem q786 : (Jvm.Cond.privateMethod ({ cls := "DimpleWells", name := "findBest", desc := "()V" } : Jvm.MethodName)) ∈ lw_tbl := lw_at lw_m3 210 rfl
theorem q787 : (Jvm.Cond.instanceMethod ({ cls := "DimpleWells", name := "findBest", desc := "()V" } : Jvm.MethodName)) ∈ lw_all := lw_g (lw_at lw_m3 211 rfl) rfl
theorem q788 : (Jvm.Cond.code ({ cls := "DimpleWells", name := "findBest", desc := "()V" } : Jvm.MethodName) prog_1_method_42_code (1 : Nat) (Option.none : Option Jvm.ClassFile.FieldType)) ∈ lw_all := lw_g (lw_at lw_m3 212 rfl) rfl
theorem q789 : (Jvm.Cond.methodLink "DimpleWells" (351 : Nat) ({ cls := "DimpleWells", name := "all", desc := "()I" } : Jvm.MethodName)) ∈ lw_all := lw_g (lw_at lw_m3 213 rfl) rfl
theorem q790 : (Jvm.Cond.privateMethod ({ cls := "DimpleWells", name := "all", desc := "()I" } : Jvm.MethodName)) ∈ lw_tbl := lw_at lw_m3 214 rfl
theorem q791 : (Jvm.Cond.instanceMethod ({ cls := "DimpleWells", name := "all", desc := "()I" } : Jvm.MethodName)) ∈ lw_all := lw_g (lw_at lw_m3 215 rfl) rfl
theorem q792 : (Jvm.Cond.code ({ cls := "DimpleWells", name := "all", desc := "()I" } : Jvm.MethodName) prog_1_method_41_code (1 : Nat) (Option.some Jvm.ClassFile.FieldType.int)) ∈ lw_all := lw_g (lw_at lw_m3 216 rfl) rfl
theorem q793 : (Jvm.Cond.methodLink "DimpleWells" (152 : Nat) ({ cls := "DimpleWells", name := "persons", desc := "()I" } : Jvm.MethodName)) ∈ lw_all := lw_g (lw_at lw_m3 217 rfl) rfl
theorem q794 : (Jvm.Cond.methodLink "DimpleWells" (347 : Nat) ({ cls := "DimpleWells", name := "givesOn", desc := "(III)V" } : Jvm.MethodName)) ∈ lw_all := lw_g (lw_at lw_m3 218 rfl) rfl
theorem q795 : (Jvm.Cond.privateMethod ({ cls := "DimpleWells", name := "givesOn", desc := "(III)V" } : Jvm.MethodName)) ∈ lw_tbl := lw_at lw_m3 219 rfl
theorem q796 : (Jvm.Cond.instanceMethod ({ cls := "DimpleWells", name := "givesOn", desc := "(III)V" } : Jvm.MethodName)) ∈ lw_all := lw_g (lw_at lw_m3 220 rfl) rfl
theorem q797 : (Jvm.Cond.code ({ cls := "DimpleWells", name := "givesOn", desc := "(III)V" } : Jvm.MethodName) prog_1_method_40_code (5 : Nat) (Option.none : Option Jvm.ClassFile.FieldType)) ∈ lw_all := lw_g (lw_at lw_m3 221 rfl) rfl
theorem q798 : (Jvm.Cond.methodLink "DimpleWells" (158 : Nat) ({ cls := "DimpleWells", name := "jokes", desc := "()I" } : Jvm.MethodName)) ∈ lw_all := lw_g (lw_at lw_m3 222 rfl) rfl
theorem q799 : (Jvm.Cond.privateMethod ({ cls := "DimpleWells", name := "jokes", desc := "()I" } : Jvm.MethodName)) ∈ lw_tbl := lw_at lw_m3 223 rfl
theorem q800 : (Jvm.Cond.instanceMethod ({ cls := "DimpleWells", name := "jokes", desc := "()I" } : Jvm.MethodName)) ∈ lw_all := lw_g (lw_at lw_m3 224 rfl) rfl
theorem q801 : (Jvm.Cond.code ({ cls := "DimpleWells", name := "jokes", desc := "()I" } : Jvm.MethodName) prog_1_method_5_code (1 : Nat) (Option.some Jvm.ClassFile.FieldType.int)) ∈ lw_all := lw_g (lw_at lw_m3 225 rfl) rfl
theorem q802 : (Jvm.Cond.methodLink "DimpleWells" (230 : Nat) ({ cls := "java/lang/System", name := "arraycopy", desc := "(Ljava/lang/Object;ILjava/lang/Object;II)V" } : Jvm.MethodName)) ∈ lw_all := lw_g (lw_at lw_m3 226 rfl) rfl
theorem q803 : (Jvm.Cond.methodLink "DimpleWells" (343 : Nat) ({ cls := "DimpleWells", name := "has", desc := "(II)Z" } : Jvm.MethodName)) ∈ lw_all := lw_g (lw_at lw_m3 227 rfl) rfl
theorem q804 : (Jvm.Cond.static ({ cls := "DimpleWells", name := "has", desc := "(II)Z" } : Jvm.MethodName)) ∈ lw_all := lw_g (lw_at lw_m3 228 rfl) rfl
theorem q805 : (Jvm.Cond.code ({ cls := "DimpleWells", name := "has", desc := "(II)Z" } : Jvm.MethodName) prog_1_method_15_code (2 : Nat) (Option.some Jvm.ClassFile.FieldType.boolean)) ∈ lw_all := lw_g (lw_at lw_m3 229 rfl) rfl
theorem q806 : (Jvm.Cond.methodLink "DimpleWells" (330 : Nat) ({ cls := "DimpleWells$Season", name := "water", desc := "(II)I" } : Jvm.MethodName)) ∈ lw_all := lw_g (lw_at lw_m3 230 rfl) rfl
theorem q815 : (Jvm.Cond.privateMethod ({ cls := "DimpleWells", name := "personOf", desc := "(I)LDimpleWells$Person;" } : Jvm.MethodName)) ∈ lw_tbl := lw_at lw_m3 239 rfl
theorem q816 : (Jvm.Cond.instanceMethod ({ cls := "DimpleWells", name := "personOf", desc := "(I)LDimpleWells$Person;" } : Jvm.MethodName)) ∈ lw_all := lw_g (lw_at lw_m4 0 rfl) rfl
theorem q817 : (Jvm.Cond.code ({ cls := "DimpleWells", name := "personOf", desc := "(I)LDimpleWells$Person;" } : Jvm.MethodName) prog_1_method_6_code (2 : Nat) (Option.some (Jvm.ClassFile.FieldType.object "DimpleWells$Person"))) ∈ lw_all := lw_g (lw_at lw_m4 1 rfl) rfl
theorem q818 : (Jvm.Cond.methodLink "DimpleWells" (123 : Nat) ({ cls := "java/util/ArrayList", name := "get", desc := "(I)Ljava/lang/Object;" } : Jvm.MethodName)) ∈ lw_all := lw_g (lw_at lw_m4 2 rfl) rfl
theorem q832 : (Jvm.Cond.classLink "DimpleWells" (127 : Nat) "DimpleWells$Person") ∈ lw_all := lw_g (lw_at lw_m4 16 rfl) rfl
theorem q848 : (Jvm.Cond.privateMethod ({ cls := "DimpleWells", name := "jokeOf", desc := "(I)LDimpleWells$Joke;" } : Jvm.MethodName)) ∈ lw_tbl := lw_at lw_m4 32 rfl
theorem q849 : (Jvm.Cond.instanceMethod ({ cls := "DimpleWells", name := "jokeOf", desc := "(I)LDimpleWells$Joke;" } : Jvm.MethodName)) ∈ lw_all := lw_g (lw_at lw_m4 33 rfl) rfl
theorem q850 : (Jvm.Cond.code ({ cls := "DimpleWells", name := "jokeOf", desc := "(I)LDimpleWells$Joke;" } : Jvm.MethodName) prog_1_method_7_code (2 : Nat) (Option.some (Jvm.ClassFile.FieldType.object "DimpleWells$Joke"))) ∈ lw_all := lw_g (lw_at lw_m4 34 rfl) rfl
theorem q851 : (Jvm.Cond.classLink "DimpleWells" (129 : Nat) "DimpleWells$Joke") ∈ lw_all := lw_g (lw_at lw_m4 35 rfl) rfl
theorem q864 : (Jvm.Cond.privateMethod ({ cls := "DimpleWells", name := "laughOf", desc := "(IIIIIIIIII)I" } : Jvm.MethodName)) ∈ lw_tbl := lw_at lw_m4 48 rfl
theorem q865 : (Jvm.Cond.instanceMethod ({ cls := "DimpleWells", name := "laughOf", desc := "(IIIIIIIIII)I" } : Jvm.MethodName)) ∈ lw_all := lw_g (lw_at lw_m4 49 rfl) rfl
theorem q866 : (Jvm.Cond.code ({ cls := "DimpleWells", name := "laughOf", desc := "(IIIIIIIIII)I" } : Jvm.MethodName) prog_1_method_8_code (11 : Nat) (Option.some Jvm.ClassFile.FieldType.int)) ∈ lw_all := lw_g (lw_at lw_m4 50 rfl) rfl
theorem q867 : (Jvm.Cond.methodLink "DimpleWells" (131 : Nat) ({ cls := "DimpleWells$Term", name := "of", desc := "([I)I" } : Jvm.MethodName)) ∈ lw_all := lw_g (lw_at lw_m4 51 rfl) rfl
theorem q912 : (Jvm.Cond.methodLink "DimpleWells" (137 : Nat) ({ cls := "java/lang/Math", name := "min", desc := "(II)I" } : Jvm.MethodName)) ∈ lw_all := lw_g (lw_at lw_m4 96 rfl) rfl
theorem q913 : (Jvm.Cond.methodLink "DimpleWells" (143 : Nat) ({ cls := "java/lang/Math", name := "max", desc := "(II)I" } : Jvm.MethodName)) ∈ lw_all := lw_g (lw_at lw_m4 97 rfl) rfl
theorem q915 : (Jvm.Cond.instanceMethod ({ cls := "DimpleWells", name := "comfort", desc := "()I" } : Jvm.MethodName)) ∈ lw_all := lw_g (lw_at lw_m4 99 rfl) rfl
theorem q916 : (Jvm.Cond.selects "DimpleWells" ({ cls := "DimpleWells", name := "comfort", desc := "()I" } : Jvm.MethodName) ({ cls := "DimpleWells", name := "comfort", desc := "()I" } : Jvm.MethodName)) ∈ lw_all := lw_g (lw_at lw_m4 100 rfl) rfl
theorem q917 : (Jvm.Cond.code ({ cls := "DimpleWells", name := "comfort", desc := "()I" } : Jvm.MethodName) prog_1_method_55_code (4 : Nat) (Option.some Jvm.ClassFile.FieldType.int)) ∈ lw_all := lw_g (lw_at lw_m4 101 rfl) rfl
theorem q918 : (Jvm.Cond.methodLink "DimpleWells" (262 : Nat) ({ cls := "DimpleWells$Season", name := "some", desc := "([I)I" } : Jvm.MethodName)) ∈ lw_all := lw_g (lw_at lw_m4 102 rfl) rfl
theorem q919 : (Jvm.Cond.methodLink "DimpleWells" (381 : Nat) ({ cls := "DimpleWells$Told", name := "round", desc := "(I)I" } : Jvm.MethodName)) ∈ lw_all := lw_g (lw_at lw_m4 103 rfl) rfl
theorem q925 : (Jvm.Cond.methodLink "DimpleWells" (360 : Nat) ({ cls := "java/lang/Integer", name := "bitCount", desc := "(I)I" } : Jvm.MethodName)) ∈ lw_all := lw_g (lw_at lw_m4 109 rfl) rfl
theorem q927 : (Jvm.Cond.instanceMethod ({ cls := "DimpleWells", name := "parts", desc := "()I" } : Jvm.MethodName)) ∈ lw_all := lw_g (lw_at lw_m4 111 rfl) rfl
theorem q928 : (Jvm.Cond.selects "DimpleWells" ({ cls := "DimpleWells", name := "parts", desc := "()I" } : Jvm.MethodName) ({ cls := "DimpleWells", name := "parts", desc := "()I" } : Jvm.MethodName)) ∈ lw_all := lw_g (lw_at lw_m4 112 rfl) rfl
theorem q929 : (Jvm.Cond.code ({ cls := "DimpleWells", name := "parts", desc := "()I" } : Jvm.MethodName) prog_1_method_57_code (5 : Nat) (Option.some Jvm.ClassFile.FieldType.int)) ∈ lw_all := lw_g (lw_at lw_m4 113 rfl) rfl
theorem q931 : (Jvm.Cond.instanceMethod ({ cls := "DimpleWells", name := "image", desc := "()I" } : Jvm.MethodName)) ∈ lw_all := lw_g (lw_at lw_m4 115 rfl) rfl
theorem q932 : (Jvm.Cond.selects "DimpleWells" ({ cls := "DimpleWells", name := "image", desc := "()I" } : Jvm.MethodName) ({ cls := "DimpleWells", name := "image", desc := "()I" } : Jvm.MethodName)) ∈ lw_all := lw_g (lw_at lw_m4 116 rfl) rfl
theorem q933 : (Jvm.Cond.code ({ cls := "DimpleWells", name := "image", desc := "()I" } : Jvm.MethodName) prog_1_method_72_code (2 : Nat) (Option.some Jvm.ClassFile.FieldType.int)) ∈ lw_all := lw_g (lw_at lw_m4 117 rfl) rfl
theorem q934 : (Jvm.Cond.methodLink "DimpleWells" (204 : Nat) ({ cls := "DimpleWells", name := "kept", desc := "([LDimpleWells$Season;ILDimpleWells$Season;)V" } : Jvm.MethodName)) ∈ lw_all := lw_g (lw_at lw_m4 118 rfl) rfl
theorem q935 : (Jvm.Cond.privateMethod ({ cls := "DimpleWells", name := "kept", desc := "([LDimpleWells$Season;ILDimpleWells$Season;)V" } : Jvm.MethodName)) ∈ lw_tbl := lw_at lw_m4 119 rfl
theorem q936 : (Jvm.Cond.instanceMethod ({ cls := "DimpleWells", name := "kept", desc := "([LDimpleWells$Season;ILDimpleWells$Season;)V" } : Jvm.MethodName)) ∈ lw_all := lw_g (lw_at lw_m4 120 rfl) rfl
theorem q937 : (Jvm.Cond.code ({ cls := "DimpleWells", name := "kept", desc := "([LDimpleWells$Season;ILDimpleWells$Season;)V" } : Jvm.MethodName) prog_1_method_71_code (4 : Nat) (Option.none : Option Jvm.ClassFile.FieldType)) ∈ lw_all := lw_g (lw_at lw_m4 121 rfl) rfl
theorem q939 : (Jvm.Cond.instanceMethod ({ cls := "DimpleWells", name := "restore", desc := "()I" } : Jvm.MethodName)) ∈ lw_all := lw_g (lw_at lw_m4 123 rfl) rfl
theorem q940 : (Jvm.Cond.selects "DimpleWells" ({ cls := "DimpleWells", name := "restore", desc := "()I" } : Jvm.MethodName) ({ cls := "DimpleWells", name := "restore", desc := "()I" } : Jvm.MethodName)) ∈ lw_all := lw_g (lw_at lw_m4 124 rfl) rfl
theorem q941 : (Jvm.Cond.code ({ cls := "DimpleWells", name := "restore", desc := "()I" } : Jvm.MethodName) prog_1_method_73_code (2 : Nat) (Option.some Jvm.ClassFile.FieldType.int)) ∈ lw_all := lw_g (lw_at lw_m4 125 rfl) rfl
theorem q943 : (Jvm.Cond.instanceMethod ({ cls := "DimpleWells", name := "status", desc := "(I)I" } : Jvm.MethodName)) ∈ lw_all := lw_g (lw_at lw_m4 127 rfl) rfl
theorem q944 : (Jvm.Cond.selects "DimpleWells" ({ cls := "DimpleWells", name := "status", desc := "(I)I" } : Jvm.MethodName) ({ cls := "DimpleWells", name := "status", desc := "(I)I" } : Jvm.MethodName)) ∈ lw_all := lw_g (lw_at lw_m4 128 rfl) rfl
theorem q945 : (Jvm.Cond.code ({ cls := "DimpleWells", name := "status", desc := "(I)I" } : Jvm.MethodName) prog_1_method_74_code (2 : Nat) (Option.some Jvm.ClassFile.FieldType.int)) ∈ lw_all := lw_g (lw_at lw_m4 129 rfl) rfl
theorem q946 : (Jvm.Cond.methodLink "DimpleWells" (311 : Nat) ({ cls := "DimpleWells", name := "isPart", desc := "(I)Z" } : Jvm.MethodName)) ∈ lw_all := lw_g (lw_at lw_m4 130 rfl) rfl
theorem q947 : (Jvm.Cond.static ({ cls := "DimpleWells", name := "isPart", desc := "(I)Z" } : Jvm.MethodName)) ∈ lw_all := lw_g (lw_at lw_m4 131 rfl) rfl
theorem q948 : (Jvm.Cond.code ({ cls := "DimpleWells", name := "isPart", desc := "(I)Z" } : Jvm.MethodName) prog_1_method_13_code (1 : Nat) (Option.some Jvm.ClassFile.FieldType.boolean)) ∈ lw_all := lw_g (lw_at lw_m4 132 rfl) rfl
theorem q950 : (Jvm.Cond.instanceMethod ({ cls := "DimpleWells", name := "count", desc := "(I)I" } : Jvm.MethodName)) ∈ lw_all := lw_g (lw_at lw_m4 134 rfl) rfl
theorem q951 : (Jvm.Cond.selects "DimpleWells" ({ cls := "DimpleWells", name := "count", desc := "(I)I" } : Jvm.MethodName) ({ cls := "DimpleWells", name := "count", desc := "(I)I" } : Jvm.MethodName)) ∈ lw_all := lw_g (lw_at lw_m4 135 rfl) rfl
theorem q952 : (Jvm.Cond.code ({ cls := "DimpleWells", name := "count", desc := "(I)I" } : Jvm.MethodName) prog_1_method_75_code (2 : Nat) (Option.some Jvm.ClassFile.FieldType.int)) ∈ lw_all := lw_g (lw_at lw_m4 136 rfl) rfl
theorem q958 : (Jvm.Cond.instanceMethod ({ cls := "DimpleWells", name := "land", desc := "(I)I" } : Jvm.MethodName)) ∈ lw_all := lw_g (lw_at lw_m4 142 rfl) rfl
theorem q959 : (Jvm.Cond.selects "DimpleWells" ({ cls := "DimpleWells", name := "land", desc := "(I)I" } : Jvm.MethodName) ({ cls := "DimpleWells", name := "land", desc := "(I)I" } : Jvm.MethodName)) ∈ lw_all := lw_g (lw_at lw_m4 143 rfl) rfl
theorem q960 : (Jvm.Cond.codeWith ({ cls := "DimpleWells", name := "land", desc := "(I)I" } : Jvm.MethodName) prog_1_method_19_code (5 : Nat) (Option.some Jvm.ClassFile.FieldType.int) [((21 : Nat), (54 : Nat), (61 : Nat), (167 : Nat)), ((21 : Nat), (54 : Nat), (75 : Nat), (0 : Nat)), ((61 : Nat), (68 : Nat), (75 : Nat), (0 : Nat)), ((75 : Nat), (77 : Nat), (75 : Nat), (0 : Nat))]) ∈ lw_all := lw_g (lw_at lw_m4 144 rfl) rfl
theorem q961 : (Jvm.Cond.classLink "DimpleWells" (167 : Nat) "DimpleWells$Wrong") ∈ lw_all := lw_g (lw_at lw_m4 145 rfl) rfl
theorem q962 : (Jvm.Cond.methodLink "DimpleWells" (174 : Nat) ({ cls := "DimpleWells", name := "need", desc := "(Z)V" } : Jvm.MethodName)) ∈ lw_all := lw_g (lw_at lw_m4 146 rfl) rfl
theorem q963 : (Jvm.Cond.privateMethod ({ cls := "DimpleWells", name := "need", desc := "(Z)V" } : Jvm.MethodName)) ∈ lw_tbl := lw_at lw_m4 147 rfl
theorem q964 : (Jvm.Cond.instanceMethod ({ cls := "DimpleWells", name := "need", desc := "(Z)V" } : Jvm.MethodName)) ∈ lw_all := lw_g (lw_at lw_m4 148 rfl) rfl
theorem q965 : (Jvm.Cond.code ({ cls := "DimpleWells", name := "need", desc := "(Z)V" } : Jvm.MethodName) prog_1_method_9_code (2 : Nat) (Option.none : Option Jvm.ClassFile.FieldType)) ∈ lw_all := lw_g (lw_at lw_m4 149 rfl) rfl
theorem q966 : (Jvm.Cond.classLink "DimpleWells" (146 : Nat) "java/lang/IllegalArgumentException") ∈ lw_all := lw_g (lw_at lw_m4 150 rfl) rfl
theorem q967 : (Jvm.Cond.methodLink "DimpleWells" (148 : Nat) ({ cls := "java/lang/IllegalArgumentException", name := "<init>", desc := "()V" } : Jvm.MethodName)) ∈ lw_all := lw_g (lw_at lw_m4 151 rfl) rfl
theorem q977 : (Jvm.Cond.classLink "DimpleWells" (178 : Nat) "DimpleWells$LandReader") ∈ lw_all := lw_g (lw_at lw_m4 161 rfl) rfl
theorem q979 : (Jvm.Cond.methodLink "DimpleWells" (180 : Nat) ({ cls := "DimpleWells$LandReader", name := "<init>", desc := "([BI)V" } : Jvm.MethodName)) ∈ lw_all := lw_g (lw_at lw_m4 163 rfl) rfl
theorem q1031 : (Jvm.Cond.methodLink "DimpleWells" (183 : Nat) ({ cls := "DimpleWells$LandReader", name := "reads", desc := "()LDimpleWells$Told;" } : Jvm.MethodName)) ∈ lw_all := lw_g (lw_at lw_m4 215 rfl) rfl
theorem q1175 : (Jvm.Cond.fieldLinkNest "DimpleWells" (171 : Nat) "DimpleWells$Wrong" "kind" "I" "DimpleWells") ∈ lw_tbl := lw_at lw_m5 119 rfl
theorem q1177 : (Jvm.Cond.fieldLinkNest "DimpleWells" (166 : Nat) "DimpleWells$Wrong" "place" "I" "DimpleWells") ∈ lw_tbl := lw_at lw_m5 121 rfl
theorem q1209 : (Jvm.Cond.fieldLinkNest "DimpleWells" (281 : Nat) "DimpleWells$Person" "dimples" "I" "DimpleWells") ∈ lw_tbl := lw_at lw_m5 153 rfl
theorem q1212 : (Jvm.Cond.fieldLinkNest "DimpleWells" (284 : Nat) "DimpleWells$Person" "taste" "I" "DimpleWells") ∈ lw_tbl := lw_at lw_m5 156 rfl
theorem q1243 : (Jvm.Cond.selects "DimpleWells" ({ cls := "java/lang/Object", name := "getClass", desc := "()Ljava/lang/Class;" } : Jvm.MethodName) ({ cls := "java/lang/Object", name := "getClass", desc := "()Ljava/lang/Class;" } : Jvm.MethodName)) ∈ lw_all := lw_g (lw_at lw_m5 187 rfl) rfl
theorem q1289 : (Jvm.Cond.fieldLinkNest "DimpleWells" (303 : Nat) "DimpleWells$Joke" "kind" "I" "DimpleWells") ∈ lw_tbl := lw_at lw_m5 233 rfl
theorem q1292 : (Jvm.Cond.fieldLinkNest "DimpleWells" (304 : Nat) "DimpleWells$Joke" "strong" "I" "DimpleWells") ∈ lw_tbl := lw_at lw_m5 236 rfl
theorem q1308 : (Jvm.Cond.methodLink "DimpleWells" (187 : Nat) ({ cls := "DimpleWells", name := "failed", desc := "(LDimpleWells$Wrong;)I" } : Jvm.MethodName)) ∈ lw_all := lw_g (lw_at lw_m6 12 rfl) rfl
theorem q1309 : (Jvm.Cond.privateMethod ({ cls := "DimpleWells", name := "failed", desc := "(LDimpleWells$Wrong;)I" } : Jvm.MethodName)) ∈ lw_tbl := lw_at lw_m6 13 rfl
theorem q1310 : (Jvm.Cond.instanceMethod ({ cls := "DimpleWells", name := "failed", desc := "(LDimpleWells$Wrong;)I" } : Jvm.MethodName)) ∈ lw_all := lw_g (lw_at lw_m6 14 rfl) rfl
theorem q1311 : (Jvm.Cond.code ({ cls := "DimpleWells", name := "failed", desc := "(LDimpleWells$Wrong;)I" } : Jvm.MethodName) prog_1_method_18_code (2 : Nat) (Option.some Jvm.ClassFile.FieldType.int)) ∈ lw_all := lw_g (lw_at lw_m6 15 rfl) rfl
theorem q1316 : (Jvm.Cond.instanceMethod ({ cls := "DimpleWells", name := "law", desc := "(I)I" } : Jvm.MethodName)) ∈ lw_all := lw_g (lw_at lw_m6 20 rfl) rfl
theorem q1317 : (Jvm.Cond.selects "DimpleWells" ({ cls := "DimpleWells", name := "law", desc := "(I)I" } : Jvm.MethodName) ({ cls := "DimpleWells", name := "law", desc := "(I)I" } : Jvm.MethodName)) ∈ lw_all := lw_g (lw_at lw_m6 21 rfl) rfl
theorem q1318 : (Jvm.Cond.codeWith ({ cls := "DimpleWells", name := "law", desc := "(I)I" } : Jvm.MethodName) prog_1_method_20_code (5 : Nat) (Option.some Jvm.ClassFile.FieldType.int) [((28 : Nat), (54 : Nat), (61 : Nat), (167 : Nat)), ((28 : Nat), (54 : Nat), (75 : Nat), (0 : Nat)), ((61 : Nat), (68 : Nat), (75 : Nat), (0 : Nat)), ((75 : Nat), (77 : Nat), (75 : Nat), (0 : Nat))]) ∈ lw_all := lw_g (lw_at lw_m6 22 rfl) rfl
theorem q1319 : (Jvm.Cond.classLink "DimpleWells" (191 : Nat) "DimpleWells$LawReader") ∈ lw_all := lw_g (lw_at lw_m6 23 rfl) rfl
theorem q1321 : (Jvm.Cond.methodLink "DimpleWells" (193 : Nat) ({ cls := "DimpleWells$LawReader", name := "<init>", desc := "([BI)V" } : Jvm.MethodName)) ∈ lw_all := lw_g (lw_at lw_m6 25 rfl) rfl
theorem q1331 : (Jvm.Cond.methodLink "DimpleWells" (194 : Nat) ({ cls := "DimpleWells$LawReader", name := "reads", desc := "()LDimpleWells$Term;" } : Jvm.MethodName)) ∈ lw_all := lw_g (lw_at lw_m6 35 rfl) rfl
theorem q1448 : (Jvm.Cond.instanceMethod ({ cls := "DimpleWells", name := "work", desc := "(I)I" } : Jvm.MethodName)) ∈ lw_all := lw_g (lw_at lw_m6 152 rfl) rfl
theorem q1449 : (Jvm.Cond.selects "DimpleWells" ({ cls := "DimpleWells", name := "work", desc := "(I)I" } : Jvm.MethodName) ({ cls := "DimpleWells", name := "work", desc := "(I)I" } : Jvm.MethodName)) ∈ lw_all := lw_g (lw_at lw_m6 153 rfl) rfl
theorem q1450 : (Jvm.Cond.codeWith ({ cls := "DimpleWells", name := "work", desc := "(I)I" } : Jvm.MethodName) prog_1_method_21_code (5 : Nat) (Option.some Jvm.ClassFile.FieldType.int) [((28 : Nat), (45 : Nat), (179 : Nat), (167 : Nat)), ((52 : Nat), (172 : Nat), (179 : Nat), (167 : Nat)), ((28 : Nat), (45 : Nat), (193 : Nat), (0 : Nat)), ((52 : Nat), (172 : Nat), (193 : Nat), (0 : Nat)), ((179 : Nat), (186 : Nat), (193 : Nat), (0 : Nat)), ((193 : Nat), (195 : Nat), (193 : Nat), (0 : Nat))]) ∈ lw_all := lw_g (lw_at lw_m6 154 rfl) rfl
theorem q1451 : (Jvm.Cond.classLink "DimpleWells" (196 : Nat) "DimpleWells$WorkReader") ∈ lw_all := lw_g (lw_at lw_m6 155 rfl) rfl
theorem q1453 : (Jvm.Cond.methodLink "DimpleWells" (198 : Nat) ({ cls := "DimpleWells$WorkReader", name := "<init>", desc := "([BILDimpleWells$Told;)V" } : Jvm.MethodName)) ∈ lw_all := lw_g (lw_at lw_m6 157 rfl) rfl
theorem q1466 : (Jvm.Cond.methodLink "DimpleWells" (201 : Nat) ({ cls := "DimpleWells$WorkReader", name := "reads", desc := "()Ljava/util/ArrayList;" } : Jvm.MethodName)) ∈ lw_all := lw_g (lw_at lw_m6 170 rfl) rfl
theorem q1592 : (Jvm.Cond.classLink "DimpleWells" (216 : Nat) "DimpleWells$Step") ∈ lw_all := lw_g (lw_at lw_m7 56 rfl) rfl
theorem q1593 : (Jvm.Cond.methodLink "DimpleWells" (218 : Nat) ({ cls := "DimpleWells$Step", name := "goes", desc := "(LDimpleWells$Season;)V" } : Jvm.MethodName)) ∈ lw_all := lw_g (lw_at lw_m7 57 rfl) rfl
theorem q1660 : (Jvm.Cond.instanceMethod ({ cls := "DimpleWells", name := "book", desc := "(I)I" } : Jvm.MethodName)) ∈ lw_all := lw_g (lw_at lw_m7 124 rfl) rfl
theorem q1661 : (Jvm.Cond.selects "DimpleWells" ({ cls := "DimpleWells", name := "book", desc := "(I)I" } : Jvm.MethodName) ({ cls := "DimpleWells", name := "book", desc := "(I)I" } : Jvm.MethodName)) ∈ lw_all := lw_g (lw_at lw_m7 125 rfl) rfl
theorem q1662 : (Jvm.Cond.codeWith ({ cls := "DimpleWells", name := "book", desc := "(I)I" } : Jvm.MethodName) prog_1_method_22_code (5 : Nat) (Option.some Jvm.ClassFile.FieldType.int) [((27 : Nat), (77 : Nat), (84 : Nat), (167 : Nat)), ((27 : Nat), (77 : Nat), (98 : Nat), (0 : Nat)), ((84 : Nat), (91 : Nat), (98 : Nat), (0 : Nat)), ((98 : Nat), (100 : Nat), (98 : Nat), (0 : Nat))]) ∈ lw_all := lw_g (lw_at lw_m7 126 rfl) rfl
theorem q1663 : (Jvm.Cond.classLink "DimpleWells" (222 : Nat) "DimpleWells$BookReader") ∈ lw_all := lw_g (lw_at lw_m7 127 rfl) rfl
theorem q1665 : (Jvm.Cond.methodLink "DimpleWells" (224 : Nat) ({ cls := "DimpleWells$BookReader", name := "<init>", desc := "([BII)V" } : Jvm.MethodName)) ∈ lw_all := lw_g (lw_at lw_m7 129 rfl) rfl
theorem q1672 : (Jvm.Cond.fieldLinkNest "DimpleWells" (236 : Nat) "DimpleWells$BookReader" "many" "I" "DimpleWells") ∈ lw_tbl := lw_at lw_m7 136 rfl
theorem q1685 : (Jvm.Cond.methodLink "DimpleWells" (227 : Nat) ({ cls := "DimpleWells$BookReader", name := "reads", desc := "()[I" } : Jvm.MethodName)) ∈ lw_all := lw_g (lw_at lw_m7 149 rfl) rfl
theorem q1704 : (Jvm.Cond.instanceMethod ({ cls := "DimpleWells", name := "told", desc := "(I)I" } : Jvm.MethodName)) ∈ lw_all := lw_g (lw_at lw_m7 168 rfl) rfl
theorem q1705 : (Jvm.Cond.selects "DimpleWells" ({ cls := "DimpleWells", name := "told", desc := "(I)I" } : Jvm.MethodName) ({ cls := "DimpleWells", name := "told", desc := "(I)I" } : Jvm.MethodName)) ∈ lw_all := lw_g (lw_at lw_m7 169 rfl) rfl
theorem q1706 : (Jvm.Cond.code ({ cls := "DimpleWells", name := "told", desc := "(I)I" } : Jvm.MethodName) prog_1_method_25_code (2 : Nat) (Option.some Jvm.ClassFile.FieldType.int)) ∈ lw_all := lw_g (lw_at lw_m7 170 rfl) rfl
theorem q1707 : (Jvm.Cond.methodLink "DimpleWells" (243 : Nat) ({ cls := "DimpleWells", name := "isIn", desc := "(III)Z" } : Jvm.MethodName)) ∈ lw_all := lw_g (lw_at lw_m7 171 rfl) rfl
theorem q1708 : (Jvm.Cond.static ({ cls := "DimpleWells", name := "isIn", desc := "(III)Z" } : Jvm.MethodName)) ∈ lw_all := lw_g (lw_at lw_m7 172 rfl) rfl
theorem q1709 : (Jvm.Cond.code ({ cls := "DimpleWells", name := "isIn", desc := "(III)Z" } : Jvm.MethodName) prog_1_method_14_code (3 : Nat) (Option.some Jvm.ClassFile.FieldType.boolean)) ∈ lw_all := lw_g (lw_at lw_m7 173 rfl) rfl
theorem q1715 : (Jvm.Cond.instanceMethod ({ cls := "DimpleWells", name := "person", desc := "(II)I" } : Jvm.MethodName)) ∈ lw_all := lw_g (lw_at lw_m7 179 rfl) rfl
theorem q1716 : (Jvm.Cond.selects "DimpleWells" ({ cls := "DimpleWells", name := "person", desc := "(II)I" } : Jvm.MethodName) ({ cls := "DimpleWells", name := "person", desc := "(II)I" } : Jvm.MethodName)) ∈ lw_all := lw_g (lw_at lw_m7 180 rfl) rfl
theorem q1717 : (Jvm.Cond.code ({ cls := "DimpleWells", name := "person", desc := "(II)I" } : Jvm.MethodName) prog_1_method_26_code (3 : Nat) (Option.some Jvm.ClassFile.FieldType.int)) ∈ lw_all := lw_g (lw_at lw_m7 181 rfl) rfl
theorem q1718 : (Jvm.Cond.methodLink "DimpleWells" (274 : Nat) ({ cls := "DimpleWells", name := "needPerson", desc := "(I)V" } : Jvm.MethodName)) ∈ lw_all := lw_g (lw_at lw_m7 182 rfl) rfl
theorem q1719 : (Jvm.Cond.privateMethod ({ cls := "DimpleWells", name := "needPerson", desc := "(I)V" } : Jvm.MethodName)) ∈ lw_tbl := lw_at lw_m7 183 rfl
theorem q1720 : (Jvm.Cond.instanceMethod ({ cls := "DimpleWells", name := "needPerson", desc := "(I)V" } : Jvm.MethodName)) ∈ lw_all := lw_g (lw_at lw_m7 184 rfl) rfl
theorem q1721 : (Jvm.Cond.code ({ cls := "DimpleWells", name := "needPerson", desc := "(I)V" } : Jvm.MethodName) prog_1_method_11_code (2 : Nat) (Option.none : Option Jvm.ClassFile.FieldType)) ∈ lw_all := lw_g (lw_at lw_m7 185 rfl) rfl
theorem q1722 : (Jvm.Cond.methodLink "DimpleWells" (154 : Nat) ({ cls := "DimpleWells", name := "needThere", desc := "(II)V" } : Jvm.MethodName)) ∈ lw_all := lw_g (lw_at lw_m7 186 rfl) rfl
theorem q1723 : (Jvm.Cond.privateMethod ({ cls := "DimpleWells", name := "needThere", desc := "(II)V" } : Jvm.MethodName)) ∈ lw_tbl := lw_at lw_m7 187 rfl
theorem q1724 : (Jvm.Cond.instanceMethod ({ cls := "DimpleWells", name := "needThere", desc := "(II)V" } : Jvm.MethodName)) ∈ lw_all := lw_g (lw_at lw_m7 188 rfl) rfl
theorem q1725 : (Jvm.Cond.code ({ cls := "DimpleWells", name := "needThere", desc := "(II)V" } : Jvm.MethodName) prog_1_method_10_code (3 : Nat) (Option.none : Option Jvm.ClassFile.FieldType)) ∈ lw_all := lw_g (lw_at lw_m7 189 rfl) rfl
theorem q1726 : (Jvm.Cond.classLink "DimpleWells" (149 : Nat) "java/util/NoSuchElementException") ∈ lw_all := lw_g (lw_at lw_m7 190 rfl) rfl
theorem q1735 : (Jvm.Cond.methodLink "DimpleWells" (151 : Nat) ({ cls := "java/util/NoSuchElementException", name := "<init>", desc := "()V" } : Jvm.MethodName)) ∈ lw_all := lw_g (lw_at lw_m7 199 rfl) rfl
theorem q1741 : (Jvm.Cond.methodLink "DimpleWells" (277 : Nat) ({ cls := "DimpleWells", name := "personOf", desc := "(I)LDimpleWells$Person;" } : Jvm.MethodName)) ∈ lw_all := lw_g (lw_at lw_m7 205 rfl) rfl
theorem q1746 : (Jvm.Cond.instanceMethod ({ cls := "DimpleWells", name := "joke", desc := "(II)I" } : Jvm.MethodName)) ∈ lw_all := lw_g (lw_at lw_m7 210 rfl) rfl
theorem q1747 : (Jvm.Cond.selects "DimpleWells" ({ cls := "DimpleWells", name := "joke", desc := "(II)I" } : Jvm.MethodName) ({ cls := "DimpleWells", name := "joke", desc := "(II)I" } : Jvm.MethodName)) ∈ lw_all := lw_g (lw_at lw_m7 211 rfl) rfl
theorem q1748 : (Jvm.Cond.code ({ cls := "DimpleWells", name := "joke", desc := "(II)I" } : Jvm.MethodName) prog_1_method_27_code (3 : Nat) (Option.some Jvm.ClassFile.FieldType.int)) ∈ lw_all := lw_g (lw_at lw_m7 212 rfl) rfl
theorem q1749 : (Jvm.Cond.methodLink "DimpleWells" (296 : Nat) ({ cls := "DimpleWells", name := "needJoke", desc := "(I)V" } : Jvm.MethodName)) ∈ lw_all := lw_g (lw_at lw_m7 213 rfl) rfl
theorem q1750 : (Jvm.Cond.privateMethod ({ cls := "DimpleWells", name := "needJoke", desc := "(I)V" } : Jvm.MethodName)) ∈ lw_tbl := lw_at lw_m7 214 rfl
theorem q1751 : (Jvm.Cond.instanceMethod ({ cls := "DimpleWells", name := "needJoke", desc := "(I)V" } : Jvm.MethodName)) ∈ lw_all := lw_g (lw_at lw_m7 215 rfl) rfl
theorem q1752 : (Jvm.Cond.code ({ cls := "DimpleWells", name := "needJoke", desc := "(I)V" } : Jvm.MethodName) prog_1_method_12_code (2 : Nat) (Option.none : Option Jvm.ClassFile.FieldType)) ∈ lw_all := lw_g (lw_at lw_m7 216 rfl) rfl
theorem q1753 : (Jvm.Cond.methodLink "DimpleWells" (299 : Nat) ({ cls := "DimpleWells", name := "jokeOf", desc := "(I)LDimpleWells$Joke;" } : Jvm.MethodName)) ∈ lw_all := lw_g (lw_at lw_m7 217 rfl) rfl
theorem q1754 : (Jvm.Cond.methodLink "DimpleWells" (307 : Nat) ({ cls := "DimpleWells$Season", name := "often", desc := "(I)I" } : Jvm.MethodName)) ∈ lw_all := lw_g (lw_at lw_m7 218 rfl) rfl
theorem q1759 : (Jvm.Cond.instanceMethod ({ cls := "DimpleWells", name := "street", desc := "(II)I" } : Jvm.MethodName)) ∈ lw_all := lw_g (lw_at lw_m7 223 rfl) rfl
theorem q1760 : (Jvm.Cond.selects "DimpleWells" ({ cls := "DimpleWells", name := "street", desc := "(II)I" } : Jvm.MethodName) ({ cls := "DimpleWells", name := "street", desc := "(II)I" } : Jvm.MethodName)) ∈ lw_all := lw_g (lw_at lw_m7 224 rfl) rfl
theorem q1761 : (Jvm.Cond.code ({ cls := "DimpleWells", name := "street", desc := "(II)I" } : Jvm.MethodName) prog_1_method_28_code (3 : Nat) (Option.some Jvm.ClassFile.FieldType.int)) ∈ lw_all := lw_g (lw_at lw_m7 225 rfl) rfl
theorem q1766 : (Jvm.Cond.instanceMethod ({ cls := "DimpleWells", name := "worn", desc := "(II)I" } : Jvm.MethodName)) ∈ lw_all := lw_g (lw_at lw_m7 230 rfl) rfl
theorem q1767 : (Jvm.Cond.selects "DimpleWells" ({ cls := "DimpleWells", name := "worn", desc := "(II)I" } : Jvm.MethodName) ({ cls := "DimpleWells", name := "worn", desc := "(II)I" } : Jvm.MethodName)) ∈ lw_all := lw_g (lw_at lw_m7 231 rfl) rfl
theorem q1768 : (Jvm.Cond.code ({ cls := "DimpleWells", name := "worn", desc := "(II)I" } : Jvm.MethodName) prog_1_method_30_code (3 : Nat) (Option.some Jvm.ClassFile.FieldType.int)) ∈ lw_all := lw_g (lw_at lw_m7 232 rfl) rfl
theorem q1769 : (Jvm.Cond.methodLink "DimpleWells" (321 : Nat) ({ cls := "DimpleWells", name := "needTwo", desc := "(II)V" } : Jvm.MethodName)) ∈ lw_all := lw_g (lw_at lw_m7 233 rfl) rfl
theorem q1770 : (Jvm.Cond.privateMethod ({ cls := "DimpleWells", name := "needTwo", desc := "(II)V" } : Jvm.MethodName)) ∈ lw_tbl := lw_at lw_m7 234 rfl
theorem q1771 : (Jvm.Cond.instanceMethod ({ cls := "DimpleWells", name := "needTwo", desc := "(II)V" } : Jvm.MethodName)) ∈ lw_all := lw_g (lw_at lw_m7 235 rfl) rfl
theorem q1772 : (Jvm.Cond.code ({ cls := "DimpleWells", name := "needTwo", desc := "(II)V" } : Jvm.MethodName) prog_1_method_29_code (3 : Nat) (Option.none : Option Jvm.ClassFile.FieldType)) ∈ lw_all := lw_g (lw_at lw_m7 236 rfl) rfl
theorem q1777 : (Jvm.Cond.instanceMethod ({ cls := "DimpleWells", name := "laugh", desc := "(II)I" } : Jvm.MethodName)) ∈ lw_all := lw_g (lw_at lw_m8 1 rfl) rfl
theorem q1778 : (Jvm.Cond.selects "DimpleWells" ({ cls := "DimpleWells", name := "laugh", desc := "(II)I" } : Jvm.MethodName) ({ cls := "DimpleWells", name := "laugh", desc := "(II)I" } : Jvm.MethodName)) ∈ lw_all := lw_g (lw_at lw_m8 2 rfl) rfl
theorem q1779 : (Jvm.Cond.code ({ cls := "DimpleWells", name := "laugh", desc := "(II)I" } : Jvm.MethodName) prog_1_method_31_code (3 : Nat) (Option.some Jvm.ClassFile.FieldType.int)) ∈ lw_all := lw_g (lw_at lw_m8 3 rfl) rfl
theorem q1780 : (Jvm.Cond.methodLink "DimpleWells" (327 : Nat) ({ cls := "DimpleWells$Season", name := "laugh", desc := "(II)I" } : Jvm.MethodName)) ∈ lw_all := lw_g (lw_at lw_m8 4 rfl) rfl
theorem q1785 : (Jvm.Cond.instanceMethod ({ cls := "DimpleWells", name := "water", desc := "(II)I" } : Jvm.MethodName)) ∈ lw_all := lw_g (lw_at lw_m8 9 rfl) rfl
theorem q1786 : (Jvm.Cond.selects "DimpleWells" ({ cls := "DimpleWells", name := "water", desc := "(II)I" } : Jvm.MethodName) ({ cls := "DimpleWells", name := "water", desc := "(II)I" } : Jvm.MethodName)) ∈ lw_all := lw_g (lw_at lw_m8 10 rfl) rfl
theorem q1787 : (Jvm.Cond.code ({ cls := "DimpleWells", name := "water", desc := "(II)I" } : Jvm.MethodName) prog_1_method_32_code (3 : Nat) (Option.some Jvm.ClassFile.FieldType.int)) ∈ lw_all := lw_g (lw_at lw_m8 11 rfl) rfl
theorem q1792 : (Jvm.Cond.instanceMethod ({ cls := "DimpleWells", name := "would", desc := "(IIIIIIIIII)I" } : Jvm.MethodName)) ∈ lw_all := lw_g (lw_at lw_m8 16 rfl) rfl
theorem q1793 : (Jvm.Cond.selects "DimpleWells" ({ cls := "DimpleWells", name := "would", desc := "(IIIIIIIIII)I" } : Jvm.MethodName) ({ cls := "DimpleWells", name := "would", desc := "(IIIIIIIIII)I" } : Jvm.MethodName)) ∈ lw_all := lw_g (lw_at lw_m8 17 rfl) rfl
theorem q1794 : (Jvm.Cond.code ({ cls := "DimpleWells", name := "would", desc := "(IIIIIIIIII)I" } : Jvm.MethodName) prog_1_method_33_code (11 : Nat) (Option.some Jvm.ClassFile.FieldType.int)) ∈ lw_all := lw_g (lw_at lw_m8 18 rfl) rfl
theorem q1795 : (Jvm.Cond.methodLink "DimpleWells" (333 : Nat) ({ cls := "DimpleWells", name := "laughOf", desc := "(IIIIIIIIII)I" } : Jvm.MethodName)) ∈ lw_all := lw_g (lw_at lw_m8 19 rfl) rfl
theorem q1800 : (Jvm.Cond.instanceMethod ({ cls := "DimpleWells", name := "ahead", desc := "(II)I" } : Jvm.MethodName)) ∈ lw_all := lw_g (lw_at lw_m8 24 rfl) rfl
theorem q1801 : (Jvm.Cond.selects "DimpleWells" ({ cls := "DimpleWells", name := "ahead", desc := "(II)I" } : Jvm.MethodName) ({ cls := "DimpleWells", name := "ahead", desc := "(II)I" } : Jvm.MethodName)) ∈ lw_all := lw_g (lw_at lw_m8 25 rfl) rfl
theorem q1802 : (Jvm.Cond.code ({ cls := "DimpleWells", name := "ahead", desc := "(II)I" } : Jvm.MethodName) prog_1_method_38_code (5 : Nat) (Option.some Jvm.ClassFile.FieldType.int)) ∈ lw_all := lw_g (lw_at lw_m8 26 rfl) rfl
theorem q1807 : (Jvm.Cond.instanceMethod ({ cls := "DimpleWells", name := "given", desc := "(I)I" } : Jvm.MethodName)) ∈ lw_all := lw_g (lw_at lw_m8 31 rfl) rfl
theorem q1808 : (Jvm.Cond.selects "DimpleWells" ({ cls := "DimpleWells", name := "given", desc := "(I)I" } : Jvm.MethodName) ({ cls := "DimpleWells", name := "given", desc := "(I)I" } : Jvm.MethodName)) ∈ lw_all := lw_g (lw_at lw_m8 32 rfl) rfl
theorem q1809 : (Jvm.Cond.code ({ cls := "DimpleWells", name := "given", desc := "(I)I" } : Jvm.MethodName) prog_1_method_44_code (2 : Nat) (Option.some Jvm.ClassFile.FieldType.int)) ∈ lw_all := lw_g (lw_at lw_m8 33 rfl) rfl
theorem q1814 : (Jvm.Cond.instanceMethod ({ cls := "DimpleWells", name := "enough", desc := "(I)I" } : Jvm.MethodName)) ∈ lw_all := lw_g (lw_at lw_m8 38 rfl) rfl
theorem q1815 : (Jvm.Cond.selects "DimpleWells" ({ cls := "DimpleWells", name := "enough", desc := "(I)I" } : Jvm.MethodName) ({ cls := "DimpleWells", name := "enough", desc := "(I)I" } : Jvm.MethodName)) ∈ lw_all := lw_g (lw_at lw_m8 39 rfl) rfl
theorem q1816 : (Jvm.Cond.code ({ cls := "DimpleWells", name := "enough", desc := "(I)I" } : Jvm.MethodName) prog_1_method_47_code (4 : Nat) (Option.some Jvm.ClassFile.FieldType.int)) ∈ lw_all := lw_g (lw_at lw_m8 40 rfl) rfl
theorem q1817 : (Jvm.Cond.methodLink "DimpleWells" (365 : Nat) ({ cls := "DimpleWells", name := "isEnough", desc := "(II)Z" } : Jvm.MethodName)) ∈ lw_all := lw_g (lw_at lw_m8 41 rfl) rfl
theorem q1818 : (Jvm.Cond.privateMethod ({ cls := "DimpleWells", name := "isEnough", desc := "(II)Z" } : Jvm.MethodName)) ∈ lw_tbl := lw_at lw_m8 42 rfl
theorem q1819 : (Jvm.Cond.instanceMethod ({ cls := "DimpleWells", name := "isEnough", desc := "(II)Z" } : Jvm.MethodName)) ∈ lw_all := lw_g (lw_at lw_m8 43 rfl) rfl
theorem q1820 : (Jvm.Cond.code ({ cls := "DimpleWells", name := "isEnough", desc := "(II)Z" } : Jvm.MethodName) prog_1_method_46_code (5 : Nat) (Option.some Jvm.ClassFile.FieldType.boolean)) ∈ lw_all := lw_g (lw_at lw_m8 44 rfl) rfl
theorem q1821 : (Jvm.Cond.methodLink "DimpleWells" (357 : Nat) ({ cls := "DimpleWells", name := "mostOf", desc := "(I)I" } : Jvm.MethodName)) ∈ lw_all := lw_g (lw_at lw_m8 45 rfl) rfl
theorem q1822 : (Jvm.Cond.privateMethod ({ cls := "DimpleWells", name := "mostOf", desc := "(I)I" } : Jvm.MethodName)) ∈ lw_tbl := lw_at lw_m8 46 rfl
theorem q1823 : (Jvm.Cond.instanceMethod ({ cls := "DimpleWells", name := "mostOf", desc := "(I)I" } : Jvm.MethodName)) ∈ lw_all := lw_g (lw_at lw_m8 47 rfl) rfl
theorem q1824 : (Jvm.Cond.code ({ cls := "DimpleWells", name := "mostOf", desc := "(I)I" } : Jvm.MethodName) prog_1_method_45_code (4 : Nat) (Option.some Jvm.ClassFile.FieldType.int)) ∈ lw_all := lw_g (lw_at lw_m8 48 rfl) rfl
theorem q1829 : (Jvm.Cond.instanceMethod ({ cls := "DimpleWells", name := "lasts", desc := "(II)I" } : Jvm.MethodName)) ∈ lw_all := lw_g (lw_at lw_m8 53 rfl) rfl
theorem q1830 : (Jvm.Cond.selects "DimpleWells" ({ cls := "DimpleWells", name := "lasts", desc := "(II)I" } : Jvm.MethodName) ({ cls := "DimpleWells", name := "lasts", desc := "(II)I" } : Jvm.MethodName)) ∈ lw_all := lw_g (lw_at lw_m8 54 rfl) rfl
theorem q1831 : (Jvm.Cond.code ({ cls := "DimpleWells", name := "lasts", desc := "(II)I" } : Jvm.MethodName) prog_1_method_49_code (3 : Nat) (Option.some Jvm.ClassFile.FieldType.int)) ∈ lw_all := lw_g (lw_at lw_m8 55 rfl) rfl
theorem q1832 : (Jvm.Cond.methodLink "DimpleWells" (372 : Nat) ({ cls := "DimpleWells", name := "lastsBy", desc := "(II)I" } : Jvm.MethodName)) ∈ lw_all := lw_g (lw_at lw_m8 56 rfl) rfl
theorem q1833 : (Jvm.Cond.privateMethod ({ cls := "DimpleWells", name := "lastsBy", desc := "(II)I" } : Jvm.MethodName)) ∈ lw_tbl := lw_at lw_m8 57 rfl
theorem q1834 : (Jvm.Cond.instanceMethod ({ cls := "DimpleWells", name := "lastsBy", desc := "(II)I" } : Jvm.MethodName)) ∈ lw_all := lw_g (lw_at lw_m8 58 rfl) rfl
theorem q1835 : (Jvm.Cond.code ({ cls := "DimpleWells", name := "lastsBy", desc := "(II)I" } : Jvm.MethodName) prog_1_method_48_code (4 : Nat) (Option.some Jvm.ClassFile.FieldType.int)) ∈ lw_all := lw_g (lw_at lw_m8 59 rfl) rfl
theorem q1836 : (Jvm.Cond.methodLink "DimpleWells" (368 : Nat) ({ cls := "DimpleWells$Season", name := "laughBy", desc := "(IIIII)I" } : Jvm.MethodName)) ∈ lw_all := lw_g (lw_at lw_m8 60 rfl) rfl
theorem q1841 : (Jvm.Cond.instanceMethod ({ cls := "DimpleWells", name := "well", desc := "(II)I" } : Jvm.MethodName)) ∈ lw_all := lw_g (lw_at lw_m8 65 rfl) rfl
theorem q1842 : (Jvm.Cond.selects "DimpleWells" ({ cls := "DimpleWells", name := "well", desc := "(II)I" } : Jvm.MethodName) ({ cls := "DimpleWells", name := "well", desc := "(II)I" } : Jvm.MethodName)) ∈ lw_all := lw_g (lw_at lw_m8 66 rfl) rfl
theorem q1843 : (Jvm.Cond.code ({ cls := "DimpleWells", name := "well", desc := "(II)I" } : Jvm.MethodName) prog_1_method_50_code (6 : Nat) (Option.some Jvm.ClassFile.FieldType.int)) ∈ lw_all := lw_g (lw_at lw_m8 67 rfl) rfl
theorem q1848 : (Jvm.Cond.instanceMethod ({ cls := "DimpleWells", name := "fits", desc := "(II)I" } : Jvm.MethodName)) ∈ lw_all := lw_g (lw_at lw_m8 72 rfl) rfl
theorem q1849 : (Jvm.Cond.selects "DimpleWells" ({ cls := "DimpleWells", name := "fits", desc := "(II)I" } : Jvm.MethodName) ({ cls := "DimpleWells", name := "fits", desc := "(II)I" } : Jvm.MethodName)) ∈ lw_all := lw_g (lw_at lw_m8 73 rfl) rfl
theorem q1850 : (Jvm.Cond.code ({ cls := "DimpleWells", name := "fits", desc := "(II)I" } : Jvm.MethodName) prog_1_method_52_code (7 : Nat) (Option.some Jvm.ClassFile.FieldType.int)) ∈ lw_all := lw_g (lw_at lw_m8 74 rfl) rfl
theorem q1851 : (Jvm.Cond.methodLink "DimpleWells" (375 : Nat) ({ cls := "DimpleWells", name := "isFit", desc := "(III)Z" } : Jvm.MethodName)) ∈ lw_all := lw_g (lw_at lw_m8 75 rfl) rfl
theorem q1852 : (Jvm.Cond.privateMethod ({ cls := "DimpleWells", name := "isFit", desc := "(III)Z" } : Jvm.MethodName)) ∈ lw_tbl := lw_at lw_m8 76 rfl
theorem q1853 : (Jvm.Cond.instanceMethod ({ cls := "DimpleWells", name := "isFit", desc := "(III)Z" } : Jvm.MethodName)) ∈ lw_all := lw_g (lw_at lw_m8 77 rfl) rfl
theorem q1854 : (Jvm.Cond.code ({ cls := "DimpleWells", name := "isFit", desc := "(III)Z" } : Jvm.MethodName) prog_1_method_51_code (5 : Nat) (Option.some Jvm.ClassFile.FieldType.boolean)) ∈ lw_all := lw_g (lw_at lw_m8 78 rfl) rfl
theorem q1859 : (Jvm.Cond.instanceMethod ({ cls := "DimpleWells", name := "look", desc := "(II)I" } : Jvm.MethodName)) ∈ lw_all := lw_g (lw_at lw_m8 83 rfl) rfl
theorem q1860 : (Jvm.Cond.selects "DimpleWells" ({ cls := "DimpleWells", name := "look", desc := "(II)I" } : Jvm.MethodName) ({ cls := "DimpleWells", name := "look", desc := "(II)I" } : Jvm.MethodName)) ∈ lw_all := lw_g (lw_at lw_m8 84 rfl) rfl
theorem q1861 : (Jvm.Cond.code ({ cls := "DimpleWells", name := "look", desc := "(II)I" } : Jvm.MethodName) prog_1_method_54_code (7 : Nat) (Option.some Jvm.ClassFile.FieldType.int)) ∈ lw_all := lw_g (lw_at lw_m8 85 rfl) rfl
theorem q1862 : (Jvm.Cond.methodLink "DimpleWells" (378 : Nat) ({ cls := "DimpleWells", name := "worstAt", desc := "(II)I" } : Jvm.MethodName)) ∈ lw_all := lw_g (lw_at lw_m8 86 rfl) rfl
theorem q1863 : (Jvm.Cond.privateMethod ({ cls := "DimpleWells", name := "worstAt", desc := "(II)I" } : Jvm.MethodName)) ∈ lw_tbl := lw_at lw_m8 87 rfl
theorem q1864 : (Jvm.Cond.instanceMethod ({ cls := "DimpleWells", name := "worstAt", desc := "(II)I" } : Jvm.MethodName)) ∈ lw_all := lw_g (lw_at lw_m8 88 rfl) rfl
theorem q1865 : (Jvm.Cond.code ({ cls := "DimpleWells", name := "worstAt", desc := "(II)I" } : Jvm.MethodName) prog_1_method_53_code (7 : Nat) (Option.some Jvm.ClassFile.FieldType.int)) ∈ lw_all := lw_g (lw_at lw_m8 89 rfl) rfl
theorem q1870 : (Jvm.Cond.instanceMethod ({ cls := "DimpleWells", name := "way", desc := "(II)I" } : Jvm.MethodName)) ∈ lw_all := lw_g (lw_at lw_m8 94 rfl) rfl
theorem q1871 : (Jvm.Cond.selects "DimpleWells" ({ cls := "DimpleWells", name := "way", desc := "(II)I" } : Jvm.MethodName) ({ cls := "DimpleWells", name := "way", desc := "(II)I" } : Jvm.MethodName)) ∈ lw_all := lw_g (lw_at lw_m8 95 rfl) rfl
theorem q1872 : (Jvm.Cond.code ({ cls := "DimpleWells", name := "way", desc := "(II)I" } : Jvm.MethodName) prog_1_method_56_code (5 : Nat) (Option.some Jvm.ClassFile.FieldType.int)) ∈ lw_all := lw_g (lw_at lw_m8 96 rfl) rfl
theorem q1877 : (Jvm.Cond.instanceMethod ({ cls := "DimpleWells", name := "comedians", desc := "(IIII)I" } : Jvm.MethodName)) ∈ lw_all := lw_g (lw_at lw_m8 101 rfl) rfl
theorem q1878 : (Jvm.Cond.selects "DimpleWells" ({ cls := "DimpleWells", name := "comedians", desc := "(IIII)I" } : Jvm.MethodName) ({ cls := "DimpleWells", name := "comedians", desc := "(IIII)I" } : Jvm.MethodName)) ∈ lw_all := lw_g (lw_at lw_m8 102 rfl) rfl
theorem q1879 : (Jvm.Cond.code ({ cls := "DimpleWells", name := "comedians", desc := "(IIII)I" } : Jvm.MethodName) prog_1_method_60_code (9 : Nat) (Option.some Jvm.ClassFile.FieldType.int)) ∈ lw_all := lw_g (lw_at lw_m8 103 rfl) rfl
theorem q1880 : (Jvm.Cond.methodLink "DimpleWells" (388 : Nat) ({ cls := "DimpleWells", name := "isRest", desc := "(IIIII)Z" } : Jvm.MethodName)) ∈ lw_all := lw_g (lw_at lw_m8 104 rfl) rfl
theorem q1881 : (Jvm.Cond.static ({ cls := "DimpleWells", name := "isRest", desc := "(IIIII)Z" } : Jvm.MethodName)) ∈ lw_all := lw_g (lw_at lw_m8 105 rfl) rfl
theorem q1882 : (Jvm.Cond.code ({ cls := "DimpleWells", name := "isRest", desc := "(IIIII)Z" } : Jvm.MethodName) prog_1_method_59_code (6 : Nat) (Option.some Jvm.ClassFile.FieldType.boolean)) ∈ lw_all := lw_g (lw_at lw_m8 106 rfl) rfl
theorem q1883 : (Jvm.Cond.methodLink "DimpleWells" (384 : Nat) ({ cls := "DimpleWells", name := "hasBy", desc := "(IIII)I" } : Jvm.MethodName)) ∈ lw_all := lw_g (lw_at lw_m8 107 rfl) rfl
theorem q1884 : (Jvm.Cond.static ({ cls := "DimpleWells", name := "hasBy", desc := "(IIII)I" } : Jvm.MethodName)) ∈ lw_all := lw_g (lw_at lw_m8 108 rfl) rfl
theorem q1885 : (Jvm.Cond.code ({ cls := "DimpleWells", name := "hasBy", desc := "(IIII)I" } : Jvm.MethodName) prog_1_method_58_code (4 : Nat) (Option.some Jvm.ClassFile.FieldType.int)) ∈ lw_all := lw_g (lw_at lw_m8 109 rfl) rfl
theorem q1890 : (Jvm.Cond.instanceMethod ({ cls := "DimpleWells", name := "some", desc := "(IIII)J" } : Jvm.MethodName)) ∈ lw_all := lw_g (lw_at lw_m8 114 rfl) rfl
theorem q1891 : (Jvm.Cond.selects "DimpleWells" ({ cls := "DimpleWells", name := "some", desc := "(IIII)J" } : Jvm.MethodName) ({ cls := "DimpleWells", name := "some", desc := "(IIII)J" } : Jvm.MethodName)) ∈ lw_all := lw_g (lw_at lw_m8 115 rfl) rfl
theorem q1892 : (Jvm.Cond.code ({ cls := "DimpleWells", name := "some", desc := "(IIII)J" } : Jvm.MethodName) prog_1_method_63_code (15 : Nat) (Option.some Jvm.ClassFile.FieldType.long)) ∈ lw_all := lw_g (lw_at lw_m8 116 rfl) rfl
theorem q1893 : (Jvm.Cond.methodLink "DimpleWells" (392 : Nat) ({ cls := "DimpleWells", name := "ways", desc := "(II)J" } : Jvm.MethodName)) ∈ lw_all := lw_g (lw_at lw_m8 117 rfl) rfl
theorem q1894 : (Jvm.Cond.static ({ cls := "DimpleWells", name := "ways", desc := "(II)J" } : Jvm.MethodName)) ∈ lw_all := lw_g (lw_at lw_m8 118 rfl) rfl
theorem q1895 : (Jvm.Cond.code ({ cls := "DimpleWells", name := "ways", desc := "(II)J" } : Jvm.MethodName) prog_1_method_62_code (5 : Nat) (Option.some Jvm.ClassFile.FieldType.long)) ∈ lw_all := lw_g (lw_at lw_m8 119 rfl) rfl
theorem q1896 : (Jvm.Cond.methodLink "DimpleWells" (396 : Nat) ({ cls := "DimpleWells", name := "power", desc := "(JI)J" } : Jvm.MethodName)) ∈ lw_all := lw_g (lw_at lw_m8 120 rfl) rfl
theorem q1897 : (Jvm.Cond.static ({ cls := "DimpleWells", name := "power", desc := "(JI)J" } : Jvm.MethodName)) ∈ lw_all := lw_g (lw_at lw_m8 121 rfl) rfl
theorem q1898 : (Jvm.Cond.code ({ cls := "DimpleWells", name := "power", desc := "(JI)J" } : Jvm.MethodName) prog_1_method_61_code (6 : Nat) (Option.some Jvm.ClassFile.FieldType.long)) ∈ lw_all := lw_g (lw_at lw_m8 122 rfl) rfl
theorem q1899 : (Jvm.Cond.constantLong "DimpleWells" (400 : Nat) (16 : Int64)) ∈ lw_all := lw_g (lw_at lw_m8 123 rfl) rfl
theorem q1904 : (Jvm.Cond.instanceMethod ({ cls := "DimpleWells", name := "share", desc := "(III)I" } : Jvm.MethodName)) ∈ lw_all := lw_g (lw_at lw_m8 128 rfl) rfl
theorem q1905 : (Jvm.Cond.selects "DimpleWells" ({ cls := "DimpleWells", name := "share", desc := "(III)I" } : Jvm.MethodName) ({ cls := "DimpleWells", name := "share", desc := "(III)I" } : Jvm.MethodName)) ∈ lw_all := lw_g (lw_at lw_m8 129 rfl) rfl
theorem q1906 : (Jvm.Cond.code ({ cls := "DimpleWells", name := "share", desc := "(III)I" } : Jvm.MethodName) prog_1_method_65_code (5 : Nat) (Option.some Jvm.ClassFile.FieldType.int)) ∈ lw_all := lw_g (lw_at lw_m8 130 rfl) rfl
theorem q1907 : (Jvm.Cond.methodLink "DimpleWells" (402 : Nat) ({ cls := "DimpleWells", name := "shared", desc := "(II)I" } : Jvm.MethodName)) ∈ lw_all := lw_g (lw_at lw_m8 131 rfl) rfl
theorem q1908 : (Jvm.Cond.privateMethod ({ cls := "DimpleWells", name := "shared", desc := "(II)I" } : Jvm.MethodName)) ∈ lw_tbl := lw_at lw_m8 132 rfl
theorem q1909 : (Jvm.Cond.instanceMethod ({ cls := "DimpleWells", name := "shared", desc := "(II)I" } : Jvm.MethodName)) ∈ lw_all := lw_g (lw_at lw_m8 133 rfl) rfl
theorem q1910 : (Jvm.Cond.code ({ cls := "DimpleWells", name := "shared", desc := "(II)I" } : Jvm.MethodName) prog_1_method_64_code (5 : Nat) (Option.some Jvm.ClassFile.FieldType.int)) ∈ lw_all := lw_g (lw_at lw_m8 134 rfl) rfl
theorem q1915 : (Jvm.Cond.instanceMethod ({ cls := "DimpleWells", name := "likes", desc := "(II)I" } : Jvm.MethodName)) ∈ lw_all := lw_g (lw_at lw_m8 139 rfl) rfl
theorem q1916 : (Jvm.Cond.selects "DimpleWells" ({ cls := "DimpleWells", name := "likes", desc := "(II)I" } : Jvm.MethodName) ({ cls := "DimpleWells", name := "likes", desc := "(II)I" } : Jvm.MethodName)) ∈ lw_all := lw_g (lw_at lw_m8 140 rfl) rfl
theorem q1917 : (Jvm.Cond.code ({ cls := "DimpleWells", name := "likes", desc := "(II)I" } : Jvm.MethodName) prog_1_method_34_code (5 : Nat) (Option.some Jvm.ClassFile.FieldType.int)) ∈ lw_all := lw_g (lw_at lw_m8 141 rfl) rfl
theorem q1922 : (Jvm.Cond.instanceMethod ({ cls := "DimpleWells", name := "solemn", desc := "(I)I" } : Jvm.MethodName)) ∈ lw_all := lw_g (lw_at lw_m8 146 rfl) rfl
theorem q1923 : (Jvm.Cond.selects "DimpleWells" ({ cls := "DimpleWells", name := "solemn", desc := "(I)I" } : Jvm.MethodName) ({ cls := "DimpleWells", name := "solemn", desc := "(I)I" } : Jvm.MethodName)) ∈ lw_all := lw_g (lw_at lw_m8 147 rfl) rfl
theorem q1924 : (Jvm.Cond.code ({ cls := "DimpleWells", name := "solemn", desc := "(I)I" } : Jvm.MethodName) prog_1_method_35_code (4 : Nat) (Option.some Jvm.ClassFile.FieldType.int)) ∈ lw_all := lw_g (lw_at lw_m8 148 rfl) rfl
theorem q1929 : (Jvm.Cond.instanceMethod ({ cls := "DimpleWells", name := "driest", desc := "(I)I" } : Jvm.MethodName)) ∈ lw_all := lw_g (lw_at lw_m8 153 rfl) rfl
theorem q1930 : (Jvm.Cond.selects "DimpleWells" ({ cls := "DimpleWells", name := "driest", desc := "(I)I" } : Jvm.MethodName) ({ cls := "DimpleWells", name := "driest", desc := "(I)I" } : Jvm.MethodName)) ∈ lw_all := lw_g (lw_at lw_m8 154 rfl) rfl
theorem q1931 : (Jvm.Cond.code ({ cls := "DimpleWells", name := "driest", desc := "(I)I" } : Jvm.MethodName) prog_1_method_36_code (4 : Nat) (Option.some Jvm.ClassFile.FieldType.int)) ∈ lw_all := lw_g (lw_at lw_m8 155 rfl) rfl
theorem q1936 : (Jvm.Cond.instanceMethod ({ cls := "DimpleWells", name := "alike", desc := "(I)I" } : Jvm.MethodName)) ∈ lw_all := lw_g (lw_at lw_m8 160 rfl) rfl
theorem q1937 : (Jvm.Cond.selects "DimpleWells" ({ cls := "DimpleWells", name := "alike", desc := "(I)I" } : Jvm.MethodName) ({ cls := "DimpleWells", name := "alike", desc := "(I)I" } : Jvm.MethodName)) ∈ lw_all := lw_g (lw_at lw_m8 161 rfl) rfl
theorem q1938 : (Jvm.Cond.code ({ cls := "DimpleWells", name := "alike", desc := "(I)I" } : Jvm.MethodName) prog_1_method_37_code (6 : Nat) (Option.some Jvm.ClassFile.FieldType.int)) ∈ lw_all := lw_g (lw_at lw_m8 162 rfl) rfl
theorem q1943 : (Jvm.Cond.instanceMethod ({ cls := "DimpleWells", name := "year", desc := "(IIII)I" } : Jvm.MethodName)) ∈ lw_all := lw_g (lw_at lw_m8 167 rfl) rfl
theorem q1944 : (Jvm.Cond.selects "DimpleWells" ({ cls := "DimpleWells", name := "year", desc := "(IIII)I" } : Jvm.MethodName) ({ cls := "DimpleWells", name := "year", desc := "(IIII)I" } : Jvm.MethodName)) ∈ lw_all := lw_g (lw_at lw_m8 168 rfl) rfl
theorem q1945 : (Jvm.Cond.code ({ cls := "DimpleWells", name := "year", desc := "(IIII)I" } : Jvm.MethodName) prog_1_method_69_code (6 : Nat) (Option.some Jvm.ClassFile.FieldType.int)) ∈ lw_all := lw_g (lw_at lw_m8 169 rfl) rfl
theorem q1946 : (Jvm.Cond.methodLink "DimpleWells" (418 : Nat) ({ cls := "DimpleWells", name := "isYear", desc := "(II)Z" } : Jvm.MethodName)) ∈ lw_all := lw_g (lw_at lw_m8 170 rfl) rfl
theorem q1947 : (Jvm.Cond.static ({ cls := "DimpleWells", name := "isYear", desc := "(II)Z" } : Jvm.MethodName)) ∈ lw_all := lw_g (lw_at lw_m8 171 rfl) rfl
theorem q1948 : (Jvm.Cond.code ({ cls := "DimpleWells", name := "isYear", desc := "(II)Z" } : Jvm.MethodName) prog_1_method_68_code (2 : Nat) (Option.some Jvm.ClassFile.FieldType.boolean)) ∈ lw_all := lw_g (lw_at lw_m8 172 rfl) rfl
theorem q1949 : (Jvm.Cond.methodLink "DimpleWells" (421 : Nat) ({ cls := "DimpleWells", name := "yearBy", desc := "(III)LDimpleWells$Season;" } : Jvm.MethodName)) ∈ lw_all := lw_g (lw_at lw_m8 173 rfl) rfl
theorem q1950 : (Jvm.Cond.privateMethod ({ cls := "DimpleWells", name := "yearBy", desc := "(III)LDimpleWells$Season;" } : Jvm.MethodName)) ∈ lw_tbl := lw_at lw_m8 174 rfl
theorem q1951 : (Jvm.Cond.instanceMethod ({ cls := "DimpleWells", name := "yearBy", desc := "(III)LDimpleWells$Season;" } : Jvm.MethodName)) ∈ lw_all := lw_g (lw_at lw_m8 175 rfl) rfl
theorem q1952 : (Jvm.Cond.code ({ cls := "DimpleWells", name := "yearBy", desc := "(III)LDimpleWells$Season;" } : Jvm.MethodName) prog_1_method_67_code (8 : Nat) (Option.some (Jvm.ClassFile.FieldType.object "DimpleWells$Season"))) ∈ lw_all := lw_g (lw_at lw_m8 176 rfl) rfl
theorem q1953 : (Jvm.Cond.methodLink "DimpleWells" (409 : Nat) ({ cls := "DimpleWells", name := "draw", desc := "(I)I" } : Jvm.MethodName)) ∈ lw_all := lw_g (lw_at lw_m8 177 rfl) rfl
theorem q1954 : (Jvm.Cond.privateMethod ({ cls := "DimpleWells", name := "draw", desc := "(I)I" } : Jvm.MethodName)) ∈ lw_tbl := lw_at lw_m8 178 rfl
theorem q1955 : (Jvm.Cond.instanceMethod ({ cls := "DimpleWells", name := "draw", desc := "(I)I" } : Jvm.MethodName)) ∈ lw_all := lw_g (lw_at lw_m8 179 rfl) rfl
theorem q1956 : (Jvm.Cond.code ({ cls := "DimpleWells", name := "draw", desc := "(I)I" } : Jvm.MethodName) prog_1_method_66_code (2 : Nat) (Option.some Jvm.ClassFile.FieldType.int)) ∈ lw_all := lw_g (lw_at lw_m8 180 rfl) rfl
theorem q1957 : (Jvm.Cond.constant "DimpleWells" (408 : Nat) (1103515245 : Int32)) ∈ lw_all := lw_g (lw_at lw_m8 181 rfl) rfl
theorem q1958 : (Jvm.Cond.methodLink "DimpleWells" (412 : Nat) ({ cls := "DimpleWells$Season", name := "tells", desc := "(II)Z" } : Jvm.MethodName)) ∈ lw_all := lw_g (lw_at lw_m8 182 rfl) rfl
theorem q1959 : (Jvm.Cond.methodLink "DimpleWells" (415 : Nat) ({ cls := "DimpleWells$Season", name := "grieves", desc := "(II)Z" } : Jvm.MethodName)) ∈ lw_all := lw_g (lw_at lw_m8 183 rfl) rfl
theorem q1964 : (Jvm.Cond.instanceMethod ({ cls := "DimpleWells", name := "span", desc := "(IIIIII)I" } : Jvm.MethodName)) ∈ lw_all := lw_g (lw_at lw_m8 188 rfl) rfl
theorem q1965 : (Jvm.Cond.selects "DimpleWells" ({ cls := "DimpleWells", name := "span", desc := "(IIIIII)I" } : Jvm.MethodName) ({ cls := "DimpleWells", name := "span", desc := "(IIIIII)I" } : Jvm.MethodName)) ∈ lw_all := lw_g (lw_at lw_m8 189 rfl) rfl
theorem q1966 : (Jvm.Cond.code ({ cls := "DimpleWells", name := "span", desc := "(IIIIII)I" } : Jvm.MethodName) prog_1_method_70_code (12 : Nat) (Option.some Jvm.ClassFile.FieldType.int)) ∈ lw_all := lw_g (lw_at lw_m8 190 rfl) rfl
theorem q2582 : (Jvm.Cond.castable "DimpleWells" "java/lang/Object") ∈ lw_tbl := lw_at lw_m11 86 rfl
theorem in_X1 : ∀ w ∈ wsX10, w ∈ lw_all := lw_in wsX10 [691, 693, 695, 697, 699, 701, 703, 705, 707, 709, 711, 713, 715, 717, 719, 721, 723, 725, 727, 729, 731, 733, 735] (by decide +kernel) (by decide +kernel)
