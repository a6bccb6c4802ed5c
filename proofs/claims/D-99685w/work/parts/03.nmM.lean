/-! DimpleWellsModel -/
set_option maxRecDepth 100000
def RX10 : String := "DimpleWellsModel"
def TX10 : u_T := fun k => match k with
  | 0 => ("DimpleWellsModel", "thrown", "I", false)
  | 1 => ("DimpleWellsModel", "tape", "I", false)
  | 2 => ("DimpleWellsModel", "size", "I", false)
  | 3 => ("DimpleWellsModel", "place", "I", false)
  | 4 => ("DimpleWellsModel", "at", "I", false)
  | 5 => ("DimpleWellsModel", "fault", "I", false)
  | 6 => ("DimpleWellsModel", "faultAt", "I", false)
  | 7 => ("DimpleWellsModel", "clauses", "I", false)
  | 8 => ("DimpleWellsModel", "open", "I", false)
  | 9 => ("DimpleWellsModel", "fed", "[I", true)
  | 10 => ("DimpleWellsModel", "refused", "[I", true)
  | 11 => ("DimpleWellsModel", "readTold", "[I", true)
  | 12 => ("DimpleWellsModel", "told", "[I", true)
  | 13 => ("DimpleWellsModel", "readPerson", "[[I", true)
  | 14 => ("DimpleWellsModel", "person", "[[I", true)
  | 15 => ("DimpleWellsModel", "readJoke", "[[I", true)
  | 16 => ("DimpleWellsModel", "joke", "[[I", true)
  | 17 => ("DimpleWellsModel", "readStreet", "[[I", true)
  | 18 => ("DimpleWellsModel", "street", "[[I", true)
  | 19 => ("DimpleWellsModel", "lawMany", "I", false)
  | 20 => ("DimpleWellsModel", "readLawMany", "I", false)
  | 21 => ("DimpleWellsModel", "law", "[[I", true)
  | 22 => ("DimpleWellsModel", "readLaw", "[[I", true)
  | 23 => ("DimpleWellsModel", "line", "[[I", true)
  | 24 => ("DimpleWellsModel", "readLine", "[[I", true)
  | 25 => ("DimpleWellsModel", "stack", "[I", true)
  | 26 => ("DimpleWellsModel", "known", "[I", true)
  | 27 => ("DimpleWellsModel", "step", "[[I", true)
  | 28 => ("DimpleWellsModel", "steps", "I", false)
  | 29 => ("DimpleWellsModel", "now", "[I", true)
  | 30 => ("DimpleWellsModel", "trial", "[I", true)
  | 31 => ("DimpleWellsModel", "before", "[[I", true)
  | 32 => ("DimpleWellsModel", "kept", "[[I", true)
  | 33 => ("DimpleWellsModel", "lines", "I", false)
  | 34 => ("DimpleWellsModel", "works", "I", false)
  | 35 => ("DimpleWellsModel", "refusedSteps", "I", false)
  | 36 => ("DimpleWellsModel", "images", "I", false)
  | 37 => ("DimpleWellsModel", "spot", "I", false)
  | 38 => ("DimpleWellsModel", "begun", "I", false)
  | 39 => ("DimpleWellsModel", "doneSteps", "I", false)
  | 40 => ("DimpleWellsModel", "to", "[I", true)
  | 41 => ("DimpleWellsModel", "bestTo", "[I", true)
  | 42 => ("DimpleWellsModel", "mostWater", "I", false)
  | 43 => ("DimpleWellsModel", "seen", "[I", true)
  | 44 => ("DimpleWellsModel", "exact", "[J", true)
  | _ => ("DimpleWellsModel", "lots", "I", false)
def tyX10 : Nat → FieldType := fun k => match k with
  | 0 => .int
  | 1 => .int
  | 2 => .int
  | 3 => .int
  | 4 => .int
  | 5 => .int
  | 6 => .int
  | 7 => .int
  | 8 => .int
  | 9 => .array .int
  | 10 => .array .int
  | 11 => .array .int
  | 12 => .array .int
  | 13 => .array (.array .int)
  | 14 => .array (.array .int)
  | 15 => .array (.array .int)
  | 16 => .array (.array .int)
  | 17 => .array (.array .int)
  | 18 => .array (.array .int)
  | 19 => .int
  | 20 => .int
  | 21 => .array (.array .int)
  | 22 => .array (.array .int)
  | 23 => .array (.array .int)
  | 24 => .array (.array .int)
  | 25 => .array .int
  | 26 => .array .int
  | 27 => .array (.array .int)
  | 28 => .int
  | 29 => .array .int
  | 30 => .array .int
  | 31 => .array (.array .int)
  | 32 => .array (.array .int)
  | 33 => .int
  | 34 => .int
  | 35 => .int
  | 36 => .int
  | 37 => .int
  | 38 => .int
  | 39 => .int
  | 40 => .array .int
  | 41 => .array .int
  | 42 => .int
  | 43 => .array .int
  | 44 => .array .long
  | _ => .int
abbrev wsX100 : List Cond := u_ws RX10 TX10 46
set_option maxRecDepth 100000 in
theorem nmX10 : ∀ a, a < 46 → ∀ b, b < 46 → a ≠ b → (TX10 a).2.1 ≠ (TX10 b).2.1 := by decide +kernel
set_option maxRecDepth 100000 in
theorem tyX10_ok : ∀ k, k < 46 → parseFieldDescriptor (TX10 k).2.2.1 = some (tyX10 k) := by decide +kernel
abbrev cX10_init : ByteArray := prog_32_method_1_code
def yX10_init : MethodName := ⟨RX10, "<init>", "()V"⟩
def dkwX10_init_11 : List UInt8 := [182, 0, 92, 42, 182, 0, 95, 177]
abbrev dktX10_init_11 : List UInt8 := dkwX10_init_11 ++ []
def dkwX10_init_10 : List UInt8 := [16, 6, 188, 10, 181, 0, 82, 42, 16, 41, 188, 10, 181, 0, 85, 42, 16, 14, 188, 11, 181, 0, 88, 42]
abbrev dktX10_init_10 : List UInt8 := dkwX10_init_10 ++ dktX10_init_11
def dkwX10_init_9 : List UInt8 := [181, 0, 73, 42, 6, 17, 5, 64, 197, 0, 26, 2, 181, 0, 76, 42, 16, 6, 188, 10, 181, 0, 79, 42]
abbrev dktX10_init_9 : List UInt8 := dkwX10_init_9 ++ dktX10_init_10
def dkwX10_init_8 : List UInt8 := [16, 79, 188, 10, 181, 0, 67, 42, 16, 79, 188, 10, 181, 0, 70, 42, 16, 16, 16, 79, 197, 0, 26, 2]
abbrev dktX10_init_8 : List UInt8 := dkwX10_init_8 ++ dktX10_init_9
def dkwX10_init_7 : List UInt8 := [181, 0, 58, 42, 16, 10, 188, 10, 181, 0, 61, 42, 16, 80, 7, 197, 0, 26, 2, 181, 0, 64, 42]
abbrev dktX10_init_7 : List UInt8 := dkwX10_init_7 ++ dktX10_init_8
def dkwX10_init_6 : List UInt8 := [197, 0, 26, 2, 181, 0, 52, 42, 16, 6, 5, 197, 0, 26, 2, 181, 0, 55, 42, 17, 0, 160, 188, 10]
abbrev dktX10_init_6 : List UInt8 := dkwX10_init_6 ++ dktX10_init_7
def dkwX10_init_5 : List UInt8 := [197, 0, 26, 2, 181, 0, 46, 42, 17, 0, 160, 5, 197, 0, 26, 2, 181, 0, 49, 42, 16, 6, 5]
abbrev dktX10_init_5 : List UInt8 := dkwX10_init_5 ++ dktX10_init_6
def dkwX10_init_4 : List UInt8 := [197, 0, 26, 2, 181, 0, 40, 42, 16, 12, 5, 197, 0, 26, 2, 181, 0, 43, 42, 17, 0, 160, 5]
abbrev dktX10_init_4 : List UInt8 := dkwX10_init_4 ++ dktX10_init_5
def dkwX10_init_3 : List UInt8 := [197, 0, 26, 2, 181, 0, 34, 42, 16, 6, 5, 197, 0, 26, 2, 181, 0, 37, 42, 16, 12, 5]
abbrev dktX10_init_3 : List UInt8 := dkwX10_init_3 ++ dktX10_init_4
def dkwX10_init_2 : List UInt8 := [197, 0, 26, 2, 181, 0, 28, 42, 16, 7, 5, 197, 0, 26, 2, 181, 0, 31, 42, 16, 6, 5]
abbrev dktX10_init_2 : List UInt8 := dkwX10_init_2 ++ dktX10_init_3
def dkwX10_init_1 : List UInt8 := [181, 0, 17, 42, 8, 188, 10, 181, 0, 20, 42, 8, 188, 10, 181, 0, 23, 42, 16, 7, 5]
abbrev dktX10_init_1 : List UInt8 := dkwX10_init_1 ++ dktX10_init_2
def dkwX10_init_0 : List UInt8 := [42, 183, 0, 1, 42, 2, 181, 0, 9, 42, 17, 2, 88, 188, 10, 181, 0, 13, 42, 5, 188, 10]
abbrev dktX10_init_0 : List UInt8 := dkwX10_init_0 ++ dktX10_init_1
theorem dksX10_init_0 : cX10_init.data.toList.drop 0 = dktX10_init_0 := by decide +kernel
theorem dksX10_init_1 : cX10_init.data.toList.drop 22 = dktX10_init_1 := dk_seg dksX10_init_0 22 rfl rfl
theorem dksX10_init_2 : cX10_init.data.toList.drop 43 = dktX10_init_2 := dk_seg dksX10_init_1 21 rfl rfl
theorem dksX10_init_3 : cX10_init.data.toList.drop 65 = dktX10_init_3 := dk_seg dksX10_init_2 22 rfl rfl
theorem dksX10_init_4 : cX10_init.data.toList.drop 87 = dktX10_init_4 := dk_seg dksX10_init_3 22 rfl rfl
theorem dksX10_init_5 : cX10_init.data.toList.drop 110 = dktX10_init_5 := dk_seg dksX10_init_4 23 rfl rfl
theorem dksX10_init_6 : cX10_init.data.toList.drop 133 = dktX10_init_6 := dk_seg dksX10_init_5 23 rfl rfl
theorem dksX10_init_7 : cX10_init.data.toList.drop 157 = dktX10_init_7 := dk_seg dksX10_init_6 24 rfl rfl
theorem dksX10_init_8 : cX10_init.data.toList.drop 180 = dktX10_init_8 := dk_seg dksX10_init_7 23 rfl rfl
theorem dksX10_init_9 : cX10_init.data.toList.drop 204 = dktX10_init_9 := dk_seg dksX10_init_8 24 rfl rfl
theorem dksX10_init_10 : cX10_init.data.toList.drop 228 = dktX10_init_10 := dk_seg dksX10_init_9 24 rfl rfl
theorem dksX10_init_11 : cX10_init.data.toList.drop 252 = dktX10_init_11 := dk_seg dksX10_init_10 24 rfl rfl
theorem dX10_init_0 : decode cX10_init 0 = .ok (.aload_n 0, 1) := dk_42 (dk_at dksX10_init_0 0 rfl rfl)
theorem dX10_init_1 : decode cX10_init 1 = .ok (.invokespecial 1, 3) := dk_183 0 1 (dk_at dksX10_init_0 1 rfl rfl)
theorem dX10_init_4 : decode cX10_init 4 = .ok (.aload_n 0, 1) := dk_42 (dk_at dksX10_init_0 4 rfl rfl)
theorem dX10_init_5 : decode cX10_init 5 = .ok (.iconst (-1), 1) := dk_2 (dk_at dksX10_init_0 5 rfl rfl)
theorem dX10_init_6 : decode cX10_init 6 = .ok (.putfield 9, 3) := dk_181 0 9 (dk_at dksX10_init_0 6 rfl rfl)
theorem dX10_init_9 : decode cX10_init 9 = .ok (.aload_n 0, 1) := dk_42 (dk_at dksX10_init_0 9 rfl rfl)
theorem dX10_init_10 : decode cX10_init 10 = .ok (.sipush 600, 3) := dk_17 2 88 (dk_at dksX10_init_0 10 rfl rfl)
theorem dX10_init_13 : decode cX10_init 13 = .ok (.newarray .int, 2) := dk_188_10 (dk_at dksX10_init_0 13 rfl rfl)
theorem dX10_init_15 : decode cX10_init 15 = .ok (.putfield 13, 3) := dk_181 0 13 (dk_at dksX10_init_0 15 rfl rfl)
theorem dX10_init_18 : decode cX10_init 18 = .ok (.aload_n 0, 1) := dk_42 (dk_at dksX10_init_0 18 rfl rfl)
theorem dX10_init_19 : decode cX10_init 19 = .ok (.iconst 2, 1) := dk_5 (dk_at dksX10_init_0 19 rfl rfl)
theorem dX10_init_20 : decode cX10_init 20 = .ok (.newarray .int, 2) := dk_188_10 (dk_at dksX10_init_0 20 rfl rfl)
theorem dX10_init_22 : decode cX10_init 22 = .ok (.putfield 17, 3) := dk_181 0 17 (dk_at dksX10_init_1 0 rfl rfl)
theorem dX10_init_25 : decode cX10_init 25 = .ok (.aload_n 0, 1) := dk_42 (dk_at dksX10_init_1 3 rfl rfl)
theorem dX10_init_26 : decode cX10_init 26 = .ok (.iconst 5, 1) := dk_8 (dk_at dksX10_init_1 4 rfl rfl)
theorem dX10_init_27 : decode cX10_init 27 = .ok (.newarray .int, 2) := dk_188_10 (dk_at dksX10_init_1 5 rfl rfl)
theorem dX10_init_29 : decode cX10_init 29 = .ok (.putfield 20, 3) := dk_181 0 20 (dk_at dksX10_init_1 7 rfl rfl)
theorem dX10_init_32 : decode cX10_init 32 = .ok (.aload_n 0, 1) := dk_42 (dk_at dksX10_init_1 10 rfl rfl)
theorem dX10_init_33 : decode cX10_init 33 = .ok (.iconst 5, 1) := dk_8 (dk_at dksX10_init_1 11 rfl rfl)
theorem dX10_init_34 : decode cX10_init 34 = .ok (.newarray .int, 2) := dk_188_10 (dk_at dksX10_init_1 12 rfl rfl)
theorem dX10_init_36 : decode cX10_init 36 = .ok (.putfield 23, 3) := dk_181 0 23 (dk_at dksX10_init_1 14 rfl rfl)
theorem dX10_init_39 : decode cX10_init 39 = .ok (.aload_n 0, 1) := dk_42 (dk_at dksX10_init_1 17 rfl rfl)
theorem dX10_init_40 : decode cX10_init 40 = .ok (.bipush 7, 2) := dk_16 7 (dk_at dksX10_init_1 18 rfl rfl)
theorem dX10_init_42 : decode cX10_init 42 = .ok (.iconst 2, 1) := dk_5 (dk_at dksX10_init_1 20 rfl rfl)
theorem dX10_init_43 : decode cX10_init 43 = .ok (.multianewarray 26 2, 4) := by decide +kernel
theorem dX10_init_47 : decode cX10_init 47 = .ok (.putfield 28, 3) := dk_181 0 28 (dk_at dksX10_init_2 4 rfl rfl)
theorem dX10_init_50 : decode cX10_init 50 = .ok (.aload_n 0, 1) := dk_42 (dk_at dksX10_init_2 7 rfl rfl)
theorem dX10_init_51 : decode cX10_init 51 = .ok (.bipush 7, 2) := dk_16 7 (dk_at dksX10_init_2 8 rfl rfl)
theorem dX10_init_53 : decode cX10_init 53 = .ok (.iconst 2, 1) := dk_5 (dk_at dksX10_init_2 10 rfl rfl)
theorem dX10_init_54 : decode cX10_init 54 = .ok (.multianewarray 26 2, 4) := by decide +kernel
theorem dX10_init_58 : decode cX10_init 58 = .ok (.putfield 31, 3) := dk_181 0 31 (dk_at dksX10_init_2 15 rfl rfl)
theorem dX10_init_61 : decode cX10_init 61 = .ok (.aload_n 0, 1) := dk_42 (dk_at dksX10_init_2 18 rfl rfl)
theorem dX10_init_62 : decode cX10_init 62 = .ok (.bipush 6, 2) := dk_16 6 (dk_at dksX10_init_2 19 rfl rfl)
theorem dX10_init_64 : decode cX10_init 64 = .ok (.iconst 2, 1) := dk_5 (dk_at dksX10_init_2 21 rfl rfl)
theorem dX10_init_65 : decode cX10_init 65 = .ok (.multianewarray 26 2, 4) := by decide +kernel
theorem dX10_init_69 : decode cX10_init 69 = .ok (.putfield 34, 3) := dk_181 0 34 (dk_at dksX10_init_3 4 rfl rfl)
theorem dX10_init_72 : decode cX10_init 72 = .ok (.aload_n 0, 1) := dk_42 (dk_at dksX10_init_3 7 rfl rfl)
theorem dX10_init_73 : decode cX10_init 73 = .ok (.bipush 6, 2) := dk_16 6 (dk_at dksX10_init_3 8 rfl rfl)
theorem dX10_init_75 : decode cX10_init 75 = .ok (.iconst 2, 1) := dk_5 (dk_at dksX10_init_3 10 rfl rfl)
theorem dX10_init_76 : decode cX10_init 76 = .ok (.multianewarray 26 2, 4) := by decide +kernel
theorem dX10_init_80 : decode cX10_init 80 = .ok (.putfield 37, 3) := dk_181 0 37 (dk_at dksX10_init_3 15 rfl rfl)
theorem dX10_init_83 : decode cX10_init 83 = .ok (.aload_n 0, 1) := dk_42 (dk_at dksX10_init_3 18 rfl rfl)
theorem dX10_init_84 : decode cX10_init 84 = .ok (.bipush 12, 2) := dk_16 12 (dk_at dksX10_init_3 19 rfl rfl)
theorem dX10_init_86 : decode cX10_init 86 = .ok (.iconst 2, 1) := dk_5 (dk_at dksX10_init_3 21 rfl rfl)
theorem dX10_init_87 : decode cX10_init 87 = .ok (.multianewarray 26 2, 4) := by decide +kernel
theorem dX10_init_91 : decode cX10_init 91 = .ok (.putfield 40, 3) := dk_181 0 40 (dk_at dksX10_init_4 4 rfl rfl)
theorem dX10_init_94 : decode cX10_init 94 = .ok (.aload_n 0, 1) := dk_42 (dk_at dksX10_init_4 7 rfl rfl)
theorem dX10_init_95 : decode cX10_init 95 = .ok (.bipush 12, 2) := dk_16 12 (dk_at dksX10_init_4 8 rfl rfl)
theorem dX10_init_97 : decode cX10_init 97 = .ok (.iconst 2, 1) := dk_5 (dk_at dksX10_init_4 10 rfl rfl)
theorem dX10_init_98 : decode cX10_init 98 = .ok (.multianewarray 26 2, 4) := by decide +kernel
theorem dX10_init_102 : decode cX10_init 102 = .ok (.putfield 43, 3) := dk_181 0 43 (dk_at dksX10_init_4 15 rfl rfl)
theorem dX10_init_105 : decode cX10_init 105 = .ok (.aload_n 0, 1) := dk_42 (dk_at dksX10_init_4 18 rfl rfl)
theorem dX10_init_106 : decode cX10_init 106 = .ok (.sipush 160, 3) := dk_17 0 160 (dk_at dksX10_init_4 19 rfl rfl)
theorem dX10_init_109 : decode cX10_init 109 = .ok (.iconst 2, 1) := dk_5 (dk_at dksX10_init_4 22 rfl rfl)
theorem dX10_init_110 : decode cX10_init 110 = .ok (.multianewarray 26 2, 4) := by decide +kernel
theorem dX10_init_114 : decode cX10_init 114 = .ok (.putfield 46, 3) := dk_181 0 46 (dk_at dksX10_init_5 4 rfl rfl)
theorem dX10_init_117 : decode cX10_init 117 = .ok (.aload_n 0, 1) := dk_42 (dk_at dksX10_init_5 7 rfl rfl)
theorem dX10_init_118 : decode cX10_init 118 = .ok (.sipush 160, 3) := dk_17 0 160 (dk_at dksX10_init_5 8 rfl rfl)
theorem dX10_init_121 : decode cX10_init 121 = .ok (.iconst 2, 1) := dk_5 (dk_at dksX10_init_5 11 rfl rfl)
theorem dX10_init_122 : decode cX10_init 122 = .ok (.multianewarray 26 2, 4) := by decide +kernel
theorem dX10_init_126 : decode cX10_init 126 = .ok (.putfield 49, 3) := dk_181 0 49 (dk_at dksX10_init_5 16 rfl rfl)
theorem dX10_init_129 : decode cX10_init 129 = .ok (.aload_n 0, 1) := dk_42 (dk_at dksX10_init_5 19 rfl rfl)
theorem dX10_init_130 : decode cX10_init 130 = .ok (.bipush 6, 2) := dk_16 6 (dk_at dksX10_init_5 20 rfl rfl)
theorem dX10_init_132 : decode cX10_init 132 = .ok (.iconst 2, 1) := dk_5 (dk_at dksX10_init_5 22 rfl rfl)
theorem dX10_init_133 : decode cX10_init 133 = .ok (.multianewarray 26 2, 4) := by decide +kernel
theorem dX10_init_137 : decode cX10_init 137 = .ok (.putfield 52, 3) := dk_181 0 52 (dk_at dksX10_init_6 4 rfl rfl)
theorem dX10_init_140 : decode cX10_init 140 = .ok (.aload_n 0, 1) := dk_42 (dk_at dksX10_init_6 7 rfl rfl)
theorem dX10_init_141 : decode cX10_init 141 = .ok (.bipush 6, 2) := dk_16 6 (dk_at dksX10_init_6 8 rfl rfl)
theorem dX10_init_143 : decode cX10_init 143 = .ok (.iconst 2, 1) := dk_5 (dk_at dksX10_init_6 10 rfl rfl)
theorem dX10_init_144 : decode cX10_init 144 = .ok (.multianewarray 26 2, 4) := by decide +kernel
theorem dX10_init_148 : decode cX10_init 148 = .ok (.putfield 55, 3) := dk_181 0 55 (dk_at dksX10_init_6 15 rfl rfl)
theorem dX10_init_151 : decode cX10_init 151 = .ok (.aload_n 0, 1) := dk_42 (dk_at dksX10_init_6 18 rfl rfl)
theorem dX10_init_152 : decode cX10_init 152 = .ok (.sipush 160, 3) := dk_17 0 160 (dk_at dksX10_init_6 19 rfl rfl)
theorem dX10_init_155 : decode cX10_init 155 = .ok (.newarray .int, 2) := dk_188_10 (dk_at dksX10_init_6 22 rfl rfl)
theorem dX10_init_157 : decode cX10_init 157 = .ok (.putfield 58, 3) := dk_181 0 58 (dk_at dksX10_init_7 0 rfl rfl)
theorem dX10_init_160 : decode cX10_init 160 = .ok (.aload_n 0, 1) := dk_42 (dk_at dksX10_init_7 3 rfl rfl)
theorem dX10_init_161 : decode cX10_init 161 = .ok (.bipush 10, 2) := dk_16 10 (dk_at dksX10_init_7 4 rfl rfl)
theorem dX10_init_163 : decode cX10_init 163 = .ok (.newarray .int, 2) := dk_188_10 (dk_at dksX10_init_7 6 rfl rfl)
theorem dX10_init_165 : decode cX10_init 165 = .ok (.putfield 61, 3) := dk_181 0 61 (dk_at dksX10_init_7 8 rfl rfl)
theorem dX10_init_168 : decode cX10_init 168 = .ok (.aload_n 0, 1) := dk_42 (dk_at dksX10_init_7 11 rfl rfl)
theorem dX10_init_169 : decode cX10_init 169 = .ok (.bipush 80, 2) := dk_16 80 (dk_at dksX10_init_7 12 rfl rfl)
theorem dX10_init_171 : decode cX10_init 171 = .ok (.iconst 4, 1) := dk_7 (dk_at dksX10_init_7 14 rfl rfl)
theorem dX10_init_172 : decode cX10_init 172 = .ok (.multianewarray 26 2, 4) := by decide +kernel
theorem dX10_init_176 : decode cX10_init 176 = .ok (.putfield 64, 3) := dk_181 0 64 (dk_at dksX10_init_7 19 rfl rfl)
theorem dX10_init_179 : decode cX10_init 179 = .ok (.aload_n 0, 1) := dk_42 (dk_at dksX10_init_7 22 rfl rfl)
theorem dX10_init_180 : decode cX10_init 180 = .ok (.bipush 79, 2) := dk_16 79 (dk_at dksX10_init_8 0 rfl rfl)
theorem dX10_init_182 : decode cX10_init 182 = .ok (.newarray .int, 2) := dk_188_10 (dk_at dksX10_init_8 2 rfl rfl)
theorem dX10_init_184 : decode cX10_init 184 = .ok (.putfield 67, 3) := dk_181 0 67 (dk_at dksX10_init_8 4 rfl rfl)
theorem dX10_init_187 : decode cX10_init 187 = .ok (.aload_n 0, 1) := dk_42 (dk_at dksX10_init_8 7 rfl rfl)
theorem dX10_init_188 : decode cX10_init 188 = .ok (.bipush 79, 2) := dk_16 79 (dk_at dksX10_init_8 8 rfl rfl)
theorem dX10_init_190 : decode cX10_init 190 = .ok (.newarray .int, 2) := dk_188_10 (dk_at dksX10_init_8 10 rfl rfl)
theorem dX10_init_192 : decode cX10_init 192 = .ok (.putfield 70, 3) := dk_181 0 70 (dk_at dksX10_init_8 12 rfl rfl)
theorem dX10_init_195 : decode cX10_init 195 = .ok (.aload_n 0, 1) := dk_42 (dk_at dksX10_init_8 15 rfl rfl)
theorem dX10_init_196 : decode cX10_init 196 = .ok (.bipush 16, 2) := dk_16 16 (dk_at dksX10_init_8 16 rfl rfl)
theorem dX10_init_198 : decode cX10_init 198 = .ok (.bipush 79, 2) := dk_16 79 (dk_at dksX10_init_8 18 rfl rfl)
theorem dX10_init_200 : decode cX10_init 200 = .ok (.multianewarray 26 2, 4) := by decide +kernel
theorem dX10_init_204 : decode cX10_init 204 = .ok (.putfield 73, 3) := dk_181 0 73 (dk_at dksX10_init_9 0 rfl rfl)
theorem dX10_init_207 : decode cX10_init 207 = .ok (.aload_n 0, 1) := dk_42 (dk_at dksX10_init_9 3 rfl rfl)
theorem dX10_init_208 : decode cX10_init 208 = .ok (.iconst 3, 1) := dk_6 (dk_at dksX10_init_9 4 rfl rfl)
theorem dX10_init_209 : decode cX10_init 209 = .ok (.sipush 1344, 3) := dk_17 5 64 (dk_at dksX10_init_9 5 rfl rfl)
theorem dX10_init_212 : decode cX10_init 212 = .ok (.multianewarray 26 2, 4) := by decide +kernel
theorem dX10_init_216 : decode cX10_init 216 = .ok (.putfield 76, 3) := dk_181 0 76 (dk_at dksX10_init_9 12 rfl rfl)
theorem dX10_init_219 : decode cX10_init 219 = .ok (.aload_n 0, 1) := dk_42 (dk_at dksX10_init_9 15 rfl rfl)
theorem dX10_init_220 : decode cX10_init 220 = .ok (.bipush 6, 2) := dk_16 6 (dk_at dksX10_init_9 16 rfl rfl)
theorem dX10_init_222 : decode cX10_init 222 = .ok (.newarray .int, 2) := dk_188_10 (dk_at dksX10_init_9 18 rfl rfl)
theorem dX10_init_224 : decode cX10_init 224 = .ok (.putfield 79, 3) := dk_181 0 79 (dk_at dksX10_init_9 20 rfl rfl)
theorem dX10_init_227 : decode cX10_init 227 = .ok (.aload_n 0, 1) := dk_42 (dk_at dksX10_init_9 23 rfl rfl)
theorem dX10_init_228 : decode cX10_init 228 = .ok (.bipush 6, 2) := dk_16 6 (dk_at dksX10_init_10 0 rfl rfl)
theorem dX10_init_230 : decode cX10_init 230 = .ok (.newarray .int, 2) := dk_188_10 (dk_at dksX10_init_10 2 rfl rfl)
theorem dX10_init_232 : decode cX10_init 232 = .ok (.putfield 82, 3) := dk_181 0 82 (dk_at dksX10_init_10 4 rfl rfl)
theorem dX10_init_235 : decode cX10_init 235 = .ok (.aload_n 0, 1) := dk_42 (dk_at dksX10_init_10 7 rfl rfl)
theorem dX10_init_236 : decode cX10_init 236 = .ok (.bipush 41, 2) := dk_16 41 (dk_at dksX10_init_10 8 rfl rfl)
theorem dX10_init_238 : decode cX10_init 238 = .ok (.newarray .int, 2) := dk_188_10 (dk_at dksX10_init_10 10 rfl rfl)
theorem dX10_init_240 : decode cX10_init 240 = .ok (.putfield 85, 3) := dk_181 0 85 (dk_at dksX10_init_10 12 rfl rfl)
theorem dX10_init_243 : decode cX10_init 243 = .ok (.aload_n 0, 1) := dk_42 (dk_at dksX10_init_10 15 rfl rfl)
theorem dX10_init_244 : decode cX10_init 244 = .ok (.bipush 14, 2) := dk_16 14 (dk_at dksX10_init_10 16 rfl rfl)
theorem dX10_init_246 : decode cX10_init 246 = .ok (.newarray .long, 2) := dk_188_11 (dk_at dksX10_init_10 18 rfl rfl)
theorem dX10_init_248 : decode cX10_init 248 = .ok (.putfield 88, 3) := dk_181 0 88 (dk_at dksX10_init_10 20 rfl rfl)
theorem dX10_init_251 : decode cX10_init 251 = .ok (.aload_n 0, 1) := dk_42 (dk_at dksX10_init_10 23 rfl rfl)
theorem dX10_init_252 : decode cX10_init 252 = .ok (.invokevirtual 92, 3) := dk_182 0 92 (dk_at dksX10_init_11 0 rfl rfl)
theorem dX10_init_255 : decode cX10_init 255 = .ok (.aload_n 0, 1) := dk_42 (dk_at dksX10_init_11 3 rfl rfl)
theorem dX10_init_256 : decode cX10_init 256 = .ok (.invokevirtual 95, 3) := dk_182 0 95 (dk_at dksX10_init_11 4 rfl rfl)
theorem dX10_init_259 : decode cX10_init 259 = .ok (.return_, 1) := dk_177 (dk_at dksX10_init_11 7 rfl rfl)
abbrev cX10_tellsNothing : ByteArray := prog_32_method_2_code
def yX10_tellsNothing : MethodName := ⟨RX10, "tellsNothing", "()V"⟩
def dkwX10_tellsNothing_1 : List UInt8 := [6, 16, 20, 79, 42, 180, 0, 20, 7, 5, 79, 177]
abbrev dktX10_tellsNothing_1 : List UInt8 := dkwX10_tellsNothing_1 ++ []
def dkwX10_tellsNothing_0 : List UInt8 := [3, 60, 27, 6, 162, 0, 16, 42, 180, 0, 20, 27, 3, 79, 132, 1, 1, 167, 255, 241, 42, 180, 0, 20]
abbrev dktX10_tellsNothing_0 : List UInt8 := dkwX10_tellsNothing_0 ++ dktX10_tellsNothing_1
theorem dksX10_tellsNothing_0 : cX10_tellsNothing.data.toList.drop 0 = dktX10_tellsNothing_0 := by decide +kernel
theorem dksX10_tellsNothing_1 : cX10_tellsNothing.data.toList.drop 24 = dktX10_tellsNothing_1 := dk_seg dksX10_tellsNothing_0 24 rfl rfl
theorem dX10_tellsNothing_0 : decode cX10_tellsNothing 0 = .ok (.iconst 0, 1) := dk_3 (dk_at dksX10_tellsNothing_0 0 rfl rfl)
theorem dX10_tellsNothing_1 : decode cX10_tellsNothing 1 = .ok (.istore_n 1, 1) := dk_60 (dk_at dksX10_tellsNothing_0 1 rfl rfl)
theorem dX10_tellsNothing_2 : decode cX10_tellsNothing 2 = .ok (.iload_n 1, 1) := dk_27 (dk_at dksX10_tellsNothing_0 2 rfl rfl)
theorem dX10_tellsNothing_3 : decode cX10_tellsNothing 3 = .ok (.iconst 3, 1) := dk_6 (dk_at dksX10_tellsNothing_0 3 rfl rfl)
theorem dX10_tellsNothing_4 : decode cX10_tellsNothing 4 = .ok (.if_icmp .ge 16, 3) := dk_162 0 16 (dk_at dksX10_tellsNothing_0 4 rfl rfl)
theorem dX10_tellsNothing_7 : decode cX10_tellsNothing 7 = .ok (.aload_n 0, 1) := dk_42 (dk_at dksX10_tellsNothing_0 7 rfl rfl)
theorem dX10_tellsNothing_8 : decode cX10_tellsNothing 8 = .ok (.getfield 20, 3) := dk_180 0 20 (dk_at dksX10_tellsNothing_0 8 rfl rfl)
theorem dX10_tellsNothing_11 : decode cX10_tellsNothing 11 = .ok (.iload_n 1, 1) := dk_27 (dk_at dksX10_tellsNothing_0 11 rfl rfl)
theorem dX10_tellsNothing_12 : decode cX10_tellsNothing 12 = .ok (.iconst 0, 1) := dk_3 (dk_at dksX10_tellsNothing_0 12 rfl rfl)
theorem dX10_tellsNothing_13 : decode cX10_tellsNothing 13 = .ok (.iastore, 1) := dk_79 (dk_at dksX10_tellsNothing_0 13 rfl rfl)
theorem dX10_tellsNothing_14 : decode cX10_tellsNothing 14 = .ok (.iinc 1 1, 3) := dk_132 1 1 (dk_at dksX10_tellsNothing_0 14 rfl rfl)
theorem dX10_tellsNothing_17 : decode cX10_tellsNothing 17 = .ok (.goto (-15), 3) := dk_167 255 241 (dk_at dksX10_tellsNothing_0 17 rfl rfl)
theorem dX10_tellsNothing_20 : decode cX10_tellsNothing 20 = .ok (.aload_n 0, 1) := dk_42 (dk_at dksX10_tellsNothing_0 20 rfl rfl)
theorem dX10_tellsNothing_21 : decode cX10_tellsNothing 21 = .ok (.getfield 20, 3) := dk_180 0 20 (dk_at dksX10_tellsNothing_0 21 rfl rfl)
theorem dX10_tellsNothing_24 : decode cX10_tellsNothing 24 = .ok (.iconst 3, 1) := dk_6 (dk_at dksX10_tellsNothing_1 0 rfl rfl)
theorem dX10_tellsNothing_25 : decode cX10_tellsNothing 25 = .ok (.bipush 20, 2) := dk_16 20 (dk_at dksX10_tellsNothing_1 1 rfl rfl)
theorem dX10_tellsNothing_27 : decode cX10_tellsNothing 27 = .ok (.iastore, 1) := dk_79 (dk_at dksX10_tellsNothing_1 3 rfl rfl)
theorem dX10_tellsNothing_28 : decode cX10_tellsNothing 28 = .ok (.aload_n 0, 1) := dk_42 (dk_at dksX10_tellsNothing_1 4 rfl rfl)
theorem dX10_tellsNothing_29 : decode cX10_tellsNothing 29 = .ok (.getfield 20, 3) := dk_180 0 20 (dk_at dksX10_tellsNothing_1 5 rfl rfl)
theorem dX10_tellsNothing_32 : decode cX10_tellsNothing 32 = .ok (.iconst 4, 1) := dk_7 (dk_at dksX10_tellsNothing_1 8 rfl rfl)
theorem dX10_tellsNothing_33 : decode cX10_tellsNothing 33 = .ok (.iconst 2, 1) := dk_5 (dk_at dksX10_tellsNothing_1 9 rfl rfl)
theorem dX10_tellsNothing_34 : decode cX10_tellsNothing 34 = .ok (.iastore, 1) := dk_79 (dk_at dksX10_tellsNothing_1 10 rfl rfl)
theorem dX10_tellsNothing_35 : decode cX10_tellsNothing 35 = .ok (.return_, 1) := dk_177 (dk_at dksX10_tellsNothing_1 11 rfl rfl)
abbrev cX10_beginsAnew : ByteArray := prog_32_method_33_code
def yX10_beginsAnew : MethodName := ⟨RX10, "beginsAnew", "()V"⟩
def dkwX10_beginsAnew_5 : List UInt8 := [42, 3, 181, 0, 198, 42, 3, 181, 0, 201, 42, 3, 181, 0, 204, 42, 3, 181, 0, 207, 177]
abbrev dktX10_beginsAnew_5 : List UInt8 := dkwX10_beginsAnew_5 ++ []
def dkwX10_beginsAnew_4 : List UInt8 := [132, 1, 1, 167, 255, 240, 42, 180, 0, 67, 16, 77, 42, 180, 0, 23, 6, 46, 79, 42, 3, 181, 0, 195]
abbrev dktX10_beginsAnew_4 : List UInt8 := dkwX10_beginsAnew_4 ++ dktX10_beginsAnew_5
def dkwX10_beginsAnew_3 : List UInt8 := [180, 0, 23, 5, 46, 184, 0, 191, 3, 60, 27, 16, 79, 162, 0, 16, 42, 180, 0, 67, 27, 3, 79]
abbrev dktX10_beginsAnew_3 : List UInt8 := dkwX10_beginsAnew_3 ++ dktX10_beginsAnew_4
def dkwX10_beginsAnew_2 : List UInt8 := [42, 180, 0, 37, 42, 180, 0, 23, 4, 46, 184, 0, 191, 42, 180, 0, 40, 42, 180, 0, 43, 42]
abbrev dktX10_beginsAnew_2 : List UInt8 := dkwX10_beginsAnew_2 ++ dktX10_beginsAnew_3
def dkwX10_beginsAnew_1 : List UInt8 := [167, 255, 236, 42, 180, 0, 28, 42, 180, 0, 31, 42, 180, 0, 23, 3, 46, 184, 0, 191, 42, 180, 0, 34]
abbrev dktX10_beginsAnew_1 : List UInt8 := dkwX10_beginsAnew_1 ++ dktX10_beginsAnew_2
def dkwX10_beginsAnew_0 : List UInt8 := [3, 60, 27, 8, 162, 0, 21, 42, 180, 0, 23, 27, 42, 180, 0, 20, 27, 46, 79, 132, 1, 1]
abbrev dktX10_beginsAnew_0 : List UInt8 := dkwX10_beginsAnew_0 ++ dktX10_beginsAnew_1
theorem dksX10_beginsAnew_0 : cX10_beginsAnew.data.toList.drop 0 = dktX10_beginsAnew_0 := by decide +kernel
theorem dksX10_beginsAnew_1 : cX10_beginsAnew.data.toList.drop 22 = dktX10_beginsAnew_1 := dk_seg dksX10_beginsAnew_0 22 rfl rfl
theorem dksX10_beginsAnew_2 : cX10_beginsAnew.data.toList.drop 46 = dktX10_beginsAnew_2 := dk_seg dksX10_beginsAnew_1 24 rfl rfl
theorem dksX10_beginsAnew_3 : cX10_beginsAnew.data.toList.drop 68 = dktX10_beginsAnew_3 := dk_seg dksX10_beginsAnew_2 22 rfl rfl
theorem dksX10_beginsAnew_4 : cX10_beginsAnew.data.toList.drop 91 = dktX10_beginsAnew_4 := dk_seg dksX10_beginsAnew_3 23 rfl rfl
theorem dksX10_beginsAnew_5 : cX10_beginsAnew.data.toList.drop 115 = dktX10_beginsAnew_5 := dk_seg dksX10_beginsAnew_4 24 rfl rfl
theorem dX10_beginsAnew_0 : decode cX10_beginsAnew 0 = .ok (.iconst 0, 1) := dk_3 (dk_at dksX10_beginsAnew_0 0 rfl rfl)
theorem dX10_beginsAnew_1 : decode cX10_beginsAnew 1 = .ok (.istore_n 1, 1) := dk_60 (dk_at dksX10_beginsAnew_0 1 rfl rfl)
theorem dX10_beginsAnew_2 : decode cX10_beginsAnew 2 = .ok (.iload_n 1, 1) := dk_27 (dk_at dksX10_beginsAnew_0 2 rfl rfl)
theorem dX10_beginsAnew_3 : decode cX10_beginsAnew 3 = .ok (.iconst 5, 1) := dk_8 (dk_at dksX10_beginsAnew_0 3 rfl rfl)
theorem dX10_beginsAnew_4 : decode cX10_beginsAnew 4 = .ok (.if_icmp .ge 21, 3) := dk_162 0 21 (dk_at dksX10_beginsAnew_0 4 rfl rfl)
theorem dX10_beginsAnew_7 : decode cX10_beginsAnew 7 = .ok (.aload_n 0, 1) := dk_42 (dk_at dksX10_beginsAnew_0 7 rfl rfl)
theorem dX10_beginsAnew_8 : decode cX10_beginsAnew 8 = .ok (.getfield 23, 3) := dk_180 0 23 (dk_at dksX10_beginsAnew_0 8 rfl rfl)
theorem dX10_beginsAnew_11 : decode cX10_beginsAnew 11 = .ok (.iload_n 1, 1) := dk_27 (dk_at dksX10_beginsAnew_0 11 rfl rfl)
theorem dX10_beginsAnew_12 : decode cX10_beginsAnew 12 = .ok (.aload_n 0, 1) := dk_42 (dk_at dksX10_beginsAnew_0 12 rfl rfl)
theorem dX10_beginsAnew_13 : decode cX10_beginsAnew 13 = .ok (.getfield 20, 3) := dk_180 0 20 (dk_at dksX10_beginsAnew_0 13 rfl rfl)
theorem dX10_beginsAnew_16 : decode cX10_beginsAnew 16 = .ok (.iload_n 1, 1) := dk_27 (dk_at dksX10_beginsAnew_0 16 rfl rfl)
theorem dX10_beginsAnew_17 : decode cX10_beginsAnew 17 = .ok (.iaload, 1) := dk_46 (dk_at dksX10_beginsAnew_0 17 rfl rfl)
theorem dX10_beginsAnew_18 : decode cX10_beginsAnew 18 = .ok (.iastore, 1) := dk_79 (dk_at dksX10_beginsAnew_0 18 rfl rfl)
theorem dX10_beginsAnew_19 : decode cX10_beginsAnew 19 = .ok (.iinc 1 1, 3) := dk_132 1 1 (dk_at dksX10_beginsAnew_0 19 rfl rfl)
theorem dX10_beginsAnew_22 : decode cX10_beginsAnew 22 = .ok (.goto (-20), 3) := dk_167 255 236 (dk_at dksX10_beginsAnew_1 0 rfl rfl)
theorem dX10_beginsAnew_25 : decode cX10_beginsAnew 25 = .ok (.aload_n 0, 1) := dk_42 (dk_at dksX10_beginsAnew_1 3 rfl rfl)
theorem dX10_beginsAnew_26 : decode cX10_beginsAnew 26 = .ok (.getfield 28, 3) := dk_180 0 28 (dk_at dksX10_beginsAnew_1 4 rfl rfl)
theorem dX10_beginsAnew_29 : decode cX10_beginsAnew 29 = .ok (.aload_n 0, 1) := dk_42 (dk_at dksX10_beginsAnew_1 7 rfl rfl)
theorem dX10_beginsAnew_30 : decode cX10_beginsAnew 30 = .ok (.getfield 31, 3) := dk_180 0 31 (dk_at dksX10_beginsAnew_1 8 rfl rfl)
theorem dX10_beginsAnew_33 : decode cX10_beginsAnew 33 = .ok (.aload_n 0, 1) := dk_42 (dk_at dksX10_beginsAnew_1 11 rfl rfl)
theorem dX10_beginsAnew_34 : decode cX10_beginsAnew 34 = .ok (.getfield 23, 3) := dk_180 0 23 (dk_at dksX10_beginsAnew_1 12 rfl rfl)
theorem dX10_beginsAnew_37 : decode cX10_beginsAnew 37 = .ok (.iconst 0, 1) := dk_3 (dk_at dksX10_beginsAnew_1 15 rfl rfl)
theorem dX10_beginsAnew_38 : decode cX10_beginsAnew 38 = .ok (.iaload, 1) := dk_46 (dk_at dksX10_beginsAnew_1 16 rfl rfl)
theorem dX10_beginsAnew_39 : decode cX10_beginsAnew 39 = .ok (.invokestatic 191, 3) := dk_184 0 191 (dk_at dksX10_beginsAnew_1 17 rfl rfl)
theorem dX10_beginsAnew_42 : decode cX10_beginsAnew 42 = .ok (.aload_n 0, 1) := dk_42 (dk_at dksX10_beginsAnew_1 20 rfl rfl)
theorem dX10_beginsAnew_43 : decode cX10_beginsAnew 43 = .ok (.getfield 34, 3) := dk_180 0 34 (dk_at dksX10_beginsAnew_1 21 rfl rfl)
theorem dX10_beginsAnew_46 : decode cX10_beginsAnew 46 = .ok (.aload_n 0, 1) := dk_42 (dk_at dksX10_beginsAnew_2 0 rfl rfl)
theorem dX10_beginsAnew_47 : decode cX10_beginsAnew 47 = .ok (.getfield 37, 3) := dk_180 0 37 (dk_at dksX10_beginsAnew_2 1 rfl rfl)
theorem dX10_beginsAnew_50 : decode cX10_beginsAnew 50 = .ok (.aload_n 0, 1) := dk_42 (dk_at dksX10_beginsAnew_2 4 rfl rfl)
theorem dX10_beginsAnew_51 : decode cX10_beginsAnew 51 = .ok (.getfield 23, 3) := dk_180 0 23 (dk_at dksX10_beginsAnew_2 5 rfl rfl)
theorem dX10_beginsAnew_54 : decode cX10_beginsAnew 54 = .ok (.iconst 1, 1) := dk_4 (dk_at dksX10_beginsAnew_2 8 rfl rfl)
theorem dX10_beginsAnew_55 : decode cX10_beginsAnew 55 = .ok (.iaload, 1) := dk_46 (dk_at dksX10_beginsAnew_2 9 rfl rfl)
theorem dX10_beginsAnew_56 : decode cX10_beginsAnew 56 = .ok (.invokestatic 191, 3) := dk_184 0 191 (dk_at dksX10_beginsAnew_2 10 rfl rfl)
theorem dX10_beginsAnew_59 : decode cX10_beginsAnew 59 = .ok (.aload_n 0, 1) := dk_42 (dk_at dksX10_beginsAnew_2 13 rfl rfl)
theorem dX10_beginsAnew_60 : decode cX10_beginsAnew 60 = .ok (.getfield 40, 3) := dk_180 0 40 (dk_at dksX10_beginsAnew_2 14 rfl rfl)
theorem dX10_beginsAnew_63 : decode cX10_beginsAnew 63 = .ok (.aload_n 0, 1) := dk_42 (dk_at dksX10_beginsAnew_2 17 rfl rfl)
theorem dX10_beginsAnew_64 : decode cX10_beginsAnew 64 = .ok (.getfield 43, 3) := dk_180 0 43 (dk_at dksX10_beginsAnew_2 18 rfl rfl)
theorem dX10_beginsAnew_67 : decode cX10_beginsAnew 67 = .ok (.aload_n 0, 1) := dk_42 (dk_at dksX10_beginsAnew_2 21 rfl rfl)
theorem dX10_beginsAnew_68 : decode cX10_beginsAnew 68 = .ok (.getfield 23, 3) := dk_180 0 23 (dk_at dksX10_beginsAnew_3 0 rfl rfl)
theorem dX10_beginsAnew_71 : decode cX10_beginsAnew 71 = .ok (.iconst 2, 1) := dk_5 (dk_at dksX10_beginsAnew_3 3 rfl rfl)
theorem dX10_beginsAnew_72 : decode cX10_beginsAnew 72 = .ok (.iaload, 1) := dk_46 (dk_at dksX10_beginsAnew_3 4 rfl rfl)
theorem dX10_beginsAnew_73 : decode cX10_beginsAnew 73 = .ok (.invokestatic 191, 3) := dk_184 0 191 (dk_at dksX10_beginsAnew_3 5 rfl rfl)
theorem dX10_beginsAnew_76 : decode cX10_beginsAnew 76 = .ok (.iconst 0, 1) := dk_3 (dk_at dksX10_beginsAnew_3 8 rfl rfl)
theorem dX10_beginsAnew_77 : decode cX10_beginsAnew 77 = .ok (.istore_n 1, 1) := dk_60 (dk_at dksX10_beginsAnew_3 9 rfl rfl)
theorem dX10_beginsAnew_78 : decode cX10_beginsAnew 78 = .ok (.iload_n 1, 1) := dk_27 (dk_at dksX10_beginsAnew_3 10 rfl rfl)
theorem dX10_beginsAnew_79 : decode cX10_beginsAnew 79 = .ok (.bipush 79, 2) := dk_16 79 (dk_at dksX10_beginsAnew_3 11 rfl rfl)
theorem dX10_beginsAnew_81 : decode cX10_beginsAnew 81 = .ok (.if_icmp .ge 16, 3) := dk_162 0 16 (dk_at dksX10_beginsAnew_3 13 rfl rfl)
theorem dX10_beginsAnew_84 : decode cX10_beginsAnew 84 = .ok (.aload_n 0, 1) := dk_42 (dk_at dksX10_beginsAnew_3 16 rfl rfl)
theorem dX10_beginsAnew_85 : decode cX10_beginsAnew 85 = .ok (.getfield 67, 3) := dk_180 0 67 (dk_at dksX10_beginsAnew_3 17 rfl rfl)
theorem dX10_beginsAnew_88 : decode cX10_beginsAnew 88 = .ok (.iload_n 1, 1) := dk_27 (dk_at dksX10_beginsAnew_3 20 rfl rfl)
theorem dX10_beginsAnew_89 : decode cX10_beginsAnew 89 = .ok (.iconst 0, 1) := dk_3 (dk_at dksX10_beginsAnew_3 21 rfl rfl)
theorem dX10_beginsAnew_90 : decode cX10_beginsAnew 90 = .ok (.iastore, 1) := dk_79 (dk_at dksX10_beginsAnew_3 22 rfl rfl)
theorem dX10_beginsAnew_91 : decode cX10_beginsAnew 91 = .ok (.iinc 1 1, 3) := dk_132 1 1 (dk_at dksX10_beginsAnew_4 0 rfl rfl)
theorem dX10_beginsAnew_94 : decode cX10_beginsAnew 94 = .ok (.goto (-16), 3) := dk_167 255 240 (dk_at dksX10_beginsAnew_4 3 rfl rfl)
theorem dX10_beginsAnew_97 : decode cX10_beginsAnew 97 = .ok (.aload_n 0, 1) := dk_42 (dk_at dksX10_beginsAnew_4 6 rfl rfl)
theorem dX10_beginsAnew_98 : decode cX10_beginsAnew 98 = .ok (.getfield 67, 3) := dk_180 0 67 (dk_at dksX10_beginsAnew_4 7 rfl rfl)
theorem dX10_beginsAnew_101 : decode cX10_beginsAnew 101 = .ok (.bipush 77, 2) := dk_16 77 (dk_at dksX10_beginsAnew_4 10 rfl rfl)
theorem dX10_beginsAnew_103 : decode cX10_beginsAnew 103 = .ok (.aload_n 0, 1) := dk_42 (dk_at dksX10_beginsAnew_4 12 rfl rfl)
theorem dX10_beginsAnew_104 : decode cX10_beginsAnew 104 = .ok (.getfield 23, 3) := dk_180 0 23 (dk_at dksX10_beginsAnew_4 13 rfl rfl)
theorem dX10_beginsAnew_107 : decode cX10_beginsAnew 107 = .ok (.iconst 3, 1) := dk_6 (dk_at dksX10_beginsAnew_4 16 rfl rfl)
theorem dX10_beginsAnew_108 : decode cX10_beginsAnew 108 = .ok (.iaload, 1) := dk_46 (dk_at dksX10_beginsAnew_4 17 rfl rfl)
theorem dX10_beginsAnew_109 : decode cX10_beginsAnew 109 = .ok (.iastore, 1) := dk_79 (dk_at dksX10_beginsAnew_4 18 rfl rfl)
theorem dX10_beginsAnew_110 : decode cX10_beginsAnew 110 = .ok (.aload_n 0, 1) := dk_42 (dk_at dksX10_beginsAnew_4 19 rfl rfl)
theorem dX10_beginsAnew_111 : decode cX10_beginsAnew 111 = .ok (.iconst 0, 1) := dk_3 (dk_at dksX10_beginsAnew_4 20 rfl rfl)
theorem dX10_beginsAnew_112 : decode cX10_beginsAnew 112 = .ok (.putfield 195, 3) := dk_181 0 195 (dk_at dksX10_beginsAnew_4 21 rfl rfl)
theorem dX10_beginsAnew_115 : decode cX10_beginsAnew 115 = .ok (.aload_n 0, 1) := dk_42 (dk_at dksX10_beginsAnew_5 0 rfl rfl)
theorem dX10_beginsAnew_116 : decode cX10_beginsAnew 116 = .ok (.iconst 0, 1) := dk_3 (dk_at dksX10_beginsAnew_5 1 rfl rfl)
theorem dX10_beginsAnew_117 : decode cX10_beginsAnew 117 = .ok (.putfield 198, 3) := dk_181 0 198 (dk_at dksX10_beginsAnew_5 2 rfl rfl)
theorem dX10_beginsAnew_120 : decode cX10_beginsAnew 120 = .ok (.aload_n 0, 1) := dk_42 (dk_at dksX10_beginsAnew_5 5 rfl rfl)
theorem dX10_beginsAnew_121 : decode cX10_beginsAnew 121 = .ok (.iconst 0, 1) := dk_3 (dk_at dksX10_beginsAnew_5 6 rfl rfl)
theorem dX10_beginsAnew_122 : decode cX10_beginsAnew 122 = .ok (.putfield 201, 3) := dk_181 0 201 (dk_at dksX10_beginsAnew_5 7 rfl rfl)
theorem dX10_beginsAnew_125 : decode cX10_beginsAnew 125 = .ok (.aload_n 0, 1) := dk_42 (dk_at dksX10_beginsAnew_5 10 rfl rfl)
theorem dX10_beginsAnew_126 : decode cX10_beginsAnew 126 = .ok (.iconst 0, 1) := dk_3 (dk_at dksX10_beginsAnew_5 11 rfl rfl)
theorem dX10_beginsAnew_127 : decode cX10_beginsAnew 127 = .ok (.putfield 204, 3) := dk_181 0 204 (dk_at dksX10_beginsAnew_5 12 rfl rfl)
theorem dX10_beginsAnew_130 : decode cX10_beginsAnew 130 = .ok (.aload_n 0, 1) := dk_42 (dk_at dksX10_beginsAnew_5 15 rfl rfl)
theorem dX10_beginsAnew_131 : decode cX10_beginsAnew 131 = .ok (.iconst 0, 1) := dk_3 (dk_at dksX10_beginsAnew_5 16 rfl rfl)
theorem dX10_beginsAnew_132 : decode cX10_beginsAnew 132 = .ok (.putfield 207, 3) := dk_181 0 207 (dk_at dksX10_beginsAnew_5 17 rfl rfl)
theorem dX10_beginsAnew_135 : decode cX10_beginsAnew 135 = .ok (.return_, 1) := dk_177 (dk_at dksX10_beginsAnew_5 20 rfl rfl)
abbrev cX10_lays : ByteArray := prog_32_method_31_code
def yX10_lays : MethodName := ⟨RX10, "lays", "([[I[[II)V"⟩
def dkwX10_lays_1 : List UInt8 := [42, 29, 50, 21, 4, 46, 79, 132, 4, 1, 167, 255, 232, 132, 3, 1, 167, 255, 218, 177]
abbrev dktX10_lays_1 : List UInt8 := dkwX10_lays_1 ++ []
def dkwX10_lays_0 : List UInt8 := [3, 62, 29, 28, 162, 0, 39, 3, 54, 4, 21, 4, 43, 29, 50, 190, 162, 0, 21, 43, 29, 50, 21, 4]
abbrev dktX10_lays_0 : List UInt8 := dkwX10_lays_0 ++ dktX10_lays_1
theorem dksX10_lays_0 : cX10_lays.data.toList.drop 0 = dktX10_lays_0 := by decide +kernel
theorem dksX10_lays_1 : cX10_lays.data.toList.drop 24 = dktX10_lays_1 := dk_seg dksX10_lays_0 24 rfl rfl
theorem dX10_lays_0 : decode cX10_lays 0 = .ok (.iconst 0, 1) := dk_3 (dk_at dksX10_lays_0 0 rfl rfl)
theorem dX10_lays_1 : decode cX10_lays 1 = .ok (.istore_n 3, 1) := dk_62 (dk_at dksX10_lays_0 1 rfl rfl)
theorem dX10_lays_2 : decode cX10_lays 2 = .ok (.iload_n 3, 1) := dk_29 (dk_at dksX10_lays_0 2 rfl rfl)
theorem dX10_lays_3 : decode cX10_lays 3 = .ok (.iload_n 2, 1) := dk_28 (dk_at dksX10_lays_0 3 rfl rfl)
theorem dX10_lays_4 : decode cX10_lays 4 = .ok (.if_icmp .ge 39, 3) := dk_162 0 39 (dk_at dksX10_lays_0 4 rfl rfl)
theorem dX10_lays_7 : decode cX10_lays 7 = .ok (.iconst 0, 1) := dk_3 (dk_at dksX10_lays_0 7 rfl rfl)
theorem dX10_lays_8 : decode cX10_lays 8 = .ok (.istore 4, 2) := dk_54 4 (dk_at dksX10_lays_0 8 rfl rfl)
theorem dX10_lays_10 : decode cX10_lays 10 = .ok (.iload 4, 2) := dk_21 4 (dk_at dksX10_lays_0 10 rfl rfl)
theorem dX10_lays_12 : decode cX10_lays 12 = .ok (.aload_n 1, 1) := dk_43 (dk_at dksX10_lays_0 12 rfl rfl)
theorem dX10_lays_13 : decode cX10_lays 13 = .ok (.iload_n 3, 1) := dk_29 (dk_at dksX10_lays_0 13 rfl rfl)
theorem dX10_lays_14 : decode cX10_lays 14 = .ok (.aaload, 1) := dk_50 (dk_at dksX10_lays_0 14 rfl rfl)
theorem dX10_lays_15 : decode cX10_lays 15 = .ok (.arraylength, 1) := dk_190 (dk_at dksX10_lays_0 15 rfl rfl)
theorem dX10_lays_16 : decode cX10_lays 16 = .ok (.if_icmp .ge 21, 3) := dk_162 0 21 (dk_at dksX10_lays_0 16 rfl rfl)
theorem dX10_lays_19 : decode cX10_lays 19 = .ok (.aload_n 1, 1) := dk_43 (dk_at dksX10_lays_0 19 rfl rfl)
theorem dX10_lays_20 : decode cX10_lays 20 = .ok (.iload_n 3, 1) := dk_29 (dk_at dksX10_lays_0 20 rfl rfl)
theorem dX10_lays_21 : decode cX10_lays 21 = .ok (.aaload, 1) := dk_50 (dk_at dksX10_lays_0 21 rfl rfl)
theorem dX10_lays_22 : decode cX10_lays 22 = .ok (.iload 4, 2) := dk_21 4 (dk_at dksX10_lays_0 22 rfl rfl)
theorem dX10_lays_24 : decode cX10_lays 24 = .ok (.aload_n 0, 1) := dk_42 (dk_at dksX10_lays_1 0 rfl rfl)
theorem dX10_lays_25 : decode cX10_lays 25 = .ok (.iload_n 3, 1) := dk_29 (dk_at dksX10_lays_1 1 rfl rfl)
theorem dX10_lays_26 : decode cX10_lays 26 = .ok (.aaload, 1) := dk_50 (dk_at dksX10_lays_1 2 rfl rfl)
theorem dX10_lays_27 : decode cX10_lays 27 = .ok (.iload 4, 2) := dk_21 4 (dk_at dksX10_lays_1 3 rfl rfl)
theorem dX10_lays_29 : decode cX10_lays 29 = .ok (.iaload, 1) := dk_46 (dk_at dksX10_lays_1 5 rfl rfl)
theorem dX10_lays_30 : decode cX10_lays 30 = .ok (.iastore, 1) := dk_79 (dk_at dksX10_lays_1 6 rfl rfl)
theorem dX10_lays_31 : decode cX10_lays 31 = .ok (.iinc 4 1, 3) := dk_132 4 1 (dk_at dksX10_lays_1 7 rfl rfl)
theorem dX10_lays_34 : decode cX10_lays 34 = .ok (.goto (-24), 3) := dk_167 255 232 (dk_at dksX10_lays_1 10 rfl rfl)
theorem dX10_lays_37 : decode cX10_lays 37 = .ok (.iinc 3 1, 3) := dk_132 3 1 (dk_at dksX10_lays_1 13 rfl rfl)
theorem dX10_lays_40 : decode cX10_lays 40 = .ok (.goto (-38), 3) := dk_167 255 218 (dk_at dksX10_lays_1 16 rfl rfl)
theorem dX10_lays_43 : decode cX10_lays 43 = .ok (.return_, 1) := dk_177 (dk_at dksX10_lays_1 19 rfl rfl)
abbrev cX10_thrown : ByteArray := prog_32_method_3_code
def yX10_thrown : MethodName := ⟨RX10, "thrown", "()I"⟩
theorem dX10_thrown_0 : decode cX10_thrown 0 = .ok (.aload_n 0, 1) := by decide +kernel
theorem dX10_thrown_1 : decode cX10_thrown 1 = .ok (.getfield 98, 3) := by decide +kernel
theorem dX10_thrown_4 : decode cX10_thrown 4 = .ok (.ireturn, 1) := by decide +kernel
abbrev cX10_feed : ByteArray := prog_32_method_9_code
def yX10_feed : MethodName := ⟨RX10, "feed", "(IIIII)I"⟩
def dkwX10_feed_5 : List UInt8 := [167, 255, 162, 42, 180, 0, 101, 172]
abbrev dktX10_feed_5 : List UInt8 := dkwX10_feed_5 ++ []
def dkwX10_feed_4 : List UInt8 := [112, 104, 100, 122, 17, 0, 255, 126, 79, 42, 89, 180, 0, 101, 4, 96, 181, 0, 101, 132, 6, 1]
abbrev dktX10_feed_4 : List UInt8 := dkwX10_feed_4 ++ dktX10_feed_5
def dkwX10_feed_3 : List UInt8 := [167, 0, 5, 21, 5, 54, 7, 42, 180, 0, 13, 42, 180, 0, 101, 21, 7, 16, 24, 16, 8, 21, 6, 7]
abbrev dktX10_feed_3 : List UInt8 := dkwX10_feed_3 ++ dktX10_feed_4
def dkwX10_feed_2 : List UInt8 := [28, 167, 0, 28, 21, 6, 16, 12, 162, 0, 7, 29, 167, 0, 17, 21, 6, 16, 16, 162, 0, 8, 21, 4]
abbrev dktX10_feed_2 : List UInt8 := dkwX10_feed_2 ++ dktX10_feed_3
def dkwX10_feed_1 : List UInt8 := [21, 6, 16, 20, 162, 0, 93, 21, 6, 7, 162, 0, 7, 27, 167, 0, 39, 21, 6, 16, 8, 162, 0, 7]
abbrev dktX10_feed_1 : List UInt8 := dkwX10_feed_1 ++ dktX10_feed_2
def dkwX10_feed_0 : List UInt8 := [42, 3, 181, 0, 98, 42, 180, 0, 101, 16, 20, 96, 17, 2, 88, 164, 0, 5, 2, 172, 3, 54, 6]
abbrev dktX10_feed_0 : List UInt8 := dkwX10_feed_0 ++ dktX10_feed_1
theorem dksX10_feed_0 : cX10_feed.data.toList.drop 0 = dktX10_feed_0 := by decide +kernel
theorem dksX10_feed_1 : cX10_feed.data.toList.drop 23 = dktX10_feed_1 := dk_seg dksX10_feed_0 23 rfl rfl
theorem dksX10_feed_2 : cX10_feed.data.toList.drop 47 = dktX10_feed_2 := dk_seg dksX10_feed_1 24 rfl rfl
theorem dksX10_feed_3 : cX10_feed.data.toList.drop 71 = dktX10_feed_3 := dk_seg dksX10_feed_2 24 rfl rfl
theorem dksX10_feed_4 : cX10_feed.data.toList.drop 95 = dktX10_feed_4 := dk_seg dksX10_feed_3 24 rfl rfl
theorem dksX10_feed_5 : cX10_feed.data.toList.drop 117 = dktX10_feed_5 := dk_seg dksX10_feed_4 22 rfl rfl
theorem dX10_feed_0 : decode cX10_feed 0 = .ok (.aload_n 0, 1) := dk_42 (dk_at dksX10_feed_0 0 rfl rfl)
theorem dX10_feed_1 : decode cX10_feed 1 = .ok (.iconst 0, 1) := dk_3 (dk_at dksX10_feed_0 1 rfl rfl)
theorem dX10_feed_2 : decode cX10_feed 2 = .ok (.putfield 98, 3) := dk_181 0 98 (dk_at dksX10_feed_0 2 rfl rfl)
theorem dX10_feed_5 : decode cX10_feed 5 = .ok (.aload_n 0, 1) := dk_42 (dk_at dksX10_feed_0 5 rfl rfl)
theorem dX10_feed_6 : decode cX10_feed 6 = .ok (.getfield 101, 3) := dk_180 0 101 (dk_at dksX10_feed_0 6 rfl rfl)
theorem dX10_feed_9 : decode cX10_feed 9 = .ok (.bipush 20, 2) := dk_16 20 (dk_at dksX10_feed_0 9 rfl rfl)
theorem dX10_feed_11 : decode cX10_feed 11 = .ok (.iadd, 1) := dk_96 (dk_at dksX10_feed_0 11 rfl rfl)
theorem dX10_feed_12 : decode cX10_feed 12 = .ok (.sipush 600, 3) := dk_17 2 88 (dk_at dksX10_feed_0 12 rfl rfl)
theorem dX10_feed_15 : decode cX10_feed 15 = .ok (.if_icmp .le 5, 3) := dk_164 0 5 (dk_at dksX10_feed_0 15 rfl rfl)
theorem dX10_feed_18 : decode cX10_feed 18 = .ok (.iconst (-1), 1) := dk_2 (dk_at dksX10_feed_0 18 rfl rfl)
theorem dX10_feed_19 : decode cX10_feed 19 = .ok (.ireturn, 1) := dk_172 (dk_at dksX10_feed_0 19 rfl rfl)
theorem dX10_feed_20 : decode cX10_feed 20 = .ok (.iconst 0, 1) := dk_3 (dk_at dksX10_feed_0 20 rfl rfl)
theorem dX10_feed_21 : decode cX10_feed 21 = .ok (.istore 6, 2) := dk_54 6 (dk_at dksX10_feed_0 21 rfl rfl)
theorem dX10_feed_23 : decode cX10_feed 23 = .ok (.iload 6, 2) := dk_21 6 (dk_at dksX10_feed_1 0 rfl rfl)
theorem dX10_feed_25 : decode cX10_feed 25 = .ok (.bipush 20, 2) := dk_16 20 (dk_at dksX10_feed_1 2 rfl rfl)
theorem dX10_feed_27 : decode cX10_feed 27 = .ok (.if_icmp .ge 93, 3) := dk_162 0 93 (dk_at dksX10_feed_1 4 rfl rfl)
theorem dX10_feed_30 : decode cX10_feed 30 = .ok (.iload 6, 2) := dk_21 6 (dk_at dksX10_feed_1 7 rfl rfl)
theorem dX10_feed_32 : decode cX10_feed 32 = .ok (.iconst 4, 1) := dk_7 (dk_at dksX10_feed_1 9 rfl rfl)
theorem dX10_feed_33 : decode cX10_feed 33 = .ok (.if_icmp .ge 7, 3) := dk_162 0 7 (dk_at dksX10_feed_1 10 rfl rfl)
theorem dX10_feed_36 : decode cX10_feed 36 = .ok (.iload_n 1, 1) := dk_27 (dk_at dksX10_feed_1 13 rfl rfl)
theorem dX10_feed_37 : decode cX10_feed 37 = .ok (.goto 39, 3) := dk_167 0 39 (dk_at dksX10_feed_1 14 rfl rfl)
theorem dX10_feed_40 : decode cX10_feed 40 = .ok (.iload 6, 2) := dk_21 6 (dk_at dksX10_feed_1 17 rfl rfl)
theorem dX10_feed_42 : decode cX10_feed 42 = .ok (.bipush 8, 2) := dk_16 8 (dk_at dksX10_feed_1 19 rfl rfl)
theorem dX10_feed_44 : decode cX10_feed 44 = .ok (.if_icmp .ge 7, 3) := dk_162 0 7 (dk_at dksX10_feed_1 21 rfl rfl)
theorem dX10_feed_47 : decode cX10_feed 47 = .ok (.iload_n 2, 1) := dk_28 (dk_at dksX10_feed_2 0 rfl rfl)
theorem dX10_feed_48 : decode cX10_feed 48 = .ok (.goto 28, 3) := dk_167 0 28 (dk_at dksX10_feed_2 1 rfl rfl)
theorem dX10_feed_51 : decode cX10_feed 51 = .ok (.iload 6, 2) := dk_21 6 (dk_at dksX10_feed_2 4 rfl rfl)
theorem dX10_feed_53 : decode cX10_feed 53 = .ok (.bipush 12, 2) := dk_16 12 (dk_at dksX10_feed_2 6 rfl rfl)
theorem dX10_feed_55 : decode cX10_feed 55 = .ok (.if_icmp .ge 7, 3) := dk_162 0 7 (dk_at dksX10_feed_2 8 rfl rfl)
theorem dX10_feed_58 : decode cX10_feed 58 = .ok (.iload_n 3, 1) := dk_29 (dk_at dksX10_feed_2 11 rfl rfl)
theorem dX10_feed_59 : decode cX10_feed 59 = .ok (.goto 17, 3) := dk_167 0 17 (dk_at dksX10_feed_2 12 rfl rfl)
theorem dX10_feed_62 : decode cX10_feed 62 = .ok (.iload 6, 2) := dk_21 6 (dk_at dksX10_feed_2 15 rfl rfl)
theorem dX10_feed_64 : decode cX10_feed 64 = .ok (.bipush 16, 2) := dk_16 16 (dk_at dksX10_feed_2 17 rfl rfl)
theorem dX10_feed_66 : decode cX10_feed 66 = .ok (.if_icmp .ge 8, 3) := dk_162 0 8 (dk_at dksX10_feed_2 19 rfl rfl)
theorem dX10_feed_69 : decode cX10_feed 69 = .ok (.iload 4, 2) := dk_21 4 (dk_at dksX10_feed_2 22 rfl rfl)
theorem dX10_feed_71 : decode cX10_feed 71 = .ok (.goto 5, 3) := dk_167 0 5 (dk_at dksX10_feed_3 0 rfl rfl)
theorem dX10_feed_74 : decode cX10_feed 74 = .ok (.iload 5, 2) := dk_21 5 (dk_at dksX10_feed_3 3 rfl rfl)
theorem dX10_feed_76 : decode cX10_feed 76 = .ok (.istore 7, 2) := dk_54 7 (dk_at dksX10_feed_3 5 rfl rfl)
theorem dX10_feed_78 : decode cX10_feed 78 = .ok (.aload_n 0, 1) := dk_42 (dk_at dksX10_feed_3 7 rfl rfl)
theorem dX10_feed_79 : decode cX10_feed 79 = .ok (.getfield 13, 3) := dk_180 0 13 (dk_at dksX10_feed_3 8 rfl rfl)
theorem dX10_feed_82 : decode cX10_feed 82 = .ok (.aload_n 0, 1) := dk_42 (dk_at dksX10_feed_3 11 rfl rfl)
theorem dX10_feed_83 : decode cX10_feed 83 = .ok (.getfield 101, 3) := dk_180 0 101 (dk_at dksX10_feed_3 12 rfl rfl)
theorem dX10_feed_86 : decode cX10_feed 86 = .ok (.iload 7, 2) := dk_21 7 (dk_at dksX10_feed_3 15 rfl rfl)
theorem dX10_feed_88 : decode cX10_feed 88 = .ok (.bipush 24, 2) := dk_16 24 (dk_at dksX10_feed_3 17 rfl rfl)
theorem dX10_feed_90 : decode cX10_feed 90 = .ok (.bipush 8, 2) := dk_16 8 (dk_at dksX10_feed_3 19 rfl rfl)
theorem dX10_feed_92 : decode cX10_feed 92 = .ok (.iload 6, 2) := dk_21 6 (dk_at dksX10_feed_3 21 rfl rfl)
theorem dX10_feed_94 : decode cX10_feed 94 = .ok (.iconst 4, 1) := dk_7 (dk_at dksX10_feed_3 23 rfl rfl)
theorem dX10_feed_95 : decode cX10_feed 95 = .ok (.irem, 1) := dk_112 (dk_at dksX10_feed_4 0 rfl rfl)
theorem dX10_feed_96 : decode cX10_feed 96 = .ok (.imul, 1) := dk_104 (dk_at dksX10_feed_4 1 rfl rfl)
theorem dX10_feed_97 : decode cX10_feed 97 = .ok (.isub, 1) := dk_100 (dk_at dksX10_feed_4 2 rfl rfl)
theorem dX10_feed_98 : decode cX10_feed 98 = .ok (.ishr, 1) := dk_122 (dk_at dksX10_feed_4 3 rfl rfl)
theorem dX10_feed_99 : decode cX10_feed 99 = .ok (.sipush 255, 3) := dk_17 0 255 (dk_at dksX10_feed_4 4 rfl rfl)
theorem dX10_feed_102 : decode cX10_feed 102 = .ok (.iand, 1) := dk_126 (dk_at dksX10_feed_4 7 rfl rfl)
theorem dX10_feed_103 : decode cX10_feed 103 = .ok (.iastore, 1) := dk_79 (dk_at dksX10_feed_4 8 rfl rfl)
theorem dX10_feed_104 : decode cX10_feed 104 = .ok (.aload_n 0, 1) := dk_42 (dk_at dksX10_feed_4 9 rfl rfl)
theorem dX10_feed_105 : decode cX10_feed 105 = .ok (.dup, 1) := dk_89 (dk_at dksX10_feed_4 10 rfl rfl)
theorem dX10_feed_106 : decode cX10_feed 106 = .ok (.getfield 101, 3) := dk_180 0 101 (dk_at dksX10_feed_4 11 rfl rfl)
theorem dX10_feed_109 : decode cX10_feed 109 = .ok (.iconst 1, 1) := dk_4 (dk_at dksX10_feed_4 14 rfl rfl)
theorem dX10_feed_110 : decode cX10_feed 110 = .ok (.iadd, 1) := dk_96 (dk_at dksX10_feed_4 15 rfl rfl)
theorem dX10_feed_111 : decode cX10_feed 111 = .ok (.putfield 101, 3) := dk_181 0 101 (dk_at dksX10_feed_4 16 rfl rfl)
theorem dX10_feed_114 : decode cX10_feed 114 = .ok (.iinc 6 1, 3) := dk_132 6 1 (dk_at dksX10_feed_4 19 rfl rfl)
theorem dX10_feed_117 : decode cX10_feed 117 = .ok (.goto (-94), 3) := dk_167 255 162 (dk_at dksX10_feed_5 0 rfl rfl)
theorem dX10_feed_120 : decode cX10_feed 120 = .ok (.aload_n 0, 1) := dk_42 (dk_at dksX10_feed_5 3 rfl rfl)
theorem dX10_feed_121 : decode cX10_feed 121 = .ok (.getfield 101, 3) := dk_180 0 101 (dk_at dksX10_feed_5 4 rfl rfl)
theorem dX10_feed_124 : decode cX10_feed 124 = .ok (.ireturn, 1) := dk_172 (dk_at dksX10_feed_5 7 rfl rfl)
abbrev cX10_land : ByteArray := prog_32_method_30_code
def yX10_land : MethodName := ⟨RX10, "land", "(I)I"⟩
def dkwX10_land_4 : List UInt8 := [42, 180, 0, 23, 3, 46, 172]
abbrev dktX10_land_4 : List UInt8 := dkwX10_land_4 ++ []
def dkwX10_land_3 : List UInt8 := [167, 255, 230, 42, 180, 0, 114, 153, 0, 8, 42, 182, 0, 188, 172, 42, 2, 181, 0, 9, 42, 182, 0, 95]
abbrev dktX10_land_3 : List UInt8 := dkwX10_land_3 ++ dktX10_land_4
def dkwX10_land_2 : List UInt8 := [154, 0, 25, 42, 180, 0, 107, 42, 180, 0, 104, 162, 0, 14, 42, 182, 0, 185, 42, 182, 0, 120]
abbrev dktX10_land_2 : List UInt8 := dkwX10_land_2 ++ dktX10_land_3
def dkwX10_land_1 : List UInt8 := [4, 182, 0, 178, 153, 0, 5, 3, 172, 42, 27, 182, 0, 182, 42, 182, 0, 92, 42, 180, 0, 114]
abbrev dktX10_land_1 : List UInt8 := dkwX10_land_1 ++ dktX10_land_2
def dkwX10_land_0 : List UInt8 := [42, 3, 181, 0, 98, 42, 27, 3, 42, 180, 0, 101, 184, 0, 132, 154, 0, 7, 4, 167, 0, 4, 3, 4]
abbrev dktX10_land_0 : List UInt8 := dkwX10_land_0 ++ dktX10_land_1
theorem dksX10_land_0 : cX10_land.data.toList.drop 0 = dktX10_land_0 := by decide +kernel
theorem dksX10_land_1 : cX10_land.data.toList.drop 24 = dktX10_land_1 := dk_seg dksX10_land_0 24 rfl rfl
theorem dksX10_land_2 : cX10_land.data.toList.drop 46 = dktX10_land_2 := dk_seg dksX10_land_1 22 rfl rfl
theorem dksX10_land_3 : cX10_land.data.toList.drop 68 = dktX10_land_3 := dk_seg dksX10_land_2 22 rfl rfl
theorem dksX10_land_4 : cX10_land.data.toList.drop 92 = dktX10_land_4 := dk_seg dksX10_land_3 24 rfl rfl
theorem dX10_land_0 : decode cX10_land 0 = .ok (.aload_n 0, 1) := dk_42 (dk_at dksX10_land_0 0 rfl rfl)
theorem dX10_land_1 : decode cX10_land 1 = .ok (.iconst 0, 1) := dk_3 (dk_at dksX10_land_0 1 rfl rfl)
theorem dX10_land_2 : decode cX10_land 2 = .ok (.putfield 98, 3) := dk_181 0 98 (dk_at dksX10_land_0 2 rfl rfl)
theorem dX10_land_5 : decode cX10_land 5 = .ok (.aload_n 0, 1) := dk_42 (dk_at dksX10_land_0 5 rfl rfl)
theorem dX10_land_6 : decode cX10_land 6 = .ok (.iload_n 1, 1) := dk_27 (dk_at dksX10_land_0 6 rfl rfl)
theorem dX10_land_7 : decode cX10_land 7 = .ok (.iconst 0, 1) := dk_3 (dk_at dksX10_land_0 7 rfl rfl)
theorem dX10_land_8 : decode cX10_land 8 = .ok (.aload_n 0, 1) := dk_42 (dk_at dksX10_land_0 8 rfl rfl)
theorem dX10_land_9 : decode cX10_land 9 = .ok (.getfield 101, 3) := dk_180 0 101 (dk_at dksX10_land_0 9 rfl rfl)
theorem dX10_land_12 : decode cX10_land 12 = .ok (.invokestatic 132, 3) := dk_184 0 132 (dk_at dksX10_land_0 12 rfl rfl)
theorem dX10_land_15 : decode cX10_land 15 = .ok (.ifCond .ne 7, 3) := dk_154 0 7 (dk_at dksX10_land_0 15 rfl rfl)
theorem dX10_land_18 : decode cX10_land 18 = .ok (.iconst 1, 1) := dk_4 (dk_at dksX10_land_0 18 rfl rfl)
theorem dX10_land_19 : decode cX10_land 19 = .ok (.goto 4, 3) := dk_167 0 4 (dk_at dksX10_land_0 19 rfl rfl)
theorem dX10_land_22 : decode cX10_land 22 = .ok (.iconst 0, 1) := dk_3 (dk_at dksX10_land_0 22 rfl rfl)
theorem dX10_land_23 : decode cX10_land 23 = .ok (.iconst 1, 1) := dk_4 (dk_at dksX10_land_0 23 rfl rfl)
theorem dX10_land_24 : decode cX10_land 24 = .ok (.iconst 1, 1) := dk_4 (dk_at dksX10_land_1 0 rfl rfl)
theorem dX10_land_25 : decode cX10_land 25 = .ok (.invokevirtual 178, 3) := dk_182 0 178 (dk_at dksX10_land_1 1 rfl rfl)
theorem dX10_land_28 : decode cX10_land 28 = .ok (.ifCond .eq 5, 3) := dk_153 0 5 (dk_at dksX10_land_1 4 rfl rfl)
theorem dX10_land_31 : decode cX10_land 31 = .ok (.iconst 0, 1) := dk_3 (dk_at dksX10_land_1 7 rfl rfl)
theorem dX10_land_32 : decode cX10_land 32 = .ok (.ireturn, 1) := dk_172 (dk_at dksX10_land_1 8 rfl rfl)
theorem dX10_land_33 : decode cX10_land 33 = .ok (.aload_n 0, 1) := dk_42 (dk_at dksX10_land_1 9 rfl rfl)
theorem dX10_land_34 : decode cX10_land 34 = .ok (.iload_n 1, 1) := dk_27 (dk_at dksX10_land_1 10 rfl rfl)
theorem dX10_land_35 : decode cX10_land 35 = .ok (.invokevirtual 182, 3) := dk_182 0 182 (dk_at dksX10_land_1 11 rfl rfl)
theorem dX10_land_38 : decode cX10_land 38 = .ok (.aload_n 0, 1) := dk_42 (dk_at dksX10_land_1 14 rfl rfl)
theorem dX10_land_39 : decode cX10_land 39 = .ok (.invokevirtual 92, 3) := dk_182 0 92 (dk_at dksX10_land_1 15 rfl rfl)
theorem dX10_land_42 : decode cX10_land 42 = .ok (.aload_n 0, 1) := dk_42 (dk_at dksX10_land_1 18 rfl rfl)
theorem dX10_land_43 : decode cX10_land 43 = .ok (.getfield 114, 3) := dk_180 0 114 (dk_at dksX10_land_1 19 rfl rfl)
theorem dX10_land_46 : decode cX10_land 46 = .ok (.ifCond .ne 25, 3) := dk_154 0 25 (dk_at dksX10_land_2 0 rfl rfl)
theorem dX10_land_49 : decode cX10_land 49 = .ok (.aload_n 0, 1) := dk_42 (dk_at dksX10_land_2 3 rfl rfl)
theorem dX10_land_50 : decode cX10_land 50 = .ok (.getfield 107, 3) := dk_180 0 107 (dk_at dksX10_land_2 4 rfl rfl)
theorem dX10_land_53 : decode cX10_land 53 = .ok (.aload_n 0, 1) := dk_42 (dk_at dksX10_land_2 7 rfl rfl)
theorem dX10_land_54 : decode cX10_land 54 = .ok (.getfield 104, 3) := dk_180 0 104 (dk_at dksX10_land_2 8 rfl rfl)
theorem dX10_land_57 : decode cX10_land 57 = .ok (.if_icmp .ge 14, 3) := dk_162 0 14 (dk_at dksX10_land_2 11 rfl rfl)
theorem dX10_land_60 : decode cX10_land 60 = .ok (.aload_n 0, 1) := dk_42 (dk_at dksX10_land_2 14 rfl rfl)
theorem dX10_land_61 : decode cX10_land 61 = .ok (.invokevirtual 185, 3) := dk_182 0 185 (dk_at dksX10_land_2 15 rfl rfl)
theorem dX10_land_64 : decode cX10_land 64 = .ok (.aload_n 0, 1) := dk_42 (dk_at dksX10_land_2 18 rfl rfl)
theorem dX10_land_65 : decode cX10_land 65 = .ok (.invokevirtual 120, 3) := dk_182 0 120 (dk_at dksX10_land_2 19 rfl rfl)
theorem dX10_land_68 : decode cX10_land 68 = .ok (.goto (-26), 3) := dk_167 255 230 (dk_at dksX10_land_3 0 rfl rfl)
theorem dX10_land_71 : decode cX10_land 71 = .ok (.aload_n 0, 1) := dk_42 (dk_at dksX10_land_3 3 rfl rfl)
theorem dX10_land_72 : decode cX10_land 72 = .ok (.getfield 114, 3) := dk_180 0 114 (dk_at dksX10_land_3 4 rfl rfl)
theorem dX10_land_75 : decode cX10_land 75 = .ok (.ifCond .eq 8, 3) := dk_153 0 8 (dk_at dksX10_land_3 7 rfl rfl)
theorem dX10_land_78 : decode cX10_land 78 = .ok (.aload_n 0, 1) := dk_42 (dk_at dksX10_land_3 10 rfl rfl)
theorem dX10_land_79 : decode cX10_land 79 = .ok (.invokevirtual 188, 3) := dk_182 0 188 (dk_at dksX10_land_3 11 rfl rfl)
theorem dX10_land_82 : decode cX10_land 82 = .ok (.ireturn, 1) := dk_172 (dk_at dksX10_land_3 14 rfl rfl)
theorem dX10_land_83 : decode cX10_land 83 = .ok (.aload_n 0, 1) := dk_42 (dk_at dksX10_land_3 15 rfl rfl)
theorem dX10_land_84 : decode cX10_land 84 = .ok (.iconst (-1), 1) := dk_2 (dk_at dksX10_land_3 16 rfl rfl)
theorem dX10_land_85 : decode cX10_land 85 = .ok (.putfield 9, 3) := dk_181 0 9 (dk_at dksX10_land_3 17 rfl rfl)
theorem dX10_land_88 : decode cX10_land 88 = .ok (.aload_n 0, 1) := dk_42 (dk_at dksX10_land_3 20 rfl rfl)
theorem dX10_land_89 : decode cX10_land 89 = .ok (.invokevirtual 95, 3) := dk_182 0 95 (dk_at dksX10_land_3 21 rfl rfl)
theorem dX10_land_92 : decode cX10_land 92 = .ok (.aload_n 0, 1) := dk_42 (dk_at dksX10_land_4 0 rfl rfl)
theorem dX10_land_93 : decode cX10_land 93 = .ok (.getfield 23, 3) := dk_180 0 23 (dk_at dksX10_land_4 1 rfl rfl)
theorem dX10_land_96 : decode cX10_land 96 = .ok (.iconst 0, 1) := dk_3 (dk_at dksX10_land_4 4 rfl rfl)
theorem dX10_land_97 : decode cX10_land 97 = .ok (.iaload, 1) := dk_46 (dk_at dksX10_land_4 5 rfl rfl)
theorem dX10_land_98 : decode cX10_land 98 = .ok (.ireturn, 1) := dk_172 (dk_at dksX10_land_4 6 rfl rfl)
abbrev cX10_in : ByteArray := prog_32_method_5_code
def yX10_in : MethodName := ⟨RX10, "in", "(III)Z"⟩
def dkwX10_in_0 : List UInt8 := [26, 27, 161, 0, 12, 26, 28, 163, 0, 7, 4, 167, 0, 4, 3, 172]
abbrev dktX10_in_0 : List UInt8 := dkwX10_in_0 ++ []
theorem dksX10_in_0 : cX10_in.data.toList.drop 0 = dktX10_in_0 := by decide +kernel
theorem dX10_in_0 : decode cX10_in 0 = .ok (.iload_n 0, 1) := dk_26 (dk_at dksX10_in_0 0 rfl rfl)
theorem dX10_in_1 : decode cX10_in 1 = .ok (.iload_n 1, 1) := dk_27 (dk_at dksX10_in_0 1 rfl rfl)
theorem dX10_in_2 : decode cX10_in 2 = .ok (.if_icmp .lt 12, 3) := dk_161 0 12 (dk_at dksX10_in_0 2 rfl rfl)
theorem dX10_in_5 : decode cX10_in 5 = .ok (.iload_n 0, 1) := dk_26 (dk_at dksX10_in_0 5 rfl rfl)
theorem dX10_in_6 : decode cX10_in 6 = .ok (.iload_n 2, 1) := dk_28 (dk_at dksX10_in_0 6 rfl rfl)
theorem dX10_in_7 : decode cX10_in 7 = .ok (.if_icmp .gt 7, 3) := dk_163 0 7 (dk_at dksX10_in_0 7 rfl rfl)
theorem dX10_in_10 : decode cX10_in 10 = .ok (.iconst 1, 1) := dk_4 (dk_at dksX10_in_0 10 rfl rfl)
theorem dX10_in_11 : decode cX10_in 11 = .ok (.goto 4, 3) := dk_167 0 4 (dk_at dksX10_in_0 11 rfl rfl)
theorem dX10_in_14 : decode cX10_in 14 = .ok (.iconst 0, 1) := dk_3 (dk_at dksX10_in_0 14 rfl rfl)
theorem dX10_in_15 : decode cX10_in 15 = .ok (.ireturn, 1) := dk_172 (dk_at dksX10_in_0 15 rfl rfl)
abbrev cX10_bad : ByteArray := prog_32_method_4_code
def yX10_bad : MethodName := ⟨RX10, "bad", "(ZII)Z"⟩
def dkwX10_bad_1 : List UInt8 := [96, 79, 42, 180, 0, 98, 153, 0, 7, 4, 167, 0, 4, 3, 172]
abbrev dktX10_bad_1 : List UInt8 := dkwX10_bad_1 ++ []
def dkwX10_bad_0 : List UInt8 := [27, 153, 0, 25, 42, 180, 0, 98, 154, 0, 18, 42, 28, 181, 0, 98, 42, 180, 0, 17, 29, 92, 46, 4]
abbrev dktX10_bad_0 : List UInt8 := dkwX10_bad_0 ++ dktX10_bad_1
theorem dksX10_bad_0 : cX10_bad.data.toList.drop 0 = dktX10_bad_0 := by decide +kernel
theorem dksX10_bad_1 : cX10_bad.data.toList.drop 24 = dktX10_bad_1 := dk_seg dksX10_bad_0 24 rfl rfl
theorem dX10_bad_0 : decode cX10_bad 0 = .ok (.iload_n 1, 1) := dk_27 (dk_at dksX10_bad_0 0 rfl rfl)
theorem dX10_bad_1 : decode cX10_bad 1 = .ok (.ifCond .eq 25, 3) := dk_153 0 25 (dk_at dksX10_bad_0 1 rfl rfl)
theorem dX10_bad_4 : decode cX10_bad 4 = .ok (.aload_n 0, 1) := dk_42 (dk_at dksX10_bad_0 4 rfl rfl)
theorem dX10_bad_5 : decode cX10_bad 5 = .ok (.getfield 98, 3) := dk_180 0 98 (dk_at dksX10_bad_0 5 rfl rfl)
theorem dX10_bad_8 : decode cX10_bad 8 = .ok (.ifCond .ne 18, 3) := dk_154 0 18 (dk_at dksX10_bad_0 8 rfl rfl)
theorem dX10_bad_11 : decode cX10_bad 11 = .ok (.aload_n 0, 1) := dk_42 (dk_at dksX10_bad_0 11 rfl rfl)
theorem dX10_bad_12 : decode cX10_bad 12 = .ok (.iload_n 2, 1) := dk_28 (dk_at dksX10_bad_0 12 rfl rfl)
theorem dX10_bad_13 : decode cX10_bad 13 = .ok (.putfield 98, 3) := dk_181 0 98 (dk_at dksX10_bad_0 13 rfl rfl)
theorem dX10_bad_16 : decode cX10_bad 16 = .ok (.aload_n 0, 1) := dk_42 (dk_at dksX10_bad_0 16 rfl rfl)
theorem dX10_bad_17 : decode cX10_bad 17 = .ok (.getfield 17, 3) := dk_180 0 17 (dk_at dksX10_bad_0 17 rfl rfl)
theorem dX10_bad_20 : decode cX10_bad 20 = .ok (.iload_n 3, 1) := dk_29 (dk_at dksX10_bad_0 20 rfl rfl)
theorem dX10_bad_21 : decode cX10_bad 21 = .ok (.dup2, 1) := dk_92 (dk_at dksX10_bad_0 21 rfl rfl)
theorem dX10_bad_22 : decode cX10_bad 22 = .ok (.iaload, 1) := dk_46 (dk_at dksX10_bad_0 22 rfl rfl)
theorem dX10_bad_23 : decode cX10_bad 23 = .ok (.iconst 1, 1) := dk_4 (dk_at dksX10_bad_0 23 rfl rfl)
theorem dX10_bad_24 : decode cX10_bad 24 = .ok (.iadd, 1) := dk_96 (dk_at dksX10_bad_1 0 rfl rfl)
theorem dX10_bad_25 : decode cX10_bad 25 = .ok (.iastore, 1) := dk_79 (dk_at dksX10_bad_1 1 rfl rfl)
theorem dX10_bad_26 : decode cX10_bad 26 = .ok (.aload_n 0, 1) := dk_42 (dk_at dksX10_bad_1 2 rfl rfl)
theorem dX10_bad_27 : decode cX10_bad 27 = .ok (.getfield 98, 3) := dk_180 0 98 (dk_at dksX10_bad_1 3 rfl rfl)
theorem dX10_bad_30 : decode cX10_bad 30 = .ok (.ifCond .eq 7, 3) := dk_153 0 7 (dk_at dksX10_bad_1 6 rfl rfl)
theorem dX10_bad_33 : decode cX10_bad 33 = .ok (.iconst 1, 1) := dk_4 (dk_at dksX10_bad_1 9 rfl rfl)
theorem dX10_bad_34 : decode cX10_bad 34 = .ok (.goto 4, 3) := dk_167 0 4 (dk_at dksX10_bad_1 10 rfl rfl)
theorem dX10_bad_37 : decode cX10_bad 37 = .ok (.iconst 0, 1) := dk_3 (dk_at dksX10_bad_1 13 rfl rfl)
theorem dX10_bad_38 : decode cX10_bad 38 = .ok (.ireturn, 1) := dk_172 (dk_at dksX10_bad_1 14 rfl rfl)
abbrev cX10_starts : ByteArray := prog_32_method_23_code
def yX10_starts : MethodName := ⟨RX10, "starts", "(I)V"⟩
def dkwX10_starts_1 : List UInt8 := [181, 0, 117, 42, 3, 181, 0, 154, 42, 3, 181, 0, 157, 42, 182, 0, 120, 177]
abbrev dktX10_starts_1 : List UInt8 := dkwX10_starts_1 ++ []
def dkwX10_starts_0 : List UInt8 := [42, 3, 181, 0, 101, 42, 27, 181, 0, 104, 42, 3, 181, 0, 107, 42, 3, 181, 0, 114, 42, 2]
abbrev dktX10_starts_0 : List UInt8 := dkwX10_starts_0 ++ dktX10_starts_1
theorem dksX10_starts_0 : cX10_starts.data.toList.drop 0 = dktX10_starts_0 := by decide +kernel
theorem dksX10_starts_1 : cX10_starts.data.toList.drop 22 = dktX10_starts_1 := dk_seg dksX10_starts_0 22 rfl rfl
theorem dX10_starts_0 : decode cX10_starts 0 = .ok (.aload_n 0, 1) := dk_42 (dk_at dksX10_starts_0 0 rfl rfl)
theorem dX10_starts_1 : decode cX10_starts 1 = .ok (.iconst 0, 1) := dk_3 (dk_at dksX10_starts_0 1 rfl rfl)
theorem dX10_starts_2 : decode cX10_starts 2 = .ok (.putfield 101, 3) := dk_181 0 101 (dk_at dksX10_starts_0 2 rfl rfl)
theorem dX10_starts_5 : decode cX10_starts 5 = .ok (.aload_n 0, 1) := dk_42 (dk_at dksX10_starts_0 5 rfl rfl)
theorem dX10_starts_6 : decode cX10_starts 6 = .ok (.iload_n 1, 1) := dk_27 (dk_at dksX10_starts_0 6 rfl rfl)
theorem dX10_starts_7 : decode cX10_starts 7 = .ok (.putfield 104, 3) := dk_181 0 104 (dk_at dksX10_starts_0 7 rfl rfl)
theorem dX10_starts_10 : decode cX10_starts 10 = .ok (.aload_n 0, 1) := dk_42 (dk_at dksX10_starts_0 10 rfl rfl)
theorem dX10_starts_11 : decode cX10_starts 11 = .ok (.iconst 0, 1) := dk_3 (dk_at dksX10_starts_0 11 rfl rfl)
theorem dX10_starts_12 : decode cX10_starts 12 = .ok (.putfield 107, 3) := dk_181 0 107 (dk_at dksX10_starts_0 12 rfl rfl)
theorem dX10_starts_15 : decode cX10_starts 15 = .ok (.aload_n 0, 1) := dk_42 (dk_at dksX10_starts_0 15 rfl rfl)
theorem dX10_starts_16 : decode cX10_starts 16 = .ok (.iconst 0, 1) := dk_3 (dk_at dksX10_starts_0 16 rfl rfl)
theorem dX10_starts_17 : decode cX10_starts 17 = .ok (.putfield 114, 3) := dk_181 0 114 (dk_at dksX10_starts_0 17 rfl rfl)
theorem dX10_starts_20 : decode cX10_starts 20 = .ok (.aload_n 0, 1) := dk_42 (dk_at dksX10_starts_0 20 rfl rfl)
theorem dX10_starts_21 : decode cX10_starts 21 = .ok (.iconst (-1), 1) := dk_2 (dk_at dksX10_starts_0 21 rfl rfl)
theorem dX10_starts_22 : decode cX10_starts 22 = .ok (.putfield 117, 3) := dk_181 0 117 (dk_at dksX10_starts_1 0 rfl rfl)
theorem dX10_starts_25 : decode cX10_starts 25 = .ok (.aload_n 0, 1) := dk_42 (dk_at dksX10_starts_1 3 rfl rfl)
theorem dX10_starts_26 : decode cX10_starts 26 = .ok (.iconst 0, 1) := dk_3 (dk_at dksX10_starts_1 4 rfl rfl)
theorem dX10_starts_27 : decode cX10_starts 27 = .ok (.putfield 154, 3) := dk_181 0 154 (dk_at dksX10_starts_1 5 rfl rfl)
theorem dX10_starts_30 : decode cX10_starts 30 = .ok (.aload_n 0, 1) := dk_42 (dk_at dksX10_starts_1 8 rfl rfl)
theorem dX10_starts_31 : decode cX10_starts 31 = .ok (.iconst 0, 1) := dk_3 (dk_at dksX10_starts_1 9 rfl rfl)
theorem dX10_starts_32 : decode cX10_starts 32 = .ok (.putfield 157, 3) := dk_181 0 157 (dk_at dksX10_starts_1 10 rfl rfl)
theorem dX10_starts_35 : decode cX10_starts 35 = .ok (.aload_n 0, 1) := dk_42 (dk_at dksX10_starts_1 13 rfl rfl)
theorem dX10_starts_36 : decode cX10_starts 36 = .ok (.invokevirtual 120, 3) := dk_182 0 120 (dk_at dksX10_starts_1 14 rfl rfl)
theorem dX10_starts_39 : decode cX10_starts 39 = .ok (.return_, 1) := dk_177 (dk_at dksX10_starts_1 17 rfl rfl)
abbrev cX10_blanks : ByteArray := prog_32_method_11_code
def yX10_blanks : MethodName := ⟨RX10, "blanks", "()V"⟩
def dkwX10_blanks_1 : List UInt8 := [167, 255, 233, 177]
abbrev dktX10_blanks_1 : List UInt8 := dkwX10_blanks_1 ++ []
def dkwX10_blanks_0 : List UInt8 := [42, 42, 180, 0, 107, 182, 0, 110, 16, 32, 160, 0, 16, 42, 89, 180, 0, 107, 4, 96, 181, 0, 107]
abbrev dktX10_blanks_0 : List UInt8 := dkwX10_blanks_0 ++ dktX10_blanks_1
theorem dksX10_blanks_0 : cX10_blanks.data.toList.drop 0 = dktX10_blanks_0 := by decide +kernel
theorem dksX10_blanks_1 : cX10_blanks.data.toList.drop 23 = dktX10_blanks_1 := dk_seg dksX10_blanks_0 23 rfl rfl
theorem dX10_blanks_0 : decode cX10_blanks 0 = .ok (.aload_n 0, 1) := dk_42 (dk_at dksX10_blanks_0 0 rfl rfl)
theorem dX10_blanks_1 : decode cX10_blanks 1 = .ok (.aload_n 0, 1) := dk_42 (dk_at dksX10_blanks_0 1 rfl rfl)
theorem dX10_blanks_2 : decode cX10_blanks 2 = .ok (.getfield 107, 3) := dk_180 0 107 (dk_at dksX10_blanks_0 2 rfl rfl)
theorem dX10_blanks_5 : decode cX10_blanks 5 = .ok (.invokevirtual 110, 3) := dk_182 0 110 (dk_at dksX10_blanks_0 5 rfl rfl)
theorem dX10_blanks_8 : decode cX10_blanks 8 = .ok (.bipush 32, 2) := dk_16 32 (dk_at dksX10_blanks_0 8 rfl rfl)
theorem dX10_blanks_10 : decode cX10_blanks 10 = .ok (.if_icmp .ne 16, 3) := dk_160 0 16 (dk_at dksX10_blanks_0 10 rfl rfl)
theorem dX10_blanks_13 : decode cX10_blanks 13 = .ok (.aload_n 0, 1) := dk_42 (dk_at dksX10_blanks_0 13 rfl rfl)
theorem dX10_blanks_14 : decode cX10_blanks 14 = .ok (.dup, 1) := dk_89 (dk_at dksX10_blanks_0 14 rfl rfl)
theorem dX10_blanks_15 : decode cX10_blanks 15 = .ok (.getfield 107, 3) := dk_180 0 107 (dk_at dksX10_blanks_0 15 rfl rfl)
theorem dX10_blanks_18 : decode cX10_blanks 18 = .ok (.iconst 1, 1) := dk_4 (dk_at dksX10_blanks_0 18 rfl rfl)
theorem dX10_blanks_19 : decode cX10_blanks 19 = .ok (.iadd, 1) := dk_96 (dk_at dksX10_blanks_0 19 rfl rfl)
theorem dX10_blanks_20 : decode cX10_blanks 20 = .ok (.putfield 107, 3) := dk_181 0 107 (dk_at dksX10_blanks_0 20 rfl rfl)
theorem dX10_blanks_23 : decode cX10_blanks 23 = .ok (.goto (-23), 3) := dk_167 255 233 (dk_at dksX10_blanks_1 0 rfl rfl)
theorem dX10_blanks_26 : decode cX10_blanks 26 = .ok (.return_, 1) := dk_177 (dk_at dksX10_blanks_1 3 rfl rfl)
abbrev cX10_byteAt : ByteArray := prog_32_method_10_code
def yX10_byteAt : MethodName := ⟨RX10, "byteAt", "(I)I"⟩
def dkwX10_byteAt_0 : List UInt8 := [27, 42, 180, 0, 104, 161, 0, 7, 2, 167, 0, 9, 42, 180, 0, 13, 27, 46, 172]
abbrev dktX10_byteAt_0 : List UInt8 := dkwX10_byteAt_0 ++ []
theorem dksX10_byteAt_0 : cX10_byteAt.data.toList.drop 0 = dktX10_byteAt_0 := by decide +kernel
theorem dX10_byteAt_0 : decode cX10_byteAt 0 = .ok (.iload_n 1, 1) := dk_27 (dk_at dksX10_byteAt_0 0 rfl rfl)
theorem dX10_byteAt_1 : decode cX10_byteAt 1 = .ok (.aload_n 0, 1) := dk_42 (dk_at dksX10_byteAt_0 1 rfl rfl)
theorem dX10_byteAt_2 : decode cX10_byteAt 2 = .ok (.getfield 104, 3) := dk_180 0 104 (dk_at dksX10_byteAt_0 2 rfl rfl)
theorem dX10_byteAt_5 : decode cX10_byteAt 5 = .ok (.if_icmp .lt 7, 3) := dk_161 0 7 (dk_at dksX10_byteAt_0 5 rfl rfl)
theorem dX10_byteAt_8 : decode cX10_byteAt 8 = .ok (.iconst (-1), 1) := dk_2 (dk_at dksX10_byteAt_0 8 rfl rfl)
theorem dX10_byteAt_9 : decode cX10_byteAt 9 = .ok (.goto 9, 3) := dk_167 0 9 (dk_at dksX10_byteAt_0 9 rfl rfl)
theorem dX10_byteAt_12 : decode cX10_byteAt 12 = .ok (.aload_n 0, 1) := dk_42 (dk_at dksX10_byteAt_0 12 rfl rfl)
theorem dX10_byteAt_13 : decode cX10_byteAt 13 = .ok (.getfield 13, 3) := dk_180 0 13 (dk_at dksX10_byteAt_0 13 rfl rfl)
theorem dX10_byteAt_16 : decode cX10_byteAt 16 = .ok (.iload_n 1, 1) := dk_27 (dk_at dksX10_byteAt_0 16 rfl rfl)
theorem dX10_byteAt_17 : decode cX10_byteAt 17 = .ok (.iaload, 1) := dk_46 (dk_at dksX10_byteAt_0 17 rfl rfl)
theorem dX10_byteAt_18 : decode cX10_byteAt 18 = .ok (.ireturn, 1) := dk_172 (dk_at dksX10_byteAt_0 18 rfl rfl)
abbrev cX10_clause : ByteArray := prog_32_method_29_code
def yX10_clause : MethodName := ⟨RX10, "clause", "()V"⟩
def dkwX10_clause_15 : List UInt8 := [180, 0, 114, 154, 0, 7, 4, 167, 0, 4, 3, 96, 79, 177]
abbrev dktX10_clause_15 : List UInt8 := dkwX10_clause_15 ++ []
def dkwX10_clause_14 : List UInt8 := [167, 0, 3, 42, 16, 59, 182, 0, 174, 27, 6, 162, 0, 24, 42, 180, 0, 20, 27, 92, 46, 42]
abbrev dktX10_clause_14 : List UInt8 := dkwX10_clause_14 ++ dktX10_clause_15
def dkwX10_clause_13 : List UInt8 := [167, 0, 5, 16, 9, 182, 0, 166, 62, 42, 180, 0, 114, 154, 0, 13, 42, 180, 0, 20, 27, 29, 79]
abbrev dktX10_clause_13 : List UInt8 := dkwX10_clause_13 ++ dktX10_clause_14
def dkwX10_clause_12 : List UInt8 := [42, 180, 0, 40, 28, 50, 4, 21, 5, 79, 167, 0, 39, 42, 3, 27, 6, 160, 0, 9, 17, 0, 200]
abbrev dktX10_clause_12 : List UInt8 := dkwX10_clause_12 ++ dktX10_clause_13
def dkwX10_clause_11 : List UInt8 := [21, 5, 182, 0, 170, 153, 0, 10, 42, 5, 21, 4, 182, 0, 127, 42, 180, 0, 40, 28, 50, 3, 29, 79]
abbrev dktX10_clause_11 : List UInt8 := dkwX10_clause_11 ++ dktX10_clause_12
def dkwX10_clause_10 : List UInt8 := [3, 46, 4, 100, 182, 0, 166, 54, 5, 42, 180, 0, 114, 154, 0, 26, 29, 21, 5, 159, 0, 13, 42, 29]
abbrev dktX10_clause_10 : List UInt8 := dkwX10_clause_10 ++ dktX10_clause_11
def dkwX10_clause_9 : List UInt8 := [3, 46, 4, 100, 182, 0, 166, 62, 42, 182, 0, 120, 42, 180, 0, 107, 54, 4, 42, 3, 42, 180, 0, 20]
abbrev dktX10_clause_9 : List UInt8 := dkwX10_clause_9 ++ dktX10_clause_10
def dkwX10_clause_8 : List UInt8 := [42, 180, 0, 34, 28, 50, 4, 42, 4, 16, 20, 182, 0, 166, 79, 167, 0, 130, 42, 3, 42, 180, 0, 20]
abbrev dktX10_clause_8 : List UInt8 := dkwX10_clause_8 ++ dktX10_clause_9
def dkwX10_clause_7 : List UInt8 := [16, 9, 182, 0, 166, 79, 167, 0, 163, 42, 180, 0, 34, 28, 50, 3, 42, 3, 16, 9, 182, 0, 166, 79]
abbrev dktX10_clause_7 : List UInt8 := dkwX10_clause_7 ++ dktX10_clause_8
def dkwX10_clause_6 : List UInt8 := [42, 180, 0, 28, 28, 50, 3, 42, 3, 6, 182, 0, 166, 79, 42, 180, 0, 28, 28, 50, 4, 42, 3]
abbrev dktX10_clause_6 : List UInt8 := dkwX10_clause_6 ++ dktX10_clause_7
def dkwX10_clause_5 : List UInt8 := [170, 0, 0, 0, 0, 0, 183, 0, 0, 0, 0, 0, 0, 0, 2, 0, 0, 0, 27, 0, 0, 0, 59, 0, 0, 0, 92]
abbrev dktX10_clause_5 : List UInt8 := dkwX10_clause_5 ++ dktX10_clause_6
def dkwX10_clause_4 : List UInt8 := [3, 61, 27]
abbrev dktX10_clause_4 : List UInt8 := dkwX10_clause_4 ++ dktX10_clause_5
def dkwX10_clause_3 : List UInt8 := [42, 89, 180, 0, 154, 4, 96, 181, 0, 154, 27, 6, 162, 0, 12, 42, 180, 0, 20, 27, 46, 167, 0, 4]
abbrev dktX10_clause_3 : List UInt8 := dkwX10_clause_3 ++ dktX10_clause_4
def dkwX10_clause_2 : List UInt8 := [160, 0, 12, 42, 6, 42, 180, 0, 107, 182, 0, 127, 42, 180, 0, 114, 153, 0, 4, 177, 42, 182, 0, 151]
abbrev dktX10_clause_2 : List UInt8 := dkwX10_clause_2 ++ dktX10_clause_3
def dkwX10_clause_1 : List UInt8 := [180, 0, 154, 16, 60, 159, 0, 21, 27, 6, 162, 0, 25, 42, 180, 0, 20, 27, 46, 27, 184, 0, 163]
abbrev dktX10_clause_1 : List UInt8 := dkwX10_clause_1 ++ dktX10_clause_2
def dkwX10_clause_0 : List UInt8 := [42, 182, 0, 160, 60, 27, 2, 160, 0, 15, 42, 4, 42, 180, 0, 107, 182, 0, 127, 167, 0, 39, 42]
abbrev dktX10_clause_0 : List UInt8 := dkwX10_clause_0 ++ dktX10_clause_1
theorem dksX10_clause_0 : cX10_clause.data.toList.drop 0 = dktX10_clause_0 := by decide +kernel
theorem dksX10_clause_1 : cX10_clause.data.toList.drop 23 = dktX10_clause_1 := dk_seg dksX10_clause_0 23 rfl rfl
theorem dksX10_clause_2 : cX10_clause.data.toList.drop 46 = dktX10_clause_2 := dk_seg dksX10_clause_1 23 rfl rfl
theorem dksX10_clause_3 : cX10_clause.data.toList.drop 70 = dktX10_clause_3 := dk_seg dksX10_clause_2 24 rfl rfl
theorem dksX10_clause_4 : cX10_clause.data.toList.drop 94 = dktX10_clause_4 := dk_seg dksX10_clause_3 24 rfl rfl
theorem dksX10_clause_5 : cX10_clause.data.toList.drop 97 = dktX10_clause_5 := dk_seg dksX10_clause_4 3 rfl rfl
theorem dksX10_clause_6 : cX10_clause.data.toList.drop 124 = dktX10_clause_6 := dk_seg dksX10_clause_5 27 rfl rfl
theorem dksX10_clause_7 : cX10_clause.data.toList.drop 147 = dktX10_clause_7 := dk_seg dksX10_clause_6 23 rfl rfl
theorem dksX10_clause_8 : cX10_clause.data.toList.drop 171 = dktX10_clause_8 := dk_seg dksX10_clause_7 24 rfl rfl
theorem dksX10_clause_9 : cX10_clause.data.toList.drop 195 = dktX10_clause_9 := dk_seg dksX10_clause_8 24 rfl rfl
theorem dksX10_clause_10 : cX10_clause.data.toList.drop 219 = dktX10_clause_10 := dk_seg dksX10_clause_9 24 rfl rfl
theorem dksX10_clause_11 : cX10_clause.data.toList.drop 243 = dktX10_clause_11 := dk_seg dksX10_clause_10 24 rfl rfl
theorem dksX10_clause_12 : cX10_clause.data.toList.drop 267 = dktX10_clause_12 := dk_seg dksX10_clause_11 24 rfl rfl
theorem dksX10_clause_13 : cX10_clause.data.toList.drop 290 = dktX10_clause_13 := dk_seg dksX10_clause_12 23 rfl rfl
theorem dksX10_clause_14 : cX10_clause.data.toList.drop 313 = dktX10_clause_14 := dk_seg dksX10_clause_13 23 rfl rfl
theorem dksX10_clause_15 : cX10_clause.data.toList.drop 335 = dktX10_clause_15 := dk_seg dksX10_clause_14 22 rfl rfl
theorem dX10_clause_0 : decode cX10_clause 0 = .ok (.aload_n 0, 1) := dk_42 (dk_at dksX10_clause_0 0 rfl rfl)
theorem dX10_clause_1 : decode cX10_clause 1 = .ok (.invokevirtual 160, 3) := dk_182 0 160 (dk_at dksX10_clause_0 1 rfl rfl)
theorem dX10_clause_4 : decode cX10_clause 4 = .ok (.istore_n 1, 1) := dk_60 (dk_at dksX10_clause_0 4 rfl rfl)
theorem dX10_clause_5 : decode cX10_clause 5 = .ok (.iload_n 1, 1) := dk_27 (dk_at dksX10_clause_0 5 rfl rfl)
theorem dX10_clause_6 : decode cX10_clause 6 = .ok (.iconst (-1), 1) := dk_2 (dk_at dksX10_clause_0 6 rfl rfl)
theorem dX10_clause_7 : decode cX10_clause 7 = .ok (.if_icmp .ne 15, 3) := dk_160 0 15 (dk_at dksX10_clause_0 7 rfl rfl)
theorem dX10_clause_10 : decode cX10_clause 10 = .ok (.aload_n 0, 1) := dk_42 (dk_at dksX10_clause_0 10 rfl rfl)
theorem dX10_clause_11 : decode cX10_clause 11 = .ok (.iconst 1, 1) := dk_4 (dk_at dksX10_clause_0 11 rfl rfl)
theorem dX10_clause_12 : decode cX10_clause 12 = .ok (.aload_n 0, 1) := dk_42 (dk_at dksX10_clause_0 12 rfl rfl)
theorem dX10_clause_13 : decode cX10_clause 13 = .ok (.getfield 107, 3) := dk_180 0 107 (dk_at dksX10_clause_0 13 rfl rfl)
theorem dX10_clause_16 : decode cX10_clause 16 = .ok (.invokevirtual 127, 3) := dk_182 0 127 (dk_at dksX10_clause_0 16 rfl rfl)
theorem dX10_clause_19 : decode cX10_clause 19 = .ok (.goto 39, 3) := dk_167 0 39 (dk_at dksX10_clause_0 19 rfl rfl)
theorem dX10_clause_22 : decode cX10_clause 22 = .ok (.aload_n 0, 1) := dk_42 (dk_at dksX10_clause_0 22 rfl rfl)
theorem dX10_clause_23 : decode cX10_clause 23 = .ok (.getfield 154, 3) := dk_180 0 154 (dk_at dksX10_clause_1 0 rfl rfl)
theorem dX10_clause_26 : decode cX10_clause 26 = .ok (.bipush 60, 2) := dk_16 60 (dk_at dksX10_clause_1 3 rfl rfl)
theorem dX10_clause_28 : decode cX10_clause 28 = .ok (.if_icmp .eq 21, 3) := dk_159 0 21 (dk_at dksX10_clause_1 5 rfl rfl)
theorem dX10_clause_31 : decode cX10_clause 31 = .ok (.iload_n 1, 1) := dk_27 (dk_at dksX10_clause_1 8 rfl rfl)
theorem dX10_clause_32 : decode cX10_clause 32 = .ok (.iconst 3, 1) := dk_6 (dk_at dksX10_clause_1 9 rfl rfl)
theorem dX10_clause_33 : decode cX10_clause 33 = .ok (.if_icmp .ge 25, 3) := dk_162 0 25 (dk_at dksX10_clause_1 10 rfl rfl)
theorem dX10_clause_36 : decode cX10_clause 36 = .ok (.aload_n 0, 1) := dk_42 (dk_at dksX10_clause_1 13 rfl rfl)
theorem dX10_clause_37 : decode cX10_clause 37 = .ok (.getfield 20, 3) := dk_180 0 20 (dk_at dksX10_clause_1 14 rfl rfl)
theorem dX10_clause_40 : decode cX10_clause 40 = .ok (.iload_n 1, 1) := dk_27 (dk_at dksX10_clause_1 17 rfl rfl)
theorem dX10_clause_41 : decode cX10_clause 41 = .ok (.iaload, 1) := dk_46 (dk_at dksX10_clause_1 18 rfl rfl)
theorem dX10_clause_42 : decode cX10_clause 42 = .ok (.iload_n 1, 1) := dk_27 (dk_at dksX10_clause_1 19 rfl rfl)
theorem dX10_clause_43 : decode cX10_clause 43 = .ok (.invokestatic 163, 3) := dk_184 0 163 (dk_at dksX10_clause_1 20 rfl rfl)
theorem dX10_clause_46 : decode cX10_clause 46 = .ok (.if_icmp .ne 12, 3) := dk_160 0 12 (dk_at dksX10_clause_2 0 rfl rfl)
theorem dX10_clause_49 : decode cX10_clause 49 = .ok (.aload_n 0, 1) := dk_42 (dk_at dksX10_clause_2 3 rfl rfl)
theorem dX10_clause_50 : decode cX10_clause 50 = .ok (.iconst 3, 1) := dk_6 (dk_at dksX10_clause_2 4 rfl rfl)
theorem dX10_clause_51 : decode cX10_clause 51 = .ok (.aload_n 0, 1) := dk_42 (dk_at dksX10_clause_2 5 rfl rfl)
theorem dX10_clause_52 : decode cX10_clause 52 = .ok (.getfield 107, 3) := dk_180 0 107 (dk_at dksX10_clause_2 6 rfl rfl)
theorem dX10_clause_55 : decode cX10_clause 55 = .ok (.invokevirtual 127, 3) := dk_182 0 127 (dk_at dksX10_clause_2 9 rfl rfl)
theorem dX10_clause_58 : decode cX10_clause 58 = .ok (.aload_n 0, 1) := dk_42 (dk_at dksX10_clause_2 12 rfl rfl)
theorem dX10_clause_59 : decode cX10_clause 59 = .ok (.getfield 114, 3) := dk_180 0 114 (dk_at dksX10_clause_2 13 rfl rfl)
theorem dX10_clause_62 : decode cX10_clause 62 = .ok (.ifCond .eq 4, 3) := dk_153 0 4 (dk_at dksX10_clause_2 16 rfl rfl)
theorem dX10_clause_65 : decode cX10_clause 65 = .ok (.return_, 1) := dk_177 (dk_at dksX10_clause_2 19 rfl rfl)
theorem dX10_clause_66 : decode cX10_clause 66 = .ok (.aload_n 0, 1) := dk_42 (dk_at dksX10_clause_2 20 rfl rfl)
theorem dX10_clause_67 : decode cX10_clause 67 = .ok (.invokevirtual 151, 3) := dk_182 0 151 (dk_at dksX10_clause_2 21 rfl rfl)
theorem dX10_clause_70 : decode cX10_clause 70 = .ok (.aload_n 0, 1) := dk_42 (dk_at dksX10_clause_3 0 rfl rfl)
theorem dX10_clause_71 : decode cX10_clause 71 = .ok (.dup, 1) := dk_89 (dk_at dksX10_clause_3 1 rfl rfl)
theorem dX10_clause_72 : decode cX10_clause 72 = .ok (.getfield 154, 3) := dk_180 0 154 (dk_at dksX10_clause_3 2 rfl rfl)
theorem dX10_clause_75 : decode cX10_clause 75 = .ok (.iconst 1, 1) := dk_4 (dk_at dksX10_clause_3 5 rfl rfl)
theorem dX10_clause_76 : decode cX10_clause 76 = .ok (.iadd, 1) := dk_96 (dk_at dksX10_clause_3 6 rfl rfl)
theorem dX10_clause_77 : decode cX10_clause 77 = .ok (.putfield 154, 3) := dk_181 0 154 (dk_at dksX10_clause_3 7 rfl rfl)
theorem dX10_clause_80 : decode cX10_clause 80 = .ok (.iload_n 1, 1) := dk_27 (dk_at dksX10_clause_3 10 rfl rfl)
theorem dX10_clause_81 : decode cX10_clause 81 = .ok (.iconst 3, 1) := dk_6 (dk_at dksX10_clause_3 11 rfl rfl)
theorem dX10_clause_82 : decode cX10_clause 82 = .ok (.if_icmp .ge 12, 3) := dk_162 0 12 (dk_at dksX10_clause_3 12 rfl rfl)
theorem dX10_clause_85 : decode cX10_clause 85 = .ok (.aload_n 0, 1) := dk_42 (dk_at dksX10_clause_3 15 rfl rfl)
theorem dX10_clause_86 : decode cX10_clause 86 = .ok (.getfield 20, 3) := dk_180 0 20 (dk_at dksX10_clause_3 16 rfl rfl)
theorem dX10_clause_89 : decode cX10_clause 89 = .ok (.iload_n 1, 1) := dk_27 (dk_at dksX10_clause_3 19 rfl rfl)
theorem dX10_clause_90 : decode cX10_clause 90 = .ok (.iaload, 1) := dk_46 (dk_at dksX10_clause_3 20 rfl rfl)
theorem dX10_clause_91 : decode cX10_clause 91 = .ok (.goto 4, 3) := dk_167 0 4 (dk_at dksX10_clause_3 21 rfl rfl)
theorem dX10_clause_94 : decode cX10_clause 94 = .ok (.iconst 0, 1) := dk_3 (dk_at dksX10_clause_4 0 rfl rfl)
theorem dX10_clause_95 : decode cX10_clause 95 = .ok (.istore_n 2, 1) := dk_61 (dk_at dksX10_clause_4 1 rfl rfl)
theorem dX10_clause_96 : decode cX10_clause 96 = .ok (.iload_n 1, 1) := dk_27 (dk_at dksX10_clause_4 2 rfl rfl)
theorem dX10_clause_97 : decode cX10_clause 97 = .ok (.tableswitch 183 0 2 #[27, 59, 92], 27) := by decide +kernel
theorem dX10_clause_124 : decode cX10_clause 124 = .ok (.aload_n 0, 1) := dk_42 (dk_at dksX10_clause_6 0 rfl rfl)
theorem dX10_clause_125 : decode cX10_clause 125 = .ok (.getfield 28, 3) := dk_180 0 28 (dk_at dksX10_clause_6 1 rfl rfl)
theorem dX10_clause_128 : decode cX10_clause 128 = .ok (.iload_n 2, 1) := dk_28 (dk_at dksX10_clause_6 4 rfl rfl)
theorem dX10_clause_129 : decode cX10_clause 129 = .ok (.aaload, 1) := dk_50 (dk_at dksX10_clause_6 5 rfl rfl)
theorem dX10_clause_130 : decode cX10_clause 130 = .ok (.iconst 0, 1) := dk_3 (dk_at dksX10_clause_6 6 rfl rfl)
theorem dX10_clause_131 : decode cX10_clause 131 = .ok (.aload_n 0, 1) := dk_42 (dk_at dksX10_clause_6 7 rfl rfl)
theorem dX10_clause_132 : decode cX10_clause 132 = .ok (.iconst 0, 1) := dk_3 (dk_at dksX10_clause_6 8 rfl rfl)
theorem dX10_clause_133 : decode cX10_clause 133 = .ok (.iconst 3, 1) := dk_6 (dk_at dksX10_clause_6 9 rfl rfl)
theorem dX10_clause_134 : decode cX10_clause 134 = .ok (.invokevirtual 166, 3) := dk_182 0 166 (dk_at dksX10_clause_6 10 rfl rfl)
theorem dX10_clause_137 : decode cX10_clause 137 = .ok (.iastore, 1) := dk_79 (dk_at dksX10_clause_6 13 rfl rfl)
theorem dX10_clause_138 : decode cX10_clause 138 = .ok (.aload_n 0, 1) := dk_42 (dk_at dksX10_clause_6 14 rfl rfl)
theorem dX10_clause_139 : decode cX10_clause 139 = .ok (.getfield 28, 3) := dk_180 0 28 (dk_at dksX10_clause_6 15 rfl rfl)
theorem dX10_clause_142 : decode cX10_clause 142 = .ok (.iload_n 2, 1) := dk_28 (dk_at dksX10_clause_6 18 rfl rfl)
theorem dX10_clause_143 : decode cX10_clause 143 = .ok (.aaload, 1) := dk_50 (dk_at dksX10_clause_6 19 rfl rfl)
theorem dX10_clause_144 : decode cX10_clause 144 = .ok (.iconst 1, 1) := dk_4 (dk_at dksX10_clause_6 20 rfl rfl)
theorem dX10_clause_145 : decode cX10_clause 145 = .ok (.aload_n 0, 1) := dk_42 (dk_at dksX10_clause_6 21 rfl rfl)
theorem dX10_clause_146 : decode cX10_clause 146 = .ok (.iconst 0, 1) := dk_3 (dk_at dksX10_clause_6 22 rfl rfl)
theorem dX10_clause_147 : decode cX10_clause 147 = .ok (.bipush 9, 2) := dk_16 9 (dk_at dksX10_clause_7 0 rfl rfl)
theorem dX10_clause_149 : decode cX10_clause 149 = .ok (.invokevirtual 166, 3) := dk_182 0 166 (dk_at dksX10_clause_7 2 rfl rfl)
theorem dX10_clause_152 : decode cX10_clause 152 = .ok (.iastore, 1) := dk_79 (dk_at dksX10_clause_7 5 rfl rfl)
theorem dX10_clause_153 : decode cX10_clause 153 = .ok (.goto 163, 3) := dk_167 0 163 (dk_at dksX10_clause_7 6 rfl rfl)
theorem dX10_clause_156 : decode cX10_clause 156 = .ok (.aload_n 0, 1) := dk_42 (dk_at dksX10_clause_7 9 rfl rfl)
theorem dX10_clause_157 : decode cX10_clause 157 = .ok (.getfield 34, 3) := dk_180 0 34 (dk_at dksX10_clause_7 10 rfl rfl)
theorem dX10_clause_160 : decode cX10_clause 160 = .ok (.iload_n 2, 1) := dk_28 (dk_at dksX10_clause_7 13 rfl rfl)
theorem dX10_clause_161 : decode cX10_clause 161 = .ok (.aaload, 1) := dk_50 (dk_at dksX10_clause_7 14 rfl rfl)
theorem dX10_clause_162 : decode cX10_clause 162 = .ok (.iconst 0, 1) := dk_3 (dk_at dksX10_clause_7 15 rfl rfl)
theorem dX10_clause_163 : decode cX10_clause 163 = .ok (.aload_n 0, 1) := dk_42 (dk_at dksX10_clause_7 16 rfl rfl)
theorem dX10_clause_164 : decode cX10_clause 164 = .ok (.iconst 0, 1) := dk_3 (dk_at dksX10_clause_7 17 rfl rfl)
theorem dX10_clause_165 : decode cX10_clause 165 = .ok (.bipush 9, 2) := dk_16 9 (dk_at dksX10_clause_7 18 rfl rfl)
theorem dX10_clause_167 : decode cX10_clause 167 = .ok (.invokevirtual 166, 3) := dk_182 0 166 (dk_at dksX10_clause_7 20 rfl rfl)
theorem dX10_clause_170 : decode cX10_clause 170 = .ok (.iastore, 1) := dk_79 (dk_at dksX10_clause_7 23 rfl rfl)
theorem dX10_clause_171 : decode cX10_clause 171 = .ok (.aload_n 0, 1) := dk_42 (dk_at dksX10_clause_8 0 rfl rfl)
theorem dX10_clause_172 : decode cX10_clause 172 = .ok (.getfield 34, 3) := dk_180 0 34 (dk_at dksX10_clause_8 1 rfl rfl)
theorem dX10_clause_175 : decode cX10_clause 175 = .ok (.iload_n 2, 1) := dk_28 (dk_at dksX10_clause_8 4 rfl rfl)
theorem dX10_clause_176 : decode cX10_clause 176 = .ok (.aaload, 1) := dk_50 (dk_at dksX10_clause_8 5 rfl rfl)
theorem dX10_clause_177 : decode cX10_clause 177 = .ok (.iconst 1, 1) := dk_4 (dk_at dksX10_clause_8 6 rfl rfl)
theorem dX10_clause_178 : decode cX10_clause 178 = .ok (.aload_n 0, 1) := dk_42 (dk_at dksX10_clause_8 7 rfl rfl)
theorem dX10_clause_179 : decode cX10_clause 179 = .ok (.iconst 1, 1) := dk_4 (dk_at dksX10_clause_8 8 rfl rfl)
theorem dX10_clause_180 : decode cX10_clause 180 = .ok (.bipush 20, 2) := dk_16 20 (dk_at dksX10_clause_8 9 rfl rfl)
theorem dX10_clause_182 : decode cX10_clause 182 = .ok (.invokevirtual 166, 3) := dk_182 0 166 (dk_at dksX10_clause_8 11 rfl rfl)
theorem dX10_clause_185 : decode cX10_clause 185 = .ok (.iastore, 1) := dk_79 (dk_at dksX10_clause_8 14 rfl rfl)
theorem dX10_clause_186 : decode cX10_clause 186 = .ok (.goto 130, 3) := dk_167 0 130 (dk_at dksX10_clause_8 15 rfl rfl)
theorem dX10_clause_189 : decode cX10_clause 189 = .ok (.aload_n 0, 1) := dk_42 (dk_at dksX10_clause_8 18 rfl rfl)
theorem dX10_clause_190 : decode cX10_clause 190 = .ok (.iconst 0, 1) := dk_3 (dk_at dksX10_clause_8 19 rfl rfl)
theorem dX10_clause_191 : decode cX10_clause 191 = .ok (.aload_n 0, 1) := dk_42 (dk_at dksX10_clause_8 20 rfl rfl)
theorem dX10_clause_192 : decode cX10_clause 192 = .ok (.getfield 20, 3) := dk_180 0 20 (dk_at dksX10_clause_8 21 rfl rfl)
theorem dX10_clause_195 : decode cX10_clause 195 = .ok (.iconst 0, 1) := dk_3 (dk_at dksX10_clause_9 0 rfl rfl)
theorem dX10_clause_196 : decode cX10_clause 196 = .ok (.iaload, 1) := dk_46 (dk_at dksX10_clause_9 1 rfl rfl)
theorem dX10_clause_197 : decode cX10_clause 197 = .ok (.iconst 1, 1) := dk_4 (dk_at dksX10_clause_9 2 rfl rfl)
theorem dX10_clause_198 : decode cX10_clause 198 = .ok (.isub, 1) := dk_100 (dk_at dksX10_clause_9 3 rfl rfl)
theorem dX10_clause_199 : decode cX10_clause 199 = .ok (.invokevirtual 166, 3) := dk_182 0 166 (dk_at dksX10_clause_9 4 rfl rfl)
theorem dX10_clause_202 : decode cX10_clause 202 = .ok (.istore_n 3, 1) := dk_62 (dk_at dksX10_clause_9 7 rfl rfl)
theorem dX10_clause_203 : decode cX10_clause 203 = .ok (.aload_n 0, 1) := dk_42 (dk_at dksX10_clause_9 8 rfl rfl)
theorem dX10_clause_204 : decode cX10_clause 204 = .ok (.invokevirtual 120, 3) := dk_182 0 120 (dk_at dksX10_clause_9 9 rfl rfl)
theorem dX10_clause_207 : decode cX10_clause 207 = .ok (.aload_n 0, 1) := dk_42 (dk_at dksX10_clause_9 12 rfl rfl)
theorem dX10_clause_208 : decode cX10_clause 208 = .ok (.getfield 107, 3) := dk_180 0 107 (dk_at dksX10_clause_9 13 rfl rfl)
theorem dX10_clause_211 : decode cX10_clause 211 = .ok (.istore 4, 2) := dk_54 4 (dk_at dksX10_clause_9 16 rfl rfl)
theorem dX10_clause_213 : decode cX10_clause 213 = .ok (.aload_n 0, 1) := dk_42 (dk_at dksX10_clause_9 18 rfl rfl)
theorem dX10_clause_214 : decode cX10_clause 214 = .ok (.iconst 0, 1) := dk_3 (dk_at dksX10_clause_9 19 rfl rfl)
theorem dX10_clause_215 : decode cX10_clause 215 = .ok (.aload_n 0, 1) := dk_42 (dk_at dksX10_clause_9 20 rfl rfl)
theorem dX10_clause_216 : decode cX10_clause 216 = .ok (.getfield 20, 3) := dk_180 0 20 (dk_at dksX10_clause_9 21 rfl rfl)
theorem dX10_clause_219 : decode cX10_clause 219 = .ok (.iconst 0, 1) := dk_3 (dk_at dksX10_clause_10 0 rfl rfl)
theorem dX10_clause_220 : decode cX10_clause 220 = .ok (.iaload, 1) := dk_46 (dk_at dksX10_clause_10 1 rfl rfl)
theorem dX10_clause_221 : decode cX10_clause 221 = .ok (.iconst 1, 1) := dk_4 (dk_at dksX10_clause_10 2 rfl rfl)
theorem dX10_clause_222 : decode cX10_clause 222 = .ok (.isub, 1) := dk_100 (dk_at dksX10_clause_10 3 rfl rfl)
theorem dX10_clause_223 : decode cX10_clause 223 = .ok (.invokevirtual 166, 3) := dk_182 0 166 (dk_at dksX10_clause_10 4 rfl rfl)
theorem dX10_clause_226 : decode cX10_clause 226 = .ok (.istore 5, 2) := dk_54 5 (dk_at dksX10_clause_10 7 rfl rfl)
theorem dX10_clause_228 : decode cX10_clause 228 = .ok (.aload_n 0, 1) := dk_42 (dk_at dksX10_clause_10 9 rfl rfl)
theorem dX10_clause_229 : decode cX10_clause 229 = .ok (.getfield 114, 3) := dk_180 0 114 (dk_at dksX10_clause_10 10 rfl rfl)
theorem dX10_clause_232 : decode cX10_clause 232 = .ok (.ifCond .ne 26, 3) := dk_154 0 26 (dk_at dksX10_clause_10 13 rfl rfl)
theorem dX10_clause_235 : decode cX10_clause 235 = .ok (.iload_n 3, 1) := dk_29 (dk_at dksX10_clause_10 16 rfl rfl)
theorem dX10_clause_236 : decode cX10_clause 236 = .ok (.iload 5, 2) := dk_21 5 (dk_at dksX10_clause_10 17 rfl rfl)
theorem dX10_clause_238 : decode cX10_clause 238 = .ok (.if_icmp .eq 13, 3) := dk_159 0 13 (dk_at dksX10_clause_10 19 rfl rfl)
theorem dX10_clause_241 : decode cX10_clause 241 = .ok (.aload_n 0, 1) := dk_42 (dk_at dksX10_clause_10 22 rfl rfl)
theorem dX10_clause_242 : decode cX10_clause 242 = .ok (.iload_n 3, 1) := dk_29 (dk_at dksX10_clause_10 23 rfl rfl)
theorem dX10_clause_243 : decode cX10_clause 243 = .ok (.iload 5, 2) := dk_21 5 (dk_at dksX10_clause_11 0 rfl rfl)
theorem dX10_clause_245 : decode cX10_clause 245 = .ok (.invokevirtual 170, 3) := dk_182 0 170 (dk_at dksX10_clause_11 2 rfl rfl)
theorem dX10_clause_248 : decode cX10_clause 248 = .ok (.ifCond .eq 10, 3) := dk_153 0 10 (dk_at dksX10_clause_11 5 rfl rfl)
theorem dX10_clause_251 : decode cX10_clause 251 = .ok (.aload_n 0, 1) := dk_42 (dk_at dksX10_clause_11 8 rfl rfl)
theorem dX10_clause_252 : decode cX10_clause 252 = .ok (.iconst 2, 1) := dk_5 (dk_at dksX10_clause_11 9 rfl rfl)
theorem dX10_clause_253 : decode cX10_clause 253 = .ok (.iload 4, 2) := dk_21 4 (dk_at dksX10_clause_11 10 rfl rfl)
theorem dX10_clause_255 : decode cX10_clause 255 = .ok (.invokevirtual 127, 3) := dk_182 0 127 (dk_at dksX10_clause_11 12 rfl rfl)
theorem dX10_clause_258 : decode cX10_clause 258 = .ok (.aload_n 0, 1) := dk_42 (dk_at dksX10_clause_11 15 rfl rfl)
theorem dX10_clause_259 : decode cX10_clause 259 = .ok (.getfield 40, 3) := dk_180 0 40 (dk_at dksX10_clause_11 16 rfl rfl)
theorem dX10_clause_262 : decode cX10_clause 262 = .ok (.iload_n 2, 1) := dk_28 (dk_at dksX10_clause_11 19 rfl rfl)
theorem dX10_clause_263 : decode cX10_clause 263 = .ok (.aaload, 1) := dk_50 (dk_at dksX10_clause_11 20 rfl rfl)
theorem dX10_clause_264 : decode cX10_clause 264 = .ok (.iconst 0, 1) := dk_3 (dk_at dksX10_clause_11 21 rfl rfl)
theorem dX10_clause_265 : decode cX10_clause 265 = .ok (.iload_n 3, 1) := dk_29 (dk_at dksX10_clause_11 22 rfl rfl)
theorem dX10_clause_266 : decode cX10_clause 266 = .ok (.iastore, 1) := dk_79 (dk_at dksX10_clause_11 23 rfl rfl)
theorem dX10_clause_267 : decode cX10_clause 267 = .ok (.aload_n 0, 1) := dk_42 (dk_at dksX10_clause_12 0 rfl rfl)
theorem dX10_clause_268 : decode cX10_clause 268 = .ok (.getfield 40, 3) := dk_180 0 40 (dk_at dksX10_clause_12 1 rfl rfl)
theorem dX10_clause_271 : decode cX10_clause 271 = .ok (.iload_n 2, 1) := dk_28 (dk_at dksX10_clause_12 4 rfl rfl)
theorem dX10_clause_272 : decode cX10_clause 272 = .ok (.aaload, 1) := dk_50 (dk_at dksX10_clause_12 5 rfl rfl)
theorem dX10_clause_273 : decode cX10_clause 273 = .ok (.iconst 1, 1) := dk_4 (dk_at dksX10_clause_12 6 rfl rfl)
theorem dX10_clause_274 : decode cX10_clause 274 = .ok (.iload 5, 2) := dk_21 5 (dk_at dksX10_clause_12 7 rfl rfl)
theorem dX10_clause_276 : decode cX10_clause 276 = .ok (.iastore, 1) := dk_79 (dk_at dksX10_clause_12 9 rfl rfl)
theorem dX10_clause_277 : decode cX10_clause 277 = .ok (.goto 39, 3) := dk_167 0 39 (dk_at dksX10_clause_12 10 rfl rfl)
theorem dX10_clause_280 : decode cX10_clause 280 = .ok (.aload_n 0, 1) := dk_42 (dk_at dksX10_clause_12 13 rfl rfl)
theorem dX10_clause_281 : decode cX10_clause 281 = .ok (.iconst 0, 1) := dk_3 (dk_at dksX10_clause_12 14 rfl rfl)
theorem dX10_clause_282 : decode cX10_clause 282 = .ok (.iload_n 1, 1) := dk_27 (dk_at dksX10_clause_12 15 rfl rfl)
theorem dX10_clause_283 : decode cX10_clause 283 = .ok (.iconst 3, 1) := dk_6 (dk_at dksX10_clause_12 16 rfl rfl)
theorem dX10_clause_284 : decode cX10_clause 284 = .ok (.if_icmp .ne 9, 3) := dk_160 0 9 (dk_at dksX10_clause_12 17 rfl rfl)
theorem dX10_clause_287 : decode cX10_clause 287 = .ok (.sipush 200, 3) := dk_17 0 200 (dk_at dksX10_clause_12 20 rfl rfl)
theorem dX10_clause_290 : decode cX10_clause 290 = .ok (.goto 5, 3) := dk_167 0 5 (dk_at dksX10_clause_13 0 rfl rfl)
theorem dX10_clause_293 : decode cX10_clause 293 = .ok (.bipush 9, 2) := dk_16 9 (dk_at dksX10_clause_13 3 rfl rfl)
theorem dX10_clause_295 : decode cX10_clause 295 = .ok (.invokevirtual 166, 3) := dk_182 0 166 (dk_at dksX10_clause_13 5 rfl rfl)
theorem dX10_clause_298 : decode cX10_clause 298 = .ok (.istore_n 3, 1) := dk_62 (dk_at dksX10_clause_13 8 rfl rfl)
theorem dX10_clause_299 : decode cX10_clause 299 = .ok (.aload_n 0, 1) := dk_42 (dk_at dksX10_clause_13 9 rfl rfl)
theorem dX10_clause_300 : decode cX10_clause 300 = .ok (.getfield 114, 3) := dk_180 0 114 (dk_at dksX10_clause_13 10 rfl rfl)
theorem dX10_clause_303 : decode cX10_clause 303 = .ok (.ifCond .ne 13, 3) := dk_154 0 13 (dk_at dksX10_clause_13 13 rfl rfl)
theorem dX10_clause_306 : decode cX10_clause 306 = .ok (.aload_n 0, 1) := dk_42 (dk_at dksX10_clause_13 16 rfl rfl)
theorem dX10_clause_307 : decode cX10_clause 307 = .ok (.getfield 20, 3) := dk_180 0 20 (dk_at dksX10_clause_13 17 rfl rfl)
theorem dX10_clause_310 : decode cX10_clause 310 = .ok (.iload_n 1, 1) := dk_27 (dk_at dksX10_clause_13 20 rfl rfl)
theorem dX10_clause_311 : decode cX10_clause 311 = .ok (.iload_n 3, 1) := dk_29 (dk_at dksX10_clause_13 21 rfl rfl)
theorem dX10_clause_312 : decode cX10_clause 312 = .ok (.iastore, 1) := dk_79 (dk_at dksX10_clause_13 22 rfl rfl)
theorem dX10_clause_313 : decode cX10_clause 313 = .ok (.goto 3, 3) := dk_167 0 3 (dk_at dksX10_clause_14 0 rfl rfl)
theorem dX10_clause_316 : decode cX10_clause 316 = .ok (.aload_n 0, 1) := dk_42 (dk_at dksX10_clause_14 3 rfl rfl)
theorem dX10_clause_317 : decode cX10_clause 317 = .ok (.bipush 59, 2) := dk_16 59 (dk_at dksX10_clause_14 4 rfl rfl)
theorem dX10_clause_319 : decode cX10_clause 319 = .ok (.invokevirtual 174, 3) := dk_182 0 174 (dk_at dksX10_clause_14 6 rfl rfl)
theorem dX10_clause_322 : decode cX10_clause 322 = .ok (.iload_n 1, 1) := dk_27 (dk_at dksX10_clause_14 9 rfl rfl)
theorem dX10_clause_323 : decode cX10_clause 323 = .ok (.iconst 3, 1) := dk_6 (dk_at dksX10_clause_14 10 rfl rfl)
theorem dX10_clause_324 : decode cX10_clause 324 = .ok (.if_icmp .ge 24, 3) := dk_162 0 24 (dk_at dksX10_clause_14 11 rfl rfl)
theorem dX10_clause_327 : decode cX10_clause 327 = .ok (.aload_n 0, 1) := dk_42 (dk_at dksX10_clause_14 14 rfl rfl)
theorem dX10_clause_328 : decode cX10_clause 328 = .ok (.getfield 20, 3) := dk_180 0 20 (dk_at dksX10_clause_14 15 rfl rfl)
theorem dX10_clause_331 : decode cX10_clause 331 = .ok (.iload_n 1, 1) := dk_27 (dk_at dksX10_clause_14 18 rfl rfl)
theorem dX10_clause_332 : decode cX10_clause 332 = .ok (.dup2, 1) := dk_92 (dk_at dksX10_clause_14 19 rfl rfl)
theorem dX10_clause_333 : decode cX10_clause 333 = .ok (.iaload, 1) := dk_46 (dk_at dksX10_clause_14 20 rfl rfl)
theorem dX10_clause_334 : decode cX10_clause 334 = .ok (.aload_n 0, 1) := dk_42 (dk_at dksX10_clause_14 21 rfl rfl)
theorem dX10_clause_335 : decode cX10_clause 335 = .ok (.getfield 114, 3) := dk_180 0 114 (dk_at dksX10_clause_15 0 rfl rfl)
theorem dX10_clause_338 : decode cX10_clause 338 = .ok (.ifCond .ne 7, 3) := dk_154 0 7 (dk_at dksX10_clause_15 3 rfl rfl)
theorem dX10_clause_341 : decode cX10_clause 341 = .ok (.iconst 1, 1) := dk_4 (dk_at dksX10_clause_15 6 rfl rfl)
theorem dX10_clause_342 : decode cX10_clause 342 = .ok (.goto 4, 3) := dk_167 0 4 (dk_at dksX10_clause_15 7 rfl rfl)
theorem dX10_clause_345 : decode cX10_clause 345 = .ok (.iconst 0, 1) := dk_3 (dk_at dksX10_clause_15 10 rfl rfl)
theorem dX10_clause_346 : decode cX10_clause 346 = .ok (.iadd, 1) := dk_96 (dk_at dksX10_clause_15 11 rfl rfl)
theorem dX10_clause_347 : decode cX10_clause 347 = .ok (.iastore, 1) := dk_79 (dk_at dksX10_clause_15 12 rfl rfl)
theorem dX10_clause_348 : decode cX10_clause 348 = .ok (.return_, 1) := dk_177 (dk_at dksX10_clause_15 13 rfl rfl)
abbrev cX10_kindHere : ByteArray := prog_32_method_26_code
def yX10_kindHere : MethodName := ⟨RX10, "kindHere", "()I"⟩
def dkwX10_kindHere_4 : List UInt8 := [167, 0, 4, 2, 172]
abbrev dktX10_kindHere_4 : List UInt8 := dkwX10_kindHere_4 ++ []
def dkwX10_kindHere_3 : List UInt8 := [153, 0, 5, 6, 172, 42, 7, 16, 18, 16, 9, 16, 14, 16, 11, 3, 182, 0, 147, 153, 0, 7, 7]
abbrev dktX10_kindHere_3 : List UInt8 := dkwX10_kindHere_3 ++ dktX10_kindHere_4
def dkwX10_kindHere_2 : List UInt8 := [16, 20, 182, 0, 147, 153, 0, 5, 5, 172, 42, 16, 10, 16, 21, 16, 7, 3, 3, 3, 182, 0, 147]
abbrev dktX10_kindHere_2 : List UInt8 := dkwX10_kindHere_2 ++ dktX10_kindHere_3
def dkwX10_kindHere_1 : List UInt8 := [16, 15, 16, 11, 8, 3, 3, 182, 0, 147, 153, 0, 5, 4, 172, 42, 16, 19, 16, 20, 16, 18, 8, 8]
abbrev dktX10_kindHere_1 : List UInt8 := dkwX10_kindHere_1 ++ dktX10_kindHere_2
def dkwX10_kindHere_0 : List UInt8 := [42, 16, 16, 8, 16, 18, 16, 19, 16, 15, 16, 14, 182, 0, 147, 153, 0, 5, 3, 172, 42, 16, 10]
abbrev dktX10_kindHere_0 : List UInt8 := dkwX10_kindHere_0 ++ dktX10_kindHere_1
theorem dksX10_kindHere_0 : cX10_kindHere.data.toList.drop 0 = dktX10_kindHere_0 := by decide +kernel
theorem dksX10_kindHere_1 : cX10_kindHere.data.toList.drop 23 = dktX10_kindHere_1 := dk_seg dksX10_kindHere_0 23 rfl rfl
theorem dksX10_kindHere_2 : cX10_kindHere.data.toList.drop 47 = dktX10_kindHere_2 := dk_seg dksX10_kindHere_1 24 rfl rfl
theorem dksX10_kindHere_3 : cX10_kindHere.data.toList.drop 70 = dktX10_kindHere_3 := dk_seg dksX10_kindHere_2 23 rfl rfl
theorem dksX10_kindHere_4 : cX10_kindHere.data.toList.drop 93 = dktX10_kindHere_4 := dk_seg dksX10_kindHere_3 23 rfl rfl
theorem dX10_kindHere_0 : decode cX10_kindHere 0 = .ok (.aload_n 0, 1) := dk_42 (dk_at dksX10_kindHere_0 0 rfl rfl)
theorem dX10_kindHere_1 : decode cX10_kindHere 1 = .ok (.bipush 16, 2) := dk_16 16 (dk_at dksX10_kindHere_0 1 rfl rfl)
theorem dX10_kindHere_3 : decode cX10_kindHere 3 = .ok (.iconst 5, 1) := dk_8 (dk_at dksX10_kindHere_0 3 rfl rfl)
theorem dX10_kindHere_4 : decode cX10_kindHere 4 = .ok (.bipush 18, 2) := dk_16 18 (dk_at dksX10_kindHere_0 4 rfl rfl)
theorem dX10_kindHere_6 : decode cX10_kindHere 6 = .ok (.bipush 19, 2) := dk_16 19 (dk_at dksX10_kindHere_0 6 rfl rfl)
theorem dX10_kindHere_8 : decode cX10_kindHere 8 = .ok (.bipush 15, 2) := dk_16 15 (dk_at dksX10_kindHere_0 8 rfl rfl)
theorem dX10_kindHere_10 : decode cX10_kindHere 10 = .ok (.bipush 14, 2) := dk_16 14 (dk_at dksX10_kindHere_0 10 rfl rfl)
theorem dX10_kindHere_12 : decode cX10_kindHere 12 = .ok (.invokevirtual 147, 3) := dk_182 0 147 (dk_at dksX10_kindHere_0 12 rfl rfl)
theorem dX10_kindHere_15 : decode cX10_kindHere 15 = .ok (.ifCond .eq 5, 3) := dk_153 0 5 (dk_at dksX10_kindHere_0 15 rfl rfl)
theorem dX10_kindHere_18 : decode cX10_kindHere 18 = .ok (.iconst 0, 1) := dk_3 (dk_at dksX10_kindHere_0 18 rfl rfl)
theorem dX10_kindHere_19 : decode cX10_kindHere 19 = .ok (.ireturn, 1) := dk_172 (dk_at dksX10_kindHere_0 19 rfl rfl)
theorem dX10_kindHere_20 : decode cX10_kindHere 20 = .ok (.aload_n 0, 1) := dk_42 (dk_at dksX10_kindHere_0 20 rfl rfl)
theorem dX10_kindHere_21 : decode cX10_kindHere 21 = .ok (.bipush 10, 2) := dk_16 10 (dk_at dksX10_kindHere_0 21 rfl rfl)
theorem dX10_kindHere_23 : decode cX10_kindHere 23 = .ok (.bipush 15, 2) := dk_16 15 (dk_at dksX10_kindHere_1 0 rfl rfl)
theorem dX10_kindHere_25 : decode cX10_kindHere 25 = .ok (.bipush 11, 2) := dk_16 11 (dk_at dksX10_kindHere_1 2 rfl rfl)
theorem dX10_kindHere_27 : decode cX10_kindHere 27 = .ok (.iconst 5, 1) := dk_8 (dk_at dksX10_kindHere_1 4 rfl rfl)
theorem dX10_kindHere_28 : decode cX10_kindHere 28 = .ok (.iconst 0, 1) := dk_3 (dk_at dksX10_kindHere_1 5 rfl rfl)
theorem dX10_kindHere_29 : decode cX10_kindHere 29 = .ok (.iconst 0, 1) := dk_3 (dk_at dksX10_kindHere_1 6 rfl rfl)
theorem dX10_kindHere_30 : decode cX10_kindHere 30 = .ok (.invokevirtual 147, 3) := dk_182 0 147 (dk_at dksX10_kindHere_1 7 rfl rfl)
theorem dX10_kindHere_33 : decode cX10_kindHere 33 = .ok (.ifCond .eq 5, 3) := dk_153 0 5 (dk_at dksX10_kindHere_1 10 rfl rfl)
theorem dX10_kindHere_36 : decode cX10_kindHere 36 = .ok (.iconst 1, 1) := dk_4 (dk_at dksX10_kindHere_1 13 rfl rfl)
theorem dX10_kindHere_37 : decode cX10_kindHere 37 = .ok (.ireturn, 1) := dk_172 (dk_at dksX10_kindHere_1 14 rfl rfl)
theorem dX10_kindHere_38 : decode cX10_kindHere 38 = .ok (.aload_n 0, 1) := dk_42 (dk_at dksX10_kindHere_1 15 rfl rfl)
theorem dX10_kindHere_39 : decode cX10_kindHere 39 = .ok (.bipush 19, 2) := dk_16 19 (dk_at dksX10_kindHere_1 16 rfl rfl)
theorem dX10_kindHere_41 : decode cX10_kindHere 41 = .ok (.bipush 20, 2) := dk_16 20 (dk_at dksX10_kindHere_1 18 rfl rfl)
theorem dX10_kindHere_43 : decode cX10_kindHere 43 = .ok (.bipush 18, 2) := dk_16 18 (dk_at dksX10_kindHere_1 20 rfl rfl)
theorem dX10_kindHere_45 : decode cX10_kindHere 45 = .ok (.iconst 5, 1) := dk_8 (dk_at dksX10_kindHere_1 22 rfl rfl)
theorem dX10_kindHere_46 : decode cX10_kindHere 46 = .ok (.iconst 5, 1) := dk_8 (dk_at dksX10_kindHere_1 23 rfl rfl)
theorem dX10_kindHere_47 : decode cX10_kindHere 47 = .ok (.bipush 20, 2) := dk_16 20 (dk_at dksX10_kindHere_2 0 rfl rfl)
theorem dX10_kindHere_49 : decode cX10_kindHere 49 = .ok (.invokevirtual 147, 3) := dk_182 0 147 (dk_at dksX10_kindHere_2 2 rfl rfl)
theorem dX10_kindHere_52 : decode cX10_kindHere 52 = .ok (.ifCond .eq 5, 3) := dk_153 0 5 (dk_at dksX10_kindHere_2 5 rfl rfl)
theorem dX10_kindHere_55 : decode cX10_kindHere 55 = .ok (.iconst 2, 1) := dk_5 (dk_at dksX10_kindHere_2 8 rfl rfl)
theorem dX10_kindHere_56 : decode cX10_kindHere 56 = .ok (.ireturn, 1) := dk_172 (dk_at dksX10_kindHere_2 9 rfl rfl)
theorem dX10_kindHere_57 : decode cX10_kindHere 57 = .ok (.aload_n 0, 1) := dk_42 (dk_at dksX10_kindHere_2 10 rfl rfl)
theorem dX10_kindHere_58 : decode cX10_kindHere 58 = .ok (.bipush 10, 2) := dk_16 10 (dk_at dksX10_kindHere_2 11 rfl rfl)
theorem dX10_kindHere_60 : decode cX10_kindHere 60 = .ok (.bipush 21, 2) := dk_16 21 (dk_at dksX10_kindHere_2 13 rfl rfl)
theorem dX10_kindHere_62 : decode cX10_kindHere 62 = .ok (.bipush 7, 2) := dk_16 7 (dk_at dksX10_kindHere_2 15 rfl rfl)
theorem dX10_kindHere_64 : decode cX10_kindHere 64 = .ok (.iconst 0, 1) := dk_3 (dk_at dksX10_kindHere_2 17 rfl rfl)
theorem dX10_kindHere_65 : decode cX10_kindHere 65 = .ok (.iconst 0, 1) := dk_3 (dk_at dksX10_kindHere_2 18 rfl rfl)
theorem dX10_kindHere_66 : decode cX10_kindHere 66 = .ok (.iconst 0, 1) := dk_3 (dk_at dksX10_kindHere_2 19 rfl rfl)
theorem dX10_kindHere_67 : decode cX10_kindHere 67 = .ok (.invokevirtual 147, 3) := dk_182 0 147 (dk_at dksX10_kindHere_2 20 rfl rfl)
theorem dX10_kindHere_70 : decode cX10_kindHere 70 = .ok (.ifCond .eq 5, 3) := dk_153 0 5 (dk_at dksX10_kindHere_3 0 rfl rfl)
theorem dX10_kindHere_73 : decode cX10_kindHere 73 = .ok (.iconst 3, 1) := dk_6 (dk_at dksX10_kindHere_3 3 rfl rfl)
theorem dX10_kindHere_74 : decode cX10_kindHere 74 = .ok (.ireturn, 1) := dk_172 (dk_at dksX10_kindHere_3 4 rfl rfl)
theorem dX10_kindHere_75 : decode cX10_kindHere 75 = .ok (.aload_n 0, 1) := dk_42 (dk_at dksX10_kindHere_3 5 rfl rfl)
theorem dX10_kindHere_76 : decode cX10_kindHere 76 = .ok (.iconst 4, 1) := dk_7 (dk_at dksX10_kindHere_3 6 rfl rfl)
theorem dX10_kindHere_77 : decode cX10_kindHere 77 = .ok (.bipush 18, 2) := dk_16 18 (dk_at dksX10_kindHere_3 7 rfl rfl)
theorem dX10_kindHere_79 : decode cX10_kindHere 79 = .ok (.bipush 9, 2) := dk_16 9 (dk_at dksX10_kindHere_3 9 rfl rfl)
theorem dX10_kindHere_81 : decode cX10_kindHere 81 = .ok (.bipush 14, 2) := dk_16 14 (dk_at dksX10_kindHere_3 11 rfl rfl)
theorem dX10_kindHere_83 : decode cX10_kindHere 83 = .ok (.bipush 11, 2) := dk_16 11 (dk_at dksX10_kindHere_3 13 rfl rfl)
theorem dX10_kindHere_85 : decode cX10_kindHere 85 = .ok (.iconst 0, 1) := dk_3 (dk_at dksX10_kindHere_3 15 rfl rfl)
theorem dX10_kindHere_86 : decode cX10_kindHere 86 = .ok (.invokevirtual 147, 3) := dk_182 0 147 (dk_at dksX10_kindHere_3 16 rfl rfl)
theorem dX10_kindHere_89 : decode cX10_kindHere 89 = .ok (.ifCond .eq 7, 3) := dk_153 0 7 (dk_at dksX10_kindHere_3 19 rfl rfl)
theorem dX10_kindHere_92 : decode cX10_kindHere 92 = .ok (.iconst 4, 1) := dk_7 (dk_at dksX10_kindHere_3 22 rfl rfl)
theorem dX10_kindHere_93 : decode cX10_kindHere 93 = .ok (.goto 4, 3) := dk_167 0 4 (dk_at dksX10_kindHere_4 0 rfl rfl)
theorem dX10_kindHere_96 : decode cX10_kindHere 96 = .ok (.iconst (-1), 1) := dk_2 (dk_at dksX10_kindHere_4 3 rfl rfl)
theorem dX10_kindHere_97 : decode cX10_kindHere 97 = .ok (.ireturn, 1) := dk_172 (dk_at dksX10_kindHere_4 4 rfl rfl)
abbrev cX10_isWord : ByteArray := prog_32_method_18_code
def yX10_isWord : MethodName := ⟨RX10, "isWord", "(IIIIII)Z"⟩
def dkwX10_isWord_1 : List UInt8 := [160, 0, 7, 4, 167, 0, 4, 3, 172]
abbrev dktX10_isWord_1 : List UInt8 := dkwX10_isWord_1 ++ []
def dkwX10_isWord_0 : List UInt8 := [42, 180, 0, 114, 154, 0, 26, 42, 182, 0, 139, 27, 28, 29, 21, 4, 21, 5, 21, 6, 184, 0, 143]
abbrev dktX10_isWord_0 : List UInt8 := dkwX10_isWord_0 ++ dktX10_isWord_1
theorem dksX10_isWord_0 : cX10_isWord.data.toList.drop 0 = dktX10_isWord_0 := by decide +kernel
theorem dksX10_isWord_1 : cX10_isWord.data.toList.drop 23 = dktX10_isWord_1 := dk_seg dksX10_isWord_0 23 rfl rfl
theorem dX10_isWord_0 : decode cX10_isWord 0 = .ok (.aload_n 0, 1) := dk_42 (dk_at dksX10_isWord_0 0 rfl rfl)
theorem dX10_isWord_1 : decode cX10_isWord 1 = .ok (.getfield 114, 3) := dk_180 0 114 (dk_at dksX10_isWord_0 1 rfl rfl)
theorem dX10_isWord_4 : decode cX10_isWord 4 = .ok (.ifCond .ne 26, 3) := dk_154 0 26 (dk_at dksX10_isWord_0 4 rfl rfl)
theorem dX10_isWord_7 : decode cX10_isWord 7 = .ok (.aload_n 0, 1) := dk_42 (dk_at dksX10_isWord_0 7 rfl rfl)
theorem dX10_isWord_8 : decode cX10_isWord 8 = .ok (.invokevirtual 139, 3) := dk_182 0 139 (dk_at dksX10_isWord_0 8 rfl rfl)
theorem dX10_isWord_11 : decode cX10_isWord 11 = .ok (.iload_n 1, 1) := dk_27 (dk_at dksX10_isWord_0 11 rfl rfl)
theorem dX10_isWord_12 : decode cX10_isWord 12 = .ok (.iload_n 2, 1) := dk_28 (dk_at dksX10_isWord_0 12 rfl rfl)
theorem dX10_isWord_13 : decode cX10_isWord 13 = .ok (.iload_n 3, 1) := dk_29 (dk_at dksX10_isWord_0 13 rfl rfl)
theorem dX10_isWord_14 : decode cX10_isWord 14 = .ok (.iload 4, 2) := dk_21 4 (dk_at dksX10_isWord_0 14 rfl rfl)
theorem dX10_isWord_16 : decode cX10_isWord 16 = .ok (.iload 5, 2) := dk_21 5 (dk_at dksX10_isWord_0 16 rfl rfl)
theorem dX10_isWord_18 : decode cX10_isWord 18 = .ok (.iload 6, 2) := dk_21 6 (dk_at dksX10_isWord_0 18 rfl rfl)
theorem dX10_isWord_20 : decode cX10_isWord 20 = .ok (.invokestatic 143, 3) := dk_184 0 143 (dk_at dksX10_isWord_0 20 rfl rfl)
theorem dX10_isWord_23 : decode cX10_isWord 23 = .ok (.if_icmp .ne 7, 3) := dk_160 0 7 (dk_at dksX10_isWord_1 0 rfl rfl)
theorem dX10_isWord_26 : decode cX10_isWord 26 = .ok (.iconst 1, 1) := dk_4 (dk_at dksX10_isWord_1 3 rfl rfl)
theorem dX10_isWord_27 : decode cX10_isWord 27 = .ok (.goto 4, 3) := dk_167 0 4 (dk_at dksX10_isWord_1 4 rfl rfl)
theorem dX10_isWord_30 : decode cX10_isWord 30 = .ok (.iconst 0, 1) := dk_3 (dk_at dksX10_isWord_1 7 rfl rfl)
theorem dX10_isWord_31 : decode cX10_isWord 31 = .ok (.ireturn, 1) := dk_172 (dk_at dksX10_isWord_1 8 rfl rfl)
abbrev cX10_wordHere : ByteArray := prog_32_method_16_code
def yX10_wordHere : MethodName := ⟨RX10, "wordHere", "()I"⟩
def dkwX10_wordHere_3 : List UInt8 := [172]
abbrev dktX10_wordHere_3 : List UInt8 := dkwX10_wordHere_3 ++ []
def dkwX10_wordHere_2 : List UInt8 := [4, 96, 167, 0, 4, 27, 60, 132, 2, 1, 167, 255, 206, 28, 16, 6, 164, 0, 7, 2, 167, 0, 4, 27]
abbrev dktX10_wordHere_2 : List UInt8 := dkwX10_wordHere_2 ++ dktX10_wordHere_3
def dkwX10_wordHere_1 : List UInt8 := [28, 16, 6, 162, 0, 26, 16, 27, 27, 104, 42, 42, 180, 0, 107, 28, 96, 182, 0, 110, 96, 16, 97, 100]
abbrev dktX10_wordHere_1 : List UInt8 := dkwX10_wordHere_1 ++ dktX10_wordHere_2
def dkwX10_wordHere_0 : List UInt8 := [42, 182, 0, 120, 3, 60, 3, 61, 42, 42, 180, 0, 107, 28, 96, 182, 0, 110, 184, 0, 136, 153, 0, 40]
abbrev dktX10_wordHere_0 : List UInt8 := dkwX10_wordHere_0 ++ dktX10_wordHere_1
theorem dksX10_wordHere_0 : cX10_wordHere.data.toList.drop 0 = dktX10_wordHere_0 := by decide +kernel
theorem dksX10_wordHere_1 : cX10_wordHere.data.toList.drop 24 = dktX10_wordHere_1 := dk_seg dksX10_wordHere_0 24 rfl rfl
theorem dksX10_wordHere_2 : cX10_wordHere.data.toList.drop 48 = dktX10_wordHere_2 := dk_seg dksX10_wordHere_1 24 rfl rfl
theorem dksX10_wordHere_3 : cX10_wordHere.data.toList.drop 72 = dktX10_wordHere_3 := dk_seg dksX10_wordHere_2 24 rfl rfl
theorem dX10_wordHere_0 : decode cX10_wordHere 0 = .ok (.aload_n 0, 1) := dk_42 (dk_at dksX10_wordHere_0 0 rfl rfl)
theorem dX10_wordHere_1 : decode cX10_wordHere 1 = .ok (.invokevirtual 120, 3) := dk_182 0 120 (dk_at dksX10_wordHere_0 1 rfl rfl)
theorem dX10_wordHere_4 : decode cX10_wordHere 4 = .ok (.iconst 0, 1) := dk_3 (dk_at dksX10_wordHere_0 4 rfl rfl)
theorem dX10_wordHere_5 : decode cX10_wordHere 5 = .ok (.istore_n 1, 1) := dk_60 (dk_at dksX10_wordHere_0 5 rfl rfl)
theorem dX10_wordHere_6 : decode cX10_wordHere 6 = .ok (.iconst 0, 1) := dk_3 (dk_at dksX10_wordHere_0 6 rfl rfl)
theorem dX10_wordHere_7 : decode cX10_wordHere 7 = .ok (.istore_n 2, 1) := dk_61 (dk_at dksX10_wordHere_0 7 rfl rfl)
theorem dX10_wordHere_8 : decode cX10_wordHere 8 = .ok (.aload_n 0, 1) := dk_42 (dk_at dksX10_wordHere_0 8 rfl rfl)
theorem dX10_wordHere_9 : decode cX10_wordHere 9 = .ok (.aload_n 0, 1) := dk_42 (dk_at dksX10_wordHere_0 9 rfl rfl)
theorem dX10_wordHere_10 : decode cX10_wordHere 10 = .ok (.getfield 107, 3) := dk_180 0 107 (dk_at dksX10_wordHere_0 10 rfl rfl)
theorem dX10_wordHere_13 : decode cX10_wordHere 13 = .ok (.iload_n 2, 1) := dk_28 (dk_at dksX10_wordHere_0 13 rfl rfl)
theorem dX10_wordHere_14 : decode cX10_wordHere 14 = .ok (.iadd, 1) := dk_96 (dk_at dksX10_wordHere_0 14 rfl rfl)
theorem dX10_wordHere_15 : decode cX10_wordHere 15 = .ok (.invokevirtual 110, 3) := dk_182 0 110 (dk_at dksX10_wordHere_0 15 rfl rfl)
theorem dX10_wordHere_18 : decode cX10_wordHere 18 = .ok (.invokestatic 136, 3) := dk_184 0 136 (dk_at dksX10_wordHere_0 18 rfl rfl)
theorem dX10_wordHere_21 : decode cX10_wordHere 21 = .ok (.ifCond .eq 40, 3) := dk_153 0 40 (dk_at dksX10_wordHere_0 21 rfl rfl)
theorem dX10_wordHere_24 : decode cX10_wordHere 24 = .ok (.iload_n 2, 1) := dk_28 (dk_at dksX10_wordHere_1 0 rfl rfl)
theorem dX10_wordHere_25 : decode cX10_wordHere 25 = .ok (.bipush 6, 2) := dk_16 6 (dk_at dksX10_wordHere_1 1 rfl rfl)
theorem dX10_wordHere_27 : decode cX10_wordHere 27 = .ok (.if_icmp .ge 26, 3) := dk_162 0 26 (dk_at dksX10_wordHere_1 3 rfl rfl)
theorem dX10_wordHere_30 : decode cX10_wordHere 30 = .ok (.bipush 27, 2) := dk_16 27 (dk_at dksX10_wordHere_1 6 rfl rfl)
theorem dX10_wordHere_32 : decode cX10_wordHere 32 = .ok (.iload_n 1, 1) := dk_27 (dk_at dksX10_wordHere_1 8 rfl rfl)
theorem dX10_wordHere_33 : decode cX10_wordHere 33 = .ok (.imul, 1) := dk_104 (dk_at dksX10_wordHere_1 9 rfl rfl)
theorem dX10_wordHere_34 : decode cX10_wordHere 34 = .ok (.aload_n 0, 1) := dk_42 (dk_at dksX10_wordHere_1 10 rfl rfl)
theorem dX10_wordHere_35 : decode cX10_wordHere 35 = .ok (.aload_n 0, 1) := dk_42 (dk_at dksX10_wordHere_1 11 rfl rfl)
theorem dX10_wordHere_36 : decode cX10_wordHere 36 = .ok (.getfield 107, 3) := dk_180 0 107 (dk_at dksX10_wordHere_1 12 rfl rfl)
theorem dX10_wordHere_39 : decode cX10_wordHere 39 = .ok (.iload_n 2, 1) := dk_28 (dk_at dksX10_wordHere_1 15 rfl rfl)
theorem dX10_wordHere_40 : decode cX10_wordHere 40 = .ok (.iadd, 1) := dk_96 (dk_at dksX10_wordHere_1 16 rfl rfl)
theorem dX10_wordHere_41 : decode cX10_wordHere 41 = .ok (.invokevirtual 110, 3) := dk_182 0 110 (dk_at dksX10_wordHere_1 17 rfl rfl)
theorem dX10_wordHere_44 : decode cX10_wordHere 44 = .ok (.iadd, 1) := dk_96 (dk_at dksX10_wordHere_1 20 rfl rfl)
theorem dX10_wordHere_45 : decode cX10_wordHere 45 = .ok (.bipush 97, 2) := dk_16 97 (dk_at dksX10_wordHere_1 21 rfl rfl)
theorem dX10_wordHere_47 : decode cX10_wordHere 47 = .ok (.isub, 1) := dk_100 (dk_at dksX10_wordHere_1 23 rfl rfl)
theorem dX10_wordHere_48 : decode cX10_wordHere 48 = .ok (.iconst 1, 1) := dk_4 (dk_at dksX10_wordHere_2 0 rfl rfl)
theorem dX10_wordHere_49 : decode cX10_wordHere 49 = .ok (.iadd, 1) := dk_96 (dk_at dksX10_wordHere_2 1 rfl rfl)
theorem dX10_wordHere_50 : decode cX10_wordHere 50 = .ok (.goto 4, 3) := dk_167 0 4 (dk_at dksX10_wordHere_2 2 rfl rfl)
theorem dX10_wordHere_53 : decode cX10_wordHere 53 = .ok (.iload_n 1, 1) := dk_27 (dk_at dksX10_wordHere_2 5 rfl rfl)
theorem dX10_wordHere_54 : decode cX10_wordHere 54 = .ok (.istore_n 1, 1) := dk_60 (dk_at dksX10_wordHere_2 6 rfl rfl)
theorem dX10_wordHere_55 : decode cX10_wordHere 55 = .ok (.iinc 2 1, 3) := dk_132 2 1 (dk_at dksX10_wordHere_2 7 rfl rfl)
theorem dX10_wordHere_58 : decode cX10_wordHere 58 = .ok (.goto (-50), 3) := dk_167 255 206 (dk_at dksX10_wordHere_2 10 rfl rfl)
theorem dX10_wordHere_61 : decode cX10_wordHere 61 = .ok (.iload_n 2, 1) := dk_28 (dk_at dksX10_wordHere_2 13 rfl rfl)
theorem dX10_wordHere_62 : decode cX10_wordHere 62 = .ok (.bipush 6, 2) := dk_16 6 (dk_at dksX10_wordHere_2 14 rfl rfl)
theorem dX10_wordHere_64 : decode cX10_wordHere 64 = .ok (.if_icmp .le 7, 3) := dk_164 0 7 (dk_at dksX10_wordHere_2 16 rfl rfl)
theorem dX10_wordHere_67 : decode cX10_wordHere 67 = .ok (.iconst (-1), 1) := dk_2 (dk_at dksX10_wordHere_2 19 rfl rfl)
theorem dX10_wordHere_68 : decode cX10_wordHere 68 = .ok (.goto 4, 3) := dk_167 0 4 (dk_at dksX10_wordHere_2 20 rfl rfl)
theorem dX10_wordHere_71 : decode cX10_wordHere 71 = .ok (.iload_n 1, 1) := dk_27 (dk_at dksX10_wordHere_2 23 rfl rfl)
theorem dX10_wordHere_72 : decode cX10_wordHere 72 = .ok (.ireturn, 1) := dk_172 (dk_at dksX10_wordHere_3 0 rfl rfl)
abbrev cX10_isSmall : ByteArray := prog_32_method_14_code
def yX10_isSmall : MethodName := ⟨RX10, "isSmall", "(I)Z"⟩
def dkwX10_isSmall_0 : List UInt8 := [26, 16, 97, 161, 0, 13, 26, 16, 122, 163, 0, 7, 4, 167, 0, 4, 3, 172]
abbrev dktX10_isSmall_0 : List UInt8 := dkwX10_isSmall_0 ++ []
theorem dksX10_isSmall_0 : cX10_isSmall.data.toList.drop 0 = dktX10_isSmall_0 := by decide +kernel
theorem dX10_isSmall_0 : decode cX10_isSmall 0 = .ok (.iload_n 0, 1) := dk_26 (dk_at dksX10_isSmall_0 0 rfl rfl)
theorem dX10_isSmall_1 : decode cX10_isSmall 1 = .ok (.bipush 97, 2) := dk_16 97 (dk_at dksX10_isSmall_0 1 rfl rfl)
theorem dX10_isSmall_3 : decode cX10_isSmall 3 = .ok (.if_icmp .lt 13, 3) := dk_161 0 13 (dk_at dksX10_isSmall_0 3 rfl rfl)
theorem dX10_isSmall_6 : decode cX10_isSmall 6 = .ok (.iload_n 0, 1) := dk_26 (dk_at dksX10_isSmall_0 6 rfl rfl)
theorem dX10_isSmall_7 : decode cX10_isSmall 7 = .ok (.bipush 122, 2) := dk_16 122 (dk_at dksX10_isSmall_0 7 rfl rfl)
theorem dX10_isSmall_9 : decode cX10_isSmall 9 = .ok (.if_icmp .gt 7, 3) := dk_163 0 7 (dk_at dksX10_isSmall_0 9 rfl rfl)
theorem dX10_isSmall_12 : decode cX10_isSmall 12 = .ok (.iconst 1, 1) := dk_4 (dk_at dksX10_isSmall_0 12 rfl rfl)
theorem dX10_isSmall_13 : decode cX10_isSmall 13 = .ok (.goto 4, 3) := dk_167 0 4 (dk_at dksX10_isSmall_0 13 rfl rfl)
theorem dX10_isSmall_16 : decode cX10_isSmall 16 = .ok (.iconst 0, 1) := dk_3 (dk_at dksX10_isSmall_0 16 rfl rfl)
theorem dX10_isSmall_17 : decode cX10_isSmall 17 = .ok (.ireturn, 1) := dk_172 (dk_at dksX10_isSmall_0 17 rfl rfl)
abbrev cX10_six : ByteArray := prog_32_method_17_code
def yX10_six : MethodName := ⟨RX10, "six", "(IIIIII)I"⟩
def dkwX10_six_2 : List UInt8 := [96, 54, 6, 21, 5, 154, 0, 8, 21, 6, 167, 0, 11, 16, 27, 21, 6, 104, 21, 5, 96, 172]
abbrev dktX10_six_2 : List UInt8 := dkwX10_six_2 ++ []
def dkwX10_six_1 : List UInt8 := [21, 6, 104, 29, 96, 54, 6, 21, 4, 154, 0, 8, 21, 6, 167, 0, 11, 16, 27, 21, 6, 104, 21, 4]
abbrev dktX10_six_1 : List UInt8 := dkwX10_six_1 ++ dktX10_six_2
def dkwX10_six_0 : List UInt8 := [16, 27, 16, 27, 26, 104, 27, 96, 104, 28, 96, 54, 6, 29, 154, 0, 8, 21, 6, 167, 0, 10, 16, 27]
abbrev dktX10_six_0 : List UInt8 := dkwX10_six_0 ++ dktX10_six_1
theorem dksX10_six_0 : cX10_six.data.toList.drop 0 = dktX10_six_0 := by decide +kernel
theorem dksX10_six_1 : cX10_six.data.toList.drop 24 = dktX10_six_1 := dk_seg dksX10_six_0 24 rfl rfl
theorem dksX10_six_2 : cX10_six.data.toList.drop 48 = dktX10_six_2 := dk_seg dksX10_six_1 24 rfl rfl
theorem dX10_six_0 : decode cX10_six 0 = .ok (.bipush 27, 2) := dk_16 27 (dk_at dksX10_six_0 0 rfl rfl)
theorem dX10_six_2 : decode cX10_six 2 = .ok (.bipush 27, 2) := dk_16 27 (dk_at dksX10_six_0 2 rfl rfl)
theorem dX10_six_4 : decode cX10_six 4 = .ok (.iload_n 0, 1) := dk_26 (dk_at dksX10_six_0 4 rfl rfl)
theorem dX10_six_5 : decode cX10_six 5 = .ok (.imul, 1) := dk_104 (dk_at dksX10_six_0 5 rfl rfl)
theorem dX10_six_6 : decode cX10_six 6 = .ok (.iload_n 1, 1) := dk_27 (dk_at dksX10_six_0 6 rfl rfl)
theorem dX10_six_7 : decode cX10_six 7 = .ok (.iadd, 1) := dk_96 (dk_at dksX10_six_0 7 rfl rfl)
theorem dX10_six_8 : decode cX10_six 8 = .ok (.imul, 1) := dk_104 (dk_at dksX10_six_0 8 rfl rfl)
theorem dX10_six_9 : decode cX10_six 9 = .ok (.iload_n 2, 1) := dk_28 (dk_at dksX10_six_0 9 rfl rfl)
theorem dX10_six_10 : decode cX10_six 10 = .ok (.iadd, 1) := dk_96 (dk_at dksX10_six_0 10 rfl rfl)
theorem dX10_six_11 : decode cX10_six 11 = .ok (.istore 6, 2) := dk_54 6 (dk_at dksX10_six_0 11 rfl rfl)
theorem dX10_six_13 : decode cX10_six 13 = .ok (.iload_n 3, 1) := dk_29 (dk_at dksX10_six_0 13 rfl rfl)
theorem dX10_six_14 : decode cX10_six 14 = .ok (.ifCond .ne 8, 3) := dk_154 0 8 (dk_at dksX10_six_0 14 rfl rfl)
theorem dX10_six_17 : decode cX10_six 17 = .ok (.iload 6, 2) := dk_21 6 (dk_at dksX10_six_0 17 rfl rfl)
theorem dX10_six_19 : decode cX10_six 19 = .ok (.goto 10, 3) := dk_167 0 10 (dk_at dksX10_six_0 19 rfl rfl)
theorem dX10_six_22 : decode cX10_six 22 = .ok (.bipush 27, 2) := dk_16 27 (dk_at dksX10_six_0 22 rfl rfl)
theorem dX10_six_24 : decode cX10_six 24 = .ok (.iload 6, 2) := dk_21 6 (dk_at dksX10_six_1 0 rfl rfl)
theorem dX10_six_26 : decode cX10_six 26 = .ok (.imul, 1) := dk_104 (dk_at dksX10_six_1 2 rfl rfl)
theorem dX10_six_27 : decode cX10_six 27 = .ok (.iload_n 3, 1) := dk_29 (dk_at dksX10_six_1 3 rfl rfl)
theorem dX10_six_28 : decode cX10_six 28 = .ok (.iadd, 1) := dk_96 (dk_at dksX10_six_1 4 rfl rfl)
theorem dX10_six_29 : decode cX10_six 29 = .ok (.istore 6, 2) := dk_54 6 (dk_at dksX10_six_1 5 rfl rfl)
theorem dX10_six_31 : decode cX10_six 31 = .ok (.iload 4, 2) := dk_21 4 (dk_at dksX10_six_1 7 rfl rfl)
theorem dX10_six_33 : decode cX10_six 33 = .ok (.ifCond .ne 8, 3) := dk_154 0 8 (dk_at dksX10_six_1 9 rfl rfl)
theorem dX10_six_36 : decode cX10_six 36 = .ok (.iload 6, 2) := dk_21 6 (dk_at dksX10_six_1 12 rfl rfl)
theorem dX10_six_38 : decode cX10_six 38 = .ok (.goto 11, 3) := dk_167 0 11 (dk_at dksX10_six_1 14 rfl rfl)
theorem dX10_six_41 : decode cX10_six 41 = .ok (.bipush 27, 2) := dk_16 27 (dk_at dksX10_six_1 17 rfl rfl)
theorem dX10_six_43 : decode cX10_six 43 = .ok (.iload 6, 2) := dk_21 6 (dk_at dksX10_six_1 19 rfl rfl)
theorem dX10_six_45 : decode cX10_six 45 = .ok (.imul, 1) := dk_104 (dk_at dksX10_six_1 21 rfl rfl)
theorem dX10_six_46 : decode cX10_six 46 = .ok (.iload 4, 2) := dk_21 4 (dk_at dksX10_six_1 22 rfl rfl)
theorem dX10_six_48 : decode cX10_six 48 = .ok (.iadd, 1) := dk_96 (dk_at dksX10_six_2 0 rfl rfl)
theorem dX10_six_49 : decode cX10_six 49 = .ok (.istore 6, 2) := dk_54 6 (dk_at dksX10_six_2 1 rfl rfl)
theorem dX10_six_51 : decode cX10_six 51 = .ok (.iload 5, 2) := dk_21 5 (dk_at dksX10_six_2 3 rfl rfl)
theorem dX10_six_53 : decode cX10_six 53 = .ok (.ifCond .ne 8, 3) := dk_154 0 8 (dk_at dksX10_six_2 5 rfl rfl)
theorem dX10_six_56 : decode cX10_six 56 = .ok (.iload 6, 2) := dk_21 6 (dk_at dksX10_six_2 8 rfl rfl)
theorem dX10_six_58 : decode cX10_six 58 = .ok (.goto 11, 3) := dk_167 0 11 (dk_at dksX10_six_2 10 rfl rfl)
theorem dX10_six_61 : decode cX10_six 61 = .ok (.bipush 27, 2) := dk_16 27 (dk_at dksX10_six_2 13 rfl rfl)
theorem dX10_six_63 : decode cX10_six 63 = .ok (.iload 6, 2) := dk_21 6 (dk_at dksX10_six_2 15 rfl rfl)
theorem dX10_six_65 : decode cX10_six 65 = .ok (.imul, 1) := dk_104 (dk_at dksX10_six_2 17 rfl rfl)
theorem dX10_six_66 : decode cX10_six 66 = .ok (.iload 5, 2) := dk_21 5 (dk_at dksX10_six_2 18 rfl rfl)
theorem dX10_six_68 : decode cX10_six 68 = .ok (.iadd, 1) := dk_96 (dk_at dksX10_six_2 20 rfl rfl)
theorem dX10_six_69 : decode cX10_six 69 = .ok (.ireturn, 1) := dk_172 (dk_at dksX10_six_2 21 rfl rfl)
abbrev cX10_wrong : ByteArray := prog_32_method_12_code
def yX10_wrong : MethodName := ⟨RX10, "wrong", "(II)V"⟩
def dkwX10_wrong_0 : List UInt8 := [42, 180, 0, 114, 154, 0, 13, 42, 27, 181, 0, 114, 42, 28, 181, 0, 117, 177]
abbrev dktX10_wrong_0 : List UInt8 := dkwX10_wrong_0 ++ []
theorem dksX10_wrong_0 : cX10_wrong.data.toList.drop 0 = dktX10_wrong_0 := by decide +kernel
theorem dX10_wrong_0 : decode cX10_wrong 0 = .ok (.aload_n 0, 1) := dk_42 (dk_at dksX10_wrong_0 0 rfl rfl)
theorem dX10_wrong_1 : decode cX10_wrong 1 = .ok (.getfield 114, 3) := dk_180 0 114 (dk_at dksX10_wrong_0 1 rfl rfl)
theorem dX10_wrong_4 : decode cX10_wrong 4 = .ok (.ifCond .ne 13, 3) := dk_154 0 13 (dk_at dksX10_wrong_0 4 rfl rfl)
theorem dX10_wrong_7 : decode cX10_wrong 7 = .ok (.aload_n 0, 1) := dk_42 (dk_at dksX10_wrong_0 7 rfl rfl)
theorem dX10_wrong_8 : decode cX10_wrong 8 = .ok (.iload_n 1, 1) := dk_27 (dk_at dksX10_wrong_0 8 rfl rfl)
theorem dX10_wrong_9 : decode cX10_wrong 9 = .ok (.putfield 114, 3) := dk_181 0 114 (dk_at dksX10_wrong_0 9 rfl rfl)
theorem dX10_wrong_12 : decode cX10_wrong 12 = .ok (.aload_n 0, 1) := dk_42 (dk_at dksX10_wrong_0 12 rfl rfl)
theorem dX10_wrong_13 : decode cX10_wrong 13 = .ok (.iload_n 2, 1) := dk_28 (dk_at dksX10_wrong_0 13 rfl rfl)
theorem dX10_wrong_14 : decode cX10_wrong 14 = .ok (.putfield 117, 3) := dk_181 0 117 (dk_at dksX10_wrong_0 14 rfl rfl)
theorem dX10_wrong_17 : decode cX10_wrong 17 = .ok (.return_, 1) := dk_177 (dk_at dksX10_wrong_0 17 rfl rfl)
abbrev cX10_mostOf : ByteArray := prog_32_method_27_code
def yX10_mostOf : MethodName := ⟨RX10, "mostOf", "(I)I"⟩
def dkwX10_mostOf_0 : List UInt8 := [26, 154, 0, 8, 16, 7, 167, 0, 15, 26, 4, 160, 0, 8, 16, 6, 167, 0, 5, 16, 12, 172]
abbrev dktX10_mostOf_0 : List UInt8 := dkwX10_mostOf_0 ++ []
theorem dksX10_mostOf_0 : cX10_mostOf.data.toList.drop 0 = dktX10_mostOf_0 := by decide +kernel
theorem dX10_mostOf_0 : decode cX10_mostOf 0 = .ok (.iload_n 0, 1) := dk_26 (dk_at dksX10_mostOf_0 0 rfl rfl)
theorem dX10_mostOf_1 : decode cX10_mostOf 1 = .ok (.ifCond .ne 8, 3) := dk_154 0 8 (dk_at dksX10_mostOf_0 1 rfl rfl)
theorem dX10_mostOf_4 : decode cX10_mostOf 4 = .ok (.bipush 7, 2) := dk_16 7 (dk_at dksX10_mostOf_0 4 rfl rfl)
theorem dX10_mostOf_6 : decode cX10_mostOf 6 = .ok (.goto 15, 3) := dk_167 0 15 (dk_at dksX10_mostOf_0 6 rfl rfl)
theorem dX10_mostOf_9 : decode cX10_mostOf 9 = .ok (.iload_n 0, 1) := dk_26 (dk_at dksX10_mostOf_0 9 rfl rfl)
theorem dX10_mostOf_10 : decode cX10_mostOf 10 = .ok (.iconst 1, 1) := dk_4 (dk_at dksX10_mostOf_0 10 rfl rfl)
theorem dX10_mostOf_11 : decode cX10_mostOf 11 = .ok (.if_icmp .ne 8, 3) := dk_160 0 8 (dk_at dksX10_mostOf_0 11 rfl rfl)
theorem dX10_mostOf_14 : decode cX10_mostOf 14 = .ok (.bipush 6, 2) := dk_16 6 (dk_at dksX10_mostOf_0 14 rfl rfl)
theorem dX10_mostOf_16 : decode cX10_mostOf 16 = .ok (.goto 5, 3) := dk_167 0 5 (dk_at dksX10_mostOf_0 16 rfl rfl)
theorem dX10_mostOf_19 : decode cX10_mostOf 19 = .ok (.bipush 12, 2) := dk_16 12 (dk_at dksX10_mostOf_0 19 rfl rfl)
theorem dX10_mostOf_21 : decode cX10_mostOf 21 = .ok (.ireturn, 1) := dk_172 (dk_at dksX10_mostOf_0 21 rfl rfl)
abbrev cX10_skipWord : ByteArray := prog_32_method_19_code
def yX10_skipWord : MethodName := ⟨RX10, "skipWord", "()V"⟩
def dkwX10_skipWord_1 : List UInt8 := [167, 255, 232, 177]
abbrev dktX10_skipWord_1 : List UInt8 := dkwX10_skipWord_1 ++ []
def dkwX10_skipWord_0 : List UInt8 := [42, 42, 180, 0, 107, 182, 0, 110, 184, 0, 136, 153, 0, 16, 42, 89, 180, 0, 107, 4, 96, 181, 0, 107]
abbrev dktX10_skipWord_0 : List UInt8 := dkwX10_skipWord_0 ++ dktX10_skipWord_1
theorem dksX10_skipWord_0 : cX10_skipWord.data.toList.drop 0 = dktX10_skipWord_0 := by decide +kernel
theorem dksX10_skipWord_1 : cX10_skipWord.data.toList.drop 24 = dktX10_skipWord_1 := dk_seg dksX10_skipWord_0 24 rfl rfl
theorem dX10_skipWord_0 : decode cX10_skipWord 0 = .ok (.aload_n 0, 1) := dk_42 (dk_at dksX10_skipWord_0 0 rfl rfl)
theorem dX10_skipWord_1 : decode cX10_skipWord 1 = .ok (.aload_n 0, 1) := dk_42 (dk_at dksX10_skipWord_0 1 rfl rfl)
theorem dX10_skipWord_2 : decode cX10_skipWord 2 = .ok (.getfield 107, 3) := dk_180 0 107 (dk_at dksX10_skipWord_0 2 rfl rfl)
theorem dX10_skipWord_5 : decode cX10_skipWord 5 = .ok (.invokevirtual 110, 3) := dk_182 0 110 (dk_at dksX10_skipWord_0 5 rfl rfl)
theorem dX10_skipWord_8 : decode cX10_skipWord 8 = .ok (.invokestatic 136, 3) := dk_184 0 136 (dk_at dksX10_skipWord_0 8 rfl rfl)
theorem dX10_skipWord_11 : decode cX10_skipWord 11 = .ok (.ifCond .eq 16, 3) := dk_153 0 16 (dk_at dksX10_skipWord_0 11 rfl rfl)
theorem dX10_skipWord_14 : decode cX10_skipWord 14 = .ok (.aload_n 0, 1) := dk_42 (dk_at dksX10_skipWord_0 14 rfl rfl)
theorem dX10_skipWord_15 : decode cX10_skipWord 15 = .ok (.dup, 1) := dk_89 (dk_at dksX10_skipWord_0 15 rfl rfl)
theorem dX10_skipWord_16 : decode cX10_skipWord 16 = .ok (.getfield 107, 3) := dk_180 0 107 (dk_at dksX10_skipWord_0 16 rfl rfl)
theorem dX10_skipWord_19 : decode cX10_skipWord 19 = .ok (.iconst 1, 1) := dk_4 (dk_at dksX10_skipWord_0 19 rfl rfl)
theorem dX10_skipWord_20 : decode cX10_skipWord 20 = .ok (.iadd, 1) := dk_96 (dk_at dksX10_skipWord_0 20 rfl rfl)
theorem dX10_skipWord_21 : decode cX10_skipWord 21 = .ok (.putfield 107, 3) := dk_181 0 107 (dk_at dksX10_skipWord_0 21 rfl rfl)
theorem dX10_skipWord_24 : decode cX10_skipWord 24 = .ok (.goto (-24), 3) := dk_167 255 232 (dk_at dksX10_skipWord_1 0 rfl rfl)
theorem dX10_skipWord_27 : decode cX10_skipWord 27 = .ok (.return_, 1) := dk_177 (dk_at dksX10_skipWord_1 3 rfl rfl)
abbrev cX10_number : ByteArray := prog_32_method_15_code
def yX10_number : MethodName := ⟨RX10, "number", "(II)I"⟩
def dkwX10_number_5 : List UInt8 := [154, 0, 9, 42, 5, 29, 182, 0, 127, 42, 180, 0, 114, 154, 0, 8, 21, 4, 167, 0, 4, 3, 172]
abbrev dktX10_number_5 : List UInt8 := dkwX10_number_5 ++ []
def dkwX10_number_4 : List UInt8 := [54, 4, 42, 89, 180, 0, 107, 4, 96, 181, 0, 107, 167, 255, 197, 21, 4, 27, 28, 184, 0, 132]
abbrev dktX10_number_4 : List UInt8 := dkwX10_number_4 ++ dktX10_number_5
def dkwX10_number_3 : List UInt8 := [182, 0, 110, 96, 16, 48, 100, 54, 4, 21, 4, 18, 131, 164, 0, 8, 18, 131, 167, 0, 5, 21, 4]
abbrev dktX10_number_3 : List UInt8 := dkwX10_number_3 ++ dktX10_number_4
def dkwX10_number_2 : List UInt8 := [180, 0, 107, 182, 0, 110, 184, 0, 123, 153, 0, 51, 16, 10, 21, 4, 104, 42, 42, 180, 0, 107]
abbrev dktX10_number_2 : List UInt8 := dkwX10_number_2 ++ dktX10_number_3
def dkwX10_number_1 : List UInt8 := [180, 0, 107, 182, 0, 110, 184, 0, 123, 154, 0, 12, 42, 4, 42, 180, 0, 107, 182, 0, 127, 42, 42]
abbrev dktX10_number_1 : List UInt8 := dkwX10_number_1 ++ dktX10_number_2
def dkwX10_number_0 : List UInt8 := [42, 180, 0, 114, 153, 0, 5, 3, 172, 42, 182, 0, 120, 42, 180, 0, 107, 62, 3, 54, 4, 42, 42]
abbrev dktX10_number_0 : List UInt8 := dkwX10_number_0 ++ dktX10_number_1
theorem dksX10_number_0 : cX10_number.data.toList.drop 0 = dktX10_number_0 := by decide +kernel
theorem dksX10_number_1 : cX10_number.data.toList.drop 23 = dktX10_number_1 := dk_seg dksX10_number_0 23 rfl rfl
theorem dksX10_number_2 : cX10_number.data.toList.drop 46 = dktX10_number_2 := dk_seg dksX10_number_1 23 rfl rfl
theorem dksX10_number_3 : cX10_number.data.toList.drop 68 = dktX10_number_3 := dk_seg dksX10_number_2 22 rfl rfl
theorem dksX10_number_4 : cX10_number.data.toList.drop 91 = dktX10_number_4 := dk_seg dksX10_number_3 23 rfl rfl
theorem dksX10_number_5 : cX10_number.data.toList.drop 113 = dktX10_number_5 := dk_seg dksX10_number_4 22 rfl rfl
theorem dX10_number_0 : decode cX10_number 0 = .ok (.aload_n 0, 1) := dk_42 (dk_at dksX10_number_0 0 rfl rfl)
theorem dX10_number_1 : decode cX10_number 1 = .ok (.getfield 114, 3) := dk_180 0 114 (dk_at dksX10_number_0 1 rfl rfl)
theorem dX10_number_4 : decode cX10_number 4 = .ok (.ifCond .eq 5, 3) := dk_153 0 5 (dk_at dksX10_number_0 4 rfl rfl)
theorem dX10_number_7 : decode cX10_number 7 = .ok (.iconst 0, 1) := dk_3 (dk_at dksX10_number_0 7 rfl rfl)
theorem dX10_number_8 : decode cX10_number 8 = .ok (.ireturn, 1) := dk_172 (dk_at dksX10_number_0 8 rfl rfl)
theorem dX10_number_9 : decode cX10_number 9 = .ok (.aload_n 0, 1) := dk_42 (dk_at dksX10_number_0 9 rfl rfl)
theorem dX10_number_10 : decode cX10_number 10 = .ok (.invokevirtual 120, 3) := dk_182 0 120 (dk_at dksX10_number_0 10 rfl rfl)
theorem dX10_number_13 : decode cX10_number 13 = .ok (.aload_n 0, 1) := dk_42 (dk_at dksX10_number_0 13 rfl rfl)
theorem dX10_number_14 : decode cX10_number 14 = .ok (.getfield 107, 3) := dk_180 0 107 (dk_at dksX10_number_0 14 rfl rfl)
theorem dX10_number_17 : decode cX10_number 17 = .ok (.istore_n 3, 1) := dk_62 (dk_at dksX10_number_0 17 rfl rfl)
theorem dX10_number_18 : decode cX10_number 18 = .ok (.iconst 0, 1) := dk_3 (dk_at dksX10_number_0 18 rfl rfl)
theorem dX10_number_19 : decode cX10_number 19 = .ok (.istore 4, 2) := dk_54 4 (dk_at dksX10_number_0 19 rfl rfl)
theorem dX10_number_21 : decode cX10_number 21 = .ok (.aload_n 0, 1) := dk_42 (dk_at dksX10_number_0 21 rfl rfl)
theorem dX10_number_22 : decode cX10_number 22 = .ok (.aload_n 0, 1) := dk_42 (dk_at dksX10_number_0 22 rfl rfl)
theorem dX10_number_23 : decode cX10_number 23 = .ok (.getfield 107, 3) := dk_180 0 107 (dk_at dksX10_number_1 0 rfl rfl)
theorem dX10_number_26 : decode cX10_number 26 = .ok (.invokevirtual 110, 3) := dk_182 0 110 (dk_at dksX10_number_1 3 rfl rfl)
theorem dX10_number_29 : decode cX10_number 29 = .ok (.invokestatic 123, 3) := dk_184 0 123 (dk_at dksX10_number_1 6 rfl rfl)
theorem dX10_number_32 : decode cX10_number 32 = .ok (.ifCond .ne 12, 3) := dk_154 0 12 (dk_at dksX10_number_1 9 rfl rfl)
theorem dX10_number_35 : decode cX10_number 35 = .ok (.aload_n 0, 1) := dk_42 (dk_at dksX10_number_1 12 rfl rfl)
theorem dX10_number_36 : decode cX10_number 36 = .ok (.iconst 1, 1) := dk_4 (dk_at dksX10_number_1 13 rfl rfl)
theorem dX10_number_37 : decode cX10_number 37 = .ok (.aload_n 0, 1) := dk_42 (dk_at dksX10_number_1 14 rfl rfl)
theorem dX10_number_38 : decode cX10_number 38 = .ok (.getfield 107, 3) := dk_180 0 107 (dk_at dksX10_number_1 15 rfl rfl)
theorem dX10_number_41 : decode cX10_number 41 = .ok (.invokevirtual 127, 3) := dk_182 0 127 (dk_at dksX10_number_1 18 rfl rfl)
theorem dX10_number_44 : decode cX10_number 44 = .ok (.aload_n 0, 1) := dk_42 (dk_at dksX10_number_1 21 rfl rfl)
theorem dX10_number_45 : decode cX10_number 45 = .ok (.aload_n 0, 1) := dk_42 (dk_at dksX10_number_1 22 rfl rfl)
theorem dX10_number_46 : decode cX10_number 46 = .ok (.getfield 107, 3) := dk_180 0 107 (dk_at dksX10_number_2 0 rfl rfl)
theorem dX10_number_49 : decode cX10_number 49 = .ok (.invokevirtual 110, 3) := dk_182 0 110 (dk_at dksX10_number_2 3 rfl rfl)
theorem dX10_number_52 : decode cX10_number 52 = .ok (.invokestatic 123, 3) := dk_184 0 123 (dk_at dksX10_number_2 6 rfl rfl)
theorem dX10_number_55 : decode cX10_number 55 = .ok (.ifCond .eq 51, 3) := dk_153 0 51 (dk_at dksX10_number_2 9 rfl rfl)
theorem dX10_number_58 : decode cX10_number 58 = .ok (.bipush 10, 2) := dk_16 10 (dk_at dksX10_number_2 12 rfl rfl)
theorem dX10_number_60 : decode cX10_number 60 = .ok (.iload 4, 2) := dk_21 4 (dk_at dksX10_number_2 14 rfl rfl)
theorem dX10_number_62 : decode cX10_number 62 = .ok (.imul, 1) := dk_104 (dk_at dksX10_number_2 16 rfl rfl)
theorem dX10_number_63 : decode cX10_number 63 = .ok (.aload_n 0, 1) := dk_42 (dk_at dksX10_number_2 17 rfl rfl)
theorem dX10_number_64 : decode cX10_number 64 = .ok (.aload_n 0, 1) := dk_42 (dk_at dksX10_number_2 18 rfl rfl)
theorem dX10_number_65 : decode cX10_number 65 = .ok (.getfield 107, 3) := dk_180 0 107 (dk_at dksX10_number_2 19 rfl rfl)
theorem dX10_number_68 : decode cX10_number 68 = .ok (.invokevirtual 110, 3) := dk_182 0 110 (dk_at dksX10_number_3 0 rfl rfl)
theorem dX10_number_71 : decode cX10_number 71 = .ok (.iadd, 1) := dk_96 (dk_at dksX10_number_3 3 rfl rfl)
theorem dX10_number_72 : decode cX10_number 72 = .ok (.bipush 48, 2) := dk_16 48 (dk_at dksX10_number_3 4 rfl rfl)
theorem dX10_number_74 : decode cX10_number 74 = .ok (.isub, 1) := dk_100 (dk_at dksX10_number_3 6 rfl rfl)
theorem dX10_number_75 : decode cX10_number 75 = .ok (.istore 4, 2) := dk_54 4 (dk_at dksX10_number_3 7 rfl rfl)
theorem dX10_number_77 : decode cX10_number 77 = .ok (.iload 4, 2) := dk_21 4 (dk_at dksX10_number_3 9 rfl rfl)
theorem dX10_number_79 : decode cX10_number 79 = .ok (.ldc 131, 2) := dk_18 131 (dk_at dksX10_number_3 11 rfl rfl)
theorem dX10_number_81 : decode cX10_number 81 = .ok (.if_icmp .le 8, 3) := dk_164 0 8 (dk_at dksX10_number_3 13 rfl rfl)
theorem dX10_number_84 : decode cX10_number 84 = .ok (.ldc 131, 2) := dk_18 131 (dk_at dksX10_number_3 16 rfl rfl)
theorem dX10_number_86 : decode cX10_number 86 = .ok (.goto 5, 3) := dk_167 0 5 (dk_at dksX10_number_3 18 rfl rfl)
theorem dX10_number_89 : decode cX10_number 89 = .ok (.iload 4, 2) := dk_21 4 (dk_at dksX10_number_3 21 rfl rfl)
theorem dX10_number_91 : decode cX10_number 91 = .ok (.istore 4, 2) := dk_54 4 (dk_at dksX10_number_4 0 rfl rfl)
theorem dX10_number_93 : decode cX10_number 93 = .ok (.aload_n 0, 1) := dk_42 (dk_at dksX10_number_4 2 rfl rfl)
theorem dX10_number_94 : decode cX10_number 94 = .ok (.dup, 1) := dk_89 (dk_at dksX10_number_4 3 rfl rfl)
theorem dX10_number_95 : decode cX10_number 95 = .ok (.getfield 107, 3) := dk_180 0 107 (dk_at dksX10_number_4 4 rfl rfl)
theorem dX10_number_98 : decode cX10_number 98 = .ok (.iconst 1, 1) := dk_4 (dk_at dksX10_number_4 7 rfl rfl)
theorem dX10_number_99 : decode cX10_number 99 = .ok (.iadd, 1) := dk_96 (dk_at dksX10_number_4 8 rfl rfl)
theorem dX10_number_100 : decode cX10_number 100 = .ok (.putfield 107, 3) := dk_181 0 107 (dk_at dksX10_number_4 9 rfl rfl)
theorem dX10_number_103 : decode cX10_number 103 = .ok (.goto (-59), 3) := dk_167 255 197 (dk_at dksX10_number_4 12 rfl rfl)
theorem dX10_number_106 : decode cX10_number 106 = .ok (.iload 4, 2) := dk_21 4 (dk_at dksX10_number_4 15 rfl rfl)
theorem dX10_number_108 : decode cX10_number 108 = .ok (.iload_n 1, 1) := dk_27 (dk_at dksX10_number_4 17 rfl rfl)
theorem dX10_number_109 : decode cX10_number 109 = .ok (.iload_n 2, 1) := dk_28 (dk_at dksX10_number_4 18 rfl rfl)
theorem dX10_number_110 : decode cX10_number 110 = .ok (.invokestatic 132, 3) := dk_184 0 132 (dk_at dksX10_number_4 19 rfl rfl)
theorem dX10_number_113 : decode cX10_number 113 = .ok (.ifCond .ne 9, 3) := dk_154 0 9 (dk_at dksX10_number_5 0 rfl rfl)
theorem dX10_number_116 : decode cX10_number 116 = .ok (.aload_n 0, 1) := dk_42 (dk_at dksX10_number_5 3 rfl rfl)
theorem dX10_number_117 : decode cX10_number 117 = .ok (.iconst 2, 1) := dk_5 (dk_at dksX10_number_5 4 rfl rfl)
theorem dX10_number_118 : decode cX10_number 118 = .ok (.iload_n 3, 1) := dk_29 (dk_at dksX10_number_5 5 rfl rfl)
theorem dX10_number_119 : decode cX10_number 119 = .ok (.invokevirtual 127, 3) := dk_182 0 127 (dk_at dksX10_number_5 6 rfl rfl)
theorem dX10_number_122 : decode cX10_number 122 = .ok (.aload_n 0, 1) := dk_42 (dk_at dksX10_number_5 9 rfl rfl)
theorem dX10_number_123 : decode cX10_number 123 = .ok (.getfield 114, 3) := dk_180 0 114 (dk_at dksX10_number_5 10 rfl rfl)
theorem dX10_number_126 : decode cX10_number 126 = .ok (.ifCond .ne 8, 3) := dk_154 0 8 (dk_at dksX10_number_5 13 rfl rfl)
theorem dX10_number_129 : decode cX10_number 129 = .ok (.iload 4, 2) := dk_21 4 (dk_at dksX10_number_5 16 rfl rfl)
theorem dX10_number_131 : decode cX10_number 131 = .ok (.goto 4, 3) := dk_167 0 4 (dk_at dksX10_number_5 18 rfl rfl)
theorem dX10_number_134 : decode cX10_number 134 = .ok (.iconst 0, 1) := dk_3 (dk_at dksX10_number_5 21 rfl rfl)
theorem dX10_number_135 : decode cX10_number 135 = .ok (.ireturn, 1) := dk_172 (dk_at dksX10_number_5 22 rfl rfl)
abbrev cX10_isDigit : ByteArray := prog_32_method_13_code
def yX10_isDigit : MethodName := ⟨RX10, "isDigit", "(I)Z"⟩
def dkwX10_isDigit_0 : List UInt8 := [26, 16, 48, 161, 0, 13, 26, 16, 57, 163, 0, 7, 4, 167, 0, 4, 3, 172]
abbrev dktX10_isDigit_0 : List UInt8 := dkwX10_isDigit_0 ++ []
theorem dksX10_isDigit_0 : cX10_isDigit.data.toList.drop 0 = dktX10_isDigit_0 := by decide +kernel
theorem dX10_isDigit_0 : decode cX10_isDigit 0 = .ok (.iload_n 0, 1) := dk_26 (dk_at dksX10_isDigit_0 0 rfl rfl)
theorem dX10_isDigit_1 : decode cX10_isDigit 1 = .ok (.bipush 48, 2) := dk_16 48 (dk_at dksX10_isDigit_0 1 rfl rfl)
theorem dX10_isDigit_3 : decode cX10_isDigit 3 = .ok (.if_icmp .lt 13, 3) := dk_161 0 13 (dk_at dksX10_isDigit_0 3 rfl rfl)
theorem dX10_isDigit_6 : decode cX10_isDigit 6 = .ok (.iload_n 0, 1) := dk_26 (dk_at dksX10_isDigit_0 6 rfl rfl)
theorem dX10_isDigit_7 : decode cX10_isDigit 7 = .ok (.bipush 57, 2) := dk_16 57 (dk_at dksX10_isDigit_0 7 rfl rfl)
theorem dX10_isDigit_9 : decode cX10_isDigit 9 = .ok (.if_icmp .gt 7, 3) := dk_163 0 7 (dk_at dksX10_isDigit_0 9 rfl rfl)
theorem dX10_isDigit_12 : decode cX10_isDigit 12 = .ok (.iconst 1, 1) := dk_4 (dk_at dksX10_isDigit_0 12 rfl rfl)
theorem dX10_isDigit_13 : decode cX10_isDigit 13 = .ok (.goto 4, 3) := dk_167 0 4 (dk_at dksX10_isDigit_0 13 rfl rfl)
theorem dX10_isDigit_16 : decode cX10_isDigit 16 = .ok (.iconst 0, 1) := dk_3 (dk_at dksX10_isDigit_0 16 rfl rfl)
theorem dX10_isDigit_17 : decode cX10_isDigit 17 = .ok (.ireturn, 1) := dk_172 (dk_at dksX10_isDigit_0 17 rfl rfl)
abbrev cX10_isReadStreet : ByteArray := prog_32_method_28_code
def yX10_isReadStreet : MethodName := ⟨RX10, "isReadStreet", "(II)Z"⟩
def dkwX10_isReadStreet_2 : List UInt8 := [42, 180, 0, 40, 29, 50, 4, 46, 27, 160, 0, 5, 4, 172, 132, 3, 1, 167, 255, 193, 3, 172]
abbrev dktX10_isReadStreet_2 : List UInt8 := dkwX10_isReadStreet_2 ++ []
def dkwX10_isReadStreet_1 : List UInt8 := [42, 180, 0, 40, 29, 50, 4, 46, 28, 159, 0, 27, 42, 180, 0, 40, 29, 50, 3, 46, 28, 160, 0, 17]
abbrev dktX10_isReadStreet_1 : List UInt8 := dkwX10_isReadStreet_1 ++ dktX10_isReadStreet_2
def dkwX10_isReadStreet_0 : List UInt8 := [3, 62, 29, 42, 180, 0, 20, 5, 46, 162, 0, 59, 42, 180, 0, 40, 29, 50, 3, 46, 27, 160, 0, 15]
abbrev dktX10_isReadStreet_0 : List UInt8 := dkwX10_isReadStreet_0 ++ dktX10_isReadStreet_1
theorem dksX10_isReadStreet_0 : cX10_isReadStreet.data.toList.drop 0 = dktX10_isReadStreet_0 := by decide +kernel
theorem dksX10_isReadStreet_1 : cX10_isReadStreet.data.toList.drop 24 = dktX10_isReadStreet_1 := dk_seg dksX10_isReadStreet_0 24 rfl rfl
theorem dksX10_isReadStreet_2 : cX10_isReadStreet.data.toList.drop 48 = dktX10_isReadStreet_2 := dk_seg dksX10_isReadStreet_1 24 rfl rfl
theorem dX10_isReadStreet_0 : decode cX10_isReadStreet 0 = .ok (.iconst 0, 1) := dk_3 (dk_at dksX10_isReadStreet_0 0 rfl rfl)
theorem dX10_isReadStreet_1 : decode cX10_isReadStreet 1 = .ok (.istore_n 3, 1) := dk_62 (dk_at dksX10_isReadStreet_0 1 rfl rfl)
theorem dX10_isReadStreet_2 : decode cX10_isReadStreet 2 = .ok (.iload_n 3, 1) := dk_29 (dk_at dksX10_isReadStreet_0 2 rfl rfl)
theorem dX10_isReadStreet_3 : decode cX10_isReadStreet 3 = .ok (.aload_n 0, 1) := dk_42 (dk_at dksX10_isReadStreet_0 3 rfl rfl)
theorem dX10_isReadStreet_4 : decode cX10_isReadStreet 4 = .ok (.getfield 20, 3) := dk_180 0 20 (dk_at dksX10_isReadStreet_0 4 rfl rfl)
theorem dX10_isReadStreet_7 : decode cX10_isReadStreet 7 = .ok (.iconst 2, 1) := dk_5 (dk_at dksX10_isReadStreet_0 7 rfl rfl)
theorem dX10_isReadStreet_8 : decode cX10_isReadStreet 8 = .ok (.iaload, 1) := dk_46 (dk_at dksX10_isReadStreet_0 8 rfl rfl)
theorem dX10_isReadStreet_9 : decode cX10_isReadStreet 9 = .ok (.if_icmp .ge 59, 3) := dk_162 0 59 (dk_at dksX10_isReadStreet_0 9 rfl rfl)
theorem dX10_isReadStreet_12 : decode cX10_isReadStreet 12 = .ok (.aload_n 0, 1) := dk_42 (dk_at dksX10_isReadStreet_0 12 rfl rfl)
theorem dX10_isReadStreet_13 : decode cX10_isReadStreet 13 = .ok (.getfield 40, 3) := dk_180 0 40 (dk_at dksX10_isReadStreet_0 13 rfl rfl)
theorem dX10_isReadStreet_16 : decode cX10_isReadStreet 16 = .ok (.iload_n 3, 1) := dk_29 (dk_at dksX10_isReadStreet_0 16 rfl rfl)
theorem dX10_isReadStreet_17 : decode cX10_isReadStreet 17 = .ok (.aaload, 1) := dk_50 (dk_at dksX10_isReadStreet_0 17 rfl rfl)
theorem dX10_isReadStreet_18 : decode cX10_isReadStreet 18 = .ok (.iconst 0, 1) := dk_3 (dk_at dksX10_isReadStreet_0 18 rfl rfl)
theorem dX10_isReadStreet_19 : decode cX10_isReadStreet 19 = .ok (.iaload, 1) := dk_46 (dk_at dksX10_isReadStreet_0 19 rfl rfl)
theorem dX10_isReadStreet_20 : decode cX10_isReadStreet 20 = .ok (.iload_n 1, 1) := dk_27 (dk_at dksX10_isReadStreet_0 20 rfl rfl)
theorem dX10_isReadStreet_21 : decode cX10_isReadStreet 21 = .ok (.if_icmp .ne 15, 3) := dk_160 0 15 (dk_at dksX10_isReadStreet_0 21 rfl rfl)
theorem dX10_isReadStreet_24 : decode cX10_isReadStreet 24 = .ok (.aload_n 0, 1) := dk_42 (dk_at dksX10_isReadStreet_1 0 rfl rfl)
theorem dX10_isReadStreet_25 : decode cX10_isReadStreet 25 = .ok (.getfield 40, 3) := dk_180 0 40 (dk_at dksX10_isReadStreet_1 1 rfl rfl)
theorem dX10_isReadStreet_28 : decode cX10_isReadStreet 28 = .ok (.iload_n 3, 1) := dk_29 (dk_at dksX10_isReadStreet_1 4 rfl rfl)
theorem dX10_isReadStreet_29 : decode cX10_isReadStreet 29 = .ok (.aaload, 1) := dk_50 (dk_at dksX10_isReadStreet_1 5 rfl rfl)
theorem dX10_isReadStreet_30 : decode cX10_isReadStreet 30 = .ok (.iconst 1, 1) := dk_4 (dk_at dksX10_isReadStreet_1 6 rfl rfl)
theorem dX10_isReadStreet_31 : decode cX10_isReadStreet 31 = .ok (.iaload, 1) := dk_46 (dk_at dksX10_isReadStreet_1 7 rfl rfl)
theorem dX10_isReadStreet_32 : decode cX10_isReadStreet 32 = .ok (.iload_n 2, 1) := dk_28 (dk_at dksX10_isReadStreet_1 8 rfl rfl)
theorem dX10_isReadStreet_33 : decode cX10_isReadStreet 33 = .ok (.if_icmp .eq 27, 3) := dk_159 0 27 (dk_at dksX10_isReadStreet_1 9 rfl rfl)
theorem dX10_isReadStreet_36 : decode cX10_isReadStreet 36 = .ok (.aload_n 0, 1) := dk_42 (dk_at dksX10_isReadStreet_1 12 rfl rfl)
theorem dX10_isReadStreet_37 : decode cX10_isReadStreet 37 = .ok (.getfield 40, 3) := dk_180 0 40 (dk_at dksX10_isReadStreet_1 13 rfl rfl)
theorem dX10_isReadStreet_40 : decode cX10_isReadStreet 40 = .ok (.iload_n 3, 1) := dk_29 (dk_at dksX10_isReadStreet_1 16 rfl rfl)
theorem dX10_isReadStreet_41 : decode cX10_isReadStreet 41 = .ok (.aaload, 1) := dk_50 (dk_at dksX10_isReadStreet_1 17 rfl rfl)
theorem dX10_isReadStreet_42 : decode cX10_isReadStreet 42 = .ok (.iconst 0, 1) := dk_3 (dk_at dksX10_isReadStreet_1 18 rfl rfl)
theorem dX10_isReadStreet_43 : decode cX10_isReadStreet 43 = .ok (.iaload, 1) := dk_46 (dk_at dksX10_isReadStreet_1 19 rfl rfl)
theorem dX10_isReadStreet_44 : decode cX10_isReadStreet 44 = .ok (.iload_n 2, 1) := dk_28 (dk_at dksX10_isReadStreet_1 20 rfl rfl)
theorem dX10_isReadStreet_45 : decode cX10_isReadStreet 45 = .ok (.if_icmp .ne 17, 3) := dk_160 0 17 (dk_at dksX10_isReadStreet_1 21 rfl rfl)
theorem dX10_isReadStreet_48 : decode cX10_isReadStreet 48 = .ok (.aload_n 0, 1) := dk_42 (dk_at dksX10_isReadStreet_2 0 rfl rfl)
theorem dX10_isReadStreet_49 : decode cX10_isReadStreet 49 = .ok (.getfield 40, 3) := dk_180 0 40 (dk_at dksX10_isReadStreet_2 1 rfl rfl)
theorem dX10_isReadStreet_52 : decode cX10_isReadStreet 52 = .ok (.iload_n 3, 1) := dk_29 (dk_at dksX10_isReadStreet_2 4 rfl rfl)
theorem dX10_isReadStreet_53 : decode cX10_isReadStreet 53 = .ok (.aaload, 1) := dk_50 (dk_at dksX10_isReadStreet_2 5 rfl rfl)
theorem dX10_isReadStreet_54 : decode cX10_isReadStreet 54 = .ok (.iconst 1, 1) := dk_4 (dk_at dksX10_isReadStreet_2 6 rfl rfl)
theorem dX10_isReadStreet_55 : decode cX10_isReadStreet 55 = .ok (.iaload, 1) := dk_46 (dk_at dksX10_isReadStreet_2 7 rfl rfl)
theorem dX10_isReadStreet_56 : decode cX10_isReadStreet 56 = .ok (.iload_n 1, 1) := dk_27 (dk_at dksX10_isReadStreet_2 8 rfl rfl)
theorem dX10_isReadStreet_57 : decode cX10_isReadStreet 57 = .ok (.if_icmp .ne 5, 3) := dk_160 0 5 (dk_at dksX10_isReadStreet_2 9 rfl rfl)
theorem dX10_isReadStreet_60 : decode cX10_isReadStreet 60 = .ok (.iconst 1, 1) := dk_4 (dk_at dksX10_isReadStreet_2 12 rfl rfl)
theorem dX10_isReadStreet_61 : decode cX10_isReadStreet 61 = .ok (.ireturn, 1) := dk_172 (dk_at dksX10_isReadStreet_2 13 rfl rfl)
theorem dX10_isReadStreet_62 : decode cX10_isReadStreet 62 = .ok (.iinc 3 1, 3) := dk_132 3 1 (dk_at dksX10_isReadStreet_2 14 rfl rfl)
theorem dX10_isReadStreet_65 : decode cX10_isReadStreet 65 = .ok (.goto (-63), 3) := dk_167 255 193 (dk_at dksX10_isReadStreet_2 17 rfl rfl)
theorem dX10_isReadStreet_68 : decode cX10_isReadStreet 68 = .ok (.iconst 0, 1) := dk_3 (dk_at dksX10_isReadStreet_2 20 rfl rfl)
theorem dX10_isReadStreet_69 : decode cX10_isReadStreet 69 = .ok (.ireturn, 1) := dk_172 (dk_at dksX10_isReadStreet_2 21 rfl rfl)
abbrev cX10_sign : ByteArray := prog_32_method_21_code
def yX10_sign : MethodName := ⟨RX10, "sign", "(I)V"⟩
def dkwX10_sign_1 : List UInt8 := [42, 89, 180, 0, 107, 4, 96, 181, 0, 107, 167, 0, 12, 42, 4, 42, 180, 0, 107, 182, 0, 127, 177]
abbrev dktX10_sign_1 : List UInt8 := dkwX10_sign_1 ++ []
def dkwX10_sign_0 : List UInt8 := [42, 180, 0, 114, 153, 0, 4, 177, 42, 182, 0, 120, 42, 42, 180, 0, 107, 182, 0, 110, 27, 160, 0, 16]
abbrev dktX10_sign_0 : List UInt8 := dkwX10_sign_0 ++ dktX10_sign_1
theorem dksX10_sign_0 : cX10_sign.data.toList.drop 0 = dktX10_sign_0 := by decide +kernel
theorem dksX10_sign_1 : cX10_sign.data.toList.drop 24 = dktX10_sign_1 := dk_seg dksX10_sign_0 24 rfl rfl
theorem dX10_sign_0 : decode cX10_sign 0 = .ok (.aload_n 0, 1) := dk_42 (dk_at dksX10_sign_0 0 rfl rfl)
theorem dX10_sign_1 : decode cX10_sign 1 = .ok (.getfield 114, 3) := dk_180 0 114 (dk_at dksX10_sign_0 1 rfl rfl)
theorem dX10_sign_4 : decode cX10_sign 4 = .ok (.ifCond .eq 4, 3) := dk_153 0 4 (dk_at dksX10_sign_0 4 rfl rfl)
theorem dX10_sign_7 : decode cX10_sign 7 = .ok (.return_, 1) := dk_177 (dk_at dksX10_sign_0 7 rfl rfl)
theorem dX10_sign_8 : decode cX10_sign 8 = .ok (.aload_n 0, 1) := dk_42 (dk_at dksX10_sign_0 8 rfl rfl)
theorem dX10_sign_9 : decode cX10_sign 9 = .ok (.invokevirtual 120, 3) := dk_182 0 120 (dk_at dksX10_sign_0 9 rfl rfl)
theorem dX10_sign_12 : decode cX10_sign 12 = .ok (.aload_n 0, 1) := dk_42 (dk_at dksX10_sign_0 12 rfl rfl)
theorem dX10_sign_13 : decode cX10_sign 13 = .ok (.aload_n 0, 1) := dk_42 (dk_at dksX10_sign_0 13 rfl rfl)
theorem dX10_sign_14 : decode cX10_sign 14 = .ok (.getfield 107, 3) := dk_180 0 107 (dk_at dksX10_sign_0 14 rfl rfl)
theorem dX10_sign_17 : decode cX10_sign 17 = .ok (.invokevirtual 110, 3) := dk_182 0 110 (dk_at dksX10_sign_0 17 rfl rfl)
theorem dX10_sign_20 : decode cX10_sign 20 = .ok (.iload_n 1, 1) := dk_27 (dk_at dksX10_sign_0 20 rfl rfl)
theorem dX10_sign_21 : decode cX10_sign 21 = .ok (.if_icmp .ne 16, 3) := dk_160 0 16 (dk_at dksX10_sign_0 21 rfl rfl)
theorem dX10_sign_24 : decode cX10_sign 24 = .ok (.aload_n 0, 1) := dk_42 (dk_at dksX10_sign_1 0 rfl rfl)
theorem dX10_sign_25 : decode cX10_sign 25 = .ok (.dup, 1) := dk_89 (dk_at dksX10_sign_1 1 rfl rfl)
theorem dX10_sign_26 : decode cX10_sign 26 = .ok (.getfield 107, 3) := dk_180 0 107 (dk_at dksX10_sign_1 2 rfl rfl)
theorem dX10_sign_29 : decode cX10_sign 29 = .ok (.iconst 1, 1) := dk_4 (dk_at dksX10_sign_1 5 rfl rfl)
theorem dX10_sign_30 : decode cX10_sign 30 = .ok (.iadd, 1) := dk_96 (dk_at dksX10_sign_1 6 rfl rfl)
theorem dX10_sign_31 : decode cX10_sign 31 = .ok (.putfield 107, 3) := dk_181 0 107 (dk_at dksX10_sign_1 7 rfl rfl)
theorem dX10_sign_34 : decode cX10_sign 34 = .ok (.goto 12, 3) := dk_167 0 12 (dk_at dksX10_sign_1 10 rfl rfl)
theorem dX10_sign_37 : decode cX10_sign 37 = .ok (.aload_n 0, 1) := dk_42 (dk_at dksX10_sign_1 13 rfl rfl)
theorem dX10_sign_38 : decode cX10_sign 38 = .ok (.iconst 1, 1) := dk_4 (dk_at dksX10_sign_1 14 rfl rfl)
theorem dX10_sign_39 : decode cX10_sign 39 = .ok (.aload_n 0, 1) := dk_42 (dk_at dksX10_sign_1 15 rfl rfl)
theorem dX10_sign_40 : decode cX10_sign 40 = .ok (.getfield 107, 3) := dk_180 0 107 (dk_at dksX10_sign_1 16 rfl rfl)
theorem dX10_sign_43 : decode cX10_sign 43 = .ok (.invokevirtual 127, 3) := dk_182 0 127 (dk_at dksX10_sign_1 19 rfl rfl)
theorem dX10_sign_46 : decode cX10_sign 46 = .ok (.return_, 1) := dk_177 (dk_at dksX10_sign_1 22 rfl rfl)
abbrev cX10_ends : ByteArray := prog_32_method_24_code
def yX10_ends : MethodName := ⟨RX10, "ends", "()I"⟩
def dkwX10_ends_0 : List UInt8 := [42, 42, 180, 0, 117, 181, 0, 9, 42, 180, 0, 114, 16, 10, 100, 172]
abbrev dktX10_ends_0 : List UInt8 := dkwX10_ends_0 ++ []
theorem dksX10_ends_0 : cX10_ends.data.toList.drop 0 = dktX10_ends_0 := by decide +kernel
theorem dX10_ends_0 : decode cX10_ends 0 = .ok (.aload_n 0, 1) := dk_42 (dk_at dksX10_ends_0 0 rfl rfl)
theorem dX10_ends_1 : decode cX10_ends 1 = .ok (.aload_n 0, 1) := dk_42 (dk_at dksX10_ends_0 1 rfl rfl)
theorem dX10_ends_2 : decode cX10_ends 2 = .ok (.getfield 117, 3) := dk_180 0 117 (dk_at dksX10_ends_0 2 rfl rfl)
theorem dX10_ends_5 : decode cX10_ends 5 = .ok (.putfield 9, 3) := dk_181 0 9 (dk_at dksX10_ends_0 5 rfl rfl)
theorem dX10_ends_8 : decode cX10_ends 8 = .ok (.aload_n 0, 1) := dk_42 (dk_at dksX10_ends_0 8 rfl rfl)
theorem dX10_ends_9 : decode cX10_ends 9 = .ok (.getfield 114, 3) := dk_180 0 114 (dk_at dksX10_ends_0 9 rfl rfl)
theorem dX10_ends_12 : decode cX10_ends 12 = .ok (.bipush 10, 2) := dk_16 10 (dk_at dksX10_ends_0 12 rfl rfl)
theorem dX10_ends_14 : decode cX10_ends 14 = .ok (.isub, 1) := dk_100 (dk_at dksX10_ends_0 14 rfl rfl)
theorem dX10_ends_15 : decode cX10_ends 15 = .ok (.ireturn, 1) := dk_172 (dk_at dksX10_ends_0 15 rfl rfl)
abbrev cX10_law : ByteArray := prog_32_method_40_code
def yX10_law : MethodName := ⟨RX10, "law", "(I)I"⟩
def dkwX10_law_5 : List UInt8 := [180, 0, 46, 42, 180, 0, 195, 184, 0, 191, 4, 172]
abbrev dktX10_law_5 : List UInt8 := dkwX10_law_5 ++ []
def dkwX10_law_4 : List UInt8 := [182, 0, 188, 172, 42, 2, 181, 0, 9, 42, 42, 180, 0, 210, 181, 0, 195, 42, 180, 0, 49, 42]
abbrev dktX10_law_4 : List UInt8 := dkwX10_law_4 ++ dktX10_law_5
def dkwX10_law_3 : List UInt8 := [180, 0, 104, 162, 0, 12, 42, 4, 42, 180, 0, 107, 182, 0, 127, 42, 180, 0, 114, 153, 0, 8, 42]
abbrev dktX10_law_3 : List UInt8 := dkwX10_law_3 ++ dktX10_law_4
def dkwX10_law_2 : List UInt8 := [3, 181, 0, 210, 42, 182, 0, 235, 42, 182, 0, 120, 42, 180, 0, 114, 154, 0, 23, 42, 180, 0, 107, 42]
abbrev dktX10_law_2 : List UInt8 := dkwX10_law_2 ++ dktX10_law_3
def dkwX10_law_1 : List UInt8 := [164, 0, 7, 4, 167, 0, 4, 3, 4, 4, 182, 0, 178, 153, 0, 5, 3, 172, 42, 27, 182, 0, 182, 42]
abbrev dktX10_law_1 : List UInt8 := dkwX10_law_1 ++ dktX10_law_2
def dkwX10_law_0 : List UInt8 := [42, 3, 181, 0, 98, 42, 27, 3, 42, 180, 0, 101, 184, 0, 132, 153, 0, 10, 27, 17, 0, 150]
abbrev dktX10_law_0 : List UInt8 := dkwX10_law_0 ++ dktX10_law_1
theorem dksX10_law_0 : cX10_law.data.toList.drop 0 = dktX10_law_0 := by decide +kernel
theorem dksX10_law_1 : cX10_law.data.toList.drop 22 = dktX10_law_1 := dk_seg dksX10_law_0 22 rfl rfl
theorem dksX10_law_2 : cX10_law.data.toList.drop 46 = dktX10_law_2 := dk_seg dksX10_law_1 24 rfl rfl
theorem dksX10_law_3 : cX10_law.data.toList.drop 70 = dktX10_law_3 := dk_seg dksX10_law_2 24 rfl rfl
theorem dksX10_law_4 : cX10_law.data.toList.drop 93 = dktX10_law_4 := dk_seg dksX10_law_3 23 rfl rfl
theorem dksX10_law_5 : cX10_law.data.toList.drop 115 = dktX10_law_5 := dk_seg dksX10_law_4 22 rfl rfl
theorem dX10_law_0 : decode cX10_law 0 = .ok (.aload_n 0, 1) := dk_42 (dk_at dksX10_law_0 0 rfl rfl)
theorem dX10_law_1 : decode cX10_law 1 = .ok (.iconst 0, 1) := dk_3 (dk_at dksX10_law_0 1 rfl rfl)
theorem dX10_law_2 : decode cX10_law 2 = .ok (.putfield 98, 3) := dk_181 0 98 (dk_at dksX10_law_0 2 rfl rfl)
theorem dX10_law_5 : decode cX10_law 5 = .ok (.aload_n 0, 1) := dk_42 (dk_at dksX10_law_0 5 rfl rfl)
theorem dX10_law_6 : decode cX10_law 6 = .ok (.iload_n 1, 1) := dk_27 (dk_at dksX10_law_0 6 rfl rfl)
theorem dX10_law_7 : decode cX10_law 7 = .ok (.iconst 0, 1) := dk_3 (dk_at dksX10_law_0 7 rfl rfl)
theorem dX10_law_8 : decode cX10_law 8 = .ok (.aload_n 0, 1) := dk_42 (dk_at dksX10_law_0 8 rfl rfl)
theorem dX10_law_9 : decode cX10_law 9 = .ok (.getfield 101, 3) := dk_180 0 101 (dk_at dksX10_law_0 9 rfl rfl)
theorem dX10_law_12 : decode cX10_law 12 = .ok (.invokestatic 132, 3) := dk_184 0 132 (dk_at dksX10_law_0 12 rfl rfl)
theorem dX10_law_15 : decode cX10_law 15 = .ok (.ifCond .eq 10, 3) := dk_153 0 10 (dk_at dksX10_law_0 15 rfl rfl)
theorem dX10_law_18 : decode cX10_law 18 = .ok (.iload_n 1, 1) := dk_27 (dk_at dksX10_law_0 18 rfl rfl)
theorem dX10_law_19 : decode cX10_law 19 = .ok (.sipush 150, 3) := dk_17 0 150 (dk_at dksX10_law_0 19 rfl rfl)
theorem dX10_law_22 : decode cX10_law 22 = .ok (.if_icmp .le 7, 3) := dk_164 0 7 (dk_at dksX10_law_1 0 rfl rfl)
theorem dX10_law_25 : decode cX10_law 25 = .ok (.iconst 1, 1) := dk_4 (dk_at dksX10_law_1 3 rfl rfl)
theorem dX10_law_26 : decode cX10_law 26 = .ok (.goto 4, 3) := dk_167 0 4 (dk_at dksX10_law_1 4 rfl rfl)
theorem dX10_law_29 : decode cX10_law 29 = .ok (.iconst 0, 1) := dk_3 (dk_at dksX10_law_1 7 rfl rfl)
theorem dX10_law_30 : decode cX10_law 30 = .ok (.iconst 1, 1) := dk_4 (dk_at dksX10_law_1 8 rfl rfl)
theorem dX10_law_31 : decode cX10_law 31 = .ok (.iconst 1, 1) := dk_4 (dk_at dksX10_law_1 9 rfl rfl)
theorem dX10_law_32 : decode cX10_law 32 = .ok (.invokevirtual 178, 3) := dk_182 0 178 (dk_at dksX10_law_1 10 rfl rfl)
theorem dX10_law_35 : decode cX10_law 35 = .ok (.ifCond .eq 5, 3) := dk_153 0 5 (dk_at dksX10_law_1 13 rfl rfl)
theorem dX10_law_38 : decode cX10_law 38 = .ok (.iconst 0, 1) := dk_3 (dk_at dksX10_law_1 16 rfl rfl)
theorem dX10_law_39 : decode cX10_law 39 = .ok (.ireturn, 1) := dk_172 (dk_at dksX10_law_1 17 rfl rfl)
theorem dX10_law_40 : decode cX10_law 40 = .ok (.aload_n 0, 1) := dk_42 (dk_at dksX10_law_1 18 rfl rfl)
theorem dX10_law_41 : decode cX10_law 41 = .ok (.iload_n 1, 1) := dk_27 (dk_at dksX10_law_1 19 rfl rfl)
theorem dX10_law_42 : decode cX10_law 42 = .ok (.invokevirtual 182, 3) := dk_182 0 182 (dk_at dksX10_law_1 20 rfl rfl)
theorem dX10_law_45 : decode cX10_law 45 = .ok (.aload_n 0, 1) := dk_42 (dk_at dksX10_law_1 23 rfl rfl)
theorem dX10_law_46 : decode cX10_law 46 = .ok (.iconst 0, 1) := dk_3 (dk_at dksX10_law_2 0 rfl rfl)
theorem dX10_law_47 : decode cX10_law 47 = .ok (.putfield 210, 3) := dk_181 0 210 (dk_at dksX10_law_2 1 rfl rfl)
theorem dX10_law_50 : decode cX10_law 50 = .ok (.aload_n 0, 1) := dk_42 (dk_at dksX10_law_2 4 rfl rfl)
theorem dX10_law_51 : decode cX10_law 51 = .ok (.invokevirtual 235, 3) := dk_182 0 235 (dk_at dksX10_law_2 5 rfl rfl)
theorem dX10_law_54 : decode cX10_law 54 = .ok (.aload_n 0, 1) := dk_42 (dk_at dksX10_law_2 8 rfl rfl)
theorem dX10_law_55 : decode cX10_law 55 = .ok (.invokevirtual 120, 3) := dk_182 0 120 (dk_at dksX10_law_2 9 rfl rfl)
theorem dX10_law_58 : decode cX10_law 58 = .ok (.aload_n 0, 1) := dk_42 (dk_at dksX10_law_2 12 rfl rfl)
theorem dX10_law_59 : decode cX10_law 59 = .ok (.getfield 114, 3) := dk_180 0 114 (dk_at dksX10_law_2 13 rfl rfl)
theorem dX10_law_62 : decode cX10_law 62 = .ok (.ifCond .ne 23, 3) := dk_154 0 23 (dk_at dksX10_law_2 16 rfl rfl)
theorem dX10_law_65 : decode cX10_law 65 = .ok (.aload_n 0, 1) := dk_42 (dk_at dksX10_law_2 19 rfl rfl)
theorem dX10_law_66 : decode cX10_law 66 = .ok (.getfield 107, 3) := dk_180 0 107 (dk_at dksX10_law_2 20 rfl rfl)
theorem dX10_law_69 : decode cX10_law 69 = .ok (.aload_n 0, 1) := dk_42 (dk_at dksX10_law_2 23 rfl rfl)
theorem dX10_law_70 : decode cX10_law 70 = .ok (.getfield 104, 3) := dk_180 0 104 (dk_at dksX10_law_3 0 rfl rfl)
theorem dX10_law_73 : decode cX10_law 73 = .ok (.if_icmp .ge 12, 3) := dk_162 0 12 (dk_at dksX10_law_3 3 rfl rfl)
theorem dX10_law_76 : decode cX10_law 76 = .ok (.aload_n 0, 1) := dk_42 (dk_at dksX10_law_3 6 rfl rfl)
theorem dX10_law_77 : decode cX10_law 77 = .ok (.iconst 1, 1) := dk_4 (dk_at dksX10_law_3 7 rfl rfl)
theorem dX10_law_78 : decode cX10_law 78 = .ok (.aload_n 0, 1) := dk_42 (dk_at dksX10_law_3 8 rfl rfl)
theorem dX10_law_79 : decode cX10_law 79 = .ok (.getfield 107, 3) := dk_180 0 107 (dk_at dksX10_law_3 9 rfl rfl)
theorem dX10_law_82 : decode cX10_law 82 = .ok (.invokevirtual 127, 3) := dk_182 0 127 (dk_at dksX10_law_3 12 rfl rfl)
theorem dX10_law_85 : decode cX10_law 85 = .ok (.aload_n 0, 1) := dk_42 (dk_at dksX10_law_3 15 rfl rfl)
theorem dX10_law_86 : decode cX10_law 86 = .ok (.getfield 114, 3) := dk_180 0 114 (dk_at dksX10_law_3 16 rfl rfl)
theorem dX10_law_89 : decode cX10_law 89 = .ok (.ifCond .eq 8, 3) := dk_153 0 8 (dk_at dksX10_law_3 19 rfl rfl)
theorem dX10_law_92 : decode cX10_law 92 = .ok (.aload_n 0, 1) := dk_42 (dk_at dksX10_law_3 22 rfl rfl)
theorem dX10_law_93 : decode cX10_law 93 = .ok (.invokevirtual 188, 3) := dk_182 0 188 (dk_at dksX10_law_4 0 rfl rfl)
theorem dX10_law_96 : decode cX10_law 96 = .ok (.ireturn, 1) := dk_172 (dk_at dksX10_law_4 3 rfl rfl)
theorem dX10_law_97 : decode cX10_law 97 = .ok (.aload_n 0, 1) := dk_42 (dk_at dksX10_law_4 4 rfl rfl)
theorem dX10_law_98 : decode cX10_law 98 = .ok (.iconst (-1), 1) := dk_2 (dk_at dksX10_law_4 5 rfl rfl)
theorem dX10_law_99 : decode cX10_law 99 = .ok (.putfield 9, 3) := dk_181 0 9 (dk_at dksX10_law_4 6 rfl rfl)
theorem dX10_law_102 : decode cX10_law 102 = .ok (.aload_n 0, 1) := dk_42 (dk_at dksX10_law_4 9 rfl rfl)
theorem dX10_law_103 : decode cX10_law 103 = .ok (.aload_n 0, 1) := dk_42 (dk_at dksX10_law_4 10 rfl rfl)
theorem dX10_law_104 : decode cX10_law 104 = .ok (.getfield 210, 3) := dk_180 0 210 (dk_at dksX10_law_4 11 rfl rfl)
theorem dX10_law_107 : decode cX10_law 107 = .ok (.putfield 195, 3) := dk_181 0 195 (dk_at dksX10_law_4 14 rfl rfl)
theorem dX10_law_110 : decode cX10_law 110 = .ok (.aload_n 0, 1) := dk_42 (dk_at dksX10_law_4 17 rfl rfl)
theorem dX10_law_111 : decode cX10_law 111 = .ok (.getfield 49, 3) := dk_180 0 49 (dk_at dksX10_law_4 18 rfl rfl)
theorem dX10_law_114 : decode cX10_law 114 = .ok (.aload_n 0, 1) := dk_42 (dk_at dksX10_law_4 21 rfl rfl)
theorem dX10_law_115 : decode cX10_law 115 = .ok (.getfield 46, 3) := dk_180 0 46 (dk_at dksX10_law_5 0 rfl rfl)
theorem dX10_law_118 : decode cX10_law 118 = .ok (.aload_n 0, 1) := dk_42 (dk_at dksX10_law_5 3 rfl rfl)
theorem dX10_law_119 : decode cX10_law 119 = .ok (.getfield 195, 3) := dk_180 0 195 (dk_at dksX10_law_5 4 rfl rfl)
theorem dX10_law_122 : decode cX10_law 122 = .ok (.invokestatic 191, 3) := dk_184 0 191 (dk_at dksX10_law_5 7 rfl rfl)
theorem dX10_law_125 : decode cX10_law 125 = .ok (.iconst 1, 1) := dk_4 (dk_at dksX10_law_5 10 rfl rfl)
theorem dX10_law_126 : decode cX10_law 126 = .ok (.ireturn, 1) := dk_172 (dk_at dksX10_law_5 11 rfl rfl)
abbrev cX10_sum : ByteArray := prog_32_method_36_code
def yX10_sum : MethodName := ⟨RX10, "sum", "()V"⟩
def dkwX10_sum_2 : List UInt8 := [182, 0, 213, 42, 27, 3, 182, 0, 219, 167, 255, 205, 177]
abbrev dktX10_sum_2 : List UInt8 := dkwX10_sum_2 ++ []
def dkwX10_sum_1 : List UInt8 := [42, 16, 45, 182, 0, 216, 153, 0, 7, 6, 167, 0, 4, 2, 60, 27, 2, 160, 0, 4, 177, 42]
abbrev dktX10_sum_1 : List UInt8 := dkwX10_sum_1 ++ dktX10_sum_2
def dkwX10_sum_0 : List UInt8 := [42, 182, 0, 213, 42, 180, 0, 114, 154, 0, 50, 42, 16, 43, 182, 0, 216, 153, 0, 7, 5, 167, 0, 17]
abbrev dktX10_sum_0 : List UInt8 := dkwX10_sum_0 ++ dktX10_sum_1
theorem dksX10_sum_0 : cX10_sum.data.toList.drop 0 = dktX10_sum_0 := by decide +kernel
theorem dksX10_sum_1 : cX10_sum.data.toList.drop 24 = dktX10_sum_1 := dk_seg dksX10_sum_0 24 rfl rfl
theorem dksX10_sum_2 : cX10_sum.data.toList.drop 46 = dktX10_sum_2 := dk_seg dksX10_sum_1 22 rfl rfl
theorem dX10_sum_0 : decode cX10_sum 0 = .ok (.aload_n 0, 1) := dk_42 (dk_at dksX10_sum_0 0 rfl rfl)
theorem dX10_sum_1 : decode cX10_sum 1 = .ok (.invokevirtual 213, 3) := dk_182 0 213 (dk_at dksX10_sum_0 1 rfl rfl)
theorem dX10_sum_4 : decode cX10_sum 4 = .ok (.aload_n 0, 1) := dk_42 (dk_at dksX10_sum_0 4 rfl rfl)
theorem dX10_sum_5 : decode cX10_sum 5 = .ok (.getfield 114, 3) := dk_180 0 114 (dk_at dksX10_sum_0 5 rfl rfl)
theorem dX10_sum_8 : decode cX10_sum 8 = .ok (.ifCond .ne 50, 3) := dk_154 0 50 (dk_at dksX10_sum_0 8 rfl rfl)
theorem dX10_sum_11 : decode cX10_sum 11 = .ok (.aload_n 0, 1) := dk_42 (dk_at dksX10_sum_0 11 rfl rfl)
theorem dX10_sum_12 : decode cX10_sum 12 = .ok (.bipush 43, 2) := dk_16 43 (dk_at dksX10_sum_0 12 rfl rfl)
theorem dX10_sum_14 : decode cX10_sum 14 = .ok (.invokevirtual 216, 3) := dk_182 0 216 (dk_at dksX10_sum_0 14 rfl rfl)
theorem dX10_sum_17 : decode cX10_sum 17 = .ok (.ifCond .eq 7, 3) := dk_153 0 7 (dk_at dksX10_sum_0 17 rfl rfl)
theorem dX10_sum_20 : decode cX10_sum 20 = .ok (.iconst 2, 1) := dk_5 (dk_at dksX10_sum_0 20 rfl rfl)
theorem dX10_sum_21 : decode cX10_sum 21 = .ok (.goto 17, 3) := dk_167 0 17 (dk_at dksX10_sum_0 21 rfl rfl)
theorem dX10_sum_24 : decode cX10_sum 24 = .ok (.aload_n 0, 1) := dk_42 (dk_at dksX10_sum_1 0 rfl rfl)
theorem dX10_sum_25 : decode cX10_sum 25 = .ok (.bipush 45, 2) := dk_16 45 (dk_at dksX10_sum_1 1 rfl rfl)
theorem dX10_sum_27 : decode cX10_sum 27 = .ok (.invokevirtual 216, 3) := dk_182 0 216 (dk_at dksX10_sum_1 3 rfl rfl)
theorem dX10_sum_30 : decode cX10_sum 30 = .ok (.ifCond .eq 7, 3) := dk_153 0 7 (dk_at dksX10_sum_1 6 rfl rfl)
theorem dX10_sum_33 : decode cX10_sum 33 = .ok (.iconst 3, 1) := dk_6 (dk_at dksX10_sum_1 9 rfl rfl)
theorem dX10_sum_34 : decode cX10_sum 34 = .ok (.goto 4, 3) := dk_167 0 4 (dk_at dksX10_sum_1 10 rfl rfl)
theorem dX10_sum_37 : decode cX10_sum 37 = .ok (.iconst (-1), 1) := dk_2 (dk_at dksX10_sum_1 13 rfl rfl)
theorem dX10_sum_38 : decode cX10_sum 38 = .ok (.istore_n 1, 1) := dk_60 (dk_at dksX10_sum_1 14 rfl rfl)
theorem dX10_sum_39 : decode cX10_sum 39 = .ok (.iload_n 1, 1) := dk_27 (dk_at dksX10_sum_1 15 rfl rfl)
theorem dX10_sum_40 : decode cX10_sum 40 = .ok (.iconst (-1), 1) := dk_2 (dk_at dksX10_sum_1 16 rfl rfl)
theorem dX10_sum_41 : decode cX10_sum 41 = .ok (.if_icmp .ne 4, 3) := dk_160 0 4 (dk_at dksX10_sum_1 17 rfl rfl)
theorem dX10_sum_44 : decode cX10_sum 44 = .ok (.return_, 1) := dk_177 (dk_at dksX10_sum_1 20 rfl rfl)
theorem dX10_sum_45 : decode cX10_sum 45 = .ok (.aload_n 0, 1) := dk_42 (dk_at dksX10_sum_1 21 rfl rfl)
theorem dX10_sum_46 : decode cX10_sum 46 = .ok (.invokevirtual 213, 3) := dk_182 0 213 (dk_at dksX10_sum_2 0 rfl rfl)
theorem dX10_sum_49 : decode cX10_sum 49 = .ok (.aload_n 0, 1) := dk_42 (dk_at dksX10_sum_2 3 rfl rfl)
theorem dX10_sum_50 : decode cX10_sum 50 = .ok (.iload_n 1, 1) := dk_27 (dk_at dksX10_sum_2 4 rfl rfl)
theorem dX10_sum_51 : decode cX10_sum 51 = .ok (.iconst 0, 1) := dk_3 (dk_at dksX10_sum_2 5 rfl rfl)
theorem dX10_sum_52 : decode cX10_sum 52 = .ok (.invokevirtual 219, 3) := dk_182 0 219 (dk_at dksX10_sum_2 6 rfl rfl)
theorem dX10_sum_55 : decode cX10_sum 55 = .ok (.goto (-51), 3) := dk_167 255 205 (dk_at dksX10_sum_2 9 rfl rfl)
theorem dX10_sum_58 : decode cX10_sum 58 = .ok (.return_, 1) := dk_177 (dk_at dksX10_sum_2 12 rfl rfl)
abbrev cX10_product : ByteArray := prog_32_method_37_code
def yX10_product : MethodName := ⟨RX10, "product", "()V"⟩
def dkwX10_product_3 : List UInt8 := [177]
abbrev dktX10_product_3 : List UInt8 := dkwX10_product_3 ++ []
def dkwX10_product_2 : List UInt8 := [167, 0, 4, 2, 60, 27, 2, 160, 0, 4, 177, 42, 182, 0, 222, 42, 27, 3, 182, 0, 219, 167, 255, 191]
abbrev dktX10_product_2 : List UInt8 := dkwX10_product_2 ++ dktX10_product_3
def dkwX10_product_1 : List UInt8 := [42, 16, 47, 182, 0, 216, 153, 0, 7, 8, 167, 0, 18, 42, 16, 37, 182, 0, 216, 153, 0, 8, 16, 6]
abbrev dktX10_product_1 : List UInt8 := dkwX10_product_1 ++ dktX10_product_2
def dkwX10_product_0 : List UInt8 := [42, 182, 0, 222, 42, 180, 0, 114, 154, 0, 64, 42, 16, 42, 182, 0, 216, 153, 0, 7, 7, 167, 0, 31]
abbrev dktX10_product_0 : List UInt8 := dkwX10_product_0 ++ dktX10_product_1
theorem dksX10_product_0 : cX10_product.data.toList.drop 0 = dktX10_product_0 := by decide +kernel
theorem dksX10_product_1 : cX10_product.data.toList.drop 24 = dktX10_product_1 := dk_seg dksX10_product_0 24 rfl rfl
theorem dksX10_product_2 : cX10_product.data.toList.drop 48 = dktX10_product_2 := dk_seg dksX10_product_1 24 rfl rfl
theorem dksX10_product_3 : cX10_product.data.toList.drop 72 = dktX10_product_3 := dk_seg dksX10_product_2 24 rfl rfl
theorem dX10_product_0 : decode cX10_product 0 = .ok (.aload_n 0, 1) := dk_42 (dk_at dksX10_product_0 0 rfl rfl)
theorem dX10_product_1 : decode cX10_product 1 = .ok (.invokevirtual 222, 3) := dk_182 0 222 (dk_at dksX10_product_0 1 rfl rfl)
theorem dX10_product_4 : decode cX10_product 4 = .ok (.aload_n 0, 1) := dk_42 (dk_at dksX10_product_0 4 rfl rfl)
theorem dX10_product_5 : decode cX10_product 5 = .ok (.getfield 114, 3) := dk_180 0 114 (dk_at dksX10_product_0 5 rfl rfl)
theorem dX10_product_8 : decode cX10_product 8 = .ok (.ifCond .ne 64, 3) := dk_154 0 64 (dk_at dksX10_product_0 8 rfl rfl)
theorem dX10_product_11 : decode cX10_product 11 = .ok (.aload_n 0, 1) := dk_42 (dk_at dksX10_product_0 11 rfl rfl)
theorem dX10_product_12 : decode cX10_product 12 = .ok (.bipush 42, 2) := dk_16 42 (dk_at dksX10_product_0 12 rfl rfl)
theorem dX10_product_14 : decode cX10_product 14 = .ok (.invokevirtual 216, 3) := dk_182 0 216 (dk_at dksX10_product_0 14 rfl rfl)
theorem dX10_product_17 : decode cX10_product 17 = .ok (.ifCond .eq 7, 3) := dk_153 0 7 (dk_at dksX10_product_0 17 rfl rfl)
theorem dX10_product_20 : decode cX10_product 20 = .ok (.iconst 4, 1) := dk_7 (dk_at dksX10_product_0 20 rfl rfl)
theorem dX10_product_21 : decode cX10_product 21 = .ok (.goto 31, 3) := dk_167 0 31 (dk_at dksX10_product_0 21 rfl rfl)
theorem dX10_product_24 : decode cX10_product 24 = .ok (.aload_n 0, 1) := dk_42 (dk_at dksX10_product_1 0 rfl rfl)
theorem dX10_product_25 : decode cX10_product 25 = .ok (.bipush 47, 2) := dk_16 47 (dk_at dksX10_product_1 1 rfl rfl)
theorem dX10_product_27 : decode cX10_product 27 = .ok (.invokevirtual 216, 3) := dk_182 0 216 (dk_at dksX10_product_1 3 rfl rfl)
theorem dX10_product_30 : decode cX10_product 30 = .ok (.ifCond .eq 7, 3) := dk_153 0 7 (dk_at dksX10_product_1 6 rfl rfl)
theorem dX10_product_33 : decode cX10_product 33 = .ok (.iconst 5, 1) := dk_8 (dk_at dksX10_product_1 9 rfl rfl)
theorem dX10_product_34 : decode cX10_product 34 = .ok (.goto 18, 3) := dk_167 0 18 (dk_at dksX10_product_1 10 rfl rfl)
theorem dX10_product_37 : decode cX10_product 37 = .ok (.aload_n 0, 1) := dk_42 (dk_at dksX10_product_1 13 rfl rfl)
theorem dX10_product_38 : decode cX10_product 38 = .ok (.bipush 37, 2) := dk_16 37 (dk_at dksX10_product_1 14 rfl rfl)
theorem dX10_product_40 : decode cX10_product 40 = .ok (.invokevirtual 216, 3) := dk_182 0 216 (dk_at dksX10_product_1 16 rfl rfl)
theorem dX10_product_43 : decode cX10_product 43 = .ok (.ifCond .eq 8, 3) := dk_153 0 8 (dk_at dksX10_product_1 19 rfl rfl)
theorem dX10_product_46 : decode cX10_product 46 = .ok (.bipush 6, 2) := dk_16 6 (dk_at dksX10_product_1 22 rfl rfl)
theorem dX10_product_48 : decode cX10_product 48 = .ok (.goto 4, 3) := dk_167 0 4 (dk_at dksX10_product_2 0 rfl rfl)
theorem dX10_product_51 : decode cX10_product 51 = .ok (.iconst (-1), 1) := dk_2 (dk_at dksX10_product_2 3 rfl rfl)
theorem dX10_product_52 : decode cX10_product 52 = .ok (.istore_n 1, 1) := dk_60 (dk_at dksX10_product_2 4 rfl rfl)
theorem dX10_product_53 : decode cX10_product 53 = .ok (.iload_n 1, 1) := dk_27 (dk_at dksX10_product_2 5 rfl rfl)
theorem dX10_product_54 : decode cX10_product 54 = .ok (.iconst (-1), 1) := dk_2 (dk_at dksX10_product_2 6 rfl rfl)
theorem dX10_product_55 : decode cX10_product 55 = .ok (.if_icmp .ne 4, 3) := dk_160 0 4 (dk_at dksX10_product_2 7 rfl rfl)
theorem dX10_product_58 : decode cX10_product 58 = .ok (.return_, 1) := dk_177 (dk_at dksX10_product_2 10 rfl rfl)
theorem dX10_product_59 : decode cX10_product 59 = .ok (.aload_n 0, 1) := dk_42 (dk_at dksX10_product_2 11 rfl rfl)
theorem dX10_product_60 : decode cX10_product 60 = .ok (.invokevirtual 222, 3) := dk_182 0 222 (dk_at dksX10_product_2 12 rfl rfl)
theorem dX10_product_63 : decode cX10_product 63 = .ok (.aload_n 0, 1) := dk_42 (dk_at dksX10_product_2 15 rfl rfl)
theorem dX10_product_64 : decode cX10_product 64 = .ok (.iload_n 1, 1) := dk_27 (dk_at dksX10_product_2 16 rfl rfl)
theorem dX10_product_65 : decode cX10_product 65 = .ok (.iconst 0, 1) := dk_3 (dk_at dksX10_product_2 17 rfl rfl)
theorem dX10_product_66 : decode cX10_product 66 = .ok (.invokevirtual 219, 3) := dk_182 0 219 (dk_at dksX10_product_2 18 rfl rfl)
theorem dX10_product_69 : decode cX10_product 69 = .ok (.goto (-65), 3) := dk_167 255 191 (dk_at dksX10_product_2 21 rfl rfl)
theorem dX10_product_72 : decode cX10_product 72 = .ok (.return_, 1) := dk_177 (dk_at dksX10_product_3 0 rfl rfl)
abbrev cX10_one : ByteArray := prog_32_method_39_code
def yX10_one : MethodName := ⟨RX10, "one", "()V"⟩
def dkwX10_one_8 : List UInt8 := [182, 0, 219, 167, 0, 16, 42, 3, 42, 3, 17, 3, 231, 182, 0, 166, 182, 0, 219, 177]
abbrev dktX10_one_8 : List UInt8 := dkwX10_one_8 ++ []
def dkwX10_one_7 : List UInt8 := [180, 0, 157, 4, 100, 181, 0, 157, 177, 42, 182, 0, 238, 61, 28, 2, 159, 0, 12, 42, 4, 28]
abbrev dktX10_one_7 : List UInt8 := dkwX10_one_7 ++ dktX10_one_8
def dkwX10_one_6 : List UInt8 := [177, 42, 89, 180, 0, 107, 4, 96, 181, 0, 107, 42, 182, 0, 235, 42, 16, 41, 182, 0, 174, 42, 89]
abbrev dktX10_one_6 : List UInt8 := dkwX10_one_6 ++ dktX10_one_7
def dkwX10_one_5 : List UInt8 := [181, 0, 157, 177, 42, 42, 180, 0, 107, 182, 0, 110, 16, 40, 160, 0, 42, 42, 182, 0, 231, 154, 0, 4]
abbrev dktX10_one_5 : List UInt8 := dkwX10_one_5 ++ dktX10_one_6
def dkwX10_one_4 : List UInt8 := [42, 182, 0, 235, 42, 16, 93, 182, 0, 174, 42, 27, 3, 182, 0, 219, 42, 89, 180, 0, 157, 4, 100]
abbrev dktX10_one_4 : List UInt8 := dkwX10_one_4 ++ dktX10_one_5
def dkwX10_one_3 : List UInt8 := [154, 0, 4, 177, 42, 182, 0, 151, 42, 16, 91, 182, 0, 174, 42, 182, 0, 235, 42, 16, 44, 182, 0, 174]
abbrev dktX10_one_3 : List UInt8 := dkwX10_one_3 ++ dktX10_one_4
def dkwX10_one_2 : List UInt8 := [182, 0, 147, 153, 0, 8, 16, 8, 167, 0, 4, 2, 60, 27, 2, 159, 0, 58, 42, 182, 0, 231]
abbrev dktX10_one_2 : List UInt8 := dkwX10_one_2 ++ dktX10_one_3
def dkwX10_one_1 : List UInt8 := [182, 0, 147, 153, 0, 8, 16, 7, 167, 0, 26, 42, 16, 13, 16, 15, 16, 19, 16, 20, 3, 3]
abbrev dktX10_one_1 : List UInt8 := dkwX10_one_1 ++ dktX10_one_2
def dkwX10_one_0 : List UInt8 := [42, 180, 0, 114, 153, 0, 4, 177, 42, 182, 0, 120, 42, 16, 12, 8, 4, 16, 19, 16, 20, 3]
abbrev dktX10_one_0 : List UInt8 := dkwX10_one_0 ++ dktX10_one_1
theorem dksX10_one_0 : cX10_one.data.toList.drop 0 = dktX10_one_0 := by decide +kernel
theorem dksX10_one_1 : cX10_one.data.toList.drop 22 = dktX10_one_1 := dk_seg dksX10_one_0 22 rfl rfl
theorem dksX10_one_2 : cX10_one.data.toList.drop 44 = dktX10_one_2 := dk_seg dksX10_one_1 22 rfl rfl
theorem dksX10_one_3 : cX10_one.data.toList.drop 66 = dktX10_one_3 := dk_seg dksX10_one_2 22 rfl rfl
theorem dksX10_one_4 : cX10_one.data.toList.drop 90 = dktX10_one_4 := dk_seg dksX10_one_3 24 rfl rfl
theorem dksX10_one_5 : cX10_one.data.toList.drop 113 = dktX10_one_5 := dk_seg dksX10_one_4 23 rfl rfl
theorem dksX10_one_6 : cX10_one.data.toList.drop 137 = dktX10_one_6 := dk_seg dksX10_one_5 24 rfl rfl
theorem dksX10_one_7 : cX10_one.data.toList.drop 160 = dktX10_one_7 := dk_seg dksX10_one_6 23 rfl rfl
theorem dksX10_one_8 : cX10_one.data.toList.drop 182 = dktX10_one_8 := dk_seg dksX10_one_7 22 rfl rfl
theorem dX10_one_0 : decode cX10_one 0 = .ok (.aload_n 0, 1) := dk_42 (dk_at dksX10_one_0 0 rfl rfl)
theorem dX10_one_1 : decode cX10_one 1 = .ok (.getfield 114, 3) := dk_180 0 114 (dk_at dksX10_one_0 1 rfl rfl)
theorem dX10_one_4 : decode cX10_one 4 = .ok (.ifCond .eq 4, 3) := dk_153 0 4 (dk_at dksX10_one_0 4 rfl rfl)
theorem dX10_one_7 : decode cX10_one 7 = .ok (.return_, 1) := dk_177 (dk_at dksX10_one_0 7 rfl rfl)
theorem dX10_one_8 : decode cX10_one 8 = .ok (.aload_n 0, 1) := dk_42 (dk_at dksX10_one_0 8 rfl rfl)
theorem dX10_one_9 : decode cX10_one 9 = .ok (.invokevirtual 120, 3) := dk_182 0 120 (dk_at dksX10_one_0 9 rfl rfl)
theorem dX10_one_12 : decode cX10_one 12 = .ok (.aload_n 0, 1) := dk_42 (dk_at dksX10_one_0 12 rfl rfl)
theorem dX10_one_13 : decode cX10_one 13 = .ok (.bipush 12, 2) := dk_16 12 (dk_at dksX10_one_0 13 rfl rfl)
theorem dX10_one_15 : decode cX10_one 15 = .ok (.iconst 5, 1) := dk_8 (dk_at dksX10_one_0 15 rfl rfl)
theorem dX10_one_16 : decode cX10_one 16 = .ok (.iconst 1, 1) := dk_4 (dk_at dksX10_one_0 16 rfl rfl)
theorem dX10_one_17 : decode cX10_one 17 = .ok (.bipush 19, 2) := dk_16 19 (dk_at dksX10_one_0 17 rfl rfl)
theorem dX10_one_19 : decode cX10_one 19 = .ok (.bipush 20, 2) := dk_16 20 (dk_at dksX10_one_0 19 rfl rfl)
theorem dX10_one_21 : decode cX10_one 21 = .ok (.iconst 0, 1) := dk_3 (dk_at dksX10_one_0 21 rfl rfl)
theorem dX10_one_22 : decode cX10_one 22 = .ok (.invokevirtual 147, 3) := dk_182 0 147 (dk_at dksX10_one_1 0 rfl rfl)
theorem dX10_one_25 : decode cX10_one 25 = .ok (.ifCond .eq 8, 3) := dk_153 0 8 (dk_at dksX10_one_1 3 rfl rfl)
theorem dX10_one_28 : decode cX10_one 28 = .ok (.bipush 7, 2) := dk_16 7 (dk_at dksX10_one_1 6 rfl rfl)
theorem dX10_one_30 : decode cX10_one 30 = .ok (.goto 26, 3) := dk_167 0 26 (dk_at dksX10_one_1 8 rfl rfl)
theorem dX10_one_33 : decode cX10_one 33 = .ok (.aload_n 0, 1) := dk_42 (dk_at dksX10_one_1 11 rfl rfl)
theorem dX10_one_34 : decode cX10_one 34 = .ok (.bipush 13, 2) := dk_16 13 (dk_at dksX10_one_1 12 rfl rfl)
theorem dX10_one_36 : decode cX10_one 36 = .ok (.bipush 15, 2) := dk_16 15 (dk_at dksX10_one_1 14 rfl rfl)
theorem dX10_one_38 : decode cX10_one 38 = .ok (.bipush 19, 2) := dk_16 19 (dk_at dksX10_one_1 16 rfl rfl)
theorem dX10_one_40 : decode cX10_one 40 = .ok (.bipush 20, 2) := dk_16 20 (dk_at dksX10_one_1 18 rfl rfl)
theorem dX10_one_42 : decode cX10_one 42 = .ok (.iconst 0, 1) := dk_3 (dk_at dksX10_one_1 20 rfl rfl)
theorem dX10_one_43 : decode cX10_one 43 = .ok (.iconst 0, 1) := dk_3 (dk_at dksX10_one_1 21 rfl rfl)
theorem dX10_one_44 : decode cX10_one 44 = .ok (.invokevirtual 147, 3) := dk_182 0 147 (dk_at dksX10_one_2 0 rfl rfl)
theorem dX10_one_47 : decode cX10_one 47 = .ok (.ifCond .eq 8, 3) := dk_153 0 8 (dk_at dksX10_one_2 3 rfl rfl)
theorem dX10_one_50 : decode cX10_one 50 = .ok (.bipush 8, 2) := dk_16 8 (dk_at dksX10_one_2 6 rfl rfl)
theorem dX10_one_52 : decode cX10_one 52 = .ok (.goto 4, 3) := dk_167 0 4 (dk_at dksX10_one_2 8 rfl rfl)
theorem dX10_one_55 : decode cX10_one 55 = .ok (.iconst (-1), 1) := dk_2 (dk_at dksX10_one_2 11 rfl rfl)
theorem dX10_one_56 : decode cX10_one 56 = .ok (.istore_n 1, 1) := dk_60 (dk_at dksX10_one_2 12 rfl rfl)
theorem dX10_one_57 : decode cX10_one 57 = .ok (.iload_n 1, 1) := dk_27 (dk_at dksX10_one_2 13 rfl rfl)
theorem dX10_one_58 : decode cX10_one 58 = .ok (.iconst (-1), 1) := dk_2 (dk_at dksX10_one_2 14 rfl rfl)
theorem dX10_one_59 : decode cX10_one 59 = .ok (.if_icmp .eq 58, 3) := dk_159 0 58 (dk_at dksX10_one_2 15 rfl rfl)
theorem dX10_one_62 : decode cX10_one 62 = .ok (.aload_n 0, 1) := dk_42 (dk_at dksX10_one_2 18 rfl rfl)
theorem dX10_one_63 : decode cX10_one 63 = .ok (.invokevirtual 231, 3) := dk_182 0 231 (dk_at dksX10_one_2 19 rfl rfl)
theorem dX10_one_66 : decode cX10_one 66 = .ok (.ifCond .ne 4, 3) := dk_154 0 4 (dk_at dksX10_one_3 0 rfl rfl)
theorem dX10_one_69 : decode cX10_one 69 = .ok (.return_, 1) := dk_177 (dk_at dksX10_one_3 3 rfl rfl)
theorem dX10_one_70 : decode cX10_one 70 = .ok (.aload_n 0, 1) := dk_42 (dk_at dksX10_one_3 4 rfl rfl)
theorem dX10_one_71 : decode cX10_one 71 = .ok (.invokevirtual 151, 3) := dk_182 0 151 (dk_at dksX10_one_3 5 rfl rfl)
theorem dX10_one_74 : decode cX10_one 74 = .ok (.aload_n 0, 1) := dk_42 (dk_at dksX10_one_3 8 rfl rfl)
theorem dX10_one_75 : decode cX10_one 75 = .ok (.bipush 91, 2) := dk_16 91 (dk_at dksX10_one_3 9 rfl rfl)
theorem dX10_one_77 : decode cX10_one 77 = .ok (.invokevirtual 174, 3) := dk_182 0 174 (dk_at dksX10_one_3 11 rfl rfl)
theorem dX10_one_80 : decode cX10_one 80 = .ok (.aload_n 0, 1) := dk_42 (dk_at dksX10_one_3 14 rfl rfl)
theorem dX10_one_81 : decode cX10_one 81 = .ok (.invokevirtual 235, 3) := dk_182 0 235 (dk_at dksX10_one_3 15 rfl rfl)
theorem dX10_one_84 : decode cX10_one 84 = .ok (.aload_n 0, 1) := dk_42 (dk_at dksX10_one_3 18 rfl rfl)
theorem dX10_one_85 : decode cX10_one 85 = .ok (.bipush 44, 2) := dk_16 44 (dk_at dksX10_one_3 19 rfl rfl)
theorem dX10_one_87 : decode cX10_one 87 = .ok (.invokevirtual 174, 3) := dk_182 0 174 (dk_at dksX10_one_3 21 rfl rfl)
theorem dX10_one_90 : decode cX10_one 90 = .ok (.aload_n 0, 1) := dk_42 (dk_at dksX10_one_4 0 rfl rfl)
theorem dX10_one_91 : decode cX10_one 91 = .ok (.invokevirtual 235, 3) := dk_182 0 235 (dk_at dksX10_one_4 1 rfl rfl)
theorem dX10_one_94 : decode cX10_one 94 = .ok (.aload_n 0, 1) := dk_42 (dk_at dksX10_one_4 4 rfl rfl)
theorem dX10_one_95 : decode cX10_one 95 = .ok (.bipush 93, 2) := dk_16 93 (dk_at dksX10_one_4 5 rfl rfl)
theorem dX10_one_97 : decode cX10_one 97 = .ok (.invokevirtual 174, 3) := dk_182 0 174 (dk_at dksX10_one_4 7 rfl rfl)
theorem dX10_one_100 : decode cX10_one 100 = .ok (.aload_n 0, 1) := dk_42 (dk_at dksX10_one_4 10 rfl rfl)
theorem dX10_one_101 : decode cX10_one 101 = .ok (.iload_n 1, 1) := dk_27 (dk_at dksX10_one_4 11 rfl rfl)
theorem dX10_one_102 : decode cX10_one 102 = .ok (.iconst 0, 1) := dk_3 (dk_at dksX10_one_4 12 rfl rfl)
theorem dX10_one_103 : decode cX10_one 103 = .ok (.invokevirtual 219, 3) := dk_182 0 219 (dk_at dksX10_one_4 13 rfl rfl)
theorem dX10_one_106 : decode cX10_one 106 = .ok (.aload_n 0, 1) := dk_42 (dk_at dksX10_one_4 16 rfl rfl)
theorem dX10_one_107 : decode cX10_one 107 = .ok (.dup, 1) := dk_89 (dk_at dksX10_one_4 17 rfl rfl)
theorem dX10_one_108 : decode cX10_one 108 = .ok (.getfield 157, 3) := dk_180 0 157 (dk_at dksX10_one_4 18 rfl rfl)
theorem dX10_one_111 : decode cX10_one 111 = .ok (.iconst 1, 1) := dk_4 (dk_at dksX10_one_4 21 rfl rfl)
theorem dX10_one_112 : decode cX10_one 112 = .ok (.isub, 1) := dk_100 (dk_at dksX10_one_4 22 rfl rfl)
theorem dX10_one_113 : decode cX10_one 113 = .ok (.putfield 157, 3) := dk_181 0 157 (dk_at dksX10_one_5 0 rfl rfl)
theorem dX10_one_116 : decode cX10_one 116 = .ok (.return_, 1) := dk_177 (dk_at dksX10_one_5 3 rfl rfl)
theorem dX10_one_117 : decode cX10_one 117 = .ok (.aload_n 0, 1) := dk_42 (dk_at dksX10_one_5 4 rfl rfl)
theorem dX10_one_118 : decode cX10_one 118 = .ok (.aload_n 0, 1) := dk_42 (dk_at dksX10_one_5 5 rfl rfl)
theorem dX10_one_119 : decode cX10_one 119 = .ok (.getfield 107, 3) := dk_180 0 107 (dk_at dksX10_one_5 6 rfl rfl)
theorem dX10_one_122 : decode cX10_one 122 = .ok (.invokevirtual 110, 3) := dk_182 0 110 (dk_at dksX10_one_5 9 rfl rfl)
theorem dX10_one_125 : decode cX10_one 125 = .ok (.bipush 40, 2) := dk_16 40 (dk_at dksX10_one_5 12 rfl rfl)
theorem dX10_one_127 : decode cX10_one 127 = .ok (.if_icmp .ne 42, 3) := dk_160 0 42 (dk_at dksX10_one_5 14 rfl rfl)
theorem dX10_one_130 : decode cX10_one 130 = .ok (.aload_n 0, 1) := dk_42 (dk_at dksX10_one_5 17 rfl rfl)
theorem dX10_one_131 : decode cX10_one 131 = .ok (.invokevirtual 231, 3) := dk_182 0 231 (dk_at dksX10_one_5 18 rfl rfl)
theorem dX10_one_134 : decode cX10_one 134 = .ok (.ifCond .ne 4, 3) := dk_154 0 4 (dk_at dksX10_one_5 21 rfl rfl)
theorem dX10_one_137 : decode cX10_one 137 = .ok (.return_, 1) := dk_177 (dk_at dksX10_one_6 0 rfl rfl)
theorem dX10_one_138 : decode cX10_one 138 = .ok (.aload_n 0, 1) := dk_42 (dk_at dksX10_one_6 1 rfl rfl)
theorem dX10_one_139 : decode cX10_one 139 = .ok (.dup, 1) := dk_89 (dk_at dksX10_one_6 2 rfl rfl)
theorem dX10_one_140 : decode cX10_one 140 = .ok (.getfield 107, 3) := dk_180 0 107 (dk_at dksX10_one_6 3 rfl rfl)
theorem dX10_one_143 : decode cX10_one 143 = .ok (.iconst 1, 1) := dk_4 (dk_at dksX10_one_6 6 rfl rfl)
theorem dX10_one_144 : decode cX10_one 144 = .ok (.iadd, 1) := dk_96 (dk_at dksX10_one_6 7 rfl rfl)
theorem dX10_one_145 : decode cX10_one 145 = .ok (.putfield 107, 3) := dk_181 0 107 (dk_at dksX10_one_6 8 rfl rfl)
theorem dX10_one_148 : decode cX10_one 148 = .ok (.aload_n 0, 1) := dk_42 (dk_at dksX10_one_6 11 rfl rfl)
theorem dX10_one_149 : decode cX10_one 149 = .ok (.invokevirtual 235, 3) := dk_182 0 235 (dk_at dksX10_one_6 12 rfl rfl)
theorem dX10_one_152 : decode cX10_one 152 = .ok (.aload_n 0, 1) := dk_42 (dk_at dksX10_one_6 15 rfl rfl)
theorem dX10_one_153 : decode cX10_one 153 = .ok (.bipush 41, 2) := dk_16 41 (dk_at dksX10_one_6 16 rfl rfl)
theorem dX10_one_155 : decode cX10_one 155 = .ok (.invokevirtual 174, 3) := dk_182 0 174 (dk_at dksX10_one_6 18 rfl rfl)
theorem dX10_one_158 : decode cX10_one 158 = .ok (.aload_n 0, 1) := dk_42 (dk_at dksX10_one_6 21 rfl rfl)
theorem dX10_one_159 : decode cX10_one 159 = .ok (.dup, 1) := dk_89 (dk_at dksX10_one_6 22 rfl rfl)
theorem dX10_one_160 : decode cX10_one 160 = .ok (.getfield 157, 3) := dk_180 0 157 (dk_at dksX10_one_7 0 rfl rfl)
theorem dX10_one_163 : decode cX10_one 163 = .ok (.iconst 1, 1) := dk_4 (dk_at dksX10_one_7 3 rfl rfl)
theorem dX10_one_164 : decode cX10_one 164 = .ok (.isub, 1) := dk_100 (dk_at dksX10_one_7 4 rfl rfl)
theorem dX10_one_165 : decode cX10_one 165 = .ok (.putfield 157, 3) := dk_181 0 157 (dk_at dksX10_one_7 5 rfl rfl)
theorem dX10_one_168 : decode cX10_one 168 = .ok (.return_, 1) := dk_177 (dk_at dksX10_one_7 8 rfl rfl)
theorem dX10_one_169 : decode cX10_one 169 = .ok (.aload_n 0, 1) := dk_42 (dk_at dksX10_one_7 9 rfl rfl)
theorem dX10_one_170 : decode cX10_one 170 = .ok (.invokevirtual 238, 3) := dk_182 0 238 (dk_at dksX10_one_7 10 rfl rfl)
theorem dX10_one_173 : decode cX10_one 173 = .ok (.istore_n 2, 1) := dk_61 (dk_at dksX10_one_7 13 rfl rfl)
theorem dX10_one_174 : decode cX10_one 174 = .ok (.iload_n 2, 1) := dk_28 (dk_at dksX10_one_7 14 rfl rfl)
theorem dX10_one_175 : decode cX10_one 175 = .ok (.iconst (-1), 1) := dk_2 (dk_at dksX10_one_7 15 rfl rfl)
theorem dX10_one_176 : decode cX10_one 176 = .ok (.if_icmp .eq 12, 3) := dk_159 0 12 (dk_at dksX10_one_7 16 rfl rfl)
theorem dX10_one_179 : decode cX10_one 179 = .ok (.aload_n 0, 1) := dk_42 (dk_at dksX10_one_7 19 rfl rfl)
theorem dX10_one_180 : decode cX10_one 180 = .ok (.iconst 1, 1) := dk_4 (dk_at dksX10_one_7 20 rfl rfl)
theorem dX10_one_181 : decode cX10_one 181 = .ok (.iload_n 2, 1) := dk_28 (dk_at dksX10_one_7 21 rfl rfl)
theorem dX10_one_182 : decode cX10_one 182 = .ok (.invokevirtual 219, 3) := dk_182 0 219 (dk_at dksX10_one_8 0 rfl rfl)
theorem dX10_one_185 : decode cX10_one 185 = .ok (.goto 16, 3) := dk_167 0 16 (dk_at dksX10_one_8 3 rfl rfl)
theorem dX10_one_188 : decode cX10_one 188 = .ok (.aload_n 0, 1) := dk_42 (dk_at dksX10_one_8 6 rfl rfl)
theorem dX10_one_189 : decode cX10_one 189 = .ok (.iconst 0, 1) := dk_3 (dk_at dksX10_one_8 7 rfl rfl)
theorem dX10_one_190 : decode cX10_one 190 = .ok (.aload_n 0, 1) := dk_42 (dk_at dksX10_one_8 8 rfl rfl)
theorem dX10_one_191 : decode cX10_one 191 = .ok (.iconst 0, 1) := dk_3 (dk_at dksX10_one_8 9 rfl rfl)
theorem dX10_one_192 : decode cX10_one 192 = .ok (.sipush 999, 3) := dk_17 3 231 (dk_at dksX10_one_8 10 rfl rfl)
theorem dX10_one_195 : decode cX10_one 195 = .ok (.invokevirtual 166, 3) := dk_182 0 166 (dk_at dksX10_one_8 13 rfl rfl)
theorem dX10_one_198 : decode cX10_one 198 = .ok (.invokevirtual 219, 3) := dk_182 0 219 (dk_at dksX10_one_8 16 rfl rfl)
theorem dX10_one_201 : decode cX10_one 201 = .ok (.return_, 1) := dk_177 (dk_at dksX10_one_8 19 rfl rfl)
abbrev cX10_opensOne : ByteArray := prog_32_method_35_code
def yX10_opensOne : MethodName := ⟨RX10, "opensOne", "()Z"⟩
def dkwX10_opensOne_2 : List UInt8 := [180, 0, 114, 154, 0, 7, 4, 167, 0, 4, 3, 172]
abbrev dktX10_opensOne_2 : List UInt8 := dkwX10_opensOne_2 ++ []
def dkwX10_opensOne_1 : List UInt8 := [182, 0, 127, 167, 0, 20, 42, 180, 0, 114, 154, 0, 13, 42, 89, 180, 0, 157, 4, 96, 181, 0, 157, 42]
abbrev dktX10_opensOne_1 : List UInt8 := dkwX10_opensOne_1 ++ dktX10_opensOne_2
def dkwX10_opensOne_0 : List UInt8 := [42, 180, 0, 114, 154, 0, 24, 42, 180, 0, 157, 16, 6, 160, 0, 15, 42, 6, 42, 180, 0, 107]
abbrev dktX10_opensOne_0 : List UInt8 := dkwX10_opensOne_0 ++ dktX10_opensOne_1
theorem dksX10_opensOne_0 : cX10_opensOne.data.toList.drop 0 = dktX10_opensOne_0 := by decide +kernel
theorem dksX10_opensOne_1 : cX10_opensOne.data.toList.drop 22 = dktX10_opensOne_1 := dk_seg dksX10_opensOne_0 22 rfl rfl
theorem dksX10_opensOne_2 : cX10_opensOne.data.toList.drop 46 = dktX10_opensOne_2 := dk_seg dksX10_opensOne_1 24 rfl rfl
theorem dX10_opensOne_0 : decode cX10_opensOne 0 = .ok (.aload_n 0, 1) := dk_42 (dk_at dksX10_opensOne_0 0 rfl rfl)
theorem dX10_opensOne_1 : decode cX10_opensOne 1 = .ok (.getfield 114, 3) := dk_180 0 114 (dk_at dksX10_opensOne_0 1 rfl rfl)
theorem dX10_opensOne_4 : decode cX10_opensOne 4 = .ok (.ifCond .ne 24, 3) := dk_154 0 24 (dk_at dksX10_opensOne_0 4 rfl rfl)
theorem dX10_opensOne_7 : decode cX10_opensOne 7 = .ok (.aload_n 0, 1) := dk_42 (dk_at dksX10_opensOne_0 7 rfl rfl)
theorem dX10_opensOne_8 : decode cX10_opensOne 8 = .ok (.getfield 157, 3) := dk_180 0 157 (dk_at dksX10_opensOne_0 8 rfl rfl)
theorem dX10_opensOne_11 : decode cX10_opensOne 11 = .ok (.bipush 6, 2) := dk_16 6 (dk_at dksX10_opensOne_0 11 rfl rfl)
theorem dX10_opensOne_13 : decode cX10_opensOne 13 = .ok (.if_icmp .ne 15, 3) := dk_160 0 15 (dk_at dksX10_opensOne_0 13 rfl rfl)
theorem dX10_opensOne_16 : decode cX10_opensOne 16 = .ok (.aload_n 0, 1) := dk_42 (dk_at dksX10_opensOne_0 16 rfl rfl)
theorem dX10_opensOne_17 : decode cX10_opensOne 17 = .ok (.iconst 3, 1) := dk_6 (dk_at dksX10_opensOne_0 17 rfl rfl)
theorem dX10_opensOne_18 : decode cX10_opensOne 18 = .ok (.aload_n 0, 1) := dk_42 (dk_at dksX10_opensOne_0 18 rfl rfl)
theorem dX10_opensOne_19 : decode cX10_opensOne 19 = .ok (.getfield 107, 3) := dk_180 0 107 (dk_at dksX10_opensOne_0 19 rfl rfl)
theorem dX10_opensOne_22 : decode cX10_opensOne 22 = .ok (.invokevirtual 127, 3) := dk_182 0 127 (dk_at dksX10_opensOne_1 0 rfl rfl)
theorem dX10_opensOne_25 : decode cX10_opensOne 25 = .ok (.goto 20, 3) := dk_167 0 20 (dk_at dksX10_opensOne_1 3 rfl rfl)
theorem dX10_opensOne_28 : decode cX10_opensOne 28 = .ok (.aload_n 0, 1) := dk_42 (dk_at dksX10_opensOne_1 6 rfl rfl)
theorem dX10_opensOne_29 : decode cX10_opensOne 29 = .ok (.getfield 114, 3) := dk_180 0 114 (dk_at dksX10_opensOne_1 7 rfl rfl)
theorem dX10_opensOne_32 : decode cX10_opensOne 32 = .ok (.ifCond .ne 13, 3) := dk_154 0 13 (dk_at dksX10_opensOne_1 10 rfl rfl)
theorem dX10_opensOne_35 : decode cX10_opensOne 35 = .ok (.aload_n 0, 1) := dk_42 (dk_at dksX10_opensOne_1 13 rfl rfl)
theorem dX10_opensOne_36 : decode cX10_opensOne 36 = .ok (.dup, 1) := dk_89 (dk_at dksX10_opensOne_1 14 rfl rfl)
theorem dX10_opensOne_37 : decode cX10_opensOne 37 = .ok (.getfield 157, 3) := dk_180 0 157 (dk_at dksX10_opensOne_1 15 rfl rfl)
theorem dX10_opensOne_40 : decode cX10_opensOne 40 = .ok (.iconst 1, 1) := dk_4 (dk_at dksX10_opensOne_1 18 rfl rfl)
theorem dX10_opensOne_41 : decode cX10_opensOne 41 = .ok (.iadd, 1) := dk_96 (dk_at dksX10_opensOne_1 19 rfl rfl)
theorem dX10_opensOne_42 : decode cX10_opensOne 42 = .ok (.putfield 157, 3) := dk_181 0 157 (dk_at dksX10_opensOne_1 20 rfl rfl)
theorem dX10_opensOne_45 : decode cX10_opensOne 45 = .ok (.aload_n 0, 1) := dk_42 (dk_at dksX10_opensOne_1 23 rfl rfl)
theorem dX10_opensOne_46 : decode cX10_opensOne 46 = .ok (.getfield 114, 3) := dk_180 0 114 (dk_at dksX10_opensOne_2 0 rfl rfl)
theorem dX10_opensOne_49 : decode cX10_opensOne 49 = .ok (.ifCond .ne 7, 3) := dk_154 0 7 (dk_at dksX10_opensOne_2 3 rfl rfl)
theorem dX10_opensOne_52 : decode cX10_opensOne 52 = .ok (.iconst 1, 1) := dk_4 (dk_at dksX10_opensOne_2 6 rfl rfl)
theorem dX10_opensOne_53 : decode cX10_opensOne 53 = .ok (.goto 4, 3) := dk_167 0 4 (dk_at dksX10_opensOne_2 7 rfl rfl)
theorem dX10_opensOne_56 : decode cX10_opensOne 56 = .ok (.iconst 0, 1) := dk_3 (dk_at dksX10_opensOne_2 10 rfl rfl)
theorem dX10_opensOne_57 : decode cX10_opensOne 57 = .ok (.ireturn, 1) := dk_172 (dk_at dksX10_opensOne_2 11 rfl rfl)
abbrev cX10_notes : ByteArray := prog_32_method_34_code
def yX10_notes : MethodName := ⟨RX10, "notes", "(II)V"⟩
def dkwX10_notes_1 : List UInt8 := [42, 180, 0, 210, 50, 4, 28, 79, 42, 89, 180, 0, 210, 4, 96, 181, 0, 210, 177]
abbrev dktX10_notes_1 : List UInt8 := dkwX10_notes_1 ++ []
def dkwX10_notes_0 : List UInt8 := [42, 180, 0, 114, 153, 0, 4, 177, 42, 180, 0, 49, 42, 180, 0, 210, 50, 3, 27, 79, 42, 180, 0, 49]
abbrev dktX10_notes_0 : List UInt8 := dkwX10_notes_0 ++ dktX10_notes_1
theorem dksX10_notes_0 : cX10_notes.data.toList.drop 0 = dktX10_notes_0 := by decide +kernel
theorem dksX10_notes_1 : cX10_notes.data.toList.drop 24 = dktX10_notes_1 := dk_seg dksX10_notes_0 24 rfl rfl
theorem dX10_notes_0 : decode cX10_notes 0 = .ok (.aload_n 0, 1) := dk_42 (dk_at dksX10_notes_0 0 rfl rfl)
theorem dX10_notes_1 : decode cX10_notes 1 = .ok (.getfield 114, 3) := dk_180 0 114 (dk_at dksX10_notes_0 1 rfl rfl)
theorem dX10_notes_4 : decode cX10_notes 4 = .ok (.ifCond .eq 4, 3) := dk_153 0 4 (dk_at dksX10_notes_0 4 rfl rfl)
theorem dX10_notes_7 : decode cX10_notes 7 = .ok (.return_, 1) := dk_177 (dk_at dksX10_notes_0 7 rfl rfl)
theorem dX10_notes_8 : decode cX10_notes 8 = .ok (.aload_n 0, 1) := dk_42 (dk_at dksX10_notes_0 8 rfl rfl)
theorem dX10_notes_9 : decode cX10_notes 9 = .ok (.getfield 49, 3) := dk_180 0 49 (dk_at dksX10_notes_0 9 rfl rfl)
theorem dX10_notes_12 : decode cX10_notes 12 = .ok (.aload_n 0, 1) := dk_42 (dk_at dksX10_notes_0 12 rfl rfl)
theorem dX10_notes_13 : decode cX10_notes 13 = .ok (.getfield 210, 3) := dk_180 0 210 (dk_at dksX10_notes_0 13 rfl rfl)
theorem dX10_notes_16 : decode cX10_notes 16 = .ok (.aaload, 1) := dk_50 (dk_at dksX10_notes_0 16 rfl rfl)
theorem dX10_notes_17 : decode cX10_notes 17 = .ok (.iconst 0, 1) := dk_3 (dk_at dksX10_notes_0 17 rfl rfl)
theorem dX10_notes_18 : decode cX10_notes 18 = .ok (.iload_n 1, 1) := dk_27 (dk_at dksX10_notes_0 18 rfl rfl)
theorem dX10_notes_19 : decode cX10_notes 19 = .ok (.iastore, 1) := dk_79 (dk_at dksX10_notes_0 19 rfl rfl)
theorem dX10_notes_20 : decode cX10_notes 20 = .ok (.aload_n 0, 1) := dk_42 (dk_at dksX10_notes_0 20 rfl rfl)
theorem dX10_notes_21 : decode cX10_notes 21 = .ok (.getfield 49, 3) := dk_180 0 49 (dk_at dksX10_notes_0 21 rfl rfl)
theorem dX10_notes_24 : decode cX10_notes 24 = .ok (.aload_n 0, 1) := dk_42 (dk_at dksX10_notes_1 0 rfl rfl)
theorem dX10_notes_25 : decode cX10_notes 25 = .ok (.getfield 210, 3) := dk_180 0 210 (dk_at dksX10_notes_1 1 rfl rfl)
theorem dX10_notes_28 : decode cX10_notes 28 = .ok (.aaload, 1) := dk_50 (dk_at dksX10_notes_1 4 rfl rfl)
theorem dX10_notes_29 : decode cX10_notes 29 = .ok (.iconst 1, 1) := dk_4 (dk_at dksX10_notes_1 5 rfl rfl)
theorem dX10_notes_30 : decode cX10_notes 30 = .ok (.iload_n 2, 1) := dk_28 (dk_at dksX10_notes_1 6 rfl rfl)
theorem dX10_notes_31 : decode cX10_notes 31 = .ok (.iastore, 1) := dk_79 (dk_at dksX10_notes_1 7 rfl rfl)
theorem dX10_notes_32 : decode cX10_notes 32 = .ok (.aload_n 0, 1) := dk_42 (dk_at dksX10_notes_1 8 rfl rfl)
theorem dX10_notes_33 : decode cX10_notes 33 = .ok (.dup, 1) := dk_89 (dk_at dksX10_notes_1 9 rfl rfl)
theorem dX10_notes_34 : decode cX10_notes 34 = .ok (.getfield 210, 3) := dk_180 0 210 (dk_at dksX10_notes_1 10 rfl rfl)
theorem dX10_notes_37 : decode cX10_notes 37 = .ok (.iconst 1, 1) := dk_4 (dk_at dksX10_notes_1 13 rfl rfl)
theorem dX10_notes_38 : decode cX10_notes 38 = .ok (.iadd, 1) := dk_96 (dk_at dksX10_notes_1 14 rfl rfl)
theorem dX10_notes_39 : decode cX10_notes 39 = .ok (.putfield 210, 3) := dk_181 0 210 (dk_at dksX10_notes_1 15 rfl rfl)
theorem dX10_notes_42 : decode cX10_notes 42 = .ok (.return_, 1) := dk_177 (dk_at dksX10_notes_1 18 rfl rfl)
abbrev cX10_knownHere : ByteArray := prog_32_method_38_code
def yX10_knownHere : MethodName := ⟨RX10, "knownHere", "()I"⟩
def dkwX10_knownHere_8 : List UInt8 := [16, 14, 182, 0, 225, 153, 0, 8, 16, 9, 167, 0, 4, 2, 172]
abbrev dktX10_knownHere_8 : List UInt8 := dkwX10_knownHere_8 ++ []
def dkwX10_knownHere_7 : List UInt8 := [16, 25, 3, 3, 3, 182, 0, 225, 153, 0, 6, 16, 8, 172, 42, 16, 16, 8, 16, 18, 16, 19, 16, 15]
abbrev dktX10_knownHere_7 : List UInt8 := dkwX10_knownHere_7 ++ dktX10_knownHere_8
def dkwX10_knownHere_6 : List UInt8 := [16, 20, 16, 8, 16, 9, 16, 18, 16, 19, 16, 20, 182, 0, 225, 153, 0, 6, 16, 7, 172, 42, 7, 4]
abbrev dktX10_knownHere_6 : List UInt8 := dkwX10_knownHere_6 ++ dktX10_knownHere_7
def dkwX10_knownHere_5 : List UInt8 := [153, 0, 5, 8, 172, 42, 16, 14, 8, 4, 16, 18, 3, 3, 182, 0, 225, 153, 0, 6, 16, 6, 172, 42]
abbrev dktX10_knownHere_5 : List UInt8 := dkwX10_knownHere_5 ++ dktX10_knownHere_6
def dkwX10_knownHere_4 : List UInt8 := [182, 0, 228, 153, 0, 5, 7, 172, 42, 16, 7, 16, 18, 16, 9, 8, 16, 6, 3, 182, 0, 225]
abbrev dktX10_knownHere_4 : List UInt8 := dkwX10_knownHere_4 ++ dktX10_knownHere_5
def dkwX10_knownHere_3 : List UInt8 := [182, 0, 225, 153, 0, 5, 6, 172, 42, 7, 16, 9, 16, 13, 16, 16, 16, 12, 8, 184, 0, 143, 16, 115]
abbrev dktX10_knownHere_3 : List UInt8 := dkwX10_knownHere_3 ++ dktX10_knownHere_4
def dkwX10_knownHere_2 : List UInt8 := [16, 14, 3, 3, 182, 0, 225, 153, 0, 5, 5, 172, 42, 16, 20, 16, 15, 16, 12, 7, 3, 3]
abbrev dktX10_knownHere_2 : List UInt8 := dkwX10_knownHere_2 ++ dktX10_knownHere_3
def dkwX10_knownHere_1 : List UInt8 := [16, 16, 4, 16, 18, 16, 20, 3, 182, 0, 225, 153, 0, 5, 4, 172, 42, 16, 23, 16, 15, 16, 18]
abbrev dktX10_knownHere_1 : List UInt8 := dkwX10_knownHere_1 ++ dktX10_knownHere_2
def dkwX10_knownHere_0 : List UInt8 := [42, 16, 19, 16, 20, 16, 18, 16, 15, 16, 14, 16, 7, 182, 0, 225, 153, 0, 5, 3, 172, 42, 4]
abbrev dktX10_knownHere_0 : List UInt8 := dkwX10_knownHere_0 ++ dktX10_knownHere_1
theorem dksX10_knownHere_0 : cX10_knownHere.data.toList.drop 0 = dktX10_knownHere_0 := by decide +kernel
theorem dksX10_knownHere_1 : cX10_knownHere.data.toList.drop 23 = dktX10_knownHere_1 := dk_seg dksX10_knownHere_0 23 rfl rfl
theorem dksX10_knownHere_2 : cX10_knownHere.data.toList.drop 46 = dktX10_knownHere_2 := dk_seg dksX10_knownHere_1 23 rfl rfl
theorem dksX10_knownHere_3 : cX10_knownHere.data.toList.drop 68 = dktX10_knownHere_3 := dk_seg dksX10_knownHere_2 22 rfl rfl
theorem dksX10_knownHere_4 : cX10_knownHere.data.toList.drop 92 = dktX10_knownHere_4 := dk_seg dksX10_knownHere_3 24 rfl rfl
theorem dksX10_knownHere_5 : cX10_knownHere.data.toList.drop 114 = dktX10_knownHere_5 := dk_seg dksX10_knownHere_4 22 rfl rfl
theorem dksX10_knownHere_6 : cX10_knownHere.data.toList.drop 138 = dktX10_knownHere_6 := dk_seg dksX10_knownHere_5 24 rfl rfl
theorem dksX10_knownHere_7 : cX10_knownHere.data.toList.drop 162 = dktX10_knownHere_7 := dk_seg dksX10_knownHere_6 24 rfl rfl
theorem dksX10_knownHere_8 : cX10_knownHere.data.toList.drop 186 = dktX10_knownHere_8 := dk_seg dksX10_knownHere_7 24 rfl rfl
theorem dX10_knownHere_0 : decode cX10_knownHere 0 = .ok (.aload_n 0, 1) := dk_42 (dk_at dksX10_knownHere_0 0 rfl rfl)
theorem dX10_knownHere_1 : decode cX10_knownHere 1 = .ok (.bipush 19, 2) := dk_16 19 (dk_at dksX10_knownHere_0 1 rfl rfl)
theorem dX10_knownHere_3 : decode cX10_knownHere 3 = .ok (.bipush 20, 2) := dk_16 20 (dk_at dksX10_knownHere_0 3 rfl rfl)
theorem dX10_knownHere_5 : decode cX10_knownHere 5 = .ok (.bipush 18, 2) := dk_16 18 (dk_at dksX10_knownHere_0 5 rfl rfl)
theorem dX10_knownHere_7 : decode cX10_knownHere 7 = .ok (.bipush 15, 2) := dk_16 15 (dk_at dksX10_knownHere_0 7 rfl rfl)
theorem dX10_knownHere_9 : decode cX10_knownHere 9 = .ok (.bipush 14, 2) := dk_16 14 (dk_at dksX10_knownHere_0 9 rfl rfl)
theorem dX10_knownHere_11 : decode cX10_knownHere 11 = .ok (.bipush 7, 2) := dk_16 7 (dk_at dksX10_knownHere_0 11 rfl rfl)
theorem dX10_knownHere_13 : decode cX10_knownHere 13 = .ok (.invokevirtual 225, 3) := dk_182 0 225 (dk_at dksX10_knownHere_0 13 rfl rfl)
theorem dX10_knownHere_16 : decode cX10_knownHere 16 = .ok (.ifCond .eq 5, 3) := dk_153 0 5 (dk_at dksX10_knownHere_0 16 rfl rfl)
theorem dX10_knownHere_19 : decode cX10_knownHere 19 = .ok (.iconst 0, 1) := dk_3 (dk_at dksX10_knownHere_0 19 rfl rfl)
theorem dX10_knownHere_20 : decode cX10_knownHere 20 = .ok (.ireturn, 1) := dk_172 (dk_at dksX10_knownHere_0 20 rfl rfl)
theorem dX10_knownHere_21 : decode cX10_knownHere 21 = .ok (.aload_n 0, 1) := dk_42 (dk_at dksX10_knownHere_0 21 rfl rfl)
theorem dX10_knownHere_22 : decode cX10_knownHere 22 = .ok (.iconst 1, 1) := dk_4 (dk_at dksX10_knownHere_0 22 rfl rfl)
theorem dX10_knownHere_23 : decode cX10_knownHere 23 = .ok (.bipush 16, 2) := dk_16 16 (dk_at dksX10_knownHere_1 0 rfl rfl)
theorem dX10_knownHere_25 : decode cX10_knownHere 25 = .ok (.iconst 1, 1) := dk_4 (dk_at dksX10_knownHere_1 2 rfl rfl)
theorem dX10_knownHere_26 : decode cX10_knownHere 26 = .ok (.bipush 18, 2) := dk_16 18 (dk_at dksX10_knownHere_1 3 rfl rfl)
theorem dX10_knownHere_28 : decode cX10_knownHere 28 = .ok (.bipush 20, 2) := dk_16 20 (dk_at dksX10_knownHere_1 5 rfl rfl)
theorem dX10_knownHere_30 : decode cX10_knownHere 30 = .ok (.iconst 0, 1) := dk_3 (dk_at dksX10_knownHere_1 7 rfl rfl)
theorem dX10_knownHere_31 : decode cX10_knownHere 31 = .ok (.invokevirtual 225, 3) := dk_182 0 225 (dk_at dksX10_knownHere_1 8 rfl rfl)
theorem dX10_knownHere_34 : decode cX10_knownHere 34 = .ok (.ifCond .eq 5, 3) := dk_153 0 5 (dk_at dksX10_knownHere_1 11 rfl rfl)
theorem dX10_knownHere_37 : decode cX10_knownHere 37 = .ok (.iconst 1, 1) := dk_4 (dk_at dksX10_knownHere_1 14 rfl rfl)
theorem dX10_knownHere_38 : decode cX10_knownHere 38 = .ok (.ireturn, 1) := dk_172 (dk_at dksX10_knownHere_1 15 rfl rfl)
theorem dX10_knownHere_39 : decode cX10_knownHere 39 = .ok (.aload_n 0, 1) := dk_42 (dk_at dksX10_knownHere_1 16 rfl rfl)
theorem dX10_knownHere_40 : decode cX10_knownHere 40 = .ok (.bipush 23, 2) := dk_16 23 (dk_at dksX10_knownHere_1 17 rfl rfl)
theorem dX10_knownHere_42 : decode cX10_knownHere 42 = .ok (.bipush 15, 2) := dk_16 15 (dk_at dksX10_knownHere_1 19 rfl rfl)
theorem dX10_knownHere_44 : decode cX10_knownHere 44 = .ok (.bipush 18, 2) := dk_16 18 (dk_at dksX10_knownHere_1 21 rfl rfl)
theorem dX10_knownHere_46 : decode cX10_knownHere 46 = .ok (.bipush 14, 2) := dk_16 14 (dk_at dksX10_knownHere_2 0 rfl rfl)
theorem dX10_knownHere_48 : decode cX10_knownHere 48 = .ok (.iconst 0, 1) := dk_3 (dk_at dksX10_knownHere_2 2 rfl rfl)
theorem dX10_knownHere_49 : decode cX10_knownHere 49 = .ok (.iconst 0, 1) := dk_3 (dk_at dksX10_knownHere_2 3 rfl rfl)
theorem dX10_knownHere_50 : decode cX10_knownHere 50 = .ok (.invokevirtual 225, 3) := dk_182 0 225 (dk_at dksX10_knownHere_2 4 rfl rfl)
theorem dX10_knownHere_53 : decode cX10_knownHere 53 = .ok (.ifCond .eq 5, 3) := dk_153 0 5 (dk_at dksX10_knownHere_2 7 rfl rfl)
theorem dX10_knownHere_56 : decode cX10_knownHere 56 = .ok (.iconst 2, 1) := dk_5 (dk_at dksX10_knownHere_2 10 rfl rfl)
theorem dX10_knownHere_57 : decode cX10_knownHere 57 = .ok (.ireturn, 1) := dk_172 (dk_at dksX10_knownHere_2 11 rfl rfl)
theorem dX10_knownHere_58 : decode cX10_knownHere 58 = .ok (.aload_n 0, 1) := dk_42 (dk_at dksX10_knownHere_2 12 rfl rfl)
theorem dX10_knownHere_59 : decode cX10_knownHere 59 = .ok (.bipush 20, 2) := dk_16 20 (dk_at dksX10_knownHere_2 13 rfl rfl)
theorem dX10_knownHere_61 : decode cX10_knownHere 61 = .ok (.bipush 15, 2) := dk_16 15 (dk_at dksX10_knownHere_2 15 rfl rfl)
theorem dX10_knownHere_63 : decode cX10_knownHere 63 = .ok (.bipush 12, 2) := dk_16 12 (dk_at dksX10_knownHere_2 17 rfl rfl)
theorem dX10_knownHere_65 : decode cX10_knownHere 65 = .ok (.iconst 4, 1) := dk_7 (dk_at dksX10_knownHere_2 19 rfl rfl)
theorem dX10_knownHere_66 : decode cX10_knownHere 66 = .ok (.iconst 0, 1) := dk_3 (dk_at dksX10_knownHere_2 20 rfl rfl)
theorem dX10_knownHere_67 : decode cX10_knownHere 67 = .ok (.iconst 0, 1) := dk_3 (dk_at dksX10_knownHere_2 21 rfl rfl)
theorem dX10_knownHere_68 : decode cX10_knownHere 68 = .ok (.invokevirtual 225, 3) := dk_182 0 225 (dk_at dksX10_knownHere_3 0 rfl rfl)
theorem dX10_knownHere_71 : decode cX10_knownHere 71 = .ok (.ifCond .eq 5, 3) := dk_153 0 5 (dk_at dksX10_knownHere_3 3 rfl rfl)
theorem dX10_knownHere_74 : decode cX10_knownHere 74 = .ok (.iconst 3, 1) := dk_6 (dk_at dksX10_knownHere_3 6 rfl rfl)
theorem dX10_knownHere_75 : decode cX10_knownHere 75 = .ok (.ireturn, 1) := dk_172 (dk_at dksX10_knownHere_3 7 rfl rfl)
theorem dX10_knownHere_76 : decode cX10_knownHere 76 = .ok (.aload_n 0, 1) := dk_42 (dk_at dksX10_knownHere_3 8 rfl rfl)
theorem dX10_knownHere_77 : decode cX10_knownHere 77 = .ok (.iconst 4, 1) := dk_7 (dk_at dksX10_knownHere_3 9 rfl rfl)
theorem dX10_knownHere_78 : decode cX10_knownHere 78 = .ok (.bipush 9, 2) := dk_16 9 (dk_at dksX10_knownHere_3 10 rfl rfl)
theorem dX10_knownHere_80 : decode cX10_knownHere 80 = .ok (.bipush 13, 2) := dk_16 13 (dk_at dksX10_knownHere_3 12 rfl rfl)
theorem dX10_knownHere_82 : decode cX10_knownHere 82 = .ok (.bipush 16, 2) := dk_16 16 (dk_at dksX10_knownHere_3 14 rfl rfl)
theorem dX10_knownHere_84 : decode cX10_knownHere 84 = .ok (.bipush 12, 2) := dk_16 12 (dk_at dksX10_knownHere_3 16 rfl rfl)
theorem dX10_knownHere_86 : decode cX10_knownHere 86 = .ok (.iconst 5, 1) := dk_8 (dk_at dksX10_knownHere_3 18 rfl rfl)
theorem dX10_knownHere_87 : decode cX10_knownHere 87 = .ok (.invokestatic 143, 3) := dk_184 0 143 (dk_at dksX10_knownHere_3 19 rfl rfl)
theorem dX10_knownHere_90 : decode cX10_knownHere 90 = .ok (.bipush 115, 2) := dk_16 115 (dk_at dksX10_knownHere_3 22 rfl rfl)
theorem dX10_knownHere_92 : decode cX10_knownHere 92 = .ok (.invokevirtual 228, 3) := dk_182 0 228 (dk_at dksX10_knownHere_4 0 rfl rfl)
theorem dX10_knownHere_95 : decode cX10_knownHere 95 = .ok (.ifCond .eq 5, 3) := dk_153 0 5 (dk_at dksX10_knownHere_4 3 rfl rfl)
theorem dX10_knownHere_98 : decode cX10_knownHere 98 = .ok (.iconst 4, 1) := dk_7 (dk_at dksX10_knownHere_4 6 rfl rfl)
theorem dX10_knownHere_99 : decode cX10_knownHere 99 = .ok (.ireturn, 1) := dk_172 (dk_at dksX10_knownHere_4 7 rfl rfl)
theorem dX10_knownHere_100 : decode cX10_knownHere 100 = .ok (.aload_n 0, 1) := dk_42 (dk_at dksX10_knownHere_4 8 rfl rfl)
theorem dX10_knownHere_101 : decode cX10_knownHere 101 = .ok (.bipush 7, 2) := dk_16 7 (dk_at dksX10_knownHere_4 9 rfl rfl)
theorem dX10_knownHere_103 : decode cX10_knownHere 103 = .ok (.bipush 18, 2) := dk_16 18 (dk_at dksX10_knownHere_4 11 rfl rfl)
theorem dX10_knownHere_105 : decode cX10_knownHere 105 = .ok (.bipush 9, 2) := dk_16 9 (dk_at dksX10_knownHere_4 13 rfl rfl)
theorem dX10_knownHere_107 : decode cX10_knownHere 107 = .ok (.iconst 5, 1) := dk_8 (dk_at dksX10_knownHere_4 15 rfl rfl)
theorem dX10_knownHere_108 : decode cX10_knownHere 108 = .ok (.bipush 6, 2) := dk_16 6 (dk_at dksX10_knownHere_4 16 rfl rfl)
theorem dX10_knownHere_110 : decode cX10_knownHere 110 = .ok (.iconst 0, 1) := dk_3 (dk_at dksX10_knownHere_4 18 rfl rfl)
theorem dX10_knownHere_111 : decode cX10_knownHere 111 = .ok (.invokevirtual 225, 3) := dk_182 0 225 (dk_at dksX10_knownHere_4 19 rfl rfl)
theorem dX10_knownHere_114 : decode cX10_knownHere 114 = .ok (.ifCond .eq 5, 3) := dk_153 0 5 (dk_at dksX10_knownHere_5 0 rfl rfl)
theorem dX10_knownHere_117 : decode cX10_knownHere 117 = .ok (.iconst 5, 1) := dk_8 (dk_at dksX10_knownHere_5 3 rfl rfl)
theorem dX10_knownHere_118 : decode cX10_knownHere 118 = .ok (.ireturn, 1) := dk_172 (dk_at dksX10_knownHere_5 4 rfl rfl)
theorem dX10_knownHere_119 : decode cX10_knownHere 119 = .ok (.aload_n 0, 1) := dk_42 (dk_at dksX10_knownHere_5 5 rfl rfl)
theorem dX10_knownHere_120 : decode cX10_knownHere 120 = .ok (.bipush 14, 2) := dk_16 14 (dk_at dksX10_knownHere_5 6 rfl rfl)
theorem dX10_knownHere_122 : decode cX10_knownHere 122 = .ok (.iconst 5, 1) := dk_8 (dk_at dksX10_knownHere_5 8 rfl rfl)
theorem dX10_knownHere_123 : decode cX10_knownHere 123 = .ok (.iconst 1, 1) := dk_4 (dk_at dksX10_knownHere_5 9 rfl rfl)
theorem dX10_knownHere_124 : decode cX10_knownHere 124 = .ok (.bipush 18, 2) := dk_16 18 (dk_at dksX10_knownHere_5 10 rfl rfl)
theorem dX10_knownHere_126 : decode cX10_knownHere 126 = .ok (.iconst 0, 1) := dk_3 (dk_at dksX10_knownHere_5 12 rfl rfl)
theorem dX10_knownHere_127 : decode cX10_knownHere 127 = .ok (.iconst 0, 1) := dk_3 (dk_at dksX10_knownHere_5 13 rfl rfl)
theorem dX10_knownHere_128 : decode cX10_knownHere 128 = .ok (.invokevirtual 225, 3) := dk_182 0 225 (dk_at dksX10_knownHere_5 14 rfl rfl)
theorem dX10_knownHere_131 : decode cX10_knownHere 131 = .ok (.ifCond .eq 6, 3) := dk_153 0 6 (dk_at dksX10_knownHere_5 17 rfl rfl)
theorem dX10_knownHere_134 : decode cX10_knownHere 134 = .ok (.bipush 6, 2) := dk_16 6 (dk_at dksX10_knownHere_5 20 rfl rfl)
theorem dX10_knownHere_136 : decode cX10_knownHere 136 = .ok (.ireturn, 1) := dk_172 (dk_at dksX10_knownHere_5 22 rfl rfl)
theorem dX10_knownHere_137 : decode cX10_knownHere 137 = .ok (.aload_n 0, 1) := dk_42 (dk_at dksX10_knownHere_5 23 rfl rfl)
theorem dX10_knownHere_138 : decode cX10_knownHere 138 = .ok (.bipush 20, 2) := dk_16 20 (dk_at dksX10_knownHere_6 0 rfl rfl)
theorem dX10_knownHere_140 : decode cX10_knownHere 140 = .ok (.bipush 8, 2) := dk_16 8 (dk_at dksX10_knownHere_6 2 rfl rfl)
theorem dX10_knownHere_142 : decode cX10_knownHere 142 = .ok (.bipush 9, 2) := dk_16 9 (dk_at dksX10_knownHere_6 4 rfl rfl)
theorem dX10_knownHere_144 : decode cX10_knownHere 144 = .ok (.bipush 18, 2) := dk_16 18 (dk_at dksX10_knownHere_6 6 rfl rfl)
theorem dX10_knownHere_146 : decode cX10_knownHere 146 = .ok (.bipush 19, 2) := dk_16 19 (dk_at dksX10_knownHere_6 8 rfl rfl)
theorem dX10_knownHere_148 : decode cX10_knownHere 148 = .ok (.bipush 20, 2) := dk_16 20 (dk_at dksX10_knownHere_6 10 rfl rfl)
theorem dX10_knownHere_150 : decode cX10_knownHere 150 = .ok (.invokevirtual 225, 3) := dk_182 0 225 (dk_at dksX10_knownHere_6 12 rfl rfl)
theorem dX10_knownHere_153 : decode cX10_knownHere 153 = .ok (.ifCond .eq 6, 3) := dk_153 0 6 (dk_at dksX10_knownHere_6 15 rfl rfl)
theorem dX10_knownHere_156 : decode cX10_knownHere 156 = .ok (.bipush 7, 2) := dk_16 7 (dk_at dksX10_knownHere_6 18 rfl rfl)
theorem dX10_knownHere_158 : decode cX10_knownHere 158 = .ok (.ireturn, 1) := dk_172 (dk_at dksX10_knownHere_6 20 rfl rfl)
theorem dX10_knownHere_159 : decode cX10_knownHere 159 = .ok (.aload_n 0, 1) := dk_42 (dk_at dksX10_knownHere_6 21 rfl rfl)
theorem dX10_knownHere_160 : decode cX10_knownHere 160 = .ok (.iconst 4, 1) := dk_7 (dk_at dksX10_knownHere_6 22 rfl rfl)
theorem dX10_knownHere_161 : decode cX10_knownHere 161 = .ok (.iconst 1, 1) := dk_4 (dk_at dksX10_knownHere_6 23 rfl rfl)
theorem dX10_knownHere_162 : decode cX10_knownHere 162 = .ok (.bipush 25, 2) := dk_16 25 (dk_at dksX10_knownHere_7 0 rfl rfl)
theorem dX10_knownHere_164 : decode cX10_knownHere 164 = .ok (.iconst 0, 1) := dk_3 (dk_at dksX10_knownHere_7 2 rfl rfl)
theorem dX10_knownHere_165 : decode cX10_knownHere 165 = .ok (.iconst 0, 1) := dk_3 (dk_at dksX10_knownHere_7 3 rfl rfl)
theorem dX10_knownHere_166 : decode cX10_knownHere 166 = .ok (.iconst 0, 1) := dk_3 (dk_at dksX10_knownHere_7 4 rfl rfl)
theorem dX10_knownHere_167 : decode cX10_knownHere 167 = .ok (.invokevirtual 225, 3) := dk_182 0 225 (dk_at dksX10_knownHere_7 5 rfl rfl)
theorem dX10_knownHere_170 : decode cX10_knownHere 170 = .ok (.ifCond .eq 6, 3) := dk_153 0 6 (dk_at dksX10_knownHere_7 8 rfl rfl)
theorem dX10_knownHere_173 : decode cX10_knownHere 173 = .ok (.bipush 8, 2) := dk_16 8 (dk_at dksX10_knownHere_7 11 rfl rfl)
theorem dX10_knownHere_175 : decode cX10_knownHere 175 = .ok (.ireturn, 1) := dk_172 (dk_at dksX10_knownHere_7 13 rfl rfl)
theorem dX10_knownHere_176 : decode cX10_knownHere 176 = .ok (.aload_n 0, 1) := dk_42 (dk_at dksX10_knownHere_7 14 rfl rfl)
theorem dX10_knownHere_177 : decode cX10_knownHere 177 = .ok (.bipush 16, 2) := dk_16 16 (dk_at dksX10_knownHere_7 15 rfl rfl)
theorem dX10_knownHere_179 : decode cX10_knownHere 179 = .ok (.iconst 5, 1) := dk_8 (dk_at dksX10_knownHere_7 17 rfl rfl)
theorem dX10_knownHere_180 : decode cX10_knownHere 180 = .ok (.bipush 18, 2) := dk_16 18 (dk_at dksX10_knownHere_7 18 rfl rfl)
theorem dX10_knownHere_182 : decode cX10_knownHere 182 = .ok (.bipush 19, 2) := dk_16 19 (dk_at dksX10_knownHere_7 20 rfl rfl)
theorem dX10_knownHere_184 : decode cX10_knownHere 184 = .ok (.bipush 15, 2) := dk_16 15 (dk_at dksX10_knownHere_7 22 rfl rfl)
theorem dX10_knownHere_186 : decode cX10_knownHere 186 = .ok (.bipush 14, 2) := dk_16 14 (dk_at dksX10_knownHere_8 0 rfl rfl)
theorem dX10_knownHere_188 : decode cX10_knownHere 188 = .ok (.invokevirtual 225, 3) := dk_182 0 225 (dk_at dksX10_knownHere_8 2 rfl rfl)
theorem dX10_knownHere_191 : decode cX10_knownHere 191 = .ok (.ifCond .eq 8, 3) := dk_153 0 8 (dk_at dksX10_knownHere_8 5 rfl rfl)
theorem dX10_knownHere_194 : decode cX10_knownHere 194 = .ok (.bipush 9, 2) := dk_16 9 (dk_at dksX10_knownHere_8 8 rfl rfl)
theorem dX10_knownHere_196 : decode cX10_knownHere 196 = .ok (.goto 4, 3) := dk_167 0 4 (dk_at dksX10_knownHere_8 10 rfl rfl)
theorem dX10_knownHere_199 : decode cX10_knownHere 199 = .ok (.iconst (-1), 1) := dk_2 (dk_at dksX10_knownHere_8 13 rfl rfl)
theorem dX10_knownHere_200 : decode cX10_knownHere 200 = .ok (.ireturn, 1) := dk_172 (dk_at dksX10_knownHere_8 14 rfl rfl)
abbrev cX10_takes : ByteArray := prog_32_method_20_code
def yX10_takes : MethodName := ⟨RX10, "takes", "(IIIIII)Z"⟩
def dkwX10_takes_1 : List UInt8 := [21, 7, 172]
abbrev dktX10_takes_1 : List UInt8 := dkwX10_takes_1 ++ []
def dkwX10_takes_0 : List UInt8 := [42, 27, 28, 29, 21, 4, 21, 5, 21, 6, 182, 0, 147, 54, 7, 21, 7, 153, 0, 7, 42, 182, 0, 151]
abbrev dktX10_takes_0 : List UInt8 := dkwX10_takes_0 ++ dktX10_takes_1
theorem dksX10_takes_0 : cX10_takes.data.toList.drop 0 = dktX10_takes_0 := by decide +kernel
theorem dksX10_takes_1 : cX10_takes.data.toList.drop 24 = dktX10_takes_1 := dk_seg dksX10_takes_0 24 rfl rfl
theorem dX10_takes_0 : decode cX10_takes 0 = .ok (.aload_n 0, 1) := dk_42 (dk_at dksX10_takes_0 0 rfl rfl)
theorem dX10_takes_1 : decode cX10_takes 1 = .ok (.iload_n 1, 1) := dk_27 (dk_at dksX10_takes_0 1 rfl rfl)
theorem dX10_takes_2 : decode cX10_takes 2 = .ok (.iload_n 2, 1) := dk_28 (dk_at dksX10_takes_0 2 rfl rfl)
theorem dX10_takes_3 : decode cX10_takes 3 = .ok (.iload_n 3, 1) := dk_29 (dk_at dksX10_takes_0 3 rfl rfl)
theorem dX10_takes_4 : decode cX10_takes 4 = .ok (.iload 4, 2) := dk_21 4 (dk_at dksX10_takes_0 4 rfl rfl)
theorem dX10_takes_6 : decode cX10_takes 6 = .ok (.iload 5, 2) := dk_21 5 (dk_at dksX10_takes_0 6 rfl rfl)
theorem dX10_takes_8 : decode cX10_takes 8 = .ok (.iload 6, 2) := dk_21 6 (dk_at dksX10_takes_0 8 rfl rfl)
theorem dX10_takes_10 : decode cX10_takes 10 = .ok (.invokevirtual 147, 3) := dk_182 0 147 (dk_at dksX10_takes_0 10 rfl rfl)
theorem dX10_takes_13 : decode cX10_takes 13 = .ok (.istore 7, 2) := dk_54 7 (dk_at dksX10_takes_0 13 rfl rfl)
theorem dX10_takes_15 : decode cX10_takes 15 = .ok (.iload 7, 2) := dk_21 7 (dk_at dksX10_takes_0 15 rfl rfl)
theorem dX10_takes_17 : decode cX10_takes 17 = .ok (.ifCond .eq 7, 3) := dk_153 0 7 (dk_at dksX10_takes_0 17 rfl rfl)
theorem dX10_takes_20 : decode cX10_takes 20 = .ok (.aload_n 0, 1) := dk_42 (dk_at dksX10_takes_0 20 rfl rfl)
theorem dX10_takes_21 : decode cX10_takes 21 = .ok (.invokevirtual 151, 3) := dk_182 0 151 (dk_at dksX10_takes_0 21 rfl rfl)
theorem dX10_takes_24 : decode cX10_takes 24 = .ok (.iload 7, 2) := dk_21 7 (dk_at dksX10_takes_1 0 rfl rfl)
theorem dX10_takes_26 : decode cX10_takes 26 = .ok (.ireturn, 1) := dk_172 (dk_at dksX10_takes_1 2 rfl rfl)
abbrev cX10_isSeven : ByteArray := prog_32_method_25_code
def yX10_isSeven : MethodName := ⟨RX10, "isSeven", "(II)Z"⟩
def dkwX10_isSeven_5 : List UInt8 := [21, 5, 172]
abbrev dktX10_isSeven_5 : List UInt8 := dkwX10_isSeven_5 ++ []
def dkwX10_isSeven_4 : List UInt8 := [182, 0, 110, 28, 160, 0, 7, 4, 167, 0, 4, 3, 54, 5, 21, 5, 153, 0, 7, 42, 182, 0, 151]
abbrev dktX10_isSeven_4 : List UInt8 := dkwX10_isSeven_4 ++ dktX10_isSeven_5
def dkwX10_isSeven_3 : List UInt8 := [167, 255, 203, 21, 4, 16, 7, 160, 0, 27, 29, 27, 160, 0, 22, 42, 42, 180, 0, 107, 16, 6, 96]
abbrev dktX10_isSeven_3 : List UInt8 := dkwX10_isSeven_3 ++ dktX10_isSeven_4
def dkwX10_isSeven_2 : List UInt8 := [42, 180, 0, 107, 21, 4, 96, 182, 0, 110, 96, 16, 97, 100, 4, 96, 167, 0, 4, 29, 62, 132, 4, 1]
abbrev dktX10_isSeven_2 : List UInt8 := dkwX10_isSeven_2 ++ dktX10_isSeven_3
def dkwX10_isSeven_1 : List UInt8 := [21, 4, 96, 182, 0, 110, 184, 0, 136, 153, 0, 42, 21, 4, 16, 6, 162, 0, 27, 16, 27, 29, 104, 42]
abbrev dktX10_isSeven_1 : List UInt8 := dkwX10_isSeven_1 ++ dktX10_isSeven_2
def dkwX10_isSeven_0 : List UInt8 := [42, 180, 0, 114, 153, 0, 5, 3, 172, 42, 182, 0, 120, 3, 62, 3, 54, 4, 42, 42, 180, 0, 107]
abbrev dktX10_isSeven_0 : List UInt8 := dkwX10_isSeven_0 ++ dktX10_isSeven_1
theorem dksX10_isSeven_0 : cX10_isSeven.data.toList.drop 0 = dktX10_isSeven_0 := by decide +kernel
theorem dksX10_isSeven_1 : cX10_isSeven.data.toList.drop 23 = dktX10_isSeven_1 := dk_seg dksX10_isSeven_0 23 rfl rfl
theorem dksX10_isSeven_2 : cX10_isSeven.data.toList.drop 47 = dktX10_isSeven_2 := dk_seg dksX10_isSeven_1 24 rfl rfl
theorem dksX10_isSeven_3 : cX10_isSeven.data.toList.drop 71 = dktX10_isSeven_3 := dk_seg dksX10_isSeven_2 24 rfl rfl
theorem dksX10_isSeven_4 : cX10_isSeven.data.toList.drop 94 = dktX10_isSeven_4 := dk_seg dksX10_isSeven_3 23 rfl rfl
theorem dksX10_isSeven_5 : cX10_isSeven.data.toList.drop 117 = dktX10_isSeven_5 := dk_seg dksX10_isSeven_4 23 rfl rfl
theorem dX10_isSeven_0 : decode cX10_isSeven 0 = .ok (.aload_n 0, 1) := dk_42 (dk_at dksX10_isSeven_0 0 rfl rfl)
theorem dX10_isSeven_1 : decode cX10_isSeven 1 = .ok (.getfield 114, 3) := dk_180 0 114 (dk_at dksX10_isSeven_0 1 rfl rfl)
theorem dX10_isSeven_4 : decode cX10_isSeven 4 = .ok (.ifCond .eq 5, 3) := dk_153 0 5 (dk_at dksX10_isSeven_0 4 rfl rfl)
theorem dX10_isSeven_7 : decode cX10_isSeven 7 = .ok (.iconst 0, 1) := dk_3 (dk_at dksX10_isSeven_0 7 rfl rfl)
theorem dX10_isSeven_8 : decode cX10_isSeven 8 = .ok (.ireturn, 1) := dk_172 (dk_at dksX10_isSeven_0 8 rfl rfl)
theorem dX10_isSeven_9 : decode cX10_isSeven 9 = .ok (.aload_n 0, 1) := dk_42 (dk_at dksX10_isSeven_0 9 rfl rfl)
theorem dX10_isSeven_10 : decode cX10_isSeven 10 = .ok (.invokevirtual 120, 3) := dk_182 0 120 (dk_at dksX10_isSeven_0 10 rfl rfl)
theorem dX10_isSeven_13 : decode cX10_isSeven 13 = .ok (.iconst 0, 1) := dk_3 (dk_at dksX10_isSeven_0 13 rfl rfl)
theorem dX10_isSeven_14 : decode cX10_isSeven 14 = .ok (.istore_n 3, 1) := dk_62 (dk_at dksX10_isSeven_0 14 rfl rfl)
theorem dX10_isSeven_15 : decode cX10_isSeven 15 = .ok (.iconst 0, 1) := dk_3 (dk_at dksX10_isSeven_0 15 rfl rfl)
theorem dX10_isSeven_16 : decode cX10_isSeven 16 = .ok (.istore 4, 2) := dk_54 4 (dk_at dksX10_isSeven_0 16 rfl rfl)
theorem dX10_isSeven_18 : decode cX10_isSeven 18 = .ok (.aload_n 0, 1) := dk_42 (dk_at dksX10_isSeven_0 18 rfl rfl)
theorem dX10_isSeven_19 : decode cX10_isSeven 19 = .ok (.aload_n 0, 1) := dk_42 (dk_at dksX10_isSeven_0 19 rfl rfl)
theorem dX10_isSeven_20 : decode cX10_isSeven 20 = .ok (.getfield 107, 3) := dk_180 0 107 (dk_at dksX10_isSeven_0 20 rfl rfl)
theorem dX10_isSeven_23 : decode cX10_isSeven 23 = .ok (.iload 4, 2) := dk_21 4 (dk_at dksX10_isSeven_1 0 rfl rfl)
theorem dX10_isSeven_25 : decode cX10_isSeven 25 = .ok (.iadd, 1) := dk_96 (dk_at dksX10_isSeven_1 2 rfl rfl)
theorem dX10_isSeven_26 : decode cX10_isSeven 26 = .ok (.invokevirtual 110, 3) := dk_182 0 110 (dk_at dksX10_isSeven_1 3 rfl rfl)
theorem dX10_isSeven_29 : decode cX10_isSeven 29 = .ok (.invokestatic 136, 3) := dk_184 0 136 (dk_at dksX10_isSeven_1 6 rfl rfl)
theorem dX10_isSeven_32 : decode cX10_isSeven 32 = .ok (.ifCond .eq 42, 3) := dk_153 0 42 (dk_at dksX10_isSeven_1 9 rfl rfl)
theorem dX10_isSeven_35 : decode cX10_isSeven 35 = .ok (.iload 4, 2) := dk_21 4 (dk_at dksX10_isSeven_1 12 rfl rfl)
theorem dX10_isSeven_37 : decode cX10_isSeven 37 = .ok (.bipush 6, 2) := dk_16 6 (dk_at dksX10_isSeven_1 14 rfl rfl)
theorem dX10_isSeven_39 : decode cX10_isSeven 39 = .ok (.if_icmp .ge 27, 3) := dk_162 0 27 (dk_at dksX10_isSeven_1 16 rfl rfl)
theorem dX10_isSeven_42 : decode cX10_isSeven 42 = .ok (.bipush 27, 2) := dk_16 27 (dk_at dksX10_isSeven_1 19 rfl rfl)
theorem dX10_isSeven_44 : decode cX10_isSeven 44 = .ok (.iload_n 3, 1) := dk_29 (dk_at dksX10_isSeven_1 21 rfl rfl)
theorem dX10_isSeven_45 : decode cX10_isSeven 45 = .ok (.imul, 1) := dk_104 (dk_at dksX10_isSeven_1 22 rfl rfl)
theorem dX10_isSeven_46 : decode cX10_isSeven 46 = .ok (.aload_n 0, 1) := dk_42 (dk_at dksX10_isSeven_1 23 rfl rfl)
theorem dX10_isSeven_47 : decode cX10_isSeven 47 = .ok (.aload_n 0, 1) := dk_42 (dk_at dksX10_isSeven_2 0 rfl rfl)
theorem dX10_isSeven_48 : decode cX10_isSeven 48 = .ok (.getfield 107, 3) := dk_180 0 107 (dk_at dksX10_isSeven_2 1 rfl rfl)
theorem dX10_isSeven_51 : decode cX10_isSeven 51 = .ok (.iload 4, 2) := dk_21 4 (dk_at dksX10_isSeven_2 4 rfl rfl)
theorem dX10_isSeven_53 : decode cX10_isSeven 53 = .ok (.iadd, 1) := dk_96 (dk_at dksX10_isSeven_2 6 rfl rfl)
theorem dX10_isSeven_54 : decode cX10_isSeven 54 = .ok (.invokevirtual 110, 3) := dk_182 0 110 (dk_at dksX10_isSeven_2 7 rfl rfl)
theorem dX10_isSeven_57 : decode cX10_isSeven 57 = .ok (.iadd, 1) := dk_96 (dk_at dksX10_isSeven_2 10 rfl rfl)
theorem dX10_isSeven_58 : decode cX10_isSeven 58 = .ok (.bipush 97, 2) := dk_16 97 (dk_at dksX10_isSeven_2 11 rfl rfl)
theorem dX10_isSeven_60 : decode cX10_isSeven 60 = .ok (.isub, 1) := dk_100 (dk_at dksX10_isSeven_2 13 rfl rfl)
theorem dX10_isSeven_61 : decode cX10_isSeven 61 = .ok (.iconst 1, 1) := dk_4 (dk_at dksX10_isSeven_2 14 rfl rfl)
theorem dX10_isSeven_62 : decode cX10_isSeven 62 = .ok (.iadd, 1) := dk_96 (dk_at dksX10_isSeven_2 15 rfl rfl)
theorem dX10_isSeven_63 : decode cX10_isSeven 63 = .ok (.goto 4, 3) := dk_167 0 4 (dk_at dksX10_isSeven_2 16 rfl rfl)
theorem dX10_isSeven_66 : decode cX10_isSeven 66 = .ok (.iload_n 3, 1) := dk_29 (dk_at dksX10_isSeven_2 19 rfl rfl)
theorem dX10_isSeven_67 : decode cX10_isSeven 67 = .ok (.istore_n 3, 1) := dk_62 (dk_at dksX10_isSeven_2 20 rfl rfl)
theorem dX10_isSeven_68 : decode cX10_isSeven 68 = .ok (.iinc 4 1, 3) := dk_132 4 1 (dk_at dksX10_isSeven_2 21 rfl rfl)
theorem dX10_isSeven_71 : decode cX10_isSeven 71 = .ok (.goto (-53), 3) := dk_167 255 203 (dk_at dksX10_isSeven_3 0 rfl rfl)
theorem dX10_isSeven_74 : decode cX10_isSeven 74 = .ok (.iload 4, 2) := dk_21 4 (dk_at dksX10_isSeven_3 3 rfl rfl)
theorem dX10_isSeven_76 : decode cX10_isSeven 76 = .ok (.bipush 7, 2) := dk_16 7 (dk_at dksX10_isSeven_3 5 rfl rfl)
theorem dX10_isSeven_78 : decode cX10_isSeven 78 = .ok (.if_icmp .ne 27, 3) := dk_160 0 27 (dk_at dksX10_isSeven_3 7 rfl rfl)
theorem dX10_isSeven_81 : decode cX10_isSeven 81 = .ok (.iload_n 3, 1) := dk_29 (dk_at dksX10_isSeven_3 10 rfl rfl)
theorem dX10_isSeven_82 : decode cX10_isSeven 82 = .ok (.iload_n 1, 1) := dk_27 (dk_at dksX10_isSeven_3 11 rfl rfl)
theorem dX10_isSeven_83 : decode cX10_isSeven 83 = .ok (.if_icmp .ne 22, 3) := dk_160 0 22 (dk_at dksX10_isSeven_3 12 rfl rfl)
theorem dX10_isSeven_86 : decode cX10_isSeven 86 = .ok (.aload_n 0, 1) := dk_42 (dk_at dksX10_isSeven_3 15 rfl rfl)
theorem dX10_isSeven_87 : decode cX10_isSeven 87 = .ok (.aload_n 0, 1) := dk_42 (dk_at dksX10_isSeven_3 16 rfl rfl)
theorem dX10_isSeven_88 : decode cX10_isSeven 88 = .ok (.getfield 107, 3) := dk_180 0 107 (dk_at dksX10_isSeven_3 17 rfl rfl)
theorem dX10_isSeven_91 : decode cX10_isSeven 91 = .ok (.bipush 6, 2) := dk_16 6 (dk_at dksX10_isSeven_3 20 rfl rfl)
theorem dX10_isSeven_93 : decode cX10_isSeven 93 = .ok (.iadd, 1) := dk_96 (dk_at dksX10_isSeven_3 22 rfl rfl)
theorem dX10_isSeven_94 : decode cX10_isSeven 94 = .ok (.invokevirtual 110, 3) := dk_182 0 110 (dk_at dksX10_isSeven_4 0 rfl rfl)
theorem dX10_isSeven_97 : decode cX10_isSeven 97 = .ok (.iload_n 2, 1) := dk_28 (dk_at dksX10_isSeven_4 3 rfl rfl)
theorem dX10_isSeven_98 : decode cX10_isSeven 98 = .ok (.if_icmp .ne 7, 3) := dk_160 0 7 (dk_at dksX10_isSeven_4 4 rfl rfl)
theorem dX10_isSeven_101 : decode cX10_isSeven 101 = .ok (.iconst 1, 1) := dk_4 (dk_at dksX10_isSeven_4 7 rfl rfl)
theorem dX10_isSeven_102 : decode cX10_isSeven 102 = .ok (.goto 4, 3) := dk_167 0 4 (dk_at dksX10_isSeven_4 8 rfl rfl)
theorem dX10_isSeven_105 : decode cX10_isSeven 105 = .ok (.iconst 0, 1) := dk_3 (dk_at dksX10_isSeven_4 11 rfl rfl)
theorem dX10_isSeven_106 : decode cX10_isSeven 106 = .ok (.istore 5, 2) := dk_54 5 (dk_at dksX10_isSeven_4 12 rfl rfl)
theorem dX10_isSeven_108 : decode cX10_isSeven 108 = .ok (.iload 5, 2) := dk_21 5 (dk_at dksX10_isSeven_4 14 rfl rfl)
theorem dX10_isSeven_110 : decode cX10_isSeven 110 = .ok (.ifCond .eq 7, 3) := dk_153 0 7 (dk_at dksX10_isSeven_4 16 rfl rfl)
theorem dX10_isSeven_113 : decode cX10_isSeven 113 = .ok (.aload_n 0, 1) := dk_42 (dk_at dksX10_isSeven_4 19 rfl rfl)
theorem dX10_isSeven_114 : decode cX10_isSeven 114 = .ok (.invokevirtual 151, 3) := dk_182 0 151 (dk_at dksX10_isSeven_4 20 rfl rfl)
theorem dX10_isSeven_117 : decode cX10_isSeven 117 = .ok (.iload 5, 2) := dk_21 5 (dk_at dksX10_isSeven_5 0 rfl rfl)
theorem dX10_isSeven_119 : decode cX10_isSeven 119 = .ok (.ireturn, 1) := dk_172 (dk_at dksX10_isSeven_5 2 rfl rfl)
abbrev cX10_takesSign : ByteArray := prog_32_method_22_code
def yX10_takesSign : MethodName := ⟨RX10, "takesSign", "(I)Z"⟩
def dkwX10_takesSign_2 : List UInt8 := [172]
abbrev dktX10_takesSign_2 : List UInt8 := dkwX10_takesSign_2 ++ []
def dkwX10_takesSign_1 : List UInt8 := [160, 0, 7, 4, 167, 0, 4, 3, 61, 28, 153, 0, 13, 42, 89, 180, 0, 107, 4, 96, 181, 0, 107, 28]
abbrev dktX10_takesSign_1 : List UInt8 := dkwX10_takesSign_1 ++ dktX10_takesSign_2
def dkwX10_takesSign_0 : List UInt8 := [42, 180, 0, 114, 153, 0, 5, 3, 172, 42, 182, 0, 120, 42, 42, 180, 0, 107, 182, 0, 110, 27]
abbrev dktX10_takesSign_0 : List UInt8 := dkwX10_takesSign_0 ++ dktX10_takesSign_1
theorem dksX10_takesSign_0 : cX10_takesSign.data.toList.drop 0 = dktX10_takesSign_0 := by decide +kernel
theorem dksX10_takesSign_1 : cX10_takesSign.data.toList.drop 22 = dktX10_takesSign_1 := dk_seg dksX10_takesSign_0 22 rfl rfl
theorem dksX10_takesSign_2 : cX10_takesSign.data.toList.drop 46 = dktX10_takesSign_2 := dk_seg dksX10_takesSign_1 24 rfl rfl
theorem dX10_takesSign_0 : decode cX10_takesSign 0 = .ok (.aload_n 0, 1) := dk_42 (dk_at dksX10_takesSign_0 0 rfl rfl)
theorem dX10_takesSign_1 : decode cX10_takesSign 1 = .ok (.getfield 114, 3) := dk_180 0 114 (dk_at dksX10_takesSign_0 1 rfl rfl)
theorem dX10_takesSign_4 : decode cX10_takesSign 4 = .ok (.ifCond .eq 5, 3) := dk_153 0 5 (dk_at dksX10_takesSign_0 4 rfl rfl)
theorem dX10_takesSign_7 : decode cX10_takesSign 7 = .ok (.iconst 0, 1) := dk_3 (dk_at dksX10_takesSign_0 7 rfl rfl)
theorem dX10_takesSign_8 : decode cX10_takesSign 8 = .ok (.ireturn, 1) := dk_172 (dk_at dksX10_takesSign_0 8 rfl rfl)
theorem dX10_takesSign_9 : decode cX10_takesSign 9 = .ok (.aload_n 0, 1) := dk_42 (dk_at dksX10_takesSign_0 9 rfl rfl)
theorem dX10_takesSign_10 : decode cX10_takesSign 10 = .ok (.invokevirtual 120, 3) := dk_182 0 120 (dk_at dksX10_takesSign_0 10 rfl rfl)
theorem dX10_takesSign_13 : decode cX10_takesSign 13 = .ok (.aload_n 0, 1) := dk_42 (dk_at dksX10_takesSign_0 13 rfl rfl)
theorem dX10_takesSign_14 : decode cX10_takesSign 14 = .ok (.aload_n 0, 1) := dk_42 (dk_at dksX10_takesSign_0 14 rfl rfl)
theorem dX10_takesSign_15 : decode cX10_takesSign 15 = .ok (.getfield 107, 3) := dk_180 0 107 (dk_at dksX10_takesSign_0 15 rfl rfl)
theorem dX10_takesSign_18 : decode cX10_takesSign 18 = .ok (.invokevirtual 110, 3) := dk_182 0 110 (dk_at dksX10_takesSign_0 18 rfl rfl)
theorem dX10_takesSign_21 : decode cX10_takesSign 21 = .ok (.iload_n 1, 1) := dk_27 (dk_at dksX10_takesSign_0 21 rfl rfl)
theorem dX10_takesSign_22 : decode cX10_takesSign 22 = .ok (.if_icmp .ne 7, 3) := dk_160 0 7 (dk_at dksX10_takesSign_1 0 rfl rfl)
theorem dX10_takesSign_25 : decode cX10_takesSign 25 = .ok (.iconst 1, 1) := dk_4 (dk_at dksX10_takesSign_1 3 rfl rfl)
theorem dX10_takesSign_26 : decode cX10_takesSign 26 = .ok (.goto 4, 3) := dk_167 0 4 (dk_at dksX10_takesSign_1 4 rfl rfl)
theorem dX10_takesSign_29 : decode cX10_takesSign 29 = .ok (.iconst 0, 1) := dk_3 (dk_at dksX10_takesSign_1 7 rfl rfl)
theorem dX10_takesSign_30 : decode cX10_takesSign 30 = .ok (.istore_n 2, 1) := dk_61 (dk_at dksX10_takesSign_1 8 rfl rfl)
theorem dX10_takesSign_31 : decode cX10_takesSign 31 = .ok (.iload_n 2, 1) := dk_28 (dk_at dksX10_takesSign_1 9 rfl rfl)
theorem dX10_takesSign_32 : decode cX10_takesSign 32 = .ok (.ifCond .eq 13, 3) := dk_153 0 13 (dk_at dksX10_takesSign_1 10 rfl rfl)
theorem dX10_takesSign_35 : decode cX10_takesSign 35 = .ok (.aload_n 0, 1) := dk_42 (dk_at dksX10_takesSign_1 13 rfl rfl)
theorem dX10_takesSign_36 : decode cX10_takesSign 36 = .ok (.dup, 1) := dk_89 (dk_at dksX10_takesSign_1 14 rfl rfl)
theorem dX10_takesSign_37 : decode cX10_takesSign 37 = .ok (.getfield 107, 3) := dk_180 0 107 (dk_at dksX10_takesSign_1 15 rfl rfl)
theorem dX10_takesSign_40 : decode cX10_takesSign 40 = .ok (.iconst 1, 1) := dk_4 (dk_at dksX10_takesSign_1 18 rfl rfl)
theorem dX10_takesSign_41 : decode cX10_takesSign 41 = .ok (.iadd, 1) := dk_96 (dk_at dksX10_takesSign_1 19 rfl rfl)
theorem dX10_takesSign_42 : decode cX10_takesSign 42 = .ok (.putfield 107, 3) := dk_181 0 107 (dk_at dksX10_takesSign_1 20 rfl rfl)
theorem dX10_takesSign_45 : decode cX10_takesSign 45 = .ok (.iload_n 2, 1) := dk_28 (dk_at dksX10_takesSign_1 23 rfl rfl)
theorem dX10_takesSign_46 : decode cX10_takesSign 46 = .ok (.ireturn, 1) := dk_172 (dk_at dksX10_takesSign_2 0 rfl rfl)
abbrev cX10_book : ByteArray := prog_32_method_45_code
def yX10_book : MethodName := ⟨RX10, "book", "(I)I"⟩
def dkwX10_book_8 : List UInt8 := [181, 0, 198, 42, 180, 0, 55, 42, 180, 0, 52, 28, 184, 0, 191, 28, 172]
abbrev dktX10_book_8 : List UInt8 := dkwX10_book_8 ++ []
def dkwX10_book_7 : List UInt8 := [167, 255, 138, 42, 180, 0, 114, 153, 0, 8, 42, 182, 0, 188, 172, 42, 2, 181, 0, 9, 42, 28]
abbrev dktX10_book_7 : List UInt8 := dkwX10_book_7 ++ dktX10_book_8
def dkwX10_book_6 : List UInt8 := [28, 50, 3, 21, 5, 79, 42, 180, 0, 55, 28, 50, 4, 21, 6, 79, 132, 2, 1, 42, 182, 0, 120]
abbrev dktX10_book_6 : List UInt8 := dkwX10_book_6 ++ dktX10_book_7
def dkwX10_book_5 : List UInt8 := [42, 16, 59, 182, 0, 174, 42, 180, 0, 114, 154, 0, 33, 29, 4, 21, 5, 120, 128, 62, 42, 180, 0, 55]
abbrev dktX10_book_5 : List UInt8 := dkwX10_book_5 ++ dktX10_book_6
def dkwX10_book_4 : List UInt8 := [21, 5, 184, 1, 4, 153, 0, 10, 42, 5, 21, 4, 182, 0, 127, 42, 3, 16, 40, 182, 0, 166, 54, 6]
abbrev dktX10_book_4 : List UInt8 := dkwX10_book_4 ++ dktX10_book_5
def dkwX10_book_3 : List UInt8 := [42, 3, 42, 180, 0, 23, 4, 46, 4, 100, 182, 0, 166, 54, 5, 42, 180, 0, 114, 154, 0, 19, 29]
abbrev dktX10_book_3 : List UInt8 := dkwX10_book_3 ++ dktX10_book_4
def dkwX10_book_2 : List UInt8 := [42, 180, 0, 114, 154, 0, 117, 42, 180, 0, 107, 42, 180, 0, 104, 162, 0, 106, 42, 180, 0, 107, 54, 4]
abbrev dktX10_book_2 : List UInt8 := dkwX10_book_2 ++ dktX10_book_3
def dkwX10_book_1 : List UInt8 := [4, 167, 0, 4, 3, 4, 4, 182, 0, 178, 153, 0, 5, 3, 172, 42, 27, 182, 0, 182, 3, 61, 3, 62]
abbrev dktX10_book_1 : List UInt8 := dkwX10_book_1 ++ dktX10_book_2
def dkwX10_book_0 : List UInt8 := [42, 3, 181, 0, 98, 42, 27, 3, 42, 180, 0, 101, 184, 0, 132, 153, 0, 9, 27, 16, 60, 164, 0, 7]
abbrev dktX10_book_0 : List UInt8 := dkwX10_book_0 ++ dktX10_book_1
theorem dksX10_book_0 : cX10_book.data.toList.drop 0 = dktX10_book_0 := by decide +kernel
theorem dksX10_book_1 : cX10_book.data.toList.drop 24 = dktX10_book_1 := dk_seg dksX10_book_0 24 rfl rfl
theorem dksX10_book_2 : cX10_book.data.toList.drop 48 = dktX10_book_2 := dk_seg dksX10_book_1 24 rfl rfl
theorem dksX10_book_3 : cX10_book.data.toList.drop 72 = dktX10_book_3 := dk_seg dksX10_book_2 24 rfl rfl
theorem dksX10_book_4 : cX10_book.data.toList.drop 95 = dktX10_book_4 := dk_seg dksX10_book_3 23 rfl rfl
theorem dksX10_book_5 : cX10_book.data.toList.drop 119 = dktX10_book_5 := dk_seg dksX10_book_4 24 rfl rfl
theorem dksX10_book_6 : cX10_book.data.toList.drop 143 = dktX10_book_6 := dk_seg dksX10_book_5 24 rfl rfl
theorem dksX10_book_7 : cX10_book.data.toList.drop 166 = dktX10_book_7 := dk_seg dksX10_book_6 23 rfl rfl
theorem dksX10_book_8 : cX10_book.data.toList.drop 188 = dktX10_book_8 := dk_seg dksX10_book_7 22 rfl rfl
theorem dX10_book_0 : decode cX10_book 0 = .ok (.aload_n 0, 1) := dk_42 (dk_at dksX10_book_0 0 rfl rfl)
theorem dX10_book_1 : decode cX10_book 1 = .ok (.iconst 0, 1) := dk_3 (dk_at dksX10_book_0 1 rfl rfl)
theorem dX10_book_2 : decode cX10_book 2 = .ok (.putfield 98, 3) := dk_181 0 98 (dk_at dksX10_book_0 2 rfl rfl)
theorem dX10_book_5 : decode cX10_book 5 = .ok (.aload_n 0, 1) := dk_42 (dk_at dksX10_book_0 5 rfl rfl)
theorem dX10_book_6 : decode cX10_book 6 = .ok (.iload_n 1, 1) := dk_27 (dk_at dksX10_book_0 6 rfl rfl)
theorem dX10_book_7 : decode cX10_book 7 = .ok (.iconst 0, 1) := dk_3 (dk_at dksX10_book_0 7 rfl rfl)
theorem dX10_book_8 : decode cX10_book 8 = .ok (.aload_n 0, 1) := dk_42 (dk_at dksX10_book_0 8 rfl rfl)
theorem dX10_book_9 : decode cX10_book 9 = .ok (.getfield 101, 3) := dk_180 0 101 (dk_at dksX10_book_0 9 rfl rfl)
theorem dX10_book_12 : decode cX10_book 12 = .ok (.invokestatic 132, 3) := dk_184 0 132 (dk_at dksX10_book_0 12 rfl rfl)
theorem dX10_book_15 : decode cX10_book 15 = .ok (.ifCond .eq 9, 3) := dk_153 0 9 (dk_at dksX10_book_0 15 rfl rfl)
theorem dX10_book_18 : decode cX10_book 18 = .ok (.iload_n 1, 1) := dk_27 (dk_at dksX10_book_0 18 rfl rfl)
theorem dX10_book_19 : decode cX10_book 19 = .ok (.bipush 60, 2) := dk_16 60 (dk_at dksX10_book_0 19 rfl rfl)
theorem dX10_book_21 : decode cX10_book 21 = .ok (.if_icmp .le 7, 3) := dk_164 0 7 (dk_at dksX10_book_0 21 rfl rfl)
theorem dX10_book_24 : decode cX10_book 24 = .ok (.iconst 1, 1) := dk_4 (dk_at dksX10_book_1 0 rfl rfl)
theorem dX10_book_25 : decode cX10_book 25 = .ok (.goto 4, 3) := dk_167 0 4 (dk_at dksX10_book_1 1 rfl rfl)
theorem dX10_book_28 : decode cX10_book 28 = .ok (.iconst 0, 1) := dk_3 (dk_at dksX10_book_1 4 rfl rfl)
theorem dX10_book_29 : decode cX10_book 29 = .ok (.iconst 1, 1) := dk_4 (dk_at dksX10_book_1 5 rfl rfl)
theorem dX10_book_30 : decode cX10_book 30 = .ok (.iconst 1, 1) := dk_4 (dk_at dksX10_book_1 6 rfl rfl)
theorem dX10_book_31 : decode cX10_book 31 = .ok (.invokevirtual 178, 3) := dk_182 0 178 (dk_at dksX10_book_1 7 rfl rfl)
theorem dX10_book_34 : decode cX10_book 34 = .ok (.ifCond .eq 5, 3) := dk_153 0 5 (dk_at dksX10_book_1 10 rfl rfl)
theorem dX10_book_37 : decode cX10_book 37 = .ok (.iconst 0, 1) := dk_3 (dk_at dksX10_book_1 13 rfl rfl)
theorem dX10_book_38 : decode cX10_book 38 = .ok (.ireturn, 1) := dk_172 (dk_at dksX10_book_1 14 rfl rfl)
theorem dX10_book_39 : decode cX10_book 39 = .ok (.aload_n 0, 1) := dk_42 (dk_at dksX10_book_1 15 rfl rfl)
theorem dX10_book_40 : decode cX10_book 40 = .ok (.iload_n 1, 1) := dk_27 (dk_at dksX10_book_1 16 rfl rfl)
theorem dX10_book_41 : decode cX10_book 41 = .ok (.invokevirtual 182, 3) := dk_182 0 182 (dk_at dksX10_book_1 17 rfl rfl)
theorem dX10_book_44 : decode cX10_book 44 = .ok (.iconst 0, 1) := dk_3 (dk_at dksX10_book_1 20 rfl rfl)
theorem dX10_book_45 : decode cX10_book 45 = .ok (.istore_n 2, 1) := dk_61 (dk_at dksX10_book_1 21 rfl rfl)
theorem dX10_book_46 : decode cX10_book 46 = .ok (.iconst 0, 1) := dk_3 (dk_at dksX10_book_1 22 rfl rfl)
theorem dX10_book_47 : decode cX10_book 47 = .ok (.istore_n 3, 1) := dk_62 (dk_at dksX10_book_1 23 rfl rfl)
theorem dX10_book_48 : decode cX10_book 48 = .ok (.aload_n 0, 1) := dk_42 (dk_at dksX10_book_2 0 rfl rfl)
theorem dX10_book_49 : decode cX10_book 49 = .ok (.getfield 114, 3) := dk_180 0 114 (dk_at dksX10_book_2 1 rfl rfl)
theorem dX10_book_52 : decode cX10_book 52 = .ok (.ifCond .ne 117, 3) := dk_154 0 117 (dk_at dksX10_book_2 4 rfl rfl)
theorem dX10_book_55 : decode cX10_book 55 = .ok (.aload_n 0, 1) := dk_42 (dk_at dksX10_book_2 7 rfl rfl)
theorem dX10_book_56 : decode cX10_book 56 = .ok (.getfield 107, 3) := dk_180 0 107 (dk_at dksX10_book_2 8 rfl rfl)
theorem dX10_book_59 : decode cX10_book 59 = .ok (.aload_n 0, 1) := dk_42 (dk_at dksX10_book_2 11 rfl rfl)
theorem dX10_book_60 : decode cX10_book 60 = .ok (.getfield 104, 3) := dk_180 0 104 (dk_at dksX10_book_2 12 rfl rfl)
theorem dX10_book_63 : decode cX10_book 63 = .ok (.if_icmp .ge 106, 3) := dk_162 0 106 (dk_at dksX10_book_2 15 rfl rfl)
theorem dX10_book_66 : decode cX10_book 66 = .ok (.aload_n 0, 1) := dk_42 (dk_at dksX10_book_2 18 rfl rfl)
theorem dX10_book_67 : decode cX10_book 67 = .ok (.getfield 107, 3) := dk_180 0 107 (dk_at dksX10_book_2 19 rfl rfl)
theorem dX10_book_70 : decode cX10_book 70 = .ok (.istore 4, 2) := dk_54 4 (dk_at dksX10_book_2 22 rfl rfl)
theorem dX10_book_72 : decode cX10_book 72 = .ok (.aload_n 0, 1) := dk_42 (dk_at dksX10_book_3 0 rfl rfl)
theorem dX10_book_73 : decode cX10_book 73 = .ok (.iconst 0, 1) := dk_3 (dk_at dksX10_book_3 1 rfl rfl)
theorem dX10_book_74 : decode cX10_book 74 = .ok (.aload_n 0, 1) := dk_42 (dk_at dksX10_book_3 2 rfl rfl)
theorem dX10_book_75 : decode cX10_book 75 = .ok (.getfield 23, 3) := dk_180 0 23 (dk_at dksX10_book_3 3 rfl rfl)
theorem dX10_book_78 : decode cX10_book 78 = .ok (.iconst 1, 1) := dk_4 (dk_at dksX10_book_3 6 rfl rfl)
theorem dX10_book_79 : decode cX10_book 79 = .ok (.iaload, 1) := dk_46 (dk_at dksX10_book_3 7 rfl rfl)
theorem dX10_book_80 : decode cX10_book 80 = .ok (.iconst 1, 1) := dk_4 (dk_at dksX10_book_3 8 rfl rfl)
theorem dX10_book_81 : decode cX10_book 81 = .ok (.isub, 1) := dk_100 (dk_at dksX10_book_3 9 rfl rfl)
theorem dX10_book_82 : decode cX10_book 82 = .ok (.invokevirtual 166, 3) := dk_182 0 166 (dk_at dksX10_book_3 10 rfl rfl)
theorem dX10_book_85 : decode cX10_book 85 = .ok (.istore 5, 2) := dk_54 5 (dk_at dksX10_book_3 13 rfl rfl)
theorem dX10_book_87 : decode cX10_book 87 = .ok (.aload_n 0, 1) := dk_42 (dk_at dksX10_book_3 15 rfl rfl)
theorem dX10_book_88 : decode cX10_book 88 = .ok (.getfield 114, 3) := dk_180 0 114 (dk_at dksX10_book_3 16 rfl rfl)
theorem dX10_book_91 : decode cX10_book 91 = .ok (.ifCond .ne 19, 3) := dk_154 0 19 (dk_at dksX10_book_3 19 rfl rfl)
theorem dX10_book_94 : decode cX10_book 94 = .ok (.iload_n 3, 1) := dk_29 (dk_at dksX10_book_3 22 rfl rfl)
theorem dX10_book_95 : decode cX10_book 95 = .ok (.iload 5, 2) := dk_21 5 (dk_at dksX10_book_4 0 rfl rfl)
theorem dX10_book_97 : decode cX10_book 97 = .ok (.invokestatic 260, 3) := dk_184 1 4 (dk_at dksX10_book_4 2 rfl rfl)
theorem dX10_book_100 : decode cX10_book 100 = .ok (.ifCond .eq 10, 3) := dk_153 0 10 (dk_at dksX10_book_4 5 rfl rfl)
theorem dX10_book_103 : decode cX10_book 103 = .ok (.aload_n 0, 1) := dk_42 (dk_at dksX10_book_4 8 rfl rfl)
theorem dX10_book_104 : decode cX10_book 104 = .ok (.iconst 2, 1) := dk_5 (dk_at dksX10_book_4 9 rfl rfl)
theorem dX10_book_105 : decode cX10_book 105 = .ok (.iload 4, 2) := dk_21 4 (dk_at dksX10_book_4 10 rfl rfl)
theorem dX10_book_107 : decode cX10_book 107 = .ok (.invokevirtual 127, 3) := dk_182 0 127 (dk_at dksX10_book_4 12 rfl rfl)
theorem dX10_book_110 : decode cX10_book 110 = .ok (.aload_n 0, 1) := dk_42 (dk_at dksX10_book_4 15 rfl rfl)
theorem dX10_book_111 : decode cX10_book 111 = .ok (.iconst 0, 1) := dk_3 (dk_at dksX10_book_4 16 rfl rfl)
theorem dX10_book_112 : decode cX10_book 112 = .ok (.bipush 40, 2) := dk_16 40 (dk_at dksX10_book_4 17 rfl rfl)
theorem dX10_book_114 : decode cX10_book 114 = .ok (.invokevirtual 166, 3) := dk_182 0 166 (dk_at dksX10_book_4 19 rfl rfl)
theorem dX10_book_117 : decode cX10_book 117 = .ok (.istore 6, 2) := dk_54 6 (dk_at dksX10_book_4 22 rfl rfl)
theorem dX10_book_119 : decode cX10_book 119 = .ok (.aload_n 0, 1) := dk_42 (dk_at dksX10_book_5 0 rfl rfl)
theorem dX10_book_120 : decode cX10_book 120 = .ok (.bipush 59, 2) := dk_16 59 (dk_at dksX10_book_5 1 rfl rfl)
theorem dX10_book_122 : decode cX10_book 122 = .ok (.invokevirtual 174, 3) := dk_182 0 174 (dk_at dksX10_book_5 3 rfl rfl)
theorem dX10_book_125 : decode cX10_book 125 = .ok (.aload_n 0, 1) := dk_42 (dk_at dksX10_book_5 6 rfl rfl)
theorem dX10_book_126 : decode cX10_book 126 = .ok (.getfield 114, 3) := dk_180 0 114 (dk_at dksX10_book_5 7 rfl rfl)
theorem dX10_book_129 : decode cX10_book 129 = .ok (.ifCond .ne 33, 3) := dk_154 0 33 (dk_at dksX10_book_5 10 rfl rfl)
theorem dX10_book_132 : decode cX10_book 132 = .ok (.iload_n 3, 1) := dk_29 (dk_at dksX10_book_5 13 rfl rfl)
theorem dX10_book_133 : decode cX10_book 133 = .ok (.iconst 1, 1) := dk_4 (dk_at dksX10_book_5 14 rfl rfl)
theorem dX10_book_134 : decode cX10_book 134 = .ok (.iload 5, 2) := dk_21 5 (dk_at dksX10_book_5 15 rfl rfl)
theorem dX10_book_136 : decode cX10_book 136 = .ok (.ishl, 1) := dk_120 (dk_at dksX10_book_5 17 rfl rfl)
theorem dX10_book_137 : decode cX10_book 137 = .ok (.ior, 1) := dk_128 (dk_at dksX10_book_5 18 rfl rfl)
theorem dX10_book_138 : decode cX10_book 138 = .ok (.istore_n 3, 1) := dk_62 (dk_at dksX10_book_5 19 rfl rfl)
theorem dX10_book_139 : decode cX10_book 139 = .ok (.aload_n 0, 1) := dk_42 (dk_at dksX10_book_5 20 rfl rfl)
theorem dX10_book_140 : decode cX10_book 140 = .ok (.getfield 55, 3) := dk_180 0 55 (dk_at dksX10_book_5 21 rfl rfl)
theorem dX10_book_143 : decode cX10_book 143 = .ok (.iload_n 2, 1) := dk_28 (dk_at dksX10_book_6 0 rfl rfl)
theorem dX10_book_144 : decode cX10_book 144 = .ok (.aaload, 1) := dk_50 (dk_at dksX10_book_6 1 rfl rfl)
theorem dX10_book_145 : decode cX10_book 145 = .ok (.iconst 0, 1) := dk_3 (dk_at dksX10_book_6 2 rfl rfl)
theorem dX10_book_146 : decode cX10_book 146 = .ok (.iload 5, 2) := dk_21 5 (dk_at dksX10_book_6 3 rfl rfl)
theorem dX10_book_148 : decode cX10_book 148 = .ok (.iastore, 1) := dk_79 (dk_at dksX10_book_6 5 rfl rfl)
theorem dX10_book_149 : decode cX10_book 149 = .ok (.aload_n 0, 1) := dk_42 (dk_at dksX10_book_6 6 rfl rfl)
theorem dX10_book_150 : decode cX10_book 150 = .ok (.getfield 55, 3) := dk_180 0 55 (dk_at dksX10_book_6 7 rfl rfl)
theorem dX10_book_153 : decode cX10_book 153 = .ok (.iload_n 2, 1) := dk_28 (dk_at dksX10_book_6 10 rfl rfl)
theorem dX10_book_154 : decode cX10_book 154 = .ok (.aaload, 1) := dk_50 (dk_at dksX10_book_6 11 rfl rfl)
theorem dX10_book_155 : decode cX10_book 155 = .ok (.iconst 1, 1) := dk_4 (dk_at dksX10_book_6 12 rfl rfl)
theorem dX10_book_156 : decode cX10_book 156 = .ok (.iload 6, 2) := dk_21 6 (dk_at dksX10_book_6 13 rfl rfl)
theorem dX10_book_158 : decode cX10_book 158 = .ok (.iastore, 1) := dk_79 (dk_at dksX10_book_6 15 rfl rfl)
theorem dX10_book_159 : decode cX10_book 159 = .ok (.iinc 2 1, 3) := dk_132 2 1 (dk_at dksX10_book_6 16 rfl rfl)
theorem dX10_book_162 : decode cX10_book 162 = .ok (.aload_n 0, 1) := dk_42 (dk_at dksX10_book_6 19 rfl rfl)
theorem dX10_book_163 : decode cX10_book 163 = .ok (.invokevirtual 120, 3) := dk_182 0 120 (dk_at dksX10_book_6 20 rfl rfl)
theorem dX10_book_166 : decode cX10_book 166 = .ok (.goto (-118), 3) := dk_167 255 138 (dk_at dksX10_book_7 0 rfl rfl)
theorem dX10_book_169 : decode cX10_book 169 = .ok (.aload_n 0, 1) := dk_42 (dk_at dksX10_book_7 3 rfl rfl)
theorem dX10_book_170 : decode cX10_book 170 = .ok (.getfield 114, 3) := dk_180 0 114 (dk_at dksX10_book_7 4 rfl rfl)
theorem dX10_book_173 : decode cX10_book 173 = .ok (.ifCond .eq 8, 3) := dk_153 0 8 (dk_at dksX10_book_7 7 rfl rfl)
theorem dX10_book_176 : decode cX10_book 176 = .ok (.aload_n 0, 1) := dk_42 (dk_at dksX10_book_7 10 rfl rfl)
theorem dX10_book_177 : decode cX10_book 177 = .ok (.invokevirtual 188, 3) := dk_182 0 188 (dk_at dksX10_book_7 11 rfl rfl)
theorem dX10_book_180 : decode cX10_book 180 = .ok (.ireturn, 1) := dk_172 (dk_at dksX10_book_7 14 rfl rfl)
theorem dX10_book_181 : decode cX10_book 181 = .ok (.aload_n 0, 1) := dk_42 (dk_at dksX10_book_7 15 rfl rfl)
theorem dX10_book_182 : decode cX10_book 182 = .ok (.iconst (-1), 1) := dk_2 (dk_at dksX10_book_7 16 rfl rfl)
theorem dX10_book_183 : decode cX10_book 183 = .ok (.putfield 9, 3) := dk_181 0 9 (dk_at dksX10_book_7 17 rfl rfl)
theorem dX10_book_186 : decode cX10_book 186 = .ok (.aload_n 0, 1) := dk_42 (dk_at dksX10_book_7 20 rfl rfl)
theorem dX10_book_187 : decode cX10_book 187 = .ok (.iload_n 2, 1) := dk_28 (dk_at dksX10_book_7 21 rfl rfl)
theorem dX10_book_188 : decode cX10_book 188 = .ok (.putfield 198, 3) := dk_181 0 198 (dk_at dksX10_book_8 0 rfl rfl)
theorem dX10_book_191 : decode cX10_book 191 = .ok (.aload_n 0, 1) := dk_42 (dk_at dksX10_book_8 3 rfl rfl)
theorem dX10_book_192 : decode cX10_book 192 = .ok (.getfield 55, 3) := dk_180 0 55 (dk_at dksX10_book_8 4 rfl rfl)
theorem dX10_book_195 : decode cX10_book 195 = .ok (.aload_n 0, 1) := dk_42 (dk_at dksX10_book_8 7 rfl rfl)
theorem dX10_book_196 : decode cX10_book 196 = .ok (.getfield 52, 3) := dk_180 0 52 (dk_at dksX10_book_8 8 rfl rfl)
theorem dX10_book_199 : decode cX10_book 199 = .ok (.iload_n 2, 1) := dk_28 (dk_at dksX10_book_8 11 rfl rfl)
theorem dX10_book_200 : decode cX10_book 200 = .ok (.invokestatic 191, 3) := dk_184 0 191 (dk_at dksX10_book_8 12 rfl rfl)
theorem dX10_book_203 : decode cX10_book 203 = .ok (.iload_n 2, 1) := dk_28 (dk_at dksX10_book_8 15 rfl rfl)
theorem dX10_book_204 : decode cX10_book 204 = .ok (.ireturn, 1) := dk_172 (dk_at dksX10_book_8 16 rfl rfl)
abbrev cX10_has : ByteArray := prog_32_method_8_code
def yX10_has : MethodName := ⟨RX10, "has", "(II)Z"⟩
def dkwX10_has_0 : List UInt8 := [26, 27, 122, 4, 126, 4, 160, 0, 7, 4, 167, 0, 4, 3, 172]
abbrev dktX10_has_0 : List UInt8 := dkwX10_has_0 ++ []
theorem dksX10_has_0 : cX10_has.data.toList.drop 0 = dktX10_has_0 := by decide +kernel
theorem dX10_has_0 : decode cX10_has 0 = .ok (.iload_n 0, 1) := dk_26 (dk_at dksX10_has_0 0 rfl rfl)
theorem dX10_has_1 : decode cX10_has 1 = .ok (.iload_n 1, 1) := dk_27 (dk_at dksX10_has_0 1 rfl rfl)
theorem dX10_has_2 : decode cX10_has 2 = .ok (.ishr, 1) := dk_122 (dk_at dksX10_has_0 2 rfl rfl)
theorem dX10_has_3 : decode cX10_has 3 = .ok (.iconst 1, 1) := dk_4 (dk_at dksX10_has_0 3 rfl rfl)
theorem dX10_has_4 : decode cX10_has 4 = .ok (.iand, 1) := dk_126 (dk_at dksX10_has_0 4 rfl rfl)
theorem dX10_has_5 : decode cX10_has 5 = .ok (.iconst 1, 1) := dk_4 (dk_at dksX10_has_0 5 rfl rfl)
theorem dX10_has_6 : decode cX10_has 6 = .ok (.if_icmp .ne 7, 3) := dk_160 0 7 (dk_at dksX10_has_0 6 rfl rfl)
theorem dX10_has_9 : decode cX10_has 9 = .ok (.iconst 1, 1) := dk_4 (dk_at dksX10_has_0 9 rfl rfl)
theorem dX10_has_10 : decode cX10_has 10 = .ok (.goto 4, 3) := dk_167 0 4 (dk_at dksX10_has_0 10 rfl rfl)
theorem dX10_has_13 : decode cX10_has 13 = .ok (.iconst 0, 1) := dk_3 (dk_at dksX10_has_0 13 rfl rfl)
theorem dX10_has_14 : decode cX10_has 14 = .ok (.ireturn, 1) := dk_172 (dk_at dksX10_has_0 14 rfl rfl)
abbrev cX10_fault : ByteArray := prog_32_method_46_code
def yX10_fault : MethodName := ⟨RX10, "fault", "()I"⟩
def dkwX10_fault_0 : List UInt8 := [42, 3, 181, 0, 98, 42, 180, 0, 9, 172]
abbrev dktX10_fault_0 : List UInt8 := dkwX10_fault_0 ++ []
theorem dksX10_fault_0 : cX10_fault.data.toList.drop 0 = dktX10_fault_0 := by decide +kernel
theorem dX10_fault_0 : decode cX10_fault 0 = .ok (.aload_n 0, 1) := dk_42 (dk_at dksX10_fault_0 0 rfl rfl)
theorem dX10_fault_1 : decode cX10_fault 1 = .ok (.iconst 0, 1) := dk_3 (dk_at dksX10_fault_0 1 rfl rfl)
theorem dX10_fault_2 : decode cX10_fault 2 = .ok (.putfield 98, 3) := dk_181 0 98 (dk_at dksX10_fault_0 2 rfl rfl)
theorem dX10_fault_5 : decode cX10_fault 5 = .ok (.aload_n 0, 1) := dk_42 (dk_at dksX10_fault_0 5 rfl rfl)
theorem dX10_fault_6 : decode cX10_fault 6 = .ok (.getfield 9, 3) := dk_180 0 9 (dk_at dksX10_fault_0 6 rfl rfl)
theorem dX10_fault_9 : decode cX10_fault 9 = .ok (.ireturn, 1) := dk_172 (dk_at dksX10_fault_0 9 rfl rfl)
abbrev cX10_work : ByteArray := prog_32_method_60_code
def yX10_work : MethodName := ⟨RX10, "work", "(I)I"⟩
def dkwX10_work_7 : List UInt8 := [180, 0, 254, 182, 1, 49, 42, 180, 1, 56, 172]
abbrev dktX10_work_7 : List UInt8 := dkwX10_work_7 ++ []
def dkwX10_work_6 : List UInt8 := [4, 96, 181, 0, 201, 42, 3, 181, 1, 46, 42, 3, 181, 1, 56, 42, 3, 181, 0, 204, 42, 3, 42]
abbrev dktX10_work_6 : List UInt8 := dkwX10_work_6 ++ dktX10_work_7
def dkwX10_work_5 : List UInt8 := [181, 0, 9, 42, 180, 0, 67, 42, 180, 0, 73, 42, 180, 0, 201, 50, 184, 1, 59, 42, 89, 180, 0, 201]
abbrev dktX10_work_5 : List UInt8 := dkwX10_work_5 ++ dktX10_work_6
def dkwX10_work_4 : List UInt8 := [182, 1, 1, 42, 182, 0, 120, 167, 255, 230, 42, 180, 0, 114, 153, 0, 8, 42, 182, 0, 188, 172, 42, 2]
abbrev dktX10_work_4 : List UInt8 := dkwX10_work_4 ++ dktX10_work_5
def dkwX10_work_3 : List UInt8 := [181, 0, 254, 42, 180, 0, 114, 154, 0, 25, 42, 180, 0, 107, 42, 180, 0, 104, 162, 0, 14, 42]
abbrev dktX10_work_3 : List UInt8 := dkwX10_work_3 ++ dktX10_work_4
def dkwX10_work_2 : List UInt8 := [160, 0, 16, 42, 3, 181, 0, 101, 42, 2, 181, 0, 9, 16, 236, 172, 42, 27, 182, 0, 182, 42, 3]
abbrev dktX10_work_2 : List UInt8 := dkwX10_work_2 ++ dktX10_work_3
def dkwX10_work_1 : List UInt8 := [164, 0, 7, 4, 167, 0, 4, 3, 4, 4, 182, 0, 178, 153, 0, 5, 3, 172, 42, 180, 0, 201, 16, 16]
abbrev dktX10_work_1 : List UInt8 := dkwX10_work_1 ++ dktX10_work_2
def dkwX10_work_0 : List UInt8 := [42, 3, 181, 0, 98, 42, 27, 3, 42, 180, 0, 101, 184, 0, 132, 153, 0, 10, 27, 17, 0, 150]
abbrev dktX10_work_0 : List UInt8 := dkwX10_work_0 ++ dktX10_work_1
theorem dksX10_work_0 : cX10_work.data.toList.drop 0 = dktX10_work_0 := by decide +kernel
theorem dksX10_work_1 : cX10_work.data.toList.drop 22 = dktX10_work_1 := dk_seg dksX10_work_0 22 rfl rfl
theorem dksX10_work_2 : cX10_work.data.toList.drop 46 = dktX10_work_2 := dk_seg dksX10_work_1 24 rfl rfl
theorem dksX10_work_3 : cX10_work.data.toList.drop 69 = dktX10_work_3 := dk_seg dksX10_work_2 23 rfl rfl
theorem dksX10_work_4 : cX10_work.data.toList.drop 91 = dktX10_work_4 := dk_seg dksX10_work_3 22 rfl rfl
theorem dksX10_work_5 : cX10_work.data.toList.drop 115 = dktX10_work_5 := dk_seg dksX10_work_4 24 rfl rfl
theorem dksX10_work_6 : cX10_work.data.toList.drop 139 = dktX10_work_6 := dk_seg dksX10_work_5 24 rfl rfl
theorem dksX10_work_7 : cX10_work.data.toList.drop 162 = dktX10_work_7 := dk_seg dksX10_work_6 23 rfl rfl
theorem dX10_work_0 : decode cX10_work 0 = .ok (.aload_n 0, 1) := dk_42 (dk_at dksX10_work_0 0 rfl rfl)
theorem dX10_work_1 : decode cX10_work 1 = .ok (.iconst 0, 1) := dk_3 (dk_at dksX10_work_0 1 rfl rfl)
theorem dX10_work_2 : decode cX10_work 2 = .ok (.putfield 98, 3) := dk_181 0 98 (dk_at dksX10_work_0 2 rfl rfl)
theorem dX10_work_5 : decode cX10_work 5 = .ok (.aload_n 0, 1) := dk_42 (dk_at dksX10_work_0 5 rfl rfl)
theorem dX10_work_6 : decode cX10_work 6 = .ok (.iload_n 1, 1) := dk_27 (dk_at dksX10_work_0 6 rfl rfl)
theorem dX10_work_7 : decode cX10_work 7 = .ok (.iconst 0, 1) := dk_3 (dk_at dksX10_work_0 7 rfl rfl)
theorem dX10_work_8 : decode cX10_work 8 = .ok (.aload_n 0, 1) := dk_42 (dk_at dksX10_work_0 8 rfl rfl)
theorem dX10_work_9 : decode cX10_work 9 = .ok (.getfield 101, 3) := dk_180 0 101 (dk_at dksX10_work_0 9 rfl rfl)
theorem dX10_work_12 : decode cX10_work 12 = .ok (.invokestatic 132, 3) := dk_184 0 132 (dk_at dksX10_work_0 12 rfl rfl)
theorem dX10_work_15 : decode cX10_work 15 = .ok (.ifCond .eq 10, 3) := dk_153 0 10 (dk_at dksX10_work_0 15 rfl rfl)
theorem dX10_work_18 : decode cX10_work 18 = .ok (.iload_n 1, 1) := dk_27 (dk_at dksX10_work_0 18 rfl rfl)
theorem dX10_work_19 : decode cX10_work 19 = .ok (.sipush 150, 3) := dk_17 0 150 (dk_at dksX10_work_0 19 rfl rfl)
theorem dX10_work_22 : decode cX10_work 22 = .ok (.if_icmp .le 7, 3) := dk_164 0 7 (dk_at dksX10_work_1 0 rfl rfl)
theorem dX10_work_25 : decode cX10_work 25 = .ok (.iconst 1, 1) := dk_4 (dk_at dksX10_work_1 3 rfl rfl)
theorem dX10_work_26 : decode cX10_work 26 = .ok (.goto 4, 3) := dk_167 0 4 (dk_at dksX10_work_1 4 rfl rfl)
theorem dX10_work_29 : decode cX10_work 29 = .ok (.iconst 0, 1) := dk_3 (dk_at dksX10_work_1 7 rfl rfl)
theorem dX10_work_30 : decode cX10_work 30 = .ok (.iconst 1, 1) := dk_4 (dk_at dksX10_work_1 8 rfl rfl)
theorem dX10_work_31 : decode cX10_work 31 = .ok (.iconst 1, 1) := dk_4 (dk_at dksX10_work_1 9 rfl rfl)
theorem dX10_work_32 : decode cX10_work 32 = .ok (.invokevirtual 178, 3) := dk_182 0 178 (dk_at dksX10_work_1 10 rfl rfl)
theorem dX10_work_35 : decode cX10_work 35 = .ok (.ifCond .eq 5, 3) := dk_153 0 5 (dk_at dksX10_work_1 13 rfl rfl)
theorem dX10_work_38 : decode cX10_work 38 = .ok (.iconst 0, 1) := dk_3 (dk_at dksX10_work_1 16 rfl rfl)
theorem dX10_work_39 : decode cX10_work 39 = .ok (.ireturn, 1) := dk_172 (dk_at dksX10_work_1 17 rfl rfl)
theorem dX10_work_40 : decode cX10_work 40 = .ok (.aload_n 0, 1) := dk_42 (dk_at dksX10_work_1 18 rfl rfl)
theorem dX10_work_41 : decode cX10_work 41 = .ok (.getfield 201, 3) := dk_180 0 201 (dk_at dksX10_work_1 19 rfl rfl)
theorem dX10_work_44 : decode cX10_work 44 = .ok (.bipush 16, 2) := dk_16 16 (dk_at dksX10_work_1 22 rfl rfl)
theorem dX10_work_46 : decode cX10_work 46 = .ok (.if_icmp .ne 16, 3) := dk_160 0 16 (dk_at dksX10_work_2 0 rfl rfl)
theorem dX10_work_49 : decode cX10_work 49 = .ok (.aload_n 0, 1) := dk_42 (dk_at dksX10_work_2 3 rfl rfl)
theorem dX10_work_50 : decode cX10_work 50 = .ok (.iconst 0, 1) := dk_3 (dk_at dksX10_work_2 4 rfl rfl)
theorem dX10_work_51 : decode cX10_work 51 = .ok (.putfield 101, 3) := dk_181 0 101 (dk_at dksX10_work_2 5 rfl rfl)
theorem dX10_work_54 : decode cX10_work 54 = .ok (.aload_n 0, 1) := dk_42 (dk_at dksX10_work_2 8 rfl rfl)
theorem dX10_work_55 : decode cX10_work 55 = .ok (.iconst (-1), 1) := dk_2 (dk_at dksX10_work_2 9 rfl rfl)
theorem dX10_work_56 : decode cX10_work 56 = .ok (.putfield 9, 3) := dk_181 0 9 (dk_at dksX10_work_2 10 rfl rfl)
theorem dX10_work_59 : decode cX10_work 59 = .ok (.bipush (-20), 2) := dk_16 236 (dk_at dksX10_work_2 13 rfl rfl)
theorem dX10_work_61 : decode cX10_work 61 = .ok (.ireturn, 1) := dk_172 (dk_at dksX10_work_2 15 rfl rfl)
theorem dX10_work_62 : decode cX10_work 62 = .ok (.aload_n 0, 1) := dk_42 (dk_at dksX10_work_2 16 rfl rfl)
theorem dX10_work_63 : decode cX10_work 63 = .ok (.iload_n 1, 1) := dk_27 (dk_at dksX10_work_2 17 rfl rfl)
theorem dX10_work_64 : decode cX10_work 64 = .ok (.invokevirtual 182, 3) := dk_182 0 182 (dk_at dksX10_work_2 18 rfl rfl)
theorem dX10_work_67 : decode cX10_work 67 = .ok (.aload_n 0, 1) := dk_42 (dk_at dksX10_work_2 21 rfl rfl)
theorem dX10_work_68 : decode cX10_work 68 = .ok (.iconst 0, 1) := dk_3 (dk_at dksX10_work_2 22 rfl rfl)
theorem dX10_work_69 : decode cX10_work 69 = .ok (.putfield 254, 3) := dk_181 0 254 (dk_at dksX10_work_3 0 rfl rfl)
theorem dX10_work_72 : decode cX10_work 72 = .ok (.aload_n 0, 1) := dk_42 (dk_at dksX10_work_3 3 rfl rfl)
theorem dX10_work_73 : decode cX10_work 73 = .ok (.getfield 114, 3) := dk_180 0 114 (dk_at dksX10_work_3 4 rfl rfl)
theorem dX10_work_76 : decode cX10_work 76 = .ok (.ifCond .ne 25, 3) := dk_154 0 25 (dk_at dksX10_work_3 7 rfl rfl)
theorem dX10_work_79 : decode cX10_work 79 = .ok (.aload_n 0, 1) := dk_42 (dk_at dksX10_work_3 10 rfl rfl)
theorem dX10_work_80 : decode cX10_work 80 = .ok (.getfield 107, 3) := dk_180 0 107 (dk_at dksX10_work_3 11 rfl rfl)
theorem dX10_work_83 : decode cX10_work 83 = .ok (.aload_n 0, 1) := dk_42 (dk_at dksX10_work_3 14 rfl rfl)
theorem dX10_work_84 : decode cX10_work 84 = .ok (.getfield 104, 3) := dk_180 0 104 (dk_at dksX10_work_3 15 rfl rfl)
theorem dX10_work_87 : decode cX10_work 87 = .ok (.if_icmp .ge 14, 3) := dk_162 0 14 (dk_at dksX10_work_3 18 rfl rfl)
theorem dX10_work_90 : decode cX10_work 90 = .ok (.aload_n 0, 1) := dk_42 (dk_at dksX10_work_3 21 rfl rfl)
theorem dX10_work_91 : decode cX10_work 91 = .ok (.invokevirtual 257, 3) := dk_182 1 1 (dk_at dksX10_work_4 0 rfl rfl)
theorem dX10_work_94 : decode cX10_work 94 = .ok (.aload_n 0, 1) := dk_42 (dk_at dksX10_work_4 3 rfl rfl)
theorem dX10_work_95 : decode cX10_work 95 = .ok (.invokevirtual 120, 3) := dk_182 0 120 (dk_at dksX10_work_4 4 rfl rfl)
theorem dX10_work_98 : decode cX10_work 98 = .ok (.goto (-26), 3) := dk_167 255 230 (dk_at dksX10_work_4 7 rfl rfl)
theorem dX10_work_101 : decode cX10_work 101 = .ok (.aload_n 0, 1) := dk_42 (dk_at dksX10_work_4 10 rfl rfl)
theorem dX10_work_102 : decode cX10_work 102 = .ok (.getfield 114, 3) := dk_180 0 114 (dk_at dksX10_work_4 11 rfl rfl)
theorem dX10_work_105 : decode cX10_work 105 = .ok (.ifCond .eq 8, 3) := dk_153 0 8 (dk_at dksX10_work_4 14 rfl rfl)
theorem dX10_work_108 : decode cX10_work 108 = .ok (.aload_n 0, 1) := dk_42 (dk_at dksX10_work_4 17 rfl rfl)
theorem dX10_work_109 : decode cX10_work 109 = .ok (.invokevirtual 188, 3) := dk_182 0 188 (dk_at dksX10_work_4 18 rfl rfl)
theorem dX10_work_112 : decode cX10_work 112 = .ok (.ireturn, 1) := dk_172 (dk_at dksX10_work_4 21 rfl rfl)
theorem dX10_work_113 : decode cX10_work 113 = .ok (.aload_n 0, 1) := dk_42 (dk_at dksX10_work_4 22 rfl rfl)
theorem dX10_work_114 : decode cX10_work 114 = .ok (.iconst (-1), 1) := dk_2 (dk_at dksX10_work_4 23 rfl rfl)
theorem dX10_work_115 : decode cX10_work 115 = .ok (.putfield 9, 3) := dk_181 0 9 (dk_at dksX10_work_5 0 rfl rfl)
theorem dX10_work_118 : decode cX10_work 118 = .ok (.aload_n 0, 1) := dk_42 (dk_at dksX10_work_5 3 rfl rfl)
theorem dX10_work_119 : decode cX10_work 119 = .ok (.getfield 67, 3) := dk_180 0 67 (dk_at dksX10_work_5 4 rfl rfl)
theorem dX10_work_122 : decode cX10_work 122 = .ok (.aload_n 0, 1) := dk_42 (dk_at dksX10_work_5 7 rfl rfl)
theorem dX10_work_123 : decode cX10_work 123 = .ok (.getfield 73, 3) := dk_180 0 73 (dk_at dksX10_work_5 8 rfl rfl)
theorem dX10_work_126 : decode cX10_work 126 = .ok (.aload_n 0, 1) := dk_42 (dk_at dksX10_work_5 11 rfl rfl)
theorem dX10_work_127 : decode cX10_work 127 = .ok (.getfield 201, 3) := dk_180 0 201 (dk_at dksX10_work_5 12 rfl rfl)
theorem dX10_work_130 : decode cX10_work 130 = .ok (.aaload, 1) := dk_50 (dk_at dksX10_work_5 15 rfl rfl)
theorem dX10_work_131 : decode cX10_work 131 = .ok (.invokestatic 315, 3) := dk_184 1 59 (dk_at dksX10_work_5 16 rfl rfl)
theorem dX10_work_134 : decode cX10_work 134 = .ok (.aload_n 0, 1) := dk_42 (dk_at dksX10_work_5 19 rfl rfl)
theorem dX10_work_135 : decode cX10_work 135 = .ok (.dup, 1) := dk_89 (dk_at dksX10_work_5 20 rfl rfl)
theorem dX10_work_136 : decode cX10_work 136 = .ok (.getfield 201, 3) := dk_180 0 201 (dk_at dksX10_work_5 21 rfl rfl)
theorem dX10_work_139 : decode cX10_work 139 = .ok (.iconst 1, 1) := dk_4 (dk_at dksX10_work_6 0 rfl rfl)
theorem dX10_work_140 : decode cX10_work 140 = .ok (.iadd, 1) := dk_96 (dk_at dksX10_work_6 1 rfl rfl)
theorem dX10_work_141 : decode cX10_work 141 = .ok (.putfield 201, 3) := dk_181 0 201 (dk_at dksX10_work_6 2 rfl rfl)
theorem dX10_work_144 : decode cX10_work 144 = .ok (.aload_n 0, 1) := dk_42 (dk_at dksX10_work_6 5 rfl rfl)
theorem dX10_work_145 : decode cX10_work 145 = .ok (.iconst 0, 1) := dk_3 (dk_at dksX10_work_6 6 rfl rfl)
theorem dX10_work_146 : decode cX10_work 146 = .ok (.putfield 302, 3) := dk_181 1 46 (dk_at dksX10_work_6 7 rfl rfl)
theorem dX10_work_149 : decode cX10_work 149 = .ok (.aload_n 0, 1) := dk_42 (dk_at dksX10_work_6 10 rfl rfl)
theorem dX10_work_150 : decode cX10_work 150 = .ok (.iconst 0, 1) := dk_3 (dk_at dksX10_work_6 11 rfl rfl)
theorem dX10_work_151 : decode cX10_work 151 = .ok (.putfield 312, 3) := dk_181 1 56 (dk_at dksX10_work_6 12 rfl rfl)
theorem dX10_work_154 : decode cX10_work 154 = .ok (.aload_n 0, 1) := dk_42 (dk_at dksX10_work_6 15 rfl rfl)
theorem dX10_work_155 : decode cX10_work 155 = .ok (.iconst 0, 1) := dk_3 (dk_at dksX10_work_6 16 rfl rfl)
theorem dX10_work_156 : decode cX10_work 156 = .ok (.putfield 204, 3) := dk_181 0 204 (dk_at dksX10_work_6 17 rfl rfl)
theorem dX10_work_159 : decode cX10_work 159 = .ok (.aload_n 0, 1) := dk_42 (dk_at dksX10_work_6 20 rfl rfl)
theorem dX10_work_160 : decode cX10_work 160 = .ok (.iconst 0, 1) := dk_3 (dk_at dksX10_work_6 21 rfl rfl)
theorem dX10_work_161 : decode cX10_work 161 = .ok (.aload_n 0, 1) := dk_42 (dk_at dksX10_work_6 22 rfl rfl)
theorem dX10_work_162 : decode cX10_work 162 = .ok (.getfield 254, 3) := dk_180 0 254 (dk_at dksX10_work_7 0 rfl rfl)
theorem dX10_work_165 : decode cX10_work 165 = .ok (.invokevirtual 305, 3) := dk_182 1 49 (dk_at dksX10_work_7 3 rfl rfl)
theorem dX10_work_168 : decode cX10_work 168 = .ok (.aload_n 0, 1) := dk_42 (dk_at dksX10_work_7 6 rfl rfl)
theorem dX10_work_169 : decode cX10_work 169 = .ok (.getfield 312, 3) := dk_180 1 56 (dk_at dksX10_work_7 7 rfl rfl)
theorem dX10_work_172 : decode cX10_work 172 = .ok (.ireturn, 1) := dk_172 (dk_at dksX10_work_7 10 rfl rfl)
abbrev cX10_readsStep : ByteArray := prog_32_method_44_code
def yX10_readsStep : MethodName := ⟨RX10, "readsStep", "()V"⟩
def dkwX10_readsStep_9 : List UInt8 := [180, 0, 254, 79, 42, 16, 59, 182, 0, 174, 177]
abbrev dktX10_readsStep_9 : List UInt8 := dkwX10_readsStep_9 ++ []
def dkwX10_readsStep_8 : List UInt8 := [167, 255, 228, 42, 16, 93, 182, 0, 174, 42, 89, 180, 0, 157, 4, 100, 181, 0, 157, 44, 6, 42]
abbrev dktX10_readsStep_8 : List UInt8 := dkwX10_readsStep_8 ++ dktX10_readsStep_9
def dkwX10_readsStep_7 : List UInt8 := [154, 0, 27, 42, 42, 180, 0, 107, 182, 0, 110, 16, 93, 159, 0, 14, 42, 182, 1, 1, 42, 182, 0, 120]
abbrev dktX10_readsStep_7 : List UInt8 := dkwX10_readsStep_7 ++ dktX10_readsStep_8
def dkwX10_readsStep_6 : List UInt8 := [44, 4, 42, 3, 16, 60, 182, 0, 166, 79, 42, 16, 91, 182, 0, 174, 42, 182, 0, 120, 42, 180, 0, 114]
abbrev dktX10_readsStep_6 : List UInt8 := dkwX10_readsStep_6 ++ dktX10_readsStep_7
def dkwX10_readsStep_5 : List UInt8 := [182, 0, 166, 79, 27, 6, 160, 0, 13, 44, 4, 42, 4, 16, 99, 182, 0, 166, 79, 27, 8, 160, 0, 70]
abbrev dktX10_readsStep_5 : List UInt8 := dkwX10_readsStep_5 ++ dktX10_readsStep_6
def dkwX10_readsStep_4 : List UInt8 := [3, 42, 180, 0, 23, 3, 46, 4, 100, 182, 0, 166, 79, 27, 4, 160, 0, 13, 44, 5, 42, 4, 16, 9]
abbrev dktX10_readsStep_4 : List UInt8 := dkwX10_readsStep_4 ++ dktX10_readsStep_5
def dkwX10_readsStep_3 : List UInt8 := [44, 5, 42, 3, 42, 180, 0, 23, 4, 46, 4, 100, 182, 0, 166, 79, 27, 6, 162, 0, 19, 44, 4, 42]
abbrev dktX10_readsStep_3 : List UInt8 := dkwX10_readsStep_3 ++ dktX10_readsStep_4
def dkwX10_readsStep_2 : List UInt8 := [42, 180, 0, 254, 50, 77, 42, 89, 180, 0, 254, 4, 96, 181, 0, 254, 44, 3, 27, 79, 27, 154, 0, 19]
abbrev dktX10_readsStep_2 : List UInt8 := dkwX10_readsStep_2 ++ dktX10_readsStep_3
def dkwX10_readsStep_1 : List UInt8 := [42, 182, 0, 231, 154, 0, 4, 177, 42, 180, 0, 114, 153, 0, 4, 177, 42, 182, 0, 151, 42, 180, 0, 64]
abbrev dktX10_readsStep_1 : List UInt8 := dkwX10_readsStep_1 ++ dktX10_readsStep_2
def dkwX10_readsStep_0 : List UInt8 := [42, 182, 0, 251, 60, 27, 2, 160, 0, 12, 42, 4, 42, 180, 0, 107, 182, 0, 127, 27, 8, 160, 0, 11]
abbrev dktX10_readsStep_0 : List UInt8 := dkwX10_readsStep_0 ++ dktX10_readsStep_1
theorem dksX10_readsStep_0 : cX10_readsStep.data.toList.drop 0 = dktX10_readsStep_0 := by decide +kernel
theorem dksX10_readsStep_1 : cX10_readsStep.data.toList.drop 24 = dktX10_readsStep_1 := dk_seg dksX10_readsStep_0 24 rfl rfl
theorem dksX10_readsStep_2 : cX10_readsStep.data.toList.drop 48 = dktX10_readsStep_2 := dk_seg dksX10_readsStep_1 24 rfl rfl
theorem dksX10_readsStep_3 : cX10_readsStep.data.toList.drop 72 = dktX10_readsStep_3 := dk_seg dksX10_readsStep_2 24 rfl rfl
theorem dksX10_readsStep_4 : cX10_readsStep.data.toList.drop 96 = dktX10_readsStep_4 := dk_seg dksX10_readsStep_3 24 rfl rfl
theorem dksX10_readsStep_5 : cX10_readsStep.data.toList.drop 120 = dktX10_readsStep_5 := dk_seg dksX10_readsStep_4 24 rfl rfl
theorem dksX10_readsStep_6 : cX10_readsStep.data.toList.drop 144 = dktX10_readsStep_6 := dk_seg dksX10_readsStep_5 24 rfl rfl
theorem dksX10_readsStep_7 : cX10_readsStep.data.toList.drop 168 = dktX10_readsStep_7 := dk_seg dksX10_readsStep_6 24 rfl rfl
theorem dksX10_readsStep_8 : cX10_readsStep.data.toList.drop 192 = dktX10_readsStep_8 := dk_seg dksX10_readsStep_7 24 rfl rfl
theorem dksX10_readsStep_9 : cX10_readsStep.data.toList.drop 214 = dktX10_readsStep_9 := dk_seg dksX10_readsStep_8 22 rfl rfl
theorem dX10_readsStep_0 : decode cX10_readsStep 0 = .ok (.aload_n 0, 1) := dk_42 (dk_at dksX10_readsStep_0 0 rfl rfl)
theorem dX10_readsStep_1 : decode cX10_readsStep 1 = .ok (.invokevirtual 251, 3) := dk_182 0 251 (dk_at dksX10_readsStep_0 1 rfl rfl)
theorem dX10_readsStep_4 : decode cX10_readsStep 4 = .ok (.istore_n 1, 1) := dk_60 (dk_at dksX10_readsStep_0 4 rfl rfl)
theorem dX10_readsStep_5 : decode cX10_readsStep 5 = .ok (.iload_n 1, 1) := dk_27 (dk_at dksX10_readsStep_0 5 rfl rfl)
theorem dX10_readsStep_6 : decode cX10_readsStep 6 = .ok (.iconst (-1), 1) := dk_2 (dk_at dksX10_readsStep_0 6 rfl rfl)
theorem dX10_readsStep_7 : decode cX10_readsStep 7 = .ok (.if_icmp .ne 12, 3) := dk_160 0 12 (dk_at dksX10_readsStep_0 7 rfl rfl)
theorem dX10_readsStep_10 : decode cX10_readsStep 10 = .ok (.aload_n 0, 1) := dk_42 (dk_at dksX10_readsStep_0 10 rfl rfl)
theorem dX10_readsStep_11 : decode cX10_readsStep 11 = .ok (.iconst 1, 1) := dk_4 (dk_at dksX10_readsStep_0 11 rfl rfl)
theorem dX10_readsStep_12 : decode cX10_readsStep 12 = .ok (.aload_n 0, 1) := dk_42 (dk_at dksX10_readsStep_0 12 rfl rfl)
theorem dX10_readsStep_13 : decode cX10_readsStep 13 = .ok (.getfield 107, 3) := dk_180 0 107 (dk_at dksX10_readsStep_0 13 rfl rfl)
theorem dX10_readsStep_16 : decode cX10_readsStep 16 = .ok (.invokevirtual 127, 3) := dk_182 0 127 (dk_at dksX10_readsStep_0 16 rfl rfl)
theorem dX10_readsStep_19 : decode cX10_readsStep 19 = .ok (.iload_n 1, 1) := dk_27 (dk_at dksX10_readsStep_0 19 rfl rfl)
theorem dX10_readsStep_20 : decode cX10_readsStep 20 = .ok (.iconst 5, 1) := dk_8 (dk_at dksX10_readsStep_0 20 rfl rfl)
theorem dX10_readsStep_21 : decode cX10_readsStep 21 = .ok (.if_icmp .ne 11, 3) := dk_160 0 11 (dk_at dksX10_readsStep_0 21 rfl rfl)
theorem dX10_readsStep_24 : decode cX10_readsStep 24 = .ok (.aload_n 0, 1) := dk_42 (dk_at dksX10_readsStep_1 0 rfl rfl)
theorem dX10_readsStep_25 : decode cX10_readsStep 25 = .ok (.invokevirtual 231, 3) := dk_182 0 231 (dk_at dksX10_readsStep_1 1 rfl rfl)
theorem dX10_readsStep_28 : decode cX10_readsStep 28 = .ok (.ifCond .ne 4, 3) := dk_154 0 4 (dk_at dksX10_readsStep_1 4 rfl rfl)
theorem dX10_readsStep_31 : decode cX10_readsStep 31 = .ok (.return_, 1) := dk_177 (dk_at dksX10_readsStep_1 7 rfl rfl)
theorem dX10_readsStep_32 : decode cX10_readsStep 32 = .ok (.aload_n 0, 1) := dk_42 (dk_at dksX10_readsStep_1 8 rfl rfl)
theorem dX10_readsStep_33 : decode cX10_readsStep 33 = .ok (.getfield 114, 3) := dk_180 0 114 (dk_at dksX10_readsStep_1 9 rfl rfl)
theorem dX10_readsStep_36 : decode cX10_readsStep 36 = .ok (.ifCond .eq 4, 3) := dk_153 0 4 (dk_at dksX10_readsStep_1 12 rfl rfl)
theorem dX10_readsStep_39 : decode cX10_readsStep 39 = .ok (.return_, 1) := dk_177 (dk_at dksX10_readsStep_1 15 rfl rfl)
theorem dX10_readsStep_40 : decode cX10_readsStep 40 = .ok (.aload_n 0, 1) := dk_42 (dk_at dksX10_readsStep_1 16 rfl rfl)
theorem dX10_readsStep_41 : decode cX10_readsStep 41 = .ok (.invokevirtual 151, 3) := dk_182 0 151 (dk_at dksX10_readsStep_1 17 rfl rfl)
theorem dX10_readsStep_44 : decode cX10_readsStep 44 = .ok (.aload_n 0, 1) := dk_42 (dk_at dksX10_readsStep_1 20 rfl rfl)
theorem dX10_readsStep_45 : decode cX10_readsStep 45 = .ok (.getfield 64, 3) := dk_180 0 64 (dk_at dksX10_readsStep_1 21 rfl rfl)
theorem dX10_readsStep_48 : decode cX10_readsStep 48 = .ok (.aload_n 0, 1) := dk_42 (dk_at dksX10_readsStep_2 0 rfl rfl)
theorem dX10_readsStep_49 : decode cX10_readsStep 49 = .ok (.getfield 254, 3) := dk_180 0 254 (dk_at dksX10_readsStep_2 1 rfl rfl)
theorem dX10_readsStep_52 : decode cX10_readsStep 52 = .ok (.aaload, 1) := dk_50 (dk_at dksX10_readsStep_2 4 rfl rfl)
theorem dX10_readsStep_53 : decode cX10_readsStep 53 = .ok (.astore_n 2, 1) := dk_77 (dk_at dksX10_readsStep_2 5 rfl rfl)
theorem dX10_readsStep_54 : decode cX10_readsStep 54 = .ok (.aload_n 0, 1) := dk_42 (dk_at dksX10_readsStep_2 6 rfl rfl)
theorem dX10_readsStep_55 : decode cX10_readsStep 55 = .ok (.dup, 1) := dk_89 (dk_at dksX10_readsStep_2 7 rfl rfl)
theorem dX10_readsStep_56 : decode cX10_readsStep 56 = .ok (.getfield 254, 3) := dk_180 0 254 (dk_at dksX10_readsStep_2 8 rfl rfl)
theorem dX10_readsStep_59 : decode cX10_readsStep 59 = .ok (.iconst 1, 1) := dk_4 (dk_at dksX10_readsStep_2 11 rfl rfl)
theorem dX10_readsStep_60 : decode cX10_readsStep 60 = .ok (.iadd, 1) := dk_96 (dk_at dksX10_readsStep_2 12 rfl rfl)
theorem dX10_readsStep_61 : decode cX10_readsStep 61 = .ok (.putfield 254, 3) := dk_181 0 254 (dk_at dksX10_readsStep_2 13 rfl rfl)
theorem dX10_readsStep_64 : decode cX10_readsStep 64 = .ok (.aload_n 2, 1) := dk_44 (dk_at dksX10_readsStep_2 16 rfl rfl)
theorem dX10_readsStep_65 : decode cX10_readsStep 65 = .ok (.iconst 0, 1) := dk_3 (dk_at dksX10_readsStep_2 17 rfl rfl)
theorem dX10_readsStep_66 : decode cX10_readsStep 66 = .ok (.iload_n 1, 1) := dk_27 (dk_at dksX10_readsStep_2 18 rfl rfl)
theorem dX10_readsStep_67 : decode cX10_readsStep 67 = .ok (.iastore, 1) := dk_79 (dk_at dksX10_readsStep_2 19 rfl rfl)
theorem dX10_readsStep_68 : decode cX10_readsStep 68 = .ok (.iload_n 1, 1) := dk_27 (dk_at dksX10_readsStep_2 20 rfl rfl)
theorem dX10_readsStep_69 : decode cX10_readsStep 69 = .ok (.ifCond .ne 19, 3) := dk_154 0 19 (dk_at dksX10_readsStep_2 21 rfl rfl)
theorem dX10_readsStep_72 : decode cX10_readsStep 72 = .ok (.aload_n 2, 1) := dk_44 (dk_at dksX10_readsStep_3 0 rfl rfl)
theorem dX10_readsStep_73 : decode cX10_readsStep 73 = .ok (.iconst 2, 1) := dk_5 (dk_at dksX10_readsStep_3 1 rfl rfl)
theorem dX10_readsStep_74 : decode cX10_readsStep 74 = .ok (.aload_n 0, 1) := dk_42 (dk_at dksX10_readsStep_3 2 rfl rfl)
theorem dX10_readsStep_75 : decode cX10_readsStep 75 = .ok (.iconst 0, 1) := dk_3 (dk_at dksX10_readsStep_3 3 rfl rfl)
theorem dX10_readsStep_76 : decode cX10_readsStep 76 = .ok (.aload_n 0, 1) := dk_42 (dk_at dksX10_readsStep_3 4 rfl rfl)
theorem dX10_readsStep_77 : decode cX10_readsStep 77 = .ok (.getfield 23, 3) := dk_180 0 23 (dk_at dksX10_readsStep_3 5 rfl rfl)
theorem dX10_readsStep_80 : decode cX10_readsStep 80 = .ok (.iconst 1, 1) := dk_4 (dk_at dksX10_readsStep_3 8 rfl rfl)
theorem dX10_readsStep_81 : decode cX10_readsStep 81 = .ok (.iaload, 1) := dk_46 (dk_at dksX10_readsStep_3 9 rfl rfl)
theorem dX10_readsStep_82 : decode cX10_readsStep 82 = .ok (.iconst 1, 1) := dk_4 (dk_at dksX10_readsStep_3 10 rfl rfl)
theorem dX10_readsStep_83 : decode cX10_readsStep 83 = .ok (.isub, 1) := dk_100 (dk_at dksX10_readsStep_3 11 rfl rfl)
theorem dX10_readsStep_84 : decode cX10_readsStep 84 = .ok (.invokevirtual 166, 3) := dk_182 0 166 (dk_at dksX10_readsStep_3 12 rfl rfl)
theorem dX10_readsStep_87 : decode cX10_readsStep 87 = .ok (.iastore, 1) := dk_79 (dk_at dksX10_readsStep_3 15 rfl rfl)
theorem dX10_readsStep_88 : decode cX10_readsStep 88 = .ok (.iload_n 1, 1) := dk_27 (dk_at dksX10_readsStep_3 16 rfl rfl)
theorem dX10_readsStep_89 : decode cX10_readsStep 89 = .ok (.iconst 3, 1) := dk_6 (dk_at dksX10_readsStep_3 17 rfl rfl)
theorem dX10_readsStep_90 : decode cX10_readsStep 90 = .ok (.if_icmp .ge 19, 3) := dk_162 0 19 (dk_at dksX10_readsStep_3 18 rfl rfl)
theorem dX10_readsStep_93 : decode cX10_readsStep 93 = .ok (.aload_n 2, 1) := dk_44 (dk_at dksX10_readsStep_3 21 rfl rfl)
theorem dX10_readsStep_94 : decode cX10_readsStep 94 = .ok (.iconst 1, 1) := dk_4 (dk_at dksX10_readsStep_3 22 rfl rfl)
theorem dX10_readsStep_95 : decode cX10_readsStep 95 = .ok (.aload_n 0, 1) := dk_42 (dk_at dksX10_readsStep_3 23 rfl rfl)
theorem dX10_readsStep_96 : decode cX10_readsStep 96 = .ok (.iconst 0, 1) := dk_3 (dk_at dksX10_readsStep_4 0 rfl rfl)
theorem dX10_readsStep_97 : decode cX10_readsStep 97 = .ok (.aload_n 0, 1) := dk_42 (dk_at dksX10_readsStep_4 1 rfl rfl)
theorem dX10_readsStep_98 : decode cX10_readsStep 98 = .ok (.getfield 23, 3) := dk_180 0 23 (dk_at dksX10_readsStep_4 2 rfl rfl)
theorem dX10_readsStep_101 : decode cX10_readsStep 101 = .ok (.iconst 0, 1) := dk_3 (dk_at dksX10_readsStep_4 5 rfl rfl)
theorem dX10_readsStep_102 : decode cX10_readsStep 102 = .ok (.iaload, 1) := dk_46 (dk_at dksX10_readsStep_4 6 rfl rfl)
theorem dX10_readsStep_103 : decode cX10_readsStep 103 = .ok (.iconst 1, 1) := dk_4 (dk_at dksX10_readsStep_4 7 rfl rfl)
theorem dX10_readsStep_104 : decode cX10_readsStep 104 = .ok (.isub, 1) := dk_100 (dk_at dksX10_readsStep_4 8 rfl rfl)
theorem dX10_readsStep_105 : decode cX10_readsStep 105 = .ok (.invokevirtual 166, 3) := dk_182 0 166 (dk_at dksX10_readsStep_4 9 rfl rfl)
theorem dX10_readsStep_108 : decode cX10_readsStep 108 = .ok (.iastore, 1) := dk_79 (dk_at dksX10_readsStep_4 12 rfl rfl)
theorem dX10_readsStep_109 : decode cX10_readsStep 109 = .ok (.iload_n 1, 1) := dk_27 (dk_at dksX10_readsStep_4 13 rfl rfl)
theorem dX10_readsStep_110 : decode cX10_readsStep 110 = .ok (.iconst 1, 1) := dk_4 (dk_at dksX10_readsStep_4 14 rfl rfl)
theorem dX10_readsStep_111 : decode cX10_readsStep 111 = .ok (.if_icmp .ne 13, 3) := dk_160 0 13 (dk_at dksX10_readsStep_4 15 rfl rfl)
theorem dX10_readsStep_114 : decode cX10_readsStep 114 = .ok (.aload_n 2, 1) := dk_44 (dk_at dksX10_readsStep_4 18 rfl rfl)
theorem dX10_readsStep_115 : decode cX10_readsStep 115 = .ok (.iconst 2, 1) := dk_5 (dk_at dksX10_readsStep_4 19 rfl rfl)
theorem dX10_readsStep_116 : decode cX10_readsStep 116 = .ok (.aload_n 0, 1) := dk_42 (dk_at dksX10_readsStep_4 20 rfl rfl)
theorem dX10_readsStep_117 : decode cX10_readsStep 117 = .ok (.iconst 1, 1) := dk_4 (dk_at dksX10_readsStep_4 21 rfl rfl)
theorem dX10_readsStep_118 : decode cX10_readsStep 118 = .ok (.bipush 9, 2) := dk_16 9 (dk_at dksX10_readsStep_4 22 rfl rfl)
theorem dX10_readsStep_120 : decode cX10_readsStep 120 = .ok (.invokevirtual 166, 3) := dk_182 0 166 (dk_at dksX10_readsStep_5 0 rfl rfl)
theorem dX10_readsStep_123 : decode cX10_readsStep 123 = .ok (.iastore, 1) := dk_79 (dk_at dksX10_readsStep_5 3 rfl rfl)
theorem dX10_readsStep_124 : decode cX10_readsStep 124 = .ok (.iload_n 1, 1) := dk_27 (dk_at dksX10_readsStep_5 4 rfl rfl)
theorem dX10_readsStep_125 : decode cX10_readsStep 125 = .ok (.iconst 3, 1) := dk_6 (dk_at dksX10_readsStep_5 5 rfl rfl)
theorem dX10_readsStep_126 : decode cX10_readsStep 126 = .ok (.if_icmp .ne 13, 3) := dk_160 0 13 (dk_at dksX10_readsStep_5 6 rfl rfl)
theorem dX10_readsStep_129 : decode cX10_readsStep 129 = .ok (.aload_n 2, 1) := dk_44 (dk_at dksX10_readsStep_5 9 rfl rfl)
theorem dX10_readsStep_130 : decode cX10_readsStep 130 = .ok (.iconst 1, 1) := dk_4 (dk_at dksX10_readsStep_5 10 rfl rfl)
theorem dX10_readsStep_131 : decode cX10_readsStep 131 = .ok (.aload_n 0, 1) := dk_42 (dk_at dksX10_readsStep_5 11 rfl rfl)
theorem dX10_readsStep_132 : decode cX10_readsStep 132 = .ok (.iconst 1, 1) := dk_4 (dk_at dksX10_readsStep_5 12 rfl rfl)
theorem dX10_readsStep_133 : decode cX10_readsStep 133 = .ok (.bipush 99, 2) := dk_16 99 (dk_at dksX10_readsStep_5 13 rfl rfl)
theorem dX10_readsStep_135 : decode cX10_readsStep 135 = .ok (.invokevirtual 166, 3) := dk_182 0 166 (dk_at dksX10_readsStep_5 15 rfl rfl)
theorem dX10_readsStep_138 : decode cX10_readsStep 138 = .ok (.iastore, 1) := dk_79 (dk_at dksX10_readsStep_5 18 rfl rfl)
theorem dX10_readsStep_139 : decode cX10_readsStep 139 = .ok (.iload_n 1, 1) := dk_27 (dk_at dksX10_readsStep_5 19 rfl rfl)
theorem dX10_readsStep_140 : decode cX10_readsStep 140 = .ok (.iconst 5, 1) := dk_8 (dk_at dksX10_readsStep_5 20 rfl rfl)
theorem dX10_readsStep_141 : decode cX10_readsStep 141 = .ok (.if_icmp .ne 70, 3) := dk_160 0 70 (dk_at dksX10_readsStep_5 21 rfl rfl)
theorem dX10_readsStep_144 : decode cX10_readsStep 144 = .ok (.aload_n 2, 1) := dk_44 (dk_at dksX10_readsStep_6 0 rfl rfl)
theorem dX10_readsStep_145 : decode cX10_readsStep 145 = .ok (.iconst 1, 1) := dk_4 (dk_at dksX10_readsStep_6 1 rfl rfl)
theorem dX10_readsStep_146 : decode cX10_readsStep 146 = .ok (.aload_n 0, 1) := dk_42 (dk_at dksX10_readsStep_6 2 rfl rfl)
theorem dX10_readsStep_147 : decode cX10_readsStep 147 = .ok (.iconst 0, 1) := dk_3 (dk_at dksX10_readsStep_6 3 rfl rfl)
theorem dX10_readsStep_148 : decode cX10_readsStep 148 = .ok (.bipush 60, 2) := dk_16 60 (dk_at dksX10_readsStep_6 4 rfl rfl)
theorem dX10_readsStep_150 : decode cX10_readsStep 150 = .ok (.invokevirtual 166, 3) := dk_182 0 166 (dk_at dksX10_readsStep_6 6 rfl rfl)
theorem dX10_readsStep_153 : decode cX10_readsStep 153 = .ok (.iastore, 1) := dk_79 (dk_at dksX10_readsStep_6 9 rfl rfl)
theorem dX10_readsStep_154 : decode cX10_readsStep 154 = .ok (.aload_n 0, 1) := dk_42 (dk_at dksX10_readsStep_6 10 rfl rfl)
theorem dX10_readsStep_155 : decode cX10_readsStep 155 = .ok (.bipush 91, 2) := dk_16 91 (dk_at dksX10_readsStep_6 11 rfl rfl)
theorem dX10_readsStep_157 : decode cX10_readsStep 157 = .ok (.invokevirtual 174, 3) := dk_182 0 174 (dk_at dksX10_readsStep_6 13 rfl rfl)
theorem dX10_readsStep_160 : decode cX10_readsStep 160 = .ok (.aload_n 0, 1) := dk_42 (dk_at dksX10_readsStep_6 16 rfl rfl)
theorem dX10_readsStep_161 : decode cX10_readsStep 161 = .ok (.invokevirtual 120, 3) := dk_182 0 120 (dk_at dksX10_readsStep_6 17 rfl rfl)
theorem dX10_readsStep_164 : decode cX10_readsStep 164 = .ok (.aload_n 0, 1) := dk_42 (dk_at dksX10_readsStep_6 20 rfl rfl)
theorem dX10_readsStep_165 : decode cX10_readsStep 165 = .ok (.getfield 114, 3) := dk_180 0 114 (dk_at dksX10_readsStep_6 21 rfl rfl)
theorem dX10_readsStep_168 : decode cX10_readsStep 168 = .ok (.ifCond .ne 27, 3) := dk_154 0 27 (dk_at dksX10_readsStep_7 0 rfl rfl)
theorem dX10_readsStep_171 : decode cX10_readsStep 171 = .ok (.aload_n 0, 1) := dk_42 (dk_at dksX10_readsStep_7 3 rfl rfl)
theorem dX10_readsStep_172 : decode cX10_readsStep 172 = .ok (.aload_n 0, 1) := dk_42 (dk_at dksX10_readsStep_7 4 rfl rfl)
theorem dX10_readsStep_173 : decode cX10_readsStep 173 = .ok (.getfield 107, 3) := dk_180 0 107 (dk_at dksX10_readsStep_7 5 rfl rfl)
theorem dX10_readsStep_176 : decode cX10_readsStep 176 = .ok (.invokevirtual 110, 3) := dk_182 0 110 (dk_at dksX10_readsStep_7 8 rfl rfl)
theorem dX10_readsStep_179 : decode cX10_readsStep 179 = .ok (.bipush 93, 2) := dk_16 93 (dk_at dksX10_readsStep_7 11 rfl rfl)
theorem dX10_readsStep_181 : decode cX10_readsStep 181 = .ok (.if_icmp .eq 14, 3) := dk_159 0 14 (dk_at dksX10_readsStep_7 13 rfl rfl)
theorem dX10_readsStep_184 : decode cX10_readsStep 184 = .ok (.aload_n 0, 1) := dk_42 (dk_at dksX10_readsStep_7 16 rfl rfl)
theorem dX10_readsStep_185 : decode cX10_readsStep 185 = .ok (.invokevirtual 257, 3) := dk_182 1 1 (dk_at dksX10_readsStep_7 17 rfl rfl)
theorem dX10_readsStep_188 : decode cX10_readsStep 188 = .ok (.aload_n 0, 1) := dk_42 (dk_at dksX10_readsStep_7 20 rfl rfl)
theorem dX10_readsStep_189 : decode cX10_readsStep 189 = .ok (.invokevirtual 120, 3) := dk_182 0 120 (dk_at dksX10_readsStep_7 21 rfl rfl)
theorem dX10_readsStep_192 : decode cX10_readsStep 192 = .ok (.goto (-28), 3) := dk_167 255 228 (dk_at dksX10_readsStep_8 0 rfl rfl)
theorem dX10_readsStep_195 : decode cX10_readsStep 195 = .ok (.aload_n 0, 1) := dk_42 (dk_at dksX10_readsStep_8 3 rfl rfl)
theorem dX10_readsStep_196 : decode cX10_readsStep 196 = .ok (.bipush 93, 2) := dk_16 93 (dk_at dksX10_readsStep_8 4 rfl rfl)
theorem dX10_readsStep_198 : decode cX10_readsStep 198 = .ok (.invokevirtual 174, 3) := dk_182 0 174 (dk_at dksX10_readsStep_8 6 rfl rfl)
theorem dX10_readsStep_201 : decode cX10_readsStep 201 = .ok (.aload_n 0, 1) := dk_42 (dk_at dksX10_readsStep_8 9 rfl rfl)
theorem dX10_readsStep_202 : decode cX10_readsStep 202 = .ok (.dup, 1) := dk_89 (dk_at dksX10_readsStep_8 10 rfl rfl)
theorem dX10_readsStep_203 : decode cX10_readsStep 203 = .ok (.getfield 157, 3) := dk_180 0 157 (dk_at dksX10_readsStep_8 11 rfl rfl)
theorem dX10_readsStep_206 : decode cX10_readsStep 206 = .ok (.iconst 1, 1) := dk_4 (dk_at dksX10_readsStep_8 14 rfl rfl)
theorem dX10_readsStep_207 : decode cX10_readsStep 207 = .ok (.isub, 1) := dk_100 (dk_at dksX10_readsStep_8 15 rfl rfl)
theorem dX10_readsStep_208 : decode cX10_readsStep 208 = .ok (.putfield 157, 3) := dk_181 0 157 (dk_at dksX10_readsStep_8 16 rfl rfl)
theorem dX10_readsStep_211 : decode cX10_readsStep 211 = .ok (.aload_n 2, 1) := dk_44 (dk_at dksX10_readsStep_8 19 rfl rfl)
theorem dX10_readsStep_212 : decode cX10_readsStep 212 = .ok (.iconst 3, 1) := dk_6 (dk_at dksX10_readsStep_8 20 rfl rfl)
theorem dX10_readsStep_213 : decode cX10_readsStep 213 = .ok (.aload_n 0, 1) := dk_42 (dk_at dksX10_readsStep_8 21 rfl rfl)
theorem dX10_readsStep_214 : decode cX10_readsStep 214 = .ok (.getfield 254, 3) := dk_180 0 254 (dk_at dksX10_readsStep_9 0 rfl rfl)
theorem dX10_readsStep_217 : decode cX10_readsStep 217 = .ok (.iastore, 1) := dk_79 (dk_at dksX10_readsStep_9 3 rfl rfl)
theorem dX10_readsStep_218 : decode cX10_readsStep 218 = .ok (.aload_n 0, 1) := dk_42 (dk_at dksX10_readsStep_9 4 rfl rfl)
theorem dX10_readsStep_219 : decode cX10_readsStep 219 = .ok (.bipush 59, 2) := dk_16 59 (dk_at dksX10_readsStep_9 5 rfl rfl)
theorem dX10_readsStep_221 : decode cX10_readsStep 221 = .ok (.invokevirtual 174, 3) := dk_182 0 174 (dk_at dksX10_readsStep_9 7 rfl rfl)
theorem dX10_readsStep_224 : decode cX10_readsStep 224 = .ok (.return_, 1) := dk_177 (dk_at dksX10_readsStep_9 10 rfl rfl)
abbrev cX10_stepHere : ByteArray := prog_32_method_43_code
def yX10_stepHere : MethodName := ⟨RX10, "stepHere", "()I"⟩
def dkwX10_stepHere_4 : List UInt8 := [16, 7, 4, 16, 9, 16, 14, 3, 182, 0, 147, 153, 0, 7, 8, 167, 0, 4, 2, 172]
abbrev dktX10_stepHere_4 : List UInt8 := dkwX10_stepHere_4 ++ []
def dkwX10_stepHere_3 : List UInt8 := [153, 0, 5, 6, 172, 42, 7, 4, 16, 25, 3, 3, 3, 182, 0, 147, 153, 0, 5, 7, 172, 42, 4]
abbrev dktX10_stepHere_3 : List UInt8 := dkwX10_stepHere_3 ++ dktX10_stepHere_4
def dkwX10_stepHere_2 : List UInt8 := [182, 0, 147, 153, 0, 5, 5, 172, 42, 16, 16, 16, 15, 16, 21, 16, 18, 3, 3, 182, 0, 147]
abbrev dktX10_stepHere_2 : List UInt8 := dkwX10_stepHere_2 ++ dktX10_stepHere_3
def dkwX10_stepHere_1 : List UInt8 := [16, 9, 8, 16, 22, 8, 182, 0, 147, 153, 0, 5, 4, 172, 42, 6, 16, 8, 8, 8, 16, 18, 3]
abbrev dktX10_stepHere_1 : List UInt8 := dkwX10_stepHere_1 ++ dktX10_stepHere_2
def dkwX10_stepHere_0 : List UInt8 := [42, 16, 20, 8, 16, 12, 16, 12, 3, 3, 182, 0, 147, 153, 0, 5, 3, 172, 42, 16, 7, 16, 18]
abbrev dktX10_stepHere_0 : List UInt8 := dkwX10_stepHere_0 ++ dktX10_stepHere_1
theorem dksX10_stepHere_0 : cX10_stepHere.data.toList.drop 0 = dktX10_stepHere_0 := by decide +kernel
theorem dksX10_stepHere_1 : cX10_stepHere.data.toList.drop 23 = dktX10_stepHere_1 := dk_seg dksX10_stepHere_0 23 rfl rfl
theorem dksX10_stepHere_2 : cX10_stepHere.data.toList.drop 46 = dktX10_stepHere_2 := dk_seg dksX10_stepHere_1 23 rfl rfl
theorem dksX10_stepHere_3 : cX10_stepHere.data.toList.drop 68 = dktX10_stepHere_3 := dk_seg dksX10_stepHere_2 22 rfl rfl
theorem dksX10_stepHere_4 : cX10_stepHere.data.toList.drop 91 = dktX10_stepHere_4 := dk_seg dksX10_stepHere_3 23 rfl rfl
theorem dX10_stepHere_0 : decode cX10_stepHere 0 = .ok (.aload_n 0, 1) := dk_42 (dk_at dksX10_stepHere_0 0 rfl rfl)
theorem dX10_stepHere_1 : decode cX10_stepHere 1 = .ok (.bipush 20, 2) := dk_16 20 (dk_at dksX10_stepHere_0 1 rfl rfl)
theorem dX10_stepHere_3 : decode cX10_stepHere 3 = .ok (.iconst 5, 1) := dk_8 (dk_at dksX10_stepHere_0 3 rfl rfl)
theorem dX10_stepHere_4 : decode cX10_stepHere 4 = .ok (.bipush 12, 2) := dk_16 12 (dk_at dksX10_stepHere_0 4 rfl rfl)
theorem dX10_stepHere_6 : decode cX10_stepHere 6 = .ok (.bipush 12, 2) := dk_16 12 (dk_at dksX10_stepHere_0 6 rfl rfl)
theorem dX10_stepHere_8 : decode cX10_stepHere 8 = .ok (.iconst 0, 1) := dk_3 (dk_at dksX10_stepHere_0 8 rfl rfl)
theorem dX10_stepHere_9 : decode cX10_stepHere 9 = .ok (.iconst 0, 1) := dk_3 (dk_at dksX10_stepHere_0 9 rfl rfl)
theorem dX10_stepHere_10 : decode cX10_stepHere 10 = .ok (.invokevirtual 147, 3) := dk_182 0 147 (dk_at dksX10_stepHere_0 10 rfl rfl)
theorem dX10_stepHere_13 : decode cX10_stepHere 13 = .ok (.ifCond .eq 5, 3) := dk_153 0 5 (dk_at dksX10_stepHere_0 13 rfl rfl)
theorem dX10_stepHere_16 : decode cX10_stepHere 16 = .ok (.iconst 0, 1) := dk_3 (dk_at dksX10_stepHere_0 16 rfl rfl)
theorem dX10_stepHere_17 : decode cX10_stepHere 17 = .ok (.ireturn, 1) := dk_172 (dk_at dksX10_stepHere_0 17 rfl rfl)
theorem dX10_stepHere_18 : decode cX10_stepHere 18 = .ok (.aload_n 0, 1) := dk_42 (dk_at dksX10_stepHere_0 18 rfl rfl)
theorem dX10_stepHere_19 : decode cX10_stepHere 19 = .ok (.bipush 7, 2) := dk_16 7 (dk_at dksX10_stepHere_0 19 rfl rfl)
theorem dX10_stepHere_21 : decode cX10_stepHere 21 = .ok (.bipush 18, 2) := dk_16 18 (dk_at dksX10_stepHere_0 21 rfl rfl)
theorem dX10_stepHere_23 : decode cX10_stepHere 23 = .ok (.bipush 9, 2) := dk_16 9 (dk_at dksX10_stepHere_1 0 rfl rfl)
theorem dX10_stepHere_25 : decode cX10_stepHere 25 = .ok (.iconst 5, 1) := dk_8 (dk_at dksX10_stepHere_1 2 rfl rfl)
theorem dX10_stepHere_26 : decode cX10_stepHere 26 = .ok (.bipush 22, 2) := dk_16 22 (dk_at dksX10_stepHere_1 3 rfl rfl)
theorem dX10_stepHere_28 : decode cX10_stepHere 28 = .ok (.iconst 5, 1) := dk_8 (dk_at dksX10_stepHere_1 5 rfl rfl)
theorem dX10_stepHere_29 : decode cX10_stepHere 29 = .ok (.invokevirtual 147, 3) := dk_182 0 147 (dk_at dksX10_stepHere_1 6 rfl rfl)
theorem dX10_stepHere_32 : decode cX10_stepHere 32 = .ok (.ifCond .eq 5, 3) := dk_153 0 5 (dk_at dksX10_stepHere_1 9 rfl rfl)
theorem dX10_stepHere_35 : decode cX10_stepHere 35 = .ok (.iconst 1, 1) := dk_4 (dk_at dksX10_stepHere_1 12 rfl rfl)
theorem dX10_stepHere_36 : decode cX10_stepHere 36 = .ok (.ireturn, 1) := dk_172 (dk_at dksX10_stepHere_1 13 rfl rfl)
theorem dX10_stepHere_37 : decode cX10_stepHere 37 = .ok (.aload_n 0, 1) := dk_42 (dk_at dksX10_stepHere_1 14 rfl rfl)
theorem dX10_stepHere_38 : decode cX10_stepHere 38 = .ok (.iconst 3, 1) := dk_6 (dk_at dksX10_stepHere_1 15 rfl rfl)
theorem dX10_stepHere_39 : decode cX10_stepHere 39 = .ok (.bipush 8, 2) := dk_16 8 (dk_at dksX10_stepHere_1 16 rfl rfl)
theorem dX10_stepHere_41 : decode cX10_stepHere 41 = .ok (.iconst 5, 1) := dk_8 (dk_at dksX10_stepHere_1 18 rfl rfl)
theorem dX10_stepHere_42 : decode cX10_stepHere 42 = .ok (.iconst 5, 1) := dk_8 (dk_at dksX10_stepHere_1 19 rfl rfl)
theorem dX10_stepHere_43 : decode cX10_stepHere 43 = .ok (.bipush 18, 2) := dk_16 18 (dk_at dksX10_stepHere_1 20 rfl rfl)
theorem dX10_stepHere_45 : decode cX10_stepHere 45 = .ok (.iconst 0, 1) := dk_3 (dk_at dksX10_stepHere_1 22 rfl rfl)
theorem dX10_stepHere_46 : decode cX10_stepHere 46 = .ok (.invokevirtual 147, 3) := dk_182 0 147 (dk_at dksX10_stepHere_2 0 rfl rfl)
theorem dX10_stepHere_49 : decode cX10_stepHere 49 = .ok (.ifCond .eq 5, 3) := dk_153 0 5 (dk_at dksX10_stepHere_2 3 rfl rfl)
theorem dX10_stepHere_52 : decode cX10_stepHere 52 = .ok (.iconst 2, 1) := dk_5 (dk_at dksX10_stepHere_2 6 rfl rfl)
theorem dX10_stepHere_53 : decode cX10_stepHere 53 = .ok (.ireturn, 1) := dk_172 (dk_at dksX10_stepHere_2 7 rfl rfl)
theorem dX10_stepHere_54 : decode cX10_stepHere 54 = .ok (.aload_n 0, 1) := dk_42 (dk_at dksX10_stepHere_2 8 rfl rfl)
theorem dX10_stepHere_55 : decode cX10_stepHere 55 = .ok (.bipush 16, 2) := dk_16 16 (dk_at dksX10_stepHere_2 9 rfl rfl)
theorem dX10_stepHere_57 : decode cX10_stepHere 57 = .ok (.bipush 15, 2) := dk_16 15 (dk_at dksX10_stepHere_2 11 rfl rfl)
theorem dX10_stepHere_59 : decode cX10_stepHere 59 = .ok (.bipush 21, 2) := dk_16 21 (dk_at dksX10_stepHere_2 13 rfl rfl)
theorem dX10_stepHere_61 : decode cX10_stepHere 61 = .ok (.bipush 18, 2) := dk_16 18 (dk_at dksX10_stepHere_2 15 rfl rfl)
theorem dX10_stepHere_63 : decode cX10_stepHere 63 = .ok (.iconst 0, 1) := dk_3 (dk_at dksX10_stepHere_2 17 rfl rfl)
theorem dX10_stepHere_64 : decode cX10_stepHere 64 = .ok (.iconst 0, 1) := dk_3 (dk_at dksX10_stepHere_2 18 rfl rfl)
theorem dX10_stepHere_65 : decode cX10_stepHere 65 = .ok (.invokevirtual 147, 3) := dk_182 0 147 (dk_at dksX10_stepHere_2 19 rfl rfl)
theorem dX10_stepHere_68 : decode cX10_stepHere 68 = .ok (.ifCond .eq 5, 3) := dk_153 0 5 (dk_at dksX10_stepHere_3 0 rfl rfl)
theorem dX10_stepHere_71 : decode cX10_stepHere 71 = .ok (.iconst 3, 1) := dk_6 (dk_at dksX10_stepHere_3 3 rfl rfl)
theorem dX10_stepHere_72 : decode cX10_stepHere 72 = .ok (.ireturn, 1) := dk_172 (dk_at dksX10_stepHere_3 4 rfl rfl)
theorem dX10_stepHere_73 : decode cX10_stepHere 73 = .ok (.aload_n 0, 1) := dk_42 (dk_at dksX10_stepHere_3 5 rfl rfl)
theorem dX10_stepHere_74 : decode cX10_stepHere 74 = .ok (.iconst 4, 1) := dk_7 (dk_at dksX10_stepHere_3 6 rfl rfl)
theorem dX10_stepHere_75 : decode cX10_stepHere 75 = .ok (.iconst 1, 1) := dk_4 (dk_at dksX10_stepHere_3 7 rfl rfl)
theorem dX10_stepHere_76 : decode cX10_stepHere 76 = .ok (.bipush 25, 2) := dk_16 25 (dk_at dksX10_stepHere_3 8 rfl rfl)
theorem dX10_stepHere_78 : decode cX10_stepHere 78 = .ok (.iconst 0, 1) := dk_3 (dk_at dksX10_stepHere_3 10 rfl rfl)
theorem dX10_stepHere_79 : decode cX10_stepHere 79 = .ok (.iconst 0, 1) := dk_3 (dk_at dksX10_stepHere_3 11 rfl rfl)
theorem dX10_stepHere_80 : decode cX10_stepHere 80 = .ok (.iconst 0, 1) := dk_3 (dk_at dksX10_stepHere_3 12 rfl rfl)
theorem dX10_stepHere_81 : decode cX10_stepHere 81 = .ok (.invokevirtual 147, 3) := dk_182 0 147 (dk_at dksX10_stepHere_3 13 rfl rfl)
theorem dX10_stepHere_84 : decode cX10_stepHere 84 = .ok (.ifCond .eq 5, 3) := dk_153 0 5 (dk_at dksX10_stepHere_3 16 rfl rfl)
theorem dX10_stepHere_87 : decode cX10_stepHere 87 = .ok (.iconst 4, 1) := dk_7 (dk_at dksX10_stepHere_3 19 rfl rfl)
theorem dX10_stepHere_88 : decode cX10_stepHere 88 = .ok (.ireturn, 1) := dk_172 (dk_at dksX10_stepHere_3 20 rfl rfl)
theorem dX10_stepHere_89 : decode cX10_stepHere 89 = .ok (.aload_n 0, 1) := dk_42 (dk_at dksX10_stepHere_3 21 rfl rfl)
theorem dX10_stepHere_90 : decode cX10_stepHere 90 = .ok (.iconst 1, 1) := dk_4 (dk_at dksX10_stepHere_3 22 rfl rfl)
theorem dX10_stepHere_91 : decode cX10_stepHere 91 = .ok (.bipush 7, 2) := dk_16 7 (dk_at dksX10_stepHere_4 0 rfl rfl)
theorem dX10_stepHere_93 : decode cX10_stepHere 93 = .ok (.iconst 1, 1) := dk_4 (dk_at dksX10_stepHere_4 2 rfl rfl)
theorem dX10_stepHere_94 : decode cX10_stepHere 94 = .ok (.bipush 9, 2) := dk_16 9 (dk_at dksX10_stepHere_4 3 rfl rfl)
theorem dX10_stepHere_96 : decode cX10_stepHere 96 = .ok (.bipush 14, 2) := dk_16 14 (dk_at dksX10_stepHere_4 5 rfl rfl)
theorem dX10_stepHere_98 : decode cX10_stepHere 98 = .ok (.iconst 0, 1) := dk_3 (dk_at dksX10_stepHere_4 7 rfl rfl)
theorem dX10_stepHere_99 : decode cX10_stepHere 99 = .ok (.invokevirtual 147, 3) := dk_182 0 147 (dk_at dksX10_stepHere_4 8 rfl rfl)
theorem dX10_stepHere_102 : decode cX10_stepHere 102 = .ok (.ifCond .eq 7, 3) := dk_153 0 7 (dk_at dksX10_stepHere_4 11 rfl rfl)
theorem dX10_stepHere_105 : decode cX10_stepHere 105 = .ok (.iconst 5, 1) := dk_8 (dk_at dksX10_stepHere_4 14 rfl rfl)
theorem dX10_stepHere_106 : decode cX10_stepHere 106 = .ok (.goto 4, 3) := dk_167 0 4 (dk_at dksX10_stepHere_4 15 rfl rfl)
theorem dX10_stepHere_109 : decode cX10_stepHere 109 = .ok (.iconst (-1), 1) := dk_2 (dk_at dksX10_stepHere_4 18 rfl rfl)
theorem dX10_stepHere_110 : decode cX10_stepHere 110 = .ok (.ireturn, 1) := dk_172 (dk_at dksX10_stepHere_4 19 rfl rfl)
abbrev cX10_copies : ByteArray := prog_32_method_32_code
def yX10_copies : MethodName := ⟨RX10, "copies", "([I[I)V"⟩
def dkwX10_copies_0 : List UInt8 := [3, 61, 28, 16, 79, 162, 0, 15, 43, 28, 42, 28, 46, 79, 132, 2, 1, 167, 255, 241, 177]
abbrev dktX10_copies_0 : List UInt8 := dkwX10_copies_0 ++ []
theorem dksX10_copies_0 : cX10_copies.data.toList.drop 0 = dktX10_copies_0 := by decide +kernel
theorem dX10_copies_0 : decode cX10_copies 0 = .ok (.iconst 0, 1) := dk_3 (dk_at dksX10_copies_0 0 rfl rfl)
theorem dX10_copies_1 : decode cX10_copies 1 = .ok (.istore_n 2, 1) := dk_61 (dk_at dksX10_copies_0 1 rfl rfl)
theorem dX10_copies_2 : decode cX10_copies 2 = .ok (.iload_n 2, 1) := dk_28 (dk_at dksX10_copies_0 2 rfl rfl)
theorem dX10_copies_3 : decode cX10_copies 3 = .ok (.bipush 79, 2) := dk_16 79 (dk_at dksX10_copies_0 3 rfl rfl)
theorem dX10_copies_5 : decode cX10_copies 5 = .ok (.if_icmp .ge 15, 3) := dk_162 0 15 (dk_at dksX10_copies_0 5 rfl rfl)
theorem dX10_copies_8 : decode cX10_copies 8 = .ok (.aload_n 1, 1) := dk_43 (dk_at dksX10_copies_0 8 rfl rfl)
theorem dX10_copies_9 : decode cX10_copies 9 = .ok (.iload_n 2, 1) := dk_28 (dk_at dksX10_copies_0 9 rfl rfl)
theorem dX10_copies_10 : decode cX10_copies 10 = .ok (.aload_n 0, 1) := dk_42 (dk_at dksX10_copies_0 10 rfl rfl)
theorem dX10_copies_11 : decode cX10_copies 11 = .ok (.iload_n 2, 1) := dk_28 (dk_at dksX10_copies_0 11 rfl rfl)
theorem dX10_copies_12 : decode cX10_copies 12 = .ok (.iaload, 1) := dk_46 (dk_at dksX10_copies_0 12 rfl rfl)
theorem dX10_copies_13 : decode cX10_copies 13 = .ok (.iastore, 1) := dk_79 (dk_at dksX10_copies_0 13 rfl rfl)
theorem dX10_copies_14 : decode cX10_copies 14 = .ok (.iinc 2 1, 3) := dk_132 2 1 (dk_at dksX10_copies_0 14 rfl rfl)
theorem dX10_copies_17 : decode cX10_copies 17 = .ok (.goto (-15), 3) := dk_167 255 241 (dk_at dksX10_copies_0 17 rfl rfl)
theorem dX10_copies_20 : decode cX10_copies 20 = .ok (.return_, 1) := dk_177 (dk_at dksX10_copies_0 20 rfl rfl)
abbrev cX10_goes : ByteArray := prog_32_method_59_code
def yX10_goes : MethodName := ⟨RX10, "goes", "(II)V"⟩
def dkwX10_goes_6 : List UInt8 := [181, 0, 204, 42, 180, 0, 64, 29, 50, 6, 46, 62, 167, 255, 106, 177]
abbrev dktX10_goes_6 : List UInt8 := dkwX10_goes_6 ++ []
def dkwX10_goes_5 : List UInt8 := [167, 0, 4, 3, 96, 181, 1, 56, 42, 89, 180, 0, 204, 21, 4, 153, 0, 7, 3, 167, 0, 4, 4, 96]
abbrev dktX10_goes_5 : List UInt8 := dkwX10_goes_5 ++ dktX10_goes_6
def dkwX10_goes_4 : List UInt8 := [42, 180, 0, 64, 29, 50, 182, 1, 52, 54, 4, 42, 89, 180, 1, 56, 21, 4, 153, 0, 7, 4]
abbrev dktX10_goes_4 : List UInt8 := dkwX10_goes_4 ++ dktX10_goes_5
def dkwX10_goes_3 : List UInt8 := [180, 0, 64, 29, 50, 6, 46, 182, 1, 49, 132, 4, 1, 167, 255, 215, 167, 0, 57, 42, 42, 180, 0, 67]
abbrev dktX10_goes_3 : List UInt8 := dkwX10_goes_3 ++ dktX10_goes_4
def dkwX10_goes_2 : List UInt8 := [29, 50, 4, 46, 162, 0, 34, 42, 180, 1, 46, 17, 0, 200, 162, 0, 24, 42, 29, 4, 96, 42]
abbrev dktX10_goes_2 : List UInt8 := dkwX10_goes_2 ++ dktX10_goes_3
def dkwX10_goes_1 : List UInt8 := [181, 1, 46, 42, 180, 0, 64, 29, 50, 3, 46, 8, 160, 0, 53, 3, 54, 4, 21, 4, 42, 180, 0, 64]
abbrev dktX10_goes_1 : List UInt8 := dkwX10_goes_1 ++ dktX10_goes_2
def dkwX10_goes_0 : List UInt8 := [27, 62, 29, 28, 162, 0, 151, 42, 180, 1, 46, 17, 0, 200, 162, 0, 141, 42, 89, 180, 1, 46, 4, 96]
abbrev dktX10_goes_0 : List UInt8 := dkwX10_goes_0 ++ dktX10_goes_1
theorem dksX10_goes_0 : cX10_goes.data.toList.drop 0 = dktX10_goes_0 := by decide +kernel
theorem dksX10_goes_1 : cX10_goes.data.toList.drop 24 = dktX10_goes_1 := dk_seg dksX10_goes_0 24 rfl rfl
theorem dksX10_goes_2 : cX10_goes.data.toList.drop 48 = dktX10_goes_2 := dk_seg dksX10_goes_1 24 rfl rfl
theorem dksX10_goes_3 : cX10_goes.data.toList.drop 70 = dktX10_goes_3 := dk_seg dksX10_goes_2 22 rfl rfl
theorem dksX10_goes_4 : cX10_goes.data.toList.drop 94 = dktX10_goes_4 := dk_seg dksX10_goes_3 24 rfl rfl
theorem dksX10_goes_5 : cX10_goes.data.toList.drop 116 = dktX10_goes_5 := dk_seg dksX10_goes_4 22 rfl rfl
theorem dksX10_goes_6 : cX10_goes.data.toList.drop 140 = dktX10_goes_6 := dk_seg dksX10_goes_5 24 rfl rfl
theorem dX10_goes_0 : decode cX10_goes 0 = .ok (.iload_n 1, 1) := dk_27 (dk_at dksX10_goes_0 0 rfl rfl)
theorem dX10_goes_1 : decode cX10_goes 1 = .ok (.istore_n 3, 1) := dk_62 (dk_at dksX10_goes_0 1 rfl rfl)
theorem dX10_goes_2 : decode cX10_goes 2 = .ok (.iload_n 3, 1) := dk_29 (dk_at dksX10_goes_0 2 rfl rfl)
theorem dX10_goes_3 : decode cX10_goes 3 = .ok (.iload_n 2, 1) := dk_28 (dk_at dksX10_goes_0 3 rfl rfl)
theorem dX10_goes_4 : decode cX10_goes 4 = .ok (.if_icmp .ge 151, 3) := dk_162 0 151 (dk_at dksX10_goes_0 4 rfl rfl)
theorem dX10_goes_7 : decode cX10_goes 7 = .ok (.aload_n 0, 1) := dk_42 (dk_at dksX10_goes_0 7 rfl rfl)
theorem dX10_goes_8 : decode cX10_goes 8 = .ok (.getfield 302, 3) := dk_180 1 46 (dk_at dksX10_goes_0 8 rfl rfl)
theorem dX10_goes_11 : decode cX10_goes 11 = .ok (.sipush 200, 3) := dk_17 0 200 (dk_at dksX10_goes_0 11 rfl rfl)
theorem dX10_goes_14 : decode cX10_goes 14 = .ok (.if_icmp .ge 141, 3) := dk_162 0 141 (dk_at dksX10_goes_0 14 rfl rfl)
theorem dX10_goes_17 : decode cX10_goes 17 = .ok (.aload_n 0, 1) := dk_42 (dk_at dksX10_goes_0 17 rfl rfl)
theorem dX10_goes_18 : decode cX10_goes 18 = .ok (.dup, 1) := dk_89 (dk_at dksX10_goes_0 18 rfl rfl)
theorem dX10_goes_19 : decode cX10_goes 19 = .ok (.getfield 302, 3) := dk_180 1 46 (dk_at dksX10_goes_0 19 rfl rfl)
theorem dX10_goes_22 : decode cX10_goes 22 = .ok (.iconst 1, 1) := dk_4 (dk_at dksX10_goes_0 22 rfl rfl)
theorem dX10_goes_23 : decode cX10_goes 23 = .ok (.iadd, 1) := dk_96 (dk_at dksX10_goes_0 23 rfl rfl)
theorem dX10_goes_24 : decode cX10_goes 24 = .ok (.putfield 302, 3) := dk_181 1 46 (dk_at dksX10_goes_1 0 rfl rfl)
theorem dX10_goes_27 : decode cX10_goes 27 = .ok (.aload_n 0, 1) := dk_42 (dk_at dksX10_goes_1 3 rfl rfl)
theorem dX10_goes_28 : decode cX10_goes 28 = .ok (.getfield 64, 3) := dk_180 0 64 (dk_at dksX10_goes_1 4 rfl rfl)
theorem dX10_goes_31 : decode cX10_goes 31 = .ok (.iload_n 3, 1) := dk_29 (dk_at dksX10_goes_1 7 rfl rfl)
theorem dX10_goes_32 : decode cX10_goes 32 = .ok (.aaload, 1) := dk_50 (dk_at dksX10_goes_1 8 rfl rfl)
theorem dX10_goes_33 : decode cX10_goes 33 = .ok (.iconst 0, 1) := dk_3 (dk_at dksX10_goes_1 9 rfl rfl)
theorem dX10_goes_34 : decode cX10_goes 34 = .ok (.iaload, 1) := dk_46 (dk_at dksX10_goes_1 10 rfl rfl)
theorem dX10_goes_35 : decode cX10_goes 35 = .ok (.iconst 5, 1) := dk_8 (dk_at dksX10_goes_1 11 rfl rfl)
theorem dX10_goes_36 : decode cX10_goes 36 = .ok (.if_icmp .ne 53, 3) := dk_160 0 53 (dk_at dksX10_goes_1 12 rfl rfl)
theorem dX10_goes_39 : decode cX10_goes 39 = .ok (.iconst 0, 1) := dk_3 (dk_at dksX10_goes_1 15 rfl rfl)
theorem dX10_goes_40 : decode cX10_goes 40 = .ok (.istore 4, 2) := dk_54 4 (dk_at dksX10_goes_1 16 rfl rfl)
theorem dX10_goes_42 : decode cX10_goes 42 = .ok (.iload 4, 2) := dk_21 4 (dk_at dksX10_goes_1 18 rfl rfl)
theorem dX10_goes_44 : decode cX10_goes 44 = .ok (.aload_n 0, 1) := dk_42 (dk_at dksX10_goes_1 20 rfl rfl)
theorem dX10_goes_45 : decode cX10_goes 45 = .ok (.getfield 64, 3) := dk_180 0 64 (dk_at dksX10_goes_1 21 rfl rfl)
theorem dX10_goes_48 : decode cX10_goes 48 = .ok (.iload_n 3, 1) := dk_29 (dk_at dksX10_goes_2 0 rfl rfl)
theorem dX10_goes_49 : decode cX10_goes 49 = .ok (.aaload, 1) := dk_50 (dk_at dksX10_goes_2 1 rfl rfl)
theorem dX10_goes_50 : decode cX10_goes 50 = .ok (.iconst 1, 1) := dk_4 (dk_at dksX10_goes_2 2 rfl rfl)
theorem dX10_goes_51 : decode cX10_goes 51 = .ok (.iaload, 1) := dk_46 (dk_at dksX10_goes_2 3 rfl rfl)
theorem dX10_goes_52 : decode cX10_goes 52 = .ok (.if_icmp .ge 34, 3) := dk_162 0 34 (dk_at dksX10_goes_2 4 rfl rfl)
theorem dX10_goes_55 : decode cX10_goes 55 = .ok (.aload_n 0, 1) := dk_42 (dk_at dksX10_goes_2 7 rfl rfl)
theorem dX10_goes_56 : decode cX10_goes 56 = .ok (.getfield 302, 3) := dk_180 1 46 (dk_at dksX10_goes_2 8 rfl rfl)
theorem dX10_goes_59 : decode cX10_goes 59 = .ok (.sipush 200, 3) := dk_17 0 200 (dk_at dksX10_goes_2 11 rfl rfl)
theorem dX10_goes_62 : decode cX10_goes 62 = .ok (.if_icmp .ge 24, 3) := dk_162 0 24 (dk_at dksX10_goes_2 14 rfl rfl)
theorem dX10_goes_65 : decode cX10_goes 65 = .ok (.aload_n 0, 1) := dk_42 (dk_at dksX10_goes_2 17 rfl rfl)
theorem dX10_goes_66 : decode cX10_goes 66 = .ok (.iload_n 3, 1) := dk_29 (dk_at dksX10_goes_2 18 rfl rfl)
theorem dX10_goes_67 : decode cX10_goes 67 = .ok (.iconst 1, 1) := dk_4 (dk_at dksX10_goes_2 19 rfl rfl)
theorem dX10_goes_68 : decode cX10_goes 68 = .ok (.iadd, 1) := dk_96 (dk_at dksX10_goes_2 20 rfl rfl)
theorem dX10_goes_69 : decode cX10_goes 69 = .ok (.aload_n 0, 1) := dk_42 (dk_at dksX10_goes_2 21 rfl rfl)
theorem dX10_goes_70 : decode cX10_goes 70 = .ok (.getfield 64, 3) := dk_180 0 64 (dk_at dksX10_goes_3 0 rfl rfl)
theorem dX10_goes_73 : decode cX10_goes 73 = .ok (.iload_n 3, 1) := dk_29 (dk_at dksX10_goes_3 3 rfl rfl)
theorem dX10_goes_74 : decode cX10_goes 74 = .ok (.aaload, 1) := dk_50 (dk_at dksX10_goes_3 4 rfl rfl)
theorem dX10_goes_75 : decode cX10_goes 75 = .ok (.iconst 3, 1) := dk_6 (dk_at dksX10_goes_3 5 rfl rfl)
theorem dX10_goes_76 : decode cX10_goes 76 = .ok (.iaload, 1) := dk_46 (dk_at dksX10_goes_3 6 rfl rfl)
theorem dX10_goes_77 : decode cX10_goes 77 = .ok (.invokevirtual 305, 3) := dk_182 1 49 (dk_at dksX10_goes_3 7 rfl rfl)
theorem dX10_goes_80 : decode cX10_goes 80 = .ok (.iinc 4 1, 3) := dk_132 4 1 (dk_at dksX10_goes_3 10 rfl rfl)
theorem dX10_goes_83 : decode cX10_goes 83 = .ok (.goto (-41), 3) := dk_167 255 215 (dk_at dksX10_goes_3 13 rfl rfl)
theorem dX10_goes_86 : decode cX10_goes 86 = .ok (.goto 57, 3) := dk_167 0 57 (dk_at dksX10_goes_3 16 rfl rfl)
theorem dX10_goes_89 : decode cX10_goes 89 = .ok (.aload_n 0, 1) := dk_42 (dk_at dksX10_goes_3 19 rfl rfl)
theorem dX10_goes_90 : decode cX10_goes 90 = .ok (.aload_n 0, 1) := dk_42 (dk_at dksX10_goes_3 20 rfl rfl)
theorem dX10_goes_91 : decode cX10_goes 91 = .ok (.getfield 67, 3) := dk_180 0 67 (dk_at dksX10_goes_3 21 rfl rfl)
theorem dX10_goes_94 : decode cX10_goes 94 = .ok (.aload_n 0, 1) := dk_42 (dk_at dksX10_goes_4 0 rfl rfl)
theorem dX10_goes_95 : decode cX10_goes 95 = .ok (.getfield 64, 3) := dk_180 0 64 (dk_at dksX10_goes_4 1 rfl rfl)
theorem dX10_goes_98 : decode cX10_goes 98 = .ok (.iload_n 3, 1) := dk_29 (dk_at dksX10_goes_4 4 rfl rfl)
theorem dX10_goes_99 : decode cX10_goes 99 = .ok (.aaload, 1) := dk_50 (dk_at dksX10_goes_4 5 rfl rfl)
theorem dX10_goes_100 : decode cX10_goes 100 = .ok (.invokevirtual 308, 3) := dk_182 1 52 (dk_at dksX10_goes_4 6 rfl rfl)
theorem dX10_goes_103 : decode cX10_goes 103 = .ok (.istore 4, 2) := dk_54 4 (dk_at dksX10_goes_4 9 rfl rfl)
theorem dX10_goes_105 : decode cX10_goes 105 = .ok (.aload_n 0, 1) := dk_42 (dk_at dksX10_goes_4 11 rfl rfl)
theorem dX10_goes_106 : decode cX10_goes 106 = .ok (.dup, 1) := dk_89 (dk_at dksX10_goes_4 12 rfl rfl)
theorem dX10_goes_107 : decode cX10_goes 107 = .ok (.getfield 312, 3) := dk_180 1 56 (dk_at dksX10_goes_4 13 rfl rfl)
theorem dX10_goes_110 : decode cX10_goes 110 = .ok (.iload 4, 2) := dk_21 4 (dk_at dksX10_goes_4 16 rfl rfl)
theorem dX10_goes_112 : decode cX10_goes 112 = .ok (.ifCond .eq 7, 3) := dk_153 0 7 (dk_at dksX10_goes_4 18 rfl rfl)
theorem dX10_goes_115 : decode cX10_goes 115 = .ok (.iconst 1, 1) := dk_4 (dk_at dksX10_goes_4 21 rfl rfl)
theorem dX10_goes_116 : decode cX10_goes 116 = .ok (.goto 4, 3) := dk_167 0 4 (dk_at dksX10_goes_5 0 rfl rfl)
theorem dX10_goes_119 : decode cX10_goes 119 = .ok (.iconst 0, 1) := dk_3 (dk_at dksX10_goes_5 3 rfl rfl)
theorem dX10_goes_120 : decode cX10_goes 120 = .ok (.iadd, 1) := dk_96 (dk_at dksX10_goes_5 4 rfl rfl)
theorem dX10_goes_121 : decode cX10_goes 121 = .ok (.putfield 312, 3) := dk_181 1 56 (dk_at dksX10_goes_5 5 rfl rfl)
theorem dX10_goes_124 : decode cX10_goes 124 = .ok (.aload_n 0, 1) := dk_42 (dk_at dksX10_goes_5 8 rfl rfl)
theorem dX10_goes_125 : decode cX10_goes 125 = .ok (.dup, 1) := dk_89 (dk_at dksX10_goes_5 9 rfl rfl)
theorem dX10_goes_126 : decode cX10_goes 126 = .ok (.getfield 204, 3) := dk_180 0 204 (dk_at dksX10_goes_5 10 rfl rfl)
theorem dX10_goes_129 : decode cX10_goes 129 = .ok (.iload 4, 2) := dk_21 4 (dk_at dksX10_goes_5 13 rfl rfl)
theorem dX10_goes_131 : decode cX10_goes 131 = .ok (.ifCond .eq 7, 3) := dk_153 0 7 (dk_at dksX10_goes_5 15 rfl rfl)
theorem dX10_goes_134 : decode cX10_goes 134 = .ok (.iconst 0, 1) := dk_3 (dk_at dksX10_goes_5 18 rfl rfl)
theorem dX10_goes_135 : decode cX10_goes 135 = .ok (.goto 4, 3) := dk_167 0 4 (dk_at dksX10_goes_5 19 rfl rfl)
theorem dX10_goes_138 : decode cX10_goes 138 = .ok (.iconst 1, 1) := dk_4 (dk_at dksX10_goes_5 22 rfl rfl)
theorem dX10_goes_139 : decode cX10_goes 139 = .ok (.iadd, 1) := dk_96 (dk_at dksX10_goes_5 23 rfl rfl)
theorem dX10_goes_140 : decode cX10_goes 140 = .ok (.putfield 204, 3) := dk_181 0 204 (dk_at dksX10_goes_6 0 rfl rfl)
theorem dX10_goes_143 : decode cX10_goes 143 = .ok (.aload_n 0, 1) := dk_42 (dk_at dksX10_goes_6 3 rfl rfl)
theorem dX10_goes_144 : decode cX10_goes 144 = .ok (.getfield 64, 3) := dk_180 0 64 (dk_at dksX10_goes_6 4 rfl rfl)
theorem dX10_goes_147 : decode cX10_goes 147 = .ok (.iload_n 3, 1) := dk_29 (dk_at dksX10_goes_6 7 rfl rfl)
theorem dX10_goes_148 : decode cX10_goes 148 = .ok (.aaload, 1) := dk_50 (dk_at dksX10_goes_6 8 rfl rfl)
theorem dX10_goes_149 : decode cX10_goes 149 = .ok (.iconst 3, 1) := dk_6 (dk_at dksX10_goes_6 9 rfl rfl)
theorem dX10_goes_150 : decode cX10_goes 150 = .ok (.iaload, 1) := dk_46 (dk_at dksX10_goes_6 10 rfl rfl)
theorem dX10_goes_151 : decode cX10_goes 151 = .ok (.istore_n 3, 1) := dk_62 (dk_at dksX10_goes_6 11 rfl rfl)
theorem dX10_goes_152 : decode cX10_goes 152 = .ok (.goto (-150), 3) := dk_167 255 106 (dk_at dksX10_goes_6 12 rfl rfl)
theorem dX10_goes_155 : decode cX10_goes 155 = .ok (.return_, 1) := dk_177 (dk_at dksX10_goes_6 15 rfl rfl)
abbrev cX10_does : ByteArray := prog_32_method_58_code
def yX10_does : MethodName := ⟨RX10, "does", "([I[I)Z"⟩
def dkwX10_does_5 : List UInt8 := [182, 1, 42, 4, 172]
abbrev dktX10_does_5 : List UInt8 := dkwX10_does_5 ++ []
def dkwX10_does_4 : List UInt8 := [16, 77, 92, 46, 29, 100, 79, 4, 172, 43, 16, 78, 46, 17, 1, 144, 161, 0, 5, 3, 172, 42, 43]
abbrev dktX10_does_4 : List UInt8 := dkwX10_does_4 ++ dktX10_does_5
def dkwX10_does_3 : List UInt8 := [154, 0, 5, 3, 172, 43, 3, 29, 96, 3, 79, 4, 172, 43, 16, 77, 46, 29, 162, 0, 5, 3, 172, 43]
abbrev dktX10_does_3 : List UInt8 := dkwX10_does_3 ++ dktX10_does_4
def dkwX10_does_2 : List UInt8 := [42, 43, 44, 5, 46, 29, 182, 1, 35, 172, 43, 29, 44, 5, 46, 184, 1, 39, 172, 43, 3, 29, 96, 46]
abbrev dktX10_does_2 : List UInt8 := dkwX10_does_2 ++ dktX10_does_3
def dkwX10_does_1 : List UInt8 := [170, 0, 0, 0, 86, 0, 0, 0, 0, 0, 0, 0, 3, 0, 0, 0, 29, 0, 0, 0, 39, 0, 0, 0, 48, 0, 0, 0, 66]
abbrev dktX10_does_1 : List UInt8 := dkwX10_does_1 ++ dktX10_does_2
def dkwX10_does_0 : List UInt8 := [44, 4, 46, 62, 44, 3, 46]
abbrev dktX10_does_0 : List UInt8 := dkwX10_does_0 ++ dktX10_does_1
theorem dksX10_does_0 : cX10_does.data.toList.drop 0 = dktX10_does_0 := by decide +kernel
theorem dksX10_does_1 : cX10_does.data.toList.drop 7 = dktX10_does_1 := dk_seg dksX10_does_0 7 rfl rfl
theorem dksX10_does_2 : cX10_does.data.toList.drop 36 = dktX10_does_2 := dk_seg dksX10_does_1 29 rfl rfl
theorem dksX10_does_3 : cX10_does.data.toList.drop 60 = dktX10_does_3 := dk_seg dksX10_does_2 24 rfl rfl
theorem dksX10_does_4 : cX10_does.data.toList.drop 84 = dktX10_does_4 := dk_seg dksX10_does_3 24 rfl rfl
theorem dksX10_does_5 : cX10_does.data.toList.drop 107 = dktX10_does_5 := dk_seg dksX10_does_4 23 rfl rfl
theorem dX10_does_0 : decode cX10_does 0 = .ok (.aload_n 2, 1) := dk_44 (dk_at dksX10_does_0 0 rfl rfl)
theorem dX10_does_1 : decode cX10_does 1 = .ok (.iconst 1, 1) := dk_4 (dk_at dksX10_does_0 1 rfl rfl)
theorem dX10_does_2 : decode cX10_does 2 = .ok (.iaload, 1) := dk_46 (dk_at dksX10_does_0 2 rfl rfl)
theorem dX10_does_3 : decode cX10_does 3 = .ok (.istore_n 3, 1) := dk_62 (dk_at dksX10_does_0 3 rfl rfl)
theorem dX10_does_4 : decode cX10_does 4 = .ok (.aload_n 2, 1) := dk_44 (dk_at dksX10_does_0 4 rfl rfl)
theorem dX10_does_5 : decode cX10_does 5 = .ok (.iconst 0, 1) := dk_3 (dk_at dksX10_does_0 5 rfl rfl)
theorem dX10_does_6 : decode cX10_does 6 = .ok (.iaload, 1) := dk_46 (dk_at dksX10_does_0 6 rfl rfl)
theorem dX10_does_7 : decode cX10_does 7 = .ok (.tableswitch 86 0 3 #[29, 39, 48, 66], 29) := by decide +kernel
theorem dX10_does_36 : decode cX10_does 36 = .ok (.aload_n 0, 1) := dk_42 (dk_at dksX10_does_2 0 rfl rfl)
theorem dX10_does_37 : decode cX10_does 37 = .ok (.aload_n 1, 1) := dk_43 (dk_at dksX10_does_2 1 rfl rfl)
theorem dX10_does_38 : decode cX10_does 38 = .ok (.aload_n 2, 1) := dk_44 (dk_at dksX10_does_2 2 rfl rfl)
theorem dX10_does_39 : decode cX10_does 39 = .ok (.iconst 2, 1) := dk_5 (dk_at dksX10_does_2 3 rfl rfl)
theorem dX10_does_40 : decode cX10_does 40 = .ok (.iaload, 1) := dk_46 (dk_at dksX10_does_2 4 rfl rfl)
theorem dX10_does_41 : decode cX10_does 41 = .ok (.iload_n 3, 1) := dk_29 (dk_at dksX10_does_2 5 rfl rfl)
theorem dX10_does_42 : decode cX10_does 42 = .ok (.invokevirtual 291, 3) := dk_182 1 35 (dk_at dksX10_does_2 6 rfl rfl)
theorem dX10_does_45 : decode cX10_does 45 = .ok (.ireturn, 1) := dk_172 (dk_at dksX10_does_2 9 rfl rfl)
theorem dX10_does_46 : decode cX10_does 46 = .ok (.aload_n 1, 1) := dk_43 (dk_at dksX10_does_2 10 rfl rfl)
theorem dX10_does_47 : decode cX10_does 47 = .ok (.iload_n 3, 1) := dk_29 (dk_at dksX10_does_2 11 rfl rfl)
theorem dX10_does_48 : decode cX10_does 48 = .ok (.aload_n 2, 1) := dk_44 (dk_at dksX10_does_2 12 rfl rfl)
theorem dX10_does_49 : decode cX10_does 49 = .ok (.iconst 2, 1) := dk_5 (dk_at dksX10_does_2 13 rfl rfl)
theorem dX10_does_50 : decode cX10_does 50 = .ok (.iaload, 1) := dk_46 (dk_at dksX10_does_2 14 rfl rfl)
theorem dX10_does_51 : decode cX10_does 51 = .ok (.invokestatic 295, 3) := dk_184 1 39 (dk_at dksX10_does_2 15 rfl rfl)
theorem dX10_does_54 : decode cX10_does 54 = .ok (.ireturn, 1) := dk_172 (dk_at dksX10_does_2 18 rfl rfl)
theorem dX10_does_55 : decode cX10_does 55 = .ok (.aload_n 1, 1) := dk_43 (dk_at dksX10_does_2 19 rfl rfl)
theorem dX10_does_56 : decode cX10_does 56 = .ok (.iconst 0, 1) := dk_3 (dk_at dksX10_does_2 20 rfl rfl)
theorem dX10_does_57 : decode cX10_does 57 = .ok (.iload_n 3, 1) := dk_29 (dk_at dksX10_does_2 21 rfl rfl)
theorem dX10_does_58 : decode cX10_does 58 = .ok (.iadd, 1) := dk_96 (dk_at dksX10_does_2 22 rfl rfl)
theorem dX10_does_59 : decode cX10_does 59 = .ok (.iaload, 1) := dk_46 (dk_at dksX10_does_2 23 rfl rfl)
theorem dX10_does_60 : decode cX10_does 60 = .ok (.ifCond .ne 5, 3) := dk_154 0 5 (dk_at dksX10_does_3 0 rfl rfl)
theorem dX10_does_63 : decode cX10_does 63 = .ok (.iconst 0, 1) := dk_3 (dk_at dksX10_does_3 3 rfl rfl)
theorem dX10_does_64 : decode cX10_does 64 = .ok (.ireturn, 1) := dk_172 (dk_at dksX10_does_3 4 rfl rfl)
theorem dX10_does_65 : decode cX10_does 65 = .ok (.aload_n 1, 1) := dk_43 (dk_at dksX10_does_3 5 rfl rfl)
theorem dX10_does_66 : decode cX10_does 66 = .ok (.iconst 0, 1) := dk_3 (dk_at dksX10_does_3 6 rfl rfl)
theorem dX10_does_67 : decode cX10_does 67 = .ok (.iload_n 3, 1) := dk_29 (dk_at dksX10_does_3 7 rfl rfl)
theorem dX10_does_68 : decode cX10_does 68 = .ok (.iadd, 1) := dk_96 (dk_at dksX10_does_3 8 rfl rfl)
theorem dX10_does_69 : decode cX10_does 69 = .ok (.iconst 0, 1) := dk_3 (dk_at dksX10_does_3 9 rfl rfl)
theorem dX10_does_70 : decode cX10_does 70 = .ok (.iastore, 1) := dk_79 (dk_at dksX10_does_3 10 rfl rfl)
theorem dX10_does_71 : decode cX10_does 71 = .ok (.iconst 1, 1) := dk_4 (dk_at dksX10_does_3 11 rfl rfl)
theorem dX10_does_72 : decode cX10_does 72 = .ok (.ireturn, 1) := dk_172 (dk_at dksX10_does_3 12 rfl rfl)
theorem dX10_does_73 : decode cX10_does 73 = .ok (.aload_n 1, 1) := dk_43 (dk_at dksX10_does_3 13 rfl rfl)
theorem dX10_does_74 : decode cX10_does 74 = .ok (.bipush 77, 2) := dk_16 77 (dk_at dksX10_does_3 14 rfl rfl)
theorem dX10_does_76 : decode cX10_does 76 = .ok (.iaload, 1) := dk_46 (dk_at dksX10_does_3 16 rfl rfl)
theorem dX10_does_77 : decode cX10_does 77 = .ok (.iload_n 3, 1) := dk_29 (dk_at dksX10_does_3 17 rfl rfl)
theorem dX10_does_78 : decode cX10_does 78 = .ok (.if_icmp .ge 5, 3) := dk_162 0 5 (dk_at dksX10_does_3 18 rfl rfl)
theorem dX10_does_81 : decode cX10_does 81 = .ok (.iconst 0, 1) := dk_3 (dk_at dksX10_does_3 21 rfl rfl)
theorem dX10_does_82 : decode cX10_does 82 = .ok (.ireturn, 1) := dk_172 (dk_at dksX10_does_3 22 rfl rfl)
theorem dX10_does_83 : decode cX10_does 83 = .ok (.aload_n 1, 1) := dk_43 (dk_at dksX10_does_3 23 rfl rfl)
theorem dX10_does_84 : decode cX10_does 84 = .ok (.bipush 77, 2) := dk_16 77 (dk_at dksX10_does_4 0 rfl rfl)
theorem dX10_does_86 : decode cX10_does 86 = .ok (.dup2, 1) := dk_92 (dk_at dksX10_does_4 2 rfl rfl)
theorem dX10_does_87 : decode cX10_does 87 = .ok (.iaload, 1) := dk_46 (dk_at dksX10_does_4 3 rfl rfl)
theorem dX10_does_88 : decode cX10_does 88 = .ok (.iload_n 3, 1) := dk_29 (dk_at dksX10_does_4 4 rfl rfl)
theorem dX10_does_89 : decode cX10_does 89 = .ok (.isub, 1) := dk_100 (dk_at dksX10_does_4 5 rfl rfl)
theorem dX10_does_90 : decode cX10_does 90 = .ok (.iastore, 1) := dk_79 (dk_at dksX10_does_4 6 rfl rfl)
theorem dX10_does_91 : decode cX10_does 91 = .ok (.iconst 1, 1) := dk_4 (dk_at dksX10_does_4 7 rfl rfl)
theorem dX10_does_92 : decode cX10_does 92 = .ok (.ireturn, 1) := dk_172 (dk_at dksX10_does_4 8 rfl rfl)
theorem dX10_does_93 : decode cX10_does 93 = .ok (.aload_n 1, 1) := dk_43 (dk_at dksX10_does_4 9 rfl rfl)
theorem dX10_does_94 : decode cX10_does 94 = .ok (.bipush 78, 2) := dk_16 78 (dk_at dksX10_does_4 10 rfl rfl)
theorem dX10_does_96 : decode cX10_does 96 = .ok (.iaload, 1) := dk_46 (dk_at dksX10_does_4 12 rfl rfl)
theorem dX10_does_97 : decode cX10_does 97 = .ok (.sipush 400, 3) := dk_17 1 144 (dk_at dksX10_does_4 13 rfl rfl)
theorem dX10_does_100 : decode cX10_does 100 = .ok (.if_icmp .lt 5, 3) := dk_161 0 5 (dk_at dksX10_does_4 16 rfl rfl)
theorem dX10_does_103 : decode cX10_does 103 = .ok (.iconst 0, 1) := dk_3 (dk_at dksX10_does_4 19 rfl rfl)
theorem dX10_does_104 : decode cX10_does 104 = .ok (.ireturn, 1) := dk_172 (dk_at dksX10_does_4 20 rfl rfl)
theorem dX10_does_105 : decode cX10_does 105 = .ok (.aload_n 0, 1) := dk_42 (dk_at dksX10_does_4 21 rfl rfl)
theorem dX10_does_106 : decode cX10_does 106 = .ok (.aload_n 1, 1) := dk_43 (dk_at dksX10_does_4 22 rfl rfl)
theorem dX10_does_107 : decode cX10_does 107 = .ok (.invokevirtual 298, 3) := dk_182 1 42 (dk_at dksX10_does_5 0 rfl rfl)
theorem dX10_does_110 : decode cX10_does 110 = .ok (.iconst 1, 1) := dk_4 (dk_at dksX10_does_5 3 rfl rfl)
theorem dX10_does_111 : decode cX10_does 111 = .ok (.ireturn, 1) := dk_172 (dk_at dksX10_does_5 4 rfl rfl)
abbrev cX10_tells : ByteArray := prog_32_method_55_code
def yX10_tells : MethodName := ⟨RX10, "tells", "([III)Z"⟩
def dkwX10_tells_3 : List UInt8 := [21, 4, 96, 79, 43, 16, 35, 16, 7, 28, 104, 96, 29, 96, 92, 46, 4, 96, 79, 4, 172]
abbrev dktX10_tells_3 : List UInt8 := dkwX10_tells_3 ++ []
def dkwX10_tells_2 : List UInt8 := [16, 14, 29, 96, 4, 79, 43, 16, 21, 29, 96, 92, 46, 4, 96, 79, 43, 16, 28, 29, 96, 92, 46]
abbrev dktX10_tells_2 : List UInt8 := dkwX10_tells_2 ++ dktX10_tells_3
def dkwX10_tells_1 : List UInt8 := [17, 3, 231, 43, 16, 77, 46, 21, 4, 42, 180, 0, 31, 29, 50, 3, 46, 104, 96, 184, 0, 241, 79, 43]
abbrev dktX10_tells_1 : List UInt8 := dkwX10_tells_1 ++ dktX10_tells_2
def dkwX10_tells_0 : List UInt8 := [43, 16, 14, 29, 96, 46, 4, 160, 0, 5, 3, 172, 42, 43, 28, 29, 182, 1, 31, 54, 4, 43, 16, 77]
abbrev dktX10_tells_0 : List UInt8 := dkwX10_tells_0 ++ dktX10_tells_1
theorem dksX10_tells_0 : cX10_tells.data.toList.drop 0 = dktX10_tells_0 := by decide +kernel
theorem dksX10_tells_1 : cX10_tells.data.toList.drop 24 = dktX10_tells_1 := dk_seg dksX10_tells_0 24 rfl rfl
theorem dksX10_tells_2 : cX10_tells.data.toList.drop 48 = dktX10_tells_2 := dk_seg dksX10_tells_1 24 rfl rfl
theorem dksX10_tells_3 : cX10_tells.data.toList.drop 71 = dktX10_tells_3 := dk_seg dksX10_tells_2 23 rfl rfl
theorem dX10_tells_0 : decode cX10_tells 0 = .ok (.aload_n 1, 1) := dk_43 (dk_at dksX10_tells_0 0 rfl rfl)
theorem dX10_tells_1 : decode cX10_tells 1 = .ok (.bipush 14, 2) := dk_16 14 (dk_at dksX10_tells_0 1 rfl rfl)
theorem dX10_tells_3 : decode cX10_tells 3 = .ok (.iload_n 3, 1) := dk_29 (dk_at dksX10_tells_0 3 rfl rfl)
theorem dX10_tells_4 : decode cX10_tells 4 = .ok (.iadd, 1) := dk_96 (dk_at dksX10_tells_0 4 rfl rfl)
theorem dX10_tells_5 : decode cX10_tells 5 = .ok (.iaload, 1) := dk_46 (dk_at dksX10_tells_0 5 rfl rfl)
theorem dX10_tells_6 : decode cX10_tells 6 = .ok (.iconst 1, 1) := dk_4 (dk_at dksX10_tells_0 6 rfl rfl)
theorem dX10_tells_7 : decode cX10_tells 7 = .ok (.if_icmp .ne 5, 3) := dk_160 0 5 (dk_at dksX10_tells_0 7 rfl rfl)
theorem dX10_tells_10 : decode cX10_tells 10 = .ok (.iconst 0, 1) := dk_3 (dk_at dksX10_tells_0 10 rfl rfl)
theorem dX10_tells_11 : decode cX10_tells 11 = .ok (.ireturn, 1) := dk_172 (dk_at dksX10_tells_0 11 rfl rfl)
theorem dX10_tells_12 : decode cX10_tells 12 = .ok (.aload_n 0, 1) := dk_42 (dk_at dksX10_tells_0 12 rfl rfl)
theorem dX10_tells_13 : decode cX10_tells 13 = .ok (.aload_n 1, 1) := dk_43 (dk_at dksX10_tells_0 13 rfl rfl)
theorem dX10_tells_14 : decode cX10_tells 14 = .ok (.iload_n 2, 1) := dk_28 (dk_at dksX10_tells_0 14 rfl rfl)
theorem dX10_tells_15 : decode cX10_tells 15 = .ok (.iload_n 3, 1) := dk_29 (dk_at dksX10_tells_0 15 rfl rfl)
theorem dX10_tells_16 : decode cX10_tells 16 = .ok (.invokevirtual 287, 3) := dk_182 1 31 (dk_at dksX10_tells_0 16 rfl rfl)
theorem dX10_tells_19 : decode cX10_tells 19 = .ok (.istore 4, 2) := dk_54 4 (dk_at dksX10_tells_0 19 rfl rfl)
theorem dX10_tells_21 : decode cX10_tells 21 = .ok (.aload_n 1, 1) := dk_43 (dk_at dksX10_tells_0 21 rfl rfl)
theorem dX10_tells_22 : decode cX10_tells 22 = .ok (.bipush 77, 2) := dk_16 77 (dk_at dksX10_tells_0 22 rfl rfl)
theorem dX10_tells_24 : decode cX10_tells 24 = .ok (.sipush 999, 3) := dk_17 3 231 (dk_at dksX10_tells_1 0 rfl rfl)
theorem dX10_tells_27 : decode cX10_tells 27 = .ok (.aload_n 1, 1) := dk_43 (dk_at dksX10_tells_1 3 rfl rfl)
theorem dX10_tells_28 : decode cX10_tells 28 = .ok (.bipush 77, 2) := dk_16 77 (dk_at dksX10_tells_1 4 rfl rfl)
theorem dX10_tells_30 : decode cX10_tells 30 = .ok (.iaload, 1) := dk_46 (dk_at dksX10_tells_1 6 rfl rfl)
theorem dX10_tells_31 : decode cX10_tells 31 = .ok (.iload 4, 2) := dk_21 4 (dk_at dksX10_tells_1 7 rfl rfl)
theorem dX10_tells_33 : decode cX10_tells 33 = .ok (.aload_n 0, 1) := dk_42 (dk_at dksX10_tells_1 9 rfl rfl)
theorem dX10_tells_34 : decode cX10_tells 34 = .ok (.getfield 31, 3) := dk_180 0 31 (dk_at dksX10_tells_1 10 rfl rfl)
theorem dX10_tells_37 : decode cX10_tells 37 = .ok (.iload_n 3, 1) := dk_29 (dk_at dksX10_tells_1 13 rfl rfl)
theorem dX10_tells_38 : decode cX10_tells 38 = .ok (.aaload, 1) := dk_50 (dk_at dksX10_tells_1 14 rfl rfl)
theorem dX10_tells_39 : decode cX10_tells 39 = .ok (.iconst 0, 1) := dk_3 (dk_at dksX10_tells_1 15 rfl rfl)
theorem dX10_tells_40 : decode cX10_tells 40 = .ok (.iaload, 1) := dk_46 (dk_at dksX10_tells_1 16 rfl rfl)
theorem dX10_tells_41 : decode cX10_tells 41 = .ok (.imul, 1) := dk_104 (dk_at dksX10_tells_1 17 rfl rfl)
theorem dX10_tells_42 : decode cX10_tells 42 = .ok (.iadd, 1) := dk_96 (dk_at dksX10_tells_1 18 rfl rfl)
theorem dX10_tells_43 : decode cX10_tells 43 = .ok (.invokestatic 241, 3) := dk_184 0 241 (dk_at dksX10_tells_1 19 rfl rfl)
theorem dX10_tells_46 : decode cX10_tells 46 = .ok (.iastore, 1) := dk_79 (dk_at dksX10_tells_1 22 rfl rfl)
theorem dX10_tells_47 : decode cX10_tells 47 = .ok (.aload_n 1, 1) := dk_43 (dk_at dksX10_tells_1 23 rfl rfl)
theorem dX10_tells_48 : decode cX10_tells 48 = .ok (.bipush 14, 2) := dk_16 14 (dk_at dksX10_tells_2 0 rfl rfl)
theorem dX10_tells_50 : decode cX10_tells 50 = .ok (.iload_n 3, 1) := dk_29 (dk_at dksX10_tells_2 2 rfl rfl)
theorem dX10_tells_51 : decode cX10_tells 51 = .ok (.iadd, 1) := dk_96 (dk_at dksX10_tells_2 3 rfl rfl)
theorem dX10_tells_52 : decode cX10_tells 52 = .ok (.iconst 1, 1) := dk_4 (dk_at dksX10_tells_2 4 rfl rfl)
theorem dX10_tells_53 : decode cX10_tells 53 = .ok (.iastore, 1) := dk_79 (dk_at dksX10_tells_2 5 rfl rfl)
theorem dX10_tells_54 : decode cX10_tells 54 = .ok (.aload_n 1, 1) := dk_43 (dk_at dksX10_tells_2 6 rfl rfl)
theorem dX10_tells_55 : decode cX10_tells 55 = .ok (.bipush 21, 2) := dk_16 21 (dk_at dksX10_tells_2 7 rfl rfl)
theorem dX10_tells_57 : decode cX10_tells 57 = .ok (.iload_n 3, 1) := dk_29 (dk_at dksX10_tells_2 9 rfl rfl)
theorem dX10_tells_58 : decode cX10_tells 58 = .ok (.iadd, 1) := dk_96 (dk_at dksX10_tells_2 10 rfl rfl)
theorem dX10_tells_59 : decode cX10_tells 59 = .ok (.dup2, 1) := dk_92 (dk_at dksX10_tells_2 11 rfl rfl)
theorem dX10_tells_60 : decode cX10_tells 60 = .ok (.iaload, 1) := dk_46 (dk_at dksX10_tells_2 12 rfl rfl)
theorem dX10_tells_61 : decode cX10_tells 61 = .ok (.iconst 1, 1) := dk_4 (dk_at dksX10_tells_2 13 rfl rfl)
theorem dX10_tells_62 : decode cX10_tells 62 = .ok (.iadd, 1) := dk_96 (dk_at dksX10_tells_2 14 rfl rfl)
theorem dX10_tells_63 : decode cX10_tells 63 = .ok (.iastore, 1) := dk_79 (dk_at dksX10_tells_2 15 rfl rfl)
theorem dX10_tells_64 : decode cX10_tells 64 = .ok (.aload_n 1, 1) := dk_43 (dk_at dksX10_tells_2 16 rfl rfl)
theorem dX10_tells_65 : decode cX10_tells 65 = .ok (.bipush 28, 2) := dk_16 28 (dk_at dksX10_tells_2 17 rfl rfl)
theorem dX10_tells_67 : decode cX10_tells 67 = .ok (.iload_n 3, 1) := dk_29 (dk_at dksX10_tells_2 19 rfl rfl)
theorem dX10_tells_68 : decode cX10_tells 68 = .ok (.iadd, 1) := dk_96 (dk_at dksX10_tells_2 20 rfl rfl)
theorem dX10_tells_69 : decode cX10_tells 69 = .ok (.dup2, 1) := dk_92 (dk_at dksX10_tells_2 21 rfl rfl)
theorem dX10_tells_70 : decode cX10_tells 70 = .ok (.iaload, 1) := dk_46 (dk_at dksX10_tells_2 22 rfl rfl)
theorem dX10_tells_71 : decode cX10_tells 71 = .ok (.iload 4, 2) := dk_21 4 (dk_at dksX10_tells_3 0 rfl rfl)
theorem dX10_tells_73 : decode cX10_tells 73 = .ok (.iadd, 1) := dk_96 (dk_at dksX10_tells_3 2 rfl rfl)
theorem dX10_tells_74 : decode cX10_tells 74 = .ok (.iastore, 1) := dk_79 (dk_at dksX10_tells_3 3 rfl rfl)
theorem dX10_tells_75 : decode cX10_tells 75 = .ok (.aload_n 1, 1) := dk_43 (dk_at dksX10_tells_3 4 rfl rfl)
theorem dX10_tells_76 : decode cX10_tells 76 = .ok (.bipush 35, 2) := dk_16 35 (dk_at dksX10_tells_3 5 rfl rfl)
theorem dX10_tells_78 : decode cX10_tells 78 = .ok (.bipush 7, 2) := dk_16 7 (dk_at dksX10_tells_3 7 rfl rfl)
theorem dX10_tells_80 : decode cX10_tells 80 = .ok (.iload_n 2, 1) := dk_28 (dk_at dksX10_tells_3 9 rfl rfl)
theorem dX10_tells_81 : decode cX10_tells 81 = .ok (.imul, 1) := dk_104 (dk_at dksX10_tells_3 10 rfl rfl)
theorem dX10_tells_82 : decode cX10_tells 82 = .ok (.iadd, 1) := dk_96 (dk_at dksX10_tells_3 11 rfl rfl)
theorem dX10_tells_83 : decode cX10_tells 83 = .ok (.iload_n 3, 1) := dk_29 (dk_at dksX10_tells_3 12 rfl rfl)
theorem dX10_tells_84 : decode cX10_tells 84 = .ok (.iadd, 1) := dk_96 (dk_at dksX10_tells_3 13 rfl rfl)
theorem dX10_tells_85 : decode cX10_tells 85 = .ok (.dup2, 1) := dk_92 (dk_at dksX10_tells_3 14 rfl rfl)
theorem dX10_tells_86 : decode cX10_tells 86 = .ok (.iaload, 1) := dk_46 (dk_at dksX10_tells_3 15 rfl rfl)
theorem dX10_tells_87 : decode cX10_tells 87 = .ok (.iconst 1, 1) := dk_4 (dk_at dksX10_tells_3 16 rfl rfl)
theorem dX10_tells_88 : decode cX10_tells 88 = .ok (.iadd, 1) := dk_96 (dk_at dksX10_tells_3 17 rfl rfl)
theorem dX10_tells_89 : decode cX10_tells 89 = .ok (.iastore, 1) := dk_79 (dk_at dksX10_tells_3 18 rfl rfl)
theorem dX10_tells_90 : decode cX10_tells 90 = .ok (.iconst 1, 1) := dk_4 (dk_at dksX10_tells_3 19 rfl rfl)
theorem dX10_tells_91 : decode cX10_tells 91 = .ok (.ireturn, 1) := dk_172 (dk_at dksX10_tells_3 20 rfl rfl)
abbrev cX10_laughOf : ByteArray := prog_32_method_53_code
def yX10_laughOf : MethodName := ⟨RX10, "laughOf", "([III)I"⟩
def dkwX10_laughOf_0 : List UInt8 := [42, 43, 28, 29, 42, 180, 0, 31, 29, 50, 4, 46, 43, 3, 29, 96, 46, 3, 182, 1, 27, 172]
abbrev dktX10_laughOf_0 : List UInt8 := dkwX10_laughOf_0 ++ []
theorem dksX10_laughOf_0 : cX10_laughOf.data.toList.drop 0 = dktX10_laughOf_0 := by decide +kernel
theorem dX10_laughOf_0 : decode cX10_laughOf 0 = .ok (.aload_n 0, 1) := dk_42 (dk_at dksX10_laughOf_0 0 rfl rfl)
theorem dX10_laughOf_1 : decode cX10_laughOf 1 = .ok (.aload_n 1, 1) := dk_43 (dk_at dksX10_laughOf_0 1 rfl rfl)
theorem dX10_laughOf_2 : decode cX10_laughOf 2 = .ok (.iload_n 2, 1) := dk_28 (dk_at dksX10_laughOf_0 2 rfl rfl)
theorem dX10_laughOf_3 : decode cX10_laughOf 3 = .ok (.iload_n 3, 1) := dk_29 (dk_at dksX10_laughOf_0 3 rfl rfl)
theorem dX10_laughOf_4 : decode cX10_laughOf 4 = .ok (.aload_n 0, 1) := dk_42 (dk_at dksX10_laughOf_0 4 rfl rfl)
theorem dX10_laughOf_5 : decode cX10_laughOf 5 = .ok (.getfield 31, 3) := dk_180 0 31 (dk_at dksX10_laughOf_0 5 rfl rfl)
theorem dX10_laughOf_8 : decode cX10_laughOf 8 = .ok (.iload_n 3, 1) := dk_29 (dk_at dksX10_laughOf_0 8 rfl rfl)
theorem dX10_laughOf_9 : decode cX10_laughOf 9 = .ok (.aaload, 1) := dk_50 (dk_at dksX10_laughOf_0 9 rfl rfl)
theorem dX10_laughOf_10 : decode cX10_laughOf 10 = .ok (.iconst 1, 1) := dk_4 (dk_at dksX10_laughOf_0 10 rfl rfl)
theorem dX10_laughOf_11 : decode cX10_laughOf 11 = .ok (.iaload, 1) := dk_46 (dk_at dksX10_laughOf_0 11 rfl rfl)
theorem dX10_laughOf_12 : decode cX10_laughOf 12 = .ok (.aload_n 1, 1) := dk_43 (dk_at dksX10_laughOf_0 12 rfl rfl)
theorem dX10_laughOf_13 : decode cX10_laughOf 13 = .ok (.iconst 0, 1) := dk_3 (dk_at dksX10_laughOf_0 13 rfl rfl)
theorem dX10_laughOf_14 : decode cX10_laughOf 14 = .ok (.iload_n 3, 1) := dk_29 (dk_at dksX10_laughOf_0 14 rfl rfl)
theorem dX10_laughOf_15 : decode cX10_laughOf 15 = .ok (.iadd, 1) := dk_96 (dk_at dksX10_laughOf_0 15 rfl rfl)
theorem dX10_laughOf_16 : decode cX10_laughOf 16 = .ok (.iaload, 1) := dk_46 (dk_at dksX10_laughOf_0 16 rfl rfl)
theorem dX10_laughOf_17 : decode cX10_laughOf 17 = .ok (.iconst 0, 1) := dk_3 (dk_at dksX10_laughOf_0 17 rfl rfl)
theorem dX10_laughOf_18 : decode cX10_laughOf 18 = .ok (.invokevirtual 283, 3) := dk_182 1 27 (dk_at dksX10_laughOf_0 18 rfl rfl)
theorem dX10_laughOf_21 : decode cX10_laughOf 21 = .ok (.ireturn, 1) := dk_172 (dk_at dksX10_laughOf_0 21 rfl rfl)
abbrev cX10_laughWith : ByteArray := prog_32_method_52_code
def yX10_laughWith : MethodName := ⟨RX10, "laughWith", "([IIIIII)I"⟩
def dkwX10_laughWith_4 : List UInt8 := [16, 78, 46, 29, 182, 1, 23, 172]
abbrev dktX10_laughWith_4 : List UInt8 := dkwX10_laughWith_4 ++ []
def dkwX10_laughWith_3 : List UInt8 := [21, 5, 42, 29, 182, 1, 14, 42, 43, 3, 182, 1, 17, 126, 184, 1, 20, 43, 16, 7, 29, 96, 46, 43]
abbrev dktX10_laughWith_3 : List UInt8 := dkwX10_laughWith_3 ++ dktX10_laughWith_4
def dkwX10_laughWith_2 : List UInt8 := [29, 96, 46, 21, 6, 96, 42, 43, 28, 182, 1, 10, 21, 6, 96, 42, 180, 0, 31, 29, 50, 3, 46]
abbrev dktX10_laughWith_2 : List UInt8 := dkwX10_laughWith_2 ++ dktX10_laughWith_3
def dkwX10_laughWith_1 : List UInt8 := [184, 0, 244, 54, 7, 42, 42, 180, 0, 37, 28, 50, 4, 46, 21, 7, 43, 16, 35, 16, 7, 28, 104, 96]
abbrev dktX10_laughWith_1 : List UInt8 := dkwX10_laughWith_1 ++ dktX10_laughWith_2
def dkwX10_laughWith_0 : List UInt8 := [21, 4, 42, 180, 0, 37, 28, 50, 3, 46, 100, 42, 180, 0, 37, 28, 50, 3, 46, 21, 4, 100]
abbrev dktX10_laughWith_0 : List UInt8 := dkwX10_laughWith_0 ++ dktX10_laughWith_1
theorem dksX10_laughWith_0 : cX10_laughWith.data.toList.drop 0 = dktX10_laughWith_0 := by decide +kernel
theorem dksX10_laughWith_1 : cX10_laughWith.data.toList.drop 22 = dktX10_laughWith_1 := dk_seg dksX10_laughWith_0 22 rfl rfl
theorem dksX10_laughWith_2 : cX10_laughWith.data.toList.drop 46 = dktX10_laughWith_2 := dk_seg dksX10_laughWith_1 24 rfl rfl
theorem dksX10_laughWith_3 : cX10_laughWith.data.toList.drop 69 = dktX10_laughWith_3 := dk_seg dksX10_laughWith_2 23 rfl rfl
theorem dksX10_laughWith_4 : cX10_laughWith.data.toList.drop 93 = dktX10_laughWith_4 := dk_seg dksX10_laughWith_3 24 rfl rfl
theorem dX10_laughWith_0 : decode cX10_laughWith 0 = .ok (.iload 4, 2) := dk_21 4 (dk_at dksX10_laughWith_0 0 rfl rfl)
theorem dX10_laughWith_2 : decode cX10_laughWith 2 = .ok (.aload_n 0, 1) := dk_42 (dk_at dksX10_laughWith_0 2 rfl rfl)
theorem dX10_laughWith_3 : decode cX10_laughWith 3 = .ok (.getfield 37, 3) := dk_180 0 37 (dk_at dksX10_laughWith_0 3 rfl rfl)
theorem dX10_laughWith_6 : decode cX10_laughWith 6 = .ok (.iload_n 2, 1) := dk_28 (dk_at dksX10_laughWith_0 6 rfl rfl)
theorem dX10_laughWith_7 : decode cX10_laughWith 7 = .ok (.aaload, 1) := dk_50 (dk_at dksX10_laughWith_0 7 rfl rfl)
theorem dX10_laughWith_8 : decode cX10_laughWith 8 = .ok (.iconst 0, 1) := dk_3 (dk_at dksX10_laughWith_0 8 rfl rfl)
theorem dX10_laughWith_9 : decode cX10_laughWith 9 = .ok (.iaload, 1) := dk_46 (dk_at dksX10_laughWith_0 9 rfl rfl)
theorem dX10_laughWith_10 : decode cX10_laughWith 10 = .ok (.isub, 1) := dk_100 (dk_at dksX10_laughWith_0 10 rfl rfl)
theorem dX10_laughWith_11 : decode cX10_laughWith 11 = .ok (.aload_n 0, 1) := dk_42 (dk_at dksX10_laughWith_0 11 rfl rfl)
theorem dX10_laughWith_12 : decode cX10_laughWith 12 = .ok (.getfield 37, 3) := dk_180 0 37 (dk_at dksX10_laughWith_0 12 rfl rfl)
theorem dX10_laughWith_15 : decode cX10_laughWith 15 = .ok (.iload_n 2, 1) := dk_28 (dk_at dksX10_laughWith_0 15 rfl rfl)
theorem dX10_laughWith_16 : decode cX10_laughWith 16 = .ok (.aaload, 1) := dk_50 (dk_at dksX10_laughWith_0 16 rfl rfl)
theorem dX10_laughWith_17 : decode cX10_laughWith 17 = .ok (.iconst 0, 1) := dk_3 (dk_at dksX10_laughWith_0 17 rfl rfl)
theorem dX10_laughWith_18 : decode cX10_laughWith 18 = .ok (.iaload, 1) := dk_46 (dk_at dksX10_laughWith_0 18 rfl rfl)
theorem dX10_laughWith_19 : decode cX10_laughWith 19 = .ok (.iload 4, 2) := dk_21 4 (dk_at dksX10_laughWith_0 19 rfl rfl)
theorem dX10_laughWith_21 : decode cX10_laughWith 21 = .ok (.isub, 1) := dk_100 (dk_at dksX10_laughWith_0 21 rfl rfl)
theorem dX10_laughWith_22 : decode cX10_laughWith 22 = .ok (.invokestatic 244, 3) := dk_184 0 244 (dk_at dksX10_laughWith_1 0 rfl rfl)
theorem dX10_laughWith_25 : decode cX10_laughWith 25 = .ok (.istore 7, 2) := dk_54 7 (dk_at dksX10_laughWith_1 3 rfl rfl)
theorem dX10_laughWith_27 : decode cX10_laughWith 27 = .ok (.aload_n 0, 1) := dk_42 (dk_at dksX10_laughWith_1 5 rfl rfl)
theorem dX10_laughWith_28 : decode cX10_laughWith 28 = .ok (.aload_n 0, 1) := dk_42 (dk_at dksX10_laughWith_1 6 rfl rfl)
theorem dX10_laughWith_29 : decode cX10_laughWith 29 = .ok (.getfield 37, 3) := dk_180 0 37 (dk_at dksX10_laughWith_1 7 rfl rfl)
theorem dX10_laughWith_32 : decode cX10_laughWith 32 = .ok (.iload_n 2, 1) := dk_28 (dk_at dksX10_laughWith_1 10 rfl rfl)
theorem dX10_laughWith_33 : decode cX10_laughWith 33 = .ok (.aaload, 1) := dk_50 (dk_at dksX10_laughWith_1 11 rfl rfl)
theorem dX10_laughWith_34 : decode cX10_laughWith 34 = .ok (.iconst 1, 1) := dk_4 (dk_at dksX10_laughWith_1 12 rfl rfl)
theorem dX10_laughWith_35 : decode cX10_laughWith 35 = .ok (.iaload, 1) := dk_46 (dk_at dksX10_laughWith_1 13 rfl rfl)
theorem dX10_laughWith_36 : decode cX10_laughWith 36 = .ok (.iload 7, 2) := dk_21 7 (dk_at dksX10_laughWith_1 14 rfl rfl)
theorem dX10_laughWith_38 : decode cX10_laughWith 38 = .ok (.aload_n 1, 1) := dk_43 (dk_at dksX10_laughWith_1 16 rfl rfl)
theorem dX10_laughWith_39 : decode cX10_laughWith 39 = .ok (.bipush 35, 2) := dk_16 35 (dk_at dksX10_laughWith_1 17 rfl rfl)
theorem dX10_laughWith_41 : decode cX10_laughWith 41 = .ok (.bipush 7, 2) := dk_16 7 (dk_at dksX10_laughWith_1 19 rfl rfl)
theorem dX10_laughWith_43 : decode cX10_laughWith 43 = .ok (.iload_n 2, 1) := dk_28 (dk_at dksX10_laughWith_1 21 rfl rfl)
theorem dX10_laughWith_44 : decode cX10_laughWith 44 = .ok (.imul, 1) := dk_104 (dk_at dksX10_laughWith_1 22 rfl rfl)
theorem dX10_laughWith_45 : decode cX10_laughWith 45 = .ok (.iadd, 1) := dk_96 (dk_at dksX10_laughWith_1 23 rfl rfl)
theorem dX10_laughWith_46 : decode cX10_laughWith 46 = .ok (.iload_n 3, 1) := dk_29 (dk_at dksX10_laughWith_2 0 rfl rfl)
theorem dX10_laughWith_47 : decode cX10_laughWith 47 = .ok (.iadd, 1) := dk_96 (dk_at dksX10_laughWith_2 1 rfl rfl)
theorem dX10_laughWith_48 : decode cX10_laughWith 48 = .ok (.iaload, 1) := dk_46 (dk_at dksX10_laughWith_2 2 rfl rfl)
theorem dX10_laughWith_49 : decode cX10_laughWith 49 = .ok (.iload 6, 2) := dk_21 6 (dk_at dksX10_laughWith_2 3 rfl rfl)
theorem dX10_laughWith_51 : decode cX10_laughWith 51 = .ok (.iadd, 1) := dk_96 (dk_at dksX10_laughWith_2 5 rfl rfl)
theorem dX10_laughWith_52 : decode cX10_laughWith 52 = .ok (.aload_n 0, 1) := dk_42 (dk_at dksX10_laughWith_2 6 rfl rfl)
theorem dX10_laughWith_53 : decode cX10_laughWith 53 = .ok (.aload_n 1, 1) := dk_43 (dk_at dksX10_laughWith_2 7 rfl rfl)
theorem dX10_laughWith_54 : decode cX10_laughWith 54 = .ok (.iload_n 2, 1) := dk_28 (dk_at dksX10_laughWith_2 8 rfl rfl)
theorem dX10_laughWith_55 : decode cX10_laughWith 55 = .ok (.invokevirtual 266, 3) := dk_182 1 10 (dk_at dksX10_laughWith_2 9 rfl rfl)
theorem dX10_laughWith_58 : decode cX10_laughWith 58 = .ok (.iload 6, 2) := dk_21 6 (dk_at dksX10_laughWith_2 12 rfl rfl)
theorem dX10_laughWith_60 : decode cX10_laughWith 60 = .ok (.iadd, 1) := dk_96 (dk_at dksX10_laughWith_2 14 rfl rfl)
theorem dX10_laughWith_61 : decode cX10_laughWith 61 = .ok (.aload_n 0, 1) := dk_42 (dk_at dksX10_laughWith_2 15 rfl rfl)
theorem dX10_laughWith_62 : decode cX10_laughWith 62 = .ok (.getfield 31, 3) := dk_180 0 31 (dk_at dksX10_laughWith_2 16 rfl rfl)
theorem dX10_laughWith_65 : decode cX10_laughWith 65 = .ok (.iload_n 3, 1) := dk_29 (dk_at dksX10_laughWith_2 19 rfl rfl)
theorem dX10_laughWith_66 : decode cX10_laughWith 66 = .ok (.aaload, 1) := dk_50 (dk_at dksX10_laughWith_2 20 rfl rfl)
theorem dX10_laughWith_67 : decode cX10_laughWith 67 = .ok (.iconst 0, 1) := dk_3 (dk_at dksX10_laughWith_2 21 rfl rfl)
theorem dX10_laughWith_68 : decode cX10_laughWith 68 = .ok (.iaload, 1) := dk_46 (dk_at dksX10_laughWith_2 22 rfl rfl)
theorem dX10_laughWith_69 : decode cX10_laughWith 69 = .ok (.iload 5, 2) := dk_21 5 (dk_at dksX10_laughWith_3 0 rfl rfl)
theorem dX10_laughWith_71 : decode cX10_laughWith 71 = .ok (.aload_n 0, 1) := dk_42 (dk_at dksX10_laughWith_3 2 rfl rfl)
theorem dX10_laughWith_72 : decode cX10_laughWith 72 = .ok (.iload_n 3, 1) := dk_29 (dk_at dksX10_laughWith_3 3 rfl rfl)
theorem dX10_laughWith_73 : decode cX10_laughWith 73 = .ok (.invokevirtual 270, 3) := dk_182 1 14 (dk_at dksX10_laughWith_3 4 rfl rfl)
theorem dX10_laughWith_76 : decode cX10_laughWith 76 = .ok (.aload_n 0, 1) := dk_42 (dk_at dksX10_laughWith_3 7 rfl rfl)
theorem dX10_laughWith_77 : decode cX10_laughWith 77 = .ok (.aload_n 1, 1) := dk_43 (dk_at dksX10_laughWith_3 8 rfl rfl)
theorem dX10_laughWith_78 : decode cX10_laughWith 78 = .ok (.iconst 0, 1) := dk_3 (dk_at dksX10_laughWith_3 9 rfl rfl)
theorem dX10_laughWith_79 : decode cX10_laughWith 79 = .ok (.invokevirtual 273, 3) := dk_182 1 17 (dk_at dksX10_laughWith_3 10 rfl rfl)
theorem dX10_laughWith_82 : decode cX10_laughWith 82 = .ok (.iand, 1) := dk_126 (dk_at dksX10_laughWith_3 13 rfl rfl)
theorem dX10_laughWith_83 : decode cX10_laughWith 83 = .ok (.invokestatic 276, 3) := dk_184 1 20 (dk_at dksX10_laughWith_3 14 rfl rfl)
theorem dX10_laughWith_86 : decode cX10_laughWith 86 = .ok (.aload_n 1, 1) := dk_43 (dk_at dksX10_laughWith_3 17 rfl rfl)
theorem dX10_laughWith_87 : decode cX10_laughWith 87 = .ok (.bipush 7, 2) := dk_16 7 (dk_at dksX10_laughWith_3 18 rfl rfl)
theorem dX10_laughWith_89 : decode cX10_laughWith 89 = .ok (.iload_n 3, 1) := dk_29 (dk_at dksX10_laughWith_3 20 rfl rfl)
theorem dX10_laughWith_90 : decode cX10_laughWith 90 = .ok (.iadd, 1) := dk_96 (dk_at dksX10_laughWith_3 21 rfl rfl)
theorem dX10_laughWith_91 : decode cX10_laughWith 91 = .ok (.iaload, 1) := dk_46 (dk_at dksX10_laughWith_3 22 rfl rfl)
theorem dX10_laughWith_92 : decode cX10_laughWith 92 = .ok (.aload_n 1, 1) := dk_43 (dk_at dksX10_laughWith_3 23 rfl rfl)
theorem dX10_laughWith_93 : decode cX10_laughWith 93 = .ok (.bipush 78, 2) := dk_16 78 (dk_at dksX10_laughWith_4 0 rfl rfl)
theorem dX10_laughWith_95 : decode cX10_laughWith 95 = .ok (.iaload, 1) := dk_46 (dk_at dksX10_laughWith_4 2 rfl rfl)
theorem dX10_laughWith_96 : decode cX10_laughWith 96 = .ok (.iload_n 3, 1) := dk_29 (dk_at dksX10_laughWith_4 3 rfl rfl)
theorem dX10_laughWith_97 : decode cX10_laughWith 97 = .ok (.invokevirtual 279, 3) := dk_182 1 23 (dk_at dksX10_laughWith_4 4 rfl rfl)
theorem dX10_laughWith_100 : decode cX10_laughWith 100 = .ok (.ireturn, 1) := dk_172 (dk_at dksX10_laughWith_4 7 rfl rfl)
abbrev cX10_more : ByteArray := prog_32_method_7_code
def yX10_more : MethodName := ⟨RX10, "more", "(II)I"⟩
def dkwX10_more_0 : List UInt8 := [26, 27, 164, 0, 7, 26, 167, 0, 4, 27, 172]
abbrev dktX10_more_0 : List UInt8 := dkwX10_more_0 ++ []
theorem dksX10_more_0 : cX10_more.data.toList.drop 0 = dktX10_more_0 := by decide +kernel
theorem dX10_more_0 : decode cX10_more 0 = .ok (.iload_n 0, 1) := dk_26 (dk_at dksX10_more_0 0 rfl rfl)
theorem dX10_more_1 : decode cX10_more 1 = .ok (.iload_n 1, 1) := dk_27 (dk_at dksX10_more_0 1 rfl rfl)
theorem dX10_more_2 : decode cX10_more 2 = .ok (.if_icmp .le 7, 3) := dk_164 0 7 (dk_at dksX10_more_0 2 rfl rfl)
theorem dX10_more_5 : decode cX10_more 5 = .ok (.iload_n 0, 1) := dk_26 (dk_at dksX10_more_0 5 rfl rfl)
theorem dX10_more_6 : decode cX10_more 6 = .ok (.goto 4, 3) := dk_167 0 4 (dk_at dksX10_more_0 6 rfl rfl)
theorem dX10_more_9 : decode cX10_more 9 = .ok (.iload_n 1, 1) := dk_27 (dk_at dksX10_more_0 9 rfl rfl)
theorem dX10_more_10 : decode cX10_more 10 = .ok (.ireturn, 1) := dk_172 (dk_at dksX10_more_0 10 rfl rfl)
abbrev cX10_toldIn : ByteArray := prog_32_method_51_code
def yX10_toldIn : MethodName := ⟨RX10, "toldIn", "([II)I"⟩
def dkwX10_toldIn_1 : List UInt8 := [96, 21, 4, 96, 46, 96, 62, 132, 4, 1, 167, 255, 227, 29, 172]
abbrev dktX10_toldIn_1 : List UInt8 := dkwX10_toldIn_1 ++ []
def dkwX10_toldIn_0 : List UInt8 := [3, 62, 3, 54, 4, 21, 4, 42, 180, 0, 23, 3, 46, 162, 0, 24, 29, 43, 16, 35, 16, 7, 28, 104]
abbrev dktX10_toldIn_0 : List UInt8 := dkwX10_toldIn_0 ++ dktX10_toldIn_1
theorem dksX10_toldIn_0 : cX10_toldIn.data.toList.drop 0 = dktX10_toldIn_0 := by decide +kernel
theorem dksX10_toldIn_1 : cX10_toldIn.data.toList.drop 24 = dktX10_toldIn_1 := dk_seg dksX10_toldIn_0 24 rfl rfl
theorem dX10_toldIn_0 : decode cX10_toldIn 0 = .ok (.iconst 0, 1) := dk_3 (dk_at dksX10_toldIn_0 0 rfl rfl)
theorem dX10_toldIn_1 : decode cX10_toldIn 1 = .ok (.istore_n 3, 1) := dk_62 (dk_at dksX10_toldIn_0 1 rfl rfl)
theorem dX10_toldIn_2 : decode cX10_toldIn 2 = .ok (.iconst 0, 1) := dk_3 (dk_at dksX10_toldIn_0 2 rfl rfl)
theorem dX10_toldIn_3 : decode cX10_toldIn 3 = .ok (.istore 4, 2) := dk_54 4 (dk_at dksX10_toldIn_0 3 rfl rfl)
theorem dX10_toldIn_5 : decode cX10_toldIn 5 = .ok (.iload 4, 2) := dk_21 4 (dk_at dksX10_toldIn_0 5 rfl rfl)
theorem dX10_toldIn_7 : decode cX10_toldIn 7 = .ok (.aload_n 0, 1) := dk_42 (dk_at dksX10_toldIn_0 7 rfl rfl)
theorem dX10_toldIn_8 : decode cX10_toldIn 8 = .ok (.getfield 23, 3) := dk_180 0 23 (dk_at dksX10_toldIn_0 8 rfl rfl)
theorem dX10_toldIn_11 : decode cX10_toldIn 11 = .ok (.iconst 0, 1) := dk_3 (dk_at dksX10_toldIn_0 11 rfl rfl)
theorem dX10_toldIn_12 : decode cX10_toldIn 12 = .ok (.iaload, 1) := dk_46 (dk_at dksX10_toldIn_0 12 rfl rfl)
theorem dX10_toldIn_13 : decode cX10_toldIn 13 = .ok (.if_icmp .ge 24, 3) := dk_162 0 24 (dk_at dksX10_toldIn_0 13 rfl rfl)
theorem dX10_toldIn_16 : decode cX10_toldIn 16 = .ok (.iload_n 3, 1) := dk_29 (dk_at dksX10_toldIn_0 16 rfl rfl)
theorem dX10_toldIn_17 : decode cX10_toldIn 17 = .ok (.aload_n 1, 1) := dk_43 (dk_at dksX10_toldIn_0 17 rfl rfl)
theorem dX10_toldIn_18 : decode cX10_toldIn 18 = .ok (.bipush 35, 2) := dk_16 35 (dk_at dksX10_toldIn_0 18 rfl rfl)
theorem dX10_toldIn_20 : decode cX10_toldIn 20 = .ok (.bipush 7, 2) := dk_16 7 (dk_at dksX10_toldIn_0 20 rfl rfl)
theorem dX10_toldIn_22 : decode cX10_toldIn 22 = .ok (.iload_n 2, 1) := dk_28 (dk_at dksX10_toldIn_0 22 rfl rfl)
theorem dX10_toldIn_23 : decode cX10_toldIn 23 = .ok (.imul, 1) := dk_104 (dk_at dksX10_toldIn_0 23 rfl rfl)
theorem dX10_toldIn_24 : decode cX10_toldIn 24 = .ok (.iadd, 1) := dk_96 (dk_at dksX10_toldIn_1 0 rfl rfl)
theorem dX10_toldIn_25 : decode cX10_toldIn 25 = .ok (.iload 4, 2) := dk_21 4 (dk_at dksX10_toldIn_1 1 rfl rfl)
theorem dX10_toldIn_27 : decode cX10_toldIn 27 = .ok (.iadd, 1) := dk_96 (dk_at dksX10_toldIn_1 3 rfl rfl)
theorem dX10_toldIn_28 : decode cX10_toldIn 28 = .ok (.iaload, 1) := dk_46 (dk_at dksX10_toldIn_1 4 rfl rfl)
theorem dX10_toldIn_29 : decode cX10_toldIn 29 = .ok (.iadd, 1) := dk_96 (dk_at dksX10_toldIn_1 5 rfl rfl)
theorem dX10_toldIn_30 : decode cX10_toldIn 30 = .ok (.istore_n 3, 1) := dk_62 (dk_at dksX10_toldIn_1 6 rfl rfl)
theorem dX10_toldIn_31 : decode cX10_toldIn 31 = .ok (.iinc 4 1, 3) := dk_132 4 1 (dk_at dksX10_toldIn_1 7 rfl rfl)
theorem dX10_toldIn_34 : decode cX10_toldIn 34 = .ok (.goto (-29), 3) := dk_167 255 227 (dk_at dksX10_toldIn_1 10 rfl rfl)
theorem dX10_toldIn_37 : decode cX10_toldIn 37 = .ok (.iload_n 3, 1) := dk_29 (dk_at dksX10_toldIn_1 13 rfl rfl)
theorem dX10_toldIn_38 : decode cX10_toldIn 38 = .ok (.ireturn, 1) := dk_172 (dk_at dksX10_toldIn_1 14 rfl rfl)
abbrev cX10_nearTo : ByteArray := prog_32_method_49_code
def yX10_nearTo : MethodName := ⟨RX10, "nearTo", "(I)I"⟩
def dkwX10_nearTo_3 : List UInt8 := [167, 255, 189, 28, 172]
abbrev dktX10_nearTo_3 : List UInt8 := dkwX10_nearTo_3 ++ []
def dkwX10_nearTo_2 : List UInt8 := [27, 160, 0, 16, 4, 42, 180, 0, 43, 29, 50, 3, 46, 120, 167, 0, 4, 3, 128, 61, 132, 3, 1]
abbrev dktX10_nearTo_2 : List UInt8 := dkwX10_nearTo_2 ++ dktX10_nearTo_3
def dkwX10_nearTo_1 : List UInt8 := [160, 0, 16, 4, 42, 180, 0, 43, 29, 50, 4, 46, 120, 167, 0, 29, 42, 180, 0, 43, 29, 50, 4, 46]
abbrev dktX10_nearTo_1 : List UInt8 := dkwX10_nearTo_1 ++ dktX10_nearTo_2
def dkwX10_nearTo_0 : List UInt8 := [3, 61, 3, 62, 29, 42, 180, 0, 23, 5, 46, 162, 0, 63, 28, 42, 180, 0, 43, 29, 50, 3, 46, 27]
abbrev dktX10_nearTo_0 : List UInt8 := dkwX10_nearTo_0 ++ dktX10_nearTo_1
theorem dksX10_nearTo_0 : cX10_nearTo.data.toList.drop 0 = dktX10_nearTo_0 := by decide +kernel
theorem dksX10_nearTo_1 : cX10_nearTo.data.toList.drop 24 = dktX10_nearTo_1 := dk_seg dksX10_nearTo_0 24 rfl rfl
theorem dksX10_nearTo_2 : cX10_nearTo.data.toList.drop 48 = dktX10_nearTo_2 := dk_seg dksX10_nearTo_1 24 rfl rfl
theorem dksX10_nearTo_3 : cX10_nearTo.data.toList.drop 71 = dktX10_nearTo_3 := dk_seg dksX10_nearTo_2 23 rfl rfl
theorem dX10_nearTo_0 : decode cX10_nearTo 0 = .ok (.iconst 0, 1) := dk_3 (dk_at dksX10_nearTo_0 0 rfl rfl)
theorem dX10_nearTo_1 : decode cX10_nearTo 1 = .ok (.istore_n 2, 1) := dk_61 (dk_at dksX10_nearTo_0 1 rfl rfl)
theorem dX10_nearTo_2 : decode cX10_nearTo 2 = .ok (.iconst 0, 1) := dk_3 (dk_at dksX10_nearTo_0 2 rfl rfl)
theorem dX10_nearTo_3 : decode cX10_nearTo 3 = .ok (.istore_n 3, 1) := dk_62 (dk_at dksX10_nearTo_0 3 rfl rfl)
theorem dX10_nearTo_4 : decode cX10_nearTo 4 = .ok (.iload_n 3, 1) := dk_29 (dk_at dksX10_nearTo_0 4 rfl rfl)
theorem dX10_nearTo_5 : decode cX10_nearTo 5 = .ok (.aload_n 0, 1) := dk_42 (dk_at dksX10_nearTo_0 5 rfl rfl)
theorem dX10_nearTo_6 : decode cX10_nearTo 6 = .ok (.getfield 23, 3) := dk_180 0 23 (dk_at dksX10_nearTo_0 6 rfl rfl)
theorem dX10_nearTo_9 : decode cX10_nearTo 9 = .ok (.iconst 2, 1) := dk_5 (dk_at dksX10_nearTo_0 9 rfl rfl)
theorem dX10_nearTo_10 : decode cX10_nearTo 10 = .ok (.iaload, 1) := dk_46 (dk_at dksX10_nearTo_0 10 rfl rfl)
theorem dX10_nearTo_11 : decode cX10_nearTo 11 = .ok (.if_icmp .ge 63, 3) := dk_162 0 63 (dk_at dksX10_nearTo_0 11 rfl rfl)
theorem dX10_nearTo_14 : decode cX10_nearTo 14 = .ok (.iload_n 2, 1) := dk_28 (dk_at dksX10_nearTo_0 14 rfl rfl)
theorem dX10_nearTo_15 : decode cX10_nearTo 15 = .ok (.aload_n 0, 1) := dk_42 (dk_at dksX10_nearTo_0 15 rfl rfl)
theorem dX10_nearTo_16 : decode cX10_nearTo 16 = .ok (.getfield 43, 3) := dk_180 0 43 (dk_at dksX10_nearTo_0 16 rfl rfl)
theorem dX10_nearTo_19 : decode cX10_nearTo 19 = .ok (.iload_n 3, 1) := dk_29 (dk_at dksX10_nearTo_0 19 rfl rfl)
theorem dX10_nearTo_20 : decode cX10_nearTo 20 = .ok (.aaload, 1) := dk_50 (dk_at dksX10_nearTo_0 20 rfl rfl)
theorem dX10_nearTo_21 : decode cX10_nearTo 21 = .ok (.iconst 0, 1) := dk_3 (dk_at dksX10_nearTo_0 21 rfl rfl)
theorem dX10_nearTo_22 : decode cX10_nearTo 22 = .ok (.iaload, 1) := dk_46 (dk_at dksX10_nearTo_0 22 rfl rfl)
theorem dX10_nearTo_23 : decode cX10_nearTo 23 = .ok (.iload_n 1, 1) := dk_27 (dk_at dksX10_nearTo_0 23 rfl rfl)
theorem dX10_nearTo_24 : decode cX10_nearTo 24 = .ok (.if_icmp .ne 16, 3) := dk_160 0 16 (dk_at dksX10_nearTo_1 0 rfl rfl)
theorem dX10_nearTo_27 : decode cX10_nearTo 27 = .ok (.iconst 1, 1) := dk_4 (dk_at dksX10_nearTo_1 3 rfl rfl)
theorem dX10_nearTo_28 : decode cX10_nearTo 28 = .ok (.aload_n 0, 1) := dk_42 (dk_at dksX10_nearTo_1 4 rfl rfl)
theorem dX10_nearTo_29 : decode cX10_nearTo 29 = .ok (.getfield 43, 3) := dk_180 0 43 (dk_at dksX10_nearTo_1 5 rfl rfl)
theorem dX10_nearTo_32 : decode cX10_nearTo 32 = .ok (.iload_n 3, 1) := dk_29 (dk_at dksX10_nearTo_1 8 rfl rfl)
theorem dX10_nearTo_33 : decode cX10_nearTo 33 = .ok (.aaload, 1) := dk_50 (dk_at dksX10_nearTo_1 9 rfl rfl)
theorem dX10_nearTo_34 : decode cX10_nearTo 34 = .ok (.iconst 1, 1) := dk_4 (dk_at dksX10_nearTo_1 10 rfl rfl)
theorem dX10_nearTo_35 : decode cX10_nearTo 35 = .ok (.iaload, 1) := dk_46 (dk_at dksX10_nearTo_1 11 rfl rfl)
theorem dX10_nearTo_36 : decode cX10_nearTo 36 = .ok (.ishl, 1) := dk_120 (dk_at dksX10_nearTo_1 12 rfl rfl)
theorem dX10_nearTo_37 : decode cX10_nearTo 37 = .ok (.goto 29, 3) := dk_167 0 29 (dk_at dksX10_nearTo_1 13 rfl rfl)
theorem dX10_nearTo_40 : decode cX10_nearTo 40 = .ok (.aload_n 0, 1) := dk_42 (dk_at dksX10_nearTo_1 16 rfl rfl)
theorem dX10_nearTo_41 : decode cX10_nearTo 41 = .ok (.getfield 43, 3) := dk_180 0 43 (dk_at dksX10_nearTo_1 17 rfl rfl)
theorem dX10_nearTo_44 : decode cX10_nearTo 44 = .ok (.iload_n 3, 1) := dk_29 (dk_at dksX10_nearTo_1 20 rfl rfl)
theorem dX10_nearTo_45 : decode cX10_nearTo 45 = .ok (.aaload, 1) := dk_50 (dk_at dksX10_nearTo_1 21 rfl rfl)
theorem dX10_nearTo_46 : decode cX10_nearTo 46 = .ok (.iconst 1, 1) := dk_4 (dk_at dksX10_nearTo_1 22 rfl rfl)
theorem dX10_nearTo_47 : decode cX10_nearTo 47 = .ok (.iaload, 1) := dk_46 (dk_at dksX10_nearTo_1 23 rfl rfl)
theorem dX10_nearTo_48 : decode cX10_nearTo 48 = .ok (.iload_n 1, 1) := dk_27 (dk_at dksX10_nearTo_2 0 rfl rfl)
theorem dX10_nearTo_49 : decode cX10_nearTo 49 = .ok (.if_icmp .ne 16, 3) := dk_160 0 16 (dk_at dksX10_nearTo_2 1 rfl rfl)
theorem dX10_nearTo_52 : decode cX10_nearTo 52 = .ok (.iconst 1, 1) := dk_4 (dk_at dksX10_nearTo_2 4 rfl rfl)
theorem dX10_nearTo_53 : decode cX10_nearTo 53 = .ok (.aload_n 0, 1) := dk_42 (dk_at dksX10_nearTo_2 5 rfl rfl)
theorem dX10_nearTo_54 : decode cX10_nearTo 54 = .ok (.getfield 43, 3) := dk_180 0 43 (dk_at dksX10_nearTo_2 6 rfl rfl)
theorem dX10_nearTo_57 : decode cX10_nearTo 57 = .ok (.iload_n 3, 1) := dk_29 (dk_at dksX10_nearTo_2 9 rfl rfl)
theorem dX10_nearTo_58 : decode cX10_nearTo 58 = .ok (.aaload, 1) := dk_50 (dk_at dksX10_nearTo_2 10 rfl rfl)
theorem dX10_nearTo_59 : decode cX10_nearTo 59 = .ok (.iconst 0, 1) := dk_3 (dk_at dksX10_nearTo_2 11 rfl rfl)
theorem dX10_nearTo_60 : decode cX10_nearTo 60 = .ok (.iaload, 1) := dk_46 (dk_at dksX10_nearTo_2 12 rfl rfl)
theorem dX10_nearTo_61 : decode cX10_nearTo 61 = .ok (.ishl, 1) := dk_120 (dk_at dksX10_nearTo_2 13 rfl rfl)
theorem dX10_nearTo_62 : decode cX10_nearTo 62 = .ok (.goto 4, 3) := dk_167 0 4 (dk_at dksX10_nearTo_2 14 rfl rfl)
theorem dX10_nearTo_65 : decode cX10_nearTo 65 = .ok (.iconst 0, 1) := dk_3 (dk_at dksX10_nearTo_2 17 rfl rfl)
theorem dX10_nearTo_66 : decode cX10_nearTo 66 = .ok (.ior, 1) := dk_128 (dk_at dksX10_nearTo_2 18 rfl rfl)
theorem dX10_nearTo_67 : decode cX10_nearTo 67 = .ok (.istore_n 2, 1) := dk_61 (dk_at dksX10_nearTo_2 19 rfl rfl)
theorem dX10_nearTo_68 : decode cX10_nearTo 68 = .ok (.iinc 3 1, 3) := dk_132 3 1 (dk_at dksX10_nearTo_2 20 rfl rfl)
theorem dX10_nearTo_71 : decode cX10_nearTo 71 = .ok (.goto (-67), 3) := dk_167 255 189 (dk_at dksX10_nearTo_3 0 rfl rfl)
theorem dX10_nearTo_74 : decode cX10_nearTo 74 = .ok (.iload_n 2, 1) := dk_28 (dk_at dksX10_nearTo_3 3 rfl rfl)
theorem dX10_nearTo_75 : decode cX10_nearTo 75 = .ok (.ireturn, 1) := dk_172 (dk_at dksX10_nearTo_3 4 rfl rfl)
abbrev cX10_whoHas : ByteArray := prog_32_method_50_code
def yX10_whoHas : MethodName := ⟨RX10, "whoHas", "([II)I"⟩
def dkwX10_whoHas_1 : List UInt8 := [158, 0, 10, 4, 21, 4, 120, 167, 0, 4, 3, 128, 62, 132, 4, 1, 167, 255, 222, 29, 172]
abbrev dktX10_whoHas_1 : List UInt8 := dkwX10_whoHas_1 ++ []
def dkwX10_whoHas_0 : List UInt8 := [3, 62, 3, 54, 4, 21, 4, 42, 180, 0, 23, 3, 46, 162, 0, 29, 29, 43, 28, 21, 4, 96, 46]
abbrev dktX10_whoHas_0 : List UInt8 := dkwX10_whoHas_0 ++ dktX10_whoHas_1
theorem dksX10_whoHas_0 : cX10_whoHas.data.toList.drop 0 = dktX10_whoHas_0 := by decide +kernel
theorem dksX10_whoHas_1 : cX10_whoHas.data.toList.drop 23 = dktX10_whoHas_1 := dk_seg dksX10_whoHas_0 23 rfl rfl
theorem dX10_whoHas_0 : decode cX10_whoHas 0 = .ok (.iconst 0, 1) := dk_3 (dk_at dksX10_whoHas_0 0 rfl rfl)
theorem dX10_whoHas_1 : decode cX10_whoHas 1 = .ok (.istore_n 3, 1) := dk_62 (dk_at dksX10_whoHas_0 1 rfl rfl)
theorem dX10_whoHas_2 : decode cX10_whoHas 2 = .ok (.iconst 0, 1) := dk_3 (dk_at dksX10_whoHas_0 2 rfl rfl)
theorem dX10_whoHas_3 : decode cX10_whoHas 3 = .ok (.istore 4, 2) := dk_54 4 (dk_at dksX10_whoHas_0 3 rfl rfl)
theorem dX10_whoHas_5 : decode cX10_whoHas 5 = .ok (.iload 4, 2) := dk_21 4 (dk_at dksX10_whoHas_0 5 rfl rfl)
theorem dX10_whoHas_7 : decode cX10_whoHas 7 = .ok (.aload_n 0, 1) := dk_42 (dk_at dksX10_whoHas_0 7 rfl rfl)
theorem dX10_whoHas_8 : decode cX10_whoHas 8 = .ok (.getfield 23, 3) := dk_180 0 23 (dk_at dksX10_whoHas_0 8 rfl rfl)
theorem dX10_whoHas_11 : decode cX10_whoHas 11 = .ok (.iconst 0, 1) := dk_3 (dk_at dksX10_whoHas_0 11 rfl rfl)
theorem dX10_whoHas_12 : decode cX10_whoHas 12 = .ok (.iaload, 1) := dk_46 (dk_at dksX10_whoHas_0 12 rfl rfl)
theorem dX10_whoHas_13 : decode cX10_whoHas 13 = .ok (.if_icmp .ge 29, 3) := dk_162 0 29 (dk_at dksX10_whoHas_0 13 rfl rfl)
theorem dX10_whoHas_16 : decode cX10_whoHas 16 = .ok (.iload_n 3, 1) := dk_29 (dk_at dksX10_whoHas_0 16 rfl rfl)
theorem dX10_whoHas_17 : decode cX10_whoHas 17 = .ok (.aload_n 1, 1) := dk_43 (dk_at dksX10_whoHas_0 17 rfl rfl)
theorem dX10_whoHas_18 : decode cX10_whoHas 18 = .ok (.iload_n 2, 1) := dk_28 (dk_at dksX10_whoHas_0 18 rfl rfl)
theorem dX10_whoHas_19 : decode cX10_whoHas 19 = .ok (.iload 4, 2) := dk_21 4 (dk_at dksX10_whoHas_0 19 rfl rfl)
theorem dX10_whoHas_21 : decode cX10_whoHas 21 = .ok (.iadd, 1) := dk_96 (dk_at dksX10_whoHas_0 21 rfl rfl)
theorem dX10_whoHas_22 : decode cX10_whoHas 22 = .ok (.iaload, 1) := dk_46 (dk_at dksX10_whoHas_0 22 rfl rfl)
theorem dX10_whoHas_23 : decode cX10_whoHas 23 = .ok (.ifCond .le 10, 3) := dk_158 0 10 (dk_at dksX10_whoHas_1 0 rfl rfl)
theorem dX10_whoHas_26 : decode cX10_whoHas 26 = .ok (.iconst 1, 1) := dk_4 (dk_at dksX10_whoHas_1 3 rfl rfl)
theorem dX10_whoHas_27 : decode cX10_whoHas 27 = .ok (.iload 4, 2) := dk_21 4 (dk_at dksX10_whoHas_1 4 rfl rfl)
theorem dX10_whoHas_29 : decode cX10_whoHas 29 = .ok (.ishl, 1) := dk_120 (dk_at dksX10_whoHas_1 6 rfl rfl)
theorem dX10_whoHas_30 : decode cX10_whoHas 30 = .ok (.goto 4, 3) := dk_167 0 4 (dk_at dksX10_whoHas_1 7 rfl rfl)
theorem dX10_whoHas_33 : decode cX10_whoHas 33 = .ok (.iconst 0, 1) := dk_3 (dk_at dksX10_whoHas_1 10 rfl rfl)
theorem dX10_whoHas_34 : decode cX10_whoHas 34 = .ok (.ior, 1) := dk_128 (dk_at dksX10_whoHas_1 11 rfl rfl)
theorem dX10_whoHas_35 : decode cX10_whoHas 35 = .ok (.istore_n 3, 1) := dk_62 (dk_at dksX10_whoHas_1 12 rfl rfl)
theorem dX10_whoHas_36 : decode cX10_whoHas 36 = .ok (.iinc 4 1, 3) := dk_132 4 1 (dk_at dksX10_whoHas_1 13 rfl rfl)
theorem dX10_whoHas_39 : decode cX10_whoHas 39 = .ok (.goto (-34), 3) := dk_167 255 222 (dk_at dksX10_whoHas_1 16 rfl rfl)
theorem dX10_whoHas_42 : decode cX10_whoHas 42 = .ok (.iload_n 3, 1) := dk_29 (dk_at dksX10_whoHas_1 19 rfl rfl)
theorem dX10_whoHas_43 : decode cX10_whoHas 43 = .ok (.ireturn, 1) := dk_172 (dk_at dksX10_whoHas_1 20 rfl rfl)
abbrev cX10_ones : ByteArray := prog_32_method_48_code
def yX10_ones : MethodName := ⟨RX10, "ones", "(I)I"⟩
def dkwX10_ones_1 : List UInt8 := [27, 172]
abbrev dktX10_ones_1 : List UInt8 := dkwX10_ones_1 ++ []
def dkwX10_ones_0 : List UInt8 := [3, 60, 3, 61, 28, 16, 7, 162, 0, 17, 27, 26, 28, 122, 4, 126, 96, 60, 132, 2, 1, 167, 255, 239]
abbrev dktX10_ones_0 : List UInt8 := dkwX10_ones_0 ++ dktX10_ones_1
theorem dksX10_ones_0 : cX10_ones.data.toList.drop 0 = dktX10_ones_0 := by decide +kernel
theorem dksX10_ones_1 : cX10_ones.data.toList.drop 24 = dktX10_ones_1 := dk_seg dksX10_ones_0 24 rfl rfl
theorem dX10_ones_0 : decode cX10_ones 0 = .ok (.iconst 0, 1) := dk_3 (dk_at dksX10_ones_0 0 rfl rfl)
theorem dX10_ones_1 : decode cX10_ones 1 = .ok (.istore_n 1, 1) := dk_60 (dk_at dksX10_ones_0 1 rfl rfl)
theorem dX10_ones_2 : decode cX10_ones 2 = .ok (.iconst 0, 1) := dk_3 (dk_at dksX10_ones_0 2 rfl rfl)
theorem dX10_ones_3 : decode cX10_ones 3 = .ok (.istore_n 2, 1) := dk_61 (dk_at dksX10_ones_0 3 rfl rfl)
theorem dX10_ones_4 : decode cX10_ones 4 = .ok (.iload_n 2, 1) := dk_28 (dk_at dksX10_ones_0 4 rfl rfl)
theorem dX10_ones_5 : decode cX10_ones 5 = .ok (.bipush 7, 2) := dk_16 7 (dk_at dksX10_ones_0 5 rfl rfl)
theorem dX10_ones_7 : decode cX10_ones 7 = .ok (.if_icmp .ge 17, 3) := dk_162 0 17 (dk_at dksX10_ones_0 7 rfl rfl)
theorem dX10_ones_10 : decode cX10_ones 10 = .ok (.iload_n 1, 1) := dk_27 (dk_at dksX10_ones_0 10 rfl rfl)
theorem dX10_ones_11 : decode cX10_ones 11 = .ok (.iload_n 0, 1) := dk_26 (dk_at dksX10_ones_0 11 rfl rfl)
theorem dX10_ones_12 : decode cX10_ones 12 = .ok (.iload_n 2, 1) := dk_28 (dk_at dksX10_ones_0 12 rfl rfl)
theorem dX10_ones_13 : decode cX10_ones 13 = .ok (.ishr, 1) := dk_122 (dk_at dksX10_ones_0 13 rfl rfl)
theorem dX10_ones_14 : decode cX10_ones 14 = .ok (.iconst 1, 1) := dk_4 (dk_at dksX10_ones_0 14 rfl rfl)
theorem dX10_ones_15 : decode cX10_ones 15 = .ok (.iand, 1) := dk_126 (dk_at dksX10_ones_0 15 rfl rfl)
theorem dX10_ones_16 : decode cX10_ones 16 = .ok (.iadd, 1) := dk_96 (dk_at dksX10_ones_0 16 rfl rfl)
theorem dX10_ones_17 : decode cX10_ones 17 = .ok (.istore_n 1, 1) := dk_60 (dk_at dksX10_ones_0 17 rfl rfl)
theorem dX10_ones_18 : decode cX10_ones 18 = .ok (.iinc 2 1, 3) := dk_132 2 1 (dk_at dksX10_ones_0 18 rfl rfl)
theorem dX10_ones_21 : decode cX10_ones 21 = .ok (.goto (-17), 3) := dk_167 255 239 (dk_at dksX10_ones_0 21 rfl rfl)
theorem dX10_ones_24 : decode cX10_ones 24 = .ok (.iload_n 1, 1) := dk_27 (dk_at dksX10_ones_1 0 rfl rfl)
theorem dX10_ones_25 : decode cX10_ones 25 = .ok (.ireturn, 1) := dk_172 (dk_at dksX10_ones_1 1 rfl rfl)
abbrev cX10_laughBy : ByteArray := prog_32_method_47_code
def yX10_laughBy : MethodName := ⟨RX10, "laughBy", "(IIIIIIIIII)I"⟩
def dkwX10_laughBy_3 : List UInt8 := [21, 9, 79, 42, 180, 0, 61, 16, 9, 21, 10, 79, 42, 182, 1, 7, 172]
abbrev dktX10_laughBy_3 : List UInt8 := dkwX10_laughBy_3 ++ []
def dkwX10_laughBy_2 : List UInt8 := [180, 0, 61, 16, 6, 21, 7, 79, 42, 180, 0, 61, 16, 7, 21, 8, 79, 42, 180, 0, 61, 16, 8]
abbrev dktX10_laughBy_2 : List UInt8 := dkwX10_laughBy_2 ++ dktX10_laughBy_3
def dkwX10_laughBy_1 : List UInt8 := [180, 0, 61, 6, 21, 4, 79, 42, 180, 0, 61, 7, 21, 5, 79, 42, 180, 0, 61, 8, 21, 6, 79, 42]
abbrev dktX10_laughBy_1 : List UInt8 := dkwX10_laughBy_1 ++ dktX10_laughBy_2
def dkwX10_laughBy_0 : List UInt8 := [42, 180, 0, 61, 3, 27, 79, 42, 180, 0, 61, 4, 28, 79, 42, 180, 0, 61, 5, 29, 79, 42]
abbrev dktX10_laughBy_0 : List UInt8 := dkwX10_laughBy_0 ++ dktX10_laughBy_1
theorem dksX10_laughBy_0 : cX10_laughBy.data.toList.drop 0 = dktX10_laughBy_0 := by decide +kernel
theorem dksX10_laughBy_1 : cX10_laughBy.data.toList.drop 22 = dktX10_laughBy_1 := dk_seg dksX10_laughBy_0 22 rfl rfl
theorem dksX10_laughBy_2 : cX10_laughBy.data.toList.drop 46 = dktX10_laughBy_2 := dk_seg dksX10_laughBy_1 24 rfl rfl
theorem dksX10_laughBy_3 : cX10_laughBy.data.toList.drop 69 = dktX10_laughBy_3 := dk_seg dksX10_laughBy_2 23 rfl rfl
theorem dX10_laughBy_0 : decode cX10_laughBy 0 = .ok (.aload_n 0, 1) := dk_42 (dk_at dksX10_laughBy_0 0 rfl rfl)
theorem dX10_laughBy_1 : decode cX10_laughBy 1 = .ok (.getfield 61, 3) := dk_180 0 61 (dk_at dksX10_laughBy_0 1 rfl rfl)
theorem dX10_laughBy_4 : decode cX10_laughBy 4 = .ok (.iconst 0, 1) := dk_3 (dk_at dksX10_laughBy_0 4 rfl rfl)
theorem dX10_laughBy_5 : decode cX10_laughBy 5 = .ok (.iload_n 1, 1) := dk_27 (dk_at dksX10_laughBy_0 5 rfl rfl)
theorem dX10_laughBy_6 : decode cX10_laughBy 6 = .ok (.iastore, 1) := dk_79 (dk_at dksX10_laughBy_0 6 rfl rfl)
theorem dX10_laughBy_7 : decode cX10_laughBy 7 = .ok (.aload_n 0, 1) := dk_42 (dk_at dksX10_laughBy_0 7 rfl rfl)
theorem dX10_laughBy_8 : decode cX10_laughBy 8 = .ok (.getfield 61, 3) := dk_180 0 61 (dk_at dksX10_laughBy_0 8 rfl rfl)
theorem dX10_laughBy_11 : decode cX10_laughBy 11 = .ok (.iconst 1, 1) := dk_4 (dk_at dksX10_laughBy_0 11 rfl rfl)
theorem dX10_laughBy_12 : decode cX10_laughBy 12 = .ok (.iload_n 2, 1) := dk_28 (dk_at dksX10_laughBy_0 12 rfl rfl)
theorem dX10_laughBy_13 : decode cX10_laughBy 13 = .ok (.iastore, 1) := dk_79 (dk_at dksX10_laughBy_0 13 rfl rfl)
theorem dX10_laughBy_14 : decode cX10_laughBy 14 = .ok (.aload_n 0, 1) := dk_42 (dk_at dksX10_laughBy_0 14 rfl rfl)
theorem dX10_laughBy_15 : decode cX10_laughBy 15 = .ok (.getfield 61, 3) := dk_180 0 61 (dk_at dksX10_laughBy_0 15 rfl rfl)
theorem dX10_laughBy_18 : decode cX10_laughBy 18 = .ok (.iconst 2, 1) := dk_5 (dk_at dksX10_laughBy_0 18 rfl rfl)
theorem dX10_laughBy_19 : decode cX10_laughBy 19 = .ok (.iload_n 3, 1) := dk_29 (dk_at dksX10_laughBy_0 19 rfl rfl)
theorem dX10_laughBy_20 : decode cX10_laughBy 20 = .ok (.iastore, 1) := dk_79 (dk_at dksX10_laughBy_0 20 rfl rfl)
theorem dX10_laughBy_21 : decode cX10_laughBy 21 = .ok (.aload_n 0, 1) := dk_42 (dk_at dksX10_laughBy_0 21 rfl rfl)
theorem dX10_laughBy_22 : decode cX10_laughBy 22 = .ok (.getfield 61, 3) := dk_180 0 61 (dk_at dksX10_laughBy_1 0 rfl rfl)
theorem dX10_laughBy_25 : decode cX10_laughBy 25 = .ok (.iconst 3, 1) := dk_6 (dk_at dksX10_laughBy_1 3 rfl rfl)
theorem dX10_laughBy_26 : decode cX10_laughBy 26 = .ok (.iload 4, 2) := dk_21 4 (dk_at dksX10_laughBy_1 4 rfl rfl)
theorem dX10_laughBy_28 : decode cX10_laughBy 28 = .ok (.iastore, 1) := dk_79 (dk_at dksX10_laughBy_1 6 rfl rfl)
theorem dX10_laughBy_29 : decode cX10_laughBy 29 = .ok (.aload_n 0, 1) := dk_42 (dk_at dksX10_laughBy_1 7 rfl rfl)
theorem dX10_laughBy_30 : decode cX10_laughBy 30 = .ok (.getfield 61, 3) := dk_180 0 61 (dk_at dksX10_laughBy_1 8 rfl rfl)
theorem dX10_laughBy_33 : decode cX10_laughBy 33 = .ok (.iconst 4, 1) := dk_7 (dk_at dksX10_laughBy_1 11 rfl rfl)
theorem dX10_laughBy_34 : decode cX10_laughBy 34 = .ok (.iload 5, 2) := dk_21 5 (dk_at dksX10_laughBy_1 12 rfl rfl)
theorem dX10_laughBy_36 : decode cX10_laughBy 36 = .ok (.iastore, 1) := dk_79 (dk_at dksX10_laughBy_1 14 rfl rfl)
theorem dX10_laughBy_37 : decode cX10_laughBy 37 = .ok (.aload_n 0, 1) := dk_42 (dk_at dksX10_laughBy_1 15 rfl rfl)
theorem dX10_laughBy_38 : decode cX10_laughBy 38 = .ok (.getfield 61, 3) := dk_180 0 61 (dk_at dksX10_laughBy_1 16 rfl rfl)
theorem dX10_laughBy_41 : decode cX10_laughBy 41 = .ok (.iconst 5, 1) := dk_8 (dk_at dksX10_laughBy_1 19 rfl rfl)
theorem dX10_laughBy_42 : decode cX10_laughBy 42 = .ok (.iload 6, 2) := dk_21 6 (dk_at dksX10_laughBy_1 20 rfl rfl)
theorem dX10_laughBy_44 : decode cX10_laughBy 44 = .ok (.iastore, 1) := dk_79 (dk_at dksX10_laughBy_1 22 rfl rfl)
theorem dX10_laughBy_45 : decode cX10_laughBy 45 = .ok (.aload_n 0, 1) := dk_42 (dk_at dksX10_laughBy_1 23 rfl rfl)
theorem dX10_laughBy_46 : decode cX10_laughBy 46 = .ok (.getfield 61, 3) := dk_180 0 61 (dk_at dksX10_laughBy_2 0 rfl rfl)
theorem dX10_laughBy_49 : decode cX10_laughBy 49 = .ok (.bipush 6, 2) := dk_16 6 (dk_at dksX10_laughBy_2 3 rfl rfl)
theorem dX10_laughBy_51 : decode cX10_laughBy 51 = .ok (.iload 7, 2) := dk_21 7 (dk_at dksX10_laughBy_2 5 rfl rfl)
theorem dX10_laughBy_53 : decode cX10_laughBy 53 = .ok (.iastore, 1) := dk_79 (dk_at dksX10_laughBy_2 7 rfl rfl)
theorem dX10_laughBy_54 : decode cX10_laughBy 54 = .ok (.aload_n 0, 1) := dk_42 (dk_at dksX10_laughBy_2 8 rfl rfl)
theorem dX10_laughBy_55 : decode cX10_laughBy 55 = .ok (.getfield 61, 3) := dk_180 0 61 (dk_at dksX10_laughBy_2 9 rfl rfl)
theorem dX10_laughBy_58 : decode cX10_laughBy 58 = .ok (.bipush 7, 2) := dk_16 7 (dk_at dksX10_laughBy_2 12 rfl rfl)
theorem dX10_laughBy_60 : decode cX10_laughBy 60 = .ok (.iload 8, 2) := dk_21 8 (dk_at dksX10_laughBy_2 14 rfl rfl)
theorem dX10_laughBy_62 : decode cX10_laughBy 62 = .ok (.iastore, 1) := dk_79 (dk_at dksX10_laughBy_2 16 rfl rfl)
theorem dX10_laughBy_63 : decode cX10_laughBy 63 = .ok (.aload_n 0, 1) := dk_42 (dk_at dksX10_laughBy_2 17 rfl rfl)
theorem dX10_laughBy_64 : decode cX10_laughBy 64 = .ok (.getfield 61, 3) := dk_180 0 61 (dk_at dksX10_laughBy_2 18 rfl rfl)
theorem dX10_laughBy_67 : decode cX10_laughBy 67 = .ok (.bipush 8, 2) := dk_16 8 (dk_at dksX10_laughBy_2 21 rfl rfl)
theorem dX10_laughBy_69 : decode cX10_laughBy 69 = .ok (.iload 9, 2) := dk_21 9 (dk_at dksX10_laughBy_3 0 rfl rfl)
theorem dX10_laughBy_71 : decode cX10_laughBy 71 = .ok (.iastore, 1) := dk_79 (dk_at dksX10_laughBy_3 2 rfl rfl)
theorem dX10_laughBy_72 : decode cX10_laughBy 72 = .ok (.aload_n 0, 1) := dk_42 (dk_at dksX10_laughBy_3 3 rfl rfl)
theorem dX10_laughBy_73 : decode cX10_laughBy 73 = .ok (.getfield 61, 3) := dk_180 0 61 (dk_at dksX10_laughBy_3 4 rfl rfl)
theorem dX10_laughBy_76 : decode cX10_laughBy 76 = .ok (.bipush 9, 2) := dk_16 9 (dk_at dksX10_laughBy_3 7 rfl rfl)
theorem dX10_laughBy_78 : decode cX10_laughBy 78 = .ok (.iload 10, 2) := dk_21 10 (dk_at dksX10_laughBy_3 9 rfl rfl)
theorem dX10_laughBy_80 : decode cX10_laughBy 80 = .ok (.iastore, 1) := dk_79 (dk_at dksX10_laughBy_3 11 rfl rfl)
theorem dX10_laughBy_81 : decode cX10_laughBy 81 = .ok (.aload_n 0, 1) := dk_42 (dk_at dksX10_laughBy_3 12 rfl rfl)
theorem dX10_laughBy_82 : decode cX10_laughBy 82 = .ok (.invokevirtual 263, 3) := dk_182 1 7 (dk_at dksX10_laughBy_3 13 rfl rfl)
theorem dX10_laughBy_85 : decode cX10_laughBy 85 = .ok (.ireturn, 1) := dk_172 (dk_at dksX10_laughBy_3 16 rfl rfl)
abbrev cX10_byLaw : ByteArray := prog_32_method_42_code
def yX10_byLaw : MethodName := ⟨RX10, "byLaw", "()I"⟩
def dkwX10_byLaw_7 : List UInt8 := [184, 0, 241, 172]
abbrev dktX10_byLaw_7 : List UInt8 := dkwX10_byLaw_7 ++ []
def dkwX10_byLaw_6 : List UInt8 := [184, 0, 247, 79, 132, 2, 1, 167, 255, 150, 16, 40, 3, 42, 180, 0, 58, 3, 46, 184, 0, 244]
abbrev dktX10_byLaw_6 : List UInt8 := dkwX10_byLaw_6 ++ dktX10_byLaw_7
def dkwX10_byLaw_5 : List UInt8 := [100, 42, 180, 0, 46, 28, 50, 3, 46, 42, 180, 0, 58, 27, 4, 100, 46, 42, 180, 0, 58, 27, 46]
abbrev dktX10_byLaw_5 : List UInt8 := dkwX10_byLaw_5 ++ dktX10_byLaw_6
def dkwX10_byLaw_4 : List UInt8 := [180, 0, 46, 28, 50, 4, 46, 46, 79, 132, 1, 1, 167, 0, 39, 132, 1, 255, 42, 180, 0, 58, 27, 4]
abbrev dktX10_byLaw_4 : List UInt8 := dkwX10_byLaw_4 ++ dktX10_byLaw_5
def dkwX10_byLaw_3 : List UInt8 := [28, 50, 3, 46, 154, 0, 14, 42, 180, 0, 46, 28, 50, 4, 46, 167, 0, 16, 42, 180, 0, 61, 42]
abbrev dktX10_byLaw_3 : List UInt8 := dkwX10_byLaw_3 ++ dktX10_byLaw_4
def dkwX10_byLaw_2 : List UInt8 := [162, 0, 104, 42, 180, 0, 46, 28, 50, 3, 46, 5, 162, 0, 50, 42, 180, 0, 58, 27, 42, 180, 0, 46]
abbrev dktX10_byLaw_2 : List UInt8 := dkwX10_byLaw_2 ++ dktX10_byLaw_3
def dkwX10_byLaw_1 : List UInt8 := [180, 0, 61, 5, 46, 104, 100, 42, 180, 0, 61, 8, 46, 100, 79, 3, 61, 28, 42, 180, 0, 195]
abbrev dktX10_byLaw_1 : List UInt8 := dkwX10_byLaw_1 ++ dktX10_byLaw_2
def dkwX10_byLaw_0 : List UInt8 := [3, 60, 42, 180, 0, 58, 3, 42, 180, 0, 61, 3, 46, 5, 42, 180, 0, 61, 4, 46, 104, 100, 6, 42]
abbrev dktX10_byLaw_0 : List UInt8 := dkwX10_byLaw_0 ++ dktX10_byLaw_1
theorem dksX10_byLaw_0 : cX10_byLaw.data.toList.drop 0 = dktX10_byLaw_0 := by decide +kernel
theorem dksX10_byLaw_1 : cX10_byLaw.data.toList.drop 24 = dktX10_byLaw_1 := dk_seg dksX10_byLaw_0 24 rfl rfl
theorem dksX10_byLaw_2 : cX10_byLaw.data.toList.drop 46 = dktX10_byLaw_2 := dk_seg dksX10_byLaw_1 22 rfl rfl
theorem dksX10_byLaw_3 : cX10_byLaw.data.toList.drop 70 = dktX10_byLaw_3 := dk_seg dksX10_byLaw_2 24 rfl rfl
theorem dksX10_byLaw_4 : cX10_byLaw.data.toList.drop 93 = dktX10_byLaw_4 := dk_seg dksX10_byLaw_3 23 rfl rfl
theorem dksX10_byLaw_5 : cX10_byLaw.data.toList.drop 117 = dktX10_byLaw_5 := dk_seg dksX10_byLaw_4 24 rfl rfl
theorem dksX10_byLaw_6 : cX10_byLaw.data.toList.drop 140 = dktX10_byLaw_6 := dk_seg dksX10_byLaw_5 23 rfl rfl
theorem dksX10_byLaw_7 : cX10_byLaw.data.toList.drop 162 = dktX10_byLaw_7 := dk_seg dksX10_byLaw_6 22 rfl rfl
theorem dX10_byLaw_0 : decode cX10_byLaw 0 = .ok (.iconst 0, 1) := dk_3 (dk_at dksX10_byLaw_0 0 rfl rfl)
theorem dX10_byLaw_1 : decode cX10_byLaw 1 = .ok (.istore_n 1, 1) := dk_60 (dk_at dksX10_byLaw_0 1 rfl rfl)
theorem dX10_byLaw_2 : decode cX10_byLaw 2 = .ok (.aload_n 0, 1) := dk_42 (dk_at dksX10_byLaw_0 2 rfl rfl)
theorem dX10_byLaw_3 : decode cX10_byLaw 3 = .ok (.getfield 58, 3) := dk_180 0 58 (dk_at dksX10_byLaw_0 3 rfl rfl)
theorem dX10_byLaw_6 : decode cX10_byLaw 6 = .ok (.iconst 0, 1) := dk_3 (dk_at dksX10_byLaw_0 6 rfl rfl)
theorem dX10_byLaw_7 : decode cX10_byLaw 7 = .ok (.aload_n 0, 1) := dk_42 (dk_at dksX10_byLaw_0 7 rfl rfl)
theorem dX10_byLaw_8 : decode cX10_byLaw 8 = .ok (.getfield 61, 3) := dk_180 0 61 (dk_at dksX10_byLaw_0 8 rfl rfl)
theorem dX10_byLaw_11 : decode cX10_byLaw 11 = .ok (.iconst 0, 1) := dk_3 (dk_at dksX10_byLaw_0 11 rfl rfl)
theorem dX10_byLaw_12 : decode cX10_byLaw 12 = .ok (.iaload, 1) := dk_46 (dk_at dksX10_byLaw_0 12 rfl rfl)
theorem dX10_byLaw_13 : decode cX10_byLaw 13 = .ok (.iconst 2, 1) := dk_5 (dk_at dksX10_byLaw_0 13 rfl rfl)
theorem dX10_byLaw_14 : decode cX10_byLaw 14 = .ok (.aload_n 0, 1) := dk_42 (dk_at dksX10_byLaw_0 14 rfl rfl)
theorem dX10_byLaw_15 : decode cX10_byLaw 15 = .ok (.getfield 61, 3) := dk_180 0 61 (dk_at dksX10_byLaw_0 15 rfl rfl)
theorem dX10_byLaw_18 : decode cX10_byLaw 18 = .ok (.iconst 1, 1) := dk_4 (dk_at dksX10_byLaw_0 18 rfl rfl)
theorem dX10_byLaw_19 : decode cX10_byLaw 19 = .ok (.iaload, 1) := dk_46 (dk_at dksX10_byLaw_0 19 rfl rfl)
theorem dX10_byLaw_20 : decode cX10_byLaw 20 = .ok (.imul, 1) := dk_104 (dk_at dksX10_byLaw_0 20 rfl rfl)
theorem dX10_byLaw_21 : decode cX10_byLaw 21 = .ok (.isub, 1) := dk_100 (dk_at dksX10_byLaw_0 21 rfl rfl)
theorem dX10_byLaw_22 : decode cX10_byLaw 22 = .ok (.iconst 3, 1) := dk_6 (dk_at dksX10_byLaw_0 22 rfl rfl)
theorem dX10_byLaw_23 : decode cX10_byLaw 23 = .ok (.aload_n 0, 1) := dk_42 (dk_at dksX10_byLaw_0 23 rfl rfl)
theorem dX10_byLaw_24 : decode cX10_byLaw 24 = .ok (.getfield 61, 3) := dk_180 0 61 (dk_at dksX10_byLaw_1 0 rfl rfl)
theorem dX10_byLaw_27 : decode cX10_byLaw 27 = .ok (.iconst 2, 1) := dk_5 (dk_at dksX10_byLaw_1 3 rfl rfl)
theorem dX10_byLaw_28 : decode cX10_byLaw 28 = .ok (.iaload, 1) := dk_46 (dk_at dksX10_byLaw_1 4 rfl rfl)
theorem dX10_byLaw_29 : decode cX10_byLaw 29 = .ok (.imul, 1) := dk_104 (dk_at dksX10_byLaw_1 5 rfl rfl)
theorem dX10_byLaw_30 : decode cX10_byLaw 30 = .ok (.isub, 1) := dk_100 (dk_at dksX10_byLaw_1 6 rfl rfl)
theorem dX10_byLaw_31 : decode cX10_byLaw 31 = .ok (.aload_n 0, 1) := dk_42 (dk_at dksX10_byLaw_1 7 rfl rfl)
theorem dX10_byLaw_32 : decode cX10_byLaw 32 = .ok (.getfield 61, 3) := dk_180 0 61 (dk_at dksX10_byLaw_1 8 rfl rfl)
theorem dX10_byLaw_35 : decode cX10_byLaw 35 = .ok (.iconst 5, 1) := dk_8 (dk_at dksX10_byLaw_1 11 rfl rfl)
theorem dX10_byLaw_36 : decode cX10_byLaw 36 = .ok (.iaload, 1) := dk_46 (dk_at dksX10_byLaw_1 12 rfl rfl)
theorem dX10_byLaw_37 : decode cX10_byLaw 37 = .ok (.isub, 1) := dk_100 (dk_at dksX10_byLaw_1 13 rfl rfl)
theorem dX10_byLaw_38 : decode cX10_byLaw 38 = .ok (.iastore, 1) := dk_79 (dk_at dksX10_byLaw_1 14 rfl rfl)
theorem dX10_byLaw_39 : decode cX10_byLaw 39 = .ok (.iconst 0, 1) := dk_3 (dk_at dksX10_byLaw_1 15 rfl rfl)
theorem dX10_byLaw_40 : decode cX10_byLaw 40 = .ok (.istore_n 2, 1) := dk_61 (dk_at dksX10_byLaw_1 16 rfl rfl)
theorem dX10_byLaw_41 : decode cX10_byLaw 41 = .ok (.iload_n 2, 1) := dk_28 (dk_at dksX10_byLaw_1 17 rfl rfl)
theorem dX10_byLaw_42 : decode cX10_byLaw 42 = .ok (.aload_n 0, 1) := dk_42 (dk_at dksX10_byLaw_1 18 rfl rfl)
theorem dX10_byLaw_43 : decode cX10_byLaw 43 = .ok (.getfield 195, 3) := dk_180 0 195 (dk_at dksX10_byLaw_1 19 rfl rfl)
theorem dX10_byLaw_46 : decode cX10_byLaw 46 = .ok (.if_icmp .ge 104, 3) := dk_162 0 104 (dk_at dksX10_byLaw_2 0 rfl rfl)
theorem dX10_byLaw_49 : decode cX10_byLaw 49 = .ok (.aload_n 0, 1) := dk_42 (dk_at dksX10_byLaw_2 3 rfl rfl)
theorem dX10_byLaw_50 : decode cX10_byLaw 50 = .ok (.getfield 46, 3) := dk_180 0 46 (dk_at dksX10_byLaw_2 4 rfl rfl)
theorem dX10_byLaw_53 : decode cX10_byLaw 53 = .ok (.iload_n 2, 1) := dk_28 (dk_at dksX10_byLaw_2 7 rfl rfl)
theorem dX10_byLaw_54 : decode cX10_byLaw 54 = .ok (.aaload, 1) := dk_50 (dk_at dksX10_byLaw_2 8 rfl rfl)
theorem dX10_byLaw_55 : decode cX10_byLaw 55 = .ok (.iconst 0, 1) := dk_3 (dk_at dksX10_byLaw_2 9 rfl rfl)
theorem dX10_byLaw_56 : decode cX10_byLaw 56 = .ok (.iaload, 1) := dk_46 (dk_at dksX10_byLaw_2 10 rfl rfl)
theorem dX10_byLaw_57 : decode cX10_byLaw 57 = .ok (.iconst 2, 1) := dk_5 (dk_at dksX10_byLaw_2 11 rfl rfl)
theorem dX10_byLaw_58 : decode cX10_byLaw 58 = .ok (.if_icmp .ge 50, 3) := dk_162 0 50 (dk_at dksX10_byLaw_2 12 rfl rfl)
theorem dX10_byLaw_61 : decode cX10_byLaw 61 = .ok (.aload_n 0, 1) := dk_42 (dk_at dksX10_byLaw_2 15 rfl rfl)
theorem dX10_byLaw_62 : decode cX10_byLaw 62 = .ok (.getfield 58, 3) := dk_180 0 58 (dk_at dksX10_byLaw_2 16 rfl rfl)
theorem dX10_byLaw_65 : decode cX10_byLaw 65 = .ok (.iload_n 1, 1) := dk_27 (dk_at dksX10_byLaw_2 19 rfl rfl)
theorem dX10_byLaw_66 : decode cX10_byLaw 66 = .ok (.aload_n 0, 1) := dk_42 (dk_at dksX10_byLaw_2 20 rfl rfl)
theorem dX10_byLaw_67 : decode cX10_byLaw 67 = .ok (.getfield 46, 3) := dk_180 0 46 (dk_at dksX10_byLaw_2 21 rfl rfl)
theorem dX10_byLaw_70 : decode cX10_byLaw 70 = .ok (.iload_n 2, 1) := dk_28 (dk_at dksX10_byLaw_3 0 rfl rfl)
theorem dX10_byLaw_71 : decode cX10_byLaw 71 = .ok (.aaload, 1) := dk_50 (dk_at dksX10_byLaw_3 1 rfl rfl)
theorem dX10_byLaw_72 : decode cX10_byLaw 72 = .ok (.iconst 0, 1) := dk_3 (dk_at dksX10_byLaw_3 2 rfl rfl)
theorem dX10_byLaw_73 : decode cX10_byLaw 73 = .ok (.iaload, 1) := dk_46 (dk_at dksX10_byLaw_3 3 rfl rfl)
theorem dX10_byLaw_74 : decode cX10_byLaw 74 = .ok (.ifCond .ne 14, 3) := dk_154 0 14 (dk_at dksX10_byLaw_3 4 rfl rfl)
theorem dX10_byLaw_77 : decode cX10_byLaw 77 = .ok (.aload_n 0, 1) := dk_42 (dk_at dksX10_byLaw_3 7 rfl rfl)
theorem dX10_byLaw_78 : decode cX10_byLaw 78 = .ok (.getfield 46, 3) := dk_180 0 46 (dk_at dksX10_byLaw_3 8 rfl rfl)
theorem dX10_byLaw_81 : decode cX10_byLaw 81 = .ok (.iload_n 2, 1) := dk_28 (dk_at dksX10_byLaw_3 11 rfl rfl)
theorem dX10_byLaw_82 : decode cX10_byLaw 82 = .ok (.aaload, 1) := dk_50 (dk_at dksX10_byLaw_3 12 rfl rfl)
theorem dX10_byLaw_83 : decode cX10_byLaw 83 = .ok (.iconst 1, 1) := dk_4 (dk_at dksX10_byLaw_3 13 rfl rfl)
theorem dX10_byLaw_84 : decode cX10_byLaw 84 = .ok (.iaload, 1) := dk_46 (dk_at dksX10_byLaw_3 14 rfl rfl)
theorem dX10_byLaw_85 : decode cX10_byLaw 85 = .ok (.goto 16, 3) := dk_167 0 16 (dk_at dksX10_byLaw_3 15 rfl rfl)
theorem dX10_byLaw_88 : decode cX10_byLaw 88 = .ok (.aload_n 0, 1) := dk_42 (dk_at dksX10_byLaw_3 18 rfl rfl)
theorem dX10_byLaw_89 : decode cX10_byLaw 89 = .ok (.getfield 61, 3) := dk_180 0 61 (dk_at dksX10_byLaw_3 19 rfl rfl)
theorem dX10_byLaw_92 : decode cX10_byLaw 92 = .ok (.aload_n 0, 1) := dk_42 (dk_at dksX10_byLaw_3 22 rfl rfl)
theorem dX10_byLaw_93 : decode cX10_byLaw 93 = .ok (.getfield 46, 3) := dk_180 0 46 (dk_at dksX10_byLaw_4 0 rfl rfl)
theorem dX10_byLaw_96 : decode cX10_byLaw 96 = .ok (.iload_n 2, 1) := dk_28 (dk_at dksX10_byLaw_4 3 rfl rfl)
theorem dX10_byLaw_97 : decode cX10_byLaw 97 = .ok (.aaload, 1) := dk_50 (dk_at dksX10_byLaw_4 4 rfl rfl)
theorem dX10_byLaw_98 : decode cX10_byLaw 98 = .ok (.iconst 1, 1) := dk_4 (dk_at dksX10_byLaw_4 5 rfl rfl)
theorem dX10_byLaw_99 : decode cX10_byLaw 99 = .ok (.iaload, 1) := dk_46 (dk_at dksX10_byLaw_4 6 rfl rfl)
theorem dX10_byLaw_100 : decode cX10_byLaw 100 = .ok (.iaload, 1) := dk_46 (dk_at dksX10_byLaw_4 7 rfl rfl)
theorem dX10_byLaw_101 : decode cX10_byLaw 101 = .ok (.iastore, 1) := dk_79 (dk_at dksX10_byLaw_4 8 rfl rfl)
theorem dX10_byLaw_102 : decode cX10_byLaw 102 = .ok (.iinc 1 1, 3) := dk_132 1 1 (dk_at dksX10_byLaw_4 9 rfl rfl)
theorem dX10_byLaw_105 : decode cX10_byLaw 105 = .ok (.goto 39, 3) := dk_167 0 39 (dk_at dksX10_byLaw_4 12 rfl rfl)
theorem dX10_byLaw_108 : decode cX10_byLaw 108 = .ok (.iinc 1 (-1), 3) := dk_132 1 255 (dk_at dksX10_byLaw_4 15 rfl rfl)
theorem dX10_byLaw_111 : decode cX10_byLaw 111 = .ok (.aload_n 0, 1) := dk_42 (dk_at dksX10_byLaw_4 18 rfl rfl)
theorem dX10_byLaw_112 : decode cX10_byLaw 112 = .ok (.getfield 58, 3) := dk_180 0 58 (dk_at dksX10_byLaw_4 19 rfl rfl)
theorem dX10_byLaw_115 : decode cX10_byLaw 115 = .ok (.iload_n 1, 1) := dk_27 (dk_at dksX10_byLaw_4 22 rfl rfl)
theorem dX10_byLaw_116 : decode cX10_byLaw 116 = .ok (.iconst 1, 1) := dk_4 (dk_at dksX10_byLaw_4 23 rfl rfl)
theorem dX10_byLaw_117 : decode cX10_byLaw 117 = .ok (.isub, 1) := dk_100 (dk_at dksX10_byLaw_5 0 rfl rfl)
theorem dX10_byLaw_118 : decode cX10_byLaw 118 = .ok (.aload_n 0, 1) := dk_42 (dk_at dksX10_byLaw_5 1 rfl rfl)
theorem dX10_byLaw_119 : decode cX10_byLaw 119 = .ok (.getfield 46, 3) := dk_180 0 46 (dk_at dksX10_byLaw_5 2 rfl rfl)
theorem dX10_byLaw_122 : decode cX10_byLaw 122 = .ok (.iload_n 2, 1) := dk_28 (dk_at dksX10_byLaw_5 5 rfl rfl)
theorem dX10_byLaw_123 : decode cX10_byLaw 123 = .ok (.aaload, 1) := dk_50 (dk_at dksX10_byLaw_5 6 rfl rfl)
theorem dX10_byLaw_124 : decode cX10_byLaw 124 = .ok (.iconst 0, 1) := dk_3 (dk_at dksX10_byLaw_5 7 rfl rfl)
theorem dX10_byLaw_125 : decode cX10_byLaw 125 = .ok (.iaload, 1) := dk_46 (dk_at dksX10_byLaw_5 8 rfl rfl)
theorem dX10_byLaw_126 : decode cX10_byLaw 126 = .ok (.aload_n 0, 1) := dk_42 (dk_at dksX10_byLaw_5 9 rfl rfl)
theorem dX10_byLaw_127 : decode cX10_byLaw 127 = .ok (.getfield 58, 3) := dk_180 0 58 (dk_at dksX10_byLaw_5 10 rfl rfl)
theorem dX10_byLaw_130 : decode cX10_byLaw 130 = .ok (.iload_n 1, 1) := dk_27 (dk_at dksX10_byLaw_5 13 rfl rfl)
theorem dX10_byLaw_131 : decode cX10_byLaw 131 = .ok (.iconst 1, 1) := dk_4 (dk_at dksX10_byLaw_5 14 rfl rfl)
theorem dX10_byLaw_132 : decode cX10_byLaw 132 = .ok (.isub, 1) := dk_100 (dk_at dksX10_byLaw_5 15 rfl rfl)
theorem dX10_byLaw_133 : decode cX10_byLaw 133 = .ok (.iaload, 1) := dk_46 (dk_at dksX10_byLaw_5 16 rfl rfl)
theorem dX10_byLaw_134 : decode cX10_byLaw 134 = .ok (.aload_n 0, 1) := dk_42 (dk_at dksX10_byLaw_5 17 rfl rfl)
theorem dX10_byLaw_135 : decode cX10_byLaw 135 = .ok (.getfield 58, 3) := dk_180 0 58 (dk_at dksX10_byLaw_5 18 rfl rfl)
theorem dX10_byLaw_138 : decode cX10_byLaw 138 = .ok (.iload_n 1, 1) := dk_27 (dk_at dksX10_byLaw_5 21 rfl rfl)
theorem dX10_byLaw_139 : decode cX10_byLaw 139 = .ok (.iaload, 1) := dk_46 (dk_at dksX10_byLaw_5 22 rfl rfl)
theorem dX10_byLaw_140 : decode cX10_byLaw 140 = .ok (.invokestatic 247, 3) := dk_184 0 247 (dk_at dksX10_byLaw_6 0 rfl rfl)
theorem dX10_byLaw_143 : decode cX10_byLaw 143 = .ok (.iastore, 1) := dk_79 (dk_at dksX10_byLaw_6 3 rfl rfl)
theorem dX10_byLaw_144 : decode cX10_byLaw 144 = .ok (.iinc 2 1, 3) := dk_132 2 1 (dk_at dksX10_byLaw_6 4 rfl rfl)
theorem dX10_byLaw_147 : decode cX10_byLaw 147 = .ok (.goto (-106), 3) := dk_167 255 150 (dk_at dksX10_byLaw_6 7 rfl rfl)
theorem dX10_byLaw_150 : decode cX10_byLaw 150 = .ok (.bipush 40, 2) := dk_16 40 (dk_at dksX10_byLaw_6 10 rfl rfl)
theorem dX10_byLaw_152 : decode cX10_byLaw 152 = .ok (.iconst 0, 1) := dk_3 (dk_at dksX10_byLaw_6 12 rfl rfl)
theorem dX10_byLaw_153 : decode cX10_byLaw 153 = .ok (.aload_n 0, 1) := dk_42 (dk_at dksX10_byLaw_6 13 rfl rfl)
theorem dX10_byLaw_154 : decode cX10_byLaw 154 = .ok (.getfield 58, 3) := dk_180 0 58 (dk_at dksX10_byLaw_6 14 rfl rfl)
theorem dX10_byLaw_157 : decode cX10_byLaw 157 = .ok (.iconst 0, 1) := dk_3 (dk_at dksX10_byLaw_6 17 rfl rfl)
theorem dX10_byLaw_158 : decode cX10_byLaw 158 = .ok (.iaload, 1) := dk_46 (dk_at dksX10_byLaw_6 18 rfl rfl)
theorem dX10_byLaw_159 : decode cX10_byLaw 159 = .ok (.invokestatic 244, 3) := dk_184 0 244 (dk_at dksX10_byLaw_6 19 rfl rfl)
theorem dX10_byLaw_162 : decode cX10_byLaw 162 = .ok (.invokestatic 241, 3) := dk_184 0 241 (dk_at dksX10_byLaw_7 0 rfl rfl)
theorem dX10_byLaw_165 : decode cX10_byLaw 165 = .ok (.ireturn, 1) := dk_172 (dk_at dksX10_byLaw_7 3 rfl rfl)
abbrev cX10_by : ByteArray := prog_32_method_41_code
def yX10_by : MethodName := ⟨RX10, "by", "(III)I"⟩
def dkwX10_by_4 : List UInt8 := [167, 0, 6, 27, 28, 112, 172, 27, 28, 184, 0, 241, 172, 27, 28, 184, 0, 244, 172]
abbrev dktX10_by_4 : List UInt8 := dkwX10_by_4 ++ []
def dkwX10_by_3 : List UInt8 := [160, 0, 8, 27, 116, 167, 0, 6, 27, 28, 108, 172, 28, 153, 0, 8, 28, 2, 160, 0, 7, 3]
abbrev dktX10_by_3 : List UInt8 := dkwX10_by_3 ++ dktX10_by_4
def dkwX10_by_2 : List UInt8 := [27, 28, 96, 172, 27, 28, 100, 172, 27, 28, 104, 172, 28, 154, 0, 7, 3, 167, 0, 16, 28, 2]
abbrev dktX10_by_2 : List UInt8 := dkwX10_by_2 ++ dktX10_by_3
def dkwX10_by_1 : List UInt8 := [170, 0, 0, 0, 0, 0, 96, 0, 0, 0, 2, 0, 0, 0, 7, 0, 0, 0, 39, 0, 0, 0, 43, 0, 0, 0, 47, 0, 0, 0, 51, 0, 0, 0, 73, 0, 0, 0, 90]
abbrev dktX10_by_1 : List UInt8 := dkwX10_by_1 ++ dktX10_by_2
def dkwX10_by_0 : List UInt8 := [26]
abbrev dktX10_by_0 : List UInt8 := dkwX10_by_0 ++ dktX10_by_1
theorem dksX10_by_0 : cX10_by.data.toList.drop 0 = dktX10_by_0 := by decide +kernel
theorem dksX10_by_1 : cX10_by.data.toList.drop 1 = dktX10_by_1 := dk_seg dksX10_by_0 1 rfl rfl
theorem dksX10_by_2 : cX10_by.data.toList.drop 40 = dktX10_by_2 := dk_seg dksX10_by_1 39 rfl rfl
theorem dksX10_by_3 : cX10_by.data.toList.drop 62 = dktX10_by_3 := dk_seg dksX10_by_2 22 rfl rfl
theorem dksX10_by_4 : cX10_by.data.toList.drop 84 = dktX10_by_4 := dk_seg dksX10_by_3 22 rfl rfl
theorem dX10_by_0 : decode cX10_by 0 = .ok (.iload_n 0, 1) := dk_26 (dk_at dksX10_by_0 0 rfl rfl)
theorem dX10_by_1 : decode cX10_by 1 = .ok (.tableswitch 96 2 7 #[39, 43, 47, 51, 73, 90], 39) := by decide +kernel
theorem dX10_by_40 : decode cX10_by 40 = .ok (.iload_n 1, 1) := dk_27 (dk_at dksX10_by_2 0 rfl rfl)
theorem dX10_by_41 : decode cX10_by 41 = .ok (.iload_n 2, 1) := dk_28 (dk_at dksX10_by_2 1 rfl rfl)
theorem dX10_by_42 : decode cX10_by 42 = .ok (.iadd, 1) := dk_96 (dk_at dksX10_by_2 2 rfl rfl)
theorem dX10_by_43 : decode cX10_by 43 = .ok (.ireturn, 1) := dk_172 (dk_at dksX10_by_2 3 rfl rfl)
theorem dX10_by_44 : decode cX10_by 44 = .ok (.iload_n 1, 1) := dk_27 (dk_at dksX10_by_2 4 rfl rfl)
theorem dX10_by_45 : decode cX10_by 45 = .ok (.iload_n 2, 1) := dk_28 (dk_at dksX10_by_2 5 rfl rfl)
theorem dX10_by_46 : decode cX10_by 46 = .ok (.isub, 1) := dk_100 (dk_at dksX10_by_2 6 rfl rfl)
theorem dX10_by_47 : decode cX10_by 47 = .ok (.ireturn, 1) := dk_172 (dk_at dksX10_by_2 7 rfl rfl)
theorem dX10_by_48 : decode cX10_by 48 = .ok (.iload_n 1, 1) := dk_27 (dk_at dksX10_by_2 8 rfl rfl)
theorem dX10_by_49 : decode cX10_by 49 = .ok (.iload_n 2, 1) := dk_28 (dk_at dksX10_by_2 9 rfl rfl)
theorem dX10_by_50 : decode cX10_by 50 = .ok (.imul, 1) := dk_104 (dk_at dksX10_by_2 10 rfl rfl)
theorem dX10_by_51 : decode cX10_by 51 = .ok (.ireturn, 1) := dk_172 (dk_at dksX10_by_2 11 rfl rfl)
theorem dX10_by_52 : decode cX10_by 52 = .ok (.iload_n 2, 1) := dk_28 (dk_at dksX10_by_2 12 rfl rfl)
theorem dX10_by_53 : decode cX10_by 53 = .ok (.ifCond .ne 7, 3) := dk_154 0 7 (dk_at dksX10_by_2 13 rfl rfl)
theorem dX10_by_56 : decode cX10_by 56 = .ok (.iconst 0, 1) := dk_3 (dk_at dksX10_by_2 16 rfl rfl)
theorem dX10_by_57 : decode cX10_by 57 = .ok (.goto 16, 3) := dk_167 0 16 (dk_at dksX10_by_2 17 rfl rfl)
theorem dX10_by_60 : decode cX10_by 60 = .ok (.iload_n 2, 1) := dk_28 (dk_at dksX10_by_2 20 rfl rfl)
theorem dX10_by_61 : decode cX10_by 61 = .ok (.iconst (-1), 1) := dk_2 (dk_at dksX10_by_2 21 rfl rfl)
theorem dX10_by_62 : decode cX10_by 62 = .ok (.if_icmp .ne 8, 3) := dk_160 0 8 (dk_at dksX10_by_3 0 rfl rfl)
theorem dX10_by_65 : decode cX10_by 65 = .ok (.iload_n 1, 1) := dk_27 (dk_at dksX10_by_3 3 rfl rfl)
theorem dX10_by_66 : decode cX10_by 66 = .ok (.ineg, 1) := dk_116 (dk_at dksX10_by_3 4 rfl rfl)
theorem dX10_by_67 : decode cX10_by 67 = .ok (.goto 6, 3) := dk_167 0 6 (dk_at dksX10_by_3 5 rfl rfl)
theorem dX10_by_70 : decode cX10_by 70 = .ok (.iload_n 1, 1) := dk_27 (dk_at dksX10_by_3 8 rfl rfl)
theorem dX10_by_71 : decode cX10_by 71 = .ok (.iload_n 2, 1) := dk_28 (dk_at dksX10_by_3 9 rfl rfl)
theorem dX10_by_72 : decode cX10_by 72 = .ok (.idiv, 1) := dk_108 (dk_at dksX10_by_3 10 rfl rfl)
theorem dX10_by_73 : decode cX10_by 73 = .ok (.ireturn, 1) := dk_172 (dk_at dksX10_by_3 11 rfl rfl)
theorem dX10_by_74 : decode cX10_by 74 = .ok (.iload_n 2, 1) := dk_28 (dk_at dksX10_by_3 12 rfl rfl)
theorem dX10_by_75 : decode cX10_by 75 = .ok (.ifCond .eq 8, 3) := dk_153 0 8 (dk_at dksX10_by_3 13 rfl rfl)
theorem dX10_by_78 : decode cX10_by 78 = .ok (.iload_n 2, 1) := dk_28 (dk_at dksX10_by_3 16 rfl rfl)
theorem dX10_by_79 : decode cX10_by 79 = .ok (.iconst (-1), 1) := dk_2 (dk_at dksX10_by_3 17 rfl rfl)
theorem dX10_by_80 : decode cX10_by 80 = .ok (.if_icmp .ne 7, 3) := dk_160 0 7 (dk_at dksX10_by_3 18 rfl rfl)
theorem dX10_by_83 : decode cX10_by 83 = .ok (.iconst 0, 1) := dk_3 (dk_at dksX10_by_3 21 rfl rfl)
theorem dX10_by_84 : decode cX10_by 84 = .ok (.goto 6, 3) := dk_167 0 6 (dk_at dksX10_by_4 0 rfl rfl)
theorem dX10_by_87 : decode cX10_by 87 = .ok (.iload_n 1, 1) := dk_27 (dk_at dksX10_by_4 3 rfl rfl)
theorem dX10_by_88 : decode cX10_by 88 = .ok (.iload_n 2, 1) := dk_28 (dk_at dksX10_by_4 4 rfl rfl)
theorem dX10_by_89 : decode cX10_by 89 = .ok (.irem, 1) := dk_112 (dk_at dksX10_by_4 5 rfl rfl)
theorem dX10_by_90 : decode cX10_by 90 = .ok (.ireturn, 1) := dk_172 (dk_at dksX10_by_4 6 rfl rfl)
theorem dX10_by_91 : decode cX10_by 91 = .ok (.iload_n 1, 1) := dk_27 (dk_at dksX10_by_4 7 rfl rfl)
theorem dX10_by_92 : decode cX10_by 92 = .ok (.iload_n 2, 1) := dk_28 (dk_at dksX10_by_4 8 rfl rfl)
theorem dX10_by_93 : decode cX10_by 93 = .ok (.invokestatic 241, 3) := dk_184 0 241 (dk_at dksX10_by_4 9 rfl rfl)
theorem dX10_by_96 : decode cX10_by 96 = .ok (.ireturn, 1) := dk_172 (dk_at dksX10_by_4 12 rfl rfl)
theorem dX10_by_97 : decode cX10_by 97 = .ok (.iload_n 1, 1) := dk_27 (dk_at dksX10_by_4 13 rfl rfl)
theorem dX10_by_98 : decode cX10_by 98 = .ok (.iload_n 2, 1) := dk_28 (dk_at dksX10_by_4 14 rfl rfl)
theorem dX10_by_99 : decode cX10_by 99 = .ok (.invokestatic 244, 3) := dk_184 0 244 (dk_at dksX10_by_4 15 rfl rfl)
theorem dX10_by_102 : decode cX10_by 102 = .ok (.ireturn, 1) := dk_172 (dk_at dksX10_by_4 18 rfl rfl)
abbrev cX10_less : ByteArray := prog_32_method_6_code
def yX10_less : MethodName := ⟨RX10, "less", "(II)I"⟩
def dkwX10_less_0 : List UInt8 := [26, 27, 162, 0, 7, 26, 167, 0, 4, 27, 172]
abbrev dktX10_less_0 : List UInt8 := dkwX10_less_0 ++ []
theorem dksX10_less_0 : cX10_less.data.toList.drop 0 = dktX10_less_0 := by decide +kernel
theorem dX10_less_0 : decode cX10_less 0 = .ok (.iload_n 0, 1) := dk_26 (dk_at dksX10_less_0 0 rfl rfl)
theorem dX10_less_1 : decode cX10_less 1 = .ok (.iload_n 1, 1) := dk_27 (dk_at dksX10_less_0 1 rfl rfl)
theorem dX10_less_2 : decode cX10_less 2 = .ok (.if_icmp .ge 7, 3) := dk_162 0 7 (dk_at dksX10_less_0 2 rfl rfl)
theorem dX10_less_5 : decode cX10_less 5 = .ok (.iload_n 0, 1) := dk_26 (dk_at dksX10_less_0 5 rfl rfl)
theorem dX10_less_6 : decode cX10_less 6 = .ok (.goto 4, 3) := dk_167 0 4 (dk_at dksX10_less_0 6 rfl rfl)
theorem dX10_less_9 : decode cX10_less 9 = .ok (.iload_n 1, 1) := dk_27 (dk_at dksX10_less_0 9 rfl rfl)
theorem dX10_less_10 : decode cX10_less 10 = .ok (.ireturn, 1) := dk_172 (dk_at dksX10_less_0 10 rfl rfl)
abbrev cX10_grieves : ByteArray := prog_32_method_56_code
def yX10_grieves : MethodName := ⟨RX10, "grieves", "([III)Z"⟩
def dkwX10_grieves_0 : List UInt8 := [42, 3, 27, 96, 46, 28, 161, 0, 5, 3, 172, 42, 3, 27, 96, 28, 79, 4, 172]
abbrev dktX10_grieves_0 : List UInt8 := dkwX10_grieves_0 ++ []
theorem dksX10_grieves_0 : cX10_grieves.data.toList.drop 0 = dktX10_grieves_0 := by decide +kernel
theorem dX10_grieves_0 : decode cX10_grieves 0 = .ok (.aload_n 0, 1) := dk_42 (dk_at dksX10_grieves_0 0 rfl rfl)
theorem dX10_grieves_1 : decode cX10_grieves 1 = .ok (.iconst 0, 1) := dk_3 (dk_at dksX10_grieves_0 1 rfl rfl)
theorem dX10_grieves_2 : decode cX10_grieves 2 = .ok (.iload_n 1, 1) := dk_27 (dk_at dksX10_grieves_0 2 rfl rfl)
theorem dX10_grieves_3 : decode cX10_grieves 3 = .ok (.iadd, 1) := dk_96 (dk_at dksX10_grieves_0 3 rfl rfl)
theorem dX10_grieves_4 : decode cX10_grieves 4 = .ok (.iaload, 1) := dk_46 (dk_at dksX10_grieves_0 4 rfl rfl)
theorem dX10_grieves_5 : decode cX10_grieves 5 = .ok (.iload_n 2, 1) := dk_28 (dk_at dksX10_grieves_0 5 rfl rfl)
theorem dX10_grieves_6 : decode cX10_grieves 6 = .ok (.if_icmp .lt 5, 3) := dk_161 0 5 (dk_at dksX10_grieves_0 6 rfl rfl)
theorem dX10_grieves_9 : decode cX10_grieves 9 = .ok (.iconst 0, 1) := dk_3 (dk_at dksX10_grieves_0 9 rfl rfl)
theorem dX10_grieves_10 : decode cX10_grieves 10 = .ok (.ireturn, 1) := dk_172 (dk_at dksX10_grieves_0 10 rfl rfl)
theorem dX10_grieves_11 : decode cX10_grieves 11 = .ok (.aload_n 0, 1) := dk_42 (dk_at dksX10_grieves_0 11 rfl rfl)
theorem dX10_grieves_12 : decode cX10_grieves 12 = .ok (.iconst 0, 1) := dk_3 (dk_at dksX10_grieves_0 12 rfl rfl)
theorem dX10_grieves_13 : decode cX10_grieves 13 = .ok (.iload_n 1, 1) := dk_27 (dk_at dksX10_grieves_0 13 rfl rfl)
theorem dX10_grieves_14 : decode cX10_grieves 14 = .ok (.iadd, 1) := dk_96 (dk_at dksX10_grieves_0 14 rfl rfl)
theorem dX10_grieves_15 : decode cX10_grieves 15 = .ok (.iload_n 2, 1) := dk_28 (dk_at dksX10_grieves_0 15 rfl rfl)
theorem dX10_grieves_16 : decode cX10_grieves 16 = .ok (.iastore, 1) := dk_79 (dk_at dksX10_grieves_0 16 rfl rfl)
theorem dX10_grieves_17 : decode cX10_grieves 17 = .ok (.iconst 1, 1) := dk_4 (dk_at dksX10_grieves_0 17 rfl rfl)
theorem dX10_grieves_18 : decode cX10_grieves 18 = .ok (.ireturn, 1) := dk_172 (dk_at dksX10_grieves_0 18 rfl rfl)
abbrev cX10_dayEnds : ByteArray := prog_32_method_57_code
def yX10_dayEnds : MethodName := ⟨RX10, "dayEnds", "([I)V"⟩
def dkwX10_dayEnds_4 : List UInt8 := [96, 3, 79, 132, 2, 1, 167, 255, 158, 43, 16, 78, 92, 46, 4, 96, 79, 177]
abbrev dktX10_dayEnds_4 : List UInt8 := dkwX10_dayEnds_4 ++ []
def dkwX10_dayEnds_3 : List UInt8 := [184, 0, 241, 79, 43, 3, 28, 96, 3, 43, 3, 28, 96, 46, 4, 100, 184, 0, 244, 79, 43, 16, 14, 28]
abbrev dktX10_dayEnds_3 : List UInt8 := dkwX10_dayEnds_3 ++ dktX10_dayEnds_4
def dkwX10_dayEnds_2 : List UInt8 := [160, 0, 7, 3, 167, 0, 23, 16, 99, 43, 16, 7, 28, 96, 46, 42, 180, 0, 23, 7, 46, 96, 29, 100]
abbrev dktX10_dayEnds_2 : List UInt8 := dkwX10_dayEnds_2 ++ dktX10_dayEnds_3
def dkwX10_dayEnds_1 : List UInt8 := [184, 0, 241, 62, 43, 16, 77, 92, 46, 29, 100, 79, 43, 16, 7, 28, 96, 29, 42, 180, 0, 23, 7, 46]
abbrev dktX10_dayEnds_1 : List UInt8 := dkwX10_dayEnds_1 ++ dktX10_dayEnds_2
def dkwX10_dayEnds_0 : List UInt8 := [3, 61, 28, 42, 180, 0, 23, 3, 46, 162, 0, 94, 42, 180, 0, 23, 7, 46, 43, 16, 77, 46]
abbrev dktX10_dayEnds_0 : List UInt8 := dkwX10_dayEnds_0 ++ dktX10_dayEnds_1
theorem dksX10_dayEnds_0 : cX10_dayEnds.data.toList.drop 0 = dktX10_dayEnds_0 := by decide +kernel
theorem dksX10_dayEnds_1 : cX10_dayEnds.data.toList.drop 22 = dktX10_dayEnds_1 := dk_seg dksX10_dayEnds_0 22 rfl rfl
theorem dksX10_dayEnds_2 : cX10_dayEnds.data.toList.drop 46 = dktX10_dayEnds_2 := dk_seg dksX10_dayEnds_1 24 rfl rfl
theorem dksX10_dayEnds_3 : cX10_dayEnds.data.toList.drop 70 = dktX10_dayEnds_3 := dk_seg dksX10_dayEnds_2 24 rfl rfl
theorem dksX10_dayEnds_4 : cX10_dayEnds.data.toList.drop 94 = dktX10_dayEnds_4 := dk_seg dksX10_dayEnds_3 24 rfl rfl
theorem dX10_dayEnds_0 : decode cX10_dayEnds 0 = .ok (.iconst 0, 1) := dk_3 (dk_at dksX10_dayEnds_0 0 rfl rfl)
theorem dX10_dayEnds_1 : decode cX10_dayEnds 1 = .ok (.istore_n 2, 1) := dk_61 (dk_at dksX10_dayEnds_0 1 rfl rfl)
theorem dX10_dayEnds_2 : decode cX10_dayEnds 2 = .ok (.iload_n 2, 1) := dk_28 (dk_at dksX10_dayEnds_0 2 rfl rfl)
theorem dX10_dayEnds_3 : decode cX10_dayEnds 3 = .ok (.aload_n 0, 1) := dk_42 (dk_at dksX10_dayEnds_0 3 rfl rfl)
theorem dX10_dayEnds_4 : decode cX10_dayEnds 4 = .ok (.getfield 23, 3) := dk_180 0 23 (dk_at dksX10_dayEnds_0 4 rfl rfl)
theorem dX10_dayEnds_7 : decode cX10_dayEnds 7 = .ok (.iconst 0, 1) := dk_3 (dk_at dksX10_dayEnds_0 7 rfl rfl)
theorem dX10_dayEnds_8 : decode cX10_dayEnds 8 = .ok (.iaload, 1) := dk_46 (dk_at dksX10_dayEnds_0 8 rfl rfl)
theorem dX10_dayEnds_9 : decode cX10_dayEnds 9 = .ok (.if_icmp .ge 94, 3) := dk_162 0 94 (dk_at dksX10_dayEnds_0 9 rfl rfl)
theorem dX10_dayEnds_12 : decode cX10_dayEnds 12 = .ok (.aload_n 0, 1) := dk_42 (dk_at dksX10_dayEnds_0 12 rfl rfl)
theorem dX10_dayEnds_13 : decode cX10_dayEnds 13 = .ok (.getfield 23, 3) := dk_180 0 23 (dk_at dksX10_dayEnds_0 13 rfl rfl)
theorem dX10_dayEnds_16 : decode cX10_dayEnds 16 = .ok (.iconst 4, 1) := dk_7 (dk_at dksX10_dayEnds_0 16 rfl rfl)
theorem dX10_dayEnds_17 : decode cX10_dayEnds 17 = .ok (.iaload, 1) := dk_46 (dk_at dksX10_dayEnds_0 17 rfl rfl)
theorem dX10_dayEnds_18 : decode cX10_dayEnds 18 = .ok (.aload_n 1, 1) := dk_43 (dk_at dksX10_dayEnds_0 18 rfl rfl)
theorem dX10_dayEnds_19 : decode cX10_dayEnds 19 = .ok (.bipush 77, 2) := dk_16 77 (dk_at dksX10_dayEnds_0 19 rfl rfl)
theorem dX10_dayEnds_21 : decode cX10_dayEnds 21 = .ok (.iaload, 1) := dk_46 (dk_at dksX10_dayEnds_0 21 rfl rfl)
theorem dX10_dayEnds_22 : decode cX10_dayEnds 22 = .ok (.invokestatic 241, 3) := dk_184 0 241 (dk_at dksX10_dayEnds_1 0 rfl rfl)
theorem dX10_dayEnds_25 : decode cX10_dayEnds 25 = .ok (.istore_n 3, 1) := dk_62 (dk_at dksX10_dayEnds_1 3 rfl rfl)
theorem dX10_dayEnds_26 : decode cX10_dayEnds 26 = .ok (.aload_n 1, 1) := dk_43 (dk_at dksX10_dayEnds_1 4 rfl rfl)
theorem dX10_dayEnds_27 : decode cX10_dayEnds 27 = .ok (.bipush 77, 2) := dk_16 77 (dk_at dksX10_dayEnds_1 5 rfl rfl)
theorem dX10_dayEnds_29 : decode cX10_dayEnds 29 = .ok (.dup2, 1) := dk_92 (dk_at dksX10_dayEnds_1 7 rfl rfl)
theorem dX10_dayEnds_30 : decode cX10_dayEnds 30 = .ok (.iaload, 1) := dk_46 (dk_at dksX10_dayEnds_1 8 rfl rfl)
theorem dX10_dayEnds_31 : decode cX10_dayEnds 31 = .ok (.iload_n 3, 1) := dk_29 (dk_at dksX10_dayEnds_1 9 rfl rfl)
theorem dX10_dayEnds_32 : decode cX10_dayEnds 32 = .ok (.isub, 1) := dk_100 (dk_at dksX10_dayEnds_1 10 rfl rfl)
theorem dX10_dayEnds_33 : decode cX10_dayEnds 33 = .ok (.iastore, 1) := dk_79 (dk_at dksX10_dayEnds_1 11 rfl rfl)
theorem dX10_dayEnds_34 : decode cX10_dayEnds 34 = .ok (.aload_n 1, 1) := dk_43 (dk_at dksX10_dayEnds_1 12 rfl rfl)
theorem dX10_dayEnds_35 : decode cX10_dayEnds 35 = .ok (.bipush 7, 2) := dk_16 7 (dk_at dksX10_dayEnds_1 13 rfl rfl)
theorem dX10_dayEnds_37 : decode cX10_dayEnds 37 = .ok (.iload_n 2, 1) := dk_28 (dk_at dksX10_dayEnds_1 15 rfl rfl)
theorem dX10_dayEnds_38 : decode cX10_dayEnds 38 = .ok (.iadd, 1) := dk_96 (dk_at dksX10_dayEnds_1 16 rfl rfl)
theorem dX10_dayEnds_39 : decode cX10_dayEnds 39 = .ok (.iload_n 3, 1) := dk_29 (dk_at dksX10_dayEnds_1 17 rfl rfl)
theorem dX10_dayEnds_40 : decode cX10_dayEnds 40 = .ok (.aload_n 0, 1) := dk_42 (dk_at dksX10_dayEnds_1 18 rfl rfl)
theorem dX10_dayEnds_41 : decode cX10_dayEnds 41 = .ok (.getfield 23, 3) := dk_180 0 23 (dk_at dksX10_dayEnds_1 19 rfl rfl)
theorem dX10_dayEnds_44 : decode cX10_dayEnds 44 = .ok (.iconst 4, 1) := dk_7 (dk_at dksX10_dayEnds_1 22 rfl rfl)
theorem dX10_dayEnds_45 : decode cX10_dayEnds 45 = .ok (.iaload, 1) := dk_46 (dk_at dksX10_dayEnds_1 23 rfl rfl)
theorem dX10_dayEnds_46 : decode cX10_dayEnds 46 = .ok (.if_icmp .ne 7, 3) := dk_160 0 7 (dk_at dksX10_dayEnds_2 0 rfl rfl)
theorem dX10_dayEnds_49 : decode cX10_dayEnds 49 = .ok (.iconst 0, 1) := dk_3 (dk_at dksX10_dayEnds_2 3 rfl rfl)
theorem dX10_dayEnds_50 : decode cX10_dayEnds 50 = .ok (.goto 23, 3) := dk_167 0 23 (dk_at dksX10_dayEnds_2 4 rfl rfl)
theorem dX10_dayEnds_53 : decode cX10_dayEnds 53 = .ok (.bipush 99, 2) := dk_16 99 (dk_at dksX10_dayEnds_2 7 rfl rfl)
theorem dX10_dayEnds_55 : decode cX10_dayEnds 55 = .ok (.aload_n 1, 1) := dk_43 (dk_at dksX10_dayEnds_2 9 rfl rfl)
theorem dX10_dayEnds_56 : decode cX10_dayEnds 56 = .ok (.bipush 7, 2) := dk_16 7 (dk_at dksX10_dayEnds_2 10 rfl rfl)
theorem dX10_dayEnds_58 : decode cX10_dayEnds 58 = .ok (.iload_n 2, 1) := dk_28 (dk_at dksX10_dayEnds_2 12 rfl rfl)
theorem dX10_dayEnds_59 : decode cX10_dayEnds 59 = .ok (.iadd, 1) := dk_96 (dk_at dksX10_dayEnds_2 13 rfl rfl)
theorem dX10_dayEnds_60 : decode cX10_dayEnds 60 = .ok (.iaload, 1) := dk_46 (dk_at dksX10_dayEnds_2 14 rfl rfl)
theorem dX10_dayEnds_61 : decode cX10_dayEnds 61 = .ok (.aload_n 0, 1) := dk_42 (dk_at dksX10_dayEnds_2 15 rfl rfl)
theorem dX10_dayEnds_62 : decode cX10_dayEnds 62 = .ok (.getfield 23, 3) := dk_180 0 23 (dk_at dksX10_dayEnds_2 16 rfl rfl)
theorem dX10_dayEnds_65 : decode cX10_dayEnds 65 = .ok (.iconst 4, 1) := dk_7 (dk_at dksX10_dayEnds_2 19 rfl rfl)
theorem dX10_dayEnds_66 : decode cX10_dayEnds 66 = .ok (.iaload, 1) := dk_46 (dk_at dksX10_dayEnds_2 20 rfl rfl)
theorem dX10_dayEnds_67 : decode cX10_dayEnds 67 = .ok (.iadd, 1) := dk_96 (dk_at dksX10_dayEnds_2 21 rfl rfl)
theorem dX10_dayEnds_68 : decode cX10_dayEnds 68 = .ok (.iload_n 3, 1) := dk_29 (dk_at dksX10_dayEnds_2 22 rfl rfl)
theorem dX10_dayEnds_69 : decode cX10_dayEnds 69 = .ok (.isub, 1) := dk_100 (dk_at dksX10_dayEnds_2 23 rfl rfl)
theorem dX10_dayEnds_70 : decode cX10_dayEnds 70 = .ok (.invokestatic 241, 3) := dk_184 0 241 (dk_at dksX10_dayEnds_3 0 rfl rfl)
theorem dX10_dayEnds_73 : decode cX10_dayEnds 73 = .ok (.iastore, 1) := dk_79 (dk_at dksX10_dayEnds_3 3 rfl rfl)
theorem dX10_dayEnds_74 : decode cX10_dayEnds 74 = .ok (.aload_n 1, 1) := dk_43 (dk_at dksX10_dayEnds_3 4 rfl rfl)
theorem dX10_dayEnds_75 : decode cX10_dayEnds 75 = .ok (.iconst 0, 1) := dk_3 (dk_at dksX10_dayEnds_3 5 rfl rfl)
theorem dX10_dayEnds_76 : decode cX10_dayEnds 76 = .ok (.iload_n 2, 1) := dk_28 (dk_at dksX10_dayEnds_3 6 rfl rfl)
theorem dX10_dayEnds_77 : decode cX10_dayEnds 77 = .ok (.iadd, 1) := dk_96 (dk_at dksX10_dayEnds_3 7 rfl rfl)
theorem dX10_dayEnds_78 : decode cX10_dayEnds 78 = .ok (.iconst 0, 1) := dk_3 (dk_at dksX10_dayEnds_3 8 rfl rfl)
theorem dX10_dayEnds_79 : decode cX10_dayEnds 79 = .ok (.aload_n 1, 1) := dk_43 (dk_at dksX10_dayEnds_3 9 rfl rfl)
theorem dX10_dayEnds_80 : decode cX10_dayEnds 80 = .ok (.iconst 0, 1) := dk_3 (dk_at dksX10_dayEnds_3 10 rfl rfl)
theorem dX10_dayEnds_81 : decode cX10_dayEnds 81 = .ok (.iload_n 2, 1) := dk_28 (dk_at dksX10_dayEnds_3 11 rfl rfl)
theorem dX10_dayEnds_82 : decode cX10_dayEnds 82 = .ok (.iadd, 1) := dk_96 (dk_at dksX10_dayEnds_3 12 rfl rfl)
theorem dX10_dayEnds_83 : decode cX10_dayEnds 83 = .ok (.iaload, 1) := dk_46 (dk_at dksX10_dayEnds_3 13 rfl rfl)
theorem dX10_dayEnds_84 : decode cX10_dayEnds 84 = .ok (.iconst 1, 1) := dk_4 (dk_at dksX10_dayEnds_3 14 rfl rfl)
theorem dX10_dayEnds_85 : decode cX10_dayEnds 85 = .ok (.isub, 1) := dk_100 (dk_at dksX10_dayEnds_3 15 rfl rfl)
theorem dX10_dayEnds_86 : decode cX10_dayEnds 86 = .ok (.invokestatic 244, 3) := dk_184 0 244 (dk_at dksX10_dayEnds_3 16 rfl rfl)
theorem dX10_dayEnds_89 : decode cX10_dayEnds 89 = .ok (.iastore, 1) := dk_79 (dk_at dksX10_dayEnds_3 19 rfl rfl)
theorem dX10_dayEnds_90 : decode cX10_dayEnds 90 = .ok (.aload_n 1, 1) := dk_43 (dk_at dksX10_dayEnds_3 20 rfl rfl)
theorem dX10_dayEnds_91 : decode cX10_dayEnds 91 = .ok (.bipush 14, 2) := dk_16 14 (dk_at dksX10_dayEnds_3 21 rfl rfl)
theorem dX10_dayEnds_93 : decode cX10_dayEnds 93 = .ok (.iload_n 2, 1) := dk_28 (dk_at dksX10_dayEnds_3 23 rfl rfl)
theorem dX10_dayEnds_94 : decode cX10_dayEnds 94 = .ok (.iadd, 1) := dk_96 (dk_at dksX10_dayEnds_4 0 rfl rfl)
theorem dX10_dayEnds_95 : decode cX10_dayEnds 95 = .ok (.iconst 0, 1) := dk_3 (dk_at dksX10_dayEnds_4 1 rfl rfl)
theorem dX10_dayEnds_96 : decode cX10_dayEnds 96 = .ok (.iastore, 1) := dk_79 (dk_at dksX10_dayEnds_4 2 rfl rfl)
theorem dX10_dayEnds_97 : decode cX10_dayEnds 97 = .ok (.iinc 2 1, 3) := dk_132 2 1 (dk_at dksX10_dayEnds_4 3 rfl rfl)
theorem dX10_dayEnds_100 : decode cX10_dayEnds 100 = .ok (.goto (-98), 3) := dk_167 255 158 (dk_at dksX10_dayEnds_4 6 rfl rfl)
theorem dX10_dayEnds_103 : decode cX10_dayEnds 103 = .ok (.aload_n 1, 1) := dk_43 (dk_at dksX10_dayEnds_4 9 rfl rfl)
theorem dX10_dayEnds_104 : decode cX10_dayEnds 104 = .ok (.bipush 78, 2) := dk_16 78 (dk_at dksX10_dayEnds_4 10 rfl rfl)
theorem dX10_dayEnds_106 : decode cX10_dayEnds 106 = .ok (.dup2, 1) := dk_92 (dk_at dksX10_dayEnds_4 12 rfl rfl)
theorem dX10_dayEnds_107 : decode cX10_dayEnds 107 = .ok (.iaload, 1) := dk_46 (dk_at dksX10_dayEnds_4 13 rfl rfl)
theorem dX10_dayEnds_108 : decode cX10_dayEnds 108 = .ok (.iconst 1, 1) := dk_4 (dk_at dksX10_dayEnds_4 14 rfl rfl)
theorem dX10_dayEnds_109 : decode cX10_dayEnds 109 = .ok (.iadd, 1) := dk_96 (dk_at dksX10_dayEnds_4 15 rfl rfl)
theorem dX10_dayEnds_110 : decode cX10_dayEnds 110 = .ok (.iastore, 1) := dk_79 (dk_at dksX10_dayEnds_4 16 rfl rfl)
theorem dX10_dayEnds_111 : decode cX10_dayEnds 111 = .ok (.return_, 1) := dk_177 (dk_at dksX10_dayEnds_4 17 rfl rfl)
abbrev cX10_undo : ByteArray := prog_32_method_61_code
def yX10_undo : MethodName := ⟨RX10, "undo", "()I"⟩
def dkwX10_undo_2 : List UInt8 := [180, 0, 201, 172]
abbrev dktX10_undo_2 : List UInt8 := dkwX10_undo_2 ++ []
def dkwX10_undo_1 : List UInt8 := [42, 180, 0, 73, 42, 180, 0, 201, 50, 42, 180, 0, 67, 184, 1, 59, 42, 3, 181, 0, 204, 42]
abbrev dktX10_undo_1 : List UInt8 := dkwX10_undo_1 ++ dktX10_undo_2
def dkwX10_undo_0 : List UInt8 := [42, 3, 181, 0, 98, 42, 180, 0, 201, 154, 0, 5, 2, 172, 42, 89, 180, 0, 201, 4, 100, 181, 0, 201]
abbrev dktX10_undo_0 : List UInt8 := dkwX10_undo_0 ++ dktX10_undo_1
theorem dksX10_undo_0 : cX10_undo.data.toList.drop 0 = dktX10_undo_0 := by decide +kernel
theorem dksX10_undo_1 : cX10_undo.data.toList.drop 24 = dktX10_undo_1 := dk_seg dksX10_undo_0 24 rfl rfl
theorem dksX10_undo_2 : cX10_undo.data.toList.drop 46 = dktX10_undo_2 := dk_seg dksX10_undo_1 22 rfl rfl
theorem dX10_undo_0 : decode cX10_undo 0 = .ok (.aload_n 0, 1) := dk_42 (dk_at dksX10_undo_0 0 rfl rfl)
theorem dX10_undo_1 : decode cX10_undo 1 = .ok (.iconst 0, 1) := dk_3 (dk_at dksX10_undo_0 1 rfl rfl)
theorem dX10_undo_2 : decode cX10_undo 2 = .ok (.putfield 98, 3) := dk_181 0 98 (dk_at dksX10_undo_0 2 rfl rfl)
theorem dX10_undo_5 : decode cX10_undo 5 = .ok (.aload_n 0, 1) := dk_42 (dk_at dksX10_undo_0 5 rfl rfl)
theorem dX10_undo_6 : decode cX10_undo 6 = .ok (.getfield 201, 3) := dk_180 0 201 (dk_at dksX10_undo_0 6 rfl rfl)
theorem dX10_undo_9 : decode cX10_undo 9 = .ok (.ifCond .ne 5, 3) := dk_154 0 5 (dk_at dksX10_undo_0 9 rfl rfl)
theorem dX10_undo_12 : decode cX10_undo 12 = .ok (.iconst (-1), 1) := dk_2 (dk_at dksX10_undo_0 12 rfl rfl)
theorem dX10_undo_13 : decode cX10_undo 13 = .ok (.ireturn, 1) := dk_172 (dk_at dksX10_undo_0 13 rfl rfl)
theorem dX10_undo_14 : decode cX10_undo 14 = .ok (.aload_n 0, 1) := dk_42 (dk_at dksX10_undo_0 14 rfl rfl)
theorem dX10_undo_15 : decode cX10_undo 15 = .ok (.dup, 1) := dk_89 (dk_at dksX10_undo_0 15 rfl rfl)
theorem dX10_undo_16 : decode cX10_undo 16 = .ok (.getfield 201, 3) := dk_180 0 201 (dk_at dksX10_undo_0 16 rfl rfl)
theorem dX10_undo_19 : decode cX10_undo 19 = .ok (.iconst 1, 1) := dk_4 (dk_at dksX10_undo_0 19 rfl rfl)
theorem dX10_undo_20 : decode cX10_undo 20 = .ok (.isub, 1) := dk_100 (dk_at dksX10_undo_0 20 rfl rfl)
theorem dX10_undo_21 : decode cX10_undo 21 = .ok (.putfield 201, 3) := dk_181 0 201 (dk_at dksX10_undo_0 21 rfl rfl)
theorem dX10_undo_24 : decode cX10_undo 24 = .ok (.aload_n 0, 1) := dk_42 (dk_at dksX10_undo_1 0 rfl rfl)
theorem dX10_undo_25 : decode cX10_undo 25 = .ok (.getfield 73, 3) := dk_180 0 73 (dk_at dksX10_undo_1 1 rfl rfl)
theorem dX10_undo_28 : decode cX10_undo 28 = .ok (.aload_n 0, 1) := dk_42 (dk_at dksX10_undo_1 4 rfl rfl)
theorem dX10_undo_29 : decode cX10_undo 29 = .ok (.getfield 201, 3) := dk_180 0 201 (dk_at dksX10_undo_1 5 rfl rfl)
theorem dX10_undo_32 : decode cX10_undo 32 = .ok (.aaload, 1) := dk_50 (dk_at dksX10_undo_1 8 rfl rfl)
theorem dX10_undo_33 : decode cX10_undo 33 = .ok (.aload_n 0, 1) := dk_42 (dk_at dksX10_undo_1 9 rfl rfl)
theorem dX10_undo_34 : decode cX10_undo 34 = .ok (.getfield 67, 3) := dk_180 0 67 (dk_at dksX10_undo_1 10 rfl rfl)
theorem dX10_undo_37 : decode cX10_undo 37 = .ok (.invokestatic 315, 3) := dk_184 1 59 (dk_at dksX10_undo_1 13 rfl rfl)
theorem dX10_undo_40 : decode cX10_undo 40 = .ok (.aload_n 0, 1) := dk_42 (dk_at dksX10_undo_1 16 rfl rfl)
theorem dX10_undo_41 : decode cX10_undo 41 = .ok (.iconst 0, 1) := dk_3 (dk_at dksX10_undo_1 17 rfl rfl)
theorem dX10_undo_42 : decode cX10_undo 42 = .ok (.putfield 204, 3) := dk_181 0 204 (dk_at dksX10_undo_1 18 rfl rfl)
theorem dX10_undo_45 : decode cX10_undo 45 = .ok (.aload_n 0, 1) := dk_42 (dk_at dksX10_undo_1 21 rfl rfl)
theorem dX10_undo_46 : decode cX10_undo 46 = .ok (.getfield 201, 3) := dk_180 0 201 (dk_at dksX10_undo_2 0 rfl rfl)
theorem dX10_undo_49 : decode cX10_undo 49 = .ok (.ireturn, 1) := dk_172 (dk_at dksX10_undo_2 3 rfl rfl)
abbrev cX10_told : ByteArray := prog_32_method_63_code
def yX10_told : MethodName := ⟨RX10, "told", "(I)I"⟩
def dkwX10_told_6 : List UInt8 := [172, 42, 42, 180, 0, 67, 16, 7, 182, 1, 63, 172]
abbrev dktX10_told_6 : List UInt8 := dkwX10_told_6 ++ []
def dkwX10_told_5 : List UInt8 := [182, 1, 17, 172, 42, 42, 180, 0, 67, 16, 14, 182, 1, 17, 172, 42, 180, 0, 198, 172, 42, 180, 0, 204]
abbrev dktX10_told_5 : List UInt8 := dkwX10_told_5 ++ dktX10_told_6
def dkwX10_told_4 : List UInt8 := [180, 0, 23, 7, 46, 172, 42, 42, 180, 0, 67, 3, 182, 1, 17, 172, 42, 42, 180, 0, 67, 16, 7]
abbrev dktX10_told_4 : List UInt8 := dkwX10_told_4 ++ dktX10_told_5
def dkwX10_told_3 : List UInt8 := [42, 180, 0, 23, 27, 46, 172, 42, 180, 0, 67, 16, 78, 46, 172, 42, 180, 0, 67, 16, 77, 46, 172, 42]
abbrev dktX10_told_3 : List UInt8 := dkwX10_told_3 ++ dktX10_told_4
def dkwX10_told_2 : List UInt8 := [170, 0, 0, 0, 0, 0, 0, 132, 0, 0, 0, 0, 0, 0, 0, 10, 0, 0, 0, 60, 0, 0, 0, 60, 0, 0, 0, 60, 0, 0, 0, 67, 0, 0, 0, 75, 0, 0, 0, 83, 0, 0, 0, 90, 0, 0, 0, 100, 0, 0, 0, 111, 0, 0, 0, 122, 0, 0, 0, 127]
abbrev dktX10_told_2 : List UInt8 := dkwX10_told_2 ++ dktX10_told_3
def dkwX10_told_1 : List UInt8 := [182, 0, 178, 153, 0, 5, 3, 172, 27]
abbrev dktX10_told_1 : List UInt8 := dkwX10_told_1 ++ dktX10_told_2
def dkwX10_told_0 : List UInt8 := [42, 3, 181, 0, 98, 42, 27, 3, 16, 11, 184, 0, 132, 154, 0, 7, 4, 167, 0, 4, 3, 4, 4]
abbrev dktX10_told_0 : List UInt8 := dkwX10_told_0 ++ dktX10_told_1
theorem dksX10_told_0 : cX10_told.data.toList.drop 0 = dktX10_told_0 := by decide +kernel
theorem dksX10_told_1 : cX10_told.data.toList.drop 23 = dktX10_told_1 := dk_seg dksX10_told_0 23 rfl rfl
theorem dksX10_told_2 : cX10_told.data.toList.drop 32 = dktX10_told_2 := dk_seg dksX10_told_1 9 rfl rfl
theorem dksX10_told_3 : cX10_told.data.toList.drop 92 = dktX10_told_3 := dk_seg dksX10_told_2 60 rfl rfl
theorem dksX10_told_4 : cX10_told.data.toList.drop 116 = dktX10_told_4 := dk_seg dksX10_told_3 24 rfl rfl
theorem dksX10_told_5 : cX10_told.data.toList.drop 139 = dktX10_told_5 := dk_seg dksX10_told_4 23 rfl rfl
theorem dksX10_told_6 : cX10_told.data.toList.drop 163 = dktX10_told_6 := dk_seg dksX10_told_5 24 rfl rfl
theorem dX10_told_0 : decode cX10_told 0 = .ok (.aload_n 0, 1) := dk_42 (dk_at dksX10_told_0 0 rfl rfl)
theorem dX10_told_1 : decode cX10_told 1 = .ok (.iconst 0, 1) := dk_3 (dk_at dksX10_told_0 1 rfl rfl)
theorem dX10_told_2 : decode cX10_told 2 = .ok (.putfield 98, 3) := dk_181 0 98 (dk_at dksX10_told_0 2 rfl rfl)
theorem dX10_told_5 : decode cX10_told 5 = .ok (.aload_n 0, 1) := dk_42 (dk_at dksX10_told_0 5 rfl rfl)
theorem dX10_told_6 : decode cX10_told 6 = .ok (.iload_n 1, 1) := dk_27 (dk_at dksX10_told_0 6 rfl rfl)
theorem dX10_told_7 : decode cX10_told 7 = .ok (.iconst 0, 1) := dk_3 (dk_at dksX10_told_0 7 rfl rfl)
theorem dX10_told_8 : decode cX10_told 8 = .ok (.bipush 11, 2) := dk_16 11 (dk_at dksX10_told_0 8 rfl rfl)
theorem dX10_told_10 : decode cX10_told 10 = .ok (.invokestatic 132, 3) := dk_184 0 132 (dk_at dksX10_told_0 10 rfl rfl)
theorem dX10_told_13 : decode cX10_told 13 = .ok (.ifCond .ne 7, 3) := dk_154 0 7 (dk_at dksX10_told_0 13 rfl rfl)
theorem dX10_told_16 : decode cX10_told 16 = .ok (.iconst 1, 1) := dk_4 (dk_at dksX10_told_0 16 rfl rfl)
theorem dX10_told_17 : decode cX10_told 17 = .ok (.goto 4, 3) := dk_167 0 4 (dk_at dksX10_told_0 17 rfl rfl)
theorem dX10_told_20 : decode cX10_told 20 = .ok (.iconst 0, 1) := dk_3 (dk_at dksX10_told_0 20 rfl rfl)
theorem dX10_told_21 : decode cX10_told 21 = .ok (.iconst 1, 1) := dk_4 (dk_at dksX10_told_0 21 rfl rfl)
theorem dX10_told_22 : decode cX10_told 22 = .ok (.iconst 1, 1) := dk_4 (dk_at dksX10_told_0 22 rfl rfl)
theorem dX10_told_23 : decode cX10_told 23 = .ok (.invokevirtual 178, 3) := dk_182 0 178 (dk_at dksX10_told_1 0 rfl rfl)
theorem dX10_told_26 : decode cX10_told 26 = .ok (.ifCond .eq 5, 3) := dk_153 0 5 (dk_at dksX10_told_1 3 rfl rfl)
theorem dX10_told_29 : decode cX10_told 29 = .ok (.iconst 0, 1) := dk_3 (dk_at dksX10_told_1 6 rfl rfl)
theorem dX10_told_30 : decode cX10_told 30 = .ok (.ireturn, 1) := dk_172 (dk_at dksX10_told_1 7 rfl rfl)
theorem dX10_told_31 : decode cX10_told 31 = .ok (.iload_n 1, 1) := dk_27 (dk_at dksX10_told_1 8 rfl rfl)
theorem dX10_told_32 : decode cX10_told 32 = .ok (.tableswitch 132 0 10 #[60, 60, 60, 67, 75, 83, 90, 100, 111, 122, 127], 60) := by decide +kernel
theorem dX10_told_92 : decode cX10_told 92 = .ok (.aload_n 0, 1) := dk_42 (dk_at dksX10_told_3 0 rfl rfl)
theorem dX10_told_93 : decode cX10_told 93 = .ok (.getfield 23, 3) := dk_180 0 23 (dk_at dksX10_told_3 1 rfl rfl)
theorem dX10_told_96 : decode cX10_told 96 = .ok (.iload_n 1, 1) := dk_27 (dk_at dksX10_told_3 4 rfl rfl)
theorem dX10_told_97 : decode cX10_told 97 = .ok (.iaload, 1) := dk_46 (dk_at dksX10_told_3 5 rfl rfl)
theorem dX10_told_98 : decode cX10_told 98 = .ok (.ireturn, 1) := dk_172 (dk_at dksX10_told_3 6 rfl rfl)
theorem dX10_told_99 : decode cX10_told 99 = .ok (.aload_n 0, 1) := dk_42 (dk_at dksX10_told_3 7 rfl rfl)
theorem dX10_told_100 : decode cX10_told 100 = .ok (.getfield 67, 3) := dk_180 0 67 (dk_at dksX10_told_3 8 rfl rfl)
theorem dX10_told_103 : decode cX10_told 103 = .ok (.bipush 78, 2) := dk_16 78 (dk_at dksX10_told_3 11 rfl rfl)
theorem dX10_told_105 : decode cX10_told 105 = .ok (.iaload, 1) := dk_46 (dk_at dksX10_told_3 13 rfl rfl)
theorem dX10_told_106 : decode cX10_told 106 = .ok (.ireturn, 1) := dk_172 (dk_at dksX10_told_3 14 rfl rfl)
theorem dX10_told_107 : decode cX10_told 107 = .ok (.aload_n 0, 1) := dk_42 (dk_at dksX10_told_3 15 rfl rfl)
theorem dX10_told_108 : decode cX10_told 108 = .ok (.getfield 67, 3) := dk_180 0 67 (dk_at dksX10_told_3 16 rfl rfl)
theorem dX10_told_111 : decode cX10_told 111 = .ok (.bipush 77, 2) := dk_16 77 (dk_at dksX10_told_3 19 rfl rfl)
theorem dX10_told_113 : decode cX10_told 113 = .ok (.iaload, 1) := dk_46 (dk_at dksX10_told_3 21 rfl rfl)
theorem dX10_told_114 : decode cX10_told 114 = .ok (.ireturn, 1) := dk_172 (dk_at dksX10_told_3 22 rfl rfl)
theorem dX10_told_115 : decode cX10_told 115 = .ok (.aload_n 0, 1) := dk_42 (dk_at dksX10_told_3 23 rfl rfl)
theorem dX10_told_116 : decode cX10_told 116 = .ok (.getfield 23, 3) := dk_180 0 23 (dk_at dksX10_told_4 0 rfl rfl)
theorem dX10_told_119 : decode cX10_told 119 = .ok (.iconst 4, 1) := dk_7 (dk_at dksX10_told_4 3 rfl rfl)
theorem dX10_told_120 : decode cX10_told 120 = .ok (.iaload, 1) := dk_46 (dk_at dksX10_told_4 4 rfl rfl)
theorem dX10_told_121 : decode cX10_told 121 = .ok (.ireturn, 1) := dk_172 (dk_at dksX10_told_4 5 rfl rfl)
theorem dX10_told_122 : decode cX10_told 122 = .ok (.aload_n 0, 1) := dk_42 (dk_at dksX10_told_4 6 rfl rfl)
theorem dX10_told_123 : decode cX10_told 123 = .ok (.aload_n 0, 1) := dk_42 (dk_at dksX10_told_4 7 rfl rfl)
theorem dX10_told_124 : decode cX10_told 124 = .ok (.getfield 67, 3) := dk_180 0 67 (dk_at dksX10_told_4 8 rfl rfl)
theorem dX10_told_127 : decode cX10_told 127 = .ok (.iconst 0, 1) := dk_3 (dk_at dksX10_told_4 11 rfl rfl)
theorem dX10_told_128 : decode cX10_told 128 = .ok (.invokevirtual 273, 3) := dk_182 1 17 (dk_at dksX10_told_4 12 rfl rfl)
theorem dX10_told_131 : decode cX10_told 131 = .ok (.ireturn, 1) := dk_172 (dk_at dksX10_told_4 15 rfl rfl)
theorem dX10_told_132 : decode cX10_told 132 = .ok (.aload_n 0, 1) := dk_42 (dk_at dksX10_told_4 16 rfl rfl)
theorem dX10_told_133 : decode cX10_told 133 = .ok (.aload_n 0, 1) := dk_42 (dk_at dksX10_told_4 17 rfl rfl)
theorem dX10_told_134 : decode cX10_told 134 = .ok (.getfield 67, 3) := dk_180 0 67 (dk_at dksX10_told_4 18 rfl rfl)
theorem dX10_told_137 : decode cX10_told 137 = .ok (.bipush 7, 2) := dk_16 7 (dk_at dksX10_told_4 21 rfl rfl)
theorem dX10_told_139 : decode cX10_told 139 = .ok (.invokevirtual 273, 3) := dk_182 1 17 (dk_at dksX10_told_5 0 rfl rfl)
theorem dX10_told_142 : decode cX10_told 142 = .ok (.ireturn, 1) := dk_172 (dk_at dksX10_told_5 3 rfl rfl)
theorem dX10_told_143 : decode cX10_told 143 = .ok (.aload_n 0, 1) := dk_42 (dk_at dksX10_told_5 4 rfl rfl)
theorem dX10_told_144 : decode cX10_told 144 = .ok (.aload_n 0, 1) := dk_42 (dk_at dksX10_told_5 5 rfl rfl)
theorem dX10_told_145 : decode cX10_told 145 = .ok (.getfield 67, 3) := dk_180 0 67 (dk_at dksX10_told_5 6 rfl rfl)
theorem dX10_told_148 : decode cX10_told 148 = .ok (.bipush 14, 2) := dk_16 14 (dk_at dksX10_told_5 9 rfl rfl)
theorem dX10_told_150 : decode cX10_told 150 = .ok (.invokevirtual 273, 3) := dk_182 1 17 (dk_at dksX10_told_5 11 rfl rfl)
theorem dX10_told_153 : decode cX10_told 153 = .ok (.ireturn, 1) := dk_172 (dk_at dksX10_told_5 14 rfl rfl)
theorem dX10_told_154 : decode cX10_told 154 = .ok (.aload_n 0, 1) := dk_42 (dk_at dksX10_told_5 15 rfl rfl)
theorem dX10_told_155 : decode cX10_told 155 = .ok (.getfield 198, 3) := dk_180 0 198 (dk_at dksX10_told_5 16 rfl rfl)
theorem dX10_told_158 : decode cX10_told 158 = .ok (.ireturn, 1) := dk_172 (dk_at dksX10_told_5 19 rfl rfl)
theorem dX10_told_159 : decode cX10_told 159 = .ok (.aload_n 0, 1) := dk_42 (dk_at dksX10_told_5 20 rfl rfl)
theorem dX10_told_160 : decode cX10_told 160 = .ok (.getfield 204, 3) := dk_180 0 204 (dk_at dksX10_told_5 21 rfl rfl)
theorem dX10_told_163 : decode cX10_told 163 = .ok (.ireturn, 1) := dk_172 (dk_at dksX10_told_6 0 rfl rfl)
theorem dX10_told_164 : decode cX10_told 164 = .ok (.aload_n 0, 1) := dk_42 (dk_at dksX10_told_6 1 rfl rfl)
theorem dX10_told_165 : decode cX10_told 165 = .ok (.aload_n 0, 1) := dk_42 (dk_at dksX10_told_6 2 rfl rfl)
theorem dX10_told_166 : decode cX10_told 166 = .ok (.getfield 67, 3) := dk_180 0 67 (dk_at dksX10_told_6 3 rfl rfl)
theorem dX10_told_169 : decode cX10_told 169 = .ok (.bipush 7, 2) := dk_16 7 (dk_at dksX10_told_6 6 rfl rfl)
theorem dX10_told_171 : decode cX10_told 171 = .ok (.invokevirtual 319, 3) := dk_182 1 63 (dk_at dksX10_told_6 8 rfl rfl)
theorem dX10_told_174 : decode cX10_told 174 = .ok (.ireturn, 1) := dk_172 (dk_at dksX10_told_6 11 rfl rfl)
abbrev cX10_sumOf : ByteArray := prog_32_method_62_code
def yX10_sumOf : MethodName := ⟨RX10, "sumOf", "([II)I"⟩
def dkwX10_sumOf_1 : List UInt8 := [62, 132, 4, 1, 167, 255, 233, 29, 172]
abbrev dktX10_sumOf_1 : List UInt8 := dkwX10_sumOf_1 ++ []
def dkwX10_sumOf_0 : List UInt8 := [3, 62, 3, 54, 4, 21, 4, 42, 180, 0, 23, 3, 46, 162, 0, 18, 29, 43, 28, 21, 4, 96, 46, 96]
abbrev dktX10_sumOf_0 : List UInt8 := dkwX10_sumOf_0 ++ dktX10_sumOf_1
theorem dksX10_sumOf_0 : cX10_sumOf.data.toList.drop 0 = dktX10_sumOf_0 := by decide +kernel
theorem dksX10_sumOf_1 : cX10_sumOf.data.toList.drop 24 = dktX10_sumOf_1 := dk_seg dksX10_sumOf_0 24 rfl rfl
theorem dX10_sumOf_0 : decode cX10_sumOf 0 = .ok (.iconst 0, 1) := dk_3 (dk_at dksX10_sumOf_0 0 rfl rfl)
theorem dX10_sumOf_1 : decode cX10_sumOf 1 = .ok (.istore_n 3, 1) := dk_62 (dk_at dksX10_sumOf_0 1 rfl rfl)
theorem dX10_sumOf_2 : decode cX10_sumOf 2 = .ok (.iconst 0, 1) := dk_3 (dk_at dksX10_sumOf_0 2 rfl rfl)
theorem dX10_sumOf_3 : decode cX10_sumOf 3 = .ok (.istore 4, 2) := dk_54 4 (dk_at dksX10_sumOf_0 3 rfl rfl)
theorem dX10_sumOf_5 : decode cX10_sumOf 5 = .ok (.iload 4, 2) := dk_21 4 (dk_at dksX10_sumOf_0 5 rfl rfl)
theorem dX10_sumOf_7 : decode cX10_sumOf 7 = .ok (.aload_n 0, 1) := dk_42 (dk_at dksX10_sumOf_0 7 rfl rfl)
theorem dX10_sumOf_8 : decode cX10_sumOf 8 = .ok (.getfield 23, 3) := dk_180 0 23 (dk_at dksX10_sumOf_0 8 rfl rfl)
theorem dX10_sumOf_11 : decode cX10_sumOf 11 = .ok (.iconst 0, 1) := dk_3 (dk_at dksX10_sumOf_0 11 rfl rfl)
theorem dX10_sumOf_12 : decode cX10_sumOf 12 = .ok (.iaload, 1) := dk_46 (dk_at dksX10_sumOf_0 12 rfl rfl)
theorem dX10_sumOf_13 : decode cX10_sumOf 13 = .ok (.if_icmp .ge 18, 3) := dk_162 0 18 (dk_at dksX10_sumOf_0 13 rfl rfl)
theorem dX10_sumOf_16 : decode cX10_sumOf 16 = .ok (.iload_n 3, 1) := dk_29 (dk_at dksX10_sumOf_0 16 rfl rfl)
theorem dX10_sumOf_17 : decode cX10_sumOf 17 = .ok (.aload_n 1, 1) := dk_43 (dk_at dksX10_sumOf_0 17 rfl rfl)
theorem dX10_sumOf_18 : decode cX10_sumOf 18 = .ok (.iload_n 2, 1) := dk_28 (dk_at dksX10_sumOf_0 18 rfl rfl)
theorem dX10_sumOf_19 : decode cX10_sumOf 19 = .ok (.iload 4, 2) := dk_21 4 (dk_at dksX10_sumOf_0 19 rfl rfl)
theorem dX10_sumOf_21 : decode cX10_sumOf 21 = .ok (.iadd, 1) := dk_96 (dk_at dksX10_sumOf_0 21 rfl rfl)
theorem dX10_sumOf_22 : decode cX10_sumOf 22 = .ok (.iaload, 1) := dk_46 (dk_at dksX10_sumOf_0 22 rfl rfl)
theorem dX10_sumOf_23 : decode cX10_sumOf 23 = .ok (.iadd, 1) := dk_96 (dk_at dksX10_sumOf_0 23 rfl rfl)
theorem dX10_sumOf_24 : decode cX10_sumOf 24 = .ok (.istore_n 3, 1) := dk_62 (dk_at dksX10_sumOf_1 0 rfl rfl)
theorem dX10_sumOf_25 : decode cX10_sumOf 25 = .ok (.iinc 4 1, 3) := dk_132 4 1 (dk_at dksX10_sumOf_1 1 rfl rfl)
theorem dX10_sumOf_28 : decode cX10_sumOf 28 = .ok (.goto (-23), 3) := dk_167 255 233 (dk_at dksX10_sumOf_1 4 rfl rfl)
theorem dX10_sumOf_31 : decode cX10_sumOf 31 = .ok (.iload_n 3, 1) := dk_29 (dk_at dksX10_sumOf_1 7 rfl rfl)
theorem dX10_sumOf_32 : decode cX10_sumOf 32 = .ok (.ireturn, 1) := dk_172 (dk_at dksX10_sumOf_1 8 rfl rfl)
abbrev cX10_person : ByteArray := prog_32_method_67_code
def yX10_person : MethodName := ⟨RX10, "person", "(II)I"⟩
def dkwX10_person_6 : List UInt8 := [42, 180, 0, 67, 16, 28, 27, 96, 46, 172, 42, 27, 182, 1, 14, 172]
abbrev dktX10_person_6 : List UInt8 := dkwX10_person_6 ++ []
def dkwX10_person_5 : List UInt8 := [27, 96, 46, 172, 42, 180, 0, 67, 16, 14, 27, 96, 46, 172, 42, 180, 0, 67, 16, 21, 27, 96, 46, 172]
abbrev dktX10_person_5 : List UInt8 := dkwX10_person_5 ++ dktX10_person_6
def dkwX10_person_4 : List UInt8 := [42, 180, 0, 31, 27, 50, 28, 46, 172, 42, 180, 0, 67, 3, 27, 96, 46, 172, 42, 180, 0, 67, 16, 7]
abbrev dktX10_person_4 : List UInt8 := dkwX10_person_4 ++ dktX10_person_5
def dkwX10_person_3 : List UInt8 := [170, 0, 0, 0, 0, 100, 0, 0, 0, 0, 0, 0, 0, 6, 0, 0, 0, 42, 0, 0, 0, 42, 0, 0, 0, 51, 0, 0, 0, 60, 0, 0, 0, 70, 0, 0, 0, 80, 0, 0, 0, 90]
abbrev dktX10_person_3 : List UInt8 := dkwX10_person_3 ++ dktX10_person_4
def dkwX10_person_2 : List UInt8 := [153, 0, 5, 3, 172, 28]
abbrev dktX10_person_2 : List UInt8 := dkwX10_person_2 ++ dktX10_person_3
def dkwX10_person_1 : List UInt8 := [154, 0, 27, 42, 28, 3, 16, 7, 184, 0, 132, 154, 0, 7, 4, 167, 0, 4, 3, 5, 4, 182, 0, 178]
abbrev dktX10_person_1 : List UInt8 := dkwX10_person_1 ++ dktX10_person_2
def dkwX10_person_0 : List UInt8 := [42, 3, 181, 0, 98, 42, 42, 27, 182, 1, 69, 154, 0, 7, 4, 167, 0, 4, 3, 4, 3, 182, 0, 178]
abbrev dktX10_person_0 : List UInt8 := dkwX10_person_0 ++ dktX10_person_1
theorem dksX10_person_0 : cX10_person.data.toList.drop 0 = dktX10_person_0 := by decide +kernel
theorem dksX10_person_1 : cX10_person.data.toList.drop 24 = dktX10_person_1 := dk_seg dksX10_person_0 24 rfl rfl
theorem dksX10_person_2 : cX10_person.data.toList.drop 48 = dktX10_person_2 := dk_seg dksX10_person_1 24 rfl rfl
theorem dksX10_person_3 : cX10_person.data.toList.drop 54 = dktX10_person_3 := dk_seg dksX10_person_2 6 rfl rfl
theorem dksX10_person_4 : cX10_person.data.toList.drop 96 = dktX10_person_4 := dk_seg dksX10_person_3 42 rfl rfl
theorem dksX10_person_5 : cX10_person.data.toList.drop 120 = dktX10_person_5 := dk_seg dksX10_person_4 24 rfl rfl
theorem dksX10_person_6 : cX10_person.data.toList.drop 144 = dktX10_person_6 := dk_seg dksX10_person_5 24 rfl rfl
theorem dX10_person_0 : decode cX10_person 0 = .ok (.aload_n 0, 1) := dk_42 (dk_at dksX10_person_0 0 rfl rfl)
theorem dX10_person_1 : decode cX10_person 1 = .ok (.iconst 0, 1) := dk_3 (dk_at dksX10_person_0 1 rfl rfl)
theorem dX10_person_2 : decode cX10_person 2 = .ok (.putfield 98, 3) := dk_181 0 98 (dk_at dksX10_person_0 2 rfl rfl)
theorem dX10_person_5 : decode cX10_person 5 = .ok (.aload_n 0, 1) := dk_42 (dk_at dksX10_person_0 5 rfl rfl)
theorem dX10_person_6 : decode cX10_person 6 = .ok (.aload_n 0, 1) := dk_42 (dk_at dksX10_person_0 6 rfl rfl)
theorem dX10_person_7 : decode cX10_person 7 = .ok (.iload_n 1, 1) := dk_27 (dk_at dksX10_person_0 7 rfl rfl)
theorem dX10_person_8 : decode cX10_person 8 = .ok (.invokevirtual 325, 3) := dk_182 1 69 (dk_at dksX10_person_0 8 rfl rfl)
theorem dX10_person_11 : decode cX10_person 11 = .ok (.ifCond .ne 7, 3) := dk_154 0 7 (dk_at dksX10_person_0 11 rfl rfl)
theorem dX10_person_14 : decode cX10_person 14 = .ok (.iconst 1, 1) := dk_4 (dk_at dksX10_person_0 14 rfl rfl)
theorem dX10_person_15 : decode cX10_person 15 = .ok (.goto 4, 3) := dk_167 0 4 (dk_at dksX10_person_0 15 rfl rfl)
theorem dX10_person_18 : decode cX10_person 18 = .ok (.iconst 0, 1) := dk_3 (dk_at dksX10_person_0 18 rfl rfl)
theorem dX10_person_19 : decode cX10_person 19 = .ok (.iconst 1, 1) := dk_4 (dk_at dksX10_person_0 19 rfl rfl)
theorem dX10_person_20 : decode cX10_person 20 = .ok (.iconst 0, 1) := dk_3 (dk_at dksX10_person_0 20 rfl rfl)
theorem dX10_person_21 : decode cX10_person 21 = .ok (.invokevirtual 178, 3) := dk_182 0 178 (dk_at dksX10_person_0 21 rfl rfl)
theorem dX10_person_24 : decode cX10_person 24 = .ok (.ifCond .ne 27, 3) := dk_154 0 27 (dk_at dksX10_person_1 0 rfl rfl)
theorem dX10_person_27 : decode cX10_person 27 = .ok (.aload_n 0, 1) := dk_42 (dk_at dksX10_person_1 3 rfl rfl)
theorem dX10_person_28 : decode cX10_person 28 = .ok (.iload_n 2, 1) := dk_28 (dk_at dksX10_person_1 4 rfl rfl)
theorem dX10_person_29 : decode cX10_person 29 = .ok (.iconst 0, 1) := dk_3 (dk_at dksX10_person_1 5 rfl rfl)
theorem dX10_person_30 : decode cX10_person 30 = .ok (.bipush 7, 2) := dk_16 7 (dk_at dksX10_person_1 6 rfl rfl)
theorem dX10_person_32 : decode cX10_person 32 = .ok (.invokestatic 132, 3) := dk_184 0 132 (dk_at dksX10_person_1 8 rfl rfl)
theorem dX10_person_35 : decode cX10_person 35 = .ok (.ifCond .ne 7, 3) := dk_154 0 7 (dk_at dksX10_person_1 11 rfl rfl)
theorem dX10_person_38 : decode cX10_person 38 = .ok (.iconst 1, 1) := dk_4 (dk_at dksX10_person_1 14 rfl rfl)
theorem dX10_person_39 : decode cX10_person 39 = .ok (.goto 4, 3) := dk_167 0 4 (dk_at dksX10_person_1 15 rfl rfl)
theorem dX10_person_42 : decode cX10_person 42 = .ok (.iconst 0, 1) := dk_3 (dk_at dksX10_person_1 18 rfl rfl)
theorem dX10_person_43 : decode cX10_person 43 = .ok (.iconst 2, 1) := dk_5 (dk_at dksX10_person_1 19 rfl rfl)
theorem dX10_person_44 : decode cX10_person 44 = .ok (.iconst 1, 1) := dk_4 (dk_at dksX10_person_1 20 rfl rfl)
theorem dX10_person_45 : decode cX10_person 45 = .ok (.invokevirtual 178, 3) := dk_182 0 178 (dk_at dksX10_person_1 21 rfl rfl)
theorem dX10_person_48 : decode cX10_person 48 = .ok (.ifCond .eq 5, 3) := dk_153 0 5 (dk_at dksX10_person_2 0 rfl rfl)
theorem dX10_person_51 : decode cX10_person 51 = .ok (.iconst 0, 1) := dk_3 (dk_at dksX10_person_2 3 rfl rfl)
theorem dX10_person_52 : decode cX10_person 52 = .ok (.ireturn, 1) := dk_172 (dk_at dksX10_person_2 4 rfl rfl)
theorem dX10_person_53 : decode cX10_person 53 = .ok (.iload_n 2, 1) := dk_28 (dk_at dksX10_person_2 5 rfl rfl)
theorem dX10_person_54 : decode cX10_person 54 = .ok (.tableswitch 100 0 6 #[42, 42, 51, 60, 70, 80, 90], 42) := by decide +kernel
theorem dX10_person_96 : decode cX10_person 96 = .ok (.aload_n 0, 1) := dk_42 (dk_at dksX10_person_4 0 rfl rfl)
theorem dX10_person_97 : decode cX10_person 97 = .ok (.getfield 31, 3) := dk_180 0 31 (dk_at dksX10_person_4 1 rfl rfl)
theorem dX10_person_100 : decode cX10_person 100 = .ok (.iload_n 1, 1) := dk_27 (dk_at dksX10_person_4 4 rfl rfl)
theorem dX10_person_101 : decode cX10_person 101 = .ok (.aaload, 1) := dk_50 (dk_at dksX10_person_4 5 rfl rfl)
theorem dX10_person_102 : decode cX10_person 102 = .ok (.iload_n 2, 1) := dk_28 (dk_at dksX10_person_4 6 rfl rfl)
theorem dX10_person_103 : decode cX10_person 103 = .ok (.iaload, 1) := dk_46 (dk_at dksX10_person_4 7 rfl rfl)
theorem dX10_person_104 : decode cX10_person 104 = .ok (.ireturn, 1) := dk_172 (dk_at dksX10_person_4 8 rfl rfl)
theorem dX10_person_105 : decode cX10_person 105 = .ok (.aload_n 0, 1) := dk_42 (dk_at dksX10_person_4 9 rfl rfl)
theorem dX10_person_106 : decode cX10_person 106 = .ok (.getfield 67, 3) := dk_180 0 67 (dk_at dksX10_person_4 10 rfl rfl)
theorem dX10_person_109 : decode cX10_person 109 = .ok (.iconst 0, 1) := dk_3 (dk_at dksX10_person_4 13 rfl rfl)
theorem dX10_person_110 : decode cX10_person 110 = .ok (.iload_n 1, 1) := dk_27 (dk_at dksX10_person_4 14 rfl rfl)
theorem dX10_person_111 : decode cX10_person 111 = .ok (.iadd, 1) := dk_96 (dk_at dksX10_person_4 15 rfl rfl)
theorem dX10_person_112 : decode cX10_person 112 = .ok (.iaload, 1) := dk_46 (dk_at dksX10_person_4 16 rfl rfl)
theorem dX10_person_113 : decode cX10_person 113 = .ok (.ireturn, 1) := dk_172 (dk_at dksX10_person_4 17 rfl rfl)
theorem dX10_person_114 : decode cX10_person 114 = .ok (.aload_n 0, 1) := dk_42 (dk_at dksX10_person_4 18 rfl rfl)
theorem dX10_person_115 : decode cX10_person 115 = .ok (.getfield 67, 3) := dk_180 0 67 (dk_at dksX10_person_4 19 rfl rfl)
theorem dX10_person_118 : decode cX10_person 118 = .ok (.bipush 7, 2) := dk_16 7 (dk_at dksX10_person_4 22 rfl rfl)
theorem dX10_person_120 : decode cX10_person 120 = .ok (.iload_n 1, 1) := dk_27 (dk_at dksX10_person_5 0 rfl rfl)
theorem dX10_person_121 : decode cX10_person 121 = .ok (.iadd, 1) := dk_96 (dk_at dksX10_person_5 1 rfl rfl)
theorem dX10_person_122 : decode cX10_person 122 = .ok (.iaload, 1) := dk_46 (dk_at dksX10_person_5 2 rfl rfl)
theorem dX10_person_123 : decode cX10_person 123 = .ok (.ireturn, 1) := dk_172 (dk_at dksX10_person_5 3 rfl rfl)
theorem dX10_person_124 : decode cX10_person 124 = .ok (.aload_n 0, 1) := dk_42 (dk_at dksX10_person_5 4 rfl rfl)
theorem dX10_person_125 : decode cX10_person 125 = .ok (.getfield 67, 3) := dk_180 0 67 (dk_at dksX10_person_5 5 rfl rfl)
theorem dX10_person_128 : decode cX10_person 128 = .ok (.bipush 14, 2) := dk_16 14 (dk_at dksX10_person_5 8 rfl rfl)
theorem dX10_person_130 : decode cX10_person 130 = .ok (.iload_n 1, 1) := dk_27 (dk_at dksX10_person_5 10 rfl rfl)
theorem dX10_person_131 : decode cX10_person 131 = .ok (.iadd, 1) := dk_96 (dk_at dksX10_person_5 11 rfl rfl)
theorem dX10_person_132 : decode cX10_person 132 = .ok (.iaload, 1) := dk_46 (dk_at dksX10_person_5 12 rfl rfl)
theorem dX10_person_133 : decode cX10_person 133 = .ok (.ireturn, 1) := dk_172 (dk_at dksX10_person_5 13 rfl rfl)
theorem dX10_person_134 : decode cX10_person 134 = .ok (.aload_n 0, 1) := dk_42 (dk_at dksX10_person_5 14 rfl rfl)
theorem dX10_person_135 : decode cX10_person 135 = .ok (.getfield 67, 3) := dk_180 0 67 (dk_at dksX10_person_5 15 rfl rfl)
theorem dX10_person_138 : decode cX10_person 138 = .ok (.bipush 21, 2) := dk_16 21 (dk_at dksX10_person_5 18 rfl rfl)
theorem dX10_person_140 : decode cX10_person 140 = .ok (.iload_n 1, 1) := dk_27 (dk_at dksX10_person_5 20 rfl rfl)
theorem dX10_person_141 : decode cX10_person 141 = .ok (.iadd, 1) := dk_96 (dk_at dksX10_person_5 21 rfl rfl)
theorem dX10_person_142 : decode cX10_person 142 = .ok (.iaload, 1) := dk_46 (dk_at dksX10_person_5 22 rfl rfl)
theorem dX10_person_143 : decode cX10_person 143 = .ok (.ireturn, 1) := dk_172 (dk_at dksX10_person_5 23 rfl rfl)
theorem dX10_person_144 : decode cX10_person 144 = .ok (.aload_n 0, 1) := dk_42 (dk_at dksX10_person_6 0 rfl rfl)
theorem dX10_person_145 : decode cX10_person 145 = .ok (.getfield 67, 3) := dk_180 0 67 (dk_at dksX10_person_6 1 rfl rfl)
theorem dX10_person_148 : decode cX10_person 148 = .ok (.bipush 28, 2) := dk_16 28 (dk_at dksX10_person_6 4 rfl rfl)
theorem dX10_person_150 : decode cX10_person 150 = .ok (.iload_n 1, 1) := dk_27 (dk_at dksX10_person_6 6 rfl rfl)
theorem dX10_person_151 : decode cX10_person 151 = .ok (.iadd, 1) := dk_96 (dk_at dksX10_person_6 7 rfl rfl)
theorem dX10_person_152 : decode cX10_person 152 = .ok (.iaload, 1) := dk_46 (dk_at dksX10_person_6 8 rfl rfl)
theorem dX10_person_153 : decode cX10_person 153 = .ok (.ireturn, 1) := dk_172 (dk_at dksX10_person_6 9 rfl rfl)
theorem dX10_person_154 : decode cX10_person 154 = .ok (.aload_n 0, 1) := dk_42 (dk_at dksX10_person_6 10 rfl rfl)
theorem dX10_person_155 : decode cX10_person 155 = .ok (.iload_n 1, 1) := dk_27 (dk_at dksX10_person_6 11 rfl rfl)
theorem dX10_person_156 : decode cX10_person 156 = .ok (.invokevirtual 270, 3) := dk_182 1 14 (dk_at dksX10_person_6 12 rfl rfl)
theorem dX10_person_159 : decode cX10_person 159 = .ok (.ireturn, 1) := dk_172 (dk_at dksX10_person_6 15 rfl rfl)
abbrev cX10_isPerson : ByteArray := prog_32_method_64_code
def yX10_isPerson : MethodName := ⟨RX10, "isPerson", "(I)Z"⟩
def dkwX10_isPerson_0 : List UInt8 := [27, 3, 42, 180, 0, 23, 3, 46, 4, 100, 184, 0, 132, 172]
abbrev dktX10_isPerson_0 : List UInt8 := dkwX10_isPerson_0 ++ []
theorem dksX10_isPerson_0 : cX10_isPerson.data.toList.drop 0 = dktX10_isPerson_0 := by decide +kernel
theorem dX10_isPerson_0 : decode cX10_isPerson 0 = .ok (.iload_n 1, 1) := dk_27 (dk_at dksX10_isPerson_0 0 rfl rfl)
theorem dX10_isPerson_1 : decode cX10_isPerson 1 = .ok (.iconst 0, 1) := dk_3 (dk_at dksX10_isPerson_0 1 rfl rfl)
theorem dX10_isPerson_2 : decode cX10_isPerson 2 = .ok (.aload_n 0, 1) := dk_42 (dk_at dksX10_isPerson_0 2 rfl rfl)
theorem dX10_isPerson_3 : decode cX10_isPerson 3 = .ok (.getfield 23, 3) := dk_180 0 23 (dk_at dksX10_isPerson_0 3 rfl rfl)
theorem dX10_isPerson_6 : decode cX10_isPerson 6 = .ok (.iconst 0, 1) := dk_3 (dk_at dksX10_isPerson_0 6 rfl rfl)
theorem dX10_isPerson_7 : decode cX10_isPerson 7 = .ok (.iaload, 1) := dk_46 (dk_at dksX10_isPerson_0 7 rfl rfl)
theorem dX10_isPerson_8 : decode cX10_isPerson 8 = .ok (.iconst 1, 1) := dk_4 (dk_at dksX10_isPerson_0 8 rfl rfl)
theorem dX10_isPerson_9 : decode cX10_isPerson 9 = .ok (.isub, 1) := dk_100 (dk_at dksX10_isPerson_0 9 rfl rfl)
theorem dX10_isPerson_10 : decode cX10_isPerson 10 = .ok (.invokestatic 132, 3) := dk_184 0 132 (dk_at dksX10_isPerson_0 10 rfl rfl)
theorem dX10_isPerson_13 : decode cX10_isPerson 13 = .ok (.ireturn, 1) := dk_172 (dk_at dksX10_isPerson_0 13 rfl rfl)
abbrev cX10_joke : ByteArray := prog_32_method_68_code
def yX10_joke : MethodName := ⟨RX10, "joke", "(II)I"⟩
def dkwX10_joke_3 : List UInt8 := [180, 0, 67, 27, 182, 1, 10, 172]
abbrev dktX10_joke_3 : List UInt8 := dkwX10_joke_3 ++ []
def dkwX10_joke_2 : List UInt8 := [153, 0, 5, 3, 172, 28, 5, 162, 0, 14, 42, 180, 0, 37, 27, 50, 28, 46, 167, 0, 12, 42, 42]
abbrev dktX10_joke_2 : List UInt8 := dkwX10_joke_2 ++ dktX10_joke_3
def dkwX10_joke_1 : List UInt8 := [154, 0, 26, 42, 28, 3, 5, 184, 0, 132, 154, 0, 7, 4, 167, 0, 4, 3, 5, 4, 182, 0, 178]
abbrev dktX10_joke_1 : List UInt8 := dkwX10_joke_1 ++ dktX10_joke_2
def dkwX10_joke_0 : List UInt8 := [42, 3, 181, 0, 98, 42, 42, 27, 182, 1, 66, 154, 0, 7, 4, 167, 0, 4, 3, 4, 3, 182, 0, 178]
abbrev dktX10_joke_0 : List UInt8 := dkwX10_joke_0 ++ dktX10_joke_1
theorem dksX10_joke_0 : cX10_joke.data.toList.drop 0 = dktX10_joke_0 := by decide +kernel
theorem dksX10_joke_1 : cX10_joke.data.toList.drop 24 = dktX10_joke_1 := dk_seg dksX10_joke_0 24 rfl rfl
theorem dksX10_joke_2 : cX10_joke.data.toList.drop 47 = dktX10_joke_2 := dk_seg dksX10_joke_1 23 rfl rfl
theorem dksX10_joke_3 : cX10_joke.data.toList.drop 70 = dktX10_joke_3 := dk_seg dksX10_joke_2 23 rfl rfl
theorem dX10_joke_0 : decode cX10_joke 0 = .ok (.aload_n 0, 1) := dk_42 (dk_at dksX10_joke_0 0 rfl rfl)
theorem dX10_joke_1 : decode cX10_joke 1 = .ok (.iconst 0, 1) := dk_3 (dk_at dksX10_joke_0 1 rfl rfl)
theorem dX10_joke_2 : decode cX10_joke 2 = .ok (.putfield 98, 3) := dk_181 0 98 (dk_at dksX10_joke_0 2 rfl rfl)
theorem dX10_joke_5 : decode cX10_joke 5 = .ok (.aload_n 0, 1) := dk_42 (dk_at dksX10_joke_0 5 rfl rfl)
theorem dX10_joke_6 : decode cX10_joke 6 = .ok (.aload_n 0, 1) := dk_42 (dk_at dksX10_joke_0 6 rfl rfl)
theorem dX10_joke_7 : decode cX10_joke 7 = .ok (.iload_n 1, 1) := dk_27 (dk_at dksX10_joke_0 7 rfl rfl)
theorem dX10_joke_8 : decode cX10_joke 8 = .ok (.invokevirtual 322, 3) := dk_182 1 66 (dk_at dksX10_joke_0 8 rfl rfl)
theorem dX10_joke_11 : decode cX10_joke 11 = .ok (.ifCond .ne 7, 3) := dk_154 0 7 (dk_at dksX10_joke_0 11 rfl rfl)
theorem dX10_joke_14 : decode cX10_joke 14 = .ok (.iconst 1, 1) := dk_4 (dk_at dksX10_joke_0 14 rfl rfl)
theorem dX10_joke_15 : decode cX10_joke 15 = .ok (.goto 4, 3) := dk_167 0 4 (dk_at dksX10_joke_0 15 rfl rfl)
theorem dX10_joke_18 : decode cX10_joke 18 = .ok (.iconst 0, 1) := dk_3 (dk_at dksX10_joke_0 18 rfl rfl)
theorem dX10_joke_19 : decode cX10_joke 19 = .ok (.iconst 1, 1) := dk_4 (dk_at dksX10_joke_0 19 rfl rfl)
theorem dX10_joke_20 : decode cX10_joke 20 = .ok (.iconst 0, 1) := dk_3 (dk_at dksX10_joke_0 20 rfl rfl)
theorem dX10_joke_21 : decode cX10_joke 21 = .ok (.invokevirtual 178, 3) := dk_182 0 178 (dk_at dksX10_joke_0 21 rfl rfl)
theorem dX10_joke_24 : decode cX10_joke 24 = .ok (.ifCond .ne 26, 3) := dk_154 0 26 (dk_at dksX10_joke_1 0 rfl rfl)
theorem dX10_joke_27 : decode cX10_joke 27 = .ok (.aload_n 0, 1) := dk_42 (dk_at dksX10_joke_1 3 rfl rfl)
theorem dX10_joke_28 : decode cX10_joke 28 = .ok (.iload_n 2, 1) := dk_28 (dk_at dksX10_joke_1 4 rfl rfl)
theorem dX10_joke_29 : decode cX10_joke 29 = .ok (.iconst 0, 1) := dk_3 (dk_at dksX10_joke_1 5 rfl rfl)
theorem dX10_joke_30 : decode cX10_joke 30 = .ok (.iconst 2, 1) := dk_5 (dk_at dksX10_joke_1 6 rfl rfl)
theorem dX10_joke_31 : decode cX10_joke 31 = .ok (.invokestatic 132, 3) := dk_184 0 132 (dk_at dksX10_joke_1 7 rfl rfl)
theorem dX10_joke_34 : decode cX10_joke 34 = .ok (.ifCond .ne 7, 3) := dk_154 0 7 (dk_at dksX10_joke_1 10 rfl rfl)
theorem dX10_joke_37 : decode cX10_joke 37 = .ok (.iconst 1, 1) := dk_4 (dk_at dksX10_joke_1 13 rfl rfl)
theorem dX10_joke_38 : decode cX10_joke 38 = .ok (.goto 4, 3) := dk_167 0 4 (dk_at dksX10_joke_1 14 rfl rfl)
theorem dX10_joke_41 : decode cX10_joke 41 = .ok (.iconst 0, 1) := dk_3 (dk_at dksX10_joke_1 17 rfl rfl)
theorem dX10_joke_42 : decode cX10_joke 42 = .ok (.iconst 2, 1) := dk_5 (dk_at dksX10_joke_1 18 rfl rfl)
theorem dX10_joke_43 : decode cX10_joke 43 = .ok (.iconst 1, 1) := dk_4 (dk_at dksX10_joke_1 19 rfl rfl)
theorem dX10_joke_44 : decode cX10_joke 44 = .ok (.invokevirtual 178, 3) := dk_182 0 178 (dk_at dksX10_joke_1 20 rfl rfl)
theorem dX10_joke_47 : decode cX10_joke 47 = .ok (.ifCond .eq 5, 3) := dk_153 0 5 (dk_at dksX10_joke_2 0 rfl rfl)
theorem dX10_joke_50 : decode cX10_joke 50 = .ok (.iconst 0, 1) := dk_3 (dk_at dksX10_joke_2 3 rfl rfl)
theorem dX10_joke_51 : decode cX10_joke 51 = .ok (.ireturn, 1) := dk_172 (dk_at dksX10_joke_2 4 rfl rfl)
theorem dX10_joke_52 : decode cX10_joke 52 = .ok (.iload_n 2, 1) := dk_28 (dk_at dksX10_joke_2 5 rfl rfl)
theorem dX10_joke_53 : decode cX10_joke 53 = .ok (.iconst 2, 1) := dk_5 (dk_at dksX10_joke_2 6 rfl rfl)
theorem dX10_joke_54 : decode cX10_joke 54 = .ok (.if_icmp .ge 14, 3) := dk_162 0 14 (dk_at dksX10_joke_2 7 rfl rfl)
theorem dX10_joke_57 : decode cX10_joke 57 = .ok (.aload_n 0, 1) := dk_42 (dk_at dksX10_joke_2 10 rfl rfl)
theorem dX10_joke_58 : decode cX10_joke 58 = .ok (.getfield 37, 3) := dk_180 0 37 (dk_at dksX10_joke_2 11 rfl rfl)
theorem dX10_joke_61 : decode cX10_joke 61 = .ok (.iload_n 1, 1) := dk_27 (dk_at dksX10_joke_2 14 rfl rfl)
theorem dX10_joke_62 : decode cX10_joke 62 = .ok (.aaload, 1) := dk_50 (dk_at dksX10_joke_2 15 rfl rfl)
theorem dX10_joke_63 : decode cX10_joke 63 = .ok (.iload_n 2, 1) := dk_28 (dk_at dksX10_joke_2 16 rfl rfl)
theorem dX10_joke_64 : decode cX10_joke 64 = .ok (.iaload, 1) := dk_46 (dk_at dksX10_joke_2 17 rfl rfl)
theorem dX10_joke_65 : decode cX10_joke 65 = .ok (.goto 12, 3) := dk_167 0 12 (dk_at dksX10_joke_2 18 rfl rfl)
theorem dX10_joke_68 : decode cX10_joke 68 = .ok (.aload_n 0, 1) := dk_42 (dk_at dksX10_joke_2 21 rfl rfl)
theorem dX10_joke_69 : decode cX10_joke 69 = .ok (.aload_n 0, 1) := dk_42 (dk_at dksX10_joke_2 22 rfl rfl)
theorem dX10_joke_70 : decode cX10_joke 70 = .ok (.getfield 67, 3) := dk_180 0 67 (dk_at dksX10_joke_3 0 rfl rfl)
theorem dX10_joke_73 : decode cX10_joke 73 = .ok (.iload_n 1, 1) := dk_27 (dk_at dksX10_joke_3 3 rfl rfl)
theorem dX10_joke_74 : decode cX10_joke 74 = .ok (.invokevirtual 266, 3) := dk_182 1 10 (dk_at dksX10_joke_3 4 rfl rfl)
theorem dX10_joke_77 : decode cX10_joke 77 = .ok (.ireturn, 1) := dk_172 (dk_at dksX10_joke_3 7 rfl rfl)
abbrev cX10_isJoke : ByteArray := prog_32_method_65_code
def yX10_isJoke : MethodName := ⟨RX10, "isJoke", "(I)Z"⟩
def dkwX10_isJoke_0 : List UInt8 := [27, 3, 42, 180, 0, 23, 4, 46, 4, 100, 184, 0, 132, 172]
abbrev dktX10_isJoke_0 : List UInt8 := dkwX10_isJoke_0 ++ []
theorem dksX10_isJoke_0 : cX10_isJoke.data.toList.drop 0 = dktX10_isJoke_0 := by decide +kernel
theorem dX10_isJoke_0 : decode cX10_isJoke 0 = .ok (.iload_n 1, 1) := dk_27 (dk_at dksX10_isJoke_0 0 rfl rfl)
theorem dX10_isJoke_1 : decode cX10_isJoke 1 = .ok (.iconst 0, 1) := dk_3 (dk_at dksX10_isJoke_0 1 rfl rfl)
theorem dX10_isJoke_2 : decode cX10_isJoke 2 = .ok (.aload_n 0, 1) := dk_42 (dk_at dksX10_isJoke_0 2 rfl rfl)
theorem dX10_isJoke_3 : decode cX10_isJoke 3 = .ok (.getfield 23, 3) := dk_180 0 23 (dk_at dksX10_isJoke_0 3 rfl rfl)
theorem dX10_isJoke_6 : decode cX10_isJoke 6 = .ok (.iconst 1, 1) := dk_4 (dk_at dksX10_isJoke_0 6 rfl rfl)
theorem dX10_isJoke_7 : decode cX10_isJoke 7 = .ok (.iaload, 1) := dk_46 (dk_at dksX10_isJoke_0 7 rfl rfl)
theorem dX10_isJoke_8 : decode cX10_isJoke 8 = .ok (.iconst 1, 1) := dk_4 (dk_at dksX10_isJoke_0 8 rfl rfl)
theorem dX10_isJoke_9 : decode cX10_isJoke 9 = .ok (.isub, 1) := dk_100 (dk_at dksX10_isJoke_0 9 rfl rfl)
theorem dX10_isJoke_10 : decode cX10_isJoke 10 = .ok (.invokestatic 132, 3) := dk_184 0 132 (dk_at dksX10_isJoke_0 10 rfl rfl)
theorem dX10_isJoke_13 : decode cX10_isJoke 13 = .ok (.ireturn, 1) := dk_172 (dk_at dksX10_isJoke_0 13 rfl rfl)
abbrev cX10_street : ByteArray := prog_32_method_69_code
def yX10_street : MethodName := ⟨RX10, "street", "(II)I"⟩
def dkwX10_street_2 : List UInt8 := [167, 0, 4, 3, 5, 4, 182, 0, 178, 153, 0, 5, 3, 172, 42, 180, 0, 43, 27, 50, 28, 46, 172]
abbrev dktX10_street_2 : List UInt8 := dkwX10_street_2 ++ []
def dkwX10_street_1 : List UInt8 := [167, 0, 4, 3, 4, 3, 182, 0, 178, 154, 0, 26, 42, 28, 3, 4, 184, 0, 132, 154, 0, 7, 4]
abbrev dktX10_street_1 : List UInt8 := dkwX10_street_1 ++ dktX10_street_2
def dkwX10_street_0 : List UInt8 := [42, 3, 181, 0, 98, 42, 27, 3, 42, 180, 0, 23, 5, 46, 4, 100, 184, 0, 132, 154, 0, 7, 4]
abbrev dktX10_street_0 : List UInt8 := dkwX10_street_0 ++ dktX10_street_1
theorem dksX10_street_0 : cX10_street.data.toList.drop 0 = dktX10_street_0 := by decide +kernel
theorem dksX10_street_1 : cX10_street.data.toList.drop 23 = dktX10_street_1 := dk_seg dksX10_street_0 23 rfl rfl
theorem dksX10_street_2 : cX10_street.data.toList.drop 46 = dktX10_street_2 := dk_seg dksX10_street_1 23 rfl rfl
theorem dX10_street_0 : decode cX10_street 0 = .ok (.aload_n 0, 1) := dk_42 (dk_at dksX10_street_0 0 rfl rfl)
theorem dX10_street_1 : decode cX10_street 1 = .ok (.iconst 0, 1) := dk_3 (dk_at dksX10_street_0 1 rfl rfl)
theorem dX10_street_2 : decode cX10_street 2 = .ok (.putfield 98, 3) := dk_181 0 98 (dk_at dksX10_street_0 2 rfl rfl)
theorem dX10_street_5 : decode cX10_street 5 = .ok (.aload_n 0, 1) := dk_42 (dk_at dksX10_street_0 5 rfl rfl)
theorem dX10_street_6 : decode cX10_street 6 = .ok (.iload_n 1, 1) := dk_27 (dk_at dksX10_street_0 6 rfl rfl)
theorem dX10_street_7 : decode cX10_street 7 = .ok (.iconst 0, 1) := dk_3 (dk_at dksX10_street_0 7 rfl rfl)
theorem dX10_street_8 : decode cX10_street 8 = .ok (.aload_n 0, 1) := dk_42 (dk_at dksX10_street_0 8 rfl rfl)
theorem dX10_street_9 : decode cX10_street 9 = .ok (.getfield 23, 3) := dk_180 0 23 (dk_at dksX10_street_0 9 rfl rfl)
theorem dX10_street_12 : decode cX10_street 12 = .ok (.iconst 2, 1) := dk_5 (dk_at dksX10_street_0 12 rfl rfl)
theorem dX10_street_13 : decode cX10_street 13 = .ok (.iaload, 1) := dk_46 (dk_at dksX10_street_0 13 rfl rfl)
theorem dX10_street_14 : decode cX10_street 14 = .ok (.iconst 1, 1) := dk_4 (dk_at dksX10_street_0 14 rfl rfl)
theorem dX10_street_15 : decode cX10_street 15 = .ok (.isub, 1) := dk_100 (dk_at dksX10_street_0 15 rfl rfl)
theorem dX10_street_16 : decode cX10_street 16 = .ok (.invokestatic 132, 3) := dk_184 0 132 (dk_at dksX10_street_0 16 rfl rfl)
theorem dX10_street_19 : decode cX10_street 19 = .ok (.ifCond .ne 7, 3) := dk_154 0 7 (dk_at dksX10_street_0 19 rfl rfl)
theorem dX10_street_22 : decode cX10_street 22 = .ok (.iconst 1, 1) := dk_4 (dk_at dksX10_street_0 22 rfl rfl)
theorem dX10_street_23 : decode cX10_street 23 = .ok (.goto 4, 3) := dk_167 0 4 (dk_at dksX10_street_1 0 rfl rfl)
theorem dX10_street_26 : decode cX10_street 26 = .ok (.iconst 0, 1) := dk_3 (dk_at dksX10_street_1 3 rfl rfl)
theorem dX10_street_27 : decode cX10_street 27 = .ok (.iconst 1, 1) := dk_4 (dk_at dksX10_street_1 4 rfl rfl)
theorem dX10_street_28 : decode cX10_street 28 = .ok (.iconst 0, 1) := dk_3 (dk_at dksX10_street_1 5 rfl rfl)
theorem dX10_street_29 : decode cX10_street 29 = .ok (.invokevirtual 178, 3) := dk_182 0 178 (dk_at dksX10_street_1 6 rfl rfl)
theorem dX10_street_32 : decode cX10_street 32 = .ok (.ifCond .ne 26, 3) := dk_154 0 26 (dk_at dksX10_street_1 9 rfl rfl)
theorem dX10_street_35 : decode cX10_street 35 = .ok (.aload_n 0, 1) := dk_42 (dk_at dksX10_street_1 12 rfl rfl)
theorem dX10_street_36 : decode cX10_street 36 = .ok (.iload_n 2, 1) := dk_28 (dk_at dksX10_street_1 13 rfl rfl)
theorem dX10_street_37 : decode cX10_street 37 = .ok (.iconst 0, 1) := dk_3 (dk_at dksX10_street_1 14 rfl rfl)
theorem dX10_street_38 : decode cX10_street 38 = .ok (.iconst 1, 1) := dk_4 (dk_at dksX10_street_1 15 rfl rfl)
theorem dX10_street_39 : decode cX10_street 39 = .ok (.invokestatic 132, 3) := dk_184 0 132 (dk_at dksX10_street_1 16 rfl rfl)
theorem dX10_street_42 : decode cX10_street 42 = .ok (.ifCond .ne 7, 3) := dk_154 0 7 (dk_at dksX10_street_1 19 rfl rfl)
theorem dX10_street_45 : decode cX10_street 45 = .ok (.iconst 1, 1) := dk_4 (dk_at dksX10_street_1 22 rfl rfl)
theorem dX10_street_46 : decode cX10_street 46 = .ok (.goto 4, 3) := dk_167 0 4 (dk_at dksX10_street_2 0 rfl rfl)
theorem dX10_street_49 : decode cX10_street 49 = .ok (.iconst 0, 1) := dk_3 (dk_at dksX10_street_2 3 rfl rfl)
theorem dX10_street_50 : decode cX10_street 50 = .ok (.iconst 2, 1) := dk_5 (dk_at dksX10_street_2 4 rfl rfl)
theorem dX10_street_51 : decode cX10_street 51 = .ok (.iconst 1, 1) := dk_4 (dk_at dksX10_street_2 5 rfl rfl)
theorem dX10_street_52 : decode cX10_street 52 = .ok (.invokevirtual 178, 3) := dk_182 0 178 (dk_at dksX10_street_2 6 rfl rfl)
theorem dX10_street_55 : decode cX10_street 55 = .ok (.ifCond .eq 5, 3) := dk_153 0 5 (dk_at dksX10_street_2 9 rfl rfl)
theorem dX10_street_58 : decode cX10_street 58 = .ok (.iconst 0, 1) := dk_3 (dk_at dksX10_street_2 12 rfl rfl)
theorem dX10_street_59 : decode cX10_street 59 = .ok (.ireturn, 1) := dk_172 (dk_at dksX10_street_2 13 rfl rfl)
theorem dX10_street_60 : decode cX10_street 60 = .ok (.aload_n 0, 1) := dk_42 (dk_at dksX10_street_2 14 rfl rfl)
theorem dX10_street_61 : decode cX10_street 61 = .ok (.getfield 43, 3) := dk_180 0 43 (dk_at dksX10_street_2 15 rfl rfl)
theorem dX10_street_64 : decode cX10_street 64 = .ok (.iload_n 1, 1) := dk_27 (dk_at dksX10_street_2 18 rfl rfl)
theorem dX10_street_65 : decode cX10_street 65 = .ok (.aaload, 1) := dk_50 (dk_at dksX10_street_2 19 rfl rfl)
theorem dX10_street_66 : decode cX10_street 66 = .ok (.iload_n 2, 1) := dk_28 (dk_at dksX10_street_2 20 rfl rfl)
theorem dX10_street_67 : decode cX10_street 67 = .ok (.iaload, 1) := dk_46 (dk_at dksX10_street_2 21 rfl rfl)
theorem dX10_street_68 : decode cX10_street 68 = .ok (.ireturn, 1) := dk_172 (dk_at dksX10_street_2 22 rfl rfl)
abbrev cX10_worn : ByteArray := prog_32_method_70_code
def yX10_worn : MethodName := ⟨RX10, "worn", "(II)I"⟩
def dkwX10_worn_1 : List UInt8 := [180, 0, 67, 16, 35, 16, 7, 27, 104, 96, 28, 96, 46, 172]
abbrev dktX10_worn_1 : List UInt8 := dkwX10_worn_1 ++ []
def dkwX10_worn_0 : List UInt8 := [42, 3, 181, 0, 98, 42, 42, 27, 28, 182, 1, 72, 4, 3, 182, 0, 178, 153, 0, 5, 3, 172, 42]
abbrev dktX10_worn_0 : List UInt8 := dkwX10_worn_0 ++ dktX10_worn_1
theorem dksX10_worn_0 : cX10_worn.data.toList.drop 0 = dktX10_worn_0 := by decide +kernel
theorem dksX10_worn_1 : cX10_worn.data.toList.drop 23 = dktX10_worn_1 := dk_seg dksX10_worn_0 23 rfl rfl
theorem dX10_worn_0 : decode cX10_worn 0 = .ok (.aload_n 0, 1) := dk_42 (dk_at dksX10_worn_0 0 rfl rfl)
theorem dX10_worn_1 : decode cX10_worn 1 = .ok (.iconst 0, 1) := dk_3 (dk_at dksX10_worn_0 1 rfl rfl)
theorem dX10_worn_2 : decode cX10_worn 2 = .ok (.putfield 98, 3) := dk_181 0 98 (dk_at dksX10_worn_0 2 rfl rfl)
theorem dX10_worn_5 : decode cX10_worn 5 = .ok (.aload_n 0, 1) := dk_42 (dk_at dksX10_worn_0 5 rfl rfl)
theorem dX10_worn_6 : decode cX10_worn 6 = .ok (.aload_n 0, 1) := dk_42 (dk_at dksX10_worn_0 6 rfl rfl)
theorem dX10_worn_7 : decode cX10_worn 7 = .ok (.iload_n 1, 1) := dk_27 (dk_at dksX10_worn_0 7 rfl rfl)
theorem dX10_worn_8 : decode cX10_worn 8 = .ok (.iload_n 2, 1) := dk_28 (dk_at dksX10_worn_0 8 rfl rfl)
theorem dX10_worn_9 : decode cX10_worn 9 = .ok (.invokevirtual 328, 3) := dk_182 1 72 (dk_at dksX10_worn_0 9 rfl rfl)
theorem dX10_worn_12 : decode cX10_worn 12 = .ok (.iconst 1, 1) := dk_4 (dk_at dksX10_worn_0 12 rfl rfl)
theorem dX10_worn_13 : decode cX10_worn 13 = .ok (.iconst 0, 1) := dk_3 (dk_at dksX10_worn_0 13 rfl rfl)
theorem dX10_worn_14 : decode cX10_worn 14 = .ok (.invokevirtual 178, 3) := dk_182 0 178 (dk_at dksX10_worn_0 14 rfl rfl)
theorem dX10_worn_17 : decode cX10_worn 17 = .ok (.ifCond .eq 5, 3) := dk_153 0 5 (dk_at dksX10_worn_0 17 rfl rfl)
theorem dX10_worn_20 : decode cX10_worn 20 = .ok (.iconst 0, 1) := dk_3 (dk_at dksX10_worn_0 20 rfl rfl)
theorem dX10_worn_21 : decode cX10_worn 21 = .ok (.ireturn, 1) := dk_172 (dk_at dksX10_worn_0 21 rfl rfl)
theorem dX10_worn_22 : decode cX10_worn 22 = .ok (.aload_n 0, 1) := dk_42 (dk_at dksX10_worn_0 22 rfl rfl)
theorem dX10_worn_23 : decode cX10_worn 23 = .ok (.getfield 67, 3) := dk_180 0 67 (dk_at dksX10_worn_1 0 rfl rfl)
theorem dX10_worn_26 : decode cX10_worn 26 = .ok (.bipush 35, 2) := dk_16 35 (dk_at dksX10_worn_1 3 rfl rfl)
theorem dX10_worn_28 : decode cX10_worn 28 = .ok (.bipush 7, 2) := dk_16 7 (dk_at dksX10_worn_1 5 rfl rfl)
theorem dX10_worn_30 : decode cX10_worn 30 = .ok (.iload_n 1, 1) := dk_27 (dk_at dksX10_worn_1 7 rfl rfl)
theorem dX10_worn_31 : decode cX10_worn 31 = .ok (.imul, 1) := dk_104 (dk_at dksX10_worn_1 8 rfl rfl)
theorem dX10_worn_32 : decode cX10_worn 32 = .ok (.iadd, 1) := dk_96 (dk_at dksX10_worn_1 9 rfl rfl)
theorem dX10_worn_33 : decode cX10_worn 33 = .ok (.iload_n 2, 1) := dk_28 (dk_at dksX10_worn_1 10 rfl rfl)
theorem dX10_worn_34 : decode cX10_worn 34 = .ok (.iadd, 1) := dk_96 (dk_at dksX10_worn_1 11 rfl rfl)
theorem dX10_worn_35 : decode cX10_worn 35 = .ok (.iaload, 1) := dk_46 (dk_at dksX10_worn_1 12 rfl rfl)
theorem dX10_worn_36 : decode cX10_worn 36 = .ok (.ireturn, 1) := dk_172 (dk_at dksX10_worn_1 13 rfl rfl)
abbrev cX10_isNone : ByteArray := prog_32_method_66_code
def yX10_isNone : MethodName := ⟨RX10, "isNone", "(II)Z"⟩
def dkwX10_isNone_0 : List UInt8 := [42, 27, 182, 1, 66, 153, 0, 11, 42, 28, 182, 1, 69, 154, 0, 7, 4, 167, 0, 4, 3, 172]
abbrev dktX10_isNone_0 : List UInt8 := dkwX10_isNone_0 ++ []
theorem dksX10_isNone_0 : cX10_isNone.data.toList.drop 0 = dktX10_isNone_0 := by decide +kernel
theorem dX10_isNone_0 : decode cX10_isNone 0 = .ok (.aload_n 0, 1) := dk_42 (dk_at dksX10_isNone_0 0 rfl rfl)
theorem dX10_isNone_1 : decode cX10_isNone 1 = .ok (.iload_n 1, 1) := dk_27 (dk_at dksX10_isNone_0 1 rfl rfl)
theorem dX10_isNone_2 : decode cX10_isNone 2 = .ok (.invokevirtual 322, 3) := dk_182 1 66 (dk_at dksX10_isNone_0 2 rfl rfl)
theorem dX10_isNone_5 : decode cX10_isNone 5 = .ok (.ifCond .eq 11, 3) := dk_153 0 11 (dk_at dksX10_isNone_0 5 rfl rfl)
theorem dX10_isNone_8 : decode cX10_isNone 8 = .ok (.aload_n 0, 1) := dk_42 (dk_at dksX10_isNone_0 8 rfl rfl)
theorem dX10_isNone_9 : decode cX10_isNone 9 = .ok (.iload_n 2, 1) := dk_28 (dk_at dksX10_isNone_0 9 rfl rfl)
theorem dX10_isNone_10 : decode cX10_isNone 10 = .ok (.invokevirtual 325, 3) := dk_182 1 69 (dk_at dksX10_isNone_0 10 rfl rfl)
theorem dX10_isNone_13 : decode cX10_isNone 13 = .ok (.ifCond .ne 7, 3) := dk_154 0 7 (dk_at dksX10_isNone_0 13 rfl rfl)
theorem dX10_isNone_16 : decode cX10_isNone 16 = .ok (.iconst 1, 1) := dk_4 (dk_at dksX10_isNone_0 16 rfl rfl)
theorem dX10_isNone_17 : decode cX10_isNone 17 = .ok (.goto 4, 3) := dk_167 0 4 (dk_at dksX10_isNone_0 17 rfl rfl)
theorem dX10_isNone_20 : decode cX10_isNone 20 = .ok (.iconst 0, 1) := dk_3 (dk_at dksX10_isNone_0 20 rfl rfl)
theorem dX10_isNone_21 : decode cX10_isNone 21 = .ok (.ireturn, 1) := dk_172 (dk_at dksX10_isNone_0 21 rfl rfl)
abbrev cX10_laugh : ByteArray := prog_32_method_71_code
def yX10_laugh : MethodName := ⟨RX10, "laugh", "(II)I"⟩
def dkwX10_laugh_1 : List UInt8 := [180, 0, 67, 27, 28, 182, 1, 31, 172]
abbrev dktX10_laugh_1 : List UInt8 := dkwX10_laugh_1 ++ []
def dkwX10_laugh_0 : List UInt8 := [42, 3, 181, 0, 98, 42, 42, 27, 28, 182, 1, 72, 4, 3, 182, 0, 178, 153, 0, 5, 3, 172, 42, 42]
abbrev dktX10_laugh_0 : List UInt8 := dkwX10_laugh_0 ++ dktX10_laugh_1
theorem dksX10_laugh_0 : cX10_laugh.data.toList.drop 0 = dktX10_laugh_0 := by decide +kernel
theorem dksX10_laugh_1 : cX10_laugh.data.toList.drop 24 = dktX10_laugh_1 := dk_seg dksX10_laugh_0 24 rfl rfl
theorem dX10_laugh_0 : decode cX10_laugh 0 = .ok (.aload_n 0, 1) := dk_42 (dk_at dksX10_laugh_0 0 rfl rfl)
theorem dX10_laugh_1 : decode cX10_laugh 1 = .ok (.iconst 0, 1) := dk_3 (dk_at dksX10_laugh_0 1 rfl rfl)
theorem dX10_laugh_2 : decode cX10_laugh 2 = .ok (.putfield 98, 3) := dk_181 0 98 (dk_at dksX10_laugh_0 2 rfl rfl)
theorem dX10_laugh_5 : decode cX10_laugh 5 = .ok (.aload_n 0, 1) := dk_42 (dk_at dksX10_laugh_0 5 rfl rfl)
theorem dX10_laugh_6 : decode cX10_laugh 6 = .ok (.aload_n 0, 1) := dk_42 (dk_at dksX10_laugh_0 6 rfl rfl)
theorem dX10_laugh_7 : decode cX10_laugh 7 = .ok (.iload_n 1, 1) := dk_27 (dk_at dksX10_laugh_0 7 rfl rfl)
theorem dX10_laugh_8 : decode cX10_laugh 8 = .ok (.iload_n 2, 1) := dk_28 (dk_at dksX10_laugh_0 8 rfl rfl)
theorem dX10_laugh_9 : decode cX10_laugh 9 = .ok (.invokevirtual 328, 3) := dk_182 1 72 (dk_at dksX10_laugh_0 9 rfl rfl)
theorem dX10_laugh_12 : decode cX10_laugh 12 = .ok (.iconst 1, 1) := dk_4 (dk_at dksX10_laugh_0 12 rfl rfl)
theorem dX10_laugh_13 : decode cX10_laugh 13 = .ok (.iconst 0, 1) := dk_3 (dk_at dksX10_laugh_0 13 rfl rfl)
theorem dX10_laugh_14 : decode cX10_laugh 14 = .ok (.invokevirtual 178, 3) := dk_182 0 178 (dk_at dksX10_laugh_0 14 rfl rfl)
theorem dX10_laugh_17 : decode cX10_laugh 17 = .ok (.ifCond .eq 5, 3) := dk_153 0 5 (dk_at dksX10_laugh_0 17 rfl rfl)
theorem dX10_laugh_20 : decode cX10_laugh 20 = .ok (.iconst 0, 1) := dk_3 (dk_at dksX10_laugh_0 20 rfl rfl)
theorem dX10_laugh_21 : decode cX10_laugh 21 = .ok (.ireturn, 1) := dk_172 (dk_at dksX10_laugh_0 21 rfl rfl)
theorem dX10_laugh_22 : decode cX10_laugh 22 = .ok (.aload_n 0, 1) := dk_42 (dk_at dksX10_laugh_0 22 rfl rfl)
theorem dX10_laugh_23 : decode cX10_laugh 23 = .ok (.aload_n 0, 1) := dk_42 (dk_at dksX10_laugh_0 23 rfl rfl)
theorem dX10_laugh_24 : decode cX10_laugh 24 = .ok (.getfield 67, 3) := dk_180 0 67 (dk_at dksX10_laugh_1 0 rfl rfl)
theorem dX10_laugh_27 : decode cX10_laugh 27 = .ok (.iload_n 1, 1) := dk_27 (dk_at dksX10_laugh_1 3 rfl rfl)
theorem dX10_laugh_28 : decode cX10_laugh 28 = .ok (.iload_n 2, 1) := dk_28 (dk_at dksX10_laugh_1 4 rfl rfl)
theorem dX10_laugh_29 : decode cX10_laugh 29 = .ok (.invokevirtual 287, 3) := dk_182 1 31 (dk_at dksX10_laugh_1 5 rfl rfl)
theorem dX10_laugh_32 : decode cX10_laugh 32 = .ok (.ireturn, 1) := dk_172 (dk_at dksX10_laugh_1 8 rfl rfl)
abbrev cX10_water : ByteArray := prog_32_method_72_code
def yX10_water : MethodName := ⟨RX10, "water", "(II)I"⟩
def dkwX10_water_1 : List UInt8 := [180, 0, 67, 27, 28, 182, 1, 75, 172]
abbrev dktX10_water_1 : List UInt8 := dkwX10_water_1 ++ []
def dkwX10_water_0 : List UInt8 := [42, 3, 181, 0, 98, 42, 42, 27, 28, 182, 1, 72, 4, 3, 182, 0, 178, 153, 0, 5, 3, 172, 42, 42]
abbrev dktX10_water_0 : List UInt8 := dkwX10_water_0 ++ dktX10_water_1
theorem dksX10_water_0 : cX10_water.data.toList.drop 0 = dktX10_water_0 := by decide +kernel
theorem dksX10_water_1 : cX10_water.data.toList.drop 24 = dktX10_water_1 := dk_seg dksX10_water_0 24 rfl rfl
theorem dX10_water_0 : decode cX10_water 0 = .ok (.aload_n 0, 1) := dk_42 (dk_at dksX10_water_0 0 rfl rfl)
theorem dX10_water_1 : decode cX10_water 1 = .ok (.iconst 0, 1) := dk_3 (dk_at dksX10_water_0 1 rfl rfl)
theorem dX10_water_2 : decode cX10_water 2 = .ok (.putfield 98, 3) := dk_181 0 98 (dk_at dksX10_water_0 2 rfl rfl)
theorem dX10_water_5 : decode cX10_water 5 = .ok (.aload_n 0, 1) := dk_42 (dk_at dksX10_water_0 5 rfl rfl)
theorem dX10_water_6 : decode cX10_water 6 = .ok (.aload_n 0, 1) := dk_42 (dk_at dksX10_water_0 6 rfl rfl)
theorem dX10_water_7 : decode cX10_water 7 = .ok (.iload_n 1, 1) := dk_27 (dk_at dksX10_water_0 7 rfl rfl)
theorem dX10_water_8 : decode cX10_water 8 = .ok (.iload_n 2, 1) := dk_28 (dk_at dksX10_water_0 8 rfl rfl)
theorem dX10_water_9 : decode cX10_water 9 = .ok (.invokevirtual 328, 3) := dk_182 1 72 (dk_at dksX10_water_0 9 rfl rfl)
theorem dX10_water_12 : decode cX10_water 12 = .ok (.iconst 1, 1) := dk_4 (dk_at dksX10_water_0 12 rfl rfl)
theorem dX10_water_13 : decode cX10_water 13 = .ok (.iconst 0, 1) := dk_3 (dk_at dksX10_water_0 13 rfl rfl)
theorem dX10_water_14 : decode cX10_water 14 = .ok (.invokevirtual 178, 3) := dk_182 0 178 (dk_at dksX10_water_0 14 rfl rfl)
theorem dX10_water_17 : decode cX10_water 17 = .ok (.ifCond .eq 5, 3) := dk_153 0 5 (dk_at dksX10_water_0 17 rfl rfl)
theorem dX10_water_20 : decode cX10_water 20 = .ok (.iconst 0, 1) := dk_3 (dk_at dksX10_water_0 20 rfl rfl)
theorem dX10_water_21 : decode cX10_water 21 = .ok (.ireturn, 1) := dk_172 (dk_at dksX10_water_0 21 rfl rfl)
theorem dX10_water_22 : decode cX10_water 22 = .ok (.aload_n 0, 1) := dk_42 (dk_at dksX10_water_0 22 rfl rfl)
theorem dX10_water_23 : decode cX10_water 23 = .ok (.aload_n 0, 1) := dk_42 (dk_at dksX10_water_0 23 rfl rfl)
theorem dX10_water_24 : decode cX10_water 24 = .ok (.getfield 67, 3) := dk_180 0 67 (dk_at dksX10_water_1 0 rfl rfl)
theorem dX10_water_27 : decode cX10_water 27 = .ok (.iload_n 1, 1) := dk_27 (dk_at dksX10_water_1 3 rfl rfl)
theorem dX10_water_28 : decode cX10_water 28 = .ok (.iload_n 2, 1) := dk_28 (dk_at dksX10_water_1 4 rfl rfl)
theorem dX10_water_29 : decode cX10_water 29 = .ok (.invokevirtual 331, 3) := dk_182 1 75 (dk_at dksX10_water_1 5 rfl rfl)
theorem dX10_water_32 : decode cX10_water 32 = .ok (.ireturn, 1) := dk_172 (dk_at dksX10_water_1 8 rfl rfl)
abbrev cX10_waterOf : ByteArray := prog_32_method_54_code
def yX10_waterOf : MethodName := ⟨RX10, "waterOf", "([III)I"⟩
def dkwX10_waterOf_0 : List UInt8 := [42, 43, 28, 29, 182, 1, 31, 42, 180, 0, 31, 29, 50, 3, 46, 104, 172]
abbrev dktX10_waterOf_0 : List UInt8 := dkwX10_waterOf_0 ++ []
theorem dksX10_waterOf_0 : cX10_waterOf.data.toList.drop 0 = dktX10_waterOf_0 := by decide +kernel
theorem dX10_waterOf_0 : decode cX10_waterOf 0 = .ok (.aload_n 0, 1) := dk_42 (dk_at dksX10_waterOf_0 0 rfl rfl)
theorem dX10_waterOf_1 : decode cX10_waterOf 1 = .ok (.aload_n 1, 1) := dk_43 (dk_at dksX10_waterOf_0 1 rfl rfl)
theorem dX10_waterOf_2 : decode cX10_waterOf 2 = .ok (.iload_n 2, 1) := dk_28 (dk_at dksX10_waterOf_0 2 rfl rfl)
theorem dX10_waterOf_3 : decode cX10_waterOf 3 = .ok (.iload_n 3, 1) := dk_29 (dk_at dksX10_waterOf_0 3 rfl rfl)
theorem dX10_waterOf_4 : decode cX10_waterOf 4 = .ok (.invokevirtual 287, 3) := dk_182 1 31 (dk_at dksX10_waterOf_0 4 rfl rfl)
theorem dX10_waterOf_7 : decode cX10_waterOf 7 = .ok (.aload_n 0, 1) := dk_42 (dk_at dksX10_waterOf_0 7 rfl rfl)
theorem dX10_waterOf_8 : decode cX10_waterOf 8 = .ok (.getfield 31, 3) := dk_180 0 31 (dk_at dksX10_waterOf_0 8 rfl rfl)
theorem dX10_waterOf_11 : decode cX10_waterOf 11 = .ok (.iload_n 3, 1) := dk_29 (dk_at dksX10_waterOf_0 11 rfl rfl)
theorem dX10_waterOf_12 : decode cX10_waterOf 12 = .ok (.aaload, 1) := dk_50 (dk_at dksX10_waterOf_0 12 rfl rfl)
theorem dX10_waterOf_13 : decode cX10_waterOf 13 = .ok (.iconst 0, 1) := dk_3 (dk_at dksX10_waterOf_0 13 rfl rfl)
theorem dX10_waterOf_14 : decode cX10_waterOf 14 = .ok (.iaload, 1) := dk_46 (dk_at dksX10_waterOf_0 14 rfl rfl)
theorem dX10_waterOf_15 : decode cX10_waterOf 15 = .ok (.imul, 1) := dk_104 (dk_at dksX10_waterOf_0 15 rfl rfl)
theorem dX10_waterOf_16 : decode cX10_waterOf 16 = .ok (.ireturn, 1) := dk_172 (dk_at dksX10_waterOf_0 16 rfl rfl)
abbrev cX10_would : ByteArray := prog_32_method_73_code
def yX10_would : MethodName := ⟨RX10, "would", "(IIIIIIIIII)I"⟩
def dkwX10_would_6 : List UInt8 := [21, 7, 21, 8, 21, 9, 21, 10, 182, 1, 23, 172]
abbrev dktX10_would_6 : List UInt8 := dkwX10_would_6 ++ []
def dkwX10_would_5 : List UInt8 := [167, 0, 4, 3, 4, 4, 182, 0, 178, 153, 0, 5, 3, 172, 42, 27, 28, 29, 21, 4, 21, 5, 21, 6]
abbrev dktX10_would_5 : List UInt8 := dkwX10_would_5 ++ dktX10_would_6
def dkwX10_would_4 : List UInt8 := [3, 17, 1, 144, 184, 0, 132, 153, 0, 14, 21, 10, 3, 16, 6, 184, 0, 132, 154, 0, 7, 4]
abbrev dktX10_would_4 : List UInt8 := dkwX10_would_4 ++ dktX10_would_5
def dkwX10_would_3 : List UInt8 := [21, 7, 3, 16, 6, 184, 0, 132, 153, 0, 37, 21, 8, 3, 16, 99, 184, 0, 132, 153, 0, 26, 21, 9]
abbrev dktX10_would_3 : List UInt8 := dkwX10_would_3 ++ dktX10_would_4
def dkwX10_would_2 : List UInt8 := [153, 0, 69, 21, 5, 3, 6, 184, 0, 132, 153, 0, 59, 21, 6, 3, 16, 9, 184, 0, 132, 153, 0, 48]
abbrev dktX10_would_2 : List UInt8 := dkwX10_would_2 ++ dktX10_would_3
def dkwX10_would_1 : List UInt8 := [153, 0, 92, 29, 3, 17, 3, 231, 184, 0, 132, 153, 0, 81, 21, 4, 3, 17, 3, 231, 184, 0, 132]
abbrev dktX10_would_1 : List UInt8 := dkwX10_would_1 ++ dktX10_would_2
def dkwX10_would_0 : List UInt8 := [42, 3, 181, 0, 98, 42, 27, 4, 16, 20, 184, 0, 132, 153, 0, 102, 28, 3, 16, 9, 184, 0, 132]
abbrev dktX10_would_0 : List UInt8 := dkwX10_would_0 ++ dktX10_would_1
theorem dksX10_would_0 : cX10_would.data.toList.drop 0 = dktX10_would_0 := by decide +kernel
theorem dksX10_would_1 : cX10_would.data.toList.drop 23 = dktX10_would_1 := dk_seg dksX10_would_0 23 rfl rfl
theorem dksX10_would_2 : cX10_would.data.toList.drop 46 = dktX10_would_2 := dk_seg dksX10_would_1 23 rfl rfl
theorem dksX10_would_3 : cX10_would.data.toList.drop 70 = dktX10_would_3 := dk_seg dksX10_would_2 24 rfl rfl
theorem dksX10_would_4 : cX10_would.data.toList.drop 94 = dktX10_would_4 := dk_seg dksX10_would_3 24 rfl rfl
theorem dksX10_would_5 : cX10_would.data.toList.drop 116 = dktX10_would_5 := dk_seg dksX10_would_4 22 rfl rfl
theorem dksX10_would_6 : cX10_would.data.toList.drop 140 = dktX10_would_6 := dk_seg dksX10_would_5 24 rfl rfl
theorem dX10_would_0 : decode cX10_would 0 = .ok (.aload_n 0, 1) := dk_42 (dk_at dksX10_would_0 0 rfl rfl)
theorem dX10_would_1 : decode cX10_would 1 = .ok (.iconst 0, 1) := dk_3 (dk_at dksX10_would_0 1 rfl rfl)
theorem dX10_would_2 : decode cX10_would 2 = .ok (.putfield 98, 3) := dk_181 0 98 (dk_at dksX10_would_0 2 rfl rfl)
theorem dX10_would_5 : decode cX10_would 5 = .ok (.aload_n 0, 1) := dk_42 (dk_at dksX10_would_0 5 rfl rfl)
theorem dX10_would_6 : decode cX10_would 6 = .ok (.iload_n 1, 1) := dk_27 (dk_at dksX10_would_0 6 rfl rfl)
theorem dX10_would_7 : decode cX10_would 7 = .ok (.iconst 1, 1) := dk_4 (dk_at dksX10_would_0 7 rfl rfl)
theorem dX10_would_8 : decode cX10_would 8 = .ok (.bipush 20, 2) := dk_16 20 (dk_at dksX10_would_0 8 rfl rfl)
theorem dX10_would_10 : decode cX10_would 10 = .ok (.invokestatic 132, 3) := dk_184 0 132 (dk_at dksX10_would_0 10 rfl rfl)
theorem dX10_would_13 : decode cX10_would 13 = .ok (.ifCond .eq 102, 3) := dk_153 0 102 (dk_at dksX10_would_0 13 rfl rfl)
theorem dX10_would_16 : decode cX10_would 16 = .ok (.iload_n 2, 1) := dk_28 (dk_at dksX10_would_0 16 rfl rfl)
theorem dX10_would_17 : decode cX10_would 17 = .ok (.iconst 0, 1) := dk_3 (dk_at dksX10_would_0 17 rfl rfl)
theorem dX10_would_18 : decode cX10_would 18 = .ok (.bipush 9, 2) := dk_16 9 (dk_at dksX10_would_0 18 rfl rfl)
theorem dX10_would_20 : decode cX10_would 20 = .ok (.invokestatic 132, 3) := dk_184 0 132 (dk_at dksX10_would_0 20 rfl rfl)
theorem dX10_would_23 : decode cX10_would 23 = .ok (.ifCond .eq 92, 3) := dk_153 0 92 (dk_at dksX10_would_1 0 rfl rfl)
theorem dX10_would_26 : decode cX10_would 26 = .ok (.iload_n 3, 1) := dk_29 (dk_at dksX10_would_1 3 rfl rfl)
theorem dX10_would_27 : decode cX10_would 27 = .ok (.iconst 0, 1) := dk_3 (dk_at dksX10_would_1 4 rfl rfl)
theorem dX10_would_28 : decode cX10_would 28 = .ok (.sipush 999, 3) := dk_17 3 231 (dk_at dksX10_would_1 5 rfl rfl)
theorem dX10_would_31 : decode cX10_would 31 = .ok (.invokestatic 132, 3) := dk_184 0 132 (dk_at dksX10_would_1 8 rfl rfl)
theorem dX10_would_34 : decode cX10_would 34 = .ok (.ifCond .eq 81, 3) := dk_153 0 81 (dk_at dksX10_would_1 11 rfl rfl)
theorem dX10_would_37 : decode cX10_would 37 = .ok (.iload 4, 2) := dk_21 4 (dk_at dksX10_would_1 14 rfl rfl)
theorem dX10_would_39 : decode cX10_would 39 = .ok (.iconst 0, 1) := dk_3 (dk_at dksX10_would_1 16 rfl rfl)
theorem dX10_would_40 : decode cX10_would 40 = .ok (.sipush 999, 3) := dk_17 3 231 (dk_at dksX10_would_1 17 rfl rfl)
theorem dX10_would_43 : decode cX10_would 43 = .ok (.invokestatic 132, 3) := dk_184 0 132 (dk_at dksX10_would_1 20 rfl rfl)
theorem dX10_would_46 : decode cX10_would 46 = .ok (.ifCond .eq 69, 3) := dk_153 0 69 (dk_at dksX10_would_2 0 rfl rfl)
theorem dX10_would_49 : decode cX10_would 49 = .ok (.iload 5, 2) := dk_21 5 (dk_at dksX10_would_2 3 rfl rfl)
theorem dX10_would_51 : decode cX10_would 51 = .ok (.iconst 0, 1) := dk_3 (dk_at dksX10_would_2 5 rfl rfl)
theorem dX10_would_52 : decode cX10_would 52 = .ok (.iconst 3, 1) := dk_6 (dk_at dksX10_would_2 6 rfl rfl)
theorem dX10_would_53 : decode cX10_would 53 = .ok (.invokestatic 132, 3) := dk_184 0 132 (dk_at dksX10_would_2 7 rfl rfl)
theorem dX10_would_56 : decode cX10_would 56 = .ok (.ifCond .eq 59, 3) := dk_153 0 59 (dk_at dksX10_would_2 10 rfl rfl)
theorem dX10_would_59 : decode cX10_would 59 = .ok (.iload 6, 2) := dk_21 6 (dk_at dksX10_would_2 13 rfl rfl)
theorem dX10_would_61 : decode cX10_would 61 = .ok (.iconst 0, 1) := dk_3 (dk_at dksX10_would_2 15 rfl rfl)
theorem dX10_would_62 : decode cX10_would 62 = .ok (.bipush 9, 2) := dk_16 9 (dk_at dksX10_would_2 16 rfl rfl)
theorem dX10_would_64 : decode cX10_would 64 = .ok (.invokestatic 132, 3) := dk_184 0 132 (dk_at dksX10_would_2 18 rfl rfl)
theorem dX10_would_67 : decode cX10_would 67 = .ok (.ifCond .eq 48, 3) := dk_153 0 48 (dk_at dksX10_would_2 21 rfl rfl)
theorem dX10_would_70 : decode cX10_would 70 = .ok (.iload 7, 2) := dk_21 7 (dk_at dksX10_would_3 0 rfl rfl)
theorem dX10_would_72 : decode cX10_would 72 = .ok (.iconst 0, 1) := dk_3 (dk_at dksX10_would_3 2 rfl rfl)
theorem dX10_would_73 : decode cX10_would 73 = .ok (.bipush 6, 2) := dk_16 6 (dk_at dksX10_would_3 3 rfl rfl)
theorem dX10_would_75 : decode cX10_would 75 = .ok (.invokestatic 132, 3) := dk_184 0 132 (dk_at dksX10_would_3 5 rfl rfl)
theorem dX10_would_78 : decode cX10_would 78 = .ok (.ifCond .eq 37, 3) := dk_153 0 37 (dk_at dksX10_would_3 8 rfl rfl)
theorem dX10_would_81 : decode cX10_would 81 = .ok (.iload 8, 2) := dk_21 8 (dk_at dksX10_would_3 11 rfl rfl)
theorem dX10_would_83 : decode cX10_would 83 = .ok (.iconst 0, 1) := dk_3 (dk_at dksX10_would_3 13 rfl rfl)
theorem dX10_would_84 : decode cX10_would 84 = .ok (.bipush 99, 2) := dk_16 99 (dk_at dksX10_would_3 14 rfl rfl)
theorem dX10_would_86 : decode cX10_would 86 = .ok (.invokestatic 132, 3) := dk_184 0 132 (dk_at dksX10_would_3 16 rfl rfl)
theorem dX10_would_89 : decode cX10_would 89 = .ok (.ifCond .eq 26, 3) := dk_153 0 26 (dk_at dksX10_would_3 19 rfl rfl)
theorem dX10_would_92 : decode cX10_would 92 = .ok (.iload 9, 2) := dk_21 9 (dk_at dksX10_would_3 22 rfl rfl)
theorem dX10_would_94 : decode cX10_would 94 = .ok (.iconst 0, 1) := dk_3 (dk_at dksX10_would_4 0 rfl rfl)
theorem dX10_would_95 : decode cX10_would 95 = .ok (.sipush 400, 3) := dk_17 1 144 (dk_at dksX10_would_4 1 rfl rfl)
theorem dX10_would_98 : decode cX10_would 98 = .ok (.invokestatic 132, 3) := dk_184 0 132 (dk_at dksX10_would_4 4 rfl rfl)
theorem dX10_would_101 : decode cX10_would 101 = .ok (.ifCond .eq 14, 3) := dk_153 0 14 (dk_at dksX10_would_4 7 rfl rfl)
theorem dX10_would_104 : decode cX10_would 104 = .ok (.iload 10, 2) := dk_21 10 (dk_at dksX10_would_4 10 rfl rfl)
theorem dX10_would_106 : decode cX10_would 106 = .ok (.iconst 0, 1) := dk_3 (dk_at dksX10_would_4 12 rfl rfl)
theorem dX10_would_107 : decode cX10_would 107 = .ok (.bipush 6, 2) := dk_16 6 (dk_at dksX10_would_4 13 rfl rfl)
theorem dX10_would_109 : decode cX10_would 109 = .ok (.invokestatic 132, 3) := dk_184 0 132 (dk_at dksX10_would_4 15 rfl rfl)
theorem dX10_would_112 : decode cX10_would 112 = .ok (.ifCond .ne 7, 3) := dk_154 0 7 (dk_at dksX10_would_4 18 rfl rfl)
theorem dX10_would_115 : decode cX10_would 115 = .ok (.iconst 1, 1) := dk_4 (dk_at dksX10_would_4 21 rfl rfl)
theorem dX10_would_116 : decode cX10_would 116 = .ok (.goto 4, 3) := dk_167 0 4 (dk_at dksX10_would_5 0 rfl rfl)
theorem dX10_would_119 : decode cX10_would 119 = .ok (.iconst 0, 1) := dk_3 (dk_at dksX10_would_5 3 rfl rfl)
theorem dX10_would_120 : decode cX10_would 120 = .ok (.iconst 1, 1) := dk_4 (dk_at dksX10_would_5 4 rfl rfl)
theorem dX10_would_121 : decode cX10_would 121 = .ok (.iconst 1, 1) := dk_4 (dk_at dksX10_would_5 5 rfl rfl)
theorem dX10_would_122 : decode cX10_would 122 = .ok (.invokevirtual 178, 3) := dk_182 0 178 (dk_at dksX10_would_5 6 rfl rfl)
theorem dX10_would_125 : decode cX10_would 125 = .ok (.ifCond .eq 5, 3) := dk_153 0 5 (dk_at dksX10_would_5 9 rfl rfl)
theorem dX10_would_128 : decode cX10_would 128 = .ok (.iconst 0, 1) := dk_3 (dk_at dksX10_would_5 12 rfl rfl)
theorem dX10_would_129 : decode cX10_would 129 = .ok (.ireturn, 1) := dk_172 (dk_at dksX10_would_5 13 rfl rfl)
theorem dX10_would_130 : decode cX10_would 130 = .ok (.aload_n 0, 1) := dk_42 (dk_at dksX10_would_5 14 rfl rfl)
theorem dX10_would_131 : decode cX10_would 131 = .ok (.iload_n 1, 1) := dk_27 (dk_at dksX10_would_5 15 rfl rfl)
theorem dX10_would_132 : decode cX10_would 132 = .ok (.iload_n 2, 1) := dk_28 (dk_at dksX10_would_5 16 rfl rfl)
theorem dX10_would_133 : decode cX10_would 133 = .ok (.iload_n 3, 1) := dk_29 (dk_at dksX10_would_5 17 rfl rfl)
theorem dX10_would_134 : decode cX10_would 134 = .ok (.iload 4, 2) := dk_21 4 (dk_at dksX10_would_5 18 rfl rfl)
theorem dX10_would_136 : decode cX10_would 136 = .ok (.iload 5, 2) := dk_21 5 (dk_at dksX10_would_5 20 rfl rfl)
theorem dX10_would_138 : decode cX10_would 138 = .ok (.iload 6, 2) := dk_21 6 (dk_at dksX10_would_5 22 rfl rfl)
theorem dX10_would_140 : decode cX10_would 140 = .ok (.iload 7, 2) := dk_21 7 (dk_at dksX10_would_6 0 rfl rfl)
theorem dX10_would_142 : decode cX10_would 142 = .ok (.iload 8, 2) := dk_21 8 (dk_at dksX10_would_6 2 rfl rfl)
theorem dX10_would_144 : decode cX10_would 144 = .ok (.iload 9, 2) := dk_21 9 (dk_at dksX10_would_6 4 rfl rfl)
theorem dX10_would_146 : decode cX10_would 146 = .ok (.iload 10, 2) := dk_21 10 (dk_at dksX10_would_6 6 rfl rfl)
theorem dX10_would_148 : decode cX10_would 148 = .ok (.invokevirtual 279, 3) := dk_182 1 23 (dk_at dksX10_would_6 8 rfl rfl)
theorem dX10_would_151 : decode cX10_would 151 = .ok (.ireturn, 1) := dk_172 (dk_at dksX10_would_6 11 rfl rfl)
abbrev cX10_ahead : ByteArray := prog_32_method_74_code
def yX10_ahead : MethodName := ⟨RX10, "ahead", "(II)I"⟩
def dkwX10_ahead_4 : List UInt8 := [180, 0, 70, 16, 7, 182, 1, 17, 167, 0, 13, 42, 42, 180, 0, 70, 16, 7, 182, 1, 63, 172]
abbrev dktX10_ahead_4 : List UInt8 := dkwX10_ahead_4 ++ []
def dkwX10_ahead_3 : List UInt8 := [167, 255, 240, 28, 154, 0, 13, 42, 180, 0, 70, 16, 77, 46, 167, 0, 31, 28, 4, 160, 0, 16, 42, 42]
abbrev dktX10_ahead_3 : List UInt8 := dkwX10_ahead_3 ++ dktX10_ahead_4
def dkwX10_ahead_2 : List UInt8 := [180, 0, 70, 184, 1, 59, 3, 62, 29, 27, 162, 0, 17, 42, 42, 180, 0, 70, 182, 1, 42, 132, 3, 1]
abbrev dktX10_ahead_2 : List UInt8 := dkwX10_ahead_2 ++ dktX10_ahead_3
def dkwX10_ahead_1 : List UInt8 := [154, 0, 7, 4, 167, 0, 4, 3, 4, 4, 182, 0, 178, 153, 0, 5, 3, 172, 42, 180, 0, 67, 42]
abbrev dktX10_ahead_1 : List UInt8 := dkwX10_ahead_1 ++ dktX10_ahead_2
def dkwX10_ahead_0 : List UInt8 := [42, 3, 181, 0, 98, 42, 27, 3, 16, 99, 184, 0, 132, 153, 0, 12, 28, 3, 5, 184, 0, 132]
abbrev dktX10_ahead_0 : List UInt8 := dkwX10_ahead_0 ++ dktX10_ahead_1
theorem dksX10_ahead_0 : cX10_ahead.data.toList.drop 0 = dktX10_ahead_0 := by decide +kernel
theorem dksX10_ahead_1 : cX10_ahead.data.toList.drop 22 = dktX10_ahead_1 := dk_seg dksX10_ahead_0 22 rfl rfl
theorem dksX10_ahead_2 : cX10_ahead.data.toList.drop 45 = dktX10_ahead_2 := dk_seg dksX10_ahead_1 23 rfl rfl
theorem dksX10_ahead_3 : cX10_ahead.data.toList.drop 69 = dktX10_ahead_3 := dk_seg dksX10_ahead_2 24 rfl rfl
theorem dksX10_ahead_4 : cX10_ahead.data.toList.drop 93 = dktX10_ahead_4 := dk_seg dksX10_ahead_3 24 rfl rfl
theorem dX10_ahead_0 : decode cX10_ahead 0 = .ok (.aload_n 0, 1) := dk_42 (dk_at dksX10_ahead_0 0 rfl rfl)
theorem dX10_ahead_1 : decode cX10_ahead 1 = .ok (.iconst 0, 1) := dk_3 (dk_at dksX10_ahead_0 1 rfl rfl)
theorem dX10_ahead_2 : decode cX10_ahead 2 = .ok (.putfield 98, 3) := dk_181 0 98 (dk_at dksX10_ahead_0 2 rfl rfl)
theorem dX10_ahead_5 : decode cX10_ahead 5 = .ok (.aload_n 0, 1) := dk_42 (dk_at dksX10_ahead_0 5 rfl rfl)
theorem dX10_ahead_6 : decode cX10_ahead 6 = .ok (.iload_n 1, 1) := dk_27 (dk_at dksX10_ahead_0 6 rfl rfl)
theorem dX10_ahead_7 : decode cX10_ahead 7 = .ok (.iconst 0, 1) := dk_3 (dk_at dksX10_ahead_0 7 rfl rfl)
theorem dX10_ahead_8 : decode cX10_ahead 8 = .ok (.bipush 99, 2) := dk_16 99 (dk_at dksX10_ahead_0 8 rfl rfl)
theorem dX10_ahead_10 : decode cX10_ahead 10 = .ok (.invokestatic 132, 3) := dk_184 0 132 (dk_at dksX10_ahead_0 10 rfl rfl)
theorem dX10_ahead_13 : decode cX10_ahead 13 = .ok (.ifCond .eq 12, 3) := dk_153 0 12 (dk_at dksX10_ahead_0 13 rfl rfl)
theorem dX10_ahead_16 : decode cX10_ahead 16 = .ok (.iload_n 2, 1) := dk_28 (dk_at dksX10_ahead_0 16 rfl rfl)
theorem dX10_ahead_17 : decode cX10_ahead 17 = .ok (.iconst 0, 1) := dk_3 (dk_at dksX10_ahead_0 17 rfl rfl)
theorem dX10_ahead_18 : decode cX10_ahead 18 = .ok (.iconst 2, 1) := dk_5 (dk_at dksX10_ahead_0 18 rfl rfl)
theorem dX10_ahead_19 : decode cX10_ahead 19 = .ok (.invokestatic 132, 3) := dk_184 0 132 (dk_at dksX10_ahead_0 19 rfl rfl)
theorem dX10_ahead_22 : decode cX10_ahead 22 = .ok (.ifCond .ne 7, 3) := dk_154 0 7 (dk_at dksX10_ahead_1 0 rfl rfl)
theorem dX10_ahead_25 : decode cX10_ahead 25 = .ok (.iconst 1, 1) := dk_4 (dk_at dksX10_ahead_1 3 rfl rfl)
theorem dX10_ahead_26 : decode cX10_ahead 26 = .ok (.goto 4, 3) := dk_167 0 4 (dk_at dksX10_ahead_1 4 rfl rfl)
theorem dX10_ahead_29 : decode cX10_ahead 29 = .ok (.iconst 0, 1) := dk_3 (dk_at dksX10_ahead_1 7 rfl rfl)
theorem dX10_ahead_30 : decode cX10_ahead 30 = .ok (.iconst 1, 1) := dk_4 (dk_at dksX10_ahead_1 8 rfl rfl)
theorem dX10_ahead_31 : decode cX10_ahead 31 = .ok (.iconst 1, 1) := dk_4 (dk_at dksX10_ahead_1 9 rfl rfl)
theorem dX10_ahead_32 : decode cX10_ahead 32 = .ok (.invokevirtual 178, 3) := dk_182 0 178 (dk_at dksX10_ahead_1 10 rfl rfl)
theorem dX10_ahead_35 : decode cX10_ahead 35 = .ok (.ifCond .eq 5, 3) := dk_153 0 5 (dk_at dksX10_ahead_1 13 rfl rfl)
theorem dX10_ahead_38 : decode cX10_ahead 38 = .ok (.iconst 0, 1) := dk_3 (dk_at dksX10_ahead_1 16 rfl rfl)
theorem dX10_ahead_39 : decode cX10_ahead 39 = .ok (.ireturn, 1) := dk_172 (dk_at dksX10_ahead_1 17 rfl rfl)
theorem dX10_ahead_40 : decode cX10_ahead 40 = .ok (.aload_n 0, 1) := dk_42 (dk_at dksX10_ahead_1 18 rfl rfl)
theorem dX10_ahead_41 : decode cX10_ahead 41 = .ok (.getfield 67, 3) := dk_180 0 67 (dk_at dksX10_ahead_1 19 rfl rfl)
theorem dX10_ahead_44 : decode cX10_ahead 44 = .ok (.aload_n 0, 1) := dk_42 (dk_at dksX10_ahead_1 22 rfl rfl)
theorem dX10_ahead_45 : decode cX10_ahead 45 = .ok (.getfield 70, 3) := dk_180 0 70 (dk_at dksX10_ahead_2 0 rfl rfl)
theorem dX10_ahead_48 : decode cX10_ahead 48 = .ok (.invokestatic 315, 3) := dk_184 1 59 (dk_at dksX10_ahead_2 3 rfl rfl)
theorem dX10_ahead_51 : decode cX10_ahead 51 = .ok (.iconst 0, 1) := dk_3 (dk_at dksX10_ahead_2 6 rfl rfl)
theorem dX10_ahead_52 : decode cX10_ahead 52 = .ok (.istore_n 3, 1) := dk_62 (dk_at dksX10_ahead_2 7 rfl rfl)
theorem dX10_ahead_53 : decode cX10_ahead 53 = .ok (.iload_n 3, 1) := dk_29 (dk_at dksX10_ahead_2 8 rfl rfl)
theorem dX10_ahead_54 : decode cX10_ahead 54 = .ok (.iload_n 1, 1) := dk_27 (dk_at dksX10_ahead_2 9 rfl rfl)
theorem dX10_ahead_55 : decode cX10_ahead 55 = .ok (.if_icmp .ge 17, 3) := dk_162 0 17 (dk_at dksX10_ahead_2 10 rfl rfl)
theorem dX10_ahead_58 : decode cX10_ahead 58 = .ok (.aload_n 0, 1) := dk_42 (dk_at dksX10_ahead_2 13 rfl rfl)
theorem dX10_ahead_59 : decode cX10_ahead 59 = .ok (.aload_n 0, 1) := dk_42 (dk_at dksX10_ahead_2 14 rfl rfl)
theorem dX10_ahead_60 : decode cX10_ahead 60 = .ok (.getfield 70, 3) := dk_180 0 70 (dk_at dksX10_ahead_2 15 rfl rfl)
theorem dX10_ahead_63 : decode cX10_ahead 63 = .ok (.invokevirtual 298, 3) := dk_182 1 42 (dk_at dksX10_ahead_2 18 rfl rfl)
theorem dX10_ahead_66 : decode cX10_ahead 66 = .ok (.iinc 3 1, 3) := dk_132 3 1 (dk_at dksX10_ahead_2 21 rfl rfl)
theorem dX10_ahead_69 : decode cX10_ahead 69 = .ok (.goto (-16), 3) := dk_167 255 240 (dk_at dksX10_ahead_3 0 rfl rfl)
theorem dX10_ahead_72 : decode cX10_ahead 72 = .ok (.iload_n 2, 1) := dk_28 (dk_at dksX10_ahead_3 3 rfl rfl)
theorem dX10_ahead_73 : decode cX10_ahead 73 = .ok (.ifCond .ne 13, 3) := dk_154 0 13 (dk_at dksX10_ahead_3 4 rfl rfl)
theorem dX10_ahead_76 : decode cX10_ahead 76 = .ok (.aload_n 0, 1) := dk_42 (dk_at dksX10_ahead_3 7 rfl rfl)
theorem dX10_ahead_77 : decode cX10_ahead 77 = .ok (.getfield 70, 3) := dk_180 0 70 (dk_at dksX10_ahead_3 8 rfl rfl)
theorem dX10_ahead_80 : decode cX10_ahead 80 = .ok (.bipush 77, 2) := dk_16 77 (dk_at dksX10_ahead_3 11 rfl rfl)
theorem dX10_ahead_82 : decode cX10_ahead 82 = .ok (.iaload, 1) := dk_46 (dk_at dksX10_ahead_3 13 rfl rfl)
theorem dX10_ahead_83 : decode cX10_ahead 83 = .ok (.goto 31, 3) := dk_167 0 31 (dk_at dksX10_ahead_3 14 rfl rfl)
theorem dX10_ahead_86 : decode cX10_ahead 86 = .ok (.iload_n 2, 1) := dk_28 (dk_at dksX10_ahead_3 17 rfl rfl)
theorem dX10_ahead_87 : decode cX10_ahead 87 = .ok (.iconst 1, 1) := dk_4 (dk_at dksX10_ahead_3 18 rfl rfl)
theorem dX10_ahead_88 : decode cX10_ahead 88 = .ok (.if_icmp .ne 16, 3) := dk_160 0 16 (dk_at dksX10_ahead_3 19 rfl rfl)
theorem dX10_ahead_91 : decode cX10_ahead 91 = .ok (.aload_n 0, 1) := dk_42 (dk_at dksX10_ahead_3 22 rfl rfl)
theorem dX10_ahead_92 : decode cX10_ahead 92 = .ok (.aload_n 0, 1) := dk_42 (dk_at dksX10_ahead_3 23 rfl rfl)
theorem dX10_ahead_93 : decode cX10_ahead 93 = .ok (.getfield 70, 3) := dk_180 0 70 (dk_at dksX10_ahead_4 0 rfl rfl)
theorem dX10_ahead_96 : decode cX10_ahead 96 = .ok (.bipush 7, 2) := dk_16 7 (dk_at dksX10_ahead_4 3 rfl rfl)
theorem dX10_ahead_98 : decode cX10_ahead 98 = .ok (.invokevirtual 273, 3) := dk_182 1 17 (dk_at dksX10_ahead_4 5 rfl rfl)
theorem dX10_ahead_101 : decode cX10_ahead 101 = .ok (.goto 13, 3) := dk_167 0 13 (dk_at dksX10_ahead_4 8 rfl rfl)
theorem dX10_ahead_104 : decode cX10_ahead 104 = .ok (.aload_n 0, 1) := dk_42 (dk_at dksX10_ahead_4 11 rfl rfl)
theorem dX10_ahead_105 : decode cX10_ahead 105 = .ok (.aload_n 0, 1) := dk_42 (dk_at dksX10_ahead_4 12 rfl rfl)
theorem dX10_ahead_106 : decode cX10_ahead 106 = .ok (.getfield 70, 3) := dk_180 0 70 (dk_at dksX10_ahead_4 13 rfl rfl)
theorem dX10_ahead_109 : decode cX10_ahead 109 = .ok (.bipush 7, 2) := dk_16 7 (dk_at dksX10_ahead_4 16 rfl rfl)
theorem dX10_ahead_111 : decode cX10_ahead 111 = .ok (.invokevirtual 319, 3) := dk_182 1 63 (dk_at dksX10_ahead_4 18 rfl rfl)
theorem dX10_ahead_114 : decode cX10_ahead 114 = .ok (.ireturn, 1) := dk_172 (dk_at dksX10_ahead_4 21 rfl rfl)
abbrev cX10_dry : ByteArray := prog_32_method_75_code
def yX10_dry : MethodName := ⟨RX10, "dry", "()I"⟩
def dkwX10_dry_2 : List UInt8 := [132, 1, 1, 167, 255, 224, 2, 172]
abbrev dktX10_dry_2 : List UInt8 := dkwX10_dry_2 ++ []
def dkwX10_dry_1 : List UInt8 := [42, 42, 180, 0, 70, 16, 7, 182, 1, 17, 153, 0, 5, 27, 172, 42, 42, 180, 0, 70, 182, 1, 42]
abbrev dktX10_dry_1 : List UInt8 := dkwX10_dry_1 ++ dktX10_dry_2
def dkwX10_dry_0 : List UInt8 := [42, 3, 181, 0, 98, 42, 180, 0, 67, 42, 180, 0, 70, 184, 1, 59, 3, 60, 27, 16, 99, 163, 0, 32]
abbrev dktX10_dry_0 : List UInt8 := dkwX10_dry_0 ++ dktX10_dry_1
theorem dksX10_dry_0 : cX10_dry.data.toList.drop 0 = dktX10_dry_0 := by decide +kernel
theorem dksX10_dry_1 : cX10_dry.data.toList.drop 24 = dktX10_dry_1 := dk_seg dksX10_dry_0 24 rfl rfl
theorem dksX10_dry_2 : cX10_dry.data.toList.drop 47 = dktX10_dry_2 := dk_seg dksX10_dry_1 23 rfl rfl
theorem dX10_dry_0 : decode cX10_dry 0 = .ok (.aload_n 0, 1) := dk_42 (dk_at dksX10_dry_0 0 rfl rfl)
theorem dX10_dry_1 : decode cX10_dry 1 = .ok (.iconst 0, 1) := dk_3 (dk_at dksX10_dry_0 1 rfl rfl)
theorem dX10_dry_2 : decode cX10_dry 2 = .ok (.putfield 98, 3) := dk_181 0 98 (dk_at dksX10_dry_0 2 rfl rfl)
theorem dX10_dry_5 : decode cX10_dry 5 = .ok (.aload_n 0, 1) := dk_42 (dk_at dksX10_dry_0 5 rfl rfl)
theorem dX10_dry_6 : decode cX10_dry 6 = .ok (.getfield 67, 3) := dk_180 0 67 (dk_at dksX10_dry_0 6 rfl rfl)
theorem dX10_dry_9 : decode cX10_dry 9 = .ok (.aload_n 0, 1) := dk_42 (dk_at dksX10_dry_0 9 rfl rfl)
theorem dX10_dry_10 : decode cX10_dry 10 = .ok (.getfield 70, 3) := dk_180 0 70 (dk_at dksX10_dry_0 10 rfl rfl)
theorem dX10_dry_13 : decode cX10_dry 13 = .ok (.invokestatic 315, 3) := dk_184 1 59 (dk_at dksX10_dry_0 13 rfl rfl)
theorem dX10_dry_16 : decode cX10_dry 16 = .ok (.iconst 0, 1) := dk_3 (dk_at dksX10_dry_0 16 rfl rfl)
theorem dX10_dry_17 : decode cX10_dry 17 = .ok (.istore_n 1, 1) := dk_60 (dk_at dksX10_dry_0 17 rfl rfl)
theorem dX10_dry_18 : decode cX10_dry 18 = .ok (.iload_n 1, 1) := dk_27 (dk_at dksX10_dry_0 18 rfl rfl)
theorem dX10_dry_19 : decode cX10_dry 19 = .ok (.bipush 99, 2) := dk_16 99 (dk_at dksX10_dry_0 19 rfl rfl)
theorem dX10_dry_21 : decode cX10_dry 21 = .ok (.if_icmp .gt 32, 3) := dk_163 0 32 (dk_at dksX10_dry_0 21 rfl rfl)
theorem dX10_dry_24 : decode cX10_dry 24 = .ok (.aload_n 0, 1) := dk_42 (dk_at dksX10_dry_1 0 rfl rfl)
theorem dX10_dry_25 : decode cX10_dry 25 = .ok (.aload_n 0, 1) := dk_42 (dk_at dksX10_dry_1 1 rfl rfl)
theorem dX10_dry_26 : decode cX10_dry 26 = .ok (.getfield 70, 3) := dk_180 0 70 (dk_at dksX10_dry_1 2 rfl rfl)
theorem dX10_dry_29 : decode cX10_dry 29 = .ok (.bipush 7, 2) := dk_16 7 (dk_at dksX10_dry_1 5 rfl rfl)
theorem dX10_dry_31 : decode cX10_dry 31 = .ok (.invokevirtual 273, 3) := dk_182 1 17 (dk_at dksX10_dry_1 7 rfl rfl)
theorem dX10_dry_34 : decode cX10_dry 34 = .ok (.ifCond .eq 5, 3) := dk_153 0 5 (dk_at dksX10_dry_1 10 rfl rfl)
theorem dX10_dry_37 : decode cX10_dry 37 = .ok (.iload_n 1, 1) := dk_27 (dk_at dksX10_dry_1 13 rfl rfl)
theorem dX10_dry_38 : decode cX10_dry 38 = .ok (.ireturn, 1) := dk_172 (dk_at dksX10_dry_1 14 rfl rfl)
theorem dX10_dry_39 : decode cX10_dry 39 = .ok (.aload_n 0, 1) := dk_42 (dk_at dksX10_dry_1 15 rfl rfl)
theorem dX10_dry_40 : decode cX10_dry 40 = .ok (.aload_n 0, 1) := dk_42 (dk_at dksX10_dry_1 16 rfl rfl)
theorem dX10_dry_41 : decode cX10_dry 41 = .ok (.getfield 70, 3) := dk_180 0 70 (dk_at dksX10_dry_1 17 rfl rfl)
theorem dX10_dry_44 : decode cX10_dry 44 = .ok (.invokevirtual 298, 3) := dk_182 1 42 (dk_at dksX10_dry_1 20 rfl rfl)
theorem dX10_dry_47 : decode cX10_dry 47 = .ok (.iinc 1 1, 3) := dk_132 1 1 (dk_at dksX10_dry_2 0 rfl rfl)
theorem dX10_dry_50 : decode cX10_dry 50 = .ok (.goto (-32), 3) := dk_167 255 224 (dk_at dksX10_dry_2 3 rfl rfl)
theorem dX10_dry_53 : decode cX10_dry 53 = .ok (.iconst (-1), 1) := dk_2 (dk_at dksX10_dry_2 6 rfl rfl)
theorem dX10_dry_54 : decode cX10_dry 54 = .ok (.ireturn, 1) := dk_172 (dk_at dksX10_dry_2 7 rfl rfl)
abbrev cX10_best : ByteArray := prog_32_method_78_code
def yX10_best : MethodName := ⟨RX10, "best", "()I"⟩
def dkwX10_best_0 : List UInt8 := [42, 3, 181, 0, 98, 42, 182, 1, 85, 42, 180, 1, 78, 172]
abbrev dktX10_best_0 : List UInt8 := dkwX10_best_0 ++ []
theorem dksX10_best_0 : cX10_best.data.toList.drop 0 = dktX10_best_0 := by decide +kernel
theorem dX10_best_0 : decode cX10_best 0 = .ok (.aload_n 0, 1) := dk_42 (dk_at dksX10_best_0 0 rfl rfl)
theorem dX10_best_1 : decode cX10_best 1 = .ok (.iconst 0, 1) := dk_3 (dk_at dksX10_best_0 1 rfl rfl)
theorem dX10_best_2 : decode cX10_best 2 = .ok (.putfield 98, 3) := dk_181 0 98 (dk_at dksX10_best_0 2 rfl rfl)
theorem dX10_best_5 : decode cX10_best 5 = .ok (.aload_n 0, 1) := dk_42 (dk_at dksX10_best_0 5 rfl rfl)
theorem dX10_best_6 : decode cX10_best 6 = .ok (.invokevirtual 341, 3) := dk_182 1 85 (dk_at dksX10_best_0 6 rfl rfl)
theorem dX10_best_9 : decode cX10_best 9 = .ok (.aload_n 0, 1) := dk_42 (dk_at dksX10_best_0 9 rfl rfl)
theorem dX10_best_10 : decode cX10_best 10 = .ok (.getfield 334, 3) := dk_180 1 78 (dk_at dksX10_best_0 10 rfl rfl)
theorem dX10_best_13 : decode cX10_best 13 = .ok (.ireturn, 1) := dk_172 (dk_at dksX10_best_0 13 rfl rfl)
abbrev cX10_gives : ByteArray := prog_32_method_77_code
def yX10_gives : MethodName := ⟨RX10, "gives", "()V"⟩
def dkwX10_gives_0 : List UInt8 := [42, 2, 181, 1, 78, 42, 3, 42, 42, 180, 0, 67, 16, 14, 182, 1, 17, 3, 182, 1, 81, 177]
abbrev dktX10_gives_0 : List UInt8 := dkwX10_gives_0 ++ []
theorem dksX10_gives_0 : cX10_gives.data.toList.drop 0 = dktX10_gives_0 := by decide +kernel
theorem dX10_gives_0 : decode cX10_gives 0 = .ok (.aload_n 0, 1) := dk_42 (dk_at dksX10_gives_0 0 rfl rfl)
theorem dX10_gives_1 : decode cX10_gives 1 = .ok (.iconst (-1), 1) := dk_2 (dk_at dksX10_gives_0 1 rfl rfl)
theorem dX10_gives_2 : decode cX10_gives 2 = .ok (.putfield 334, 3) := dk_181 1 78 (dk_at dksX10_gives_0 2 rfl rfl)
theorem dX10_gives_5 : decode cX10_gives 5 = .ok (.aload_n 0, 1) := dk_42 (dk_at dksX10_gives_0 5 rfl rfl)
theorem dX10_gives_6 : decode cX10_gives 6 = .ok (.iconst 0, 1) := dk_3 (dk_at dksX10_gives_0 6 rfl rfl)
theorem dX10_gives_7 : decode cX10_gives 7 = .ok (.aload_n 0, 1) := dk_42 (dk_at dksX10_gives_0 7 rfl rfl)
theorem dX10_gives_8 : decode cX10_gives 8 = .ok (.aload_n 0, 1) := dk_42 (dk_at dksX10_gives_0 8 rfl rfl)
theorem dX10_gives_9 : decode cX10_gives 9 = .ok (.getfield 67, 3) := dk_180 0 67 (dk_at dksX10_gives_0 9 rfl rfl)
theorem dX10_gives_12 : decode cX10_gives 12 = .ok (.bipush 14, 2) := dk_16 14 (dk_at dksX10_gives_0 12 rfl rfl)
theorem dX10_gives_14 : decode cX10_gives 14 = .ok (.invokevirtual 273, 3) := dk_182 1 17 (dk_at dksX10_gives_0 14 rfl rfl)
theorem dX10_gives_17 : decode cX10_gives 17 = .ok (.iconst 0, 1) := dk_3 (dk_at dksX10_gives_0 17 rfl rfl)
theorem dX10_gives_18 : decode cX10_gives 18 = .ok (.invokevirtual 337, 3) := dk_182 1 81 (dk_at dksX10_gives_0 18 rfl rfl)
theorem dX10_gives_21 : decode cX10_gives 21 = .ok (.return_, 1) := dk_177 (dk_at dksX10_gives_0 21 rfl rfl)
abbrev cX10_givesFrom : ByteArray := prog_32_method_76_code
def yX10_givesFrom : MethodName := ⟨RX10, "givesFrom", "(III)V"⟩
def dkwX10_givesFrom_5 : List UInt8 := [167, 255, 196, 42, 180, 0, 79, 27, 2, 79, 42, 27, 4, 96, 28, 29, 182, 1, 81, 177]
abbrev dktX10_givesFrom_5 : List UInt8 := dkwX10_givesFrom_5 ++ []
def dkwX10_givesFrom_4 : List UInt8 := [21, 4, 120, 128, 29, 42, 42, 180, 0, 67, 27, 21, 4, 182, 1, 75, 96, 182, 1, 81, 132, 4, 1]
abbrev dktX10_givesFrom_4 : List UInt8 := dkwX10_givesFrom_4 ++ dktX10_givesFrom_5
def dkwX10_givesFrom_3 : List UInt8 := [184, 1, 4, 153, 0, 6, 167, 0, 37, 42, 180, 0, 79, 27, 21, 4, 79, 42, 27, 4, 96, 28, 4]
abbrev dktX10_givesFrom_3 : List UInt8 := dkwX10_givesFrom_3 ++ dktX10_givesFrom_4
def dkwX10_givesFrom_2 : List UInt8 := [132, 4, 1, 167, 255, 233, 177, 3, 54, 4, 21, 4, 42, 180, 0, 23, 3, 46, 162, 0, 55, 28, 21, 4]
abbrev dktX10_givesFrom_2 : List UInt8 := dkwX10_givesFrom_2 ++ dktX10_givesFrom_3
def dkwX10_givesFrom_1 : List UInt8 := [3, 54, 4, 21, 4, 27, 162, 0, 23, 42, 180, 0, 82, 21, 4, 42, 180, 0, 79, 21, 4, 46, 79]
abbrev dktX10_givesFrom_1 : List UInt8 := dkwX10_givesFrom_1 ++ dktX10_givesFrom_2
def dkwX10_givesFrom_0 : List UInt8 := [27, 42, 180, 0, 23, 4, 46, 160, 0, 47, 29, 42, 180, 1, 78, 163, 0, 4, 177, 42, 29, 181, 1, 78]
abbrev dktX10_givesFrom_0 : List UInt8 := dkwX10_givesFrom_0 ++ dktX10_givesFrom_1
theorem dksX10_givesFrom_0 : cX10_givesFrom.data.toList.drop 0 = dktX10_givesFrom_0 := by decide +kernel
theorem dksX10_givesFrom_1 : cX10_givesFrom.data.toList.drop 24 = dktX10_givesFrom_1 := dk_seg dksX10_givesFrom_0 24 rfl rfl
theorem dksX10_givesFrom_2 : cX10_givesFrom.data.toList.drop 47 = dktX10_givesFrom_2 := dk_seg dksX10_givesFrom_1 23 rfl rfl
theorem dksX10_givesFrom_3 : cX10_givesFrom.data.toList.drop 71 = dktX10_givesFrom_3 := dk_seg dksX10_givesFrom_2 24 rfl rfl
theorem dksX10_givesFrom_4 : cX10_givesFrom.data.toList.drop 94 = dktX10_givesFrom_4 := dk_seg dksX10_givesFrom_3 23 rfl rfl
theorem dksX10_givesFrom_5 : cX10_givesFrom.data.toList.drop 117 = dktX10_givesFrom_5 := dk_seg dksX10_givesFrom_4 23 rfl rfl
theorem dX10_givesFrom_0 : decode cX10_givesFrom 0 = .ok (.iload_n 1, 1) := dk_27 (dk_at dksX10_givesFrom_0 0 rfl rfl)
theorem dX10_givesFrom_1 : decode cX10_givesFrom 1 = .ok (.aload_n 0, 1) := dk_42 (dk_at dksX10_givesFrom_0 1 rfl rfl)
theorem dX10_givesFrom_2 : decode cX10_givesFrom 2 = .ok (.getfield 23, 3) := dk_180 0 23 (dk_at dksX10_givesFrom_0 2 rfl rfl)
theorem dX10_givesFrom_5 : decode cX10_givesFrom 5 = .ok (.iconst 1, 1) := dk_4 (dk_at dksX10_givesFrom_0 5 rfl rfl)
theorem dX10_givesFrom_6 : decode cX10_givesFrom 6 = .ok (.iaload, 1) := dk_46 (dk_at dksX10_givesFrom_0 6 rfl rfl)
theorem dX10_givesFrom_7 : decode cX10_givesFrom 7 = .ok (.if_icmp .ne 47, 3) := dk_160 0 47 (dk_at dksX10_givesFrom_0 7 rfl rfl)
theorem dX10_givesFrom_10 : decode cX10_givesFrom 10 = .ok (.iload_n 3, 1) := dk_29 (dk_at dksX10_givesFrom_0 10 rfl rfl)
theorem dX10_givesFrom_11 : decode cX10_givesFrom 11 = .ok (.aload_n 0, 1) := dk_42 (dk_at dksX10_givesFrom_0 11 rfl rfl)
theorem dX10_givesFrom_12 : decode cX10_givesFrom 12 = .ok (.getfield 334, 3) := dk_180 1 78 (dk_at dksX10_givesFrom_0 12 rfl rfl)
theorem dX10_givesFrom_15 : decode cX10_givesFrom 15 = .ok (.if_icmp .gt 4, 3) := dk_163 0 4 (dk_at dksX10_givesFrom_0 15 rfl rfl)
theorem dX10_givesFrom_18 : decode cX10_givesFrom 18 = .ok (.return_, 1) := dk_177 (dk_at dksX10_givesFrom_0 18 rfl rfl)
theorem dX10_givesFrom_19 : decode cX10_givesFrom 19 = .ok (.aload_n 0, 1) := dk_42 (dk_at dksX10_givesFrom_0 19 rfl rfl)
theorem dX10_givesFrom_20 : decode cX10_givesFrom 20 = .ok (.iload_n 3, 1) := dk_29 (dk_at dksX10_givesFrom_0 20 rfl rfl)
theorem dX10_givesFrom_21 : decode cX10_givesFrom 21 = .ok (.putfield 334, 3) := dk_181 1 78 (dk_at dksX10_givesFrom_0 21 rfl rfl)
theorem dX10_givesFrom_24 : decode cX10_givesFrom 24 = .ok (.iconst 0, 1) := dk_3 (dk_at dksX10_givesFrom_1 0 rfl rfl)
theorem dX10_givesFrom_25 : decode cX10_givesFrom 25 = .ok (.istore 4, 2) := dk_54 4 (dk_at dksX10_givesFrom_1 1 rfl rfl)
theorem dX10_givesFrom_27 : decode cX10_givesFrom 27 = .ok (.iload 4, 2) := dk_21 4 (dk_at dksX10_givesFrom_1 3 rfl rfl)
theorem dX10_givesFrom_29 : decode cX10_givesFrom 29 = .ok (.iload_n 1, 1) := dk_27 (dk_at dksX10_givesFrom_1 5 rfl rfl)
theorem dX10_givesFrom_30 : decode cX10_givesFrom 30 = .ok (.if_icmp .ge 23, 3) := dk_162 0 23 (dk_at dksX10_givesFrom_1 6 rfl rfl)
theorem dX10_givesFrom_33 : decode cX10_givesFrom 33 = .ok (.aload_n 0, 1) := dk_42 (dk_at dksX10_givesFrom_1 9 rfl rfl)
theorem dX10_givesFrom_34 : decode cX10_givesFrom 34 = .ok (.getfield 82, 3) := dk_180 0 82 (dk_at dksX10_givesFrom_1 10 rfl rfl)
theorem dX10_givesFrom_37 : decode cX10_givesFrom 37 = .ok (.iload 4, 2) := dk_21 4 (dk_at dksX10_givesFrom_1 13 rfl rfl)
theorem dX10_givesFrom_39 : decode cX10_givesFrom 39 = .ok (.aload_n 0, 1) := dk_42 (dk_at dksX10_givesFrom_1 15 rfl rfl)
theorem dX10_givesFrom_40 : decode cX10_givesFrom 40 = .ok (.getfield 79, 3) := dk_180 0 79 (dk_at dksX10_givesFrom_1 16 rfl rfl)
theorem dX10_givesFrom_43 : decode cX10_givesFrom 43 = .ok (.iload 4, 2) := dk_21 4 (dk_at dksX10_givesFrom_1 19 rfl rfl)
theorem dX10_givesFrom_45 : decode cX10_givesFrom 45 = .ok (.iaload, 1) := dk_46 (dk_at dksX10_givesFrom_1 21 rfl rfl)
theorem dX10_givesFrom_46 : decode cX10_givesFrom 46 = .ok (.iastore, 1) := dk_79 (dk_at dksX10_givesFrom_1 22 rfl rfl)
theorem dX10_givesFrom_47 : decode cX10_givesFrom 47 = .ok (.iinc 4 1, 3) := dk_132 4 1 (dk_at dksX10_givesFrom_2 0 rfl rfl)
theorem dX10_givesFrom_50 : decode cX10_givesFrom 50 = .ok (.goto (-23), 3) := dk_167 255 233 (dk_at dksX10_givesFrom_2 3 rfl rfl)
theorem dX10_givesFrom_53 : decode cX10_givesFrom 53 = .ok (.return_, 1) := dk_177 (dk_at dksX10_givesFrom_2 6 rfl rfl)
theorem dX10_givesFrom_54 : decode cX10_givesFrom 54 = .ok (.iconst 0, 1) := dk_3 (dk_at dksX10_givesFrom_2 7 rfl rfl)
theorem dX10_givesFrom_55 : decode cX10_givesFrom 55 = .ok (.istore 4, 2) := dk_54 4 (dk_at dksX10_givesFrom_2 8 rfl rfl)
theorem dX10_givesFrom_57 : decode cX10_givesFrom 57 = .ok (.iload 4, 2) := dk_21 4 (dk_at dksX10_givesFrom_2 10 rfl rfl)
theorem dX10_givesFrom_59 : decode cX10_givesFrom 59 = .ok (.aload_n 0, 1) := dk_42 (dk_at dksX10_givesFrom_2 12 rfl rfl)
theorem dX10_givesFrom_60 : decode cX10_givesFrom 60 = .ok (.getfield 23, 3) := dk_180 0 23 (dk_at dksX10_givesFrom_2 13 rfl rfl)
theorem dX10_givesFrom_63 : decode cX10_givesFrom 63 = .ok (.iconst 0, 1) := dk_3 (dk_at dksX10_givesFrom_2 16 rfl rfl)
theorem dX10_givesFrom_64 : decode cX10_givesFrom 64 = .ok (.iaload, 1) := dk_46 (dk_at dksX10_givesFrom_2 17 rfl rfl)
theorem dX10_givesFrom_65 : decode cX10_givesFrom 65 = .ok (.if_icmp .ge 55, 3) := dk_162 0 55 (dk_at dksX10_givesFrom_2 18 rfl rfl)
theorem dX10_givesFrom_68 : decode cX10_givesFrom 68 = .ok (.iload_n 2, 1) := dk_28 (dk_at dksX10_givesFrom_2 21 rfl rfl)
theorem dX10_givesFrom_69 : decode cX10_givesFrom 69 = .ok (.iload 4, 2) := dk_21 4 (dk_at dksX10_givesFrom_2 22 rfl rfl)
theorem dX10_givesFrom_71 : decode cX10_givesFrom 71 = .ok (.invokestatic 260, 3) := dk_184 1 4 (dk_at dksX10_givesFrom_3 0 rfl rfl)
theorem dX10_givesFrom_74 : decode cX10_givesFrom 74 = .ok (.ifCond .eq 6, 3) := dk_153 0 6 (dk_at dksX10_givesFrom_3 3 rfl rfl)
theorem dX10_givesFrom_77 : decode cX10_givesFrom 77 = .ok (.goto 37, 3) := dk_167 0 37 (dk_at dksX10_givesFrom_3 6 rfl rfl)
theorem dX10_givesFrom_80 : decode cX10_givesFrom 80 = .ok (.aload_n 0, 1) := dk_42 (dk_at dksX10_givesFrom_3 9 rfl rfl)
theorem dX10_givesFrom_81 : decode cX10_givesFrom 81 = .ok (.getfield 79, 3) := dk_180 0 79 (dk_at dksX10_givesFrom_3 10 rfl rfl)
theorem dX10_givesFrom_84 : decode cX10_givesFrom 84 = .ok (.iload_n 1, 1) := dk_27 (dk_at dksX10_givesFrom_3 13 rfl rfl)
theorem dX10_givesFrom_85 : decode cX10_givesFrom 85 = .ok (.iload 4, 2) := dk_21 4 (dk_at dksX10_givesFrom_3 14 rfl rfl)
theorem dX10_givesFrom_87 : decode cX10_givesFrom 87 = .ok (.iastore, 1) := dk_79 (dk_at dksX10_givesFrom_3 16 rfl rfl)
theorem dX10_givesFrom_88 : decode cX10_givesFrom 88 = .ok (.aload_n 0, 1) := dk_42 (dk_at dksX10_givesFrom_3 17 rfl rfl)
theorem dX10_givesFrom_89 : decode cX10_givesFrom 89 = .ok (.iload_n 1, 1) := dk_27 (dk_at dksX10_givesFrom_3 18 rfl rfl)
theorem dX10_givesFrom_90 : decode cX10_givesFrom 90 = .ok (.iconst 1, 1) := dk_4 (dk_at dksX10_givesFrom_3 19 rfl rfl)
theorem dX10_givesFrom_91 : decode cX10_givesFrom 91 = .ok (.iadd, 1) := dk_96 (dk_at dksX10_givesFrom_3 20 rfl rfl)
theorem dX10_givesFrom_92 : decode cX10_givesFrom 92 = .ok (.iload_n 2, 1) := dk_28 (dk_at dksX10_givesFrom_3 21 rfl rfl)
theorem dX10_givesFrom_93 : decode cX10_givesFrom 93 = .ok (.iconst 1, 1) := dk_4 (dk_at dksX10_givesFrom_3 22 rfl rfl)
theorem dX10_givesFrom_94 : decode cX10_givesFrom 94 = .ok (.iload 4, 2) := dk_21 4 (dk_at dksX10_givesFrom_4 0 rfl rfl)
theorem dX10_givesFrom_96 : decode cX10_givesFrom 96 = .ok (.ishl, 1) := dk_120 (dk_at dksX10_givesFrom_4 2 rfl rfl)
theorem dX10_givesFrom_97 : decode cX10_givesFrom 97 = .ok (.ior, 1) := dk_128 (dk_at dksX10_givesFrom_4 3 rfl rfl)
theorem dX10_givesFrom_98 : decode cX10_givesFrom 98 = .ok (.iload_n 3, 1) := dk_29 (dk_at dksX10_givesFrom_4 4 rfl rfl)
theorem dX10_givesFrom_99 : decode cX10_givesFrom 99 = .ok (.aload_n 0, 1) := dk_42 (dk_at dksX10_givesFrom_4 5 rfl rfl)
theorem dX10_givesFrom_100 : decode cX10_givesFrom 100 = .ok (.aload_n 0, 1) := dk_42 (dk_at dksX10_givesFrom_4 6 rfl rfl)
theorem dX10_givesFrom_101 : decode cX10_givesFrom 101 = .ok (.getfield 67, 3) := dk_180 0 67 (dk_at dksX10_givesFrom_4 7 rfl rfl)
theorem dX10_givesFrom_104 : decode cX10_givesFrom 104 = .ok (.iload_n 1, 1) := dk_27 (dk_at dksX10_givesFrom_4 10 rfl rfl)
theorem dX10_givesFrom_105 : decode cX10_givesFrom 105 = .ok (.iload 4, 2) := dk_21 4 (dk_at dksX10_givesFrom_4 11 rfl rfl)
theorem dX10_givesFrom_107 : decode cX10_givesFrom 107 = .ok (.invokevirtual 331, 3) := dk_182 1 75 (dk_at dksX10_givesFrom_4 13 rfl rfl)
theorem dX10_givesFrom_110 : decode cX10_givesFrom 110 = .ok (.iadd, 1) := dk_96 (dk_at dksX10_givesFrom_4 16 rfl rfl)
theorem dX10_givesFrom_111 : decode cX10_givesFrom 111 = .ok (.invokevirtual 337, 3) := dk_182 1 81 (dk_at dksX10_givesFrom_4 17 rfl rfl)
theorem dX10_givesFrom_114 : decode cX10_givesFrom 114 = .ok (.iinc 4 1, 3) := dk_132 4 1 (dk_at dksX10_givesFrom_4 20 rfl rfl)
theorem dX10_givesFrom_117 : decode cX10_givesFrom 117 = .ok (.goto (-60), 3) := dk_167 255 196 (dk_at dksX10_givesFrom_5 0 rfl rfl)
theorem dX10_givesFrom_120 : decode cX10_givesFrom 120 = .ok (.aload_n 0, 1) := dk_42 (dk_at dksX10_givesFrom_5 3 rfl rfl)
theorem dX10_givesFrom_121 : decode cX10_givesFrom 121 = .ok (.getfield 79, 3) := dk_180 0 79 (dk_at dksX10_givesFrom_5 4 rfl rfl)
theorem dX10_givesFrom_124 : decode cX10_givesFrom 124 = .ok (.iload_n 1, 1) := dk_27 (dk_at dksX10_givesFrom_5 7 rfl rfl)
theorem dX10_givesFrom_125 : decode cX10_givesFrom 125 = .ok (.iconst (-1), 1) := dk_2 (dk_at dksX10_givesFrom_5 8 rfl rfl)
theorem dX10_givesFrom_126 : decode cX10_givesFrom 126 = .ok (.iastore, 1) := dk_79 (dk_at dksX10_givesFrom_5 9 rfl rfl)
theorem dX10_givesFrom_127 : decode cX10_givesFrom 127 = .ok (.aload_n 0, 1) := dk_42 (dk_at dksX10_givesFrom_5 10 rfl rfl)
theorem dX10_givesFrom_128 : decode cX10_givesFrom 128 = .ok (.iload_n 1, 1) := dk_27 (dk_at dksX10_givesFrom_5 11 rfl rfl)
theorem dX10_givesFrom_129 : decode cX10_givesFrom 129 = .ok (.iconst 1, 1) := dk_4 (dk_at dksX10_givesFrom_5 12 rfl rfl)
theorem dX10_givesFrom_130 : decode cX10_givesFrom 130 = .ok (.iadd, 1) := dk_96 (dk_at dksX10_givesFrom_5 13 rfl rfl)
theorem dX10_givesFrom_131 : decode cX10_givesFrom 131 = .ok (.iload_n 2, 1) := dk_28 (dk_at dksX10_givesFrom_5 14 rfl rfl)
theorem dX10_givesFrom_132 : decode cX10_givesFrom 132 = .ok (.iload_n 3, 1) := dk_29 (dk_at dksX10_givesFrom_5 15 rfl rfl)
theorem dX10_givesFrom_133 : decode cX10_givesFrom 133 = .ok (.invokevirtual 337, 3) := dk_182 1 81 (dk_at dksX10_givesFrom_5 16 rfl rfl)
theorem dX10_givesFrom_136 : decode cX10_givesFrom 136 = .ok (.return_, 1) := dk_177 (dk_at dksX10_givesFrom_5 19 rfl rfl)
abbrev cX10_given : ByteArray := prog_32_method_79_code
def yX10_given : MethodName := ⟨RX10, "given", "(I)I"⟩
def dkwX10_given_1 : List UInt8 := [153, 0, 5, 3, 172, 42, 182, 1, 85, 42, 180, 0, 82, 27, 46, 172]
abbrev dktX10_given_1 : List UInt8 := dkwX10_given_1 ++ []
def dkwX10_given_0 : List UInt8 := [42, 3, 181, 0, 98, 42, 42, 27, 182, 1, 66, 154, 0, 7, 4, 167, 0, 4, 3, 4, 3, 182, 0, 178]
abbrev dktX10_given_0 : List UInt8 := dkwX10_given_0 ++ dktX10_given_1
theorem dksX10_given_0 : cX10_given.data.toList.drop 0 = dktX10_given_0 := by decide +kernel
theorem dksX10_given_1 : cX10_given.data.toList.drop 24 = dktX10_given_1 := dk_seg dksX10_given_0 24 rfl rfl
theorem dX10_given_0 : decode cX10_given 0 = .ok (.aload_n 0, 1) := dk_42 (dk_at dksX10_given_0 0 rfl rfl)
theorem dX10_given_1 : decode cX10_given 1 = .ok (.iconst 0, 1) := dk_3 (dk_at dksX10_given_0 1 rfl rfl)
theorem dX10_given_2 : decode cX10_given 2 = .ok (.putfield 98, 3) := dk_181 0 98 (dk_at dksX10_given_0 2 rfl rfl)
theorem dX10_given_5 : decode cX10_given 5 = .ok (.aload_n 0, 1) := dk_42 (dk_at dksX10_given_0 5 rfl rfl)
theorem dX10_given_6 : decode cX10_given 6 = .ok (.aload_n 0, 1) := dk_42 (dk_at dksX10_given_0 6 rfl rfl)
theorem dX10_given_7 : decode cX10_given 7 = .ok (.iload_n 1, 1) := dk_27 (dk_at dksX10_given_0 7 rfl rfl)
theorem dX10_given_8 : decode cX10_given 8 = .ok (.invokevirtual 322, 3) := dk_182 1 66 (dk_at dksX10_given_0 8 rfl rfl)
theorem dX10_given_11 : decode cX10_given 11 = .ok (.ifCond .ne 7, 3) := dk_154 0 7 (dk_at dksX10_given_0 11 rfl rfl)
theorem dX10_given_14 : decode cX10_given 14 = .ok (.iconst 1, 1) := dk_4 (dk_at dksX10_given_0 14 rfl rfl)
theorem dX10_given_15 : decode cX10_given 15 = .ok (.goto 4, 3) := dk_167 0 4 (dk_at dksX10_given_0 15 rfl rfl)
theorem dX10_given_18 : decode cX10_given 18 = .ok (.iconst 0, 1) := dk_3 (dk_at dksX10_given_0 18 rfl rfl)
theorem dX10_given_19 : decode cX10_given 19 = .ok (.iconst 1, 1) := dk_4 (dk_at dksX10_given_0 19 rfl rfl)
theorem dX10_given_20 : decode cX10_given 20 = .ok (.iconst 0, 1) := dk_3 (dk_at dksX10_given_0 20 rfl rfl)
theorem dX10_given_21 : decode cX10_given 21 = .ok (.invokevirtual 178, 3) := dk_182 0 178 (dk_at dksX10_given_0 21 rfl rfl)
theorem dX10_given_24 : decode cX10_given 24 = .ok (.ifCond .eq 5, 3) := dk_153 0 5 (dk_at dksX10_given_1 0 rfl rfl)
theorem dX10_given_27 : decode cX10_given 27 = .ok (.iconst 0, 1) := dk_3 (dk_at dksX10_given_1 3 rfl rfl)
theorem dX10_given_28 : decode cX10_given 28 = .ok (.ireturn, 1) := dk_172 (dk_at dksX10_given_1 4 rfl rfl)
theorem dX10_given_29 : decode cX10_given 29 = .ok (.aload_n 0, 1) := dk_42 (dk_at dksX10_given_1 5 rfl rfl)
theorem dX10_given_30 : decode cX10_given 30 = .ok (.invokevirtual 341, 3) := dk_182 1 85 (dk_at dksX10_given_1 6 rfl rfl)
theorem dX10_given_33 : decode cX10_given 33 = .ok (.aload_n 0, 1) := dk_42 (dk_at dksX10_given_1 9 rfl rfl)
theorem dX10_given_34 : decode cX10_given 34 = .ok (.getfield 82, 3) := dk_180 0 82 (dk_at dksX10_given_1 10 rfl rfl)
theorem dX10_given_37 : decode cX10_given 37 = .ok (.iload_n 1, 1) := dk_27 (dk_at dksX10_given_1 13 rfl rfl)
theorem dX10_given_38 : decode cX10_given 38 = .ok (.iaload, 1) := dk_46 (dk_at dksX10_given_1 14 rfl rfl)
theorem dX10_given_39 : decode cX10_given 39 = .ok (.ireturn, 1) := dk_172 (dk_at dksX10_given_1 15 rfl rfl)
abbrev cX10_enough : ByteArray := prog_32_method_81_code
def yX10_enough : MethodName := ⟨RX10, "enough", "(I)I"⟩
def dkwX10_enough_6 : List UInt8 := [184, 1, 20, 163, 0, 8, 21, 4, 167, 0, 4, 28, 61, 132, 4, 255, 167, 255, 157, 28, 172]
abbrev dktX10_enough_6 : List UInt8 := dkwX10_enough_6 ++ []
def dkwX10_enough_5 : List UInt8 := [27, 161, 0, 32, 21, 4, 29, 126, 154, 0, 25, 28, 2, 159, 0, 15, 21, 4, 184, 1, 20, 28]
abbrev dktX10_enough_5 : List UInt8 := dkwX10_enough_5 ++ dktX10_enough_6
def dkwX10_enough_4 : List UInt8 := [153, 0, 12, 42, 21, 6, 182, 1, 88, 167, 0, 4, 3, 96, 54, 5, 132, 6, 1, 167, 255, 217, 21, 5]
abbrev dktX10_enough_4 : List UInt8 := dkwX10_enough_4 ++ dktX10_enough_5
def dkwX10_enough_3 : List UInt8 := [3, 54, 6, 21, 6, 42, 180, 0, 23, 3, 46, 162, 0, 34, 21, 5, 21, 4, 21, 6, 184, 1, 4]
abbrev dktX10_enough_3 : List UInt8 := dkwX10_enough_3 ++ dktX10_enough_4
def dkwX10_enough_2 : List UInt8 := [180, 0, 23, 3, 46, 120, 4, 100, 54, 4, 21, 4, 155, 0, 100, 42, 180, 0, 67, 16, 77, 46, 54, 5]
abbrev dktX10_enough_2 : List UInt8 := dkwX10_enough_2 ++ dktX10_enough_3
def dkwX10_enough_1 : List UInt8 := [182, 0, 178, 153, 0, 5, 3, 172, 2, 61, 42, 42, 180, 0, 67, 16, 14, 182, 1, 17, 62, 4, 42]
abbrev dktX10_enough_1 : List UInt8 := dkwX10_enough_1 ++ dktX10_enough_2
def dkwX10_enough_0 : List UInt8 := [42, 3, 181, 0, 98, 42, 27, 3, 17, 3, 231, 184, 0, 132, 154, 0, 7, 4, 167, 0, 4, 3, 4, 4]
abbrev dktX10_enough_0 : List UInt8 := dkwX10_enough_0 ++ dktX10_enough_1
theorem dksX10_enough_0 : cX10_enough.data.toList.drop 0 = dktX10_enough_0 := by decide +kernel
theorem dksX10_enough_1 : cX10_enough.data.toList.drop 24 = dktX10_enough_1 := dk_seg dksX10_enough_0 24 rfl rfl
theorem dksX10_enough_2 : cX10_enough.data.toList.drop 47 = dktX10_enough_2 := dk_seg dksX10_enough_1 23 rfl rfl
theorem dksX10_enough_3 : cX10_enough.data.toList.drop 71 = dktX10_enough_3 := dk_seg dksX10_enough_2 24 rfl rfl
theorem dksX10_enough_4 : cX10_enough.data.toList.drop 94 = dktX10_enough_4 := dk_seg dksX10_enough_3 23 rfl rfl
theorem dksX10_enough_5 : cX10_enough.data.toList.drop 118 = dktX10_enough_5 := dk_seg dksX10_enough_4 24 rfl rfl
theorem dksX10_enough_6 : cX10_enough.data.toList.drop 140 = dktX10_enough_6 := dk_seg dksX10_enough_5 22 rfl rfl
theorem dX10_enough_0 : decode cX10_enough 0 = .ok (.aload_n 0, 1) := dk_42 (dk_at dksX10_enough_0 0 rfl rfl)
theorem dX10_enough_1 : decode cX10_enough 1 = .ok (.iconst 0, 1) := dk_3 (dk_at dksX10_enough_0 1 rfl rfl)
theorem dX10_enough_2 : decode cX10_enough 2 = .ok (.putfield 98, 3) := dk_181 0 98 (dk_at dksX10_enough_0 2 rfl rfl)
theorem dX10_enough_5 : decode cX10_enough 5 = .ok (.aload_n 0, 1) := dk_42 (dk_at dksX10_enough_0 5 rfl rfl)
theorem dX10_enough_6 : decode cX10_enough 6 = .ok (.iload_n 1, 1) := dk_27 (dk_at dksX10_enough_0 6 rfl rfl)
theorem dX10_enough_7 : decode cX10_enough 7 = .ok (.iconst 0, 1) := dk_3 (dk_at dksX10_enough_0 7 rfl rfl)
theorem dX10_enough_8 : decode cX10_enough 8 = .ok (.sipush 999, 3) := dk_17 3 231 (dk_at dksX10_enough_0 8 rfl rfl)
theorem dX10_enough_11 : decode cX10_enough 11 = .ok (.invokestatic 132, 3) := dk_184 0 132 (dk_at dksX10_enough_0 11 rfl rfl)
theorem dX10_enough_14 : decode cX10_enough 14 = .ok (.ifCond .ne 7, 3) := dk_154 0 7 (dk_at dksX10_enough_0 14 rfl rfl)
theorem dX10_enough_17 : decode cX10_enough 17 = .ok (.iconst 1, 1) := dk_4 (dk_at dksX10_enough_0 17 rfl rfl)
theorem dX10_enough_18 : decode cX10_enough 18 = .ok (.goto 4, 3) := dk_167 0 4 (dk_at dksX10_enough_0 18 rfl rfl)
theorem dX10_enough_21 : decode cX10_enough 21 = .ok (.iconst 0, 1) := dk_3 (dk_at dksX10_enough_0 21 rfl rfl)
theorem dX10_enough_22 : decode cX10_enough 22 = .ok (.iconst 1, 1) := dk_4 (dk_at dksX10_enough_0 22 rfl rfl)
theorem dX10_enough_23 : decode cX10_enough 23 = .ok (.iconst 1, 1) := dk_4 (dk_at dksX10_enough_0 23 rfl rfl)
theorem dX10_enough_24 : decode cX10_enough 24 = .ok (.invokevirtual 178, 3) := dk_182 0 178 (dk_at dksX10_enough_1 0 rfl rfl)
theorem dX10_enough_27 : decode cX10_enough 27 = .ok (.ifCond .eq 5, 3) := dk_153 0 5 (dk_at dksX10_enough_1 3 rfl rfl)
theorem dX10_enough_30 : decode cX10_enough 30 = .ok (.iconst 0, 1) := dk_3 (dk_at dksX10_enough_1 6 rfl rfl)
theorem dX10_enough_31 : decode cX10_enough 31 = .ok (.ireturn, 1) := dk_172 (dk_at dksX10_enough_1 7 rfl rfl)
theorem dX10_enough_32 : decode cX10_enough 32 = .ok (.iconst (-1), 1) := dk_2 (dk_at dksX10_enough_1 8 rfl rfl)
theorem dX10_enough_33 : decode cX10_enough 33 = .ok (.istore_n 2, 1) := dk_61 (dk_at dksX10_enough_1 9 rfl rfl)
theorem dX10_enough_34 : decode cX10_enough 34 = .ok (.aload_n 0, 1) := dk_42 (dk_at dksX10_enough_1 10 rfl rfl)
theorem dX10_enough_35 : decode cX10_enough 35 = .ok (.aload_n 0, 1) := dk_42 (dk_at dksX10_enough_1 11 rfl rfl)
theorem dX10_enough_36 : decode cX10_enough 36 = .ok (.getfield 67, 3) := dk_180 0 67 (dk_at dksX10_enough_1 12 rfl rfl)
theorem dX10_enough_39 : decode cX10_enough 39 = .ok (.bipush 14, 2) := dk_16 14 (dk_at dksX10_enough_1 15 rfl rfl)
theorem dX10_enough_41 : decode cX10_enough 41 = .ok (.invokevirtual 273, 3) := dk_182 1 17 (dk_at dksX10_enough_1 17 rfl rfl)
theorem dX10_enough_44 : decode cX10_enough 44 = .ok (.istore_n 3, 1) := dk_62 (dk_at dksX10_enough_1 20 rfl rfl)
theorem dX10_enough_45 : decode cX10_enough 45 = .ok (.iconst 1, 1) := dk_4 (dk_at dksX10_enough_1 21 rfl rfl)
theorem dX10_enough_46 : decode cX10_enough 46 = .ok (.aload_n 0, 1) := dk_42 (dk_at dksX10_enough_1 22 rfl rfl)
theorem dX10_enough_47 : decode cX10_enough 47 = .ok (.getfield 23, 3) := dk_180 0 23 (dk_at dksX10_enough_2 0 rfl rfl)
theorem dX10_enough_50 : decode cX10_enough 50 = .ok (.iconst 0, 1) := dk_3 (dk_at dksX10_enough_2 3 rfl rfl)
theorem dX10_enough_51 : decode cX10_enough 51 = .ok (.iaload, 1) := dk_46 (dk_at dksX10_enough_2 4 rfl rfl)
theorem dX10_enough_52 : decode cX10_enough 52 = .ok (.ishl, 1) := dk_120 (dk_at dksX10_enough_2 5 rfl rfl)
theorem dX10_enough_53 : decode cX10_enough 53 = .ok (.iconst 1, 1) := dk_4 (dk_at dksX10_enough_2 6 rfl rfl)
theorem dX10_enough_54 : decode cX10_enough 54 = .ok (.isub, 1) := dk_100 (dk_at dksX10_enough_2 7 rfl rfl)
theorem dX10_enough_55 : decode cX10_enough 55 = .ok (.istore 4, 2) := dk_54 4 (dk_at dksX10_enough_2 8 rfl rfl)
theorem dX10_enough_57 : decode cX10_enough 57 = .ok (.iload 4, 2) := dk_21 4 (dk_at dksX10_enough_2 10 rfl rfl)
theorem dX10_enough_59 : decode cX10_enough 59 = .ok (.ifCond .lt 100, 3) := dk_155 0 100 (dk_at dksX10_enough_2 12 rfl rfl)
theorem dX10_enough_62 : decode cX10_enough 62 = .ok (.aload_n 0, 1) := dk_42 (dk_at dksX10_enough_2 15 rfl rfl)
theorem dX10_enough_63 : decode cX10_enough 63 = .ok (.getfield 67, 3) := dk_180 0 67 (dk_at dksX10_enough_2 16 rfl rfl)
theorem dX10_enough_66 : decode cX10_enough 66 = .ok (.bipush 77, 2) := dk_16 77 (dk_at dksX10_enough_2 19 rfl rfl)
theorem dX10_enough_68 : decode cX10_enough 68 = .ok (.iaload, 1) := dk_46 (dk_at dksX10_enough_2 21 rfl rfl)
theorem dX10_enough_69 : decode cX10_enough 69 = .ok (.istore 5, 2) := dk_54 5 (dk_at dksX10_enough_2 22 rfl rfl)
theorem dX10_enough_71 : decode cX10_enough 71 = .ok (.iconst 0, 1) := dk_3 (dk_at dksX10_enough_3 0 rfl rfl)
theorem dX10_enough_72 : decode cX10_enough 72 = .ok (.istore 6, 2) := dk_54 6 (dk_at dksX10_enough_3 1 rfl rfl)
theorem dX10_enough_74 : decode cX10_enough 74 = .ok (.iload 6, 2) := dk_21 6 (dk_at dksX10_enough_3 3 rfl rfl)
theorem dX10_enough_76 : decode cX10_enough 76 = .ok (.aload_n 0, 1) := dk_42 (dk_at dksX10_enough_3 5 rfl rfl)
theorem dX10_enough_77 : decode cX10_enough 77 = .ok (.getfield 23, 3) := dk_180 0 23 (dk_at dksX10_enough_3 6 rfl rfl)
theorem dX10_enough_80 : decode cX10_enough 80 = .ok (.iconst 0, 1) := dk_3 (dk_at dksX10_enough_3 9 rfl rfl)
theorem dX10_enough_81 : decode cX10_enough 81 = .ok (.iaload, 1) := dk_46 (dk_at dksX10_enough_3 10 rfl rfl)
theorem dX10_enough_82 : decode cX10_enough 82 = .ok (.if_icmp .ge 34, 3) := dk_162 0 34 (dk_at dksX10_enough_3 11 rfl rfl)
theorem dX10_enough_85 : decode cX10_enough 85 = .ok (.iload 5, 2) := dk_21 5 (dk_at dksX10_enough_3 14 rfl rfl)
theorem dX10_enough_87 : decode cX10_enough 87 = .ok (.iload 4, 2) := dk_21 4 (dk_at dksX10_enough_3 16 rfl rfl)
theorem dX10_enough_89 : decode cX10_enough 89 = .ok (.iload 6, 2) := dk_21 6 (dk_at dksX10_enough_3 18 rfl rfl)
theorem dX10_enough_91 : decode cX10_enough 91 = .ok (.invokestatic 260, 3) := dk_184 1 4 (dk_at dksX10_enough_3 20 rfl rfl)
theorem dX10_enough_94 : decode cX10_enough 94 = .ok (.ifCond .eq 12, 3) := dk_153 0 12 (dk_at dksX10_enough_4 0 rfl rfl)
theorem dX10_enough_97 : decode cX10_enough 97 = .ok (.aload_n 0, 1) := dk_42 (dk_at dksX10_enough_4 3 rfl rfl)
theorem dX10_enough_98 : decode cX10_enough 98 = .ok (.iload 6, 2) := dk_21 6 (dk_at dksX10_enough_4 4 rfl rfl)
theorem dX10_enough_100 : decode cX10_enough 100 = .ok (.invokevirtual 344, 3) := dk_182 1 88 (dk_at dksX10_enough_4 6 rfl rfl)
theorem dX10_enough_103 : decode cX10_enough 103 = .ok (.goto 4, 3) := dk_167 0 4 (dk_at dksX10_enough_4 9 rfl rfl)
theorem dX10_enough_106 : decode cX10_enough 106 = .ok (.iconst 0, 1) := dk_3 (dk_at dksX10_enough_4 12 rfl rfl)
theorem dX10_enough_107 : decode cX10_enough 107 = .ok (.iadd, 1) := dk_96 (dk_at dksX10_enough_4 13 rfl rfl)
theorem dX10_enough_108 : decode cX10_enough 108 = .ok (.istore 5, 2) := dk_54 5 (dk_at dksX10_enough_4 14 rfl rfl)
theorem dX10_enough_110 : decode cX10_enough 110 = .ok (.iinc 6 1, 3) := dk_132 6 1 (dk_at dksX10_enough_4 16 rfl rfl)
theorem dX10_enough_113 : decode cX10_enough 113 = .ok (.goto (-39), 3) := dk_167 255 217 (dk_at dksX10_enough_4 19 rfl rfl)
theorem dX10_enough_116 : decode cX10_enough 116 = .ok (.iload 5, 2) := dk_21 5 (dk_at dksX10_enough_4 22 rfl rfl)
theorem dX10_enough_118 : decode cX10_enough 118 = .ok (.iload_n 1, 1) := dk_27 (dk_at dksX10_enough_5 0 rfl rfl)
theorem dX10_enough_119 : decode cX10_enough 119 = .ok (.if_icmp .lt 32, 3) := dk_161 0 32 (dk_at dksX10_enough_5 1 rfl rfl)
theorem dX10_enough_122 : decode cX10_enough 122 = .ok (.iload 4, 2) := dk_21 4 (dk_at dksX10_enough_5 4 rfl rfl)
theorem dX10_enough_124 : decode cX10_enough 124 = .ok (.iload_n 3, 1) := dk_29 (dk_at dksX10_enough_5 6 rfl rfl)
theorem dX10_enough_125 : decode cX10_enough 125 = .ok (.iand, 1) := dk_126 (dk_at dksX10_enough_5 7 rfl rfl)
theorem dX10_enough_126 : decode cX10_enough 126 = .ok (.ifCond .ne 25, 3) := dk_154 0 25 (dk_at dksX10_enough_5 8 rfl rfl)
theorem dX10_enough_129 : decode cX10_enough 129 = .ok (.iload_n 2, 1) := dk_28 (dk_at dksX10_enough_5 11 rfl rfl)
theorem dX10_enough_130 : decode cX10_enough 130 = .ok (.iconst (-1), 1) := dk_2 (dk_at dksX10_enough_5 12 rfl rfl)
theorem dX10_enough_131 : decode cX10_enough 131 = .ok (.if_icmp .eq 15, 3) := dk_159 0 15 (dk_at dksX10_enough_5 13 rfl rfl)
theorem dX10_enough_134 : decode cX10_enough 134 = .ok (.iload 4, 2) := dk_21 4 (dk_at dksX10_enough_5 16 rfl rfl)
theorem dX10_enough_136 : decode cX10_enough 136 = .ok (.invokestatic 276, 3) := dk_184 1 20 (dk_at dksX10_enough_5 18 rfl rfl)
theorem dX10_enough_139 : decode cX10_enough 139 = .ok (.iload_n 2, 1) := dk_28 (dk_at dksX10_enough_5 21 rfl rfl)
theorem dX10_enough_140 : decode cX10_enough 140 = .ok (.invokestatic 276, 3) := dk_184 1 20 (dk_at dksX10_enough_6 0 rfl rfl)
theorem dX10_enough_143 : decode cX10_enough 143 = .ok (.if_icmp .gt 8, 3) := dk_163 0 8 (dk_at dksX10_enough_6 3 rfl rfl)
theorem dX10_enough_146 : decode cX10_enough 146 = .ok (.iload 4, 2) := dk_21 4 (dk_at dksX10_enough_6 6 rfl rfl)
theorem dX10_enough_148 : decode cX10_enough 148 = .ok (.goto 4, 3) := dk_167 0 4 (dk_at dksX10_enough_6 8 rfl rfl)
theorem dX10_enough_151 : decode cX10_enough 151 = .ok (.iload_n 2, 1) := dk_28 (dk_at dksX10_enough_6 11 rfl rfl)
theorem dX10_enough_152 : decode cX10_enough 152 = .ok (.istore_n 2, 1) := dk_61 (dk_at dksX10_enough_6 12 rfl rfl)
theorem dX10_enough_153 : decode cX10_enough 153 = .ok (.iinc 4 (-1), 3) := dk_132 4 255 (dk_at dksX10_enough_6 13 rfl rfl)
theorem dX10_enough_156 : decode cX10_enough 156 = .ok (.goto (-99), 3) := dk_167 255 157 (dk_at dksX10_enough_6 16 rfl rfl)
theorem dX10_enough_159 : decode cX10_enough 159 = .ok (.iload_n 2, 1) := dk_28 (dk_at dksX10_enough_6 19 rfl rfl)
theorem dX10_enough_160 : decode cX10_enough 160 = .ok (.ireturn, 1) := dk_172 (dk_at dksX10_enough_6 20 rfl rfl)
abbrev cX10_mostOfOne : ByteArray := prog_32_method_80_code
def yX10_mostOfOne : MethodName := ⟨RX10, "mostOfOne", "(I)I"⟩
def dkwX10_mostOfOne_1 : List UInt8 := [182, 1, 75, 184, 0, 244, 61, 132, 3, 1, 167, 255, 228, 28, 172]
abbrev dktX10_mostOfOne_1 : List UInt8 := dkwX10_mostOfOne_1 ++ []
def dkwX10_mostOfOne_0 : List UInt8 := [3, 61, 3, 62, 29, 42, 180, 0, 23, 4, 46, 162, 0, 24, 28, 42, 42, 180, 0, 67, 29, 27]
abbrev dktX10_mostOfOne_0 : List UInt8 := dkwX10_mostOfOne_0 ++ dktX10_mostOfOne_1
theorem dksX10_mostOfOne_0 : cX10_mostOfOne.data.toList.drop 0 = dktX10_mostOfOne_0 := by decide +kernel
theorem dksX10_mostOfOne_1 : cX10_mostOfOne.data.toList.drop 22 = dktX10_mostOfOne_1 := dk_seg dksX10_mostOfOne_0 22 rfl rfl
theorem dX10_mostOfOne_0 : decode cX10_mostOfOne 0 = .ok (.iconst 0, 1) := dk_3 (dk_at dksX10_mostOfOne_0 0 rfl rfl)
theorem dX10_mostOfOne_1 : decode cX10_mostOfOne 1 = .ok (.istore_n 2, 1) := dk_61 (dk_at dksX10_mostOfOne_0 1 rfl rfl)
theorem dX10_mostOfOne_2 : decode cX10_mostOfOne 2 = .ok (.iconst 0, 1) := dk_3 (dk_at dksX10_mostOfOne_0 2 rfl rfl)
theorem dX10_mostOfOne_3 : decode cX10_mostOfOne 3 = .ok (.istore_n 3, 1) := dk_62 (dk_at dksX10_mostOfOne_0 3 rfl rfl)
theorem dX10_mostOfOne_4 : decode cX10_mostOfOne 4 = .ok (.iload_n 3, 1) := dk_29 (dk_at dksX10_mostOfOne_0 4 rfl rfl)
theorem dX10_mostOfOne_5 : decode cX10_mostOfOne 5 = .ok (.aload_n 0, 1) := dk_42 (dk_at dksX10_mostOfOne_0 5 rfl rfl)
theorem dX10_mostOfOne_6 : decode cX10_mostOfOne 6 = .ok (.getfield 23, 3) := dk_180 0 23 (dk_at dksX10_mostOfOne_0 6 rfl rfl)
theorem dX10_mostOfOne_9 : decode cX10_mostOfOne 9 = .ok (.iconst 1, 1) := dk_4 (dk_at dksX10_mostOfOne_0 9 rfl rfl)
theorem dX10_mostOfOne_10 : decode cX10_mostOfOne 10 = .ok (.iaload, 1) := dk_46 (dk_at dksX10_mostOfOne_0 10 rfl rfl)
theorem dX10_mostOfOne_11 : decode cX10_mostOfOne 11 = .ok (.if_icmp .ge 24, 3) := dk_162 0 24 (dk_at dksX10_mostOfOne_0 11 rfl rfl)
theorem dX10_mostOfOne_14 : decode cX10_mostOfOne 14 = .ok (.iload_n 2, 1) := dk_28 (dk_at dksX10_mostOfOne_0 14 rfl rfl)
theorem dX10_mostOfOne_15 : decode cX10_mostOfOne 15 = .ok (.aload_n 0, 1) := dk_42 (dk_at dksX10_mostOfOne_0 15 rfl rfl)
theorem dX10_mostOfOne_16 : decode cX10_mostOfOne 16 = .ok (.aload_n 0, 1) := dk_42 (dk_at dksX10_mostOfOne_0 16 rfl rfl)
theorem dX10_mostOfOne_17 : decode cX10_mostOfOne 17 = .ok (.getfield 67, 3) := dk_180 0 67 (dk_at dksX10_mostOfOne_0 17 rfl rfl)
theorem dX10_mostOfOne_20 : decode cX10_mostOfOne 20 = .ok (.iload_n 3, 1) := dk_29 (dk_at dksX10_mostOfOne_0 20 rfl rfl)
theorem dX10_mostOfOne_21 : decode cX10_mostOfOne 21 = .ok (.iload_n 1, 1) := dk_27 (dk_at dksX10_mostOfOne_0 21 rfl rfl)
theorem dX10_mostOfOne_22 : decode cX10_mostOfOne 22 = .ok (.invokevirtual 331, 3) := dk_182 1 75 (dk_at dksX10_mostOfOne_1 0 rfl rfl)
theorem dX10_mostOfOne_25 : decode cX10_mostOfOne 25 = .ok (.invokestatic 244, 3) := dk_184 0 244 (dk_at dksX10_mostOfOne_1 3 rfl rfl)
theorem dX10_mostOfOne_28 : decode cX10_mostOfOne 28 = .ok (.istore_n 2, 1) := dk_61 (dk_at dksX10_mostOfOne_1 6 rfl rfl)
theorem dX10_mostOfOne_29 : decode cX10_mostOfOne 29 = .ok (.iinc 3 1, 3) := dk_132 3 1 (dk_at dksX10_mostOfOne_1 7 rfl rfl)
theorem dX10_mostOfOne_32 : decode cX10_mostOfOne 32 = .ok (.goto (-28), 3) := dk_167 255 228 (dk_at dksX10_mostOfOne_1 10 rfl rfl)
theorem dX10_mostOfOne_35 : decode cX10_mostOfOne 35 = .ok (.iload_n 2, 1) := dk_28 (dk_at dksX10_mostOfOne_1 13 rfl rfl)
theorem dX10_mostOfOne_36 : decode cX10_mostOfOne 36 = .ok (.ireturn, 1) := dk_172 (dk_at dksX10_mostOfOne_1 14 rfl rfl)
abbrev cX10_lasts : ByteArray := prog_32_method_83_code
def yX10_lasts : MethodName := ⟨RX10, "lasts", "(II)I"⟩
def dkwX10_lasts_1 : List UInt8 := [28, 3, 182, 1, 91, 172]
abbrev dktX10_lasts_1 : List UInt8 := dkwX10_lasts_1 ++ []
def dkwX10_lasts_0 : List UInt8 := [42, 3, 181, 0, 98, 42, 42, 27, 28, 182, 1, 72, 4, 3, 182, 0, 178, 153, 0, 5, 3, 172, 42, 27]
abbrev dktX10_lasts_0 : List UInt8 := dkwX10_lasts_0 ++ dktX10_lasts_1
theorem dksX10_lasts_0 : cX10_lasts.data.toList.drop 0 = dktX10_lasts_0 := by decide +kernel
theorem dksX10_lasts_1 : cX10_lasts.data.toList.drop 24 = dktX10_lasts_1 := dk_seg dksX10_lasts_0 24 rfl rfl
theorem dX10_lasts_0 : decode cX10_lasts 0 = .ok (.aload_n 0, 1) := dk_42 (dk_at dksX10_lasts_0 0 rfl rfl)
theorem dX10_lasts_1 : decode cX10_lasts 1 = .ok (.iconst 0, 1) := dk_3 (dk_at dksX10_lasts_0 1 rfl rfl)
theorem dX10_lasts_2 : decode cX10_lasts 2 = .ok (.putfield 98, 3) := dk_181 0 98 (dk_at dksX10_lasts_0 2 rfl rfl)
theorem dX10_lasts_5 : decode cX10_lasts 5 = .ok (.aload_n 0, 1) := dk_42 (dk_at dksX10_lasts_0 5 rfl rfl)
theorem dX10_lasts_6 : decode cX10_lasts 6 = .ok (.aload_n 0, 1) := dk_42 (dk_at dksX10_lasts_0 6 rfl rfl)
theorem dX10_lasts_7 : decode cX10_lasts 7 = .ok (.iload_n 1, 1) := dk_27 (dk_at dksX10_lasts_0 7 rfl rfl)
theorem dX10_lasts_8 : decode cX10_lasts 8 = .ok (.iload_n 2, 1) := dk_28 (dk_at dksX10_lasts_0 8 rfl rfl)
theorem dX10_lasts_9 : decode cX10_lasts 9 = .ok (.invokevirtual 328, 3) := dk_182 1 72 (dk_at dksX10_lasts_0 9 rfl rfl)
theorem dX10_lasts_12 : decode cX10_lasts 12 = .ok (.iconst 1, 1) := dk_4 (dk_at dksX10_lasts_0 12 rfl rfl)
theorem dX10_lasts_13 : decode cX10_lasts 13 = .ok (.iconst 0, 1) := dk_3 (dk_at dksX10_lasts_0 13 rfl rfl)
theorem dX10_lasts_14 : decode cX10_lasts 14 = .ok (.invokevirtual 178, 3) := dk_182 0 178 (dk_at dksX10_lasts_0 14 rfl rfl)
theorem dX10_lasts_17 : decode cX10_lasts 17 = .ok (.ifCond .eq 5, 3) := dk_153 0 5 (dk_at dksX10_lasts_0 17 rfl rfl)
theorem dX10_lasts_20 : decode cX10_lasts 20 = .ok (.iconst 0, 1) := dk_3 (dk_at dksX10_lasts_0 20 rfl rfl)
theorem dX10_lasts_21 : decode cX10_lasts 21 = .ok (.ireturn, 1) := dk_172 (dk_at dksX10_lasts_0 21 rfl rfl)
theorem dX10_lasts_22 : decode cX10_lasts 22 = .ok (.aload_n 0, 1) := dk_42 (dk_at dksX10_lasts_0 22 rfl rfl)
theorem dX10_lasts_23 : decode cX10_lasts 23 = .ok (.iload_n 1, 1) := dk_27 (dk_at dksX10_lasts_0 23 rfl rfl)
theorem dX10_lasts_24 : decode cX10_lasts 24 = .ok (.iload_n 2, 1) := dk_28 (dk_at dksX10_lasts_1 0 rfl rfl)
theorem dX10_lasts_25 : decode cX10_lasts 25 = .ok (.iconst 0, 1) := dk_3 (dk_at dksX10_lasts_1 1 rfl rfl)
theorem dX10_lasts_26 : decode cX10_lasts 26 = .ok (.invokevirtual 347, 3) := dk_182 1 91 (dk_at dksX10_lasts_1 2 rfl rfl)
theorem dX10_lasts_29 : decode cX10_lasts 29 = .ok (.ireturn, 1) := dk_172 (dk_at dksX10_lasts_1 5 rfl rfl)
abbrev cX10_untilNone : ByteArray := prog_32_method_82_code
def yX10_untilNone : MethodName := ⟨RX10, "untilNone", "(IIZ)I"⟩
def dkwX10_untilNone_3 : List UInt8 := [104, 96, 54, 5, 132, 4, 1, 167, 255, 183, 29, 153, 0, 8, 21, 5, 167, 0, 5, 21, 4, 172]
abbrev dktX10_untilNone_3 : List UInt8 := dkwX10_untilNone_3 ++ []
def dkwX10_untilNone_2 : List UInt8 := [29, 153, 0, 8, 21, 5, 167, 0, 5, 21, 4, 172, 21, 5, 21, 6, 42, 180, 0, 31, 28, 50, 3, 46]
abbrev dktX10_untilNone_2 : List UInt8 := dkwX10_untilNone_2 ++ dktX10_untilNone_3
def dkwX10_untilNone_1 : List UInt8 := [28, 50, 4, 46, 42, 180, 0, 67, 3, 28, 96, 46, 21, 4, 182, 1, 27, 54, 6, 21, 6, 154, 0, 15]
abbrev dktX10_untilNone_1 : List UInt8 := dkwX10_untilNone_1 ++ dktX10_untilNone_2
def dkwX10_untilNone_0 : List UInt8 := [3, 54, 4, 3, 54, 5, 21, 4, 16, 99, 162, 0, 72, 42, 42, 180, 0, 67, 27, 28, 42, 180, 0, 31]
abbrev dktX10_untilNone_0 : List UInt8 := dkwX10_untilNone_0 ++ dktX10_untilNone_1
theorem dksX10_untilNone_0 : cX10_untilNone.data.toList.drop 0 = dktX10_untilNone_0 := by decide +kernel
theorem dksX10_untilNone_1 : cX10_untilNone.data.toList.drop 24 = dktX10_untilNone_1 := dk_seg dksX10_untilNone_0 24 rfl rfl
theorem dksX10_untilNone_2 : cX10_untilNone.data.toList.drop 48 = dktX10_untilNone_2 := dk_seg dksX10_untilNone_1 24 rfl rfl
theorem dksX10_untilNone_3 : cX10_untilNone.data.toList.drop 72 = dktX10_untilNone_3 := dk_seg dksX10_untilNone_2 24 rfl rfl
theorem dX10_untilNone_0 : decode cX10_untilNone 0 = .ok (.iconst 0, 1) := dk_3 (dk_at dksX10_untilNone_0 0 rfl rfl)
theorem dX10_untilNone_1 : decode cX10_untilNone 1 = .ok (.istore 4, 2) := dk_54 4 (dk_at dksX10_untilNone_0 1 rfl rfl)
theorem dX10_untilNone_3 : decode cX10_untilNone 3 = .ok (.iconst 0, 1) := dk_3 (dk_at dksX10_untilNone_0 3 rfl rfl)
theorem dX10_untilNone_4 : decode cX10_untilNone 4 = .ok (.istore 5, 2) := dk_54 5 (dk_at dksX10_untilNone_0 4 rfl rfl)
theorem dX10_untilNone_6 : decode cX10_untilNone 6 = .ok (.iload 4, 2) := dk_21 4 (dk_at dksX10_untilNone_0 6 rfl rfl)
theorem dX10_untilNone_8 : decode cX10_untilNone 8 = .ok (.bipush 99, 2) := dk_16 99 (dk_at dksX10_untilNone_0 8 rfl rfl)
theorem dX10_untilNone_10 : decode cX10_untilNone 10 = .ok (.if_icmp .ge 72, 3) := dk_162 0 72 (dk_at dksX10_untilNone_0 10 rfl rfl)
theorem dX10_untilNone_13 : decode cX10_untilNone 13 = .ok (.aload_n 0, 1) := dk_42 (dk_at dksX10_untilNone_0 13 rfl rfl)
theorem dX10_untilNone_14 : decode cX10_untilNone 14 = .ok (.aload_n 0, 1) := dk_42 (dk_at dksX10_untilNone_0 14 rfl rfl)
theorem dX10_untilNone_15 : decode cX10_untilNone 15 = .ok (.getfield 67, 3) := dk_180 0 67 (dk_at dksX10_untilNone_0 15 rfl rfl)
theorem dX10_untilNone_18 : decode cX10_untilNone 18 = .ok (.iload_n 1, 1) := dk_27 (dk_at dksX10_untilNone_0 18 rfl rfl)
theorem dX10_untilNone_19 : decode cX10_untilNone 19 = .ok (.iload_n 2, 1) := dk_28 (dk_at dksX10_untilNone_0 19 rfl rfl)
theorem dX10_untilNone_20 : decode cX10_untilNone 20 = .ok (.aload_n 0, 1) := dk_42 (dk_at dksX10_untilNone_0 20 rfl rfl)
theorem dX10_untilNone_21 : decode cX10_untilNone 21 = .ok (.getfield 31, 3) := dk_180 0 31 (dk_at dksX10_untilNone_0 21 rfl rfl)
theorem dX10_untilNone_24 : decode cX10_untilNone 24 = .ok (.iload_n 2, 1) := dk_28 (dk_at dksX10_untilNone_1 0 rfl rfl)
theorem dX10_untilNone_25 : decode cX10_untilNone 25 = .ok (.aaload, 1) := dk_50 (dk_at dksX10_untilNone_1 1 rfl rfl)
theorem dX10_untilNone_26 : decode cX10_untilNone 26 = .ok (.iconst 1, 1) := dk_4 (dk_at dksX10_untilNone_1 2 rfl rfl)
theorem dX10_untilNone_27 : decode cX10_untilNone 27 = .ok (.iaload, 1) := dk_46 (dk_at dksX10_untilNone_1 3 rfl rfl)
theorem dX10_untilNone_28 : decode cX10_untilNone 28 = .ok (.aload_n 0, 1) := dk_42 (dk_at dksX10_untilNone_1 4 rfl rfl)
theorem dX10_untilNone_29 : decode cX10_untilNone 29 = .ok (.getfield 67, 3) := dk_180 0 67 (dk_at dksX10_untilNone_1 5 rfl rfl)
theorem dX10_untilNone_32 : decode cX10_untilNone 32 = .ok (.iconst 0, 1) := dk_3 (dk_at dksX10_untilNone_1 8 rfl rfl)
theorem dX10_untilNone_33 : decode cX10_untilNone 33 = .ok (.iload_n 2, 1) := dk_28 (dk_at dksX10_untilNone_1 9 rfl rfl)
theorem dX10_untilNone_34 : decode cX10_untilNone 34 = .ok (.iadd, 1) := dk_96 (dk_at dksX10_untilNone_1 10 rfl rfl)
theorem dX10_untilNone_35 : decode cX10_untilNone 35 = .ok (.iaload, 1) := dk_46 (dk_at dksX10_untilNone_1 11 rfl rfl)
theorem dX10_untilNone_36 : decode cX10_untilNone 36 = .ok (.iload 4, 2) := dk_21 4 (dk_at dksX10_untilNone_1 12 rfl rfl)
theorem dX10_untilNone_38 : decode cX10_untilNone 38 = .ok (.invokevirtual 283, 3) := dk_182 1 27 (dk_at dksX10_untilNone_1 14 rfl rfl)
theorem dX10_untilNone_41 : decode cX10_untilNone 41 = .ok (.istore 6, 2) := dk_54 6 (dk_at dksX10_untilNone_1 17 rfl rfl)
theorem dX10_untilNone_43 : decode cX10_untilNone 43 = .ok (.iload 6, 2) := dk_21 6 (dk_at dksX10_untilNone_1 19 rfl rfl)
theorem dX10_untilNone_45 : decode cX10_untilNone 45 = .ok (.ifCond .ne 15, 3) := dk_154 0 15 (dk_at dksX10_untilNone_1 21 rfl rfl)
theorem dX10_untilNone_48 : decode cX10_untilNone 48 = .ok (.iload_n 3, 1) := dk_29 (dk_at dksX10_untilNone_2 0 rfl rfl)
theorem dX10_untilNone_49 : decode cX10_untilNone 49 = .ok (.ifCond .eq 8, 3) := dk_153 0 8 (dk_at dksX10_untilNone_2 1 rfl rfl)
theorem dX10_untilNone_52 : decode cX10_untilNone 52 = .ok (.iload 5, 2) := dk_21 5 (dk_at dksX10_untilNone_2 4 rfl rfl)
theorem dX10_untilNone_54 : decode cX10_untilNone 54 = .ok (.goto 5, 3) := dk_167 0 5 (dk_at dksX10_untilNone_2 6 rfl rfl)
theorem dX10_untilNone_57 : decode cX10_untilNone 57 = .ok (.iload 4, 2) := dk_21 4 (dk_at dksX10_untilNone_2 9 rfl rfl)
theorem dX10_untilNone_59 : decode cX10_untilNone 59 = .ok (.ireturn, 1) := dk_172 (dk_at dksX10_untilNone_2 11 rfl rfl)
theorem dX10_untilNone_60 : decode cX10_untilNone 60 = .ok (.iload 5, 2) := dk_21 5 (dk_at dksX10_untilNone_2 12 rfl rfl)
theorem dX10_untilNone_62 : decode cX10_untilNone 62 = .ok (.iload 6, 2) := dk_21 6 (dk_at dksX10_untilNone_2 14 rfl rfl)
theorem dX10_untilNone_64 : decode cX10_untilNone 64 = .ok (.aload_n 0, 1) := dk_42 (dk_at dksX10_untilNone_2 16 rfl rfl)
theorem dX10_untilNone_65 : decode cX10_untilNone 65 = .ok (.getfield 31, 3) := dk_180 0 31 (dk_at dksX10_untilNone_2 17 rfl rfl)
theorem dX10_untilNone_68 : decode cX10_untilNone 68 = .ok (.iload_n 2, 1) := dk_28 (dk_at dksX10_untilNone_2 20 rfl rfl)
theorem dX10_untilNone_69 : decode cX10_untilNone 69 = .ok (.aaload, 1) := dk_50 (dk_at dksX10_untilNone_2 21 rfl rfl)
theorem dX10_untilNone_70 : decode cX10_untilNone 70 = .ok (.iconst 0, 1) := dk_3 (dk_at dksX10_untilNone_2 22 rfl rfl)
theorem dX10_untilNone_71 : decode cX10_untilNone 71 = .ok (.iaload, 1) := dk_46 (dk_at dksX10_untilNone_2 23 rfl rfl)
theorem dX10_untilNone_72 : decode cX10_untilNone 72 = .ok (.imul, 1) := dk_104 (dk_at dksX10_untilNone_3 0 rfl rfl)
theorem dX10_untilNone_73 : decode cX10_untilNone 73 = .ok (.iadd, 1) := dk_96 (dk_at dksX10_untilNone_3 1 rfl rfl)
theorem dX10_untilNone_74 : decode cX10_untilNone 74 = .ok (.istore 5, 2) := dk_54 5 (dk_at dksX10_untilNone_3 2 rfl rfl)
theorem dX10_untilNone_76 : decode cX10_untilNone 76 = .ok (.iinc 4 1, 3) := dk_132 4 1 (dk_at dksX10_untilNone_3 4 rfl rfl)
theorem dX10_untilNone_79 : decode cX10_untilNone 79 = .ok (.goto (-73), 3) := dk_167 255 183 (dk_at dksX10_untilNone_3 7 rfl rfl)
theorem dX10_untilNone_82 : decode cX10_untilNone 82 = .ok (.iload_n 3, 1) := dk_29 (dk_at dksX10_untilNone_3 10 rfl rfl)
theorem dX10_untilNone_83 : decode cX10_untilNone 83 = .ok (.ifCond .eq 8, 3) := dk_153 0 8 (dk_at dksX10_untilNone_3 11 rfl rfl)
theorem dX10_untilNone_86 : decode cX10_untilNone 86 = .ok (.iload 5, 2) := dk_21 5 (dk_at dksX10_untilNone_3 14 rfl rfl)
theorem dX10_untilNone_88 : decode cX10_untilNone 88 = .ok (.goto 5, 3) := dk_167 0 5 (dk_at dksX10_untilNone_3 16 rfl rfl)
theorem dX10_untilNone_91 : decode cX10_untilNone 91 = .ok (.iload 4, 2) := dk_21 4 (dk_at dksX10_untilNone_3 19 rfl rfl)
theorem dX10_untilNone_93 : decode cX10_untilNone 93 = .ok (.ireturn, 1) := dk_172 (dk_at dksX10_untilNone_3 21 rfl rfl)
abbrev cX10_well : ByteArray := prog_32_method_84_code
def yX10_well : MethodName := ⟨RX10, "well", "(II)I"⟩
def dkwX10_well_1 : List UInt8 := [28, 4, 182, 1, 91, 172]
abbrev dktX10_well_1 : List UInt8 := dkwX10_well_1 ++ []
def dkwX10_well_0 : List UInt8 := [42, 3, 181, 0, 98, 42, 42, 27, 28, 182, 1, 72, 4, 3, 182, 0, 178, 153, 0, 5, 3, 172, 42, 27]
abbrev dktX10_well_0 : List UInt8 := dkwX10_well_0 ++ dktX10_well_1
theorem dksX10_well_0 : cX10_well.data.toList.drop 0 = dktX10_well_0 := by decide +kernel
theorem dksX10_well_1 : cX10_well.data.toList.drop 24 = dktX10_well_1 := dk_seg dksX10_well_0 24 rfl rfl
theorem dX10_well_0 : decode cX10_well 0 = .ok (.aload_n 0, 1) := dk_42 (dk_at dksX10_well_0 0 rfl rfl)
theorem dX10_well_1 : decode cX10_well 1 = .ok (.iconst 0, 1) := dk_3 (dk_at dksX10_well_0 1 rfl rfl)
theorem dX10_well_2 : decode cX10_well 2 = .ok (.putfield 98, 3) := dk_181 0 98 (dk_at dksX10_well_0 2 rfl rfl)
theorem dX10_well_5 : decode cX10_well 5 = .ok (.aload_n 0, 1) := dk_42 (dk_at dksX10_well_0 5 rfl rfl)
theorem dX10_well_6 : decode cX10_well 6 = .ok (.aload_n 0, 1) := dk_42 (dk_at dksX10_well_0 6 rfl rfl)
theorem dX10_well_7 : decode cX10_well 7 = .ok (.iload_n 1, 1) := dk_27 (dk_at dksX10_well_0 7 rfl rfl)
theorem dX10_well_8 : decode cX10_well 8 = .ok (.iload_n 2, 1) := dk_28 (dk_at dksX10_well_0 8 rfl rfl)
theorem dX10_well_9 : decode cX10_well 9 = .ok (.invokevirtual 328, 3) := dk_182 1 72 (dk_at dksX10_well_0 9 rfl rfl)
theorem dX10_well_12 : decode cX10_well 12 = .ok (.iconst 1, 1) := dk_4 (dk_at dksX10_well_0 12 rfl rfl)
theorem dX10_well_13 : decode cX10_well 13 = .ok (.iconst 0, 1) := dk_3 (dk_at dksX10_well_0 13 rfl rfl)
theorem dX10_well_14 : decode cX10_well 14 = .ok (.invokevirtual 178, 3) := dk_182 0 178 (dk_at dksX10_well_0 14 rfl rfl)
theorem dX10_well_17 : decode cX10_well 17 = .ok (.ifCond .eq 5, 3) := dk_153 0 5 (dk_at dksX10_well_0 17 rfl rfl)
theorem dX10_well_20 : decode cX10_well 20 = .ok (.iconst 0, 1) := dk_3 (dk_at dksX10_well_0 20 rfl rfl)
theorem dX10_well_21 : decode cX10_well 21 = .ok (.ireturn, 1) := dk_172 (dk_at dksX10_well_0 21 rfl rfl)
theorem dX10_well_22 : decode cX10_well 22 = .ok (.aload_n 0, 1) := dk_42 (dk_at dksX10_well_0 22 rfl rfl)
theorem dX10_well_23 : decode cX10_well 23 = .ok (.iload_n 1, 1) := dk_27 (dk_at dksX10_well_0 23 rfl rfl)
theorem dX10_well_24 : decode cX10_well 24 = .ok (.iload_n 2, 1) := dk_28 (dk_at dksX10_well_1 0 rfl rfl)
theorem dX10_well_25 : decode cX10_well 25 = .ok (.iconst 1, 1) := dk_4 (dk_at dksX10_well_1 1 rfl rfl)
theorem dX10_well_26 : decode cX10_well 26 = .ok (.invokevirtual 347, 3) := dk_182 1 91 (dk_at dksX10_well_1 2 rfl rfl)
theorem dX10_well_29 : decode cX10_well 29 = .ok (.ireturn, 1) := dk_172 (dk_at dksX10_well_1 5 rfl rfl)
abbrev cX10_fits : ByteArray := prog_32_method_86_code
def yX10_fits : MethodName := ⟨RX10, "fits", "(II)I"⟩
def dkwX10_fits_5 : List UInt8 := [21, 4, 172]
abbrev dktX10_fits_5 : List UInt8 := dkwX10_fits_5 ++ []
def dkwX10_fits_4 : List UInt8 := [167, 0, 5, 21, 4, 54, 4, 132, 3, 1, 132, 5, 1, 167, 255, 209, 28, 154, 0, 7, 29, 167, 0, 5]
abbrev dktX10_fits_4 : List UInt8 := dkwX10_fits_4 ++ dktX10_fits_5
def dkwX10_fits_3 : List UInt8 := [16, 10, 108, 21, 5, 16, 10, 112, 182, 1, 95, 154, 0, 6, 167, 0, 19, 29, 154, 0, 8, 21, 5]
abbrev dktX10_fits_3 : List UInt8 := dkwX10_fits_3 ++ dktX10_fits_4
def dkwX10_fits_2 : List UInt8 := [153, 0, 5, 3, 172, 3, 62, 2, 54, 4, 3, 54, 5, 21, 5, 16, 100, 162, 0, 46, 42, 27, 21, 5]
abbrev dktX10_fits_2 : List UInt8 := dkwX10_fits_2 ++ dktX10_fits_3
def dkwX10_fits_1 : List UInt8 := [154, 0, 26, 42, 28, 3, 4, 184, 0, 132, 154, 0, 7, 4, 167, 0, 4, 3, 5, 4, 182, 0, 178]
abbrev dktX10_fits_1 : List UInt8 := dkwX10_fits_1 ++ dktX10_fits_2
def dkwX10_fits_0 : List UInt8 := [42, 3, 181, 0, 98, 42, 42, 27, 182, 1, 69, 154, 0, 7, 4, 167, 0, 4, 3, 4, 3, 182, 0, 178]
abbrev dktX10_fits_0 : List UInt8 := dkwX10_fits_0 ++ dktX10_fits_1
theorem dksX10_fits_0 : cX10_fits.data.toList.drop 0 = dktX10_fits_0 := by decide +kernel
theorem dksX10_fits_1 : cX10_fits.data.toList.drop 24 = dktX10_fits_1 := dk_seg dksX10_fits_0 24 rfl rfl
theorem dksX10_fits_2 : cX10_fits.data.toList.drop 47 = dktX10_fits_2 := dk_seg dksX10_fits_1 23 rfl rfl
theorem dksX10_fits_3 : cX10_fits.data.toList.drop 71 = dktX10_fits_3 := dk_seg dksX10_fits_2 24 rfl rfl
theorem dksX10_fits_4 : cX10_fits.data.toList.drop 94 = dktX10_fits_4 := dk_seg dksX10_fits_3 23 rfl rfl
theorem dksX10_fits_5 : cX10_fits.data.toList.drop 118 = dktX10_fits_5 := dk_seg dksX10_fits_4 24 rfl rfl
theorem dX10_fits_0 : decode cX10_fits 0 = .ok (.aload_n 0, 1) := dk_42 (dk_at dksX10_fits_0 0 rfl rfl)
theorem dX10_fits_1 : decode cX10_fits 1 = .ok (.iconst 0, 1) := dk_3 (dk_at dksX10_fits_0 1 rfl rfl)
theorem dX10_fits_2 : decode cX10_fits 2 = .ok (.putfield 98, 3) := dk_181 0 98 (dk_at dksX10_fits_0 2 rfl rfl)
theorem dX10_fits_5 : decode cX10_fits 5 = .ok (.aload_n 0, 1) := dk_42 (dk_at dksX10_fits_0 5 rfl rfl)
theorem dX10_fits_6 : decode cX10_fits 6 = .ok (.aload_n 0, 1) := dk_42 (dk_at dksX10_fits_0 6 rfl rfl)
theorem dX10_fits_7 : decode cX10_fits 7 = .ok (.iload_n 1, 1) := dk_27 (dk_at dksX10_fits_0 7 rfl rfl)
theorem dX10_fits_8 : decode cX10_fits 8 = .ok (.invokevirtual 325, 3) := dk_182 1 69 (dk_at dksX10_fits_0 8 rfl rfl)
theorem dX10_fits_11 : decode cX10_fits 11 = .ok (.ifCond .ne 7, 3) := dk_154 0 7 (dk_at dksX10_fits_0 11 rfl rfl)
theorem dX10_fits_14 : decode cX10_fits 14 = .ok (.iconst 1, 1) := dk_4 (dk_at dksX10_fits_0 14 rfl rfl)
theorem dX10_fits_15 : decode cX10_fits 15 = .ok (.goto 4, 3) := dk_167 0 4 (dk_at dksX10_fits_0 15 rfl rfl)
theorem dX10_fits_18 : decode cX10_fits 18 = .ok (.iconst 0, 1) := dk_3 (dk_at dksX10_fits_0 18 rfl rfl)
theorem dX10_fits_19 : decode cX10_fits 19 = .ok (.iconst 1, 1) := dk_4 (dk_at dksX10_fits_0 19 rfl rfl)
theorem dX10_fits_20 : decode cX10_fits 20 = .ok (.iconst 0, 1) := dk_3 (dk_at dksX10_fits_0 20 rfl rfl)
theorem dX10_fits_21 : decode cX10_fits 21 = .ok (.invokevirtual 178, 3) := dk_182 0 178 (dk_at dksX10_fits_0 21 rfl rfl)
theorem dX10_fits_24 : decode cX10_fits 24 = .ok (.ifCond .ne 26, 3) := dk_154 0 26 (dk_at dksX10_fits_1 0 rfl rfl)
theorem dX10_fits_27 : decode cX10_fits 27 = .ok (.aload_n 0, 1) := dk_42 (dk_at dksX10_fits_1 3 rfl rfl)
theorem dX10_fits_28 : decode cX10_fits 28 = .ok (.iload_n 2, 1) := dk_28 (dk_at dksX10_fits_1 4 rfl rfl)
theorem dX10_fits_29 : decode cX10_fits 29 = .ok (.iconst 0, 1) := dk_3 (dk_at dksX10_fits_1 5 rfl rfl)
theorem dX10_fits_30 : decode cX10_fits 30 = .ok (.iconst 1, 1) := dk_4 (dk_at dksX10_fits_1 6 rfl rfl)
theorem dX10_fits_31 : decode cX10_fits 31 = .ok (.invokestatic 132, 3) := dk_184 0 132 (dk_at dksX10_fits_1 7 rfl rfl)
theorem dX10_fits_34 : decode cX10_fits 34 = .ok (.ifCond .ne 7, 3) := dk_154 0 7 (dk_at dksX10_fits_1 10 rfl rfl)
theorem dX10_fits_37 : decode cX10_fits 37 = .ok (.iconst 1, 1) := dk_4 (dk_at dksX10_fits_1 13 rfl rfl)
theorem dX10_fits_38 : decode cX10_fits 38 = .ok (.goto 4, 3) := dk_167 0 4 (dk_at dksX10_fits_1 14 rfl rfl)
theorem dX10_fits_41 : decode cX10_fits 41 = .ok (.iconst 0, 1) := dk_3 (dk_at dksX10_fits_1 17 rfl rfl)
theorem dX10_fits_42 : decode cX10_fits 42 = .ok (.iconst 2, 1) := dk_5 (dk_at dksX10_fits_1 18 rfl rfl)
theorem dX10_fits_43 : decode cX10_fits 43 = .ok (.iconst 1, 1) := dk_4 (dk_at dksX10_fits_1 19 rfl rfl)
theorem dX10_fits_44 : decode cX10_fits 44 = .ok (.invokevirtual 178, 3) := dk_182 0 178 (dk_at dksX10_fits_1 20 rfl rfl)
theorem dX10_fits_47 : decode cX10_fits 47 = .ok (.ifCond .eq 5, 3) := dk_153 0 5 (dk_at dksX10_fits_2 0 rfl rfl)
theorem dX10_fits_50 : decode cX10_fits 50 = .ok (.iconst 0, 1) := dk_3 (dk_at dksX10_fits_2 3 rfl rfl)
theorem dX10_fits_51 : decode cX10_fits 51 = .ok (.ireturn, 1) := dk_172 (dk_at dksX10_fits_2 4 rfl rfl)
theorem dX10_fits_52 : decode cX10_fits 52 = .ok (.iconst 0, 1) := dk_3 (dk_at dksX10_fits_2 5 rfl rfl)
theorem dX10_fits_53 : decode cX10_fits 53 = .ok (.istore_n 3, 1) := dk_62 (dk_at dksX10_fits_2 6 rfl rfl)
theorem dX10_fits_54 : decode cX10_fits 54 = .ok (.iconst (-1), 1) := dk_2 (dk_at dksX10_fits_2 7 rfl rfl)
theorem dX10_fits_55 : decode cX10_fits 55 = .ok (.istore 4, 2) := dk_54 4 (dk_at dksX10_fits_2 8 rfl rfl)
theorem dX10_fits_57 : decode cX10_fits 57 = .ok (.iconst 0, 1) := dk_3 (dk_at dksX10_fits_2 10 rfl rfl)
theorem dX10_fits_58 : decode cX10_fits 58 = .ok (.istore 5, 2) := dk_54 5 (dk_at dksX10_fits_2 11 rfl rfl)
theorem dX10_fits_60 : decode cX10_fits 60 = .ok (.iload 5, 2) := dk_21 5 (dk_at dksX10_fits_2 13 rfl rfl)
theorem dX10_fits_62 : decode cX10_fits 62 = .ok (.bipush 100, 2) := dk_16 100 (dk_at dksX10_fits_2 15 rfl rfl)
theorem dX10_fits_64 : decode cX10_fits 64 = .ok (.if_icmp .ge 46, 3) := dk_162 0 46 (dk_at dksX10_fits_2 17 rfl rfl)
theorem dX10_fits_67 : decode cX10_fits 67 = .ok (.aload_n 0, 1) := dk_42 (dk_at dksX10_fits_2 20 rfl rfl)
theorem dX10_fits_68 : decode cX10_fits 68 = .ok (.iload_n 1, 1) := dk_27 (dk_at dksX10_fits_2 21 rfl rfl)
theorem dX10_fits_69 : decode cX10_fits 69 = .ok (.iload 5, 2) := dk_21 5 (dk_at dksX10_fits_2 22 rfl rfl)
theorem dX10_fits_71 : decode cX10_fits 71 = .ok (.bipush 10, 2) := dk_16 10 (dk_at dksX10_fits_3 0 rfl rfl)
theorem dX10_fits_73 : decode cX10_fits 73 = .ok (.idiv, 1) := dk_108 (dk_at dksX10_fits_3 2 rfl rfl)
theorem dX10_fits_74 : decode cX10_fits 74 = .ok (.iload 5, 2) := dk_21 5 (dk_at dksX10_fits_3 3 rfl rfl)
theorem dX10_fits_76 : decode cX10_fits 76 = .ok (.bipush 10, 2) := dk_16 10 (dk_at dksX10_fits_3 5 rfl rfl)
theorem dX10_fits_78 : decode cX10_fits 78 = .ok (.irem, 1) := dk_112 (dk_at dksX10_fits_3 7 rfl rfl)
theorem dX10_fits_79 : decode cX10_fits 79 = .ok (.invokevirtual 351, 3) := dk_182 1 95 (dk_at dksX10_fits_3 8 rfl rfl)
theorem dX10_fits_82 : decode cX10_fits 82 = .ok (.ifCond .ne 6, 3) := dk_154 0 6 (dk_at dksX10_fits_3 11 rfl rfl)
theorem dX10_fits_85 : decode cX10_fits 85 = .ok (.goto 19, 3) := dk_167 0 19 (dk_at dksX10_fits_3 14 rfl rfl)
theorem dX10_fits_88 : decode cX10_fits 88 = .ok (.iload_n 3, 1) := dk_29 (dk_at dksX10_fits_3 17 rfl rfl)
theorem dX10_fits_89 : decode cX10_fits 89 = .ok (.ifCond .ne 8, 3) := dk_154 0 8 (dk_at dksX10_fits_3 18 rfl rfl)
theorem dX10_fits_92 : decode cX10_fits 92 = .ok (.iload 5, 2) := dk_21 5 (dk_at dksX10_fits_3 21 rfl rfl)
theorem dX10_fits_94 : decode cX10_fits 94 = .ok (.goto 5, 3) := dk_167 0 5 (dk_at dksX10_fits_4 0 rfl rfl)
theorem dX10_fits_97 : decode cX10_fits 97 = .ok (.iload 4, 2) := dk_21 4 (dk_at dksX10_fits_4 3 rfl rfl)
theorem dX10_fits_99 : decode cX10_fits 99 = .ok (.istore 4, 2) := dk_54 4 (dk_at dksX10_fits_4 5 rfl rfl)
theorem dX10_fits_101 : decode cX10_fits 101 = .ok (.iinc 3 1, 3) := dk_132 3 1 (dk_at dksX10_fits_4 7 rfl rfl)
theorem dX10_fits_104 : decode cX10_fits 104 = .ok (.iinc 5 1, 3) := dk_132 5 1 (dk_at dksX10_fits_4 10 rfl rfl)
theorem dX10_fits_107 : decode cX10_fits 107 = .ok (.goto (-47), 3) := dk_167 255 209 (dk_at dksX10_fits_4 13 rfl rfl)
theorem dX10_fits_110 : decode cX10_fits 110 = .ok (.iload_n 2, 1) := dk_28 (dk_at dksX10_fits_4 16 rfl rfl)
theorem dX10_fits_111 : decode cX10_fits 111 = .ok (.ifCond .ne 7, 3) := dk_154 0 7 (dk_at dksX10_fits_4 17 rfl rfl)
theorem dX10_fits_114 : decode cX10_fits 114 = .ok (.iload_n 3, 1) := dk_29 (dk_at dksX10_fits_4 20 rfl rfl)
theorem dX10_fits_115 : decode cX10_fits 115 = .ok (.goto 5, 3) := dk_167 0 5 (dk_at dksX10_fits_4 21 rfl rfl)
theorem dX10_fits_118 : decode cX10_fits 118 = .ok (.iload 4, 2) := dk_21 4 (dk_at dksX10_fits_5 0 rfl rfl)
theorem dX10_fits_120 : decode cX10_fits 120 = .ok (.ireturn, 1) := dk_172 (dk_at dksX10_fits_5 2 rfl rfl)
abbrev cX10_isTaste : ByteArray := prog_32_method_85_code
def yX10_isTaste : MethodName := ⟨RX10, "isTaste", "(III)Z"⟩
def dkwX10_isTaste_2 : List UInt8 := [132, 4, 1, 167, 255, 209, 4, 172]
abbrev dktX10_isTaste_2 : List UInt8 := dkwX10_isTaste_2 ++ []
def dkwX10_isTaste_1 : List UInt8 := [3, 46, 27, 28, 29, 3, 182, 1, 27, 42, 180, 0, 52, 21, 4, 50, 4, 46, 159, 0, 5, 3, 172]
abbrev dktX10_isTaste_1 : List UInt8 := dkwX10_isTaste_1 ++ dktX10_isTaste_2
def dkwX10_isTaste_0 : List UInt8 := [3, 54, 4, 21, 4, 42, 180, 0, 198, 162, 0, 44, 42, 42, 180, 0, 67, 42, 180, 0, 52, 21, 4, 50]
abbrev dktX10_isTaste_0 : List UInt8 := dkwX10_isTaste_0 ++ dktX10_isTaste_1
theorem dksX10_isTaste_0 : cX10_isTaste.data.toList.drop 0 = dktX10_isTaste_0 := by decide +kernel
theorem dksX10_isTaste_1 : cX10_isTaste.data.toList.drop 24 = dktX10_isTaste_1 := dk_seg dksX10_isTaste_0 24 rfl rfl
theorem dksX10_isTaste_2 : cX10_isTaste.data.toList.drop 47 = dktX10_isTaste_2 := dk_seg dksX10_isTaste_1 23 rfl rfl
theorem dX10_isTaste_0 : decode cX10_isTaste 0 = .ok (.iconst 0, 1) := dk_3 (dk_at dksX10_isTaste_0 0 rfl rfl)
theorem dX10_isTaste_1 : decode cX10_isTaste 1 = .ok (.istore 4, 2) := dk_54 4 (dk_at dksX10_isTaste_0 1 rfl rfl)
theorem dX10_isTaste_3 : decode cX10_isTaste 3 = .ok (.iload 4, 2) := dk_21 4 (dk_at dksX10_isTaste_0 3 rfl rfl)
theorem dX10_isTaste_5 : decode cX10_isTaste 5 = .ok (.aload_n 0, 1) := dk_42 (dk_at dksX10_isTaste_0 5 rfl rfl)
theorem dX10_isTaste_6 : decode cX10_isTaste 6 = .ok (.getfield 198, 3) := dk_180 0 198 (dk_at dksX10_isTaste_0 6 rfl rfl)
theorem dX10_isTaste_9 : decode cX10_isTaste 9 = .ok (.if_icmp .ge 44, 3) := dk_162 0 44 (dk_at dksX10_isTaste_0 9 rfl rfl)
theorem dX10_isTaste_12 : decode cX10_isTaste 12 = .ok (.aload_n 0, 1) := dk_42 (dk_at dksX10_isTaste_0 12 rfl rfl)
theorem dX10_isTaste_13 : decode cX10_isTaste 13 = .ok (.aload_n 0, 1) := dk_42 (dk_at dksX10_isTaste_0 13 rfl rfl)
theorem dX10_isTaste_14 : decode cX10_isTaste 14 = .ok (.getfield 67, 3) := dk_180 0 67 (dk_at dksX10_isTaste_0 14 rfl rfl)
theorem dX10_isTaste_17 : decode cX10_isTaste 17 = .ok (.aload_n 0, 1) := dk_42 (dk_at dksX10_isTaste_0 17 rfl rfl)
theorem dX10_isTaste_18 : decode cX10_isTaste 18 = .ok (.getfield 52, 3) := dk_180 0 52 (dk_at dksX10_isTaste_0 18 rfl rfl)
theorem dX10_isTaste_21 : decode cX10_isTaste 21 = .ok (.iload 4, 2) := dk_21 4 (dk_at dksX10_isTaste_0 21 rfl rfl)
theorem dX10_isTaste_23 : decode cX10_isTaste 23 = .ok (.aaload, 1) := dk_50 (dk_at dksX10_isTaste_0 23 rfl rfl)
theorem dX10_isTaste_24 : decode cX10_isTaste 24 = .ok (.iconst 0, 1) := dk_3 (dk_at dksX10_isTaste_1 0 rfl rfl)
theorem dX10_isTaste_25 : decode cX10_isTaste 25 = .ok (.iaload, 1) := dk_46 (dk_at dksX10_isTaste_1 1 rfl rfl)
theorem dX10_isTaste_26 : decode cX10_isTaste 26 = .ok (.iload_n 1, 1) := dk_27 (dk_at dksX10_isTaste_1 2 rfl rfl)
theorem dX10_isTaste_27 : decode cX10_isTaste 27 = .ok (.iload_n 2, 1) := dk_28 (dk_at dksX10_isTaste_1 3 rfl rfl)
theorem dX10_isTaste_28 : decode cX10_isTaste 28 = .ok (.iload_n 3, 1) := dk_29 (dk_at dksX10_isTaste_1 4 rfl rfl)
theorem dX10_isTaste_29 : decode cX10_isTaste 29 = .ok (.iconst 0, 1) := dk_3 (dk_at dksX10_isTaste_1 5 rfl rfl)
theorem dX10_isTaste_30 : decode cX10_isTaste 30 = .ok (.invokevirtual 283, 3) := dk_182 1 27 (dk_at dksX10_isTaste_1 6 rfl rfl)
theorem dX10_isTaste_33 : decode cX10_isTaste 33 = .ok (.aload_n 0, 1) := dk_42 (dk_at dksX10_isTaste_1 9 rfl rfl)
theorem dX10_isTaste_34 : decode cX10_isTaste 34 = .ok (.getfield 52, 3) := dk_180 0 52 (dk_at dksX10_isTaste_1 10 rfl rfl)
theorem dX10_isTaste_37 : decode cX10_isTaste 37 = .ok (.iload 4, 2) := dk_21 4 (dk_at dksX10_isTaste_1 13 rfl rfl)
theorem dX10_isTaste_39 : decode cX10_isTaste 39 = .ok (.aaload, 1) := dk_50 (dk_at dksX10_isTaste_1 15 rfl rfl)
theorem dX10_isTaste_40 : decode cX10_isTaste 40 = .ok (.iconst 1, 1) := dk_4 (dk_at dksX10_isTaste_1 16 rfl rfl)
theorem dX10_isTaste_41 : decode cX10_isTaste 41 = .ok (.iaload, 1) := dk_46 (dk_at dksX10_isTaste_1 17 rfl rfl)
theorem dX10_isTaste_42 : decode cX10_isTaste 42 = .ok (.if_icmp .eq 5, 3) := dk_159 0 5 (dk_at dksX10_isTaste_1 18 rfl rfl)
theorem dX10_isTaste_45 : decode cX10_isTaste 45 = .ok (.iconst 0, 1) := dk_3 (dk_at dksX10_isTaste_1 21 rfl rfl)
theorem dX10_isTaste_46 : decode cX10_isTaste 46 = .ok (.ireturn, 1) := dk_172 (dk_at dksX10_isTaste_1 22 rfl rfl)
theorem dX10_isTaste_47 : decode cX10_isTaste 47 = .ok (.iinc 4 1, 3) := dk_132 4 1 (dk_at dksX10_isTaste_2 0 rfl rfl)
theorem dX10_isTaste_50 : decode cX10_isTaste 50 = .ok (.goto (-47), 3) := dk_167 255 209 (dk_at dksX10_isTaste_2 3 rfl rfl)
theorem dX10_isTaste_53 : decode cX10_isTaste 53 = .ok (.iconst 1, 1) := dk_4 (dk_at dksX10_isTaste_2 6 rfl rfl)
theorem dX10_isTaste_54 : decode cX10_isTaste 54 = .ok (.ireturn, 1) := dk_172 (dk_at dksX10_isTaste_2 7 rfl rfl)
abbrev cX10_look : ByteArray := prog_32_method_89_code
def yX10_look : MethodName := ⟨RX10, "look", "(II)I"⟩
def dkwX10_look_5 : List UInt8 := [167, 255, 199, 28, 154, 0, 7, 29, 167, 0, 5, 21, 4, 172]
abbrev dktX10_look_5 : List UInt8 := dkwX10_look_5 ++ []
def dkwX10_look_4 : List UInt8 := [159, 0, 13, 21, 6, 21, 4, 161, 0, 6, 167, 0, 10, 21, 5, 62, 21, 6, 54, 4, 132, 5, 1]
abbrev dktX10_look_4 : List UInt8 := dkwX10_look_4 ++ dktX10_look_5
def dkwX10_look_3 : List UInt8 := [42, 21, 5, 182, 1, 98, 153, 0, 6, 167, 0, 34, 42, 27, 21, 5, 182, 1, 101, 54, 6, 29, 2]
abbrev dktX10_look_3 : List UInt8 := dkwX10_look_3 ++ dktX10_look_4
def dkwX10_look_2 : List UInt8 := [153, 0, 5, 3, 172, 2, 62, 2, 54, 4, 3, 54, 5, 21, 5, 42, 180, 0, 23, 4, 46, 162, 0, 52]
abbrev dktX10_look_2 : List UInt8 := dkwX10_look_2 ++ dktX10_look_3
def dkwX10_look_1 : List UInt8 := [154, 0, 26, 42, 28, 3, 4, 184, 0, 132, 154, 0, 7, 4, 167, 0, 4, 3, 5, 4, 182, 0, 178]
abbrev dktX10_look_1 : List UInt8 := dkwX10_look_1 ++ dktX10_look_2
def dkwX10_look_0 : List UInt8 := [42, 3, 181, 0, 98, 42, 42, 27, 182, 1, 69, 154, 0, 7, 4, 167, 0, 4, 3, 4, 3, 182, 0, 178]
abbrev dktX10_look_0 : List UInt8 := dkwX10_look_0 ++ dktX10_look_1
theorem dksX10_look_0 : cX10_look.data.toList.drop 0 = dktX10_look_0 := by decide +kernel
theorem dksX10_look_1 : cX10_look.data.toList.drop 24 = dktX10_look_1 := dk_seg dksX10_look_0 24 rfl rfl
theorem dksX10_look_2 : cX10_look.data.toList.drop 47 = dktX10_look_2 := dk_seg dksX10_look_1 23 rfl rfl
theorem dksX10_look_3 : cX10_look.data.toList.drop 71 = dktX10_look_3 := dk_seg dksX10_look_2 24 rfl rfl
theorem dksX10_look_4 : cX10_look.data.toList.drop 94 = dktX10_look_4 := dk_seg dksX10_look_3 23 rfl rfl
theorem dksX10_look_5 : cX10_look.data.toList.drop 117 = dktX10_look_5 := dk_seg dksX10_look_4 23 rfl rfl
theorem dX10_look_0 : decode cX10_look 0 = .ok (.aload_n 0, 1) := dk_42 (dk_at dksX10_look_0 0 rfl rfl)
theorem dX10_look_1 : decode cX10_look 1 = .ok (.iconst 0, 1) := dk_3 (dk_at dksX10_look_0 1 rfl rfl)
theorem dX10_look_2 : decode cX10_look 2 = .ok (.putfield 98, 3) := dk_181 0 98 (dk_at dksX10_look_0 2 rfl rfl)
theorem dX10_look_5 : decode cX10_look 5 = .ok (.aload_n 0, 1) := dk_42 (dk_at dksX10_look_0 5 rfl rfl)
theorem dX10_look_6 : decode cX10_look 6 = .ok (.aload_n 0, 1) := dk_42 (dk_at dksX10_look_0 6 rfl rfl)
theorem dX10_look_7 : decode cX10_look 7 = .ok (.iload_n 1, 1) := dk_27 (dk_at dksX10_look_0 7 rfl rfl)
theorem dX10_look_8 : decode cX10_look 8 = .ok (.invokevirtual 325, 3) := dk_182 1 69 (dk_at dksX10_look_0 8 rfl rfl)
theorem dX10_look_11 : decode cX10_look 11 = .ok (.ifCond .ne 7, 3) := dk_154 0 7 (dk_at dksX10_look_0 11 rfl rfl)
theorem dX10_look_14 : decode cX10_look 14 = .ok (.iconst 1, 1) := dk_4 (dk_at dksX10_look_0 14 rfl rfl)
theorem dX10_look_15 : decode cX10_look 15 = .ok (.goto 4, 3) := dk_167 0 4 (dk_at dksX10_look_0 15 rfl rfl)
theorem dX10_look_18 : decode cX10_look 18 = .ok (.iconst 0, 1) := dk_3 (dk_at dksX10_look_0 18 rfl rfl)
theorem dX10_look_19 : decode cX10_look 19 = .ok (.iconst 1, 1) := dk_4 (dk_at dksX10_look_0 19 rfl rfl)
theorem dX10_look_20 : decode cX10_look 20 = .ok (.iconst 0, 1) := dk_3 (dk_at dksX10_look_0 20 rfl rfl)
theorem dX10_look_21 : decode cX10_look 21 = .ok (.invokevirtual 178, 3) := dk_182 0 178 (dk_at dksX10_look_0 21 rfl rfl)
theorem dX10_look_24 : decode cX10_look 24 = .ok (.ifCond .ne 26, 3) := dk_154 0 26 (dk_at dksX10_look_1 0 rfl rfl)
theorem dX10_look_27 : decode cX10_look 27 = .ok (.aload_n 0, 1) := dk_42 (dk_at dksX10_look_1 3 rfl rfl)
theorem dX10_look_28 : decode cX10_look 28 = .ok (.iload_n 2, 1) := dk_28 (dk_at dksX10_look_1 4 rfl rfl)
theorem dX10_look_29 : decode cX10_look 29 = .ok (.iconst 0, 1) := dk_3 (dk_at dksX10_look_1 5 rfl rfl)
theorem dX10_look_30 : decode cX10_look 30 = .ok (.iconst 1, 1) := dk_4 (dk_at dksX10_look_1 6 rfl rfl)
theorem dX10_look_31 : decode cX10_look 31 = .ok (.invokestatic 132, 3) := dk_184 0 132 (dk_at dksX10_look_1 7 rfl rfl)
theorem dX10_look_34 : decode cX10_look 34 = .ok (.ifCond .ne 7, 3) := dk_154 0 7 (dk_at dksX10_look_1 10 rfl rfl)
theorem dX10_look_37 : decode cX10_look 37 = .ok (.iconst 1, 1) := dk_4 (dk_at dksX10_look_1 13 rfl rfl)
theorem dX10_look_38 : decode cX10_look 38 = .ok (.goto 4, 3) := dk_167 0 4 (dk_at dksX10_look_1 14 rfl rfl)
theorem dX10_look_41 : decode cX10_look 41 = .ok (.iconst 0, 1) := dk_3 (dk_at dksX10_look_1 17 rfl rfl)
theorem dX10_look_42 : decode cX10_look 42 = .ok (.iconst 2, 1) := dk_5 (dk_at dksX10_look_1 18 rfl rfl)
theorem dX10_look_43 : decode cX10_look 43 = .ok (.iconst 1, 1) := dk_4 (dk_at dksX10_look_1 19 rfl rfl)
theorem dX10_look_44 : decode cX10_look 44 = .ok (.invokevirtual 178, 3) := dk_182 0 178 (dk_at dksX10_look_1 20 rfl rfl)
theorem dX10_look_47 : decode cX10_look 47 = .ok (.ifCond .eq 5, 3) := dk_153 0 5 (dk_at dksX10_look_2 0 rfl rfl)
theorem dX10_look_50 : decode cX10_look 50 = .ok (.iconst 0, 1) := dk_3 (dk_at dksX10_look_2 3 rfl rfl)
theorem dX10_look_51 : decode cX10_look 51 = .ok (.ireturn, 1) := dk_172 (dk_at dksX10_look_2 4 rfl rfl)
theorem dX10_look_52 : decode cX10_look 52 = .ok (.iconst (-1), 1) := dk_2 (dk_at dksX10_look_2 5 rfl rfl)
theorem dX10_look_53 : decode cX10_look 53 = .ok (.istore_n 3, 1) := dk_62 (dk_at dksX10_look_2 6 rfl rfl)
theorem dX10_look_54 : decode cX10_look 54 = .ok (.iconst (-1), 1) := dk_2 (dk_at dksX10_look_2 7 rfl rfl)
theorem dX10_look_55 : decode cX10_look 55 = .ok (.istore 4, 2) := dk_54 4 (dk_at dksX10_look_2 8 rfl rfl)
theorem dX10_look_57 : decode cX10_look 57 = .ok (.iconst 0, 1) := dk_3 (dk_at dksX10_look_2 10 rfl rfl)
theorem dX10_look_58 : decode cX10_look 58 = .ok (.istore 5, 2) := dk_54 5 (dk_at dksX10_look_2 11 rfl rfl)
theorem dX10_look_60 : decode cX10_look 60 = .ok (.iload 5, 2) := dk_21 5 (dk_at dksX10_look_2 13 rfl rfl)
theorem dX10_look_62 : decode cX10_look 62 = .ok (.aload_n 0, 1) := dk_42 (dk_at dksX10_look_2 15 rfl rfl)
theorem dX10_look_63 : decode cX10_look 63 = .ok (.getfield 23, 3) := dk_180 0 23 (dk_at dksX10_look_2 16 rfl rfl)
theorem dX10_look_66 : decode cX10_look 66 = .ok (.iconst 1, 1) := dk_4 (dk_at dksX10_look_2 19 rfl rfl)
theorem dX10_look_67 : decode cX10_look 67 = .ok (.iaload, 1) := dk_46 (dk_at dksX10_look_2 20 rfl rfl)
theorem dX10_look_68 : decode cX10_look 68 = .ok (.if_icmp .ge 52, 3) := dk_162 0 52 (dk_at dksX10_look_2 21 rfl rfl)
theorem dX10_look_71 : decode cX10_look 71 = .ok (.aload_n 0, 1) := dk_42 (dk_at dksX10_look_3 0 rfl rfl)
theorem dX10_look_72 : decode cX10_look 72 = .ok (.iload 5, 2) := dk_21 5 (dk_at dksX10_look_3 1 rfl rfl)
theorem dX10_look_74 : decode cX10_look 74 = .ok (.invokevirtual 354, 3) := dk_182 1 98 (dk_at dksX10_look_3 3 rfl rfl)
theorem dX10_look_77 : decode cX10_look 77 = .ok (.ifCond .eq 6, 3) := dk_153 0 6 (dk_at dksX10_look_3 6 rfl rfl)
theorem dX10_look_80 : decode cX10_look 80 = .ok (.goto 34, 3) := dk_167 0 34 (dk_at dksX10_look_3 9 rfl rfl)
theorem dX10_look_83 : decode cX10_look 83 = .ok (.aload_n 0, 1) := dk_42 (dk_at dksX10_look_3 12 rfl rfl)
theorem dX10_look_84 : decode cX10_look 84 = .ok (.iload_n 1, 1) := dk_27 (dk_at dksX10_look_3 13 rfl rfl)
theorem dX10_look_85 : decode cX10_look 85 = .ok (.iload 5, 2) := dk_21 5 (dk_at dksX10_look_3 14 rfl rfl)
theorem dX10_look_87 : decode cX10_look 87 = .ok (.invokevirtual 357, 3) := dk_182 1 101 (dk_at dksX10_look_3 16 rfl rfl)
theorem dX10_look_90 : decode cX10_look 90 = .ok (.istore 6, 2) := dk_54 6 (dk_at dksX10_look_3 19 rfl rfl)
theorem dX10_look_92 : decode cX10_look 92 = .ok (.iload_n 3, 1) := dk_29 (dk_at dksX10_look_3 21 rfl rfl)
theorem dX10_look_93 : decode cX10_look 93 = .ok (.iconst (-1), 1) := dk_2 (dk_at dksX10_look_3 22 rfl rfl)
theorem dX10_look_94 : decode cX10_look 94 = .ok (.if_icmp .eq 13, 3) := dk_159 0 13 (dk_at dksX10_look_4 0 rfl rfl)
theorem dX10_look_97 : decode cX10_look 97 = .ok (.iload 6, 2) := dk_21 6 (dk_at dksX10_look_4 3 rfl rfl)
theorem dX10_look_99 : decode cX10_look 99 = .ok (.iload 4, 2) := dk_21 4 (dk_at dksX10_look_4 5 rfl rfl)
theorem dX10_look_101 : decode cX10_look 101 = .ok (.if_icmp .lt 6, 3) := dk_161 0 6 (dk_at dksX10_look_4 7 rfl rfl)
theorem dX10_look_104 : decode cX10_look 104 = .ok (.goto 10, 3) := dk_167 0 10 (dk_at dksX10_look_4 10 rfl rfl)
theorem dX10_look_107 : decode cX10_look 107 = .ok (.iload 5, 2) := dk_21 5 (dk_at dksX10_look_4 13 rfl rfl)
theorem dX10_look_109 : decode cX10_look 109 = .ok (.istore_n 3, 1) := dk_62 (dk_at dksX10_look_4 15 rfl rfl)
theorem dX10_look_110 : decode cX10_look 110 = .ok (.iload 6, 2) := dk_21 6 (dk_at dksX10_look_4 16 rfl rfl)
theorem dX10_look_112 : decode cX10_look 112 = .ok (.istore 4, 2) := dk_54 4 (dk_at dksX10_look_4 18 rfl rfl)
theorem dX10_look_114 : decode cX10_look 114 = .ok (.iinc 5 1, 3) := dk_132 5 1 (dk_at dksX10_look_4 20 rfl rfl)
theorem dX10_look_117 : decode cX10_look 117 = .ok (.goto (-57), 3) := dk_167 255 199 (dk_at dksX10_look_5 0 rfl rfl)
theorem dX10_look_120 : decode cX10_look 120 = .ok (.iload_n 2, 1) := dk_28 (dk_at dksX10_look_5 3 rfl rfl)
theorem dX10_look_121 : decode cX10_look 121 = .ok (.ifCond .ne 7, 3) := dk_154 0 7 (dk_at dksX10_look_5 4 rfl rfl)
theorem dX10_look_124 : decode cX10_look 124 = .ok (.iload_n 3, 1) := dk_29 (dk_at dksX10_look_5 7 rfl rfl)
theorem dX10_look_125 : decode cX10_look 125 = .ok (.goto 5, 3) := dk_167 0 5 (dk_at dksX10_look_5 8 rfl rfl)
theorem dX10_look_128 : decode cX10_look 128 = .ok (.iload 4, 2) := dk_21 4 (dk_at dksX10_look_5 11 rfl rfl)
theorem dX10_look_130 : decode cX10_look 130 = .ok (.ireturn, 1) := dk_172 (dk_at dksX10_look_5 13 rfl rfl)
abbrev cX10_isTold : ByteArray := prog_32_method_87_code
def yX10_isTold : MethodName := ⟨RX10, "isTold", "(I)Z"⟩
def dkwX10_isTold_1 : List UInt8 := [132, 2, 1, 167, 255, 231, 3, 172]
abbrev dktX10_isTold_1 : List UInt8 := dkwX10_isTold_1 ++ []
def dkwX10_isTold_0 : List UInt8 := [3, 61, 28, 42, 180, 0, 198, 162, 0, 23, 42, 180, 0, 52, 28, 50, 3, 46, 27, 160, 0, 5, 4, 172]
abbrev dktX10_isTold_0 : List UInt8 := dkwX10_isTold_0 ++ dktX10_isTold_1
theorem dksX10_isTold_0 : cX10_isTold.data.toList.drop 0 = dktX10_isTold_0 := by decide +kernel
theorem dksX10_isTold_1 : cX10_isTold.data.toList.drop 24 = dktX10_isTold_1 := dk_seg dksX10_isTold_0 24 rfl rfl
theorem dX10_isTold_0 : decode cX10_isTold 0 = .ok (.iconst 0, 1) := dk_3 (dk_at dksX10_isTold_0 0 rfl rfl)
theorem dX10_isTold_1 : decode cX10_isTold 1 = .ok (.istore_n 2, 1) := dk_61 (dk_at dksX10_isTold_0 1 rfl rfl)
theorem dX10_isTold_2 : decode cX10_isTold 2 = .ok (.iload_n 2, 1) := dk_28 (dk_at dksX10_isTold_0 2 rfl rfl)
theorem dX10_isTold_3 : decode cX10_isTold 3 = .ok (.aload_n 0, 1) := dk_42 (dk_at dksX10_isTold_0 3 rfl rfl)
theorem dX10_isTold_4 : decode cX10_isTold 4 = .ok (.getfield 198, 3) := dk_180 0 198 (dk_at dksX10_isTold_0 4 rfl rfl)
theorem dX10_isTold_7 : decode cX10_isTold 7 = .ok (.if_icmp .ge 23, 3) := dk_162 0 23 (dk_at dksX10_isTold_0 7 rfl rfl)
theorem dX10_isTold_10 : decode cX10_isTold 10 = .ok (.aload_n 0, 1) := dk_42 (dk_at dksX10_isTold_0 10 rfl rfl)
theorem dX10_isTold_11 : decode cX10_isTold 11 = .ok (.getfield 52, 3) := dk_180 0 52 (dk_at dksX10_isTold_0 11 rfl rfl)
theorem dX10_isTold_14 : decode cX10_isTold 14 = .ok (.iload_n 2, 1) := dk_28 (dk_at dksX10_isTold_0 14 rfl rfl)
theorem dX10_isTold_15 : decode cX10_isTold 15 = .ok (.aaload, 1) := dk_50 (dk_at dksX10_isTold_0 15 rfl rfl)
theorem dX10_isTold_16 : decode cX10_isTold 16 = .ok (.iconst 0, 1) := dk_3 (dk_at dksX10_isTold_0 16 rfl rfl)
theorem dX10_isTold_17 : decode cX10_isTold 17 = .ok (.iaload, 1) := dk_46 (dk_at dksX10_isTold_0 17 rfl rfl)
theorem dX10_isTold_18 : decode cX10_isTold 18 = .ok (.iload_n 1, 1) := dk_27 (dk_at dksX10_isTold_0 18 rfl rfl)
theorem dX10_isTold_19 : decode cX10_isTold 19 = .ok (.if_icmp .ne 5, 3) := dk_160 0 5 (dk_at dksX10_isTold_0 19 rfl rfl)
theorem dX10_isTold_22 : decode cX10_isTold 22 = .ok (.iconst 1, 1) := dk_4 (dk_at dksX10_isTold_0 22 rfl rfl)
theorem dX10_isTold_23 : decode cX10_isTold 23 = .ok (.ireturn, 1) := dk_172 (dk_at dksX10_isTold_0 23 rfl rfl)
theorem dX10_isTold_24 : decode cX10_isTold 24 = .ok (.iinc 2 1, 3) := dk_132 2 1 (dk_at dksX10_isTold_1 0 rfl rfl)
theorem dX10_isTold_27 : decode cX10_isTold 27 = .ok (.goto (-25), 3) := dk_167 255 231 (dk_at dksX10_isTold_1 3 rfl rfl)
theorem dX10_isTold_30 : decode cX10_isTold 30 = .ok (.iconst 0, 1) := dk_3 (dk_at dksX10_isTold_1 6 rfl rfl)
theorem dX10_isTold_31 : decode cX10_isTold 31 = .ok (.ireturn, 1) := dk_172 (dk_at dksX10_isTold_1 7 rfl rfl)
abbrev cX10_worstAt : ByteArray := prog_32_method_88_code
def yX10_worstAt : MethodName := ⟨RX10, "worstAt", "(II)I"⟩
def dkwX10_worstAt_4 : List UInt8 := [180, 0, 85, 21, 5, 46, 184, 0, 244, 62, 132, 4, 1, 167, 255, 179, 29, 172]
abbrev dktX10_worstAt_4 : List UInt8 := dkwX10_worstAt_4 ++ []
def dkwX10_worstAt_3 : List UInt8 := [16, 10, 112, 3, 182, 1, 27, 54, 5, 42, 180, 0, 85, 21, 5, 92, 46, 4, 96, 79, 29, 42]
abbrev dktX10_worstAt_3 : List UInt8 := dkwX10_worstAt_3 ++ dktX10_worstAt_4
def dkwX10_worstAt_2 : List UInt8 := [112, 182, 1, 95, 154, 0, 6, 167, 0, 49, 42, 42, 180, 0, 67, 28, 27, 21, 4, 16, 10, 108, 21, 4]
abbrev dktX10_worstAt_2 : List UInt8 := dkwX10_worstAt_2 ++ dktX10_worstAt_3
def dkwX10_worstAt_1 : List UInt8 := [167, 255, 238, 3, 54, 4, 21, 4, 16, 100, 162, 0, 76, 42, 27, 21, 4, 16, 10, 108, 21, 4, 16, 10]
abbrev dktX10_worstAt_1 : List UInt8 := dkwX10_worstAt_1 ++ dktX10_worstAt_2
def dkwX10_worstAt_0 : List UInt8 := [3, 62, 3, 54, 4, 21, 4, 16, 40, 163, 0, 17, 42, 180, 0, 85, 21, 4, 3, 79, 132, 4, 1]
abbrev dktX10_worstAt_0 : List UInt8 := dkwX10_worstAt_0 ++ dktX10_worstAt_1
theorem dksX10_worstAt_0 : cX10_worstAt.data.toList.drop 0 = dktX10_worstAt_0 := by decide +kernel
theorem dksX10_worstAt_1 : cX10_worstAt.data.toList.drop 23 = dktX10_worstAt_1 := dk_seg dksX10_worstAt_0 23 rfl rfl
theorem dksX10_worstAt_2 : cX10_worstAt.data.toList.drop 47 = dktX10_worstAt_2 := dk_seg dksX10_worstAt_1 24 rfl rfl
theorem dksX10_worstAt_3 : cX10_worstAt.data.toList.drop 71 = dktX10_worstAt_3 := dk_seg dksX10_worstAt_2 24 rfl rfl
theorem dksX10_worstAt_4 : cX10_worstAt.data.toList.drop 93 = dktX10_worstAt_4 := dk_seg dksX10_worstAt_3 22 rfl rfl
theorem dX10_worstAt_0 : decode cX10_worstAt 0 = .ok (.iconst 0, 1) := dk_3 (dk_at dksX10_worstAt_0 0 rfl rfl)
theorem dX10_worstAt_1 : decode cX10_worstAt 1 = .ok (.istore_n 3, 1) := dk_62 (dk_at dksX10_worstAt_0 1 rfl rfl)
theorem dX10_worstAt_2 : decode cX10_worstAt 2 = .ok (.iconst 0, 1) := dk_3 (dk_at dksX10_worstAt_0 2 rfl rfl)
theorem dX10_worstAt_3 : decode cX10_worstAt 3 = .ok (.istore 4, 2) := dk_54 4 (dk_at dksX10_worstAt_0 3 rfl rfl)
theorem dX10_worstAt_5 : decode cX10_worstAt 5 = .ok (.iload 4, 2) := dk_21 4 (dk_at dksX10_worstAt_0 5 rfl rfl)
theorem dX10_worstAt_7 : decode cX10_worstAt 7 = .ok (.bipush 40, 2) := dk_16 40 (dk_at dksX10_worstAt_0 7 rfl rfl)
theorem dX10_worstAt_9 : decode cX10_worstAt 9 = .ok (.if_icmp .gt 17, 3) := dk_163 0 17 (dk_at dksX10_worstAt_0 9 rfl rfl)
theorem dX10_worstAt_12 : decode cX10_worstAt 12 = .ok (.aload_n 0, 1) := dk_42 (dk_at dksX10_worstAt_0 12 rfl rfl)
theorem dX10_worstAt_13 : decode cX10_worstAt 13 = .ok (.getfield 85, 3) := dk_180 0 85 (dk_at dksX10_worstAt_0 13 rfl rfl)
theorem dX10_worstAt_16 : decode cX10_worstAt 16 = .ok (.iload 4, 2) := dk_21 4 (dk_at dksX10_worstAt_0 16 rfl rfl)
theorem dX10_worstAt_18 : decode cX10_worstAt 18 = .ok (.iconst 0, 1) := dk_3 (dk_at dksX10_worstAt_0 18 rfl rfl)
theorem dX10_worstAt_19 : decode cX10_worstAt 19 = .ok (.iastore, 1) := dk_79 (dk_at dksX10_worstAt_0 19 rfl rfl)
theorem dX10_worstAt_20 : decode cX10_worstAt 20 = .ok (.iinc 4 1, 3) := dk_132 4 1 (dk_at dksX10_worstAt_0 20 rfl rfl)
theorem dX10_worstAt_23 : decode cX10_worstAt 23 = .ok (.goto (-18), 3) := dk_167 255 238 (dk_at dksX10_worstAt_1 0 rfl rfl)
theorem dX10_worstAt_26 : decode cX10_worstAt 26 = .ok (.iconst 0, 1) := dk_3 (dk_at dksX10_worstAt_1 3 rfl rfl)
theorem dX10_worstAt_27 : decode cX10_worstAt 27 = .ok (.istore 4, 2) := dk_54 4 (dk_at dksX10_worstAt_1 4 rfl rfl)
theorem dX10_worstAt_29 : decode cX10_worstAt 29 = .ok (.iload 4, 2) := dk_21 4 (dk_at dksX10_worstAt_1 6 rfl rfl)
theorem dX10_worstAt_31 : decode cX10_worstAt 31 = .ok (.bipush 100, 2) := dk_16 100 (dk_at dksX10_worstAt_1 8 rfl rfl)
theorem dX10_worstAt_33 : decode cX10_worstAt 33 = .ok (.if_icmp .ge 76, 3) := dk_162 0 76 (dk_at dksX10_worstAt_1 10 rfl rfl)
theorem dX10_worstAt_36 : decode cX10_worstAt 36 = .ok (.aload_n 0, 1) := dk_42 (dk_at dksX10_worstAt_1 13 rfl rfl)
theorem dX10_worstAt_37 : decode cX10_worstAt 37 = .ok (.iload_n 1, 1) := dk_27 (dk_at dksX10_worstAt_1 14 rfl rfl)
theorem dX10_worstAt_38 : decode cX10_worstAt 38 = .ok (.iload 4, 2) := dk_21 4 (dk_at dksX10_worstAt_1 15 rfl rfl)
theorem dX10_worstAt_40 : decode cX10_worstAt 40 = .ok (.bipush 10, 2) := dk_16 10 (dk_at dksX10_worstAt_1 17 rfl rfl)
theorem dX10_worstAt_42 : decode cX10_worstAt 42 = .ok (.idiv, 1) := dk_108 (dk_at dksX10_worstAt_1 19 rfl rfl)
theorem dX10_worstAt_43 : decode cX10_worstAt 43 = .ok (.iload 4, 2) := dk_21 4 (dk_at dksX10_worstAt_1 20 rfl rfl)
theorem dX10_worstAt_45 : decode cX10_worstAt 45 = .ok (.bipush 10, 2) := dk_16 10 (dk_at dksX10_worstAt_1 22 rfl rfl)
theorem dX10_worstAt_47 : decode cX10_worstAt 47 = .ok (.irem, 1) := dk_112 (dk_at dksX10_worstAt_2 0 rfl rfl)
theorem dX10_worstAt_48 : decode cX10_worstAt 48 = .ok (.invokevirtual 351, 3) := dk_182 1 95 (dk_at dksX10_worstAt_2 1 rfl rfl)
theorem dX10_worstAt_51 : decode cX10_worstAt 51 = .ok (.ifCond .ne 6, 3) := dk_154 0 6 (dk_at dksX10_worstAt_2 4 rfl rfl)
theorem dX10_worstAt_54 : decode cX10_worstAt 54 = .ok (.goto 49, 3) := dk_167 0 49 (dk_at dksX10_worstAt_2 7 rfl rfl)
theorem dX10_worstAt_57 : decode cX10_worstAt 57 = .ok (.aload_n 0, 1) := dk_42 (dk_at dksX10_worstAt_2 10 rfl rfl)
theorem dX10_worstAt_58 : decode cX10_worstAt 58 = .ok (.aload_n 0, 1) := dk_42 (dk_at dksX10_worstAt_2 11 rfl rfl)
theorem dX10_worstAt_59 : decode cX10_worstAt 59 = .ok (.getfield 67, 3) := dk_180 0 67 (dk_at dksX10_worstAt_2 12 rfl rfl)
theorem dX10_worstAt_62 : decode cX10_worstAt 62 = .ok (.iload_n 2, 1) := dk_28 (dk_at dksX10_worstAt_2 15 rfl rfl)
theorem dX10_worstAt_63 : decode cX10_worstAt 63 = .ok (.iload_n 1, 1) := dk_27 (dk_at dksX10_worstAt_2 16 rfl rfl)
theorem dX10_worstAt_64 : decode cX10_worstAt 64 = .ok (.iload 4, 2) := dk_21 4 (dk_at dksX10_worstAt_2 17 rfl rfl)
theorem dX10_worstAt_66 : decode cX10_worstAt 66 = .ok (.bipush 10, 2) := dk_16 10 (dk_at dksX10_worstAt_2 19 rfl rfl)
theorem dX10_worstAt_68 : decode cX10_worstAt 68 = .ok (.idiv, 1) := dk_108 (dk_at dksX10_worstAt_2 21 rfl rfl)
theorem dX10_worstAt_69 : decode cX10_worstAt 69 = .ok (.iload 4, 2) := dk_21 4 (dk_at dksX10_worstAt_2 22 rfl rfl)
theorem dX10_worstAt_71 : decode cX10_worstAt 71 = .ok (.bipush 10, 2) := dk_16 10 (dk_at dksX10_worstAt_3 0 rfl rfl)
theorem dX10_worstAt_73 : decode cX10_worstAt 73 = .ok (.irem, 1) := dk_112 (dk_at dksX10_worstAt_3 2 rfl rfl)
theorem dX10_worstAt_74 : decode cX10_worstAt 74 = .ok (.iconst 0, 1) := dk_3 (dk_at dksX10_worstAt_3 3 rfl rfl)
theorem dX10_worstAt_75 : decode cX10_worstAt 75 = .ok (.invokevirtual 283, 3) := dk_182 1 27 (dk_at dksX10_worstAt_3 4 rfl rfl)
theorem dX10_worstAt_78 : decode cX10_worstAt 78 = .ok (.istore 5, 2) := dk_54 5 (dk_at dksX10_worstAt_3 7 rfl rfl)
theorem dX10_worstAt_80 : decode cX10_worstAt 80 = .ok (.aload_n 0, 1) := dk_42 (dk_at dksX10_worstAt_3 9 rfl rfl)
theorem dX10_worstAt_81 : decode cX10_worstAt 81 = .ok (.getfield 85, 3) := dk_180 0 85 (dk_at dksX10_worstAt_3 10 rfl rfl)
theorem dX10_worstAt_84 : decode cX10_worstAt 84 = .ok (.iload 5, 2) := dk_21 5 (dk_at dksX10_worstAt_3 13 rfl rfl)
theorem dX10_worstAt_86 : decode cX10_worstAt 86 = .ok (.dup2, 1) := dk_92 (dk_at dksX10_worstAt_3 15 rfl rfl)
theorem dX10_worstAt_87 : decode cX10_worstAt 87 = .ok (.iaload, 1) := dk_46 (dk_at dksX10_worstAt_3 16 rfl rfl)
theorem dX10_worstAt_88 : decode cX10_worstAt 88 = .ok (.iconst 1, 1) := dk_4 (dk_at dksX10_worstAt_3 17 rfl rfl)
theorem dX10_worstAt_89 : decode cX10_worstAt 89 = .ok (.iadd, 1) := dk_96 (dk_at dksX10_worstAt_3 18 rfl rfl)
theorem dX10_worstAt_90 : decode cX10_worstAt 90 = .ok (.iastore, 1) := dk_79 (dk_at dksX10_worstAt_3 19 rfl rfl)
theorem dX10_worstAt_91 : decode cX10_worstAt 91 = .ok (.iload_n 3, 1) := dk_29 (dk_at dksX10_worstAt_3 20 rfl rfl)
theorem dX10_worstAt_92 : decode cX10_worstAt 92 = .ok (.aload_n 0, 1) := dk_42 (dk_at dksX10_worstAt_3 21 rfl rfl)
theorem dX10_worstAt_93 : decode cX10_worstAt 93 = .ok (.getfield 85, 3) := dk_180 0 85 (dk_at dksX10_worstAt_4 0 rfl rfl)
theorem dX10_worstAt_96 : decode cX10_worstAt 96 = .ok (.iload 5, 2) := dk_21 5 (dk_at dksX10_worstAt_4 3 rfl rfl)
theorem dX10_worstAt_98 : decode cX10_worstAt 98 = .ok (.iaload, 1) := dk_46 (dk_at dksX10_worstAt_4 5 rfl rfl)
theorem dX10_worstAt_99 : decode cX10_worstAt 99 = .ok (.invokestatic 244, 3) := dk_184 0 244 (dk_at dksX10_worstAt_4 6 rfl rfl)
theorem dX10_worstAt_102 : decode cX10_worstAt 102 = .ok (.istore_n 3, 1) := dk_62 (dk_at dksX10_worstAt_4 9 rfl rfl)
theorem dX10_worstAt_103 : decode cX10_worstAt 103 = .ok (.iinc 4 1, 3) := dk_132 4 1 (dk_at dksX10_worstAt_4 10 rfl rfl)
theorem dX10_worstAt_106 : decode cX10_worstAt 106 = .ok (.goto (-77), 3) := dk_167 255 179 (dk_at dksX10_worstAt_4 13 rfl rfl)
theorem dX10_worstAt_109 : decode cX10_worstAt 109 = .ok (.iload_n 3, 1) := dk_29 (dk_at dksX10_worstAt_4 16 rfl rfl)
theorem dX10_worstAt_110 : decode cX10_worstAt 110 = .ok (.ireturn, 1) := dk_172 (dk_at dksX10_worstAt_4 17 rfl rfl)
abbrev cX10_comfort : ByteArray := prog_32_method_90_code
def yX10_comfort : MethodName := ⟨RX10, "comfort", "()I"⟩
def dkwX10_comfort_4 : List UInt8 := [167, 0, 4, 27, 60, 132, 2, 255, 167, 255, 172, 27, 172]
abbrev dktX10_comfort_4 : List UInt8 := dkwX10_comfort_4 ++ []
def dkwX10_comfort_3 : List UInt8 := [182, 1, 17, 29, 2, 130, 126, 154, 0, 18, 28, 184, 1, 20, 27, 184, 1, 20, 163, 0, 7, 28]
abbrev dktX10_comfort_3 : List UInt8 := dkwX10_comfort_3 ++ dktX10_comfort_4
def dkwX10_comfort_2 : List UInt8 := [42, 21, 4, 182, 1, 14, 167, 0, 4, 3, 128, 62, 132, 4, 1, 167, 255, 220, 42, 42, 180, 0, 67, 3]
abbrev dktX10_comfort_2 : List UInt8 := dkwX10_comfort_2 ++ dktX10_comfort_3
def dkwX10_comfort_1 : List UInt8 := [3, 54, 4, 21, 4, 42, 180, 0, 23, 3, 46, 162, 0, 31, 29, 28, 21, 4, 184, 1, 4, 153, 0, 12]
abbrev dktX10_comfort_1 : List UInt8 := dkwX10_comfort_1 ++ dktX10_comfort_2
def dkwX10_comfort_0 : List UInt8 := [42, 3, 181, 0, 98, 4, 42, 180, 0, 23, 3, 46, 120, 4, 100, 60, 27, 61, 28, 155, 0, 86, 28, 62]
abbrev dktX10_comfort_0 : List UInt8 := dkwX10_comfort_0 ++ dktX10_comfort_1
theorem dksX10_comfort_0 : cX10_comfort.data.toList.drop 0 = dktX10_comfort_0 := by decide +kernel
theorem dksX10_comfort_1 : cX10_comfort.data.toList.drop 24 = dktX10_comfort_1 := dk_seg dksX10_comfort_0 24 rfl rfl
theorem dksX10_comfort_2 : cX10_comfort.data.toList.drop 48 = dktX10_comfort_2 := dk_seg dksX10_comfort_1 24 rfl rfl
theorem dksX10_comfort_3 : cX10_comfort.data.toList.drop 72 = dktX10_comfort_3 := dk_seg dksX10_comfort_2 24 rfl rfl
theorem dksX10_comfort_4 : cX10_comfort.data.toList.drop 94 = dktX10_comfort_4 := dk_seg dksX10_comfort_3 22 rfl rfl
theorem dX10_comfort_0 : decode cX10_comfort 0 = .ok (.aload_n 0, 1) := dk_42 (dk_at dksX10_comfort_0 0 rfl rfl)
theorem dX10_comfort_1 : decode cX10_comfort 1 = .ok (.iconst 0, 1) := dk_3 (dk_at dksX10_comfort_0 1 rfl rfl)
theorem dX10_comfort_2 : decode cX10_comfort 2 = .ok (.putfield 98, 3) := dk_181 0 98 (dk_at dksX10_comfort_0 2 rfl rfl)
theorem dX10_comfort_5 : decode cX10_comfort 5 = .ok (.iconst 1, 1) := dk_4 (dk_at dksX10_comfort_0 5 rfl rfl)
theorem dX10_comfort_6 : decode cX10_comfort 6 = .ok (.aload_n 0, 1) := dk_42 (dk_at dksX10_comfort_0 6 rfl rfl)
theorem dX10_comfort_7 : decode cX10_comfort 7 = .ok (.getfield 23, 3) := dk_180 0 23 (dk_at dksX10_comfort_0 7 rfl rfl)
theorem dX10_comfort_10 : decode cX10_comfort 10 = .ok (.iconst 0, 1) := dk_3 (dk_at dksX10_comfort_0 10 rfl rfl)
theorem dX10_comfort_11 : decode cX10_comfort 11 = .ok (.iaload, 1) := dk_46 (dk_at dksX10_comfort_0 11 rfl rfl)
theorem dX10_comfort_12 : decode cX10_comfort 12 = .ok (.ishl, 1) := dk_120 (dk_at dksX10_comfort_0 12 rfl rfl)
theorem dX10_comfort_13 : decode cX10_comfort 13 = .ok (.iconst 1, 1) := dk_4 (dk_at dksX10_comfort_0 13 rfl rfl)
theorem dX10_comfort_14 : decode cX10_comfort 14 = .ok (.isub, 1) := dk_100 (dk_at dksX10_comfort_0 14 rfl rfl)
theorem dX10_comfort_15 : decode cX10_comfort 15 = .ok (.istore_n 1, 1) := dk_60 (dk_at dksX10_comfort_0 15 rfl rfl)
theorem dX10_comfort_16 : decode cX10_comfort 16 = .ok (.iload_n 1, 1) := dk_27 (dk_at dksX10_comfort_0 16 rfl rfl)
theorem dX10_comfort_17 : decode cX10_comfort 17 = .ok (.istore_n 2, 1) := dk_61 (dk_at dksX10_comfort_0 17 rfl rfl)
theorem dX10_comfort_18 : decode cX10_comfort 18 = .ok (.iload_n 2, 1) := dk_28 (dk_at dksX10_comfort_0 18 rfl rfl)
theorem dX10_comfort_19 : decode cX10_comfort 19 = .ok (.ifCond .lt 86, 3) := dk_155 0 86 (dk_at dksX10_comfort_0 19 rfl rfl)
theorem dX10_comfort_22 : decode cX10_comfort 22 = .ok (.iload_n 2, 1) := dk_28 (dk_at dksX10_comfort_0 22 rfl rfl)
theorem dX10_comfort_23 : decode cX10_comfort 23 = .ok (.istore_n 3, 1) := dk_62 (dk_at dksX10_comfort_0 23 rfl rfl)
theorem dX10_comfort_24 : decode cX10_comfort 24 = .ok (.iconst 0, 1) := dk_3 (dk_at dksX10_comfort_1 0 rfl rfl)
theorem dX10_comfort_25 : decode cX10_comfort 25 = .ok (.istore 4, 2) := dk_54 4 (dk_at dksX10_comfort_1 1 rfl rfl)
theorem dX10_comfort_27 : decode cX10_comfort 27 = .ok (.iload 4, 2) := dk_21 4 (dk_at dksX10_comfort_1 3 rfl rfl)
theorem dX10_comfort_29 : decode cX10_comfort 29 = .ok (.aload_n 0, 1) := dk_42 (dk_at dksX10_comfort_1 5 rfl rfl)
theorem dX10_comfort_30 : decode cX10_comfort 30 = .ok (.getfield 23, 3) := dk_180 0 23 (dk_at dksX10_comfort_1 6 rfl rfl)
theorem dX10_comfort_33 : decode cX10_comfort 33 = .ok (.iconst 0, 1) := dk_3 (dk_at dksX10_comfort_1 9 rfl rfl)
theorem dX10_comfort_34 : decode cX10_comfort 34 = .ok (.iaload, 1) := dk_46 (dk_at dksX10_comfort_1 10 rfl rfl)
theorem dX10_comfort_35 : decode cX10_comfort 35 = .ok (.if_icmp .ge 31, 3) := dk_162 0 31 (dk_at dksX10_comfort_1 11 rfl rfl)
theorem dX10_comfort_38 : decode cX10_comfort 38 = .ok (.iload_n 3, 1) := dk_29 (dk_at dksX10_comfort_1 14 rfl rfl)
theorem dX10_comfort_39 : decode cX10_comfort 39 = .ok (.iload_n 2, 1) := dk_28 (dk_at dksX10_comfort_1 15 rfl rfl)
theorem dX10_comfort_40 : decode cX10_comfort 40 = .ok (.iload 4, 2) := dk_21 4 (dk_at dksX10_comfort_1 16 rfl rfl)
theorem dX10_comfort_42 : decode cX10_comfort 42 = .ok (.invokestatic 260, 3) := dk_184 1 4 (dk_at dksX10_comfort_1 18 rfl rfl)
theorem dX10_comfort_45 : decode cX10_comfort 45 = .ok (.ifCond .eq 12, 3) := dk_153 0 12 (dk_at dksX10_comfort_1 21 rfl rfl)
theorem dX10_comfort_48 : decode cX10_comfort 48 = .ok (.aload_n 0, 1) := dk_42 (dk_at dksX10_comfort_2 0 rfl rfl)
theorem dX10_comfort_49 : decode cX10_comfort 49 = .ok (.iload 4, 2) := dk_21 4 (dk_at dksX10_comfort_2 1 rfl rfl)
theorem dX10_comfort_51 : decode cX10_comfort 51 = .ok (.invokevirtual 270, 3) := dk_182 1 14 (dk_at dksX10_comfort_2 3 rfl rfl)
theorem dX10_comfort_54 : decode cX10_comfort 54 = .ok (.goto 4, 3) := dk_167 0 4 (dk_at dksX10_comfort_2 6 rfl rfl)
theorem dX10_comfort_57 : decode cX10_comfort 57 = .ok (.iconst 0, 1) := dk_3 (dk_at dksX10_comfort_2 9 rfl rfl)
theorem dX10_comfort_58 : decode cX10_comfort 58 = .ok (.ior, 1) := dk_128 (dk_at dksX10_comfort_2 10 rfl rfl)
theorem dX10_comfort_59 : decode cX10_comfort 59 = .ok (.istore_n 3, 1) := dk_62 (dk_at dksX10_comfort_2 11 rfl rfl)
theorem dX10_comfort_60 : decode cX10_comfort 60 = .ok (.iinc 4 1, 3) := dk_132 4 1 (dk_at dksX10_comfort_2 12 rfl rfl)
theorem dX10_comfort_63 : decode cX10_comfort 63 = .ok (.goto (-36), 3) := dk_167 255 220 (dk_at dksX10_comfort_2 15 rfl rfl)
theorem dX10_comfort_66 : decode cX10_comfort 66 = .ok (.aload_n 0, 1) := dk_42 (dk_at dksX10_comfort_2 18 rfl rfl)
theorem dX10_comfort_67 : decode cX10_comfort 67 = .ok (.aload_n 0, 1) := dk_42 (dk_at dksX10_comfort_2 19 rfl rfl)
theorem dX10_comfort_68 : decode cX10_comfort 68 = .ok (.getfield 67, 3) := dk_180 0 67 (dk_at dksX10_comfort_2 20 rfl rfl)
theorem dX10_comfort_71 : decode cX10_comfort 71 = .ok (.iconst 0, 1) := dk_3 (dk_at dksX10_comfort_2 23 rfl rfl)
theorem dX10_comfort_72 : decode cX10_comfort 72 = .ok (.invokevirtual 273, 3) := dk_182 1 17 (dk_at dksX10_comfort_3 0 rfl rfl)
theorem dX10_comfort_75 : decode cX10_comfort 75 = .ok (.iload_n 3, 1) := dk_29 (dk_at dksX10_comfort_3 3 rfl rfl)
theorem dX10_comfort_76 : decode cX10_comfort 76 = .ok (.iconst (-1), 1) := dk_2 (dk_at dksX10_comfort_3 4 rfl rfl)
theorem dX10_comfort_77 : decode cX10_comfort 77 = .ok (.ixor, 1) := dk_130 (dk_at dksX10_comfort_3 5 rfl rfl)
theorem dX10_comfort_78 : decode cX10_comfort 78 = .ok (.iand, 1) := dk_126 (dk_at dksX10_comfort_3 6 rfl rfl)
theorem dX10_comfort_79 : decode cX10_comfort 79 = .ok (.ifCond .ne 18, 3) := dk_154 0 18 (dk_at dksX10_comfort_3 7 rfl rfl)
theorem dX10_comfort_82 : decode cX10_comfort 82 = .ok (.iload_n 2, 1) := dk_28 (dk_at dksX10_comfort_3 10 rfl rfl)
theorem dX10_comfort_83 : decode cX10_comfort 83 = .ok (.invokestatic 276, 3) := dk_184 1 20 (dk_at dksX10_comfort_3 11 rfl rfl)
theorem dX10_comfort_86 : decode cX10_comfort 86 = .ok (.iload_n 1, 1) := dk_27 (dk_at dksX10_comfort_3 14 rfl rfl)
theorem dX10_comfort_87 : decode cX10_comfort 87 = .ok (.invokestatic 276, 3) := dk_184 1 20 (dk_at dksX10_comfort_3 15 rfl rfl)
theorem dX10_comfort_90 : decode cX10_comfort 90 = .ok (.if_icmp .gt 7, 3) := dk_163 0 7 (dk_at dksX10_comfort_3 18 rfl rfl)
theorem dX10_comfort_93 : decode cX10_comfort 93 = .ok (.iload_n 2, 1) := dk_28 (dk_at dksX10_comfort_3 21 rfl rfl)
theorem dX10_comfort_94 : decode cX10_comfort 94 = .ok (.goto 4, 3) := dk_167 0 4 (dk_at dksX10_comfort_4 0 rfl rfl)
theorem dX10_comfort_97 : decode cX10_comfort 97 = .ok (.iload_n 1, 1) := dk_27 (dk_at dksX10_comfort_4 3 rfl rfl)
theorem dX10_comfort_98 : decode cX10_comfort 98 = .ok (.istore_n 1, 1) := dk_60 (dk_at dksX10_comfort_4 4 rfl rfl)
theorem dX10_comfort_99 : decode cX10_comfort 99 = .ok (.iinc 2 (-1), 3) := dk_132 2 255 (dk_at dksX10_comfort_4 5 rfl rfl)
theorem dX10_comfort_102 : decode cX10_comfort 102 = .ok (.goto (-84), 3) := dk_167 255 172 (dk_at dksX10_comfort_4 8 rfl rfl)
theorem dX10_comfort_105 : decode cX10_comfort 105 = .ok (.iload_n 1, 1) := dk_27 (dk_at dksX10_comfort_4 11 rfl rfl)
theorem dX10_comfort_106 : decode cX10_comfort 106 = .ok (.ireturn, 1) := dk_172 (dk_at dksX10_comfort_4 12 rfl rfl)
abbrev cX10_way : ByteArray := prog_32_method_92_code
def yX10_way : MethodName := ⟨RX10, "way", "(II)I"⟩
def dkwX10_way_3 : List UInt8 := [62, 132, 4, 1, 167, 255, 225, 2, 172]
abbrev dktX10_way_3 : List UInt8 := dkwX10_way_3 ++ []
def dkwX10_way_2 : List UInt8 := [180, 0, 23, 3, 46, 162, 0, 26, 29, 28, 184, 1, 4, 153, 0, 6, 21, 4, 172, 42, 29, 182, 1, 104]
abbrev dktX10_way_2 : List UInt8 := dkwX10_way_2 ++ dktX10_way_3
def dkwX10_way_1 : List UInt8 := [167, 0, 4, 3, 4, 3, 182, 0, 178, 153, 0, 5, 3, 172, 4, 27, 120, 62, 3, 54, 4, 21, 4, 42]
abbrev dktX10_way_1 : List UInt8 := dkwX10_way_1 ++ dktX10_way_2
def dkwX10_way_0 : List UInt8 := [42, 3, 181, 0, 98, 42, 42, 27, 182, 1, 69, 153, 0, 11, 42, 28, 182, 1, 69, 154, 0, 7, 4]
abbrev dktX10_way_0 : List UInt8 := dkwX10_way_0 ++ dktX10_way_1
theorem dksX10_way_0 : cX10_way.data.toList.drop 0 = dktX10_way_0 := by decide +kernel
theorem dksX10_way_1 : cX10_way.data.toList.drop 23 = dktX10_way_1 := dk_seg dksX10_way_0 23 rfl rfl
theorem dksX10_way_2 : cX10_way.data.toList.drop 47 = dktX10_way_2 := dk_seg dksX10_way_1 24 rfl rfl
theorem dksX10_way_3 : cX10_way.data.toList.drop 71 = dktX10_way_3 := dk_seg dksX10_way_2 24 rfl rfl
theorem dX10_way_0 : decode cX10_way 0 = .ok (.aload_n 0, 1) := dk_42 (dk_at dksX10_way_0 0 rfl rfl)
theorem dX10_way_1 : decode cX10_way 1 = .ok (.iconst 0, 1) := dk_3 (dk_at dksX10_way_0 1 rfl rfl)
theorem dX10_way_2 : decode cX10_way 2 = .ok (.putfield 98, 3) := dk_181 0 98 (dk_at dksX10_way_0 2 rfl rfl)
theorem dX10_way_5 : decode cX10_way 5 = .ok (.aload_n 0, 1) := dk_42 (dk_at dksX10_way_0 5 rfl rfl)
theorem dX10_way_6 : decode cX10_way 6 = .ok (.aload_n 0, 1) := dk_42 (dk_at dksX10_way_0 6 rfl rfl)
theorem dX10_way_7 : decode cX10_way 7 = .ok (.iload_n 1, 1) := dk_27 (dk_at dksX10_way_0 7 rfl rfl)
theorem dX10_way_8 : decode cX10_way 8 = .ok (.invokevirtual 325, 3) := dk_182 1 69 (dk_at dksX10_way_0 8 rfl rfl)
theorem dX10_way_11 : decode cX10_way 11 = .ok (.ifCond .eq 11, 3) := dk_153 0 11 (dk_at dksX10_way_0 11 rfl rfl)
theorem dX10_way_14 : decode cX10_way 14 = .ok (.aload_n 0, 1) := dk_42 (dk_at dksX10_way_0 14 rfl rfl)
theorem dX10_way_15 : decode cX10_way 15 = .ok (.iload_n 2, 1) := dk_28 (dk_at dksX10_way_0 15 rfl rfl)
theorem dX10_way_16 : decode cX10_way 16 = .ok (.invokevirtual 325, 3) := dk_182 1 69 (dk_at dksX10_way_0 16 rfl rfl)
theorem dX10_way_19 : decode cX10_way 19 = .ok (.ifCond .ne 7, 3) := dk_154 0 7 (dk_at dksX10_way_0 19 rfl rfl)
theorem dX10_way_22 : decode cX10_way 22 = .ok (.iconst 1, 1) := dk_4 (dk_at dksX10_way_0 22 rfl rfl)
theorem dX10_way_23 : decode cX10_way 23 = .ok (.goto 4, 3) := dk_167 0 4 (dk_at dksX10_way_1 0 rfl rfl)
theorem dX10_way_26 : decode cX10_way 26 = .ok (.iconst 0, 1) := dk_3 (dk_at dksX10_way_1 3 rfl rfl)
theorem dX10_way_27 : decode cX10_way 27 = .ok (.iconst 1, 1) := dk_4 (dk_at dksX10_way_1 4 rfl rfl)
theorem dX10_way_28 : decode cX10_way 28 = .ok (.iconst 0, 1) := dk_3 (dk_at dksX10_way_1 5 rfl rfl)
theorem dX10_way_29 : decode cX10_way 29 = .ok (.invokevirtual 178, 3) := dk_182 0 178 (dk_at dksX10_way_1 6 rfl rfl)
theorem dX10_way_32 : decode cX10_way 32 = .ok (.ifCond .eq 5, 3) := dk_153 0 5 (dk_at dksX10_way_1 9 rfl rfl)
theorem dX10_way_35 : decode cX10_way 35 = .ok (.iconst 0, 1) := dk_3 (dk_at dksX10_way_1 12 rfl rfl)
theorem dX10_way_36 : decode cX10_way 36 = .ok (.ireturn, 1) := dk_172 (dk_at dksX10_way_1 13 rfl rfl)
theorem dX10_way_37 : decode cX10_way 37 = .ok (.iconst 1, 1) := dk_4 (dk_at dksX10_way_1 14 rfl rfl)
theorem dX10_way_38 : decode cX10_way 38 = .ok (.iload_n 1, 1) := dk_27 (dk_at dksX10_way_1 15 rfl rfl)
theorem dX10_way_39 : decode cX10_way 39 = .ok (.ishl, 1) := dk_120 (dk_at dksX10_way_1 16 rfl rfl)
theorem dX10_way_40 : decode cX10_way 40 = .ok (.istore_n 3, 1) := dk_62 (dk_at dksX10_way_1 17 rfl rfl)
theorem dX10_way_41 : decode cX10_way 41 = .ok (.iconst 0, 1) := dk_3 (dk_at dksX10_way_1 18 rfl rfl)
theorem dX10_way_42 : decode cX10_way 42 = .ok (.istore 4, 2) := dk_54 4 (dk_at dksX10_way_1 19 rfl rfl)
theorem dX10_way_44 : decode cX10_way 44 = .ok (.iload 4, 2) := dk_21 4 (dk_at dksX10_way_1 21 rfl rfl)
theorem dX10_way_46 : decode cX10_way 46 = .ok (.aload_n 0, 1) := dk_42 (dk_at dksX10_way_1 23 rfl rfl)
theorem dX10_way_47 : decode cX10_way 47 = .ok (.getfield 23, 3) := dk_180 0 23 (dk_at dksX10_way_2 0 rfl rfl)
theorem dX10_way_50 : decode cX10_way 50 = .ok (.iconst 0, 1) := dk_3 (dk_at dksX10_way_2 3 rfl rfl)
theorem dX10_way_51 : decode cX10_way 51 = .ok (.iaload, 1) := dk_46 (dk_at dksX10_way_2 4 rfl rfl)
theorem dX10_way_52 : decode cX10_way 52 = .ok (.if_icmp .ge 26, 3) := dk_162 0 26 (dk_at dksX10_way_2 5 rfl rfl)
theorem dX10_way_55 : decode cX10_way 55 = .ok (.iload_n 3, 1) := dk_29 (dk_at dksX10_way_2 8 rfl rfl)
theorem dX10_way_56 : decode cX10_way 56 = .ok (.iload_n 2, 1) := dk_28 (dk_at dksX10_way_2 9 rfl rfl)
theorem dX10_way_57 : decode cX10_way 57 = .ok (.invokestatic 260, 3) := dk_184 1 4 (dk_at dksX10_way_2 10 rfl rfl)
theorem dX10_way_60 : decode cX10_way 60 = .ok (.ifCond .eq 6, 3) := dk_153 0 6 (dk_at dksX10_way_2 13 rfl rfl)
theorem dX10_way_63 : decode cX10_way 63 = .ok (.iload 4, 2) := dk_21 4 (dk_at dksX10_way_2 16 rfl rfl)
theorem dX10_way_65 : decode cX10_way 65 = .ok (.ireturn, 1) := dk_172 (dk_at dksX10_way_2 18 rfl rfl)
theorem dX10_way_66 : decode cX10_way 66 = .ok (.aload_n 0, 1) := dk_42 (dk_at dksX10_way_2 19 rfl rfl)
theorem dX10_way_67 : decode cX10_way 67 = .ok (.iload_n 3, 1) := dk_29 (dk_at dksX10_way_2 20 rfl rfl)
theorem dX10_way_68 : decode cX10_way 68 = .ok (.invokevirtual 360, 3) := dk_182 1 104 (dk_at dksX10_way_2 21 rfl rfl)
theorem dX10_way_71 : decode cX10_way 71 = .ok (.istore_n 3, 1) := dk_62 (dk_at dksX10_way_3 0 rfl rfl)
theorem dX10_way_72 : decode cX10_way 72 = .ok (.iinc 4 1, 3) := dk_132 4 1 (dk_at dksX10_way_3 1 rfl rfl)
theorem dX10_way_75 : decode cX10_way 75 = .ok (.goto (-31), 3) := dk_167 255 225 (dk_at dksX10_way_3 4 rfl rfl)
theorem dX10_way_78 : decode cX10_way 78 = .ok (.iconst (-1), 1) := dk_2 (dk_at dksX10_way_3 7 rfl rfl)
theorem dX10_way_79 : decode cX10_way 79 = .ok (.ireturn, 1) := dk_172 (dk_at dksX10_way_3 8 rfl rfl)
abbrev cX10_further : ByteArray := prog_32_method_91_code
def yX10_further : MethodName := ⟨RX10, "further", "(I)I"⟩
def dkwX10_further_1 : List UInt8 := [29, 182, 1, 14, 167, 0, 4, 3, 128, 61, 132, 3, 1, 167, 255, 223, 28, 172]
abbrev dktX10_further_1 : List UInt8 := dkwX10_further_1 ++ []
def dkwX10_further_0 : List UInt8 := [27, 61, 3, 62, 29, 42, 180, 0, 23, 3, 46, 162, 0, 29, 28, 27, 29, 184, 1, 4, 153, 0, 11, 42]
abbrev dktX10_further_0 : List UInt8 := dkwX10_further_0 ++ dktX10_further_1
theorem dksX10_further_0 : cX10_further.data.toList.drop 0 = dktX10_further_0 := by decide +kernel
theorem dksX10_further_1 : cX10_further.data.toList.drop 24 = dktX10_further_1 := dk_seg dksX10_further_0 24 rfl rfl
theorem dX10_further_0 : decode cX10_further 0 = .ok (.iload_n 1, 1) := dk_27 (dk_at dksX10_further_0 0 rfl rfl)
theorem dX10_further_1 : decode cX10_further 1 = .ok (.istore_n 2, 1) := dk_61 (dk_at dksX10_further_0 1 rfl rfl)
theorem dX10_further_2 : decode cX10_further 2 = .ok (.iconst 0, 1) := dk_3 (dk_at dksX10_further_0 2 rfl rfl)
theorem dX10_further_3 : decode cX10_further 3 = .ok (.istore_n 3, 1) := dk_62 (dk_at dksX10_further_0 3 rfl rfl)
theorem dX10_further_4 : decode cX10_further 4 = .ok (.iload_n 3, 1) := dk_29 (dk_at dksX10_further_0 4 rfl rfl)
theorem dX10_further_5 : decode cX10_further 5 = .ok (.aload_n 0, 1) := dk_42 (dk_at dksX10_further_0 5 rfl rfl)
theorem dX10_further_6 : decode cX10_further 6 = .ok (.getfield 23, 3) := dk_180 0 23 (dk_at dksX10_further_0 6 rfl rfl)
theorem dX10_further_9 : decode cX10_further 9 = .ok (.iconst 0, 1) := dk_3 (dk_at dksX10_further_0 9 rfl rfl)
theorem dX10_further_10 : decode cX10_further 10 = .ok (.iaload, 1) := dk_46 (dk_at dksX10_further_0 10 rfl rfl)
theorem dX10_further_11 : decode cX10_further 11 = .ok (.if_icmp .ge 29, 3) := dk_162 0 29 (dk_at dksX10_further_0 11 rfl rfl)
theorem dX10_further_14 : decode cX10_further 14 = .ok (.iload_n 2, 1) := dk_28 (dk_at dksX10_further_0 14 rfl rfl)
theorem dX10_further_15 : decode cX10_further 15 = .ok (.iload_n 1, 1) := dk_27 (dk_at dksX10_further_0 15 rfl rfl)
theorem dX10_further_16 : decode cX10_further 16 = .ok (.iload_n 3, 1) := dk_29 (dk_at dksX10_further_0 16 rfl rfl)
theorem dX10_further_17 : decode cX10_further 17 = .ok (.invokestatic 260, 3) := dk_184 1 4 (dk_at dksX10_further_0 17 rfl rfl)
theorem dX10_further_20 : decode cX10_further 20 = .ok (.ifCond .eq 11, 3) := dk_153 0 11 (dk_at dksX10_further_0 20 rfl rfl)
theorem dX10_further_23 : decode cX10_further 23 = .ok (.aload_n 0, 1) := dk_42 (dk_at dksX10_further_0 23 rfl rfl)
theorem dX10_further_24 : decode cX10_further 24 = .ok (.iload_n 3, 1) := dk_29 (dk_at dksX10_further_1 0 rfl rfl)
theorem dX10_further_25 : decode cX10_further 25 = .ok (.invokevirtual 270, 3) := dk_182 1 14 (dk_at dksX10_further_1 1 rfl rfl)
theorem dX10_further_28 : decode cX10_further 28 = .ok (.goto 4, 3) := dk_167 0 4 (dk_at dksX10_further_1 4 rfl rfl)
theorem dX10_further_31 : decode cX10_further 31 = .ok (.iconst 0, 1) := dk_3 (dk_at dksX10_further_1 7 rfl rfl)
theorem dX10_further_32 : decode cX10_further 32 = .ok (.ior, 1) := dk_128 (dk_at dksX10_further_1 8 rfl rfl)
theorem dX10_further_33 : decode cX10_further 33 = .ok (.istore_n 2, 1) := dk_61 (dk_at dksX10_further_1 9 rfl rfl)
theorem dX10_further_34 : decode cX10_further 34 = .ok (.iinc 3 1, 3) := dk_132 3 1 (dk_at dksX10_further_1 10 rfl rfl)
theorem dX10_further_37 : decode cX10_further 37 = .ok (.goto (-33), 3) := dk_167 255 223 (dk_at dksX10_further_1 13 rfl rfl)
theorem dX10_further_40 : decode cX10_further 40 = .ok (.iload_n 2, 1) := dk_28 (dk_at dksX10_further_1 16 rfl rfl)
theorem dX10_further_41 : decode cX10_further 41 = .ok (.ireturn, 1) := dk_172 (dk_at dksX10_further_1 17 rfl rfl)
abbrev cX10_parts : ByteArray := prog_32_method_93_code
def yX10_parts : MethodName := ⟨RX10, "parts", "()I"⟩
def dkwX10_parts_3 : List UInt8 := [21, 4, 128, 61, 132, 3, 1, 167, 255, 189, 27, 172]
abbrev dktX10_parts_3 : List UInt8 := dkwX10_parts_3 ++ []
def dkwX10_parts_2 : List UInt8 := [132, 5, 1, 167, 255, 234, 27, 28, 29, 184, 1, 4, 153, 0, 7, 3, 167, 0, 4, 4, 96, 60, 28]
abbrev dktX10_parts_2 : List UInt8 := dkwX10_parts_2 ++ dktX10_parts_3
def dkwX10_parts_1 : List UInt8 := [54, 4, 3, 54, 5, 21, 5, 42, 180, 0, 23, 3, 46, 162, 0, 17, 42, 21, 4, 182, 1, 104, 54, 4]
abbrev dktX10_parts_1 : List UInt8 := dkwX10_parts_1 ++ dktX10_parts_2
def dkwX10_parts_0 : List UInt8 := [42, 3, 181, 0, 98, 3, 60, 3, 61, 3, 62, 29, 42, 180, 0, 23, 3, 46, 162, 0, 63, 4, 29, 120]
abbrev dktX10_parts_0 : List UInt8 := dkwX10_parts_0 ++ dktX10_parts_1
theorem dksX10_parts_0 : cX10_parts.data.toList.drop 0 = dktX10_parts_0 := by decide +kernel
theorem dksX10_parts_1 : cX10_parts.data.toList.drop 24 = dktX10_parts_1 := dk_seg dksX10_parts_0 24 rfl rfl
theorem dksX10_parts_2 : cX10_parts.data.toList.drop 48 = dktX10_parts_2 := dk_seg dksX10_parts_1 24 rfl rfl
theorem dksX10_parts_3 : cX10_parts.data.toList.drop 71 = dktX10_parts_3 := dk_seg dksX10_parts_2 23 rfl rfl
theorem dX10_parts_0 : decode cX10_parts 0 = .ok (.aload_n 0, 1) := dk_42 (dk_at dksX10_parts_0 0 rfl rfl)
theorem dX10_parts_1 : decode cX10_parts 1 = .ok (.iconst 0, 1) := dk_3 (dk_at dksX10_parts_0 1 rfl rfl)
theorem dX10_parts_2 : decode cX10_parts 2 = .ok (.putfield 98, 3) := dk_181 0 98 (dk_at dksX10_parts_0 2 rfl rfl)
theorem dX10_parts_5 : decode cX10_parts 5 = .ok (.iconst 0, 1) := dk_3 (dk_at dksX10_parts_0 5 rfl rfl)
theorem dX10_parts_6 : decode cX10_parts 6 = .ok (.istore_n 1, 1) := dk_60 (dk_at dksX10_parts_0 6 rfl rfl)
theorem dX10_parts_7 : decode cX10_parts 7 = .ok (.iconst 0, 1) := dk_3 (dk_at dksX10_parts_0 7 rfl rfl)
theorem dX10_parts_8 : decode cX10_parts 8 = .ok (.istore_n 2, 1) := dk_61 (dk_at dksX10_parts_0 8 rfl rfl)
theorem dX10_parts_9 : decode cX10_parts 9 = .ok (.iconst 0, 1) := dk_3 (dk_at dksX10_parts_0 9 rfl rfl)
theorem dX10_parts_10 : decode cX10_parts 10 = .ok (.istore_n 3, 1) := dk_62 (dk_at dksX10_parts_0 10 rfl rfl)
theorem dX10_parts_11 : decode cX10_parts 11 = .ok (.iload_n 3, 1) := dk_29 (dk_at dksX10_parts_0 11 rfl rfl)
theorem dX10_parts_12 : decode cX10_parts 12 = .ok (.aload_n 0, 1) := dk_42 (dk_at dksX10_parts_0 12 rfl rfl)
theorem dX10_parts_13 : decode cX10_parts 13 = .ok (.getfield 23, 3) := dk_180 0 23 (dk_at dksX10_parts_0 13 rfl rfl)
theorem dX10_parts_16 : decode cX10_parts 16 = .ok (.iconst 0, 1) := dk_3 (dk_at dksX10_parts_0 16 rfl rfl)
theorem dX10_parts_17 : decode cX10_parts 17 = .ok (.iaload, 1) := dk_46 (dk_at dksX10_parts_0 17 rfl rfl)
theorem dX10_parts_18 : decode cX10_parts 18 = .ok (.if_icmp .ge 63, 3) := dk_162 0 63 (dk_at dksX10_parts_0 18 rfl rfl)
theorem dX10_parts_21 : decode cX10_parts 21 = .ok (.iconst 1, 1) := dk_4 (dk_at dksX10_parts_0 21 rfl rfl)
theorem dX10_parts_22 : decode cX10_parts 22 = .ok (.iload_n 3, 1) := dk_29 (dk_at dksX10_parts_0 22 rfl rfl)
theorem dX10_parts_23 : decode cX10_parts 23 = .ok (.ishl, 1) := dk_120 (dk_at dksX10_parts_0 23 rfl rfl)
theorem dX10_parts_24 : decode cX10_parts 24 = .ok (.istore 4, 2) := dk_54 4 (dk_at dksX10_parts_1 0 rfl rfl)
theorem dX10_parts_26 : decode cX10_parts 26 = .ok (.iconst 0, 1) := dk_3 (dk_at dksX10_parts_1 2 rfl rfl)
theorem dX10_parts_27 : decode cX10_parts 27 = .ok (.istore 5, 2) := dk_54 5 (dk_at dksX10_parts_1 3 rfl rfl)
theorem dX10_parts_29 : decode cX10_parts 29 = .ok (.iload 5, 2) := dk_21 5 (dk_at dksX10_parts_1 5 rfl rfl)
theorem dX10_parts_31 : decode cX10_parts 31 = .ok (.aload_n 0, 1) := dk_42 (dk_at dksX10_parts_1 7 rfl rfl)
theorem dX10_parts_32 : decode cX10_parts 32 = .ok (.getfield 23, 3) := dk_180 0 23 (dk_at dksX10_parts_1 8 rfl rfl)
theorem dX10_parts_35 : decode cX10_parts 35 = .ok (.iconst 0, 1) := dk_3 (dk_at dksX10_parts_1 11 rfl rfl)
theorem dX10_parts_36 : decode cX10_parts 36 = .ok (.iaload, 1) := dk_46 (dk_at dksX10_parts_1 12 rfl rfl)
theorem dX10_parts_37 : decode cX10_parts 37 = .ok (.if_icmp .ge 17, 3) := dk_162 0 17 (dk_at dksX10_parts_1 13 rfl rfl)
theorem dX10_parts_40 : decode cX10_parts 40 = .ok (.aload_n 0, 1) := dk_42 (dk_at dksX10_parts_1 16 rfl rfl)
theorem dX10_parts_41 : decode cX10_parts 41 = .ok (.iload 4, 2) := dk_21 4 (dk_at dksX10_parts_1 17 rfl rfl)
theorem dX10_parts_43 : decode cX10_parts 43 = .ok (.invokevirtual 360, 3) := dk_182 1 104 (dk_at dksX10_parts_1 19 rfl rfl)
theorem dX10_parts_46 : decode cX10_parts 46 = .ok (.istore 4, 2) := dk_54 4 (dk_at dksX10_parts_1 22 rfl rfl)
theorem dX10_parts_48 : decode cX10_parts 48 = .ok (.iinc 5 1, 3) := dk_132 5 1 (dk_at dksX10_parts_2 0 rfl rfl)
theorem dX10_parts_51 : decode cX10_parts 51 = .ok (.goto (-22), 3) := dk_167 255 234 (dk_at dksX10_parts_2 3 rfl rfl)
theorem dX10_parts_54 : decode cX10_parts 54 = .ok (.iload_n 1, 1) := dk_27 (dk_at dksX10_parts_2 6 rfl rfl)
theorem dX10_parts_55 : decode cX10_parts 55 = .ok (.iload_n 2, 1) := dk_28 (dk_at dksX10_parts_2 7 rfl rfl)
theorem dX10_parts_56 : decode cX10_parts 56 = .ok (.iload_n 3, 1) := dk_29 (dk_at dksX10_parts_2 8 rfl rfl)
theorem dX10_parts_57 : decode cX10_parts 57 = .ok (.invokestatic 260, 3) := dk_184 1 4 (dk_at dksX10_parts_2 9 rfl rfl)
theorem dX10_parts_60 : decode cX10_parts 60 = .ok (.ifCond .eq 7, 3) := dk_153 0 7 (dk_at dksX10_parts_2 12 rfl rfl)
theorem dX10_parts_63 : decode cX10_parts 63 = .ok (.iconst 0, 1) := dk_3 (dk_at dksX10_parts_2 15 rfl rfl)
theorem dX10_parts_64 : decode cX10_parts 64 = .ok (.goto 4, 3) := dk_167 0 4 (dk_at dksX10_parts_2 16 rfl rfl)
theorem dX10_parts_67 : decode cX10_parts 67 = .ok (.iconst 1, 1) := dk_4 (dk_at dksX10_parts_2 19 rfl rfl)
theorem dX10_parts_68 : decode cX10_parts 68 = .ok (.iadd, 1) := dk_96 (dk_at dksX10_parts_2 20 rfl rfl)
theorem dX10_parts_69 : decode cX10_parts 69 = .ok (.istore_n 1, 1) := dk_60 (dk_at dksX10_parts_2 21 rfl rfl)
theorem dX10_parts_70 : decode cX10_parts 70 = .ok (.iload_n 2, 1) := dk_28 (dk_at dksX10_parts_2 22 rfl rfl)
theorem dX10_parts_71 : decode cX10_parts 71 = .ok (.iload 4, 2) := dk_21 4 (dk_at dksX10_parts_3 0 rfl rfl)
theorem dX10_parts_73 : decode cX10_parts 73 = .ok (.ior, 1) := dk_128 (dk_at dksX10_parts_3 2 rfl rfl)
theorem dX10_parts_74 : decode cX10_parts 74 = .ok (.istore_n 2, 1) := dk_61 (dk_at dksX10_parts_3 3 rfl rfl)
theorem dX10_parts_75 : decode cX10_parts 75 = .ok (.iinc 3 1, 3) := dk_132 3 1 (dk_at dksX10_parts_3 4 rfl rfl)
theorem dX10_parts_78 : decode cX10_parts 78 = .ok (.goto (-67), 3) := dk_167 255 189 (dk_at dksX10_parts_3 7 rfl rfl)
theorem dX10_parts_81 : decode cX10_parts 81 = .ok (.iload_n 1, 1) := dk_27 (dk_at dksX10_parts_3 10 rfl rfl)
theorem dX10_parts_82 : decode cX10_parts 82 = .ok (.ireturn, 1) := dk_172 (dk_at dksX10_parts_3 11 rfl rfl)
abbrev cX10_comedians : ByteArray := prog_32_method_96_code
def yX10_comedians : MethodName := ⟨RX10, "comedians", "(IIII)I"⟩
def dkwX10_comedians_8 : List UInt8 := [21, 5, 167, 0, 16, 21, 4, 4, 160, 0, 8, 21, 6, 167, 0, 5, 21, 7, 172]
abbrev dktX10_comedians_8 : List UInt8 := dkwX10_comedians_8 ++ []
def dkwX10_comedians_7 : List UInt8 := [21, 6, 54, 6, 132, 5, 1, 132, 9, 1, 167, 255, 164, 132, 8, 1, 167, 255, 149, 21, 4, 154, 0, 8]
abbrev dktX10_comedians_7 : List UInt8 := dkwX10_comedians_7 ++ dktX10_comedians_8
def dkwX10_comedians_6 : List UInt8 := [167, 0, 5, 21, 7, 54, 7, 21, 5, 154, 0, 14, 16, 10, 21, 8, 104, 21, 9, 96, 167, 0, 5]
abbrev dktX10_comedians_6 : List UInt8 := dkwX10_comedians_6 ++ dktX10_comedians_7
def dkwX10_comedians_5 : List UInt8 := [154, 0, 25, 21, 8, 21, 9, 27, 28, 184, 1, 107, 21, 9, 21, 8, 27, 28, 184, 1, 107, 96]
abbrev dktX10_comedians_5 : List UInt8 := dkwX10_comedians_5 ++ dktX10_comedians_6
def dkwX10_comedians_4 : List UInt8 := [184, 1, 111, 153, 0, 73, 21, 9, 21, 8, 27, 28, 29, 184, 1, 111, 154, 0, 6, 167, 0, 57, 21, 5]
abbrev dktX10_comedians_4 : List UInt8 := dkwX10_comedians_4 ++ dktX10_comedians_5
def dkwX10_comedians_3 : List UInt8 := [54, 8, 21, 8, 29, 162, 0, 107, 3, 54, 9, 21, 9, 29, 162, 0, 92, 21, 8, 21, 9, 27, 28, 29]
abbrev dktX10_comedians_3 : List UInt8 := dkwX10_comedians_3 ++ dktX10_comedians_4
def dkwX10_comedians_2 : List UInt8 := [167, 0, 4, 3, 4, 4, 182, 0, 178, 153, 0, 5, 3, 172, 3, 54, 5, 2, 54, 6, 3, 54, 7, 3]
abbrev dktX10_comedians_2 : List UInt8 := dkwX10_comedians_2 ++ dktX10_comedians_3
def dkwX10_comedians_1 : List UInt8 := [153, 0, 23, 29, 4, 16, 6, 184, 0, 132, 153, 0, 13, 21, 4, 3, 5, 184, 0, 132, 154, 0, 7, 4]
abbrev dktX10_comedians_1 : List UInt8 := dkwX10_comedians_1 ++ dktX10_comedians_2
def dkwX10_comedians_0 : List UInt8 := [42, 3, 181, 0, 98, 42, 27, 3, 16, 99, 184, 0, 132, 153, 0, 33, 28, 3, 16, 20, 184, 0, 132]
abbrev dktX10_comedians_0 : List UInt8 := dkwX10_comedians_0 ++ dktX10_comedians_1
theorem dksX10_comedians_0 : cX10_comedians.data.toList.drop 0 = dktX10_comedians_0 := by decide +kernel
theorem dksX10_comedians_1 : cX10_comedians.data.toList.drop 23 = dktX10_comedians_1 := dk_seg dksX10_comedians_0 23 rfl rfl
theorem dksX10_comedians_2 : cX10_comedians.data.toList.drop 47 = dktX10_comedians_2 := dk_seg dksX10_comedians_1 24 rfl rfl
theorem dksX10_comedians_3 : cX10_comedians.data.toList.drop 71 = dktX10_comedians_3 := dk_seg dksX10_comedians_2 24 rfl rfl
theorem dksX10_comedians_4 : cX10_comedians.data.toList.drop 95 = dktX10_comedians_4 := dk_seg dksX10_comedians_3 24 rfl rfl
theorem dksX10_comedians_5 : cX10_comedians.data.toList.drop 119 = dktX10_comedians_5 := dk_seg dksX10_comedians_4 24 rfl rfl
theorem dksX10_comedians_6 : cX10_comedians.data.toList.drop 141 = dktX10_comedians_6 := dk_seg dksX10_comedians_5 22 rfl rfl
theorem dksX10_comedians_7 : cX10_comedians.data.toList.drop 164 = dktX10_comedians_7 := dk_seg dksX10_comedians_6 23 rfl rfl
theorem dksX10_comedians_8 : cX10_comedians.data.toList.drop 188 = dktX10_comedians_8 := dk_seg dksX10_comedians_7 24 rfl rfl
theorem dX10_comedians_0 : decode cX10_comedians 0 = .ok (.aload_n 0, 1) := dk_42 (dk_at dksX10_comedians_0 0 rfl rfl)
theorem dX10_comedians_1 : decode cX10_comedians 1 = .ok (.iconst 0, 1) := dk_3 (dk_at dksX10_comedians_0 1 rfl rfl)
theorem dX10_comedians_2 : decode cX10_comedians 2 = .ok (.putfield 98, 3) := dk_181 0 98 (dk_at dksX10_comedians_0 2 rfl rfl)
theorem dX10_comedians_5 : decode cX10_comedians 5 = .ok (.aload_n 0, 1) := dk_42 (dk_at dksX10_comedians_0 5 rfl rfl)
theorem dX10_comedians_6 : decode cX10_comedians 6 = .ok (.iload_n 1, 1) := dk_27 (dk_at dksX10_comedians_0 6 rfl rfl)
theorem dX10_comedians_7 : decode cX10_comedians 7 = .ok (.iconst 0, 1) := dk_3 (dk_at dksX10_comedians_0 7 rfl rfl)
theorem dX10_comedians_8 : decode cX10_comedians 8 = .ok (.bipush 99, 2) := dk_16 99 (dk_at dksX10_comedians_0 8 rfl rfl)
theorem dX10_comedians_10 : decode cX10_comedians 10 = .ok (.invokestatic 132, 3) := dk_184 0 132 (dk_at dksX10_comedians_0 10 rfl rfl)
theorem dX10_comedians_13 : decode cX10_comedians 13 = .ok (.ifCond .eq 33, 3) := dk_153 0 33 (dk_at dksX10_comedians_0 13 rfl rfl)
theorem dX10_comedians_16 : decode cX10_comedians 16 = .ok (.iload_n 2, 1) := dk_28 (dk_at dksX10_comedians_0 16 rfl rfl)
theorem dX10_comedians_17 : decode cX10_comedians 17 = .ok (.iconst 0, 1) := dk_3 (dk_at dksX10_comedians_0 17 rfl rfl)
theorem dX10_comedians_18 : decode cX10_comedians 18 = .ok (.bipush 20, 2) := dk_16 20 (dk_at dksX10_comedians_0 18 rfl rfl)
theorem dX10_comedians_20 : decode cX10_comedians 20 = .ok (.invokestatic 132, 3) := dk_184 0 132 (dk_at dksX10_comedians_0 20 rfl rfl)
theorem dX10_comedians_23 : decode cX10_comedians 23 = .ok (.ifCond .eq 23, 3) := dk_153 0 23 (dk_at dksX10_comedians_1 0 rfl rfl)
theorem dX10_comedians_26 : decode cX10_comedians 26 = .ok (.iload_n 3, 1) := dk_29 (dk_at dksX10_comedians_1 3 rfl rfl)
theorem dX10_comedians_27 : decode cX10_comedians 27 = .ok (.iconst 1, 1) := dk_4 (dk_at dksX10_comedians_1 4 rfl rfl)
theorem dX10_comedians_28 : decode cX10_comedians 28 = .ok (.bipush 6, 2) := dk_16 6 (dk_at dksX10_comedians_1 5 rfl rfl)
theorem dX10_comedians_30 : decode cX10_comedians 30 = .ok (.invokestatic 132, 3) := dk_184 0 132 (dk_at dksX10_comedians_1 7 rfl rfl)
theorem dX10_comedians_33 : decode cX10_comedians 33 = .ok (.ifCond .eq 13, 3) := dk_153 0 13 (dk_at dksX10_comedians_1 10 rfl rfl)
theorem dX10_comedians_36 : decode cX10_comedians 36 = .ok (.iload 4, 2) := dk_21 4 (dk_at dksX10_comedians_1 13 rfl rfl)
theorem dX10_comedians_38 : decode cX10_comedians 38 = .ok (.iconst 0, 1) := dk_3 (dk_at dksX10_comedians_1 15 rfl rfl)
theorem dX10_comedians_39 : decode cX10_comedians 39 = .ok (.iconst 2, 1) := dk_5 (dk_at dksX10_comedians_1 16 rfl rfl)
theorem dX10_comedians_40 : decode cX10_comedians 40 = .ok (.invokestatic 132, 3) := dk_184 0 132 (dk_at dksX10_comedians_1 17 rfl rfl)
theorem dX10_comedians_43 : decode cX10_comedians 43 = .ok (.ifCond .ne 7, 3) := dk_154 0 7 (dk_at dksX10_comedians_1 20 rfl rfl)
theorem dX10_comedians_46 : decode cX10_comedians 46 = .ok (.iconst 1, 1) := dk_4 (dk_at dksX10_comedians_1 23 rfl rfl)
theorem dX10_comedians_47 : decode cX10_comedians 47 = .ok (.goto 4, 3) := dk_167 0 4 (dk_at dksX10_comedians_2 0 rfl rfl)
theorem dX10_comedians_50 : decode cX10_comedians 50 = .ok (.iconst 0, 1) := dk_3 (dk_at dksX10_comedians_2 3 rfl rfl)
theorem dX10_comedians_51 : decode cX10_comedians 51 = .ok (.iconst 1, 1) := dk_4 (dk_at dksX10_comedians_2 4 rfl rfl)
theorem dX10_comedians_52 : decode cX10_comedians 52 = .ok (.iconst 1, 1) := dk_4 (dk_at dksX10_comedians_2 5 rfl rfl)
theorem dX10_comedians_53 : decode cX10_comedians 53 = .ok (.invokevirtual 178, 3) := dk_182 0 178 (dk_at dksX10_comedians_2 6 rfl rfl)
theorem dX10_comedians_56 : decode cX10_comedians 56 = .ok (.ifCond .eq 5, 3) := dk_153 0 5 (dk_at dksX10_comedians_2 9 rfl rfl)
theorem dX10_comedians_59 : decode cX10_comedians 59 = .ok (.iconst 0, 1) := dk_3 (dk_at dksX10_comedians_2 12 rfl rfl)
theorem dX10_comedians_60 : decode cX10_comedians 60 = .ok (.ireturn, 1) := dk_172 (dk_at dksX10_comedians_2 13 rfl rfl)
theorem dX10_comedians_61 : decode cX10_comedians 61 = .ok (.iconst 0, 1) := dk_3 (dk_at dksX10_comedians_2 14 rfl rfl)
theorem dX10_comedians_62 : decode cX10_comedians 62 = .ok (.istore 5, 2) := dk_54 5 (dk_at dksX10_comedians_2 15 rfl rfl)
theorem dX10_comedians_64 : decode cX10_comedians 64 = .ok (.iconst (-1), 1) := dk_2 (dk_at dksX10_comedians_2 17 rfl rfl)
theorem dX10_comedians_65 : decode cX10_comedians 65 = .ok (.istore 6, 2) := dk_54 6 (dk_at dksX10_comedians_2 18 rfl rfl)
theorem dX10_comedians_67 : decode cX10_comedians 67 = .ok (.iconst 0, 1) := dk_3 (dk_at dksX10_comedians_2 20 rfl rfl)
theorem dX10_comedians_68 : decode cX10_comedians 68 = .ok (.istore 7, 2) := dk_54 7 (dk_at dksX10_comedians_2 21 rfl rfl)
theorem dX10_comedians_70 : decode cX10_comedians 70 = .ok (.iconst 0, 1) := dk_3 (dk_at dksX10_comedians_2 23 rfl rfl)
theorem dX10_comedians_71 : decode cX10_comedians 71 = .ok (.istore 8, 2) := dk_54 8 (dk_at dksX10_comedians_3 0 rfl rfl)
theorem dX10_comedians_73 : decode cX10_comedians 73 = .ok (.iload 8, 2) := dk_21 8 (dk_at dksX10_comedians_3 2 rfl rfl)
theorem dX10_comedians_75 : decode cX10_comedians 75 = .ok (.iload_n 3, 1) := dk_29 (dk_at dksX10_comedians_3 4 rfl rfl)
theorem dX10_comedians_76 : decode cX10_comedians 76 = .ok (.if_icmp .ge 107, 3) := dk_162 0 107 (dk_at dksX10_comedians_3 5 rfl rfl)
theorem dX10_comedians_79 : decode cX10_comedians 79 = .ok (.iconst 0, 1) := dk_3 (dk_at dksX10_comedians_3 8 rfl rfl)
theorem dX10_comedians_80 : decode cX10_comedians 80 = .ok (.istore 9, 2) := dk_54 9 (dk_at dksX10_comedians_3 9 rfl rfl)
theorem dX10_comedians_82 : decode cX10_comedians 82 = .ok (.iload 9, 2) := dk_21 9 (dk_at dksX10_comedians_3 11 rfl rfl)
theorem dX10_comedians_84 : decode cX10_comedians 84 = .ok (.iload_n 3, 1) := dk_29 (dk_at dksX10_comedians_3 13 rfl rfl)
theorem dX10_comedians_85 : decode cX10_comedians 85 = .ok (.if_icmp .ge 92, 3) := dk_162 0 92 (dk_at dksX10_comedians_3 14 rfl rfl)
theorem dX10_comedians_88 : decode cX10_comedians 88 = .ok (.iload 8, 2) := dk_21 8 (dk_at dksX10_comedians_3 17 rfl rfl)
theorem dX10_comedians_90 : decode cX10_comedians 90 = .ok (.iload 9, 2) := dk_21 9 (dk_at dksX10_comedians_3 19 rfl rfl)
theorem dX10_comedians_92 : decode cX10_comedians 92 = .ok (.iload_n 1, 1) := dk_27 (dk_at dksX10_comedians_3 21 rfl rfl)
theorem dX10_comedians_93 : decode cX10_comedians 93 = .ok (.iload_n 2, 1) := dk_28 (dk_at dksX10_comedians_3 22 rfl rfl)
theorem dX10_comedians_94 : decode cX10_comedians 94 = .ok (.iload_n 3, 1) := dk_29 (dk_at dksX10_comedians_3 23 rfl rfl)
theorem dX10_comedians_95 : decode cX10_comedians 95 = .ok (.invokestatic 367, 3) := dk_184 1 111 (dk_at dksX10_comedians_4 0 rfl rfl)
theorem dX10_comedians_98 : decode cX10_comedians 98 = .ok (.ifCond .eq 73, 3) := dk_153 0 73 (dk_at dksX10_comedians_4 3 rfl rfl)
theorem dX10_comedians_101 : decode cX10_comedians 101 = .ok (.iload 9, 2) := dk_21 9 (dk_at dksX10_comedians_4 6 rfl rfl)
theorem dX10_comedians_103 : decode cX10_comedians 103 = .ok (.iload 8, 2) := dk_21 8 (dk_at dksX10_comedians_4 8 rfl rfl)
theorem dX10_comedians_105 : decode cX10_comedians 105 = .ok (.iload_n 1, 1) := dk_27 (dk_at dksX10_comedians_4 10 rfl rfl)
theorem dX10_comedians_106 : decode cX10_comedians 106 = .ok (.iload_n 2, 1) := dk_28 (dk_at dksX10_comedians_4 11 rfl rfl)
theorem dX10_comedians_107 : decode cX10_comedians 107 = .ok (.iload_n 3, 1) := dk_29 (dk_at dksX10_comedians_4 12 rfl rfl)
theorem dX10_comedians_108 : decode cX10_comedians 108 = .ok (.invokestatic 367, 3) := dk_184 1 111 (dk_at dksX10_comedians_4 13 rfl rfl)
theorem dX10_comedians_111 : decode cX10_comedians 111 = .ok (.ifCond .ne 6, 3) := dk_154 0 6 (dk_at dksX10_comedians_4 16 rfl rfl)
theorem dX10_comedians_114 : decode cX10_comedians 114 = .ok (.goto 57, 3) := dk_167 0 57 (dk_at dksX10_comedians_4 19 rfl rfl)
theorem dX10_comedians_117 : decode cX10_comedians 117 = .ok (.iload 5, 2) := dk_21 5 (dk_at dksX10_comedians_4 22 rfl rfl)
theorem dX10_comedians_119 : decode cX10_comedians 119 = .ok (.ifCond .ne 25, 3) := dk_154 0 25 (dk_at dksX10_comedians_5 0 rfl rfl)
theorem dX10_comedians_122 : decode cX10_comedians 122 = .ok (.iload 8, 2) := dk_21 8 (dk_at dksX10_comedians_5 3 rfl rfl)
theorem dX10_comedians_124 : decode cX10_comedians 124 = .ok (.iload 9, 2) := dk_21 9 (dk_at dksX10_comedians_5 5 rfl rfl)
theorem dX10_comedians_126 : decode cX10_comedians 126 = .ok (.iload_n 1, 1) := dk_27 (dk_at dksX10_comedians_5 7 rfl rfl)
theorem dX10_comedians_127 : decode cX10_comedians 127 = .ok (.iload_n 2, 1) := dk_28 (dk_at dksX10_comedians_5 8 rfl rfl)
theorem dX10_comedians_128 : decode cX10_comedians 128 = .ok (.invokestatic 363, 3) := dk_184 1 107 (dk_at dksX10_comedians_5 9 rfl rfl)
theorem dX10_comedians_131 : decode cX10_comedians 131 = .ok (.iload 9, 2) := dk_21 9 (dk_at dksX10_comedians_5 12 rfl rfl)
theorem dX10_comedians_133 : decode cX10_comedians 133 = .ok (.iload 8, 2) := dk_21 8 (dk_at dksX10_comedians_5 14 rfl rfl)
theorem dX10_comedians_135 : decode cX10_comedians 135 = .ok (.iload_n 1, 1) := dk_27 (dk_at dksX10_comedians_5 16 rfl rfl)
theorem dX10_comedians_136 : decode cX10_comedians 136 = .ok (.iload_n 2, 1) := dk_28 (dk_at dksX10_comedians_5 17 rfl rfl)
theorem dX10_comedians_137 : decode cX10_comedians 137 = .ok (.invokestatic 363, 3) := dk_184 1 107 (dk_at dksX10_comedians_5 18 rfl rfl)
theorem dX10_comedians_140 : decode cX10_comedians 140 = .ok (.iadd, 1) := dk_96 (dk_at dksX10_comedians_5 21 rfl rfl)
theorem dX10_comedians_141 : decode cX10_comedians 141 = .ok (.goto 5, 3) := dk_167 0 5 (dk_at dksX10_comedians_6 0 rfl rfl)
theorem dX10_comedians_144 : decode cX10_comedians 144 = .ok (.iload 7, 2) := dk_21 7 (dk_at dksX10_comedians_6 3 rfl rfl)
theorem dX10_comedians_146 : decode cX10_comedians 146 = .ok (.istore 7, 2) := dk_54 7 (dk_at dksX10_comedians_6 5 rfl rfl)
theorem dX10_comedians_148 : decode cX10_comedians 148 = .ok (.iload 5, 2) := dk_21 5 (dk_at dksX10_comedians_6 7 rfl rfl)
theorem dX10_comedians_150 : decode cX10_comedians 150 = .ok (.ifCond .ne 14, 3) := dk_154 0 14 (dk_at dksX10_comedians_6 9 rfl rfl)
theorem dX10_comedians_153 : decode cX10_comedians 153 = .ok (.bipush 10, 2) := dk_16 10 (dk_at dksX10_comedians_6 12 rfl rfl)
theorem dX10_comedians_155 : decode cX10_comedians 155 = .ok (.iload 8, 2) := dk_21 8 (dk_at dksX10_comedians_6 14 rfl rfl)
theorem dX10_comedians_157 : decode cX10_comedians 157 = .ok (.imul, 1) := dk_104 (dk_at dksX10_comedians_6 16 rfl rfl)
theorem dX10_comedians_158 : decode cX10_comedians 158 = .ok (.iload 9, 2) := dk_21 9 (dk_at dksX10_comedians_6 17 rfl rfl)
theorem dX10_comedians_160 : decode cX10_comedians 160 = .ok (.iadd, 1) := dk_96 (dk_at dksX10_comedians_6 19 rfl rfl)
theorem dX10_comedians_161 : decode cX10_comedians 161 = .ok (.goto 5, 3) := dk_167 0 5 (dk_at dksX10_comedians_6 20 rfl rfl)
theorem dX10_comedians_164 : decode cX10_comedians 164 = .ok (.iload 6, 2) := dk_21 6 (dk_at dksX10_comedians_7 0 rfl rfl)
theorem dX10_comedians_166 : decode cX10_comedians 166 = .ok (.istore 6, 2) := dk_54 6 (dk_at dksX10_comedians_7 2 rfl rfl)
theorem dX10_comedians_168 : decode cX10_comedians 168 = .ok (.iinc 5 1, 3) := dk_132 5 1 (dk_at dksX10_comedians_7 4 rfl rfl)
theorem dX10_comedians_171 : decode cX10_comedians 171 = .ok (.iinc 9 1, 3) := dk_132 9 1 (dk_at dksX10_comedians_7 7 rfl rfl)
theorem dX10_comedians_174 : decode cX10_comedians 174 = .ok (.goto (-92), 3) := dk_167 255 164 (dk_at dksX10_comedians_7 10 rfl rfl)
theorem dX10_comedians_177 : decode cX10_comedians 177 = .ok (.iinc 8 1, 3) := dk_132 8 1 (dk_at dksX10_comedians_7 13 rfl rfl)
theorem dX10_comedians_180 : decode cX10_comedians 180 = .ok (.goto (-107), 3) := dk_167 255 149 (dk_at dksX10_comedians_7 16 rfl rfl)
theorem dX10_comedians_183 : decode cX10_comedians 183 = .ok (.iload 4, 2) := dk_21 4 (dk_at dksX10_comedians_7 19 rfl rfl)
theorem dX10_comedians_185 : decode cX10_comedians 185 = .ok (.ifCond .ne 8, 3) := dk_154 0 8 (dk_at dksX10_comedians_7 21 rfl rfl)
theorem dX10_comedians_188 : decode cX10_comedians 188 = .ok (.iload 5, 2) := dk_21 5 (dk_at dksX10_comedians_8 0 rfl rfl)
theorem dX10_comedians_190 : decode cX10_comedians 190 = .ok (.goto 16, 3) := dk_167 0 16 (dk_at dksX10_comedians_8 2 rfl rfl)
theorem dX10_comedians_193 : decode cX10_comedians 193 = .ok (.iload 4, 2) := dk_21 4 (dk_at dksX10_comedians_8 5 rfl rfl)
theorem dX10_comedians_195 : decode cX10_comedians 195 = .ok (.iconst 1, 1) := dk_4 (dk_at dksX10_comedians_8 7 rfl rfl)
theorem dX10_comedians_196 : decode cX10_comedians 196 = .ok (.if_icmp .ne 8, 3) := dk_160 0 8 (dk_at dksX10_comedians_8 8 rfl rfl)
theorem dX10_comedians_199 : decode cX10_comedians 199 = .ok (.iload 6, 2) := dk_21 6 (dk_at dksX10_comedians_8 11 rfl rfl)
theorem dX10_comedians_201 : decode cX10_comedians 201 = .ok (.goto 5, 3) := dk_167 0 5 (dk_at dksX10_comedians_8 13 rfl rfl)
theorem dX10_comedians_204 : decode cX10_comedians 204 = .ok (.iload 7, 2) := dk_21 7 (dk_at dksX10_comedians_8 16 rfl rfl)
theorem dX10_comedians_206 : decode cX10_comedians 206 = .ok (.ireturn, 1) := dk_172 (dk_at dksX10_comedians_8 18 rfl rfl)
abbrev cX10_isBest : ByteArray := prog_32_method_95_code
def yX10_isBest : MethodName := ⟨RX10, "isBest", "(IIIII)Z"⟩
def dkwX10_isBest_1 : List UInt8 := [184, 1, 107, 164, 0, 5, 3, 172, 132, 5, 1, 167, 255, 226, 4, 172]
abbrev dktX10_isBest_1 : List UInt8 := dkwX10_isBest_1 ++ []
def dkwX10_isBest_0 : List UInt8 := [3, 54, 5, 21, 5, 21, 4, 162, 0, 29, 21, 5, 27, 28, 29, 184, 1, 107, 26, 27, 28, 29]
abbrev dktX10_isBest_0 : List UInt8 := dkwX10_isBest_0 ++ dktX10_isBest_1
theorem dksX10_isBest_0 : cX10_isBest.data.toList.drop 0 = dktX10_isBest_0 := by decide +kernel
theorem dksX10_isBest_1 : cX10_isBest.data.toList.drop 22 = dktX10_isBest_1 := dk_seg dksX10_isBest_0 22 rfl rfl
theorem dX10_isBest_0 : decode cX10_isBest 0 = .ok (.iconst 0, 1) := dk_3 (dk_at dksX10_isBest_0 0 rfl rfl)
theorem dX10_isBest_1 : decode cX10_isBest 1 = .ok (.istore 5, 2) := dk_54 5 (dk_at dksX10_isBest_0 1 rfl rfl)
theorem dX10_isBest_3 : decode cX10_isBest 3 = .ok (.iload 5, 2) := dk_21 5 (dk_at dksX10_isBest_0 3 rfl rfl)
theorem dX10_isBest_5 : decode cX10_isBest 5 = .ok (.iload 4, 2) := dk_21 4 (dk_at dksX10_isBest_0 5 rfl rfl)
theorem dX10_isBest_7 : decode cX10_isBest 7 = .ok (.if_icmp .ge 29, 3) := dk_162 0 29 (dk_at dksX10_isBest_0 7 rfl rfl)
theorem dX10_isBest_10 : decode cX10_isBest 10 = .ok (.iload 5, 2) := dk_21 5 (dk_at dksX10_isBest_0 10 rfl rfl)
theorem dX10_isBest_12 : decode cX10_isBest 12 = .ok (.iload_n 1, 1) := dk_27 (dk_at dksX10_isBest_0 12 rfl rfl)
theorem dX10_isBest_13 : decode cX10_isBest 13 = .ok (.iload_n 2, 1) := dk_28 (dk_at dksX10_isBest_0 13 rfl rfl)
theorem dX10_isBest_14 : decode cX10_isBest 14 = .ok (.iload_n 3, 1) := dk_29 (dk_at dksX10_isBest_0 14 rfl rfl)
theorem dX10_isBest_15 : decode cX10_isBest 15 = .ok (.invokestatic 363, 3) := dk_184 1 107 (dk_at dksX10_isBest_0 15 rfl rfl)
theorem dX10_isBest_18 : decode cX10_isBest 18 = .ok (.iload_n 0, 1) := dk_26 (dk_at dksX10_isBest_0 18 rfl rfl)
theorem dX10_isBest_19 : decode cX10_isBest 19 = .ok (.iload_n 1, 1) := dk_27 (dk_at dksX10_isBest_0 19 rfl rfl)
theorem dX10_isBest_20 : decode cX10_isBest 20 = .ok (.iload_n 2, 1) := dk_28 (dk_at dksX10_isBest_0 20 rfl rfl)
theorem dX10_isBest_21 : decode cX10_isBest 21 = .ok (.iload_n 3, 1) := dk_29 (dk_at dksX10_isBest_0 21 rfl rfl)
theorem dX10_isBest_22 : decode cX10_isBest 22 = .ok (.invokestatic 363, 3) := dk_184 1 107 (dk_at dksX10_isBest_1 0 rfl rfl)
theorem dX10_isBest_25 : decode cX10_isBest 25 = .ok (.if_icmp .le 5, 3) := dk_164 0 5 (dk_at dksX10_isBest_1 3 rfl rfl)
theorem dX10_isBest_28 : decode cX10_isBest 28 = .ok (.iconst 0, 1) := dk_3 (dk_at dksX10_isBest_1 6 rfl rfl)
theorem dX10_isBest_29 : decode cX10_isBest 29 = .ok (.ireturn, 1) := dk_172 (dk_at dksX10_isBest_1 7 rfl rfl)
theorem dX10_isBest_30 : decode cX10_isBest 30 = .ok (.iinc 5 1, 3) := dk_132 5 1 (dk_at dksX10_isBest_1 8 rfl rfl)
theorem dX10_isBest_33 : decode cX10_isBest 33 = .ok (.goto (-30), 3) := dk_167 255 226 (dk_at dksX10_isBest_1 11 rfl rfl)
theorem dX10_isBest_36 : decode cX10_isBest 36 = .ok (.iconst 1, 1) := dk_4 (dk_at dksX10_isBest_1 14 rfl rfl)
theorem dX10_isBest_37 : decode cX10_isBest 37 = .ok (.ireturn, 1) := dk_172 (dk_at dksX10_isBest_1 15 rfl rfl)
abbrev cX10_hasBy : ByteArray := prog_32_method_94_code
def yX10_hasBy : MethodName := ⟨RX10, "hasBy", "(IIII)I"⟩
def dkwX10_hasBy_1 : List UInt8 := [100, 172]
abbrev dktX10_hasBy_1 : List UInt8 := dkwX10_hasBy_1 ++ []
def dkwX10_hasBy_0 : List UInt8 := [26, 27, 164, 0, 7, 28, 167, 0, 15, 26, 27, 160, 0, 9, 28, 5, 108, 167, 0, 4, 3, 29, 26, 104]
abbrev dktX10_hasBy_0 : List UInt8 := dkwX10_hasBy_0 ++ dktX10_hasBy_1
theorem dksX10_hasBy_0 : cX10_hasBy.data.toList.drop 0 = dktX10_hasBy_0 := by decide +kernel
theorem dksX10_hasBy_1 : cX10_hasBy.data.toList.drop 24 = dktX10_hasBy_1 := dk_seg dksX10_hasBy_0 24 rfl rfl
theorem dX10_hasBy_0 : decode cX10_hasBy 0 = .ok (.iload_n 0, 1) := dk_26 (dk_at dksX10_hasBy_0 0 rfl rfl)
theorem dX10_hasBy_1 : decode cX10_hasBy 1 = .ok (.iload_n 1, 1) := dk_27 (dk_at dksX10_hasBy_0 1 rfl rfl)
theorem dX10_hasBy_2 : decode cX10_hasBy 2 = .ok (.if_icmp .le 7, 3) := dk_164 0 7 (dk_at dksX10_hasBy_0 2 rfl rfl)
theorem dX10_hasBy_5 : decode cX10_hasBy 5 = .ok (.iload_n 2, 1) := dk_28 (dk_at dksX10_hasBy_0 5 rfl rfl)
theorem dX10_hasBy_6 : decode cX10_hasBy 6 = .ok (.goto 15, 3) := dk_167 0 15 (dk_at dksX10_hasBy_0 6 rfl rfl)
theorem dX10_hasBy_9 : decode cX10_hasBy 9 = .ok (.iload_n 0, 1) := dk_26 (dk_at dksX10_hasBy_0 9 rfl rfl)
theorem dX10_hasBy_10 : decode cX10_hasBy 10 = .ok (.iload_n 1, 1) := dk_27 (dk_at dksX10_hasBy_0 10 rfl rfl)
theorem dX10_hasBy_11 : decode cX10_hasBy 11 = .ok (.if_icmp .ne 9, 3) := dk_160 0 9 (dk_at dksX10_hasBy_0 11 rfl rfl)
theorem dX10_hasBy_14 : decode cX10_hasBy 14 = .ok (.iload_n 2, 1) := dk_28 (dk_at dksX10_hasBy_0 14 rfl rfl)
theorem dX10_hasBy_15 : decode cX10_hasBy 15 = .ok (.iconst 2, 1) := dk_5 (dk_at dksX10_hasBy_0 15 rfl rfl)
theorem dX10_hasBy_16 : decode cX10_hasBy 16 = .ok (.idiv, 1) := dk_108 (dk_at dksX10_hasBy_0 16 rfl rfl)
theorem dX10_hasBy_17 : decode cX10_hasBy 17 = .ok (.goto 4, 3) := dk_167 0 4 (dk_at dksX10_hasBy_0 17 rfl rfl)
theorem dX10_hasBy_20 : decode cX10_hasBy 20 = .ok (.iconst 0, 1) := dk_3 (dk_at dksX10_hasBy_0 20 rfl rfl)
theorem dX10_hasBy_21 : decode cX10_hasBy 21 = .ok (.iload_n 3, 1) := dk_29 (dk_at dksX10_hasBy_0 21 rfl rfl)
theorem dX10_hasBy_22 : decode cX10_hasBy 22 = .ok (.iload_n 0, 1) := dk_26 (dk_at dksX10_hasBy_0 22 rfl rfl)
theorem dX10_hasBy_23 : decode cX10_hasBy 23 = .ok (.imul, 1) := dk_104 (dk_at dksX10_hasBy_0 23 rfl rfl)
theorem dX10_hasBy_24 : decode cX10_hasBy 24 = .ok (.isub, 1) := dk_100 (dk_at dksX10_hasBy_1 0 rfl rfl)
theorem dX10_hasBy_25 : decode cX10_hasBy 25 = .ok (.ireturn, 1) := dk_172 (dk_at dksX10_hasBy_1 1 rfl rfl)
abbrev cX10_some : ByteArray := prog_32_method_97_code
def yX10_some : MethodName := ⟨RX10, "some", "(IIII)J"⟩
def dkwX10_some_10 : List UInt8 := [167, 255, 234, 21, 4, 154, 0, 11, 22, 5, 22, 9, 109, 167, 0, 8, 22, 7, 22, 9, 109, 173]
abbrev dktX10_some_10 : List UInt8 := dkwX10_some_10 ++ []
def dkwX10_some_9 : List UInt8 := [22, 11, 9, 148, 153, 0, 21, 22, 9, 22, 11, 113, 55, 13, 22, 11, 55, 9, 22, 13, 55, 11]
abbrev dktX10_some_9 : List UInt8 := dkwX10_some_9 ++ dktX10_some_10
def dkwX10_some_8 : List UInt8 := [180, 0, 88, 21, 9, 47, 97, 55, 5, 132, 9, 1, 167, 255, 234, 22, 7, 55, 9, 22, 5, 55, 11]
abbrev dktX10_some_8 : List UInt8 := dkwX10_some_8 ++ dktX10_some_9
def dkwX10_some_7 : List UInt8 := [55, 5, 10, 7, 27, 104, 121, 55, 7, 28, 54, 9, 21, 9, 16, 14, 162, 0, 21, 22, 5, 42]
abbrev dktX10_some_7 : List UInt8 := dkwX10_some_7 ++ dktX10_some_8
def dkwX10_some_6 : List UInt8 := [100, 47, 29, 133, 105, 167, 0, 4, 9, 97, 80, 132, 6, 255, 167, 255, 206, 132, 5, 1, 167, 255, 190, 9]
abbrev dktX10_some_6 : List UInt8 := dkwX10_some_6 ++ dktX10_some_7
def dkwX10_some_5 : List UInt8 := [180, 0, 88, 21, 6, 47, 16, 16, 29, 100, 133, 105, 21, 6, 158, 0, 18, 42, 180, 0, 88, 21, 6, 4]
abbrev dktX10_some_5 : List UInt8 := dkwX10_some_5 ++ dktX10_some_6
def dkwX10_some_4 : List UInt8 := [54, 5, 21, 5, 27, 162, 0, 66, 16, 13, 54, 6, 21, 6, 155, 0, 51, 42, 180, 0, 88, 21, 6, 42]
abbrev dktX10_some_4 : List UInt8 := dkwX10_some_4 ++ dktX10_some_5
def dkwX10_some_3 : List UInt8 := [42, 180, 0, 88, 21, 5, 21, 5, 154, 0, 7, 10, 167, 0, 4, 9, 80, 132, 5, 1, 167, 255, 229, 3]
abbrev dktX10_some_3 : List UInt8 := dkwX10_some_3 ++ dktX10_some_4
def dkwX10_some_2 : List UInt8 := [167, 0, 4, 3, 4, 4, 182, 0, 178, 153, 0, 5, 9, 173, 3, 54, 5, 21, 5, 16, 14, 162, 0, 26]
abbrev dktX10_some_2 : List UInt8 := dkwX10_some_2 ++ dktX10_some_3
def dkwX10_some_1 : List UInt8 := [153, 0, 23, 29, 3, 16, 16, 184, 0, 132, 153, 0, 13, 21, 4, 3, 4, 184, 0, 132, 154, 0, 7, 4]
abbrev dktX10_some_1 : List UInt8 := dkwX10_some_1 ++ dktX10_some_2
def dkwX10_some_0 : List UInt8 := [42, 3, 181, 0, 98, 42, 27, 3, 16, 12, 184, 0, 132, 153, 0, 33, 28, 3, 16, 13, 184, 0, 132]
abbrev dktX10_some_0 : List UInt8 := dkwX10_some_0 ++ dktX10_some_1
theorem dksX10_some_0 : cX10_some.data.toList.drop 0 = dktX10_some_0 := by decide +kernel
theorem dksX10_some_1 : cX10_some.data.toList.drop 23 = dktX10_some_1 := dk_seg dksX10_some_0 23 rfl rfl
theorem dksX10_some_2 : cX10_some.data.toList.drop 47 = dktX10_some_2 := dk_seg dksX10_some_1 24 rfl rfl
theorem dksX10_some_3 : cX10_some.data.toList.drop 71 = dktX10_some_3 := dk_seg dksX10_some_2 24 rfl rfl
theorem dksX10_some_4 : cX10_some.data.toList.drop 95 = dktX10_some_4 := dk_seg dksX10_some_3 24 rfl rfl
theorem dksX10_some_5 : cX10_some.data.toList.drop 119 = dktX10_some_5 := dk_seg dksX10_some_4 24 rfl rfl
theorem dksX10_some_6 : cX10_some.data.toList.drop 143 = dktX10_some_6 := dk_seg dksX10_some_5 24 rfl rfl
theorem dksX10_some_7 : cX10_some.data.toList.drop 167 = dktX10_some_7 := dk_seg dksX10_some_6 24 rfl rfl
theorem dksX10_some_8 : cX10_some.data.toList.drop 189 = dktX10_some_8 := dk_seg dksX10_some_7 22 rfl rfl
theorem dksX10_some_9 : cX10_some.data.toList.drop 212 = dktX10_some_9 := dk_seg dksX10_some_8 23 rfl rfl
theorem dksX10_some_10 : cX10_some.data.toList.drop 234 = dktX10_some_10 := dk_seg dksX10_some_9 22 rfl rfl
theorem dX10_some_0 : decode cX10_some 0 = .ok (.aload_n 0, 1) := dk_42 (dk_at dksX10_some_0 0 rfl rfl)
theorem dX10_some_1 : decode cX10_some 1 = .ok (.iconst 0, 1) := dk_3 (dk_at dksX10_some_0 1 rfl rfl)
theorem dX10_some_2 : decode cX10_some 2 = .ok (.putfield 98, 3) := dk_181 0 98 (dk_at dksX10_some_0 2 rfl rfl)
theorem dX10_some_5 : decode cX10_some 5 = .ok (.aload_n 0, 1) := dk_42 (dk_at dksX10_some_0 5 rfl rfl)
theorem dX10_some_6 : decode cX10_some 6 = .ok (.iload_n 1, 1) := dk_27 (dk_at dksX10_some_0 6 rfl rfl)
theorem dX10_some_7 : decode cX10_some 7 = .ok (.iconst 0, 1) := dk_3 (dk_at dksX10_some_0 7 rfl rfl)
theorem dX10_some_8 : decode cX10_some 8 = .ok (.bipush 12, 2) := dk_16 12 (dk_at dksX10_some_0 8 rfl rfl)
theorem dX10_some_10 : decode cX10_some 10 = .ok (.invokestatic 132, 3) := dk_184 0 132 (dk_at dksX10_some_0 10 rfl rfl)
theorem dX10_some_13 : decode cX10_some 13 = .ok (.ifCond .eq 33, 3) := dk_153 0 33 (dk_at dksX10_some_0 13 rfl rfl)
theorem dX10_some_16 : decode cX10_some 16 = .ok (.iload_n 2, 1) := dk_28 (dk_at dksX10_some_0 16 rfl rfl)
theorem dX10_some_17 : decode cX10_some 17 = .ok (.iconst 0, 1) := dk_3 (dk_at dksX10_some_0 17 rfl rfl)
theorem dX10_some_18 : decode cX10_some 18 = .ok (.bipush 13, 2) := dk_16 13 (dk_at dksX10_some_0 18 rfl rfl)
theorem dX10_some_20 : decode cX10_some 20 = .ok (.invokestatic 132, 3) := dk_184 0 132 (dk_at dksX10_some_0 20 rfl rfl)
theorem dX10_some_23 : decode cX10_some 23 = .ok (.ifCond .eq 23, 3) := dk_153 0 23 (dk_at dksX10_some_1 0 rfl rfl)
theorem dX10_some_26 : decode cX10_some 26 = .ok (.iload_n 3, 1) := dk_29 (dk_at dksX10_some_1 3 rfl rfl)
theorem dX10_some_27 : decode cX10_some 27 = .ok (.iconst 0, 1) := dk_3 (dk_at dksX10_some_1 4 rfl rfl)
theorem dX10_some_28 : decode cX10_some 28 = .ok (.bipush 16, 2) := dk_16 16 (dk_at dksX10_some_1 5 rfl rfl)
theorem dX10_some_30 : decode cX10_some 30 = .ok (.invokestatic 132, 3) := dk_184 0 132 (dk_at dksX10_some_1 7 rfl rfl)
theorem dX10_some_33 : decode cX10_some 33 = .ok (.ifCond .eq 13, 3) := dk_153 0 13 (dk_at dksX10_some_1 10 rfl rfl)
theorem dX10_some_36 : decode cX10_some 36 = .ok (.iload 4, 2) := dk_21 4 (dk_at dksX10_some_1 13 rfl rfl)
theorem dX10_some_38 : decode cX10_some 38 = .ok (.iconst 0, 1) := dk_3 (dk_at dksX10_some_1 15 rfl rfl)
theorem dX10_some_39 : decode cX10_some 39 = .ok (.iconst 1, 1) := dk_4 (dk_at dksX10_some_1 16 rfl rfl)
theorem dX10_some_40 : decode cX10_some 40 = .ok (.invokestatic 132, 3) := dk_184 0 132 (dk_at dksX10_some_1 17 rfl rfl)
theorem dX10_some_43 : decode cX10_some 43 = .ok (.ifCond .ne 7, 3) := dk_154 0 7 (dk_at dksX10_some_1 20 rfl rfl)
theorem dX10_some_46 : decode cX10_some 46 = .ok (.iconst 1, 1) := dk_4 (dk_at dksX10_some_1 23 rfl rfl)
theorem dX10_some_47 : decode cX10_some 47 = .ok (.goto 4, 3) := dk_167 0 4 (dk_at dksX10_some_2 0 rfl rfl)
theorem dX10_some_50 : decode cX10_some 50 = .ok (.iconst 0, 1) := dk_3 (dk_at dksX10_some_2 3 rfl rfl)
theorem dX10_some_51 : decode cX10_some 51 = .ok (.iconst 1, 1) := dk_4 (dk_at dksX10_some_2 4 rfl rfl)
theorem dX10_some_52 : decode cX10_some 52 = .ok (.iconst 1, 1) := dk_4 (dk_at dksX10_some_2 5 rfl rfl)
theorem dX10_some_53 : decode cX10_some 53 = .ok (.invokevirtual 178, 3) := dk_182 0 178 (dk_at dksX10_some_2 6 rfl rfl)
theorem dX10_some_56 : decode cX10_some 56 = .ok (.ifCond .eq 5, 3) := dk_153 0 5 (dk_at dksX10_some_2 9 rfl rfl)
theorem dX10_some_59 : decode cX10_some 59 = .ok (.lconst 0, 1) := dk_9 (dk_at dksX10_some_2 12 rfl rfl)
theorem dX10_some_60 : decode cX10_some 60 = .ok (.lreturn, 1) := dk_173 (dk_at dksX10_some_2 13 rfl rfl)
theorem dX10_some_61 : decode cX10_some 61 = .ok (.iconst 0, 1) := dk_3 (dk_at dksX10_some_2 14 rfl rfl)
theorem dX10_some_62 : decode cX10_some 62 = .ok (.istore 5, 2) := dk_54 5 (dk_at dksX10_some_2 15 rfl rfl)
theorem dX10_some_64 : decode cX10_some 64 = .ok (.iload 5, 2) := dk_21 5 (dk_at dksX10_some_2 17 rfl rfl)
theorem dX10_some_66 : decode cX10_some 66 = .ok (.bipush 14, 2) := dk_16 14 (dk_at dksX10_some_2 19 rfl rfl)
theorem dX10_some_68 : decode cX10_some 68 = .ok (.if_icmp .ge 26, 3) := dk_162 0 26 (dk_at dksX10_some_2 21 rfl rfl)
theorem dX10_some_71 : decode cX10_some 71 = .ok (.aload_n 0, 1) := dk_42 (dk_at dksX10_some_3 0 rfl rfl)
theorem dX10_some_72 : decode cX10_some 72 = .ok (.getfield 88, 3) := dk_180 0 88 (dk_at dksX10_some_3 1 rfl rfl)
theorem dX10_some_75 : decode cX10_some 75 = .ok (.iload 5, 2) := dk_21 5 (dk_at dksX10_some_3 4 rfl rfl)
theorem dX10_some_77 : decode cX10_some 77 = .ok (.iload 5, 2) := dk_21 5 (dk_at dksX10_some_3 6 rfl rfl)
theorem dX10_some_79 : decode cX10_some 79 = .ok (.ifCond .ne 7, 3) := dk_154 0 7 (dk_at dksX10_some_3 8 rfl rfl)
theorem dX10_some_82 : decode cX10_some 82 = .ok (.lconst 1, 1) := dk_10 (dk_at dksX10_some_3 11 rfl rfl)
theorem dX10_some_83 : decode cX10_some 83 = .ok (.goto 4, 3) := dk_167 0 4 (dk_at dksX10_some_3 12 rfl rfl)
theorem dX10_some_86 : decode cX10_some 86 = .ok (.lconst 0, 1) := dk_9 (dk_at dksX10_some_3 15 rfl rfl)
theorem dX10_some_87 : decode cX10_some 87 = .ok (.lastore, 1) := dk_80 (dk_at dksX10_some_3 16 rfl rfl)
theorem dX10_some_88 : decode cX10_some 88 = .ok (.iinc 5 1, 3) := dk_132 5 1 (dk_at dksX10_some_3 17 rfl rfl)
theorem dX10_some_91 : decode cX10_some 91 = .ok (.goto (-27), 3) := dk_167 255 229 (dk_at dksX10_some_3 20 rfl rfl)
theorem dX10_some_94 : decode cX10_some 94 = .ok (.iconst 0, 1) := dk_3 (dk_at dksX10_some_3 23 rfl rfl)
theorem dX10_some_95 : decode cX10_some 95 = .ok (.istore 5, 2) := dk_54 5 (dk_at dksX10_some_4 0 rfl rfl)
theorem dX10_some_97 : decode cX10_some 97 = .ok (.iload 5, 2) := dk_21 5 (dk_at dksX10_some_4 2 rfl rfl)
theorem dX10_some_99 : decode cX10_some 99 = .ok (.iload_n 1, 1) := dk_27 (dk_at dksX10_some_4 4 rfl rfl)
theorem dX10_some_100 : decode cX10_some 100 = .ok (.if_icmp .ge 66, 3) := dk_162 0 66 (dk_at dksX10_some_4 5 rfl rfl)
theorem dX10_some_103 : decode cX10_some 103 = .ok (.bipush 13, 2) := dk_16 13 (dk_at dksX10_some_4 8 rfl rfl)
theorem dX10_some_105 : decode cX10_some 105 = .ok (.istore 6, 2) := dk_54 6 (dk_at dksX10_some_4 10 rfl rfl)
theorem dX10_some_107 : decode cX10_some 107 = .ok (.iload 6, 2) := dk_21 6 (dk_at dksX10_some_4 12 rfl rfl)
theorem dX10_some_109 : decode cX10_some 109 = .ok (.ifCond .lt 51, 3) := dk_155 0 51 (dk_at dksX10_some_4 14 rfl rfl)
theorem dX10_some_112 : decode cX10_some 112 = .ok (.aload_n 0, 1) := dk_42 (dk_at dksX10_some_4 17 rfl rfl)
theorem dX10_some_113 : decode cX10_some 113 = .ok (.getfield 88, 3) := dk_180 0 88 (dk_at dksX10_some_4 18 rfl rfl)
theorem dX10_some_116 : decode cX10_some 116 = .ok (.iload 6, 2) := dk_21 6 (dk_at dksX10_some_4 21 rfl rfl)
theorem dX10_some_118 : decode cX10_some 118 = .ok (.aload_n 0, 1) := dk_42 (dk_at dksX10_some_4 23 rfl rfl)
theorem dX10_some_119 : decode cX10_some 119 = .ok (.getfield 88, 3) := dk_180 0 88 (dk_at dksX10_some_5 0 rfl rfl)
theorem dX10_some_122 : decode cX10_some 122 = .ok (.iload 6, 2) := dk_21 6 (dk_at dksX10_some_5 3 rfl rfl)
theorem dX10_some_124 : decode cX10_some 124 = .ok (.laload, 1) := dk_47 (dk_at dksX10_some_5 5 rfl rfl)
theorem dX10_some_125 : decode cX10_some 125 = .ok (.bipush 16, 2) := dk_16 16 (dk_at dksX10_some_5 6 rfl rfl)
theorem dX10_some_127 : decode cX10_some 127 = .ok (.iload_n 3, 1) := dk_29 (dk_at dksX10_some_5 8 rfl rfl)
theorem dX10_some_128 : decode cX10_some 128 = .ok (.isub, 1) := dk_100 (dk_at dksX10_some_5 9 rfl rfl)
theorem dX10_some_129 : decode cX10_some 129 = .ok (.i2l, 1) := dk_133 (dk_at dksX10_some_5 10 rfl rfl)
theorem dX10_some_130 : decode cX10_some 130 = .ok (.lmul, 1) := dk_105 (dk_at dksX10_some_5 11 rfl rfl)
theorem dX10_some_131 : decode cX10_some 131 = .ok (.iload 6, 2) := dk_21 6 (dk_at dksX10_some_5 12 rfl rfl)
theorem dX10_some_133 : decode cX10_some 133 = .ok (.ifCond .le 18, 3) := dk_158 0 18 (dk_at dksX10_some_5 14 rfl rfl)
theorem dX10_some_136 : decode cX10_some 136 = .ok (.aload_n 0, 1) := dk_42 (dk_at dksX10_some_5 17 rfl rfl)
theorem dX10_some_137 : decode cX10_some 137 = .ok (.getfield 88, 3) := dk_180 0 88 (dk_at dksX10_some_5 18 rfl rfl)
theorem dX10_some_140 : decode cX10_some 140 = .ok (.iload 6, 2) := dk_21 6 (dk_at dksX10_some_5 21 rfl rfl)
theorem dX10_some_142 : decode cX10_some 142 = .ok (.iconst 1, 1) := dk_4 (dk_at dksX10_some_5 23 rfl rfl)
theorem dX10_some_143 : decode cX10_some 143 = .ok (.isub, 1) := dk_100 (dk_at dksX10_some_6 0 rfl rfl)
theorem dX10_some_144 : decode cX10_some 144 = .ok (.laload, 1) := dk_47 (dk_at dksX10_some_6 1 rfl rfl)
theorem dX10_some_145 : decode cX10_some 145 = .ok (.iload_n 3, 1) := dk_29 (dk_at dksX10_some_6 2 rfl rfl)
theorem dX10_some_146 : decode cX10_some 146 = .ok (.i2l, 1) := dk_133 (dk_at dksX10_some_6 3 rfl rfl)
theorem dX10_some_147 : decode cX10_some 147 = .ok (.lmul, 1) := dk_105 (dk_at dksX10_some_6 4 rfl rfl)
theorem dX10_some_148 : decode cX10_some 148 = .ok (.goto 4, 3) := dk_167 0 4 (dk_at dksX10_some_6 5 rfl rfl)
theorem dX10_some_151 : decode cX10_some 151 = .ok (.lconst 0, 1) := dk_9 (dk_at dksX10_some_6 8 rfl rfl)
theorem dX10_some_152 : decode cX10_some 152 = .ok (.ladd, 1) := dk_97 (dk_at dksX10_some_6 9 rfl rfl)
theorem dX10_some_153 : decode cX10_some 153 = .ok (.lastore, 1) := dk_80 (dk_at dksX10_some_6 10 rfl rfl)
theorem dX10_some_154 : decode cX10_some 154 = .ok (.iinc 6 (-1), 3) := dk_132 6 255 (dk_at dksX10_some_6 11 rfl rfl)
theorem dX10_some_157 : decode cX10_some 157 = .ok (.goto (-50), 3) := dk_167 255 206 (dk_at dksX10_some_6 14 rfl rfl)
theorem dX10_some_160 : decode cX10_some 160 = .ok (.iinc 5 1, 3) := dk_132 5 1 (dk_at dksX10_some_6 17 rfl rfl)
theorem dX10_some_163 : decode cX10_some 163 = .ok (.goto (-66), 3) := dk_167 255 190 (dk_at dksX10_some_6 20 rfl rfl)
theorem dX10_some_166 : decode cX10_some 166 = .ok (.lconst 0, 1) := dk_9 (dk_at dksX10_some_6 23 rfl rfl)
theorem dX10_some_167 : decode cX10_some 167 = .ok (.lstore 5, 2) := dk_55 5 (dk_at dksX10_some_7 0 rfl rfl)
theorem dX10_some_169 : decode cX10_some 169 = .ok (.lconst 1, 1) := dk_10 (dk_at dksX10_some_7 2 rfl rfl)
theorem dX10_some_170 : decode cX10_some 170 = .ok (.iconst 4, 1) := dk_7 (dk_at dksX10_some_7 3 rfl rfl)
theorem dX10_some_171 : decode cX10_some 171 = .ok (.iload_n 1, 1) := dk_27 (dk_at dksX10_some_7 4 rfl rfl)
theorem dX10_some_172 : decode cX10_some 172 = .ok (.imul, 1) := dk_104 (dk_at dksX10_some_7 5 rfl rfl)
theorem dX10_some_173 : decode cX10_some 173 = .ok (.lshl, 1) := dk_121 (dk_at dksX10_some_7 6 rfl rfl)
theorem dX10_some_174 : decode cX10_some 174 = .ok (.lstore 7, 2) := dk_55 7 (dk_at dksX10_some_7 7 rfl rfl)
theorem dX10_some_176 : decode cX10_some 176 = .ok (.iload_n 2, 1) := dk_28 (dk_at dksX10_some_7 9 rfl rfl)
theorem dX10_some_177 : decode cX10_some 177 = .ok (.istore 9, 2) := dk_54 9 (dk_at dksX10_some_7 10 rfl rfl)
theorem dX10_some_179 : decode cX10_some 179 = .ok (.iload 9, 2) := dk_21 9 (dk_at dksX10_some_7 12 rfl rfl)
theorem dX10_some_181 : decode cX10_some 181 = .ok (.bipush 14, 2) := dk_16 14 (dk_at dksX10_some_7 14 rfl rfl)
theorem dX10_some_183 : decode cX10_some 183 = .ok (.if_icmp .ge 21, 3) := dk_162 0 21 (dk_at dksX10_some_7 16 rfl rfl)
theorem dX10_some_186 : decode cX10_some 186 = .ok (.lload 5, 2) := dk_22 5 (dk_at dksX10_some_7 19 rfl rfl)
theorem dX10_some_188 : decode cX10_some 188 = .ok (.aload_n 0, 1) := dk_42 (dk_at dksX10_some_7 21 rfl rfl)
theorem dX10_some_189 : decode cX10_some 189 = .ok (.getfield 88, 3) := dk_180 0 88 (dk_at dksX10_some_8 0 rfl rfl)
theorem dX10_some_192 : decode cX10_some 192 = .ok (.iload 9, 2) := dk_21 9 (dk_at dksX10_some_8 3 rfl rfl)
theorem dX10_some_194 : decode cX10_some 194 = .ok (.laload, 1) := dk_47 (dk_at dksX10_some_8 5 rfl rfl)
theorem dX10_some_195 : decode cX10_some 195 = .ok (.ladd, 1) := dk_97 (dk_at dksX10_some_8 6 rfl rfl)
theorem dX10_some_196 : decode cX10_some 196 = .ok (.lstore 5, 2) := dk_55 5 (dk_at dksX10_some_8 7 rfl rfl)
theorem dX10_some_198 : decode cX10_some 198 = .ok (.iinc 9 1, 3) := dk_132 9 1 (dk_at dksX10_some_8 9 rfl rfl)
theorem dX10_some_201 : decode cX10_some 201 = .ok (.goto (-22), 3) := dk_167 255 234 (dk_at dksX10_some_8 12 rfl rfl)
theorem dX10_some_204 : decode cX10_some 204 = .ok (.lload 7, 2) := dk_22 7 (dk_at dksX10_some_8 15 rfl rfl)
theorem dX10_some_206 : decode cX10_some 206 = .ok (.lstore 9, 2) := dk_55 9 (dk_at dksX10_some_8 17 rfl rfl)
theorem dX10_some_208 : decode cX10_some 208 = .ok (.lload 5, 2) := dk_22 5 (dk_at dksX10_some_8 19 rfl rfl)
theorem dX10_some_210 : decode cX10_some 210 = .ok (.lstore 11, 2) := dk_55 11 (dk_at dksX10_some_8 21 rfl rfl)
theorem dX10_some_212 : decode cX10_some 212 = .ok (.lload 11, 2) := dk_22 11 (dk_at dksX10_some_9 0 rfl rfl)
theorem dX10_some_214 : decode cX10_some 214 = .ok (.lconst 0, 1) := dk_9 (dk_at dksX10_some_9 2 rfl rfl)
theorem dX10_some_215 : decode cX10_some 215 = .ok (.lcmp, 1) := dk_148 (dk_at dksX10_some_9 3 rfl rfl)
theorem dX10_some_216 : decode cX10_some 216 = .ok (.ifCond .eq 21, 3) := dk_153 0 21 (dk_at dksX10_some_9 4 rfl rfl)
theorem dX10_some_219 : decode cX10_some 219 = .ok (.lload 9, 2) := dk_22 9 (dk_at dksX10_some_9 7 rfl rfl)
theorem dX10_some_221 : decode cX10_some 221 = .ok (.lload 11, 2) := dk_22 11 (dk_at dksX10_some_9 9 rfl rfl)
theorem dX10_some_223 : decode cX10_some 223 = .ok (.lrem, 1) := dk_113 (dk_at dksX10_some_9 11 rfl rfl)
theorem dX10_some_224 : decode cX10_some 224 = .ok (.lstore 13, 2) := dk_55 13 (dk_at dksX10_some_9 12 rfl rfl)
theorem dX10_some_226 : decode cX10_some 226 = .ok (.lload 11, 2) := dk_22 11 (dk_at dksX10_some_9 14 rfl rfl)
theorem dX10_some_228 : decode cX10_some 228 = .ok (.lstore 9, 2) := dk_55 9 (dk_at dksX10_some_9 16 rfl rfl)
theorem dX10_some_230 : decode cX10_some 230 = .ok (.lload 13, 2) := dk_22 13 (dk_at dksX10_some_9 18 rfl rfl)
theorem dX10_some_232 : decode cX10_some 232 = .ok (.lstore 11, 2) := dk_55 11 (dk_at dksX10_some_9 20 rfl rfl)
theorem dX10_some_234 : decode cX10_some 234 = .ok (.goto (-22), 3) := dk_167 255 234 (dk_at dksX10_some_10 0 rfl rfl)
theorem dX10_some_237 : decode cX10_some 237 = .ok (.iload 4, 2) := dk_21 4 (dk_at dksX10_some_10 3 rfl rfl)
theorem dX10_some_239 : decode cX10_some 239 = .ok (.ifCond .ne 11, 3) := dk_154 0 11 (dk_at dksX10_some_10 5 rfl rfl)
theorem dX10_some_242 : decode cX10_some 242 = .ok (.lload 5, 2) := dk_22 5 (dk_at dksX10_some_10 8 rfl rfl)
theorem dX10_some_244 : decode cX10_some 244 = .ok (.lload 9, 2) := dk_22 9 (dk_at dksX10_some_10 10 rfl rfl)
theorem dX10_some_246 : decode cX10_some 246 = .ok (.ldiv, 1) := dk_109 (dk_at dksX10_some_10 12 rfl rfl)
theorem dX10_some_247 : decode cX10_some 247 = .ok (.goto 8, 3) := dk_167 0 8 (dk_at dksX10_some_10 13 rfl rfl)
theorem dX10_some_250 : decode cX10_some 250 = .ok (.lload 7, 2) := dk_22 7 (dk_at dksX10_some_10 16 rfl rfl)
theorem dX10_some_252 : decode cX10_some 252 = .ok (.lload 9, 2) := dk_22 9 (dk_at dksX10_some_10 18 rfl rfl)
theorem dX10_some_254 : decode cX10_some 254 = .ok (.ldiv, 1) := dk_109 (dk_at dksX10_some_10 20 rfl rfl)
theorem dX10_some_255 : decode cX10_some 255 = .ok (.lreturn, 1) := dk_173 (dk_at dksX10_some_10 21 rfl rfl)
abbrev cX10_share : ByteArray := prog_32_method_99_code
def yX10_share : MethodName := ⟨RX10, "share", "(III)I"⟩
def dkwX10_share_5 : List UInt8 := [46, 184, 0, 241, 167, 0, 4, 3, 172]
abbrev dktX10_share_5 : List UInt8 := dkwX10_share_5 ++ []
def dkwX10_share_4 : List UInt8 := [132, 4, 1, 167, 255, 233, 28, 27, 184, 1, 4, 153, 0, 20, 21, 4, 42, 180, 0, 67, 16, 7, 27, 96]
abbrev dktX10_share_4 : List UInt8 := dkwX10_share_4 ++ dktX10_share_5
def dkwX10_share_3 : List UInt8 := [3, 54, 4, 21, 4, 16, 99, 162, 0, 22, 42, 28, 21, 4, 4, 96, 182, 1, 115, 29, 163, 0, 9]
abbrev dktX10_share_3 : List UInt8 := dkwX10_share_3 ++ dktX10_share_4
def dkwX10_share_2 : List UInt8 := [17, 3, 231, 184, 0, 132, 154, 0, 7, 4, 167, 0, 4, 3, 5, 4, 182, 0, 178, 153, 0, 5, 3, 172]
abbrev dktX10_share_2 : List UInt8 := dkwX10_share_2 ++ dktX10_share_3
def dkwX10_share_1 : List UInt8 := [154, 0, 46, 42, 28, 3, 4, 42, 180, 0, 23, 3, 46, 120, 4, 100, 184, 0, 132, 153, 0, 14, 29, 3]
abbrev dktX10_share_1 : List UInt8 := dkwX10_share_1 ++ dktX10_share_2
def dkwX10_share_0 : List UInt8 := [42, 3, 181, 0, 98, 42, 42, 27, 182, 1, 69, 154, 0, 7, 4, 167, 0, 4, 3, 4, 3, 182, 0, 178]
abbrev dktX10_share_0 : List UInt8 := dkwX10_share_0 ++ dktX10_share_1
theorem dksX10_share_0 : cX10_share.data.toList.drop 0 = dktX10_share_0 := by decide +kernel
theorem dksX10_share_1 : cX10_share.data.toList.drop 24 = dktX10_share_1 := dk_seg dksX10_share_0 24 rfl rfl
theorem dksX10_share_2 : cX10_share.data.toList.drop 48 = dktX10_share_2 := dk_seg dksX10_share_1 24 rfl rfl
theorem dksX10_share_3 : cX10_share.data.toList.drop 72 = dktX10_share_3 := dk_seg dksX10_share_2 24 rfl rfl
theorem dksX10_share_4 : cX10_share.data.toList.drop 95 = dktX10_share_4 := dk_seg dksX10_share_3 23 rfl rfl
theorem dksX10_share_5 : cX10_share.data.toList.drop 119 = dktX10_share_5 := dk_seg dksX10_share_4 24 rfl rfl
theorem dX10_share_0 : decode cX10_share 0 = .ok (.aload_n 0, 1) := dk_42 (dk_at dksX10_share_0 0 rfl rfl)
theorem dX10_share_1 : decode cX10_share 1 = .ok (.iconst 0, 1) := dk_3 (dk_at dksX10_share_0 1 rfl rfl)
theorem dX10_share_2 : decode cX10_share 2 = .ok (.putfield 98, 3) := dk_181 0 98 (dk_at dksX10_share_0 2 rfl rfl)
theorem dX10_share_5 : decode cX10_share 5 = .ok (.aload_n 0, 1) := dk_42 (dk_at dksX10_share_0 5 rfl rfl)
theorem dX10_share_6 : decode cX10_share 6 = .ok (.aload_n 0, 1) := dk_42 (dk_at dksX10_share_0 6 rfl rfl)
theorem dX10_share_7 : decode cX10_share 7 = .ok (.iload_n 1, 1) := dk_27 (dk_at dksX10_share_0 7 rfl rfl)
theorem dX10_share_8 : decode cX10_share 8 = .ok (.invokevirtual 325, 3) := dk_182 1 69 (dk_at dksX10_share_0 8 rfl rfl)
theorem dX10_share_11 : decode cX10_share 11 = .ok (.ifCond .ne 7, 3) := dk_154 0 7 (dk_at dksX10_share_0 11 rfl rfl)
theorem dX10_share_14 : decode cX10_share 14 = .ok (.iconst 1, 1) := dk_4 (dk_at dksX10_share_0 14 rfl rfl)
theorem dX10_share_15 : decode cX10_share 15 = .ok (.goto 4, 3) := dk_167 0 4 (dk_at dksX10_share_0 15 rfl rfl)
theorem dX10_share_18 : decode cX10_share 18 = .ok (.iconst 0, 1) := dk_3 (dk_at dksX10_share_0 18 rfl rfl)
theorem dX10_share_19 : decode cX10_share 19 = .ok (.iconst 1, 1) := dk_4 (dk_at dksX10_share_0 19 rfl rfl)
theorem dX10_share_20 : decode cX10_share 20 = .ok (.iconst 0, 1) := dk_3 (dk_at dksX10_share_0 20 rfl rfl)
theorem dX10_share_21 : decode cX10_share 21 = .ok (.invokevirtual 178, 3) := dk_182 0 178 (dk_at dksX10_share_0 21 rfl rfl)
theorem dX10_share_24 : decode cX10_share 24 = .ok (.ifCond .ne 46, 3) := dk_154 0 46 (dk_at dksX10_share_1 0 rfl rfl)
theorem dX10_share_27 : decode cX10_share 27 = .ok (.aload_n 0, 1) := dk_42 (dk_at dksX10_share_1 3 rfl rfl)
theorem dX10_share_28 : decode cX10_share 28 = .ok (.iload_n 2, 1) := dk_28 (dk_at dksX10_share_1 4 rfl rfl)
theorem dX10_share_29 : decode cX10_share 29 = .ok (.iconst 0, 1) := dk_3 (dk_at dksX10_share_1 5 rfl rfl)
theorem dX10_share_30 : decode cX10_share 30 = .ok (.iconst 1, 1) := dk_4 (dk_at dksX10_share_1 6 rfl rfl)
theorem dX10_share_31 : decode cX10_share 31 = .ok (.aload_n 0, 1) := dk_42 (dk_at dksX10_share_1 7 rfl rfl)
theorem dX10_share_32 : decode cX10_share 32 = .ok (.getfield 23, 3) := dk_180 0 23 (dk_at dksX10_share_1 8 rfl rfl)
theorem dX10_share_35 : decode cX10_share 35 = .ok (.iconst 0, 1) := dk_3 (dk_at dksX10_share_1 11 rfl rfl)
theorem dX10_share_36 : decode cX10_share 36 = .ok (.iaload, 1) := dk_46 (dk_at dksX10_share_1 12 rfl rfl)
theorem dX10_share_37 : decode cX10_share 37 = .ok (.ishl, 1) := dk_120 (dk_at dksX10_share_1 13 rfl rfl)
theorem dX10_share_38 : decode cX10_share 38 = .ok (.iconst 1, 1) := dk_4 (dk_at dksX10_share_1 14 rfl rfl)
theorem dX10_share_39 : decode cX10_share 39 = .ok (.isub, 1) := dk_100 (dk_at dksX10_share_1 15 rfl rfl)
theorem dX10_share_40 : decode cX10_share 40 = .ok (.invokestatic 132, 3) := dk_184 0 132 (dk_at dksX10_share_1 16 rfl rfl)
theorem dX10_share_43 : decode cX10_share 43 = .ok (.ifCond .eq 14, 3) := dk_153 0 14 (dk_at dksX10_share_1 19 rfl rfl)
theorem dX10_share_46 : decode cX10_share 46 = .ok (.iload_n 3, 1) := dk_29 (dk_at dksX10_share_1 22 rfl rfl)
theorem dX10_share_47 : decode cX10_share 47 = .ok (.iconst 0, 1) := dk_3 (dk_at dksX10_share_1 23 rfl rfl)
theorem dX10_share_48 : decode cX10_share 48 = .ok (.sipush 999, 3) := dk_17 3 231 (dk_at dksX10_share_2 0 rfl rfl)
theorem dX10_share_51 : decode cX10_share 51 = .ok (.invokestatic 132, 3) := dk_184 0 132 (dk_at dksX10_share_2 3 rfl rfl)
theorem dX10_share_54 : decode cX10_share 54 = .ok (.ifCond .ne 7, 3) := dk_154 0 7 (dk_at dksX10_share_2 6 rfl rfl)
theorem dX10_share_57 : decode cX10_share 57 = .ok (.iconst 1, 1) := dk_4 (dk_at dksX10_share_2 9 rfl rfl)
theorem dX10_share_58 : decode cX10_share 58 = .ok (.goto 4, 3) := dk_167 0 4 (dk_at dksX10_share_2 10 rfl rfl)
theorem dX10_share_61 : decode cX10_share 61 = .ok (.iconst 0, 1) := dk_3 (dk_at dksX10_share_2 13 rfl rfl)
theorem dX10_share_62 : decode cX10_share 62 = .ok (.iconst 2, 1) := dk_5 (dk_at dksX10_share_2 14 rfl rfl)
theorem dX10_share_63 : decode cX10_share 63 = .ok (.iconst 1, 1) := dk_4 (dk_at dksX10_share_2 15 rfl rfl)
theorem dX10_share_64 : decode cX10_share 64 = .ok (.invokevirtual 178, 3) := dk_182 0 178 (dk_at dksX10_share_2 16 rfl rfl)
theorem dX10_share_67 : decode cX10_share 67 = .ok (.ifCond .eq 5, 3) := dk_153 0 5 (dk_at dksX10_share_2 19 rfl rfl)
theorem dX10_share_70 : decode cX10_share 70 = .ok (.iconst 0, 1) := dk_3 (dk_at dksX10_share_2 22 rfl rfl)
theorem dX10_share_71 : decode cX10_share 71 = .ok (.ireturn, 1) := dk_172 (dk_at dksX10_share_2 23 rfl rfl)
theorem dX10_share_72 : decode cX10_share 72 = .ok (.iconst 0, 1) := dk_3 (dk_at dksX10_share_3 0 rfl rfl)
theorem dX10_share_73 : decode cX10_share 73 = .ok (.istore 4, 2) := dk_54 4 (dk_at dksX10_share_3 1 rfl rfl)
theorem dX10_share_75 : decode cX10_share 75 = .ok (.iload 4, 2) := dk_21 4 (dk_at dksX10_share_3 3 rfl rfl)
theorem dX10_share_77 : decode cX10_share 77 = .ok (.bipush 99, 2) := dk_16 99 (dk_at dksX10_share_3 5 rfl rfl)
theorem dX10_share_79 : decode cX10_share 79 = .ok (.if_icmp .ge 22, 3) := dk_162 0 22 (dk_at dksX10_share_3 7 rfl rfl)
theorem dX10_share_82 : decode cX10_share 82 = .ok (.aload_n 0, 1) := dk_42 (dk_at dksX10_share_3 10 rfl rfl)
theorem dX10_share_83 : decode cX10_share 83 = .ok (.iload_n 2, 1) := dk_28 (dk_at dksX10_share_3 11 rfl rfl)
theorem dX10_share_84 : decode cX10_share 84 = .ok (.iload 4, 2) := dk_21 4 (dk_at dksX10_share_3 12 rfl rfl)
theorem dX10_share_86 : decode cX10_share 86 = .ok (.iconst 1, 1) := dk_4 (dk_at dksX10_share_3 14 rfl rfl)
theorem dX10_share_87 : decode cX10_share 87 = .ok (.iadd, 1) := dk_96 (dk_at dksX10_share_3 15 rfl rfl)
theorem dX10_share_88 : decode cX10_share 88 = .ok (.invokevirtual 371, 3) := dk_182 1 115 (dk_at dksX10_share_3 16 rfl rfl)
theorem dX10_share_91 : decode cX10_share 91 = .ok (.iload_n 3, 1) := dk_29 (dk_at dksX10_share_3 19 rfl rfl)
theorem dX10_share_92 : decode cX10_share 92 = .ok (.if_icmp .gt 9, 3) := dk_163 0 9 (dk_at dksX10_share_3 20 rfl rfl)
theorem dX10_share_95 : decode cX10_share 95 = .ok (.iinc 4 1, 3) := dk_132 4 1 (dk_at dksX10_share_4 0 rfl rfl)
theorem dX10_share_98 : decode cX10_share 98 = .ok (.goto (-23), 3) := dk_167 255 233 (dk_at dksX10_share_4 3 rfl rfl)
theorem dX10_share_101 : decode cX10_share 101 = .ok (.iload_n 2, 1) := dk_28 (dk_at dksX10_share_4 6 rfl rfl)
theorem dX10_share_102 : decode cX10_share 102 = .ok (.iload_n 1, 1) := dk_27 (dk_at dksX10_share_4 7 rfl rfl)
theorem dX10_share_103 : decode cX10_share 103 = .ok (.invokestatic 260, 3) := dk_184 1 4 (dk_at dksX10_share_4 8 rfl rfl)
theorem dX10_share_106 : decode cX10_share 106 = .ok (.ifCond .eq 20, 3) := dk_153 0 20 (dk_at dksX10_share_4 11 rfl rfl)
theorem dX10_share_109 : decode cX10_share 109 = .ok (.iload 4, 2) := dk_21 4 (dk_at dksX10_share_4 14 rfl rfl)
theorem dX10_share_111 : decode cX10_share 111 = .ok (.aload_n 0, 1) := dk_42 (dk_at dksX10_share_4 16 rfl rfl)
theorem dX10_share_112 : decode cX10_share 112 = .ok (.getfield 67, 3) := dk_180 0 67 (dk_at dksX10_share_4 17 rfl rfl)
theorem dX10_share_115 : decode cX10_share 115 = .ok (.bipush 7, 2) := dk_16 7 (dk_at dksX10_share_4 20 rfl rfl)
theorem dX10_share_117 : decode cX10_share 117 = .ok (.iload_n 1, 1) := dk_27 (dk_at dksX10_share_4 22 rfl rfl)
theorem dX10_share_118 : decode cX10_share 118 = .ok (.iadd, 1) := dk_96 (dk_at dksX10_share_4 23 rfl rfl)
theorem dX10_share_119 : decode cX10_share 119 = .ok (.iaload, 1) := dk_46 (dk_at dksX10_share_5 0 rfl rfl)
theorem dX10_share_120 : decode cX10_share 120 = .ok (.invokestatic 241, 3) := dk_184 0 241 (dk_at dksX10_share_5 1 rfl rfl)
theorem dX10_share_123 : decode cX10_share 123 = .ok (.goto 4, 3) := dk_167 0 4 (dk_at dksX10_share_5 4 rfl rfl)
theorem dX10_share_126 : decode cX10_share 126 = .ok (.iconst 0, 1) := dk_3 (dk_at dksX10_share_5 7 rfl rfl)
theorem dX10_share_127 : decode cX10_share 127 = .ok (.ireturn, 1) := dk_172 (dk_at dksX10_share_5 8 rfl rfl)
abbrev cX10_givenBy : ByteArray := prog_32_method_98_code
def yX10_givenBy : MethodName := ⟨RX10, "givenBy", "(II)I"⟩
def dkwX10_givenBy_2 : List UInt8 := [132, 4, 1, 167, 255, 212, 29, 172]
abbrev dktX10_givenBy_2 : List UInt8 := dkwX10_givenBy_2 ++ []
def dkwX10_givenBy_1 : List UInt8 := [153, 0, 20, 28, 42, 180, 0, 67, 16, 7, 21, 4, 96, 46, 184, 0, 241, 167, 0, 4, 3, 96, 62]
abbrev dktX10_givenBy_1 : List UInt8 := dkwX10_givenBy_1 ++ dktX10_givenBy_2
def dkwX10_givenBy_0 : List UInt8 := [3, 62, 3, 54, 4, 21, 4, 42, 180, 0, 23, 3, 46, 162, 0, 39, 29, 27, 21, 4, 184, 1, 4]
abbrev dktX10_givenBy_0 : List UInt8 := dkwX10_givenBy_0 ++ dktX10_givenBy_1
theorem dksX10_givenBy_0 : cX10_givenBy.data.toList.drop 0 = dktX10_givenBy_0 := by decide +kernel
theorem dksX10_givenBy_1 : cX10_givenBy.data.toList.drop 23 = dktX10_givenBy_1 := dk_seg dksX10_givenBy_0 23 rfl rfl
theorem dksX10_givenBy_2 : cX10_givenBy.data.toList.drop 46 = dktX10_givenBy_2 := dk_seg dksX10_givenBy_1 23 rfl rfl
theorem dX10_givenBy_0 : decode cX10_givenBy 0 = .ok (.iconst 0, 1) := dk_3 (dk_at dksX10_givenBy_0 0 rfl rfl)
theorem dX10_givenBy_1 : decode cX10_givenBy 1 = .ok (.istore_n 3, 1) := dk_62 (dk_at dksX10_givenBy_0 1 rfl rfl)
theorem dX10_givenBy_2 : decode cX10_givenBy 2 = .ok (.iconst 0, 1) := dk_3 (dk_at dksX10_givenBy_0 2 rfl rfl)
theorem dX10_givenBy_3 : decode cX10_givenBy 3 = .ok (.istore 4, 2) := dk_54 4 (dk_at dksX10_givenBy_0 3 rfl rfl)
theorem dX10_givenBy_5 : decode cX10_givenBy 5 = .ok (.iload 4, 2) := dk_21 4 (dk_at dksX10_givenBy_0 5 rfl rfl)
theorem dX10_givenBy_7 : decode cX10_givenBy 7 = .ok (.aload_n 0, 1) := dk_42 (dk_at dksX10_givenBy_0 7 rfl rfl)
theorem dX10_givenBy_8 : decode cX10_givenBy 8 = .ok (.getfield 23, 3) := dk_180 0 23 (dk_at dksX10_givenBy_0 8 rfl rfl)
theorem dX10_givenBy_11 : decode cX10_givenBy 11 = .ok (.iconst 0, 1) := dk_3 (dk_at dksX10_givenBy_0 11 rfl rfl)
theorem dX10_givenBy_12 : decode cX10_givenBy 12 = .ok (.iaload, 1) := dk_46 (dk_at dksX10_givenBy_0 12 rfl rfl)
theorem dX10_givenBy_13 : decode cX10_givenBy 13 = .ok (.if_icmp .ge 39, 3) := dk_162 0 39 (dk_at dksX10_givenBy_0 13 rfl rfl)
theorem dX10_givenBy_16 : decode cX10_givenBy 16 = .ok (.iload_n 3, 1) := dk_29 (dk_at dksX10_givenBy_0 16 rfl rfl)
theorem dX10_givenBy_17 : decode cX10_givenBy 17 = .ok (.iload_n 1, 1) := dk_27 (dk_at dksX10_givenBy_0 17 rfl rfl)
theorem dX10_givenBy_18 : decode cX10_givenBy 18 = .ok (.iload 4, 2) := dk_21 4 (dk_at dksX10_givenBy_0 18 rfl rfl)
theorem dX10_givenBy_20 : decode cX10_givenBy 20 = .ok (.invokestatic 260, 3) := dk_184 1 4 (dk_at dksX10_givenBy_0 20 rfl rfl)
theorem dX10_givenBy_23 : decode cX10_givenBy 23 = .ok (.ifCond .eq 20, 3) := dk_153 0 20 (dk_at dksX10_givenBy_1 0 rfl rfl)
theorem dX10_givenBy_26 : decode cX10_givenBy 26 = .ok (.iload_n 2, 1) := dk_28 (dk_at dksX10_givenBy_1 3 rfl rfl)
theorem dX10_givenBy_27 : decode cX10_givenBy 27 = .ok (.aload_n 0, 1) := dk_42 (dk_at dksX10_givenBy_1 4 rfl rfl)
theorem dX10_givenBy_28 : decode cX10_givenBy 28 = .ok (.getfield 67, 3) := dk_180 0 67 (dk_at dksX10_givenBy_1 5 rfl rfl)
theorem dX10_givenBy_31 : decode cX10_givenBy 31 = .ok (.bipush 7, 2) := dk_16 7 (dk_at dksX10_givenBy_1 8 rfl rfl)
theorem dX10_givenBy_33 : decode cX10_givenBy 33 = .ok (.iload 4, 2) := dk_21 4 (dk_at dksX10_givenBy_1 10 rfl rfl)
theorem dX10_givenBy_35 : decode cX10_givenBy 35 = .ok (.iadd, 1) := dk_96 (dk_at dksX10_givenBy_1 12 rfl rfl)
theorem dX10_givenBy_36 : decode cX10_givenBy 36 = .ok (.iaload, 1) := dk_46 (dk_at dksX10_givenBy_1 13 rfl rfl)
theorem dX10_givenBy_37 : decode cX10_givenBy 37 = .ok (.invokestatic 241, 3) := dk_184 0 241 (dk_at dksX10_givenBy_1 14 rfl rfl)
theorem dX10_givenBy_40 : decode cX10_givenBy 40 = .ok (.goto 4, 3) := dk_167 0 4 (dk_at dksX10_givenBy_1 17 rfl rfl)
theorem dX10_givenBy_43 : decode cX10_givenBy 43 = .ok (.iconst 0, 1) := dk_3 (dk_at dksX10_givenBy_1 20 rfl rfl)
theorem dX10_givenBy_44 : decode cX10_givenBy 44 = .ok (.iadd, 1) := dk_96 (dk_at dksX10_givenBy_1 21 rfl rfl)
theorem dX10_givenBy_45 : decode cX10_givenBy 45 = .ok (.istore_n 3, 1) := dk_62 (dk_at dksX10_givenBy_1 22 rfl rfl)
theorem dX10_givenBy_46 : decode cX10_givenBy 46 = .ok (.iinc 4 1, 3) := dk_132 4 1 (dk_at dksX10_givenBy_2 0 rfl rfl)
theorem dX10_givenBy_49 : decode cX10_givenBy 49 = .ok (.goto (-44), 3) := dk_167 255 212 (dk_at dksX10_givenBy_2 3 rfl rfl)
theorem dX10_givenBy_52 : decode cX10_givenBy 52 = .ok (.iload_n 3, 1) := dk_29 (dk_at dksX10_givenBy_2 6 rfl rfl)
theorem dX10_givenBy_53 : decode cX10_givenBy 53 = .ok (.ireturn, 1) := dk_172 (dk_at dksX10_givenBy_2 7 rfl rfl)
abbrev cX10_likes : ByteArray := prog_32_method_100_code
def yX10_likes : MethodName := ⟨RX10, "likes", "(II)I"⟩
def dkwX10_likes_4 : List UInt8 := [21, 5, 62, 21, 6, 54, 4, 132, 5, 1, 167, 255, 212, 28, 154, 0, 7, 29, 167, 0, 5, 21, 4, 172]
abbrev dktX10_likes_4 : List UInt8 := dkwX10_likes_4 ++ []
def dkwX10_likes_3 : List UInt8 := [42, 42, 180, 0, 67, 21, 5, 27, 182, 1, 31, 54, 6, 21, 6, 21, 4, 163, 0, 6, 167, 0, 10]
abbrev dktX10_likes_3 : List UInt8 := dkwX10_likes_3 ++ dktX10_likes_4
def dkwX10_likes_2 : List UInt8 := [153, 0, 5, 3, 172, 2, 62, 2, 54, 4, 3, 54, 5, 21, 5, 42, 180, 0, 23, 4, 46, 162, 0, 39]
abbrev dktX10_likes_2 : List UInt8 := dkwX10_likes_2 ++ dktX10_likes_3
def dkwX10_likes_1 : List UInt8 := [154, 0, 26, 42, 28, 3, 4, 184, 0, 132, 154, 0, 7, 4, 167, 0, 4, 3, 5, 4, 182, 0, 178]
abbrev dktX10_likes_1 : List UInt8 := dkwX10_likes_1 ++ dktX10_likes_2
def dkwX10_likes_0 : List UInt8 := [42, 3, 181, 0, 98, 42, 42, 27, 182, 1, 69, 154, 0, 7, 4, 167, 0, 4, 3, 4, 3, 182, 0, 178]
abbrev dktX10_likes_0 : List UInt8 := dkwX10_likes_0 ++ dktX10_likes_1
theorem dksX10_likes_0 : cX10_likes.data.toList.drop 0 = dktX10_likes_0 := by decide +kernel
theorem dksX10_likes_1 : cX10_likes.data.toList.drop 24 = dktX10_likes_1 := dk_seg dksX10_likes_0 24 rfl rfl
theorem dksX10_likes_2 : cX10_likes.data.toList.drop 47 = dktX10_likes_2 := dk_seg dksX10_likes_1 23 rfl rfl
theorem dksX10_likes_3 : cX10_likes.data.toList.drop 71 = dktX10_likes_3 := dk_seg dksX10_likes_2 24 rfl rfl
theorem dksX10_likes_4 : cX10_likes.data.toList.drop 94 = dktX10_likes_4 := dk_seg dksX10_likes_3 23 rfl rfl
theorem dX10_likes_0 : decode cX10_likes 0 = .ok (.aload_n 0, 1) := dk_42 (dk_at dksX10_likes_0 0 rfl rfl)
theorem dX10_likes_1 : decode cX10_likes 1 = .ok (.iconst 0, 1) := dk_3 (dk_at dksX10_likes_0 1 rfl rfl)
theorem dX10_likes_2 : decode cX10_likes 2 = .ok (.putfield 98, 3) := dk_181 0 98 (dk_at dksX10_likes_0 2 rfl rfl)
theorem dX10_likes_5 : decode cX10_likes 5 = .ok (.aload_n 0, 1) := dk_42 (dk_at dksX10_likes_0 5 rfl rfl)
theorem dX10_likes_6 : decode cX10_likes 6 = .ok (.aload_n 0, 1) := dk_42 (dk_at dksX10_likes_0 6 rfl rfl)
theorem dX10_likes_7 : decode cX10_likes 7 = .ok (.iload_n 1, 1) := dk_27 (dk_at dksX10_likes_0 7 rfl rfl)
theorem dX10_likes_8 : decode cX10_likes 8 = .ok (.invokevirtual 325, 3) := dk_182 1 69 (dk_at dksX10_likes_0 8 rfl rfl)
theorem dX10_likes_11 : decode cX10_likes 11 = .ok (.ifCond .ne 7, 3) := dk_154 0 7 (dk_at dksX10_likes_0 11 rfl rfl)
theorem dX10_likes_14 : decode cX10_likes 14 = .ok (.iconst 1, 1) := dk_4 (dk_at dksX10_likes_0 14 rfl rfl)
theorem dX10_likes_15 : decode cX10_likes 15 = .ok (.goto 4, 3) := dk_167 0 4 (dk_at dksX10_likes_0 15 rfl rfl)
theorem dX10_likes_18 : decode cX10_likes 18 = .ok (.iconst 0, 1) := dk_3 (dk_at dksX10_likes_0 18 rfl rfl)
theorem dX10_likes_19 : decode cX10_likes 19 = .ok (.iconst 1, 1) := dk_4 (dk_at dksX10_likes_0 19 rfl rfl)
theorem dX10_likes_20 : decode cX10_likes 20 = .ok (.iconst 0, 1) := dk_3 (dk_at dksX10_likes_0 20 rfl rfl)
theorem dX10_likes_21 : decode cX10_likes 21 = .ok (.invokevirtual 178, 3) := dk_182 0 178 (dk_at dksX10_likes_0 21 rfl rfl)
theorem dX10_likes_24 : decode cX10_likes 24 = .ok (.ifCond .ne 26, 3) := dk_154 0 26 (dk_at dksX10_likes_1 0 rfl rfl)
theorem dX10_likes_27 : decode cX10_likes 27 = .ok (.aload_n 0, 1) := dk_42 (dk_at dksX10_likes_1 3 rfl rfl)
theorem dX10_likes_28 : decode cX10_likes 28 = .ok (.iload_n 2, 1) := dk_28 (dk_at dksX10_likes_1 4 rfl rfl)
theorem dX10_likes_29 : decode cX10_likes 29 = .ok (.iconst 0, 1) := dk_3 (dk_at dksX10_likes_1 5 rfl rfl)
theorem dX10_likes_30 : decode cX10_likes 30 = .ok (.iconst 1, 1) := dk_4 (dk_at dksX10_likes_1 6 rfl rfl)
theorem dX10_likes_31 : decode cX10_likes 31 = .ok (.invokestatic 132, 3) := dk_184 0 132 (dk_at dksX10_likes_1 7 rfl rfl)
theorem dX10_likes_34 : decode cX10_likes 34 = .ok (.ifCond .ne 7, 3) := dk_154 0 7 (dk_at dksX10_likes_1 10 rfl rfl)
theorem dX10_likes_37 : decode cX10_likes 37 = .ok (.iconst 1, 1) := dk_4 (dk_at dksX10_likes_1 13 rfl rfl)
theorem dX10_likes_38 : decode cX10_likes 38 = .ok (.goto 4, 3) := dk_167 0 4 (dk_at dksX10_likes_1 14 rfl rfl)
theorem dX10_likes_41 : decode cX10_likes 41 = .ok (.iconst 0, 1) := dk_3 (dk_at dksX10_likes_1 17 rfl rfl)
theorem dX10_likes_42 : decode cX10_likes 42 = .ok (.iconst 2, 1) := dk_5 (dk_at dksX10_likes_1 18 rfl rfl)
theorem dX10_likes_43 : decode cX10_likes 43 = .ok (.iconst 1, 1) := dk_4 (dk_at dksX10_likes_1 19 rfl rfl)
theorem dX10_likes_44 : decode cX10_likes 44 = .ok (.invokevirtual 178, 3) := dk_182 0 178 (dk_at dksX10_likes_1 20 rfl rfl)
theorem dX10_likes_47 : decode cX10_likes 47 = .ok (.ifCond .eq 5, 3) := dk_153 0 5 (dk_at dksX10_likes_2 0 rfl rfl)
theorem dX10_likes_50 : decode cX10_likes 50 = .ok (.iconst 0, 1) := dk_3 (dk_at dksX10_likes_2 3 rfl rfl)
theorem dX10_likes_51 : decode cX10_likes 51 = .ok (.ireturn, 1) := dk_172 (dk_at dksX10_likes_2 4 rfl rfl)
theorem dX10_likes_52 : decode cX10_likes 52 = .ok (.iconst (-1), 1) := dk_2 (dk_at dksX10_likes_2 5 rfl rfl)
theorem dX10_likes_53 : decode cX10_likes 53 = .ok (.istore_n 3, 1) := dk_62 (dk_at dksX10_likes_2 6 rfl rfl)
theorem dX10_likes_54 : decode cX10_likes 54 = .ok (.iconst (-1), 1) := dk_2 (dk_at dksX10_likes_2 7 rfl rfl)
theorem dX10_likes_55 : decode cX10_likes 55 = .ok (.istore 4, 2) := dk_54 4 (dk_at dksX10_likes_2 8 rfl rfl)
theorem dX10_likes_57 : decode cX10_likes 57 = .ok (.iconst 0, 1) := dk_3 (dk_at dksX10_likes_2 10 rfl rfl)
theorem dX10_likes_58 : decode cX10_likes 58 = .ok (.istore 5, 2) := dk_54 5 (dk_at dksX10_likes_2 11 rfl rfl)
theorem dX10_likes_60 : decode cX10_likes 60 = .ok (.iload 5, 2) := dk_21 5 (dk_at dksX10_likes_2 13 rfl rfl)
theorem dX10_likes_62 : decode cX10_likes 62 = .ok (.aload_n 0, 1) := dk_42 (dk_at dksX10_likes_2 15 rfl rfl)
theorem dX10_likes_63 : decode cX10_likes 63 = .ok (.getfield 23, 3) := dk_180 0 23 (dk_at dksX10_likes_2 16 rfl rfl)
theorem dX10_likes_66 : decode cX10_likes 66 = .ok (.iconst 1, 1) := dk_4 (dk_at dksX10_likes_2 19 rfl rfl)
theorem dX10_likes_67 : decode cX10_likes 67 = .ok (.iaload, 1) := dk_46 (dk_at dksX10_likes_2 20 rfl rfl)
theorem dX10_likes_68 : decode cX10_likes 68 = .ok (.if_icmp .ge 39, 3) := dk_162 0 39 (dk_at dksX10_likes_2 21 rfl rfl)
theorem dX10_likes_71 : decode cX10_likes 71 = .ok (.aload_n 0, 1) := dk_42 (dk_at dksX10_likes_3 0 rfl rfl)
theorem dX10_likes_72 : decode cX10_likes 72 = .ok (.aload_n 0, 1) := dk_42 (dk_at dksX10_likes_3 1 rfl rfl)
theorem dX10_likes_73 : decode cX10_likes 73 = .ok (.getfield 67, 3) := dk_180 0 67 (dk_at dksX10_likes_3 2 rfl rfl)
theorem dX10_likes_76 : decode cX10_likes 76 = .ok (.iload 5, 2) := dk_21 5 (dk_at dksX10_likes_3 5 rfl rfl)
theorem dX10_likes_78 : decode cX10_likes 78 = .ok (.iload_n 1, 1) := dk_27 (dk_at dksX10_likes_3 7 rfl rfl)
theorem dX10_likes_79 : decode cX10_likes 79 = .ok (.invokevirtual 287, 3) := dk_182 1 31 (dk_at dksX10_likes_3 8 rfl rfl)
theorem dX10_likes_82 : decode cX10_likes 82 = .ok (.istore 6, 2) := dk_54 6 (dk_at dksX10_likes_3 11 rfl rfl)
theorem dX10_likes_84 : decode cX10_likes 84 = .ok (.iload 6, 2) := dk_21 6 (dk_at dksX10_likes_3 13 rfl rfl)
theorem dX10_likes_86 : decode cX10_likes 86 = .ok (.iload 4, 2) := dk_21 4 (dk_at dksX10_likes_3 15 rfl rfl)
theorem dX10_likes_88 : decode cX10_likes 88 = .ok (.if_icmp .gt 6, 3) := dk_163 0 6 (dk_at dksX10_likes_3 17 rfl rfl)
theorem dX10_likes_91 : decode cX10_likes 91 = .ok (.goto 10, 3) := dk_167 0 10 (dk_at dksX10_likes_3 20 rfl rfl)
theorem dX10_likes_94 : decode cX10_likes 94 = .ok (.iload 5, 2) := dk_21 5 (dk_at dksX10_likes_4 0 rfl rfl)
theorem dX10_likes_96 : decode cX10_likes 96 = .ok (.istore_n 3, 1) := dk_62 (dk_at dksX10_likes_4 2 rfl rfl)
theorem dX10_likes_97 : decode cX10_likes 97 = .ok (.iload 6, 2) := dk_21 6 (dk_at dksX10_likes_4 3 rfl rfl)
theorem dX10_likes_99 : decode cX10_likes 99 = .ok (.istore 4, 2) := dk_54 4 (dk_at dksX10_likes_4 5 rfl rfl)
theorem dX10_likes_101 : decode cX10_likes 101 = .ok (.iinc 5 1, 3) := dk_132 5 1 (dk_at dksX10_likes_4 7 rfl rfl)
theorem dX10_likes_104 : decode cX10_likes 104 = .ok (.goto (-44), 3) := dk_167 255 212 (dk_at dksX10_likes_4 10 rfl rfl)
theorem dX10_likes_107 : decode cX10_likes 107 = .ok (.iload_n 2, 1) := dk_28 (dk_at dksX10_likes_4 13 rfl rfl)
theorem dX10_likes_108 : decode cX10_likes 108 = .ok (.ifCond .ne 7, 3) := dk_154 0 7 (dk_at dksX10_likes_4 14 rfl rfl)
theorem dX10_likes_111 : decode cX10_likes 111 = .ok (.iload_n 3, 1) := dk_29 (dk_at dksX10_likes_4 17 rfl rfl)
theorem dX10_likes_112 : decode cX10_likes 112 = .ok (.goto 5, 3) := dk_167 0 5 (dk_at dksX10_likes_4 18 rfl rfl)
theorem dX10_likes_115 : decode cX10_likes 115 = .ok (.iload 4, 2) := dk_21 4 (dk_at dksX10_likes_4 21 rfl rfl)
theorem dX10_likes_117 : decode cX10_likes 117 = .ok (.ireturn, 1) := dk_172 (dk_at dksX10_likes_4 23 rfl rfl)
abbrev cX10_solemn : ByteArray := prog_32_method_101_code
def yX10_solemn : MethodName := ⟨RX10, "solemn", "(I)I"⟩
def dkwX10_solemn_3 : List UInt8 := [167, 255, 220, 28, 172]
abbrev dktX10_solemn_3 : List UInt8 := dkwX10_solemn_3 ++ []
def dkwX10_solemn_2 : List UInt8 := [180, 0, 67, 27, 29, 182, 1, 31, 154, 0, 9, 4, 29, 120, 167, 0, 4, 3, 128, 61, 132, 3, 1]
abbrev dktX10_solemn_2 : List UInt8 := dkwX10_solemn_2 ++ dktX10_solemn_3
def dkwX10_solemn_1 : List UInt8 := [153, 0, 5, 3, 172, 3, 61, 3, 62, 29, 42, 180, 0, 23, 3, 46, 162, 0, 32, 28, 42, 42]
abbrev dktX10_solemn_1 : List UInt8 := dkwX10_solemn_1 ++ dktX10_solemn_2
def dkwX10_solemn_0 : List UInt8 := [42, 3, 181, 0, 98, 42, 42, 27, 182, 1, 66, 154, 0, 7, 4, 167, 0, 4, 3, 4, 3, 182, 0, 178]
abbrev dktX10_solemn_0 : List UInt8 := dkwX10_solemn_0 ++ dktX10_solemn_1
theorem dksX10_solemn_0 : cX10_solemn.data.toList.drop 0 = dktX10_solemn_0 := by decide +kernel
theorem dksX10_solemn_1 : cX10_solemn.data.toList.drop 24 = dktX10_solemn_1 := dk_seg dksX10_solemn_0 24 rfl rfl
theorem dksX10_solemn_2 : cX10_solemn.data.toList.drop 46 = dktX10_solemn_2 := dk_seg dksX10_solemn_1 22 rfl rfl
theorem dksX10_solemn_3 : cX10_solemn.data.toList.drop 69 = dktX10_solemn_3 := dk_seg dksX10_solemn_2 23 rfl rfl
theorem dX10_solemn_0 : decode cX10_solemn 0 = .ok (.aload_n 0, 1) := dk_42 (dk_at dksX10_solemn_0 0 rfl rfl)
theorem dX10_solemn_1 : decode cX10_solemn 1 = .ok (.iconst 0, 1) := dk_3 (dk_at dksX10_solemn_0 1 rfl rfl)
theorem dX10_solemn_2 : decode cX10_solemn 2 = .ok (.putfield 98, 3) := dk_181 0 98 (dk_at dksX10_solemn_0 2 rfl rfl)
theorem dX10_solemn_5 : decode cX10_solemn 5 = .ok (.aload_n 0, 1) := dk_42 (dk_at dksX10_solemn_0 5 rfl rfl)
theorem dX10_solemn_6 : decode cX10_solemn 6 = .ok (.aload_n 0, 1) := dk_42 (dk_at dksX10_solemn_0 6 rfl rfl)
theorem dX10_solemn_7 : decode cX10_solemn 7 = .ok (.iload_n 1, 1) := dk_27 (dk_at dksX10_solemn_0 7 rfl rfl)
theorem dX10_solemn_8 : decode cX10_solemn 8 = .ok (.invokevirtual 322, 3) := dk_182 1 66 (dk_at dksX10_solemn_0 8 rfl rfl)
theorem dX10_solemn_11 : decode cX10_solemn 11 = .ok (.ifCond .ne 7, 3) := dk_154 0 7 (dk_at dksX10_solemn_0 11 rfl rfl)
theorem dX10_solemn_14 : decode cX10_solemn 14 = .ok (.iconst 1, 1) := dk_4 (dk_at dksX10_solemn_0 14 rfl rfl)
theorem dX10_solemn_15 : decode cX10_solemn 15 = .ok (.goto 4, 3) := dk_167 0 4 (dk_at dksX10_solemn_0 15 rfl rfl)
theorem dX10_solemn_18 : decode cX10_solemn 18 = .ok (.iconst 0, 1) := dk_3 (dk_at dksX10_solemn_0 18 rfl rfl)
theorem dX10_solemn_19 : decode cX10_solemn 19 = .ok (.iconst 1, 1) := dk_4 (dk_at dksX10_solemn_0 19 rfl rfl)
theorem dX10_solemn_20 : decode cX10_solemn 20 = .ok (.iconst 0, 1) := dk_3 (dk_at dksX10_solemn_0 20 rfl rfl)
theorem dX10_solemn_21 : decode cX10_solemn 21 = .ok (.invokevirtual 178, 3) := dk_182 0 178 (dk_at dksX10_solemn_0 21 rfl rfl)
theorem dX10_solemn_24 : decode cX10_solemn 24 = .ok (.ifCond .eq 5, 3) := dk_153 0 5 (dk_at dksX10_solemn_1 0 rfl rfl)
theorem dX10_solemn_27 : decode cX10_solemn 27 = .ok (.iconst 0, 1) := dk_3 (dk_at dksX10_solemn_1 3 rfl rfl)
theorem dX10_solemn_28 : decode cX10_solemn 28 = .ok (.ireturn, 1) := dk_172 (dk_at dksX10_solemn_1 4 rfl rfl)
theorem dX10_solemn_29 : decode cX10_solemn 29 = .ok (.iconst 0, 1) := dk_3 (dk_at dksX10_solemn_1 5 rfl rfl)
theorem dX10_solemn_30 : decode cX10_solemn 30 = .ok (.istore_n 2, 1) := dk_61 (dk_at dksX10_solemn_1 6 rfl rfl)
theorem dX10_solemn_31 : decode cX10_solemn 31 = .ok (.iconst 0, 1) := dk_3 (dk_at dksX10_solemn_1 7 rfl rfl)
theorem dX10_solemn_32 : decode cX10_solemn 32 = .ok (.istore_n 3, 1) := dk_62 (dk_at dksX10_solemn_1 8 rfl rfl)
theorem dX10_solemn_33 : decode cX10_solemn 33 = .ok (.iload_n 3, 1) := dk_29 (dk_at dksX10_solemn_1 9 rfl rfl)
theorem dX10_solemn_34 : decode cX10_solemn 34 = .ok (.aload_n 0, 1) := dk_42 (dk_at dksX10_solemn_1 10 rfl rfl)
theorem dX10_solemn_35 : decode cX10_solemn 35 = .ok (.getfield 23, 3) := dk_180 0 23 (dk_at dksX10_solemn_1 11 rfl rfl)
theorem dX10_solemn_38 : decode cX10_solemn 38 = .ok (.iconst 0, 1) := dk_3 (dk_at dksX10_solemn_1 14 rfl rfl)
theorem dX10_solemn_39 : decode cX10_solemn 39 = .ok (.iaload, 1) := dk_46 (dk_at dksX10_solemn_1 15 rfl rfl)
theorem dX10_solemn_40 : decode cX10_solemn 40 = .ok (.if_icmp .ge 32, 3) := dk_162 0 32 (dk_at dksX10_solemn_1 16 rfl rfl)
theorem dX10_solemn_43 : decode cX10_solemn 43 = .ok (.iload_n 2, 1) := dk_28 (dk_at dksX10_solemn_1 19 rfl rfl)
theorem dX10_solemn_44 : decode cX10_solemn 44 = .ok (.aload_n 0, 1) := dk_42 (dk_at dksX10_solemn_1 20 rfl rfl)
theorem dX10_solemn_45 : decode cX10_solemn 45 = .ok (.aload_n 0, 1) := dk_42 (dk_at dksX10_solemn_1 21 rfl rfl)
theorem dX10_solemn_46 : decode cX10_solemn 46 = .ok (.getfield 67, 3) := dk_180 0 67 (dk_at dksX10_solemn_2 0 rfl rfl)
theorem dX10_solemn_49 : decode cX10_solemn 49 = .ok (.iload_n 1, 1) := dk_27 (dk_at dksX10_solemn_2 3 rfl rfl)
theorem dX10_solemn_50 : decode cX10_solemn 50 = .ok (.iload_n 3, 1) := dk_29 (dk_at dksX10_solemn_2 4 rfl rfl)
theorem dX10_solemn_51 : decode cX10_solemn 51 = .ok (.invokevirtual 287, 3) := dk_182 1 31 (dk_at dksX10_solemn_2 5 rfl rfl)
theorem dX10_solemn_54 : decode cX10_solemn 54 = .ok (.ifCond .ne 9, 3) := dk_154 0 9 (dk_at dksX10_solemn_2 8 rfl rfl)
theorem dX10_solemn_57 : decode cX10_solemn 57 = .ok (.iconst 1, 1) := dk_4 (dk_at dksX10_solemn_2 11 rfl rfl)
theorem dX10_solemn_58 : decode cX10_solemn 58 = .ok (.iload_n 3, 1) := dk_29 (dk_at dksX10_solemn_2 12 rfl rfl)
theorem dX10_solemn_59 : decode cX10_solemn 59 = .ok (.ishl, 1) := dk_120 (dk_at dksX10_solemn_2 13 rfl rfl)
theorem dX10_solemn_60 : decode cX10_solemn 60 = .ok (.goto 4, 3) := dk_167 0 4 (dk_at dksX10_solemn_2 14 rfl rfl)
theorem dX10_solemn_63 : decode cX10_solemn 63 = .ok (.iconst 0, 1) := dk_3 (dk_at dksX10_solemn_2 17 rfl rfl)
theorem dX10_solemn_64 : decode cX10_solemn 64 = .ok (.ior, 1) := dk_128 (dk_at dksX10_solemn_2 18 rfl rfl)
theorem dX10_solemn_65 : decode cX10_solemn 65 = .ok (.istore_n 2, 1) := dk_61 (dk_at dksX10_solemn_2 19 rfl rfl)
theorem dX10_solemn_66 : decode cX10_solemn 66 = .ok (.iinc 3 1, 3) := dk_132 3 1 (dk_at dksX10_solemn_2 20 rfl rfl)
theorem dX10_solemn_69 : decode cX10_solemn 69 = .ok (.goto (-36), 3) := dk_167 255 220 (dk_at dksX10_solemn_3 0 rfl rfl)
theorem dX10_solemn_72 : decode cX10_solemn 72 = .ok (.iload_n 2, 1) := dk_28 (dk_at dksX10_solemn_3 3 rfl rfl)
theorem dX10_solemn_73 : decode cX10_solemn 73 = .ok (.ireturn, 1) := dk_172 (dk_at dksX10_solemn_3 4 rfl rfl)
abbrev cX10_driest : ByteArray := prog_32_method_102_code
def yX10_driest : MethodName := ⟨RX10, "driest", "(I)I"⟩
def dkwX10_driest_4 : List UInt8 := [160, 0, 7, 28, 167, 0, 4, 29, 172]
abbrev dktX10_driest_4 : List UInt8 := dkwX10_driest_4 ++ []
def dkwX10_driest_3 : List UInt8 := [180, 0, 67, 16, 7, 21, 4, 96, 46, 62, 132, 4, 1, 167, 255, 211, 27, 153, 0, 8, 28, 2]
abbrev dktX10_driest_3 : List UInt8 := dkwX10_driest_3 ++ dktX10_driest_4
def dkwX10_driest_2 : List UInt8 := [162, 0, 40, 42, 180, 0, 67, 16, 7, 21, 4, 96, 46, 29, 163, 0, 6, 167, 0, 17, 21, 4, 61, 42]
abbrev dktX10_driest_2 : List UInt8 := dkwX10_driest_2 ++ dktX10_driest_3
def dkwX10_driest_1 : List UInt8 := [182, 0, 178, 153, 0, 5, 3, 172, 2, 61, 3, 62, 3, 54, 4, 21, 4, 42, 180, 0, 23, 3, 46]
abbrev dktX10_driest_1 : List UInt8 := dkwX10_driest_1 ++ dktX10_driest_2
def dkwX10_driest_0 : List UInt8 := [42, 3, 181, 0, 98, 42, 27, 3, 4, 184, 0, 132, 154, 0, 7, 4, 167, 0, 4, 3, 4, 4]
abbrev dktX10_driest_0 : List UInt8 := dkwX10_driest_0 ++ dktX10_driest_1
theorem dksX10_driest_0 : cX10_driest.data.toList.drop 0 = dktX10_driest_0 := by decide +kernel
theorem dksX10_driest_1 : cX10_driest.data.toList.drop 22 = dktX10_driest_1 := dk_seg dksX10_driest_0 22 rfl rfl
theorem dksX10_driest_2 : cX10_driest.data.toList.drop 45 = dktX10_driest_2 := dk_seg dksX10_driest_1 23 rfl rfl
theorem dksX10_driest_3 : cX10_driest.data.toList.drop 69 = dktX10_driest_3 := dk_seg dksX10_driest_2 24 rfl rfl
theorem dksX10_driest_4 : cX10_driest.data.toList.drop 91 = dktX10_driest_4 := dk_seg dksX10_driest_3 22 rfl rfl
theorem dX10_driest_0 : decode cX10_driest 0 = .ok (.aload_n 0, 1) := dk_42 (dk_at dksX10_driest_0 0 rfl rfl)
theorem dX10_driest_1 : decode cX10_driest 1 = .ok (.iconst 0, 1) := dk_3 (dk_at dksX10_driest_0 1 rfl rfl)
theorem dX10_driest_2 : decode cX10_driest 2 = .ok (.putfield 98, 3) := dk_181 0 98 (dk_at dksX10_driest_0 2 rfl rfl)
theorem dX10_driest_5 : decode cX10_driest 5 = .ok (.aload_n 0, 1) := dk_42 (dk_at dksX10_driest_0 5 rfl rfl)
theorem dX10_driest_6 : decode cX10_driest 6 = .ok (.iload_n 1, 1) := dk_27 (dk_at dksX10_driest_0 6 rfl rfl)
theorem dX10_driest_7 : decode cX10_driest 7 = .ok (.iconst 0, 1) := dk_3 (dk_at dksX10_driest_0 7 rfl rfl)
theorem dX10_driest_8 : decode cX10_driest 8 = .ok (.iconst 1, 1) := dk_4 (dk_at dksX10_driest_0 8 rfl rfl)
theorem dX10_driest_9 : decode cX10_driest 9 = .ok (.invokestatic 132, 3) := dk_184 0 132 (dk_at dksX10_driest_0 9 rfl rfl)
theorem dX10_driest_12 : decode cX10_driest 12 = .ok (.ifCond .ne 7, 3) := dk_154 0 7 (dk_at dksX10_driest_0 12 rfl rfl)
theorem dX10_driest_15 : decode cX10_driest 15 = .ok (.iconst 1, 1) := dk_4 (dk_at dksX10_driest_0 15 rfl rfl)
theorem dX10_driest_16 : decode cX10_driest 16 = .ok (.goto 4, 3) := dk_167 0 4 (dk_at dksX10_driest_0 16 rfl rfl)
theorem dX10_driest_19 : decode cX10_driest 19 = .ok (.iconst 0, 1) := dk_3 (dk_at dksX10_driest_0 19 rfl rfl)
theorem dX10_driest_20 : decode cX10_driest 20 = .ok (.iconst 1, 1) := dk_4 (dk_at dksX10_driest_0 20 rfl rfl)
theorem dX10_driest_21 : decode cX10_driest 21 = .ok (.iconst 1, 1) := dk_4 (dk_at dksX10_driest_0 21 rfl rfl)
theorem dX10_driest_22 : decode cX10_driest 22 = .ok (.invokevirtual 178, 3) := dk_182 0 178 (dk_at dksX10_driest_1 0 rfl rfl)
theorem dX10_driest_25 : decode cX10_driest 25 = .ok (.ifCond .eq 5, 3) := dk_153 0 5 (dk_at dksX10_driest_1 3 rfl rfl)
theorem dX10_driest_28 : decode cX10_driest 28 = .ok (.iconst 0, 1) := dk_3 (dk_at dksX10_driest_1 6 rfl rfl)
theorem dX10_driest_29 : decode cX10_driest 29 = .ok (.ireturn, 1) := dk_172 (dk_at dksX10_driest_1 7 rfl rfl)
theorem dX10_driest_30 : decode cX10_driest 30 = .ok (.iconst (-1), 1) := dk_2 (dk_at dksX10_driest_1 8 rfl rfl)
theorem dX10_driest_31 : decode cX10_driest 31 = .ok (.istore_n 2, 1) := dk_61 (dk_at dksX10_driest_1 9 rfl rfl)
theorem dX10_driest_32 : decode cX10_driest 32 = .ok (.iconst 0, 1) := dk_3 (dk_at dksX10_driest_1 10 rfl rfl)
theorem dX10_driest_33 : decode cX10_driest 33 = .ok (.istore_n 3, 1) := dk_62 (dk_at dksX10_driest_1 11 rfl rfl)
theorem dX10_driest_34 : decode cX10_driest 34 = .ok (.iconst 0, 1) := dk_3 (dk_at dksX10_driest_1 12 rfl rfl)
theorem dX10_driest_35 : decode cX10_driest 35 = .ok (.istore 4, 2) := dk_54 4 (dk_at dksX10_driest_1 13 rfl rfl)
theorem dX10_driest_37 : decode cX10_driest 37 = .ok (.iload 4, 2) := dk_21 4 (dk_at dksX10_driest_1 15 rfl rfl)
theorem dX10_driest_39 : decode cX10_driest 39 = .ok (.aload_n 0, 1) := dk_42 (dk_at dksX10_driest_1 17 rfl rfl)
theorem dX10_driest_40 : decode cX10_driest 40 = .ok (.getfield 23, 3) := dk_180 0 23 (dk_at dksX10_driest_1 18 rfl rfl)
theorem dX10_driest_43 : decode cX10_driest 43 = .ok (.iconst 0, 1) := dk_3 (dk_at dksX10_driest_1 21 rfl rfl)
theorem dX10_driest_44 : decode cX10_driest 44 = .ok (.iaload, 1) := dk_46 (dk_at dksX10_driest_1 22 rfl rfl)
theorem dX10_driest_45 : decode cX10_driest 45 = .ok (.if_icmp .ge 40, 3) := dk_162 0 40 (dk_at dksX10_driest_2 0 rfl rfl)
theorem dX10_driest_48 : decode cX10_driest 48 = .ok (.aload_n 0, 1) := dk_42 (dk_at dksX10_driest_2 3 rfl rfl)
theorem dX10_driest_49 : decode cX10_driest 49 = .ok (.getfield 67, 3) := dk_180 0 67 (dk_at dksX10_driest_2 4 rfl rfl)
theorem dX10_driest_52 : decode cX10_driest 52 = .ok (.bipush 7, 2) := dk_16 7 (dk_at dksX10_driest_2 7 rfl rfl)
theorem dX10_driest_54 : decode cX10_driest 54 = .ok (.iload 4, 2) := dk_21 4 (dk_at dksX10_driest_2 9 rfl rfl)
theorem dX10_driest_56 : decode cX10_driest 56 = .ok (.iadd, 1) := dk_96 (dk_at dksX10_driest_2 11 rfl rfl)
theorem dX10_driest_57 : decode cX10_driest 57 = .ok (.iaload, 1) := dk_46 (dk_at dksX10_driest_2 12 rfl rfl)
theorem dX10_driest_58 : decode cX10_driest 58 = .ok (.iload_n 3, 1) := dk_29 (dk_at dksX10_driest_2 13 rfl rfl)
theorem dX10_driest_59 : decode cX10_driest 59 = .ok (.if_icmp .gt 6, 3) := dk_163 0 6 (dk_at dksX10_driest_2 14 rfl rfl)
theorem dX10_driest_62 : decode cX10_driest 62 = .ok (.goto 17, 3) := dk_167 0 17 (dk_at dksX10_driest_2 17 rfl rfl)
theorem dX10_driest_65 : decode cX10_driest 65 = .ok (.iload 4, 2) := dk_21 4 (dk_at dksX10_driest_2 20 rfl rfl)
theorem dX10_driest_67 : decode cX10_driest 67 = .ok (.istore_n 2, 1) := dk_61 (dk_at dksX10_driest_2 22 rfl rfl)
theorem dX10_driest_68 : decode cX10_driest 68 = .ok (.aload_n 0, 1) := dk_42 (dk_at dksX10_driest_2 23 rfl rfl)
theorem dX10_driest_69 : decode cX10_driest 69 = .ok (.getfield 67, 3) := dk_180 0 67 (dk_at dksX10_driest_3 0 rfl rfl)
theorem dX10_driest_72 : decode cX10_driest 72 = .ok (.bipush 7, 2) := dk_16 7 (dk_at dksX10_driest_3 3 rfl rfl)
theorem dX10_driest_74 : decode cX10_driest 74 = .ok (.iload 4, 2) := dk_21 4 (dk_at dksX10_driest_3 5 rfl rfl)
theorem dX10_driest_76 : decode cX10_driest 76 = .ok (.iadd, 1) := dk_96 (dk_at dksX10_driest_3 7 rfl rfl)
theorem dX10_driest_77 : decode cX10_driest 77 = .ok (.iaload, 1) := dk_46 (dk_at dksX10_driest_3 8 rfl rfl)
theorem dX10_driest_78 : decode cX10_driest 78 = .ok (.istore_n 3, 1) := dk_62 (dk_at dksX10_driest_3 9 rfl rfl)
theorem dX10_driest_79 : decode cX10_driest 79 = .ok (.iinc 4 1, 3) := dk_132 4 1 (dk_at dksX10_driest_3 10 rfl rfl)
theorem dX10_driest_82 : decode cX10_driest 82 = .ok (.goto (-45), 3) := dk_167 255 211 (dk_at dksX10_driest_3 13 rfl rfl)
theorem dX10_driest_85 : decode cX10_driest 85 = .ok (.iload_n 1, 1) := dk_27 (dk_at dksX10_driest_3 16 rfl rfl)
theorem dX10_driest_86 : decode cX10_driest 86 = .ok (.ifCond .eq 8, 3) := dk_153 0 8 (dk_at dksX10_driest_3 17 rfl rfl)
theorem dX10_driest_89 : decode cX10_driest 89 = .ok (.iload_n 2, 1) := dk_28 (dk_at dksX10_driest_3 20 rfl rfl)
theorem dX10_driest_90 : decode cX10_driest 90 = .ok (.iconst (-1), 1) := dk_2 (dk_at dksX10_driest_3 21 rfl rfl)
theorem dX10_driest_91 : decode cX10_driest 91 = .ok (.if_icmp .ne 7, 3) := dk_160 0 7 (dk_at dksX10_driest_4 0 rfl rfl)
theorem dX10_driest_94 : decode cX10_driest 94 = .ok (.iload_n 2, 1) := dk_28 (dk_at dksX10_driest_4 3 rfl rfl)
theorem dX10_driest_95 : decode cX10_driest 95 = .ok (.goto 4, 3) := dk_167 0 4 (dk_at dksX10_driest_4 4 rfl rfl)
theorem dX10_driest_98 : decode cX10_driest 98 = .ok (.iload_n 3, 1) := dk_29 (dk_at dksX10_driest_4 7 rfl rfl)
theorem dX10_driest_99 : decode cX10_driest 99 = .ok (.ireturn, 1) := dk_172 (dk_at dksX10_driest_4 8 rfl rfl)
abbrev cX10_alike : ByteArray := prog_32_method_103_code
def yX10_alike : MethodName := ⟨RX10, "alike", "(I)I"⟩
def dkwX10_alike_5 : List UInt8 := [132, 4, 1, 167, 255, 175, 27, 154, 0, 7, 28, 167, 0, 4, 29, 172]
abbrev dktX10_alike_5 : List UInt8 := dkwX10_alike_5 ++ []
def dkwX10_alike_4 : List UInt8 := [16, 10, 21, 4, 104, 21, 5, 96, 167, 0, 4, 29, 62, 132, 2, 1, 132, 5, 1, 167, 255, 198]
abbrev dktX10_alike_4 : List UInt8 := dkwX10_alike_4 ++ dktX10_alike_5
def dkwX10_alike_3 : List UInt8 := [21, 4, 50, 4, 46, 42, 180, 0, 31, 21, 5, 50, 4, 46, 159, 0, 6, 167, 0, 23, 28, 154, 0, 14]
abbrev dktX10_alike_3 : List UInt8 := dkwX10_alike_3 ++ dktX10_alike_4
def dkwX10_alike_2 : List UInt8 := [162, 0, 76, 21, 4, 4, 96, 54, 5, 21, 5, 42, 180, 0, 23, 3, 46, 162, 0, 53, 42, 180, 0, 31]
abbrev dktX10_alike_2 : List UInt8 := dkwX10_alike_2 ++ dktX10_alike_3
def dkwX10_alike_1 : List UInt8 := [182, 0, 178, 153, 0, 5, 3, 172, 3, 61, 2, 62, 3, 54, 4, 21, 4, 42, 180, 0, 23, 3, 46]
abbrev dktX10_alike_1 : List UInt8 := dkwX10_alike_1 ++ dktX10_alike_2
def dkwX10_alike_0 : List UInt8 := [42, 3, 181, 0, 98, 42, 27, 3, 4, 184, 0, 132, 154, 0, 7, 4, 167, 0, 4, 3, 4, 4]
abbrev dktX10_alike_0 : List UInt8 := dkwX10_alike_0 ++ dktX10_alike_1
theorem dksX10_alike_0 : cX10_alike.data.toList.drop 0 = dktX10_alike_0 := by decide +kernel
theorem dksX10_alike_1 : cX10_alike.data.toList.drop 22 = dktX10_alike_1 := dk_seg dksX10_alike_0 22 rfl rfl
theorem dksX10_alike_2 : cX10_alike.data.toList.drop 45 = dktX10_alike_2 := dk_seg dksX10_alike_1 23 rfl rfl
theorem dksX10_alike_3 : cX10_alike.data.toList.drop 69 = dktX10_alike_3 := dk_seg dksX10_alike_2 24 rfl rfl
theorem dksX10_alike_4 : cX10_alike.data.toList.drop 93 = dktX10_alike_4 := dk_seg dksX10_alike_3 24 rfl rfl
theorem dksX10_alike_5 : cX10_alike.data.toList.drop 115 = dktX10_alike_5 := dk_seg dksX10_alike_4 22 rfl rfl
theorem dX10_alike_0 : decode cX10_alike 0 = .ok (.aload_n 0, 1) := dk_42 (dk_at dksX10_alike_0 0 rfl rfl)
theorem dX10_alike_1 : decode cX10_alike 1 = .ok (.iconst 0, 1) := dk_3 (dk_at dksX10_alike_0 1 rfl rfl)
theorem dX10_alike_2 : decode cX10_alike 2 = .ok (.putfield 98, 3) := dk_181 0 98 (dk_at dksX10_alike_0 2 rfl rfl)
theorem dX10_alike_5 : decode cX10_alike 5 = .ok (.aload_n 0, 1) := dk_42 (dk_at dksX10_alike_0 5 rfl rfl)
theorem dX10_alike_6 : decode cX10_alike 6 = .ok (.iload_n 1, 1) := dk_27 (dk_at dksX10_alike_0 6 rfl rfl)
theorem dX10_alike_7 : decode cX10_alike 7 = .ok (.iconst 0, 1) := dk_3 (dk_at dksX10_alike_0 7 rfl rfl)
theorem dX10_alike_8 : decode cX10_alike 8 = .ok (.iconst 1, 1) := dk_4 (dk_at dksX10_alike_0 8 rfl rfl)
theorem dX10_alike_9 : decode cX10_alike 9 = .ok (.invokestatic 132, 3) := dk_184 0 132 (dk_at dksX10_alike_0 9 rfl rfl)
theorem dX10_alike_12 : decode cX10_alike 12 = .ok (.ifCond .ne 7, 3) := dk_154 0 7 (dk_at dksX10_alike_0 12 rfl rfl)
theorem dX10_alike_15 : decode cX10_alike 15 = .ok (.iconst 1, 1) := dk_4 (dk_at dksX10_alike_0 15 rfl rfl)
theorem dX10_alike_16 : decode cX10_alike 16 = .ok (.goto 4, 3) := dk_167 0 4 (dk_at dksX10_alike_0 16 rfl rfl)
theorem dX10_alike_19 : decode cX10_alike 19 = .ok (.iconst 0, 1) := dk_3 (dk_at dksX10_alike_0 19 rfl rfl)
theorem dX10_alike_20 : decode cX10_alike 20 = .ok (.iconst 1, 1) := dk_4 (dk_at dksX10_alike_0 20 rfl rfl)
theorem dX10_alike_21 : decode cX10_alike 21 = .ok (.iconst 1, 1) := dk_4 (dk_at dksX10_alike_0 21 rfl rfl)
theorem dX10_alike_22 : decode cX10_alike 22 = .ok (.invokevirtual 178, 3) := dk_182 0 178 (dk_at dksX10_alike_1 0 rfl rfl)
theorem dX10_alike_25 : decode cX10_alike 25 = .ok (.ifCond .eq 5, 3) := dk_153 0 5 (dk_at dksX10_alike_1 3 rfl rfl)
theorem dX10_alike_28 : decode cX10_alike 28 = .ok (.iconst 0, 1) := dk_3 (dk_at dksX10_alike_1 6 rfl rfl)
theorem dX10_alike_29 : decode cX10_alike 29 = .ok (.ireturn, 1) := dk_172 (dk_at dksX10_alike_1 7 rfl rfl)
theorem dX10_alike_30 : decode cX10_alike 30 = .ok (.iconst 0, 1) := dk_3 (dk_at dksX10_alike_1 8 rfl rfl)
theorem dX10_alike_31 : decode cX10_alike 31 = .ok (.istore_n 2, 1) := dk_61 (dk_at dksX10_alike_1 9 rfl rfl)
theorem dX10_alike_32 : decode cX10_alike 32 = .ok (.iconst (-1), 1) := dk_2 (dk_at dksX10_alike_1 10 rfl rfl)
theorem dX10_alike_33 : decode cX10_alike 33 = .ok (.istore_n 3, 1) := dk_62 (dk_at dksX10_alike_1 11 rfl rfl)
theorem dX10_alike_34 : decode cX10_alike 34 = .ok (.iconst 0, 1) := dk_3 (dk_at dksX10_alike_1 12 rfl rfl)
theorem dX10_alike_35 : decode cX10_alike 35 = .ok (.istore 4, 2) := dk_54 4 (dk_at dksX10_alike_1 13 rfl rfl)
theorem dX10_alike_37 : decode cX10_alike 37 = .ok (.iload 4, 2) := dk_21 4 (dk_at dksX10_alike_1 15 rfl rfl)
theorem dX10_alike_39 : decode cX10_alike 39 = .ok (.aload_n 0, 1) := dk_42 (dk_at dksX10_alike_1 17 rfl rfl)
theorem dX10_alike_40 : decode cX10_alike 40 = .ok (.getfield 23, 3) := dk_180 0 23 (dk_at dksX10_alike_1 18 rfl rfl)
theorem dX10_alike_43 : decode cX10_alike 43 = .ok (.iconst 0, 1) := dk_3 (dk_at dksX10_alike_1 21 rfl rfl)
theorem dX10_alike_44 : decode cX10_alike 44 = .ok (.iaload, 1) := dk_46 (dk_at dksX10_alike_1 22 rfl rfl)
theorem dX10_alike_45 : decode cX10_alike 45 = .ok (.if_icmp .ge 76, 3) := dk_162 0 76 (dk_at dksX10_alike_2 0 rfl rfl)
theorem dX10_alike_48 : decode cX10_alike 48 = .ok (.iload 4, 2) := dk_21 4 (dk_at dksX10_alike_2 3 rfl rfl)
theorem dX10_alike_50 : decode cX10_alike 50 = .ok (.iconst 1, 1) := dk_4 (dk_at dksX10_alike_2 5 rfl rfl)
theorem dX10_alike_51 : decode cX10_alike 51 = .ok (.iadd, 1) := dk_96 (dk_at dksX10_alike_2 6 rfl rfl)
theorem dX10_alike_52 : decode cX10_alike 52 = .ok (.istore 5, 2) := dk_54 5 (dk_at dksX10_alike_2 7 rfl rfl)
theorem dX10_alike_54 : decode cX10_alike 54 = .ok (.iload 5, 2) := dk_21 5 (dk_at dksX10_alike_2 9 rfl rfl)
theorem dX10_alike_56 : decode cX10_alike 56 = .ok (.aload_n 0, 1) := dk_42 (dk_at dksX10_alike_2 11 rfl rfl)
theorem dX10_alike_57 : decode cX10_alike 57 = .ok (.getfield 23, 3) := dk_180 0 23 (dk_at dksX10_alike_2 12 rfl rfl)
theorem dX10_alike_60 : decode cX10_alike 60 = .ok (.iconst 0, 1) := dk_3 (dk_at dksX10_alike_2 15 rfl rfl)
theorem dX10_alike_61 : decode cX10_alike 61 = .ok (.iaload, 1) := dk_46 (dk_at dksX10_alike_2 16 rfl rfl)
theorem dX10_alike_62 : decode cX10_alike 62 = .ok (.if_icmp .ge 53, 3) := dk_162 0 53 (dk_at dksX10_alike_2 17 rfl rfl)
theorem dX10_alike_65 : decode cX10_alike 65 = .ok (.aload_n 0, 1) := dk_42 (dk_at dksX10_alike_2 20 rfl rfl)
theorem dX10_alike_66 : decode cX10_alike 66 = .ok (.getfield 31, 3) := dk_180 0 31 (dk_at dksX10_alike_2 21 rfl rfl)
theorem dX10_alike_69 : decode cX10_alike 69 = .ok (.iload 4, 2) := dk_21 4 (dk_at dksX10_alike_3 0 rfl rfl)
theorem dX10_alike_71 : decode cX10_alike 71 = .ok (.aaload, 1) := dk_50 (dk_at dksX10_alike_3 2 rfl rfl)
theorem dX10_alike_72 : decode cX10_alike 72 = .ok (.iconst 1, 1) := dk_4 (dk_at dksX10_alike_3 3 rfl rfl)
theorem dX10_alike_73 : decode cX10_alike 73 = .ok (.iaload, 1) := dk_46 (dk_at dksX10_alike_3 4 rfl rfl)
theorem dX10_alike_74 : decode cX10_alike 74 = .ok (.aload_n 0, 1) := dk_42 (dk_at dksX10_alike_3 5 rfl rfl)
theorem dX10_alike_75 : decode cX10_alike 75 = .ok (.getfield 31, 3) := dk_180 0 31 (dk_at dksX10_alike_3 6 rfl rfl)
theorem dX10_alike_78 : decode cX10_alike 78 = .ok (.iload 5, 2) := dk_21 5 (dk_at dksX10_alike_3 9 rfl rfl)
theorem dX10_alike_80 : decode cX10_alike 80 = .ok (.aaload, 1) := dk_50 (dk_at dksX10_alike_3 11 rfl rfl)
theorem dX10_alike_81 : decode cX10_alike 81 = .ok (.iconst 1, 1) := dk_4 (dk_at dksX10_alike_3 12 rfl rfl)
theorem dX10_alike_82 : decode cX10_alike 82 = .ok (.iaload, 1) := dk_46 (dk_at dksX10_alike_3 13 rfl rfl)
theorem dX10_alike_83 : decode cX10_alike 83 = .ok (.if_icmp .eq 6, 3) := dk_159 0 6 (dk_at dksX10_alike_3 14 rfl rfl)
theorem dX10_alike_86 : decode cX10_alike 86 = .ok (.goto 23, 3) := dk_167 0 23 (dk_at dksX10_alike_3 17 rfl rfl)
theorem dX10_alike_89 : decode cX10_alike 89 = .ok (.iload_n 2, 1) := dk_28 (dk_at dksX10_alike_3 20 rfl rfl)
theorem dX10_alike_90 : decode cX10_alike 90 = .ok (.ifCond .ne 14, 3) := dk_154 0 14 (dk_at dksX10_alike_3 21 rfl rfl)
theorem dX10_alike_93 : decode cX10_alike 93 = .ok (.bipush 10, 2) := dk_16 10 (dk_at dksX10_alike_4 0 rfl rfl)
theorem dX10_alike_95 : decode cX10_alike 95 = .ok (.iload 4, 2) := dk_21 4 (dk_at dksX10_alike_4 2 rfl rfl)
theorem dX10_alike_97 : decode cX10_alike 97 = .ok (.imul, 1) := dk_104 (dk_at dksX10_alike_4 4 rfl rfl)
theorem dX10_alike_98 : decode cX10_alike 98 = .ok (.iload 5, 2) := dk_21 5 (dk_at dksX10_alike_4 5 rfl rfl)
theorem dX10_alike_100 : decode cX10_alike 100 = .ok (.iadd, 1) := dk_96 (dk_at dksX10_alike_4 7 rfl rfl)
theorem dX10_alike_101 : decode cX10_alike 101 = .ok (.goto 4, 3) := dk_167 0 4 (dk_at dksX10_alike_4 8 rfl rfl)
theorem dX10_alike_104 : decode cX10_alike 104 = .ok (.iload_n 3, 1) := dk_29 (dk_at dksX10_alike_4 11 rfl rfl)
theorem dX10_alike_105 : decode cX10_alike 105 = .ok (.istore_n 3, 1) := dk_62 (dk_at dksX10_alike_4 12 rfl rfl)
theorem dX10_alike_106 : decode cX10_alike 106 = .ok (.iinc 2 1, 3) := dk_132 2 1 (dk_at dksX10_alike_4 13 rfl rfl)
theorem dX10_alike_109 : decode cX10_alike 109 = .ok (.iinc 5 1, 3) := dk_132 5 1 (dk_at dksX10_alike_4 16 rfl rfl)
theorem dX10_alike_112 : decode cX10_alike 112 = .ok (.goto (-58), 3) := dk_167 255 198 (dk_at dksX10_alike_4 19 rfl rfl)
theorem dX10_alike_115 : decode cX10_alike 115 = .ok (.iinc 4 1, 3) := dk_132 4 1 (dk_at dksX10_alike_5 0 rfl rfl)
theorem dX10_alike_118 : decode cX10_alike 118 = .ok (.goto (-81), 3) := dk_167 255 175 (dk_at dksX10_alike_5 3 rfl rfl)
theorem dX10_alike_121 : decode cX10_alike 121 = .ok (.iload_n 1, 1) := dk_27 (dk_at dksX10_alike_5 6 rfl rfl)
theorem dX10_alike_122 : decode cX10_alike 122 = .ok (.ifCond .ne 7, 3) := dk_154 0 7 (dk_at dksX10_alike_5 7 rfl rfl)
theorem dX10_alike_125 : decode cX10_alike 125 = .ok (.iload_n 2, 1) := dk_28 (dk_at dksX10_alike_5 10 rfl rfl)
theorem dX10_alike_126 : decode cX10_alike 126 = .ok (.goto 4, 3) := dk_167 0 4 (dk_at dksX10_alike_5 11 rfl rfl)
theorem dX10_alike_129 : decode cX10_alike 129 = .ok (.iload_n 3, 1) := dk_29 (dk_at dksX10_alike_5 14 rfl rfl)
theorem dX10_alike_130 : decode cX10_alike 130 = .ok (.ireturn, 1) := dk_172 (dk_at dksX10_alike_5 15 rfl rfl)
abbrev cX10_year : ByteArray := prog_32_method_107_code
def yX10_year : MethodName := ⟨RX10, "year", "(IIII)I"⟩
def dkwX10_year_5 : List UInt8 := [182, 1, 17, 172]
abbrev dktX10_year_5 : List UInt8 := dkwX10_year_5 ++ []
def dkwX10_year_4 : List UInt8 := [16, 28, 182, 1, 63, 100, 172, 42, 42, 180, 0, 70, 16, 7, 182, 1, 63, 172, 42, 42, 180, 0, 70, 3]
abbrev dktX10_year_4 : List UInt8 := dkwX10_year_4 ++ dktX10_year_5
def dkwX10_year_3 : List UInt8 := [42, 180, 0, 70, 16, 77, 46, 172, 42, 42, 180, 0, 70, 16, 28, 182, 1, 63, 42, 42, 180, 0, 67]
abbrev dktX10_year_3 : List UInt8 := dkwX10_year_3 ++ dktX10_year_4
def dkwX10_year_2 : List UInt8 := [170, 0, 0, 0, 0, 0, 0, 69, 0, 0, 0, 0, 0, 0, 0, 2, 0, 0, 0, 28, 0, 0, 0, 36, 0, 0, 0, 58]
abbrev dktX10_year_2 : List UInt8 := dkwX10_year_2 ++ dktX10_year_3
def dkwX10_year_1 : List UInt8 := [4, 167, 0, 4, 3, 4, 4, 182, 0, 178, 153, 0, 5, 3, 172, 42, 27, 28, 29, 182, 1, 128, 21, 4]
abbrev dktX10_year_1 : List UInt8 := dkwX10_year_1 ++ dktX10_year_2
def dkwX10_year_0 : List UInt8 := [42, 3, 181, 0, 98, 42, 28, 29, 184, 1, 125, 153, 0, 13, 21, 4, 3, 6, 184, 0, 132, 154, 0, 7]
abbrev dktX10_year_0 : List UInt8 := dkwX10_year_0 ++ dktX10_year_1
theorem dksX10_year_0 : cX10_year.data.toList.drop 0 = dktX10_year_0 := by decide +kernel
theorem dksX10_year_1 : cX10_year.data.toList.drop 24 = dktX10_year_1 := dk_seg dksX10_year_0 24 rfl rfl
theorem dksX10_year_2 : cX10_year.data.toList.drop 48 = dktX10_year_2 := dk_seg dksX10_year_1 24 rfl rfl
theorem dksX10_year_3 : cX10_year.data.toList.drop 76 = dktX10_year_3 := dk_seg dksX10_year_2 28 rfl rfl
theorem dksX10_year_4 : cX10_year.data.toList.drop 99 = dktX10_year_4 := dk_seg dksX10_year_3 23 rfl rfl
theorem dksX10_year_5 : cX10_year.data.toList.drop 123 = dktX10_year_5 := dk_seg dksX10_year_4 24 rfl rfl
theorem dX10_year_0 : decode cX10_year 0 = .ok (.aload_n 0, 1) := dk_42 (dk_at dksX10_year_0 0 rfl rfl)
theorem dX10_year_1 : decode cX10_year 1 = .ok (.iconst 0, 1) := dk_3 (dk_at dksX10_year_0 1 rfl rfl)
theorem dX10_year_2 : decode cX10_year 2 = .ok (.putfield 98, 3) := dk_181 0 98 (dk_at dksX10_year_0 2 rfl rfl)
theorem dX10_year_5 : decode cX10_year 5 = .ok (.aload_n 0, 1) := dk_42 (dk_at dksX10_year_0 5 rfl rfl)
theorem dX10_year_6 : decode cX10_year 6 = .ok (.iload_n 2, 1) := dk_28 (dk_at dksX10_year_0 6 rfl rfl)
theorem dX10_year_7 : decode cX10_year 7 = .ok (.iload_n 3, 1) := dk_29 (dk_at dksX10_year_0 7 rfl rfl)
theorem dX10_year_8 : decode cX10_year 8 = .ok (.invokestatic 381, 3) := dk_184 1 125 (dk_at dksX10_year_0 8 rfl rfl)
theorem dX10_year_11 : decode cX10_year 11 = .ok (.ifCond .eq 13, 3) := dk_153 0 13 (dk_at dksX10_year_0 11 rfl rfl)
theorem dX10_year_14 : decode cX10_year 14 = .ok (.iload 4, 2) := dk_21 4 (dk_at dksX10_year_0 14 rfl rfl)
theorem dX10_year_16 : decode cX10_year 16 = .ok (.iconst 0, 1) := dk_3 (dk_at dksX10_year_0 16 rfl rfl)
theorem dX10_year_17 : decode cX10_year 17 = .ok (.iconst 3, 1) := dk_6 (dk_at dksX10_year_0 17 rfl rfl)
theorem dX10_year_18 : decode cX10_year 18 = .ok (.invokestatic 132, 3) := dk_184 0 132 (dk_at dksX10_year_0 18 rfl rfl)
theorem dX10_year_21 : decode cX10_year 21 = .ok (.ifCond .ne 7, 3) := dk_154 0 7 (dk_at dksX10_year_0 21 rfl rfl)
theorem dX10_year_24 : decode cX10_year 24 = .ok (.iconst 1, 1) := dk_4 (dk_at dksX10_year_1 0 rfl rfl)
theorem dX10_year_25 : decode cX10_year 25 = .ok (.goto 4, 3) := dk_167 0 4 (dk_at dksX10_year_1 1 rfl rfl)
theorem dX10_year_28 : decode cX10_year 28 = .ok (.iconst 0, 1) := dk_3 (dk_at dksX10_year_1 4 rfl rfl)
theorem dX10_year_29 : decode cX10_year 29 = .ok (.iconst 1, 1) := dk_4 (dk_at dksX10_year_1 5 rfl rfl)
theorem dX10_year_30 : decode cX10_year 30 = .ok (.iconst 1, 1) := dk_4 (dk_at dksX10_year_1 6 rfl rfl)
theorem dX10_year_31 : decode cX10_year 31 = .ok (.invokevirtual 178, 3) := dk_182 0 178 (dk_at dksX10_year_1 7 rfl rfl)
theorem dX10_year_34 : decode cX10_year 34 = .ok (.ifCond .eq 5, 3) := dk_153 0 5 (dk_at dksX10_year_1 10 rfl rfl)
theorem dX10_year_37 : decode cX10_year 37 = .ok (.iconst 0, 1) := dk_3 (dk_at dksX10_year_1 13 rfl rfl)
theorem dX10_year_38 : decode cX10_year 38 = .ok (.ireturn, 1) := dk_172 (dk_at dksX10_year_1 14 rfl rfl)
theorem dX10_year_39 : decode cX10_year 39 = .ok (.aload_n 0, 1) := dk_42 (dk_at dksX10_year_1 15 rfl rfl)
theorem dX10_year_40 : decode cX10_year 40 = .ok (.iload_n 1, 1) := dk_27 (dk_at dksX10_year_1 16 rfl rfl)
theorem dX10_year_41 : decode cX10_year 41 = .ok (.iload_n 2, 1) := dk_28 (dk_at dksX10_year_1 17 rfl rfl)
theorem dX10_year_42 : decode cX10_year 42 = .ok (.iload_n 3, 1) := dk_29 (dk_at dksX10_year_1 18 rfl rfl)
theorem dX10_year_43 : decode cX10_year 43 = .ok (.invokevirtual 384, 3) := dk_182 1 128 (dk_at dksX10_year_1 19 rfl rfl)
theorem dX10_year_46 : decode cX10_year 46 = .ok (.iload 4, 2) := dk_21 4 (dk_at dksX10_year_1 22 rfl rfl)
theorem dX10_year_48 : decode cX10_year 48 = .ok (.tableswitch 69 0 2 #[28, 36, 58], 28) := by decide +kernel
theorem dX10_year_76 : decode cX10_year 76 = .ok (.aload_n 0, 1) := dk_42 (dk_at dksX10_year_3 0 rfl rfl)
theorem dX10_year_77 : decode cX10_year 77 = .ok (.getfield 70, 3) := dk_180 0 70 (dk_at dksX10_year_3 1 rfl rfl)
theorem dX10_year_80 : decode cX10_year 80 = .ok (.bipush 77, 2) := dk_16 77 (dk_at dksX10_year_3 4 rfl rfl)
theorem dX10_year_82 : decode cX10_year 82 = .ok (.iaload, 1) := dk_46 (dk_at dksX10_year_3 6 rfl rfl)
theorem dX10_year_83 : decode cX10_year 83 = .ok (.ireturn, 1) := dk_172 (dk_at dksX10_year_3 7 rfl rfl)
theorem dX10_year_84 : decode cX10_year 84 = .ok (.aload_n 0, 1) := dk_42 (dk_at dksX10_year_3 8 rfl rfl)
theorem dX10_year_85 : decode cX10_year 85 = .ok (.aload_n 0, 1) := dk_42 (dk_at dksX10_year_3 9 rfl rfl)
theorem dX10_year_86 : decode cX10_year 86 = .ok (.getfield 70, 3) := dk_180 0 70 (dk_at dksX10_year_3 10 rfl rfl)
theorem dX10_year_89 : decode cX10_year 89 = .ok (.bipush 28, 2) := dk_16 28 (dk_at dksX10_year_3 13 rfl rfl)
theorem dX10_year_91 : decode cX10_year 91 = .ok (.invokevirtual 319, 3) := dk_182 1 63 (dk_at dksX10_year_3 15 rfl rfl)
theorem dX10_year_94 : decode cX10_year 94 = .ok (.aload_n 0, 1) := dk_42 (dk_at dksX10_year_3 18 rfl rfl)
theorem dX10_year_95 : decode cX10_year 95 = .ok (.aload_n 0, 1) := dk_42 (dk_at dksX10_year_3 19 rfl rfl)
theorem dX10_year_96 : decode cX10_year 96 = .ok (.getfield 67, 3) := dk_180 0 67 (dk_at dksX10_year_3 20 rfl rfl)
theorem dX10_year_99 : decode cX10_year 99 = .ok (.bipush 28, 2) := dk_16 28 (dk_at dksX10_year_4 0 rfl rfl)
theorem dX10_year_101 : decode cX10_year 101 = .ok (.invokevirtual 319, 3) := dk_182 1 63 (dk_at dksX10_year_4 2 rfl rfl)
theorem dX10_year_104 : decode cX10_year 104 = .ok (.isub, 1) := dk_100 (dk_at dksX10_year_4 5 rfl rfl)
theorem dX10_year_105 : decode cX10_year 105 = .ok (.ireturn, 1) := dk_172 (dk_at dksX10_year_4 6 rfl rfl)
theorem dX10_year_106 : decode cX10_year 106 = .ok (.aload_n 0, 1) := dk_42 (dk_at dksX10_year_4 7 rfl rfl)
theorem dX10_year_107 : decode cX10_year 107 = .ok (.aload_n 0, 1) := dk_42 (dk_at dksX10_year_4 8 rfl rfl)
theorem dX10_year_108 : decode cX10_year 108 = .ok (.getfield 70, 3) := dk_180 0 70 (dk_at dksX10_year_4 9 rfl rfl)
theorem dX10_year_111 : decode cX10_year 111 = .ok (.bipush 7, 2) := dk_16 7 (dk_at dksX10_year_4 12 rfl rfl)
theorem dX10_year_113 : decode cX10_year 113 = .ok (.invokevirtual 319, 3) := dk_182 1 63 (dk_at dksX10_year_4 14 rfl rfl)
theorem dX10_year_116 : decode cX10_year 116 = .ok (.ireturn, 1) := dk_172 (dk_at dksX10_year_4 17 rfl rfl)
theorem dX10_year_117 : decode cX10_year 117 = .ok (.aload_n 0, 1) := dk_42 (dk_at dksX10_year_4 18 rfl rfl)
theorem dX10_year_118 : decode cX10_year 118 = .ok (.aload_n 0, 1) := dk_42 (dk_at dksX10_year_4 19 rfl rfl)
theorem dX10_year_119 : decode cX10_year 119 = .ok (.getfield 70, 3) := dk_180 0 70 (dk_at dksX10_year_4 20 rfl rfl)
theorem dX10_year_122 : decode cX10_year 122 = .ok (.iconst 0, 1) := dk_3 (dk_at dksX10_year_4 23 rfl rfl)
theorem dX10_year_123 : decode cX10_year 123 = .ok (.invokevirtual 273, 3) := dk_182 1 17 (dk_at dksX10_year_5 0 rfl rfl)
theorem dX10_year_126 : decode cX10_year 126 = .ok (.ireturn, 1) := dk_172 (dk_at dksX10_year_5 3 rfl rfl)
abbrev cX10_isYear : ByteArray := prog_32_method_106_code
def yX10_isYear : MethodName := ⟨RX10, "isYear", "(II)Z"⟩
def dkwX10_isYear_1 : List UInt8 := [3, 172]
abbrev dktX10_isYear_1 : List UInt8 := dkwX10_isYear_1 ++ []
def dkwX10_isYear_0 : List UInt8 := [26, 4, 16, 96, 184, 0, 132, 153, 0, 17, 27, 3, 16, 16, 184, 0, 132, 153, 0, 7, 4, 167, 0, 4]
abbrev dktX10_isYear_0 : List UInt8 := dkwX10_isYear_0 ++ dktX10_isYear_1
theorem dksX10_isYear_0 : cX10_isYear.data.toList.drop 0 = dktX10_isYear_0 := by decide +kernel
theorem dksX10_isYear_1 : cX10_isYear.data.toList.drop 24 = dktX10_isYear_1 := dk_seg dksX10_isYear_0 24 rfl rfl
theorem dX10_isYear_0 : decode cX10_isYear 0 = .ok (.iload_n 0, 1) := dk_26 (dk_at dksX10_isYear_0 0 rfl rfl)
theorem dX10_isYear_1 : decode cX10_isYear 1 = .ok (.iconst 1, 1) := dk_4 (dk_at dksX10_isYear_0 1 rfl rfl)
theorem dX10_isYear_2 : decode cX10_isYear 2 = .ok (.bipush 96, 2) := dk_16 96 (dk_at dksX10_isYear_0 2 rfl rfl)
theorem dX10_isYear_4 : decode cX10_isYear 4 = .ok (.invokestatic 132, 3) := dk_184 0 132 (dk_at dksX10_isYear_0 4 rfl rfl)
theorem dX10_isYear_7 : decode cX10_isYear 7 = .ok (.ifCond .eq 17, 3) := dk_153 0 17 (dk_at dksX10_isYear_0 7 rfl rfl)
theorem dX10_isYear_10 : decode cX10_isYear 10 = .ok (.iload_n 1, 1) := dk_27 (dk_at dksX10_isYear_0 10 rfl rfl)
theorem dX10_isYear_11 : decode cX10_isYear 11 = .ok (.iconst 0, 1) := dk_3 (dk_at dksX10_isYear_0 11 rfl rfl)
theorem dX10_isYear_12 : decode cX10_isYear 12 = .ok (.bipush 16, 2) := dk_16 16 (dk_at dksX10_isYear_0 12 rfl rfl)
theorem dX10_isYear_14 : decode cX10_isYear 14 = .ok (.invokestatic 132, 3) := dk_184 0 132 (dk_at dksX10_isYear_0 14 rfl rfl)
theorem dX10_isYear_17 : decode cX10_isYear 17 = .ok (.ifCond .eq 7, 3) := dk_153 0 7 (dk_at dksX10_isYear_0 17 rfl rfl)
theorem dX10_isYear_20 : decode cX10_isYear 20 = .ok (.iconst 1, 1) := dk_4 (dk_at dksX10_isYear_0 20 rfl rfl)
theorem dX10_isYear_21 : decode cX10_isYear 21 = .ok (.goto 4, 3) := dk_167 0 4 (dk_at dksX10_isYear_0 21 rfl rfl)
theorem dX10_isYear_24 : decode cX10_isYear 24 = .ok (.iconst 0, 1) := dk_3 (dk_at dksX10_isYear_1 0 rfl rfl)
theorem dX10_isYear_25 : decode cX10_isYear 25 = .ok (.ireturn, 1) := dk_172 (dk_at dksX10_isYear_1 1 rfl rfl)
abbrev cX10_yearBy : ByteArray := prog_32_method_105_code
def yX10_yearBy : MethodName := ⟨RX10, "yearBy", "(III)V"⟩
def dkwX10_yearBy_5 : List UInt8 := [177]
abbrev dktX10_yearBy_5 : List UInt8 := dkwX10_yearBy_5 ++ []
def dkwX10_yearBy_4 : List UInt8 := [180, 0, 70, 21, 6, 6, 184, 1, 39, 87, 42, 42, 180, 0, 70, 182, 1, 42, 132, 4, 1, 167, 255, 163]
abbrev dktX10_yearBy_4 : List UInt8 := dkwX10_yearBy_4 ++ dktX10_yearBy_5
def dkwX10_yearBy_3 : List UInt8 := [180, 0, 70, 21, 5, 21, 6, 182, 1, 35, 87, 42, 16, 16, 182, 1, 122, 29, 162, 0, 14, 42]
abbrev dktX10_yearBy_3 : List UInt8 := dkwX10_yearBy_3 ++ dktX10_yearBy_4
def dkwX10_yearBy_2 : List UInt8 := [180, 0, 23, 4, 46, 182, 1, 122, 54, 5, 42, 42, 180, 0, 23, 3, 46, 182, 1, 122, 54, 6, 42, 42]
abbrev dktX10_yearBy_2 : List UInt8 := dkwX10_yearBy_2 ++ dktX10_yearBy_3
def dkwX10_yearBy_1 : List UInt8 := [162, 0, 93, 42, 180, 0, 23, 3, 46, 158, 0, 70, 42, 180, 0, 23, 4, 46, 158, 0, 61, 42, 42]
abbrev dktX10_yearBy_1 : List UInt8 := dkwX10_yearBy_1 ++ dktX10_yearBy_2
def dkwX10_yearBy_0 : List UInt8 := [42, 180, 0, 67, 42, 180, 0, 70, 184, 1, 59, 42, 27, 181, 1, 118, 3, 54, 4, 21, 4, 28]
abbrev dktX10_yearBy_0 : List UInt8 := dkwX10_yearBy_0 ++ dktX10_yearBy_1
theorem dksX10_yearBy_0 : cX10_yearBy.data.toList.drop 0 = dktX10_yearBy_0 := by decide +kernel
theorem dksX10_yearBy_1 : cX10_yearBy.data.toList.drop 22 = dktX10_yearBy_1 := dk_seg dksX10_yearBy_0 22 rfl rfl
theorem dksX10_yearBy_2 : cX10_yearBy.data.toList.drop 45 = dktX10_yearBy_2 := dk_seg dksX10_yearBy_1 23 rfl rfl
theorem dksX10_yearBy_3 : cX10_yearBy.data.toList.drop 69 = dktX10_yearBy_3 := dk_seg dksX10_yearBy_2 24 rfl rfl
theorem dksX10_yearBy_4 : cX10_yearBy.data.toList.drop 91 = dktX10_yearBy_4 := dk_seg dksX10_yearBy_3 22 rfl rfl
theorem dksX10_yearBy_5 : cX10_yearBy.data.toList.drop 115 = dktX10_yearBy_5 := dk_seg dksX10_yearBy_4 24 rfl rfl
theorem dX10_yearBy_0 : decode cX10_yearBy 0 = .ok (.aload_n 0, 1) := dk_42 (dk_at dksX10_yearBy_0 0 rfl rfl)
theorem dX10_yearBy_1 : decode cX10_yearBy 1 = .ok (.getfield 67, 3) := dk_180 0 67 (dk_at dksX10_yearBy_0 1 rfl rfl)
theorem dX10_yearBy_4 : decode cX10_yearBy 4 = .ok (.aload_n 0, 1) := dk_42 (dk_at dksX10_yearBy_0 4 rfl rfl)
theorem dX10_yearBy_5 : decode cX10_yearBy 5 = .ok (.getfield 70, 3) := dk_180 0 70 (dk_at dksX10_yearBy_0 5 rfl rfl)
theorem dX10_yearBy_8 : decode cX10_yearBy 8 = .ok (.invokestatic 315, 3) := dk_184 1 59 (dk_at dksX10_yearBy_0 8 rfl rfl)
theorem dX10_yearBy_11 : decode cX10_yearBy 11 = .ok (.aload_n 0, 1) := dk_42 (dk_at dksX10_yearBy_0 11 rfl rfl)
theorem dX10_yearBy_12 : decode cX10_yearBy 12 = .ok (.iload_n 1, 1) := dk_27 (dk_at dksX10_yearBy_0 12 rfl rfl)
theorem dX10_yearBy_13 : decode cX10_yearBy 13 = .ok (.putfield 374, 3) := dk_181 1 118 (dk_at dksX10_yearBy_0 13 rfl rfl)
theorem dX10_yearBy_16 : decode cX10_yearBy 16 = .ok (.iconst 0, 1) := dk_3 (dk_at dksX10_yearBy_0 16 rfl rfl)
theorem dX10_yearBy_17 : decode cX10_yearBy 17 = .ok (.istore 4, 2) := dk_54 4 (dk_at dksX10_yearBy_0 17 rfl rfl)
theorem dX10_yearBy_19 : decode cX10_yearBy 19 = .ok (.iload 4, 2) := dk_21 4 (dk_at dksX10_yearBy_0 19 rfl rfl)
theorem dX10_yearBy_21 : decode cX10_yearBy 21 = .ok (.iload_n 2, 1) := dk_28 (dk_at dksX10_yearBy_0 21 rfl rfl)
theorem dX10_yearBy_22 : decode cX10_yearBy 22 = .ok (.if_icmp .ge 93, 3) := dk_162 0 93 (dk_at dksX10_yearBy_1 0 rfl rfl)
theorem dX10_yearBy_25 : decode cX10_yearBy 25 = .ok (.aload_n 0, 1) := dk_42 (dk_at dksX10_yearBy_1 3 rfl rfl)
theorem dX10_yearBy_26 : decode cX10_yearBy 26 = .ok (.getfield 23, 3) := dk_180 0 23 (dk_at dksX10_yearBy_1 4 rfl rfl)
theorem dX10_yearBy_29 : decode cX10_yearBy 29 = .ok (.iconst 0, 1) := dk_3 (dk_at dksX10_yearBy_1 7 rfl rfl)
theorem dX10_yearBy_30 : decode cX10_yearBy 30 = .ok (.iaload, 1) := dk_46 (dk_at dksX10_yearBy_1 8 rfl rfl)
theorem dX10_yearBy_31 : decode cX10_yearBy 31 = .ok (.ifCond .le 70, 3) := dk_158 0 70 (dk_at dksX10_yearBy_1 9 rfl rfl)
theorem dX10_yearBy_34 : decode cX10_yearBy 34 = .ok (.aload_n 0, 1) := dk_42 (dk_at dksX10_yearBy_1 12 rfl rfl)
theorem dX10_yearBy_35 : decode cX10_yearBy 35 = .ok (.getfield 23, 3) := dk_180 0 23 (dk_at dksX10_yearBy_1 13 rfl rfl)
theorem dX10_yearBy_38 : decode cX10_yearBy 38 = .ok (.iconst 1, 1) := dk_4 (dk_at dksX10_yearBy_1 16 rfl rfl)
theorem dX10_yearBy_39 : decode cX10_yearBy 39 = .ok (.iaload, 1) := dk_46 (dk_at dksX10_yearBy_1 17 rfl rfl)
theorem dX10_yearBy_40 : decode cX10_yearBy 40 = .ok (.ifCond .le 61, 3) := dk_158 0 61 (dk_at dksX10_yearBy_1 18 rfl rfl)
theorem dX10_yearBy_43 : decode cX10_yearBy 43 = .ok (.aload_n 0, 1) := dk_42 (dk_at dksX10_yearBy_1 21 rfl rfl)
theorem dX10_yearBy_44 : decode cX10_yearBy 44 = .ok (.aload_n 0, 1) := dk_42 (dk_at dksX10_yearBy_1 22 rfl rfl)
theorem dX10_yearBy_45 : decode cX10_yearBy 45 = .ok (.getfield 23, 3) := dk_180 0 23 (dk_at dksX10_yearBy_2 0 rfl rfl)
theorem dX10_yearBy_48 : decode cX10_yearBy 48 = .ok (.iconst 1, 1) := dk_4 (dk_at dksX10_yearBy_2 3 rfl rfl)
theorem dX10_yearBy_49 : decode cX10_yearBy 49 = .ok (.iaload, 1) := dk_46 (dk_at dksX10_yearBy_2 4 rfl rfl)
theorem dX10_yearBy_50 : decode cX10_yearBy 50 = .ok (.invokevirtual 378, 3) := dk_182 1 122 (dk_at dksX10_yearBy_2 5 rfl rfl)
theorem dX10_yearBy_53 : decode cX10_yearBy 53 = .ok (.istore 5, 2) := dk_54 5 (dk_at dksX10_yearBy_2 8 rfl rfl)
theorem dX10_yearBy_55 : decode cX10_yearBy 55 = .ok (.aload_n 0, 1) := dk_42 (dk_at dksX10_yearBy_2 10 rfl rfl)
theorem dX10_yearBy_56 : decode cX10_yearBy 56 = .ok (.aload_n 0, 1) := dk_42 (dk_at dksX10_yearBy_2 11 rfl rfl)
theorem dX10_yearBy_57 : decode cX10_yearBy 57 = .ok (.getfield 23, 3) := dk_180 0 23 (dk_at dksX10_yearBy_2 12 rfl rfl)
theorem dX10_yearBy_60 : decode cX10_yearBy 60 = .ok (.iconst 0, 1) := dk_3 (dk_at dksX10_yearBy_2 15 rfl rfl)
theorem dX10_yearBy_61 : decode cX10_yearBy 61 = .ok (.iaload, 1) := dk_46 (dk_at dksX10_yearBy_2 16 rfl rfl)
theorem dX10_yearBy_62 : decode cX10_yearBy 62 = .ok (.invokevirtual 378, 3) := dk_182 1 122 (dk_at dksX10_yearBy_2 17 rfl rfl)
theorem dX10_yearBy_65 : decode cX10_yearBy 65 = .ok (.istore 6, 2) := dk_54 6 (dk_at dksX10_yearBy_2 20 rfl rfl)
theorem dX10_yearBy_67 : decode cX10_yearBy 67 = .ok (.aload_n 0, 1) := dk_42 (dk_at dksX10_yearBy_2 22 rfl rfl)
theorem dX10_yearBy_68 : decode cX10_yearBy 68 = .ok (.aload_n 0, 1) := dk_42 (dk_at dksX10_yearBy_2 23 rfl rfl)
theorem dX10_yearBy_69 : decode cX10_yearBy 69 = .ok (.getfield 70, 3) := dk_180 0 70 (dk_at dksX10_yearBy_3 0 rfl rfl)
theorem dX10_yearBy_72 : decode cX10_yearBy 72 = .ok (.iload 5, 2) := dk_21 5 (dk_at dksX10_yearBy_3 3 rfl rfl)
theorem dX10_yearBy_74 : decode cX10_yearBy 74 = .ok (.iload 6, 2) := dk_21 6 (dk_at dksX10_yearBy_3 5 rfl rfl)
theorem dX10_yearBy_76 : decode cX10_yearBy 76 = .ok (.invokevirtual 291, 3) := dk_182 1 35 (dk_at dksX10_yearBy_3 7 rfl rfl)
theorem dX10_yearBy_79 : decode cX10_yearBy 79 = .ok (.pop, 1) := dk_87 (dk_at dksX10_yearBy_3 10 rfl rfl)
theorem dX10_yearBy_80 : decode cX10_yearBy 80 = .ok (.aload_n 0, 1) := dk_42 (dk_at dksX10_yearBy_3 11 rfl rfl)
theorem dX10_yearBy_81 : decode cX10_yearBy 81 = .ok (.bipush 16, 2) := dk_16 16 (dk_at dksX10_yearBy_3 12 rfl rfl)
theorem dX10_yearBy_83 : decode cX10_yearBy 83 = .ok (.invokevirtual 378, 3) := dk_182 1 122 (dk_at dksX10_yearBy_3 14 rfl rfl)
theorem dX10_yearBy_86 : decode cX10_yearBy 86 = .ok (.iload_n 3, 1) := dk_29 (dk_at dksX10_yearBy_3 17 rfl rfl)
theorem dX10_yearBy_87 : decode cX10_yearBy 87 = .ok (.if_icmp .ge 14, 3) := dk_162 0 14 (dk_at dksX10_yearBy_3 18 rfl rfl)
theorem dX10_yearBy_90 : decode cX10_yearBy 90 = .ok (.aload_n 0, 1) := dk_42 (dk_at dksX10_yearBy_3 21 rfl rfl)
theorem dX10_yearBy_91 : decode cX10_yearBy 91 = .ok (.getfield 70, 3) := dk_180 0 70 (dk_at dksX10_yearBy_4 0 rfl rfl)
theorem dX10_yearBy_94 : decode cX10_yearBy 94 = .ok (.iload 6, 2) := dk_21 6 (dk_at dksX10_yearBy_4 3 rfl rfl)
theorem dX10_yearBy_96 : decode cX10_yearBy 96 = .ok (.iconst 3, 1) := dk_6 (dk_at dksX10_yearBy_4 5 rfl rfl)
theorem dX10_yearBy_97 : decode cX10_yearBy 97 = .ok (.invokestatic 295, 3) := dk_184 1 39 (dk_at dksX10_yearBy_4 6 rfl rfl)
theorem dX10_yearBy_100 : decode cX10_yearBy 100 = .ok (.pop, 1) := dk_87 (dk_at dksX10_yearBy_4 9 rfl rfl)
theorem dX10_yearBy_101 : decode cX10_yearBy 101 = .ok (.aload_n 0, 1) := dk_42 (dk_at dksX10_yearBy_4 10 rfl rfl)
theorem dX10_yearBy_102 : decode cX10_yearBy 102 = .ok (.aload_n 0, 1) := dk_42 (dk_at dksX10_yearBy_4 11 rfl rfl)
theorem dX10_yearBy_103 : decode cX10_yearBy 103 = .ok (.getfield 70, 3) := dk_180 0 70 (dk_at dksX10_yearBy_4 12 rfl rfl)
theorem dX10_yearBy_106 : decode cX10_yearBy 106 = .ok (.invokevirtual 298, 3) := dk_182 1 42 (dk_at dksX10_yearBy_4 15 rfl rfl)
theorem dX10_yearBy_109 : decode cX10_yearBy 109 = .ok (.iinc 4 1, 3) := dk_132 4 1 (dk_at dksX10_yearBy_4 18 rfl rfl)
theorem dX10_yearBy_112 : decode cX10_yearBy 112 = .ok (.goto (-93), 3) := dk_167 255 163 (dk_at dksX10_yearBy_4 21 rfl rfl)
theorem dX10_yearBy_115 : decode cX10_yearBy 115 = .ok (.return_, 1) := dk_177 (dk_at dksX10_yearBy_5 0 rfl rfl)
abbrev cX10_draw : ByteArray := prog_32_method_104_code
def yX10_draw : MethodName := ⟨RX10, "draw", "(I)I"⟩
def dkwX10_draw_1 : List UInt8 := [17, 127, 255, 126, 27, 112, 172]
abbrev dktX10_draw_1 : List UInt8 := dkwX10_draw_1 ++ []
def dkwX10_draw_0 : List UInt8 := [42, 42, 180, 1, 118, 19, 1, 121, 104, 17, 48, 57, 96, 181, 1, 118, 42, 180, 1, 118, 16, 16, 122]
abbrev dktX10_draw_0 : List UInt8 := dkwX10_draw_0 ++ dktX10_draw_1
theorem dksX10_draw_0 : cX10_draw.data.toList.drop 0 = dktX10_draw_0 := by decide +kernel
theorem dksX10_draw_1 : cX10_draw.data.toList.drop 23 = dktX10_draw_1 := dk_seg dksX10_draw_0 23 rfl rfl
theorem dX10_draw_0 : decode cX10_draw 0 = .ok (.aload_n 0, 1) := dk_42 (dk_at dksX10_draw_0 0 rfl rfl)
theorem dX10_draw_1 : decode cX10_draw 1 = .ok (.aload_n 0, 1) := dk_42 (dk_at dksX10_draw_0 1 rfl rfl)
theorem dX10_draw_2 : decode cX10_draw 2 = .ok (.getfield 374, 3) := dk_180 1 118 (dk_at dksX10_draw_0 2 rfl rfl)
theorem dX10_draw_5 : decode cX10_draw 5 = .ok (.ldc_w 377, 3) := dk_19 1 121 (dk_at dksX10_draw_0 5 rfl rfl)
theorem dX10_draw_8 : decode cX10_draw 8 = .ok (.imul, 1) := dk_104 (dk_at dksX10_draw_0 8 rfl rfl)
theorem dX10_draw_9 : decode cX10_draw 9 = .ok (.sipush 12345, 3) := dk_17 48 57 (dk_at dksX10_draw_0 9 rfl rfl)
theorem dX10_draw_12 : decode cX10_draw 12 = .ok (.iadd, 1) := dk_96 (dk_at dksX10_draw_0 12 rfl rfl)
theorem dX10_draw_13 : decode cX10_draw 13 = .ok (.putfield 374, 3) := dk_181 1 118 (dk_at dksX10_draw_0 13 rfl rfl)
theorem dX10_draw_16 : decode cX10_draw 16 = .ok (.aload_n 0, 1) := dk_42 (dk_at dksX10_draw_0 16 rfl rfl)
theorem dX10_draw_17 : decode cX10_draw 17 = .ok (.getfield 374, 3) := dk_180 1 118 (dk_at dksX10_draw_0 17 rfl rfl)
theorem dX10_draw_20 : decode cX10_draw 20 = .ok (.bipush 16, 2) := dk_16 16 (dk_at dksX10_draw_0 20 rfl rfl)
theorem dX10_draw_22 : decode cX10_draw 22 = .ok (.ishr, 1) := dk_122 (dk_at dksX10_draw_0 22 rfl rfl)
theorem dX10_draw_23 : decode cX10_draw 23 = .ok (.sipush 32767, 3) := dk_17 127 255 (dk_at dksX10_draw_1 0 rfl rfl)
theorem dX10_draw_26 : decode cX10_draw 26 = .ok (.iand, 1) := dk_126 (dk_at dksX10_draw_1 3 rfl rfl)
theorem dX10_draw_27 : decode cX10_draw 27 = .ok (.iload_n 1, 1) := dk_27 (dk_at dksX10_draw_1 4 rfl rfl)
theorem dX10_draw_28 : decode cX10_draw 28 = .ok (.irem, 1) := dk_112 (dk_at dksX10_draw_1 5 rfl rfl)
theorem dX10_draw_29 : decode cX10_draw 29 = .ok (.ireturn, 1) := dk_172 (dk_at dksX10_draw_1 6 rfl rfl)
abbrev cX10_span : ByteArray := prog_32_method_108_code
def yX10_span : MethodName := ⟨RX10, "span", "(IIIIII)I"⟩
def dkwX10_span_8 : List UInt8 := [21, 9, 172]
abbrev dktX10_span_8 : List UInt8 := dkwX10_span_8 ++ []
def dkwX10_span_7 : List UInt8 := [167, 255, 169, 21, 5, 154, 0, 8, 21, 7, 167, 0, 16, 21, 5, 4, 160, 0, 8, 21, 8, 167, 0, 5]
abbrev dktX10_span_7 : List UInt8 := dkwX10_span_7 ++ dktX10_span_8
def dkwX10_span_6 : List UInt8 := [180, 0, 70, 16, 7, 21, 6, 96, 46, 158, 0, 7, 4, 167, 0, 4, 3, 96, 54, 9, 132, 10, 1]
abbrev dktX10_span_6 : List UInt8 := dkwX10_span_6 ++ dktX10_span_7
def dkwX10_span_5 : List UInt8 := [184, 0, 241, 54, 7, 21, 8, 42, 180, 0, 70, 16, 77, 46, 184, 0, 244, 54, 8, 21, 9, 42]
abbrev dktX10_span_5 : List UInt8 := dkwX10_span_5 ++ dktX10_span_6
def dkwX10_span_4 : List UInt8 := [160, 0, 13, 42, 180, 0, 70, 16, 77, 46, 167, 0, 15, 21, 7, 42, 180, 0, 70, 16, 77, 46]
abbrev dktX10_span_4 : List UInt8 := dkwX10_span_4 ++ dktX10_span_5
def dkwX10_span_3 : List UInt8 := [54, 10, 21, 10, 28, 162, 0, 87, 42, 27, 21, 10, 96, 29, 21, 4, 182, 1, 128, 21, 7, 2]
abbrev dktX10_span_3 : List UInt8 := dkwX10_span_3 ++ dktX10_span_4
def dkwX10_span_2 : List UInt8 := [167, 0, 4, 3, 4, 4, 182, 0, 178, 153, 0, 5, 3, 172, 2, 54, 7, 3, 54, 8, 3, 54, 9, 3]
abbrev dktX10_span_2 : List UInt8 := dkwX10_span_2 ++ dktX10_span_3
def dkwX10_span_1 : List UInt8 := [153, 0, 22, 21, 5, 3, 5, 184, 0, 132, 153, 0, 12, 42, 21, 6, 182, 1, 69, 154, 0, 7, 4]
abbrev dktX10_span_1 : List UInt8 := dkwX10_span_1 ++ dktX10_span_2
def dkwX10_span_0 : List UInt8 := [42, 3, 181, 0, 98, 42, 28, 4, 16, 20, 184, 0, 132, 153, 0, 31, 29, 21, 4, 184, 1, 125]
abbrev dktX10_span_0 : List UInt8 := dkwX10_span_0 ++ dktX10_span_1
theorem dksX10_span_0 : cX10_span.data.toList.drop 0 = dktX10_span_0 := by decide +kernel
theorem dksX10_span_1 : cX10_span.data.toList.drop 22 = dktX10_span_1 := dk_seg dksX10_span_0 22 rfl rfl
theorem dksX10_span_2 : cX10_span.data.toList.drop 45 = dktX10_span_2 := dk_seg dksX10_span_1 23 rfl rfl
theorem dksX10_span_3 : cX10_span.data.toList.drop 69 = dktX10_span_3 := dk_seg dksX10_span_2 24 rfl rfl
theorem dksX10_span_4 : cX10_span.data.toList.drop 91 = dktX10_span_4 := dk_seg dksX10_span_3 22 rfl rfl
theorem dksX10_span_5 : cX10_span.data.toList.drop 113 = dktX10_span_5 := dk_seg dksX10_span_4 22 rfl rfl
theorem dksX10_span_6 : cX10_span.data.toList.drop 135 = dktX10_span_6 := dk_seg dksX10_span_5 22 rfl rfl
theorem dksX10_span_7 : cX10_span.data.toList.drop 158 = dktX10_span_7 := dk_seg dksX10_span_6 23 rfl rfl
theorem dksX10_span_8 : cX10_span.data.toList.drop 182 = dktX10_span_8 := dk_seg dksX10_span_7 24 rfl rfl
theorem dX10_span_0 : decode cX10_span 0 = .ok (.aload_n 0, 1) := dk_42 (dk_at dksX10_span_0 0 rfl rfl)
theorem dX10_span_1 : decode cX10_span 1 = .ok (.iconst 0, 1) := dk_3 (dk_at dksX10_span_0 1 rfl rfl)
theorem dX10_span_2 : decode cX10_span 2 = .ok (.putfield 98, 3) := dk_181 0 98 (dk_at dksX10_span_0 2 rfl rfl)
theorem dX10_span_5 : decode cX10_span 5 = .ok (.aload_n 0, 1) := dk_42 (dk_at dksX10_span_0 5 rfl rfl)
theorem dX10_span_6 : decode cX10_span 6 = .ok (.iload_n 2, 1) := dk_28 (dk_at dksX10_span_0 6 rfl rfl)
theorem dX10_span_7 : decode cX10_span 7 = .ok (.iconst 1, 1) := dk_4 (dk_at dksX10_span_0 7 rfl rfl)
theorem dX10_span_8 : decode cX10_span 8 = .ok (.bipush 20, 2) := dk_16 20 (dk_at dksX10_span_0 8 rfl rfl)
theorem dX10_span_10 : decode cX10_span 10 = .ok (.invokestatic 132, 3) := dk_184 0 132 (dk_at dksX10_span_0 10 rfl rfl)
theorem dX10_span_13 : decode cX10_span 13 = .ok (.ifCond .eq 31, 3) := dk_153 0 31 (dk_at dksX10_span_0 13 rfl rfl)
theorem dX10_span_16 : decode cX10_span 16 = .ok (.iload_n 3, 1) := dk_29 (dk_at dksX10_span_0 16 rfl rfl)
theorem dX10_span_17 : decode cX10_span 17 = .ok (.iload 4, 2) := dk_21 4 (dk_at dksX10_span_0 17 rfl rfl)
theorem dX10_span_19 : decode cX10_span 19 = .ok (.invokestatic 381, 3) := dk_184 1 125 (dk_at dksX10_span_0 19 rfl rfl)
theorem dX10_span_22 : decode cX10_span 22 = .ok (.ifCond .eq 22, 3) := dk_153 0 22 (dk_at dksX10_span_1 0 rfl rfl)
theorem dX10_span_25 : decode cX10_span 25 = .ok (.iload 5, 2) := dk_21 5 (dk_at dksX10_span_1 3 rfl rfl)
theorem dX10_span_27 : decode cX10_span 27 = .ok (.iconst 0, 1) := dk_3 (dk_at dksX10_span_1 5 rfl rfl)
theorem dX10_span_28 : decode cX10_span 28 = .ok (.iconst 2, 1) := dk_5 (dk_at dksX10_span_1 6 rfl rfl)
theorem dX10_span_29 : decode cX10_span 29 = .ok (.invokestatic 132, 3) := dk_184 0 132 (dk_at dksX10_span_1 7 rfl rfl)
theorem dX10_span_32 : decode cX10_span 32 = .ok (.ifCond .eq 12, 3) := dk_153 0 12 (dk_at dksX10_span_1 10 rfl rfl)
theorem dX10_span_35 : decode cX10_span 35 = .ok (.aload_n 0, 1) := dk_42 (dk_at dksX10_span_1 13 rfl rfl)
theorem dX10_span_36 : decode cX10_span 36 = .ok (.iload 6, 2) := dk_21 6 (dk_at dksX10_span_1 14 rfl rfl)
theorem dX10_span_38 : decode cX10_span 38 = .ok (.invokevirtual 325, 3) := dk_182 1 69 (dk_at dksX10_span_1 16 rfl rfl)
theorem dX10_span_41 : decode cX10_span 41 = .ok (.ifCond .ne 7, 3) := dk_154 0 7 (dk_at dksX10_span_1 19 rfl rfl)
theorem dX10_span_44 : decode cX10_span 44 = .ok (.iconst 1, 1) := dk_4 (dk_at dksX10_span_1 22 rfl rfl)
theorem dX10_span_45 : decode cX10_span 45 = .ok (.goto 4, 3) := dk_167 0 4 (dk_at dksX10_span_2 0 rfl rfl)
theorem dX10_span_48 : decode cX10_span 48 = .ok (.iconst 0, 1) := dk_3 (dk_at dksX10_span_2 3 rfl rfl)
theorem dX10_span_49 : decode cX10_span 49 = .ok (.iconst 1, 1) := dk_4 (dk_at dksX10_span_2 4 rfl rfl)
theorem dX10_span_50 : decode cX10_span 50 = .ok (.iconst 1, 1) := dk_4 (dk_at dksX10_span_2 5 rfl rfl)
theorem dX10_span_51 : decode cX10_span 51 = .ok (.invokevirtual 178, 3) := dk_182 0 178 (dk_at dksX10_span_2 6 rfl rfl)
theorem dX10_span_54 : decode cX10_span 54 = .ok (.ifCond .eq 5, 3) := dk_153 0 5 (dk_at dksX10_span_2 9 rfl rfl)
theorem dX10_span_57 : decode cX10_span 57 = .ok (.iconst 0, 1) := dk_3 (dk_at dksX10_span_2 12 rfl rfl)
theorem dX10_span_58 : decode cX10_span 58 = .ok (.ireturn, 1) := dk_172 (dk_at dksX10_span_2 13 rfl rfl)
theorem dX10_span_59 : decode cX10_span 59 = .ok (.iconst (-1), 1) := dk_2 (dk_at dksX10_span_2 14 rfl rfl)
theorem dX10_span_60 : decode cX10_span 60 = .ok (.istore 7, 2) := dk_54 7 (dk_at dksX10_span_2 15 rfl rfl)
theorem dX10_span_62 : decode cX10_span 62 = .ok (.iconst 0, 1) := dk_3 (dk_at dksX10_span_2 17 rfl rfl)
theorem dX10_span_63 : decode cX10_span 63 = .ok (.istore 8, 2) := dk_54 8 (dk_at dksX10_span_2 18 rfl rfl)
theorem dX10_span_65 : decode cX10_span 65 = .ok (.iconst 0, 1) := dk_3 (dk_at dksX10_span_2 20 rfl rfl)
theorem dX10_span_66 : decode cX10_span 66 = .ok (.istore 9, 2) := dk_54 9 (dk_at dksX10_span_2 21 rfl rfl)
theorem dX10_span_68 : decode cX10_span 68 = .ok (.iconst 0, 1) := dk_3 (dk_at dksX10_span_2 23 rfl rfl)
theorem dX10_span_69 : decode cX10_span 69 = .ok (.istore 10, 2) := dk_54 10 (dk_at dksX10_span_3 0 rfl rfl)
theorem dX10_span_71 : decode cX10_span 71 = .ok (.iload 10, 2) := dk_21 10 (dk_at dksX10_span_3 2 rfl rfl)
theorem dX10_span_73 : decode cX10_span 73 = .ok (.iload_n 2, 1) := dk_28 (dk_at dksX10_span_3 4 rfl rfl)
theorem dX10_span_74 : decode cX10_span 74 = .ok (.if_icmp .ge 87, 3) := dk_162 0 87 (dk_at dksX10_span_3 5 rfl rfl)
theorem dX10_span_77 : decode cX10_span 77 = .ok (.aload_n 0, 1) := dk_42 (dk_at dksX10_span_3 8 rfl rfl)
theorem dX10_span_78 : decode cX10_span 78 = .ok (.iload_n 1, 1) := dk_27 (dk_at dksX10_span_3 9 rfl rfl)
theorem dX10_span_79 : decode cX10_span 79 = .ok (.iload 10, 2) := dk_21 10 (dk_at dksX10_span_3 10 rfl rfl)
theorem dX10_span_81 : decode cX10_span 81 = .ok (.iadd, 1) := dk_96 (dk_at dksX10_span_3 12 rfl rfl)
theorem dX10_span_82 : decode cX10_span 82 = .ok (.iload_n 3, 1) := dk_29 (dk_at dksX10_span_3 13 rfl rfl)
theorem dX10_span_83 : decode cX10_span 83 = .ok (.iload 4, 2) := dk_21 4 (dk_at dksX10_span_3 14 rfl rfl)
theorem dX10_span_85 : decode cX10_span 85 = .ok (.invokevirtual 384, 3) := dk_182 1 128 (dk_at dksX10_span_3 16 rfl rfl)
theorem dX10_span_88 : decode cX10_span 88 = .ok (.iload 7, 2) := dk_21 7 (dk_at dksX10_span_3 19 rfl rfl)
theorem dX10_span_90 : decode cX10_span 90 = .ok (.iconst (-1), 1) := dk_2 (dk_at dksX10_span_3 21 rfl rfl)
theorem dX10_span_91 : decode cX10_span 91 = .ok (.if_icmp .ne 13, 3) := dk_160 0 13 (dk_at dksX10_span_4 0 rfl rfl)
theorem dX10_span_94 : decode cX10_span 94 = .ok (.aload_n 0, 1) := dk_42 (dk_at dksX10_span_4 3 rfl rfl)
theorem dX10_span_95 : decode cX10_span 95 = .ok (.getfield 70, 3) := dk_180 0 70 (dk_at dksX10_span_4 4 rfl rfl)
theorem dX10_span_98 : decode cX10_span 98 = .ok (.bipush 77, 2) := dk_16 77 (dk_at dksX10_span_4 7 rfl rfl)
theorem dX10_span_100 : decode cX10_span 100 = .ok (.iaload, 1) := dk_46 (dk_at dksX10_span_4 9 rfl rfl)
theorem dX10_span_101 : decode cX10_span 101 = .ok (.goto 15, 3) := dk_167 0 15 (dk_at dksX10_span_4 10 rfl rfl)
theorem dX10_span_104 : decode cX10_span 104 = .ok (.iload 7, 2) := dk_21 7 (dk_at dksX10_span_4 13 rfl rfl)
theorem dX10_span_106 : decode cX10_span 106 = .ok (.aload_n 0, 1) := dk_42 (dk_at dksX10_span_4 15 rfl rfl)
theorem dX10_span_107 : decode cX10_span 107 = .ok (.getfield 70, 3) := dk_180 0 70 (dk_at dksX10_span_4 16 rfl rfl)
theorem dX10_span_110 : decode cX10_span 110 = .ok (.bipush 77, 2) := dk_16 77 (dk_at dksX10_span_4 19 rfl rfl)
theorem dX10_span_112 : decode cX10_span 112 = .ok (.iaload, 1) := dk_46 (dk_at dksX10_span_4 21 rfl rfl)
theorem dX10_span_113 : decode cX10_span 113 = .ok (.invokestatic 241, 3) := dk_184 0 241 (dk_at dksX10_span_5 0 rfl rfl)
theorem dX10_span_116 : decode cX10_span 116 = .ok (.istore 7, 2) := dk_54 7 (dk_at dksX10_span_5 3 rfl rfl)
theorem dX10_span_118 : decode cX10_span 118 = .ok (.iload 8, 2) := dk_21 8 (dk_at dksX10_span_5 5 rfl rfl)
theorem dX10_span_120 : decode cX10_span 120 = .ok (.aload_n 0, 1) := dk_42 (dk_at dksX10_span_5 7 rfl rfl)
theorem dX10_span_121 : decode cX10_span 121 = .ok (.getfield 70, 3) := dk_180 0 70 (dk_at dksX10_span_5 8 rfl rfl)
theorem dX10_span_124 : decode cX10_span 124 = .ok (.bipush 77, 2) := dk_16 77 (dk_at dksX10_span_5 11 rfl rfl)
theorem dX10_span_126 : decode cX10_span 126 = .ok (.iaload, 1) := dk_46 (dk_at dksX10_span_5 13 rfl rfl)
theorem dX10_span_127 : decode cX10_span 127 = .ok (.invokestatic 244, 3) := dk_184 0 244 (dk_at dksX10_span_5 14 rfl rfl)
theorem dX10_span_130 : decode cX10_span 130 = .ok (.istore 8, 2) := dk_54 8 (dk_at dksX10_span_5 17 rfl rfl)
theorem dX10_span_132 : decode cX10_span 132 = .ok (.iload 9, 2) := dk_21 9 (dk_at dksX10_span_5 19 rfl rfl)
theorem dX10_span_134 : decode cX10_span 134 = .ok (.aload_n 0, 1) := dk_42 (dk_at dksX10_span_5 21 rfl rfl)
theorem dX10_span_135 : decode cX10_span 135 = .ok (.getfield 70, 3) := dk_180 0 70 (dk_at dksX10_span_6 0 rfl rfl)
theorem dX10_span_138 : decode cX10_span 138 = .ok (.bipush 7, 2) := dk_16 7 (dk_at dksX10_span_6 3 rfl rfl)
theorem dX10_span_140 : decode cX10_span 140 = .ok (.iload 6, 2) := dk_21 6 (dk_at dksX10_span_6 5 rfl rfl)
theorem dX10_span_142 : decode cX10_span 142 = .ok (.iadd, 1) := dk_96 (dk_at dksX10_span_6 7 rfl rfl)
theorem dX10_span_143 : decode cX10_span 143 = .ok (.iaload, 1) := dk_46 (dk_at dksX10_span_6 8 rfl rfl)
theorem dX10_span_144 : decode cX10_span 144 = .ok (.ifCond .le 7, 3) := dk_158 0 7 (dk_at dksX10_span_6 9 rfl rfl)
theorem dX10_span_147 : decode cX10_span 147 = .ok (.iconst 1, 1) := dk_4 (dk_at dksX10_span_6 12 rfl rfl)
theorem dX10_span_148 : decode cX10_span 148 = .ok (.goto 4, 3) := dk_167 0 4 (dk_at dksX10_span_6 13 rfl rfl)
theorem dX10_span_151 : decode cX10_span 151 = .ok (.iconst 0, 1) := dk_3 (dk_at dksX10_span_6 16 rfl rfl)
theorem dX10_span_152 : decode cX10_span 152 = .ok (.iadd, 1) := dk_96 (dk_at dksX10_span_6 17 rfl rfl)
theorem dX10_span_153 : decode cX10_span 153 = .ok (.istore 9, 2) := dk_54 9 (dk_at dksX10_span_6 18 rfl rfl)
theorem dX10_span_155 : decode cX10_span 155 = .ok (.iinc 10 1, 3) := dk_132 10 1 (dk_at dksX10_span_6 20 rfl rfl)
theorem dX10_span_158 : decode cX10_span 158 = .ok (.goto (-87), 3) := dk_167 255 169 (dk_at dksX10_span_7 0 rfl rfl)
theorem dX10_span_161 : decode cX10_span 161 = .ok (.iload 5, 2) := dk_21 5 (dk_at dksX10_span_7 3 rfl rfl)
theorem dX10_span_163 : decode cX10_span 163 = .ok (.ifCond .ne 8, 3) := dk_154 0 8 (dk_at dksX10_span_7 5 rfl rfl)
theorem dX10_span_166 : decode cX10_span 166 = .ok (.iload 7, 2) := dk_21 7 (dk_at dksX10_span_7 8 rfl rfl)
theorem dX10_span_168 : decode cX10_span 168 = .ok (.goto 16, 3) := dk_167 0 16 (dk_at dksX10_span_7 10 rfl rfl)
theorem dX10_span_171 : decode cX10_span 171 = .ok (.iload 5, 2) := dk_21 5 (dk_at dksX10_span_7 13 rfl rfl)
theorem dX10_span_173 : decode cX10_span 173 = .ok (.iconst 1, 1) := dk_4 (dk_at dksX10_span_7 15 rfl rfl)
theorem dX10_span_174 : decode cX10_span 174 = .ok (.if_icmp .ne 8, 3) := dk_160 0 8 (dk_at dksX10_span_7 16 rfl rfl)
theorem dX10_span_177 : decode cX10_span 177 = .ok (.iload 8, 2) := dk_21 8 (dk_at dksX10_span_7 19 rfl rfl)
theorem dX10_span_179 : decode cX10_span 179 = .ok (.goto 5, 3) := dk_167 0 5 (dk_at dksX10_span_7 21 rfl rfl)
theorem dX10_span_182 : decode cX10_span 182 = .ok (.iload 9, 2) := dk_21 9 (dk_at dksX10_span_8 0 rfl rfl)
theorem dX10_span_184 : decode cX10_span 184 = .ok (.ireturn, 1) := dk_172 (dk_at dksX10_span_8 2 rfl rfl)
abbrev cX10_image : ByteArray := prog_32_method_111_code
def yX10_image : MethodName := ⟨RX10, "image", "()I"⟩
def dkwX10_image_1 : List UInt8 := [50, 3, 182, 1, 138, 42, 89, 180, 0, 207, 4, 96, 181, 0, 207, 42, 180, 0, 207, 172]
abbrev dktX10_image_1 : List UInt8 := dkwX10_image_1 ++ []
def dkwX10_image_0 : List UInt8 := [42, 3, 181, 0, 98, 42, 180, 0, 207, 6, 160, 0, 5, 2, 172, 42, 42, 180, 0, 76, 42, 180, 0, 207]
abbrev dktX10_image_0 : List UInt8 := dkwX10_image_0 ++ dktX10_image_1
theorem dksX10_image_0 : cX10_image.data.toList.drop 0 = dktX10_image_0 := by decide +kernel
theorem dksX10_image_1 : cX10_image.data.toList.drop 24 = dktX10_image_1 := dk_seg dksX10_image_0 24 rfl rfl
theorem dX10_image_0 : decode cX10_image 0 = .ok (.aload_n 0, 1) := dk_42 (dk_at dksX10_image_0 0 rfl rfl)
theorem dX10_image_1 : decode cX10_image 1 = .ok (.iconst 0, 1) := dk_3 (dk_at dksX10_image_0 1 rfl rfl)
theorem dX10_image_2 : decode cX10_image 2 = .ok (.putfield 98, 3) := dk_181 0 98 (dk_at dksX10_image_0 2 rfl rfl)
theorem dX10_image_5 : decode cX10_image 5 = .ok (.aload_n 0, 1) := dk_42 (dk_at dksX10_image_0 5 rfl rfl)
theorem dX10_image_6 : decode cX10_image 6 = .ok (.getfield 207, 3) := dk_180 0 207 (dk_at dksX10_image_0 6 rfl rfl)
theorem dX10_image_9 : decode cX10_image 9 = .ok (.iconst 3, 1) := dk_6 (dk_at dksX10_image_0 9 rfl rfl)
theorem dX10_image_10 : decode cX10_image 10 = .ok (.if_icmp .ne 5, 3) := dk_160 0 5 (dk_at dksX10_image_0 10 rfl rfl)
theorem dX10_image_13 : decode cX10_image 13 = .ok (.iconst (-1), 1) := dk_2 (dk_at dksX10_image_0 13 rfl rfl)
theorem dX10_image_14 : decode cX10_image 14 = .ok (.ireturn, 1) := dk_172 (dk_at dksX10_image_0 14 rfl rfl)
theorem dX10_image_15 : decode cX10_image 15 = .ok (.aload_n 0, 1) := dk_42 (dk_at dksX10_image_0 15 rfl rfl)
theorem dX10_image_16 : decode cX10_image 16 = .ok (.aload_n 0, 1) := dk_42 (dk_at dksX10_image_0 16 rfl rfl)
theorem dX10_image_17 : decode cX10_image 17 = .ok (.getfield 76, 3) := dk_180 0 76 (dk_at dksX10_image_0 17 rfl rfl)
theorem dX10_image_20 : decode cX10_image 20 = .ok (.aload_n 0, 1) := dk_42 (dk_at dksX10_image_0 20 rfl rfl)
theorem dX10_image_21 : decode cX10_image 21 = .ok (.getfield 207, 3) := dk_180 0 207 (dk_at dksX10_image_0 21 rfl rfl)
theorem dX10_image_24 : decode cX10_image 24 = .ok (.aaload, 1) := dk_50 (dk_at dksX10_image_1 0 rfl rfl)
theorem dX10_image_25 : decode cX10_image 25 = .ok (.iconst 0, 1) := dk_3 (dk_at dksX10_image_1 1 rfl rfl)
theorem dX10_image_26 : decode cX10_image 26 = .ok (.invokevirtual 394, 3) := dk_182 1 138 (dk_at dksX10_image_1 2 rfl rfl)
theorem dX10_image_29 : decode cX10_image 29 = .ok (.aload_n 0, 1) := dk_42 (dk_at dksX10_image_1 5 rfl rfl)
theorem dX10_image_30 : decode cX10_image 30 = .ok (.dup, 1) := dk_89 (dk_at dksX10_image_1 6 rfl rfl)
theorem dX10_image_31 : decode cX10_image 31 = .ok (.getfield 207, 3) := dk_180 0 207 (dk_at dksX10_image_1 7 rfl rfl)
theorem dX10_image_34 : decode cX10_image 34 = .ok (.iconst 1, 1) := dk_4 (dk_at dksX10_image_1 10 rfl rfl)
theorem dX10_image_35 : decode cX10_image 35 = .ok (.iadd, 1) := dk_96 (dk_at dksX10_image_1 11 rfl rfl)
theorem dX10_image_36 : decode cX10_image 36 = .ok (.putfield 207, 3) := dk_181 0 207 (dk_at dksX10_image_1 12 rfl rfl)
theorem dX10_image_39 : decode cX10_image 39 = .ok (.aload_n 0, 1) := dk_42 (dk_at dksX10_image_1 15 rfl rfl)
theorem dX10_image_40 : decode cX10_image 40 = .ok (.getfield 207, 3) := dk_180 0 207 (dk_at dksX10_image_1 16 rfl rfl)
theorem dX10_image_43 : decode cX10_image 43 = .ok (.ireturn, 1) := dk_172 (dk_at dksX10_image_1 19 rfl rfl)
abbrev cX10_putsAll : ByteArray := prog_32_method_110_code
def yX10_putsAll : MethodName := ⟨RX10, "putsAll", "([IZ)V"⟩
def dkwX10_putsAll_4 : List UInt8 := [132, 4, 1, 167, 255, 222, 132, 3, 1, 167, 255, 207, 177]
abbrev dktX10_putsAll_4 : List UInt8 := dkwX10_putsAll_4 ++ []
def dkwX10_putsAll_3 : List UInt8 := [180, 0, 73, 29, 50, 21, 4, 42, 43, 42, 180, 0, 73, 29, 50, 21, 4, 46, 28, 182, 1, 134, 79]
abbrev dktX10_putsAll_3 : List UInt8 := dkwX10_putsAll_3 ++ dktX10_putsAll_4
def dkwX10_putsAll_2 : List UInt8 := [167, 255, 229, 3, 62, 29, 16, 16, 162, 0, 49, 3, 54, 4, 21, 4, 16, 79, 162, 0, 33, 42]
abbrev dktX10_putsAll_2 : List UInt8 := dkwX10_putsAll_2 ++ dktX10_putsAll_3
def dkwX10_putsAll_1 : List UInt8 := [162, 0, 27, 42, 180, 0, 67, 29, 42, 43, 42, 180, 0, 67, 29, 46, 28, 182, 1, 134, 79, 132, 3, 1]
abbrev dktX10_putsAll_1 : List UInt8 := dkwX10_putsAll_1 ++ dktX10_putsAll_2
def dkwX10_putsAll_0 : List UInt8 := [42, 3, 181, 1, 131, 42, 42, 43, 42, 180, 0, 201, 28, 182, 1, 134, 181, 0, 201, 3, 62, 29, 16, 79]
abbrev dktX10_putsAll_0 : List UInt8 := dkwX10_putsAll_0 ++ dktX10_putsAll_1
theorem dksX10_putsAll_0 : cX10_putsAll.data.toList.drop 0 = dktX10_putsAll_0 := by decide +kernel
theorem dksX10_putsAll_1 : cX10_putsAll.data.toList.drop 24 = dktX10_putsAll_1 := dk_seg dksX10_putsAll_0 24 rfl rfl
theorem dksX10_putsAll_2 : cX10_putsAll.data.toList.drop 48 = dktX10_putsAll_2 := dk_seg dksX10_putsAll_1 24 rfl rfl
theorem dksX10_putsAll_3 : cX10_putsAll.data.toList.drop 70 = dktX10_putsAll_3 := dk_seg dksX10_putsAll_2 22 rfl rfl
theorem dksX10_putsAll_4 : cX10_putsAll.data.toList.drop 93 = dktX10_putsAll_4 := dk_seg dksX10_putsAll_3 23 rfl rfl
theorem dX10_putsAll_0 : decode cX10_putsAll 0 = .ok (.aload_n 0, 1) := dk_42 (dk_at dksX10_putsAll_0 0 rfl rfl)
theorem dX10_putsAll_1 : decode cX10_putsAll 1 = .ok (.iconst 0, 1) := dk_3 (dk_at dksX10_putsAll_0 1 rfl rfl)
theorem dX10_putsAll_2 : decode cX10_putsAll 2 = .ok (.putfield 387, 3) := dk_181 1 131 (dk_at dksX10_putsAll_0 2 rfl rfl)
theorem dX10_putsAll_5 : decode cX10_putsAll 5 = .ok (.aload_n 0, 1) := dk_42 (dk_at dksX10_putsAll_0 5 rfl rfl)
theorem dX10_putsAll_6 : decode cX10_putsAll 6 = .ok (.aload_n 0, 1) := dk_42 (dk_at dksX10_putsAll_0 6 rfl rfl)
theorem dX10_putsAll_7 : decode cX10_putsAll 7 = .ok (.aload_n 1, 1) := dk_43 (dk_at dksX10_putsAll_0 7 rfl rfl)
theorem dX10_putsAll_8 : decode cX10_putsAll 8 = .ok (.aload_n 0, 1) := dk_42 (dk_at dksX10_putsAll_0 8 rfl rfl)
theorem dX10_putsAll_9 : decode cX10_putsAll 9 = .ok (.getfield 201, 3) := dk_180 0 201 (dk_at dksX10_putsAll_0 9 rfl rfl)
theorem dX10_putsAll_12 : decode cX10_putsAll 12 = .ok (.iload_n 2, 1) := dk_28 (dk_at dksX10_putsAll_0 12 rfl rfl)
theorem dX10_putsAll_13 : decode cX10_putsAll 13 = .ok (.invokevirtual 390, 3) := dk_182 1 134 (dk_at dksX10_putsAll_0 13 rfl rfl)
theorem dX10_putsAll_16 : decode cX10_putsAll 16 = .ok (.putfield 201, 3) := dk_181 0 201 (dk_at dksX10_putsAll_0 16 rfl rfl)
theorem dX10_putsAll_19 : decode cX10_putsAll 19 = .ok (.iconst 0, 1) := dk_3 (dk_at dksX10_putsAll_0 19 rfl rfl)
theorem dX10_putsAll_20 : decode cX10_putsAll 20 = .ok (.istore_n 3, 1) := dk_62 (dk_at dksX10_putsAll_0 20 rfl rfl)
theorem dX10_putsAll_21 : decode cX10_putsAll 21 = .ok (.iload_n 3, 1) := dk_29 (dk_at dksX10_putsAll_0 21 rfl rfl)
theorem dX10_putsAll_22 : decode cX10_putsAll 22 = .ok (.bipush 79, 2) := dk_16 79 (dk_at dksX10_putsAll_0 22 rfl rfl)
theorem dX10_putsAll_24 : decode cX10_putsAll 24 = .ok (.if_icmp .ge 27, 3) := dk_162 0 27 (dk_at dksX10_putsAll_1 0 rfl rfl)
theorem dX10_putsAll_27 : decode cX10_putsAll 27 = .ok (.aload_n 0, 1) := dk_42 (dk_at dksX10_putsAll_1 3 rfl rfl)
theorem dX10_putsAll_28 : decode cX10_putsAll 28 = .ok (.getfield 67, 3) := dk_180 0 67 (dk_at dksX10_putsAll_1 4 rfl rfl)
theorem dX10_putsAll_31 : decode cX10_putsAll 31 = .ok (.iload_n 3, 1) := dk_29 (dk_at dksX10_putsAll_1 7 rfl rfl)
theorem dX10_putsAll_32 : decode cX10_putsAll 32 = .ok (.aload_n 0, 1) := dk_42 (dk_at dksX10_putsAll_1 8 rfl rfl)
theorem dX10_putsAll_33 : decode cX10_putsAll 33 = .ok (.aload_n 1, 1) := dk_43 (dk_at dksX10_putsAll_1 9 rfl rfl)
theorem dX10_putsAll_34 : decode cX10_putsAll 34 = .ok (.aload_n 0, 1) := dk_42 (dk_at dksX10_putsAll_1 10 rfl rfl)
theorem dX10_putsAll_35 : decode cX10_putsAll 35 = .ok (.getfield 67, 3) := dk_180 0 67 (dk_at dksX10_putsAll_1 11 rfl rfl)
theorem dX10_putsAll_38 : decode cX10_putsAll 38 = .ok (.iload_n 3, 1) := dk_29 (dk_at dksX10_putsAll_1 14 rfl rfl)
theorem dX10_putsAll_39 : decode cX10_putsAll 39 = .ok (.iaload, 1) := dk_46 (dk_at dksX10_putsAll_1 15 rfl rfl)
theorem dX10_putsAll_40 : decode cX10_putsAll 40 = .ok (.iload_n 2, 1) := dk_28 (dk_at dksX10_putsAll_1 16 rfl rfl)
theorem dX10_putsAll_41 : decode cX10_putsAll 41 = .ok (.invokevirtual 390, 3) := dk_182 1 134 (dk_at dksX10_putsAll_1 17 rfl rfl)
theorem dX10_putsAll_44 : decode cX10_putsAll 44 = .ok (.iastore, 1) := dk_79 (dk_at dksX10_putsAll_1 20 rfl rfl)
theorem dX10_putsAll_45 : decode cX10_putsAll 45 = .ok (.iinc 3 1, 3) := dk_132 3 1 (dk_at dksX10_putsAll_1 21 rfl rfl)
theorem dX10_putsAll_48 : decode cX10_putsAll 48 = .ok (.goto (-27), 3) := dk_167 255 229 (dk_at dksX10_putsAll_2 0 rfl rfl)
theorem dX10_putsAll_51 : decode cX10_putsAll 51 = .ok (.iconst 0, 1) := dk_3 (dk_at dksX10_putsAll_2 3 rfl rfl)
theorem dX10_putsAll_52 : decode cX10_putsAll 52 = .ok (.istore_n 3, 1) := dk_62 (dk_at dksX10_putsAll_2 4 rfl rfl)
theorem dX10_putsAll_53 : decode cX10_putsAll 53 = .ok (.iload_n 3, 1) := dk_29 (dk_at dksX10_putsAll_2 5 rfl rfl)
theorem dX10_putsAll_54 : decode cX10_putsAll 54 = .ok (.bipush 16, 2) := dk_16 16 (dk_at dksX10_putsAll_2 6 rfl rfl)
theorem dX10_putsAll_56 : decode cX10_putsAll 56 = .ok (.if_icmp .ge 49, 3) := dk_162 0 49 (dk_at dksX10_putsAll_2 8 rfl rfl)
theorem dX10_putsAll_59 : decode cX10_putsAll 59 = .ok (.iconst 0, 1) := dk_3 (dk_at dksX10_putsAll_2 11 rfl rfl)
theorem dX10_putsAll_60 : decode cX10_putsAll 60 = .ok (.istore 4, 2) := dk_54 4 (dk_at dksX10_putsAll_2 12 rfl rfl)
theorem dX10_putsAll_62 : decode cX10_putsAll 62 = .ok (.iload 4, 2) := dk_21 4 (dk_at dksX10_putsAll_2 14 rfl rfl)
theorem dX10_putsAll_64 : decode cX10_putsAll 64 = .ok (.bipush 79, 2) := dk_16 79 (dk_at dksX10_putsAll_2 16 rfl rfl)
theorem dX10_putsAll_66 : decode cX10_putsAll 66 = .ok (.if_icmp .ge 33, 3) := dk_162 0 33 (dk_at dksX10_putsAll_2 18 rfl rfl)
theorem dX10_putsAll_69 : decode cX10_putsAll 69 = .ok (.aload_n 0, 1) := dk_42 (dk_at dksX10_putsAll_2 21 rfl rfl)
theorem dX10_putsAll_70 : decode cX10_putsAll 70 = .ok (.getfield 73, 3) := dk_180 0 73 (dk_at dksX10_putsAll_3 0 rfl rfl)
theorem dX10_putsAll_73 : decode cX10_putsAll 73 = .ok (.iload_n 3, 1) := dk_29 (dk_at dksX10_putsAll_3 3 rfl rfl)
theorem dX10_putsAll_74 : decode cX10_putsAll 74 = .ok (.aaload, 1) := dk_50 (dk_at dksX10_putsAll_3 4 rfl rfl)
theorem dX10_putsAll_75 : decode cX10_putsAll 75 = .ok (.iload 4, 2) := dk_21 4 (dk_at dksX10_putsAll_3 5 rfl rfl)
theorem dX10_putsAll_77 : decode cX10_putsAll 77 = .ok (.aload_n 0, 1) := dk_42 (dk_at dksX10_putsAll_3 7 rfl rfl)
theorem dX10_putsAll_78 : decode cX10_putsAll 78 = .ok (.aload_n 1, 1) := dk_43 (dk_at dksX10_putsAll_3 8 rfl rfl)
theorem dX10_putsAll_79 : decode cX10_putsAll 79 = .ok (.aload_n 0, 1) := dk_42 (dk_at dksX10_putsAll_3 9 rfl rfl)
theorem dX10_putsAll_80 : decode cX10_putsAll 80 = .ok (.getfield 73, 3) := dk_180 0 73 (dk_at dksX10_putsAll_3 10 rfl rfl)
theorem dX10_putsAll_83 : decode cX10_putsAll 83 = .ok (.iload_n 3, 1) := dk_29 (dk_at dksX10_putsAll_3 13 rfl rfl)
theorem dX10_putsAll_84 : decode cX10_putsAll 84 = .ok (.aaload, 1) := dk_50 (dk_at dksX10_putsAll_3 14 rfl rfl)
theorem dX10_putsAll_85 : decode cX10_putsAll 85 = .ok (.iload 4, 2) := dk_21 4 (dk_at dksX10_putsAll_3 15 rfl rfl)
theorem dX10_putsAll_87 : decode cX10_putsAll 87 = .ok (.iaload, 1) := dk_46 (dk_at dksX10_putsAll_3 17 rfl rfl)
theorem dX10_putsAll_88 : decode cX10_putsAll 88 = .ok (.iload_n 2, 1) := dk_28 (dk_at dksX10_putsAll_3 18 rfl rfl)
theorem dX10_putsAll_89 : decode cX10_putsAll 89 = .ok (.invokevirtual 390, 3) := dk_182 1 134 (dk_at dksX10_putsAll_3 19 rfl rfl)
theorem dX10_putsAll_92 : decode cX10_putsAll 92 = .ok (.iastore, 1) := dk_79 (dk_at dksX10_putsAll_3 22 rfl rfl)
theorem dX10_putsAll_93 : decode cX10_putsAll 93 = .ok (.iinc 4 1, 3) := dk_132 4 1 (dk_at dksX10_putsAll_4 0 rfl rfl)
theorem dX10_putsAll_96 : decode cX10_putsAll 96 = .ok (.goto (-34), 3) := dk_167 255 222 (dk_at dksX10_putsAll_4 3 rfl rfl)
theorem dX10_putsAll_99 : decode cX10_putsAll 99 = .ok (.iinc 3 1, 3) := dk_132 3 1 (dk_at dksX10_putsAll_4 6 rfl rfl)
theorem dX10_putsAll_102 : decode cX10_putsAll 102 = .ok (.goto (-49), 3) := dk_167 255 207 (dk_at dksX10_putsAll_4 9 rfl rfl)
theorem dX10_putsAll_105 : decode cX10_putsAll 105 = .ok (.return_, 1) := dk_177 (dk_at dksX10_putsAll_4 12 rfl rfl)
abbrev cX10_puts : ByteArray := prog_32_method_109_code
def yX10_puts : MethodName := ⟨RX10, "puts", "([IIZ)I"⟩
def dkwX10_puts_1 : List UInt8 := [180, 1, 131, 4, 100, 46, 172]
abbrev dktX10_puts_1 : List UInt8 := dkwX10_puts_1 ++ []
def dkwX10_puts_0 : List UInt8 := [29, 154, 0, 10, 43, 42, 180, 1, 131, 28, 79, 42, 89, 180, 1, 131, 4, 96, 181, 1, 131, 43, 42]
abbrev dktX10_puts_0 : List UInt8 := dkwX10_puts_0 ++ dktX10_puts_1
theorem dksX10_puts_0 : cX10_puts.data.toList.drop 0 = dktX10_puts_0 := by decide +kernel
theorem dksX10_puts_1 : cX10_puts.data.toList.drop 23 = dktX10_puts_1 := dk_seg dksX10_puts_0 23 rfl rfl
theorem dX10_puts_0 : decode cX10_puts 0 = .ok (.iload_n 3, 1) := dk_29 (dk_at dksX10_puts_0 0 rfl rfl)
theorem dX10_puts_1 : decode cX10_puts 1 = .ok (.ifCond .ne 10, 3) := dk_154 0 10 (dk_at dksX10_puts_0 1 rfl rfl)
theorem dX10_puts_4 : decode cX10_puts 4 = .ok (.aload_n 1, 1) := dk_43 (dk_at dksX10_puts_0 4 rfl rfl)
theorem dX10_puts_5 : decode cX10_puts 5 = .ok (.aload_n 0, 1) := dk_42 (dk_at dksX10_puts_0 5 rfl rfl)
theorem dX10_puts_6 : decode cX10_puts 6 = .ok (.getfield 387, 3) := dk_180 1 131 (dk_at dksX10_puts_0 6 rfl rfl)
theorem dX10_puts_9 : decode cX10_puts 9 = .ok (.iload_n 2, 1) := dk_28 (dk_at dksX10_puts_0 9 rfl rfl)
theorem dX10_puts_10 : decode cX10_puts 10 = .ok (.iastore, 1) := dk_79 (dk_at dksX10_puts_0 10 rfl rfl)
theorem dX10_puts_11 : decode cX10_puts 11 = .ok (.aload_n 0, 1) := dk_42 (dk_at dksX10_puts_0 11 rfl rfl)
theorem dX10_puts_12 : decode cX10_puts 12 = .ok (.dup, 1) := dk_89 (dk_at dksX10_puts_0 12 rfl rfl)
theorem dX10_puts_13 : decode cX10_puts 13 = .ok (.getfield 387, 3) := dk_180 1 131 (dk_at dksX10_puts_0 13 rfl rfl)
theorem dX10_puts_16 : decode cX10_puts 16 = .ok (.iconst 1, 1) := dk_4 (dk_at dksX10_puts_0 16 rfl rfl)
theorem dX10_puts_17 : decode cX10_puts 17 = .ok (.iadd, 1) := dk_96 (dk_at dksX10_puts_0 17 rfl rfl)
theorem dX10_puts_18 : decode cX10_puts 18 = .ok (.putfield 387, 3) := dk_181 1 131 (dk_at dksX10_puts_0 18 rfl rfl)
theorem dX10_puts_21 : decode cX10_puts 21 = .ok (.aload_n 1, 1) := dk_43 (dk_at dksX10_puts_0 21 rfl rfl)
theorem dX10_puts_22 : decode cX10_puts 22 = .ok (.aload_n 0, 1) := dk_42 (dk_at dksX10_puts_0 22 rfl rfl)
theorem dX10_puts_23 : decode cX10_puts 23 = .ok (.getfield 387, 3) := dk_180 1 131 (dk_at dksX10_puts_1 0 rfl rfl)
theorem dX10_puts_26 : decode cX10_puts 26 = .ok (.iconst 1, 1) := dk_4 (dk_at dksX10_puts_1 3 rfl rfl)
theorem dX10_puts_27 : decode cX10_puts 27 = .ok (.isub, 1) := dk_100 (dk_at dksX10_puts_1 4 rfl rfl)
theorem dX10_puts_28 : decode cX10_puts 28 = .ok (.iaload, 1) := dk_46 (dk_at dksX10_puts_1 5 rfl rfl)
theorem dX10_puts_29 : decode cX10_puts 29 = .ok (.ireturn, 1) := dk_172 (dk_at dksX10_puts_1 6 rfl rfl)
abbrev cX10_restore : ByteArray := prog_32_method_112_code
def yX10_restore : MethodName := ⟨RX10, "restore", "()I"⟩
def dkwX10_restore_1 : List UInt8 := [42, 42, 180, 0, 76, 42, 180, 0, 207, 50, 4, 182, 1, 138, 42, 3, 181, 0, 204, 42, 180, 0, 207, 172]
abbrev dktX10_restore_1 : List UInt8 := dkwX10_restore_1 ++ []
def dkwX10_restore_0 : List UInt8 := [42, 3, 181, 0, 98, 42, 180, 0, 207, 154, 0, 5, 2, 172, 42, 89, 180, 0, 207, 4, 100, 181, 0, 207]
abbrev dktX10_restore_0 : List UInt8 := dkwX10_restore_0 ++ dktX10_restore_1
theorem dksX10_restore_0 : cX10_restore.data.toList.drop 0 = dktX10_restore_0 := by decide +kernel
theorem dksX10_restore_1 : cX10_restore.data.toList.drop 24 = dktX10_restore_1 := dk_seg dksX10_restore_0 24 rfl rfl
theorem dX10_restore_0 : decode cX10_restore 0 = .ok (.aload_n 0, 1) := dk_42 (dk_at dksX10_restore_0 0 rfl rfl)
theorem dX10_restore_1 : decode cX10_restore 1 = .ok (.iconst 0, 1) := dk_3 (dk_at dksX10_restore_0 1 rfl rfl)
theorem dX10_restore_2 : decode cX10_restore 2 = .ok (.putfield 98, 3) := dk_181 0 98 (dk_at dksX10_restore_0 2 rfl rfl)
theorem dX10_restore_5 : decode cX10_restore 5 = .ok (.aload_n 0, 1) := dk_42 (dk_at dksX10_restore_0 5 rfl rfl)
theorem dX10_restore_6 : decode cX10_restore 6 = .ok (.getfield 207, 3) := dk_180 0 207 (dk_at dksX10_restore_0 6 rfl rfl)
theorem dX10_restore_9 : decode cX10_restore 9 = .ok (.ifCond .ne 5, 3) := dk_154 0 5 (dk_at dksX10_restore_0 9 rfl rfl)
theorem dX10_restore_12 : decode cX10_restore 12 = .ok (.iconst (-1), 1) := dk_2 (dk_at dksX10_restore_0 12 rfl rfl)
theorem dX10_restore_13 : decode cX10_restore 13 = .ok (.ireturn, 1) := dk_172 (dk_at dksX10_restore_0 13 rfl rfl)
theorem dX10_restore_14 : decode cX10_restore 14 = .ok (.aload_n 0, 1) := dk_42 (dk_at dksX10_restore_0 14 rfl rfl)
theorem dX10_restore_15 : decode cX10_restore 15 = .ok (.dup, 1) := dk_89 (dk_at dksX10_restore_0 15 rfl rfl)
theorem dX10_restore_16 : decode cX10_restore 16 = .ok (.getfield 207, 3) := dk_180 0 207 (dk_at dksX10_restore_0 16 rfl rfl)
theorem dX10_restore_19 : decode cX10_restore 19 = .ok (.iconst 1, 1) := dk_4 (dk_at dksX10_restore_0 19 rfl rfl)
theorem dX10_restore_20 : decode cX10_restore 20 = .ok (.isub, 1) := dk_100 (dk_at dksX10_restore_0 20 rfl rfl)
theorem dX10_restore_21 : decode cX10_restore 21 = .ok (.putfield 207, 3) := dk_181 0 207 (dk_at dksX10_restore_0 21 rfl rfl)
theorem dX10_restore_24 : decode cX10_restore 24 = .ok (.aload_n 0, 1) := dk_42 (dk_at dksX10_restore_1 0 rfl rfl)
theorem dX10_restore_25 : decode cX10_restore 25 = .ok (.aload_n 0, 1) := dk_42 (dk_at dksX10_restore_1 1 rfl rfl)
theorem dX10_restore_26 : decode cX10_restore 26 = .ok (.getfield 76, 3) := dk_180 0 76 (dk_at dksX10_restore_1 2 rfl rfl)
theorem dX10_restore_29 : decode cX10_restore 29 = .ok (.aload_n 0, 1) := dk_42 (dk_at dksX10_restore_1 5 rfl rfl)
theorem dX10_restore_30 : decode cX10_restore 30 = .ok (.getfield 207, 3) := dk_180 0 207 (dk_at dksX10_restore_1 6 rfl rfl)
theorem dX10_restore_33 : decode cX10_restore 33 = .ok (.aaload, 1) := dk_50 (dk_at dksX10_restore_1 9 rfl rfl)
theorem dX10_restore_34 : decode cX10_restore 34 = .ok (.iconst 1, 1) := dk_4 (dk_at dksX10_restore_1 10 rfl rfl)
theorem dX10_restore_35 : decode cX10_restore 35 = .ok (.invokevirtual 394, 3) := dk_182 1 138 (dk_at dksX10_restore_1 11 rfl rfl)
theorem dX10_restore_38 : decode cX10_restore 38 = .ok (.aload_n 0, 1) := dk_42 (dk_at dksX10_restore_1 14 rfl rfl)
theorem dX10_restore_39 : decode cX10_restore 39 = .ok (.iconst 0, 1) := dk_3 (dk_at dksX10_restore_1 15 rfl rfl)
theorem dX10_restore_40 : decode cX10_restore 40 = .ok (.putfield 204, 3) := dk_181 0 204 (dk_at dksX10_restore_1 16 rfl rfl)
theorem dX10_restore_43 : decode cX10_restore 43 = .ok (.aload_n 0, 1) := dk_42 (dk_at dksX10_restore_1 19 rfl rfl)
theorem dX10_restore_44 : decode cX10_restore 44 = .ok (.getfield 207, 3) := dk_180 0 207 (dk_at dksX10_restore_1 20 rfl rfl)
theorem dX10_restore_47 : decode cX10_restore 47 = .ok (.ireturn, 1) := dk_172 (dk_at dksX10_restore_1 23 rfl rfl)
abbrev cX10_status : ByteArray := prog_32_method_113_code
def yX10_status : MethodName := ⟨RX10, "status", "(I)I"⟩
def dkwX10_status_1 : List UInt8 := [172]
abbrev dktX10_status_1 : List UInt8 := dkwX10_status_1 ++ []
def dkwX10_status_0 : List UInt8 := [42, 3, 181, 0, 98, 27, 3, 4, 184, 0, 132, 153, 0, 12, 42, 180, 0, 17, 27, 46, 167, 0, 4, 2]
abbrev dktX10_status_0 : List UInt8 := dkwX10_status_0 ++ dktX10_status_1
theorem dksX10_status_0 : cX10_status.data.toList.drop 0 = dktX10_status_0 := by decide +kernel
theorem dksX10_status_1 : cX10_status.data.toList.drop 24 = dktX10_status_1 := dk_seg dksX10_status_0 24 rfl rfl
theorem dX10_status_0 : decode cX10_status 0 = .ok (.aload_n 0, 1) := dk_42 (dk_at dksX10_status_0 0 rfl rfl)
theorem dX10_status_1 : decode cX10_status 1 = .ok (.iconst 0, 1) := dk_3 (dk_at dksX10_status_0 1 rfl rfl)
theorem dX10_status_2 : decode cX10_status 2 = .ok (.putfield 98, 3) := dk_181 0 98 (dk_at dksX10_status_0 2 rfl rfl)
theorem dX10_status_5 : decode cX10_status 5 = .ok (.iload_n 1, 1) := dk_27 (dk_at dksX10_status_0 5 rfl rfl)
theorem dX10_status_6 : decode cX10_status 6 = .ok (.iconst 0, 1) := dk_3 (dk_at dksX10_status_0 6 rfl rfl)
theorem dX10_status_7 : decode cX10_status 7 = .ok (.iconst 1, 1) := dk_4 (dk_at dksX10_status_0 7 rfl rfl)
theorem dX10_status_8 : decode cX10_status 8 = .ok (.invokestatic 132, 3) := dk_184 0 132 (dk_at dksX10_status_0 8 rfl rfl)
theorem dX10_status_11 : decode cX10_status 11 = .ok (.ifCond .eq 12, 3) := dk_153 0 12 (dk_at dksX10_status_0 11 rfl rfl)
theorem dX10_status_14 : decode cX10_status 14 = .ok (.aload_n 0, 1) := dk_42 (dk_at dksX10_status_0 14 rfl rfl)
theorem dX10_status_15 : decode cX10_status 15 = .ok (.getfield 17, 3) := dk_180 0 17 (dk_at dksX10_status_0 15 rfl rfl)
theorem dX10_status_18 : decode cX10_status 18 = .ok (.iload_n 1, 1) := dk_27 (dk_at dksX10_status_0 18 rfl rfl)
theorem dX10_status_19 : decode cX10_status 19 = .ok (.iaload, 1) := dk_46 (dk_at dksX10_status_0 19 rfl rfl)
theorem dX10_status_20 : decode cX10_status 20 = .ok (.goto 4, 3) := dk_167 0 4 (dk_at dksX10_status_0 20 rfl rfl)
theorem dX10_status_23 : decode cX10_status 23 = .ok (.iconst (-1), 1) := dk_2 (dk_at dksX10_status_0 23 rfl rfl)
theorem dX10_status_24 : decode cX10_status 24 = .ok (.ireturn, 1) := dk_172 (dk_at dksX10_status_1 0 rfl rfl)
abbrev cX10_count : ByteArray := prog_32_method_114_code
def yX10_count : MethodName := ⟨RX10, "count", "(I)I"⟩
def dkwX10_count_1 : List UInt8 := [180, 0, 101, 167, 0, 16, 27, 5, 160, 0, 10, 42, 180, 0, 201, 167, 0, 4, 2, 172]
abbrev dktX10_count_1 : List UInt8 := dkwX10_count_1 ++ []
def dkwX10_count_0 : List UInt8 := [42, 3, 181, 0, 98, 27, 154, 0, 10, 42, 180, 0, 207, 167, 0, 28, 27, 4, 160, 0, 10, 42]
abbrev dktX10_count_0 : List UInt8 := dkwX10_count_0 ++ dktX10_count_1
theorem dksX10_count_0 : cX10_count.data.toList.drop 0 = dktX10_count_0 := by decide +kernel
theorem dksX10_count_1 : cX10_count.data.toList.drop 22 = dktX10_count_1 := dk_seg dksX10_count_0 22 rfl rfl
theorem dX10_count_0 : decode cX10_count 0 = .ok (.aload_n 0, 1) := dk_42 (dk_at dksX10_count_0 0 rfl rfl)
theorem dX10_count_1 : decode cX10_count 1 = .ok (.iconst 0, 1) := dk_3 (dk_at dksX10_count_0 1 rfl rfl)
theorem dX10_count_2 : decode cX10_count 2 = .ok (.putfield 98, 3) := dk_181 0 98 (dk_at dksX10_count_0 2 rfl rfl)
theorem dX10_count_5 : decode cX10_count 5 = .ok (.iload_n 1, 1) := dk_27 (dk_at dksX10_count_0 5 rfl rfl)
theorem dX10_count_6 : decode cX10_count 6 = .ok (.ifCond .ne 10, 3) := dk_154 0 10 (dk_at dksX10_count_0 6 rfl rfl)
theorem dX10_count_9 : decode cX10_count 9 = .ok (.aload_n 0, 1) := dk_42 (dk_at dksX10_count_0 9 rfl rfl)
theorem dX10_count_10 : decode cX10_count 10 = .ok (.getfield 207, 3) := dk_180 0 207 (dk_at dksX10_count_0 10 rfl rfl)
theorem dX10_count_13 : decode cX10_count 13 = .ok (.goto 28, 3) := dk_167 0 28 (dk_at dksX10_count_0 13 rfl rfl)
theorem dX10_count_16 : decode cX10_count 16 = .ok (.iload_n 1, 1) := dk_27 (dk_at dksX10_count_0 16 rfl rfl)
theorem dX10_count_17 : decode cX10_count 17 = .ok (.iconst 1, 1) := dk_4 (dk_at dksX10_count_0 17 rfl rfl)
theorem dX10_count_18 : decode cX10_count 18 = .ok (.if_icmp .ne 10, 3) := dk_160 0 10 (dk_at dksX10_count_0 18 rfl rfl)
theorem dX10_count_21 : decode cX10_count 21 = .ok (.aload_n 0, 1) := dk_42 (dk_at dksX10_count_0 21 rfl rfl)
theorem dX10_count_22 : decode cX10_count 22 = .ok (.getfield 101, 3) := dk_180 0 101 (dk_at dksX10_count_1 0 rfl rfl)
theorem dX10_count_25 : decode cX10_count 25 = .ok (.goto 16, 3) := dk_167 0 16 (dk_at dksX10_count_1 3 rfl rfl)
theorem dX10_count_28 : decode cX10_count 28 = .ok (.iload_n 1, 1) := dk_27 (dk_at dksX10_count_1 6 rfl rfl)
theorem dX10_count_29 : decode cX10_count 29 = .ok (.iconst 2, 1) := dk_5 (dk_at dksX10_count_1 7 rfl rfl)
theorem dX10_count_30 : decode cX10_count 30 = .ok (.if_icmp .ne 10, 3) := dk_160 0 10 (dk_at dksX10_count_1 8 rfl rfl)
theorem dX10_count_33 : decode cX10_count 33 = .ok (.aload_n 0, 1) := dk_42 (dk_at dksX10_count_1 11 rfl rfl)
theorem dX10_count_34 : decode cX10_count 34 = .ok (.getfield 201, 3) := dk_180 0 201 (dk_at dksX10_count_1 12 rfl rfl)
theorem dX10_count_37 : decode cX10_count 37 = .ok (.goto 4, 3) := dk_167 0 4 (dk_at dksX10_count_1 15 rfl rfl)
theorem dX10_count_40 : decode cX10_count 40 = .ok (.iconst (-1), 1) := dk_2 (dk_at dksX10_count_1 18 rfl rfl)
theorem dX10_count_41 : decode cX10_count 41 = .ok (.ireturn, 1) := dk_172 (dk_at dksX10_count_1 19 rfl rfl)
theorem q125 : (Jvm.Cond.initialized "DimpleWellsModel") ∈ lw_all := lw_g (lw_at lw_m1 29 rfl) rfl
theorem q1268 : (Jvm.Cond.selects "DimpleWellsModel" ({ cls := "java/lang/Object", name := "getClass", desc := "()Ljava/lang/Class;" } : Jvm.MethodName) ({ cls := "java/lang/Object", name := "getClass", desc := "()Ljava/lang/Class;" } : Jvm.MethodName)) ∈ lw_all := lw_g (lw_at lw_m5 212 rfl) rfl
theorem q1968 : (Jvm.Cond.instantiable "DimpleWellsModel" (46 : Nat)) ∈ lw_all := lw_g (lw_at lw_m8 192 rfl) rfl
theorem q1970 : (Jvm.Cond.instanceMethod ({ cls := "DimpleWellsModel", name := "<init>", desc := "()V" } : Jvm.MethodName)) ∈ lw_all := lw_g (lw_at lw_m8 194 rfl) rfl
theorem q1971 : (Jvm.Cond.code ({ cls := "DimpleWellsModel", name := "<init>", desc := "()V" } : Jvm.MethodName) prog_32_method_1_code (1 : Nat) (Option.none : Option Jvm.ClassFile.FieldType)) ∈ lw_all := lw_g (lw_at lw_m8 195 rfl) rfl
theorem q1972 : (Jvm.Cond.methodLink "DimpleWellsModel" (1 : Nat) ({ cls := "java/lang/Object", name := "<init>", desc := "()V" } : Jvm.MethodName)) ∈ lw_all := lw_g (lw_at lw_m8 196 rfl) rfl
theorem q1973 : (Jvm.Cond.classLink "DimpleWellsModel" (26 : Nat) "[[I") ∈ lw_all := lw_g (lw_at lw_m8 197 rfl) rfl
theorem q1975 : (Jvm.Cond.methodLink "DimpleWellsModel" (92 : Nat) ({ cls := "DimpleWellsModel", name := "tellsNothing", desc := "()V" } : Jvm.MethodName)) ∈ lw_all := lw_g (lw_at lw_m8 199 rfl) rfl
theorem q1976 : (Jvm.Cond.privateMethod ({ cls := "DimpleWellsModel", name := "tellsNothing", desc := "()V" } : Jvm.MethodName)) ∈ lw_tbl := lw_at lw_m8 200 rfl
theorem q1977 : (Jvm.Cond.instanceMethod ({ cls := "DimpleWellsModel", name := "tellsNothing", desc := "()V" } : Jvm.MethodName)) ∈ lw_all := lw_g (lw_at lw_m8 201 rfl) rfl
theorem q1978 : (Jvm.Cond.code ({ cls := "DimpleWellsModel", name := "tellsNothing", desc := "()V" } : Jvm.MethodName) prog_32_method_2_code (2 : Nat) (Option.none : Option Jvm.ClassFile.FieldType)) ∈ lw_all := lw_g (lw_at lw_m8 202 rfl) rfl
theorem q1979 : (Jvm.Cond.methodLink "DimpleWellsModel" (95 : Nat) ({ cls := "DimpleWellsModel", name := "beginsAnew", desc := "()V" } : Jvm.MethodName)) ∈ lw_all := lw_g (lw_at lw_m8 203 rfl) rfl
theorem q1980 : (Jvm.Cond.privateMethod ({ cls := "DimpleWellsModel", name := "beginsAnew", desc := "()V" } : Jvm.MethodName)) ∈ lw_tbl := lw_at lw_m8 204 rfl
theorem q1981 : (Jvm.Cond.instanceMethod ({ cls := "DimpleWellsModel", name := "beginsAnew", desc := "()V" } : Jvm.MethodName)) ∈ lw_all := lw_g (lw_at lw_m8 205 rfl) rfl
theorem q1982 : (Jvm.Cond.code ({ cls := "DimpleWellsModel", name := "beginsAnew", desc := "()V" } : Jvm.MethodName) prog_32_method_33_code (2 : Nat) (Option.none : Option Jvm.ClassFile.FieldType)) ∈ lw_all := lw_g (lw_at lw_m8 206 rfl) rfl
theorem q1983 : (Jvm.Cond.methodLink "DimpleWellsModel" (191 : Nat) ({ cls := "DimpleWellsModel", name := "lays", desc := "([[I[[II)V" } : Jvm.MethodName)) ∈ lw_all := lw_g (lw_at lw_m8 207 rfl) rfl
theorem q1984 : (Jvm.Cond.static ({ cls := "DimpleWellsModel", name := "lays", desc := "([[I[[II)V" } : Jvm.MethodName)) ∈ lw_all := lw_g (lw_at lw_m8 208 rfl) rfl
theorem q1985 : (Jvm.Cond.code ({ cls := "DimpleWellsModel", name := "lays", desc := "([[I[[II)V" } : Jvm.MethodName) prog_32_method_31_code (5 : Nat) (Option.none : Option Jvm.ClassFile.FieldType)) ∈ lw_all := lw_g (lw_at lw_m8 209 rfl) rfl
theorem q1986 : (Jvm.Cond.fieldLink "DimpleWellsModel" (98 : Nat) "DimpleWellsModel" "thrown" "I") ∈ lw_all := lw_g (lw_at lw_m8 210 rfl) rfl
theorem q1987 : (Jvm.Cond.fieldLink "DimpleWellsModel" (101 : Nat) "DimpleWellsModel" "tape" "I") ∈ lw_all := lw_g (lw_at lw_m8 211 rfl) rfl
theorem q1988 : (Jvm.Cond.fieldLink "DimpleWellsModel" (104 : Nat) "DimpleWellsModel" "size" "I") ∈ lw_all := lw_g (lw_at lw_m8 212 rfl) rfl
theorem q1989 : (Jvm.Cond.fieldLink "DimpleWellsModel" (9 : Nat) "DimpleWellsModel" "place" "I") ∈ lw_all := lw_g (lw_at lw_m8 213 rfl) rfl
theorem q1990 : (Jvm.Cond.fieldLink "DimpleWellsModel" (107 : Nat) "DimpleWellsModel" "at" "I") ∈ lw_all := lw_g (lw_at lw_m8 214 rfl) rfl
theorem q1991 : (Jvm.Cond.fieldLink "DimpleWellsModel" (114 : Nat) "DimpleWellsModel" "fault" "I") ∈ lw_all := lw_g (lw_at lw_m8 215 rfl) rfl
theorem q1992 : (Jvm.Cond.fieldLink "DimpleWellsModel" (117 : Nat) "DimpleWellsModel" "faultAt" "I") ∈ lw_all := lw_g (lw_at lw_m8 216 rfl) rfl
theorem q1993 : (Jvm.Cond.fieldLink "DimpleWellsModel" (154 : Nat) "DimpleWellsModel" "clauses" "I") ∈ lw_all := lw_g (lw_at lw_m8 217 rfl) rfl
theorem q1994 : (Jvm.Cond.fieldLink "DimpleWellsModel" (157 : Nat) "DimpleWellsModel" "open" "I") ∈ lw_all := lw_g (lw_at lw_m8 218 rfl) rfl
theorem q1995 : (Jvm.Cond.fieldLink "DimpleWellsModel" (13 : Nat) "DimpleWellsModel" "fed" "[I") ∈ lw_all := lw_g (lw_at lw_m8 219 rfl) rfl
theorem q1996 : (Jvm.Cond.fieldLink "DimpleWellsModel" (17 : Nat) "DimpleWellsModel" "refused" "[I") ∈ lw_all := lw_g (lw_at lw_m8 220 rfl) rfl
theorem q1997 : (Jvm.Cond.fieldLink "DimpleWellsModel" (20 : Nat) "DimpleWellsModel" "readTold" "[I") ∈ lw_all := lw_g (lw_at lw_m8 221 rfl) rfl
theorem q1998 : (Jvm.Cond.fieldLink "DimpleWellsModel" (23 : Nat) "DimpleWellsModel" "told" "[I") ∈ lw_all := lw_g (lw_at lw_m8 222 rfl) rfl
theorem q1999 : (Jvm.Cond.fieldLink "DimpleWellsModel" (28 : Nat) "DimpleWellsModel" "readPerson" "[[I") ∈ lw_all := lw_g (lw_at lw_m8 223 rfl) rfl
theorem q2000 : (Jvm.Cond.fieldLink "DimpleWellsModel" (31 : Nat) "DimpleWellsModel" "person" "[[I") ∈ lw_all := lw_g (lw_at lw_m8 224 rfl) rfl
theorem q2001 : (Jvm.Cond.fieldLink "DimpleWellsModel" (34 : Nat) "DimpleWellsModel" "readJoke" "[[I") ∈ lw_all := lw_g (lw_at lw_m8 225 rfl) rfl
theorem q2002 : (Jvm.Cond.fieldLink "DimpleWellsModel" (37 : Nat) "DimpleWellsModel" "joke" "[[I") ∈ lw_all := lw_g (lw_at lw_m8 226 rfl) rfl
theorem q2003 : (Jvm.Cond.fieldLink "DimpleWellsModel" (40 : Nat) "DimpleWellsModel" "readStreet" "[[I") ∈ lw_all := lw_g (lw_at lw_m8 227 rfl) rfl
theorem q2004 : (Jvm.Cond.fieldLink "DimpleWellsModel" (43 : Nat) "DimpleWellsModel" "street" "[[I") ∈ lw_all := lw_g (lw_at lw_m8 228 rfl) rfl
theorem q2005 : (Jvm.Cond.fieldLink "DimpleWellsModel" (195 : Nat) "DimpleWellsModel" "lawMany" "I") ∈ lw_all := lw_g (lw_at lw_m8 229 rfl) rfl
theorem q2006 : (Jvm.Cond.fieldLink "DimpleWellsModel" (210 : Nat) "DimpleWellsModel" "readLawMany" "I") ∈ lw_all := lw_g (lw_at lw_m8 230 rfl) rfl
theorem q2007 : (Jvm.Cond.fieldLink "DimpleWellsModel" (46 : Nat) "DimpleWellsModel" "law" "[[I") ∈ lw_all := lw_g (lw_at lw_m8 231 rfl) rfl
theorem q2008 : (Jvm.Cond.fieldLink "DimpleWellsModel" (49 : Nat) "DimpleWellsModel" "readLaw" "[[I") ∈ lw_all := lw_g (lw_at lw_m8 232 rfl) rfl
theorem q2009 : (Jvm.Cond.fieldLink "DimpleWellsModel" (52 : Nat) "DimpleWellsModel" "line" "[[I") ∈ lw_all := lw_g (lw_at lw_m8 233 rfl) rfl
theorem q2010 : (Jvm.Cond.fieldLink "DimpleWellsModel" (55 : Nat) "DimpleWellsModel" "readLine" "[[I") ∈ lw_all := lw_g (lw_at lw_m8 234 rfl) rfl
theorem q2011 : (Jvm.Cond.fieldLink "DimpleWellsModel" (58 : Nat) "DimpleWellsModel" "stack" "[I") ∈ lw_all := lw_g (lw_at lw_m8 235 rfl) rfl
theorem q2012 : (Jvm.Cond.fieldLink "DimpleWellsModel" (61 : Nat) "DimpleWellsModel" "known" "[I") ∈ lw_all := lw_g (lw_at lw_m8 236 rfl) rfl
theorem q2013 : (Jvm.Cond.fieldLink "DimpleWellsModel" (64 : Nat) "DimpleWellsModel" "step" "[[I") ∈ lw_all := lw_g (lw_at lw_m8 237 rfl) rfl
theorem q2014 : (Jvm.Cond.fieldLink "DimpleWellsModel" (254 : Nat) "DimpleWellsModel" "steps" "I") ∈ lw_all := lw_g (lw_at lw_m8 238 rfl) rfl
theorem q2015 : (Jvm.Cond.fieldLink "DimpleWellsModel" (67 : Nat) "DimpleWellsModel" "now" "[I") ∈ lw_all := lw_g (lw_at lw_m8 239 rfl) rfl
theorem q2016 : (Jvm.Cond.fieldLink "DimpleWellsModel" (70 : Nat) "DimpleWellsModel" "trial" "[I") ∈ lw_all := lw_g (lw_at lw_m9 0 rfl) rfl
theorem q2017 : (Jvm.Cond.fieldLink "DimpleWellsModel" (73 : Nat) "DimpleWellsModel" "before" "[[I") ∈ lw_all := lw_g (lw_at lw_m9 1 rfl) rfl
theorem q2018 : (Jvm.Cond.fieldLink "DimpleWellsModel" (76 : Nat) "DimpleWellsModel" "kept" "[[I") ∈ lw_all := lw_g (lw_at lw_m9 2 rfl) rfl
theorem q2019 : (Jvm.Cond.fieldLink "DimpleWellsModel" (198 : Nat) "DimpleWellsModel" "lines" "I") ∈ lw_all := lw_g (lw_at lw_m9 3 rfl) rfl
theorem q2020 : (Jvm.Cond.fieldLink "DimpleWellsModel" (201 : Nat) "DimpleWellsModel" "works" "I") ∈ lw_all := lw_g (lw_at lw_m9 4 rfl) rfl
theorem q2021 : (Jvm.Cond.fieldLink "DimpleWellsModel" (204 : Nat) "DimpleWellsModel" "refusedSteps" "I") ∈ lw_all := lw_g (lw_at lw_m9 5 rfl) rfl
theorem q2022 : (Jvm.Cond.fieldLink "DimpleWellsModel" (207 : Nat) "DimpleWellsModel" "images" "I") ∈ lw_all := lw_g (lw_at lw_m9 6 rfl) rfl
theorem q2023 : (Jvm.Cond.fieldLink "DimpleWellsModel" (387 : Nat) "DimpleWellsModel" "spot" "I") ∈ lw_all := lw_g (lw_at lw_m9 7 rfl) rfl
theorem q2024 : (Jvm.Cond.fieldLink "DimpleWellsModel" (302 : Nat) "DimpleWellsModel" "begun" "I") ∈ lw_all := lw_g (lw_at lw_m9 8 rfl) rfl
theorem q2025 : (Jvm.Cond.fieldLink "DimpleWellsModel" (312 : Nat) "DimpleWellsModel" "doneSteps" "I") ∈ lw_all := lw_g (lw_at lw_m9 9 rfl) rfl
theorem q2026 : (Jvm.Cond.fieldLink "DimpleWellsModel" (79 : Nat) "DimpleWellsModel" "to" "[I") ∈ lw_all := lw_g (lw_at lw_m9 10 rfl) rfl
theorem q2027 : (Jvm.Cond.fieldLink "DimpleWellsModel" (82 : Nat) "DimpleWellsModel" "bestTo" "[I") ∈ lw_all := lw_g (lw_at lw_m9 11 rfl) rfl
theorem q2028 : (Jvm.Cond.fieldLink "DimpleWellsModel" (334 : Nat) "DimpleWellsModel" "mostWater" "I") ∈ lw_all := lw_g (lw_at lw_m9 12 rfl) rfl
theorem q2029 : (Jvm.Cond.fieldLink "DimpleWellsModel" (85 : Nat) "DimpleWellsModel" "seen" "[I") ∈ lw_all := lw_g (lw_at lw_m9 13 rfl) rfl
theorem q2030 : (Jvm.Cond.fieldLink "DimpleWellsModel" (88 : Nat) "DimpleWellsModel" "exact" "[J") ∈ lw_all := lw_g (lw_at lw_m9 14 rfl) rfl
theorem q2031 : (Jvm.Cond.fieldLink "DimpleWellsModel" (374 : Nat) "DimpleWellsModel" "lots" "I") ∈ lw_all := lw_g (lw_at lw_m9 15 rfl) rfl
theorem q2032 : (Jvm.Cond.lays "DimpleWellsModel" "DimpleWellsModel" "thrown" "I") ∈ lw_all := lw_g (lw_at lw_m9 16 rfl) rfl
theorem q2033 : (Jvm.Cond.soleField "DimpleWellsModel" "thrown") ∈ lw_all := lw_g (lw_at lw_m9 17 rfl) rfl
theorem q2034 : (Jvm.Cond.lays "DimpleWellsModel" "DimpleWellsModel" "tape" "I") ∈ lw_all := lw_g (lw_at lw_m9 18 rfl) rfl
theorem q2035 : (Jvm.Cond.soleField "DimpleWellsModel" "tape") ∈ lw_all := lw_g (lw_at lw_m9 19 rfl) rfl
theorem q2036 : (Jvm.Cond.lays "DimpleWellsModel" "DimpleWellsModel" "size" "I") ∈ lw_all := lw_g (lw_at lw_m9 20 rfl) rfl
theorem q2037 : (Jvm.Cond.soleField "DimpleWellsModel" "size") ∈ lw_all := lw_g (lw_at lw_m9 21 rfl) rfl
theorem q2038 : (Jvm.Cond.lays "DimpleWellsModel" "DimpleWellsModel" "place" "I") ∈ lw_all := lw_g (lw_at lw_m9 22 rfl) rfl
theorem q2039 : (Jvm.Cond.soleField "DimpleWellsModel" "place") ∈ lw_all := lw_g (lw_at lw_m9 23 rfl) rfl
theorem q2040 : (Jvm.Cond.lays "DimpleWellsModel" "DimpleWellsModel" "at" "I") ∈ lw_all := lw_g (lw_at lw_m9 24 rfl) rfl
theorem q2041 : (Jvm.Cond.soleField "DimpleWellsModel" "at") ∈ lw_all := lw_g (lw_at lw_m9 25 rfl) rfl
theorem q2042 : (Jvm.Cond.lays "DimpleWellsModel" "DimpleWellsModel" "fault" "I") ∈ lw_all := lw_g (lw_at lw_m9 26 rfl) rfl
theorem q2043 : (Jvm.Cond.soleField "DimpleWellsModel" "fault") ∈ lw_all := lw_g (lw_at lw_m9 27 rfl) rfl
theorem q2044 : (Jvm.Cond.lays "DimpleWellsModel" "DimpleWellsModel" "faultAt" "I") ∈ lw_all := lw_g (lw_at lw_m9 28 rfl) rfl
theorem q2045 : (Jvm.Cond.soleField "DimpleWellsModel" "faultAt") ∈ lw_all := lw_g (lw_at lw_m9 29 rfl) rfl
theorem q2046 : (Jvm.Cond.lays "DimpleWellsModel" "DimpleWellsModel" "clauses" "I") ∈ lw_all := lw_g (lw_at lw_m9 30 rfl) rfl
theorem q2047 : (Jvm.Cond.soleField "DimpleWellsModel" "clauses") ∈ lw_all := lw_g (lw_at lw_m9 31 rfl) rfl
theorem q2048 : (Jvm.Cond.lays "DimpleWellsModel" "DimpleWellsModel" "open" "I") ∈ lw_all := lw_g (lw_at lw_m9 32 rfl) rfl
theorem q2049 : (Jvm.Cond.soleField "DimpleWellsModel" "open") ∈ lw_all := lw_g (lw_at lw_m9 33 rfl) rfl
theorem q2050 : (Jvm.Cond.laysFinal "DimpleWellsModel" "DimpleWellsModel" "fed" "[I") ∈ lw_all := lw_g (lw_at lw_m9 34 rfl) rfl
theorem q2051 : (Jvm.Cond.soleField "DimpleWellsModel" "fed") ∈ lw_all := lw_g (lw_at lw_m9 35 rfl) rfl
theorem q2052 : (Jvm.Cond.laysFinal "DimpleWellsModel" "DimpleWellsModel" "refused" "[I") ∈ lw_all := lw_g (lw_at lw_m9 36 rfl) rfl
theorem q2053 : (Jvm.Cond.soleField "DimpleWellsModel" "refused") ∈ lw_all := lw_g (lw_at lw_m9 37 rfl) rfl
theorem q2054 : (Jvm.Cond.laysFinal "DimpleWellsModel" "DimpleWellsModel" "readTold" "[I") ∈ lw_all := lw_g (lw_at lw_m9 38 rfl) rfl
theorem q2055 : (Jvm.Cond.soleField "DimpleWellsModel" "readTold") ∈ lw_all := lw_g (lw_at lw_m9 39 rfl) rfl
theorem q2056 : (Jvm.Cond.laysFinal "DimpleWellsModel" "DimpleWellsModel" "told" "[I") ∈ lw_all := lw_g (lw_at lw_m9 40 rfl) rfl
theorem q2057 : (Jvm.Cond.soleField "DimpleWellsModel" "told") ∈ lw_all := lw_g (lw_at lw_m9 41 rfl) rfl
theorem q2058 : (Jvm.Cond.laysFinal "DimpleWellsModel" "DimpleWellsModel" "readPerson" "[[I") ∈ lw_all := lw_g (lw_at lw_m9 42 rfl) rfl
theorem q2059 : (Jvm.Cond.soleField "DimpleWellsModel" "readPerson") ∈ lw_all := lw_g (lw_at lw_m9 43 rfl) rfl
theorem q2060 : (Jvm.Cond.laysFinal "DimpleWellsModel" "DimpleWellsModel" "person" "[[I") ∈ lw_all := lw_g (lw_at lw_m9 44 rfl) rfl
theorem q2061 : (Jvm.Cond.soleField "DimpleWellsModel" "person") ∈ lw_all := lw_g (lw_at lw_m9 45 rfl) rfl
theorem q2062 : (Jvm.Cond.laysFinal "DimpleWellsModel" "DimpleWellsModel" "readJoke" "[[I") ∈ lw_all := lw_g (lw_at lw_m9 46 rfl) rfl
theorem q2063 : (Jvm.Cond.soleField "DimpleWellsModel" "readJoke") ∈ lw_all := lw_g (lw_at lw_m9 47 rfl) rfl
theorem q2064 : (Jvm.Cond.laysFinal "DimpleWellsModel" "DimpleWellsModel" "joke" "[[I") ∈ lw_all := lw_g (lw_at lw_m9 48 rfl) rfl
theorem q2065 : (Jvm.Cond.soleField "DimpleWellsModel" "joke") ∈ lw_all := lw_g (lw_at lw_m9 49 rfl) rfl
theorem q2066 : (Jvm.Cond.laysFinal "DimpleWellsModel" "DimpleWellsModel" "readStreet" "[[I") ∈ lw_all := lw_g (lw_at lw_m9 50 rfl) rfl
theorem q2067 : (Jvm.Cond.soleField "DimpleWellsModel" "readStreet") ∈ lw_all := lw_g (lw_at lw_m9 51 rfl) rfl
theorem q2068 : (Jvm.Cond.laysFinal "DimpleWellsModel" "DimpleWellsModel" "street" "[[I") ∈ lw_all := lw_g (lw_at lw_m9 52 rfl) rfl
theorem q2069 : (Jvm.Cond.soleField "DimpleWellsModel" "street") ∈ lw_all := lw_g (lw_at lw_m9 53 rfl) rfl
theorem q2070 : (Jvm.Cond.lays "DimpleWellsModel" "DimpleWellsModel" "lawMany" "I") ∈ lw_all := lw_g (lw_at lw_m9 54 rfl) rfl
theorem q2071 : (Jvm.Cond.soleField "DimpleWellsModel" "lawMany") ∈ lw_all := lw_g (lw_at lw_m9 55 rfl) rfl
theorem q2072 : (Jvm.Cond.lays "DimpleWellsModel" "DimpleWellsModel" "readLawMany" "I") ∈ lw_all := lw_g (lw_at lw_m9 56 rfl) rfl
theorem q2073 : (Jvm.Cond.soleField "DimpleWellsModel" "readLawMany") ∈ lw_all := lw_g (lw_at lw_m9 57 rfl) rfl
theorem q2074 : (Jvm.Cond.laysFinal "DimpleWellsModel" "DimpleWellsModel" "law" "[[I") ∈ lw_all := lw_g (lw_at lw_m9 58 rfl) rfl
theorem q2075 : (Jvm.Cond.soleField "DimpleWellsModel" "law") ∈ lw_all := lw_g (lw_at lw_m9 59 rfl) rfl
theorem q2076 : (Jvm.Cond.laysFinal "DimpleWellsModel" "DimpleWellsModel" "readLaw" "[[I") ∈ lw_all := lw_g (lw_at lw_m9 60 rfl) rfl
theorem q2077 : (Jvm.Cond.soleField "DimpleWellsModel" "readLaw") ∈ lw_all := lw_g (lw_at lw_m9 61 rfl) rfl
theorem q2078 : (Jvm.Cond.laysFinal "DimpleWellsModel" "DimpleWellsModel" "line" "[[I") ∈ lw_all := lw_g (lw_at lw_m9 62 rfl) rfl
theorem q2079 : (Jvm.Cond.soleField "DimpleWellsModel" "line") ∈ lw_all := lw_g (lw_at lw_m9 63 rfl) rfl
theorem q2080 : (Jvm.Cond.laysFinal "DimpleWellsModel" "DimpleWellsModel" "readLine" "[[I") ∈ lw_all := lw_g (lw_at lw_m9 64 rfl) rfl
theorem q2081 : (Jvm.Cond.soleField "DimpleWellsModel" "readLine") ∈ lw_all := lw_g (lw_at lw_m9 65 rfl) rfl
theorem q2082 : (Jvm.Cond.laysFinal "DimpleWellsModel" "DimpleWellsModel" "stack" "[I") ∈ lw_all := lw_g (lw_at lw_m9 66 rfl) rfl
theorem q2083 : (Jvm.Cond.soleField "DimpleWellsModel" "stack") ∈ lw_all := lw_g (lw_at lw_m9 67 rfl) rfl
theorem q2084 : (Jvm.Cond.laysFinal "DimpleWellsModel" "DimpleWellsModel" "known" "[I") ∈ lw_all := lw_g (lw_at lw_m9 68 rfl) rfl
theorem q2085 : (Jvm.Cond.soleField "DimpleWellsModel" "known") ∈ lw_all := lw_g (lw_at lw_m9 69 rfl) rfl
theorem q2086 : (Jvm.Cond.laysFinal "DimpleWellsModel" "DimpleWellsModel" "step" "[[I") ∈ lw_all := lw_g (lw_at lw_m9 70 rfl) rfl
theorem q2087 : (Jvm.Cond.soleField "DimpleWellsModel" "step") ∈ lw_all := lw_g (lw_at lw_m9 71 rfl) rfl
theorem q2088 : (Jvm.Cond.lays "DimpleWellsModel" "DimpleWellsModel" "steps" "I") ∈ lw_all := lw_g (lw_at lw_m9 72 rfl) rfl
theorem q2089 : (Jvm.Cond.soleField "DimpleWellsModel" "steps") ∈ lw_all := lw_g (lw_at lw_m9 73 rfl) rfl
theorem q2090 : (Jvm.Cond.laysFinal "DimpleWellsModel" "DimpleWellsModel" "now" "[I") ∈ lw_all := lw_g (lw_at lw_m9 74 rfl) rfl
theorem q2091 : (Jvm.Cond.soleField "DimpleWellsModel" "now") ∈ lw_all := lw_g (lw_at lw_m9 75 rfl) rfl
theorem q2092 : (Jvm.Cond.laysFinal "DimpleWellsModel" "DimpleWellsModel" "trial" "[I") ∈ lw_all := lw_g (lw_at lw_m9 76 rfl) rfl
theorem q2093 : (Jvm.Cond.soleField "DimpleWellsModel" "trial") ∈ lw_all := lw_g (lw_at lw_m9 77 rfl) rfl
theorem q2094 : (Jvm.Cond.laysFinal "DimpleWellsModel" "DimpleWellsModel" "before" "[[I") ∈ lw_all := lw_g (lw_at lw_m9 78 rfl) rfl
theorem q2095 : (Jvm.Cond.soleField "DimpleWellsModel" "before") ∈ lw_all := lw_g (lw_at lw_m9 79 rfl) rfl
theorem q2096 : (Jvm.Cond.laysFinal "DimpleWellsModel" "DimpleWellsModel" "kept" "[[I") ∈ lw_all := lw_g (lw_at lw_m9 80 rfl) rfl
theorem q2097 : (Jvm.Cond.soleField "DimpleWellsModel" "kept") ∈ lw_all := lw_g (lw_at lw_m9 81 rfl) rfl
theorem q2098 : (Jvm.Cond.lays "DimpleWellsModel" "DimpleWellsModel" "lines" "I") ∈ lw_all := lw_g (lw_at lw_m9 82 rfl) rfl
theorem q2099 : (Jvm.Cond.soleField "DimpleWellsModel" "lines") ∈ lw_all := lw_g (lw_at lw_m9 83 rfl) rfl
theorem q2100 : (Jvm.Cond.lays "DimpleWellsModel" "DimpleWellsModel" "works" "I") ∈ lw_all := lw_g (lw_at lw_m9 84 rfl) rfl
theorem q2101 : (Jvm.Cond.soleField "DimpleWellsModel" "works") ∈ lw_all := lw_g (lw_at lw_m9 85 rfl) rfl
theorem q2102 : (Jvm.Cond.lays "DimpleWellsModel" "DimpleWellsModel" "refusedSteps" "I") ∈ lw_all := lw_g (lw_at lw_m9 86 rfl) rfl
theorem q2103 : (Jvm.Cond.soleField "DimpleWellsModel" "refusedSteps") ∈ lw_all := lw_g (lw_at lw_m9 87 rfl) rfl
theorem q2104 : (Jvm.Cond.lays "DimpleWellsModel" "DimpleWellsModel" "images" "I") ∈ lw_all := lw_g (lw_at lw_m9 88 rfl) rfl
theorem q2105 : (Jvm.Cond.soleField "DimpleWellsModel" "images") ∈ lw_all := lw_g (lw_at lw_m9 89 rfl) rfl
theorem q2106 : (Jvm.Cond.lays "DimpleWellsModel" "DimpleWellsModel" "spot" "I") ∈ lw_all := lw_g (lw_at lw_m9 90 rfl) rfl
theorem q2107 : (Jvm.Cond.soleField "DimpleWellsModel" "spot") ∈ lw_all := lw_g (lw_at lw_m9 91 rfl) rfl
theorem q2108 : (Jvm.Cond.lays "DimpleWellsModel" "DimpleWellsModel" "begun" "I") ∈ lw_all := lw_g (lw_at lw_m9 92 rfl) rfl
theorem q2109 : (Jvm.Cond.soleField "DimpleWellsModel" "begun") ∈ lw_all := lw_g (lw_at lw_m9 93 rfl) rfl
theorem q2110 : (Jvm.Cond.lays "DimpleWellsModel" "DimpleWellsModel" "doneSteps" "I") ∈ lw_all := lw_g (lw_at lw_m9 94 rfl) rfl
theorem q2111 : (Jvm.Cond.soleField "DimpleWellsModel" "doneSteps") ∈ lw_all := lw_g (lw_at lw_m9 95 rfl) rfl
theorem q2112 : (Jvm.Cond.laysFinal "DimpleWellsModel" "DimpleWellsModel" "to" "[I") ∈ lw_all := lw_g (lw_at lw_m9 96 rfl) rfl
theorem q2113 : (Jvm.Cond.soleField "DimpleWellsModel" "to") ∈ lw_all := lw_g (lw_at lw_m9 97 rfl) rfl
theorem q2114 : (Jvm.Cond.laysFinal "DimpleWellsModel" "DimpleWellsModel" "bestTo" "[I") ∈ lw_all := lw_g (lw_at lw_m9 98 rfl) rfl
theorem q2115 : (Jvm.Cond.soleField "DimpleWellsModel" "bestTo") ∈ lw_all := lw_g (lw_at lw_m9 99 rfl) rfl
theorem q2116 : (Jvm.Cond.lays "DimpleWellsModel" "DimpleWellsModel" "mostWater" "I") ∈ lw_all := lw_g (lw_at lw_m9 100 rfl) rfl
theorem q2117 : (Jvm.Cond.soleField "DimpleWellsModel" "mostWater") ∈ lw_all := lw_g (lw_at lw_m9 101 rfl) rfl
theorem q2118 : (Jvm.Cond.laysFinal "DimpleWellsModel" "DimpleWellsModel" "seen" "[I") ∈ lw_all := lw_g (lw_at lw_m9 102 rfl) rfl
theorem q2119 : (Jvm.Cond.soleField "DimpleWellsModel" "seen") ∈ lw_all := lw_g (lw_at lw_m9 103 rfl) rfl
theorem q2120 : (Jvm.Cond.laysFinal "DimpleWellsModel" "DimpleWellsModel" "exact" "[J") ∈ lw_all := lw_g (lw_at lw_m9 104 rfl) rfl
theorem q2121 : (Jvm.Cond.soleField "DimpleWellsModel" "exact") ∈ lw_all := lw_g (lw_at lw_m9 105 rfl) rfl
theorem q2122 : (Jvm.Cond.lays "DimpleWellsModel" "DimpleWellsModel" "lots" "I") ∈ lw_all := lw_g (lw_at lw_m9 106 rfl) rfl
theorem q2123 : (Jvm.Cond.soleField "DimpleWellsModel" "lots") ∈ lw_all := lw_g (lw_at lw_m9 107 rfl) rfl
theorem q2124 : (Jvm.Cond.superclass "DimpleWellsModel" "java/lang/Object") ∈ lw_all := lw_g (lw_at lw_m9 108 rfl) rfl
theorem q2127 : (Jvm.Cond.instanceMethod ({ cls := "DimpleWellsModel", name := "thrown", desc := "()I" } : Jvm.MethodName)) ∈ lw_all := lw_g (lw_at lw_m9 111 rfl) rfl
theorem q2128 : (Jvm.Cond.selects "DimpleWellsModel" ({ cls := "DimpleWellsModel", name := "thrown", desc := "()I" } : Jvm.MethodName) ({ cls := "DimpleWellsModel", name := "thrown", desc := "()I" } : Jvm.MethodName)) ∈ lw_all := lw_g (lw_at lw_m9 112 rfl) rfl
theorem q2129 : (Jvm.Cond.code ({ cls := "DimpleWellsModel", name := "thrown", desc := "()I" } : Jvm.MethodName) prog_32_method_3_code (1 : Nat) (Option.some Jvm.ClassFile.FieldType.int)) ∈ lw_all := lw_g (lw_at lw_m9 113 rfl) rfl
theorem q2131 : (Jvm.Cond.instanceMethod ({ cls := "DimpleWellsModel", name := "feed", desc := "(IIIII)I" } : Jvm.MethodName)) ∈ lw_all := lw_g (lw_at lw_m9 115 rfl) rfl
theorem q2132 : (Jvm.Cond.selects "DimpleWellsModel" ({ cls := "DimpleWellsModel", name := "feed", desc := "(IIIII)I" } : Jvm.MethodName) ({ cls := "DimpleWellsModel", name := "feed", desc := "(IIIII)I" } : Jvm.MethodName)) ∈ lw_all := lw_g (lw_at lw_m9 116 rfl) rfl
theorem q2133 : (Jvm.Cond.code ({ cls := "DimpleWellsModel", name := "feed", desc := "(IIIII)I" } : Jvm.MethodName) prog_32_method_9_code (8 : Nat) (Option.some Jvm.ClassFile.FieldType.int)) ∈ lw_all := lw_g (lw_at lw_m9 117 rfl) rfl
theorem q2135 : (Jvm.Cond.instanceMethod ({ cls := "DimpleWellsModel", name := "land", desc := "(I)I" } : Jvm.MethodName)) ∈ lw_all := lw_g (lw_at lw_m9 119 rfl) rfl
theorem q2136 : (Jvm.Cond.selects "DimpleWellsModel" ({ cls := "DimpleWellsModel", name := "land", desc := "(I)I" } : Jvm.MethodName) ({ cls := "DimpleWellsModel", name := "land", desc := "(I)I" } : Jvm.MethodName)) ∈ lw_all := lw_g (lw_at lw_m9 120 rfl) rfl
theorem q2137 : (Jvm.Cond.code ({ cls := "DimpleWellsModel", name := "land", desc := "(I)I" } : Jvm.MethodName) prog_32_method_30_code (2 : Nat) (Option.some Jvm.ClassFile.FieldType.int)) ∈ lw_all := lw_g (lw_at lw_m9 121 rfl) rfl
theorem q2138 : (Jvm.Cond.methodLink "DimpleWellsModel" (132 : Nat) ({ cls := "DimpleWellsModel", name := "in", desc := "(III)Z" } : Jvm.MethodName)) ∈ lw_all := lw_g (lw_at lw_m9 122 rfl) rfl
theorem q2139 : (Jvm.Cond.static ({ cls := "DimpleWellsModel", name := "in", desc := "(III)Z" } : Jvm.MethodName)) ∈ lw_all := lw_g (lw_at lw_m9 123 rfl) rfl
theorem q2140 : (Jvm.Cond.code ({ cls := "DimpleWellsModel", name := "in", desc := "(III)Z" } : Jvm.MethodName) prog_32_method_5_code (3 : Nat) (Option.some Jvm.ClassFile.FieldType.boolean)) ∈ lw_all := lw_g (lw_at lw_m9 124 rfl) rfl
theorem q2141 : (Jvm.Cond.methodLink "DimpleWellsModel" (178 : Nat) ({ cls := "DimpleWellsModel", name := "bad", desc := "(ZII)Z" } : Jvm.MethodName)) ∈ lw_all := lw_g (lw_at lw_m9 125 rfl) rfl
theorem q2142 : (Jvm.Cond.privateMethod ({ cls := "DimpleWellsModel", name := "bad", desc := "(ZII)Z" } : Jvm.MethodName)) ∈ lw_tbl := lw_at lw_m9 126 rfl
theorem q2143 : (Jvm.Cond.instanceMethod ({ cls := "DimpleWellsModel", name := "bad", desc := "(ZII)Z" } : Jvm.MethodName)) ∈ lw_all := lw_g (lw_at lw_m9 127 rfl) rfl
theorem q2144 : (Jvm.Cond.code ({ cls := "DimpleWellsModel", name := "bad", desc := "(ZII)Z" } : Jvm.MethodName) prog_32_method_4_code (4 : Nat) (Option.some Jvm.ClassFile.FieldType.boolean)) ∈ lw_all := lw_g (lw_at lw_m9 128 rfl) rfl
theorem q2145 : (Jvm.Cond.methodLink "DimpleWellsModel" (182 : Nat) ({ cls := "DimpleWellsModel", name := "starts", desc := "(I)V" } : Jvm.MethodName)) ∈ lw_all := lw_g (lw_at lw_m9 129 rfl) rfl
theorem q2146 : (Jvm.Cond.privateMethod ({ cls := "DimpleWellsModel", name := "starts", desc := "(I)V" } : Jvm.MethodName)) ∈ lw_tbl := lw_at lw_m9 130 rfl
theorem q2147 : (Jvm.Cond.instanceMethod ({ cls := "DimpleWellsModel", name := "starts", desc := "(I)V" } : Jvm.MethodName)) ∈ lw_all := lw_g (lw_at lw_m9 131 rfl) rfl
theorem q2148 : (Jvm.Cond.code ({ cls := "DimpleWellsModel", name := "starts", desc := "(I)V" } : Jvm.MethodName) prog_32_method_23_code (2 : Nat) (Option.none : Option Jvm.ClassFile.FieldType)) ∈ lw_all := lw_g (lw_at lw_m9 132 rfl) rfl
theorem q2149 : (Jvm.Cond.methodLink "DimpleWellsModel" (120 : Nat) ({ cls := "DimpleWellsModel", name := "blanks", desc := "()V" } : Jvm.MethodName)) ∈ lw_all := lw_g (lw_at lw_m9 133 rfl) rfl
theorem q2150 : (Jvm.Cond.privateMethod ({ cls := "DimpleWellsModel", name := "blanks", desc := "()V" } : Jvm.MethodName)) ∈ lw_tbl := lw_at lw_m9 134 rfl
theorem q2151 : (Jvm.Cond.instanceMethod ({ cls := "DimpleWellsModel", name := "blanks", desc := "()V" } : Jvm.MethodName)) ∈ lw_all := lw_g (lw_at lw_m9 135 rfl) rfl
theorem q2152 : (Jvm.Cond.code ({ cls := "DimpleWellsModel", name := "blanks", desc := "()V" } : Jvm.MethodName) prog_32_method_11_code (1 : Nat) (Option.none : Option Jvm.ClassFile.FieldType)) ∈ lw_all := lw_g (lw_at lw_m9 136 rfl) rfl
theorem q2153 : (Jvm.Cond.methodLink "DimpleWellsModel" (110 : Nat) ({ cls := "DimpleWellsModel", name := "byteAt", desc := "(I)I" } : Jvm.MethodName)) ∈ lw_all := lw_g (lw_at lw_m9 137 rfl) rfl
theorem q2154 : (Jvm.Cond.privateMethod ({ cls := "DimpleWellsModel", name := "byteAt", desc := "(I)I" } : Jvm.MethodName)) ∈ lw_tbl := lw_at lw_m9 138 rfl
theorem q2155 : (Jvm.Cond.instanceMethod ({ cls := "DimpleWellsModel", name := "byteAt", desc := "(I)I" } : Jvm.MethodName)) ∈ lw_all := lw_g (lw_at lw_m9 139 rfl) rfl
theorem q2156 : (Jvm.Cond.code ({ cls := "DimpleWellsModel", name := "byteAt", desc := "(I)I" } : Jvm.MethodName) prog_32_method_10_code (2 : Nat) (Option.some Jvm.ClassFile.FieldType.int)) ∈ lw_all := lw_g (lw_at lw_m9 140 rfl) rfl
theorem q2157 : (Jvm.Cond.methodLink "DimpleWellsModel" (185 : Nat) ({ cls := "DimpleWellsModel", name := "clause", desc := "()V" } : Jvm.MethodName)) ∈ lw_all := lw_g (lw_at lw_m9 141 rfl) rfl
theorem q2158 : (Jvm.Cond.privateMethod ({ cls := "DimpleWellsModel", name := "clause", desc := "()V" } : Jvm.MethodName)) ∈ lw_tbl := lw_at lw_m9 142 rfl
theorem q2159 : (Jvm.Cond.instanceMethod ({ cls := "DimpleWellsModel", name := "clause", desc := "()V" } : Jvm.MethodName)) ∈ lw_all := lw_g (lw_at lw_m9 143 rfl) rfl
theorem q2160 : (Jvm.Cond.code ({ cls := "DimpleWellsModel", name := "clause", desc := "()V" } : Jvm.MethodName) prog_32_method_29_code (6 : Nat) (Option.none : Option Jvm.ClassFile.FieldType)) ∈ lw_all := lw_g (lw_at lw_m9 144 rfl) rfl
theorem q2161 : (Jvm.Cond.methodLink "DimpleWellsModel" (160 : Nat) ({ cls := "DimpleWellsModel", name := "kindHere", desc := "()I" } : Jvm.MethodName)) ∈ lw_all := lw_g (lw_at lw_m9 145 rfl) rfl
theorem q2162 : (Jvm.Cond.privateMethod ({ cls := "DimpleWellsModel", name := "kindHere", desc := "()I" } : Jvm.MethodName)) ∈ lw_tbl := lw_at lw_m9 146 rfl
theorem q2163 : (Jvm.Cond.instanceMethod ({ cls := "DimpleWellsModel", name := "kindHere", desc := "()I" } : Jvm.MethodName)) ∈ lw_all := lw_g (lw_at lw_m9 147 rfl) rfl
theorem q2164 : (Jvm.Cond.code ({ cls := "DimpleWellsModel", name := "kindHere", desc := "()I" } : Jvm.MethodName) prog_32_method_26_code (1 : Nat) (Option.some Jvm.ClassFile.FieldType.int)) ∈ lw_all := lw_g (lw_at lw_m9 148 rfl) rfl
theorem q2165 : (Jvm.Cond.methodLink "DimpleWellsModel" (147 : Nat) ({ cls := "DimpleWellsModel", name := "isWord", desc := "(IIIIII)Z" } : Jvm.MethodName)) ∈ lw_all := lw_g (lw_at lw_m9 149 rfl) rfl
theorem q2166 : (Jvm.Cond.privateMethod ({ cls := "DimpleWellsModel", name := "isWord", desc := "(IIIIII)Z" } : Jvm.MethodName)) ∈ lw_tbl := lw_at lw_m9 150 rfl
theorem q2167 : (Jvm.Cond.instanceMethod ({ cls := "DimpleWellsModel", name := "isWord", desc := "(IIIIII)Z" } : Jvm.MethodName)) ∈ lw_all := lw_g (lw_at lw_m9 151 rfl) rfl
theorem q2168 : (Jvm.Cond.code ({ cls := "DimpleWellsModel", name := "isWord", desc := "(IIIIII)Z" } : Jvm.MethodName) prog_32_method_18_code (7 : Nat) (Option.some Jvm.ClassFile.FieldType.boolean)) ∈ lw_all := lw_g (lw_at lw_m9 152 rfl) rfl
theorem q2169 : (Jvm.Cond.methodLink "DimpleWellsModel" (139 : Nat) ({ cls := "DimpleWellsModel", name := "wordHere", desc := "()I" } : Jvm.MethodName)) ∈ lw_all := lw_g (lw_at lw_m9 153 rfl) rfl
theorem q2170 : (Jvm.Cond.privateMethod ({ cls := "DimpleWellsModel", name := "wordHere", desc := "()I" } : Jvm.MethodName)) ∈ lw_tbl := lw_at lw_m9 154 rfl
theorem q2171 : (Jvm.Cond.instanceMethod ({ cls := "DimpleWellsModel", name := "wordHere", desc := "()I" } : Jvm.MethodName)) ∈ lw_all := lw_g (lw_at lw_m9 155 rfl) rfl
theorem q2172 : (Jvm.Cond.code ({ cls := "DimpleWellsModel", name := "wordHere", desc := "()I" } : Jvm.MethodName) prog_32_method_16_code (3 : Nat) (Option.some Jvm.ClassFile.FieldType.int)) ∈ lw_all := lw_g (lw_at lw_m9 156 rfl) rfl
theorem q2173 : (Jvm.Cond.methodLink "DimpleWellsModel" (136 : Nat) ({ cls := "DimpleWellsModel", name := "isSmall", desc := "(I)Z" } : Jvm.MethodName)) ∈ lw_all := lw_g (lw_at lw_m9 157 rfl) rfl
theorem q2174 : (Jvm.Cond.static ({ cls := "DimpleWellsModel", name := "isSmall", desc := "(I)Z" } : Jvm.MethodName)) ∈ lw_all := lw_g (lw_at lw_m9 158 rfl) rfl
theorem q2175 : (Jvm.Cond.code ({ cls := "DimpleWellsModel", name := "isSmall", desc := "(I)Z" } : Jvm.MethodName) prog_32_method_14_code (1 : Nat) (Option.some Jvm.ClassFile.FieldType.boolean)) ∈ lw_all := lw_g (lw_at lw_m9 159 rfl) rfl
theorem q2176 : (Jvm.Cond.methodLink "DimpleWellsModel" (143 : Nat) ({ cls := "DimpleWellsModel", name := "six", desc := "(IIIIII)I" } : Jvm.MethodName)) ∈ lw_all := lw_g (lw_at lw_m9 160 rfl) rfl
theorem q2177 : (Jvm.Cond.static ({ cls := "DimpleWellsModel", name := "six", desc := "(IIIIII)I" } : Jvm.MethodName)) ∈ lw_all := lw_g (lw_at lw_m9 161 rfl) rfl
theorem q2178 : (Jvm.Cond.code ({ cls := "DimpleWellsModel", name := "six", desc := "(IIIIII)I" } : Jvm.MethodName) prog_32_method_17_code (7 : Nat) (Option.some Jvm.ClassFile.FieldType.int)) ∈ lw_all := lw_g (lw_at lw_m9 162 rfl) rfl
theorem q2179 : (Jvm.Cond.methodLink "DimpleWellsModel" (127 : Nat) ({ cls := "DimpleWellsModel", name := "wrong", desc := "(II)V" } : Jvm.MethodName)) ∈ lw_all := lw_g (lw_at lw_m9 163 rfl) rfl
theorem q2180 : (Jvm.Cond.privateMethod ({ cls := "DimpleWellsModel", name := "wrong", desc := "(II)V" } : Jvm.MethodName)) ∈ lw_tbl := lw_at lw_m9 164 rfl
theorem q2181 : (Jvm.Cond.instanceMethod ({ cls := "DimpleWellsModel", name := "wrong", desc := "(II)V" } : Jvm.MethodName)) ∈ lw_all := lw_g (lw_at lw_m9 165 rfl) rfl
theorem q2182 : (Jvm.Cond.code ({ cls := "DimpleWellsModel", name := "wrong", desc := "(II)V" } : Jvm.MethodName) prog_32_method_12_code (3 : Nat) (Option.none : Option Jvm.ClassFile.FieldType)) ∈ lw_all := lw_g (lw_at lw_m9 166 rfl) rfl
theorem q2183 : (Jvm.Cond.methodLink "DimpleWellsModel" (163 : Nat) ({ cls := "DimpleWellsModel", name := "mostOf", desc := "(I)I" } : Jvm.MethodName)) ∈ lw_all := lw_g (lw_at lw_m9 167 rfl) rfl
theorem q2184 : (Jvm.Cond.static ({ cls := "DimpleWellsModel", name := "mostOf", desc := "(I)I" } : Jvm.MethodName)) ∈ lw_all := lw_g (lw_at lw_m9 168 rfl) rfl
theorem q2185 : (Jvm.Cond.code ({ cls := "DimpleWellsModel", name := "mostOf", desc := "(I)I" } : Jvm.MethodName) prog_32_method_27_code (1 : Nat) (Option.some Jvm.ClassFile.FieldType.int)) ∈ lw_all := lw_g (lw_at lw_m9 169 rfl) rfl
theorem q2186 : (Jvm.Cond.methodLink "DimpleWellsModel" (151 : Nat) ({ cls := "DimpleWellsModel", name := "skipWord", desc := "()V" } : Jvm.MethodName)) ∈ lw_all := lw_g (lw_at lw_m9 170 rfl) rfl
theorem q2187 : (Jvm.Cond.privateMethod ({ cls := "DimpleWellsModel", name := "skipWord", desc := "()V" } : Jvm.MethodName)) ∈ lw_tbl := lw_at lw_m9 171 rfl
theorem q2188 : (Jvm.Cond.instanceMethod ({ cls := "DimpleWellsModel", name := "skipWord", desc := "()V" } : Jvm.MethodName)) ∈ lw_all := lw_g (lw_at lw_m9 172 rfl) rfl
theorem q2189 : (Jvm.Cond.code ({ cls := "DimpleWellsModel", name := "skipWord", desc := "()V" } : Jvm.MethodName) prog_32_method_19_code (1 : Nat) (Option.none : Option Jvm.ClassFile.FieldType)) ∈ lw_all := lw_g (lw_at lw_m9 173 rfl) rfl
theorem q2190 : (Jvm.Cond.methodLink "DimpleWellsModel" (166 : Nat) ({ cls := "DimpleWellsModel", name := "number", desc := "(II)I" } : Jvm.MethodName)) ∈ lw_all := lw_g (lw_at lw_m9 174 rfl) rfl
theorem q2191 : (Jvm.Cond.privateMethod ({ cls := "DimpleWellsModel", name := "number", desc := "(II)I" } : Jvm.MethodName)) ∈ lw_tbl := lw_at lw_m9 175 rfl
theorem q2192 : (Jvm.Cond.instanceMethod ({ cls := "DimpleWellsModel", name := "number", desc := "(II)I" } : Jvm.MethodName)) ∈ lw_all := lw_g (lw_at lw_m9 176 rfl) rfl
theorem q2193 : (Jvm.Cond.code ({ cls := "DimpleWellsModel", name := "number", desc := "(II)I" } : Jvm.MethodName) prog_32_method_15_code (5 : Nat) (Option.some Jvm.ClassFile.FieldType.int)) ∈ lw_all := lw_g (lw_at lw_m9 177 rfl) rfl
theorem q2194 : (Jvm.Cond.methodLink "DimpleWellsModel" (123 : Nat) ({ cls := "DimpleWellsModel", name := "isDigit", desc := "(I)Z" } : Jvm.MethodName)) ∈ lw_all := lw_g (lw_at lw_m9 178 rfl) rfl
theorem q2195 : (Jvm.Cond.static ({ cls := "DimpleWellsModel", name := "isDigit", desc := "(I)Z" } : Jvm.MethodName)) ∈ lw_all := lw_g (lw_at lw_m9 179 rfl) rfl
theorem q2196 : (Jvm.Cond.code ({ cls := "DimpleWellsModel", name := "isDigit", desc := "(I)Z" } : Jvm.MethodName) prog_32_method_13_code (1 : Nat) (Option.some Jvm.ClassFile.FieldType.boolean)) ∈ lw_all := lw_g (lw_at lw_m9 180 rfl) rfl
theorem q2197 : (Jvm.Cond.constant "DimpleWellsModel" (131 : Nat) (100000 : Int32)) ∈ lw_all := lw_g (lw_at lw_m9 181 rfl) rfl
theorem q2198 : (Jvm.Cond.methodLink "DimpleWellsModel" (170 : Nat) ({ cls := "DimpleWellsModel", name := "isReadStreet", desc := "(II)Z" } : Jvm.MethodName)) ∈ lw_all := lw_g (lw_at lw_m9 182 rfl) rfl
theorem q2199 : (Jvm.Cond.privateMethod ({ cls := "DimpleWellsModel", name := "isReadStreet", desc := "(II)Z" } : Jvm.MethodName)) ∈ lw_tbl := lw_at lw_m9 183 rfl
theorem q2200 : (Jvm.Cond.instanceMethod ({ cls := "DimpleWellsModel", name := "isReadStreet", desc := "(II)Z" } : Jvm.MethodName)) ∈ lw_all := lw_g (lw_at lw_m9 184 rfl) rfl
theorem q2201 : (Jvm.Cond.code ({ cls := "DimpleWellsModel", name := "isReadStreet", desc := "(II)Z" } : Jvm.MethodName) prog_32_method_28_code (4 : Nat) (Option.some Jvm.ClassFile.FieldType.boolean)) ∈ lw_all := lw_g (lw_at lw_m9 185 rfl) rfl
theorem q2202 : (Jvm.Cond.methodLink "DimpleWellsModel" (174 : Nat) ({ cls := "DimpleWellsModel", name := "sign", desc := "(I)V" } : Jvm.MethodName)) ∈ lw_all := lw_g (lw_at lw_m9 186 rfl) rfl
theorem q2203 : (Jvm.Cond.privateMethod ({ cls := "DimpleWellsModel", name := "sign", desc := "(I)V" } : Jvm.MethodName)) ∈ lw_tbl := lw_at lw_m9 187 rfl
theorem q2204 : (Jvm.Cond.instanceMethod ({ cls := "DimpleWellsModel", name := "sign", desc := "(I)V" } : Jvm.MethodName)) ∈ lw_all := lw_g (lw_at lw_m9 188 rfl) rfl
theorem q2205 : (Jvm.Cond.code ({ cls := "DimpleWellsModel", name := "sign", desc := "(I)V" } : Jvm.MethodName) prog_32_method_21_code (2 : Nat) (Option.none : Option Jvm.ClassFile.FieldType)) ∈ lw_all := lw_g (lw_at lw_m9 189 rfl) rfl
theorem q2206 : (Jvm.Cond.methodLink "DimpleWellsModel" (188 : Nat) ({ cls := "DimpleWellsModel", name := "ends", desc := "()I" } : Jvm.MethodName)) ∈ lw_all := lw_g (lw_at lw_m9 190 rfl) rfl
theorem q2207 : (Jvm.Cond.privateMethod ({ cls := "DimpleWellsModel", name := "ends", desc := "()I" } : Jvm.MethodName)) ∈ lw_tbl := lw_at lw_m9 191 rfl
theorem q2208 : (Jvm.Cond.instanceMethod ({ cls := "DimpleWellsModel", name := "ends", desc := "()I" } : Jvm.MethodName)) ∈ lw_all := lw_g (lw_at lw_m9 192 rfl) rfl
theorem q2209 : (Jvm.Cond.code ({ cls := "DimpleWellsModel", name := "ends", desc := "()I" } : Jvm.MethodName) prog_32_method_24_code (1 : Nat) (Option.some Jvm.ClassFile.FieldType.int)) ∈ lw_all := lw_g (lw_at lw_m9 193 rfl) rfl
theorem q2211 : (Jvm.Cond.instanceMethod ({ cls := "DimpleWellsModel", name := "law", desc := "(I)I" } : Jvm.MethodName)) ∈ lw_all := lw_g (lw_at lw_m9 195 rfl) rfl
theorem q2212 : (Jvm.Cond.selects "DimpleWellsModel" ({ cls := "DimpleWellsModel", name := "law", desc := "(I)I" } : Jvm.MethodName) ({ cls := "DimpleWellsModel", name := "law", desc := "(I)I" } : Jvm.MethodName)) ∈ lw_all := lw_g (lw_at lw_m9 196 rfl) rfl
theorem q2213 : (Jvm.Cond.code ({ cls := "DimpleWellsModel", name := "law", desc := "(I)I" } : Jvm.MethodName) prog_32_method_40_code (2 : Nat) (Option.some Jvm.ClassFile.FieldType.int)) ∈ lw_all := lw_g (lw_at lw_m9 197 rfl) rfl
theorem q2214 : (Jvm.Cond.methodLink "DimpleWellsModel" (235 : Nat) ({ cls := "DimpleWellsModel", name := "sum", desc := "()V" } : Jvm.MethodName)) ∈ lw_all := lw_g (lw_at lw_m9 198 rfl) rfl
theorem q2215 : (Jvm.Cond.privateMethod ({ cls := "DimpleWellsModel", name := "sum", desc := "()V" } : Jvm.MethodName)) ∈ lw_tbl := lw_at lw_m9 199 rfl
theorem q2216 : (Jvm.Cond.instanceMethod ({ cls := "DimpleWellsModel", name := "sum", desc := "()V" } : Jvm.MethodName)) ∈ lw_all := lw_g (lw_at lw_m9 200 rfl) rfl
theorem q2217 : (Jvm.Cond.code ({ cls := "DimpleWellsModel", name := "sum", desc := "()V" } : Jvm.MethodName) prog_32_method_36_code (2 : Nat) (Option.none : Option Jvm.ClassFile.FieldType)) ∈ lw_all := lw_g (lw_at lw_m9 201 rfl) rfl
theorem q2218 : (Jvm.Cond.methodLink "DimpleWellsModel" (213 : Nat) ({ cls := "DimpleWellsModel", name := "product", desc := "()V" } : Jvm.MethodName)) ∈ lw_all := lw_g (lw_at lw_m9 202 rfl) rfl
theorem q2219 : (Jvm.Cond.privateMethod ({ cls := "DimpleWellsModel", name := "product", desc := "()V" } : Jvm.MethodName)) ∈ lw_tbl := lw_at lw_m9 203 rfl
theorem q2220 : (Jvm.Cond.instanceMethod ({ cls := "DimpleWellsModel", name := "product", desc := "()V" } : Jvm.MethodName)) ∈ lw_all := lw_g (lw_at lw_m9 204 rfl) rfl
theorem q2221 : (Jvm.Cond.code ({ cls := "DimpleWellsModel", name := "product", desc := "()V" } : Jvm.MethodName) prog_32_method_37_code (2 : Nat) (Option.none : Option Jvm.ClassFile.FieldType)) ∈ lw_all := lw_g (lw_at lw_m9 205 rfl) rfl
theorem q2222 : (Jvm.Cond.methodLink "DimpleWellsModel" (222 : Nat) ({ cls := "DimpleWellsModel", name := "one", desc := "()V" } : Jvm.MethodName)) ∈ lw_all := lw_g (lw_at lw_m9 206 rfl) rfl
theorem q2223 : (Jvm.Cond.privateMethod ({ cls := "DimpleWellsModel", name := "one", desc := "()V" } : Jvm.MethodName)) ∈ lw_tbl := lw_at lw_m9 207 rfl
theorem q2224 : (Jvm.Cond.instanceMethod ({ cls := "DimpleWellsModel", name := "one", desc := "()V" } : Jvm.MethodName)) ∈ lw_all := lw_g (lw_at lw_m9 208 rfl) rfl
theorem q2225 : (Jvm.Cond.code ({ cls := "DimpleWellsModel", name := "one", desc := "()V" } : Jvm.MethodName) prog_32_method_39_code (3 : Nat) (Option.none : Option Jvm.ClassFile.FieldType)) ∈ lw_all := lw_g (lw_at lw_m9 209 rfl) rfl
theorem q2226 : (Jvm.Cond.methodLink "DimpleWellsModel" (231 : Nat) ({ cls := "DimpleWellsModel", name := "opensOne", desc := "()Z" } : Jvm.MethodName)) ∈ lw_all := lw_g (lw_at lw_m9 210 rfl) rfl
theorem q2227 : (Jvm.Cond.privateMethod ({ cls := "DimpleWellsModel", name := "opensOne", desc := "()Z" } : Jvm.MethodName)) ∈ lw_tbl := lw_at lw_m9 211 rfl
theorem q2228 : (Jvm.Cond.instanceMethod ({ cls := "DimpleWellsModel", name := "opensOne", desc := "()Z" } : Jvm.MethodName)) ∈ lw_all := lw_g (lw_at lw_m9 212 rfl) rfl
theorem q2229 : (Jvm.Cond.code ({ cls := "DimpleWellsModel", name := "opensOne", desc := "()Z" } : Jvm.MethodName) prog_32_method_35_code (1 : Nat) (Option.some Jvm.ClassFile.FieldType.boolean)) ∈ lw_all := lw_g (lw_at lw_m9 213 rfl) rfl
theorem q2230 : (Jvm.Cond.methodLink "DimpleWellsModel" (219 : Nat) ({ cls := "DimpleWellsModel", name := "notes", desc := "(II)V" } : Jvm.MethodName)) ∈ lw_all := lw_g (lw_at lw_m9 214 rfl) rfl
theorem q2231 : (Jvm.Cond.privateMethod ({ cls := "DimpleWellsModel", name := "notes", desc := "(II)V" } : Jvm.MethodName)) ∈ lw_tbl := lw_at lw_m9 215 rfl
theorem q2232 : (Jvm.Cond.instanceMethod ({ cls := "DimpleWellsModel", name := "notes", desc := "(II)V" } : Jvm.MethodName)) ∈ lw_all := lw_g (lw_at lw_m9 216 rfl) rfl
theorem q2233 : (Jvm.Cond.code ({ cls := "DimpleWellsModel", name := "notes", desc := "(II)V" } : Jvm.MethodName) prog_32_method_34_code (3 : Nat) (Option.none : Option Jvm.ClassFile.FieldType)) ∈ lw_all := lw_g (lw_at lw_m9 217 rfl) rfl
theorem q2234 : (Jvm.Cond.methodLink "DimpleWellsModel" (238 : Nat) ({ cls := "DimpleWellsModel", name := "knownHere", desc := "()I" } : Jvm.MethodName)) ∈ lw_all := lw_g (lw_at lw_m9 218 rfl) rfl
theorem q2235 : (Jvm.Cond.privateMethod ({ cls := "DimpleWellsModel", name := "knownHere", desc := "()I" } : Jvm.MethodName)) ∈ lw_tbl := lw_at lw_m9 219 rfl
theorem q2236 : (Jvm.Cond.instanceMethod ({ cls := "DimpleWellsModel", name := "knownHere", desc := "()I" } : Jvm.MethodName)) ∈ lw_all := lw_g (lw_at lw_m9 220 rfl) rfl
theorem q2237 : (Jvm.Cond.code ({ cls := "DimpleWellsModel", name := "knownHere", desc := "()I" } : Jvm.MethodName) prog_32_method_38_code (1 : Nat) (Option.some Jvm.ClassFile.FieldType.int)) ∈ lw_all := lw_g (lw_at lw_m9 221 rfl) rfl
theorem q2238 : (Jvm.Cond.methodLink "DimpleWellsModel" (225 : Nat) ({ cls := "DimpleWellsModel", name := "takes", desc := "(IIIIII)Z" } : Jvm.MethodName)) ∈ lw_all := lw_g (lw_at lw_m9 222 rfl) rfl
theorem q2239 : (Jvm.Cond.privateMethod ({ cls := "DimpleWellsModel", name := "takes", desc := "(IIIIII)Z" } : Jvm.MethodName)) ∈ lw_tbl := lw_at lw_m9 223 rfl
theorem q2240 : (Jvm.Cond.instanceMethod ({ cls := "DimpleWellsModel", name := "takes", desc := "(IIIIII)Z" } : Jvm.MethodName)) ∈ lw_all := lw_g (lw_at lw_m9 224 rfl) rfl
theorem q2241 : (Jvm.Cond.code ({ cls := "DimpleWellsModel", name := "takes", desc := "(IIIIII)Z" } : Jvm.MethodName) prog_32_method_20_code (8 : Nat) (Option.some Jvm.ClassFile.FieldType.boolean)) ∈ lw_all := lw_g (lw_at lw_m9 225 rfl) rfl
theorem q2242 : (Jvm.Cond.methodLink "DimpleWellsModel" (228 : Nat) ({ cls := "DimpleWellsModel", name := "isSeven", desc := "(II)Z" } : Jvm.MethodName)) ∈ lw_all := lw_g (lw_at lw_m9 226 rfl) rfl
theorem q2243 : (Jvm.Cond.privateMethod ({ cls := "DimpleWellsModel", name := "isSeven", desc := "(II)Z" } : Jvm.MethodName)) ∈ lw_tbl := lw_at lw_m9 227 rfl
theorem q2244 : (Jvm.Cond.instanceMethod ({ cls := "DimpleWellsModel", name := "isSeven", desc := "(II)Z" } : Jvm.MethodName)) ∈ lw_all := lw_g (lw_at lw_m9 228 rfl) rfl
theorem q2245 : (Jvm.Cond.code ({ cls := "DimpleWellsModel", name := "isSeven", desc := "(II)Z" } : Jvm.MethodName) prog_32_method_25_code (6 : Nat) (Option.some Jvm.ClassFile.FieldType.boolean)) ∈ lw_all := lw_g (lw_at lw_m9 229 rfl) rfl
theorem q2246 : (Jvm.Cond.methodLink "DimpleWellsModel" (216 : Nat) ({ cls := "DimpleWellsModel", name := "takesSign", desc := "(I)Z" } : Jvm.MethodName)) ∈ lw_all := lw_g (lw_at lw_m9 230 rfl) rfl
theorem q2247 : (Jvm.Cond.privateMethod ({ cls := "DimpleWellsModel", name := "takesSign", desc := "(I)Z" } : Jvm.MethodName)) ∈ lw_tbl := lw_at lw_m9 231 rfl
theorem q2248 : (Jvm.Cond.instanceMethod ({ cls := "DimpleWellsModel", name := "takesSign", desc := "(I)Z" } : Jvm.MethodName)) ∈ lw_all := lw_g (lw_at lw_m9 232 rfl) rfl
theorem q2249 : (Jvm.Cond.code ({ cls := "DimpleWellsModel", name := "takesSign", desc := "(I)Z" } : Jvm.MethodName) prog_32_method_22_code (3 : Nat) (Option.some Jvm.ClassFile.FieldType.boolean)) ∈ lw_all := lw_g (lw_at lw_m9 233 rfl) rfl
theorem q2251 : (Jvm.Cond.instanceMethod ({ cls := "DimpleWellsModel", name := "book", desc := "(I)I" } : Jvm.MethodName)) ∈ lw_all := lw_g (lw_at lw_m9 235 rfl) rfl
theorem q2252 : (Jvm.Cond.selects "DimpleWellsModel" ({ cls := "DimpleWellsModel", name := "book", desc := "(I)I" } : Jvm.MethodName) ({ cls := "DimpleWellsModel", name := "book", desc := "(I)I" } : Jvm.MethodName)) ∈ lw_all := lw_g (lw_at lw_m9 236 rfl) rfl
theorem q2253 : (Jvm.Cond.code ({ cls := "DimpleWellsModel", name := "book", desc := "(I)I" } : Jvm.MethodName) prog_32_method_45_code (7 : Nat) (Option.some Jvm.ClassFile.FieldType.int)) ∈ lw_all := lw_g (lw_at lw_m9 237 rfl) rfl
theorem q2254 : (Jvm.Cond.methodLink "DimpleWellsModel" (260 : Nat) ({ cls := "DimpleWellsModel", name := "has", desc := "(II)Z" } : Jvm.MethodName)) ∈ lw_all := lw_g (lw_at lw_m9 238 rfl) rfl
theorem q2255 : (Jvm.Cond.static ({ cls := "DimpleWellsModel", name := "has", desc := "(II)Z" } : Jvm.MethodName)) ∈ lw_all := lw_g (lw_at lw_m9 239 rfl) rfl
theorem q2256 : (Jvm.Cond.code ({ cls := "DimpleWellsModel", name := "has", desc := "(II)Z" } : Jvm.MethodName) prog_32_method_8_code (2 : Nat) (Option.some Jvm.ClassFile.FieldType.boolean)) ∈ lw_all := lw_g (lw_at lw_m10 0 rfl) rfl
theorem q2258 : (Jvm.Cond.instanceMethod ({ cls := "DimpleWellsModel", name := "fault", desc := "()I" } : Jvm.MethodName)) ∈ lw_all := lw_g (lw_at lw_m10 2 rfl) rfl
theorem q2259 : (Jvm.Cond.selects "DimpleWellsModel" ({ cls := "DimpleWellsModel", name := "fault", desc := "()I" } : Jvm.MethodName) ({ cls := "DimpleWellsModel", name := "fault", desc := "()I" } : Jvm.MethodName)) ∈ lw_all := lw_g (lw_at lw_m10 3 rfl) rfl
theorem q2260 : (Jvm.Cond.code ({ cls := "DimpleWellsModel", name := "fault", desc := "()I" } : Jvm.MethodName) prog_32_method_46_code (1 : Nat) (Option.some Jvm.ClassFile.FieldType.int)) ∈ lw_all := lw_g (lw_at lw_m10 4 rfl) rfl
theorem q2262 : (Jvm.Cond.instanceMethod ({ cls := "DimpleWellsModel", name := "work", desc := "(I)I" } : Jvm.MethodName)) ∈ lw_all := lw_g (lw_at lw_m10 6 rfl) rfl
theorem q2263 : (Jvm.Cond.selects "DimpleWellsModel" ({ cls := "DimpleWellsModel", name := "work", desc := "(I)I" } : Jvm.MethodName) ({ cls := "DimpleWellsModel", name := "work", desc := "(I)I" } : Jvm.MethodName)) ∈ lw_all := lw_g (lw_at lw_m10 7 rfl) rfl
theorem q2264 : (Jvm.Cond.code ({ cls := "DimpleWellsModel", name := "work", desc := "(I)I" } : Jvm.MethodName) prog_32_method_60_code (2 : Nat) (Option.some Jvm.ClassFile.FieldType.int)) ∈ lw_all := lw_g (lw_at lw_m10 8 rfl) rfl
theorem q2265 : (Jvm.Cond.methodLink "DimpleWellsModel" (257 : Nat) ({ cls := "DimpleWellsModel", name := "readsStep", desc := "()V" } : Jvm.MethodName)) ∈ lw_all := lw_g (lw_at lw_m10 9 rfl) rfl
theorem q2266 : (Jvm.Cond.privateMethod ({ cls := "DimpleWellsModel", name := "readsStep", desc := "()V" } : Jvm.MethodName)) ∈ lw_tbl := lw_at lw_m10 10 rfl
theorem q2267 : (Jvm.Cond.instanceMethod ({ cls := "DimpleWellsModel", name := "readsStep", desc := "()V" } : Jvm.MethodName)) ∈ lw_all := lw_g (lw_at lw_m10 11 rfl) rfl
theorem q2268 : (Jvm.Cond.code ({ cls := "DimpleWellsModel", name := "readsStep", desc := "()V" } : Jvm.MethodName) prog_32_method_44_code (3 : Nat) (Option.none : Option Jvm.ClassFile.FieldType)) ∈ lw_all := lw_g (lw_at lw_m10 12 rfl) rfl
theorem q2269 : (Jvm.Cond.methodLink "DimpleWellsModel" (251 : Nat) ({ cls := "DimpleWellsModel", name := "stepHere", desc := "()I" } : Jvm.MethodName)) ∈ lw_all := lw_g (lw_at lw_m10 13 rfl) rfl
theorem q2270 : (Jvm.Cond.privateMethod ({ cls := "DimpleWellsModel", name := "stepHere", desc := "()I" } : Jvm.MethodName)) ∈ lw_tbl := lw_at lw_m10 14 rfl
theorem q2271 : (Jvm.Cond.instanceMethod ({ cls := "DimpleWellsModel", name := "stepHere", desc := "()I" } : Jvm.MethodName)) ∈ lw_all := lw_g (lw_at lw_m10 15 rfl) rfl
theorem q2272 : (Jvm.Cond.code ({ cls := "DimpleWellsModel", name := "stepHere", desc := "()I" } : Jvm.MethodName) prog_32_method_43_code (1 : Nat) (Option.some Jvm.ClassFile.FieldType.int)) ∈ lw_all := lw_g (lw_at lw_m10 16 rfl) rfl
theorem q2273 : (Jvm.Cond.methodLink "DimpleWellsModel" (315 : Nat) ({ cls := "DimpleWellsModel", name := "copies", desc := "([I[I)V" } : Jvm.MethodName)) ∈ lw_all := lw_g (lw_at lw_m10 17 rfl) rfl
theorem q2274 : (Jvm.Cond.static ({ cls := "DimpleWellsModel", name := "copies", desc := "([I[I)V" } : Jvm.MethodName)) ∈ lw_all := lw_g (lw_at lw_m10 18 rfl) rfl
theorem q2275 : (Jvm.Cond.code ({ cls := "DimpleWellsModel", name := "copies", desc := "([I[I)V" } : Jvm.MethodName) prog_32_method_32_code (3 : Nat) (Option.none : Option Jvm.ClassFile.FieldType)) ∈ lw_all := lw_g (lw_at lw_m10 19 rfl) rfl
theorem q2276 : (Jvm.Cond.methodLink "DimpleWellsModel" (305 : Nat) ({ cls := "DimpleWellsModel", name := "goes", desc := "(II)V" } : Jvm.MethodName)) ∈ lw_all := lw_g (lw_at lw_m10 20 rfl) rfl
theorem q2277 : (Jvm.Cond.privateMethod ({ cls := "DimpleWellsModel", name := "goes", desc := "(II)V" } : Jvm.MethodName)) ∈ lw_tbl := lw_at lw_m10 21 rfl
theorem q2278 : (Jvm.Cond.instanceMethod ({ cls := "DimpleWellsModel", name := "goes", desc := "(II)V" } : Jvm.MethodName)) ∈ lw_all := lw_g (lw_at lw_m10 22 rfl) rfl
theorem q2279 : (Jvm.Cond.code ({ cls := "DimpleWellsModel", name := "goes", desc := "(II)V" } : Jvm.MethodName) prog_32_method_59_code (5 : Nat) (Option.none : Option Jvm.ClassFile.FieldType)) ∈ lw_all := lw_g (lw_at lw_m10 23 rfl) rfl
theorem q2280 : (Jvm.Cond.methodLink "DimpleWellsModel" (308 : Nat) ({ cls := "DimpleWellsModel", name := "does", desc := "([I[I)Z" } : Jvm.MethodName)) ∈ lw_all := lw_g (lw_at lw_m10 24 rfl) rfl
theorem q2281 : (Jvm.Cond.privateMethod ({ cls := "DimpleWellsModel", name := "does", desc := "([I[I)Z" } : Jvm.MethodName)) ∈ lw_tbl := lw_at lw_m10 25 rfl
theorem q2282 : (Jvm.Cond.instanceMethod ({ cls := "DimpleWellsModel", name := "does", desc := "([I[I)Z" } : Jvm.MethodName)) ∈ lw_all := lw_g (lw_at lw_m10 26 rfl) rfl
theorem q2283 : (Jvm.Cond.code ({ cls := "DimpleWellsModel", name := "does", desc := "([I[I)Z" } : Jvm.MethodName) prog_32_method_58_code (4 : Nat) (Option.some Jvm.ClassFile.FieldType.boolean)) ∈ lw_all := lw_g (lw_at lw_m10 27 rfl) rfl
theorem q2284 : (Jvm.Cond.methodLink "DimpleWellsModel" (291 : Nat) ({ cls := "DimpleWellsModel", name := "tells", desc := "([III)Z" } : Jvm.MethodName)) ∈ lw_all := lw_g (lw_at lw_m10 28 rfl) rfl
theorem q2285 : (Jvm.Cond.privateMethod ({ cls := "DimpleWellsModel", name := "tells", desc := "([III)Z" } : Jvm.MethodName)) ∈ lw_tbl := lw_at lw_m10 29 rfl
theorem q2286 : (Jvm.Cond.instanceMethod ({ cls := "DimpleWellsModel", name := "tells", desc := "([III)Z" } : Jvm.MethodName)) ∈ lw_all := lw_g (lw_at lw_m10 30 rfl) rfl
theorem q2287 : (Jvm.Cond.code ({ cls := "DimpleWellsModel", name := "tells", desc := "([III)Z" } : Jvm.MethodName) prog_32_method_55_code (5 : Nat) (Option.some Jvm.ClassFile.FieldType.boolean)) ∈ lw_all := lw_g (lw_at lw_m10 31 rfl) rfl
theorem q2288 : (Jvm.Cond.methodLink "DimpleWellsModel" (287 : Nat) ({ cls := "DimpleWellsModel", name := "laughOf", desc := "([III)I" } : Jvm.MethodName)) ∈ lw_all := lw_g (lw_at lw_m10 32 rfl) rfl
theorem q2289 : (Jvm.Cond.privateMethod ({ cls := "DimpleWellsModel", name := "laughOf", desc := "([III)I" } : Jvm.MethodName)) ∈ lw_tbl := lw_at lw_m10 33 rfl
theorem q2290 : (Jvm.Cond.instanceMethod ({ cls := "DimpleWellsModel", name := "laughOf", desc := "([III)I" } : Jvm.MethodName)) ∈ lw_all := lw_g (lw_at lw_m10 34 rfl) rfl
theorem q2291 : (Jvm.Cond.code ({ cls := "DimpleWellsModel", name := "laughOf", desc := "([III)I" } : Jvm.MethodName) prog_32_method_53_code (4 : Nat) (Option.some Jvm.ClassFile.FieldType.int)) ∈ lw_all := lw_g (lw_at lw_m10 35 rfl) rfl
theorem q2292 : (Jvm.Cond.methodLink "DimpleWellsModel" (283 : Nat) ({ cls := "DimpleWellsModel", name := "laughWith", desc := "([IIIIII)I" } : Jvm.MethodName)) ∈ lw_all := lw_g (lw_at lw_m10 36 rfl) rfl
theorem q2293 : (Jvm.Cond.privateMethod ({ cls := "DimpleWellsModel", name := "laughWith", desc := "([IIIIII)I" } : Jvm.MethodName)) ∈ lw_tbl := lw_at lw_m10 37 rfl
theorem q2294 : (Jvm.Cond.instanceMethod ({ cls := "DimpleWellsModel", name := "laughWith", desc := "([IIIIII)I" } : Jvm.MethodName)) ∈ lw_all := lw_g (lw_at lw_m10 38 rfl) rfl
theorem q2295 : (Jvm.Cond.code ({ cls := "DimpleWellsModel", name := "laughWith", desc := "([IIIIII)I" } : Jvm.MethodName) prog_32_method_52_code (8 : Nat) (Option.some Jvm.ClassFile.FieldType.int)) ∈ lw_all := lw_g (lw_at lw_m10 39 rfl) rfl
theorem q2296 : (Jvm.Cond.methodLink "DimpleWellsModel" (244 : Nat) ({ cls := "DimpleWellsModel", name := "more", desc := "(II)I" } : Jvm.MethodName)) ∈ lw_all := lw_g (lw_at lw_m10 40 rfl) rfl
theorem q2297 : (Jvm.Cond.static ({ cls := "DimpleWellsModel", name := "more", desc := "(II)I" } : Jvm.MethodName)) ∈ lw_all := lw_g (lw_at lw_m10 41 rfl) rfl
theorem q2298 : (Jvm.Cond.code ({ cls := "DimpleWellsModel", name := "more", desc := "(II)I" } : Jvm.MethodName) prog_32_method_7_code (2 : Nat) (Option.some Jvm.ClassFile.FieldType.int)) ∈ lw_all := lw_g (lw_at lw_m10 42 rfl) rfl
theorem q2299 : (Jvm.Cond.methodLink "DimpleWellsModel" (266 : Nat) ({ cls := "DimpleWellsModel", name := "toldIn", desc := "([II)I" } : Jvm.MethodName)) ∈ lw_all := lw_g (lw_at lw_m10 43 rfl) rfl
theorem q2300 : (Jvm.Cond.privateMethod ({ cls := "DimpleWellsModel", name := "toldIn", desc := "([II)I" } : Jvm.MethodName)) ∈ lw_tbl := lw_at lw_m10 44 rfl
theorem q2301 : (Jvm.Cond.instanceMethod ({ cls := "DimpleWellsModel", name := "toldIn", desc := "([II)I" } : Jvm.MethodName)) ∈ lw_all := lw_g (lw_at lw_m10 45 rfl) rfl
theorem q2302 : (Jvm.Cond.code ({ cls := "DimpleWellsModel", name := "toldIn", desc := "([II)I" } : Jvm.MethodName) prog_32_method_51_code (5 : Nat) (Option.some Jvm.ClassFile.FieldType.int)) ∈ lw_all := lw_g (lw_at lw_m10 46 rfl) rfl
theorem q2303 : (Jvm.Cond.methodLink "DimpleWellsModel" (270 : Nat) ({ cls := "DimpleWellsModel", name := "nearTo", desc := "(I)I" } : Jvm.MethodName)) ∈ lw_all := lw_g (lw_at lw_m10 47 rfl) rfl
theorem q2304 : (Jvm.Cond.privateMethod ({ cls := "DimpleWellsModel", name := "nearTo", desc := "(I)I" } : Jvm.MethodName)) ∈ lw_tbl := lw_at lw_m10 48 rfl
theorem q2305 : (Jvm.Cond.instanceMethod ({ cls := "DimpleWellsModel", name := "nearTo", desc := "(I)I" } : Jvm.MethodName)) ∈ lw_all := lw_g (lw_at lw_m10 49 rfl) rfl
theorem q2306 : (Jvm.Cond.code ({ cls := "DimpleWellsModel", name := "nearTo", desc := "(I)I" } : Jvm.MethodName) prog_32_method_49_code (4 : Nat) (Option.some Jvm.ClassFile.FieldType.int)) ∈ lw_all := lw_g (lw_at lw_m10 50 rfl) rfl
theorem q2307 : (Jvm.Cond.methodLink "DimpleWellsModel" (273 : Nat) ({ cls := "DimpleWellsModel", name := "whoHas", desc := "([II)I" } : Jvm.MethodName)) ∈ lw_all := lw_g (lw_at lw_m10 51 rfl) rfl
theorem q2308 : (Jvm.Cond.privateMethod ({ cls := "DimpleWellsModel", name := "whoHas", desc := "([II)I" } : Jvm.MethodName)) ∈ lw_tbl := lw_at lw_m10 52 rfl
theorem q2309 : (Jvm.Cond.instanceMethod ({ cls := "DimpleWellsModel", name := "whoHas", desc := "([II)I" } : Jvm.MethodName)) ∈ lw_all := lw_g (lw_at lw_m10 53 rfl) rfl
theorem q2310 : (Jvm.Cond.code ({ cls := "DimpleWellsModel", name := "whoHas", desc := "([II)I" } : Jvm.MethodName) prog_32_method_50_code (5 : Nat) (Option.some Jvm.ClassFile.FieldType.int)) ∈ lw_all := lw_g (lw_at lw_m10 54 rfl) rfl
theorem q2311 : (Jvm.Cond.methodLink "DimpleWellsModel" (276 : Nat) ({ cls := "DimpleWellsModel", name := "ones", desc := "(I)I" } : Jvm.MethodName)) ∈ lw_all := lw_g (lw_at lw_m10 55 rfl) rfl
theorem q2312 : (Jvm.Cond.static ({ cls := "DimpleWellsModel", name := "ones", desc := "(I)I" } : Jvm.MethodName)) ∈ lw_all := lw_g (lw_at lw_m10 56 rfl) rfl
theorem q2313 : (Jvm.Cond.code ({ cls := "DimpleWellsModel", name := "ones", desc := "(I)I" } : Jvm.MethodName) prog_32_method_48_code (3 : Nat) (Option.some Jvm.ClassFile.FieldType.int)) ∈ lw_all := lw_g (lw_at lw_m10 57 rfl) rfl
theorem q2314 : (Jvm.Cond.methodLink "DimpleWellsModel" (279 : Nat) ({ cls := "DimpleWellsModel", name := "laughBy", desc := "(IIIIIIIIII)I" } : Jvm.MethodName)) ∈ lw_all := lw_g (lw_at lw_m10 58 rfl) rfl
theorem q2315 : (Jvm.Cond.privateMethod ({ cls := "DimpleWellsModel", name := "laughBy", desc := "(IIIIIIIIII)I" } : Jvm.MethodName)) ∈ lw_tbl := lw_at lw_m10 59 rfl
theorem q2316 : (Jvm.Cond.instanceMethod ({ cls := "DimpleWellsModel", name := "laughBy", desc := "(IIIIIIIIII)I" } : Jvm.MethodName)) ∈ lw_all := lw_g (lw_at lw_m10 60 rfl) rfl
theorem q2317 : (Jvm.Cond.code ({ cls := "DimpleWellsModel", name := "laughBy", desc := "(IIIIIIIIII)I" } : Jvm.MethodName) prog_32_method_47_code (11 : Nat) (Option.some Jvm.ClassFile.FieldType.int)) ∈ lw_all := lw_g (lw_at lw_m10 61 rfl) rfl
theorem q2318 : (Jvm.Cond.methodLink "DimpleWellsModel" (263 : Nat) ({ cls := "DimpleWellsModel", name := "byLaw", desc := "()I" } : Jvm.MethodName)) ∈ lw_all := lw_g (lw_at lw_m10 62 rfl) rfl
theorem q2319 : (Jvm.Cond.privateMethod ({ cls := "DimpleWellsModel", name := "byLaw", desc := "()I" } : Jvm.MethodName)) ∈ lw_tbl := lw_at lw_m10 63 rfl
theorem q2320 : (Jvm.Cond.instanceMethod ({ cls := "DimpleWellsModel", name := "byLaw", desc := "()I" } : Jvm.MethodName)) ∈ lw_all := lw_g (lw_at lw_m10 64 rfl) rfl
theorem q2321 : (Jvm.Cond.code ({ cls := "DimpleWellsModel", name := "byLaw", desc := "()I" } : Jvm.MethodName) prog_32_method_42_code (3 : Nat) (Option.some Jvm.ClassFile.FieldType.int)) ∈ lw_all := lw_g (lw_at lw_m10 65 rfl) rfl
theorem q2322 : (Jvm.Cond.methodLink "DimpleWellsModel" (247 : Nat) ({ cls := "DimpleWellsModel", name := "by", desc := "(III)I" } : Jvm.MethodName)) ∈ lw_all := lw_g (lw_at lw_m10 66 rfl) rfl
theorem q2323 : (Jvm.Cond.static ({ cls := "DimpleWellsModel", name := "by", desc := "(III)I" } : Jvm.MethodName)) ∈ lw_all := lw_g (lw_at lw_m10 67 rfl) rfl
theorem q2324 : (Jvm.Cond.code ({ cls := "DimpleWellsModel", name := "by", desc := "(III)I" } : Jvm.MethodName) prog_32_method_41_code (3 : Nat) (Option.some Jvm.ClassFile.FieldType.int)) ∈ lw_all := lw_g (lw_at lw_m10 68 rfl) rfl
theorem q2325 : (Jvm.Cond.methodLink "DimpleWellsModel" (241 : Nat) ({ cls := "DimpleWellsModel", name := "less", desc := "(II)I" } : Jvm.MethodName)) ∈ lw_all := lw_g (lw_at lw_m10 69 rfl) rfl
theorem q2326 : (Jvm.Cond.static ({ cls := "DimpleWellsModel", name := "less", desc := "(II)I" } : Jvm.MethodName)) ∈ lw_all := lw_g (lw_at lw_m10 70 rfl) rfl
theorem q2327 : (Jvm.Cond.code ({ cls := "DimpleWellsModel", name := "less", desc := "(II)I" } : Jvm.MethodName) prog_32_method_6_code (2 : Nat) (Option.some Jvm.ClassFile.FieldType.int)) ∈ lw_all := lw_g (lw_at lw_m10 71 rfl) rfl
theorem q2328 : (Jvm.Cond.methodLink "DimpleWellsModel" (295 : Nat) ({ cls := "DimpleWellsModel", name := "grieves", desc := "([III)Z" } : Jvm.MethodName)) ∈ lw_all := lw_g (lw_at lw_m10 72 rfl) rfl
theorem q2329 : (Jvm.Cond.static ({ cls := "DimpleWellsModel", name := "grieves", desc := "([III)Z" } : Jvm.MethodName)) ∈ lw_all := lw_g (lw_at lw_m10 73 rfl) rfl
theorem q2330 : (Jvm.Cond.code ({ cls := "DimpleWellsModel", name := "grieves", desc := "([III)Z" } : Jvm.MethodName) prog_32_method_56_code (3 : Nat) (Option.some Jvm.ClassFile.FieldType.boolean)) ∈ lw_all := lw_g (lw_at lw_m10 74 rfl) rfl
theorem q2331 : (Jvm.Cond.methodLink "DimpleWellsModel" (298 : Nat) ({ cls := "DimpleWellsModel", name := "dayEnds", desc := "([I)V" } : Jvm.MethodName)) ∈ lw_all := lw_g (lw_at lw_m10 75 rfl) rfl
theorem q2332 : (Jvm.Cond.privateMethod ({ cls := "DimpleWellsModel", name := "dayEnds", desc := "([I)V" } : Jvm.MethodName)) ∈ lw_tbl := lw_at lw_m10 76 rfl
theorem q2333 : (Jvm.Cond.instanceMethod ({ cls := "DimpleWellsModel", name := "dayEnds", desc := "([I)V" } : Jvm.MethodName)) ∈ lw_all := lw_g (lw_at lw_m10 77 rfl) rfl
theorem q2334 : (Jvm.Cond.code ({ cls := "DimpleWellsModel", name := "dayEnds", desc := "([I)V" } : Jvm.MethodName) prog_32_method_57_code (4 : Nat) (Option.none : Option Jvm.ClassFile.FieldType)) ∈ lw_all := lw_g (lw_at lw_m10 78 rfl) rfl
theorem q2336 : (Jvm.Cond.instanceMethod ({ cls := "DimpleWellsModel", name := "undo", desc := "()I" } : Jvm.MethodName)) ∈ lw_all := lw_g (lw_at lw_m10 80 rfl) rfl
theorem q2337 : (Jvm.Cond.selects "DimpleWellsModel" ({ cls := "DimpleWellsModel", name := "undo", desc := "()I" } : Jvm.MethodName) ({ cls := "DimpleWellsModel", name := "undo", desc := "()I" } : Jvm.MethodName)) ∈ lw_all := lw_g (lw_at lw_m10 81 rfl) rfl
theorem q2338 : (Jvm.Cond.code ({ cls := "DimpleWellsModel", name := "undo", desc := "()I" } : Jvm.MethodName) prog_32_method_61_code (1 : Nat) (Option.some Jvm.ClassFile.FieldType.int)) ∈ lw_all := lw_g (lw_at lw_m10 82 rfl) rfl
theorem q2340 : (Jvm.Cond.instanceMethod ({ cls := "DimpleWellsModel", name := "told", desc := "(I)I" } : Jvm.MethodName)) ∈ lw_all := lw_g (lw_at lw_m10 84 rfl) rfl
theorem q2341 : (Jvm.Cond.selects "DimpleWellsModel" ({ cls := "DimpleWellsModel", name := "told", desc := "(I)I" } : Jvm.MethodName) ({ cls := "DimpleWellsModel", name := "told", desc := "(I)I" } : Jvm.MethodName)) ∈ lw_all := lw_g (lw_at lw_m10 85 rfl) rfl
theorem q2342 : (Jvm.Cond.code ({ cls := "DimpleWellsModel", name := "told", desc := "(I)I" } : Jvm.MethodName) prog_32_method_63_code (2 : Nat) (Option.some Jvm.ClassFile.FieldType.int)) ∈ lw_all := lw_g (lw_at lw_m10 86 rfl) rfl
theorem q2343 : (Jvm.Cond.methodLink "DimpleWellsModel" (319 : Nat) ({ cls := "DimpleWellsModel", name := "sumOf", desc := "([II)I" } : Jvm.MethodName)) ∈ lw_all := lw_g (lw_at lw_m10 87 rfl) rfl
theorem q2344 : (Jvm.Cond.privateMethod ({ cls := "DimpleWellsModel", name := "sumOf", desc := "([II)I" } : Jvm.MethodName)) ∈ lw_tbl := lw_at lw_m10 88 rfl
theorem q2345 : (Jvm.Cond.instanceMethod ({ cls := "DimpleWellsModel", name := "sumOf", desc := "([II)I" } : Jvm.MethodName)) ∈ lw_all := lw_g (lw_at lw_m10 89 rfl) rfl
theorem q2346 : (Jvm.Cond.code ({ cls := "DimpleWellsModel", name := "sumOf", desc := "([II)I" } : Jvm.MethodName) prog_32_method_62_code (5 : Nat) (Option.some Jvm.ClassFile.FieldType.int)) ∈ lw_all := lw_g (lw_at lw_m10 90 rfl) rfl
theorem q2348 : (Jvm.Cond.instanceMethod ({ cls := "DimpleWellsModel", name := "person", desc := "(II)I" } : Jvm.MethodName)) ∈ lw_all := lw_g (lw_at lw_m10 92 rfl) rfl
theorem q2349 : (Jvm.Cond.selects "DimpleWellsModel" ({ cls := "DimpleWellsModel", name := "person", desc := "(II)I" } : Jvm.MethodName) ({ cls := "DimpleWellsModel", name := "person", desc := "(II)I" } : Jvm.MethodName)) ∈ lw_all := lw_g (lw_at lw_m10 93 rfl) rfl
theorem q2350 : (Jvm.Cond.code ({ cls := "DimpleWellsModel", name := "person", desc := "(II)I" } : Jvm.MethodName) prog_32_method_67_code (3 : Nat) (Option.some Jvm.ClassFile.FieldType.int)) ∈ lw_all := lw_g (lw_at lw_m10 94 rfl) rfl
theorem q2351 : (Jvm.Cond.methodLink "DimpleWellsModel" (325 : Nat) ({ cls := "DimpleWellsModel", name := "isPerson", desc := "(I)Z" } : Jvm.MethodName)) ∈ lw_all := lw_g (lw_at lw_m10 95 rfl) rfl
theorem q2352 : (Jvm.Cond.privateMethod ({ cls := "DimpleWellsModel", name := "isPerson", desc := "(I)Z" } : Jvm.MethodName)) ∈ lw_tbl := lw_at lw_m10 96 rfl
theorem q2353 : (Jvm.Cond.instanceMethod ({ cls := "DimpleWellsModel", name := "isPerson", desc := "(I)Z" } : Jvm.MethodName)) ∈ lw_all := lw_g (lw_at lw_m10 97 rfl) rfl
theorem q2354 : (Jvm.Cond.code ({ cls := "DimpleWellsModel", name := "isPerson", desc := "(I)Z" } : Jvm.MethodName) prog_32_method_64_code (2 : Nat) (Option.some Jvm.ClassFile.FieldType.boolean)) ∈ lw_all := lw_g (lw_at lw_m10 98 rfl) rfl
theorem q2356 : (Jvm.Cond.instanceMethod ({ cls := "DimpleWellsModel", name := "joke", desc := "(II)I" } : Jvm.MethodName)) ∈ lw_all := lw_g (lw_at lw_m10 100 rfl) rfl
theorem q2357 : (Jvm.Cond.selects "DimpleWellsModel" ({ cls := "DimpleWellsModel", name := "joke", desc := "(II)I" } : Jvm.MethodName) ({ cls := "DimpleWellsModel", name := "joke", desc := "(II)I" } : Jvm.MethodName)) ∈ lw_all := lw_g (lw_at lw_m10 101 rfl) rfl
theorem q2358 : (Jvm.Cond.code ({ cls := "DimpleWellsModel", name := "joke", desc := "(II)I" } : Jvm.MethodName) prog_32_method_68_code (3 : Nat) (Option.some Jvm.ClassFile.FieldType.int)) ∈ lw_all := lw_g (lw_at lw_m10 102 rfl) rfl
theorem q2359 : (Jvm.Cond.methodLink "DimpleWellsModel" (322 : Nat) ({ cls := "DimpleWellsModel", name := "isJoke", desc := "(I)Z" } : Jvm.MethodName)) ∈ lw_all := lw_g (lw_at lw_m10 103 rfl) rfl
theorem q2360 : (Jvm.Cond.privateMethod ({ cls := "DimpleWellsModel", name := "isJoke", desc := "(I)Z" } : Jvm.MethodName)) ∈ lw_tbl := lw_at lw_m10 104 rfl
theorem q2361 : (Jvm.Cond.instanceMethod ({ cls := "DimpleWellsModel", name := "isJoke", desc := "(I)Z" } : Jvm.MethodName)) ∈ lw_all := lw_g (lw_at lw_m10 105 rfl) rfl
theorem q2362 : (Jvm.Cond.code ({ cls := "DimpleWellsModel", name := "isJoke", desc := "(I)Z" } : Jvm.MethodName) prog_32_method_65_code (2 : Nat) (Option.some Jvm.ClassFile.FieldType.boolean)) ∈ lw_all := lw_g (lw_at lw_m10 106 rfl) rfl
theorem q2364 : (Jvm.Cond.instanceMethod ({ cls := "DimpleWellsModel", name := "street", desc := "(II)I" } : Jvm.MethodName)) ∈ lw_all := lw_g (lw_at lw_m10 108 rfl) rfl
theorem q2365 : (Jvm.Cond.selects "DimpleWellsModel" ({ cls := "DimpleWellsModel", name := "street", desc := "(II)I" } : Jvm.MethodName) ({ cls := "DimpleWellsModel", name := "street", desc := "(II)I" } : Jvm.MethodName)) ∈ lw_all := lw_g (lw_at lw_m10 109 rfl) rfl
theorem q2366 : (Jvm.Cond.code ({ cls := "DimpleWellsModel", name := "street", desc := "(II)I" } : Jvm.MethodName) prog_32_method_69_code (3 : Nat) (Option.some Jvm.ClassFile.FieldType.int)) ∈ lw_all := lw_g (lw_at lw_m10 110 rfl) rfl
theorem q2368 : (Jvm.Cond.instanceMethod ({ cls := "DimpleWellsModel", name := "worn", desc := "(II)I" } : Jvm.MethodName)) ∈ lw_all := lw_g (lw_at lw_m10 112 rfl) rfl
theorem q2369 : (Jvm.Cond.selects "DimpleWellsModel" ({ cls := "DimpleWellsModel", name := "worn", desc := "(II)I" } : Jvm.MethodName) ({ cls := "DimpleWellsModel", name := "worn", desc := "(II)I" } : Jvm.MethodName)) ∈ lw_all := lw_g (lw_at lw_m10 113 rfl) rfl
theorem q2370 : (Jvm.Cond.code ({ cls := "DimpleWellsModel", name := "worn", desc := "(II)I" } : Jvm.MethodName) prog_32_method_70_code (3 : Nat) (Option.some Jvm.ClassFile.FieldType.int)) ∈ lw_all := lw_g (lw_at lw_m10 114 rfl) rfl
theorem q2371 : (Jvm.Cond.methodLink "DimpleWellsModel" (328 : Nat) ({ cls := "DimpleWellsModel", name := "isNone", desc := "(II)Z" } : Jvm.MethodName)) ∈ lw_all := lw_g (lw_at lw_m10 115 rfl) rfl
theorem q2372 : (Jvm.Cond.privateMethod ({ cls := "DimpleWellsModel", name := "isNone", desc := "(II)Z" } : Jvm.MethodName)) ∈ lw_tbl := lw_at lw_m10 116 rfl
theorem q2373 : (Jvm.Cond.instanceMethod ({ cls := "DimpleWellsModel", name := "isNone", desc := "(II)Z" } : Jvm.MethodName)) ∈ lw_all := lw_g (lw_at lw_m10 117 rfl) rfl
theorem q2374 : (Jvm.Cond.code ({ cls := "DimpleWellsModel", name := "isNone", desc := "(II)Z" } : Jvm.MethodName) prog_32_method_66_code (3 : Nat) (Option.some Jvm.ClassFile.FieldType.boolean)) ∈ lw_all := lw_g (lw_at lw_m10 118 rfl) rfl
theorem q2376 : (Jvm.Cond.instanceMethod ({ cls := "DimpleWellsModel", name := "laugh", desc := "(II)I" } : Jvm.MethodName)) ∈ lw_all := lw_g (lw_at lw_m10 120 rfl) rfl
theorem q2377 : (Jvm.Cond.selects "DimpleWellsModel" ({ cls := "DimpleWellsModel", name := "laugh", desc := "(II)I" } : Jvm.MethodName) ({ cls := "DimpleWellsModel", name := "laugh", desc := "(II)I" } : Jvm.MethodName)) ∈ lw_all := lw_g (lw_at lw_m10 121 rfl) rfl
theorem q2378 : (Jvm.Cond.code ({ cls := "DimpleWellsModel", name := "laugh", desc := "(II)I" } : Jvm.MethodName) prog_32_method_71_code (3 : Nat) (Option.some Jvm.ClassFile.FieldType.int)) ∈ lw_all := lw_g (lw_at lw_m10 122 rfl) rfl
theorem q2380 : (Jvm.Cond.instanceMethod ({ cls := "DimpleWellsModel", name := "water", desc := "(II)I" } : Jvm.MethodName)) ∈ lw_all := lw_g (lw_at lw_m10 124 rfl) rfl
theorem q2381 : (Jvm.Cond.selects "DimpleWellsModel" ({ cls := "DimpleWellsModel", name := "water", desc := "(II)I" } : Jvm.MethodName) ({ cls := "DimpleWellsModel", name := "water", desc := "(II)I" } : Jvm.MethodName)) ∈ lw_all := lw_g (lw_at lw_m10 125 rfl) rfl
theorem q2382 : (Jvm.Cond.code ({ cls := "DimpleWellsModel", name := "water", desc := "(II)I" } : Jvm.MethodName) prog_32_method_72_code (3 : Nat) (Option.some Jvm.ClassFile.FieldType.int)) ∈ lw_all := lw_g (lw_at lw_m10 126 rfl) rfl
theorem q2383 : (Jvm.Cond.methodLink "DimpleWellsModel" (331 : Nat) ({ cls := "DimpleWellsModel", name := "waterOf", desc := "([III)I" } : Jvm.MethodName)) ∈ lw_all := lw_g (lw_at lw_m10 127 rfl) rfl
theorem q2384 : (Jvm.Cond.privateMethod ({ cls := "DimpleWellsModel", name := "waterOf", desc := "([III)I" } : Jvm.MethodName)) ∈ lw_tbl := lw_at lw_m10 128 rfl
theorem q2385 : (Jvm.Cond.instanceMethod ({ cls := "DimpleWellsModel", name := "waterOf", desc := "([III)I" } : Jvm.MethodName)) ∈ lw_all := lw_g (lw_at lw_m10 129 rfl) rfl
theorem q2386 : (Jvm.Cond.code ({ cls := "DimpleWellsModel", name := "waterOf", desc := "([III)I" } : Jvm.MethodName) prog_32_method_54_code (4 : Nat) (Option.some Jvm.ClassFile.FieldType.int)) ∈ lw_all := lw_g (lw_at lw_m10 130 rfl) rfl
theorem q2388 : (Jvm.Cond.instanceMethod ({ cls := "DimpleWellsModel", name := "would", desc := "(IIIIIIIIII)I" } : Jvm.MethodName)) ∈ lw_all := lw_g (lw_at lw_m10 132 rfl) rfl
theorem q2389 : (Jvm.Cond.selects "DimpleWellsModel" ({ cls := "DimpleWellsModel", name := "would", desc := "(IIIIIIIIII)I" } : Jvm.MethodName) ({ cls := "DimpleWellsModel", name := "would", desc := "(IIIIIIIIII)I" } : Jvm.MethodName)) ∈ lw_all := lw_g (lw_at lw_m10 133 rfl) rfl
theorem q2390 : (Jvm.Cond.code ({ cls := "DimpleWellsModel", name := "would", desc := "(IIIIIIIIII)I" } : Jvm.MethodName) prog_32_method_73_code (11 : Nat) (Option.some Jvm.ClassFile.FieldType.int)) ∈ lw_all := lw_g (lw_at lw_m10 134 rfl) rfl
theorem q2392 : (Jvm.Cond.instanceMethod ({ cls := "DimpleWellsModel", name := "ahead", desc := "(II)I" } : Jvm.MethodName)) ∈ lw_all := lw_g (lw_at lw_m10 136 rfl) rfl
theorem q2393 : (Jvm.Cond.selects "DimpleWellsModel" ({ cls := "DimpleWellsModel", name := "ahead", desc := "(II)I" } : Jvm.MethodName) ({ cls := "DimpleWellsModel", name := "ahead", desc := "(II)I" } : Jvm.MethodName)) ∈ lw_all := lw_g (lw_at lw_m10 137 rfl) rfl
theorem q2394 : (Jvm.Cond.code ({ cls := "DimpleWellsModel", name := "ahead", desc := "(II)I" } : Jvm.MethodName) prog_32_method_74_code (4 : Nat) (Option.some Jvm.ClassFile.FieldType.int)) ∈ lw_all := lw_g (lw_at lw_m10 138 rfl) rfl
theorem q2396 : (Jvm.Cond.instanceMethod ({ cls := "DimpleWellsModel", name := "dry", desc := "()I" } : Jvm.MethodName)) ∈ lw_all := lw_g (lw_at lw_m10 140 rfl) rfl
theorem q2397 : (Jvm.Cond.selects "DimpleWellsModel" ({ cls := "DimpleWellsModel", name := "dry", desc := "()I" } : Jvm.MethodName) ({ cls := "DimpleWellsModel", name := "dry", desc := "()I" } : Jvm.MethodName)) ∈ lw_all := lw_g (lw_at lw_m10 141 rfl) rfl
theorem q2398 : (Jvm.Cond.code ({ cls := "DimpleWellsModel", name := "dry", desc := "()I" } : Jvm.MethodName) prog_32_method_75_code (2 : Nat) (Option.some Jvm.ClassFile.FieldType.int)) ∈ lw_all := lw_g (lw_at lw_m10 142 rfl) rfl
theorem q2400 : (Jvm.Cond.instanceMethod ({ cls := "DimpleWellsModel", name := "best", desc := "()I" } : Jvm.MethodName)) ∈ lw_all := lw_g (lw_at lw_m10 144 rfl) rfl
theorem q2401 : (Jvm.Cond.selects "DimpleWellsModel" ({ cls := "DimpleWellsModel", name := "best", desc := "()I" } : Jvm.MethodName) ({ cls := "DimpleWellsModel", name := "best", desc := "()I" } : Jvm.MethodName)) ∈ lw_all := lw_g (lw_at lw_m10 145 rfl) rfl
theorem q2402 : (Jvm.Cond.code ({ cls := "DimpleWellsModel", name := "best", desc := "()I" } : Jvm.MethodName) prog_32_method_78_code (1 : Nat) (Option.some Jvm.ClassFile.FieldType.int)) ∈ lw_all := lw_g (lw_at lw_m10 146 rfl) rfl
theorem q2403 : (Jvm.Cond.methodLink "DimpleWellsModel" (341 : Nat) ({ cls := "DimpleWellsModel", name := "gives", desc := "()V" } : Jvm.MethodName)) ∈ lw_all := lw_g (lw_at lw_m10 147 rfl) rfl
theorem q2404 : (Jvm.Cond.privateMethod ({ cls := "DimpleWellsModel", name := "gives", desc := "()V" } : Jvm.MethodName)) ∈ lw_tbl := lw_at lw_m10 148 rfl
theorem q2405 : (Jvm.Cond.instanceMethod ({ cls := "DimpleWellsModel", name := "gives", desc := "()V" } : Jvm.MethodName)) ∈ lw_all := lw_g (lw_at lw_m10 149 rfl) rfl
theorem q2406 : (Jvm.Cond.code ({ cls := "DimpleWellsModel", name := "gives", desc := "()V" } : Jvm.MethodName) prog_32_method_77_code (1 : Nat) (Option.none : Option Jvm.ClassFile.FieldType)) ∈ lw_all := lw_g (lw_at lw_m10 150 rfl) rfl
theorem q2407 : (Jvm.Cond.methodLink "DimpleWellsModel" (337 : Nat) ({ cls := "DimpleWellsModel", name := "givesFrom", desc := "(III)V" } : Jvm.MethodName)) ∈ lw_all := lw_g (lw_at lw_m10 151 rfl) rfl
theorem q2408 : (Jvm.Cond.privateMethod ({ cls := "DimpleWellsModel", name := "givesFrom", desc := "(III)V" } : Jvm.MethodName)) ∈ lw_tbl := lw_at lw_m10 152 rfl
theorem q2409 : (Jvm.Cond.instanceMethod ({ cls := "DimpleWellsModel", name := "givesFrom", desc := "(III)V" } : Jvm.MethodName)) ∈ lw_all := lw_g (lw_at lw_m10 153 rfl) rfl
theorem q2410 : (Jvm.Cond.code ({ cls := "DimpleWellsModel", name := "givesFrom", desc := "(III)V" } : Jvm.MethodName) prog_32_method_76_code (5 : Nat) (Option.none : Option Jvm.ClassFile.FieldType)) ∈ lw_all := lw_g (lw_at lw_m10 154 rfl) rfl
theorem q2412 : (Jvm.Cond.instanceMethod ({ cls := "DimpleWellsModel", name := "given", desc := "(I)I" } : Jvm.MethodName)) ∈ lw_all := lw_g (lw_at lw_m10 156 rfl) rfl
theorem q2413 : (Jvm.Cond.selects "DimpleWellsModel" ({ cls := "DimpleWellsModel", name := "given", desc := "(I)I" } : Jvm.MethodName) ({ cls := "DimpleWellsModel", name := "given", desc := "(I)I" } : Jvm.MethodName)) ∈ lw_all := lw_g (lw_at lw_m10 157 rfl) rfl
theorem q2414 : (Jvm.Cond.code ({ cls := "DimpleWellsModel", name := "given", desc := "(I)I" } : Jvm.MethodName) prog_32_method_79_code (2 : Nat) (Option.some Jvm.ClassFile.FieldType.int)) ∈ lw_all := lw_g (lw_at lw_m10 158 rfl) rfl
theorem q2416 : (Jvm.Cond.instanceMethod ({ cls := "DimpleWellsModel", name := "enough", desc := "(I)I" } : Jvm.MethodName)) ∈ lw_all := lw_g (lw_at lw_m10 160 rfl) rfl
theorem q2417 : (Jvm.Cond.selects "DimpleWellsModel" ({ cls := "DimpleWellsModel", name := "enough", desc := "(I)I" } : Jvm.MethodName) ({ cls := "DimpleWellsModel", name := "enough", desc := "(I)I" } : Jvm.MethodName)) ∈ lw_all := lw_g (lw_at lw_m10 161 rfl) rfl
theorem q2418 : (Jvm.Cond.code ({ cls := "DimpleWellsModel", name := "enough", desc := "(I)I" } : Jvm.MethodName) prog_32_method_81_code (7 : Nat) (Option.some Jvm.ClassFile.FieldType.int)) ∈ lw_all := lw_g (lw_at lw_m10 162 rfl) rfl
theorem q2419 : (Jvm.Cond.methodLink "DimpleWellsModel" (344 : Nat) ({ cls := "DimpleWellsModel", name := "mostOfOne", desc := "(I)I" } : Jvm.MethodName)) ∈ lw_all := lw_g (lw_at lw_m10 163 rfl) rfl
theorem q2420 : (Jvm.Cond.privateMethod ({ cls := "DimpleWellsModel", name := "mostOfOne", desc := "(I)I" } : Jvm.MethodName)) ∈ lw_tbl := lw_at lw_m10 164 rfl
theorem q2421 : (Jvm.Cond.instanceMethod ({ cls := "DimpleWellsModel", name := "mostOfOne", desc := "(I)I" } : Jvm.MethodName)) ∈ lw_all := lw_g (lw_at lw_m10 165 rfl) rfl
theorem q2422 : (Jvm.Cond.code ({ cls := "DimpleWellsModel", name := "mostOfOne", desc := "(I)I" } : Jvm.MethodName) prog_32_method_80_code (4 : Nat) (Option.some Jvm.ClassFile.FieldType.int)) ∈ lw_all := lw_g (lw_at lw_m10 166 rfl) rfl
theorem q2424 : (Jvm.Cond.instanceMethod ({ cls := "DimpleWellsModel", name := "lasts", desc := "(II)I" } : Jvm.MethodName)) ∈ lw_all := lw_g (lw_at lw_m10 168 rfl) rfl
theorem q2425 : (Jvm.Cond.selects "DimpleWellsModel" ({ cls := "DimpleWellsModel", name := "lasts", desc := "(II)I" } : Jvm.MethodName) ({ cls := "DimpleWellsModel", name := "lasts", desc := "(II)I" } : Jvm.MethodName)) ∈ lw_all := lw_g (lw_at lw_m10 169 rfl) rfl
theorem q2426 : (Jvm.Cond.code ({ cls := "DimpleWellsModel", name := "lasts", desc := "(II)I" } : Jvm.MethodName) prog_32_method_83_code (3 : Nat) (Option.some Jvm.ClassFile.FieldType.int)) ∈ lw_all := lw_g (lw_at lw_m10 170 rfl) rfl
theorem q2427 : (Jvm.Cond.methodLink "DimpleWellsModel" (347 : Nat) ({ cls := "DimpleWellsModel", name := "untilNone", desc := "(IIZ)I" } : Jvm.MethodName)) ∈ lw_all := lw_g (lw_at lw_m10 171 rfl) rfl
theorem q2428 : (Jvm.Cond.privateMethod ({ cls := "DimpleWellsModel", name := "untilNone", desc := "(IIZ)I" } : Jvm.MethodName)) ∈ lw_tbl := lw_at lw_m10 172 rfl
theorem q2429 : (Jvm.Cond.instanceMethod ({ cls := "DimpleWellsModel", name := "untilNone", desc := "(IIZ)I" } : Jvm.MethodName)) ∈ lw_all := lw_g (lw_at lw_m10 173 rfl) rfl
theorem q2430 : (Jvm.Cond.code ({ cls := "DimpleWellsModel", name := "untilNone", desc := "(IIZ)I" } : Jvm.MethodName) prog_32_method_82_code (7 : Nat) (Option.some Jvm.ClassFile.FieldType.int)) ∈ lw_all := lw_g (lw_at lw_m10 174 rfl) rfl
theorem q2432 : (Jvm.Cond.instanceMethod ({ cls := "DimpleWellsModel", name := "well", desc := "(II)I" } : Jvm.MethodName)) ∈ lw_all := lw_g (lw_at lw_m10 176 rfl) rfl
theorem q2433 : (Jvm.Cond.selects "DimpleWellsModel" ({ cls := "DimpleWellsModel", name := "well", desc := "(II)I" } : Jvm.MethodName) ({ cls := "DimpleWellsModel", name := "well", desc := "(II)I" } : Jvm.MethodName)) ∈ lw_all := lw_g (lw_at lw_m10 177 rfl) rfl
theorem q2434 : (Jvm.Cond.code ({ cls := "DimpleWellsModel", name := "well", desc := "(II)I" } : Jvm.MethodName) prog_32_method_84_code (3 : Nat) (Option.some Jvm.ClassFile.FieldType.int)) ∈ lw_all := lw_g (lw_at lw_m10 178 rfl) rfl
theorem q2436 : (Jvm.Cond.instanceMethod ({ cls := "DimpleWellsModel", name := "fits", desc := "(II)I" } : Jvm.MethodName)) ∈ lw_all := lw_g (lw_at lw_m10 180 rfl) rfl
theorem q2437 : (Jvm.Cond.selects "DimpleWellsModel" ({ cls := "DimpleWellsModel", name := "fits", desc := "(II)I" } : Jvm.MethodName) ({ cls := "DimpleWellsModel", name := "fits", desc := "(II)I" } : Jvm.MethodName)) ∈ lw_all := lw_g (lw_at lw_m10 181 rfl) rfl
theorem q2438 : (Jvm.Cond.code ({ cls := "DimpleWellsModel", name := "fits", desc := "(II)I" } : Jvm.MethodName) prog_32_method_86_code (6 : Nat) (Option.some Jvm.ClassFile.FieldType.int)) ∈ lw_all := lw_g (lw_at lw_m10 182 rfl) rfl
theorem q2439 : (Jvm.Cond.methodLink "DimpleWellsModel" (351 : Nat) ({ cls := "DimpleWellsModel", name := "isTaste", desc := "(III)Z" } : Jvm.MethodName)) ∈ lw_all := lw_g (lw_at lw_m10 183 rfl) rfl
theorem q2440 : (Jvm.Cond.privateMethod ({ cls := "DimpleWellsModel", name := "isTaste", desc := "(III)Z" } : Jvm.MethodName)) ∈ lw_tbl := lw_at lw_m10 184 rfl
theorem q2441 : (Jvm.Cond.instanceMethod ({ cls := "DimpleWellsModel", name := "isTaste", desc := "(III)Z" } : Jvm.MethodName)) ∈ lw_all := lw_g (lw_at lw_m10 185 rfl) rfl
theorem q2442 : (Jvm.Cond.code ({ cls := "DimpleWellsModel", name := "isTaste", desc := "(III)Z" } : Jvm.MethodName) prog_32_method_85_code (5 : Nat) (Option.some Jvm.ClassFile.FieldType.boolean)) ∈ lw_all := lw_g (lw_at lw_m10 186 rfl) rfl
theorem q2444 : (Jvm.Cond.instanceMethod ({ cls := "DimpleWellsModel", name := "look", desc := "(II)I" } : Jvm.MethodName)) ∈ lw_all := lw_g (lw_at lw_m10 188 rfl) rfl
theorem q2445 : (Jvm.Cond.selects "DimpleWellsModel" ({ cls := "DimpleWellsModel", name := "look", desc := "(II)I" } : Jvm.MethodName) ({ cls := "DimpleWellsModel", name := "look", desc := "(II)I" } : Jvm.MethodName)) ∈ lw_all := lw_g (lw_at lw_m10 189 rfl) rfl
theorem q2446 : (Jvm.Cond.code ({ cls := "DimpleWellsModel", name := "look", desc := "(II)I" } : Jvm.MethodName) prog_32_method_89_code (7 : Nat) (Option.some Jvm.ClassFile.FieldType.int)) ∈ lw_all := lw_g (lw_at lw_m10 190 rfl) rfl
theorem q2447 : (Jvm.Cond.methodLink "DimpleWellsModel" (354 : Nat) ({ cls := "DimpleWellsModel", name := "isTold", desc := "(I)Z" } : Jvm.MethodName)) ∈ lw_all := lw_g (lw_at lw_m10 191 rfl) rfl
theorem q2448 : (Jvm.Cond.privateMethod ({ cls := "DimpleWellsModel", name := "isTold", desc := "(I)Z" } : Jvm.MethodName)) ∈ lw_tbl := lw_at lw_m10 192 rfl
theorem q2449 : (Jvm.Cond.instanceMethod ({ cls := "DimpleWellsModel", name := "isTold", desc := "(I)Z" } : Jvm.MethodName)) ∈ lw_all := lw_g (lw_at lw_m10 193 rfl) rfl
theorem q2450 : (Jvm.Cond.code ({ cls := "DimpleWellsModel", name := "isTold", desc := "(I)Z" } : Jvm.MethodName) prog_32_method_87_code (3 : Nat) (Option.some Jvm.ClassFile.FieldType.boolean)) ∈ lw_all := lw_g (lw_at lw_m10 194 rfl) rfl
theorem q2451 : (Jvm.Cond.methodLink "DimpleWellsModel" (357 : Nat) ({ cls := "DimpleWellsModel", name := "worstAt", desc := "(II)I" } : Jvm.MethodName)) ∈ lw_all := lw_g (lw_at lw_m10 195 rfl) rfl
theorem q2452 : (Jvm.Cond.privateMethod ({ cls := "DimpleWellsModel", name := "worstAt", desc := "(II)I" } : Jvm.MethodName)) ∈ lw_tbl := lw_at lw_m10 196 rfl
theorem q2453 : (Jvm.Cond.instanceMethod ({ cls := "DimpleWellsModel", name := "worstAt", desc := "(II)I" } : Jvm.MethodName)) ∈ lw_all := lw_g (lw_at lw_m10 197 rfl) rfl
theorem q2454 : (Jvm.Cond.code ({ cls := "DimpleWellsModel", name := "worstAt", desc := "(II)I" } : Jvm.MethodName) prog_32_method_88_code (6 : Nat) (Option.some Jvm.ClassFile.FieldType.int)) ∈ lw_all := lw_g (lw_at lw_m10 198 rfl) rfl
theorem q2456 : (Jvm.Cond.instanceMethod ({ cls := "DimpleWellsModel", name := "comfort", desc := "()I" } : Jvm.MethodName)) ∈ lw_all := lw_g (lw_at lw_m10 200 rfl) rfl
theorem q2457 : (Jvm.Cond.selects "DimpleWellsModel" ({ cls := "DimpleWellsModel", name := "comfort", desc := "()I" } : Jvm.MethodName) ({ cls := "DimpleWellsModel", name := "comfort", desc := "()I" } : Jvm.MethodName)) ∈ lw_all := lw_g (lw_at lw_m10 201 rfl) rfl
theorem q2458 : (Jvm.Cond.code ({ cls := "DimpleWellsModel", name := "comfort", desc := "()I" } : Jvm.MethodName) prog_32_method_90_code (5 : Nat) (Option.some Jvm.ClassFile.FieldType.int)) ∈ lw_all := lw_g (lw_at lw_m10 202 rfl) rfl
theorem q2460 : (Jvm.Cond.instanceMethod ({ cls := "DimpleWellsModel", name := "way", desc := "(II)I" } : Jvm.MethodName)) ∈ lw_all := lw_g (lw_at lw_m10 204 rfl) rfl
theorem q2461 : (Jvm.Cond.selects "DimpleWellsModel" ({ cls := "DimpleWellsModel", name := "way", desc := "(II)I" } : Jvm.MethodName) ({ cls := "DimpleWellsModel", name := "way", desc := "(II)I" } : Jvm.MethodName)) ∈ lw_all := lw_g (lw_at lw_m10 205 rfl) rfl
theorem q2462 : (Jvm.Cond.code ({ cls := "DimpleWellsModel", name := "way", desc := "(II)I" } : Jvm.MethodName) prog_32_method_92_code (5 : Nat) (Option.some Jvm.ClassFile.FieldType.int)) ∈ lw_all := lw_g (lw_at lw_m10 206 rfl) rfl
theorem q2463 : (Jvm.Cond.methodLink "DimpleWellsModel" (360 : Nat) ({ cls := "DimpleWellsModel", name := "further", desc := "(I)I" } : Jvm.MethodName)) ∈ lw_all := lw_g (lw_at lw_m10 207 rfl) rfl
theorem q2464 : (Jvm.Cond.privateMethod ({ cls := "DimpleWellsModel", name := "further", desc := "(I)I" } : Jvm.MethodName)) ∈ lw_tbl := lw_at lw_m10 208 rfl
theorem q2465 : (Jvm.Cond.instanceMethod ({ cls := "DimpleWellsModel", name := "further", desc := "(I)I" } : Jvm.MethodName)) ∈ lw_all := lw_g (lw_at lw_m10 209 rfl) rfl
theorem q2466 : (Jvm.Cond.code ({ cls := "DimpleWellsModel", name := "further", desc := "(I)I" } : Jvm.MethodName) prog_32_method_91_code (4 : Nat) (Option.some Jvm.ClassFile.FieldType.int)) ∈ lw_all := lw_g (lw_at lw_m10 210 rfl) rfl
theorem q2468 : (Jvm.Cond.instanceMethod ({ cls := "DimpleWellsModel", name := "parts", desc := "()I" } : Jvm.MethodName)) ∈ lw_all := lw_g (lw_at lw_m10 212 rfl) rfl
theorem q2469 : (Jvm.Cond.selects "DimpleWellsModel" ({ cls := "DimpleWellsModel", name := "parts", desc := "()I" } : Jvm.MethodName) ({ cls := "DimpleWellsModel", name := "parts", desc := "()I" } : Jvm.MethodName)) ∈ lw_all := lw_g (lw_at lw_m10 213 rfl) rfl
theorem q2470 : (Jvm.Cond.code ({ cls := "DimpleWellsModel", name := "parts", desc := "()I" } : Jvm.MethodName) prog_32_method_93_code (6 : Nat) (Option.some Jvm.ClassFile.FieldType.int)) ∈ lw_all := lw_g (lw_at lw_m10 214 rfl) rfl
theorem q2472 : (Jvm.Cond.instanceMethod ({ cls := "DimpleWellsModel", name := "comedians", desc := "(IIII)I" } : Jvm.MethodName)) ∈ lw_all := lw_g (lw_at lw_m10 216 rfl) rfl
theorem q2473 : (Jvm.Cond.selects "DimpleWellsModel" ({ cls := "DimpleWellsModel", name := "comedians", desc := "(IIII)I" } : Jvm.MethodName) ({ cls := "DimpleWellsModel", name := "comedians", desc := "(IIII)I" } : Jvm.MethodName)) ∈ lw_all := lw_g (lw_at lw_m10 217 rfl) rfl
theorem q2474 : (Jvm.Cond.code ({ cls := "DimpleWellsModel", name := "comedians", desc := "(IIII)I" } : Jvm.MethodName) prog_32_method_96_code (10 : Nat) (Option.some Jvm.ClassFile.FieldType.int)) ∈ lw_all := lw_g (lw_at lw_m10 218 rfl) rfl
theorem q2475 : (Jvm.Cond.methodLink "DimpleWellsModel" (367 : Nat) ({ cls := "DimpleWellsModel", name := "isBest", desc := "(IIIII)Z" } : Jvm.MethodName)) ∈ lw_all := lw_g (lw_at lw_m10 219 rfl) rfl
theorem q2476 : (Jvm.Cond.static ({ cls := "DimpleWellsModel", name := "isBest", desc := "(IIIII)Z" } : Jvm.MethodName)) ∈ lw_all := lw_g (lw_at lw_m10 220 rfl) rfl
theorem q2477 : (Jvm.Cond.code ({ cls := "DimpleWellsModel", name := "isBest", desc := "(IIIII)Z" } : Jvm.MethodName) prog_32_method_95_code (6 : Nat) (Option.some Jvm.ClassFile.FieldType.boolean)) ∈ lw_all := lw_g (lw_at lw_m10 221 rfl) rfl
theorem q2478 : (Jvm.Cond.methodLink "DimpleWellsModel" (363 : Nat) ({ cls := "DimpleWellsModel", name := "hasBy", desc := "(IIII)I" } : Jvm.MethodName)) ∈ lw_all := lw_g (lw_at lw_m10 222 rfl) rfl
theorem q2479 : (Jvm.Cond.static ({ cls := "DimpleWellsModel", name := "hasBy", desc := "(IIII)I" } : Jvm.MethodName)) ∈ lw_all := lw_g (lw_at lw_m10 223 rfl) rfl
theorem q2480 : (Jvm.Cond.code ({ cls := "DimpleWellsModel", name := "hasBy", desc := "(IIII)I" } : Jvm.MethodName) prog_32_method_94_code (4 : Nat) (Option.some Jvm.ClassFile.FieldType.int)) ∈ lw_all := lw_g (lw_at lw_m10 224 rfl) rfl
theorem q2482 : (Jvm.Cond.instanceMethod ({ cls := "DimpleWellsModel", name := "some", desc := "(IIII)J" } : Jvm.MethodName)) ∈ lw_all := lw_g (lw_at lw_m10 226 rfl) rfl
theorem q2483 : (Jvm.Cond.selects "DimpleWellsModel" ({ cls := "DimpleWellsModel", name := "some", desc := "(IIII)J" } : Jvm.MethodName) ({ cls := "DimpleWellsModel", name := "some", desc := "(IIII)J" } : Jvm.MethodName)) ∈ lw_all := lw_g (lw_at lw_m10 227 rfl) rfl
theorem q2484 : (Jvm.Cond.code ({ cls := "DimpleWellsModel", name := "some", desc := "(IIII)J" } : Jvm.MethodName) prog_32_method_97_code (15 : Nat) (Option.some Jvm.ClassFile.FieldType.long)) ∈ lw_all := lw_g (lw_at lw_m10 228 rfl) rfl
theorem q2486 : (Jvm.Cond.instanceMethod ({ cls := "DimpleWellsModel", name := "share", desc := "(III)I" } : Jvm.MethodName)) ∈ lw_all := lw_g (lw_at lw_m10 230 rfl) rfl
theorem q2487 : (Jvm.Cond.selects "DimpleWellsModel" ({ cls := "DimpleWellsModel", name := "share", desc := "(III)I" } : Jvm.MethodName) ({ cls := "DimpleWellsModel", name := "share", desc := "(III)I" } : Jvm.MethodName)) ∈ lw_all := lw_g (lw_at lw_m10 231 rfl) rfl
theorem q2488 : (Jvm.Cond.code ({ cls := "DimpleWellsModel", name := "share", desc := "(III)I" } : Jvm.MethodName) prog_32_method_99_code (5 : Nat) (Option.some Jvm.ClassFile.FieldType.int)) ∈ lw_all := lw_g (lw_at lw_m10 232 rfl) rfl
theorem q2489 : (Jvm.Cond.methodLink "DimpleWellsModel" (371 : Nat) ({ cls := "DimpleWellsModel", name := "givenBy", desc := "(II)I" } : Jvm.MethodName)) ∈ lw_all := lw_g (lw_at lw_m10 233 rfl) rfl
theorem q2490 : (Jvm.Cond.privateMethod ({ cls := "DimpleWellsModel", name := "givenBy", desc := "(II)I" } : Jvm.MethodName)) ∈ lw_tbl := lw_at lw_m10 234 rfl
theorem q2491 : (Jvm.Cond.instanceMethod ({ cls := "DimpleWellsModel", name := "givenBy", desc := "(II)I" } : Jvm.MethodName)) ∈ lw_all := lw_g (lw_at lw_m10 235 rfl) rfl
theorem q2492 : (Jvm.Cond.code ({ cls := "DimpleWellsModel", name := "givenBy", desc := "(II)I" } : Jvm.MethodName) prog_32_method_98_code (5 : Nat) (Option.some Jvm.ClassFile.FieldType.int)) ∈ lw_all := lw_g (lw_at lw_m10 236 rfl) rfl
theorem q2494 : (Jvm.Cond.instanceMethod ({ cls := "DimpleWellsModel", name := "likes", desc := "(II)I" } : Jvm.MethodName)) ∈ lw_all := lw_g (lw_at lw_m10 238 rfl) rfl
theorem q2495 : (Jvm.Cond.selects "DimpleWellsModel" ({ cls := "DimpleWellsModel", name := "likes", desc := "(II)I" } : Jvm.MethodName) ({ cls := "DimpleWellsModel", name := "likes", desc := "(II)I" } : Jvm.MethodName)) ∈ lw_all := lw_g (lw_at lw_m10 239 rfl) rfl
theorem q2496 : (Jvm.Cond.code ({ cls := "DimpleWellsModel", name := "likes", desc := "(II)I" } : Jvm.MethodName) prog_32_method_100_code (7 : Nat) (Option.some Jvm.ClassFile.FieldType.int)) ∈ lw_all := lw_g (lw_at lw_m11 0 rfl) rfl
theorem q2498 : (Jvm.Cond.instanceMethod ({ cls := "DimpleWellsModel", name := "solemn", desc := "(I)I" } : Jvm.MethodName)) ∈ lw_all := lw_g (lw_at lw_m11 2 rfl) rfl
theorem q2499 : (Jvm.Cond.selects "DimpleWellsModel" ({ cls := "DimpleWellsModel", name := "solemn", desc := "(I)I" } : Jvm.MethodName) ({ cls := "DimpleWellsModel", name := "solemn", desc := "(I)I" } : Jvm.MethodName)) ∈ lw_all := lw_g (lw_at lw_m11 3 rfl) rfl
theorem q2500 : (Jvm.Cond.code ({ cls := "DimpleWellsModel", name := "solemn", desc := "(I)I" } : Jvm.MethodName) prog_32_method_101_code (4 : Nat) (Option.some Jvm.ClassFile.FieldType.int)) ∈ lw_all := lw_g (lw_at lw_m11 4 rfl) rfl
theorem q2502 : (Jvm.Cond.instanceMethod ({ cls := "DimpleWellsModel", name := "driest", desc := "(I)I" } : Jvm.MethodName)) ∈ lw_all := lw_g (lw_at lw_m11 6 rfl) rfl
theorem q2503 : (Jvm.Cond.selects "DimpleWellsModel" ({ cls := "DimpleWellsModel", name := "driest", desc := "(I)I" } : Jvm.MethodName) ({ cls := "DimpleWellsModel", name := "driest", desc := "(I)I" } : Jvm.MethodName)) ∈ lw_all := lw_g (lw_at lw_m11 7 rfl) rfl
theorem q2504 : (Jvm.Cond.code ({ cls := "DimpleWellsModel", name := "driest", desc := "(I)I" } : Jvm.MethodName) prog_32_method_102_code (5 : Nat) (Option.some Jvm.ClassFile.FieldType.int)) ∈ lw_all := lw_g (lw_at lw_m11 8 rfl) rfl
theorem q2506 : (Jvm.Cond.instanceMethod ({ cls := "DimpleWellsModel", name := "alike", desc := "(I)I" } : Jvm.MethodName)) ∈ lw_all := lw_g (lw_at lw_m11 10 rfl) rfl
theorem q2507 : (Jvm.Cond.selects "DimpleWellsModel" ({ cls := "DimpleWellsModel", name := "alike", desc := "(I)I" } : Jvm.MethodName) ({ cls := "DimpleWellsModel", name := "alike", desc := "(I)I" } : Jvm.MethodName)) ∈ lw_all := lw_g (lw_at lw_m11 11 rfl) rfl
theorem q2508 : (Jvm.Cond.code ({ cls := "DimpleWellsModel", name := "alike", desc := "(I)I" } : Jvm.MethodName) prog_32_method_103_code (6 : Nat) (Option.some Jvm.ClassFile.FieldType.int)) ∈ lw_all := lw_g (lw_at lw_m11 12 rfl) rfl
theorem q2510 : (Jvm.Cond.instanceMethod ({ cls := "DimpleWellsModel", name := "year", desc := "(IIII)I" } : Jvm.MethodName)) ∈ lw_all := lw_g (lw_at lw_m11 14 rfl) rfl
theorem q2511 : (Jvm.Cond.selects "DimpleWellsModel" ({ cls := "DimpleWellsModel", name := "year", desc := "(IIII)I" } : Jvm.MethodName) ({ cls := "DimpleWellsModel", name := "year", desc := "(IIII)I" } : Jvm.MethodName)) ∈ lw_all := lw_g (lw_at lw_m11 15 rfl) rfl
theorem q2512 : (Jvm.Cond.code ({ cls := "DimpleWellsModel", name := "year", desc := "(IIII)I" } : Jvm.MethodName) prog_32_method_107_code (5 : Nat) (Option.some Jvm.ClassFile.FieldType.int)) ∈ lw_all := lw_g (lw_at lw_m11 16 rfl) rfl
theorem q2513 : (Jvm.Cond.methodLink "DimpleWellsModel" (381 : Nat) ({ cls := "DimpleWellsModel", name := "isYear", desc := "(II)Z" } : Jvm.MethodName)) ∈ lw_all := lw_g (lw_at lw_m11 17 rfl) rfl
theorem q2514 : (Jvm.Cond.static ({ cls := "DimpleWellsModel", name := "isYear", desc := "(II)Z" } : Jvm.MethodName)) ∈ lw_all := lw_g (lw_at lw_m11 18 rfl) rfl
theorem q2515 : (Jvm.Cond.code ({ cls := "DimpleWellsModel", name := "isYear", desc := "(II)Z" } : Jvm.MethodName) prog_32_method_106_code (2 : Nat) (Option.some Jvm.ClassFile.FieldType.boolean)) ∈ lw_all := lw_g (lw_at lw_m11 19 rfl) rfl
theorem q2516 : (Jvm.Cond.methodLink "DimpleWellsModel" (384 : Nat) ({ cls := "DimpleWellsModel", name := "yearBy", desc := "(III)V" } : Jvm.MethodName)) ∈ lw_all := lw_g (lw_at lw_m11 20 rfl) rfl
theorem q2517 : (Jvm.Cond.privateMethod ({ cls := "DimpleWellsModel", name := "yearBy", desc := "(III)V" } : Jvm.MethodName)) ∈ lw_tbl := lw_at lw_m11 21 rfl
theorem q2518 : (Jvm.Cond.instanceMethod ({ cls := "DimpleWellsModel", name := "yearBy", desc := "(III)V" } : Jvm.MethodName)) ∈ lw_all := lw_g (lw_at lw_m11 22 rfl) rfl
theorem q2519 : (Jvm.Cond.code ({ cls := "DimpleWellsModel", name := "yearBy", desc := "(III)V" } : Jvm.MethodName) prog_32_method_105_code (7 : Nat) (Option.none : Option Jvm.ClassFile.FieldType)) ∈ lw_all := lw_g (lw_at lw_m11 23 rfl) rfl
theorem q2520 : (Jvm.Cond.methodLink "DimpleWellsModel" (378 : Nat) ({ cls := "DimpleWellsModel", name := "draw", desc := "(I)I" } : Jvm.MethodName)) ∈ lw_all := lw_g (lw_at lw_m11 24 rfl) rfl
theorem q2521 : (Jvm.Cond.privateMethod ({ cls := "DimpleWellsModel", name := "draw", desc := "(I)I" } : Jvm.MethodName)) ∈ lw_tbl := lw_at lw_m11 25 rfl
theorem q2522 : (Jvm.Cond.instanceMethod ({ cls := "DimpleWellsModel", name := "draw", desc := "(I)I" } : Jvm.MethodName)) ∈ lw_all := lw_g (lw_at lw_m11 26 rfl) rfl
theorem q2523 : (Jvm.Cond.code ({ cls := "DimpleWellsModel", name := "draw", desc := "(I)I" } : Jvm.MethodName) prog_32_method_104_code (2 : Nat) (Option.some Jvm.ClassFile.FieldType.int)) ∈ lw_all := lw_g (lw_at lw_m11 27 rfl) rfl
theorem q2524 : (Jvm.Cond.constant "DimpleWellsModel" (377 : Nat) (1103515245 : Int32)) ∈ lw_all := lw_g (lw_at lw_m11 28 rfl) rfl
theorem q2526 : (Jvm.Cond.instanceMethod ({ cls := "DimpleWellsModel", name := "span", desc := "(IIIIII)I" } : Jvm.MethodName)) ∈ lw_all := lw_g (lw_at lw_m11 30 rfl) rfl
theorem q2527 : (Jvm.Cond.selects "DimpleWellsModel" ({ cls := "DimpleWellsModel", name := "span", desc := "(IIIIII)I" } : Jvm.MethodName) ({ cls := "DimpleWellsModel", name := "span", desc := "(IIIIII)I" } : Jvm.MethodName)) ∈ lw_all := lw_g (lw_at lw_m11 31 rfl) rfl
theorem q2528 : (Jvm.Cond.code ({ cls := "DimpleWellsModel", name := "span", desc := "(IIIIII)I" } : Jvm.MethodName) prog_32_method_108_code (11 : Nat) (Option.some Jvm.ClassFile.FieldType.int)) ∈ lw_all := lw_g (lw_at lw_m11 32 rfl) rfl
theorem q2530 : (Jvm.Cond.instanceMethod ({ cls := "DimpleWellsModel", name := "image", desc := "()I" } : Jvm.MethodName)) ∈ lw_all := lw_g (lw_at lw_m11 34 rfl) rfl
theorem q2531 : (Jvm.Cond.selects "DimpleWellsModel" ({ cls := "DimpleWellsModel", name := "image", desc := "()I" } : Jvm.MethodName) ({ cls := "DimpleWellsModel", name := "image", desc := "()I" } : Jvm.MethodName)) ∈ lw_all := lw_g (lw_at lw_m11 35 rfl) rfl
theorem q2532 : (Jvm.Cond.code ({ cls := "DimpleWellsModel", name := "image", desc := "()I" } : Jvm.MethodName) prog_32_method_111_code (1 : Nat) (Option.some Jvm.ClassFile.FieldType.int)) ∈ lw_all := lw_g (lw_at lw_m11 36 rfl) rfl
theorem q2533 : (Jvm.Cond.methodLink "DimpleWellsModel" (394 : Nat) ({ cls := "DimpleWellsModel", name := "putsAll", desc := "([IZ)V" } : Jvm.MethodName)) ∈ lw_all := lw_g (lw_at lw_m11 37 rfl) rfl
theorem q2534 : (Jvm.Cond.privateMethod ({ cls := "DimpleWellsModel", name := "putsAll", desc := "([IZ)V" } : Jvm.MethodName)) ∈ lw_tbl := lw_at lw_m11 38 rfl
theorem q2535 : (Jvm.Cond.instanceMethod ({ cls := "DimpleWellsModel", name := "putsAll", desc := "([IZ)V" } : Jvm.MethodName)) ∈ lw_all := lw_g (lw_at lw_m11 39 rfl) rfl
theorem q2536 : (Jvm.Cond.code ({ cls := "DimpleWellsModel", name := "putsAll", desc := "([IZ)V" } : Jvm.MethodName) prog_32_method_110_code (5 : Nat) (Option.none : Option Jvm.ClassFile.FieldType)) ∈ lw_all := lw_g (lw_at lw_m11 40 rfl) rfl
theorem q2537 : (Jvm.Cond.methodLink "DimpleWellsModel" (390 : Nat) ({ cls := "DimpleWellsModel", name := "puts", desc := "([IIZ)I" } : Jvm.MethodName)) ∈ lw_all := lw_g (lw_at lw_m11 41 rfl) rfl
theorem q2538 : (Jvm.Cond.privateMethod ({ cls := "DimpleWellsModel", name := "puts", desc := "([IIZ)I" } : Jvm.MethodName)) ∈ lw_tbl := lw_at lw_m11 42 rfl
theorem q2539 : (Jvm.Cond.instanceMethod ({ cls := "DimpleWellsModel", name := "puts", desc := "([IIZ)I" } : Jvm.MethodName)) ∈ lw_all := lw_g (lw_at lw_m11 43 rfl) rfl
theorem q2540 : (Jvm.Cond.code ({ cls := "DimpleWellsModel", name := "puts", desc := "([IIZ)I" } : Jvm.MethodName) prog_32_method_109_code (4 : Nat) (Option.some Jvm.ClassFile.FieldType.int)) ∈ lw_all := lw_g (lw_at lw_m11 44 rfl) rfl
theorem q2542 : (Jvm.Cond.instanceMethod ({ cls := "DimpleWellsModel", name := "restore", desc := "()I" } : Jvm.MethodName)) ∈ lw_all := lw_g (lw_at lw_m11 46 rfl) rfl
theorem q2543 : (Jvm.Cond.selects "DimpleWellsModel" ({ cls := "DimpleWellsModel", name := "restore", desc := "()I" } : Jvm.MethodName) ({ cls := "DimpleWellsModel", name := "restore", desc := "()I" } : Jvm.MethodName)) ∈ lw_all := lw_g (lw_at lw_m11 47 rfl) rfl
theorem q2544 : (Jvm.Cond.code ({ cls := "DimpleWellsModel", name := "restore", desc := "()I" } : Jvm.MethodName) prog_32_method_112_code (1 : Nat) (Option.some Jvm.ClassFile.FieldType.int)) ∈ lw_all := lw_g (lw_at lw_m11 48 rfl) rfl
theorem q2546 : (Jvm.Cond.instanceMethod ({ cls := "DimpleWellsModel", name := "status", desc := "(I)I" } : Jvm.MethodName)) ∈ lw_all := lw_g (lw_at lw_m11 50 rfl) rfl
theorem q2547 : (Jvm.Cond.selects "DimpleWellsModel" ({ cls := "DimpleWellsModel", name := "status", desc := "(I)I" } : Jvm.MethodName) ({ cls := "DimpleWellsModel", name := "status", desc := "(I)I" } : Jvm.MethodName)) ∈ lw_all := lw_g (lw_at lw_m11 51 rfl) rfl
theorem q2548 : (Jvm.Cond.code ({ cls := "DimpleWellsModel", name := "status", desc := "(I)I" } : Jvm.MethodName) prog_32_method_113_code (2 : Nat) (Option.some Jvm.ClassFile.FieldType.int)) ∈ lw_all := lw_g (lw_at lw_m11 52 rfl) rfl
theorem q2550 : (Jvm.Cond.instanceMethod ({ cls := "DimpleWellsModel", name := "count", desc := "(I)I" } : Jvm.MethodName)) ∈ lw_all := lw_g (lw_at lw_m11 54 rfl) rfl
theorem q2551 : (Jvm.Cond.selects "DimpleWellsModel" ({ cls := "DimpleWellsModel", name := "count", desc := "(I)I" } : Jvm.MethodName) ({ cls := "DimpleWellsModel", name := "count", desc := "(I)I" } : Jvm.MethodName)) ∈ lw_all := lw_g (lw_at lw_m11 55 rfl) rfl
theorem q2552 : (Jvm.Cond.code ({ cls := "DimpleWellsModel", name := "count", desc := "(I)I" } : Jvm.MethodName) prog_32_method_114_code (2 : Nat) (Option.some Jvm.ClassFile.FieldType.int)) ∈ lw_all := lw_g (lw_at lw_m11 56 rfl) rfl
theorem q2592 : (Jvm.Cond.castable "DimpleWellsModel" "java/lang/Object") ∈ lw_tbl := lw_at lw_m11 96 rfl
theorem in_X10 : ∀ w ∈ wsX100, w ∈ lw_all := lw_in wsX100 [2032, 2034, 2036, 2038, 2040, 2042, 2044, 2046, 2048, 2050, 2052, 2054, 2056, 2058, 2060, 2062, 2064, 2066, 2068, 2070, 2072, 2074, 2076, 2078, 2080, 2082, 2084, 2086, 2088, 2090, 2092, 2094, 2096, 2098, 2100, 2102, 2104, 2106, 2108, 2110, 2112, 2114, 2116, 2118, 2120, 2122] (by decide +kernel) (by decide +kernel)
