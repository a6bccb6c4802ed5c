/-! DimpleWells$Told -/
set_option maxRecDepth 100000
def RX2 : String := "DimpleWells$Told"
def TX2 : u_T := fun k => match k with
  | 0 => ("DimpleWells$Told", "persons", "Ljava/util/ArrayList;", true)
  | 1 => ("DimpleWells$Told", "jokes", "Ljava/util/ArrayList;", true)
  | 2 => ("DimpleWells$Told", "next", "[I", true)
  | 3 => ("DimpleWells$Told", "one", "[I", true)
  | 4 => ("DimpleWells$Told", "other", "[I", true)
  | 5 => ("DimpleWells$Told", "streets", "I", false)
  | 6 => ("DimpleWells$Told", "jug", "I", false)
  | 7 => ("DimpleWells$Told", "drink", "I", false)
  | _ => ("DimpleWells$Told", "clauses", "I", false)
def tyX2 : Nat → FieldType := fun k => match k with
  | 0 => .object "java/util/ArrayList"
  | 1 => .object "java/util/ArrayList"
  | 2 => .array .int
  | 3 => .array .int
  | 4 => .array .int
  | 5 => .int
  | 6 => .int
  | 7 => .int
  | _ => .int
abbrev wsX20 : List Cond := u_ws RX2 TX2 9
theorem nmX2 : ∀ a, a < 9 → ∀ b, b < 9 → a ≠ b → (TX2 a).2.1 ≠ (TX2 b).2.1 := by decide +kernel
theorem tyX2_ok : ∀ k, k < 9 → parseFieldDescriptor (TX2 k).2.2.1 = some (tyX2 k) := by decide +kernel
abbrev cX2_init : ByteArray := prog_27_method_1_code
def yX2_init : MethodName := ⟨RX2, "<init>", "()V"⟩
def dkwX2_init_2 : List UInt8 := [16, 12, 188, 10, 181, 0, 30, 42, 16, 20, 181, 0, 33, 42, 5, 181, 0, 37, 177]
abbrev dktX2_init_2 : List UInt8 := dkwX2_init_2 ++ []
def dkwX2_init_1 : List UInt8 := [183, 0, 11, 181, 0, 20, 42, 16, 7, 188, 10, 181, 0, 23, 42, 16, 12, 188, 10, 181, 0, 27, 42]
abbrev dktX2_init_1 : List UInt8 := dkwX2_init_1 ++ dktX2_init_2
def dkwX2_init_0 : List UInt8 := [42, 183, 0, 3, 42, 187, 0, 9, 89, 7, 183, 0, 11, 181, 0, 14, 42, 187, 0, 9, 89, 7]
abbrev dktX2_init_0 : List UInt8 := dkwX2_init_0 ++ dktX2_init_1
theorem dksX2_init_0 : cX2_init.data.toList.drop 0 = dktX2_init_0 := by decide +kernel
theorem dksX2_init_1 : cX2_init.data.toList.drop 22 = dktX2_init_1 := dk_seg dksX2_init_0 22 rfl rfl
theorem dksX2_init_2 : cX2_init.data.toList.drop 45 = dktX2_init_2 := dk_seg dksX2_init_1 23 rfl rfl
theorem dX2_init_0 : decode cX2_init 0 = .ok (.aload_n 0, 1) := dk_42 (dk_at dksX2_init_0 0 rfl rfl)
theorem dX2_init_1 : decode cX2_init 1 = .ok (.invokespecial 3, 3) := dk_183 0 3 (dk_at dksX2_init_0 1 rfl rfl)
theorem dX2_init_4 : decode cX2_init 4 = .ok (.aload_n 0, 1) := dk_42 (dk_at dksX2_init_0 4 rfl rfl)
theorem dX2_init_5 : decode cX2_init 5 = .ok (.new 9, 3) := dk_187 0 9 (dk_at dksX2_init_0 5 rfl rfl)
theorem dX2_init_8 : decode cX2_init 8 = .ok (.dup, 1) := dk_89 (dk_at dksX2_init_0 8 rfl rfl)
theorem dX2_init_9 : decode cX2_init 9 = .ok (.iconst 4, 1) := dk_7 (dk_at dksX2_init_0 9 rfl rfl)
theorem dX2_init_10 : decode cX2_init 10 = .ok (.invokespecial 11, 3) := dk_183 0 11 (dk_at dksX2_init_0 10 rfl rfl)
theorem dX2_init_13 : decode cX2_init 13 = .ok (.putfield 14, 3) := dk_181 0 14 (dk_at dksX2_init_0 13 rfl rfl)
theorem dX2_init_16 : decode cX2_init 16 = .ok (.aload_n 0, 1) := dk_42 (dk_at dksX2_init_0 16 rfl rfl)
theorem dX2_init_17 : decode cX2_init 17 = .ok (.new 9, 3) := dk_187 0 9 (dk_at dksX2_init_0 17 rfl rfl)
theorem dX2_init_20 : decode cX2_init 20 = .ok (.dup, 1) := dk_89 (dk_at dksX2_init_0 20 rfl rfl)
theorem dX2_init_21 : decode cX2_init 21 = .ok (.iconst 4, 1) := dk_7 (dk_at dksX2_init_0 21 rfl rfl)
theorem dX2_init_22 : decode cX2_init 22 = .ok (.invokespecial 11, 3) := dk_183 0 11 (dk_at dksX2_init_1 0 rfl rfl)
theorem dX2_init_25 : decode cX2_init 25 = .ok (.putfield 20, 3) := dk_181 0 20 (dk_at dksX2_init_1 3 rfl rfl)
theorem dX2_init_28 : decode cX2_init 28 = .ok (.aload_n 0, 1) := dk_42 (dk_at dksX2_init_1 6 rfl rfl)
theorem dX2_init_29 : decode cX2_init 29 = .ok (.bipush 7, 2) := dk_16 7 (dk_at dksX2_init_1 7 rfl rfl)
theorem dX2_init_31 : decode cX2_init 31 = .ok (.newarray .int, 2) := dk_188_10 (dk_at dksX2_init_1 9 rfl rfl)
theorem dX2_init_33 : decode cX2_init 33 = .ok (.putfield 23, 3) := dk_181 0 23 (dk_at dksX2_init_1 11 rfl rfl)
theorem dX2_init_36 : decode cX2_init 36 = .ok (.aload_n 0, 1) := dk_42 (dk_at dksX2_init_1 14 rfl rfl)
theorem dX2_init_37 : decode cX2_init 37 = .ok (.bipush 12, 2) := dk_16 12 (dk_at dksX2_init_1 15 rfl rfl)
theorem dX2_init_39 : decode cX2_init 39 = .ok (.newarray .int, 2) := dk_188_10 (dk_at dksX2_init_1 17 rfl rfl)
theorem dX2_init_41 : decode cX2_init 41 = .ok (.putfield 27, 3) := dk_181 0 27 (dk_at dksX2_init_1 19 rfl rfl)
theorem dX2_init_44 : decode cX2_init 44 = .ok (.aload_n 0, 1) := dk_42 (dk_at dksX2_init_1 22 rfl rfl)
theorem dX2_init_45 : decode cX2_init 45 = .ok (.bipush 12, 2) := dk_16 12 (dk_at dksX2_init_2 0 rfl rfl)
theorem dX2_init_47 : decode cX2_init 47 = .ok (.newarray .int, 2) := dk_188_10 (dk_at dksX2_init_2 2 rfl rfl)
theorem dX2_init_49 : decode cX2_init 49 = .ok (.putfield 30, 3) := dk_181 0 30 (dk_at dksX2_init_2 4 rfl rfl)
theorem dX2_init_52 : decode cX2_init 52 = .ok (.aload_n 0, 1) := dk_42 (dk_at dksX2_init_2 7 rfl rfl)
theorem dX2_init_53 : decode cX2_init 53 = .ok (.bipush 20, 2) := dk_16 20 (dk_at dksX2_init_2 8 rfl rfl)
theorem dX2_init_55 : decode cX2_init 55 = .ok (.putfield 33, 3) := dk_181 0 33 (dk_at dksX2_init_2 10 rfl rfl)
theorem dX2_init_58 : decode cX2_init 58 = .ok (.aload_n 0, 1) := dk_42 (dk_at dksX2_init_2 13 rfl rfl)
theorem dX2_init_59 : decode cX2_init 59 = .ok (.iconst 2, 1) := dk_5 (dk_at dksX2_init_2 14 rfl rfl)
theorem dX2_init_60 : decode cX2_init 60 = .ok (.putfield 37, 3) := dk_181 0 37 (dk_at dksX2_init_2 15 rfl rfl)
theorem dX2_init_63 : decode cX2_init 63 = .ok (.return_, 1) := dk_177 (dk_at dksX2_init_2 18 rfl rfl)
abbrev cX2_round : ByteArray := prog_27_method_3_code
def yX2_round : MethodName := ⟨RX2, "round", "(I)I"⟩
def dkwX2_round_1 : List UInt8 := [42, 180, 0, 23, 29, 46, 167, 0, 4, 3, 128, 61, 132, 3, 1, 167, 255, 221, 28, 172]
abbrev dktX2_round_1 : List UInt8 := dkwX2_round_1 ++ []
def dkwX2_round_0 : List UInt8 := [27, 61, 3, 62, 29, 42, 180, 0, 14, 182, 0, 43, 162, 0, 30, 28, 27, 29, 184, 0, 47, 153, 0, 12]
abbrev dktX2_round_0 : List UInt8 := dkwX2_round_0 ++ dktX2_round_1
theorem dksX2_round_0 : cX2_round.data.toList.drop 0 = dktX2_round_0 := by decide +kernel
theorem dksX2_round_1 : cX2_round.data.toList.drop 24 = dktX2_round_1 := dk_seg dksX2_round_0 24 rfl rfl
theorem dX2_round_0 : decode cX2_round 0 = .ok (.iload_n 1, 1) := dk_27 (dk_at dksX2_round_0 0 rfl rfl)
theorem dX2_round_1 : decode cX2_round 1 = .ok (.istore_n 2, 1) := dk_61 (dk_at dksX2_round_0 1 rfl rfl)
theorem dX2_round_2 : decode cX2_round 2 = .ok (.iconst 0, 1) := dk_3 (dk_at dksX2_round_0 2 rfl rfl)
theorem dX2_round_3 : decode cX2_round 3 = .ok (.istore_n 3, 1) := dk_62 (dk_at dksX2_round_0 3 rfl rfl)
theorem dX2_round_4 : decode cX2_round 4 = .ok (.iload_n 3, 1) := dk_29 (dk_at dksX2_round_0 4 rfl rfl)
theorem dX2_round_5 : decode cX2_round 5 = .ok (.aload_n 0, 1) := dk_42 (dk_at dksX2_round_0 5 rfl rfl)
theorem dX2_round_6 : decode cX2_round 6 = .ok (.getfield 14, 3) := dk_180 0 14 (dk_at dksX2_round_0 6 rfl rfl)
theorem dX2_round_9 : decode cX2_round 9 = .ok (.invokevirtual 43, 3) := dk_182 0 43 (dk_at dksX2_round_0 9 rfl rfl)
theorem dX2_round_12 : decode cX2_round 12 = .ok (.if_icmp .ge 30, 3) := dk_162 0 30 (dk_at dksX2_round_0 12 rfl rfl)
theorem dX2_round_15 : decode cX2_round 15 = .ok (.iload_n 2, 1) := dk_28 (dk_at dksX2_round_0 15 rfl rfl)
theorem dX2_round_16 : decode cX2_round 16 = .ok (.iload_n 1, 1) := dk_27 (dk_at dksX2_round_0 16 rfl rfl)
theorem dX2_round_17 : decode cX2_round 17 = .ok (.iload_n 3, 1) := dk_29 (dk_at dksX2_round_0 17 rfl rfl)
theorem dX2_round_18 : decode cX2_round 18 = .ok (.invokestatic 47, 3) := dk_184 0 47 (dk_at dksX2_round_0 18 rfl rfl)
theorem dX2_round_21 : decode cX2_round 21 = .ok (.ifCond .eq 12, 3) := dk_153 0 12 (dk_at dksX2_round_0 21 rfl rfl)
theorem dX2_round_24 : decode cX2_round 24 = .ok (.aload_n 0, 1) := dk_42 (dk_at dksX2_round_1 0 rfl rfl)
theorem dX2_round_25 : decode cX2_round 25 = .ok (.getfield 23, 3) := dk_180 0 23 (dk_at dksX2_round_1 1 rfl rfl)
theorem dX2_round_28 : decode cX2_round 28 = .ok (.iload_n 3, 1) := dk_29 (dk_at dksX2_round_1 4 rfl rfl)
theorem dX2_round_29 : decode cX2_round 29 = .ok (.iaload, 1) := dk_46 (dk_at dksX2_round_1 5 rfl rfl)
theorem dX2_round_30 : decode cX2_round 30 = .ok (.goto 4, 3) := dk_167 0 4 (dk_at dksX2_round_1 6 rfl rfl)
theorem dX2_round_33 : decode cX2_round 33 = .ok (.iconst 0, 1) := dk_3 (dk_at dksX2_round_1 9 rfl rfl)
theorem dX2_round_34 : decode cX2_round 34 = .ok (.ior, 1) := dk_128 (dk_at dksX2_round_1 10 rfl rfl)
theorem dX2_round_35 : decode cX2_round 35 = .ok (.istore_n 2, 1) := dk_61 (dk_at dksX2_round_1 11 rfl rfl)
theorem dX2_round_36 : decode cX2_round 36 = .ok (.iinc 3 1, 3) := dk_132 3 1 (dk_at dksX2_round_1 12 rfl rfl)
theorem dX2_round_39 : decode cX2_round 39 = .ok (.goto (-35), 3) := dk_167 255 221 (dk_at dksX2_round_1 15 rfl rfl)
theorem dX2_round_42 : decode cX2_round 42 = .ok (.iload_n 2, 1) := dk_28 (dk_at dksX2_round_1 18 rfl rfl)
theorem dX2_round_43 : decode cX2_round 43 = .ok (.ireturn, 1) := dk_172 (dk_at dksX2_round_1 19 rfl rfl)
abbrev cX2_leads : ByteArray := prog_27_method_2_code
def yX2_leads : MethodName := ⟨RX2, "leads", "(II)V"⟩
def dkwX2_leads_2 : List UInt8 := [180, 0, 40, 4, 96, 181, 0, 40, 177]
abbrev dktX2_leads_2 : List UInt8 := dkwX2_leads_2 ++ []
def dkwX2_leads_1 : List UInt8 := [27, 92, 46, 4, 28, 120, 128, 79, 42, 180, 0, 23, 28, 92, 46, 4, 27, 120, 128, 79, 42, 89]
abbrev dktX2_leads_1 : List UInt8 := dkwX2_leads_1 ++ dktX2_leads_2
def dkwX2_leads_0 : List UInt8 := [42, 180, 0, 27, 42, 180, 0, 40, 27, 79, 42, 180, 0, 30, 42, 180, 0, 40, 28, 79, 42, 180, 0, 23]
abbrev dktX2_leads_0 : List UInt8 := dkwX2_leads_0 ++ dktX2_leads_1
theorem dksX2_leads_0 : cX2_leads.data.toList.drop 0 = dktX2_leads_0 := by decide +kernel
theorem dksX2_leads_1 : cX2_leads.data.toList.drop 24 = dktX2_leads_1 := dk_seg dksX2_leads_0 24 rfl rfl
theorem dksX2_leads_2 : cX2_leads.data.toList.drop 46 = dktX2_leads_2 := dk_seg dksX2_leads_1 22 rfl rfl
theorem dX2_leads_0 : decode cX2_leads 0 = .ok (.aload_n 0, 1) := dk_42 (dk_at dksX2_leads_0 0 rfl rfl)
theorem dX2_leads_1 : decode cX2_leads 1 = .ok (.getfield 27, 3) := dk_180 0 27 (dk_at dksX2_leads_0 1 rfl rfl)
theorem dX2_leads_4 : decode cX2_leads 4 = .ok (.aload_n 0, 1) := dk_42 (dk_at dksX2_leads_0 4 rfl rfl)
theorem dX2_leads_5 : decode cX2_leads 5 = .ok (.getfield 40, 3) := dk_180 0 40 (dk_at dksX2_leads_0 5 rfl rfl)
theorem dX2_leads_8 : decode cX2_leads 8 = .ok (.iload_n 1, 1) := dk_27 (dk_at dksX2_leads_0 8 rfl rfl)
theorem dX2_leads_9 : decode cX2_leads 9 = .ok (.iastore, 1) := dk_79 (dk_at dksX2_leads_0 9 rfl rfl)
theorem dX2_leads_10 : decode cX2_leads 10 = .ok (.aload_n 0, 1) := dk_42 (dk_at dksX2_leads_0 10 rfl rfl)
theorem dX2_leads_11 : decode cX2_leads 11 = .ok (.getfield 30, 3) := dk_180 0 30 (dk_at dksX2_leads_0 11 rfl rfl)
theorem dX2_leads_14 : decode cX2_leads 14 = .ok (.aload_n 0, 1) := dk_42 (dk_at dksX2_leads_0 14 rfl rfl)
theorem dX2_leads_15 : decode cX2_leads 15 = .ok (.getfield 40, 3) := dk_180 0 40 (dk_at dksX2_leads_0 15 rfl rfl)
theorem dX2_leads_18 : decode cX2_leads 18 = .ok (.iload_n 2, 1) := dk_28 (dk_at dksX2_leads_0 18 rfl rfl)
theorem dX2_leads_19 : decode cX2_leads 19 = .ok (.iastore, 1) := dk_79 (dk_at dksX2_leads_0 19 rfl rfl)
theorem dX2_leads_20 : decode cX2_leads 20 = .ok (.aload_n 0, 1) := dk_42 (dk_at dksX2_leads_0 20 rfl rfl)
theorem dX2_leads_21 : decode cX2_leads 21 = .ok (.getfield 23, 3) := dk_180 0 23 (dk_at dksX2_leads_0 21 rfl rfl)
theorem dX2_leads_24 : decode cX2_leads 24 = .ok (.iload_n 1, 1) := dk_27 (dk_at dksX2_leads_1 0 rfl rfl)
theorem dX2_leads_25 : decode cX2_leads 25 = .ok (.dup2, 1) := dk_92 (dk_at dksX2_leads_1 1 rfl rfl)
theorem dX2_leads_26 : decode cX2_leads 26 = .ok (.iaload, 1) := dk_46 (dk_at dksX2_leads_1 2 rfl rfl)
theorem dX2_leads_27 : decode cX2_leads 27 = .ok (.iconst 1, 1) := dk_4 (dk_at dksX2_leads_1 3 rfl rfl)
theorem dX2_leads_28 : decode cX2_leads 28 = .ok (.iload_n 2, 1) := dk_28 (dk_at dksX2_leads_1 4 rfl rfl)
theorem dX2_leads_29 : decode cX2_leads 29 = .ok (.ishl, 1) := dk_120 (dk_at dksX2_leads_1 5 rfl rfl)
theorem dX2_leads_30 : decode cX2_leads 30 = .ok (.ior, 1) := dk_128 (dk_at dksX2_leads_1 6 rfl rfl)
theorem dX2_leads_31 : decode cX2_leads 31 = .ok (.iastore, 1) := dk_79 (dk_at dksX2_leads_1 7 rfl rfl)
theorem dX2_leads_32 : decode cX2_leads 32 = .ok (.aload_n 0, 1) := dk_42 (dk_at dksX2_leads_1 8 rfl rfl)
theorem dX2_leads_33 : decode cX2_leads 33 = .ok (.getfield 23, 3) := dk_180 0 23 (dk_at dksX2_leads_1 9 rfl rfl)
theorem dX2_leads_36 : decode cX2_leads 36 = .ok (.iload_n 2, 1) := dk_28 (dk_at dksX2_leads_1 12 rfl rfl)
theorem dX2_leads_37 : decode cX2_leads 37 = .ok (.dup2, 1) := dk_92 (dk_at dksX2_leads_1 13 rfl rfl)
theorem dX2_leads_38 : decode cX2_leads 38 = .ok (.iaload, 1) := dk_46 (dk_at dksX2_leads_1 14 rfl rfl)
theorem dX2_leads_39 : decode cX2_leads 39 = .ok (.iconst 1, 1) := dk_4 (dk_at dksX2_leads_1 15 rfl rfl)
theorem dX2_leads_40 : decode cX2_leads 40 = .ok (.iload_n 1, 1) := dk_27 (dk_at dksX2_leads_1 16 rfl rfl)
theorem dX2_leads_41 : decode cX2_leads 41 = .ok (.ishl, 1) := dk_120 (dk_at dksX2_leads_1 17 rfl rfl)
theorem dX2_leads_42 : decode cX2_leads 42 = .ok (.ior, 1) := dk_128 (dk_at dksX2_leads_1 18 rfl rfl)
theorem dX2_leads_43 : decode cX2_leads 43 = .ok (.iastore, 1) := dk_79 (dk_at dksX2_leads_1 19 rfl rfl)
theorem dX2_leads_44 : decode cX2_leads 44 = .ok (.aload_n 0, 1) := dk_42 (dk_at dksX2_leads_1 20 rfl rfl)
theorem dX2_leads_45 : decode cX2_leads 45 = .ok (.dup, 1) := dk_89 (dk_at dksX2_leads_1 21 rfl rfl)
theorem dX2_leads_46 : decode cX2_leads 46 = .ok (.getfield 40, 3) := dk_180 0 40 (dk_at dksX2_leads_2 0 rfl rfl)
theorem dX2_leads_49 : decode cX2_leads 49 = .ok (.iconst 1, 1) := dk_4 (dk_at dksX2_leads_2 3 rfl rfl)
theorem dX2_leads_50 : decode cX2_leads 50 = .ok (.iadd, 1) := dk_96 (dk_at dksX2_leads_2 4 rfl rfl)
theorem dX2_leads_51 : decode cX2_leads 51 = .ok (.putfield 40, 3) := dk_181 0 40 (dk_at dksX2_leads_2 5 rfl rfl)
theorem dX2_leads_54 : decode cX2_leads 54 = .ok (.return_, 1) := dk_177 (dk_at dksX2_leads_2 8 rfl rfl)
theorem q98 : (Jvm.Cond.initialized "DimpleWells$Told") ∈ lw_all := lw_g (lw_at lw_m1 2 rfl) rfl
theorem q158 : (Jvm.Cond.instantiable "DimpleWells$Told" (9 : Nat)) ∈ lw_all := lw_g (lw_at lw_m1 62 rfl) rfl
theorem q160 : (Jvm.Cond.instanceMethod ({ cls := "DimpleWells$Told", name := "<init>", desc := "()V" } : Jvm.MethodName)) ∈ lw_all := lw_g (lw_at lw_m1 64 rfl) rfl
theorem q161 : (Jvm.Cond.code ({ cls := "DimpleWells$Told", name := "<init>", desc := "()V" } : Jvm.MethodName) prog_27_method_1_code (1 : Nat) (Option.none : Option Jvm.ClassFile.FieldType)) ∈ lw_all := lw_g (lw_at lw_m1 65 rfl) rfl
theorem q162 : (Jvm.Cond.methodLink "DimpleWells$Told" (3 : Nat) ({ cls := "java/lang/Object", name := "<init>", desc := "()V" } : Jvm.MethodName)) ∈ lw_all := lw_g (lw_at lw_m1 66 rfl) rfl
theorem q163 : (Jvm.Cond.classLink "DimpleWells$Told" (9 : Nat) "java/util/ArrayList") ∈ lw_all := lw_g (lw_at lw_m1 67 rfl) rfl
theorem q165 : (Jvm.Cond.methodLink "DimpleWells$Told" (11 : Nat) ({ cls := "java/util/ArrayList", name := "<init>", desc := "(I)V" } : Jvm.MethodName)) ∈ lw_all := lw_g (lw_at lw_m1 69 rfl) rfl
theorem q505 : (Jvm.Cond.fieldLink "DimpleWells$Told" (14 : Nat) "DimpleWells$Told" "persons" "Ljava/util/ArrayList;") ∈ lw_all := lw_g (lw_at lw_m2 169 rfl) rfl
theorem q509 : (Jvm.Cond.fieldLink "DimpleWells$Told" (20 : Nat) "DimpleWells$Told" "jokes" "Ljava/util/ArrayList;") ∈ lw_all := lw_g (lw_at lw_m2 173 rfl) rfl
theorem q513 : (Jvm.Cond.fieldLink "DimpleWells$Told" (23 : Nat) "DimpleWells$Told" "next" "[I") ∈ lw_all := lw_g (lw_at lw_m2 177 rfl) rfl
theorem q517 : (Jvm.Cond.fieldLink "DimpleWells$Told" (27 : Nat) "DimpleWells$Told" "one" "[I") ∈ lw_all := lw_g (lw_at lw_m2 181 rfl) rfl
theorem q519 : (Jvm.Cond.fieldLink "DimpleWells$Told" (30 : Nat) "DimpleWells$Told" "other" "[I") ∈ lw_all := lw_g (lw_at lw_m2 183 rfl) rfl
theorem q521 : (Jvm.Cond.fieldLink "DimpleWells$Told" (40 : Nat) "DimpleWells$Told" "streets" "I") ∈ lw_all := lw_g (lw_at lw_m2 185 rfl) rfl
theorem q524 : (Jvm.Cond.fieldLink "DimpleWells$Told" (33 : Nat) "DimpleWells$Told" "jug" "I") ∈ lw_all := lw_g (lw_at lw_m2 188 rfl) rfl
theorem q527 : (Jvm.Cond.fieldLink "DimpleWells$Told" (37 : Nat) "DimpleWells$Told" "drink" "I") ∈ lw_all := lw_g (lw_at lw_m2 191 rfl) rfl
theorem q532 : (Jvm.Cond.laysFinal "DimpleWells$Told" "DimpleWells$Told" "persons" "Ljava/util/ArrayList;") ∈ lw_all := lw_g (lw_at lw_m2 196 rfl) rfl
theorem q533 : (Jvm.Cond.soleField "DimpleWells$Told" "persons") ∈ lw_all := lw_g (lw_at lw_m2 197 rfl) rfl
theorem q534 : (Jvm.Cond.laysFinal "DimpleWells$Told" "DimpleWells$Told" "jokes" "Ljava/util/ArrayList;") ∈ lw_all := lw_g (lw_at lw_m2 198 rfl) rfl
theorem q535 : (Jvm.Cond.soleField "DimpleWells$Told" "jokes") ∈ lw_all := lw_g (lw_at lw_m2 199 rfl) rfl
theorem q536 : (Jvm.Cond.laysFinal "DimpleWells$Told" "DimpleWells$Told" "next" "[I") ∈ lw_all := lw_g (lw_at lw_m2 200 rfl) rfl
theorem q537 : (Jvm.Cond.soleField "DimpleWells$Told" "next") ∈ lw_all := lw_g (lw_at lw_m2 201 rfl) rfl
theorem q538 : (Jvm.Cond.laysFinal "DimpleWells$Told" "DimpleWells$Told" "one" "[I") ∈ lw_all := lw_g (lw_at lw_m2 202 rfl) rfl
theorem q539 : (Jvm.Cond.soleField "DimpleWells$Told" "one") ∈ lw_all := lw_g (lw_at lw_m2 203 rfl) rfl
theorem q540 : (Jvm.Cond.laysFinal "DimpleWells$Told" "DimpleWells$Told" "other" "[I") ∈ lw_all := lw_g (lw_at lw_m2 204 rfl) rfl
theorem q541 : (Jvm.Cond.soleField "DimpleWells$Told" "other") ∈ lw_all := lw_g (lw_at lw_m2 205 rfl) rfl
theorem q542 : (Jvm.Cond.lays "DimpleWells$Told" "DimpleWells$Told" "streets" "I") ∈ lw_all := lw_g (lw_at lw_m2 206 rfl) rfl
theorem q543 : (Jvm.Cond.soleField "DimpleWells$Told" "streets") ∈ lw_all := lw_g (lw_at lw_m2 207 rfl) rfl
theorem q544 : (Jvm.Cond.lays "DimpleWells$Told" "DimpleWells$Told" "jug" "I") ∈ lw_all := lw_g (lw_at lw_m2 208 rfl) rfl
theorem q545 : (Jvm.Cond.soleField "DimpleWells$Told" "jug") ∈ lw_all := lw_g (lw_at lw_m2 209 rfl) rfl
theorem q546 : (Jvm.Cond.lays "DimpleWells$Told" "DimpleWells$Told" "drink" "I") ∈ lw_all := lw_g (lw_at lw_m2 210 rfl) rfl
theorem q547 : (Jvm.Cond.soleField "DimpleWells$Told" "drink") ∈ lw_all := lw_g (lw_at lw_m2 211 rfl) rfl
theorem q548 : (Jvm.Cond.lays "DimpleWells$Told" "DimpleWells$Told" "clauses" "I") ∈ lw_all := lw_g (lw_at lw_m2 212 rfl) rfl
theorem q549 : (Jvm.Cond.soleField "DimpleWells$Told" "clauses") ∈ lw_all := lw_g (lw_at lw_m2 213 rfl) rfl
theorem q550 : (Jvm.Cond.superclass "DimpleWells$Told" "java/lang/Object") ∈ lw_all := lw_g (lw_at lw_m2 214 rfl) rfl
theorem q920 : (Jvm.Cond.instanceMethod ({ cls := "DimpleWells$Told", name := "round", desc := "(I)I" } : Jvm.MethodName)) ∈ lw_all := lw_g (lw_at lw_m4 104 rfl) rfl
theorem q921 : (Jvm.Cond.selects "DimpleWells$Told" ({ cls := "DimpleWells$Told", name := "round", desc := "(I)I" } : Jvm.MethodName) ({ cls := "DimpleWells$Told", name := "round", desc := "(I)I" } : Jvm.MethodName)) ∈ lw_all := lw_g (lw_at lw_m4 105 rfl) rfl
theorem q922 : (Jvm.Cond.code ({ cls := "DimpleWells$Told", name := "round", desc := "(I)I" } : Jvm.MethodName) prog_27_method_3_code (4 : Nat) (Option.some Jvm.ClassFile.FieldType.int)) ∈ lw_all := lw_g (lw_at lw_m4 106 rfl) rfl
theorem q923 : (Jvm.Cond.methodLink "DimpleWells$Told" (43 : Nat) ({ cls := "java/util/ArrayList", name := "size", desc := "()I" } : Jvm.MethodName)) ∈ lw_all := lw_g (lw_at lw_m4 107 rfl) rfl
theorem q924 : (Jvm.Cond.methodLinkNest "DimpleWells$Told" (47 : Nat) ({ cls := "DimpleWells", name := "has", desc := "(II)Z" } : Jvm.MethodName) "DimpleWells") ∈ lw_tbl := lw_at lw_m4 108 rfl
theorem q1265 : (Jvm.Cond.selects "DimpleWells$Told" ({ cls := "java/lang/Object", name := "getClass", desc := "()Ljava/lang/Class;" } : Jvm.MethodName) ({ cls := "java/lang/Object", name := "getClass", desc := "()Ljava/lang/Class;" } : Jvm.MethodName)) ∈ lw_all := lw_g (lw_at lw_m5 209 rfl) rfl
theorem q1299 : (Jvm.Cond.instanceMethod ({ cls := "DimpleWells$Told", name := "leads", desc := "(II)V" } : Jvm.MethodName)) ∈ lw_all := lw_g (lw_at lw_m6 3 rfl) rfl
theorem q1300 : (Jvm.Cond.selects "DimpleWells$Told" ({ cls := "DimpleWells$Told", name := "leads", desc := "(II)V" } : Jvm.MethodName) ({ cls := "DimpleWells$Told", name := "leads", desc := "(II)V" } : Jvm.MethodName)) ∈ lw_all := lw_g (lw_at lw_m6 4 rfl) rfl
theorem q1301 : (Jvm.Cond.code ({ cls := "DimpleWells$Told", name := "leads", desc := "(II)V" } : Jvm.MethodName) prog_27_method_2_code (3 : Nat) (Option.none : Option Jvm.ClassFile.FieldType)) ∈ lw_all := lw_g (lw_at lw_m6 5 rfl) rfl
theorem q2583 : (Jvm.Cond.castable "DimpleWells$Told" "java/lang/Object") ∈ lw_tbl := lw_at lw_m11 87 rfl
theorem in_X2 : ∀ w ∈ wsX20, w ∈ lw_all := lw_in wsX20 [532, 534, 536, 538, 540, 542, 544, 546, 548] (by decide +kernel) (by decide +kernel)
/-! DimpleWells$Term -/
set_option maxRecDepth 100000
def RX3 : String := "DimpleWells$Term"
abbrev cX3_init : ByteArray := prog_25_method_1_code
def yX3_init : MethodName := ⟨RX3, "<init>", "()V"⟩
theorem dX3_init_0 : decode cX3_init 0 = .ok (.aload_n 0, 1) := by decide +kernel
theorem dX3_init_1 : decode cX3_init 1 = .ok (.invokespecial 1, 3) := by decide +kernel
theorem dX3_init_4 : decode cX3_init 4 = .ok (.return_, 1) := by decide +kernel
theorem q118 : (Jvm.Cond.initialized "DimpleWells$Term") ∈ lw_all := lw_g (lw_at lw_m1 22 rfl) rfl
theorem q563 : (Jvm.Cond.instanceMethod ({ cls := "DimpleWells$Term", name := "<init>", desc := "()V" } : Jvm.MethodName)) ∈ lw_all := lw_g (lw_at lw_m2 227 rfl) rfl
theorem q564 : (Jvm.Cond.code ({ cls := "DimpleWells$Term", name := "<init>", desc := "()V" } : Jvm.MethodName) prog_25_method_1_code (1 : Nat) (Option.none : Option Jvm.ClassFile.FieldType)) ∈ lw_all := lw_g (lw_at lw_m2 228 rfl) rfl
theorem q565 : (Jvm.Cond.methodLink "DimpleWells$Term" (1 : Nat) ({ cls := "java/lang/Object", name := "<init>", desc := "()V" } : Jvm.MethodName)) ∈ lw_all := lw_g (lw_at lw_m2 229 rfl) rfl
theorem q868 : (Jvm.Cond.declares ({ cls := "DimpleWells$Term", name := "of", desc := "([I)I" } : Jvm.MethodName)) ∈ lw_tbl := lw_at lw_m4 52 rfl
theorem q869 : (Jvm.Cond.sameMethod "DimpleWells$Term" "DimpleWells$Term" "of" "([I)I") ∈ lw_all := lw_g (lw_at lw_m4 53 rfl) rfl
/-! DimpleWells$Two -/
set_option maxRecDepth 100000
def RX4 : String := "DimpleWells$Two"
abbrev cX4_init : ByteArray := prog_28_method_1_code
def yX4_init : MethodName := ⟨RX4, "<init>", "(LDimpleWells$Term;LDimpleWells$Term;)V"⟩
def dkwX4_init_0 : List UInt8 := [42, 183, 0, 1, 42, 43, 181, 0, 7, 42, 44, 181, 0, 13, 177]
abbrev dktX4_init_0 : List UInt8 := dkwX4_init_0 ++ []
theorem dksX4_init_0 : cX4_init.data.toList.drop 0 = dktX4_init_0 := by decide +kernel
theorem dX4_init_0 : decode cX4_init 0 = .ok (.aload_n 0, 1) := dk_42 (dk_at dksX4_init_0 0 rfl rfl)
theorem dX4_init_1 : decode cX4_init 1 = .ok (.invokespecial 1, 3) := dk_183 0 1 (dk_at dksX4_init_0 1 rfl rfl)
theorem dX4_init_4 : decode cX4_init 4 = .ok (.aload_n 0, 1) := dk_42 (dk_at dksX4_init_0 4 rfl rfl)
theorem dX4_init_5 : decode cX4_init 5 = .ok (.aload_n 1, 1) := dk_43 (dk_at dksX4_init_0 5 rfl rfl)
theorem dX4_init_6 : decode cX4_init 6 = .ok (.putfield 7, 3) := dk_181 0 7 (dk_at dksX4_init_0 6 rfl rfl)
theorem dX4_init_9 : decode cX4_init 9 = .ok (.aload_n 0, 1) := dk_42 (dk_at dksX4_init_0 9 rfl rfl)
theorem dX4_init_10 : decode cX4_init 10 = .ok (.aload_n 2, 1) := dk_44 (dk_at dksX4_init_0 10 rfl rfl)
theorem dX4_init_11 : decode cX4_init 11 = .ok (.putfield 13, 3) := dk_181 0 13 (dk_at dksX4_init_0 11 rfl rfl)
theorem dX4_init_14 : decode cX4_init 14 = .ok (.return_, 1) := dk_177 (dk_at dksX4_init_0 14 rfl rfl)
abbrev cX4_of : ByteArray := prog_28_method_3_code
def yX4_of : MethodName := ⟨RX4, "of", "([I)I"⟩
def dkwX4_of_0 : List UInt8 := [42, 42, 180, 0, 7, 43, 182, 0, 16, 42, 180, 0, 13, 43, 182, 0, 16, 182, 0, 20, 172]
abbrev dktX4_of_0 : List UInt8 := dkwX4_of_0 ++ []
theorem dksX4_of_0 : cX4_of.data.toList.drop 0 = dktX4_of_0 := by decide +kernel
theorem dX4_of_0 : decode cX4_of 0 = .ok (.aload_n 0, 1) := dk_42 (dk_at dksX4_of_0 0 rfl rfl)
theorem dX4_of_1 : decode cX4_of 1 = .ok (.aload_n 0, 1) := dk_42 (dk_at dksX4_of_0 1 rfl rfl)
theorem dX4_of_2 : decode cX4_of 2 = .ok (.getfield 7, 3) := dk_180 0 7 (dk_at dksX4_of_0 2 rfl rfl)
theorem dX4_of_5 : decode cX4_of 5 = .ok (.aload_n 1, 1) := dk_43 (dk_at dksX4_of_0 5 rfl rfl)
theorem dX4_of_6 : decode cX4_of 6 = .ok (.invokevirtual 16, 3) := dk_182 0 16 (dk_at dksX4_of_0 6 rfl rfl)
theorem dX4_of_9 : decode cX4_of 9 = .ok (.aload_n 0, 1) := dk_42 (dk_at dksX4_of_0 9 rfl rfl)
theorem dX4_of_10 : decode cX4_of 10 = .ok (.getfield 13, 3) := dk_180 0 13 (dk_at dksX4_of_0 10 rfl rfl)
theorem dX4_of_13 : decode cX4_of 13 = .ok (.aload_n 1, 1) := dk_43 (dk_at dksX4_of_0 13 rfl rfl)
theorem dX4_of_14 : decode cX4_of 14 = .ok (.invokevirtual 16, 3) := dk_182 0 16 (dk_at dksX4_of_0 14 rfl rfl)
theorem dX4_of_17 : decode cX4_of 17 = .ok (.invokevirtual 20, 3) := dk_182 0 20 (dk_at dksX4_of_0 17 rfl rfl)
theorem dX4_of_20 : decode cX4_of 20 = .ok (.ireturn, 1) := dk_172 (dk_at dksX4_of_0 20 rfl rfl)
theorem q119 : (Jvm.Cond.initialized "DimpleWells$Two") ∈ lw_all := lw_g (lw_at lw_m1 23 rfl) rfl
theorem q586 : (Jvm.Cond.instanceMethod ({ cls := "DimpleWells$Two", name := "<init>", desc := "(LDimpleWells$Term;LDimpleWells$Term;)V" } : Jvm.MethodName)) ∈ lw_all := lw_g (lw_at lw_m3 10 rfl) rfl
theorem q587 : (Jvm.Cond.code ({ cls := "DimpleWells$Two", name := "<init>", desc := "(LDimpleWells$Term;LDimpleWells$Term;)V" } : Jvm.MethodName) prog_28_method_1_code (3 : Nat) (Option.none : Option Jvm.ClassFile.FieldType)) ∈ lw_all := lw_g (lw_at lw_m3 11 rfl) rfl
theorem q588 : (Jvm.Cond.methodLinkNest "DimpleWells$Two" (1 : Nat) ({ cls := "DimpleWells$Term", name := "<init>", desc := "()V" } : Jvm.MethodName) "DimpleWells") ∈ lw_tbl := lw_at lw_m3 12 rfl
theorem q589 : (Jvm.Cond.fieldLink "DimpleWells$Two" (7 : Nat) "DimpleWells$Two" "a" "LDimpleWells$Term;") ∈ lw_all := lw_g (lw_at lw_m3 13 rfl) rfl
theorem q590 : (Jvm.Cond.fieldLink "DimpleWells$Two" (13 : Nat) "DimpleWells$Two" "b" "LDimpleWells$Term;") ∈ lw_all := lw_g (lw_at lw_m3 14 rfl) rfl
theorem q592 : (Jvm.Cond.soleField "DimpleWells$Two" "a") ∈ lw_all := lw_g (lw_at lw_m3 16 rfl) rfl
theorem q594 : (Jvm.Cond.soleField "DimpleWells$Two" "b") ∈ lw_all := lw_g (lw_at lw_m3 18 rfl) rfl
theorem q871 : (Jvm.Cond.instanceMethod ({ cls := "DimpleWells$Two", name := "of", desc := "([I)I" } : Jvm.MethodName)) ∈ lw_all := lw_g (lw_at lw_m4 55 rfl) rfl
theorem q872 : (Jvm.Cond.code ({ cls := "DimpleWells$Two", name := "of", desc := "([I)I" } : Jvm.MethodName) prog_28_method_3_code (2 : Nat) (Option.some Jvm.ClassFile.FieldType.int)) ∈ lw_all := lw_g (lw_at lw_m4 56 rfl) rfl
theorem q873 : (Jvm.Cond.methodLink "DimpleWells$Two" (16 : Nat) ({ cls := "DimpleWells$Term", name := "of", desc := "([I)I" } : Jvm.MethodName)) ∈ lw_all := lw_g (lw_at lw_m4 57 rfl) rfl
theorem q878 : (Jvm.Cond.methodLink "DimpleWells$Two" (20 : Nat) ({ cls := "DimpleWells$Two", name := "with", desc := "(II)I" } : Jvm.MethodName)) ∈ lw_all := lw_g (lw_at lw_m4 62 rfl) rfl
theorem q879 : (Jvm.Cond.declares ({ cls := "DimpleWells$Two", name := "with", desc := "(II)I" } : Jvm.MethodName)) ∈ lw_tbl := lw_at lw_m4 63 rfl
theorem q880 : (Jvm.Cond.sameMethod "DimpleWells$Two" "DimpleWells$Two" "with" "(II)I") ∈ lw_all := lw_g (lw_at lw_m4 64 rfl) rfl
/-! DimpleWells$Minus -/
set_option maxRecDepth 100000
def RX5 : String := "DimpleWells$Minus"
def TX5 : u_T := fun k => match k with
  | 0 => ("DimpleWells$Two", "a", "LDimpleWells$Term;", true)
  | _ => ("DimpleWells$Two", "b", "LDimpleWells$Term;", true)
def tyX5 : Nat → FieldType := fun k => match k with
  | 0 => .object "DimpleWells$Term"
  | _ => .object "DimpleWells$Term"
abbrev wsX50 : List Cond := u_ws RX5 TX5 2
theorem nmX5 : ∀ a, a < 2 → ∀ b, b < 2 → a ≠ b → (TX5 a).2.1 ≠ (TX5 b).2.1 := by decide +kernel
theorem tyX5_ok : ∀ k, k < 2 → parseFieldDescriptor (TX5 k).2.2.1 = some (tyX5 k) := by decide +kernel
abbrev cX5_init : ByteArray := prog_14_method_1_code
def yX5_init : MethodName := ⟨RX5, "<init>", "(LDimpleWells$Term;LDimpleWells$Term;)V"⟩
def dkwX5_init_0 : List UInt8 := [42, 43, 44, 183, 0, 1, 177]
abbrev dktX5_init_0 : List UInt8 := dkwX5_init_0 ++ []
theorem dksX5_init_0 : cX5_init.data.toList.drop 0 = dktX5_init_0 := by decide +kernel
theorem dX5_init_0 : decode cX5_init 0 = .ok (.aload_n 0, 1) := dk_42 (dk_at dksX5_init_0 0 rfl rfl)
theorem dX5_init_1 : decode cX5_init 1 = .ok (.aload_n 1, 1) := dk_43 (dk_at dksX5_init_0 1 rfl rfl)
theorem dX5_init_2 : decode cX5_init 2 = .ok (.aload_n 2, 1) := dk_44 (dk_at dksX5_init_0 2 rfl rfl)
theorem dX5_init_3 : decode cX5_init 3 = .ok (.invokespecial 1, 3) := dk_183 0 1 (dk_at dksX5_init_0 3 rfl rfl)
theorem dX5_init_6 : decode cX5_init 6 = .ok (.return_, 1) := dk_177 (dk_at dksX5_init_0 6 rfl rfl)
abbrev cX5_with : ByteArray := prog_14_method_2_code
def yX5_with : MethodName := ⟨RX5, "with", "(II)I"⟩
def dkwX5_with_0 : List UInt8 := [27, 28, 100, 172]
abbrev dktX5_with_0 : List UInt8 := dkwX5_with_0 ++ []
theorem dksX5_with_0 : cX5_with.data.toList.drop 0 = dktX5_with_0 := by decide +kernel
theorem dX5_with_0 : decode cX5_with 0 = .ok (.iload_n 1, 1) := dk_27 (dk_at dksX5_with_0 0 rfl rfl)
theorem dX5_with_1 : decode cX5_with 1 = .ok (.iload_n 2, 1) := dk_28 (dk_at dksX5_with_0 1 rfl rfl)
theorem dX5_with_2 : decode cX5_with 2 = .ok (.isub, 1) := dk_100 (dk_at dksX5_with_0 2 rfl rfl)
theorem dX5_with_3 : decode cX5_with 3 = .ok (.ireturn, 1) := dk_172 (dk_at dksX5_with_0 3 rfl rfl)
theorem q120 : (Jvm.Cond.initialized "DimpleWells$Minus") ∈ lw_all := lw_g (lw_at lw_m1 24 rfl) rfl
theorem q556 : (Jvm.Cond.instantiable "DimpleWells$Minus" (2 : Nat)) ∈ lw_all := lw_g (lw_at lw_m2 220 rfl) rfl
theorem q597 : (Jvm.Cond.instanceMethod ({ cls := "DimpleWells$Minus", name := "<init>", desc := "(LDimpleWells$Term;LDimpleWells$Term;)V" } : Jvm.MethodName)) ∈ lw_all := lw_g (lw_at lw_m3 21 rfl) rfl
theorem q598 : (Jvm.Cond.code ({ cls := "DimpleWells$Minus", name := "<init>", desc := "(LDimpleWells$Term;LDimpleWells$Term;)V" } : Jvm.MethodName) prog_14_method_1_code (3 : Nat) (Option.none : Option Jvm.ClassFile.FieldType)) ∈ lw_all := lw_g (lw_at lw_m3 22 rfl) rfl
theorem q599 : (Jvm.Cond.methodLink "DimpleWells$Minus" (1 : Nat) ({ cls := "DimpleWells$Two", name := "<init>", desc := "(LDimpleWells$Term;LDimpleWells$Term;)V" } : Jvm.MethodName)) ∈ lw_all := lw_g (lw_at lw_m3 23 rfl) rfl
theorem q600 : (Jvm.Cond.laysFinal "DimpleWells$Minus" "DimpleWells$Two" "a" "LDimpleWells$Term;") ∈ lw_all := lw_g (lw_at lw_m3 24 rfl) rfl
theorem q601 : (Jvm.Cond.laysFinal "DimpleWells$Minus" "DimpleWells$Two" "b" "LDimpleWells$Term;") ∈ lw_all := lw_g (lw_at lw_m3 25 rfl) rfl
theorem q602 : (Jvm.Cond.superclass "DimpleWells$Minus" "DimpleWells$Two") ∈ lw_all := lw_g (lw_at lw_m3 26 rfl) rfl
theorem q891 : (Jvm.Cond.selects "DimpleWells$Minus" ({ cls := "DimpleWells$Two", name := "with", desc := "(II)I" } : Jvm.MethodName) ({ cls := "DimpleWells$Minus", name := "with", desc := "(II)I" } : Jvm.MethodName)) ∈ lw_all := lw_g (lw_at lw_m4 75 rfl) rfl
theorem q892 : (Jvm.Cond.instanceMethod ({ cls := "DimpleWells$Minus", name := "with", desc := "(II)I" } : Jvm.MethodName)) ∈ lw_all := lw_g (lw_at lw_m4 76 rfl) rfl
theorem q893 : (Jvm.Cond.code ({ cls := "DimpleWells$Minus", name := "with", desc := "(II)I" } : Jvm.MethodName) prog_14_method_2_code (3 : Nat) (Option.some Jvm.ClassFile.FieldType.int)) ∈ lw_all := lw_g (lw_at lw_m4 77 rfl) rfl
theorem q907 : (Jvm.Cond.selects "DimpleWells$Minus" ({ cls := "DimpleWells$Term", name := "of", desc := "([I)I" } : Jvm.MethodName) ({ cls := "DimpleWells$Two", name := "of", desc := "([I)I" } : Jvm.MethodName)) ∈ lw_all := lw_g (lw_at lw_m4 91 rfl) rfl
theorem q1255 : (Jvm.Cond.selects "DimpleWells$Minus" ({ cls := "java/lang/Object", name := "getClass", desc := "()Ljava/lang/Class;" } : Jvm.MethodName) ({ cls := "java/lang/Object", name := "getClass", desc := "()Ljava/lang/Class;" } : Jvm.MethodName)) ∈ lw_all := lw_g (lw_at lw_m5 199 rfl) rfl
theorem q2588 : (Jvm.Cond.castable "DimpleWells$Minus" "java/lang/Object") ∈ lw_tbl := lw_at lw_m11 92 rfl
theorem in_X5 : ∀ w ∈ wsX50, w ∈ lw_all := lw_in wsX50 [600, 601] (by decide +kernel) (by decide +kernel)
/-! DimpleWells$Fact -/
set_option maxRecDepth 100000
def RX6 : String := "DimpleWells$Fact"
def TX6 : u_T := fun k => match k with
  | _ => ("DimpleWells$Fact", "which", "I", true)
def tyX6 : Nat → FieldType := fun k => match k with
  | _ => .int
abbrev wsX60 : List Cond := u_ws RX6 TX6 1
theorem nmX6 : ∀ a, a < 1 → ∀ b, b < 1 → a ≠ b → (TX6 a).2.1 ≠ (TX6 b).2.1 := by decide +kernel
theorem tyX6_ok : ∀ k, k < 1 → parseFieldDescriptor (TX6 k).2.2.1 = some (tyX6 k) := by decide +kernel
abbrev cX6_init : ByteArray := prog_7_method_1_code
def yX6_init : MethodName := ⟨RX6, "<init>", "(I)V"⟩
def dkwX6_init_0 : List UInt8 := [42, 183, 0, 1, 42, 27, 181, 0, 7, 177]
abbrev dktX6_init_0 : List UInt8 := dkwX6_init_0 ++ []
theorem dksX6_init_0 : cX6_init.data.toList.drop 0 = dktX6_init_0 := by decide +kernel
theorem dX6_init_0 : decode cX6_init 0 = .ok (.aload_n 0, 1) := dk_42 (dk_at dksX6_init_0 0 rfl rfl)
theorem dX6_init_1 : decode cX6_init 1 = .ok (.invokespecial 1, 3) := dk_183 0 1 (dk_at dksX6_init_0 1 rfl rfl)
theorem dX6_init_4 : decode cX6_init 4 = .ok (.aload_n 0, 1) := dk_42 (dk_at dksX6_init_0 4 rfl rfl)
theorem dX6_init_5 : decode cX6_init 5 = .ok (.iload_n 1, 1) := dk_27 (dk_at dksX6_init_0 5 rfl rfl)
theorem dX6_init_6 : decode cX6_init 6 = .ok (.putfield 7, 3) := dk_181 0 7 (dk_at dksX6_init_0 6 rfl rfl)
theorem dX6_init_9 : decode cX6_init 9 = .ok (.return_, 1) := dk_177 (dk_at dksX6_init_0 9 rfl rfl)
abbrev cX6_of : ByteArray := prog_7_method_2_code
def yX6_of : MethodName := ⟨RX6, "of", "([I)I"⟩
def dkwX6_of_0 : List UInt8 := [43, 42, 180, 0, 7, 46, 172]
abbrev dktX6_of_0 : List UInt8 := dkwX6_of_0 ++ []
theorem dksX6_of_0 : cX6_of.data.toList.drop 0 = dktX6_of_0 := by decide +kernel
theorem dX6_of_0 : decode cX6_of 0 = .ok (.aload_n 1, 1) := dk_43 (dk_at dksX6_of_0 0 rfl rfl)
theorem dX6_of_1 : decode cX6_of 1 = .ok (.aload_n 0, 1) := dk_42 (dk_at dksX6_of_0 1 rfl rfl)
theorem dX6_of_2 : decode cX6_of 2 = .ok (.getfield 7, 3) := dk_180 0 7 (dk_at dksX6_of_0 2 rfl rfl)
theorem dX6_of_5 : decode cX6_of 5 = .ok (.iaload, 1) := dk_46 (dk_at dksX6_of_0 5 rfl rfl)
theorem dX6_of_6 : decode cX6_of 6 = .ok (.ireturn, 1) := dk_172 (dk_at dksX6_of_0 6 rfl rfl)
theorem q121 : (Jvm.Cond.initialized "DimpleWells$Fact") ∈ lw_all := lw_g (lw_at lw_m1 25 rfl) rfl
theorem q558 : (Jvm.Cond.instantiable "DimpleWells$Fact" (1 : Nat)) ∈ lw_all := lw_g (lw_at lw_m2 222 rfl) rfl
theorem q560 : (Jvm.Cond.instanceMethod ({ cls := "DimpleWells$Fact", name := "<init>", desc := "(I)V" } : Jvm.MethodName)) ∈ lw_all := lw_g (lw_at lw_m2 224 rfl) rfl
theorem q561 : (Jvm.Cond.code ({ cls := "DimpleWells$Fact", name := "<init>", desc := "(I)V" } : Jvm.MethodName) prog_7_method_1_code (2 : Nat) (Option.none : Option Jvm.ClassFile.FieldType)) ∈ lw_all := lw_g (lw_at lw_m2 225 rfl) rfl
theorem q562 : (Jvm.Cond.methodLinkNest "DimpleWells$Fact" (1 : Nat) ({ cls := "DimpleWells$Term", name := "<init>", desc := "()V" } : Jvm.MethodName) "DimpleWells") ∈ lw_tbl := lw_at lw_m2 226 rfl
theorem q566 : (Jvm.Cond.fieldLink "DimpleWells$Fact" (7 : Nat) "DimpleWells$Fact" "which" "I") ∈ lw_all := lw_g (lw_at lw_m2 230 rfl) rfl
theorem q567 : (Jvm.Cond.laysFinal "DimpleWells$Fact" "DimpleWells$Fact" "which" "I") ∈ lw_all := lw_g (lw_at lw_m2 231 rfl) rfl
theorem q568 : (Jvm.Cond.soleField "DimpleWells$Fact" "which") ∈ lw_all := lw_g (lw_at lw_m2 232 rfl) rfl
theorem q569 : (Jvm.Cond.superclass "DimpleWells$Fact" "DimpleWells$Term") ∈ lw_all := lw_g (lw_at lw_m2 233 rfl) rfl
theorem q874 : (Jvm.Cond.instanceMethod ({ cls := "DimpleWells$Fact", name := "of", desc := "([I)I" } : Jvm.MethodName)) ∈ lw_all := lw_g (lw_at lw_m4 58 rfl) rfl
theorem q875 : (Jvm.Cond.code ({ cls := "DimpleWells$Fact", name := "of", desc := "([I)I" } : Jvm.MethodName) prog_7_method_2_code (2 : Nat) (Option.some Jvm.ClassFile.FieldType.int)) ∈ lw_all := lw_g (lw_at lw_m4 59 rfl) rfl
theorem q904 : (Jvm.Cond.selects "DimpleWells$Fact" ({ cls := "DimpleWells$Term", name := "of", desc := "([I)I" } : Jvm.MethodName) ({ cls := "DimpleWells$Fact", name := "of", desc := "([I)I" } : Jvm.MethodName)) ∈ lw_all := lw_g (lw_at lw_m4 88 rfl) rfl
theorem q1248 : (Jvm.Cond.selects "DimpleWells$Fact" ({ cls := "java/lang/Object", name := "getClass", desc := "()Ljava/lang/Class;" } : Jvm.MethodName) ({ cls := "java/lang/Object", name := "getClass", desc := "()Ljava/lang/Class;" } : Jvm.MethodName)) ∈ lw_all := lw_g (lw_at lw_m5 192 rfl) rfl
theorem q2589 : (Jvm.Cond.castable "DimpleWells$Fact" "java/lang/Object") ∈ lw_tbl := lw_at lw_m11 93 rfl
theorem in_X6 : ∀ w ∈ wsX60, w ∈ lw_all := lw_in wsX60 [567] (by decide +kernel) (by decide +kernel)
/-! DimpleWells$Times -/
set_option maxRecDepth 100000
def RX7 : String := "DimpleWells$Times"
def TX7 : u_T := fun k => match k with
  | 0 => ("DimpleWells$Two", "a", "LDimpleWells$Term;", true)
  | _ => ("DimpleWells$Two", "b", "LDimpleWells$Term;", true)
def tyX7 : Nat → FieldType := fun k => match k with
  | 0 => .object "DimpleWells$Term"
  | _ => .object "DimpleWells$Term"
abbrev wsX70 : List Cond := u_ws RX7 TX7 2
theorem nmX7 : ∀ a, a < 2 → ∀ b, b < 2 → a ≠ b → (TX7 a).2.1 ≠ (TX7 b).2.1 := by decide +kernel
theorem tyX7_ok : ∀ k, k < 2 → parseFieldDescriptor (TX7 k).2.2.1 = some (tyX7 k) := by decide +kernel
abbrev cX7_init : ByteArray := prog_26_method_1_code
def yX7_init : MethodName := ⟨RX7, "<init>", "(LDimpleWells$Term;LDimpleWells$Term;)V"⟩
def dkwX7_init_0 : List UInt8 := [42, 43, 44, 183, 0, 1, 177]
abbrev dktX7_init_0 : List UInt8 := dkwX7_init_0 ++ []
theorem dksX7_init_0 : cX7_init.data.toList.drop 0 = dktX7_init_0 := by decide +kernel
theorem dX7_init_0 : decode cX7_init 0 = .ok (.aload_n 0, 1) := dk_42 (dk_at dksX7_init_0 0 rfl rfl)
theorem dX7_init_1 : decode cX7_init 1 = .ok (.aload_n 1, 1) := dk_43 (dk_at dksX7_init_0 1 rfl rfl)
theorem dX7_init_2 : decode cX7_init 2 = .ok (.aload_n 2, 1) := dk_44 (dk_at dksX7_init_0 2 rfl rfl)
theorem dX7_init_3 : decode cX7_init 3 = .ok (.invokespecial 1, 3) := dk_183 0 1 (dk_at dksX7_init_0 3 rfl rfl)
theorem dX7_init_6 : decode cX7_init 6 = .ok (.return_, 1) := dk_177 (dk_at dksX7_init_0 6 rfl rfl)
abbrev cX7_with : ByteArray := prog_26_method_2_code
def yX7_with : MethodName := ⟨RX7, "with", "(II)I"⟩
def dkwX7_with_0 : List UInt8 := [27, 28, 104, 172]
abbrev dktX7_with_0 : List UInt8 := dkwX7_with_0 ++ []
theorem dksX7_with_0 : cX7_with.data.toList.drop 0 = dktX7_with_0 := by decide +kernel
theorem dX7_with_0 : decode cX7_with 0 = .ok (.iload_n 1, 1) := dk_27 (dk_at dksX7_with_0 0 rfl rfl)
theorem dX7_with_1 : decode cX7_with 1 = .ok (.iload_n 2, 1) := dk_28 (dk_at dksX7_with_0 1 rfl rfl)
theorem dX7_with_2 : decode cX7_with 2 = .ok (.imul, 1) := dk_104 (dk_at dksX7_with_0 2 rfl rfl)
theorem dX7_with_3 : decode cX7_with 3 = .ok (.ireturn, 1) := dk_172 (dk_at dksX7_with_0 3 rfl rfl)
theorem q122 : (Jvm.Cond.initialized "DimpleWells$Times") ∈ lw_all := lw_g (lw_at lw_m1 26 rfl) rfl
theorem q571 : (Jvm.Cond.instantiable "DimpleWells$Times" (2 : Nat)) ∈ lw_all := lw_g (lw_at lw_m2 235 rfl) rfl
theorem q583 : (Jvm.Cond.instanceMethod ({ cls := "DimpleWells$Times", name := "<init>", desc := "(LDimpleWells$Term;LDimpleWells$Term;)V" } : Jvm.MethodName)) ∈ lw_all := lw_g (lw_at lw_m3 7 rfl) rfl
theorem q584 : (Jvm.Cond.code ({ cls := "DimpleWells$Times", name := "<init>", desc := "(LDimpleWells$Term;LDimpleWells$Term;)V" } : Jvm.MethodName) prog_26_method_1_code (3 : Nat) (Option.none : Option Jvm.ClassFile.FieldType)) ∈ lw_all := lw_g (lw_at lw_m3 8 rfl) rfl
theorem q585 : (Jvm.Cond.methodLink "DimpleWells$Times" (1 : Nat) ({ cls := "DimpleWells$Two", name := "<init>", desc := "(LDimpleWells$Term;LDimpleWells$Term;)V" } : Jvm.MethodName)) ∈ lw_all := lw_g (lw_at lw_m3 9 rfl) rfl
theorem q591 : (Jvm.Cond.laysFinal "DimpleWells$Times" "DimpleWells$Two" "a" "LDimpleWells$Term;") ∈ lw_all := lw_g (lw_at lw_m3 15 rfl) rfl
theorem q593 : (Jvm.Cond.laysFinal "DimpleWells$Times" "DimpleWells$Two" "b" "LDimpleWells$Term;") ∈ lw_all := lw_g (lw_at lw_m3 17 rfl) rfl
theorem q595 : (Jvm.Cond.superclass "DimpleWells$Times" "DimpleWells$Two") ∈ lw_all := lw_g (lw_at lw_m3 19 rfl) rfl
theorem q901 : (Jvm.Cond.selects "DimpleWells$Times" ({ cls := "DimpleWells$Two", name := "with", desc := "(II)I" } : Jvm.MethodName) ({ cls := "DimpleWells$Times", name := "with", desc := "(II)I" } : Jvm.MethodName)) ∈ lw_all := lw_g (lw_at lw_m4 85 rfl) rfl
theorem q902 : (Jvm.Cond.instanceMethod ({ cls := "DimpleWells$Times", name := "with", desc := "(II)I" } : Jvm.MethodName)) ∈ lw_all := lw_g (lw_at lw_m4 86 rfl) rfl
theorem q903 : (Jvm.Cond.code ({ cls := "DimpleWells$Times", name := "with", desc := "(II)I" } : Jvm.MethodName) prog_26_method_2_code (3 : Nat) (Option.some Jvm.ClassFile.FieldType.int)) ∈ lw_all := lw_g (lw_at lw_m4 87 rfl) rfl
theorem q911 : (Jvm.Cond.selects "DimpleWells$Times" ({ cls := "DimpleWells$Term", name := "of", desc := "([I)I" } : Jvm.MethodName) ({ cls := "DimpleWells$Two", name := "of", desc := "([I)I" } : Jvm.MethodName)) ∈ lw_all := lw_g (lw_at lw_m4 95 rfl) rfl
theorem q1264 : (Jvm.Cond.selects "DimpleWells$Times" ({ cls := "java/lang/Object", name := "getClass", desc := "()Ljava/lang/Class;" } : Jvm.MethodName) ({ cls := "java/lang/Object", name := "getClass", desc := "()Ljava/lang/Class;" } : Jvm.MethodName)) ∈ lw_all := lw_g (lw_at lw_m5 208 rfl) rfl
theorem q2590 : (Jvm.Cond.castable "DimpleWells$Times" "java/lang/Object") ∈ lw_tbl := lw_at lw_m11 94 rfl
theorem in_X7 : ∀ w ∈ wsX70, w ∈ lw_all := lw_in wsX70 [591, 593] (by decide +kernel) (by decide +kernel)
/-! DimpleWells$Plain -/
set_option maxRecDepth 100000
def RX8 : String := "DimpleWells$Plain"
def TX8 : u_T := fun k => match k with
  | _ => ("DimpleWells$Plain", "n", "I", true)
def tyX8 : Nat → FieldType := fun k => match k with
  | _ => .int
abbrev wsX80 : List Cond := u_ws RX8 TX8 1
theorem nmX8 : ∀ a, a < 1 → ∀ b, b < 1 → a ≠ b → (TX8 a).2.1 ≠ (TX8 b).2.1 := by decide +kernel
theorem tyX8_ok : ∀ k, k < 1 → parseFieldDescriptor (TX8 k).2.2.1 = some (tyX8 k) := by decide +kernel
abbrev cX8_init : ByteArray := prog_18_method_1_code
def yX8_init : MethodName := ⟨RX8, "<init>", "(I)V"⟩
def dkwX8_init_0 : List UInt8 := [42, 183, 0, 1, 42, 27, 181, 0, 7, 177]
abbrev dktX8_init_0 : List UInt8 := dkwX8_init_0 ++ []
theorem dksX8_init_0 : cX8_init.data.toList.drop 0 = dktX8_init_0 := by decide +kernel
theorem dX8_init_0 : decode cX8_init 0 = .ok (.aload_n 0, 1) := dk_42 (dk_at dksX8_init_0 0 rfl rfl)
theorem dX8_init_1 : decode cX8_init 1 = .ok (.invokespecial 1, 3) := dk_183 0 1 (dk_at dksX8_init_0 1 rfl rfl)
theorem dX8_init_4 : decode cX8_init 4 = .ok (.aload_n 0, 1) := dk_42 (dk_at dksX8_init_0 4 rfl rfl)
theorem dX8_init_5 : decode cX8_init 5 = .ok (.iload_n 1, 1) := dk_27 (dk_at dksX8_init_0 5 rfl rfl)
theorem dX8_init_6 : decode cX8_init 6 = .ok (.putfield 7, 3) := dk_181 0 7 (dk_at dksX8_init_0 6 rfl rfl)
theorem dX8_init_9 : decode cX8_init 9 = .ok (.return_, 1) := dk_177 (dk_at dksX8_init_0 9 rfl rfl)
abbrev cX8_of : ByteArray := prog_18_method_2_code
def yX8_of : MethodName := ⟨RX8, "of", "([I)I"⟩
theorem dX8_of_0 : decode cX8_of 0 = .ok (.aload_n 0, 1) := by decide +kernel
theorem dX8_of_1 : decode cX8_of 1 = .ok (.getfield 7, 3) := by decide +kernel
theorem dX8_of_4 : decode cX8_of 4 = .ok (.ireturn, 1) := by decide +kernel
theorem q123 : (Jvm.Cond.initialized "DimpleWells$Plain") ∈ lw_all := lw_g (lw_at lw_m1 27 rfl) rfl
theorem q573 : (Jvm.Cond.instantiable "DimpleWells$Plain" (1 : Nat)) ∈ lw_all := lw_g (lw_at lw_m2 237 rfl) rfl
theorem q575 : (Jvm.Cond.instanceMethod ({ cls := "DimpleWells$Plain", name := "<init>", desc := "(I)V" } : Jvm.MethodName)) ∈ lw_all := lw_g (lw_at lw_m2 239 rfl) rfl
theorem q576 : (Jvm.Cond.code ({ cls := "DimpleWells$Plain", name := "<init>", desc := "(I)V" } : Jvm.MethodName) prog_18_method_1_code (2 : Nat) (Option.none : Option Jvm.ClassFile.FieldType)) ∈ lw_all := lw_g (lw_at lw_m3 0 rfl) rfl
theorem q577 : (Jvm.Cond.methodLinkNest "DimpleWells$Plain" (1 : Nat) ({ cls := "DimpleWells$Term", name := "<init>", desc := "()V" } : Jvm.MethodName) "DimpleWells") ∈ lw_tbl := lw_at lw_m3 1 rfl
theorem q578 : (Jvm.Cond.fieldLink "DimpleWells$Plain" (7 : Nat) "DimpleWells$Plain" "n" "I") ∈ lw_all := lw_g (lw_at lw_m3 2 rfl) rfl
theorem q579 : (Jvm.Cond.laysFinal "DimpleWells$Plain" "DimpleWells$Plain" "n" "I") ∈ lw_all := lw_g (lw_at lw_m3 3 rfl) rfl
theorem q580 : (Jvm.Cond.soleField "DimpleWells$Plain" "n") ∈ lw_all := lw_g (lw_at lw_m3 4 rfl) rfl
theorem q581 : (Jvm.Cond.superclass "DimpleWells$Plain" "DimpleWells$Term") ∈ lw_all := lw_g (lw_at lw_m3 5 rfl) rfl
theorem q876 : (Jvm.Cond.instanceMethod ({ cls := "DimpleWells$Plain", name := "of", desc := "([I)I" } : Jvm.MethodName)) ∈ lw_all := lw_g (lw_at lw_m4 60 rfl) rfl
theorem q877 : (Jvm.Cond.code ({ cls := "DimpleWells$Plain", name := "of", desc := "([I)I" } : Jvm.MethodName) prog_18_method_2_code (2 : Nat) (Option.some Jvm.ClassFile.FieldType.int)) ∈ lw_all := lw_g (lw_at lw_m4 61 rfl) rfl
theorem q909 : (Jvm.Cond.selects "DimpleWells$Plain" ({ cls := "DimpleWells$Term", name := "of", desc := "([I)I" } : Jvm.MethodName) ({ cls := "DimpleWells$Plain", name := "of", desc := "([I)I" } : Jvm.MethodName)) ∈ lw_all := lw_g (lw_at lw_m4 93 rfl) rfl
theorem q1259 : (Jvm.Cond.selects "DimpleWells$Plain" ({ cls := "java/lang/Object", name := "getClass", desc := "()Ljava/lang/Class;" } : Jvm.MethodName) ({ cls := "java/lang/Object", name := "getClass", desc := "()Ljava/lang/Class;" } : Jvm.MethodName)) ∈ lw_all := lw_g (lw_at lw_m5 203 rfl) rfl
theorem q2591 : (Jvm.Cond.castable "DimpleWells$Plain" "java/lang/Object") ∈ lw_tbl := lw_at lw_m11 95 rfl
theorem in_X8 : ∀ w ∈ wsX80, w ∈ lw_all := lw_in wsX80 [579] (by decide +kernel) (by decide +kernel)
/-! DimpleWells$Season -/
set_option maxRecDepth 100000
def RX9 : String := "DimpleWells$Season"
def TX9 : u_T := fun k => match k with
  | 0 => ("DimpleWells$Season", "grief", "[I", true)
  | 1 => ("DimpleWells$Season", "thirst", "[I", true)
  | 2 => ("DimpleWells$Season", "heard", "[I", true)
  | 3 => ("DimpleWells$Season", "laughed", "[I", true)
  | 4 => ("DimpleWells$Season", "worn", "[I", true)
  | 5 => ("DimpleWells$Season", "busy", "I", false)
  | 6 => ("DimpleWells$Season", "jug", "I", false)
  | 7 => ("DimpleWells$Season", "day", "I", false)
  | 8 => ("DimpleWells$Season", "steps", "I", false)
  | 9 => ("DimpleWells$Season", "done", "I", false)
  | 10 => ("DimpleWells$Season", "refused", "I", false)
  | _ => ("DimpleWells$Season", "this$0", "LDimpleWells;", true)
def tyX9 : Nat → FieldType := fun k => match k with
  | 0 => .array .int
  | 1 => .array .int
  | 2 => .array .int
  | 3 => .array .int
  | 4 => .array .int
  | 5 => .int
  | 6 => .int
  | 7 => .int
  | 8 => .int
  | 9 => .int
  | 10 => .int
  | _ => .object "DimpleWells"
abbrev wsX90 : List Cond := u_ws RX9 TX9 12
theorem nmX9 : ∀ a, a < 12 → ∀ b, b < 12 → a ≠ b → (TX9 a).2.1 ≠ (TX9 b).2.1 := by decide +kernel
theorem tyX9_ok : ∀ k, k < 12 → parseFieldDescriptor (TX9 k).2.2.1 = some (tyX9 k) := by decide +kernel
abbrev cX9_init : ByteArray := prog_22_method_1_code
def yX9_init : MethodName := ⟨RX9, "<init>", "(LDimpleWells;)V"⟩
def dkwX9_init_2 : List UInt8 := [181, 0, 28, 177]
abbrev dktX9_init_2 : List UInt8 := dkwX9_init_2 ++ []
def dkwX9_init_1 : List UInt8 := [181, 0, 19, 42, 16, 7, 188, 10, 181, 0, 22, 42, 16, 7, 188, 10, 181, 0, 25, 42, 16, 42, 188, 10]
abbrev dktX9_init_1 : List UInt8 := dkwX9_init_1 ++ dktX9_init_2
def dkwX9_init_0 : List UInt8 := [42, 43, 181, 0, 3, 42, 183, 0, 9, 42, 16, 7, 188, 10, 181, 0, 15, 42, 16, 7, 188, 10]
abbrev dktX9_init_0 : List UInt8 := dkwX9_init_0 ++ dktX9_init_1
theorem dksX9_init_0 : cX9_init.data.toList.drop 0 = dktX9_init_0 := by decide +kernel
theorem dksX9_init_1 : cX9_init.data.toList.drop 22 = dktX9_init_1 := dk_seg dksX9_init_0 22 rfl rfl
theorem dksX9_init_2 : cX9_init.data.toList.drop 46 = dktX9_init_2 := dk_seg dksX9_init_1 24 rfl rfl
theorem dX9_init_0 : decode cX9_init 0 = .ok (.aload_n 0, 1) := dk_42 (dk_at dksX9_init_0 0 rfl rfl)
theorem dX9_init_1 : decode cX9_init 1 = .ok (.aload_n 1, 1) := dk_43 (dk_at dksX9_init_0 1 rfl rfl)
theorem dX9_init_2 : decode cX9_init 2 = .ok (.putfield 3, 3) := dk_181 0 3 (dk_at dksX9_init_0 2 rfl rfl)
theorem dX9_init_5 : decode cX9_init 5 = .ok (.aload_n 0, 1) := dk_42 (dk_at dksX9_init_0 5 rfl rfl)
theorem dX9_init_6 : decode cX9_init 6 = .ok (.invokespecial 9, 3) := dk_183 0 9 (dk_at dksX9_init_0 6 rfl rfl)
theorem dX9_init_9 : decode cX9_init 9 = .ok (.aload_n 0, 1) := dk_42 (dk_at dksX9_init_0 9 rfl rfl)
theorem dX9_init_10 : decode cX9_init 10 = .ok (.bipush 7, 2) := dk_16 7 (dk_at dksX9_init_0 10 rfl rfl)
theorem dX9_init_12 : decode cX9_init 12 = .ok (.newarray .int, 2) := dk_188_10 (dk_at dksX9_init_0 12 rfl rfl)
theorem dX9_init_14 : decode cX9_init 14 = .ok (.putfield 15, 3) := dk_181 0 15 (dk_at dksX9_init_0 14 rfl rfl)
theorem dX9_init_17 : decode cX9_init 17 = .ok (.aload_n 0, 1) := dk_42 (dk_at dksX9_init_0 17 rfl rfl)
theorem dX9_init_18 : decode cX9_init 18 = .ok (.bipush 7, 2) := dk_16 7 (dk_at dksX9_init_0 18 rfl rfl)
theorem dX9_init_20 : decode cX9_init 20 = .ok (.newarray .int, 2) := dk_188_10 (dk_at dksX9_init_0 20 rfl rfl)
theorem dX9_init_22 : decode cX9_init 22 = .ok (.putfield 19, 3) := dk_181 0 19 (dk_at dksX9_init_1 0 rfl rfl)
theorem dX9_init_25 : decode cX9_init 25 = .ok (.aload_n 0, 1) := dk_42 (dk_at dksX9_init_1 3 rfl rfl)
theorem dX9_init_26 : decode cX9_init 26 = .ok (.bipush 7, 2) := dk_16 7 (dk_at dksX9_init_1 4 rfl rfl)
theorem dX9_init_28 : decode cX9_init 28 = .ok (.newarray .int, 2) := dk_188_10 (dk_at dksX9_init_1 6 rfl rfl)
theorem dX9_init_30 : decode cX9_init 30 = .ok (.putfield 22, 3) := dk_181 0 22 (dk_at dksX9_init_1 8 rfl rfl)
theorem dX9_init_33 : decode cX9_init 33 = .ok (.aload_n 0, 1) := dk_42 (dk_at dksX9_init_1 11 rfl rfl)
theorem dX9_init_34 : decode cX9_init 34 = .ok (.bipush 7, 2) := dk_16 7 (dk_at dksX9_init_1 12 rfl rfl)
theorem dX9_init_36 : decode cX9_init 36 = .ok (.newarray .int, 2) := dk_188_10 (dk_at dksX9_init_1 14 rfl rfl)
theorem dX9_init_38 : decode cX9_init 38 = .ok (.putfield 25, 3) := dk_181 0 25 (dk_at dksX9_init_1 16 rfl rfl)
theorem dX9_init_41 : decode cX9_init 41 = .ok (.aload_n 0, 1) := dk_42 (dk_at dksX9_init_1 19 rfl rfl)
theorem dX9_init_42 : decode cX9_init 42 = .ok (.bipush 42, 2) := dk_16 42 (dk_at dksX9_init_1 20 rfl rfl)
theorem dX9_init_44 : decode cX9_init 44 = .ok (.newarray .int, 2) := dk_188_10 (dk_at dksX9_init_1 22 rfl rfl)
theorem dX9_init_46 : decode cX9_init 46 = .ok (.putfield 28, 3) := dk_181 0 28 (dk_at dksX9_init_2 0 rfl rfl)
theorem dX9_init_49 : decode cX9_init 49 = .ok (.return_, 1) := dk_177 (dk_at dksX9_init_2 3 rfl rfl)
abbrev cX9_begins : ByteArray := prog_22_method_2_code
def yX9_begins : MethodName := ⟨RX9, "begins", "()LDimpleWells$Season;"⟩
def dkwX9_begins_3 : List UInt8 := [180, 0, 3, 180, 0, 35, 180, 0, 39, 181, 0, 44, 42, 3, 181, 0, 45, 42, 176]
abbrev dktX9_begins_3 : List UInt8 := dkwX9_begins_3 ++ []
def dkwX9_begins_2 : List UInt8 := [162, 0, 16, 42, 180, 0, 28, 27, 3, 79, 132, 1, 1, 167, 255, 240, 42, 3, 181, 0, 31, 42, 42]
abbrev dktX9_begins_2 : List UInt8 := dkwX9_begins_2 ++ dktX9_begins_3
def dkwX9_begins_1 : List UInt8 := [180, 0, 22, 27, 3, 79, 42, 180, 0, 25, 27, 3, 79, 132, 1, 1, 167, 255, 219, 3, 60, 27, 16, 42]
abbrev dktX9_begins_1 : List UInt8 := dkwX9_begins_1 ++ dktX9_begins_2
def dkwX9_begins_0 : List UInt8 := [3, 60, 27, 16, 7, 162, 0, 37, 42, 180, 0, 15, 27, 3, 79, 42, 180, 0, 19, 27, 3, 79, 42]
abbrev dktX9_begins_0 : List UInt8 := dkwX9_begins_0 ++ dktX9_begins_1
theorem dksX9_begins_0 : cX9_begins.data.toList.drop 0 = dktX9_begins_0 := by decide +kernel
theorem dksX9_begins_1 : cX9_begins.data.toList.drop 23 = dktX9_begins_1 := dk_seg dksX9_begins_0 23 rfl rfl
theorem dksX9_begins_2 : cX9_begins.data.toList.drop 47 = dktX9_begins_2 := dk_seg dksX9_begins_1 24 rfl rfl
theorem dksX9_begins_3 : cX9_begins.data.toList.drop 70 = dktX9_begins_3 := dk_seg dksX9_begins_2 23 rfl rfl
theorem dX9_begins_0 : decode cX9_begins 0 = .ok (.iconst 0, 1) := dk_3 (dk_at dksX9_begins_0 0 rfl rfl)
theorem dX9_begins_1 : decode cX9_begins 1 = .ok (.istore_n 1, 1) := dk_60 (dk_at dksX9_begins_0 1 rfl rfl)
theorem dX9_begins_2 : decode cX9_begins 2 = .ok (.iload_n 1, 1) := dk_27 (dk_at dksX9_begins_0 2 rfl rfl)
theorem dX9_begins_3 : decode cX9_begins 3 = .ok (.bipush 7, 2) := dk_16 7 (dk_at dksX9_begins_0 3 rfl rfl)
theorem dX9_begins_5 : decode cX9_begins 5 = .ok (.if_icmp .ge 37, 3) := dk_162 0 37 (dk_at dksX9_begins_0 5 rfl rfl)
theorem dX9_begins_8 : decode cX9_begins 8 = .ok (.aload_n 0, 1) := dk_42 (dk_at dksX9_begins_0 8 rfl rfl)
theorem dX9_begins_9 : decode cX9_begins 9 = .ok (.getfield 15, 3) := dk_180 0 15 (dk_at dksX9_begins_0 9 rfl rfl)
theorem dX9_begins_12 : decode cX9_begins 12 = .ok (.iload_n 1, 1) := dk_27 (dk_at dksX9_begins_0 12 rfl rfl)
theorem dX9_begins_13 : decode cX9_begins 13 = .ok (.iconst 0, 1) := dk_3 (dk_at dksX9_begins_0 13 rfl rfl)
theorem dX9_begins_14 : decode cX9_begins 14 = .ok (.iastore, 1) := dk_79 (dk_at dksX9_begins_0 14 rfl rfl)
theorem dX9_begins_15 : decode cX9_begins 15 = .ok (.aload_n 0, 1) := dk_42 (dk_at dksX9_begins_0 15 rfl rfl)
theorem dX9_begins_16 : decode cX9_begins 16 = .ok (.getfield 19, 3) := dk_180 0 19 (dk_at dksX9_begins_0 16 rfl rfl)
theorem dX9_begins_19 : decode cX9_begins 19 = .ok (.iload_n 1, 1) := dk_27 (dk_at dksX9_begins_0 19 rfl rfl)
theorem dX9_begins_20 : decode cX9_begins 20 = .ok (.iconst 0, 1) := dk_3 (dk_at dksX9_begins_0 20 rfl rfl)
theorem dX9_begins_21 : decode cX9_begins 21 = .ok (.iastore, 1) := dk_79 (dk_at dksX9_begins_0 21 rfl rfl)
theorem dX9_begins_22 : decode cX9_begins 22 = .ok (.aload_n 0, 1) := dk_42 (dk_at dksX9_begins_0 22 rfl rfl)
theorem dX9_begins_23 : decode cX9_begins 23 = .ok (.getfield 22, 3) := dk_180 0 22 (dk_at dksX9_begins_1 0 rfl rfl)
theorem dX9_begins_26 : decode cX9_begins 26 = .ok (.iload_n 1, 1) := dk_27 (dk_at dksX9_begins_1 3 rfl rfl)
theorem dX9_begins_27 : decode cX9_begins 27 = .ok (.iconst 0, 1) := dk_3 (dk_at dksX9_begins_1 4 rfl rfl)
theorem dX9_begins_28 : decode cX9_begins 28 = .ok (.iastore, 1) := dk_79 (dk_at dksX9_begins_1 5 rfl rfl)
theorem dX9_begins_29 : decode cX9_begins 29 = .ok (.aload_n 0, 1) := dk_42 (dk_at dksX9_begins_1 6 rfl rfl)
theorem dX9_begins_30 : decode cX9_begins 30 = .ok (.getfield 25, 3) := dk_180 0 25 (dk_at dksX9_begins_1 7 rfl rfl)
theorem dX9_begins_33 : decode cX9_begins 33 = .ok (.iload_n 1, 1) := dk_27 (dk_at dksX9_begins_1 10 rfl rfl)
theorem dX9_begins_34 : decode cX9_begins 34 = .ok (.iconst 0, 1) := dk_3 (dk_at dksX9_begins_1 11 rfl rfl)
theorem dX9_begins_35 : decode cX9_begins 35 = .ok (.iastore, 1) := dk_79 (dk_at dksX9_begins_1 12 rfl rfl)
theorem dX9_begins_36 : decode cX9_begins 36 = .ok (.iinc 1 1, 3) := dk_132 1 1 (dk_at dksX9_begins_1 13 rfl rfl)
theorem dX9_begins_39 : decode cX9_begins 39 = .ok (.goto (-37), 3) := dk_167 255 219 (dk_at dksX9_begins_1 16 rfl rfl)
theorem dX9_begins_42 : decode cX9_begins 42 = .ok (.iconst 0, 1) := dk_3 (dk_at dksX9_begins_1 19 rfl rfl)
theorem dX9_begins_43 : decode cX9_begins 43 = .ok (.istore_n 1, 1) := dk_60 (dk_at dksX9_begins_1 20 rfl rfl)
theorem dX9_begins_44 : decode cX9_begins 44 = .ok (.iload_n 1, 1) := dk_27 (dk_at dksX9_begins_1 21 rfl rfl)
theorem dX9_begins_45 : decode cX9_begins 45 = .ok (.bipush 42, 2) := dk_16 42 (dk_at dksX9_begins_1 22 rfl rfl)
theorem dX9_begins_47 : decode cX9_begins 47 = .ok (.if_icmp .ge 16, 3) := dk_162 0 16 (dk_at dksX9_begins_2 0 rfl rfl)
theorem dX9_begins_50 : decode cX9_begins 50 = .ok (.aload_n 0, 1) := dk_42 (dk_at dksX9_begins_2 3 rfl rfl)
theorem dX9_begins_51 : decode cX9_begins 51 = .ok (.getfield 28, 3) := dk_180 0 28 (dk_at dksX9_begins_2 4 rfl rfl)
theorem dX9_begins_54 : decode cX9_begins 54 = .ok (.iload_n 1, 1) := dk_27 (dk_at dksX9_begins_2 7 rfl rfl)
theorem dX9_begins_55 : decode cX9_begins 55 = .ok (.iconst 0, 1) := dk_3 (dk_at dksX9_begins_2 8 rfl rfl)
theorem dX9_begins_56 : decode cX9_begins 56 = .ok (.iastore, 1) := dk_79 (dk_at dksX9_begins_2 9 rfl rfl)
theorem dX9_begins_57 : decode cX9_begins 57 = .ok (.iinc 1 1, 3) := dk_132 1 1 (dk_at dksX9_begins_2 10 rfl rfl)
theorem dX9_begins_60 : decode cX9_begins 60 = .ok (.goto (-16), 3) := dk_167 255 240 (dk_at dksX9_begins_2 13 rfl rfl)
theorem dX9_begins_63 : decode cX9_begins 63 = .ok (.aload_n 0, 1) := dk_42 (dk_at dksX9_begins_2 16 rfl rfl)
theorem dX9_begins_64 : decode cX9_begins 64 = .ok (.iconst 0, 1) := dk_3 (dk_at dksX9_begins_2 17 rfl rfl)
theorem dX9_begins_65 : decode cX9_begins 65 = .ok (.putfield 31, 3) := dk_181 0 31 (dk_at dksX9_begins_2 18 rfl rfl)
theorem dX9_begins_68 : decode cX9_begins 68 = .ok (.aload_n 0, 1) := dk_42 (dk_at dksX9_begins_2 21 rfl rfl)
theorem dX9_begins_69 : decode cX9_begins 69 = .ok (.aload_n 0, 1) := dk_42 (dk_at dksX9_begins_2 22 rfl rfl)
theorem dX9_begins_70 : decode cX9_begins 70 = .ok (.getfield 3, 3) := dk_180 0 3 (dk_at dksX9_begins_3 0 rfl rfl)
theorem dX9_begins_73 : decode cX9_begins 73 = .ok (.getfield 35, 3) := dk_180 0 35 (dk_at dksX9_begins_3 3 rfl rfl)
theorem dX9_begins_76 : decode cX9_begins 76 = .ok (.getfield 39, 3) := dk_180 0 39 (dk_at dksX9_begins_3 6 rfl rfl)
theorem dX9_begins_79 : decode cX9_begins 79 = .ok (.putfield 44, 3) := dk_181 0 44 (dk_at dksX9_begins_3 9 rfl rfl)
theorem dX9_begins_82 : decode cX9_begins 82 = .ok (.aload_n 0, 1) := dk_42 (dk_at dksX9_begins_3 12 rfl rfl)
theorem dX9_begins_83 : decode cX9_begins 83 = .ok (.iconst 0, 1) := dk_3 (dk_at dksX9_begins_3 13 rfl rfl)
theorem dX9_begins_84 : decode cX9_begins 84 = .ok (.putfield 45, 3) := dk_181 0 45 (dk_at dksX9_begins_3 14 rfl rfl)
theorem dX9_begins_87 : decode cX9_begins 87 = .ok (.aload_n 0, 1) := dk_42 (dk_at dksX9_begins_3 17 rfl rfl)
theorem dX9_begins_88 : decode cX9_begins 88 = .ok (.areturn, 1) := dk_176 (dk_at dksX9_begins_3 18 rfl rfl)
abbrev cX9_becomes : ByteArray := prog_22_method_3_code
def yX9_becomes : MethodName := ⟨RX9, "becomes", "(LDimpleWells$Season;)LDimpleWells$Season;"⟩
def dkwX9_becomes_4 : List UInt8 := [180, 0, 45, 181, 0, 45, 42, 176]
abbrev dktX9_becomes_4 : List UInt8 := dkwX9_becomes_4 ++ []
def dkwX9_becomes_3 : List UInt8 := [16, 42, 184, 0, 48, 42, 43, 180, 0, 31, 181, 0, 31, 42, 43, 180, 0, 44, 181, 0, 44, 42, 43]
abbrev dktX9_becomes_3 : List UInt8 := dkwX9_becomes_3 ++ dktX9_becomes_4
def dkwX9_becomes_2 : List UInt8 := [180, 0, 25, 3, 42, 180, 0, 25, 3, 16, 7, 184, 0, 48, 43, 180, 0, 28, 3, 42, 180, 0, 28, 3]
abbrev dktX9_becomes_2 : List UInt8 := dkwX9_becomes_2 ++ dktX9_becomes_3
def dkwX9_becomes_1 : List UInt8 := [3, 16, 7, 184, 0, 48, 43, 180, 0, 22, 3, 42, 180, 0, 22, 3, 16, 7, 184, 0, 48, 43]
abbrev dktX9_becomes_1 : List UInt8 := dkwX9_becomes_1 ++ dktX9_becomes_2
def dkwX9_becomes_0 : List UInt8 := [43, 180, 0, 15, 3, 42, 180, 0, 15, 3, 16, 7, 184, 0, 48, 43, 180, 0, 19, 3, 42, 180, 0, 19]
abbrev dktX9_becomes_0 : List UInt8 := dkwX9_becomes_0 ++ dktX9_becomes_1
theorem dksX9_becomes_0 : cX9_becomes.data.toList.drop 0 = dktX9_becomes_0 := by decide +kernel
theorem dksX9_becomes_1 : cX9_becomes.data.toList.drop 24 = dktX9_becomes_1 := dk_seg dksX9_becomes_0 24 rfl rfl
theorem dksX9_becomes_2 : cX9_becomes.data.toList.drop 46 = dktX9_becomes_2 := dk_seg dksX9_becomes_1 22 rfl rfl
theorem dksX9_becomes_3 : cX9_becomes.data.toList.drop 70 = dktX9_becomes_3 := dk_seg dksX9_becomes_2 24 rfl rfl
theorem dksX9_becomes_4 : cX9_becomes.data.toList.drop 93 = dktX9_becomes_4 := dk_seg dksX9_becomes_3 23 rfl rfl
theorem dX9_becomes_0 : decode cX9_becomes 0 = .ok (.aload_n 1, 1) := dk_43 (dk_at dksX9_becomes_0 0 rfl rfl)
theorem dX9_becomes_1 : decode cX9_becomes 1 = .ok (.getfield 15, 3) := dk_180 0 15 (dk_at dksX9_becomes_0 1 rfl rfl)
theorem dX9_becomes_4 : decode cX9_becomes 4 = .ok (.iconst 0, 1) := dk_3 (dk_at dksX9_becomes_0 4 rfl rfl)
theorem dX9_becomes_5 : decode cX9_becomes 5 = .ok (.aload_n 0, 1) := dk_42 (dk_at dksX9_becomes_0 5 rfl rfl)
theorem dX9_becomes_6 : decode cX9_becomes 6 = .ok (.getfield 15, 3) := dk_180 0 15 (dk_at dksX9_becomes_0 6 rfl rfl)
theorem dX9_becomes_9 : decode cX9_becomes 9 = .ok (.iconst 0, 1) := dk_3 (dk_at dksX9_becomes_0 9 rfl rfl)
theorem dX9_becomes_10 : decode cX9_becomes 10 = .ok (.bipush 7, 2) := dk_16 7 (dk_at dksX9_becomes_0 10 rfl rfl)
theorem dX9_becomes_12 : decode cX9_becomes 12 = .ok (.invokestatic 48, 3) := dk_184 0 48 (dk_at dksX9_becomes_0 12 rfl rfl)
theorem dX9_becomes_15 : decode cX9_becomes 15 = .ok (.aload_n 1, 1) := dk_43 (dk_at dksX9_becomes_0 15 rfl rfl)
theorem dX9_becomes_16 : decode cX9_becomes 16 = .ok (.getfield 19, 3) := dk_180 0 19 (dk_at dksX9_becomes_0 16 rfl rfl)
theorem dX9_becomes_19 : decode cX9_becomes 19 = .ok (.iconst 0, 1) := dk_3 (dk_at dksX9_becomes_0 19 rfl rfl)
theorem dX9_becomes_20 : decode cX9_becomes 20 = .ok (.aload_n 0, 1) := dk_42 (dk_at dksX9_becomes_0 20 rfl rfl)
theorem dX9_becomes_21 : decode cX9_becomes 21 = .ok (.getfield 19, 3) := dk_180 0 19 (dk_at dksX9_becomes_0 21 rfl rfl)
theorem dX9_becomes_24 : decode cX9_becomes 24 = .ok (.iconst 0, 1) := dk_3 (dk_at dksX9_becomes_1 0 rfl rfl)
theorem dX9_becomes_25 : decode cX9_becomes 25 = .ok (.bipush 7, 2) := dk_16 7 (dk_at dksX9_becomes_1 1 rfl rfl)
theorem dX9_becomes_27 : decode cX9_becomes 27 = .ok (.invokestatic 48, 3) := dk_184 0 48 (dk_at dksX9_becomes_1 3 rfl rfl)
theorem dX9_becomes_30 : decode cX9_becomes 30 = .ok (.aload_n 1, 1) := dk_43 (dk_at dksX9_becomes_1 6 rfl rfl)
theorem dX9_becomes_31 : decode cX9_becomes 31 = .ok (.getfield 22, 3) := dk_180 0 22 (dk_at dksX9_becomes_1 7 rfl rfl)
theorem dX9_becomes_34 : decode cX9_becomes 34 = .ok (.iconst 0, 1) := dk_3 (dk_at dksX9_becomes_1 10 rfl rfl)
theorem dX9_becomes_35 : decode cX9_becomes 35 = .ok (.aload_n 0, 1) := dk_42 (dk_at dksX9_becomes_1 11 rfl rfl)
theorem dX9_becomes_36 : decode cX9_becomes 36 = .ok (.getfield 22, 3) := dk_180 0 22 (dk_at dksX9_becomes_1 12 rfl rfl)
theorem dX9_becomes_39 : decode cX9_becomes 39 = .ok (.iconst 0, 1) := dk_3 (dk_at dksX9_becomes_1 15 rfl rfl)
theorem dX9_becomes_40 : decode cX9_becomes 40 = .ok (.bipush 7, 2) := dk_16 7 (dk_at dksX9_becomes_1 16 rfl rfl)
theorem dX9_becomes_42 : decode cX9_becomes 42 = .ok (.invokestatic 48, 3) := dk_184 0 48 (dk_at dksX9_becomes_1 18 rfl rfl)
theorem dX9_becomes_45 : decode cX9_becomes 45 = .ok (.aload_n 1, 1) := dk_43 (dk_at dksX9_becomes_1 21 rfl rfl)
theorem dX9_becomes_46 : decode cX9_becomes 46 = .ok (.getfield 25, 3) := dk_180 0 25 (dk_at dksX9_becomes_2 0 rfl rfl)
theorem dX9_becomes_49 : decode cX9_becomes 49 = .ok (.iconst 0, 1) := dk_3 (dk_at dksX9_becomes_2 3 rfl rfl)
theorem dX9_becomes_50 : decode cX9_becomes 50 = .ok (.aload_n 0, 1) := dk_42 (dk_at dksX9_becomes_2 4 rfl rfl)
theorem dX9_becomes_51 : decode cX9_becomes 51 = .ok (.getfield 25, 3) := dk_180 0 25 (dk_at dksX9_becomes_2 5 rfl rfl)
theorem dX9_becomes_54 : decode cX9_becomes 54 = .ok (.iconst 0, 1) := dk_3 (dk_at dksX9_becomes_2 8 rfl rfl)
theorem dX9_becomes_55 : decode cX9_becomes 55 = .ok (.bipush 7, 2) := dk_16 7 (dk_at dksX9_becomes_2 9 rfl rfl)
theorem dX9_becomes_57 : decode cX9_becomes 57 = .ok (.invokestatic 48, 3) := dk_184 0 48 (dk_at dksX9_becomes_2 11 rfl rfl)
theorem dX9_becomes_60 : decode cX9_becomes 60 = .ok (.aload_n 1, 1) := dk_43 (dk_at dksX9_becomes_2 14 rfl rfl)
theorem dX9_becomes_61 : decode cX9_becomes 61 = .ok (.getfield 28, 3) := dk_180 0 28 (dk_at dksX9_becomes_2 15 rfl rfl)
theorem dX9_becomes_64 : decode cX9_becomes 64 = .ok (.iconst 0, 1) := dk_3 (dk_at dksX9_becomes_2 18 rfl rfl)
theorem dX9_becomes_65 : decode cX9_becomes 65 = .ok (.aload_n 0, 1) := dk_42 (dk_at dksX9_becomes_2 19 rfl rfl)
theorem dX9_becomes_66 : decode cX9_becomes 66 = .ok (.getfield 28, 3) := dk_180 0 28 (dk_at dksX9_becomes_2 20 rfl rfl)
theorem dX9_becomes_69 : decode cX9_becomes 69 = .ok (.iconst 0, 1) := dk_3 (dk_at dksX9_becomes_2 23 rfl rfl)
theorem dX9_becomes_70 : decode cX9_becomes 70 = .ok (.bipush 42, 2) := dk_16 42 (dk_at dksX9_becomes_3 0 rfl rfl)
theorem dX9_becomes_72 : decode cX9_becomes 72 = .ok (.invokestatic 48, 3) := dk_184 0 48 (dk_at dksX9_becomes_3 2 rfl rfl)
theorem dX9_becomes_75 : decode cX9_becomes 75 = .ok (.aload_n 0, 1) := dk_42 (dk_at dksX9_becomes_3 5 rfl rfl)
theorem dX9_becomes_76 : decode cX9_becomes 76 = .ok (.aload_n 1, 1) := dk_43 (dk_at dksX9_becomes_3 6 rfl rfl)
theorem dX9_becomes_77 : decode cX9_becomes 77 = .ok (.getfield 31, 3) := dk_180 0 31 (dk_at dksX9_becomes_3 7 rfl rfl)
theorem dX9_becomes_80 : decode cX9_becomes 80 = .ok (.putfield 31, 3) := dk_181 0 31 (dk_at dksX9_becomes_3 10 rfl rfl)
theorem dX9_becomes_83 : decode cX9_becomes 83 = .ok (.aload_n 0, 1) := dk_42 (dk_at dksX9_becomes_3 13 rfl rfl)
theorem dX9_becomes_84 : decode cX9_becomes 84 = .ok (.aload_n 1, 1) := dk_43 (dk_at dksX9_becomes_3 14 rfl rfl)
theorem dX9_becomes_85 : decode cX9_becomes 85 = .ok (.getfield 44, 3) := dk_180 0 44 (dk_at dksX9_becomes_3 15 rfl rfl)
theorem dX9_becomes_88 : decode cX9_becomes 88 = .ok (.putfield 44, 3) := dk_181 0 44 (dk_at dksX9_becomes_3 18 rfl rfl)
theorem dX9_becomes_91 : decode cX9_becomes 91 = .ok (.aload_n 0, 1) := dk_42 (dk_at dksX9_becomes_3 21 rfl rfl)
theorem dX9_becomes_92 : decode cX9_becomes 92 = .ok (.aload_n 1, 1) := dk_43 (dk_at dksX9_becomes_3 22 rfl rfl)
theorem dX9_becomes_93 : decode cX9_becomes 93 = .ok (.getfield 45, 3) := dk_180 0 45 (dk_at dksX9_becomes_4 0 rfl rfl)
theorem dX9_becomes_96 : decode cX9_becomes 96 = .ok (.putfield 45, 3) := dk_181 0 45 (dk_at dksX9_becomes_4 3 rfl rfl)
theorem dX9_becomes_99 : decode cX9_becomes 99 = .ok (.aload_n 0, 1) := dk_42 (dk_at dksX9_becomes_4 6 rfl rfl)
theorem dX9_becomes_100 : decode cX9_becomes 100 = .ok (.areturn, 1) := dk_176 (dk_at dksX9_becomes_4 7 rfl rfl)
abbrev cX9_sum : ByteArray := prog_22_method_5_code
def yX9_sum : MethodName := ⟨RX9, "sum", "([I)I"⟩
def dkwX9_sum_1 : List UInt8 := [167, 255, 236, 28, 172]
abbrev dktX9_sum_1 : List UInt8 := dkwX9_sum_1 ++ []
def dkwX9_sum_0 : List UInt8 := [3, 61, 3, 62, 29, 42, 180, 0, 3, 182, 0, 54, 162, 0, 15, 28, 43, 29, 46, 96, 61, 132, 3, 1]
abbrev dktX9_sum_0 : List UInt8 := dkwX9_sum_0 ++ dktX9_sum_1
theorem dksX9_sum_0 : cX9_sum.data.toList.drop 0 = dktX9_sum_0 := by decide +kernel
theorem dksX9_sum_1 : cX9_sum.data.toList.drop 24 = dktX9_sum_1 := dk_seg dksX9_sum_0 24 rfl rfl
theorem dX9_sum_0 : decode cX9_sum 0 = .ok (.iconst 0, 1) := dk_3 (dk_at dksX9_sum_0 0 rfl rfl)
theorem dX9_sum_1 : decode cX9_sum 1 = .ok (.istore_n 2, 1) := dk_61 (dk_at dksX9_sum_0 1 rfl rfl)
theorem dX9_sum_2 : decode cX9_sum 2 = .ok (.iconst 0, 1) := dk_3 (dk_at dksX9_sum_0 2 rfl rfl)
theorem dX9_sum_3 : decode cX9_sum 3 = .ok (.istore_n 3, 1) := dk_62 (dk_at dksX9_sum_0 3 rfl rfl)
theorem dX9_sum_4 : decode cX9_sum 4 = .ok (.iload_n 3, 1) := dk_29 (dk_at dksX9_sum_0 4 rfl rfl)
theorem dX9_sum_5 : decode cX9_sum 5 = .ok (.aload_n 0, 1) := dk_42 (dk_at dksX9_sum_0 5 rfl rfl)
theorem dX9_sum_6 : decode cX9_sum 6 = .ok (.getfield 3, 3) := dk_180 0 3 (dk_at dksX9_sum_0 6 rfl rfl)
theorem dX9_sum_9 : decode cX9_sum 9 = .ok (.invokevirtual 54, 3) := dk_182 0 54 (dk_at dksX9_sum_0 9 rfl rfl)
theorem dX9_sum_12 : decode cX9_sum 12 = .ok (.if_icmp .ge 15, 3) := dk_162 0 15 (dk_at dksX9_sum_0 12 rfl rfl)
theorem dX9_sum_15 : decode cX9_sum 15 = .ok (.iload_n 2, 1) := dk_28 (dk_at dksX9_sum_0 15 rfl rfl)
theorem dX9_sum_16 : decode cX9_sum 16 = .ok (.aload_n 1, 1) := dk_43 (dk_at dksX9_sum_0 16 rfl rfl)
theorem dX9_sum_17 : decode cX9_sum 17 = .ok (.iload_n 3, 1) := dk_29 (dk_at dksX9_sum_0 17 rfl rfl)
theorem dX9_sum_18 : decode cX9_sum 18 = .ok (.iaload, 1) := dk_46 (dk_at dksX9_sum_0 18 rfl rfl)
theorem dX9_sum_19 : decode cX9_sum 19 = .ok (.iadd, 1) := dk_96 (dk_at dksX9_sum_0 19 rfl rfl)
theorem dX9_sum_20 : decode cX9_sum 20 = .ok (.istore_n 2, 1) := dk_61 (dk_at dksX9_sum_0 20 rfl rfl)
theorem dX9_sum_21 : decode cX9_sum 21 = .ok (.iinc 3 1, 3) := dk_132 3 1 (dk_at dksX9_sum_0 21 rfl rfl)
theorem dX9_sum_24 : decode cX9_sum 24 = .ok (.goto (-20), 3) := dk_167 255 236 (dk_at dksX9_sum_1 0 rfl rfl)
theorem dX9_sum_27 : decode cX9_sum 27 = .ok (.iload_n 2, 1) := dk_28 (dk_at dksX9_sum_1 3 rfl rfl)
theorem dX9_sum_28 : decode cX9_sum 28 = .ok (.ireturn, 1) := dk_172 (dk_at dksX9_sum_1 4 rfl rfl)
abbrev cX9_passes : ByteArray := prog_22_method_15_code
def yX9_passes : MethodName := ⟨RX9, "passes", "()V"⟩
def dkwX9_passes_5 : List UInt8 := [180, 0, 45, 4, 96, 181, 0, 45, 177]
abbrev dktX9_passes_5 : List UInt8 := dkwX9_passes_5 ++ []
def dkwX9_passes_4 : List UInt8 := [180, 0, 15, 27, 46, 4, 100, 184, 0, 125, 79, 132, 1, 1, 167, 255, 148, 42, 3, 181, 0, 31, 42, 89]
abbrev dktX9_passes_4 : List UInt8 := dkwX9_passes_4 ++ dktX9_passes_5
def dkwX9_passes_3 : List UInt8 := [42, 180, 0, 3, 180, 0, 35, 180, 0, 122, 96, 28, 100, 184, 0, 114, 79, 42, 180, 0, 15, 27, 3, 42]
abbrev dktX9_passes_3 : List UInt8 := dkwX9_passes_3 ++ dktX9_passes_4
def dkwX9_passes_2 : List UInt8 := [180, 0, 3, 180, 0, 35, 180, 0, 122, 160, 0, 7, 3, 167, 0, 27, 16, 99, 42, 180, 0, 19, 27, 46]
abbrev dktX9_passes_2 : List UInt8 := dkwX9_passes_2 ++ dktX9_passes_3
def dkwX9_passes_1 : List UInt8 := [180, 0, 122, 184, 0, 114, 61, 42, 89, 180, 0, 44, 28, 100, 181, 0, 44, 42, 180, 0, 19, 27, 28, 42]
abbrev dktX9_passes_1 : List UInt8 := dkwX9_passes_1 ++ dktX9_passes_2
def dkwX9_passes_0 : List UInt8 := [3, 60, 27, 42, 180, 0, 3, 182, 0, 54, 162, 0, 103, 42, 180, 0, 44, 42, 180, 0, 3, 180, 0, 35]
abbrev dktX9_passes_0 : List UInt8 := dkwX9_passes_0 ++ dktX9_passes_1
theorem dksX9_passes_0 : cX9_passes.data.toList.drop 0 = dktX9_passes_0 := by decide +kernel
theorem dksX9_passes_1 : cX9_passes.data.toList.drop 24 = dktX9_passes_1 := dk_seg dksX9_passes_0 24 rfl rfl
theorem dksX9_passes_2 : cX9_passes.data.toList.drop 48 = dktX9_passes_2 := dk_seg dksX9_passes_1 24 rfl rfl
theorem dksX9_passes_3 : cX9_passes.data.toList.drop 72 = dktX9_passes_3 := dk_seg dksX9_passes_2 24 rfl rfl
theorem dksX9_passes_4 : cX9_passes.data.toList.drop 96 = dktX9_passes_4 := dk_seg dksX9_passes_3 24 rfl rfl
theorem dksX9_passes_5 : cX9_passes.data.toList.drop 120 = dktX9_passes_5 := dk_seg dksX9_passes_4 24 rfl rfl
theorem dX9_passes_0 : decode cX9_passes 0 = .ok (.iconst 0, 1) := dk_3 (dk_at dksX9_passes_0 0 rfl rfl)
theorem dX9_passes_1 : decode cX9_passes 1 = .ok (.istore_n 1, 1) := dk_60 (dk_at dksX9_passes_0 1 rfl rfl)
theorem dX9_passes_2 : decode cX9_passes 2 = .ok (.iload_n 1, 1) := dk_27 (dk_at dksX9_passes_0 2 rfl rfl)
theorem dX9_passes_3 : decode cX9_passes 3 = .ok (.aload_n 0, 1) := dk_42 (dk_at dksX9_passes_0 3 rfl rfl)
theorem dX9_passes_4 : decode cX9_passes 4 = .ok (.getfield 3, 3) := dk_180 0 3 (dk_at dksX9_passes_0 4 rfl rfl)
theorem dX9_passes_7 : decode cX9_passes 7 = .ok (.invokevirtual 54, 3) := dk_182 0 54 (dk_at dksX9_passes_0 7 rfl rfl)
theorem dX9_passes_10 : decode cX9_passes 10 = .ok (.if_icmp .ge 103, 3) := dk_162 0 103 (dk_at dksX9_passes_0 10 rfl rfl)
theorem dX9_passes_13 : decode cX9_passes 13 = .ok (.aload_n 0, 1) := dk_42 (dk_at dksX9_passes_0 13 rfl rfl)
theorem dX9_passes_14 : decode cX9_passes 14 = .ok (.getfield 44, 3) := dk_180 0 44 (dk_at dksX9_passes_0 14 rfl rfl)
theorem dX9_passes_17 : decode cX9_passes 17 = .ok (.aload_n 0, 1) := dk_42 (dk_at dksX9_passes_0 17 rfl rfl)
theorem dX9_passes_18 : decode cX9_passes 18 = .ok (.getfield 3, 3) := dk_180 0 3 (dk_at dksX9_passes_0 18 rfl rfl)
theorem dX9_passes_21 : decode cX9_passes 21 = .ok (.getfield 35, 3) := dk_180 0 35 (dk_at dksX9_passes_0 21 rfl rfl)
theorem dX9_passes_24 : decode cX9_passes 24 = .ok (.getfield 122, 3) := dk_180 0 122 (dk_at dksX9_passes_1 0 rfl rfl)
theorem dX9_passes_27 : decode cX9_passes 27 = .ok (.invokestatic 114, 3) := dk_184 0 114 (dk_at dksX9_passes_1 3 rfl rfl)
theorem dX9_passes_30 : decode cX9_passes 30 = .ok (.istore_n 2, 1) := dk_61 (dk_at dksX9_passes_1 6 rfl rfl)
theorem dX9_passes_31 : decode cX9_passes 31 = .ok (.aload_n 0, 1) := dk_42 (dk_at dksX9_passes_1 7 rfl rfl)
theorem dX9_passes_32 : decode cX9_passes 32 = .ok (.dup, 1) := dk_89 (dk_at dksX9_passes_1 8 rfl rfl)
theorem dX9_passes_33 : decode cX9_passes 33 = .ok (.getfield 44, 3) := dk_180 0 44 (dk_at dksX9_passes_1 9 rfl rfl)
theorem dX9_passes_36 : decode cX9_passes 36 = .ok (.iload_n 2, 1) := dk_28 (dk_at dksX9_passes_1 12 rfl rfl)
theorem dX9_passes_37 : decode cX9_passes 37 = .ok (.isub, 1) := dk_100 (dk_at dksX9_passes_1 13 rfl rfl)
theorem dX9_passes_38 : decode cX9_passes 38 = .ok (.putfield 44, 3) := dk_181 0 44 (dk_at dksX9_passes_1 14 rfl rfl)
theorem dX9_passes_41 : decode cX9_passes 41 = .ok (.aload_n 0, 1) := dk_42 (dk_at dksX9_passes_1 17 rfl rfl)
theorem dX9_passes_42 : decode cX9_passes 42 = .ok (.getfield 19, 3) := dk_180 0 19 (dk_at dksX9_passes_1 18 rfl rfl)
theorem dX9_passes_45 : decode cX9_passes 45 = .ok (.iload_n 1, 1) := dk_27 (dk_at dksX9_passes_1 21 rfl rfl)
theorem dX9_passes_46 : decode cX9_passes 46 = .ok (.iload_n 2, 1) := dk_28 (dk_at dksX9_passes_1 22 rfl rfl)
theorem dX9_passes_47 : decode cX9_passes 47 = .ok (.aload_n 0, 1) := dk_42 (dk_at dksX9_passes_1 23 rfl rfl)
theorem dX9_passes_48 : decode cX9_passes 48 = .ok (.getfield 3, 3) := dk_180 0 3 (dk_at dksX9_passes_2 0 rfl rfl)
theorem dX9_passes_51 : decode cX9_passes 51 = .ok (.getfield 35, 3) := dk_180 0 35 (dk_at dksX9_passes_2 3 rfl rfl)
theorem dX9_passes_54 : decode cX9_passes 54 = .ok (.getfield 122, 3) := dk_180 0 122 (dk_at dksX9_passes_2 6 rfl rfl)
theorem dX9_passes_57 : decode cX9_passes 57 = .ok (.if_icmp .ne 7, 3) := dk_160 0 7 (dk_at dksX9_passes_2 9 rfl rfl)
theorem dX9_passes_60 : decode cX9_passes 60 = .ok (.iconst 0, 1) := dk_3 (dk_at dksX9_passes_2 12 rfl rfl)
theorem dX9_passes_61 : decode cX9_passes 61 = .ok (.goto 27, 3) := dk_167 0 27 (dk_at dksX9_passes_2 13 rfl rfl)
theorem dX9_passes_64 : decode cX9_passes 64 = .ok (.bipush 99, 2) := dk_16 99 (dk_at dksX9_passes_2 16 rfl rfl)
theorem dX9_passes_66 : decode cX9_passes 66 = .ok (.aload_n 0, 1) := dk_42 (dk_at dksX9_passes_2 18 rfl rfl)
theorem dX9_passes_67 : decode cX9_passes 67 = .ok (.getfield 19, 3) := dk_180 0 19 (dk_at dksX9_passes_2 19 rfl rfl)
theorem dX9_passes_70 : decode cX9_passes 70 = .ok (.iload_n 1, 1) := dk_27 (dk_at dksX9_passes_2 22 rfl rfl)
theorem dX9_passes_71 : decode cX9_passes 71 = .ok (.iaload, 1) := dk_46 (dk_at dksX9_passes_2 23 rfl rfl)
theorem dX9_passes_72 : decode cX9_passes 72 = .ok (.aload_n 0, 1) := dk_42 (dk_at dksX9_passes_3 0 rfl rfl)
theorem dX9_passes_73 : decode cX9_passes 73 = .ok (.getfield 3, 3) := dk_180 0 3 (dk_at dksX9_passes_3 1 rfl rfl)
theorem dX9_passes_76 : decode cX9_passes 76 = .ok (.getfield 35, 3) := dk_180 0 35 (dk_at dksX9_passes_3 4 rfl rfl)
theorem dX9_passes_79 : decode cX9_passes 79 = .ok (.getfield 122, 3) := dk_180 0 122 (dk_at dksX9_passes_3 7 rfl rfl)
theorem dX9_passes_82 : decode cX9_passes 82 = .ok (.iadd, 1) := dk_96 (dk_at dksX9_passes_3 10 rfl rfl)
theorem dX9_passes_83 : decode cX9_passes 83 = .ok (.iload_n 2, 1) := dk_28 (dk_at dksX9_passes_3 11 rfl rfl)
theorem dX9_passes_84 : decode cX9_passes 84 = .ok (.isub, 1) := dk_100 (dk_at dksX9_passes_3 12 rfl rfl)
theorem dX9_passes_85 : decode cX9_passes 85 = .ok (.invokestatic 114, 3) := dk_184 0 114 (dk_at dksX9_passes_3 13 rfl rfl)
theorem dX9_passes_88 : decode cX9_passes 88 = .ok (.iastore, 1) := dk_79 (dk_at dksX9_passes_3 16 rfl rfl)
theorem dX9_passes_89 : decode cX9_passes 89 = .ok (.aload_n 0, 1) := dk_42 (dk_at dksX9_passes_3 17 rfl rfl)
theorem dX9_passes_90 : decode cX9_passes 90 = .ok (.getfield 15, 3) := dk_180 0 15 (dk_at dksX9_passes_3 18 rfl rfl)
theorem dX9_passes_93 : decode cX9_passes 93 = .ok (.iload_n 1, 1) := dk_27 (dk_at dksX9_passes_3 21 rfl rfl)
theorem dX9_passes_94 : decode cX9_passes 94 = .ok (.iconst 0, 1) := dk_3 (dk_at dksX9_passes_3 22 rfl rfl)
theorem dX9_passes_95 : decode cX9_passes 95 = .ok (.aload_n 0, 1) := dk_42 (dk_at dksX9_passes_3 23 rfl rfl)
theorem dX9_passes_96 : decode cX9_passes 96 = .ok (.getfield 15, 3) := dk_180 0 15 (dk_at dksX9_passes_4 0 rfl rfl)
theorem dX9_passes_99 : decode cX9_passes 99 = .ok (.iload_n 1, 1) := dk_27 (dk_at dksX9_passes_4 3 rfl rfl)
theorem dX9_passes_100 : decode cX9_passes 100 = .ok (.iaload, 1) := dk_46 (dk_at dksX9_passes_4 4 rfl rfl)
theorem dX9_passes_101 : decode cX9_passes 101 = .ok (.iconst 1, 1) := dk_4 (dk_at dksX9_passes_4 5 rfl rfl)
theorem dX9_passes_102 : decode cX9_passes 102 = .ok (.isub, 1) := dk_100 (dk_at dksX9_passes_4 6 rfl rfl)
theorem dX9_passes_103 : decode cX9_passes 103 = .ok (.invokestatic 125, 3) := dk_184 0 125 (dk_at dksX9_passes_4 7 rfl rfl)
theorem dX9_passes_106 : decode cX9_passes 106 = .ok (.iastore, 1) := dk_79 (dk_at dksX9_passes_4 10 rfl rfl)
theorem dX9_passes_107 : decode cX9_passes 107 = .ok (.iinc 1 1, 3) := dk_132 1 1 (dk_at dksX9_passes_4 11 rfl rfl)
theorem dX9_passes_110 : decode cX9_passes 110 = .ok (.goto (-108), 3) := dk_167 255 148 (dk_at dksX9_passes_4 14 rfl rfl)
theorem dX9_passes_113 : decode cX9_passes 113 = .ok (.aload_n 0, 1) := dk_42 (dk_at dksX9_passes_4 17 rfl rfl)
theorem dX9_passes_114 : decode cX9_passes 114 = .ok (.iconst 0, 1) := dk_3 (dk_at dksX9_passes_4 18 rfl rfl)
theorem dX9_passes_115 : decode cX9_passes 115 = .ok (.putfield 31, 3) := dk_181 0 31 (dk_at dksX9_passes_4 19 rfl rfl)
theorem dX9_passes_118 : decode cX9_passes 118 = .ok (.aload_n 0, 1) := dk_42 (dk_at dksX9_passes_4 22 rfl rfl)
theorem dX9_passes_119 : decode cX9_passes 119 = .ok (.dup, 1) := dk_89 (dk_at dksX9_passes_4 23 rfl rfl)
theorem dX9_passes_120 : decode cX9_passes 120 = .ok (.getfield 45, 3) := dk_180 0 45 (dk_at dksX9_passes_5 0 rfl rfl)
theorem dX9_passes_123 : decode cX9_passes 123 = .ok (.iconst 1, 1) := dk_4 (dk_at dksX9_passes_5 3 rfl rfl)
theorem dX9_passes_124 : decode cX9_passes 124 = .ok (.iadd, 1) := dk_96 (dk_at dksX9_passes_5 4 rfl rfl)
theorem dX9_passes_125 : decode cX9_passes 125 = .ok (.putfield 45, 3) := dk_181 0 45 (dk_at dksX9_passes_5 5 rfl rfl)
theorem dX9_passes_128 : decode cX9_passes 128 = .ok (.return_, 1) := dk_177 (dk_at dksX9_passes_5 8 rfl rfl)
abbrev cX9_water : ByteArray := prog_22_method_9_code
def yX9_water : MethodName := ⟨RX9, "water", "(II)I"⟩
def dkwX9_water_0 : List UInt8 := [42, 27, 28, 182, 0, 106, 42, 180, 0, 3, 28, 182, 0, 86, 180, 0, 90, 104, 172]
abbrev dktX9_water_0 : List UInt8 := dkwX9_water_0 ++ []
theorem dksX9_water_0 : cX9_water.data.toList.drop 0 = dktX9_water_0 := by decide +kernel
theorem dX9_water_0 : decode cX9_water 0 = .ok (.aload_n 0, 1) := dk_42 (dk_at dksX9_water_0 0 rfl rfl)
theorem dX9_water_1 : decode cX9_water 1 = .ok (.iload_n 1, 1) := dk_27 (dk_at dksX9_water_0 1 rfl rfl)
theorem dX9_water_2 : decode cX9_water 2 = .ok (.iload_n 2, 1) := dk_28 (dk_at dksX9_water_0 2 rfl rfl)
theorem dX9_water_3 : decode cX9_water 3 = .ok (.invokevirtual 106, 3) := dk_182 0 106 (dk_at dksX9_water_0 3 rfl rfl)
theorem dX9_water_6 : decode cX9_water 6 = .ok (.aload_n 0, 1) := dk_42 (dk_at dksX9_water_0 6 rfl rfl)
theorem dX9_water_7 : decode cX9_water 7 = .ok (.getfield 3, 3) := dk_180 0 3 (dk_at dksX9_water_0 7 rfl rfl)
theorem dX9_water_10 : decode cX9_water 10 = .ok (.iload_n 2, 1) := dk_28 (dk_at dksX9_water_0 10 rfl rfl)
theorem dX9_water_11 : decode cX9_water 11 = .ok (.invokevirtual 86, 3) := dk_182 0 86 (dk_at dksX9_water_0 11 rfl rfl)
theorem dX9_water_14 : decode cX9_water 14 = .ok (.getfield 90, 3) := dk_180 0 90 (dk_at dksX9_water_0 14 rfl rfl)
theorem dX9_water_17 : decode cX9_water 17 = .ok (.imul, 1) := dk_104 (dk_at dksX9_water_0 17 rfl rfl)
theorem dX9_water_18 : decode cX9_water 18 = .ok (.ireturn, 1) := dk_172 (dk_at dksX9_water_0 18 rfl rfl)
abbrev cX9_laugh : ByteArray := prog_22_method_8_code
def yX9_laugh : MethodName := ⟨RX9, "laugh", "(II)I"⟩
def dkwX9_laugh_1 : List UInt8 := [172]
abbrev dktX9_laugh_1 : List UInt8 := dkwX9_laugh_1 ++ []
def dkwX9_laugh_0 : List UInt8 := [42, 27, 28, 3, 42, 180, 0, 3, 28, 182, 0, 86, 180, 0, 99, 42, 180, 0, 15, 28, 46, 182, 0, 102]
abbrev dktX9_laugh_0 : List UInt8 := dkwX9_laugh_0 ++ dktX9_laugh_1
theorem dksX9_laugh_0 : cX9_laugh.data.toList.drop 0 = dktX9_laugh_0 := by decide +kernel
theorem dksX9_laugh_1 : cX9_laugh.data.toList.drop 24 = dktX9_laugh_1 := dk_seg dksX9_laugh_0 24 rfl rfl
theorem dX9_laugh_0 : decode cX9_laugh 0 = .ok (.aload_n 0, 1) := dk_42 (dk_at dksX9_laugh_0 0 rfl rfl)
theorem dX9_laugh_1 : decode cX9_laugh 1 = .ok (.iload_n 1, 1) := dk_27 (dk_at dksX9_laugh_0 1 rfl rfl)
theorem dX9_laugh_2 : decode cX9_laugh 2 = .ok (.iload_n 2, 1) := dk_28 (dk_at dksX9_laugh_0 2 rfl rfl)
theorem dX9_laugh_3 : decode cX9_laugh 3 = .ok (.iconst 0, 1) := dk_3 (dk_at dksX9_laugh_0 3 rfl rfl)
theorem dX9_laugh_4 : decode cX9_laugh 4 = .ok (.aload_n 0, 1) := dk_42 (dk_at dksX9_laugh_0 4 rfl rfl)
theorem dX9_laugh_5 : decode cX9_laugh 5 = .ok (.getfield 3, 3) := dk_180 0 3 (dk_at dksX9_laugh_0 5 rfl rfl)
theorem dX9_laugh_8 : decode cX9_laugh 8 = .ok (.iload_n 2, 1) := dk_28 (dk_at dksX9_laugh_0 8 rfl rfl)
theorem dX9_laugh_9 : decode cX9_laugh 9 = .ok (.invokevirtual 86, 3) := dk_182 0 86 (dk_at dksX9_laugh_0 9 rfl rfl)
theorem dX9_laugh_12 : decode cX9_laugh 12 = .ok (.getfield 99, 3) := dk_180 0 99 (dk_at dksX9_laugh_0 12 rfl rfl)
theorem dX9_laugh_15 : decode cX9_laugh 15 = .ok (.aload_n 0, 1) := dk_42 (dk_at dksX9_laugh_0 15 rfl rfl)
theorem dX9_laugh_16 : decode cX9_laugh 16 = .ok (.getfield 15, 3) := dk_180 0 15 (dk_at dksX9_laugh_0 16 rfl rfl)
theorem dX9_laugh_19 : decode cX9_laugh 19 = .ok (.iload_n 2, 1) := dk_28 (dk_at dksX9_laugh_0 19 rfl rfl)
theorem dX9_laugh_20 : decode cX9_laugh 20 = .ok (.iaload, 1) := dk_46 (dk_at dksX9_laugh_0 20 rfl rfl)
theorem dX9_laugh_21 : decode cX9_laugh 21 = .ok (.invokevirtual 102, 3) := dk_182 0 102 (dk_at dksX9_laugh_0 21 rfl rfl)
theorem dX9_laugh_24 : decode cX9_laugh 24 = .ok (.ireturn, 1) := dk_172 (dk_at dksX9_laugh_1 0 rfl rfl)
abbrev cX9_laughBy : ByteArray := prog_22_method_7_code
def yX9_laughBy : MethodName := ⟨RX9, "laughBy", "(IIIII)I"⟩
def dkwX9_laughBy_4 : List UInt8 := [28, 46, 42, 180, 0, 45, 28, 182, 0, 95, 172]
abbrev dktX9_laughBy_4 : List UInt8 := dkwX9_laughBy_4 ++ []
def dkwX9_laughBy_3 : List UInt8 := [182, 0, 83, 29, 96, 42, 180, 0, 3, 28, 182, 0, 86, 180, 0, 90, 21, 5, 21, 6, 42, 180, 0, 19]
abbrev dktX9_laughBy_3 : List UInt8 := dkwX9_laughBy_3 ++ dktX9_laughBy_4
def dkwX9_laughBy_2 : List UInt8 := [182, 0, 71, 21, 4, 182, 0, 80, 42, 180, 0, 28, 16, 7, 27, 104, 28, 96, 46, 29, 96, 42, 27]
abbrev dktX9_laughBy_2 : List UInt8 := dkwX9_laughBy_2 ++ dktX9_laughBy_3
def dkwX9_laughBy_1 : List UInt8 := [54, 6, 42, 180, 0, 3, 42, 180, 0, 3, 27, 182, 0, 71, 180, 0, 75, 42, 180, 0, 3, 27]
abbrev dktX9_laughBy_1 : List UInt8 := dkwX9_laughBy_1 ++ dktX9_laughBy_2
def dkwX9_laughBy_0 : List UInt8 := [42, 180, 0, 3, 180, 0, 35, 180, 0, 58, 28, 46, 42, 42, 180, 0, 15, 182, 0, 61, 126, 184, 0, 65]
abbrev dktX9_laughBy_0 : List UInt8 := dkwX9_laughBy_0 ++ dktX9_laughBy_1
theorem dksX9_laughBy_0 : cX9_laughBy.data.toList.drop 0 = dktX9_laughBy_0 := by decide +kernel
theorem dksX9_laughBy_1 : cX9_laughBy.data.toList.drop 24 = dktX9_laughBy_1 := dk_seg dksX9_laughBy_0 24 rfl rfl
theorem dksX9_laughBy_2 : cX9_laughBy.data.toList.drop 46 = dktX9_laughBy_2 := dk_seg dksX9_laughBy_1 22 rfl rfl
theorem dksX9_laughBy_3 : cX9_laughBy.data.toList.drop 69 = dktX9_laughBy_3 := dk_seg dksX9_laughBy_2 23 rfl rfl
theorem dksX9_laughBy_4 : cX9_laughBy.data.toList.drop 93 = dktX9_laughBy_4 := dk_seg dksX9_laughBy_3 24 rfl rfl
theorem dX9_laughBy_0 : decode cX9_laughBy 0 = .ok (.aload_n 0, 1) := dk_42 (dk_at dksX9_laughBy_0 0 rfl rfl)
theorem dX9_laughBy_1 : decode cX9_laughBy 1 = .ok (.getfield 3, 3) := dk_180 0 3 (dk_at dksX9_laughBy_0 1 rfl rfl)
theorem dX9_laughBy_4 : decode cX9_laughBy 4 = .ok (.getfield 35, 3) := dk_180 0 35 (dk_at dksX9_laughBy_0 4 rfl rfl)
theorem dX9_laughBy_7 : decode cX9_laughBy 7 = .ok (.getfield 58, 3) := dk_180 0 58 (dk_at dksX9_laughBy_0 7 rfl rfl)
theorem dX9_laughBy_10 : decode cX9_laughBy 10 = .ok (.iload_n 2, 1) := dk_28 (dk_at dksX9_laughBy_0 10 rfl rfl)
theorem dX9_laughBy_11 : decode cX9_laughBy 11 = .ok (.iaload, 1) := dk_46 (dk_at dksX9_laughBy_0 11 rfl rfl)
theorem dX9_laughBy_12 : decode cX9_laughBy 12 = .ok (.aload_n 0, 1) := dk_42 (dk_at dksX9_laughBy_0 12 rfl rfl)
theorem dX9_laughBy_13 : decode cX9_laughBy 13 = .ok (.aload_n 0, 1) := dk_42 (dk_at dksX9_laughBy_0 13 rfl rfl)
theorem dX9_laughBy_14 : decode cX9_laughBy 14 = .ok (.getfield 15, 3) := dk_180 0 15 (dk_at dksX9_laughBy_0 14 rfl rfl)
theorem dX9_laughBy_17 : decode cX9_laughBy 17 = .ok (.invokevirtual 61, 3) := dk_182 0 61 (dk_at dksX9_laughBy_0 17 rfl rfl)
theorem dX9_laughBy_20 : decode cX9_laughBy 20 = .ok (.iand, 1) := dk_126 (dk_at dksX9_laughBy_0 20 rfl rfl)
theorem dX9_laughBy_21 : decode cX9_laughBy 21 = .ok (.invokestatic 65, 3) := dk_184 0 65 (dk_at dksX9_laughBy_0 21 rfl rfl)
theorem dX9_laughBy_24 : decode cX9_laughBy 24 = .ok (.istore 6, 2) := dk_54 6 (dk_at dksX9_laughBy_1 0 rfl rfl)
theorem dX9_laughBy_26 : decode cX9_laughBy 26 = .ok (.aload_n 0, 1) := dk_42 (dk_at dksX9_laughBy_1 2 rfl rfl)
theorem dX9_laughBy_27 : decode cX9_laughBy 27 = .ok (.getfield 3, 3) := dk_180 0 3 (dk_at dksX9_laughBy_1 3 rfl rfl)
theorem dX9_laughBy_30 : decode cX9_laughBy 30 = .ok (.aload_n 0, 1) := dk_42 (dk_at dksX9_laughBy_1 6 rfl rfl)
theorem dX9_laughBy_31 : decode cX9_laughBy 31 = .ok (.getfield 3, 3) := dk_180 0 3 (dk_at dksX9_laughBy_1 7 rfl rfl)
theorem dX9_laughBy_34 : decode cX9_laughBy 34 = .ok (.iload_n 1, 1) := dk_27 (dk_at dksX9_laughBy_1 10 rfl rfl)
theorem dX9_laughBy_35 : decode cX9_laughBy 35 = .ok (.invokevirtual 71, 3) := dk_182 0 71 (dk_at dksX9_laughBy_1 11 rfl rfl)
theorem dX9_laughBy_38 : decode cX9_laughBy 38 = .ok (.getfield 75, 3) := dk_180 0 75 (dk_at dksX9_laughBy_1 14 rfl rfl)
theorem dX9_laughBy_41 : decode cX9_laughBy 41 = .ok (.aload_n 0, 1) := dk_42 (dk_at dksX9_laughBy_1 17 rfl rfl)
theorem dX9_laughBy_42 : decode cX9_laughBy 42 = .ok (.getfield 3, 3) := dk_180 0 3 (dk_at dksX9_laughBy_1 18 rfl rfl)
theorem dX9_laughBy_45 : decode cX9_laughBy 45 = .ok (.iload_n 1, 1) := dk_27 (dk_at dksX9_laughBy_1 21 rfl rfl)
theorem dX9_laughBy_46 : decode cX9_laughBy 46 = .ok (.invokevirtual 71, 3) := dk_182 0 71 (dk_at dksX9_laughBy_2 0 rfl rfl)
theorem dX9_laughBy_49 : decode cX9_laughBy 49 = .ok (.iload 4, 2) := dk_21 4 (dk_at dksX9_laughBy_2 3 rfl rfl)
theorem dX9_laughBy_51 : decode cX9_laughBy 51 = .ok (.invokevirtual 80, 3) := dk_182 0 80 (dk_at dksX9_laughBy_2 5 rfl rfl)
theorem dX9_laughBy_54 : decode cX9_laughBy 54 = .ok (.aload_n 0, 1) := dk_42 (dk_at dksX9_laughBy_2 8 rfl rfl)
theorem dX9_laughBy_55 : decode cX9_laughBy 55 = .ok (.getfield 28, 3) := dk_180 0 28 (dk_at dksX9_laughBy_2 9 rfl rfl)
theorem dX9_laughBy_58 : decode cX9_laughBy 58 = .ok (.bipush 7, 2) := dk_16 7 (dk_at dksX9_laughBy_2 12 rfl rfl)
theorem dX9_laughBy_60 : decode cX9_laughBy 60 = .ok (.iload_n 1, 1) := dk_27 (dk_at dksX9_laughBy_2 14 rfl rfl)
theorem dX9_laughBy_61 : decode cX9_laughBy 61 = .ok (.imul, 1) := dk_104 (dk_at dksX9_laughBy_2 15 rfl rfl)
theorem dX9_laughBy_62 : decode cX9_laughBy 62 = .ok (.iload_n 2, 1) := dk_28 (dk_at dksX9_laughBy_2 16 rfl rfl)
theorem dX9_laughBy_63 : decode cX9_laughBy 63 = .ok (.iadd, 1) := dk_96 (dk_at dksX9_laughBy_2 17 rfl rfl)
theorem dX9_laughBy_64 : decode cX9_laughBy 64 = .ok (.iaload, 1) := dk_46 (dk_at dksX9_laughBy_2 18 rfl rfl)
theorem dX9_laughBy_65 : decode cX9_laughBy 65 = .ok (.iload_n 3, 1) := dk_29 (dk_at dksX9_laughBy_2 19 rfl rfl)
theorem dX9_laughBy_66 : decode cX9_laughBy 66 = .ok (.iadd, 1) := dk_96 (dk_at dksX9_laughBy_2 20 rfl rfl)
theorem dX9_laughBy_67 : decode cX9_laughBy 67 = .ok (.aload_n 0, 1) := dk_42 (dk_at dksX9_laughBy_2 21 rfl rfl)
theorem dX9_laughBy_68 : decode cX9_laughBy 68 = .ok (.iload_n 1, 1) := dk_27 (dk_at dksX9_laughBy_2 22 rfl rfl)
theorem dX9_laughBy_69 : decode cX9_laughBy 69 = .ok (.invokevirtual 83, 3) := dk_182 0 83 (dk_at dksX9_laughBy_3 0 rfl rfl)
theorem dX9_laughBy_72 : decode cX9_laughBy 72 = .ok (.iload_n 3, 1) := dk_29 (dk_at dksX9_laughBy_3 3 rfl rfl)
theorem dX9_laughBy_73 : decode cX9_laughBy 73 = .ok (.iadd, 1) := dk_96 (dk_at dksX9_laughBy_3 4 rfl rfl)
theorem dX9_laughBy_74 : decode cX9_laughBy 74 = .ok (.aload_n 0, 1) := dk_42 (dk_at dksX9_laughBy_3 5 rfl rfl)
theorem dX9_laughBy_75 : decode cX9_laughBy 75 = .ok (.getfield 3, 3) := dk_180 0 3 (dk_at dksX9_laughBy_3 6 rfl rfl)
theorem dX9_laughBy_78 : decode cX9_laughBy 78 = .ok (.iload_n 2, 1) := dk_28 (dk_at dksX9_laughBy_3 9 rfl rfl)
theorem dX9_laughBy_79 : decode cX9_laughBy 79 = .ok (.invokevirtual 86, 3) := dk_182 0 86 (dk_at dksX9_laughBy_3 10 rfl rfl)
theorem dX9_laughBy_82 : decode cX9_laughBy 82 = .ok (.getfield 90, 3) := dk_180 0 90 (dk_at dksX9_laughBy_3 13 rfl rfl)
theorem dX9_laughBy_85 : decode cX9_laughBy 85 = .ok (.iload 5, 2) := dk_21 5 (dk_at dksX9_laughBy_3 16 rfl rfl)
theorem dX9_laughBy_87 : decode cX9_laughBy 87 = .ok (.iload 6, 2) := dk_21 6 (dk_at dksX9_laughBy_3 18 rfl rfl)
theorem dX9_laughBy_89 : decode cX9_laughBy 89 = .ok (.aload_n 0, 1) := dk_42 (dk_at dksX9_laughBy_3 20 rfl rfl)
theorem dX9_laughBy_90 : decode cX9_laughBy 90 = .ok (.getfield 19, 3) := dk_180 0 19 (dk_at dksX9_laughBy_3 21 rfl rfl)
theorem dX9_laughBy_93 : decode cX9_laughBy 93 = .ok (.iload_n 2, 1) := dk_28 (dk_at dksX9_laughBy_4 0 rfl rfl)
theorem dX9_laughBy_94 : decode cX9_laughBy 94 = .ok (.iaload, 1) := dk_46 (dk_at dksX9_laughBy_4 1 rfl rfl)
theorem dX9_laughBy_95 : decode cX9_laughBy 95 = .ok (.aload_n 0, 1) := dk_42 (dk_at dksX9_laughBy_4 2 rfl rfl)
theorem dX9_laughBy_96 : decode cX9_laughBy 96 = .ok (.getfield 45, 3) := dk_180 0 45 (dk_at dksX9_laughBy_4 3 rfl rfl)
theorem dX9_laughBy_99 : decode cX9_laughBy 99 = .ok (.iload_n 2, 1) := dk_28 (dk_at dksX9_laughBy_4 6 rfl rfl)
theorem dX9_laughBy_100 : decode cX9_laughBy 100 = .ok (.invokevirtual 95, 3) := dk_182 0 95 (dk_at dksX9_laughBy_4 7 rfl rfl)
theorem dX9_laughBy_103 : decode cX9_laughBy 103 = .ok (.ireturn, 1) := dk_172 (dk_at dksX9_laughBy_4 10 rfl rfl)
abbrev cX9_some : ByteArray := prog_22_method_4_code
def yX9_some : MethodName := ⟨RX9, "some", "([I)I"⟩
def dkwX9_some_1 : List UInt8 := [120, 167, 0, 4, 3, 128, 61, 132, 3, 1, 167, 255, 226, 28, 172]
abbrev dktX9_some_1 : List UInt8 := dkwX9_some_1 ++ []
def dkwX9_some_0 : List UInt8 := [3, 61, 3, 62, 29, 42, 180, 0, 3, 182, 0, 54, 162, 0, 25, 28, 43, 29, 46, 158, 0, 9, 4, 29]
abbrev dktX9_some_0 : List UInt8 := dkwX9_some_0 ++ dktX9_some_1
theorem dksX9_some_0 : cX9_some.data.toList.drop 0 = dktX9_some_0 := by decide +kernel
theorem dksX9_some_1 : cX9_some.data.toList.drop 24 = dktX9_some_1 := dk_seg dksX9_some_0 24 rfl rfl
theorem dX9_some_0 : decode cX9_some 0 = .ok (.iconst 0, 1) := dk_3 (dk_at dksX9_some_0 0 rfl rfl)
theorem dX9_some_1 : decode cX9_some 1 = .ok (.istore_n 2, 1) := dk_61 (dk_at dksX9_some_0 1 rfl rfl)
theorem dX9_some_2 : decode cX9_some 2 = .ok (.iconst 0, 1) := dk_3 (dk_at dksX9_some_0 2 rfl rfl)
theorem dX9_some_3 : decode cX9_some 3 = .ok (.istore_n 3, 1) := dk_62 (dk_at dksX9_some_0 3 rfl rfl)
theorem dX9_some_4 : decode cX9_some 4 = .ok (.iload_n 3, 1) := dk_29 (dk_at dksX9_some_0 4 rfl rfl)
theorem dX9_some_5 : decode cX9_some 5 = .ok (.aload_n 0, 1) := dk_42 (dk_at dksX9_some_0 5 rfl rfl)
theorem dX9_some_6 : decode cX9_some 6 = .ok (.getfield 3, 3) := dk_180 0 3 (dk_at dksX9_some_0 6 rfl rfl)
theorem dX9_some_9 : decode cX9_some 9 = .ok (.invokevirtual 54, 3) := dk_182 0 54 (dk_at dksX9_some_0 9 rfl rfl)
theorem dX9_some_12 : decode cX9_some 12 = .ok (.if_icmp .ge 25, 3) := dk_162 0 25 (dk_at dksX9_some_0 12 rfl rfl)
theorem dX9_some_15 : decode cX9_some 15 = .ok (.iload_n 2, 1) := dk_28 (dk_at dksX9_some_0 15 rfl rfl)
theorem dX9_some_16 : decode cX9_some 16 = .ok (.aload_n 1, 1) := dk_43 (dk_at dksX9_some_0 16 rfl rfl)
theorem dX9_some_17 : decode cX9_some 17 = .ok (.iload_n 3, 1) := dk_29 (dk_at dksX9_some_0 17 rfl rfl)
theorem dX9_some_18 : decode cX9_some 18 = .ok (.iaload, 1) := dk_46 (dk_at dksX9_some_0 18 rfl rfl)
theorem dX9_some_19 : decode cX9_some 19 = .ok (.ifCond .le 9, 3) := dk_158 0 9 (dk_at dksX9_some_0 19 rfl rfl)
theorem dX9_some_22 : decode cX9_some 22 = .ok (.iconst 1, 1) := dk_4 (dk_at dksX9_some_0 22 rfl rfl)
theorem dX9_some_23 : decode cX9_some 23 = .ok (.iload_n 3, 1) := dk_29 (dk_at dksX9_some_0 23 rfl rfl)
theorem dX9_some_24 : decode cX9_some 24 = .ok (.ishl, 1) := dk_120 (dk_at dksX9_some_1 0 rfl rfl)
theorem dX9_some_25 : decode cX9_some 25 = .ok (.goto 4, 3) := dk_167 0 4 (dk_at dksX9_some_1 1 rfl rfl)
theorem dX9_some_28 : decode cX9_some 28 = .ok (.iconst 0, 1) := dk_3 (dk_at dksX9_some_1 4 rfl rfl)
theorem dX9_some_29 : decode cX9_some 29 = .ok (.ior, 1) := dk_128 (dk_at dksX9_some_1 5 rfl rfl)
theorem dX9_some_30 : decode cX9_some 30 = .ok (.istore_n 2, 1) := dk_61 (dk_at dksX9_some_1 6 rfl rfl)
theorem dX9_some_31 : decode cX9_some 31 = .ok (.iinc 3 1, 3) := dk_132 3 1 (dk_at dksX9_some_1 7 rfl rfl)
theorem dX9_some_34 : decode cX9_some 34 = .ok (.goto (-30), 3) := dk_167 255 226 (dk_at dksX9_some_1 10 rfl rfl)
theorem dX9_some_37 : decode cX9_some 37 = .ok (.iload_n 2, 1) := dk_28 (dk_at dksX9_some_1 13 rfl rfl)
theorem dX9_some_38 : decode cX9_some 38 = .ok (.ireturn, 1) := dk_172 (dk_at dksX9_some_1 14 rfl rfl)
abbrev cX9_often : ByteArray := prog_22_method_6_code
def yX9_often : MethodName := ⟨RX9, "often", "(I)I"⟩
def dkwX9_often_1 : List UInt8 := [29, 96, 46, 96, 61, 132, 3, 1, 167, 255, 228, 28, 172]
abbrev dktX9_often_1 : List UInt8 := dkwX9_often_1 ++ []
def dkwX9_often_0 : List UInt8 := [3, 61, 3, 62, 29, 42, 180, 0, 3, 182, 0, 54, 162, 0, 23, 28, 42, 180, 0, 28, 16, 7, 27, 104]
abbrev dktX9_often_0 : List UInt8 := dkwX9_often_0 ++ dktX9_often_1
theorem dksX9_often_0 : cX9_often.data.toList.drop 0 = dktX9_often_0 := by decide +kernel
theorem dksX9_often_1 : cX9_often.data.toList.drop 24 = dktX9_often_1 := dk_seg dksX9_often_0 24 rfl rfl
theorem dX9_often_0 : decode cX9_often 0 = .ok (.iconst 0, 1) := dk_3 (dk_at dksX9_often_0 0 rfl rfl)
theorem dX9_often_1 : decode cX9_often 1 = .ok (.istore_n 2, 1) := dk_61 (dk_at dksX9_often_0 1 rfl rfl)
theorem dX9_often_2 : decode cX9_often 2 = .ok (.iconst 0, 1) := dk_3 (dk_at dksX9_often_0 2 rfl rfl)
theorem dX9_often_3 : decode cX9_often 3 = .ok (.istore_n 3, 1) := dk_62 (dk_at dksX9_often_0 3 rfl rfl)
theorem dX9_often_4 : decode cX9_often 4 = .ok (.iload_n 3, 1) := dk_29 (dk_at dksX9_often_0 4 rfl rfl)
theorem dX9_often_5 : decode cX9_often 5 = .ok (.aload_n 0, 1) := dk_42 (dk_at dksX9_often_0 5 rfl rfl)
theorem dX9_often_6 : decode cX9_often 6 = .ok (.getfield 3, 3) := dk_180 0 3 (dk_at dksX9_often_0 6 rfl rfl)
theorem dX9_often_9 : decode cX9_often 9 = .ok (.invokevirtual 54, 3) := dk_182 0 54 (dk_at dksX9_often_0 9 rfl rfl)
theorem dX9_often_12 : decode cX9_often 12 = .ok (.if_icmp .ge 23, 3) := dk_162 0 23 (dk_at dksX9_often_0 12 rfl rfl)
theorem dX9_often_15 : decode cX9_often 15 = .ok (.iload_n 2, 1) := dk_28 (dk_at dksX9_often_0 15 rfl rfl)
theorem dX9_often_16 : decode cX9_often 16 = .ok (.aload_n 0, 1) := dk_42 (dk_at dksX9_often_0 16 rfl rfl)
theorem dX9_often_17 : decode cX9_often 17 = .ok (.getfield 28, 3) := dk_180 0 28 (dk_at dksX9_often_0 17 rfl rfl)
theorem dX9_often_20 : decode cX9_often 20 = .ok (.bipush 7, 2) := dk_16 7 (dk_at dksX9_often_0 20 rfl rfl)
theorem dX9_often_22 : decode cX9_often 22 = .ok (.iload_n 1, 1) := dk_27 (dk_at dksX9_often_0 22 rfl rfl)
theorem dX9_often_23 : decode cX9_often 23 = .ok (.imul, 1) := dk_104 (dk_at dksX9_often_0 23 rfl rfl)
theorem dX9_often_24 : decode cX9_often 24 = .ok (.iload_n 3, 1) := dk_29 (dk_at dksX9_often_1 0 rfl rfl)
theorem dX9_often_25 : decode cX9_often 25 = .ok (.iadd, 1) := dk_96 (dk_at dksX9_often_1 1 rfl rfl)
theorem dX9_often_26 : decode cX9_often 26 = .ok (.iaload, 1) := dk_46 (dk_at dksX9_often_1 2 rfl rfl)
theorem dX9_often_27 : decode cX9_often 27 = .ok (.iadd, 1) := dk_96 (dk_at dksX9_often_1 3 rfl rfl)
theorem dX9_often_28 : decode cX9_often 28 = .ok (.istore_n 2, 1) := dk_61 (dk_at dksX9_often_1 4 rfl rfl)
theorem dX9_often_29 : decode cX9_often 29 = .ok (.iinc 3 1, 3) := dk_132 3 1 (dk_at dksX9_often_1 5 rfl rfl)
theorem dX9_often_32 : decode cX9_often 32 = .ok (.goto (-28), 3) := dk_167 255 228 (dk_at dksX9_often_1 8 rfl rfl)
theorem dX9_often_35 : decode cX9_often 35 = .ok (.iload_n 2, 1) := dk_28 (dk_at dksX9_often_1 11 rfl rfl)
theorem dX9_often_36 : decode cX9_often 36 = .ok (.ireturn, 1) := dk_172 (dk_at dksX9_often_1 12 rfl rfl)
abbrev cX9_cheers : ByteArray := prog_22_method_12_code
def yX9_cheers : MethodName := ⟨RX9, "cheers", "(I)Z"⟩
def dkwX9_cheers_0 : List UInt8 := [42, 180, 0, 15, 27, 46, 154, 0, 5, 3, 172, 42, 180, 0, 15, 27, 3, 79, 4, 172]
abbrev dktX9_cheers_0 : List UInt8 := dkwX9_cheers_0 ++ []
theorem dksX9_cheers_0 : cX9_cheers.data.toList.drop 0 = dktX9_cheers_0 := by decide +kernel
theorem dX9_cheers_0 : decode cX9_cheers 0 = .ok (.aload_n 0, 1) := dk_42 (dk_at dksX9_cheers_0 0 rfl rfl)
theorem dX9_cheers_1 : decode cX9_cheers 1 = .ok (.getfield 15, 3) := dk_180 0 15 (dk_at dksX9_cheers_0 1 rfl rfl)
theorem dX9_cheers_4 : decode cX9_cheers 4 = .ok (.iload_n 1, 1) := dk_27 (dk_at dksX9_cheers_0 4 rfl rfl)
theorem dX9_cheers_5 : decode cX9_cheers 5 = .ok (.iaload, 1) := dk_46 (dk_at dksX9_cheers_0 5 rfl rfl)
theorem dX9_cheers_6 : decode cX9_cheers 6 = .ok (.ifCond .ne 5, 3) := dk_154 0 5 (dk_at dksX9_cheers_0 6 rfl rfl)
theorem dX9_cheers_9 : decode cX9_cheers 9 = .ok (.iconst 0, 1) := dk_3 (dk_at dksX9_cheers_0 9 rfl rfl)
theorem dX9_cheers_10 : decode cX9_cheers 10 = .ok (.ireturn, 1) := dk_172 (dk_at dksX9_cheers_0 10 rfl rfl)
theorem dX9_cheers_11 : decode cX9_cheers 11 = .ok (.aload_n 0, 1) := dk_42 (dk_at dksX9_cheers_0 11 rfl rfl)
theorem dX9_cheers_12 : decode cX9_cheers 12 = .ok (.getfield 15, 3) := dk_180 0 15 (dk_at dksX9_cheers_0 12 rfl rfl)
theorem dX9_cheers_15 : decode cX9_cheers 15 = .ok (.iload_n 1, 1) := dk_27 (dk_at dksX9_cheers_0 15 rfl rfl)
theorem dX9_cheers_16 : decode cX9_cheers 16 = .ok (.iconst 0, 1) := dk_3 (dk_at dksX9_cheers_0 16 rfl rfl)
theorem dX9_cheers_17 : decode cX9_cheers 17 = .ok (.iastore, 1) := dk_79 (dk_at dksX9_cheers_0 17 rfl rfl)
theorem dX9_cheers_18 : decode cX9_cheers 18 = .ok (.iconst 1, 1) := dk_4 (dk_at dksX9_cheers_0 18 rfl rfl)
theorem dX9_cheers_19 : decode cX9_cheers 19 = .ok (.ireturn, 1) := dk_172 (dk_at dksX9_cheers_0 19 rfl rfl)
abbrev cX9_grieves : ByteArray := prog_22_method_11_code
def yX9_grieves : MethodName := ⟨RX9, "grieves", "(II)Z"⟩
def dkwX9_grieves_0 : List UInt8 := [42, 180, 0, 15, 27, 46, 28, 161, 0, 5, 3, 172, 42, 180, 0, 15, 27, 28, 79, 4, 172]
abbrev dktX9_grieves_0 : List UInt8 := dkwX9_grieves_0 ++ []
theorem dksX9_grieves_0 : cX9_grieves.data.toList.drop 0 = dktX9_grieves_0 := by decide +kernel
theorem dX9_grieves_0 : decode cX9_grieves 0 = .ok (.aload_n 0, 1) := dk_42 (dk_at dksX9_grieves_0 0 rfl rfl)
theorem dX9_grieves_1 : decode cX9_grieves 1 = .ok (.getfield 15, 3) := dk_180 0 15 (dk_at dksX9_grieves_0 1 rfl rfl)
theorem dX9_grieves_4 : decode cX9_grieves 4 = .ok (.iload_n 1, 1) := dk_27 (dk_at dksX9_grieves_0 4 rfl rfl)
theorem dX9_grieves_5 : decode cX9_grieves 5 = .ok (.iaload, 1) := dk_46 (dk_at dksX9_grieves_0 5 rfl rfl)
theorem dX9_grieves_6 : decode cX9_grieves 6 = .ok (.iload_n 2, 1) := dk_28 (dk_at dksX9_grieves_0 6 rfl rfl)
theorem dX9_grieves_7 : decode cX9_grieves 7 = .ok (.if_icmp .lt 5, 3) := dk_161 0 5 (dk_at dksX9_grieves_0 7 rfl rfl)
theorem dX9_grieves_10 : decode cX9_grieves 10 = .ok (.iconst 0, 1) := dk_3 (dk_at dksX9_grieves_0 10 rfl rfl)
theorem dX9_grieves_11 : decode cX9_grieves 11 = .ok (.ireturn, 1) := dk_172 (dk_at dksX9_grieves_0 11 rfl rfl)
theorem dX9_grieves_12 : decode cX9_grieves 12 = .ok (.aload_n 0, 1) := dk_42 (dk_at dksX9_grieves_0 12 rfl rfl)
theorem dX9_grieves_13 : decode cX9_grieves 13 = .ok (.getfield 15, 3) := dk_180 0 15 (dk_at dksX9_grieves_0 13 rfl rfl)
theorem dX9_grieves_16 : decode cX9_grieves 16 = .ok (.iload_n 1, 1) := dk_27 (dk_at dksX9_grieves_0 16 rfl rfl)
theorem dX9_grieves_17 : decode cX9_grieves 17 = .ok (.iload_n 2, 1) := dk_28 (dk_at dksX9_grieves_0 17 rfl rfl)
theorem dX9_grieves_18 : decode cX9_grieves 18 = .ok (.iastore, 1) := dk_79 (dk_at dksX9_grieves_0 18 rfl rfl)
theorem dX9_grieves_19 : decode cX9_grieves 19 = .ok (.iconst 1, 1) := dk_4 (dk_at dksX9_grieves_0 19 rfl rfl)
theorem dX9_grieves_20 : decode cX9_grieves 20 = .ok (.ireturn, 1) := dk_172 (dk_at dksX9_grieves_0 20 rfl rfl)
abbrev cX9_day : ByteArray := prog_22_method_14_code
def yX9_day : MethodName := ⟨RX9, "day", "()Z"⟩
def dkwX9_day_0 : List UInt8 := [42, 180, 0, 45, 17, 1, 144, 160, 0, 5, 3, 172, 42, 182, 0, 119, 4, 172]
abbrev dktX9_day_0 : List UInt8 := dkwX9_day_0 ++ []
theorem dksX9_day_0 : cX9_day.data.toList.drop 0 = dktX9_day_0 := by decide +kernel
theorem dX9_day_0 : decode cX9_day 0 = .ok (.aload_n 0, 1) := dk_42 (dk_at dksX9_day_0 0 rfl rfl)
theorem dX9_day_1 : decode cX9_day 1 = .ok (.getfield 45, 3) := dk_180 0 45 (dk_at dksX9_day_0 1 rfl rfl)
theorem dX9_day_4 : decode cX9_day 4 = .ok (.sipush 400, 3) := dk_17 1 144 (dk_at dksX9_day_0 4 rfl rfl)
theorem dX9_day_7 : decode cX9_day 7 = .ok (.if_icmp .ne 5, 3) := dk_160 0 5 (dk_at dksX9_day_0 7 rfl rfl)
theorem dX9_day_10 : decode cX9_day 10 = .ok (.iconst 0, 1) := dk_3 (dk_at dksX9_day_0 10 rfl rfl)
theorem dX9_day_11 : decode cX9_day 11 = .ok (.ireturn, 1) := dk_172 (dk_at dksX9_day_0 11 rfl rfl)
theorem dX9_day_12 : decode cX9_day 12 = .ok (.aload_n 0, 1) := dk_42 (dk_at dksX9_day_0 12 rfl rfl)
theorem dX9_day_13 : decode cX9_day 13 = .ok (.invokevirtual 119, 3) := dk_182 0 119 (dk_at dksX9_day_0 13 rfl rfl)
theorem dX9_day_16 : decode cX9_day 16 = .ok (.iconst 1, 1) := dk_4 (dk_at dksX9_day_0 16 rfl rfl)
theorem dX9_day_17 : decode cX9_day 17 = .ok (.ireturn, 1) := dk_172 (dk_at dksX9_day_0 17 rfl rfl)
abbrev cX9_pours : ByteArray := prog_22_method_13_code
def yX9_pours : MethodName := ⟨RX9, "pours", "(I)Z"⟩
def dkwX9_pours_0 : List UInt8 := [42, 180, 0, 44, 27, 162, 0, 5, 3, 172, 42, 89, 180, 0, 44, 27, 100, 181, 0, 44, 4, 172]
abbrev dktX9_pours_0 : List UInt8 := dkwX9_pours_0 ++ []
theorem dksX9_pours_0 : cX9_pours.data.toList.drop 0 = dktX9_pours_0 := by decide +kernel
theorem dX9_pours_0 : decode cX9_pours 0 = .ok (.aload_n 0, 1) := dk_42 (dk_at dksX9_pours_0 0 rfl rfl)
theorem dX9_pours_1 : decode cX9_pours 1 = .ok (.getfield 44, 3) := dk_180 0 44 (dk_at dksX9_pours_0 1 rfl rfl)
theorem dX9_pours_4 : decode cX9_pours 4 = .ok (.iload_n 1, 1) := dk_27 (dk_at dksX9_pours_0 4 rfl rfl)
theorem dX9_pours_5 : decode cX9_pours 5 = .ok (.if_icmp .ge 5, 3) := dk_162 0 5 (dk_at dksX9_pours_0 5 rfl rfl)
theorem dX9_pours_8 : decode cX9_pours 8 = .ok (.iconst 0, 1) := dk_3 (dk_at dksX9_pours_0 8 rfl rfl)
theorem dX9_pours_9 : decode cX9_pours 9 = .ok (.ireturn, 1) := dk_172 (dk_at dksX9_pours_0 9 rfl rfl)
theorem dX9_pours_10 : decode cX9_pours 10 = .ok (.aload_n 0, 1) := dk_42 (dk_at dksX9_pours_0 10 rfl rfl)
theorem dX9_pours_11 : decode cX9_pours 11 = .ok (.dup, 1) := dk_89 (dk_at dksX9_pours_0 11 rfl rfl)
theorem dX9_pours_12 : decode cX9_pours 12 = .ok (.getfield 44, 3) := dk_180 0 44 (dk_at dksX9_pours_0 12 rfl rfl)
theorem dX9_pours_15 : decode cX9_pours 15 = .ok (.iload_n 1, 1) := dk_27 (dk_at dksX9_pours_0 15 rfl rfl)
theorem dX9_pours_16 : decode cX9_pours 16 = .ok (.isub, 1) := dk_100 (dk_at dksX9_pours_0 16 rfl rfl)
theorem dX9_pours_17 : decode cX9_pours 17 = .ok (.putfield 44, 3) := dk_181 0 44 (dk_at dksX9_pours_0 17 rfl rfl)
theorem dX9_pours_20 : decode cX9_pours 20 = .ok (.iconst 1, 1) := dk_4 (dk_at dksX9_pours_0 20 rfl rfl)
theorem dX9_pours_21 : decode cX9_pours 21 = .ok (.ireturn, 1) := dk_172 (dk_at dksX9_pours_0 21 rfl rfl)
abbrev cX9_tells : ByteArray := prog_22_method_10_code
def yX9_tells : MethodName := ⟨RX9, "tells", "(II)Z"⟩
def dkwX9_tells_4 : List UInt8 := [172]
abbrev dktX9_tells_4 : List UInt8 := dkwX9_tells_4 ++ []
def dkwX9_tells_3 : List UInt8 := [79, 42, 180, 0, 25, 28, 92, 46, 29, 96, 79, 42, 89, 180, 0, 31, 4, 28, 120, 128, 181, 0, 31, 4]
abbrev dktX9_tells_3 : List UInt8 := dkwX9_tells_3 ++ dktX9_tells_4
def dkwX9_tells_2 : List UInt8 := [42, 180, 0, 28, 16, 7, 27, 104, 28, 96, 92, 46, 4, 96, 79, 42, 180, 0, 22, 28, 92, 46, 4, 96]
abbrev dktX9_tells_2 : List UInt8 := dkwX9_tells_2 ++ dktX9_tells_3
def dkwX9_tells_1 : List UInt8 := [42, 180, 0, 44, 29, 42, 180, 0, 3, 28, 182, 0, 86, 180, 0, 90, 104, 96, 184, 0, 114, 181, 0, 44]
abbrev dktX9_tells_1 : List UInt8 := dkwX9_tells_1 ++ dktX9_tells_2
def dkwX9_tells_0 : List UInt8 := [42, 180, 0, 31, 28, 184, 0, 110, 153, 0, 5, 3, 172, 42, 27, 28, 182, 0, 106, 62, 42, 17, 3, 231]
abbrev dktX9_tells_0 : List UInt8 := dkwX9_tells_0 ++ dktX9_tells_1
theorem dksX9_tells_0 : cX9_tells.data.toList.drop 0 = dktX9_tells_0 := by decide +kernel
theorem dksX9_tells_1 : cX9_tells.data.toList.drop 24 = dktX9_tells_1 := dk_seg dksX9_tells_0 24 rfl rfl
theorem dksX9_tells_2 : cX9_tells.data.toList.drop 48 = dktX9_tells_2 := dk_seg dksX9_tells_1 24 rfl rfl
theorem dksX9_tells_3 : cX9_tells.data.toList.drop 72 = dktX9_tells_3 := dk_seg dksX9_tells_2 24 rfl rfl
theorem dksX9_tells_4 : cX9_tells.data.toList.drop 96 = dktX9_tells_4 := dk_seg dksX9_tells_3 24 rfl rfl
theorem dX9_tells_0 : decode cX9_tells 0 = .ok (.aload_n 0, 1) := dk_42 (dk_at dksX9_tells_0 0 rfl rfl)
theorem dX9_tells_1 : decode cX9_tells 1 = .ok (.getfield 31, 3) := dk_180 0 31 (dk_at dksX9_tells_0 1 rfl rfl)
theorem dX9_tells_4 : decode cX9_tells 4 = .ok (.iload_n 2, 1) := dk_28 (dk_at dksX9_tells_0 4 rfl rfl)
theorem dX9_tells_5 : decode cX9_tells 5 = .ok (.invokestatic 110, 3) := dk_184 0 110 (dk_at dksX9_tells_0 5 rfl rfl)
theorem dX9_tells_8 : decode cX9_tells 8 = .ok (.ifCond .eq 5, 3) := dk_153 0 5 (dk_at dksX9_tells_0 8 rfl rfl)
theorem dX9_tells_11 : decode cX9_tells 11 = .ok (.iconst 0, 1) := dk_3 (dk_at dksX9_tells_0 11 rfl rfl)
theorem dX9_tells_12 : decode cX9_tells 12 = .ok (.ireturn, 1) := dk_172 (dk_at dksX9_tells_0 12 rfl rfl)
theorem dX9_tells_13 : decode cX9_tells 13 = .ok (.aload_n 0, 1) := dk_42 (dk_at dksX9_tells_0 13 rfl rfl)
theorem dX9_tells_14 : decode cX9_tells 14 = .ok (.iload_n 1, 1) := dk_27 (dk_at dksX9_tells_0 14 rfl rfl)
theorem dX9_tells_15 : decode cX9_tells 15 = .ok (.iload_n 2, 1) := dk_28 (dk_at dksX9_tells_0 15 rfl rfl)
theorem dX9_tells_16 : decode cX9_tells 16 = .ok (.invokevirtual 106, 3) := dk_182 0 106 (dk_at dksX9_tells_0 16 rfl rfl)
theorem dX9_tells_19 : decode cX9_tells 19 = .ok (.istore_n 3, 1) := dk_62 (dk_at dksX9_tells_0 19 rfl rfl)
theorem dX9_tells_20 : decode cX9_tells 20 = .ok (.aload_n 0, 1) := dk_42 (dk_at dksX9_tells_0 20 rfl rfl)
theorem dX9_tells_21 : decode cX9_tells 21 = .ok (.sipush 999, 3) := dk_17 3 231 (dk_at dksX9_tells_0 21 rfl rfl)
theorem dX9_tells_24 : decode cX9_tells 24 = .ok (.aload_n 0, 1) := dk_42 (dk_at dksX9_tells_1 0 rfl rfl)
theorem dX9_tells_25 : decode cX9_tells 25 = .ok (.getfield 44, 3) := dk_180 0 44 (dk_at dksX9_tells_1 1 rfl rfl)
theorem dX9_tells_28 : decode cX9_tells 28 = .ok (.iload_n 3, 1) := dk_29 (dk_at dksX9_tells_1 4 rfl rfl)
theorem dX9_tells_29 : decode cX9_tells 29 = .ok (.aload_n 0, 1) := dk_42 (dk_at dksX9_tells_1 5 rfl rfl)
theorem dX9_tells_30 : decode cX9_tells 30 = .ok (.getfield 3, 3) := dk_180 0 3 (dk_at dksX9_tells_1 6 rfl rfl)
theorem dX9_tells_33 : decode cX9_tells 33 = .ok (.iload_n 2, 1) := dk_28 (dk_at dksX9_tells_1 9 rfl rfl)
theorem dX9_tells_34 : decode cX9_tells 34 = .ok (.invokevirtual 86, 3) := dk_182 0 86 (dk_at dksX9_tells_1 10 rfl rfl)
theorem dX9_tells_37 : decode cX9_tells 37 = .ok (.getfield 90, 3) := dk_180 0 90 (dk_at dksX9_tells_1 13 rfl rfl)
theorem dX9_tells_40 : decode cX9_tells 40 = .ok (.imul, 1) := dk_104 (dk_at dksX9_tells_1 16 rfl rfl)
theorem dX9_tells_41 : decode cX9_tells 41 = .ok (.iadd, 1) := dk_96 (dk_at dksX9_tells_1 17 rfl rfl)
theorem dX9_tells_42 : decode cX9_tells 42 = .ok (.invokestatic 114, 3) := dk_184 0 114 (dk_at dksX9_tells_1 18 rfl rfl)
theorem dX9_tells_45 : decode cX9_tells 45 = .ok (.putfield 44, 3) := dk_181 0 44 (dk_at dksX9_tells_1 21 rfl rfl)
theorem dX9_tells_48 : decode cX9_tells 48 = .ok (.aload_n 0, 1) := dk_42 (dk_at dksX9_tells_2 0 rfl rfl)
theorem dX9_tells_49 : decode cX9_tells 49 = .ok (.getfield 28, 3) := dk_180 0 28 (dk_at dksX9_tells_2 1 rfl rfl)
theorem dX9_tells_52 : decode cX9_tells 52 = .ok (.bipush 7, 2) := dk_16 7 (dk_at dksX9_tells_2 4 rfl rfl)
theorem dX9_tells_54 : decode cX9_tells 54 = .ok (.iload_n 1, 1) := dk_27 (dk_at dksX9_tells_2 6 rfl rfl)
theorem dX9_tells_55 : decode cX9_tells 55 = .ok (.imul, 1) := dk_104 (dk_at dksX9_tells_2 7 rfl rfl)
theorem dX9_tells_56 : decode cX9_tells 56 = .ok (.iload_n 2, 1) := dk_28 (dk_at dksX9_tells_2 8 rfl rfl)
theorem dX9_tells_57 : decode cX9_tells 57 = .ok (.iadd, 1) := dk_96 (dk_at dksX9_tells_2 9 rfl rfl)
theorem dX9_tells_58 : decode cX9_tells 58 = .ok (.dup2, 1) := dk_92 (dk_at dksX9_tells_2 10 rfl rfl)
theorem dX9_tells_59 : decode cX9_tells 59 = .ok (.iaload, 1) := dk_46 (dk_at dksX9_tells_2 11 rfl rfl)
theorem dX9_tells_60 : decode cX9_tells 60 = .ok (.iconst 1, 1) := dk_4 (dk_at dksX9_tells_2 12 rfl rfl)
theorem dX9_tells_61 : decode cX9_tells 61 = .ok (.iadd, 1) := dk_96 (dk_at dksX9_tells_2 13 rfl rfl)
theorem dX9_tells_62 : decode cX9_tells 62 = .ok (.iastore, 1) := dk_79 (dk_at dksX9_tells_2 14 rfl rfl)
theorem dX9_tells_63 : decode cX9_tells 63 = .ok (.aload_n 0, 1) := dk_42 (dk_at dksX9_tells_2 15 rfl rfl)
theorem dX9_tells_64 : decode cX9_tells 64 = .ok (.getfield 22, 3) := dk_180 0 22 (dk_at dksX9_tells_2 16 rfl rfl)
theorem dX9_tells_67 : decode cX9_tells 67 = .ok (.iload_n 2, 1) := dk_28 (dk_at dksX9_tells_2 19 rfl rfl)
theorem dX9_tells_68 : decode cX9_tells 68 = .ok (.dup2, 1) := dk_92 (dk_at dksX9_tells_2 20 rfl rfl)
theorem dX9_tells_69 : decode cX9_tells 69 = .ok (.iaload, 1) := dk_46 (dk_at dksX9_tells_2 21 rfl rfl)
theorem dX9_tells_70 : decode cX9_tells 70 = .ok (.iconst 1, 1) := dk_4 (dk_at dksX9_tells_2 22 rfl rfl)
theorem dX9_tells_71 : decode cX9_tells 71 = .ok (.iadd, 1) := dk_96 (dk_at dksX9_tells_2 23 rfl rfl)
theorem dX9_tells_72 : decode cX9_tells 72 = .ok (.iastore, 1) := dk_79 (dk_at dksX9_tells_3 0 rfl rfl)
theorem dX9_tells_73 : decode cX9_tells 73 = .ok (.aload_n 0, 1) := dk_42 (dk_at dksX9_tells_3 1 rfl rfl)
theorem dX9_tells_74 : decode cX9_tells 74 = .ok (.getfield 25, 3) := dk_180 0 25 (dk_at dksX9_tells_3 2 rfl rfl)
theorem dX9_tells_77 : decode cX9_tells 77 = .ok (.iload_n 2, 1) := dk_28 (dk_at dksX9_tells_3 5 rfl rfl)
theorem dX9_tells_78 : decode cX9_tells 78 = .ok (.dup2, 1) := dk_92 (dk_at dksX9_tells_3 6 rfl rfl)
theorem dX9_tells_79 : decode cX9_tells 79 = .ok (.iaload, 1) := dk_46 (dk_at dksX9_tells_3 7 rfl rfl)
theorem dX9_tells_80 : decode cX9_tells 80 = .ok (.iload_n 3, 1) := dk_29 (dk_at dksX9_tells_3 8 rfl rfl)
theorem dX9_tells_81 : decode cX9_tells 81 = .ok (.iadd, 1) := dk_96 (dk_at dksX9_tells_3 9 rfl rfl)
theorem dX9_tells_82 : decode cX9_tells 82 = .ok (.iastore, 1) := dk_79 (dk_at dksX9_tells_3 10 rfl rfl)
theorem dX9_tells_83 : decode cX9_tells 83 = .ok (.aload_n 0, 1) := dk_42 (dk_at dksX9_tells_3 11 rfl rfl)
theorem dX9_tells_84 : decode cX9_tells 84 = .ok (.dup, 1) := dk_89 (dk_at dksX9_tells_3 12 rfl rfl)
theorem dX9_tells_85 : decode cX9_tells 85 = .ok (.getfield 31, 3) := dk_180 0 31 (dk_at dksX9_tells_3 13 rfl rfl)
theorem dX9_tells_88 : decode cX9_tells 88 = .ok (.iconst 1, 1) := dk_4 (dk_at dksX9_tells_3 16 rfl rfl)
theorem dX9_tells_89 : decode cX9_tells 89 = .ok (.iload_n 2, 1) := dk_28 (dk_at dksX9_tells_3 17 rfl rfl)
theorem dX9_tells_90 : decode cX9_tells 90 = .ok (.ishl, 1) := dk_120 (dk_at dksX9_tells_3 18 rfl rfl)
theorem dX9_tells_91 : decode cX9_tells 91 = .ok (.ior, 1) := dk_128 (dk_at dksX9_tells_3 19 rfl rfl)
theorem dX9_tells_92 : decode cX9_tells 92 = .ok (.putfield 31, 3) := dk_181 0 31 (dk_at dksX9_tells_3 20 rfl rfl)
theorem dX9_tells_95 : decode cX9_tells 95 = .ok (.iconst 1, 1) := dk_4 (dk_at dksX9_tells_3 23 rfl rfl)
theorem dX9_tells_96 : decode cX9_tells 96 = .ok (.ireturn, 1) := dk_172 (dk_at dksX9_tells_4 0 rfl rfl)
theorem q124 : (Jvm.Cond.initialized "DimpleWells$Season") ∈ lw_all := lw_g (lw_at lw_m1 28 rfl) rfl
theorem q515 : (Jvm.Cond.fieldLinkNest "DimpleWells$Season" (58 : Nat) "DimpleWells$Told" "next" "[I" "DimpleWells") ∈ lw_tbl := lw_at lw_m2 179 rfl
theorem q525 : (Jvm.Cond.fieldLinkNest "DimpleWells$Season" (39 : Nat) "DimpleWells$Told" "jug" "I" "DimpleWells") ∈ lw_tbl := lw_at lw_m2 189 rfl
theorem q529 : (Jvm.Cond.fieldLinkNest "DimpleWells$Season" (122 : Nat) "DimpleWells$Told" "drink" "I" "DimpleWells") ∈ lw_tbl := lw_at lw_m2 193 rfl
theorem q604 : (Jvm.Cond.instantiable "DimpleWells$Season" (12 : Nat)) ∈ lw_all := lw_g (lw_at lw_m3 28 rfl) rfl
theorem q606 : (Jvm.Cond.instanceMethod ({ cls := "DimpleWells$Season", name := "<init>", desc := "(LDimpleWells;)V" } : Jvm.MethodName)) ∈ lw_all := lw_g (lw_at lw_m3 30 rfl) rfl
theorem q607 : (Jvm.Cond.code ({ cls := "DimpleWells$Season", name := "<init>", desc := "(LDimpleWells;)V" } : Jvm.MethodName) prog_22_method_1_code (2 : Nat) (Option.none : Option Jvm.ClassFile.FieldType)) ∈ lw_all := lw_g (lw_at lw_m3 31 rfl) rfl
theorem q608 : (Jvm.Cond.methodLink "DimpleWells$Season" (9 : Nat) ({ cls := "java/lang/Object", name := "<init>", desc := "()V" } : Jvm.MethodName)) ∈ lw_all := lw_g (lw_at lw_m3 32 rfl) rfl
theorem q609 : (Jvm.Cond.fieldLink "DimpleWells$Season" (15 : Nat) "DimpleWells$Season" "grief" "[I") ∈ lw_all := lw_g (lw_at lw_m3 33 rfl) rfl
theorem q611 : (Jvm.Cond.fieldLink "DimpleWells$Season" (19 : Nat) "DimpleWells$Season" "thirst" "[I") ∈ lw_all := lw_g (lw_at lw_m3 35 rfl) rfl
theorem q613 : (Jvm.Cond.fieldLink "DimpleWells$Season" (22 : Nat) "DimpleWells$Season" "heard" "[I") ∈ lw_all := lw_g (lw_at lw_m3 37 rfl) rfl
theorem q615 : (Jvm.Cond.fieldLink "DimpleWells$Season" (25 : Nat) "DimpleWells$Season" "laughed" "[I") ∈ lw_all := lw_g (lw_at lw_m3 39 rfl) rfl
theorem q617 : (Jvm.Cond.fieldLink "DimpleWells$Season" (28 : Nat) "DimpleWells$Season" "worn" "[I") ∈ lw_all := lw_g (lw_at lw_m3 41 rfl) rfl
theorem q619 : (Jvm.Cond.fieldLink "DimpleWells$Season" (31 : Nat) "DimpleWells$Season" "busy" "I") ∈ lw_all := lw_g (lw_at lw_m3 43 rfl) rfl
theorem q621 : (Jvm.Cond.fieldLink "DimpleWells$Season" (44 : Nat) "DimpleWells$Season" "jug" "I") ∈ lw_all := lw_g (lw_at lw_m3 45 rfl) rfl
theorem q623 : (Jvm.Cond.fieldLink "DimpleWells$Season" (45 : Nat) "DimpleWells$Season" "day" "I") ∈ lw_all := lw_g (lw_at lw_m3 47 rfl) rfl
theorem q632 : (Jvm.Cond.fieldLink "DimpleWells$Season" (3 : Nat) "DimpleWells$Season" "this$0" "LDimpleWells;") ∈ lw_all := lw_g (lw_at lw_m3 56 rfl) rfl
theorem q633 : (Jvm.Cond.laysFinal "DimpleWells$Season" "DimpleWells$Season" "grief" "[I") ∈ lw_all := lw_g (lw_at lw_m3 57 rfl) rfl
theorem q634 : (Jvm.Cond.soleField "DimpleWells$Season" "grief") ∈ lw_all := lw_g (lw_at lw_m3 58 rfl) rfl
theorem q635 : (Jvm.Cond.laysFinal "DimpleWells$Season" "DimpleWells$Season" "thirst" "[I") ∈ lw_all := lw_g (lw_at lw_m3 59 rfl) rfl
theorem q636 : (Jvm.Cond.soleField "DimpleWells$Season" "thirst") ∈ lw_all := lw_g (lw_at lw_m3 60 rfl) rfl
theorem q637 : (Jvm.Cond.laysFinal "DimpleWells$Season" "DimpleWells$Season" "heard" "[I") ∈ lw_all := lw_g (lw_at lw_m3 61 rfl) rfl
theorem q638 : (Jvm.Cond.soleField "DimpleWells$Season" "heard") ∈ lw_all := lw_g (lw_at lw_m3 62 rfl) rfl
theorem q639 : (Jvm.Cond.laysFinal "DimpleWells$Season" "DimpleWells$Season" "laughed" "[I") ∈ lw_all := lw_g (lw_at lw_m3 63 rfl) rfl
theorem q640 : (Jvm.Cond.soleField "DimpleWells$Season" "laughed") ∈ lw_all := lw_g (lw_at lw_m3 64 rfl) rfl
theorem q641 : (Jvm.Cond.laysFinal "DimpleWells$Season" "DimpleWells$Season" "worn" "[I") ∈ lw_all := lw_g (lw_at lw_m3 65 rfl) rfl
theorem q642 : (Jvm.Cond.soleField "DimpleWells$Season" "worn") ∈ lw_all := lw_g (lw_at lw_m3 66 rfl) rfl
theorem q643 : (Jvm.Cond.lays "DimpleWells$Season" "DimpleWells$Season" "busy" "I") ∈ lw_all := lw_g (lw_at lw_m3 67 rfl) rfl
theorem q644 : (Jvm.Cond.soleField "DimpleWells$Season" "busy") ∈ lw_all := lw_g (lw_at lw_m3 68 rfl) rfl
theorem q645 : (Jvm.Cond.lays "DimpleWells$Season" "DimpleWells$Season" "jug" "I") ∈ lw_all := lw_g (lw_at lw_m3 69 rfl) rfl
theorem q646 : (Jvm.Cond.soleField "DimpleWells$Season" "jug") ∈ lw_all := lw_g (lw_at lw_m3 70 rfl) rfl
theorem q647 : (Jvm.Cond.lays "DimpleWells$Season" "DimpleWells$Season" "day" "I") ∈ lw_all := lw_g (lw_at lw_m3 71 rfl) rfl
theorem q648 : (Jvm.Cond.soleField "DimpleWells$Season" "day") ∈ lw_all := lw_g (lw_at lw_m3 72 rfl) rfl
theorem q649 : (Jvm.Cond.lays "DimpleWells$Season" "DimpleWells$Season" "steps" "I") ∈ lw_all := lw_g (lw_at lw_m3 73 rfl) rfl
theorem q650 : (Jvm.Cond.soleField "DimpleWells$Season" "steps") ∈ lw_all := lw_g (lw_at lw_m3 74 rfl) rfl
theorem q651 : (Jvm.Cond.lays "DimpleWells$Season" "DimpleWells$Season" "done" "I") ∈ lw_all := lw_g (lw_at lw_m3 75 rfl) rfl
theorem q652 : (Jvm.Cond.soleField "DimpleWells$Season" "done") ∈ lw_all := lw_g (lw_at lw_m3 76 rfl) rfl
theorem q653 : (Jvm.Cond.lays "DimpleWells$Season" "DimpleWells$Season" "refused" "I") ∈ lw_all := lw_g (lw_at lw_m3 77 rfl) rfl
theorem q654 : (Jvm.Cond.soleField "DimpleWells$Season" "refused") ∈ lw_all := lw_g (lw_at lw_m3 78 rfl) rfl
theorem q655 : (Jvm.Cond.laysFinal "DimpleWells$Season" "DimpleWells$Season" "this$0" "LDimpleWells;") ∈ lw_all := lw_g (lw_at lw_m3 79 rfl) rfl
theorem q656 : (Jvm.Cond.soleField "DimpleWells$Season" "this$0") ∈ lw_all := lw_g (lw_at lw_m3 80 rfl) rfl
theorem q657 : (Jvm.Cond.superclass "DimpleWells$Season" "java/lang/Object") ∈ lw_all := lw_g (lw_at lw_m3 81 rfl) rfl
theorem q664 : (Jvm.Cond.instanceMethod ({ cls := "DimpleWells$Season", name := "begins", desc := "()LDimpleWells$Season;" } : Jvm.MethodName)) ∈ lw_all := lw_g (lw_at lw_m3 88 rfl) rfl
theorem q665 : (Jvm.Cond.selects "DimpleWells$Season" ({ cls := "DimpleWells$Season", name := "begins", desc := "()LDimpleWells$Season;" } : Jvm.MethodName) ({ cls := "DimpleWells$Season", name := "begins", desc := "()LDimpleWells$Season;" } : Jvm.MethodName)) ∈ lw_all := lw_g (lw_at lw_m3 89 rfl) rfl
theorem q666 : (Jvm.Cond.code ({ cls := "DimpleWells$Season", name := "begins", desc := "()LDimpleWells$Season;" } : Jvm.MethodName) prog_22_method_2_code (2 : Nat) (Option.some (Jvm.ClassFile.FieldType.object "DimpleWells$Season"))) ∈ lw_all := lw_g (lw_at lw_m3 90 rfl) rfl
theorem q668 : (Jvm.Cond.fieldLinkNest "DimpleWells$Season" (35 : Nat) "DimpleWells" "told" "LDimpleWells$Told;" "DimpleWells") ∈ lw_tbl := lw_at lw_m3 92 rfl
theorem q755 : (Jvm.Cond.instanceMethod ({ cls := "DimpleWells$Season", name := "becomes", desc := "(LDimpleWells$Season;)LDimpleWells$Season;" } : Jvm.MethodName)) ∈ lw_all := lw_g (lw_at lw_m3 179 rfl) rfl
theorem q756 : (Jvm.Cond.selects "DimpleWells$Season" ({ cls := "DimpleWells$Season", name := "becomes", desc := "(LDimpleWells$Season;)LDimpleWells$Season;" } : Jvm.MethodName) ({ cls := "DimpleWells$Season", name := "becomes", desc := "(LDimpleWells$Season;)LDimpleWells$Season;" } : Jvm.MethodName)) ∈ lw_all := lw_g (lw_at lw_m3 180 rfl) rfl
theorem q757 : (Jvm.Cond.code ({ cls := "DimpleWells$Season", name := "becomes", desc := "(LDimpleWells$Season;)LDimpleWells$Season;" } : Jvm.MethodName) prog_22_method_3_code (2 : Nat) (Option.some (Jvm.ClassFile.FieldType.object "DimpleWells$Season"))) ∈ lw_all := lw_g (lw_at lw_m3 181 rfl) rfl
theorem q758 : (Jvm.Cond.methodLink "DimpleWells$Season" (48 : Nat) ({ cls := "java/lang/System", name := "arraycopy", desc := "(Ljava/lang/Object;ILjava/lang/Object;II)V" } : Jvm.MethodName)) ∈ lw_all := lw_g (lw_at lw_m3 182 rfl) rfl
theorem q764 : (Jvm.Cond.instanceMethod ({ cls := "DimpleWells$Season", name := "sum", desc := "([I)I" } : Jvm.MethodName)) ∈ lw_all := lw_g (lw_at lw_m3 188 rfl) rfl
theorem q765 : (Jvm.Cond.selects "DimpleWells$Season" ({ cls := "DimpleWells$Season", name := "sum", desc := "([I)I" } : Jvm.MethodName) ({ cls := "DimpleWells$Season", name := "sum", desc := "([I)I" } : Jvm.MethodName)) ∈ lw_all := lw_g (lw_at lw_m3 189 rfl) rfl
theorem q766 : (Jvm.Cond.code ({ cls := "DimpleWells$Season", name := "sum", desc := "([I)I" } : Jvm.MethodName) prog_22_method_5_code (4 : Nat) (Option.some Jvm.ClassFile.FieldType.int)) ∈ lw_all := lw_g (lw_at lw_m3 190 rfl) rfl
theorem q767 : (Jvm.Cond.methodLinkNest "DimpleWells$Season" (54 : Nat) ({ cls := "DimpleWells", name := "persons", desc := "()I" } : Jvm.MethodName) "DimpleWells") ∈ lw_tbl := lw_at lw_m3 191 rfl
theorem q776 : (Jvm.Cond.instanceMethod ({ cls := "DimpleWells$Season", name := "passes", desc := "()V" } : Jvm.MethodName)) ∈ lw_all := lw_g (lw_at lw_m3 200 rfl) rfl
theorem q777 : (Jvm.Cond.selects "DimpleWells$Season" ({ cls := "DimpleWells$Season", name := "passes", desc := "()V" } : Jvm.MethodName) ({ cls := "DimpleWells$Season", name := "passes", desc := "()V" } : Jvm.MethodName)) ∈ lw_all := lw_g (lw_at lw_m3 201 rfl) rfl
theorem q778 : (Jvm.Cond.code ({ cls := "DimpleWells$Season", name := "passes", desc := "()V" } : Jvm.MethodName) prog_22_method_15_code (3 : Nat) (Option.none : Option Jvm.ClassFile.FieldType)) ∈ lw_all := lw_g (lw_at lw_m3 202 rfl) rfl
theorem q779 : (Jvm.Cond.methodLink "DimpleWells$Season" (114 : Nat) ({ cls := "java/lang/Math", name := "min", desc := "(II)I" } : Jvm.MethodName)) ∈ lw_all := lw_g (lw_at lw_m3 203 rfl) rfl
theorem q780 : (Jvm.Cond.methodLink "DimpleWells$Season" (125 : Nat) ({ cls := "java/lang/Math", name := "max", desc := "(II)I" } : Jvm.MethodName)) ∈ lw_all := lw_g (lw_at lw_m3 204 rfl) rfl
theorem q807 : (Jvm.Cond.instanceMethod ({ cls := "DimpleWells$Season", name := "water", desc := "(II)I" } : Jvm.MethodName)) ∈ lw_all := lw_g (lw_at lw_m3 231 rfl) rfl
theorem q808 : (Jvm.Cond.selects "DimpleWells$Season" ({ cls := "DimpleWells$Season", name := "water", desc := "(II)I" } : Jvm.MethodName) ({ cls := "DimpleWells$Season", name := "water", desc := "(II)I" } : Jvm.MethodName)) ∈ lw_all := lw_g (lw_at lw_m3 232 rfl) rfl
theorem q809 : (Jvm.Cond.code ({ cls := "DimpleWells$Season", name := "water", desc := "(II)I" } : Jvm.MethodName) prog_22_method_9_code (3 : Nat) (Option.some Jvm.ClassFile.FieldType.int)) ∈ lw_all := lw_g (lw_at lw_m3 233 rfl) rfl
theorem q810 : (Jvm.Cond.methodLink "DimpleWells$Season" (106 : Nat) ({ cls := "DimpleWells$Season", name := "laugh", desc := "(II)I" } : Jvm.MethodName)) ∈ lw_all := lw_g (lw_at lw_m3 234 rfl) rfl
theorem q811 : (Jvm.Cond.instanceMethod ({ cls := "DimpleWells$Season", name := "laugh", desc := "(II)I" } : Jvm.MethodName)) ∈ lw_all := lw_g (lw_at lw_m3 235 rfl) rfl
theorem q812 : (Jvm.Cond.selects "DimpleWells$Season" ({ cls := "DimpleWells$Season", name := "laugh", desc := "(II)I" } : Jvm.MethodName) ({ cls := "DimpleWells$Season", name := "laugh", desc := "(II)I" } : Jvm.MethodName)) ∈ lw_all := lw_g (lw_at lw_m3 236 rfl) rfl
theorem q813 : (Jvm.Cond.code ({ cls := "DimpleWells$Season", name := "laugh", desc := "(II)I" } : Jvm.MethodName) prog_22_method_8_code (3 : Nat) (Option.some Jvm.ClassFile.FieldType.int)) ∈ lw_all := lw_g (lw_at lw_m3 237 rfl) rfl
theorem q814 : (Jvm.Cond.methodLinkNest "DimpleWells$Season" (86 : Nat) ({ cls := "DimpleWells", name := "personOf", desc := "(I)LDimpleWells$Person;" } : Jvm.MethodName) "DimpleWells") ∈ lw_tbl := lw_at lw_m3 238 rfl
theorem q833 : (Jvm.Cond.methodLink "DimpleWells$Season" (102 : Nat) ({ cls := "DimpleWells$Season", name := "laughBy", desc := "(IIIII)I" } : Jvm.MethodName)) ∈ lw_all := lw_g (lw_at lw_m4 17 rfl) rfl
theorem q834 : (Jvm.Cond.instanceMethod ({ cls := "DimpleWells$Season", name := "laughBy", desc := "(IIIII)I" } : Jvm.MethodName)) ∈ lw_all := lw_g (lw_at lw_m4 18 rfl) rfl
theorem q835 : (Jvm.Cond.selects "DimpleWells$Season" ({ cls := "DimpleWells$Season", name := "laughBy", desc := "(IIIII)I" } : Jvm.MethodName) ({ cls := "DimpleWells$Season", name := "laughBy", desc := "(IIIII)I" } : Jvm.MethodName)) ∈ lw_all := lw_g (lw_at lw_m4 19 rfl) rfl
theorem q836 : (Jvm.Cond.code ({ cls := "DimpleWells$Season", name := "laughBy", desc := "(IIIII)I" } : Jvm.MethodName) prog_22_method_7_code (7 : Nat) (Option.some Jvm.ClassFile.FieldType.int)) ∈ lw_all := lw_g (lw_at lw_m4 20 rfl) rfl
theorem q837 : (Jvm.Cond.methodLink "DimpleWells$Season" (61 : Nat) ({ cls := "DimpleWells$Season", name := "some", desc := "([I)I" } : Jvm.MethodName)) ∈ lw_all := lw_g (lw_at lw_m4 21 rfl) rfl
theorem q838 : (Jvm.Cond.instanceMethod ({ cls := "DimpleWells$Season", name := "some", desc := "([I)I" } : Jvm.MethodName)) ∈ lw_all := lw_g (lw_at lw_m4 22 rfl) rfl
theorem q839 : (Jvm.Cond.selects "DimpleWells$Season" ({ cls := "DimpleWells$Season", name := "some", desc := "([I)I" } : Jvm.MethodName) ({ cls := "DimpleWells$Season", name := "some", desc := "([I)I" } : Jvm.MethodName)) ∈ lw_all := lw_g (lw_at lw_m4 23 rfl) rfl
theorem q840 : (Jvm.Cond.code ({ cls := "DimpleWells$Season", name := "some", desc := "([I)I" } : Jvm.MethodName) prog_22_method_4_code (4 : Nat) (Option.some Jvm.ClassFile.FieldType.int)) ∈ lw_all := lw_g (lw_at lw_m4 24 rfl) rfl
theorem q841 : (Jvm.Cond.methodLink "DimpleWells$Season" (65 : Nat) ({ cls := "java/lang/Integer", name := "bitCount", desc := "(I)I" } : Jvm.MethodName)) ∈ lw_all := lw_g (lw_at lw_m4 25 rfl) rfl
theorem q847 : (Jvm.Cond.methodLinkNest "DimpleWells$Season" (71 : Nat) ({ cls := "DimpleWells", name := "jokeOf", desc := "(I)LDimpleWells$Joke;" } : Jvm.MethodName) "DimpleWells") ∈ lw_tbl := lw_at lw_m4 31 rfl
theorem q852 : (Jvm.Cond.methodLink "DimpleWells$Season" (80 : Nat) ({ cls := "DimpleWells$Joke", name := "apart", desc := "(I)I" } : Jvm.MethodName)) ∈ lw_all := lw_g (lw_at lw_m4 36 rfl) rfl
theorem q859 : (Jvm.Cond.methodLink "DimpleWells$Season" (83 : Nat) ({ cls := "DimpleWells$Season", name := "often", desc := "(I)I" } : Jvm.MethodName)) ∈ lw_all := lw_g (lw_at lw_m4 43 rfl) rfl
theorem q860 : (Jvm.Cond.instanceMethod ({ cls := "DimpleWells$Season", name := "often", desc := "(I)I" } : Jvm.MethodName)) ∈ lw_all := lw_g (lw_at lw_m4 44 rfl) rfl
theorem q861 : (Jvm.Cond.selects "DimpleWells$Season" ({ cls := "DimpleWells$Season", name := "often", desc := "(I)I" } : Jvm.MethodName) ({ cls := "DimpleWells$Season", name := "often", desc := "(I)I" } : Jvm.MethodName)) ∈ lw_all := lw_g (lw_at lw_m4 45 rfl) rfl
theorem q862 : (Jvm.Cond.code ({ cls := "DimpleWells$Season", name := "often", desc := "(I)I" } : Jvm.MethodName) prog_22_method_6_code (4 : Nat) (Option.some Jvm.ClassFile.FieldType.int)) ∈ lw_all := lw_g (lw_at lw_m4 46 rfl) rfl
theorem q863 : (Jvm.Cond.methodLinkNest "DimpleWells$Season" (95 : Nat) ({ cls := "DimpleWells", name := "laughOf", desc := "(IIIIIIIIII)I" } : Jvm.MethodName) "DimpleWells") ∈ lw_tbl := lw_at lw_m4 47 rfl
theorem q1208 : (Jvm.Cond.fieldLinkNest "DimpleWells$Season" (90 : Nat) "DimpleWells$Person" "dimples" "I" "DimpleWells") ∈ lw_tbl := lw_at lw_m5 152 rfl
theorem q1211 : (Jvm.Cond.fieldLinkNest "DimpleWells$Season" (99 : Nat) "DimpleWells$Person" "taste" "I" "DimpleWells") ∈ lw_tbl := lw_at lw_m5 155 rfl
theorem q1262 : (Jvm.Cond.selects "DimpleWells$Season" ({ cls := "java/lang/Object", name := "getClass", desc := "()Ljava/lang/Class;" } : Jvm.MethodName) ({ cls := "java/lang/Object", name := "getClass", desc := "()Ljava/lang/Class;" } : Jvm.MethodName)) ∈ lw_all := lw_g (lw_at lw_m5 206 rfl) rfl
theorem q1291 : (Jvm.Cond.fieldLinkNest "DimpleWells$Season" (75 : Nat) "DimpleWells$Joke" "strong" "I" "DimpleWells") ∈ lw_tbl := lw_at lw_m5 235 rfl
theorem q1618 : (Jvm.Cond.instanceMethod ({ cls := "DimpleWells$Season", name := "cheers", desc := "(I)Z" } : Jvm.MethodName)) ∈ lw_all := lw_g (lw_at lw_m7 82 rfl) rfl
theorem q1619 : (Jvm.Cond.selects "DimpleWells$Season" ({ cls := "DimpleWells$Season", name := "cheers", desc := "(I)Z" } : Jvm.MethodName) ({ cls := "DimpleWells$Season", name := "cheers", desc := "(I)Z" } : Jvm.MethodName)) ∈ lw_all := lw_g (lw_at lw_m7 83 rfl) rfl
theorem q1620 : (Jvm.Cond.code ({ cls := "DimpleWells$Season", name := "cheers", desc := "(I)Z" } : Jvm.MethodName) prog_22_method_12_code (2 : Nat) (Option.some Jvm.ClassFile.FieldType.boolean)) ∈ lw_all := lw_g (lw_at lw_m7 84 rfl) rfl
theorem q1625 : (Jvm.Cond.instanceMethod ({ cls := "DimpleWells$Season", name := "grieves", desc := "(II)Z" } : Jvm.MethodName)) ∈ lw_all := lw_g (lw_at lw_m7 89 rfl) rfl
theorem q1626 : (Jvm.Cond.selects "DimpleWells$Season" ({ cls := "DimpleWells$Season", name := "grieves", desc := "(II)Z" } : Jvm.MethodName) ({ cls := "DimpleWells$Season", name := "grieves", desc := "(II)Z" } : Jvm.MethodName)) ∈ lw_all := lw_g (lw_at lw_m7 90 rfl) rfl
theorem q1627 : (Jvm.Cond.code ({ cls := "DimpleWells$Season", name := "grieves", desc := "(II)Z" } : Jvm.MethodName) prog_22_method_11_code (3 : Nat) (Option.some Jvm.ClassFile.FieldType.boolean)) ∈ lw_all := lw_g (lw_at lw_m7 91 rfl) rfl
theorem q1632 : (Jvm.Cond.instanceMethod ({ cls := "DimpleWells$Season", name := "day", desc := "()Z" } : Jvm.MethodName)) ∈ lw_all := lw_g (lw_at lw_m7 96 rfl) rfl
theorem q1633 : (Jvm.Cond.selects "DimpleWells$Season" ({ cls := "DimpleWells$Season", name := "day", desc := "()Z" } : Jvm.MethodName) ({ cls := "DimpleWells$Season", name := "day", desc := "()Z" } : Jvm.MethodName)) ∈ lw_all := lw_g (lw_at lw_m7 97 rfl) rfl
theorem q1634 : (Jvm.Cond.code ({ cls := "DimpleWells$Season", name := "day", desc := "()Z" } : Jvm.MethodName) prog_22_method_14_code (1 : Nat) (Option.some Jvm.ClassFile.FieldType.boolean)) ∈ lw_all := lw_g (lw_at lw_m7 98 rfl) rfl
theorem q1635 : (Jvm.Cond.methodLink "DimpleWells$Season" (119 : Nat) ({ cls := "DimpleWells$Season", name := "passes", desc := "()V" } : Jvm.MethodName)) ∈ lw_all := lw_g (lw_at lw_m7 99 rfl) rfl
theorem q1640 : (Jvm.Cond.instanceMethod ({ cls := "DimpleWells$Season", name := "pours", desc := "(I)Z" } : Jvm.MethodName)) ∈ lw_all := lw_g (lw_at lw_m7 104 rfl) rfl
theorem q1641 : (Jvm.Cond.selects "DimpleWells$Season" ({ cls := "DimpleWells$Season", name := "pours", desc := "(I)Z" } : Jvm.MethodName) ({ cls := "DimpleWells$Season", name := "pours", desc := "(I)Z" } : Jvm.MethodName)) ∈ lw_all := lw_g (lw_at lw_m7 105 rfl) rfl
theorem q1642 : (Jvm.Cond.code ({ cls := "DimpleWells$Season", name := "pours", desc := "(I)Z" } : Jvm.MethodName) prog_22_method_13_code (2 : Nat) (Option.some Jvm.ClassFile.FieldType.boolean)) ∈ lw_all := lw_g (lw_at lw_m7 106 rfl) rfl
theorem q1647 : (Jvm.Cond.instanceMethod ({ cls := "DimpleWells$Season", name := "tells", desc := "(II)Z" } : Jvm.MethodName)) ∈ lw_all := lw_g (lw_at lw_m7 111 rfl) rfl
theorem q1648 : (Jvm.Cond.selects "DimpleWells$Season" ({ cls := "DimpleWells$Season", name := "tells", desc := "(II)Z" } : Jvm.MethodName) ({ cls := "DimpleWells$Season", name := "tells", desc := "(II)Z" } : Jvm.MethodName)) ∈ lw_all := lw_g (lw_at lw_m7 112 rfl) rfl
theorem q1649 : (Jvm.Cond.code ({ cls := "DimpleWells$Season", name := "tells", desc := "(II)Z" } : Jvm.MethodName) prog_22_method_10_code (4 : Nat) (Option.some Jvm.ClassFile.FieldType.boolean)) ∈ lw_all := lw_g (lw_at lw_m7 113 rfl) rfl
theorem q1650 : (Jvm.Cond.methodLinkNest "DimpleWells$Season" (110 : Nat) ({ cls := "DimpleWells", name := "has", desc := "(II)Z" } : Jvm.MethodName) "DimpleWells") ∈ lw_tbl := lw_at lw_m7 114 rfl
theorem q2581 : (Jvm.Cond.castable "DimpleWells$Season" "java/lang/Object") ∈ lw_tbl := lw_at lw_m11 85 rfl
theorem in_X9 : ∀ w ∈ wsX90, w ∈ lw_all := lw_in wsX90 [633, 635, 637, 639, 641, 643, 645, 647, 649, 651, 653, 655] (by decide +kernel) (by decide +kernel)
/-! DimpleWells$Reader -/
set_option maxRecDepth 100000
def RX11 : String := "DimpleWells$Reader"
abbrev cX11_init : ByteArray := prog_21_method_1_code
def yX11_init : MethodName := ⟨RX11, "<init>", "([BI)V"⟩
def dkwX11_init_0 : List UInt8 := [42, 183, 0, 3, 42, 43, 181, 0, 9, 42, 28, 181, 0, 15, 177]
abbrev dktX11_init_0 : List UInt8 := dkwX11_init_0 ++ []
theorem dksX11_init_0 : cX11_init.data.toList.drop 0 = dktX11_init_0 := by decide +kernel
theorem dX11_init_0 : decode cX11_init 0 = .ok (.aload_n 0, 1) := dk_42 (dk_at dksX11_init_0 0 rfl rfl)
theorem dX11_init_1 : decode cX11_init 1 = .ok (.invokespecial 3, 3) := dk_183 0 3 (dk_at dksX11_init_0 1 rfl rfl)
theorem dX11_init_4 : decode cX11_init 4 = .ok (.aload_n 0, 1) := dk_42 (dk_at dksX11_init_0 4 rfl rfl)
theorem dX11_init_5 : decode cX11_init 5 = .ok (.aload_n 1, 1) := dk_43 (dk_at dksX11_init_0 5 rfl rfl)
theorem dX11_init_6 : decode cX11_init 6 = .ok (.putfield 9, 3) := dk_181 0 9 (dk_at dksX11_init_0 6 rfl rfl)
theorem dX11_init_9 : decode cX11_init 9 = .ok (.aload_n 0, 1) := dk_42 (dk_at dksX11_init_0 9 rfl rfl)
theorem dX11_init_10 : decode cX11_init 10 = .ok (.iload_n 2, 1) := dk_28 (dk_at dksX11_init_0 10 rfl rfl)
theorem dX11_init_11 : decode cX11_init 11 = .ok (.putfield 15, 3) := dk_181 0 15 (dk_at dksX11_init_0 11 rfl rfl)
theorem dX11_init_14 : decode cX11_init 14 = .ok (.return_, 1) := dk_177 (dk_at dksX11_init_0 14 rfl rfl)
abbrev cX11_sign : ByteArray := prog_21_method_2_code
def yX11_sign : MethodName := ⟨RX11, "sign", "()I"⟩
def dkwX11_sign_2 : List UInt8 := [162, 0, 15, 42, 180, 0, 9, 42, 180, 0, 19, 51, 167, 0, 4, 3, 172]
abbrev dktX11_sign_2 : List UInt8 := dkwX11_sign_2 ++ []
def dkwX11_sign_1 : List UInt8 := [160, 0, 16, 42, 89, 180, 0, 19, 4, 96, 181, 0, 19, 167, 255, 221, 42, 180, 0, 19, 42, 180, 0, 15]
abbrev dktX11_sign_1 : List UInt8 := dkwX11_sign_1 ++ dktX11_sign_2
def dkwX11_sign_0 : List UInt8 := [42, 180, 0, 19, 42, 180, 0, 15, 162, 0, 30, 42, 180, 0, 9, 42, 180, 0, 19, 51, 16, 32]
abbrev dktX11_sign_0 : List UInt8 := dkwX11_sign_0 ++ dktX11_sign_1
theorem dksX11_sign_0 : cX11_sign.data.toList.drop 0 = dktX11_sign_0 := by decide +kernel
theorem dksX11_sign_1 : cX11_sign.data.toList.drop 22 = dktX11_sign_1 := dk_seg dksX11_sign_0 22 rfl rfl
theorem dksX11_sign_2 : cX11_sign.data.toList.drop 46 = dktX11_sign_2 := dk_seg dksX11_sign_1 24 rfl rfl
theorem dX11_sign_0 : decode cX11_sign 0 = .ok (.aload_n 0, 1) := dk_42 (dk_at dksX11_sign_0 0 rfl rfl)
theorem dX11_sign_1 : decode cX11_sign 1 = .ok (.getfield 19, 3) := dk_180 0 19 (dk_at dksX11_sign_0 1 rfl rfl)
theorem dX11_sign_4 : decode cX11_sign 4 = .ok (.aload_n 0, 1) := dk_42 (dk_at dksX11_sign_0 4 rfl rfl)
theorem dX11_sign_5 : decode cX11_sign 5 = .ok (.getfield 15, 3) := dk_180 0 15 (dk_at dksX11_sign_0 5 rfl rfl)
theorem dX11_sign_8 : decode cX11_sign 8 = .ok (.if_icmp .ge 30, 3) := dk_162 0 30 (dk_at dksX11_sign_0 8 rfl rfl)
theorem dX11_sign_11 : decode cX11_sign 11 = .ok (.aload_n 0, 1) := dk_42 (dk_at dksX11_sign_0 11 rfl rfl)
theorem dX11_sign_12 : decode cX11_sign 12 = .ok (.getfield 9, 3) := dk_180 0 9 (dk_at dksX11_sign_0 12 rfl rfl)
theorem dX11_sign_15 : decode cX11_sign 15 = .ok (.aload_n 0, 1) := dk_42 (dk_at dksX11_sign_0 15 rfl rfl)
theorem dX11_sign_16 : decode cX11_sign 16 = .ok (.getfield 19, 3) := dk_180 0 19 (dk_at dksX11_sign_0 16 rfl rfl)
theorem dX11_sign_19 : decode cX11_sign 19 = .ok (.baload, 1) := dk_51 (dk_at dksX11_sign_0 19 rfl rfl)
theorem dX11_sign_20 : decode cX11_sign 20 = .ok (.bipush 32, 2) := dk_16 32 (dk_at dksX11_sign_0 20 rfl rfl)
theorem dX11_sign_22 : decode cX11_sign 22 = .ok (.if_icmp .ne 16, 3) := dk_160 0 16 (dk_at dksX11_sign_1 0 rfl rfl)
theorem dX11_sign_25 : decode cX11_sign 25 = .ok (.aload_n 0, 1) := dk_42 (dk_at dksX11_sign_1 3 rfl rfl)
theorem dX11_sign_26 : decode cX11_sign 26 = .ok (.dup, 1) := dk_89 (dk_at dksX11_sign_1 4 rfl rfl)
theorem dX11_sign_27 : decode cX11_sign 27 = .ok (.getfield 19, 3) := dk_180 0 19 (dk_at dksX11_sign_1 5 rfl rfl)
theorem dX11_sign_30 : decode cX11_sign 30 = .ok (.iconst 1, 1) := dk_4 (dk_at dksX11_sign_1 8 rfl rfl)
theorem dX11_sign_31 : decode cX11_sign 31 = .ok (.iadd, 1) := dk_96 (dk_at dksX11_sign_1 9 rfl rfl)
theorem dX11_sign_32 : decode cX11_sign 32 = .ok (.putfield 19, 3) := dk_181 0 19 (dk_at dksX11_sign_1 10 rfl rfl)
theorem dX11_sign_35 : decode cX11_sign 35 = .ok (.goto (-35), 3) := dk_167 255 221 (dk_at dksX11_sign_1 13 rfl rfl)
theorem dX11_sign_38 : decode cX11_sign 38 = .ok (.aload_n 0, 1) := dk_42 (dk_at dksX11_sign_1 16 rfl rfl)
theorem dX11_sign_39 : decode cX11_sign 39 = .ok (.getfield 19, 3) := dk_180 0 19 (dk_at dksX11_sign_1 17 rfl rfl)
theorem dX11_sign_42 : decode cX11_sign 42 = .ok (.aload_n 0, 1) := dk_42 (dk_at dksX11_sign_1 20 rfl rfl)
theorem dX11_sign_43 : decode cX11_sign 43 = .ok (.getfield 15, 3) := dk_180 0 15 (dk_at dksX11_sign_1 21 rfl rfl)
theorem dX11_sign_46 : decode cX11_sign 46 = .ok (.if_icmp .ge 15, 3) := dk_162 0 15 (dk_at dksX11_sign_2 0 rfl rfl)
theorem dX11_sign_49 : decode cX11_sign 49 = .ok (.aload_n 0, 1) := dk_42 (dk_at dksX11_sign_2 3 rfl rfl)
theorem dX11_sign_50 : decode cX11_sign 50 = .ok (.getfield 9, 3) := dk_180 0 9 (dk_at dksX11_sign_2 4 rfl rfl)
theorem dX11_sign_53 : decode cX11_sign 53 = .ok (.aload_n 0, 1) := dk_42 (dk_at dksX11_sign_2 7 rfl rfl)
theorem dX11_sign_54 : decode cX11_sign 54 = .ok (.getfield 19, 3) := dk_180 0 19 (dk_at dksX11_sign_2 8 rfl rfl)
theorem dX11_sign_57 : decode cX11_sign 57 = .ok (.baload, 1) := dk_51 (dk_at dksX11_sign_2 11 rfl rfl)
theorem dX11_sign_58 : decode cX11_sign 58 = .ok (.goto 4, 3) := dk_167 0 4 (dk_at dksX11_sign_2 12 rfl rfl)
theorem dX11_sign_61 : decode cX11_sign 61 = .ok (.iconst 0, 1) := dk_3 (dk_at dksX11_sign_2 15 rfl rfl)
theorem dX11_sign_62 : decode cX11_sign 62 = .ok (.ireturn, 1) := dk_172 (dk_at dksX11_sign_2 16 rfl rfl)
abbrev cX11_word : ByteArray := prog_21_method_3_code
def yX11_word : MethodName := ⟨RX11, "word", "()Ljava/lang/String;"⟩
def dkwX11_word_3 : List UInt8 := [132, 2, 1, 167, 255, 202, 43, 182, 0, 36, 176]
abbrev dktX11_word_3 : List UInt8 := dkwX11_word_3 ++ []
def dkwX11_word_2 : List UInt8 := [163, 0, 30, 43, 182, 0, 29, 16, 10, 162, 0, 21, 43, 42, 180, 0, 9, 28, 51, 146, 182, 0, 32, 87]
abbrev dktX11_word_2 : List UInt8 := dkwX11_word_2 ++ dktX11_word_3
def dkwX11_word_1 : List UInt8 := [162, 0, 52, 42, 180, 0, 9, 28, 51, 16, 97, 161, 0, 41, 42, 180, 0, 9, 28, 51, 16, 122]
abbrev dktX11_word_1 : List UInt8 := dkwX11_word_1 ++ dktX11_word_2
def dkwX11_word_0 : List UInt8 := [42, 182, 0, 22, 87, 187, 0, 26, 89, 183, 0, 28, 76, 42, 180, 0, 19, 61, 28, 42, 180, 0, 15]
abbrev dktX11_word_0 : List UInt8 := dkwX11_word_0 ++ dktX11_word_1
theorem dksX11_word_0 : cX11_word.data.toList.drop 0 = dktX11_word_0 := by decide +kernel
theorem dksX11_word_1 : cX11_word.data.toList.drop 23 = dktX11_word_1 := dk_seg dksX11_word_0 23 rfl rfl
theorem dksX11_word_2 : cX11_word.data.toList.drop 45 = dktX11_word_2 := dk_seg dksX11_word_1 22 rfl rfl
theorem dksX11_word_3 : cX11_word.data.toList.drop 69 = dktX11_word_3 := dk_seg dksX11_word_2 24 rfl rfl
theorem dX11_word_0 : decode cX11_word 0 = .ok (.aload_n 0, 1) := dk_42 (dk_at dksX11_word_0 0 rfl rfl)
theorem dX11_word_1 : decode cX11_word 1 = .ok (.invokevirtual 22, 3) := dk_182 0 22 (dk_at dksX11_word_0 1 rfl rfl)
theorem dX11_word_4 : decode cX11_word 4 = .ok (.pop, 1) := dk_87 (dk_at dksX11_word_0 4 rfl rfl)
theorem dX11_word_5 : decode cX11_word 5 = .ok (.new 26, 3) := dk_187 0 26 (dk_at dksX11_word_0 5 rfl rfl)
theorem dX11_word_8 : decode cX11_word 8 = .ok (.dup, 1) := dk_89 (dk_at dksX11_word_0 8 rfl rfl)
theorem dX11_word_9 : decode cX11_word 9 = .ok (.invokespecial 28, 3) := dk_183 0 28 (dk_at dksX11_word_0 9 rfl rfl)
theorem dX11_word_12 : decode cX11_word 12 = .ok (.astore_n 1, 1) := dk_76 (dk_at dksX11_word_0 12 rfl rfl)
theorem dX11_word_13 : decode cX11_word 13 = .ok (.aload_n 0, 1) := dk_42 (dk_at dksX11_word_0 13 rfl rfl)
theorem dX11_word_14 : decode cX11_word 14 = .ok (.getfield 19, 3) := dk_180 0 19 (dk_at dksX11_word_0 14 rfl rfl)
theorem dX11_word_17 : decode cX11_word 17 = .ok (.istore_n 2, 1) := dk_61 (dk_at dksX11_word_0 17 rfl rfl)
theorem dX11_word_18 : decode cX11_word 18 = .ok (.iload_n 2, 1) := dk_28 (dk_at dksX11_word_0 18 rfl rfl)
theorem dX11_word_19 : decode cX11_word 19 = .ok (.aload_n 0, 1) := dk_42 (dk_at dksX11_word_0 19 rfl rfl)
theorem dX11_word_20 : decode cX11_word 20 = .ok (.getfield 15, 3) := dk_180 0 15 (dk_at dksX11_word_0 20 rfl rfl)
theorem dX11_word_23 : decode cX11_word 23 = .ok (.if_icmp .ge 52, 3) := dk_162 0 52 (dk_at dksX11_word_1 0 rfl rfl)
theorem dX11_word_26 : decode cX11_word 26 = .ok (.aload_n 0, 1) := dk_42 (dk_at dksX11_word_1 3 rfl rfl)
theorem dX11_word_27 : decode cX11_word 27 = .ok (.getfield 9, 3) := dk_180 0 9 (dk_at dksX11_word_1 4 rfl rfl)
theorem dX11_word_30 : decode cX11_word 30 = .ok (.iload_n 2, 1) := dk_28 (dk_at dksX11_word_1 7 rfl rfl)
theorem dX11_word_31 : decode cX11_word 31 = .ok (.baload, 1) := dk_51 (dk_at dksX11_word_1 8 rfl rfl)
theorem dX11_word_32 : decode cX11_word 32 = .ok (.bipush 97, 2) := dk_16 97 (dk_at dksX11_word_1 9 rfl rfl)
theorem dX11_word_34 : decode cX11_word 34 = .ok (.if_icmp .lt 41, 3) := dk_161 0 41 (dk_at dksX11_word_1 11 rfl rfl)
theorem dX11_word_37 : decode cX11_word 37 = .ok (.aload_n 0, 1) := dk_42 (dk_at dksX11_word_1 14 rfl rfl)
theorem dX11_word_38 : decode cX11_word 38 = .ok (.getfield 9, 3) := dk_180 0 9 (dk_at dksX11_word_1 15 rfl rfl)
theorem dX11_word_41 : decode cX11_word 41 = .ok (.iload_n 2, 1) := dk_28 (dk_at dksX11_word_1 18 rfl rfl)
theorem dX11_word_42 : decode cX11_word 42 = .ok (.baload, 1) := dk_51 (dk_at dksX11_word_1 19 rfl rfl)
theorem dX11_word_43 : decode cX11_word 43 = .ok (.bipush 122, 2) := dk_16 122 (dk_at dksX11_word_1 20 rfl rfl)
theorem dX11_word_45 : decode cX11_word 45 = .ok (.if_icmp .gt 30, 3) := dk_163 0 30 (dk_at dksX11_word_2 0 rfl rfl)
theorem dX11_word_48 : decode cX11_word 48 = .ok (.aload_n 1, 1) := dk_43 (dk_at dksX11_word_2 3 rfl rfl)
theorem dX11_word_49 : decode cX11_word 49 = .ok (.invokevirtual 29, 3) := dk_182 0 29 (dk_at dksX11_word_2 4 rfl rfl)
theorem dX11_word_52 : decode cX11_word 52 = .ok (.bipush 10, 2) := dk_16 10 (dk_at dksX11_word_2 7 rfl rfl)
theorem dX11_word_54 : decode cX11_word 54 = .ok (.if_icmp .ge 21, 3) := dk_162 0 21 (dk_at dksX11_word_2 9 rfl rfl)
theorem dX11_word_57 : decode cX11_word 57 = .ok (.aload_n 1, 1) := dk_43 (dk_at dksX11_word_2 12 rfl rfl)
theorem dX11_word_58 : decode cX11_word 58 = .ok (.aload_n 0, 1) := dk_42 (dk_at dksX11_word_2 13 rfl rfl)
theorem dX11_word_59 : decode cX11_word 59 = .ok (.getfield 9, 3) := dk_180 0 9 (dk_at dksX11_word_2 14 rfl rfl)
theorem dX11_word_62 : decode cX11_word 62 = .ok (.iload_n 2, 1) := dk_28 (dk_at dksX11_word_2 17 rfl rfl)
theorem dX11_word_63 : decode cX11_word 63 = .ok (.baload, 1) := dk_51 (dk_at dksX11_word_2 18 rfl rfl)
theorem dX11_word_64 : decode cX11_word 64 = .ok (.i2c, 1) := dk_146 (dk_at dksX11_word_2 19 rfl rfl)
theorem dX11_word_65 : decode cX11_word 65 = .ok (.invokevirtual 32, 3) := dk_182 0 32 (dk_at dksX11_word_2 20 rfl rfl)
theorem dX11_word_68 : decode cX11_word 68 = .ok (.pop, 1) := dk_87 (dk_at dksX11_word_2 23 rfl rfl)
theorem dX11_word_69 : decode cX11_word 69 = .ok (.iinc 2 1, 3) := dk_132 2 1 (dk_at dksX11_word_3 0 rfl rfl)
theorem dX11_word_72 : decode cX11_word 72 = .ok (.goto (-54), 3) := dk_167 255 202 (dk_at dksX11_word_3 3 rfl rfl)
theorem dX11_word_75 : decode cX11_word 75 = .ok (.aload_n 1, 1) := dk_43 (dk_at dksX11_word_3 6 rfl rfl)
theorem dX11_word_76 : decode cX11_word 76 = .ok (.invokevirtual 36, 3) := dk_182 0 36 (dk_at dksX11_word_3 7 rfl rfl)
theorem dX11_word_79 : decode cX11_word 79 = .ok (.areturn, 1) := dk_176 (dk_at dksX11_word_3 10 rfl rfl)
abbrev cX11_wrong : ByteArray := prog_21_method_4_code
def yX11_wrong : MethodName := ⟨RX11, "wrong", "()LDimpleWells$Wrong;"⟩
def dkwX11_wrong_0 : List UInt8 := [187, 0, 40, 89, 4, 42, 180, 0, 19, 183, 0, 42, 176]
abbrev dktX11_wrong_0 : List UInt8 := dkwX11_wrong_0 ++ []
theorem dksX11_wrong_0 : cX11_wrong.data.toList.drop 0 = dktX11_wrong_0 := by decide +kernel
theorem dX11_wrong_0 : decode cX11_wrong 0 = .ok (.new 40, 3) := dk_187 0 40 (dk_at dksX11_wrong_0 0 rfl rfl)
theorem dX11_wrong_3 : decode cX11_wrong 3 = .ok (.dup, 1) := dk_89 (dk_at dksX11_wrong_0 3 rfl rfl)
theorem dX11_wrong_4 : decode cX11_wrong 4 = .ok (.iconst 1, 1) := dk_4 (dk_at dksX11_wrong_0 4 rfl rfl)
theorem dX11_wrong_5 : decode cX11_wrong 5 = .ok (.aload_n 0, 1) := dk_42 (dk_at dksX11_wrong_0 5 rfl rfl)
theorem dX11_wrong_6 : decode cX11_wrong 6 = .ok (.getfield 19, 3) := dk_180 0 19 (dk_at dksX11_wrong_0 6 rfl rfl)
theorem dX11_wrong_9 : decode cX11_wrong 9 = .ok (.invokespecial 42, 3) := dk_183 0 42 (dk_at dksX11_wrong_0 9 rfl rfl)
theorem dX11_wrong_12 : decode cX11_wrong 12 = .ok (.areturn, 1) := dk_176 (dk_at dksX11_wrong_0 12 rfl rfl)
abbrev cX11_number : ByteArray := prog_21_method_7_code
def yX11_number : MethodName := ⟨RX11, "number", "(II)I"⟩
def dkwX11_number_5 : List UInt8 := [164, 0, 16, 187, 0, 40, 89, 5, 42, 180, 0, 52, 183, 0, 42, 191, 21, 4, 172]
abbrev dktX11_number_5 : List UInt8 := dkwX11_number_5 ++ []
def dkwX11_number_4 : List UInt8 := [54, 4, 42, 89, 180, 0, 19, 4, 96, 181, 0, 19, 167, 255, 182, 21, 4, 27, 161, 0, 9, 21, 4, 28]
abbrev dktX11_number_4 : List UInt8 := dkwX11_number_4 ++ dktX11_number_5
def dkwX11_number_3 : List UInt8 := [16, 10, 21, 4, 104, 42, 180, 0, 9, 42, 180, 0, 19, 51, 96, 16, 48, 100, 18, 55, 184, 0, 56]
abbrev dktX11_number_3 : List UInt8 := dkwX11_number_3 ++ dktX11_number_4
def dkwX11_number_2 : List UInt8 := [42, 180, 0, 19, 51, 16, 48, 161, 0, 55, 42, 180, 0, 9, 42, 180, 0, 19, 51, 16, 57, 163, 0, 41]
abbrev dktX11_number_2 : List UInt8 := dkwX11_number_2 ++ dktX11_number_3
def dkwX11_number_1 : List UInt8 := [180, 0, 19, 181, 0, 52, 3, 54, 4, 42, 180, 0, 19, 42, 180, 0, 15, 162, 0, 69, 42, 180, 0, 9]
abbrev dktX11_number_1 : List UInt8 := dkwX11_number_1 ++ dktX11_number_2
def dkwX11_number_0 : List UInt8 := [42, 182, 0, 22, 62, 29, 16, 48, 161, 0, 9, 29, 16, 57, 164, 0, 8, 42, 182, 0, 45, 191, 42, 42]
abbrev dktX11_number_0 : List UInt8 := dkwX11_number_0 ++ dktX11_number_1
theorem dksX11_number_0 : cX11_number.data.toList.drop 0 = dktX11_number_0 := by decide +kernel
theorem dksX11_number_1 : cX11_number.data.toList.drop 24 = dktX11_number_1 := dk_seg dksX11_number_0 24 rfl rfl
theorem dksX11_number_2 : cX11_number.data.toList.drop 48 = dktX11_number_2 := dk_seg dksX11_number_1 24 rfl rfl
theorem dksX11_number_3 : cX11_number.data.toList.drop 72 = dktX11_number_3 := dk_seg dksX11_number_2 24 rfl rfl
theorem dksX11_number_4 : cX11_number.data.toList.drop 95 = dktX11_number_4 := dk_seg dksX11_number_3 23 rfl rfl
theorem dksX11_number_5 : cX11_number.data.toList.drop 119 = dktX11_number_5 := dk_seg dksX11_number_4 24 rfl rfl
theorem dX11_number_0 : decode cX11_number 0 = .ok (.aload_n 0, 1) := dk_42 (dk_at dksX11_number_0 0 rfl rfl)
theorem dX11_number_1 : decode cX11_number 1 = .ok (.invokevirtual 22, 3) := dk_182 0 22 (dk_at dksX11_number_0 1 rfl rfl)
theorem dX11_number_4 : decode cX11_number 4 = .ok (.istore_n 3, 1) := dk_62 (dk_at dksX11_number_0 4 rfl rfl)
theorem dX11_number_5 : decode cX11_number 5 = .ok (.iload_n 3, 1) := dk_29 (dk_at dksX11_number_0 5 rfl rfl)
theorem dX11_number_6 : decode cX11_number 6 = .ok (.bipush 48, 2) := dk_16 48 (dk_at dksX11_number_0 6 rfl rfl)
theorem dX11_number_8 : decode cX11_number 8 = .ok (.if_icmp .lt 9, 3) := dk_161 0 9 (dk_at dksX11_number_0 8 rfl rfl)
theorem dX11_number_11 : decode cX11_number 11 = .ok (.iload_n 3, 1) := dk_29 (dk_at dksX11_number_0 11 rfl rfl)
theorem dX11_number_12 : decode cX11_number 12 = .ok (.bipush 57, 2) := dk_16 57 (dk_at dksX11_number_0 12 rfl rfl)
theorem dX11_number_14 : decode cX11_number 14 = .ok (.if_icmp .le 8, 3) := dk_164 0 8 (dk_at dksX11_number_0 14 rfl rfl)
theorem dX11_number_17 : decode cX11_number 17 = .ok (.aload_n 0, 1) := dk_42 (dk_at dksX11_number_0 17 rfl rfl)
theorem dX11_number_18 : decode cX11_number 18 = .ok (.invokevirtual 45, 3) := dk_182 0 45 (dk_at dksX11_number_0 18 rfl rfl)
theorem dX11_number_21 : decode cX11_number 21 = .ok (.athrow, 1) := dk_191 (dk_at dksX11_number_0 21 rfl rfl)
theorem dX11_number_22 : decode cX11_number 22 = .ok (.aload_n 0, 1) := dk_42 (dk_at dksX11_number_0 22 rfl rfl)
theorem dX11_number_23 : decode cX11_number 23 = .ok (.aload_n 0, 1) := dk_42 (dk_at dksX11_number_0 23 rfl rfl)
theorem dX11_number_24 : decode cX11_number 24 = .ok (.getfield 19, 3) := dk_180 0 19 (dk_at dksX11_number_1 0 rfl rfl)
theorem dX11_number_27 : decode cX11_number 27 = .ok (.putfield 52, 3) := dk_181 0 52 (dk_at dksX11_number_1 3 rfl rfl)
theorem dX11_number_30 : decode cX11_number 30 = .ok (.iconst 0, 1) := dk_3 (dk_at dksX11_number_1 6 rfl rfl)
theorem dX11_number_31 : decode cX11_number 31 = .ok (.istore 4, 2) := dk_54 4 (dk_at dksX11_number_1 7 rfl rfl)
theorem dX11_number_33 : decode cX11_number 33 = .ok (.aload_n 0, 1) := dk_42 (dk_at dksX11_number_1 9 rfl rfl)
theorem dX11_number_34 : decode cX11_number 34 = .ok (.getfield 19, 3) := dk_180 0 19 (dk_at dksX11_number_1 10 rfl rfl)
theorem dX11_number_37 : decode cX11_number 37 = .ok (.aload_n 0, 1) := dk_42 (dk_at dksX11_number_1 13 rfl rfl)
theorem dX11_number_38 : decode cX11_number 38 = .ok (.getfield 15, 3) := dk_180 0 15 (dk_at dksX11_number_1 14 rfl rfl)
theorem dX11_number_41 : decode cX11_number 41 = .ok (.if_icmp .ge 69, 3) := dk_162 0 69 (dk_at dksX11_number_1 17 rfl rfl)
theorem dX11_number_44 : decode cX11_number 44 = .ok (.aload_n 0, 1) := dk_42 (dk_at dksX11_number_1 20 rfl rfl)
theorem dX11_number_45 : decode cX11_number 45 = .ok (.getfield 9, 3) := dk_180 0 9 (dk_at dksX11_number_1 21 rfl rfl)
theorem dX11_number_48 : decode cX11_number 48 = .ok (.aload_n 0, 1) := dk_42 (dk_at dksX11_number_2 0 rfl rfl)
theorem dX11_number_49 : decode cX11_number 49 = .ok (.getfield 19, 3) := dk_180 0 19 (dk_at dksX11_number_2 1 rfl rfl)
theorem dX11_number_52 : decode cX11_number 52 = .ok (.baload, 1) := dk_51 (dk_at dksX11_number_2 4 rfl rfl)
theorem dX11_number_53 : decode cX11_number 53 = .ok (.bipush 48, 2) := dk_16 48 (dk_at dksX11_number_2 5 rfl rfl)
theorem dX11_number_55 : decode cX11_number 55 = .ok (.if_icmp .lt 55, 3) := dk_161 0 55 (dk_at dksX11_number_2 7 rfl rfl)
theorem dX11_number_58 : decode cX11_number 58 = .ok (.aload_n 0, 1) := dk_42 (dk_at dksX11_number_2 10 rfl rfl)
theorem dX11_number_59 : decode cX11_number 59 = .ok (.getfield 9, 3) := dk_180 0 9 (dk_at dksX11_number_2 11 rfl rfl)
theorem dX11_number_62 : decode cX11_number 62 = .ok (.aload_n 0, 1) := dk_42 (dk_at dksX11_number_2 14 rfl rfl)
theorem dX11_number_63 : decode cX11_number 63 = .ok (.getfield 19, 3) := dk_180 0 19 (dk_at dksX11_number_2 15 rfl rfl)
theorem dX11_number_66 : decode cX11_number 66 = .ok (.baload, 1) := dk_51 (dk_at dksX11_number_2 18 rfl rfl)
theorem dX11_number_67 : decode cX11_number 67 = .ok (.bipush 57, 2) := dk_16 57 (dk_at dksX11_number_2 19 rfl rfl)
theorem dX11_number_69 : decode cX11_number 69 = .ok (.if_icmp .gt 41, 3) := dk_163 0 41 (dk_at dksX11_number_2 21 rfl rfl)
theorem dX11_number_72 : decode cX11_number 72 = .ok (.bipush 10, 2) := dk_16 10 (dk_at dksX11_number_3 0 rfl rfl)
theorem dX11_number_74 : decode cX11_number 74 = .ok (.iload 4, 2) := dk_21 4 (dk_at dksX11_number_3 2 rfl rfl)
theorem dX11_number_76 : decode cX11_number 76 = .ok (.imul, 1) := dk_104 (dk_at dksX11_number_3 4 rfl rfl)
theorem dX11_number_77 : decode cX11_number 77 = .ok (.aload_n 0, 1) := dk_42 (dk_at dksX11_number_3 5 rfl rfl)
theorem dX11_number_78 : decode cX11_number 78 = .ok (.getfield 9, 3) := dk_180 0 9 (dk_at dksX11_number_3 6 rfl rfl)
theorem dX11_number_81 : decode cX11_number 81 = .ok (.aload_n 0, 1) := dk_42 (dk_at dksX11_number_3 9 rfl rfl)
theorem dX11_number_82 : decode cX11_number 82 = .ok (.getfield 19, 3) := dk_180 0 19 (dk_at dksX11_number_3 10 rfl rfl)
theorem dX11_number_85 : decode cX11_number 85 = .ok (.baload, 1) := dk_51 (dk_at dksX11_number_3 13 rfl rfl)
theorem dX11_number_86 : decode cX11_number 86 = .ok (.iadd, 1) := dk_96 (dk_at dksX11_number_3 14 rfl rfl)
theorem dX11_number_87 : decode cX11_number 87 = .ok (.bipush 48, 2) := dk_16 48 (dk_at dksX11_number_3 15 rfl rfl)
theorem dX11_number_89 : decode cX11_number 89 = .ok (.isub, 1) := dk_100 (dk_at dksX11_number_3 17 rfl rfl)
theorem dX11_number_90 : decode cX11_number 90 = .ok (.ldc 55, 2) := dk_18 55 (dk_at dksX11_number_3 18 rfl rfl)
theorem dX11_number_92 : decode cX11_number 92 = .ok (.invokestatic 56, 3) := dk_184 0 56 (dk_at dksX11_number_3 20 rfl rfl)
theorem dX11_number_95 : decode cX11_number 95 = .ok (.istore 4, 2) := dk_54 4 (dk_at dksX11_number_4 0 rfl rfl)
theorem dX11_number_97 : decode cX11_number 97 = .ok (.aload_n 0, 1) := dk_42 (dk_at dksX11_number_4 2 rfl rfl)
theorem dX11_number_98 : decode cX11_number 98 = .ok (.dup, 1) := dk_89 (dk_at dksX11_number_4 3 rfl rfl)
theorem dX11_number_99 : decode cX11_number 99 = .ok (.getfield 19, 3) := dk_180 0 19 (dk_at dksX11_number_4 4 rfl rfl)
theorem dX11_number_102 : decode cX11_number 102 = .ok (.iconst 1, 1) := dk_4 (dk_at dksX11_number_4 7 rfl rfl)
theorem dX11_number_103 : decode cX11_number 103 = .ok (.iadd, 1) := dk_96 (dk_at dksX11_number_4 8 rfl rfl)
theorem dX11_number_104 : decode cX11_number 104 = .ok (.putfield 19, 3) := dk_181 0 19 (dk_at dksX11_number_4 9 rfl rfl)
theorem dX11_number_107 : decode cX11_number 107 = .ok (.goto (-74), 3) := dk_167 255 182 (dk_at dksX11_number_4 12 rfl rfl)
theorem dX11_number_110 : decode cX11_number 110 = .ok (.iload 4, 2) := dk_21 4 (dk_at dksX11_number_4 15 rfl rfl)
theorem dX11_number_112 : decode cX11_number 112 = .ok (.iload_n 1, 1) := dk_27 (dk_at dksX11_number_4 17 rfl rfl)
theorem dX11_number_113 : decode cX11_number 113 = .ok (.if_icmp .lt 9, 3) := dk_161 0 9 (dk_at dksX11_number_4 18 rfl rfl)
theorem dX11_number_116 : decode cX11_number 116 = .ok (.iload 4, 2) := dk_21 4 (dk_at dksX11_number_4 21 rfl rfl)
theorem dX11_number_118 : decode cX11_number 118 = .ok (.iload_n 2, 1) := dk_28 (dk_at dksX11_number_4 23 rfl rfl)
theorem dX11_number_119 : decode cX11_number 119 = .ok (.if_icmp .le 16, 3) := dk_164 0 16 (dk_at dksX11_number_5 0 rfl rfl)
theorem dX11_number_122 : decode cX11_number 122 = .ok (.new 40, 3) := dk_187 0 40 (dk_at dksX11_number_5 3 rfl rfl)
theorem dX11_number_125 : decode cX11_number 125 = .ok (.dup, 1) := dk_89 (dk_at dksX11_number_5 6 rfl rfl)
theorem dX11_number_126 : decode cX11_number 126 = .ok (.iconst 2, 1) := dk_5 (dk_at dksX11_number_5 7 rfl rfl)
theorem dX11_number_127 : decode cX11_number 127 = .ok (.aload_n 0, 1) := dk_42 (dk_at dksX11_number_5 8 rfl rfl)
theorem dX11_number_128 : decode cX11_number 128 = .ok (.getfield 52, 3) := dk_180 0 52 (dk_at dksX11_number_5 9 rfl rfl)
theorem dX11_number_131 : decode cX11_number 131 = .ok (.invokespecial 42, 3) := dk_183 0 42 (dk_at dksX11_number_5 12 rfl rfl)
theorem dX11_number_134 : decode cX11_number 134 = .ok (.athrow, 1) := dk_191 (dk_at dksX11_number_5 15 rfl rfl)
theorem dX11_number_135 : decode cX11_number 135 = .ok (.iload 4, 2) := dk_21 4 (dk_at dksX11_number_5 16 rfl rfl)
theorem dX11_number_137 : decode cX11_number 137 = .ok (.ireturn, 1) := dk_172 (dk_at dksX11_number_5 18 rfl rfl)
abbrev cX11_need : ByteArray := prog_21_method_5_code
def yX11_need : MethodName := ⟨RX11, "need", "(I)V"⟩
def dkwX11_need_0 : List UInt8 := [42, 182, 0, 22, 27, 159, 0, 8, 42, 182, 0, 45, 191, 42, 89, 180, 0, 19, 4, 96, 181, 0, 19, 177]
abbrev dktX11_need_0 : List UInt8 := dkwX11_need_0 ++ []
theorem dksX11_need_0 : cX11_need.data.toList.drop 0 = dktX11_need_0 := by decide +kernel
theorem dX11_need_0 : decode cX11_need 0 = .ok (.aload_n 0, 1) := dk_42 (dk_at dksX11_need_0 0 rfl rfl)
theorem dX11_need_1 : decode cX11_need 1 = .ok (.invokevirtual 22, 3) := dk_182 0 22 (dk_at dksX11_need_0 1 rfl rfl)
theorem dX11_need_4 : decode cX11_need 4 = .ok (.iload_n 1, 1) := dk_27 (dk_at dksX11_need_0 4 rfl rfl)
theorem dX11_need_5 : decode cX11_need 5 = .ok (.if_icmp .eq 8, 3) := dk_159 0 8 (dk_at dksX11_need_0 5 rfl rfl)
theorem dX11_need_8 : decode cX11_need 8 = .ok (.aload_n 0, 1) := dk_42 (dk_at dksX11_need_0 8 rfl rfl)
theorem dX11_need_9 : decode cX11_need 9 = .ok (.invokevirtual 45, 3) := dk_182 0 45 (dk_at dksX11_need_0 9 rfl rfl)
theorem dX11_need_12 : decode cX11_need 12 = .ok (.athrow, 1) := dk_191 (dk_at dksX11_need_0 12 rfl rfl)
theorem dX11_need_13 : decode cX11_need 13 = .ok (.aload_n 0, 1) := dk_42 (dk_at dksX11_need_0 13 rfl rfl)
theorem dX11_need_14 : decode cX11_need 14 = .ok (.dup, 1) := dk_89 (dk_at dksX11_need_0 14 rfl rfl)
theorem dX11_need_15 : decode cX11_need 15 = .ok (.getfield 19, 3) := dk_180 0 19 (dk_at dksX11_need_0 15 rfl rfl)
theorem dX11_need_18 : decode cX11_need 18 = .ok (.iconst 1, 1) := dk_4 (dk_at dksX11_need_0 18 rfl rfl)
theorem dX11_need_19 : decode cX11_need 19 = .ok (.iadd, 1) := dk_96 (dk_at dksX11_need_0 19 rfl rfl)
theorem dX11_need_20 : decode cX11_need 20 = .ok (.putfield 19, 3) := dk_181 0 19 (dk_at dksX11_need_0 20 rfl rfl)
theorem dX11_need_23 : decode cX11_need 23 = .ok (.return_, 1) := dk_177 (dk_at dksX11_need_0 23 rfl rfl)
abbrev cX11_opens : ByteArray := prog_21_method_6_code
def yX11_opens : MethodName := ⟨RX11, "opens", "(I)V"⟩
def dkwX11_opens_1 : List UInt8 := [180, 0, 19, 27, 96, 181, 0, 19, 42, 89, 180, 0, 49, 4, 96, 181, 0, 49, 177]
abbrev dktX11_opens_1 : List UInt8 := dkwX11_opens_1 ++ []
def dkwX11_opens_0 : List UInt8 := [42, 180, 0, 49, 16, 6, 160, 0, 16, 187, 0, 40, 89, 6, 42, 180, 0, 19, 183, 0, 42, 191, 42, 89]
abbrev dktX11_opens_0 : List UInt8 := dkwX11_opens_0 ++ dktX11_opens_1
theorem dksX11_opens_0 : cX11_opens.data.toList.drop 0 = dktX11_opens_0 := by decide +kernel
theorem dksX11_opens_1 : cX11_opens.data.toList.drop 24 = dktX11_opens_1 := dk_seg dksX11_opens_0 24 rfl rfl
theorem dX11_opens_0 : decode cX11_opens 0 = .ok (.aload_n 0, 1) := dk_42 (dk_at dksX11_opens_0 0 rfl rfl)
theorem dX11_opens_1 : decode cX11_opens 1 = .ok (.getfield 49, 3) := dk_180 0 49 (dk_at dksX11_opens_0 1 rfl rfl)
theorem dX11_opens_4 : decode cX11_opens 4 = .ok (.bipush 6, 2) := dk_16 6 (dk_at dksX11_opens_0 4 rfl rfl)
theorem dX11_opens_6 : decode cX11_opens 6 = .ok (.if_icmp .ne 16, 3) := dk_160 0 16 (dk_at dksX11_opens_0 6 rfl rfl)
theorem dX11_opens_9 : decode cX11_opens 9 = .ok (.new 40, 3) := dk_187 0 40 (dk_at dksX11_opens_0 9 rfl rfl)
theorem dX11_opens_12 : decode cX11_opens 12 = .ok (.dup, 1) := dk_89 (dk_at dksX11_opens_0 12 rfl rfl)
theorem dX11_opens_13 : decode cX11_opens 13 = .ok (.iconst 3, 1) := dk_6 (dk_at dksX11_opens_0 13 rfl rfl)
theorem dX11_opens_14 : decode cX11_opens 14 = .ok (.aload_n 0, 1) := dk_42 (dk_at dksX11_opens_0 14 rfl rfl)
theorem dX11_opens_15 : decode cX11_opens 15 = .ok (.getfield 19, 3) := dk_180 0 19 (dk_at dksX11_opens_0 15 rfl rfl)
theorem dX11_opens_18 : decode cX11_opens 18 = .ok (.invokespecial 42, 3) := dk_183 0 42 (dk_at dksX11_opens_0 18 rfl rfl)
theorem dX11_opens_21 : decode cX11_opens 21 = .ok (.athrow, 1) := dk_191 (dk_at dksX11_opens_0 21 rfl rfl)
theorem dX11_opens_22 : decode cX11_opens 22 = .ok (.aload_n 0, 1) := dk_42 (dk_at dksX11_opens_0 22 rfl rfl)
theorem dX11_opens_23 : decode cX11_opens 23 = .ok (.dup, 1) := dk_89 (dk_at dksX11_opens_0 23 rfl rfl)
theorem dX11_opens_24 : decode cX11_opens 24 = .ok (.getfield 19, 3) := dk_180 0 19 (dk_at dksX11_opens_1 0 rfl rfl)
theorem dX11_opens_27 : decode cX11_opens 27 = .ok (.iload_n 1, 1) := dk_27 (dk_at dksX11_opens_1 3 rfl rfl)
theorem dX11_opens_28 : decode cX11_opens 28 = .ok (.iadd, 1) := dk_96 (dk_at dksX11_opens_1 4 rfl rfl)
theorem dX11_opens_29 : decode cX11_opens 29 = .ok (.putfield 19, 3) := dk_181 0 19 (dk_at dksX11_opens_1 5 rfl rfl)
theorem dX11_opens_32 : decode cX11_opens 32 = .ok (.aload_n 0, 1) := dk_42 (dk_at dksX11_opens_1 8 rfl rfl)
theorem dX11_opens_33 : decode cX11_opens 33 = .ok (.dup, 1) := dk_89 (dk_at dksX11_opens_1 9 rfl rfl)
theorem dX11_opens_34 : decode cX11_opens 34 = .ok (.getfield 49, 3) := dk_180 0 49 (dk_at dksX11_opens_1 10 rfl rfl)
theorem dX11_opens_37 : decode cX11_opens 37 = .ok (.iconst 1, 1) := dk_4 (dk_at dksX11_opens_1 13 rfl rfl)
theorem dX11_opens_38 : decode cX11_opens 38 = .ok (.iadd, 1) := dk_96 (dk_at dksX11_opens_1 14 rfl rfl)
theorem dX11_opens_39 : decode cX11_opens 39 = .ok (.putfield 49, 3) := dk_181 0 49 (dk_at dksX11_opens_1 15 rfl rfl)
theorem dX11_opens_42 : decode cX11_opens 42 = .ok (.return_, 1) := dk_177 (dk_at dksX11_opens_1 18 rfl rfl)
theorem q126 : (Jvm.Cond.initialized "DimpleWells$Reader") ∈ lw_all := lw_g (lw_at lw_m1 30 rfl) rfl
theorem q983 : (Jvm.Cond.instanceMethod ({ cls := "DimpleWells$Reader", name := "<init>", desc := "([BI)V" } : Jvm.MethodName)) ∈ lw_all := lw_g (lw_at lw_m4 167 rfl) rfl
theorem q984 : (Jvm.Cond.code ({ cls := "DimpleWells$Reader", name := "<init>", desc := "([BI)V" } : Jvm.MethodName) prog_21_method_1_code (3 : Nat) (Option.none : Option Jvm.ClassFile.FieldType)) ∈ lw_all := lw_g (lw_at lw_m4 168 rfl) rfl
theorem q985 : (Jvm.Cond.methodLink "DimpleWells$Reader" (3 : Nat) ({ cls := "java/lang/Object", name := "<init>", desc := "()V" } : Jvm.MethodName)) ∈ lw_all := lw_g (lw_at lw_m4 169 rfl) rfl
theorem q989 : (Jvm.Cond.fieldLink "DimpleWells$Reader" (9 : Nat) "DimpleWells$Reader" "text" "[B") ∈ lw_all := lw_g (lw_at lw_m4 173 rfl) rfl
theorem q990 : (Jvm.Cond.fieldLink "DimpleWells$Reader" (15 : Nat) "DimpleWells$Reader" "size" "I") ∈ lw_all := lw_g (lw_at lw_m4 174 rfl) rfl
theorem q999 : (Jvm.Cond.fieldLink "DimpleWells$Reader" (19 : Nat) "DimpleWells$Reader" "next" "I") ∈ lw_all := lw_g (lw_at lw_m4 183 rfl) rfl
theorem q1012 : (Jvm.Cond.fieldLink "DimpleWells$Reader" (52 : Nat) "DimpleWells$Reader" "from" "I") ∈ lw_all := lw_g (lw_at lw_m4 196 rfl) rfl
theorem q1015 : (Jvm.Cond.fieldLink "DimpleWells$Reader" (49 : Nat) "DimpleWells$Reader" "open" "I") ∈ lw_all := lw_g (lw_at lw_m4 199 rfl) rfl
theorem q1021 : (Jvm.Cond.soleField "DimpleWells$Reader" "text") ∈ lw_all := lw_g (lw_at lw_m4 205 rfl) rfl
theorem q1023 : (Jvm.Cond.soleField "DimpleWells$Reader" "size") ∈ lw_all := lw_g (lw_at lw_m4 207 rfl) rfl
theorem q1025 : (Jvm.Cond.soleField "DimpleWells$Reader" "next") ∈ lw_all := lw_g (lw_at lw_m4 209 rfl) rfl
theorem q1027 : (Jvm.Cond.soleField "DimpleWells$Reader" "from") ∈ lw_all := lw_g (lw_at lw_m4 211 rfl) rfl
theorem q1029 : (Jvm.Cond.soleField "DimpleWells$Reader" "open") ∈ lw_all := lw_g (lw_at lw_m4 213 rfl) rfl
theorem q1037 : (Jvm.Cond.declares ({ cls := "DimpleWells$Reader", name := "sign", desc := "()I" } : Jvm.MethodName)) ∈ lw_tbl := lw_at lw_m4 221 rfl
theorem q1039 : (Jvm.Cond.instanceMethod ({ cls := "DimpleWells$Reader", name := "sign", desc := "()I" } : Jvm.MethodName)) ∈ lw_all := lw_g (lw_at lw_m4 223 rfl) rfl
theorem q1040 : (Jvm.Cond.code ({ cls := "DimpleWells$Reader", name := "sign", desc := "()I" } : Jvm.MethodName) prog_21_method_2_code (1 : Nat) (Option.some Jvm.ClassFile.FieldType.int)) ∈ lw_all := lw_g (lw_at lw_m4 224 rfl) rfl
theorem q1043 : (Jvm.Cond.declares ({ cls := "DimpleWells$Reader", name := "word", desc := "()Ljava/lang/String;" } : Jvm.MethodName)) ∈ lw_tbl := lw_at lw_m4 227 rfl
theorem q1045 : (Jvm.Cond.instanceMethod ({ cls := "DimpleWells$Reader", name := "word", desc := "()Ljava/lang/String;" } : Jvm.MethodName)) ∈ lw_all := lw_g (lw_at lw_m4 229 rfl) rfl
theorem q1046 : (Jvm.Cond.code ({ cls := "DimpleWells$Reader", name := "word", desc := "()Ljava/lang/String;" } : Jvm.MethodName) prog_21_method_3_code (3 : Nat) (Option.some (Jvm.ClassFile.FieldType.object "java/lang/String"))) ∈ lw_all := lw_g (lw_at lw_m4 230 rfl) rfl
theorem q1047 : (Jvm.Cond.methodLink "DimpleWells$Reader" (22 : Nat) ({ cls := "DimpleWells$Reader", name := "sign", desc := "()I" } : Jvm.MethodName)) ∈ lw_all := lw_g (lw_at lw_m4 231 rfl) rfl
theorem q1048 : (Jvm.Cond.classLink "DimpleWells$Reader" (26 : Nat) "java/lang/StringBuilder") ∈ lw_all := lw_g (lw_at lw_m4 232 rfl) rfl
theorem q1049 : (Jvm.Cond.methodLink "DimpleWells$Reader" (28 : Nat) ({ cls := "java/lang/StringBuilder", name := "<init>", desc := "()V" } : Jvm.MethodName)) ∈ lw_all := lw_g (lw_at lw_m4 233 rfl) rfl
theorem q1050 : (Jvm.Cond.methodLink "DimpleWells$Reader" (29 : Nat) ({ cls := "java/lang/StringBuilder", name := "length", desc := "()I" } : Jvm.MethodName)) ∈ lw_all := lw_g (lw_at lw_m4 234 rfl) rfl
theorem q1051 : (Jvm.Cond.methodLink "DimpleWells$Reader" (32 : Nat) ({ cls := "java/lang/StringBuilder", name := "append", desc := "(C)Ljava/lang/StringBuilder;" } : Jvm.MethodName)) ∈ lw_all := lw_g (lw_at lw_m4 235 rfl) rfl
theorem q1071 : (Jvm.Cond.methodLink "DimpleWells$Reader" (36 : Nat) ({ cls := "java/lang/StringBuilder", name := "toString", desc := "()Ljava/lang/String;" } : Jvm.MethodName)) ∈ lw_all := lw_g (lw_at lw_m5 15 rfl) rfl
theorem q1152 : (Jvm.Cond.declares ({ cls := "DimpleWells$Reader", name := "wrong", desc := "()LDimpleWells$Wrong;" } : Jvm.MethodName)) ∈ lw_tbl := lw_at lw_m5 96 rfl
theorem q1154 : (Jvm.Cond.instanceMethod ({ cls := "DimpleWells$Reader", name := "wrong", desc := "()LDimpleWells$Wrong;" } : Jvm.MethodName)) ∈ lw_all := lw_g (lw_at lw_m5 98 rfl) rfl
theorem q1155 : (Jvm.Cond.code ({ cls := "DimpleWells$Reader", name := "wrong", desc := "()LDimpleWells$Wrong;" } : Jvm.MethodName) prog_21_method_4_code (1 : Nat) (Option.some (Jvm.ClassFile.FieldType.object "DimpleWells$Wrong"))) ∈ lw_all := lw_g (lw_at lw_m5 99 rfl) rfl
theorem q1156 : (Jvm.Cond.classLink "DimpleWells$Reader" (40 : Nat) "DimpleWells$Wrong") ∈ lw_all := lw_g (lw_at lw_m5 100 rfl) rfl
theorem q1165 : (Jvm.Cond.methodLink "DimpleWells$Reader" (42 : Nat) ({ cls := "DimpleWells$Wrong", name := "<init>", desc := "(II)V" } : Jvm.MethodName)) ∈ lw_all := lw_g (lw_at lw_m5 109 rfl) rfl
theorem q1194 : (Jvm.Cond.declares ({ cls := "DimpleWells$Reader", name := "number", desc := "(II)I" } : Jvm.MethodName)) ∈ lw_tbl := lw_at lw_m5 138 rfl
theorem q1196 : (Jvm.Cond.instanceMethod ({ cls := "DimpleWells$Reader", name := "number", desc := "(II)I" } : Jvm.MethodName)) ∈ lw_all := lw_g (lw_at lw_m5 140 rfl) rfl
theorem q1197 : (Jvm.Cond.code ({ cls := "DimpleWells$Reader", name := "number", desc := "(II)I" } : Jvm.MethodName) prog_21_method_7_code (5 : Nat) (Option.some Jvm.ClassFile.FieldType.int)) ∈ lw_all := lw_g (lw_at lw_m5 141 rfl) rfl
theorem q1198 : (Jvm.Cond.methodLink "DimpleWells$Reader" (45 : Nat) ({ cls := "DimpleWells$Reader", name := "wrong", desc := "()LDimpleWells$Wrong;" } : Jvm.MethodName)) ∈ lw_all := lw_g (lw_at lw_m5 142 rfl) rfl
theorem q1199 : (Jvm.Cond.constant "DimpleWells$Reader" (55 : Nat) (100000 : Int32)) ∈ lw_all := lw_g (lw_at lw_m5 143 rfl) rfl
theorem q1200 : (Jvm.Cond.methodLink "DimpleWells$Reader" (56 : Nat) ({ cls := "java/lang/Math", name := "min", desc := "(II)I" } : Jvm.MethodName)) ∈ lw_all := lw_g (lw_at lw_m5 144 rfl) rfl
theorem q1304 : (Jvm.Cond.declares ({ cls := "DimpleWells$Reader", name := "need", desc := "(I)V" } : Jvm.MethodName)) ∈ lw_tbl := lw_at lw_m6 8 rfl
theorem q1306 : (Jvm.Cond.instanceMethod ({ cls := "DimpleWells$Reader", name := "need", desc := "(I)V" } : Jvm.MethodName)) ∈ lw_all := lw_g (lw_at lw_m6 10 rfl) rfl
theorem q1307 : (Jvm.Cond.code ({ cls := "DimpleWells$Reader", name := "need", desc := "(I)V" } : Jvm.MethodName) prog_21_method_5_code (2 : Nat) (Option.none : Option Jvm.ClassFile.FieldType)) ∈ lw_all := lw_g (lw_at lw_m6 11 rfl) rfl
theorem q1352 : (Jvm.Cond.declares ({ cls := "DimpleWells$Reader", name := "opens", desc := "(I)V" } : Jvm.MethodName)) ∈ lw_tbl := lw_at lw_m6 56 rfl
theorem q1354 : (Jvm.Cond.instanceMethod ({ cls := "DimpleWells$Reader", name := "opens", desc := "(I)V" } : Jvm.MethodName)) ∈ lw_all := lw_g (lw_at lw_m6 58 rfl) rfl
theorem q1355 : (Jvm.Cond.code ({ cls := "DimpleWells$Reader", name := "opens", desc := "(I)V" } : Jvm.MethodName) prog_21_method_6_code (2 : Nat) (Option.none : Option Jvm.ClassFile.FieldType)) ∈ lw_all := lw_g (lw_at lw_m6 59 rfl) rfl
theorem q2562 : (Jvm.Cond.sameMethod "DimpleWells$Reader" "DimpleWells$Reader" "sign" "()I") ∈ lw_all := lw_g (lw_at lw_m11 66 rfl) rfl
theorem q2569 : (Jvm.Cond.sameMethod "DimpleWells$Reader" "DimpleWells$Reader" "wrong" "()LDimpleWells$Wrong;") ∈ lw_all := lw_g (lw_at lw_m11 73 rfl) rfl
/-! DimpleWells$LandReader -/
set_option maxRecDepth 100000
def RX12 : String := "DimpleWells$LandReader"
def TX12 : u_T := fun k => match k with
  | 0 => ("DimpleWells$Reader", "text", "[B", true)
  | 1 => ("DimpleWells$Reader", "size", "I", true)
  | 2 => ("DimpleWells$Reader", "next", "I", false)
  | 3 => ("DimpleWells$Reader", "from", "I", false)
  | 4 => ("DimpleWells$Reader", "open", "I", false)
  | _ => ("DimpleWells$LandReader", "t", "LDimpleWells$Told;", true)
def tyX12 : Nat → FieldType := fun k => match k with
  | 0 => .array .byte
  | 1 => .int
  | 2 => .int
  | 3 => .int
  | 4 => .int
  | _ => .object "DimpleWells$Told"
abbrev wsX120 : List Cond := u_ws RX12 TX12 6
theorem nmX12 : ∀ a, a < 6 → ∀ b, b < 6 → a ≠ b → (TX12 a).2.1 ≠ (TX12 b).2.1 := by decide +kernel
theorem tyX12_ok : ∀ k, k < 6 → parseFieldDescriptor (TX12 k).2.2.1 = some (tyX12 k) := by decide +kernel
abbrev cX12_init : ByteArray := prog_10_method_1_code
def yX12_init : MethodName := ⟨RX12, "<init>", "([BI)V"⟩
def dkwX12_init_0 : List UInt8 := [42, 43, 28, 183, 0, 3, 42, 187, 0, 9, 89, 183, 0, 11, 181, 0, 14, 177]
abbrev dktX12_init_0 : List UInt8 := dkwX12_init_0 ++ []
theorem dksX12_init_0 : cX12_init.data.toList.drop 0 = dktX12_init_0 := by decide +kernel
theorem dX12_init_0 : decode cX12_init 0 = .ok (.aload_n 0, 1) := dk_42 (dk_at dksX12_init_0 0 rfl rfl)
theorem dX12_init_1 : decode cX12_init 1 = .ok (.aload_n 1, 1) := dk_43 (dk_at dksX12_init_0 1 rfl rfl)
theorem dX12_init_2 : decode cX12_init 2 = .ok (.iload_n 2, 1) := dk_28 (dk_at dksX12_init_0 2 rfl rfl)
theorem dX12_init_3 : decode cX12_init 3 = .ok (.invokespecial 3, 3) := dk_183 0 3 (dk_at dksX12_init_0 3 rfl rfl)
theorem dX12_init_6 : decode cX12_init 6 = .ok (.aload_n 0, 1) := dk_42 (dk_at dksX12_init_0 6 rfl rfl)
theorem dX12_init_7 : decode cX12_init 7 = .ok (.new 9, 3) := dk_187 0 9 (dk_at dksX12_init_0 7 rfl rfl)
theorem dX12_init_10 : decode cX12_init 10 = .ok (.dup, 1) := dk_89 (dk_at dksX12_init_0 10 rfl rfl)
theorem dX12_init_11 : decode cX12_init 11 = .ok (.invokespecial 11, 3) := dk_183 0 11 (dk_at dksX12_init_0 11 rfl rfl)
theorem dX12_init_14 : decode cX12_init 14 = .ok (.putfield 14, 3) := dk_181 0 14 (dk_at dksX12_init_0 14 rfl rfl)
theorem dX12_init_17 : decode cX12_init 17 = .ok (.return_, 1) := dk_177 (dk_at dksX12_init_0 17 rfl rfl)
abbrev cX12_reads : ByteArray := prog_10_method_2_code
def yX12_reads : MethodName := ⟨RX12, "reads", "()LDimpleWells$Told;"⟩
def dkwX12_reads_2 : List UInt8 := [167, 255, 213, 42, 180, 0, 14, 176]
abbrev dktX12_reads_2 : List UInt8 := dkwX12_reads_2 ++ []
def dkwX12_reads_1 : List UInt8 := [42, 16, 59, 182, 0, 39, 42, 180, 0, 14, 89, 180, 0, 43, 4, 96, 181, 0, 43, 42, 182, 0, 20, 87]
abbrev dktX12_reads_1 : List UInt8 := dkwX12_reads_1 ++ dktX12_reads_2
def dkwX12_reads_0 : List UInt8 := [42, 182, 0, 20, 87, 42, 180, 0, 24, 42, 180, 0, 28, 162, 0, 38, 42, 42, 182, 0, 31, 182, 0, 35]
abbrev dktX12_reads_0 : List UInt8 := dkwX12_reads_0 ++ dktX12_reads_1
theorem dksX12_reads_0 : cX12_reads.data.toList.drop 0 = dktX12_reads_0 := by decide +kernel
theorem dksX12_reads_1 : cX12_reads.data.toList.drop 24 = dktX12_reads_1 := dk_seg dksX12_reads_0 24 rfl rfl
theorem dksX12_reads_2 : cX12_reads.data.toList.drop 48 = dktX12_reads_2 := dk_seg dksX12_reads_1 24 rfl rfl
theorem dX12_reads_0 : decode cX12_reads 0 = .ok (.aload_n 0, 1) := dk_42 (dk_at dksX12_reads_0 0 rfl rfl)
theorem dX12_reads_1 : decode cX12_reads 1 = .ok (.invokevirtual 20, 3) := dk_182 0 20 (dk_at dksX12_reads_0 1 rfl rfl)
theorem dX12_reads_4 : decode cX12_reads 4 = .ok (.pop, 1) := dk_87 (dk_at dksX12_reads_0 4 rfl rfl)
theorem dX12_reads_5 : decode cX12_reads 5 = .ok (.aload_n 0, 1) := dk_42 (dk_at dksX12_reads_0 5 rfl rfl)
theorem dX12_reads_6 : decode cX12_reads 6 = .ok (.getfield 24, 3) := dk_180 0 24 (dk_at dksX12_reads_0 6 rfl rfl)
theorem dX12_reads_9 : decode cX12_reads 9 = .ok (.aload_n 0, 1) := dk_42 (dk_at dksX12_reads_0 9 rfl rfl)
theorem dX12_reads_10 : decode cX12_reads 10 = .ok (.getfield 28, 3) := dk_180 0 28 (dk_at dksX12_reads_0 10 rfl rfl)
theorem dX12_reads_13 : decode cX12_reads 13 = .ok (.if_icmp .ge 38, 3) := dk_162 0 38 (dk_at dksX12_reads_0 13 rfl rfl)
theorem dX12_reads_16 : decode cX12_reads 16 = .ok (.aload_n 0, 1) := dk_42 (dk_at dksX12_reads_0 16 rfl rfl)
theorem dX12_reads_17 : decode cX12_reads 17 = .ok (.aload_n 0, 1) := dk_42 (dk_at dksX12_reads_0 17 rfl rfl)
theorem dX12_reads_18 : decode cX12_reads 18 = .ok (.invokevirtual 31, 3) := dk_182 0 31 (dk_at dksX12_reads_0 18 rfl rfl)
theorem dX12_reads_21 : decode cX12_reads 21 = .ok (.invokevirtual 35, 3) := dk_182 0 35 (dk_at dksX12_reads_0 21 rfl rfl)
theorem dX12_reads_24 : decode cX12_reads 24 = .ok (.aload_n 0, 1) := dk_42 (dk_at dksX12_reads_1 0 rfl rfl)
theorem dX12_reads_25 : decode cX12_reads 25 = .ok (.bipush 59, 2) := dk_16 59 (dk_at dksX12_reads_1 1 rfl rfl)
theorem dX12_reads_27 : decode cX12_reads 27 = .ok (.invokevirtual 39, 3) := dk_182 0 39 (dk_at dksX12_reads_1 3 rfl rfl)
theorem dX12_reads_30 : decode cX12_reads 30 = .ok (.aload_n 0, 1) := dk_42 (dk_at dksX12_reads_1 6 rfl rfl)
theorem dX12_reads_31 : decode cX12_reads 31 = .ok (.getfield 14, 3) := dk_180 0 14 (dk_at dksX12_reads_1 7 rfl rfl)
theorem dX12_reads_34 : decode cX12_reads 34 = .ok (.dup, 1) := dk_89 (dk_at dksX12_reads_1 10 rfl rfl)
theorem dX12_reads_35 : decode cX12_reads 35 = .ok (.getfield 43, 3) := dk_180 0 43 (dk_at dksX12_reads_1 11 rfl rfl)
theorem dX12_reads_38 : decode cX12_reads 38 = .ok (.iconst 1, 1) := dk_4 (dk_at dksX12_reads_1 14 rfl rfl)
theorem dX12_reads_39 : decode cX12_reads 39 = .ok (.iadd, 1) := dk_96 (dk_at dksX12_reads_1 15 rfl rfl)
theorem dX12_reads_40 : decode cX12_reads 40 = .ok (.putfield 43, 3) := dk_181 0 43 (dk_at dksX12_reads_1 16 rfl rfl)
theorem dX12_reads_43 : decode cX12_reads 43 = .ok (.aload_n 0, 1) := dk_42 (dk_at dksX12_reads_1 19 rfl rfl)
theorem dX12_reads_44 : decode cX12_reads 44 = .ok (.invokevirtual 20, 3) := dk_182 0 20 (dk_at dksX12_reads_1 20 rfl rfl)
theorem dX12_reads_47 : decode cX12_reads 47 = .ok (.pop, 1) := dk_87 (dk_at dksX12_reads_1 23 rfl rfl)
theorem dX12_reads_48 : decode cX12_reads 48 = .ok (.goto (-43), 3) := dk_167 255 213 (dk_at dksX12_reads_2 0 rfl rfl)
theorem dX12_reads_51 : decode cX12_reads 51 = .ok (.aload_n 0, 1) := dk_42 (dk_at dksX12_reads_2 3 rfl rfl)
theorem dX12_reads_52 : decode cX12_reads 52 = .ok (.getfield 14, 3) := dk_180 0 14 (dk_at dksX12_reads_2 4 rfl rfl)
theorem dX12_reads_55 : decode cX12_reads 55 = .ok (.areturn, 1) := dk_176 (dk_at dksX12_reads_2 7 rfl rfl)
abbrev cX12_clause : ByteArray := prog_10_method_4_code
def yX12_clause : MethodName := ⟨RX12, "clause", "(Ljava/lang/String;)V"⟩
def dkwX12_clause_22 : List UInt8 := [16, 9, 182, 0, 95, 181, 0, 119, 177]
abbrev dktX12_clause_22 : List UInt8 := dkwX12_clause_22 ++ []
def dkwX12_clause_21 : List UInt8 := [177, 42, 180, 0, 14, 42, 3, 17, 0, 200, 182, 0, 95, 181, 0, 117, 177, 42, 180, 0, 14, 42, 3]
abbrev dktX12_clause_21 : List UInt8 := dkwX12_clause_21 ++ dktX12_clause_22
def dkwX12_clause_20 : List UInt8 := [187, 0, 87, 89, 5, 42, 180, 0, 111, 183, 0, 89, 191, 42, 180, 0, 14, 21, 4, 21, 5, 182, 0, 114]
abbrev dktX12_clause_20 : List UInt8 := dkwX12_clause_20 ++ dktX12_clause_21
def dkwX12_clause_19 : List UInt8 := [159, 0, 22, 42, 180, 0, 14, 180, 0, 108, 21, 4, 46, 21, 5, 122, 4, 126, 4, 160, 0, 16]
abbrev dktX12_clause_19 : List UInt8 := dkwX12_clause_19 ++ dktX12_clause_20
def dkwX12_clause_18 : List UInt8 := [42, 3, 42, 180, 0, 14, 180, 0, 61, 182, 0, 65, 4, 100, 182, 0, 95, 54, 5, 21, 4, 21, 5]
abbrev dktX12_clause_18 : List UInt8 := dkwX12_clause_18 ++ dktX12_clause_19
def dkwX12_clause_17 : List UInt8 := [182, 0, 102, 87, 177, 42, 3, 42, 180, 0, 14, 180, 0, 61, 182, 0, 65, 4, 100, 182, 0, 95, 54, 4]
abbrev dktX12_clause_17 : List UInt8 := dkwX12_clause_17 ++ dktX12_clause_18
def dkwX12_clause_16 : List UInt8 := [180, 0, 14, 180, 0, 69, 187, 0, 105, 89, 21, 4, 42, 4, 16, 20, 182, 0, 95, 183, 0, 107]
abbrev dktX12_clause_16 : List UInt8 := dkwX12_clause_16 ++ dktX12_clause_17
def dkwX12_clause_15 : List UInt8 := [16, 9, 182, 0, 95, 183, 0, 101, 182, 0, 102, 87, 177, 42, 3, 16, 9, 182, 0, 95, 54, 4, 42]
abbrev dktX12_clause_15 : List UInt8 := dkwX12_clause_15 ++ dktX12_clause_16
def dkwX12_clause_14 : List UInt8 := [42, 3, 6, 182, 0, 95, 54, 4, 42, 180, 0, 14, 180, 0, 61, 187, 0, 99, 89, 21, 4, 42, 3]
abbrev dktX12_clause_14 : List UInt8 := dkwX12_clause_14 ++ dktX12_clause_15
def dkwX12_clause_13 : List UInt8 := [170, 0, 0, 0, 0, 208, 0, 0, 0, 0, 0, 0, 0, 3, 0, 0, 0, 30, 0, 0, 0, 66, 0, 0, 0, 103, 0, 0, 0, 192]
abbrev dktX12_clause_13 : List UInt8 := dkwX12_clause_13 ++ dktX12_clause_14
def dkwX12_clause_12 : List UInt8 := [153, 0, 5, 6, 62, 29]
abbrev dktX12_clause_12 : List UInt8 := dkwX12_clause_12 ++ dktX12_clause_13
def dkwX12_clause_11 : List UInt8 := [62, 167, 0, 28, 44, 18, 59, 182, 0, 53, 153, 0, 19, 5, 62, 167, 0, 14, 44, 18, 75, 182, 0, 53]
abbrev dktX12_clause_11 : List UInt8 := dkwX12_clause_11 ++ dktX12_clause_12
def dkwX12_clause_10 : List UInt8 := [44, 18, 51, 182, 0, 53, 153, 0, 47, 3, 62, 167, 0, 42, 44, 18, 57, 182, 0, 53, 153, 0, 33, 4]
abbrev dktX12_clause_10 : List UInt8 := dkwX12_clause_10 ++ dktX12_clause_11
def dkwX12_clause_9 : List UInt8 := [171, 0, 0, 0, 0, 95, 0, 0, 0, 4, 196, 227, 155, 85, 0, 0, 0, 42, 202, 213, 80, 3, 0, 0, 0, 70, 0, 1, 156, 124, 0, 0, 0, 84, 0, 49, 221, 95, 0, 0, 0, 56]
abbrev dktX12_clause_9 : List UInt8 := dkwX12_clause_9 ++ dktX12_clause_10
def dkwX12_clause_8 : List UInt8 := [44, 182, 0, 46]
abbrev dktX12_clause_8 : List UInt8 := dkwX12_clause_8 ++ dktX12_clause_9
def dkwX12_clause_7 : List UInt8 := [180, 0, 24, 183, 0, 89, 191, 42, 89, 180, 0, 24, 43, 182, 0, 92, 96, 181, 0, 24, 43, 77, 2, 62]
abbrev dktX12_clause_7 : List UInt8 := dkwX12_clause_7 ++ dktX12_clause_8
def dkwX12_clause_6 : List UInt8 := [167, 0, 8, 42, 182, 0, 79, 191, 42, 43, 182, 0, 83, 153, 0, 16, 187, 0, 87, 89, 6, 42]
abbrev dktX12_clause_6 : List UInt8 := dkwX12_clause_6 ++ dktX12_clause_7
def dkwX12_clause_5 : List UInt8 := [170, 0, 0, 0, 0, 0, 0, 39, 0, 0, 0, 0, 0, 0, 0, 4, 0, 0, 0, 36, 0, 0, 0, 36, 0, 0, 0, 36, 0, 0, 0, 36, 0, 0, 0, 36]
abbrev dktX12_clause_5 : List UInt8 := dkwX12_clause_5 ++ dktX12_clause_6
def dkwX12_clause_4 : List UInt8 := [153, 0, 19, 6, 62, 167, 0, 14, 44, 18, 77, 182, 0, 53, 153, 0, 5, 7, 62, 29]
abbrev dktX12_clause_4 : List UInt8 := dkwX12_clause_4 ++ dktX12_clause_5
def dkwX12_clause_3 : List UInt8 := [62, 167, 0, 42, 44, 18, 59, 182, 0, 53, 153, 0, 33, 5, 62, 167, 0, 28, 44, 18, 75, 182, 0, 53]
abbrev dktX12_clause_3 : List UInt8 := dkwX12_clause_3 ++ dktX12_clause_4
def dkwX12_clause_2 : List UInt8 := [44, 18, 51, 182, 0, 53, 153, 0, 61, 3, 62, 167, 0, 56, 44, 18, 57, 182, 0, 53, 153, 0, 47, 4]
abbrev dktX12_clause_2 : List UInt8 := dkwX12_clause_2 ++ dktX12_clause_3
def dkwX12_clause_1 : List UInt8 := [171, 0, 0, 0, 0, 0, 0, 119, 0, 0, 0, 5, 196, 227, 155, 85, 0, 0, 0, 52, 202, 213, 80, 3, 0, 0, 0, 80, 0, 1, 156, 124, 0, 0, 0, 94, 0, 49, 221, 95, 0, 0, 0, 66, 5, 182, 152, 152, 0, 0, 0, 108]
abbrev dktX12_clause_1 : List UInt8 := dkwX12_clause_1 ++ dktX12_clause_2
def dkwX12_clause_0 : List UInt8 := [43, 77, 2, 62, 44, 182, 0, 46]
abbrev dktX12_clause_0 : List UInt8 := dkwX12_clause_0 ++ dktX12_clause_1
theorem dksX12_clause_0 : cX12_clause.data.toList.drop 0 = dktX12_clause_0 := by decide +kernel
theorem dksX12_clause_1 : cX12_clause.data.toList.drop 8 = dktX12_clause_1 := dk_seg dksX12_clause_0 8 rfl rfl
theorem dksX12_clause_2 : cX12_clause.data.toList.drop 60 = dktX12_clause_2 := dk_seg dksX12_clause_1 52 rfl rfl
theorem dksX12_clause_3 : cX12_clause.data.toList.drop 84 = dktX12_clause_3 := dk_seg dksX12_clause_2 24 rfl rfl
theorem dksX12_clause_4 : cX12_clause.data.toList.drop 108 = dktX12_clause_4 := dk_seg dksX12_clause_3 24 rfl rfl
theorem dksX12_clause_5 : cX12_clause.data.toList.drop 128 = dktX12_clause_5 := dk_seg dksX12_clause_4 20 rfl rfl
theorem dksX12_clause_6 : cX12_clause.data.toList.drop 164 = dktX12_clause_6 := dk_seg dksX12_clause_5 36 rfl rfl
theorem dksX12_clause_7 : cX12_clause.data.toList.drop 186 = dktX12_clause_7 := dk_seg dksX12_clause_6 22 rfl rfl
theorem dksX12_clause_8 : cX12_clause.data.toList.drop 210 = dktX12_clause_8 := dk_seg dksX12_clause_7 24 rfl rfl
theorem dksX12_clause_9 : cX12_clause.data.toList.drop 214 = dktX12_clause_9 := dk_seg dksX12_clause_8 4 rfl rfl
theorem dksX12_clause_10 : cX12_clause.data.toList.drop 256 = dktX12_clause_10 := dk_seg dksX12_clause_9 42 rfl rfl
theorem dksX12_clause_11 : cX12_clause.data.toList.drop 280 = dktX12_clause_11 := dk_seg dksX12_clause_10 24 rfl rfl
theorem dksX12_clause_12 : cX12_clause.data.toList.drop 304 = dktX12_clause_12 := dk_seg dksX12_clause_11 24 rfl rfl
theorem dksX12_clause_13 : cX12_clause.data.toList.drop 310 = dktX12_clause_13 := dk_seg dksX12_clause_12 6 rfl rfl
theorem dksX12_clause_14 : cX12_clause.data.toList.drop 340 = dktX12_clause_14 := dk_seg dksX12_clause_13 30 rfl rfl
theorem dksX12_clause_15 : cX12_clause.data.toList.drop 363 = dktX12_clause_15 := dk_seg dksX12_clause_14 23 rfl rfl
theorem dksX12_clause_16 : cX12_clause.data.toList.drop 386 = dktX12_clause_16 := dk_seg dksX12_clause_15 23 rfl rfl
theorem dksX12_clause_17 : cX12_clause.data.toList.drop 408 = dktX12_clause_17 := dk_seg dksX12_clause_16 22 rfl rfl
theorem dksX12_clause_18 : cX12_clause.data.toList.drop 432 = dktX12_clause_18 := dk_seg dksX12_clause_17 24 rfl rfl
theorem dksX12_clause_19 : cX12_clause.data.toList.drop 455 = dktX12_clause_19 := dk_seg dksX12_clause_18 23 rfl rfl
theorem dksX12_clause_20 : cX12_clause.data.toList.drop 477 = dktX12_clause_20 := dk_seg dksX12_clause_19 22 rfl rfl
theorem dksX12_clause_21 : cX12_clause.data.toList.drop 501 = dktX12_clause_21 := dk_seg dksX12_clause_20 24 rfl rfl
theorem dksX12_clause_22 : cX12_clause.data.toList.drop 524 = dktX12_clause_22 := dk_seg dksX12_clause_21 23 rfl rfl
theorem dX12_clause_0 : decode cX12_clause 0 = .ok (.aload_n 1, 1) := dk_43 (dk_at dksX12_clause_0 0 rfl rfl)
theorem dX12_clause_1 : decode cX12_clause 1 = .ok (.astore_n 2, 1) := dk_77 (dk_at dksX12_clause_0 1 rfl rfl)
theorem dX12_clause_2 : decode cX12_clause 2 = .ok (.iconst (-1), 1) := dk_2 (dk_at dksX12_clause_0 2 rfl rfl)
theorem dX12_clause_3 : decode cX12_clause 3 = .ok (.istore_n 3, 1) := dk_62 (dk_at dksX12_clause_0 3 rfl rfl)
theorem dX12_clause_4 : decode cX12_clause 4 = .ok (.aload_n 2, 1) := dk_44 (dk_at dksX12_clause_0 4 rfl rfl)
theorem dX12_clause_5 : decode cX12_clause 5 = .ok (.invokevirtual 46, 3) := dk_182 0 46 (dk_at dksX12_clause_0 5 rfl rfl)
theorem dX12_clause_8 : decode cX12_clause 8 = .ok (.lookupswitch 119 #[(-991716523, 52), (-891990013, 80), (105596, 94), (3267935, 66), (95852696, 108)], 52) := by decide +kernel
theorem dX12_clause_60 : decode cX12_clause 60 = .ok (.aload_n 2, 1) := dk_44 (dk_at dksX12_clause_2 0 rfl rfl)
theorem dX12_clause_61 : decode cX12_clause 61 = .ok (.ldc 51, 2) := dk_18 51 (dk_at dksX12_clause_2 1 rfl rfl)
theorem dX12_clause_63 : decode cX12_clause 63 = .ok (.invokevirtual 53, 3) := dk_182 0 53 (dk_at dksX12_clause_2 3 rfl rfl)
theorem dX12_clause_66 : decode cX12_clause 66 = .ok (.ifCond .eq 61, 3) := dk_153 0 61 (dk_at dksX12_clause_2 6 rfl rfl)
theorem dX12_clause_69 : decode cX12_clause 69 = .ok (.iconst 0, 1) := dk_3 (dk_at dksX12_clause_2 9 rfl rfl)
theorem dX12_clause_70 : decode cX12_clause 70 = .ok (.istore_n 3, 1) := dk_62 (dk_at dksX12_clause_2 10 rfl rfl)
theorem dX12_clause_71 : decode cX12_clause 71 = .ok (.goto 56, 3) := dk_167 0 56 (dk_at dksX12_clause_2 11 rfl rfl)
theorem dX12_clause_74 : decode cX12_clause 74 = .ok (.aload_n 2, 1) := dk_44 (dk_at dksX12_clause_2 14 rfl rfl)
theorem dX12_clause_75 : decode cX12_clause 75 = .ok (.ldc 57, 2) := dk_18 57 (dk_at dksX12_clause_2 15 rfl rfl)
theorem dX12_clause_77 : decode cX12_clause 77 = .ok (.invokevirtual 53, 3) := dk_182 0 53 (dk_at dksX12_clause_2 17 rfl rfl)
theorem dX12_clause_80 : decode cX12_clause 80 = .ok (.ifCond .eq 47, 3) := dk_153 0 47 (dk_at dksX12_clause_2 20 rfl rfl)
theorem dX12_clause_83 : decode cX12_clause 83 = .ok (.iconst 1, 1) := dk_4 (dk_at dksX12_clause_2 23 rfl rfl)
theorem dX12_clause_84 : decode cX12_clause 84 = .ok (.istore_n 3, 1) := dk_62 (dk_at dksX12_clause_3 0 rfl rfl)
theorem dX12_clause_85 : decode cX12_clause 85 = .ok (.goto 42, 3) := dk_167 0 42 (dk_at dksX12_clause_3 1 rfl rfl)
theorem dX12_clause_88 : decode cX12_clause 88 = .ok (.aload_n 2, 1) := dk_44 (dk_at dksX12_clause_3 4 rfl rfl)
theorem dX12_clause_89 : decode cX12_clause 89 = .ok (.ldc 59, 2) := dk_18 59 (dk_at dksX12_clause_3 5 rfl rfl)
theorem dX12_clause_91 : decode cX12_clause 91 = .ok (.invokevirtual 53, 3) := dk_182 0 53 (dk_at dksX12_clause_3 7 rfl rfl)
theorem dX12_clause_94 : decode cX12_clause 94 = .ok (.ifCond .eq 33, 3) := dk_153 0 33 (dk_at dksX12_clause_3 10 rfl rfl)
theorem dX12_clause_97 : decode cX12_clause 97 = .ok (.iconst 2, 1) := dk_5 (dk_at dksX12_clause_3 13 rfl rfl)
theorem dX12_clause_98 : decode cX12_clause 98 = .ok (.istore_n 3, 1) := dk_62 (dk_at dksX12_clause_3 14 rfl rfl)
theorem dX12_clause_99 : decode cX12_clause 99 = .ok (.goto 28, 3) := dk_167 0 28 (dk_at dksX12_clause_3 15 rfl rfl)
theorem dX12_clause_102 : decode cX12_clause 102 = .ok (.aload_n 2, 1) := dk_44 (dk_at dksX12_clause_3 18 rfl rfl)
theorem dX12_clause_103 : decode cX12_clause 103 = .ok (.ldc 75, 2) := dk_18 75 (dk_at dksX12_clause_3 19 rfl rfl)
theorem dX12_clause_105 : decode cX12_clause 105 = .ok (.invokevirtual 53, 3) := dk_182 0 53 (dk_at dksX12_clause_3 21 rfl rfl)
theorem dX12_clause_108 : decode cX12_clause 108 = .ok (.ifCond .eq 19, 3) := dk_153 0 19 (dk_at dksX12_clause_4 0 rfl rfl)
theorem dX12_clause_111 : decode cX12_clause 111 = .ok (.iconst 3, 1) := dk_6 (dk_at dksX12_clause_4 3 rfl rfl)
theorem dX12_clause_112 : decode cX12_clause 112 = .ok (.istore_n 3, 1) := dk_62 (dk_at dksX12_clause_4 4 rfl rfl)
theorem dX12_clause_113 : decode cX12_clause 113 = .ok (.goto 14, 3) := dk_167 0 14 (dk_at dksX12_clause_4 5 rfl rfl)
theorem dX12_clause_116 : decode cX12_clause 116 = .ok (.aload_n 2, 1) := dk_44 (dk_at dksX12_clause_4 8 rfl rfl)
theorem dX12_clause_117 : decode cX12_clause 117 = .ok (.ldc 77, 2) := dk_18 77 (dk_at dksX12_clause_4 9 rfl rfl)
theorem dX12_clause_119 : decode cX12_clause 119 = .ok (.invokevirtual 53, 3) := dk_182 0 53 (dk_at dksX12_clause_4 11 rfl rfl)
theorem dX12_clause_122 : decode cX12_clause 122 = .ok (.ifCond .eq 5, 3) := dk_153 0 5 (dk_at dksX12_clause_4 14 rfl rfl)
theorem dX12_clause_125 : decode cX12_clause 125 = .ok (.iconst 4, 1) := dk_7 (dk_at dksX12_clause_4 17 rfl rfl)
theorem dX12_clause_126 : decode cX12_clause 126 = .ok (.istore_n 3, 1) := dk_62 (dk_at dksX12_clause_4 18 rfl rfl)
theorem dX12_clause_127 : decode cX12_clause 127 = .ok (.iload_n 3, 1) := dk_29 (dk_at dksX12_clause_4 19 rfl rfl)
theorem dX12_clause_128 : decode cX12_clause 128 = .ok (.tableswitch 39 0 4 #[36, 36, 36, 36, 36], 36) := by decide +kernel
theorem dX12_clause_164 : decode cX12_clause 164 = .ok (.goto 8, 3) := dk_167 0 8 (dk_at dksX12_clause_6 0 rfl rfl)
theorem dX12_clause_167 : decode cX12_clause 167 = .ok (.aload_n 0, 1) := dk_42 (dk_at dksX12_clause_6 3 rfl rfl)
theorem dX12_clause_168 : decode cX12_clause 168 = .ok (.invokevirtual 79, 3) := dk_182 0 79 (dk_at dksX12_clause_6 4 rfl rfl)
theorem dX12_clause_171 : decode cX12_clause 171 = .ok (.athrow, 1) := dk_191 (dk_at dksX12_clause_6 7 rfl rfl)
theorem dX12_clause_172 : decode cX12_clause 172 = .ok (.aload_n 0, 1) := dk_42 (dk_at dksX12_clause_6 8 rfl rfl)
theorem dX12_clause_173 : decode cX12_clause 173 = .ok (.aload_n 1, 1) := dk_43 (dk_at dksX12_clause_6 9 rfl rfl)
theorem dX12_clause_174 : decode cX12_clause 174 = .ok (.invokevirtual 83, 3) := dk_182 0 83 (dk_at dksX12_clause_6 10 rfl rfl)
theorem dX12_clause_177 : decode cX12_clause 177 = .ok (.ifCond .eq 16, 3) := dk_153 0 16 (dk_at dksX12_clause_6 13 rfl rfl)
theorem dX12_clause_180 : decode cX12_clause 180 = .ok (.new 87, 3) := dk_187 0 87 (dk_at dksX12_clause_6 16 rfl rfl)
theorem dX12_clause_183 : decode cX12_clause 183 = .ok (.dup, 1) := dk_89 (dk_at dksX12_clause_6 19 rfl rfl)
theorem dX12_clause_184 : decode cX12_clause 184 = .ok (.iconst 3, 1) := dk_6 (dk_at dksX12_clause_6 20 rfl rfl)
theorem dX12_clause_185 : decode cX12_clause 185 = .ok (.aload_n 0, 1) := dk_42 (dk_at dksX12_clause_6 21 rfl rfl)
theorem dX12_clause_186 : decode cX12_clause 186 = .ok (.getfield 24, 3) := dk_180 0 24 (dk_at dksX12_clause_7 0 rfl rfl)
theorem dX12_clause_189 : decode cX12_clause 189 = .ok (.invokespecial 89, 3) := dk_183 0 89 (dk_at dksX12_clause_7 3 rfl rfl)
theorem dX12_clause_192 : decode cX12_clause 192 = .ok (.athrow, 1) := dk_191 (dk_at dksX12_clause_7 6 rfl rfl)
theorem dX12_clause_193 : decode cX12_clause 193 = .ok (.aload_n 0, 1) := dk_42 (dk_at dksX12_clause_7 7 rfl rfl)
theorem dX12_clause_194 : decode cX12_clause 194 = .ok (.dup, 1) := dk_89 (dk_at dksX12_clause_7 8 rfl rfl)
theorem dX12_clause_195 : decode cX12_clause 195 = .ok (.getfield 24, 3) := dk_180 0 24 (dk_at dksX12_clause_7 9 rfl rfl)
theorem dX12_clause_198 : decode cX12_clause 198 = .ok (.aload_n 1, 1) := dk_43 (dk_at dksX12_clause_7 12 rfl rfl)
theorem dX12_clause_199 : decode cX12_clause 199 = .ok (.invokevirtual 92, 3) := dk_182 0 92 (dk_at dksX12_clause_7 13 rfl rfl)
theorem dX12_clause_202 : decode cX12_clause 202 = .ok (.iadd, 1) := dk_96 (dk_at dksX12_clause_7 16 rfl rfl)
theorem dX12_clause_203 : decode cX12_clause 203 = .ok (.putfield 24, 3) := dk_181 0 24 (dk_at dksX12_clause_7 17 rfl rfl)
theorem dX12_clause_206 : decode cX12_clause 206 = .ok (.aload_n 1, 1) := dk_43 (dk_at dksX12_clause_7 20 rfl rfl)
theorem dX12_clause_207 : decode cX12_clause 207 = .ok (.astore_n 2, 1) := dk_77 (dk_at dksX12_clause_7 21 rfl rfl)
theorem dX12_clause_208 : decode cX12_clause 208 = .ok (.iconst (-1), 1) := dk_2 (dk_at dksX12_clause_7 22 rfl rfl)
theorem dX12_clause_209 : decode cX12_clause 209 = .ok (.istore_n 3, 1) := dk_62 (dk_at dksX12_clause_7 23 rfl rfl)
theorem dX12_clause_210 : decode cX12_clause 210 = .ok (.aload_n 2, 1) := dk_44 (dk_at dksX12_clause_8 0 rfl rfl)
theorem dX12_clause_211 : decode cX12_clause 211 = .ok (.invokevirtual 46, 3) := dk_182 0 46 (dk_at dksX12_clause_8 1 rfl rfl)
theorem dX12_clause_214 : decode cX12_clause 214 = .ok (.lookupswitch 95 #[(-991716523, 42), (-891990013, 70), (105596, 84), (3267935, 56)], 42) := by decide +kernel
theorem dX12_clause_256 : decode cX12_clause 256 = .ok (.aload_n 2, 1) := dk_44 (dk_at dksX12_clause_10 0 rfl rfl)
theorem dX12_clause_257 : decode cX12_clause 257 = .ok (.ldc 51, 2) := dk_18 51 (dk_at dksX12_clause_10 1 rfl rfl)
theorem dX12_clause_259 : decode cX12_clause 259 = .ok (.invokevirtual 53, 3) := dk_182 0 53 (dk_at dksX12_clause_10 3 rfl rfl)
theorem dX12_clause_262 : decode cX12_clause 262 = .ok (.ifCond .eq 47, 3) := dk_153 0 47 (dk_at dksX12_clause_10 6 rfl rfl)
theorem dX12_clause_265 : decode cX12_clause 265 = .ok (.iconst 0, 1) := dk_3 (dk_at dksX12_clause_10 9 rfl rfl)
theorem dX12_clause_266 : decode cX12_clause 266 = .ok (.istore_n 3, 1) := dk_62 (dk_at dksX12_clause_10 10 rfl rfl)
theorem dX12_clause_267 : decode cX12_clause 267 = .ok (.goto 42, 3) := dk_167 0 42 (dk_at dksX12_clause_10 11 rfl rfl)
theorem dX12_clause_270 : decode cX12_clause 270 = .ok (.aload_n 2, 1) := dk_44 (dk_at dksX12_clause_10 14 rfl rfl)
theorem dX12_clause_271 : decode cX12_clause 271 = .ok (.ldc 57, 2) := dk_18 57 (dk_at dksX12_clause_10 15 rfl rfl)
theorem dX12_clause_273 : decode cX12_clause 273 = .ok (.invokevirtual 53, 3) := dk_182 0 53 (dk_at dksX12_clause_10 17 rfl rfl)
theorem dX12_clause_276 : decode cX12_clause 276 = .ok (.ifCond .eq 33, 3) := dk_153 0 33 (dk_at dksX12_clause_10 20 rfl rfl)
theorem dX12_clause_279 : decode cX12_clause 279 = .ok (.iconst 1, 1) := dk_4 (dk_at dksX12_clause_10 23 rfl rfl)
theorem dX12_clause_280 : decode cX12_clause 280 = .ok (.istore_n 3, 1) := dk_62 (dk_at dksX12_clause_11 0 rfl rfl)
theorem dX12_clause_281 : decode cX12_clause 281 = .ok (.goto 28, 3) := dk_167 0 28 (dk_at dksX12_clause_11 1 rfl rfl)
theorem dX12_clause_284 : decode cX12_clause 284 = .ok (.aload_n 2, 1) := dk_44 (dk_at dksX12_clause_11 4 rfl rfl)
theorem dX12_clause_285 : decode cX12_clause 285 = .ok (.ldc 59, 2) := dk_18 59 (dk_at dksX12_clause_11 5 rfl rfl)
theorem dX12_clause_287 : decode cX12_clause 287 = .ok (.invokevirtual 53, 3) := dk_182 0 53 (dk_at dksX12_clause_11 7 rfl rfl)
theorem dX12_clause_290 : decode cX12_clause 290 = .ok (.ifCond .eq 19, 3) := dk_153 0 19 (dk_at dksX12_clause_11 10 rfl rfl)
theorem dX12_clause_293 : decode cX12_clause 293 = .ok (.iconst 2, 1) := dk_5 (dk_at dksX12_clause_11 13 rfl rfl)
theorem dX12_clause_294 : decode cX12_clause 294 = .ok (.istore_n 3, 1) := dk_62 (dk_at dksX12_clause_11 14 rfl rfl)
theorem dX12_clause_295 : decode cX12_clause 295 = .ok (.goto 14, 3) := dk_167 0 14 (dk_at dksX12_clause_11 15 rfl rfl)
theorem dX12_clause_298 : decode cX12_clause 298 = .ok (.aload_n 2, 1) := dk_44 (dk_at dksX12_clause_11 18 rfl rfl)
theorem dX12_clause_299 : decode cX12_clause 299 = .ok (.ldc 75, 2) := dk_18 75 (dk_at dksX12_clause_11 19 rfl rfl)
theorem dX12_clause_301 : decode cX12_clause 301 = .ok (.invokevirtual 53, 3) := dk_182 0 53 (dk_at dksX12_clause_11 21 rfl rfl)
theorem dX12_clause_304 : decode cX12_clause 304 = .ok (.ifCond .eq 5, 3) := dk_153 0 5 (dk_at dksX12_clause_12 0 rfl rfl)
theorem dX12_clause_307 : decode cX12_clause 307 = .ok (.iconst 3, 1) := dk_6 (dk_at dksX12_clause_12 3 rfl rfl)
theorem dX12_clause_308 : decode cX12_clause 308 = .ok (.istore_n 3, 1) := dk_62 (dk_at dksX12_clause_12 4 rfl rfl)
theorem dX12_clause_309 : decode cX12_clause 309 = .ok (.iload_n 3, 1) := dk_29 (dk_at dksX12_clause_12 5 rfl rfl)
theorem dX12_clause_310 : decode cX12_clause 310 = .ok (.tableswitch 208 0 3 #[30, 66, 103, 192], 30) := by decide +kernel
theorem dX12_clause_340 : decode cX12_clause 340 = .ok (.aload_n 0, 1) := dk_42 (dk_at dksX12_clause_14 0 rfl rfl)
theorem dX12_clause_341 : decode cX12_clause 341 = .ok (.iconst 0, 1) := dk_3 (dk_at dksX12_clause_14 1 rfl rfl)
theorem dX12_clause_342 : decode cX12_clause 342 = .ok (.iconst 3, 1) := dk_6 (dk_at dksX12_clause_14 2 rfl rfl)
theorem dX12_clause_343 : decode cX12_clause 343 = .ok (.invokevirtual 95, 3) := dk_182 0 95 (dk_at dksX12_clause_14 3 rfl rfl)
theorem dX12_clause_346 : decode cX12_clause 346 = .ok (.istore 4, 2) := dk_54 4 (dk_at dksX12_clause_14 6 rfl rfl)
theorem dX12_clause_348 : decode cX12_clause 348 = .ok (.aload_n 0, 1) := dk_42 (dk_at dksX12_clause_14 8 rfl rfl)
theorem dX12_clause_349 : decode cX12_clause 349 = .ok (.getfield 14, 3) := dk_180 0 14 (dk_at dksX12_clause_14 9 rfl rfl)
theorem dX12_clause_352 : decode cX12_clause 352 = .ok (.getfield 61, 3) := dk_180 0 61 (dk_at dksX12_clause_14 12 rfl rfl)
theorem dX12_clause_355 : decode cX12_clause 355 = .ok (.new 99, 3) := dk_187 0 99 (dk_at dksX12_clause_14 15 rfl rfl)
theorem dX12_clause_358 : decode cX12_clause 358 = .ok (.dup, 1) := dk_89 (dk_at dksX12_clause_14 18 rfl rfl)
theorem dX12_clause_359 : decode cX12_clause 359 = .ok (.iload 4, 2) := dk_21 4 (dk_at dksX12_clause_14 19 rfl rfl)
theorem dX12_clause_361 : decode cX12_clause 361 = .ok (.aload_n 0, 1) := dk_42 (dk_at dksX12_clause_14 21 rfl rfl)
theorem dX12_clause_362 : decode cX12_clause 362 = .ok (.iconst 0, 1) := dk_3 (dk_at dksX12_clause_14 22 rfl rfl)
theorem dX12_clause_363 : decode cX12_clause 363 = .ok (.bipush 9, 2) := dk_16 9 (dk_at dksX12_clause_15 0 rfl rfl)
theorem dX12_clause_365 : decode cX12_clause 365 = .ok (.invokevirtual 95, 3) := dk_182 0 95 (dk_at dksX12_clause_15 2 rfl rfl)
theorem dX12_clause_368 : decode cX12_clause 368 = .ok (.invokespecial 101, 3) := dk_183 0 101 (dk_at dksX12_clause_15 5 rfl rfl)
theorem dX12_clause_371 : decode cX12_clause 371 = .ok (.invokevirtual 102, 3) := dk_182 0 102 (dk_at dksX12_clause_15 8 rfl rfl)
theorem dX12_clause_374 : decode cX12_clause 374 = .ok (.pop, 1) := dk_87 (dk_at dksX12_clause_15 11 rfl rfl)
theorem dX12_clause_375 : decode cX12_clause 375 = .ok (.return_, 1) := dk_177 (dk_at dksX12_clause_15 12 rfl rfl)
theorem dX12_clause_376 : decode cX12_clause 376 = .ok (.aload_n 0, 1) := dk_42 (dk_at dksX12_clause_15 13 rfl rfl)
theorem dX12_clause_377 : decode cX12_clause 377 = .ok (.iconst 0, 1) := dk_3 (dk_at dksX12_clause_15 14 rfl rfl)
theorem dX12_clause_378 : decode cX12_clause 378 = .ok (.bipush 9, 2) := dk_16 9 (dk_at dksX12_clause_15 15 rfl rfl)
theorem dX12_clause_380 : decode cX12_clause 380 = .ok (.invokevirtual 95, 3) := dk_182 0 95 (dk_at dksX12_clause_15 17 rfl rfl)
theorem dX12_clause_383 : decode cX12_clause 383 = .ok (.istore 4, 2) := dk_54 4 (dk_at dksX12_clause_15 20 rfl rfl)
theorem dX12_clause_385 : decode cX12_clause 385 = .ok (.aload_n 0, 1) := dk_42 (dk_at dksX12_clause_15 22 rfl rfl)
theorem dX12_clause_386 : decode cX12_clause 386 = .ok (.getfield 14, 3) := dk_180 0 14 (dk_at dksX12_clause_16 0 rfl rfl)
theorem dX12_clause_389 : decode cX12_clause 389 = .ok (.getfield 69, 3) := dk_180 0 69 (dk_at dksX12_clause_16 3 rfl rfl)
theorem dX12_clause_392 : decode cX12_clause 392 = .ok (.new 105, 3) := dk_187 0 105 (dk_at dksX12_clause_16 6 rfl rfl)
theorem dX12_clause_395 : decode cX12_clause 395 = .ok (.dup, 1) := dk_89 (dk_at dksX12_clause_16 9 rfl rfl)
theorem dX12_clause_396 : decode cX12_clause 396 = .ok (.iload 4, 2) := dk_21 4 (dk_at dksX12_clause_16 10 rfl rfl)
theorem dX12_clause_398 : decode cX12_clause 398 = .ok (.aload_n 0, 1) := dk_42 (dk_at dksX12_clause_16 12 rfl rfl)
theorem dX12_clause_399 : decode cX12_clause 399 = .ok (.iconst 1, 1) := dk_4 (dk_at dksX12_clause_16 13 rfl rfl)
theorem dX12_clause_400 : decode cX12_clause 400 = .ok (.bipush 20, 2) := dk_16 20 (dk_at dksX12_clause_16 14 rfl rfl)
theorem dX12_clause_402 : decode cX12_clause 402 = .ok (.invokevirtual 95, 3) := dk_182 0 95 (dk_at dksX12_clause_16 16 rfl rfl)
theorem dX12_clause_405 : decode cX12_clause 405 = .ok (.invokespecial 107, 3) := dk_183 0 107 (dk_at dksX12_clause_16 19 rfl rfl)
theorem dX12_clause_408 : decode cX12_clause 408 = .ok (.invokevirtual 102, 3) := dk_182 0 102 (dk_at dksX12_clause_17 0 rfl rfl)
theorem dX12_clause_411 : decode cX12_clause 411 = .ok (.pop, 1) := dk_87 (dk_at dksX12_clause_17 3 rfl rfl)
theorem dX12_clause_412 : decode cX12_clause 412 = .ok (.return_, 1) := dk_177 (dk_at dksX12_clause_17 4 rfl rfl)
theorem dX12_clause_413 : decode cX12_clause 413 = .ok (.aload_n 0, 1) := dk_42 (dk_at dksX12_clause_17 5 rfl rfl)
theorem dX12_clause_414 : decode cX12_clause 414 = .ok (.iconst 0, 1) := dk_3 (dk_at dksX12_clause_17 6 rfl rfl)
theorem dX12_clause_415 : decode cX12_clause 415 = .ok (.aload_n 0, 1) := dk_42 (dk_at dksX12_clause_17 7 rfl rfl)
theorem dX12_clause_416 : decode cX12_clause 416 = .ok (.getfield 14, 3) := dk_180 0 14 (dk_at dksX12_clause_17 8 rfl rfl)
theorem dX12_clause_419 : decode cX12_clause 419 = .ok (.getfield 61, 3) := dk_180 0 61 (dk_at dksX12_clause_17 11 rfl rfl)
theorem dX12_clause_422 : decode cX12_clause 422 = .ok (.invokevirtual 65, 3) := dk_182 0 65 (dk_at dksX12_clause_17 14 rfl rfl)
theorem dX12_clause_425 : decode cX12_clause 425 = .ok (.iconst 1, 1) := dk_4 (dk_at dksX12_clause_17 17 rfl rfl)
theorem dX12_clause_426 : decode cX12_clause 426 = .ok (.isub, 1) := dk_100 (dk_at dksX12_clause_17 18 rfl rfl)
theorem dX12_clause_427 : decode cX12_clause 427 = .ok (.invokevirtual 95, 3) := dk_182 0 95 (dk_at dksX12_clause_17 19 rfl rfl)
theorem dX12_clause_430 : decode cX12_clause 430 = .ok (.istore 4, 2) := dk_54 4 (dk_at dksX12_clause_17 22 rfl rfl)
theorem dX12_clause_432 : decode cX12_clause 432 = .ok (.aload_n 0, 1) := dk_42 (dk_at dksX12_clause_18 0 rfl rfl)
theorem dX12_clause_433 : decode cX12_clause 433 = .ok (.iconst 0, 1) := dk_3 (dk_at dksX12_clause_18 1 rfl rfl)
theorem dX12_clause_434 : decode cX12_clause 434 = .ok (.aload_n 0, 1) := dk_42 (dk_at dksX12_clause_18 2 rfl rfl)
theorem dX12_clause_435 : decode cX12_clause 435 = .ok (.getfield 14, 3) := dk_180 0 14 (dk_at dksX12_clause_18 3 rfl rfl)
theorem dX12_clause_438 : decode cX12_clause 438 = .ok (.getfield 61, 3) := dk_180 0 61 (dk_at dksX12_clause_18 6 rfl rfl)
theorem dX12_clause_441 : decode cX12_clause 441 = .ok (.invokevirtual 65, 3) := dk_182 0 65 (dk_at dksX12_clause_18 9 rfl rfl)
theorem dX12_clause_444 : decode cX12_clause 444 = .ok (.iconst 1, 1) := dk_4 (dk_at dksX12_clause_18 12 rfl rfl)
theorem dX12_clause_445 : decode cX12_clause 445 = .ok (.isub, 1) := dk_100 (dk_at dksX12_clause_18 13 rfl rfl)
theorem dX12_clause_446 : decode cX12_clause 446 = .ok (.invokevirtual 95, 3) := dk_182 0 95 (dk_at dksX12_clause_18 14 rfl rfl)
theorem dX12_clause_449 : decode cX12_clause 449 = .ok (.istore 5, 2) := dk_54 5 (dk_at dksX12_clause_18 17 rfl rfl)
theorem dX12_clause_451 : decode cX12_clause 451 = .ok (.iload 4, 2) := dk_21 4 (dk_at dksX12_clause_18 19 rfl rfl)
theorem dX12_clause_453 : decode cX12_clause 453 = .ok (.iload 5, 2) := dk_21 5 (dk_at dksX12_clause_18 21 rfl rfl)
theorem dX12_clause_455 : decode cX12_clause 455 = .ok (.if_icmp .eq 22, 3) := dk_159 0 22 (dk_at dksX12_clause_19 0 rfl rfl)
theorem dX12_clause_458 : decode cX12_clause 458 = .ok (.aload_n 0, 1) := dk_42 (dk_at dksX12_clause_19 3 rfl rfl)
theorem dX12_clause_459 : decode cX12_clause 459 = .ok (.getfield 14, 3) := dk_180 0 14 (dk_at dksX12_clause_19 4 rfl rfl)
theorem dX12_clause_462 : decode cX12_clause 462 = .ok (.getfield 108, 3) := dk_180 0 108 (dk_at dksX12_clause_19 7 rfl rfl)
theorem dX12_clause_465 : decode cX12_clause 465 = .ok (.iload 4, 2) := dk_21 4 (dk_at dksX12_clause_19 10 rfl rfl)
theorem dX12_clause_467 : decode cX12_clause 467 = .ok (.iaload, 1) := dk_46 (dk_at dksX12_clause_19 12 rfl rfl)
theorem dX12_clause_468 : decode cX12_clause 468 = .ok (.iload 5, 2) := dk_21 5 (dk_at dksX12_clause_19 13 rfl rfl)
theorem dX12_clause_470 : decode cX12_clause 470 = .ok (.ishr, 1) := dk_122 (dk_at dksX12_clause_19 15 rfl rfl)
theorem dX12_clause_471 : decode cX12_clause 471 = .ok (.iconst 1, 1) := dk_4 (dk_at dksX12_clause_19 16 rfl rfl)
theorem dX12_clause_472 : decode cX12_clause 472 = .ok (.iand, 1) := dk_126 (dk_at dksX12_clause_19 17 rfl rfl)
theorem dX12_clause_473 : decode cX12_clause 473 = .ok (.iconst 1, 1) := dk_4 (dk_at dksX12_clause_19 18 rfl rfl)
theorem dX12_clause_474 : decode cX12_clause 474 = .ok (.if_icmp .ne 16, 3) := dk_160 0 16 (dk_at dksX12_clause_19 19 rfl rfl)
theorem dX12_clause_477 : decode cX12_clause 477 = .ok (.new 87, 3) := dk_187 0 87 (dk_at dksX12_clause_20 0 rfl rfl)
theorem dX12_clause_480 : decode cX12_clause 480 = .ok (.dup, 1) := dk_89 (dk_at dksX12_clause_20 3 rfl rfl)
theorem dX12_clause_481 : decode cX12_clause 481 = .ok (.iconst 2, 1) := dk_5 (dk_at dksX12_clause_20 4 rfl rfl)
theorem dX12_clause_482 : decode cX12_clause 482 = .ok (.aload_n 0, 1) := dk_42 (dk_at dksX12_clause_20 5 rfl rfl)
theorem dX12_clause_483 : decode cX12_clause 483 = .ok (.getfield 111, 3) := dk_180 0 111 (dk_at dksX12_clause_20 6 rfl rfl)
theorem dX12_clause_486 : decode cX12_clause 486 = .ok (.invokespecial 89, 3) := dk_183 0 89 (dk_at dksX12_clause_20 9 rfl rfl)
theorem dX12_clause_489 : decode cX12_clause 489 = .ok (.athrow, 1) := dk_191 (dk_at dksX12_clause_20 12 rfl rfl)
theorem dX12_clause_490 : decode cX12_clause 490 = .ok (.aload_n 0, 1) := dk_42 (dk_at dksX12_clause_20 13 rfl rfl)
theorem dX12_clause_491 : decode cX12_clause 491 = .ok (.getfield 14, 3) := dk_180 0 14 (dk_at dksX12_clause_20 14 rfl rfl)
theorem dX12_clause_494 : decode cX12_clause 494 = .ok (.iload 4, 2) := dk_21 4 (dk_at dksX12_clause_20 17 rfl rfl)
theorem dX12_clause_496 : decode cX12_clause 496 = .ok (.iload 5, 2) := dk_21 5 (dk_at dksX12_clause_20 19 rfl rfl)
theorem dX12_clause_498 : decode cX12_clause 498 = .ok (.invokevirtual 114, 3) := dk_182 0 114 (dk_at dksX12_clause_20 21 rfl rfl)
theorem dX12_clause_501 : decode cX12_clause 501 = .ok (.return_, 1) := dk_177 (dk_at dksX12_clause_21 0 rfl rfl)
theorem dX12_clause_502 : decode cX12_clause 502 = .ok (.aload_n 0, 1) := dk_42 (dk_at dksX12_clause_21 1 rfl rfl)
theorem dX12_clause_503 : decode cX12_clause 503 = .ok (.getfield 14, 3) := dk_180 0 14 (dk_at dksX12_clause_21 2 rfl rfl)
theorem dX12_clause_506 : decode cX12_clause 506 = .ok (.aload_n 0, 1) := dk_42 (dk_at dksX12_clause_21 5 rfl rfl)
theorem dX12_clause_507 : decode cX12_clause 507 = .ok (.iconst 0, 1) := dk_3 (dk_at dksX12_clause_21 6 rfl rfl)
theorem dX12_clause_508 : decode cX12_clause 508 = .ok (.sipush 200, 3) := dk_17 0 200 (dk_at dksX12_clause_21 7 rfl rfl)
theorem dX12_clause_511 : decode cX12_clause 511 = .ok (.invokevirtual 95, 3) := dk_182 0 95 (dk_at dksX12_clause_21 10 rfl rfl)
theorem dX12_clause_514 : decode cX12_clause 514 = .ok (.putfield 117, 3) := dk_181 0 117 (dk_at dksX12_clause_21 13 rfl rfl)
theorem dX12_clause_517 : decode cX12_clause 517 = .ok (.return_, 1) := dk_177 (dk_at dksX12_clause_21 16 rfl rfl)
theorem dX12_clause_518 : decode cX12_clause 518 = .ok (.aload_n 0, 1) := dk_42 (dk_at dksX12_clause_21 17 rfl rfl)
theorem dX12_clause_519 : decode cX12_clause 519 = .ok (.getfield 14, 3) := dk_180 0 14 (dk_at dksX12_clause_21 18 rfl rfl)
theorem dX12_clause_522 : decode cX12_clause 522 = .ok (.aload_n 0, 1) := dk_42 (dk_at dksX12_clause_21 21 rfl rfl)
theorem dX12_clause_523 : decode cX12_clause 523 = .ok (.iconst 0, 1) := dk_3 (dk_at dksX12_clause_21 22 rfl rfl)
theorem dX12_clause_524 : decode cX12_clause 524 = .ok (.bipush 9, 2) := dk_16 9 (dk_at dksX12_clause_22 0 rfl rfl)
theorem dX12_clause_526 : decode cX12_clause 526 = .ok (.invokevirtual 95, 3) := dk_182 0 95 (dk_at dksX12_clause_22 2 rfl rfl)
theorem dX12_clause_529 : decode cX12_clause 529 = .ok (.putfield 119, 3) := dk_181 0 119 (dk_at dksX12_clause_22 5 rfl rfl)
theorem dX12_clause_532 : decode cX12_clause 532 = .ok (.return_, 1) := dk_177 (dk_at dksX12_clause_22 8 rfl rfl)
abbrev cX12_isFull : ByteArray := prog_10_method_3_code
def yX12_isFull : MethodName := ⟨RX12, "isFull", "(Ljava/lang/String;)Z"⟩
def dkwX12_isFull_7 : List UInt8 := [180, 0, 72, 16, 12, 160, 0, 7, 4, 167, 0, 4, 3, 172, 3, 172]
abbrev dktX12_isFull_7 : List UInt8 := dkwX12_isFull_7 ++ []
def dkwX12_isFull_6 : List UInt8 := [180, 0, 14, 180, 0, 69, 182, 0, 65, 16, 6, 160, 0, 7, 4, 167, 0, 4, 3, 172, 42, 180, 0, 14]
abbrev dktX12_isFull_6 : List UInt8 := dkwX12_isFull_6 ++ dktX12_isFull_7
def dkwX12_isFull_5 : List UInt8 := [42, 180, 0, 14, 180, 0, 61, 182, 0, 65, 16, 7, 160, 0, 7, 4, 167, 0, 4, 3, 172, 42]
abbrev dktX12_isFull_5 : List UInt8 := dkwX12_isFull_5 ++ dktX12_isFull_6
def dkwX12_isFull_4 : List UInt8 := [170, 0, 0, 0, 0, 0, 0, 88, 0, 0, 0, 0, 0, 0, 0, 2, 0, 0, 0, 28, 0, 0, 0, 49, 0, 0, 0, 70]
abbrev dktX12_isFull_4 : List UInt8 := dkwX12_isFull_4 ++ dktX12_isFull_5
def dkwX12_isFull_3 : List UInt8 := [62, 167, 0, 14, 44, 18, 59, 182, 0, 53, 153, 0, 5, 5, 62, 29]
abbrev dktX12_isFull_3 : List UInt8 := dkwX12_isFull_3 ++ dktX12_isFull_4
def dkwX12_isFull_2 : List UInt8 := [44, 18, 51, 182, 0, 53, 153, 0, 33, 3, 62, 167, 0, 28, 44, 18, 57, 182, 0, 53, 153, 0, 19, 4]
abbrev dktX12_isFull_2 : List UInt8 := dkwX12_isFull_2 ++ dktX12_isFull_3
def dkwX12_isFull_1 : List UInt8 := [171, 0, 0, 0, 0, 73, 0, 0, 0, 3, 196, 227, 155, 85, 0, 0, 0, 34, 202, 213, 80, 3, 0, 0, 0, 62, 0, 49, 221, 95, 0, 0, 0, 48]
abbrev dktX12_isFull_1 : List UInt8 := dkwX12_isFull_1 ++ dktX12_isFull_2
def dkwX12_isFull_0 : List UInt8 := [42, 180, 0, 14, 180, 0, 43, 16, 60, 160, 0, 5, 4, 172, 43, 77, 2, 62, 44, 182, 0, 46]
abbrev dktX12_isFull_0 : List UInt8 := dkwX12_isFull_0 ++ dktX12_isFull_1
theorem dksX12_isFull_0 : cX12_isFull.data.toList.drop 0 = dktX12_isFull_0 := by decide +kernel
theorem dksX12_isFull_1 : cX12_isFull.data.toList.drop 22 = dktX12_isFull_1 := dk_seg dksX12_isFull_0 22 rfl rfl
theorem dksX12_isFull_2 : cX12_isFull.data.toList.drop 56 = dktX12_isFull_2 := dk_seg dksX12_isFull_1 34 rfl rfl
theorem dksX12_isFull_3 : cX12_isFull.data.toList.drop 80 = dktX12_isFull_3 := dk_seg dksX12_isFull_2 24 rfl rfl
theorem dksX12_isFull_4 : cX12_isFull.data.toList.drop 96 = dktX12_isFull_4 := dk_seg dksX12_isFull_3 16 rfl rfl
theorem dksX12_isFull_5 : cX12_isFull.data.toList.drop 124 = dktX12_isFull_5 := dk_seg dksX12_isFull_4 28 rfl rfl
theorem dksX12_isFull_6 : cX12_isFull.data.toList.drop 146 = dktX12_isFull_6 := dk_seg dksX12_isFull_5 22 rfl rfl
theorem dksX12_isFull_7 : cX12_isFull.data.toList.drop 170 = dktX12_isFull_7 := dk_seg dksX12_isFull_6 24 rfl rfl
theorem dX12_isFull_0 : decode cX12_isFull 0 = .ok (.aload_n 0, 1) := dk_42 (dk_at dksX12_isFull_0 0 rfl rfl)
theorem dX12_isFull_1 : decode cX12_isFull 1 = .ok (.getfield 14, 3) := dk_180 0 14 (dk_at dksX12_isFull_0 1 rfl rfl)
theorem dX12_isFull_4 : decode cX12_isFull 4 = .ok (.getfield 43, 3) := dk_180 0 43 (dk_at dksX12_isFull_0 4 rfl rfl)
theorem dX12_isFull_7 : decode cX12_isFull 7 = .ok (.bipush 60, 2) := dk_16 60 (dk_at dksX12_isFull_0 7 rfl rfl)
theorem dX12_isFull_9 : decode cX12_isFull 9 = .ok (.if_icmp .ne 5, 3) := dk_160 0 5 (dk_at dksX12_isFull_0 9 rfl rfl)
theorem dX12_isFull_12 : decode cX12_isFull 12 = .ok (.iconst 1, 1) := dk_4 (dk_at dksX12_isFull_0 12 rfl rfl)
theorem dX12_isFull_13 : decode cX12_isFull 13 = .ok (.ireturn, 1) := dk_172 (dk_at dksX12_isFull_0 13 rfl rfl)
theorem dX12_isFull_14 : decode cX12_isFull 14 = .ok (.aload_n 1, 1) := dk_43 (dk_at dksX12_isFull_0 14 rfl rfl)
theorem dX12_isFull_15 : decode cX12_isFull 15 = .ok (.astore_n 2, 1) := dk_77 (dk_at dksX12_isFull_0 15 rfl rfl)
theorem dX12_isFull_16 : decode cX12_isFull 16 = .ok (.iconst (-1), 1) := dk_2 (dk_at dksX12_isFull_0 16 rfl rfl)
theorem dX12_isFull_17 : decode cX12_isFull 17 = .ok (.istore_n 3, 1) := dk_62 (dk_at dksX12_isFull_0 17 rfl rfl)
theorem dX12_isFull_18 : decode cX12_isFull 18 = .ok (.aload_n 2, 1) := dk_44 (dk_at dksX12_isFull_0 18 rfl rfl)
theorem dX12_isFull_19 : decode cX12_isFull 19 = .ok (.invokevirtual 46, 3) := dk_182 0 46 (dk_at dksX12_isFull_0 19 rfl rfl)
theorem dX12_isFull_22 : decode cX12_isFull 22 = .ok (.lookupswitch 73 #[(-991716523, 34), (-891990013, 62), (3267935, 48)], 34) := by decide +kernel
theorem dX12_isFull_56 : decode cX12_isFull 56 = .ok (.aload_n 2, 1) := dk_44 (dk_at dksX12_isFull_2 0 rfl rfl)
theorem dX12_isFull_57 : decode cX12_isFull 57 = .ok (.ldc 51, 2) := dk_18 51 (dk_at dksX12_isFull_2 1 rfl rfl)
theorem dX12_isFull_59 : decode cX12_isFull 59 = .ok (.invokevirtual 53, 3) := dk_182 0 53 (dk_at dksX12_isFull_2 3 rfl rfl)
theorem dX12_isFull_62 : decode cX12_isFull 62 = .ok (.ifCond .eq 33, 3) := dk_153 0 33 (dk_at dksX12_isFull_2 6 rfl rfl)
theorem dX12_isFull_65 : decode cX12_isFull 65 = .ok (.iconst 0, 1) := dk_3 (dk_at dksX12_isFull_2 9 rfl rfl)
theorem dX12_isFull_66 : decode cX12_isFull 66 = .ok (.istore_n 3, 1) := dk_62 (dk_at dksX12_isFull_2 10 rfl rfl)
theorem dX12_isFull_67 : decode cX12_isFull 67 = .ok (.goto 28, 3) := dk_167 0 28 (dk_at dksX12_isFull_2 11 rfl rfl)
theorem dX12_isFull_70 : decode cX12_isFull 70 = .ok (.aload_n 2, 1) := dk_44 (dk_at dksX12_isFull_2 14 rfl rfl)
theorem dX12_isFull_71 : decode cX12_isFull 71 = .ok (.ldc 57, 2) := dk_18 57 (dk_at dksX12_isFull_2 15 rfl rfl)
theorem dX12_isFull_73 : decode cX12_isFull 73 = .ok (.invokevirtual 53, 3) := dk_182 0 53 (dk_at dksX12_isFull_2 17 rfl rfl)
theorem dX12_isFull_76 : decode cX12_isFull 76 = .ok (.ifCond .eq 19, 3) := dk_153 0 19 (dk_at dksX12_isFull_2 20 rfl rfl)
theorem dX12_isFull_79 : decode cX12_isFull 79 = .ok (.iconst 1, 1) := dk_4 (dk_at dksX12_isFull_2 23 rfl rfl)
theorem dX12_isFull_80 : decode cX12_isFull 80 = .ok (.istore_n 3, 1) := dk_62 (dk_at dksX12_isFull_3 0 rfl rfl)
theorem dX12_isFull_81 : decode cX12_isFull 81 = .ok (.goto 14, 3) := dk_167 0 14 (dk_at dksX12_isFull_3 1 rfl rfl)
theorem dX12_isFull_84 : decode cX12_isFull 84 = .ok (.aload_n 2, 1) := dk_44 (dk_at dksX12_isFull_3 4 rfl rfl)
theorem dX12_isFull_85 : decode cX12_isFull 85 = .ok (.ldc 59, 2) := dk_18 59 (dk_at dksX12_isFull_3 5 rfl rfl)
theorem dX12_isFull_87 : decode cX12_isFull 87 = .ok (.invokevirtual 53, 3) := dk_182 0 53 (dk_at dksX12_isFull_3 7 rfl rfl)
theorem dX12_isFull_90 : decode cX12_isFull 90 = .ok (.ifCond .eq 5, 3) := dk_153 0 5 (dk_at dksX12_isFull_3 10 rfl rfl)
theorem dX12_isFull_93 : decode cX12_isFull 93 = .ok (.iconst 2, 1) := dk_5 (dk_at dksX12_isFull_3 13 rfl rfl)
theorem dX12_isFull_94 : decode cX12_isFull 94 = .ok (.istore_n 3, 1) := dk_62 (dk_at dksX12_isFull_3 14 rfl rfl)
theorem dX12_isFull_95 : decode cX12_isFull 95 = .ok (.iload_n 3, 1) := dk_29 (dk_at dksX12_isFull_3 15 rfl rfl)
theorem dX12_isFull_96 : decode cX12_isFull 96 = .ok (.tableswitch 88 0 2 #[28, 49, 70], 28) := by decide +kernel
theorem dX12_isFull_124 : decode cX12_isFull 124 = .ok (.aload_n 0, 1) := dk_42 (dk_at dksX12_isFull_5 0 rfl rfl)
theorem dX12_isFull_125 : decode cX12_isFull 125 = .ok (.getfield 14, 3) := dk_180 0 14 (dk_at dksX12_isFull_5 1 rfl rfl)
theorem dX12_isFull_128 : decode cX12_isFull 128 = .ok (.getfield 61, 3) := dk_180 0 61 (dk_at dksX12_isFull_5 4 rfl rfl)
theorem dX12_isFull_131 : decode cX12_isFull 131 = .ok (.invokevirtual 65, 3) := dk_182 0 65 (dk_at dksX12_isFull_5 7 rfl rfl)
theorem dX12_isFull_134 : decode cX12_isFull 134 = .ok (.bipush 7, 2) := dk_16 7 (dk_at dksX12_isFull_5 10 rfl rfl)
theorem dX12_isFull_136 : decode cX12_isFull 136 = .ok (.if_icmp .ne 7, 3) := dk_160 0 7 (dk_at dksX12_isFull_5 12 rfl rfl)
theorem dX12_isFull_139 : decode cX12_isFull 139 = .ok (.iconst 1, 1) := dk_4 (dk_at dksX12_isFull_5 15 rfl rfl)
theorem dX12_isFull_140 : decode cX12_isFull 140 = .ok (.goto 4, 3) := dk_167 0 4 (dk_at dksX12_isFull_5 16 rfl rfl)
theorem dX12_isFull_143 : decode cX12_isFull 143 = .ok (.iconst 0, 1) := dk_3 (dk_at dksX12_isFull_5 19 rfl rfl)
theorem dX12_isFull_144 : decode cX12_isFull 144 = .ok (.ireturn, 1) := dk_172 (dk_at dksX12_isFull_5 20 rfl rfl)
theorem dX12_isFull_145 : decode cX12_isFull 145 = .ok (.aload_n 0, 1) := dk_42 (dk_at dksX12_isFull_5 21 rfl rfl)
theorem dX12_isFull_146 : decode cX12_isFull 146 = .ok (.getfield 14, 3) := dk_180 0 14 (dk_at dksX12_isFull_6 0 rfl rfl)
theorem dX12_isFull_149 : decode cX12_isFull 149 = .ok (.getfield 69, 3) := dk_180 0 69 (dk_at dksX12_isFull_6 3 rfl rfl)
theorem dX12_isFull_152 : decode cX12_isFull 152 = .ok (.invokevirtual 65, 3) := dk_182 0 65 (dk_at dksX12_isFull_6 6 rfl rfl)
theorem dX12_isFull_155 : decode cX12_isFull 155 = .ok (.bipush 6, 2) := dk_16 6 (dk_at dksX12_isFull_6 9 rfl rfl)
theorem dX12_isFull_157 : decode cX12_isFull 157 = .ok (.if_icmp .ne 7, 3) := dk_160 0 7 (dk_at dksX12_isFull_6 11 rfl rfl)
theorem dX12_isFull_160 : decode cX12_isFull 160 = .ok (.iconst 1, 1) := dk_4 (dk_at dksX12_isFull_6 14 rfl rfl)
theorem dX12_isFull_161 : decode cX12_isFull 161 = .ok (.goto 4, 3) := dk_167 0 4 (dk_at dksX12_isFull_6 15 rfl rfl)
theorem dX12_isFull_164 : decode cX12_isFull 164 = .ok (.iconst 0, 1) := dk_3 (dk_at dksX12_isFull_6 18 rfl rfl)
theorem dX12_isFull_165 : decode cX12_isFull 165 = .ok (.ireturn, 1) := dk_172 (dk_at dksX12_isFull_6 19 rfl rfl)
theorem dX12_isFull_166 : decode cX12_isFull 166 = .ok (.aload_n 0, 1) := dk_42 (dk_at dksX12_isFull_6 20 rfl rfl)
theorem dX12_isFull_167 : decode cX12_isFull 167 = .ok (.getfield 14, 3) := dk_180 0 14 (dk_at dksX12_isFull_6 21 rfl rfl)
theorem dX12_isFull_170 : decode cX12_isFull 170 = .ok (.getfield 72, 3) := dk_180 0 72 (dk_at dksX12_isFull_7 0 rfl rfl)
theorem dX12_isFull_173 : decode cX12_isFull 173 = .ok (.bipush 12, 2) := dk_16 12 (dk_at dksX12_isFull_7 3 rfl rfl)
theorem dX12_isFull_175 : decode cX12_isFull 175 = .ok (.if_icmp .ne 7, 3) := dk_160 0 7 (dk_at dksX12_isFull_7 5 rfl rfl)
theorem dX12_isFull_178 : decode cX12_isFull 178 = .ok (.iconst 1, 1) := dk_4 (dk_at dksX12_isFull_7 8 rfl rfl)
theorem dX12_isFull_179 : decode cX12_isFull 179 = .ok (.goto 4, 3) := dk_167 0 4 (dk_at dksX12_isFull_7 9 rfl rfl)
theorem dX12_isFull_182 : decode cX12_isFull 182 = .ok (.iconst 0, 1) := dk_3 (dk_at dksX12_isFull_7 12 rfl rfl)
theorem dX12_isFull_183 : decode cX12_isFull 183 = .ok (.ireturn, 1) := dk_172 (dk_at dksX12_isFull_7 13 rfl rfl)
theorem dX12_isFull_184 : decode cX12_isFull 184 = .ok (.iconst 0, 1) := dk_3 (dk_at dksX12_isFull_7 14 rfl rfl)
theorem dX12_isFull_185 : decode cX12_isFull 185 = .ok (.ireturn, 1) := dk_172 (dk_at dksX12_isFull_7 15 rfl rfl)
theorem q127 : (Jvm.Cond.initialized "DimpleWells$LandReader") ∈ lw_all := lw_g (lw_at lw_m1 31 rfl) rfl
theorem q507 : (Jvm.Cond.fieldLinkNest "DimpleWells$LandReader" (61 : Nat) "DimpleWells$Told" "persons" "Ljava/util/ArrayList;" "DimpleWells") ∈ lw_tbl := lw_at lw_m2 171 rfl
theorem q510 : (Jvm.Cond.fieldLinkNest "DimpleWells$LandReader" (69 : Nat) "DimpleWells$Told" "jokes" "Ljava/util/ArrayList;" "DimpleWells") ∈ lw_tbl := lw_at lw_m2 174 rfl
theorem q514 : (Jvm.Cond.fieldLinkNest "DimpleWells$LandReader" (108 : Nat) "DimpleWells$Told" "next" "[I" "DimpleWells") ∈ lw_tbl := lw_at lw_m2 178 rfl
theorem q522 : (Jvm.Cond.fieldLinkNest "DimpleWells$LandReader" (72 : Nat) "DimpleWells$Told" "streets" "I" "DimpleWells") ∈ lw_tbl := lw_at lw_m2 186 rfl
theorem q526 : (Jvm.Cond.fieldLinkNest "DimpleWells$LandReader" (117 : Nat) "DimpleWells$Told" "jug" "I" "DimpleWells") ∈ lw_tbl := lw_at lw_m2 190 rfl
theorem q528 : (Jvm.Cond.fieldLinkNest "DimpleWells$LandReader" (119 : Nat) "DimpleWells$Told" "drink" "I" "DimpleWells") ∈ lw_tbl := lw_at lw_m2 192 rfl
theorem q531 : (Jvm.Cond.fieldLinkNest "DimpleWells$LandReader" (43 : Nat) "DimpleWells$Told" "clauses" "I" "DimpleWells") ∈ lw_tbl := lw_at lw_m2 195 rfl
theorem q978 : (Jvm.Cond.instantiable "DimpleWells$LandReader" (6 : Nat)) ∈ lw_all := lw_g (lw_at lw_m4 162 rfl) rfl
theorem q980 : (Jvm.Cond.instanceMethod ({ cls := "DimpleWells$LandReader", name := "<init>", desc := "([BI)V" } : Jvm.MethodName)) ∈ lw_all := lw_g (lw_at lw_m4 164 rfl) rfl
theorem q981 : (Jvm.Cond.code ({ cls := "DimpleWells$LandReader", name := "<init>", desc := "([BI)V" } : Jvm.MethodName) prog_10_method_1_code (3 : Nat) (Option.none : Option Jvm.ClassFile.FieldType)) ∈ lw_all := lw_g (lw_at lw_m4 165 rfl) rfl
theorem q982 : (Jvm.Cond.methodLink "DimpleWells$LandReader" (3 : Nat) ({ cls := "DimpleWells$Reader", name := "<init>", desc := "([BI)V" } : Jvm.MethodName)) ∈ lw_all := lw_g (lw_at lw_m4 166 rfl) rfl
theorem q986 : (Jvm.Cond.classLink "DimpleWells$LandReader" (9 : Nat) "DimpleWells$Told") ∈ lw_all := lw_g (lw_at lw_m4 170 rfl) rfl
theorem q987 : (Jvm.Cond.methodLinkNest "DimpleWells$LandReader" (11 : Nat) ({ cls := "DimpleWells$Told", name := "<init>", desc := "()V" } : Jvm.MethodName) "DimpleWells") ∈ lw_tbl := lw_at lw_m4 171 rfl
theorem q988 : (Jvm.Cond.fieldLink "DimpleWells$LandReader" (14 : Nat) "DimpleWells$LandReader" "t" "LDimpleWells$Told;") ∈ lw_all := lw_g (lw_at lw_m4 172 rfl) rfl
theorem q991 : (Jvm.Cond.fieldLink "DimpleWells$LandReader" (28 : Nat) "DimpleWells$LandReader" "size" "I") ∈ lw_all := lw_g (lw_at lw_m4 175 rfl) rfl
theorem q992 : (Jvm.Cond.sameField "DimpleWells$LandReader" "DimpleWells$Reader" "size" "I") ∈ lw_all := lw_g (lw_at lw_m4 176 rfl) rfl
theorem q1000 : (Jvm.Cond.fieldLink "DimpleWells$LandReader" (24 : Nat) "DimpleWells$LandReader" "next" "I") ∈ lw_all := lw_g (lw_at lw_m4 184 rfl) rfl
theorem q1001 : (Jvm.Cond.sameField "DimpleWells$LandReader" "DimpleWells$Reader" "next" "I") ∈ lw_all := lw_g (lw_at lw_m4 185 rfl) rfl
theorem q1010 : (Jvm.Cond.fieldLink "DimpleWells$LandReader" (111 : Nat) "DimpleWells$LandReader" "from" "I") ∈ lw_all := lw_g (lw_at lw_m4 194 rfl) rfl
theorem q1011 : (Jvm.Cond.sameField "DimpleWells$LandReader" "DimpleWells$Reader" "from" "I") ∈ lw_all := lw_g (lw_at lw_m4 195 rfl) rfl
theorem q1018 : (Jvm.Cond.laysFinal "DimpleWells$LandReader" "DimpleWells$LandReader" "t" "LDimpleWells$Told;") ∈ lw_all := lw_g (lw_at lw_m4 202 rfl) rfl
theorem q1019 : (Jvm.Cond.soleField "DimpleWells$LandReader" "t") ∈ lw_all := lw_g (lw_at lw_m4 203 rfl) rfl
theorem q1020 : (Jvm.Cond.laysFinal "DimpleWells$LandReader" "DimpleWells$Reader" "text" "[B") ∈ lw_all := lw_g (lw_at lw_m4 204 rfl) rfl
theorem q1022 : (Jvm.Cond.laysFinal "DimpleWells$LandReader" "DimpleWells$Reader" "size" "I") ∈ lw_all := lw_g (lw_at lw_m4 206 rfl) rfl
theorem q1024 : (Jvm.Cond.lays "DimpleWells$LandReader" "DimpleWells$Reader" "next" "I") ∈ lw_all := lw_g (lw_at lw_m4 208 rfl) rfl
theorem q1026 : (Jvm.Cond.lays "DimpleWells$LandReader" "DimpleWells$Reader" "from" "I") ∈ lw_all := lw_g (lw_at lw_m4 210 rfl) rfl
theorem q1028 : (Jvm.Cond.lays "DimpleWells$LandReader" "DimpleWells$Reader" "open" "I") ∈ lw_all := lw_g (lw_at lw_m4 212 rfl) rfl
theorem q1030 : (Jvm.Cond.superclass "DimpleWells$LandReader" "DimpleWells$Reader") ∈ lw_all := lw_g (lw_at lw_m4 214 rfl) rfl
theorem q1032 : (Jvm.Cond.instanceMethod ({ cls := "DimpleWells$LandReader", name := "reads", desc := "()LDimpleWells$Told;" } : Jvm.MethodName)) ∈ lw_all := lw_g (lw_at lw_m4 216 rfl) rfl
theorem q1033 : (Jvm.Cond.selects "DimpleWells$LandReader" ({ cls := "DimpleWells$LandReader", name := "reads", desc := "()LDimpleWells$Told;" } : Jvm.MethodName) ({ cls := "DimpleWells$LandReader", name := "reads", desc := "()LDimpleWells$Told;" } : Jvm.MethodName)) ∈ lw_all := lw_g (lw_at lw_m4 217 rfl) rfl
theorem q1034 : (Jvm.Cond.code ({ cls := "DimpleWells$LandReader", name := "reads", desc := "()LDimpleWells$Told;" } : Jvm.MethodName) prog_10_method_2_code (1 : Nat) (Option.some (Jvm.ClassFile.FieldType.object "DimpleWells$Told"))) ∈ lw_all := lw_g (lw_at lw_m4 218 rfl) rfl
theorem q1035 : (Jvm.Cond.methodLink "DimpleWells$LandReader" (20 : Nat) ({ cls := "DimpleWells$LandReader", name := "sign", desc := "()I" } : Jvm.MethodName)) ∈ lw_all := lw_g (lw_at lw_m4 219 rfl) rfl
theorem q1036 : (Jvm.Cond.sameMethod "DimpleWells$LandReader" "DimpleWells$Reader" "sign" "()I") ∈ lw_all := lw_g (lw_at lw_m4 220 rfl) rfl
theorem q1038 : (Jvm.Cond.selects "DimpleWells$LandReader" ({ cls := "DimpleWells$LandReader", name := "sign", desc := "()I" } : Jvm.MethodName) ({ cls := "DimpleWells$Reader", name := "sign", desc := "()I" } : Jvm.MethodName)) ∈ lw_all := lw_g (lw_at lw_m4 222 rfl) rfl
theorem q1041 : (Jvm.Cond.methodLink "DimpleWells$LandReader" (31 : Nat) ({ cls := "DimpleWells$LandReader", name := "word", desc := "()Ljava/lang/String;" } : Jvm.MethodName)) ∈ lw_all := lw_g (lw_at lw_m4 225 rfl) rfl
theorem q1042 : (Jvm.Cond.sameMethod "DimpleWells$LandReader" "DimpleWells$Reader" "word" "()Ljava/lang/String;") ∈ lw_all := lw_g (lw_at lw_m4 226 rfl) rfl
theorem q1044 : (Jvm.Cond.selects "DimpleWells$LandReader" ({ cls := "DimpleWells$LandReader", name := "word", desc := "()Ljava/lang/String;" } : Jvm.MethodName) ({ cls := "DimpleWells$Reader", name := "word", desc := "()Ljava/lang/String;" } : Jvm.MethodName)) ∈ lw_all := lw_g (lw_at lw_m4 228 rfl) rfl
theorem q1072 : (Jvm.Cond.methodLink "DimpleWells$LandReader" (35 : Nat) ({ cls := "DimpleWells$LandReader", name := "clause", desc := "(Ljava/lang/String;)V" } : Jvm.MethodName)) ∈ lw_all := lw_g (lw_at lw_m5 16 rfl) rfl
theorem q1073 : (Jvm.Cond.privateMethod ({ cls := "DimpleWells$LandReader", name := "clause", desc := "(Ljava/lang/String;)V" } : Jvm.MethodName)) ∈ lw_tbl := lw_at lw_m5 17 rfl
theorem q1074 : (Jvm.Cond.instanceMethod ({ cls := "DimpleWells$LandReader", name := "clause", desc := "(Ljava/lang/String;)V" } : Jvm.MethodName)) ∈ lw_all := lw_g (lw_at lw_m5 18 rfl) rfl
theorem q1075 : (Jvm.Cond.code ({ cls := "DimpleWells$LandReader", name := "clause", desc := "(Ljava/lang/String;)V" } : Jvm.MethodName) prog_10_method_4_code (6 : Nat) (Option.none : Option Jvm.ClassFile.FieldType)) ∈ lw_all := lw_g (lw_at lw_m5 19 rfl) rfl
theorem q1076 : (Jvm.Cond.methodLink "DimpleWells$LandReader" (46 : Nat) ({ cls := "java/lang/String", name := "hashCode", desc := "()I" } : Jvm.MethodName)) ∈ lw_all := lw_g (lw_at lw_m5 20 rfl) rfl
theorem q1137 : (Jvm.Cond.stringRef "DimpleWells$LandReader" (51 : Nat) "person") ∈ lw_tbl := lw_at lw_m5 81 rfl
theorem q1138 : (Jvm.Cond.methodLink "DimpleWells$LandReader" (53 : Nat) ({ cls := "java/lang/String", name := "equals", desc := "(Ljava/lang/Object;)Z" } : Jvm.MethodName)) ∈ lw_all := lw_g (lw_at lw_m5 82 rfl) rfl
theorem q1146 : (Jvm.Cond.stringRef "DimpleWells$LandReader" (57 : Nat) "joke") ∈ lw_tbl := lw_at lw_m5 90 rfl
theorem q1147 : (Jvm.Cond.stringRef "DimpleWells$LandReader" (59 : Nat) "street") ∈ lw_tbl := lw_at lw_m5 91 rfl
theorem q1148 : (Jvm.Cond.stringRef "DimpleWells$LandReader" (75 : Nat) "jug") ∈ lw_tbl := lw_at lw_m5 92 rfl
theorem q1149 : (Jvm.Cond.stringRef "DimpleWells$LandReader" (77 : Nat) "drink") ∈ lw_tbl := lw_at lw_m5 93 rfl
theorem q1150 : (Jvm.Cond.methodLink "DimpleWells$LandReader" (79 : Nat) ({ cls := "DimpleWells$LandReader", name := "wrong", desc := "()LDimpleWells$Wrong;" } : Jvm.MethodName)) ∈ lw_all := lw_g (lw_at lw_m5 94 rfl) rfl
theorem q1151 : (Jvm.Cond.sameMethod "DimpleWells$LandReader" "DimpleWells$Reader" "wrong" "()LDimpleWells$Wrong;") ∈ lw_all := lw_g (lw_at lw_m5 95 rfl) rfl
theorem q1153 : (Jvm.Cond.selects "DimpleWells$LandReader" ({ cls := "DimpleWells$LandReader", name := "wrong", desc := "()LDimpleWells$Wrong;" } : Jvm.MethodName) ({ cls := "DimpleWells$Reader", name := "wrong", desc := "()LDimpleWells$Wrong;" } : Jvm.MethodName)) ∈ lw_all := lw_g (lw_at lw_m5 97 rfl) rfl
theorem q1184 : (Jvm.Cond.methodLink "DimpleWells$LandReader" (83 : Nat) ({ cls := "DimpleWells$LandReader", name := "isFull", desc := "(Ljava/lang/String;)Z" } : Jvm.MethodName)) ∈ lw_all := lw_g (lw_at lw_m5 128 rfl) rfl
theorem q1185 : (Jvm.Cond.privateMethod ({ cls := "DimpleWells$LandReader", name := "isFull", desc := "(Ljava/lang/String;)Z" } : Jvm.MethodName)) ∈ lw_tbl := lw_at lw_m5 129 rfl
theorem q1186 : (Jvm.Cond.instanceMethod ({ cls := "DimpleWells$LandReader", name := "isFull", desc := "(Ljava/lang/String;)Z" } : Jvm.MethodName)) ∈ lw_all := lw_g (lw_at lw_m5 130 rfl) rfl
theorem q1187 : (Jvm.Cond.code ({ cls := "DimpleWells$LandReader", name := "isFull", desc := "(Ljava/lang/String;)Z" } : Jvm.MethodName) prog_10_method_3_code (4 : Nat) (Option.some Jvm.ClassFile.FieldType.boolean)) ∈ lw_all := lw_g (lw_at lw_m5 131 rfl) rfl
theorem q1188 : (Jvm.Cond.methodLink "DimpleWells$LandReader" (65 : Nat) ({ cls := "java/util/ArrayList", name := "size", desc := "()I" } : Jvm.MethodName)) ∈ lw_all := lw_g (lw_at lw_m5 132 rfl) rfl
theorem q1189 : (Jvm.Cond.classLink "DimpleWells$LandReader" (87 : Nat) "DimpleWells$Wrong") ∈ lw_all := lw_g (lw_at lw_m5 133 rfl) rfl
theorem q1190 : (Jvm.Cond.methodLink "DimpleWells$LandReader" (89 : Nat) ({ cls := "DimpleWells$Wrong", name := "<init>", desc := "(II)V" } : Jvm.MethodName)) ∈ lw_all := lw_g (lw_at lw_m5 134 rfl) rfl
theorem q1191 : (Jvm.Cond.methodLink "DimpleWells$LandReader" (92 : Nat) ({ cls := "java/lang/String", name := "length", desc := "()I" } : Jvm.MethodName)) ∈ lw_all := lw_g (lw_at lw_m5 135 rfl) rfl
theorem q1192 : (Jvm.Cond.methodLink "DimpleWells$LandReader" (95 : Nat) ({ cls := "DimpleWells$LandReader", name := "number", desc := "(II)I" } : Jvm.MethodName)) ∈ lw_all := lw_g (lw_at lw_m5 136 rfl) rfl
theorem q1193 : (Jvm.Cond.sameMethod "DimpleWells$LandReader" "DimpleWells$Reader" "number" "(II)I") ∈ lw_all := lw_g (lw_at lw_m5 137 rfl) rfl
theorem q1195 : (Jvm.Cond.selects "DimpleWells$LandReader" ({ cls := "DimpleWells$LandReader", name := "number", desc := "(II)I" } : Jvm.MethodName) ({ cls := "DimpleWells$Reader", name := "number", desc := "(II)I" } : Jvm.MethodName)) ∈ lw_all := lw_g (lw_at lw_m5 139 rfl) rfl
theorem q1201 : (Jvm.Cond.classLink "DimpleWells$LandReader" (99 : Nat) "DimpleWells$Person") ∈ lw_all := lw_g (lw_at lw_m5 145 rfl) rfl
theorem q1203 : (Jvm.Cond.methodLink "DimpleWells$LandReader" (101 : Nat) ({ cls := "DimpleWells$Person", name := "<init>", desc := "(II)V" } : Jvm.MethodName)) ∈ lw_all := lw_g (lw_at lw_m5 147 rfl) rfl
theorem q1218 : (Jvm.Cond.methodLink "DimpleWells$LandReader" (102 : Nat) ({ cls := "java/util/ArrayList", name := "add", desc := "(Ljava/lang/Object;)Z" } : Jvm.MethodName)) ∈ lw_all := lw_g (lw_at lw_m5 162 rfl) rfl
theorem q1251 : (Jvm.Cond.selects "DimpleWells$LandReader" ({ cls := "java/lang/Object", name := "getClass", desc := "()Ljava/lang/Class;" } : Jvm.MethodName) ({ cls := "java/lang/Object", name := "getClass", desc := "()Ljava/lang/Class;" } : Jvm.MethodName)) ∈ lw_all := lw_g (lw_at lw_m5 195 rfl) rfl
theorem q1282 : (Jvm.Cond.classLink "DimpleWells$LandReader" (105 : Nat) "DimpleWells$Joke") ∈ lw_all := lw_g (lw_at lw_m5 226 rfl) rfl
theorem q1284 : (Jvm.Cond.methodLink "DimpleWells$LandReader" (107 : Nat) ({ cls := "DimpleWells$Joke", name := "<init>", desc := "(II)V" } : Jvm.MethodName)) ∈ lw_all := lw_g (lw_at lw_m5 228 rfl) rfl
theorem q1298 : (Jvm.Cond.methodLink "DimpleWells$LandReader" (114 : Nat) ({ cls := "DimpleWells$Told", name := "leads", desc := "(II)V" } : Jvm.MethodName)) ∈ lw_all := lw_g (lw_at lw_m6 2 rfl) rfl
theorem q1302 : (Jvm.Cond.methodLink "DimpleWells$LandReader" (39 : Nat) ({ cls := "DimpleWells$LandReader", name := "need", desc := "(I)V" } : Jvm.MethodName)) ∈ lw_all := lw_g (lw_at lw_m6 6 rfl) rfl
theorem q1303 : (Jvm.Cond.sameMethod "DimpleWells$LandReader" "DimpleWells$Reader" "need" "(I)V") ∈ lw_all := lw_g (lw_at lw_m6 7 rfl) rfl
theorem q1305 : (Jvm.Cond.selects "DimpleWells$LandReader" ({ cls := "DimpleWells$LandReader", name := "need", desc := "(I)V" } : Jvm.MethodName) ({ cls := "DimpleWells$Reader", name := "need", desc := "(I)V" } : Jvm.MethodName)) ∈ lw_all := lw_g (lw_at lw_m6 9 rfl) rfl
theorem q2564 : (Jvm.Cond.selects "DimpleWells$LandReader" ({ cls := "DimpleWells$Reader", name := "sign", desc := "()I" } : Jvm.MethodName) ({ cls := "DimpleWells$Reader", name := "sign", desc := "()I" } : Jvm.MethodName)) ∈ lw_all := lw_g (lw_at lw_m11 68 rfl) rfl
theorem q2571 : (Jvm.Cond.selects "DimpleWells$LandReader" ({ cls := "DimpleWells$Reader", name := "wrong", desc := "()LDimpleWells$Wrong;" } : Jvm.MethodName) ({ cls := "DimpleWells$Reader", name := "wrong", desc := "()LDimpleWells$Wrong;" } : Jvm.MethodName)) ∈ lw_all := lw_g (lw_at lw_m11 75 rfl) rfl
theorem q2593 : (Jvm.Cond.castable "DimpleWells$LandReader" "java/lang/Object") ∈ lw_tbl := lw_at lw_m11 97 rfl
theorem in_X12 : ∀ w ∈ wsX120, w ∈ lw_all := lw_in wsX120 [1020, 1022, 1024, 1026, 1028, 1018] (by decide +kernel) (by decide +kernel)
/-! DimpleWells$Wrong -/
set_option maxRecDepth 100000
def RX13 : String := "DimpleWells$Wrong"
def TX13 : u_T := fun k => match k with
  | 0 => ("java/lang/Throwable", "cause", "Ljava/lang/Throwable;", false)
  | 1 => ("java/lang/Throwable", "stackTrace", "[Ljava/lang/StackTraceElement;", false)
  | 2 => ("java/lang/Throwable", "suppressedExceptions", "Ljava/util/List;", false)
  | 3 => ("java/lang/Throwable", "detailMessage", "Ljava/lang/String;", false)
  | 4 => ("java/lang/Throwable", "backtrace", "Ljava/lang/Object;", false)
  | 5 => ("java/lang/Throwable", "depth", "I", false)
  | 6 => ("DimpleWells$Wrong", "kind", "I", true)
  | _ => ("DimpleWells$Wrong", "place", "I", true)
def tyX13 : Nat → FieldType := fun k => match k with
  | 0 => .object "java/lang/Throwable"
  | 1 => .array (.object "java/lang/StackTraceElement")
  | 2 => .object "java/util/List"
  | 3 => .object "java/lang/String"
  | 4 => .object "java/lang/Object"
  | 5 => .int
  | 6 => .int
  | _ => .int
abbrev wsX130 : List Cond := u_ws RX13 TX13 8
theorem nmX13 : ∀ a, a < 8 → ∀ b, b < 8 → a ≠ b → (TX13 a).2.1 ≠ (TX13 b).2.1 := by decide +kernel
theorem tyX13_ok : ∀ k, k < 8 → parseFieldDescriptor (TX13 k).2.2.1 = some (tyX13 k) := by decide +kernel
abbrev cX13_init : ByteArray := prog_30_method_1_code
def yX13_init : MethodName := ⟨RX13, "<init>", "(II)V"⟩
def dkwX13_init_0 : List UInt8 := [42, 1, 1, 3, 3, 183, 0, 1, 42, 27, 181, 0, 7, 42, 28, 181, 0, 13, 177]
abbrev dktX13_init_0 : List UInt8 := dkwX13_init_0 ++ []
theorem dksX13_init_0 : cX13_init.data.toList.drop 0 = dktX13_init_0 := by decide +kernel
theorem dX13_init_0 : decode cX13_init 0 = .ok (.aload_n 0, 1) := dk_42 (dk_at dksX13_init_0 0 rfl rfl)
theorem dX13_init_1 : decode cX13_init 1 = .ok (.aconst_null, 1) := dk_1 (dk_at dksX13_init_0 1 rfl rfl)
theorem dX13_init_2 : decode cX13_init 2 = .ok (.aconst_null, 1) := dk_1 (dk_at dksX13_init_0 2 rfl rfl)
theorem dX13_init_3 : decode cX13_init 3 = .ok (.iconst 0, 1) := dk_3 (dk_at dksX13_init_0 3 rfl rfl)
theorem dX13_init_4 : decode cX13_init 4 = .ok (.iconst 0, 1) := dk_3 (dk_at dksX13_init_0 4 rfl rfl)
theorem dX13_init_5 : decode cX13_init 5 = .ok (.invokespecial 1, 3) := dk_183 0 1 (dk_at dksX13_init_0 5 rfl rfl)
theorem dX13_init_8 : decode cX13_init 8 = .ok (.aload_n 0, 1) := dk_42 (dk_at dksX13_init_0 8 rfl rfl)
theorem dX13_init_9 : decode cX13_init 9 = .ok (.iload_n 1, 1) := dk_27 (dk_at dksX13_init_0 9 rfl rfl)
theorem dX13_init_10 : decode cX13_init 10 = .ok (.putfield 7, 3) := dk_181 0 7 (dk_at dksX13_init_0 10 rfl rfl)
theorem dX13_init_13 : decode cX13_init 13 = .ok (.aload_n 0, 1) := dk_42 (dk_at dksX13_init_0 13 rfl rfl)
theorem dX13_init_14 : decode cX13_init 14 = .ok (.iload_n 2, 1) := dk_28 (dk_at dksX13_init_0 14 rfl rfl)
theorem dX13_init_15 : decode cX13_init 15 = .ok (.putfield 13, 3) := dk_181 0 13 (dk_at dksX13_init_0 15 rfl rfl)
theorem dX13_init_18 : decode cX13_init 18 = .ok (.return_, 1) := dk_177 (dk_at dksX13_init_0 18 rfl rfl)
theorem q128 : (Jvm.Cond.initialized "DimpleWells$Wrong") ∈ lw_all := lw_g (lw_at lw_m1 32 rfl) rfl
theorem q212 : (Jvm.Cond.selects "DimpleWells$Wrong" ({ cls := "java/lang/Throwable", name := "fillInStackTrace", desc := "()Ljava/lang/Throwable;" } : Jvm.MethodName) ({ cls := "java/lang/Throwable", name := "fillInStackTrace", desc := "()Ljava/lang/Throwable;" } : Jvm.MethodName)) ∈ lw_all := lw_g (lw_at lw_m1 116 rfl) rfl
theorem q1157 : (Jvm.Cond.instantiable "DimpleWells$Wrong" (8 : Nat)) ∈ lw_all := lw_g (lw_at lw_m5 101 rfl) rfl
theorem q1158 : (Jvm.Cond.castable "DimpleWells$Wrong" "DimpleWells$Wrong") ∈ lw_tbl := lw_at lw_m5 102 rfl
theorem q1159 : (Jvm.Cond.selects "DimpleWells$Wrong" ({ cls := "java/lang/Throwable", name := "fillInStackTrace", desc := "(I)Ljava/lang/Throwable;" } : Jvm.MethodName) ({ cls := "java/lang/Throwable", name := "fillInStackTrace", desc := "(I)Ljava/lang/Throwable;" } : Jvm.MethodName)) ∈ lw_all := lw_g (lw_at lw_m5 103 rfl) rfl
theorem q1160 : (Jvm.Cond.lays "DimpleWells$Wrong" "java/lang/Throwable" "cause" "Ljava/lang/Throwable;") ∈ lw_all := lw_g (lw_at lw_m5 104 rfl) rfl
theorem q1161 : (Jvm.Cond.lays "DimpleWells$Wrong" "java/lang/Throwable" "stackTrace" "[Ljava/lang/StackTraceElement;") ∈ lw_all := lw_g (lw_at lw_m5 105 rfl) rfl
theorem q1162 : (Jvm.Cond.lays "DimpleWells$Wrong" "java/lang/Throwable" "suppressedExceptions" "Ljava/util/List;") ∈ lw_all := lw_g (lw_at lw_m5 106 rfl) rfl
theorem q1163 : (Jvm.Cond.lays "DimpleWells$Wrong" "java/lang/Throwable" "detailMessage" "Ljava/lang/String;") ∈ lw_all := lw_g (lw_at lw_m5 107 rfl) rfl
theorem q1164 : (Jvm.Cond.lays "DimpleWells$Wrong" "java/lang/Throwable" "backtrace" "Ljava/lang/Object;") ∈ lw_all := lw_g (lw_at lw_m5 108 rfl) rfl
theorem q1166 : (Jvm.Cond.instanceMethod ({ cls := "DimpleWells$Wrong", name := "<init>", desc := "(II)V" } : Jvm.MethodName)) ∈ lw_all := lw_g (lw_at lw_m5 110 rfl) rfl
theorem q1167 : (Jvm.Cond.code ({ cls := "DimpleWells$Wrong", name := "<init>", desc := "(II)V" } : Jvm.MethodName) prog_30_method_1_code (3 : Nat) (Option.none : Option Jvm.ClassFile.FieldType)) ∈ lw_all := lw_g (lw_at lw_m5 111 rfl) rfl
theorem q1168 : (Jvm.Cond.methodLink "DimpleWells$Wrong" (1 : Nat) ({ cls := "java/lang/Exception", name := "<init>", desc := "(Ljava/lang/String;Ljava/lang/Throwable;ZZ)V" } : Jvm.MethodName)) ∈ lw_all := lw_g (lw_at lw_m5 112 rfl) rfl
theorem q1174 : (Jvm.Cond.fieldLink "DimpleWells$Wrong" (7 : Nat) "DimpleWells$Wrong" "kind" "I") ∈ lw_all := lw_g (lw_at lw_m5 118 rfl) rfl
theorem q1176 : (Jvm.Cond.fieldLink "DimpleWells$Wrong" (13 : Nat) "DimpleWells$Wrong" "place" "I") ∈ lw_all := lw_g (lw_at lw_m5 120 rfl) rfl
theorem q1178 : (Jvm.Cond.laysFinal "DimpleWells$Wrong" "DimpleWells$Wrong" "kind" "I") ∈ lw_all := lw_g (lw_at lw_m5 122 rfl) rfl
theorem q1179 : (Jvm.Cond.soleField "DimpleWells$Wrong" "kind") ∈ lw_all := lw_g (lw_at lw_m5 123 rfl) rfl
theorem q1180 : (Jvm.Cond.laysFinal "DimpleWells$Wrong" "DimpleWells$Wrong" "place" "I") ∈ lw_all := lw_g (lw_at lw_m5 124 rfl) rfl
theorem q1181 : (Jvm.Cond.soleField "DimpleWells$Wrong" "place") ∈ lw_all := lw_g (lw_at lw_m5 125 rfl) rfl
theorem q1182 : (Jvm.Cond.lays "DimpleWells$Wrong" "java/lang/Throwable" "depth" "I") ∈ lw_all := lw_g (lw_at lw_m5 126 rfl) rfl
theorem q1183 : (Jvm.Cond.superclass "DimpleWells$Wrong" "java/lang/Exception") ∈ lw_all := lw_g (lw_at lw_m5 127 rfl) rfl
theorem q1267 : (Jvm.Cond.selects "DimpleWells$Wrong" ({ cls := "java/lang/Object", name := "getClass", desc := "()Ljava/lang/Class;" } : Jvm.MethodName) ({ cls := "java/lang/Object", name := "getClass", desc := "()Ljava/lang/Class;" } : Jvm.MethodName)) ∈ lw_all := lw_g (lw_at lw_m5 211 rfl) rfl
theorem q2595 : (Jvm.Cond.castable "DimpleWells$Wrong" "java/lang/Object") ∈ lw_tbl := lw_at lw_m11 99 rfl
theorem in_X13 : ∀ w ∈ wsX130, w ∈ lw_all := lw_in wsX130 [1160, 1161, 1162, 1163, 1164, 1182, 1178, 1180] (by decide +kernel) (by decide +kernel)
/-! DimpleWells$Person -/
set_option maxRecDepth 100000
def RX14 : String := "DimpleWells$Person"
def TX14 : u_T := fun k => match k with
  | 0 => ("DimpleWells$Person", "dimples", "I", true)
  | _ => ("DimpleWells$Person", "taste", "I", true)
def tyX14 : Nat → FieldType := fun k => match k with
  | 0 => .int
  | _ => .int
abbrev wsX140 : List Cond := u_ws RX14 TX14 2
theorem nmX14 : ∀ a, a < 2 → ∀ b, b < 2 → a ≠ b → (TX14 a).2.1 ≠ (TX14 b).2.1 := by decide +kernel
theorem tyX14_ok : ∀ k, k < 2 → parseFieldDescriptor (TX14 k).2.2.1 = some (tyX14 k) := by decide +kernel
abbrev cX14_init : ByteArray := prog_17_method_1_code
def yX14_init : MethodName := ⟨RX14, "<init>", "(II)V"⟩
def dkwX14_init_0 : List UInt8 := [42, 183, 0, 1, 42, 27, 181, 0, 7, 42, 28, 181, 0, 13, 177]
abbrev dktX14_init_0 : List UInt8 := dkwX14_init_0 ++ []
theorem dksX14_init_0 : cX14_init.data.toList.drop 0 = dktX14_init_0 := by decide +kernel
theorem dX14_init_0 : decode cX14_init 0 = .ok (.aload_n 0, 1) := dk_42 (dk_at dksX14_init_0 0 rfl rfl)
theorem dX14_init_1 : decode cX14_init 1 = .ok (.invokespecial 1, 3) := dk_183 0 1 (dk_at dksX14_init_0 1 rfl rfl)
theorem dX14_init_4 : decode cX14_init 4 = .ok (.aload_n 0, 1) := dk_42 (dk_at dksX14_init_0 4 rfl rfl)
theorem dX14_init_5 : decode cX14_init 5 = .ok (.iload_n 1, 1) := dk_27 (dk_at dksX14_init_0 5 rfl rfl)
theorem dX14_init_6 : decode cX14_init 6 = .ok (.putfield 7, 3) := dk_181 0 7 (dk_at dksX14_init_0 6 rfl rfl)
theorem dX14_init_9 : decode cX14_init 9 = .ok (.aload_n 0, 1) := dk_42 (dk_at dksX14_init_0 9 rfl rfl)
theorem dX14_init_10 : decode cX14_init 10 = .ok (.iload_n 2, 1) := dk_28 (dk_at dksX14_init_0 10 rfl rfl)
theorem dX14_init_11 : decode cX14_init 11 = .ok (.putfield 13, 3) := dk_181 0 13 (dk_at dksX14_init_0 11 rfl rfl)
theorem dX14_init_14 : decode cX14_init 14 = .ok (.return_, 1) := dk_177 (dk_at dksX14_init_0 14 rfl rfl)
theorem q129 : (Jvm.Cond.initialized "DimpleWells$Person") ∈ lw_all := lw_g (lw_at lw_m1 33 rfl) rfl
theorem q1202 : (Jvm.Cond.instantiable "DimpleWells$Person" (2 : Nat)) ∈ lw_all := lw_g (lw_at lw_m5 146 rfl) rfl
theorem q1204 : (Jvm.Cond.instanceMethod ({ cls := "DimpleWells$Person", name := "<init>", desc := "(II)V" } : Jvm.MethodName)) ∈ lw_all := lw_g (lw_at lw_m5 148 rfl) rfl
theorem q1205 : (Jvm.Cond.code ({ cls := "DimpleWells$Person", name := "<init>", desc := "(II)V" } : Jvm.MethodName) prog_17_method_1_code (3 : Nat) (Option.none : Option Jvm.ClassFile.FieldType)) ∈ lw_all := lw_g (lw_at lw_m5 149 rfl) rfl
theorem q1206 : (Jvm.Cond.methodLink "DimpleWells$Person" (1 : Nat) ({ cls := "java/lang/Object", name := "<init>", desc := "()V" } : Jvm.MethodName)) ∈ lw_all := lw_g (lw_at lw_m5 150 rfl) rfl
theorem q1207 : (Jvm.Cond.fieldLink "DimpleWells$Person" (7 : Nat) "DimpleWells$Person" "dimples" "I") ∈ lw_all := lw_g (lw_at lw_m5 151 rfl) rfl
theorem q1210 : (Jvm.Cond.fieldLink "DimpleWells$Person" (13 : Nat) "DimpleWells$Person" "taste" "I") ∈ lw_all := lw_g (lw_at lw_m5 154 rfl) rfl
theorem q1213 : (Jvm.Cond.laysFinal "DimpleWells$Person" "DimpleWells$Person" "dimples" "I") ∈ lw_all := lw_g (lw_at lw_m5 157 rfl) rfl
theorem q1214 : (Jvm.Cond.soleField "DimpleWells$Person" "dimples") ∈ lw_all := lw_g (lw_at lw_m5 158 rfl) rfl
theorem q1215 : (Jvm.Cond.laysFinal "DimpleWells$Person" "DimpleWells$Person" "taste" "I") ∈ lw_all := lw_g (lw_at lw_m5 159 rfl) rfl
theorem q1216 : (Jvm.Cond.soleField "DimpleWells$Person" "taste") ∈ lw_all := lw_g (lw_at lw_m5 160 rfl) rfl
theorem q1217 : (Jvm.Cond.superclass "DimpleWells$Person" "java/lang/Object") ∈ lw_all := lw_g (lw_at lw_m5 161 rfl) rfl
theorem q1258 : (Jvm.Cond.selects "DimpleWells$Person" ({ cls := "java/lang/Object", name := "getClass", desc := "()Ljava/lang/Class;" } : Jvm.MethodName) ({ cls := "java/lang/Object", name := "getClass", desc := "()Ljava/lang/Class;" } : Jvm.MethodName)) ∈ lw_all := lw_g (lw_at lw_m5 202 rfl) rfl
theorem q2596 : (Jvm.Cond.castable "DimpleWells$Person" "java/lang/Object") ∈ lw_tbl := lw_at lw_m11 100 rfl
theorem in_X14 : ∀ w ∈ wsX140, w ∈ lw_all := lw_in wsX140 [1213, 1215] (by decide +kernel) (by decide +kernel)
/-! DimpleWells$Joke -/
set_option maxRecDepth 100000
def RX15 : String := "DimpleWells$Joke"
def TX15 : u_T := fun k => match k with
  | 0 => ("DimpleWells$Joke", "kind", "I", true)
  | _ => ("DimpleWells$Joke", "strong", "I", true)
def tyX15 : Nat → FieldType := fun k => match k with
  | 0 => .int
  | _ => .int
abbrev wsX150 : List Cond := u_ws RX15 TX15 2
theorem nmX15 : ∀ a, a < 2 → ∀ b, b < 2 → a ≠ b → (TX15 a).2.1 ≠ (TX15 b).2.1 := by decide +kernel
theorem tyX15_ok : ∀ k, k < 2 → parseFieldDescriptor (TX15 k).2.2.1 = some (tyX15 k) := by decide +kernel
abbrev cX15_apart : ByteArray := prog_9_method_2_code
def yX15_apart : MethodName := ⟨RX15, "apart", "(I)I"⟩
def dkwX15_apart_0 : List UInt8 := [42, 180, 0, 7, 27, 100, 184, 0, 16, 172]
abbrev dktX15_apart_0 : List UInt8 := dkwX15_apart_0 ++ []
theorem dksX15_apart_0 : cX15_apart.data.toList.drop 0 = dktX15_apart_0 := by decide +kernel
theorem dX15_apart_0 : decode cX15_apart 0 = .ok (.aload_n 0, 1) := dk_42 (dk_at dksX15_apart_0 0 rfl rfl)
theorem dX15_apart_1 : decode cX15_apart 1 = .ok (.getfield 7, 3) := dk_180 0 7 (dk_at dksX15_apart_0 1 rfl rfl)
theorem dX15_apart_4 : decode cX15_apart 4 = .ok (.iload_n 1, 1) := dk_27 (dk_at dksX15_apart_0 4 rfl rfl)
theorem dX15_apart_5 : decode cX15_apart 5 = .ok (.isub, 1) := dk_100 (dk_at dksX15_apart_0 5 rfl rfl)
theorem dX15_apart_6 : decode cX15_apart 6 = .ok (.invokestatic 16, 3) := dk_184 0 16 (dk_at dksX15_apart_0 6 rfl rfl)
theorem dX15_apart_9 : decode cX15_apart 9 = .ok (.ireturn, 1) := dk_172 (dk_at dksX15_apart_0 9 rfl rfl)
abbrev cX15_init : ByteArray := prog_9_method_1_code
def yX15_init : MethodName := ⟨RX15, "<init>", "(II)V"⟩
def dkwX15_init_0 : List UInt8 := [42, 183, 0, 1, 42, 27, 181, 0, 7, 42, 28, 181, 0, 13, 177]
abbrev dktX15_init_0 : List UInt8 := dkwX15_init_0 ++ []
theorem dksX15_init_0 : cX15_init.data.toList.drop 0 = dktX15_init_0 := by decide +kernel
theorem dX15_init_0 : decode cX15_init 0 = .ok (.aload_n 0, 1) := dk_42 (dk_at dksX15_init_0 0 rfl rfl)
theorem dX15_init_1 : decode cX15_init 1 = .ok (.invokespecial 1, 3) := dk_183 0 1 (dk_at dksX15_init_0 1 rfl rfl)
theorem dX15_init_4 : decode cX15_init 4 = .ok (.aload_n 0, 1) := dk_42 (dk_at dksX15_init_0 4 rfl rfl)
theorem dX15_init_5 : decode cX15_init 5 = .ok (.iload_n 1, 1) := dk_27 (dk_at dksX15_init_0 5 rfl rfl)
theorem dX15_init_6 : decode cX15_init 6 = .ok (.putfield 7, 3) := dk_181 0 7 (dk_at dksX15_init_0 6 rfl rfl)
theorem dX15_init_9 : decode cX15_init 9 = .ok (.aload_n 0, 1) := dk_42 (dk_at dksX15_init_0 9 rfl rfl)
theorem dX15_init_10 : decode cX15_init 10 = .ok (.iload_n 2, 1) := dk_28 (dk_at dksX15_init_0 10 rfl rfl)
theorem dX15_init_11 : decode cX15_init 11 = .ok (.putfield 13, 3) := dk_181 0 13 (dk_at dksX15_init_0 11 rfl rfl)
theorem dX15_init_14 : decode cX15_init 14 = .ok (.return_, 1) := dk_177 (dk_at dksX15_init_0 14 rfl rfl)
theorem q130 : (Jvm.Cond.initialized "DimpleWells$Joke") ∈ lw_all := lw_g (lw_at lw_m1 34 rfl) rfl
theorem q853 : (Jvm.Cond.instanceMethod ({ cls := "DimpleWells$Joke", name := "apart", desc := "(I)I" } : Jvm.MethodName)) ∈ lw_all := lw_g (lw_at lw_m4 37 rfl) rfl
theorem q854 : (Jvm.Cond.selects "DimpleWells$Joke" ({ cls := "DimpleWells$Joke", name := "apart", desc := "(I)I" } : Jvm.MethodName) ({ cls := "DimpleWells$Joke", name := "apart", desc := "(I)I" } : Jvm.MethodName)) ∈ lw_all := lw_g (lw_at lw_m4 38 rfl) rfl
theorem q855 : (Jvm.Cond.code ({ cls := "DimpleWells$Joke", name := "apart", desc := "(I)I" } : Jvm.MethodName) prog_9_method_2_code (2 : Nat) (Option.some Jvm.ClassFile.FieldType.int)) ∈ lw_all := lw_g (lw_at lw_m4 39 rfl) rfl
theorem q856 : (Jvm.Cond.methodLink "DimpleWells$Joke" (16 : Nat) ({ cls := "java/lang/Math", name := "abs", desc := "(I)I" } : Jvm.MethodName)) ∈ lw_all := lw_g (lw_at lw_m4 40 rfl) rfl
theorem q1250 : (Jvm.Cond.selects "DimpleWells$Joke" ({ cls := "java/lang/Object", name := "getClass", desc := "()Ljava/lang/Class;" } : Jvm.MethodName) ({ cls := "java/lang/Object", name := "getClass", desc := "()Ljava/lang/Class;" } : Jvm.MethodName)) ∈ lw_all := lw_g (lw_at lw_m5 194 rfl) rfl
theorem q1283 : (Jvm.Cond.instantiable "DimpleWells$Joke" (2 : Nat)) ∈ lw_all := lw_g (lw_at lw_m5 227 rfl) rfl
theorem q1285 : (Jvm.Cond.instanceMethod ({ cls := "DimpleWells$Joke", name := "<init>", desc := "(II)V" } : Jvm.MethodName)) ∈ lw_all := lw_g (lw_at lw_m5 229 rfl) rfl
theorem q1286 : (Jvm.Cond.code ({ cls := "DimpleWells$Joke", name := "<init>", desc := "(II)V" } : Jvm.MethodName) prog_9_method_1_code (3 : Nat) (Option.none : Option Jvm.ClassFile.FieldType)) ∈ lw_all := lw_g (lw_at lw_m5 230 rfl) rfl
theorem q1287 : (Jvm.Cond.methodLink "DimpleWells$Joke" (1 : Nat) ({ cls := "java/lang/Object", name := "<init>", desc := "()V" } : Jvm.MethodName)) ∈ lw_all := lw_g (lw_at lw_m5 231 rfl) rfl
theorem q1288 : (Jvm.Cond.fieldLink "DimpleWells$Joke" (7 : Nat) "DimpleWells$Joke" "kind" "I") ∈ lw_all := lw_g (lw_at lw_m5 232 rfl) rfl
theorem q1290 : (Jvm.Cond.fieldLink "DimpleWells$Joke" (13 : Nat) "DimpleWells$Joke" "strong" "I") ∈ lw_all := lw_g (lw_at lw_m5 234 rfl) rfl
theorem q1293 : (Jvm.Cond.laysFinal "DimpleWells$Joke" "DimpleWells$Joke" "kind" "I") ∈ lw_all := lw_g (lw_at lw_m5 237 rfl) rfl
theorem q1294 : (Jvm.Cond.soleField "DimpleWells$Joke" "kind") ∈ lw_all := lw_g (lw_at lw_m5 238 rfl) rfl
theorem q1295 : (Jvm.Cond.laysFinal "DimpleWells$Joke" "DimpleWells$Joke" "strong" "I") ∈ lw_all := lw_g (lw_at lw_m5 239 rfl) rfl
theorem q1296 : (Jvm.Cond.soleField "DimpleWells$Joke" "strong") ∈ lw_all := lw_g (lw_at lw_m6 0 rfl) rfl
theorem q1297 : (Jvm.Cond.superclass "DimpleWells$Joke" "java/lang/Object") ∈ lw_all := lw_g (lw_at lw_m6 1 rfl) rfl
theorem q2597 : (Jvm.Cond.castable "DimpleWells$Joke" "java/lang/Object") ∈ lw_tbl := lw_at lw_m11 101 rfl
theorem in_X15 : ∀ w ∈ wsX150, w ∈ lw_all := lw_in wsX150 [1293, 1295] (by decide +kernel) (by decide +kernel)
/-! DimpleWells$LawReader -/
set_option maxRecDepth 100000
def RX16 : String := "DimpleWells$LawReader"
def TX16 : u_T := fun k => match k with
  | 0 => ("DimpleWells$Reader", "text", "[B", true)
  | 1 => ("DimpleWells$Reader", "size", "I", true)
  | 2 => ("DimpleWells$Reader", "next", "I", false)
  | 3 => ("DimpleWells$Reader", "from", "I", false)
  | _ => ("DimpleWells$Reader", "open", "I", false)
def tyX16 : Nat → FieldType := fun k => match k with
  | 0 => .array .byte
  | 1 => .int
  | 2 => .int
  | 3 => .int
  | _ => .int
abbrev wsX160 : List Cond := u_ws RX16 TX16 5
theorem nmX16 : ∀ a, a < 5 → ∀ b, b < 5 → a ≠ b → (TX16 a).2.1 ≠ (TX16 b).2.1 := by decide +kernel
theorem tyX16_ok : ∀ k, k < 5 → parseFieldDescriptor (TX16 k).2.2.1 = some (tyX16 k) := by decide +kernel
abbrev cX16_init : ByteArray := prog_11_method_1_code
def yX16_init : MethodName := ⟨RX16, "<init>", "([BI)V"⟩
def dkwX16_init_0 : List UInt8 := [42, 43, 28, 183, 0, 3, 177]
abbrev dktX16_init_0 : List UInt8 := dkwX16_init_0 ++ []
theorem dksX16_init_0 : cX16_init.data.toList.drop 0 = dktX16_init_0 := by decide +kernel
theorem dX16_init_0 : decode cX16_init 0 = .ok (.aload_n 0, 1) := dk_42 (dk_at dksX16_init_0 0 rfl rfl)
theorem dX16_init_1 : decode cX16_init 1 = .ok (.aload_n 1, 1) := dk_43 (dk_at dksX16_init_0 1 rfl rfl)
theorem dX16_init_2 : decode cX16_init 2 = .ok (.iload_n 2, 1) := dk_28 (dk_at dksX16_init_0 2 rfl rfl)
theorem dX16_init_3 : decode cX16_init 3 = .ok (.invokespecial 3, 3) := dk_183 0 3 (dk_at dksX16_init_0 3 rfl rfl)
theorem dX16_init_6 : decode cX16_init 6 = .ok (.return_, 1) := dk_177 (dk_at dksX16_init_0 6 rfl rfl)
abbrev cX16_reads : ByteArray := prog_11_method_2_code
def yX16_reads : MethodName := ⟨RX16, "reads", "()LDimpleWells$Term;"⟩
def dkwX16_reads_1 : List UInt8 := [182, 0, 26, 191, 43, 176]
abbrev dktX16_reads_1 : List UInt8 := dkwX16_reads_1 ++ []
def dkwX16_reads_0 : List UInt8 := [42, 182, 0, 9, 76, 42, 182, 0, 15, 87, 42, 180, 0, 19, 42, 180, 0, 23, 162, 0, 8, 42]
abbrev dktX16_reads_0 : List UInt8 := dkwX16_reads_0 ++ dktX16_reads_1
theorem dksX16_reads_0 : cX16_reads.data.toList.drop 0 = dktX16_reads_0 := by decide +kernel
theorem dksX16_reads_1 : cX16_reads.data.toList.drop 22 = dktX16_reads_1 := dk_seg dksX16_reads_0 22 rfl rfl
theorem dX16_reads_0 : decode cX16_reads 0 = .ok (.aload_n 0, 1) := dk_42 (dk_at dksX16_reads_0 0 rfl rfl)
theorem dX16_reads_1 : decode cX16_reads 1 = .ok (.invokevirtual 9, 3) := dk_182 0 9 (dk_at dksX16_reads_0 1 rfl rfl)
theorem dX16_reads_4 : decode cX16_reads 4 = .ok (.astore_n 1, 1) := dk_76 (dk_at dksX16_reads_0 4 rfl rfl)
theorem dX16_reads_5 : decode cX16_reads 5 = .ok (.aload_n 0, 1) := dk_42 (dk_at dksX16_reads_0 5 rfl rfl)
theorem dX16_reads_6 : decode cX16_reads 6 = .ok (.invokevirtual 15, 3) := dk_182 0 15 (dk_at dksX16_reads_0 6 rfl rfl)
theorem dX16_reads_9 : decode cX16_reads 9 = .ok (.pop, 1) := dk_87 (dk_at dksX16_reads_0 9 rfl rfl)
theorem dX16_reads_10 : decode cX16_reads 10 = .ok (.aload_n 0, 1) := dk_42 (dk_at dksX16_reads_0 10 rfl rfl)
theorem dX16_reads_11 : decode cX16_reads 11 = .ok (.getfield 19, 3) := dk_180 0 19 (dk_at dksX16_reads_0 11 rfl rfl)
theorem dX16_reads_14 : decode cX16_reads 14 = .ok (.aload_n 0, 1) := dk_42 (dk_at dksX16_reads_0 14 rfl rfl)
theorem dX16_reads_15 : decode cX16_reads 15 = .ok (.getfield 23, 3) := dk_180 0 23 (dk_at dksX16_reads_0 15 rfl rfl)
theorem dX16_reads_18 : decode cX16_reads 18 = .ok (.if_icmp .ge 8, 3) := dk_162 0 8 (dk_at dksX16_reads_0 18 rfl rfl)
theorem dX16_reads_21 : decode cX16_reads 21 = .ok (.aload_n 0, 1) := dk_42 (dk_at dksX16_reads_0 21 rfl rfl)
theorem dX16_reads_22 : decode cX16_reads 22 = .ok (.invokevirtual 26, 3) := dk_182 0 26 (dk_at dksX16_reads_1 0 rfl rfl)
theorem dX16_reads_25 : decode cX16_reads 25 = .ok (.athrow, 1) := dk_191 (dk_at dksX16_reads_1 3 rfl rfl)
theorem dX16_reads_26 : decode cX16_reads 26 = .ok (.aload_n 1, 1) := dk_43 (dk_at dksX16_reads_1 4 rfl rfl)
theorem dX16_reads_27 : decode cX16_reads 27 = .ok (.areturn, 1) := dk_176 (dk_at dksX16_reads_1 5 rfl rfl)
abbrev cX16_sum : ByteArray := prog_11_method_3_code
def yX16_sum : MethodName := ⟨RX16, "sum", "()LDimpleWells$Term;"⟩
def dkwX16_sum_3 : List UInt8 := [89, 43, 45, 183, 0, 40, 76, 167, 255, 182, 43, 176]
abbrev dktX16_sum_3 : List UInt8 := dkwX16_sum_3 ++ []
def dkwX16_sum_2 : List UInt8 := [42, 182, 0, 30, 78, 28, 153, 0, 15, 187, 0, 33, 89, 43, 45, 183, 0, 35, 167, 0, 12, 187, 0, 38]
abbrev dktX16_sum_2 : List UInt8 := dkwX16_sum_2 ++ dktX16_sum_3
def dkwX16_sum_1 : List UInt8 := [182, 0, 15, 16, 43, 160, 0, 7, 4, 167, 0, 4, 3, 61, 42, 89, 180, 0, 19, 4, 96, 181, 0, 19]
abbrev dktX16_sum_1 : List UInt8 := dkwX16_sum_1 ++ dktX16_sum_2
def dkwX16_sum_0 : List UInt8 := [42, 182, 0, 30, 76, 42, 182, 0, 15, 16, 43, 159, 0, 12, 42, 182, 0, 15, 16, 45, 160, 0, 62, 42]
abbrev dktX16_sum_0 : List UInt8 := dkwX16_sum_0 ++ dktX16_sum_1
theorem dksX16_sum_0 : cX16_sum.data.toList.drop 0 = dktX16_sum_0 := by decide +kernel
theorem dksX16_sum_1 : cX16_sum.data.toList.drop 24 = dktX16_sum_1 := dk_seg dksX16_sum_0 24 rfl rfl
theorem dksX16_sum_2 : cX16_sum.data.toList.drop 48 = dktX16_sum_2 := dk_seg dksX16_sum_1 24 rfl rfl
theorem dksX16_sum_3 : cX16_sum.data.toList.drop 72 = dktX16_sum_3 := dk_seg dksX16_sum_2 24 rfl rfl
theorem dX16_sum_0 : decode cX16_sum 0 = .ok (.aload_n 0, 1) := dk_42 (dk_at dksX16_sum_0 0 rfl rfl)
theorem dX16_sum_1 : decode cX16_sum 1 = .ok (.invokevirtual 30, 3) := dk_182 0 30 (dk_at dksX16_sum_0 1 rfl rfl)
theorem dX16_sum_4 : decode cX16_sum 4 = .ok (.astore_n 1, 1) := dk_76 (dk_at dksX16_sum_0 4 rfl rfl)
theorem dX16_sum_5 : decode cX16_sum 5 = .ok (.aload_n 0, 1) := dk_42 (dk_at dksX16_sum_0 5 rfl rfl)
theorem dX16_sum_6 : decode cX16_sum 6 = .ok (.invokevirtual 15, 3) := dk_182 0 15 (dk_at dksX16_sum_0 6 rfl rfl)
theorem dX16_sum_9 : decode cX16_sum 9 = .ok (.bipush 43, 2) := dk_16 43 (dk_at dksX16_sum_0 9 rfl rfl)
theorem dX16_sum_11 : decode cX16_sum 11 = .ok (.if_icmp .eq 12, 3) := dk_159 0 12 (dk_at dksX16_sum_0 11 rfl rfl)
theorem dX16_sum_14 : decode cX16_sum 14 = .ok (.aload_n 0, 1) := dk_42 (dk_at dksX16_sum_0 14 rfl rfl)
theorem dX16_sum_15 : decode cX16_sum 15 = .ok (.invokevirtual 15, 3) := dk_182 0 15 (dk_at dksX16_sum_0 15 rfl rfl)
theorem dX16_sum_18 : decode cX16_sum 18 = .ok (.bipush 45, 2) := dk_16 45 (dk_at dksX16_sum_0 18 rfl rfl)
theorem dX16_sum_20 : decode cX16_sum 20 = .ok (.if_icmp .ne 62, 3) := dk_160 0 62 (dk_at dksX16_sum_0 20 rfl rfl)
theorem dX16_sum_23 : decode cX16_sum 23 = .ok (.aload_n 0, 1) := dk_42 (dk_at dksX16_sum_0 23 rfl rfl)
theorem dX16_sum_24 : decode cX16_sum 24 = .ok (.invokevirtual 15, 3) := dk_182 0 15 (dk_at dksX16_sum_1 0 rfl rfl)
theorem dX16_sum_27 : decode cX16_sum 27 = .ok (.bipush 43, 2) := dk_16 43 (dk_at dksX16_sum_1 3 rfl rfl)
theorem dX16_sum_29 : decode cX16_sum 29 = .ok (.if_icmp .ne 7, 3) := dk_160 0 7 (dk_at dksX16_sum_1 5 rfl rfl)
theorem dX16_sum_32 : decode cX16_sum 32 = .ok (.iconst 1, 1) := dk_4 (dk_at dksX16_sum_1 8 rfl rfl)
theorem dX16_sum_33 : decode cX16_sum 33 = .ok (.goto 4, 3) := dk_167 0 4 (dk_at dksX16_sum_1 9 rfl rfl)
theorem dX16_sum_36 : decode cX16_sum 36 = .ok (.iconst 0, 1) := dk_3 (dk_at dksX16_sum_1 12 rfl rfl)
theorem dX16_sum_37 : decode cX16_sum 37 = .ok (.istore_n 2, 1) := dk_61 (dk_at dksX16_sum_1 13 rfl rfl)
theorem dX16_sum_38 : decode cX16_sum 38 = .ok (.aload_n 0, 1) := dk_42 (dk_at dksX16_sum_1 14 rfl rfl)
theorem dX16_sum_39 : decode cX16_sum 39 = .ok (.dup, 1) := dk_89 (dk_at dksX16_sum_1 15 rfl rfl)
theorem dX16_sum_40 : decode cX16_sum 40 = .ok (.getfield 19, 3) := dk_180 0 19 (dk_at dksX16_sum_1 16 rfl rfl)
theorem dX16_sum_43 : decode cX16_sum 43 = .ok (.iconst 1, 1) := dk_4 (dk_at dksX16_sum_1 19 rfl rfl)
theorem dX16_sum_44 : decode cX16_sum 44 = .ok (.iadd, 1) := dk_96 (dk_at dksX16_sum_1 20 rfl rfl)
theorem dX16_sum_45 : decode cX16_sum 45 = .ok (.putfield 19, 3) := dk_181 0 19 (dk_at dksX16_sum_1 21 rfl rfl)
theorem dX16_sum_48 : decode cX16_sum 48 = .ok (.aload_n 0, 1) := dk_42 (dk_at dksX16_sum_2 0 rfl rfl)
theorem dX16_sum_49 : decode cX16_sum 49 = .ok (.invokevirtual 30, 3) := dk_182 0 30 (dk_at dksX16_sum_2 1 rfl rfl)
theorem dX16_sum_52 : decode cX16_sum 52 = .ok (.astore_n 3, 1) := dk_78 (dk_at dksX16_sum_2 4 rfl rfl)
theorem dX16_sum_53 : decode cX16_sum 53 = .ok (.iload_n 2, 1) := dk_28 (dk_at dksX16_sum_2 5 rfl rfl)
theorem dX16_sum_54 : decode cX16_sum 54 = .ok (.ifCond .eq 15, 3) := dk_153 0 15 (dk_at dksX16_sum_2 6 rfl rfl)
theorem dX16_sum_57 : decode cX16_sum 57 = .ok (.new 33, 3) := dk_187 0 33 (dk_at dksX16_sum_2 9 rfl rfl)
theorem dX16_sum_60 : decode cX16_sum 60 = .ok (.dup, 1) := dk_89 (dk_at dksX16_sum_2 12 rfl rfl)
theorem dX16_sum_61 : decode cX16_sum 61 = .ok (.aload_n 1, 1) := dk_43 (dk_at dksX16_sum_2 13 rfl rfl)
theorem dX16_sum_62 : decode cX16_sum 62 = .ok (.aload_n 3, 1) := dk_45 (dk_at dksX16_sum_2 14 rfl rfl)
theorem dX16_sum_63 : decode cX16_sum 63 = .ok (.invokespecial 35, 3) := dk_183 0 35 (dk_at dksX16_sum_2 15 rfl rfl)
theorem dX16_sum_66 : decode cX16_sum 66 = .ok (.goto 12, 3) := dk_167 0 12 (dk_at dksX16_sum_2 18 rfl rfl)
theorem dX16_sum_69 : decode cX16_sum 69 = .ok (.new 38, 3) := dk_187 0 38 (dk_at dksX16_sum_2 21 rfl rfl)
theorem dX16_sum_72 : decode cX16_sum 72 = .ok (.dup, 1) := dk_89 (dk_at dksX16_sum_3 0 rfl rfl)
theorem dX16_sum_73 : decode cX16_sum 73 = .ok (.aload_n 1, 1) := dk_43 (dk_at dksX16_sum_3 1 rfl rfl)
theorem dX16_sum_74 : decode cX16_sum 74 = .ok (.aload_n 3, 1) := dk_45 (dk_at dksX16_sum_3 2 rfl rfl)
theorem dX16_sum_75 : decode cX16_sum 75 = .ok (.invokespecial 40, 3) := dk_183 0 40 (dk_at dksX16_sum_3 3 rfl rfl)
theorem dX16_sum_78 : decode cX16_sum 78 = .ok (.astore_n 1, 1) := dk_76 (dk_at dksX16_sum_3 6 rfl rfl)
theorem dX16_sum_79 : decode cX16_sum 79 = .ok (.goto (-74), 3) := dk_167 255 182 (dk_at dksX16_sum_3 7 rfl rfl)
theorem dX16_sum_82 : decode cX16_sum 82 = .ok (.aload_n 1, 1) := dk_43 (dk_at dksX16_sum_3 10 rfl rfl)
theorem dX16_sum_83 : decode cX16_sum 83 = .ok (.areturn, 1) := dk_176 (dk_at dksX16_sum_3 11 rfl rfl)
abbrev cX16_product : ByteArray := prog_11_method_4_code
def yX16_product : MethodName := ⟨RX16, "product", "()LDimpleWells$Term;"⟩
def dkwX16_product_4 : List UInt8 := [183, 0, 52, 76, 167, 255, 163, 43, 176]
abbrev dktX16_product_4 : List UInt8 := dkwX16_product_4 ++ []
def dkwX16_product_3 : List UInt8 := [16, 47, 160, 0, 15, 187, 0, 47, 89, 43, 45, 183, 0, 49, 167, 0, 12, 187, 0, 50, 89, 43, 45]
abbrev dktX16_product_3 : List UInt8 := dkwX16_product_3 ++ dktX16_product_4
def dkwX16_product_2 : List UInt8 := [182, 0, 41, 78, 28, 16, 42, 160, 0, 15, 187, 0, 44, 89, 43, 45, 183, 0, 46, 167, 0, 30, 28]
abbrev dktX16_product_2 : List UInt8 := dkwX16_product_2 ++ dktX16_product_3
def dkwX16_product_1 : List UInt8 := [182, 0, 15, 16, 37, 160, 0, 72, 42, 182, 0, 15, 61, 42, 89, 180, 0, 19, 4, 96, 181, 0, 19, 42]
abbrev dktX16_product_1 : List UInt8 := dkwX16_product_1 ++ dktX16_product_2
def dkwX16_product_0 : List UInt8 := [42, 182, 0, 41, 76, 42, 182, 0, 15, 16, 42, 159, 0, 21, 42, 182, 0, 15, 16, 47, 159, 0, 12, 42]
abbrev dktX16_product_0 : List UInt8 := dkwX16_product_0 ++ dktX16_product_1
theorem dksX16_product_0 : cX16_product.data.toList.drop 0 = dktX16_product_0 := by decide +kernel
theorem dksX16_product_1 : cX16_product.data.toList.drop 24 = dktX16_product_1 := dk_seg dksX16_product_0 24 rfl rfl
theorem dksX16_product_2 : cX16_product.data.toList.drop 48 = dktX16_product_2 := dk_seg dksX16_product_1 24 rfl rfl
theorem dksX16_product_3 : cX16_product.data.toList.drop 71 = dktX16_product_3 := dk_seg dksX16_product_2 23 rfl rfl
theorem dksX16_product_4 : cX16_product.data.toList.drop 94 = dktX16_product_4 := dk_seg dksX16_product_3 23 rfl rfl
theorem dX16_product_0 : decode cX16_product 0 = .ok (.aload_n 0, 1) := dk_42 (dk_at dksX16_product_0 0 rfl rfl)
theorem dX16_product_1 : decode cX16_product 1 = .ok (.invokevirtual 41, 3) := dk_182 0 41 (dk_at dksX16_product_0 1 rfl rfl)
theorem dX16_product_4 : decode cX16_product 4 = .ok (.astore_n 1, 1) := dk_76 (dk_at dksX16_product_0 4 rfl rfl)
theorem dX16_product_5 : decode cX16_product 5 = .ok (.aload_n 0, 1) := dk_42 (dk_at dksX16_product_0 5 rfl rfl)
theorem dX16_product_6 : decode cX16_product 6 = .ok (.invokevirtual 15, 3) := dk_182 0 15 (dk_at dksX16_product_0 6 rfl rfl)
theorem dX16_product_9 : decode cX16_product 9 = .ok (.bipush 42, 2) := dk_16 42 (dk_at dksX16_product_0 9 rfl rfl)
theorem dX16_product_11 : decode cX16_product 11 = .ok (.if_icmp .eq 21, 3) := dk_159 0 21 (dk_at dksX16_product_0 11 rfl rfl)
theorem dX16_product_14 : decode cX16_product 14 = .ok (.aload_n 0, 1) := dk_42 (dk_at dksX16_product_0 14 rfl rfl)
theorem dX16_product_15 : decode cX16_product 15 = .ok (.invokevirtual 15, 3) := dk_182 0 15 (dk_at dksX16_product_0 15 rfl rfl)
theorem dX16_product_18 : decode cX16_product 18 = .ok (.bipush 47, 2) := dk_16 47 (dk_at dksX16_product_0 18 rfl rfl)
theorem dX16_product_20 : decode cX16_product 20 = .ok (.if_icmp .eq 12, 3) := dk_159 0 12 (dk_at dksX16_product_0 20 rfl rfl)
theorem dX16_product_23 : decode cX16_product 23 = .ok (.aload_n 0, 1) := dk_42 (dk_at dksX16_product_0 23 rfl rfl)
theorem dX16_product_24 : decode cX16_product 24 = .ok (.invokevirtual 15, 3) := dk_182 0 15 (dk_at dksX16_product_1 0 rfl rfl)
theorem dX16_product_27 : decode cX16_product 27 = .ok (.bipush 37, 2) := dk_16 37 (dk_at dksX16_product_1 3 rfl rfl)
theorem dX16_product_29 : decode cX16_product 29 = .ok (.if_icmp .ne 72, 3) := dk_160 0 72 (dk_at dksX16_product_1 5 rfl rfl)
theorem dX16_product_32 : decode cX16_product 32 = .ok (.aload_n 0, 1) := dk_42 (dk_at dksX16_product_1 8 rfl rfl)
theorem dX16_product_33 : decode cX16_product 33 = .ok (.invokevirtual 15, 3) := dk_182 0 15 (dk_at dksX16_product_1 9 rfl rfl)
theorem dX16_product_36 : decode cX16_product 36 = .ok (.istore_n 2, 1) := dk_61 (dk_at dksX16_product_1 12 rfl rfl)
theorem dX16_product_37 : decode cX16_product 37 = .ok (.aload_n 0, 1) := dk_42 (dk_at dksX16_product_1 13 rfl rfl)
theorem dX16_product_38 : decode cX16_product 38 = .ok (.dup, 1) := dk_89 (dk_at dksX16_product_1 14 rfl rfl)
theorem dX16_product_39 : decode cX16_product 39 = .ok (.getfield 19, 3) := dk_180 0 19 (dk_at dksX16_product_1 15 rfl rfl)
theorem dX16_product_42 : decode cX16_product 42 = .ok (.iconst 1, 1) := dk_4 (dk_at dksX16_product_1 18 rfl rfl)
theorem dX16_product_43 : decode cX16_product 43 = .ok (.iadd, 1) := dk_96 (dk_at dksX16_product_1 19 rfl rfl)
theorem dX16_product_44 : decode cX16_product 44 = .ok (.putfield 19, 3) := dk_181 0 19 (dk_at dksX16_product_1 20 rfl rfl)
theorem dX16_product_47 : decode cX16_product 47 = .ok (.aload_n 0, 1) := dk_42 (dk_at dksX16_product_1 23 rfl rfl)
theorem dX16_product_48 : decode cX16_product 48 = .ok (.invokevirtual 41, 3) := dk_182 0 41 (dk_at dksX16_product_2 0 rfl rfl)
theorem dX16_product_51 : decode cX16_product 51 = .ok (.astore_n 3, 1) := dk_78 (dk_at dksX16_product_2 3 rfl rfl)
theorem dX16_product_52 : decode cX16_product 52 = .ok (.iload_n 2, 1) := dk_28 (dk_at dksX16_product_2 4 rfl rfl)
theorem dX16_product_53 : decode cX16_product 53 = .ok (.bipush 42, 2) := dk_16 42 (dk_at dksX16_product_2 5 rfl rfl)
theorem dX16_product_55 : decode cX16_product 55 = .ok (.if_icmp .ne 15, 3) := dk_160 0 15 (dk_at dksX16_product_2 7 rfl rfl)
theorem dX16_product_58 : decode cX16_product 58 = .ok (.new 44, 3) := dk_187 0 44 (dk_at dksX16_product_2 10 rfl rfl)
theorem dX16_product_61 : decode cX16_product 61 = .ok (.dup, 1) := dk_89 (dk_at dksX16_product_2 13 rfl rfl)
theorem dX16_product_62 : decode cX16_product 62 = .ok (.aload_n 1, 1) := dk_43 (dk_at dksX16_product_2 14 rfl rfl)
theorem dX16_product_63 : decode cX16_product 63 = .ok (.aload_n 3, 1) := dk_45 (dk_at dksX16_product_2 15 rfl rfl)
theorem dX16_product_64 : decode cX16_product 64 = .ok (.invokespecial 46, 3) := dk_183 0 46 (dk_at dksX16_product_2 16 rfl rfl)
theorem dX16_product_67 : decode cX16_product 67 = .ok (.goto 30, 3) := dk_167 0 30 (dk_at dksX16_product_2 19 rfl rfl)
theorem dX16_product_70 : decode cX16_product 70 = .ok (.iload_n 2, 1) := dk_28 (dk_at dksX16_product_2 22 rfl rfl)
theorem dX16_product_71 : decode cX16_product 71 = .ok (.bipush 47, 2) := dk_16 47 (dk_at dksX16_product_3 0 rfl rfl)
theorem dX16_product_73 : decode cX16_product 73 = .ok (.if_icmp .ne 15, 3) := dk_160 0 15 (dk_at dksX16_product_3 2 rfl rfl)
theorem dX16_product_76 : decode cX16_product 76 = .ok (.new 47, 3) := dk_187 0 47 (dk_at dksX16_product_3 5 rfl rfl)
theorem dX16_product_79 : decode cX16_product 79 = .ok (.dup, 1) := dk_89 (dk_at dksX16_product_3 8 rfl rfl)
theorem dX16_product_80 : decode cX16_product 80 = .ok (.aload_n 1, 1) := dk_43 (dk_at dksX16_product_3 9 rfl rfl)
theorem dX16_product_81 : decode cX16_product 81 = .ok (.aload_n 3, 1) := dk_45 (dk_at dksX16_product_3 10 rfl rfl)
theorem dX16_product_82 : decode cX16_product 82 = .ok (.invokespecial 49, 3) := dk_183 0 49 (dk_at dksX16_product_3 11 rfl rfl)
theorem dX16_product_85 : decode cX16_product 85 = .ok (.goto 12, 3) := dk_167 0 12 (dk_at dksX16_product_3 14 rfl rfl)
theorem dX16_product_88 : decode cX16_product 88 = .ok (.new 50, 3) := dk_187 0 50 (dk_at dksX16_product_3 17 rfl rfl)
theorem dX16_product_91 : decode cX16_product 91 = .ok (.dup, 1) := dk_89 (dk_at dksX16_product_3 20 rfl rfl)
theorem dX16_product_92 : decode cX16_product 92 = .ok (.aload_n 1, 1) := dk_43 (dk_at dksX16_product_3 21 rfl rfl)
theorem dX16_product_93 : decode cX16_product 93 = .ok (.aload_n 3, 1) := dk_45 (dk_at dksX16_product_3 22 rfl rfl)
theorem dX16_product_94 : decode cX16_product 94 = .ok (.invokespecial 52, 3) := dk_183 0 52 (dk_at dksX16_product_4 0 rfl rfl)
theorem dX16_product_97 : decode cX16_product 97 = .ok (.astore_n 1, 1) := dk_76 (dk_at dksX16_product_4 3 rfl rfl)
theorem dX16_product_98 : decode cX16_product 98 = .ok (.goto (-93), 3) := dk_167 255 163 (dk_at dksX16_product_4 4 rfl rfl)
theorem dX16_product_101 : decode cX16_product 101 = .ok (.aload_n 1, 1) := dk_43 (dk_at dksX16_product_4 7 rfl rfl)
theorem dX16_product_102 : decode cX16_product 102 = .ok (.areturn, 1) := dk_176 (dk_at dksX16_product_4 8 rfl rfl)
abbrev cX16_unit : ByteArray := prog_11_method_5_code
def yX16_unit : MethodName := ⟨RX16, "unit", "()LDimpleWells$Term;"⟩
def dkwX16_unit_17 : List UInt8 := [182, 0, 108, 176, 42, 44, 182, 0, 112, 176, 42, 182, 0, 26, 191]
abbrev dktX16_unit_17 : List UInt8 := dkwX16_unit_17 ++ []
def dkwX16_unit_16 : List UInt8 := [182, 0, 108, 176, 42, 44, 16, 7, 182, 0, 108, 176, 42, 44, 16, 8, 182, 0, 108, 176, 42, 44, 16, 9]
abbrev dktX16_unit_16 : List UInt8 := dkwX16_unit_16 ++ dktX16_unit_17
def dkwX16_unit_15 : List UInt8 := [182, 0, 108, 176, 42, 44, 7, 182, 0, 108, 176, 42, 44, 8, 182, 0, 108, 176, 42, 44, 16, 6]
abbrev dktX16_unit_15 : List UInt8 := dkwX16_unit_15 ++ dktX16_unit_16
def dkwX16_unit_14 : List UInt8 := [42, 44, 3, 182, 0, 108, 176, 42, 44, 4, 182, 0, 108, 176, 42, 44, 5, 182, 0, 108, 176, 42, 44, 6]
abbrev dktX16_unit_14 : List UInt8 := dkwX16_unit_14 ++ dktX16_unit_15
def dkwX16_unit_13 : List UInt8 := [170, 0, 0, 0, 0, 0, 143, 0, 0, 0, 0, 0, 0, 0, 11, 0, 0, 0, 63, 0, 0, 0, 70, 0, 0, 0, 77, 0, 0, 0, 84, 0, 0, 0, 91, 0, 0, 0, 98, 0, 0, 0, 105, 0, 0, 0, 113, 0, 0, 0, 121, 0, 0, 0, 129, 0, 0, 0, 137, 0, 0, 0, 137]
abbrev dktX16_unit_13 : List UInt8 := dkwX16_unit_13 ++ dktX16_unit_14
def dkwX16_unit_12 : List UInt8 := [54, 4, 167, 0, 16, 45, 18, 106, 182, 0, 82, 153, 0, 7, 16, 11, 54, 4, 21, 4]
abbrev dktX16_unit_12 : List UInt8 := dkwX16_unit_12 ++ dktX16_unit_13
def dkwX16_unit_11 : List UInt8 := [182, 0, 82, 153, 0, 39, 16, 9, 54, 4, 167, 0, 32, 45, 18, 104, 182, 0, 82, 153, 0, 23, 16, 10]
abbrev dktX16_unit_11 : List UInt8 := dkwX16_unit_11 ++ dktX16_unit_12
def dkwX16_unit_10 : List UInt8 := [167, 0, 64, 45, 18, 100, 182, 0, 82, 153, 0, 55, 16, 8, 54, 4, 167, 0, 48, 45, 18, 102]
abbrev dktX16_unit_10 : List UInt8 := dkwX16_unit_10 ++ dktX16_unit_11
def dkwX16_unit_9 : List UInt8 := [153, 0, 87, 16, 6, 54, 4, 167, 0, 80, 45, 18, 98, 182, 0, 82, 153, 0, 71, 16, 7, 54, 4]
abbrev dktX16_unit_9 : List UInt8 := dkwX16_unit_9 ++ dktX16_unit_10
def dkwX16_unit_8 : List UInt8 := [167, 0, 111, 45, 18, 94, 182, 0, 82, 153, 0, 102, 8, 54, 4, 167, 0, 96, 45, 18, 96, 182, 0, 82]
abbrev dktX16_unit_8 : List UInt8 := dkwX16_unit_8 ++ dktX16_unit_9
def dkwX16_unit_7 : List UInt8 := [182, 0, 82, 153, 0, 132, 6, 54, 4, 167, 0, 126, 45, 18, 92, 182, 0, 82, 153, 0, 117, 7, 54, 4]
abbrev dktX16_unit_7 : List UInt8 := dkwX16_unit_7 ++ dktX16_unit_8
def dkwX16_unit_6 : List UInt8 := [4, 54, 4, 167, 0, 156, 45, 18, 88, 182, 0, 82, 153, 0, 147, 5, 54, 4, 167, 0, 141, 45, 18, 90]
abbrev dktX16_unit_6 : List UInt8 := dkwX16_unit_6 ++ dktX16_unit_7
def dkwX16_unit_5 : List UInt8 := [45, 18, 80, 182, 0, 82, 153, 0, 177, 3, 54, 4, 167, 0, 171, 45, 18, 86, 182, 0, 82, 153, 0, 162]
abbrev dktX16_unit_5 : List UInt8 := dkwX16_unit_5 ++ dktX16_unit_6
def dkwX16_unit_4 : List UInt8 := [171, 0, 0, 0, 0, 1, 34, 0, 0, 0, 12, 196, 227, 155, 85, 0, 0, 0, 245, 202, 213, 118, 151, 0, 0, 0, 107, 203, 221, 41, 190, 0, 0, 0, 213, 0, 1, 131, 156, 0, 0, 0, 229, 0, 51, 59, 131, 0, 0, 1, 21, 0, 51, 136, 40, 0, 0, 0, 197, 0, 54, 105, 51, 0, 0, 0, 152, 0, 55, 199, 20, 0, 0, 0, 137, 5, 139, 75, 212, 0, 0, 0, 122, 5, 224, 221, 255, 0, 0, 0, 182, 6, 33, 78, 105, 0, 0, 1, 5, 99, 80, 140, 50, 0, 0, 0, 167]
abbrev dktX16_unit_4 : List UInt8 := dkwX16_unit_4 ++ dktX16_unit_5
def dkwX16_unit_3 : List UInt8 := [44, 78, 2, 54, 4, 45, 182, 0, 75]
abbrev dktX16_unit_3 : List UInt8 := dkwX16_unit_3 ++ dktX16_unit_4
def dkwX16_unit_2 : List UInt8 := [163, 0, 19, 187, 0, 63, 89, 42, 3, 17, 3, 231, 182, 0, 65, 183, 0, 69, 176, 42, 182, 0, 71, 77]
abbrev dktX16_unit_2 : List UInt8 := dkwX16_unit_2 ++ dktX16_unit_3
def dkwX16_unit_1 : List UInt8 := [182, 0, 57, 42, 89, 180, 0, 60, 4, 100, 181, 0, 60, 44, 176, 27, 16, 48, 161, 0, 25, 27, 16, 57]
abbrev dktX16_unit_1 : List UInt8 := dkwX16_unit_1 ++ dktX16_unit_2
def dkwX16_unit_0 : List UInt8 := [42, 182, 0, 15, 60, 27, 16, 40, 160, 0, 31, 42, 4, 182, 0, 53, 42, 182, 0, 9, 77, 42, 16, 41]
abbrev dktX16_unit_0 : List UInt8 := dkwX16_unit_0 ++ dktX16_unit_1
theorem dksX16_unit_0 : cX16_unit.data.toList.drop 0 = dktX16_unit_0 := by decide +kernel
theorem dksX16_unit_1 : cX16_unit.data.toList.drop 24 = dktX16_unit_1 := dk_seg dksX16_unit_0 24 rfl rfl
theorem dksX16_unit_2 : cX16_unit.data.toList.drop 48 = dktX16_unit_2 := dk_seg dksX16_unit_1 24 rfl rfl
theorem dksX16_unit_3 : cX16_unit.data.toList.drop 72 = dktX16_unit_3 := dk_seg dksX16_unit_2 24 rfl rfl
theorem dksX16_unit_4 : cX16_unit.data.toList.drop 81 = dktX16_unit_4 := dk_seg dksX16_unit_3 9 rfl rfl
theorem dksX16_unit_5 : cX16_unit.data.toList.drop 188 = dktX16_unit_5 := dk_seg dksX16_unit_4 107 rfl rfl
theorem dksX16_unit_6 : cX16_unit.data.toList.drop 212 = dktX16_unit_6 := dk_seg dksX16_unit_5 24 rfl rfl
theorem dksX16_unit_7 : cX16_unit.data.toList.drop 236 = dktX16_unit_7 := dk_seg dksX16_unit_6 24 rfl rfl
theorem dksX16_unit_8 : cX16_unit.data.toList.drop 260 = dktX16_unit_8 := dk_seg dksX16_unit_7 24 rfl rfl
theorem dksX16_unit_9 : cX16_unit.data.toList.drop 284 = dktX16_unit_9 := dk_seg dksX16_unit_8 24 rfl rfl
theorem dksX16_unit_10 : cX16_unit.data.toList.drop 307 = dktX16_unit_10 := dk_seg dksX16_unit_9 23 rfl rfl
theorem dksX16_unit_11 : cX16_unit.data.toList.drop 329 = dktX16_unit_11 := dk_seg dksX16_unit_10 22 rfl rfl
theorem dksX16_unit_12 : cX16_unit.data.toList.drop 353 = dktX16_unit_12 := dk_seg dksX16_unit_11 24 rfl rfl
theorem dksX16_unit_13 : cX16_unit.data.toList.drop 373 = dktX16_unit_13 := dk_seg dksX16_unit_12 20 rfl rfl
theorem dksX16_unit_14 : cX16_unit.data.toList.drop 436 = dktX16_unit_14 := dk_seg dksX16_unit_13 63 rfl rfl
theorem dksX16_unit_15 : cX16_unit.data.toList.drop 460 = dktX16_unit_15 := dk_seg dksX16_unit_14 24 rfl rfl
theorem dksX16_unit_16 : cX16_unit.data.toList.drop 482 = dktX16_unit_16 := dk_seg dksX16_unit_15 22 rfl rfl
theorem dksX16_unit_17 : cX16_unit.data.toList.drop 506 = dktX16_unit_17 := dk_seg dksX16_unit_16 24 rfl rfl
theorem dX16_unit_0 : decode cX16_unit 0 = .ok (.aload_n 0, 1) := dk_42 (dk_at dksX16_unit_0 0 rfl rfl)
theorem dX16_unit_1 : decode cX16_unit 1 = .ok (.invokevirtual 15, 3) := dk_182 0 15 (dk_at dksX16_unit_0 1 rfl rfl)
theorem dX16_unit_4 : decode cX16_unit 4 = .ok (.istore_n 1, 1) := dk_60 (dk_at dksX16_unit_0 4 rfl rfl)
theorem dX16_unit_5 : decode cX16_unit 5 = .ok (.iload_n 1, 1) := dk_27 (dk_at dksX16_unit_0 5 rfl rfl)
theorem dX16_unit_6 : decode cX16_unit 6 = .ok (.bipush 40, 2) := dk_16 40 (dk_at dksX16_unit_0 6 rfl rfl)
theorem dX16_unit_8 : decode cX16_unit 8 = .ok (.if_icmp .ne 31, 3) := dk_160 0 31 (dk_at dksX16_unit_0 8 rfl rfl)
theorem dX16_unit_11 : decode cX16_unit 11 = .ok (.aload_n 0, 1) := dk_42 (dk_at dksX16_unit_0 11 rfl rfl)
theorem dX16_unit_12 : decode cX16_unit 12 = .ok (.iconst 1, 1) := dk_4 (dk_at dksX16_unit_0 12 rfl rfl)
theorem dX16_unit_13 : decode cX16_unit 13 = .ok (.invokevirtual 53, 3) := dk_182 0 53 (dk_at dksX16_unit_0 13 rfl rfl)
theorem dX16_unit_16 : decode cX16_unit 16 = .ok (.aload_n 0, 1) := dk_42 (dk_at dksX16_unit_0 16 rfl rfl)
theorem dX16_unit_17 : decode cX16_unit 17 = .ok (.invokevirtual 9, 3) := dk_182 0 9 (dk_at dksX16_unit_0 17 rfl rfl)
theorem dX16_unit_20 : decode cX16_unit 20 = .ok (.astore_n 2, 1) := dk_77 (dk_at dksX16_unit_0 20 rfl rfl)
theorem dX16_unit_21 : decode cX16_unit 21 = .ok (.aload_n 0, 1) := dk_42 (dk_at dksX16_unit_0 21 rfl rfl)
theorem dX16_unit_22 : decode cX16_unit 22 = .ok (.bipush 41, 2) := dk_16 41 (dk_at dksX16_unit_0 22 rfl rfl)
theorem dX16_unit_24 : decode cX16_unit 24 = .ok (.invokevirtual 57, 3) := dk_182 0 57 (dk_at dksX16_unit_1 0 rfl rfl)
theorem dX16_unit_27 : decode cX16_unit 27 = .ok (.aload_n 0, 1) := dk_42 (dk_at dksX16_unit_1 3 rfl rfl)
theorem dX16_unit_28 : decode cX16_unit 28 = .ok (.dup, 1) := dk_89 (dk_at dksX16_unit_1 4 rfl rfl)
theorem dX16_unit_29 : decode cX16_unit 29 = .ok (.getfield 60, 3) := dk_180 0 60 (dk_at dksX16_unit_1 5 rfl rfl)
theorem dX16_unit_32 : decode cX16_unit 32 = .ok (.iconst 1, 1) := dk_4 (dk_at dksX16_unit_1 8 rfl rfl)
theorem dX16_unit_33 : decode cX16_unit 33 = .ok (.isub, 1) := dk_100 (dk_at dksX16_unit_1 9 rfl rfl)
theorem dX16_unit_34 : decode cX16_unit 34 = .ok (.putfield 60, 3) := dk_181 0 60 (dk_at dksX16_unit_1 10 rfl rfl)
theorem dX16_unit_37 : decode cX16_unit 37 = .ok (.aload_n 2, 1) := dk_44 (dk_at dksX16_unit_1 13 rfl rfl)
theorem dX16_unit_38 : decode cX16_unit 38 = .ok (.areturn, 1) := dk_176 (dk_at dksX16_unit_1 14 rfl rfl)
theorem dX16_unit_39 : decode cX16_unit 39 = .ok (.iload_n 1, 1) := dk_27 (dk_at dksX16_unit_1 15 rfl rfl)
theorem dX16_unit_40 : decode cX16_unit 40 = .ok (.bipush 48, 2) := dk_16 48 (dk_at dksX16_unit_1 16 rfl rfl)
theorem dX16_unit_42 : decode cX16_unit 42 = .ok (.if_icmp .lt 25, 3) := dk_161 0 25 (dk_at dksX16_unit_1 18 rfl rfl)
theorem dX16_unit_45 : decode cX16_unit 45 = .ok (.iload_n 1, 1) := dk_27 (dk_at dksX16_unit_1 21 rfl rfl)
theorem dX16_unit_46 : decode cX16_unit 46 = .ok (.bipush 57, 2) := dk_16 57 (dk_at dksX16_unit_1 22 rfl rfl)
theorem dX16_unit_48 : decode cX16_unit 48 = .ok (.if_icmp .gt 19, 3) := dk_163 0 19 (dk_at dksX16_unit_2 0 rfl rfl)
theorem dX16_unit_51 : decode cX16_unit 51 = .ok (.new 63, 3) := dk_187 0 63 (dk_at dksX16_unit_2 3 rfl rfl)
theorem dX16_unit_54 : decode cX16_unit 54 = .ok (.dup, 1) := dk_89 (dk_at dksX16_unit_2 6 rfl rfl)
theorem dX16_unit_55 : decode cX16_unit 55 = .ok (.aload_n 0, 1) := dk_42 (dk_at dksX16_unit_2 7 rfl rfl)
theorem dX16_unit_56 : decode cX16_unit 56 = .ok (.iconst 0, 1) := dk_3 (dk_at dksX16_unit_2 8 rfl rfl)
theorem dX16_unit_57 : decode cX16_unit 57 = .ok (.sipush 999, 3) := dk_17 3 231 (dk_at dksX16_unit_2 9 rfl rfl)
theorem dX16_unit_60 : decode cX16_unit 60 = .ok (.invokevirtual 65, 3) := dk_182 0 65 (dk_at dksX16_unit_2 12 rfl rfl)
theorem dX16_unit_63 : decode cX16_unit 63 = .ok (.invokespecial 69, 3) := dk_183 0 69 (dk_at dksX16_unit_2 15 rfl rfl)
theorem dX16_unit_66 : decode cX16_unit 66 = .ok (.areturn, 1) := dk_176 (dk_at dksX16_unit_2 18 rfl rfl)
theorem dX16_unit_67 : decode cX16_unit 67 = .ok (.aload_n 0, 1) := dk_42 (dk_at dksX16_unit_2 19 rfl rfl)
theorem dX16_unit_68 : decode cX16_unit 68 = .ok (.invokevirtual 71, 3) := dk_182 0 71 (dk_at dksX16_unit_2 20 rfl rfl)
theorem dX16_unit_71 : decode cX16_unit 71 = .ok (.astore_n 2, 1) := dk_77 (dk_at dksX16_unit_2 23 rfl rfl)
theorem dX16_unit_72 : decode cX16_unit 72 = .ok (.aload_n 2, 1) := dk_44 (dk_at dksX16_unit_3 0 rfl rfl)
theorem dX16_unit_73 : decode cX16_unit 73 = .ok (.astore_n 3, 1) := dk_78 (dk_at dksX16_unit_3 1 rfl rfl)
theorem dX16_unit_74 : decode cX16_unit 74 = .ok (.iconst (-1), 1) := dk_2 (dk_at dksX16_unit_3 2 rfl rfl)
theorem dX16_unit_75 : decode cX16_unit 75 = .ok (.istore 4, 2) := dk_54 4 (dk_at dksX16_unit_3 3 rfl rfl)
theorem dX16_unit_77 : decode cX16_unit 77 = .ok (.aload_n 3, 1) := dk_45 (dk_at dksX16_unit_3 5 rfl rfl)
theorem dX16_unit_78 : decode cX16_unit 78 = .ok (.invokevirtual 75, 3) := dk_182 0 75 (dk_at dksX16_unit_3 6 rfl rfl)
theorem dX16_unit_81 : decode cX16_unit 81 = .ok (.lookupswitch 290 #[(-991716523, 245), (-891980137, 107), (-874698306, 213), (99228, 229), (3357571, 277), (3377192, 197), (3565875, 152), (3655444, 137), (93014996, 122), (98622975, 182), (102846057, 261), (1666223154, 167)], 107) := by decide +kernel
theorem dX16_unit_188 : decode cX16_unit 188 = .ok (.aload_n 3, 1) := dk_45 (dk_at dksX16_unit_5 0 rfl rfl)
theorem dX16_unit_189 : decode cX16_unit 189 = .ok (.ldc 80, 2) := dk_18 80 (dk_at dksX16_unit_5 1 rfl rfl)
theorem dX16_unit_191 : decode cX16_unit 191 = .ok (.invokevirtual 82, 3) := dk_182 0 82 (dk_at dksX16_unit_5 3 rfl rfl)
theorem dX16_unit_194 : decode cX16_unit 194 = .ok (.ifCond .eq 177, 3) := dk_153 0 177 (dk_at dksX16_unit_5 6 rfl rfl)
theorem dX16_unit_197 : decode cX16_unit 197 = .ok (.iconst 0, 1) := dk_3 (dk_at dksX16_unit_5 9 rfl rfl)
theorem dX16_unit_198 : decode cX16_unit 198 = .ok (.istore 4, 2) := dk_54 4 (dk_at dksX16_unit_5 10 rfl rfl)
theorem dX16_unit_200 : decode cX16_unit 200 = .ok (.goto 171, 3) := dk_167 0 171 (dk_at dksX16_unit_5 12 rfl rfl)
theorem dX16_unit_203 : decode cX16_unit 203 = .ok (.aload_n 3, 1) := dk_45 (dk_at dksX16_unit_5 15 rfl rfl)
theorem dX16_unit_204 : decode cX16_unit 204 = .ok (.ldc 86, 2) := dk_18 86 (dk_at dksX16_unit_5 16 rfl rfl)
theorem dX16_unit_206 : decode cX16_unit 206 = .ok (.invokevirtual 82, 3) := dk_182 0 82 (dk_at dksX16_unit_5 18 rfl rfl)
theorem dX16_unit_209 : decode cX16_unit 209 = .ok (.ifCond .eq 162, 3) := dk_153 0 162 (dk_at dksX16_unit_5 21 rfl rfl)
theorem dX16_unit_212 : decode cX16_unit 212 = .ok (.iconst 1, 1) := dk_4 (dk_at dksX16_unit_6 0 rfl rfl)
theorem dX16_unit_213 : decode cX16_unit 213 = .ok (.istore 4, 2) := dk_54 4 (dk_at dksX16_unit_6 1 rfl rfl)
theorem dX16_unit_215 : decode cX16_unit 215 = .ok (.goto 156, 3) := dk_167 0 156 (dk_at dksX16_unit_6 3 rfl rfl)
theorem dX16_unit_218 : decode cX16_unit 218 = .ok (.aload_n 3, 1) := dk_45 (dk_at dksX16_unit_6 6 rfl rfl)
theorem dX16_unit_219 : decode cX16_unit 219 = .ok (.ldc 88, 2) := dk_18 88 (dk_at dksX16_unit_6 7 rfl rfl)
theorem dX16_unit_221 : decode cX16_unit 221 = .ok (.invokevirtual 82, 3) := dk_182 0 82 (dk_at dksX16_unit_6 9 rfl rfl)
theorem dX16_unit_224 : decode cX16_unit 224 = .ok (.ifCond .eq 147, 3) := dk_153 0 147 (dk_at dksX16_unit_6 12 rfl rfl)
theorem dX16_unit_227 : decode cX16_unit 227 = .ok (.iconst 2, 1) := dk_5 (dk_at dksX16_unit_6 15 rfl rfl)
theorem dX16_unit_228 : decode cX16_unit 228 = .ok (.istore 4, 2) := dk_54 4 (dk_at dksX16_unit_6 16 rfl rfl)
theorem dX16_unit_230 : decode cX16_unit 230 = .ok (.goto 141, 3) := dk_167 0 141 (dk_at dksX16_unit_6 18 rfl rfl)
theorem dX16_unit_233 : decode cX16_unit 233 = .ok (.aload_n 3, 1) := dk_45 (dk_at dksX16_unit_6 21 rfl rfl)
theorem dX16_unit_234 : decode cX16_unit 234 = .ok (.ldc 90, 2) := dk_18 90 (dk_at dksX16_unit_6 22 rfl rfl)
theorem dX16_unit_236 : decode cX16_unit 236 = .ok (.invokevirtual 82, 3) := dk_182 0 82 (dk_at dksX16_unit_7 0 rfl rfl)
theorem dX16_unit_239 : decode cX16_unit 239 = .ok (.ifCond .eq 132, 3) := dk_153 0 132 (dk_at dksX16_unit_7 3 rfl rfl)
theorem dX16_unit_242 : decode cX16_unit 242 = .ok (.iconst 3, 1) := dk_6 (dk_at dksX16_unit_7 6 rfl rfl)
theorem dX16_unit_243 : decode cX16_unit 243 = .ok (.istore 4, 2) := dk_54 4 (dk_at dksX16_unit_7 7 rfl rfl)
theorem dX16_unit_245 : decode cX16_unit 245 = .ok (.goto 126, 3) := dk_167 0 126 (dk_at dksX16_unit_7 9 rfl rfl)
theorem dX16_unit_248 : decode cX16_unit 248 = .ok (.aload_n 3, 1) := dk_45 (dk_at dksX16_unit_7 12 rfl rfl)
theorem dX16_unit_249 : decode cX16_unit 249 = .ok (.ldc 92, 2) := dk_18 92 (dk_at dksX16_unit_7 13 rfl rfl)
theorem dX16_unit_251 : decode cX16_unit 251 = .ok (.invokevirtual 82, 3) := dk_182 0 82 (dk_at dksX16_unit_7 15 rfl rfl)
theorem dX16_unit_254 : decode cX16_unit 254 = .ok (.ifCond .eq 117, 3) := dk_153 0 117 (dk_at dksX16_unit_7 18 rfl rfl)
theorem dX16_unit_257 : decode cX16_unit 257 = .ok (.iconst 4, 1) := dk_7 (dk_at dksX16_unit_7 21 rfl rfl)
theorem dX16_unit_258 : decode cX16_unit 258 = .ok (.istore 4, 2) := dk_54 4 (dk_at dksX16_unit_7 22 rfl rfl)
theorem dX16_unit_260 : decode cX16_unit 260 = .ok (.goto 111, 3) := dk_167 0 111 (dk_at dksX16_unit_8 0 rfl rfl)
theorem dX16_unit_263 : decode cX16_unit 263 = .ok (.aload_n 3, 1) := dk_45 (dk_at dksX16_unit_8 3 rfl rfl)
theorem dX16_unit_264 : decode cX16_unit 264 = .ok (.ldc 94, 2) := dk_18 94 (dk_at dksX16_unit_8 4 rfl rfl)
theorem dX16_unit_266 : decode cX16_unit 266 = .ok (.invokevirtual 82, 3) := dk_182 0 82 (dk_at dksX16_unit_8 6 rfl rfl)
theorem dX16_unit_269 : decode cX16_unit 269 = .ok (.ifCond .eq 102, 3) := dk_153 0 102 (dk_at dksX16_unit_8 9 rfl rfl)
theorem dX16_unit_272 : decode cX16_unit 272 = .ok (.iconst 5, 1) := dk_8 (dk_at dksX16_unit_8 12 rfl rfl)
theorem dX16_unit_273 : decode cX16_unit 273 = .ok (.istore 4, 2) := dk_54 4 (dk_at dksX16_unit_8 13 rfl rfl)
theorem dX16_unit_275 : decode cX16_unit 275 = .ok (.goto 96, 3) := dk_167 0 96 (dk_at dksX16_unit_8 15 rfl rfl)
theorem dX16_unit_278 : decode cX16_unit 278 = .ok (.aload_n 3, 1) := dk_45 (dk_at dksX16_unit_8 18 rfl rfl)
theorem dX16_unit_279 : decode cX16_unit 279 = .ok (.ldc 96, 2) := dk_18 96 (dk_at dksX16_unit_8 19 rfl rfl)
theorem dX16_unit_281 : decode cX16_unit 281 = .ok (.invokevirtual 82, 3) := dk_182 0 82 (dk_at dksX16_unit_8 21 rfl rfl)
theorem dX16_unit_284 : decode cX16_unit 284 = .ok (.ifCond .eq 87, 3) := dk_153 0 87 (dk_at dksX16_unit_9 0 rfl rfl)
theorem dX16_unit_287 : decode cX16_unit 287 = .ok (.bipush 6, 2) := dk_16 6 (dk_at dksX16_unit_9 3 rfl rfl)
theorem dX16_unit_289 : decode cX16_unit 289 = .ok (.istore 4, 2) := dk_54 4 (dk_at dksX16_unit_9 5 rfl rfl)
theorem dX16_unit_291 : decode cX16_unit 291 = .ok (.goto 80, 3) := dk_167 0 80 (dk_at dksX16_unit_9 7 rfl rfl)
theorem dX16_unit_294 : decode cX16_unit 294 = .ok (.aload_n 3, 1) := dk_45 (dk_at dksX16_unit_9 10 rfl rfl)
theorem dX16_unit_295 : decode cX16_unit 295 = .ok (.ldc 98, 2) := dk_18 98 (dk_at dksX16_unit_9 11 rfl rfl)
theorem dX16_unit_297 : decode cX16_unit 297 = .ok (.invokevirtual 82, 3) := dk_182 0 82 (dk_at dksX16_unit_9 13 rfl rfl)
theorem dX16_unit_300 : decode cX16_unit 300 = .ok (.ifCond .eq 71, 3) := dk_153 0 71 (dk_at dksX16_unit_9 16 rfl rfl)
theorem dX16_unit_303 : decode cX16_unit 303 = .ok (.bipush 7, 2) := dk_16 7 (dk_at dksX16_unit_9 19 rfl rfl)
theorem dX16_unit_305 : decode cX16_unit 305 = .ok (.istore 4, 2) := dk_54 4 (dk_at dksX16_unit_9 21 rfl rfl)
theorem dX16_unit_307 : decode cX16_unit 307 = .ok (.goto 64, 3) := dk_167 0 64 (dk_at dksX16_unit_10 0 rfl rfl)
theorem dX16_unit_310 : decode cX16_unit 310 = .ok (.aload_n 3, 1) := dk_45 (dk_at dksX16_unit_10 3 rfl rfl)
theorem dX16_unit_311 : decode cX16_unit 311 = .ok (.ldc 100, 2) := dk_18 100 (dk_at dksX16_unit_10 4 rfl rfl)
theorem dX16_unit_313 : decode cX16_unit 313 = .ok (.invokevirtual 82, 3) := dk_182 0 82 (dk_at dksX16_unit_10 6 rfl rfl)
theorem dX16_unit_316 : decode cX16_unit 316 = .ok (.ifCond .eq 55, 3) := dk_153 0 55 (dk_at dksX16_unit_10 9 rfl rfl)
theorem dX16_unit_319 : decode cX16_unit 319 = .ok (.bipush 8, 2) := dk_16 8 (dk_at dksX16_unit_10 12 rfl rfl)
theorem dX16_unit_321 : decode cX16_unit 321 = .ok (.istore 4, 2) := dk_54 4 (dk_at dksX16_unit_10 14 rfl rfl)
theorem dX16_unit_323 : decode cX16_unit 323 = .ok (.goto 48, 3) := dk_167 0 48 (dk_at dksX16_unit_10 16 rfl rfl)
theorem dX16_unit_326 : decode cX16_unit 326 = .ok (.aload_n 3, 1) := dk_45 (dk_at dksX16_unit_10 19 rfl rfl)
theorem dX16_unit_327 : decode cX16_unit 327 = .ok (.ldc 102, 2) := dk_18 102 (dk_at dksX16_unit_10 20 rfl rfl)
theorem dX16_unit_329 : decode cX16_unit 329 = .ok (.invokevirtual 82, 3) := dk_182 0 82 (dk_at dksX16_unit_11 0 rfl rfl)
theorem dX16_unit_332 : decode cX16_unit 332 = .ok (.ifCond .eq 39, 3) := dk_153 0 39 (dk_at dksX16_unit_11 3 rfl rfl)
theorem dX16_unit_335 : decode cX16_unit 335 = .ok (.bipush 9, 2) := dk_16 9 (dk_at dksX16_unit_11 6 rfl rfl)
theorem dX16_unit_337 : decode cX16_unit 337 = .ok (.istore 4, 2) := dk_54 4 (dk_at dksX16_unit_11 8 rfl rfl)
theorem dX16_unit_339 : decode cX16_unit 339 = .ok (.goto 32, 3) := dk_167 0 32 (dk_at dksX16_unit_11 10 rfl rfl)
theorem dX16_unit_342 : decode cX16_unit 342 = .ok (.aload_n 3, 1) := dk_45 (dk_at dksX16_unit_11 13 rfl rfl)
theorem dX16_unit_343 : decode cX16_unit 343 = .ok (.ldc 104, 2) := dk_18 104 (dk_at dksX16_unit_11 14 rfl rfl)
theorem dX16_unit_345 : decode cX16_unit 345 = .ok (.invokevirtual 82, 3) := dk_182 0 82 (dk_at dksX16_unit_11 16 rfl rfl)
theorem dX16_unit_348 : decode cX16_unit 348 = .ok (.ifCond .eq 23, 3) := dk_153 0 23 (dk_at dksX16_unit_11 19 rfl rfl)
theorem dX16_unit_351 : decode cX16_unit 351 = .ok (.bipush 10, 2) := dk_16 10 (dk_at dksX16_unit_11 22 rfl rfl)
theorem dX16_unit_353 : decode cX16_unit 353 = .ok (.istore 4, 2) := dk_54 4 (dk_at dksX16_unit_12 0 rfl rfl)
theorem dX16_unit_355 : decode cX16_unit 355 = .ok (.goto 16, 3) := dk_167 0 16 (dk_at dksX16_unit_12 2 rfl rfl)
theorem dX16_unit_358 : decode cX16_unit 358 = .ok (.aload_n 3, 1) := dk_45 (dk_at dksX16_unit_12 5 rfl rfl)
theorem dX16_unit_359 : decode cX16_unit 359 = .ok (.ldc 106, 2) := dk_18 106 (dk_at dksX16_unit_12 6 rfl rfl)
theorem dX16_unit_361 : decode cX16_unit 361 = .ok (.invokevirtual 82, 3) := dk_182 0 82 (dk_at dksX16_unit_12 8 rfl rfl)
theorem dX16_unit_364 : decode cX16_unit 364 = .ok (.ifCond .eq 7, 3) := dk_153 0 7 (dk_at dksX16_unit_12 11 rfl rfl)
theorem dX16_unit_367 : decode cX16_unit 367 = .ok (.bipush 11, 2) := dk_16 11 (dk_at dksX16_unit_12 14 rfl rfl)
theorem dX16_unit_369 : decode cX16_unit 369 = .ok (.istore 4, 2) := dk_54 4 (dk_at dksX16_unit_12 16 rfl rfl)
theorem dX16_unit_371 : decode cX16_unit 371 = .ok (.iload 4, 2) := dk_21 4 (dk_at dksX16_unit_12 18 rfl rfl)
theorem dX16_unit_373 : decode cX16_unit 373 = .ok (.tableswitch 143 0 11 #[63, 70, 77, 84, 91, 98, 105, 113, 121, 129, 137, 137], 63) := by decide +kernel
theorem dX16_unit_436 : decode cX16_unit 436 = .ok (.aload_n 0, 1) := dk_42 (dk_at dksX16_unit_14 0 rfl rfl)
theorem dX16_unit_437 : decode cX16_unit 437 = .ok (.aload_n 2, 1) := dk_44 (dk_at dksX16_unit_14 1 rfl rfl)
theorem dX16_unit_438 : decode cX16_unit 438 = .ok (.iconst 0, 1) := dk_3 (dk_at dksX16_unit_14 2 rfl rfl)
theorem dX16_unit_439 : decode cX16_unit 439 = .ok (.invokevirtual 108, 3) := dk_182 0 108 (dk_at dksX16_unit_14 3 rfl rfl)
theorem dX16_unit_442 : decode cX16_unit 442 = .ok (.areturn, 1) := dk_176 (dk_at dksX16_unit_14 6 rfl rfl)
theorem dX16_unit_443 : decode cX16_unit 443 = .ok (.aload_n 0, 1) := dk_42 (dk_at dksX16_unit_14 7 rfl rfl)
theorem dX16_unit_444 : decode cX16_unit 444 = .ok (.aload_n 2, 1) := dk_44 (dk_at dksX16_unit_14 8 rfl rfl)
theorem dX16_unit_445 : decode cX16_unit 445 = .ok (.iconst 1, 1) := dk_4 (dk_at dksX16_unit_14 9 rfl rfl)
theorem dX16_unit_446 : decode cX16_unit 446 = .ok (.invokevirtual 108, 3) := dk_182 0 108 (dk_at dksX16_unit_14 10 rfl rfl)
theorem dX16_unit_449 : decode cX16_unit 449 = .ok (.areturn, 1) := dk_176 (dk_at dksX16_unit_14 13 rfl rfl)
theorem dX16_unit_450 : decode cX16_unit 450 = .ok (.aload_n 0, 1) := dk_42 (dk_at dksX16_unit_14 14 rfl rfl)
theorem dX16_unit_451 : decode cX16_unit 451 = .ok (.aload_n 2, 1) := dk_44 (dk_at dksX16_unit_14 15 rfl rfl)
theorem dX16_unit_452 : decode cX16_unit 452 = .ok (.iconst 2, 1) := dk_5 (dk_at dksX16_unit_14 16 rfl rfl)
theorem dX16_unit_453 : decode cX16_unit 453 = .ok (.invokevirtual 108, 3) := dk_182 0 108 (dk_at dksX16_unit_14 17 rfl rfl)
theorem dX16_unit_456 : decode cX16_unit 456 = .ok (.areturn, 1) := dk_176 (dk_at dksX16_unit_14 20 rfl rfl)
theorem dX16_unit_457 : decode cX16_unit 457 = .ok (.aload_n 0, 1) := dk_42 (dk_at dksX16_unit_14 21 rfl rfl)
theorem dX16_unit_458 : decode cX16_unit 458 = .ok (.aload_n 2, 1) := dk_44 (dk_at dksX16_unit_14 22 rfl rfl)
theorem dX16_unit_459 : decode cX16_unit 459 = .ok (.iconst 3, 1) := dk_6 (dk_at dksX16_unit_14 23 rfl rfl)
theorem dX16_unit_460 : decode cX16_unit 460 = .ok (.invokevirtual 108, 3) := dk_182 0 108 (dk_at dksX16_unit_15 0 rfl rfl)
theorem dX16_unit_463 : decode cX16_unit 463 = .ok (.areturn, 1) := dk_176 (dk_at dksX16_unit_15 3 rfl rfl)
theorem dX16_unit_464 : decode cX16_unit 464 = .ok (.aload_n 0, 1) := dk_42 (dk_at dksX16_unit_15 4 rfl rfl)
theorem dX16_unit_465 : decode cX16_unit 465 = .ok (.aload_n 2, 1) := dk_44 (dk_at dksX16_unit_15 5 rfl rfl)
theorem dX16_unit_466 : decode cX16_unit 466 = .ok (.iconst 4, 1) := dk_7 (dk_at dksX16_unit_15 6 rfl rfl)
theorem dX16_unit_467 : decode cX16_unit 467 = .ok (.invokevirtual 108, 3) := dk_182 0 108 (dk_at dksX16_unit_15 7 rfl rfl)
theorem dX16_unit_470 : decode cX16_unit 470 = .ok (.areturn, 1) := dk_176 (dk_at dksX16_unit_15 10 rfl rfl)
theorem dX16_unit_471 : decode cX16_unit 471 = .ok (.aload_n 0, 1) := dk_42 (dk_at dksX16_unit_15 11 rfl rfl)
theorem dX16_unit_472 : decode cX16_unit 472 = .ok (.aload_n 2, 1) := dk_44 (dk_at dksX16_unit_15 12 rfl rfl)
theorem dX16_unit_473 : decode cX16_unit 473 = .ok (.iconst 5, 1) := dk_8 (dk_at dksX16_unit_15 13 rfl rfl)
theorem dX16_unit_474 : decode cX16_unit 474 = .ok (.invokevirtual 108, 3) := dk_182 0 108 (dk_at dksX16_unit_15 14 rfl rfl)
theorem dX16_unit_477 : decode cX16_unit 477 = .ok (.areturn, 1) := dk_176 (dk_at dksX16_unit_15 17 rfl rfl)
theorem dX16_unit_478 : decode cX16_unit 478 = .ok (.aload_n 0, 1) := dk_42 (dk_at dksX16_unit_15 18 rfl rfl)
theorem dX16_unit_479 : decode cX16_unit 479 = .ok (.aload_n 2, 1) := dk_44 (dk_at dksX16_unit_15 19 rfl rfl)
theorem dX16_unit_480 : decode cX16_unit 480 = .ok (.bipush 6, 2) := dk_16 6 (dk_at dksX16_unit_15 20 rfl rfl)
theorem dX16_unit_482 : decode cX16_unit 482 = .ok (.invokevirtual 108, 3) := dk_182 0 108 (dk_at dksX16_unit_16 0 rfl rfl)
theorem dX16_unit_485 : decode cX16_unit 485 = .ok (.areturn, 1) := dk_176 (dk_at dksX16_unit_16 3 rfl rfl)
theorem dX16_unit_486 : decode cX16_unit 486 = .ok (.aload_n 0, 1) := dk_42 (dk_at dksX16_unit_16 4 rfl rfl)
theorem dX16_unit_487 : decode cX16_unit 487 = .ok (.aload_n 2, 1) := dk_44 (dk_at dksX16_unit_16 5 rfl rfl)
theorem dX16_unit_488 : decode cX16_unit 488 = .ok (.bipush 7, 2) := dk_16 7 (dk_at dksX16_unit_16 6 rfl rfl)
theorem dX16_unit_490 : decode cX16_unit 490 = .ok (.invokevirtual 108, 3) := dk_182 0 108 (dk_at dksX16_unit_16 8 rfl rfl)
theorem dX16_unit_493 : decode cX16_unit 493 = .ok (.areturn, 1) := dk_176 (dk_at dksX16_unit_16 11 rfl rfl)
theorem dX16_unit_494 : decode cX16_unit 494 = .ok (.aload_n 0, 1) := dk_42 (dk_at dksX16_unit_16 12 rfl rfl)
theorem dX16_unit_495 : decode cX16_unit 495 = .ok (.aload_n 2, 1) := dk_44 (dk_at dksX16_unit_16 13 rfl rfl)
theorem dX16_unit_496 : decode cX16_unit 496 = .ok (.bipush 8, 2) := dk_16 8 (dk_at dksX16_unit_16 14 rfl rfl)
theorem dX16_unit_498 : decode cX16_unit 498 = .ok (.invokevirtual 108, 3) := dk_182 0 108 (dk_at dksX16_unit_16 16 rfl rfl)
theorem dX16_unit_501 : decode cX16_unit 501 = .ok (.areturn, 1) := dk_176 (dk_at dksX16_unit_16 19 rfl rfl)
theorem dX16_unit_502 : decode cX16_unit 502 = .ok (.aload_n 0, 1) := dk_42 (dk_at dksX16_unit_16 20 rfl rfl)
theorem dX16_unit_503 : decode cX16_unit 503 = .ok (.aload_n 2, 1) := dk_44 (dk_at dksX16_unit_16 21 rfl rfl)
theorem dX16_unit_504 : decode cX16_unit 504 = .ok (.bipush 9, 2) := dk_16 9 (dk_at dksX16_unit_16 22 rfl rfl)
theorem dX16_unit_506 : decode cX16_unit 506 = .ok (.invokevirtual 108, 3) := dk_182 0 108 (dk_at dksX16_unit_17 0 rfl rfl)
theorem dX16_unit_509 : decode cX16_unit 509 = .ok (.areturn, 1) := dk_176 (dk_at dksX16_unit_17 3 rfl rfl)
theorem dX16_unit_510 : decode cX16_unit 510 = .ok (.aload_n 0, 1) := dk_42 (dk_at dksX16_unit_17 4 rfl rfl)
theorem dX16_unit_511 : decode cX16_unit 511 = .ok (.aload_n 2, 1) := dk_44 (dk_at dksX16_unit_17 5 rfl rfl)
theorem dX16_unit_512 : decode cX16_unit 512 = .ok (.invokevirtual 112, 3) := dk_182 0 112 (dk_at dksX16_unit_17 6 rfl rfl)
theorem dX16_unit_515 : decode cX16_unit 515 = .ok (.areturn, 1) := dk_176 (dk_at dksX16_unit_17 9 rfl rfl)
theorem dX16_unit_516 : decode cX16_unit 516 = .ok (.aload_n 0, 1) := dk_42 (dk_at dksX16_unit_17 10 rfl rfl)
theorem dX16_unit_517 : decode cX16_unit 517 = .ok (.invokevirtual 26, 3) := dk_182 0 26 (dk_at dksX16_unit_17 11 rfl rfl)
theorem dX16_unit_520 : decode cX16_unit 520 = .ok (.athrow, 1) := dk_191 (dk_at dksX16_unit_17 14 rfl rfl)
abbrev cX16_fact : ByteArray := prog_11_method_6_code
def yX16_fact : MethodName := ⟨RX16, "fact", "(Ljava/lang/String;I)LDimpleWells$Term;"⟩
def dkwX16_fact_0 : List UInt8 := [42, 89, 180, 0, 19, 43, 182, 0, 116, 96, 181, 0, 19, 187, 0, 119, 89, 28, 183, 0, 121, 176]
abbrev dktX16_fact_0 : List UInt8 := dkwX16_fact_0 ++ []
theorem dksX16_fact_0 : cX16_fact.data.toList.drop 0 = dktX16_fact_0 := by decide +kernel
theorem dX16_fact_0 : decode cX16_fact 0 = .ok (.aload_n 0, 1) := dk_42 (dk_at dksX16_fact_0 0 rfl rfl)
theorem dX16_fact_1 : decode cX16_fact 1 = .ok (.dup, 1) := dk_89 (dk_at dksX16_fact_0 1 rfl rfl)
theorem dX16_fact_2 : decode cX16_fact 2 = .ok (.getfield 19, 3) := dk_180 0 19 (dk_at dksX16_fact_0 2 rfl rfl)
theorem dX16_fact_5 : decode cX16_fact 5 = .ok (.aload_n 1, 1) := dk_43 (dk_at dksX16_fact_0 5 rfl rfl)
theorem dX16_fact_6 : decode cX16_fact 6 = .ok (.invokevirtual 116, 3) := dk_182 0 116 (dk_at dksX16_fact_0 6 rfl rfl)
theorem dX16_fact_9 : decode cX16_fact 9 = .ok (.iadd, 1) := dk_96 (dk_at dksX16_fact_0 9 rfl rfl)
theorem dX16_fact_10 : decode cX16_fact 10 = .ok (.putfield 19, 3) := dk_181 0 19 (dk_at dksX16_fact_0 10 rfl rfl)
theorem dX16_fact_13 : decode cX16_fact 13 = .ok (.new 119, 3) := dk_187 0 119 (dk_at dksX16_fact_0 13 rfl rfl)
theorem dX16_fact_16 : decode cX16_fact 16 = .ok (.dup, 1) := dk_89 (dk_at dksX16_fact_0 16 rfl rfl)
theorem dX16_fact_17 : decode cX16_fact 17 = .ok (.iload_n 2, 1) := dk_28 (dk_at dksX16_fact_0 17 rfl rfl)
theorem dX16_fact_18 : decode cX16_fact 18 = .ok (.invokespecial 121, 3) := dk_183 0 121 (dk_at dksX16_fact_0 18 rfl rfl)
theorem dX16_fact_21 : decode cX16_fact 21 = .ok (.areturn, 1) := dk_176 (dk_at dksX16_fact_0 21 rfl rfl)
abbrev cX16_two : ByteArray := prog_11_method_7_code
def yX16_two : MethodName := ⟨RX16, "two", "(Ljava/lang/String;)LDimpleWells$Term;"⟩
def dkwX16_two_3 : List UInt8 := [89, 44, 45, 183, 0, 127, 176]
abbrev dktX16_two_3 : List UInt8 := dkwX16_two_3 ++ []
def dkwX16_two_2 : List UInt8 := [43, 18, 104, 182, 0, 82, 153, 0, 15, 187, 0, 122, 89, 44, 45, 183, 0, 124, 167, 0, 12, 187, 0, 125]
abbrev dktX16_two_2 : List UInt8 := dkwX16_two_2 ++ dktX16_two_3
def dkwX16_two_1 : List UInt8 := [182, 0, 57, 42, 182, 0, 9, 78, 42, 16, 93, 182, 0, 57, 42, 89, 180, 0, 60, 4, 100, 181, 0, 60]
abbrev dktX16_two_1 : List UInt8 := dkwX16_two_1 ++ dktX16_two_2
def dkwX16_two_0 : List UInt8 := [42, 43, 182, 0, 116, 182, 0, 53, 42, 16, 91, 182, 0, 57, 42, 182, 0, 9, 77, 42, 16, 44]
abbrev dktX16_two_0 : List UInt8 := dkwX16_two_0 ++ dktX16_two_1
theorem dksX16_two_0 : cX16_two.data.toList.drop 0 = dktX16_two_0 := by decide +kernel
theorem dksX16_two_1 : cX16_two.data.toList.drop 22 = dktX16_two_1 := dk_seg dksX16_two_0 22 rfl rfl
theorem dksX16_two_2 : cX16_two.data.toList.drop 46 = dktX16_two_2 := dk_seg dksX16_two_1 24 rfl rfl
theorem dksX16_two_3 : cX16_two.data.toList.drop 70 = dktX16_two_3 := dk_seg dksX16_two_2 24 rfl rfl
theorem dX16_two_0 : decode cX16_two 0 = .ok (.aload_n 0, 1) := dk_42 (dk_at dksX16_two_0 0 rfl rfl)
theorem dX16_two_1 : decode cX16_two 1 = .ok (.aload_n 1, 1) := dk_43 (dk_at dksX16_two_0 1 rfl rfl)
theorem dX16_two_2 : decode cX16_two 2 = .ok (.invokevirtual 116, 3) := dk_182 0 116 (dk_at dksX16_two_0 2 rfl rfl)
theorem dX16_two_5 : decode cX16_two 5 = .ok (.invokevirtual 53, 3) := dk_182 0 53 (dk_at dksX16_two_0 5 rfl rfl)
theorem dX16_two_8 : decode cX16_two 8 = .ok (.aload_n 0, 1) := dk_42 (dk_at dksX16_two_0 8 rfl rfl)
theorem dX16_two_9 : decode cX16_two 9 = .ok (.bipush 91, 2) := dk_16 91 (dk_at dksX16_two_0 9 rfl rfl)
theorem dX16_two_11 : decode cX16_two 11 = .ok (.invokevirtual 57, 3) := dk_182 0 57 (dk_at dksX16_two_0 11 rfl rfl)
theorem dX16_two_14 : decode cX16_two 14 = .ok (.aload_n 0, 1) := dk_42 (dk_at dksX16_two_0 14 rfl rfl)
theorem dX16_two_15 : decode cX16_two 15 = .ok (.invokevirtual 9, 3) := dk_182 0 9 (dk_at dksX16_two_0 15 rfl rfl)
theorem dX16_two_18 : decode cX16_two 18 = .ok (.astore_n 2, 1) := dk_77 (dk_at dksX16_two_0 18 rfl rfl)
theorem dX16_two_19 : decode cX16_two 19 = .ok (.aload_n 0, 1) := dk_42 (dk_at dksX16_two_0 19 rfl rfl)
theorem dX16_two_20 : decode cX16_two 20 = .ok (.bipush 44, 2) := dk_16 44 (dk_at dksX16_two_0 20 rfl rfl)
theorem dX16_two_22 : decode cX16_two 22 = .ok (.invokevirtual 57, 3) := dk_182 0 57 (dk_at dksX16_two_1 0 rfl rfl)
theorem dX16_two_25 : decode cX16_two 25 = .ok (.aload_n 0, 1) := dk_42 (dk_at dksX16_two_1 3 rfl rfl)
theorem dX16_two_26 : decode cX16_two 26 = .ok (.invokevirtual 9, 3) := dk_182 0 9 (dk_at dksX16_two_1 4 rfl rfl)
theorem dX16_two_29 : decode cX16_two 29 = .ok (.astore_n 3, 1) := dk_78 (dk_at dksX16_two_1 7 rfl rfl)
theorem dX16_two_30 : decode cX16_two 30 = .ok (.aload_n 0, 1) := dk_42 (dk_at dksX16_two_1 8 rfl rfl)
theorem dX16_two_31 : decode cX16_two 31 = .ok (.bipush 93, 2) := dk_16 93 (dk_at dksX16_two_1 9 rfl rfl)
theorem dX16_two_33 : decode cX16_two 33 = .ok (.invokevirtual 57, 3) := dk_182 0 57 (dk_at dksX16_two_1 11 rfl rfl)
theorem dX16_two_36 : decode cX16_two 36 = .ok (.aload_n 0, 1) := dk_42 (dk_at dksX16_two_1 14 rfl rfl)
theorem dX16_two_37 : decode cX16_two 37 = .ok (.dup, 1) := dk_89 (dk_at dksX16_two_1 15 rfl rfl)
theorem dX16_two_38 : decode cX16_two 38 = .ok (.getfield 60, 3) := dk_180 0 60 (dk_at dksX16_two_1 16 rfl rfl)
theorem dX16_two_41 : decode cX16_two 41 = .ok (.iconst 1, 1) := dk_4 (dk_at dksX16_two_1 19 rfl rfl)
theorem dX16_two_42 : decode cX16_two 42 = .ok (.isub, 1) := dk_100 (dk_at dksX16_two_1 20 rfl rfl)
theorem dX16_two_43 : decode cX16_two 43 = .ok (.putfield 60, 3) := dk_181 0 60 (dk_at dksX16_two_1 21 rfl rfl)
theorem dX16_two_46 : decode cX16_two 46 = .ok (.aload_n 1, 1) := dk_43 (dk_at dksX16_two_2 0 rfl rfl)
theorem dX16_two_47 : decode cX16_two 47 = .ok (.ldc 104, 2) := dk_18 104 (dk_at dksX16_two_2 1 rfl rfl)
theorem dX16_two_49 : decode cX16_two 49 = .ok (.invokevirtual 82, 3) := dk_182 0 82 (dk_at dksX16_two_2 3 rfl rfl)
theorem dX16_two_52 : decode cX16_two 52 = .ok (.ifCond .eq 15, 3) := dk_153 0 15 (dk_at dksX16_two_2 6 rfl rfl)
theorem dX16_two_55 : decode cX16_two 55 = .ok (.new 122, 3) := dk_187 0 122 (dk_at dksX16_two_2 9 rfl rfl)
theorem dX16_two_58 : decode cX16_two 58 = .ok (.dup, 1) := dk_89 (dk_at dksX16_two_2 12 rfl rfl)
theorem dX16_two_59 : decode cX16_two 59 = .ok (.aload_n 2, 1) := dk_44 (dk_at dksX16_two_2 13 rfl rfl)
theorem dX16_two_60 : decode cX16_two 60 = .ok (.aload_n 3, 1) := dk_45 (dk_at dksX16_two_2 14 rfl rfl)
theorem dX16_two_61 : decode cX16_two 61 = .ok (.invokespecial 124, 3) := dk_183 0 124 (dk_at dksX16_two_2 15 rfl rfl)
theorem dX16_two_64 : decode cX16_two 64 = .ok (.goto 12, 3) := dk_167 0 12 (dk_at dksX16_two_2 18 rfl rfl)
theorem dX16_two_67 : decode cX16_two 67 = .ok (.new 125, 3) := dk_187 0 125 (dk_at dksX16_two_2 21 rfl rfl)
theorem dX16_two_70 : decode cX16_two 70 = .ok (.dup, 1) := dk_89 (dk_at dksX16_two_3 0 rfl rfl)
theorem dX16_two_71 : decode cX16_two 71 = .ok (.aload_n 2, 1) := dk_44 (dk_at dksX16_two_3 1 rfl rfl)
theorem dX16_two_72 : decode cX16_two 72 = .ok (.aload_n 3, 1) := dk_45 (dk_at dksX16_two_3 2 rfl rfl)
theorem dX16_two_73 : decode cX16_two 73 = .ok (.invokespecial 127, 3) := dk_183 0 127 (dk_at dksX16_two_3 3 rfl rfl)
theorem dX16_two_76 : decode cX16_two 76 = .ok (.areturn, 1) := dk_176 (dk_at dksX16_two_3 6 rfl rfl)
theorem q131 : (Jvm.Cond.initialized "DimpleWells$LawReader") ∈ lw_all := lw_g (lw_at lw_m1 35 rfl) rfl
theorem q993 : (Jvm.Cond.fieldLink "DimpleWells$LawReader" (23 : Nat) "DimpleWells$LawReader" "size" "I") ∈ lw_all := lw_g (lw_at lw_m4 177 rfl) rfl
theorem q994 : (Jvm.Cond.sameField "DimpleWells$LawReader" "DimpleWells$Reader" "size" "I") ∈ lw_all := lw_g (lw_at lw_m4 178 rfl) rfl
theorem q1002 : (Jvm.Cond.fieldLink "DimpleWells$LawReader" (19 : Nat) "DimpleWells$LawReader" "next" "I") ∈ lw_all := lw_g (lw_at lw_m4 186 rfl) rfl
theorem q1003 : (Jvm.Cond.sameField "DimpleWells$LawReader" "DimpleWells$Reader" "next" "I") ∈ lw_all := lw_g (lw_at lw_m4 187 rfl) rfl
theorem q1013 : (Jvm.Cond.fieldLink "DimpleWells$LawReader" (60 : Nat) "DimpleWells$LawReader" "open" "I") ∈ lw_all := lw_g (lw_at lw_m4 197 rfl) rfl
theorem q1014 : (Jvm.Cond.sameField "DimpleWells$LawReader" "DimpleWells$Reader" "open" "I") ∈ lw_all := lw_g (lw_at lw_m4 198 rfl) rfl
theorem q1252 : (Jvm.Cond.selects "DimpleWells$LawReader" ({ cls := "java/lang/Object", name := "getClass", desc := "()Ljava/lang/Class;" } : Jvm.MethodName) ({ cls := "java/lang/Object", name := "getClass", desc := "()Ljava/lang/Class;" } : Jvm.MethodName)) ∈ lw_all := lw_g (lw_at lw_m5 196 rfl) rfl
theorem q1320 : (Jvm.Cond.instantiable "DimpleWells$LawReader" (5 : Nat)) ∈ lw_all := lw_g (lw_at lw_m6 24 rfl) rfl
theorem q1322 : (Jvm.Cond.instanceMethod ({ cls := "DimpleWells$LawReader", name := "<init>", desc := "([BI)V" } : Jvm.MethodName)) ∈ lw_all := lw_g (lw_at lw_m6 26 rfl) rfl
theorem q1323 : (Jvm.Cond.code ({ cls := "DimpleWells$LawReader", name := "<init>", desc := "([BI)V" } : Jvm.MethodName) prog_11_method_1_code (3 : Nat) (Option.none : Option Jvm.ClassFile.FieldType)) ∈ lw_all := lw_g (lw_at lw_m6 27 rfl) rfl
theorem q1324 : (Jvm.Cond.methodLink "DimpleWells$LawReader" (3 : Nat) ({ cls := "DimpleWells$Reader", name := "<init>", desc := "([BI)V" } : Jvm.MethodName)) ∈ lw_all := lw_g (lw_at lw_m6 28 rfl) rfl
theorem q1325 : (Jvm.Cond.laysFinal "DimpleWells$LawReader" "DimpleWells$Reader" "text" "[B") ∈ lw_all := lw_g (lw_at lw_m6 29 rfl) rfl
theorem q1326 : (Jvm.Cond.laysFinal "DimpleWells$LawReader" "DimpleWells$Reader" "size" "I") ∈ lw_all := lw_g (lw_at lw_m6 30 rfl) rfl
theorem q1327 : (Jvm.Cond.lays "DimpleWells$LawReader" "DimpleWells$Reader" "next" "I") ∈ lw_all := lw_g (lw_at lw_m6 31 rfl) rfl
theorem q1328 : (Jvm.Cond.lays "DimpleWells$LawReader" "DimpleWells$Reader" "from" "I") ∈ lw_all := lw_g (lw_at lw_m6 32 rfl) rfl
theorem q1329 : (Jvm.Cond.lays "DimpleWells$LawReader" "DimpleWells$Reader" "open" "I") ∈ lw_all := lw_g (lw_at lw_m6 33 rfl) rfl
theorem q1330 : (Jvm.Cond.superclass "DimpleWells$LawReader" "DimpleWells$Reader") ∈ lw_all := lw_g (lw_at lw_m6 34 rfl) rfl
theorem q1332 : (Jvm.Cond.instanceMethod ({ cls := "DimpleWells$LawReader", name := "reads", desc := "()LDimpleWells$Term;" } : Jvm.MethodName)) ∈ lw_all := lw_g (lw_at lw_m6 36 rfl) rfl
theorem q1333 : (Jvm.Cond.selects "DimpleWells$LawReader" ({ cls := "DimpleWells$LawReader", name := "reads", desc := "()LDimpleWells$Term;" } : Jvm.MethodName) ({ cls := "DimpleWells$LawReader", name := "reads", desc := "()LDimpleWells$Term;" } : Jvm.MethodName)) ∈ lw_all := lw_g (lw_at lw_m6 37 rfl) rfl
theorem q1334 : (Jvm.Cond.code ({ cls := "DimpleWells$LawReader", name := "reads", desc := "()LDimpleWells$Term;" } : Jvm.MethodName) prog_11_method_2_code (2 : Nat) (Option.some (Jvm.ClassFile.FieldType.object "DimpleWells$Term"))) ∈ lw_all := lw_g (lw_at lw_m6 38 rfl) rfl
theorem q1335 : (Jvm.Cond.methodLink "DimpleWells$LawReader" (9 : Nat) ({ cls := "DimpleWells$LawReader", name := "sum", desc := "()LDimpleWells$Term;" } : Jvm.MethodName)) ∈ lw_all := lw_g (lw_at lw_m6 39 rfl) rfl
theorem q1336 : (Jvm.Cond.privateMethod ({ cls := "DimpleWells$LawReader", name := "sum", desc := "()LDimpleWells$Term;" } : Jvm.MethodName)) ∈ lw_tbl := lw_at lw_m6 40 rfl
theorem q1337 : (Jvm.Cond.instanceMethod ({ cls := "DimpleWells$LawReader", name := "sum", desc := "()LDimpleWells$Term;" } : Jvm.MethodName)) ∈ lw_all := lw_g (lw_at lw_m6 41 rfl) rfl
theorem q1338 : (Jvm.Cond.code ({ cls := "DimpleWells$LawReader", name := "sum", desc := "()LDimpleWells$Term;" } : Jvm.MethodName) prog_11_method_3_code (4 : Nat) (Option.some (Jvm.ClassFile.FieldType.object "DimpleWells$Term"))) ∈ lw_all := lw_g (lw_at lw_m6 42 rfl) rfl
theorem q1339 : (Jvm.Cond.methodLink "DimpleWells$LawReader" (30 : Nat) ({ cls := "DimpleWells$LawReader", name := "product", desc := "()LDimpleWells$Term;" } : Jvm.MethodName)) ∈ lw_all := lw_g (lw_at lw_m6 43 rfl) rfl
theorem q1340 : (Jvm.Cond.privateMethod ({ cls := "DimpleWells$LawReader", name := "product", desc := "()LDimpleWells$Term;" } : Jvm.MethodName)) ∈ lw_tbl := lw_at lw_m6 44 rfl
theorem q1341 : (Jvm.Cond.instanceMethod ({ cls := "DimpleWells$LawReader", name := "product", desc := "()LDimpleWells$Term;" } : Jvm.MethodName)) ∈ lw_all := lw_g (lw_at lw_m6 45 rfl) rfl
theorem q1342 : (Jvm.Cond.code ({ cls := "DimpleWells$LawReader", name := "product", desc := "()LDimpleWells$Term;" } : Jvm.MethodName) prog_11_method_4_code (4 : Nat) (Option.some (Jvm.ClassFile.FieldType.object "DimpleWells$Term"))) ∈ lw_all := lw_g (lw_at lw_m6 46 rfl) rfl
theorem q1343 : (Jvm.Cond.methodLink "DimpleWells$LawReader" (41 : Nat) ({ cls := "DimpleWells$LawReader", name := "unit", desc := "()LDimpleWells$Term;" } : Jvm.MethodName)) ∈ lw_all := lw_g (lw_at lw_m6 47 rfl) rfl
theorem q1344 : (Jvm.Cond.privateMethod ({ cls := "DimpleWells$LawReader", name := "unit", desc := "()LDimpleWells$Term;" } : Jvm.MethodName)) ∈ lw_tbl := lw_at lw_m6 48 rfl
theorem q1345 : (Jvm.Cond.instanceMethod ({ cls := "DimpleWells$LawReader", name := "unit", desc := "()LDimpleWells$Term;" } : Jvm.MethodName)) ∈ lw_all := lw_g (lw_at lw_m6 49 rfl) rfl
theorem q1346 : (Jvm.Cond.code ({ cls := "DimpleWells$LawReader", name := "unit", desc := "()LDimpleWells$Term;" } : Jvm.MethodName) prog_11_method_5_code (5 : Nat) (Option.some (Jvm.ClassFile.FieldType.object "DimpleWells$Term"))) ∈ lw_all := lw_g (lw_at lw_m6 50 rfl) rfl
theorem q1347 : (Jvm.Cond.methodLink "DimpleWells$LawReader" (15 : Nat) ({ cls := "DimpleWells$LawReader", name := "sign", desc := "()I" } : Jvm.MethodName)) ∈ lw_all := lw_g (lw_at lw_m6 51 rfl) rfl
theorem q1348 : (Jvm.Cond.sameMethod "DimpleWells$LawReader" "DimpleWells$Reader" "sign" "()I") ∈ lw_all := lw_g (lw_at lw_m6 52 rfl) rfl
theorem q1349 : (Jvm.Cond.selects "DimpleWells$LawReader" ({ cls := "DimpleWells$LawReader", name := "sign", desc := "()I" } : Jvm.MethodName) ({ cls := "DimpleWells$Reader", name := "sign", desc := "()I" } : Jvm.MethodName)) ∈ lw_all := lw_g (lw_at lw_m6 53 rfl) rfl
theorem q1350 : (Jvm.Cond.methodLink "DimpleWells$LawReader" (53 : Nat) ({ cls := "DimpleWells$LawReader", name := "opens", desc := "(I)V" } : Jvm.MethodName)) ∈ lw_all := lw_g (lw_at lw_m6 54 rfl) rfl
theorem q1351 : (Jvm.Cond.sameMethod "DimpleWells$LawReader" "DimpleWells$Reader" "opens" "(I)V") ∈ lw_all := lw_g (lw_at lw_m6 55 rfl) rfl
theorem q1353 : (Jvm.Cond.selects "DimpleWells$LawReader" ({ cls := "DimpleWells$LawReader", name := "opens", desc := "(I)V" } : Jvm.MethodName) ({ cls := "DimpleWells$Reader", name := "opens", desc := "(I)V" } : Jvm.MethodName)) ∈ lw_all := lw_g (lw_at lw_m6 57 rfl) rfl
theorem q1356 : (Jvm.Cond.methodLink "DimpleWells$LawReader" (57 : Nat) ({ cls := "DimpleWells$LawReader", name := "need", desc := "(I)V" } : Jvm.MethodName)) ∈ lw_all := lw_g (lw_at lw_m6 60 rfl) rfl
theorem q1357 : (Jvm.Cond.sameMethod "DimpleWells$LawReader" "DimpleWells$Reader" "need" "(I)V") ∈ lw_all := lw_g (lw_at lw_m6 61 rfl) rfl
theorem q1358 : (Jvm.Cond.selects "DimpleWells$LawReader" ({ cls := "DimpleWells$LawReader", name := "need", desc := "(I)V" } : Jvm.MethodName) ({ cls := "DimpleWells$Reader", name := "need", desc := "(I)V" } : Jvm.MethodName)) ∈ lw_all := lw_g (lw_at lw_m6 62 rfl) rfl
theorem q1359 : (Jvm.Cond.classLink "DimpleWells$LawReader" (63 : Nat) "DimpleWells$Plain") ∈ lw_all := lw_g (lw_at lw_m6 63 rfl) rfl
theorem q1360 : (Jvm.Cond.methodLink "DimpleWells$LawReader" (65 : Nat) ({ cls := "DimpleWells$LawReader", name := "number", desc := "(II)I" } : Jvm.MethodName)) ∈ lw_all := lw_g (lw_at lw_m6 64 rfl) rfl
theorem q1361 : (Jvm.Cond.sameMethod "DimpleWells$LawReader" "DimpleWells$Reader" "number" "(II)I") ∈ lw_all := lw_g (lw_at lw_m6 65 rfl) rfl
theorem q1362 : (Jvm.Cond.selects "DimpleWells$LawReader" ({ cls := "DimpleWells$LawReader", name := "number", desc := "(II)I" } : Jvm.MethodName) ({ cls := "DimpleWells$Reader", name := "number", desc := "(II)I" } : Jvm.MethodName)) ∈ lw_all := lw_g (lw_at lw_m6 66 rfl) rfl
theorem q1363 : (Jvm.Cond.methodLink "DimpleWells$LawReader" (69 : Nat) ({ cls := "DimpleWells$Plain", name := "<init>", desc := "(I)V" } : Jvm.MethodName)) ∈ lw_all := lw_g (lw_at lw_m6 67 rfl) rfl
theorem q1364 : (Jvm.Cond.methodLink "DimpleWells$LawReader" (71 : Nat) ({ cls := "DimpleWells$LawReader", name := "word", desc := "()Ljava/lang/String;" } : Jvm.MethodName)) ∈ lw_all := lw_g (lw_at lw_m6 68 rfl) rfl
theorem q1365 : (Jvm.Cond.sameMethod "DimpleWells$LawReader" "DimpleWells$Reader" "word" "()Ljava/lang/String;") ∈ lw_all := lw_g (lw_at lw_m6 69 rfl) rfl
theorem q1366 : (Jvm.Cond.selects "DimpleWells$LawReader" ({ cls := "DimpleWells$LawReader", name := "word", desc := "()Ljava/lang/String;" } : Jvm.MethodName) ({ cls := "DimpleWells$Reader", name := "word", desc := "()Ljava/lang/String;" } : Jvm.MethodName)) ∈ lw_all := lw_g (lw_at lw_m6 70 rfl) rfl
theorem q1367 : (Jvm.Cond.methodLink "DimpleWells$LawReader" (75 : Nat) ({ cls := "java/lang/String", name := "hashCode", desc := "()I" } : Jvm.MethodName)) ∈ lw_all := lw_g (lw_at lw_m6 71 rfl) rfl
theorem q1368 : (Jvm.Cond.stringRef "DimpleWells$LawReader" (80 : Nat) "strong") ∈ lw_tbl := lw_at lw_m6 72 rfl
theorem q1369 : (Jvm.Cond.methodLink "DimpleWells$LawReader" (82 : Nat) ({ cls := "java/lang/String", name := "equals", desc := "(Ljava/lang/Object;)Z" } : Jvm.MethodName)) ∈ lw_all := lw_g (lw_at lw_m6 73 rfl) rfl
theorem q1370 : (Jvm.Cond.stringRef "DimpleWells$LawReader" (86 : Nat) "apart") ∈ lw_tbl := lw_at lw_m6 74 rfl
theorem q1371 : (Jvm.Cond.stringRef "DimpleWells$LawReader" (88 : Nat) "worn") ∈ lw_tbl := lw_at lw_m6 75 rfl
theorem q1372 : (Jvm.Cond.stringRef "DimpleWells$LawReader" (90 : Nat) "told") ∈ lw_tbl := lw_at lw_m6 76 rfl
theorem q1373 : (Jvm.Cond.stringRef "DimpleWells$LawReader" (92 : Nat) "dimples") ∈ lw_tbl := lw_at lw_m6 77 rfl
theorem q1374 : (Jvm.Cond.stringRef "DimpleWells$LawReader" (94 : Nat) "grief") ∈ lw_tbl := lw_at lw_m6 78 rfl
theorem q1375 : (Jvm.Cond.stringRef "DimpleWells$LawReader" (96 : Nat) "near") ∈ lw_tbl := lw_at lw_m6 79 rfl
theorem q1376 : (Jvm.Cond.stringRef "DimpleWells$LawReader" (98 : Nat) "thirst") ∈ lw_tbl := lw_at lw_m6 80 rfl
theorem q1377 : (Jvm.Cond.stringRef "DimpleWells$LawReader" (100 : Nat) "day") ∈ lw_tbl := lw_at lw_m6 81 rfl
theorem q1378 : (Jvm.Cond.stringRef "DimpleWells$LawReader" (102 : Nat) "person") ∈ lw_tbl := lw_at lw_m6 82 rfl
theorem q1379 : (Jvm.Cond.stringRef "DimpleWells$LawReader" (104 : Nat) "least") ∈ lw_tbl := lw_at lw_m6 83 rfl
theorem q1380 : (Jvm.Cond.stringRef "DimpleWells$LawReader" (106 : Nat) "most") ∈ lw_tbl := lw_at lw_m6 84 rfl
theorem q1381 : (Jvm.Cond.methodLink "DimpleWells$LawReader" (108 : Nat) ({ cls := "DimpleWells$LawReader", name := "fact", desc := "(Ljava/lang/String;I)LDimpleWells$Term;" } : Jvm.MethodName)) ∈ lw_all := lw_g (lw_at lw_m6 85 rfl) rfl
theorem q1382 : (Jvm.Cond.privateMethod ({ cls := "DimpleWells$LawReader", name := "fact", desc := "(Ljava/lang/String;I)LDimpleWells$Term;" } : Jvm.MethodName)) ∈ lw_tbl := lw_at lw_m6 86 rfl
theorem q1383 : (Jvm.Cond.instanceMethod ({ cls := "DimpleWells$LawReader", name := "fact", desc := "(Ljava/lang/String;I)LDimpleWells$Term;" } : Jvm.MethodName)) ∈ lw_all := lw_g (lw_at lw_m6 87 rfl) rfl
theorem q1384 : (Jvm.Cond.code ({ cls := "DimpleWells$LawReader", name := "fact", desc := "(Ljava/lang/String;I)LDimpleWells$Term;" } : Jvm.MethodName) prog_11_method_6_code (3 : Nat) (Option.some (Jvm.ClassFile.FieldType.object "DimpleWells$Term"))) ∈ lw_all := lw_g (lw_at lw_m6 88 rfl) rfl
theorem q1385 : (Jvm.Cond.methodLink "DimpleWells$LawReader" (116 : Nat) ({ cls := "java/lang/String", name := "length", desc := "()I" } : Jvm.MethodName)) ∈ lw_all := lw_g (lw_at lw_m6 89 rfl) rfl
theorem q1386 : (Jvm.Cond.classLink "DimpleWells$LawReader" (119 : Nat) "DimpleWells$Fact") ∈ lw_all := lw_g (lw_at lw_m6 90 rfl) rfl
theorem q1387 : (Jvm.Cond.methodLink "DimpleWells$LawReader" (121 : Nat) ({ cls := "DimpleWells$Fact", name := "<init>", desc := "(I)V" } : Jvm.MethodName)) ∈ lw_all := lw_g (lw_at lw_m6 91 rfl) rfl
theorem q1388 : (Jvm.Cond.methodLink "DimpleWells$LawReader" (112 : Nat) ({ cls := "DimpleWells$LawReader", name := "two", desc := "(Ljava/lang/String;)LDimpleWells$Term;" } : Jvm.MethodName)) ∈ lw_all := lw_g (lw_at lw_m6 92 rfl) rfl
theorem q1389 : (Jvm.Cond.privateMethod ({ cls := "DimpleWells$LawReader", name := "two", desc := "(Ljava/lang/String;)LDimpleWells$Term;" } : Jvm.MethodName)) ∈ lw_tbl := lw_at lw_m6 93 rfl
theorem q1390 : (Jvm.Cond.instanceMethod ({ cls := "DimpleWells$LawReader", name := "two", desc := "(Ljava/lang/String;)LDimpleWells$Term;" } : Jvm.MethodName)) ∈ lw_all := lw_g (lw_at lw_m6 94 rfl) rfl
theorem q1391 : (Jvm.Cond.code ({ cls := "DimpleWells$LawReader", name := "two", desc := "(Ljava/lang/String;)LDimpleWells$Term;" } : Jvm.MethodName) prog_11_method_7_code (4 : Nat) (Option.some (Jvm.ClassFile.FieldType.object "DimpleWells$Term"))) ∈ lw_all := lw_g (lw_at lw_m6 95 rfl) rfl
theorem q1392 : (Jvm.Cond.classLink "DimpleWells$LawReader" (122 : Nat) "DimpleWells$Least") ∈ lw_all := lw_g (lw_at lw_m6 96 rfl) rfl
theorem q1394 : (Jvm.Cond.methodLink "DimpleWells$LawReader" (124 : Nat) ({ cls := "DimpleWells$Least", name := "<init>", desc := "(LDimpleWells$Term;LDimpleWells$Term;)V" } : Jvm.MethodName)) ∈ lw_all := lw_g (lw_at lw_m6 98 rfl) rfl
theorem q1401 : (Jvm.Cond.classLink "DimpleWells$LawReader" (125 : Nat) "DimpleWells$Most") ∈ lw_all := lw_g (lw_at lw_m6 105 rfl) rfl
theorem q1403 : (Jvm.Cond.methodLink "DimpleWells$LawReader" (127 : Nat) ({ cls := "DimpleWells$Most", name := "<init>", desc := "(LDimpleWells$Term;LDimpleWells$Term;)V" } : Jvm.MethodName)) ∈ lw_all := lw_g (lw_at lw_m6 107 rfl) rfl
theorem q1410 : (Jvm.Cond.methodLink "DimpleWells$LawReader" (26 : Nat) ({ cls := "DimpleWells$LawReader", name := "wrong", desc := "()LDimpleWells$Wrong;" } : Jvm.MethodName)) ∈ lw_all := lw_g (lw_at lw_m6 114 rfl) rfl
theorem q1411 : (Jvm.Cond.sameMethod "DimpleWells$LawReader" "DimpleWells$Reader" "wrong" "()LDimpleWells$Wrong;") ∈ lw_all := lw_g (lw_at lw_m6 115 rfl) rfl
theorem q1412 : (Jvm.Cond.selects "DimpleWells$LawReader" ({ cls := "DimpleWells$LawReader", name := "wrong", desc := "()LDimpleWells$Wrong;" } : Jvm.MethodName) ({ cls := "DimpleWells$Reader", name := "wrong", desc := "()LDimpleWells$Wrong;" } : Jvm.MethodName)) ∈ lw_all := lw_g (lw_at lw_m6 116 rfl) rfl
theorem q1413 : (Jvm.Cond.classLink "DimpleWells$LawReader" (44 : Nat) "DimpleWells$Times") ∈ lw_all := lw_g (lw_at lw_m6 117 rfl) rfl
theorem q1414 : (Jvm.Cond.methodLink "DimpleWells$LawReader" (46 : Nat) ({ cls := "DimpleWells$Times", name := "<init>", desc := "(LDimpleWells$Term;LDimpleWells$Term;)V" } : Jvm.MethodName)) ∈ lw_all := lw_g (lw_at lw_m6 118 rfl) rfl
theorem q1415 : (Jvm.Cond.classLink "DimpleWells$LawReader" (47 : Nat) "DimpleWells$By") ∈ lw_all := lw_g (lw_at lw_m6 119 rfl) rfl
theorem q1417 : (Jvm.Cond.methodLink "DimpleWells$LawReader" (49 : Nat) ({ cls := "DimpleWells$By", name := "<init>", desc := "(LDimpleWells$Term;LDimpleWells$Term;)V" } : Jvm.MethodName)) ∈ lw_all := lw_g (lw_at lw_m6 121 rfl) rfl
theorem q1424 : (Jvm.Cond.classLink "DimpleWells$LawReader" (50 : Nat) "DimpleWells$Leaves") ∈ lw_all := lw_g (lw_at lw_m6 128 rfl) rfl
theorem q1426 : (Jvm.Cond.methodLink "DimpleWells$LawReader" (52 : Nat) ({ cls := "DimpleWells$Leaves", name := "<init>", desc := "(LDimpleWells$Term;LDimpleWells$Term;)V" } : Jvm.MethodName)) ∈ lw_all := lw_g (lw_at lw_m6 130 rfl) rfl
theorem q1433 : (Jvm.Cond.classLink "DimpleWells$LawReader" (33 : Nat) "DimpleWells$Plus") ∈ lw_all := lw_g (lw_at lw_m6 137 rfl) rfl
theorem q1435 : (Jvm.Cond.methodLink "DimpleWells$LawReader" (35 : Nat) ({ cls := "DimpleWells$Plus", name := "<init>", desc := "(LDimpleWells$Term;LDimpleWells$Term;)V" } : Jvm.MethodName)) ∈ lw_all := lw_g (lw_at lw_m6 139 rfl) rfl
theorem q1442 : (Jvm.Cond.classLink "DimpleWells$LawReader" (38 : Nat) "DimpleWells$Minus") ∈ lw_all := lw_g (lw_at lw_m6 146 rfl) rfl
theorem q1443 : (Jvm.Cond.methodLink "DimpleWells$LawReader" (40 : Nat) ({ cls := "DimpleWells$Minus", name := "<init>", desc := "(LDimpleWells$Term;LDimpleWells$Term;)V" } : Jvm.MethodName)) ∈ lw_all := lw_g (lw_at lw_m6 147 rfl) rfl
theorem q2565 : (Jvm.Cond.selects "DimpleWells$LawReader" ({ cls := "DimpleWells$Reader", name := "sign", desc := "()I" } : Jvm.MethodName) ({ cls := "DimpleWells$Reader", name := "sign", desc := "()I" } : Jvm.MethodName)) ∈ lw_all := lw_g (lw_at lw_m11 69 rfl) rfl
theorem q2572 : (Jvm.Cond.selects "DimpleWells$LawReader" ({ cls := "DimpleWells$Reader", name := "wrong", desc := "()LDimpleWells$Wrong;" } : Jvm.MethodName) ({ cls := "DimpleWells$Reader", name := "wrong", desc := "()LDimpleWells$Wrong;" } : Jvm.MethodName)) ∈ lw_all := lw_g (lw_at lw_m11 76 rfl) rfl
theorem q2598 : (Jvm.Cond.castable "DimpleWells$LawReader" "java/lang/Object") ∈ lw_tbl := lw_at lw_m11 102 rfl
theorem in_X16 : ∀ w ∈ wsX160, w ∈ lw_all := lw_in wsX160 [1325, 1326, 1327, 1328, 1329] (by decide +kernel) (by decide +kernel)
/-! DimpleWells$Least -/
set_option maxRecDepth 100000
def RX17 : String := "DimpleWells$Least"
def TX17 : u_T := fun k => match k with
  | 0 => ("DimpleWells$Two", "a", "LDimpleWells$Term;", true)
  | _ => ("DimpleWells$Two", "b", "LDimpleWells$Term;", true)
def tyX17 : Nat → FieldType := fun k => match k with
  | 0 => .object "DimpleWells$Term"
  | _ => .object "DimpleWells$Term"
abbrev wsX170 : List Cond := u_ws RX17 TX17 2
theorem nmX17 : ∀ a, a < 2 → ∀ b, b < 2 → a ≠ b → (TX17 a).2.1 ≠ (TX17 b).2.1 := by decide +kernel
theorem tyX17_ok : ∀ k, k < 2 → parseFieldDescriptor (TX17 k).2.2.1 = some (tyX17 k) := by decide +kernel
abbrev cX17_with : ByteArray := prog_12_method_2_code
def yX17_with : MethodName := ⟨RX17, "with", "(II)I"⟩
def dkwX17_with_0 : List UInt8 := [27, 28, 184, 0, 7, 172]
abbrev dktX17_with_0 : List UInt8 := dkwX17_with_0 ++ []
theorem dksX17_with_0 : cX17_with.data.toList.drop 0 = dktX17_with_0 := by decide +kernel
theorem dX17_with_0 : decode cX17_with 0 = .ok (.iload_n 1, 1) := dk_27 (dk_at dksX17_with_0 0 rfl rfl)
theorem dX17_with_1 : decode cX17_with 1 = .ok (.iload_n 2, 1) := dk_28 (dk_at dksX17_with_0 1 rfl rfl)
theorem dX17_with_2 : decode cX17_with 2 = .ok (.invokestatic 7, 3) := dk_184 0 7 (dk_at dksX17_with_0 2 rfl rfl)
theorem dX17_with_5 : decode cX17_with 5 = .ok (.ireturn, 1) := dk_172 (dk_at dksX17_with_0 5 rfl rfl)
abbrev cX17_init : ByteArray := prog_12_method_1_code
def yX17_init : MethodName := ⟨RX17, "<init>", "(LDimpleWells$Term;LDimpleWells$Term;)V"⟩
def dkwX17_init_0 : List UInt8 := [42, 43, 44, 183, 0, 1, 177]
abbrev dktX17_init_0 : List UInt8 := dkwX17_init_0 ++ []
theorem dksX17_init_0 : cX17_init.data.toList.drop 0 = dktX17_init_0 := by decide +kernel
theorem dX17_init_0 : decode cX17_init 0 = .ok (.aload_n 0, 1) := dk_42 (dk_at dksX17_init_0 0 rfl rfl)
theorem dX17_init_1 : decode cX17_init 1 = .ok (.aload_n 1, 1) := dk_43 (dk_at dksX17_init_0 1 rfl rfl)
theorem dX17_init_2 : decode cX17_init 2 = .ok (.aload_n 2, 1) := dk_44 (dk_at dksX17_init_0 2 rfl rfl)
theorem dX17_init_3 : decode cX17_init 3 = .ok (.invokespecial 1, 3) := dk_183 0 1 (dk_at dksX17_init_0 3 rfl rfl)
theorem dX17_init_6 : decode cX17_init 6 = .ok (.return_, 1) := dk_177 (dk_at dksX17_init_0 6 rfl rfl)
theorem q132 : (Jvm.Cond.initialized "DimpleWells$Least") ∈ lw_all := lw_g (lw_at lw_m1 36 rfl) rfl
theorem q884 : (Jvm.Cond.selects "DimpleWells$Least" ({ cls := "DimpleWells$Two", name := "with", desc := "(II)I" } : Jvm.MethodName) ({ cls := "DimpleWells$Least", name := "with", desc := "(II)I" } : Jvm.MethodName)) ∈ lw_all := lw_g (lw_at lw_m4 68 rfl) rfl
theorem q885 : (Jvm.Cond.instanceMethod ({ cls := "DimpleWells$Least", name := "with", desc := "(II)I" } : Jvm.MethodName)) ∈ lw_all := lw_g (lw_at lw_m4 69 rfl) rfl
theorem q886 : (Jvm.Cond.code ({ cls := "DimpleWells$Least", name := "with", desc := "(II)I" } : Jvm.MethodName) prog_12_method_2_code (3 : Nat) (Option.some Jvm.ClassFile.FieldType.int)) ∈ lw_all := lw_g (lw_at lw_m4 70 rfl) rfl
theorem q887 : (Jvm.Cond.methodLink "DimpleWells$Least" (7 : Nat) ({ cls := "java/lang/Math", name := "min", desc := "(II)I" } : Jvm.MethodName)) ∈ lw_all := lw_g (lw_at lw_m4 71 rfl) rfl
theorem q905 : (Jvm.Cond.selects "DimpleWells$Least" ({ cls := "DimpleWells$Term", name := "of", desc := "([I)I" } : Jvm.MethodName) ({ cls := "DimpleWells$Two", name := "of", desc := "([I)I" } : Jvm.MethodName)) ∈ lw_all := lw_g (lw_at lw_m4 89 rfl) rfl
theorem q1253 : (Jvm.Cond.selects "DimpleWells$Least" ({ cls := "java/lang/Object", name := "getClass", desc := "()Ljava/lang/Class;" } : Jvm.MethodName) ({ cls := "java/lang/Object", name := "getClass", desc := "()Ljava/lang/Class;" } : Jvm.MethodName)) ∈ lw_all := lw_g (lw_at lw_m5 197 rfl) rfl
theorem q1393 : (Jvm.Cond.instantiable "DimpleWells$Least" (2 : Nat)) ∈ lw_all := lw_g (lw_at lw_m6 97 rfl) rfl
theorem q1395 : (Jvm.Cond.instanceMethod ({ cls := "DimpleWells$Least", name := "<init>", desc := "(LDimpleWells$Term;LDimpleWells$Term;)V" } : Jvm.MethodName)) ∈ lw_all := lw_g (lw_at lw_m6 99 rfl) rfl
theorem q1396 : (Jvm.Cond.code ({ cls := "DimpleWells$Least", name := "<init>", desc := "(LDimpleWells$Term;LDimpleWells$Term;)V" } : Jvm.MethodName) prog_12_method_1_code (3 : Nat) (Option.none : Option Jvm.ClassFile.FieldType)) ∈ lw_all := lw_g (lw_at lw_m6 100 rfl) rfl
theorem q1397 : (Jvm.Cond.methodLink "DimpleWells$Least" (1 : Nat) ({ cls := "DimpleWells$Two", name := "<init>", desc := "(LDimpleWells$Term;LDimpleWells$Term;)V" } : Jvm.MethodName)) ∈ lw_all := lw_g (lw_at lw_m6 101 rfl) rfl
theorem q1398 : (Jvm.Cond.laysFinal "DimpleWells$Least" "DimpleWells$Two" "a" "LDimpleWells$Term;") ∈ lw_all := lw_g (lw_at lw_m6 102 rfl) rfl
theorem q1399 : (Jvm.Cond.laysFinal "DimpleWells$Least" "DimpleWells$Two" "b" "LDimpleWells$Term;") ∈ lw_all := lw_g (lw_at lw_m6 103 rfl) rfl
theorem q1400 : (Jvm.Cond.superclass "DimpleWells$Least" "DimpleWells$Two") ∈ lw_all := lw_g (lw_at lw_m6 104 rfl) rfl
theorem q2599 : (Jvm.Cond.castable "DimpleWells$Least" "java/lang/Object") ∈ lw_tbl := lw_at lw_m11 103 rfl
theorem in_X17 : ∀ w ∈ wsX170, w ∈ lw_all := lw_in wsX170 [1398, 1399] (by decide +kernel) (by decide +kernel)
/-! DimpleWells$Most -/
set_option maxRecDepth 100000
def RX18 : String := "DimpleWells$Most"
def TX18 : u_T := fun k => match k with
  | 0 => ("DimpleWells$Two", "a", "LDimpleWells$Term;", true)
  | _ => ("DimpleWells$Two", "b", "LDimpleWells$Term;", true)
def tyX18 : Nat → FieldType := fun k => match k with
  | 0 => .object "DimpleWells$Term"
  | _ => .object "DimpleWells$Term"
abbrev wsX180 : List Cond := u_ws RX18 TX18 2
theorem nmX18 : ∀ a, a < 2 → ∀ b, b < 2 → a ≠ b → (TX18 a).2.1 ≠ (TX18 b).2.1 := by decide +kernel
theorem tyX18_ok : ∀ k, k < 2 → parseFieldDescriptor (TX18 k).2.2.1 = some (tyX18 k) := by decide +kernel
abbrev cX18_with : ByteArray := prog_15_method_2_code
def yX18_with : MethodName := ⟨RX18, "with", "(II)I"⟩
def dkwX18_with_0 : List UInt8 := [27, 28, 184, 0, 7, 172]
abbrev dktX18_with_0 : List UInt8 := dkwX18_with_0 ++ []
theorem dksX18_with_0 : cX18_with.data.toList.drop 0 = dktX18_with_0 := by decide +kernel
theorem dX18_with_0 : decode cX18_with 0 = .ok (.iload_n 1, 1) := dk_27 (dk_at dksX18_with_0 0 rfl rfl)
theorem dX18_with_1 : decode cX18_with 1 = .ok (.iload_n 2, 1) := dk_28 (dk_at dksX18_with_0 1 rfl rfl)
theorem dX18_with_2 : decode cX18_with 2 = .ok (.invokestatic 7, 3) := dk_184 0 7 (dk_at dksX18_with_0 2 rfl rfl)
theorem dX18_with_5 : decode cX18_with 5 = .ok (.ireturn, 1) := dk_172 (dk_at dksX18_with_0 5 rfl rfl)
abbrev cX18_init : ByteArray := prog_15_method_1_code
def yX18_init : MethodName := ⟨RX18, "<init>", "(LDimpleWells$Term;LDimpleWells$Term;)V"⟩
def dkwX18_init_0 : List UInt8 := [42, 43, 44, 183, 0, 1, 177]
abbrev dktX18_init_0 : List UInt8 := dkwX18_init_0 ++ []
theorem dksX18_init_0 : cX18_init.data.toList.drop 0 = dktX18_init_0 := by decide +kernel
theorem dX18_init_0 : decode cX18_init 0 = .ok (.aload_n 0, 1) := dk_42 (dk_at dksX18_init_0 0 rfl rfl)
theorem dX18_init_1 : decode cX18_init 1 = .ok (.aload_n 1, 1) := dk_43 (dk_at dksX18_init_0 1 rfl rfl)
theorem dX18_init_2 : decode cX18_init 2 = .ok (.aload_n 2, 1) := dk_44 (dk_at dksX18_init_0 2 rfl rfl)
theorem dX18_init_3 : decode cX18_init 3 = .ok (.invokespecial 1, 3) := dk_183 0 1 (dk_at dksX18_init_0 3 rfl rfl)
theorem dX18_init_6 : decode cX18_init 6 = .ok (.return_, 1) := dk_177 (dk_at dksX18_init_0 6 rfl rfl)
theorem q133 : (Jvm.Cond.initialized "DimpleWells$Most") ∈ lw_all := lw_g (lw_at lw_m1 37 rfl) rfl
theorem q894 : (Jvm.Cond.selects "DimpleWells$Most" ({ cls := "DimpleWells$Two", name := "with", desc := "(II)I" } : Jvm.MethodName) ({ cls := "DimpleWells$Most", name := "with", desc := "(II)I" } : Jvm.MethodName)) ∈ lw_all := lw_g (lw_at lw_m4 78 rfl) rfl
theorem q895 : (Jvm.Cond.instanceMethod ({ cls := "DimpleWells$Most", name := "with", desc := "(II)I" } : Jvm.MethodName)) ∈ lw_all := lw_g (lw_at lw_m4 79 rfl) rfl
theorem q896 : (Jvm.Cond.code ({ cls := "DimpleWells$Most", name := "with", desc := "(II)I" } : Jvm.MethodName) prog_15_method_2_code (3 : Nat) (Option.some Jvm.ClassFile.FieldType.int)) ∈ lw_all := lw_g (lw_at lw_m4 80 rfl) rfl
theorem q897 : (Jvm.Cond.methodLink "DimpleWells$Most" (7 : Nat) ({ cls := "java/lang/Math", name := "max", desc := "(II)I" } : Jvm.MethodName)) ∈ lw_all := lw_g (lw_at lw_m4 81 rfl) rfl
theorem q908 : (Jvm.Cond.selects "DimpleWells$Most" ({ cls := "DimpleWells$Term", name := "of", desc := "([I)I" } : Jvm.MethodName) ({ cls := "DimpleWells$Two", name := "of", desc := "([I)I" } : Jvm.MethodName)) ∈ lw_all := lw_g (lw_at lw_m4 92 rfl) rfl
theorem q1256 : (Jvm.Cond.selects "DimpleWells$Most" ({ cls := "java/lang/Object", name := "getClass", desc := "()Ljava/lang/Class;" } : Jvm.MethodName) ({ cls := "java/lang/Object", name := "getClass", desc := "()Ljava/lang/Class;" } : Jvm.MethodName)) ∈ lw_all := lw_g (lw_at lw_m5 200 rfl) rfl
theorem q1402 : (Jvm.Cond.instantiable "DimpleWells$Most" (2 : Nat)) ∈ lw_all := lw_g (lw_at lw_m6 106 rfl) rfl
theorem q1404 : (Jvm.Cond.instanceMethod ({ cls := "DimpleWells$Most", name := "<init>", desc := "(LDimpleWells$Term;LDimpleWells$Term;)V" } : Jvm.MethodName)) ∈ lw_all := lw_g (lw_at lw_m6 108 rfl) rfl
theorem q1405 : (Jvm.Cond.code ({ cls := "DimpleWells$Most", name := "<init>", desc := "(LDimpleWells$Term;LDimpleWells$Term;)V" } : Jvm.MethodName) prog_15_method_1_code (3 : Nat) (Option.none : Option Jvm.ClassFile.FieldType)) ∈ lw_all := lw_g (lw_at lw_m6 109 rfl) rfl
theorem q1406 : (Jvm.Cond.methodLink "DimpleWells$Most" (1 : Nat) ({ cls := "DimpleWells$Two", name := "<init>", desc := "(LDimpleWells$Term;LDimpleWells$Term;)V" } : Jvm.MethodName)) ∈ lw_all := lw_g (lw_at lw_m6 110 rfl) rfl
theorem q1407 : (Jvm.Cond.laysFinal "DimpleWells$Most" "DimpleWells$Two" "a" "LDimpleWells$Term;") ∈ lw_all := lw_g (lw_at lw_m6 111 rfl) rfl
theorem q1408 : (Jvm.Cond.laysFinal "DimpleWells$Most" "DimpleWells$Two" "b" "LDimpleWells$Term;") ∈ lw_all := lw_g (lw_at lw_m6 112 rfl) rfl
theorem q1409 : (Jvm.Cond.superclass "DimpleWells$Most" "DimpleWells$Two") ∈ lw_all := lw_g (lw_at lw_m6 113 rfl) rfl
theorem q2600 : (Jvm.Cond.castable "DimpleWells$Most" "java/lang/Object") ∈ lw_tbl := lw_at lw_m11 104 rfl
theorem in_X18 : ∀ w ∈ wsX180, w ∈ lw_all := lw_in wsX180 [1407, 1408] (by decide +kernel) (by decide +kernel)
/-! DimpleWells$By -/
set_option maxRecDepth 100000
def RX19 : String := "DimpleWells$By"
def TX19 : u_T := fun k => match k with
  | 0 => ("DimpleWells$Two", "a", "LDimpleWells$Term;", true)
  | _ => ("DimpleWells$Two", "b", "LDimpleWells$Term;", true)
def tyX19 : Nat → FieldType := fun k => match k with
  | 0 => .object "DimpleWells$Term"
  | _ => .object "DimpleWells$Term"
abbrev wsX190 : List Cond := u_ws RX19 TX19 2
theorem nmX19 : ∀ a, a < 2 → ∀ b, b < 2 → a ≠ b → (TX19 a).2.1 ≠ (TX19 b).2.1 := by decide +kernel
theorem tyX19_ok : ∀ k, k < 2 → parseFieldDescriptor (TX19 k).2.2.1 = some (tyX19 k) := by decide +kernel
abbrev cX19_with : ByteArray := prog_5_method_2_code
def yX19_with : MethodName := ⟨RX19, "with", "(II)I"⟩
def dkwX19_with_0 : List UInt8 := [28, 154, 0, 7, 3, 167, 0, 6, 27, 28, 108, 172]
abbrev dktX19_with_0 : List UInt8 := dkwX19_with_0 ++ []
theorem dksX19_with_0 : cX19_with.data.toList.drop 0 = dktX19_with_0 := by decide +kernel
theorem dX19_with_0 : decode cX19_with 0 = .ok (.iload_n 2, 1) := dk_28 (dk_at dksX19_with_0 0 rfl rfl)
theorem dX19_with_1 : decode cX19_with 1 = .ok (.ifCond .ne 7, 3) := dk_154 0 7 (dk_at dksX19_with_0 1 rfl rfl)
theorem dX19_with_4 : decode cX19_with 4 = .ok (.iconst 0, 1) := dk_3 (dk_at dksX19_with_0 4 rfl rfl)
theorem dX19_with_5 : decode cX19_with 5 = .ok (.goto 6, 3) := dk_167 0 6 (dk_at dksX19_with_0 5 rfl rfl)
theorem dX19_with_8 : decode cX19_with 8 = .ok (.iload_n 1, 1) := dk_27 (dk_at dksX19_with_0 8 rfl rfl)
theorem dX19_with_9 : decode cX19_with 9 = .ok (.iload_n 2, 1) := dk_28 (dk_at dksX19_with_0 9 rfl rfl)
theorem dX19_with_10 : decode cX19_with 10 = .ok (.idiv, 1) := dk_108 (dk_at dksX19_with_0 10 rfl rfl)
theorem dX19_with_11 : decode cX19_with 11 = .ok (.ireturn, 1) := dk_172 (dk_at dksX19_with_0 11 rfl rfl)
abbrev cX19_init : ByteArray := prog_5_method_1_code
def yX19_init : MethodName := ⟨RX19, "<init>", "(LDimpleWells$Term;LDimpleWells$Term;)V"⟩
def dkwX19_init_0 : List UInt8 := [42, 43, 44, 183, 0, 1, 177]
abbrev dktX19_init_0 : List UInt8 := dkwX19_init_0 ++ []
theorem dksX19_init_0 : cX19_init.data.toList.drop 0 = dktX19_init_0 := by decide +kernel
theorem dX19_init_0 : decode cX19_init 0 = .ok (.aload_n 0, 1) := dk_42 (dk_at dksX19_init_0 0 rfl rfl)
theorem dX19_init_1 : decode cX19_init 1 = .ok (.aload_n 1, 1) := dk_43 (dk_at dksX19_init_0 1 rfl rfl)
theorem dX19_init_2 : decode cX19_init 2 = .ok (.aload_n 2, 1) := dk_44 (dk_at dksX19_init_0 2 rfl rfl)
theorem dX19_init_3 : decode cX19_init 3 = .ok (.invokespecial 1, 3) := dk_183 0 1 (dk_at dksX19_init_0 3 rfl rfl)
theorem dX19_init_6 : decode cX19_init 6 = .ok (.return_, 1) := dk_177 (dk_at dksX19_init_0 6 rfl rfl)
theorem q134 : (Jvm.Cond.initialized "DimpleWells$By") ∈ lw_all := lw_g (lw_at lw_m1 38 rfl) rfl
theorem q870 : (Jvm.Cond.selects "DimpleWells$By" ({ cls := "DimpleWells$Term", name := "of", desc := "([I)I" } : Jvm.MethodName) ({ cls := "DimpleWells$Two", name := "of", desc := "([I)I" } : Jvm.MethodName)) ∈ lw_all := lw_g (lw_at lw_m4 54 rfl) rfl
theorem q881 : (Jvm.Cond.selects "DimpleWells$By" ({ cls := "DimpleWells$Two", name := "with", desc := "(II)I" } : Jvm.MethodName) ({ cls := "DimpleWells$By", name := "with", desc := "(II)I" } : Jvm.MethodName)) ∈ lw_all := lw_g (lw_at lw_m4 65 rfl) rfl
theorem q882 : (Jvm.Cond.instanceMethod ({ cls := "DimpleWells$By", name := "with", desc := "(II)I" } : Jvm.MethodName)) ∈ lw_all := lw_g (lw_at lw_m4 66 rfl) rfl
theorem q883 : (Jvm.Cond.code ({ cls := "DimpleWells$By", name := "with", desc := "(II)I" } : Jvm.MethodName) prog_5_method_2_code (3 : Nat) (Option.some Jvm.ClassFile.FieldType.int)) ∈ lw_all := lw_g (lw_at lw_m4 67 rfl) rfl
theorem q1246 : (Jvm.Cond.selects "DimpleWells$By" ({ cls := "java/lang/Object", name := "getClass", desc := "()Ljava/lang/Class;" } : Jvm.MethodName) ({ cls := "java/lang/Object", name := "getClass", desc := "()Ljava/lang/Class;" } : Jvm.MethodName)) ∈ lw_all := lw_g (lw_at lw_m5 190 rfl) rfl
theorem q1416 : (Jvm.Cond.instantiable "DimpleWells$By" (2 : Nat)) ∈ lw_all := lw_g (lw_at lw_m6 120 rfl) rfl
theorem q1418 : (Jvm.Cond.instanceMethod ({ cls := "DimpleWells$By", name := "<init>", desc := "(LDimpleWells$Term;LDimpleWells$Term;)V" } : Jvm.MethodName)) ∈ lw_all := lw_g (lw_at lw_m6 122 rfl) rfl
theorem q1419 : (Jvm.Cond.code ({ cls := "DimpleWells$By", name := "<init>", desc := "(LDimpleWells$Term;LDimpleWells$Term;)V" } : Jvm.MethodName) prog_5_method_1_code (3 : Nat) (Option.none : Option Jvm.ClassFile.FieldType)) ∈ lw_all := lw_g (lw_at lw_m6 123 rfl) rfl
theorem q1420 : (Jvm.Cond.methodLink "DimpleWells$By" (1 : Nat) ({ cls := "DimpleWells$Two", name := "<init>", desc := "(LDimpleWells$Term;LDimpleWells$Term;)V" } : Jvm.MethodName)) ∈ lw_all := lw_g (lw_at lw_m6 124 rfl) rfl
theorem q1421 : (Jvm.Cond.laysFinal "DimpleWells$By" "DimpleWells$Two" "a" "LDimpleWells$Term;") ∈ lw_all := lw_g (lw_at lw_m6 125 rfl) rfl
theorem q1422 : (Jvm.Cond.laysFinal "DimpleWells$By" "DimpleWells$Two" "b" "LDimpleWells$Term;") ∈ lw_all := lw_g (lw_at lw_m6 126 rfl) rfl
theorem q1423 : (Jvm.Cond.superclass "DimpleWells$By" "DimpleWells$Two") ∈ lw_all := lw_g (lw_at lw_m6 127 rfl) rfl
theorem q2601 : (Jvm.Cond.castable "DimpleWells$By" "java/lang/Object") ∈ lw_tbl := lw_at lw_m11 105 rfl
theorem in_X19 : ∀ w ∈ wsX190, w ∈ lw_all := lw_in wsX190 [1421, 1422] (by decide +kernel) (by decide +kernel)
/-! DimpleWells$Leaves -/
set_option maxRecDepth 100000
def RX20 : String := "DimpleWells$Leaves"
def TX20 : u_T := fun k => match k with
  | 0 => ("DimpleWells$Two", "a", "LDimpleWells$Term;", true)
  | _ => ("DimpleWells$Two", "b", "LDimpleWells$Term;", true)
def tyX20 : Nat → FieldType := fun k => match k with
  | 0 => .object "DimpleWells$Term"
  | _ => .object "DimpleWells$Term"
abbrev wsX200 : List Cond := u_ws RX20 TX20 2
theorem nmX20 : ∀ a, a < 2 → ∀ b, b < 2 → a ≠ b → (TX20 a).2.1 ≠ (TX20 b).2.1 := by decide +kernel
theorem tyX20_ok : ∀ k, k < 2 → parseFieldDescriptor (TX20 k).2.2.1 = some (tyX20 k) := by decide +kernel
abbrev cX20_with : ByteArray := prog_13_method_2_code
def yX20_with : MethodName := ⟨RX20, "with", "(II)I"⟩
def dkwX20_with_0 : List UInt8 := [28, 154, 0, 7, 3, 167, 0, 6, 27, 28, 112, 172]
abbrev dktX20_with_0 : List UInt8 := dkwX20_with_0 ++ []
theorem dksX20_with_0 : cX20_with.data.toList.drop 0 = dktX20_with_0 := by decide +kernel
theorem dX20_with_0 : decode cX20_with 0 = .ok (.iload_n 2, 1) := dk_28 (dk_at dksX20_with_0 0 rfl rfl)
theorem dX20_with_1 : decode cX20_with 1 = .ok (.ifCond .ne 7, 3) := dk_154 0 7 (dk_at dksX20_with_0 1 rfl rfl)
theorem dX20_with_4 : decode cX20_with 4 = .ok (.iconst 0, 1) := dk_3 (dk_at dksX20_with_0 4 rfl rfl)
theorem dX20_with_5 : decode cX20_with 5 = .ok (.goto 6, 3) := dk_167 0 6 (dk_at dksX20_with_0 5 rfl rfl)
theorem dX20_with_8 : decode cX20_with 8 = .ok (.iload_n 1, 1) := dk_27 (dk_at dksX20_with_0 8 rfl rfl)
theorem dX20_with_9 : decode cX20_with 9 = .ok (.iload_n 2, 1) := dk_28 (dk_at dksX20_with_0 9 rfl rfl)
theorem dX20_with_10 : decode cX20_with 10 = .ok (.irem, 1) := dk_112 (dk_at dksX20_with_0 10 rfl rfl)
theorem dX20_with_11 : decode cX20_with 11 = .ok (.ireturn, 1) := dk_172 (dk_at dksX20_with_0 11 rfl rfl)
abbrev cX20_init : ByteArray := prog_13_method_1_code
def yX20_init : MethodName := ⟨RX20, "<init>", "(LDimpleWells$Term;LDimpleWells$Term;)V"⟩
def dkwX20_init_0 : List UInt8 := [42, 43, 44, 183, 0, 1, 177]
abbrev dktX20_init_0 : List UInt8 := dkwX20_init_0 ++ []
theorem dksX20_init_0 : cX20_init.data.toList.drop 0 = dktX20_init_0 := by decide +kernel
theorem dX20_init_0 : decode cX20_init 0 = .ok (.aload_n 0, 1) := dk_42 (dk_at dksX20_init_0 0 rfl rfl)
theorem dX20_init_1 : decode cX20_init 1 = .ok (.aload_n 1, 1) := dk_43 (dk_at dksX20_init_0 1 rfl rfl)
theorem dX20_init_2 : decode cX20_init 2 = .ok (.aload_n 2, 1) := dk_44 (dk_at dksX20_init_0 2 rfl rfl)
theorem dX20_init_3 : decode cX20_init 3 = .ok (.invokespecial 1, 3) := dk_183 0 1 (dk_at dksX20_init_0 3 rfl rfl)
theorem dX20_init_6 : decode cX20_init 6 = .ok (.return_, 1) := dk_177 (dk_at dksX20_init_0 6 rfl rfl)
theorem q135 : (Jvm.Cond.initialized "DimpleWells$Leaves") ∈ lw_all := lw_g (lw_at lw_m1 39 rfl) rfl
theorem q888 : (Jvm.Cond.selects "DimpleWells$Leaves" ({ cls := "DimpleWells$Two", name := "with", desc := "(II)I" } : Jvm.MethodName) ({ cls := "DimpleWells$Leaves", name := "with", desc := "(II)I" } : Jvm.MethodName)) ∈ lw_all := lw_g (lw_at lw_m4 72 rfl) rfl
theorem q889 : (Jvm.Cond.instanceMethod ({ cls := "DimpleWells$Leaves", name := "with", desc := "(II)I" } : Jvm.MethodName)) ∈ lw_all := lw_g (lw_at lw_m4 73 rfl) rfl
theorem q890 : (Jvm.Cond.code ({ cls := "DimpleWells$Leaves", name := "with", desc := "(II)I" } : Jvm.MethodName) prog_13_method_2_code (3 : Nat) (Option.some Jvm.ClassFile.FieldType.int)) ∈ lw_all := lw_g (lw_at lw_m4 74 rfl) rfl
theorem q906 : (Jvm.Cond.selects "DimpleWells$Leaves" ({ cls := "DimpleWells$Term", name := "of", desc := "([I)I" } : Jvm.MethodName) ({ cls := "DimpleWells$Two", name := "of", desc := "([I)I" } : Jvm.MethodName)) ∈ lw_all := lw_g (lw_at lw_m4 90 rfl) rfl
theorem q1254 : (Jvm.Cond.selects "DimpleWells$Leaves" ({ cls := "java/lang/Object", name := "getClass", desc := "()Ljava/lang/Class;" } : Jvm.MethodName) ({ cls := "java/lang/Object", name := "getClass", desc := "()Ljava/lang/Class;" } : Jvm.MethodName)) ∈ lw_all := lw_g (lw_at lw_m5 198 rfl) rfl
theorem q1425 : (Jvm.Cond.instantiable "DimpleWells$Leaves" (2 : Nat)) ∈ lw_all := lw_g (lw_at lw_m6 129 rfl) rfl
theorem q1427 : (Jvm.Cond.instanceMethod ({ cls := "DimpleWells$Leaves", name := "<init>", desc := "(LDimpleWells$Term;LDimpleWells$Term;)V" } : Jvm.MethodName)) ∈ lw_all := lw_g (lw_at lw_m6 131 rfl) rfl
theorem q1428 : (Jvm.Cond.code ({ cls := "DimpleWells$Leaves", name := "<init>", desc := "(LDimpleWells$Term;LDimpleWells$Term;)V" } : Jvm.MethodName) prog_13_method_1_code (3 : Nat) (Option.none : Option Jvm.ClassFile.FieldType)) ∈ lw_all := lw_g (lw_at lw_m6 132 rfl) rfl
theorem q1429 : (Jvm.Cond.methodLink "DimpleWells$Leaves" (1 : Nat) ({ cls := "DimpleWells$Two", name := "<init>", desc := "(LDimpleWells$Term;LDimpleWells$Term;)V" } : Jvm.MethodName)) ∈ lw_all := lw_g (lw_at lw_m6 133 rfl) rfl
theorem q1430 : (Jvm.Cond.laysFinal "DimpleWells$Leaves" "DimpleWells$Two" "a" "LDimpleWells$Term;") ∈ lw_all := lw_g (lw_at lw_m6 134 rfl) rfl
theorem q1431 : (Jvm.Cond.laysFinal "DimpleWells$Leaves" "DimpleWells$Two" "b" "LDimpleWells$Term;") ∈ lw_all := lw_g (lw_at lw_m6 135 rfl) rfl
theorem q1432 : (Jvm.Cond.superclass "DimpleWells$Leaves" "DimpleWells$Two") ∈ lw_all := lw_g (lw_at lw_m6 136 rfl) rfl
theorem q2602 : (Jvm.Cond.castable "DimpleWells$Leaves" "java/lang/Object") ∈ lw_tbl := lw_at lw_m11 106 rfl
theorem in_X20 : ∀ w ∈ wsX200, w ∈ lw_all := lw_in wsX200 [1430, 1431] (by decide +kernel) (by decide +kernel)
/-! DimpleWells$Plus -/
set_option maxRecDepth 100000
def RX21 : String := "DimpleWells$Plus"
def TX21 : u_T := fun k => match k with
  | 0 => ("DimpleWells$Two", "a", "LDimpleWells$Term;", true)
  | _ => ("DimpleWells$Two", "b", "LDimpleWells$Term;", true)
def tyX21 : Nat → FieldType := fun k => match k with
  | 0 => .object "DimpleWells$Term"
  | _ => .object "DimpleWells$Term"
abbrev wsX210 : List Cond := u_ws RX21 TX21 2
theorem nmX21 : ∀ a, a < 2 → ∀ b, b < 2 → a ≠ b → (TX21 a).2.1 ≠ (TX21 b).2.1 := by decide +kernel
theorem tyX21_ok : ∀ k, k < 2 → parseFieldDescriptor (TX21 k).2.2.1 = some (tyX21 k) := by decide +kernel
abbrev cX21_with : ByteArray := prog_19_method_2_code
def yX21_with : MethodName := ⟨RX21, "with", "(II)I"⟩
def dkwX21_with_0 : List UInt8 := [27, 28, 96, 172]
abbrev dktX21_with_0 : List UInt8 := dkwX21_with_0 ++ []
theorem dksX21_with_0 : cX21_with.data.toList.drop 0 = dktX21_with_0 := by decide +kernel
theorem dX21_with_0 : decode cX21_with 0 = .ok (.iload_n 1, 1) := dk_27 (dk_at dksX21_with_0 0 rfl rfl)
theorem dX21_with_1 : decode cX21_with 1 = .ok (.iload_n 2, 1) := dk_28 (dk_at dksX21_with_0 1 rfl rfl)
theorem dX21_with_2 : decode cX21_with 2 = .ok (.iadd, 1) := dk_96 (dk_at dksX21_with_0 2 rfl rfl)
theorem dX21_with_3 : decode cX21_with 3 = .ok (.ireturn, 1) := dk_172 (dk_at dksX21_with_0 3 rfl rfl)
abbrev cX21_init : ByteArray := prog_19_method_1_code
def yX21_init : MethodName := ⟨RX21, "<init>", "(LDimpleWells$Term;LDimpleWells$Term;)V"⟩
def dkwX21_init_0 : List UInt8 := [42, 43, 44, 183, 0, 1, 177]
abbrev dktX21_init_0 : List UInt8 := dkwX21_init_0 ++ []
theorem dksX21_init_0 : cX21_init.data.toList.drop 0 = dktX21_init_0 := by decide +kernel
theorem dX21_init_0 : decode cX21_init 0 = .ok (.aload_n 0, 1) := dk_42 (dk_at dksX21_init_0 0 rfl rfl)
theorem dX21_init_1 : decode cX21_init 1 = .ok (.aload_n 1, 1) := dk_43 (dk_at dksX21_init_0 1 rfl rfl)
theorem dX21_init_2 : decode cX21_init 2 = .ok (.aload_n 2, 1) := dk_44 (dk_at dksX21_init_0 2 rfl rfl)
theorem dX21_init_3 : decode cX21_init 3 = .ok (.invokespecial 1, 3) := dk_183 0 1 (dk_at dksX21_init_0 3 rfl rfl)
theorem dX21_init_6 : decode cX21_init 6 = .ok (.return_, 1) := dk_177 (dk_at dksX21_init_0 6 rfl rfl)
theorem q136 : (Jvm.Cond.initialized "DimpleWells$Plus") ∈ lw_all := lw_g (lw_at lw_m1 40 rfl) rfl
theorem q898 : (Jvm.Cond.selects "DimpleWells$Plus" ({ cls := "DimpleWells$Two", name := "with", desc := "(II)I" } : Jvm.MethodName) ({ cls := "DimpleWells$Plus", name := "with", desc := "(II)I" } : Jvm.MethodName)) ∈ lw_all := lw_g (lw_at lw_m4 82 rfl) rfl
theorem q899 : (Jvm.Cond.instanceMethod ({ cls := "DimpleWells$Plus", name := "with", desc := "(II)I" } : Jvm.MethodName)) ∈ lw_all := lw_g (lw_at lw_m4 83 rfl) rfl
theorem q900 : (Jvm.Cond.code ({ cls := "DimpleWells$Plus", name := "with", desc := "(II)I" } : Jvm.MethodName) prog_19_method_2_code (3 : Nat) (Option.some Jvm.ClassFile.FieldType.int)) ∈ lw_all := lw_g (lw_at lw_m4 84 rfl) rfl
theorem q910 : (Jvm.Cond.selects "DimpleWells$Plus" ({ cls := "DimpleWells$Term", name := "of", desc := "([I)I" } : Jvm.MethodName) ({ cls := "DimpleWells$Two", name := "of", desc := "([I)I" } : Jvm.MethodName)) ∈ lw_all := lw_g (lw_at lw_m4 94 rfl) rfl
theorem q1260 : (Jvm.Cond.selects "DimpleWells$Plus" ({ cls := "java/lang/Object", name := "getClass", desc := "()Ljava/lang/Class;" } : Jvm.MethodName) ({ cls := "java/lang/Object", name := "getClass", desc := "()Ljava/lang/Class;" } : Jvm.MethodName)) ∈ lw_all := lw_g (lw_at lw_m5 204 rfl) rfl
theorem q1434 : (Jvm.Cond.instantiable "DimpleWells$Plus" (2 : Nat)) ∈ lw_all := lw_g (lw_at lw_m6 138 rfl) rfl
theorem q1436 : (Jvm.Cond.instanceMethod ({ cls := "DimpleWells$Plus", name := "<init>", desc := "(LDimpleWells$Term;LDimpleWells$Term;)V" } : Jvm.MethodName)) ∈ lw_all := lw_g (lw_at lw_m6 140 rfl) rfl
theorem q1437 : (Jvm.Cond.code ({ cls := "DimpleWells$Plus", name := "<init>", desc := "(LDimpleWells$Term;LDimpleWells$Term;)V" } : Jvm.MethodName) prog_19_method_1_code (3 : Nat) (Option.none : Option Jvm.ClassFile.FieldType)) ∈ lw_all := lw_g (lw_at lw_m6 141 rfl) rfl
theorem q1438 : (Jvm.Cond.methodLink "DimpleWells$Plus" (1 : Nat) ({ cls := "DimpleWells$Two", name := "<init>", desc := "(LDimpleWells$Term;LDimpleWells$Term;)V" } : Jvm.MethodName)) ∈ lw_all := lw_g (lw_at lw_m6 142 rfl) rfl
theorem q1439 : (Jvm.Cond.laysFinal "DimpleWells$Plus" "DimpleWells$Two" "a" "LDimpleWells$Term;") ∈ lw_all := lw_g (lw_at lw_m6 143 rfl) rfl
theorem q1440 : (Jvm.Cond.laysFinal "DimpleWells$Plus" "DimpleWells$Two" "b" "LDimpleWells$Term;") ∈ lw_all := lw_g (lw_at lw_m6 144 rfl) rfl
theorem q1441 : (Jvm.Cond.superclass "DimpleWells$Plus" "DimpleWells$Two") ∈ lw_all := lw_g (lw_at lw_m6 145 rfl) rfl
theorem q2603 : (Jvm.Cond.castable "DimpleWells$Plus" "java/lang/Object") ∈ lw_tbl := lw_at lw_m11 107 rfl
theorem in_X21 : ∀ w ∈ wsX210, w ∈ lw_all := lw_in wsX210 [1439, 1440] (by decide +kernel) (by decide +kernel)
/-! DimpleWells$WorkReader -/
set_option maxRecDepth 100000
def RX22 : String := "DimpleWells$WorkReader"
def TX22 : u_T := fun k => match k with
  | 0 => ("DimpleWells$Reader", "text", "[B", true)
  | 1 => ("DimpleWells$Reader", "size", "I", true)
  | 2 => ("DimpleWells$Reader", "next", "I", false)
  | 3 => ("DimpleWells$Reader", "from", "I", false)
  | 4 => ("DimpleWells$Reader", "open", "I", false)
  | _ => ("DimpleWells$WorkReader", "t", "LDimpleWells$Told;", true)
def tyX22 : Nat → FieldType := fun k => match k with
  | 0 => .array .byte
  | 1 => .int
  | 2 => .int
  | 3 => .int
  | 4 => .int
  | _ => .object "DimpleWells$Told"
abbrev wsX220 : List Cond := u_ws RX22 TX22 6
theorem nmX22 : ∀ a, a < 6 → ∀ b, b < 6 → a ≠ b → (TX22 a).2.1 ≠ (TX22 b).2.1 := by decide +kernel
theorem tyX22_ok : ∀ k, k < 6 → parseFieldDescriptor (TX22 k).2.2.1 = some (tyX22 k) := by decide +kernel
abbrev cX22_init : ByteArray := prog_29_method_1_code
def yX22_init : MethodName := ⟨RX22, "<init>", "([BILDimpleWells$Told;)V"⟩
def dkwX22_init_0 : List UInt8 := [42, 43, 28, 183, 0, 3, 42, 45, 181, 0, 9, 177]
abbrev dktX22_init_0 : List UInt8 := dkwX22_init_0 ++ []
theorem dksX22_init_0 : cX22_init.data.toList.drop 0 = dktX22_init_0 := by decide +kernel
theorem dX22_init_0 : decode cX22_init 0 = .ok (.aload_n 0, 1) := dk_42 (dk_at dksX22_init_0 0 rfl rfl)
theorem dX22_init_1 : decode cX22_init 1 = .ok (.aload_n 1, 1) := dk_43 (dk_at dksX22_init_0 1 rfl rfl)
theorem dX22_init_2 : decode cX22_init 2 = .ok (.iload_n 2, 1) := dk_28 (dk_at dksX22_init_0 2 rfl rfl)
theorem dX22_init_3 : decode cX22_init 3 = .ok (.invokespecial 3, 3) := dk_183 0 3 (dk_at dksX22_init_0 3 rfl rfl)
theorem dX22_init_6 : decode cX22_init 6 = .ok (.aload_n 0, 1) := dk_42 (dk_at dksX22_init_0 6 rfl rfl)
theorem dX22_init_7 : decode cX22_init 7 = .ok (.aload_n 3, 1) := dk_45 (dk_at dksX22_init_0 7 rfl rfl)
theorem dX22_init_8 : decode cX22_init 8 = .ok (.putfield 9, 3) := dk_181 0 9 (dk_at dksX22_init_0 8 rfl rfl)
theorem dX22_init_11 : decode cX22_init 11 = .ok (.return_, 1) := dk_177 (dk_at dksX22_init_0 11 rfl rfl)
abbrev cX22_reads : ByteArray := prog_29_method_2_code
def yX22_reads : MethodName := ⟨RX22, "reads", "()Ljava/util/ArrayList;"⟩
def dkwX22_reads_1 : List UInt8 := [162, 0, 20, 43, 42, 182, 0, 31, 182, 0, 35, 87, 42, 182, 0, 20, 87, 167, 255, 231, 43, 176]
abbrev dktX22_reads_1 : List UInt8 := dkwX22_reads_1 ++ []
def dkwX22_reads_0 : List UInt8 := [187, 0, 15, 89, 5, 183, 0, 17, 76, 42, 182, 0, 20, 87, 42, 180, 0, 24, 42, 180, 0, 28]
abbrev dktX22_reads_0 : List UInt8 := dkwX22_reads_0 ++ dktX22_reads_1
theorem dksX22_reads_0 : cX22_reads.data.toList.drop 0 = dktX22_reads_0 := by decide +kernel
theorem dksX22_reads_1 : cX22_reads.data.toList.drop 22 = dktX22_reads_1 := dk_seg dksX22_reads_0 22 rfl rfl
theorem dX22_reads_0 : decode cX22_reads 0 = .ok (.new 15, 3) := dk_187 0 15 (dk_at dksX22_reads_0 0 rfl rfl)
theorem dX22_reads_3 : decode cX22_reads 3 = .ok (.dup, 1) := dk_89 (dk_at dksX22_reads_0 3 rfl rfl)
theorem dX22_reads_4 : decode cX22_reads 4 = .ok (.iconst 2, 1) := dk_5 (dk_at dksX22_reads_0 4 rfl rfl)
theorem dX22_reads_5 : decode cX22_reads 5 = .ok (.invokespecial 17, 3) := dk_183 0 17 (dk_at dksX22_reads_0 5 rfl rfl)
theorem dX22_reads_8 : decode cX22_reads 8 = .ok (.astore_n 1, 1) := dk_76 (dk_at dksX22_reads_0 8 rfl rfl)
theorem dX22_reads_9 : decode cX22_reads 9 = .ok (.aload_n 0, 1) := dk_42 (dk_at dksX22_reads_0 9 rfl rfl)
theorem dX22_reads_10 : decode cX22_reads 10 = .ok (.invokevirtual 20, 3) := dk_182 0 20 (dk_at dksX22_reads_0 10 rfl rfl)
theorem dX22_reads_13 : decode cX22_reads 13 = .ok (.pop, 1) := dk_87 (dk_at dksX22_reads_0 13 rfl rfl)
theorem dX22_reads_14 : decode cX22_reads 14 = .ok (.aload_n 0, 1) := dk_42 (dk_at dksX22_reads_0 14 rfl rfl)
theorem dX22_reads_15 : decode cX22_reads 15 = .ok (.getfield 24, 3) := dk_180 0 24 (dk_at dksX22_reads_0 15 rfl rfl)
theorem dX22_reads_18 : decode cX22_reads 18 = .ok (.aload_n 0, 1) := dk_42 (dk_at dksX22_reads_0 18 rfl rfl)
theorem dX22_reads_19 : decode cX22_reads 19 = .ok (.getfield 28, 3) := dk_180 0 28 (dk_at dksX22_reads_0 19 rfl rfl)
theorem dX22_reads_22 : decode cX22_reads 22 = .ok (.if_icmp .ge 20, 3) := dk_162 0 20 (dk_at dksX22_reads_1 0 rfl rfl)
theorem dX22_reads_25 : decode cX22_reads 25 = .ok (.aload_n 1, 1) := dk_43 (dk_at dksX22_reads_1 3 rfl rfl)
theorem dX22_reads_26 : decode cX22_reads 26 = .ok (.aload_n 0, 1) := dk_42 (dk_at dksX22_reads_1 4 rfl rfl)
theorem dX22_reads_27 : decode cX22_reads 27 = .ok (.invokevirtual 31, 3) := dk_182 0 31 (dk_at dksX22_reads_1 5 rfl rfl)
theorem dX22_reads_30 : decode cX22_reads 30 = .ok (.invokevirtual 35, 3) := dk_182 0 35 (dk_at dksX22_reads_1 8 rfl rfl)
theorem dX22_reads_33 : decode cX22_reads 33 = .ok (.pop, 1) := dk_87 (dk_at dksX22_reads_1 11 rfl rfl)
theorem dX22_reads_34 : decode cX22_reads 34 = .ok (.aload_n 0, 1) := dk_42 (dk_at dksX22_reads_1 12 rfl rfl)
theorem dX22_reads_35 : decode cX22_reads 35 = .ok (.invokevirtual 20, 3) := dk_182 0 20 (dk_at dksX22_reads_1 13 rfl rfl)
theorem dX22_reads_38 : decode cX22_reads 38 = .ok (.pop, 1) := dk_87 (dk_at dksX22_reads_1 16 rfl rfl)
theorem dX22_reads_39 : decode cX22_reads 39 = .ok (.goto (-25), 3) := dk_167 255 231 (dk_at dksX22_reads_1 17 rfl rfl)
theorem dX22_reads_42 : decode cX22_reads 42 = .ok (.aload_n 1, 1) := dk_43 (dk_at dksX22_reads_1 20 rfl rfl)
theorem dX22_reads_43 : decode cX22_reads 43 = .ok (.areturn, 1) := dk_176 (dk_at dksX22_reads_1 21 rfl rfl)
abbrev cX22_step : ByteArray := prog_29_method_4_code
def yX22_step : MethodName := ⟨RX22, "step", "()LDimpleWells$Step;"⟩
def dkwX22_step_8 : List UInt8 := [182, 0, 82, 77, 167, 0, 8, 42, 182, 0, 84, 191, 42, 16, 59, 182, 0, 88, 44, 176]
abbrev dktX22_step_8 : List UInt8 := dkwX22_step_8 ++ []
def dkwX22_step_7 : List UInt8 := [42, 89, 180, 0, 24, 43, 182, 0, 75, 96, 181, 0, 24, 42, 43, 182, 0, 78, 77, 167, 0, 16, 42]
abbrev dktX22_step_7 : List UInt8 := dkwX22_step_7 ++ dktX22_step_8
def dkwX22_step_6 : List UInt8 := [170, 0, 0, 0, 0, 0, 69, 0, 0, 0, 0, 0, 0, 0, 5, 0, 0, 0, 39, 0, 0, 0, 39, 0, 0, 0, 39, 0, 0, 0, 39, 0, 0, 0, 39, 0, 0, 0, 61]
abbrev dktX22_step_6 : List UInt8 := dkwX22_step_6 ++ dktX22_step_7
def dkwX22_step_5 : List UInt8 := [167, 0, 15, 45, 18, 73, 182, 0, 62, 153, 0, 6, 8, 54, 4, 21, 4]
abbrev dktX22_step_5 : List UInt8 := dkwX22_step_5 ++ dktX22_step_6
def dkwX22_step_4 : List UInt8 := [182, 0, 62, 153, 0, 36, 6, 54, 4, 167, 0, 30, 45, 18, 71, 182, 0, 62, 153, 0, 21, 7, 54, 4]
abbrev dktX22_step_4 : List UInt8 := dkwX22_step_4 ++ dktX22_step_5
def dkwX22_step_3 : List UInt8 := [4, 54, 4, 167, 0, 60, 45, 18, 67, 182, 0, 62, 153, 0, 51, 5, 54, 4, 167, 0, 45, 45, 18, 69]
abbrev dktX22_step_3 : List UInt8 := dkwX22_step_3 ++ dktX22_step_4
def dkwX22_step_2 : List UInt8 := [45, 18, 60, 182, 0, 62, 153, 0, 81, 3, 54, 4, 167, 0, 75, 45, 18, 65, 182, 0, 62, 153, 0, 66]
abbrev dktX22_step_2 : List UInt8 := dkwX22_step_2 ++ dktX22_step_3
def dkwX22_step_1 : List UInt8 := [171, 0, 0, 0, 0, 145, 0, 0, 0, 6, 182, 58, 228, 54, 0, 0, 0, 73, 0, 1, 131, 156, 0, 0, 0, 118, 0, 52, 152, 220, 0, 0, 0, 103, 0, 54, 67, 177, 0, 0, 0, 58, 5, 135, 51, 96, 0, 0, 0, 133, 5, 163, 229, 77, 0, 0, 0, 88]
abbrev dktX22_step_1 : List UInt8 := dkwX22_step_1 ++ dktX22_step_2
def dkwX22_step_0 : List UInt8 := [42, 182, 0, 51, 76, 43, 78, 2, 54, 4, 45, 182, 0, 55]
abbrev dktX22_step_0 : List UInt8 := dkwX22_step_0 ++ dktX22_step_1
theorem dksX22_step_0 : cX22_step.data.toList.drop 0 = dktX22_step_0 := by decide +kernel
theorem dksX22_step_1 : cX22_step.data.toList.drop 14 = dktX22_step_1 := dk_seg dksX22_step_0 14 rfl rfl
theorem dksX22_step_2 : cX22_step.data.toList.drop 72 = dktX22_step_2 := dk_seg dksX22_step_1 58 rfl rfl
theorem dksX22_step_3 : cX22_step.data.toList.drop 96 = dktX22_step_3 := dk_seg dksX22_step_2 24 rfl rfl
theorem dksX22_step_4 : cX22_step.data.toList.drop 120 = dktX22_step_4 := dk_seg dksX22_step_3 24 rfl rfl
theorem dksX22_step_5 : cX22_step.data.toList.drop 144 = dktX22_step_5 := dk_seg dksX22_step_4 24 rfl rfl
theorem dksX22_step_6 : cX22_step.data.toList.drop 161 = dktX22_step_6 := dk_seg dksX22_step_5 17 rfl rfl
theorem dksX22_step_7 : cX22_step.data.toList.drop 200 = dktX22_step_7 := dk_seg dksX22_step_6 39 rfl rfl
theorem dksX22_step_8 : cX22_step.data.toList.drop 223 = dktX22_step_8 := dk_seg dksX22_step_7 23 rfl rfl
theorem dX22_step_0 : decode cX22_step 0 = .ok (.aload_n 0, 1) := dk_42 (dk_at dksX22_step_0 0 rfl rfl)
theorem dX22_step_1 : decode cX22_step 1 = .ok (.invokevirtual 51, 3) := dk_182 0 51 (dk_at dksX22_step_0 1 rfl rfl)
theorem dX22_step_4 : decode cX22_step 4 = .ok (.astore_n 1, 1) := dk_76 (dk_at dksX22_step_0 4 rfl rfl)
theorem dX22_step_5 : decode cX22_step 5 = .ok (.aload_n 1, 1) := dk_43 (dk_at dksX22_step_0 5 rfl rfl)
theorem dX22_step_6 : decode cX22_step 6 = .ok (.astore_n 3, 1) := dk_78 (dk_at dksX22_step_0 6 rfl rfl)
theorem dX22_step_7 : decode cX22_step 7 = .ok (.iconst (-1), 1) := dk_2 (dk_at dksX22_step_0 7 rfl rfl)
theorem dX22_step_8 : decode cX22_step 8 = .ok (.istore 4, 2) := dk_54 4 (dk_at dksX22_step_0 8 rfl rfl)
theorem dX22_step_10 : decode cX22_step 10 = .ok (.aload_n 3, 1) := dk_45 (dk_at dksX22_step_0 10 rfl rfl)
theorem dX22_step_11 : decode cX22_step 11 = .ok (.invokevirtual 55, 3) := dk_182 0 55 (dk_at dksX22_step_0 11 rfl rfl)
theorem dX22_step_14 : decode cX22_step 14 = .ok (.lookupswitch 145 #[(-1237654474, 73), (99228, 118), (3447004, 103), (3556273, 58), (92746592, 133), (94627149, 88)], 58) := by decide +kernel
theorem dX22_step_72 : decode cX22_step 72 = .ok (.aload_n 3, 1) := dk_45 (dk_at dksX22_step_2 0 rfl rfl)
theorem dX22_step_73 : decode cX22_step 73 = .ok (.ldc 60, 2) := dk_18 60 (dk_at dksX22_step_2 1 rfl rfl)
theorem dX22_step_75 : decode cX22_step 75 = .ok (.invokevirtual 62, 3) := dk_182 0 62 (dk_at dksX22_step_2 3 rfl rfl)
theorem dX22_step_78 : decode cX22_step 78 = .ok (.ifCond .eq 81, 3) := dk_153 0 81 (dk_at dksX22_step_2 6 rfl rfl)
theorem dX22_step_81 : decode cX22_step 81 = .ok (.iconst 0, 1) := dk_3 (dk_at dksX22_step_2 9 rfl rfl)
theorem dX22_step_82 : decode cX22_step 82 = .ok (.istore 4, 2) := dk_54 4 (dk_at dksX22_step_2 10 rfl rfl)
theorem dX22_step_84 : decode cX22_step 84 = .ok (.goto 75, 3) := dk_167 0 75 (dk_at dksX22_step_2 12 rfl rfl)
theorem dX22_step_87 : decode cX22_step 87 = .ok (.aload_n 3, 1) := dk_45 (dk_at dksX22_step_2 15 rfl rfl)
theorem dX22_step_88 : decode cX22_step 88 = .ok (.ldc 65, 2) := dk_18 65 (dk_at dksX22_step_2 16 rfl rfl)
theorem dX22_step_90 : decode cX22_step 90 = .ok (.invokevirtual 62, 3) := dk_182 0 62 (dk_at dksX22_step_2 18 rfl rfl)
theorem dX22_step_93 : decode cX22_step 93 = .ok (.ifCond .eq 66, 3) := dk_153 0 66 (dk_at dksX22_step_2 21 rfl rfl)
theorem dX22_step_96 : decode cX22_step 96 = .ok (.iconst 1, 1) := dk_4 (dk_at dksX22_step_3 0 rfl rfl)
theorem dX22_step_97 : decode cX22_step 97 = .ok (.istore 4, 2) := dk_54 4 (dk_at dksX22_step_3 1 rfl rfl)
theorem dX22_step_99 : decode cX22_step 99 = .ok (.goto 60, 3) := dk_167 0 60 (dk_at dksX22_step_3 3 rfl rfl)
theorem dX22_step_102 : decode cX22_step 102 = .ok (.aload_n 3, 1) := dk_45 (dk_at dksX22_step_3 6 rfl rfl)
theorem dX22_step_103 : decode cX22_step 103 = .ok (.ldc 67, 2) := dk_18 67 (dk_at dksX22_step_3 7 rfl rfl)
theorem dX22_step_105 : decode cX22_step 105 = .ok (.invokevirtual 62, 3) := dk_182 0 62 (dk_at dksX22_step_3 9 rfl rfl)
theorem dX22_step_108 : decode cX22_step 108 = .ok (.ifCond .eq 51, 3) := dk_153 0 51 (dk_at dksX22_step_3 12 rfl rfl)
theorem dX22_step_111 : decode cX22_step 111 = .ok (.iconst 2, 1) := dk_5 (dk_at dksX22_step_3 15 rfl rfl)
theorem dX22_step_112 : decode cX22_step 112 = .ok (.istore 4, 2) := dk_54 4 (dk_at dksX22_step_3 16 rfl rfl)
theorem dX22_step_114 : decode cX22_step 114 = .ok (.goto 45, 3) := dk_167 0 45 (dk_at dksX22_step_3 18 rfl rfl)
theorem dX22_step_117 : decode cX22_step 117 = .ok (.aload_n 3, 1) := dk_45 (dk_at dksX22_step_3 21 rfl rfl)
theorem dX22_step_118 : decode cX22_step 118 = .ok (.ldc 69, 2) := dk_18 69 (dk_at dksX22_step_3 22 rfl rfl)
theorem dX22_step_120 : decode cX22_step 120 = .ok (.invokevirtual 62, 3) := dk_182 0 62 (dk_at dksX22_step_4 0 rfl rfl)
theorem dX22_step_123 : decode cX22_step 123 = .ok (.ifCond .eq 36, 3) := dk_153 0 36 (dk_at dksX22_step_4 3 rfl rfl)
theorem dX22_step_126 : decode cX22_step 126 = .ok (.iconst 3, 1) := dk_6 (dk_at dksX22_step_4 6 rfl rfl)
theorem dX22_step_127 : decode cX22_step 127 = .ok (.istore 4, 2) := dk_54 4 (dk_at dksX22_step_4 7 rfl rfl)
theorem dX22_step_129 : decode cX22_step 129 = .ok (.goto 30, 3) := dk_167 0 30 (dk_at dksX22_step_4 9 rfl rfl)
theorem dX22_step_132 : decode cX22_step 132 = .ok (.aload_n 3, 1) := dk_45 (dk_at dksX22_step_4 12 rfl rfl)
theorem dX22_step_133 : decode cX22_step 133 = .ok (.ldc 71, 2) := dk_18 71 (dk_at dksX22_step_4 13 rfl rfl)
theorem dX22_step_135 : decode cX22_step 135 = .ok (.invokevirtual 62, 3) := dk_182 0 62 (dk_at dksX22_step_4 15 rfl rfl)
theorem dX22_step_138 : decode cX22_step 138 = .ok (.ifCond .eq 21, 3) := dk_153 0 21 (dk_at dksX22_step_4 18 rfl rfl)
theorem dX22_step_141 : decode cX22_step 141 = .ok (.iconst 4, 1) := dk_7 (dk_at dksX22_step_4 21 rfl rfl)
theorem dX22_step_142 : decode cX22_step 142 = .ok (.istore 4, 2) := dk_54 4 (dk_at dksX22_step_4 22 rfl rfl)
theorem dX22_step_144 : decode cX22_step 144 = .ok (.goto 15, 3) := dk_167 0 15 (dk_at dksX22_step_5 0 rfl rfl)
theorem dX22_step_147 : decode cX22_step 147 = .ok (.aload_n 3, 1) := dk_45 (dk_at dksX22_step_5 3 rfl rfl)
theorem dX22_step_148 : decode cX22_step 148 = .ok (.ldc 73, 2) := dk_18 73 (dk_at dksX22_step_5 4 rfl rfl)
theorem dX22_step_150 : decode cX22_step 150 = .ok (.invokevirtual 62, 3) := dk_182 0 62 (dk_at dksX22_step_5 6 rfl rfl)
theorem dX22_step_153 : decode cX22_step 153 = .ok (.ifCond .eq 6, 3) := dk_153 0 6 (dk_at dksX22_step_5 9 rfl rfl)
theorem dX22_step_156 : decode cX22_step 156 = .ok (.iconst 5, 1) := dk_8 (dk_at dksX22_step_5 12 rfl rfl)
theorem dX22_step_157 : decode cX22_step 157 = .ok (.istore 4, 2) := dk_54 4 (dk_at dksX22_step_5 13 rfl rfl)
theorem dX22_step_159 : decode cX22_step 159 = .ok (.iload 4, 2) := dk_21 4 (dk_at dksX22_step_5 15 rfl rfl)
theorem dX22_step_161 : decode cX22_step 161 = .ok (.tableswitch 69 0 5 #[39, 39, 39, 39, 39, 61], 39) := by decide +kernel
theorem dX22_step_200 : decode cX22_step 200 = .ok (.aload_n 0, 1) := dk_42 (dk_at dksX22_step_7 0 rfl rfl)
theorem dX22_step_201 : decode cX22_step 201 = .ok (.dup, 1) := dk_89 (dk_at dksX22_step_7 1 rfl rfl)
theorem dX22_step_202 : decode cX22_step 202 = .ok (.getfield 24, 3) := dk_180 0 24 (dk_at dksX22_step_7 2 rfl rfl)
theorem dX22_step_205 : decode cX22_step 205 = .ok (.aload_n 1, 1) := dk_43 (dk_at dksX22_step_7 5 rfl rfl)
theorem dX22_step_206 : decode cX22_step 206 = .ok (.invokevirtual 75, 3) := dk_182 0 75 (dk_at dksX22_step_7 6 rfl rfl)
theorem dX22_step_209 : decode cX22_step 209 = .ok (.iadd, 1) := dk_96 (dk_at dksX22_step_7 9 rfl rfl)
theorem dX22_step_210 : decode cX22_step 210 = .ok (.putfield 24, 3) := dk_181 0 24 (dk_at dksX22_step_7 10 rfl rfl)
theorem dX22_step_213 : decode cX22_step 213 = .ok (.aload_n 0, 1) := dk_42 (dk_at dksX22_step_7 13 rfl rfl)
theorem dX22_step_214 : decode cX22_step 214 = .ok (.aload_n 1, 1) := dk_43 (dk_at dksX22_step_7 14 rfl rfl)
theorem dX22_step_215 : decode cX22_step 215 = .ok (.invokevirtual 78, 3) := dk_182 0 78 (dk_at dksX22_step_7 15 rfl rfl)
theorem dX22_step_218 : decode cX22_step 218 = .ok (.astore_n 2, 1) := dk_77 (dk_at dksX22_step_7 18 rfl rfl)
theorem dX22_step_219 : decode cX22_step 219 = .ok (.goto 16, 3) := dk_167 0 16 (dk_at dksX22_step_7 19 rfl rfl)
theorem dX22_step_222 : decode cX22_step 222 = .ok (.aload_n 0, 1) := dk_42 (dk_at dksX22_step_7 22 rfl rfl)
theorem dX22_step_223 : decode cX22_step 223 = .ok (.invokevirtual 82, 3) := dk_182 0 82 (dk_at dksX22_step_8 0 rfl rfl)
theorem dX22_step_226 : decode cX22_step 226 = .ok (.astore_n 2, 1) := dk_77 (dk_at dksX22_step_8 3 rfl rfl)
theorem dX22_step_227 : decode cX22_step 227 = .ok (.goto 8, 3) := dk_167 0 8 (dk_at dksX22_step_8 4 rfl rfl)
theorem dX22_step_230 : decode cX22_step 230 = .ok (.aload_n 0, 1) := dk_42 (dk_at dksX22_step_8 7 rfl rfl)
theorem dX22_step_231 : decode cX22_step 231 = .ok (.invokevirtual 84, 3) := dk_182 0 84 (dk_at dksX22_step_8 8 rfl rfl)
theorem dX22_step_234 : decode cX22_step 234 = .ok (.athrow, 1) := dk_191 (dk_at dksX22_step_8 11 rfl rfl)
theorem dX22_step_235 : decode cX22_step 235 = .ok (.aload_n 0, 1) := dk_42 (dk_at dksX22_step_8 12 rfl rfl)
theorem dX22_step_236 : decode cX22_step 236 = .ok (.bipush 59, 2) := dk_16 59 (dk_at dksX22_step_8 13 rfl rfl)
theorem dX22_step_238 : decode cX22_step 238 = .ok (.invokevirtual 88, 3) := dk_182 0 88 (dk_at dksX22_step_8 15 rfl rfl)
theorem dX22_step_241 : decode cX22_step 241 = .ok (.aload_n 2, 1) := dk_44 (dk_at dksX22_step_8 18 rfl rfl)
theorem dX22_step_242 : decode cX22_step 242 = .ok (.areturn, 1) := dk_176 (dk_at dksX22_step_8 19 rfl rfl)
abbrev cX22_act : ByteArray := prog_29_method_5_code
def yX22_act : MethodName := ⟨RX22, "act", "(Ljava/lang/String;)LDimpleWells$Step;"⟩
def dkwX22_act_9 : List UInt8 := [89, 42, 4, 16, 99, 182, 0, 47, 183, 0, 110, 176, 187, 0, 111, 89, 183, 0, 113, 176]
abbrev dktX22_act_9 : List UInt8 := dkwX22_act_9 ++ []
def dkwX22_act_8 : List UInt8 := [16, 9, 182, 0, 47, 183, 0, 104, 176, 187, 0, 105, 89, 42, 182, 0, 96, 183, 0, 107, 176, 187, 0, 108]
abbrev dktX22_act_8 : List UInt8 := dkwX22_act_8 ++ dktX22_act_9
def dkwX22_act_7 : List UInt8 := [21, 4, 42, 182, 0, 96, 183, 0, 99, 176, 42, 182, 0, 96, 54, 4, 187, 0, 102, 89, 21, 4, 42, 4]
abbrev dktX22_act_7 : List UInt8 := dkwX22_act_7 ++ dktX22_act_8
def dkwX22_act_6 : List UInt8 := [42, 3, 42, 180, 0, 9, 180, 0, 91, 182, 0, 45, 4, 100, 182, 0, 47, 54, 4, 187, 0, 94, 89]
abbrev dktX22_act_6 : List UInt8 := dkwX22_act_6 ++ dktX22_act_7
def dkwX22_act_5 : List UInt8 := [170, 0, 0, 0, 0, 113, 0, 0, 0, 0, 0, 0, 0, 3, 0, 0, 0, 30, 0, 0, 0, 63, 0, 0, 0, 86, 0, 0, 0, 98]
abbrev dktX22_act_5 : List UInt8 := dkwX22_act_5 ++ dktX22_act_6
def dkwX22_act_4 : List UInt8 := [153, 0, 5, 6, 62, 29]
abbrev dktX22_act_4 : List UInt8 := dkwX22_act_4 ++ dktX22_act_5
def dkwX22_act_3 : List UInt8 := [62, 167, 0, 28, 44, 18, 67, 182, 0, 62, 153, 0, 19, 5, 62, 167, 0, 14, 44, 18, 69, 182, 0, 62]
abbrev dktX22_act_3 : List UInt8 := dkwX22_act_3 ++ dktX22_act_4
def dkwX22_act_2 : List UInt8 := [44, 18, 60, 182, 0, 62, 153, 0, 47, 3, 62, 167, 0, 42, 44, 18, 65, 182, 0, 62, 153, 0, 33, 4]
abbrev dktX22_act_2 : List UInt8 := dkwX22_act_2 ++ dktX22_act_3
def dkwX22_act_1 : List UInt8 := [171, 0, 0, 0, 0, 0, 0, 97, 0, 0, 0, 4, 182, 58, 228, 54, 0, 0, 0, 58, 0, 52, 152, 220, 0, 0, 0, 86, 0, 54, 67, 177, 0, 0, 0, 44, 5, 163, 229, 77, 0, 0, 0, 72]
abbrev dktX22_act_1 : List UInt8 := dkwX22_act_1 ++ dktX22_act_2
def dkwX22_act_0 : List UInt8 := [43, 77, 2, 62, 44, 182, 0, 55]
abbrev dktX22_act_0 : List UInt8 := dkwX22_act_0 ++ dktX22_act_1
theorem dksX22_act_0 : cX22_act.data.toList.drop 0 = dktX22_act_0 := by decide +kernel
theorem dksX22_act_1 : cX22_act.data.toList.drop 8 = dktX22_act_1 := dk_seg dksX22_act_0 8 rfl rfl
theorem dksX22_act_2 : cX22_act.data.toList.drop 52 = dktX22_act_2 := dk_seg dksX22_act_1 44 rfl rfl
theorem dksX22_act_3 : cX22_act.data.toList.drop 76 = dktX22_act_3 := dk_seg dksX22_act_2 24 rfl rfl
theorem dksX22_act_4 : cX22_act.data.toList.drop 100 = dktX22_act_4 := dk_seg dksX22_act_3 24 rfl rfl
theorem dksX22_act_5 : cX22_act.data.toList.drop 106 = dktX22_act_5 := dk_seg dksX22_act_4 6 rfl rfl
theorem dksX22_act_6 : cX22_act.data.toList.drop 136 = dktX22_act_6 := dk_seg dksX22_act_5 30 rfl rfl
theorem dksX22_act_7 : cX22_act.data.toList.drop 159 = dktX22_act_7 := dk_seg dksX22_act_6 23 rfl rfl
theorem dksX22_act_8 : cX22_act.data.toList.drop 183 = dktX22_act_8 := dk_seg dksX22_act_7 24 rfl rfl
theorem dksX22_act_9 : cX22_act.data.toList.drop 207 = dktX22_act_9 := dk_seg dksX22_act_8 24 rfl rfl
theorem dX22_act_0 : decode cX22_act 0 = .ok (.aload_n 1, 1) := dk_43 (dk_at dksX22_act_0 0 rfl rfl)
theorem dX22_act_1 : decode cX22_act 1 = .ok (.astore_n 2, 1) := dk_77 (dk_at dksX22_act_0 1 rfl rfl)
theorem dX22_act_2 : decode cX22_act 2 = .ok (.iconst (-1), 1) := dk_2 (dk_at dksX22_act_0 2 rfl rfl)
theorem dX22_act_3 : decode cX22_act 3 = .ok (.istore_n 3, 1) := dk_62 (dk_at dksX22_act_0 3 rfl rfl)
theorem dX22_act_4 : decode cX22_act 4 = .ok (.aload_n 2, 1) := dk_44 (dk_at dksX22_act_0 4 rfl rfl)
theorem dX22_act_5 : decode cX22_act 5 = .ok (.invokevirtual 55, 3) := dk_182 0 55 (dk_at dksX22_act_0 5 rfl rfl)
theorem dX22_act_8 : decode cX22_act 8 = .ok (.lookupswitch 97 #[(-1237654474, 58), (3447004, 86), (3556273, 44), (94627149, 72)], 44) := by decide +kernel
theorem dX22_act_52 : decode cX22_act 52 = .ok (.aload_n 2, 1) := dk_44 (dk_at dksX22_act_2 0 rfl rfl)
theorem dX22_act_53 : decode cX22_act 53 = .ok (.ldc 60, 2) := dk_18 60 (dk_at dksX22_act_2 1 rfl rfl)
theorem dX22_act_55 : decode cX22_act 55 = .ok (.invokevirtual 62, 3) := dk_182 0 62 (dk_at dksX22_act_2 3 rfl rfl)
theorem dX22_act_58 : decode cX22_act 58 = .ok (.ifCond .eq 47, 3) := dk_153 0 47 (dk_at dksX22_act_2 6 rfl rfl)
theorem dX22_act_61 : decode cX22_act 61 = .ok (.iconst 0, 1) := dk_3 (dk_at dksX22_act_2 9 rfl rfl)
theorem dX22_act_62 : decode cX22_act 62 = .ok (.istore_n 3, 1) := dk_62 (dk_at dksX22_act_2 10 rfl rfl)
theorem dX22_act_63 : decode cX22_act 63 = .ok (.goto 42, 3) := dk_167 0 42 (dk_at dksX22_act_2 11 rfl rfl)
theorem dX22_act_66 : decode cX22_act 66 = .ok (.aload_n 2, 1) := dk_44 (dk_at dksX22_act_2 14 rfl rfl)
theorem dX22_act_67 : decode cX22_act 67 = .ok (.ldc 65, 2) := dk_18 65 (dk_at dksX22_act_2 15 rfl rfl)
theorem dX22_act_69 : decode cX22_act 69 = .ok (.invokevirtual 62, 3) := dk_182 0 62 (dk_at dksX22_act_2 17 rfl rfl)
theorem dX22_act_72 : decode cX22_act 72 = .ok (.ifCond .eq 33, 3) := dk_153 0 33 (dk_at dksX22_act_2 20 rfl rfl)
theorem dX22_act_75 : decode cX22_act 75 = .ok (.iconst 1, 1) := dk_4 (dk_at dksX22_act_2 23 rfl rfl)
theorem dX22_act_76 : decode cX22_act 76 = .ok (.istore_n 3, 1) := dk_62 (dk_at dksX22_act_3 0 rfl rfl)
theorem dX22_act_77 : decode cX22_act 77 = .ok (.goto 28, 3) := dk_167 0 28 (dk_at dksX22_act_3 1 rfl rfl)
theorem dX22_act_80 : decode cX22_act 80 = .ok (.aload_n 2, 1) := dk_44 (dk_at dksX22_act_3 4 rfl rfl)
theorem dX22_act_81 : decode cX22_act 81 = .ok (.ldc 67, 2) := dk_18 67 (dk_at dksX22_act_3 5 rfl rfl)
theorem dX22_act_83 : decode cX22_act 83 = .ok (.invokevirtual 62, 3) := dk_182 0 62 (dk_at dksX22_act_3 7 rfl rfl)
theorem dX22_act_86 : decode cX22_act 86 = .ok (.ifCond .eq 19, 3) := dk_153 0 19 (dk_at dksX22_act_3 10 rfl rfl)
theorem dX22_act_89 : decode cX22_act 89 = .ok (.iconst 2, 1) := dk_5 (dk_at dksX22_act_3 13 rfl rfl)
theorem dX22_act_90 : decode cX22_act 90 = .ok (.istore_n 3, 1) := dk_62 (dk_at dksX22_act_3 14 rfl rfl)
theorem dX22_act_91 : decode cX22_act 91 = .ok (.goto 14, 3) := dk_167 0 14 (dk_at dksX22_act_3 15 rfl rfl)
theorem dX22_act_94 : decode cX22_act 94 = .ok (.aload_n 2, 1) := dk_44 (dk_at dksX22_act_3 18 rfl rfl)
theorem dX22_act_95 : decode cX22_act 95 = .ok (.ldc 69, 2) := dk_18 69 (dk_at dksX22_act_3 19 rfl rfl)
theorem dX22_act_97 : decode cX22_act 97 = .ok (.invokevirtual 62, 3) := dk_182 0 62 (dk_at dksX22_act_3 21 rfl rfl)
theorem dX22_act_100 : decode cX22_act 100 = .ok (.ifCond .eq 5, 3) := dk_153 0 5 (dk_at dksX22_act_4 0 rfl rfl)
theorem dX22_act_103 : decode cX22_act 103 = .ok (.iconst 3, 1) := dk_6 (dk_at dksX22_act_4 3 rfl rfl)
theorem dX22_act_104 : decode cX22_act 104 = .ok (.istore_n 3, 1) := dk_62 (dk_at dksX22_act_4 4 rfl rfl)
theorem dX22_act_105 : decode cX22_act 105 = .ok (.iload_n 3, 1) := dk_29 (dk_at dksX22_act_4 5 rfl rfl)
theorem dX22_act_106 : decode cX22_act 106 = .ok (.tableswitch 113 0 3 #[30, 63, 86, 98], 30) := by decide +kernel
theorem dX22_act_136 : decode cX22_act 136 = .ok (.aload_n 0, 1) := dk_42 (dk_at dksX22_act_6 0 rfl rfl)
theorem dX22_act_137 : decode cX22_act 137 = .ok (.iconst 0, 1) := dk_3 (dk_at dksX22_act_6 1 rfl rfl)
theorem dX22_act_138 : decode cX22_act 138 = .ok (.aload_n 0, 1) := dk_42 (dk_at dksX22_act_6 2 rfl rfl)
theorem dX22_act_139 : decode cX22_act 139 = .ok (.getfield 9, 3) := dk_180 0 9 (dk_at dksX22_act_6 3 rfl rfl)
theorem dX22_act_142 : decode cX22_act 142 = .ok (.getfield 91, 3) := dk_180 0 91 (dk_at dksX22_act_6 6 rfl rfl)
theorem dX22_act_145 : decode cX22_act 145 = .ok (.invokevirtual 45, 3) := dk_182 0 45 (dk_at dksX22_act_6 9 rfl rfl)
theorem dX22_act_148 : decode cX22_act 148 = .ok (.iconst 1, 1) := dk_4 (dk_at dksX22_act_6 12 rfl rfl)
theorem dX22_act_149 : decode cX22_act 149 = .ok (.isub, 1) := dk_100 (dk_at dksX22_act_6 13 rfl rfl)
theorem dX22_act_150 : decode cX22_act 150 = .ok (.invokevirtual 47, 3) := dk_182 0 47 (dk_at dksX22_act_6 14 rfl rfl)
theorem dX22_act_153 : decode cX22_act 153 = .ok (.istore 4, 2) := dk_54 4 (dk_at dksX22_act_6 17 rfl rfl)
theorem dX22_act_155 : decode cX22_act 155 = .ok (.new 94, 3) := dk_187 0 94 (dk_at dksX22_act_6 19 rfl rfl)
theorem dX22_act_158 : decode cX22_act 158 = .ok (.dup, 1) := dk_89 (dk_at dksX22_act_6 22 rfl rfl)
theorem dX22_act_159 : decode cX22_act 159 = .ok (.iload 4, 2) := dk_21 4 (dk_at dksX22_act_7 0 rfl rfl)
theorem dX22_act_161 : decode cX22_act 161 = .ok (.aload_n 0, 1) := dk_42 (dk_at dksX22_act_7 2 rfl rfl)
theorem dX22_act_162 : decode cX22_act 162 = .ok (.invokevirtual 96, 3) := dk_182 0 96 (dk_at dksX22_act_7 3 rfl rfl)
theorem dX22_act_165 : decode cX22_act 165 = .ok (.invokespecial 99, 3) := dk_183 0 99 (dk_at dksX22_act_7 6 rfl rfl)
theorem dX22_act_168 : decode cX22_act 168 = .ok (.areturn, 1) := dk_176 (dk_at dksX22_act_7 9 rfl rfl)
theorem dX22_act_169 : decode cX22_act 169 = .ok (.aload_n 0, 1) := dk_42 (dk_at dksX22_act_7 10 rfl rfl)
theorem dX22_act_170 : decode cX22_act 170 = .ok (.invokevirtual 96, 3) := dk_182 0 96 (dk_at dksX22_act_7 11 rfl rfl)
theorem dX22_act_173 : decode cX22_act 173 = .ok (.istore 4, 2) := dk_54 4 (dk_at dksX22_act_7 14 rfl rfl)
theorem dX22_act_175 : decode cX22_act 175 = .ok (.new 102, 3) := dk_187 0 102 (dk_at dksX22_act_7 16 rfl rfl)
theorem dX22_act_178 : decode cX22_act 178 = .ok (.dup, 1) := dk_89 (dk_at dksX22_act_7 19 rfl rfl)
theorem dX22_act_179 : decode cX22_act 179 = .ok (.iload 4, 2) := dk_21 4 (dk_at dksX22_act_7 20 rfl rfl)
theorem dX22_act_181 : decode cX22_act 181 = .ok (.aload_n 0, 1) := dk_42 (dk_at dksX22_act_7 22 rfl rfl)
theorem dX22_act_182 : decode cX22_act 182 = .ok (.iconst 1, 1) := dk_4 (dk_at dksX22_act_7 23 rfl rfl)
theorem dX22_act_183 : decode cX22_act 183 = .ok (.bipush 9, 2) := dk_16 9 (dk_at dksX22_act_8 0 rfl rfl)
theorem dX22_act_185 : decode cX22_act 185 = .ok (.invokevirtual 47, 3) := dk_182 0 47 (dk_at dksX22_act_8 2 rfl rfl)
theorem dX22_act_188 : decode cX22_act 188 = .ok (.invokespecial 104, 3) := dk_183 0 104 (dk_at dksX22_act_8 5 rfl rfl)
theorem dX22_act_191 : decode cX22_act 191 = .ok (.areturn, 1) := dk_176 (dk_at dksX22_act_8 8 rfl rfl)
theorem dX22_act_192 : decode cX22_act 192 = .ok (.new 105, 3) := dk_187 0 105 (dk_at dksX22_act_8 9 rfl rfl)
theorem dX22_act_195 : decode cX22_act 195 = .ok (.dup, 1) := dk_89 (dk_at dksX22_act_8 12 rfl rfl)
theorem dX22_act_196 : decode cX22_act 196 = .ok (.aload_n 0, 1) := dk_42 (dk_at dksX22_act_8 13 rfl rfl)
theorem dX22_act_197 : decode cX22_act 197 = .ok (.invokevirtual 96, 3) := dk_182 0 96 (dk_at dksX22_act_8 14 rfl rfl)
theorem dX22_act_200 : decode cX22_act 200 = .ok (.invokespecial 107, 3) := dk_183 0 107 (dk_at dksX22_act_8 17 rfl rfl)
theorem dX22_act_203 : decode cX22_act 203 = .ok (.areturn, 1) := dk_176 (dk_at dksX22_act_8 20 rfl rfl)
theorem dX22_act_204 : decode cX22_act 204 = .ok (.new 108, 3) := dk_187 0 108 (dk_at dksX22_act_8 21 rfl rfl)
theorem dX22_act_207 : decode cX22_act 207 = .ok (.dup, 1) := dk_89 (dk_at dksX22_act_9 0 rfl rfl)
theorem dX22_act_208 : decode cX22_act 208 = .ok (.aload_n 0, 1) := dk_42 (dk_at dksX22_act_9 1 rfl rfl)
theorem dX22_act_209 : decode cX22_act 209 = .ok (.iconst 1, 1) := dk_4 (dk_at dksX22_act_9 2 rfl rfl)
theorem dX22_act_210 : decode cX22_act 210 = .ok (.bipush 99, 2) := dk_16 99 (dk_at dksX22_act_9 3 rfl rfl)
theorem dX22_act_212 : decode cX22_act 212 = .ok (.invokevirtual 47, 3) := dk_182 0 47 (dk_at dksX22_act_9 5 rfl rfl)
theorem dX22_act_215 : decode cX22_act 215 = .ok (.invokespecial 110, 3) := dk_183 0 110 (dk_at dksX22_act_9 8 rfl rfl)
theorem dX22_act_218 : decode cX22_act 218 = .ok (.areturn, 1) := dk_176 (dk_at dksX22_act_9 11 rfl rfl)
theorem dX22_act_219 : decode cX22_act 219 = .ok (.new 111, 3) := dk_187 0 111 (dk_at dksX22_act_9 12 rfl rfl)
theorem dX22_act_222 : decode cX22_act 222 = .ok (.dup, 1) := dk_89 (dk_at dksX22_act_9 15 rfl rfl)
theorem dX22_act_223 : decode cX22_act 223 = .ok (.invokespecial 113, 3) := dk_183 0 113 (dk_at dksX22_act_9 16 rfl rfl)
theorem dX22_act_226 : decode cX22_act 226 = .ok (.areturn, 1) := dk_176 (dk_at dksX22_act_9 19 rfl rfl)
abbrev cX22_person : ByteArray := prog_29_method_3_code
def yX22_person : MethodName := ⟨RX22, "person", "()I"⟩
def dkwX22_person_0 : List UInt8 := [42, 3, 42, 180, 0, 9, 180, 0, 39, 182, 0, 45, 4, 100, 182, 0, 47, 172]
abbrev dktX22_person_0 : List UInt8 := dkwX22_person_0 ++ []
theorem dksX22_person_0 : cX22_person.data.toList.drop 0 = dktX22_person_0 := by decide +kernel
theorem dX22_person_0 : decode cX22_person 0 = .ok (.aload_n 0, 1) := dk_42 (dk_at dksX22_person_0 0 rfl rfl)
theorem dX22_person_1 : decode cX22_person 1 = .ok (.iconst 0, 1) := dk_3 (dk_at dksX22_person_0 1 rfl rfl)
theorem dX22_person_2 : decode cX22_person 2 = .ok (.aload_n 0, 1) := dk_42 (dk_at dksX22_person_0 2 rfl rfl)
theorem dX22_person_3 : decode cX22_person 3 = .ok (.getfield 9, 3) := dk_180 0 9 (dk_at dksX22_person_0 3 rfl rfl)
theorem dX22_person_6 : decode cX22_person 6 = .ok (.getfield 39, 3) := dk_180 0 39 (dk_at dksX22_person_0 6 rfl rfl)
theorem dX22_person_9 : decode cX22_person 9 = .ok (.invokevirtual 45, 3) := dk_182 0 45 (dk_at dksX22_person_0 9 rfl rfl)
theorem dX22_person_12 : decode cX22_person 12 = .ok (.iconst 1, 1) := dk_4 (dk_at dksX22_person_0 12 rfl rfl)
theorem dX22_person_13 : decode cX22_person 13 = .ok (.isub, 1) := dk_100 (dk_at dksX22_person_0 13 rfl rfl)
theorem dX22_person_14 : decode cX22_person 14 = .ok (.invokevirtual 47, 3) := dk_182 0 47 (dk_at dksX22_person_0 14 rfl rfl)
theorem dX22_person_17 : decode cX22_person 17 = .ok (.ireturn, 1) := dk_172 (dk_at dksX22_person_0 17 rfl rfl)
abbrev cX22_again : ByteArray := prog_29_method_6_code
def yX22_again : MethodName := ⟨RX22, "again", "()LDimpleWells$Step;"⟩
def dkwX22_again_3 : List UInt8 := [176]
abbrev dktX22_again_3 : List UInt8 := dkwX22_again_3 ++ []
def dkwX22_again_2 : List UInt8 := [167, 255, 235, 42, 89, 180, 0, 24, 4, 96, 181, 0, 24, 42, 89, 180, 0, 125, 4, 100, 181, 0, 125, 43]
abbrev dktX22_again_2 : List UInt8 := dkwX22_again_2 ++ dktX22_again_3
def dkwX22_again_1 : List UInt8 := [182, 0, 88, 42, 182, 0, 20, 16, 93, 159, 0, 18, 43, 180, 0, 122, 42, 182, 0, 31, 182, 0, 35, 87]
abbrev dktX22_again_1 : List UInt8 := dkwX22_again_1 ++ dktX22_again_2
def dkwX22_again_0 : List UInt8 := [42, 8, 182, 0, 116, 187, 0, 119, 89, 42, 3, 16, 60, 182, 0, 47, 183, 0, 121, 76, 42, 16, 91]
abbrev dktX22_again_0 : List UInt8 := dkwX22_again_0 ++ dktX22_again_1
theorem dksX22_again_0 : cX22_again.data.toList.drop 0 = dktX22_again_0 := by decide +kernel
theorem dksX22_again_1 : cX22_again.data.toList.drop 23 = dktX22_again_1 := dk_seg dksX22_again_0 23 rfl rfl
theorem dksX22_again_2 : cX22_again.data.toList.drop 47 = dktX22_again_2 := dk_seg dksX22_again_1 24 rfl rfl
theorem dksX22_again_3 : cX22_again.data.toList.drop 71 = dktX22_again_3 := dk_seg dksX22_again_2 24 rfl rfl
theorem dX22_again_0 : decode cX22_again 0 = .ok (.aload_n 0, 1) := dk_42 (dk_at dksX22_again_0 0 rfl rfl)
theorem dX22_again_1 : decode cX22_again 1 = .ok (.iconst 5, 1) := dk_8 (dk_at dksX22_again_0 1 rfl rfl)
theorem dX22_again_2 : decode cX22_again 2 = .ok (.invokevirtual 116, 3) := dk_182 0 116 (dk_at dksX22_again_0 2 rfl rfl)
theorem dX22_again_5 : decode cX22_again 5 = .ok (.new 119, 3) := dk_187 0 119 (dk_at dksX22_again_0 5 rfl rfl)
theorem dX22_again_8 : decode cX22_again 8 = .ok (.dup, 1) := dk_89 (dk_at dksX22_again_0 8 rfl rfl)
theorem dX22_again_9 : decode cX22_again 9 = .ok (.aload_n 0, 1) := dk_42 (dk_at dksX22_again_0 9 rfl rfl)
theorem dX22_again_10 : decode cX22_again 10 = .ok (.iconst 0, 1) := dk_3 (dk_at dksX22_again_0 10 rfl rfl)
theorem dX22_again_11 : decode cX22_again 11 = .ok (.bipush 60, 2) := dk_16 60 (dk_at dksX22_again_0 11 rfl rfl)
theorem dX22_again_13 : decode cX22_again 13 = .ok (.invokevirtual 47, 3) := dk_182 0 47 (dk_at dksX22_again_0 13 rfl rfl)
theorem dX22_again_16 : decode cX22_again 16 = .ok (.invokespecial 121, 3) := dk_183 0 121 (dk_at dksX22_again_0 16 rfl rfl)
theorem dX22_again_19 : decode cX22_again 19 = .ok (.astore_n 1, 1) := dk_76 (dk_at dksX22_again_0 19 rfl rfl)
theorem dX22_again_20 : decode cX22_again 20 = .ok (.aload_n 0, 1) := dk_42 (dk_at dksX22_again_0 20 rfl rfl)
theorem dX22_again_21 : decode cX22_again 21 = .ok (.bipush 91, 2) := dk_16 91 (dk_at dksX22_again_0 21 rfl rfl)
theorem dX22_again_23 : decode cX22_again 23 = .ok (.invokevirtual 88, 3) := dk_182 0 88 (dk_at dksX22_again_1 0 rfl rfl)
theorem dX22_again_26 : decode cX22_again 26 = .ok (.aload_n 0, 1) := dk_42 (dk_at dksX22_again_1 3 rfl rfl)
theorem dX22_again_27 : decode cX22_again 27 = .ok (.invokevirtual 20, 3) := dk_182 0 20 (dk_at dksX22_again_1 4 rfl rfl)
theorem dX22_again_30 : decode cX22_again 30 = .ok (.bipush 93, 2) := dk_16 93 (dk_at dksX22_again_1 7 rfl rfl)
theorem dX22_again_32 : decode cX22_again 32 = .ok (.if_icmp .eq 18, 3) := dk_159 0 18 (dk_at dksX22_again_1 9 rfl rfl)
theorem dX22_again_35 : decode cX22_again 35 = .ok (.aload_n 1, 1) := dk_43 (dk_at dksX22_again_1 12 rfl rfl)
theorem dX22_again_36 : decode cX22_again 36 = .ok (.getfield 122, 3) := dk_180 0 122 (dk_at dksX22_again_1 13 rfl rfl)
theorem dX22_again_39 : decode cX22_again 39 = .ok (.aload_n 0, 1) := dk_42 (dk_at dksX22_again_1 16 rfl rfl)
theorem dX22_again_40 : decode cX22_again 40 = .ok (.invokevirtual 31, 3) := dk_182 0 31 (dk_at dksX22_again_1 17 rfl rfl)
theorem dX22_again_43 : decode cX22_again 43 = .ok (.invokevirtual 35, 3) := dk_182 0 35 (dk_at dksX22_again_1 20 rfl rfl)
theorem dX22_again_46 : decode cX22_again 46 = .ok (.pop, 1) := dk_87 (dk_at dksX22_again_1 23 rfl rfl)
theorem dX22_again_47 : decode cX22_again 47 = .ok (.goto (-21), 3) := dk_167 255 235 (dk_at dksX22_again_2 0 rfl rfl)
theorem dX22_again_50 : decode cX22_again 50 = .ok (.aload_n 0, 1) := dk_42 (dk_at dksX22_again_2 3 rfl rfl)
theorem dX22_again_51 : decode cX22_again 51 = .ok (.dup, 1) := dk_89 (dk_at dksX22_again_2 4 rfl rfl)
theorem dX22_again_52 : decode cX22_again 52 = .ok (.getfield 24, 3) := dk_180 0 24 (dk_at dksX22_again_2 5 rfl rfl)
theorem dX22_again_55 : decode cX22_again 55 = .ok (.iconst 1, 1) := dk_4 (dk_at dksX22_again_2 8 rfl rfl)
theorem dX22_again_56 : decode cX22_again 56 = .ok (.iadd, 1) := dk_96 (dk_at dksX22_again_2 9 rfl rfl)
theorem dX22_again_57 : decode cX22_again 57 = .ok (.putfield 24, 3) := dk_181 0 24 (dk_at dksX22_again_2 10 rfl rfl)
theorem dX22_again_60 : decode cX22_again 60 = .ok (.aload_n 0, 1) := dk_42 (dk_at dksX22_again_2 13 rfl rfl)
theorem dX22_again_61 : decode cX22_again 61 = .ok (.dup, 1) := dk_89 (dk_at dksX22_again_2 14 rfl rfl)
theorem dX22_again_62 : decode cX22_again 62 = .ok (.getfield 125, 3) := dk_180 0 125 (dk_at dksX22_again_2 15 rfl rfl)
theorem dX22_again_65 : decode cX22_again 65 = .ok (.iconst 1, 1) := dk_4 (dk_at dksX22_again_2 18 rfl rfl)
theorem dX22_again_66 : decode cX22_again 66 = .ok (.isub, 1) := dk_100 (dk_at dksX22_again_2 19 rfl rfl)
theorem dX22_again_67 : decode cX22_again 67 = .ok (.putfield 125, 3) := dk_181 0 125 (dk_at dksX22_again_2 20 rfl rfl)
theorem dX22_again_70 : decode cX22_again 70 = .ok (.aload_n 1, 1) := dk_43 (dk_at dksX22_again_2 23 rfl rfl)
theorem dX22_again_71 : decode cX22_again 71 = .ok (.areturn, 1) := dk_176 (dk_at dksX22_again_3 0 rfl rfl)
theorem q137 : (Jvm.Cond.initialized "DimpleWells$WorkReader") ∈ lw_all := lw_g (lw_at lw_m1 41 rfl) rfl
theorem q506 : (Jvm.Cond.fieldLinkNest "DimpleWells$WorkReader" (39 : Nat) "DimpleWells$Told" "persons" "Ljava/util/ArrayList;" "DimpleWells") ∈ lw_tbl := lw_at lw_m2 170 rfl
theorem q512 : (Jvm.Cond.fieldLinkNest "DimpleWells$WorkReader" (91 : Nat) "DimpleWells$Told" "jokes" "Ljava/util/ArrayList;" "DimpleWells") ∈ lw_tbl := lw_at lw_m2 176 rfl
theorem q995 : (Jvm.Cond.fieldLink "DimpleWells$WorkReader" (28 : Nat) "DimpleWells$WorkReader" "size" "I") ∈ lw_all := lw_g (lw_at lw_m4 179 rfl) rfl
theorem q996 : (Jvm.Cond.sameField "DimpleWells$WorkReader" "DimpleWells$Reader" "size" "I") ∈ lw_all := lw_g (lw_at lw_m4 180 rfl) rfl
theorem q1004 : (Jvm.Cond.fieldLink "DimpleWells$WorkReader" (24 : Nat) "DimpleWells$WorkReader" "next" "I") ∈ lw_all := lw_g (lw_at lw_m4 188 rfl) rfl
theorem q1005 : (Jvm.Cond.sameField "DimpleWells$WorkReader" "DimpleWells$Reader" "next" "I") ∈ lw_all := lw_g (lw_at lw_m4 189 rfl) rfl
theorem q1016 : (Jvm.Cond.fieldLink "DimpleWells$WorkReader" (125 : Nat) "DimpleWells$WorkReader" "open" "I") ∈ lw_all := lw_g (lw_at lw_m4 200 rfl) rfl
theorem q1017 : (Jvm.Cond.sameField "DimpleWells$WorkReader" "DimpleWells$Reader" "open" "I") ∈ lw_all := lw_g (lw_at lw_m4 201 rfl) rfl
theorem q1266 : (Jvm.Cond.selects "DimpleWells$WorkReader" ({ cls := "java/lang/Object", name := "getClass", desc := "()Ljava/lang/Class;" } : Jvm.MethodName) ({ cls := "java/lang/Object", name := "getClass", desc := "()Ljava/lang/Class;" } : Jvm.MethodName)) ∈ lw_all := lw_g (lw_at lw_m5 210 rfl) rfl
theorem q1452 : (Jvm.Cond.instantiable "DimpleWells$WorkReader" (6 : Nat)) ∈ lw_all := lw_g (lw_at lw_m6 156 rfl) rfl
theorem q1454 : (Jvm.Cond.instanceMethod ({ cls := "DimpleWells$WorkReader", name := "<init>", desc := "([BILDimpleWells$Told;)V" } : Jvm.MethodName)) ∈ lw_all := lw_g (lw_at lw_m6 158 rfl) rfl
theorem q1455 : (Jvm.Cond.code ({ cls := "DimpleWells$WorkReader", name := "<init>", desc := "([BILDimpleWells$Told;)V" } : Jvm.MethodName) prog_29_method_1_code (4 : Nat) (Option.none : Option Jvm.ClassFile.FieldType)) ∈ lw_all := lw_g (lw_at lw_m6 159 rfl) rfl
theorem q1456 : (Jvm.Cond.methodLink "DimpleWells$WorkReader" (3 : Nat) ({ cls := "DimpleWells$Reader", name := "<init>", desc := "([BI)V" } : Jvm.MethodName)) ∈ lw_all := lw_g (lw_at lw_m6 160 rfl) rfl
theorem q1457 : (Jvm.Cond.fieldLink "DimpleWells$WorkReader" (9 : Nat) "DimpleWells$WorkReader" "t" "LDimpleWells$Told;") ∈ lw_all := lw_g (lw_at lw_m6 161 rfl) rfl
theorem q1458 : (Jvm.Cond.laysFinal "DimpleWells$WorkReader" "DimpleWells$WorkReader" "t" "LDimpleWells$Told;") ∈ lw_all := lw_g (lw_at lw_m6 162 rfl) rfl
theorem q1459 : (Jvm.Cond.soleField "DimpleWells$WorkReader" "t") ∈ lw_all := lw_g (lw_at lw_m6 163 rfl) rfl
theorem q1460 : (Jvm.Cond.laysFinal "DimpleWells$WorkReader" "DimpleWells$Reader" "text" "[B") ∈ lw_all := lw_g (lw_at lw_m6 164 rfl) rfl
theorem q1461 : (Jvm.Cond.laysFinal "DimpleWells$WorkReader" "DimpleWells$Reader" "size" "I") ∈ lw_all := lw_g (lw_at lw_m6 165 rfl) rfl
theorem q1462 : (Jvm.Cond.lays "DimpleWells$WorkReader" "DimpleWells$Reader" "next" "I") ∈ lw_all := lw_g (lw_at lw_m6 166 rfl) rfl
theorem q1463 : (Jvm.Cond.lays "DimpleWells$WorkReader" "DimpleWells$Reader" "from" "I") ∈ lw_all := lw_g (lw_at lw_m6 167 rfl) rfl
theorem q1464 : (Jvm.Cond.lays "DimpleWells$WorkReader" "DimpleWells$Reader" "open" "I") ∈ lw_all := lw_g (lw_at lw_m6 168 rfl) rfl
theorem q1465 : (Jvm.Cond.superclass "DimpleWells$WorkReader" "DimpleWells$Reader") ∈ lw_all := lw_g (lw_at lw_m6 169 rfl) rfl
theorem q1467 : (Jvm.Cond.instanceMethod ({ cls := "DimpleWells$WorkReader", name := "reads", desc := "()Ljava/util/ArrayList;" } : Jvm.MethodName)) ∈ lw_all := lw_g (lw_at lw_m6 171 rfl) rfl
theorem q1468 : (Jvm.Cond.selects "DimpleWells$WorkReader" ({ cls := "DimpleWells$WorkReader", name := "reads", desc := "()Ljava/util/ArrayList;" } : Jvm.MethodName) ({ cls := "DimpleWells$WorkReader", name := "reads", desc := "()Ljava/util/ArrayList;" } : Jvm.MethodName)) ∈ lw_all := lw_g (lw_at lw_m6 172 rfl) rfl
theorem q1469 : (Jvm.Cond.code ({ cls := "DimpleWells$WorkReader", name := "reads", desc := "()Ljava/util/ArrayList;" } : Jvm.MethodName) prog_29_method_2_code (2 : Nat) (Option.some (Jvm.ClassFile.FieldType.object "java/util/ArrayList"))) ∈ lw_all := lw_g (lw_at lw_m6 173 rfl) rfl
theorem q1470 : (Jvm.Cond.classLink "DimpleWells$WorkReader" (15 : Nat) "java/util/ArrayList") ∈ lw_all := lw_g (lw_at lw_m6 174 rfl) rfl
theorem q1471 : (Jvm.Cond.methodLink "DimpleWells$WorkReader" (17 : Nat) ({ cls := "java/util/ArrayList", name := "<init>", desc := "(I)V" } : Jvm.MethodName)) ∈ lw_all := lw_g (lw_at lw_m6 175 rfl) rfl
theorem q1472 : (Jvm.Cond.methodLink "DimpleWells$WorkReader" (20 : Nat) ({ cls := "DimpleWells$WorkReader", name := "sign", desc := "()I" } : Jvm.MethodName)) ∈ lw_all := lw_g (lw_at lw_m6 176 rfl) rfl
theorem q1473 : (Jvm.Cond.sameMethod "DimpleWells$WorkReader" "DimpleWells$Reader" "sign" "()I") ∈ lw_all := lw_g (lw_at lw_m6 177 rfl) rfl
theorem q1474 : (Jvm.Cond.selects "DimpleWells$WorkReader" ({ cls := "DimpleWells$WorkReader", name := "sign", desc := "()I" } : Jvm.MethodName) ({ cls := "DimpleWells$Reader", name := "sign", desc := "()I" } : Jvm.MethodName)) ∈ lw_all := lw_g (lw_at lw_m6 178 rfl) rfl
theorem q1475 : (Jvm.Cond.methodLink "DimpleWells$WorkReader" (31 : Nat) ({ cls := "DimpleWells$WorkReader", name := "step", desc := "()LDimpleWells$Step;" } : Jvm.MethodName)) ∈ lw_all := lw_g (lw_at lw_m6 179 rfl) rfl
theorem q1476 : (Jvm.Cond.privateMethod ({ cls := "DimpleWells$WorkReader", name := "step", desc := "()LDimpleWells$Step;" } : Jvm.MethodName)) ∈ lw_tbl := lw_at lw_m6 180 rfl
theorem q1477 : (Jvm.Cond.instanceMethod ({ cls := "DimpleWells$WorkReader", name := "step", desc := "()LDimpleWells$Step;" } : Jvm.MethodName)) ∈ lw_all := lw_g (lw_at lw_m6 181 rfl) rfl
theorem q1478 : (Jvm.Cond.code ({ cls := "DimpleWells$WorkReader", name := "step", desc := "()LDimpleWells$Step;" } : Jvm.MethodName) prog_29_method_4_code (5 : Nat) (Option.some (Jvm.ClassFile.FieldType.object "DimpleWells$Step"))) ∈ lw_all := lw_g (lw_at lw_m6 182 rfl) rfl
theorem q1479 : (Jvm.Cond.methodLink "DimpleWells$WorkReader" (51 : Nat) ({ cls := "DimpleWells$WorkReader", name := "word", desc := "()Ljava/lang/String;" } : Jvm.MethodName)) ∈ lw_all := lw_g (lw_at lw_m6 183 rfl) rfl
theorem q1480 : (Jvm.Cond.sameMethod "DimpleWells$WorkReader" "DimpleWells$Reader" "word" "()Ljava/lang/String;") ∈ lw_all := lw_g (lw_at lw_m6 184 rfl) rfl
theorem q1481 : (Jvm.Cond.selects "DimpleWells$WorkReader" ({ cls := "DimpleWells$WorkReader", name := "word", desc := "()Ljava/lang/String;" } : Jvm.MethodName) ({ cls := "DimpleWells$Reader", name := "word", desc := "()Ljava/lang/String;" } : Jvm.MethodName)) ∈ lw_all := lw_g (lw_at lw_m6 185 rfl) rfl
theorem q1482 : (Jvm.Cond.methodLink "DimpleWells$WorkReader" (55 : Nat) ({ cls := "java/lang/String", name := "hashCode", desc := "()I" } : Jvm.MethodName)) ∈ lw_all := lw_g (lw_at lw_m6 186 rfl) rfl
theorem q1483 : (Jvm.Cond.stringRef "DimpleWells$WorkReader" (60 : Nat) "tell") ∈ lw_tbl := lw_at lw_m6 187 rfl
theorem q1484 : (Jvm.Cond.methodLink "DimpleWells$WorkReader" (62 : Nat) ({ cls := "java/lang/String", name := "equals", desc := "(Ljava/lang/Object;)Z" } : Jvm.MethodName)) ∈ lw_all := lw_g (lw_at lw_m6 188 rfl) rfl
theorem q1485 : (Jvm.Cond.stringRef "DimpleWells$WorkReader" (65 : Nat) "grieve") ∈ lw_tbl := lw_at lw_m6 189 rfl
theorem q1486 : (Jvm.Cond.stringRef "DimpleWells$WorkReader" (67 : Nat) "cheer") ∈ lw_tbl := lw_at lw_m6 190 rfl
theorem q1487 : (Jvm.Cond.stringRef "DimpleWells$WorkReader" (69 : Nat) "pour") ∈ lw_tbl := lw_at lw_m6 191 rfl
theorem q1488 : (Jvm.Cond.stringRef "DimpleWells$WorkReader" (71 : Nat) "day") ∈ lw_tbl := lw_at lw_m6 192 rfl
theorem q1489 : (Jvm.Cond.stringRef "DimpleWells$WorkReader" (73 : Nat) "again") ∈ lw_tbl := lw_at lw_m6 193 rfl
theorem q1490 : (Jvm.Cond.methodLink "DimpleWells$WorkReader" (75 : Nat) ({ cls := "java/lang/String", name := "length", desc := "()I" } : Jvm.MethodName)) ∈ lw_all := lw_g (lw_at lw_m6 194 rfl) rfl
theorem q1491 : (Jvm.Cond.methodLink "DimpleWells$WorkReader" (78 : Nat) ({ cls := "DimpleWells$WorkReader", name := "act", desc := "(Ljava/lang/String;)LDimpleWells$Step;" } : Jvm.MethodName)) ∈ lw_all := lw_g (lw_at lw_m6 195 rfl) rfl
theorem q1492 : (Jvm.Cond.privateMethod ({ cls := "DimpleWells$WorkReader", name := "act", desc := "(Ljava/lang/String;)LDimpleWells$Step;" } : Jvm.MethodName)) ∈ lw_tbl := lw_at lw_m6 196 rfl
theorem q1493 : (Jvm.Cond.instanceMethod ({ cls := "DimpleWells$WorkReader", name := "act", desc := "(Ljava/lang/String;)LDimpleWells$Step;" } : Jvm.MethodName)) ∈ lw_all := lw_g (lw_at lw_m6 197 rfl) rfl
theorem q1494 : (Jvm.Cond.code ({ cls := "DimpleWells$WorkReader", name := "act", desc := "(Ljava/lang/String;)LDimpleWells$Step;" } : Jvm.MethodName) prog_29_method_5_code (5 : Nat) (Option.some (Jvm.ClassFile.FieldType.object "DimpleWells$Step"))) ∈ lw_all := lw_g (lw_at lw_m6 198 rfl) rfl
theorem q1495 : (Jvm.Cond.methodLink "DimpleWells$WorkReader" (45 : Nat) ({ cls := "java/util/ArrayList", name := "size", desc := "()I" } : Jvm.MethodName)) ∈ lw_all := lw_g (lw_at lw_m6 199 rfl) rfl
theorem q1496 : (Jvm.Cond.methodLink "DimpleWells$WorkReader" (47 : Nat) ({ cls := "DimpleWells$WorkReader", name := "number", desc := "(II)I" } : Jvm.MethodName)) ∈ lw_all := lw_g (lw_at lw_m6 200 rfl) rfl
theorem q1497 : (Jvm.Cond.sameMethod "DimpleWells$WorkReader" "DimpleWells$Reader" "number" "(II)I") ∈ lw_all := lw_g (lw_at lw_m6 201 rfl) rfl
theorem q1498 : (Jvm.Cond.selects "DimpleWells$WorkReader" ({ cls := "DimpleWells$WorkReader", name := "number", desc := "(II)I" } : Jvm.MethodName) ({ cls := "DimpleWells$Reader", name := "number", desc := "(II)I" } : Jvm.MethodName)) ∈ lw_all := lw_g (lw_at lw_m6 202 rfl) rfl
theorem q1499 : (Jvm.Cond.classLink "DimpleWells$WorkReader" (94 : Nat) "DimpleWells$Tells") ∈ lw_all := lw_g (lw_at lw_m6 203 rfl) rfl
theorem q1501 : (Jvm.Cond.methodLink "DimpleWells$WorkReader" (96 : Nat) ({ cls := "DimpleWells$WorkReader", name := "person", desc := "()I" } : Jvm.MethodName)) ∈ lw_all := lw_g (lw_at lw_m6 205 rfl) rfl
theorem q1502 : (Jvm.Cond.privateMethod ({ cls := "DimpleWells$WorkReader", name := "person", desc := "()I" } : Jvm.MethodName)) ∈ lw_tbl := lw_at lw_m6 206 rfl
theorem q1503 : (Jvm.Cond.instanceMethod ({ cls := "DimpleWells$WorkReader", name := "person", desc := "()I" } : Jvm.MethodName)) ∈ lw_all := lw_g (lw_at lw_m6 207 rfl) rfl
theorem q1504 : (Jvm.Cond.code ({ cls := "DimpleWells$WorkReader", name := "person", desc := "()I" } : Jvm.MethodName) prog_29_method_3_code (1 : Nat) (Option.some Jvm.ClassFile.FieldType.int)) ∈ lw_all := lw_g (lw_at lw_m6 208 rfl) rfl
theorem q1505 : (Jvm.Cond.methodLink "DimpleWells$WorkReader" (99 : Nat) ({ cls := "DimpleWells$Tells", name := "<init>", desc := "(II)V" } : Jvm.MethodName)) ∈ lw_all := lw_g (lw_at lw_m6 209 rfl) rfl
theorem q1522 : (Jvm.Cond.classLink "DimpleWells$WorkReader" (102 : Nat) "DimpleWells$Grieves") ∈ lw_all := lw_g (lw_at lw_m6 226 rfl) rfl
theorem q1524 : (Jvm.Cond.methodLink "DimpleWells$WorkReader" (104 : Nat) ({ cls := "DimpleWells$Grieves", name := "<init>", desc := "(II)V" } : Jvm.MethodName)) ∈ lw_all := lw_g (lw_at lw_m6 228 rfl) rfl
theorem q1535 : (Jvm.Cond.classLink "DimpleWells$WorkReader" (105 : Nat) "DimpleWells$Cheers") ∈ lw_all := lw_g (lw_at lw_m6 239 rfl) rfl
theorem q1537 : (Jvm.Cond.methodLink "DimpleWells$WorkReader" (107 : Nat) ({ cls := "DimpleWells$Cheers", name := "<init>", desc := "(I)V" } : Jvm.MethodName)) ∈ lw_all := lw_g (lw_at lw_m7 1 rfl) rfl
theorem q1545 : (Jvm.Cond.classLink "DimpleWells$WorkReader" (108 : Nat) "DimpleWells$Pours") ∈ lw_all := lw_g (lw_at lw_m7 9 rfl) rfl
theorem q1547 : (Jvm.Cond.methodLink "DimpleWells$WorkReader" (110 : Nat) ({ cls := "DimpleWells$Pours", name := "<init>", desc := "(I)V" } : Jvm.MethodName)) ∈ lw_all := lw_g (lw_at lw_m7 11 rfl) rfl
theorem q1555 : (Jvm.Cond.classLink "DimpleWells$WorkReader" (111 : Nat) "DimpleWells$Passes") ∈ lw_all := lw_g (lw_at lw_m7 19 rfl) rfl
theorem q1557 : (Jvm.Cond.methodLinkNest "DimpleWells$WorkReader" (113 : Nat) ({ cls := "DimpleWells$Passes", name := "<init>", desc := "()V" } : Jvm.MethodName) "DimpleWells") ∈ lw_tbl := lw_at lw_m7 21 rfl
theorem q1562 : (Jvm.Cond.methodLink "DimpleWells$WorkReader" (82 : Nat) ({ cls := "DimpleWells$WorkReader", name := "again", desc := "()LDimpleWells$Step;" } : Jvm.MethodName)) ∈ lw_all := lw_g (lw_at lw_m7 26 rfl) rfl
theorem q1563 : (Jvm.Cond.privateMethod ({ cls := "DimpleWells$WorkReader", name := "again", desc := "()LDimpleWells$Step;" } : Jvm.MethodName)) ∈ lw_tbl := lw_at lw_m7 27 rfl
theorem q1564 : (Jvm.Cond.instanceMethod ({ cls := "DimpleWells$WorkReader", name := "again", desc := "()LDimpleWells$Step;" } : Jvm.MethodName)) ∈ lw_all := lw_g (lw_at lw_m7 28 rfl) rfl
theorem q1565 : (Jvm.Cond.code ({ cls := "DimpleWells$WorkReader", name := "again", desc := "()LDimpleWells$Step;" } : Jvm.MethodName) prog_29_method_6_code (2 : Nat) (Option.some (Jvm.ClassFile.FieldType.object "DimpleWells$Step"))) ∈ lw_all := lw_g (lw_at lw_m7 29 rfl) rfl
theorem q1566 : (Jvm.Cond.methodLink "DimpleWells$WorkReader" (116 : Nat) ({ cls := "DimpleWells$WorkReader", name := "opens", desc := "(I)V" } : Jvm.MethodName)) ∈ lw_all := lw_g (lw_at lw_m7 30 rfl) rfl
theorem q1567 : (Jvm.Cond.sameMethod "DimpleWells$WorkReader" "DimpleWells$Reader" "opens" "(I)V") ∈ lw_all := lw_g (lw_at lw_m7 31 rfl) rfl
theorem q1568 : (Jvm.Cond.selects "DimpleWells$WorkReader" ({ cls := "DimpleWells$WorkReader", name := "opens", desc := "(I)V" } : Jvm.MethodName) ({ cls := "DimpleWells$Reader", name := "opens", desc := "(I)V" } : Jvm.MethodName)) ∈ lw_all := lw_g (lw_at lw_m7 32 rfl) rfl
theorem q1569 : (Jvm.Cond.classLink "DimpleWells$WorkReader" (119 : Nat) "DimpleWells$Again") ∈ lw_all := lw_g (lw_at lw_m7 33 rfl) rfl
theorem q1571 : (Jvm.Cond.methodLink "DimpleWells$WorkReader" (121 : Nat) ({ cls := "DimpleWells$Again", name := "<init>", desc := "(I)V" } : Jvm.MethodName)) ∈ lw_all := lw_g (lw_at lw_m7 35 rfl) rfl
theorem q1579 : (Jvm.Cond.fieldLinkNest "DimpleWells$WorkReader" (122 : Nat) "DimpleWells$Again" "steps" "Ljava/util/ArrayList;" "DimpleWells") ∈ lw_tbl := lw_at lw_m7 43 rfl
theorem q1585 : (Jvm.Cond.methodLink "DimpleWells$WorkReader" (88 : Nat) ({ cls := "DimpleWells$WorkReader", name := "need", desc := "(I)V" } : Jvm.MethodName)) ∈ lw_all := lw_g (lw_at lw_m7 49 rfl) rfl
theorem q1586 : (Jvm.Cond.sameMethod "DimpleWells$WorkReader" "DimpleWells$Reader" "need" "(I)V") ∈ lw_all := lw_g (lw_at lw_m7 50 rfl) rfl
theorem q1587 : (Jvm.Cond.selects "DimpleWells$WorkReader" ({ cls := "DimpleWells$WorkReader", name := "need", desc := "(I)V" } : Jvm.MethodName) ({ cls := "DimpleWells$Reader", name := "need", desc := "(I)V" } : Jvm.MethodName)) ∈ lw_all := lw_g (lw_at lw_m7 51 rfl) rfl
theorem q1588 : (Jvm.Cond.methodLink "DimpleWells$WorkReader" (35 : Nat) ({ cls := "java/util/ArrayList", name := "add", desc := "(Ljava/lang/Object;)Z" } : Jvm.MethodName)) ∈ lw_all := lw_g (lw_at lw_m7 52 rfl) rfl
theorem q1589 : (Jvm.Cond.methodLink "DimpleWells$WorkReader" (84 : Nat) ({ cls := "DimpleWells$WorkReader", name := "wrong", desc := "()LDimpleWells$Wrong;" } : Jvm.MethodName)) ∈ lw_all := lw_g (lw_at lw_m7 53 rfl) rfl
theorem q1590 : (Jvm.Cond.sameMethod "DimpleWells$WorkReader" "DimpleWells$Reader" "wrong" "()LDimpleWells$Wrong;") ∈ lw_all := lw_g (lw_at lw_m7 54 rfl) rfl
theorem q1591 : (Jvm.Cond.selects "DimpleWells$WorkReader" ({ cls := "DimpleWells$WorkReader", name := "wrong", desc := "()LDimpleWells$Wrong;" } : Jvm.MethodName) ({ cls := "DimpleWells$Reader", name := "wrong", desc := "()LDimpleWells$Wrong;" } : Jvm.MethodName)) ∈ lw_all := lw_g (lw_at lw_m7 55 rfl) rfl
theorem q2566 : (Jvm.Cond.selects "DimpleWells$WorkReader" ({ cls := "DimpleWells$Reader", name := "sign", desc := "()I" } : Jvm.MethodName) ({ cls := "DimpleWells$Reader", name := "sign", desc := "()I" } : Jvm.MethodName)) ∈ lw_all := lw_g (lw_at lw_m11 70 rfl) rfl
theorem q2573 : (Jvm.Cond.selects "DimpleWells$WorkReader" ({ cls := "DimpleWells$Reader", name := "wrong", desc := "()LDimpleWells$Wrong;" } : Jvm.MethodName) ({ cls := "DimpleWells$Reader", name := "wrong", desc := "()LDimpleWells$Wrong;" } : Jvm.MethodName)) ∈ lw_all := lw_g (lw_at lw_m11 77 rfl) rfl
theorem q2604 : (Jvm.Cond.castable "DimpleWells$WorkReader" "java/lang/Object") ∈ lw_tbl := lw_at lw_m11 108 rfl
theorem in_X22 : ∀ w ∈ wsX220, w ∈ lw_all := lw_in wsX220 [1460, 1461, 1462, 1463, 1464, 1458] (by decide +kernel) (by decide +kernel)
/-! DimpleWells$Step -/
set_option maxRecDepth 100000
def RX23 : String := "DimpleWells$Step"
abbrev cX23_init : ByteArray := prog_23_method_1_code
def yX23_init : MethodName := ⟨RX23, "<init>", "()V"⟩
theorem dX23_init_0 : decode cX23_init 0 = .ok (.aload_n 0, 1) := by decide +kernel
theorem dX23_init_1 : decode cX23_init 1 = .ok (.invokespecial 3, 3) := by decide +kernel
theorem dX23_init_4 : decode cX23_init 4 = .ok (.return_, 1) := by decide +kernel
abbrev cX23_may : ByteArray := prog_23_method_3_code
def yX23_may : MethodName := ⟨RX23, "may", "(LDimpleWells$Season;)Z"⟩
def dkwX23_may_0 : List UInt8 := [42, 180, 0, 9, 17, 0, 200, 160, 0, 5, 3, 172, 42, 89, 180, 0, 9, 4, 96, 181, 0, 9, 4, 172]
abbrev dktX23_may_0 : List UInt8 := dkwX23_may_0 ++ []
theorem dksX23_may_0 : cX23_may.data.toList.drop 0 = dktX23_may_0 := by decide +kernel
theorem dX23_may_0 : decode cX23_may 0 = .ok (.aload_n 0, 1) := dk_42 (dk_at dksX23_may_0 0 rfl rfl)
theorem dX23_may_1 : decode cX23_may 1 = .ok (.getfield 9, 3) := dk_180 0 9 (dk_at dksX23_may_0 1 rfl rfl)
theorem dX23_may_4 : decode cX23_may 4 = .ok (.sipush 200, 3) := dk_17 0 200 (dk_at dksX23_may_0 4 rfl rfl)
theorem dX23_may_7 : decode cX23_may 7 = .ok (.if_icmp .ne 5, 3) := dk_160 0 5 (dk_at dksX23_may_0 7 rfl rfl)
theorem dX23_may_10 : decode cX23_may 10 = .ok (.iconst 0, 1) := dk_3 (dk_at dksX23_may_0 10 rfl rfl)
theorem dX23_may_11 : decode cX23_may 11 = .ok (.ireturn, 1) := dk_172 (dk_at dksX23_may_0 11 rfl rfl)
theorem dX23_may_12 : decode cX23_may 12 = .ok (.aload_n 0, 1) := dk_42 (dk_at dksX23_may_0 12 rfl rfl)
theorem dX23_may_13 : decode cX23_may 13 = .ok (.dup, 1) := dk_89 (dk_at dksX23_may_0 13 rfl rfl)
theorem dX23_may_14 : decode cX23_may 14 = .ok (.getfield 9, 3) := dk_180 0 9 (dk_at dksX23_may_0 14 rfl rfl)
theorem dX23_may_17 : decode cX23_may 17 = .ok (.iconst 1, 1) := dk_4 (dk_at dksX23_may_0 17 rfl rfl)
theorem dX23_may_18 : decode cX23_may 18 = .ok (.iadd, 1) := dk_96 (dk_at dksX23_may_0 18 rfl rfl)
theorem dX23_may_19 : decode cX23_may 19 = .ok (.putfield 9, 3) := dk_181 0 9 (dk_at dksX23_may_0 19 rfl rfl)
theorem dX23_may_22 : decode cX23_may 22 = .ok (.iconst 1, 1) := dk_4 (dk_at dksX23_may_0 22 rfl rfl)
theorem dX23_may_23 : decode cX23_may 23 = .ok (.ireturn, 1) := dk_172 (dk_at dksX23_may_0 23 rfl rfl)
theorem q138 : (Jvm.Cond.initialized "DimpleWells$Step") ∈ lw_all := lw_g (lw_at lw_m1 42 rfl) rfl
theorem q626 : (Jvm.Cond.fieldLinkNest "DimpleWells$Step" (9 : Nat) "DimpleWells$Season" "steps" "I" "DimpleWells") ∈ lw_tbl := lw_at lw_m3 50 rfl
theorem q1512 : (Jvm.Cond.instanceMethod ({ cls := "DimpleWells$Step", name := "<init>", desc := "()V" } : Jvm.MethodName)) ∈ lw_all := lw_g (lw_at lw_m6 216 rfl) rfl
theorem q1513 : (Jvm.Cond.code ({ cls := "DimpleWells$Step", name := "<init>", desc := "()V" } : Jvm.MethodName) prog_23_method_1_code (1 : Nat) (Option.none : Option Jvm.ClassFile.FieldType)) ∈ lw_all := lw_g (lw_at lw_m6 217 rfl) rfl
theorem q1514 : (Jvm.Cond.methodLink "DimpleWells$Step" (3 : Nat) ({ cls := "java/lang/Object", name := "<init>", desc := "()V" } : Jvm.MethodName)) ∈ lw_all := lw_g (lw_at lw_m6 218 rfl) rfl
theorem q1594 : (Jvm.Cond.declares ({ cls := "DimpleWells$Step", name := "goes", desc := "(LDimpleWells$Season;)V" } : Jvm.MethodName)) ∈ lw_tbl := lw_at lw_m7 58 rfl
theorem q1595 : (Jvm.Cond.sameMethod "DimpleWells$Step" "DimpleWells$Step" "goes" "(LDimpleWells$Season;)V") ∈ lw_all := lw_g (lw_at lw_m7 59 rfl) rfl
theorem q1601 : (Jvm.Cond.static ({ cls := "DimpleWells$Step", name := "may", desc := "(LDimpleWells$Season;)Z" } : Jvm.MethodName)) ∈ lw_all := lw_g (lw_at lw_m7 65 rfl) rfl
theorem q1602 : (Jvm.Cond.code ({ cls := "DimpleWells$Step", name := "may", desc := "(LDimpleWells$Season;)Z" } : Jvm.MethodName) prog_23_method_3_code (1 : Nat) (Option.some Jvm.ClassFile.FieldType.boolean)) ∈ lw_all := lw_g (lw_at lw_m7 66 rfl) rfl
/-! DimpleWells$Act -/
set_option maxRecDepth 100000
def RX24 : String := "DimpleWells$Act"
abbrev cX24_init : ByteArray := prog_2_method_1_code
def yX24_init : MethodName := ⟨RX24, "<init>", "()V"⟩
theorem dX24_init_0 : decode cX24_init 0 = .ok (.aload_n 0, 1) := by decide +kernel
theorem dX24_init_1 : decode cX24_init 1 = .ok (.invokespecial 1, 3) := by decide +kernel
theorem dX24_init_4 : decode cX24_init 4 = .ok (.return_, 1) := by decide +kernel
abbrev cX24_goes : ByteArray := prog_2_method_3_code
def yX24_goes : MethodName := ⟨RX24, "goes", "(LDimpleWells$Season;)V"⟩
def dkwX24_goes_2 : List UInt8 := [181, 0, 22, 177]
abbrev dktX24_goes_2 : List UInt8 := dkwX24_goes_2 ++ []
def dkwX24_goes_1 : List UInt8 := [167, 0, 4, 3, 96, 181, 0, 16, 43, 89, 180, 0, 22, 28, 153, 0, 7, 3, 167, 0, 4, 4, 96]
abbrev dktX24_goes_1 : List UInt8 := dkwX24_goes_1 ++ dktX24_goes_2
def dkwX24_goes_0 : List UInt8 := [43, 184, 0, 7, 154, 0, 4, 177, 42, 43, 182, 0, 13, 61, 43, 89, 180, 0, 16, 28, 153, 0, 7, 4]
abbrev dktX24_goes_0 : List UInt8 := dkwX24_goes_0 ++ dktX24_goes_1
theorem dksX24_goes_0 : cX24_goes.data.toList.drop 0 = dktX24_goes_0 := by decide +kernel
theorem dksX24_goes_1 : cX24_goes.data.toList.drop 24 = dktX24_goes_1 := dk_seg dksX24_goes_0 24 rfl rfl
theorem dksX24_goes_2 : cX24_goes.data.toList.drop 47 = dktX24_goes_2 := dk_seg dksX24_goes_1 23 rfl rfl
theorem dX24_goes_0 : decode cX24_goes 0 = .ok (.aload_n 1, 1) := dk_43 (dk_at dksX24_goes_0 0 rfl rfl)
theorem dX24_goes_1 : decode cX24_goes 1 = .ok (.invokestatic 7, 3) := dk_184 0 7 (dk_at dksX24_goes_0 1 rfl rfl)
theorem dX24_goes_4 : decode cX24_goes 4 = .ok (.ifCond .ne 4, 3) := dk_154 0 4 (dk_at dksX24_goes_0 4 rfl rfl)
theorem dX24_goes_7 : decode cX24_goes 7 = .ok (.return_, 1) := dk_177 (dk_at dksX24_goes_0 7 rfl rfl)
theorem dX24_goes_8 : decode cX24_goes 8 = .ok (.aload_n 0, 1) := dk_42 (dk_at dksX24_goes_0 8 rfl rfl)
theorem dX24_goes_9 : decode cX24_goes 9 = .ok (.aload_n 1, 1) := dk_43 (dk_at dksX24_goes_0 9 rfl rfl)
theorem dX24_goes_10 : decode cX24_goes 10 = .ok (.invokevirtual 13, 3) := dk_182 0 13 (dk_at dksX24_goes_0 10 rfl rfl)
theorem dX24_goes_13 : decode cX24_goes 13 = .ok (.istore_n 2, 1) := dk_61 (dk_at dksX24_goes_0 13 rfl rfl)
theorem dX24_goes_14 : decode cX24_goes 14 = .ok (.aload_n 1, 1) := dk_43 (dk_at dksX24_goes_0 14 rfl rfl)
theorem dX24_goes_15 : decode cX24_goes 15 = .ok (.dup, 1) := dk_89 (dk_at dksX24_goes_0 15 rfl rfl)
theorem dX24_goes_16 : decode cX24_goes 16 = .ok (.getfield 16, 3) := dk_180 0 16 (dk_at dksX24_goes_0 16 rfl rfl)
theorem dX24_goes_19 : decode cX24_goes 19 = .ok (.iload_n 2, 1) := dk_28 (dk_at dksX24_goes_0 19 rfl rfl)
theorem dX24_goes_20 : decode cX24_goes 20 = .ok (.ifCond .eq 7, 3) := dk_153 0 7 (dk_at dksX24_goes_0 20 rfl rfl)
theorem dX24_goes_23 : decode cX24_goes 23 = .ok (.iconst 1, 1) := dk_4 (dk_at dksX24_goes_0 23 rfl rfl)
theorem dX24_goes_24 : decode cX24_goes 24 = .ok (.goto 4, 3) := dk_167 0 4 (dk_at dksX24_goes_1 0 rfl rfl)
theorem dX24_goes_27 : decode cX24_goes 27 = .ok (.iconst 0, 1) := dk_3 (dk_at dksX24_goes_1 3 rfl rfl)
theorem dX24_goes_28 : decode cX24_goes 28 = .ok (.iadd, 1) := dk_96 (dk_at dksX24_goes_1 4 rfl rfl)
theorem dX24_goes_29 : decode cX24_goes 29 = .ok (.putfield 16, 3) := dk_181 0 16 (dk_at dksX24_goes_1 5 rfl rfl)
theorem dX24_goes_32 : decode cX24_goes 32 = .ok (.aload_n 1, 1) := dk_43 (dk_at dksX24_goes_1 8 rfl rfl)
theorem dX24_goes_33 : decode cX24_goes 33 = .ok (.dup, 1) := dk_89 (dk_at dksX24_goes_1 9 rfl rfl)
theorem dX24_goes_34 : decode cX24_goes 34 = .ok (.getfield 22, 3) := dk_180 0 22 (dk_at dksX24_goes_1 10 rfl rfl)
theorem dX24_goes_37 : decode cX24_goes 37 = .ok (.iload_n 2, 1) := dk_28 (dk_at dksX24_goes_1 13 rfl rfl)
theorem dX24_goes_38 : decode cX24_goes 38 = .ok (.ifCond .eq 7, 3) := dk_153 0 7 (dk_at dksX24_goes_1 14 rfl rfl)
theorem dX24_goes_41 : decode cX24_goes 41 = .ok (.iconst 0, 1) := dk_3 (dk_at dksX24_goes_1 17 rfl rfl)
theorem dX24_goes_42 : decode cX24_goes 42 = .ok (.goto 4, 3) := dk_167 0 4 (dk_at dksX24_goes_1 18 rfl rfl)
theorem dX24_goes_45 : decode cX24_goes 45 = .ok (.iconst 1, 1) := dk_4 (dk_at dksX24_goes_1 21 rfl rfl)
theorem dX24_goes_46 : decode cX24_goes 46 = .ok (.iadd, 1) := dk_96 (dk_at dksX24_goes_1 22 rfl rfl)
theorem dX24_goes_47 : decode cX24_goes 47 = .ok (.putfield 22, 3) := dk_181 0 22 (dk_at dksX24_goes_2 0 rfl rfl)
theorem dX24_goes_50 : decode cX24_goes 50 = .ok (.return_, 1) := dk_177 (dk_at dksX24_goes_2 3 rfl rfl)
theorem q139 : (Jvm.Cond.initialized "DimpleWells$Act") ∈ lw_all := lw_g (lw_at lw_m1 43 rfl) rfl
theorem q628 : (Jvm.Cond.fieldLinkNest "DimpleWells$Act" (16 : Nat) "DimpleWells$Season" "done" "I" "DimpleWells") ∈ lw_tbl := lw_at lw_m3 52 rfl
theorem q630 : (Jvm.Cond.fieldLinkNest "DimpleWells$Act" (22 : Nat) "DimpleWells$Season" "refused" "I" "DimpleWells") ∈ lw_tbl := lw_at lw_m3 54 rfl
theorem q1509 : (Jvm.Cond.instanceMethod ({ cls := "DimpleWells$Act", name := "<init>", desc := "()V" } : Jvm.MethodName)) ∈ lw_all := lw_g (lw_at lw_m6 213 rfl) rfl
theorem q1510 : (Jvm.Cond.code ({ cls := "DimpleWells$Act", name := "<init>", desc := "()V" } : Jvm.MethodName) prog_2_method_1_code (1 : Nat) (Option.none : Option Jvm.ClassFile.FieldType)) ∈ lw_all := lw_g (lw_at lw_m6 214 rfl) rfl
theorem q1511 : (Jvm.Cond.methodLinkNest "DimpleWells$Act" (1 : Nat) ({ cls := "DimpleWells$Step", name := "<init>", desc := "()V" } : Jvm.MethodName) "DimpleWells") ∈ lw_tbl := lw_at lw_m6 215 rfl
theorem q1607 : (Jvm.Cond.instanceMethod ({ cls := "DimpleWells$Act", name := "goes", desc := "(LDimpleWells$Season;)V" } : Jvm.MethodName)) ∈ lw_all := lw_g (lw_at lw_m7 71 rfl) rfl
theorem q1608 : (Jvm.Cond.code ({ cls := "DimpleWells$Act", name := "goes", desc := "(LDimpleWells$Season;)V" } : Jvm.MethodName) prog_2_method_3_code (3 : Nat) (Option.none : Option Jvm.ClassFile.FieldType)) ∈ lw_all := lw_g (lw_at lw_m7 72 rfl) rfl
theorem q1609 : (Jvm.Cond.methodLink "DimpleWells$Act" (7 : Nat) ({ cls := "DimpleWells$Act", name := "may", desc := "(LDimpleWells$Season;)Z" } : Jvm.MethodName)) ∈ lw_all := lw_g (lw_at lw_m7 73 rfl) rfl
theorem q1610 : (Jvm.Cond.sameMethod "DimpleWells$Act" "DimpleWells$Step" "may" "(LDimpleWells$Season;)Z") ∈ lw_all := lw_g (lw_at lw_m7 74 rfl) rfl
theorem q1611 : (Jvm.Cond.methodLink "DimpleWells$Act" (13 : Nat) ({ cls := "DimpleWells$Act", name := "isDone", desc := "(LDimpleWells$Season;)Z" } : Jvm.MethodName)) ∈ lw_all := lw_g (lw_at lw_m7 75 rfl) rfl
theorem q1612 : (Jvm.Cond.declares ({ cls := "DimpleWells$Act", name := "isDone", desc := "(LDimpleWells$Season;)Z" } : Jvm.MethodName)) ∈ lw_tbl := lw_at lw_m7 76 rfl
theorem q1613 : (Jvm.Cond.sameMethod "DimpleWells$Act" "DimpleWells$Act" "isDone" "(LDimpleWells$Season;)Z") ∈ lw_all := lw_g (lw_at lw_m7 77 rfl) rfl
/-! DimpleWells$Tells -/
set_option maxRecDepth 100000
def RX25 : String := "DimpleWells$Tells"
def TX25 : u_T := fun k => match k with
  | 0 => ("DimpleWells$Tells", "joke", "I", true)
  | _ => ("DimpleWells$Tells", "person", "I", true)
def tyX25 : Nat → FieldType := fun k => match k with
  | 0 => .int
  | _ => .int
abbrev wsX250 : List Cond := u_ws RX25 TX25 2
theorem nmX25 : ∀ a, a < 2 → ∀ b, b < 2 → a ≠ b → (TX25 a).2.1 ≠ (TX25 b).2.1 := by decide +kernel
theorem tyX25_ok : ∀ k, k < 2 → parseFieldDescriptor (TX25 k).2.2.1 = some (tyX25 k) := by decide +kernel
abbrev cX25_init : ByteArray := prog_24_method_1_code
def yX25_init : MethodName := ⟨RX25, "<init>", "(II)V"⟩
def dkwX25_init_0 : List UInt8 := [42, 183, 0, 1, 42, 27, 181, 0, 7, 42, 28, 181, 0, 13, 177]
abbrev dktX25_init_0 : List UInt8 := dkwX25_init_0 ++ []
theorem dksX25_init_0 : cX25_init.data.toList.drop 0 = dktX25_init_0 := by decide +kernel
theorem dX25_init_0 : decode cX25_init 0 = .ok (.aload_n 0, 1) := dk_42 (dk_at dksX25_init_0 0 rfl rfl)
theorem dX25_init_1 : decode cX25_init 1 = .ok (.invokespecial 1, 3) := dk_183 0 1 (dk_at dksX25_init_0 1 rfl rfl)
theorem dX25_init_4 : decode cX25_init 4 = .ok (.aload_n 0, 1) := dk_42 (dk_at dksX25_init_0 4 rfl rfl)
theorem dX25_init_5 : decode cX25_init 5 = .ok (.iload_n 1, 1) := dk_27 (dk_at dksX25_init_0 5 rfl rfl)
theorem dX25_init_6 : decode cX25_init 6 = .ok (.putfield 7, 3) := dk_181 0 7 (dk_at dksX25_init_0 6 rfl rfl)
theorem dX25_init_9 : decode cX25_init 9 = .ok (.aload_n 0, 1) := dk_42 (dk_at dksX25_init_0 9 rfl rfl)
theorem dX25_init_10 : decode cX25_init 10 = .ok (.iload_n 2, 1) := dk_28 (dk_at dksX25_init_0 10 rfl rfl)
theorem dX25_init_11 : decode cX25_init 11 = .ok (.putfield 13, 3) := dk_181 0 13 (dk_at dksX25_init_0 11 rfl rfl)
theorem dX25_init_14 : decode cX25_init 14 = .ok (.return_, 1) := dk_177 (dk_at dksX25_init_0 14 rfl rfl)
abbrev cX25_isDone : ByteArray := prog_24_method_2_code
def yX25_isDone : MethodName := ⟨RX25, "isDone", "(LDimpleWells$Season;)Z"⟩
def dkwX25_isDone_0 : List UInt8 := [43, 42, 180, 0, 7, 42, 180, 0, 13, 182, 0, 16, 172]
abbrev dktX25_isDone_0 : List UInt8 := dkwX25_isDone_0 ++ []
theorem dksX25_isDone_0 : cX25_isDone.data.toList.drop 0 = dktX25_isDone_0 := by decide +kernel
theorem dX25_isDone_0 : decode cX25_isDone 0 = .ok (.aload_n 1, 1) := dk_43 (dk_at dksX25_isDone_0 0 rfl rfl)
theorem dX25_isDone_1 : decode cX25_isDone 1 = .ok (.aload_n 0, 1) := dk_42 (dk_at dksX25_isDone_0 1 rfl rfl)
theorem dX25_isDone_2 : decode cX25_isDone 2 = .ok (.getfield 7, 3) := dk_180 0 7 (dk_at dksX25_isDone_0 2 rfl rfl)
theorem dX25_isDone_5 : decode cX25_isDone 5 = .ok (.aload_n 0, 1) := dk_42 (dk_at dksX25_isDone_0 5 rfl rfl)
theorem dX25_isDone_6 : decode cX25_isDone 6 = .ok (.getfield 13, 3) := dk_180 0 13 (dk_at dksX25_isDone_0 6 rfl rfl)
theorem dX25_isDone_9 : decode cX25_isDone 9 = .ok (.invokevirtual 16, 3) := dk_182 0 16 (dk_at dksX25_isDone_0 9 rfl rfl)
theorem dX25_isDone_12 : decode cX25_isDone 12 = .ok (.ireturn, 1) := dk_172 (dk_at dksX25_isDone_0 12 rfl rfl)
theorem q140 : (Jvm.Cond.initialized "DimpleWells$Tells") ∈ lw_all := lw_g (lw_at lw_m1 44 rfl) rfl
theorem q1263 : (Jvm.Cond.selects "DimpleWells$Tells" ({ cls := "java/lang/Object", name := "getClass", desc := "()Ljava/lang/Class;" } : Jvm.MethodName) ({ cls := "java/lang/Object", name := "getClass", desc := "()Ljava/lang/Class;" } : Jvm.MethodName)) ∈ lw_all := lw_g (lw_at lw_m5 207 rfl) rfl
theorem q1500 : (Jvm.Cond.instantiable "DimpleWells$Tells" (2 : Nat)) ∈ lw_all := lw_g (lw_at lw_m6 204 rfl) rfl
theorem q1506 : (Jvm.Cond.instanceMethod ({ cls := "DimpleWells$Tells", name := "<init>", desc := "(II)V" } : Jvm.MethodName)) ∈ lw_all := lw_g (lw_at lw_m6 210 rfl) rfl
theorem q1507 : (Jvm.Cond.code ({ cls := "DimpleWells$Tells", name := "<init>", desc := "(II)V" } : Jvm.MethodName) prog_24_method_1_code (3 : Nat) (Option.none : Option Jvm.ClassFile.FieldType)) ∈ lw_all := lw_g (lw_at lw_m6 211 rfl) rfl
theorem q1508 : (Jvm.Cond.methodLinkNest "DimpleWells$Tells" (1 : Nat) ({ cls := "DimpleWells$Act", name := "<init>", desc := "()V" } : Jvm.MethodName) "DimpleWells") ∈ lw_tbl := lw_at lw_m6 212 rfl
theorem q1515 : (Jvm.Cond.fieldLink "DimpleWells$Tells" (7 : Nat) "DimpleWells$Tells" "joke" "I") ∈ lw_all := lw_g (lw_at lw_m6 219 rfl) rfl
theorem q1516 : (Jvm.Cond.fieldLink "DimpleWells$Tells" (13 : Nat) "DimpleWells$Tells" "person" "I") ∈ lw_all := lw_g (lw_at lw_m6 220 rfl) rfl
theorem q1517 : (Jvm.Cond.laysFinal "DimpleWells$Tells" "DimpleWells$Tells" "joke" "I") ∈ lw_all := lw_g (lw_at lw_m6 221 rfl) rfl
theorem q1518 : (Jvm.Cond.soleField "DimpleWells$Tells" "joke") ∈ lw_all := lw_g (lw_at lw_m6 222 rfl) rfl
theorem q1519 : (Jvm.Cond.laysFinal "DimpleWells$Tells" "DimpleWells$Tells" "person" "I") ∈ lw_all := lw_g (lw_at lw_m6 223 rfl) rfl
theorem q1520 : (Jvm.Cond.soleField "DimpleWells$Tells" "person") ∈ lw_all := lw_g (lw_at lw_m6 224 rfl) rfl
theorem q1521 : (Jvm.Cond.superclass "DimpleWells$Tells" "DimpleWells$Act") ∈ lw_all := lw_g (lw_at lw_m6 225 rfl) rfl
theorem q1643 : (Jvm.Cond.selects "DimpleWells$Tells" ({ cls := "DimpleWells$Act", name := "isDone", desc := "(LDimpleWells$Season;)Z" } : Jvm.MethodName) ({ cls := "DimpleWells$Tells", name := "isDone", desc := "(LDimpleWells$Season;)Z" } : Jvm.MethodName)) ∈ lw_all := lw_g (lw_at lw_m7 107 rfl) rfl
theorem q1644 : (Jvm.Cond.instanceMethod ({ cls := "DimpleWells$Tells", name := "isDone", desc := "(LDimpleWells$Season;)Z" } : Jvm.MethodName)) ∈ lw_all := lw_g (lw_at lw_m7 108 rfl) rfl
theorem q1645 : (Jvm.Cond.code ({ cls := "DimpleWells$Tells", name := "isDone", desc := "(LDimpleWells$Season;)Z" } : Jvm.MethodName) prog_24_method_2_code (2 : Nat) (Option.some Jvm.ClassFile.FieldType.boolean)) ∈ lw_all := lw_g (lw_at lw_m7 109 rfl) rfl
theorem q1646 : (Jvm.Cond.methodLink "DimpleWells$Tells" (16 : Nat) ({ cls := "DimpleWells$Season", name := "tells", desc := "(II)Z" } : Jvm.MethodName)) ∈ lw_all := lw_g (lw_at lw_m7 110 rfl) rfl
theorem q1655 : (Jvm.Cond.selects "DimpleWells$Tells" ({ cls := "DimpleWells$Step", name := "goes", desc := "(LDimpleWells$Season;)V" } : Jvm.MethodName) ({ cls := "DimpleWells$Act", name := "goes", desc := "(LDimpleWells$Season;)V" } : Jvm.MethodName)) ∈ lw_all := lw_g (lw_at lw_m7 119 rfl) rfl
theorem q2580 : (Jvm.Cond.castable "DimpleWells$Tells" "DimpleWells$Step") ∈ lw_tbl := lw_at lw_m11 84 rfl
theorem q2605 : (Jvm.Cond.castable "DimpleWells$Tells" "java/lang/Object") ∈ lw_tbl := lw_at lw_m11 109 rfl
theorem in_X25 : ∀ w ∈ wsX250, w ∈ lw_all := lw_in wsX250 [1517, 1519] (by decide +kernel) (by decide +kernel)
/-! DimpleWells$Grieves -/
set_option maxRecDepth 100000
def RX26 : String := "DimpleWells$Grieves"
def TX26 : u_T := fun k => match k with
  | 0 => ("DimpleWells$Grieves", "person", "I", true)
  | _ => ("DimpleWells$Grieves", "days", "I", true)
def tyX26 : Nat → FieldType := fun k => match k with
  | 0 => .int
  | _ => .int
abbrev wsX260 : List Cond := u_ws RX26 TX26 2
theorem nmX26 : ∀ a, a < 2 → ∀ b, b < 2 → a ≠ b → (TX26 a).2.1 ≠ (TX26 b).2.1 := by decide +kernel
theorem tyX26_ok : ∀ k, k < 2 → parseFieldDescriptor (TX26 k).2.2.1 = some (tyX26 k) := by decide +kernel
abbrev cX26_init : ByteArray := prog_8_method_1_code
def yX26_init : MethodName := ⟨RX26, "<init>", "(II)V"⟩
def dkwX26_init_0 : List UInt8 := [42, 183, 0, 1, 42, 27, 181, 0, 7, 42, 28, 181, 0, 13, 177]
abbrev dktX26_init_0 : List UInt8 := dkwX26_init_0 ++ []
theorem dksX26_init_0 : cX26_init.data.toList.drop 0 = dktX26_init_0 := by decide +kernel
theorem dX26_init_0 : decode cX26_init 0 = .ok (.aload_n 0, 1) := dk_42 (dk_at dksX26_init_0 0 rfl rfl)
theorem dX26_init_1 : decode cX26_init 1 = .ok (.invokespecial 1, 3) := dk_183 0 1 (dk_at dksX26_init_0 1 rfl rfl)
theorem dX26_init_4 : decode cX26_init 4 = .ok (.aload_n 0, 1) := dk_42 (dk_at dksX26_init_0 4 rfl rfl)
theorem dX26_init_5 : decode cX26_init 5 = .ok (.iload_n 1, 1) := dk_27 (dk_at dksX26_init_0 5 rfl rfl)
theorem dX26_init_6 : decode cX26_init 6 = .ok (.putfield 7, 3) := dk_181 0 7 (dk_at dksX26_init_0 6 rfl rfl)
theorem dX26_init_9 : decode cX26_init 9 = .ok (.aload_n 0, 1) := dk_42 (dk_at dksX26_init_0 9 rfl rfl)
theorem dX26_init_10 : decode cX26_init 10 = .ok (.iload_n 2, 1) := dk_28 (dk_at dksX26_init_0 10 rfl rfl)
theorem dX26_init_11 : decode cX26_init 11 = .ok (.putfield 13, 3) := dk_181 0 13 (dk_at dksX26_init_0 11 rfl rfl)
theorem dX26_init_14 : decode cX26_init 14 = .ok (.return_, 1) := dk_177 (dk_at dksX26_init_0 14 rfl rfl)
abbrev cX26_isDone : ByteArray := prog_8_method_2_code
def yX26_isDone : MethodName := ⟨RX26, "isDone", "(LDimpleWells$Season;)Z"⟩
def dkwX26_isDone_0 : List UInt8 := [43, 42, 180, 0, 7, 42, 180, 0, 13, 182, 0, 16, 172]
abbrev dktX26_isDone_0 : List UInt8 := dkwX26_isDone_0 ++ []
theorem dksX26_isDone_0 : cX26_isDone.data.toList.drop 0 = dktX26_isDone_0 := by decide +kernel
theorem dX26_isDone_0 : decode cX26_isDone 0 = .ok (.aload_n 1, 1) := dk_43 (dk_at dksX26_isDone_0 0 rfl rfl)
theorem dX26_isDone_1 : decode cX26_isDone 1 = .ok (.aload_n 0, 1) := dk_42 (dk_at dksX26_isDone_0 1 rfl rfl)
theorem dX26_isDone_2 : decode cX26_isDone 2 = .ok (.getfield 7, 3) := dk_180 0 7 (dk_at dksX26_isDone_0 2 rfl rfl)
theorem dX26_isDone_5 : decode cX26_isDone 5 = .ok (.aload_n 0, 1) := dk_42 (dk_at dksX26_isDone_0 5 rfl rfl)
theorem dX26_isDone_6 : decode cX26_isDone 6 = .ok (.getfield 13, 3) := dk_180 0 13 (dk_at dksX26_isDone_0 6 rfl rfl)
theorem dX26_isDone_9 : decode cX26_isDone 9 = .ok (.invokevirtual 16, 3) := dk_182 0 16 (dk_at dksX26_isDone_0 9 rfl rfl)
theorem dX26_isDone_12 : decode cX26_isDone 12 = .ok (.ireturn, 1) := dk_172 (dk_at dksX26_isDone_0 12 rfl rfl)
theorem q141 : (Jvm.Cond.initialized "DimpleWells$Grieves") ∈ lw_all := lw_g (lw_at lw_m1 45 rfl) rfl
theorem q1249 : (Jvm.Cond.selects "DimpleWells$Grieves" ({ cls := "java/lang/Object", name := "getClass", desc := "()Ljava/lang/Class;" } : Jvm.MethodName) ({ cls := "java/lang/Object", name := "getClass", desc := "()Ljava/lang/Class;" } : Jvm.MethodName)) ∈ lw_all := lw_g (lw_at lw_m5 193 rfl) rfl
theorem q1523 : (Jvm.Cond.instantiable "DimpleWells$Grieves" (2 : Nat)) ∈ lw_all := lw_g (lw_at lw_m6 227 rfl) rfl
theorem q1525 : (Jvm.Cond.instanceMethod ({ cls := "DimpleWells$Grieves", name := "<init>", desc := "(II)V" } : Jvm.MethodName)) ∈ lw_all := lw_g (lw_at lw_m6 229 rfl) rfl
theorem q1526 : (Jvm.Cond.code ({ cls := "DimpleWells$Grieves", name := "<init>", desc := "(II)V" } : Jvm.MethodName) prog_8_method_1_code (3 : Nat) (Option.none : Option Jvm.ClassFile.FieldType)) ∈ lw_all := lw_g (lw_at lw_m6 230 rfl) rfl
theorem q1527 : (Jvm.Cond.methodLinkNest "DimpleWells$Grieves" (1 : Nat) ({ cls := "DimpleWells$Act", name := "<init>", desc := "()V" } : Jvm.MethodName) "DimpleWells") ∈ lw_tbl := lw_at lw_m6 231 rfl
theorem q1528 : (Jvm.Cond.fieldLink "DimpleWells$Grieves" (7 : Nat) "DimpleWells$Grieves" "person" "I") ∈ lw_all := lw_g (lw_at lw_m6 232 rfl) rfl
theorem q1529 : (Jvm.Cond.fieldLink "DimpleWells$Grieves" (13 : Nat) "DimpleWells$Grieves" "days" "I") ∈ lw_all := lw_g (lw_at lw_m6 233 rfl) rfl
theorem q1530 : (Jvm.Cond.laysFinal "DimpleWells$Grieves" "DimpleWells$Grieves" "person" "I") ∈ lw_all := lw_g (lw_at lw_m6 234 rfl) rfl
theorem q1531 : (Jvm.Cond.soleField "DimpleWells$Grieves" "person") ∈ lw_all := lw_g (lw_at lw_m6 235 rfl) rfl
theorem q1532 : (Jvm.Cond.laysFinal "DimpleWells$Grieves" "DimpleWells$Grieves" "days" "I") ∈ lw_all := lw_g (lw_at lw_m6 236 rfl) rfl
theorem q1533 : (Jvm.Cond.soleField "DimpleWells$Grieves" "days") ∈ lw_all := lw_g (lw_at lw_m6 237 rfl) rfl
theorem q1534 : (Jvm.Cond.superclass "DimpleWells$Grieves" "DimpleWells$Act") ∈ lw_all := lw_g (lw_at lw_m6 238 rfl) rfl
theorem q1621 : (Jvm.Cond.selects "DimpleWells$Grieves" ({ cls := "DimpleWells$Act", name := "isDone", desc := "(LDimpleWells$Season;)Z" } : Jvm.MethodName) ({ cls := "DimpleWells$Grieves", name := "isDone", desc := "(LDimpleWells$Season;)Z" } : Jvm.MethodName)) ∈ lw_all := lw_g (lw_at lw_m7 85 rfl) rfl
theorem q1622 : (Jvm.Cond.instanceMethod ({ cls := "DimpleWells$Grieves", name := "isDone", desc := "(LDimpleWells$Season;)Z" } : Jvm.MethodName)) ∈ lw_all := lw_g (lw_at lw_m7 86 rfl) rfl
theorem q1623 : (Jvm.Cond.code ({ cls := "DimpleWells$Grieves", name := "isDone", desc := "(LDimpleWells$Season;)Z" } : Jvm.MethodName) prog_8_method_2_code (2 : Nat) (Option.some Jvm.ClassFile.FieldType.boolean)) ∈ lw_all := lw_g (lw_at lw_m7 87 rfl) rfl
theorem q1624 : (Jvm.Cond.methodLink "DimpleWells$Grieves" (16 : Nat) ({ cls := "DimpleWells$Season", name := "grieves", desc := "(II)Z" } : Jvm.MethodName)) ∈ lw_all := lw_g (lw_at lw_m7 88 rfl) rfl
theorem q1652 : (Jvm.Cond.selects "DimpleWells$Grieves" ({ cls := "DimpleWells$Step", name := "goes", desc := "(LDimpleWells$Season;)V" } : Jvm.MethodName) ({ cls := "DimpleWells$Act", name := "goes", desc := "(LDimpleWells$Season;)V" } : Jvm.MethodName)) ∈ lw_all := lw_g (lw_at lw_m7 116 rfl) rfl
theorem q2577 : (Jvm.Cond.castable "DimpleWells$Grieves" "DimpleWells$Step") ∈ lw_tbl := lw_at lw_m11 81 rfl
theorem q2606 : (Jvm.Cond.castable "DimpleWells$Grieves" "java/lang/Object") ∈ lw_tbl := lw_at lw_m11 110 rfl
theorem in_X26 : ∀ w ∈ wsX260, w ∈ lw_all := lw_in wsX260 [1530, 1532] (by decide +kernel) (by decide +kernel)
/-! DimpleWells$Cheers -/
set_option maxRecDepth 100000
def RX27 : String := "DimpleWells$Cheers"
def TX27 : u_T := fun k => match k with
  | _ => ("DimpleWells$Cheers", "person", "I", true)
def tyX27 : Nat → FieldType := fun k => match k with
  | _ => .int
abbrev wsX270 : List Cond := u_ws RX27 TX27 1
theorem nmX27 : ∀ a, a < 1 → ∀ b, b < 1 → a ≠ b → (TX27 a).2.1 ≠ (TX27 b).2.1 := by decide +kernel
theorem tyX27_ok : ∀ k, k < 1 → parseFieldDescriptor (TX27 k).2.2.1 = some (tyX27 k) := by decide +kernel
abbrev cX27_init : ByteArray := prog_6_method_1_code
def yX27_init : MethodName := ⟨RX27, "<init>", "(I)V"⟩
def dkwX27_init_0 : List UInt8 := [42, 183, 0, 1, 42, 27, 181, 0, 7, 177]
abbrev dktX27_init_0 : List UInt8 := dkwX27_init_0 ++ []
theorem dksX27_init_0 : cX27_init.data.toList.drop 0 = dktX27_init_0 := by decide +kernel
theorem dX27_init_0 : decode cX27_init 0 = .ok (.aload_n 0, 1) := dk_42 (dk_at dksX27_init_0 0 rfl rfl)
theorem dX27_init_1 : decode cX27_init 1 = .ok (.invokespecial 1, 3) := dk_183 0 1 (dk_at dksX27_init_0 1 rfl rfl)
theorem dX27_init_4 : decode cX27_init 4 = .ok (.aload_n 0, 1) := dk_42 (dk_at dksX27_init_0 4 rfl rfl)
theorem dX27_init_5 : decode cX27_init 5 = .ok (.iload_n 1, 1) := dk_27 (dk_at dksX27_init_0 5 rfl rfl)
theorem dX27_init_6 : decode cX27_init 6 = .ok (.putfield 7, 3) := dk_181 0 7 (dk_at dksX27_init_0 6 rfl rfl)
theorem dX27_init_9 : decode cX27_init 9 = .ok (.return_, 1) := dk_177 (dk_at dksX27_init_0 9 rfl rfl)
abbrev cX27_isDone : ByteArray := prog_6_method_2_code
def yX27_isDone : MethodName := ⟨RX27, "isDone", "(LDimpleWells$Season;)Z"⟩
def dkwX27_isDone_0 : List UInt8 := [43, 42, 180, 0, 7, 182, 0, 13, 172]
abbrev dktX27_isDone_0 : List UInt8 := dkwX27_isDone_0 ++ []
theorem dksX27_isDone_0 : cX27_isDone.data.toList.drop 0 = dktX27_isDone_0 := by decide +kernel
theorem dX27_isDone_0 : decode cX27_isDone 0 = .ok (.aload_n 1, 1) := dk_43 (dk_at dksX27_isDone_0 0 rfl rfl)
theorem dX27_isDone_1 : decode cX27_isDone 1 = .ok (.aload_n 0, 1) := dk_42 (dk_at dksX27_isDone_0 1 rfl rfl)
theorem dX27_isDone_2 : decode cX27_isDone 2 = .ok (.getfield 7, 3) := dk_180 0 7 (dk_at dksX27_isDone_0 2 rfl rfl)
theorem dX27_isDone_5 : decode cX27_isDone 5 = .ok (.invokevirtual 13, 3) := dk_182 0 13 (dk_at dksX27_isDone_0 5 rfl rfl)
theorem dX27_isDone_8 : decode cX27_isDone 8 = .ok (.ireturn, 1) := dk_172 (dk_at dksX27_isDone_0 8 rfl rfl)
theorem q142 : (Jvm.Cond.initialized "DimpleWells$Cheers") ∈ lw_all := lw_g (lw_at lw_m1 46 rfl) rfl
theorem q1247 : (Jvm.Cond.selects "DimpleWells$Cheers" ({ cls := "java/lang/Object", name := "getClass", desc := "()Ljava/lang/Class;" } : Jvm.MethodName) ({ cls := "java/lang/Object", name := "getClass", desc := "()Ljava/lang/Class;" } : Jvm.MethodName)) ∈ lw_all := lw_g (lw_at lw_m5 191 rfl) rfl
theorem q1536 : (Jvm.Cond.instantiable "DimpleWells$Cheers" (1 : Nat)) ∈ lw_all := lw_g (lw_at lw_m7 0 rfl) rfl
theorem q1538 : (Jvm.Cond.instanceMethod ({ cls := "DimpleWells$Cheers", name := "<init>", desc := "(I)V" } : Jvm.MethodName)) ∈ lw_all := lw_g (lw_at lw_m7 2 rfl) rfl
theorem q1539 : (Jvm.Cond.code ({ cls := "DimpleWells$Cheers", name := "<init>", desc := "(I)V" } : Jvm.MethodName) prog_6_method_1_code (2 : Nat) (Option.none : Option Jvm.ClassFile.FieldType)) ∈ lw_all := lw_g (lw_at lw_m7 3 rfl) rfl
theorem q1540 : (Jvm.Cond.methodLinkNest "DimpleWells$Cheers" (1 : Nat) ({ cls := "DimpleWells$Act", name := "<init>", desc := "()V" } : Jvm.MethodName) "DimpleWells") ∈ lw_tbl := lw_at lw_m7 4 rfl
theorem q1541 : (Jvm.Cond.fieldLink "DimpleWells$Cheers" (7 : Nat) "DimpleWells$Cheers" "person" "I") ∈ lw_all := lw_g (lw_at lw_m7 5 rfl) rfl
theorem q1542 : (Jvm.Cond.laysFinal "DimpleWells$Cheers" "DimpleWells$Cheers" "person" "I") ∈ lw_all := lw_g (lw_at lw_m7 6 rfl) rfl
theorem q1543 : (Jvm.Cond.soleField "DimpleWells$Cheers" "person") ∈ lw_all := lw_g (lw_at lw_m7 7 rfl) rfl
theorem q1544 : (Jvm.Cond.superclass "DimpleWells$Cheers" "DimpleWells$Act") ∈ lw_all := lw_g (lw_at lw_m7 8 rfl) rfl
theorem q1614 : (Jvm.Cond.selects "DimpleWells$Cheers" ({ cls := "DimpleWells$Act", name := "isDone", desc := "(LDimpleWells$Season;)Z" } : Jvm.MethodName) ({ cls := "DimpleWells$Cheers", name := "isDone", desc := "(LDimpleWells$Season;)Z" } : Jvm.MethodName)) ∈ lw_all := lw_g (lw_at lw_m7 78 rfl) rfl
theorem q1615 : (Jvm.Cond.instanceMethod ({ cls := "DimpleWells$Cheers", name := "isDone", desc := "(LDimpleWells$Season;)Z" } : Jvm.MethodName)) ∈ lw_all := lw_g (lw_at lw_m7 79 rfl) rfl
theorem q1616 : (Jvm.Cond.code ({ cls := "DimpleWells$Cheers", name := "isDone", desc := "(LDimpleWells$Season;)Z" } : Jvm.MethodName) prog_6_method_2_code (2 : Nat) (Option.some Jvm.ClassFile.FieldType.boolean)) ∈ lw_all := lw_g (lw_at lw_m7 80 rfl) rfl
theorem q1617 : (Jvm.Cond.methodLink "DimpleWells$Cheers" (13 : Nat) ({ cls := "DimpleWells$Season", name := "cheers", desc := "(I)Z" } : Jvm.MethodName)) ∈ lw_all := lw_g (lw_at lw_m7 81 rfl) rfl
theorem q1651 : (Jvm.Cond.selects "DimpleWells$Cheers" ({ cls := "DimpleWells$Step", name := "goes", desc := "(LDimpleWells$Season;)V" } : Jvm.MethodName) ({ cls := "DimpleWells$Act", name := "goes", desc := "(LDimpleWells$Season;)V" } : Jvm.MethodName)) ∈ lw_all := lw_g (lw_at lw_m7 115 rfl) rfl
theorem q2576 : (Jvm.Cond.castable "DimpleWells$Cheers" "DimpleWells$Step") ∈ lw_tbl := lw_at lw_m11 80 rfl
theorem q2607 : (Jvm.Cond.castable "DimpleWells$Cheers" "java/lang/Object") ∈ lw_tbl := lw_at lw_m11 111 rfl
theorem in_X27 : ∀ w ∈ wsX270, w ∈ lw_all := lw_in wsX270 [1542] (by decide +kernel) (by decide +kernel)
/-! DimpleWells$Pours -/
set_option maxRecDepth 100000
def RX28 : String := "DimpleWells$Pours"
def TX28 : u_T := fun k => match k with
  | _ => ("DimpleWells$Pours", "much", "I", true)
def tyX28 : Nat → FieldType := fun k => match k with
  | _ => .int
abbrev wsX280 : List Cond := u_ws RX28 TX28 1
theorem nmX28 : ∀ a, a < 1 → ∀ b, b < 1 → a ≠ b → (TX28 a).2.1 ≠ (TX28 b).2.1 := by decide +kernel
theorem tyX28_ok : ∀ k, k < 1 → parseFieldDescriptor (TX28 k).2.2.1 = some (tyX28 k) := by decide +kernel
abbrev cX28_init : ByteArray := prog_20_method_1_code
def yX28_init : MethodName := ⟨RX28, "<init>", "(I)V"⟩
def dkwX28_init_0 : List UInt8 := [42, 183, 0, 1, 42, 27, 181, 0, 7, 177]
abbrev dktX28_init_0 : List UInt8 := dkwX28_init_0 ++ []
theorem dksX28_init_0 : cX28_init.data.toList.drop 0 = dktX28_init_0 := by decide +kernel
theorem dX28_init_0 : decode cX28_init 0 = .ok (.aload_n 0, 1) := dk_42 (dk_at dksX28_init_0 0 rfl rfl)
theorem dX28_init_1 : decode cX28_init 1 = .ok (.invokespecial 1, 3) := dk_183 0 1 (dk_at dksX28_init_0 1 rfl rfl)
theorem dX28_init_4 : decode cX28_init 4 = .ok (.aload_n 0, 1) := dk_42 (dk_at dksX28_init_0 4 rfl rfl)
theorem dX28_init_5 : decode cX28_init 5 = .ok (.iload_n 1, 1) := dk_27 (dk_at dksX28_init_0 5 rfl rfl)
theorem dX28_init_6 : decode cX28_init 6 = .ok (.putfield 7, 3) := dk_181 0 7 (dk_at dksX28_init_0 6 rfl rfl)
theorem dX28_init_9 : decode cX28_init 9 = .ok (.return_, 1) := dk_177 (dk_at dksX28_init_0 9 rfl rfl)
abbrev cX28_isDone : ByteArray := prog_20_method_2_code
def yX28_isDone : MethodName := ⟨RX28, "isDone", "(LDimpleWells$Season;)Z"⟩
def dkwX28_isDone_0 : List UInt8 := [43, 42, 180, 0, 7, 182, 0, 13, 172]
abbrev dktX28_isDone_0 : List UInt8 := dkwX28_isDone_0 ++ []
theorem dksX28_isDone_0 : cX28_isDone.data.toList.drop 0 = dktX28_isDone_0 := by decide +kernel
theorem dX28_isDone_0 : decode cX28_isDone 0 = .ok (.aload_n 1, 1) := dk_43 (dk_at dksX28_isDone_0 0 rfl rfl)
theorem dX28_isDone_1 : decode cX28_isDone 1 = .ok (.aload_n 0, 1) := dk_42 (dk_at dksX28_isDone_0 1 rfl rfl)
theorem dX28_isDone_2 : decode cX28_isDone 2 = .ok (.getfield 7, 3) := dk_180 0 7 (dk_at dksX28_isDone_0 2 rfl rfl)
theorem dX28_isDone_5 : decode cX28_isDone 5 = .ok (.invokevirtual 13, 3) := dk_182 0 13 (dk_at dksX28_isDone_0 5 rfl rfl)
theorem dX28_isDone_8 : decode cX28_isDone 8 = .ok (.ireturn, 1) := dk_172 (dk_at dksX28_isDone_0 8 rfl rfl)
theorem q143 : (Jvm.Cond.initialized "DimpleWells$Pours") ∈ lw_all := lw_g (lw_at lw_m1 47 rfl) rfl
theorem q1261 : (Jvm.Cond.selects "DimpleWells$Pours" ({ cls := "java/lang/Object", name := "getClass", desc := "()Ljava/lang/Class;" } : Jvm.MethodName) ({ cls := "java/lang/Object", name := "getClass", desc := "()Ljava/lang/Class;" } : Jvm.MethodName)) ∈ lw_all := lw_g (lw_at lw_m5 205 rfl) rfl
theorem q1546 : (Jvm.Cond.instantiable "DimpleWells$Pours" (1 : Nat)) ∈ lw_all := lw_g (lw_at lw_m7 10 rfl) rfl
theorem q1548 : (Jvm.Cond.instanceMethod ({ cls := "DimpleWells$Pours", name := "<init>", desc := "(I)V" } : Jvm.MethodName)) ∈ lw_all := lw_g (lw_at lw_m7 12 rfl) rfl
theorem q1549 : (Jvm.Cond.code ({ cls := "DimpleWells$Pours", name := "<init>", desc := "(I)V" } : Jvm.MethodName) prog_20_method_1_code (2 : Nat) (Option.none : Option Jvm.ClassFile.FieldType)) ∈ lw_all := lw_g (lw_at lw_m7 13 rfl) rfl
theorem q1550 : (Jvm.Cond.methodLinkNest "DimpleWells$Pours" (1 : Nat) ({ cls := "DimpleWells$Act", name := "<init>", desc := "()V" } : Jvm.MethodName) "DimpleWells") ∈ lw_tbl := lw_at lw_m7 14 rfl
theorem q1551 : (Jvm.Cond.fieldLink "DimpleWells$Pours" (7 : Nat) "DimpleWells$Pours" "much" "I") ∈ lw_all := lw_g (lw_at lw_m7 15 rfl) rfl
theorem q1552 : (Jvm.Cond.laysFinal "DimpleWells$Pours" "DimpleWells$Pours" "much" "I") ∈ lw_all := lw_g (lw_at lw_m7 16 rfl) rfl
theorem q1553 : (Jvm.Cond.soleField "DimpleWells$Pours" "much") ∈ lw_all := lw_g (lw_at lw_m7 17 rfl) rfl
theorem q1554 : (Jvm.Cond.superclass "DimpleWells$Pours" "DimpleWells$Act") ∈ lw_all := lw_g (lw_at lw_m7 18 rfl) rfl
theorem q1636 : (Jvm.Cond.selects "DimpleWells$Pours" ({ cls := "DimpleWells$Act", name := "isDone", desc := "(LDimpleWells$Season;)Z" } : Jvm.MethodName) ({ cls := "DimpleWells$Pours", name := "isDone", desc := "(LDimpleWells$Season;)Z" } : Jvm.MethodName)) ∈ lw_all := lw_g (lw_at lw_m7 100 rfl) rfl
theorem q1637 : (Jvm.Cond.instanceMethod ({ cls := "DimpleWells$Pours", name := "isDone", desc := "(LDimpleWells$Season;)Z" } : Jvm.MethodName)) ∈ lw_all := lw_g (lw_at lw_m7 101 rfl) rfl
theorem q1638 : (Jvm.Cond.code ({ cls := "DimpleWells$Pours", name := "isDone", desc := "(LDimpleWells$Season;)Z" } : Jvm.MethodName) prog_20_method_2_code (2 : Nat) (Option.some Jvm.ClassFile.FieldType.boolean)) ∈ lw_all := lw_g (lw_at lw_m7 102 rfl) rfl
theorem q1639 : (Jvm.Cond.methodLink "DimpleWells$Pours" (13 : Nat) ({ cls := "DimpleWells$Season", name := "pours", desc := "(I)Z" } : Jvm.MethodName)) ∈ lw_all := lw_g (lw_at lw_m7 103 rfl) rfl
theorem q1654 : (Jvm.Cond.selects "DimpleWells$Pours" ({ cls := "DimpleWells$Step", name := "goes", desc := "(LDimpleWells$Season;)V" } : Jvm.MethodName) ({ cls := "DimpleWells$Act", name := "goes", desc := "(LDimpleWells$Season;)V" } : Jvm.MethodName)) ∈ lw_all := lw_g (lw_at lw_m7 118 rfl) rfl
theorem q2579 : (Jvm.Cond.castable "DimpleWells$Pours" "DimpleWells$Step") ∈ lw_tbl := lw_at lw_m11 83 rfl
theorem q2608 : (Jvm.Cond.castable "DimpleWells$Pours" "java/lang/Object") ∈ lw_tbl := lw_at lw_m11 112 rfl
theorem in_X28 : ∀ w ∈ wsX280, w ∈ lw_all := lw_in wsX280 [1552] (by decide +kernel) (by decide +kernel)
/-! DimpleWells$Passes -/
set_option maxRecDepth 100000
def RX29 : String := "DimpleWells$Passes"
abbrev cX29_init : ByteArray := prog_16_method_1_code
def yX29_init : MethodName := ⟨RX29, "<init>", "()V"⟩
theorem dX29_init_0 : decode cX29_init 0 = .ok (.aload_n 0, 1) := by decide +kernel
theorem dX29_init_1 : decode cX29_init 1 = .ok (.invokespecial 1, 3) := by decide +kernel
theorem dX29_init_4 : decode cX29_init 4 = .ok (.return_, 1) := by decide +kernel
abbrev cX29_isDone : ByteArray := prog_16_method_2_code
def yX29_isDone : MethodName := ⟨RX29, "isDone", "(LDimpleWells$Season;)Z"⟩
theorem dX29_isDone_0 : decode cX29_isDone 0 = .ok (.aload_n 1, 1) := by decide +kernel
theorem dX29_isDone_1 : decode cX29_isDone 1 = .ok (.invokevirtual 7, 3) := by decide +kernel
theorem dX29_isDone_4 : decode cX29_isDone 4 = .ok (.ireturn, 1) := by decide +kernel
theorem q144 : (Jvm.Cond.initialized "DimpleWells$Passes") ∈ lw_all := lw_g (lw_at lw_m1 48 rfl) rfl
theorem q1257 : (Jvm.Cond.selects "DimpleWells$Passes" ({ cls := "java/lang/Object", name := "getClass", desc := "()Ljava/lang/Class;" } : Jvm.MethodName) ({ cls := "java/lang/Object", name := "getClass", desc := "()Ljava/lang/Class;" } : Jvm.MethodName)) ∈ lw_all := lw_g (lw_at lw_m5 201 rfl) rfl
theorem q1556 : (Jvm.Cond.instantiable "DimpleWells$Passes" (0 : Nat)) ∈ lw_all := lw_g (lw_at lw_m7 20 rfl) rfl
theorem q1558 : (Jvm.Cond.instanceMethod ({ cls := "DimpleWells$Passes", name := "<init>", desc := "()V" } : Jvm.MethodName)) ∈ lw_all := lw_g (lw_at lw_m7 22 rfl) rfl
theorem q1559 : (Jvm.Cond.code ({ cls := "DimpleWells$Passes", name := "<init>", desc := "()V" } : Jvm.MethodName) prog_16_method_1_code (1 : Nat) (Option.none : Option Jvm.ClassFile.FieldType)) ∈ lw_all := lw_g (lw_at lw_m7 23 rfl) rfl
theorem q1560 : (Jvm.Cond.methodLinkNest "DimpleWells$Passes" (1 : Nat) ({ cls := "DimpleWells$Act", name := "<init>", desc := "()V" } : Jvm.MethodName) "DimpleWells") ∈ lw_tbl := lw_at lw_m7 24 rfl
theorem q1561 : (Jvm.Cond.superclass "DimpleWells$Passes" "DimpleWells$Act") ∈ lw_all := lw_g (lw_at lw_m7 25 rfl) rfl
theorem q1628 : (Jvm.Cond.selects "DimpleWells$Passes" ({ cls := "DimpleWells$Act", name := "isDone", desc := "(LDimpleWells$Season;)Z" } : Jvm.MethodName) ({ cls := "DimpleWells$Passes", name := "isDone", desc := "(LDimpleWells$Season;)Z" } : Jvm.MethodName)) ∈ lw_all := lw_g (lw_at lw_m7 92 rfl) rfl
theorem q1629 : (Jvm.Cond.instanceMethod ({ cls := "DimpleWells$Passes", name := "isDone", desc := "(LDimpleWells$Season;)Z" } : Jvm.MethodName)) ∈ lw_all := lw_g (lw_at lw_m7 93 rfl) rfl
theorem q1630 : (Jvm.Cond.code ({ cls := "DimpleWells$Passes", name := "isDone", desc := "(LDimpleWells$Season;)Z" } : Jvm.MethodName) prog_16_method_2_code (2 : Nat) (Option.some Jvm.ClassFile.FieldType.boolean)) ∈ lw_all := lw_g (lw_at lw_m7 94 rfl) rfl
theorem q1631 : (Jvm.Cond.methodLink "DimpleWells$Passes" (7 : Nat) ({ cls := "DimpleWells$Season", name := "day", desc := "()Z" } : Jvm.MethodName)) ∈ lw_all := lw_g (lw_at lw_m7 95 rfl) rfl
theorem q1653 : (Jvm.Cond.selects "DimpleWells$Passes" ({ cls := "DimpleWells$Step", name := "goes", desc := "(LDimpleWells$Season;)V" } : Jvm.MethodName) ({ cls := "DimpleWells$Act", name := "goes", desc := "(LDimpleWells$Season;)V" } : Jvm.MethodName)) ∈ lw_all := lw_g (lw_at lw_m7 117 rfl) rfl
theorem q2578 : (Jvm.Cond.castable "DimpleWells$Passes" "DimpleWells$Step") ∈ lw_tbl := lw_at lw_m11 82 rfl
theorem q2609 : (Jvm.Cond.castable "DimpleWells$Passes" "java/lang/Object") ∈ lw_tbl := lw_at lw_m11 113 rfl
/-! DimpleWells$Again -/
set_option maxRecDepth 100000
def RX30 : String := "DimpleWells$Again"
def TX30 : u_T := fun k => match k with
  | 0 => ("DimpleWells$Again", "times", "I", true)
  | _ => ("DimpleWells$Again", "steps", "Ljava/util/ArrayList;", true)
def tyX30 : Nat → FieldType := fun k => match k with
  | 0 => .int
  | _ => .object "java/util/ArrayList"
abbrev wsX300 : List Cond := u_ws RX30 TX30 2
theorem nmX30 : ∀ a, a < 2 → ∀ b, b < 2 → a ≠ b → (TX30 a).2.1 ≠ (TX30 b).2.1 := by decide +kernel
theorem tyX30_ok : ∀ k, k < 2 → parseFieldDescriptor (TX30 k).2.2.1 = some (tyX30 k) := by decide +kernel
abbrev cX30_init : ByteArray := prog_3_method_1_code
def yX30_init : MethodName := ⟨RX30, "<init>", "(I)V"⟩
def dkwX30_init_0 : List UInt8 := [42, 183, 0, 3, 42, 187, 0, 9, 89, 4, 183, 0, 11, 181, 0, 14, 42, 27, 181, 0, 20, 177]
abbrev dktX30_init_0 : List UInt8 := dkwX30_init_0 ++ []
theorem dksX30_init_0 : cX30_init.data.toList.drop 0 = dktX30_init_0 := by decide +kernel
theorem dX30_init_0 : decode cX30_init 0 = .ok (.aload_n 0, 1) := dk_42 (dk_at dksX30_init_0 0 rfl rfl)
theorem dX30_init_1 : decode cX30_init 1 = .ok (.invokespecial 3, 3) := dk_183 0 3 (dk_at dksX30_init_0 1 rfl rfl)
theorem dX30_init_4 : decode cX30_init 4 = .ok (.aload_n 0, 1) := dk_42 (dk_at dksX30_init_0 4 rfl rfl)
theorem dX30_init_5 : decode cX30_init 5 = .ok (.new 9, 3) := dk_187 0 9 (dk_at dksX30_init_0 5 rfl rfl)
theorem dX30_init_8 : decode cX30_init 8 = .ok (.dup, 1) := dk_89 (dk_at dksX30_init_0 8 rfl rfl)
theorem dX30_init_9 : decode cX30_init 9 = .ok (.iconst 1, 1) := dk_4 (dk_at dksX30_init_0 9 rfl rfl)
theorem dX30_init_10 : decode cX30_init 10 = .ok (.invokespecial 11, 3) := dk_183 0 11 (dk_at dksX30_init_0 10 rfl rfl)
theorem dX30_init_13 : decode cX30_init 13 = .ok (.putfield 14, 3) := dk_181 0 14 (dk_at dksX30_init_0 13 rfl rfl)
theorem dX30_init_16 : decode cX30_init 16 = .ok (.aload_n 0, 1) := dk_42 (dk_at dksX30_init_0 16 rfl rfl)
theorem dX30_init_17 : decode cX30_init 17 = .ok (.iload_n 1, 1) := dk_27 (dk_at dksX30_init_0 17 rfl rfl)
theorem dX30_init_18 : decode cX30_init 18 = .ok (.putfield 20, 3) := dk_181 0 20 (dk_at dksX30_init_0 18 rfl rfl)
theorem dX30_init_21 : decode cX30_init 21 = .ok (.return_, 1) := dk_177 (dk_at dksX30_init_0 21 rfl rfl)
abbrev cX30_goes : ByteArray := prog_3_method_2_code
def yX30_goes : MethodName := ⟨RX30, "goes", "(LDimpleWells$Season;)V"⟩
def dkwX30_goes_2 : List UInt8 := [182, 0, 36, 192, 0, 4, 43, 182, 0, 40, 132, 3, 1, 167, 255, 227, 132, 2, 1, 167, 255, 201, 177]
abbrev dktX30_goes_2 : List UInt8 := dkwX30_goes_2 ++ []
def dkwX30_goes_1 : List UInt8 := [17, 0, 200, 162, 0, 43, 3, 62, 29, 42, 180, 0, 14, 182, 0, 32, 162, 0, 24, 42, 180, 0, 14, 29]
abbrev dktX30_goes_1 : List UInt8 := dkwX30_goes_1 ++ dktX30_goes_2
def dkwX30_goes_0 : List UInt8 := [43, 184, 0, 24, 154, 0, 4, 177, 3, 61, 28, 42, 180, 0, 20, 162, 0, 53, 43, 180, 0, 28]
abbrev dktX30_goes_0 : List UInt8 := dkwX30_goes_0 ++ dktX30_goes_1
theorem dksX30_goes_0 : cX30_goes.data.toList.drop 0 = dktX30_goes_0 := by decide +kernel
theorem dksX30_goes_1 : cX30_goes.data.toList.drop 22 = dktX30_goes_1 := dk_seg dksX30_goes_0 22 rfl rfl
theorem dksX30_goes_2 : cX30_goes.data.toList.drop 46 = dktX30_goes_2 := dk_seg dksX30_goes_1 24 rfl rfl
theorem dX30_goes_0 : decode cX30_goes 0 = .ok (.aload_n 1, 1) := dk_43 (dk_at dksX30_goes_0 0 rfl rfl)
theorem dX30_goes_1 : decode cX30_goes 1 = .ok (.invokestatic 24, 3) := dk_184 0 24 (dk_at dksX30_goes_0 1 rfl rfl)
theorem dX30_goes_4 : decode cX30_goes 4 = .ok (.ifCond .ne 4, 3) := dk_154 0 4 (dk_at dksX30_goes_0 4 rfl rfl)
theorem dX30_goes_7 : decode cX30_goes 7 = .ok (.return_, 1) := dk_177 (dk_at dksX30_goes_0 7 rfl rfl)
theorem dX30_goes_8 : decode cX30_goes 8 = .ok (.iconst 0, 1) := dk_3 (dk_at dksX30_goes_0 8 rfl rfl)
theorem dX30_goes_9 : decode cX30_goes 9 = .ok (.istore_n 2, 1) := dk_61 (dk_at dksX30_goes_0 9 rfl rfl)
theorem dX30_goes_10 : decode cX30_goes 10 = .ok (.iload_n 2, 1) := dk_28 (dk_at dksX30_goes_0 10 rfl rfl)
theorem dX30_goes_11 : decode cX30_goes 11 = .ok (.aload_n 0, 1) := dk_42 (dk_at dksX30_goes_0 11 rfl rfl)
theorem dX30_goes_12 : decode cX30_goes 12 = .ok (.getfield 20, 3) := dk_180 0 20 (dk_at dksX30_goes_0 12 rfl rfl)
theorem dX30_goes_15 : decode cX30_goes 15 = .ok (.if_icmp .ge 53, 3) := dk_162 0 53 (dk_at dksX30_goes_0 15 rfl rfl)
theorem dX30_goes_18 : decode cX30_goes 18 = .ok (.aload_n 1, 1) := dk_43 (dk_at dksX30_goes_0 18 rfl rfl)
theorem dX30_goes_19 : decode cX30_goes 19 = .ok (.getfield 28, 3) := dk_180 0 28 (dk_at dksX30_goes_0 19 rfl rfl)
theorem dX30_goes_22 : decode cX30_goes 22 = .ok (.sipush 200, 3) := dk_17 0 200 (dk_at dksX30_goes_1 0 rfl rfl)
theorem dX30_goes_25 : decode cX30_goes 25 = .ok (.if_icmp .ge 43, 3) := dk_162 0 43 (dk_at dksX30_goes_1 3 rfl rfl)
theorem dX30_goes_28 : decode cX30_goes 28 = .ok (.iconst 0, 1) := dk_3 (dk_at dksX30_goes_1 6 rfl rfl)
theorem dX30_goes_29 : decode cX30_goes 29 = .ok (.istore_n 3, 1) := dk_62 (dk_at dksX30_goes_1 7 rfl rfl)
theorem dX30_goes_30 : decode cX30_goes 30 = .ok (.iload_n 3, 1) := dk_29 (dk_at dksX30_goes_1 8 rfl rfl)
theorem dX30_goes_31 : decode cX30_goes 31 = .ok (.aload_n 0, 1) := dk_42 (dk_at dksX30_goes_1 9 rfl rfl)
theorem dX30_goes_32 : decode cX30_goes 32 = .ok (.getfield 14, 3) := dk_180 0 14 (dk_at dksX30_goes_1 10 rfl rfl)
theorem dX30_goes_35 : decode cX30_goes 35 = .ok (.invokevirtual 32, 3) := dk_182 0 32 (dk_at dksX30_goes_1 13 rfl rfl)
theorem dX30_goes_38 : decode cX30_goes 38 = .ok (.if_icmp .ge 24, 3) := dk_162 0 24 (dk_at dksX30_goes_1 16 rfl rfl)
theorem dX30_goes_41 : decode cX30_goes 41 = .ok (.aload_n 0, 1) := dk_42 (dk_at dksX30_goes_1 19 rfl rfl)
theorem dX30_goes_42 : decode cX30_goes 42 = .ok (.getfield 14, 3) := dk_180 0 14 (dk_at dksX30_goes_1 20 rfl rfl)
theorem dX30_goes_45 : decode cX30_goes 45 = .ok (.iload_n 3, 1) := dk_29 (dk_at dksX30_goes_1 23 rfl rfl)
theorem dX30_goes_46 : decode cX30_goes 46 = .ok (.invokevirtual 36, 3) := dk_182 0 36 (dk_at dksX30_goes_2 0 rfl rfl)
theorem dX30_goes_49 : decode cX30_goes 49 = .ok (.checkcast 4, 3) := dk_192 0 4 (dk_at dksX30_goes_2 3 rfl rfl)
theorem dX30_goes_52 : decode cX30_goes 52 = .ok (.aload_n 1, 1) := dk_43 (dk_at dksX30_goes_2 6 rfl rfl)
theorem dX30_goes_53 : decode cX30_goes 53 = .ok (.invokevirtual 40, 3) := dk_182 0 40 (dk_at dksX30_goes_2 7 rfl rfl)
theorem dX30_goes_56 : decode cX30_goes 56 = .ok (.iinc 3 1, 3) := dk_132 3 1 (dk_at dksX30_goes_2 10 rfl rfl)
theorem dX30_goes_59 : decode cX30_goes 59 = .ok (.goto (-29), 3) := dk_167 255 227 (dk_at dksX30_goes_2 13 rfl rfl)
theorem dX30_goes_62 : decode cX30_goes 62 = .ok (.iinc 2 1, 3) := dk_132 2 1 (dk_at dksX30_goes_2 16 rfl rfl)
theorem dX30_goes_65 : decode cX30_goes 65 = .ok (.goto (-55), 3) := dk_167 255 201 (dk_at dksX30_goes_2 19 rfl rfl)
theorem dX30_goes_68 : decode cX30_goes 68 = .ok (.return_, 1) := dk_177 (dk_at dksX30_goes_2 22 rfl rfl)
theorem q145 : (Jvm.Cond.initialized "DimpleWells$Again") ∈ lw_all := lw_g (lw_at lw_m1 49 rfl) rfl
theorem q625 : (Jvm.Cond.fieldLinkNest "DimpleWells$Again" (28 : Nat) "DimpleWells$Season" "steps" "I" "DimpleWells") ∈ lw_tbl := lw_at lw_m3 49 rfl
theorem q1244 : (Jvm.Cond.selects "DimpleWells$Again" ({ cls := "java/lang/Object", name := "getClass", desc := "()Ljava/lang/Class;" } : Jvm.MethodName) ({ cls := "java/lang/Object", name := "getClass", desc := "()Ljava/lang/Class;" } : Jvm.MethodName)) ∈ lw_all := lw_g (lw_at lw_m5 188 rfl) rfl
theorem q1570 : (Jvm.Cond.instantiable "DimpleWells$Again" (2 : Nat)) ∈ lw_all := lw_g (lw_at lw_m7 34 rfl) rfl
theorem q1572 : (Jvm.Cond.instanceMethod ({ cls := "DimpleWells$Again", name := "<init>", desc := "(I)V" } : Jvm.MethodName)) ∈ lw_all := lw_g (lw_at lw_m7 36 rfl) rfl
theorem q1573 : (Jvm.Cond.code ({ cls := "DimpleWells$Again", name := "<init>", desc := "(I)V" } : Jvm.MethodName) prog_3_method_1_code (2 : Nat) (Option.none : Option Jvm.ClassFile.FieldType)) ∈ lw_all := lw_g (lw_at lw_m7 37 rfl) rfl
theorem q1574 : (Jvm.Cond.methodLinkNest "DimpleWells$Again" (3 : Nat) ({ cls := "DimpleWells$Step", name := "<init>", desc := "()V" } : Jvm.MethodName) "DimpleWells") ∈ lw_tbl := lw_at lw_m7 38 rfl
theorem q1575 : (Jvm.Cond.classLink "DimpleWells$Again" (9 : Nat) "java/util/ArrayList") ∈ lw_all := lw_g (lw_at lw_m7 39 rfl) rfl
theorem q1576 : (Jvm.Cond.methodLink "DimpleWells$Again" (11 : Nat) ({ cls := "java/util/ArrayList", name := "<init>", desc := "(I)V" } : Jvm.MethodName)) ∈ lw_all := lw_g (lw_at lw_m7 40 rfl) rfl
theorem q1577 : (Jvm.Cond.fieldLink "DimpleWells$Again" (20 : Nat) "DimpleWells$Again" "times" "I") ∈ lw_all := lw_g (lw_at lw_m7 41 rfl) rfl
theorem q1578 : (Jvm.Cond.fieldLink "DimpleWells$Again" (14 : Nat) "DimpleWells$Again" "steps" "Ljava/util/ArrayList;") ∈ lw_all := lw_g (lw_at lw_m7 42 rfl) rfl
theorem q1580 : (Jvm.Cond.laysFinal "DimpleWells$Again" "DimpleWells$Again" "times" "I") ∈ lw_all := lw_g (lw_at lw_m7 44 rfl) rfl
theorem q1581 : (Jvm.Cond.soleField "DimpleWells$Again" "times") ∈ lw_all := lw_g (lw_at lw_m7 45 rfl) rfl
theorem q1582 : (Jvm.Cond.laysFinal "DimpleWells$Again" "DimpleWells$Again" "steps" "Ljava/util/ArrayList;") ∈ lw_all := lw_g (lw_at lw_m7 46 rfl) rfl
theorem q1583 : (Jvm.Cond.soleField "DimpleWells$Again" "steps") ∈ lw_all := lw_g (lw_at lw_m7 47 rfl) rfl
theorem q1584 : (Jvm.Cond.superclass "DimpleWells$Again" "DimpleWells$Step") ∈ lw_all := lw_g (lw_at lw_m7 48 rfl) rfl
theorem q1596 : (Jvm.Cond.selects "DimpleWells$Again" ({ cls := "DimpleWells$Step", name := "goes", desc := "(LDimpleWells$Season;)V" } : Jvm.MethodName) ({ cls := "DimpleWells$Again", name := "goes", desc := "(LDimpleWells$Season;)V" } : Jvm.MethodName)) ∈ lw_all := lw_g (lw_at lw_m7 60 rfl) rfl
theorem q1597 : (Jvm.Cond.instanceMethod ({ cls := "DimpleWells$Again", name := "goes", desc := "(LDimpleWells$Season;)V" } : Jvm.MethodName)) ∈ lw_all := lw_g (lw_at lw_m7 61 rfl) rfl
theorem q1598 : (Jvm.Cond.code ({ cls := "DimpleWells$Again", name := "goes", desc := "(LDimpleWells$Season;)V" } : Jvm.MethodName) prog_3_method_2_code (4 : Nat) (Option.none : Option Jvm.ClassFile.FieldType)) ∈ lw_all := lw_g (lw_at lw_m7 62 rfl) rfl
theorem q1599 : (Jvm.Cond.methodLink "DimpleWells$Again" (24 : Nat) ({ cls := "DimpleWells$Again", name := "may", desc := "(LDimpleWells$Season;)Z" } : Jvm.MethodName)) ∈ lw_all := lw_g (lw_at lw_m7 63 rfl) rfl
theorem q1600 : (Jvm.Cond.sameMethod "DimpleWells$Again" "DimpleWells$Step" "may" "(LDimpleWells$Season;)Z") ∈ lw_all := lw_g (lw_at lw_m7 64 rfl) rfl
theorem q1603 : (Jvm.Cond.methodLink "DimpleWells$Again" (32 : Nat) ({ cls := "java/util/ArrayList", name := "size", desc := "()I" } : Jvm.MethodName)) ∈ lw_all := lw_g (lw_at lw_m7 67 rfl) rfl
theorem q1604 : (Jvm.Cond.methodLink "DimpleWells$Again" (36 : Nat) ({ cls := "java/util/ArrayList", name := "get", desc := "(I)Ljava/lang/Object;" } : Jvm.MethodName)) ∈ lw_all := lw_g (lw_at lw_m7 68 rfl) rfl
theorem q1605 : (Jvm.Cond.classLink "DimpleWells$Again" (4 : Nat) "DimpleWells$Step") ∈ lw_all := lw_g (lw_at lw_m7 69 rfl) rfl
theorem q1606 : (Jvm.Cond.methodLink "DimpleWells$Again" (40 : Nat) ({ cls := "DimpleWells$Step", name := "goes", desc := "(LDimpleWells$Season;)V" } : Jvm.MethodName)) ∈ lw_all := lw_g (lw_at lw_m7 70 rfl) rfl
theorem q2575 : (Jvm.Cond.castable "DimpleWells$Again" "DimpleWells$Step") ∈ lw_tbl := lw_at lw_m11 79 rfl
theorem q2610 : (Jvm.Cond.castable "DimpleWells$Again" "java/lang/Object") ∈ lw_tbl := lw_at lw_m11 114 rfl
theorem in_X30 : ∀ w ∈ wsX300, w ∈ lw_all := lw_in wsX300 [1580, 1582] (by decide +kernel) (by decide +kernel)
/-! DimpleWells$BookReader -/
set_option maxRecDepth 100000
def RX31 : String := "DimpleWells$BookReader"
def TX31 : u_T := fun k => match k with
  | 0 => ("DimpleWells$Reader", "text", "[B", true)
  | 1 => ("DimpleWells$Reader", "size", "I", true)
  | 2 => ("DimpleWells$Reader", "next", "I", false)
  | 3 => ("DimpleWells$Reader", "from", "I", false)
  | 4 => ("DimpleWells$Reader", "open", "I", false)
  | 5 => ("DimpleWells$BookReader", "jokes", "I", true)
  | 6 => ("DimpleWells$BookReader", "read", "[I", true)
  | _ => ("DimpleWells$BookReader", "many", "I", false)
def tyX31 : Nat → FieldType := fun k => match k with
  | 0 => .array .byte
  | 1 => .int
  | 2 => .int
  | 3 => .int
  | 4 => .int
  | 5 => .int
  | 6 => .array .int
  | _ => .int
abbrev wsX310 : List Cond := u_ws RX31 TX31 8
theorem nmX31 : ∀ a, a < 8 → ∀ b, b < 8 → a ≠ b → (TX31 a).2.1 ≠ (TX31 b).2.1 := by decide +kernel
theorem tyX31_ok : ∀ k, k < 8 → parseFieldDescriptor (TX31 k).2.2.1 = some (tyX31 k) := by decide +kernel
abbrev cX31_init : ByteArray := prog_4_method_1_code
def yX31_init : MethodName := ⟨RX31, "<init>", "([BII)V"⟩
def dkwX31_init_0 : List UInt8 := [42, 43, 28, 183, 0, 3, 42, 16, 6, 188, 10, 181, 0, 9, 42, 29, 181, 0, 15, 177]
abbrev dktX31_init_0 : List UInt8 := dkwX31_init_0 ++ []
theorem dksX31_init_0 : cX31_init.data.toList.drop 0 = dktX31_init_0 := by decide +kernel
theorem dX31_init_0 : decode cX31_init 0 = .ok (.aload_n 0, 1) := dk_42 (dk_at dksX31_init_0 0 rfl rfl)
theorem dX31_init_1 : decode cX31_init 1 = .ok (.aload_n 1, 1) := dk_43 (dk_at dksX31_init_0 1 rfl rfl)
theorem dX31_init_2 : decode cX31_init 2 = .ok (.iload_n 2, 1) := dk_28 (dk_at dksX31_init_0 2 rfl rfl)
theorem dX31_init_3 : decode cX31_init 3 = .ok (.invokespecial 3, 3) := dk_183 0 3 (dk_at dksX31_init_0 3 rfl rfl)
theorem dX31_init_6 : decode cX31_init 6 = .ok (.aload_n 0, 1) := dk_42 (dk_at dksX31_init_0 6 rfl rfl)
theorem dX31_init_7 : decode cX31_init 7 = .ok (.bipush 6, 2) := dk_16 6 (dk_at dksX31_init_0 7 rfl rfl)
theorem dX31_init_9 : decode cX31_init 9 = .ok (.newarray .int, 2) := dk_188_10 (dk_at dksX31_init_0 9 rfl rfl)
theorem dX31_init_11 : decode cX31_init 11 = .ok (.putfield 9, 3) := dk_181 0 9 (dk_at dksX31_init_0 11 rfl rfl)
theorem dX31_init_14 : decode cX31_init 14 = .ok (.aload_n 0, 1) := dk_42 (dk_at dksX31_init_0 14 rfl rfl)
theorem dX31_init_15 : decode cX31_init 15 = .ok (.iload_n 3, 1) := dk_29 (dk_at dksX31_init_0 15 rfl rfl)
theorem dX31_init_16 : decode cX31_init 16 = .ok (.putfield 15, 3) := dk_181 0 15 (dk_at dksX31_init_0 16 rfl rfl)
theorem dX31_init_19 : decode cX31_init 19 = .ok (.return_, 1) := dk_177 (dk_at dksX31_init_0 19 rfl rfl)
abbrev cX31_reads : ByteArray := prog_4_method_2_code
def yX31_reads : MethodName := ⟨RX31, "reads", "()[I"⟩
def dkwX31_reads_4 : List UInt8 := [89, 180, 0, 45, 4, 96, 181, 0, 45, 42, 182, 0, 19, 87, 167, 255, 176, 42, 180, 0, 9, 176]
abbrev dktX31_reads_4 : List UInt8 := dkwX31_reads_4 ++ []
def dkwX31_reads_3 : List UInt8 := [183, 0, 38, 191, 42, 180, 0, 9, 27, 42, 3, 16, 40, 182, 0, 29, 79, 42, 16, 59, 182, 0, 41, 42]
abbrev dktX31_reads_3 : List UInt8 := dkwX31_reads_3 ++ dktX31_reads_4
def dkwX31_reads_2 : List UInt8 := [182, 0, 29, 60, 42, 180, 0, 9, 27, 46, 2, 159, 0, 16, 187, 0, 33, 89, 5, 42, 180, 0, 35]
abbrev dktX31_reads_2 : List UInt8 := dkwX31_reads_2 ++ dktX31_reads_3
def dkwX31_reads_1 : List UInt8 := [182, 0, 19, 87, 42, 180, 0, 23, 42, 180, 0, 26, 162, 0, 75, 42, 3, 42, 180, 0, 15, 4, 100]
abbrev dktX31_reads_1 : List UInt8 := dkwX31_reads_1 ++ dktX31_reads_2
def dkwX31_reads_0 : List UInt8 := [3, 60, 27, 16, 6, 162, 0, 16, 42, 180, 0, 9, 27, 2, 79, 132, 1, 1, 167, 255, 240, 42]
abbrev dktX31_reads_0 : List UInt8 := dkwX31_reads_0 ++ dktX31_reads_1
theorem dksX31_reads_0 : cX31_reads.data.toList.drop 0 = dktX31_reads_0 := by decide +kernel
theorem dksX31_reads_1 : cX31_reads.data.toList.drop 22 = dktX31_reads_1 := dk_seg dksX31_reads_0 22 rfl rfl
theorem dksX31_reads_2 : cX31_reads.data.toList.drop 45 = dktX31_reads_2 := dk_seg dksX31_reads_1 23 rfl rfl
theorem dksX31_reads_3 : cX31_reads.data.toList.drop 68 = dktX31_reads_3 := dk_seg dksX31_reads_2 23 rfl rfl
theorem dksX31_reads_4 : cX31_reads.data.toList.drop 92 = dktX31_reads_4 := dk_seg dksX31_reads_3 24 rfl rfl
theorem dX31_reads_0 : decode cX31_reads 0 = .ok (.iconst 0, 1) := dk_3 (dk_at dksX31_reads_0 0 rfl rfl)
theorem dX31_reads_1 : decode cX31_reads 1 = .ok (.istore_n 1, 1) := dk_60 (dk_at dksX31_reads_0 1 rfl rfl)
theorem dX31_reads_2 : decode cX31_reads 2 = .ok (.iload_n 1, 1) := dk_27 (dk_at dksX31_reads_0 2 rfl rfl)
theorem dX31_reads_3 : decode cX31_reads 3 = .ok (.bipush 6, 2) := dk_16 6 (dk_at dksX31_reads_0 3 rfl rfl)
theorem dX31_reads_5 : decode cX31_reads 5 = .ok (.if_icmp .ge 16, 3) := dk_162 0 16 (dk_at dksX31_reads_0 5 rfl rfl)
theorem dX31_reads_8 : decode cX31_reads 8 = .ok (.aload_n 0, 1) := dk_42 (dk_at dksX31_reads_0 8 rfl rfl)
theorem dX31_reads_9 : decode cX31_reads 9 = .ok (.getfield 9, 3) := dk_180 0 9 (dk_at dksX31_reads_0 9 rfl rfl)
theorem dX31_reads_12 : decode cX31_reads 12 = .ok (.iload_n 1, 1) := dk_27 (dk_at dksX31_reads_0 12 rfl rfl)
theorem dX31_reads_13 : decode cX31_reads 13 = .ok (.iconst (-1), 1) := dk_2 (dk_at dksX31_reads_0 13 rfl rfl)
theorem dX31_reads_14 : decode cX31_reads 14 = .ok (.iastore, 1) := dk_79 (dk_at dksX31_reads_0 14 rfl rfl)
theorem dX31_reads_15 : decode cX31_reads 15 = .ok (.iinc 1 1, 3) := dk_132 1 1 (dk_at dksX31_reads_0 15 rfl rfl)
theorem dX31_reads_18 : decode cX31_reads 18 = .ok (.goto (-16), 3) := dk_167 255 240 (dk_at dksX31_reads_0 18 rfl rfl)
theorem dX31_reads_21 : decode cX31_reads 21 = .ok (.aload_n 0, 1) := dk_42 (dk_at dksX31_reads_0 21 rfl rfl)
theorem dX31_reads_22 : decode cX31_reads 22 = .ok (.invokevirtual 19, 3) := dk_182 0 19 (dk_at dksX31_reads_1 0 rfl rfl)
theorem dX31_reads_25 : decode cX31_reads 25 = .ok (.pop, 1) := dk_87 (dk_at dksX31_reads_1 3 rfl rfl)
theorem dX31_reads_26 : decode cX31_reads 26 = .ok (.aload_n 0, 1) := dk_42 (dk_at dksX31_reads_1 4 rfl rfl)
theorem dX31_reads_27 : decode cX31_reads 27 = .ok (.getfield 23, 3) := dk_180 0 23 (dk_at dksX31_reads_1 5 rfl rfl)
theorem dX31_reads_30 : decode cX31_reads 30 = .ok (.aload_n 0, 1) := dk_42 (dk_at dksX31_reads_1 8 rfl rfl)
theorem dX31_reads_31 : decode cX31_reads 31 = .ok (.getfield 26, 3) := dk_180 0 26 (dk_at dksX31_reads_1 9 rfl rfl)
theorem dX31_reads_34 : decode cX31_reads 34 = .ok (.if_icmp .ge 75, 3) := dk_162 0 75 (dk_at dksX31_reads_1 12 rfl rfl)
theorem dX31_reads_37 : decode cX31_reads 37 = .ok (.aload_n 0, 1) := dk_42 (dk_at dksX31_reads_1 15 rfl rfl)
theorem dX31_reads_38 : decode cX31_reads 38 = .ok (.iconst 0, 1) := dk_3 (dk_at dksX31_reads_1 16 rfl rfl)
theorem dX31_reads_39 : decode cX31_reads 39 = .ok (.aload_n 0, 1) := dk_42 (dk_at dksX31_reads_1 17 rfl rfl)
theorem dX31_reads_40 : decode cX31_reads 40 = .ok (.getfield 15, 3) := dk_180 0 15 (dk_at dksX31_reads_1 18 rfl rfl)
theorem dX31_reads_43 : decode cX31_reads 43 = .ok (.iconst 1, 1) := dk_4 (dk_at dksX31_reads_1 21 rfl rfl)
theorem dX31_reads_44 : decode cX31_reads 44 = .ok (.isub, 1) := dk_100 (dk_at dksX31_reads_1 22 rfl rfl)
theorem dX31_reads_45 : decode cX31_reads 45 = .ok (.invokevirtual 29, 3) := dk_182 0 29 (dk_at dksX31_reads_2 0 rfl rfl)
theorem dX31_reads_48 : decode cX31_reads 48 = .ok (.istore_n 1, 1) := dk_60 (dk_at dksX31_reads_2 3 rfl rfl)
theorem dX31_reads_49 : decode cX31_reads 49 = .ok (.aload_n 0, 1) := dk_42 (dk_at dksX31_reads_2 4 rfl rfl)
theorem dX31_reads_50 : decode cX31_reads 50 = .ok (.getfield 9, 3) := dk_180 0 9 (dk_at dksX31_reads_2 5 rfl rfl)
theorem dX31_reads_53 : decode cX31_reads 53 = .ok (.iload_n 1, 1) := dk_27 (dk_at dksX31_reads_2 8 rfl rfl)
theorem dX31_reads_54 : decode cX31_reads 54 = .ok (.iaload, 1) := dk_46 (dk_at dksX31_reads_2 9 rfl rfl)
theorem dX31_reads_55 : decode cX31_reads 55 = .ok (.iconst (-1), 1) := dk_2 (dk_at dksX31_reads_2 10 rfl rfl)
theorem dX31_reads_56 : decode cX31_reads 56 = .ok (.if_icmp .eq 16, 3) := dk_159 0 16 (dk_at dksX31_reads_2 11 rfl rfl)
theorem dX31_reads_59 : decode cX31_reads 59 = .ok (.new 33, 3) := dk_187 0 33 (dk_at dksX31_reads_2 14 rfl rfl)
theorem dX31_reads_62 : decode cX31_reads 62 = .ok (.dup, 1) := dk_89 (dk_at dksX31_reads_2 17 rfl rfl)
theorem dX31_reads_63 : decode cX31_reads 63 = .ok (.iconst 2, 1) := dk_5 (dk_at dksX31_reads_2 18 rfl rfl)
theorem dX31_reads_64 : decode cX31_reads 64 = .ok (.aload_n 0, 1) := dk_42 (dk_at dksX31_reads_2 19 rfl rfl)
theorem dX31_reads_65 : decode cX31_reads 65 = .ok (.getfield 35, 3) := dk_180 0 35 (dk_at dksX31_reads_2 20 rfl rfl)
theorem dX31_reads_68 : decode cX31_reads 68 = .ok (.invokespecial 38, 3) := dk_183 0 38 (dk_at dksX31_reads_3 0 rfl rfl)
theorem dX31_reads_71 : decode cX31_reads 71 = .ok (.athrow, 1) := dk_191 (dk_at dksX31_reads_3 3 rfl rfl)
theorem dX31_reads_72 : decode cX31_reads 72 = .ok (.aload_n 0, 1) := dk_42 (dk_at dksX31_reads_3 4 rfl rfl)
theorem dX31_reads_73 : decode cX31_reads 73 = .ok (.getfield 9, 3) := dk_180 0 9 (dk_at dksX31_reads_3 5 rfl rfl)
theorem dX31_reads_76 : decode cX31_reads 76 = .ok (.iload_n 1, 1) := dk_27 (dk_at dksX31_reads_3 8 rfl rfl)
theorem dX31_reads_77 : decode cX31_reads 77 = .ok (.aload_n 0, 1) := dk_42 (dk_at dksX31_reads_3 9 rfl rfl)
theorem dX31_reads_78 : decode cX31_reads 78 = .ok (.iconst 0, 1) := dk_3 (dk_at dksX31_reads_3 10 rfl rfl)
theorem dX31_reads_79 : decode cX31_reads 79 = .ok (.bipush 40, 2) := dk_16 40 (dk_at dksX31_reads_3 11 rfl rfl)
theorem dX31_reads_81 : decode cX31_reads 81 = .ok (.invokevirtual 29, 3) := dk_182 0 29 (dk_at dksX31_reads_3 13 rfl rfl)
theorem dX31_reads_84 : decode cX31_reads 84 = .ok (.iastore, 1) := dk_79 (dk_at dksX31_reads_3 16 rfl rfl)
theorem dX31_reads_85 : decode cX31_reads 85 = .ok (.aload_n 0, 1) := dk_42 (dk_at dksX31_reads_3 17 rfl rfl)
theorem dX31_reads_86 : decode cX31_reads 86 = .ok (.bipush 59, 2) := dk_16 59 (dk_at dksX31_reads_3 18 rfl rfl)
theorem dX31_reads_88 : decode cX31_reads 88 = .ok (.invokevirtual 41, 3) := dk_182 0 41 (dk_at dksX31_reads_3 20 rfl rfl)
theorem dX31_reads_91 : decode cX31_reads 91 = .ok (.aload_n 0, 1) := dk_42 (dk_at dksX31_reads_3 23 rfl rfl)
theorem dX31_reads_92 : decode cX31_reads 92 = .ok (.dup, 1) := dk_89 (dk_at dksX31_reads_4 0 rfl rfl)
theorem dX31_reads_93 : decode cX31_reads 93 = .ok (.getfield 45, 3) := dk_180 0 45 (dk_at dksX31_reads_4 1 rfl rfl)
theorem dX31_reads_96 : decode cX31_reads 96 = .ok (.iconst 1, 1) := dk_4 (dk_at dksX31_reads_4 4 rfl rfl)
theorem dX31_reads_97 : decode cX31_reads 97 = .ok (.iadd, 1) := dk_96 (dk_at dksX31_reads_4 5 rfl rfl)
theorem dX31_reads_98 : decode cX31_reads 98 = .ok (.putfield 45, 3) := dk_181 0 45 (dk_at dksX31_reads_4 6 rfl rfl)
theorem dX31_reads_101 : decode cX31_reads 101 = .ok (.aload_n 0, 1) := dk_42 (dk_at dksX31_reads_4 9 rfl rfl)
theorem dX31_reads_102 : decode cX31_reads 102 = .ok (.invokevirtual 19, 3) := dk_182 0 19 (dk_at dksX31_reads_4 10 rfl rfl)
theorem dX31_reads_105 : decode cX31_reads 105 = .ok (.pop, 1) := dk_87 (dk_at dksX31_reads_4 13 rfl rfl)
theorem dX31_reads_106 : decode cX31_reads 106 = .ok (.goto (-80), 3) := dk_167 255 176 (dk_at dksX31_reads_4 14 rfl rfl)
theorem dX31_reads_109 : decode cX31_reads 109 = .ok (.aload_n 0, 1) := dk_42 (dk_at dksX31_reads_4 17 rfl rfl)
theorem dX31_reads_110 : decode cX31_reads 110 = .ok (.getfield 9, 3) := dk_180 0 9 (dk_at dksX31_reads_4 18 rfl rfl)
theorem dX31_reads_113 : decode cX31_reads 113 = .ok (.areturn, 1) := dk_176 (dk_at dksX31_reads_4 21 rfl rfl)
theorem q147 : (Jvm.Cond.initialized "DimpleWells$BookReader") ∈ lw_all := lw_g (lw_at lw_m1 51 rfl) rfl
theorem q997 : (Jvm.Cond.fieldLink "DimpleWells$BookReader" (26 : Nat) "DimpleWells$BookReader" "size" "I") ∈ lw_all := lw_g (lw_at lw_m4 181 rfl) rfl
theorem q998 : (Jvm.Cond.sameField "DimpleWells$BookReader" "DimpleWells$Reader" "size" "I") ∈ lw_all := lw_g (lw_at lw_m4 182 rfl) rfl
theorem q1006 : (Jvm.Cond.fieldLink "DimpleWells$BookReader" (23 : Nat) "DimpleWells$BookReader" "next" "I") ∈ lw_all := lw_g (lw_at lw_m4 190 rfl) rfl
theorem q1007 : (Jvm.Cond.sameField "DimpleWells$BookReader" "DimpleWells$Reader" "next" "I") ∈ lw_all := lw_g (lw_at lw_m4 191 rfl) rfl
theorem q1008 : (Jvm.Cond.fieldLink "DimpleWells$BookReader" (35 : Nat) "DimpleWells$BookReader" "from" "I") ∈ lw_all := lw_g (lw_at lw_m4 192 rfl) rfl
theorem q1009 : (Jvm.Cond.sameField "DimpleWells$BookReader" "DimpleWells$Reader" "from" "I") ∈ lw_all := lw_g (lw_at lw_m4 193 rfl) rfl
theorem q1245 : (Jvm.Cond.selects "DimpleWells$BookReader" ({ cls := "java/lang/Object", name := "getClass", desc := "()Ljava/lang/Class;" } : Jvm.MethodName) ({ cls := "java/lang/Object", name := "getClass", desc := "()Ljava/lang/Class;" } : Jvm.MethodName)) ∈ lw_all := lw_g (lw_at lw_m5 189 rfl) rfl
theorem q1664 : (Jvm.Cond.instantiable "DimpleWells$BookReader" (8 : Nat)) ∈ lw_all := lw_g (lw_at lw_m7 128 rfl) rfl
theorem q1666 : (Jvm.Cond.instanceMethod ({ cls := "DimpleWells$BookReader", name := "<init>", desc := "([BII)V" } : Jvm.MethodName)) ∈ lw_all := lw_g (lw_at lw_m7 130 rfl) rfl
theorem q1667 : (Jvm.Cond.code ({ cls := "DimpleWells$BookReader", name := "<init>", desc := "([BII)V" } : Jvm.MethodName) prog_4_method_1_code (4 : Nat) (Option.none : Option Jvm.ClassFile.FieldType)) ∈ lw_all := lw_g (lw_at lw_m7 131 rfl) rfl
theorem q1668 : (Jvm.Cond.methodLink "DimpleWells$BookReader" (3 : Nat) ({ cls := "DimpleWells$Reader", name := "<init>", desc := "([BI)V" } : Jvm.MethodName)) ∈ lw_all := lw_g (lw_at lw_m7 132 rfl) rfl
theorem q1669 : (Jvm.Cond.fieldLink "DimpleWells$BookReader" (15 : Nat) "DimpleWells$BookReader" "jokes" "I") ∈ lw_all := lw_g (lw_at lw_m7 133 rfl) rfl
theorem q1670 : (Jvm.Cond.fieldLink "DimpleWells$BookReader" (9 : Nat) "DimpleWells$BookReader" "read" "[I") ∈ lw_all := lw_g (lw_at lw_m7 134 rfl) rfl
theorem q1671 : (Jvm.Cond.fieldLink "DimpleWells$BookReader" (45 : Nat) "DimpleWells$BookReader" "many" "I") ∈ lw_all := lw_g (lw_at lw_m7 135 rfl) rfl
theorem q1673 : (Jvm.Cond.laysFinal "DimpleWells$BookReader" "DimpleWells$BookReader" "jokes" "I") ∈ lw_all := lw_g (lw_at lw_m7 137 rfl) rfl
theorem q1674 : (Jvm.Cond.soleField "DimpleWells$BookReader" "jokes") ∈ lw_all := lw_g (lw_at lw_m7 138 rfl) rfl
theorem q1675 : (Jvm.Cond.laysFinal "DimpleWells$BookReader" "DimpleWells$BookReader" "read" "[I") ∈ lw_all := lw_g (lw_at lw_m7 139 rfl) rfl
theorem q1676 : (Jvm.Cond.soleField "DimpleWells$BookReader" "read") ∈ lw_all := lw_g (lw_at lw_m7 140 rfl) rfl
theorem q1677 : (Jvm.Cond.lays "DimpleWells$BookReader" "DimpleWells$BookReader" "many" "I") ∈ lw_all := lw_g (lw_at lw_m7 141 rfl) rfl
theorem q1678 : (Jvm.Cond.soleField "DimpleWells$BookReader" "many") ∈ lw_all := lw_g (lw_at lw_m7 142 rfl) rfl
theorem q1679 : (Jvm.Cond.laysFinal "DimpleWells$BookReader" "DimpleWells$Reader" "text" "[B") ∈ lw_all := lw_g (lw_at lw_m7 143 rfl) rfl
theorem q1680 : (Jvm.Cond.laysFinal "DimpleWells$BookReader" "DimpleWells$Reader" "size" "I") ∈ lw_all := lw_g (lw_at lw_m7 144 rfl) rfl
theorem q1681 : (Jvm.Cond.lays "DimpleWells$BookReader" "DimpleWells$Reader" "next" "I") ∈ lw_all := lw_g (lw_at lw_m7 145 rfl) rfl
theorem q1682 : (Jvm.Cond.lays "DimpleWells$BookReader" "DimpleWells$Reader" "from" "I") ∈ lw_all := lw_g (lw_at lw_m7 146 rfl) rfl
theorem q1683 : (Jvm.Cond.lays "DimpleWells$BookReader" "DimpleWells$Reader" "open" "I") ∈ lw_all := lw_g (lw_at lw_m7 147 rfl) rfl
theorem q1684 : (Jvm.Cond.superclass "DimpleWells$BookReader" "DimpleWells$Reader") ∈ lw_all := lw_g (lw_at lw_m7 148 rfl) rfl
theorem q1686 : (Jvm.Cond.instanceMethod ({ cls := "DimpleWells$BookReader", name := "reads", desc := "()[I" } : Jvm.MethodName)) ∈ lw_all := lw_g (lw_at lw_m7 150 rfl) rfl
theorem q1687 : (Jvm.Cond.selects "DimpleWells$BookReader" ({ cls := "DimpleWells$BookReader", name := "reads", desc := "()[I" } : Jvm.MethodName) ({ cls := "DimpleWells$BookReader", name := "reads", desc := "()[I" } : Jvm.MethodName)) ∈ lw_all := lw_g (lw_at lw_m7 151 rfl) rfl
theorem q1688 : (Jvm.Cond.code ({ cls := "DimpleWells$BookReader", name := "reads", desc := "()[I" } : Jvm.MethodName) prog_4_method_2_code (2 : Nat) (Option.some (Jvm.ClassFile.FieldType.array Jvm.ClassFile.FieldType.int))) ∈ lw_all := lw_g (lw_at lw_m7 152 rfl) rfl
theorem q1689 : (Jvm.Cond.methodLink "DimpleWells$BookReader" (19 : Nat) ({ cls := "DimpleWells$BookReader", name := "sign", desc := "()I" } : Jvm.MethodName)) ∈ lw_all := lw_g (lw_at lw_m7 153 rfl) rfl
theorem q1690 : (Jvm.Cond.sameMethod "DimpleWells$BookReader" "DimpleWells$Reader" "sign" "()I") ∈ lw_all := lw_g (lw_at lw_m7 154 rfl) rfl
theorem q1691 : (Jvm.Cond.selects "DimpleWells$BookReader" ({ cls := "DimpleWells$BookReader", name := "sign", desc := "()I" } : Jvm.MethodName) ({ cls := "DimpleWells$Reader", name := "sign", desc := "()I" } : Jvm.MethodName)) ∈ lw_all := lw_g (lw_at lw_m7 155 rfl) rfl
theorem q1692 : (Jvm.Cond.methodLink "DimpleWells$BookReader" (29 : Nat) ({ cls := "DimpleWells$BookReader", name := "number", desc := "(II)I" } : Jvm.MethodName)) ∈ lw_all := lw_g (lw_at lw_m7 156 rfl) rfl
theorem q1693 : (Jvm.Cond.sameMethod "DimpleWells$BookReader" "DimpleWells$Reader" "number" "(II)I") ∈ lw_all := lw_g (lw_at lw_m7 157 rfl) rfl
theorem q1694 : (Jvm.Cond.selects "DimpleWells$BookReader" ({ cls := "DimpleWells$BookReader", name := "number", desc := "(II)I" } : Jvm.MethodName) ({ cls := "DimpleWells$Reader", name := "number", desc := "(II)I" } : Jvm.MethodName)) ∈ lw_all := lw_g (lw_at lw_m7 158 rfl) rfl
theorem q1695 : (Jvm.Cond.classLink "DimpleWells$BookReader" (33 : Nat) "DimpleWells$Wrong") ∈ lw_all := lw_g (lw_at lw_m7 159 rfl) rfl
theorem q1696 : (Jvm.Cond.methodLink "DimpleWells$BookReader" (38 : Nat) ({ cls := "DimpleWells$Wrong", name := "<init>", desc := "(II)V" } : Jvm.MethodName)) ∈ lw_all := lw_g (lw_at lw_m7 160 rfl) rfl
theorem q1697 : (Jvm.Cond.methodLink "DimpleWells$BookReader" (41 : Nat) ({ cls := "DimpleWells$BookReader", name := "need", desc := "(I)V" } : Jvm.MethodName)) ∈ lw_all := lw_g (lw_at lw_m7 161 rfl) rfl
theorem q1698 : (Jvm.Cond.sameMethod "DimpleWells$BookReader" "DimpleWells$Reader" "need" "(I)V") ∈ lw_all := lw_g (lw_at lw_m7 162 rfl) rfl
theorem q1699 : (Jvm.Cond.selects "DimpleWells$BookReader" ({ cls := "DimpleWells$BookReader", name := "need", desc := "(I)V" } : Jvm.MethodName) ({ cls := "DimpleWells$Reader", name := "need", desc := "(I)V" } : Jvm.MethodName)) ∈ lw_all := lw_g (lw_at lw_m7 163 rfl) rfl
theorem q2563 : (Jvm.Cond.selects "DimpleWells$BookReader" ({ cls := "DimpleWells$Reader", name := "sign", desc := "()I" } : Jvm.MethodName) ({ cls := "DimpleWells$Reader", name := "sign", desc := "()I" } : Jvm.MethodName)) ∈ lw_all := lw_g (lw_at lw_m11 67 rfl) rfl
theorem q2570 : (Jvm.Cond.selects "DimpleWells$BookReader" ({ cls := "DimpleWells$Reader", name := "wrong", desc := "()LDimpleWells$Wrong;" } : Jvm.MethodName) ({ cls := "DimpleWells$Reader", name := "wrong", desc := "()LDimpleWells$Wrong;" } : Jvm.MethodName)) ∈ lw_all := lw_g (lw_at lw_m11 74 rfl) rfl
theorem q2611 : (Jvm.Cond.castable "DimpleWells$BookReader" "java/lang/Object") ∈ lw_tbl := lw_at lw_m11 115 rfl
theorem in_X31 : ∀ w ∈ wsX310, w ∈ lw_all := lw_in wsX310 [1679, 1680, 1681, 1682, 1683, 1673, 1675, 1677] (by decide +kernel) (by decide +kernel)
