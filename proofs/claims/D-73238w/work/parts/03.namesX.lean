/-! MissCurves$Shop -/
set_option maxRecDepth 100000
def RX1 : String := "MissCurves$Shop"
def TX1 : u_T := fun k => match k with
  | 0 => ("MissCurves$Shop", "laws", "Ljava/util/ArrayList;", true)
  | 1 => ("MissCurves$Shop", "terms", "[I", true)
  | 2 => ("MissCurves$Shop", "seen", "[[I", true)
  | 3 => ("MissCurves$Shop", "books", "LMissCurves$Books;", true)
  | 4 => ("MissCurves$Shop", "policy", "I", false)
  | 5 => ("MissCurves$Shop", "nSeen", "I", false)
  | _ => ("MissCurves$Shop", "inForce", "I", false)
def tyX1 : Nat → FieldType := fun k => match k with
  | 0 => .object "java/util/ArrayList"
  | 1 => .array .int
  | 2 => .array (.array .int)
  | 3 => .object "MissCurves$Books"
  | 4 => .int
  | 5 => .int
  | _ => .int
abbrev wsX10 : List Cond := u_ws RX1 TX1 7
theorem nmX1 : ∀ a, a < 7 → ∀ b, b < 7 → a ≠ b → (TX1 a).2.1 ≠ (TX1 b).2.1 := by decide +kernel
theorem tyX1_ok : ∀ k, k < 7 → parseFieldDescriptor (TX1 k).2.2.1 = some (tyX1 k) := by decide +kernel
abbrev cX1_init : ByteArray := prog_25_method_1_code
def yX1_init : MethodName := ⟨RX1, "<init>", "()V"⟩
def dkwX1_init_2 : List UInt8 := [181, 0, 24, 42, 187, 0, 27, 89, 183, 0, 29, 181, 0, 30, 42, 2, 181, 0, 34, 177]
abbrev dktX1_init_2 : List UInt8 := dkwX1_init_2 ++ []
def dkwX1_init_1 : List UInt8 := [4, 4, 79, 89, 5, 3, 79, 89, 6, 3, 79, 181, 0, 18, 42, 16, 6, 5, 197, 0, 22, 2]
abbrev dktX1_init_1 : List UInt8 := dkwX1_init_1 ++ dktX1_init_2
def dkwX1_init_0 : List UInt8 := [42, 183, 0, 3, 42, 187, 0, 9, 89, 183, 0, 11, 181, 0, 12, 42, 7, 188, 10, 89, 3, 3, 79, 89]
abbrev dktX1_init_0 : List UInt8 := dkwX1_init_0 ++ dktX1_init_1
theorem dksX1_init_0 : cX1_init.data.toList.drop 0 = dktX1_init_0 := by decide +kernel
theorem dksX1_init_1 : cX1_init.data.toList.drop 24 = dktX1_init_1 := dk_seg dksX1_init_0 24 rfl rfl
theorem dksX1_init_2 : cX1_init.data.toList.drop 46 = dktX1_init_2 := dk_seg dksX1_init_1 22 rfl rfl
theorem dX1_init_0 : decode cX1_init 0 = .ok (.aload_n 0, 1) := dk_42 (dk_at dksX1_init_0 0 rfl rfl)
theorem dX1_init_1 : decode cX1_init 1 = .ok (.invokespecial 3, 3) := dk_183 0 3 (dk_at dksX1_init_0 1 rfl rfl)
theorem dX1_init_4 : decode cX1_init 4 = .ok (.aload_n 0, 1) := dk_42 (dk_at dksX1_init_0 4 rfl rfl)
theorem dX1_init_5 : decode cX1_init 5 = .ok (.new 9, 3) := dk_187 0 9 (dk_at dksX1_init_0 5 rfl rfl)
theorem dX1_init_8 : decode cX1_init 8 = .ok (.dup, 1) := dk_89 (dk_at dksX1_init_0 8 rfl rfl)
theorem dX1_init_9 : decode cX1_init 9 = .ok (.invokespecial 11, 3) := dk_183 0 11 (dk_at dksX1_init_0 9 rfl rfl)
theorem dX1_init_12 : decode cX1_init 12 = .ok (.putfield 12, 3) := dk_181 0 12 (dk_at dksX1_init_0 12 rfl rfl)
theorem dX1_init_15 : decode cX1_init 15 = .ok (.aload_n 0, 1) := dk_42 (dk_at dksX1_init_0 15 rfl rfl)
theorem dX1_init_16 : decode cX1_init 16 = .ok (.iconst 4, 1) := dk_7 (dk_at dksX1_init_0 16 rfl rfl)
theorem dX1_init_17 : decode cX1_init 17 = .ok (.newarray .int, 2) := dk_188_10 (dk_at dksX1_init_0 17 rfl rfl)
theorem dX1_init_19 : decode cX1_init 19 = .ok (.dup, 1) := dk_89 (dk_at dksX1_init_0 19 rfl rfl)
theorem dX1_init_20 : decode cX1_init 20 = .ok (.iconst 0, 1) := dk_3 (dk_at dksX1_init_0 20 rfl rfl)
theorem dX1_init_21 : decode cX1_init 21 = .ok (.iconst 0, 1) := dk_3 (dk_at dksX1_init_0 21 rfl rfl)
theorem dX1_init_22 : decode cX1_init 22 = .ok (.iastore, 1) := dk_79 (dk_at dksX1_init_0 22 rfl rfl)
theorem dX1_init_23 : decode cX1_init 23 = .ok (.dup, 1) := dk_89 (dk_at dksX1_init_0 23 rfl rfl)
theorem dX1_init_24 : decode cX1_init 24 = .ok (.iconst 1, 1) := dk_4 (dk_at dksX1_init_1 0 rfl rfl)
theorem dX1_init_25 : decode cX1_init 25 = .ok (.iconst 1, 1) := dk_4 (dk_at dksX1_init_1 1 rfl rfl)
theorem dX1_init_26 : decode cX1_init 26 = .ok (.iastore, 1) := dk_79 (dk_at dksX1_init_1 2 rfl rfl)
theorem dX1_init_27 : decode cX1_init 27 = .ok (.dup, 1) := dk_89 (dk_at dksX1_init_1 3 rfl rfl)
theorem dX1_init_28 : decode cX1_init 28 = .ok (.iconst 2, 1) := dk_5 (dk_at dksX1_init_1 4 rfl rfl)
theorem dX1_init_29 : decode cX1_init 29 = .ok (.iconst 0, 1) := dk_3 (dk_at dksX1_init_1 5 rfl rfl)
theorem dX1_init_30 : decode cX1_init 30 = .ok (.iastore, 1) := dk_79 (dk_at dksX1_init_1 6 rfl rfl)
theorem dX1_init_31 : decode cX1_init 31 = .ok (.dup, 1) := dk_89 (dk_at dksX1_init_1 7 rfl rfl)
theorem dX1_init_32 : decode cX1_init 32 = .ok (.iconst 3, 1) := dk_6 (dk_at dksX1_init_1 8 rfl rfl)
theorem dX1_init_33 : decode cX1_init 33 = .ok (.iconst 0, 1) := dk_3 (dk_at dksX1_init_1 9 rfl rfl)
theorem dX1_init_34 : decode cX1_init 34 = .ok (.iastore, 1) := dk_79 (dk_at dksX1_init_1 10 rfl rfl)
theorem dX1_init_35 : decode cX1_init 35 = .ok (.putfield 18, 3) := dk_181 0 18 (dk_at dksX1_init_1 11 rfl rfl)
theorem dX1_init_38 : decode cX1_init 38 = .ok (.aload_n 0, 1) := dk_42 (dk_at dksX1_init_1 14 rfl rfl)
theorem dX1_init_39 : decode cX1_init 39 = .ok (.bipush 6, 2) := dk_16 6 (dk_at dksX1_init_1 15 rfl rfl)
theorem dX1_init_41 : decode cX1_init 41 = .ok (.iconst 2, 1) := dk_5 (dk_at dksX1_init_1 17 rfl rfl)
theorem dX1_init_42 : decode cX1_init 42 = .ok (.multianewarray 22 2, 4) := by decide +kernel
theorem dX1_init_46 : decode cX1_init 46 = .ok (.putfield 24, 3) := dk_181 0 24 (dk_at dksX1_init_2 0 rfl rfl)
theorem dX1_init_49 : decode cX1_init 49 = .ok (.aload_n 0, 1) := dk_42 (dk_at dksX1_init_2 3 rfl rfl)
theorem dX1_init_50 : decode cX1_init 50 = .ok (.new 27, 3) := dk_187 0 27 (dk_at dksX1_init_2 4 rfl rfl)
theorem dX1_init_53 : decode cX1_init 53 = .ok (.dup, 1) := dk_89 (dk_at dksX1_init_2 7 rfl rfl)
theorem dX1_init_54 : decode cX1_init 54 = .ok (.invokespecial 29, 3) := dk_183 0 29 (dk_at dksX1_init_2 8 rfl rfl)
theorem dX1_init_57 : decode cX1_init 57 = .ok (.putfield 30, 3) := dk_181 0 30 (dk_at dksX1_init_2 11 rfl rfl)
theorem dX1_init_60 : decode cX1_init 60 = .ok (.aload_n 0, 1) := dk_42 (dk_at dksX1_init_2 14 rfl rfl)
theorem dX1_init_61 : decode cX1_init 61 = .ok (.iconst (-1), 1) := dk_2 (dk_at dksX1_init_2 15 rfl rfl)
theorem dX1_init_62 : decode cX1_init 62 = .ok (.putfield 34, 3) := dk_181 0 34 (dk_at dksX1_init_2 16 rfl rfl)
theorem dX1_init_65 : decode cX1_init 65 = .ok (.return_, 1) := dk_177 (dk_at dksX1_init_2 19 rfl rfl)
abbrev cX1_copy : ByteArray := prog_25_method_2_code
def yX1_copy : MethodName := ⟨RX1, "copy", "()LMissCurves$Shop;"⟩
def dkwX1_copy_4 : List UInt8 := [181, 0, 56, 43, 42, 180, 0, 34, 181, 0, 34, 43, 176]
abbrev dktX1_copy_4 : List UInt8 := dkwX1_copy_4 ++ []
def dkwX1_copy_3 : List UInt8 := [180, 0, 30, 42, 180, 0, 30, 182, 0, 49, 87, 43, 42, 180, 0, 53, 181, 0, 53, 43, 42, 180, 0, 56]
abbrev dktX1_copy_3 : List UInt8 := dkwX1_copy_3 ++ dktX1_copy_4
def dkwX1_copy_2 : List UInt8 := [180, 0, 24, 28, 50, 3, 43, 180, 0, 24, 28, 50, 3, 5, 184, 0, 43, 132, 2, 1, 167, 255, 229, 43]
abbrev dktX1_copy_2 : List UInt8 := dkwX1_copy_2 ++ dktX1_copy_3
def dkwX1_copy_1 : List UInt8 := [3, 43, 180, 0, 18, 3, 42, 180, 0, 18, 190, 184, 0, 43, 3, 61, 28, 16, 6, 162, 0, 27, 42]
abbrev dktX1_copy_1 : List UInt8 := dkwX1_copy_1 ++ dktX1_copy_2
def dkwX1_copy_0 : List UInt8 := [187, 0, 13, 89, 183, 0, 38, 76, 43, 180, 0, 12, 42, 180, 0, 12, 182, 0, 39, 87, 42, 180, 0, 18]
abbrev dktX1_copy_0 : List UInt8 := dkwX1_copy_0 ++ dktX1_copy_1
theorem dksX1_copy_0 : cX1_copy.data.toList.drop 0 = dktX1_copy_0 := by decide +kernel
theorem dksX1_copy_1 : cX1_copy.data.toList.drop 24 = dktX1_copy_1 := dk_seg dksX1_copy_0 24 rfl rfl
theorem dksX1_copy_2 : cX1_copy.data.toList.drop 47 = dktX1_copy_2 := dk_seg dksX1_copy_1 23 rfl rfl
theorem dksX1_copy_3 : cX1_copy.data.toList.drop 71 = dktX1_copy_3 := dk_seg dksX1_copy_2 24 rfl rfl
theorem dksX1_copy_4 : cX1_copy.data.toList.drop 95 = dktX1_copy_4 := dk_seg dksX1_copy_3 24 rfl rfl
theorem dX1_copy_0 : decode cX1_copy 0 = .ok (.new 13, 3) := dk_187 0 13 (dk_at dksX1_copy_0 0 rfl rfl)
theorem dX1_copy_3 : decode cX1_copy 3 = .ok (.dup, 1) := dk_89 (dk_at dksX1_copy_0 3 rfl rfl)
theorem dX1_copy_4 : decode cX1_copy 4 = .ok (.invokespecial 38, 3) := dk_183 0 38 (dk_at dksX1_copy_0 4 rfl rfl)
theorem dX1_copy_7 : decode cX1_copy 7 = .ok (.astore_n 1, 1) := dk_76 (dk_at dksX1_copy_0 7 rfl rfl)
theorem dX1_copy_8 : decode cX1_copy 8 = .ok (.aload_n 1, 1) := dk_43 (dk_at dksX1_copy_0 8 rfl rfl)
theorem dX1_copy_9 : decode cX1_copy 9 = .ok (.getfield 12, 3) := dk_180 0 12 (dk_at dksX1_copy_0 9 rfl rfl)
theorem dX1_copy_12 : decode cX1_copy 12 = .ok (.aload_n 0, 1) := dk_42 (dk_at dksX1_copy_0 12 rfl rfl)
theorem dX1_copy_13 : decode cX1_copy 13 = .ok (.getfield 12, 3) := dk_180 0 12 (dk_at dksX1_copy_0 13 rfl rfl)
theorem dX1_copy_16 : decode cX1_copy 16 = .ok (.invokevirtual 39, 3) := dk_182 0 39 (dk_at dksX1_copy_0 16 rfl rfl)
theorem dX1_copy_19 : decode cX1_copy 19 = .ok (.pop, 1) := dk_87 (dk_at dksX1_copy_0 19 rfl rfl)
theorem dX1_copy_20 : decode cX1_copy 20 = .ok (.aload_n 0, 1) := dk_42 (dk_at dksX1_copy_0 20 rfl rfl)
theorem dX1_copy_21 : decode cX1_copy 21 = .ok (.getfield 18, 3) := dk_180 0 18 (dk_at dksX1_copy_0 21 rfl rfl)
theorem dX1_copy_24 : decode cX1_copy 24 = .ok (.iconst 0, 1) := dk_3 (dk_at dksX1_copy_1 0 rfl rfl)
theorem dX1_copy_25 : decode cX1_copy 25 = .ok (.aload_n 1, 1) := dk_43 (dk_at dksX1_copy_1 1 rfl rfl)
theorem dX1_copy_26 : decode cX1_copy 26 = .ok (.getfield 18, 3) := dk_180 0 18 (dk_at dksX1_copy_1 2 rfl rfl)
theorem dX1_copy_29 : decode cX1_copy 29 = .ok (.iconst 0, 1) := dk_3 (dk_at dksX1_copy_1 5 rfl rfl)
theorem dX1_copy_30 : decode cX1_copy 30 = .ok (.aload_n 0, 1) := dk_42 (dk_at dksX1_copy_1 6 rfl rfl)
theorem dX1_copy_31 : decode cX1_copy 31 = .ok (.getfield 18, 3) := dk_180 0 18 (dk_at dksX1_copy_1 7 rfl rfl)
theorem dX1_copy_34 : decode cX1_copy 34 = .ok (.arraylength, 1) := dk_190 (dk_at dksX1_copy_1 10 rfl rfl)
theorem dX1_copy_35 : decode cX1_copy 35 = .ok (.invokestatic 43, 3) := dk_184 0 43 (dk_at dksX1_copy_1 11 rfl rfl)
theorem dX1_copy_38 : decode cX1_copy 38 = .ok (.iconst 0, 1) := dk_3 (dk_at dksX1_copy_1 14 rfl rfl)
theorem dX1_copy_39 : decode cX1_copy 39 = .ok (.istore_n 2, 1) := dk_61 (dk_at dksX1_copy_1 15 rfl rfl)
theorem dX1_copy_40 : decode cX1_copy 40 = .ok (.iload_n 2, 1) := dk_28 (dk_at dksX1_copy_1 16 rfl rfl)
theorem dX1_copy_41 : decode cX1_copy 41 = .ok (.bipush 6, 2) := dk_16 6 (dk_at dksX1_copy_1 17 rfl rfl)
theorem dX1_copy_43 : decode cX1_copy 43 = .ok (.if_icmp .ge 27, 3) := dk_162 0 27 (dk_at dksX1_copy_1 19 rfl rfl)
theorem dX1_copy_46 : decode cX1_copy 46 = .ok (.aload_n 0, 1) := dk_42 (dk_at dksX1_copy_1 22 rfl rfl)
theorem dX1_copy_47 : decode cX1_copy 47 = .ok (.getfield 24, 3) := dk_180 0 24 (dk_at dksX1_copy_2 0 rfl rfl)
theorem dX1_copy_50 : decode cX1_copy 50 = .ok (.iload_n 2, 1) := dk_28 (dk_at dksX1_copy_2 3 rfl rfl)
theorem dX1_copy_51 : decode cX1_copy 51 = .ok (.aaload, 1) := dk_50 (dk_at dksX1_copy_2 4 rfl rfl)
theorem dX1_copy_52 : decode cX1_copy 52 = .ok (.iconst 0, 1) := dk_3 (dk_at dksX1_copy_2 5 rfl rfl)
theorem dX1_copy_53 : decode cX1_copy 53 = .ok (.aload_n 1, 1) := dk_43 (dk_at dksX1_copy_2 6 rfl rfl)
theorem dX1_copy_54 : decode cX1_copy 54 = .ok (.getfield 24, 3) := dk_180 0 24 (dk_at dksX1_copy_2 7 rfl rfl)
theorem dX1_copy_57 : decode cX1_copy 57 = .ok (.iload_n 2, 1) := dk_28 (dk_at dksX1_copy_2 10 rfl rfl)
theorem dX1_copy_58 : decode cX1_copy 58 = .ok (.aaload, 1) := dk_50 (dk_at dksX1_copy_2 11 rfl rfl)
theorem dX1_copy_59 : decode cX1_copy 59 = .ok (.iconst 0, 1) := dk_3 (dk_at dksX1_copy_2 12 rfl rfl)
theorem dX1_copy_60 : decode cX1_copy 60 = .ok (.iconst 2, 1) := dk_5 (dk_at dksX1_copy_2 13 rfl rfl)
theorem dX1_copy_61 : decode cX1_copy 61 = .ok (.invokestatic 43, 3) := dk_184 0 43 (dk_at dksX1_copy_2 14 rfl rfl)
theorem dX1_copy_64 : decode cX1_copy 64 = .ok (.iinc 2 1, 3) := dk_132 2 1 (dk_at dksX1_copy_2 17 rfl rfl)
theorem dX1_copy_67 : decode cX1_copy 67 = .ok (.goto (-27), 3) := dk_167 255 229 (dk_at dksX1_copy_2 20 rfl rfl)
theorem dX1_copy_70 : decode cX1_copy 70 = .ok (.aload_n 1, 1) := dk_43 (dk_at dksX1_copy_2 23 rfl rfl)
theorem dX1_copy_71 : decode cX1_copy 71 = .ok (.getfield 30, 3) := dk_180 0 30 (dk_at dksX1_copy_3 0 rfl rfl)
theorem dX1_copy_74 : decode cX1_copy 74 = .ok (.aload_n 0, 1) := dk_42 (dk_at dksX1_copy_3 3 rfl rfl)
theorem dX1_copy_75 : decode cX1_copy 75 = .ok (.getfield 30, 3) := dk_180 0 30 (dk_at dksX1_copy_3 4 rfl rfl)
theorem dX1_copy_78 : decode cX1_copy 78 = .ok (.invokevirtual 49, 3) := dk_182 0 49 (dk_at dksX1_copy_3 7 rfl rfl)
theorem dX1_copy_81 : decode cX1_copy 81 = .ok (.pop, 1) := dk_87 (dk_at dksX1_copy_3 10 rfl rfl)
theorem dX1_copy_82 : decode cX1_copy 82 = .ok (.aload_n 1, 1) := dk_43 (dk_at dksX1_copy_3 11 rfl rfl)
theorem dX1_copy_83 : decode cX1_copy 83 = .ok (.aload_n 0, 1) := dk_42 (dk_at dksX1_copy_3 12 rfl rfl)
theorem dX1_copy_84 : decode cX1_copy 84 = .ok (.getfield 53, 3) := dk_180 0 53 (dk_at dksX1_copy_3 13 rfl rfl)
theorem dX1_copy_87 : decode cX1_copy 87 = .ok (.putfield 53, 3) := dk_181 0 53 (dk_at dksX1_copy_3 16 rfl rfl)
theorem dX1_copy_90 : decode cX1_copy 90 = .ok (.aload_n 1, 1) := dk_43 (dk_at dksX1_copy_3 19 rfl rfl)
theorem dX1_copy_91 : decode cX1_copy 91 = .ok (.aload_n 0, 1) := dk_42 (dk_at dksX1_copy_3 20 rfl rfl)
theorem dX1_copy_92 : decode cX1_copy 92 = .ok (.getfield 56, 3) := dk_180 0 56 (dk_at dksX1_copy_3 21 rfl rfl)
theorem dX1_copy_95 : decode cX1_copy 95 = .ok (.putfield 56, 3) := dk_181 0 56 (dk_at dksX1_copy_4 0 rfl rfl)
theorem dX1_copy_98 : decode cX1_copy 98 = .ok (.aload_n 1, 1) := dk_43 (dk_at dksX1_copy_4 3 rfl rfl)
theorem dX1_copy_99 : decode cX1_copy 99 = .ok (.aload_n 0, 1) := dk_42 (dk_at dksX1_copy_4 4 rfl rfl)
theorem dX1_copy_100 : decode cX1_copy 100 = .ok (.getfield 34, 3) := dk_180 0 34 (dk_at dksX1_copy_4 5 rfl rfl)
theorem dX1_copy_103 : decode cX1_copy 103 = .ok (.putfield 34, 3) := dk_181 0 34 (dk_at dksX1_copy_4 8 rfl rfl)
theorem dX1_copy_106 : decode cX1_copy 106 = .ok (.aload_n 1, 1) := dk_43 (dk_at dksX1_copy_4 11 rfl rfl)
theorem dX1_copy_107 : decode cX1_copy 107 = .ok (.areturn, 1) := dk_176 (dk_at dksX1_copy_4 12 rfl rfl)
theorem q129 : (Jvm.Cond.initialized "MissCurves$Shop") ∈ lw_all := lw_g (lw_at lw_m1 2 rfl) rfl
theorem q189 : (Jvm.Cond.instantiable "MissCurves$Shop" (7 : Nat)) ∈ lw_all := lw_g (lw_at lw_m1 62 rfl) rfl
theorem q191 : (Jvm.Cond.instanceMethod ({ cls := "MissCurves$Shop", name := "<init>", desc := "()V" } : Jvm.MethodName)) ∈ lw_all := lw_g (lw_at lw_m1 64 rfl) rfl
theorem q192 : (Jvm.Cond.code ({ cls := "MissCurves$Shop", name := "<init>", desc := "()V" } : Jvm.MethodName) prog_25_method_1_code (1 : Nat) (Option.none : Option Jvm.ClassFile.FieldType)) ∈ lw_all := lw_g (lw_at lw_m1 65 rfl) rfl
theorem q193 : (Jvm.Cond.methodLink "MissCurves$Shop" (3 : Nat) ({ cls := "java/lang/Object", name := "<init>", desc := "()V" } : Jvm.MethodName)) ∈ lw_all := lw_g (lw_at lw_m1 66 rfl) rfl
theorem q194 : (Jvm.Cond.classLink "MissCurves$Shop" (9 : Nat) "java/util/ArrayList") ∈ lw_all := lw_g (lw_at lw_m1 67 rfl) rfl
theorem q196 : (Jvm.Cond.methodLink "MissCurves$Shop" (11 : Nat) ({ cls := "java/util/ArrayList", name := "<init>", desc := "()V" } : Jvm.MethodName)) ∈ lw_all := lw_g (lw_at lw_m1 69 rfl) rfl
theorem q220 : (Jvm.Cond.classLink "MissCurves$Shop" (22 : Nat) "[[I") ∈ lw_all := lw_g (lw_at lw_m1 93 rfl) rfl
theorem q222 : (Jvm.Cond.classLink "MissCurves$Shop" (27 : Nat) "MissCurves$Books") ∈ lw_all := lw_g (lw_at lw_m1 95 rfl) rfl
theorem q224 : (Jvm.Cond.methodLink "MissCurves$Shop" (29 : Nat) ({ cls := "MissCurves$Books", name := "<init>", desc := "()V" } : Jvm.MethodName)) ∈ lw_all := lw_g (lw_at lw_m1 97 rfl) rfl
theorem q292 : (Jvm.Cond.fieldLink "MissCurves$Shop" (12 : Nat) "MissCurves$Shop" "laws" "Ljava/util/ArrayList;") ∈ lw_all := lw_g (lw_at lw_m1 165 rfl) rfl
theorem q294 : (Jvm.Cond.fieldLink "MissCurves$Shop" (18 : Nat) "MissCurves$Shop" "terms" "[I") ∈ lw_all := lw_g (lw_at lw_m1 167 rfl) rfl
theorem q296 : (Jvm.Cond.fieldLink "MissCurves$Shop" (24 : Nat) "MissCurves$Shop" "seen" "[[I") ∈ lw_all := lw_g (lw_at lw_m1 169 rfl) rfl
theorem q298 : (Jvm.Cond.fieldLink "MissCurves$Shop" (30 : Nat) "MissCurves$Shop" "books" "LMissCurves$Books;") ∈ lw_all := lw_g (lw_at lw_m1 171 rfl) rfl
theorem q300 : (Jvm.Cond.fieldLink "MissCurves$Shop" (53 : Nat) "MissCurves$Shop" "policy" "I") ∈ lw_all := lw_g (lw_at lw_m1 173 rfl) rfl
theorem q302 : (Jvm.Cond.fieldLink "MissCurves$Shop" (56 : Nat) "MissCurves$Shop" "nSeen" "I") ∈ lw_all := lw_g (lw_at lw_m1 175 rfl) rfl
theorem q304 : (Jvm.Cond.fieldLink "MissCurves$Shop" (34 : Nat) "MissCurves$Shop" "inForce" "I") ∈ lw_all := lw_g (lw_at lw_m1 177 rfl) rfl
theorem q306 : (Jvm.Cond.laysFinal "MissCurves$Shop" "MissCurves$Shop" "laws" "Ljava/util/ArrayList;") ∈ lw_all := lw_g (lw_at lw_m1 179 rfl) rfl
theorem q307 : (Jvm.Cond.soleField "MissCurves$Shop" "laws") ∈ lw_all := lw_g (lw_at lw_m1 180 rfl) rfl
theorem q308 : (Jvm.Cond.laysFinal "MissCurves$Shop" "MissCurves$Shop" "terms" "[I") ∈ lw_all := lw_g (lw_at lw_m1 181 rfl) rfl
theorem q309 : (Jvm.Cond.soleField "MissCurves$Shop" "terms") ∈ lw_all := lw_g (lw_at lw_m1 182 rfl) rfl
theorem q310 : (Jvm.Cond.laysFinal "MissCurves$Shop" "MissCurves$Shop" "seen" "[[I") ∈ lw_all := lw_g (lw_at lw_m1 183 rfl) rfl
theorem q311 : (Jvm.Cond.soleField "MissCurves$Shop" "seen") ∈ lw_all := lw_g (lw_at lw_m1 184 rfl) rfl
theorem q312 : (Jvm.Cond.laysFinal "MissCurves$Shop" "MissCurves$Shop" "books" "LMissCurves$Books;") ∈ lw_all := lw_g (lw_at lw_m1 185 rfl) rfl
theorem q313 : (Jvm.Cond.soleField "MissCurves$Shop" "books") ∈ lw_all := lw_g (lw_at lw_m1 186 rfl) rfl
theorem q314 : (Jvm.Cond.lays "MissCurves$Shop" "MissCurves$Shop" "policy" "I") ∈ lw_all := lw_g (lw_at lw_m1 187 rfl) rfl
theorem q315 : (Jvm.Cond.soleField "MissCurves$Shop" "policy") ∈ lw_all := lw_g (lw_at lw_m1 188 rfl) rfl
theorem q316 : (Jvm.Cond.lays "MissCurves$Shop" "MissCurves$Shop" "nSeen" "I") ∈ lw_all := lw_g (lw_at lw_m1 189 rfl) rfl
theorem q317 : (Jvm.Cond.soleField "MissCurves$Shop" "nSeen") ∈ lw_all := lw_g (lw_at lw_m1 190 rfl) rfl
theorem q318 : (Jvm.Cond.lays "MissCurves$Shop" "MissCurves$Shop" "inForce" "I") ∈ lw_all := lw_g (lw_at lw_m1 191 rfl) rfl
theorem q319 : (Jvm.Cond.soleField "MissCurves$Shop" "inForce") ∈ lw_all := lw_g (lw_at lw_m1 192 rfl) rfl
theorem q320 : (Jvm.Cond.superclass "MissCurves$Shop" "java/lang/Object") ∈ lw_all := lw_g (lw_at lw_m1 193 rfl) rfl
theorem q1541 : (Jvm.Cond.selects "MissCurves$Shop" ({ cls := "java/lang/Object", name := "getClass", desc := "()Ljava/lang/Class;" } : Jvm.MethodName) ({ cls := "java/lang/Object", name := "getClass", desc := "()Ljava/lang/Class;" } : Jvm.MethodName)) ∈ lw_all := lw_g (lw_at lw_m6 214 rfl) rfl
theorem q1774 : (Jvm.Cond.selects "MissCurves$Shop" ({ cls := "java/lang/Object", name := "toString", desc := "()Ljava/lang/String;" } : Jvm.MethodName) ({ cls := "java/lang/Object", name := "toString", desc := "()Ljava/lang/String;" } : Jvm.MethodName)) ∈ lw_all := lw_g (lw_at lw_m7 207 rfl) rfl
theorem q2160 : (Jvm.Cond.instanceMethod ({ cls := "MissCurves$Shop", name := "copy", desc := "()LMissCurves$Shop;" } : Jvm.MethodName)) ∈ lw_all := lw_g (lw_at lw_m9 113 rfl) rfl
theorem q2161 : (Jvm.Cond.selects "MissCurves$Shop" ({ cls := "MissCurves$Shop", name := "copy", desc := "()LMissCurves$Shop;" } : Jvm.MethodName) ({ cls := "MissCurves$Shop", name := "copy", desc := "()LMissCurves$Shop;" } : Jvm.MethodName)) ∈ lw_all := lw_g (lw_at lw_m9 114 rfl) rfl
theorem q2162 : (Jvm.Cond.code ({ cls := "MissCurves$Shop", name := "copy", desc := "()LMissCurves$Shop;" } : Jvm.MethodName) prog_25_method_2_code (3 : Nat) (Option.some (Jvm.ClassFile.FieldType.object "MissCurves$Shop"))) ∈ lw_all := lw_g (lw_at lw_m9 115 rfl) rfl
theorem q2163 : (Jvm.Cond.classLink "MissCurves$Shop" (13 : Nat) "MissCurves$Shop") ∈ lw_all := lw_g (lw_at lw_m9 116 rfl) rfl
theorem q2164 : (Jvm.Cond.methodLink "MissCurves$Shop" (38 : Nat) ({ cls := "MissCurves$Shop", name := "<init>", desc := "()V" } : Jvm.MethodName)) ∈ lw_all := lw_g (lw_at lw_m9 117 rfl) rfl
theorem q2165 : (Jvm.Cond.methodLink "MissCurves$Shop" (39 : Nat) ({ cls := "java/util/ArrayList", name := "addAll", desc := "(Ljava/util/Collection;)Z" } : Jvm.MethodName)) ∈ lw_all := lw_g (lw_at lw_m9 118 rfl) rfl
theorem q2180 : (Jvm.Cond.methodLink "MissCurves$Shop" (43 : Nat) ({ cls := "java/lang/System", name := "arraycopy", desc := "(Ljava/lang/Object;ILjava/lang/Object;II)V" } : Jvm.MethodName)) ∈ lw_all := lw_g (lw_at lw_m9 133 rfl) rfl
theorem q2181 : (Jvm.Cond.methodLink "MissCurves$Shop" (49 : Nat) ({ cls := "MissCurves$Books", name := "as", desc := "(LMissCurves$Books;)LMissCurves$Books;" } : Jvm.MethodName)) ∈ lw_all := lw_g (lw_at lw_m9 134 rfl) rfl
theorem q3008 : (Jvm.Cond.castable "MissCurves$Shop" "java/lang/Object") ∈ lw_tbl := lw_at lw_m13 1 rfl
theorem in_X1 : ∀ w ∈ wsX10, w ∈ lw_all := lw_in wsX10 [306, 308, 310, 312, 314, 316, 318] (by decide +kernel) (by decide +kernel)

/-! MissCurves$LawReader -/
set_option maxRecDepth 100000
def RX10 : String := "MissCurves$LawReader"
def TX10 : u_T := fun k => match k with
  | 0 => ("MissCurves$Reader", "from", "I", false)
  | 1 => ("MissCurves$Reader", "to", "I", false)
  | 2 => ("MissCurves$Reader", "leaves", "I", false)
  | 3 => ("MissCurves$Reader", "deep", "I", false)
  | 4 => ("MissCurves$Reader", "piled", "I", false)
  | 5 => ("MissCurves$Reader", "pile", "[LMissCurves$Test;", true)
  | 6 => ("MissCurves$Reader", "words", "[Ljava/lang/String;", true)
  | 7 => ("MissCurves$Reader", "this$0", "LMissCurves;", true)
  | 8 => ("MissCurves$LawReader", "row", "[LMissCurves$Clause;", true)
  | 9 => ("MissCurves$LawReader", "heads", "[Ljava/lang/String;", true)
  | _ => ("MissCurves$LawReader", "this$0", "LMissCurves;", true)
def tyX10 : Nat → FieldType := fun k => match k with
  | 0 => .int
  | 1 => .int
  | 2 => .int
  | 3 => .int
  | 4 => .int
  | 5 => .array (.object "MissCurves$Test")
  | 6 => .array (.object "java/lang/String")
  | 7 => .object "MissCurves"
  | 8 => .array (.object "MissCurves$Clause")
  | 9 => .array (.object "java/lang/String")
  | _ => .object "MissCurves"
abbrev wsX100 : List Cond := u_ws RX10 TX10 11
-- two fields of one name: no nmX10
theorem tyX10_ok : ∀ k, k < 11 → parseFieldDescriptor (TX10 k).2.2.1 = some (tyX10 k) := by decide +kernel
abbrev cX10_init : ByteArray := prog_13_method_1_code
def yX10_init : MethodName := ⟨RX10, "<init>", "(LMissCurves;)V"⟩
def dkwX10_init_3 : List UInt8 := [177]
abbrev dktX10_init_3 : List UInt8 := dkwX10_init_3 ++ []
def dkwX10_init_2 : List UInt8 := [189, 0, 29, 181, 0, 31, 42, 5, 189, 0, 9, 89, 3, 18, 35, 83, 89, 4, 18, 37, 83, 181, 0, 39]
abbrev dktX10_init_2 : List UInt8 := dkwX10_init_2 ++ dktX10_init_3
def dkwX10_init_1 : List UInt8 := [18, 15, 83, 89, 6, 18, 17, 83, 89, 7, 18, 19, 83, 89, 8, 18, 21, 83, 183, 0, 23, 42, 16, 12]
abbrev dktX10_init_1 : List UInt8 := dkwX10_init_1 ++ dktX10_init_2
def dkwX10_init_0 : List UInt8 := [42, 43, 181, 0, 3, 42, 43, 16, 6, 189, 0, 9, 89, 3, 18, 11, 83, 89, 4, 18, 13, 83, 89, 5]
abbrev dktX10_init_0 : List UInt8 := dkwX10_init_0 ++ dktX10_init_1
theorem dksX10_init_0 : cX10_init.data.toList.drop 0 = dktX10_init_0 := by decide +kernel
theorem dksX10_init_1 : cX10_init.data.toList.drop 24 = dktX10_init_1 := dk_seg dksX10_init_0 24 rfl rfl
theorem dksX10_init_2 : cX10_init.data.toList.drop 48 = dktX10_init_2 := dk_seg dksX10_init_1 24 rfl rfl
theorem dksX10_init_3 : cX10_init.data.toList.drop 72 = dktX10_init_3 := dk_seg dksX10_init_2 24 rfl rfl
theorem dX10_init_0 : decode cX10_init 0 = .ok (.aload_n 0, 1) := dk_42 (dk_at dksX10_init_0 0 rfl rfl)
theorem dX10_init_1 : decode cX10_init 1 = .ok (.aload_n 1, 1) := dk_43 (dk_at dksX10_init_0 1 rfl rfl)
theorem dX10_init_2 : decode cX10_init 2 = .ok (.putfield 3, 3) := dk_181 0 3 (dk_at dksX10_init_0 2 rfl rfl)
theorem dX10_init_5 : decode cX10_init 5 = .ok (.aload_n 0, 1) := dk_42 (dk_at dksX10_init_0 5 rfl rfl)
theorem dX10_init_6 : decode cX10_init 6 = .ok (.aload_n 1, 1) := dk_43 (dk_at dksX10_init_0 6 rfl rfl)
theorem dX10_init_7 : decode cX10_init 7 = .ok (.bipush 6, 2) := dk_16 6 (dk_at dksX10_init_0 7 rfl rfl)
theorem dX10_init_9 : decode cX10_init 9 = .ok (.anewarray 9, 3) := dk_189 0 9 (dk_at dksX10_init_0 9 rfl rfl)
theorem dX10_init_12 : decode cX10_init 12 = .ok (.dup, 1) := dk_89 (dk_at dksX10_init_0 12 rfl rfl)
theorem dX10_init_13 : decode cX10_init 13 = .ok (.iconst 0, 1) := dk_3 (dk_at dksX10_init_0 13 rfl rfl)
theorem dX10_init_14 : decode cX10_init 14 = .ok (.ldc 11, 2) := dk_18 11 (dk_at dksX10_init_0 14 rfl rfl)
theorem dX10_init_16 : decode cX10_init 16 = .ok (.aastore, 1) := dk_83 (dk_at dksX10_init_0 16 rfl rfl)
theorem dX10_init_17 : decode cX10_init 17 = .ok (.dup, 1) := dk_89 (dk_at dksX10_init_0 17 rfl rfl)
theorem dX10_init_18 : decode cX10_init 18 = .ok (.iconst 1, 1) := dk_4 (dk_at dksX10_init_0 18 rfl rfl)
theorem dX10_init_19 : decode cX10_init 19 = .ok (.ldc 13, 2) := dk_18 13 (dk_at dksX10_init_0 19 rfl rfl)
theorem dX10_init_21 : decode cX10_init 21 = .ok (.aastore, 1) := dk_83 (dk_at dksX10_init_0 21 rfl rfl)
theorem dX10_init_22 : decode cX10_init 22 = .ok (.dup, 1) := dk_89 (dk_at dksX10_init_0 22 rfl rfl)
theorem dX10_init_23 : decode cX10_init 23 = .ok (.iconst 2, 1) := dk_5 (dk_at dksX10_init_0 23 rfl rfl)
theorem dX10_init_24 : decode cX10_init 24 = .ok (.ldc 15, 2) := dk_18 15 (dk_at dksX10_init_1 0 rfl rfl)
theorem dX10_init_26 : decode cX10_init 26 = .ok (.aastore, 1) := dk_83 (dk_at dksX10_init_1 2 rfl rfl)
theorem dX10_init_27 : decode cX10_init 27 = .ok (.dup, 1) := dk_89 (dk_at dksX10_init_1 3 rfl rfl)
theorem dX10_init_28 : decode cX10_init 28 = .ok (.iconst 3, 1) := dk_6 (dk_at dksX10_init_1 4 rfl rfl)
theorem dX10_init_29 : decode cX10_init 29 = .ok (.ldc 17, 2) := dk_18 17 (dk_at dksX10_init_1 5 rfl rfl)
theorem dX10_init_31 : decode cX10_init 31 = .ok (.aastore, 1) := dk_83 (dk_at dksX10_init_1 7 rfl rfl)
theorem dX10_init_32 : decode cX10_init 32 = .ok (.dup, 1) := dk_89 (dk_at dksX10_init_1 8 rfl rfl)
theorem dX10_init_33 : decode cX10_init 33 = .ok (.iconst 4, 1) := dk_7 (dk_at dksX10_init_1 9 rfl rfl)
theorem dX10_init_34 : decode cX10_init 34 = .ok (.ldc 19, 2) := dk_18 19 (dk_at dksX10_init_1 10 rfl rfl)
theorem dX10_init_36 : decode cX10_init 36 = .ok (.aastore, 1) := dk_83 (dk_at dksX10_init_1 12 rfl rfl)
theorem dX10_init_37 : decode cX10_init 37 = .ok (.dup, 1) := dk_89 (dk_at dksX10_init_1 13 rfl rfl)
theorem dX10_init_38 : decode cX10_init 38 = .ok (.iconst 5, 1) := dk_8 (dk_at dksX10_init_1 14 rfl rfl)
theorem dX10_init_39 : decode cX10_init 39 = .ok (.ldc 21, 2) := dk_18 21 (dk_at dksX10_init_1 15 rfl rfl)
theorem dX10_init_41 : decode cX10_init 41 = .ok (.aastore, 1) := dk_83 (dk_at dksX10_init_1 17 rfl rfl)
theorem dX10_init_42 : decode cX10_init 42 = .ok (.invokespecial 23, 3) := dk_183 0 23 (dk_at dksX10_init_1 18 rfl rfl)
theorem dX10_init_45 : decode cX10_init 45 = .ok (.aload_n 0, 1) := dk_42 (dk_at dksX10_init_1 21 rfl rfl)
theorem dX10_init_46 : decode cX10_init 46 = .ok (.bipush 12, 2) := dk_16 12 (dk_at dksX10_init_1 22 rfl rfl)
theorem dX10_init_48 : decode cX10_init 48 = .ok (.anewarray 29, 3) := dk_189 0 29 (dk_at dksX10_init_2 0 rfl rfl)
theorem dX10_init_51 : decode cX10_init 51 = .ok (.putfield 31, 3) := dk_181 0 31 (dk_at dksX10_init_2 3 rfl rfl)
theorem dX10_init_54 : decode cX10_init 54 = .ok (.aload_n 0, 1) := dk_42 (dk_at dksX10_init_2 6 rfl rfl)
theorem dX10_init_55 : decode cX10_init 55 = .ok (.iconst 2, 1) := dk_5 (dk_at dksX10_init_2 7 rfl rfl)
theorem dX10_init_56 : decode cX10_init 56 = .ok (.anewarray 9, 3) := dk_189 0 9 (dk_at dksX10_init_2 8 rfl rfl)
theorem dX10_init_59 : decode cX10_init 59 = .ok (.dup, 1) := dk_89 (dk_at dksX10_init_2 11 rfl rfl)
theorem dX10_init_60 : decode cX10_init 60 = .ok (.iconst 0, 1) := dk_3 (dk_at dksX10_init_2 12 rfl rfl)
theorem dX10_init_61 : decode cX10_init 61 = .ok (.ldc 35, 2) := dk_18 35 (dk_at dksX10_init_2 13 rfl rfl)
theorem dX10_init_63 : decode cX10_init 63 = .ok (.aastore, 1) := dk_83 (dk_at dksX10_init_2 15 rfl rfl)
theorem dX10_init_64 : decode cX10_init 64 = .ok (.dup, 1) := dk_89 (dk_at dksX10_init_2 16 rfl rfl)
theorem dX10_init_65 : decode cX10_init 65 = .ok (.iconst 1, 1) := dk_4 (dk_at dksX10_init_2 17 rfl rfl)
theorem dX10_init_66 : decode cX10_init 66 = .ok (.ldc 37, 2) := dk_18 37 (dk_at dksX10_init_2 18 rfl rfl)
theorem dX10_init_68 : decode cX10_init 68 = .ok (.aastore, 1) := dk_83 (dk_at dksX10_init_2 20 rfl rfl)
theorem dX10_init_69 : decode cX10_init 69 = .ok (.putfield 39, 3) := dk_181 0 39 (dk_at dksX10_init_2 21 rfl rfl)
theorem dX10_init_72 : decode cX10_init 72 = .ok (.return_, 1) := dk_177 (dk_at dksX10_init_3 0 rfl rfl)
abbrev cX10_read : ByteArray := prog_13_method_2_code
def yX10_read : MethodName := ⟨RX10, "read", "()LMissCurves$Text;"⟩
def dkwX10_read_1 : List UInt8 := [43, 183, 0, 55, 176]
abbrev dktX10_read_1 : List UInt8 := dkwX10_read_1 ++ []
def dkwX10_read_0 : List UInt8 := [42, 182, 0, 43, 189, 0, 29, 76, 42, 180, 0, 31, 3, 43, 3, 43, 190, 184, 0, 47, 187, 0, 53, 89]
abbrev dktX10_read_0 : List UInt8 := dkwX10_read_0 ++ dktX10_read_1
theorem dksX10_read_0 : cX10_read.data.toList.drop 0 = dktX10_read_0 := by decide +kernel
theorem dksX10_read_1 : cX10_read.data.toList.drop 24 = dktX10_read_1 := dk_seg dksX10_read_0 24 rfl rfl
theorem dX10_read_0 : decode cX10_read 0 = .ok (.aload_n 0, 1) := dk_42 (dk_at dksX10_read_0 0 rfl rfl)
theorem dX10_read_1 : decode cX10_read 1 = .ok (.invokevirtual 43, 3) := dk_182 0 43 (dk_at dksX10_read_0 1 rfl rfl)
theorem dX10_read_4 : decode cX10_read 4 = .ok (.anewarray 29, 3) := dk_189 0 29 (dk_at dksX10_read_0 4 rfl rfl)
theorem dX10_read_7 : decode cX10_read 7 = .ok (.astore_n 1, 1) := dk_76 (dk_at dksX10_read_0 7 rfl rfl)
theorem dX10_read_8 : decode cX10_read 8 = .ok (.aload_n 0, 1) := dk_42 (dk_at dksX10_read_0 8 rfl rfl)
theorem dX10_read_9 : decode cX10_read 9 = .ok (.getfield 31, 3) := dk_180 0 31 (dk_at dksX10_read_0 9 rfl rfl)
theorem dX10_read_12 : decode cX10_read 12 = .ok (.iconst 0, 1) := dk_3 (dk_at dksX10_read_0 12 rfl rfl)
theorem dX10_read_13 : decode cX10_read 13 = .ok (.aload_n 1, 1) := dk_43 (dk_at dksX10_read_0 13 rfl rfl)
theorem dX10_read_14 : decode cX10_read 14 = .ok (.iconst 0, 1) := dk_3 (dk_at dksX10_read_0 14 rfl rfl)
theorem dX10_read_15 : decode cX10_read 15 = .ok (.aload_n 1, 1) := dk_43 (dk_at dksX10_read_0 15 rfl rfl)
theorem dX10_read_16 : decode cX10_read 16 = .ok (.arraylength, 1) := dk_190 (dk_at dksX10_read_0 16 rfl rfl)
theorem dX10_read_17 : decode cX10_read 17 = .ok (.invokestatic 47, 3) := dk_184 0 47 (dk_at dksX10_read_0 17 rfl rfl)
theorem dX10_read_20 : decode cX10_read 20 = .ok (.new 53, 3) := dk_187 0 53 (dk_at dksX10_read_0 20 rfl rfl)
theorem dX10_read_23 : decode cX10_read 23 = .ok (.dup, 1) := dk_89 (dk_at dksX10_read_0 23 rfl rfl)
theorem dX10_read_24 : decode cX10_read 24 = .ok (.aload_n 1, 1) := dk_43 (dk_at dksX10_read_1 0 rfl rfl)
theorem dX10_read_25 : decode cX10_read 25 = .ok (.invokespecial 55, 3) := dk_183 0 55 (dk_at dksX10_read_1 1 rfl rfl)
theorem dX10_read_28 : decode cX10_read 28 = .ok (.areturn, 1) := dk_176 (dk_at dksX10_read_1 4 rfl rfl)
abbrev cX10_read_2 : ByteArray := prog_13_method_3_code
def yX10_read_2 : MethodName := ⟨RX10, "read", "(I)V"⟩
def dkwX10_read_2_3 : List UInt8 := [183, 0, 84, 83, 177]
abbrev dktX10_read_2_3 : List UInt8 := dkwX10_read_2_3 ++ []
def dkwX10_read_2_2 : List UInt8 := [187, 0, 29, 89, 28, 45, 42, 18, 74, 182, 0, 76, 153, 0, 10, 42, 182, 0, 80, 167, 0, 4, 1]
abbrev dktX10_read_2_2 : List UInt8 := dkwX10_read_2_2 ++ dktX10_read_2_3
def dkwX10_read_2_1 : List UInt8 := [182, 0, 66, 28, 4, 162, 0, 10, 42, 182, 0, 70, 167, 0, 4, 1, 78, 42, 180, 0, 31, 27]
abbrev dktX10_read_2_1 : List UInt8 := dkwX10_read_2_1 ++ dktX10_read_2_2
def dkwX10_read_2_0 : List UInt8 := [42, 42, 180, 0, 39, 182, 0, 58, 61, 42, 28, 2, 159, 0, 7, 4, 167, 0, 4, 3, 182, 0, 62, 42]
abbrev dktX10_read_2_0 : List UInt8 := dkwX10_read_2_0 ++ dktX10_read_2_1
theorem dksX10_read_2_0 : cX10_read_2.data.toList.drop 0 = dktX10_read_2_0 := by decide +kernel
theorem dksX10_read_2_1 : cX10_read_2.data.toList.drop 24 = dktX10_read_2_1 := dk_seg dksX10_read_2_0 24 rfl rfl
theorem dksX10_read_2_2 : cX10_read_2.data.toList.drop 46 = dktX10_read_2_2 := dk_seg dksX10_read_2_1 22 rfl rfl
theorem dksX10_read_2_3 : cX10_read_2.data.toList.drop 69 = dktX10_read_2_3 := dk_seg dksX10_read_2_2 23 rfl rfl
theorem dX10_read_2_0 : decode cX10_read_2 0 = .ok (.aload_n 0, 1) := dk_42 (dk_at dksX10_read_2_0 0 rfl rfl)
theorem dX10_read_2_1 : decode cX10_read_2 1 = .ok (.aload_n 0, 1) := dk_42 (dk_at dksX10_read_2_0 1 rfl rfl)
theorem dX10_read_2_2 : decode cX10_read_2 2 = .ok (.getfield 39, 3) := dk_180 0 39 (dk_at dksX10_read_2_0 2 rfl rfl)
theorem dX10_read_2_5 : decode cX10_read_2 5 = .ok (.invokevirtual 58, 3) := dk_182 0 58 (dk_at dksX10_read_2_0 5 rfl rfl)
theorem dX10_read_2_8 : decode cX10_read_2 8 = .ok (.istore_n 2, 1) := dk_61 (dk_at dksX10_read_2_0 8 rfl rfl)
theorem dX10_read_2_9 : decode cX10_read_2 9 = .ok (.aload_n 0, 1) := dk_42 (dk_at dksX10_read_2_0 9 rfl rfl)
theorem dX10_read_2_10 : decode cX10_read_2 10 = .ok (.iload_n 2, 1) := dk_28 (dk_at dksX10_read_2_0 10 rfl rfl)
theorem dX10_read_2_11 : decode cX10_read_2 11 = .ok (.iconst (-1), 1) := dk_2 (dk_at dksX10_read_2_0 11 rfl rfl)
theorem dX10_read_2_12 : decode cX10_read_2 12 = .ok (.if_icmp .eq 7, 3) := dk_159 0 7 (dk_at dksX10_read_2_0 12 rfl rfl)
theorem dX10_read_2_15 : decode cX10_read_2 15 = .ok (.iconst 1, 1) := dk_4 (dk_at dksX10_read_2_0 15 rfl rfl)
theorem dX10_read_2_16 : decode cX10_read_2 16 = .ok (.goto 4, 3) := dk_167 0 4 (dk_at dksX10_read_2_0 16 rfl rfl)
theorem dX10_read_2_19 : decode cX10_read_2 19 = .ok (.iconst 0, 1) := dk_3 (dk_at dksX10_read_2_0 19 rfl rfl)
theorem dX10_read_2_20 : decode cX10_read_2 20 = .ok (.invokevirtual 62, 3) := dk_182 0 62 (dk_at dksX10_read_2_0 20 rfl rfl)
theorem dX10_read_2_23 : decode cX10_read_2 23 = .ok (.aload_n 0, 1) := dk_42 (dk_at dksX10_read_2_0 23 rfl rfl)
theorem dX10_read_2_24 : decode cX10_read_2 24 = .ok (.invokevirtual 66, 3) := dk_182 0 66 (dk_at dksX10_read_2_1 0 rfl rfl)
theorem dX10_read_2_27 : decode cX10_read_2 27 = .ok (.iload_n 2, 1) := dk_28 (dk_at dksX10_read_2_1 3 rfl rfl)
theorem dX10_read_2_28 : decode cX10_read_2 28 = .ok (.iconst 1, 1) := dk_4 (dk_at dksX10_read_2_1 4 rfl rfl)
theorem dX10_read_2_29 : decode cX10_read_2 29 = .ok (.if_icmp .ge 10, 3) := dk_162 0 10 (dk_at dksX10_read_2_1 5 rfl rfl)
theorem dX10_read_2_32 : decode cX10_read_2 32 = .ok (.aload_n 0, 1) := dk_42 (dk_at dksX10_read_2_1 8 rfl rfl)
theorem dX10_read_2_33 : decode cX10_read_2 33 = .ok (.invokevirtual 70, 3) := dk_182 0 70 (dk_at dksX10_read_2_1 9 rfl rfl)
theorem dX10_read_2_36 : decode cX10_read_2 36 = .ok (.goto 4, 3) := dk_167 0 4 (dk_at dksX10_read_2_1 12 rfl rfl)
theorem dX10_read_2_39 : decode cX10_read_2 39 = .ok (.aconst_null, 1) := dk_1 (dk_at dksX10_read_2_1 15 rfl rfl)
theorem dX10_read_2_40 : decode cX10_read_2 40 = .ok (.astore_n 3, 1) := dk_78 (dk_at dksX10_read_2_1 16 rfl rfl)
theorem dX10_read_2_41 : decode cX10_read_2 41 = .ok (.aload_n 0, 1) := dk_42 (dk_at dksX10_read_2_1 17 rfl rfl)
theorem dX10_read_2_42 : decode cX10_read_2 42 = .ok (.getfield 31, 3) := dk_180 0 31 (dk_at dksX10_read_2_1 18 rfl rfl)
theorem dX10_read_2_45 : decode cX10_read_2 45 = .ok (.iload_n 1, 1) := dk_27 (dk_at dksX10_read_2_1 21 rfl rfl)
theorem dX10_read_2_46 : decode cX10_read_2 46 = .ok (.new 29, 3) := dk_187 0 29 (dk_at dksX10_read_2_2 0 rfl rfl)
theorem dX10_read_2_49 : decode cX10_read_2 49 = .ok (.dup, 1) := dk_89 (dk_at dksX10_read_2_2 3 rfl rfl)
theorem dX10_read_2_50 : decode cX10_read_2 50 = .ok (.iload_n 2, 1) := dk_28 (dk_at dksX10_read_2_2 4 rfl rfl)
theorem dX10_read_2_51 : decode cX10_read_2 51 = .ok (.aload_n 3, 1) := dk_45 (dk_at dksX10_read_2_2 5 rfl rfl)
theorem dX10_read_2_52 : decode cX10_read_2 52 = .ok (.aload_n 0, 1) := dk_42 (dk_at dksX10_read_2_2 6 rfl rfl)
theorem dX10_read_2_53 : decode cX10_read_2 53 = .ok (.ldc 74, 2) := dk_18 74 (dk_at dksX10_read_2_2 7 rfl rfl)
theorem dX10_read_2_55 : decode cX10_read_2 55 = .ok (.invokevirtual 76, 3) := dk_182 0 76 (dk_at dksX10_read_2_2 9 rfl rfl)
theorem dX10_read_2_58 : decode cX10_read_2 58 = .ok (.ifCond .eq 10, 3) := dk_153 0 10 (dk_at dksX10_read_2_2 12 rfl rfl)
theorem dX10_read_2_61 : decode cX10_read_2 61 = .ok (.aload_n 0, 1) := dk_42 (dk_at dksX10_read_2_2 15 rfl rfl)
theorem dX10_read_2_62 : decode cX10_read_2 62 = .ok (.invokevirtual 80, 3) := dk_182 0 80 (dk_at dksX10_read_2_2 16 rfl rfl)
theorem dX10_read_2_65 : decode cX10_read_2 65 = .ok (.goto 4, 3) := dk_167 0 4 (dk_at dksX10_read_2_2 19 rfl rfl)
theorem dX10_read_2_68 : decode cX10_read_2 68 = .ok (.aconst_null, 1) := dk_1 (dk_at dksX10_read_2_2 22 rfl rfl)
theorem dX10_read_2_69 : decode cX10_read_2 69 = .ok (.invokespecial 84, 3) := dk_183 0 84 (dk_at dksX10_read_2_3 0 rfl rfl)
theorem dX10_read_2_72 : decode cX10_read_2 72 = .ok (.aastore, 1) := dk_83 (dk_at dksX10_read_2_3 3 rfl rfl)
theorem dX10_read_2_73 : decode cX10_read_2 73 = .ok (.return_, 1) := dk_177 (dk_at dksX10_read_2_3 4 rfl rfl)
theorem q157 : (Jvm.Cond.initialized "MissCurves$LawReader") ∈ lw_all := lw_g (lw_at lw_m1 30 rfl) rfl
theorem q1051 : (Jvm.Cond.instantiable "MissCurves$LawReader" (11 : Nat)) ∈ lw_all := lw_g (lw_at lw_m4 204 rfl) rfl
theorem q1053 : (Jvm.Cond.instanceMethod ({ cls := "MissCurves$LawReader", name := "<init>", desc := "(LMissCurves;)V" } : Jvm.MethodName)) ∈ lw_all := lw_g (lw_at lw_m4 206 rfl) rfl
theorem q1054 : (Jvm.Cond.code ({ cls := "MissCurves$LawReader", name := "<init>", desc := "(LMissCurves;)V" } : Jvm.MethodName) prog_13_method_1_code (2 : Nat) (Option.none : Option Jvm.ClassFile.FieldType)) ∈ lw_all := lw_g (lw_at lw_m4 207 rfl) rfl
theorem q1055 : (Jvm.Cond.classLink "MissCurves$LawReader" (9 : Nat) "java/lang/String") ∈ lw_all := lw_g (lw_at lw_m4 208 rfl) rfl
theorem q1057 : (Jvm.Cond.stringRef "MissCurves$LawReader" (11 : Nat) "tenant") ∈ lw_tbl := lw_at lw_m4 210 rfl
theorem q1058 : (Jvm.Cond.stringRef "MissCurves$LawReader" (13 : Nat) "key") ∈ lw_tbl := lw_at lw_m4 211 rfl
theorem q1059 : (Jvm.Cond.stringRef "MissCurves$LawReader" (15 : Nat) "reads") ∈ lw_tbl := lw_at lw_m4 212 rfl
theorem q1060 : (Jvm.Cond.stringRef "MissCurves$LawReader" (17 : Nat) "far") ∈ lw_tbl := lw_at lw_m4 213 rfl
theorem q1061 : (Jvm.Cond.stringRef "MissCurves$LawReader" (19 : Nat) "time") ∈ lw_tbl := lw_at lw_m4 214 rfl
theorem q1062 : (Jvm.Cond.stringRef "MissCurves$LawReader" (21 : Nat) "mood") ∈ lw_tbl := lw_at lw_m4 215 rfl
theorem q1063 : (Jvm.Cond.methodLink "MissCurves$LawReader" (23 : Nat) ({ cls := "MissCurves$Reader", name := "<init>", desc := "(LMissCurves;[Ljava/lang/String;)V" } : Jvm.MethodName)) ∈ lw_all := lw_g (lw_at lw_m4 216 rfl) rfl
theorem q1069 : (Jvm.Cond.classLink "MissCurves$LawReader" (29 : Nat) "MissCurves$Clause") ∈ lw_all := lw_g (lw_at lw_m4 222 rfl) rfl
theorem q1070 : (Jvm.Cond.stringRef "MissCurves$LawReader" (35 : Nat) "costs") ∈ lw_tbl := lw_at lw_m4 223 rfl
theorem q1071 : (Jvm.Cond.stringRef "MissCurves$LawReader" (37 : Nat) "bars") ∈ lw_tbl := lw_at lw_m4 224 rfl
theorem q1072 : (Jvm.Cond.fieldLink "MissCurves$LawReader" (31 : Nat) "MissCurves$LawReader" "row" "[LMissCurves$Clause;") ∈ lw_all := lw_g (lw_at lw_m4 225 rfl) rfl
theorem q1073 : (Jvm.Cond.fieldLink "MissCurves$LawReader" (39 : Nat) "MissCurves$LawReader" "heads" "[Ljava/lang/String;") ∈ lw_all := lw_g (lw_at lw_m4 226 rfl) rfl
theorem q1074 : (Jvm.Cond.fieldLink "MissCurves$LawReader" (3 : Nat) "MissCurves$LawReader" "this$0" "LMissCurves;") ∈ lw_all := lw_g (lw_at lw_m4 227 rfl) rfl
theorem q1087 : (Jvm.Cond.laysFinal "MissCurves$LawReader" "MissCurves$LawReader" "row" "[LMissCurves$Clause;") ∈ lw_all := lw_g (lw_at lw_m5 0 rfl) rfl
theorem q1088 : (Jvm.Cond.soleField "MissCurves$LawReader" "row") ∈ lw_all := lw_g (lw_at lw_m5 1 rfl) rfl
theorem q1089 : (Jvm.Cond.laysFinal "MissCurves$LawReader" "MissCurves$LawReader" "heads" "[Ljava/lang/String;") ∈ lw_all := lw_g (lw_at lw_m5 2 rfl) rfl
theorem q1090 : (Jvm.Cond.soleField "MissCurves$LawReader" "heads") ∈ lw_all := lw_g (lw_at lw_m5 3 rfl) rfl
theorem q1091 : (Jvm.Cond.laysFinal "MissCurves$LawReader" "MissCurves$LawReader" "this$0" "LMissCurves;") ∈ lw_all := lw_g (lw_at lw_m5 4 rfl) rfl
theorem q1092 : (Jvm.Cond.soleField "MissCurves$LawReader" "this$0") ∈ lw_all := lw_g (lw_at lw_m5 5 rfl) rfl
theorem q1093 : (Jvm.Cond.lays "MissCurves$LawReader" "MissCurves$Reader" "from" "I") ∈ lw_all := lw_g (lw_at lw_m5 6 rfl) rfl
theorem q1095 : (Jvm.Cond.lays "MissCurves$LawReader" "MissCurves$Reader" "to" "I") ∈ lw_all := lw_g (lw_at lw_m5 8 rfl) rfl
theorem q1097 : (Jvm.Cond.lays "MissCurves$LawReader" "MissCurves$Reader" "leaves" "I") ∈ lw_all := lw_g (lw_at lw_m5 10 rfl) rfl
theorem q1099 : (Jvm.Cond.lays "MissCurves$LawReader" "MissCurves$Reader" "deep" "I") ∈ lw_all := lw_g (lw_at lw_m5 12 rfl) rfl
theorem q1101 : (Jvm.Cond.lays "MissCurves$LawReader" "MissCurves$Reader" "piled" "I") ∈ lw_all := lw_g (lw_at lw_m5 14 rfl) rfl
theorem q1103 : (Jvm.Cond.laysFinal "MissCurves$LawReader" "MissCurves$Reader" "pile" "[LMissCurves$Test;") ∈ lw_all := lw_g (lw_at lw_m5 16 rfl) rfl
theorem q1105 : (Jvm.Cond.laysFinal "MissCurves$LawReader" "MissCurves$Reader" "words" "[Ljava/lang/String;") ∈ lw_all := lw_g (lw_at lw_m5 18 rfl) rfl
theorem q1107 : (Jvm.Cond.laysFinal "MissCurves$LawReader" "MissCurves$Reader" "this$0" "LMissCurves;") ∈ lw_all := lw_g (lw_at lw_m5 20 rfl) rfl
theorem q1109 : (Jvm.Cond.superclass "MissCurves$LawReader" "MissCurves$Reader") ∈ lw_all := lw_g (lw_at lw_m5 22 rfl) rfl
theorem q1111 : (Jvm.Cond.instanceMethod ({ cls := "MissCurves$LawReader", name := "read", desc := "()LMissCurves$Text;" } : Jvm.MethodName)) ∈ lw_all := lw_g (lw_at lw_m5 24 rfl) rfl
theorem q1112 : (Jvm.Cond.selects "MissCurves$LawReader" ({ cls := "MissCurves$LawReader", name := "read", desc := "()LMissCurves$Text;" } : Jvm.MethodName) ({ cls := "MissCurves$LawReader", name := "read", desc := "()LMissCurves$Text;" } : Jvm.MethodName)) ∈ lw_all := lw_g (lw_at lw_m5 25 rfl) rfl
theorem q1113 : (Jvm.Cond.code ({ cls := "MissCurves$LawReader", name := "read", desc := "()LMissCurves$Text;" } : Jvm.MethodName) prog_13_method_2_code (2 : Nat) (Option.some (Jvm.ClassFile.FieldType.object "MissCurves$Text"))) ∈ lw_all := lw_g (lw_at lw_m5 26 rfl) rfl
theorem q1114 : (Jvm.Cond.methodLink "MissCurves$LawReader" (43 : Nat) ({ cls := "MissCurves$LawReader", name := "readAll", desc := "()I" } : Jvm.MethodName)) ∈ lw_all := lw_g (lw_at lw_m5 27 rfl) rfl
theorem q1115 : (Jvm.Cond.sameMethod "MissCurves$LawReader" "MissCurves$Reader" "readAll" "()I") ∈ lw_all := lw_g (lw_at lw_m5 28 rfl) rfl
theorem q1117 : (Jvm.Cond.selects "MissCurves$LawReader" ({ cls := "MissCurves$LawReader", name := "readAll", desc := "()I" } : Jvm.MethodName) ({ cls := "MissCurves$Reader", name := "readAll", desc := "()I" } : Jvm.MethodName)) ∈ lw_all := lw_g (lw_at lw_m5 30 rfl) rfl
theorem q1123 : (Jvm.Cond.selects "MissCurves$LawReader" ({ cls := "MissCurves$Reader", name := "next", desc := "()V" } : Jvm.MethodName) ({ cls := "MissCurves$Reader", name := "next", desc := "()V" } : Jvm.MethodName)) ∈ lw_all := lw_g (lw_at lw_m5 36 rfl) rfl
theorem q1135 : (Jvm.Cond.selects "MissCurves$LawReader" ({ cls := "MissCurves$Reader", name := "must", desc := "(Z)V" } : Jvm.MethodName) ({ cls := "MissCurves$Reader", name := "must", desc := "(Z)V" } : Jvm.MethodName)) ∈ lw_all := lw_g (lw_at lw_m5 48 rfl) rfl
theorem q1165 : (Jvm.Cond.selects "MissCurves$LawReader" ({ cls := "MissCurves$Reader", name := "read", desc := "(I)V" } : Jvm.MethodName) ({ cls := "MissCurves$LawReader", name := "read", desc := "(I)V" } : Jvm.MethodName)) ∈ lw_all := lw_g (lw_at lw_m5 78 rfl) rfl
theorem q1166 : (Jvm.Cond.instanceMethod ({ cls := "MissCurves$LawReader", name := "read", desc := "(I)V" } : Jvm.MethodName)) ∈ lw_all := lw_g (lw_at lw_m5 79 rfl) rfl
theorem q1167 : (Jvm.Cond.code ({ cls := "MissCurves$LawReader", name := "read", desc := "(I)V" } : Jvm.MethodName) prog_13_method_3_code (4 : Nat) (Option.none : Option Jvm.ClassFile.FieldType)) ∈ lw_all := lw_g (lw_at lw_m5 80 rfl) rfl
theorem q1168 : (Jvm.Cond.methodLink "MissCurves$LawReader" (58 : Nat) ({ cls := "MissCurves$LawReader", name := "which", desc := "([Ljava/lang/String;)I" } : Jvm.MethodName)) ∈ lw_all := lw_g (lw_at lw_m5 81 rfl) rfl
theorem q1169 : (Jvm.Cond.sameMethod "MissCurves$LawReader" "MissCurves$Reader" "which" "([Ljava/lang/String;)I") ∈ lw_all := lw_g (lw_at lw_m5 82 rfl) rfl
theorem q1171 : (Jvm.Cond.selects "MissCurves$LawReader" ({ cls := "MissCurves$LawReader", name := "which", desc := "([Ljava/lang/String;)I" } : Jvm.MethodName) ({ cls := "MissCurves$Reader", name := "which", desc := "([Ljava/lang/String;)I" } : Jvm.MethodName)) ∈ lw_all := lw_g (lw_at lw_m5 84 rfl) rfl
theorem q1177 : (Jvm.Cond.selects "MissCurves$LawReader" ({ cls := "MissCurves$Reader", name := "isWord", desc := "(Ljava/lang/String;)Z" } : Jvm.MethodName) ({ cls := "MissCurves$Reader", name := "isWord", desc := "(Ljava/lang/String;)Z" } : Jvm.MethodName)) ∈ lw_all := lw_g (lw_at lw_m5 90 rfl) rfl
theorem q1199 : (Jvm.Cond.methodLink "MissCurves$LawReader" (62 : Nat) ({ cls := "MissCurves$LawReader", name := "must", desc := "(Z)V" } : Jvm.MethodName)) ∈ lw_all := lw_g (lw_at lw_m5 112 rfl) rfl
theorem q1200 : (Jvm.Cond.sameMethod "MissCurves$LawReader" "MissCurves$Reader" "must" "(Z)V") ∈ lw_all := lw_g (lw_at lw_m5 113 rfl) rfl
theorem q1202 : (Jvm.Cond.selects "MissCurves$LawReader" ({ cls := "MissCurves$LawReader", name := "must", desc := "(Z)V" } : Jvm.MethodName) ({ cls := "MissCurves$Reader", name := "must", desc := "(Z)V" } : Jvm.MethodName)) ∈ lw_all := lw_g (lw_at lw_m5 115 rfl) rfl
theorem q1203 : (Jvm.Cond.methodLink "MissCurves$LawReader" (66 : Nat) ({ cls := "MissCurves$LawReader", name := "next", desc := "()V" } : Jvm.MethodName)) ∈ lw_all := lw_g (lw_at lw_m5 116 rfl) rfl
theorem q1204 : (Jvm.Cond.sameMethod "MissCurves$LawReader" "MissCurves$Reader" "next" "()V") ∈ lw_all := lw_g (lw_at lw_m5 117 rfl) rfl
theorem q1206 : (Jvm.Cond.selects "MissCurves$LawReader" ({ cls := "MissCurves$LawReader", name := "next", desc := "()V" } : Jvm.MethodName) ({ cls := "MissCurves$Reader", name := "next", desc := "()V" } : Jvm.MethodName)) ∈ lw_all := lw_g (lw_at lw_m5 119 rfl) rfl
theorem q1207 : (Jvm.Cond.methodLink "MissCurves$LawReader" (70 : Nat) ({ cls := "MissCurves$LawReader", name := "sum", desc := "()LMissCurves$Sum;" } : Jvm.MethodName)) ∈ lw_all := lw_g (lw_at lw_m5 120 rfl) rfl
theorem q1208 : (Jvm.Cond.sameMethod "MissCurves$LawReader" "MissCurves$Reader" "sum" "()LMissCurves$Sum;") ∈ lw_all := lw_g (lw_at lw_m5 121 rfl) rfl
theorem q1210 : (Jvm.Cond.selects "MissCurves$LawReader" ({ cls := "MissCurves$LawReader", name := "sum", desc := "()LMissCurves$Sum;" } : Jvm.MethodName) ({ cls := "MissCurves$Reader", name := "sum", desc := "()LMissCurves$Sum;" } : Jvm.MethodName)) ∈ lw_all := lw_g (lw_at lw_m5 123 rfl) rfl
theorem q1235 : (Jvm.Cond.selects "MissCurves$LawReader" ({ cls := "MissCurves$Reader", name := "accept", desc := "(Ljava/lang/String;)Z" } : Jvm.MethodName) ({ cls := "MissCurves$Reader", name := "accept", desc := "(Ljava/lang/String;)Z" } : Jvm.MethodName)) ∈ lw_all := lw_g (lw_at lw_m5 148 rfl) rfl
theorem q1248 : (Jvm.Cond.selects "MissCurves$LawReader" ({ cls := "MissCurves$Reader", name := "number", desc := "(I)I" } : Jvm.MethodName) ({ cls := "MissCurves$Reader", name := "number", desc := "(I)I" } : Jvm.MethodName)) ∈ lw_all := lw_g (lw_at lw_m5 161 rfl) rfl
theorem q1265 : (Jvm.Cond.selects "MissCurves$LawReader" ({ cls := "MissCurves$Reader", name := "behindWord", desc := "(I)LMissCurves$Sum;" } : Jvm.MethodName) ({ cls := "MissCurves$Reader", name := "behindWord", desc := "(I)LMissCurves$Sum;" } : Jvm.MethodName)) ∈ lw_all := lw_g (lw_at lw_m5 178 rfl) rfl
theorem q1324 : (Jvm.Cond.stringRef "MissCurves$LawReader" (74 : Nat) "if") ∈ lw_tbl := lw_at lw_m5 237 rfl
theorem q1325 : (Jvm.Cond.methodLink "MissCurves$LawReader" (76 : Nat) ({ cls := "MissCurves$LawReader", name := "accept", desc := "(Ljava/lang/String;)Z" } : Jvm.MethodName)) ∈ lw_all := lw_g (lw_at lw_m5 238 rfl) rfl
theorem q1326 : (Jvm.Cond.sameMethod "MissCurves$LawReader" "MissCurves$Reader" "accept" "(Ljava/lang/String;)Z") ∈ lw_all := lw_g (lw_at lw_m5 239 rfl) rfl
theorem q1328 : (Jvm.Cond.selects "MissCurves$LawReader" ({ cls := "MissCurves$LawReader", name := "accept", desc := "(Ljava/lang/String;)Z" } : Jvm.MethodName) ({ cls := "MissCurves$Reader", name := "accept", desc := "(Ljava/lang/String;)Z" } : Jvm.MethodName)) ∈ lw_all := lw_g (lw_at lw_m6 1 rfl) rfl
theorem q1329 : (Jvm.Cond.methodLink "MissCurves$LawReader" (80 : Nat) ({ cls := "MissCurves$LawReader", name := "test", desc := "()LMissCurves$Test;" } : Jvm.MethodName)) ∈ lw_all := lw_g (lw_at lw_m6 2 rfl) rfl
theorem q1330 : (Jvm.Cond.sameMethod "MissCurves$LawReader" "MissCurves$Reader" "test" "()LMissCurves$Test;") ∈ lw_all := lw_g (lw_at lw_m6 3 rfl) rfl
theorem q1332 : (Jvm.Cond.selects "MissCurves$LawReader" ({ cls := "MissCurves$LawReader", name := "test", desc := "()LMissCurves$Test;" } : Jvm.MethodName) ({ cls := "MissCurves$Reader", name := "test", desc := "()LMissCurves$Test;" } : Jvm.MethodName)) ∈ lw_all := lw_g (lw_at lw_m6 5 rfl) rfl
theorem q1403 : (Jvm.Cond.methodLink "MissCurves$LawReader" (84 : Nat) ({ cls := "MissCurves$Clause", name := "<init>", desc := "(ILMissCurves$Sum;LMissCurves$Test;)V" } : Jvm.MethodName)) ∈ lw_all := lw_g (lw_at lw_m6 76 rfl) rfl
theorem q1493 : (Jvm.Cond.methodLink "MissCurves$LawReader" (47 : Nat) ({ cls := "java/lang/System", name := "arraycopy", desc := "(Ljava/lang/Object;ILjava/lang/Object;II)V" } : Jvm.MethodName)) ∈ lw_all := lw_g (lw_at lw_m6 166 rfl) rfl
theorem q1494 : (Jvm.Cond.classLink "MissCurves$LawReader" (53 : Nat) "MissCurves$Text") ∈ lw_all := lw_g (lw_at lw_m6 167 rfl) rfl
theorem q1495 : (Jvm.Cond.methodLink "MissCurves$LawReader" (55 : Nat) ({ cls := "MissCurves$Text", name := "<init>", desc := "([LMissCurves$Clause;)V" } : Jvm.MethodName)) ∈ lw_all := lw_g (lw_at lw_m6 168 rfl) rfl
theorem q1531 : (Jvm.Cond.selects "MissCurves$LawReader" ({ cls := "java/lang/Object", name := "getClass", desc := "()Ljava/lang/Class;" } : Jvm.MethodName) ({ cls := "java/lang/Object", name := "getClass", desc := "()Ljava/lang/Class;" } : Jvm.MethodName)) ∈ lw_all := lw_g (lw_at lw_m6 204 rfl) rfl
theorem q1764 : (Jvm.Cond.selects "MissCurves$LawReader" ({ cls := "java/lang/Object", name := "toString", desc := "()Ljava/lang/String;" } : Jvm.MethodName) ({ cls := "java/lang/Object", name := "toString", desc := "()Ljava/lang/String;" } : Jvm.MethodName)) ∈ lw_all := lw_g (lw_at lw_m7 197 rfl) rfl
theorem q2986 : (Jvm.Cond.selects "MissCurves$LawReader" ({ cls := "MissCurves$Reader", name := "sum", desc := "()LMissCurves$Sum;" } : Jvm.MethodName) ({ cls := "MissCurves$Reader", name := "sum", desc := "()LMissCurves$Sum;" } : Jvm.MethodName)) ∈ lw_all := lw_g (lw_at lw_m12 219 rfl) rfl
theorem q2990 : (Jvm.Cond.selects "MissCurves$LawReader" ({ cls := "MissCurves$Reader", name := "which", desc := "([Ljava/lang/String;)I" } : Jvm.MethodName) ({ cls := "MissCurves$Reader", name := "which", desc := "([Ljava/lang/String;)I" } : Jvm.MethodName)) ∈ lw_all := lw_g (lw_at lw_m12 223 rfl) rfl
theorem q2996 : (Jvm.Cond.selects "MissCurves$LawReader" ({ cls := "MissCurves$Reader", name := "test", desc := "()LMissCurves$Test;" } : Jvm.MethodName) ({ cls := "MissCurves$Reader", name := "test", desc := "()LMissCurves$Test;" } : Jvm.MethodName)) ∈ lw_all := lw_g (lw_at lw_m12 229 rfl) rfl
theorem q3024 : (Jvm.Cond.castable "MissCurves$LawReader" "java/lang/Object") ∈ lw_tbl := lw_at lw_m13 17 rfl
theorem in_X10 : ∀ w ∈ wsX100, w ∈ lw_all := lw_in wsX100 [1093, 1095, 1097, 1099, 1101, 1103, 1105, 1107, 1087, 1089, 1091] (by decide +kernel) (by decide +kernel)

/-! MissCurves$Wrong -/
set_option maxRecDepth 100000
def RX11 : String := "MissCurves$Wrong"
def TX11 : u_T := fun k => match k with
  | 0 => ("java/lang/Throwable", "cause", "Ljava/lang/Throwable;", false)
  | 1 => ("java/lang/Throwable", "stackTrace", "[Ljava/lang/StackTraceElement;", false)
  | 2 => ("java/lang/Throwable", "suppressedExceptions", "Ljava/util/List;", false)
  | 3 => ("java/lang/Throwable", "detailMessage", "Ljava/lang/String;", false)
  | 4 => ("java/lang/Throwable", "backtrace", "Ljava/lang/Object;", false)
  | 5 => ("java/lang/Throwable", "depth", "I", false)
  | _ => ("MissCurves$Wrong", "place", "I", true)
def tyX11 : Nat → FieldType := fun k => match k with
  | 0 => .object "java/lang/Throwable"
  | 1 => .array (.object "java/lang/StackTraceElement")
  | 2 => .object "java/util/List"
  | 3 => .object "java/lang/String"
  | 4 => .object "java/lang/Object"
  | 5 => .int
  | _ => .int
abbrev wsX110 : List Cond := u_ws RX11 TX11 7
theorem nmX11 : ∀ a, a < 7 → ∀ b, b < 7 → a ≠ b → (TX11 a).2.1 ≠ (TX11 b).2.1 := by decide +kernel
theorem tyX11_ok : ∀ k, k < 7 → parseFieldDescriptor (TX11 k).2.2.1 = some (tyX11 k) := by decide +kernel
abbrev cX11_init : ByteArray := prog_30_method_1_code
def yX11_init : MethodName := ⟨RX11, "<init>", "(I)V"⟩
def dkwX11_init_0 : List UInt8 := [42, 1, 1, 3, 3, 183, 0, 1, 42, 27, 181, 0, 7, 177]
abbrev dktX11_init_0 : List UInt8 := dkwX11_init_0 ++ []
theorem dksX11_init_0 : cX11_init.data.toList.drop 0 = dktX11_init_0 := by decide +kernel
theorem dX11_init_0 : decode cX11_init 0 = .ok (.aload_n 0, 1) := dk_42 (dk_at dksX11_init_0 0 rfl rfl)
theorem dX11_init_1 : decode cX11_init 1 = .ok (.aconst_null, 1) := dk_1 (dk_at dksX11_init_0 1 rfl rfl)
theorem dX11_init_2 : decode cX11_init 2 = .ok (.aconst_null, 1) := dk_1 (dk_at dksX11_init_0 2 rfl rfl)
theorem dX11_init_3 : decode cX11_init 3 = .ok (.iconst 0, 1) := dk_3 (dk_at dksX11_init_0 3 rfl rfl)
theorem dX11_init_4 : decode cX11_init 4 = .ok (.iconst 0, 1) := dk_3 (dk_at dksX11_init_0 4 rfl rfl)
theorem dX11_init_5 : decode cX11_init 5 = .ok (.invokespecial 1, 3) := dk_183 0 1 (dk_at dksX11_init_0 5 rfl rfl)
theorem dX11_init_8 : decode cX11_init 8 = .ok (.aload_n 0, 1) := dk_42 (dk_at dksX11_init_0 8 rfl rfl)
theorem dX11_init_9 : decode cX11_init 9 = .ok (.iload_n 1, 1) := dk_27 (dk_at dksX11_init_0 9 rfl rfl)
theorem dX11_init_10 : decode cX11_init 10 = .ok (.putfield 7, 3) := dk_181 0 7 (dk_at dksX11_init_0 10 rfl rfl)
theorem dX11_init_13 : decode cX11_init 13 = .ok (.return_, 1) := dk_177 (dk_at dksX11_init_0 13 rfl rfl)
theorem q158 : (Jvm.Cond.initialized "MissCurves$Wrong") ∈ lw_all := lw_g (lw_at lw_m1 31 rfl) rfl
theorem q680 : (Jvm.Cond.selects "MissCurves$Wrong" ({ cls := "java/lang/Throwable", name := "fillInStackTrace", desc := "()Ljava/lang/Throwable;" } : Jvm.MethodName) ({ cls := "java/lang/Throwable", name := "fillInStackTrace", desc := "()Ljava/lang/Throwable;" } : Jvm.MethodName)) ∈ lw_all := lw_g (lw_at lw_m3 73 rfl) rfl
theorem q1139 : (Jvm.Cond.instantiable "MissCurves$Wrong" (7 : Nat)) ∈ lw_all := lw_g (lw_at lw_m5 52 rfl) rfl
theorem q1140 : (Jvm.Cond.castable "MissCurves$Wrong" "MissCurves$Wrong") ∈ lw_tbl := lw_at lw_m5 53 rfl
theorem q1141 : (Jvm.Cond.selects "MissCurves$Wrong" ({ cls := "java/lang/Throwable", name := "fillInStackTrace", desc := "(I)Ljava/lang/Throwable;" } : Jvm.MethodName) ({ cls := "java/lang/Throwable", name := "fillInStackTrace", desc := "(I)Ljava/lang/Throwable;" } : Jvm.MethodName)) ∈ lw_all := lw_g (lw_at lw_m5 54 rfl) rfl
theorem q1142 : (Jvm.Cond.lays "MissCurves$Wrong" "java/lang/Throwable" "cause" "Ljava/lang/Throwable;") ∈ lw_all := lw_g (lw_at lw_m5 55 rfl) rfl
theorem q1143 : (Jvm.Cond.lays "MissCurves$Wrong" "java/lang/Throwable" "stackTrace" "[Ljava/lang/StackTraceElement;") ∈ lw_all := lw_g (lw_at lw_m5 56 rfl) rfl
theorem q1144 : (Jvm.Cond.lays "MissCurves$Wrong" "java/lang/Throwable" "suppressedExceptions" "Ljava/util/List;") ∈ lw_all := lw_g (lw_at lw_m5 57 rfl) rfl
theorem q1145 : (Jvm.Cond.lays "MissCurves$Wrong" "java/lang/Throwable" "detailMessage" "Ljava/lang/String;") ∈ lw_all := lw_g (lw_at lw_m5 58 rfl) rfl
theorem q1146 : (Jvm.Cond.lays "MissCurves$Wrong" "java/lang/Throwable" "backtrace" "Ljava/lang/Object;") ∈ lw_all := lw_g (lw_at lw_m5 59 rfl) rfl
theorem q1148 : (Jvm.Cond.instanceMethod ({ cls := "MissCurves$Wrong", name := "<init>", desc := "(I)V" } : Jvm.MethodName)) ∈ lw_all := lw_g (lw_at lw_m5 61 rfl) rfl
theorem q1149 : (Jvm.Cond.code ({ cls := "MissCurves$Wrong", name := "<init>", desc := "(I)V" } : Jvm.MethodName) prog_30_method_1_code (2 : Nat) (Option.none : Option Jvm.ClassFile.FieldType)) ∈ lw_all := lw_g (lw_at lw_m5 62 rfl) rfl
theorem q1150 : (Jvm.Cond.methodLink "MissCurves$Wrong" (1 : Nat) ({ cls := "java/lang/Exception", name := "<init>", desc := "(Ljava/lang/String;Ljava/lang/Throwable;ZZ)V" } : Jvm.MethodName)) ∈ lw_all := lw_g (lw_at lw_m5 63 rfl) rfl
theorem q1156 : (Jvm.Cond.fieldLink "MissCurves$Wrong" (7 : Nat) "MissCurves$Wrong" "place" "I") ∈ lw_all := lw_g (lw_at lw_m5 69 rfl) rfl
theorem q1158 : (Jvm.Cond.laysFinal "MissCurves$Wrong" "MissCurves$Wrong" "place" "I") ∈ lw_all := lw_g (lw_at lw_m5 71 rfl) rfl
theorem q1159 : (Jvm.Cond.soleField "MissCurves$Wrong" "place") ∈ lw_all := lw_g (lw_at lw_m5 72 rfl) rfl
theorem q1160 : (Jvm.Cond.lays "MissCurves$Wrong" "java/lang/Throwable" "depth" "I") ∈ lw_all := lw_g (lw_at lw_m5 73 rfl) rfl
theorem q1161 : (Jvm.Cond.superclass "MissCurves$Wrong" "java/lang/Exception") ∈ lw_all := lw_g (lw_at lw_m5 74 rfl) rfl
theorem q1544 : (Jvm.Cond.selects "MissCurves$Wrong" ({ cls := "java/lang/Object", name := "getClass", desc := "()Ljava/lang/Class;" } : Jvm.MethodName) ({ cls := "java/lang/Object", name := "getClass", desc := "()Ljava/lang/Class;" } : Jvm.MethodName)) ∈ lw_all := lw_g (lw_at lw_m6 217 rfl) rfl
theorem q1777 : (Jvm.Cond.selects "MissCurves$Wrong" ({ cls := "java/lang/Object", name := "toString", desc := "()Ljava/lang/String;" } : Jvm.MethodName) ({ cls := "java/lang/Throwable", name := "toString", desc := "()Ljava/lang/String;" } : Jvm.MethodName)) ∈ lw_all := lw_g (lw_at lw_m7 210 rfl) rfl
theorem q1784 : (Jvm.Cond.selects "MissCurves$Wrong" ({ cls := "java/lang/Throwable", name := "getLocalizedMessage", desc := "()Ljava/lang/String;" } : Jvm.MethodName) ({ cls := "java/lang/Throwable", name := "getLocalizedMessage", desc := "()Ljava/lang/String;" } : Jvm.MethodName)) ∈ lw_all := lw_g (lw_at lw_m7 217 rfl) rfl
theorem q1790 : (Jvm.Cond.selects "MissCurves$Wrong" ({ cls := "java/lang/Throwable", name := "getMessage", desc := "()Ljava/lang/String;" } : Jvm.MethodName) ({ cls := "java/lang/Throwable", name := "getMessage", desc := "()Ljava/lang/String;" } : Jvm.MethodName)) ∈ lw_all := lw_g (lw_at lw_m7 223 rfl) rfl
theorem q3025 : (Jvm.Cond.castable "MissCurves$Wrong" "java/lang/Object") ∈ lw_tbl := lw_at lw_m13 18 rfl
theorem in_X11 : ∀ w ∈ wsX110, w ∈ lw_all := lw_in wsX110 [1142, 1143, 1144, 1145, 1146, 1160, 1158] (by decide +kernel) (by decide +kernel)

/-! MissCurves$Sum -/
set_option maxRecDepth 100000
def RX12 : String := "MissCurves$Sum"
abbrev cX12_init : ByteArray := prog_27_method_1_code
def yX12_init : MethodName := ⟨RX12, "<init>", "()V"⟩
theorem dX12_init_0 : decode cX12_init 0 = .ok (.aload_n 0, 1) := by decide +kernel
theorem dX12_init_1 : decode cX12_init 1 = .ok (.invokespecial 1, 3) := by decide +kernel
theorem dX12_init_4 : decode cX12_init 4 = .ok (.return_, 1) := by decide +kernel
theorem q159 : (Jvm.Cond.initialized "MissCurves$Sum") ∈ lw_all := lw_g (lw_at lw_m1 32 rfl) rfl
theorem q576 : (Jvm.Cond.declares ({ cls := "MissCurves$Sum", name := "of", desc := "(LMissCurves$Asked;)J" } : Jvm.MethodName)) ∈ lw_tbl := lw_at lw_m2 209 rfl
theorem q577 : (Jvm.Cond.sameMethod "MissCurves$Sum" "MissCurves$Sum" "of" "(LMissCurves$Asked;)J") ∈ lw_all := lw_g (lw_at lw_m2 210 rfl) rfl
theorem q1255 : (Jvm.Cond.instanceMethod ({ cls := "MissCurves$Sum", name := "<init>", desc := "()V" } : Jvm.MethodName)) ∈ lw_all := lw_g (lw_at lw_m5 168 rfl) rfl
theorem q1256 : (Jvm.Cond.code ({ cls := "MissCurves$Sum", name := "<init>", desc := "()V" } : Jvm.MethodName) prog_27_method_1_code (1 : Nat) (Option.none : Option Jvm.ClassFile.FieldType)) ∈ lw_all := lw_g (lw_at lw_m5 169 rfl) rfl
theorem q1257 : (Jvm.Cond.methodLink "MissCurves$Sum" (1 : Nat) ({ cls := "java/lang/Object", name := "<init>", desc := "()V" } : Jvm.MethodName)) ∈ lw_all := lw_g (lw_at lw_m5 170 rfl) rfl

/-! MissCurves$Amount -/
set_option maxRecDepth 100000
def RX13 : String := "MissCurves$Amount"
def TX13 : u_T := fun k => match k with
  | _ => ("MissCurves$Amount", "number", "I", true)
def tyX13 : Nat → FieldType := fun k => match k with
  | _ => .int
abbrev wsX130 : List Cond := u_ws RX13 TX13 1
theorem nmX13 : ∀ a, a < 1 → ∀ b, b < 1 → a ≠ b → (TX13 a).2.1 ≠ (TX13 b).2.1 := by decide +kernel
theorem tyX13_ok : ∀ k, k < 1 → parseFieldDescriptor (TX13 k).2.2.1 = some (tyX13 k) := by decide +kernel
abbrev cX13_of : ByteArray := prog_3_method_2_code
def yX13_of : MethodName := ⟨RX13, "of", "(LMissCurves$Asked;)J"⟩
def dkwX13_of_0 : List UInt8 := [42, 180, 0, 7, 133, 173]
abbrev dktX13_of_0 : List UInt8 := dkwX13_of_0 ++ []
theorem dksX13_of_0 : cX13_of.data.toList.drop 0 = dktX13_of_0 := by decide +kernel
theorem dX13_of_0 : decode cX13_of 0 = .ok (.aload_n 0, 1) := dk_42 (dk_at dksX13_of_0 0 rfl rfl)
theorem dX13_of_1 : decode cX13_of 1 = .ok (.getfield 7, 3) := dk_180 0 7 (dk_at dksX13_of_0 1 rfl rfl)
theorem dX13_of_4 : decode cX13_of 4 = .ok (.i2l, 1) := dk_133 (dk_at dksX13_of_0 4 rfl rfl)
theorem dX13_of_5 : decode cX13_of 5 = .ok (.lreturn, 1) := dk_173 (dk_at dksX13_of_0 5 rfl rfl)
abbrev cX13_init : ByteArray := prog_3_method_1_code
def yX13_init : MethodName := ⟨RX13, "<init>", "(I)V"⟩
def dkwX13_init_0 : List UInt8 := [42, 183, 0, 1, 42, 27, 181, 0, 7, 177]
abbrev dktX13_init_0 : List UInt8 := dkwX13_init_0 ++ []
theorem dksX13_init_0 : cX13_init.data.toList.drop 0 = dktX13_init_0 := by decide +kernel
theorem dX13_init_0 : decode cX13_init 0 = .ok (.aload_n 0, 1) := dk_42 (dk_at dksX13_init_0 0 rfl rfl)
theorem dX13_init_1 : decode cX13_init 1 = .ok (.invokespecial 1, 3) := dk_183 0 1 (dk_at dksX13_init_0 1 rfl rfl)
theorem dX13_init_4 : decode cX13_init 4 = .ok (.aload_n 0, 1) := dk_42 (dk_at dksX13_init_0 4 rfl rfl)
theorem dX13_init_5 : decode cX13_init 5 = .ok (.iload_n 1, 1) := dk_27 (dk_at dksX13_init_0 5 rfl rfl)
theorem dX13_init_6 : decode cX13_init 6 = .ok (.putfield 7, 3) := dk_181 0 7 (dk_at dksX13_init_0 6 rfl rfl)
theorem dX13_init_9 : decode cX13_init 9 = .ok (.return_, 1) := dk_177 (dk_at dksX13_init_0 9 rfl rfl)
theorem q160 : (Jvm.Cond.initialized "MissCurves$Amount") ∈ lw_all := lw_g (lw_at lw_m1 33 rfl) rfl
theorem q578 : (Jvm.Cond.selects "MissCurves$Amount" ({ cls := "MissCurves$Sum", name := "of", desc := "(LMissCurves$Asked;)J" } : Jvm.MethodName) ({ cls := "MissCurves$Amount", name := "of", desc := "(LMissCurves$Asked;)J" } : Jvm.MethodName)) ∈ lw_all := lw_g (lw_at lw_m2 211 rfl) rfl
theorem q579 : (Jvm.Cond.instanceMethod ({ cls := "MissCurves$Amount", name := "of", desc := "(LMissCurves$Asked;)J" } : Jvm.MethodName)) ∈ lw_all := lw_g (lw_at lw_m2 212 rfl) rfl
theorem q580 : (Jvm.Cond.code ({ cls := "MissCurves$Amount", name := "of", desc := "(LMissCurves$Asked;)J" } : Jvm.MethodName) prog_3_method_2_code (2 : Nat) (Option.some Jvm.ClassFile.FieldType.long)) ∈ lw_all := lw_g (lw_at lw_m2 213 rfl) rfl
theorem q1244 : (Jvm.Cond.instantiable "MissCurves$Amount" (1 : Nat)) ∈ lw_all := lw_g (lw_at lw_m5 157 rfl) rfl
theorem q1252 : (Jvm.Cond.instanceMethod ({ cls := "MissCurves$Amount", name := "<init>", desc := "(I)V" } : Jvm.MethodName)) ∈ lw_all := lw_g (lw_at lw_m5 165 rfl) rfl
theorem q1253 : (Jvm.Cond.code ({ cls := "MissCurves$Amount", name := "<init>", desc := "(I)V" } : Jvm.MethodName) prog_3_method_1_code (2 : Nat) (Option.none : Option Jvm.ClassFile.FieldType)) ∈ lw_all := lw_g (lw_at lw_m5 166 rfl) rfl
theorem q1254 : (Jvm.Cond.methodLinkNest "MissCurves$Amount" (1 : Nat) ({ cls := "MissCurves$Sum", name := "<init>", desc := "()V" } : Jvm.MethodName) "MissCurves") ∈ lw_tbl := lw_at lw_m5 167 rfl
theorem q1258 : (Jvm.Cond.fieldLink "MissCurves$Amount" (7 : Nat) "MissCurves$Amount" "number" "I") ∈ lw_all := lw_g (lw_at lw_m5 171 rfl) rfl
theorem q1259 : (Jvm.Cond.laysFinal "MissCurves$Amount" "MissCurves$Amount" "number" "I") ∈ lw_all := lw_g (lw_at lw_m5 172 rfl) rfl
theorem q1260 : (Jvm.Cond.soleField "MissCurves$Amount" "number") ∈ lw_all := lw_g (lw_at lw_m5 173 rfl) rfl
theorem q1261 : (Jvm.Cond.superclass "MissCurves$Amount" "MissCurves$Sum") ∈ lw_all := lw_g (lw_at lw_m5 174 rfl) rfl
theorem q1521 : (Jvm.Cond.selects "MissCurves$Amount" ({ cls := "java/lang/Object", name := "getClass", desc := "()Ljava/lang/Class;" } : Jvm.MethodName) ({ cls := "java/lang/Object", name := "getClass", desc := "()Ljava/lang/Class;" } : Jvm.MethodName)) ∈ lw_all := lw_g (lw_at lw_m6 194 rfl) rfl
theorem q1754 : (Jvm.Cond.selects "MissCurves$Amount" ({ cls := "java/lang/Object", name := "toString", desc := "()Ljava/lang/String;" } : Jvm.MethodName) ({ cls := "java/lang/Object", name := "toString", desc := "()Ljava/lang/String;" } : Jvm.MethodName)) ∈ lw_all := lw_g (lw_at lw_m7 187 rfl) rfl
theorem q3026 : (Jvm.Cond.castable "MissCurves$Amount" "java/lang/Object") ∈ lw_tbl := lw_at lw_m13 19 rfl
theorem in_X13 : ∀ w ∈ wsX130, w ∈ lw_all := lw_in wsX130 [1259] (by decide +kernel) (by decide +kernel)

/-! MissCurves$Part -/
set_option maxRecDepth 100000
def RX14 : String := "MissCurves$Part"
def TX14 : u_T := fun k => match k with
  | _ => ("MissCurves$Part", "what", "I", true)
def tyX14 : Nat → FieldType := fun k => match k with
  | _ => .int
abbrev wsX140 : List Cond := u_ws RX14 TX14 1
theorem nmX14 : ∀ a, a < 1 → ∀ b, b < 1 → a ≠ b → (TX14 a).2.1 ≠ (TX14 b).2.1 := by decide +kernel
theorem tyX14_ok : ∀ k, k < 1 → parseFieldDescriptor (TX14 k).2.2.1 = some (tyX14 k) := by decide +kernel
abbrev cX14_of : ByteArray := prog_21_method_2_code
def yX14_of : MethodName := ⟨RX14, "of", "(LMissCurves$Asked;)J"⟩
def dkwX14_of_0 : List UInt8 := [43, 180, 0, 13, 42, 180, 0, 7, 47, 173]
abbrev dktX14_of_0 : List UInt8 := dkwX14_of_0 ++ []
theorem dksX14_of_0 : cX14_of.data.toList.drop 0 = dktX14_of_0 := by decide +kernel
theorem dX14_of_0 : decode cX14_of 0 = .ok (.aload_n 1, 1) := dk_43 (dk_at dksX14_of_0 0 rfl rfl)
theorem dX14_of_1 : decode cX14_of 1 = .ok (.getfield 13, 3) := dk_180 0 13 (dk_at dksX14_of_0 1 rfl rfl)
theorem dX14_of_4 : decode cX14_of 4 = .ok (.aload_n 0, 1) := dk_42 (dk_at dksX14_of_0 4 rfl rfl)
theorem dX14_of_5 : decode cX14_of 5 = .ok (.getfield 7, 3) := dk_180 0 7 (dk_at dksX14_of_0 5 rfl rfl)
theorem dX14_of_8 : decode cX14_of 8 = .ok (.laload, 1) := dk_47 (dk_at dksX14_of_0 8 rfl rfl)
theorem dX14_of_9 : decode cX14_of 9 = .ok (.lreturn, 1) := dk_173 (dk_at dksX14_of_0 9 rfl rfl)
abbrev cX14_init : ByteArray := prog_21_method_1_code
def yX14_init : MethodName := ⟨RX14, "<init>", "(I)V"⟩
def dkwX14_init_0 : List UInt8 := [42, 183, 0, 1, 42, 27, 181, 0, 7, 177]
abbrev dktX14_init_0 : List UInt8 := dkwX14_init_0 ++ []
theorem dksX14_init_0 : cX14_init.data.toList.drop 0 = dktX14_init_0 := by decide +kernel
theorem dX14_init_0 : decode cX14_init 0 = .ok (.aload_n 0, 1) := dk_42 (dk_at dksX14_init_0 0 rfl rfl)
theorem dX14_init_1 : decode cX14_init 1 = .ok (.invokespecial 1, 3) := dk_183 0 1 (dk_at dksX14_init_0 1 rfl rfl)
theorem dX14_init_4 : decode cX14_init 4 = .ok (.aload_n 0, 1) := dk_42 (dk_at dksX14_init_0 4 rfl rfl)
theorem dX14_init_5 : decode cX14_init 5 = .ok (.iload_n 1, 1) := dk_27 (dk_at dksX14_init_0 5 rfl rfl)
theorem dX14_init_6 : decode cX14_init 6 = .ok (.putfield 7, 3) := dk_181 0 7 (dk_at dksX14_init_0 6 rfl rfl)
theorem dX14_init_9 : decode cX14_init 9 = .ok (.return_, 1) := dk_177 (dk_at dksX14_init_0 9 rfl rfl)
theorem q161 : (Jvm.Cond.initialized "MissCurves$Part") ∈ lw_all := lw_g (lw_at lw_m1 34 rfl) rfl
theorem q349 : (Jvm.Cond.fieldLinkNest "MissCurves$Part" (13 : Nat) "MissCurves$Asked" "numbers" "[J" "MissCurves") ∈ lw_tbl := lw_at lw_m1 222 rfl
theorem q588 : (Jvm.Cond.instanceMethod ({ cls := "MissCurves$Part", name := "of", desc := "(LMissCurves$Asked;)J" } : Jvm.MethodName)) ∈ lw_all := lw_g (lw_at lw_m2 221 rfl) rfl
theorem q589 : (Jvm.Cond.code ({ cls := "MissCurves$Part", name := "of", desc := "(LMissCurves$Asked;)J" } : Jvm.MethodName) prog_21_method_2_code (2 : Nat) (Option.some Jvm.ClassFile.FieldType.long)) ∈ lw_all := lw_g (lw_at lw_m2 222 rfl) rfl
theorem q597 : (Jvm.Cond.selects "MissCurves$Part" ({ cls := "MissCurves$Sum", name := "of", desc := "(LMissCurves$Asked;)J" } : Jvm.MethodName) ({ cls := "MissCurves$Part", name := "of", desc := "(LMissCurves$Asked;)J" } : Jvm.MethodName)) ∈ lw_all := lw_g (lw_at lw_m2 230 rfl) rfl
theorem q1270 : (Jvm.Cond.instantiable "MissCurves$Part" (1 : Nat)) ∈ lw_all := lw_g (lw_at lw_m5 183 rfl) rfl
theorem q1272 : (Jvm.Cond.instanceMethod ({ cls := "MissCurves$Part", name := "<init>", desc := "(I)V" } : Jvm.MethodName)) ∈ lw_all := lw_g (lw_at lw_m5 185 rfl) rfl
theorem q1273 : (Jvm.Cond.code ({ cls := "MissCurves$Part", name := "<init>", desc := "(I)V" } : Jvm.MethodName) prog_21_method_1_code (2 : Nat) (Option.none : Option Jvm.ClassFile.FieldType)) ∈ lw_all := lw_g (lw_at lw_m5 186 rfl) rfl
theorem q1274 : (Jvm.Cond.methodLinkNest "MissCurves$Part" (1 : Nat) ({ cls := "MissCurves$Sum", name := "<init>", desc := "()V" } : Jvm.MethodName) "MissCurves") ∈ lw_tbl := lw_at lw_m5 187 rfl
theorem q1275 : (Jvm.Cond.fieldLink "MissCurves$Part" (7 : Nat) "MissCurves$Part" "what" "I") ∈ lw_all := lw_g (lw_at lw_m5 188 rfl) rfl
theorem q1276 : (Jvm.Cond.laysFinal "MissCurves$Part" "MissCurves$Part" "what" "I") ∈ lw_all := lw_g (lw_at lw_m5 189 rfl) rfl
theorem q1277 : (Jvm.Cond.soleField "MissCurves$Part" "what") ∈ lw_all := lw_g (lw_at lw_m5 190 rfl) rfl
theorem q1278 : (Jvm.Cond.superclass "MissCurves$Part" "MissCurves$Sum") ∈ lw_all := lw_g (lw_at lw_m5 191 rfl) rfl
theorem q1538 : (Jvm.Cond.selects "MissCurves$Part" ({ cls := "java/lang/Object", name := "getClass", desc := "()Ljava/lang/Class;" } : Jvm.MethodName) ({ cls := "java/lang/Object", name := "getClass", desc := "()Ljava/lang/Class;" } : Jvm.MethodName)) ∈ lw_all := lw_g (lw_at lw_m6 211 rfl) rfl
theorem q1771 : (Jvm.Cond.selects "MissCurves$Part" ({ cls := "java/lang/Object", name := "toString", desc := "()Ljava/lang/String;" } : Jvm.MethodName) ({ cls := "java/lang/Object", name := "toString", desc := "()Ljava/lang/String;" } : Jvm.MethodName)) ∈ lw_all := lw_g (lw_at lw_m7 204 rfl) rfl
theorem q3027 : (Jvm.Cond.castable "MissCurves$Part" "java/lang/Object") ∈ lw_tbl := lw_at lw_m13 20 rfl
theorem in_X14 : ∀ w ∈ wsX140, w ∈ lw_all := lw_in wsX140 [1276] (by decide +kernel) (by decide +kernel)

/-! MissCurves$Of -/
set_option maxRecDepth 100000
def RX15 : String := "MissCurves$Of"
def TX15 : u_T := fun k => match k with
  | 0 => ("MissCurves$Of", "what", "I", true)
  | 1 => ("MissCurves$Of", "tenant", "I", true)
  | _ => ("MissCurves$Of", "this$0", "LMissCurves;", true)
def tyX15 : Nat → FieldType := fun k => match k with
  | 0 => .int
  | 1 => .int
  | _ => .object "MissCurves"
abbrev wsX150 : List Cond := u_ws RX15 TX15 3
theorem nmX15 : ∀ a, a < 3 → ∀ b, b < 3 → a ≠ b → (TX15 a).2.1 ≠ (TX15 b).2.1 := by decide +kernel
theorem tyX15_ok : ∀ k, k < 3 → parseFieldDescriptor (TX15 k).2.2.1 = some (tyX15 k) := by decide +kernel
abbrev cX15_of : ByteArray := prog_18_method_2_code
def yX15_of : MethodName := ⟨RX15, "of", "(LMissCurves$Asked;)J"⟩
def dkwX15_of_1 : List UInt8 := [133, 167, 0, 18, 42, 180, 0, 1, 42, 180, 0, 17, 182, 0, 22, 180, 0, 34, 133, 173]
abbrev dktX15_of_1 : List UInt8 := dkwX15_of_1 ++ []
def dkwX15_of_0 : List UInt8 := [42, 180, 0, 13, 6, 160, 0, 23, 42, 180, 0, 1, 42, 180, 0, 17, 182, 0, 22, 180, 0, 28, 3, 46]
abbrev dktX15_of_0 : List UInt8 := dkwX15_of_0 ++ dktX15_of_1
theorem dksX15_of_0 : cX15_of.data.toList.drop 0 = dktX15_of_0 := by decide +kernel
theorem dksX15_of_1 : cX15_of.data.toList.drop 24 = dktX15_of_1 := dk_seg dksX15_of_0 24 rfl rfl
theorem dX15_of_0 : decode cX15_of 0 = .ok (.aload_n 0, 1) := dk_42 (dk_at dksX15_of_0 0 rfl rfl)
theorem dX15_of_1 : decode cX15_of 1 = .ok (.getfield 13, 3) := dk_180 0 13 (dk_at dksX15_of_0 1 rfl rfl)
theorem dX15_of_4 : decode cX15_of 4 = .ok (.iconst 3, 1) := dk_6 (dk_at dksX15_of_0 4 rfl rfl)
theorem dX15_of_5 : decode cX15_of 5 = .ok (.if_icmp .ne 23, 3) := dk_160 0 23 (dk_at dksX15_of_0 5 rfl rfl)
theorem dX15_of_8 : decode cX15_of 8 = .ok (.aload_n 0, 1) := dk_42 (dk_at dksX15_of_0 8 rfl rfl)
theorem dX15_of_9 : decode cX15_of 9 = .ok (.getfield 1, 3) := dk_180 0 1 (dk_at dksX15_of_0 9 rfl rfl)
theorem dX15_of_12 : decode cX15_of 12 = .ok (.aload_n 0, 1) := dk_42 (dk_at dksX15_of_0 12 rfl rfl)
theorem dX15_of_13 : decode cX15_of 13 = .ok (.getfield 17, 3) := dk_180 0 17 (dk_at dksX15_of_0 13 rfl rfl)
theorem dX15_of_16 : decode cX15_of 16 = .ok (.invokevirtual 22, 3) := dk_182 0 22 (dk_at dksX15_of_0 16 rfl rfl)
theorem dX15_of_19 : decode cX15_of 19 = .ok (.getfield 28, 3) := dk_180 0 28 (dk_at dksX15_of_0 19 rfl rfl)
theorem dX15_of_22 : decode cX15_of 22 = .ok (.iconst 0, 1) := dk_3 (dk_at dksX15_of_0 22 rfl rfl)
theorem dX15_of_23 : decode cX15_of 23 = .ok (.iaload, 1) := dk_46 (dk_at dksX15_of_0 23 rfl rfl)
theorem dX15_of_24 : decode cX15_of 24 = .ok (.i2l, 1) := dk_133 (dk_at dksX15_of_1 0 rfl rfl)
theorem dX15_of_25 : decode cX15_of 25 = .ok (.goto 18, 3) := dk_167 0 18 (dk_at dksX15_of_1 1 rfl rfl)
theorem dX15_of_28 : decode cX15_of 28 = .ok (.aload_n 0, 1) := dk_42 (dk_at dksX15_of_1 4 rfl rfl)
theorem dX15_of_29 : decode cX15_of 29 = .ok (.getfield 1, 3) := dk_180 0 1 (dk_at dksX15_of_1 5 rfl rfl)
theorem dX15_of_32 : decode cX15_of 32 = .ok (.aload_n 0, 1) := dk_42 (dk_at dksX15_of_1 8 rfl rfl)
theorem dX15_of_33 : decode cX15_of 33 = .ok (.getfield 17, 3) := dk_180 0 17 (dk_at dksX15_of_1 9 rfl rfl)
theorem dX15_of_36 : decode cX15_of 36 = .ok (.invokevirtual 22, 3) := dk_182 0 22 (dk_at dksX15_of_1 12 rfl rfl)
theorem dX15_of_39 : decode cX15_of 39 = .ok (.getfield 34, 3) := dk_180 0 34 (dk_at dksX15_of_1 15 rfl rfl)
theorem dX15_of_42 : decode cX15_of 42 = .ok (.i2l, 1) := dk_133 (dk_at dksX15_of_1 18 rfl rfl)
theorem dX15_of_43 : decode cX15_of 43 = .ok (.lreturn, 1) := dk_173 (dk_at dksX15_of_1 19 rfl rfl)
abbrev cX15_init : ByteArray := prog_18_method_1_code
def yX15_init : MethodName := ⟨RX15, "<init>", "(LMissCurves;II)V"⟩
def dkwX15_init_0 : List UInt8 := [42, 43, 181, 0, 1, 42, 183, 0, 7, 42, 28, 181, 0, 13, 42, 29, 181, 0, 17, 177]
abbrev dktX15_init_0 : List UInt8 := dkwX15_init_0 ++ []
theorem dksX15_init_0 : cX15_init.data.toList.drop 0 = dktX15_init_0 := by decide +kernel
theorem dX15_init_0 : decode cX15_init 0 = .ok (.aload_n 0, 1) := dk_42 (dk_at dksX15_init_0 0 rfl rfl)
theorem dX15_init_1 : decode cX15_init 1 = .ok (.aload_n 1, 1) := dk_43 (dk_at dksX15_init_0 1 rfl rfl)
theorem dX15_init_2 : decode cX15_init 2 = .ok (.putfield 1, 3) := dk_181 0 1 (dk_at dksX15_init_0 2 rfl rfl)
theorem dX15_init_5 : decode cX15_init 5 = .ok (.aload_n 0, 1) := dk_42 (dk_at dksX15_init_0 5 rfl rfl)
theorem dX15_init_6 : decode cX15_init 6 = .ok (.invokespecial 7, 3) := dk_183 0 7 (dk_at dksX15_init_0 6 rfl rfl)
theorem dX15_init_9 : decode cX15_init 9 = .ok (.aload_n 0, 1) := dk_42 (dk_at dksX15_init_0 9 rfl rfl)
theorem dX15_init_10 : decode cX15_init 10 = .ok (.iload_n 2, 1) := dk_28 (dk_at dksX15_init_0 10 rfl rfl)
theorem dX15_init_11 : decode cX15_init 11 = .ok (.putfield 13, 3) := dk_181 0 13 (dk_at dksX15_init_0 11 rfl rfl)
theorem dX15_init_14 : decode cX15_init 14 = .ok (.aload_n 0, 1) := dk_42 (dk_at dksX15_init_0 14 rfl rfl)
theorem dX15_init_15 : decode cX15_init 15 = .ok (.iload_n 3, 1) := dk_29 (dk_at dksX15_init_0 15 rfl rfl)
theorem dX15_init_16 : decode cX15_init 16 = .ok (.putfield 17, 3) := dk_181 0 17 (dk_at dksX15_init_0 16 rfl rfl)
theorem dX15_init_19 : decode cX15_init 19 = .ok (.return_, 1) := dk_177 (dk_at dksX15_init_0 19 rfl rfl)
theorem q162 : (Jvm.Cond.initialized "MissCurves$Of") ∈ lw_all := lw_g (lw_at lw_m1 35 rfl) rfl
theorem q238 : (Jvm.Cond.fieldLinkNest "MissCurves$Of" (28 : Nat) "MissCurves$Book" "costs" "[I" "MissCurves") ∈ lw_tbl := lw_at lw_m1 111 rfl
theorem q246 : (Jvm.Cond.fieldLinkNest "MissCurves$Of" (34 : Nat) "MissCurves$Book" "n" "I" "MissCurves") ∈ lw_tbl := lw_at lw_m1 119 rfl
theorem q585 : (Jvm.Cond.instanceMethod ({ cls := "MissCurves$Of", name := "of", desc := "(LMissCurves$Asked;)J" } : Jvm.MethodName)) ∈ lw_all := lw_g (lw_at lw_m2 218 rfl) rfl
theorem q586 : (Jvm.Cond.code ({ cls := "MissCurves$Of", name := "of", desc := "(LMissCurves$Asked;)J" } : Jvm.MethodName) prog_18_method_2_code (2 : Nat) (Option.some Jvm.ClassFile.FieldType.long)) ∈ lw_all := lw_g (lw_at lw_m2 219 rfl) rfl
theorem q587 : (Jvm.Cond.methodLinkNest "MissCurves$Of" (22 : Nat) ({ cls := "MissCurves", name := "book", desc := "(I)LMissCurves$Book;" } : Jvm.MethodName) "MissCurves") ∈ lw_tbl := lw_at lw_m2 220 rfl
theorem q596 : (Jvm.Cond.selects "MissCurves$Of" ({ cls := "MissCurves$Sum", name := "of", desc := "(LMissCurves$Asked;)J" } : Jvm.MethodName) ({ cls := "MissCurves$Of", name := "of", desc := "(LMissCurves$Asked;)J" } : Jvm.MethodName)) ∈ lw_all := lw_g (lw_at lw_m2 229 rfl) rfl
theorem q1280 : (Jvm.Cond.instantiable "MissCurves$Of" (3 : Nat)) ∈ lw_all := lw_g (lw_at lw_m5 193 rfl) rfl
theorem q1286 : (Jvm.Cond.instanceMethod ({ cls := "MissCurves$Of", name := "<init>", desc := "(LMissCurves;II)V" } : Jvm.MethodName)) ∈ lw_all := lw_g (lw_at lw_m5 199 rfl) rfl
theorem q1287 : (Jvm.Cond.code ({ cls := "MissCurves$Of", name := "<init>", desc := "(LMissCurves;II)V" } : Jvm.MethodName) prog_18_method_1_code (4 : Nat) (Option.none : Option Jvm.ClassFile.FieldType)) ∈ lw_all := lw_g (lw_at lw_m5 200 rfl) rfl
theorem q1288 : (Jvm.Cond.methodLinkNest "MissCurves$Of" (7 : Nat) ({ cls := "MissCurves$Sum", name := "<init>", desc := "()V" } : Jvm.MethodName) "MissCurves") ∈ lw_tbl := lw_at lw_m5 201 rfl
theorem q1289 : (Jvm.Cond.fieldLink "MissCurves$Of" (13 : Nat) "MissCurves$Of" "what" "I") ∈ lw_all := lw_g (lw_at lw_m5 202 rfl) rfl
theorem q1290 : (Jvm.Cond.fieldLink "MissCurves$Of" (17 : Nat) "MissCurves$Of" "tenant" "I") ∈ lw_all := lw_g (lw_at lw_m5 203 rfl) rfl
theorem q1291 : (Jvm.Cond.fieldLink "MissCurves$Of" (1 : Nat) "MissCurves$Of" "this$0" "LMissCurves;") ∈ lw_all := lw_g (lw_at lw_m5 204 rfl) rfl
theorem q1292 : (Jvm.Cond.laysFinal "MissCurves$Of" "MissCurves$Of" "what" "I") ∈ lw_all := lw_g (lw_at lw_m5 205 rfl) rfl
theorem q1293 : (Jvm.Cond.soleField "MissCurves$Of" "what") ∈ lw_all := lw_g (lw_at lw_m5 206 rfl) rfl
theorem q1294 : (Jvm.Cond.laysFinal "MissCurves$Of" "MissCurves$Of" "tenant" "I") ∈ lw_all := lw_g (lw_at lw_m5 207 rfl) rfl
theorem q1295 : (Jvm.Cond.soleField "MissCurves$Of" "tenant") ∈ lw_all := lw_g (lw_at lw_m5 208 rfl) rfl
theorem q1296 : (Jvm.Cond.laysFinal "MissCurves$Of" "MissCurves$Of" "this$0" "LMissCurves;") ∈ lw_all := lw_g (lw_at lw_m5 209 rfl) rfl
theorem q1297 : (Jvm.Cond.soleField "MissCurves$Of" "this$0") ∈ lw_all := lw_g (lw_at lw_m5 210 rfl) rfl
theorem q1298 : (Jvm.Cond.superclass "MissCurves$Of" "MissCurves$Sum") ∈ lw_all := lw_g (lw_at lw_m5 211 rfl) rfl
theorem q1535 : (Jvm.Cond.selects "MissCurves$Of" ({ cls := "java/lang/Object", name := "getClass", desc := "()Ljava/lang/Class;" } : Jvm.MethodName) ({ cls := "java/lang/Object", name := "getClass", desc := "()Ljava/lang/Class;" } : Jvm.MethodName)) ∈ lw_all := lw_g (lw_at lw_m6 208 rfl) rfl
theorem q1768 : (Jvm.Cond.selects "MissCurves$Of" ({ cls := "java/lang/Object", name := "toString", desc := "()Ljava/lang/String;" } : Jvm.MethodName) ({ cls := "java/lang/Object", name := "toString", desc := "()Ljava/lang/String;" } : Jvm.MethodName)) ∈ lw_all := lw_g (lw_at lw_m7 201 rfl) rfl
theorem q3033 : (Jvm.Cond.castable "MissCurves$Of" "java/lang/Object") ∈ lw_tbl := lw_at lw_m13 26 rfl
theorem in_X15 : ∀ w ∈ wsX150, w ∈ lw_all := lw_in wsX150 [1292, 1294, 1296] (by decide +kernel) (by decide +kernel)

/-! MissCurves$Joined -/
set_option maxRecDepth 100000
def RX16 : String := "MissCurves$Joined"
def TX16 : u_T := fun k => match k with
  | 0 => ("MissCurves$Joined", "one", "LMissCurves$Sum;", true)
  | 1 => ("MissCurves$Joined", "other", "LMissCurves$Sum;", true)
  | _ => ("MissCurves$Joined", "sign", "I", true)
def tyX16 : Nat → FieldType := fun k => match k with
  | 0 => .object "MissCurves$Sum"
  | 1 => .object "MissCurves$Sum"
  | _ => .int
abbrev wsX160 : List Cond := u_ws RX16 TX16 3
theorem nmX16 : ∀ a, a < 3 → ∀ b, b < 3 → a ≠ b → (TX16 a).2.1 ≠ (TX16 b).2.1 := by decide +kernel
theorem tyX16_ok : ∀ k, k < 3 → parseFieldDescriptor (TX16 k).2.2.1 = some (tyX16 k) := by decide +kernel
abbrev cX16_of : ByteArray := prog_11_method_2_code
def yX16_of : MethodName := ⟨RX16, "of", "(LMissCurves$Asked;)J"⟩
def dkwX16_of_6 : List UInt8 := [182, 0, 30, 173]
abbrev dktX16_of_6 : List UInt8 := dkwX16_of_6 ++ []
def dkwX16_of_5 : List UInt8 := [97, 167, 0, 23, 42, 180, 0, 13, 16, 45, 160, 0, 10, 32, 22, 4, 101, 167, 0, 7, 32, 22, 4, 105]
abbrev dktX16_of_5 : List UInt8 := dkwX16_of_5 ++ dktX16_of_6
def dkwX16_of_4 : List UInt8 := [22, 4, 109, 167, 0, 7, 32, 22, 4, 113, 173, 43, 42, 180, 0, 13, 16, 43, 160, 0, 10, 32, 22, 4]
abbrev dktX16_of_4 : List UInt8 := dkwX16_of_4 ++ dktX16_of_5
def dkwX16_of_3 : List UInt8 := [181, 0, 24, 22, 4, 9, 148, 154, 0, 7, 9, 167, 0, 23, 42, 180, 0, 13, 16, 47, 160, 0, 10, 32]
abbrev dktX16_of_3 : List UInt8 := dkwX16_of_3 ++ dktX16_of_4
def dkwX16_of_2 : List UInt8 := [42, 180, 0, 13, 16, 37, 160, 0, 51, 43, 22, 4, 9, 148, 154, 0, 7, 4, 167, 0, 4, 3]
abbrev dktX16_of_2 : List UInt8 := dkwX16_of_2 ++ dktX16_of_3
def dkwX16_of_1 : List UInt8 := [43, 182, 0, 20, 55, 4, 43, 180, 0, 24, 153, 0, 5, 9, 173, 42, 180, 0, 13, 16, 47, 159, 0, 12]
abbrev dktX16_of_1 : List UInt8 := dkwX16_of_1 ++ dktX16_of_2
def dkwX16_of_0 : List UInt8 := [42, 180, 0, 7, 43, 182, 0, 20, 65, 43, 180, 0, 24, 153, 0, 7, 9, 167, 0, 11, 42, 180, 0, 17]
abbrev dktX16_of_0 : List UInt8 := dkwX16_of_0 ++ dktX16_of_1
theorem dksX16_of_0 : cX16_of.data.toList.drop 0 = dktX16_of_0 := by decide +kernel
theorem dksX16_of_1 : cX16_of.data.toList.drop 24 = dktX16_of_1 := dk_seg dksX16_of_0 24 rfl rfl
theorem dksX16_of_2 : cX16_of.data.toList.drop 48 = dktX16_of_2 := dk_seg dksX16_of_1 24 rfl rfl
theorem dksX16_of_3 : cX16_of.data.toList.drop 70 = dktX16_of_3 := dk_seg dksX16_of_2 22 rfl rfl
theorem dksX16_of_4 : cX16_of.data.toList.drop 94 = dktX16_of_4 := dk_seg dksX16_of_3 24 rfl rfl
theorem dksX16_of_5 : cX16_of.data.toList.drop 118 = dktX16_of_5 := dk_seg dksX16_of_4 24 rfl rfl
theorem dksX16_of_6 : cX16_of.data.toList.drop 142 = dktX16_of_6 := dk_seg dksX16_of_5 24 rfl rfl
theorem dX16_of_0 : decode cX16_of 0 = .ok (.aload_n 0, 1) := dk_42 (dk_at dksX16_of_0 0 rfl rfl)
theorem dX16_of_1 : decode cX16_of 1 = .ok (.getfield 7, 3) := dk_180 0 7 (dk_at dksX16_of_0 1 rfl rfl)
theorem dX16_of_4 : decode cX16_of 4 = .ok (.aload_n 1, 1) := dk_43 (dk_at dksX16_of_0 4 rfl rfl)
theorem dX16_of_5 : decode cX16_of 5 = .ok (.invokevirtual 20, 3) := dk_182 0 20 (dk_at dksX16_of_0 5 rfl rfl)
theorem dX16_of_8 : decode cX16_of 8 = .ok (.lstore_n 2, 1) := dk_65 (dk_at dksX16_of_0 8 rfl rfl)
theorem dX16_of_9 : decode cX16_of 9 = .ok (.aload_n 1, 1) := dk_43 (dk_at dksX16_of_0 9 rfl rfl)
theorem dX16_of_10 : decode cX16_of 10 = .ok (.getfield 24, 3) := dk_180 0 24 (dk_at dksX16_of_0 10 rfl rfl)
theorem dX16_of_13 : decode cX16_of 13 = .ok (.ifCond .eq 7, 3) := dk_153 0 7 (dk_at dksX16_of_0 13 rfl rfl)
theorem dX16_of_16 : decode cX16_of 16 = .ok (.lconst 0, 1) := dk_9 (dk_at dksX16_of_0 16 rfl rfl)
theorem dX16_of_17 : decode cX16_of 17 = .ok (.goto 11, 3) := dk_167 0 11 (dk_at dksX16_of_0 17 rfl rfl)
theorem dX16_of_20 : decode cX16_of 20 = .ok (.aload_n 0, 1) := dk_42 (dk_at dksX16_of_0 20 rfl rfl)
theorem dX16_of_21 : decode cX16_of 21 = .ok (.getfield 17, 3) := dk_180 0 17 (dk_at dksX16_of_0 21 rfl rfl)
theorem dX16_of_24 : decode cX16_of 24 = .ok (.aload_n 1, 1) := dk_43 (dk_at dksX16_of_1 0 rfl rfl)
theorem dX16_of_25 : decode cX16_of 25 = .ok (.invokevirtual 20, 3) := dk_182 0 20 (dk_at dksX16_of_1 1 rfl rfl)
theorem dX16_of_28 : decode cX16_of 28 = .ok (.lstore 4, 2) := dk_55 4 (dk_at dksX16_of_1 4 rfl rfl)
theorem dX16_of_30 : decode cX16_of 30 = .ok (.aload_n 1, 1) := dk_43 (dk_at dksX16_of_1 6 rfl rfl)
theorem dX16_of_31 : decode cX16_of 31 = .ok (.getfield 24, 3) := dk_180 0 24 (dk_at dksX16_of_1 7 rfl rfl)
theorem dX16_of_34 : decode cX16_of 34 = .ok (.ifCond .eq 5, 3) := dk_153 0 5 (dk_at dksX16_of_1 10 rfl rfl)
theorem dX16_of_37 : decode cX16_of 37 = .ok (.lconst 0, 1) := dk_9 (dk_at dksX16_of_1 13 rfl rfl)
theorem dX16_of_38 : decode cX16_of 38 = .ok (.lreturn, 1) := dk_173 (dk_at dksX16_of_1 14 rfl rfl)
theorem dX16_of_39 : decode cX16_of 39 = .ok (.aload_n 0, 1) := dk_42 (dk_at dksX16_of_1 15 rfl rfl)
theorem dX16_of_40 : decode cX16_of 40 = .ok (.getfield 13, 3) := dk_180 0 13 (dk_at dksX16_of_1 16 rfl rfl)
theorem dX16_of_43 : decode cX16_of 43 = .ok (.bipush 47, 2) := dk_16 47 (dk_at dksX16_of_1 19 rfl rfl)
theorem dX16_of_45 : decode cX16_of 45 = .ok (.if_icmp .eq 12, 3) := dk_159 0 12 (dk_at dksX16_of_1 21 rfl rfl)
theorem dX16_of_48 : decode cX16_of 48 = .ok (.aload_n 0, 1) := dk_42 (dk_at dksX16_of_2 0 rfl rfl)
theorem dX16_of_49 : decode cX16_of 49 = .ok (.getfield 13, 3) := dk_180 0 13 (dk_at dksX16_of_2 1 rfl rfl)
theorem dX16_of_52 : decode cX16_of 52 = .ok (.bipush 37, 2) := dk_16 37 (dk_at dksX16_of_2 4 rfl rfl)
theorem dX16_of_54 : decode cX16_of 54 = .ok (.if_icmp .ne 51, 3) := dk_160 0 51 (dk_at dksX16_of_2 6 rfl rfl)
theorem dX16_of_57 : decode cX16_of 57 = .ok (.aload_n 1, 1) := dk_43 (dk_at dksX16_of_2 9 rfl rfl)
theorem dX16_of_58 : decode cX16_of 58 = .ok (.lload 4, 2) := dk_22 4 (dk_at dksX16_of_2 10 rfl rfl)
theorem dX16_of_60 : decode cX16_of 60 = .ok (.lconst 0, 1) := dk_9 (dk_at dksX16_of_2 12 rfl rfl)
theorem dX16_of_61 : decode cX16_of 61 = .ok (.lcmp, 1) := dk_148 (dk_at dksX16_of_2 13 rfl rfl)
theorem dX16_of_62 : decode cX16_of 62 = .ok (.ifCond .ne 7, 3) := dk_154 0 7 (dk_at dksX16_of_2 14 rfl rfl)
theorem dX16_of_65 : decode cX16_of 65 = .ok (.iconst 1, 1) := dk_4 (dk_at dksX16_of_2 17 rfl rfl)
theorem dX16_of_66 : decode cX16_of 66 = .ok (.goto 4, 3) := dk_167 0 4 (dk_at dksX16_of_2 18 rfl rfl)
theorem dX16_of_69 : decode cX16_of 69 = .ok (.iconst 0, 1) := dk_3 (dk_at dksX16_of_2 21 rfl rfl)
theorem dX16_of_70 : decode cX16_of 70 = .ok (.putfield 24, 3) := dk_181 0 24 (dk_at dksX16_of_3 0 rfl rfl)
theorem dX16_of_73 : decode cX16_of 73 = .ok (.lload 4, 2) := dk_22 4 (dk_at dksX16_of_3 3 rfl rfl)
theorem dX16_of_75 : decode cX16_of 75 = .ok (.lconst 0, 1) := dk_9 (dk_at dksX16_of_3 5 rfl rfl)
theorem dX16_of_76 : decode cX16_of 76 = .ok (.lcmp, 1) := dk_148 (dk_at dksX16_of_3 6 rfl rfl)
theorem dX16_of_77 : decode cX16_of 77 = .ok (.ifCond .ne 7, 3) := dk_154 0 7 (dk_at dksX16_of_3 7 rfl rfl)
theorem dX16_of_80 : decode cX16_of 80 = .ok (.lconst 0, 1) := dk_9 (dk_at dksX16_of_3 10 rfl rfl)
theorem dX16_of_81 : decode cX16_of 81 = .ok (.goto 23, 3) := dk_167 0 23 (dk_at dksX16_of_3 11 rfl rfl)
theorem dX16_of_84 : decode cX16_of 84 = .ok (.aload_n 0, 1) := dk_42 (dk_at dksX16_of_3 14 rfl rfl)
theorem dX16_of_85 : decode cX16_of 85 = .ok (.getfield 13, 3) := dk_180 0 13 (dk_at dksX16_of_3 15 rfl rfl)
theorem dX16_of_88 : decode cX16_of 88 = .ok (.bipush 47, 2) := dk_16 47 (dk_at dksX16_of_3 18 rfl rfl)
theorem dX16_of_90 : decode cX16_of 90 = .ok (.if_icmp .ne 10, 3) := dk_160 0 10 (dk_at dksX16_of_3 20 rfl rfl)
theorem dX16_of_93 : decode cX16_of 93 = .ok (.lload_n 2, 1) := dk_32 (dk_at dksX16_of_3 23 rfl rfl)
theorem dX16_of_94 : decode cX16_of 94 = .ok (.lload 4, 2) := dk_22 4 (dk_at dksX16_of_4 0 rfl rfl)
theorem dX16_of_96 : decode cX16_of 96 = .ok (.ldiv, 1) := dk_109 (dk_at dksX16_of_4 2 rfl rfl)
theorem dX16_of_97 : decode cX16_of 97 = .ok (.goto 7, 3) := dk_167 0 7 (dk_at dksX16_of_4 3 rfl rfl)
theorem dX16_of_100 : decode cX16_of 100 = .ok (.lload_n 2, 1) := dk_32 (dk_at dksX16_of_4 6 rfl rfl)
theorem dX16_of_101 : decode cX16_of 101 = .ok (.lload 4, 2) := dk_22 4 (dk_at dksX16_of_4 7 rfl rfl)
theorem dX16_of_103 : decode cX16_of 103 = .ok (.lrem, 1) := dk_113 (dk_at dksX16_of_4 9 rfl rfl)
theorem dX16_of_104 : decode cX16_of 104 = .ok (.lreturn, 1) := dk_173 (dk_at dksX16_of_4 10 rfl rfl)
theorem dX16_of_105 : decode cX16_of 105 = .ok (.aload_n 1, 1) := dk_43 (dk_at dksX16_of_4 11 rfl rfl)
theorem dX16_of_106 : decode cX16_of 106 = .ok (.aload_n 0, 1) := dk_42 (dk_at dksX16_of_4 12 rfl rfl)
theorem dX16_of_107 : decode cX16_of 107 = .ok (.getfield 13, 3) := dk_180 0 13 (dk_at dksX16_of_4 13 rfl rfl)
theorem dX16_of_110 : decode cX16_of 110 = .ok (.bipush 43, 2) := dk_16 43 (dk_at dksX16_of_4 16 rfl rfl)
theorem dX16_of_112 : decode cX16_of 112 = .ok (.if_icmp .ne 10, 3) := dk_160 0 10 (dk_at dksX16_of_4 18 rfl rfl)
theorem dX16_of_115 : decode cX16_of 115 = .ok (.lload_n 2, 1) := dk_32 (dk_at dksX16_of_4 21 rfl rfl)
theorem dX16_of_116 : decode cX16_of 116 = .ok (.lload 4, 2) := dk_22 4 (dk_at dksX16_of_4 22 rfl rfl)
theorem dX16_of_118 : decode cX16_of 118 = .ok (.ladd, 1) := dk_97 (dk_at dksX16_of_5 0 rfl rfl)
theorem dX16_of_119 : decode cX16_of 119 = .ok (.goto 23, 3) := dk_167 0 23 (dk_at dksX16_of_5 1 rfl rfl)
theorem dX16_of_122 : decode cX16_of 122 = .ok (.aload_n 0, 1) := dk_42 (dk_at dksX16_of_5 4 rfl rfl)
theorem dX16_of_123 : decode cX16_of 123 = .ok (.getfield 13, 3) := dk_180 0 13 (dk_at dksX16_of_5 5 rfl rfl)
theorem dX16_of_126 : decode cX16_of 126 = .ok (.bipush 45, 2) := dk_16 45 (dk_at dksX16_of_5 8 rfl rfl)
theorem dX16_of_128 : decode cX16_of 128 = .ok (.if_icmp .ne 10, 3) := dk_160 0 10 (dk_at dksX16_of_5 10 rfl rfl)
theorem dX16_of_131 : decode cX16_of 131 = .ok (.lload_n 2, 1) := dk_32 (dk_at dksX16_of_5 13 rfl rfl)
theorem dX16_of_132 : decode cX16_of 132 = .ok (.lload 4, 2) := dk_22 4 (dk_at dksX16_of_5 14 rfl rfl)
theorem dX16_of_134 : decode cX16_of 134 = .ok (.lsub, 1) := dk_101 (dk_at dksX16_of_5 16 rfl rfl)
theorem dX16_of_135 : decode cX16_of 135 = .ok (.goto 7, 3) := dk_167 0 7 (dk_at dksX16_of_5 17 rfl rfl)
theorem dX16_of_138 : decode cX16_of 138 = .ok (.lload_n 2, 1) := dk_32 (dk_at dksX16_of_5 20 rfl rfl)
theorem dX16_of_139 : decode cX16_of 139 = .ok (.lload 4, 2) := dk_22 4 (dk_at dksX16_of_5 21 rfl rfl)
theorem dX16_of_141 : decode cX16_of 141 = .ok (.lmul, 1) := dk_105 (dk_at dksX16_of_5 23 rfl rfl)
theorem dX16_of_142 : decode cX16_of 142 = .ok (.invokevirtual 30, 3) := dk_182 0 30 (dk_at dksX16_of_6 0 rfl rfl)
theorem dX16_of_145 : decode cX16_of 145 = .ok (.lreturn, 1) := dk_173 (dk_at dksX16_of_6 3 rfl rfl)
abbrev cX16_init : ByteArray := prog_11_method_1_code
def yX16_init : MethodName := ⟨RX16, "<init>", "(LMissCurves$Sum;ILMissCurves$Sum;)V"⟩
def dkwX16_init_0 : List UInt8 := [42, 183, 0, 1, 42, 43, 181, 0, 7, 42, 28, 181, 0, 13, 42, 45, 181, 0, 17, 177]
abbrev dktX16_init_0 : List UInt8 := dkwX16_init_0 ++ []
theorem dksX16_init_0 : cX16_init.data.toList.drop 0 = dktX16_init_0 := by decide +kernel
theorem dX16_init_0 : decode cX16_init 0 = .ok (.aload_n 0, 1) := dk_42 (dk_at dksX16_init_0 0 rfl rfl)
theorem dX16_init_1 : decode cX16_init 1 = .ok (.invokespecial 1, 3) := dk_183 0 1 (dk_at dksX16_init_0 1 rfl rfl)
theorem dX16_init_4 : decode cX16_init 4 = .ok (.aload_n 0, 1) := dk_42 (dk_at dksX16_init_0 4 rfl rfl)
theorem dX16_init_5 : decode cX16_init 5 = .ok (.aload_n 1, 1) := dk_43 (dk_at dksX16_init_0 5 rfl rfl)
theorem dX16_init_6 : decode cX16_init 6 = .ok (.putfield 7, 3) := dk_181 0 7 (dk_at dksX16_init_0 6 rfl rfl)
theorem dX16_init_9 : decode cX16_init 9 = .ok (.aload_n 0, 1) := dk_42 (dk_at dksX16_init_0 9 rfl rfl)
theorem dX16_init_10 : decode cX16_init 10 = .ok (.iload_n 2, 1) := dk_28 (dk_at dksX16_init_0 10 rfl rfl)
theorem dX16_init_11 : decode cX16_init 11 = .ok (.putfield 13, 3) := dk_181 0 13 (dk_at dksX16_init_0 11 rfl rfl)
theorem dX16_init_14 : decode cX16_init 14 = .ok (.aload_n 0, 1) := dk_42 (dk_at dksX16_init_0 14 rfl rfl)
theorem dX16_init_15 : decode cX16_init 15 = .ok (.aload_n 3, 1) := dk_45 (dk_at dksX16_init_0 15 rfl rfl)
theorem dX16_init_16 : decode cX16_init 16 = .ok (.putfield 17, 3) := dk_181 0 17 (dk_at dksX16_init_0 16 rfl rfl)
theorem dX16_init_19 : decode cX16_init 19 = .ok (.return_, 1) := dk_177 (dk_at dksX16_init_0 19 rfl rfl)
theorem q163 : (Jvm.Cond.initialized "MissCurves$Joined") ∈ lw_all := lw_g (lw_at lw_m1 36 rfl) rfl
theorem q354 : (Jvm.Cond.fieldLinkNest "MissCurves$Joined" (24 : Nat) "MissCurves$Asked" "isBroken" "Z" "MissCurves") ∈ lw_tbl := lw_at lw_m1 227 rfl
theorem q581 : (Jvm.Cond.selects "MissCurves$Joined" ({ cls := "MissCurves$Sum", name := "of", desc := "(LMissCurves$Asked;)J" } : Jvm.MethodName) ({ cls := "MissCurves$Joined", name := "of", desc := "(LMissCurves$Asked;)J" } : Jvm.MethodName)) ∈ lw_all := lw_g (lw_at lw_m2 214 rfl) rfl
theorem q582 : (Jvm.Cond.instanceMethod ({ cls := "MissCurves$Joined", name := "of", desc := "(LMissCurves$Asked;)J" } : Jvm.MethodName)) ∈ lw_all := lw_g (lw_at lw_m2 215 rfl) rfl
theorem q583 : (Jvm.Cond.code ({ cls := "MissCurves$Joined", name := "of", desc := "(LMissCurves$Asked;)J" } : Jvm.MethodName) prog_11_method_2_code (6 : Nat) (Option.some Jvm.ClassFile.FieldType.long)) ∈ lw_all := lw_g (lw_at lw_m2 216 rfl) rfl
theorem q584 : (Jvm.Cond.methodLink "MissCurves$Joined" (20 : Nat) ({ cls := "MissCurves$Sum", name := "of", desc := "(LMissCurves$Asked;)J" } : Jvm.MethodName)) ∈ lw_all := lw_g (lw_at lw_m2 217 rfl) rfl
theorem q590 : (Jvm.Cond.methodLink "MissCurves$Joined" (30 : Nat) ({ cls := "MissCurves$Asked", name := "within", desc := "(J)J" } : Jvm.MethodName)) ∈ lw_all := lw_g (lw_at lw_m2 223 rfl) rfl
theorem q1306 : (Jvm.Cond.instantiable "MissCurves$Joined" (3 : Nat)) ∈ lw_all := lw_g (lw_at lw_m5 219 rfl) rfl
theorem q1308 : (Jvm.Cond.instanceMethod ({ cls := "MissCurves$Joined", name := "<init>", desc := "(LMissCurves$Sum;ILMissCurves$Sum;)V" } : Jvm.MethodName)) ∈ lw_all := lw_g (lw_at lw_m5 221 rfl) rfl
theorem q1309 : (Jvm.Cond.code ({ cls := "MissCurves$Joined", name := "<init>", desc := "(LMissCurves$Sum;ILMissCurves$Sum;)V" } : Jvm.MethodName) prog_11_method_1_code (4 : Nat) (Option.none : Option Jvm.ClassFile.FieldType)) ∈ lw_all := lw_g (lw_at lw_m5 222 rfl) rfl
theorem q1310 : (Jvm.Cond.methodLinkNest "MissCurves$Joined" (1 : Nat) ({ cls := "MissCurves$Sum", name := "<init>", desc := "()V" } : Jvm.MethodName) "MissCurves") ∈ lw_tbl := lw_at lw_m5 223 rfl
theorem q1311 : (Jvm.Cond.fieldLink "MissCurves$Joined" (7 : Nat) "MissCurves$Joined" "one" "LMissCurves$Sum;") ∈ lw_all := lw_g (lw_at lw_m5 224 rfl) rfl
theorem q1312 : (Jvm.Cond.fieldLink "MissCurves$Joined" (17 : Nat) "MissCurves$Joined" "other" "LMissCurves$Sum;") ∈ lw_all := lw_g (lw_at lw_m5 225 rfl) rfl
theorem q1313 : (Jvm.Cond.fieldLink "MissCurves$Joined" (13 : Nat) "MissCurves$Joined" "sign" "I") ∈ lw_all := lw_g (lw_at lw_m5 226 rfl) rfl
theorem q1314 : (Jvm.Cond.laysFinal "MissCurves$Joined" "MissCurves$Joined" "one" "LMissCurves$Sum;") ∈ lw_all := lw_g (lw_at lw_m5 227 rfl) rfl
theorem q1315 : (Jvm.Cond.soleField "MissCurves$Joined" "one") ∈ lw_all := lw_g (lw_at lw_m5 228 rfl) rfl
theorem q1316 : (Jvm.Cond.laysFinal "MissCurves$Joined" "MissCurves$Joined" "other" "LMissCurves$Sum;") ∈ lw_all := lw_g (lw_at lw_m5 229 rfl) rfl
theorem q1317 : (Jvm.Cond.soleField "MissCurves$Joined" "other") ∈ lw_all := lw_g (lw_at lw_m5 230 rfl) rfl
theorem q1318 : (Jvm.Cond.laysFinal "MissCurves$Joined" "MissCurves$Joined" "sign" "I") ∈ lw_all := lw_g (lw_at lw_m5 231 rfl) rfl
theorem q1319 : (Jvm.Cond.soleField "MissCurves$Joined" "sign") ∈ lw_all := lw_g (lw_at lw_m5 232 rfl) rfl
theorem q1320 : (Jvm.Cond.superclass "MissCurves$Joined" "MissCurves$Sum") ∈ lw_all := lw_g (lw_at lw_m5 233 rfl) rfl
theorem q1529 : (Jvm.Cond.selects "MissCurves$Joined" ({ cls := "java/lang/Object", name := "getClass", desc := "()Ljava/lang/Class;" } : Jvm.MethodName) ({ cls := "java/lang/Object", name := "getClass", desc := "()Ljava/lang/Class;" } : Jvm.MethodName)) ∈ lw_all := lw_g (lw_at lw_m6 202 rfl) rfl
theorem q1762 : (Jvm.Cond.selects "MissCurves$Joined" ({ cls := "java/lang/Object", name := "toString", desc := "()Ljava/lang/String;" } : Jvm.MethodName) ({ cls := "java/lang/Object", name := "toString", desc := "()Ljava/lang/String;" } : Jvm.MethodName)) ∈ lw_all := lw_g (lw_at lw_m7 195 rfl) rfl
theorem q3028 : (Jvm.Cond.castable "MissCurves$Joined" "java/lang/Object") ∈ lw_tbl := lw_at lw_m13 21 rfl
theorem in_X16 : ∀ w ∈ wsX160, w ∈ lw_all := lw_in wsX160 [1314, 1316, 1318] (by decide +kernel) (by decide +kernel)

/-! MissCurves$Clause -/
set_option maxRecDepth 100000
def RX17 : String := "MissCurves$Clause"
def TX17 : u_T := fun k => match k with
  | 0 => ("MissCurves$Clause", "head", "I", true)
  | 1 => ("MissCurves$Clause", "sum", "LMissCurves$Sum;", true)
  | 2 => ("MissCurves$Clause", "test", "LMissCurves$Test;", true)
  | _ => ("MissCurves$Clause", "told", "J", false)
def tyX17 : Nat → FieldType := fun k => match k with
  | 0 => .int
  | 1 => .object "MissCurves$Sum"
  | 2 => .object "MissCurves$Test"
  | _ => .long
abbrev wsX170 : List Cond := u_ws RX17 TX17 4
theorem nmX17 : ∀ a, a < 4 → ∀ b, b < 4 → a ≠ b → (TX17 a).2.1 ≠ (TX17 b).2.1 := by decide +kernel
theorem tyX17_ok : ∀ k, k < 4 → parseFieldDescriptor (TX17 k).2.2.1 = some (tyX17 k) := by decide +kernel
abbrev cX17_holds : ByteArray := prog_7_method_2_code
def yX17_holds : MethodName := ⟨RX17, "holds", "(LMissCurves$Asked;)Z"⟩
def dkwX17_holds_2 : List UInt8 := [43, 182, 0, 33, 181, 0, 38, 43, 180, 0, 21, 154, 0, 7, 4, 167, 0, 4, 3, 172]
abbrev dktX17_holds_2 : List UInt8 := dkwX17_holds_2 ++ []
def dkwX17_holds_1 : List UInt8 := [180, 0, 21, 153, 0, 5, 3, 172, 42, 42, 180, 0, 13, 199, 0, 7, 9, 167, 0, 11, 42, 180, 0, 13]
abbrev dktX17_holds_1 : List UInt8 := dkwX17_holds_1 ++ dktX17_holds_2
def dkwX17_holds_0 : List UInt8 := [43, 3, 181, 0, 21, 42, 180, 0, 17, 198, 0, 14, 42, 180, 0, 17, 43, 182, 0, 27, 153, 0, 10, 43]
abbrev dktX17_holds_0 : List UInt8 := dkwX17_holds_0 ++ dktX17_holds_1
theorem dksX17_holds_0 : cX17_holds.data.toList.drop 0 = dktX17_holds_0 := by decide +kernel
theorem dksX17_holds_1 : cX17_holds.data.toList.drop 24 = dktX17_holds_1 := dk_seg dksX17_holds_0 24 rfl rfl
theorem dksX17_holds_2 : cX17_holds.data.toList.drop 48 = dktX17_holds_2 := dk_seg dksX17_holds_1 24 rfl rfl
theorem dX17_holds_0 : decode cX17_holds 0 = .ok (.aload_n 1, 1) := dk_43 (dk_at dksX17_holds_0 0 rfl rfl)
theorem dX17_holds_1 : decode cX17_holds 1 = .ok (.iconst 0, 1) := dk_3 (dk_at dksX17_holds_0 1 rfl rfl)
theorem dX17_holds_2 : decode cX17_holds 2 = .ok (.putfield 21, 3) := dk_181 0 21 (dk_at dksX17_holds_0 2 rfl rfl)
theorem dX17_holds_5 : decode cX17_holds 5 = .ok (.aload_n 0, 1) := dk_42 (dk_at dksX17_holds_0 5 rfl rfl)
theorem dX17_holds_6 : decode cX17_holds 6 = .ok (.getfield 17, 3) := dk_180 0 17 (dk_at dksX17_holds_0 6 rfl rfl)
theorem dX17_holds_9 : decode cX17_holds 9 = .ok (.ifnull 14, 3) := dk_198 0 14 (dk_at dksX17_holds_0 9 rfl rfl)
theorem dX17_holds_12 : decode cX17_holds 12 = .ok (.aload_n 0, 1) := dk_42 (dk_at dksX17_holds_0 12 rfl rfl)
theorem dX17_holds_13 : decode cX17_holds 13 = .ok (.getfield 17, 3) := dk_180 0 17 (dk_at dksX17_holds_0 13 rfl rfl)
theorem dX17_holds_16 : decode cX17_holds 16 = .ok (.aload_n 1, 1) := dk_43 (dk_at dksX17_holds_0 16 rfl rfl)
theorem dX17_holds_17 : decode cX17_holds 17 = .ok (.invokevirtual 27, 3) := dk_182 0 27 (dk_at dksX17_holds_0 17 rfl rfl)
theorem dX17_holds_20 : decode cX17_holds 20 = .ok (.ifCond .eq 10, 3) := dk_153 0 10 (dk_at dksX17_holds_0 20 rfl rfl)
theorem dX17_holds_23 : decode cX17_holds 23 = .ok (.aload_n 1, 1) := dk_43 (dk_at dksX17_holds_0 23 rfl rfl)
theorem dX17_holds_24 : decode cX17_holds 24 = .ok (.getfield 21, 3) := dk_180 0 21 (dk_at dksX17_holds_1 0 rfl rfl)
theorem dX17_holds_27 : decode cX17_holds 27 = .ok (.ifCond .eq 5, 3) := dk_153 0 5 (dk_at dksX17_holds_1 3 rfl rfl)
theorem dX17_holds_30 : decode cX17_holds 30 = .ok (.iconst 0, 1) := dk_3 (dk_at dksX17_holds_1 6 rfl rfl)
theorem dX17_holds_31 : decode cX17_holds 31 = .ok (.ireturn, 1) := dk_172 (dk_at dksX17_holds_1 7 rfl rfl)
theorem dX17_holds_32 : decode cX17_holds 32 = .ok (.aload_n 0, 1) := dk_42 (dk_at dksX17_holds_1 8 rfl rfl)
theorem dX17_holds_33 : decode cX17_holds 33 = .ok (.aload_n 0, 1) := dk_42 (dk_at dksX17_holds_1 9 rfl rfl)
theorem dX17_holds_34 : decode cX17_holds 34 = .ok (.getfield 13, 3) := dk_180 0 13 (dk_at dksX17_holds_1 10 rfl rfl)
theorem dX17_holds_37 : decode cX17_holds 37 = .ok (.ifnonnull 7, 3) := dk_199 0 7 (dk_at dksX17_holds_1 13 rfl rfl)
theorem dX17_holds_40 : decode cX17_holds 40 = .ok (.lconst 0, 1) := dk_9 (dk_at dksX17_holds_1 16 rfl rfl)
theorem dX17_holds_41 : decode cX17_holds 41 = .ok (.goto 11, 3) := dk_167 0 11 (dk_at dksX17_holds_1 17 rfl rfl)
theorem dX17_holds_44 : decode cX17_holds 44 = .ok (.aload_n 0, 1) := dk_42 (dk_at dksX17_holds_1 20 rfl rfl)
theorem dX17_holds_45 : decode cX17_holds 45 = .ok (.getfield 13, 3) := dk_180 0 13 (dk_at dksX17_holds_1 21 rfl rfl)
theorem dX17_holds_48 : decode cX17_holds 48 = .ok (.aload_n 1, 1) := dk_43 (dk_at dksX17_holds_2 0 rfl rfl)
theorem dX17_holds_49 : decode cX17_holds 49 = .ok (.invokevirtual 33, 3) := dk_182 0 33 (dk_at dksX17_holds_2 1 rfl rfl)
theorem dX17_holds_52 : decode cX17_holds 52 = .ok (.putfield 38, 3) := dk_181 0 38 (dk_at dksX17_holds_2 4 rfl rfl)
theorem dX17_holds_55 : decode cX17_holds 55 = .ok (.aload_n 1, 1) := dk_43 (dk_at dksX17_holds_2 7 rfl rfl)
theorem dX17_holds_56 : decode cX17_holds 56 = .ok (.getfield 21, 3) := dk_180 0 21 (dk_at dksX17_holds_2 8 rfl rfl)
theorem dX17_holds_59 : decode cX17_holds 59 = .ok (.ifCond .ne 7, 3) := dk_154 0 7 (dk_at dksX17_holds_2 11 rfl rfl)
theorem dX17_holds_62 : decode cX17_holds 62 = .ok (.iconst 1, 1) := dk_4 (dk_at dksX17_holds_2 14 rfl rfl)
theorem dX17_holds_63 : decode cX17_holds 63 = .ok (.goto 4, 3) := dk_167 0 4 (dk_at dksX17_holds_2 15 rfl rfl)
theorem dX17_holds_66 : decode cX17_holds 66 = .ok (.iconst 0, 1) := dk_3 (dk_at dksX17_holds_2 18 rfl rfl)
theorem dX17_holds_67 : decode cX17_holds 67 = .ok (.ireturn, 1) := dk_172 (dk_at dksX17_holds_2 19 rfl rfl)
abbrev cX17_init : ByteArray := prog_7_method_1_code
def yX17_init : MethodName := ⟨RX17, "<init>", "(ILMissCurves$Sum;LMissCurves$Test;)V"⟩
def dkwX17_init_0 : List UInt8 := [42, 183, 0, 1, 42, 27, 181, 0, 7, 42, 44, 181, 0, 13, 42, 45, 181, 0, 17, 177]
abbrev dktX17_init_0 : List UInt8 := dkwX17_init_0 ++ []
theorem dksX17_init_0 : cX17_init.data.toList.drop 0 = dktX17_init_0 := by decide +kernel
theorem dX17_init_0 : decode cX17_init 0 = .ok (.aload_n 0, 1) := dk_42 (dk_at dksX17_init_0 0 rfl rfl)
theorem dX17_init_1 : decode cX17_init 1 = .ok (.invokespecial 1, 3) := dk_183 0 1 (dk_at dksX17_init_0 1 rfl rfl)
theorem dX17_init_4 : decode cX17_init 4 = .ok (.aload_n 0, 1) := dk_42 (dk_at dksX17_init_0 4 rfl rfl)
theorem dX17_init_5 : decode cX17_init 5 = .ok (.iload_n 1, 1) := dk_27 (dk_at dksX17_init_0 5 rfl rfl)
theorem dX17_init_6 : decode cX17_init 6 = .ok (.putfield 7, 3) := dk_181 0 7 (dk_at dksX17_init_0 6 rfl rfl)
theorem dX17_init_9 : decode cX17_init 9 = .ok (.aload_n 0, 1) := dk_42 (dk_at dksX17_init_0 9 rfl rfl)
theorem dX17_init_10 : decode cX17_init 10 = .ok (.aload_n 2, 1) := dk_44 (dk_at dksX17_init_0 10 rfl rfl)
theorem dX17_init_11 : decode cX17_init 11 = .ok (.putfield 13, 3) := dk_181 0 13 (dk_at dksX17_init_0 11 rfl rfl)
theorem dX17_init_14 : decode cX17_init 14 = .ok (.aload_n 0, 1) := dk_42 (dk_at dksX17_init_0 14 rfl rfl)
theorem dX17_init_15 : decode cX17_init 15 = .ok (.aload_n 3, 1) := dk_45 (dk_at dksX17_init_0 15 rfl rfl)
theorem dX17_init_16 : decode cX17_init 16 = .ok (.putfield 17, 3) := dk_181 0 17 (dk_at dksX17_init_0 16 rfl rfl)
theorem dX17_init_19 : decode cX17_init 19 = .ok (.return_, 1) := dk_177 (dk_at dksX17_init_0 19 rfl rfl)
theorem q164 : (Jvm.Cond.initialized "MissCurves$Clause") ∈ lw_all := lw_g (lw_at lw_m1 37 rfl) rfl
theorem q352 : (Jvm.Cond.fieldLinkNest "MissCurves$Clause" (21 : Nat) "MissCurves$Asked" "isBroken" "Z" "MissCurves") ∈ lw_tbl := lw_at lw_m1 225 rfl
theorem q566 : (Jvm.Cond.instanceMethod ({ cls := "MissCurves$Clause", name := "holds", desc := "(LMissCurves$Asked;)Z" } : Jvm.MethodName)) ∈ lw_all := lw_g (lw_at lw_m2 199 rfl) rfl
theorem q567 : (Jvm.Cond.selects "MissCurves$Clause" ({ cls := "MissCurves$Clause", name := "holds", desc := "(LMissCurves$Asked;)Z" } : Jvm.MethodName) ({ cls := "MissCurves$Clause", name := "holds", desc := "(LMissCurves$Asked;)Z" } : Jvm.MethodName)) ∈ lw_all := lw_g (lw_at lw_m2 200 rfl) rfl
theorem q568 : (Jvm.Cond.code ({ cls := "MissCurves$Clause", name := "holds", desc := "(LMissCurves$Asked;)Z" } : Jvm.MethodName) prog_7_method_2_code (2 : Nat) (Option.some Jvm.ClassFile.FieldType.boolean)) ∈ lw_all := lw_g (lw_at lw_m2 201 rfl) rfl
theorem q569 : (Jvm.Cond.methodLink "MissCurves$Clause" (27 : Nat) ({ cls := "MissCurves$Test", name := "of", desc := "(LMissCurves$Asked;)Z" } : Jvm.MethodName)) ∈ lw_all := lw_g (lw_at lw_m2 202 rfl) rfl
theorem q606 : (Jvm.Cond.methodLink "MissCurves$Clause" (33 : Nat) ({ cls := "MissCurves$Sum", name := "of", desc := "(LMissCurves$Asked;)J" } : Jvm.MethodName)) ∈ lw_all := lw_g (lw_at lw_m2 239 rfl) rfl
theorem q1323 : (Jvm.Cond.instantiable "MissCurves$Clause" (4 : Nat)) ∈ lw_all := lw_g (lw_at lw_m5 236 rfl) rfl
theorem q1404 : (Jvm.Cond.instanceMethod ({ cls := "MissCurves$Clause", name := "<init>", desc := "(ILMissCurves$Sum;LMissCurves$Test;)V" } : Jvm.MethodName)) ∈ lw_all := lw_g (lw_at lw_m6 77 rfl) rfl
theorem q1405 : (Jvm.Cond.code ({ cls := "MissCurves$Clause", name := "<init>", desc := "(ILMissCurves$Sum;LMissCurves$Test;)V" } : Jvm.MethodName) prog_7_method_1_code (4 : Nat) (Option.none : Option Jvm.ClassFile.FieldType)) ∈ lw_all := lw_g (lw_at lw_m6 78 rfl) rfl
theorem q1406 : (Jvm.Cond.methodLink "MissCurves$Clause" (1 : Nat) ({ cls := "java/lang/Object", name := "<init>", desc := "()V" } : Jvm.MethodName)) ∈ lw_all := lw_g (lw_at lw_m6 79 rfl) rfl
theorem q1407 : (Jvm.Cond.fieldLink "MissCurves$Clause" (7 : Nat) "MissCurves$Clause" "head" "I") ∈ lw_all := lw_g (lw_at lw_m6 80 rfl) rfl
theorem q1409 : (Jvm.Cond.fieldLink "MissCurves$Clause" (13 : Nat) "MissCurves$Clause" "sum" "LMissCurves$Sum;") ∈ lw_all := lw_g (lw_at lw_m6 82 rfl) rfl
theorem q1410 : (Jvm.Cond.fieldLink "MissCurves$Clause" (17 : Nat) "MissCurves$Clause" "test" "LMissCurves$Test;") ∈ lw_all := lw_g (lw_at lw_m6 83 rfl) rfl
theorem q1411 : (Jvm.Cond.fieldLink "MissCurves$Clause" (38 : Nat) "MissCurves$Clause" "told" "J") ∈ lw_all := lw_g (lw_at lw_m6 84 rfl) rfl
theorem q1413 : (Jvm.Cond.laysFinal "MissCurves$Clause" "MissCurves$Clause" "head" "I") ∈ lw_all := lw_g (lw_at lw_m6 86 rfl) rfl
theorem q1414 : (Jvm.Cond.soleField "MissCurves$Clause" "head") ∈ lw_all := lw_g (lw_at lw_m6 87 rfl) rfl
theorem q1415 : (Jvm.Cond.laysFinal "MissCurves$Clause" "MissCurves$Clause" "sum" "LMissCurves$Sum;") ∈ lw_all := lw_g (lw_at lw_m6 88 rfl) rfl
theorem q1416 : (Jvm.Cond.soleField "MissCurves$Clause" "sum") ∈ lw_all := lw_g (lw_at lw_m6 89 rfl) rfl
theorem q1417 : (Jvm.Cond.laysFinal "MissCurves$Clause" "MissCurves$Clause" "test" "LMissCurves$Test;") ∈ lw_all := lw_g (lw_at lw_m6 90 rfl) rfl
theorem q1418 : (Jvm.Cond.soleField "MissCurves$Clause" "test") ∈ lw_all := lw_g (lw_at lw_m6 91 rfl) rfl
theorem q1419 : (Jvm.Cond.lays "MissCurves$Clause" "MissCurves$Clause" "told" "J") ∈ lw_all := lw_g (lw_at lw_m6 92 rfl) rfl
theorem q1420 : (Jvm.Cond.soleField "MissCurves$Clause" "told") ∈ lw_all := lw_g (lw_at lw_m6 93 rfl) rfl
theorem q1421 : (Jvm.Cond.superclass "MissCurves$Clause" "java/lang/Object") ∈ lw_all := lw_g (lw_at lw_m6 94 rfl) rfl
theorem q1525 : (Jvm.Cond.selects "MissCurves$Clause" ({ cls := "java/lang/Object", name := "getClass", desc := "()Ljava/lang/Class;" } : Jvm.MethodName) ({ cls := "java/lang/Object", name := "getClass", desc := "()Ljava/lang/Class;" } : Jvm.MethodName)) ∈ lw_all := lw_g (lw_at lw_m6 198 rfl) rfl
theorem q1758 : (Jvm.Cond.selects "MissCurves$Clause" ({ cls := "java/lang/Object", name := "toString", desc := "()Ljava/lang/String;" } : Jvm.MethodName) ({ cls := "java/lang/Object", name := "toString", desc := "()Ljava/lang/String;" } : Jvm.MethodName)) ∈ lw_all := lw_g (lw_at lw_m7 191 rfl) rfl
theorem q3010 : (Jvm.Cond.castable "MissCurves$Clause" "java/lang/Object") ∈ lw_tbl := lw_at lw_m13 3 rfl
theorem in_X17 : ∀ w ∈ wsX170, w ∈ lw_all := lw_in wsX170 [1413, 1415, 1417, 1419] (by decide +kernel) (by decide +kernel)

/-! MissCurves$Test -/
set_option maxRecDepth 100000
def RX18 : String := "MissCurves$Test"
abbrev cX18_init : ByteArray := prog_28_method_1_code
def yX18_init : MethodName := ⟨RX18, "<init>", "()V"⟩
theorem dX18_init_0 : decode cX18_init 0 = .ok (.aload_n 0, 1) := by decide +kernel
theorem dX18_init_1 : decode cX18_init 1 = .ok (.invokespecial 1, 3) := by decide +kernel
theorem dX18_init_4 : decode cX18_init 4 = .ok (.return_, 1) := by decide +kernel
theorem q165 : (Jvm.Cond.initialized "MissCurves$Test") ∈ lw_all := lw_g (lw_at lw_m1 38 rfl) rfl
theorem q570 : (Jvm.Cond.declares ({ cls := "MissCurves$Test", name := "of", desc := "(LMissCurves$Asked;)Z" } : Jvm.MethodName)) ∈ lw_tbl := lw_at lw_m2 203 rfl
theorem q571 : (Jvm.Cond.sameMethod "MissCurves$Test" "MissCurves$Test" "of" "(LMissCurves$Asked;)Z") ∈ lw_all := lw_g (lw_at lw_m2 204 rfl) rfl
theorem q1356 : (Jvm.Cond.instanceMethod ({ cls := "MissCurves$Test", name := "<init>", desc := "()V" } : Jvm.MethodName)) ∈ lw_all := lw_g (lw_at lw_m6 29 rfl) rfl
theorem q1357 : (Jvm.Cond.code ({ cls := "MissCurves$Test", name := "<init>", desc := "()V" } : Jvm.MethodName) prog_28_method_1_code (1 : Nat) (Option.none : Option Jvm.ClassFile.FieldType)) ∈ lw_all := lw_g (lw_at lw_m6 30 rfl) rfl
theorem q1358 : (Jvm.Cond.methodLink "MissCurves$Test" (1 : Nat) ({ cls := "java/lang/Object", name := "<init>", desc := "()V" } : Jvm.MethodName)) ∈ lw_all := lw_g (lw_at lw_m6 31 rfl) rfl
theorem q3012 : (Jvm.Cond.castable "MissCurves$Test" "java/lang/Object") ∈ lw_tbl := lw_at lw_m13 5 rfl

/-! MissCurves$Compared -/
set_option maxRecDepth 100000
def RX19 : String := "MissCurves$Compared"
def TX19 : u_T := fun k => match k with
  | 0 => ("MissCurves$Compared", "one", "LMissCurves$Sum;", true)
  | 1 => ("MissCurves$Compared", "other", "LMissCurves$Sum;", true)
  | _ => ("MissCurves$Compared", "sign", "I", true)
def tyX19 : Nat → FieldType := fun k => match k with
  | 0 => .object "MissCurves$Sum"
  | 1 => .object "MissCurves$Sum"
  | _ => .int
abbrev wsX190 : List Cond := u_ws RX19 TX19 3
theorem nmX19 : ∀ a, a < 3 → ∀ b, b < 3 → a ≠ b → (TX19 a).2.1 ≠ (TX19 b).2.1 := by decide +kernel
theorem tyX19_ok : ∀ k, k < 3 → parseFieldDescriptor (TX19 k).2.2.1 = some (tyX19 k) := by decide +kernel
abbrev cX19_of : ByteArray := prog_8_method_2_code
def yX19_of : MethodName := ⟨RX19, "of", "(LMissCurves$Asked;)Z"⟩
def dkwX19_of_3 : List UInt8 := [158, 0, 17, 167, 0, 10, 32, 22, 4, 148, 154, 0, 7, 4, 167, 0, 4, 3, 172]
abbrev dktX19_of_3 : List UInt8 := dkwX19_of_3 ++ []
def dkwX19_of_2 : List UInt8 := [22, 4, 148, 156, 0, 36, 167, 0, 29, 42, 180, 0, 13, 16, 62, 160, 0, 13, 32, 22, 4, 148]
abbrev dktX19_of_2 : List UInt8 := dkwX19_of_2 ++ dktX19_of_3
def dkwX19_of_1 : List UInt8 := [43, 182, 0, 20, 55, 4, 43, 180, 0, 26, 154, 0, 52, 42, 180, 0, 13, 16, 60, 160, 0, 13, 32]
abbrev dktX19_of_1 : List UInt8 := dkwX19_of_1 ++ dktX19_of_2
def dkwX19_of_0 : List UInt8 := [42, 180, 0, 7, 43, 182, 0, 20, 65, 43, 180, 0, 26, 153, 0, 7, 9, 167, 0, 11, 42, 180, 0, 17]
abbrev dktX19_of_0 : List UInt8 := dkwX19_of_0 ++ dktX19_of_1
theorem dksX19_of_0 : cX19_of.data.toList.drop 0 = dktX19_of_0 := by decide +kernel
theorem dksX19_of_1 : cX19_of.data.toList.drop 24 = dktX19_of_1 := dk_seg dksX19_of_0 24 rfl rfl
theorem dksX19_of_2 : cX19_of.data.toList.drop 47 = dktX19_of_2 := dk_seg dksX19_of_1 23 rfl rfl
theorem dksX19_of_3 : cX19_of.data.toList.drop 69 = dktX19_of_3 := dk_seg dksX19_of_2 22 rfl rfl
theorem dX19_of_0 : decode cX19_of 0 = .ok (.aload_n 0, 1) := dk_42 (dk_at dksX19_of_0 0 rfl rfl)
theorem dX19_of_1 : decode cX19_of 1 = .ok (.getfield 7, 3) := dk_180 0 7 (dk_at dksX19_of_0 1 rfl rfl)
theorem dX19_of_4 : decode cX19_of 4 = .ok (.aload_n 1, 1) := dk_43 (dk_at dksX19_of_0 4 rfl rfl)
theorem dX19_of_5 : decode cX19_of 5 = .ok (.invokevirtual 20, 3) := dk_182 0 20 (dk_at dksX19_of_0 5 rfl rfl)
theorem dX19_of_8 : decode cX19_of 8 = .ok (.lstore_n 2, 1) := dk_65 (dk_at dksX19_of_0 8 rfl rfl)
theorem dX19_of_9 : decode cX19_of 9 = .ok (.aload_n 1, 1) := dk_43 (dk_at dksX19_of_0 9 rfl rfl)
theorem dX19_of_10 : decode cX19_of 10 = .ok (.getfield 26, 3) := dk_180 0 26 (dk_at dksX19_of_0 10 rfl rfl)
theorem dX19_of_13 : decode cX19_of 13 = .ok (.ifCond .eq 7, 3) := dk_153 0 7 (dk_at dksX19_of_0 13 rfl rfl)
theorem dX19_of_16 : decode cX19_of 16 = .ok (.lconst 0, 1) := dk_9 (dk_at dksX19_of_0 16 rfl rfl)
theorem dX19_of_17 : decode cX19_of 17 = .ok (.goto 11, 3) := dk_167 0 11 (dk_at dksX19_of_0 17 rfl rfl)
theorem dX19_of_20 : decode cX19_of 20 = .ok (.aload_n 0, 1) := dk_42 (dk_at dksX19_of_0 20 rfl rfl)
theorem dX19_of_21 : decode cX19_of 21 = .ok (.getfield 17, 3) := dk_180 0 17 (dk_at dksX19_of_0 21 rfl rfl)
theorem dX19_of_24 : decode cX19_of 24 = .ok (.aload_n 1, 1) := dk_43 (dk_at dksX19_of_1 0 rfl rfl)
theorem dX19_of_25 : decode cX19_of 25 = .ok (.invokevirtual 20, 3) := dk_182 0 20 (dk_at dksX19_of_1 1 rfl rfl)
theorem dX19_of_28 : decode cX19_of 28 = .ok (.lstore 4, 2) := dk_55 4 (dk_at dksX19_of_1 4 rfl rfl)
theorem dX19_of_30 : decode cX19_of 30 = .ok (.aload_n 1, 1) := dk_43 (dk_at dksX19_of_1 6 rfl rfl)
theorem dX19_of_31 : decode cX19_of 31 = .ok (.getfield 26, 3) := dk_180 0 26 (dk_at dksX19_of_1 7 rfl rfl)
theorem dX19_of_34 : decode cX19_of 34 = .ok (.ifCond .ne 52, 3) := dk_154 0 52 (dk_at dksX19_of_1 10 rfl rfl)
theorem dX19_of_37 : decode cX19_of 37 = .ok (.aload_n 0, 1) := dk_42 (dk_at dksX19_of_1 13 rfl rfl)
theorem dX19_of_38 : decode cX19_of 38 = .ok (.getfield 13, 3) := dk_180 0 13 (dk_at dksX19_of_1 14 rfl rfl)
theorem dX19_of_41 : decode cX19_of 41 = .ok (.bipush 60, 2) := dk_16 60 (dk_at dksX19_of_1 17 rfl rfl)
theorem dX19_of_43 : decode cX19_of 43 = .ok (.if_icmp .ne 13, 3) := dk_160 0 13 (dk_at dksX19_of_1 19 rfl rfl)
theorem dX19_of_46 : decode cX19_of 46 = .ok (.lload_n 2, 1) := dk_32 (dk_at dksX19_of_1 22 rfl rfl)
theorem dX19_of_47 : decode cX19_of 47 = .ok (.lload 4, 2) := dk_22 4 (dk_at dksX19_of_2 0 rfl rfl)
theorem dX19_of_49 : decode cX19_of 49 = .ok (.lcmp, 1) := dk_148 (dk_at dksX19_of_2 2 rfl rfl)
theorem dX19_of_50 : decode cX19_of 50 = .ok (.ifCond .ge 36, 3) := dk_156 0 36 (dk_at dksX19_of_2 3 rfl rfl)
theorem dX19_of_53 : decode cX19_of 53 = .ok (.goto 29, 3) := dk_167 0 29 (dk_at dksX19_of_2 6 rfl rfl)
theorem dX19_of_56 : decode cX19_of 56 = .ok (.aload_n 0, 1) := dk_42 (dk_at dksX19_of_2 9 rfl rfl)
theorem dX19_of_57 : decode cX19_of 57 = .ok (.getfield 13, 3) := dk_180 0 13 (dk_at dksX19_of_2 10 rfl rfl)
theorem dX19_of_60 : decode cX19_of 60 = .ok (.bipush 62, 2) := dk_16 62 (dk_at dksX19_of_2 13 rfl rfl)
theorem dX19_of_62 : decode cX19_of 62 = .ok (.if_icmp .ne 13, 3) := dk_160 0 13 (dk_at dksX19_of_2 15 rfl rfl)
theorem dX19_of_65 : decode cX19_of 65 = .ok (.lload_n 2, 1) := dk_32 (dk_at dksX19_of_2 18 rfl rfl)
theorem dX19_of_66 : decode cX19_of 66 = .ok (.lload 4, 2) := dk_22 4 (dk_at dksX19_of_2 19 rfl rfl)
theorem dX19_of_68 : decode cX19_of 68 = .ok (.lcmp, 1) := dk_148 (dk_at dksX19_of_2 21 rfl rfl)
theorem dX19_of_69 : decode cX19_of 69 = .ok (.ifCond .le 17, 3) := dk_158 0 17 (dk_at dksX19_of_3 0 rfl rfl)
theorem dX19_of_72 : decode cX19_of 72 = .ok (.goto 10, 3) := dk_167 0 10 (dk_at dksX19_of_3 3 rfl rfl)
theorem dX19_of_75 : decode cX19_of 75 = .ok (.lload_n 2, 1) := dk_32 (dk_at dksX19_of_3 6 rfl rfl)
theorem dX19_of_76 : decode cX19_of 76 = .ok (.lload 4, 2) := dk_22 4 (dk_at dksX19_of_3 7 rfl rfl)
theorem dX19_of_78 : decode cX19_of 78 = .ok (.lcmp, 1) := dk_148 (dk_at dksX19_of_3 9 rfl rfl)
theorem dX19_of_79 : decode cX19_of 79 = .ok (.ifCond .ne 7, 3) := dk_154 0 7 (dk_at dksX19_of_3 10 rfl rfl)
theorem dX19_of_82 : decode cX19_of 82 = .ok (.iconst 1, 1) := dk_4 (dk_at dksX19_of_3 13 rfl rfl)
theorem dX19_of_83 : decode cX19_of 83 = .ok (.goto 4, 3) := dk_167 0 4 (dk_at dksX19_of_3 14 rfl rfl)
theorem dX19_of_86 : decode cX19_of 86 = .ok (.iconst 0, 1) := dk_3 (dk_at dksX19_of_3 17 rfl rfl)
theorem dX19_of_87 : decode cX19_of 87 = .ok (.ireturn, 1) := dk_172 (dk_at dksX19_of_3 18 rfl rfl)
abbrev cX19_init : ByteArray := prog_8_method_1_code
def yX19_init : MethodName := ⟨RX19, "<init>", "(LMissCurves$Sum;ILMissCurves$Sum;)V"⟩
def dkwX19_init_0 : List UInt8 := [42, 183, 0, 1, 42, 43, 181, 0, 7, 42, 28, 181, 0, 13, 42, 45, 181, 0, 17, 177]
abbrev dktX19_init_0 : List UInt8 := dkwX19_init_0 ++ []
theorem dksX19_init_0 : cX19_init.data.toList.drop 0 = dktX19_init_0 := by decide +kernel
theorem dX19_init_0 : decode cX19_init 0 = .ok (.aload_n 0, 1) := dk_42 (dk_at dksX19_init_0 0 rfl rfl)
theorem dX19_init_1 : decode cX19_init 1 = .ok (.invokespecial 1, 3) := dk_183 0 1 (dk_at dksX19_init_0 1 rfl rfl)
theorem dX19_init_4 : decode cX19_init 4 = .ok (.aload_n 0, 1) := dk_42 (dk_at dksX19_init_0 4 rfl rfl)
theorem dX19_init_5 : decode cX19_init 5 = .ok (.aload_n 1, 1) := dk_43 (dk_at dksX19_init_0 5 rfl rfl)
theorem dX19_init_6 : decode cX19_init 6 = .ok (.putfield 7, 3) := dk_181 0 7 (dk_at dksX19_init_0 6 rfl rfl)
theorem dX19_init_9 : decode cX19_init 9 = .ok (.aload_n 0, 1) := dk_42 (dk_at dksX19_init_0 9 rfl rfl)
theorem dX19_init_10 : decode cX19_init 10 = .ok (.iload_n 2, 1) := dk_28 (dk_at dksX19_init_0 10 rfl rfl)
theorem dX19_init_11 : decode cX19_init 11 = .ok (.putfield 13, 3) := dk_181 0 13 (dk_at dksX19_init_0 11 rfl rfl)
theorem dX19_init_14 : decode cX19_init 14 = .ok (.aload_n 0, 1) := dk_42 (dk_at dksX19_init_0 14 rfl rfl)
theorem dX19_init_15 : decode cX19_init 15 = .ok (.aload_n 3, 1) := dk_45 (dk_at dksX19_init_0 15 rfl rfl)
theorem dX19_init_16 : decode cX19_init 16 = .ok (.putfield 17, 3) := dk_181 0 17 (dk_at dksX19_init_0 16 rfl rfl)
theorem dX19_init_19 : decode cX19_init 19 = .ok (.return_, 1) := dk_177 (dk_at dksX19_init_0 19 rfl rfl)
theorem q166 : (Jvm.Cond.initialized "MissCurves$Compared") ∈ lw_all := lw_g (lw_at lw_m1 39 rfl) rfl
theorem q355 : (Jvm.Cond.fieldLinkNest "MissCurves$Compared" (26 : Nat) "MissCurves$Asked" "isBroken" "Z" "MissCurves") ∈ lw_tbl := lw_at lw_m1 228 rfl
theorem q572 : (Jvm.Cond.selects "MissCurves$Compared" ({ cls := "MissCurves$Test", name := "of", desc := "(LMissCurves$Asked;)Z" } : Jvm.MethodName) ({ cls := "MissCurves$Compared", name := "of", desc := "(LMissCurves$Asked;)Z" } : Jvm.MethodName)) ∈ lw_all := lw_g (lw_at lw_m2 205 rfl) rfl
theorem q573 : (Jvm.Cond.instanceMethod ({ cls := "MissCurves$Compared", name := "of", desc := "(LMissCurves$Asked;)Z" } : Jvm.MethodName)) ∈ lw_all := lw_g (lw_at lw_m2 206 rfl) rfl
theorem q574 : (Jvm.Cond.code ({ cls := "MissCurves$Compared", name := "of", desc := "(LMissCurves$Asked;)Z" } : Jvm.MethodName) prog_8_method_2_code (6 : Nat) (Option.some Jvm.ClassFile.FieldType.boolean)) ∈ lw_all := lw_g (lw_at lw_m2 207 rfl) rfl
theorem q575 : (Jvm.Cond.methodLink "MissCurves$Compared" (20 : Nat) ({ cls := "MissCurves$Sum", name := "of", desc := "(LMissCurves$Asked;)J" } : Jvm.MethodName)) ∈ lw_all := lw_g (lw_at lw_m2 208 rfl) rfl
theorem q1351 : (Jvm.Cond.instantiable "MissCurves$Compared" (3 : Nat)) ∈ lw_all := lw_g (lw_at lw_m6 24 rfl) rfl
theorem q1353 : (Jvm.Cond.instanceMethod ({ cls := "MissCurves$Compared", name := "<init>", desc := "(LMissCurves$Sum;ILMissCurves$Sum;)V" } : Jvm.MethodName)) ∈ lw_all := lw_g (lw_at lw_m6 26 rfl) rfl
theorem q1354 : (Jvm.Cond.code ({ cls := "MissCurves$Compared", name := "<init>", desc := "(LMissCurves$Sum;ILMissCurves$Sum;)V" } : Jvm.MethodName) prog_8_method_1_code (4 : Nat) (Option.none : Option Jvm.ClassFile.FieldType)) ∈ lw_all := lw_g (lw_at lw_m6 27 rfl) rfl
theorem q1355 : (Jvm.Cond.methodLinkNest "MissCurves$Compared" (1 : Nat) ({ cls := "MissCurves$Test", name := "<init>", desc := "()V" } : Jvm.MethodName) "MissCurves") ∈ lw_tbl := lw_at lw_m6 28 rfl
theorem q1359 : (Jvm.Cond.fieldLink "MissCurves$Compared" (7 : Nat) "MissCurves$Compared" "one" "LMissCurves$Sum;") ∈ lw_all := lw_g (lw_at lw_m6 32 rfl) rfl
theorem q1360 : (Jvm.Cond.fieldLink "MissCurves$Compared" (17 : Nat) "MissCurves$Compared" "other" "LMissCurves$Sum;") ∈ lw_all := lw_g (lw_at lw_m6 33 rfl) rfl
theorem q1361 : (Jvm.Cond.fieldLink "MissCurves$Compared" (13 : Nat) "MissCurves$Compared" "sign" "I") ∈ lw_all := lw_g (lw_at lw_m6 34 rfl) rfl
theorem q1362 : (Jvm.Cond.laysFinal "MissCurves$Compared" "MissCurves$Compared" "one" "LMissCurves$Sum;") ∈ lw_all := lw_g (lw_at lw_m6 35 rfl) rfl
theorem q1363 : (Jvm.Cond.soleField "MissCurves$Compared" "one") ∈ lw_all := lw_g (lw_at lw_m6 36 rfl) rfl
theorem q1364 : (Jvm.Cond.laysFinal "MissCurves$Compared" "MissCurves$Compared" "other" "LMissCurves$Sum;") ∈ lw_all := lw_g (lw_at lw_m6 37 rfl) rfl
theorem q1365 : (Jvm.Cond.soleField "MissCurves$Compared" "other") ∈ lw_all := lw_g (lw_at lw_m6 38 rfl) rfl
theorem q1366 : (Jvm.Cond.laysFinal "MissCurves$Compared" "MissCurves$Compared" "sign" "I") ∈ lw_all := lw_g (lw_at lw_m6 39 rfl) rfl
theorem q1367 : (Jvm.Cond.soleField "MissCurves$Compared" "sign") ∈ lw_all := lw_g (lw_at lw_m6 40 rfl) rfl
theorem q1368 : (Jvm.Cond.superclass "MissCurves$Compared" "MissCurves$Test") ∈ lw_all := lw_g (lw_at lw_m6 41 rfl) rfl
theorem q1526 : (Jvm.Cond.selects "MissCurves$Compared" ({ cls := "java/lang/Object", name := "getClass", desc := "()Ljava/lang/Class;" } : Jvm.MethodName) ({ cls := "java/lang/Object", name := "getClass", desc := "()Ljava/lang/Class;" } : Jvm.MethodName)) ∈ lw_all := lw_g (lw_at lw_m6 199 rfl) rfl
theorem q1759 : (Jvm.Cond.selects "MissCurves$Compared" ({ cls := "java/lang/Object", name := "toString", desc := "()Ljava/lang/String;" } : Jvm.MethodName) ({ cls := "java/lang/Object", name := "toString", desc := "()Ljava/lang/String;" } : Jvm.MethodName)) ∈ lw_all := lw_g (lw_at lw_m7 192 rfl) rfl
theorem q3029 : (Jvm.Cond.castable "MissCurves$Compared" "java/lang/Object") ∈ lw_tbl := lw_at lw_m13 22 rfl
theorem q3041 : (Jvm.Cond.castable "MissCurves$Compared" "MissCurves$Test") ∈ lw_tbl := lw_at lw_m13 34 rfl
theorem in_X19 : ∀ w ∈ wsX190, w ∈ lw_all := lw_in wsX190 [1362, 1364, 1366] (by decide +kernel) (by decide +kernel)

/-! MissCurves$Books -/
set_option maxRecDepth 100000
def RX2 : String := "MissCurves$Books"
def TX2 : u_T := fun k => match k with
  | 0 => ("MissCurves$Books", "row", "[LMissCurves$Book;", true)
  | 1 => ("MissCurves$Books", "time", "I", false)
  | _ => ("MissCurves$Books", "sort", "I", false)
def tyX2 : Nat → FieldType := fun k => match k with
  | 0 => .array (.object "MissCurves$Book")
  | 1 => .int
  | _ => .int
abbrev wsX20 : List Cond := u_ws RX2 TX2 3
theorem nmX2 : ∀ a, a < 3 → ∀ b, b < 3 → a ≠ b → (TX2 a).2.1 ≠ (TX2 b).2.1 := by decide +kernel
theorem tyX2_ok : ∀ k, k < 3 → parseFieldDescriptor (TX2 k).2.2.1 = some (tyX2 k) := by decide +kernel
abbrev cX2_init : ByteArray := prog_6_method_1_code
def yX2_init : MethodName := ⟨RX2, "<init>", "()V"⟩
def dkwX2_init_1 : List UInt8 := [187, 0, 9, 89, 183, 0, 17, 83, 132, 1, 1, 167, 255, 235, 177]
abbrev dktX2_init_1 : List UInt8 := dkwX2_init_1 ++ []
def dkwX2_init_0 : List UInt8 := [42, 183, 0, 3, 42, 7, 189, 0, 9, 181, 0, 11, 3, 60, 27, 7, 162, 0, 22, 42, 180, 0, 11, 27]
abbrev dktX2_init_0 : List UInt8 := dkwX2_init_0 ++ dktX2_init_1
theorem dksX2_init_0 : cX2_init.data.toList.drop 0 = dktX2_init_0 := by decide +kernel
theorem dksX2_init_1 : cX2_init.data.toList.drop 24 = dktX2_init_1 := dk_seg dksX2_init_0 24 rfl rfl
theorem dX2_init_0 : decode cX2_init 0 = .ok (.aload_n 0, 1) := dk_42 (dk_at dksX2_init_0 0 rfl rfl)
theorem dX2_init_1 : decode cX2_init 1 = .ok (.invokespecial 3, 3) := dk_183 0 3 (dk_at dksX2_init_0 1 rfl rfl)
theorem dX2_init_4 : decode cX2_init 4 = .ok (.aload_n 0, 1) := dk_42 (dk_at dksX2_init_0 4 rfl rfl)
theorem dX2_init_5 : decode cX2_init 5 = .ok (.iconst 4, 1) := dk_7 (dk_at dksX2_init_0 5 rfl rfl)
theorem dX2_init_6 : decode cX2_init 6 = .ok (.anewarray 9, 3) := dk_189 0 9 (dk_at dksX2_init_0 6 rfl rfl)
theorem dX2_init_9 : decode cX2_init 9 = .ok (.putfield 11, 3) := dk_181 0 11 (dk_at dksX2_init_0 9 rfl rfl)
theorem dX2_init_12 : decode cX2_init 12 = .ok (.iconst 0, 1) := dk_3 (dk_at dksX2_init_0 12 rfl rfl)
theorem dX2_init_13 : decode cX2_init 13 = .ok (.istore_n 1, 1) := dk_60 (dk_at dksX2_init_0 13 rfl rfl)
theorem dX2_init_14 : decode cX2_init 14 = .ok (.iload_n 1, 1) := dk_27 (dk_at dksX2_init_0 14 rfl rfl)
theorem dX2_init_15 : decode cX2_init 15 = .ok (.iconst 4, 1) := dk_7 (dk_at dksX2_init_0 15 rfl rfl)
theorem dX2_init_16 : decode cX2_init 16 = .ok (.if_icmp .ge 22, 3) := dk_162 0 22 (dk_at dksX2_init_0 16 rfl rfl)
theorem dX2_init_19 : decode cX2_init 19 = .ok (.aload_n 0, 1) := dk_42 (dk_at dksX2_init_0 19 rfl rfl)
theorem dX2_init_20 : decode cX2_init 20 = .ok (.getfield 11, 3) := dk_180 0 11 (dk_at dksX2_init_0 20 rfl rfl)
theorem dX2_init_23 : decode cX2_init 23 = .ok (.iload_n 1, 1) := dk_27 (dk_at dksX2_init_0 23 rfl rfl)
theorem dX2_init_24 : decode cX2_init 24 = .ok (.new 9, 3) := dk_187 0 9 (dk_at dksX2_init_1 0 rfl rfl)
theorem dX2_init_27 : decode cX2_init 27 = .ok (.dup, 1) := dk_89 (dk_at dksX2_init_1 3 rfl rfl)
theorem dX2_init_28 : decode cX2_init 28 = .ok (.invokespecial 17, 3) := dk_183 0 17 (dk_at dksX2_init_1 4 rfl rfl)
theorem dX2_init_31 : decode cX2_init 31 = .ok (.aastore, 1) := dk_83 (dk_at dksX2_init_1 7 rfl rfl)
theorem dX2_init_32 : decode cX2_init 32 = .ok (.iinc 1 1, 3) := dk_132 1 1 (dk_at dksX2_init_1 8 rfl rfl)
theorem dX2_init_35 : decode cX2_init 35 = .ok (.goto (-21), 3) := dk_167 255 235 (dk_at dksX2_init_1 11 rfl rfl)
theorem dX2_init_38 : decode cX2_init 38 = .ok (.return_, 1) := dk_177 (dk_at dksX2_init_1 14 rfl rfl)
abbrev cX2_as : ByteArray := prog_6_method_2_code
def yX2_as : MethodName := ⟨RX2, "as", "(LMissCurves$Books;)LMissCurves$Books;"⟩
def dkwX2_as_1 : List UInt8 := [132, 2, 1, 167, 255, 232, 42, 43, 180, 0, 22, 181, 0, 22, 42, 43, 180, 0, 26, 181, 0, 26, 42, 176]
abbrev dktX2_as_1 : List UInt8 := dkwX2_as_1 ++ []
def dkwX2_as_0 : List UInt8 := [3, 61, 28, 7, 162, 0, 25, 42, 180, 0, 11, 28, 50, 43, 180, 0, 11, 28, 50, 182, 0, 18, 87]
abbrev dktX2_as_0 : List UInt8 := dkwX2_as_0 ++ dktX2_as_1
theorem dksX2_as_0 : cX2_as.data.toList.drop 0 = dktX2_as_0 := by decide +kernel
theorem dksX2_as_1 : cX2_as.data.toList.drop 23 = dktX2_as_1 := dk_seg dksX2_as_0 23 rfl rfl
theorem dX2_as_0 : decode cX2_as 0 = .ok (.iconst 0, 1) := dk_3 (dk_at dksX2_as_0 0 rfl rfl)
theorem dX2_as_1 : decode cX2_as 1 = .ok (.istore_n 2, 1) := dk_61 (dk_at dksX2_as_0 1 rfl rfl)
theorem dX2_as_2 : decode cX2_as 2 = .ok (.iload_n 2, 1) := dk_28 (dk_at dksX2_as_0 2 rfl rfl)
theorem dX2_as_3 : decode cX2_as 3 = .ok (.iconst 4, 1) := dk_7 (dk_at dksX2_as_0 3 rfl rfl)
theorem dX2_as_4 : decode cX2_as 4 = .ok (.if_icmp .ge 25, 3) := dk_162 0 25 (dk_at dksX2_as_0 4 rfl rfl)
theorem dX2_as_7 : decode cX2_as 7 = .ok (.aload_n 0, 1) := dk_42 (dk_at dksX2_as_0 7 rfl rfl)
theorem dX2_as_8 : decode cX2_as 8 = .ok (.getfield 11, 3) := dk_180 0 11 (dk_at dksX2_as_0 8 rfl rfl)
theorem dX2_as_11 : decode cX2_as 11 = .ok (.iload_n 2, 1) := dk_28 (dk_at dksX2_as_0 11 rfl rfl)
theorem dX2_as_12 : decode cX2_as 12 = .ok (.aaload, 1) := dk_50 (dk_at dksX2_as_0 12 rfl rfl)
theorem dX2_as_13 : decode cX2_as 13 = .ok (.aload_n 1, 1) := dk_43 (dk_at dksX2_as_0 13 rfl rfl)
theorem dX2_as_14 : decode cX2_as 14 = .ok (.getfield 11, 3) := dk_180 0 11 (dk_at dksX2_as_0 14 rfl rfl)
theorem dX2_as_17 : decode cX2_as 17 = .ok (.iload_n 2, 1) := dk_28 (dk_at dksX2_as_0 17 rfl rfl)
theorem dX2_as_18 : decode cX2_as 18 = .ok (.aaload, 1) := dk_50 (dk_at dksX2_as_0 18 rfl rfl)
theorem dX2_as_19 : decode cX2_as 19 = .ok (.invokevirtual 18, 3) := dk_182 0 18 (dk_at dksX2_as_0 19 rfl rfl)
theorem dX2_as_22 : decode cX2_as 22 = .ok (.pop, 1) := dk_87 (dk_at dksX2_as_0 22 rfl rfl)
theorem dX2_as_23 : decode cX2_as 23 = .ok (.iinc 2 1, 3) := dk_132 2 1 (dk_at dksX2_as_1 0 rfl rfl)
theorem dX2_as_26 : decode cX2_as 26 = .ok (.goto (-24), 3) := dk_167 255 232 (dk_at dksX2_as_1 3 rfl rfl)
theorem dX2_as_29 : decode cX2_as 29 = .ok (.aload_n 0, 1) := dk_42 (dk_at dksX2_as_1 6 rfl rfl)
theorem dX2_as_30 : decode cX2_as 30 = .ok (.aload_n 1, 1) := dk_43 (dk_at dksX2_as_1 7 rfl rfl)
theorem dX2_as_31 : decode cX2_as 31 = .ok (.getfield 22, 3) := dk_180 0 22 (dk_at dksX2_as_1 8 rfl rfl)
theorem dX2_as_34 : decode cX2_as 34 = .ok (.putfield 22, 3) := dk_181 0 22 (dk_at dksX2_as_1 11 rfl rfl)
theorem dX2_as_37 : decode cX2_as 37 = .ok (.aload_n 0, 1) := dk_42 (dk_at dksX2_as_1 14 rfl rfl)
theorem dX2_as_38 : decode cX2_as 38 = .ok (.aload_n 1, 1) := dk_43 (dk_at dksX2_as_1 15 rfl rfl)
theorem dX2_as_39 : decode cX2_as 39 = .ok (.getfield 26, 3) := dk_180 0 26 (dk_at dksX2_as_1 16 rfl rfl)
theorem dX2_as_42 : decode cX2_as 42 = .ok (.putfield 26, 3) := dk_181 0 26 (dk_at dksX2_as_1 19 rfl rfl)
theorem dX2_as_45 : decode cX2_as 45 = .ok (.aload_n 0, 1) := dk_42 (dk_at dksX2_as_1 22 rfl rfl)
theorem dX2_as_46 : decode cX2_as 46 = .ok (.areturn, 1) := dk_176 (dk_at dksX2_as_1 23 rfl rfl)
theorem q133 : (Jvm.Cond.initialized "MissCurves$Books") ∈ lw_all := lw_g (lw_at lw_m1 6 rfl) rfl
theorem q223 : (Jvm.Cond.instantiable "MissCurves$Books" (3 : Nat)) ∈ lw_all := lw_g (lw_at lw_m1 96 rfl) rfl
theorem q225 : (Jvm.Cond.instanceMethod ({ cls := "MissCurves$Books", name := "<init>", desc := "()V" } : Jvm.MethodName)) ∈ lw_all := lw_g (lw_at lw_m1 98 rfl) rfl
theorem q226 : (Jvm.Cond.code ({ cls := "MissCurves$Books", name := "<init>", desc := "()V" } : Jvm.MethodName) prog_6_method_1_code (2 : Nat) (Option.none : Option Jvm.ClassFile.FieldType)) ∈ lw_all := lw_g (lw_at lw_m1 99 rfl) rfl
theorem q227 : (Jvm.Cond.methodLink "MissCurves$Books" (3 : Nat) ({ cls := "java/lang/Object", name := "<init>", desc := "()V" } : Jvm.MethodName)) ∈ lw_all := lw_g (lw_at lw_m1 100 rfl) rfl
theorem q228 : (Jvm.Cond.classLink "MissCurves$Books" (9 : Nat) "MissCurves$Book") ∈ lw_all := lw_g (lw_at lw_m1 101 rfl) rfl
theorem q231 : (Jvm.Cond.methodLinkNest "MissCurves$Books" (17 : Nat) ({ cls := "MissCurves$Book", name := "<init>", desc := "()V" } : Jvm.MethodName) "MissCurves") ∈ lw_tbl := lw_at lw_m1 104 rfl
theorem q277 : (Jvm.Cond.fieldLink "MissCurves$Books" (11 : Nat) "MissCurves$Books" "row" "[LMissCurves$Book;") ∈ lw_all := lw_g (lw_at lw_m1 150 rfl) rfl
theorem q280 : (Jvm.Cond.fieldLink "MissCurves$Books" (22 : Nat) "MissCurves$Books" "time" "I") ∈ lw_all := lw_g (lw_at lw_m1 153 rfl) rfl
theorem q282 : (Jvm.Cond.fieldLink "MissCurves$Books" (26 : Nat) "MissCurves$Books" "sort" "I") ∈ lw_all := lw_g (lw_at lw_m1 155 rfl) rfl
theorem q285 : (Jvm.Cond.laysFinal "MissCurves$Books" "MissCurves$Books" "row" "[LMissCurves$Book;") ∈ lw_all := lw_g (lw_at lw_m1 158 rfl) rfl
theorem q286 : (Jvm.Cond.soleField "MissCurves$Books" "row") ∈ lw_all := lw_g (lw_at lw_m1 159 rfl) rfl
theorem q287 : (Jvm.Cond.lays "MissCurves$Books" "MissCurves$Books" "time" "I") ∈ lw_all := lw_g (lw_at lw_m1 160 rfl) rfl
theorem q288 : (Jvm.Cond.soleField "MissCurves$Books" "time") ∈ lw_all := lw_g (lw_at lw_m1 161 rfl) rfl
theorem q289 : (Jvm.Cond.lays "MissCurves$Books" "MissCurves$Books" "sort" "I") ∈ lw_all := lw_g (lw_at lw_m1 162 rfl) rfl
theorem q290 : (Jvm.Cond.soleField "MissCurves$Books" "sort") ∈ lw_all := lw_g (lw_at lw_m1 163 rfl) rfl
theorem q291 : (Jvm.Cond.superclass "MissCurves$Books" "java/lang/Object") ∈ lw_all := lw_g (lw_at lw_m1 164 rfl) rfl
theorem q1524 : (Jvm.Cond.selects "MissCurves$Books" ({ cls := "java/lang/Object", name := "getClass", desc := "()Ljava/lang/Class;" } : Jvm.MethodName) ({ cls := "java/lang/Object", name := "getClass", desc := "()Ljava/lang/Class;" } : Jvm.MethodName)) ∈ lw_all := lw_g (lw_at lw_m6 197 rfl) rfl
theorem q1586 : (Jvm.Cond.instanceMethod ({ cls := "MissCurves$Books", name := "as", desc := "(LMissCurves$Books;)LMissCurves$Books;" } : Jvm.MethodName)) ∈ lw_all := lw_g (lw_at lw_m7 19 rfl) rfl
theorem q1587 : (Jvm.Cond.selects "MissCurves$Books" ({ cls := "MissCurves$Books", name := "as", desc := "(LMissCurves$Books;)LMissCurves$Books;" } : Jvm.MethodName) ({ cls := "MissCurves$Books", name := "as", desc := "(LMissCurves$Books;)LMissCurves$Books;" } : Jvm.MethodName)) ∈ lw_all := lw_g (lw_at lw_m7 20 rfl) rfl
theorem q1588 : (Jvm.Cond.code ({ cls := "MissCurves$Books", name := "as", desc := "(LMissCurves$Books;)LMissCurves$Books;" } : Jvm.MethodName) prog_6_method_2_code (3 : Nat) (Option.some (Jvm.ClassFile.FieldType.object "MissCurves$Books"))) ∈ lw_all := lw_g (lw_at lw_m7 21 rfl) rfl
theorem q1589 : (Jvm.Cond.methodLink "MissCurves$Books" (18 : Nat) ({ cls := "MissCurves$Book", name := "as", desc := "(LMissCurves$Book;)LMissCurves$Book;" } : Jvm.MethodName)) ∈ lw_all := lw_g (lw_at lw_m7 22 rfl) rfl
theorem q1757 : (Jvm.Cond.selects "MissCurves$Books" ({ cls := "java/lang/Object", name := "toString", desc := "()Ljava/lang/String;" } : Jvm.MethodName) ({ cls := "java/lang/Object", name := "toString", desc := "()Ljava/lang/String;" } : Jvm.MethodName)) ∈ lw_all := lw_g (lw_at lw_m7 190 rfl) rfl
theorem q3009 : (Jvm.Cond.castable "MissCurves$Books" "java/lang/Object") ∈ lw_tbl := lw_at lw_m13 2 rfl
theorem in_X2 : ∀ w ∈ wsX20, w ∈ lw_all := lw_in wsX20 [285, 287, 289] (by decide +kernel) (by decide +kernel)

/-! MissCurves$Not -/
set_option maxRecDepth 100000
def RX20 : String := "MissCurves$Not"
def TX20 : u_T := fun k => match k with
  | _ => ("MissCurves$Not", "test", "LMissCurves$Test;", true)
def tyX20 : Nat → FieldType := fun k => match k with
  | _ => .object "MissCurves$Test"
abbrev wsX200 : List Cond := u_ws RX20 TX20 1
theorem nmX20 : ∀ a, a < 1 → ∀ b, b < 1 → a ≠ b → (TX20 a).2.1 ≠ (TX20 b).2.1 := by decide +kernel
theorem tyX20_ok : ∀ k, k < 1 → parseFieldDescriptor (TX20 k).2.2.1 = some (tyX20 k) := by decide +kernel
abbrev cX20_of : ByteArray := prog_17_method_2_code
def yX20_of : MethodName := ⟨RX20, "of", "(LMissCurves$Asked;)Z"⟩
def dkwX20_of_0 : List UInt8 := [42, 180, 0, 7, 43, 182, 0, 13, 154, 0, 14, 43, 180, 0, 17, 154, 0, 7, 4, 167, 0, 4, 3, 172]
abbrev dktX20_of_0 : List UInt8 := dkwX20_of_0 ++ []
theorem dksX20_of_0 : cX20_of.data.toList.drop 0 = dktX20_of_0 := by decide +kernel
theorem dX20_of_0 : decode cX20_of 0 = .ok (.aload_n 0, 1) := dk_42 (dk_at dksX20_of_0 0 rfl rfl)
theorem dX20_of_1 : decode cX20_of 1 = .ok (.getfield 7, 3) := dk_180 0 7 (dk_at dksX20_of_0 1 rfl rfl)
theorem dX20_of_4 : decode cX20_of 4 = .ok (.aload_n 1, 1) := dk_43 (dk_at dksX20_of_0 4 rfl rfl)
theorem dX20_of_5 : decode cX20_of 5 = .ok (.invokevirtual 13, 3) := dk_182 0 13 (dk_at dksX20_of_0 5 rfl rfl)
theorem dX20_of_8 : decode cX20_of 8 = .ok (.ifCond .ne 14, 3) := dk_154 0 14 (dk_at dksX20_of_0 8 rfl rfl)
theorem dX20_of_11 : decode cX20_of 11 = .ok (.aload_n 1, 1) := dk_43 (dk_at dksX20_of_0 11 rfl rfl)
theorem dX20_of_12 : decode cX20_of 12 = .ok (.getfield 17, 3) := dk_180 0 17 (dk_at dksX20_of_0 12 rfl rfl)
theorem dX20_of_15 : decode cX20_of 15 = .ok (.ifCond .ne 7, 3) := dk_154 0 7 (dk_at dksX20_of_0 15 rfl rfl)
theorem dX20_of_18 : decode cX20_of 18 = .ok (.iconst 1, 1) := dk_4 (dk_at dksX20_of_0 18 rfl rfl)
theorem dX20_of_19 : decode cX20_of 19 = .ok (.goto 4, 3) := dk_167 0 4 (dk_at dksX20_of_0 19 rfl rfl)
theorem dX20_of_22 : decode cX20_of 22 = .ok (.iconst 0, 1) := dk_3 (dk_at dksX20_of_0 22 rfl rfl)
theorem dX20_of_23 : decode cX20_of 23 = .ok (.ireturn, 1) := dk_172 (dk_at dksX20_of_0 23 rfl rfl)
abbrev cX20_init : ByteArray := prog_17_method_1_code
def yX20_init : MethodName := ⟨RX20, "<init>", "(LMissCurves$Test;)V"⟩
def dkwX20_init_0 : List UInt8 := [42, 183, 0, 1, 42, 43, 181, 0, 7, 177]
abbrev dktX20_init_0 : List UInt8 := dkwX20_init_0 ++ []
theorem dksX20_init_0 : cX20_init.data.toList.drop 0 = dktX20_init_0 := by decide +kernel
theorem dX20_init_0 : decode cX20_init 0 = .ok (.aload_n 0, 1) := dk_42 (dk_at dksX20_init_0 0 rfl rfl)
theorem dX20_init_1 : decode cX20_init 1 = .ok (.invokespecial 1, 3) := dk_183 0 1 (dk_at dksX20_init_0 1 rfl rfl)
theorem dX20_init_4 : decode cX20_init 4 = .ok (.aload_n 0, 1) := dk_42 (dk_at dksX20_init_0 4 rfl rfl)
theorem dX20_init_5 : decode cX20_init 5 = .ok (.aload_n 1, 1) := dk_43 (dk_at dksX20_init_0 5 rfl rfl)
theorem dX20_init_6 : decode cX20_init 6 = .ok (.putfield 7, 3) := dk_181 0 7 (dk_at dksX20_init_0 6 rfl rfl)
theorem dX20_init_9 : decode cX20_init 9 = .ok (.return_, 1) := dk_177 (dk_at dksX20_init_0 9 rfl rfl)
theorem q167 : (Jvm.Cond.initialized "MissCurves$Not") ∈ lw_all := lw_g (lw_at lw_m1 40 rfl) rfl
theorem q356 : (Jvm.Cond.fieldLinkNest "MissCurves$Not" (17 : Nat) "MissCurves$Asked" "isBroken" "Z" "MissCurves") ∈ lw_tbl := lw_at lw_m1 229 rfl
theorem q598 : (Jvm.Cond.selects "MissCurves$Not" ({ cls := "MissCurves$Test", name := "of", desc := "(LMissCurves$Asked;)Z" } : Jvm.MethodName) ({ cls := "MissCurves$Not", name := "of", desc := "(LMissCurves$Asked;)Z" } : Jvm.MethodName)) ∈ lw_all := lw_g (lw_at lw_m2 231 rfl) rfl
theorem q599 : (Jvm.Cond.instanceMethod ({ cls := "MissCurves$Not", name := "of", desc := "(LMissCurves$Asked;)Z" } : Jvm.MethodName)) ∈ lw_all := lw_g (lw_at lw_m2 232 rfl) rfl
theorem q600 : (Jvm.Cond.code ({ cls := "MissCurves$Not", name := "of", desc := "(LMissCurves$Asked;)Z" } : Jvm.MethodName) prog_17_method_2_code (2 : Nat) (Option.some Jvm.ClassFile.FieldType.boolean)) ∈ lw_all := lw_g (lw_at lw_m2 233 rfl) rfl
theorem q601 : (Jvm.Cond.methodLink "MissCurves$Not" (13 : Nat) ({ cls := "MissCurves$Test", name := "of", desc := "(LMissCurves$Asked;)Z" } : Jvm.MethodName)) ∈ lw_all := lw_g (lw_at lw_m2 234 rfl) rfl
theorem q1370 : (Jvm.Cond.instantiable "MissCurves$Not" (1 : Nat)) ∈ lw_all := lw_g (lw_at lw_m6 43 rfl) rfl
theorem q1372 : (Jvm.Cond.instanceMethod ({ cls := "MissCurves$Not", name := "<init>", desc := "(LMissCurves$Test;)V" } : Jvm.MethodName)) ∈ lw_all := lw_g (lw_at lw_m6 45 rfl) rfl
theorem q1373 : (Jvm.Cond.code ({ cls := "MissCurves$Not", name := "<init>", desc := "(LMissCurves$Test;)V" } : Jvm.MethodName) prog_17_method_1_code (2 : Nat) (Option.none : Option Jvm.ClassFile.FieldType)) ∈ lw_all := lw_g (lw_at lw_m6 46 rfl) rfl
theorem q1374 : (Jvm.Cond.methodLinkNest "MissCurves$Not" (1 : Nat) ({ cls := "MissCurves$Test", name := "<init>", desc := "()V" } : Jvm.MethodName) "MissCurves") ∈ lw_tbl := lw_at lw_m6 47 rfl
theorem q1375 : (Jvm.Cond.fieldLink "MissCurves$Not" (7 : Nat) "MissCurves$Not" "test" "LMissCurves$Test;") ∈ lw_all := lw_g (lw_at lw_m6 48 rfl) rfl
theorem q1376 : (Jvm.Cond.laysFinal "MissCurves$Not" "MissCurves$Not" "test" "LMissCurves$Test;") ∈ lw_all := lw_g (lw_at lw_m6 49 rfl) rfl
theorem q1377 : (Jvm.Cond.soleField "MissCurves$Not" "test") ∈ lw_all := lw_g (lw_at lw_m6 50 rfl) rfl
theorem q1378 : (Jvm.Cond.superclass "MissCurves$Not" "MissCurves$Test") ∈ lw_all := lw_g (lw_at lw_m6 51 rfl) rfl
theorem q1534 : (Jvm.Cond.selects "MissCurves$Not" ({ cls := "java/lang/Object", name := "getClass", desc := "()Ljava/lang/Class;" } : Jvm.MethodName) ({ cls := "java/lang/Object", name := "getClass", desc := "()Ljava/lang/Class;" } : Jvm.MethodName)) ∈ lw_all := lw_g (lw_at lw_m6 207 rfl) rfl
theorem q1767 : (Jvm.Cond.selects "MissCurves$Not" ({ cls := "java/lang/Object", name := "toString", desc := "()Ljava/lang/String;" } : Jvm.MethodName) ({ cls := "java/lang/Object", name := "toString", desc := "()Ljava/lang/String;" } : Jvm.MethodName)) ∈ lw_all := lw_g (lw_at lw_m7 200 rfl) rfl
theorem q3030 : (Jvm.Cond.castable "MissCurves$Not" "java/lang/Object") ∈ lw_tbl := lw_at lw_m13 23 rfl
theorem q3042 : (Jvm.Cond.castable "MissCurves$Not" "MissCurves$Test") ∈ lw_tbl := lw_at lw_m13 35 rfl
theorem in_X20 : ∀ w ∈ wsX200, w ∈ lw_all := lw_in wsX200 [1376] (by decide +kernel) (by decide +kernel)

/-! MissCurves$Row -/
set_option maxRecDepth 100000
def RX21 : String := "MissCurves$Row"
def TX21 : u_T := fun k => match k with
  | 0 => ("MissCurves$Row", "all", "Z", true)
  | _ => ("MissCurves$Row", "tests", "[LMissCurves$Test;", true)
def tyX21 : Nat → FieldType := fun k => match k with
  | 0 => .boolean
  | _ => .array (.object "MissCurves$Test")
abbrev wsX210 : List Cond := u_ws RX21 TX21 2
theorem nmX21 : ∀ a, a < 2 → ∀ b, b < 2 → a ≠ b → (TX21 a).2.1 ≠ (TX21 b).2.1 := by decide +kernel
theorem tyX21_ok : ∀ k, k < 2 → parseFieldDescriptor (TX21 k).2.2.1 = some (tyX21 k) := by decide +kernel
abbrev cX21_of : ByteArray := prog_24_method_2_code
def yX21_of : MethodName := ⟨RX21, "of", "(LMissCurves$Asked;)Z"⟩
def dkwX21_of_3 : List UInt8 := [180, 0, 7, 172]
abbrev dktX21_of_3 : List UInt8 := dkwX21_of_3 ++ []
def dkwX21_of_2 : List UInt8 := [159, 0, 16, 42, 180, 0, 7, 154, 0, 7, 4, 167, 0, 4, 3, 172, 132, 4, 1, 167, 255, 202, 42]
abbrev dktX21_of_2 : List UInt8 := dkwX21_of_2 ++ dktX21_of_3
def dkwX21_of_1 : List UInt8 := [25, 5, 43, 182, 0, 17, 54, 6, 43, 180, 0, 21, 153, 0, 5, 3, 172, 21, 6, 42, 180, 0, 7]
abbrev dktX21_of_1 : List UInt8 := dkwX21_of_1 ++ dktX21_of_2
def dkwX21_of_0 : List UInt8 := [42, 180, 0, 13, 77, 44, 190, 62, 3, 54, 4, 21, 4, 29, 162, 0, 54, 44, 21, 4, 50, 58, 5]
abbrev dktX21_of_0 : List UInt8 := dkwX21_of_0 ++ dktX21_of_1
theorem dksX21_of_0 : cX21_of.data.toList.drop 0 = dktX21_of_0 := by decide +kernel
theorem dksX21_of_1 : cX21_of.data.toList.drop 23 = dktX21_of_1 := dk_seg dksX21_of_0 23 rfl rfl
theorem dksX21_of_2 : cX21_of.data.toList.drop 46 = dktX21_of_2 := dk_seg dksX21_of_1 23 rfl rfl
theorem dksX21_of_3 : cX21_of.data.toList.drop 69 = dktX21_of_3 := dk_seg dksX21_of_2 23 rfl rfl
theorem dX21_of_0 : decode cX21_of 0 = .ok (.aload_n 0, 1) := dk_42 (dk_at dksX21_of_0 0 rfl rfl)
theorem dX21_of_1 : decode cX21_of 1 = .ok (.getfield 13, 3) := dk_180 0 13 (dk_at dksX21_of_0 1 rfl rfl)
theorem dX21_of_4 : decode cX21_of 4 = .ok (.astore_n 2, 1) := dk_77 (dk_at dksX21_of_0 4 rfl rfl)
theorem dX21_of_5 : decode cX21_of 5 = .ok (.aload_n 2, 1) := dk_44 (dk_at dksX21_of_0 5 rfl rfl)
theorem dX21_of_6 : decode cX21_of 6 = .ok (.arraylength, 1) := dk_190 (dk_at dksX21_of_0 6 rfl rfl)
theorem dX21_of_7 : decode cX21_of 7 = .ok (.istore_n 3, 1) := dk_62 (dk_at dksX21_of_0 7 rfl rfl)
theorem dX21_of_8 : decode cX21_of 8 = .ok (.iconst 0, 1) := dk_3 (dk_at dksX21_of_0 8 rfl rfl)
theorem dX21_of_9 : decode cX21_of 9 = .ok (.istore 4, 2) := dk_54 4 (dk_at dksX21_of_0 9 rfl rfl)
theorem dX21_of_11 : decode cX21_of 11 = .ok (.iload 4, 2) := dk_21 4 (dk_at dksX21_of_0 11 rfl rfl)
theorem dX21_of_13 : decode cX21_of 13 = .ok (.iload_n 3, 1) := dk_29 (dk_at dksX21_of_0 13 rfl rfl)
theorem dX21_of_14 : decode cX21_of 14 = .ok (.if_icmp .ge 54, 3) := dk_162 0 54 (dk_at dksX21_of_0 14 rfl rfl)
theorem dX21_of_17 : decode cX21_of 17 = .ok (.aload_n 2, 1) := dk_44 (dk_at dksX21_of_0 17 rfl rfl)
theorem dX21_of_18 : decode cX21_of 18 = .ok (.iload 4, 2) := dk_21 4 (dk_at dksX21_of_0 18 rfl rfl)
theorem dX21_of_20 : decode cX21_of 20 = .ok (.aaload, 1) := dk_50 (dk_at dksX21_of_0 20 rfl rfl)
theorem dX21_of_21 : decode cX21_of 21 = .ok (.astore 5, 2) := dk_58 5 (dk_at dksX21_of_0 21 rfl rfl)
theorem dX21_of_23 : decode cX21_of 23 = .ok (.aload 5, 2) := dk_25 5 (dk_at dksX21_of_1 0 rfl rfl)
theorem dX21_of_25 : decode cX21_of 25 = .ok (.aload_n 1, 1) := dk_43 (dk_at dksX21_of_1 2 rfl rfl)
theorem dX21_of_26 : decode cX21_of 26 = .ok (.invokevirtual 17, 3) := dk_182 0 17 (dk_at dksX21_of_1 3 rfl rfl)
theorem dX21_of_29 : decode cX21_of 29 = .ok (.istore 6, 2) := dk_54 6 (dk_at dksX21_of_1 6 rfl rfl)
theorem dX21_of_31 : decode cX21_of 31 = .ok (.aload_n 1, 1) := dk_43 (dk_at dksX21_of_1 8 rfl rfl)
theorem dX21_of_32 : decode cX21_of 32 = .ok (.getfield 21, 3) := dk_180 0 21 (dk_at dksX21_of_1 9 rfl rfl)
theorem dX21_of_35 : decode cX21_of 35 = .ok (.ifCond .eq 5, 3) := dk_153 0 5 (dk_at dksX21_of_1 12 rfl rfl)
theorem dX21_of_38 : decode cX21_of 38 = .ok (.iconst 0, 1) := dk_3 (dk_at dksX21_of_1 15 rfl rfl)
theorem dX21_of_39 : decode cX21_of 39 = .ok (.ireturn, 1) := dk_172 (dk_at dksX21_of_1 16 rfl rfl)
theorem dX21_of_40 : decode cX21_of 40 = .ok (.iload 6, 2) := dk_21 6 (dk_at dksX21_of_1 17 rfl rfl)
theorem dX21_of_42 : decode cX21_of 42 = .ok (.aload_n 0, 1) := dk_42 (dk_at dksX21_of_1 19 rfl rfl)
theorem dX21_of_43 : decode cX21_of 43 = .ok (.getfield 7, 3) := dk_180 0 7 (dk_at dksX21_of_1 20 rfl rfl)
theorem dX21_of_46 : decode cX21_of 46 = .ok (.if_icmp .eq 16, 3) := dk_159 0 16 (dk_at dksX21_of_2 0 rfl rfl)
theorem dX21_of_49 : decode cX21_of 49 = .ok (.aload_n 0, 1) := dk_42 (dk_at dksX21_of_2 3 rfl rfl)
theorem dX21_of_50 : decode cX21_of 50 = .ok (.getfield 7, 3) := dk_180 0 7 (dk_at dksX21_of_2 4 rfl rfl)
theorem dX21_of_53 : decode cX21_of 53 = .ok (.ifCond .ne 7, 3) := dk_154 0 7 (dk_at dksX21_of_2 7 rfl rfl)
theorem dX21_of_56 : decode cX21_of 56 = .ok (.iconst 1, 1) := dk_4 (dk_at dksX21_of_2 10 rfl rfl)
theorem dX21_of_57 : decode cX21_of 57 = .ok (.goto 4, 3) := dk_167 0 4 (dk_at dksX21_of_2 11 rfl rfl)
theorem dX21_of_60 : decode cX21_of 60 = .ok (.iconst 0, 1) := dk_3 (dk_at dksX21_of_2 14 rfl rfl)
theorem dX21_of_61 : decode cX21_of 61 = .ok (.ireturn, 1) := dk_172 (dk_at dksX21_of_2 15 rfl rfl)
theorem dX21_of_62 : decode cX21_of 62 = .ok (.iinc 4 1, 3) := dk_132 4 1 (dk_at dksX21_of_2 16 rfl rfl)
theorem dX21_of_65 : decode cX21_of 65 = .ok (.goto (-54), 3) := dk_167 255 202 (dk_at dksX21_of_2 19 rfl rfl)
theorem dX21_of_68 : decode cX21_of 68 = .ok (.aload_n 0, 1) := dk_42 (dk_at dksX21_of_2 22 rfl rfl)
theorem dX21_of_69 : decode cX21_of 69 = .ok (.getfield 7, 3) := dk_180 0 7 (dk_at dksX21_of_3 0 rfl rfl)
theorem dX21_of_72 : decode cX21_of 72 = .ok (.ireturn, 1) := dk_172 (dk_at dksX21_of_3 3 rfl rfl)
abbrev cX21_init : ByteArray := prog_24_method_1_code
def yX21_init : MethodName := ⟨RX21, "<init>", "(Z[LMissCurves$Test;)V"⟩
def dkwX21_init_0 : List UInt8 := [42, 183, 0, 1, 42, 27, 181, 0, 7, 42, 44, 181, 0, 13, 177]
abbrev dktX21_init_0 : List UInt8 := dkwX21_init_0 ++ []
theorem dksX21_init_0 : cX21_init.data.toList.drop 0 = dktX21_init_0 := by decide +kernel
theorem dX21_init_0 : decode cX21_init 0 = .ok (.aload_n 0, 1) := dk_42 (dk_at dksX21_init_0 0 rfl rfl)
theorem dX21_init_1 : decode cX21_init 1 = .ok (.invokespecial 1, 3) := dk_183 0 1 (dk_at dksX21_init_0 1 rfl rfl)
theorem dX21_init_4 : decode cX21_init 4 = .ok (.aload_n 0, 1) := dk_42 (dk_at dksX21_init_0 4 rfl rfl)
theorem dX21_init_5 : decode cX21_init 5 = .ok (.iload_n 1, 1) := dk_27 (dk_at dksX21_init_0 5 rfl rfl)
theorem dX21_init_6 : decode cX21_init 6 = .ok (.putfield 7, 3) := dk_181 0 7 (dk_at dksX21_init_0 6 rfl rfl)
theorem dX21_init_9 : decode cX21_init 9 = .ok (.aload_n 0, 1) := dk_42 (dk_at dksX21_init_0 9 rfl rfl)
theorem dX21_init_10 : decode cX21_init 10 = .ok (.aload_n 2, 1) := dk_44 (dk_at dksX21_init_0 10 rfl rfl)
theorem dX21_init_11 : decode cX21_init 11 = .ok (.putfield 13, 3) := dk_181 0 13 (dk_at dksX21_init_0 11 rfl rfl)
theorem dX21_init_14 : decode cX21_init 14 = .ok (.return_, 1) := dk_177 (dk_at dksX21_init_0 14 rfl rfl)
theorem q168 : (Jvm.Cond.initialized "MissCurves$Row") ∈ lw_all := lw_g (lw_at lw_m1 41 rfl) rfl
theorem q357 : (Jvm.Cond.fieldLinkNest "MissCurves$Row" (21 : Nat) "MissCurves$Asked" "isBroken" "Z" "MissCurves") ∈ lw_tbl := lw_at lw_m1 230 rfl
theorem q602 : (Jvm.Cond.instanceMethod ({ cls := "MissCurves$Row", name := "of", desc := "(LMissCurves$Asked;)Z" } : Jvm.MethodName)) ∈ lw_all := lw_g (lw_at lw_m2 235 rfl) rfl
theorem q603 : (Jvm.Cond.code ({ cls := "MissCurves$Row", name := "of", desc := "(LMissCurves$Asked;)Z" } : Jvm.MethodName) prog_24_method_2_code (7 : Nat) (Option.some Jvm.ClassFile.FieldType.boolean)) ∈ lw_all := lw_g (lw_at lw_m2 236 rfl) rfl
theorem q604 : (Jvm.Cond.methodLink "MissCurves$Row" (17 : Nat) ({ cls := "MissCurves$Test", name := "of", desc := "(LMissCurves$Asked;)Z" } : Jvm.MethodName)) ∈ lw_all := lw_g (lw_at lw_m2 237 rfl) rfl
theorem q605 : (Jvm.Cond.selects "MissCurves$Row" ({ cls := "MissCurves$Test", name := "of", desc := "(LMissCurves$Asked;)Z" } : Jvm.MethodName) ({ cls := "MissCurves$Row", name := "of", desc := "(LMissCurves$Asked;)Z" } : Jvm.MethodName)) ∈ lw_all := lw_g (lw_at lw_m2 238 rfl) rfl
theorem q1390 : (Jvm.Cond.instantiable "MissCurves$Row" (2 : Nat)) ∈ lw_all := lw_g (lw_at lw_m6 63 rfl) rfl
theorem q1392 : (Jvm.Cond.instanceMethod ({ cls := "MissCurves$Row", name := "<init>", desc := "(Z[LMissCurves$Test;)V" } : Jvm.MethodName)) ∈ lw_all := lw_g (lw_at lw_m6 65 rfl) rfl
theorem q1393 : (Jvm.Cond.code ({ cls := "MissCurves$Row", name := "<init>", desc := "(Z[LMissCurves$Test;)V" } : Jvm.MethodName) prog_24_method_1_code (3 : Nat) (Option.none : Option Jvm.ClassFile.FieldType)) ∈ lw_all := lw_g (lw_at lw_m6 66 rfl) rfl
theorem q1394 : (Jvm.Cond.methodLinkNest "MissCurves$Row" (1 : Nat) ({ cls := "MissCurves$Test", name := "<init>", desc := "()V" } : Jvm.MethodName) "MissCurves") ∈ lw_tbl := lw_at lw_m6 67 rfl
theorem q1395 : (Jvm.Cond.fieldLink "MissCurves$Row" (7 : Nat) "MissCurves$Row" "all" "Z") ∈ lw_all := lw_g (lw_at lw_m6 68 rfl) rfl
theorem q1396 : (Jvm.Cond.fieldLink "MissCurves$Row" (13 : Nat) "MissCurves$Row" "tests" "[LMissCurves$Test;") ∈ lw_all := lw_g (lw_at lw_m6 69 rfl) rfl
theorem q1397 : (Jvm.Cond.laysFinal "MissCurves$Row" "MissCurves$Row" "all" "Z") ∈ lw_all := lw_g (lw_at lw_m6 70 rfl) rfl
theorem q1398 : (Jvm.Cond.soleField "MissCurves$Row" "all") ∈ lw_all := lw_g (lw_at lw_m6 71 rfl) rfl
theorem q1399 : (Jvm.Cond.laysFinal "MissCurves$Row" "MissCurves$Row" "tests" "[LMissCurves$Test;") ∈ lw_all := lw_g (lw_at lw_m6 72 rfl) rfl
theorem q1400 : (Jvm.Cond.soleField "MissCurves$Row" "tests") ∈ lw_all := lw_g (lw_at lw_m6 73 rfl) rfl
theorem q1401 : (Jvm.Cond.superclass "MissCurves$Row" "MissCurves$Test") ∈ lw_all := lw_g (lw_at lw_m6 74 rfl) rfl
theorem q1540 : (Jvm.Cond.selects "MissCurves$Row" ({ cls := "java/lang/Object", name := "getClass", desc := "()Ljava/lang/Class;" } : Jvm.MethodName) ({ cls := "java/lang/Object", name := "getClass", desc := "()Ljava/lang/Class;" } : Jvm.MethodName)) ∈ lw_all := lw_g (lw_at lw_m6 213 rfl) rfl
theorem q1773 : (Jvm.Cond.selects "MissCurves$Row" ({ cls := "java/lang/Object", name := "toString", desc := "()Ljava/lang/String;" } : Jvm.MethodName) ({ cls := "java/lang/Object", name := "toString", desc := "()Ljava/lang/String;" } : Jvm.MethodName)) ∈ lw_all := lw_g (lw_at lw_m7 206 rfl) rfl
theorem q3031 : (Jvm.Cond.castable "MissCurves$Row" "java/lang/Object") ∈ lw_tbl := lw_at lw_m13 24 rfl
theorem q3043 : (Jvm.Cond.castable "MissCurves$Row" "MissCurves$Test") ∈ lw_tbl := lw_at lw_m13 36 rfl
theorem in_X21 : ∀ w ∈ wsX210, w ∈ lw_all := lw_in wsX210 [1397, 1399] (by decide +kernel) (by decide +kernel)

/-! MissCurves$Act -/
set_option maxRecDepth 100000
def RX22 : String := "MissCurves$Act"
def TX22 : u_T := fun k => match k with
  | 0 => ("MissCurves$Act", "sort", "I", true)
  | 1 => ("MissCurves$Act", "one", "LMissCurves$Sum;", true)
  | 2 => ("MissCurves$Act", "two", "LMissCurves$Sum;", true)
  | 3 => ("MissCurves$Act", "by", "LMissCurves$Sum;", true)
  | 4 => ("MissCurves$Act", "test", "LMissCurves$Test;", false)
  | 5 => ("MissCurves$Act", "times", "I", false)
  | 6 => ("MissCurves$Act", "off", "Z", false)
  | _ => ("MissCurves$Act", "this$0", "LMissCurves;", true)
def tyX22 : Nat → FieldType := fun k => match k with
  | 0 => .int
  | 1 => .object "MissCurves$Sum"
  | 2 => .object "MissCurves$Sum"
  | 3 => .object "MissCurves$Sum"
  | 4 => .object "MissCurves$Test"
  | 5 => .int
  | 6 => .boolean
  | _ => .object "MissCurves"
abbrev wsX220 : List Cond := u_ws RX22 TX22 8
theorem nmX22 : ∀ a, a < 8 → ∀ b, b < 8 → a ≠ b → (TX22 a).2.1 ≠ (TX22 b).2.1 := by decide +kernel
theorem tyX22_ok : ∀ k, k < 8 → parseFieldDescriptor (TX22 k).2.2.1 = some (tyX22 k) := by decide +kernel
abbrev cX22_init : ByteArray := prog_2_method_1_code
def yX22_init : MethodName := ⟨RX22, "<init>", "(LMissCurves;ILMissCurves$Sum;LMissCurves$Sum;LMissCurves$Sum;)V"⟩
def dkwX22_init_1 : List UInt8 := [42, 25, 4, 181, 0, 26, 42, 25, 5, 181, 0, 29, 177]
abbrev dktX22_init_1 : List UInt8 := dkwX22_init_1 ++ []
def dkwX22_init_0 : List UInt8 := [42, 43, 181, 0, 3, 42, 183, 0, 9, 42, 4, 181, 0, 15, 42, 28, 181, 0, 19, 42, 45, 181, 0, 22]
abbrev dktX22_init_0 : List UInt8 := dkwX22_init_0 ++ dktX22_init_1
theorem dksX22_init_0 : cX22_init.data.toList.drop 0 = dktX22_init_0 := by decide +kernel
theorem dksX22_init_1 : cX22_init.data.toList.drop 24 = dktX22_init_1 := dk_seg dksX22_init_0 24 rfl rfl
theorem dX22_init_0 : decode cX22_init 0 = .ok (.aload_n 0, 1) := dk_42 (dk_at dksX22_init_0 0 rfl rfl)
theorem dX22_init_1 : decode cX22_init 1 = .ok (.aload_n 1, 1) := dk_43 (dk_at dksX22_init_0 1 rfl rfl)
theorem dX22_init_2 : decode cX22_init 2 = .ok (.putfield 3, 3) := dk_181 0 3 (dk_at dksX22_init_0 2 rfl rfl)
theorem dX22_init_5 : decode cX22_init 5 = .ok (.aload_n 0, 1) := dk_42 (dk_at dksX22_init_0 5 rfl rfl)
theorem dX22_init_6 : decode cX22_init 6 = .ok (.invokespecial 9, 3) := dk_183 0 9 (dk_at dksX22_init_0 6 rfl rfl)
theorem dX22_init_9 : decode cX22_init 9 = .ok (.aload_n 0, 1) := dk_42 (dk_at dksX22_init_0 9 rfl rfl)
theorem dX22_init_10 : decode cX22_init 10 = .ok (.iconst 1, 1) := dk_4 (dk_at dksX22_init_0 10 rfl rfl)
theorem dX22_init_11 : decode cX22_init 11 = .ok (.putfield 15, 3) := dk_181 0 15 (dk_at dksX22_init_0 11 rfl rfl)
theorem dX22_init_14 : decode cX22_init 14 = .ok (.aload_n 0, 1) := dk_42 (dk_at dksX22_init_0 14 rfl rfl)
theorem dX22_init_15 : decode cX22_init 15 = .ok (.iload_n 2, 1) := dk_28 (dk_at dksX22_init_0 15 rfl rfl)
theorem dX22_init_16 : decode cX22_init 16 = .ok (.putfield 19, 3) := dk_181 0 19 (dk_at dksX22_init_0 16 rfl rfl)
theorem dX22_init_19 : decode cX22_init 19 = .ok (.aload_n 0, 1) := dk_42 (dk_at dksX22_init_0 19 rfl rfl)
theorem dX22_init_20 : decode cX22_init 20 = .ok (.aload_n 3, 1) := dk_45 (dk_at dksX22_init_0 20 rfl rfl)
theorem dX22_init_21 : decode cX22_init 21 = .ok (.putfield 22, 3) := dk_181 0 22 (dk_at dksX22_init_0 21 rfl rfl)
theorem dX22_init_24 : decode cX22_init 24 = .ok (.aload_n 0, 1) := dk_42 (dk_at dksX22_init_1 0 rfl rfl)
theorem dX22_init_25 : decode cX22_init 25 = .ok (.aload 4, 2) := dk_25 4 (dk_at dksX22_init_1 1 rfl rfl)
theorem dX22_init_27 : decode cX22_init 27 = .ok (.putfield 26, 3) := dk_181 0 26 (dk_at dksX22_init_1 3 rfl rfl)
theorem dX22_init_30 : decode cX22_init 30 = .ok (.aload_n 0, 1) := dk_42 (dk_at dksX22_init_1 6 rfl rfl)
theorem dX22_init_31 : decode cX22_init 31 = .ok (.aload 5, 2) := dk_25 5 (dk_at dksX22_init_1 7 rfl rfl)
theorem dX22_init_33 : decode cX22_init 33 = .ok (.putfield 29, 3) := dk_181 0 29 (dk_at dksX22_init_1 9 rfl rfl)
theorem dX22_init_36 : decode cX22_init 36 = .ok (.return_, 1) := dk_177 (dk_at dksX22_init_1 12 rfl rfl)
abbrev cX22_run : ByteArray := prog_2_method_5_code
def yX22_run : MethodName := ⟨RX22, "run", "()I"⟩
def dkwX22_run_3 : List UInt8 := [181, 0, 51, 3, 172]
abbrev dktX22_run_3 : List UInt8 := dkwX22_run_3 ++ []
def dkwX22_run_2 : List UInt8 := [181, 0, 61, 42, 182, 0, 101, 156, 0, 6, 16, 253, 172, 42, 180, 0, 3, 89, 180, 0, 51, 4, 96]
abbrev dktX22_run_2 : List UInt8 := dkwX22_run_2 ++ dktX22_run_3
def dkwX22_run_1 : List UInt8 := [182, 0, 96, 153, 0, 16, 42, 180, 0, 3, 180, 0, 32, 180, 0, 57, 153, 0, 5, 3, 172, 42, 3]
abbrev dktX22_run_1 : List UInt8 := dkwX22_run_1 ++ dktX22_run_2
def dkwX22_run_0 : List UInt8 := [42, 182, 0, 89, 42, 180, 0, 92, 198, 0, 35, 42, 180, 0, 92, 42, 180, 0, 3, 180, 0, 32]
abbrev dktX22_run_0 : List UInt8 := dkwX22_run_0 ++ dktX22_run_1
theorem dksX22_run_0 : cX22_run.data.toList.drop 0 = dktX22_run_0 := by decide +kernel
theorem dksX22_run_1 : cX22_run.data.toList.drop 22 = dktX22_run_1 := dk_seg dksX22_run_0 22 rfl rfl
theorem dksX22_run_2 : cX22_run.data.toList.drop 45 = dktX22_run_2 := dk_seg dksX22_run_1 23 rfl rfl
theorem dksX22_run_3 : cX22_run.data.toList.drop 68 = dktX22_run_3 := dk_seg dksX22_run_2 23 rfl rfl
theorem dX22_run_0 : decode cX22_run 0 = .ok (.aload_n 0, 1) := dk_42 (dk_at dksX22_run_0 0 rfl rfl)
theorem dX22_run_1 : decode cX22_run 1 = .ok (.invokevirtual 89, 3) := dk_182 0 89 (dk_at dksX22_run_0 1 rfl rfl)
theorem dX22_run_4 : decode cX22_run 4 = .ok (.aload_n 0, 1) := dk_42 (dk_at dksX22_run_0 4 rfl rfl)
theorem dX22_run_5 : decode cX22_run 5 = .ok (.getfield 92, 3) := dk_180 0 92 (dk_at dksX22_run_0 5 rfl rfl)
theorem dX22_run_8 : decode cX22_run 8 = .ok (.ifnull 35, 3) := dk_198 0 35 (dk_at dksX22_run_0 8 rfl rfl)
theorem dX22_run_11 : decode cX22_run 11 = .ok (.aload_n 0, 1) := dk_42 (dk_at dksX22_run_0 11 rfl rfl)
theorem dX22_run_12 : decode cX22_run 12 = .ok (.getfield 92, 3) := dk_180 0 92 (dk_at dksX22_run_0 12 rfl rfl)
theorem dX22_run_15 : decode cX22_run 15 = .ok (.aload_n 0, 1) := dk_42 (dk_at dksX22_run_0 15 rfl rfl)
theorem dX22_run_16 : decode cX22_run 16 = .ok (.getfield 3, 3) := dk_180 0 3 (dk_at dksX22_run_0 16 rfl rfl)
theorem dX22_run_19 : decode cX22_run 19 = .ok (.getfield 32, 3) := dk_180 0 32 (dk_at dksX22_run_0 19 rfl rfl)
theorem dX22_run_22 : decode cX22_run 22 = .ok (.invokevirtual 96, 3) := dk_182 0 96 (dk_at dksX22_run_1 0 rfl rfl)
theorem dX22_run_25 : decode cX22_run 25 = .ok (.ifCond .eq 16, 3) := dk_153 0 16 (dk_at dksX22_run_1 3 rfl rfl)
theorem dX22_run_28 : decode cX22_run 28 = .ok (.aload_n 0, 1) := dk_42 (dk_at dksX22_run_1 6 rfl rfl)
theorem dX22_run_29 : decode cX22_run 29 = .ok (.getfield 3, 3) := dk_180 0 3 (dk_at dksX22_run_1 7 rfl rfl)
theorem dX22_run_32 : decode cX22_run 32 = .ok (.getfield 32, 3) := dk_180 0 32 (dk_at dksX22_run_1 10 rfl rfl)
theorem dX22_run_35 : decode cX22_run 35 = .ok (.getfield 57, 3) := dk_180 0 57 (dk_at dksX22_run_1 13 rfl rfl)
theorem dX22_run_38 : decode cX22_run 38 = .ok (.ifCond .eq 5, 3) := dk_153 0 5 (dk_at dksX22_run_1 16 rfl rfl)
theorem dX22_run_41 : decode cX22_run 41 = .ok (.iconst 0, 1) := dk_3 (dk_at dksX22_run_1 19 rfl rfl)
theorem dX22_run_42 : decode cX22_run 42 = .ok (.ireturn, 1) := dk_172 (dk_at dksX22_run_1 20 rfl rfl)
theorem dX22_run_43 : decode cX22_run 43 = .ok (.aload_n 0, 1) := dk_42 (dk_at dksX22_run_1 21 rfl rfl)
theorem dX22_run_44 : decode cX22_run 44 = .ok (.iconst 0, 1) := dk_3 (dk_at dksX22_run_1 22 rfl rfl)
theorem dX22_run_45 : decode cX22_run 45 = .ok (.putfield 61, 3) := dk_181 0 61 (dk_at dksX22_run_2 0 rfl rfl)
theorem dX22_run_48 : decode cX22_run 48 = .ok (.aload_n 0, 1) := dk_42 (dk_at dksX22_run_2 3 rfl rfl)
theorem dX22_run_49 : decode cX22_run 49 = .ok (.invokevirtual 101, 3) := dk_182 0 101 (dk_at dksX22_run_2 4 rfl rfl)
theorem dX22_run_52 : decode cX22_run 52 = .ok (.ifCond .ge 6, 3) := dk_156 0 6 (dk_at dksX22_run_2 7 rfl rfl)
theorem dX22_run_55 : decode cX22_run 55 = .ok (.bipush (-3), 2) := dk_16 253 (dk_at dksX22_run_2 10 rfl rfl)
theorem dX22_run_57 : decode cX22_run 57 = .ok (.ireturn, 1) := dk_172 (dk_at dksX22_run_2 12 rfl rfl)
theorem dX22_run_58 : decode cX22_run 58 = .ok (.aload_n 0, 1) := dk_42 (dk_at dksX22_run_2 13 rfl rfl)
theorem dX22_run_59 : decode cX22_run 59 = .ok (.getfield 3, 3) := dk_180 0 3 (dk_at dksX22_run_2 14 rfl rfl)
theorem dX22_run_62 : decode cX22_run 62 = .ok (.dup, 1) := dk_89 (dk_at dksX22_run_2 17 rfl rfl)
theorem dX22_run_63 : decode cX22_run 63 = .ok (.getfield 51, 3) := dk_180 0 51 (dk_at dksX22_run_2 18 rfl rfl)
theorem dX22_run_66 : decode cX22_run 66 = .ok (.iconst 1, 1) := dk_4 (dk_at dksX22_run_2 21 rfl rfl)
theorem dX22_run_67 : decode cX22_run 67 = .ok (.iadd, 1) := dk_96 (dk_at dksX22_run_2 22 rfl rfl)
theorem dX22_run_68 : decode cX22_run 68 = .ok (.putfield 51, 3) := dk_181 0 51 (dk_at dksX22_run_3 0 rfl rfl)
theorem dX22_run_71 : decode cX22_run 71 = .ok (.iconst 0, 1) := dk_3 (dk_at dksX22_run_3 3 rfl rfl)
theorem dX22_run_72 : decode cX22_run 72 = .ok (.ireturn, 1) := dk_172 (dk_at dksX22_run_3 4 rfl rfl)
abbrev cX22_setNow : ByteArray := prog_2_method_2_code
def yX22_setNow : MethodName := ⟨RX22, "setNow", "()V"⟩
def dkwX22_setNow_3 : List UInt8 := [181, 0, 57, 177]
abbrev dktX22_setNow_3 : List UInt8 := dkwX22_setNow_3 ++ []
def dkwX22_setNow_2 : List UInt8 := [180, 0, 32, 180, 0, 36, 5, 42, 180, 0, 3, 180, 0, 54, 133, 80, 42, 180, 0, 3, 180, 0, 32, 3]
abbrev dktX22_setNow_2 : List UInt8 := dkwX22_setNow_2 ++ dktX22_setNow_3
def dkwX22_setNow_1 : List UInt8 := [180, 0, 3, 180, 0, 32, 180, 0, 36, 4, 42, 180, 0, 3, 180, 0, 51, 133, 80, 42, 180, 0, 3]
abbrev dktX22_setNow_1 : List UInt8 := dkwX22_setNow_1 ++ dktX22_setNow_2
def dkwX22_setNow_0 : List UInt8 := [42, 180, 0, 3, 180, 0, 32, 180, 0, 36, 3, 42, 180, 0, 3, 182, 0, 42, 180, 0, 46, 133, 80, 42]
abbrev dktX22_setNow_0 : List UInt8 := dkwX22_setNow_0 ++ dktX22_setNow_1
theorem dksX22_setNow_0 : cX22_setNow.data.toList.drop 0 = dktX22_setNow_0 := by decide +kernel
theorem dksX22_setNow_1 : cX22_setNow.data.toList.drop 24 = dktX22_setNow_1 := dk_seg dksX22_setNow_0 24 rfl rfl
theorem dksX22_setNow_2 : cX22_setNow.data.toList.drop 47 = dktX22_setNow_2 := dk_seg dksX22_setNow_1 23 rfl rfl
theorem dksX22_setNow_3 : cX22_setNow.data.toList.drop 71 = dktX22_setNow_3 := dk_seg dksX22_setNow_2 24 rfl rfl
theorem dX22_setNow_0 : decode cX22_setNow 0 = .ok (.aload_n 0, 1) := dk_42 (dk_at dksX22_setNow_0 0 rfl rfl)
theorem dX22_setNow_1 : decode cX22_setNow 1 = .ok (.getfield 3, 3) := dk_180 0 3 (dk_at dksX22_setNow_0 1 rfl rfl)
theorem dX22_setNow_4 : decode cX22_setNow 4 = .ok (.getfield 32, 3) := dk_180 0 32 (dk_at dksX22_setNow_0 4 rfl rfl)
theorem dX22_setNow_7 : decode cX22_setNow 7 = .ok (.getfield 36, 3) := dk_180 0 36 (dk_at dksX22_setNow_0 7 rfl rfl)
theorem dX22_setNow_10 : decode cX22_setNow 10 = .ok (.iconst 0, 1) := dk_3 (dk_at dksX22_setNow_0 10 rfl rfl)
theorem dX22_setNow_11 : decode cX22_setNow 11 = .ok (.aload_n 0, 1) := dk_42 (dk_at dksX22_setNow_0 11 rfl rfl)
theorem dX22_setNow_12 : decode cX22_setNow 12 = .ok (.getfield 3, 3) := dk_180 0 3 (dk_at dksX22_setNow_0 12 rfl rfl)
theorem dX22_setNow_15 : decode cX22_setNow 15 = .ok (.invokevirtual 42, 3) := dk_182 0 42 (dk_at dksX22_setNow_0 15 rfl rfl)
theorem dX22_setNow_18 : decode cX22_setNow 18 = .ok (.getfield 46, 3) := dk_180 0 46 (dk_at dksX22_setNow_0 18 rfl rfl)
theorem dX22_setNow_21 : decode cX22_setNow 21 = .ok (.i2l, 1) := dk_133 (dk_at dksX22_setNow_0 21 rfl rfl)
theorem dX22_setNow_22 : decode cX22_setNow 22 = .ok (.lastore, 1) := dk_80 (dk_at dksX22_setNow_0 22 rfl rfl)
theorem dX22_setNow_23 : decode cX22_setNow 23 = .ok (.aload_n 0, 1) := dk_42 (dk_at dksX22_setNow_0 23 rfl rfl)
theorem dX22_setNow_24 : decode cX22_setNow 24 = .ok (.getfield 3, 3) := dk_180 0 3 (dk_at dksX22_setNow_1 0 rfl rfl)
theorem dX22_setNow_27 : decode cX22_setNow 27 = .ok (.getfield 32, 3) := dk_180 0 32 (dk_at dksX22_setNow_1 3 rfl rfl)
theorem dX22_setNow_30 : decode cX22_setNow 30 = .ok (.getfield 36, 3) := dk_180 0 36 (dk_at dksX22_setNow_1 6 rfl rfl)
theorem dX22_setNow_33 : decode cX22_setNow 33 = .ok (.iconst 1, 1) := dk_4 (dk_at dksX22_setNow_1 9 rfl rfl)
theorem dX22_setNow_34 : decode cX22_setNow 34 = .ok (.aload_n 0, 1) := dk_42 (dk_at dksX22_setNow_1 10 rfl rfl)
theorem dX22_setNow_35 : decode cX22_setNow 35 = .ok (.getfield 3, 3) := dk_180 0 3 (dk_at dksX22_setNow_1 11 rfl rfl)
theorem dX22_setNow_38 : decode cX22_setNow 38 = .ok (.getfield 51, 3) := dk_180 0 51 (dk_at dksX22_setNow_1 14 rfl rfl)
theorem dX22_setNow_41 : decode cX22_setNow 41 = .ok (.i2l, 1) := dk_133 (dk_at dksX22_setNow_1 17 rfl rfl)
theorem dX22_setNow_42 : decode cX22_setNow 42 = .ok (.lastore, 1) := dk_80 (dk_at dksX22_setNow_1 18 rfl rfl)
theorem dX22_setNow_43 : decode cX22_setNow 43 = .ok (.aload_n 0, 1) := dk_42 (dk_at dksX22_setNow_1 19 rfl rfl)
theorem dX22_setNow_44 : decode cX22_setNow 44 = .ok (.getfield 3, 3) := dk_180 0 3 (dk_at dksX22_setNow_1 20 rfl rfl)
theorem dX22_setNow_47 : decode cX22_setNow 47 = .ok (.getfield 32, 3) := dk_180 0 32 (dk_at dksX22_setNow_2 0 rfl rfl)
theorem dX22_setNow_50 : decode cX22_setNow 50 = .ok (.getfield 36, 3) := dk_180 0 36 (dk_at dksX22_setNow_2 3 rfl rfl)
theorem dX22_setNow_53 : decode cX22_setNow 53 = .ok (.iconst 2, 1) := dk_5 (dk_at dksX22_setNow_2 6 rfl rfl)
theorem dX22_setNow_54 : decode cX22_setNow 54 = .ok (.aload_n 0, 1) := dk_42 (dk_at dksX22_setNow_2 7 rfl rfl)
theorem dX22_setNow_55 : decode cX22_setNow 55 = .ok (.getfield 3, 3) := dk_180 0 3 (dk_at dksX22_setNow_2 8 rfl rfl)
theorem dX22_setNow_58 : decode cX22_setNow 58 = .ok (.getfield 54, 3) := dk_180 0 54 (dk_at dksX22_setNow_2 11 rfl rfl)
theorem dX22_setNow_61 : decode cX22_setNow 61 = .ok (.i2l, 1) := dk_133 (dk_at dksX22_setNow_2 14 rfl rfl)
theorem dX22_setNow_62 : decode cX22_setNow 62 = .ok (.lastore, 1) := dk_80 (dk_at dksX22_setNow_2 15 rfl rfl)
theorem dX22_setNow_63 : decode cX22_setNow 63 = .ok (.aload_n 0, 1) := dk_42 (dk_at dksX22_setNow_2 16 rfl rfl)
theorem dX22_setNow_64 : decode cX22_setNow 64 = .ok (.getfield 3, 3) := dk_180 0 3 (dk_at dksX22_setNow_2 17 rfl rfl)
theorem dX22_setNow_67 : decode cX22_setNow 67 = .ok (.getfield 32, 3) := dk_180 0 32 (dk_at dksX22_setNow_2 20 rfl rfl)
theorem dX22_setNow_70 : decode cX22_setNow 70 = .ok (.iconst 0, 1) := dk_3 (dk_at dksX22_setNow_2 23 rfl rfl)
theorem dX22_setNow_71 : decode cX22_setNow 71 = .ok (.putfield 57, 3) := dk_181 0 57 (dk_at dksX22_setNow_3 0 rfl rfl)
theorem dX22_setNow_74 : decode cX22_setNow 74 = .ok (.return_, 1) := dk_177 (dk_at dksX22_setNow_3 3 rfl rfl)
abbrev cX22_does : ByteArray := prog_2_method_4_code
def yX22_does : MethodName := ⟨RX22, "does", "()I"⟩
def dkwX22_does_5 : List UInt8 := [167, 0, 5, 21, 4, 181, 0, 54, 21, 4, 172]
abbrev dktX22_does_5 : List UInt8 := dkwX22_does_5 ++ []
def dkwX22_does_4 : List UInt8 := [29, 27, 28, 182, 0, 85, 54, 4, 42, 180, 0, 3, 21, 4, 156, 0, 13, 42, 180, 0, 3, 180, 0, 54]
abbrev dktX22_does_4 : List UInt8 := dkwX22_does_4 ++ dktX22_does_5
def dkwX22_does_3 : List UInt8 := [172, 42, 180, 0, 19, 154, 0, 15, 42, 180, 0, 3, 29, 27, 182, 0, 82, 167, 0, 13, 42, 180, 0, 3]
abbrev dktX22_does_3 : List UInt8 := dkwX22_does_3 ++ dktX22_does_4
def dkwX22_does_2 : List UInt8 := [180, 0, 3, 182, 0, 74, 172, 42, 180, 0, 19, 5, 160, 0, 13, 42, 180, 0, 3, 29, 27, 182, 0, 78]
abbrev dktX22_does_2 : List UInt8 := dkwX22_does_2 ++ dktX22_does_3
def dkwX22_does_1 : List UInt8 := [182, 0, 70, 62, 42, 180, 0, 61, 153, 0, 6, 16, 253, 172, 42, 180, 0, 19, 6, 160, 0, 11, 42]
abbrev dktX22_does_1 : List UInt8 := dkwX22_does_1 ++ dktX22_does_2
def dkwX22_does_0 : List UInt8 := [42, 42, 180, 0, 22, 182, 0, 70, 60, 42, 42, 180, 0, 26, 182, 0, 70, 61, 42, 42, 180, 0, 29]
abbrev dktX22_does_0 : List UInt8 := dkwX22_does_0 ++ dktX22_does_1
theorem dksX22_does_0 : cX22_does.data.toList.drop 0 = dktX22_does_0 := by decide +kernel
theorem dksX22_does_1 : cX22_does.data.toList.drop 23 = dktX22_does_1 := dk_seg dksX22_does_0 23 rfl rfl
theorem dksX22_does_2 : cX22_does.data.toList.drop 46 = dktX22_does_2 := dk_seg dksX22_does_1 23 rfl rfl
theorem dksX22_does_3 : cX22_does.data.toList.drop 70 = dktX22_does_3 := dk_seg dksX22_does_2 24 rfl rfl
theorem dksX22_does_4 : cX22_does.data.toList.drop 94 = dktX22_does_4 := dk_seg dksX22_does_3 24 rfl rfl
theorem dksX22_does_5 : cX22_does.data.toList.drop 118 = dktX22_does_5 := dk_seg dksX22_does_4 24 rfl rfl
theorem dX22_does_0 : decode cX22_does 0 = .ok (.aload_n 0, 1) := dk_42 (dk_at dksX22_does_0 0 rfl rfl)
theorem dX22_does_1 : decode cX22_does 1 = .ok (.aload_n 0, 1) := dk_42 (dk_at dksX22_does_0 1 rfl rfl)
theorem dX22_does_2 : decode cX22_does 2 = .ok (.getfield 22, 3) := dk_180 0 22 (dk_at dksX22_does_0 2 rfl rfl)
theorem dX22_does_5 : decode cX22_does 5 = .ok (.invokevirtual 70, 3) := dk_182 0 70 (dk_at dksX22_does_0 5 rfl rfl)
theorem dX22_does_8 : decode cX22_does 8 = .ok (.istore_n 1, 1) := dk_60 (dk_at dksX22_does_0 8 rfl rfl)
theorem dX22_does_9 : decode cX22_does 9 = .ok (.aload_n 0, 1) := dk_42 (dk_at dksX22_does_0 9 rfl rfl)
theorem dX22_does_10 : decode cX22_does 10 = .ok (.aload_n 0, 1) := dk_42 (dk_at dksX22_does_0 10 rfl rfl)
theorem dX22_does_11 : decode cX22_does 11 = .ok (.getfield 26, 3) := dk_180 0 26 (dk_at dksX22_does_0 11 rfl rfl)
theorem dX22_does_14 : decode cX22_does 14 = .ok (.invokevirtual 70, 3) := dk_182 0 70 (dk_at dksX22_does_0 14 rfl rfl)
theorem dX22_does_17 : decode cX22_does 17 = .ok (.istore_n 2, 1) := dk_61 (dk_at dksX22_does_0 17 rfl rfl)
theorem dX22_does_18 : decode cX22_does 18 = .ok (.aload_n 0, 1) := dk_42 (dk_at dksX22_does_0 18 rfl rfl)
theorem dX22_does_19 : decode cX22_does 19 = .ok (.aload_n 0, 1) := dk_42 (dk_at dksX22_does_0 19 rfl rfl)
theorem dX22_does_20 : decode cX22_does 20 = .ok (.getfield 29, 3) := dk_180 0 29 (dk_at dksX22_does_0 20 rfl rfl)
theorem dX22_does_23 : decode cX22_does 23 = .ok (.invokevirtual 70, 3) := dk_182 0 70 (dk_at dksX22_does_1 0 rfl rfl)
theorem dX22_does_26 : decode cX22_does 26 = .ok (.istore_n 3, 1) := dk_62 (dk_at dksX22_does_1 3 rfl rfl)
theorem dX22_does_27 : decode cX22_does 27 = .ok (.aload_n 0, 1) := dk_42 (dk_at dksX22_does_1 4 rfl rfl)
theorem dX22_does_28 : decode cX22_does 28 = .ok (.getfield 61, 3) := dk_180 0 61 (dk_at dksX22_does_1 5 rfl rfl)
theorem dX22_does_31 : decode cX22_does 31 = .ok (.ifCond .eq 6, 3) := dk_153 0 6 (dk_at dksX22_does_1 8 rfl rfl)
theorem dX22_does_34 : decode cX22_does 34 = .ok (.bipush (-3), 2) := dk_16 253 (dk_at dksX22_does_1 11 rfl rfl)
theorem dX22_does_36 : decode cX22_does 36 = .ok (.ireturn, 1) := dk_172 (dk_at dksX22_does_1 13 rfl rfl)
theorem dX22_does_37 : decode cX22_does 37 = .ok (.aload_n 0, 1) := dk_42 (dk_at dksX22_does_1 14 rfl rfl)
theorem dX22_does_38 : decode cX22_does 38 = .ok (.getfield 19, 3) := dk_180 0 19 (dk_at dksX22_does_1 15 rfl rfl)
theorem dX22_does_41 : decode cX22_does 41 = .ok (.iconst 3, 1) := dk_6 (dk_at dksX22_does_1 18 rfl rfl)
theorem dX22_does_42 : decode cX22_does 42 = .ok (.if_icmp .ne 11, 3) := dk_160 0 11 (dk_at dksX22_does_1 19 rfl rfl)
theorem dX22_does_45 : decode cX22_does 45 = .ok (.aload_n 0, 1) := dk_42 (dk_at dksX22_does_1 22 rfl rfl)
theorem dX22_does_46 : decode cX22_does 46 = .ok (.getfield 3, 3) := dk_180 0 3 (dk_at dksX22_does_2 0 rfl rfl)
theorem dX22_does_49 : decode cX22_does 49 = .ok (.invokevirtual 74, 3) := dk_182 0 74 (dk_at dksX22_does_2 3 rfl rfl)
theorem dX22_does_52 : decode cX22_does 52 = .ok (.ireturn, 1) := dk_172 (dk_at dksX22_does_2 6 rfl rfl)
theorem dX22_does_53 : decode cX22_does 53 = .ok (.aload_n 0, 1) := dk_42 (dk_at dksX22_does_2 7 rfl rfl)
theorem dX22_does_54 : decode cX22_does 54 = .ok (.getfield 19, 3) := dk_180 0 19 (dk_at dksX22_does_2 8 rfl rfl)
theorem dX22_does_57 : decode cX22_does 57 = .ok (.iconst 2, 1) := dk_5 (dk_at dksX22_does_2 11 rfl rfl)
theorem dX22_does_58 : decode cX22_does 58 = .ok (.if_icmp .ne 13, 3) := dk_160 0 13 (dk_at dksX22_does_2 12 rfl rfl)
theorem dX22_does_61 : decode cX22_does 61 = .ok (.aload_n 0, 1) := dk_42 (dk_at dksX22_does_2 15 rfl rfl)
theorem dX22_does_62 : decode cX22_does 62 = .ok (.getfield 3, 3) := dk_180 0 3 (dk_at dksX22_does_2 16 rfl rfl)
theorem dX22_does_65 : decode cX22_does 65 = .ok (.iload_n 3, 1) := dk_29 (dk_at dksX22_does_2 19 rfl rfl)
theorem dX22_does_66 : decode cX22_does 66 = .ok (.iload_n 1, 1) := dk_27 (dk_at dksX22_does_2 20 rfl rfl)
theorem dX22_does_67 : decode cX22_does 67 = .ok (.invokevirtual 78, 3) := dk_182 0 78 (dk_at dksX22_does_2 21 rfl rfl)
theorem dX22_does_70 : decode cX22_does 70 = .ok (.ireturn, 1) := dk_172 (dk_at dksX22_does_3 0 rfl rfl)
theorem dX22_does_71 : decode cX22_does 71 = .ok (.aload_n 0, 1) := dk_42 (dk_at dksX22_does_3 1 rfl rfl)
theorem dX22_does_72 : decode cX22_does 72 = .ok (.getfield 19, 3) := dk_180 0 19 (dk_at dksX22_does_3 2 rfl rfl)
theorem dX22_does_75 : decode cX22_does 75 = .ok (.ifCond .ne 15, 3) := dk_154 0 15 (dk_at dksX22_does_3 5 rfl rfl)
theorem dX22_does_78 : decode cX22_does 78 = .ok (.aload_n 0, 1) := dk_42 (dk_at dksX22_does_3 8 rfl rfl)
theorem dX22_does_79 : decode cX22_does 79 = .ok (.getfield 3, 3) := dk_180 0 3 (dk_at dksX22_does_3 9 rfl rfl)
theorem dX22_does_82 : decode cX22_does 82 = .ok (.iload_n 3, 1) := dk_29 (dk_at dksX22_does_3 12 rfl rfl)
theorem dX22_does_83 : decode cX22_does 83 = .ok (.iload_n 1, 1) := dk_27 (dk_at dksX22_does_3 13 rfl rfl)
theorem dX22_does_84 : decode cX22_does 84 = .ok (.invokevirtual 82, 3) := dk_182 0 82 (dk_at dksX22_does_3 14 rfl rfl)
theorem dX22_does_87 : decode cX22_does 87 = .ok (.goto 13, 3) := dk_167 0 13 (dk_at dksX22_does_3 17 rfl rfl)
theorem dX22_does_90 : decode cX22_does 90 = .ok (.aload_n 0, 1) := dk_42 (dk_at dksX22_does_3 20 rfl rfl)
theorem dX22_does_91 : decode cX22_does 91 = .ok (.getfield 3, 3) := dk_180 0 3 (dk_at dksX22_does_3 21 rfl rfl)
theorem dX22_does_94 : decode cX22_does 94 = .ok (.iload_n 3, 1) := dk_29 (dk_at dksX22_does_4 0 rfl rfl)
theorem dX22_does_95 : decode cX22_does 95 = .ok (.iload_n 1, 1) := dk_27 (dk_at dksX22_does_4 1 rfl rfl)
theorem dX22_does_96 : decode cX22_does 96 = .ok (.iload_n 2, 1) := dk_28 (dk_at dksX22_does_4 2 rfl rfl)
theorem dX22_does_97 : decode cX22_does 97 = .ok (.invokevirtual 85, 3) := dk_182 0 85 (dk_at dksX22_does_4 3 rfl rfl)
theorem dX22_does_100 : decode cX22_does 100 = .ok (.istore 4, 2) := dk_54 4 (dk_at dksX22_does_4 6 rfl rfl)
theorem dX22_does_102 : decode cX22_does 102 = .ok (.aload_n 0, 1) := dk_42 (dk_at dksX22_does_4 8 rfl rfl)
theorem dX22_does_103 : decode cX22_does 103 = .ok (.getfield 3, 3) := dk_180 0 3 (dk_at dksX22_does_4 9 rfl rfl)
theorem dX22_does_106 : decode cX22_does 106 = .ok (.iload 4, 2) := dk_21 4 (dk_at dksX22_does_4 12 rfl rfl)
theorem dX22_does_108 : decode cX22_does 108 = .ok (.ifCond .ge 13, 3) := dk_156 0 13 (dk_at dksX22_does_4 14 rfl rfl)
theorem dX22_does_111 : decode cX22_does 111 = .ok (.aload_n 0, 1) := dk_42 (dk_at dksX22_does_4 17 rfl rfl)
theorem dX22_does_112 : decode cX22_does 112 = .ok (.getfield 3, 3) := dk_180 0 3 (dk_at dksX22_does_4 18 rfl rfl)
theorem dX22_does_115 : decode cX22_does 115 = .ok (.getfield 54, 3) := dk_180 0 54 (dk_at dksX22_does_4 21 rfl rfl)
theorem dX22_does_118 : decode cX22_does 118 = .ok (.goto 5, 3) := dk_167 0 5 (dk_at dksX22_does_5 0 rfl rfl)
theorem dX22_does_121 : decode cX22_does 121 = .ok (.iload 4, 2) := dk_21 4 (dk_at dksX22_does_5 3 rfl rfl)
theorem dX22_does_123 : decode cX22_does 123 = .ok (.putfield 54, 3) := dk_181 0 54 (dk_at dksX22_does_5 5 rfl rfl)
theorem dX22_does_126 : decode cX22_does 126 = .ok (.iload 4, 2) := dk_21 4 (dk_at dksX22_does_5 8 rfl rfl)
theorem dX22_does_128 : decode cX22_does 128 = .ok (.ireturn, 1) := dk_172 (dk_at dksX22_does_5 10 rfl rfl)
abbrev cX22_reckoned : ByteArray := prog_2_method_3_code
def yX22_reckoned : MethodName := ⟨RX22, "reckoned", "(LMissCurves$Sum;)I"⟩
def dkwX22_reckoned_2 : List UInt8 := [181, 0, 61, 42, 180, 0, 61, 153, 0, 7, 2, 167, 0, 5, 32, 136, 172]
abbrev dktX22_reckoned_2 : List UInt8 := dkwX22_reckoned_2 ++ []
def dkwX22_reckoned_1 : List UInt8 := [43, 42, 180, 0, 3, 180, 0, 32, 182, 0, 64, 65, 42, 42, 180, 0, 3, 180, 0, 32, 180, 0, 57]
abbrev dktX22_reckoned_1 : List UInt8 := dkwX22_reckoned_1 ++ dktX22_reckoned_2
def dkwX22_reckoned_0 : List UInt8 := [42, 180, 0, 61, 154, 0, 7, 43, 199, 0, 5, 2, 172, 42, 180, 0, 3, 180, 0, 32, 3, 181, 0, 57]
abbrev dktX22_reckoned_0 : List UInt8 := dkwX22_reckoned_0 ++ dktX22_reckoned_1
theorem dksX22_reckoned_0 : cX22_reckoned.data.toList.drop 0 = dktX22_reckoned_0 := by decide +kernel
theorem dksX22_reckoned_1 : cX22_reckoned.data.toList.drop 24 = dktX22_reckoned_1 := dk_seg dksX22_reckoned_0 24 rfl rfl
theorem dksX22_reckoned_2 : cX22_reckoned.data.toList.drop 47 = dktX22_reckoned_2 := dk_seg dksX22_reckoned_1 23 rfl rfl
theorem dX22_reckoned_0 : decode cX22_reckoned 0 = .ok (.aload_n 0, 1) := dk_42 (dk_at dksX22_reckoned_0 0 rfl rfl)
theorem dX22_reckoned_1 : decode cX22_reckoned 1 = .ok (.getfield 61, 3) := dk_180 0 61 (dk_at dksX22_reckoned_0 1 rfl rfl)
theorem dX22_reckoned_4 : decode cX22_reckoned 4 = .ok (.ifCond .ne 7, 3) := dk_154 0 7 (dk_at dksX22_reckoned_0 4 rfl rfl)
theorem dX22_reckoned_7 : decode cX22_reckoned 7 = .ok (.aload_n 1, 1) := dk_43 (dk_at dksX22_reckoned_0 7 rfl rfl)
theorem dX22_reckoned_8 : decode cX22_reckoned 8 = .ok (.ifnonnull 5, 3) := dk_199 0 5 (dk_at dksX22_reckoned_0 8 rfl rfl)
theorem dX22_reckoned_11 : decode cX22_reckoned 11 = .ok (.iconst (-1), 1) := dk_2 (dk_at dksX22_reckoned_0 11 rfl rfl)
theorem dX22_reckoned_12 : decode cX22_reckoned 12 = .ok (.ireturn, 1) := dk_172 (dk_at dksX22_reckoned_0 12 rfl rfl)
theorem dX22_reckoned_13 : decode cX22_reckoned 13 = .ok (.aload_n 0, 1) := dk_42 (dk_at dksX22_reckoned_0 13 rfl rfl)
theorem dX22_reckoned_14 : decode cX22_reckoned 14 = .ok (.getfield 3, 3) := dk_180 0 3 (dk_at dksX22_reckoned_0 14 rfl rfl)
theorem dX22_reckoned_17 : decode cX22_reckoned 17 = .ok (.getfield 32, 3) := dk_180 0 32 (dk_at dksX22_reckoned_0 17 rfl rfl)
theorem dX22_reckoned_20 : decode cX22_reckoned 20 = .ok (.iconst 0, 1) := dk_3 (dk_at dksX22_reckoned_0 20 rfl rfl)
theorem dX22_reckoned_21 : decode cX22_reckoned 21 = .ok (.putfield 57, 3) := dk_181 0 57 (dk_at dksX22_reckoned_0 21 rfl rfl)
theorem dX22_reckoned_24 : decode cX22_reckoned 24 = .ok (.aload_n 1, 1) := dk_43 (dk_at dksX22_reckoned_1 0 rfl rfl)
theorem dX22_reckoned_25 : decode cX22_reckoned 25 = .ok (.aload_n 0, 1) := dk_42 (dk_at dksX22_reckoned_1 1 rfl rfl)
theorem dX22_reckoned_26 : decode cX22_reckoned 26 = .ok (.getfield 3, 3) := dk_180 0 3 (dk_at dksX22_reckoned_1 2 rfl rfl)
theorem dX22_reckoned_29 : decode cX22_reckoned 29 = .ok (.getfield 32, 3) := dk_180 0 32 (dk_at dksX22_reckoned_1 5 rfl rfl)
theorem dX22_reckoned_32 : decode cX22_reckoned 32 = .ok (.invokevirtual 64, 3) := dk_182 0 64 (dk_at dksX22_reckoned_1 8 rfl rfl)
theorem dX22_reckoned_35 : decode cX22_reckoned 35 = .ok (.lstore_n 2, 1) := dk_65 (dk_at dksX22_reckoned_1 11 rfl rfl)
theorem dX22_reckoned_36 : decode cX22_reckoned 36 = .ok (.aload_n 0, 1) := dk_42 (dk_at dksX22_reckoned_1 12 rfl rfl)
theorem dX22_reckoned_37 : decode cX22_reckoned 37 = .ok (.aload_n 0, 1) := dk_42 (dk_at dksX22_reckoned_1 13 rfl rfl)
theorem dX22_reckoned_38 : decode cX22_reckoned 38 = .ok (.getfield 3, 3) := dk_180 0 3 (dk_at dksX22_reckoned_1 14 rfl rfl)
theorem dX22_reckoned_41 : decode cX22_reckoned 41 = .ok (.getfield 32, 3) := dk_180 0 32 (dk_at dksX22_reckoned_1 17 rfl rfl)
theorem dX22_reckoned_44 : decode cX22_reckoned 44 = .ok (.getfield 57, 3) := dk_180 0 57 (dk_at dksX22_reckoned_1 20 rfl rfl)
theorem dX22_reckoned_47 : decode cX22_reckoned 47 = .ok (.putfield 61, 3) := dk_181 0 61 (dk_at dksX22_reckoned_2 0 rfl rfl)
theorem dX22_reckoned_50 : decode cX22_reckoned 50 = .ok (.aload_n 0, 1) := dk_42 (dk_at dksX22_reckoned_2 3 rfl rfl)
theorem dX22_reckoned_51 : decode cX22_reckoned 51 = .ok (.getfield 61, 3) := dk_180 0 61 (dk_at dksX22_reckoned_2 4 rfl rfl)
theorem dX22_reckoned_54 : decode cX22_reckoned 54 = .ok (.ifCond .eq 7, 3) := dk_153 0 7 (dk_at dksX22_reckoned_2 7 rfl rfl)
theorem dX22_reckoned_57 : decode cX22_reckoned 57 = .ok (.iconst (-1), 1) := dk_2 (dk_at dksX22_reckoned_2 10 rfl rfl)
theorem dX22_reckoned_58 : decode cX22_reckoned 58 = .ok (.goto 5, 3) := dk_167 0 5 (dk_at dksX22_reckoned_2 11 rfl rfl)
theorem dX22_reckoned_61 : decode cX22_reckoned 61 = .ok (.lload_n 2, 1) := dk_32 (dk_at dksX22_reckoned_2 14 rfl rfl)
theorem dX22_reckoned_62 : decode cX22_reckoned 62 = .ok (.l2i, 1) := dk_136 (dk_at dksX22_reckoned_2 15 rfl rfl)
theorem dX22_reckoned_63 : decode cX22_reckoned 63 = .ok (.ireturn, 1) := dk_172 (dk_at dksX22_reckoned_2 16 rfl rfl)
theorem q169 : (Jvm.Cond.initialized "MissCurves$Act") ∈ lw_all := lw_g (lw_at lw_m1 42 rfl) rfl
theorem q279 : (Jvm.Cond.fieldLinkNest "MissCurves$Act" (46 : Nat) "MissCurves$Books" "time" "I" "MissCurves") ∈ lw_tbl := lw_at lw_m1 152 rfl
theorem q350 : (Jvm.Cond.fieldLinkNest "MissCurves$Act" (36 : Nat) "MissCurves$Asked" "numbers" "[J" "MissCurves") ∈ lw_tbl := lw_at lw_m1 223 rfl
theorem q358 : (Jvm.Cond.fieldLinkNest "MissCurves$Act" (57 : Nat) "MissCurves$Asked" "isBroken" "Z" "MissCurves") ∈ lw_tbl := lw_at lw_m1 231 rfl
theorem q387 : (Jvm.Cond.fieldLinkNest "MissCurves$Act" (32 : Nat) "MissCurves" "inOrders" "LMissCurves$Asked;" "MissCurves") ∈ lw_tbl := lw_at lw_m2 20 rfl
theorem q408 : (Jvm.Cond.fieldLinkNest "MissCurves$Act" (51 : Nat) "MissCurves" "done" "I" "MissCurves") ∈ lw_tbl := lw_at lw_m2 41 rfl
theorem q410 : (Jvm.Cond.fieldLinkNest "MissCurves$Act" (54 : Nat) "MissCurves" "latest" "I" "MissCurves") ∈ lw_tbl := lw_at lw_m2 43 rfl
theorem q1435 : (Jvm.Cond.instantiable "MissCurves$Act" (8 : Nat)) ∈ lw_all := lw_g (lw_at lw_m6 108 rfl) rfl
theorem q1437 : (Jvm.Cond.instanceMethod ({ cls := "MissCurves$Act", name := "<init>", desc := "(LMissCurves;ILMissCurves$Sum;LMissCurves$Sum;LMissCurves$Sum;)V" } : Jvm.MethodName)) ∈ lw_all := lw_g (lw_at lw_m6 110 rfl) rfl
theorem q1438 : (Jvm.Cond.code ({ cls := "MissCurves$Act", name := "<init>", desc := "(LMissCurves;ILMissCurves$Sum;LMissCurves$Sum;LMissCurves$Sum;)V" } : Jvm.MethodName) prog_2_method_1_code (6 : Nat) (Option.none : Option Jvm.ClassFile.FieldType)) ∈ lw_all := lw_g (lw_at lw_m6 111 rfl) rfl
theorem q1439 : (Jvm.Cond.methodLink "MissCurves$Act" (9 : Nat) ({ cls := "java/lang/Object", name := "<init>", desc := "()V" } : Jvm.MethodName)) ∈ lw_all := lw_g (lw_at lw_m6 112 rfl) rfl
theorem q1440 : (Jvm.Cond.fieldLink "MissCurves$Act" (19 : Nat) "MissCurves$Act" "sort" "I") ∈ lw_all := lw_g (lw_at lw_m6 113 rfl) rfl
theorem q1441 : (Jvm.Cond.fieldLink "MissCurves$Act" (22 : Nat) "MissCurves$Act" "one" "LMissCurves$Sum;") ∈ lw_all := lw_g (lw_at lw_m6 114 rfl) rfl
theorem q1442 : (Jvm.Cond.fieldLink "MissCurves$Act" (26 : Nat) "MissCurves$Act" "two" "LMissCurves$Sum;") ∈ lw_all := lw_g (lw_at lw_m6 115 rfl) rfl
theorem q1443 : (Jvm.Cond.fieldLink "MissCurves$Act" (29 : Nat) "MissCurves$Act" "by" "LMissCurves$Sum;") ∈ lw_all := lw_g (lw_at lw_m6 116 rfl) rfl
theorem q1444 : (Jvm.Cond.fieldLink "MissCurves$Act" (92 : Nat) "MissCurves$Act" "test" "LMissCurves$Test;") ∈ lw_all := lw_g (lw_at lw_m6 117 rfl) rfl
theorem q1446 : (Jvm.Cond.fieldLink "MissCurves$Act" (15 : Nat) "MissCurves$Act" "times" "I") ∈ lw_all := lw_g (lw_at lw_m6 119 rfl) rfl
theorem q1449 : (Jvm.Cond.fieldLink "MissCurves$Act" (61 : Nat) "MissCurves$Act" "off" "Z") ∈ lw_all := lw_g (lw_at lw_m6 122 rfl) rfl
theorem q1450 : (Jvm.Cond.fieldLink "MissCurves$Act" (3 : Nat) "MissCurves$Act" "this$0" "LMissCurves;") ∈ lw_all := lw_g (lw_at lw_m6 123 rfl) rfl
theorem q1451 : (Jvm.Cond.laysFinal "MissCurves$Act" "MissCurves$Act" "sort" "I") ∈ lw_all := lw_g (lw_at lw_m6 124 rfl) rfl
theorem q1452 : (Jvm.Cond.soleField "MissCurves$Act" "sort") ∈ lw_all := lw_g (lw_at lw_m6 125 rfl) rfl
theorem q1453 : (Jvm.Cond.laysFinal "MissCurves$Act" "MissCurves$Act" "one" "LMissCurves$Sum;") ∈ lw_all := lw_g (lw_at lw_m6 126 rfl) rfl
theorem q1454 : (Jvm.Cond.soleField "MissCurves$Act" "one") ∈ lw_all := lw_g (lw_at lw_m6 127 rfl) rfl
theorem q1455 : (Jvm.Cond.laysFinal "MissCurves$Act" "MissCurves$Act" "two" "LMissCurves$Sum;") ∈ lw_all := lw_g (lw_at lw_m6 128 rfl) rfl
theorem q1456 : (Jvm.Cond.soleField "MissCurves$Act" "two") ∈ lw_all := lw_g (lw_at lw_m6 129 rfl) rfl
theorem q1457 : (Jvm.Cond.laysFinal "MissCurves$Act" "MissCurves$Act" "by" "LMissCurves$Sum;") ∈ lw_all := lw_g (lw_at lw_m6 130 rfl) rfl
theorem q1458 : (Jvm.Cond.soleField "MissCurves$Act" "by") ∈ lw_all := lw_g (lw_at lw_m6 131 rfl) rfl
theorem q1459 : (Jvm.Cond.lays "MissCurves$Act" "MissCurves$Act" "test" "LMissCurves$Test;") ∈ lw_all := lw_g (lw_at lw_m6 132 rfl) rfl
theorem q1460 : (Jvm.Cond.soleField "MissCurves$Act" "test") ∈ lw_all := lw_g (lw_at lw_m6 133 rfl) rfl
theorem q1461 : (Jvm.Cond.lays "MissCurves$Act" "MissCurves$Act" "times" "I") ∈ lw_all := lw_g (lw_at lw_m6 134 rfl) rfl
theorem q1462 : (Jvm.Cond.soleField "MissCurves$Act" "times") ∈ lw_all := lw_g (lw_at lw_m6 135 rfl) rfl
theorem q1463 : (Jvm.Cond.lays "MissCurves$Act" "MissCurves$Act" "off" "Z") ∈ lw_all := lw_g (lw_at lw_m6 136 rfl) rfl
theorem q1464 : (Jvm.Cond.soleField "MissCurves$Act" "off") ∈ lw_all := lw_g (lw_at lw_m6 137 rfl) rfl
theorem q1465 : (Jvm.Cond.laysFinal "MissCurves$Act" "MissCurves$Act" "this$0" "LMissCurves;") ∈ lw_all := lw_g (lw_at lw_m6 138 rfl) rfl
theorem q1466 : (Jvm.Cond.soleField "MissCurves$Act" "this$0") ∈ lw_all := lw_g (lw_at lw_m6 139 rfl) rfl
theorem q1467 : (Jvm.Cond.superclass "MissCurves$Act" "java/lang/Object") ∈ lw_all := lw_g (lw_at lw_m6 140 rfl) rfl
theorem q1520 : (Jvm.Cond.selects "MissCurves$Act" ({ cls := "java/lang/Object", name := "getClass", desc := "()Ljava/lang/Class;" } : Jvm.MethodName) ({ cls := "java/lang/Object", name := "getClass", desc := "()Ljava/lang/Class;" } : Jvm.MethodName)) ∈ lw_all := lw_g (lw_at lw_m6 193 rfl) rfl
theorem q1753 : (Jvm.Cond.selects "MissCurves$Act" ({ cls := "java/lang/Object", name := "toString", desc := "()Ljava/lang/String;" } : Jvm.MethodName) ({ cls := "java/lang/Object", name := "toString", desc := "()Ljava/lang/String;" } : Jvm.MethodName)) ∈ lw_all := lw_g (lw_at lw_m7 186 rfl) rfl
theorem q2102 : (Jvm.Cond.instanceMethod ({ cls := "MissCurves$Act", name := "run", desc := "()I" } : Jvm.MethodName)) ∈ lw_all := lw_g (lw_at lw_m9 55 rfl) rfl
theorem q2103 : (Jvm.Cond.selects "MissCurves$Act" ({ cls := "MissCurves$Act", name := "run", desc := "()I" } : Jvm.MethodName) ({ cls := "MissCurves$Act", name := "run", desc := "()I" } : Jvm.MethodName)) ∈ lw_all := lw_g (lw_at lw_m9 56 rfl) rfl
theorem q2104 : (Jvm.Cond.code ({ cls := "MissCurves$Act", name := "run", desc := "()I" } : Jvm.MethodName) prog_2_method_5_code (1 : Nat) (Option.some Jvm.ClassFile.FieldType.int)) ∈ lw_all := lw_g (lw_at lw_m9 57 rfl) rfl
theorem q2105 : (Jvm.Cond.methodLink "MissCurves$Act" (89 : Nat) ({ cls := "MissCurves$Act", name := "setNow", desc := "()V" } : Jvm.MethodName)) ∈ lw_all := lw_g (lw_at lw_m9 58 rfl) rfl
theorem q2106 : (Jvm.Cond.privateMethod ({ cls := "MissCurves$Act", name := "setNow", desc := "()V" } : Jvm.MethodName)) ∈ lw_tbl := lw_at lw_m9 59 rfl
theorem q2107 : (Jvm.Cond.instanceMethod ({ cls := "MissCurves$Act", name := "setNow", desc := "()V" } : Jvm.MethodName)) ∈ lw_all := lw_g (lw_at lw_m9 60 rfl) rfl
theorem q2108 : (Jvm.Cond.code ({ cls := "MissCurves$Act", name := "setNow", desc := "()V" } : Jvm.MethodName) prog_2_method_2_code (1 : Nat) (Option.none : Option Jvm.ClassFile.FieldType)) ∈ lw_all := lw_g (lw_at lw_m9 61 rfl) rfl
theorem q2109 : (Jvm.Cond.methodLinkNest "MissCurves$Act" (42 : Nat) ({ cls := "MissCurves", name := "books", desc := "()LMissCurves$Books;" } : Jvm.MethodName) "MissCurves") ∈ lw_tbl := lw_at lw_m9 62 rfl
theorem q2110 : (Jvm.Cond.methodLink "MissCurves$Act" (96 : Nat) ({ cls := "MissCurves$Test", name := "of", desc := "(LMissCurves$Asked;)Z" } : Jvm.MethodName)) ∈ lw_all := lw_g (lw_at lw_m9 63 rfl) rfl
theorem q2111 : (Jvm.Cond.methodLink "MissCurves$Act" (101 : Nat) ({ cls := "MissCurves$Act", name := "does", desc := "()I" } : Jvm.MethodName)) ∈ lw_all := lw_g (lw_at lw_m9 64 rfl) rfl
theorem q2112 : (Jvm.Cond.privateMethod ({ cls := "MissCurves$Act", name := "does", desc := "()I" } : Jvm.MethodName)) ∈ lw_tbl := lw_at lw_m9 65 rfl
theorem q2113 : (Jvm.Cond.instanceMethod ({ cls := "MissCurves$Act", name := "does", desc := "()I" } : Jvm.MethodName)) ∈ lw_all := lw_g (lw_at lw_m9 66 rfl) rfl
theorem q2114 : (Jvm.Cond.code ({ cls := "MissCurves$Act", name := "does", desc := "()I" } : Jvm.MethodName) prog_2_method_4_code (5 : Nat) (Option.some Jvm.ClassFile.FieldType.int)) ∈ lw_all := lw_g (lw_at lw_m9 67 rfl) rfl
theorem q2115 : (Jvm.Cond.methodLink "MissCurves$Act" (70 : Nat) ({ cls := "MissCurves$Act", name := "reckoned", desc := "(LMissCurves$Sum;)I" } : Jvm.MethodName)) ∈ lw_all := lw_g (lw_at lw_m9 68 rfl) rfl
theorem q2116 : (Jvm.Cond.privateMethod ({ cls := "MissCurves$Act", name := "reckoned", desc := "(LMissCurves$Sum;)I" } : Jvm.MethodName)) ∈ lw_tbl := lw_at lw_m9 69 rfl
theorem q2117 : (Jvm.Cond.instanceMethod ({ cls := "MissCurves$Act", name := "reckoned", desc := "(LMissCurves$Sum;)I" } : Jvm.MethodName)) ∈ lw_all := lw_g (lw_at lw_m9 70 rfl) rfl
theorem q2118 : (Jvm.Cond.code ({ cls := "MissCurves$Act", name := "reckoned", desc := "(LMissCurves$Sum;)I" } : Jvm.MethodName) prog_2_method_3_code (4 : Nat) (Option.some Jvm.ClassFile.FieldType.int)) ∈ lw_all := lw_g (lw_at lw_m9 71 rfl) rfl
theorem q2119 : (Jvm.Cond.methodLink "MissCurves$Act" (64 : Nat) ({ cls := "MissCurves$Sum", name := "of", desc := "(LMissCurves$Asked;)J" } : Jvm.MethodName)) ∈ lw_all := lw_g (lw_at lw_m9 72 rfl) rfl
theorem q2120 : (Jvm.Cond.methodLinkNest "MissCurves$Act" (74 : Nat) ({ cls := "MissCurves", name := "passNow", desc := "()I" } : Jvm.MethodName) "MissCurves") ∈ lw_tbl := lw_at lw_m9 73 rfl
theorem q2121 : (Jvm.Cond.methodLinkNest "MissCurves$Act" (78 : Nat) ({ cls := "MissCurves", name := "dropNow", desc := "(II)I" } : Jvm.MethodName) "MissCurves") ∈ lw_tbl := lw_at lw_m9 74 rfl
theorem q2122 : (Jvm.Cond.methodLinkNest "MissCurves$Act" (82 : Nat) ({ cls := "MissCurves", name := "readNow", desc := "(II)I" } : Jvm.MethodName) "MissCurves") ∈ lw_tbl := lw_at lw_m9 75 rfl
theorem q2123 : (Jvm.Cond.methodLinkNest "MissCurves$Act" (85 : Nat) ({ cls := "MissCurves", name := "loopNow", desc := "(III)I" } : Jvm.MethodName) "MissCurves") ∈ lw_tbl := lw_at lw_m9 76 rfl
theorem q3014 : (Jvm.Cond.castable "MissCurves$Act" "java/lang/Object") ∈ lw_tbl := lw_at lw_m13 7 rfl
theorem in_X22 : ∀ w ∈ wsX220, w ∈ lw_all := lw_in wsX220 [1451, 1453, 1455, 1457, 1459, 1461, 1463, 1465] (by decide +kernel) (by decide +kernel)

/-! MissCurves$OrderReader -/
set_option maxRecDepth 100000
def RX23 : String := "MissCurves$OrderReader"
def TX23 : u_T := fun k => match k with
  | 0 => ("MissCurves$Reader", "from", "I", false)
  | 1 => ("MissCurves$Reader", "to", "I", false)
  | 2 => ("MissCurves$Reader", "leaves", "I", false)
  | 3 => ("MissCurves$Reader", "deep", "I", false)
  | 4 => ("MissCurves$Reader", "piled", "I", false)
  | 5 => ("MissCurves$Reader", "pile", "[LMissCurves$Test;", true)
  | 6 => ("MissCurves$Reader", "words", "[Ljava/lang/String;", true)
  | 7 => ("MissCurves$Reader", "this$0", "LMissCurves;", true)
  | 8 => ("MissCurves$OrderReader", "row", "[LMissCurves$Act;", true)
  | _ => ("MissCurves$OrderReader", "this$0", "LMissCurves;", true)
def tyX23 : Nat → FieldType := fun k => match k with
  | 0 => .int
  | 1 => .int
  | 2 => .int
  | 3 => .int
  | 4 => .int
  | 5 => .array (.object "MissCurves$Test")
  | 6 => .array (.object "java/lang/String")
  | 7 => .object "MissCurves"
  | 8 => .array (.object "MissCurves$Act")
  | _ => .object "MissCurves"
abbrev wsX230 : List Cond := u_ws RX23 TX23 10
-- two fields of one name: no nmX23
theorem tyX23_ok : ∀ k, k < 10 → parseFieldDescriptor (TX23 k).2.2.1 = some (tyX23 k) := by decide +kernel
abbrev cX23_behindWord : ByteArray := prog_20_method_5_code
def yX23_behindWord : MethodName := ⟨RX23, "behindWord", "(I)LMissCurves$Sum;"⟩
def dkwX23_behindWord_1 : List UInt8 := [27, 42, 6, 182, 0, 75, 183, 0, 79, 176]
abbrev dktX23_behindWord_1 : List UInt8 := dkwX23_behindWord_1 ++ []
def dkwX23_behindWord_0 : List UInt8 := [27, 6, 162, 0, 14, 187, 0, 68, 89, 27, 183, 0, 70, 167, 0, 20, 187, 0, 73, 89, 42, 180, 0, 3]
abbrev dktX23_behindWord_0 : List UInt8 := dkwX23_behindWord_0 ++ dktX23_behindWord_1
theorem dksX23_behindWord_0 : cX23_behindWord.data.toList.drop 0 = dktX23_behindWord_0 := by decide +kernel
theorem dksX23_behindWord_1 : cX23_behindWord.data.toList.drop 24 = dktX23_behindWord_1 := dk_seg dksX23_behindWord_0 24 rfl rfl
theorem dX23_behindWord_0 : decode cX23_behindWord 0 = .ok (.iload_n 1, 1) := dk_27 (dk_at dksX23_behindWord_0 0 rfl rfl)
theorem dX23_behindWord_1 : decode cX23_behindWord 1 = .ok (.iconst 3, 1) := dk_6 (dk_at dksX23_behindWord_0 1 rfl rfl)
theorem dX23_behindWord_2 : decode cX23_behindWord 2 = .ok (.if_icmp .ge 14, 3) := dk_162 0 14 (dk_at dksX23_behindWord_0 2 rfl rfl)
theorem dX23_behindWord_5 : decode cX23_behindWord 5 = .ok (.new 68, 3) := dk_187 0 68 (dk_at dksX23_behindWord_0 5 rfl rfl)
theorem dX23_behindWord_8 : decode cX23_behindWord 8 = .ok (.dup, 1) := dk_89 (dk_at dksX23_behindWord_0 8 rfl rfl)
theorem dX23_behindWord_9 : decode cX23_behindWord 9 = .ok (.iload_n 1, 1) := dk_27 (dk_at dksX23_behindWord_0 9 rfl rfl)
theorem dX23_behindWord_10 : decode cX23_behindWord 10 = .ok (.invokespecial 70, 3) := dk_183 0 70 (dk_at dksX23_behindWord_0 10 rfl rfl)
theorem dX23_behindWord_13 : decode cX23_behindWord 13 = .ok (.goto 20, 3) := dk_167 0 20 (dk_at dksX23_behindWord_0 13 rfl rfl)
theorem dX23_behindWord_16 : decode cX23_behindWord 16 = .ok (.new 73, 3) := dk_187 0 73 (dk_at dksX23_behindWord_0 16 rfl rfl)
theorem dX23_behindWord_19 : decode cX23_behindWord 19 = .ok (.dup, 1) := dk_89 (dk_at dksX23_behindWord_0 19 rfl rfl)
theorem dX23_behindWord_20 : decode cX23_behindWord 20 = .ok (.aload_n 0, 1) := dk_42 (dk_at dksX23_behindWord_0 20 rfl rfl)
theorem dX23_behindWord_21 : decode cX23_behindWord 21 = .ok (.getfield 3, 3) := dk_180 0 3 (dk_at dksX23_behindWord_0 21 rfl rfl)
theorem dX23_behindWord_24 : decode cX23_behindWord 24 = .ok (.iload_n 1, 1) := dk_27 (dk_at dksX23_behindWord_1 0 rfl rfl)
theorem dX23_behindWord_25 : decode cX23_behindWord 25 = .ok (.aload_n 0, 1) := dk_42 (dk_at dksX23_behindWord_1 1 rfl rfl)
theorem dX23_behindWord_26 : decode cX23_behindWord 26 = .ok (.iconst 3, 1) := dk_6 (dk_at dksX23_behindWord_1 2 rfl rfl)
theorem dX23_behindWord_27 : decode cX23_behindWord 27 = .ok (.invokevirtual 75, 3) := dk_182 0 75 (dk_at dksX23_behindWord_1 3 rfl rfl)
theorem dX23_behindWord_30 : decode cX23_behindWord 30 = .ok (.invokespecial 79, 3) := dk_183 0 79 (dk_at dksX23_behindWord_1 6 rfl rfl)
theorem dX23_behindWord_33 : decode cX23_behindWord 33 = .ok (.areturn, 1) := dk_176 (dk_at dksX23_behindWord_1 9 rfl rfl)
abbrev cX23_read : ByteArray := prog_20_method_7_code
def yX23_read : MethodName := ⟨RX23, "read", "(I)V"⟩
def dkwX23_read_2 : List UInt8 := [153, 0, 10, 42, 182, 0, 114, 167, 0, 4, 1, 181, 0, 118, 42, 180, 0, 29, 27, 44, 83, 177]
abbrev dktX23_read_2 : List UInt8 := dkwX23_read_2 ++ []
def dkwX23_read_1 : List UInt8 := [167, 0, 4, 3, 182, 0, 47, 44, 42, 16, 20, 182, 0, 75, 181, 0, 110, 44, 42, 18, 112, 182, 0, 43]
abbrev dktX23_read_1 : List UInt8 := dkwX23_read_1 ++ dktX23_read_2
def dkwX23_read_0 : List UInt8 := [42, 182, 0, 100, 77, 42, 18, 104, 182, 0, 43, 153, 0, 29, 42, 42, 182, 0, 106, 154, 0, 7, 4]
abbrev dktX23_read_0 : List UInt8 := dkwX23_read_0 ++ dktX23_read_1
theorem dksX23_read_0 : cX23_read.data.toList.drop 0 = dktX23_read_0 := by decide +kernel
theorem dksX23_read_1 : cX23_read.data.toList.drop 23 = dktX23_read_1 := dk_seg dksX23_read_0 23 rfl rfl
theorem dksX23_read_2 : cX23_read.data.toList.drop 47 = dktX23_read_2 := dk_seg dksX23_read_1 24 rfl rfl
theorem dX23_read_0 : decode cX23_read 0 = .ok (.aload_n 0, 1) := dk_42 (dk_at dksX23_read_0 0 rfl rfl)
theorem dX23_read_1 : decode cX23_read 1 = .ok (.invokevirtual 100, 3) := dk_182 0 100 (dk_at dksX23_read_0 1 rfl rfl)
theorem dX23_read_4 : decode cX23_read 4 = .ok (.astore_n 2, 1) := dk_77 (dk_at dksX23_read_0 4 rfl rfl)
theorem dX23_read_5 : decode cX23_read 5 = .ok (.aload_n 0, 1) := dk_42 (dk_at dksX23_read_0 5 rfl rfl)
theorem dX23_read_6 : decode cX23_read 6 = .ok (.ldc 104, 2) := dk_18 104 (dk_at dksX23_read_0 6 rfl rfl)
theorem dX23_read_8 : decode cX23_read 8 = .ok (.invokevirtual 43, 3) := dk_182 0 43 (dk_at dksX23_read_0 8 rfl rfl)
theorem dX23_read_11 : decode cX23_read 11 = .ok (.ifCond .eq 29, 3) := dk_153 0 29 (dk_at dksX23_read_0 11 rfl rfl)
theorem dX23_read_14 : decode cX23_read 14 = .ok (.aload_n 0, 1) := dk_42 (dk_at dksX23_read_0 14 rfl rfl)
theorem dX23_read_15 : decode cX23_read 15 = .ok (.aload_n 0, 1) := dk_42 (dk_at dksX23_read_0 15 rfl rfl)
theorem dX23_read_16 : decode cX23_read 16 = .ok (.invokevirtual 106, 3) := dk_182 0 106 (dk_at dksX23_read_0 16 rfl rfl)
theorem dX23_read_19 : decode cX23_read 19 = .ok (.ifCond .ne 7, 3) := dk_154 0 7 (dk_at dksX23_read_0 19 rfl rfl)
theorem dX23_read_22 : decode cX23_read 22 = .ok (.iconst 1, 1) := dk_4 (dk_at dksX23_read_0 22 rfl rfl)
theorem dX23_read_23 : decode cX23_read 23 = .ok (.goto 4, 3) := dk_167 0 4 (dk_at dksX23_read_1 0 rfl rfl)
theorem dX23_read_26 : decode cX23_read 26 = .ok (.iconst 0, 1) := dk_3 (dk_at dksX23_read_1 3 rfl rfl)
theorem dX23_read_27 : decode cX23_read 27 = .ok (.invokevirtual 47, 3) := dk_182 0 47 (dk_at dksX23_read_1 4 rfl rfl)
theorem dX23_read_30 : decode cX23_read 30 = .ok (.aload_n 2, 1) := dk_44 (dk_at dksX23_read_1 7 rfl rfl)
theorem dX23_read_31 : decode cX23_read 31 = .ok (.aload_n 0, 1) := dk_42 (dk_at dksX23_read_1 8 rfl rfl)
theorem dX23_read_32 : decode cX23_read 32 = .ok (.bipush 20, 2) := dk_16 20 (dk_at dksX23_read_1 9 rfl rfl)
theorem dX23_read_34 : decode cX23_read 34 = .ok (.invokevirtual 75, 3) := dk_182 0 75 (dk_at dksX23_read_1 11 rfl rfl)
theorem dX23_read_37 : decode cX23_read 37 = .ok (.putfield 110, 3) := dk_181 0 110 (dk_at dksX23_read_1 14 rfl rfl)
theorem dX23_read_40 : decode cX23_read 40 = .ok (.aload_n 2, 1) := dk_44 (dk_at dksX23_read_1 17 rfl rfl)
theorem dX23_read_41 : decode cX23_read 41 = .ok (.aload_n 0, 1) := dk_42 (dk_at dksX23_read_1 18 rfl rfl)
theorem dX23_read_42 : decode cX23_read 42 = .ok (.ldc 112, 2) := dk_18 112 (dk_at dksX23_read_1 19 rfl rfl)
theorem dX23_read_44 : decode cX23_read 44 = .ok (.invokevirtual 43, 3) := dk_182 0 43 (dk_at dksX23_read_1 21 rfl rfl)
theorem dX23_read_47 : decode cX23_read 47 = .ok (.ifCond .eq 10, 3) := dk_153 0 10 (dk_at dksX23_read_2 0 rfl rfl)
theorem dX23_read_50 : decode cX23_read 50 = .ok (.aload_n 0, 1) := dk_42 (dk_at dksX23_read_2 3 rfl rfl)
theorem dX23_read_51 : decode cX23_read 51 = .ok (.invokevirtual 114, 3) := dk_182 0 114 (dk_at dksX23_read_2 4 rfl rfl)
theorem dX23_read_54 : decode cX23_read 54 = .ok (.goto 4, 3) := dk_167 0 4 (dk_at dksX23_read_2 7 rfl rfl)
theorem dX23_read_57 : decode cX23_read 57 = .ok (.aconst_null, 1) := dk_1 (dk_at dksX23_read_2 10 rfl rfl)
theorem dX23_read_58 : decode cX23_read 58 = .ok (.putfield 118, 3) := dk_181 0 118 (dk_at dksX23_read_2 11 rfl rfl)
theorem dX23_read_61 : decode cX23_read 61 = .ok (.aload_n 0, 1) := dk_42 (dk_at dksX23_read_2 14 rfl rfl)
theorem dX23_read_62 : decode cX23_read 62 = .ok (.getfield 29, 3) := dk_180 0 29 (dk_at dksX23_read_2 15 rfl rfl)
theorem dX23_read_65 : decode cX23_read 65 = .ok (.iload_n 1, 1) := dk_27 (dk_at dksX23_read_2 18 rfl rfl)
theorem dX23_read_66 : decode cX23_read 66 = .ok (.aload_n 2, 1) := dk_44 (dk_at dksX23_read_2 19 rfl rfl)
theorem dX23_read_67 : decode cX23_read 67 = .ok (.aastore, 1) := dk_83 (dk_at dksX23_read_2 20 rfl rfl)
theorem dX23_read_68 : decode cX23_read 68 = .ok (.return_, 1) := dk_177 (dk_at dksX23_read_2 21 rfl rfl)
abbrev cX23_act : ByteArray := prog_20_method_6_code
def yX23_act : MethodName := ⟨RX23, "act", "()LMissCurves$Act;"⟩
def dkwX23_act_4 : List UInt8 := [78, 187, 0, 27, 89, 42, 180, 0, 3, 27, 44, 45, 42, 18, 98, 182, 0, 94, 183, 0, 84, 176]
abbrev dktX23_act_4 : List UInt8 := dkwX23_act_4 ++ []
def dkwX23_act_3 : List UInt8 := [3, 182, 0, 47, 42, 182, 0, 51, 77, 27, 4, 160, 0, 12, 42, 18, 93, 182, 0, 94, 167, 0, 4, 1]
abbrev dktX23_act_3 : List UInt8 := dkwX23_act_3 ++ dktX23_act_4
def dkwX23_act_2 : List UInt8 := [167, 0, 4, 5, 60, 42, 27, 5, 160, 0, 12, 42, 18, 91, 182, 0, 43, 153, 0, 7, 4, 167, 0, 4]
abbrev dktX23_act_2 : List UInt8 := dkwX23_act_2 ++ dktX23_act_3
def dkwX23_act_1 : List UInt8 := [176, 42, 18, 87, 182, 0, 43, 153, 0, 7, 3, 167, 0, 17, 42, 18, 89, 182, 0, 43, 153, 0, 7, 4]
abbrev dktX23_act_1 : List UInt8 := dkwX23_act_1 ++ dktX23_act_2
def dkwX23_act_0 : List UInt8 := [42, 18, 82, 182, 0, 43, 153, 0, 19, 187, 0, 27, 89, 42, 180, 0, 3, 6, 1, 1, 1, 183, 0, 84]
abbrev dktX23_act_0 : List UInt8 := dkwX23_act_0 ++ dktX23_act_1
theorem dksX23_act_0 : cX23_act.data.toList.drop 0 = dktX23_act_0 := by decide +kernel
theorem dksX23_act_1 : cX23_act.data.toList.drop 24 = dktX23_act_1 := dk_seg dksX23_act_0 24 rfl rfl
theorem dksX23_act_2 : cX23_act.data.toList.drop 48 = dktX23_act_2 := dk_seg dksX23_act_1 24 rfl rfl
theorem dksX23_act_3 : cX23_act.data.toList.drop 72 = dktX23_act_3 := dk_seg dksX23_act_2 24 rfl rfl
theorem dksX23_act_4 : cX23_act.data.toList.drop 96 = dktX23_act_4 := dk_seg dksX23_act_3 24 rfl rfl
theorem dX23_act_0 : decode cX23_act 0 = .ok (.aload_n 0, 1) := dk_42 (dk_at dksX23_act_0 0 rfl rfl)
theorem dX23_act_1 : decode cX23_act 1 = .ok (.ldc 82, 2) := dk_18 82 (dk_at dksX23_act_0 1 rfl rfl)
theorem dX23_act_3 : decode cX23_act 3 = .ok (.invokevirtual 43, 3) := dk_182 0 43 (dk_at dksX23_act_0 3 rfl rfl)
theorem dX23_act_6 : decode cX23_act 6 = .ok (.ifCond .eq 19, 3) := dk_153 0 19 (dk_at dksX23_act_0 6 rfl rfl)
theorem dX23_act_9 : decode cX23_act 9 = .ok (.new 27, 3) := dk_187 0 27 (dk_at dksX23_act_0 9 rfl rfl)
theorem dX23_act_12 : decode cX23_act 12 = .ok (.dup, 1) := dk_89 (dk_at dksX23_act_0 12 rfl rfl)
theorem dX23_act_13 : decode cX23_act 13 = .ok (.aload_n 0, 1) := dk_42 (dk_at dksX23_act_0 13 rfl rfl)
theorem dX23_act_14 : decode cX23_act 14 = .ok (.getfield 3, 3) := dk_180 0 3 (dk_at dksX23_act_0 14 rfl rfl)
theorem dX23_act_17 : decode cX23_act 17 = .ok (.iconst 3, 1) := dk_6 (dk_at dksX23_act_0 17 rfl rfl)
theorem dX23_act_18 : decode cX23_act 18 = .ok (.aconst_null, 1) := dk_1 (dk_at dksX23_act_0 18 rfl rfl)
theorem dX23_act_19 : decode cX23_act 19 = .ok (.aconst_null, 1) := dk_1 (dk_at dksX23_act_0 19 rfl rfl)
theorem dX23_act_20 : decode cX23_act 20 = .ok (.aconst_null, 1) := dk_1 (dk_at dksX23_act_0 20 rfl rfl)
theorem dX23_act_21 : decode cX23_act 21 = .ok (.invokespecial 84, 3) := dk_183 0 84 (dk_at dksX23_act_0 21 rfl rfl)
theorem dX23_act_24 : decode cX23_act 24 = .ok (.areturn, 1) := dk_176 (dk_at dksX23_act_1 0 rfl rfl)
theorem dX23_act_25 : decode cX23_act 25 = .ok (.aload_n 0, 1) := dk_42 (dk_at dksX23_act_1 1 rfl rfl)
theorem dX23_act_26 : decode cX23_act 26 = .ok (.ldc 87, 2) := dk_18 87 (dk_at dksX23_act_1 2 rfl rfl)
theorem dX23_act_28 : decode cX23_act 28 = .ok (.invokevirtual 43, 3) := dk_182 0 43 (dk_at dksX23_act_1 4 rfl rfl)
theorem dX23_act_31 : decode cX23_act 31 = .ok (.ifCond .eq 7, 3) := dk_153 0 7 (dk_at dksX23_act_1 7 rfl rfl)
theorem dX23_act_34 : decode cX23_act 34 = .ok (.iconst 0, 1) := dk_3 (dk_at dksX23_act_1 10 rfl rfl)
theorem dX23_act_35 : decode cX23_act 35 = .ok (.goto 17, 3) := dk_167 0 17 (dk_at dksX23_act_1 11 rfl rfl)
theorem dX23_act_38 : decode cX23_act 38 = .ok (.aload_n 0, 1) := dk_42 (dk_at dksX23_act_1 14 rfl rfl)
theorem dX23_act_39 : decode cX23_act 39 = .ok (.ldc 89, 2) := dk_18 89 (dk_at dksX23_act_1 15 rfl rfl)
theorem dX23_act_41 : decode cX23_act 41 = .ok (.invokevirtual 43, 3) := dk_182 0 43 (dk_at dksX23_act_1 17 rfl rfl)
theorem dX23_act_44 : decode cX23_act 44 = .ok (.ifCond .eq 7, 3) := dk_153 0 7 (dk_at dksX23_act_1 20 rfl rfl)
theorem dX23_act_47 : decode cX23_act 47 = .ok (.iconst 1, 1) := dk_4 (dk_at dksX23_act_1 23 rfl rfl)
theorem dX23_act_48 : decode cX23_act 48 = .ok (.goto 4, 3) := dk_167 0 4 (dk_at dksX23_act_2 0 rfl rfl)
theorem dX23_act_51 : decode cX23_act 51 = .ok (.iconst 2, 1) := dk_5 (dk_at dksX23_act_2 3 rfl rfl)
theorem dX23_act_52 : decode cX23_act 52 = .ok (.istore_n 1, 1) := dk_60 (dk_at dksX23_act_2 4 rfl rfl)
theorem dX23_act_53 : decode cX23_act 53 = .ok (.aload_n 0, 1) := dk_42 (dk_at dksX23_act_2 5 rfl rfl)
theorem dX23_act_54 : decode cX23_act 54 = .ok (.iload_n 1, 1) := dk_27 (dk_at dksX23_act_2 6 rfl rfl)
theorem dX23_act_55 : decode cX23_act 55 = .ok (.iconst 2, 1) := dk_5 (dk_at dksX23_act_2 7 rfl rfl)
theorem dX23_act_56 : decode cX23_act 56 = .ok (.if_icmp .ne 12, 3) := dk_160 0 12 (dk_at dksX23_act_2 8 rfl rfl)
theorem dX23_act_59 : decode cX23_act 59 = .ok (.aload_n 0, 1) := dk_42 (dk_at dksX23_act_2 11 rfl rfl)
theorem dX23_act_60 : decode cX23_act 60 = .ok (.ldc 91, 2) := dk_18 91 (dk_at dksX23_act_2 12 rfl rfl)
theorem dX23_act_62 : decode cX23_act 62 = .ok (.invokevirtual 43, 3) := dk_182 0 43 (dk_at dksX23_act_2 14 rfl rfl)
theorem dX23_act_65 : decode cX23_act 65 = .ok (.ifCond .eq 7, 3) := dk_153 0 7 (dk_at dksX23_act_2 17 rfl rfl)
theorem dX23_act_68 : decode cX23_act 68 = .ok (.iconst 1, 1) := dk_4 (dk_at dksX23_act_2 20 rfl rfl)
theorem dX23_act_69 : decode cX23_act 69 = .ok (.goto 4, 3) := dk_167 0 4 (dk_at dksX23_act_2 21 rfl rfl)
theorem dX23_act_72 : decode cX23_act 72 = .ok (.iconst 0, 1) := dk_3 (dk_at dksX23_act_3 0 rfl rfl)
theorem dX23_act_73 : decode cX23_act 73 = .ok (.invokevirtual 47, 3) := dk_182 0 47 (dk_at dksX23_act_3 1 rfl rfl)
theorem dX23_act_76 : decode cX23_act 76 = .ok (.aload_n 0, 1) := dk_42 (dk_at dksX23_act_3 4 rfl rfl)
theorem dX23_act_77 : decode cX23_act 77 = .ok (.invokevirtual 51, 3) := dk_182 0 51 (dk_at dksX23_act_3 5 rfl rfl)
theorem dX23_act_80 : decode cX23_act 80 = .ok (.astore_n 2, 1) := dk_77 (dk_at dksX23_act_3 8 rfl rfl)
theorem dX23_act_81 : decode cX23_act 81 = .ok (.iload_n 1, 1) := dk_27 (dk_at dksX23_act_3 9 rfl rfl)
theorem dX23_act_82 : decode cX23_act 82 = .ok (.iconst 1, 1) := dk_4 (dk_at dksX23_act_3 10 rfl rfl)
theorem dX23_act_83 : decode cX23_act 83 = .ok (.if_icmp .ne 12, 3) := dk_160 0 12 (dk_at dksX23_act_3 11 rfl rfl)
theorem dX23_act_86 : decode cX23_act 86 = .ok (.aload_n 0, 1) := dk_42 (dk_at dksX23_act_3 14 rfl rfl)
theorem dX23_act_87 : decode cX23_act 87 = .ok (.ldc 93, 2) := dk_18 93 (dk_at dksX23_act_3 15 rfl rfl)
theorem dX23_act_89 : decode cX23_act 89 = .ok (.invokevirtual 94, 3) := dk_182 0 94 (dk_at dksX23_act_3 17 rfl rfl)
theorem dX23_act_92 : decode cX23_act 92 = .ok (.goto 4, 3) := dk_167 0 4 (dk_at dksX23_act_3 20 rfl rfl)
theorem dX23_act_95 : decode cX23_act 95 = .ok (.aconst_null, 1) := dk_1 (dk_at dksX23_act_3 23 rfl rfl)
theorem dX23_act_96 : decode cX23_act 96 = .ok (.astore_n 3, 1) := dk_78 (dk_at dksX23_act_4 0 rfl rfl)
theorem dX23_act_97 : decode cX23_act 97 = .ok (.new 27, 3) := dk_187 0 27 (dk_at dksX23_act_4 1 rfl rfl)
theorem dX23_act_100 : decode cX23_act 100 = .ok (.dup, 1) := dk_89 (dk_at dksX23_act_4 4 rfl rfl)
theorem dX23_act_101 : decode cX23_act 101 = .ok (.aload_n 0, 1) := dk_42 (dk_at dksX23_act_4 5 rfl rfl)
theorem dX23_act_102 : decode cX23_act 102 = .ok (.getfield 3, 3) := dk_180 0 3 (dk_at dksX23_act_4 6 rfl rfl)
theorem dX23_act_105 : decode cX23_act 105 = .ok (.iload_n 1, 1) := dk_27 (dk_at dksX23_act_4 9 rfl rfl)
theorem dX23_act_106 : decode cX23_act 106 = .ok (.aload_n 2, 1) := dk_44 (dk_at dksX23_act_4 10 rfl rfl)
theorem dX23_act_107 : decode cX23_act 107 = .ok (.aload_n 3, 1) := dk_45 (dk_at dksX23_act_4 11 rfl rfl)
theorem dX23_act_108 : decode cX23_act 108 = .ok (.aload_n 0, 1) := dk_42 (dk_at dksX23_act_4 12 rfl rfl)
theorem dX23_act_109 : decode cX23_act 109 = .ok (.ldc 98, 2) := dk_18 98 (dk_at dksX23_act_4 13 rfl rfl)
theorem dX23_act_111 : decode cX23_act 111 = .ok (.invokevirtual 94, 3) := dk_182 0 94 (dk_at dksX23_act_4 15 rfl rfl)
theorem dX23_act_114 : decode cX23_act 114 = .ok (.invokespecial 84, 3) := dk_183 0 84 (dk_at dksX23_act_4 18 rfl rfl)
theorem dX23_act_117 : decode cX23_act 117 = .ok (.areturn, 1) := dk_176 (dk_at dksX23_act_4 21 rfl rfl)
abbrev cX23_behind : ByteArray := prog_20_method_3_code
def yX23_behind : MethodName := ⟨RX23, "behind", "(Ljava/lang/String;)LMissCurves$Sum;"⟩
def dkwX23_behind_0 : List UInt8 := [42, 42, 43, 182, 0, 43, 182, 0, 47, 42, 182, 0, 51, 176]
abbrev dktX23_behind_0 : List UInt8 := dkwX23_behind_0 ++ []
theorem dksX23_behind_0 : cX23_behind.data.toList.drop 0 = dktX23_behind_0 := by decide +kernel
theorem dX23_behind_0 : decode cX23_behind 0 = .ok (.aload_n 0, 1) := dk_42 (dk_at dksX23_behind_0 0 rfl rfl)
theorem dX23_behind_1 : decode cX23_behind 1 = .ok (.aload_n 0, 1) := dk_42 (dk_at dksX23_behind_0 1 rfl rfl)
theorem dX23_behind_2 : decode cX23_behind 2 = .ok (.aload_n 1, 1) := dk_43 (dk_at dksX23_behind_0 2 rfl rfl)
theorem dX23_behind_3 : decode cX23_behind 3 = .ok (.invokevirtual 43, 3) := dk_182 0 43 (dk_at dksX23_behind_0 3 rfl rfl)
theorem dX23_behind_6 : decode cX23_behind 6 = .ok (.invokevirtual 47, 3) := dk_182 0 47 (dk_at dksX23_behind_0 6 rfl rfl)
theorem dX23_behind_9 : decode cX23_behind 9 = .ok (.aload_n 0, 1) := dk_42 (dk_at dksX23_behind_0 9 rfl rfl)
theorem dX23_behind_10 : decode cX23_behind 10 = .ok (.invokevirtual 51, 3) := dk_182 0 51 (dk_at dksX23_behind_0 10 rfl rfl)
theorem dX23_behind_13 : decode cX23_behind 13 = .ok (.areturn, 1) := dk_176 (dk_at dksX23_behind_0 13 rfl rfl)
abbrev cX23_isNought : ByteArray := prog_20_method_4_code
def yX23_isNought : MethodName := ⟨RX23, "isNought", "()Z"⟩
def dkwX23_isNought_2 : List UInt8 := [167, 0, 4, 3, 126, 60, 132, 2, 1, 167, 255, 223, 27, 172]
abbrev dktX23_isNought_2 : List UInt8 := dkwX23_isNought_2 ++ []
def dkwX23_isNought_1 : List UInt8 := [180, 0, 59, 162, 0, 31, 27, 42, 180, 0, 3, 180, 0, 62, 28, 51, 16, 48, 160, 0, 7, 4]
abbrev dktX23_isNought_1 : List UInt8 := dkwX23_isNought_1 ++ dktX23_isNought_2
def dkwX23_isNought_0 : List UInt8 := [42, 180, 0, 55, 42, 180, 0, 59, 162, 0, 7, 4, 167, 0, 4, 3, 60, 42, 180, 0, 55, 61, 28, 42]
abbrev dktX23_isNought_0 : List UInt8 := dkwX23_isNought_0 ++ dktX23_isNought_1
theorem dksX23_isNought_0 : cX23_isNought.data.toList.drop 0 = dktX23_isNought_0 := by decide +kernel
theorem dksX23_isNought_1 : cX23_isNought.data.toList.drop 24 = dktX23_isNought_1 := dk_seg dksX23_isNought_0 24 rfl rfl
theorem dksX23_isNought_2 : cX23_isNought.data.toList.drop 46 = dktX23_isNought_2 := dk_seg dksX23_isNought_1 22 rfl rfl
theorem dX23_isNought_0 : decode cX23_isNought 0 = .ok (.aload_n 0, 1) := dk_42 (dk_at dksX23_isNought_0 0 rfl rfl)
theorem dX23_isNought_1 : decode cX23_isNought 1 = .ok (.getfield 55, 3) := dk_180 0 55 (dk_at dksX23_isNought_0 1 rfl rfl)
theorem dX23_isNought_4 : decode cX23_isNought 4 = .ok (.aload_n 0, 1) := dk_42 (dk_at dksX23_isNought_0 4 rfl rfl)
theorem dX23_isNought_5 : decode cX23_isNought 5 = .ok (.getfield 59, 3) := dk_180 0 59 (dk_at dksX23_isNought_0 5 rfl rfl)
theorem dX23_isNought_8 : decode cX23_isNought 8 = .ok (.if_icmp .ge 7, 3) := dk_162 0 7 (dk_at dksX23_isNought_0 8 rfl rfl)
theorem dX23_isNought_11 : decode cX23_isNought 11 = .ok (.iconst 1, 1) := dk_4 (dk_at dksX23_isNought_0 11 rfl rfl)
theorem dX23_isNought_12 : decode cX23_isNought 12 = .ok (.goto 4, 3) := dk_167 0 4 (dk_at dksX23_isNought_0 12 rfl rfl)
theorem dX23_isNought_15 : decode cX23_isNought 15 = .ok (.iconst 0, 1) := dk_3 (dk_at dksX23_isNought_0 15 rfl rfl)
theorem dX23_isNought_16 : decode cX23_isNought 16 = .ok (.istore_n 1, 1) := dk_60 (dk_at dksX23_isNought_0 16 rfl rfl)
theorem dX23_isNought_17 : decode cX23_isNought 17 = .ok (.aload_n 0, 1) := dk_42 (dk_at dksX23_isNought_0 17 rfl rfl)
theorem dX23_isNought_18 : decode cX23_isNought 18 = .ok (.getfield 55, 3) := dk_180 0 55 (dk_at dksX23_isNought_0 18 rfl rfl)
theorem dX23_isNought_21 : decode cX23_isNought 21 = .ok (.istore_n 2, 1) := dk_61 (dk_at dksX23_isNought_0 21 rfl rfl)
theorem dX23_isNought_22 : decode cX23_isNought 22 = .ok (.iload_n 2, 1) := dk_28 (dk_at dksX23_isNought_0 22 rfl rfl)
theorem dX23_isNought_23 : decode cX23_isNought 23 = .ok (.aload_n 0, 1) := dk_42 (dk_at dksX23_isNought_0 23 rfl rfl)
theorem dX23_isNought_24 : decode cX23_isNought 24 = .ok (.getfield 59, 3) := dk_180 0 59 (dk_at dksX23_isNought_1 0 rfl rfl)
theorem dX23_isNought_27 : decode cX23_isNought 27 = .ok (.if_icmp .ge 31, 3) := dk_162 0 31 (dk_at dksX23_isNought_1 3 rfl rfl)
theorem dX23_isNought_30 : decode cX23_isNought 30 = .ok (.iload_n 1, 1) := dk_27 (dk_at dksX23_isNought_1 6 rfl rfl)
theorem dX23_isNought_31 : decode cX23_isNought 31 = .ok (.aload_n 0, 1) := dk_42 (dk_at dksX23_isNought_1 7 rfl rfl)
theorem dX23_isNought_32 : decode cX23_isNought 32 = .ok (.getfield 3, 3) := dk_180 0 3 (dk_at dksX23_isNought_1 8 rfl rfl)
theorem dX23_isNought_35 : decode cX23_isNought 35 = .ok (.getfield 62, 3) := dk_180 0 62 (dk_at dksX23_isNought_1 11 rfl rfl)
theorem dX23_isNought_38 : decode cX23_isNought 38 = .ok (.iload_n 2, 1) := dk_28 (dk_at dksX23_isNought_1 14 rfl rfl)
theorem dX23_isNought_39 : decode cX23_isNought 39 = .ok (.baload, 1) := dk_51 (dk_at dksX23_isNought_1 15 rfl rfl)
theorem dX23_isNought_40 : decode cX23_isNought 40 = .ok (.bipush 48, 2) := dk_16 48 (dk_at dksX23_isNought_1 16 rfl rfl)
theorem dX23_isNought_42 : decode cX23_isNought 42 = .ok (.if_icmp .ne 7, 3) := dk_160 0 7 (dk_at dksX23_isNought_1 18 rfl rfl)
theorem dX23_isNought_45 : decode cX23_isNought 45 = .ok (.iconst 1, 1) := dk_4 (dk_at dksX23_isNought_1 21 rfl rfl)
theorem dX23_isNought_46 : decode cX23_isNought 46 = .ok (.goto 4, 3) := dk_167 0 4 (dk_at dksX23_isNought_2 0 rfl rfl)
theorem dX23_isNought_49 : decode cX23_isNought 49 = .ok (.iconst 0, 1) := dk_3 (dk_at dksX23_isNought_2 3 rfl rfl)
theorem dX23_isNought_50 : decode cX23_isNought 50 = .ok (.iand, 1) := dk_126 (dk_at dksX23_isNought_2 4 rfl rfl)
theorem dX23_isNought_51 : decode cX23_isNought 51 = .ok (.istore_n 1, 1) := dk_60 (dk_at dksX23_isNought_2 5 rfl rfl)
theorem dX23_isNought_52 : decode cX23_isNought 52 = .ok (.iinc 2 1, 3) := dk_132 2 1 (dk_at dksX23_isNought_2 6 rfl rfl)
theorem dX23_isNought_55 : decode cX23_isNought 55 = .ok (.goto (-33), 3) := dk_167 255 223 (dk_at dksX23_isNought_2 9 rfl rfl)
theorem dX23_isNought_58 : decode cX23_isNought 58 = .ok (.iload_n 1, 1) := dk_27 (dk_at dksX23_isNought_2 12 rfl rfl)
theorem dX23_isNought_59 : decode cX23_isNought 59 = .ok (.ireturn, 1) := dk_172 (dk_at dksX23_isNought_2 13 rfl rfl)
abbrev cX23_init : ByteArray := prog_20_method_1_code
def yX23_init : MethodName := ⟨RX23, "<init>", "(LMissCurves;)V"⟩
def dkwX23_init_2 : List UInt8 := [181, 0, 29, 177]
abbrev dktX23_init_2 : List UInt8 := dkwX23_init_2 ++ []
def dkwX23_init_1 : List UInt8 := [18, 15, 83, 89, 6, 18, 17, 83, 89, 7, 18, 19, 83, 183, 0, 21, 42, 16, 12, 189, 0, 27]
abbrev dktX23_init_1 : List UInt8 := dkwX23_init_1 ++ dktX23_init_2
def dkwX23_init_0 : List UInt8 := [42, 43, 181, 0, 3, 42, 43, 8, 189, 0, 9, 89, 3, 18, 11, 83, 89, 4, 18, 13, 83, 89, 5]
abbrev dktX23_init_0 : List UInt8 := dkwX23_init_0 ++ dktX23_init_1
theorem dksX23_init_0 : cX23_init.data.toList.drop 0 = dktX23_init_0 := by decide +kernel
theorem dksX23_init_1 : cX23_init.data.toList.drop 23 = dktX23_init_1 := dk_seg dksX23_init_0 23 rfl rfl
theorem dksX23_init_2 : cX23_init.data.toList.drop 45 = dktX23_init_2 := dk_seg dksX23_init_1 22 rfl rfl
theorem dX23_init_0 : decode cX23_init 0 = .ok (.aload_n 0, 1) := dk_42 (dk_at dksX23_init_0 0 rfl rfl)
theorem dX23_init_1 : decode cX23_init 1 = .ok (.aload_n 1, 1) := dk_43 (dk_at dksX23_init_0 1 rfl rfl)
theorem dX23_init_2 : decode cX23_init 2 = .ok (.putfield 3, 3) := dk_181 0 3 (dk_at dksX23_init_0 2 rfl rfl)
theorem dX23_init_5 : decode cX23_init 5 = .ok (.aload_n 0, 1) := dk_42 (dk_at dksX23_init_0 5 rfl rfl)
theorem dX23_init_6 : decode cX23_init 6 = .ok (.aload_n 1, 1) := dk_43 (dk_at dksX23_init_0 6 rfl rfl)
theorem dX23_init_7 : decode cX23_init 7 = .ok (.iconst 5, 1) := dk_8 (dk_at dksX23_init_0 7 rfl rfl)
theorem dX23_init_8 : decode cX23_init 8 = .ok (.anewarray 9, 3) := dk_189 0 9 (dk_at dksX23_init_0 8 rfl rfl)
theorem dX23_init_11 : decode cX23_init 11 = .ok (.dup, 1) := dk_89 (dk_at dksX23_init_0 11 rfl rfl)
theorem dX23_init_12 : decode cX23_init 12 = .ok (.iconst 0, 1) := dk_3 (dk_at dksX23_init_0 12 rfl rfl)
theorem dX23_init_13 : decode cX23_init 13 = .ok (.ldc 11, 2) := dk_18 11 (dk_at dksX23_init_0 13 rfl rfl)
theorem dX23_init_15 : decode cX23_init 15 = .ok (.aastore, 1) := dk_83 (dk_at dksX23_init_0 15 rfl rfl)
theorem dX23_init_16 : decode cX23_init 16 = .ok (.dup, 1) := dk_89 (dk_at dksX23_init_0 16 rfl rfl)
theorem dX23_init_17 : decode cX23_init 17 = .ok (.iconst 1, 1) := dk_4 (dk_at dksX23_init_0 17 rfl rfl)
theorem dX23_init_18 : decode cX23_init 18 = .ok (.ldc 13, 2) := dk_18 13 (dk_at dksX23_init_0 18 rfl rfl)
theorem dX23_init_20 : decode cX23_init 20 = .ok (.aastore, 1) := dk_83 (dk_at dksX23_init_0 20 rfl rfl)
theorem dX23_init_21 : decode cX23_init 21 = .ok (.dup, 1) := dk_89 (dk_at dksX23_init_0 21 rfl rfl)
theorem dX23_init_22 : decode cX23_init 22 = .ok (.iconst 2, 1) := dk_5 (dk_at dksX23_init_0 22 rfl rfl)
theorem dX23_init_23 : decode cX23_init 23 = .ok (.ldc 15, 2) := dk_18 15 (dk_at dksX23_init_1 0 rfl rfl)
theorem dX23_init_25 : decode cX23_init 25 = .ok (.aastore, 1) := dk_83 (dk_at dksX23_init_1 2 rfl rfl)
theorem dX23_init_26 : decode cX23_init 26 = .ok (.dup, 1) := dk_89 (dk_at dksX23_init_1 3 rfl rfl)
theorem dX23_init_27 : decode cX23_init 27 = .ok (.iconst 3, 1) := dk_6 (dk_at dksX23_init_1 4 rfl rfl)
theorem dX23_init_28 : decode cX23_init 28 = .ok (.ldc 17, 2) := dk_18 17 (dk_at dksX23_init_1 5 rfl rfl)
theorem dX23_init_30 : decode cX23_init 30 = .ok (.aastore, 1) := dk_83 (dk_at dksX23_init_1 7 rfl rfl)
theorem dX23_init_31 : decode cX23_init 31 = .ok (.dup, 1) := dk_89 (dk_at dksX23_init_1 8 rfl rfl)
theorem dX23_init_32 : decode cX23_init 32 = .ok (.iconst 4, 1) := dk_7 (dk_at dksX23_init_1 9 rfl rfl)
theorem dX23_init_33 : decode cX23_init 33 = .ok (.ldc 19, 2) := dk_18 19 (dk_at dksX23_init_1 10 rfl rfl)
theorem dX23_init_35 : decode cX23_init 35 = .ok (.aastore, 1) := dk_83 (dk_at dksX23_init_1 12 rfl rfl)
theorem dX23_init_36 : decode cX23_init 36 = .ok (.invokespecial 21, 3) := dk_183 0 21 (dk_at dksX23_init_1 13 rfl rfl)
theorem dX23_init_39 : decode cX23_init 39 = .ok (.aload_n 0, 1) := dk_42 (dk_at dksX23_init_1 16 rfl rfl)
theorem dX23_init_40 : decode cX23_init 40 = .ok (.bipush 12, 2) := dk_16 12 (dk_at dksX23_init_1 17 rfl rfl)
theorem dX23_init_42 : decode cX23_init 42 = .ok (.anewarray 27, 3) := dk_189 0 27 (dk_at dksX23_init_1 19 rfl rfl)
theorem dX23_init_45 : decode cX23_init 45 = .ok (.putfield 29, 3) := dk_181 0 29 (dk_at dksX23_init_2 0 rfl rfl)
theorem dX23_init_48 : decode cX23_init 48 = .ok (.return_, 1) := dk_177 (dk_at dksX23_init_2 3 rfl rfl)
abbrev cX23_read_2 : ByteArray := prog_20_method_2_code
def yX23_read_2 : MethodName := ⟨RX23, "read", "()[LMissCurves$Act;"⟩
def dkwX23_read_2_0 : List UInt8 := [42, 182, 0, 33, 189, 0, 27, 76, 42, 180, 0, 29, 3, 43, 3, 43, 190, 184, 0, 37, 43, 176]
abbrev dktX23_read_2_0 : List UInt8 := dkwX23_read_2_0 ++ []
theorem dksX23_read_2_0 : cX23_read_2.data.toList.drop 0 = dktX23_read_2_0 := by decide +kernel
theorem dX23_read_2_0 : decode cX23_read_2 0 = .ok (.aload_n 0, 1) := dk_42 (dk_at dksX23_read_2_0 0 rfl rfl)
theorem dX23_read_2_1 : decode cX23_read_2 1 = .ok (.invokevirtual 33, 3) := dk_182 0 33 (dk_at dksX23_read_2_0 1 rfl rfl)
theorem dX23_read_2_4 : decode cX23_read_2 4 = .ok (.anewarray 27, 3) := dk_189 0 27 (dk_at dksX23_read_2_0 4 rfl rfl)
theorem dX23_read_2_7 : decode cX23_read_2 7 = .ok (.astore_n 1, 1) := dk_76 (dk_at dksX23_read_2_0 7 rfl rfl)
theorem dX23_read_2_8 : decode cX23_read_2 8 = .ok (.aload_n 0, 1) := dk_42 (dk_at dksX23_read_2_0 8 rfl rfl)
theorem dX23_read_2_9 : decode cX23_read_2 9 = .ok (.getfield 29, 3) := dk_180 0 29 (dk_at dksX23_read_2_0 9 rfl rfl)
theorem dX23_read_2_12 : decode cX23_read_2 12 = .ok (.iconst 0, 1) := dk_3 (dk_at dksX23_read_2_0 12 rfl rfl)
theorem dX23_read_2_13 : decode cX23_read_2 13 = .ok (.aload_n 1, 1) := dk_43 (dk_at dksX23_read_2_0 13 rfl rfl)
theorem dX23_read_2_14 : decode cX23_read_2 14 = .ok (.iconst 0, 1) := dk_3 (dk_at dksX23_read_2_0 14 rfl rfl)
theorem dX23_read_2_15 : decode cX23_read_2 15 = .ok (.aload_n 1, 1) := dk_43 (dk_at dksX23_read_2_0 15 rfl rfl)
theorem dX23_read_2_16 : decode cX23_read_2 16 = .ok (.arraylength, 1) := dk_190 (dk_at dksX23_read_2_0 16 rfl rfl)
theorem dX23_read_2_17 : decode cX23_read_2 17 = .ok (.invokestatic 37, 3) := dk_184 0 37 (dk_at dksX23_read_2_0 17 rfl rfl)
theorem dX23_read_2_20 : decode cX23_read_2 20 = .ok (.aload_n 1, 1) := dk_43 (dk_at dksX23_read_2_0 20 rfl rfl)
theorem dX23_read_2_21 : decode cX23_read_2 21 = .ok (.areturn, 1) := dk_176 (dk_at dksX23_read_2_0 21 rfl rfl)
theorem q170 : (Jvm.Cond.initialized "MissCurves$OrderReader") ∈ lw_all := lw_g (lw_at lw_m1 43 rfl) rfl
theorem q396 : (Jvm.Cond.fieldLinkNest "MissCurves$OrderReader" (62 : Nat) "MissCurves" "tape" "[B" "MissCurves") ∈ lw_tbl := lw_at lw_m2 29 rfl
theorem q1076 : (Jvm.Cond.fieldLink "MissCurves$OrderReader" (55 : Nat) "MissCurves$OrderReader" "from" "I") ∈ lw_all := lw_g (lw_at lw_m4 229 rfl) rfl
theorem q1077 : (Jvm.Cond.sameField "MissCurves$OrderReader" "MissCurves$Reader" "from" "I") ∈ lw_all := lw_g (lw_at lw_m4 230 rfl) rfl
theorem q1079 : (Jvm.Cond.fieldLink "MissCurves$OrderReader" (59 : Nat) "MissCurves$OrderReader" "to" "I") ∈ lw_all := lw_g (lw_at lw_m4 232 rfl) rfl
theorem q1080 : (Jvm.Cond.sameField "MissCurves$OrderReader" "MissCurves$Reader" "to" "I") ∈ lw_all := lw_g (lw_at lw_m4 233 rfl) rfl
theorem q1124 : (Jvm.Cond.selects "MissCurves$OrderReader" ({ cls := "MissCurves$Reader", name := "next", desc := "()V" } : Jvm.MethodName) ({ cls := "MissCurves$Reader", name := "next", desc := "()V" } : Jvm.MethodName)) ∈ lw_all := lw_g (lw_at lw_m5 37 rfl) rfl
theorem q1136 : (Jvm.Cond.selects "MissCurves$OrderReader" ({ cls := "MissCurves$Reader", name := "must", desc := "(Z)V" } : Jvm.MethodName) ({ cls := "MissCurves$Reader", name := "must", desc := "(Z)V" } : Jvm.MethodName)) ∈ lw_all := lw_g (lw_at lw_m5 49 rfl) rfl
theorem q1178 : (Jvm.Cond.selects "MissCurves$OrderReader" ({ cls := "MissCurves$Reader", name := "isWord", desc := "(Ljava/lang/String;)Z" } : Jvm.MethodName) ({ cls := "MissCurves$Reader", name := "isWord", desc := "(Ljava/lang/String;)Z" } : Jvm.MethodName)) ∈ lw_all := lw_g (lw_at lw_m5 91 rfl) rfl
theorem q1236 : (Jvm.Cond.selects "MissCurves$OrderReader" ({ cls := "MissCurves$Reader", name := "accept", desc := "(Ljava/lang/String;)Z" } : Jvm.MethodName) ({ cls := "MissCurves$Reader", name := "accept", desc := "(Ljava/lang/String;)Z" } : Jvm.MethodName)) ∈ lw_all := lw_g (lw_at lw_m5 149 rfl) rfl
theorem q1249 : (Jvm.Cond.selects "MissCurves$OrderReader" ({ cls := "MissCurves$Reader", name := "number", desc := "(I)I" } : Jvm.MethodName) ({ cls := "MissCurves$Reader", name := "number", desc := "(I)I" } : Jvm.MethodName)) ∈ lw_all := lw_g (lw_at lw_m5 162 rfl) rfl
theorem q1266 : (Jvm.Cond.selects "MissCurves$OrderReader" ({ cls := "MissCurves$Reader", name := "behindWord", desc := "(I)LMissCurves$Sum;" } : Jvm.MethodName) ({ cls := "MissCurves$OrderReader", name := "behindWord", desc := "(I)LMissCurves$Sum;" } : Jvm.MethodName)) ∈ lw_all := lw_g (lw_at lw_m5 179 rfl) rfl
theorem q1267 : (Jvm.Cond.instanceMethod ({ cls := "MissCurves$OrderReader", name := "behindWord", desc := "(I)LMissCurves$Sum;" } : Jvm.MethodName)) ∈ lw_all := lw_g (lw_at lw_m5 180 rfl) rfl
theorem q1268 : (Jvm.Cond.code ({ cls := "MissCurves$OrderReader", name := "behindWord", desc := "(I)LMissCurves$Sum;" } : Jvm.MethodName) prog_20_method_5_code (2 : Nat) (Option.some (Jvm.ClassFile.FieldType.object "MissCurves$Sum"))) ∈ lw_all := lw_g (lw_at lw_m5 181 rfl) rfl
theorem q1269 : (Jvm.Cond.classLink "MissCurves$OrderReader" (68 : Nat) "MissCurves$Part") ∈ lw_all := lw_g (lw_at lw_m5 182 rfl) rfl
theorem q1271 : (Jvm.Cond.methodLink "MissCurves$OrderReader" (70 : Nat) ({ cls := "MissCurves$Part", name := "<init>", desc := "(I)V" } : Jvm.MethodName)) ∈ lw_all := lw_g (lw_at lw_m5 184 rfl) rfl
theorem q1279 : (Jvm.Cond.classLink "MissCurves$OrderReader" (73 : Nat) "MissCurves$Of") ∈ lw_all := lw_g (lw_at lw_m5 192 rfl) rfl
theorem q1281 : (Jvm.Cond.methodLink "MissCurves$OrderReader" (75 : Nat) ({ cls := "MissCurves$OrderReader", name := "number", desc := "(I)I" } : Jvm.MethodName)) ∈ lw_all := lw_g (lw_at lw_m5 194 rfl) rfl
theorem q1282 : (Jvm.Cond.sameMethod "MissCurves$OrderReader" "MissCurves$Reader" "number" "(I)I") ∈ lw_all := lw_g (lw_at lw_m5 195 rfl) rfl
theorem q1284 : (Jvm.Cond.selects "MissCurves$OrderReader" ({ cls := "MissCurves$OrderReader", name := "number", desc := "(I)I" } : Jvm.MethodName) ({ cls := "MissCurves$Reader", name := "number", desc := "(I)I" } : Jvm.MethodName)) ∈ lw_all := lw_g (lw_at lw_m5 197 rfl) rfl
theorem q1285 : (Jvm.Cond.methodLink "MissCurves$OrderReader" (79 : Nat) ({ cls := "MissCurves$Of", name := "<init>", desc := "(LMissCurves;II)V" } : Jvm.MethodName)) ∈ lw_all := lw_g (lw_at lw_m5 198 rfl) rfl
theorem q1422 : (Jvm.Cond.selects "MissCurves$OrderReader" ({ cls := "MissCurves$Reader", name := "read", desc := "(I)V" } : Jvm.MethodName) ({ cls := "MissCurves$OrderReader", name := "read", desc := "(I)V" } : Jvm.MethodName)) ∈ lw_all := lw_g (lw_at lw_m6 95 rfl) rfl
theorem q1423 : (Jvm.Cond.instanceMethod ({ cls := "MissCurves$OrderReader", name := "read", desc := "(I)V" } : Jvm.MethodName)) ∈ lw_all := lw_g (lw_at lw_m6 96 rfl) rfl
theorem q1424 : (Jvm.Cond.code ({ cls := "MissCurves$OrderReader", name := "read", desc := "(I)V" } : Jvm.MethodName) prog_20_method_7_code (3 : Nat) (Option.none : Option Jvm.ClassFile.FieldType)) ∈ lw_all := lw_g (lw_at lw_m6 97 rfl) rfl
theorem q1425 : (Jvm.Cond.methodLink "MissCurves$OrderReader" (100 : Nat) ({ cls := "MissCurves$OrderReader", name := "act", desc := "()LMissCurves$Act;" } : Jvm.MethodName)) ∈ lw_all := lw_g (lw_at lw_m6 98 rfl) rfl
theorem q1426 : (Jvm.Cond.privateMethod ({ cls := "MissCurves$OrderReader", name := "act", desc := "()LMissCurves$Act;" } : Jvm.MethodName)) ∈ lw_tbl := lw_at lw_m6 99 rfl
theorem q1427 : (Jvm.Cond.instanceMethod ({ cls := "MissCurves$OrderReader", name := "act", desc := "()LMissCurves$Act;" } : Jvm.MethodName)) ∈ lw_all := lw_g (lw_at lw_m6 100 rfl) rfl
theorem q1428 : (Jvm.Cond.instantiable "MissCurves$OrderReader" (10 : Nat)) ∈ lw_all := lw_g (lw_at lw_m6 101 rfl) rfl
theorem q1429 : (Jvm.Cond.code ({ cls := "MissCurves$OrderReader", name := "act", desc := "()LMissCurves$Act;" } : Jvm.MethodName) prog_20_method_6_code (4 : Nat) (Option.some (Jvm.ClassFile.FieldType.object "MissCurves$Act"))) ∈ lw_all := lw_g (lw_at lw_m6 102 rfl) rfl
theorem q1430 : (Jvm.Cond.stringRef "MissCurves$OrderReader" (82 : Nat) "pass") ∈ lw_tbl := lw_at lw_m6 103 rfl
theorem q1431 : (Jvm.Cond.methodLink "MissCurves$OrderReader" (43 : Nat) ({ cls := "MissCurves$OrderReader", name := "accept", desc := "(Ljava/lang/String;)Z" } : Jvm.MethodName)) ∈ lw_all := lw_g (lw_at lw_m6 104 rfl) rfl
theorem q1432 : (Jvm.Cond.sameMethod "MissCurves$OrderReader" "MissCurves$Reader" "accept" "(Ljava/lang/String;)Z") ∈ lw_all := lw_g (lw_at lw_m6 105 rfl) rfl
theorem q1433 : (Jvm.Cond.selects "MissCurves$OrderReader" ({ cls := "MissCurves$OrderReader", name := "accept", desc := "(Ljava/lang/String;)Z" } : Jvm.MethodName) ({ cls := "MissCurves$Reader", name := "accept", desc := "(Ljava/lang/String;)Z" } : Jvm.MethodName)) ∈ lw_all := lw_g (lw_at lw_m6 106 rfl) rfl
theorem q1434 : (Jvm.Cond.classLink "MissCurves$OrderReader" (27 : Nat) "MissCurves$Act") ∈ lw_all := lw_g (lw_at lw_m6 107 rfl) rfl
theorem q1436 : (Jvm.Cond.methodLink "MissCurves$OrderReader" (84 : Nat) ({ cls := "MissCurves$Act", name := "<init>", desc := "(LMissCurves;ILMissCurves$Sum;LMissCurves$Sum;LMissCurves$Sum;)V" } : Jvm.MethodName)) ∈ lw_all := lw_g (lw_at lw_m6 109 rfl) rfl
theorem q1445 : (Jvm.Cond.fieldLinkNest "MissCurves$OrderReader" (118 : Nat) "MissCurves$Act" "test" "LMissCurves$Test;" "MissCurves") ∈ lw_tbl := lw_at lw_m6 118 rfl
theorem q1447 : (Jvm.Cond.fieldLinkNest "MissCurves$OrderReader" (110 : Nat) "MissCurves$Act" "times" "I" "MissCurves") ∈ lw_tbl := lw_at lw_m6 120 rfl
theorem q1468 : (Jvm.Cond.stringRef "MissCurves$OrderReader" (87 : Nat) "read") ∈ lw_tbl := lw_at lw_m6 141 rfl
theorem q1469 : (Jvm.Cond.stringRef "MissCurves$OrderReader" (89 : Nat) "loop") ∈ lw_tbl := lw_at lw_m6 142 rfl
theorem q1470 : (Jvm.Cond.stringRef "MissCurves$OrderReader" (91 : Nat) "drop") ∈ lw_tbl := lw_at lw_m6 143 rfl
theorem q1471 : (Jvm.Cond.methodLink "MissCurves$OrderReader" (47 : Nat) ({ cls := "MissCurves$OrderReader", name := "must", desc := "(Z)V" } : Jvm.MethodName)) ∈ lw_all := lw_g (lw_at lw_m6 144 rfl) rfl
theorem q1472 : (Jvm.Cond.sameMethod "MissCurves$OrderReader" "MissCurves$Reader" "must" "(Z)V") ∈ lw_all := lw_g (lw_at lw_m6 145 rfl) rfl
theorem q1473 : (Jvm.Cond.selects "MissCurves$OrderReader" ({ cls := "MissCurves$OrderReader", name := "must", desc := "(Z)V" } : Jvm.MethodName) ({ cls := "MissCurves$Reader", name := "must", desc := "(Z)V" } : Jvm.MethodName)) ∈ lw_all := lw_g (lw_at lw_m6 146 rfl) rfl
theorem q1474 : (Jvm.Cond.methodLink "MissCurves$OrderReader" (51 : Nat) ({ cls := "MissCurves$OrderReader", name := "sum", desc := "()LMissCurves$Sum;" } : Jvm.MethodName)) ∈ lw_all := lw_g (lw_at lw_m6 147 rfl) rfl
theorem q1475 : (Jvm.Cond.sameMethod "MissCurves$OrderReader" "MissCurves$Reader" "sum" "()LMissCurves$Sum;") ∈ lw_all := lw_g (lw_at lw_m6 148 rfl) rfl
theorem q1476 : (Jvm.Cond.selects "MissCurves$OrderReader" ({ cls := "MissCurves$OrderReader", name := "sum", desc := "()LMissCurves$Sum;" } : Jvm.MethodName) ({ cls := "MissCurves$Reader", name := "sum", desc := "()LMissCurves$Sum;" } : Jvm.MethodName)) ∈ lw_all := lw_g (lw_at lw_m6 149 rfl) rfl
theorem q1477 : (Jvm.Cond.stringRef "MissCurves$OrderReader" (93 : Nat) "to") ∈ lw_tbl := lw_at lw_m6 150 rfl
theorem q1478 : (Jvm.Cond.methodLink "MissCurves$OrderReader" (94 : Nat) ({ cls := "MissCurves$OrderReader", name := "behind", desc := "(Ljava/lang/String;)LMissCurves$Sum;" } : Jvm.MethodName)) ∈ lw_all := lw_g (lw_at lw_m6 151 rfl) rfl
theorem q1479 : (Jvm.Cond.privateMethod ({ cls := "MissCurves$OrderReader", name := "behind", desc := "(Ljava/lang/String;)LMissCurves$Sum;" } : Jvm.MethodName)) ∈ lw_tbl := lw_at lw_m6 152 rfl
theorem q1480 : (Jvm.Cond.instanceMethod ({ cls := "MissCurves$OrderReader", name := "behind", desc := "(Ljava/lang/String;)LMissCurves$Sum;" } : Jvm.MethodName)) ∈ lw_all := lw_g (lw_at lw_m6 153 rfl) rfl
theorem q1481 : (Jvm.Cond.code ({ cls := "MissCurves$OrderReader", name := "behind", desc := "(Ljava/lang/String;)LMissCurves$Sum;" } : Jvm.MethodName) prog_20_method_3_code (2 : Nat) (Option.some (Jvm.ClassFile.FieldType.object "MissCurves$Sum"))) ∈ lw_all := lw_g (lw_at lw_m6 154 rfl) rfl
theorem q1482 : (Jvm.Cond.stringRef "MissCurves$OrderReader" (98 : Nat) "by") ∈ lw_tbl := lw_at lw_m6 155 rfl
theorem q1483 : (Jvm.Cond.stringRef "MissCurves$OrderReader" (104 : Nat) "times") ∈ lw_tbl := lw_at lw_m6 156 rfl
theorem q1484 : (Jvm.Cond.methodLink "MissCurves$OrderReader" (106 : Nat) ({ cls := "MissCurves$OrderReader", name := "isNought", desc := "()Z" } : Jvm.MethodName)) ∈ lw_all := lw_g (lw_at lw_m6 157 rfl) rfl
theorem q1485 : (Jvm.Cond.privateMethod ({ cls := "MissCurves$OrderReader", name := "isNought", desc := "()Z" } : Jvm.MethodName)) ∈ lw_tbl := lw_at lw_m6 158 rfl
theorem q1486 : (Jvm.Cond.instanceMethod ({ cls := "MissCurves$OrderReader", name := "isNought", desc := "()Z" } : Jvm.MethodName)) ∈ lw_all := lw_g (lw_at lw_m6 159 rfl) rfl
theorem q1487 : (Jvm.Cond.code ({ cls := "MissCurves$OrderReader", name := "isNought", desc := "()Z" } : Jvm.MethodName) prog_20_method_4_code (3 : Nat) (Option.some Jvm.ClassFile.FieldType.boolean)) ∈ lw_all := lw_g (lw_at lw_m6 160 rfl) rfl
theorem q1488 : (Jvm.Cond.stringRef "MissCurves$OrderReader" (112 : Nat) "if") ∈ lw_tbl := lw_at lw_m6 161 rfl
theorem q1489 : (Jvm.Cond.methodLink "MissCurves$OrderReader" (114 : Nat) ({ cls := "MissCurves$OrderReader", name := "test", desc := "()LMissCurves$Test;" } : Jvm.MethodName)) ∈ lw_all := lw_g (lw_at lw_m6 162 rfl) rfl
theorem q1490 : (Jvm.Cond.sameMethod "MissCurves$OrderReader" "MissCurves$Reader" "test" "()LMissCurves$Test;") ∈ lw_all := lw_g (lw_at lw_m6 163 rfl) rfl
theorem q1491 : (Jvm.Cond.selects "MissCurves$OrderReader" ({ cls := "MissCurves$OrderReader", name := "test", desc := "()LMissCurves$Test;" } : Jvm.MethodName) ({ cls := "MissCurves$Reader", name := "test", desc := "()LMissCurves$Test;" } : Jvm.MethodName)) ∈ lw_all := lw_g (lw_at lw_m6 164 rfl) rfl
theorem q1537 : (Jvm.Cond.selects "MissCurves$OrderReader" ({ cls := "java/lang/Object", name := "getClass", desc := "()Ljava/lang/Class;" } : Jvm.MethodName) ({ cls := "java/lang/Object", name := "getClass", desc := "()Ljava/lang/Class;" } : Jvm.MethodName)) ∈ lw_all := lw_g (lw_at lw_m6 210 rfl) rfl
theorem q1770 : (Jvm.Cond.selects "MissCurves$OrderReader" ({ cls := "java/lang/Object", name := "toString", desc := "()Ljava/lang/String;" } : Jvm.MethodName) ({ cls := "java/lang/Object", name := "toString", desc := "()Ljava/lang/String;" } : Jvm.MethodName)) ∈ lw_all := lw_g (lw_at lw_m7 203 rfl) rfl
theorem q2060 : (Jvm.Cond.instanceMethod ({ cls := "MissCurves$OrderReader", name := "<init>", desc := "(LMissCurves;)V" } : Jvm.MethodName)) ∈ lw_all := lw_g (lw_at lw_m9 13 rfl) rfl
theorem q2061 : (Jvm.Cond.code ({ cls := "MissCurves$OrderReader", name := "<init>", desc := "(LMissCurves;)V" } : Jvm.MethodName) prog_20_method_1_code (2 : Nat) (Option.none : Option Jvm.ClassFile.FieldType)) ∈ lw_all := lw_g (lw_at lw_m9 14 rfl) rfl
theorem q2062 : (Jvm.Cond.classLink "MissCurves$OrderReader" (9 : Nat) "java/lang/String") ∈ lw_all := lw_g (lw_at lw_m9 15 rfl) rfl
theorem q2063 : (Jvm.Cond.stringRef "MissCurves$OrderReader" (11 : Nat) "time") ∈ lw_tbl := lw_at lw_m9 16 rfl
theorem q2064 : (Jvm.Cond.stringRef "MissCurves$OrderReader" (13 : Nat) "done") ∈ lw_tbl := lw_at lw_m9 17 rfl
theorem q2065 : (Jvm.Cond.stringRef "MissCurves$OrderReader" (15 : Nat) "latest") ∈ lw_tbl := lw_at lw_m9 18 rfl
theorem q2066 : (Jvm.Cond.stringRef "MissCurves$OrderReader" (17 : Nat) "cold") ∈ lw_tbl := lw_at lw_m9 19 rfl
theorem q2067 : (Jvm.Cond.stringRef "MissCurves$OrderReader" (19 : Nat) "deep") ∈ lw_tbl := lw_at lw_m9 20 rfl
theorem q2068 : (Jvm.Cond.methodLink "MissCurves$OrderReader" (21 : Nat) ({ cls := "MissCurves$Reader", name := "<init>", desc := "(LMissCurves;[Ljava/lang/String;)V" } : Jvm.MethodName)) ∈ lw_all := lw_g (lw_at lw_m9 21 rfl) rfl
theorem q2070 : (Jvm.Cond.fieldLink "MissCurves$OrderReader" (29 : Nat) "MissCurves$OrderReader" "row" "[LMissCurves$Act;") ∈ lw_all := lw_g (lw_at lw_m9 23 rfl) rfl
theorem q2071 : (Jvm.Cond.fieldLink "MissCurves$OrderReader" (3 : Nat) "MissCurves$OrderReader" "this$0" "LMissCurves;") ∈ lw_all := lw_g (lw_at lw_m9 24 rfl) rfl
theorem q2072 : (Jvm.Cond.laysFinal "MissCurves$OrderReader" "MissCurves$OrderReader" "row" "[LMissCurves$Act;") ∈ lw_all := lw_g (lw_at lw_m9 25 rfl) rfl
theorem q2073 : (Jvm.Cond.soleField "MissCurves$OrderReader" "row") ∈ lw_all := lw_g (lw_at lw_m9 26 rfl) rfl
theorem q2074 : (Jvm.Cond.laysFinal "MissCurves$OrderReader" "MissCurves$OrderReader" "this$0" "LMissCurves;") ∈ lw_all := lw_g (lw_at lw_m9 27 rfl) rfl
theorem q2075 : (Jvm.Cond.soleField "MissCurves$OrderReader" "this$0") ∈ lw_all := lw_g (lw_at lw_m9 28 rfl) rfl
theorem q2076 : (Jvm.Cond.lays "MissCurves$OrderReader" "MissCurves$Reader" "from" "I") ∈ lw_all := lw_g (lw_at lw_m9 29 rfl) rfl
theorem q2077 : (Jvm.Cond.lays "MissCurves$OrderReader" "MissCurves$Reader" "to" "I") ∈ lw_all := lw_g (lw_at lw_m9 30 rfl) rfl
theorem q2078 : (Jvm.Cond.lays "MissCurves$OrderReader" "MissCurves$Reader" "leaves" "I") ∈ lw_all := lw_g (lw_at lw_m9 31 rfl) rfl
theorem q2079 : (Jvm.Cond.lays "MissCurves$OrderReader" "MissCurves$Reader" "deep" "I") ∈ lw_all := lw_g (lw_at lw_m9 32 rfl) rfl
theorem q2080 : (Jvm.Cond.lays "MissCurves$OrderReader" "MissCurves$Reader" "piled" "I") ∈ lw_all := lw_g (lw_at lw_m9 33 rfl) rfl
theorem q2081 : (Jvm.Cond.laysFinal "MissCurves$OrderReader" "MissCurves$Reader" "pile" "[LMissCurves$Test;") ∈ lw_all := lw_g (lw_at lw_m9 34 rfl) rfl
theorem q2082 : (Jvm.Cond.laysFinal "MissCurves$OrderReader" "MissCurves$Reader" "words" "[Ljava/lang/String;") ∈ lw_all := lw_g (lw_at lw_m9 35 rfl) rfl
theorem q2083 : (Jvm.Cond.laysFinal "MissCurves$OrderReader" "MissCurves$Reader" "this$0" "LMissCurves;") ∈ lw_all := lw_g (lw_at lw_m9 36 rfl) rfl
theorem q2084 : (Jvm.Cond.superclass "MissCurves$OrderReader" "MissCurves$Reader") ∈ lw_all := lw_g (lw_at lw_m9 37 rfl) rfl
theorem q2086 : (Jvm.Cond.instanceMethod ({ cls := "MissCurves$OrderReader", name := "read", desc := "()[LMissCurves$Act;" } : Jvm.MethodName)) ∈ lw_all := lw_g (lw_at lw_m9 39 rfl) rfl
theorem q2087 : (Jvm.Cond.selects "MissCurves$OrderReader" ({ cls := "MissCurves$OrderReader", name := "read", desc := "()[LMissCurves$Act;" } : Jvm.MethodName) ({ cls := "MissCurves$OrderReader", name := "read", desc := "()[LMissCurves$Act;" } : Jvm.MethodName)) ∈ lw_all := lw_g (lw_at lw_m9 40 rfl) rfl
theorem q2088 : (Jvm.Cond.code ({ cls := "MissCurves$OrderReader", name := "read", desc := "()[LMissCurves$Act;" } : Jvm.MethodName) prog_20_method_2_code (2 : Nat) (Option.some (Jvm.ClassFile.FieldType.array (Jvm.ClassFile.FieldType.object "MissCurves$Act")))) ∈ lw_all := lw_g (lw_at lw_m9 41 rfl) rfl
theorem q2089 : (Jvm.Cond.methodLink "MissCurves$OrderReader" (33 : Nat) ({ cls := "MissCurves$OrderReader", name := "readAll", desc := "()I" } : Jvm.MethodName)) ∈ lw_all := lw_g (lw_at lw_m9 42 rfl) rfl
theorem q2090 : (Jvm.Cond.sameMethod "MissCurves$OrderReader" "MissCurves$Reader" "readAll" "()I") ∈ lw_all := lw_g (lw_at lw_m9 43 rfl) rfl
theorem q2091 : (Jvm.Cond.selects "MissCurves$OrderReader" ({ cls := "MissCurves$OrderReader", name := "readAll", desc := "()I" } : Jvm.MethodName) ({ cls := "MissCurves$Reader", name := "readAll", desc := "()I" } : Jvm.MethodName)) ∈ lw_all := lw_g (lw_at lw_m9 44 rfl) rfl
theorem q2092 : (Jvm.Cond.methodLink "MissCurves$OrderReader" (37 : Nat) ({ cls := "java/lang/System", name := "arraycopy", desc := "(Ljava/lang/Object;ILjava/lang/Object;II)V" } : Jvm.MethodName)) ∈ lw_all := lw_g (lw_at lw_m9 45 rfl) rfl
theorem q2987 : (Jvm.Cond.selects "MissCurves$OrderReader" ({ cls := "MissCurves$Reader", name := "sum", desc := "()LMissCurves$Sum;" } : Jvm.MethodName) ({ cls := "MissCurves$Reader", name := "sum", desc := "()LMissCurves$Sum;" } : Jvm.MethodName)) ∈ lw_all := lw_g (lw_at lw_m12 220 rfl) rfl
theorem q2991 : (Jvm.Cond.selects "MissCurves$OrderReader" ({ cls := "MissCurves$Reader", name := "which", desc := "([Ljava/lang/String;)I" } : Jvm.MethodName) ({ cls := "MissCurves$Reader", name := "which", desc := "([Ljava/lang/String;)I" } : Jvm.MethodName)) ∈ lw_all := lw_g (lw_at lw_m12 224 rfl) rfl
theorem q2997 : (Jvm.Cond.selects "MissCurves$OrderReader" ({ cls := "MissCurves$Reader", name := "test", desc := "()LMissCurves$Test;" } : Jvm.MethodName) ({ cls := "MissCurves$Reader", name := "test", desc := "()LMissCurves$Test;" } : Jvm.MethodName)) ∈ lw_all := lw_g (lw_at lw_m12 230 rfl) rfl
theorem q3032 : (Jvm.Cond.castable "MissCurves$OrderReader" "java/lang/Object") ∈ lw_tbl := lw_at lw_m13 25 rfl
theorem in_X23 : ∀ w ∈ wsX230, w ∈ lw_all := lw_in wsX230 [2076, 2077, 2078, 2079, 2080, 2081, 2082, 2083, 2072, 2074] (by decide +kernel) (by decide +kernel)

/-! MissCurves$Held -/
set_option maxRecDepth 100000
def RX24 : String := "MissCurves$Held"
def TX24 : u_T := fun k => match k with
  | 0 => ("MissCurves$Held", "keys", "[I", true)
  | 1 => ("MissCurves$Held", "readAt", "[I", true)
  | 2 => ("MissCurves$Held", "cameAt", "[I", true)
  | 3 => ("MissCurves$Held", "book", "LMissCurves$Book;", true)
  | 4 => ("MissCurves$Held", "places", "I", true)
  | 5 => ("MissCurves$Held", "n", "I", false)
  | _ => ("MissCurves$Held", "now", "I", false)
def tyX24 : Nat → FieldType := fun k => match k with
  | 0 => .array .int
  | 1 => .array .int
  | 2 => .array .int
  | 3 => .object "MissCurves$Book"
  | 4 => .int
  | 5 => .int
  | _ => .int
abbrev wsX240 : List Cond := u_ws RX24 TX24 7
theorem nmX24 : ∀ a, a < 7 → ∀ b, b < 7 → a ≠ b → (TX24 a).2.1 ≠ (TX24 b).2.1 := by decide +kernel
theorem tyX24_ok : ∀ k, k < 7 → parseFieldDescriptor (TX24 k).2.2.1 = some (tyX24 k) := by decide +kernel
abbrev cX24_init : ByteArray := prog_10_method_1_code
def yX24_init : MethodName := ⟨RX24, "<init>", "(LMissCurves$Book;I)V"⟩
def dkwX24_init_1 : List UInt8 := [188, 10, 181, 0, 18, 42, 43, 181, 0, 21, 42, 28, 181, 0, 25, 177]
abbrev dktX24_init_1 : List UInt8 := dkwX24_init_1 ++ []
def dkwX24_init_0 : List UInt8 := [42, 183, 0, 3, 42, 16, 24, 188, 10, 181, 0, 9, 42, 16, 24, 188, 10, 181, 0, 15, 42, 16, 24]
abbrev dktX24_init_0 : List UInt8 := dkwX24_init_0 ++ dktX24_init_1
theorem dksX24_init_0 : cX24_init.data.toList.drop 0 = dktX24_init_0 := by decide +kernel
theorem dksX24_init_1 : cX24_init.data.toList.drop 23 = dktX24_init_1 := dk_seg dksX24_init_0 23 rfl rfl
theorem dX24_init_0 : decode cX24_init 0 = .ok (.aload_n 0, 1) := dk_42 (dk_at dksX24_init_0 0 rfl rfl)
theorem dX24_init_1 : decode cX24_init 1 = .ok (.invokespecial 3, 3) := dk_183 0 3 (dk_at dksX24_init_0 1 rfl rfl)
theorem dX24_init_4 : decode cX24_init 4 = .ok (.aload_n 0, 1) := dk_42 (dk_at dksX24_init_0 4 rfl rfl)
theorem dX24_init_5 : decode cX24_init 5 = .ok (.bipush 24, 2) := dk_16 24 (dk_at dksX24_init_0 5 rfl rfl)
theorem dX24_init_7 : decode cX24_init 7 = .ok (.newarray .int, 2) := dk_188_10 (dk_at dksX24_init_0 7 rfl rfl)
theorem dX24_init_9 : decode cX24_init 9 = .ok (.putfield 9, 3) := dk_181 0 9 (dk_at dksX24_init_0 9 rfl rfl)
theorem dX24_init_12 : decode cX24_init 12 = .ok (.aload_n 0, 1) := dk_42 (dk_at dksX24_init_0 12 rfl rfl)
theorem dX24_init_13 : decode cX24_init 13 = .ok (.bipush 24, 2) := dk_16 24 (dk_at dksX24_init_0 13 rfl rfl)
theorem dX24_init_15 : decode cX24_init 15 = .ok (.newarray .int, 2) := dk_188_10 (dk_at dksX24_init_0 15 rfl rfl)
theorem dX24_init_17 : decode cX24_init 17 = .ok (.putfield 15, 3) := dk_181 0 15 (dk_at dksX24_init_0 17 rfl rfl)
theorem dX24_init_20 : decode cX24_init 20 = .ok (.aload_n 0, 1) := dk_42 (dk_at dksX24_init_0 20 rfl rfl)
theorem dX24_init_21 : decode cX24_init 21 = .ok (.bipush 24, 2) := dk_16 24 (dk_at dksX24_init_0 21 rfl rfl)
theorem dX24_init_23 : decode cX24_init 23 = .ok (.newarray .int, 2) := dk_188_10 (dk_at dksX24_init_1 0 rfl rfl)
theorem dX24_init_25 : decode cX24_init 25 = .ok (.putfield 18, 3) := dk_181 0 18 (dk_at dksX24_init_1 2 rfl rfl)
theorem dX24_init_28 : decode cX24_init 28 = .ok (.aload_n 0, 1) := dk_42 (dk_at dksX24_init_1 5 rfl rfl)
theorem dX24_init_29 : decode cX24_init 29 = .ok (.aload_n 1, 1) := dk_43 (dk_at dksX24_init_1 6 rfl rfl)
theorem dX24_init_30 : decode cX24_init 30 = .ok (.putfield 21, 3) := dk_181 0 21 (dk_at dksX24_init_1 7 rfl rfl)
theorem dX24_init_33 : decode cX24_init 33 = .ok (.aload_n 0, 1) := dk_42 (dk_at dksX24_init_1 10 rfl rfl)
theorem dX24_init_34 : decode cX24_init 34 = .ok (.iload_n 2, 1) := dk_28 (dk_at dksX24_init_1 11 rfl rfl)
theorem dX24_init_35 : decode cX24_init 35 = .ok (.putfield 25, 3) := dk_181 0 25 (dk_at dksX24_init_1 12 rfl rfl)
theorem dX24_init_38 : decode cX24_init 38 = .ok (.return_, 1) := dk_177 (dk_at dksX24_init_1 15 rfl rfl)
abbrev cX24_read : ByteArray := prog_10_method_6_code
def yX24_read : MethodName := ⟨RX24, "read", "(LMissCurves$Leaving;)Z"⟩
def dkwX24_read_6 : List UInt8 := [21, 4, 172]
abbrev dktX24_read_6 : List UInt8 := dkwX24_read_6 ++ []
def dkwX24_read_5 : List UInt8 := [159, 0, 13, 42, 180, 0, 15, 29, 42, 180, 0, 32, 79, 42, 89, 180, 0, 32, 4, 96, 181, 0, 32]
abbrev dktX24_read_5 : List UInt8 := dkwX24_read_5 ++ dktX24_read_6
def dkwX24_read_4 : List UInt8 := [180, 0, 18, 42, 180, 0, 29, 42, 180, 0, 32, 79, 42, 89, 180, 0, 29, 4, 96, 181, 0, 29, 29, 2]
abbrev dktX24_read_4 : List UInt8 := dkwX24_read_4 ++ dktX24_read_5
def dkwX24_read_3 : List UInt8 := [180, 0, 25, 158, 0, 41, 42, 180, 0, 29, 62, 42, 180, 0, 9, 42, 180, 0, 29, 28, 79, 42]
abbrev dktX24_read_3 : List UInt8 := dkwX24_read_3 ++ dktX24_read_4
def dkwX24_read_2 : List UInt8 := [180, 0, 29, 158, 0, 14, 42, 43, 42, 185, 0, 47, 2, 0, 182, 0, 53, 21, 4, 153, 0, 48, 42]
abbrev dktX24_read_2 : List UInt8 := dkwX24_read_2 ++ dktX24_read_3
def dkwX24_read_1 : List UInt8 := [4, 167, 0, 4, 3, 54, 4, 21, 4, 153, 0, 32, 42, 180, 0, 29, 42, 180, 0, 25, 160, 0, 21, 42]
abbrev dktX24_read_1 : List UInt8 := dkwX24_read_1 ++ dktX24_read_2
def dkwX24_read_0 : List UInt8 := [42, 180, 0, 21, 180, 0, 35, 42, 180, 0, 32, 46, 61, 42, 28, 182, 0, 43, 62, 29, 2, 160, 0, 7]
abbrev dktX24_read_0 : List UInt8 := dkwX24_read_0 ++ dktX24_read_1
theorem dksX24_read_0 : cX24_read.data.toList.drop 0 = dktX24_read_0 := by decide +kernel
theorem dksX24_read_1 : cX24_read.data.toList.drop 24 = dktX24_read_1 := dk_seg dksX24_read_0 24 rfl rfl
theorem dksX24_read_2 : cX24_read.data.toList.drop 48 = dktX24_read_2 := dk_seg dksX24_read_1 24 rfl rfl
theorem dksX24_read_3 : cX24_read.data.toList.drop 71 = dktX24_read_3 := dk_seg dksX24_read_2 23 rfl rfl
theorem dksX24_read_4 : cX24_read.data.toList.drop 93 = dktX24_read_4 := dk_seg dksX24_read_3 22 rfl rfl
theorem dksX24_read_5 : cX24_read.data.toList.drop 117 = dktX24_read_5 := dk_seg dksX24_read_4 24 rfl rfl
theorem dksX24_read_6 : cX24_read.data.toList.drop 140 = dktX24_read_6 := dk_seg dksX24_read_5 23 rfl rfl
theorem dX24_read_0 : decode cX24_read 0 = .ok (.aload_n 0, 1) := dk_42 (dk_at dksX24_read_0 0 rfl rfl)
theorem dX24_read_1 : decode cX24_read 1 = .ok (.getfield 21, 3) := dk_180 0 21 (dk_at dksX24_read_0 1 rfl rfl)
theorem dX24_read_4 : decode cX24_read 4 = .ok (.getfield 35, 3) := dk_180 0 35 (dk_at dksX24_read_0 4 rfl rfl)
theorem dX24_read_7 : decode cX24_read 7 = .ok (.aload_n 0, 1) := dk_42 (dk_at dksX24_read_0 7 rfl rfl)
theorem dX24_read_8 : decode cX24_read 8 = .ok (.getfield 32, 3) := dk_180 0 32 (dk_at dksX24_read_0 8 rfl rfl)
theorem dX24_read_11 : decode cX24_read 11 = .ok (.iaload, 1) := dk_46 (dk_at dksX24_read_0 11 rfl rfl)
theorem dX24_read_12 : decode cX24_read 12 = .ok (.istore_n 2, 1) := dk_61 (dk_at dksX24_read_0 12 rfl rfl)
theorem dX24_read_13 : decode cX24_read 13 = .ok (.aload_n 0, 1) := dk_42 (dk_at dksX24_read_0 13 rfl rfl)
theorem dX24_read_14 : decode cX24_read 14 = .ok (.iload_n 2, 1) := dk_28 (dk_at dksX24_read_0 14 rfl rfl)
theorem dX24_read_15 : decode cX24_read 15 = .ok (.invokevirtual 43, 3) := dk_182 0 43 (dk_at dksX24_read_0 15 rfl rfl)
theorem dX24_read_18 : decode cX24_read 18 = .ok (.istore_n 3, 1) := dk_62 (dk_at dksX24_read_0 18 rfl rfl)
theorem dX24_read_19 : decode cX24_read 19 = .ok (.iload_n 3, 1) := dk_29 (dk_at dksX24_read_0 19 rfl rfl)
theorem dX24_read_20 : decode cX24_read 20 = .ok (.iconst (-1), 1) := dk_2 (dk_at dksX24_read_0 20 rfl rfl)
theorem dX24_read_21 : decode cX24_read 21 = .ok (.if_icmp .ne 7, 3) := dk_160 0 7 (dk_at dksX24_read_0 21 rfl rfl)
theorem dX24_read_24 : decode cX24_read 24 = .ok (.iconst 1, 1) := dk_4 (dk_at dksX24_read_1 0 rfl rfl)
theorem dX24_read_25 : decode cX24_read 25 = .ok (.goto 4, 3) := dk_167 0 4 (dk_at dksX24_read_1 1 rfl rfl)
theorem dX24_read_28 : decode cX24_read 28 = .ok (.iconst 0, 1) := dk_3 (dk_at dksX24_read_1 4 rfl rfl)
theorem dX24_read_29 : decode cX24_read 29 = .ok (.istore 4, 2) := dk_54 4 (dk_at dksX24_read_1 5 rfl rfl)
theorem dX24_read_31 : decode cX24_read 31 = .ok (.iload 4, 2) := dk_21 4 (dk_at dksX24_read_1 7 rfl rfl)
theorem dX24_read_33 : decode cX24_read 33 = .ok (.ifCond .eq 32, 3) := dk_153 0 32 (dk_at dksX24_read_1 9 rfl rfl)
theorem dX24_read_36 : decode cX24_read 36 = .ok (.aload_n 0, 1) := dk_42 (dk_at dksX24_read_1 12 rfl rfl)
theorem dX24_read_37 : decode cX24_read 37 = .ok (.getfield 29, 3) := dk_180 0 29 (dk_at dksX24_read_1 13 rfl rfl)
theorem dX24_read_40 : decode cX24_read 40 = .ok (.aload_n 0, 1) := dk_42 (dk_at dksX24_read_1 16 rfl rfl)
theorem dX24_read_41 : decode cX24_read 41 = .ok (.getfield 25, 3) := dk_180 0 25 (dk_at dksX24_read_1 17 rfl rfl)
theorem dX24_read_44 : decode cX24_read 44 = .ok (.if_icmp .ne 21, 3) := dk_160 0 21 (dk_at dksX24_read_1 20 rfl rfl)
theorem dX24_read_47 : decode cX24_read 47 = .ok (.aload_n 0, 1) := dk_42 (dk_at dksX24_read_1 23 rfl rfl)
theorem dX24_read_48 : decode cX24_read 48 = .ok (.getfield 29, 3) := dk_180 0 29 (dk_at dksX24_read_2 0 rfl rfl)
theorem dX24_read_51 : decode cX24_read 51 = .ok (.ifCond .le 14, 3) := dk_158 0 14 (dk_at dksX24_read_2 3 rfl rfl)
theorem dX24_read_54 : decode cX24_read 54 = .ok (.aload_n 0, 1) := dk_42 (dk_at dksX24_read_2 6 rfl rfl)
theorem dX24_read_55 : decode cX24_read 55 = .ok (.aload_n 1, 1) := dk_43 (dk_at dksX24_read_2 7 rfl rfl)
theorem dX24_read_56 : decode cX24_read 56 = .ok (.aload_n 0, 1) := dk_42 (dk_at dksX24_read_2 8 rfl rfl)
theorem dX24_read_57 : decode cX24_read 57 = .ok (.invokeinterface 47 2, 5) := by decide +kernel
theorem dX24_read_62 : decode cX24_read 62 = .ok (.invokevirtual 53, 3) := dk_182 0 53 (dk_at dksX24_read_2 14 rfl rfl)
theorem dX24_read_65 : decode cX24_read 65 = .ok (.iload 4, 2) := dk_21 4 (dk_at dksX24_read_2 17 rfl rfl)
theorem dX24_read_67 : decode cX24_read 67 = .ok (.ifCond .eq 48, 3) := dk_153 0 48 (dk_at dksX24_read_2 19 rfl rfl)
theorem dX24_read_70 : decode cX24_read 70 = .ok (.aload_n 0, 1) := dk_42 (dk_at dksX24_read_2 22 rfl rfl)
theorem dX24_read_71 : decode cX24_read 71 = .ok (.getfield 25, 3) := dk_180 0 25 (dk_at dksX24_read_3 0 rfl rfl)
theorem dX24_read_74 : decode cX24_read 74 = .ok (.ifCond .le 41, 3) := dk_158 0 41 (dk_at dksX24_read_3 3 rfl rfl)
theorem dX24_read_77 : decode cX24_read 77 = .ok (.aload_n 0, 1) := dk_42 (dk_at dksX24_read_3 6 rfl rfl)
theorem dX24_read_78 : decode cX24_read 78 = .ok (.getfield 29, 3) := dk_180 0 29 (dk_at dksX24_read_3 7 rfl rfl)
theorem dX24_read_81 : decode cX24_read 81 = .ok (.istore_n 3, 1) := dk_62 (dk_at dksX24_read_3 10 rfl rfl)
theorem dX24_read_82 : decode cX24_read 82 = .ok (.aload_n 0, 1) := dk_42 (dk_at dksX24_read_3 11 rfl rfl)
theorem dX24_read_83 : decode cX24_read 83 = .ok (.getfield 9, 3) := dk_180 0 9 (dk_at dksX24_read_3 12 rfl rfl)
theorem dX24_read_86 : decode cX24_read 86 = .ok (.aload_n 0, 1) := dk_42 (dk_at dksX24_read_3 15 rfl rfl)
theorem dX24_read_87 : decode cX24_read 87 = .ok (.getfield 29, 3) := dk_180 0 29 (dk_at dksX24_read_3 16 rfl rfl)
theorem dX24_read_90 : decode cX24_read 90 = .ok (.iload_n 2, 1) := dk_28 (dk_at dksX24_read_3 19 rfl rfl)
theorem dX24_read_91 : decode cX24_read 91 = .ok (.iastore, 1) := dk_79 (dk_at dksX24_read_3 20 rfl rfl)
theorem dX24_read_92 : decode cX24_read 92 = .ok (.aload_n 0, 1) := dk_42 (dk_at dksX24_read_3 21 rfl rfl)
theorem dX24_read_93 : decode cX24_read 93 = .ok (.getfield 18, 3) := dk_180 0 18 (dk_at dksX24_read_4 0 rfl rfl)
theorem dX24_read_96 : decode cX24_read 96 = .ok (.aload_n 0, 1) := dk_42 (dk_at dksX24_read_4 3 rfl rfl)
theorem dX24_read_97 : decode cX24_read 97 = .ok (.getfield 29, 3) := dk_180 0 29 (dk_at dksX24_read_4 4 rfl rfl)
theorem dX24_read_100 : decode cX24_read 100 = .ok (.aload_n 0, 1) := dk_42 (dk_at dksX24_read_4 7 rfl rfl)
theorem dX24_read_101 : decode cX24_read 101 = .ok (.getfield 32, 3) := dk_180 0 32 (dk_at dksX24_read_4 8 rfl rfl)
theorem dX24_read_104 : decode cX24_read 104 = .ok (.iastore, 1) := dk_79 (dk_at dksX24_read_4 11 rfl rfl)
theorem dX24_read_105 : decode cX24_read 105 = .ok (.aload_n 0, 1) := dk_42 (dk_at dksX24_read_4 12 rfl rfl)
theorem dX24_read_106 : decode cX24_read 106 = .ok (.dup, 1) := dk_89 (dk_at dksX24_read_4 13 rfl rfl)
theorem dX24_read_107 : decode cX24_read 107 = .ok (.getfield 29, 3) := dk_180 0 29 (dk_at dksX24_read_4 14 rfl rfl)
theorem dX24_read_110 : decode cX24_read 110 = .ok (.iconst 1, 1) := dk_4 (dk_at dksX24_read_4 17 rfl rfl)
theorem dX24_read_111 : decode cX24_read 111 = .ok (.iadd, 1) := dk_96 (dk_at dksX24_read_4 18 rfl rfl)
theorem dX24_read_112 : decode cX24_read 112 = .ok (.putfield 29, 3) := dk_181 0 29 (dk_at dksX24_read_4 19 rfl rfl)
theorem dX24_read_115 : decode cX24_read 115 = .ok (.iload_n 3, 1) := dk_29 (dk_at dksX24_read_4 22 rfl rfl)
theorem dX24_read_116 : decode cX24_read 116 = .ok (.iconst (-1), 1) := dk_2 (dk_at dksX24_read_4 23 rfl rfl)
theorem dX24_read_117 : decode cX24_read 117 = .ok (.if_icmp .eq 13, 3) := dk_159 0 13 (dk_at dksX24_read_5 0 rfl rfl)
theorem dX24_read_120 : decode cX24_read 120 = .ok (.aload_n 0, 1) := dk_42 (dk_at dksX24_read_5 3 rfl rfl)
theorem dX24_read_121 : decode cX24_read 121 = .ok (.getfield 15, 3) := dk_180 0 15 (dk_at dksX24_read_5 4 rfl rfl)
theorem dX24_read_124 : decode cX24_read 124 = .ok (.iload_n 3, 1) := dk_29 (dk_at dksX24_read_5 7 rfl rfl)
theorem dX24_read_125 : decode cX24_read 125 = .ok (.aload_n 0, 1) := dk_42 (dk_at dksX24_read_5 8 rfl rfl)
theorem dX24_read_126 : decode cX24_read 126 = .ok (.getfield 32, 3) := dk_180 0 32 (dk_at dksX24_read_5 9 rfl rfl)
theorem dX24_read_129 : decode cX24_read 129 = .ok (.iastore, 1) := dk_79 (dk_at dksX24_read_5 12 rfl rfl)
theorem dX24_read_130 : decode cX24_read 130 = .ok (.aload_n 0, 1) := dk_42 (dk_at dksX24_read_5 13 rfl rfl)
theorem dX24_read_131 : decode cX24_read 131 = .ok (.dup, 1) := dk_89 (dk_at dksX24_read_5 14 rfl rfl)
theorem dX24_read_132 : decode cX24_read 132 = .ok (.getfield 32, 3) := dk_180 0 32 (dk_at dksX24_read_5 15 rfl rfl)
theorem dX24_read_135 : decode cX24_read 135 = .ok (.iconst 1, 1) := dk_4 (dk_at dksX24_read_5 18 rfl rfl)
theorem dX24_read_136 : decode cX24_read 136 = .ok (.iadd, 1) := dk_96 (dk_at dksX24_read_5 19 rfl rfl)
theorem dX24_read_137 : decode cX24_read 137 = .ok (.putfield 32, 3) := dk_181 0 32 (dk_at dksX24_read_5 20 rfl rfl)
theorem dX24_read_140 : decode cX24_read 140 = .ok (.iload 4, 2) := dk_21 4 (dk_at dksX24_read_6 0 rfl rfl)
theorem dX24_read_142 : decode cX24_read 142 = .ok (.ireturn, 1) := dk_172 (dk_at dksX24_read_6 2 rfl rfl)
abbrev cX24_placeOf : ByteArray := prog_10_method_2_code
def yX24_placeOf : MethodName := ⟨RX24, "placeOf", "(I)I"⟩
def dkwX24_placeOf_1 : List UInt8 := [167, 0, 4, 28, 61, 132, 3, 1, 167, 255, 229, 28, 172]
abbrev dktX24_placeOf_1 : List UInt8 := dkwX24_placeOf_1 ++ []
def dkwX24_placeOf_0 : List UInt8 := [2, 61, 3, 62, 29, 42, 180, 0, 29, 162, 0, 25, 42, 180, 0, 9, 29, 46, 27, 160, 0, 7, 29]
abbrev dktX24_placeOf_0 : List UInt8 := dkwX24_placeOf_0 ++ dktX24_placeOf_1
theorem dksX24_placeOf_0 : cX24_placeOf.data.toList.drop 0 = dktX24_placeOf_0 := by decide +kernel
theorem dksX24_placeOf_1 : cX24_placeOf.data.toList.drop 23 = dktX24_placeOf_1 := dk_seg dksX24_placeOf_0 23 rfl rfl
theorem dX24_placeOf_0 : decode cX24_placeOf 0 = .ok (.iconst (-1), 1) := dk_2 (dk_at dksX24_placeOf_0 0 rfl rfl)
theorem dX24_placeOf_1 : decode cX24_placeOf 1 = .ok (.istore_n 2, 1) := dk_61 (dk_at dksX24_placeOf_0 1 rfl rfl)
theorem dX24_placeOf_2 : decode cX24_placeOf 2 = .ok (.iconst 0, 1) := dk_3 (dk_at dksX24_placeOf_0 2 rfl rfl)
theorem dX24_placeOf_3 : decode cX24_placeOf 3 = .ok (.istore_n 3, 1) := dk_62 (dk_at dksX24_placeOf_0 3 rfl rfl)
theorem dX24_placeOf_4 : decode cX24_placeOf 4 = .ok (.iload_n 3, 1) := dk_29 (dk_at dksX24_placeOf_0 4 rfl rfl)
theorem dX24_placeOf_5 : decode cX24_placeOf 5 = .ok (.aload_n 0, 1) := dk_42 (dk_at dksX24_placeOf_0 5 rfl rfl)
theorem dX24_placeOf_6 : decode cX24_placeOf 6 = .ok (.getfield 29, 3) := dk_180 0 29 (dk_at dksX24_placeOf_0 6 rfl rfl)
theorem dX24_placeOf_9 : decode cX24_placeOf 9 = .ok (.if_icmp .ge 25, 3) := dk_162 0 25 (dk_at dksX24_placeOf_0 9 rfl rfl)
theorem dX24_placeOf_12 : decode cX24_placeOf 12 = .ok (.aload_n 0, 1) := dk_42 (dk_at dksX24_placeOf_0 12 rfl rfl)
theorem dX24_placeOf_13 : decode cX24_placeOf 13 = .ok (.getfield 9, 3) := dk_180 0 9 (dk_at dksX24_placeOf_0 13 rfl rfl)
theorem dX24_placeOf_16 : decode cX24_placeOf 16 = .ok (.iload_n 3, 1) := dk_29 (dk_at dksX24_placeOf_0 16 rfl rfl)
theorem dX24_placeOf_17 : decode cX24_placeOf 17 = .ok (.iaload, 1) := dk_46 (dk_at dksX24_placeOf_0 17 rfl rfl)
theorem dX24_placeOf_18 : decode cX24_placeOf 18 = .ok (.iload_n 1, 1) := dk_27 (dk_at dksX24_placeOf_0 18 rfl rfl)
theorem dX24_placeOf_19 : decode cX24_placeOf 19 = .ok (.if_icmp .ne 7, 3) := dk_160 0 7 (dk_at dksX24_placeOf_0 19 rfl rfl)
theorem dX24_placeOf_22 : decode cX24_placeOf 22 = .ok (.iload_n 3, 1) := dk_29 (dk_at dksX24_placeOf_0 22 rfl rfl)
theorem dX24_placeOf_23 : decode cX24_placeOf 23 = .ok (.goto 4, 3) := dk_167 0 4 (dk_at dksX24_placeOf_1 0 rfl rfl)
theorem dX24_placeOf_26 : decode cX24_placeOf 26 = .ok (.iload_n 2, 1) := dk_28 (dk_at dksX24_placeOf_1 3 rfl rfl)
theorem dX24_placeOf_27 : decode cX24_placeOf 27 = .ok (.istore_n 2, 1) := dk_61 (dk_at dksX24_placeOf_1 4 rfl rfl)
theorem dX24_placeOf_28 : decode cX24_placeOf 28 = .ok (.iinc 3 1, 3) := dk_132 3 1 (dk_at dksX24_placeOf_1 5 rfl rfl)
theorem dX24_placeOf_31 : decode cX24_placeOf 31 = .ok (.goto (-27), 3) := dk_167 255 229 (dk_at dksX24_placeOf_1 8 rfl rfl)
theorem dX24_placeOf_34 : decode cX24_placeOf 34 = .ok (.iload_n 2, 1) := dk_28 (dk_at dksX24_placeOf_1 11 rfl rfl)
theorem dX24_placeOf_35 : decode cX24_placeOf 35 = .ok (.ireturn, 1) := dk_172 (dk_at dksX24_placeOf_1 12 rfl rfl)
abbrev cX24_again : ByteArray := prog_10_method_4_code
def yX24_again : MethodName := ⟨RX24, "again", "(I)I"⟩
def dkwX24_again_1 : List UInt8 := [180, 0, 35, 28, 46, 27, 159, 0, 9, 132, 2, 1, 167, 255, 229, 28, 172]
abbrev dktX24_again_1 : List UInt8 := dkwX24_again_1 ++ []
def dkwX24_again_0 : List UInt8 := [42, 180, 0, 32, 4, 96, 61, 28, 42, 180, 0, 21, 180, 0, 40, 162, 0, 22, 42, 180, 0, 21]
abbrev dktX24_again_0 : List UInt8 := dkwX24_again_0 ++ dktX24_again_1
theorem dksX24_again_0 : cX24_again.data.toList.drop 0 = dktX24_again_0 := by decide +kernel
theorem dksX24_again_1 : cX24_again.data.toList.drop 22 = dktX24_again_1 := dk_seg dksX24_again_0 22 rfl rfl
theorem dX24_again_0 : decode cX24_again 0 = .ok (.aload_n 0, 1) := dk_42 (dk_at dksX24_again_0 0 rfl rfl)
theorem dX24_again_1 : decode cX24_again 1 = .ok (.getfield 32, 3) := dk_180 0 32 (dk_at dksX24_again_0 1 rfl rfl)
theorem dX24_again_4 : decode cX24_again 4 = .ok (.iconst 1, 1) := dk_4 (dk_at dksX24_again_0 4 rfl rfl)
theorem dX24_again_5 : decode cX24_again 5 = .ok (.iadd, 1) := dk_96 (dk_at dksX24_again_0 5 rfl rfl)
theorem dX24_again_6 : decode cX24_again 6 = .ok (.istore_n 2, 1) := dk_61 (dk_at dksX24_again_0 6 rfl rfl)
theorem dX24_again_7 : decode cX24_again 7 = .ok (.iload_n 2, 1) := dk_28 (dk_at dksX24_again_0 7 rfl rfl)
theorem dX24_again_8 : decode cX24_again 8 = .ok (.aload_n 0, 1) := dk_42 (dk_at dksX24_again_0 8 rfl rfl)
theorem dX24_again_9 : decode cX24_again 9 = .ok (.getfield 21, 3) := dk_180 0 21 (dk_at dksX24_again_0 9 rfl rfl)
theorem dX24_again_12 : decode cX24_again 12 = .ok (.getfield 40, 3) := dk_180 0 40 (dk_at dksX24_again_0 12 rfl rfl)
theorem dX24_again_15 : decode cX24_again 15 = .ok (.if_icmp .ge 22, 3) := dk_162 0 22 (dk_at dksX24_again_0 15 rfl rfl)
theorem dX24_again_18 : decode cX24_again 18 = .ok (.aload_n 0, 1) := dk_42 (dk_at dksX24_again_0 18 rfl rfl)
theorem dX24_again_19 : decode cX24_again 19 = .ok (.getfield 21, 3) := dk_180 0 21 (dk_at dksX24_again_0 19 rfl rfl)
theorem dX24_again_22 : decode cX24_again 22 = .ok (.getfield 35, 3) := dk_180 0 35 (dk_at dksX24_again_1 0 rfl rfl)
theorem dX24_again_25 : decode cX24_again 25 = .ok (.iload_n 2, 1) := dk_28 (dk_at dksX24_again_1 3 rfl rfl)
theorem dX24_again_26 : decode cX24_again 26 = .ok (.iaload, 1) := dk_46 (dk_at dksX24_again_1 4 rfl rfl)
theorem dX24_again_27 : decode cX24_again 27 = .ok (.iload_n 1, 1) := dk_27 (dk_at dksX24_again_1 5 rfl rfl)
theorem dX24_again_28 : decode cX24_again 28 = .ok (.if_icmp .eq 9, 3) := dk_159 0 9 (dk_at dksX24_again_1 6 rfl rfl)
theorem dX24_again_31 : decode cX24_again 31 = .ok (.iinc 2 1, 3) := dk_132 2 1 (dk_at dksX24_again_1 9 rfl rfl)
theorem dX24_again_34 : decode cX24_again 34 = .ok (.goto (-27), 3) := dk_167 255 229 (dk_at dksX24_again_1 12 rfl rfl)
theorem dX24_again_37 : decode cX24_again 37 = .ok (.iload_n 2, 1) := dk_28 (dk_at dksX24_again_1 15 rfl rfl)
theorem dX24_again_38 : decode cX24_again 38 = .ok (.ireturn, 1) := dk_172 (dk_at dksX24_again_1 16 rfl rfl)
abbrev cX24_often : ByteArray := prog_10_method_3_code
def yX24_often : MethodName := ⟨RX24, "often", "(I)I"⟩
def dkwX24_often_1 : List UInt8 := [160, 0, 7, 4, 167, 0, 4, 3, 96, 61, 132, 3, 1, 167, 255, 224, 28, 172]
abbrev dktX24_often_1 : List UInt8 := dkwX24_often_1 ++ []
def dkwX24_often_0 : List UInt8 := [3, 61, 3, 62, 29, 42, 180, 0, 32, 162, 0, 30, 28, 42, 180, 0, 21, 180, 0, 35, 29, 46, 27]
abbrev dktX24_often_0 : List UInt8 := dkwX24_often_0 ++ dktX24_often_1
theorem dksX24_often_0 : cX24_often.data.toList.drop 0 = dktX24_often_0 := by decide +kernel
theorem dksX24_often_1 : cX24_often.data.toList.drop 23 = dktX24_often_1 := dk_seg dksX24_often_0 23 rfl rfl
theorem dX24_often_0 : decode cX24_often 0 = .ok (.iconst 0, 1) := dk_3 (dk_at dksX24_often_0 0 rfl rfl)
theorem dX24_often_1 : decode cX24_often 1 = .ok (.istore_n 2, 1) := dk_61 (dk_at dksX24_often_0 1 rfl rfl)
theorem dX24_often_2 : decode cX24_often 2 = .ok (.iconst 0, 1) := dk_3 (dk_at dksX24_often_0 2 rfl rfl)
theorem dX24_often_3 : decode cX24_often 3 = .ok (.istore_n 3, 1) := dk_62 (dk_at dksX24_often_0 3 rfl rfl)
theorem dX24_often_4 : decode cX24_often 4 = .ok (.iload_n 3, 1) := dk_29 (dk_at dksX24_often_0 4 rfl rfl)
theorem dX24_often_5 : decode cX24_often 5 = .ok (.aload_n 0, 1) := dk_42 (dk_at dksX24_often_0 5 rfl rfl)
theorem dX24_often_6 : decode cX24_often 6 = .ok (.getfield 32, 3) := dk_180 0 32 (dk_at dksX24_often_0 6 rfl rfl)
theorem dX24_often_9 : decode cX24_often 9 = .ok (.if_icmp .ge 30, 3) := dk_162 0 30 (dk_at dksX24_often_0 9 rfl rfl)
theorem dX24_often_12 : decode cX24_often 12 = .ok (.iload_n 2, 1) := dk_28 (dk_at dksX24_often_0 12 rfl rfl)
theorem dX24_often_13 : decode cX24_often 13 = .ok (.aload_n 0, 1) := dk_42 (dk_at dksX24_often_0 13 rfl rfl)
theorem dX24_often_14 : decode cX24_often 14 = .ok (.getfield 21, 3) := dk_180 0 21 (dk_at dksX24_often_0 14 rfl rfl)
theorem dX24_often_17 : decode cX24_often 17 = .ok (.getfield 35, 3) := dk_180 0 35 (dk_at dksX24_often_0 17 rfl rfl)
theorem dX24_often_20 : decode cX24_often 20 = .ok (.iload_n 3, 1) := dk_29 (dk_at dksX24_often_0 20 rfl rfl)
theorem dX24_often_21 : decode cX24_often 21 = .ok (.iaload, 1) := dk_46 (dk_at dksX24_often_0 21 rfl rfl)
theorem dX24_often_22 : decode cX24_often 22 = .ok (.iload_n 1, 1) := dk_27 (dk_at dksX24_often_0 22 rfl rfl)
theorem dX24_often_23 : decode cX24_often 23 = .ok (.if_icmp .ne 7, 3) := dk_160 0 7 (dk_at dksX24_often_1 0 rfl rfl)
theorem dX24_often_26 : decode cX24_often 26 = .ok (.iconst 1, 1) := dk_4 (dk_at dksX24_often_1 3 rfl rfl)
theorem dX24_often_27 : decode cX24_often 27 = .ok (.goto 4, 3) := dk_167 0 4 (dk_at dksX24_often_1 4 rfl rfl)
theorem dX24_often_30 : decode cX24_often 30 = .ok (.iconst 0, 1) := dk_3 (dk_at dksX24_often_1 7 rfl rfl)
theorem dX24_often_31 : decode cX24_often 31 = .ok (.iadd, 1) := dk_96 (dk_at dksX24_often_1 8 rfl rfl)
theorem dX24_often_32 : decode cX24_often 32 = .ok (.istore_n 2, 1) := dk_61 (dk_at dksX24_often_1 9 rfl rfl)
theorem dX24_often_33 : decode cX24_often 33 = .ok (.iinc 3 1, 3) := dk_132 3 1 (dk_at dksX24_often_1 10 rfl rfl)
theorem dX24_often_36 : decode cX24_often 36 = .ok (.goto (-32), 3) := dk_167 255 224 (dk_at dksX24_often_1 13 rfl rfl)
theorem dX24_often_39 : decode cX24_often 39 = .ok (.iload_n 2, 1) := dk_28 (dk_at dksX24_often_1 16 rfl rfl)
theorem dX24_often_40 : decode cX24_often 40 = .ok (.ireturn, 1) := dk_172 (dk_at dksX24_often_1 17 rfl rfl)
abbrev cX24_leave : ByteArray := prog_10_method_5_code
def yX24_leave : MethodName := ⟨RX24, "leave", "(I)V"⟩
def dkwX24_leave_2 : List UInt8 := [180, 0, 18, 42, 180, 0, 29, 46, 79, 177]
abbrev dktX24_leave_2 : List UInt8 := dkwX24_leave_2 ++ []
def dkwX24_leave_1 : List UInt8 := [79, 42, 180, 0, 15, 27, 42, 180, 0, 15, 42, 180, 0, 29, 46, 79, 42, 180, 0, 18, 27, 42]
abbrev dktX24_leave_1 : List UInt8 := dkwX24_leave_1 ++ dktX24_leave_2
def dkwX24_leave_0 : List UInt8 := [42, 89, 180, 0, 29, 4, 100, 181, 0, 29, 42, 180, 0, 9, 27, 42, 180, 0, 9, 42, 180, 0, 29, 46]
abbrev dktX24_leave_0 : List UInt8 := dkwX24_leave_0 ++ dktX24_leave_1
theorem dksX24_leave_0 : cX24_leave.data.toList.drop 0 = dktX24_leave_0 := by decide +kernel
theorem dksX24_leave_1 : cX24_leave.data.toList.drop 24 = dktX24_leave_1 := dk_seg dksX24_leave_0 24 rfl rfl
theorem dksX24_leave_2 : cX24_leave.data.toList.drop 46 = dktX24_leave_2 := dk_seg dksX24_leave_1 22 rfl rfl
theorem dX24_leave_0 : decode cX24_leave 0 = .ok (.aload_n 0, 1) := dk_42 (dk_at dksX24_leave_0 0 rfl rfl)
theorem dX24_leave_1 : decode cX24_leave 1 = .ok (.dup, 1) := dk_89 (dk_at dksX24_leave_0 1 rfl rfl)
theorem dX24_leave_2 : decode cX24_leave 2 = .ok (.getfield 29, 3) := dk_180 0 29 (dk_at dksX24_leave_0 2 rfl rfl)
theorem dX24_leave_5 : decode cX24_leave 5 = .ok (.iconst 1, 1) := dk_4 (dk_at dksX24_leave_0 5 rfl rfl)
theorem dX24_leave_6 : decode cX24_leave 6 = .ok (.isub, 1) := dk_100 (dk_at dksX24_leave_0 6 rfl rfl)
theorem dX24_leave_7 : decode cX24_leave 7 = .ok (.putfield 29, 3) := dk_181 0 29 (dk_at dksX24_leave_0 7 rfl rfl)
theorem dX24_leave_10 : decode cX24_leave 10 = .ok (.aload_n 0, 1) := dk_42 (dk_at dksX24_leave_0 10 rfl rfl)
theorem dX24_leave_11 : decode cX24_leave 11 = .ok (.getfield 9, 3) := dk_180 0 9 (dk_at dksX24_leave_0 11 rfl rfl)
theorem dX24_leave_14 : decode cX24_leave 14 = .ok (.iload_n 1, 1) := dk_27 (dk_at dksX24_leave_0 14 rfl rfl)
theorem dX24_leave_15 : decode cX24_leave 15 = .ok (.aload_n 0, 1) := dk_42 (dk_at dksX24_leave_0 15 rfl rfl)
theorem dX24_leave_16 : decode cX24_leave 16 = .ok (.getfield 9, 3) := dk_180 0 9 (dk_at dksX24_leave_0 16 rfl rfl)
theorem dX24_leave_19 : decode cX24_leave 19 = .ok (.aload_n 0, 1) := dk_42 (dk_at dksX24_leave_0 19 rfl rfl)
theorem dX24_leave_20 : decode cX24_leave 20 = .ok (.getfield 29, 3) := dk_180 0 29 (dk_at dksX24_leave_0 20 rfl rfl)
theorem dX24_leave_23 : decode cX24_leave 23 = .ok (.iaload, 1) := dk_46 (dk_at dksX24_leave_0 23 rfl rfl)
theorem dX24_leave_24 : decode cX24_leave 24 = .ok (.iastore, 1) := dk_79 (dk_at dksX24_leave_1 0 rfl rfl)
theorem dX24_leave_25 : decode cX24_leave 25 = .ok (.aload_n 0, 1) := dk_42 (dk_at dksX24_leave_1 1 rfl rfl)
theorem dX24_leave_26 : decode cX24_leave 26 = .ok (.getfield 15, 3) := dk_180 0 15 (dk_at dksX24_leave_1 2 rfl rfl)
theorem dX24_leave_29 : decode cX24_leave 29 = .ok (.iload_n 1, 1) := dk_27 (dk_at dksX24_leave_1 5 rfl rfl)
theorem dX24_leave_30 : decode cX24_leave 30 = .ok (.aload_n 0, 1) := dk_42 (dk_at dksX24_leave_1 6 rfl rfl)
theorem dX24_leave_31 : decode cX24_leave 31 = .ok (.getfield 15, 3) := dk_180 0 15 (dk_at dksX24_leave_1 7 rfl rfl)
theorem dX24_leave_34 : decode cX24_leave 34 = .ok (.aload_n 0, 1) := dk_42 (dk_at dksX24_leave_1 10 rfl rfl)
theorem dX24_leave_35 : decode cX24_leave 35 = .ok (.getfield 29, 3) := dk_180 0 29 (dk_at dksX24_leave_1 11 rfl rfl)
theorem dX24_leave_38 : decode cX24_leave 38 = .ok (.iaload, 1) := dk_46 (dk_at dksX24_leave_1 14 rfl rfl)
theorem dX24_leave_39 : decode cX24_leave 39 = .ok (.iastore, 1) := dk_79 (dk_at dksX24_leave_1 15 rfl rfl)
theorem dX24_leave_40 : decode cX24_leave 40 = .ok (.aload_n 0, 1) := dk_42 (dk_at dksX24_leave_1 16 rfl rfl)
theorem dX24_leave_41 : decode cX24_leave 41 = .ok (.getfield 18, 3) := dk_180 0 18 (dk_at dksX24_leave_1 17 rfl rfl)
theorem dX24_leave_44 : decode cX24_leave 44 = .ok (.iload_n 1, 1) := dk_27 (dk_at dksX24_leave_1 20 rfl rfl)
theorem dX24_leave_45 : decode cX24_leave 45 = .ok (.aload_n 0, 1) := dk_42 (dk_at dksX24_leave_1 21 rfl rfl)
theorem dX24_leave_46 : decode cX24_leave 46 = .ok (.getfield 18, 3) := dk_180 0 18 (dk_at dksX24_leave_2 0 rfl rfl)
theorem dX24_leave_49 : decode cX24_leave 49 = .ok (.aload_n 0, 1) := dk_42 (dk_at dksX24_leave_2 3 rfl rfl)
theorem dX24_leave_50 : decode cX24_leave 50 = .ok (.getfield 29, 3) := dk_180 0 29 (dk_at dksX24_leave_2 4 rfl rfl)
theorem dX24_leave_53 : decode cX24_leave 53 = .ok (.iaload, 1) := dk_46 (dk_at dksX24_leave_2 7 rfl rfl)
theorem dX24_leave_54 : decode cX24_leave 54 = .ok (.iastore, 1) := dk_79 (dk_at dksX24_leave_2 8 rfl rfl)
theorem dX24_leave_55 : decode cX24_leave 55 = .ok (.return_, 1) := dk_177 (dk_at dksX24_leave_2 9 rfl rfl)
abbrev cX24_isWithin : ByteArray := prog_10_method_7_code
def yX24_isWithin : MethodName := ⟨RX24, "isWithin", "(LMissCurves$Held;)Z"⟩
def dkwX24_isWithin_1 : List UInt8 := [159, 0, 7, 4, 167, 0, 4, 3, 126, 61, 132, 3, 1, 167, 255, 223, 28, 172]
abbrev dktX24_isWithin_1 : List UInt8 := dkwX24_isWithin_1 ++ []
def dkwX24_isWithin_0 : List UInt8 := [4, 61, 3, 62, 29, 42, 180, 0, 29, 162, 0, 31, 28, 43, 42, 180, 0, 9, 29, 46, 182, 0, 43, 2]
abbrev dktX24_isWithin_0 : List UInt8 := dkwX24_isWithin_0 ++ dktX24_isWithin_1
theorem dksX24_isWithin_0 : cX24_isWithin.data.toList.drop 0 = dktX24_isWithin_0 := by decide +kernel
theorem dksX24_isWithin_1 : cX24_isWithin.data.toList.drop 24 = dktX24_isWithin_1 := dk_seg dksX24_isWithin_0 24 rfl rfl
theorem dX24_isWithin_0 : decode cX24_isWithin 0 = .ok (.iconst 1, 1) := dk_4 (dk_at dksX24_isWithin_0 0 rfl rfl)
theorem dX24_isWithin_1 : decode cX24_isWithin 1 = .ok (.istore_n 2, 1) := dk_61 (dk_at dksX24_isWithin_0 1 rfl rfl)
theorem dX24_isWithin_2 : decode cX24_isWithin 2 = .ok (.iconst 0, 1) := dk_3 (dk_at dksX24_isWithin_0 2 rfl rfl)
theorem dX24_isWithin_3 : decode cX24_isWithin 3 = .ok (.istore_n 3, 1) := dk_62 (dk_at dksX24_isWithin_0 3 rfl rfl)
theorem dX24_isWithin_4 : decode cX24_isWithin 4 = .ok (.iload_n 3, 1) := dk_29 (dk_at dksX24_isWithin_0 4 rfl rfl)
theorem dX24_isWithin_5 : decode cX24_isWithin 5 = .ok (.aload_n 0, 1) := dk_42 (dk_at dksX24_isWithin_0 5 rfl rfl)
theorem dX24_isWithin_6 : decode cX24_isWithin 6 = .ok (.getfield 29, 3) := dk_180 0 29 (dk_at dksX24_isWithin_0 6 rfl rfl)
theorem dX24_isWithin_9 : decode cX24_isWithin 9 = .ok (.if_icmp .ge 31, 3) := dk_162 0 31 (dk_at dksX24_isWithin_0 9 rfl rfl)
theorem dX24_isWithin_12 : decode cX24_isWithin 12 = .ok (.iload_n 2, 1) := dk_28 (dk_at dksX24_isWithin_0 12 rfl rfl)
theorem dX24_isWithin_13 : decode cX24_isWithin 13 = .ok (.aload_n 1, 1) := dk_43 (dk_at dksX24_isWithin_0 13 rfl rfl)
theorem dX24_isWithin_14 : decode cX24_isWithin 14 = .ok (.aload_n 0, 1) := dk_42 (dk_at dksX24_isWithin_0 14 rfl rfl)
theorem dX24_isWithin_15 : decode cX24_isWithin 15 = .ok (.getfield 9, 3) := dk_180 0 9 (dk_at dksX24_isWithin_0 15 rfl rfl)
theorem dX24_isWithin_18 : decode cX24_isWithin 18 = .ok (.iload_n 3, 1) := dk_29 (dk_at dksX24_isWithin_0 18 rfl rfl)
theorem dX24_isWithin_19 : decode cX24_isWithin 19 = .ok (.iaload, 1) := dk_46 (dk_at dksX24_isWithin_0 19 rfl rfl)
theorem dX24_isWithin_20 : decode cX24_isWithin 20 = .ok (.invokevirtual 43, 3) := dk_182 0 43 (dk_at dksX24_isWithin_0 20 rfl rfl)
theorem dX24_isWithin_23 : decode cX24_isWithin 23 = .ok (.iconst (-1), 1) := dk_2 (dk_at dksX24_isWithin_0 23 rfl rfl)
theorem dX24_isWithin_24 : decode cX24_isWithin 24 = .ok (.if_icmp .eq 7, 3) := dk_159 0 7 (dk_at dksX24_isWithin_1 0 rfl rfl)
theorem dX24_isWithin_27 : decode cX24_isWithin 27 = .ok (.iconst 1, 1) := dk_4 (dk_at dksX24_isWithin_1 3 rfl rfl)
theorem dX24_isWithin_28 : decode cX24_isWithin 28 = .ok (.goto 4, 3) := dk_167 0 4 (dk_at dksX24_isWithin_1 4 rfl rfl)
theorem dX24_isWithin_31 : decode cX24_isWithin 31 = .ok (.iconst 0, 1) := dk_3 (dk_at dksX24_isWithin_1 7 rfl rfl)
theorem dX24_isWithin_32 : decode cX24_isWithin 32 = .ok (.iand, 1) := dk_126 (dk_at dksX24_isWithin_1 8 rfl rfl)
theorem dX24_isWithin_33 : decode cX24_isWithin 33 = .ok (.istore_n 2, 1) := dk_61 (dk_at dksX24_isWithin_1 9 rfl rfl)
theorem dX24_isWithin_34 : decode cX24_isWithin 34 = .ok (.iinc 3 1, 3) := dk_132 3 1 (dk_at dksX24_isWithin_1 10 rfl rfl)
theorem dX24_isWithin_37 : decode cX24_isWithin 37 = .ok (.goto (-33), 3) := dk_167 255 223 (dk_at dksX24_isWithin_1 13 rfl rfl)
theorem dX24_isWithin_40 : decode cX24_isWithin 40 = .ok (.iload_n 2, 1) := dk_28 (dk_at dksX24_isWithin_1 16 rfl rfl)
theorem dX24_isWithin_41 : decode cX24_isWithin 41 = .ok (.ireturn, 1) := dk_172 (dk_at dksX24_isWithin_1 17 rfl rfl)
theorem q173 : (Jvm.Cond.initialized "MissCurves$Held") ∈ lw_all := lw_g (lw_at lw_m1 46 rfl) rfl
theorem q242 : (Jvm.Cond.fieldLinkNest "MissCurves$Held" (35 : Nat) "MissCurves$Book" "record" "[I" "MissCurves") ∈ lw_tbl := lw_at lw_m1 115 rfl
theorem q252 : (Jvm.Cond.fieldLinkNest "MissCurves$Held" (40 : Nat) "MissCurves$Book" "nRecord" "I" "MissCurves") ∈ lw_tbl := lw_at lw_m1 125 rfl
theorem q1528 : (Jvm.Cond.selects "MissCurves$Held" ({ cls := "java/lang/Object", name := "getClass", desc := "()Ljava/lang/Class;" } : Jvm.MethodName) ({ cls := "java/lang/Object", name := "getClass", desc := "()Ljava/lang/Class;" } : Jvm.MethodName)) ∈ lw_all := lw_g (lw_at lw_m6 201 rfl) rfl
theorem q1761 : (Jvm.Cond.selects "MissCurves$Held" ({ cls := "java/lang/Object", name := "toString", desc := "()Ljava/lang/String;" } : Jvm.MethodName) ({ cls := "java/lang/Object", name := "toString", desc := "()Ljava/lang/String;" } : Jvm.MethodName)) ∈ lw_all := lw_g (lw_at lw_m7 194 rfl) rfl
theorem q1851 : (Jvm.Cond.instantiable "MissCurves$Held" (7 : Nat)) ∈ lw_all := lw_g (lw_at lw_m8 44 rfl) rfl
theorem q1853 : (Jvm.Cond.instanceMethod ({ cls := "MissCurves$Held", name := "<init>", desc := "(LMissCurves$Book;I)V" } : Jvm.MethodName)) ∈ lw_all := lw_g (lw_at lw_m8 46 rfl) rfl
theorem q1854 : (Jvm.Cond.code ({ cls := "MissCurves$Held", name := "<init>", desc := "(LMissCurves$Book;I)V" } : Jvm.MethodName) prog_10_method_1_code (3 : Nat) (Option.none : Option Jvm.ClassFile.FieldType)) ∈ lw_all := lw_g (lw_at lw_m8 47 rfl) rfl
theorem q1855 : (Jvm.Cond.methodLink "MissCurves$Held" (3 : Nat) ({ cls := "java/lang/Object", name := "<init>", desc := "()V" } : Jvm.MethodName)) ∈ lw_all := lw_g (lw_at lw_m8 48 rfl) rfl
theorem q1856 : (Jvm.Cond.fieldLink "MissCurves$Held" (9 : Nat) "MissCurves$Held" "keys" "[I") ∈ lw_all := lw_g (lw_at lw_m8 49 rfl) rfl
theorem q1859 : (Jvm.Cond.fieldLink "MissCurves$Held" (15 : Nat) "MissCurves$Held" "readAt" "[I") ∈ lw_all := lw_g (lw_at lw_m8 52 rfl) rfl
theorem q1863 : (Jvm.Cond.fieldLink "MissCurves$Held" (18 : Nat) "MissCurves$Held" "cameAt" "[I") ∈ lw_all := lw_g (lw_at lw_m8 56 rfl) rfl
theorem q1865 : (Jvm.Cond.fieldLink "MissCurves$Held" (21 : Nat) "MissCurves$Held" "book" "LMissCurves$Book;") ∈ lw_all := lw_g (lw_at lw_m8 58 rfl) rfl
theorem q1866 : (Jvm.Cond.fieldLink "MissCurves$Held" (25 : Nat) "MissCurves$Held" "places" "I") ∈ lw_all := lw_g (lw_at lw_m8 59 rfl) rfl
theorem q1867 : (Jvm.Cond.fieldLink "MissCurves$Held" (29 : Nat) "MissCurves$Held" "n" "I") ∈ lw_all := lw_g (lw_at lw_m8 60 rfl) rfl
theorem q1869 : (Jvm.Cond.fieldLink "MissCurves$Held" (32 : Nat) "MissCurves$Held" "now" "I") ∈ lw_all := lw_g (lw_at lw_m8 62 rfl) rfl
theorem q1870 : (Jvm.Cond.laysFinal "MissCurves$Held" "MissCurves$Held" "keys" "[I") ∈ lw_all := lw_g (lw_at lw_m8 63 rfl) rfl
theorem q1871 : (Jvm.Cond.soleField "MissCurves$Held" "keys") ∈ lw_all := lw_g (lw_at lw_m8 64 rfl) rfl
theorem q1872 : (Jvm.Cond.laysFinal "MissCurves$Held" "MissCurves$Held" "readAt" "[I") ∈ lw_all := lw_g (lw_at lw_m8 65 rfl) rfl
theorem q1873 : (Jvm.Cond.soleField "MissCurves$Held" "readAt") ∈ lw_all := lw_g (lw_at lw_m8 66 rfl) rfl
theorem q1874 : (Jvm.Cond.laysFinal "MissCurves$Held" "MissCurves$Held" "cameAt" "[I") ∈ lw_all := lw_g (lw_at lw_m8 67 rfl) rfl
theorem q1875 : (Jvm.Cond.soleField "MissCurves$Held" "cameAt") ∈ lw_all := lw_g (lw_at lw_m8 68 rfl) rfl
theorem q1876 : (Jvm.Cond.laysFinal "MissCurves$Held" "MissCurves$Held" "book" "LMissCurves$Book;") ∈ lw_all := lw_g (lw_at lw_m8 69 rfl) rfl
theorem q1877 : (Jvm.Cond.soleField "MissCurves$Held" "book") ∈ lw_all := lw_g (lw_at lw_m8 70 rfl) rfl
theorem q1878 : (Jvm.Cond.laysFinal "MissCurves$Held" "MissCurves$Held" "places" "I") ∈ lw_all := lw_g (lw_at lw_m8 71 rfl) rfl
theorem q1879 : (Jvm.Cond.soleField "MissCurves$Held" "places") ∈ lw_all := lw_g (lw_at lw_m8 72 rfl) rfl
theorem q1880 : (Jvm.Cond.lays "MissCurves$Held" "MissCurves$Held" "n" "I") ∈ lw_all := lw_g (lw_at lw_m8 73 rfl) rfl
theorem q1881 : (Jvm.Cond.soleField "MissCurves$Held" "n") ∈ lw_all := lw_g (lw_at lw_m8 74 rfl) rfl
theorem q1882 : (Jvm.Cond.lays "MissCurves$Held" "MissCurves$Held" "now" "I") ∈ lw_all := lw_g (lw_at lw_m8 75 rfl) rfl
theorem q1883 : (Jvm.Cond.soleField "MissCurves$Held" "now") ∈ lw_all := lw_g (lw_at lw_m8 76 rfl) rfl
theorem q1884 : (Jvm.Cond.superclass "MissCurves$Held" "java/lang/Object") ∈ lw_all := lw_g (lw_at lw_m8 77 rfl) rfl
theorem q1924 : (Jvm.Cond.instanceMethod ({ cls := "MissCurves$Held", name := "read", desc := "(LMissCurves$Leaving;)Z" } : Jvm.MethodName)) ∈ lw_all := lw_g (lw_at lw_m8 117 rfl) rfl
theorem q1925 : (Jvm.Cond.selects "MissCurves$Held" ({ cls := "MissCurves$Held", name := "read", desc := "(LMissCurves$Leaving;)Z" } : Jvm.MethodName) ({ cls := "MissCurves$Held", name := "read", desc := "(LMissCurves$Leaving;)Z" } : Jvm.MethodName)) ∈ lw_all := lw_g (lw_at lw_m8 118 rfl) rfl
theorem q1926 : (Jvm.Cond.code ({ cls := "MissCurves$Held", name := "read", desc := "(LMissCurves$Leaving;)Z" } : Jvm.MethodName) prog_10_method_6_code (5 : Nat) (Option.some Jvm.ClassFile.FieldType.boolean)) ∈ lw_all := lw_g (lw_at lw_m8 119 rfl) rfl
theorem q1927 : (Jvm.Cond.methodLink "MissCurves$Held" (43 : Nat) ({ cls := "MissCurves$Held", name := "placeOf", desc := "(I)I" } : Jvm.MethodName)) ∈ lw_all := lw_g (lw_at lw_m8 120 rfl) rfl
theorem q1928 : (Jvm.Cond.instanceMethod ({ cls := "MissCurves$Held", name := "placeOf", desc := "(I)I" } : Jvm.MethodName)) ∈ lw_all := lw_g (lw_at lw_m8 121 rfl) rfl
theorem q1929 : (Jvm.Cond.selects "MissCurves$Held" ({ cls := "MissCurves$Held", name := "placeOf", desc := "(I)I" } : Jvm.MethodName) ({ cls := "MissCurves$Held", name := "placeOf", desc := "(I)I" } : Jvm.MethodName)) ∈ lw_all := lw_g (lw_at lw_m8 122 rfl) rfl
theorem q1930 : (Jvm.Cond.code ({ cls := "MissCurves$Held", name := "placeOf", desc := "(I)I" } : Jvm.MethodName) prog_10_method_2_code (4 : Nat) (Option.some Jvm.ClassFile.FieldType.int)) ∈ lw_all := lw_g (lw_at lw_m8 123 rfl) rfl
theorem q1931 : (Jvm.Cond.interfaceEntry "MissCurves$Held" (47 : Nat)) ∈ lw_tbl := lw_at lw_m8 124 rfl
theorem q1932 : (Jvm.Cond.methodLink "MissCurves$Held" (47 : Nat) ({ cls := "MissCurves$Leaving", name := "who", desc := "(LMissCurves$Held;)I" } : Jvm.MethodName)) ∈ lw_all := lw_g (lw_at lw_m8 125 rfl) rfl
theorem q1950 : (Jvm.Cond.instanceMethod ({ cls := "MissCurves$Held", name := "again", desc := "(I)I" } : Jvm.MethodName)) ∈ lw_all := lw_g (lw_at lw_m8 143 rfl) rfl
theorem q1951 : (Jvm.Cond.selects "MissCurves$Held" ({ cls := "MissCurves$Held", name := "again", desc := "(I)I" } : Jvm.MethodName) ({ cls := "MissCurves$Held", name := "again", desc := "(I)I" } : Jvm.MethodName)) ∈ lw_all := lw_g (lw_at lw_m8 144 rfl) rfl
theorem q1952 : (Jvm.Cond.code ({ cls := "MissCurves$Held", name := "again", desc := "(I)I" } : Jvm.MethodName) prog_10_method_4_code (3 : Nat) (Option.some Jvm.ClassFile.FieldType.int)) ∈ lw_all := lw_g (lw_at lw_m8 145 rfl) rfl
theorem q1978 : (Jvm.Cond.instanceMethod ({ cls := "MissCurves$Held", name := "often", desc := "(I)I" } : Jvm.MethodName)) ∈ lw_all := lw_g (lw_at lw_m8 171 rfl) rfl
theorem q1979 : (Jvm.Cond.selects "MissCurves$Held" ({ cls := "MissCurves$Held", name := "often", desc := "(I)I" } : Jvm.MethodName) ({ cls := "MissCurves$Held", name := "often", desc := "(I)I" } : Jvm.MethodName)) ∈ lw_all := lw_g (lw_at lw_m8 172 rfl) rfl
theorem q1980 : (Jvm.Cond.code ({ cls := "MissCurves$Held", name := "often", desc := "(I)I" } : Jvm.MethodName) prog_10_method_3_code (4 : Nat) (Option.some Jvm.ClassFile.FieldType.int)) ∈ lw_all := lw_g (lw_at lw_m8 173 rfl) rfl
theorem q2001 : (Jvm.Cond.methodLink "MissCurves$Held" (53 : Nat) ({ cls := "MissCurves$Held", name := "leave", desc := "(I)V" } : Jvm.MethodName)) ∈ lw_all := lw_g (lw_at lw_m8 194 rfl) rfl
theorem q2002 : (Jvm.Cond.privateMethod ({ cls := "MissCurves$Held", name := "leave", desc := "(I)V" } : Jvm.MethodName)) ∈ lw_tbl := lw_at lw_m8 195 rfl
theorem q2003 : (Jvm.Cond.instanceMethod ({ cls := "MissCurves$Held", name := "leave", desc := "(I)V" } : Jvm.MethodName)) ∈ lw_all := lw_g (lw_at lw_m8 196 rfl) rfl
theorem q2004 : (Jvm.Cond.code ({ cls := "MissCurves$Held", name := "leave", desc := "(I)V" } : Jvm.MethodName) prog_10_method_5_code (2 : Nat) (Option.none : Option Jvm.ClassFile.FieldType)) ∈ lw_all := lw_g (lw_at lw_m8 197 rfl) rfl
theorem q2015 : (Jvm.Cond.instanceMethod ({ cls := "MissCurves$Held", name := "isWithin", desc := "(LMissCurves$Held;)Z" } : Jvm.MethodName)) ∈ lw_all := lw_g (lw_at lw_m8 208 rfl) rfl
theorem q2016 : (Jvm.Cond.selects "MissCurves$Held" ({ cls := "MissCurves$Held", name := "isWithin", desc := "(LMissCurves$Held;)Z" } : Jvm.MethodName) ({ cls := "MissCurves$Held", name := "isWithin", desc := "(LMissCurves$Held;)Z" } : Jvm.MethodName)) ∈ lw_all := lw_g (lw_at lw_m8 209 rfl) rfl
theorem q2017 : (Jvm.Cond.code ({ cls := "MissCurves$Held", name := "isWithin", desc := "(LMissCurves$Held;)Z" } : Jvm.MethodName) prog_10_method_7_code (4 : Nat) (Option.some Jvm.ClassFile.FieldType.boolean)) ∈ lw_all := lw_g (lw_at lw_m8 210 rfl) rfl
theorem q3013 : (Jvm.Cond.castable "MissCurves$Held" "java/lang/Object") ∈ lw_tbl := lw_at lw_m13 6 rfl
theorem in_X24 : ∀ w ∈ wsX240, w ∈ lw_all := lw_in wsX240 [1870, 1872, 1874, 1876, 1878, 1880, 1882] (by decide +kernel) (by decide +kernel)

/-! MissCurves$Oldest -/
set_option maxRecDepth 100000
def RX25 : String := "MissCurves$Oldest"
abbrev cX25_init : ByteArray := prog_19_method_1_code
def yX25_init : MethodName := ⟨RX25, "<init>", "()V"⟩
theorem dX25_init_0 : decode cX25_init 0 = .ok (.aload_n 0, 1) := by decide +kernel
theorem dX25_init_1 : decode cX25_init 1 = .ok (.invokespecial 1, 3) := by decide +kernel
theorem dX25_init_4 : decode cX25_init 4 = .ok (.return_, 1) := by decide +kernel
abbrev cX25_rank : ByteArray := prog_19_method_2_code
def yX25_rank : MethodName := ⟨RX25, "rank", "(LMissCurves$Held;I)I"⟩
def dkwX25_rank_0 : List UInt8 := [43, 180, 0, 7, 28, 46, 172]
abbrev dktX25_rank_0 : List UInt8 := dkwX25_rank_0 ++ []
theorem dksX25_rank_0 : cX25_rank.data.toList.drop 0 = dktX25_rank_0 := by decide +kernel
theorem dX25_rank_0 : decode cX25_rank 0 = .ok (.aload_n 1, 1) := dk_43 (dk_at dksX25_rank_0 0 rfl rfl)
theorem dX25_rank_1 : decode cX25_rank 1 = .ok (.getfield 7, 3) := dk_180 0 7 (dk_at dksX25_rank_0 1 rfl rfl)
theorem dX25_rank_4 : decode cX25_rank 4 = .ok (.iload_n 2, 1) := dk_28 (dk_at dksX25_rank_0 4 rfl rfl)
theorem dX25_rank_5 : decode cX25_rank 5 = .ok (.iaload, 1) := dk_46 (dk_at dksX25_rank_0 5 rfl rfl)
theorem dX25_rank_6 : decode cX25_rank 6 = .ok (.ireturn, 1) := dk_172 (dk_at dksX25_rank_0 6 rfl rfl)
theorem q174 : (Jvm.Cond.initialized "MissCurves$Oldest") ∈ lw_all := lw_g (lw_at lw_m1 47 rfl) rfl
theorem q1536 : (Jvm.Cond.selects "MissCurves$Oldest" ({ cls := "java/lang/Object", name := "getClass", desc := "()Ljava/lang/Class;" } : Jvm.MethodName) ({ cls := "java/lang/Object", name := "getClass", desc := "()Ljava/lang/Class;" } : Jvm.MethodName)) ∈ lw_all := lw_g (lw_at lw_m6 209 rfl) rfl
theorem q1769 : (Jvm.Cond.selects "MissCurves$Oldest" ({ cls := "java/lang/Object", name := "toString", desc := "()Ljava/lang/String;" } : Jvm.MethodName) ({ cls := "java/lang/Object", name := "toString", desc := "()Ljava/lang/String;" } : Jvm.MethodName)) ∈ lw_all := lw_g (lw_at lw_m7 202 rfl) rfl
theorem q1861 : (Jvm.Cond.fieldLinkNest "MissCurves$Oldest" (7 : Nat) "MissCurves$Held" "readAt" "[I" "MissCurves") ∈ lw_tbl := lw_at lw_m8 54 rfl
theorem q1889 : (Jvm.Cond.instantiable "MissCurves$Oldest" (0 : Nat)) ∈ lw_all := lw_g (lw_at lw_m8 82 rfl) rfl
theorem q1891 : (Jvm.Cond.instanceMethod ({ cls := "MissCurves$Oldest", name := "<init>", desc := "()V" } : Jvm.MethodName)) ∈ lw_all := lw_g (lw_at lw_m8 84 rfl) rfl
theorem q1892 : (Jvm.Cond.code ({ cls := "MissCurves$Oldest", name := "<init>", desc := "()V" } : Jvm.MethodName) prog_19_method_1_code (1 : Nat) (Option.none : Option Jvm.ClassFile.FieldType)) ∈ lw_all := lw_g (lw_at lw_m8 85 rfl) rfl
theorem q1893 : (Jvm.Cond.methodLink "MissCurves$Oldest" (1 : Nat) ({ cls := "java/lang/Object", name := "<init>", desc := "()V" } : Jvm.MethodName)) ∈ lw_all := lw_g (lw_at lw_m8 86 rfl) rfl
theorem q1894 : (Jvm.Cond.superclass "MissCurves$Oldest" "java/lang/Object") ∈ lw_all := lw_g (lw_at lw_m8 87 rfl) rfl
theorem q1965 : (Jvm.Cond.castable "MissCurves$Oldest" "MissCurves$Leaving") ∈ lw_tbl := lw_at lw_m8 158 rfl
theorem q1966 : (Jvm.Cond.selects "MissCurves$Oldest" ({ cls := "MissCurves$Leaving", name := "rank", desc := "(LMissCurves$Held;I)I" } : Jvm.MethodName) ({ cls := "MissCurves$Oldest", name := "rank", desc := "(LMissCurves$Held;I)I" } : Jvm.MethodName)) ∈ lw_all := lw_g (lw_at lw_m8 159 rfl) rfl
theorem q1967 : (Jvm.Cond.unhidden "MissCurves$Oldest" "rank" "(LMissCurves$Held;I)I") ∈ lw_tbl := lw_at lw_m8 160 rfl
theorem q1968 : (Jvm.Cond.instanceMethod ({ cls := "MissCurves$Oldest", name := "rank", desc := "(LMissCurves$Held;I)I" } : Jvm.MethodName)) ∈ lw_all := lw_g (lw_at lw_m8 161 rfl) rfl
theorem q1969 : (Jvm.Cond.publicMethod ({ cls := "MissCurves$Oldest", name := "rank", desc := "(LMissCurves$Held;I)I" } : Jvm.MethodName)) ∈ lw_tbl := lw_at lw_m8 162 rfl
theorem q1970 : (Jvm.Cond.code ({ cls := "MissCurves$Oldest", name := "rank", desc := "(LMissCurves$Held;I)I" } : Jvm.MethodName) prog_19_method_2_code (3 : Nat) (Option.some Jvm.ClassFile.FieldType.int)) ∈ lw_all := lw_g (lw_at lw_m8 163 rfl) rfl
theorem q1995 : (Jvm.Cond.unhidden "MissCurves$Oldest" "isAhead" "(LMissCurves$Held;II)Z") ∈ lw_tbl := lw_at lw_m8 188 rfl
theorem q1999 : (Jvm.Cond.unhidden "MissCurves$Oldest" "who" "(LMissCurves$Held;)I") ∈ lw_tbl := lw_at lw_m8 192 rfl
theorem q3034 : (Jvm.Cond.castable "MissCurves$Oldest" "java/lang/Object") ∈ lw_tbl := lw_at lw_m13 27 rfl

/-! MissCurves$Newest -/
set_option maxRecDepth 100000
def RX26 : String := "MissCurves$Newest"
abbrev cX26_init : ByteArray := prog_16_method_1_code
def yX26_init : MethodName := ⟨RX26, "<init>", "()V"⟩
theorem dX26_init_0 : decode cX26_init 0 = .ok (.aload_n 0, 1) := by decide +kernel
theorem dX26_init_1 : decode cX26_init 1 = .ok (.invokespecial 1, 3) := by decide +kernel
theorem dX26_init_4 : decode cX26_init 4 = .ok (.return_, 1) := by decide +kernel
abbrev cX26_rank : ByteArray := prog_16_method_2_code
def yX26_rank : MethodName := ⟨RX26, "rank", "(LMissCurves$Held;I)I"⟩
def dkwX26_rank_0 : List UInt8 := [43, 180, 0, 7, 28, 46, 116, 172]
abbrev dktX26_rank_0 : List UInt8 := dkwX26_rank_0 ++ []
theorem dksX26_rank_0 : cX26_rank.data.toList.drop 0 = dktX26_rank_0 := by decide +kernel
theorem dX26_rank_0 : decode cX26_rank 0 = .ok (.aload_n 1, 1) := dk_43 (dk_at dksX26_rank_0 0 rfl rfl)
theorem dX26_rank_1 : decode cX26_rank 1 = .ok (.getfield 7, 3) := dk_180 0 7 (dk_at dksX26_rank_0 1 rfl rfl)
theorem dX26_rank_4 : decode cX26_rank 4 = .ok (.iload_n 2, 1) := dk_28 (dk_at dksX26_rank_0 4 rfl rfl)
theorem dX26_rank_5 : decode cX26_rank 5 = .ok (.iaload, 1) := dk_46 (dk_at dksX26_rank_0 5 rfl rfl)
theorem dX26_rank_6 : decode cX26_rank 6 = .ok (.ineg, 1) := dk_116 (dk_at dksX26_rank_0 6 rfl rfl)
theorem dX26_rank_7 : decode cX26_rank 7 = .ok (.ireturn, 1) := dk_172 (dk_at dksX26_rank_0 7 rfl rfl)
theorem q175 : (Jvm.Cond.initialized "MissCurves$Newest") ∈ lw_all := lw_g (lw_at lw_m1 48 rfl) rfl
theorem q1533 : (Jvm.Cond.selects "MissCurves$Newest" ({ cls := "java/lang/Object", name := "getClass", desc := "()Ljava/lang/Class;" } : Jvm.MethodName) ({ cls := "java/lang/Object", name := "getClass", desc := "()Ljava/lang/Class;" } : Jvm.MethodName)) ∈ lw_all := lw_g (lw_at lw_m6 206 rfl) rfl
theorem q1766 : (Jvm.Cond.selects "MissCurves$Newest" ({ cls := "java/lang/Object", name := "toString", desc := "()Ljava/lang/String;" } : Jvm.MethodName) ({ cls := "java/lang/Object", name := "toString", desc := "()Ljava/lang/String;" } : Jvm.MethodName)) ∈ lw_all := lw_g (lw_at lw_m7 199 rfl) rfl
theorem q1860 : (Jvm.Cond.fieldLinkNest "MissCurves$Newest" (7 : Nat) "MissCurves$Held" "readAt" "[I" "MissCurves") ∈ lw_tbl := lw_at lw_m8 53 rfl
theorem q1896 : (Jvm.Cond.instantiable "MissCurves$Newest" (0 : Nat)) ∈ lw_all := lw_g (lw_at lw_m8 89 rfl) rfl
theorem q1898 : (Jvm.Cond.instanceMethod ({ cls := "MissCurves$Newest", name := "<init>", desc := "()V" } : Jvm.MethodName)) ∈ lw_all := lw_g (lw_at lw_m8 91 rfl) rfl
theorem q1899 : (Jvm.Cond.code ({ cls := "MissCurves$Newest", name := "<init>", desc := "()V" } : Jvm.MethodName) prog_16_method_1_code (1 : Nat) (Option.none : Option Jvm.ClassFile.FieldType)) ∈ lw_all := lw_g (lw_at lw_m8 92 rfl) rfl
theorem q1900 : (Jvm.Cond.methodLink "MissCurves$Newest" (1 : Nat) ({ cls := "java/lang/Object", name := "<init>", desc := "()V" } : Jvm.MethodName)) ∈ lw_all := lw_g (lw_at lw_m8 93 rfl) rfl
theorem q1901 : (Jvm.Cond.superclass "MissCurves$Newest" "java/lang/Object") ∈ lw_all := lw_g (lw_at lw_m8 94 rfl) rfl
theorem q1959 : (Jvm.Cond.castable "MissCurves$Newest" "MissCurves$Leaving") ∈ lw_tbl := lw_at lw_m8 152 rfl
theorem q1960 : (Jvm.Cond.selects "MissCurves$Newest" ({ cls := "MissCurves$Leaving", name := "rank", desc := "(LMissCurves$Held;I)I" } : Jvm.MethodName) ({ cls := "MissCurves$Newest", name := "rank", desc := "(LMissCurves$Held;I)I" } : Jvm.MethodName)) ∈ lw_all := lw_g (lw_at lw_m8 153 rfl) rfl
theorem q1961 : (Jvm.Cond.unhidden "MissCurves$Newest" "rank" "(LMissCurves$Held;I)I") ∈ lw_tbl := lw_at lw_m8 154 rfl
theorem q1962 : (Jvm.Cond.instanceMethod ({ cls := "MissCurves$Newest", name := "rank", desc := "(LMissCurves$Held;I)I" } : Jvm.MethodName)) ∈ lw_all := lw_g (lw_at lw_m8 155 rfl) rfl
theorem q1963 : (Jvm.Cond.publicMethod ({ cls := "MissCurves$Newest", name := "rank", desc := "(LMissCurves$Held;I)I" } : Jvm.MethodName)) ∈ lw_tbl := lw_at lw_m8 156 rfl
theorem q1964 : (Jvm.Cond.code ({ cls := "MissCurves$Newest", name := "rank", desc := "(LMissCurves$Held;I)I" } : Jvm.MethodName) prog_16_method_2_code (3 : Nat) (Option.some Jvm.ClassFile.FieldType.int)) ∈ lw_all := lw_g (lw_at lw_m8 157 rfl) rfl
theorem q1994 : (Jvm.Cond.unhidden "MissCurves$Newest" "isAhead" "(LMissCurves$Held;II)Z") ∈ lw_tbl := lw_at lw_m8 187 rfl
theorem q1998 : (Jvm.Cond.unhidden "MissCurves$Newest" "who" "(LMissCurves$Held;)I") ∈ lw_tbl := lw_at lw_m8 191 rfl
theorem q3035 : (Jvm.Cond.castable "MissCurves$Newest" "java/lang/Object") ∈ lw_tbl := lw_at lw_m13 28 rfl

/-! MissCurves$Longest -/
set_option maxRecDepth 100000
def RX27 : String := "MissCurves$Longest"
abbrev cX27_init : ByteArray := prog_15_method_1_code
def yX27_init : MethodName := ⟨RX27, "<init>", "()V"⟩
theorem dX27_init_0 : decode cX27_init 0 = .ok (.aload_n 0, 1) := by decide +kernel
theorem dX27_init_1 : decode cX27_init 1 = .ok (.invokespecial 1, 3) := by decide +kernel
theorem dX27_init_4 : decode cX27_init 4 = .ok (.return_, 1) := by decide +kernel
abbrev cX27_rank : ByteArray := prog_15_method_2_code
def yX27_rank : MethodName := ⟨RX27, "rank", "(LMissCurves$Held;I)I"⟩
def dkwX27_rank_0 : List UInt8 := [43, 180, 0, 7, 28, 46, 172]
abbrev dktX27_rank_0 : List UInt8 := dkwX27_rank_0 ++ []
theorem dksX27_rank_0 : cX27_rank.data.toList.drop 0 = dktX27_rank_0 := by decide +kernel
theorem dX27_rank_0 : decode cX27_rank 0 = .ok (.aload_n 1, 1) := dk_43 (dk_at dksX27_rank_0 0 rfl rfl)
theorem dX27_rank_1 : decode cX27_rank 1 = .ok (.getfield 7, 3) := dk_180 0 7 (dk_at dksX27_rank_0 1 rfl rfl)
theorem dX27_rank_4 : decode cX27_rank 4 = .ok (.iload_n 2, 1) := dk_28 (dk_at dksX27_rank_0 4 rfl rfl)
theorem dX27_rank_5 : decode cX27_rank 5 = .ok (.iaload, 1) := dk_46 (dk_at dksX27_rank_0 5 rfl rfl)
theorem dX27_rank_6 : decode cX27_rank 6 = .ok (.ireturn, 1) := dk_172 (dk_at dksX27_rank_0 6 rfl rfl)
theorem q176 : (Jvm.Cond.initialized "MissCurves$Longest") ∈ lw_all := lw_g (lw_at lw_m1 49 rfl) rfl
theorem q1532 : (Jvm.Cond.selects "MissCurves$Longest" ({ cls := "java/lang/Object", name := "getClass", desc := "()Ljava/lang/Class;" } : Jvm.MethodName) ({ cls := "java/lang/Object", name := "getClass", desc := "()Ljava/lang/Class;" } : Jvm.MethodName)) ∈ lw_all := lw_g (lw_at lw_m6 205 rfl) rfl
theorem q1765 : (Jvm.Cond.selects "MissCurves$Longest" ({ cls := "java/lang/Object", name := "toString", desc := "()Ljava/lang/String;" } : Jvm.MethodName) ({ cls := "java/lang/Object", name := "toString", desc := "()Ljava/lang/String;" } : Jvm.MethodName)) ∈ lw_all := lw_g (lw_at lw_m7 198 rfl) rfl
theorem q1864 : (Jvm.Cond.fieldLinkNest "MissCurves$Longest" (7 : Nat) "MissCurves$Held" "cameAt" "[I" "MissCurves") ∈ lw_tbl := lw_at lw_m8 57 rfl
theorem q1903 : (Jvm.Cond.instantiable "MissCurves$Longest" (0 : Nat)) ∈ lw_all := lw_g (lw_at lw_m8 96 rfl) rfl
theorem q1905 : (Jvm.Cond.instanceMethod ({ cls := "MissCurves$Longest", name := "<init>", desc := "()V" } : Jvm.MethodName)) ∈ lw_all := lw_g (lw_at lw_m8 98 rfl) rfl
theorem q1906 : (Jvm.Cond.code ({ cls := "MissCurves$Longest", name := "<init>", desc := "()V" } : Jvm.MethodName) prog_15_method_1_code (1 : Nat) (Option.none : Option Jvm.ClassFile.FieldType)) ∈ lw_all := lw_g (lw_at lw_m8 99 rfl) rfl
theorem q1907 : (Jvm.Cond.methodLink "MissCurves$Longest" (1 : Nat) ({ cls := "java/lang/Object", name := "<init>", desc := "()V" } : Jvm.MethodName)) ∈ lw_all := lw_g (lw_at lw_m8 100 rfl) rfl
theorem q1908 : (Jvm.Cond.superclass "MissCurves$Longest" "java/lang/Object") ∈ lw_all := lw_g (lw_at lw_m8 101 rfl) rfl
theorem q1953 : (Jvm.Cond.castable "MissCurves$Longest" "MissCurves$Leaving") ∈ lw_tbl := lw_at lw_m8 146 rfl
theorem q1954 : (Jvm.Cond.selects "MissCurves$Longest" ({ cls := "MissCurves$Leaving", name := "rank", desc := "(LMissCurves$Held;I)I" } : Jvm.MethodName) ({ cls := "MissCurves$Longest", name := "rank", desc := "(LMissCurves$Held;I)I" } : Jvm.MethodName)) ∈ lw_all := lw_g (lw_at lw_m8 147 rfl) rfl
theorem q1955 : (Jvm.Cond.unhidden "MissCurves$Longest" "rank" "(LMissCurves$Held;I)I") ∈ lw_tbl := lw_at lw_m8 148 rfl
theorem q1956 : (Jvm.Cond.instanceMethod ({ cls := "MissCurves$Longest", name := "rank", desc := "(LMissCurves$Held;I)I" } : Jvm.MethodName)) ∈ lw_all := lw_g (lw_at lw_m8 149 rfl) rfl
theorem q1957 : (Jvm.Cond.publicMethod ({ cls := "MissCurves$Longest", name := "rank", desc := "(LMissCurves$Held;I)I" } : Jvm.MethodName)) ∈ lw_tbl := lw_at lw_m8 150 rfl
theorem q1958 : (Jvm.Cond.code ({ cls := "MissCurves$Longest", name := "rank", desc := "(LMissCurves$Held;I)I" } : Jvm.MethodName) prog_15_method_2_code (3 : Nat) (Option.some Jvm.ClassFile.FieldType.int)) ∈ lw_all := lw_g (lw_at lw_m8 151 rfl) rfl
theorem q1990 : (Jvm.Cond.unhidden "MissCurves$Longest" "isAhead" "(LMissCurves$Held;II)Z") ∈ lw_tbl := lw_at lw_m8 183 rfl
theorem q1997 : (Jvm.Cond.unhidden "MissCurves$Longest" "who" "(LMissCurves$Held;)I") ∈ lw_tbl := lw_at lw_m8 190 rfl
theorem q3036 : (Jvm.Cond.castable "MissCurves$Longest" "java/lang/Object") ∈ lw_tbl := lw_at lw_m13 29 rfl

/-! MissCurves$Rarest -/
set_option maxRecDepth 100000
def RX28 : String := "MissCurves$Rarest"
abbrev cX28_init : ByteArray := prog_22_method_1_code
def yX28_init : MethodName := ⟨RX28, "<init>", "()V"⟩
theorem dX28_init_0 : decode cX28_init 0 = .ok (.aload_n 0, 1) := by decide +kernel
theorem dX28_init_1 : decode cX28_init 1 = .ok (.invokespecial 1, 3) := by decide +kernel
theorem dX28_init_4 : decode cX28_init 4 = .ok (.return_, 1) := by decide +kernel
abbrev cX28_rank : ByteArray := prog_22_method_2_code
def yX28_rank : MethodName := ⟨RX28, "rank", "(LMissCurves$Held;I)I"⟩
def dkwX28_rank_0 : List UInt8 := [43, 43, 180, 0, 7, 28, 46, 182, 0, 13, 172]
abbrev dktX28_rank_0 : List UInt8 := dkwX28_rank_0 ++ []
theorem dksX28_rank_0 : cX28_rank.data.toList.drop 0 = dktX28_rank_0 := by decide +kernel
theorem dX28_rank_0 : decode cX28_rank 0 = .ok (.aload_n 1, 1) := dk_43 (dk_at dksX28_rank_0 0 rfl rfl)
theorem dX28_rank_1 : decode cX28_rank 1 = .ok (.aload_n 1, 1) := dk_43 (dk_at dksX28_rank_0 1 rfl rfl)
theorem dX28_rank_2 : decode cX28_rank 2 = .ok (.getfield 7, 3) := dk_180 0 7 (dk_at dksX28_rank_0 2 rfl rfl)
theorem dX28_rank_5 : decode cX28_rank 5 = .ok (.iload_n 2, 1) := dk_28 (dk_at dksX28_rank_0 5 rfl rfl)
theorem dX28_rank_6 : decode cX28_rank 6 = .ok (.iaload, 1) := dk_46 (dk_at dksX28_rank_0 6 rfl rfl)
theorem dX28_rank_7 : decode cX28_rank 7 = .ok (.invokevirtual 13, 3) := dk_182 0 13 (dk_at dksX28_rank_0 7 rfl rfl)
theorem dX28_rank_10 : decode cX28_rank 10 = .ok (.ireturn, 1) := dk_172 (dk_at dksX28_rank_0 10 rfl rfl)
theorem q177 : (Jvm.Cond.initialized "MissCurves$Rarest") ∈ lw_all := lw_g (lw_at lw_m1 50 rfl) rfl
theorem q1539 : (Jvm.Cond.selects "MissCurves$Rarest" ({ cls := "java/lang/Object", name := "getClass", desc := "()Ljava/lang/Class;" } : Jvm.MethodName) ({ cls := "java/lang/Object", name := "getClass", desc := "()Ljava/lang/Class;" } : Jvm.MethodName)) ∈ lw_all := lw_g (lw_at lw_m6 212 rfl) rfl
theorem q1772 : (Jvm.Cond.selects "MissCurves$Rarest" ({ cls := "java/lang/Object", name := "toString", desc := "()Ljava/lang/String;" } : Jvm.MethodName) ({ cls := "java/lang/Object", name := "toString", desc := "()Ljava/lang/String;" } : Jvm.MethodName)) ∈ lw_all := lw_g (lw_at lw_m7 205 rfl) rfl
theorem q1858 : (Jvm.Cond.fieldLinkNest "MissCurves$Rarest" (7 : Nat) "MissCurves$Held" "keys" "[I" "MissCurves") ∈ lw_tbl := lw_at lw_m8 51 rfl
theorem q1910 : (Jvm.Cond.instantiable "MissCurves$Rarest" (0 : Nat)) ∈ lw_all := lw_g (lw_at lw_m8 103 rfl) rfl
theorem q1912 : (Jvm.Cond.instanceMethod ({ cls := "MissCurves$Rarest", name := "<init>", desc := "()V" } : Jvm.MethodName)) ∈ lw_all := lw_g (lw_at lw_m8 105 rfl) rfl
theorem q1913 : (Jvm.Cond.code ({ cls := "MissCurves$Rarest", name := "<init>", desc := "()V" } : Jvm.MethodName) prog_22_method_1_code (1 : Nat) (Option.none : Option Jvm.ClassFile.FieldType)) ∈ lw_all := lw_g (lw_at lw_m8 106 rfl) rfl
theorem q1914 : (Jvm.Cond.methodLink "MissCurves$Rarest" (1 : Nat) ({ cls := "java/lang/Object", name := "<init>", desc := "()V" } : Jvm.MethodName)) ∈ lw_all := lw_g (lw_at lw_m8 107 rfl) rfl
theorem q1915 : (Jvm.Cond.superclass "MissCurves$Rarest" "java/lang/Object") ∈ lw_all := lw_g (lw_at lw_m8 108 rfl) rfl
theorem q1971 : (Jvm.Cond.castable "MissCurves$Rarest" "MissCurves$Leaving") ∈ lw_tbl := lw_at lw_m8 164 rfl
theorem q1972 : (Jvm.Cond.selects "MissCurves$Rarest" ({ cls := "MissCurves$Leaving", name := "rank", desc := "(LMissCurves$Held;I)I" } : Jvm.MethodName) ({ cls := "MissCurves$Rarest", name := "rank", desc := "(LMissCurves$Held;I)I" } : Jvm.MethodName)) ∈ lw_all := lw_g (lw_at lw_m8 165 rfl) rfl
theorem q1973 : (Jvm.Cond.unhidden "MissCurves$Rarest" "rank" "(LMissCurves$Held;I)I") ∈ lw_tbl := lw_at lw_m8 166 rfl
theorem q1974 : (Jvm.Cond.instanceMethod ({ cls := "MissCurves$Rarest", name := "rank", desc := "(LMissCurves$Held;I)I" } : Jvm.MethodName)) ∈ lw_all := lw_g (lw_at lw_m8 167 rfl) rfl
theorem q1975 : (Jvm.Cond.publicMethod ({ cls := "MissCurves$Rarest", name := "rank", desc := "(LMissCurves$Held;I)I" } : Jvm.MethodName)) ∈ lw_tbl := lw_at lw_m8 168 rfl
theorem q1976 : (Jvm.Cond.code ({ cls := "MissCurves$Rarest", name := "rank", desc := "(LMissCurves$Held;I)I" } : Jvm.MethodName) prog_22_method_2_code (3 : Nat) (Option.some Jvm.ClassFile.FieldType.int)) ∈ lw_all := lw_g (lw_at lw_m8 169 rfl) rfl
theorem q1977 : (Jvm.Cond.methodLink "MissCurves$Rarest" (13 : Nat) ({ cls := "MissCurves$Held", name := "often", desc := "(I)I" } : Jvm.MethodName)) ∈ lw_all := lw_g (lw_at lw_m8 170 rfl) rfl
theorem q1996 : (Jvm.Cond.unhidden "MissCurves$Rarest" "isAhead" "(LMissCurves$Held;II)Z") ∈ lw_tbl := lw_at lw_m8 189 rfl
theorem q2000 : (Jvm.Cond.unhidden "MissCurves$Rarest" "who" "(LMissCurves$Held;)I") ∈ lw_tbl := lw_at lw_m8 193 rfl
theorem q3037 : (Jvm.Cond.castable "MissCurves$Rarest" "java/lang/Object") ∈ lw_tbl := lw_at lw_m13 30 rfl

/-! MissCurves$Latest -/
set_option maxRecDepth 100000
def RX29 : String := "MissCurves$Latest"
abbrev cX29_init : ByteArray := prog_12_method_1_code
def yX29_init : MethodName := ⟨RX29, "<init>", "()V"⟩
theorem dX29_init_0 : decode cX29_init 0 = .ok (.aload_n 0, 1) := by decide +kernel
theorem dX29_init_1 : decode cX29_init 1 = .ok (.invokespecial 1, 3) := by decide +kernel
theorem dX29_init_4 : decode cX29_init 4 = .ok (.return_, 1) := by decide +kernel
abbrev cX29_rank : ByteArray := prog_12_method_2_code
def yX29_rank : MethodName := ⟨RX29, "rank", "(LMissCurves$Held;I)I"⟩
def dkwX29_rank_0 : List UInt8 := [43, 43, 180, 0, 7, 28, 46, 182, 0, 13, 116, 172]
abbrev dktX29_rank_0 : List UInt8 := dkwX29_rank_0 ++ []
theorem dksX29_rank_0 : cX29_rank.data.toList.drop 0 = dktX29_rank_0 := by decide +kernel
theorem dX29_rank_0 : decode cX29_rank 0 = .ok (.aload_n 1, 1) := dk_43 (dk_at dksX29_rank_0 0 rfl rfl)
theorem dX29_rank_1 : decode cX29_rank 1 = .ok (.aload_n 1, 1) := dk_43 (dk_at dksX29_rank_0 1 rfl rfl)
theorem dX29_rank_2 : decode cX29_rank 2 = .ok (.getfield 7, 3) := dk_180 0 7 (dk_at dksX29_rank_0 2 rfl rfl)
theorem dX29_rank_5 : decode cX29_rank 5 = .ok (.iload_n 2, 1) := dk_28 (dk_at dksX29_rank_0 5 rfl rfl)
theorem dX29_rank_6 : decode cX29_rank 6 = .ok (.iaload, 1) := dk_46 (dk_at dksX29_rank_0 6 rfl rfl)
theorem dX29_rank_7 : decode cX29_rank 7 = .ok (.invokevirtual 13, 3) := dk_182 0 13 (dk_at dksX29_rank_0 7 rfl rfl)
theorem dX29_rank_10 : decode cX29_rank 10 = .ok (.ineg, 1) := dk_116 (dk_at dksX29_rank_0 10 rfl rfl)
theorem dX29_rank_11 : decode cX29_rank 11 = .ok (.ireturn, 1) := dk_172 (dk_at dksX29_rank_0 11 rfl rfl)
abbrev cX29_isAhead : ByteArray := prog_12_method_3_code
def yX29_isAhead : MethodName := ⟨RX29, "isAhead", "(LMissCurves$Held;II)Z"⟩
def dkwX29_isAhead_0 : List UInt8 := [43, 180, 0, 7, 28, 46, 43, 180, 0, 7, 29, 46, 162, 0, 7, 4, 167, 0, 4, 3, 172]
abbrev dktX29_isAhead_0 : List UInt8 := dkwX29_isAhead_0 ++ []
theorem dksX29_isAhead_0 : cX29_isAhead.data.toList.drop 0 = dktX29_isAhead_0 := by decide +kernel
theorem dX29_isAhead_0 : decode cX29_isAhead 0 = .ok (.aload_n 1, 1) := dk_43 (dk_at dksX29_isAhead_0 0 rfl rfl)
theorem dX29_isAhead_1 : decode cX29_isAhead 1 = .ok (.getfield 7, 3) := dk_180 0 7 (dk_at dksX29_isAhead_0 1 rfl rfl)
theorem dX29_isAhead_4 : decode cX29_isAhead 4 = .ok (.iload_n 2, 1) := dk_28 (dk_at dksX29_isAhead_0 4 rfl rfl)
theorem dX29_isAhead_5 : decode cX29_isAhead 5 = .ok (.iaload, 1) := dk_46 (dk_at dksX29_isAhead_0 5 rfl rfl)
theorem dX29_isAhead_6 : decode cX29_isAhead 6 = .ok (.aload_n 1, 1) := dk_43 (dk_at dksX29_isAhead_0 6 rfl rfl)
theorem dX29_isAhead_7 : decode cX29_isAhead 7 = .ok (.getfield 7, 3) := dk_180 0 7 (dk_at dksX29_isAhead_0 7 rfl rfl)
theorem dX29_isAhead_10 : decode cX29_isAhead 10 = .ok (.iload_n 3, 1) := dk_29 (dk_at dksX29_isAhead_0 10 rfl rfl)
theorem dX29_isAhead_11 : decode cX29_isAhead 11 = .ok (.iaload, 1) := dk_46 (dk_at dksX29_isAhead_0 11 rfl rfl)
theorem dX29_isAhead_12 : decode cX29_isAhead 12 = .ok (.if_icmp .ge 7, 3) := dk_162 0 7 (dk_at dksX29_isAhead_0 12 rfl rfl)
theorem dX29_isAhead_15 : decode cX29_isAhead 15 = .ok (.iconst 1, 1) := dk_4 (dk_at dksX29_isAhead_0 15 rfl rfl)
theorem dX29_isAhead_16 : decode cX29_isAhead 16 = .ok (.goto 4, 3) := dk_167 0 4 (dk_at dksX29_isAhead_0 16 rfl rfl)
theorem dX29_isAhead_19 : decode cX29_isAhead 19 = .ok (.iconst 0, 1) := dk_3 (dk_at dksX29_isAhead_0 19 rfl rfl)
theorem dX29_isAhead_20 : decode cX29_isAhead 20 = .ok (.ireturn, 1) := dk_172 (dk_at dksX29_isAhead_0 20 rfl rfl)
theorem q178 : (Jvm.Cond.initialized "MissCurves$Latest") ∈ lw_all := lw_g (lw_at lw_m1 51 rfl) rfl
theorem q1530 : (Jvm.Cond.selects "MissCurves$Latest" ({ cls := "java/lang/Object", name := "getClass", desc := "()Ljava/lang/Class;" } : Jvm.MethodName) ({ cls := "java/lang/Object", name := "getClass", desc := "()Ljava/lang/Class;" } : Jvm.MethodName)) ∈ lw_all := lw_g (lw_at lw_m6 203 rfl) rfl
theorem q1763 : (Jvm.Cond.selects "MissCurves$Latest" ({ cls := "java/lang/Object", name := "toString", desc := "()Ljava/lang/String;" } : Jvm.MethodName) ({ cls := "java/lang/Object", name := "toString", desc := "()Ljava/lang/String;" } : Jvm.MethodName)) ∈ lw_all := lw_g (lw_at lw_m7 196 rfl) rfl
theorem q1857 : (Jvm.Cond.fieldLinkNest "MissCurves$Latest" (7 : Nat) "MissCurves$Held" "keys" "[I" "MissCurves") ∈ lw_tbl := lw_at lw_m8 50 rfl
theorem q1917 : (Jvm.Cond.instantiable "MissCurves$Latest" (0 : Nat)) ∈ lw_all := lw_g (lw_at lw_m8 110 rfl) rfl
theorem q1919 : (Jvm.Cond.instanceMethod ({ cls := "MissCurves$Latest", name := "<init>", desc := "()V" } : Jvm.MethodName)) ∈ lw_all := lw_g (lw_at lw_m8 112 rfl) rfl
theorem q1920 : (Jvm.Cond.code ({ cls := "MissCurves$Latest", name := "<init>", desc := "()V" } : Jvm.MethodName) prog_12_method_1_code (1 : Nat) (Option.none : Option Jvm.ClassFile.FieldType)) ∈ lw_all := lw_g (lw_at lw_m8 113 rfl) rfl
theorem q1921 : (Jvm.Cond.methodLink "MissCurves$Latest" (1 : Nat) ({ cls := "java/lang/Object", name := "<init>", desc := "()V" } : Jvm.MethodName)) ∈ lw_all := lw_g (lw_at lw_m8 114 rfl) rfl
theorem q1922 : (Jvm.Cond.superclass "MissCurves$Latest" "java/lang/Object") ∈ lw_all := lw_g (lw_at lw_m8 115 rfl) rfl
theorem q1935 : (Jvm.Cond.castable "MissCurves$Latest" "MissCurves$Leaving") ∈ lw_tbl := lw_at lw_m8 128 rfl
theorem q1936 : (Jvm.Cond.unhidden "MissCurves$Latest" "who" "(LMissCurves$Held;)I") ∈ lw_tbl := lw_at lw_m8 129 rfl
theorem q1944 : (Jvm.Cond.selects "MissCurves$Latest" ({ cls := "MissCurves$Leaving", name := "rank", desc := "(LMissCurves$Held;I)I" } : Jvm.MethodName) ({ cls := "MissCurves$Latest", name := "rank", desc := "(LMissCurves$Held;I)I" } : Jvm.MethodName)) ∈ lw_all := lw_g (lw_at lw_m8 137 rfl) rfl
theorem q1945 : (Jvm.Cond.unhidden "MissCurves$Latest" "rank" "(LMissCurves$Held;I)I") ∈ lw_tbl := lw_at lw_m8 138 rfl
theorem q1946 : (Jvm.Cond.instanceMethod ({ cls := "MissCurves$Latest", name := "rank", desc := "(LMissCurves$Held;I)I" } : Jvm.MethodName)) ∈ lw_all := lw_g (lw_at lw_m8 139 rfl) rfl
theorem q1947 : (Jvm.Cond.publicMethod ({ cls := "MissCurves$Latest", name := "rank", desc := "(LMissCurves$Held;I)I" } : Jvm.MethodName)) ∈ lw_tbl := lw_at lw_m8 140 rfl
theorem q1948 : (Jvm.Cond.code ({ cls := "MissCurves$Latest", name := "rank", desc := "(LMissCurves$Held;I)I" } : Jvm.MethodName) prog_12_method_2_code (3 : Nat) (Option.some Jvm.ClassFile.FieldType.int)) ∈ lw_all := lw_g (lw_at lw_m8 141 rfl) rfl
theorem q1949 : (Jvm.Cond.methodLink "MissCurves$Latest" (13 : Nat) ({ cls := "MissCurves$Held", name := "again", desc := "(I)I" } : Jvm.MethodName)) ∈ lw_all := lw_g (lw_at lw_m8 142 rfl) rfl
theorem q1985 : (Jvm.Cond.selects "MissCurves$Latest" ({ cls := "MissCurves$Leaving", name := "isAhead", desc := "(LMissCurves$Held;II)Z" } : Jvm.MethodName) ({ cls := "MissCurves$Latest", name := "isAhead", desc := "(LMissCurves$Held;II)Z" } : Jvm.MethodName)) ∈ lw_all := lw_g (lw_at lw_m8 178 rfl) rfl
theorem q1986 : (Jvm.Cond.unhidden "MissCurves$Latest" "isAhead" "(LMissCurves$Held;II)Z") ∈ lw_tbl := lw_at lw_m8 179 rfl
theorem q1987 : (Jvm.Cond.instanceMethod ({ cls := "MissCurves$Latest", name := "isAhead", desc := "(LMissCurves$Held;II)Z" } : Jvm.MethodName)) ∈ lw_all := lw_g (lw_at lw_m8 180 rfl) rfl
theorem q1988 : (Jvm.Cond.publicMethod ({ cls := "MissCurves$Latest", name := "isAhead", desc := "(LMissCurves$Held;II)Z" } : Jvm.MethodName)) ∈ lw_tbl := lw_at lw_m8 181 rfl
theorem q1989 : (Jvm.Cond.code ({ cls := "MissCurves$Latest", name := "isAhead", desc := "(LMissCurves$Held;II)Z" } : Jvm.MethodName) prog_12_method_3_code (4 : Nat) (Option.some Jvm.ClassFile.FieldType.boolean)) ∈ lw_all := lw_g (lw_at lw_m8 182 rfl) rfl
theorem q3038 : (Jvm.Cond.castable "MissCurves$Latest" "java/lang/Object") ∈ lw_tbl := lw_at lw_m13 31 rfl

/-! MissCurves$Book -/
set_option maxRecDepth 100000
def RX3 : String := "MissCurves$Book"
def TX3 : u_T := fun k => match k with
  | 0 => ("MissCurves$Book", "stack", "[I", true)
  | 1 => ("MissCurves$Book", "costs", "[I", true)
  | 2 => ("MissCurves$Book", "sample", "[I", true)
  | 3 => ("MissCurves$Book", "record", "[I", true)
  | 4 => ("MissCurves$Book", "parts", "[J", true)
  | 5 => ("MissCurves$Book", "n", "I", false)
  | 6 => ("MissCurves$Book", "nSample", "I", false)
  | 7 => ("MissCurves$Book", "nRecord", "I", false)
  | _ => ("MissCurves$Book", "limit", "I", false)
def tyX3 : Nat → FieldType := fun k => match k with
  | 0 => .array .int
  | 1 => .array .int
  | 2 => .array .int
  | 3 => .array .int
  | 4 => .array .long
  | 5 => .int
  | 6 => .int
  | 7 => .int
  | _ => .int
abbrev wsX30 : List Cond := u_ws RX3 TX3 9
theorem nmX3 : ∀ a, a < 9 → ∀ b, b < 9 → a ≠ b → (TX3 a).2.1 ≠ (TX3 b).2.1 := by decide +kernel
theorem tyX3_ok : ∀ k, k < 9 → parseFieldDescriptor (TX3 k).2.2.1 = some (tyX3 k) := by decide +kernel
abbrev cX3_init : ByteArray := prog_5_method_1_code
def yX3_init : MethodName := ⟨RX3, "<init>", "()V"⟩
def dkwX3_init_2 : List UInt8 := [17, 3, 232, 181, 0, 28, 177]
abbrev dktX3_init_2 : List UInt8 := dkwX3_init_2 ++ []
def dkwX3_init_1 : List UInt8 := [188, 10, 181, 0, 18, 42, 16, 32, 188, 10, 181, 0, 21, 42, 16, 26, 188, 11, 181, 0, 24, 42]
abbrev dktX3_init_1 : List UInt8 := dkwX3_init_1 ++ dktX3_init_2
def dkwX3_init_0 : List UInt8 := [42, 183, 0, 3, 42, 16, 25, 188, 10, 181, 0, 9, 42, 16, 25, 188, 10, 181, 0, 15, 42, 16, 7]
abbrev dktX3_init_0 : List UInt8 := dkwX3_init_0 ++ dktX3_init_1
theorem dksX3_init_0 : cX3_init.data.toList.drop 0 = dktX3_init_0 := by decide +kernel
theorem dksX3_init_1 : cX3_init.data.toList.drop 23 = dktX3_init_1 := dk_seg dksX3_init_0 23 rfl rfl
theorem dksX3_init_2 : cX3_init.data.toList.drop 45 = dktX3_init_2 := dk_seg dksX3_init_1 22 rfl rfl
theorem dX3_init_0 : decode cX3_init 0 = .ok (.aload_n 0, 1) := dk_42 (dk_at dksX3_init_0 0 rfl rfl)
theorem dX3_init_1 : decode cX3_init 1 = .ok (.invokespecial 3, 3) := dk_183 0 3 (dk_at dksX3_init_0 1 rfl rfl)
theorem dX3_init_4 : decode cX3_init 4 = .ok (.aload_n 0, 1) := dk_42 (dk_at dksX3_init_0 4 rfl rfl)
theorem dX3_init_5 : decode cX3_init 5 = .ok (.bipush 25, 2) := dk_16 25 (dk_at dksX3_init_0 5 rfl rfl)
theorem dX3_init_7 : decode cX3_init 7 = .ok (.newarray .int, 2) := dk_188_10 (dk_at dksX3_init_0 7 rfl rfl)
theorem dX3_init_9 : decode cX3_init 9 = .ok (.putfield 9, 3) := dk_181 0 9 (dk_at dksX3_init_0 9 rfl rfl)
theorem dX3_init_12 : decode cX3_init 12 = .ok (.aload_n 0, 1) := dk_42 (dk_at dksX3_init_0 12 rfl rfl)
theorem dX3_init_13 : decode cX3_init 13 = .ok (.bipush 25, 2) := dk_16 25 (dk_at dksX3_init_0 13 rfl rfl)
theorem dX3_init_15 : decode cX3_init 15 = .ok (.newarray .int, 2) := dk_188_10 (dk_at dksX3_init_0 15 rfl rfl)
theorem dX3_init_17 : decode cX3_init 17 = .ok (.putfield 15, 3) := dk_181 0 15 (dk_at dksX3_init_0 17 rfl rfl)
theorem dX3_init_20 : decode cX3_init 20 = .ok (.aload_n 0, 1) := dk_42 (dk_at dksX3_init_0 20 rfl rfl)
theorem dX3_init_21 : decode cX3_init 21 = .ok (.bipush 7, 2) := dk_16 7 (dk_at dksX3_init_0 21 rfl rfl)
theorem dX3_init_23 : decode cX3_init 23 = .ok (.newarray .int, 2) := dk_188_10 (dk_at dksX3_init_1 0 rfl rfl)
theorem dX3_init_25 : decode cX3_init 25 = .ok (.putfield 18, 3) := dk_181 0 18 (dk_at dksX3_init_1 2 rfl rfl)
theorem dX3_init_28 : decode cX3_init 28 = .ok (.aload_n 0, 1) := dk_42 (dk_at dksX3_init_1 5 rfl rfl)
theorem dX3_init_29 : decode cX3_init 29 = .ok (.bipush 32, 2) := dk_16 32 (dk_at dksX3_init_1 6 rfl rfl)
theorem dX3_init_31 : decode cX3_init 31 = .ok (.newarray .int, 2) := dk_188_10 (dk_at dksX3_init_1 8 rfl rfl)
theorem dX3_init_33 : decode cX3_init 33 = .ok (.putfield 21, 3) := dk_181 0 21 (dk_at dksX3_init_1 10 rfl rfl)
theorem dX3_init_36 : decode cX3_init 36 = .ok (.aload_n 0, 1) := dk_42 (dk_at dksX3_init_1 13 rfl rfl)
theorem dX3_init_37 : decode cX3_init 37 = .ok (.bipush 26, 2) := dk_16 26 (dk_at dksX3_init_1 14 rfl rfl)
theorem dX3_init_39 : decode cX3_init 39 = .ok (.newarray .long, 2) := dk_188_11 (dk_at dksX3_init_1 16 rfl rfl)
theorem dX3_init_41 : decode cX3_init 41 = .ok (.putfield 24, 3) := dk_181 0 24 (dk_at dksX3_init_1 18 rfl rfl)
theorem dX3_init_44 : decode cX3_init 44 = .ok (.aload_n 0, 1) := dk_42 (dk_at dksX3_init_1 21 rfl rfl)
theorem dX3_init_45 : decode cX3_init 45 = .ok (.sipush 1000, 3) := dk_17 3 232 (dk_at dksX3_init_2 0 rfl rfl)
theorem dX3_init_48 : decode cX3_init 48 = .ok (.putfield 28, 3) := dk_181 0 28 (dk_at dksX3_init_2 3 rfl rfl)
theorem dX3_init_51 : decode cX3_init 51 = .ok (.return_, 1) := dk_177 (dk_at dksX3_init_2 6 rfl rfl)
abbrev cX3_place : ByteArray := prog_5_method_4_code
def yX3_place : MethodName := ⟨RX3, "place", "(I)I"⟩
def dkwX3_place_0 : List UInt8 := [42, 180, 0, 9, 42, 180, 0, 38, 27, 184, 0, 47, 172]
abbrev dktX3_place_0 : List UInt8 := dkwX3_place_0 ++ []
theorem dksX3_place_0 : cX3_place.data.toList.drop 0 = dktX3_place_0 := by decide +kernel
theorem dX3_place_0 : decode cX3_place 0 = .ok (.aload_n 0, 1) := dk_42 (dk_at dksX3_place_0 0 rfl rfl)
theorem dX3_place_1 : decode cX3_place 1 = .ok (.getfield 9, 3) := dk_180 0 9 (dk_at dksX3_place_0 1 rfl rfl)
theorem dX3_place_4 : decode cX3_place 4 = .ok (.aload_n 0, 1) := dk_42 (dk_at dksX3_place_0 4 rfl rfl)
theorem dX3_place_5 : decode cX3_place 5 = .ok (.getfield 38, 3) := dk_180 0 38 (dk_at dksX3_place_0 5 rfl rfl)
theorem dX3_place_8 : decode cX3_place 8 = .ok (.iload_n 1, 1) := dk_27 (dk_at dksX3_place_0 8 rfl rfl)
theorem dX3_place_9 : decode cX3_place 9 = .ok (.invokestatic 47, 3) := dk_184 0 47 (dk_at dksX3_place_0 9 rfl rfl)
theorem dX3_place_12 : decode cX3_place 12 = .ok (.ireturn, 1) := dk_172 (dk_at dksX3_place_0 12 rfl rfl)
abbrev cX3_placeIn : ByteArray := prog_5_method_3_code
def yX3_placeIn : MethodName := ⟨RX3, "placeIn", "([III)I"⟩
def dkwX3_placeIn_1 : List UInt8 := [167, 0, 4, 29, 62, 132, 4, 1, 167, 255, 230, 29, 172]
abbrev dktX3_placeIn_1 : List UInt8 := dkwX3_placeIn_1 ++ []
def dkwX3_placeIn_0 : List UInt8 := [3, 62, 3, 54, 4, 21, 4, 27, 162, 0, 26, 42, 21, 4, 46, 28, 160, 0, 10, 21, 4, 4, 96]
abbrev dktX3_placeIn_0 : List UInt8 := dkwX3_placeIn_0 ++ dktX3_placeIn_1
theorem dksX3_placeIn_0 : cX3_placeIn.data.toList.drop 0 = dktX3_placeIn_0 := by decide +kernel
theorem dksX3_placeIn_1 : cX3_placeIn.data.toList.drop 23 = dktX3_placeIn_1 := dk_seg dksX3_placeIn_0 23 rfl rfl
theorem dX3_placeIn_0 : decode cX3_placeIn 0 = .ok (.iconst 0, 1) := dk_3 (dk_at dksX3_placeIn_0 0 rfl rfl)
theorem dX3_placeIn_1 : decode cX3_placeIn 1 = .ok (.istore_n 3, 1) := dk_62 (dk_at dksX3_placeIn_0 1 rfl rfl)
theorem dX3_placeIn_2 : decode cX3_placeIn 2 = .ok (.iconst 0, 1) := dk_3 (dk_at dksX3_placeIn_0 2 rfl rfl)
theorem dX3_placeIn_3 : decode cX3_placeIn 3 = .ok (.istore 4, 2) := dk_54 4 (dk_at dksX3_placeIn_0 3 rfl rfl)
theorem dX3_placeIn_5 : decode cX3_placeIn 5 = .ok (.iload 4, 2) := dk_21 4 (dk_at dksX3_placeIn_0 5 rfl rfl)
theorem dX3_placeIn_7 : decode cX3_placeIn 7 = .ok (.iload_n 1, 1) := dk_27 (dk_at dksX3_placeIn_0 7 rfl rfl)
theorem dX3_placeIn_8 : decode cX3_placeIn 8 = .ok (.if_icmp .ge 26, 3) := dk_162 0 26 (dk_at dksX3_placeIn_0 8 rfl rfl)
theorem dX3_placeIn_11 : decode cX3_placeIn 11 = .ok (.aload_n 0, 1) := dk_42 (dk_at dksX3_placeIn_0 11 rfl rfl)
theorem dX3_placeIn_12 : decode cX3_placeIn 12 = .ok (.iload 4, 2) := dk_21 4 (dk_at dksX3_placeIn_0 12 rfl rfl)
theorem dX3_placeIn_14 : decode cX3_placeIn 14 = .ok (.iaload, 1) := dk_46 (dk_at dksX3_placeIn_0 14 rfl rfl)
theorem dX3_placeIn_15 : decode cX3_placeIn 15 = .ok (.iload_n 2, 1) := dk_28 (dk_at dksX3_placeIn_0 15 rfl rfl)
theorem dX3_placeIn_16 : decode cX3_placeIn 16 = .ok (.if_icmp .ne 10, 3) := dk_160 0 10 (dk_at dksX3_placeIn_0 16 rfl rfl)
theorem dX3_placeIn_19 : decode cX3_placeIn 19 = .ok (.iload 4, 2) := dk_21 4 (dk_at dksX3_placeIn_0 19 rfl rfl)
theorem dX3_placeIn_21 : decode cX3_placeIn 21 = .ok (.iconst 1, 1) := dk_4 (dk_at dksX3_placeIn_0 21 rfl rfl)
theorem dX3_placeIn_22 : decode cX3_placeIn 22 = .ok (.iadd, 1) := dk_96 (dk_at dksX3_placeIn_0 22 rfl rfl)
theorem dX3_placeIn_23 : decode cX3_placeIn 23 = .ok (.goto 4, 3) := dk_167 0 4 (dk_at dksX3_placeIn_1 0 rfl rfl)
theorem dX3_placeIn_26 : decode cX3_placeIn 26 = .ok (.iload_n 3, 1) := dk_29 (dk_at dksX3_placeIn_1 3 rfl rfl)
theorem dX3_placeIn_27 : decode cX3_placeIn 27 = .ok (.istore_n 3, 1) := dk_62 (dk_at dksX3_placeIn_1 4 rfl rfl)
theorem dX3_placeIn_28 : decode cX3_placeIn 28 = .ok (.iinc 4 1, 3) := dk_132 4 1 (dk_at dksX3_placeIn_1 5 rfl rfl)
theorem dX3_placeIn_31 : decode cX3_placeIn 31 = .ok (.goto (-26), 3) := dk_167 255 230 (dk_at dksX3_placeIn_1 8 rfl rfl)
theorem dX3_placeIn_34 : decode cX3_placeIn 34 = .ok (.iload_n 3, 1) := dk_29 (dk_at dksX3_placeIn_1 11 rfl rfl)
theorem dX3_placeIn_35 : decode cX3_placeIn 35 = .ok (.ireturn, 1) := dk_172 (dk_at dksX3_placeIn_1 12 rfl rfl)
abbrev cX3_placeSampled : ByteArray := prog_5_method_5_code
def yX3_placeSampled : MethodName := ⟨RX3, "placeSampled", "(I)I"⟩
def dkwX3_placeSampled_0 : List UInt8 := [42, 180, 0, 18, 42, 180, 0, 41, 27, 184, 0, 47, 172]
abbrev dktX3_placeSampled_0 : List UInt8 := dkwX3_placeSampled_0 ++ []
theorem dksX3_placeSampled_0 : cX3_placeSampled.data.toList.drop 0 = dktX3_placeSampled_0 := by decide +kernel
theorem dX3_placeSampled_0 : decode cX3_placeSampled 0 = .ok (.aload_n 0, 1) := dk_42 (dk_at dksX3_placeSampled_0 0 rfl rfl)
theorem dX3_placeSampled_1 : decode cX3_placeSampled 1 = .ok (.getfield 18, 3) := dk_180 0 18 (dk_at dksX3_placeSampled_0 1 rfl rfl)
theorem dX3_placeSampled_4 : decode cX3_placeSampled 4 = .ok (.aload_n 0, 1) := dk_42 (dk_at dksX3_placeSampled_0 4 rfl rfl)
theorem dX3_placeSampled_5 : decode cX3_placeSampled 5 = .ok (.getfield 41, 3) := dk_180 0 41 (dk_at dksX3_placeSampled_0 5 rfl rfl)
theorem dX3_placeSampled_8 : decode cX3_placeSampled 8 = .ok (.iload_n 1, 1) := dk_27 (dk_at dksX3_placeSampled_0 8 rfl rfl)
theorem dX3_placeSampled_9 : decode cX3_placeSampled 9 = .ok (.invokestatic 47, 3) := dk_184 0 47 (dk_at dksX3_placeSampled_0 9 rfl rfl)
theorem dX3_placeSampled_12 : decode cX3_placeSampled 12 = .ok (.ireturn, 1) := dk_172 (dk_at dksX3_placeSampled_0 12 rfl rfl)
abbrev cX3_often : ByteArray := prog_5_method_6_code
def yX3_often : MethodName := ⟨RX3, "often", "(I)I"⟩
def dkwX3_often_1 : List UInt8 := [167, 0, 4, 3, 96, 61, 132, 3, 1, 167, 255, 227, 28, 172]
abbrev dktX3_often_1 : List UInt8 := dkwX3_often_1 ++ []
def dkwX3_often_0 : List UInt8 := [3, 61, 3, 62, 29, 42, 180, 0, 44, 162, 0, 27, 28, 42, 180, 0, 21, 29, 46, 27, 160, 0, 7, 4]
abbrev dktX3_often_0 : List UInt8 := dkwX3_often_0 ++ dktX3_often_1
theorem dksX3_often_0 : cX3_often.data.toList.drop 0 = dktX3_often_0 := by decide +kernel
theorem dksX3_often_1 : cX3_often.data.toList.drop 24 = dktX3_often_1 := dk_seg dksX3_often_0 24 rfl rfl
theorem dX3_often_0 : decode cX3_often 0 = .ok (.iconst 0, 1) := dk_3 (dk_at dksX3_often_0 0 rfl rfl)
theorem dX3_often_1 : decode cX3_often 1 = .ok (.istore_n 2, 1) := dk_61 (dk_at dksX3_often_0 1 rfl rfl)
theorem dX3_often_2 : decode cX3_often 2 = .ok (.iconst 0, 1) := dk_3 (dk_at dksX3_often_0 2 rfl rfl)
theorem dX3_often_3 : decode cX3_often 3 = .ok (.istore_n 3, 1) := dk_62 (dk_at dksX3_often_0 3 rfl rfl)
theorem dX3_often_4 : decode cX3_often 4 = .ok (.iload_n 3, 1) := dk_29 (dk_at dksX3_often_0 4 rfl rfl)
theorem dX3_often_5 : decode cX3_often 5 = .ok (.aload_n 0, 1) := dk_42 (dk_at dksX3_often_0 5 rfl rfl)
theorem dX3_often_6 : decode cX3_often 6 = .ok (.getfield 44, 3) := dk_180 0 44 (dk_at dksX3_often_0 6 rfl rfl)
theorem dX3_often_9 : decode cX3_often 9 = .ok (.if_icmp .ge 27, 3) := dk_162 0 27 (dk_at dksX3_often_0 9 rfl rfl)
theorem dX3_often_12 : decode cX3_often 12 = .ok (.iload_n 2, 1) := dk_28 (dk_at dksX3_often_0 12 rfl rfl)
theorem dX3_often_13 : decode cX3_often 13 = .ok (.aload_n 0, 1) := dk_42 (dk_at dksX3_often_0 13 rfl rfl)
theorem dX3_often_14 : decode cX3_often 14 = .ok (.getfield 21, 3) := dk_180 0 21 (dk_at dksX3_often_0 14 rfl rfl)
theorem dX3_often_17 : decode cX3_often 17 = .ok (.iload_n 3, 1) := dk_29 (dk_at dksX3_often_0 17 rfl rfl)
theorem dX3_often_18 : decode cX3_often 18 = .ok (.iaload, 1) := dk_46 (dk_at dksX3_often_0 18 rfl rfl)
theorem dX3_often_19 : decode cX3_often 19 = .ok (.iload_n 1, 1) := dk_27 (dk_at dksX3_often_0 19 rfl rfl)
theorem dX3_often_20 : decode cX3_often 20 = .ok (.if_icmp .ne 7, 3) := dk_160 0 7 (dk_at dksX3_often_0 20 rfl rfl)
theorem dX3_often_23 : decode cX3_often 23 = .ok (.iconst 1, 1) := dk_4 (dk_at dksX3_often_0 23 rfl rfl)
theorem dX3_often_24 : decode cX3_often 24 = .ok (.goto 4, 3) := dk_167 0 4 (dk_at dksX3_often_1 0 rfl rfl)
theorem dX3_often_27 : decode cX3_often 27 = .ok (.iconst 0, 1) := dk_3 (dk_at dksX3_often_1 3 rfl rfl)
theorem dX3_often_28 : decode cX3_often 28 = .ok (.iadd, 1) := dk_96 (dk_at dksX3_often_1 4 rfl rfl)
theorem dX3_often_29 : decode cX3_often 29 = .ok (.istore_n 2, 1) := dk_61 (dk_at dksX3_often_1 5 rfl rfl)
theorem dX3_often_30 : decode cX3_often 30 = .ok (.iinc 3 1, 3) := dk_132 3 1 (dk_at dksX3_often_1 6 rfl rfl)
theorem dX3_often_33 : decode cX3_often 33 = .ok (.goto (-29), 3) := dk_167 255 227 (dk_at dksX3_often_1 9 rfl rfl)
theorem dX3_often_36 : decode cX3_often 36 = .ok (.iload_n 2, 1) := dk_28 (dk_at dksX3_often_1 12 rfl rfl)
theorem dX3_often_37 : decode cX3_often 37 = .ok (.ireturn, 1) := dk_172 (dk_at dksX3_often_1 13 rfl rfl)
abbrev cX3_forgetSample : ByteArray := prog_5_method_12_code
def yX3_forgetSample : MethodName := ⟨RX3, "forgetSample", "()V"⟩
def dkwX3_forgetSample_0 : List UInt8 := [42, 3, 181, 0, 41, 42, 17, 3, 232, 181, 0, 28, 42, 180, 0, 24, 9, 184, 0, 80, 177]
abbrev dktX3_forgetSample_0 : List UInt8 := dkwX3_forgetSample_0 ++ []
theorem dksX3_forgetSample_0 : cX3_forgetSample.data.toList.drop 0 = dktX3_forgetSample_0 := by decide +kernel
theorem dX3_forgetSample_0 : decode cX3_forgetSample 0 = .ok (.aload_n 0, 1) := dk_42 (dk_at dksX3_forgetSample_0 0 rfl rfl)
theorem dX3_forgetSample_1 : decode cX3_forgetSample 1 = .ok (.iconst 0, 1) := dk_3 (dk_at dksX3_forgetSample_0 1 rfl rfl)
theorem dX3_forgetSample_2 : decode cX3_forgetSample 2 = .ok (.putfield 41, 3) := dk_181 0 41 (dk_at dksX3_forgetSample_0 2 rfl rfl)
theorem dX3_forgetSample_5 : decode cX3_forgetSample 5 = .ok (.aload_n 0, 1) := dk_42 (dk_at dksX3_forgetSample_0 5 rfl rfl)
theorem dX3_forgetSample_6 : decode cX3_forgetSample 6 = .ok (.sipush 1000, 3) := dk_17 3 232 (dk_at dksX3_forgetSample_0 6 rfl rfl)
theorem dX3_forgetSample_9 : decode cX3_forgetSample 9 = .ok (.putfield 28, 3) := dk_181 0 28 (dk_at dksX3_forgetSample_0 9 rfl rfl)
theorem dX3_forgetSample_12 : decode cX3_forgetSample 12 = .ok (.aload_n 0, 1) := dk_42 (dk_at dksX3_forgetSample_0 12 rfl rfl)
theorem dX3_forgetSample_13 : decode cX3_forgetSample 13 = .ok (.getfield 24, 3) := dk_180 0 24 (dk_at dksX3_forgetSample_0 13 rfl rfl)
theorem dX3_forgetSample_16 : decode cX3_forgetSample 16 = .ok (.lconst 0, 1) := dk_9 (dk_at dksX3_forgetSample_0 16 rfl rfl)
theorem dX3_forgetSample_17 : decode cX3_forgetSample 17 = .ok (.invokestatic 80, 3) := dk_184 0 80 (dk_at dksX3_forgetSample_0 17 rfl rfl)
theorem dX3_forgetSample_20 : decode cX3_forgetSample 20 = .ok (.return_, 1) := dk_177 (dk_at dksX3_forgetSample_0 20 rfl rfl)
abbrev cX3_push : ByteArray := prog_5_method_9_code
def yX3_push : MethodName := ⟨RX3, "push", "(I)V"⟩
def dkwX3_push_4 : List UInt8 := [79, 177]
abbrev dktX3_push_4 : List UInt8 := dkwX3_push_4 ++ []
def dkwX3_push_3 : List UInt8 := [180, 0, 44, 4, 100, 181, 0, 44, 42, 180, 0, 21, 42, 89, 180, 0, 44, 90, 4, 96, 181, 0, 44, 27]
abbrev dktX3_push_3 : List UInt8 := dkwX3_push_3 ++ dktX3_push_4
def dkwX3_push_2 : List UInt8 := [180, 0, 44, 16, 32, 160, 0, 25, 42, 180, 0, 21, 42, 180, 0, 44, 4, 184, 0, 65, 42, 89]
abbrev dktX3_push_2 : List UInt8 := dkwX3_push_2 ++ dktX3_push_3
def dkwX3_push_1 : List UInt8 := [28, 154, 0, 22, 42, 180, 0, 38, 16, 24, 162, 0, 13, 42, 89, 180, 0, 38, 4, 96, 181, 0, 38, 42]
abbrev dktX3_push_1 : List UInt8 := dkwX3_push_1 ++ dktX3_push_2
def dkwX3_push_0 : List UInt8 := [42, 27, 182, 0, 51, 61, 42, 180, 0, 9, 42, 180, 0, 38, 16, 24, 184, 0, 55, 28, 27, 184, 0, 61]
abbrev dktX3_push_0 : List UInt8 := dkwX3_push_0 ++ dktX3_push_1
theorem dksX3_push_0 : cX3_push.data.toList.drop 0 = dktX3_push_0 := by decide +kernel
theorem dksX3_push_1 : cX3_push.data.toList.drop 24 = dktX3_push_1 := dk_seg dksX3_push_0 24 rfl rfl
theorem dksX3_push_2 : cX3_push.data.toList.drop 48 = dktX3_push_2 := dk_seg dksX3_push_1 24 rfl rfl
theorem dksX3_push_3 : cX3_push.data.toList.drop 70 = dktX3_push_3 := dk_seg dksX3_push_2 22 rfl rfl
theorem dksX3_push_4 : cX3_push.data.toList.drop 94 = dktX3_push_4 := dk_seg dksX3_push_3 24 rfl rfl
theorem dX3_push_0 : decode cX3_push 0 = .ok (.aload_n 0, 1) := dk_42 (dk_at dksX3_push_0 0 rfl rfl)
theorem dX3_push_1 : decode cX3_push 1 = .ok (.iload_n 1, 1) := dk_27 (dk_at dksX3_push_0 1 rfl rfl)
theorem dX3_push_2 : decode cX3_push 2 = .ok (.invokevirtual 51, 3) := dk_182 0 51 (dk_at dksX3_push_0 2 rfl rfl)
theorem dX3_push_5 : decode cX3_push 5 = .ok (.istore_n 2, 1) := dk_61 (dk_at dksX3_push_0 5 rfl rfl)
theorem dX3_push_6 : decode cX3_push 6 = .ok (.aload_n 0, 1) := dk_42 (dk_at dksX3_push_0 6 rfl rfl)
theorem dX3_push_7 : decode cX3_push 7 = .ok (.getfield 9, 3) := dk_180 0 9 (dk_at dksX3_push_0 7 rfl rfl)
theorem dX3_push_10 : decode cX3_push 10 = .ok (.aload_n 0, 1) := dk_42 (dk_at dksX3_push_0 10 rfl rfl)
theorem dX3_push_11 : decode cX3_push 11 = .ok (.getfield 38, 3) := dk_180 0 38 (dk_at dksX3_push_0 11 rfl rfl)
theorem dX3_push_14 : decode cX3_push 14 = .ok (.bipush 24, 2) := dk_16 24 (dk_at dksX3_push_0 14 rfl rfl)
theorem dX3_push_16 : decode cX3_push 16 = .ok (.invokestatic 55, 3) := dk_184 0 55 (dk_at dksX3_push_0 16 rfl rfl)
theorem dX3_push_19 : decode cX3_push 19 = .ok (.iload_n 2, 1) := dk_28 (dk_at dksX3_push_0 19 rfl rfl)
theorem dX3_push_20 : decode cX3_push 20 = .ok (.iload_n 1, 1) := dk_27 (dk_at dksX3_push_0 20 rfl rfl)
theorem dX3_push_21 : decode cX3_push 21 = .ok (.invokestatic 61, 3) := dk_184 0 61 (dk_at dksX3_push_0 21 rfl rfl)
theorem dX3_push_24 : decode cX3_push 24 = .ok (.iload_n 2, 1) := dk_28 (dk_at dksX3_push_1 0 rfl rfl)
theorem dX3_push_25 : decode cX3_push 25 = .ok (.ifCond .ne 22, 3) := dk_154 0 22 (dk_at dksX3_push_1 1 rfl rfl)
theorem dX3_push_28 : decode cX3_push 28 = .ok (.aload_n 0, 1) := dk_42 (dk_at dksX3_push_1 4 rfl rfl)
theorem dX3_push_29 : decode cX3_push 29 = .ok (.getfield 38, 3) := dk_180 0 38 (dk_at dksX3_push_1 5 rfl rfl)
theorem dX3_push_32 : decode cX3_push 32 = .ok (.bipush 24, 2) := dk_16 24 (dk_at dksX3_push_1 8 rfl rfl)
theorem dX3_push_34 : decode cX3_push 34 = .ok (.if_icmp .ge 13, 3) := dk_162 0 13 (dk_at dksX3_push_1 10 rfl rfl)
theorem dX3_push_37 : decode cX3_push 37 = .ok (.aload_n 0, 1) := dk_42 (dk_at dksX3_push_1 13 rfl rfl)
theorem dX3_push_38 : decode cX3_push 38 = .ok (.dup, 1) := dk_89 (dk_at dksX3_push_1 14 rfl rfl)
theorem dX3_push_39 : decode cX3_push 39 = .ok (.getfield 38, 3) := dk_180 0 38 (dk_at dksX3_push_1 15 rfl rfl)
theorem dX3_push_42 : decode cX3_push 42 = .ok (.iconst 1, 1) := dk_4 (dk_at dksX3_push_1 18 rfl rfl)
theorem dX3_push_43 : decode cX3_push 43 = .ok (.iadd, 1) := dk_96 (dk_at dksX3_push_1 19 rfl rfl)
theorem dX3_push_44 : decode cX3_push 44 = .ok (.putfield 38, 3) := dk_181 0 38 (dk_at dksX3_push_1 20 rfl rfl)
theorem dX3_push_47 : decode cX3_push 47 = .ok (.aload_n 0, 1) := dk_42 (dk_at dksX3_push_1 23 rfl rfl)
theorem dX3_push_48 : decode cX3_push 48 = .ok (.getfield 44, 3) := dk_180 0 44 (dk_at dksX3_push_2 0 rfl rfl)
theorem dX3_push_51 : decode cX3_push 51 = .ok (.bipush 32, 2) := dk_16 32 (dk_at dksX3_push_2 3 rfl rfl)
theorem dX3_push_53 : decode cX3_push 53 = .ok (.if_icmp .ne 25, 3) := dk_160 0 25 (dk_at dksX3_push_2 5 rfl rfl)
theorem dX3_push_56 : decode cX3_push 56 = .ok (.aload_n 0, 1) := dk_42 (dk_at dksX3_push_2 8 rfl rfl)
theorem dX3_push_57 : decode cX3_push 57 = .ok (.getfield 21, 3) := dk_180 0 21 (dk_at dksX3_push_2 9 rfl rfl)
theorem dX3_push_60 : decode cX3_push 60 = .ok (.aload_n 0, 1) := dk_42 (dk_at dksX3_push_2 12 rfl rfl)
theorem dX3_push_61 : decode cX3_push 61 = .ok (.getfield 44, 3) := dk_180 0 44 (dk_at dksX3_push_2 13 rfl rfl)
theorem dX3_push_64 : decode cX3_push 64 = .ok (.iconst 1, 1) := dk_4 (dk_at dksX3_push_2 16 rfl rfl)
theorem dX3_push_65 : decode cX3_push 65 = .ok (.invokestatic 65, 3) := dk_184 0 65 (dk_at dksX3_push_2 17 rfl rfl)
theorem dX3_push_68 : decode cX3_push 68 = .ok (.aload_n 0, 1) := dk_42 (dk_at dksX3_push_2 20 rfl rfl)
theorem dX3_push_69 : decode cX3_push 69 = .ok (.dup, 1) := dk_89 (dk_at dksX3_push_2 21 rfl rfl)
theorem dX3_push_70 : decode cX3_push 70 = .ok (.getfield 44, 3) := dk_180 0 44 (dk_at dksX3_push_3 0 rfl rfl)
theorem dX3_push_73 : decode cX3_push 73 = .ok (.iconst 1, 1) := dk_4 (dk_at dksX3_push_3 3 rfl rfl)
theorem dX3_push_74 : decode cX3_push 74 = .ok (.isub, 1) := dk_100 (dk_at dksX3_push_3 4 rfl rfl)
theorem dX3_push_75 : decode cX3_push 75 = .ok (.putfield 44, 3) := dk_181 0 44 (dk_at dksX3_push_3 5 rfl rfl)
theorem dX3_push_78 : decode cX3_push 78 = .ok (.aload_n 0, 1) := dk_42 (dk_at dksX3_push_3 8 rfl rfl)
theorem dX3_push_79 : decode cX3_push 79 = .ok (.getfield 21, 3) := dk_180 0 21 (dk_at dksX3_push_3 9 rfl rfl)
theorem dX3_push_82 : decode cX3_push 82 = .ok (.aload_n 0, 1) := dk_42 (dk_at dksX3_push_3 12 rfl rfl)
theorem dX3_push_83 : decode cX3_push 83 = .ok (.dup, 1) := dk_89 (dk_at dksX3_push_3 13 rfl rfl)
theorem dX3_push_84 : decode cX3_push 84 = .ok (.getfield 44, 3) := dk_180 0 44 (dk_at dksX3_push_3 14 rfl rfl)
theorem dX3_push_87 : decode cX3_push 87 = .ok (.dup_x1, 1) := dk_90 (dk_at dksX3_push_3 17 rfl rfl)
theorem dX3_push_88 : decode cX3_push 88 = .ok (.iconst 1, 1) := dk_4 (dk_at dksX3_push_3 18 rfl rfl)
theorem dX3_push_89 : decode cX3_push 89 = .ok (.iadd, 1) := dk_96 (dk_at dksX3_push_3 19 rfl rfl)
theorem dX3_push_90 : decode cX3_push 90 = .ok (.putfield 44, 3) := dk_181 0 44 (dk_at dksX3_push_3 20 rfl rfl)
theorem dX3_push_93 : decode cX3_push 93 = .ok (.iload_n 1, 1) := dk_27 (dk_at dksX3_push_3 23 rfl rfl)
theorem dX3_push_94 : decode cX3_push 94 = .ok (.iastore, 1) := dk_79 (dk_at dksX3_push_4 0 rfl rfl)
theorem dX3_push_95 : decode cX3_push 95 = .ok (.return_, 1) := dk_177 (dk_at dksX3_push_4 1 rfl rfl)
abbrev cX3_first : ByteArray := prog_5_method_7_code
def yX3_first : MethodName := ⟨RX3, "first", "([IIII)V"⟩
def dkwX3_first_1 : List UInt8 := [29, 79, 177]
abbrev dktX3_first_1 : List UInt8 := dkwX3_first_1 ++ []
def dkwX3_first_0 : List UInt8 := [28, 154, 0, 7, 27, 167, 0, 6, 28, 4, 100, 54, 4, 42, 3, 42, 4, 21, 4, 184, 0, 32, 42, 3]
abbrev dktX3_first_0 : List UInt8 := dkwX3_first_0 ++ dktX3_first_1
theorem dksX3_first_0 : cX3_first.data.toList.drop 0 = dktX3_first_0 := by decide +kernel
theorem dksX3_first_1 : cX3_first.data.toList.drop 24 = dktX3_first_1 := dk_seg dksX3_first_0 24 rfl rfl
theorem dX3_first_0 : decode cX3_first 0 = .ok (.iload_n 2, 1) := dk_28 (dk_at dksX3_first_0 0 rfl rfl)
theorem dX3_first_1 : decode cX3_first 1 = .ok (.ifCond .ne 7, 3) := dk_154 0 7 (dk_at dksX3_first_0 1 rfl rfl)
theorem dX3_first_4 : decode cX3_first 4 = .ok (.iload_n 1, 1) := dk_27 (dk_at dksX3_first_0 4 rfl rfl)
theorem dX3_first_5 : decode cX3_first 5 = .ok (.goto 6, 3) := dk_167 0 6 (dk_at dksX3_first_0 5 rfl rfl)
theorem dX3_first_8 : decode cX3_first 8 = .ok (.iload_n 2, 1) := dk_28 (dk_at dksX3_first_0 8 rfl rfl)
theorem dX3_first_9 : decode cX3_first 9 = .ok (.iconst 1, 1) := dk_4 (dk_at dksX3_first_0 9 rfl rfl)
theorem dX3_first_10 : decode cX3_first 10 = .ok (.isub, 1) := dk_100 (dk_at dksX3_first_0 10 rfl rfl)
theorem dX3_first_11 : decode cX3_first 11 = .ok (.istore 4, 2) := dk_54 4 (dk_at dksX3_first_0 11 rfl rfl)
theorem dX3_first_13 : decode cX3_first 13 = .ok (.aload_n 0, 1) := dk_42 (dk_at dksX3_first_0 13 rfl rfl)
theorem dX3_first_14 : decode cX3_first 14 = .ok (.iconst 0, 1) := dk_3 (dk_at dksX3_first_0 14 rfl rfl)
theorem dX3_first_15 : decode cX3_first 15 = .ok (.aload_n 0, 1) := dk_42 (dk_at dksX3_first_0 15 rfl rfl)
theorem dX3_first_16 : decode cX3_first 16 = .ok (.iconst 1, 1) := dk_4 (dk_at dksX3_first_0 16 rfl rfl)
theorem dX3_first_17 : decode cX3_first 17 = .ok (.iload 4, 2) := dk_21 4 (dk_at dksX3_first_0 17 rfl rfl)
theorem dX3_first_19 : decode cX3_first 19 = .ok (.invokestatic 32, 3) := dk_184 0 32 (dk_at dksX3_first_0 19 rfl rfl)
theorem dX3_first_22 : decode cX3_first 22 = .ok (.aload_n 0, 1) := dk_42 (dk_at dksX3_first_0 22 rfl rfl)
theorem dX3_first_23 : decode cX3_first 23 = .ok (.iconst 0, 1) := dk_3 (dk_at dksX3_first_0 23 rfl rfl)
theorem dX3_first_24 : decode cX3_first 24 = .ok (.iload_n 3, 1) := dk_29 (dk_at dksX3_first_1 0 rfl rfl)
theorem dX3_first_25 : decode cX3_first 25 = .ok (.iastore, 1) := dk_79 (dk_at dksX3_first_1 1 rfl rfl)
theorem dX3_first_26 : decode cX3_first 26 = .ok (.return_, 1) := dk_177 (dk_at dksX3_first_1 2 rfl rfl)
abbrev cX3_leave : ByteArray := prog_5_method_8_code
def yX3_leave : MethodName := ⟨RX3, "leave", "([III)V"⟩
def dkwX3_leave_0 : List UInt8 := [42, 28, 42, 28, 4, 100, 27, 28, 100, 184, 0, 32, 177]
abbrev dktX3_leave_0 : List UInt8 := dkwX3_leave_0 ++ []
theorem dksX3_leave_0 : cX3_leave.data.toList.drop 0 = dktX3_leave_0 := by decide +kernel
theorem dX3_leave_0 : decode cX3_leave 0 = .ok (.aload_n 0, 1) := dk_42 (dk_at dksX3_leave_0 0 rfl rfl)
theorem dX3_leave_1 : decode cX3_leave 1 = .ok (.iload_n 2, 1) := dk_28 (dk_at dksX3_leave_0 1 rfl rfl)
theorem dX3_leave_2 : decode cX3_leave 2 = .ok (.aload_n 0, 1) := dk_42 (dk_at dksX3_leave_0 2 rfl rfl)
theorem dX3_leave_3 : decode cX3_leave 3 = .ok (.iload_n 2, 1) := dk_28 (dk_at dksX3_leave_0 3 rfl rfl)
theorem dX3_leave_4 : decode cX3_leave 4 = .ok (.iconst 1, 1) := dk_4 (dk_at dksX3_leave_0 4 rfl rfl)
theorem dX3_leave_5 : decode cX3_leave 5 = .ok (.isub, 1) := dk_100 (dk_at dksX3_leave_0 5 rfl rfl)
theorem dX3_leave_6 : decode cX3_leave 6 = .ok (.iload_n 1, 1) := dk_27 (dk_at dksX3_leave_0 6 rfl rfl)
theorem dX3_leave_7 : decode cX3_leave 7 = .ok (.iload_n 2, 1) := dk_28 (dk_at dksX3_leave_0 7 rfl rfl)
theorem dX3_leave_8 : decode cX3_leave 8 = .ok (.isub, 1) := dk_100 (dk_at dksX3_leave_0 8 rfl rfl)
theorem dX3_leave_9 : decode cX3_leave 9 = .ok (.invokestatic 32, 3) := dk_184 0 32 (dk_at dksX3_leave_0 9 rfl rfl)
theorem dX3_leave_12 : decode cX3_leave 12 = .ok (.return_, 1) := dk_177 (dk_at dksX3_leave_0 12 rfl rfl)
abbrev cX3_sampleIt : ByteArray := prog_5_method_11_code
def yX3_sampleIt : MethodName := ⟨RX3, "sampleIt", "(IIII)V"⟩
def dkwX3_sampleIt_8 : List UInt8 := [21, 8, 184, 0, 65, 42, 89, 180, 0, 41, 4, 100, 181, 0, 41, 132, 8, 255, 167, 255, 201, 177]
abbrev dktX3_sampleIt_8 : List UInt8 := dkwX3_sampleIt_8 ++ []
def dkwX3_sampleIt_7 : List UInt8 := [46, 21, 4, 184, 0, 74, 42, 180, 0, 28, 162, 0, 6, 167, 0, 26, 42, 180, 0, 18, 42, 180, 0, 41]
abbrev dktX3_sampleIt_7 : List UInt8 := dkwX3_sampleIt_7 ++ dktX3_sampleIt_8
def dkwX3_sampleIt_6 : List UInt8 := [21, 7, 181, 0, 28, 42, 180, 0, 41, 54, 8, 21, 8, 158, 0, 56, 42, 180, 0, 18, 21, 8, 4, 100]
abbrev dktX3_sampleIt_6 : List UInt8 := dkwX3_sampleIt_6 ++ dktX3_sampleIt_7
def dkwX3_sampleIt_5 : List UInt8 := [180, 0, 18, 21, 8, 46, 21, 4, 184, 0, 74, 184, 0, 77, 54, 7, 132, 8, 1, 167, 255, 225, 42]
abbrev dktX3_sampleIt_5 : List UInt8 := dkwX3_sampleIt_5 ++ dktX3_sampleIt_6
def dkwX3_sampleIt_4 : List UInt8 := [163, 0, 4, 177, 3, 54, 7, 3, 54, 8, 21, 8, 42, 180, 0, 41, 162, 0, 28, 21, 7, 42]
abbrev dktX3_sampleIt_4 : List UInt8 := dkwX3_sampleIt_4 ++ dktX3_sampleIt_5
def dkwX3_sampleIt_3 : List UInt8 := [184, 0, 61, 21, 5, 154, 0, 13, 42, 89, 180, 0, 41, 4, 96, 181, 0, 41, 42, 180, 0, 41, 16, 6]
abbrev dktX3_sampleIt_3 : List UInt8 := dkwX3_sampleIt_3 ++ dktX3_sampleIt_4
def dkwX3_sampleIt_2 : List UInt8 := [29, 133, 105, 42, 180, 0, 28, 133, 109, 97, 80, 42, 180, 0, 18, 42, 180, 0, 41, 21, 5, 27]
abbrev dktX3_sampleIt_2 : List UInt8 := dkwX3_sampleIt_2 ++ dktX3_sampleIt_3
def dkwX3_sampleIt_1 : List UInt8 := [21, 5, 153, 0, 10, 21, 6, 16, 24, 164, 0, 8, 16, 25, 167, 0, 5, 21, 6, 92, 47, 20, 0, 72]
abbrev dktX3_sampleIt_1 : List UInt8 := dkwX3_sampleIt_1 ++ dktX3_sampleIt_2
def dkwX3_sampleIt_0 : List UInt8 := [42, 27, 182, 0, 69, 54, 5, 21, 5, 17, 3, 232, 104, 42, 180, 0, 28, 108, 54, 6, 42, 180, 0, 24]
abbrev dktX3_sampleIt_0 : List UInt8 := dkwX3_sampleIt_0 ++ dktX3_sampleIt_1
theorem dksX3_sampleIt_0 : cX3_sampleIt.data.toList.drop 0 = dktX3_sampleIt_0 := by decide +kernel
theorem dksX3_sampleIt_1 : cX3_sampleIt.data.toList.drop 24 = dktX3_sampleIt_1 := dk_seg dksX3_sampleIt_0 24 rfl rfl
theorem dksX3_sampleIt_2 : cX3_sampleIt.data.toList.drop 48 = dktX3_sampleIt_2 := dk_seg dksX3_sampleIt_1 24 rfl rfl
theorem dksX3_sampleIt_3 : cX3_sampleIt.data.toList.drop 70 = dktX3_sampleIt_3 := dk_seg dksX3_sampleIt_2 22 rfl rfl
theorem dksX3_sampleIt_4 : cX3_sampleIt.data.toList.drop 94 = dktX3_sampleIt_4 := dk_seg dksX3_sampleIt_3 24 rfl rfl
theorem dksX3_sampleIt_5 : cX3_sampleIt.data.toList.drop 116 = dktX3_sampleIt_5 := dk_seg dksX3_sampleIt_4 22 rfl rfl
theorem dksX3_sampleIt_6 : cX3_sampleIt.data.toList.drop 139 = dktX3_sampleIt_6 := dk_seg dksX3_sampleIt_5 23 rfl rfl
theorem dksX3_sampleIt_7 : cX3_sampleIt.data.toList.drop 163 = dktX3_sampleIt_7 := dk_seg dksX3_sampleIt_6 24 rfl rfl
theorem dksX3_sampleIt_8 : cX3_sampleIt.data.toList.drop 187 = dktX3_sampleIt_8 := dk_seg dksX3_sampleIt_7 24 rfl rfl
theorem dX3_sampleIt_0 : decode cX3_sampleIt 0 = .ok (.aload_n 0, 1) := dk_42 (dk_at dksX3_sampleIt_0 0 rfl rfl)
theorem dX3_sampleIt_1 : decode cX3_sampleIt 1 = .ok (.iload_n 1, 1) := dk_27 (dk_at dksX3_sampleIt_0 1 rfl rfl)
theorem dX3_sampleIt_2 : decode cX3_sampleIt 2 = .ok (.invokevirtual 69, 3) := dk_182 0 69 (dk_at dksX3_sampleIt_0 2 rfl rfl)
theorem dX3_sampleIt_5 : decode cX3_sampleIt 5 = .ok (.istore 5, 2) := dk_54 5 (dk_at dksX3_sampleIt_0 5 rfl rfl)
theorem dX3_sampleIt_7 : decode cX3_sampleIt 7 = .ok (.iload 5, 2) := dk_21 5 (dk_at dksX3_sampleIt_0 7 rfl rfl)
theorem dX3_sampleIt_9 : decode cX3_sampleIt 9 = .ok (.sipush 1000, 3) := dk_17 3 232 (dk_at dksX3_sampleIt_0 9 rfl rfl)
theorem dX3_sampleIt_12 : decode cX3_sampleIt 12 = .ok (.imul, 1) := dk_104 (dk_at dksX3_sampleIt_0 12 rfl rfl)
theorem dX3_sampleIt_13 : decode cX3_sampleIt 13 = .ok (.aload_n 0, 1) := dk_42 (dk_at dksX3_sampleIt_0 13 rfl rfl)
theorem dX3_sampleIt_14 : decode cX3_sampleIt 14 = .ok (.getfield 28, 3) := dk_180 0 28 (dk_at dksX3_sampleIt_0 14 rfl rfl)
theorem dX3_sampleIt_17 : decode cX3_sampleIt 17 = .ok (.idiv, 1) := dk_108 (dk_at dksX3_sampleIt_0 17 rfl rfl)
theorem dX3_sampleIt_18 : decode cX3_sampleIt 18 = .ok (.istore 6, 2) := dk_54 6 (dk_at dksX3_sampleIt_0 18 rfl rfl)
theorem dX3_sampleIt_20 : decode cX3_sampleIt 20 = .ok (.aload_n 0, 1) := dk_42 (dk_at dksX3_sampleIt_0 20 rfl rfl)
theorem dX3_sampleIt_21 : decode cX3_sampleIt 21 = .ok (.getfield 24, 3) := dk_180 0 24 (dk_at dksX3_sampleIt_0 21 rfl rfl)
theorem dX3_sampleIt_24 : decode cX3_sampleIt 24 = .ok (.iload 5, 2) := dk_21 5 (dk_at dksX3_sampleIt_1 0 rfl rfl)
theorem dX3_sampleIt_26 : decode cX3_sampleIt 26 = .ok (.ifCond .eq 10, 3) := dk_153 0 10 (dk_at dksX3_sampleIt_1 2 rfl rfl)
theorem dX3_sampleIt_29 : decode cX3_sampleIt 29 = .ok (.iload 6, 2) := dk_21 6 (dk_at dksX3_sampleIt_1 5 rfl rfl)
theorem dX3_sampleIt_31 : decode cX3_sampleIt 31 = .ok (.bipush 24, 2) := dk_16 24 (dk_at dksX3_sampleIt_1 7 rfl rfl)
theorem dX3_sampleIt_33 : decode cX3_sampleIt 33 = .ok (.if_icmp .le 8, 3) := dk_164 0 8 (dk_at dksX3_sampleIt_1 9 rfl rfl)
theorem dX3_sampleIt_36 : decode cX3_sampleIt 36 = .ok (.bipush 25, 2) := dk_16 25 (dk_at dksX3_sampleIt_1 12 rfl rfl)
theorem dX3_sampleIt_38 : decode cX3_sampleIt 38 = .ok (.goto 5, 3) := dk_167 0 5 (dk_at dksX3_sampleIt_1 14 rfl rfl)
theorem dX3_sampleIt_41 : decode cX3_sampleIt 41 = .ok (.iload 6, 2) := dk_21 6 (dk_at dksX3_sampleIt_1 17 rfl rfl)
theorem dX3_sampleIt_43 : decode cX3_sampleIt 43 = .ok (.dup2, 1) := dk_92 (dk_at dksX3_sampleIt_1 19 rfl rfl)
theorem dX3_sampleIt_44 : decode cX3_sampleIt 44 = .ok (.laload, 1) := dk_47 (dk_at dksX3_sampleIt_1 20 rfl rfl)
theorem dX3_sampleIt_45 : decode cX3_sampleIt 45 = .ok (.ldc2_w 72, 3) := dk_20 0 72 (dk_at dksX3_sampleIt_1 21 rfl rfl)
theorem dX3_sampleIt_48 : decode cX3_sampleIt 48 = .ok (.iload_n 3, 1) := dk_29 (dk_at dksX3_sampleIt_2 0 rfl rfl)
theorem dX3_sampleIt_49 : decode cX3_sampleIt 49 = .ok (.i2l, 1) := dk_133 (dk_at dksX3_sampleIt_2 1 rfl rfl)
theorem dX3_sampleIt_50 : decode cX3_sampleIt 50 = .ok (.lmul, 1) := dk_105 (dk_at dksX3_sampleIt_2 2 rfl rfl)
theorem dX3_sampleIt_51 : decode cX3_sampleIt 51 = .ok (.aload_n 0, 1) := dk_42 (dk_at dksX3_sampleIt_2 3 rfl rfl)
theorem dX3_sampleIt_52 : decode cX3_sampleIt 52 = .ok (.getfield 28, 3) := dk_180 0 28 (dk_at dksX3_sampleIt_2 4 rfl rfl)
theorem dX3_sampleIt_55 : decode cX3_sampleIt 55 = .ok (.i2l, 1) := dk_133 (dk_at dksX3_sampleIt_2 7 rfl rfl)
theorem dX3_sampleIt_56 : decode cX3_sampleIt 56 = .ok (.ldiv, 1) := dk_109 (dk_at dksX3_sampleIt_2 8 rfl rfl)
theorem dX3_sampleIt_57 : decode cX3_sampleIt 57 = .ok (.ladd, 1) := dk_97 (dk_at dksX3_sampleIt_2 9 rfl rfl)
theorem dX3_sampleIt_58 : decode cX3_sampleIt 58 = .ok (.lastore, 1) := dk_80 (dk_at dksX3_sampleIt_2 10 rfl rfl)
theorem dX3_sampleIt_59 : decode cX3_sampleIt 59 = .ok (.aload_n 0, 1) := dk_42 (dk_at dksX3_sampleIt_2 11 rfl rfl)
theorem dX3_sampleIt_60 : decode cX3_sampleIt 60 = .ok (.getfield 18, 3) := dk_180 0 18 (dk_at dksX3_sampleIt_2 12 rfl rfl)
theorem dX3_sampleIt_63 : decode cX3_sampleIt 63 = .ok (.aload_n 0, 1) := dk_42 (dk_at dksX3_sampleIt_2 15 rfl rfl)
theorem dX3_sampleIt_64 : decode cX3_sampleIt 64 = .ok (.getfield 41, 3) := dk_180 0 41 (dk_at dksX3_sampleIt_2 16 rfl rfl)
theorem dX3_sampleIt_67 : decode cX3_sampleIt 67 = .ok (.iload 5, 2) := dk_21 5 (dk_at dksX3_sampleIt_2 19 rfl rfl)
theorem dX3_sampleIt_69 : decode cX3_sampleIt 69 = .ok (.iload_n 1, 1) := dk_27 (dk_at dksX3_sampleIt_2 21 rfl rfl)
theorem dX3_sampleIt_70 : decode cX3_sampleIt 70 = .ok (.invokestatic 61, 3) := dk_184 0 61 (dk_at dksX3_sampleIt_3 0 rfl rfl)
theorem dX3_sampleIt_73 : decode cX3_sampleIt 73 = .ok (.iload 5, 2) := dk_21 5 (dk_at dksX3_sampleIt_3 3 rfl rfl)
theorem dX3_sampleIt_75 : decode cX3_sampleIt 75 = .ok (.ifCond .ne 13, 3) := dk_154 0 13 (dk_at dksX3_sampleIt_3 5 rfl rfl)
theorem dX3_sampleIt_78 : decode cX3_sampleIt 78 = .ok (.aload_n 0, 1) := dk_42 (dk_at dksX3_sampleIt_3 8 rfl rfl)
theorem dX3_sampleIt_79 : decode cX3_sampleIt 79 = .ok (.dup, 1) := dk_89 (dk_at dksX3_sampleIt_3 9 rfl rfl)
theorem dX3_sampleIt_80 : decode cX3_sampleIt 80 = .ok (.getfield 41, 3) := dk_180 0 41 (dk_at dksX3_sampleIt_3 10 rfl rfl)
theorem dX3_sampleIt_83 : decode cX3_sampleIt 83 = .ok (.iconst 1, 1) := dk_4 (dk_at dksX3_sampleIt_3 13 rfl rfl)
theorem dX3_sampleIt_84 : decode cX3_sampleIt 84 = .ok (.iadd, 1) := dk_96 (dk_at dksX3_sampleIt_3 14 rfl rfl)
theorem dX3_sampleIt_85 : decode cX3_sampleIt 85 = .ok (.putfield 41, 3) := dk_181 0 41 (dk_at dksX3_sampleIt_3 15 rfl rfl)
theorem dX3_sampleIt_88 : decode cX3_sampleIt 88 = .ok (.aload_n 0, 1) := dk_42 (dk_at dksX3_sampleIt_3 18 rfl rfl)
theorem dX3_sampleIt_89 : decode cX3_sampleIt 89 = .ok (.getfield 41, 3) := dk_180 0 41 (dk_at dksX3_sampleIt_3 19 rfl rfl)
theorem dX3_sampleIt_92 : decode cX3_sampleIt 92 = .ok (.bipush 6, 2) := dk_16 6 (dk_at dksX3_sampleIt_3 22 rfl rfl)
theorem dX3_sampleIt_94 : decode cX3_sampleIt 94 = .ok (.if_icmp .gt 4, 3) := dk_163 0 4 (dk_at dksX3_sampleIt_4 0 rfl rfl)
theorem dX3_sampleIt_97 : decode cX3_sampleIt 97 = .ok (.return_, 1) := dk_177 (dk_at dksX3_sampleIt_4 3 rfl rfl)
theorem dX3_sampleIt_98 : decode cX3_sampleIt 98 = .ok (.iconst 0, 1) := dk_3 (dk_at dksX3_sampleIt_4 4 rfl rfl)
theorem dX3_sampleIt_99 : decode cX3_sampleIt 99 = .ok (.istore 7, 2) := dk_54 7 (dk_at dksX3_sampleIt_4 5 rfl rfl)
theorem dX3_sampleIt_101 : decode cX3_sampleIt 101 = .ok (.iconst 0, 1) := dk_3 (dk_at dksX3_sampleIt_4 7 rfl rfl)
theorem dX3_sampleIt_102 : decode cX3_sampleIt 102 = .ok (.istore 8, 2) := dk_54 8 (dk_at dksX3_sampleIt_4 8 rfl rfl)
theorem dX3_sampleIt_104 : decode cX3_sampleIt 104 = .ok (.iload 8, 2) := dk_21 8 (dk_at dksX3_sampleIt_4 10 rfl rfl)
theorem dX3_sampleIt_106 : decode cX3_sampleIt 106 = .ok (.aload_n 0, 1) := dk_42 (dk_at dksX3_sampleIt_4 12 rfl rfl)
theorem dX3_sampleIt_107 : decode cX3_sampleIt 107 = .ok (.getfield 41, 3) := dk_180 0 41 (dk_at dksX3_sampleIt_4 13 rfl rfl)
theorem dX3_sampleIt_110 : decode cX3_sampleIt 110 = .ok (.if_icmp .ge 28, 3) := dk_162 0 28 (dk_at dksX3_sampleIt_4 16 rfl rfl)
theorem dX3_sampleIt_113 : decode cX3_sampleIt 113 = .ok (.iload 7, 2) := dk_21 7 (dk_at dksX3_sampleIt_4 19 rfl rfl)
theorem dX3_sampleIt_115 : decode cX3_sampleIt 115 = .ok (.aload_n 0, 1) := dk_42 (dk_at dksX3_sampleIt_4 21 rfl rfl)
theorem dX3_sampleIt_116 : decode cX3_sampleIt 116 = .ok (.getfield 18, 3) := dk_180 0 18 (dk_at dksX3_sampleIt_5 0 rfl rfl)
theorem dX3_sampleIt_119 : decode cX3_sampleIt 119 = .ok (.iload 8, 2) := dk_21 8 (dk_at dksX3_sampleIt_5 3 rfl rfl)
theorem dX3_sampleIt_121 : decode cX3_sampleIt 121 = .ok (.iaload, 1) := dk_46 (dk_at dksX3_sampleIt_5 5 rfl rfl)
theorem dX3_sampleIt_122 : decode cX3_sampleIt 122 = .ok (.iload 4, 2) := dk_21 4 (dk_at dksX3_sampleIt_5 6 rfl rfl)
theorem dX3_sampleIt_124 : decode cX3_sampleIt 124 = .ok (.invokestatic 74, 3) := dk_184 0 74 (dk_at dksX3_sampleIt_5 8 rfl rfl)
theorem dX3_sampleIt_127 : decode cX3_sampleIt 127 = .ok (.invokestatic 77, 3) := dk_184 0 77 (dk_at dksX3_sampleIt_5 11 rfl rfl)
theorem dX3_sampleIt_130 : decode cX3_sampleIt 130 = .ok (.istore 7, 2) := dk_54 7 (dk_at dksX3_sampleIt_5 14 rfl rfl)
theorem dX3_sampleIt_132 : decode cX3_sampleIt 132 = .ok (.iinc 8 1, 3) := dk_132 8 1 (dk_at dksX3_sampleIt_5 16 rfl rfl)
theorem dX3_sampleIt_135 : decode cX3_sampleIt 135 = .ok (.goto (-31), 3) := dk_167 255 225 (dk_at dksX3_sampleIt_5 19 rfl rfl)
theorem dX3_sampleIt_138 : decode cX3_sampleIt 138 = .ok (.aload_n 0, 1) := dk_42 (dk_at dksX3_sampleIt_5 22 rfl rfl)
theorem dX3_sampleIt_139 : decode cX3_sampleIt 139 = .ok (.iload 7, 2) := dk_21 7 (dk_at dksX3_sampleIt_6 0 rfl rfl)
theorem dX3_sampleIt_141 : decode cX3_sampleIt 141 = .ok (.putfield 28, 3) := dk_181 0 28 (dk_at dksX3_sampleIt_6 2 rfl rfl)
theorem dX3_sampleIt_144 : decode cX3_sampleIt 144 = .ok (.aload_n 0, 1) := dk_42 (dk_at dksX3_sampleIt_6 5 rfl rfl)
theorem dX3_sampleIt_145 : decode cX3_sampleIt 145 = .ok (.getfield 41, 3) := dk_180 0 41 (dk_at dksX3_sampleIt_6 6 rfl rfl)
theorem dX3_sampleIt_148 : decode cX3_sampleIt 148 = .ok (.istore 8, 2) := dk_54 8 (dk_at dksX3_sampleIt_6 9 rfl rfl)
theorem dX3_sampleIt_150 : decode cX3_sampleIt 150 = .ok (.iload 8, 2) := dk_21 8 (dk_at dksX3_sampleIt_6 11 rfl rfl)
theorem dX3_sampleIt_152 : decode cX3_sampleIt 152 = .ok (.ifCond .le 56, 3) := dk_158 0 56 (dk_at dksX3_sampleIt_6 13 rfl rfl)
theorem dX3_sampleIt_155 : decode cX3_sampleIt 155 = .ok (.aload_n 0, 1) := dk_42 (dk_at dksX3_sampleIt_6 16 rfl rfl)
theorem dX3_sampleIt_156 : decode cX3_sampleIt 156 = .ok (.getfield 18, 3) := dk_180 0 18 (dk_at dksX3_sampleIt_6 17 rfl rfl)
theorem dX3_sampleIt_159 : decode cX3_sampleIt 159 = .ok (.iload 8, 2) := dk_21 8 (dk_at dksX3_sampleIt_6 20 rfl rfl)
theorem dX3_sampleIt_161 : decode cX3_sampleIt 161 = .ok (.iconst 1, 1) := dk_4 (dk_at dksX3_sampleIt_6 22 rfl rfl)
theorem dX3_sampleIt_162 : decode cX3_sampleIt 162 = .ok (.isub, 1) := dk_100 (dk_at dksX3_sampleIt_6 23 rfl rfl)
theorem dX3_sampleIt_163 : decode cX3_sampleIt 163 = .ok (.iaload, 1) := dk_46 (dk_at dksX3_sampleIt_7 0 rfl rfl)
theorem dX3_sampleIt_164 : decode cX3_sampleIt 164 = .ok (.iload 4, 2) := dk_21 4 (dk_at dksX3_sampleIt_7 1 rfl rfl)
theorem dX3_sampleIt_166 : decode cX3_sampleIt 166 = .ok (.invokestatic 74, 3) := dk_184 0 74 (dk_at dksX3_sampleIt_7 3 rfl rfl)
theorem dX3_sampleIt_169 : decode cX3_sampleIt 169 = .ok (.aload_n 0, 1) := dk_42 (dk_at dksX3_sampleIt_7 6 rfl rfl)
theorem dX3_sampleIt_170 : decode cX3_sampleIt 170 = .ok (.getfield 28, 3) := dk_180 0 28 (dk_at dksX3_sampleIt_7 7 rfl rfl)
theorem dX3_sampleIt_173 : decode cX3_sampleIt 173 = .ok (.if_icmp .ge 6, 3) := dk_162 0 6 (dk_at dksX3_sampleIt_7 10 rfl rfl)
theorem dX3_sampleIt_176 : decode cX3_sampleIt 176 = .ok (.goto 26, 3) := dk_167 0 26 (dk_at dksX3_sampleIt_7 13 rfl rfl)
theorem dX3_sampleIt_179 : decode cX3_sampleIt 179 = .ok (.aload_n 0, 1) := dk_42 (dk_at dksX3_sampleIt_7 16 rfl rfl)
theorem dX3_sampleIt_180 : decode cX3_sampleIt 180 = .ok (.getfield 18, 3) := dk_180 0 18 (dk_at dksX3_sampleIt_7 17 rfl rfl)
theorem dX3_sampleIt_183 : decode cX3_sampleIt 183 = .ok (.aload_n 0, 1) := dk_42 (dk_at dksX3_sampleIt_7 20 rfl rfl)
theorem dX3_sampleIt_184 : decode cX3_sampleIt 184 = .ok (.getfield 41, 3) := dk_180 0 41 (dk_at dksX3_sampleIt_7 21 rfl rfl)
theorem dX3_sampleIt_187 : decode cX3_sampleIt 187 = .ok (.iload 8, 2) := dk_21 8 (dk_at dksX3_sampleIt_8 0 rfl rfl)
theorem dX3_sampleIt_189 : decode cX3_sampleIt 189 = .ok (.invokestatic 65, 3) := dk_184 0 65 (dk_at dksX3_sampleIt_8 2 rfl rfl)
theorem dX3_sampleIt_192 : decode cX3_sampleIt 192 = .ok (.aload_n 0, 1) := dk_42 (dk_at dksX3_sampleIt_8 5 rfl rfl)
theorem dX3_sampleIt_193 : decode cX3_sampleIt 193 = .ok (.dup, 1) := dk_89 (dk_at dksX3_sampleIt_8 6 rfl rfl)
theorem dX3_sampleIt_194 : decode cX3_sampleIt 194 = .ok (.getfield 41, 3) := dk_180 0 41 (dk_at dksX3_sampleIt_8 7 rfl rfl)
theorem dX3_sampleIt_197 : decode cX3_sampleIt 197 = .ok (.iconst 1, 1) := dk_4 (dk_at dksX3_sampleIt_8 10 rfl rfl)
theorem dX3_sampleIt_198 : decode cX3_sampleIt 198 = .ok (.isub, 1) := dk_100 (dk_at dksX3_sampleIt_8 11 rfl rfl)
theorem dX3_sampleIt_199 : decode cX3_sampleIt 199 = .ok (.putfield 41, 3) := dk_181 0 41 (dk_at dksX3_sampleIt_8 12 rfl rfl)
theorem dX3_sampleIt_202 : decode cX3_sampleIt 202 = .ok (.iinc 8 (-1), 3) := dk_132 8 255 (dk_at dksX3_sampleIt_8 15 rfl rfl)
theorem dX3_sampleIt_205 : decode cX3_sampleIt 205 = .ok (.goto (-55), 3) := dk_167 255 201 (dk_at dksX3_sampleIt_8 18 rfl rfl)
theorem dX3_sampleIt_208 : decode cX3_sampleIt 208 = .ok (.return_, 1) := dk_177 (dk_at dksX3_sampleIt_8 21 rfl rfl)
abbrev cX3_as : ByteArray := prog_5_method_2_code
def yX3_as : MethodName := ⟨RX3, "as", "(LMissCurves$Book;)LMissCurves$Book;"⟩
def dkwX3_as_5 : List UInt8 := [181, 0, 28, 42, 176]
abbrev dktX3_as_5 : List UInt8 := dkwX3_as_5 ++ []
def dkwX3_as_4 : List UInt8 := [181, 0, 38, 42, 43, 180, 0, 41, 181, 0, 41, 42, 43, 180, 0, 44, 181, 0, 44, 42, 43, 180, 0, 28]
abbrev dktX3_as_4 : List UInt8 := dkwX3_as_4 ++ dktX3_as_5
def dkwX3_as_3 : List UInt8 := [180, 0, 24, 3, 42, 180, 0, 24, 3, 42, 180, 0, 24, 190, 184, 0, 32, 42, 43, 180, 0, 38]
abbrev dktX3_as_3 : List UInt8 := dkwX3_as_3 ++ dktX3_as_4
def dkwX3_as_2 : List UInt8 := [180, 0, 18, 190, 184, 0, 32, 43, 180, 0, 21, 3, 42, 180, 0, 21, 3, 16, 32, 184, 0, 32, 43]
abbrev dktX3_as_2 : List UInt8 := dkwX3_as_2 ++ dktX3_as_3
def dkwX3_as_1 : List UInt8 := [180, 0, 15, 3, 42, 180, 0, 15, 190, 184, 0, 32, 43, 180, 0, 18, 3, 42, 180, 0, 18, 3, 42]
abbrev dktX3_as_1 : List UInt8 := dkwX3_as_1 ++ dktX3_as_2
def dkwX3_as_0 : List UInt8 := [43, 180, 0, 9, 3, 42, 180, 0, 9, 3, 42, 180, 0, 9, 190, 184, 0, 32, 43, 180, 0, 15, 3, 42]
abbrev dktX3_as_0 : List UInt8 := dkwX3_as_0 ++ dktX3_as_1
theorem dksX3_as_0 : cX3_as.data.toList.drop 0 = dktX3_as_0 := by decide +kernel
theorem dksX3_as_1 : cX3_as.data.toList.drop 24 = dktX3_as_1 := dk_seg dksX3_as_0 24 rfl rfl
theorem dksX3_as_2 : cX3_as.data.toList.drop 47 = dktX3_as_2 := dk_seg dksX3_as_1 23 rfl rfl
theorem dksX3_as_3 : cX3_as.data.toList.drop 70 = dktX3_as_3 := dk_seg dksX3_as_2 23 rfl rfl
theorem dksX3_as_4 : cX3_as.data.toList.drop 92 = dktX3_as_4 := dk_seg dksX3_as_3 22 rfl rfl
theorem dksX3_as_5 : cX3_as.data.toList.drop 116 = dktX3_as_5 := dk_seg dksX3_as_4 24 rfl rfl
theorem dX3_as_0 : decode cX3_as 0 = .ok (.aload_n 1, 1) := dk_43 (dk_at dksX3_as_0 0 rfl rfl)
theorem dX3_as_1 : decode cX3_as 1 = .ok (.getfield 9, 3) := dk_180 0 9 (dk_at dksX3_as_0 1 rfl rfl)
theorem dX3_as_4 : decode cX3_as 4 = .ok (.iconst 0, 1) := dk_3 (dk_at dksX3_as_0 4 rfl rfl)
theorem dX3_as_5 : decode cX3_as 5 = .ok (.aload_n 0, 1) := dk_42 (dk_at dksX3_as_0 5 rfl rfl)
theorem dX3_as_6 : decode cX3_as 6 = .ok (.getfield 9, 3) := dk_180 0 9 (dk_at dksX3_as_0 6 rfl rfl)
theorem dX3_as_9 : decode cX3_as 9 = .ok (.iconst 0, 1) := dk_3 (dk_at dksX3_as_0 9 rfl rfl)
theorem dX3_as_10 : decode cX3_as 10 = .ok (.aload_n 0, 1) := dk_42 (dk_at dksX3_as_0 10 rfl rfl)
theorem dX3_as_11 : decode cX3_as 11 = .ok (.getfield 9, 3) := dk_180 0 9 (dk_at dksX3_as_0 11 rfl rfl)
theorem dX3_as_14 : decode cX3_as 14 = .ok (.arraylength, 1) := dk_190 (dk_at dksX3_as_0 14 rfl rfl)
theorem dX3_as_15 : decode cX3_as 15 = .ok (.invokestatic 32, 3) := dk_184 0 32 (dk_at dksX3_as_0 15 rfl rfl)
theorem dX3_as_18 : decode cX3_as 18 = .ok (.aload_n 1, 1) := dk_43 (dk_at dksX3_as_0 18 rfl rfl)
theorem dX3_as_19 : decode cX3_as 19 = .ok (.getfield 15, 3) := dk_180 0 15 (dk_at dksX3_as_0 19 rfl rfl)
theorem dX3_as_22 : decode cX3_as 22 = .ok (.iconst 0, 1) := dk_3 (dk_at dksX3_as_0 22 rfl rfl)
theorem dX3_as_23 : decode cX3_as 23 = .ok (.aload_n 0, 1) := dk_42 (dk_at dksX3_as_0 23 rfl rfl)
theorem dX3_as_24 : decode cX3_as 24 = .ok (.getfield 15, 3) := dk_180 0 15 (dk_at dksX3_as_1 0 rfl rfl)
theorem dX3_as_27 : decode cX3_as 27 = .ok (.iconst 0, 1) := dk_3 (dk_at dksX3_as_1 3 rfl rfl)
theorem dX3_as_28 : decode cX3_as 28 = .ok (.aload_n 0, 1) := dk_42 (dk_at dksX3_as_1 4 rfl rfl)
theorem dX3_as_29 : decode cX3_as 29 = .ok (.getfield 15, 3) := dk_180 0 15 (dk_at dksX3_as_1 5 rfl rfl)
theorem dX3_as_32 : decode cX3_as 32 = .ok (.arraylength, 1) := dk_190 (dk_at dksX3_as_1 8 rfl rfl)
theorem dX3_as_33 : decode cX3_as 33 = .ok (.invokestatic 32, 3) := dk_184 0 32 (dk_at dksX3_as_1 9 rfl rfl)
theorem dX3_as_36 : decode cX3_as 36 = .ok (.aload_n 1, 1) := dk_43 (dk_at dksX3_as_1 12 rfl rfl)
theorem dX3_as_37 : decode cX3_as 37 = .ok (.getfield 18, 3) := dk_180 0 18 (dk_at dksX3_as_1 13 rfl rfl)
theorem dX3_as_40 : decode cX3_as 40 = .ok (.iconst 0, 1) := dk_3 (dk_at dksX3_as_1 16 rfl rfl)
theorem dX3_as_41 : decode cX3_as 41 = .ok (.aload_n 0, 1) := dk_42 (dk_at dksX3_as_1 17 rfl rfl)
theorem dX3_as_42 : decode cX3_as 42 = .ok (.getfield 18, 3) := dk_180 0 18 (dk_at dksX3_as_1 18 rfl rfl)
theorem dX3_as_45 : decode cX3_as 45 = .ok (.iconst 0, 1) := dk_3 (dk_at dksX3_as_1 21 rfl rfl)
theorem dX3_as_46 : decode cX3_as 46 = .ok (.aload_n 0, 1) := dk_42 (dk_at dksX3_as_1 22 rfl rfl)
theorem dX3_as_47 : decode cX3_as 47 = .ok (.getfield 18, 3) := dk_180 0 18 (dk_at dksX3_as_2 0 rfl rfl)
theorem dX3_as_50 : decode cX3_as 50 = .ok (.arraylength, 1) := dk_190 (dk_at dksX3_as_2 3 rfl rfl)
theorem dX3_as_51 : decode cX3_as 51 = .ok (.invokestatic 32, 3) := dk_184 0 32 (dk_at dksX3_as_2 4 rfl rfl)
theorem dX3_as_54 : decode cX3_as 54 = .ok (.aload_n 1, 1) := dk_43 (dk_at dksX3_as_2 7 rfl rfl)
theorem dX3_as_55 : decode cX3_as 55 = .ok (.getfield 21, 3) := dk_180 0 21 (dk_at dksX3_as_2 8 rfl rfl)
theorem dX3_as_58 : decode cX3_as 58 = .ok (.iconst 0, 1) := dk_3 (dk_at dksX3_as_2 11 rfl rfl)
theorem dX3_as_59 : decode cX3_as 59 = .ok (.aload_n 0, 1) := dk_42 (dk_at dksX3_as_2 12 rfl rfl)
theorem dX3_as_60 : decode cX3_as 60 = .ok (.getfield 21, 3) := dk_180 0 21 (dk_at dksX3_as_2 13 rfl rfl)
theorem dX3_as_63 : decode cX3_as 63 = .ok (.iconst 0, 1) := dk_3 (dk_at dksX3_as_2 16 rfl rfl)
theorem dX3_as_64 : decode cX3_as 64 = .ok (.bipush 32, 2) := dk_16 32 (dk_at dksX3_as_2 17 rfl rfl)
theorem dX3_as_66 : decode cX3_as 66 = .ok (.invokestatic 32, 3) := dk_184 0 32 (dk_at dksX3_as_2 19 rfl rfl)
theorem dX3_as_69 : decode cX3_as 69 = .ok (.aload_n 1, 1) := dk_43 (dk_at dksX3_as_2 22 rfl rfl)
theorem dX3_as_70 : decode cX3_as 70 = .ok (.getfield 24, 3) := dk_180 0 24 (dk_at dksX3_as_3 0 rfl rfl)
theorem dX3_as_73 : decode cX3_as 73 = .ok (.iconst 0, 1) := dk_3 (dk_at dksX3_as_3 3 rfl rfl)
theorem dX3_as_74 : decode cX3_as 74 = .ok (.aload_n 0, 1) := dk_42 (dk_at dksX3_as_3 4 rfl rfl)
theorem dX3_as_75 : decode cX3_as 75 = .ok (.getfield 24, 3) := dk_180 0 24 (dk_at dksX3_as_3 5 rfl rfl)
theorem dX3_as_78 : decode cX3_as 78 = .ok (.iconst 0, 1) := dk_3 (dk_at dksX3_as_3 8 rfl rfl)
theorem dX3_as_79 : decode cX3_as 79 = .ok (.aload_n 0, 1) := dk_42 (dk_at dksX3_as_3 9 rfl rfl)
theorem dX3_as_80 : decode cX3_as 80 = .ok (.getfield 24, 3) := dk_180 0 24 (dk_at dksX3_as_3 10 rfl rfl)
theorem dX3_as_83 : decode cX3_as 83 = .ok (.arraylength, 1) := dk_190 (dk_at dksX3_as_3 13 rfl rfl)
theorem dX3_as_84 : decode cX3_as 84 = .ok (.invokestatic 32, 3) := dk_184 0 32 (dk_at dksX3_as_3 14 rfl rfl)
theorem dX3_as_87 : decode cX3_as 87 = .ok (.aload_n 0, 1) := dk_42 (dk_at dksX3_as_3 17 rfl rfl)
theorem dX3_as_88 : decode cX3_as 88 = .ok (.aload_n 1, 1) := dk_43 (dk_at dksX3_as_3 18 rfl rfl)
theorem dX3_as_89 : decode cX3_as 89 = .ok (.getfield 38, 3) := dk_180 0 38 (dk_at dksX3_as_3 19 rfl rfl)
theorem dX3_as_92 : decode cX3_as 92 = .ok (.putfield 38, 3) := dk_181 0 38 (dk_at dksX3_as_4 0 rfl rfl)
theorem dX3_as_95 : decode cX3_as 95 = .ok (.aload_n 0, 1) := dk_42 (dk_at dksX3_as_4 3 rfl rfl)
theorem dX3_as_96 : decode cX3_as 96 = .ok (.aload_n 1, 1) := dk_43 (dk_at dksX3_as_4 4 rfl rfl)
theorem dX3_as_97 : decode cX3_as 97 = .ok (.getfield 41, 3) := dk_180 0 41 (dk_at dksX3_as_4 5 rfl rfl)
theorem dX3_as_100 : decode cX3_as 100 = .ok (.putfield 41, 3) := dk_181 0 41 (dk_at dksX3_as_4 8 rfl rfl)
theorem dX3_as_103 : decode cX3_as 103 = .ok (.aload_n 0, 1) := dk_42 (dk_at dksX3_as_4 11 rfl rfl)
theorem dX3_as_104 : decode cX3_as 104 = .ok (.aload_n 1, 1) := dk_43 (dk_at dksX3_as_4 12 rfl rfl)
theorem dX3_as_105 : decode cX3_as 105 = .ok (.getfield 44, 3) := dk_180 0 44 (dk_at dksX3_as_4 13 rfl rfl)
theorem dX3_as_108 : decode cX3_as 108 = .ok (.putfield 44, 3) := dk_181 0 44 (dk_at dksX3_as_4 16 rfl rfl)
theorem dX3_as_111 : decode cX3_as 111 = .ok (.aload_n 0, 1) := dk_42 (dk_at dksX3_as_4 19 rfl rfl)
theorem dX3_as_112 : decode cX3_as 112 = .ok (.aload_n 1, 1) := dk_43 (dk_at dksX3_as_4 20 rfl rfl)
theorem dX3_as_113 : decode cX3_as 113 = .ok (.getfield 28, 3) := dk_180 0 28 (dk_at dksX3_as_4 21 rfl rfl)
theorem dX3_as_116 : decode cX3_as 116 = .ok (.putfield 28, 3) := dk_181 0 28 (dk_at dksX3_as_5 0 rfl rfl)
theorem dX3_as_119 : decode cX3_as 119 = .ok (.aload_n 0, 1) := dk_42 (dk_at dksX3_as_5 3 rfl rfl)
theorem dX3_as_120 : decode cX3_as 120 = .ok (.areturn, 1) := dk_176 (dk_at dksX3_as_5 4 rfl rfl)
abbrev cX3_drop : ByteArray := prog_5_method_10_code
def yX3_drop : MethodName := ⟨RX3, "drop", "(I)V"⟩
def dkwX3_drop_2 : List UInt8 := [184, 0, 65, 42, 89, 180, 0, 41, 4, 100, 181, 0, 41, 177]
abbrev dktX3_drop_2 : List UInt8 := dkwX3_drop_2 ++ []
def dkwX3_drop_1 : List UInt8 := [42, 89, 180, 0, 38, 4, 100, 181, 0, 38, 29, 154, 0, 4, 177, 42, 180, 0, 18, 42, 180, 0, 41, 29]
abbrev dktX3_drop_1 : List UInt8 := dkwX3_drop_1 ++ dktX3_drop_2
def dkwX3_drop_0 : List UInt8 := [42, 27, 182, 0, 51, 61, 42, 27, 182, 0, 69, 62, 42, 180, 0, 9, 42, 180, 0, 38, 28, 184, 0, 65]
abbrev dktX3_drop_0 : List UInt8 := dkwX3_drop_0 ++ dktX3_drop_1
theorem dksX3_drop_0 : cX3_drop.data.toList.drop 0 = dktX3_drop_0 := by decide +kernel
theorem dksX3_drop_1 : cX3_drop.data.toList.drop 24 = dktX3_drop_1 := dk_seg dksX3_drop_0 24 rfl rfl
theorem dksX3_drop_2 : cX3_drop.data.toList.drop 48 = dktX3_drop_2 := dk_seg dksX3_drop_1 24 rfl rfl
theorem dX3_drop_0 : decode cX3_drop 0 = .ok (.aload_n 0, 1) := dk_42 (dk_at dksX3_drop_0 0 rfl rfl)
theorem dX3_drop_1 : decode cX3_drop 1 = .ok (.iload_n 1, 1) := dk_27 (dk_at dksX3_drop_0 1 rfl rfl)
theorem dX3_drop_2 : decode cX3_drop 2 = .ok (.invokevirtual 51, 3) := dk_182 0 51 (dk_at dksX3_drop_0 2 rfl rfl)
theorem dX3_drop_5 : decode cX3_drop 5 = .ok (.istore_n 2, 1) := dk_61 (dk_at dksX3_drop_0 5 rfl rfl)
theorem dX3_drop_6 : decode cX3_drop 6 = .ok (.aload_n 0, 1) := dk_42 (dk_at dksX3_drop_0 6 rfl rfl)
theorem dX3_drop_7 : decode cX3_drop 7 = .ok (.iload_n 1, 1) := dk_27 (dk_at dksX3_drop_0 7 rfl rfl)
theorem dX3_drop_8 : decode cX3_drop 8 = .ok (.invokevirtual 69, 3) := dk_182 0 69 (dk_at dksX3_drop_0 8 rfl rfl)
theorem dX3_drop_11 : decode cX3_drop 11 = .ok (.istore_n 3, 1) := dk_62 (dk_at dksX3_drop_0 11 rfl rfl)
theorem dX3_drop_12 : decode cX3_drop 12 = .ok (.aload_n 0, 1) := dk_42 (dk_at dksX3_drop_0 12 rfl rfl)
theorem dX3_drop_13 : decode cX3_drop 13 = .ok (.getfield 9, 3) := dk_180 0 9 (dk_at dksX3_drop_0 13 rfl rfl)
theorem dX3_drop_16 : decode cX3_drop 16 = .ok (.aload_n 0, 1) := dk_42 (dk_at dksX3_drop_0 16 rfl rfl)
theorem dX3_drop_17 : decode cX3_drop 17 = .ok (.getfield 38, 3) := dk_180 0 38 (dk_at dksX3_drop_0 17 rfl rfl)
theorem dX3_drop_20 : decode cX3_drop 20 = .ok (.iload_n 2, 1) := dk_28 (dk_at dksX3_drop_0 20 rfl rfl)
theorem dX3_drop_21 : decode cX3_drop 21 = .ok (.invokestatic 65, 3) := dk_184 0 65 (dk_at dksX3_drop_0 21 rfl rfl)
theorem dX3_drop_24 : decode cX3_drop 24 = .ok (.aload_n 0, 1) := dk_42 (dk_at dksX3_drop_1 0 rfl rfl)
theorem dX3_drop_25 : decode cX3_drop 25 = .ok (.dup, 1) := dk_89 (dk_at dksX3_drop_1 1 rfl rfl)
theorem dX3_drop_26 : decode cX3_drop 26 = .ok (.getfield 38, 3) := dk_180 0 38 (dk_at dksX3_drop_1 2 rfl rfl)
theorem dX3_drop_29 : decode cX3_drop 29 = .ok (.iconst 1, 1) := dk_4 (dk_at dksX3_drop_1 5 rfl rfl)
theorem dX3_drop_30 : decode cX3_drop 30 = .ok (.isub, 1) := dk_100 (dk_at dksX3_drop_1 6 rfl rfl)
theorem dX3_drop_31 : decode cX3_drop 31 = .ok (.putfield 38, 3) := dk_181 0 38 (dk_at dksX3_drop_1 7 rfl rfl)
theorem dX3_drop_34 : decode cX3_drop 34 = .ok (.iload_n 3, 1) := dk_29 (dk_at dksX3_drop_1 10 rfl rfl)
theorem dX3_drop_35 : decode cX3_drop 35 = .ok (.ifCond .ne 4, 3) := dk_154 0 4 (dk_at dksX3_drop_1 11 rfl rfl)
theorem dX3_drop_38 : decode cX3_drop 38 = .ok (.return_, 1) := dk_177 (dk_at dksX3_drop_1 14 rfl rfl)
theorem dX3_drop_39 : decode cX3_drop 39 = .ok (.aload_n 0, 1) := dk_42 (dk_at dksX3_drop_1 15 rfl rfl)
theorem dX3_drop_40 : decode cX3_drop 40 = .ok (.getfield 18, 3) := dk_180 0 18 (dk_at dksX3_drop_1 16 rfl rfl)
theorem dX3_drop_43 : decode cX3_drop 43 = .ok (.aload_n 0, 1) := dk_42 (dk_at dksX3_drop_1 19 rfl rfl)
theorem dX3_drop_44 : decode cX3_drop 44 = .ok (.getfield 41, 3) := dk_180 0 41 (dk_at dksX3_drop_1 20 rfl rfl)
theorem dX3_drop_47 : decode cX3_drop 47 = .ok (.iload_n 3, 1) := dk_29 (dk_at dksX3_drop_1 23 rfl rfl)
theorem dX3_drop_48 : decode cX3_drop 48 = .ok (.invokestatic 65, 3) := dk_184 0 65 (dk_at dksX3_drop_2 0 rfl rfl)
theorem dX3_drop_51 : decode cX3_drop 51 = .ok (.aload_n 0, 1) := dk_42 (dk_at dksX3_drop_2 3 rfl rfl)
theorem dX3_drop_52 : decode cX3_drop 52 = .ok (.dup, 1) := dk_89 (dk_at dksX3_drop_2 4 rfl rfl)
theorem dX3_drop_53 : decode cX3_drop 53 = .ok (.getfield 41, 3) := dk_180 0 41 (dk_at dksX3_drop_2 5 rfl rfl)
theorem dX3_drop_56 : decode cX3_drop 56 = .ok (.iconst 1, 1) := dk_4 (dk_at dksX3_drop_2 8 rfl rfl)
theorem dX3_drop_57 : decode cX3_drop 57 = .ok (.isub, 1) := dk_100 (dk_at dksX3_drop_2 9 rfl rfl)
theorem dX3_drop_58 : decode cX3_drop 58 = .ok (.putfield 41, 3) := dk_181 0 41 (dk_at dksX3_drop_2 10 rfl rfl)
theorem dX3_drop_61 : decode cX3_drop 61 = .ok (.return_, 1) := dk_177 (dk_at dksX3_drop_2 13 rfl rfl)
abbrev cX3_halve : ByteArray := prog_5_method_14_code
def yX3_halve : MethodName := ⟨RX3, "halve", "()I"⟩
def dkwX3_halve_2 : List UInt8 := [42, 180, 0, 24, 28, 92, 47, 20, 0, 86, 109, 80, 132, 2, 1, 167, 255, 232, 27, 172]
abbrev dktX3_halve_2 : List UInt8 := dkwX3_halve_2 ++ []
def dkwX3_halve_1 : List UInt8 := [180, 0, 15, 28, 46, 96, 60, 132, 2, 1, 167, 255, 228, 3, 61, 28, 42, 180, 0, 24, 190, 162, 0, 21]
abbrev dktX3_halve_1 : List UInt8 := dkwX3_halve_1 ++ dktX3_halve_2
def dkwX3_halve_0 : List UInt8 := [3, 60, 3, 61, 28, 16, 24, 163, 0, 28, 42, 180, 0, 15, 28, 92, 46, 5, 108, 79, 27, 42]
abbrev dktX3_halve_0 : List UInt8 := dkwX3_halve_0 ++ dktX3_halve_1
theorem dksX3_halve_0 : cX3_halve.data.toList.drop 0 = dktX3_halve_0 := by decide +kernel
theorem dksX3_halve_1 : cX3_halve.data.toList.drop 22 = dktX3_halve_1 := dk_seg dksX3_halve_0 22 rfl rfl
theorem dksX3_halve_2 : cX3_halve.data.toList.drop 46 = dktX3_halve_2 := dk_seg dksX3_halve_1 24 rfl rfl
theorem dX3_halve_0 : decode cX3_halve 0 = .ok (.iconst 0, 1) := dk_3 (dk_at dksX3_halve_0 0 rfl rfl)
theorem dX3_halve_1 : decode cX3_halve 1 = .ok (.istore_n 1, 1) := dk_60 (dk_at dksX3_halve_0 1 rfl rfl)
theorem dX3_halve_2 : decode cX3_halve 2 = .ok (.iconst 0, 1) := dk_3 (dk_at dksX3_halve_0 2 rfl rfl)
theorem dX3_halve_3 : decode cX3_halve 3 = .ok (.istore_n 2, 1) := dk_61 (dk_at dksX3_halve_0 3 rfl rfl)
theorem dX3_halve_4 : decode cX3_halve 4 = .ok (.iload_n 2, 1) := dk_28 (dk_at dksX3_halve_0 4 rfl rfl)
theorem dX3_halve_5 : decode cX3_halve 5 = .ok (.bipush 24, 2) := dk_16 24 (dk_at dksX3_halve_0 5 rfl rfl)
theorem dX3_halve_7 : decode cX3_halve 7 = .ok (.if_icmp .gt 28, 3) := dk_163 0 28 (dk_at dksX3_halve_0 7 rfl rfl)
theorem dX3_halve_10 : decode cX3_halve 10 = .ok (.aload_n 0, 1) := dk_42 (dk_at dksX3_halve_0 10 rfl rfl)
theorem dX3_halve_11 : decode cX3_halve 11 = .ok (.getfield 15, 3) := dk_180 0 15 (dk_at dksX3_halve_0 11 rfl rfl)
theorem dX3_halve_14 : decode cX3_halve 14 = .ok (.iload_n 2, 1) := dk_28 (dk_at dksX3_halve_0 14 rfl rfl)
theorem dX3_halve_15 : decode cX3_halve 15 = .ok (.dup2, 1) := dk_92 (dk_at dksX3_halve_0 15 rfl rfl)
theorem dX3_halve_16 : decode cX3_halve 16 = .ok (.iaload, 1) := dk_46 (dk_at dksX3_halve_0 16 rfl rfl)
theorem dX3_halve_17 : decode cX3_halve 17 = .ok (.iconst 2, 1) := dk_5 (dk_at dksX3_halve_0 17 rfl rfl)
theorem dX3_halve_18 : decode cX3_halve 18 = .ok (.idiv, 1) := dk_108 (dk_at dksX3_halve_0 18 rfl rfl)
theorem dX3_halve_19 : decode cX3_halve 19 = .ok (.iastore, 1) := dk_79 (dk_at dksX3_halve_0 19 rfl rfl)
theorem dX3_halve_20 : decode cX3_halve 20 = .ok (.iload_n 1, 1) := dk_27 (dk_at dksX3_halve_0 20 rfl rfl)
theorem dX3_halve_21 : decode cX3_halve 21 = .ok (.aload_n 0, 1) := dk_42 (dk_at dksX3_halve_0 21 rfl rfl)
theorem dX3_halve_22 : decode cX3_halve 22 = .ok (.getfield 15, 3) := dk_180 0 15 (dk_at dksX3_halve_1 0 rfl rfl)
theorem dX3_halve_25 : decode cX3_halve 25 = .ok (.iload_n 2, 1) := dk_28 (dk_at dksX3_halve_1 3 rfl rfl)
theorem dX3_halve_26 : decode cX3_halve 26 = .ok (.iaload, 1) := dk_46 (dk_at dksX3_halve_1 4 rfl rfl)
theorem dX3_halve_27 : decode cX3_halve 27 = .ok (.iadd, 1) := dk_96 (dk_at dksX3_halve_1 5 rfl rfl)
theorem dX3_halve_28 : decode cX3_halve 28 = .ok (.istore_n 1, 1) := dk_60 (dk_at dksX3_halve_1 6 rfl rfl)
theorem dX3_halve_29 : decode cX3_halve 29 = .ok (.iinc 2 1, 3) := dk_132 2 1 (dk_at dksX3_halve_1 7 rfl rfl)
theorem dX3_halve_32 : decode cX3_halve 32 = .ok (.goto (-28), 3) := dk_167 255 228 (dk_at dksX3_halve_1 10 rfl rfl)
theorem dX3_halve_35 : decode cX3_halve 35 = .ok (.iconst 0, 1) := dk_3 (dk_at dksX3_halve_1 13 rfl rfl)
theorem dX3_halve_36 : decode cX3_halve 36 = .ok (.istore_n 2, 1) := dk_61 (dk_at dksX3_halve_1 14 rfl rfl)
theorem dX3_halve_37 : decode cX3_halve 37 = .ok (.iload_n 2, 1) := dk_28 (dk_at dksX3_halve_1 15 rfl rfl)
theorem dX3_halve_38 : decode cX3_halve 38 = .ok (.aload_n 0, 1) := dk_42 (dk_at dksX3_halve_1 16 rfl rfl)
theorem dX3_halve_39 : decode cX3_halve 39 = .ok (.getfield 24, 3) := dk_180 0 24 (dk_at dksX3_halve_1 17 rfl rfl)
theorem dX3_halve_42 : decode cX3_halve 42 = .ok (.arraylength, 1) := dk_190 (dk_at dksX3_halve_1 20 rfl rfl)
theorem dX3_halve_43 : decode cX3_halve 43 = .ok (.if_icmp .ge 21, 3) := dk_162 0 21 (dk_at dksX3_halve_1 21 rfl rfl)
theorem dX3_halve_46 : decode cX3_halve 46 = .ok (.aload_n 0, 1) := dk_42 (dk_at dksX3_halve_2 0 rfl rfl)
theorem dX3_halve_47 : decode cX3_halve 47 = .ok (.getfield 24, 3) := dk_180 0 24 (dk_at dksX3_halve_2 1 rfl rfl)
theorem dX3_halve_50 : decode cX3_halve 50 = .ok (.iload_n 2, 1) := dk_28 (dk_at dksX3_halve_2 4 rfl rfl)
theorem dX3_halve_51 : decode cX3_halve 51 = .ok (.dup2, 1) := dk_92 (dk_at dksX3_halve_2 5 rfl rfl)
theorem dX3_halve_52 : decode cX3_halve 52 = .ok (.laload, 1) := dk_47 (dk_at dksX3_halve_2 6 rfl rfl)
theorem dX3_halve_53 : decode cX3_halve 53 = .ok (.ldc2_w 86, 3) := dk_20 0 86 (dk_at dksX3_halve_2 7 rfl rfl)
theorem dX3_halve_56 : decode cX3_halve 56 = .ok (.ldiv, 1) := dk_109 (dk_at dksX3_halve_2 10 rfl rfl)
theorem dX3_halve_57 : decode cX3_halve 57 = .ok (.lastore, 1) := dk_80 (dk_at dksX3_halve_2 11 rfl rfl)
theorem dX3_halve_58 : decode cX3_halve 58 = .ok (.iinc 2 1, 3) := dk_132 2 1 (dk_at dksX3_halve_2 12 rfl rfl)
theorem dX3_halve_61 : decode cX3_halve 61 = .ok (.goto (-24), 3) := dk_167 255 232 (dk_at dksX3_halve_2 15 rfl rfl)
theorem dX3_halve_64 : decode cX3_halve 64 = .ok (.iload_n 1, 1) := dk_27 (dk_at dksX3_halve_2 18 rfl rfl)
theorem dX3_halve_65 : decode cX3_halve 65 = .ok (.ireturn, 1) := dk_172 (dk_at dksX3_halve_2 19 rfl rfl)
abbrev cX3_misses : ByteArray := prog_5_method_13_code
def yX3_misses : MethodName := ⟨RX3, "misses", "(I)I"⟩
def dkwX3_misses_1 : List UInt8 := [96, 61, 132, 3, 1, 167, 255, 238, 28, 172]
abbrev dktX3_misses_1 : List UInt8 := dkwX3_misses_1 ++ []
def dkwX3_misses_0 : List UInt8 := [42, 180, 0, 15, 3, 46, 61, 27, 4, 96, 62, 29, 16, 24, 163, 0, 18, 28, 42, 180, 0, 15, 29, 46]
abbrev dktX3_misses_0 : List UInt8 := dkwX3_misses_0 ++ dktX3_misses_1
theorem dksX3_misses_0 : cX3_misses.data.toList.drop 0 = dktX3_misses_0 := by decide +kernel
theorem dksX3_misses_1 : cX3_misses.data.toList.drop 24 = dktX3_misses_1 := dk_seg dksX3_misses_0 24 rfl rfl
theorem dX3_misses_0 : decode cX3_misses 0 = .ok (.aload_n 0, 1) := dk_42 (dk_at dksX3_misses_0 0 rfl rfl)
theorem dX3_misses_1 : decode cX3_misses 1 = .ok (.getfield 15, 3) := dk_180 0 15 (dk_at dksX3_misses_0 1 rfl rfl)
theorem dX3_misses_4 : decode cX3_misses 4 = .ok (.iconst 0, 1) := dk_3 (dk_at dksX3_misses_0 4 rfl rfl)
theorem dX3_misses_5 : decode cX3_misses 5 = .ok (.iaload, 1) := dk_46 (dk_at dksX3_misses_0 5 rfl rfl)
theorem dX3_misses_6 : decode cX3_misses 6 = .ok (.istore_n 2, 1) := dk_61 (dk_at dksX3_misses_0 6 rfl rfl)
theorem dX3_misses_7 : decode cX3_misses 7 = .ok (.iload_n 1, 1) := dk_27 (dk_at dksX3_misses_0 7 rfl rfl)
theorem dX3_misses_8 : decode cX3_misses 8 = .ok (.iconst 1, 1) := dk_4 (dk_at dksX3_misses_0 8 rfl rfl)
theorem dX3_misses_9 : decode cX3_misses 9 = .ok (.iadd, 1) := dk_96 (dk_at dksX3_misses_0 9 rfl rfl)
theorem dX3_misses_10 : decode cX3_misses 10 = .ok (.istore_n 3, 1) := dk_62 (dk_at dksX3_misses_0 10 rfl rfl)
theorem dX3_misses_11 : decode cX3_misses 11 = .ok (.iload_n 3, 1) := dk_29 (dk_at dksX3_misses_0 11 rfl rfl)
theorem dX3_misses_12 : decode cX3_misses 12 = .ok (.bipush 24, 2) := dk_16 24 (dk_at dksX3_misses_0 12 rfl rfl)
theorem dX3_misses_14 : decode cX3_misses 14 = .ok (.if_icmp .gt 18, 3) := dk_163 0 18 (dk_at dksX3_misses_0 14 rfl rfl)
theorem dX3_misses_17 : decode cX3_misses 17 = .ok (.iload_n 2, 1) := dk_28 (dk_at dksX3_misses_0 17 rfl rfl)
theorem dX3_misses_18 : decode cX3_misses 18 = .ok (.aload_n 0, 1) := dk_42 (dk_at dksX3_misses_0 18 rfl rfl)
theorem dX3_misses_19 : decode cX3_misses 19 = .ok (.getfield 15, 3) := dk_180 0 15 (dk_at dksX3_misses_0 19 rfl rfl)
theorem dX3_misses_22 : decode cX3_misses 22 = .ok (.iload_n 3, 1) := dk_29 (dk_at dksX3_misses_0 22 rfl rfl)
theorem dX3_misses_23 : decode cX3_misses 23 = .ok (.iaload, 1) := dk_46 (dk_at dksX3_misses_0 23 rfl rfl)
theorem dX3_misses_24 : decode cX3_misses 24 = .ok (.iadd, 1) := dk_96 (dk_at dksX3_misses_1 0 rfl rfl)
theorem dX3_misses_25 : decode cX3_misses 25 = .ok (.istore_n 2, 1) := dk_61 (dk_at dksX3_misses_1 1 rfl rfl)
theorem dX3_misses_26 : decode cX3_misses 26 = .ok (.iinc 3 1, 3) := dk_132 3 1 (dk_at dksX3_misses_1 2 rfl rfl)
theorem dX3_misses_29 : decode cX3_misses 29 = .ok (.goto (-18), 3) := dk_167 255 238 (dk_at dksX3_misses_1 5 rfl rfl)
theorem dX3_misses_32 : decode cX3_misses 32 = .ok (.iload_n 2, 1) := dk_28 (dk_at dksX3_misses_1 8 rfl rfl)
theorem dX3_misses_33 : decode cX3_misses 33 = .ok (.ireturn, 1) := dk_172 (dk_at dksX3_misses_1 9 rfl rfl)
theorem q134 : (Jvm.Cond.initialized "MissCurves$Book") ∈ lw_all := lw_g (lw_at lw_m1 7 rfl) rfl
theorem q230 : (Jvm.Cond.instantiable "MissCurves$Book" (9 : Nat)) ∈ lw_all := lw_g (lw_at lw_m1 103 rfl) rfl
theorem q232 : (Jvm.Cond.instanceMethod ({ cls := "MissCurves$Book", name := "<init>", desc := "()V" } : Jvm.MethodName)) ∈ lw_all := lw_g (lw_at lw_m1 105 rfl) rfl
theorem q233 : (Jvm.Cond.code ({ cls := "MissCurves$Book", name := "<init>", desc := "()V" } : Jvm.MethodName) prog_5_method_1_code (1 : Nat) (Option.none : Option Jvm.ClassFile.FieldType)) ∈ lw_all := lw_g (lw_at lw_m1 106 rfl) rfl
theorem q234 : (Jvm.Cond.methodLink "MissCurves$Book" (3 : Nat) ({ cls := "java/lang/Object", name := "<init>", desc := "()V" } : Jvm.MethodName)) ∈ lw_all := lw_g (lw_at lw_m1 107 rfl) rfl
theorem q235 : (Jvm.Cond.fieldLink "MissCurves$Book" (9 : Nat) "MissCurves$Book" "stack" "[I") ∈ lw_all := lw_g (lw_at lw_m1 108 rfl) rfl
theorem q237 : (Jvm.Cond.fieldLink "MissCurves$Book" (15 : Nat) "MissCurves$Book" "costs" "[I") ∈ lw_all := lw_g (lw_at lw_m1 110 rfl) rfl
theorem q240 : (Jvm.Cond.fieldLink "MissCurves$Book" (18 : Nat) "MissCurves$Book" "sample" "[I") ∈ lw_all := lw_g (lw_at lw_m1 113 rfl) rfl
theorem q241 : (Jvm.Cond.fieldLink "MissCurves$Book" (21 : Nat) "MissCurves$Book" "record" "[I") ∈ lw_all := lw_g (lw_at lw_m1 114 rfl) rfl
theorem q244 : (Jvm.Cond.fieldLink "MissCurves$Book" (24 : Nat) "MissCurves$Book" "parts" "[J") ∈ lw_all := lw_g (lw_at lw_m1 117 rfl) rfl
theorem q247 : (Jvm.Cond.fieldLink "MissCurves$Book" (38 : Nat) "MissCurves$Book" "n" "I") ∈ lw_all := lw_g (lw_at lw_m1 120 rfl) rfl
theorem q249 : (Jvm.Cond.fieldLink "MissCurves$Book" (41 : Nat) "MissCurves$Book" "nSample" "I") ∈ lw_all := lw_g (lw_at lw_m1 122 rfl) rfl
theorem q251 : (Jvm.Cond.fieldLink "MissCurves$Book" (44 : Nat) "MissCurves$Book" "nRecord" "I") ∈ lw_all := lw_g (lw_at lw_m1 124 rfl) rfl
theorem q254 : (Jvm.Cond.fieldLink "MissCurves$Book" (28 : Nat) "MissCurves$Book" "limit" "I") ∈ lw_all := lw_g (lw_at lw_m1 127 rfl) rfl
theorem q256 : (Jvm.Cond.laysFinal "MissCurves$Book" "MissCurves$Book" "stack" "[I") ∈ lw_all := lw_g (lw_at lw_m1 129 rfl) rfl
theorem q257 : (Jvm.Cond.soleField "MissCurves$Book" "stack") ∈ lw_all := lw_g (lw_at lw_m1 130 rfl) rfl
theorem q258 : (Jvm.Cond.laysFinal "MissCurves$Book" "MissCurves$Book" "costs" "[I") ∈ lw_all := lw_g (lw_at lw_m1 131 rfl) rfl
theorem q259 : (Jvm.Cond.soleField "MissCurves$Book" "costs") ∈ lw_all := lw_g (lw_at lw_m1 132 rfl) rfl
theorem q260 : (Jvm.Cond.laysFinal "MissCurves$Book" "MissCurves$Book" "sample" "[I") ∈ lw_all := lw_g (lw_at lw_m1 133 rfl) rfl
theorem q261 : (Jvm.Cond.soleField "MissCurves$Book" "sample") ∈ lw_all := lw_g (lw_at lw_m1 134 rfl) rfl
theorem q262 : (Jvm.Cond.laysFinal "MissCurves$Book" "MissCurves$Book" "record" "[I") ∈ lw_all := lw_g (lw_at lw_m1 135 rfl) rfl
theorem q263 : (Jvm.Cond.soleField "MissCurves$Book" "record") ∈ lw_all := lw_g (lw_at lw_m1 136 rfl) rfl
theorem q264 : (Jvm.Cond.laysFinal "MissCurves$Book" "MissCurves$Book" "parts" "[J") ∈ lw_all := lw_g (lw_at lw_m1 137 rfl) rfl
theorem q265 : (Jvm.Cond.soleField "MissCurves$Book" "parts") ∈ lw_all := lw_g (lw_at lw_m1 138 rfl) rfl
theorem q266 : (Jvm.Cond.lays "MissCurves$Book" "MissCurves$Book" "n" "I") ∈ lw_all := lw_g (lw_at lw_m1 139 rfl) rfl
theorem q267 : (Jvm.Cond.soleField "MissCurves$Book" "n") ∈ lw_all := lw_g (lw_at lw_m1 140 rfl) rfl
theorem q268 : (Jvm.Cond.lays "MissCurves$Book" "MissCurves$Book" "nSample" "I") ∈ lw_all := lw_g (lw_at lw_m1 141 rfl) rfl
theorem q269 : (Jvm.Cond.soleField "MissCurves$Book" "nSample") ∈ lw_all := lw_g (lw_at lw_m1 142 rfl) rfl
theorem q270 : (Jvm.Cond.lays "MissCurves$Book" "MissCurves$Book" "nRecord" "I") ∈ lw_all := lw_g (lw_at lw_m1 143 rfl) rfl
theorem q271 : (Jvm.Cond.soleField "MissCurves$Book" "nRecord") ∈ lw_all := lw_g (lw_at lw_m1 144 rfl) rfl
theorem q272 : (Jvm.Cond.lays "MissCurves$Book" "MissCurves$Book" "limit" "I") ∈ lw_all := lw_g (lw_at lw_m1 145 rfl) rfl
theorem q273 : (Jvm.Cond.soleField "MissCurves$Book" "limit") ∈ lw_all := lw_g (lw_at lw_m1 146 rfl) rfl
theorem q274 : (Jvm.Cond.superclass "MissCurves$Book" "java/lang/Object") ∈ lw_all := lw_g (lw_at lw_m1 147 rfl) rfl
theorem q518 : (Jvm.Cond.instanceMethod ({ cls := "MissCurves$Book", name := "place", desc := "(I)I" } : Jvm.MethodName)) ∈ lw_all := lw_g (lw_at lw_m2 151 rfl) rfl
theorem q519 : (Jvm.Cond.selects "MissCurves$Book" ({ cls := "MissCurves$Book", name := "place", desc := "(I)I" } : Jvm.MethodName) ({ cls := "MissCurves$Book", name := "place", desc := "(I)I" } : Jvm.MethodName)) ∈ lw_all := lw_g (lw_at lw_m2 152 rfl) rfl
theorem q520 : (Jvm.Cond.code ({ cls := "MissCurves$Book", name := "place", desc := "(I)I" } : Jvm.MethodName) prog_5_method_4_code (2 : Nat) (Option.some Jvm.ClassFile.FieldType.int)) ∈ lw_all := lw_g (lw_at lw_m2 153 rfl) rfl
theorem q521 : (Jvm.Cond.methodLink "MissCurves$Book" (47 : Nat) ({ cls := "MissCurves$Book", name := "placeIn", desc := "([III)I" } : Jvm.MethodName)) ∈ lw_all := lw_g (lw_at lw_m2 154 rfl) rfl
theorem q522 : (Jvm.Cond.static ({ cls := "MissCurves$Book", name := "placeIn", desc := "([III)I" } : Jvm.MethodName)) ∈ lw_all := lw_g (lw_at lw_m2 155 rfl) rfl
theorem q523 : (Jvm.Cond.code ({ cls := "MissCurves$Book", name := "placeIn", desc := "([III)I" } : Jvm.MethodName) prog_5_method_3_code (5 : Nat) (Option.some Jvm.ClassFile.FieldType.int)) ∈ lw_all := lw_g (lw_at lw_m2 156 rfl) rfl
theorem q525 : (Jvm.Cond.instanceMethod ({ cls := "MissCurves$Book", name := "placeSampled", desc := "(I)I" } : Jvm.MethodName)) ∈ lw_all := lw_g (lw_at lw_m2 158 rfl) rfl
theorem q526 : (Jvm.Cond.selects "MissCurves$Book" ({ cls := "MissCurves$Book", name := "placeSampled", desc := "(I)I" } : Jvm.MethodName) ({ cls := "MissCurves$Book", name := "placeSampled", desc := "(I)I" } : Jvm.MethodName)) ∈ lw_all := lw_g (lw_at lw_m2 159 rfl) rfl
theorem q527 : (Jvm.Cond.code ({ cls := "MissCurves$Book", name := "placeSampled", desc := "(I)I" } : Jvm.MethodName) prog_5_method_5_code (2 : Nat) (Option.some Jvm.ClassFile.FieldType.int)) ∈ lw_all := lw_g (lw_at lw_m2 160 rfl) rfl
theorem q540 : (Jvm.Cond.instanceMethod ({ cls := "MissCurves$Book", name := "often", desc := "(I)I" } : Jvm.MethodName)) ∈ lw_all := lw_g (lw_at lw_m2 173 rfl) rfl
theorem q541 : (Jvm.Cond.selects "MissCurves$Book" ({ cls := "MissCurves$Book", name := "often", desc := "(I)I" } : Jvm.MethodName) ({ cls := "MissCurves$Book", name := "often", desc := "(I)I" } : Jvm.MethodName)) ∈ lw_all := lw_g (lw_at lw_m2 174 rfl) rfl
theorem q542 : (Jvm.Cond.code ({ cls := "MissCurves$Book", name := "often", desc := "(I)I" } : Jvm.MethodName) prog_5_method_6_code (4 : Nat) (Option.some Jvm.ClassFile.FieldType.int)) ∈ lw_all := lw_g (lw_at lw_m2 175 rfl) rfl
theorem q642 : (Jvm.Cond.instanceMethod ({ cls := "MissCurves$Book", name := "forgetSample", desc := "()V" } : Jvm.MethodName)) ∈ lw_all := lw_g (lw_at lw_m3 35 rfl) rfl
theorem q643 : (Jvm.Cond.selects "MissCurves$Book" ({ cls := "MissCurves$Book", name := "forgetSample", desc := "()V" } : Jvm.MethodName) ({ cls := "MissCurves$Book", name := "forgetSample", desc := "()V" } : Jvm.MethodName)) ∈ lw_all := lw_g (lw_at lw_m3 36 rfl) rfl
theorem q644 : (Jvm.Cond.code ({ cls := "MissCurves$Book", name := "forgetSample", desc := "()V" } : Jvm.MethodName) prog_5_method_12_code (1 : Nat) (Option.none : Option Jvm.ClassFile.FieldType)) ∈ lw_all := lw_g (lw_at lw_m3 37 rfl) rfl
theorem q645 : (Jvm.Cond.methodLink "MissCurves$Book" (80 : Nat) ({ cls := "java/util/Arrays", name := "fill", desc := "([JJ)V" } : Jvm.MethodName)) ∈ lw_all := lw_g (lw_at lw_m3 38 rfl) rfl
theorem q744 : (Jvm.Cond.instanceMethod ({ cls := "MissCurves$Book", name := "push", desc := "(I)V" } : Jvm.MethodName)) ∈ lw_all := lw_g (lw_at lw_m3 137 rfl) rfl
theorem q745 : (Jvm.Cond.selects "MissCurves$Book" ({ cls := "MissCurves$Book", name := "push", desc := "(I)V" } : Jvm.MethodName) ({ cls := "MissCurves$Book", name := "push", desc := "(I)V" } : Jvm.MethodName)) ∈ lw_all := lw_g (lw_at lw_m3 138 rfl) rfl
theorem q746 : (Jvm.Cond.code ({ cls := "MissCurves$Book", name := "push", desc := "(I)V" } : Jvm.MethodName) prog_5_method_9_code (3 : Nat) (Option.none : Option Jvm.ClassFile.FieldType)) ∈ lw_all := lw_g (lw_at lw_m3 139 rfl) rfl
theorem q747 : (Jvm.Cond.methodLink "MissCurves$Book" (51 : Nat) ({ cls := "MissCurves$Book", name := "place", desc := "(I)I" } : Jvm.MethodName)) ∈ lw_all := lw_g (lw_at lw_m3 140 rfl) rfl
theorem q748 : (Jvm.Cond.methodLink "MissCurves$Book" (55 : Nat) ({ cls := "java/lang/Math", name := "min", desc := "(II)I" } : Jvm.MethodName)) ∈ lw_all := lw_g (lw_at lw_m3 141 rfl) rfl
theorem q749 : (Jvm.Cond.methodLink "MissCurves$Book" (61 : Nat) ({ cls := "MissCurves$Book", name := "first", desc := "([IIII)V" } : Jvm.MethodName)) ∈ lw_all := lw_g (lw_at lw_m3 142 rfl) rfl
theorem q750 : (Jvm.Cond.static ({ cls := "MissCurves$Book", name := "first", desc := "([IIII)V" } : Jvm.MethodName)) ∈ lw_all := lw_g (lw_at lw_m3 143 rfl) rfl
theorem q751 : (Jvm.Cond.code ({ cls := "MissCurves$Book", name := "first", desc := "([IIII)V" } : Jvm.MethodName) prog_5_method_7_code (5 : Nat) (Option.none : Option Jvm.ClassFile.FieldType)) ∈ lw_all := lw_g (lw_at lw_m3 144 rfl) rfl
theorem q752 : (Jvm.Cond.methodLink "MissCurves$Book" (32 : Nat) ({ cls := "java/lang/System", name := "arraycopy", desc := "(Ljava/lang/Object;ILjava/lang/Object;II)V" } : Jvm.MethodName)) ∈ lw_all := lw_g (lw_at lw_m3 145 rfl) rfl
theorem q753 : (Jvm.Cond.methodLink "MissCurves$Book" (65 : Nat) ({ cls := "MissCurves$Book", name := "leave", desc := "([III)V" } : Jvm.MethodName)) ∈ lw_all := lw_g (lw_at lw_m3 146 rfl) rfl
theorem q754 : (Jvm.Cond.static ({ cls := "MissCurves$Book", name := "leave", desc := "([III)V" } : Jvm.MethodName)) ∈ lw_all := lw_g (lw_at lw_m3 147 rfl) rfl
theorem q755 : (Jvm.Cond.code ({ cls := "MissCurves$Book", name := "leave", desc := "([III)V" } : Jvm.MethodName) prog_5_method_8_code (3 : Nat) (Option.none : Option Jvm.ClassFile.FieldType)) ∈ lw_all := lw_g (lw_at lw_m3 148 rfl) rfl
theorem q757 : (Jvm.Cond.instanceMethod ({ cls := "MissCurves$Book", name := "sampleIt", desc := "(IIII)V" } : Jvm.MethodName)) ∈ lw_all := lw_g (lw_at lw_m3 150 rfl) rfl
theorem q758 : (Jvm.Cond.selects "MissCurves$Book" ({ cls := "MissCurves$Book", name := "sampleIt", desc := "(IIII)V" } : Jvm.MethodName) ({ cls := "MissCurves$Book", name := "sampleIt", desc := "(IIII)V" } : Jvm.MethodName)) ∈ lw_all := lw_g (lw_at lw_m3 151 rfl) rfl
theorem q759 : (Jvm.Cond.code ({ cls := "MissCurves$Book", name := "sampleIt", desc := "(IIII)V" } : Jvm.MethodName) prog_5_method_11_code (9 : Nat) (Option.none : Option Jvm.ClassFile.FieldType)) ∈ lw_all := lw_g (lw_at lw_m3 152 rfl) rfl
theorem q760 : (Jvm.Cond.methodLink "MissCurves$Book" (69 : Nat) ({ cls := "MissCurves$Book", name := "placeSampled", desc := "(I)I" } : Jvm.MethodName)) ∈ lw_all := lw_g (lw_at lw_m3 153 rfl) rfl
theorem q761 : (Jvm.Cond.constantLong "MissCurves$Book" (72 : Nat) (1000000 : Int64)) ∈ lw_all := lw_g (lw_at lw_m3 154 rfl) rfl
theorem q762 : (Jvm.Cond.methodLinkNest "MissCurves$Book" (74 : Nat) ({ cls := "MissCurves", name := "hashOf", desc := "(II)I" } : Jvm.MethodName) "MissCurves") ∈ lw_tbl := lw_at lw_m3 155 rfl
theorem q763 : (Jvm.Cond.methodLink "MissCurves$Book" (77 : Nat) ({ cls := "java/lang/Math", name := "max", desc := "(II)I" } : Jvm.MethodName)) ∈ lw_all := lw_g (lw_at lw_m3 156 rfl) rfl
theorem q1523 : (Jvm.Cond.selects "MissCurves$Book" ({ cls := "java/lang/Object", name := "getClass", desc := "()Ljava/lang/Class;" } : Jvm.MethodName) ({ cls := "java/lang/Object", name := "getClass", desc := "()Ljava/lang/Class;" } : Jvm.MethodName)) ∈ lw_all := lw_g (lw_at lw_m6 196 rfl) rfl
theorem q1590 : (Jvm.Cond.instanceMethod ({ cls := "MissCurves$Book", name := "as", desc := "(LMissCurves$Book;)LMissCurves$Book;" } : Jvm.MethodName)) ∈ lw_all := lw_g (lw_at lw_m7 23 rfl) rfl
theorem q1591 : (Jvm.Cond.selects "MissCurves$Book" ({ cls := "MissCurves$Book", name := "as", desc := "(LMissCurves$Book;)LMissCurves$Book;" } : Jvm.MethodName) ({ cls := "MissCurves$Book", name := "as", desc := "(LMissCurves$Book;)LMissCurves$Book;" } : Jvm.MethodName)) ∈ lw_all := lw_g (lw_at lw_m7 24 rfl) rfl
theorem q1592 : (Jvm.Cond.code ({ cls := "MissCurves$Book", name := "as", desc := "(LMissCurves$Book;)LMissCurves$Book;" } : Jvm.MethodName) prog_5_method_2_code (2 : Nat) (Option.some (Jvm.ClassFile.FieldType.object "MissCurves$Book"))) ∈ lw_all := lw_g (lw_at lw_m7 25 rfl) rfl
theorem q1610 : (Jvm.Cond.instanceMethod ({ cls := "MissCurves$Book", name := "drop", desc := "(I)V" } : Jvm.MethodName)) ∈ lw_all := lw_g (lw_at lw_m7 43 rfl) rfl
theorem q1611 : (Jvm.Cond.selects "MissCurves$Book" ({ cls := "MissCurves$Book", name := "drop", desc := "(I)V" } : Jvm.MethodName) ({ cls := "MissCurves$Book", name := "drop", desc := "(I)V" } : Jvm.MethodName)) ∈ lw_all := lw_g (lw_at lw_m7 44 rfl) rfl
theorem q1612 : (Jvm.Cond.code ({ cls := "MissCurves$Book", name := "drop", desc := "(I)V" } : Jvm.MethodName) prog_5_method_10_code (4 : Nat) (Option.none : Option Jvm.ClassFile.FieldType)) ∈ lw_all := lw_g (lw_at lw_m7 45 rfl) rfl
theorem q1626 : (Jvm.Cond.instanceMethod ({ cls := "MissCurves$Book", name := "halve", desc := "()I" } : Jvm.MethodName)) ∈ lw_all := lw_g (lw_at lw_m7 59 rfl) rfl
theorem q1627 : (Jvm.Cond.selects "MissCurves$Book" ({ cls := "MissCurves$Book", name := "halve", desc := "()I" } : Jvm.MethodName) ({ cls := "MissCurves$Book", name := "halve", desc := "()I" } : Jvm.MethodName)) ∈ lw_all := lw_g (lw_at lw_m7 60 rfl) rfl
theorem q1628 : (Jvm.Cond.code ({ cls := "MissCurves$Book", name := "halve", desc := "()I" } : Jvm.MethodName) prog_5_method_14_code (3 : Nat) (Option.some Jvm.ClassFile.FieldType.int)) ∈ lw_all := lw_g (lw_at lw_m7 61 rfl) rfl
theorem q1629 : (Jvm.Cond.constantLong "MissCurves$Book" (86 : Nat) (2 : Int64)) ∈ lw_all := lw_g (lw_at lw_m7 62 rfl) rfl
theorem q1644 : (Jvm.Cond.instanceMethod ({ cls := "MissCurves$Book", name := "misses", desc := "(I)I" } : Jvm.MethodName)) ∈ lw_all := lw_g (lw_at lw_m7 77 rfl) rfl
theorem q1645 : (Jvm.Cond.selects "MissCurves$Book" ({ cls := "MissCurves$Book", name := "misses", desc := "(I)I" } : Jvm.MethodName) ({ cls := "MissCurves$Book", name := "misses", desc := "(I)I" } : Jvm.MethodName)) ∈ lw_all := lw_g (lw_at lw_m7 78 rfl) rfl
theorem q1646 : (Jvm.Cond.code ({ cls := "MissCurves$Book", name := "misses", desc := "(I)I" } : Jvm.MethodName) prog_5_method_13_code (4 : Nat) (Option.some Jvm.ClassFile.FieldType.int)) ∈ lw_all := lw_g (lw_at lw_m7 79 rfl) rfl
theorem q1756 : (Jvm.Cond.selects "MissCurves$Book" ({ cls := "java/lang/Object", name := "toString", desc := "()Ljava/lang/String;" } : Jvm.MethodName) ({ cls := "java/lang/Object", name := "toString", desc := "()Ljava/lang/String;" } : Jvm.MethodName)) ∈ lw_all := lw_g (lw_at lw_m7 189 rfl) rfl
theorem q3007 : (Jvm.Cond.castable "MissCurves$Book" "java/lang/Object") ∈ lw_tbl := lw_at lw_m13 0 rfl
theorem in_X3 : ∀ w ∈ wsX30, w ∈ lw_all := lw_in wsX30 [256, 258, 260, 262, 264, 266, 268, 270, 272] (by decide +kernel) (by decide +kernel)

/-! MissCurves$Draws -/
set_option maxRecDepth 100000
def RX30 : String := "MissCurves$Draws"
def TX30 : u_T := fun k => match k with
  | _ => ("MissCurves$Draws", "state", "J", false)
def tyX30 : Nat → FieldType := fun k => match k with
  | _ => .long
abbrev wsX300 : List Cond := u_ws RX30 TX30 1
theorem nmX30 : ∀ a, a < 1 → ∀ b, b < 1 → a ≠ b → (TX30 a).2.1 ≠ (TX30 b).2.1 := by decide +kernel
theorem tyX30_ok : ∀ k, k < 1 → parseFieldDescriptor (TX30 k).2.2.1 = some (tyX30 k) := by decide +kernel
abbrev cX30_init : ByteArray := prog_9_method_1_code
def yX30_init : MethodName := ⟨RX30, "<init>", "(I)V"⟩
def dkwX30_init_0 : List UInt8 := [42, 183, 0, 1, 42, 27, 133, 181, 0, 7, 177]
abbrev dktX30_init_0 : List UInt8 := dkwX30_init_0 ++ []
theorem dksX30_init_0 : cX30_init.data.toList.drop 0 = dktX30_init_0 := by decide +kernel
theorem dX30_init_0 : decode cX30_init 0 = .ok (.aload_n 0, 1) := dk_42 (dk_at dksX30_init_0 0 rfl rfl)
theorem dX30_init_1 : decode cX30_init 1 = .ok (.invokespecial 1, 3) := dk_183 0 1 (dk_at dksX30_init_0 1 rfl rfl)
theorem dX30_init_4 : decode cX30_init 4 = .ok (.aload_n 0, 1) := dk_42 (dk_at dksX30_init_0 4 rfl rfl)
theorem dX30_init_5 : decode cX30_init 5 = .ok (.iload_n 1, 1) := dk_27 (dk_at dksX30_init_0 5 rfl rfl)
theorem dX30_init_6 : decode cX30_init 6 = .ok (.i2l, 1) := dk_133 (dk_at dksX30_init_0 6 rfl rfl)
theorem dX30_init_7 : decode cX30_init 7 = .ok (.putfield 7, 3) := dk_181 0 7 (dk_at dksX30_init_0 7 rfl rfl)
theorem dX30_init_10 : decode cX30_init 10 = .ok (.return_, 1) := dk_177 (dk_at dksX30_init_0 10 rfl rfl)
abbrev cX30_next : ByteArray := prog_9_method_2_code
def yX30_next : MethodName := ⟨RX30, "next", "(I)I"⟩
def dkwX30_next_1 : List UInt8 := [27, 133, 113, 136, 172]
abbrev dktX30_next_1 : List UInt8 := dkwX30_next_1 ++ []
def dkwX30_next_0 : List UInt8 := [42, 42, 180, 0, 7, 20, 0, 13, 105, 20, 0, 15, 97, 20, 0, 17, 113, 181, 0, 7, 42, 180, 0, 7]
abbrev dktX30_next_0 : List UInt8 := dkwX30_next_0 ++ dktX30_next_1
theorem dksX30_next_0 : cX30_next.data.toList.drop 0 = dktX30_next_0 := by decide +kernel
theorem dksX30_next_1 : cX30_next.data.toList.drop 24 = dktX30_next_1 := dk_seg dksX30_next_0 24 rfl rfl
theorem dX30_next_0 : decode cX30_next 0 = .ok (.aload_n 0, 1) := dk_42 (dk_at dksX30_next_0 0 rfl rfl)
theorem dX30_next_1 : decode cX30_next 1 = .ok (.aload_n 0, 1) := dk_42 (dk_at dksX30_next_0 1 rfl rfl)
theorem dX30_next_2 : decode cX30_next 2 = .ok (.getfield 7, 3) := dk_180 0 7 (dk_at dksX30_next_0 2 rfl rfl)
theorem dX30_next_5 : decode cX30_next 5 = .ok (.ldc2_w 13, 3) := dk_20 0 13 (dk_at dksX30_next_0 5 rfl rfl)
theorem dX30_next_8 : decode cX30_next 8 = .ok (.lmul, 1) := dk_105 (dk_at dksX30_next_0 8 rfl rfl)
theorem dX30_next_9 : decode cX30_next 9 = .ok (.ldc2_w 15, 3) := dk_20 0 15 (dk_at dksX30_next_0 9 rfl rfl)
theorem dX30_next_12 : decode cX30_next 12 = .ok (.ladd, 1) := dk_97 (dk_at dksX30_next_0 12 rfl rfl)
theorem dX30_next_13 : decode cX30_next 13 = .ok (.ldc2_w 17, 3) := dk_20 0 17 (dk_at dksX30_next_0 13 rfl rfl)
theorem dX30_next_16 : decode cX30_next 16 = .ok (.lrem, 1) := dk_113 (dk_at dksX30_next_0 16 rfl rfl)
theorem dX30_next_17 : decode cX30_next 17 = .ok (.putfield 7, 3) := dk_181 0 7 (dk_at dksX30_next_0 17 rfl rfl)
theorem dX30_next_20 : decode cX30_next 20 = .ok (.aload_n 0, 1) := dk_42 (dk_at dksX30_next_0 20 rfl rfl)
theorem dX30_next_21 : decode cX30_next 21 = .ok (.getfield 7, 3) := dk_180 0 7 (dk_at dksX30_next_0 21 rfl rfl)
theorem dX30_next_24 : decode cX30_next 24 = .ok (.iload_n 1, 1) := dk_27 (dk_at dksX30_next_1 0 rfl rfl)
theorem dX30_next_25 : decode cX30_next 25 = .ok (.i2l, 1) := dk_133 (dk_at dksX30_next_1 1 rfl rfl)
theorem dX30_next_26 : decode cX30_next 26 = .ok (.lrem, 1) := dk_113 (dk_at dksX30_next_1 2 rfl rfl)
theorem dX30_next_27 : decode cX30_next 27 = .ok (.l2i, 1) := dk_136 (dk_at dksX30_next_1 3 rfl rfl)
theorem dX30_next_28 : decode cX30_next 28 = .ok (.ireturn, 1) := dk_172 (dk_at dksX30_next_1 4 rfl rfl)
theorem q179 : (Jvm.Cond.initialized "MissCurves$Draws") ∈ lw_all := lw_g (lw_at lw_m1 52 rfl) rfl
theorem q1527 : (Jvm.Cond.selects "MissCurves$Draws" ({ cls := "java/lang/Object", name := "getClass", desc := "()Ljava/lang/Class;" } : Jvm.MethodName) ({ cls := "java/lang/Object", name := "getClass", desc := "()Ljava/lang/Class;" } : Jvm.MethodName)) ∈ lw_all := lw_g (lw_at lw_m6 200 rfl) rfl
theorem q1760 : (Jvm.Cond.selects "MissCurves$Draws" ({ cls := "java/lang/Object", name := "toString", desc := "()Ljava/lang/String;" } : Jvm.MethodName) ({ cls := "java/lang/Object", name := "toString", desc := "()Ljava/lang/String;" } : Jvm.MethodName)) ∈ lw_all := lw_g (lw_at lw_m7 193 rfl) rfl
theorem q2135 : (Jvm.Cond.instantiable "MissCurves$Draws" (1 : Nat)) ∈ lw_all := lw_g (lw_at lw_m9 88 rfl) rfl
theorem q2137 : (Jvm.Cond.instanceMethod ({ cls := "MissCurves$Draws", name := "<init>", desc := "(I)V" } : Jvm.MethodName)) ∈ lw_all := lw_g (lw_at lw_m9 90 rfl) rfl
theorem q2138 : (Jvm.Cond.code ({ cls := "MissCurves$Draws", name := "<init>", desc := "(I)V" } : Jvm.MethodName) prog_9_method_1_code (2 : Nat) (Option.none : Option Jvm.ClassFile.FieldType)) ∈ lw_all := lw_g (lw_at lw_m9 91 rfl) rfl
theorem q2139 : (Jvm.Cond.methodLink "MissCurves$Draws" (1 : Nat) ({ cls := "java/lang/Object", name := "<init>", desc := "()V" } : Jvm.MethodName)) ∈ lw_all := lw_g (lw_at lw_m9 92 rfl) rfl
theorem q2140 : (Jvm.Cond.fieldLink "MissCurves$Draws" (7 : Nat) "MissCurves$Draws" "state" "J") ∈ lw_all := lw_g (lw_at lw_m9 93 rfl) rfl
theorem q2141 : (Jvm.Cond.lays "MissCurves$Draws" "MissCurves$Draws" "state" "J") ∈ lw_all := lw_g (lw_at lw_m9 94 rfl) rfl
theorem q2142 : (Jvm.Cond.soleField "MissCurves$Draws" "state") ∈ lw_all := lw_g (lw_at lw_m9 95 rfl) rfl
theorem q2143 : (Jvm.Cond.superclass "MissCurves$Draws" "java/lang/Object") ∈ lw_all := lw_g (lw_at lw_m9 96 rfl) rfl
theorem q2145 : (Jvm.Cond.instanceMethod ({ cls := "MissCurves$Draws", name := "next", desc := "(I)I" } : Jvm.MethodName)) ∈ lw_all := lw_g (lw_at lw_m9 98 rfl) rfl
theorem q2146 : (Jvm.Cond.selects "MissCurves$Draws" ({ cls := "MissCurves$Draws", name := "next", desc := "(I)I" } : Jvm.MethodName) ({ cls := "MissCurves$Draws", name := "next", desc := "(I)I" } : Jvm.MethodName)) ∈ lw_all := lw_g (lw_at lw_m9 99 rfl) rfl
theorem q2147 : (Jvm.Cond.code ({ cls := "MissCurves$Draws", name := "next", desc := "(I)I" } : Jvm.MethodName) prog_9_method_2_code (2 : Nat) (Option.some Jvm.ClassFile.FieldType.int)) ∈ lw_all := lw_g (lw_at lw_m9 100 rfl) rfl
theorem q2148 : (Jvm.Cond.constantLong "MissCurves$Draws" (13 : Nat) (1103 : Int64)) ∈ lw_all := lw_g (lw_at lw_m9 101 rfl) rfl
theorem q2149 : (Jvm.Cond.constantLong "MissCurves$Draws" (15 : Nat) (12345 : Int64)) ∈ lw_all := lw_g (lw_at lw_m9 102 rfl) rfl
theorem q2150 : (Jvm.Cond.constantLong "MissCurves$Draws" (17 : Nat) (1000003 : Int64)) ∈ lw_all := lw_g (lw_at lw_m9 103 rfl) rfl
theorem q3039 : (Jvm.Cond.castable "MissCurves$Draws" "java/lang/Object") ∈ lw_tbl := lw_at lw_m13 32 rfl
theorem in_X30 : ∀ w ∈ wsX300, w ∈ lw_all := lw_in wsX300 [2141] (by decide +kernel) (by decide +kernel)

/-! MissCurves$Steps -/
set_option maxRecDepth 100000
def RX4 : String := "MissCurves$Steps"
def TX4 : u_T := fun k => match k with
  | 0 => ("MissCurves$Steps", "row", "[LMissCurves$Books;", true)
  | _ => ("MissCurves$Steps", "n", "I", false)
def tyX4 : Nat → FieldType := fun k => match k with
  | 0 => .array (.object "MissCurves$Books")
  | _ => .int
abbrev wsX40 : List Cond := u_ws RX4 TX4 2
theorem nmX4 : ∀ a, a < 2 → ∀ b, b < 2 → a ≠ b → (TX4 a).2.1 ≠ (TX4 b).2.1 := by decide +kernel
theorem tyX4_ok : ∀ k, k < 2 → parseFieldDescriptor (TX4 k).2.2.1 = some (tyX4 k) := by decide +kernel
abbrev cX4_init : ByteArray := prog_26_method_1_code
def yX4_init : MethodName := ⟨RX4, "<init>", "()V"⟩
def dkwX4_init_1 : List UInt8 := [180, 0, 11, 27, 187, 0, 9, 89, 183, 0, 17, 83, 132, 1, 1, 167, 255, 234, 177]
abbrev dktX4_init_1 : List UInt8 := dkwX4_init_1 ++ []
def dkwX4_init_0 : List UInt8 := [42, 183, 0, 3, 42, 16, 16, 189, 0, 9, 181, 0, 11, 3, 60, 27, 16, 16, 162, 0, 22, 42]
abbrev dktX4_init_0 : List UInt8 := dkwX4_init_0 ++ dktX4_init_1
theorem dksX4_init_0 : cX4_init.data.toList.drop 0 = dktX4_init_0 := by decide +kernel
theorem dksX4_init_1 : cX4_init.data.toList.drop 22 = dktX4_init_1 := dk_seg dksX4_init_0 22 rfl rfl
theorem dX4_init_0 : decode cX4_init 0 = .ok (.aload_n 0, 1) := dk_42 (dk_at dksX4_init_0 0 rfl rfl)
theorem dX4_init_1 : decode cX4_init 1 = .ok (.invokespecial 3, 3) := dk_183 0 3 (dk_at dksX4_init_0 1 rfl rfl)
theorem dX4_init_4 : decode cX4_init 4 = .ok (.aload_n 0, 1) := dk_42 (dk_at dksX4_init_0 4 rfl rfl)
theorem dX4_init_5 : decode cX4_init 5 = .ok (.bipush 16, 2) := dk_16 16 (dk_at dksX4_init_0 5 rfl rfl)
theorem dX4_init_7 : decode cX4_init 7 = .ok (.anewarray 9, 3) := dk_189 0 9 (dk_at dksX4_init_0 7 rfl rfl)
theorem dX4_init_10 : decode cX4_init 10 = .ok (.putfield 11, 3) := dk_181 0 11 (dk_at dksX4_init_0 10 rfl rfl)
theorem dX4_init_13 : decode cX4_init 13 = .ok (.iconst 0, 1) := dk_3 (dk_at dksX4_init_0 13 rfl rfl)
theorem dX4_init_14 : decode cX4_init 14 = .ok (.istore_n 1, 1) := dk_60 (dk_at dksX4_init_0 14 rfl rfl)
theorem dX4_init_15 : decode cX4_init 15 = .ok (.iload_n 1, 1) := dk_27 (dk_at dksX4_init_0 15 rfl rfl)
theorem dX4_init_16 : decode cX4_init 16 = .ok (.bipush 16, 2) := dk_16 16 (dk_at dksX4_init_0 16 rfl rfl)
theorem dX4_init_18 : decode cX4_init 18 = .ok (.if_icmp .ge 22, 3) := dk_162 0 22 (dk_at dksX4_init_0 18 rfl rfl)
theorem dX4_init_21 : decode cX4_init 21 = .ok (.aload_n 0, 1) := dk_42 (dk_at dksX4_init_0 21 rfl rfl)
theorem dX4_init_22 : decode cX4_init 22 = .ok (.getfield 11, 3) := dk_180 0 11 (dk_at dksX4_init_1 0 rfl rfl)
theorem dX4_init_25 : decode cX4_init 25 = .ok (.iload_n 1, 1) := dk_27 (dk_at dksX4_init_1 3 rfl rfl)
theorem dX4_init_26 : decode cX4_init 26 = .ok (.new 9, 3) := dk_187 0 9 (dk_at dksX4_init_1 4 rfl rfl)
theorem dX4_init_29 : decode cX4_init 29 = .ok (.dup, 1) := dk_89 (dk_at dksX4_init_1 7 rfl rfl)
theorem dX4_init_30 : decode cX4_init 30 = .ok (.invokespecial 17, 3) := dk_183 0 17 (dk_at dksX4_init_1 8 rfl rfl)
theorem dX4_init_33 : decode cX4_init 33 = .ok (.aastore, 1) := dk_83 (dk_at dksX4_init_1 11 rfl rfl)
theorem dX4_init_34 : decode cX4_init 34 = .ok (.iinc 1 1, 3) := dk_132 1 1 (dk_at dksX4_init_1 12 rfl rfl)
theorem dX4_init_37 : decode cX4_init 37 = .ok (.goto (-22), 3) := dk_167 255 234 (dk_at dksX4_init_1 15 rfl rfl)
theorem dX4_init_40 : decode cX4_init 40 = .ok (.return_, 1) := dk_177 (dk_at dksX4_init_1 18 rfl rfl)
abbrev cX4_append : ByteArray := prog_26_method_2_code
def yX4_append : MethodName := ⟨RX4, "append", "(LMissCurves$Books;I)V"⟩
def dkwX4_append_3 : List UInt8 := [180, 0, 18, 4, 96, 181, 0, 18, 177]
abbrev dktX4_append_3 : List UInt8 := dkwX4_append_3 ++ []
def dkwX4_append_2 : List UInt8 := [181, 0, 18, 42, 180, 0, 11, 42, 180, 0, 18, 50, 43, 182, 0, 28, 28, 181, 0, 32, 42, 89]
abbrev dktX4_append_2 : List UInt8 := dkwX4_append_2 ++ dktX4_append_3
def dkwX4_append_1 : List UInt8 := [180, 0, 11, 3, 16, 15, 184, 0, 22, 42, 180, 0, 11, 16, 15, 45, 83, 42, 89, 180, 0, 18, 4, 100]
abbrev dktX4_append_1 : List UInt8 := dkwX4_append_1 ++ dktX4_append_2
def dkwX4_append_0 : List UInt8 := [42, 180, 0, 18, 16, 16, 160, 0, 43, 42, 180, 0, 11, 3, 50, 78, 42, 180, 0, 11, 4, 42]
abbrev dktX4_append_0 : List UInt8 := dkwX4_append_0 ++ dktX4_append_1
theorem dksX4_append_0 : cX4_append.data.toList.drop 0 = dktX4_append_0 := by decide +kernel
theorem dksX4_append_1 : cX4_append.data.toList.drop 22 = dktX4_append_1 := dk_seg dksX4_append_0 22 rfl rfl
theorem dksX4_append_2 : cX4_append.data.toList.drop 46 = dktX4_append_2 := dk_seg dksX4_append_1 24 rfl rfl
theorem dksX4_append_3 : cX4_append.data.toList.drop 68 = dktX4_append_3 := dk_seg dksX4_append_2 22 rfl rfl
theorem dX4_append_0 : decode cX4_append 0 = .ok (.aload_n 0, 1) := dk_42 (dk_at dksX4_append_0 0 rfl rfl)
theorem dX4_append_1 : decode cX4_append 1 = .ok (.getfield 18, 3) := dk_180 0 18 (dk_at dksX4_append_0 1 rfl rfl)
theorem dX4_append_4 : decode cX4_append 4 = .ok (.bipush 16, 2) := dk_16 16 (dk_at dksX4_append_0 4 rfl rfl)
theorem dX4_append_6 : decode cX4_append 6 = .ok (.if_icmp .ne 43, 3) := dk_160 0 43 (dk_at dksX4_append_0 6 rfl rfl)
theorem dX4_append_9 : decode cX4_append 9 = .ok (.aload_n 0, 1) := dk_42 (dk_at dksX4_append_0 9 rfl rfl)
theorem dX4_append_10 : decode cX4_append 10 = .ok (.getfield 11, 3) := dk_180 0 11 (dk_at dksX4_append_0 10 rfl rfl)
theorem dX4_append_13 : decode cX4_append 13 = .ok (.iconst 0, 1) := dk_3 (dk_at dksX4_append_0 13 rfl rfl)
theorem dX4_append_14 : decode cX4_append 14 = .ok (.aaload, 1) := dk_50 (dk_at dksX4_append_0 14 rfl rfl)
theorem dX4_append_15 : decode cX4_append 15 = .ok (.astore_n 3, 1) := dk_78 (dk_at dksX4_append_0 15 rfl rfl)
theorem dX4_append_16 : decode cX4_append 16 = .ok (.aload_n 0, 1) := dk_42 (dk_at dksX4_append_0 16 rfl rfl)
theorem dX4_append_17 : decode cX4_append 17 = .ok (.getfield 11, 3) := dk_180 0 11 (dk_at dksX4_append_0 17 rfl rfl)
theorem dX4_append_20 : decode cX4_append 20 = .ok (.iconst 1, 1) := dk_4 (dk_at dksX4_append_0 20 rfl rfl)
theorem dX4_append_21 : decode cX4_append 21 = .ok (.aload_n 0, 1) := dk_42 (dk_at dksX4_append_0 21 rfl rfl)
theorem dX4_append_22 : decode cX4_append 22 = .ok (.getfield 11, 3) := dk_180 0 11 (dk_at dksX4_append_1 0 rfl rfl)
theorem dX4_append_25 : decode cX4_append 25 = .ok (.iconst 0, 1) := dk_3 (dk_at dksX4_append_1 3 rfl rfl)
theorem dX4_append_26 : decode cX4_append 26 = .ok (.bipush 15, 2) := dk_16 15 (dk_at dksX4_append_1 4 rfl rfl)
theorem dX4_append_28 : decode cX4_append 28 = .ok (.invokestatic 22, 3) := dk_184 0 22 (dk_at dksX4_append_1 6 rfl rfl)
theorem dX4_append_31 : decode cX4_append 31 = .ok (.aload_n 0, 1) := dk_42 (dk_at dksX4_append_1 9 rfl rfl)
theorem dX4_append_32 : decode cX4_append 32 = .ok (.getfield 11, 3) := dk_180 0 11 (dk_at dksX4_append_1 10 rfl rfl)
theorem dX4_append_35 : decode cX4_append 35 = .ok (.bipush 15, 2) := dk_16 15 (dk_at dksX4_append_1 13 rfl rfl)
theorem dX4_append_37 : decode cX4_append 37 = .ok (.aload_n 3, 1) := dk_45 (dk_at dksX4_append_1 15 rfl rfl)
theorem dX4_append_38 : decode cX4_append 38 = .ok (.aastore, 1) := dk_83 (dk_at dksX4_append_1 16 rfl rfl)
theorem dX4_append_39 : decode cX4_append 39 = .ok (.aload_n 0, 1) := dk_42 (dk_at dksX4_append_1 17 rfl rfl)
theorem dX4_append_40 : decode cX4_append 40 = .ok (.dup, 1) := dk_89 (dk_at dksX4_append_1 18 rfl rfl)
theorem dX4_append_41 : decode cX4_append 41 = .ok (.getfield 18, 3) := dk_180 0 18 (dk_at dksX4_append_1 19 rfl rfl)
theorem dX4_append_44 : decode cX4_append 44 = .ok (.iconst 1, 1) := dk_4 (dk_at dksX4_append_1 22 rfl rfl)
theorem dX4_append_45 : decode cX4_append 45 = .ok (.isub, 1) := dk_100 (dk_at dksX4_append_1 23 rfl rfl)
theorem dX4_append_46 : decode cX4_append 46 = .ok (.putfield 18, 3) := dk_181 0 18 (dk_at dksX4_append_2 0 rfl rfl)
theorem dX4_append_49 : decode cX4_append 49 = .ok (.aload_n 0, 1) := dk_42 (dk_at dksX4_append_2 3 rfl rfl)
theorem dX4_append_50 : decode cX4_append 50 = .ok (.getfield 11, 3) := dk_180 0 11 (dk_at dksX4_append_2 4 rfl rfl)
theorem dX4_append_53 : decode cX4_append 53 = .ok (.aload_n 0, 1) := dk_42 (dk_at dksX4_append_2 7 rfl rfl)
theorem dX4_append_54 : decode cX4_append 54 = .ok (.getfield 18, 3) := dk_180 0 18 (dk_at dksX4_append_2 8 rfl rfl)
theorem dX4_append_57 : decode cX4_append 57 = .ok (.aaload, 1) := dk_50 (dk_at dksX4_append_2 11 rfl rfl)
theorem dX4_append_58 : decode cX4_append 58 = .ok (.aload_n 1, 1) := dk_43 (dk_at dksX4_append_2 12 rfl rfl)
theorem dX4_append_59 : decode cX4_append 59 = .ok (.invokevirtual 28, 3) := dk_182 0 28 (dk_at dksX4_append_2 13 rfl rfl)
theorem dX4_append_62 : decode cX4_append 62 = .ok (.iload_n 2, 1) := dk_28 (dk_at dksX4_append_2 16 rfl rfl)
theorem dX4_append_63 : decode cX4_append 63 = .ok (.putfield 32, 3) := dk_181 0 32 (dk_at dksX4_append_2 17 rfl rfl)
theorem dX4_append_66 : decode cX4_append 66 = .ok (.aload_n 0, 1) := dk_42 (dk_at dksX4_append_2 20 rfl rfl)
theorem dX4_append_67 : decode cX4_append 67 = .ok (.dup, 1) := dk_89 (dk_at dksX4_append_2 21 rfl rfl)
theorem dX4_append_68 : decode cX4_append 68 = .ok (.getfield 18, 3) := dk_180 0 18 (dk_at dksX4_append_3 0 rfl rfl)
theorem dX4_append_71 : decode cX4_append 71 = .ok (.iconst 1, 1) := dk_4 (dk_at dksX4_append_3 3 rfl rfl)
theorem dX4_append_72 : decode cX4_append 72 = .ok (.iadd, 1) := dk_96 (dk_at dksX4_append_3 4 rfl rfl)
theorem dX4_append_73 : decode cX4_append 73 = .ok (.putfield 18, 3) := dk_181 0 18 (dk_at dksX4_append_3 5 rfl rfl)
theorem dX4_append_76 : decode cX4_append 76 = .ok (.return_, 1) := dk_177 (dk_at dksX4_append_3 8 rfl rfl)
abbrev cX4_as : ByteArray := prog_26_method_3_code
def yX4_as : MethodName := ⟨RX4, "as", "(LMissCurves$Steps;)V"⟩
def dkwX4_as_1 : List UInt8 := [43, 180, 0, 11, 28, 50, 182, 0, 28, 87, 132, 2, 1, 167, 255, 229, 177]
abbrev dktX4_as_1 : List UInt8 := dkwX4_as_1 ++ []
def dkwX4_as_0 : List UInt8 := [42, 43, 180, 0, 18, 181, 0, 18, 3, 61, 28, 42, 180, 0, 18, 162, 0, 25, 42, 180, 0, 11, 28, 50]
abbrev dktX4_as_0 : List UInt8 := dkwX4_as_0 ++ dktX4_as_1
theorem dksX4_as_0 : cX4_as.data.toList.drop 0 = dktX4_as_0 := by decide +kernel
theorem dksX4_as_1 : cX4_as.data.toList.drop 24 = dktX4_as_1 := dk_seg dksX4_as_0 24 rfl rfl
theorem dX4_as_0 : decode cX4_as 0 = .ok (.aload_n 0, 1) := dk_42 (dk_at dksX4_as_0 0 rfl rfl)
theorem dX4_as_1 : decode cX4_as 1 = .ok (.aload_n 1, 1) := dk_43 (dk_at dksX4_as_0 1 rfl rfl)
theorem dX4_as_2 : decode cX4_as 2 = .ok (.getfield 18, 3) := dk_180 0 18 (dk_at dksX4_as_0 2 rfl rfl)
theorem dX4_as_5 : decode cX4_as 5 = .ok (.putfield 18, 3) := dk_181 0 18 (dk_at dksX4_as_0 5 rfl rfl)
theorem dX4_as_8 : decode cX4_as 8 = .ok (.iconst 0, 1) := dk_3 (dk_at dksX4_as_0 8 rfl rfl)
theorem dX4_as_9 : decode cX4_as 9 = .ok (.istore_n 2, 1) := dk_61 (dk_at dksX4_as_0 9 rfl rfl)
theorem dX4_as_10 : decode cX4_as 10 = .ok (.iload_n 2, 1) := dk_28 (dk_at dksX4_as_0 10 rfl rfl)
theorem dX4_as_11 : decode cX4_as 11 = .ok (.aload_n 0, 1) := dk_42 (dk_at dksX4_as_0 11 rfl rfl)
theorem dX4_as_12 : decode cX4_as 12 = .ok (.getfield 18, 3) := dk_180 0 18 (dk_at dksX4_as_0 12 rfl rfl)
theorem dX4_as_15 : decode cX4_as 15 = .ok (.if_icmp .ge 25, 3) := dk_162 0 25 (dk_at dksX4_as_0 15 rfl rfl)
theorem dX4_as_18 : decode cX4_as 18 = .ok (.aload_n 0, 1) := dk_42 (dk_at dksX4_as_0 18 rfl rfl)
theorem dX4_as_19 : decode cX4_as 19 = .ok (.getfield 11, 3) := dk_180 0 11 (dk_at dksX4_as_0 19 rfl rfl)
theorem dX4_as_22 : decode cX4_as 22 = .ok (.iload_n 2, 1) := dk_28 (dk_at dksX4_as_0 22 rfl rfl)
theorem dX4_as_23 : decode cX4_as 23 = .ok (.aaload, 1) := dk_50 (dk_at dksX4_as_0 23 rfl rfl)
theorem dX4_as_24 : decode cX4_as 24 = .ok (.aload_n 1, 1) := dk_43 (dk_at dksX4_as_1 0 rfl rfl)
theorem dX4_as_25 : decode cX4_as 25 = .ok (.getfield 11, 3) := dk_180 0 11 (dk_at dksX4_as_1 1 rfl rfl)
theorem dX4_as_28 : decode cX4_as 28 = .ok (.iload_n 2, 1) := dk_28 (dk_at dksX4_as_1 4 rfl rfl)
theorem dX4_as_29 : decode cX4_as 29 = .ok (.aaload, 1) := dk_50 (dk_at dksX4_as_1 5 rfl rfl)
theorem dX4_as_30 : decode cX4_as 30 = .ok (.invokevirtual 28, 3) := dk_182 0 28 (dk_at dksX4_as_1 6 rfl rfl)
theorem dX4_as_33 : decode cX4_as 33 = .ok (.pop, 1) := dk_87 (dk_at dksX4_as_1 9 rfl rfl)
theorem dX4_as_34 : decode cX4_as 34 = .ok (.iinc 2 1, 3) := dk_132 2 1 (dk_at dksX4_as_1 10 rfl rfl)
theorem dX4_as_37 : decode cX4_as 37 = .ok (.goto (-27), 3) := dk_167 255 229 (dk_at dksX4_as_1 13 rfl rfl)
theorem dX4_as_40 : decode cX4_as 40 = .ok (.return_, 1) := dk_177 (dk_at dksX4_as_1 16 rfl rfl)
theorem q135 : (Jvm.Cond.initialized "MissCurves$Steps") ∈ lw_all := lw_g (lw_at lw_m1 8 rfl) rfl
theorem q283 : (Jvm.Cond.fieldLinkNest "MissCurves$Steps" (32 : Nat) "MissCurves$Books" "sort" "I" "MissCurves") ∈ lw_tbl := lw_at lw_m1 156 rfl
theorem q323 : (Jvm.Cond.instantiable "MissCurves$Steps" (2 : Nat)) ∈ lw_all := lw_g (lw_at lw_m1 196 rfl) rfl
theorem q325 : (Jvm.Cond.instanceMethod ({ cls := "MissCurves$Steps", name := "<init>", desc := "()V" } : Jvm.MethodName)) ∈ lw_all := lw_g (lw_at lw_m1 198 rfl) rfl
theorem q326 : (Jvm.Cond.code ({ cls := "MissCurves$Steps", name := "<init>", desc := "()V" } : Jvm.MethodName) prog_26_method_1_code (2 : Nat) (Option.none : Option Jvm.ClassFile.FieldType)) ∈ lw_all := lw_g (lw_at lw_m1 199 rfl) rfl
theorem q327 : (Jvm.Cond.methodLink "MissCurves$Steps" (3 : Nat) ({ cls := "java/lang/Object", name := "<init>", desc := "()V" } : Jvm.MethodName)) ∈ lw_all := lw_g (lw_at lw_m1 200 rfl) rfl
theorem q328 : (Jvm.Cond.classLink "MissCurves$Steps" (9 : Nat) "MissCurves$Books") ∈ lw_all := lw_g (lw_at lw_m1 201 rfl) rfl
theorem q330 : (Jvm.Cond.methodLink "MissCurves$Steps" (17 : Nat) ({ cls := "MissCurves$Books", name := "<init>", desc := "()V" } : Jvm.MethodName)) ∈ lw_all := lw_g (lw_at lw_m1 203 rfl) rfl
theorem q331 : (Jvm.Cond.fieldLink "MissCurves$Steps" (11 : Nat) "MissCurves$Steps" "row" "[LMissCurves$Books;") ∈ lw_all := lw_g (lw_at lw_m1 204 rfl) rfl
theorem q333 : (Jvm.Cond.fieldLink "MissCurves$Steps" (18 : Nat) "MissCurves$Steps" "n" "I") ∈ lw_all := lw_g (lw_at lw_m1 206 rfl) rfl
theorem q335 : (Jvm.Cond.laysFinal "MissCurves$Steps" "MissCurves$Steps" "row" "[LMissCurves$Books;") ∈ lw_all := lw_g (lw_at lw_m1 208 rfl) rfl
theorem q336 : (Jvm.Cond.soleField "MissCurves$Steps" "row") ∈ lw_all := lw_g (lw_at lw_m1 209 rfl) rfl
theorem q337 : (Jvm.Cond.lays "MissCurves$Steps" "MissCurves$Steps" "n" "I") ∈ lw_all := lw_g (lw_at lw_m1 210 rfl) rfl
theorem q338 : (Jvm.Cond.soleField "MissCurves$Steps" "n") ∈ lw_all := lw_g (lw_at lw_m1 211 rfl) rfl
theorem q339 : (Jvm.Cond.superclass "MissCurves$Steps" "java/lang/Object") ∈ lw_all := lw_g (lw_at lw_m1 212 rfl) rfl
theorem q1542 : (Jvm.Cond.selects "MissCurves$Steps" ({ cls := "java/lang/Object", name := "getClass", desc := "()Ljava/lang/Class;" } : Jvm.MethodName) ({ cls := "java/lang/Object", name := "getClass", desc := "()Ljava/lang/Class;" } : Jvm.MethodName)) ∈ lw_all := lw_g (lw_at lw_m6 215 rfl) rfl
theorem q1581 : (Jvm.Cond.instanceMethod ({ cls := "MissCurves$Steps", name := "append", desc := "(LMissCurves$Books;I)V" } : Jvm.MethodName)) ∈ lw_all := lw_g (lw_at lw_m7 14 rfl) rfl
theorem q1582 : (Jvm.Cond.selects "MissCurves$Steps" ({ cls := "MissCurves$Steps", name := "append", desc := "(LMissCurves$Books;I)V" } : Jvm.MethodName) ({ cls := "MissCurves$Steps", name := "append", desc := "(LMissCurves$Books;I)V" } : Jvm.MethodName)) ∈ lw_all := lw_g (lw_at lw_m7 15 rfl) rfl
theorem q1583 : (Jvm.Cond.code ({ cls := "MissCurves$Steps", name := "append", desc := "(LMissCurves$Books;I)V" } : Jvm.MethodName) prog_26_method_2_code (4 : Nat) (Option.none : Option Jvm.ClassFile.FieldType)) ∈ lw_all := lw_g (lw_at lw_m7 16 rfl) rfl
theorem q1584 : (Jvm.Cond.methodLink "MissCurves$Steps" (22 : Nat) ({ cls := "java/lang/System", name := "arraycopy", desc := "(Ljava/lang/Object;ILjava/lang/Object;II)V" } : Jvm.MethodName)) ∈ lw_all := lw_g (lw_at lw_m7 17 rfl) rfl
theorem q1585 : (Jvm.Cond.methodLink "MissCurves$Steps" (28 : Nat) ({ cls := "MissCurves$Books", name := "as", desc := "(LMissCurves$Books;)LMissCurves$Books;" } : Jvm.MethodName)) ∈ lw_all := lw_g (lw_at lw_m7 18 rfl) rfl
theorem q1775 : (Jvm.Cond.selects "MissCurves$Steps" ({ cls := "java/lang/Object", name := "toString", desc := "()Ljava/lang/String;" } : Jvm.MethodName) ({ cls := "java/lang/Object", name := "toString", desc := "()Ljava/lang/String;" } : Jvm.MethodName)) ∈ lw_all := lw_g (lw_at lw_m7 208 rfl) rfl
theorem q2094 : (Jvm.Cond.instanceMethod ({ cls := "MissCurves$Steps", name := "as", desc := "(LMissCurves$Steps;)V" } : Jvm.MethodName)) ∈ lw_all := lw_g (lw_at lw_m9 47 rfl) rfl
theorem q2095 : (Jvm.Cond.selects "MissCurves$Steps" ({ cls := "MissCurves$Steps", name := "as", desc := "(LMissCurves$Steps;)V" } : Jvm.MethodName) ({ cls := "MissCurves$Steps", name := "as", desc := "(LMissCurves$Steps;)V" } : Jvm.MethodName)) ∈ lw_all := lw_g (lw_at lw_m9 48 rfl) rfl
theorem q2096 : (Jvm.Cond.code ({ cls := "MissCurves$Steps", name := "as", desc := "(LMissCurves$Steps;)V" } : Jvm.MethodName) prog_26_method_3_code (3 : Nat) (Option.none : Option Jvm.ClassFile.FieldType)) ∈ lw_all := lw_g (lw_at lw_m9 49 rfl) rfl
theorem q3017 : (Jvm.Cond.castable "MissCurves$Steps" "java/lang/Object") ∈ lw_tbl := lw_at lw_m13 10 rfl
theorem in_X4 : ∀ w ∈ wsX40, w ∈ lw_all := lw_in wsX40 [335, 337] (by decide +kernel) (by decide +kernel)

/-! MissCurves$Asked -/
set_option maxRecDepth 100000
def RX5 : String := "MissCurves$Asked"
def TX5 : u_T := fun k => match k with
  | 0 => ("MissCurves$Asked", "numbers", "[J", true)
  | _ => ("MissCurves$Asked", "isBroken", "Z", false)
def tyX5 : Nat → FieldType := fun k => match k with
  | 0 => .array .long
  | _ => .boolean
abbrev wsX50 : List Cond := u_ws RX5 TX5 2
theorem nmX5 : ∀ a, a < 2 → ∀ b, b < 2 → a ≠ b → (TX5 a).2.1 ≠ (TX5 b).2.1 := by decide +kernel
theorem tyX5_ok : ∀ k, k < 2 → parseFieldDescriptor (TX5 k).2.2.1 = some (tyX5 k) := by decide +kernel
abbrev cX5_init : ByteArray := prog_4_method_1_code
def yX5_init : MethodName := ⟨RX5, "<init>", "()V"⟩
def dkwX5_init_0 : List UInt8 := [42, 183, 0, 1, 42, 16, 6, 188, 11, 181, 0, 7, 177]
abbrev dktX5_init_0 : List UInt8 := dkwX5_init_0 ++ []
theorem dksX5_init_0 : cX5_init.data.toList.drop 0 = dktX5_init_0 := by decide +kernel
theorem dX5_init_0 : decode cX5_init 0 = .ok (.aload_n 0, 1) := dk_42 (dk_at dksX5_init_0 0 rfl rfl)
theorem dX5_init_1 : decode cX5_init 1 = .ok (.invokespecial 1, 3) := dk_183 0 1 (dk_at dksX5_init_0 1 rfl rfl)
theorem dX5_init_4 : decode cX5_init 4 = .ok (.aload_n 0, 1) := dk_42 (dk_at dksX5_init_0 4 rfl rfl)
theorem dX5_init_5 : decode cX5_init 5 = .ok (.bipush 6, 2) := dk_16 6 (dk_at dksX5_init_0 5 rfl rfl)
theorem dX5_init_7 : decode cX5_init 7 = .ok (.newarray .long, 2) := dk_188_11 (dk_at dksX5_init_0 7 rfl rfl)
theorem dX5_init_9 : decode cX5_init 9 = .ok (.putfield 7, 3) := dk_181 0 7 (dk_at dksX5_init_0 9 rfl rfl)
theorem dX5_init_12 : decode cX5_init 12 = .ok (.return_, 1) := dk_177 (dk_at dksX5_init_0 12 rfl rfl)
abbrev cX5_within : ByteArray := prog_4_method_2_code
def yX5_within : MethodName := ⟨RX5, "within", "(J)J"⟩
def dkwX5_within_1 : List UInt8 := [4, 167, 0, 4, 3, 181, 0, 13, 42, 180, 0, 13, 153, 0, 7, 9, 167, 0, 4, 31, 173]
abbrev dktX5_within_1 : List UInt8 := dkwX5_within_1 ++ []
def dkwX5_within_0 : List UInt8 := [42, 42, 180, 0, 13, 154, 0, 19, 31, 20, 0, 17, 148, 157, 0, 11, 31, 20, 0, 19, 148, 156, 0, 7]
abbrev dktX5_within_0 : List UInt8 := dkwX5_within_0 ++ dktX5_within_1
theorem dksX5_within_0 : cX5_within.data.toList.drop 0 = dktX5_within_0 := by decide +kernel
theorem dksX5_within_1 : cX5_within.data.toList.drop 24 = dktX5_within_1 := dk_seg dksX5_within_0 24 rfl rfl
theorem dX5_within_0 : decode cX5_within 0 = .ok (.aload_n 0, 1) := dk_42 (dk_at dksX5_within_0 0 rfl rfl)
theorem dX5_within_1 : decode cX5_within 1 = .ok (.aload_n 0, 1) := dk_42 (dk_at dksX5_within_0 1 rfl rfl)
theorem dX5_within_2 : decode cX5_within 2 = .ok (.getfield 13, 3) := dk_180 0 13 (dk_at dksX5_within_0 2 rfl rfl)
theorem dX5_within_5 : decode cX5_within 5 = .ok (.ifCond .ne 19, 3) := dk_154 0 19 (dk_at dksX5_within_0 5 rfl rfl)
theorem dX5_within_8 : decode cX5_within 8 = .ok (.lload_n 1, 1) := dk_31 (dk_at dksX5_within_0 8 rfl rfl)
theorem dX5_within_9 : decode cX5_within 9 = .ok (.ldc2_w 17, 3) := dk_20 0 17 (dk_at dksX5_within_0 9 rfl rfl)
theorem dX5_within_12 : decode cX5_within 12 = .ok (.lcmp, 1) := dk_148 (dk_at dksX5_within_0 12 rfl rfl)
theorem dX5_within_13 : decode cX5_within 13 = .ok (.ifCond .gt 11, 3) := dk_157 0 11 (dk_at dksX5_within_0 13 rfl rfl)
theorem dX5_within_16 : decode cX5_within 16 = .ok (.lload_n 1, 1) := dk_31 (dk_at dksX5_within_0 16 rfl rfl)
theorem dX5_within_17 : decode cX5_within 17 = .ok (.ldc2_w 19, 3) := dk_20 0 19 (dk_at dksX5_within_0 17 rfl rfl)
theorem dX5_within_20 : decode cX5_within 20 = .ok (.lcmp, 1) := dk_148 (dk_at dksX5_within_0 20 rfl rfl)
theorem dX5_within_21 : decode cX5_within 21 = .ok (.ifCond .ge 7, 3) := dk_156 0 7 (dk_at dksX5_within_0 21 rfl rfl)
theorem dX5_within_24 : decode cX5_within 24 = .ok (.iconst 1, 1) := dk_4 (dk_at dksX5_within_1 0 rfl rfl)
theorem dX5_within_25 : decode cX5_within 25 = .ok (.goto 4, 3) := dk_167 0 4 (dk_at dksX5_within_1 1 rfl rfl)
theorem dX5_within_28 : decode cX5_within 28 = .ok (.iconst 0, 1) := dk_3 (dk_at dksX5_within_1 4 rfl rfl)
theorem dX5_within_29 : decode cX5_within 29 = .ok (.putfield 13, 3) := dk_181 0 13 (dk_at dksX5_within_1 5 rfl rfl)
theorem dX5_within_32 : decode cX5_within 32 = .ok (.aload_n 0, 1) := dk_42 (dk_at dksX5_within_1 8 rfl rfl)
theorem dX5_within_33 : decode cX5_within 33 = .ok (.getfield 13, 3) := dk_180 0 13 (dk_at dksX5_within_1 9 rfl rfl)
theorem dX5_within_36 : decode cX5_within 36 = .ok (.ifCond .eq 7, 3) := dk_153 0 7 (dk_at dksX5_within_1 12 rfl rfl)
theorem dX5_within_39 : decode cX5_within 39 = .ok (.lconst 0, 1) := dk_9 (dk_at dksX5_within_1 15 rfl rfl)
theorem dX5_within_40 : decode cX5_within 40 = .ok (.goto 4, 3) := dk_167 0 4 (dk_at dksX5_within_1 16 rfl rfl)
theorem dX5_within_43 : decode cX5_within 43 = .ok (.lload_n 1, 1) := dk_31 (dk_at dksX5_within_1 19 rfl rfl)
theorem dX5_within_44 : decode cX5_within 44 = .ok (.lreturn, 1) := dk_173 (dk_at dksX5_within_1 20 rfl rfl)
theorem q136 : (Jvm.Cond.initialized "MissCurves$Asked") ∈ lw_all := lw_g (lw_at lw_m1 9 rfl) rfl
theorem q343 : (Jvm.Cond.instantiable "MissCurves$Asked" (2 : Nat)) ∈ lw_all := lw_g (lw_at lw_m1 216 rfl) rfl
theorem q345 : (Jvm.Cond.instanceMethod ({ cls := "MissCurves$Asked", name := "<init>", desc := "()V" } : Jvm.MethodName)) ∈ lw_all := lw_g (lw_at lw_m1 218 rfl) rfl
theorem q346 : (Jvm.Cond.code ({ cls := "MissCurves$Asked", name := "<init>", desc := "()V" } : Jvm.MethodName) prog_4_method_1_code (1 : Nat) (Option.none : Option Jvm.ClassFile.FieldType)) ∈ lw_all := lw_g (lw_at lw_m1 219 rfl) rfl
theorem q347 : (Jvm.Cond.methodLink "MissCurves$Asked" (1 : Nat) ({ cls := "java/lang/Object", name := "<init>", desc := "()V" } : Jvm.MethodName)) ∈ lw_all := lw_g (lw_at lw_m1 220 rfl) rfl
theorem q348 : (Jvm.Cond.fieldLink "MissCurves$Asked" (7 : Nat) "MissCurves$Asked" "numbers" "[J") ∈ lw_all := lw_g (lw_at lw_m1 221 rfl) rfl
theorem q353 : (Jvm.Cond.fieldLink "MissCurves$Asked" (13 : Nat) "MissCurves$Asked" "isBroken" "Z") ∈ lw_all := lw_g (lw_at lw_m1 226 rfl) rfl
theorem q359 : (Jvm.Cond.laysFinal "MissCurves$Asked" "MissCurves$Asked" "numbers" "[J") ∈ lw_all := lw_g (lw_at lw_m1 232 rfl) rfl
theorem q360 : (Jvm.Cond.soleField "MissCurves$Asked" "numbers") ∈ lw_all := lw_g (lw_at lw_m1 233 rfl) rfl
theorem q361 : (Jvm.Cond.lays "MissCurves$Asked" "MissCurves$Asked" "isBroken" "Z") ∈ lw_all := lw_g (lw_at lw_m1 234 rfl) rfl
theorem q362 : (Jvm.Cond.soleField "MissCurves$Asked" "isBroken") ∈ lw_all := lw_g (lw_at lw_m1 235 rfl) rfl
theorem q363 : (Jvm.Cond.superclass "MissCurves$Asked" "java/lang/Object") ∈ lw_all := lw_g (lw_at lw_m1 236 rfl) rfl
theorem q591 : (Jvm.Cond.instanceMethod ({ cls := "MissCurves$Asked", name := "within", desc := "(J)J" } : Jvm.MethodName)) ∈ lw_all := lw_g (lw_at lw_m2 224 rfl) rfl
theorem q592 : (Jvm.Cond.selects "MissCurves$Asked" ({ cls := "MissCurves$Asked", name := "within", desc := "(J)J" } : Jvm.MethodName) ({ cls := "MissCurves$Asked", name := "within", desc := "(J)J" } : Jvm.MethodName)) ∈ lw_all := lw_g (lw_at lw_m2 225 rfl) rfl
theorem q593 : (Jvm.Cond.code ({ cls := "MissCurves$Asked", name := "within", desc := "(J)J" } : Jvm.MethodName) prog_4_method_2_code (3 : Nat) (Option.some Jvm.ClassFile.FieldType.long)) ∈ lw_all := lw_g (lw_at lw_m2 226 rfl) rfl
theorem q594 : (Jvm.Cond.constantLong "MissCurves$Asked" (17 : Nat) (1000000000 : Int64)) ∈ lw_all := lw_g (lw_at lw_m2 227 rfl) rfl
theorem q595 : (Jvm.Cond.constantLong "MissCurves$Asked" (19 : Nat) (-1000000000 : Int64)) ∈ lw_all := lw_g (lw_at lw_m2 228 rfl) rfl
theorem q1522 : (Jvm.Cond.selects "MissCurves$Asked" ({ cls := "java/lang/Object", name := "getClass", desc := "()Ljava/lang/Class;" } : Jvm.MethodName) ({ cls := "java/lang/Object", name := "getClass", desc := "()Ljava/lang/Class;" } : Jvm.MethodName)) ∈ lw_all := lw_g (lw_at lw_m6 195 rfl) rfl
theorem q1755 : (Jvm.Cond.selects "MissCurves$Asked" ({ cls := "java/lang/Object", name := "toString", desc := "()Ljava/lang/String;" } : Jvm.MethodName) ({ cls := "java/lang/Object", name := "toString", desc := "()Ljava/lang/String;" } : Jvm.MethodName)) ∈ lw_all := lw_g (lw_at lw_m7 188 rfl) rfl
theorem q3018 : (Jvm.Cond.castable "MissCurves$Asked" "java/lang/Object") ∈ lw_tbl := lw_at lw_m13 11 rfl
theorem in_X5 : ∀ w ∈ wsX50, w ∈ lw_all := lw_in wsX50 [359, 361] (by decide +kernel) (by decide +kernel)

/-! MissCurves$Text -/
set_option maxRecDepth 100000
def RX6 : String := "MissCurves$Text"
def TX6 : u_T := fun k => match k with
  | _ => ("MissCurves$Text", "clauses", "[LMissCurves$Clause;", true)
def tyX6 : Nat → FieldType := fun k => match k with
  | _ => .array (.object "MissCurves$Clause")
abbrev wsX60 : List Cond := u_ws RX6 TX6 1
theorem nmX6 : ∀ a, a < 1 → ∀ b, b < 1 → a ≠ b → (TX6 a).2.1 ≠ (TX6 b).2.1 := by decide +kernel
theorem tyX6_ok : ∀ k, k < 1 → parseFieldDescriptor (TX6 k).2.2.1 = some (tyX6 k) := by decide +kernel
abbrev cX6_init : ByteArray := prog_29_method_1_code
def yX6_init : MethodName := ⟨RX6, "<init>", "([LMissCurves$Clause;)V"⟩
def dkwX6_init_0 : List UInt8 := [42, 183, 0, 1, 42, 43, 181, 0, 7, 177]
abbrev dktX6_init_0 : List UInt8 := dkwX6_init_0 ++ []
theorem dksX6_init_0 : cX6_init.data.toList.drop 0 = dktX6_init_0 := by decide +kernel
theorem dX6_init_0 : decode cX6_init 0 = .ok (.aload_n 0, 1) := dk_42 (dk_at dksX6_init_0 0 rfl rfl)
theorem dX6_init_1 : decode cX6_init 1 = .ok (.invokespecial 1, 3) := dk_183 0 1 (dk_at dksX6_init_0 1 rfl rfl)
theorem dX6_init_4 : decode cX6_init 4 = .ok (.aload_n 0, 1) := dk_42 (dk_at dksX6_init_0 4 rfl rfl)
theorem dX6_init_5 : decode cX6_init 5 = .ok (.aload_n 1, 1) := dk_43 (dk_at dksX6_init_0 5 rfl rfl)
theorem dX6_init_6 : decode cX6_init 6 = .ok (.putfield 7, 3) := dk_181 0 7 (dk_at dksX6_init_0 6 rfl rfl)
theorem dX6_init_9 : decode cX6_init 9 = .ok (.return_, 1) := dk_177 (dk_at dksX6_init_0 9 rfl rfl)
abbrev cX6_tells : ByteArray := prog_29_method_3_code
def yX6_tells : MethodName := ⟨RX6, "tells", "(ILMissCurves$Asked;II)I"⟩
def dkwX6_tells_3 : List UInt8 := [167, 255, 193, 22, 5, 136, 172]
abbrev dktX6_tells_3 : List UInt8 := dkwX6_tells_3 ++ []
def dkwX6_tells_2 : List UInt8 := [133, 42, 180, 0, 7, 21, 7, 50, 180, 0, 23, 184, 0, 27, 184, 0, 33, 55, 5, 132, 7, 1]
abbrev dktX6_tells_2 : List UInt8 := dkwX6_tells_2 ++ dktX6_tells_3
def dkwX6_tells_1 : List UInt8 := [180, 0, 13, 27, 160, 0, 39, 42, 180, 0, 7, 21, 7, 50, 44, 182, 0, 19, 153, 0, 25, 9, 21, 4]
abbrev dktX6_tells_1 : List UInt8 := dkwX6_tells_1 ++ dktX6_tells_2
def dkwX6_tells_0 : List UInt8 := [29, 133, 55, 5, 3, 54, 7, 21, 7, 42, 180, 0, 7, 190, 162, 0, 59, 42, 180, 0, 7, 21, 7, 50]
abbrev dktX6_tells_0 : List UInt8 := dkwX6_tells_0 ++ dktX6_tells_1
theorem dksX6_tells_0 : cX6_tells.data.toList.drop 0 = dktX6_tells_0 := by decide +kernel
theorem dksX6_tells_1 : cX6_tells.data.toList.drop 24 = dktX6_tells_1 := dk_seg dksX6_tells_0 24 rfl rfl
theorem dksX6_tells_2 : cX6_tells.data.toList.drop 48 = dktX6_tells_2 := dk_seg dksX6_tells_1 24 rfl rfl
theorem dksX6_tells_3 : cX6_tells.data.toList.drop 70 = dktX6_tells_3 := dk_seg dksX6_tells_2 22 rfl rfl
theorem dX6_tells_0 : decode cX6_tells 0 = .ok (.iload_n 3, 1) := dk_29 (dk_at dksX6_tells_0 0 rfl rfl)
theorem dX6_tells_1 : decode cX6_tells 1 = .ok (.i2l, 1) := dk_133 (dk_at dksX6_tells_0 1 rfl rfl)
theorem dX6_tells_2 : decode cX6_tells 2 = .ok (.lstore 5, 2) := dk_55 5 (dk_at dksX6_tells_0 2 rfl rfl)
theorem dX6_tells_4 : decode cX6_tells 4 = .ok (.iconst 0, 1) := dk_3 (dk_at dksX6_tells_0 4 rfl rfl)
theorem dX6_tells_5 : decode cX6_tells 5 = .ok (.istore 7, 2) := dk_54 7 (dk_at dksX6_tells_0 5 rfl rfl)
theorem dX6_tells_7 : decode cX6_tells 7 = .ok (.iload 7, 2) := dk_21 7 (dk_at dksX6_tells_0 7 rfl rfl)
theorem dX6_tells_9 : decode cX6_tells 9 = .ok (.aload_n 0, 1) := dk_42 (dk_at dksX6_tells_0 9 rfl rfl)
theorem dX6_tells_10 : decode cX6_tells 10 = .ok (.getfield 7, 3) := dk_180 0 7 (dk_at dksX6_tells_0 10 rfl rfl)
theorem dX6_tells_13 : decode cX6_tells 13 = .ok (.arraylength, 1) := dk_190 (dk_at dksX6_tells_0 13 rfl rfl)
theorem dX6_tells_14 : decode cX6_tells 14 = .ok (.if_icmp .ge 59, 3) := dk_162 0 59 (dk_at dksX6_tells_0 14 rfl rfl)
theorem dX6_tells_17 : decode cX6_tells 17 = .ok (.aload_n 0, 1) := dk_42 (dk_at dksX6_tells_0 17 rfl rfl)
theorem dX6_tells_18 : decode cX6_tells 18 = .ok (.getfield 7, 3) := dk_180 0 7 (dk_at dksX6_tells_0 18 rfl rfl)
theorem dX6_tells_21 : decode cX6_tells 21 = .ok (.iload 7, 2) := dk_21 7 (dk_at dksX6_tells_0 21 rfl rfl)
theorem dX6_tells_23 : decode cX6_tells 23 = .ok (.aaload, 1) := dk_50 (dk_at dksX6_tells_0 23 rfl rfl)
theorem dX6_tells_24 : decode cX6_tells 24 = .ok (.getfield 13, 3) := dk_180 0 13 (dk_at dksX6_tells_1 0 rfl rfl)
theorem dX6_tells_27 : decode cX6_tells 27 = .ok (.iload_n 1, 1) := dk_27 (dk_at dksX6_tells_1 3 rfl rfl)
theorem dX6_tells_28 : decode cX6_tells 28 = .ok (.if_icmp .ne 39, 3) := dk_160 0 39 (dk_at dksX6_tells_1 4 rfl rfl)
theorem dX6_tells_31 : decode cX6_tells 31 = .ok (.aload_n 0, 1) := dk_42 (dk_at dksX6_tells_1 7 rfl rfl)
theorem dX6_tells_32 : decode cX6_tells 32 = .ok (.getfield 7, 3) := dk_180 0 7 (dk_at dksX6_tells_1 8 rfl rfl)
theorem dX6_tells_35 : decode cX6_tells 35 = .ok (.iload 7, 2) := dk_21 7 (dk_at dksX6_tells_1 11 rfl rfl)
theorem dX6_tells_37 : decode cX6_tells 37 = .ok (.aaload, 1) := dk_50 (dk_at dksX6_tells_1 13 rfl rfl)
theorem dX6_tells_38 : decode cX6_tells 38 = .ok (.aload_n 2, 1) := dk_44 (dk_at dksX6_tells_1 14 rfl rfl)
theorem dX6_tells_39 : decode cX6_tells 39 = .ok (.invokevirtual 19, 3) := dk_182 0 19 (dk_at dksX6_tells_1 15 rfl rfl)
theorem dX6_tells_42 : decode cX6_tells 42 = .ok (.ifCond .eq 25, 3) := dk_153 0 25 (dk_at dksX6_tells_1 18 rfl rfl)
theorem dX6_tells_45 : decode cX6_tells 45 = .ok (.lconst 0, 1) := dk_9 (dk_at dksX6_tells_1 21 rfl rfl)
theorem dX6_tells_46 : decode cX6_tells 46 = .ok (.iload 4, 2) := dk_21 4 (dk_at dksX6_tells_1 22 rfl rfl)
theorem dX6_tells_48 : decode cX6_tells 48 = .ok (.i2l, 1) := dk_133 (dk_at dksX6_tells_2 0 rfl rfl)
theorem dX6_tells_49 : decode cX6_tells 49 = .ok (.aload_n 0, 1) := dk_42 (dk_at dksX6_tells_2 1 rfl rfl)
theorem dX6_tells_50 : decode cX6_tells 50 = .ok (.getfield 7, 3) := dk_180 0 7 (dk_at dksX6_tells_2 2 rfl rfl)
theorem dX6_tells_53 : decode cX6_tells 53 = .ok (.iload 7, 2) := dk_21 7 (dk_at dksX6_tells_2 5 rfl rfl)
theorem dX6_tells_55 : decode cX6_tells 55 = .ok (.aaload, 1) := dk_50 (dk_at dksX6_tells_2 7 rfl rfl)
theorem dX6_tells_56 : decode cX6_tells 56 = .ok (.getfield 23, 3) := dk_180 0 23 (dk_at dksX6_tells_2 8 rfl rfl)
theorem dX6_tells_59 : decode cX6_tells 59 = .ok (.invokestatic 27, 3) := dk_184 0 27 (dk_at dksX6_tells_2 11 rfl rfl)
theorem dX6_tells_62 : decode cX6_tells 62 = .ok (.invokestatic 33, 3) := dk_184 0 33 (dk_at dksX6_tells_2 14 rfl rfl)
theorem dX6_tells_65 : decode cX6_tells 65 = .ok (.lstore 5, 2) := dk_55 5 (dk_at dksX6_tells_2 17 rfl rfl)
theorem dX6_tells_67 : decode cX6_tells 67 = .ok (.iinc 7 1, 3) := dk_132 7 1 (dk_at dksX6_tells_2 19 rfl rfl)
theorem dX6_tells_70 : decode cX6_tells 70 = .ok (.goto (-63), 3) := dk_167 255 193 (dk_at dksX6_tells_3 0 rfl rfl)
theorem dX6_tells_73 : decode cX6_tells 73 = .ok (.lload 5, 2) := dk_22 5 (dk_at dksX6_tells_3 3 rfl rfl)
theorem dX6_tells_75 : decode cX6_tells 75 = .ok (.l2i, 1) := dk_136 (dk_at dksX6_tells_3 5 rfl rfl)
theorem dX6_tells_76 : decode cX6_tells 76 = .ok (.ireturn, 1) := dk_172 (dk_at dksX6_tells_3 6 rfl rfl)
abbrev cX6_has : ByteArray := prog_29_method_2_code
def yX6_has : MethodName := ⟨RX6, "has", "(ILMissCurves$Asked;)Z"⟩
def dkwX6_has_1 : List UInt8 := [42, 180, 0, 7, 29, 50, 44, 182, 0, 19, 153, 0, 5, 4, 172, 132, 3, 1, 167, 255, 216, 3, 172]
abbrev dktX6_has_1 : List UInt8 := dkwX6_has_1 ++ []
def dkwX6_has_0 : List UInt8 := [3, 62, 29, 42, 180, 0, 7, 190, 162, 0, 37, 42, 180, 0, 7, 29, 50, 180, 0, 13, 27, 160, 0, 18]
abbrev dktX6_has_0 : List UInt8 := dkwX6_has_0 ++ dktX6_has_1
theorem dksX6_has_0 : cX6_has.data.toList.drop 0 = dktX6_has_0 := by decide +kernel
theorem dksX6_has_1 : cX6_has.data.toList.drop 24 = dktX6_has_1 := dk_seg dksX6_has_0 24 rfl rfl
theorem dX6_has_0 : decode cX6_has 0 = .ok (.iconst 0, 1) := dk_3 (dk_at dksX6_has_0 0 rfl rfl)
theorem dX6_has_1 : decode cX6_has 1 = .ok (.istore_n 3, 1) := dk_62 (dk_at dksX6_has_0 1 rfl rfl)
theorem dX6_has_2 : decode cX6_has 2 = .ok (.iload_n 3, 1) := dk_29 (dk_at dksX6_has_0 2 rfl rfl)
theorem dX6_has_3 : decode cX6_has 3 = .ok (.aload_n 0, 1) := dk_42 (dk_at dksX6_has_0 3 rfl rfl)
theorem dX6_has_4 : decode cX6_has 4 = .ok (.getfield 7, 3) := dk_180 0 7 (dk_at dksX6_has_0 4 rfl rfl)
theorem dX6_has_7 : decode cX6_has 7 = .ok (.arraylength, 1) := dk_190 (dk_at dksX6_has_0 7 rfl rfl)
theorem dX6_has_8 : decode cX6_has 8 = .ok (.if_icmp .ge 37, 3) := dk_162 0 37 (dk_at dksX6_has_0 8 rfl rfl)
theorem dX6_has_11 : decode cX6_has 11 = .ok (.aload_n 0, 1) := dk_42 (dk_at dksX6_has_0 11 rfl rfl)
theorem dX6_has_12 : decode cX6_has 12 = .ok (.getfield 7, 3) := dk_180 0 7 (dk_at dksX6_has_0 12 rfl rfl)
theorem dX6_has_15 : decode cX6_has 15 = .ok (.iload_n 3, 1) := dk_29 (dk_at dksX6_has_0 15 rfl rfl)
theorem dX6_has_16 : decode cX6_has 16 = .ok (.aaload, 1) := dk_50 (dk_at dksX6_has_0 16 rfl rfl)
theorem dX6_has_17 : decode cX6_has 17 = .ok (.getfield 13, 3) := dk_180 0 13 (dk_at dksX6_has_0 17 rfl rfl)
theorem dX6_has_20 : decode cX6_has 20 = .ok (.iload_n 1, 1) := dk_27 (dk_at dksX6_has_0 20 rfl rfl)
theorem dX6_has_21 : decode cX6_has 21 = .ok (.if_icmp .ne 18, 3) := dk_160 0 18 (dk_at dksX6_has_0 21 rfl rfl)
theorem dX6_has_24 : decode cX6_has 24 = .ok (.aload_n 0, 1) := dk_42 (dk_at dksX6_has_1 0 rfl rfl)
theorem dX6_has_25 : decode cX6_has 25 = .ok (.getfield 7, 3) := dk_180 0 7 (dk_at dksX6_has_1 1 rfl rfl)
theorem dX6_has_28 : decode cX6_has 28 = .ok (.iload_n 3, 1) := dk_29 (dk_at dksX6_has_1 4 rfl rfl)
theorem dX6_has_29 : decode cX6_has 29 = .ok (.aaload, 1) := dk_50 (dk_at dksX6_has_1 5 rfl rfl)
theorem dX6_has_30 : decode cX6_has 30 = .ok (.aload_n 2, 1) := dk_44 (dk_at dksX6_has_1 6 rfl rfl)
theorem dX6_has_31 : decode cX6_has 31 = .ok (.invokevirtual 19, 3) := dk_182 0 19 (dk_at dksX6_has_1 7 rfl rfl)
theorem dX6_has_34 : decode cX6_has 34 = .ok (.ifCond .eq 5, 3) := dk_153 0 5 (dk_at dksX6_has_1 10 rfl rfl)
theorem dX6_has_37 : decode cX6_has 37 = .ok (.iconst 1, 1) := dk_4 (dk_at dksX6_has_1 13 rfl rfl)
theorem dX6_has_38 : decode cX6_has 38 = .ok (.ireturn, 1) := dk_172 (dk_at dksX6_has_1 14 rfl rfl)
theorem dX6_has_39 : decode cX6_has 39 = .ok (.iinc 3 1, 3) := dk_132 3 1 (dk_at dksX6_has_1 15 rfl rfl)
theorem dX6_has_42 : decode cX6_has 42 = .ok (.goto (-40), 3) := dk_167 255 216 (dk_at dksX6_has_1 18 rfl rfl)
theorem dX6_has_45 : decode cX6_has 45 = .ok (.iconst 0, 1) := dk_3 (dk_at dksX6_has_1 21 rfl rfl)
theorem dX6_has_46 : decode cX6_has 46 = .ok (.ireturn, 1) := dk_172 (dk_at dksX6_has_1 22 rfl rfl)
theorem q137 : (Jvm.Cond.initialized "MissCurves$Text") ∈ lw_all := lw_g (lw_at lw_m1 10 rfl) rfl
theorem q365 : (Jvm.Cond.instantiable "MissCurves$Text" (1 : Nat)) ∈ lw_all := lw_g (lw_at lw_m1 238 rfl) rfl
theorem q369 : (Jvm.Cond.instanceMethod ({ cls := "MissCurves$Text", name := "<init>", desc := "([LMissCurves$Clause;)V" } : Jvm.MethodName)) ∈ lw_all := lw_g (lw_at lw_m2 2 rfl) rfl
theorem q370 : (Jvm.Cond.code ({ cls := "MissCurves$Text", name := "<init>", desc := "([LMissCurves$Clause;)V" } : Jvm.MethodName) prog_29_method_1_code (2 : Nat) (Option.none : Option Jvm.ClassFile.FieldType)) ∈ lw_all := lw_g (lw_at lw_m2 3 rfl) rfl
theorem q371 : (Jvm.Cond.methodLink "MissCurves$Text" (1 : Nat) ({ cls := "java/lang/Object", name := "<init>", desc := "()V" } : Jvm.MethodName)) ∈ lw_all := lw_g (lw_at lw_m2 4 rfl) rfl
theorem q372 : (Jvm.Cond.fieldLink "MissCurves$Text" (7 : Nat) "MissCurves$Text" "clauses" "[LMissCurves$Clause;") ∈ lw_all := lw_g (lw_at lw_m2 5 rfl) rfl
theorem q373 : (Jvm.Cond.laysFinal "MissCurves$Text" "MissCurves$Text" "clauses" "[LMissCurves$Clause;") ∈ lw_all := lw_g (lw_at lw_m2 6 rfl) rfl
theorem q374 : (Jvm.Cond.soleField "MissCurves$Text" "clauses") ∈ lw_all := lw_g (lw_at lw_m2 7 rfl) rfl
theorem q375 : (Jvm.Cond.superclass "MissCurves$Text" "java/lang/Object") ∈ lw_all := lw_g (lw_at lw_m2 8 rfl) rfl
theorem q562 : (Jvm.Cond.instanceMethod ({ cls := "MissCurves$Text", name := "tells", desc := "(ILMissCurves$Asked;II)I" } : Jvm.MethodName)) ∈ lw_all := lw_g (lw_at lw_m2 195 rfl) rfl
theorem q563 : (Jvm.Cond.selects "MissCurves$Text" ({ cls := "MissCurves$Text", name := "tells", desc := "(ILMissCurves$Asked;II)I" } : Jvm.MethodName) ({ cls := "MissCurves$Text", name := "tells", desc := "(ILMissCurves$Asked;II)I" } : Jvm.MethodName)) ∈ lw_all := lw_g (lw_at lw_m2 196 rfl) rfl
theorem q564 : (Jvm.Cond.code ({ cls := "MissCurves$Text", name := "tells", desc := "(ILMissCurves$Asked;II)I" } : Jvm.MethodName) prog_29_method_3_code (8 : Nat) (Option.some Jvm.ClassFile.FieldType.int)) ∈ lw_all := lw_g (lw_at lw_m2 197 rfl) rfl
theorem q565 : (Jvm.Cond.methodLink "MissCurves$Text" (19 : Nat) ({ cls := "MissCurves$Clause", name := "holds", desc := "(LMissCurves$Asked;)Z" } : Jvm.MethodName)) ∈ lw_all := lw_g (lw_at lw_m2 198 rfl) rfl
theorem q607 : (Jvm.Cond.methodLink "MissCurves$Text" (27 : Nat) ({ cls := "java/lang/Math", name := "min", desc := "(JJ)J" } : Jvm.MethodName)) ∈ lw_all := lw_g (lw_at lw_m3 0 rfl) rfl
theorem q610 : (Jvm.Cond.methodLink "MissCurves$Text" (33 : Nat) ({ cls := "java/lang/Math", name := "max", desc := "(JJ)J" } : Jvm.MethodName)) ∈ lw_all := lw_g (lw_at lw_m3 3 rfl) rfl
theorem q618 : (Jvm.Cond.instanceMethod ({ cls := "MissCurves$Text", name := "has", desc := "(ILMissCurves$Asked;)Z" } : Jvm.MethodName)) ∈ lw_all := lw_g (lw_at lw_m3 11 rfl) rfl
theorem q619 : (Jvm.Cond.selects "MissCurves$Text" ({ cls := "MissCurves$Text", name := "has", desc := "(ILMissCurves$Asked;)Z" } : Jvm.MethodName) ({ cls := "MissCurves$Text", name := "has", desc := "(ILMissCurves$Asked;)Z" } : Jvm.MethodName)) ∈ lw_all := lw_g (lw_at lw_m3 12 rfl) rfl
theorem q620 : (Jvm.Cond.code ({ cls := "MissCurves$Text", name := "has", desc := "(ILMissCurves$Asked;)Z" } : Jvm.MethodName) prog_29_method_2_code (4 : Nat) (Option.some Jvm.ClassFile.FieldType.boolean)) ∈ lw_all := lw_g (lw_at lw_m3 13 rfl) rfl
theorem q1408 : (Jvm.Cond.fieldLinkNest "MissCurves$Text" (13 : Nat) "MissCurves$Clause" "head" "I" "MissCurves") ∈ lw_tbl := lw_at lw_m6 81 rfl
theorem q1412 : (Jvm.Cond.fieldLinkNest "MissCurves$Text" (23 : Nat) "MissCurves$Clause" "told" "J" "MissCurves") ∈ lw_tbl := lw_at lw_m6 85 rfl
theorem q1543 : (Jvm.Cond.selects "MissCurves$Text" ({ cls := "java/lang/Object", name := "getClass", desc := "()Ljava/lang/Class;" } : Jvm.MethodName) ({ cls := "java/lang/Object", name := "getClass", desc := "()Ljava/lang/Class;" } : Jvm.MethodName)) ∈ lw_all := lw_g (lw_at lw_m6 216 rfl) rfl
theorem q1776 : (Jvm.Cond.selects "MissCurves$Text" ({ cls := "java/lang/Object", name := "toString", desc := "()Ljava/lang/String;" } : Jvm.MethodName) ({ cls := "java/lang/Object", name := "toString", desc := "()Ljava/lang/String;" } : Jvm.MethodName)) ∈ lw_all := lw_g (lw_at lw_m7 209 rfl) rfl
theorem q3019 : (Jvm.Cond.castable "MissCurves$Text" "java/lang/Object") ∈ lw_tbl := lw_at lw_m13 12 rfl
theorem in_X6 : ∀ w ∈ wsX60, w ∈ lw_all := lw_in wsX60 [373] (by decide +kernel) (by decide +kernel)

/-! MissCurves$Leaving -/
set_option maxRecDepth 100000
def RX8 : String := "MissCurves$Leaving"
abbrev cX8_numberOf : ByteArray := prog_14_method_4_code
def yX8_numberOf : MethodName := ⟨RX8, "numberOf", "(Ljava/lang/CharSequence;)I"⟩
def dkwX8_numberOf_6 : List UInt8 := [3, 172, 4, 172, 5, 172, 6, 172, 7, 172, 2, 172]
abbrev dktX8_numberOf_6 : List UInt8 := dkwX8_numberOf_6 ++ []
def dkwX8_numberOf_5 : List UInt8 := [170, 0, 0, 0, 0, 0, 0, 46, 0, 0, 0, 0, 0, 0, 0, 4, 0, 0, 0, 36, 0, 0, 0, 38, 0, 0, 0, 40, 0, 0, 0, 42, 0, 0, 0, 44]
abbrev dktX8_numberOf_5 : List UInt8 := dkwX8_numberOf_5 ++ dktX8_numberOf_6
def dkwX8_numberOf_4 : List UInt8 := [153, 0, 19, 6, 61, 167, 0, 14, 43, 18, 47, 182, 0, 37, 153, 0, 5, 7, 61, 28]
abbrev dktX8_numberOf_4 : List UInt8 := dkwX8_numberOf_4 ++ dktX8_numberOf_5
def dkwX8_numberOf_3 : List UInt8 := [61, 167, 0, 42, 43, 18, 43, 182, 0, 37, 153, 0, 33, 5, 61, 167, 0, 28, 43, 18, 45, 182, 0, 37]
abbrev dktX8_numberOf_3 : List UInt8 := dkwX8_numberOf_3 ++ dktX8_numberOf_4
def dkwX8_numberOf_2 : List UInt8 := [43, 18, 35, 182, 0, 37, 153, 0, 61, 3, 61, 167, 0, 56, 43, 18, 41, 182, 0, 37, 153, 0, 47, 4]
abbrev dktX8_numberOf_2 : List UInt8 := dkwX8_numberOf_2 ++ dktX8_numberOf_3
def dkwX8_numberOf_1 : List UInt8 := [171, 0, 0, 0, 0, 0, 118, 0, 0, 0, 5, 0, 1, 162, 59, 0, 0, 0, 93, 0, 1, 163, 175, 0, 0, 0, 51, 0, 1, 166, 82, 0, 0, 0, 107, 0, 1, 167, 112, 0, 0, 0, 65, 0, 47, 244, 204, 0, 0, 0, 79]
abbrev dktX8_numberOf_1 : List UInt8 := dkwX8_numberOf_1 ++ dktX8_numberOf_2
def dkwX8_numberOf_0 : List UInt8 := [42, 185, 0, 23, 1, 0, 76, 2, 61, 43, 182, 0, 29]
abbrev dktX8_numberOf_0 : List UInt8 := dkwX8_numberOf_0 ++ dktX8_numberOf_1
theorem dksX8_numberOf_0 : cX8_numberOf.data.toList.drop 0 = dktX8_numberOf_0 := by decide +kernel
theorem dksX8_numberOf_1 : cX8_numberOf.data.toList.drop 13 = dktX8_numberOf_1 := dk_seg dksX8_numberOf_0 13 rfl rfl
theorem dksX8_numberOf_2 : cX8_numberOf.data.toList.drop 64 = dktX8_numberOf_2 := dk_seg dksX8_numberOf_1 51 rfl rfl
theorem dksX8_numberOf_3 : cX8_numberOf.data.toList.drop 88 = dktX8_numberOf_3 := dk_seg dksX8_numberOf_2 24 rfl rfl
theorem dksX8_numberOf_4 : cX8_numberOf.data.toList.drop 112 = dktX8_numberOf_4 := dk_seg dksX8_numberOf_3 24 rfl rfl
theorem dksX8_numberOf_5 : cX8_numberOf.data.toList.drop 132 = dktX8_numberOf_5 := dk_seg dksX8_numberOf_4 20 rfl rfl
theorem dksX8_numberOf_6 : cX8_numberOf.data.toList.drop 168 = dktX8_numberOf_6 := dk_seg dksX8_numberOf_5 36 rfl rfl
theorem dX8_numberOf_0 : decode cX8_numberOf 0 = .ok (.aload_n 0, 1) := dk_42 (dk_at dksX8_numberOf_0 0 rfl rfl)
theorem dX8_numberOf_1 : decode cX8_numberOf 1 = .ok (.invokeinterface 23 1, 5) := by decide +kernel
theorem dX8_numberOf_6 : decode cX8_numberOf 6 = .ok (.astore_n 1, 1) := dk_76 (dk_at dksX8_numberOf_0 6 rfl rfl)
theorem dX8_numberOf_7 : decode cX8_numberOf 7 = .ok (.iconst (-1), 1) := dk_2 (dk_at dksX8_numberOf_0 7 rfl rfl)
theorem dX8_numberOf_8 : decode cX8_numberOf 8 = .ok (.istore_n 2, 1) := dk_61 (dk_at dksX8_numberOf_0 8 rfl rfl)
theorem dX8_numberOf_9 : decode cX8_numberOf 9 = .ok (.aload_n 1, 1) := dk_43 (dk_at dksX8_numberOf_0 9 rfl rfl)
theorem dX8_numberOf_10 : decode cX8_numberOf 10 = .ok (.invokevirtual 29, 3) := dk_182 0 29 (dk_at dksX8_numberOf_0 10 rfl rfl)
theorem dX8_numberOf_13 : decode cX8_numberOf 13 = .ok (.lookupswitch 118 #[(107067, 93), (107439, 51), (108114, 107), (108400, 65), (3142860, 79)], 51) := by decide +kernel
theorem dX8_numberOf_64 : decode cX8_numberOf 64 = .ok (.aload_n 1, 1) := dk_43 (dk_at dksX8_numberOf_2 0 rfl rfl)
theorem dX8_numberOf_65 : decode cX8_numberOf 65 = .ok (.ldc 35, 2) := dk_18 35 (dk_at dksX8_numberOf_2 1 rfl rfl)
theorem dX8_numberOf_67 : decode cX8_numberOf 67 = .ok (.invokevirtual 37, 3) := dk_182 0 37 (dk_at dksX8_numberOf_2 3 rfl rfl)
theorem dX8_numberOf_70 : decode cX8_numberOf 70 = .ok (.ifCond .eq 61, 3) := dk_153 0 61 (dk_at dksX8_numberOf_2 6 rfl rfl)
theorem dX8_numberOf_73 : decode cX8_numberOf 73 = .ok (.iconst 0, 1) := dk_3 (dk_at dksX8_numberOf_2 9 rfl rfl)
theorem dX8_numberOf_74 : decode cX8_numberOf 74 = .ok (.istore_n 2, 1) := dk_61 (dk_at dksX8_numberOf_2 10 rfl rfl)
theorem dX8_numberOf_75 : decode cX8_numberOf 75 = .ok (.goto 56, 3) := dk_167 0 56 (dk_at dksX8_numberOf_2 11 rfl rfl)
theorem dX8_numberOf_78 : decode cX8_numberOf 78 = .ok (.aload_n 1, 1) := dk_43 (dk_at dksX8_numberOf_2 14 rfl rfl)
theorem dX8_numberOf_79 : decode cX8_numberOf 79 = .ok (.ldc 41, 2) := dk_18 41 (dk_at dksX8_numberOf_2 15 rfl rfl)
theorem dX8_numberOf_81 : decode cX8_numberOf 81 = .ok (.invokevirtual 37, 3) := dk_182 0 37 (dk_at dksX8_numberOf_2 17 rfl rfl)
theorem dX8_numberOf_84 : decode cX8_numberOf 84 = .ok (.ifCond .eq 47, 3) := dk_153 0 47 (dk_at dksX8_numberOf_2 20 rfl rfl)
theorem dX8_numberOf_87 : decode cX8_numberOf 87 = .ok (.iconst 1, 1) := dk_4 (dk_at dksX8_numberOf_2 23 rfl rfl)
theorem dX8_numberOf_88 : decode cX8_numberOf 88 = .ok (.istore_n 2, 1) := dk_61 (dk_at dksX8_numberOf_3 0 rfl rfl)
theorem dX8_numberOf_89 : decode cX8_numberOf 89 = .ok (.goto 42, 3) := dk_167 0 42 (dk_at dksX8_numberOf_3 1 rfl rfl)
theorem dX8_numberOf_92 : decode cX8_numberOf 92 = .ok (.aload_n 1, 1) := dk_43 (dk_at dksX8_numberOf_3 4 rfl rfl)
theorem dX8_numberOf_93 : decode cX8_numberOf 93 = .ok (.ldc 43, 2) := dk_18 43 (dk_at dksX8_numberOf_3 5 rfl rfl)
theorem dX8_numberOf_95 : decode cX8_numberOf 95 = .ok (.invokevirtual 37, 3) := dk_182 0 37 (dk_at dksX8_numberOf_3 7 rfl rfl)
theorem dX8_numberOf_98 : decode cX8_numberOf 98 = .ok (.ifCond .eq 33, 3) := dk_153 0 33 (dk_at dksX8_numberOf_3 10 rfl rfl)
theorem dX8_numberOf_101 : decode cX8_numberOf 101 = .ok (.iconst 2, 1) := dk_5 (dk_at dksX8_numberOf_3 13 rfl rfl)
theorem dX8_numberOf_102 : decode cX8_numberOf 102 = .ok (.istore_n 2, 1) := dk_61 (dk_at dksX8_numberOf_3 14 rfl rfl)
theorem dX8_numberOf_103 : decode cX8_numberOf 103 = .ok (.goto 28, 3) := dk_167 0 28 (dk_at dksX8_numberOf_3 15 rfl rfl)
theorem dX8_numberOf_106 : decode cX8_numberOf 106 = .ok (.aload_n 1, 1) := dk_43 (dk_at dksX8_numberOf_3 18 rfl rfl)
theorem dX8_numberOf_107 : decode cX8_numberOf 107 = .ok (.ldc 45, 2) := dk_18 45 (dk_at dksX8_numberOf_3 19 rfl rfl)
theorem dX8_numberOf_109 : decode cX8_numberOf 109 = .ok (.invokevirtual 37, 3) := dk_182 0 37 (dk_at dksX8_numberOf_3 21 rfl rfl)
theorem dX8_numberOf_112 : decode cX8_numberOf 112 = .ok (.ifCond .eq 19, 3) := dk_153 0 19 (dk_at dksX8_numberOf_4 0 rfl rfl)
theorem dX8_numberOf_115 : decode cX8_numberOf 115 = .ok (.iconst 3, 1) := dk_6 (dk_at dksX8_numberOf_4 3 rfl rfl)
theorem dX8_numberOf_116 : decode cX8_numberOf 116 = .ok (.istore_n 2, 1) := dk_61 (dk_at dksX8_numberOf_4 4 rfl rfl)
theorem dX8_numberOf_117 : decode cX8_numberOf 117 = .ok (.goto 14, 3) := dk_167 0 14 (dk_at dksX8_numberOf_4 5 rfl rfl)
theorem dX8_numberOf_120 : decode cX8_numberOf 120 = .ok (.aload_n 1, 1) := dk_43 (dk_at dksX8_numberOf_4 8 rfl rfl)
theorem dX8_numberOf_121 : decode cX8_numberOf 121 = .ok (.ldc 47, 2) := dk_18 47 (dk_at dksX8_numberOf_4 9 rfl rfl)
theorem dX8_numberOf_123 : decode cX8_numberOf 123 = .ok (.invokevirtual 37, 3) := dk_182 0 37 (dk_at dksX8_numberOf_4 11 rfl rfl)
theorem dX8_numberOf_126 : decode cX8_numberOf 126 = .ok (.ifCond .eq 5, 3) := dk_153 0 5 (dk_at dksX8_numberOf_4 14 rfl rfl)
theorem dX8_numberOf_129 : decode cX8_numberOf 129 = .ok (.iconst 4, 1) := dk_7 (dk_at dksX8_numberOf_4 17 rfl rfl)
theorem dX8_numberOf_130 : decode cX8_numberOf 130 = .ok (.istore_n 2, 1) := dk_61 (dk_at dksX8_numberOf_4 18 rfl rfl)
theorem dX8_numberOf_131 : decode cX8_numberOf 131 = .ok (.iload_n 2, 1) := dk_28 (dk_at dksX8_numberOf_4 19 rfl rfl)
theorem dX8_numberOf_132 : decode cX8_numberOf 132 = .ok (.tableswitch 46 0 4 #[36, 38, 40, 42, 44], 36) := by decide +kernel
theorem dX8_numberOf_168 : decode cX8_numberOf 168 = .ok (.iconst 0, 1) := dk_3 (dk_at dksX8_numberOf_6 0 rfl rfl)
theorem dX8_numberOf_169 : decode cX8_numberOf 169 = .ok (.ireturn, 1) := dk_172 (dk_at dksX8_numberOf_6 1 rfl rfl)
theorem dX8_numberOf_170 : decode cX8_numberOf 170 = .ok (.iconst 1, 1) := dk_4 (dk_at dksX8_numberOf_6 2 rfl rfl)
theorem dX8_numberOf_171 : decode cX8_numberOf 171 = .ok (.ireturn, 1) := dk_172 (dk_at dksX8_numberOf_6 3 rfl rfl)
theorem dX8_numberOf_172 : decode cX8_numberOf 172 = .ok (.iconst 2, 1) := dk_5 (dk_at dksX8_numberOf_6 4 rfl rfl)
theorem dX8_numberOf_173 : decode cX8_numberOf 173 = .ok (.ireturn, 1) := dk_172 (dk_at dksX8_numberOf_6 5 rfl rfl)
theorem dX8_numberOf_174 : decode cX8_numberOf 174 = .ok (.iconst 3, 1) := dk_6 (dk_at dksX8_numberOf_6 6 rfl rfl)
theorem dX8_numberOf_175 : decode cX8_numberOf 175 = .ok (.ireturn, 1) := dk_172 (dk_at dksX8_numberOf_6 7 rfl rfl)
theorem dX8_numberOf_176 : decode cX8_numberOf 176 = .ok (.iconst 4, 1) := dk_7 (dk_at dksX8_numberOf_6 8 rfl rfl)
theorem dX8_numberOf_177 : decode cX8_numberOf 177 = .ok (.ireturn, 1) := dk_172 (dk_at dksX8_numberOf_6 9 rfl rfl)
theorem dX8_numberOf_178 : decode cX8_numberOf 178 = .ok (.iconst (-1), 1) := dk_2 (dk_at dksX8_numberOf_6 10 rfl rfl)
theorem dX8_numberOf_179 : decode cX8_numberOf 179 = .ok (.ireturn, 1) := dk_172 (dk_at dksX8_numberOf_6 11 rfl rfl)
abbrev cX8_of : ByteArray := prog_14_method_5_code
def yX8_of : MethodName := ⟨RX8, "of", "(I)LMissCurves$Leaving;"⟩
def dkwX8_of_3 : List UInt8 := [183, 0, 60, 167, 0, 20, 187, 0, 61, 89, 183, 0, 63, 167, 0, 10, 187, 0, 64, 89, 183, 0, 66, 176]
abbrev dktX8_of_3 : List UInt8 := dkwX8_of_3 ++ []
def dkwX8_of_2 : List UInt8 := [187, 0, 49, 89, 183, 0, 51, 167, 0, 40, 187, 0, 55, 89, 183, 0, 57, 167, 0, 30, 187, 0, 58, 89]
abbrev dktX8_of_2 : List UInt8 := dkwX8_of_2 ++ dktX8_of_3
def dkwX8_of_1 : List UInt8 := [170, 0, 0, 0, 0, 0, 71, 0, 0, 0, 0, 0, 0, 0, 3, 0, 0, 0, 31, 0, 0, 0, 41, 0, 0, 0, 51, 0, 0, 0, 61]
abbrev dktX8_of_1 : List UInt8 := dkwX8_of_1 ++ dktX8_of_2
def dkwX8_of_0 : List UInt8 := [26]
abbrev dktX8_of_0 : List UInt8 := dkwX8_of_0 ++ dktX8_of_1
theorem dksX8_of_0 : cX8_of.data.toList.drop 0 = dktX8_of_0 := by decide +kernel
theorem dksX8_of_1 : cX8_of.data.toList.drop 1 = dktX8_of_1 := dk_seg dksX8_of_0 1 rfl rfl
theorem dksX8_of_2 : cX8_of.data.toList.drop 32 = dktX8_of_2 := dk_seg dksX8_of_1 31 rfl rfl
theorem dksX8_of_3 : cX8_of.data.toList.drop 56 = dktX8_of_3 := dk_seg dksX8_of_2 24 rfl rfl
theorem dX8_of_0 : decode cX8_of 0 = .ok (.iload_n 0, 1) := dk_26 (dk_at dksX8_of_0 0 rfl rfl)
theorem dX8_of_1 : decode cX8_of 1 = .ok (.tableswitch 71 0 3 #[31, 41, 51, 61], 31) := by decide +kernel
theorem dX8_of_32 : decode cX8_of 32 = .ok (.new 49, 3) := dk_187 0 49 (dk_at dksX8_of_2 0 rfl rfl)
theorem dX8_of_35 : decode cX8_of 35 = .ok (.dup, 1) := dk_89 (dk_at dksX8_of_2 3 rfl rfl)
theorem dX8_of_36 : decode cX8_of 36 = .ok (.invokespecial 51, 3) := dk_183 0 51 (dk_at dksX8_of_2 4 rfl rfl)
theorem dX8_of_39 : decode cX8_of 39 = .ok (.goto 40, 3) := dk_167 0 40 (dk_at dksX8_of_2 7 rfl rfl)
theorem dX8_of_42 : decode cX8_of 42 = .ok (.new 55, 3) := dk_187 0 55 (dk_at dksX8_of_2 10 rfl rfl)
theorem dX8_of_45 : decode cX8_of 45 = .ok (.dup, 1) := dk_89 (dk_at dksX8_of_2 13 rfl rfl)
theorem dX8_of_46 : decode cX8_of 46 = .ok (.invokespecial 57, 3) := dk_183 0 57 (dk_at dksX8_of_2 14 rfl rfl)
theorem dX8_of_49 : decode cX8_of 49 = .ok (.goto 30, 3) := dk_167 0 30 (dk_at dksX8_of_2 17 rfl rfl)
theorem dX8_of_52 : decode cX8_of 52 = .ok (.new 58, 3) := dk_187 0 58 (dk_at dksX8_of_2 20 rfl rfl)
theorem dX8_of_55 : decode cX8_of 55 = .ok (.dup, 1) := dk_89 (dk_at dksX8_of_2 23 rfl rfl)
theorem dX8_of_56 : decode cX8_of 56 = .ok (.invokespecial 60, 3) := dk_183 0 60 (dk_at dksX8_of_3 0 rfl rfl)
theorem dX8_of_59 : decode cX8_of 59 = .ok (.goto 20, 3) := dk_167 0 20 (dk_at dksX8_of_3 3 rfl rfl)
theorem dX8_of_62 : decode cX8_of 62 = .ok (.new 61, 3) := dk_187 0 61 (dk_at dksX8_of_3 6 rfl rfl)
theorem dX8_of_65 : decode cX8_of 65 = .ok (.dup, 1) := dk_89 (dk_at dksX8_of_3 9 rfl rfl)
theorem dX8_of_66 : decode cX8_of 66 = .ok (.invokespecial 63, 3) := dk_183 0 63 (dk_at dksX8_of_3 10 rfl rfl)
theorem dX8_of_69 : decode cX8_of 69 = .ok (.goto 10, 3) := dk_167 0 10 (dk_at dksX8_of_3 13 rfl rfl)
theorem dX8_of_72 : decode cX8_of 72 = .ok (.new 64, 3) := dk_187 0 64 (dk_at dksX8_of_3 16 rfl rfl)
theorem dX8_of_75 : decode cX8_of 75 = .ok (.dup, 1) := dk_89 (dk_at dksX8_of_3 19 rfl rfl)
theorem dX8_of_76 : decode cX8_of 76 = .ok (.invokespecial 66, 3) := dk_183 0 66 (dk_at dksX8_of_3 20 rfl rfl)
theorem dX8_of_79 : decode cX8_of 79 = .ok (.areturn, 1) := dk_176 (dk_at dksX8_of_3 23 rfl rfl)
abbrev cX8_who : ByteArray := prog_14_method_2_code
def yX8_who : MethodName := ⟨RX8, "who", "(LMissCurves$Held;)I"⟩
def dkwX8_who_2 : List UInt8 := [185, 0, 15, 4, 0, 153, 0, 7, 29, 167, 0, 4, 28, 61, 132, 3, 1, 167, 255, 198, 28, 172]
abbrev dktX8_who_2 : List UInt8 := dkwX8_who_2 ++ []
def dkwX8_who_1 : List UInt8 := [185, 0, 9, 3, 0, 100, 54, 4, 21, 4, 155, 0, 20, 21, 4, 154, 0, 19, 42, 43, 29, 28]
abbrev dktX8_who_1 : List UInt8 := dkwX8_who_1 ++ dktX8_who_2
def dkwX8_who_0 : List UInt8 := [3, 61, 4, 62, 29, 43, 180, 0, 3, 162, 0, 56, 42, 43, 29, 185, 0, 9, 3, 0, 42, 43, 28]
abbrev dktX8_who_0 : List UInt8 := dkwX8_who_0 ++ dktX8_who_1
theorem dksX8_who_0 : cX8_who.data.toList.drop 0 = dktX8_who_0 := by decide +kernel
theorem dksX8_who_1 : cX8_who.data.toList.drop 23 = dktX8_who_1 := dk_seg dksX8_who_0 23 rfl rfl
theorem dksX8_who_2 : cX8_who.data.toList.drop 45 = dktX8_who_2 := dk_seg dksX8_who_1 22 rfl rfl
theorem dX8_who_0 : decode cX8_who 0 = .ok (.iconst 0, 1) := dk_3 (dk_at dksX8_who_0 0 rfl rfl)
theorem dX8_who_1 : decode cX8_who 1 = .ok (.istore_n 2, 1) := dk_61 (dk_at dksX8_who_0 1 rfl rfl)
theorem dX8_who_2 : decode cX8_who 2 = .ok (.iconst 1, 1) := dk_4 (dk_at dksX8_who_0 2 rfl rfl)
theorem dX8_who_3 : decode cX8_who 3 = .ok (.istore_n 3, 1) := dk_62 (dk_at dksX8_who_0 3 rfl rfl)
theorem dX8_who_4 : decode cX8_who 4 = .ok (.iload_n 3, 1) := dk_29 (dk_at dksX8_who_0 4 rfl rfl)
theorem dX8_who_5 : decode cX8_who 5 = .ok (.aload_n 1, 1) := dk_43 (dk_at dksX8_who_0 5 rfl rfl)
theorem dX8_who_6 : decode cX8_who 6 = .ok (.getfield 3, 3) := dk_180 0 3 (dk_at dksX8_who_0 6 rfl rfl)
theorem dX8_who_9 : decode cX8_who 9 = .ok (.if_icmp .ge 56, 3) := dk_162 0 56 (dk_at dksX8_who_0 9 rfl rfl)
theorem dX8_who_12 : decode cX8_who 12 = .ok (.aload_n 0, 1) := dk_42 (dk_at dksX8_who_0 12 rfl rfl)
theorem dX8_who_13 : decode cX8_who 13 = .ok (.aload_n 1, 1) := dk_43 (dk_at dksX8_who_0 13 rfl rfl)
theorem dX8_who_14 : decode cX8_who 14 = .ok (.iload_n 3, 1) := dk_29 (dk_at dksX8_who_0 14 rfl rfl)
theorem dX8_who_15 : decode cX8_who 15 = .ok (.invokeinterface 9 3, 5) := by decide +kernel
theorem dX8_who_20 : decode cX8_who 20 = .ok (.aload_n 0, 1) := dk_42 (dk_at dksX8_who_0 20 rfl rfl)
theorem dX8_who_21 : decode cX8_who 21 = .ok (.aload_n 1, 1) := dk_43 (dk_at dksX8_who_0 21 rfl rfl)
theorem dX8_who_22 : decode cX8_who 22 = .ok (.iload_n 2, 1) := dk_28 (dk_at dksX8_who_0 22 rfl rfl)
theorem dX8_who_23 : decode cX8_who 23 = .ok (.invokeinterface 9 3, 5) := by decide +kernel
theorem dX8_who_28 : decode cX8_who 28 = .ok (.isub, 1) := dk_100 (dk_at dksX8_who_1 5 rfl rfl)
theorem dX8_who_29 : decode cX8_who 29 = .ok (.istore 4, 2) := dk_54 4 (dk_at dksX8_who_1 6 rfl rfl)
theorem dX8_who_31 : decode cX8_who 31 = .ok (.iload 4, 2) := dk_21 4 (dk_at dksX8_who_1 8 rfl rfl)
theorem dX8_who_33 : decode cX8_who 33 = .ok (.ifCond .lt 20, 3) := dk_155 0 20 (dk_at dksX8_who_1 10 rfl rfl)
theorem dX8_who_36 : decode cX8_who 36 = .ok (.iload 4, 2) := dk_21 4 (dk_at dksX8_who_1 13 rfl rfl)
theorem dX8_who_38 : decode cX8_who 38 = .ok (.ifCond .ne 19, 3) := dk_154 0 19 (dk_at dksX8_who_1 15 rfl rfl)
theorem dX8_who_41 : decode cX8_who 41 = .ok (.aload_n 0, 1) := dk_42 (dk_at dksX8_who_1 18 rfl rfl)
theorem dX8_who_42 : decode cX8_who 42 = .ok (.aload_n 1, 1) := dk_43 (dk_at dksX8_who_1 19 rfl rfl)
theorem dX8_who_43 : decode cX8_who 43 = .ok (.iload_n 3, 1) := dk_29 (dk_at dksX8_who_1 20 rfl rfl)
theorem dX8_who_44 : decode cX8_who 44 = .ok (.iload_n 2, 1) := dk_28 (dk_at dksX8_who_1 21 rfl rfl)
theorem dX8_who_45 : decode cX8_who 45 = .ok (.invokeinterface 15 4, 5) := by decide +kernel
theorem dX8_who_50 : decode cX8_who 50 = .ok (.ifCond .eq 7, 3) := dk_153 0 7 (dk_at dksX8_who_2 5 rfl rfl)
theorem dX8_who_53 : decode cX8_who 53 = .ok (.iload_n 3, 1) := dk_29 (dk_at dksX8_who_2 8 rfl rfl)
theorem dX8_who_54 : decode cX8_who 54 = .ok (.goto 4, 3) := dk_167 0 4 (dk_at dksX8_who_2 9 rfl rfl)
theorem dX8_who_57 : decode cX8_who 57 = .ok (.iload_n 2, 1) := dk_28 (dk_at dksX8_who_2 12 rfl rfl)
theorem dX8_who_58 : decode cX8_who 58 = .ok (.istore_n 2, 1) := dk_61 (dk_at dksX8_who_2 13 rfl rfl)
theorem dX8_who_59 : decode cX8_who 59 = .ok (.iinc 3 1, 3) := dk_132 3 1 (dk_at dksX8_who_2 14 rfl rfl)
theorem dX8_who_62 : decode cX8_who 62 = .ok (.goto (-58), 3) := dk_167 255 198 (dk_at dksX8_who_2 17 rfl rfl)
theorem dX8_who_65 : decode cX8_who 65 = .ok (.iload_n 2, 1) := dk_28 (dk_at dksX8_who_2 20 rfl rfl)
theorem dX8_who_66 : decode cX8_who 66 = .ok (.ireturn, 1) := dk_172 (dk_at dksX8_who_2 21 rfl rfl)
abbrev cX8_isAhead : ByteArray := prog_14_method_3_code
def yX8_isAhead : MethodName := ⟨RX8, "isAhead", "(LMissCurves$Held;II)Z"⟩
def dkwX8_isAhead_0 : List UInt8 := [43, 180, 0, 19, 28, 46, 43, 180, 0, 19, 29, 46, 162, 0, 7, 4, 167, 0, 4, 3, 172]
abbrev dktX8_isAhead_0 : List UInt8 := dkwX8_isAhead_0 ++ []
theorem dksX8_isAhead_0 : cX8_isAhead.data.toList.drop 0 = dktX8_isAhead_0 := by decide +kernel
theorem dX8_isAhead_0 : decode cX8_isAhead 0 = .ok (.aload_n 1, 1) := dk_43 (dk_at dksX8_isAhead_0 0 rfl rfl)
theorem dX8_isAhead_1 : decode cX8_isAhead 1 = .ok (.getfield 19, 3) := dk_180 0 19 (dk_at dksX8_isAhead_0 1 rfl rfl)
theorem dX8_isAhead_4 : decode cX8_isAhead 4 = .ok (.iload_n 2, 1) := dk_28 (dk_at dksX8_isAhead_0 4 rfl rfl)
theorem dX8_isAhead_5 : decode cX8_isAhead 5 = .ok (.iaload, 1) := dk_46 (dk_at dksX8_isAhead_0 5 rfl rfl)
theorem dX8_isAhead_6 : decode cX8_isAhead 6 = .ok (.aload_n 1, 1) := dk_43 (dk_at dksX8_isAhead_0 6 rfl rfl)
theorem dX8_isAhead_7 : decode cX8_isAhead 7 = .ok (.getfield 19, 3) := dk_180 0 19 (dk_at dksX8_isAhead_0 7 rfl rfl)
theorem dX8_isAhead_10 : decode cX8_isAhead 10 = .ok (.iload_n 3, 1) := dk_29 (dk_at dksX8_isAhead_0 10 rfl rfl)
theorem dX8_isAhead_11 : decode cX8_isAhead 11 = .ok (.iaload, 1) := dk_46 (dk_at dksX8_isAhead_0 11 rfl rfl)
theorem dX8_isAhead_12 : decode cX8_isAhead 12 = .ok (.if_icmp .ge 7, 3) := dk_162 0 7 (dk_at dksX8_isAhead_0 12 rfl rfl)
theorem dX8_isAhead_15 : decode cX8_isAhead 15 = .ok (.iconst 1, 1) := dk_4 (dk_at dksX8_isAhead_0 15 rfl rfl)
theorem dX8_isAhead_16 : decode cX8_isAhead 16 = .ok (.goto 4, 3) := dk_167 0 4 (dk_at dksX8_isAhead_0 16 rfl rfl)
theorem dX8_isAhead_19 : decode cX8_isAhead 19 = .ok (.iconst 0, 1) := dk_3 (dk_at dksX8_isAhead_0 19 rfl rfl)
theorem dX8_isAhead_20 : decode cX8_isAhead 20 = .ok (.ireturn, 1) := dk_172 (dk_at dksX8_isAhead_0 20 rfl rfl)
theorem q155 : (Jvm.Cond.initialized "MissCurves$Leaving") ∈ lw_all := lw_g (lw_at lw_m1 28 rfl) rfl
theorem q903 : (Jvm.Cond.static ({ cls := "MissCurves$Leaving", name := "numberOf", desc := "(Ljava/lang/CharSequence;)I" } : Jvm.MethodName)) ∈ lw_all := lw_g (lw_at lw_m4 56 rfl) rfl
theorem q904 : (Jvm.Cond.code ({ cls := "MissCurves$Leaving", name := "numberOf", desc := "(Ljava/lang/CharSequence;)I" } : Jvm.MethodName) prog_14_method_4_code (3 : Nat) (Option.some Jvm.ClassFile.FieldType.int)) ∈ lw_all := lw_g (lw_at lw_m4 57 rfl) rfl
theorem q905 : (Jvm.Cond.interfaceEntry "MissCurves$Leaving" (23 : Nat)) ∈ lw_tbl := lw_at lw_m4 58 rfl
theorem q906 : (Jvm.Cond.methodLink "MissCurves$Leaving" (23 : Nat) ({ cls := "java/lang/CharSequence", name := "toString", desc := "()Ljava/lang/String;" } : Jvm.MethodName)) ∈ lw_all := lw_g (lw_at lw_m4 59 rfl) rfl
theorem q975 : (Jvm.Cond.methodLink "MissCurves$Leaving" (29 : Nat) ({ cls := "java/lang/String", name := "hashCode", desc := "()I" } : Jvm.MethodName)) ∈ lw_all := lw_g (lw_at lw_m4 128 rfl) rfl
theorem q1028 : (Jvm.Cond.stringRef "MissCurves$Leaving" (35 : Nat) "lru") ∈ lw_tbl := lw_at lw_m4 181 rfl
theorem q1029 : (Jvm.Cond.methodLink "MissCurves$Leaving" (37 : Nat) ({ cls := "java/lang/String", name := "equals", desc := "(Ljava/lang/Object;)Z" } : Jvm.MethodName)) ∈ lw_all := lw_g (lw_at lw_m4 182 rfl) rfl
theorem q1037 : (Jvm.Cond.stringRef "MissCurves$Leaving" (41 : Nat) "mru") ∈ lw_tbl := lw_at lw_m4 190 rfl
theorem q1038 : (Jvm.Cond.stringRef "MissCurves$Leaving" (43 : Nat) "fifo") ∈ lw_tbl := lw_at lw_m4 191 rfl
theorem q1039 : (Jvm.Cond.stringRef "MissCurves$Leaving" (45 : Nat) "lfu") ∈ lw_tbl := lw_at lw_m4 192 rfl
theorem q1040 : (Jvm.Cond.stringRef "MissCurves$Leaving" (47 : Nat) "min") ∈ lw_tbl := lw_at lw_m4 193 rfl
theorem q1862 : (Jvm.Cond.fieldLinkNest "MissCurves$Leaving" (19 : Nat) "MissCurves$Held" "readAt" "[I" "MissCurves") ∈ lw_tbl := lw_at lw_m8 55 rfl
theorem q1868 : (Jvm.Cond.fieldLinkNest "MissCurves$Leaving" (3 : Nat) "MissCurves$Held" "n" "I" "MissCurves") ∈ lw_tbl := lw_at lw_m8 61 rfl
theorem q1886 : (Jvm.Cond.static ({ cls := "MissCurves$Leaving", name := "of", desc := "(I)LMissCurves$Leaving;" } : Jvm.MethodName)) ∈ lw_all := lw_g (lw_at lw_m8 79 rfl) rfl
theorem q1887 : (Jvm.Cond.code ({ cls := "MissCurves$Leaving", name := "of", desc := "(I)LMissCurves$Leaving;" } : Jvm.MethodName) prog_14_method_5_code (1 : Nat) (Option.some (Jvm.ClassFile.FieldType.object "MissCurves$Leaving"))) ∈ lw_all := lw_g (lw_at lw_m8 80 rfl) rfl
theorem q1888 : (Jvm.Cond.classLink "MissCurves$Leaving" (49 : Nat) "MissCurves$Oldest") ∈ lw_all := lw_g (lw_at lw_m8 81 rfl) rfl
theorem q1890 : (Jvm.Cond.methodLinkNest "MissCurves$Leaving" (51 : Nat) ({ cls := "MissCurves$Oldest", name := "<init>", desc := "()V" } : Jvm.MethodName) "MissCurves") ∈ lw_tbl := lw_at lw_m8 83 rfl
theorem q1895 : (Jvm.Cond.classLink "MissCurves$Leaving" (55 : Nat) "MissCurves$Newest") ∈ lw_all := lw_g (lw_at lw_m8 88 rfl) rfl
theorem q1897 : (Jvm.Cond.methodLinkNest "MissCurves$Leaving" (57 : Nat) ({ cls := "MissCurves$Newest", name := "<init>", desc := "()V" } : Jvm.MethodName) "MissCurves") ∈ lw_tbl := lw_at lw_m8 90 rfl
theorem q1902 : (Jvm.Cond.classLink "MissCurves$Leaving" (58 : Nat) "MissCurves$Longest") ∈ lw_all := lw_g (lw_at lw_m8 95 rfl) rfl
theorem q1904 : (Jvm.Cond.methodLinkNest "MissCurves$Leaving" (60 : Nat) ({ cls := "MissCurves$Longest", name := "<init>", desc := "()V" } : Jvm.MethodName) "MissCurves") ∈ lw_tbl := lw_at lw_m8 97 rfl
theorem q1909 : (Jvm.Cond.classLink "MissCurves$Leaving" (61 : Nat) "MissCurves$Rarest") ∈ lw_all := lw_g (lw_at lw_m8 102 rfl) rfl
theorem q1911 : (Jvm.Cond.methodLinkNest "MissCurves$Leaving" (63 : Nat) ({ cls := "MissCurves$Rarest", name := "<init>", desc := "()V" } : Jvm.MethodName) "MissCurves") ∈ lw_tbl := lw_at lw_m8 104 rfl
theorem q1916 : (Jvm.Cond.classLink "MissCurves$Leaving" (64 : Nat) "MissCurves$Latest") ∈ lw_all := lw_g (lw_at lw_m8 109 rfl) rfl
theorem q1918 : (Jvm.Cond.methodLinkNest "MissCurves$Leaving" (66 : Nat) ({ cls := "MissCurves$Latest", name := "<init>", desc := "()V" } : Jvm.MethodName) "MissCurves") ∈ lw_tbl := lw_at lw_m8 111 rfl
theorem q1933 : (Jvm.Cond.interfaceMethod "MissCurves$Leaving" "MissCurves$Leaving" "who" "(LMissCurves$Held;)I") ∈ lw_tbl := lw_at lw_m8 126 rfl
theorem q1934 : (Jvm.Cond.declares ({ cls := "MissCurves$Leaving", name := "who", desc := "(LMissCurves$Held;)I" } : Jvm.MethodName)) ∈ lw_tbl := lw_at lw_m8 127 rfl
theorem q1937 : (Jvm.Cond.instanceMethod ({ cls := "MissCurves$Leaving", name := "who", desc := "(LMissCurves$Held;)I" } : Jvm.MethodName)) ∈ lw_all := lw_g (lw_at lw_m8 130 rfl) rfl
theorem q1938 : (Jvm.Cond.publicMethod ({ cls := "MissCurves$Leaving", name := "who", desc := "(LMissCurves$Held;)I" } : Jvm.MethodName)) ∈ lw_tbl := lw_at lw_m8 131 rfl
theorem q1939 : (Jvm.Cond.code ({ cls := "MissCurves$Leaving", name := "who", desc := "(LMissCurves$Held;)I" } : Jvm.MethodName) prog_14_method_2_code (5 : Nat) (Option.some Jvm.ClassFile.FieldType.int)) ∈ lw_all := lw_g (lw_at lw_m8 132 rfl) rfl
theorem q1940 : (Jvm.Cond.interfaceEntry "MissCurves$Leaving" (9 : Nat)) ∈ lw_tbl := lw_at lw_m8 133 rfl
theorem q1941 : (Jvm.Cond.methodLink "MissCurves$Leaving" (9 : Nat) ({ cls := "MissCurves$Leaving", name := "rank", desc := "(LMissCurves$Held;I)I" } : Jvm.MethodName)) ∈ lw_all := lw_g (lw_at lw_m8 134 rfl) rfl
theorem q1942 : (Jvm.Cond.interfaceMethod "MissCurves$Leaving" "MissCurves$Leaving" "rank" "(LMissCurves$Held;I)I") ∈ lw_tbl := lw_at lw_m8 135 rfl
theorem q1943 : (Jvm.Cond.declares ({ cls := "MissCurves$Leaving", name := "rank", desc := "(LMissCurves$Held;I)I" } : Jvm.MethodName)) ∈ lw_tbl := lw_at lw_m8 136 rfl
theorem q1981 : (Jvm.Cond.interfaceEntry "MissCurves$Leaving" (15 : Nat)) ∈ lw_tbl := lw_at lw_m8 174 rfl
theorem q1982 : (Jvm.Cond.methodLink "MissCurves$Leaving" (15 : Nat) ({ cls := "MissCurves$Leaving", name := "isAhead", desc := "(LMissCurves$Held;II)Z" } : Jvm.MethodName)) ∈ lw_all := lw_g (lw_at lw_m8 175 rfl) rfl
theorem q1983 : (Jvm.Cond.interfaceMethod "MissCurves$Leaving" "MissCurves$Leaving" "isAhead" "(LMissCurves$Held;II)Z") ∈ lw_tbl := lw_at lw_m8 176 rfl
theorem q1984 : (Jvm.Cond.declares ({ cls := "MissCurves$Leaving", name := "isAhead", desc := "(LMissCurves$Held;II)Z" } : Jvm.MethodName)) ∈ lw_tbl := lw_at lw_m8 177 rfl
theorem q1991 : (Jvm.Cond.instanceMethod ({ cls := "MissCurves$Leaving", name := "isAhead", desc := "(LMissCurves$Held;II)Z" } : Jvm.MethodName)) ∈ lw_all := lw_g (lw_at lw_m8 184 rfl) rfl
theorem q1992 : (Jvm.Cond.publicMethod ({ cls := "MissCurves$Leaving", name := "isAhead", desc := "(LMissCurves$Held;II)Z" } : Jvm.MethodName)) ∈ lw_tbl := lw_at lw_m8 185 rfl
theorem q1993 : (Jvm.Cond.code ({ cls := "MissCurves$Leaving", name := "isAhead", desc := "(LMissCurves$Held;II)Z" } : Jvm.MethodName) prog_14_method_3_code (4 : Nat) (Option.some Jvm.ClassFile.FieldType.boolean)) ∈ lw_all := lw_g (lw_at lw_m8 186 rfl) rfl

/-! MissCurves$Reader -/
set_option maxRecDepth 100000
def RX9 : String := "MissCurves$Reader"
abbrev cX9_init : ByteArray := prog_23_method_1_code
def yX9_init : MethodName := ⟨RX9, "<init>", "(LMissCurves;[Ljava/lang/String;)V"⟩
def dkwX9_init_0 : List UInt8 := [42, 43, 181, 0, 3, 42, 183, 0, 9, 42, 16, 50, 189, 0, 15, 181, 0, 17, 42, 44, 181, 0, 21, 177]
abbrev dktX9_init_0 : List UInt8 := dkwX9_init_0 ++ []
theorem dksX9_init_0 : cX9_init.data.toList.drop 0 = dktX9_init_0 := by decide +kernel
theorem dX9_init_0 : decode cX9_init 0 = .ok (.aload_n 0, 1) := dk_42 (dk_at dksX9_init_0 0 rfl rfl)
theorem dX9_init_1 : decode cX9_init 1 = .ok (.aload_n 1, 1) := dk_43 (dk_at dksX9_init_0 1 rfl rfl)
theorem dX9_init_2 : decode cX9_init 2 = .ok (.putfield 3, 3) := dk_181 0 3 (dk_at dksX9_init_0 2 rfl rfl)
theorem dX9_init_5 : decode cX9_init 5 = .ok (.aload_n 0, 1) := dk_42 (dk_at dksX9_init_0 5 rfl rfl)
theorem dX9_init_6 : decode cX9_init 6 = .ok (.invokespecial 9, 3) := dk_183 0 9 (dk_at dksX9_init_0 6 rfl rfl)
theorem dX9_init_9 : decode cX9_init 9 = .ok (.aload_n 0, 1) := dk_42 (dk_at dksX9_init_0 9 rfl rfl)
theorem dX9_init_10 : decode cX9_init 10 = .ok (.bipush 50, 2) := dk_16 50 (dk_at dksX9_init_0 10 rfl rfl)
theorem dX9_init_12 : decode cX9_init 12 = .ok (.anewarray 15, 3) := dk_189 0 15 (dk_at dksX9_init_0 12 rfl rfl)
theorem dX9_init_15 : decode cX9_init 15 = .ok (.putfield 17, 3) := dk_181 0 17 (dk_at dksX9_init_0 15 rfl rfl)
theorem dX9_init_18 : decode cX9_init 18 = .ok (.aload_n 0, 1) := dk_42 (dk_at dksX9_init_0 18 rfl rfl)
theorem dX9_init_19 : decode cX9_init 19 = .ok (.aload_n 2, 1) := dk_44 (dk_at dksX9_init_0 19 rfl rfl)
theorem dX9_init_20 : decode cX9_init 20 = .ok (.putfield 21, 3) := dk_181 0 21 (dk_at dksX9_init_0 20 rfl rfl)
theorem dX9_init_23 : decode cX9_init 23 = .ok (.return_, 1) := dk_177 (dk_at dksX9_init_0 23 rfl rfl)
abbrev cX9_readAll : ByteArray := prog_23_method_2_code
def yX9_readAll : MethodName := ⟨RX9, "readAll", "()I"⟩
def dkwX9_readAll_2 : List UInt8 := [180, 0, 46, 160, 0, 7, 4, 167, 0, 4, 3, 182, 0, 28, 27, 172]
abbrev dktX9_readAll_2 : List UInt8 := dkwX9_readAll_2 ++ []
def dkwX9_readAll_1 : List UInt8 := [182, 0, 32, 132, 1, 1, 42, 18, 36, 182, 0, 38, 154, 255, 227, 42, 42, 180, 0, 42, 42, 180, 0, 3]
abbrev dktX9_readAll_1 : List UInt8 := dkwX9_readAll_1 ++ dktX9_readAll_2
def dkwX9_readAll_0 : List UInt8 := [3, 60, 42, 182, 0, 25, 42, 27, 16, 12, 162, 0, 7, 4, 167, 0, 4, 3, 182, 0, 28, 42, 27]
abbrev dktX9_readAll_0 : List UInt8 := dkwX9_readAll_0 ++ dktX9_readAll_1
theorem dksX9_readAll_0 : cX9_readAll.data.toList.drop 0 = dktX9_readAll_0 := by decide +kernel
theorem dksX9_readAll_1 : cX9_readAll.data.toList.drop 23 = dktX9_readAll_1 := dk_seg dksX9_readAll_0 23 rfl rfl
theorem dksX9_readAll_2 : cX9_readAll.data.toList.drop 47 = dktX9_readAll_2 := dk_seg dksX9_readAll_1 24 rfl rfl
theorem dX9_readAll_0 : decode cX9_readAll 0 = .ok (.iconst 0, 1) := dk_3 (dk_at dksX9_readAll_0 0 rfl rfl)
theorem dX9_readAll_1 : decode cX9_readAll 1 = .ok (.istore_n 1, 1) := dk_60 (dk_at dksX9_readAll_0 1 rfl rfl)
theorem dX9_readAll_2 : decode cX9_readAll 2 = .ok (.aload_n 0, 1) := dk_42 (dk_at dksX9_readAll_0 2 rfl rfl)
theorem dX9_readAll_3 : decode cX9_readAll 3 = .ok (.invokevirtual 25, 3) := dk_182 0 25 (dk_at dksX9_readAll_0 3 rfl rfl)
theorem dX9_readAll_6 : decode cX9_readAll 6 = .ok (.aload_n 0, 1) := dk_42 (dk_at dksX9_readAll_0 6 rfl rfl)
theorem dX9_readAll_7 : decode cX9_readAll 7 = .ok (.iload_n 1, 1) := dk_27 (dk_at dksX9_readAll_0 7 rfl rfl)
theorem dX9_readAll_8 : decode cX9_readAll 8 = .ok (.bipush 12, 2) := dk_16 12 (dk_at dksX9_readAll_0 8 rfl rfl)
theorem dX9_readAll_10 : decode cX9_readAll 10 = .ok (.if_icmp .ge 7, 3) := dk_162 0 7 (dk_at dksX9_readAll_0 10 rfl rfl)
theorem dX9_readAll_13 : decode cX9_readAll 13 = .ok (.iconst 1, 1) := dk_4 (dk_at dksX9_readAll_0 13 rfl rfl)
theorem dX9_readAll_14 : decode cX9_readAll 14 = .ok (.goto 4, 3) := dk_167 0 4 (dk_at dksX9_readAll_0 14 rfl rfl)
theorem dX9_readAll_17 : decode cX9_readAll 17 = .ok (.iconst 0, 1) := dk_3 (dk_at dksX9_readAll_0 17 rfl rfl)
theorem dX9_readAll_18 : decode cX9_readAll 18 = .ok (.invokevirtual 28, 3) := dk_182 0 28 (dk_at dksX9_readAll_0 18 rfl rfl)
theorem dX9_readAll_21 : decode cX9_readAll 21 = .ok (.aload_n 0, 1) := dk_42 (dk_at dksX9_readAll_0 21 rfl rfl)
theorem dX9_readAll_22 : decode cX9_readAll 22 = .ok (.iload_n 1, 1) := dk_27 (dk_at dksX9_readAll_0 22 rfl rfl)
theorem dX9_readAll_23 : decode cX9_readAll 23 = .ok (.invokevirtual 32, 3) := dk_182 0 32 (dk_at dksX9_readAll_1 0 rfl rfl)
theorem dX9_readAll_26 : decode cX9_readAll 26 = .ok (.iinc 1 1, 3) := dk_132 1 1 (dk_at dksX9_readAll_1 3 rfl rfl)
theorem dX9_readAll_29 : decode cX9_readAll 29 = .ok (.aload_n 0, 1) := dk_42 (dk_at dksX9_readAll_1 6 rfl rfl)
theorem dX9_readAll_30 : decode cX9_readAll 30 = .ok (.ldc 36, 2) := dk_18 36 (dk_at dksX9_readAll_1 7 rfl rfl)
theorem dX9_readAll_32 : decode cX9_readAll 32 = .ok (.invokevirtual 38, 3) := dk_182 0 38 (dk_at dksX9_readAll_1 9 rfl rfl)
theorem dX9_readAll_35 : decode cX9_readAll 35 = .ok (.ifCond .ne (-29), 3) := dk_154 255 227 (dk_at dksX9_readAll_1 12 rfl rfl)
theorem dX9_readAll_38 : decode cX9_readAll 38 = .ok (.aload_n 0, 1) := dk_42 (dk_at dksX9_readAll_1 15 rfl rfl)
theorem dX9_readAll_39 : decode cX9_readAll 39 = .ok (.aload_n 0, 1) := dk_42 (dk_at dksX9_readAll_1 16 rfl rfl)
theorem dX9_readAll_40 : decode cX9_readAll 40 = .ok (.getfield 42, 3) := dk_180 0 42 (dk_at dksX9_readAll_1 17 rfl rfl)
theorem dX9_readAll_43 : decode cX9_readAll 43 = .ok (.aload_n 0, 1) := dk_42 (dk_at dksX9_readAll_1 20 rfl rfl)
theorem dX9_readAll_44 : decode cX9_readAll 44 = .ok (.getfield 3, 3) := dk_180 0 3 (dk_at dksX9_readAll_1 21 rfl rfl)
theorem dX9_readAll_47 : decode cX9_readAll 47 = .ok (.getfield 46, 3) := dk_180 0 46 (dk_at dksX9_readAll_2 0 rfl rfl)
theorem dX9_readAll_50 : decode cX9_readAll 50 = .ok (.if_icmp .ne 7, 3) := dk_160 0 7 (dk_at dksX9_readAll_2 3 rfl rfl)
theorem dX9_readAll_53 : decode cX9_readAll 53 = .ok (.iconst 1, 1) := dk_4 (dk_at dksX9_readAll_2 6 rfl rfl)
theorem dX9_readAll_54 : decode cX9_readAll 54 = .ok (.goto 4, 3) := dk_167 0 4 (dk_at dksX9_readAll_2 7 rfl rfl)
theorem dX9_readAll_57 : decode cX9_readAll 57 = .ok (.iconst 0, 1) := dk_3 (dk_at dksX9_readAll_2 10 rfl rfl)
theorem dX9_readAll_58 : decode cX9_readAll 58 = .ok (.invokevirtual 28, 3) := dk_182 0 28 (dk_at dksX9_readAll_2 11 rfl rfl)
theorem dX9_readAll_61 : decode cX9_readAll 61 = .ok (.iload_n 1, 1) := dk_27 (dk_at dksX9_readAll_2 14 rfl rfl)
theorem dX9_readAll_62 : decode cX9_readAll 62 = .ok (.ireturn, 1) := dk_172 (dk_at dksX9_readAll_2 15 rfl rfl)
abbrev cX9_next : ByteArray := prog_23_method_4_code
def yX9_next : MethodName := ⟨RX9, "next", "()V"⟩
def dkwX9_next_8 : List UInt8 := [181, 0, 49, 167, 255, 188, 177]
abbrev dktX9_next_8 : List UInt8 := dkwX9_next_8 ++ []
def dkwX9_next_7 : List UInt8 := [180, 0, 3, 180, 0, 52, 42, 180, 0, 49, 51, 184, 0, 60, 153, 0, 16, 42, 89, 180, 0, 49, 4, 96]
abbrev dktX9_next_7 : List UInt8 := dkwX9_next_7 ++ dktX9_next_8
def dkwX9_next_6 : List UInt8 := [180, 0, 3, 180, 0, 52, 42, 180, 0, 49, 51, 184, 0, 56, 154, 0, 25, 28, 153, 0, 34, 42]
abbrev dktX9_next_6 : List UInt8 := dkwX9_next_6 ++ dktX9_next_7
def dkwX9_next_5 : List UInt8 := [181, 0, 49, 42, 180, 0, 49, 42, 180, 0, 3, 180, 0, 46, 162, 0, 60, 27, 153, 0, 21, 42]
abbrev dktX9_next_5 : List UInt8 := dkwX9_next_5 ++ dktX9_next_6
def dkwX9_next_4 : List UInt8 := [180, 0, 3, 180, 0, 52, 42, 180, 0, 49, 51, 184, 0, 60, 61, 42, 89, 180, 0, 49, 4, 96]
abbrev dktX9_next_4 : List UInt8 := dkwX9_next_4 ++ dktX9_next_5
def dkwX9_next_3 : List UInt8 := [180, 0, 46, 160, 0, 4, 177, 42, 180, 0, 3, 180, 0, 52, 42, 180, 0, 49, 51, 184, 0, 56, 60, 42]
abbrev dktX9_next_3 : List UInt8 := dkwX9_next_3 ++ dktX9_next_4
def dkwX9_next_2 : List UInt8 := [181, 0, 42, 167, 255, 215, 42, 42, 180, 0, 42, 181, 0, 49, 42, 180, 0, 49, 42, 180, 0, 3]
abbrev dktX9_next_2 : List UInt8 := dkwX9_next_2 ++ dktX9_next_3
def dkwX9_next_1 : List UInt8 := [180, 0, 3, 180, 0, 52, 42, 180, 0, 42, 51, 16, 32, 160, 0, 16, 42, 89, 180, 0, 42, 4, 96]
abbrev dktX9_next_1 : List UInt8 := dkwX9_next_1 ++ dktX9_next_2
def dkwX9_next_0 : List UInt8 := [42, 42, 180, 0, 49, 181, 0, 42, 42, 180, 0, 42, 42, 180, 0, 3, 180, 0, 46, 162, 0, 33, 42]
abbrev dktX9_next_0 : List UInt8 := dkwX9_next_0 ++ dktX9_next_1
theorem dksX9_next_0 : cX9_next.data.toList.drop 0 = dktX9_next_0 := by decide +kernel
theorem dksX9_next_1 : cX9_next.data.toList.drop 23 = dktX9_next_1 := dk_seg dksX9_next_0 23 rfl rfl
theorem dksX9_next_2 : cX9_next.data.toList.drop 46 = dktX9_next_2 := dk_seg dksX9_next_1 23 rfl rfl
theorem dksX9_next_3 : cX9_next.data.toList.drop 68 = dktX9_next_3 := dk_seg dksX9_next_2 22 rfl rfl
theorem dksX9_next_4 : cX9_next.data.toList.drop 92 = dktX9_next_4 := dk_seg dksX9_next_3 24 rfl rfl
theorem dksX9_next_5 : cX9_next.data.toList.drop 114 = dktX9_next_5 := dk_seg dksX9_next_4 22 rfl rfl
theorem dksX9_next_6 : cX9_next.data.toList.drop 136 = dktX9_next_6 := dk_seg dksX9_next_5 22 rfl rfl
theorem dksX9_next_7 : cX9_next.data.toList.drop 158 = dktX9_next_7 := dk_seg dksX9_next_6 22 rfl rfl
theorem dksX9_next_8 : cX9_next.data.toList.drop 182 = dktX9_next_8 := dk_seg dksX9_next_7 24 rfl rfl
theorem dX9_next_0 : decode cX9_next 0 = .ok (.aload_n 0, 1) := dk_42 (dk_at dksX9_next_0 0 rfl rfl)
theorem dX9_next_1 : decode cX9_next 1 = .ok (.aload_n 0, 1) := dk_42 (dk_at dksX9_next_0 1 rfl rfl)
theorem dX9_next_2 : decode cX9_next 2 = .ok (.getfield 49, 3) := dk_180 0 49 (dk_at dksX9_next_0 2 rfl rfl)
theorem dX9_next_5 : decode cX9_next 5 = .ok (.putfield 42, 3) := dk_181 0 42 (dk_at dksX9_next_0 5 rfl rfl)
theorem dX9_next_8 : decode cX9_next 8 = .ok (.aload_n 0, 1) := dk_42 (dk_at dksX9_next_0 8 rfl rfl)
theorem dX9_next_9 : decode cX9_next 9 = .ok (.getfield 42, 3) := dk_180 0 42 (dk_at dksX9_next_0 9 rfl rfl)
theorem dX9_next_12 : decode cX9_next 12 = .ok (.aload_n 0, 1) := dk_42 (dk_at dksX9_next_0 12 rfl rfl)
theorem dX9_next_13 : decode cX9_next 13 = .ok (.getfield 3, 3) := dk_180 0 3 (dk_at dksX9_next_0 13 rfl rfl)
theorem dX9_next_16 : decode cX9_next 16 = .ok (.getfield 46, 3) := dk_180 0 46 (dk_at dksX9_next_0 16 rfl rfl)
theorem dX9_next_19 : decode cX9_next 19 = .ok (.if_icmp .ge 33, 3) := dk_162 0 33 (dk_at dksX9_next_0 19 rfl rfl)
theorem dX9_next_22 : decode cX9_next 22 = .ok (.aload_n 0, 1) := dk_42 (dk_at dksX9_next_0 22 rfl rfl)
theorem dX9_next_23 : decode cX9_next 23 = .ok (.getfield 3, 3) := dk_180 0 3 (dk_at dksX9_next_1 0 rfl rfl)
theorem dX9_next_26 : decode cX9_next 26 = .ok (.getfield 52, 3) := dk_180 0 52 (dk_at dksX9_next_1 3 rfl rfl)
theorem dX9_next_29 : decode cX9_next 29 = .ok (.aload_n 0, 1) := dk_42 (dk_at dksX9_next_1 6 rfl rfl)
theorem dX9_next_30 : decode cX9_next 30 = .ok (.getfield 42, 3) := dk_180 0 42 (dk_at dksX9_next_1 7 rfl rfl)
theorem dX9_next_33 : decode cX9_next 33 = .ok (.baload, 1) := dk_51 (dk_at dksX9_next_1 10 rfl rfl)
theorem dX9_next_34 : decode cX9_next 34 = .ok (.bipush 32, 2) := dk_16 32 (dk_at dksX9_next_1 11 rfl rfl)
theorem dX9_next_36 : decode cX9_next 36 = .ok (.if_icmp .ne 16, 3) := dk_160 0 16 (dk_at dksX9_next_1 13 rfl rfl)
theorem dX9_next_39 : decode cX9_next 39 = .ok (.aload_n 0, 1) := dk_42 (dk_at dksX9_next_1 16 rfl rfl)
theorem dX9_next_40 : decode cX9_next 40 = .ok (.dup, 1) := dk_89 (dk_at dksX9_next_1 17 rfl rfl)
theorem dX9_next_41 : decode cX9_next 41 = .ok (.getfield 42, 3) := dk_180 0 42 (dk_at dksX9_next_1 18 rfl rfl)
theorem dX9_next_44 : decode cX9_next 44 = .ok (.iconst 1, 1) := dk_4 (dk_at dksX9_next_1 21 rfl rfl)
theorem dX9_next_45 : decode cX9_next 45 = .ok (.iadd, 1) := dk_96 (dk_at dksX9_next_1 22 rfl rfl)
theorem dX9_next_46 : decode cX9_next 46 = .ok (.putfield 42, 3) := dk_181 0 42 (dk_at dksX9_next_2 0 rfl rfl)
theorem dX9_next_49 : decode cX9_next 49 = .ok (.goto (-41), 3) := dk_167 255 215 (dk_at dksX9_next_2 3 rfl rfl)
theorem dX9_next_52 : decode cX9_next 52 = .ok (.aload_n 0, 1) := dk_42 (dk_at dksX9_next_2 6 rfl rfl)
theorem dX9_next_53 : decode cX9_next 53 = .ok (.aload_n 0, 1) := dk_42 (dk_at dksX9_next_2 7 rfl rfl)
theorem dX9_next_54 : decode cX9_next 54 = .ok (.getfield 42, 3) := dk_180 0 42 (dk_at dksX9_next_2 8 rfl rfl)
theorem dX9_next_57 : decode cX9_next 57 = .ok (.putfield 49, 3) := dk_181 0 49 (dk_at dksX9_next_2 11 rfl rfl)
theorem dX9_next_60 : decode cX9_next 60 = .ok (.aload_n 0, 1) := dk_42 (dk_at dksX9_next_2 14 rfl rfl)
theorem dX9_next_61 : decode cX9_next 61 = .ok (.getfield 49, 3) := dk_180 0 49 (dk_at dksX9_next_2 15 rfl rfl)
theorem dX9_next_64 : decode cX9_next 64 = .ok (.aload_n 0, 1) := dk_42 (dk_at dksX9_next_2 18 rfl rfl)
theorem dX9_next_65 : decode cX9_next 65 = .ok (.getfield 3, 3) := dk_180 0 3 (dk_at dksX9_next_2 19 rfl rfl)
theorem dX9_next_68 : decode cX9_next 68 = .ok (.getfield 46, 3) := dk_180 0 46 (dk_at dksX9_next_3 0 rfl rfl)
theorem dX9_next_71 : decode cX9_next 71 = .ok (.if_icmp .ne 4, 3) := dk_160 0 4 (dk_at dksX9_next_3 3 rfl rfl)
theorem dX9_next_74 : decode cX9_next 74 = .ok (.return_, 1) := dk_177 (dk_at dksX9_next_3 6 rfl rfl)
theorem dX9_next_75 : decode cX9_next 75 = .ok (.aload_n 0, 1) := dk_42 (dk_at dksX9_next_3 7 rfl rfl)
theorem dX9_next_76 : decode cX9_next 76 = .ok (.getfield 3, 3) := dk_180 0 3 (dk_at dksX9_next_3 8 rfl rfl)
theorem dX9_next_79 : decode cX9_next 79 = .ok (.getfield 52, 3) := dk_180 0 52 (dk_at dksX9_next_3 11 rfl rfl)
theorem dX9_next_82 : decode cX9_next 82 = .ok (.aload_n 0, 1) := dk_42 (dk_at dksX9_next_3 14 rfl rfl)
theorem dX9_next_83 : decode cX9_next 83 = .ok (.getfield 49, 3) := dk_180 0 49 (dk_at dksX9_next_3 15 rfl rfl)
theorem dX9_next_86 : decode cX9_next 86 = .ok (.baload, 1) := dk_51 (dk_at dksX9_next_3 18 rfl rfl)
theorem dX9_next_87 : decode cX9_next 87 = .ok (.invokestatic 56, 3) := dk_184 0 56 (dk_at dksX9_next_3 19 rfl rfl)
theorem dX9_next_90 : decode cX9_next 90 = .ok (.istore_n 1, 1) := dk_60 (dk_at dksX9_next_3 22 rfl rfl)
theorem dX9_next_91 : decode cX9_next 91 = .ok (.aload_n 0, 1) := dk_42 (dk_at dksX9_next_3 23 rfl rfl)
theorem dX9_next_92 : decode cX9_next 92 = .ok (.getfield 3, 3) := dk_180 0 3 (dk_at dksX9_next_4 0 rfl rfl)
theorem dX9_next_95 : decode cX9_next 95 = .ok (.getfield 52, 3) := dk_180 0 52 (dk_at dksX9_next_4 3 rfl rfl)
theorem dX9_next_98 : decode cX9_next 98 = .ok (.aload_n 0, 1) := dk_42 (dk_at dksX9_next_4 6 rfl rfl)
theorem dX9_next_99 : decode cX9_next 99 = .ok (.getfield 49, 3) := dk_180 0 49 (dk_at dksX9_next_4 7 rfl rfl)
theorem dX9_next_102 : decode cX9_next 102 = .ok (.baload, 1) := dk_51 (dk_at dksX9_next_4 10 rfl rfl)
theorem dX9_next_103 : decode cX9_next 103 = .ok (.invokestatic 60, 3) := dk_184 0 60 (dk_at dksX9_next_4 11 rfl rfl)
theorem dX9_next_106 : decode cX9_next 106 = .ok (.istore_n 2, 1) := dk_61 (dk_at dksX9_next_4 14 rfl rfl)
theorem dX9_next_107 : decode cX9_next 107 = .ok (.aload_n 0, 1) := dk_42 (dk_at dksX9_next_4 15 rfl rfl)
theorem dX9_next_108 : decode cX9_next 108 = .ok (.dup, 1) := dk_89 (dk_at dksX9_next_4 16 rfl rfl)
theorem dX9_next_109 : decode cX9_next 109 = .ok (.getfield 49, 3) := dk_180 0 49 (dk_at dksX9_next_4 17 rfl rfl)
theorem dX9_next_112 : decode cX9_next 112 = .ok (.iconst 1, 1) := dk_4 (dk_at dksX9_next_4 20 rfl rfl)
theorem dX9_next_113 : decode cX9_next 113 = .ok (.iadd, 1) := dk_96 (dk_at dksX9_next_4 21 rfl rfl)
theorem dX9_next_114 : decode cX9_next 114 = .ok (.putfield 49, 3) := dk_181 0 49 (dk_at dksX9_next_5 0 rfl rfl)
theorem dX9_next_117 : decode cX9_next 117 = .ok (.aload_n 0, 1) := dk_42 (dk_at dksX9_next_5 3 rfl rfl)
theorem dX9_next_118 : decode cX9_next 118 = .ok (.getfield 49, 3) := dk_180 0 49 (dk_at dksX9_next_5 4 rfl rfl)
theorem dX9_next_121 : decode cX9_next 121 = .ok (.aload_n 0, 1) := dk_42 (dk_at dksX9_next_5 7 rfl rfl)
theorem dX9_next_122 : decode cX9_next 122 = .ok (.getfield 3, 3) := dk_180 0 3 (dk_at dksX9_next_5 8 rfl rfl)
theorem dX9_next_125 : decode cX9_next 125 = .ok (.getfield 46, 3) := dk_180 0 46 (dk_at dksX9_next_5 11 rfl rfl)
theorem dX9_next_128 : decode cX9_next 128 = .ok (.if_icmp .ge 60, 3) := dk_162 0 60 (dk_at dksX9_next_5 14 rfl rfl)
theorem dX9_next_131 : decode cX9_next 131 = .ok (.iload_n 1, 1) := dk_27 (dk_at dksX9_next_5 17 rfl rfl)
theorem dX9_next_132 : decode cX9_next 132 = .ok (.ifCond .eq 21, 3) := dk_153 0 21 (dk_at dksX9_next_5 18 rfl rfl)
theorem dX9_next_135 : decode cX9_next 135 = .ok (.aload_n 0, 1) := dk_42 (dk_at dksX9_next_5 21 rfl rfl)
theorem dX9_next_136 : decode cX9_next 136 = .ok (.getfield 3, 3) := dk_180 0 3 (dk_at dksX9_next_6 0 rfl rfl)
theorem dX9_next_139 : decode cX9_next 139 = .ok (.getfield 52, 3) := dk_180 0 52 (dk_at dksX9_next_6 3 rfl rfl)
theorem dX9_next_142 : decode cX9_next 142 = .ok (.aload_n 0, 1) := dk_42 (dk_at dksX9_next_6 6 rfl rfl)
theorem dX9_next_143 : decode cX9_next 143 = .ok (.getfield 49, 3) := dk_180 0 49 (dk_at dksX9_next_6 7 rfl rfl)
theorem dX9_next_146 : decode cX9_next 146 = .ok (.baload, 1) := dk_51 (dk_at dksX9_next_6 10 rfl rfl)
theorem dX9_next_147 : decode cX9_next 147 = .ok (.invokestatic 56, 3) := dk_184 0 56 (dk_at dksX9_next_6 11 rfl rfl)
theorem dX9_next_150 : decode cX9_next 150 = .ok (.ifCond .ne 25, 3) := dk_154 0 25 (dk_at dksX9_next_6 14 rfl rfl)
theorem dX9_next_153 : decode cX9_next 153 = .ok (.iload_n 2, 1) := dk_28 (dk_at dksX9_next_6 17 rfl rfl)
theorem dX9_next_154 : decode cX9_next 154 = .ok (.ifCond .eq 34, 3) := dk_153 0 34 (dk_at dksX9_next_6 18 rfl rfl)
theorem dX9_next_157 : decode cX9_next 157 = .ok (.aload_n 0, 1) := dk_42 (dk_at dksX9_next_6 21 rfl rfl)
theorem dX9_next_158 : decode cX9_next 158 = .ok (.getfield 3, 3) := dk_180 0 3 (dk_at dksX9_next_7 0 rfl rfl)
theorem dX9_next_161 : decode cX9_next 161 = .ok (.getfield 52, 3) := dk_180 0 52 (dk_at dksX9_next_7 3 rfl rfl)
theorem dX9_next_164 : decode cX9_next 164 = .ok (.aload_n 0, 1) := dk_42 (dk_at dksX9_next_7 6 rfl rfl)
theorem dX9_next_165 : decode cX9_next 165 = .ok (.getfield 49, 3) := dk_180 0 49 (dk_at dksX9_next_7 7 rfl rfl)
theorem dX9_next_168 : decode cX9_next 168 = .ok (.baload, 1) := dk_51 (dk_at dksX9_next_7 10 rfl rfl)
theorem dX9_next_169 : decode cX9_next 169 = .ok (.invokestatic 60, 3) := dk_184 0 60 (dk_at dksX9_next_7 11 rfl rfl)
theorem dX9_next_172 : decode cX9_next 172 = .ok (.ifCond .eq 16, 3) := dk_153 0 16 (dk_at dksX9_next_7 14 rfl rfl)
theorem dX9_next_175 : decode cX9_next 175 = .ok (.aload_n 0, 1) := dk_42 (dk_at dksX9_next_7 17 rfl rfl)
theorem dX9_next_176 : decode cX9_next 176 = .ok (.dup, 1) := dk_89 (dk_at dksX9_next_7 18 rfl rfl)
theorem dX9_next_177 : decode cX9_next 177 = .ok (.getfield 49, 3) := dk_180 0 49 (dk_at dksX9_next_7 19 rfl rfl)
theorem dX9_next_180 : decode cX9_next 180 = .ok (.iconst 1, 1) := dk_4 (dk_at dksX9_next_7 22 rfl rfl)
theorem dX9_next_181 : decode cX9_next 181 = .ok (.iadd, 1) := dk_96 (dk_at dksX9_next_7 23 rfl rfl)
theorem dX9_next_182 : decode cX9_next 182 = .ok (.putfield 49, 3) := dk_181 0 49 (dk_at dksX9_next_8 0 rfl rfl)
theorem dX9_next_185 : decode cX9_next 185 = .ok (.goto (-68), 3) := dk_167 255 188 (dk_at dksX9_next_8 3 rfl rfl)
theorem dX9_next_188 : decode cX9_next 188 = .ok (.return_, 1) := dk_177 (dk_at dksX9_next_8 6 rfl rfl)
abbrev cX9_must : ByteArray := prog_23_method_8_code
def yX9_must : MethodName := ⟨RX9, "must", "(Z)V"⟩
def dkwX9_must_0 : List UInt8 := [27, 154, 0, 15, 187, 0, 76, 89, 42, 180, 0, 42, 183, 0, 78, 191, 177]
abbrev dktX9_must_0 : List UInt8 := dkwX9_must_0 ++ []
theorem dksX9_must_0 : cX9_must.data.toList.drop 0 = dktX9_must_0 := by decide +kernel
theorem dX9_must_0 : decode cX9_must 0 = .ok (.iload_n 1, 1) := dk_27 (dk_at dksX9_must_0 0 rfl rfl)
theorem dX9_must_1 : decode cX9_must 1 = .ok (.ifCond .ne 15, 3) := dk_154 0 15 (dk_at dksX9_must_0 1 rfl rfl)
theorem dX9_must_4 : decode cX9_must 4 = .ok (.new 76, 3) := dk_187 0 76 (dk_at dksX9_must_0 4 rfl rfl)
theorem dX9_must_7 : decode cX9_must 7 = .ok (.dup, 1) := dk_89 (dk_at dksX9_must_0 7 rfl rfl)
theorem dX9_must_8 : decode cX9_must 8 = .ok (.aload_n 0, 1) := dk_42 (dk_at dksX9_must_0 8 rfl rfl)
theorem dX9_must_9 : decode cX9_must 9 = .ok (.getfield 42, 3) := dk_180 0 42 (dk_at dksX9_must_0 9 rfl rfl)
theorem dX9_must_12 : decode cX9_must 12 = .ok (.invokespecial 78, 3) := dk_183 0 78 (dk_at dksX9_must_0 12 rfl rfl)
theorem dX9_must_15 : decode cX9_must 15 = .ok (.athrow, 1) := dk_191 (dk_at dksX9_must_0 15 rfl rfl)
theorem dX9_must_16 : decode cX9_must 16 = .ok (.return_, 1) := dk_177 (dk_at dksX9_must_0 16 rfl rfl)
abbrev cX9_which : ByteArray := prog_23_method_6_code
def yX9_which : MethodName := ⟨RX9, "which", "([Ljava/lang/String;)I"⟩
def dkwX9_which_1 : List UInt8 := [167, 255, 235, 2, 172]
abbrev dktX9_which_1 : List UInt8 := dkwX9_which_1 ++ []
def dkwX9_which_0 : List UInt8 := [3, 61, 28, 43, 190, 162, 0, 21, 42, 43, 28, 50, 182, 0, 73, 153, 0, 5, 28, 172, 132, 2, 1]
abbrev dktX9_which_0 : List UInt8 := dkwX9_which_0 ++ dktX9_which_1
theorem dksX9_which_0 : cX9_which.data.toList.drop 0 = dktX9_which_0 := by decide +kernel
theorem dksX9_which_1 : cX9_which.data.toList.drop 23 = dktX9_which_1 := dk_seg dksX9_which_0 23 rfl rfl
theorem dX9_which_0 : decode cX9_which 0 = .ok (.iconst 0, 1) := dk_3 (dk_at dksX9_which_0 0 rfl rfl)
theorem dX9_which_1 : decode cX9_which 1 = .ok (.istore_n 2, 1) := dk_61 (dk_at dksX9_which_0 1 rfl rfl)
theorem dX9_which_2 : decode cX9_which 2 = .ok (.iload_n 2, 1) := dk_28 (dk_at dksX9_which_0 2 rfl rfl)
theorem dX9_which_3 : decode cX9_which 3 = .ok (.aload_n 1, 1) := dk_43 (dk_at dksX9_which_0 3 rfl rfl)
theorem dX9_which_4 : decode cX9_which 4 = .ok (.arraylength, 1) := dk_190 (dk_at dksX9_which_0 4 rfl rfl)
theorem dX9_which_5 : decode cX9_which 5 = .ok (.if_icmp .ge 21, 3) := dk_162 0 21 (dk_at dksX9_which_0 5 rfl rfl)
theorem dX9_which_8 : decode cX9_which 8 = .ok (.aload_n 0, 1) := dk_42 (dk_at dksX9_which_0 8 rfl rfl)
theorem dX9_which_9 : decode cX9_which 9 = .ok (.aload_n 1, 1) := dk_43 (dk_at dksX9_which_0 9 rfl rfl)
theorem dX9_which_10 : decode cX9_which 10 = .ok (.iload_n 2, 1) := dk_28 (dk_at dksX9_which_0 10 rfl rfl)
theorem dX9_which_11 : decode cX9_which 11 = .ok (.aaload, 1) := dk_50 (dk_at dksX9_which_0 11 rfl rfl)
theorem dX9_which_12 : decode cX9_which 12 = .ok (.invokevirtual 73, 3) := dk_182 0 73 (dk_at dksX9_which_0 12 rfl rfl)
theorem dX9_which_15 : decode cX9_which 15 = .ok (.ifCond .eq 5, 3) := dk_153 0 5 (dk_at dksX9_which_0 15 rfl rfl)
theorem dX9_which_18 : decode cX9_which 18 = .ok (.iload_n 2, 1) := dk_28 (dk_at dksX9_which_0 18 rfl rfl)
theorem dX9_which_19 : decode cX9_which 19 = .ok (.ireturn, 1) := dk_172 (dk_at dksX9_which_0 19 rfl rfl)
theorem dX9_which_20 : decode cX9_which 20 = .ok (.iinc 2 1, 3) := dk_132 2 1 (dk_at dksX9_which_0 20 rfl rfl)
theorem dX9_which_23 : decode cX9_which 23 = .ok (.goto (-21), 3) := dk_167 255 235 (dk_at dksX9_which_1 0 rfl rfl)
theorem dX9_which_26 : decode cX9_which 26 = .ok (.iconst (-1), 1) := dk_2 (dk_at dksX9_which_1 3 rfl rfl)
theorem dX9_which_27 : decode cX9_which 27 = .ok (.ireturn, 1) := dk_172 (dk_at dksX9_which_1 4 rfl rfl)
abbrev cX9_isWord : ByteArray := prog_23_method_5_code
def yX9_isWord : MethodName := ⟨RX9, "isWord", "(Ljava/lang/String;)Z"⟩
def dkwX9_isWord_2 : List UInt8 := [182, 0, 69, 159, 0, 5, 3, 172, 132, 2, 1, 167, 255, 221, 4, 172]
abbrev dktX9_isWord_2 : List UInt8 := dkwX9_isWord_2 ++ []
def dkwX9_isWord_1 : List UInt8 := [182, 0, 63, 162, 0, 33, 42, 180, 0, 3, 180, 0, 52, 42, 180, 0, 42, 28, 96, 51, 43, 28]
abbrev dktX9_isWord_1 : List UInt8 := dkwX9_isWord_1 ++ dktX9_isWord_2
def dkwX9_isWord_0 : List UInt8 := [42, 180, 0, 49, 42, 180, 0, 42, 100, 43, 182, 0, 63, 159, 0, 5, 3, 172, 3, 61, 28, 43]
abbrev dktX9_isWord_0 : List UInt8 := dkwX9_isWord_0 ++ dktX9_isWord_1
theorem dksX9_isWord_0 : cX9_isWord.data.toList.drop 0 = dktX9_isWord_0 := by decide +kernel
theorem dksX9_isWord_1 : cX9_isWord.data.toList.drop 22 = dktX9_isWord_1 := dk_seg dksX9_isWord_0 22 rfl rfl
theorem dksX9_isWord_2 : cX9_isWord.data.toList.drop 44 = dktX9_isWord_2 := dk_seg dksX9_isWord_1 22 rfl rfl
theorem dX9_isWord_0 : decode cX9_isWord 0 = .ok (.aload_n 0, 1) := dk_42 (dk_at dksX9_isWord_0 0 rfl rfl)
theorem dX9_isWord_1 : decode cX9_isWord 1 = .ok (.getfield 49, 3) := dk_180 0 49 (dk_at dksX9_isWord_0 1 rfl rfl)
theorem dX9_isWord_4 : decode cX9_isWord 4 = .ok (.aload_n 0, 1) := dk_42 (dk_at dksX9_isWord_0 4 rfl rfl)
theorem dX9_isWord_5 : decode cX9_isWord 5 = .ok (.getfield 42, 3) := dk_180 0 42 (dk_at dksX9_isWord_0 5 rfl rfl)
theorem dX9_isWord_8 : decode cX9_isWord 8 = .ok (.isub, 1) := dk_100 (dk_at dksX9_isWord_0 8 rfl rfl)
theorem dX9_isWord_9 : decode cX9_isWord 9 = .ok (.aload_n 1, 1) := dk_43 (dk_at dksX9_isWord_0 9 rfl rfl)
theorem dX9_isWord_10 : decode cX9_isWord 10 = .ok (.invokevirtual 63, 3) := dk_182 0 63 (dk_at dksX9_isWord_0 10 rfl rfl)
theorem dX9_isWord_13 : decode cX9_isWord 13 = .ok (.if_icmp .eq 5, 3) := dk_159 0 5 (dk_at dksX9_isWord_0 13 rfl rfl)
theorem dX9_isWord_16 : decode cX9_isWord 16 = .ok (.iconst 0, 1) := dk_3 (dk_at dksX9_isWord_0 16 rfl rfl)
theorem dX9_isWord_17 : decode cX9_isWord 17 = .ok (.ireturn, 1) := dk_172 (dk_at dksX9_isWord_0 17 rfl rfl)
theorem dX9_isWord_18 : decode cX9_isWord 18 = .ok (.iconst 0, 1) := dk_3 (dk_at dksX9_isWord_0 18 rfl rfl)
theorem dX9_isWord_19 : decode cX9_isWord 19 = .ok (.istore_n 2, 1) := dk_61 (dk_at dksX9_isWord_0 19 rfl rfl)
theorem dX9_isWord_20 : decode cX9_isWord 20 = .ok (.iload_n 2, 1) := dk_28 (dk_at dksX9_isWord_0 20 rfl rfl)
theorem dX9_isWord_21 : decode cX9_isWord 21 = .ok (.aload_n 1, 1) := dk_43 (dk_at dksX9_isWord_0 21 rfl rfl)
theorem dX9_isWord_22 : decode cX9_isWord 22 = .ok (.invokevirtual 63, 3) := dk_182 0 63 (dk_at dksX9_isWord_1 0 rfl rfl)
theorem dX9_isWord_25 : decode cX9_isWord 25 = .ok (.if_icmp .ge 33, 3) := dk_162 0 33 (dk_at dksX9_isWord_1 3 rfl rfl)
theorem dX9_isWord_28 : decode cX9_isWord 28 = .ok (.aload_n 0, 1) := dk_42 (dk_at dksX9_isWord_1 6 rfl rfl)
theorem dX9_isWord_29 : decode cX9_isWord 29 = .ok (.getfield 3, 3) := dk_180 0 3 (dk_at dksX9_isWord_1 7 rfl rfl)
theorem dX9_isWord_32 : decode cX9_isWord 32 = .ok (.getfield 52, 3) := dk_180 0 52 (dk_at dksX9_isWord_1 10 rfl rfl)
theorem dX9_isWord_35 : decode cX9_isWord 35 = .ok (.aload_n 0, 1) := dk_42 (dk_at dksX9_isWord_1 13 rfl rfl)
theorem dX9_isWord_36 : decode cX9_isWord 36 = .ok (.getfield 42, 3) := dk_180 0 42 (dk_at dksX9_isWord_1 14 rfl rfl)
theorem dX9_isWord_39 : decode cX9_isWord 39 = .ok (.iload_n 2, 1) := dk_28 (dk_at dksX9_isWord_1 17 rfl rfl)
theorem dX9_isWord_40 : decode cX9_isWord 40 = .ok (.iadd, 1) := dk_96 (dk_at dksX9_isWord_1 18 rfl rfl)
theorem dX9_isWord_41 : decode cX9_isWord 41 = .ok (.baload, 1) := dk_51 (dk_at dksX9_isWord_1 19 rfl rfl)
theorem dX9_isWord_42 : decode cX9_isWord 42 = .ok (.aload_n 1, 1) := dk_43 (dk_at dksX9_isWord_1 20 rfl rfl)
theorem dX9_isWord_43 : decode cX9_isWord 43 = .ok (.iload_n 2, 1) := dk_28 (dk_at dksX9_isWord_1 21 rfl rfl)
theorem dX9_isWord_44 : decode cX9_isWord 44 = .ok (.invokevirtual 69, 3) := dk_182 0 69 (dk_at dksX9_isWord_2 0 rfl rfl)
theorem dX9_isWord_47 : decode cX9_isWord 47 = .ok (.if_icmp .eq 5, 3) := dk_159 0 5 (dk_at dksX9_isWord_2 3 rfl rfl)
theorem dX9_isWord_50 : decode cX9_isWord 50 = .ok (.iconst 0, 1) := dk_3 (dk_at dksX9_isWord_2 6 rfl rfl)
theorem dX9_isWord_51 : decode cX9_isWord 51 = .ok (.ireturn, 1) := dk_172 (dk_at dksX9_isWord_2 7 rfl rfl)
theorem dX9_isWord_52 : decode cX9_isWord 52 = .ok (.iinc 2 1, 3) := dk_132 2 1 (dk_at dksX9_isWord_2 8 rfl rfl)
theorem dX9_isWord_55 : decode cX9_isWord 55 = .ok (.goto (-35), 3) := dk_167 255 221 (dk_at dksX9_isWord_2 11 rfl rfl)
theorem dX9_isWord_58 : decode cX9_isWord 58 = .ok (.iconst 1, 1) := dk_4 (dk_at dksX9_isWord_2 14 rfl rfl)
theorem dX9_isWord_59 : decode cX9_isWord 59 = .ok (.ireturn, 1) := dk_172 (dk_at dksX9_isWord_2 15 rfl rfl)
abbrev cX9_sum : ByteArray := prog_23_method_18_code
def yX9_sum : MethodName := ⟨RX9, "sum", "()LMissCurves$Sum;"⟩
def dkwX9_sum_2 : List UInt8 := [182, 0, 154, 183, 0, 163, 76, 167, 255, 207, 43, 176]
abbrev dktX9_sum_2 : List UInt8 := dkwX9_sum_2 ++ []
def dkwX9_sum_1 : List UInt8 := [180, 0, 3, 180, 0, 52, 42, 180, 0, 42, 51, 61, 42, 182, 0, 25, 187, 0, 161, 89, 43, 28, 42]
abbrev dktX9_sum_1 : List UInt8 := dkwX9_sum_1 ++ dktX9_sum_2
def dkwX9_sum_0 : List UInt8 := [42, 182, 0, 154, 76, 42, 18, 157, 182, 0, 73, 154, 0, 12, 42, 18, 159, 182, 0, 73, 153, 0, 37, 42]
abbrev dktX9_sum_0 : List UInt8 := dkwX9_sum_0 ++ dktX9_sum_1
theorem dksX9_sum_0 : cX9_sum.data.toList.drop 0 = dktX9_sum_0 := by decide +kernel
theorem dksX9_sum_1 : cX9_sum.data.toList.drop 24 = dktX9_sum_1 := dk_seg dksX9_sum_0 24 rfl rfl
theorem dksX9_sum_2 : cX9_sum.data.toList.drop 47 = dktX9_sum_2 := dk_seg dksX9_sum_1 23 rfl rfl
theorem dX9_sum_0 : decode cX9_sum 0 = .ok (.aload_n 0, 1) := dk_42 (dk_at dksX9_sum_0 0 rfl rfl)
theorem dX9_sum_1 : decode cX9_sum 1 = .ok (.invokevirtual 154, 3) := dk_182 0 154 (dk_at dksX9_sum_0 1 rfl rfl)
theorem dX9_sum_4 : decode cX9_sum 4 = .ok (.astore_n 1, 1) := dk_76 (dk_at dksX9_sum_0 4 rfl rfl)
theorem dX9_sum_5 : decode cX9_sum 5 = .ok (.aload_n 0, 1) := dk_42 (dk_at dksX9_sum_0 5 rfl rfl)
theorem dX9_sum_6 : decode cX9_sum 6 = .ok (.ldc 157, 2) := dk_18 157 (dk_at dksX9_sum_0 6 rfl rfl)
theorem dX9_sum_8 : decode cX9_sum 8 = .ok (.invokevirtual 73, 3) := dk_182 0 73 (dk_at dksX9_sum_0 8 rfl rfl)
theorem dX9_sum_11 : decode cX9_sum 11 = .ok (.ifCond .ne 12, 3) := dk_154 0 12 (dk_at dksX9_sum_0 11 rfl rfl)
theorem dX9_sum_14 : decode cX9_sum 14 = .ok (.aload_n 0, 1) := dk_42 (dk_at dksX9_sum_0 14 rfl rfl)
theorem dX9_sum_15 : decode cX9_sum 15 = .ok (.ldc 159, 2) := dk_18 159 (dk_at dksX9_sum_0 15 rfl rfl)
theorem dX9_sum_17 : decode cX9_sum 17 = .ok (.invokevirtual 73, 3) := dk_182 0 73 (dk_at dksX9_sum_0 17 rfl rfl)
theorem dX9_sum_20 : decode cX9_sum 20 = .ok (.ifCond .eq 37, 3) := dk_153 0 37 (dk_at dksX9_sum_0 20 rfl rfl)
theorem dX9_sum_23 : decode cX9_sum 23 = .ok (.aload_n 0, 1) := dk_42 (dk_at dksX9_sum_0 23 rfl rfl)
theorem dX9_sum_24 : decode cX9_sum 24 = .ok (.getfield 3, 3) := dk_180 0 3 (dk_at dksX9_sum_1 0 rfl rfl)
theorem dX9_sum_27 : decode cX9_sum 27 = .ok (.getfield 52, 3) := dk_180 0 52 (dk_at dksX9_sum_1 3 rfl rfl)
theorem dX9_sum_30 : decode cX9_sum 30 = .ok (.aload_n 0, 1) := dk_42 (dk_at dksX9_sum_1 6 rfl rfl)
theorem dX9_sum_31 : decode cX9_sum 31 = .ok (.getfield 42, 3) := dk_180 0 42 (dk_at dksX9_sum_1 7 rfl rfl)
theorem dX9_sum_34 : decode cX9_sum 34 = .ok (.baload, 1) := dk_51 (dk_at dksX9_sum_1 10 rfl rfl)
theorem dX9_sum_35 : decode cX9_sum 35 = .ok (.istore_n 2, 1) := dk_61 (dk_at dksX9_sum_1 11 rfl rfl)
theorem dX9_sum_36 : decode cX9_sum 36 = .ok (.aload_n 0, 1) := dk_42 (dk_at dksX9_sum_1 12 rfl rfl)
theorem dX9_sum_37 : decode cX9_sum 37 = .ok (.invokevirtual 25, 3) := dk_182 0 25 (dk_at dksX9_sum_1 13 rfl rfl)
theorem dX9_sum_40 : decode cX9_sum 40 = .ok (.new 161, 3) := dk_187 0 161 (dk_at dksX9_sum_1 16 rfl rfl)
theorem dX9_sum_43 : decode cX9_sum 43 = .ok (.dup, 1) := dk_89 (dk_at dksX9_sum_1 19 rfl rfl)
theorem dX9_sum_44 : decode cX9_sum 44 = .ok (.aload_n 1, 1) := dk_43 (dk_at dksX9_sum_1 20 rfl rfl)
theorem dX9_sum_45 : decode cX9_sum 45 = .ok (.iload_n 2, 1) := dk_28 (dk_at dksX9_sum_1 21 rfl rfl)
theorem dX9_sum_46 : decode cX9_sum 46 = .ok (.aload_n 0, 1) := dk_42 (dk_at dksX9_sum_1 22 rfl rfl)
theorem dX9_sum_47 : decode cX9_sum 47 = .ok (.invokevirtual 154, 3) := dk_182 0 154 (dk_at dksX9_sum_2 0 rfl rfl)
theorem dX9_sum_50 : decode cX9_sum 50 = .ok (.invokespecial 163, 3) := dk_183 0 163 (dk_at dksX9_sum_2 3 rfl rfl)
theorem dX9_sum_53 : decode cX9_sum 53 = .ok (.astore_n 1, 1) := dk_76 (dk_at dksX9_sum_2 6 rfl rfl)
theorem dX9_sum_54 : decode cX9_sum 54 = .ok (.goto (-49), 3) := dk_167 255 207 (dk_at dksX9_sum_2 7 rfl rfl)
theorem dX9_sum_57 : decode cX9_sum 57 = .ok (.aload_n 1, 1) := dk_43 (dk_at dksX9_sum_2 10 rfl rfl)
theorem dX9_sum_58 : decode cX9_sum 58 = .ok (.areturn, 1) := dk_176 (dk_at dksX9_sum_2 11 rfl rfl)
abbrev cX9_term : ByteArray := prog_23_method_19_code
def yX9_term : MethodName := ⟨RX9, "term", "()LMissCurves$Sum;"⟩
def dkwX9_term_2 : List UInt8 := [182, 0, 25, 187, 0, 161, 89, 43, 28, 42, 182, 0, 164, 183, 0, 163, 76, 167, 255, 198, 43, 176]
abbrev dktX9_term_2 : List UInt8 := dkwX9_term_2 ++ []
def dkwX9_term_1 : List UInt8 := [18, 171, 182, 0, 73, 153, 0, 37, 42, 180, 0, 3, 180, 0, 52, 42, 180, 0, 42, 51, 61, 42]
abbrev dktX9_term_1 : List UInt8 := dkwX9_term_1 ++ dktX9_term_2
def dkwX9_term_0 : List UInt8 := [42, 182, 0, 164, 76, 42, 18, 167, 182, 0, 73, 154, 0, 21, 42, 18, 169, 182, 0, 73, 154, 0, 12, 42]
abbrev dktX9_term_0 : List UInt8 := dkwX9_term_0 ++ dktX9_term_1
theorem dksX9_term_0 : cX9_term.data.toList.drop 0 = dktX9_term_0 := by decide +kernel
theorem dksX9_term_1 : cX9_term.data.toList.drop 24 = dktX9_term_1 := dk_seg dksX9_term_0 24 rfl rfl
theorem dksX9_term_2 : cX9_term.data.toList.drop 46 = dktX9_term_2 := dk_seg dksX9_term_1 22 rfl rfl
theorem dX9_term_0 : decode cX9_term 0 = .ok (.aload_n 0, 1) := dk_42 (dk_at dksX9_term_0 0 rfl rfl)
theorem dX9_term_1 : decode cX9_term 1 = .ok (.invokevirtual 164, 3) := dk_182 0 164 (dk_at dksX9_term_0 1 rfl rfl)
theorem dX9_term_4 : decode cX9_term 4 = .ok (.astore_n 1, 1) := dk_76 (dk_at dksX9_term_0 4 rfl rfl)
theorem dX9_term_5 : decode cX9_term 5 = .ok (.aload_n 0, 1) := dk_42 (dk_at dksX9_term_0 5 rfl rfl)
theorem dX9_term_6 : decode cX9_term 6 = .ok (.ldc 167, 2) := dk_18 167 (dk_at dksX9_term_0 6 rfl rfl)
theorem dX9_term_8 : decode cX9_term 8 = .ok (.invokevirtual 73, 3) := dk_182 0 73 (dk_at dksX9_term_0 8 rfl rfl)
theorem dX9_term_11 : decode cX9_term 11 = .ok (.ifCond .ne 21, 3) := dk_154 0 21 (dk_at dksX9_term_0 11 rfl rfl)
theorem dX9_term_14 : decode cX9_term 14 = .ok (.aload_n 0, 1) := dk_42 (dk_at dksX9_term_0 14 rfl rfl)
theorem dX9_term_15 : decode cX9_term 15 = .ok (.ldc 169, 2) := dk_18 169 (dk_at dksX9_term_0 15 rfl rfl)
theorem dX9_term_17 : decode cX9_term 17 = .ok (.invokevirtual 73, 3) := dk_182 0 73 (dk_at dksX9_term_0 17 rfl rfl)
theorem dX9_term_20 : decode cX9_term 20 = .ok (.ifCond .ne 12, 3) := dk_154 0 12 (dk_at dksX9_term_0 20 rfl rfl)
theorem dX9_term_23 : decode cX9_term 23 = .ok (.aload_n 0, 1) := dk_42 (dk_at dksX9_term_0 23 rfl rfl)
theorem dX9_term_24 : decode cX9_term 24 = .ok (.ldc 171, 2) := dk_18 171 (dk_at dksX9_term_1 0 rfl rfl)
theorem dX9_term_26 : decode cX9_term 26 = .ok (.invokevirtual 73, 3) := dk_182 0 73 (dk_at dksX9_term_1 2 rfl rfl)
theorem dX9_term_29 : decode cX9_term 29 = .ok (.ifCond .eq 37, 3) := dk_153 0 37 (dk_at dksX9_term_1 5 rfl rfl)
theorem dX9_term_32 : decode cX9_term 32 = .ok (.aload_n 0, 1) := dk_42 (dk_at dksX9_term_1 8 rfl rfl)
theorem dX9_term_33 : decode cX9_term 33 = .ok (.getfield 3, 3) := dk_180 0 3 (dk_at dksX9_term_1 9 rfl rfl)
theorem dX9_term_36 : decode cX9_term 36 = .ok (.getfield 52, 3) := dk_180 0 52 (dk_at dksX9_term_1 12 rfl rfl)
theorem dX9_term_39 : decode cX9_term 39 = .ok (.aload_n 0, 1) := dk_42 (dk_at dksX9_term_1 15 rfl rfl)
theorem dX9_term_40 : decode cX9_term 40 = .ok (.getfield 42, 3) := dk_180 0 42 (dk_at dksX9_term_1 16 rfl rfl)
theorem dX9_term_43 : decode cX9_term 43 = .ok (.baload, 1) := dk_51 (dk_at dksX9_term_1 19 rfl rfl)
theorem dX9_term_44 : decode cX9_term 44 = .ok (.istore_n 2, 1) := dk_61 (dk_at dksX9_term_1 20 rfl rfl)
theorem dX9_term_45 : decode cX9_term 45 = .ok (.aload_n 0, 1) := dk_42 (dk_at dksX9_term_1 21 rfl rfl)
theorem dX9_term_46 : decode cX9_term 46 = .ok (.invokevirtual 25, 3) := dk_182 0 25 (dk_at dksX9_term_2 0 rfl rfl)
theorem dX9_term_49 : decode cX9_term 49 = .ok (.new 161, 3) := dk_187 0 161 (dk_at dksX9_term_2 3 rfl rfl)
theorem dX9_term_52 : decode cX9_term 52 = .ok (.dup, 1) := dk_89 (dk_at dksX9_term_2 6 rfl rfl)
theorem dX9_term_53 : decode cX9_term 53 = .ok (.aload_n 1, 1) := dk_43 (dk_at dksX9_term_2 7 rfl rfl)
theorem dX9_term_54 : decode cX9_term 54 = .ok (.iload_n 2, 1) := dk_28 (dk_at dksX9_term_2 8 rfl rfl)
theorem dX9_term_55 : decode cX9_term 55 = .ok (.aload_n 0, 1) := dk_42 (dk_at dksX9_term_2 9 rfl rfl)
theorem dX9_term_56 : decode cX9_term 56 = .ok (.invokevirtual 164, 3) := dk_182 0 164 (dk_at dksX9_term_2 10 rfl rfl)
theorem dX9_term_59 : decode cX9_term 59 = .ok (.invokespecial 163, 3) := dk_183 0 163 (dk_at dksX9_term_2 13 rfl rfl)
theorem dX9_term_62 : decode cX9_term 62 = .ok (.astore_n 1, 1) := dk_76 (dk_at dksX9_term_2 16 rfl rfl)
theorem dX9_term_63 : decode cX9_term 63 = .ok (.goto (-58), 3) := dk_167 255 198 (dk_at dksX9_term_2 17 rfl rfl)
theorem dX9_term_66 : decode cX9_term 66 = .ok (.aload_n 1, 1) := dk_43 (dk_at dksX9_term_2 20 rfl rfl)
theorem dX9_term_67 : decode cX9_term 67 = .ok (.areturn, 1) := dk_176 (dk_at dksX9_term_2 21 rfl rfl)
abbrev cX9_part : ByteArray := prog_23_method_20_code
def yX9_part : MethodName := ⟨RX9, "part", "()LMissCurves$Sum;"⟩
def dkwX9_part_5 : List UInt8 := [176]
abbrev dktX9_part_5 : List UInt8 := dkwX9_part_5 ++ []
def dkwX9_part_4 : List UInt8 := [42, 17, 3, 232, 182, 0, 186, 183, 0, 190, 176, 42, 182, 0, 181, 42, 182, 0, 25, 42, 27, 182, 0, 191]
abbrev dktX9_part_4 : List UInt8 := dkwX9_part_4 ++ dktX9_part_5
def dkwX9_part_3 : List UInt8 := [153, 0, 7, 4, 167, 0, 4, 3, 182, 0, 28, 27, 2, 160, 0, 22, 42, 182, 0, 181, 187, 0, 184, 89]
abbrev dktX9_part_3 : List UInt8 := dkwX9_part_3 ++ dktX9_part_4
def dkwX9_part_2 : List UInt8 := [180, 0, 3, 180, 0, 46, 162, 0, 25, 42, 180, 0, 3, 180, 0, 52, 42, 180, 0, 42, 51, 184, 0, 60]
abbrev dktX9_part_2 : List UInt8 := dkwX9_part_2 ++ dktX9_part_3
def dkwX9_part_1 : List UInt8 := [43, 176, 42, 42, 180, 0, 21, 182, 0, 177, 60, 42, 27, 2, 160, 0, 35, 42, 180, 0, 42, 42]
abbrev dktX9_part_1 : List UInt8 := dkwX9_part_1 ++ dktX9_part_2
def dkwX9_part_0 : List UInt8 := [42, 18, 173, 182, 0, 73, 153, 0, 20, 42, 182, 0, 123, 42, 182, 0, 135, 76, 42, 18, 175, 182, 0, 131]
abbrev dktX9_part_0 : List UInt8 := dkwX9_part_0 ++ dktX9_part_1
theorem dksX9_part_0 : cX9_part.data.toList.drop 0 = dktX9_part_0 := by decide +kernel
theorem dksX9_part_1 : cX9_part.data.toList.drop 24 = dktX9_part_1 := dk_seg dksX9_part_0 24 rfl rfl
theorem dksX9_part_2 : cX9_part.data.toList.drop 46 = dktX9_part_2 := dk_seg dksX9_part_1 22 rfl rfl
theorem dksX9_part_3 : cX9_part.data.toList.drop 70 = dktX9_part_3 := dk_seg dksX9_part_2 24 rfl rfl
theorem dksX9_part_4 : cX9_part.data.toList.drop 94 = dktX9_part_4 := dk_seg dksX9_part_3 24 rfl rfl
theorem dksX9_part_5 : cX9_part.data.toList.drop 118 = dktX9_part_5 := dk_seg dksX9_part_4 24 rfl rfl
theorem dX9_part_0 : decode cX9_part 0 = .ok (.aload_n 0, 1) := dk_42 (dk_at dksX9_part_0 0 rfl rfl)
theorem dX9_part_1 : decode cX9_part 1 = .ok (.ldc 173, 2) := dk_18 173 (dk_at dksX9_part_0 1 rfl rfl)
theorem dX9_part_3 : decode cX9_part 3 = .ok (.invokevirtual 73, 3) := dk_182 0 73 (dk_at dksX9_part_0 3 rfl rfl)
theorem dX9_part_6 : decode cX9_part 6 = .ok (.ifCond .eq 20, 3) := dk_153 0 20 (dk_at dksX9_part_0 6 rfl rfl)
theorem dX9_part_9 : decode cX9_part 9 = .ok (.aload_n 0, 1) := dk_42 (dk_at dksX9_part_0 9 rfl rfl)
theorem dX9_part_10 : decode cX9_part 10 = .ok (.invokevirtual 123, 3) := dk_182 0 123 (dk_at dksX9_part_0 10 rfl rfl)
theorem dX9_part_13 : decode cX9_part 13 = .ok (.aload_n 0, 1) := dk_42 (dk_at dksX9_part_0 13 rfl rfl)
theorem dX9_part_14 : decode cX9_part 14 = .ok (.invokevirtual 135, 3) := dk_182 0 135 (dk_at dksX9_part_0 14 rfl rfl)
theorem dX9_part_17 : decode cX9_part 17 = .ok (.astore_n 1, 1) := dk_76 (dk_at dksX9_part_0 17 rfl rfl)
theorem dX9_part_18 : decode cX9_part 18 = .ok (.aload_n 0, 1) := dk_42 (dk_at dksX9_part_0 18 rfl rfl)
theorem dX9_part_19 : decode cX9_part 19 = .ok (.ldc 175, 2) := dk_18 175 (dk_at dksX9_part_0 19 rfl rfl)
theorem dX9_part_21 : decode cX9_part 21 = .ok (.invokevirtual 131, 3) := dk_182 0 131 (dk_at dksX9_part_0 21 rfl rfl)
theorem dX9_part_24 : decode cX9_part 24 = .ok (.aload_n 1, 1) := dk_43 (dk_at dksX9_part_1 0 rfl rfl)
theorem dX9_part_25 : decode cX9_part 25 = .ok (.areturn, 1) := dk_176 (dk_at dksX9_part_1 1 rfl rfl)
theorem dX9_part_26 : decode cX9_part 26 = .ok (.aload_n 0, 1) := dk_42 (dk_at dksX9_part_1 2 rfl rfl)
theorem dX9_part_27 : decode cX9_part 27 = .ok (.aload_n 0, 1) := dk_42 (dk_at dksX9_part_1 3 rfl rfl)
theorem dX9_part_28 : decode cX9_part 28 = .ok (.getfield 21, 3) := dk_180 0 21 (dk_at dksX9_part_1 4 rfl rfl)
theorem dX9_part_31 : decode cX9_part 31 = .ok (.invokevirtual 177, 3) := dk_182 0 177 (dk_at dksX9_part_1 7 rfl rfl)
theorem dX9_part_34 : decode cX9_part 34 = .ok (.istore_n 1, 1) := dk_60 (dk_at dksX9_part_1 10 rfl rfl)
theorem dX9_part_35 : decode cX9_part 35 = .ok (.aload_n 0, 1) := dk_42 (dk_at dksX9_part_1 11 rfl rfl)
theorem dX9_part_36 : decode cX9_part 36 = .ok (.iload_n 1, 1) := dk_27 (dk_at dksX9_part_1 12 rfl rfl)
theorem dX9_part_37 : decode cX9_part 37 = .ok (.iconst (-1), 1) := dk_2 (dk_at dksX9_part_1 13 rfl rfl)
theorem dX9_part_38 : decode cX9_part 38 = .ok (.if_icmp .ne 35, 3) := dk_160 0 35 (dk_at dksX9_part_1 14 rfl rfl)
theorem dX9_part_41 : decode cX9_part 41 = .ok (.aload_n 0, 1) := dk_42 (dk_at dksX9_part_1 17 rfl rfl)
theorem dX9_part_42 : decode cX9_part 42 = .ok (.getfield 42, 3) := dk_180 0 42 (dk_at dksX9_part_1 18 rfl rfl)
theorem dX9_part_45 : decode cX9_part 45 = .ok (.aload_n 0, 1) := dk_42 (dk_at dksX9_part_1 21 rfl rfl)
theorem dX9_part_46 : decode cX9_part 46 = .ok (.getfield 3, 3) := dk_180 0 3 (dk_at dksX9_part_2 0 rfl rfl)
theorem dX9_part_49 : decode cX9_part 49 = .ok (.getfield 46, 3) := dk_180 0 46 (dk_at dksX9_part_2 3 rfl rfl)
theorem dX9_part_52 : decode cX9_part 52 = .ok (.if_icmp .ge 25, 3) := dk_162 0 25 (dk_at dksX9_part_2 6 rfl rfl)
theorem dX9_part_55 : decode cX9_part 55 = .ok (.aload_n 0, 1) := dk_42 (dk_at dksX9_part_2 9 rfl rfl)
theorem dX9_part_56 : decode cX9_part 56 = .ok (.getfield 3, 3) := dk_180 0 3 (dk_at dksX9_part_2 10 rfl rfl)
theorem dX9_part_59 : decode cX9_part 59 = .ok (.getfield 52, 3) := dk_180 0 52 (dk_at dksX9_part_2 13 rfl rfl)
theorem dX9_part_62 : decode cX9_part 62 = .ok (.aload_n 0, 1) := dk_42 (dk_at dksX9_part_2 16 rfl rfl)
theorem dX9_part_63 : decode cX9_part 63 = .ok (.getfield 42, 3) := dk_180 0 42 (dk_at dksX9_part_2 17 rfl rfl)
theorem dX9_part_66 : decode cX9_part 66 = .ok (.baload, 1) := dk_51 (dk_at dksX9_part_2 20 rfl rfl)
theorem dX9_part_67 : decode cX9_part 67 = .ok (.invokestatic 60, 3) := dk_184 0 60 (dk_at dksX9_part_2 21 rfl rfl)
theorem dX9_part_70 : decode cX9_part 70 = .ok (.ifCond .eq 7, 3) := dk_153 0 7 (dk_at dksX9_part_3 0 rfl rfl)
theorem dX9_part_73 : decode cX9_part 73 = .ok (.iconst 1, 1) := dk_4 (dk_at dksX9_part_3 3 rfl rfl)
theorem dX9_part_74 : decode cX9_part 74 = .ok (.goto 4, 3) := dk_167 0 4 (dk_at dksX9_part_3 4 rfl rfl)
theorem dX9_part_77 : decode cX9_part 77 = .ok (.iconst 0, 1) := dk_3 (dk_at dksX9_part_3 7 rfl rfl)
theorem dX9_part_78 : decode cX9_part 78 = .ok (.invokevirtual 28, 3) := dk_182 0 28 (dk_at dksX9_part_3 8 rfl rfl)
theorem dX9_part_81 : decode cX9_part 81 = .ok (.iload_n 1, 1) := dk_27 (dk_at dksX9_part_3 11 rfl rfl)
theorem dX9_part_82 : decode cX9_part 82 = .ok (.iconst (-1), 1) := dk_2 (dk_at dksX9_part_3 12 rfl rfl)
theorem dX9_part_83 : decode cX9_part 83 = .ok (.if_icmp .ne 22, 3) := dk_160 0 22 (dk_at dksX9_part_3 13 rfl rfl)
theorem dX9_part_86 : decode cX9_part 86 = .ok (.aload_n 0, 1) := dk_42 (dk_at dksX9_part_3 16 rfl rfl)
theorem dX9_part_87 : decode cX9_part 87 = .ok (.invokevirtual 181, 3) := dk_182 0 181 (dk_at dksX9_part_3 17 rfl rfl)
theorem dX9_part_90 : decode cX9_part 90 = .ok (.new 184, 3) := dk_187 0 184 (dk_at dksX9_part_3 20 rfl rfl)
theorem dX9_part_93 : decode cX9_part 93 = .ok (.dup, 1) := dk_89 (dk_at dksX9_part_3 23 rfl rfl)
theorem dX9_part_94 : decode cX9_part 94 = .ok (.aload_n 0, 1) := dk_42 (dk_at dksX9_part_4 0 rfl rfl)
theorem dX9_part_95 : decode cX9_part 95 = .ok (.sipush 1000, 3) := dk_17 3 232 (dk_at dksX9_part_4 1 rfl rfl)
theorem dX9_part_98 : decode cX9_part 98 = .ok (.invokevirtual 186, 3) := dk_182 0 186 (dk_at dksX9_part_4 4 rfl rfl)
theorem dX9_part_101 : decode cX9_part 101 = .ok (.invokespecial 190, 3) := dk_183 0 190 (dk_at dksX9_part_4 7 rfl rfl)
theorem dX9_part_104 : decode cX9_part 104 = .ok (.areturn, 1) := dk_176 (dk_at dksX9_part_4 10 rfl rfl)
theorem dX9_part_105 : decode cX9_part 105 = .ok (.aload_n 0, 1) := dk_42 (dk_at dksX9_part_4 11 rfl rfl)
theorem dX9_part_106 : decode cX9_part 106 = .ok (.invokevirtual 181, 3) := dk_182 0 181 (dk_at dksX9_part_4 12 rfl rfl)
theorem dX9_part_109 : decode cX9_part 109 = .ok (.aload_n 0, 1) := dk_42 (dk_at dksX9_part_4 15 rfl rfl)
theorem dX9_part_110 : decode cX9_part 110 = .ok (.invokevirtual 25, 3) := dk_182 0 25 (dk_at dksX9_part_4 16 rfl rfl)
theorem dX9_part_113 : decode cX9_part 113 = .ok (.aload_n 0, 1) := dk_42 (dk_at dksX9_part_4 19 rfl rfl)
theorem dX9_part_114 : decode cX9_part 114 = .ok (.iload_n 1, 1) := dk_27 (dk_at dksX9_part_4 20 rfl rfl)
theorem dX9_part_115 : decode cX9_part 115 = .ok (.invokevirtual 191, 3) := dk_182 0 191 (dk_at dksX9_part_4 21 rfl rfl)
theorem dX9_part_118 : decode cX9_part 118 = .ok (.areturn, 1) := dk_176 (dk_at dksX9_part_5 0 rfl rfl)
abbrev cX9_open : ByteArray := prog_23_method_14_code
def yX9_open : MethodName := ⟨RX9, "open", "()V"⟩
def dkwX9_open_1 : List UInt8 := [96, 181, 0, 113, 42, 182, 0, 25, 177]
abbrev dktX9_open_1 : List UInt8 := dkwX9_open_1 ++ []
def dkwX9_open_0 : List UInt8 := [42, 42, 180, 0, 113, 16, 8, 162, 0, 7, 4, 167, 0, 4, 3, 182, 0, 28, 42, 89, 180, 0, 113, 4]
abbrev dktX9_open_0 : List UInt8 := dkwX9_open_0 ++ dktX9_open_1
theorem dksX9_open_0 : cX9_open.data.toList.drop 0 = dktX9_open_0 := by decide +kernel
theorem dksX9_open_1 : cX9_open.data.toList.drop 24 = dktX9_open_1 := dk_seg dksX9_open_0 24 rfl rfl
theorem dX9_open_0 : decode cX9_open 0 = .ok (.aload_n 0, 1) := dk_42 (dk_at dksX9_open_0 0 rfl rfl)
theorem dX9_open_1 : decode cX9_open 1 = .ok (.aload_n 0, 1) := dk_42 (dk_at dksX9_open_0 1 rfl rfl)
theorem dX9_open_2 : decode cX9_open 2 = .ok (.getfield 113, 3) := dk_180 0 113 (dk_at dksX9_open_0 2 rfl rfl)
theorem dX9_open_5 : decode cX9_open 5 = .ok (.bipush 8, 2) := dk_16 8 (dk_at dksX9_open_0 5 rfl rfl)
theorem dX9_open_7 : decode cX9_open 7 = .ok (.if_icmp .ge 7, 3) := dk_162 0 7 (dk_at dksX9_open_0 7 rfl rfl)
theorem dX9_open_10 : decode cX9_open 10 = .ok (.iconst 1, 1) := dk_4 (dk_at dksX9_open_0 10 rfl rfl)
theorem dX9_open_11 : decode cX9_open 11 = .ok (.goto 4, 3) := dk_167 0 4 (dk_at dksX9_open_0 11 rfl rfl)
theorem dX9_open_14 : decode cX9_open 14 = .ok (.iconst 0, 1) := dk_3 (dk_at dksX9_open_0 14 rfl rfl)
theorem dX9_open_15 : decode cX9_open 15 = .ok (.invokevirtual 28, 3) := dk_182 0 28 (dk_at dksX9_open_0 15 rfl rfl)
theorem dX9_open_18 : decode cX9_open 18 = .ok (.aload_n 0, 1) := dk_42 (dk_at dksX9_open_0 18 rfl rfl)
theorem dX9_open_19 : decode cX9_open 19 = .ok (.dup, 1) := dk_89 (dk_at dksX9_open_0 19 rfl rfl)
theorem dX9_open_20 : decode cX9_open 20 = .ok (.getfield 113, 3) := dk_180 0 113 (dk_at dksX9_open_0 20 rfl rfl)
theorem dX9_open_23 : decode cX9_open 23 = .ok (.iconst 1, 1) := dk_4 (dk_at dksX9_open_0 23 rfl rfl)
theorem dX9_open_24 : decode cX9_open 24 = .ok (.iadd, 1) := dk_96 (dk_at dksX9_open_1 0 rfl rfl)
theorem dX9_open_25 : decode cX9_open 25 = .ok (.putfield 113, 3) := dk_181 0 113 (dk_at dksX9_open_1 1 rfl rfl)
theorem dX9_open_28 : decode cX9_open 28 = .ok (.aload_n 0, 1) := dk_42 (dk_at dksX9_open_1 4 rfl rfl)
theorem dX9_open_29 : decode cX9_open 29 = .ok (.invokevirtual 25, 3) := dk_182 0 25 (dk_at dksX9_open_1 5 rfl rfl)
theorem dX9_open_32 : decode cX9_open 32 = .ok (.return_, 1) := dk_177 (dk_at dksX9_open_1 8 rfl rfl)
abbrev cX9_close : ByteArray := prog_23_method_15_code
def yX9_close : MethodName := ⟨RX9, "close", "(Ljava/lang/String;)V"⟩
def dkwX9_close_0 : List UInt8 := [42, 42, 43, 182, 0, 38, 182, 0, 28, 42, 89, 180, 0, 113, 4, 100, 181, 0, 113, 177]
abbrev dktX9_close_0 : List UInt8 := dkwX9_close_0 ++ []
theorem dksX9_close_0 : cX9_close.data.toList.drop 0 = dktX9_close_0 := by decide +kernel
theorem dX9_close_0 : decode cX9_close 0 = .ok (.aload_n 0, 1) := dk_42 (dk_at dksX9_close_0 0 rfl rfl)
theorem dX9_close_1 : decode cX9_close 1 = .ok (.aload_n 0, 1) := dk_42 (dk_at dksX9_close_0 1 rfl rfl)
theorem dX9_close_2 : decode cX9_close 2 = .ok (.aload_n 1, 1) := dk_43 (dk_at dksX9_close_0 2 rfl rfl)
theorem dX9_close_3 : decode cX9_close 3 = .ok (.invokevirtual 38, 3) := dk_182 0 38 (dk_at dksX9_close_0 3 rfl rfl)
theorem dX9_close_6 : decode cX9_close 6 = .ok (.invokevirtual 28, 3) := dk_182 0 28 (dk_at dksX9_close_0 6 rfl rfl)
theorem dX9_close_9 : decode cX9_close 9 = .ok (.aload_n 0, 1) := dk_42 (dk_at dksX9_close_0 9 rfl rfl)
theorem dX9_close_10 : decode cX9_close 10 = .ok (.dup, 1) := dk_89 (dk_at dksX9_close_0 10 rfl rfl)
theorem dX9_close_11 : decode cX9_close 11 = .ok (.getfield 113, 3) := dk_180 0 113 (dk_at dksX9_close_0 11 rfl rfl)
theorem dX9_close_14 : decode cX9_close 14 = .ok (.iconst 1, 1) := dk_4 (dk_at dksX9_close_0 14 rfl rfl)
theorem dX9_close_15 : decode cX9_close 15 = .ok (.isub, 1) := dk_100 (dk_at dksX9_close_0 15 rfl rfl)
theorem dX9_close_16 : decode cX9_close 16 = .ok (.putfield 113, 3) := dk_181 0 113 (dk_at dksX9_close_0 16 rfl rfl)
theorem dX9_close_19 : decode cX9_close 19 = .ok (.return_, 1) := dk_177 (dk_at dksX9_close_0 19 rfl rfl)
abbrev cX9_accept : ByteArray := prog_23_method_7_code
def yX9_accept : MethodName := ⟨RX9, "accept", "(Ljava/lang/String;)Z"⟩
def dkwX9_accept_0 : List UInt8 := [42, 43, 182, 0, 73, 61, 28, 153, 0, 7, 42, 182, 0, 25, 28, 172]
abbrev dktX9_accept_0 : List UInt8 := dkwX9_accept_0 ++ []
theorem dksX9_accept_0 : cX9_accept.data.toList.drop 0 = dktX9_accept_0 := by decide +kernel
theorem dX9_accept_0 : decode cX9_accept 0 = .ok (.aload_n 0, 1) := dk_42 (dk_at dksX9_accept_0 0 rfl rfl)
theorem dX9_accept_1 : decode cX9_accept 1 = .ok (.aload_n 1, 1) := dk_43 (dk_at dksX9_accept_0 1 rfl rfl)
theorem dX9_accept_2 : decode cX9_accept 2 = .ok (.invokevirtual 73, 3) := dk_182 0 73 (dk_at dksX9_accept_0 2 rfl rfl)
theorem dX9_accept_5 : decode cX9_accept 5 = .ok (.istore_n 2, 1) := dk_61 (dk_at dksX9_accept_0 5 rfl rfl)
theorem dX9_accept_6 : decode cX9_accept 6 = .ok (.iload_n 2, 1) := dk_28 (dk_at dksX9_accept_0 6 rfl rfl)
theorem dX9_accept_7 : decode cX9_accept 7 = .ok (.ifCond .eq 7, 3) := dk_153 0 7 (dk_at dksX9_accept_0 7 rfl rfl)
theorem dX9_accept_10 : decode cX9_accept 10 = .ok (.aload_n 0, 1) := dk_42 (dk_at dksX9_accept_0 10 rfl rfl)
theorem dX9_accept_11 : decode cX9_accept 11 = .ok (.invokevirtual 25, 3) := dk_182 0 25 (dk_at dksX9_accept_0 11 rfl rfl)
theorem dX9_accept_14 : decode cX9_accept 14 = .ok (.iload_n 2, 1) := dk_28 (dk_at dksX9_accept_0 14 rfl rfl)
theorem dX9_accept_15 : decode cX9_accept 15 = .ok (.ireturn, 1) := dk_172 (dk_at dksX9_accept_0 15 rfl rfl)
abbrev cX9_leaf : ByteArray := prog_23_method_16_code
def yX9_leaf : MethodName := ⟨RX9, "leaf", "()V"⟩
def dkwX9_leaf_1 : List UInt8 := [96, 181, 0, 116, 177]
abbrev dktX9_leaf_1 : List UInt8 := dkwX9_leaf_1 ++ []
def dkwX9_leaf_0 : List UInt8 := [42, 42, 180, 0, 116, 16, 50, 162, 0, 7, 4, 167, 0, 4, 3, 182, 0, 28, 42, 89, 180, 0, 116, 4]
abbrev dktX9_leaf_0 : List UInt8 := dkwX9_leaf_0 ++ dktX9_leaf_1
theorem dksX9_leaf_0 : cX9_leaf.data.toList.drop 0 = dktX9_leaf_0 := by decide +kernel
theorem dksX9_leaf_1 : cX9_leaf.data.toList.drop 24 = dktX9_leaf_1 := dk_seg dksX9_leaf_0 24 rfl rfl
theorem dX9_leaf_0 : decode cX9_leaf 0 = .ok (.aload_n 0, 1) := dk_42 (dk_at dksX9_leaf_0 0 rfl rfl)
theorem dX9_leaf_1 : decode cX9_leaf 1 = .ok (.aload_n 0, 1) := dk_42 (dk_at dksX9_leaf_0 1 rfl rfl)
theorem dX9_leaf_2 : decode cX9_leaf 2 = .ok (.getfield 116, 3) := dk_180 0 116 (dk_at dksX9_leaf_0 2 rfl rfl)
theorem dX9_leaf_5 : decode cX9_leaf 5 = .ok (.bipush 50, 2) := dk_16 50 (dk_at dksX9_leaf_0 5 rfl rfl)
theorem dX9_leaf_7 : decode cX9_leaf 7 = .ok (.if_icmp .ge 7, 3) := dk_162 0 7 (dk_at dksX9_leaf_0 7 rfl rfl)
theorem dX9_leaf_10 : decode cX9_leaf 10 = .ok (.iconst 1, 1) := dk_4 (dk_at dksX9_leaf_0 10 rfl rfl)
theorem dX9_leaf_11 : decode cX9_leaf 11 = .ok (.goto 4, 3) := dk_167 0 4 (dk_at dksX9_leaf_0 11 rfl rfl)
theorem dX9_leaf_14 : decode cX9_leaf 14 = .ok (.iconst 0, 1) := dk_3 (dk_at dksX9_leaf_0 14 rfl rfl)
theorem dX9_leaf_15 : decode cX9_leaf 15 = .ok (.invokevirtual 28, 3) := dk_182 0 28 (dk_at dksX9_leaf_0 15 rfl rfl)
theorem dX9_leaf_18 : decode cX9_leaf 18 = .ok (.aload_n 0, 1) := dk_42 (dk_at dksX9_leaf_0 18 rfl rfl)
theorem dX9_leaf_19 : decode cX9_leaf 19 = .ok (.dup, 1) := dk_89 (dk_at dksX9_leaf_0 19 rfl rfl)
theorem dX9_leaf_20 : decode cX9_leaf 20 = .ok (.getfield 116, 3) := dk_180 0 116 (dk_at dksX9_leaf_0 20 rfl rfl)
theorem dX9_leaf_23 : decode cX9_leaf 23 = .ok (.iconst 1, 1) := dk_4 (dk_at dksX9_leaf_0 23 rfl rfl)
theorem dX9_leaf_24 : decode cX9_leaf 24 = .ok (.iadd, 1) := dk_96 (dk_at dksX9_leaf_1 0 rfl rfl)
theorem dX9_leaf_25 : decode cX9_leaf 25 = .ok (.putfield 116, 3) := dk_181 0 116 (dk_at dksX9_leaf_1 1 rfl rfl)
theorem dX9_leaf_28 : decode cX9_leaf 28 = .ok (.return_, 1) := dk_177 (dk_at dksX9_leaf_1 4 rfl rfl)
abbrev cX9_number : ByteArray := prog_23_method_9_code
def yX9_number : MethodName := ⟨RX9, "number", "(I)I"⟩
def dkwX9_number_4 : List UInt8 := [167, 0, 4, 3, 182, 0, 28, 42, 182, 0, 25, 28, 172]
abbrev dktX9_number_4 : List UInt8 := dkwX9_number_4 ++ []
def dkwX9_number_3 : List UInt8 := [180, 0, 52, 29, 51, 96, 16, 48, 100, 61, 132, 3, 1, 167, 255, 222, 42, 28, 27, 163, 0, 7, 4]
abbrev dktX9_number_3 : List UInt8 := dkwX9_number_3 ++ dktX9_number_4
def dkwX9_number_2 : List UInt8 := [62, 29, 42, 180, 0, 49, 162, 0, 32, 28, 27, 163, 0, 27, 16, 10, 28, 104, 42, 180, 0, 3]
abbrev dktX9_number_2 : List UInt8 := dkwX9_number_2 ++ dktX9_number_3
def dkwX9_number_1 : List UInt8 := [180, 0, 42, 51, 184, 0, 60, 153, 0, 7, 4, 167, 0, 4, 3, 182, 0, 28, 3, 61, 42, 180, 0, 42]
abbrev dktX9_number_1 : List UInt8 := dkwX9_number_1 ++ dktX9_number_2
def dkwX9_number_0 : List UInt8 := [42, 42, 180, 0, 42, 42, 180, 0, 3, 180, 0, 46, 162, 0, 25, 42, 180, 0, 3, 180, 0, 52, 42]
abbrev dktX9_number_0 : List UInt8 := dkwX9_number_0 ++ dktX9_number_1
theorem dksX9_number_0 : cX9_number.data.toList.drop 0 = dktX9_number_0 := by decide +kernel
theorem dksX9_number_1 : cX9_number.data.toList.drop 23 = dktX9_number_1 := dk_seg dksX9_number_0 23 rfl rfl
theorem dksX9_number_2 : cX9_number.data.toList.drop 47 = dktX9_number_2 := dk_seg dksX9_number_1 24 rfl rfl
theorem dksX9_number_3 : cX9_number.data.toList.drop 69 = dktX9_number_3 := dk_seg dksX9_number_2 22 rfl rfl
theorem dksX9_number_4 : cX9_number.data.toList.drop 92 = dktX9_number_4 := dk_seg dksX9_number_3 23 rfl rfl
theorem dX9_number_0 : decode cX9_number 0 = .ok (.aload_n 0, 1) := dk_42 (dk_at dksX9_number_0 0 rfl rfl)
theorem dX9_number_1 : decode cX9_number 1 = .ok (.aload_n 0, 1) := dk_42 (dk_at dksX9_number_0 1 rfl rfl)
theorem dX9_number_2 : decode cX9_number 2 = .ok (.getfield 42, 3) := dk_180 0 42 (dk_at dksX9_number_0 2 rfl rfl)
theorem dX9_number_5 : decode cX9_number 5 = .ok (.aload_n 0, 1) := dk_42 (dk_at dksX9_number_0 5 rfl rfl)
theorem dX9_number_6 : decode cX9_number 6 = .ok (.getfield 3, 3) := dk_180 0 3 (dk_at dksX9_number_0 6 rfl rfl)
theorem dX9_number_9 : decode cX9_number 9 = .ok (.getfield 46, 3) := dk_180 0 46 (dk_at dksX9_number_0 9 rfl rfl)
theorem dX9_number_12 : decode cX9_number 12 = .ok (.if_icmp .ge 25, 3) := dk_162 0 25 (dk_at dksX9_number_0 12 rfl rfl)
theorem dX9_number_15 : decode cX9_number 15 = .ok (.aload_n 0, 1) := dk_42 (dk_at dksX9_number_0 15 rfl rfl)
theorem dX9_number_16 : decode cX9_number 16 = .ok (.getfield 3, 3) := dk_180 0 3 (dk_at dksX9_number_0 16 rfl rfl)
theorem dX9_number_19 : decode cX9_number 19 = .ok (.getfield 52, 3) := dk_180 0 52 (dk_at dksX9_number_0 19 rfl rfl)
theorem dX9_number_22 : decode cX9_number 22 = .ok (.aload_n 0, 1) := dk_42 (dk_at dksX9_number_0 22 rfl rfl)
theorem dX9_number_23 : decode cX9_number 23 = .ok (.getfield 42, 3) := dk_180 0 42 (dk_at dksX9_number_1 0 rfl rfl)
theorem dX9_number_26 : decode cX9_number 26 = .ok (.baload, 1) := dk_51 (dk_at dksX9_number_1 3 rfl rfl)
theorem dX9_number_27 : decode cX9_number 27 = .ok (.invokestatic 60, 3) := dk_184 0 60 (dk_at dksX9_number_1 4 rfl rfl)
theorem dX9_number_30 : decode cX9_number 30 = .ok (.ifCond .eq 7, 3) := dk_153 0 7 (dk_at dksX9_number_1 7 rfl rfl)
theorem dX9_number_33 : decode cX9_number 33 = .ok (.iconst 1, 1) := dk_4 (dk_at dksX9_number_1 10 rfl rfl)
theorem dX9_number_34 : decode cX9_number 34 = .ok (.goto 4, 3) := dk_167 0 4 (dk_at dksX9_number_1 11 rfl rfl)
theorem dX9_number_37 : decode cX9_number 37 = .ok (.iconst 0, 1) := dk_3 (dk_at dksX9_number_1 14 rfl rfl)
theorem dX9_number_38 : decode cX9_number 38 = .ok (.invokevirtual 28, 3) := dk_182 0 28 (dk_at dksX9_number_1 15 rfl rfl)
theorem dX9_number_41 : decode cX9_number 41 = .ok (.iconst 0, 1) := dk_3 (dk_at dksX9_number_1 18 rfl rfl)
theorem dX9_number_42 : decode cX9_number 42 = .ok (.istore_n 2, 1) := dk_61 (dk_at dksX9_number_1 19 rfl rfl)
theorem dX9_number_43 : decode cX9_number 43 = .ok (.aload_n 0, 1) := dk_42 (dk_at dksX9_number_1 20 rfl rfl)
theorem dX9_number_44 : decode cX9_number 44 = .ok (.getfield 42, 3) := dk_180 0 42 (dk_at dksX9_number_1 21 rfl rfl)
theorem dX9_number_47 : decode cX9_number 47 = .ok (.istore_n 3, 1) := dk_62 (dk_at dksX9_number_2 0 rfl rfl)
theorem dX9_number_48 : decode cX9_number 48 = .ok (.iload_n 3, 1) := dk_29 (dk_at dksX9_number_2 1 rfl rfl)
theorem dX9_number_49 : decode cX9_number 49 = .ok (.aload_n 0, 1) := dk_42 (dk_at dksX9_number_2 2 rfl rfl)
theorem dX9_number_50 : decode cX9_number 50 = .ok (.getfield 49, 3) := dk_180 0 49 (dk_at dksX9_number_2 3 rfl rfl)
theorem dX9_number_53 : decode cX9_number 53 = .ok (.if_icmp .ge 32, 3) := dk_162 0 32 (dk_at dksX9_number_2 6 rfl rfl)
theorem dX9_number_56 : decode cX9_number 56 = .ok (.iload_n 2, 1) := dk_28 (dk_at dksX9_number_2 9 rfl rfl)
theorem dX9_number_57 : decode cX9_number 57 = .ok (.iload_n 1, 1) := dk_27 (dk_at dksX9_number_2 10 rfl rfl)
theorem dX9_number_58 : decode cX9_number 58 = .ok (.if_icmp .gt 27, 3) := dk_163 0 27 (dk_at dksX9_number_2 11 rfl rfl)
theorem dX9_number_61 : decode cX9_number 61 = .ok (.bipush 10, 2) := dk_16 10 (dk_at dksX9_number_2 14 rfl rfl)
theorem dX9_number_63 : decode cX9_number 63 = .ok (.iload_n 2, 1) := dk_28 (dk_at dksX9_number_2 16 rfl rfl)
theorem dX9_number_64 : decode cX9_number 64 = .ok (.imul, 1) := dk_104 (dk_at dksX9_number_2 17 rfl rfl)
theorem dX9_number_65 : decode cX9_number 65 = .ok (.aload_n 0, 1) := dk_42 (dk_at dksX9_number_2 18 rfl rfl)
theorem dX9_number_66 : decode cX9_number 66 = .ok (.getfield 3, 3) := dk_180 0 3 (dk_at dksX9_number_2 19 rfl rfl)
theorem dX9_number_69 : decode cX9_number 69 = .ok (.getfield 52, 3) := dk_180 0 52 (dk_at dksX9_number_3 0 rfl rfl)
theorem dX9_number_72 : decode cX9_number 72 = .ok (.iload_n 3, 1) := dk_29 (dk_at dksX9_number_3 3 rfl rfl)
theorem dX9_number_73 : decode cX9_number 73 = .ok (.baload, 1) := dk_51 (dk_at dksX9_number_3 4 rfl rfl)
theorem dX9_number_74 : decode cX9_number 74 = .ok (.iadd, 1) := dk_96 (dk_at dksX9_number_3 5 rfl rfl)
theorem dX9_number_75 : decode cX9_number 75 = .ok (.bipush 48, 2) := dk_16 48 (dk_at dksX9_number_3 6 rfl rfl)
theorem dX9_number_77 : decode cX9_number 77 = .ok (.isub, 1) := dk_100 (dk_at dksX9_number_3 8 rfl rfl)
theorem dX9_number_78 : decode cX9_number 78 = .ok (.istore_n 2, 1) := dk_61 (dk_at dksX9_number_3 9 rfl rfl)
theorem dX9_number_79 : decode cX9_number 79 = .ok (.iinc 3 1, 3) := dk_132 3 1 (dk_at dksX9_number_3 10 rfl rfl)
theorem dX9_number_82 : decode cX9_number 82 = .ok (.goto (-34), 3) := dk_167 255 222 (dk_at dksX9_number_3 13 rfl rfl)
theorem dX9_number_85 : decode cX9_number 85 = .ok (.aload_n 0, 1) := dk_42 (dk_at dksX9_number_3 16 rfl rfl)
theorem dX9_number_86 : decode cX9_number 86 = .ok (.iload_n 2, 1) := dk_28 (dk_at dksX9_number_3 17 rfl rfl)
theorem dX9_number_87 : decode cX9_number 87 = .ok (.iload_n 1, 1) := dk_27 (dk_at dksX9_number_3 18 rfl rfl)
theorem dX9_number_88 : decode cX9_number 88 = .ok (.if_icmp .gt 7, 3) := dk_163 0 7 (dk_at dksX9_number_3 19 rfl rfl)
theorem dX9_number_91 : decode cX9_number 91 = .ok (.iconst 1, 1) := dk_4 (dk_at dksX9_number_3 22 rfl rfl)
theorem dX9_number_92 : decode cX9_number 92 = .ok (.goto 4, 3) := dk_167 0 4 (dk_at dksX9_number_4 0 rfl rfl)
theorem dX9_number_95 : decode cX9_number 95 = .ok (.iconst 0, 1) := dk_3 (dk_at dksX9_number_4 3 rfl rfl)
theorem dX9_number_96 : decode cX9_number 96 = .ok (.invokevirtual 28, 3) := dk_182 0 28 (dk_at dksX9_number_4 4 rfl rfl)
theorem dX9_number_99 : decode cX9_number 99 = .ok (.aload_n 0, 1) := dk_42 (dk_at dksX9_number_4 7 rfl rfl)
theorem dX9_number_100 : decode cX9_number 100 = .ok (.invokevirtual 25, 3) := dk_182 0 25 (dk_at dksX9_number_4 8 rfl rfl)
theorem dX9_number_103 : decode cX9_number 103 = .ok (.iload_n 2, 1) := dk_28 (dk_at dksX9_number_4 11 rfl rfl)
theorem dX9_number_104 : decode cX9_number 104 = .ok (.ireturn, 1) := dk_172 (dk_at dksX9_number_4 12 rfl rfl)
abbrev cX9_behindWord : ByteArray := prog_23_method_21_code
def yX9_behindWord : MethodName := ⟨RX9, "behindWord", "(I)LMissCurves$Sum;"⟩
def dkwX9_behindWord_0 : List UInt8 := [187, 0, 195, 89, 27, 183, 0, 197, 176]
abbrev dktX9_behindWord_0 : List UInt8 := dkwX9_behindWord_0 ++ []
theorem dksX9_behindWord_0 : cX9_behindWord.data.toList.drop 0 = dktX9_behindWord_0 := by decide +kernel
theorem dX9_behindWord_0 : decode cX9_behindWord 0 = .ok (.new 195, 3) := dk_187 0 195 (dk_at dksX9_behindWord_0 0 rfl rfl)
theorem dX9_behindWord_3 : decode cX9_behindWord 3 = .ok (.dup, 1) := dk_89 (dk_at dksX9_behindWord_0 3 rfl rfl)
theorem dX9_behindWord_4 : decode cX9_behindWord 4 = .ok (.iload_n 1, 1) := dk_27 (dk_at dksX9_behindWord_0 4 rfl rfl)
theorem dX9_behindWord_5 : decode cX9_behindWord 5 = .ok (.invokespecial 197, 3) := dk_183 0 197 (dk_at dksX9_behindWord_0 5 rfl rfl)
theorem dX9_behindWord_8 : decode cX9_behindWord 8 = .ok (.areturn, 1) := dk_176 (dk_at dksX9_behindWord_0 8 rfl rfl)
abbrev cX9_test : ByteArray := prog_23_method_10_code
def yX9_test : MethodName := ⟨RX9, "test", "()LMissCurves$Test;"⟩
def dkwX9_test_1 : List UInt8 := [182, 0, 83, 182, 0, 87, 167, 255, 239, 42, 3, 27, 182, 0, 93, 176]
abbrev dktX9_test_1 : List UInt8 := dkwX9_test_1 ++ []
def dkwX9_test_0 : List UInt8 := [42, 180, 0, 80, 60, 42, 42, 182, 0, 83, 182, 0, 87, 42, 18, 91, 182, 0, 38, 153, 0, 14, 42, 42]
abbrev dktX9_test_0 : List UInt8 := dkwX9_test_0 ++ dktX9_test_1
theorem dksX9_test_0 : cX9_test.data.toList.drop 0 = dktX9_test_0 := by decide +kernel
theorem dksX9_test_1 : cX9_test.data.toList.drop 24 = dktX9_test_1 := dk_seg dksX9_test_0 24 rfl rfl
theorem dX9_test_0 : decode cX9_test 0 = .ok (.aload_n 0, 1) := dk_42 (dk_at dksX9_test_0 0 rfl rfl)
theorem dX9_test_1 : decode cX9_test 1 = .ok (.getfield 80, 3) := dk_180 0 80 (dk_at dksX9_test_0 1 rfl rfl)
theorem dX9_test_4 : decode cX9_test 4 = .ok (.istore_n 1, 1) := dk_60 (dk_at dksX9_test_0 4 rfl rfl)
theorem dX9_test_5 : decode cX9_test 5 = .ok (.aload_n 0, 1) := dk_42 (dk_at dksX9_test_0 5 rfl rfl)
theorem dX9_test_6 : decode cX9_test 6 = .ok (.aload_n 0, 1) := dk_42 (dk_at dksX9_test_0 6 rfl rfl)
theorem dX9_test_7 : decode cX9_test 7 = .ok (.invokevirtual 83, 3) := dk_182 0 83 (dk_at dksX9_test_0 7 rfl rfl)
theorem dX9_test_10 : decode cX9_test 10 = .ok (.invokevirtual 87, 3) := dk_182 0 87 (dk_at dksX9_test_0 10 rfl rfl)
theorem dX9_test_13 : decode cX9_test 13 = .ok (.aload_n 0, 1) := dk_42 (dk_at dksX9_test_0 13 rfl rfl)
theorem dX9_test_14 : decode cX9_test 14 = .ok (.ldc 91, 2) := dk_18 91 (dk_at dksX9_test_0 14 rfl rfl)
theorem dX9_test_16 : decode cX9_test 16 = .ok (.invokevirtual 38, 3) := dk_182 0 38 (dk_at dksX9_test_0 16 rfl rfl)
theorem dX9_test_19 : decode cX9_test 19 = .ok (.ifCond .eq 14, 3) := dk_153 0 14 (dk_at dksX9_test_0 19 rfl rfl)
theorem dX9_test_22 : decode cX9_test 22 = .ok (.aload_n 0, 1) := dk_42 (dk_at dksX9_test_0 22 rfl rfl)
theorem dX9_test_23 : decode cX9_test 23 = .ok (.aload_n 0, 1) := dk_42 (dk_at dksX9_test_0 23 rfl rfl)
theorem dX9_test_24 : decode cX9_test 24 = .ok (.invokevirtual 83, 3) := dk_182 0 83 (dk_at dksX9_test_1 0 rfl rfl)
theorem dX9_test_27 : decode cX9_test 27 = .ok (.invokevirtual 87, 3) := dk_182 0 87 (dk_at dksX9_test_1 3 rfl rfl)
theorem dX9_test_30 : decode cX9_test 30 = .ok (.goto (-17), 3) := dk_167 255 239 (dk_at dksX9_test_1 6 rfl rfl)
theorem dX9_test_33 : decode cX9_test 33 = .ok (.aload_n 0, 1) := dk_42 (dk_at dksX9_test_1 9 rfl rfl)
theorem dX9_test_34 : decode cX9_test 34 = .ok (.iconst 0, 1) := dk_3 (dk_at dksX9_test_1 10 rfl rfl)
theorem dX9_test_35 : decode cX9_test 35 = .ok (.iload_n 1, 1) := dk_27 (dk_at dksX9_test_1 11 rfl rfl)
theorem dX9_test_36 : decode cX9_test 36 = .ok (.invokevirtual 93, 3) := dk_182 0 93 (dk_at dksX9_test_1 12 rfl rfl)
theorem dX9_test_39 : decode cX9_test 39 = .ok (.areturn, 1) := dk_176 (dk_at dksX9_test_1 15 rfl rfl)
abbrev cX9_both : ByteArray := prog_23_method_11_code
def yX9_both : MethodName := ⟨RX9, "both", "()LMissCurves$Test;"⟩
def dkwX9_both_1 : List UInt8 := [182, 0, 97, 182, 0, 87, 167, 255, 239, 42, 4, 27, 182, 0, 93, 176]
abbrev dktX9_both_1 : List UInt8 := dkwX9_both_1 ++ []
def dkwX9_both_0 : List UInt8 := [42, 180, 0, 80, 60, 42, 42, 182, 0, 97, 182, 0, 87, 42, 18, 100, 182, 0, 38, 153, 0, 14, 42, 42]
abbrev dktX9_both_0 : List UInt8 := dkwX9_both_0 ++ dktX9_both_1
theorem dksX9_both_0 : cX9_both.data.toList.drop 0 = dktX9_both_0 := by decide +kernel
theorem dksX9_both_1 : cX9_both.data.toList.drop 24 = dktX9_both_1 := dk_seg dksX9_both_0 24 rfl rfl
theorem dX9_both_0 : decode cX9_both 0 = .ok (.aload_n 0, 1) := dk_42 (dk_at dksX9_both_0 0 rfl rfl)
theorem dX9_both_1 : decode cX9_both 1 = .ok (.getfield 80, 3) := dk_180 0 80 (dk_at dksX9_both_0 1 rfl rfl)
theorem dX9_both_4 : decode cX9_both 4 = .ok (.istore_n 1, 1) := dk_60 (dk_at dksX9_both_0 4 rfl rfl)
theorem dX9_both_5 : decode cX9_both 5 = .ok (.aload_n 0, 1) := dk_42 (dk_at dksX9_both_0 5 rfl rfl)
theorem dX9_both_6 : decode cX9_both 6 = .ok (.aload_n 0, 1) := dk_42 (dk_at dksX9_both_0 6 rfl rfl)
theorem dX9_both_7 : decode cX9_both 7 = .ok (.invokevirtual 97, 3) := dk_182 0 97 (dk_at dksX9_both_0 7 rfl rfl)
theorem dX9_both_10 : decode cX9_both 10 = .ok (.invokevirtual 87, 3) := dk_182 0 87 (dk_at dksX9_both_0 10 rfl rfl)
theorem dX9_both_13 : decode cX9_both 13 = .ok (.aload_n 0, 1) := dk_42 (dk_at dksX9_both_0 13 rfl rfl)
theorem dX9_both_14 : decode cX9_both 14 = .ok (.ldc 100, 2) := dk_18 100 (dk_at dksX9_both_0 14 rfl rfl)
theorem dX9_both_16 : decode cX9_both 16 = .ok (.invokevirtual 38, 3) := dk_182 0 38 (dk_at dksX9_both_0 16 rfl rfl)
theorem dX9_both_19 : decode cX9_both 19 = .ok (.ifCond .eq 14, 3) := dk_153 0 14 (dk_at dksX9_both_0 19 rfl rfl)
theorem dX9_both_22 : decode cX9_both 22 = .ok (.aload_n 0, 1) := dk_42 (dk_at dksX9_both_0 22 rfl rfl)
theorem dX9_both_23 : decode cX9_both 23 = .ok (.aload_n 0, 1) := dk_42 (dk_at dksX9_both_0 23 rfl rfl)
theorem dX9_both_24 : decode cX9_both 24 = .ok (.invokevirtual 97, 3) := dk_182 0 97 (dk_at dksX9_both_1 0 rfl rfl)
theorem dX9_both_27 : decode cX9_both 27 = .ok (.invokevirtual 87, 3) := dk_182 0 87 (dk_at dksX9_both_1 3 rfl rfl)
theorem dX9_both_30 : decode cX9_both 30 = .ok (.goto (-17), 3) := dk_167 255 239 (dk_at dksX9_both_1 6 rfl rfl)
theorem dX9_both_33 : decode cX9_both 33 = .ok (.aload_n 0, 1) := dk_42 (dk_at dksX9_both_1 9 rfl rfl)
theorem dX9_both_34 : decode cX9_both 34 = .ok (.iconst 1, 1) := dk_4 (dk_at dksX9_both_1 10 rfl rfl)
theorem dX9_both_35 : decode cX9_both 35 = .ok (.iload_n 1, 1) := dk_27 (dk_at dksX9_both_1 11 rfl rfl)
theorem dX9_both_36 : decode cX9_both 36 = .ok (.invokevirtual 93, 3) := dk_182 0 93 (dk_at dksX9_both_1 12 rfl rfl)
theorem dX9_both_39 : decode cX9_both 39 = .ok (.areturn, 1) := dk_176 (dk_at dksX9_both_1 15 rfl rfl)
abbrev cX9_plain : ByteArray := prog_23_method_17_code
def yX9_plain : MethodName := ⟨RX9, "plain", "()LMissCurves$Test;"⟩
def dkwX9_plain_5 : List UInt8 := [182, 0, 135, 183, 0, 147, 77, 27, 153, 0, 14, 187, 0, 150, 89, 44, 183, 0, 152, 167, 0, 4, 44, 176]
abbrev dktX9_plain_5 : List UInt8 := dkwX9_plain_5 ++ []
def dkwX9_plain_4 : List UInt8 := [180, 0, 52, 42, 180, 0, 42, 51, 54, 4, 42, 182, 0, 25, 187, 0, 145, 89, 45, 21, 4, 42]
abbrev dktX9_plain_4 : List UInt8 := dkwX9_plain_4 ++ dktX9_plain_5
def dkwX9_plain_3 : List UInt8 := [154, 0, 12, 42, 18, 143, 182, 0, 73, 153, 0, 7, 4, 167, 0, 4, 3, 182, 0, 28, 42, 180, 0, 3]
abbrev dktX9_plain_3 : List UInt8 := dkwX9_plain_3 ++ dktX9_plain_4
def dkwX9_plain_2 : List UInt8 := [167, 0, 77, 42, 182, 0, 135, 78, 42, 42, 18, 139, 182, 0, 73, 154, 0, 21, 42, 18, 141, 182, 0, 73]
abbrev dktX9_plain_2 : List UInt8 := dkwX9_plain_2 ++ dktX9_plain_3
def dkwX9_plain_1 : List UInt8 := [42, 18, 121, 182, 0, 73, 153, 0, 21, 42, 182, 0, 123, 42, 182, 0, 126, 77, 42, 18, 129, 182, 0, 131]
abbrev dktX9_plain_1 : List UInt8 := dkwX9_plain_1 ++ dktX9_plain_2
def dkwX9_plain_0 : List UInt8 := [3, 60, 42, 18, 119, 182, 0, 38, 153, 0, 16, 27, 154, 0, 7, 4, 167, 0, 4, 3, 60, 167, 255, 237]
abbrev dktX9_plain_0 : List UInt8 := dkwX9_plain_0 ++ dktX9_plain_1
theorem dksX9_plain_0 : cX9_plain.data.toList.drop 0 = dktX9_plain_0 := by decide +kernel
theorem dksX9_plain_1 : cX9_plain.data.toList.drop 24 = dktX9_plain_1 := dk_seg dksX9_plain_0 24 rfl rfl
theorem dksX9_plain_2 : cX9_plain.data.toList.drop 48 = dktX9_plain_2 := dk_seg dksX9_plain_1 24 rfl rfl
theorem dksX9_plain_3 : cX9_plain.data.toList.drop 72 = dktX9_plain_3 := dk_seg dksX9_plain_2 24 rfl rfl
theorem dksX9_plain_4 : cX9_plain.data.toList.drop 96 = dktX9_plain_4 := dk_seg dksX9_plain_3 24 rfl rfl
theorem dksX9_plain_5 : cX9_plain.data.toList.drop 118 = dktX9_plain_5 := dk_seg dksX9_plain_4 22 rfl rfl
theorem dX9_plain_0 : decode cX9_plain 0 = .ok (.iconst 0, 1) := dk_3 (dk_at dksX9_plain_0 0 rfl rfl)
theorem dX9_plain_1 : decode cX9_plain 1 = .ok (.istore_n 1, 1) := dk_60 (dk_at dksX9_plain_0 1 rfl rfl)
theorem dX9_plain_2 : decode cX9_plain 2 = .ok (.aload_n 0, 1) := dk_42 (dk_at dksX9_plain_0 2 rfl rfl)
theorem dX9_plain_3 : decode cX9_plain 3 = .ok (.ldc 119, 2) := dk_18 119 (dk_at dksX9_plain_0 3 rfl rfl)
theorem dX9_plain_5 : decode cX9_plain 5 = .ok (.invokevirtual 38, 3) := dk_182 0 38 (dk_at dksX9_plain_0 5 rfl rfl)
theorem dX9_plain_8 : decode cX9_plain 8 = .ok (.ifCond .eq 16, 3) := dk_153 0 16 (dk_at dksX9_plain_0 8 rfl rfl)
theorem dX9_plain_11 : decode cX9_plain 11 = .ok (.iload_n 1, 1) := dk_27 (dk_at dksX9_plain_0 11 rfl rfl)
theorem dX9_plain_12 : decode cX9_plain 12 = .ok (.ifCond .ne 7, 3) := dk_154 0 7 (dk_at dksX9_plain_0 12 rfl rfl)
theorem dX9_plain_15 : decode cX9_plain 15 = .ok (.iconst 1, 1) := dk_4 (dk_at dksX9_plain_0 15 rfl rfl)
theorem dX9_plain_16 : decode cX9_plain 16 = .ok (.goto 4, 3) := dk_167 0 4 (dk_at dksX9_plain_0 16 rfl rfl)
theorem dX9_plain_19 : decode cX9_plain 19 = .ok (.iconst 0, 1) := dk_3 (dk_at dksX9_plain_0 19 rfl rfl)
theorem dX9_plain_20 : decode cX9_plain 20 = .ok (.istore_n 1, 1) := dk_60 (dk_at dksX9_plain_0 20 rfl rfl)
theorem dX9_plain_21 : decode cX9_plain 21 = .ok (.goto (-19), 3) := dk_167 255 237 (dk_at dksX9_plain_0 21 rfl rfl)
theorem dX9_plain_24 : decode cX9_plain 24 = .ok (.aload_n 0, 1) := dk_42 (dk_at dksX9_plain_1 0 rfl rfl)
theorem dX9_plain_25 : decode cX9_plain 25 = .ok (.ldc 121, 2) := dk_18 121 (dk_at dksX9_plain_1 1 rfl rfl)
theorem dX9_plain_27 : decode cX9_plain 27 = .ok (.invokevirtual 73, 3) := dk_182 0 73 (dk_at dksX9_plain_1 3 rfl rfl)
theorem dX9_plain_30 : decode cX9_plain 30 = .ok (.ifCond .eq 21, 3) := dk_153 0 21 (dk_at dksX9_plain_1 6 rfl rfl)
theorem dX9_plain_33 : decode cX9_plain 33 = .ok (.aload_n 0, 1) := dk_42 (dk_at dksX9_plain_1 9 rfl rfl)
theorem dX9_plain_34 : decode cX9_plain 34 = .ok (.invokevirtual 123, 3) := dk_182 0 123 (dk_at dksX9_plain_1 10 rfl rfl)
theorem dX9_plain_37 : decode cX9_plain 37 = .ok (.aload_n 0, 1) := dk_42 (dk_at dksX9_plain_1 13 rfl rfl)
theorem dX9_plain_38 : decode cX9_plain 38 = .ok (.invokevirtual 126, 3) := dk_182 0 126 (dk_at dksX9_plain_1 14 rfl rfl)
theorem dX9_plain_41 : decode cX9_plain 41 = .ok (.astore_n 2, 1) := dk_77 (dk_at dksX9_plain_1 17 rfl rfl)
theorem dX9_plain_42 : decode cX9_plain 42 = .ok (.aload_n 0, 1) := dk_42 (dk_at dksX9_plain_1 18 rfl rfl)
theorem dX9_plain_43 : decode cX9_plain 43 = .ok (.ldc 129, 2) := dk_18 129 (dk_at dksX9_plain_1 19 rfl rfl)
theorem dX9_plain_45 : decode cX9_plain 45 = .ok (.invokevirtual 131, 3) := dk_182 0 131 (dk_at dksX9_plain_1 21 rfl rfl)
theorem dX9_plain_48 : decode cX9_plain 48 = .ok (.goto 77, 3) := dk_167 0 77 (dk_at dksX9_plain_2 0 rfl rfl)
theorem dX9_plain_51 : decode cX9_plain 51 = .ok (.aload_n 0, 1) := dk_42 (dk_at dksX9_plain_2 3 rfl rfl)
theorem dX9_plain_52 : decode cX9_plain 52 = .ok (.invokevirtual 135, 3) := dk_182 0 135 (dk_at dksX9_plain_2 4 rfl rfl)
theorem dX9_plain_55 : decode cX9_plain 55 = .ok (.astore_n 3, 1) := dk_78 (dk_at dksX9_plain_2 7 rfl rfl)
theorem dX9_plain_56 : decode cX9_plain 56 = .ok (.aload_n 0, 1) := dk_42 (dk_at dksX9_plain_2 8 rfl rfl)
theorem dX9_plain_57 : decode cX9_plain 57 = .ok (.aload_n 0, 1) := dk_42 (dk_at dksX9_plain_2 9 rfl rfl)
theorem dX9_plain_58 : decode cX9_plain 58 = .ok (.ldc 139, 2) := dk_18 139 (dk_at dksX9_plain_2 10 rfl rfl)
theorem dX9_plain_60 : decode cX9_plain 60 = .ok (.invokevirtual 73, 3) := dk_182 0 73 (dk_at dksX9_plain_2 12 rfl rfl)
theorem dX9_plain_63 : decode cX9_plain 63 = .ok (.ifCond .ne 21, 3) := dk_154 0 21 (dk_at dksX9_plain_2 15 rfl rfl)
theorem dX9_plain_66 : decode cX9_plain 66 = .ok (.aload_n 0, 1) := dk_42 (dk_at dksX9_plain_2 18 rfl rfl)
theorem dX9_plain_67 : decode cX9_plain 67 = .ok (.ldc 141, 2) := dk_18 141 (dk_at dksX9_plain_2 19 rfl rfl)
theorem dX9_plain_69 : decode cX9_plain 69 = .ok (.invokevirtual 73, 3) := dk_182 0 73 (dk_at dksX9_plain_2 21 rfl rfl)
theorem dX9_plain_72 : decode cX9_plain 72 = .ok (.ifCond .ne 12, 3) := dk_154 0 12 (dk_at dksX9_plain_3 0 rfl rfl)
theorem dX9_plain_75 : decode cX9_plain 75 = .ok (.aload_n 0, 1) := dk_42 (dk_at dksX9_plain_3 3 rfl rfl)
theorem dX9_plain_76 : decode cX9_plain 76 = .ok (.ldc 143, 2) := dk_18 143 (dk_at dksX9_plain_3 4 rfl rfl)
theorem dX9_plain_78 : decode cX9_plain 78 = .ok (.invokevirtual 73, 3) := dk_182 0 73 (dk_at dksX9_plain_3 6 rfl rfl)
theorem dX9_plain_81 : decode cX9_plain 81 = .ok (.ifCond .eq 7, 3) := dk_153 0 7 (dk_at dksX9_plain_3 9 rfl rfl)
theorem dX9_plain_84 : decode cX9_plain 84 = .ok (.iconst 1, 1) := dk_4 (dk_at dksX9_plain_3 12 rfl rfl)
theorem dX9_plain_85 : decode cX9_plain 85 = .ok (.goto 4, 3) := dk_167 0 4 (dk_at dksX9_plain_3 13 rfl rfl)
theorem dX9_plain_88 : decode cX9_plain 88 = .ok (.iconst 0, 1) := dk_3 (dk_at dksX9_plain_3 16 rfl rfl)
theorem dX9_plain_89 : decode cX9_plain 89 = .ok (.invokevirtual 28, 3) := dk_182 0 28 (dk_at dksX9_plain_3 17 rfl rfl)
theorem dX9_plain_92 : decode cX9_plain 92 = .ok (.aload_n 0, 1) := dk_42 (dk_at dksX9_plain_3 20 rfl rfl)
theorem dX9_plain_93 : decode cX9_plain 93 = .ok (.getfield 3, 3) := dk_180 0 3 (dk_at dksX9_plain_3 21 rfl rfl)
theorem dX9_plain_96 : decode cX9_plain 96 = .ok (.getfield 52, 3) := dk_180 0 52 (dk_at dksX9_plain_4 0 rfl rfl)
theorem dX9_plain_99 : decode cX9_plain 99 = .ok (.aload_n 0, 1) := dk_42 (dk_at dksX9_plain_4 3 rfl rfl)
theorem dX9_plain_100 : decode cX9_plain 100 = .ok (.getfield 42, 3) := dk_180 0 42 (dk_at dksX9_plain_4 4 rfl rfl)
theorem dX9_plain_103 : decode cX9_plain 103 = .ok (.baload, 1) := dk_51 (dk_at dksX9_plain_4 7 rfl rfl)
theorem dX9_plain_104 : decode cX9_plain 104 = .ok (.istore 4, 2) := dk_54 4 (dk_at dksX9_plain_4 8 rfl rfl)
theorem dX9_plain_106 : decode cX9_plain 106 = .ok (.aload_n 0, 1) := dk_42 (dk_at dksX9_plain_4 10 rfl rfl)
theorem dX9_plain_107 : decode cX9_plain 107 = .ok (.invokevirtual 25, 3) := dk_182 0 25 (dk_at dksX9_plain_4 11 rfl rfl)
theorem dX9_plain_110 : decode cX9_plain 110 = .ok (.new 145, 3) := dk_187 0 145 (dk_at dksX9_plain_4 14 rfl rfl)
theorem dX9_plain_113 : decode cX9_plain 113 = .ok (.dup, 1) := dk_89 (dk_at dksX9_plain_4 17 rfl rfl)
theorem dX9_plain_114 : decode cX9_plain 114 = .ok (.aload_n 3, 1) := dk_45 (dk_at dksX9_plain_4 18 rfl rfl)
theorem dX9_plain_115 : decode cX9_plain 115 = .ok (.iload 4, 2) := dk_21 4 (dk_at dksX9_plain_4 19 rfl rfl)
theorem dX9_plain_117 : decode cX9_plain 117 = .ok (.aload_n 0, 1) := dk_42 (dk_at dksX9_plain_4 21 rfl rfl)
theorem dX9_plain_118 : decode cX9_plain 118 = .ok (.invokevirtual 135, 3) := dk_182 0 135 (dk_at dksX9_plain_5 0 rfl rfl)
theorem dX9_plain_121 : decode cX9_plain 121 = .ok (.invokespecial 147, 3) := dk_183 0 147 (dk_at dksX9_plain_5 3 rfl rfl)
theorem dX9_plain_124 : decode cX9_plain 124 = .ok (.astore_n 2, 1) := dk_77 (dk_at dksX9_plain_5 6 rfl rfl)
theorem dX9_plain_125 : decode cX9_plain 125 = .ok (.iload_n 1, 1) := dk_27 (dk_at dksX9_plain_5 7 rfl rfl)
theorem dX9_plain_126 : decode cX9_plain 126 = .ok (.ifCond .eq 14, 3) := dk_153 0 14 (dk_at dksX9_plain_5 8 rfl rfl)
theorem dX9_plain_129 : decode cX9_plain 129 = .ok (.new 150, 3) := dk_187 0 150 (dk_at dksX9_plain_5 11 rfl rfl)
theorem dX9_plain_132 : decode cX9_plain 132 = .ok (.dup, 1) := dk_89 (dk_at dksX9_plain_5 14 rfl rfl)
theorem dX9_plain_133 : decode cX9_plain 133 = .ok (.aload_n 2, 1) := dk_44 (dk_at dksX9_plain_5 15 rfl rfl)
theorem dX9_plain_134 : decode cX9_plain 134 = .ok (.invokespecial 152, 3) := dk_183 0 152 (dk_at dksX9_plain_5 16 rfl rfl)
theorem dX9_plain_137 : decode cX9_plain 137 = .ok (.goto 4, 3) := dk_167 0 4 (dk_at dksX9_plain_5 19 rfl rfl)
theorem dX9_plain_140 : decode cX9_plain 140 = .ok (.aload_n 2, 1) := dk_44 (dk_at dksX9_plain_5 22 rfl rfl)
theorem dX9_plain_141 : decode cX9_plain 141 = .ok (.areturn, 1) := dk_176 (dk_at dksX9_plain_5 23 rfl rfl)
abbrev cX9_add : ByteArray := prog_23_method_12_code
def yX9_add : MethodName := ⟨RX9, "add", "(LMissCurves$Test;)V"⟩
def dkwX9_add_0 : List UInt8 := [42, 180, 0, 17, 42, 180, 0, 80, 43, 83, 42, 89, 180, 0, 80, 4, 96, 181, 0, 80, 177]
abbrev dktX9_add_0 : List UInt8 := dkwX9_add_0 ++ []
theorem dksX9_add_0 : cX9_add.data.toList.drop 0 = dktX9_add_0 := by decide +kernel
theorem dX9_add_0 : decode cX9_add 0 = .ok (.aload_n 0, 1) := dk_42 (dk_at dksX9_add_0 0 rfl rfl)
theorem dX9_add_1 : decode cX9_add 1 = .ok (.getfield 17, 3) := dk_180 0 17 (dk_at dksX9_add_0 1 rfl rfl)
theorem dX9_add_4 : decode cX9_add 4 = .ok (.aload_n 0, 1) := dk_42 (dk_at dksX9_add_0 4 rfl rfl)
theorem dX9_add_5 : decode cX9_add 5 = .ok (.getfield 80, 3) := dk_180 0 80 (dk_at dksX9_add_0 5 rfl rfl)
theorem dX9_add_8 : decode cX9_add 8 = .ok (.aload_n 1, 1) := dk_43 (dk_at dksX9_add_0 8 rfl rfl)
theorem dX9_add_9 : decode cX9_add 9 = .ok (.aastore, 1) := dk_83 (dk_at dksX9_add_0 9 rfl rfl)
theorem dX9_add_10 : decode cX9_add 10 = .ok (.aload_n 0, 1) := dk_42 (dk_at dksX9_add_0 10 rfl rfl)
theorem dX9_add_11 : decode cX9_add 11 = .ok (.dup, 1) := dk_89 (dk_at dksX9_add_0 11 rfl rfl)
theorem dX9_add_12 : decode cX9_add 12 = .ok (.getfield 80, 3) := dk_180 0 80 (dk_at dksX9_add_0 12 rfl rfl)
theorem dX9_add_15 : decode cX9_add 15 = .ok (.iconst 1, 1) := dk_4 (dk_at dksX9_add_0 15 rfl rfl)
theorem dX9_add_16 : decode cX9_add 16 = .ok (.iadd, 1) := dk_96 (dk_at dksX9_add_0 16 rfl rfl)
theorem dX9_add_17 : decode cX9_add 17 = .ok (.putfield 80, 3) := dk_181 0 80 (dk_at dksX9_add_0 17 rfl rfl)
theorem dX9_add_20 : decode cX9_add 20 = .ok (.return_, 1) := dk_177 (dk_at dksX9_add_0 20 rfl rfl)
abbrev cX9_joined : ByteArray := prog_23_method_13_code
def yX9_joined : MethodName := ⟨RX9, "joined", "(ZI)LMissCurves$Test;"⟩
def dkwX9_joined_2 : List UInt8 := [25, 4, 183, 0, 110, 78, 42, 28, 181, 0, 80, 45, 176]
abbrev dktX9_joined_2 : List UInt8 := dkwX9_joined_2 ++ []
def dkwX9_joined_1 : List UInt8 := [189, 0, 15, 58, 4, 42, 180, 0, 17, 28, 25, 4, 3, 25, 4, 190, 184, 0, 102, 187, 0, 108, 89, 27]
abbrev dktX9_joined_1 : List UInt8 := dkwX9_joined_1 ++ dktX9_joined_2
def dkwX9_joined_0 : List UInt8 := [42, 180, 0, 17, 28, 50, 78, 42, 180, 0, 80, 28, 100, 4, 164, 0, 39, 42, 180, 0, 80, 28, 100]
abbrev dktX9_joined_0 : List UInt8 := dkwX9_joined_0 ++ dktX9_joined_1
theorem dksX9_joined_0 : cX9_joined.data.toList.drop 0 = dktX9_joined_0 := by decide +kernel
theorem dksX9_joined_1 : cX9_joined.data.toList.drop 23 = dktX9_joined_1 := dk_seg dksX9_joined_0 23 rfl rfl
theorem dksX9_joined_2 : cX9_joined.data.toList.drop 47 = dktX9_joined_2 := dk_seg dksX9_joined_1 24 rfl rfl
theorem dX9_joined_0 : decode cX9_joined 0 = .ok (.aload_n 0, 1) := dk_42 (dk_at dksX9_joined_0 0 rfl rfl)
theorem dX9_joined_1 : decode cX9_joined 1 = .ok (.getfield 17, 3) := dk_180 0 17 (dk_at dksX9_joined_0 1 rfl rfl)
theorem dX9_joined_4 : decode cX9_joined 4 = .ok (.iload_n 2, 1) := dk_28 (dk_at dksX9_joined_0 4 rfl rfl)
theorem dX9_joined_5 : decode cX9_joined 5 = .ok (.aaload, 1) := dk_50 (dk_at dksX9_joined_0 5 rfl rfl)
theorem dX9_joined_6 : decode cX9_joined 6 = .ok (.astore_n 3, 1) := dk_78 (dk_at dksX9_joined_0 6 rfl rfl)
theorem dX9_joined_7 : decode cX9_joined 7 = .ok (.aload_n 0, 1) := dk_42 (dk_at dksX9_joined_0 7 rfl rfl)
theorem dX9_joined_8 : decode cX9_joined 8 = .ok (.getfield 80, 3) := dk_180 0 80 (dk_at dksX9_joined_0 8 rfl rfl)
theorem dX9_joined_11 : decode cX9_joined 11 = .ok (.iload_n 2, 1) := dk_28 (dk_at dksX9_joined_0 11 rfl rfl)
theorem dX9_joined_12 : decode cX9_joined 12 = .ok (.isub, 1) := dk_100 (dk_at dksX9_joined_0 12 rfl rfl)
theorem dX9_joined_13 : decode cX9_joined 13 = .ok (.iconst 1, 1) := dk_4 (dk_at dksX9_joined_0 13 rfl rfl)
theorem dX9_joined_14 : decode cX9_joined 14 = .ok (.if_icmp .le 39, 3) := dk_164 0 39 (dk_at dksX9_joined_0 14 rfl rfl)
theorem dX9_joined_17 : decode cX9_joined 17 = .ok (.aload_n 0, 1) := dk_42 (dk_at dksX9_joined_0 17 rfl rfl)
theorem dX9_joined_18 : decode cX9_joined 18 = .ok (.getfield 80, 3) := dk_180 0 80 (dk_at dksX9_joined_0 18 rfl rfl)
theorem dX9_joined_21 : decode cX9_joined 21 = .ok (.iload_n 2, 1) := dk_28 (dk_at dksX9_joined_0 21 rfl rfl)
theorem dX9_joined_22 : decode cX9_joined 22 = .ok (.isub, 1) := dk_100 (dk_at dksX9_joined_0 22 rfl rfl)
theorem dX9_joined_23 : decode cX9_joined 23 = .ok (.anewarray 15, 3) := dk_189 0 15 (dk_at dksX9_joined_1 0 rfl rfl)
theorem dX9_joined_26 : decode cX9_joined 26 = .ok (.astore 4, 2) := dk_58 4 (dk_at dksX9_joined_1 3 rfl rfl)
theorem dX9_joined_28 : decode cX9_joined 28 = .ok (.aload_n 0, 1) := dk_42 (dk_at dksX9_joined_1 5 rfl rfl)
theorem dX9_joined_29 : decode cX9_joined 29 = .ok (.getfield 17, 3) := dk_180 0 17 (dk_at dksX9_joined_1 6 rfl rfl)
theorem dX9_joined_32 : decode cX9_joined 32 = .ok (.iload_n 2, 1) := dk_28 (dk_at dksX9_joined_1 9 rfl rfl)
theorem dX9_joined_33 : decode cX9_joined 33 = .ok (.aload 4, 2) := dk_25 4 (dk_at dksX9_joined_1 10 rfl rfl)
theorem dX9_joined_35 : decode cX9_joined 35 = .ok (.iconst 0, 1) := dk_3 (dk_at dksX9_joined_1 12 rfl rfl)
theorem dX9_joined_36 : decode cX9_joined 36 = .ok (.aload 4, 2) := dk_25 4 (dk_at dksX9_joined_1 13 rfl rfl)
theorem dX9_joined_38 : decode cX9_joined 38 = .ok (.arraylength, 1) := dk_190 (dk_at dksX9_joined_1 15 rfl rfl)
theorem dX9_joined_39 : decode cX9_joined 39 = .ok (.invokestatic 102, 3) := dk_184 0 102 (dk_at dksX9_joined_1 16 rfl rfl)
theorem dX9_joined_42 : decode cX9_joined 42 = .ok (.new 108, 3) := dk_187 0 108 (dk_at dksX9_joined_1 19 rfl rfl)
theorem dX9_joined_45 : decode cX9_joined 45 = .ok (.dup, 1) := dk_89 (dk_at dksX9_joined_1 22 rfl rfl)
theorem dX9_joined_46 : decode cX9_joined 46 = .ok (.iload_n 1, 1) := dk_27 (dk_at dksX9_joined_1 23 rfl rfl)
theorem dX9_joined_47 : decode cX9_joined 47 = .ok (.aload 4, 2) := dk_25 4 (dk_at dksX9_joined_2 0 rfl rfl)
theorem dX9_joined_49 : decode cX9_joined 49 = .ok (.invokespecial 110, 3) := dk_183 0 110 (dk_at dksX9_joined_2 2 rfl rfl)
theorem dX9_joined_52 : decode cX9_joined 52 = .ok (.astore_n 3, 1) := dk_78 (dk_at dksX9_joined_2 5 rfl rfl)
theorem dX9_joined_53 : decode cX9_joined 53 = .ok (.aload_n 0, 1) := dk_42 (dk_at dksX9_joined_2 6 rfl rfl)
theorem dX9_joined_54 : decode cX9_joined 54 = .ok (.iload_n 2, 1) := dk_28 (dk_at dksX9_joined_2 7 rfl rfl)
theorem dX9_joined_55 : decode cX9_joined 55 = .ok (.putfield 80, 3) := dk_181 0 80 (dk_at dksX9_joined_2 8 rfl rfl)
theorem dX9_joined_58 : decode cX9_joined 58 = .ok (.aload_n 3, 1) := dk_45 (dk_at dksX9_joined_2 11 rfl rfl)
theorem dX9_joined_59 : decode cX9_joined 59 = .ok (.areturn, 1) := dk_176 (dk_at dksX9_joined_2 12 rfl rfl)
theorem q156 : (Jvm.Cond.initialized "MissCurves$Reader") ∈ lw_all := lw_g (lw_at lw_m1 29 rfl) rfl
theorem q395 : (Jvm.Cond.fieldLinkNest "MissCurves$Reader" (52 : Nat) "MissCurves" "tape" "[B" "MissCurves") ∈ lw_tbl := lw_at lw_m2 28 rfl
theorem q398 : (Jvm.Cond.fieldLinkNest "MissCurves$Reader" (46 : Nat) "MissCurves" "taped" "I" "MissCurves") ∈ lw_tbl := lw_at lw_m2 31 rfl
theorem q1064 : (Jvm.Cond.instanceMethod ({ cls := "MissCurves$Reader", name := "<init>", desc := "(LMissCurves;[Ljava/lang/String;)V" } : Jvm.MethodName)) ∈ lw_all := lw_g (lw_at lw_m4 217 rfl) rfl
theorem q1065 : (Jvm.Cond.code ({ cls := "MissCurves$Reader", name := "<init>", desc := "(LMissCurves;[Ljava/lang/String;)V" } : Jvm.MethodName) prog_23_method_1_code (3 : Nat) (Option.none : Option Jvm.ClassFile.FieldType)) ∈ lw_all := lw_g (lw_at lw_m4 218 rfl) rfl
theorem q1066 : (Jvm.Cond.methodLink "MissCurves$Reader" (9 : Nat) ({ cls := "java/lang/Object", name := "<init>", desc := "()V" } : Jvm.MethodName)) ∈ lw_all := lw_g (lw_at lw_m4 219 rfl) rfl
theorem q1067 : (Jvm.Cond.classLink "MissCurves$Reader" (15 : Nat) "MissCurves$Test") ∈ lw_all := lw_g (lw_at lw_m4 220 rfl) rfl
theorem q1075 : (Jvm.Cond.fieldLink "MissCurves$Reader" (42 : Nat) "MissCurves$Reader" "from" "I") ∈ lw_all := lw_g (lw_at lw_m4 228 rfl) rfl
theorem q1078 : (Jvm.Cond.fieldLink "MissCurves$Reader" (49 : Nat) "MissCurves$Reader" "to" "I") ∈ lw_all := lw_g (lw_at lw_m4 231 rfl) rfl
theorem q1081 : (Jvm.Cond.fieldLink "MissCurves$Reader" (116 : Nat) "MissCurves$Reader" "leaves" "I") ∈ lw_all := lw_g (lw_at lw_m4 234 rfl) rfl
theorem q1082 : (Jvm.Cond.fieldLink "MissCurves$Reader" (113 : Nat) "MissCurves$Reader" "deep" "I") ∈ lw_all := lw_g (lw_at lw_m4 235 rfl) rfl
theorem q1083 : (Jvm.Cond.fieldLink "MissCurves$Reader" (80 : Nat) "MissCurves$Reader" "piled" "I") ∈ lw_all := lw_g (lw_at lw_m4 236 rfl) rfl
theorem q1084 : (Jvm.Cond.fieldLink "MissCurves$Reader" (17 : Nat) "MissCurves$Reader" "pile" "[LMissCurves$Test;") ∈ lw_all := lw_g (lw_at lw_m4 237 rfl) rfl
theorem q1085 : (Jvm.Cond.fieldLink "MissCurves$Reader" (21 : Nat) "MissCurves$Reader" "words" "[Ljava/lang/String;") ∈ lw_all := lw_g (lw_at lw_m4 238 rfl) rfl
theorem q1086 : (Jvm.Cond.fieldLink "MissCurves$Reader" (3 : Nat) "MissCurves$Reader" "this$0" "LMissCurves;") ∈ lw_all := lw_g (lw_at lw_m4 239 rfl) rfl
theorem q1094 : (Jvm.Cond.soleField "MissCurves$Reader" "from") ∈ lw_all := lw_g (lw_at lw_m5 7 rfl) rfl
theorem q1096 : (Jvm.Cond.soleField "MissCurves$Reader" "to") ∈ lw_all := lw_g (lw_at lw_m5 9 rfl) rfl
theorem q1098 : (Jvm.Cond.soleField "MissCurves$Reader" "leaves") ∈ lw_all := lw_g (lw_at lw_m5 11 rfl) rfl
theorem q1100 : (Jvm.Cond.soleField "MissCurves$Reader" "deep") ∈ lw_all := lw_g (lw_at lw_m5 13 rfl) rfl
theorem q1102 : (Jvm.Cond.soleField "MissCurves$Reader" "piled") ∈ lw_all := lw_g (lw_at lw_m5 15 rfl) rfl
theorem q1104 : (Jvm.Cond.soleField "MissCurves$Reader" "pile") ∈ lw_all := lw_g (lw_at lw_m5 17 rfl) rfl
theorem q1106 : (Jvm.Cond.soleField "MissCurves$Reader" "words") ∈ lw_all := lw_g (lw_at lw_m5 19 rfl) rfl
theorem q1108 : (Jvm.Cond.soleField "MissCurves$Reader" "this$0") ∈ lw_all := lw_g (lw_at lw_m5 21 rfl) rfl
theorem q1116 : (Jvm.Cond.declares ({ cls := "MissCurves$Reader", name := "readAll", desc := "()I" } : Jvm.MethodName)) ∈ lw_tbl := lw_at lw_m5 29 rfl
theorem q1118 : (Jvm.Cond.instanceMethod ({ cls := "MissCurves$Reader", name := "readAll", desc := "()I" } : Jvm.MethodName)) ∈ lw_all := lw_g (lw_at lw_m5 31 rfl) rfl
theorem q1119 : (Jvm.Cond.code ({ cls := "MissCurves$Reader", name := "readAll", desc := "()I" } : Jvm.MethodName) prog_23_method_2_code (2 : Nat) (Option.some Jvm.ClassFile.FieldType.int)) ∈ lw_all := lw_g (lw_at lw_m5 32 rfl) rfl
theorem q1120 : (Jvm.Cond.methodLink "MissCurves$Reader" (25 : Nat) ({ cls := "MissCurves$Reader", name := "next", desc := "()V" } : Jvm.MethodName)) ∈ lw_all := lw_g (lw_at lw_m5 33 rfl) rfl
theorem q1121 : (Jvm.Cond.instanceMethod ({ cls := "MissCurves$Reader", name := "next", desc := "()V" } : Jvm.MethodName)) ∈ lw_all := lw_g (lw_at lw_m5 34 rfl) rfl
theorem q1122 : (Jvm.Cond.sameMethod "MissCurves$Reader" "MissCurves$Reader" "next" "()V") ∈ lw_all := lw_g (lw_at lw_m5 35 rfl) rfl
theorem q1125 : (Jvm.Cond.code ({ cls := "MissCurves$Reader", name := "next", desc := "()V" } : Jvm.MethodName) prog_23_method_4_code (3 : Nat) (Option.none : Option Jvm.ClassFile.FieldType)) ∈ lw_all := lw_g (lw_at lw_m5 38 rfl) rfl
theorem q1126 : (Jvm.Cond.methodLinkNest "MissCurves$Reader" (56 : Nat) ({ cls := "MissCurves", name := "isLetter", desc := "(I)Z" } : Jvm.MethodName) "MissCurves") ∈ lw_tbl := lw_at lw_m5 39 rfl
theorem q1129 : (Jvm.Cond.methodLinkNest "MissCurves$Reader" (60 : Nat) ({ cls := "MissCurves", name := "isDigit", desc := "(I)Z" } : Jvm.MethodName) "MissCurves") ∈ lw_tbl := lw_at lw_m5 42 rfl
theorem q1132 : (Jvm.Cond.methodLink "MissCurves$Reader" (28 : Nat) ({ cls := "MissCurves$Reader", name := "must", desc := "(Z)V" } : Jvm.MethodName)) ∈ lw_all := lw_g (lw_at lw_m5 45 rfl) rfl
theorem q1133 : (Jvm.Cond.instanceMethod ({ cls := "MissCurves$Reader", name := "must", desc := "(Z)V" } : Jvm.MethodName)) ∈ lw_all := lw_g (lw_at lw_m5 46 rfl) rfl
theorem q1134 : (Jvm.Cond.sameMethod "MissCurves$Reader" "MissCurves$Reader" "must" "(Z)V") ∈ lw_all := lw_g (lw_at lw_m5 47 rfl) rfl
theorem q1137 : (Jvm.Cond.code ({ cls := "MissCurves$Reader", name := "must", desc := "(Z)V" } : Jvm.MethodName) prog_23_method_8_code (2 : Nat) (Option.none : Option Jvm.ClassFile.FieldType)) ∈ lw_all := lw_g (lw_at lw_m5 50 rfl) rfl
theorem q1138 : (Jvm.Cond.classLink "MissCurves$Reader" (76 : Nat) "MissCurves$Wrong") ∈ lw_all := lw_g (lw_at lw_m5 51 rfl) rfl
theorem q1147 : (Jvm.Cond.methodLink "MissCurves$Reader" (78 : Nat) ({ cls := "MissCurves$Wrong", name := "<init>", desc := "(I)V" } : Jvm.MethodName)) ∈ lw_all := lw_g (lw_at lw_m5 60 rfl) rfl
theorem q1162 : (Jvm.Cond.methodLink "MissCurves$Reader" (32 : Nat) ({ cls := "MissCurves$Reader", name := "read", desc := "(I)V" } : Jvm.MethodName)) ∈ lw_all := lw_g (lw_at lw_m5 75 rfl) rfl
theorem q1163 : (Jvm.Cond.declares ({ cls := "MissCurves$Reader", name := "read", desc := "(I)V" } : Jvm.MethodName)) ∈ lw_tbl := lw_at lw_m5 76 rfl
theorem q1164 : (Jvm.Cond.sameMethod "MissCurves$Reader" "MissCurves$Reader" "read" "(I)V") ∈ lw_all := lw_g (lw_at lw_m5 77 rfl) rfl
theorem q1170 : (Jvm.Cond.declares ({ cls := "MissCurves$Reader", name := "which", desc := "([Ljava/lang/String;)I" } : Jvm.MethodName)) ∈ lw_tbl := lw_at lw_m5 83 rfl
theorem q1172 : (Jvm.Cond.instanceMethod ({ cls := "MissCurves$Reader", name := "which", desc := "([Ljava/lang/String;)I" } : Jvm.MethodName)) ∈ lw_all := lw_g (lw_at lw_m5 85 rfl) rfl
theorem q1173 : (Jvm.Cond.code ({ cls := "MissCurves$Reader", name := "which", desc := "([Ljava/lang/String;)I" } : Jvm.MethodName) prog_23_method_6_code (3 : Nat) (Option.some Jvm.ClassFile.FieldType.int)) ∈ lw_all := lw_g (lw_at lw_m5 86 rfl) rfl
theorem q1174 : (Jvm.Cond.methodLink "MissCurves$Reader" (73 : Nat) ({ cls := "MissCurves$Reader", name := "isWord", desc := "(Ljava/lang/String;)Z" } : Jvm.MethodName)) ∈ lw_all := lw_g (lw_at lw_m5 87 rfl) rfl
theorem q1175 : (Jvm.Cond.instanceMethod ({ cls := "MissCurves$Reader", name := "isWord", desc := "(Ljava/lang/String;)Z" } : Jvm.MethodName)) ∈ lw_all := lw_g (lw_at lw_m5 88 rfl) rfl
theorem q1176 : (Jvm.Cond.sameMethod "MissCurves$Reader" "MissCurves$Reader" "isWord" "(Ljava/lang/String;)Z") ∈ lw_all := lw_g (lw_at lw_m5 89 rfl) rfl
theorem q1179 : (Jvm.Cond.code ({ cls := "MissCurves$Reader", name := "isWord", desc := "(Ljava/lang/String;)Z" } : Jvm.MethodName) prog_23_method_5_code (3 : Nat) (Option.some Jvm.ClassFile.FieldType.boolean)) ∈ lw_all := lw_g (lw_at lw_m5 92 rfl) rfl
theorem q1180 : (Jvm.Cond.methodLink "MissCurves$Reader" (63 : Nat) ({ cls := "java/lang/String", name := "length", desc := "()I" } : Jvm.MethodName)) ∈ lw_all := lw_g (lw_at lw_m5 93 rfl) rfl
theorem q1188 : (Jvm.Cond.methodLink "MissCurves$Reader" (69 : Nat) ({ cls := "java/lang/String", name := "charAt", desc := "(I)C" } : Jvm.MethodName)) ∈ lw_all := lw_g (lw_at lw_m5 101 rfl) rfl
theorem q1201 : (Jvm.Cond.declares ({ cls := "MissCurves$Reader", name := "must", desc := "(Z)V" } : Jvm.MethodName)) ∈ lw_tbl := lw_at lw_m5 114 rfl
theorem q1205 : (Jvm.Cond.declares ({ cls := "MissCurves$Reader", name := "next", desc := "()V" } : Jvm.MethodName)) ∈ lw_tbl := lw_at lw_m5 118 rfl
theorem q1209 : (Jvm.Cond.declares ({ cls := "MissCurves$Reader", name := "sum", desc := "()LMissCurves$Sum;" } : Jvm.MethodName)) ∈ lw_tbl := lw_at lw_m5 122 rfl
theorem q1211 : (Jvm.Cond.instanceMethod ({ cls := "MissCurves$Reader", name := "sum", desc := "()LMissCurves$Sum;" } : Jvm.MethodName)) ∈ lw_all := lw_g (lw_at lw_m5 124 rfl) rfl
theorem q1212 : (Jvm.Cond.code ({ cls := "MissCurves$Reader", name := "sum", desc := "()LMissCurves$Sum;" } : Jvm.MethodName) prog_23_method_18_code (3 : Nat) (Option.some (Jvm.ClassFile.FieldType.object "MissCurves$Sum"))) ∈ lw_all := lw_g (lw_at lw_m5 125 rfl) rfl
theorem q1213 : (Jvm.Cond.methodLink "MissCurves$Reader" (154 : Nat) ({ cls := "MissCurves$Reader", name := "term", desc := "()LMissCurves$Sum;" } : Jvm.MethodName)) ∈ lw_all := lw_g (lw_at lw_m5 126 rfl) rfl
theorem q1214 : (Jvm.Cond.privateMethod ({ cls := "MissCurves$Reader", name := "term", desc := "()LMissCurves$Sum;" } : Jvm.MethodName)) ∈ lw_tbl := lw_at lw_m5 127 rfl
theorem q1215 : (Jvm.Cond.instanceMethod ({ cls := "MissCurves$Reader", name := "term", desc := "()LMissCurves$Sum;" } : Jvm.MethodName)) ∈ lw_all := lw_g (lw_at lw_m5 128 rfl) rfl
theorem q1216 : (Jvm.Cond.code ({ cls := "MissCurves$Reader", name := "term", desc := "()LMissCurves$Sum;" } : Jvm.MethodName) prog_23_method_19_code (3 : Nat) (Option.some (Jvm.ClassFile.FieldType.object "MissCurves$Sum"))) ∈ lw_all := lw_g (lw_at lw_m5 129 rfl) rfl
theorem q1217 : (Jvm.Cond.methodLink "MissCurves$Reader" (164 : Nat) ({ cls := "MissCurves$Reader", name := "part", desc := "()LMissCurves$Sum;" } : Jvm.MethodName)) ∈ lw_all := lw_g (lw_at lw_m5 130 rfl) rfl
theorem q1218 : (Jvm.Cond.privateMethod ({ cls := "MissCurves$Reader", name := "part", desc := "()LMissCurves$Sum;" } : Jvm.MethodName)) ∈ lw_tbl := lw_at lw_m5 131 rfl
theorem q1219 : (Jvm.Cond.instanceMethod ({ cls := "MissCurves$Reader", name := "part", desc := "()LMissCurves$Sum;" } : Jvm.MethodName)) ∈ lw_all := lw_g (lw_at lw_m5 132 rfl) rfl
theorem q1220 : (Jvm.Cond.code ({ cls := "MissCurves$Reader", name := "part", desc := "()LMissCurves$Sum;" } : Jvm.MethodName) prog_23_method_20_code (2 : Nat) (Option.some (Jvm.ClassFile.FieldType.object "MissCurves$Sum"))) ∈ lw_all := lw_g (lw_at lw_m5 133 rfl) rfl
theorem q1221 : (Jvm.Cond.stringRef "MissCurves$Reader" (173 : Nat) "[") ∈ lw_tbl := lw_at lw_m5 134 rfl
theorem q1222 : (Jvm.Cond.methodLink "MissCurves$Reader" (123 : Nat) ({ cls := "MissCurves$Reader", name := "open", desc := "()V" } : Jvm.MethodName)) ∈ lw_all := lw_g (lw_at lw_m5 135 rfl) rfl
theorem q1223 : (Jvm.Cond.privateMethod ({ cls := "MissCurves$Reader", name := "open", desc := "()V" } : Jvm.MethodName)) ∈ lw_tbl := lw_at lw_m5 136 rfl
theorem q1224 : (Jvm.Cond.instanceMethod ({ cls := "MissCurves$Reader", name := "open", desc := "()V" } : Jvm.MethodName)) ∈ lw_all := lw_g (lw_at lw_m5 137 rfl) rfl
theorem q1225 : (Jvm.Cond.code ({ cls := "MissCurves$Reader", name := "open", desc := "()V" } : Jvm.MethodName) prog_23_method_14_code (1 : Nat) (Option.none : Option Jvm.ClassFile.FieldType)) ∈ lw_all := lw_g (lw_at lw_m5 138 rfl) rfl
theorem q1226 : (Jvm.Cond.methodLink "MissCurves$Reader" (135 : Nat) ({ cls := "MissCurves$Reader", name := "sum", desc := "()LMissCurves$Sum;" } : Jvm.MethodName)) ∈ lw_all := lw_g (lw_at lw_m5 139 rfl) rfl
theorem q1227 : (Jvm.Cond.stringRef "MissCurves$Reader" (175 : Nat) "]") ∈ lw_tbl := lw_at lw_m5 140 rfl
theorem q1228 : (Jvm.Cond.methodLink "MissCurves$Reader" (131 : Nat) ({ cls := "MissCurves$Reader", name := "close", desc := "(Ljava/lang/String;)V" } : Jvm.MethodName)) ∈ lw_all := lw_g (lw_at lw_m5 141 rfl) rfl
theorem q1229 : (Jvm.Cond.privateMethod ({ cls := "MissCurves$Reader", name := "close", desc := "(Ljava/lang/String;)V" } : Jvm.MethodName)) ∈ lw_tbl := lw_at lw_m5 142 rfl
theorem q1230 : (Jvm.Cond.instanceMethod ({ cls := "MissCurves$Reader", name := "close", desc := "(Ljava/lang/String;)V" } : Jvm.MethodName)) ∈ lw_all := lw_g (lw_at lw_m5 143 rfl) rfl
theorem q1231 : (Jvm.Cond.code ({ cls := "MissCurves$Reader", name := "close", desc := "(Ljava/lang/String;)V" } : Jvm.MethodName) prog_23_method_15_code (2 : Nat) (Option.none : Option Jvm.ClassFile.FieldType)) ∈ lw_all := lw_g (lw_at lw_m5 144 rfl) rfl
theorem q1232 : (Jvm.Cond.methodLink "MissCurves$Reader" (38 : Nat) ({ cls := "MissCurves$Reader", name := "accept", desc := "(Ljava/lang/String;)Z" } : Jvm.MethodName)) ∈ lw_all := lw_g (lw_at lw_m5 145 rfl) rfl
theorem q1233 : (Jvm.Cond.instanceMethod ({ cls := "MissCurves$Reader", name := "accept", desc := "(Ljava/lang/String;)Z" } : Jvm.MethodName)) ∈ lw_all := lw_g (lw_at lw_m5 146 rfl) rfl
theorem q1234 : (Jvm.Cond.sameMethod "MissCurves$Reader" "MissCurves$Reader" "accept" "(Ljava/lang/String;)Z") ∈ lw_all := lw_g (lw_at lw_m5 147 rfl) rfl
theorem q1237 : (Jvm.Cond.code ({ cls := "MissCurves$Reader", name := "accept", desc := "(Ljava/lang/String;)Z" } : Jvm.MethodName) prog_23_method_7_code (3 : Nat) (Option.some Jvm.ClassFile.FieldType.boolean)) ∈ lw_all := lw_g (lw_at lw_m5 150 rfl) rfl
theorem q1238 : (Jvm.Cond.methodLink "MissCurves$Reader" (177 : Nat) ({ cls := "MissCurves$Reader", name := "which", desc := "([Ljava/lang/String;)I" } : Jvm.MethodName)) ∈ lw_all := lw_g (lw_at lw_m5 151 rfl) rfl
theorem q1239 : (Jvm.Cond.methodLink "MissCurves$Reader" (181 : Nat) ({ cls := "MissCurves$Reader", name := "leaf", desc := "()V" } : Jvm.MethodName)) ∈ lw_all := lw_g (lw_at lw_m5 152 rfl) rfl
theorem q1240 : (Jvm.Cond.privateMethod ({ cls := "MissCurves$Reader", name := "leaf", desc := "()V" } : Jvm.MethodName)) ∈ lw_tbl := lw_at lw_m5 153 rfl
theorem q1241 : (Jvm.Cond.instanceMethod ({ cls := "MissCurves$Reader", name := "leaf", desc := "()V" } : Jvm.MethodName)) ∈ lw_all := lw_g (lw_at lw_m5 154 rfl) rfl
theorem q1242 : (Jvm.Cond.code ({ cls := "MissCurves$Reader", name := "leaf", desc := "()V" } : Jvm.MethodName) prog_23_method_16_code (1 : Nat) (Option.none : Option Jvm.ClassFile.FieldType)) ∈ lw_all := lw_g (lw_at lw_m5 155 rfl) rfl
theorem q1243 : (Jvm.Cond.classLink "MissCurves$Reader" (184 : Nat) "MissCurves$Amount") ∈ lw_all := lw_g (lw_at lw_m5 156 rfl) rfl
theorem q1245 : (Jvm.Cond.methodLink "MissCurves$Reader" (186 : Nat) ({ cls := "MissCurves$Reader", name := "number", desc := "(I)I" } : Jvm.MethodName)) ∈ lw_all := lw_g (lw_at lw_m5 158 rfl) rfl
theorem q1246 : (Jvm.Cond.instanceMethod ({ cls := "MissCurves$Reader", name := "number", desc := "(I)I" } : Jvm.MethodName)) ∈ lw_all := lw_g (lw_at lw_m5 159 rfl) rfl
theorem q1247 : (Jvm.Cond.sameMethod "MissCurves$Reader" "MissCurves$Reader" "number" "(I)I") ∈ lw_all := lw_g (lw_at lw_m5 160 rfl) rfl
theorem q1250 : (Jvm.Cond.code ({ cls := "MissCurves$Reader", name := "number", desc := "(I)I" } : Jvm.MethodName) prog_23_method_9_code (4 : Nat) (Option.some Jvm.ClassFile.FieldType.int)) ∈ lw_all := lw_g (lw_at lw_m5 163 rfl) rfl
theorem q1251 : (Jvm.Cond.methodLink "MissCurves$Reader" (190 : Nat) ({ cls := "MissCurves$Amount", name := "<init>", desc := "(I)V" } : Jvm.MethodName)) ∈ lw_all := lw_g (lw_at lw_m5 164 rfl) rfl
theorem q1262 : (Jvm.Cond.methodLink "MissCurves$Reader" (191 : Nat) ({ cls := "MissCurves$Reader", name := "behindWord", desc := "(I)LMissCurves$Sum;" } : Jvm.MethodName)) ∈ lw_all := lw_g (lw_at lw_m5 175 rfl) rfl
theorem q1263 : (Jvm.Cond.instanceMethod ({ cls := "MissCurves$Reader", name := "behindWord", desc := "(I)LMissCurves$Sum;" } : Jvm.MethodName)) ∈ lw_all := lw_g (lw_at lw_m5 176 rfl) rfl
theorem q1264 : (Jvm.Cond.sameMethod "MissCurves$Reader" "MissCurves$Reader" "behindWord" "(I)LMissCurves$Sum;") ∈ lw_all := lw_g (lw_at lw_m5 177 rfl) rfl
theorem q1283 : (Jvm.Cond.declares ({ cls := "MissCurves$Reader", name := "number", desc := "(I)I" } : Jvm.MethodName)) ∈ lw_tbl := lw_at lw_m5 196 rfl
theorem q1299 : (Jvm.Cond.code ({ cls := "MissCurves$Reader", name := "behindWord", desc := "(I)LMissCurves$Sum;" } : Jvm.MethodName) prog_23_method_21_code (2 : Nat) (Option.some (Jvm.ClassFile.FieldType.object "MissCurves$Sum"))) ∈ lw_all := lw_g (lw_at lw_m5 212 rfl) rfl
theorem q1300 : (Jvm.Cond.classLink "MissCurves$Reader" (195 : Nat) "MissCurves$Part") ∈ lw_all := lw_g (lw_at lw_m5 213 rfl) rfl
theorem q1301 : (Jvm.Cond.methodLink "MissCurves$Reader" (197 : Nat) ({ cls := "MissCurves$Part", name := "<init>", desc := "(I)V" } : Jvm.MethodName)) ∈ lw_all := lw_g (lw_at lw_m5 214 rfl) rfl
theorem q1302 : (Jvm.Cond.stringRef "MissCurves$Reader" (167 : Nat) "*") ∈ lw_tbl := lw_at lw_m5 215 rfl
theorem q1303 : (Jvm.Cond.stringRef "MissCurves$Reader" (169 : Nat) "/") ∈ lw_tbl := lw_at lw_m5 216 rfl
theorem q1304 : (Jvm.Cond.stringRef "MissCurves$Reader" (171 : Nat) "%") ∈ lw_tbl := lw_at lw_m5 217 rfl
theorem q1305 : (Jvm.Cond.classLink "MissCurves$Reader" (161 : Nat) "MissCurves$Joined") ∈ lw_all := lw_g (lw_at lw_m5 218 rfl) rfl
theorem q1307 : (Jvm.Cond.methodLink "MissCurves$Reader" (163 : Nat) ({ cls := "MissCurves$Joined", name := "<init>", desc := "(LMissCurves$Sum;ILMissCurves$Sum;)V" } : Jvm.MethodName)) ∈ lw_all := lw_g (lw_at lw_m5 220 rfl) rfl
theorem q1321 : (Jvm.Cond.stringRef "MissCurves$Reader" (157 : Nat) "+") ∈ lw_tbl := lw_at lw_m5 234 rfl
theorem q1322 : (Jvm.Cond.stringRef "MissCurves$Reader" (159 : Nat) "-") ∈ lw_tbl := lw_at lw_m5 235 rfl
theorem q1327 : (Jvm.Cond.declares ({ cls := "MissCurves$Reader", name := "accept", desc := "(Ljava/lang/String;)Z" } : Jvm.MethodName)) ∈ lw_tbl := lw_at lw_m6 0 rfl
theorem q1331 : (Jvm.Cond.declares ({ cls := "MissCurves$Reader", name := "test", desc := "()LMissCurves$Test;" } : Jvm.MethodName)) ∈ lw_tbl := lw_at lw_m6 4 rfl
theorem q1333 : (Jvm.Cond.instanceMethod ({ cls := "MissCurves$Reader", name := "test", desc := "()LMissCurves$Test;" } : Jvm.MethodName)) ∈ lw_all := lw_g (lw_at lw_m6 6 rfl) rfl
theorem q1334 : (Jvm.Cond.code ({ cls := "MissCurves$Reader", name := "test", desc := "()LMissCurves$Test;" } : Jvm.MethodName) prog_23_method_10_code (2 : Nat) (Option.some (Jvm.ClassFile.FieldType.object "MissCurves$Test"))) ∈ lw_all := lw_g (lw_at lw_m6 7 rfl) rfl
theorem q1335 : (Jvm.Cond.methodLink "MissCurves$Reader" (83 : Nat) ({ cls := "MissCurves$Reader", name := "both", desc := "()LMissCurves$Test;" } : Jvm.MethodName)) ∈ lw_all := lw_g (lw_at lw_m6 8 rfl) rfl
theorem q1336 : (Jvm.Cond.privateMethod ({ cls := "MissCurves$Reader", name := "both", desc := "()LMissCurves$Test;" } : Jvm.MethodName)) ∈ lw_tbl := lw_at lw_m6 9 rfl
theorem q1337 : (Jvm.Cond.instanceMethod ({ cls := "MissCurves$Reader", name := "both", desc := "()LMissCurves$Test;" } : Jvm.MethodName)) ∈ lw_all := lw_g (lw_at lw_m6 10 rfl) rfl
theorem q1338 : (Jvm.Cond.code ({ cls := "MissCurves$Reader", name := "both", desc := "()LMissCurves$Test;" } : Jvm.MethodName) prog_23_method_11_code (2 : Nat) (Option.some (Jvm.ClassFile.FieldType.object "MissCurves$Test"))) ∈ lw_all := lw_g (lw_at lw_m6 11 rfl) rfl
theorem q1339 : (Jvm.Cond.methodLink "MissCurves$Reader" (97 : Nat) ({ cls := "MissCurves$Reader", name := "plain", desc := "()LMissCurves$Test;" } : Jvm.MethodName)) ∈ lw_all := lw_g (lw_at lw_m6 12 rfl) rfl
theorem q1340 : (Jvm.Cond.privateMethod ({ cls := "MissCurves$Reader", name := "plain", desc := "()LMissCurves$Test;" } : Jvm.MethodName)) ∈ lw_tbl := lw_at lw_m6 13 rfl
theorem q1341 : (Jvm.Cond.instanceMethod ({ cls := "MissCurves$Reader", name := "plain", desc := "()LMissCurves$Test;" } : Jvm.MethodName)) ∈ lw_all := lw_g (lw_at lw_m6 14 rfl) rfl
theorem q1342 : (Jvm.Cond.code ({ cls := "MissCurves$Reader", name := "plain", desc := "()LMissCurves$Test;" } : Jvm.MethodName) prog_23_method_17_code (5 : Nat) (Option.some (Jvm.ClassFile.FieldType.object "MissCurves$Test"))) ∈ lw_all := lw_g (lw_at lw_m6 15 rfl) rfl
theorem q1343 : (Jvm.Cond.stringRef "MissCurves$Reader" (119 : Nat) "not") ∈ lw_tbl := lw_at lw_m6 16 rfl
theorem q1344 : (Jvm.Cond.stringRef "MissCurves$Reader" (121 : Nat) "(") ∈ lw_tbl := lw_at lw_m6 17 rfl
theorem q1345 : (Jvm.Cond.methodLink "MissCurves$Reader" (126 : Nat) ({ cls := "MissCurves$Reader", name := "test", desc := "()LMissCurves$Test;" } : Jvm.MethodName)) ∈ lw_all := lw_g (lw_at lw_m6 18 rfl) rfl
theorem q1346 : (Jvm.Cond.stringRef "MissCurves$Reader" (129 : Nat) ")") ∈ lw_tbl := lw_at lw_m6 19 rfl
theorem q1347 : (Jvm.Cond.stringRef "MissCurves$Reader" (139 : Nat) "<") ∈ lw_tbl := lw_at lw_m6 20 rfl
theorem q1348 : (Jvm.Cond.stringRef "MissCurves$Reader" (141 : Nat) ">") ∈ lw_tbl := lw_at lw_m6 21 rfl
theorem q1349 : (Jvm.Cond.stringRef "MissCurves$Reader" (143 : Nat) "=") ∈ lw_tbl := lw_at lw_m6 22 rfl
theorem q1350 : (Jvm.Cond.classLink "MissCurves$Reader" (145 : Nat) "MissCurves$Compared") ∈ lw_all := lw_g (lw_at lw_m6 23 rfl) rfl
theorem q1352 : (Jvm.Cond.methodLink "MissCurves$Reader" (147 : Nat) ({ cls := "MissCurves$Compared", name := "<init>", desc := "(LMissCurves$Sum;ILMissCurves$Sum;)V" } : Jvm.MethodName)) ∈ lw_all := lw_g (lw_at lw_m6 25 rfl) rfl
theorem q1369 : (Jvm.Cond.classLink "MissCurves$Reader" (150 : Nat) "MissCurves$Not") ∈ lw_all := lw_g (lw_at lw_m6 42 rfl) rfl
theorem q1371 : (Jvm.Cond.methodLink "MissCurves$Reader" (152 : Nat) ({ cls := "MissCurves$Not", name := "<init>", desc := "(LMissCurves$Test;)V" } : Jvm.MethodName)) ∈ lw_all := lw_g (lw_at lw_m6 44 rfl) rfl
theorem q1379 : (Jvm.Cond.methodLink "MissCurves$Reader" (87 : Nat) ({ cls := "MissCurves$Reader", name := "add", desc := "(LMissCurves$Test;)V" } : Jvm.MethodName)) ∈ lw_all := lw_g (lw_at lw_m6 52 rfl) rfl
theorem q1380 : (Jvm.Cond.privateMethod ({ cls := "MissCurves$Reader", name := "add", desc := "(LMissCurves$Test;)V" } : Jvm.MethodName)) ∈ lw_tbl := lw_at lw_m6 53 rfl
theorem q1381 : (Jvm.Cond.instanceMethod ({ cls := "MissCurves$Reader", name := "add", desc := "(LMissCurves$Test;)V" } : Jvm.MethodName)) ∈ lw_all := lw_g (lw_at lw_m6 54 rfl) rfl
theorem q1382 : (Jvm.Cond.code ({ cls := "MissCurves$Reader", name := "add", desc := "(LMissCurves$Test;)V" } : Jvm.MethodName) prog_23_method_12_code (2 : Nat) (Option.none : Option Jvm.ClassFile.FieldType)) ∈ lw_all := lw_g (lw_at lw_m6 55 rfl) rfl
theorem q1383 : (Jvm.Cond.stringRef "MissCurves$Reader" (100 : Nat) "and") ∈ lw_tbl := lw_at lw_m6 56 rfl
theorem q1384 : (Jvm.Cond.methodLink "MissCurves$Reader" (93 : Nat) ({ cls := "MissCurves$Reader", name := "joined", desc := "(ZI)LMissCurves$Test;" } : Jvm.MethodName)) ∈ lw_all := lw_g (lw_at lw_m6 57 rfl) rfl
theorem q1385 : (Jvm.Cond.privateMethod ({ cls := "MissCurves$Reader", name := "joined", desc := "(ZI)LMissCurves$Test;" } : Jvm.MethodName)) ∈ lw_tbl := lw_at lw_m6 58 rfl
theorem q1386 : (Jvm.Cond.instanceMethod ({ cls := "MissCurves$Reader", name := "joined", desc := "(ZI)LMissCurves$Test;" } : Jvm.MethodName)) ∈ lw_all := lw_g (lw_at lw_m6 59 rfl) rfl
theorem q1387 : (Jvm.Cond.code ({ cls := "MissCurves$Reader", name := "joined", desc := "(ZI)LMissCurves$Test;" } : Jvm.MethodName) prog_23_method_13_code (5 : Nat) (Option.some (Jvm.ClassFile.FieldType.object "MissCurves$Test"))) ∈ lw_all := lw_g (lw_at lw_m6 60 rfl) rfl
theorem q1388 : (Jvm.Cond.methodLink "MissCurves$Reader" (102 : Nat) ({ cls := "java/lang/System", name := "arraycopy", desc := "(Ljava/lang/Object;ILjava/lang/Object;II)V" } : Jvm.MethodName)) ∈ lw_all := lw_g (lw_at lw_m6 61 rfl) rfl
theorem q1389 : (Jvm.Cond.classLink "MissCurves$Reader" (108 : Nat) "MissCurves$Row") ∈ lw_all := lw_g (lw_at lw_m6 62 rfl) rfl
theorem q1391 : (Jvm.Cond.methodLink "MissCurves$Reader" (110 : Nat) ({ cls := "MissCurves$Row", name := "<init>", desc := "(Z[LMissCurves$Test;)V" } : Jvm.MethodName)) ∈ lw_all := lw_g (lw_at lw_m6 64 rfl) rfl
theorem q1402 : (Jvm.Cond.stringRef "MissCurves$Reader" (91 : Nat) "or") ∈ lw_tbl := lw_at lw_m6 75 rfl
theorem q1492 : (Jvm.Cond.stringRef "MissCurves$Reader" (36 : Nat) ";") ∈ lw_tbl := lw_at lw_m6 165 rfl
theorem q2982 : (Jvm.Cond.sameMethod "MissCurves$Reader" "MissCurves$Reader" "term" "()LMissCurves$Sum;") ∈ lw_all := lw_g (lw_at lw_m12 215 rfl) rfl
theorem q2983 : (Jvm.Cond.sameMethod "MissCurves$Reader" "MissCurves$Reader" "part" "()LMissCurves$Sum;") ∈ lw_all := lw_g (lw_at lw_m12 216 rfl) rfl
theorem q2984 : (Jvm.Cond.sameMethod "MissCurves$Reader" "MissCurves$Reader" "open" "()V") ∈ lw_all := lw_g (lw_at lw_m12 217 rfl) rfl
theorem q2985 : (Jvm.Cond.sameMethod "MissCurves$Reader" "MissCurves$Reader" "sum" "()LMissCurves$Sum;") ∈ lw_all := lw_g (lw_at lw_m12 218 rfl) rfl
theorem q2988 : (Jvm.Cond.sameMethod "MissCurves$Reader" "MissCurves$Reader" "close" "(Ljava/lang/String;)V") ∈ lw_all := lw_g (lw_at lw_m12 221 rfl) rfl
theorem q2989 : (Jvm.Cond.sameMethod "MissCurves$Reader" "MissCurves$Reader" "which" "([Ljava/lang/String;)I") ∈ lw_all := lw_g (lw_at lw_m12 222 rfl) rfl
theorem q2992 : (Jvm.Cond.sameMethod "MissCurves$Reader" "MissCurves$Reader" "leaf" "()V") ∈ lw_all := lw_g (lw_at lw_m12 225 rfl) rfl
theorem q2993 : (Jvm.Cond.sameMethod "MissCurves$Reader" "MissCurves$Reader" "both" "()LMissCurves$Test;") ∈ lw_all := lw_g (lw_at lw_m12 226 rfl) rfl
theorem q2994 : (Jvm.Cond.sameMethod "MissCurves$Reader" "MissCurves$Reader" "plain" "()LMissCurves$Test;") ∈ lw_all := lw_g (lw_at lw_m12 227 rfl) rfl
theorem q2995 : (Jvm.Cond.sameMethod "MissCurves$Reader" "MissCurves$Reader" "test" "()LMissCurves$Test;") ∈ lw_all := lw_g (lw_at lw_m12 228 rfl) rfl
theorem q2998 : (Jvm.Cond.sameMethod "MissCurves$Reader" "MissCurves$Reader" "add" "(LMissCurves$Test;)V") ∈ lw_all := lw_g (lw_at lw_m12 231 rfl) rfl
theorem q2999 : (Jvm.Cond.sameMethod "MissCurves$Reader" "MissCurves$Reader" "joined" "(ZI)LMissCurves$Test;") ∈ lw_all := lw_g (lw_at lw_m12 232 rfl) rfl

