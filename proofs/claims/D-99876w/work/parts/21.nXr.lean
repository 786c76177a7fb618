/-! ShrugHills$Plain -/
set_option maxRecDepth 100000
def RX1 : String := "ShrugHills$Plain"
def TX1 : u_T := fun k => match k with
  | 0 => ("ShrugHills$Plain", "statements", "I", false)
  | 1 => ("ShrugHills$Plain", "columns", "I", false)
  | 2 => ("ShrugHills$Plain", "rows", "I", false)
  | 3 => ("ShrugHills$Plain", "crowd", "I", false)
  | 4 => ("ShrugHills$Plain", "height", "[I", true)
  | 5 => ("ShrugHills$Plain", "topics", "Ljava/util/List;", true)
  | 6 => ("ShrugHills$Plain", "people", "Ljava/util/List;", true)
  | 7 => ("ShrugHills$Plain", "list", "Ljava/util/List;", true)
  | 8 => ("ShrugHills$Plain", "lifts", "LShrugHills$Value;", false)
  | 9 => ("ShrugHills$Plain", "tires", "LShrugHills$Value;", false)
  | _ => ("ShrugHills$Plain", "holds", "LShrugHills$Test;", false)
def tyX1 : Nat → FieldType := fun k => match k with
  | 0 => .int
  | 1 => .int
  | 2 => .int
  | 3 => .int
  | 4 => .array .int
  | 5 => .object "java/util/List"
  | 6 => .object "java/util/List"
  | 7 => .object "java/util/List"
  | 8 => .object "ShrugHills$Value"
  | 9 => .object "ShrugHills$Value"
  | _ => .object "ShrugHills$Test"
abbrev wsX10 : List Cond := u_ws RX1 TX1 11
theorem nmX1 : ∀ a, a < 11 → ∀ b, b < 11 → a ≠ b → (TX1 a).2.1 ≠ (TX1 b).2.1 := by decide +kernel
theorem tyX1_ok : ∀ k, k < 11 → parseFieldDescriptor (TX1 k).2.2.1 = some (tyX1 k) := by decide +kernel
abbrev cX1_init : ByteArray := prog_15_method_1_code
def yX1_init : MethodName := ⟨RX1, "<init>", "()V"⟩
def dkwX1_init_2 : List UInt8 := [3, 60, 27, 16, 64, 162, 0, 17, 42, 180, 0, 9, 27, 16, 50, 79, 132, 1, 1, 167, 255, 239, 177]
abbrev dktX1_init_2 : List UInt8 := dkwX1_init_2 ++ []
def dkwX1_init_1 : List UInt8 := [42, 187, 0, 15, 89, 7, 183, 0, 17, 181, 0, 24, 42, 187, 0, 15, 89, 7, 183, 0, 17, 181, 0, 27]
abbrev dktX1_init_1 : List UInt8 := dkwX1_init_1 ++ dktX1_init_2
def dkwX1_init_0 : List UInt8 := [42, 183, 0, 3, 42, 16, 64, 188, 10, 181, 0, 9, 42, 187, 0, 15, 89, 5, 183, 0, 17, 181, 0, 20]
abbrev dktX1_init_0 : List UInt8 := dkwX1_init_0 ++ dktX1_init_1
theorem dksX1_init_0 : cX1_init.data.toList.drop 0 = dktX1_init_0 := by decide +kernel
theorem dksX1_init_1 : cX1_init.data.toList.drop 24 = dktX1_init_1 := dk_seg dksX1_init_0 24 rfl rfl
theorem dksX1_init_2 : cX1_init.data.toList.drop 48 = dktX1_init_2 := dk_seg dksX1_init_1 24 rfl rfl
theorem dX1_init_0 : decode cX1_init 0 = .ok (.aload_n 0, 1) := dk_42 (dk_at dksX1_init_0 0 rfl rfl)
theorem dX1_init_1 : decode cX1_init 1 = .ok (.invokespecial 3, 3) := dk_183 0 3 (dk_at dksX1_init_0 1 rfl rfl)
theorem dX1_init_4 : decode cX1_init 4 = .ok (.aload_n 0, 1) := dk_42 (dk_at dksX1_init_0 4 rfl rfl)
theorem dX1_init_5 : decode cX1_init 5 = .ok (.bipush 64, 2) := dk_16 64 (dk_at dksX1_init_0 5 rfl rfl)
theorem dX1_init_7 : decode cX1_init 7 = .ok (.newarray .int, 2) := dk_188_10 (dk_at dksX1_init_0 7 rfl rfl)
theorem dX1_init_9 : decode cX1_init 9 = .ok (.putfield 9, 3) := dk_181 0 9 (dk_at dksX1_init_0 9 rfl rfl)
theorem dX1_init_12 : decode cX1_init 12 = .ok (.aload_n 0, 1) := dk_42 (dk_at dksX1_init_0 12 rfl rfl)
theorem dX1_init_13 : decode cX1_init 13 = .ok (.new 15, 3) := dk_187 0 15 (dk_at dksX1_init_0 13 rfl rfl)
theorem dX1_init_16 : decode cX1_init 16 = .ok (.dup, 1) := dk_89 (dk_at dksX1_init_0 16 rfl rfl)
theorem dX1_init_17 : decode cX1_init 17 = .ok (.iconst 2, 1) := dk_5 (dk_at dksX1_init_0 17 rfl rfl)
theorem dX1_init_18 : decode cX1_init 18 = .ok (.invokespecial 17, 3) := dk_183 0 17 (dk_at dksX1_init_0 18 rfl rfl)
theorem dX1_init_21 : decode cX1_init 21 = .ok (.putfield 20, 3) := dk_181 0 20 (dk_at dksX1_init_0 21 rfl rfl)
theorem dX1_init_24 : decode cX1_init 24 = .ok (.aload_n 0, 1) := dk_42 (dk_at dksX1_init_1 0 rfl rfl)
theorem dX1_init_25 : decode cX1_init 25 = .ok (.new 15, 3) := dk_187 0 15 (dk_at dksX1_init_1 1 rfl rfl)
theorem dX1_init_28 : decode cX1_init 28 = .ok (.dup, 1) := dk_89 (dk_at dksX1_init_1 4 rfl rfl)
theorem dX1_init_29 : decode cX1_init 29 = .ok (.iconst 4, 1) := dk_7 (dk_at dksX1_init_1 5 rfl rfl)
theorem dX1_init_30 : decode cX1_init 30 = .ok (.invokespecial 17, 3) := dk_183 0 17 (dk_at dksX1_init_1 6 rfl rfl)
theorem dX1_init_33 : decode cX1_init 33 = .ok (.putfield 24, 3) := dk_181 0 24 (dk_at dksX1_init_1 9 rfl rfl)
theorem dX1_init_36 : decode cX1_init 36 = .ok (.aload_n 0, 1) := dk_42 (dk_at dksX1_init_1 12 rfl rfl)
theorem dX1_init_37 : decode cX1_init 37 = .ok (.new 15, 3) := dk_187 0 15 (dk_at dksX1_init_1 13 rfl rfl)
theorem dX1_init_40 : decode cX1_init 40 = .ok (.dup, 1) := dk_89 (dk_at dksX1_init_1 16 rfl rfl)
theorem dX1_init_41 : decode cX1_init 41 = .ok (.iconst 4, 1) := dk_7 (dk_at dksX1_init_1 17 rfl rfl)
theorem dX1_init_42 : decode cX1_init 42 = .ok (.invokespecial 17, 3) := dk_183 0 17 (dk_at dksX1_init_1 18 rfl rfl)
theorem dX1_init_45 : decode cX1_init 45 = .ok (.putfield 27, 3) := dk_181 0 27 (dk_at dksX1_init_1 21 rfl rfl)
theorem dX1_init_48 : decode cX1_init 48 = .ok (.iconst 0, 1) := dk_3 (dk_at dksX1_init_2 0 rfl rfl)
theorem dX1_init_49 : decode cX1_init 49 = .ok (.istore_n 1, 1) := dk_60 (dk_at dksX1_init_2 1 rfl rfl)
theorem dX1_init_50 : decode cX1_init 50 = .ok (.iload_n 1, 1) := dk_27 (dk_at dksX1_init_2 2 rfl rfl)
theorem dX1_init_51 : decode cX1_init 51 = .ok (.bipush 64, 2) := dk_16 64 (dk_at dksX1_init_2 3 rfl rfl)
theorem dX1_init_53 : decode cX1_init 53 = .ok (.if_icmp .ge 17, 3) := dk_162 0 17 (dk_at dksX1_init_2 5 rfl rfl)
theorem dX1_init_56 : decode cX1_init 56 = .ok (.aload_n 0, 1) := dk_42 (dk_at dksX1_init_2 8 rfl rfl)
theorem dX1_init_57 : decode cX1_init 57 = .ok (.getfield 9, 3) := dk_180 0 9 (dk_at dksX1_init_2 9 rfl rfl)
theorem dX1_init_60 : decode cX1_init 60 = .ok (.iload_n 1, 1) := dk_27 (dk_at dksX1_init_2 12 rfl rfl)
theorem dX1_init_61 : decode cX1_init 61 = .ok (.bipush 50, 2) := dk_16 50 (dk_at dksX1_init_2 13 rfl rfl)
theorem dX1_init_63 : decode cX1_init 63 = .ok (.iastore, 1) := dk_79 (dk_at dksX1_init_2 15 rfl rfl)
theorem dX1_init_64 : decode cX1_init 64 = .ok (.iinc 1 1, 3) := dk_132 1 1 (dk_at dksX1_init_2 16 rfl rfl)
theorem dX1_init_67 : decode cX1_init 67 = .ok (.goto (-17), 3) := dk_167 255 239 (dk_at dksX1_init_2 19 rfl rfl)
theorem dX1_init_70 : decode cX1_init 70 = .ok (.return_, 1) := dk_177 (dk_at dksX1_init_2 22 rfl rfl)
abbrev cX1_isNamed : ByteArray := prog_15_method_2_code
def yX1_isNamed : MethodName := ⟨RX1, "isNamed", "(Ljava/lang/String;)Z"⟩
def dkwX1_isNamed_1 : List UInt8 := [4, 167, 0, 4, 3, 172]
abbrev dktX1_isNamed_1 : List UInt8 := dkwX1_isNamed_1 ++ []
def dkwX1_isNamed_0 : List UInt8 := [42, 180, 0, 20, 43, 184, 0, 30, 2, 160, 0, 15, 42, 180, 0, 24, 43, 184, 0, 30, 2, 159, 0, 7]
abbrev dktX1_isNamed_0 : List UInt8 := dkwX1_isNamed_0 ++ dktX1_isNamed_1
theorem dksX1_isNamed_0 : cX1_isNamed.data.toList.drop 0 = dktX1_isNamed_0 := by decide +kernel
theorem dksX1_isNamed_1 : cX1_isNamed.data.toList.drop 24 = dktX1_isNamed_1 := dk_seg dksX1_isNamed_0 24 rfl rfl
theorem dX1_isNamed_0 : decode cX1_isNamed 0 = .ok (.aload_n 0, 1) := dk_42 (dk_at dksX1_isNamed_0 0 rfl rfl)
theorem dX1_isNamed_1 : decode cX1_isNamed 1 = .ok (.getfield 20, 3) := dk_180 0 20 (dk_at dksX1_isNamed_0 1 rfl rfl)
theorem dX1_isNamed_4 : decode cX1_isNamed 4 = .ok (.aload_n 1, 1) := dk_43 (dk_at dksX1_isNamed_0 4 rfl rfl)
theorem dX1_isNamed_5 : decode cX1_isNamed 5 = .ok (.invokestatic 30, 3) := dk_184 0 30 (dk_at dksX1_isNamed_0 5 rfl rfl)
theorem dX1_isNamed_8 : decode cX1_isNamed 8 = .ok (.iconst (-1), 1) := dk_2 (dk_at dksX1_isNamed_0 8 rfl rfl)
theorem dX1_isNamed_9 : decode cX1_isNamed 9 = .ok (.if_icmp .ne 15, 3) := dk_160 0 15 (dk_at dksX1_isNamed_0 9 rfl rfl)
theorem dX1_isNamed_12 : decode cX1_isNamed 12 = .ok (.aload_n 0, 1) := dk_42 (dk_at dksX1_isNamed_0 12 rfl rfl)
theorem dX1_isNamed_13 : decode cX1_isNamed 13 = .ok (.getfield 24, 3) := dk_180 0 24 (dk_at dksX1_isNamed_0 13 rfl rfl)
theorem dX1_isNamed_16 : decode cX1_isNamed 16 = .ok (.aload_n 1, 1) := dk_43 (dk_at dksX1_isNamed_0 16 rfl rfl)
theorem dX1_isNamed_17 : decode cX1_isNamed 17 = .ok (.invokestatic 30, 3) := dk_184 0 30 (dk_at dksX1_isNamed_0 17 rfl rfl)
theorem dX1_isNamed_20 : decode cX1_isNamed 20 = .ok (.iconst (-1), 1) := dk_2 (dk_at dksX1_isNamed_0 20 rfl rfl)
theorem dX1_isNamed_21 : decode cX1_isNamed 21 = .ok (.if_icmp .eq 7, 3) := dk_159 0 7 (dk_at dksX1_isNamed_0 21 rfl rfl)
theorem dX1_isNamed_24 : decode cX1_isNamed 24 = .ok (.iconst 1, 1) := dk_4 (dk_at dksX1_isNamed_1 0 rfl rfl)
theorem dX1_isNamed_25 : decode cX1_isNamed 25 = .ok (.goto 4, 3) := dk_167 0 4 (dk_at dksX1_isNamed_1 1 rfl rfl)
theorem dX1_isNamed_28 : decode cX1_isNamed 28 = .ok (.iconst 0, 1) := dk_3 (dk_at dksX1_isNamed_1 4 rfl rfl)
theorem dX1_isNamed_29 : decode cX1_isNamed 29 = .ok (.ireturn, 1) := dk_172 (dk_at dksX1_isNamed_1 5 rfl rfl)
abbrev cX1_isTaken : ByteArray := prog_15_method_3_code
def yX1_isTaken : MethodName := ⟨RX1, "isTaken", "(I)Z"⟩
def dkwX1_isTaken_2 : List UInt8 := [172]
abbrev dktX1_isTaken_2 : List UInt8 := dkwX1_isTaken_2 ++ []
def dkwX1_isTaken_1 : List UInt8 := [185, 0, 42, 2, 0, 192, 0, 46, 180, 0, 48, 27, 160, 0, 5, 4, 172, 132, 2, 1, 167, 255, 218, 3]
abbrev dktX1_isTaken_1 : List UInt8 := dkwX1_isTaken_1 ++ dktX1_isTaken_2
def dkwX1_isTaken_0 : List UInt8 := [3, 61, 28, 42, 180, 0, 24, 185, 0, 36, 1, 0, 162, 0, 31, 42, 180, 0, 24, 28]
abbrev dktX1_isTaken_0 : List UInt8 := dkwX1_isTaken_0 ++ dktX1_isTaken_1
theorem dksX1_isTaken_0 : cX1_isTaken.data.toList.drop 0 = dktX1_isTaken_0 := by decide +kernel
theorem dksX1_isTaken_1 : cX1_isTaken.data.toList.drop 20 = dktX1_isTaken_1 := dk_seg dksX1_isTaken_0 20 rfl rfl
theorem dksX1_isTaken_2 : cX1_isTaken.data.toList.drop 44 = dktX1_isTaken_2 := dk_seg dksX1_isTaken_1 24 rfl rfl
theorem dX1_isTaken_0 : decode cX1_isTaken 0 = .ok (.iconst 0, 1) := dk_3 (dk_at dksX1_isTaken_0 0 rfl rfl)
theorem dX1_isTaken_1 : decode cX1_isTaken 1 = .ok (.istore_n 2, 1) := dk_61 (dk_at dksX1_isTaken_0 1 rfl rfl)
theorem dX1_isTaken_2 : decode cX1_isTaken 2 = .ok (.iload_n 2, 1) := dk_28 (dk_at dksX1_isTaken_0 2 rfl rfl)
theorem dX1_isTaken_3 : decode cX1_isTaken 3 = .ok (.aload_n 0, 1) := dk_42 (dk_at dksX1_isTaken_0 3 rfl rfl)
theorem dX1_isTaken_4 : decode cX1_isTaken 4 = .ok (.getfield 24, 3) := dk_180 0 24 (dk_at dksX1_isTaken_0 4 rfl rfl)
theorem dX1_isTaken_7 : decode cX1_isTaken 7 = .ok (.invokeinterface 36 1, 5) := by decide +kernel
theorem dX1_isTaken_12 : decode cX1_isTaken 12 = .ok (.if_icmp .ge 31, 3) := dk_162 0 31 (dk_at dksX1_isTaken_0 12 rfl rfl)
theorem dX1_isTaken_15 : decode cX1_isTaken 15 = .ok (.aload_n 0, 1) := dk_42 (dk_at dksX1_isTaken_0 15 rfl rfl)
theorem dX1_isTaken_16 : decode cX1_isTaken 16 = .ok (.getfield 24, 3) := dk_180 0 24 (dk_at dksX1_isTaken_0 16 rfl rfl)
theorem dX1_isTaken_19 : decode cX1_isTaken 19 = .ok (.iload_n 2, 1) := dk_28 (dk_at dksX1_isTaken_0 19 rfl rfl)
theorem dX1_isTaken_20 : decode cX1_isTaken 20 = .ok (.invokeinterface 42 2, 5) := by decide +kernel
theorem dX1_isTaken_25 : decode cX1_isTaken 25 = .ok (.checkcast 46, 3) := dk_192 0 46 (dk_at dksX1_isTaken_1 5 rfl rfl)
theorem dX1_isTaken_28 : decode cX1_isTaken 28 = .ok (.getfield 48, 3) := dk_180 0 48 (dk_at dksX1_isTaken_1 8 rfl rfl)
theorem dX1_isTaken_31 : decode cX1_isTaken 31 = .ok (.iload_n 1, 1) := dk_27 (dk_at dksX1_isTaken_1 11 rfl rfl)
theorem dX1_isTaken_32 : decode cX1_isTaken 32 = .ok (.if_icmp .ne 5, 3) := dk_160 0 5 (dk_at dksX1_isTaken_1 12 rfl rfl)
theorem dX1_isTaken_35 : decode cX1_isTaken 35 = .ok (.iconst 1, 1) := dk_4 (dk_at dksX1_isTaken_1 15 rfl rfl)
theorem dX1_isTaken_36 : decode cX1_isTaken 36 = .ok (.ireturn, 1) := dk_172 (dk_at dksX1_isTaken_1 16 rfl rfl)
theorem dX1_isTaken_37 : decode cX1_isTaken 37 = .ok (.iinc 2 1, 3) := dk_132 2 1 (dk_at dksX1_isTaken_1 17 rfl rfl)
theorem dX1_isTaken_40 : decode cX1_isTaken 40 = .ok (.goto (-38), 3) := dk_167 255 218 (dk_at dksX1_isTaken_1 20 rfl rfl)
theorem dX1_isTaken_43 : decode cX1_isTaken 43 = .ok (.iconst 0, 1) := dk_3 (dk_at dksX1_isTaken_1 23 rfl rfl)
theorem dX1_isTaken_44 : decode cX1_isTaken 44 = .ok (.ireturn, 1) := dk_172 (dk_at dksX1_isTaken_2 0 rfl rfl)
theorem q172 : (Jvm.Cond.initialized "ShrugHills$Plain") ∈ lw_all := lw_g (lw_at lw_m1 2 rfl) rfl
theorem q220 : (Jvm.Cond.instantiable "ShrugHills$Plain" (11 : Nat)) ∈ lw_all := lw_g (lw_at lw_m1 50 rfl) rfl
theorem q222 : (Jvm.Cond.instanceMethod ({ cls := "ShrugHills$Plain", name := "<init>", desc := "()V" } : Jvm.MethodName)) ∈ lw_all := lw_g (lw_at lw_m1 52 rfl) rfl
theorem q223 : (Jvm.Cond.code ({ cls := "ShrugHills$Plain", name := "<init>", desc := "()V" } : Jvm.MethodName) prog_15_method_1_code (2 : Nat) (Option.none : Option Jvm.ClassFile.FieldType)) ∈ lw_all := lw_g (lw_at lw_m1 53 rfl) rfl
theorem q224 : (Jvm.Cond.methodLink "ShrugHills$Plain" (3 : Nat) ({ cls := "java/lang/Object", name := "<init>", desc := "()V" } : Jvm.MethodName)) ∈ lw_all := lw_g (lw_at lw_m1 54 rfl) rfl
theorem q225 : (Jvm.Cond.classLink "ShrugHills$Plain" (15 : Nat) "java/util/ArrayList") ∈ lw_all := lw_g (lw_at lw_m1 55 rfl) rfl
theorem q227 : (Jvm.Cond.methodLink "ShrugHills$Plain" (17 : Nat) ({ cls := "java/util/ArrayList", name := "<init>", desc := "(I)V" } : Jvm.MethodName)) ∈ lw_all := lw_g (lw_at lw_m1 57 rfl) rfl
theorem q262 : (Jvm.Cond.fieldLink "ShrugHills$Plain" (9 : Nat) "ShrugHills$Plain" "height" "[I") ∈ lw_all := lw_g (lw_at lw_m1 92 rfl) rfl
theorem q265 : (Jvm.Cond.fieldLink "ShrugHills$Plain" (20 : Nat) "ShrugHills$Plain" "topics" "Ljava/util/List;") ∈ lw_all := lw_g (lw_at lw_m1 95 rfl) rfl
theorem q268 : (Jvm.Cond.fieldLink "ShrugHills$Plain" (24 : Nat) "ShrugHills$Plain" "people" "Ljava/util/List;") ∈ lw_all := lw_g (lw_at lw_m1 98 rfl) rfl
theorem q272 : (Jvm.Cond.fieldLink "ShrugHills$Plain" (27 : Nat) "ShrugHills$Plain" "list" "Ljava/util/List;") ∈ lw_all := lw_g (lw_at lw_m1 102 rfl) rfl
theorem q282 : (Jvm.Cond.lays "ShrugHills$Plain" "ShrugHills$Plain" "statements" "I") ∈ lw_all := lw_g (lw_at lw_m1 112 rfl) rfl
theorem q283 : (Jvm.Cond.soleField "ShrugHills$Plain" "statements") ∈ lw_all := lw_g (lw_at lw_m1 113 rfl) rfl
theorem q284 : (Jvm.Cond.lays "ShrugHills$Plain" "ShrugHills$Plain" "columns" "I") ∈ lw_all := lw_g (lw_at lw_m1 114 rfl) rfl
theorem q285 : (Jvm.Cond.soleField "ShrugHills$Plain" "columns") ∈ lw_all := lw_g (lw_at lw_m1 115 rfl) rfl
theorem q286 : (Jvm.Cond.lays "ShrugHills$Plain" "ShrugHills$Plain" "rows" "I") ∈ lw_all := lw_g (lw_at lw_m1 116 rfl) rfl
theorem q287 : (Jvm.Cond.soleField "ShrugHills$Plain" "rows") ∈ lw_all := lw_g (lw_at lw_m1 117 rfl) rfl
theorem q288 : (Jvm.Cond.lays "ShrugHills$Plain" "ShrugHills$Plain" "crowd" "I") ∈ lw_all := lw_g (lw_at lw_m1 118 rfl) rfl
theorem q289 : (Jvm.Cond.soleField "ShrugHills$Plain" "crowd") ∈ lw_all := lw_g (lw_at lw_m1 119 rfl) rfl
theorem q290 : (Jvm.Cond.laysFinal "ShrugHills$Plain" "ShrugHills$Plain" "height" "[I") ∈ lw_all := lw_g (lw_at lw_m1 120 rfl) rfl
theorem q291 : (Jvm.Cond.soleField "ShrugHills$Plain" "height") ∈ lw_all := lw_g (lw_at lw_m1 121 rfl) rfl
theorem q292 : (Jvm.Cond.laysFinal "ShrugHills$Plain" "ShrugHills$Plain" "topics" "Ljava/util/List;") ∈ lw_all := lw_g (lw_at lw_m1 122 rfl) rfl
theorem q293 : (Jvm.Cond.soleField "ShrugHills$Plain" "topics") ∈ lw_all := lw_g (lw_at lw_m1 123 rfl) rfl
theorem q294 : (Jvm.Cond.laysFinal "ShrugHills$Plain" "ShrugHills$Plain" "people" "Ljava/util/List;") ∈ lw_all := lw_g (lw_at lw_m1 124 rfl) rfl
theorem q295 : (Jvm.Cond.soleField "ShrugHills$Plain" "people") ∈ lw_all := lw_g (lw_at lw_m1 125 rfl) rfl
theorem q296 : (Jvm.Cond.laysFinal "ShrugHills$Plain" "ShrugHills$Plain" "list" "Ljava/util/List;") ∈ lw_all := lw_g (lw_at lw_m1 126 rfl) rfl
theorem q297 : (Jvm.Cond.soleField "ShrugHills$Plain" "list") ∈ lw_all := lw_g (lw_at lw_m1 127 rfl) rfl
theorem q298 : (Jvm.Cond.lays "ShrugHills$Plain" "ShrugHills$Plain" "lifts" "LShrugHills$Value;") ∈ lw_all := lw_g (lw_at lw_m1 128 rfl) rfl
theorem q299 : (Jvm.Cond.soleField "ShrugHills$Plain" "lifts") ∈ lw_all := lw_g (lw_at lw_m1 129 rfl) rfl
theorem q300 : (Jvm.Cond.lays "ShrugHills$Plain" "ShrugHills$Plain" "tires" "LShrugHills$Value;") ∈ lw_all := lw_g (lw_at lw_m1 130 rfl) rfl
theorem q301 : (Jvm.Cond.soleField "ShrugHills$Plain" "tires") ∈ lw_all := lw_g (lw_at lw_m1 131 rfl) rfl
theorem q302 : (Jvm.Cond.lays "ShrugHills$Plain" "ShrugHills$Plain" "holds" "LShrugHills$Test;") ∈ lw_all := lw_g (lw_at lw_m1 132 rfl) rfl
theorem q303 : (Jvm.Cond.soleField "ShrugHills$Plain" "holds") ∈ lw_all := lw_g (lw_at lw_m1 133 rfl) rfl
theorem q304 : (Jvm.Cond.superclass "ShrugHills$Plain" "java/lang/Object") ∈ lw_all := lw_g (lw_at lw_m1 134 rfl) rfl
theorem q821 : (Jvm.Cond.instanceMethod ({ cls := "ShrugHills$Plain", name := "isNamed", desc := "(Ljava/lang/String;)Z" } : Jvm.MethodName)) ∈ lw_all := lw_g (lw_at lw_m3 171 rfl) rfl
theorem q822 : (Jvm.Cond.selects "ShrugHills$Plain" ({ cls := "ShrugHills$Plain", name := "isNamed", desc := "(Ljava/lang/String;)Z" } : Jvm.MethodName) ({ cls := "ShrugHills$Plain", name := "isNamed", desc := "(Ljava/lang/String;)Z" } : Jvm.MethodName)) ∈ lw_all := lw_g (lw_at lw_m3 172 rfl) rfl
theorem q823 : (Jvm.Cond.code ({ cls := "ShrugHills$Plain", name := "isNamed", desc := "(Ljava/lang/String;)Z" } : Jvm.MethodName) prog_15_method_2_code (2 : Nat) (Option.some Jvm.ClassFile.FieldType.boolean)) ∈ lw_all := lw_g (lw_at lw_m3 173 rfl) rfl
theorem q824 : (Jvm.Cond.methodLink "ShrugHills$Plain" (30 : Nat) ({ cls := "ShrugHills$Named", name := "find", desc := "(Ljava/util/List;Ljava/lang/String;)I" } : Jvm.MethodName)) ∈ lw_all := lw_g (lw_at lw_m3 174 rfl) rfl
theorem q911 : (Jvm.Cond.selects "ShrugHills$Plain" ({ cls := "java/lang/Object", name := "getClass", desc := "()Ljava/lang/Class;" } : Jvm.MethodName) ({ cls := "java/lang/Object", name := "getClass", desc := "()Ljava/lang/Class;" } : Jvm.MethodName)) ∈ lw_all := lw_g (lw_at lw_m4 21 rfl) rfl
theorem q940 : (Jvm.Cond.instanceMethod ({ cls := "ShrugHills$Plain", name := "isTaken", desc := "(I)Z" } : Jvm.MethodName)) ∈ lw_all := lw_g (lw_at lw_m4 50 rfl) rfl
theorem q941 : (Jvm.Cond.selects "ShrugHills$Plain" ({ cls := "ShrugHills$Plain", name := "isTaken", desc := "(I)Z" } : Jvm.MethodName) ({ cls := "ShrugHills$Plain", name := "isTaken", desc := "(I)Z" } : Jvm.MethodName)) ∈ lw_all := lw_g (lw_at lw_m4 51 rfl) rfl
theorem q942 : (Jvm.Cond.code ({ cls := "ShrugHills$Plain", name := "isTaken", desc := "(I)Z" } : Jvm.MethodName) prog_15_method_3_code (3 : Nat) (Option.some Jvm.ClassFile.FieldType.boolean)) ∈ lw_all := lw_g (lw_at lw_m4 52 rfl) rfl
theorem q943 : (Jvm.Cond.interfaceEntry "ShrugHills$Plain" (36 : Nat)) ∈ lw_tbl := lw_at lw_m4 53 rfl
theorem q944 : (Jvm.Cond.methodLink "ShrugHills$Plain" (36 : Nat) ({ cls := "java/util/List", name := "size", desc := "()I" } : Jvm.MethodName)) ∈ lw_all := lw_g (lw_at lw_m4 54 rfl) rfl
theorem q945 : (Jvm.Cond.interfaceEntry "ShrugHills$Plain" (42 : Nat)) ∈ lw_tbl := lw_at lw_m4 55 rfl
theorem q946 : (Jvm.Cond.methodLink "ShrugHills$Plain" (42 : Nat) ({ cls := "java/util/List", name := "get", desc := "(I)Ljava/lang/Object;" } : Jvm.MethodName)) ∈ lw_all := lw_g (lw_at lw_m4 56 rfl) rfl
theorem q947 : (Jvm.Cond.classLink "ShrugHills$Plain" (46 : Nat) "ShrugHills$Person") ∈ lw_all := lw_g (lw_at lw_m4 57 rfl) rfl
theorem q957 : (Jvm.Cond.fieldLinkNest "ShrugHills$Plain" (48 : Nat) "ShrugHills$Person" "cell" "I" "ShrugHills") ∈ lw_tbl := lw_at lw_m4 67 rfl
theorem q2717 : (Jvm.Cond.castable "ShrugHills$Plain" "java/lang/Object") ∈ lw_tbl := lw_at lw_m11 147 rfl
theorem in_X1 : ∀ w ∈ wsX10, w ∈ lw_all := lw_in wsX10 [282, 284, 286, 288, 290, 292, 294, 296, 298, 300, 302] (by decide +kernel) (by decide +kernel)
/-! ShrugHills$Reader -/
set_option maxRecDepth 100000
def RX2 : String := "ShrugHills$Reader"
def TX2 : u_T := fun k => match k with
  | 0 => ("ShrugHills$Reader", "fault", "LShrugHills$Fault;", true)
  | 1 => ("ShrugHills$Reader", "size", "I", false)
  | 2 => ("ShrugHills$Reader", "at", "I", false)
  | 3 => ("ShrugHills$Reader", "from", "I", false)
  | 4 => ("ShrugHills$Reader", "open", "I", false)
  | 5 => ("ShrugHills$Reader", "context", "I", false)
  | 6 => ("ShrugHills$Reader", "to", "LShrugHills$Plain;", false)
  | _ => ("ShrugHills$Reader", "this$0", "LShrugHills;", true)
def tyX2 : Nat → FieldType := fun k => match k with
  | 0 => .object "ShrugHills$Fault"
  | 1 => .int
  | 2 => .int
  | 3 => .int
  | 4 => .int
  | 5 => .int
  | 6 => .object "ShrugHills$Plain"
  | _ => .object "ShrugHills"
abbrev wsX20 : List Cond := u_ws RX2 TX2 8
theorem nmX2 : ∀ a, a < 8 → ∀ b, b < 8 → a ≠ b → (TX2 a).2.1 ≠ (TX2 b).2.1 := by decide +kernel
theorem tyX2_ok : ∀ k, k < 8 → parseFieldDescriptor (TX2 k).2.2.1 = some (tyX2 k) := by decide +kernel
abbrev cX2_init : ByteArray := prog_17_method_1_code
def yX2_init : MethodName := ⟨RX2, "<init>", "(LShrugHills;)V"⟩
def dkwX2_init_0 : List UInt8 := [42, 43, 181, 0, 3, 42, 183, 0, 9, 42, 187, 0, 15, 89, 183, 0, 17, 181, 0, 18, 177]
abbrev dktX2_init_0 : List UInt8 := dkwX2_init_0 ++ []
theorem dksX2_init_0 : cX2_init.data.toList.drop 0 = dktX2_init_0 := by decide +kernel
theorem dX2_init_0 : decode cX2_init 0 = .ok (.aload_n 0, 1) := dk_42 (dk_at dksX2_init_0 0 rfl rfl)
theorem dX2_init_1 : decode cX2_init 1 = .ok (.aload_n 1, 1) := dk_43 (dk_at dksX2_init_0 1 rfl rfl)
theorem dX2_init_2 : decode cX2_init 2 = .ok (.putfield 3, 3) := dk_181 0 3 (dk_at dksX2_init_0 2 rfl rfl)
theorem dX2_init_5 : decode cX2_init 5 = .ok (.aload_n 0, 1) := dk_42 (dk_at dksX2_init_0 5 rfl rfl)
theorem dX2_init_6 : decode cX2_init 6 = .ok (.invokespecial 9, 3) := dk_183 0 9 (dk_at dksX2_init_0 6 rfl rfl)
theorem dX2_init_9 : decode cX2_init 9 = .ok (.aload_n 0, 1) := dk_42 (dk_at dksX2_init_0 9 rfl rfl)
theorem dX2_init_10 : decode cX2_init 10 = .ok (.new 15, 3) := dk_187 0 15 (dk_at dksX2_init_0 10 rfl rfl)
theorem dX2_init_13 : decode cX2_init 13 = .ok (.dup, 1) := dk_89 (dk_at dksX2_init_0 13 rfl rfl)
theorem dX2_init_14 : decode cX2_init 14 = .ok (.invokespecial 17, 3) := dk_183 0 17 (dk_at dksX2_init_0 14 rfl rfl)
theorem dX2_init_17 : decode cX2_init 17 = .ok (.putfield 18, 3) := dk_181 0 18 (dk_at dksX2_init_0 17 rfl rfl)
theorem dX2_init_20 : decode cX2_init 20 = .ok (.return_, 1) := dk_177 (dk_at dksX2_init_0 20 rfl rfl)
abbrev cX2_all : ByteArray := prog_17_method_17_code
def yX2_all : MethodName := ⟨RX2, "all", "(I)LShrugHills$Plain;"⟩
def dkwX2_all_7 : List UInt8 := [180, 0, 103, 176]
abbrev dktX2_all_7 : List UInt8 := dkwX2_all_7 ++ []
def dkwX2_all_6 : List UInt8 := [154, 0, 12, 42, 44, 42, 180, 0, 61, 182, 0, 150, 42, 16, 59, 182, 0, 135, 167, 255, 178, 42]
abbrev dktX2_all_6 : List UInt8 := dkwX2_all_6 ++ dktX2_all_7
def dkwX2_all_5 : List UInt8 := [180, 0, 139, 4, 96, 181, 0, 139, 42, 182, 0, 70, 77, 42, 44, 42, 180, 0, 61, 182, 0, 146]
abbrev dktX2_all_5 : List UInt8 := dkwX2_all_5 ++ dktX2_all_6
def dkwX2_all_4 : List UInt8 := [16, 80, 160, 0, 7, 4, 167, 0, 4, 3, 42, 180, 0, 36, 182, 0, 142, 42, 180, 0, 103, 89]
abbrev dktX2_all_4 : List UInt8 := dkwX2_all_4 ++ dktX2_all_5
def dkwX2_all_3 : List UInt8 := [180, 0, 103, 4, 181, 0, 139, 42, 182, 0, 43, 2, 159, 0, 76, 42, 42, 180, 0, 103, 180, 0, 139]
abbrev dktX2_all_3 : List UInt8 := dkwX2_all_3 ++ dktX2_all_4
def dkwX2_all_2 : List UInt8 := [180, 0, 103, 42, 18, 130, 6, 16, 7, 182, 0, 132, 181, 0, 121, 42, 16, 59, 182, 0, 135, 42]
abbrev dktX2_all_2 : List UInt8 := dkwX2_all_2 ++ dktX2_all_3
def dkwX2_all_1 : List UInt8 := [181, 0, 125, 42, 18, 128, 182, 0, 93, 42, 180, 0, 103, 42, 6, 16, 7, 182, 0, 96, 181, 0, 118, 42]
abbrev dktX2_all_1 : List UInt8 := dkwX2_all_1 ++ dktX2_all_2
def dkwX2_all_0 : List UInt8 := [42, 187, 0, 108, 89, 183, 0, 124, 181, 0, 103, 42, 27, 181, 0, 29, 42, 3, 181, 0, 36, 42, 3]
abbrev dktX2_all_0 : List UInt8 := dkwX2_all_0 ++ dktX2_all_1
theorem dksX2_all_0 : cX2_all.data.toList.drop 0 = dktX2_all_0 := by decide +kernel
theorem dksX2_all_1 : cX2_all.data.toList.drop 23 = dktX2_all_1 := dk_seg dksX2_all_0 23 rfl rfl
theorem dksX2_all_2 : cX2_all.data.toList.drop 47 = dktX2_all_2 := dk_seg dksX2_all_1 24 rfl rfl
theorem dksX2_all_3 : cX2_all.data.toList.drop 69 = dktX2_all_3 := dk_seg dksX2_all_2 22 rfl rfl
theorem dksX2_all_4 : cX2_all.data.toList.drop 92 = dktX2_all_4 := dk_seg dksX2_all_3 23 rfl rfl
theorem dksX2_all_5 : cX2_all.data.toList.drop 114 = dktX2_all_5 := dk_seg dksX2_all_4 22 rfl rfl
theorem dksX2_all_6 : cX2_all.data.toList.drop 136 = dktX2_all_6 := dk_seg dksX2_all_5 22 rfl rfl
theorem dksX2_all_7 : cX2_all.data.toList.drop 158 = dktX2_all_7 := dk_seg dksX2_all_6 22 rfl rfl
theorem dX2_all_0 : decode cX2_all 0 = .ok (.aload_n 0, 1) := dk_42 (dk_at dksX2_all_0 0 rfl rfl)
theorem dX2_all_1 : decode cX2_all 1 = .ok (.new 108, 3) := dk_187 0 108 (dk_at dksX2_all_0 1 rfl rfl)
theorem dX2_all_4 : decode cX2_all 4 = .ok (.dup, 1) := dk_89 (dk_at dksX2_all_0 4 rfl rfl)
theorem dX2_all_5 : decode cX2_all 5 = .ok (.invokespecial 124, 3) := dk_183 0 124 (dk_at dksX2_all_0 5 rfl rfl)
theorem dX2_all_8 : decode cX2_all 8 = .ok (.putfield 103, 3) := dk_181 0 103 (dk_at dksX2_all_0 8 rfl rfl)
theorem dX2_all_11 : decode cX2_all 11 = .ok (.aload_n 0, 1) := dk_42 (dk_at dksX2_all_0 11 rfl rfl)
theorem dX2_all_12 : decode cX2_all 12 = .ok (.iload_n 1, 1) := dk_27 (dk_at dksX2_all_0 12 rfl rfl)
theorem dX2_all_13 : decode cX2_all 13 = .ok (.putfield 29, 3) := dk_181 0 29 (dk_at dksX2_all_0 13 rfl rfl)
theorem dX2_all_16 : decode cX2_all 16 = .ok (.aload_n 0, 1) := dk_42 (dk_at dksX2_all_0 16 rfl rfl)
theorem dX2_all_17 : decode cX2_all 17 = .ok (.iconst 0, 1) := dk_3 (dk_at dksX2_all_0 17 rfl rfl)
theorem dX2_all_18 : decode cX2_all 18 = .ok (.putfield 36, 3) := dk_181 0 36 (dk_at dksX2_all_0 18 rfl rfl)
theorem dX2_all_21 : decode cX2_all 21 = .ok (.aload_n 0, 1) := dk_42 (dk_at dksX2_all_0 21 rfl rfl)
theorem dX2_all_22 : decode cX2_all 22 = .ok (.iconst 0, 1) := dk_3 (dk_at dksX2_all_0 22 rfl rfl)
theorem dX2_all_23 : decode cX2_all 23 = .ok (.putfield 125, 3) := dk_181 0 125 (dk_at dksX2_all_1 0 rfl rfl)
theorem dX2_all_26 : decode cX2_all 26 = .ok (.aload_n 0, 1) := dk_42 (dk_at dksX2_all_1 3 rfl rfl)
theorem dX2_all_27 : decode cX2_all 27 = .ok (.ldc 128, 2) := dk_18 128 (dk_at dksX2_all_1 4 rfl rfl)
theorem dX2_all_29 : decode cX2_all 29 = .ok (.invokevirtual 93, 3) := dk_182 0 93 (dk_at dksX2_all_1 6 rfl rfl)
theorem dX2_all_32 : decode cX2_all 32 = .ok (.aload_n 0, 1) := dk_42 (dk_at dksX2_all_1 9 rfl rfl)
theorem dX2_all_33 : decode cX2_all 33 = .ok (.getfield 103, 3) := dk_180 0 103 (dk_at dksX2_all_1 10 rfl rfl)
theorem dX2_all_36 : decode cX2_all 36 = .ok (.aload_n 0, 1) := dk_42 (dk_at dksX2_all_1 13 rfl rfl)
theorem dX2_all_37 : decode cX2_all 37 = .ok (.iconst 3, 1) := dk_6 (dk_at dksX2_all_1 14 rfl rfl)
theorem dX2_all_38 : decode cX2_all 38 = .ok (.bipush 7, 2) := dk_16 7 (dk_at dksX2_all_1 15 rfl rfl)
theorem dX2_all_40 : decode cX2_all 40 = .ok (.invokevirtual 96, 3) := dk_182 0 96 (dk_at dksX2_all_1 17 rfl rfl)
theorem dX2_all_43 : decode cX2_all 43 = .ok (.putfield 118, 3) := dk_181 0 118 (dk_at dksX2_all_1 20 rfl rfl)
theorem dX2_all_46 : decode cX2_all 46 = .ok (.aload_n 0, 1) := dk_42 (dk_at dksX2_all_1 23 rfl rfl)
theorem dX2_all_47 : decode cX2_all 47 = .ok (.getfield 103, 3) := dk_180 0 103 (dk_at dksX2_all_2 0 rfl rfl)
theorem dX2_all_50 : decode cX2_all 50 = .ok (.aload_n 0, 1) := dk_42 (dk_at dksX2_all_2 3 rfl rfl)
theorem dX2_all_51 : decode cX2_all 51 = .ok (.ldc 130, 2) := dk_18 130 (dk_at dksX2_all_2 4 rfl rfl)
theorem dX2_all_53 : decode cX2_all 53 = .ok (.iconst 3, 1) := dk_6 (dk_at dksX2_all_2 6 rfl rfl)
theorem dX2_all_54 : decode cX2_all 54 = .ok (.bipush 7, 2) := dk_16 7 (dk_at dksX2_all_2 7 rfl rfl)
theorem dX2_all_56 : decode cX2_all 56 = .ok (.invokevirtual 132, 3) := dk_182 0 132 (dk_at dksX2_all_2 9 rfl rfl)
theorem dX2_all_59 : decode cX2_all 59 = .ok (.putfield 121, 3) := dk_181 0 121 (dk_at dksX2_all_2 12 rfl rfl)
theorem dX2_all_62 : decode cX2_all 62 = .ok (.aload_n 0, 1) := dk_42 (dk_at dksX2_all_2 15 rfl rfl)
theorem dX2_all_63 : decode cX2_all 63 = .ok (.bipush 59, 2) := dk_16 59 (dk_at dksX2_all_2 16 rfl rfl)
theorem dX2_all_65 : decode cX2_all 65 = .ok (.invokevirtual 135, 3) := dk_182 0 135 (dk_at dksX2_all_2 18 rfl rfl)
theorem dX2_all_68 : decode cX2_all 68 = .ok (.aload_n 0, 1) := dk_42 (dk_at dksX2_all_2 21 rfl rfl)
theorem dX2_all_69 : decode cX2_all 69 = .ok (.getfield 103, 3) := dk_180 0 103 (dk_at dksX2_all_3 0 rfl rfl)
theorem dX2_all_72 : decode cX2_all 72 = .ok (.iconst 1, 1) := dk_4 (dk_at dksX2_all_3 3 rfl rfl)
theorem dX2_all_73 : decode cX2_all 73 = .ok (.putfield 139, 3) := dk_181 0 139 (dk_at dksX2_all_3 4 rfl rfl)
theorem dX2_all_76 : decode cX2_all 76 = .ok (.aload_n 0, 1) := dk_42 (dk_at dksX2_all_3 7 rfl rfl)
theorem dX2_all_77 : decode cX2_all 77 = .ok (.invokevirtual 43, 3) := dk_182 0 43 (dk_at dksX2_all_3 8 rfl rfl)
theorem dX2_all_80 : decode cX2_all 80 = .ok (.iconst (-1), 1) := dk_2 (dk_at dksX2_all_3 11 rfl rfl)
theorem dX2_all_81 : decode cX2_all 81 = .ok (.if_icmp .eq 76, 3) := dk_159 0 76 (dk_at dksX2_all_3 12 rfl rfl)
theorem dX2_all_84 : decode cX2_all 84 = .ok (.aload_n 0, 1) := dk_42 (dk_at dksX2_all_3 15 rfl rfl)
theorem dX2_all_85 : decode cX2_all 85 = .ok (.aload_n 0, 1) := dk_42 (dk_at dksX2_all_3 16 rfl rfl)
theorem dX2_all_86 : decode cX2_all 86 = .ok (.getfield 103, 3) := dk_180 0 103 (dk_at dksX2_all_3 17 rfl rfl)
theorem dX2_all_89 : decode cX2_all 89 = .ok (.getfield 139, 3) := dk_180 0 139 (dk_at dksX2_all_3 20 rfl rfl)
theorem dX2_all_92 : decode cX2_all 92 = .ok (.bipush 80, 2) := dk_16 80 (dk_at dksX2_all_4 0 rfl rfl)
theorem dX2_all_94 : decode cX2_all 94 = .ok (.if_icmp .ne 7, 3) := dk_160 0 7 (dk_at dksX2_all_4 2 rfl rfl)
theorem dX2_all_97 : decode cX2_all 97 = .ok (.iconst 1, 1) := dk_4 (dk_at dksX2_all_4 5 rfl rfl)
theorem dX2_all_98 : decode cX2_all 98 = .ok (.goto 4, 3) := dk_167 0 4 (dk_at dksX2_all_4 6 rfl rfl)
theorem dX2_all_101 : decode cX2_all 101 = .ok (.iconst 0, 1) := dk_3 (dk_at dksX2_all_4 9 rfl rfl)
theorem dX2_all_102 : decode cX2_all 102 = .ok (.aload_n 0, 1) := dk_42 (dk_at dksX2_all_4 10 rfl rfl)
theorem dX2_all_103 : decode cX2_all 103 = .ok (.getfield 36, 3) := dk_180 0 36 (dk_at dksX2_all_4 11 rfl rfl)
theorem dX2_all_106 : decode cX2_all 106 = .ok (.invokevirtual 142, 3) := dk_182 0 142 (dk_at dksX2_all_4 14 rfl rfl)
theorem dX2_all_109 : decode cX2_all 109 = .ok (.aload_n 0, 1) := dk_42 (dk_at dksX2_all_4 17 rfl rfl)
theorem dX2_all_110 : decode cX2_all 110 = .ok (.getfield 103, 3) := dk_180 0 103 (dk_at dksX2_all_4 18 rfl rfl)
theorem dX2_all_113 : decode cX2_all 113 = .ok (.dup, 1) := dk_89 (dk_at dksX2_all_4 21 rfl rfl)
theorem dX2_all_114 : decode cX2_all 114 = .ok (.getfield 139, 3) := dk_180 0 139 (dk_at dksX2_all_5 0 rfl rfl)
theorem dX2_all_117 : decode cX2_all 117 = .ok (.iconst 1, 1) := dk_4 (dk_at dksX2_all_5 3 rfl rfl)
theorem dX2_all_118 : decode cX2_all 118 = .ok (.iadd, 1) := dk_96 (dk_at dksX2_all_5 4 rfl rfl)
theorem dX2_all_119 : decode cX2_all 119 = .ok (.putfield 139, 3) := dk_181 0 139 (dk_at dksX2_all_5 5 rfl rfl)
theorem dX2_all_122 : decode cX2_all 122 = .ok (.aload_n 0, 1) := dk_42 (dk_at dksX2_all_5 8 rfl rfl)
theorem dX2_all_123 : decode cX2_all 123 = .ok (.invokevirtual 70, 3) := dk_182 0 70 (dk_at dksX2_all_5 9 rfl rfl)
theorem dX2_all_126 : decode cX2_all 126 = .ok (.astore_n 2, 1) := dk_77 (dk_at dksX2_all_5 12 rfl rfl)
theorem dX2_all_127 : decode cX2_all 127 = .ok (.aload_n 0, 1) := dk_42 (dk_at dksX2_all_5 13 rfl rfl)
theorem dX2_all_128 : decode cX2_all 128 = .ok (.aload_n 2, 1) := dk_44 (dk_at dksX2_all_5 14 rfl rfl)
theorem dX2_all_129 : decode cX2_all 129 = .ok (.aload_n 0, 1) := dk_42 (dk_at dksX2_all_5 15 rfl rfl)
theorem dX2_all_130 : decode cX2_all 130 = .ok (.getfield 61, 3) := dk_180 0 61 (dk_at dksX2_all_5 16 rfl rfl)
theorem dX2_all_133 : decode cX2_all 133 = .ok (.invokevirtual 146, 3) := dk_182 0 146 (dk_at dksX2_all_5 19 rfl rfl)
theorem dX2_all_136 : decode cX2_all 136 = .ok (.ifCond .ne 12, 3) := dk_154 0 12 (dk_at dksX2_all_6 0 rfl rfl)
theorem dX2_all_139 : decode cX2_all 139 = .ok (.aload_n 0, 1) := dk_42 (dk_at dksX2_all_6 3 rfl rfl)
theorem dX2_all_140 : decode cX2_all 140 = .ok (.aload_n 2, 1) := dk_44 (dk_at dksX2_all_6 4 rfl rfl)
theorem dX2_all_141 : decode cX2_all 141 = .ok (.aload_n 0, 1) := dk_42 (dk_at dksX2_all_6 5 rfl rfl)
theorem dX2_all_142 : decode cX2_all 142 = .ok (.getfield 61, 3) := dk_180 0 61 (dk_at dksX2_all_6 6 rfl rfl)
theorem dX2_all_145 : decode cX2_all 145 = .ok (.invokevirtual 150, 3) := dk_182 0 150 (dk_at dksX2_all_6 9 rfl rfl)
theorem dX2_all_148 : decode cX2_all 148 = .ok (.aload_n 0, 1) := dk_42 (dk_at dksX2_all_6 12 rfl rfl)
theorem dX2_all_149 : decode cX2_all 149 = .ok (.bipush 59, 2) := dk_16 59 (dk_at dksX2_all_6 13 rfl rfl)
theorem dX2_all_151 : decode cX2_all 151 = .ok (.invokevirtual 135, 3) := dk_182 0 135 (dk_at dksX2_all_6 15 rfl rfl)
theorem dX2_all_154 : decode cX2_all 154 = .ok (.goto (-78), 3) := dk_167 255 178 (dk_at dksX2_all_6 18 rfl rfl)
theorem dX2_all_157 : decode cX2_all 157 = .ok (.aload_n 0, 1) := dk_42 (dk_at dksX2_all_6 21 rfl rfl)
theorem dX2_all_158 : decode cX2_all 158 = .ok (.getfield 103, 3) := dk_180 0 103 (dk_at dksX2_all_7 0 rfl rfl)
theorem dX2_all_161 : decode cX2_all 161 = .ok (.areturn, 1) := dk_176 (dk_at dksX2_all_7 3 rfl rfl)
abbrev cX2_word : ByteArray := prog_17_method_8_code
def yX2_word : MethodName := ⟨RX2, "word", "(Ljava/lang/String;)V"⟩
def dkwX2_word_0 : List UInt8 := [42, 182, 0, 70, 43, 182, 0, 74, 154, 0, 13, 42, 4, 42, 180, 0, 61, 182, 0, 47, 191, 177]
abbrev dktX2_word_0 : List UInt8 := dkwX2_word_0 ++ []
theorem dksX2_word_0 : cX2_word.data.toList.drop 0 = dktX2_word_0 := by decide +kernel
theorem dX2_word_0 : decode cX2_word 0 = .ok (.aload_n 0, 1) := dk_42 (dk_at dksX2_word_0 0 rfl rfl)
theorem dX2_word_1 : decode cX2_word 1 = .ok (.invokevirtual 70, 3) := dk_182 0 70 (dk_at dksX2_word_0 1 rfl rfl)
theorem dX2_word_4 : decode cX2_word 4 = .ok (.aload_n 1, 1) := dk_43 (dk_at dksX2_word_0 4 rfl rfl)
theorem dX2_word_5 : decode cX2_word 5 = .ok (.invokevirtual 74, 3) := dk_182 0 74 (dk_at dksX2_word_0 5 rfl rfl)
theorem dX2_word_8 : decode cX2_word 8 = .ok (.ifCond .ne 13, 3) := dk_154 0 13 (dk_at dksX2_word_0 8 rfl rfl)
theorem dX2_word_11 : decode cX2_word 11 = .ok (.aload_n 0, 1) := dk_42 (dk_at dksX2_word_0 11 rfl rfl)
theorem dX2_word_12 : decode cX2_word 12 = .ok (.iconst 1, 1) := dk_4 (dk_at dksX2_word_0 12 rfl rfl)
theorem dX2_word_13 : decode cX2_word 13 = .ok (.aload_n 0, 1) := dk_42 (dk_at dksX2_word_0 13 rfl rfl)
theorem dX2_word_14 : decode cX2_word 14 = .ok (.getfield 61, 3) := dk_180 0 61 (dk_at dksX2_word_0 14 rfl rfl)
theorem dX2_word_17 : decode cX2_word 17 = .ok (.invokevirtual 47, 3) := dk_182 0 47 (dk_at dksX2_word_0 17 rfl rfl)
theorem dX2_word_20 : decode cX2_word 20 = .ok (.athrow, 1) := dk_191 (dk_at dksX2_word_0 20 rfl rfl)
theorem dX2_word_21 : decode cX2_word 21 = .ok (.return_, 1) := dk_177 (dk_at dksX2_word_0 21 rfl rfl)
abbrev cX2_word_2 : ByteArray := prog_17_method_7_code
def yX2_word_2 : MethodName := ⟨RX2, "word", "()Ljava/lang/String;"⟩
def dkwX2_word_2_4 : List UInt8 := [180, 0, 32, 28, 51, 146, 85, 132, 2, 1, 167, 255, 227, 43, 184, 0, 64, 176]
abbrev dktX2_word_2_4 : List UInt8 := dkwX2_word_2_4 ++ []
def dkwX2_word_2_3 : List UInt8 := [180, 0, 61, 61, 28, 42, 180, 0, 36, 162, 0, 27, 43, 28, 42, 180, 0, 61, 100, 42, 180, 0, 3]
abbrev dktX2_word_2_3 : List UInt8 := dkwX2_word_2_3 ++ dktX2_word_2_4
def dkwX2_word_2_2 : List UInt8 := [180, 0, 36, 4, 96, 181, 0, 36, 167, 255, 232, 42, 180, 0, 36, 42, 180, 0, 61, 100, 188, 5, 76, 42]
abbrev dktX2_word_2_2 : List UInt8 := dkwX2_word_2_2 ++ dktX2_word_2_3
def dkwX2_word_2_1 : List UInt8 := [42, 42, 180, 0, 36, 181, 0, 61, 42, 42, 180, 0, 36, 182, 0, 39, 184, 0, 51, 153, 0, 16, 42, 89]
abbrev dktX2_word_2_1 : List UInt8 := dkwX2_word_2_1 ++ dktX2_word_2_2
def dkwX2_word_2_0 : List UInt8 := [42, 182, 0, 43, 184, 0, 51, 154, 0, 13, 42, 4, 42, 180, 0, 36, 182, 0, 47, 191, 42, 182, 0, 58]
abbrev dktX2_word_2_0 : List UInt8 := dkwX2_word_2_0 ++ dktX2_word_2_1
theorem dksX2_word_2_0 : cX2_word_2.data.toList.drop 0 = dktX2_word_2_0 := by decide +kernel
theorem dksX2_word_2_1 : cX2_word_2.data.toList.drop 24 = dktX2_word_2_1 := dk_seg dksX2_word_2_0 24 rfl rfl
theorem dksX2_word_2_2 : cX2_word_2.data.toList.drop 48 = dktX2_word_2_2 := dk_seg dksX2_word_2_1 24 rfl rfl
theorem dksX2_word_2_3 : cX2_word_2.data.toList.drop 72 = dktX2_word_2_3 := dk_seg dksX2_word_2_2 24 rfl rfl
theorem dksX2_word_2_4 : cX2_word_2.data.toList.drop 95 = dktX2_word_2_4 := dk_seg dksX2_word_2_3 23 rfl rfl
theorem dX2_word_2_0 : decode cX2_word_2 0 = .ok (.aload_n 0, 1) := dk_42 (dk_at dksX2_word_2_0 0 rfl rfl)
theorem dX2_word_2_1 : decode cX2_word_2 1 = .ok (.invokevirtual 43, 3) := dk_182 0 43 (dk_at dksX2_word_2_0 1 rfl rfl)
theorem dX2_word_2_4 : decode cX2_word_2 4 = .ok (.invokestatic 51, 3) := dk_184 0 51 (dk_at dksX2_word_2_0 4 rfl rfl)
theorem dX2_word_2_7 : decode cX2_word_2 7 = .ok (.ifCond .ne 13, 3) := dk_154 0 13 (dk_at dksX2_word_2_0 7 rfl rfl)
theorem dX2_word_2_10 : decode cX2_word_2 10 = .ok (.aload_n 0, 1) := dk_42 (dk_at dksX2_word_2_0 10 rfl rfl)
theorem dX2_word_2_11 : decode cX2_word_2 11 = .ok (.iconst 1, 1) := dk_4 (dk_at dksX2_word_2_0 11 rfl rfl)
theorem dX2_word_2_12 : decode cX2_word_2 12 = .ok (.aload_n 0, 1) := dk_42 (dk_at dksX2_word_2_0 12 rfl rfl)
theorem dX2_word_2_13 : decode cX2_word_2 13 = .ok (.getfield 36, 3) := dk_180 0 36 (dk_at dksX2_word_2_0 13 rfl rfl)
theorem dX2_word_2_16 : decode cX2_word_2 16 = .ok (.invokevirtual 47, 3) := dk_182 0 47 (dk_at dksX2_word_2_0 16 rfl rfl)
theorem dX2_word_2_19 : decode cX2_word_2 19 = .ok (.athrow, 1) := dk_191 (dk_at dksX2_word_2_0 19 rfl rfl)
theorem dX2_word_2_20 : decode cX2_word_2 20 = .ok (.aload_n 0, 1) := dk_42 (dk_at dksX2_word_2_0 20 rfl rfl)
theorem dX2_word_2_21 : decode cX2_word_2 21 = .ok (.invokevirtual 58, 3) := dk_182 0 58 (dk_at dksX2_word_2_0 21 rfl rfl)
theorem dX2_word_2_24 : decode cX2_word_2 24 = .ok (.aload_n 0, 1) := dk_42 (dk_at dksX2_word_2_1 0 rfl rfl)
theorem dX2_word_2_25 : decode cX2_word_2 25 = .ok (.aload_n 0, 1) := dk_42 (dk_at dksX2_word_2_1 1 rfl rfl)
theorem dX2_word_2_26 : decode cX2_word_2 26 = .ok (.getfield 36, 3) := dk_180 0 36 (dk_at dksX2_word_2_1 2 rfl rfl)
theorem dX2_word_2_29 : decode cX2_word_2 29 = .ok (.putfield 61, 3) := dk_181 0 61 (dk_at dksX2_word_2_1 5 rfl rfl)
theorem dX2_word_2_32 : decode cX2_word_2 32 = .ok (.aload_n 0, 1) := dk_42 (dk_at dksX2_word_2_1 8 rfl rfl)
theorem dX2_word_2_33 : decode cX2_word_2 33 = .ok (.aload_n 0, 1) := dk_42 (dk_at dksX2_word_2_1 9 rfl rfl)
theorem dX2_word_2_34 : decode cX2_word_2 34 = .ok (.getfield 36, 3) := dk_180 0 36 (dk_at dksX2_word_2_1 10 rfl rfl)
theorem dX2_word_2_37 : decode cX2_word_2 37 = .ok (.invokevirtual 39, 3) := dk_182 0 39 (dk_at dksX2_word_2_1 13 rfl rfl)
theorem dX2_word_2_40 : decode cX2_word_2 40 = .ok (.invokestatic 51, 3) := dk_184 0 51 (dk_at dksX2_word_2_1 16 rfl rfl)
theorem dX2_word_2_43 : decode cX2_word_2 43 = .ok (.ifCond .eq 16, 3) := dk_153 0 16 (dk_at dksX2_word_2_1 19 rfl rfl)
theorem dX2_word_2_46 : decode cX2_word_2 46 = .ok (.aload_n 0, 1) := dk_42 (dk_at dksX2_word_2_1 22 rfl rfl)
theorem dX2_word_2_47 : decode cX2_word_2 47 = .ok (.dup, 1) := dk_89 (dk_at dksX2_word_2_1 23 rfl rfl)
theorem dX2_word_2_48 : decode cX2_word_2 48 = .ok (.getfield 36, 3) := dk_180 0 36 (dk_at dksX2_word_2_2 0 rfl rfl)
theorem dX2_word_2_51 : decode cX2_word_2 51 = .ok (.iconst 1, 1) := dk_4 (dk_at dksX2_word_2_2 3 rfl rfl)
theorem dX2_word_2_52 : decode cX2_word_2 52 = .ok (.iadd, 1) := dk_96 (dk_at dksX2_word_2_2 4 rfl rfl)
theorem dX2_word_2_53 : decode cX2_word_2 53 = .ok (.putfield 36, 3) := dk_181 0 36 (dk_at dksX2_word_2_2 5 rfl rfl)
theorem dX2_word_2_56 : decode cX2_word_2 56 = .ok (.goto (-24), 3) := dk_167 255 232 (dk_at dksX2_word_2_2 8 rfl rfl)
theorem dX2_word_2_59 : decode cX2_word_2 59 = .ok (.aload_n 0, 1) := dk_42 (dk_at dksX2_word_2_2 11 rfl rfl)
theorem dX2_word_2_60 : decode cX2_word_2 60 = .ok (.getfield 36, 3) := dk_180 0 36 (dk_at dksX2_word_2_2 12 rfl rfl)
theorem dX2_word_2_63 : decode cX2_word_2 63 = .ok (.aload_n 0, 1) := dk_42 (dk_at dksX2_word_2_2 15 rfl rfl)
theorem dX2_word_2_64 : decode cX2_word_2 64 = .ok (.getfield 61, 3) := dk_180 0 61 (dk_at dksX2_word_2_2 16 rfl rfl)
theorem dX2_word_2_67 : decode cX2_word_2 67 = .ok (.isub, 1) := dk_100 (dk_at dksX2_word_2_2 19 rfl rfl)
theorem dX2_word_2_68 : decode cX2_word_2 68 = .ok (.newarray .char, 2) := dk_188_5 (dk_at dksX2_word_2_2 20 rfl rfl)
theorem dX2_word_2_70 : decode cX2_word_2 70 = .ok (.astore_n 1, 1) := dk_76 (dk_at dksX2_word_2_2 22 rfl rfl)
theorem dX2_word_2_71 : decode cX2_word_2 71 = .ok (.aload_n 0, 1) := dk_42 (dk_at dksX2_word_2_2 23 rfl rfl)
theorem dX2_word_2_72 : decode cX2_word_2 72 = .ok (.getfield 61, 3) := dk_180 0 61 (dk_at dksX2_word_2_3 0 rfl rfl)
theorem dX2_word_2_75 : decode cX2_word_2 75 = .ok (.istore_n 2, 1) := dk_61 (dk_at dksX2_word_2_3 3 rfl rfl)
theorem dX2_word_2_76 : decode cX2_word_2 76 = .ok (.iload_n 2, 1) := dk_28 (dk_at dksX2_word_2_3 4 rfl rfl)
theorem dX2_word_2_77 : decode cX2_word_2 77 = .ok (.aload_n 0, 1) := dk_42 (dk_at dksX2_word_2_3 5 rfl rfl)
theorem dX2_word_2_78 : decode cX2_word_2 78 = .ok (.getfield 36, 3) := dk_180 0 36 (dk_at dksX2_word_2_3 6 rfl rfl)
theorem dX2_word_2_81 : decode cX2_word_2 81 = .ok (.if_icmp .ge 27, 3) := dk_162 0 27 (dk_at dksX2_word_2_3 9 rfl rfl)
theorem dX2_word_2_84 : decode cX2_word_2 84 = .ok (.aload_n 1, 1) := dk_43 (dk_at dksX2_word_2_3 12 rfl rfl)
theorem dX2_word_2_85 : decode cX2_word_2 85 = .ok (.iload_n 2, 1) := dk_28 (dk_at dksX2_word_2_3 13 rfl rfl)
theorem dX2_word_2_86 : decode cX2_word_2 86 = .ok (.aload_n 0, 1) := dk_42 (dk_at dksX2_word_2_3 14 rfl rfl)
theorem dX2_word_2_87 : decode cX2_word_2 87 = .ok (.getfield 61, 3) := dk_180 0 61 (dk_at dksX2_word_2_3 15 rfl rfl)
theorem dX2_word_2_90 : decode cX2_word_2 90 = .ok (.isub, 1) := dk_100 (dk_at dksX2_word_2_3 18 rfl rfl)
theorem dX2_word_2_91 : decode cX2_word_2 91 = .ok (.aload_n 0, 1) := dk_42 (dk_at dksX2_word_2_3 19 rfl rfl)
theorem dX2_word_2_92 : decode cX2_word_2 92 = .ok (.getfield 3, 3) := dk_180 0 3 (dk_at dksX2_word_2_3 20 rfl rfl)
theorem dX2_word_2_95 : decode cX2_word_2 95 = .ok (.getfield 32, 3) := dk_180 0 32 (dk_at dksX2_word_2_4 0 rfl rfl)
theorem dX2_word_2_98 : decode cX2_word_2 98 = .ok (.iload_n 2, 1) := dk_28 (dk_at dksX2_word_2_4 3 rfl rfl)
theorem dX2_word_2_99 : decode cX2_word_2 99 = .ok (.baload, 1) := dk_51 (dk_at dksX2_word_2_4 4 rfl rfl)
theorem dX2_word_2_100 : decode cX2_word_2 100 = .ok (.i2c, 1) := dk_146 (dk_at dksX2_word_2_4 5 rfl rfl)
theorem dX2_word_2_101 : decode cX2_word_2 101 = .ok (.castore, 1) := dk_85 (dk_at dksX2_word_2_4 6 rfl rfl)
theorem dX2_word_2_102 : decode cX2_word_2 102 = .ok (.iinc 2 1, 3) := dk_132 2 1 (dk_at dksX2_word_2_4 7 rfl rfl)
theorem dX2_word_2_105 : decode cX2_word_2 105 = .ok (.goto (-29), 3) := dk_167 255 227 (dk_at dksX2_word_2_4 10 rfl rfl)
theorem dX2_word_2_108 : decode cX2_word_2 108 = .ok (.aload_n 1, 1) := dk_43 (dk_at dksX2_word_2_4 13 rfl rfl)
theorem dX2_word_2_109 : decode cX2_word_2 109 = .ok (.invokestatic 64, 3) := dk_184 0 64 (dk_at dksX2_word_2_4 14 rfl rfl)
theorem dX2_word_2_112 : decode cX2_word_2 112 = .ok (.areturn, 1) := dk_176 (dk_at dksX2_word_2_4 17 rfl rfl)
abbrev cX2_here : ByteArray := prog_17_method_4_code
def yX2_here : MethodName := ⟨RX2, "here", "()I"⟩
def dkwX2_here_2 : List UInt8 := [172]
abbrev dktX2_here_2 : List UInt8 := dkwX2_here_2 ++ []
def dkwX2_here_1 : List UInt8 := [160, 0, 16, 42, 89, 180, 0, 36, 4, 96, 181, 0, 36, 167, 255, 220, 42, 42, 180, 0, 36, 182, 0, 39]
abbrev dktX2_here_1 : List UInt8 := dkwX2_here_1 ++ dktX2_here_2
def dkwX2_here_0 : List UInt8 := [42, 42, 180, 0, 36, 182, 0, 39, 16, 32, 159, 0, 16, 42, 42, 180, 0, 36, 182, 0, 39, 16, 10]
abbrev dktX2_here_0 : List UInt8 := dkwX2_here_0 ++ dktX2_here_1
theorem dksX2_here_0 : cX2_here.data.toList.drop 0 = dktX2_here_0 := by decide +kernel
theorem dksX2_here_1 : cX2_here.data.toList.drop 23 = dktX2_here_1 := dk_seg dksX2_here_0 23 rfl rfl
theorem dksX2_here_2 : cX2_here.data.toList.drop 47 = dktX2_here_2 := dk_seg dksX2_here_1 24 rfl rfl
theorem dX2_here_0 : decode cX2_here 0 = .ok (.aload_n 0, 1) := dk_42 (dk_at dksX2_here_0 0 rfl rfl)
theorem dX2_here_1 : decode cX2_here 1 = .ok (.aload_n 0, 1) := dk_42 (dk_at dksX2_here_0 1 rfl rfl)
theorem dX2_here_2 : decode cX2_here 2 = .ok (.getfield 36, 3) := dk_180 0 36 (dk_at dksX2_here_0 2 rfl rfl)
theorem dX2_here_5 : decode cX2_here 5 = .ok (.invokevirtual 39, 3) := dk_182 0 39 (dk_at dksX2_here_0 5 rfl rfl)
theorem dX2_here_8 : decode cX2_here 8 = .ok (.bipush 32, 2) := dk_16 32 (dk_at dksX2_here_0 8 rfl rfl)
theorem dX2_here_10 : decode cX2_here 10 = .ok (.if_icmp .eq 16, 3) := dk_159 0 16 (dk_at dksX2_here_0 10 rfl rfl)
theorem dX2_here_13 : decode cX2_here 13 = .ok (.aload_n 0, 1) := dk_42 (dk_at dksX2_here_0 13 rfl rfl)
theorem dX2_here_14 : decode cX2_here 14 = .ok (.aload_n 0, 1) := dk_42 (dk_at dksX2_here_0 14 rfl rfl)
theorem dX2_here_15 : decode cX2_here 15 = .ok (.getfield 36, 3) := dk_180 0 36 (dk_at dksX2_here_0 15 rfl rfl)
theorem dX2_here_18 : decode cX2_here 18 = .ok (.invokevirtual 39, 3) := dk_182 0 39 (dk_at dksX2_here_0 18 rfl rfl)
theorem dX2_here_21 : decode cX2_here 21 = .ok (.bipush 10, 2) := dk_16 10 (dk_at dksX2_here_0 21 rfl rfl)
theorem dX2_here_23 : decode cX2_here 23 = .ok (.if_icmp .ne 16, 3) := dk_160 0 16 (dk_at dksX2_here_1 0 rfl rfl)
theorem dX2_here_26 : decode cX2_here 26 = .ok (.aload_n 0, 1) := dk_42 (dk_at dksX2_here_1 3 rfl rfl)
theorem dX2_here_27 : decode cX2_here 27 = .ok (.dup, 1) := dk_89 (dk_at dksX2_here_1 4 rfl rfl)
theorem dX2_here_28 : decode cX2_here 28 = .ok (.getfield 36, 3) := dk_180 0 36 (dk_at dksX2_here_1 5 rfl rfl)
theorem dX2_here_31 : decode cX2_here 31 = .ok (.iconst 1, 1) := dk_4 (dk_at dksX2_here_1 8 rfl rfl)
theorem dX2_here_32 : decode cX2_here 32 = .ok (.iadd, 1) := dk_96 (dk_at dksX2_here_1 9 rfl rfl)
theorem dX2_here_33 : decode cX2_here 33 = .ok (.putfield 36, 3) := dk_181 0 36 (dk_at dksX2_here_1 10 rfl rfl)
theorem dX2_here_36 : decode cX2_here 36 = .ok (.goto (-36), 3) := dk_167 255 220 (dk_at dksX2_here_1 13 rfl rfl)
theorem dX2_here_39 : decode cX2_here 39 = .ok (.aload_n 0, 1) := dk_42 (dk_at dksX2_here_1 16 rfl rfl)
theorem dX2_here_40 : decode cX2_here 40 = .ok (.aload_n 0, 1) := dk_42 (dk_at dksX2_here_1 17 rfl rfl)
theorem dX2_here_41 : decode cX2_here 41 = .ok (.getfield 36, 3) := dk_180 0 36 (dk_at dksX2_here_1 18 rfl rfl)
theorem dX2_here_44 : decode cX2_here 44 = .ok (.invokevirtual 39, 3) := dk_182 0 39 (dk_at dksX2_here_1 21 rfl rfl)
theorem dX2_here_47 : decode cX2_here 47 = .ok (.ireturn, 1) := dk_172 (dk_at dksX2_here_2 0 rfl rfl)
abbrev cX2_byteAt : ByteArray := prog_17_method_3_code
def yX2_byteAt : MethodName := ⟨RX2, "byteAt", "(I)I"⟩
def dkwX2_byteAt_1 : List UInt8 := [126, 167, 0, 4, 2, 172]
abbrev dktX2_byteAt_1 : List UInt8 := dkwX2_byteAt_1 ++ []
def dkwX2_byteAt_0 : List UInt8 := [27, 155, 0, 27, 27, 42, 180, 0, 29, 162, 0, 19, 42, 180, 0, 3, 180, 0, 32, 27, 51, 17, 0, 255]
abbrev dktX2_byteAt_0 : List UInt8 := dkwX2_byteAt_0 ++ dktX2_byteAt_1
theorem dksX2_byteAt_0 : cX2_byteAt.data.toList.drop 0 = dktX2_byteAt_0 := by decide +kernel
theorem dksX2_byteAt_1 : cX2_byteAt.data.toList.drop 24 = dktX2_byteAt_1 := dk_seg dksX2_byteAt_0 24 rfl rfl
theorem dX2_byteAt_0 : decode cX2_byteAt 0 = .ok (.iload_n 1, 1) := dk_27 (dk_at dksX2_byteAt_0 0 rfl rfl)
theorem dX2_byteAt_1 : decode cX2_byteAt 1 = .ok (.ifCond .lt 27, 3) := dk_155 0 27 (dk_at dksX2_byteAt_0 1 rfl rfl)
theorem dX2_byteAt_4 : decode cX2_byteAt 4 = .ok (.iload_n 1, 1) := dk_27 (dk_at dksX2_byteAt_0 4 rfl rfl)
theorem dX2_byteAt_5 : decode cX2_byteAt 5 = .ok (.aload_n 0, 1) := dk_42 (dk_at dksX2_byteAt_0 5 rfl rfl)
theorem dX2_byteAt_6 : decode cX2_byteAt 6 = .ok (.getfield 29, 3) := dk_180 0 29 (dk_at dksX2_byteAt_0 6 rfl rfl)
theorem dX2_byteAt_9 : decode cX2_byteAt 9 = .ok (.if_icmp .ge 19, 3) := dk_162 0 19 (dk_at dksX2_byteAt_0 9 rfl rfl)
theorem dX2_byteAt_12 : decode cX2_byteAt 12 = .ok (.aload_n 0, 1) := dk_42 (dk_at dksX2_byteAt_0 12 rfl rfl)
theorem dX2_byteAt_13 : decode cX2_byteAt 13 = .ok (.getfield 3, 3) := dk_180 0 3 (dk_at dksX2_byteAt_0 13 rfl rfl)
theorem dX2_byteAt_16 : decode cX2_byteAt 16 = .ok (.getfield 32, 3) := dk_180 0 32 (dk_at dksX2_byteAt_0 16 rfl rfl)
theorem dX2_byteAt_19 : decode cX2_byteAt 19 = .ok (.iload_n 1, 1) := dk_27 (dk_at dksX2_byteAt_0 19 rfl rfl)
theorem dX2_byteAt_20 : decode cX2_byteAt 20 = .ok (.baload, 1) := dk_51 (dk_at dksX2_byteAt_0 20 rfl rfl)
theorem dX2_byteAt_21 : decode cX2_byteAt 21 = .ok (.sipush 255, 3) := dk_17 0 255 (dk_at dksX2_byteAt_0 21 rfl rfl)
theorem dX2_byteAt_24 : decode cX2_byteAt 24 = .ok (.iand, 1) := dk_126 (dk_at dksX2_byteAt_1 0 rfl rfl)
theorem dX2_byteAt_25 : decode cX2_byteAt 25 = .ok (.goto 4, 3) := dk_167 0 4 (dk_at dksX2_byteAt_1 1 rfl rfl)
theorem dX2_byteAt_28 : decode cX2_byteAt 28 = .ok (.iconst (-1), 1) := dk_2 (dk_at dksX2_byteAt_1 4 rfl rfl)
theorem dX2_byteAt_29 : decode cX2_byteAt 29 = .ok (.ireturn, 1) := dk_172 (dk_at dksX2_byteAt_1 5 rfl rfl)
abbrev cX2_wrong : ByteArray := prog_17_method_2_code
def yX2_wrong : MethodName := ⟨RX2, "wrong", "(II)LShrugHills$Fault;"⟩
def dkwX2_wrong_0 : List UInt8 := [42, 180, 0, 18, 27, 181, 0, 22, 42, 180, 0, 18, 28, 181, 0, 26, 42, 180, 0, 18, 176]
abbrev dktX2_wrong_0 : List UInt8 := dkwX2_wrong_0 ++ []
theorem dksX2_wrong_0 : cX2_wrong.data.toList.drop 0 = dktX2_wrong_0 := by decide +kernel
theorem dX2_wrong_0 : decode cX2_wrong 0 = .ok (.aload_n 0, 1) := dk_42 (dk_at dksX2_wrong_0 0 rfl rfl)
theorem dX2_wrong_1 : decode cX2_wrong 1 = .ok (.getfield 18, 3) := dk_180 0 18 (dk_at dksX2_wrong_0 1 rfl rfl)
theorem dX2_wrong_4 : decode cX2_wrong 4 = .ok (.iload_n 1, 1) := dk_27 (dk_at dksX2_wrong_0 4 rfl rfl)
theorem dX2_wrong_5 : decode cX2_wrong 5 = .ok (.putfield 22, 3) := dk_181 0 22 (dk_at dksX2_wrong_0 5 rfl rfl)
theorem dX2_wrong_8 : decode cX2_wrong 8 = .ok (.aload_n 0, 1) := dk_42 (dk_at dksX2_wrong_0 8 rfl rfl)
theorem dX2_wrong_9 : decode cX2_wrong 9 = .ok (.getfield 18, 3) := dk_180 0 18 (dk_at dksX2_wrong_0 9 rfl rfl)
theorem dX2_wrong_12 : decode cX2_wrong 12 = .ok (.iload_n 2, 1) := dk_28 (dk_at dksX2_wrong_0 12 rfl rfl)
theorem dX2_wrong_13 : decode cX2_wrong 13 = .ok (.putfield 26, 3) := dk_181 0 26 (dk_at dksX2_wrong_0 13 rfl rfl)
theorem dX2_wrong_16 : decode cX2_wrong 16 = .ok (.aload_n 0, 1) := dk_42 (dk_at dksX2_wrong_0 16 rfl rfl)
theorem dX2_wrong_17 : decode cX2_wrong 17 = .ok (.getfield 18, 3) := dk_180 0 18 (dk_at dksX2_wrong_0 17 rfl rfl)
theorem dX2_wrong_20 : decode cX2_wrong 20 = .ok (.areturn, 1) := dk_176 (dk_at dksX2_wrong_0 20 rfl rfl)
abbrev cX2_parted : ByteArray := prog_17_method_6_code
def yX2_parted : MethodName := ⟨RX2, "parted", "()V"⟩
def dkwX2_parted_1 : List UInt8 := [182, 0, 39, 184, 0, 55, 153, 0, 13, 42, 4, 42, 180, 0, 36, 182, 0, 47, 191, 177]
abbrev dktX2_parted_1 : List UInt8 := dkwX2_parted_1 ++ []
def dkwX2_parted_0 : List UInt8 := [42, 42, 180, 0, 36, 4, 100, 182, 0, 39, 184, 0, 51, 154, 0, 19, 42, 42, 180, 0, 36, 4, 100]
abbrev dktX2_parted_0 : List UInt8 := dkwX2_parted_0 ++ dktX2_parted_1
theorem dksX2_parted_0 : cX2_parted.data.toList.drop 0 = dktX2_parted_0 := by decide +kernel
theorem dksX2_parted_1 : cX2_parted.data.toList.drop 23 = dktX2_parted_1 := dk_seg dksX2_parted_0 23 rfl rfl
theorem dX2_parted_0 : decode cX2_parted 0 = .ok (.aload_n 0, 1) := dk_42 (dk_at dksX2_parted_0 0 rfl rfl)
theorem dX2_parted_1 : decode cX2_parted 1 = .ok (.aload_n 0, 1) := dk_42 (dk_at dksX2_parted_0 1 rfl rfl)
theorem dX2_parted_2 : decode cX2_parted 2 = .ok (.getfield 36, 3) := dk_180 0 36 (dk_at dksX2_parted_0 2 rfl rfl)
theorem dX2_parted_5 : decode cX2_parted 5 = .ok (.iconst 1, 1) := dk_4 (dk_at dksX2_parted_0 5 rfl rfl)
theorem dX2_parted_6 : decode cX2_parted 6 = .ok (.isub, 1) := dk_100 (dk_at dksX2_parted_0 6 rfl rfl)
theorem dX2_parted_7 : decode cX2_parted 7 = .ok (.invokevirtual 39, 3) := dk_182 0 39 (dk_at dksX2_parted_0 7 rfl rfl)
theorem dX2_parted_10 : decode cX2_parted 10 = .ok (.invokestatic 51, 3) := dk_184 0 51 (dk_at dksX2_parted_0 10 rfl rfl)
theorem dX2_parted_13 : decode cX2_parted 13 = .ok (.ifCond .ne 19, 3) := dk_154 0 19 (dk_at dksX2_parted_0 13 rfl rfl)
theorem dX2_parted_16 : decode cX2_parted 16 = .ok (.aload_n 0, 1) := dk_42 (dk_at dksX2_parted_0 16 rfl rfl)
theorem dX2_parted_17 : decode cX2_parted 17 = .ok (.aload_n 0, 1) := dk_42 (dk_at dksX2_parted_0 17 rfl rfl)
theorem dX2_parted_18 : decode cX2_parted 18 = .ok (.getfield 36, 3) := dk_180 0 36 (dk_at dksX2_parted_0 18 rfl rfl)
theorem dX2_parted_21 : decode cX2_parted 21 = .ok (.iconst 1, 1) := dk_4 (dk_at dksX2_parted_0 21 rfl rfl)
theorem dX2_parted_22 : decode cX2_parted 22 = .ok (.isub, 1) := dk_100 (dk_at dksX2_parted_0 22 rfl rfl)
theorem dX2_parted_23 : decode cX2_parted 23 = .ok (.invokevirtual 39, 3) := dk_182 0 39 (dk_at dksX2_parted_1 0 rfl rfl)
theorem dX2_parted_26 : decode cX2_parted 26 = .ok (.invokestatic 55, 3) := dk_184 0 55 (dk_at dksX2_parted_1 3 rfl rfl)
theorem dX2_parted_29 : decode cX2_parted 29 = .ok (.ifCond .eq 13, 3) := dk_153 0 13 (dk_at dksX2_parted_1 6 rfl rfl)
theorem dX2_parted_32 : decode cX2_parted 32 = .ok (.aload_n 0, 1) := dk_42 (dk_at dksX2_parted_1 9 rfl rfl)
theorem dX2_parted_33 : decode cX2_parted 33 = .ok (.iconst 1, 1) := dk_4 (dk_at dksX2_parted_1 10 rfl rfl)
theorem dX2_parted_34 : decode cX2_parted 34 = .ok (.aload_n 0, 1) := dk_42 (dk_at dksX2_parted_1 11 rfl rfl)
theorem dX2_parted_35 : decode cX2_parted 35 = .ok (.getfield 36, 3) := dk_180 0 36 (dk_at dksX2_parted_1 12 rfl rfl)
theorem dX2_parted_38 : decode cX2_parted 38 = .ok (.invokevirtual 47, 3) := dk_182 0 47 (dk_at dksX2_parted_1 15 rfl rfl)
theorem dX2_parted_41 : decode cX2_parted 41 = .ok (.athrow, 1) := dk_191 (dk_at dksX2_parted_1 18 rfl rfl)
theorem dX2_parted_42 : decode cX2_parted 42 = .ok (.return_, 1) := dk_177 (dk_at dksX2_parted_1 19 rfl rfl)
abbrev cX2_number : ByteArray := prog_17_method_11_code
def yX2_number : MethodName := ⟨RX2, "number", "(II)I"⟩
def dkwX2_number_5 : List UInt8 := [191, 29, 172]
abbrev dktX2_number_5 : List UInt8 := dkwX2_number_5 ++ []
def dkwX2_number_4 : List UInt8 := [181, 0, 36, 167, 255, 192, 29, 27, 28, 184, 0, 89, 154, 0, 13, 42, 5, 42, 180, 0, 61, 182, 0, 47]
abbrev dktX2_number_4 : List UInt8 := dkwX2_number_4 ++ dktX2_number_5
def dkwX2_number_3 : List UInt8 := [16, 10, 29, 104, 42, 42, 180, 0, 36, 182, 0, 39, 96, 16, 48, 100, 62, 42, 89, 180, 0, 36, 4, 96]
abbrev dktX2_number_3 : List UInt8 := dkwX2_number_3 ++ dktX2_number_4
def dkwX2_number_2 : List UInt8 := [42, 180, 0, 36, 42, 180, 0, 61, 100, 7, 160, 0, 13, 42, 4, 42, 180, 0, 36, 182, 0, 47, 191]
abbrev dktX2_number_2 : List UInt8 := dkwX2_number_2 ++ dktX2_number_3
def dkwX2_number_1 : List UInt8 := [42, 42, 180, 0, 36, 181, 0, 61, 3, 62, 42, 42, 180, 0, 36, 182, 0, 39, 184, 0, 55, 153, 0, 56]
abbrev dktX2_number_1 : List UInt8 := dkwX2_number_1 ++ dktX2_number_2
def dkwX2_number_0 : List UInt8 := [42, 182, 0, 43, 184, 0, 55, 154, 0, 13, 42, 4, 42, 180, 0, 36, 182, 0, 47, 191, 42, 182, 0, 58]
abbrev dktX2_number_0 : List UInt8 := dkwX2_number_0 ++ dktX2_number_1
theorem dksX2_number_0 : cX2_number.data.toList.drop 0 = dktX2_number_0 := by decide +kernel
theorem dksX2_number_1 : cX2_number.data.toList.drop 24 = dktX2_number_1 := dk_seg dksX2_number_0 24 rfl rfl
theorem dksX2_number_2 : cX2_number.data.toList.drop 48 = dktX2_number_2 := dk_seg dksX2_number_1 24 rfl rfl
theorem dksX2_number_3 : cX2_number.data.toList.drop 71 = dktX2_number_3 := dk_seg dksX2_number_2 23 rfl rfl
theorem dksX2_number_4 : cX2_number.data.toList.drop 95 = dktX2_number_4 := dk_seg dksX2_number_3 24 rfl rfl
theorem dksX2_number_5 : cX2_number.data.toList.drop 119 = dktX2_number_5 := dk_seg dksX2_number_4 24 rfl rfl
theorem dX2_number_0 : decode cX2_number 0 = .ok (.aload_n 0, 1) := dk_42 (dk_at dksX2_number_0 0 rfl rfl)
theorem dX2_number_1 : decode cX2_number 1 = .ok (.invokevirtual 43, 3) := dk_182 0 43 (dk_at dksX2_number_0 1 rfl rfl)
theorem dX2_number_4 : decode cX2_number 4 = .ok (.invokestatic 55, 3) := dk_184 0 55 (dk_at dksX2_number_0 4 rfl rfl)
theorem dX2_number_7 : decode cX2_number 7 = .ok (.ifCond .ne 13, 3) := dk_154 0 13 (dk_at dksX2_number_0 7 rfl rfl)
theorem dX2_number_10 : decode cX2_number 10 = .ok (.aload_n 0, 1) := dk_42 (dk_at dksX2_number_0 10 rfl rfl)
theorem dX2_number_11 : decode cX2_number 11 = .ok (.iconst 1, 1) := dk_4 (dk_at dksX2_number_0 11 rfl rfl)
theorem dX2_number_12 : decode cX2_number 12 = .ok (.aload_n 0, 1) := dk_42 (dk_at dksX2_number_0 12 rfl rfl)
theorem dX2_number_13 : decode cX2_number 13 = .ok (.getfield 36, 3) := dk_180 0 36 (dk_at dksX2_number_0 13 rfl rfl)
theorem dX2_number_16 : decode cX2_number 16 = .ok (.invokevirtual 47, 3) := dk_182 0 47 (dk_at dksX2_number_0 16 rfl rfl)
theorem dX2_number_19 : decode cX2_number 19 = .ok (.athrow, 1) := dk_191 (dk_at dksX2_number_0 19 rfl rfl)
theorem dX2_number_20 : decode cX2_number 20 = .ok (.aload_n 0, 1) := dk_42 (dk_at dksX2_number_0 20 rfl rfl)
theorem dX2_number_21 : decode cX2_number 21 = .ok (.invokevirtual 58, 3) := dk_182 0 58 (dk_at dksX2_number_0 21 rfl rfl)
theorem dX2_number_24 : decode cX2_number 24 = .ok (.aload_n 0, 1) := dk_42 (dk_at dksX2_number_1 0 rfl rfl)
theorem dX2_number_25 : decode cX2_number 25 = .ok (.aload_n 0, 1) := dk_42 (dk_at dksX2_number_1 1 rfl rfl)
theorem dX2_number_26 : decode cX2_number 26 = .ok (.getfield 36, 3) := dk_180 0 36 (dk_at dksX2_number_1 2 rfl rfl)
theorem dX2_number_29 : decode cX2_number 29 = .ok (.putfield 61, 3) := dk_181 0 61 (dk_at dksX2_number_1 5 rfl rfl)
theorem dX2_number_32 : decode cX2_number 32 = .ok (.iconst 0, 1) := dk_3 (dk_at dksX2_number_1 8 rfl rfl)
theorem dX2_number_33 : decode cX2_number 33 = .ok (.istore_n 3, 1) := dk_62 (dk_at dksX2_number_1 9 rfl rfl)
theorem dX2_number_34 : decode cX2_number 34 = .ok (.aload_n 0, 1) := dk_42 (dk_at dksX2_number_1 10 rfl rfl)
theorem dX2_number_35 : decode cX2_number 35 = .ok (.aload_n 0, 1) := dk_42 (dk_at dksX2_number_1 11 rfl rfl)
theorem dX2_number_36 : decode cX2_number 36 = .ok (.getfield 36, 3) := dk_180 0 36 (dk_at dksX2_number_1 12 rfl rfl)
theorem dX2_number_39 : decode cX2_number 39 = .ok (.invokevirtual 39, 3) := dk_182 0 39 (dk_at dksX2_number_1 15 rfl rfl)
theorem dX2_number_42 : decode cX2_number 42 = .ok (.invokestatic 55, 3) := dk_184 0 55 (dk_at dksX2_number_1 18 rfl rfl)
theorem dX2_number_45 : decode cX2_number 45 = .ok (.ifCond .eq 56, 3) := dk_153 0 56 (dk_at dksX2_number_1 21 rfl rfl)
theorem dX2_number_48 : decode cX2_number 48 = .ok (.aload_n 0, 1) := dk_42 (dk_at dksX2_number_2 0 rfl rfl)
theorem dX2_number_49 : decode cX2_number 49 = .ok (.getfield 36, 3) := dk_180 0 36 (dk_at dksX2_number_2 1 rfl rfl)
theorem dX2_number_52 : decode cX2_number 52 = .ok (.aload_n 0, 1) := dk_42 (dk_at dksX2_number_2 4 rfl rfl)
theorem dX2_number_53 : decode cX2_number 53 = .ok (.getfield 61, 3) := dk_180 0 61 (dk_at dksX2_number_2 5 rfl rfl)
theorem dX2_number_56 : decode cX2_number 56 = .ok (.isub, 1) := dk_100 (dk_at dksX2_number_2 8 rfl rfl)
theorem dX2_number_57 : decode cX2_number 57 = .ok (.iconst 4, 1) := dk_7 (dk_at dksX2_number_2 9 rfl rfl)
theorem dX2_number_58 : decode cX2_number 58 = .ok (.if_icmp .ne 13, 3) := dk_160 0 13 (dk_at dksX2_number_2 10 rfl rfl)
theorem dX2_number_61 : decode cX2_number 61 = .ok (.aload_n 0, 1) := dk_42 (dk_at dksX2_number_2 13 rfl rfl)
theorem dX2_number_62 : decode cX2_number 62 = .ok (.iconst 1, 1) := dk_4 (dk_at dksX2_number_2 14 rfl rfl)
theorem dX2_number_63 : decode cX2_number 63 = .ok (.aload_n 0, 1) := dk_42 (dk_at dksX2_number_2 15 rfl rfl)
theorem dX2_number_64 : decode cX2_number 64 = .ok (.getfield 36, 3) := dk_180 0 36 (dk_at dksX2_number_2 16 rfl rfl)
theorem dX2_number_67 : decode cX2_number 67 = .ok (.invokevirtual 47, 3) := dk_182 0 47 (dk_at dksX2_number_2 19 rfl rfl)
theorem dX2_number_70 : decode cX2_number 70 = .ok (.athrow, 1) := dk_191 (dk_at dksX2_number_2 22 rfl rfl)
theorem dX2_number_71 : decode cX2_number 71 = .ok (.bipush 10, 2) := dk_16 10 (dk_at dksX2_number_3 0 rfl rfl)
theorem dX2_number_73 : decode cX2_number 73 = .ok (.iload_n 3, 1) := dk_29 (dk_at dksX2_number_3 2 rfl rfl)
theorem dX2_number_74 : decode cX2_number 74 = .ok (.imul, 1) := dk_104 (dk_at dksX2_number_3 3 rfl rfl)
theorem dX2_number_75 : decode cX2_number 75 = .ok (.aload_n 0, 1) := dk_42 (dk_at dksX2_number_3 4 rfl rfl)
theorem dX2_number_76 : decode cX2_number 76 = .ok (.aload_n 0, 1) := dk_42 (dk_at dksX2_number_3 5 rfl rfl)
theorem dX2_number_77 : decode cX2_number 77 = .ok (.getfield 36, 3) := dk_180 0 36 (dk_at dksX2_number_3 6 rfl rfl)
theorem dX2_number_80 : decode cX2_number 80 = .ok (.invokevirtual 39, 3) := dk_182 0 39 (dk_at dksX2_number_3 9 rfl rfl)
theorem dX2_number_83 : decode cX2_number 83 = .ok (.iadd, 1) := dk_96 (dk_at dksX2_number_3 12 rfl rfl)
theorem dX2_number_84 : decode cX2_number 84 = .ok (.bipush 48, 2) := dk_16 48 (dk_at dksX2_number_3 13 rfl rfl)
theorem dX2_number_86 : decode cX2_number 86 = .ok (.isub, 1) := dk_100 (dk_at dksX2_number_3 15 rfl rfl)
theorem dX2_number_87 : decode cX2_number 87 = .ok (.istore_n 3, 1) := dk_62 (dk_at dksX2_number_3 16 rfl rfl)
theorem dX2_number_88 : decode cX2_number 88 = .ok (.aload_n 0, 1) := dk_42 (dk_at dksX2_number_3 17 rfl rfl)
theorem dX2_number_89 : decode cX2_number 89 = .ok (.dup, 1) := dk_89 (dk_at dksX2_number_3 18 rfl rfl)
theorem dX2_number_90 : decode cX2_number 90 = .ok (.getfield 36, 3) := dk_180 0 36 (dk_at dksX2_number_3 19 rfl rfl)
theorem dX2_number_93 : decode cX2_number 93 = .ok (.iconst 1, 1) := dk_4 (dk_at dksX2_number_3 22 rfl rfl)
theorem dX2_number_94 : decode cX2_number 94 = .ok (.iadd, 1) := dk_96 (dk_at dksX2_number_3 23 rfl rfl)
theorem dX2_number_95 : decode cX2_number 95 = .ok (.putfield 36, 3) := dk_181 0 36 (dk_at dksX2_number_4 0 rfl rfl)
theorem dX2_number_98 : decode cX2_number 98 = .ok (.goto (-64), 3) := dk_167 255 192 (dk_at dksX2_number_4 3 rfl rfl)
theorem dX2_number_101 : decode cX2_number 101 = .ok (.iload_n 3, 1) := dk_29 (dk_at dksX2_number_4 6 rfl rfl)
theorem dX2_number_102 : decode cX2_number 102 = .ok (.iload_n 1, 1) := dk_27 (dk_at dksX2_number_4 7 rfl rfl)
theorem dX2_number_103 : decode cX2_number 103 = .ok (.iload_n 2, 1) := dk_28 (dk_at dksX2_number_4 8 rfl rfl)
theorem dX2_number_104 : decode cX2_number 104 = .ok (.invokestatic 89, 3) := dk_184 0 89 (dk_at dksX2_number_4 9 rfl rfl)
theorem dX2_number_107 : decode cX2_number 107 = .ok (.ifCond .ne 13, 3) := dk_154 0 13 (dk_at dksX2_number_4 12 rfl rfl)
theorem dX2_number_110 : decode cX2_number 110 = .ok (.aload_n 0, 1) := dk_42 (dk_at dksX2_number_4 15 rfl rfl)
theorem dX2_number_111 : decode cX2_number 111 = .ok (.iconst 2, 1) := dk_5 (dk_at dksX2_number_4 16 rfl rfl)
theorem dX2_number_112 : decode cX2_number 112 = .ok (.aload_n 0, 1) := dk_42 (dk_at dksX2_number_4 17 rfl rfl)
theorem dX2_number_113 : decode cX2_number 113 = .ok (.getfield 61, 3) := dk_180 0 61 (dk_at dksX2_number_4 18 rfl rfl)
theorem dX2_number_116 : decode cX2_number 116 = .ok (.invokevirtual 47, 3) := dk_182 0 47 (dk_at dksX2_number_4 21 rfl rfl)
theorem dX2_number_119 : decode cX2_number 119 = .ok (.athrow, 1) := dk_191 (dk_at dksX2_number_5 0 rfl rfl)
theorem dX2_number_120 : decode cX2_number 120 = .ok (.iload_n 3, 1) := dk_29 (dk_at dksX2_number_5 1 rfl rfl)
theorem dX2_number_121 : decode cX2_number 121 = .ok (.ireturn, 1) := dk_172 (dk_at dksX2_number_5 2 rfl rfl)
abbrev cX2_number_2 : ByteArray := prog_17_method_12_code
def yX2_number_2 : MethodName := ⟨RX2, "number", "(Ljava/lang/String;II)I"⟩
def dkwX2_number_2_0 : List UInt8 := [42, 43, 182, 0, 93, 42, 28, 29, 182, 0, 96, 172]
abbrev dktX2_number_2_0 : List UInt8 := dkwX2_number_2_0 ++ []
theorem dksX2_number_2_0 : cX2_number_2.data.toList.drop 0 = dktX2_number_2_0 := by decide +kernel
theorem dX2_number_2_0 : decode cX2_number_2 0 = .ok (.aload_n 0, 1) := dk_42 (dk_at dksX2_number_2_0 0 rfl rfl)
theorem dX2_number_2_1 : decode cX2_number_2 1 = .ok (.aload_n 1, 1) := dk_43 (dk_at dksX2_number_2_0 1 rfl rfl)
theorem dX2_number_2_2 : decode cX2_number_2 2 = .ok (.invokevirtual 93, 3) := dk_182 0 93 (dk_at dksX2_number_2_0 2 rfl rfl)
theorem dX2_number_2_5 : decode cX2_number_2 5 = .ok (.aload_n 0, 1) := dk_42 (dk_at dksX2_number_2_0 5 rfl rfl)
theorem dX2_number_2_6 : decode cX2_number_2 6 = .ok (.iload_n 2, 1) := dk_28 (dk_at dksX2_number_2_0 6 rfl rfl)
theorem dX2_number_2_7 : decode cX2_number_2 7 = .ok (.iload_n 3, 1) := dk_29 (dk_at dksX2_number_2_0 7 rfl rfl)
theorem dX2_number_2_8 : decode cX2_number_2 8 = .ok (.invokevirtual 96, 3) := dk_182 0 96 (dk_at dksX2_number_2_0 8 rfl rfl)
theorem dX2_number_2_11 : decode cX2_number_2 11 = .ok (.ireturn, 1) := dk_172 (dk_at dksX2_number_2_0 11 rfl rfl)
abbrev cX2_must : ByteArray := prog_17_method_5_code
def yX2_must : MethodName := ⟨RX2, "must", "(I)V"⟩
def dkwX2_must_1 : List UInt8 := [96, 181, 0, 36, 177]
abbrev dktX2_must_1 : List UInt8 := dkwX2_must_1 ++ []
def dkwX2_must_0 : List UInt8 := [42, 182, 0, 43, 27, 159, 0, 13, 42, 4, 42, 180, 0, 36, 182, 0, 47, 191, 42, 89, 180, 0, 36, 4]
abbrev dktX2_must_0 : List UInt8 := dkwX2_must_0 ++ dktX2_must_1
theorem dksX2_must_0 : cX2_must.data.toList.drop 0 = dktX2_must_0 := by decide +kernel
theorem dksX2_must_1 : cX2_must.data.toList.drop 24 = dktX2_must_1 := dk_seg dksX2_must_0 24 rfl rfl
theorem dX2_must_0 : decode cX2_must 0 = .ok (.aload_n 0, 1) := dk_42 (dk_at dksX2_must_0 0 rfl rfl)
theorem dX2_must_1 : decode cX2_must 1 = .ok (.invokevirtual 43, 3) := dk_182 0 43 (dk_at dksX2_must_0 1 rfl rfl)
theorem dX2_must_4 : decode cX2_must 4 = .ok (.iload_n 1, 1) := dk_27 (dk_at dksX2_must_0 4 rfl rfl)
theorem dX2_must_5 : decode cX2_must 5 = .ok (.if_icmp .eq 13, 3) := dk_159 0 13 (dk_at dksX2_must_0 5 rfl rfl)
theorem dX2_must_8 : decode cX2_must 8 = .ok (.aload_n 0, 1) := dk_42 (dk_at dksX2_must_0 8 rfl rfl)
theorem dX2_must_9 : decode cX2_must 9 = .ok (.iconst 1, 1) := dk_4 (dk_at dksX2_must_0 9 rfl rfl)
theorem dX2_must_10 : decode cX2_must 10 = .ok (.aload_n 0, 1) := dk_42 (dk_at dksX2_must_0 10 rfl rfl)
theorem dX2_must_11 : decode cX2_must 11 = .ok (.getfield 36, 3) := dk_180 0 36 (dk_at dksX2_must_0 11 rfl rfl)
theorem dX2_must_14 : decode cX2_must 14 = .ok (.invokevirtual 47, 3) := dk_182 0 47 (dk_at dksX2_must_0 14 rfl rfl)
theorem dX2_must_17 : decode cX2_must 17 = .ok (.athrow, 1) := dk_191 (dk_at dksX2_must_0 17 rfl rfl)
theorem dX2_must_18 : decode cX2_must 18 = .ok (.aload_n 0, 1) := dk_42 (dk_at dksX2_must_0 18 rfl rfl)
theorem dX2_must_19 : decode cX2_must 19 = .ok (.dup, 1) := dk_89 (dk_at dksX2_must_0 19 rfl rfl)
theorem dX2_must_20 : decode cX2_must 20 = .ok (.getfield 36, 3) := dk_180 0 36 (dk_at dksX2_must_0 20 rfl rfl)
theorem dX2_must_23 : decode cX2_must 23 = .ok (.iconst 1, 1) := dk_4 (dk_at dksX2_must_0 23 rfl rfl)
theorem dX2_must_24 : decode cX2_must 24 = .ok (.iadd, 1) := dk_96 (dk_at dksX2_must_1 0 rfl rfl)
theorem dX2_must_25 : decode cX2_must 25 = .ok (.putfield 36, 3) := dk_181 0 36 (dk_at dksX2_must_1 1 rfl rfl)
theorem dX2_must_28 : decode cX2_must 28 = .ok (.return_, 1) := dk_177 (dk_at dksX2_must_1 4 rfl rfl)
abbrev cX2_most : ByteArray := prog_17_method_15_code
def yX2_most : MethodName := ⟨RX2, "most", "(ZI)V"⟩
def dkwX2_most_0 : List UInt8 := [27, 153, 0, 10, 42, 8, 28, 182, 0, 47, 191, 177]
abbrev dktX2_most_0 : List UInt8 := dkwX2_most_0 ++ []
theorem dksX2_most_0 : cX2_most.data.toList.drop 0 = dktX2_most_0 := by decide +kernel
theorem dX2_most_0 : decode cX2_most 0 = .ok (.iload_n 1, 1) := dk_27 (dk_at dksX2_most_0 0 rfl rfl)
theorem dX2_most_1 : decode cX2_most 1 = .ok (.ifCond .eq 10, 3) := dk_153 0 10 (dk_at dksX2_most_0 1 rfl rfl)
theorem dX2_most_4 : decode cX2_most 4 = .ok (.aload_n 0, 1) := dk_42 (dk_at dksX2_most_0 4 rfl rfl)
theorem dX2_most_5 : decode cX2_most 5 = .ok (.iconst 5, 1) := dk_8 (dk_at dksX2_most_0 5 rfl rfl)
theorem dX2_most_6 : decode cX2_most 6 = .ok (.iload_n 2, 1) := dk_28 (dk_at dksX2_most_0 6 rfl rfl)
theorem dX2_most_7 : decode cX2_most 7 = .ok (.invokevirtual 47, 3) := dk_182 0 47 (dk_at dksX2_most_0 7 rfl rfl)
theorem dX2_most_10 : decode cX2_most 10 = .ok (.athrow, 1) := dk_191 (dk_at dksX2_most_0 10 rfl rfl)
theorem dX2_most_11 : decode cX2_most 11 = .ok (.return_, 1) := dk_177 (dk_at dksX2_most_0 11 rfl rfl)
abbrev cX2_laid : ByteArray := prog_17_method_21_code
def yX2_laid : MethodName := ⟨RX2, "laid", "(Ljava/lang/String;I)Z"⟩
def dkwX2_laid_11 : List UInt8 := [182, 0, 232, 4, 172, 3, 172]
abbrev dktX2_laid_11 : List UInt8 := dkwX2_laid_11 ++ []
def dkwX2_laid_10 : List UInt8 := [185, 0, 179, 2, 0, 87, 4, 172, 42, 28, 182, 0, 228, 4, 172, 42, 182, 0, 230, 4, 172, 42, 28]
abbrev dktX2_laid_10 : List UInt8 := dkwX2_laid_10 ++ dktX2_laid_11
def dkwX2_laid_9 : List UInt8 := [182, 0, 142, 42, 180, 0, 103, 180, 0, 192, 187, 0, 114, 89, 42, 182, 0, 162, 183, 0, 226]
abbrev dktX2_laid_9 : List UInt8 := dkwX2_laid_9 ++ dktX2_laid_10
def dkwX2_laid_8 : List UInt8 := [172, 42, 42, 180, 0, 103, 180, 0, 192, 185, 0, 158, 1, 0, 8, 160, 0, 7, 4, 167, 0, 4, 3, 28]
abbrev dktX2_laid_8 : List UInt8 := dkwX2_laid_8 ++ dktX2_laid_9
def dkwX2_laid_7 : List UInt8 := [42, 182, 0, 166, 54, 5, 42, 180, 0, 103, 180, 0, 222, 21, 5, 42, 3, 16, 99, 182, 0, 96, 79, 4]
abbrev dktX2_laid_7 : List UInt8 := dkwX2_laid_7 ++ dktX2_laid_8
def dkwX2_laid_6 : List UInt8 := [170, 0, 0, 0, 0, 131, 0, 0, 0, 0, 0, 0, 0, 4, 0, 0, 0, 34, 0, 0, 0, 59, 0, 0, 0, 111, 0, 0, 0, 118, 0, 0, 0, 124]
abbrev dktX2_laid_6 : List UInt8 := dkwX2_laid_6 ++ dktX2_laid_7
def dkwX2_laid_5 : List UInt8 := [21, 4]
abbrev dktX2_laid_5 : List UInt8 := dkwX2_laid_5 ++ dktX2_laid_6
def dkwX2_laid_4 : List UInt8 := [182, 0, 74, 153, 0, 21, 6, 54, 4, 167, 0, 15, 45, 18, 220, 182, 0, 74, 153, 0, 6, 7, 54, 4]
abbrev dktX2_laid_4 : List UInt8 := dkwX2_laid_4 ++ dktX2_laid_5
def dkwX2_laid_3 : List UInt8 := [4, 54, 4, 167, 0, 45, 45, 18, 217, 182, 0, 74, 153, 0, 36, 5, 54, 4, 167, 0, 30, 45, 18, 219]
abbrev dktX2_laid_3 : List UInt8 := dkwX2_laid_3 ++ dktX2_laid_4
def dkwX2_laid_2 : List UInt8 := [45, 18, 213, 182, 0, 74, 153, 0, 66, 3, 54, 4, 167, 0, 60, 45, 18, 215, 182, 0, 74, 153, 0, 51]
abbrev dktX2_laid_2 : List UInt8 := dkwX2_laid_2 ++ dktX2_laid_3
def dkwX2_laid_1 : List UInt8 := [171, 0, 0, 0, 0, 0, 123, 0, 0, 0, 5, 196, 227, 155, 85, 0, 0, 0, 81, 0, 45, 213, 26, 0, 0, 0, 111, 0, 48, 221, 162, 0, 0, 0, 51, 6, 23, 131, 72, 0, 0, 0, 96, 6, 150, 205, 47, 0, 0, 0, 66]
abbrev dktX2_laid_1 : List UInt8 := dkwX2_laid_1 ++ dktX2_laid_2
def dkwX2_laid_0 : List UInt8 := [43, 78, 2, 54, 4, 45, 182, 0, 210]
abbrev dktX2_laid_0 : List UInt8 := dkwX2_laid_0 ++ dktX2_laid_1
theorem dksX2_laid_0 : cX2_laid.data.toList.drop 0 = dktX2_laid_0 := by decide +kernel
theorem dksX2_laid_1 : cX2_laid.data.toList.drop 9 = dktX2_laid_1 := dk_seg dksX2_laid_0 9 rfl rfl
theorem dksX2_laid_2 : cX2_laid.data.toList.drop 60 = dktX2_laid_2 := dk_seg dksX2_laid_1 51 rfl rfl
theorem dksX2_laid_3 : cX2_laid.data.toList.drop 84 = dktX2_laid_3 := dk_seg dksX2_laid_2 24 rfl rfl
theorem dksX2_laid_4 : cX2_laid.data.toList.drop 108 = dktX2_laid_4 := dk_seg dksX2_laid_3 24 rfl rfl
theorem dksX2_laid_5 : cX2_laid.data.toList.drop 132 = dktX2_laid_5 := dk_seg dksX2_laid_4 24 rfl rfl
theorem dksX2_laid_6 : cX2_laid.data.toList.drop 134 = dktX2_laid_6 := dk_seg dksX2_laid_5 2 rfl rfl
theorem dksX2_laid_7 : cX2_laid.data.toList.drop 168 = dktX2_laid_7 := dk_seg dksX2_laid_6 34 rfl rfl
theorem dksX2_laid_8 : cX2_laid.data.toList.drop 192 = dktX2_laid_8 := dk_seg dksX2_laid_7 24 rfl rfl
theorem dksX2_laid_9 : cX2_laid.data.toList.drop 216 = dktX2_laid_9 := dk_seg dksX2_laid_8 24 rfl rfl
theorem dksX2_laid_10 : cX2_laid.data.toList.drop 237 = dktX2_laid_10 := dk_seg dksX2_laid_9 21 rfl rfl
theorem dksX2_laid_11 : cX2_laid.data.toList.drop 260 = dktX2_laid_11 := dk_seg dksX2_laid_10 23 rfl rfl
theorem dX2_laid_0 : decode cX2_laid 0 = .ok (.aload_n 1, 1) := dk_43 (dk_at dksX2_laid_0 0 rfl rfl)
theorem dX2_laid_1 : decode cX2_laid 1 = .ok (.astore_n 3, 1) := dk_78 (dk_at dksX2_laid_0 1 rfl rfl)
theorem dX2_laid_2 : decode cX2_laid 2 = .ok (.iconst (-1), 1) := dk_2 (dk_at dksX2_laid_0 2 rfl rfl)
theorem dX2_laid_3 : decode cX2_laid 3 = .ok (.istore 4, 2) := dk_54 4 (dk_at dksX2_laid_0 3 rfl rfl)
theorem dX2_laid_5 : decode cX2_laid 5 = .ok (.aload_n 3, 1) := dk_45 (dk_at dksX2_laid_0 5 rfl rfl)
theorem dX2_laid_6 : decode cX2_laid 6 = .ok (.invokevirtual 210, 3) := dk_182 0 210 (dk_at dksX2_laid_0 6 rfl rfl)
theorem dX2_laid_9 : decode cX2_laid 9 = .ok (.lookupswitch 123 #[(-991716523, 81), (3003674, 111), (3202466, 51), (102204232, 96), (110546223, 66)], 51) := by decide +kernel
theorem dX2_laid_60 : decode cX2_laid 60 = .ok (.aload_n 3, 1) := dk_45 (dk_at dksX2_laid_2 0 rfl rfl)
theorem dX2_laid_61 : decode cX2_laid 61 = .ok (.ldc 213, 2) := dk_18 213 (dk_at dksX2_laid_2 1 rfl rfl)
theorem dX2_laid_63 : decode cX2_laid 63 = .ok (.invokevirtual 74, 3) := dk_182 0 74 (dk_at dksX2_laid_2 3 rfl rfl)
theorem dX2_laid_66 : decode cX2_laid 66 = .ok (.ifCond .eq 66, 3) := dk_153 0 66 (dk_at dksX2_laid_2 6 rfl rfl)
theorem dX2_laid_69 : decode cX2_laid 69 = .ok (.iconst 0, 1) := dk_3 (dk_at dksX2_laid_2 9 rfl rfl)
theorem dX2_laid_70 : decode cX2_laid 70 = .ok (.istore 4, 2) := dk_54 4 (dk_at dksX2_laid_2 10 rfl rfl)
theorem dX2_laid_72 : decode cX2_laid 72 = .ok (.goto 60, 3) := dk_167 0 60 (dk_at dksX2_laid_2 12 rfl rfl)
theorem dX2_laid_75 : decode cX2_laid 75 = .ok (.aload_n 3, 1) := dk_45 (dk_at dksX2_laid_2 15 rfl rfl)
theorem dX2_laid_76 : decode cX2_laid 76 = .ok (.ldc 215, 2) := dk_18 215 (dk_at dksX2_laid_2 16 rfl rfl)
theorem dX2_laid_78 : decode cX2_laid 78 = .ok (.invokevirtual 74, 3) := dk_182 0 74 (dk_at dksX2_laid_2 18 rfl rfl)
theorem dX2_laid_81 : decode cX2_laid 81 = .ok (.ifCond .eq 51, 3) := dk_153 0 51 (dk_at dksX2_laid_2 21 rfl rfl)
theorem dX2_laid_84 : decode cX2_laid 84 = .ok (.iconst 1, 1) := dk_4 (dk_at dksX2_laid_3 0 rfl rfl)
theorem dX2_laid_85 : decode cX2_laid 85 = .ok (.istore 4, 2) := dk_54 4 (dk_at dksX2_laid_3 1 rfl rfl)
theorem dX2_laid_87 : decode cX2_laid 87 = .ok (.goto 45, 3) := dk_167 0 45 (dk_at dksX2_laid_3 3 rfl rfl)
theorem dX2_laid_90 : decode cX2_laid 90 = .ok (.aload_n 3, 1) := dk_45 (dk_at dksX2_laid_3 6 rfl rfl)
theorem dX2_laid_91 : decode cX2_laid 91 = .ok (.ldc 217, 2) := dk_18 217 (dk_at dksX2_laid_3 7 rfl rfl)
theorem dX2_laid_93 : decode cX2_laid 93 = .ok (.invokevirtual 74, 3) := dk_182 0 74 (dk_at dksX2_laid_3 9 rfl rfl)
theorem dX2_laid_96 : decode cX2_laid 96 = .ok (.ifCond .eq 36, 3) := dk_153 0 36 (dk_at dksX2_laid_3 12 rfl rfl)
theorem dX2_laid_99 : decode cX2_laid 99 = .ok (.iconst 2, 1) := dk_5 (dk_at dksX2_laid_3 15 rfl rfl)
theorem dX2_laid_100 : decode cX2_laid 100 = .ok (.istore 4, 2) := dk_54 4 (dk_at dksX2_laid_3 16 rfl rfl)
theorem dX2_laid_102 : decode cX2_laid 102 = .ok (.goto 30, 3) := dk_167 0 30 (dk_at dksX2_laid_3 18 rfl rfl)
theorem dX2_laid_105 : decode cX2_laid 105 = .ok (.aload_n 3, 1) := dk_45 (dk_at dksX2_laid_3 21 rfl rfl)
theorem dX2_laid_106 : decode cX2_laid 106 = .ok (.ldc 219, 2) := dk_18 219 (dk_at dksX2_laid_3 22 rfl rfl)
theorem dX2_laid_108 : decode cX2_laid 108 = .ok (.invokevirtual 74, 3) := dk_182 0 74 (dk_at dksX2_laid_4 0 rfl rfl)
theorem dX2_laid_111 : decode cX2_laid 111 = .ok (.ifCond .eq 21, 3) := dk_153 0 21 (dk_at dksX2_laid_4 3 rfl rfl)
theorem dX2_laid_114 : decode cX2_laid 114 = .ok (.iconst 3, 1) := dk_6 (dk_at dksX2_laid_4 6 rfl rfl)
theorem dX2_laid_115 : decode cX2_laid 115 = .ok (.istore 4, 2) := dk_54 4 (dk_at dksX2_laid_4 7 rfl rfl)
theorem dX2_laid_117 : decode cX2_laid 117 = .ok (.goto 15, 3) := dk_167 0 15 (dk_at dksX2_laid_4 9 rfl rfl)
theorem dX2_laid_120 : decode cX2_laid 120 = .ok (.aload_n 3, 1) := dk_45 (dk_at dksX2_laid_4 12 rfl rfl)
theorem dX2_laid_121 : decode cX2_laid 121 = .ok (.ldc 220, 2) := dk_18 220 (dk_at dksX2_laid_4 13 rfl rfl)
theorem dX2_laid_123 : decode cX2_laid 123 = .ok (.invokevirtual 74, 3) := dk_182 0 74 (dk_at dksX2_laid_4 15 rfl rfl)
theorem dX2_laid_126 : decode cX2_laid 126 = .ok (.ifCond .eq 6, 3) := dk_153 0 6 (dk_at dksX2_laid_4 18 rfl rfl)
theorem dX2_laid_129 : decode cX2_laid 129 = .ok (.iconst 4, 1) := dk_7 (dk_at dksX2_laid_4 21 rfl rfl)
theorem dX2_laid_130 : decode cX2_laid 130 = .ok (.istore 4, 2) := dk_54 4 (dk_at dksX2_laid_4 22 rfl rfl)
theorem dX2_laid_132 : decode cX2_laid 132 = .ok (.iload 4, 2) := dk_21 4 (dk_at dksX2_laid_5 0 rfl rfl)
theorem dX2_laid_134 : decode cX2_laid 134 = .ok (.tableswitch 131 0 4 #[34, 59, 111, 118, 124], 34) := by decide +kernel
theorem dX2_laid_168 : decode cX2_laid 168 = .ok (.aload_n 0, 1) := dk_42 (dk_at dksX2_laid_7 0 rfl rfl)
theorem dX2_laid_169 : decode cX2_laid 169 = .ok (.invokevirtual 166, 3) := dk_182 0 166 (dk_at dksX2_laid_7 1 rfl rfl)
theorem dX2_laid_172 : decode cX2_laid 172 = .ok (.istore 5, 2) := dk_54 5 (dk_at dksX2_laid_7 4 rfl rfl)
theorem dX2_laid_174 : decode cX2_laid 174 = .ok (.aload_n 0, 1) := dk_42 (dk_at dksX2_laid_7 6 rfl rfl)
theorem dX2_laid_175 : decode cX2_laid 175 = .ok (.getfield 103, 3) := dk_180 0 103 (dk_at dksX2_laid_7 7 rfl rfl)
theorem dX2_laid_178 : decode cX2_laid 178 = .ok (.getfield 222, 3) := dk_180 0 222 (dk_at dksX2_laid_7 10 rfl rfl)
theorem dX2_laid_181 : decode cX2_laid 181 = .ok (.iload 5, 2) := dk_21 5 (dk_at dksX2_laid_7 13 rfl rfl)
theorem dX2_laid_183 : decode cX2_laid 183 = .ok (.aload_n 0, 1) := dk_42 (dk_at dksX2_laid_7 15 rfl rfl)
theorem dX2_laid_184 : decode cX2_laid 184 = .ok (.iconst 0, 1) := dk_3 (dk_at dksX2_laid_7 16 rfl rfl)
theorem dX2_laid_185 : decode cX2_laid 185 = .ok (.bipush 99, 2) := dk_16 99 (dk_at dksX2_laid_7 17 rfl rfl)
theorem dX2_laid_187 : decode cX2_laid 187 = .ok (.invokevirtual 96, 3) := dk_182 0 96 (dk_at dksX2_laid_7 19 rfl rfl)
theorem dX2_laid_190 : decode cX2_laid 190 = .ok (.iastore, 1) := dk_79 (dk_at dksX2_laid_7 22 rfl rfl)
theorem dX2_laid_191 : decode cX2_laid 191 = .ok (.iconst 1, 1) := dk_4 (dk_at dksX2_laid_7 23 rfl rfl)
theorem dX2_laid_192 : decode cX2_laid 192 = .ok (.ireturn, 1) := dk_172 (dk_at dksX2_laid_8 0 rfl rfl)
theorem dX2_laid_193 : decode cX2_laid 193 = .ok (.aload_n 0, 1) := dk_42 (dk_at dksX2_laid_8 1 rfl rfl)
theorem dX2_laid_194 : decode cX2_laid 194 = .ok (.aload_n 0, 1) := dk_42 (dk_at dksX2_laid_8 2 rfl rfl)
theorem dX2_laid_195 : decode cX2_laid 195 = .ok (.getfield 103, 3) := dk_180 0 103 (dk_at dksX2_laid_8 3 rfl rfl)
theorem dX2_laid_198 : decode cX2_laid 198 = .ok (.getfield 192, 3) := dk_180 0 192 (dk_at dksX2_laid_8 6 rfl rfl)
theorem dX2_laid_201 : decode cX2_laid 201 = .ok (.invokeinterface 158 1, 5) := by decide +kernel
theorem dX2_laid_206 : decode cX2_laid 206 = .ok (.iconst 5, 1) := dk_8 (dk_at dksX2_laid_8 14 rfl rfl)
theorem dX2_laid_207 : decode cX2_laid 207 = .ok (.if_icmp .ne 7, 3) := dk_160 0 7 (dk_at dksX2_laid_8 15 rfl rfl)
theorem dX2_laid_210 : decode cX2_laid 210 = .ok (.iconst 1, 1) := dk_4 (dk_at dksX2_laid_8 18 rfl rfl)
theorem dX2_laid_211 : decode cX2_laid 211 = .ok (.goto 4, 3) := dk_167 0 4 (dk_at dksX2_laid_8 19 rfl rfl)
theorem dX2_laid_214 : decode cX2_laid 214 = .ok (.iconst 0, 1) := dk_3 (dk_at dksX2_laid_8 22 rfl rfl)
theorem dX2_laid_215 : decode cX2_laid 215 = .ok (.iload_n 2, 1) := dk_28 (dk_at dksX2_laid_8 23 rfl rfl)
theorem dX2_laid_216 : decode cX2_laid 216 = .ok (.invokevirtual 142, 3) := dk_182 0 142 (dk_at dksX2_laid_9 0 rfl rfl)
theorem dX2_laid_219 : decode cX2_laid 219 = .ok (.aload_n 0, 1) := dk_42 (dk_at dksX2_laid_9 3 rfl rfl)
theorem dX2_laid_220 : decode cX2_laid 220 = .ok (.getfield 103, 3) := dk_180 0 103 (dk_at dksX2_laid_9 4 rfl rfl)
theorem dX2_laid_223 : decode cX2_laid 223 = .ok (.getfield 192, 3) := dk_180 0 192 (dk_at dksX2_laid_9 7 rfl rfl)
theorem dX2_laid_226 : decode cX2_laid 226 = .ok (.new 114, 3) := dk_187 0 114 (dk_at dksX2_laid_9 10 rfl rfl)
theorem dX2_laid_229 : decode cX2_laid 229 = .ok (.dup, 1) := dk_89 (dk_at dksX2_laid_9 13 rfl rfl)
theorem dX2_laid_230 : decode cX2_laid 230 = .ok (.aload_n 0, 1) := dk_42 (dk_at dksX2_laid_9 14 rfl rfl)
theorem dX2_laid_231 : decode cX2_laid 231 = .ok (.invokevirtual 162, 3) := dk_182 0 162 (dk_at dksX2_laid_9 15 rfl rfl)
theorem dX2_laid_234 : decode cX2_laid 234 = .ok (.invokespecial 226, 3) := dk_183 0 226 (dk_at dksX2_laid_9 18 rfl rfl)
theorem dX2_laid_237 : decode cX2_laid 237 = .ok (.invokeinterface 179 2, 5) := by decide +kernel
theorem dX2_laid_242 : decode cX2_laid 242 = .ok (.pop, 1) := dk_87 (dk_at dksX2_laid_10 5 rfl rfl)
theorem dX2_laid_243 : decode cX2_laid 243 = .ok (.iconst 1, 1) := dk_4 (dk_at dksX2_laid_10 6 rfl rfl)
theorem dX2_laid_244 : decode cX2_laid 244 = .ok (.ireturn, 1) := dk_172 (dk_at dksX2_laid_10 7 rfl rfl)
theorem dX2_laid_245 : decode cX2_laid 245 = .ok (.aload_n 0, 1) := dk_42 (dk_at dksX2_laid_10 8 rfl rfl)
theorem dX2_laid_246 : decode cX2_laid 246 = .ok (.iload_n 2, 1) := dk_28 (dk_at dksX2_laid_10 9 rfl rfl)
theorem dX2_laid_247 : decode cX2_laid 247 = .ok (.invokevirtual 228, 3) := dk_182 0 228 (dk_at dksX2_laid_10 10 rfl rfl)
theorem dX2_laid_250 : decode cX2_laid 250 = .ok (.iconst 1, 1) := dk_4 (dk_at dksX2_laid_10 13 rfl rfl)
theorem dX2_laid_251 : decode cX2_laid 251 = .ok (.ireturn, 1) := dk_172 (dk_at dksX2_laid_10 14 rfl rfl)
theorem dX2_laid_252 : decode cX2_laid 252 = .ok (.aload_n 0, 1) := dk_42 (dk_at dksX2_laid_10 15 rfl rfl)
theorem dX2_laid_253 : decode cX2_laid 253 = .ok (.invokevirtual 230, 3) := dk_182 0 230 (dk_at dksX2_laid_10 16 rfl rfl)
theorem dX2_laid_256 : decode cX2_laid 256 = .ok (.iconst 1, 1) := dk_4 (dk_at dksX2_laid_10 19 rfl rfl)
theorem dX2_laid_257 : decode cX2_laid 257 = .ok (.ireturn, 1) := dk_172 (dk_at dksX2_laid_10 20 rfl rfl)
theorem dX2_laid_258 : decode cX2_laid 258 = .ok (.aload_n 0, 1) := dk_42 (dk_at dksX2_laid_10 21 rfl rfl)
theorem dX2_laid_259 : decode cX2_laid 259 = .ok (.iload_n 2, 1) := dk_28 (dk_at dksX2_laid_10 22 rfl rfl)
theorem dX2_laid_260 : decode cX2_laid 260 = .ok (.invokevirtual 232, 3) := dk_182 0 232 (dk_at dksX2_laid_11 0 rfl rfl)
theorem dX2_laid_263 : decode cX2_laid 263 = .ok (.iconst 1, 1) := dk_4 (dk_at dksX2_laid_11 3 rfl rfl)
theorem dX2_laid_264 : decode cX2_laid 264 = .ok (.ireturn, 1) := dk_172 (dk_at dksX2_laid_11 4 rfl rfl)
theorem dX2_laid_265 : decode cX2_laid 265 = .ok (.iconst 0, 1) := dk_3 (dk_at dksX2_laid_11 5 rfl rfl)
theorem dX2_laid_266 : decode cX2_laid 266 = .ok (.ireturn, 1) := dk_172 (dk_at dksX2_laid_11 6 rfl rfl)
abbrev cX2_cell : ByteArray := prog_17_method_16_code
def yX2_cell : MethodName := ⟨RX2, "cell", "()I"⟩
def dkwX2_cell_1 : List UInt8 := [180, 0, 121, 4, 100, 182, 0, 96, 104, 27, 96, 172]
abbrev dktX2_cell_1 : List UInt8 := dkwX2_cell_1 ++ []
def dkwX2_cell_0 : List UInt8 := [42, 3, 42, 180, 0, 103, 180, 0, 118, 4, 100, 182, 0, 96, 60, 16, 8, 42, 3, 42, 180, 0, 103]
abbrev dktX2_cell_0 : List UInt8 := dkwX2_cell_0 ++ dktX2_cell_1
theorem dksX2_cell_0 : cX2_cell.data.toList.drop 0 = dktX2_cell_0 := by decide +kernel
theorem dksX2_cell_1 : cX2_cell.data.toList.drop 23 = dktX2_cell_1 := dk_seg dksX2_cell_0 23 rfl rfl
theorem dX2_cell_0 : decode cX2_cell 0 = .ok (.aload_n 0, 1) := dk_42 (dk_at dksX2_cell_0 0 rfl rfl)
theorem dX2_cell_1 : decode cX2_cell 1 = .ok (.iconst 0, 1) := dk_3 (dk_at dksX2_cell_0 1 rfl rfl)
theorem dX2_cell_2 : decode cX2_cell 2 = .ok (.aload_n 0, 1) := dk_42 (dk_at dksX2_cell_0 2 rfl rfl)
theorem dX2_cell_3 : decode cX2_cell 3 = .ok (.getfield 103, 3) := dk_180 0 103 (dk_at dksX2_cell_0 3 rfl rfl)
theorem dX2_cell_6 : decode cX2_cell 6 = .ok (.getfield 118, 3) := dk_180 0 118 (dk_at dksX2_cell_0 6 rfl rfl)
theorem dX2_cell_9 : decode cX2_cell 9 = .ok (.iconst 1, 1) := dk_4 (dk_at dksX2_cell_0 9 rfl rfl)
theorem dX2_cell_10 : decode cX2_cell 10 = .ok (.isub, 1) := dk_100 (dk_at dksX2_cell_0 10 rfl rfl)
theorem dX2_cell_11 : decode cX2_cell 11 = .ok (.invokevirtual 96, 3) := dk_182 0 96 (dk_at dksX2_cell_0 11 rfl rfl)
theorem dX2_cell_14 : decode cX2_cell 14 = .ok (.istore_n 1, 1) := dk_60 (dk_at dksX2_cell_0 14 rfl rfl)
theorem dX2_cell_15 : decode cX2_cell 15 = .ok (.bipush 8, 2) := dk_16 8 (dk_at dksX2_cell_0 15 rfl rfl)
theorem dX2_cell_17 : decode cX2_cell 17 = .ok (.aload_n 0, 1) := dk_42 (dk_at dksX2_cell_0 17 rfl rfl)
theorem dX2_cell_18 : decode cX2_cell 18 = .ok (.iconst 0, 1) := dk_3 (dk_at dksX2_cell_0 18 rfl rfl)
theorem dX2_cell_19 : decode cX2_cell 19 = .ok (.aload_n 0, 1) := dk_42 (dk_at dksX2_cell_0 19 rfl rfl)
theorem dX2_cell_20 : decode cX2_cell 20 = .ok (.getfield 103, 3) := dk_180 0 103 (dk_at dksX2_cell_0 20 rfl rfl)
theorem dX2_cell_23 : decode cX2_cell 23 = .ok (.getfield 121, 3) := dk_180 0 121 (dk_at dksX2_cell_1 0 rfl rfl)
theorem dX2_cell_26 : decode cX2_cell 26 = .ok (.iconst 1, 1) := dk_4 (dk_at dksX2_cell_1 3 rfl rfl)
theorem dX2_cell_27 : decode cX2_cell 27 = .ok (.isub, 1) := dk_100 (dk_at dksX2_cell_1 4 rfl rfl)
theorem dX2_cell_28 : decode cX2_cell 28 = .ok (.invokevirtual 96, 3) := dk_182 0 96 (dk_at dksX2_cell_1 5 rfl rfl)
theorem dX2_cell_31 : decode cX2_cell 31 = .ok (.imul, 1) := dk_104 (dk_at dksX2_cell_1 8 rfl rfl)
theorem dX2_cell_32 : decode cX2_cell 32 = .ok (.iload_n 1, 1) := dk_27 (dk_at dksX2_cell_1 9 rfl rfl)
theorem dX2_cell_33 : decode cX2_cell 33 = .ok (.iadd, 1) := dk_96 (dk_at dksX2_cell_1 10 rfl rfl)
theorem dX2_cell_34 : decode cX2_cell 34 = .ok (.ireturn, 1) := dk_172 (dk_at dksX2_cell_1 11 rfl rfl)
abbrev cX2_fresh : ByteArray := prog_17_method_13_code
def yX2_fresh : MethodName := ⟨RX2, "fresh", "()Ljava/lang/String;"⟩
def dkwX2_fresh_1 : List UInt8 := [182, 0, 47, 191, 43, 176]
abbrev dktX2_fresh_1 : List UInt8 := dkwX2_fresh_1 ++ []
def dkwX2_fresh_0 : List UInt8 := [42, 182, 0, 100, 76, 42, 180, 0, 103, 43, 182, 0, 107, 153, 0, 13, 42, 6, 42, 180, 0, 61]
abbrev dktX2_fresh_0 : List UInt8 := dkwX2_fresh_0 ++ dktX2_fresh_1
theorem dksX2_fresh_0 : cX2_fresh.data.toList.drop 0 = dktX2_fresh_0 := by decide +kernel
theorem dksX2_fresh_1 : cX2_fresh.data.toList.drop 22 = dktX2_fresh_1 := dk_seg dksX2_fresh_0 22 rfl rfl
theorem dX2_fresh_0 : decode cX2_fresh 0 = .ok (.aload_n 0, 1) := dk_42 (dk_at dksX2_fresh_0 0 rfl rfl)
theorem dX2_fresh_1 : decode cX2_fresh 1 = .ok (.invokevirtual 100, 3) := dk_182 0 100 (dk_at dksX2_fresh_0 1 rfl rfl)
theorem dX2_fresh_4 : decode cX2_fresh 4 = .ok (.astore_n 1, 1) := dk_76 (dk_at dksX2_fresh_0 4 rfl rfl)
theorem dX2_fresh_5 : decode cX2_fresh 5 = .ok (.aload_n 0, 1) := dk_42 (dk_at dksX2_fresh_0 5 rfl rfl)
theorem dX2_fresh_6 : decode cX2_fresh 6 = .ok (.getfield 103, 3) := dk_180 0 103 (dk_at dksX2_fresh_0 6 rfl rfl)
theorem dX2_fresh_9 : decode cX2_fresh 9 = .ok (.aload_n 1, 1) := dk_43 (dk_at dksX2_fresh_0 9 rfl rfl)
theorem dX2_fresh_10 : decode cX2_fresh 10 = .ok (.invokevirtual 107, 3) := dk_182 0 107 (dk_at dksX2_fresh_0 10 rfl rfl)
theorem dX2_fresh_13 : decode cX2_fresh 13 = .ok (.ifCond .eq 13, 3) := dk_153 0 13 (dk_at dksX2_fresh_0 13 rfl rfl)
theorem dX2_fresh_16 : decode cX2_fresh 16 = .ok (.aload_n 0, 1) := dk_42 (dk_at dksX2_fresh_0 16 rfl rfl)
theorem dX2_fresh_17 : decode cX2_fresh 17 = .ok (.iconst 3, 1) := dk_6 (dk_at dksX2_fresh_0 17 rfl rfl)
theorem dX2_fresh_18 : decode cX2_fresh 18 = .ok (.aload_n 0, 1) := dk_42 (dk_at dksX2_fresh_0 18 rfl rfl)
theorem dX2_fresh_19 : decode cX2_fresh 19 = .ok (.getfield 61, 3) := dk_180 0 61 (dk_at dksX2_fresh_0 19 rfl rfl)
theorem dX2_fresh_22 : decode cX2_fresh 22 = .ok (.invokevirtual 47, 3) := dk_182 0 47 (dk_at dksX2_fresh_1 0 rfl rfl)
theorem dX2_fresh_25 : decode cX2_fresh 25 = .ok (.athrow, 1) := dk_191 (dk_at dksX2_fresh_1 3 rfl rfl)
theorem dX2_fresh_26 : decode cX2_fresh 26 = .ok (.aload_n 1, 1) := dk_43 (dk_at dksX2_fresh_1 4 rfl rfl)
theorem dX2_fresh_27 : decode cX2_fresh 27 = .ok (.areturn, 1) := dk_176 (dk_at dksX2_fresh_1 5 rfl rfl)
abbrev cX2_name : ByteArray := prog_17_method_10_code
def yX2_name : MethodName := ⟨RX2, "name", "()Ljava/lang/String;"⟩
def dkwX2_name_2 : List UInt8 := [182, 0, 47, 191, 43, 176]
abbrev dktX2_name_2 : List UInt8 := dkwX2_name_2 ++ []
def dkwX2_name_1 : List UInt8 := [182, 0, 47, 191, 43, 182, 0, 86, 16, 6, 164, 0, 16, 42, 4, 42, 180, 0, 61, 16, 6, 96]
abbrev dktX2_name_1 : List UInt8 := dkwX2_name_1 ++ dktX2_name_2
def dkwX2_name_0 : List UInt8 := [42, 182, 0, 70, 76, 43, 178, 0, 78, 184, 0, 82, 2, 159, 0, 13, 42, 4, 42, 180, 0, 61]
abbrev dktX2_name_0 : List UInt8 := dkwX2_name_0 ++ dktX2_name_1
theorem dksX2_name_0 : cX2_name.data.toList.drop 0 = dktX2_name_0 := by decide +kernel
theorem dksX2_name_1 : cX2_name.data.toList.drop 22 = dktX2_name_1 := dk_seg dksX2_name_0 22 rfl rfl
theorem dksX2_name_2 : cX2_name.data.toList.drop 44 = dktX2_name_2 := dk_seg dksX2_name_1 22 rfl rfl
theorem dX2_name_0 : decode cX2_name 0 = .ok (.aload_n 0, 1) := dk_42 (dk_at dksX2_name_0 0 rfl rfl)
theorem dX2_name_1 : decode cX2_name 1 = .ok (.invokevirtual 70, 3) := dk_182 0 70 (dk_at dksX2_name_0 1 rfl rfl)
theorem dX2_name_4 : decode cX2_name 4 = .ok (.astore_n 1, 1) := dk_76 (dk_at dksX2_name_0 4 rfl rfl)
theorem dX2_name_5 : decode cX2_name 5 = .ok (.aload_n 1, 1) := dk_43 (dk_at dksX2_name_0 5 rfl rfl)
theorem dX2_name_6 : decode cX2_name 6 = .ok (.getstatic 78, 3) := dk_178 0 78 (dk_at dksX2_name_0 6 rfl rfl)
theorem dX2_name_9 : decode cX2_name 9 = .ok (.invokestatic 82, 3) := dk_184 0 82 (dk_at dksX2_name_0 9 rfl rfl)
theorem dX2_name_12 : decode cX2_name 12 = .ok (.iconst (-1), 1) := dk_2 (dk_at dksX2_name_0 12 rfl rfl)
theorem dX2_name_13 : decode cX2_name 13 = .ok (.if_icmp .eq 13, 3) := dk_159 0 13 (dk_at dksX2_name_0 13 rfl rfl)
theorem dX2_name_16 : decode cX2_name 16 = .ok (.aload_n 0, 1) := dk_42 (dk_at dksX2_name_0 16 rfl rfl)
theorem dX2_name_17 : decode cX2_name 17 = .ok (.iconst 1, 1) := dk_4 (dk_at dksX2_name_0 17 rfl rfl)
theorem dX2_name_18 : decode cX2_name 18 = .ok (.aload_n 0, 1) := dk_42 (dk_at dksX2_name_0 18 rfl rfl)
theorem dX2_name_19 : decode cX2_name 19 = .ok (.getfield 61, 3) := dk_180 0 61 (dk_at dksX2_name_0 19 rfl rfl)
theorem dX2_name_22 : decode cX2_name 22 = .ok (.invokevirtual 47, 3) := dk_182 0 47 (dk_at dksX2_name_1 0 rfl rfl)
theorem dX2_name_25 : decode cX2_name 25 = .ok (.athrow, 1) := dk_191 (dk_at dksX2_name_1 3 rfl rfl)
theorem dX2_name_26 : decode cX2_name 26 = .ok (.aload_n 1, 1) := dk_43 (dk_at dksX2_name_1 4 rfl rfl)
theorem dX2_name_27 : decode cX2_name 27 = .ok (.invokevirtual 86, 3) := dk_182 0 86 (dk_at dksX2_name_1 5 rfl rfl)
theorem dX2_name_30 : decode cX2_name 30 = .ok (.bipush 6, 2) := dk_16 6 (dk_at dksX2_name_1 8 rfl rfl)
theorem dX2_name_32 : decode cX2_name 32 = .ok (.if_icmp .le 16, 3) := dk_164 0 16 (dk_at dksX2_name_1 10 rfl rfl)
theorem dX2_name_35 : decode cX2_name 35 = .ok (.aload_n 0, 1) := dk_42 (dk_at dksX2_name_1 13 rfl rfl)
theorem dX2_name_36 : decode cX2_name 36 = .ok (.iconst 1, 1) := dk_4 (dk_at dksX2_name_1 14 rfl rfl)
theorem dX2_name_37 : decode cX2_name 37 = .ok (.aload_n 0, 1) := dk_42 (dk_at dksX2_name_1 15 rfl rfl)
theorem dX2_name_38 : decode cX2_name 38 = .ok (.getfield 61, 3) := dk_180 0 61 (dk_at dksX2_name_1 16 rfl rfl)
theorem dX2_name_41 : decode cX2_name 41 = .ok (.bipush 6, 2) := dk_16 6 (dk_at dksX2_name_1 19 rfl rfl)
theorem dX2_name_43 : decode cX2_name 43 = .ok (.iadd, 1) := dk_96 (dk_at dksX2_name_1 21 rfl rfl)
theorem dX2_name_44 : decode cX2_name 44 = .ok (.invokevirtual 47, 3) := dk_182 0 47 (dk_at dksX2_name_2 0 rfl rfl)
theorem dX2_name_47 : decode cX2_name 47 = .ok (.athrow, 1) := dk_191 (dk_at dksX2_name_2 3 rfl rfl)
theorem dX2_name_48 : decode cX2_name 48 = .ok (.aload_n 1, 1) := dk_43 (dk_at dksX2_name_2 4 rfl rfl)
theorem dX2_name_49 : decode cX2_name 49 = .ok (.areturn, 1) := dk_176 (dk_at dksX2_name_2 5 rfl rfl)
abbrev cX2_person : ByteArray := prog_17_method_18_code
def yX2_person : MethodName := ⟨RX2, "person", "(I)V"⟩
def dkwX2_person_4 : List UInt8 := [177]
abbrev dktX2_person_4 : List UInt8 := dkwX2_person_4 ++ []
def dkwX2_person_3 : List UInt8 := [187, 0, 172, 89, 44, 29, 42, 18, 174, 3, 16, 9, 182, 0, 132, 183, 0, 176, 185, 0, 179, 2, 0, 87]
abbrev dktX2_person_3 : List UInt8 := dkwX2_person_3 ++ dktX2_person_4
def dkwX2_person_2 : List UInt8 := [182, 0, 169, 153, 0, 13, 42, 5, 42, 180, 0, 61, 182, 0, 47, 191, 42, 180, 0, 103, 180, 0, 154]
abbrev dktX2_person_2 : List UInt8 := dkwX2_person_2 ++ dktX2_person_3
def dkwX2_person_1 : List UInt8 := [182, 0, 142, 42, 182, 0, 162, 77, 42, 18, 165, 182, 0, 93, 42, 182, 0, 166, 62, 42, 180, 0, 103, 29]
abbrev dktX2_person_1 : List UInt8 := dkwX2_person_1 ++ dktX2_person_2
def dkwX2_person_0 : List UInt8 := [42, 42, 180, 0, 103, 180, 0, 154, 185, 0, 158, 1, 0, 16, 7, 160, 0, 7, 4, 167, 0, 4, 3, 27]
abbrev dktX2_person_0 : List UInt8 := dkwX2_person_0 ++ dktX2_person_1
theorem dksX2_person_0 : cX2_person.data.toList.drop 0 = dktX2_person_0 := by decide +kernel
theorem dksX2_person_1 : cX2_person.data.toList.drop 24 = dktX2_person_1 := dk_seg dksX2_person_0 24 rfl rfl
theorem dksX2_person_2 : cX2_person.data.toList.drop 48 = dktX2_person_2 := dk_seg dksX2_person_1 24 rfl rfl
theorem dksX2_person_3 : cX2_person.data.toList.drop 71 = dktX2_person_3 := dk_seg dksX2_person_2 23 rfl rfl
theorem dksX2_person_4 : cX2_person.data.toList.drop 95 = dktX2_person_4 := dk_seg dksX2_person_3 24 rfl rfl
theorem dX2_person_0 : decode cX2_person 0 = .ok (.aload_n 0, 1) := dk_42 (dk_at dksX2_person_0 0 rfl rfl)
theorem dX2_person_1 : decode cX2_person 1 = .ok (.aload_n 0, 1) := dk_42 (dk_at dksX2_person_0 1 rfl rfl)
theorem dX2_person_2 : decode cX2_person 2 = .ok (.getfield 103, 3) := dk_180 0 103 (dk_at dksX2_person_0 2 rfl rfl)
theorem dX2_person_5 : decode cX2_person 5 = .ok (.getfield 154, 3) := dk_180 0 154 (dk_at dksX2_person_0 5 rfl rfl)
theorem dX2_person_8 : decode cX2_person 8 = .ok (.invokeinterface 158 1, 5) := by decide +kernel
theorem dX2_person_13 : decode cX2_person 13 = .ok (.bipush 7, 2) := dk_16 7 (dk_at dksX2_person_0 13 rfl rfl)
theorem dX2_person_15 : decode cX2_person 15 = .ok (.if_icmp .ne 7, 3) := dk_160 0 7 (dk_at dksX2_person_0 15 rfl rfl)
theorem dX2_person_18 : decode cX2_person 18 = .ok (.iconst 1, 1) := dk_4 (dk_at dksX2_person_0 18 rfl rfl)
theorem dX2_person_19 : decode cX2_person 19 = .ok (.goto 4, 3) := dk_167 0 4 (dk_at dksX2_person_0 19 rfl rfl)
theorem dX2_person_22 : decode cX2_person 22 = .ok (.iconst 0, 1) := dk_3 (dk_at dksX2_person_0 22 rfl rfl)
theorem dX2_person_23 : decode cX2_person 23 = .ok (.iload_n 1, 1) := dk_27 (dk_at dksX2_person_0 23 rfl rfl)
theorem dX2_person_24 : decode cX2_person 24 = .ok (.invokevirtual 142, 3) := dk_182 0 142 (dk_at dksX2_person_1 0 rfl rfl)
theorem dX2_person_27 : decode cX2_person 27 = .ok (.aload_n 0, 1) := dk_42 (dk_at dksX2_person_1 3 rfl rfl)
theorem dX2_person_28 : decode cX2_person 28 = .ok (.invokevirtual 162, 3) := dk_182 0 162 (dk_at dksX2_person_1 4 rfl rfl)
theorem dX2_person_31 : decode cX2_person 31 = .ok (.astore_n 2, 1) := dk_77 (dk_at dksX2_person_1 7 rfl rfl)
theorem dX2_person_32 : decode cX2_person 32 = .ok (.aload_n 0, 1) := dk_42 (dk_at dksX2_person_1 8 rfl rfl)
theorem dX2_person_33 : decode cX2_person 33 = .ok (.ldc 165, 2) := dk_18 165 (dk_at dksX2_person_1 9 rfl rfl)
theorem dX2_person_35 : decode cX2_person 35 = .ok (.invokevirtual 93, 3) := dk_182 0 93 (dk_at dksX2_person_1 11 rfl rfl)
theorem dX2_person_38 : decode cX2_person 38 = .ok (.aload_n 0, 1) := dk_42 (dk_at dksX2_person_1 14 rfl rfl)
theorem dX2_person_39 : decode cX2_person 39 = .ok (.invokevirtual 166, 3) := dk_182 0 166 (dk_at dksX2_person_1 15 rfl rfl)
theorem dX2_person_42 : decode cX2_person 42 = .ok (.istore_n 3, 1) := dk_62 (dk_at dksX2_person_1 18 rfl rfl)
theorem dX2_person_43 : decode cX2_person 43 = .ok (.aload_n 0, 1) := dk_42 (dk_at dksX2_person_1 19 rfl rfl)
theorem dX2_person_44 : decode cX2_person 44 = .ok (.getfield 103, 3) := dk_180 0 103 (dk_at dksX2_person_1 20 rfl rfl)
theorem dX2_person_47 : decode cX2_person 47 = .ok (.iload_n 3, 1) := dk_29 (dk_at dksX2_person_1 23 rfl rfl)
theorem dX2_person_48 : decode cX2_person 48 = .ok (.invokevirtual 169, 3) := dk_182 0 169 (dk_at dksX2_person_2 0 rfl rfl)
theorem dX2_person_51 : decode cX2_person 51 = .ok (.ifCond .eq 13, 3) := dk_153 0 13 (dk_at dksX2_person_2 3 rfl rfl)
theorem dX2_person_54 : decode cX2_person 54 = .ok (.aload_n 0, 1) := dk_42 (dk_at dksX2_person_2 6 rfl rfl)
theorem dX2_person_55 : decode cX2_person 55 = .ok (.iconst 2, 1) := dk_5 (dk_at dksX2_person_2 7 rfl rfl)
theorem dX2_person_56 : decode cX2_person 56 = .ok (.aload_n 0, 1) := dk_42 (dk_at dksX2_person_2 8 rfl rfl)
theorem dX2_person_57 : decode cX2_person 57 = .ok (.getfield 61, 3) := dk_180 0 61 (dk_at dksX2_person_2 9 rfl rfl)
theorem dX2_person_60 : decode cX2_person 60 = .ok (.invokevirtual 47, 3) := dk_182 0 47 (dk_at dksX2_person_2 12 rfl rfl)
theorem dX2_person_63 : decode cX2_person 63 = .ok (.athrow, 1) := dk_191 (dk_at dksX2_person_2 15 rfl rfl)
theorem dX2_person_64 : decode cX2_person 64 = .ok (.aload_n 0, 1) := dk_42 (dk_at dksX2_person_2 16 rfl rfl)
theorem dX2_person_65 : decode cX2_person 65 = .ok (.getfield 103, 3) := dk_180 0 103 (dk_at dksX2_person_2 17 rfl rfl)
theorem dX2_person_68 : decode cX2_person 68 = .ok (.getfield 154, 3) := dk_180 0 154 (dk_at dksX2_person_2 20 rfl rfl)
theorem dX2_person_71 : decode cX2_person 71 = .ok (.new 172, 3) := dk_187 0 172 (dk_at dksX2_person_3 0 rfl rfl)
theorem dX2_person_74 : decode cX2_person 74 = .ok (.dup, 1) := dk_89 (dk_at dksX2_person_3 3 rfl rfl)
theorem dX2_person_75 : decode cX2_person 75 = .ok (.aload_n 2, 1) := dk_44 (dk_at dksX2_person_3 4 rfl rfl)
theorem dX2_person_76 : decode cX2_person 76 = .ok (.iload_n 3, 1) := dk_29 (dk_at dksX2_person_3 5 rfl rfl)
theorem dX2_person_77 : decode cX2_person 77 = .ok (.aload_n 0, 1) := dk_42 (dk_at dksX2_person_3 6 rfl rfl)
theorem dX2_person_78 : decode cX2_person 78 = .ok (.ldc 174, 2) := dk_18 174 (dk_at dksX2_person_3 7 rfl rfl)
theorem dX2_person_80 : decode cX2_person 80 = .ok (.iconst 0, 1) := dk_3 (dk_at dksX2_person_3 9 rfl rfl)
theorem dX2_person_81 : decode cX2_person 81 = .ok (.bipush 9, 2) := dk_16 9 (dk_at dksX2_person_3 10 rfl rfl)
theorem dX2_person_83 : decode cX2_person 83 = .ok (.invokevirtual 132, 3) := dk_182 0 132 (dk_at dksX2_person_3 12 rfl rfl)
theorem dX2_person_86 : decode cX2_person 86 = .ok (.invokespecial 176, 3) := dk_183 0 176 (dk_at dksX2_person_3 15 rfl rfl)
theorem dX2_person_89 : decode cX2_person 89 = .ok (.invokeinterface 179 2, 5) := by decide +kernel
theorem dX2_person_94 : decode cX2_person 94 = .ok (.pop, 1) := dk_87 (dk_at dksX2_person_3 23 rfl rfl)
theorem dX2_person_95 : decode cX2_person 95 = .ok (.return_, 1) := dk_177 (dk_at dksX2_person_4 0 rfl rfl)
abbrev cX2_knows : ByteArray := prog_17_method_19_code
def yX2_knows : MethodName := ⟨RX2, "knows", "()V"⟩
def dkwX2_knows_3 : List UInt8 := [180, 0, 195, 4, 28, 120, 128, 181, 0, 195, 177]
abbrev dktX2_knows_3 : List UInt8 := dkwX2_knows_3 ++ []
def dkwX2_knows_2 : List UInt8 := [180, 0, 195, 28, 184, 0, 198, 153, 0, 13, 42, 6, 42, 180, 0, 61, 182, 0, 47, 191, 43, 89]
abbrev dktX2_knows_2 : List UInt8 := dkwX2_knows_2 ++ dktX2_knows_3
def dkwX2_knows_1 : List UInt8 := [192, 0, 172, 76, 42, 18, 190, 182, 0, 93, 42, 42, 180, 0, 103, 180, 0, 192, 182, 0, 182, 61, 43]
abbrev dktX2_knows_1 : List UInt8 := dkwX2_knows_1 ++ dktX2_knows_2
def dkwX2_knows_0 : List UInt8 := [42, 180, 0, 103, 180, 0, 154, 42, 42, 180, 0, 103, 180, 0, 154, 182, 0, 182, 185, 0, 186, 2, 0]
abbrev dktX2_knows_0 : List UInt8 := dkwX2_knows_0 ++ dktX2_knows_1
theorem dksX2_knows_0 : cX2_knows.data.toList.drop 0 = dktX2_knows_0 := by decide +kernel
theorem dksX2_knows_1 : cX2_knows.data.toList.drop 23 = dktX2_knows_1 := dk_seg dksX2_knows_0 23 rfl rfl
theorem dksX2_knows_2 : cX2_knows.data.toList.drop 46 = dktX2_knows_2 := dk_seg dksX2_knows_1 23 rfl rfl
theorem dksX2_knows_3 : cX2_knows.data.toList.drop 68 = dktX2_knows_3 := dk_seg dksX2_knows_2 22 rfl rfl
theorem dX2_knows_0 : decode cX2_knows 0 = .ok (.aload_n 0, 1) := dk_42 (dk_at dksX2_knows_0 0 rfl rfl)
theorem dX2_knows_1 : decode cX2_knows 1 = .ok (.getfield 103, 3) := dk_180 0 103 (dk_at dksX2_knows_0 1 rfl rfl)
theorem dX2_knows_4 : decode cX2_knows 4 = .ok (.getfield 154, 3) := dk_180 0 154 (dk_at dksX2_knows_0 4 rfl rfl)
theorem dX2_knows_7 : decode cX2_knows 7 = .ok (.aload_n 0, 1) := dk_42 (dk_at dksX2_knows_0 7 rfl rfl)
theorem dX2_knows_8 : decode cX2_knows 8 = .ok (.aload_n 0, 1) := dk_42 (dk_at dksX2_knows_0 8 rfl rfl)
theorem dX2_knows_9 : decode cX2_knows 9 = .ok (.getfield 103, 3) := dk_180 0 103 (dk_at dksX2_knows_0 9 rfl rfl)
theorem dX2_knows_12 : decode cX2_knows 12 = .ok (.getfield 154, 3) := dk_180 0 154 (dk_at dksX2_knows_0 12 rfl rfl)
theorem dX2_knows_15 : decode cX2_knows 15 = .ok (.invokevirtual 182, 3) := dk_182 0 182 (dk_at dksX2_knows_0 15 rfl rfl)
theorem dX2_knows_18 : decode cX2_knows 18 = .ok (.invokeinterface 186 2, 5) := by decide +kernel
theorem dX2_knows_23 : decode cX2_knows 23 = .ok (.checkcast 172, 3) := dk_192 0 172 (dk_at dksX2_knows_1 0 rfl rfl)
theorem dX2_knows_26 : decode cX2_knows 26 = .ok (.astore_n 1, 1) := dk_76 (dk_at dksX2_knows_1 3 rfl rfl)
theorem dX2_knows_27 : decode cX2_knows 27 = .ok (.aload_n 0, 1) := dk_42 (dk_at dksX2_knows_1 4 rfl rfl)
theorem dX2_knows_28 : decode cX2_knows 28 = .ok (.ldc 190, 2) := dk_18 190 (dk_at dksX2_knows_1 5 rfl rfl)
theorem dX2_knows_30 : decode cX2_knows 30 = .ok (.invokevirtual 93, 3) := dk_182 0 93 (dk_at dksX2_knows_1 7 rfl rfl)
theorem dX2_knows_33 : decode cX2_knows 33 = .ok (.aload_n 0, 1) := dk_42 (dk_at dksX2_knows_1 10 rfl rfl)
theorem dX2_knows_34 : decode cX2_knows 34 = .ok (.aload_n 0, 1) := dk_42 (dk_at dksX2_knows_1 11 rfl rfl)
theorem dX2_knows_35 : decode cX2_knows 35 = .ok (.getfield 103, 3) := dk_180 0 103 (dk_at dksX2_knows_1 12 rfl rfl)
theorem dX2_knows_38 : decode cX2_knows 38 = .ok (.getfield 192, 3) := dk_180 0 192 (dk_at dksX2_knows_1 15 rfl rfl)
theorem dX2_knows_41 : decode cX2_knows 41 = .ok (.invokevirtual 182, 3) := dk_182 0 182 (dk_at dksX2_knows_1 18 rfl rfl)
theorem dX2_knows_44 : decode cX2_knows 44 = .ok (.istore_n 2, 1) := dk_61 (dk_at dksX2_knows_1 21 rfl rfl)
theorem dX2_knows_45 : decode cX2_knows 45 = .ok (.aload_n 1, 1) := dk_43 (dk_at dksX2_knows_1 22 rfl rfl)
theorem dX2_knows_46 : decode cX2_knows 46 = .ok (.getfield 195, 3) := dk_180 0 195 (dk_at dksX2_knows_2 0 rfl rfl)
theorem dX2_knows_49 : decode cX2_knows 49 = .ok (.iload_n 2, 1) := dk_28 (dk_at dksX2_knows_2 3 rfl rfl)
theorem dX2_knows_50 : decode cX2_knows 50 = .ok (.invokestatic 198, 3) := dk_184 0 198 (dk_at dksX2_knows_2 4 rfl rfl)
theorem dX2_knows_53 : decode cX2_knows 53 = .ok (.ifCond .eq 13, 3) := dk_153 0 13 (dk_at dksX2_knows_2 7 rfl rfl)
theorem dX2_knows_56 : decode cX2_knows 56 = .ok (.aload_n 0, 1) := dk_42 (dk_at dksX2_knows_2 10 rfl rfl)
theorem dX2_knows_57 : decode cX2_knows 57 = .ok (.iconst 3, 1) := dk_6 (dk_at dksX2_knows_2 11 rfl rfl)
theorem dX2_knows_58 : decode cX2_knows 58 = .ok (.aload_n 0, 1) := dk_42 (dk_at dksX2_knows_2 12 rfl rfl)
theorem dX2_knows_59 : decode cX2_knows 59 = .ok (.getfield 61, 3) := dk_180 0 61 (dk_at dksX2_knows_2 13 rfl rfl)
theorem dX2_knows_62 : decode cX2_knows 62 = .ok (.invokevirtual 47, 3) := dk_182 0 47 (dk_at dksX2_knows_2 16 rfl rfl)
theorem dX2_knows_65 : decode cX2_knows 65 = .ok (.athrow, 1) := dk_191 (dk_at dksX2_knows_2 19 rfl rfl)
theorem dX2_knows_66 : decode cX2_knows 66 = .ok (.aload_n 1, 1) := dk_43 (dk_at dksX2_knows_2 20 rfl rfl)
theorem dX2_knows_67 : decode cX2_knows 67 = .ok (.dup, 1) := dk_89 (dk_at dksX2_knows_2 21 rfl rfl)
theorem dX2_knows_68 : decode cX2_knows 68 = .ok (.getfield 195, 3) := dk_180 0 195 (dk_at dksX2_knows_3 0 rfl rfl)
theorem dX2_knows_71 : decode cX2_knows 71 = .ok (.iconst 1, 1) := dk_4 (dk_at dksX2_knows_3 3 rfl rfl)
theorem dX2_knows_72 : decode cX2_knows 72 = .ok (.iload_n 2, 1) := dk_28 (dk_at dksX2_knows_3 4 rfl rfl)
theorem dX2_knows_73 : decode cX2_knows 73 = .ok (.ishl, 1) := dk_120 (dk_at dksX2_knows_3 5 rfl rfl)
theorem dX2_knows_74 : decode cX2_knows 74 = .ok (.ior, 1) := dk_128 (dk_at dksX2_knows_3 6 rfl rfl)
theorem dX2_knows_75 : decode cX2_knows 75 = .ok (.putfield 195, 3) := dk_181 0 195 (dk_at dksX2_knows_3 7 rfl rfl)
theorem dX2_knows_78 : decode cX2_knows 78 = .ok (.return_, 1) := dk_177 (dk_at dksX2_knows_3 10 rfl rfl)
abbrev cX2_known : ByteArray := prog_17_method_14_code
def yX2_known : MethodName := ⟨RX2, "known", "(Ljava/util/List;)I"⟩
def dkwX2_known_1 : List UInt8 := [28, 172]
abbrev dktX2_known_1 : List UInt8 := dkwX2_known_1 ++ []
def dkwX2_known_0 : List UInt8 := [43, 42, 182, 0, 100, 184, 0, 113, 61, 28, 2, 160, 0, 13, 42, 6, 42, 180, 0, 61, 182, 0, 47, 191]
abbrev dktX2_known_0 : List UInt8 := dkwX2_known_0 ++ dktX2_known_1
theorem dksX2_known_0 : cX2_known.data.toList.drop 0 = dktX2_known_0 := by decide +kernel
theorem dksX2_known_1 : cX2_known.data.toList.drop 24 = dktX2_known_1 := dk_seg dksX2_known_0 24 rfl rfl
theorem dX2_known_0 : decode cX2_known 0 = .ok (.aload_n 1, 1) := dk_43 (dk_at dksX2_known_0 0 rfl rfl)
theorem dX2_known_1 : decode cX2_known 1 = .ok (.aload_n 0, 1) := dk_42 (dk_at dksX2_known_0 1 rfl rfl)
theorem dX2_known_2 : decode cX2_known 2 = .ok (.invokevirtual 100, 3) := dk_182 0 100 (dk_at dksX2_known_0 2 rfl rfl)
theorem dX2_known_5 : decode cX2_known 5 = .ok (.invokestatic 113, 3) := dk_184 0 113 (dk_at dksX2_known_0 5 rfl rfl)
theorem dX2_known_8 : decode cX2_known 8 = .ok (.istore_n 2, 1) := dk_61 (dk_at dksX2_known_0 8 rfl rfl)
theorem dX2_known_9 : decode cX2_known 9 = .ok (.iload_n 2, 1) := dk_28 (dk_at dksX2_known_0 9 rfl rfl)
theorem dX2_known_10 : decode cX2_known 10 = .ok (.iconst (-1), 1) := dk_2 (dk_at dksX2_known_0 10 rfl rfl)
theorem dX2_known_11 : decode cX2_known 11 = .ok (.if_icmp .ne 13, 3) := dk_160 0 13 (dk_at dksX2_known_0 11 rfl rfl)
theorem dX2_known_14 : decode cX2_known 14 = .ok (.aload_n 0, 1) := dk_42 (dk_at dksX2_known_0 14 rfl rfl)
theorem dX2_known_15 : decode cX2_known 15 = .ok (.iconst 3, 1) := dk_6 (dk_at dksX2_known_0 15 rfl rfl)
theorem dX2_known_16 : decode cX2_known 16 = .ok (.aload_n 0, 1) := dk_42 (dk_at dksX2_known_0 16 rfl rfl)
theorem dX2_known_17 : decode cX2_known 17 = .ok (.getfield 61, 3) := dk_180 0 61 (dk_at dksX2_known_0 17 rfl rfl)
theorem dX2_known_20 : decode cX2_known 20 = .ok (.invokevirtual 47, 3) := dk_182 0 47 (dk_at dksX2_known_0 20 rfl rfl)
theorem dX2_known_23 : decode cX2_known 23 = .ok (.athrow, 1) := dk_191 (dk_at dksX2_known_0 23 rfl rfl)
theorem dX2_known_24 : decode cX2_known 24 = .ok (.iload_n 2, 1) := dk_28 (dk_at dksX2_known_1 0 rfl rfl)
theorem dX2_known_25 : decode cX2_known 25 = .ok (.ireturn, 1) := dk_172 (dk_at dksX2_known_1 1 rfl rfl)
abbrev cX2_asking : ByteArray := prog_17_method_20_code
def yX2_asking : MethodName := ⟨RX2, "asking", "(I)V"⟩
def dkwX2_asking_3 : List UInt8 := [183, 0, 207, 185, 0, 179, 2, 0, 87, 177]
abbrev dktX2_asking_3 : List UInt8 := dkwX2_asking_3 ++ []
def dkwX2_asking_2 : List UInt8 := [180, 0, 103, 180, 0, 202, 187, 0, 205, 89, 28, 42, 42, 180, 0, 103, 180, 0, 192, 182, 0, 182]
abbrev dktX2_asking_2 : List UInt8 := dkwX2_asking_2 ++ dktX2_asking_3
def dkwX2_asking_1 : List UInt8 := [182, 0, 142, 42, 42, 180, 0, 103, 180, 0, 154, 182, 0, 182, 61, 42, 18, 190, 182, 0, 93, 42]
abbrev dktX2_asking_1 : List UInt8 := dkwX2_asking_1 ++ dktX2_asking_2
def dkwX2_asking_0 : List UInt8 := [42, 42, 180, 0, 103, 180, 0, 202, 185, 0, 158, 1, 0, 16, 12, 160, 0, 7, 4, 167, 0, 4, 3, 27]
abbrev dktX2_asking_0 : List UInt8 := dkwX2_asking_0 ++ dktX2_asking_1
theorem dksX2_asking_0 : cX2_asking.data.toList.drop 0 = dktX2_asking_0 := by decide +kernel
theorem dksX2_asking_1 : cX2_asking.data.toList.drop 24 = dktX2_asking_1 := dk_seg dksX2_asking_0 24 rfl rfl
theorem dksX2_asking_2 : cX2_asking.data.toList.drop 46 = dktX2_asking_2 := dk_seg dksX2_asking_1 22 rfl rfl
theorem dksX2_asking_3 : cX2_asking.data.toList.drop 68 = dktX2_asking_3 := dk_seg dksX2_asking_2 22 rfl rfl
theorem dX2_asking_0 : decode cX2_asking 0 = .ok (.aload_n 0, 1) := dk_42 (dk_at dksX2_asking_0 0 rfl rfl)
theorem dX2_asking_1 : decode cX2_asking 1 = .ok (.aload_n 0, 1) := dk_42 (dk_at dksX2_asking_0 1 rfl rfl)
theorem dX2_asking_2 : decode cX2_asking 2 = .ok (.getfield 103, 3) := dk_180 0 103 (dk_at dksX2_asking_0 2 rfl rfl)
theorem dX2_asking_5 : decode cX2_asking 5 = .ok (.getfield 202, 3) := dk_180 0 202 (dk_at dksX2_asking_0 5 rfl rfl)
theorem dX2_asking_8 : decode cX2_asking 8 = .ok (.invokeinterface 158 1, 5) := by decide +kernel
theorem dX2_asking_13 : decode cX2_asking 13 = .ok (.bipush 12, 2) := dk_16 12 (dk_at dksX2_asking_0 13 rfl rfl)
theorem dX2_asking_15 : decode cX2_asking 15 = .ok (.if_icmp .ne 7, 3) := dk_160 0 7 (dk_at dksX2_asking_0 15 rfl rfl)
theorem dX2_asking_18 : decode cX2_asking 18 = .ok (.iconst 1, 1) := dk_4 (dk_at dksX2_asking_0 18 rfl rfl)
theorem dX2_asking_19 : decode cX2_asking 19 = .ok (.goto 4, 3) := dk_167 0 4 (dk_at dksX2_asking_0 19 rfl rfl)
theorem dX2_asking_22 : decode cX2_asking 22 = .ok (.iconst 0, 1) := dk_3 (dk_at dksX2_asking_0 22 rfl rfl)
theorem dX2_asking_23 : decode cX2_asking 23 = .ok (.iload_n 1, 1) := dk_27 (dk_at dksX2_asking_0 23 rfl rfl)
theorem dX2_asking_24 : decode cX2_asking 24 = .ok (.invokevirtual 142, 3) := dk_182 0 142 (dk_at dksX2_asking_1 0 rfl rfl)
theorem dX2_asking_27 : decode cX2_asking 27 = .ok (.aload_n 0, 1) := dk_42 (dk_at dksX2_asking_1 3 rfl rfl)
theorem dX2_asking_28 : decode cX2_asking 28 = .ok (.aload_n 0, 1) := dk_42 (dk_at dksX2_asking_1 4 rfl rfl)
theorem dX2_asking_29 : decode cX2_asking 29 = .ok (.getfield 103, 3) := dk_180 0 103 (dk_at dksX2_asking_1 5 rfl rfl)
theorem dX2_asking_32 : decode cX2_asking 32 = .ok (.getfield 154, 3) := dk_180 0 154 (dk_at dksX2_asking_1 8 rfl rfl)
theorem dX2_asking_35 : decode cX2_asking 35 = .ok (.invokevirtual 182, 3) := dk_182 0 182 (dk_at dksX2_asking_1 11 rfl rfl)
theorem dX2_asking_38 : decode cX2_asking 38 = .ok (.istore_n 2, 1) := dk_61 (dk_at dksX2_asking_1 14 rfl rfl)
theorem dX2_asking_39 : decode cX2_asking 39 = .ok (.aload_n 0, 1) := dk_42 (dk_at dksX2_asking_1 15 rfl rfl)
theorem dX2_asking_40 : decode cX2_asking 40 = .ok (.ldc 190, 2) := dk_18 190 (dk_at dksX2_asking_1 16 rfl rfl)
theorem dX2_asking_42 : decode cX2_asking 42 = .ok (.invokevirtual 93, 3) := dk_182 0 93 (dk_at dksX2_asking_1 18 rfl rfl)
theorem dX2_asking_45 : decode cX2_asking 45 = .ok (.aload_n 0, 1) := dk_42 (dk_at dksX2_asking_1 21 rfl rfl)
theorem dX2_asking_46 : decode cX2_asking 46 = .ok (.getfield 103, 3) := dk_180 0 103 (dk_at dksX2_asking_2 0 rfl rfl)
theorem dX2_asking_49 : decode cX2_asking 49 = .ok (.getfield 202, 3) := dk_180 0 202 (dk_at dksX2_asking_2 3 rfl rfl)
theorem dX2_asking_52 : decode cX2_asking 52 = .ok (.new 205, 3) := dk_187 0 205 (dk_at dksX2_asking_2 6 rfl rfl)
theorem dX2_asking_55 : decode cX2_asking 55 = .ok (.dup, 1) := dk_89 (dk_at dksX2_asking_2 9 rfl rfl)
theorem dX2_asking_56 : decode cX2_asking 56 = .ok (.iload_n 2, 1) := dk_28 (dk_at dksX2_asking_2 10 rfl rfl)
theorem dX2_asking_57 : decode cX2_asking 57 = .ok (.aload_n 0, 1) := dk_42 (dk_at dksX2_asking_2 11 rfl rfl)
theorem dX2_asking_58 : decode cX2_asking 58 = .ok (.aload_n 0, 1) := dk_42 (dk_at dksX2_asking_2 12 rfl rfl)
theorem dX2_asking_59 : decode cX2_asking 59 = .ok (.getfield 103, 3) := dk_180 0 103 (dk_at dksX2_asking_2 13 rfl rfl)
theorem dX2_asking_62 : decode cX2_asking 62 = .ok (.getfield 192, 3) := dk_180 0 192 (dk_at dksX2_asking_2 16 rfl rfl)
theorem dX2_asking_65 : decode cX2_asking 65 = .ok (.invokevirtual 182, 3) := dk_182 0 182 (dk_at dksX2_asking_2 19 rfl rfl)
theorem dX2_asking_68 : decode cX2_asking 68 = .ok (.invokespecial 207, 3) := dk_183 0 207 (dk_at dksX2_asking_3 0 rfl rfl)
theorem dX2_asking_71 : decode cX2_asking 71 = .ok (.invokeinterface 179 2, 5) := by decide +kernel
theorem dX2_asking_76 : decode cX2_asking 76 = .ok (.pop, 1) := dk_87 (dk_at dksX2_asking_3 8 rfl rfl)
theorem dX2_asking_77 : decode cX2_asking 77 = .ok (.return_, 1) := dk_177 (dk_at dksX2_asking_3 9 rfl rfl)
abbrev cX2_more : ByteArray := prog_17_method_23_code
def yX2_more : MethodName := ⟨RX2, "more", "(Ljava/lang/String;I)V"⟩
def dkwX2_more_10 : List UInt8 := [16, 100, 182, 0, 96, 181, 1, 10, 167, 0, 10, 42, 4, 28, 182, 0, 47, 191, 177]
abbrev dktX2_more_10 : List UInt8 := dkwX2_more_10 ++ []
def dkwX2_more_9 : List UInt8 := [181, 0, 235, 42, 180, 0, 103, 42, 182, 1, 6, 181, 1, 3, 167, 0, 27, 42, 180, 0, 103, 42, 3]
abbrev dktX2_more_9 : List UInt8 := dkwX2_more_9 ++ dktX2_more_10
def dkwX2_more_8 : List UInt8 := [42, 42, 180, 0, 103, 180, 1, 3, 198, 0, 7, 4, 167, 0, 4, 3, 28, 182, 0, 142, 42, 16, 31]
abbrev dktX2_more_8 : List UInt8 := dkwX2_more_8 ++ dktX2_more_9
def dkwX2_more_7 : List UInt8 := [42, 180, 0, 103, 42, 42, 180, 0, 103, 180, 1, 1, 28, 16, 31, 182, 0, 253, 181, 1, 1, 167, 0, 67]
abbrev dktX2_more_7 : List UInt8 := dkwX2_more_7 ++ dktX2_more_8
def dkwX2_more_6 : List UInt8 := [42, 180, 0, 103, 42, 42, 180, 0, 103, 180, 0, 250, 28, 16, 63, 182, 0, 253, 181, 0, 250, 167, 0, 91]
abbrev dktX2_more_6 : List UInt8 := dkwX2_more_6 ++ dktX2_more_7
def dkwX2_more_5 : List UInt8 := [170, 0, 0, 0, 134, 0, 0, 0, 0, 0, 0, 0, 3, 0, 0, 0, 29, 0, 0, 0, 53, 0, 0, 0, 77, 0, 0, 0, 117]
abbrev dktX2_more_5 : List UInt8 := dkwX2_more_5 ++ dktX2_more_6
def dkwX2_more_4 : List UInt8 := [182, 0, 74, 153, 0, 6, 6, 54, 4, 21, 4]
abbrev dktX2_more_4 : List UInt8 := dkwX2_more_4 ++ dktX2_more_5
def dkwX2_more_3 : List UInt8 := [4, 54, 4, 167, 0, 30, 45, 18, 246, 182, 0, 74, 153, 0, 21, 5, 54, 4, 167, 0, 15, 45, 18, 248]
abbrev dktX2_more_3 : List UInt8 := dkwX2_more_3 ++ dktX2_more_4
def dkwX2_more_2 : List UInt8 := [45, 18, 242, 182, 0, 74, 153, 0, 51, 3, 54, 4, 167, 0, 45, 45, 18, 244, 182, 0, 74, 153, 0, 36]
abbrev dktX2_more_2 : List UInt8 := dkwX2_more_2 ++ dktX2_more_3
def dkwX2_more_1 : List UInt8 := [171, 0, 0, 0, 0, 0, 100, 0, 0, 0, 4, 5, 168, 152, 173, 0, 0, 0, 88, 5, 237, 163, 148, 0, 0, 0, 73, 6, 35, 50, 200, 0, 0, 0, 43, 6, 148, 26, 11, 0, 0, 0, 58]
abbrev dktX2_more_1 : List UInt8 := dkwX2_more_1 ++ dktX2_more_2
def dkwX2_more_0 : List UInt8 := [43, 78, 2, 54, 4, 45, 182, 0, 210]
abbrev dktX2_more_0 : List UInt8 := dkwX2_more_0 ++ dktX2_more_1
theorem dksX2_more_0 : cX2_more.data.toList.drop 0 = dktX2_more_0 := by decide +kernel
theorem dksX2_more_1 : cX2_more.data.toList.drop 9 = dktX2_more_1 := dk_seg dksX2_more_0 9 rfl rfl
theorem dksX2_more_2 : cX2_more.data.toList.drop 52 = dktX2_more_2 := dk_seg dksX2_more_1 43 rfl rfl
theorem dksX2_more_3 : cX2_more.data.toList.drop 76 = dktX2_more_3 := dk_seg dksX2_more_2 24 rfl rfl
theorem dksX2_more_4 : cX2_more.data.toList.drop 100 = dktX2_more_4 := dk_seg dksX2_more_3 24 rfl rfl
theorem dksX2_more_5 : cX2_more.data.toList.drop 111 = dktX2_more_5 := dk_seg dksX2_more_4 11 rfl rfl
theorem dksX2_more_6 : cX2_more.data.toList.drop 140 = dktX2_more_6 := dk_seg dksX2_more_5 29 rfl rfl
theorem dksX2_more_7 : cX2_more.data.toList.drop 164 = dktX2_more_7 := dk_seg dksX2_more_6 24 rfl rfl
theorem dksX2_more_8 : cX2_more.data.toList.drop 188 = dktX2_more_8 := dk_seg dksX2_more_7 24 rfl rfl
theorem dksX2_more_9 : cX2_more.data.toList.drop 211 = dktX2_more_9 := dk_seg dksX2_more_8 23 rfl rfl
theorem dksX2_more_10 : cX2_more.data.toList.drop 234 = dktX2_more_10 := dk_seg dksX2_more_9 23 rfl rfl
theorem dX2_more_0 : decode cX2_more 0 = .ok (.aload_n 1, 1) := dk_43 (dk_at dksX2_more_0 0 rfl rfl)
theorem dX2_more_1 : decode cX2_more 1 = .ok (.astore_n 3, 1) := dk_78 (dk_at dksX2_more_0 1 rfl rfl)
theorem dX2_more_2 : decode cX2_more 2 = .ok (.iconst (-1), 1) := dk_2 (dk_at dksX2_more_0 2 rfl rfl)
theorem dX2_more_3 : decode cX2_more 3 = .ok (.istore 4, 2) := dk_54 4 (dk_at dksX2_more_0 3 rfl rfl)
theorem dX2_more_5 : decode cX2_more 5 = .ok (.aload_n 3, 1) := dk_45 (dk_at dksX2_more_0 5 rfl rfl)
theorem dX2_more_6 : decode cX2_more 6 = .ok (.invokevirtual 210, 3) := dk_182 0 210 (dk_at dksX2_more_0 6 rfl rfl)
theorem dX2_more_9 : decode cX2_more 9 = .ok (.lookupswitch 100 #[(94935213, 88), (99459988, 73), (102970056, 43), (110369291, 58)], 43) := by decide +kernel
theorem dX2_more_52 : decode cX2_more 52 = .ok (.aload_n 3, 1) := dk_45 (dk_at dksX2_more_2 0 rfl rfl)
theorem dX2_more_53 : decode cX2_more 53 = .ok (.ldc 242, 2) := dk_18 242 (dk_at dksX2_more_2 1 rfl rfl)
theorem dX2_more_55 : decode cX2_more 55 = .ok (.invokevirtual 74, 3) := dk_182 0 74 (dk_at dksX2_more_2 3 rfl rfl)
theorem dX2_more_58 : decode cX2_more 58 = .ok (.ifCond .eq 51, 3) := dk_153 0 51 (dk_at dksX2_more_2 6 rfl rfl)
theorem dX2_more_61 : decode cX2_more 61 = .ok (.iconst 0, 1) := dk_3 (dk_at dksX2_more_2 9 rfl rfl)
theorem dX2_more_62 : decode cX2_more 62 = .ok (.istore 4, 2) := dk_54 4 (dk_at dksX2_more_2 10 rfl rfl)
theorem dX2_more_64 : decode cX2_more 64 = .ok (.goto 45, 3) := dk_167 0 45 (dk_at dksX2_more_2 12 rfl rfl)
theorem dX2_more_67 : decode cX2_more 67 = .ok (.aload_n 3, 1) := dk_45 (dk_at dksX2_more_2 15 rfl rfl)
theorem dX2_more_68 : decode cX2_more 68 = .ok (.ldc 244, 2) := dk_18 244 (dk_at dksX2_more_2 16 rfl rfl)
theorem dX2_more_70 : decode cX2_more 70 = .ok (.invokevirtual 74, 3) := dk_182 0 74 (dk_at dksX2_more_2 18 rfl rfl)
theorem dX2_more_73 : decode cX2_more 73 = .ok (.ifCond .eq 36, 3) := dk_153 0 36 (dk_at dksX2_more_2 21 rfl rfl)
theorem dX2_more_76 : decode cX2_more 76 = .ok (.iconst 1, 1) := dk_4 (dk_at dksX2_more_3 0 rfl rfl)
theorem dX2_more_77 : decode cX2_more 77 = .ok (.istore 4, 2) := dk_54 4 (dk_at dksX2_more_3 1 rfl rfl)
theorem dX2_more_79 : decode cX2_more 79 = .ok (.goto 30, 3) := dk_167 0 30 (dk_at dksX2_more_3 3 rfl rfl)
theorem dX2_more_82 : decode cX2_more 82 = .ok (.aload_n 3, 1) := dk_45 (dk_at dksX2_more_3 6 rfl rfl)
theorem dX2_more_83 : decode cX2_more 83 = .ok (.ldc 246, 2) := dk_18 246 (dk_at dksX2_more_3 7 rfl rfl)
theorem dX2_more_85 : decode cX2_more 85 = .ok (.invokevirtual 74, 3) := dk_182 0 74 (dk_at dksX2_more_3 9 rfl rfl)
theorem dX2_more_88 : decode cX2_more 88 = .ok (.ifCond .eq 21, 3) := dk_153 0 21 (dk_at dksX2_more_3 12 rfl rfl)
theorem dX2_more_91 : decode cX2_more 91 = .ok (.iconst 2, 1) := dk_5 (dk_at dksX2_more_3 15 rfl rfl)
theorem dX2_more_92 : decode cX2_more 92 = .ok (.istore 4, 2) := dk_54 4 (dk_at dksX2_more_3 16 rfl rfl)
theorem dX2_more_94 : decode cX2_more 94 = .ok (.goto 15, 3) := dk_167 0 15 (dk_at dksX2_more_3 18 rfl rfl)
theorem dX2_more_97 : decode cX2_more 97 = .ok (.aload_n 3, 1) := dk_45 (dk_at dksX2_more_3 21 rfl rfl)
theorem dX2_more_98 : decode cX2_more 98 = .ok (.ldc 248, 2) := dk_18 248 (dk_at dksX2_more_3 22 rfl rfl)
theorem dX2_more_100 : decode cX2_more 100 = .ok (.invokevirtual 74, 3) := dk_182 0 74 (dk_at dksX2_more_4 0 rfl rfl)
theorem dX2_more_103 : decode cX2_more 103 = .ok (.ifCond .eq 6, 3) := dk_153 0 6 (dk_at dksX2_more_4 3 rfl rfl)
theorem dX2_more_106 : decode cX2_more 106 = .ok (.iconst 3, 1) := dk_6 (dk_at dksX2_more_4 6 rfl rfl)
theorem dX2_more_107 : decode cX2_more 107 = .ok (.istore 4, 2) := dk_54 4 (dk_at dksX2_more_4 7 rfl rfl)
theorem dX2_more_109 : decode cX2_more 109 = .ok (.iload 4, 2) := dk_21 4 (dk_at dksX2_more_4 9 rfl rfl)
theorem dX2_more_111 : decode cX2_more 111 = .ok (.tableswitch 134 0 3 #[29, 53, 77, 117], 29) := by decide +kernel
theorem dX2_more_140 : decode cX2_more 140 = .ok (.aload_n 0, 1) := dk_42 (dk_at dksX2_more_6 0 rfl rfl)
theorem dX2_more_141 : decode cX2_more 141 = .ok (.getfield 103, 3) := dk_180 0 103 (dk_at dksX2_more_6 1 rfl rfl)
theorem dX2_more_144 : decode cX2_more 144 = .ok (.aload_n 0, 1) := dk_42 (dk_at dksX2_more_6 4 rfl rfl)
theorem dX2_more_145 : decode cX2_more 145 = .ok (.aload_n 0, 1) := dk_42 (dk_at dksX2_more_6 5 rfl rfl)
theorem dX2_more_146 : decode cX2_more 146 = .ok (.getfield 103, 3) := dk_180 0 103 (dk_at dksX2_more_6 6 rfl rfl)
theorem dX2_more_149 : decode cX2_more 149 = .ok (.getfield 250, 3) := dk_180 0 250 (dk_at dksX2_more_6 9 rfl rfl)
theorem dX2_more_152 : decode cX2_more 152 = .ok (.iload_n 2, 1) := dk_28 (dk_at dksX2_more_6 12 rfl rfl)
theorem dX2_more_153 : decode cX2_more 153 = .ok (.bipush 63, 2) := dk_16 63 (dk_at dksX2_more_6 13 rfl rfl)
theorem dX2_more_155 : decode cX2_more 155 = .ok (.invokevirtual 253, 3) := dk_182 0 253 (dk_at dksX2_more_6 15 rfl rfl)
theorem dX2_more_158 : decode cX2_more 158 = .ok (.putfield 250, 3) := dk_181 0 250 (dk_at dksX2_more_6 18 rfl rfl)
theorem dX2_more_161 : decode cX2_more 161 = .ok (.goto 91, 3) := dk_167 0 91 (dk_at dksX2_more_6 21 rfl rfl)
theorem dX2_more_164 : decode cX2_more 164 = .ok (.aload_n 0, 1) := dk_42 (dk_at dksX2_more_7 0 rfl rfl)
theorem dX2_more_165 : decode cX2_more 165 = .ok (.getfield 103, 3) := dk_180 0 103 (dk_at dksX2_more_7 1 rfl rfl)
theorem dX2_more_168 : decode cX2_more 168 = .ok (.aload_n 0, 1) := dk_42 (dk_at dksX2_more_7 4 rfl rfl)
theorem dX2_more_169 : decode cX2_more 169 = .ok (.aload_n 0, 1) := dk_42 (dk_at dksX2_more_7 5 rfl rfl)
theorem dX2_more_170 : decode cX2_more 170 = .ok (.getfield 103, 3) := dk_180 0 103 (dk_at dksX2_more_7 6 rfl rfl)
theorem dX2_more_173 : decode cX2_more 173 = .ok (.getfield 257, 3) := dk_180 1 1 (dk_at dksX2_more_7 9 rfl rfl)
theorem dX2_more_176 : decode cX2_more 176 = .ok (.iload_n 2, 1) := dk_28 (dk_at dksX2_more_7 12 rfl rfl)
theorem dX2_more_177 : decode cX2_more 177 = .ok (.bipush 31, 2) := dk_16 31 (dk_at dksX2_more_7 13 rfl rfl)
theorem dX2_more_179 : decode cX2_more 179 = .ok (.invokevirtual 253, 3) := dk_182 0 253 (dk_at dksX2_more_7 15 rfl rfl)
theorem dX2_more_182 : decode cX2_more 182 = .ok (.putfield 257, 3) := dk_181 1 1 (dk_at dksX2_more_7 18 rfl rfl)
theorem dX2_more_185 : decode cX2_more 185 = .ok (.goto 67, 3) := dk_167 0 67 (dk_at dksX2_more_7 21 rfl rfl)
theorem dX2_more_188 : decode cX2_more 188 = .ok (.aload_n 0, 1) := dk_42 (dk_at dksX2_more_8 0 rfl rfl)
theorem dX2_more_189 : decode cX2_more 189 = .ok (.aload_n 0, 1) := dk_42 (dk_at dksX2_more_8 1 rfl rfl)
theorem dX2_more_190 : decode cX2_more 190 = .ok (.getfield 103, 3) := dk_180 0 103 (dk_at dksX2_more_8 2 rfl rfl)
theorem dX2_more_193 : decode cX2_more 193 = .ok (.getfield 259, 3) := dk_180 1 3 (dk_at dksX2_more_8 5 rfl rfl)
theorem dX2_more_196 : decode cX2_more 196 = .ok (.ifnull 7, 3) := dk_198 0 7 (dk_at dksX2_more_8 8 rfl rfl)
theorem dX2_more_199 : decode cX2_more 199 = .ok (.iconst 1, 1) := dk_4 (dk_at dksX2_more_8 11 rfl rfl)
theorem dX2_more_200 : decode cX2_more 200 = .ok (.goto 4, 3) := dk_167 0 4 (dk_at dksX2_more_8 12 rfl rfl)
theorem dX2_more_203 : decode cX2_more 203 = .ok (.iconst 0, 1) := dk_3 (dk_at dksX2_more_8 15 rfl rfl)
theorem dX2_more_204 : decode cX2_more 204 = .ok (.iload_n 2, 1) := dk_28 (dk_at dksX2_more_8 16 rfl rfl)
theorem dX2_more_205 : decode cX2_more 205 = .ok (.invokevirtual 142, 3) := dk_182 0 142 (dk_at dksX2_more_8 17 rfl rfl)
theorem dX2_more_208 : decode cX2_more 208 = .ok (.aload_n 0, 1) := dk_42 (dk_at dksX2_more_8 20 rfl rfl)
theorem dX2_more_209 : decode cX2_more 209 = .ok (.bipush 31, 2) := dk_16 31 (dk_at dksX2_more_8 21 rfl rfl)
theorem dX2_more_211 : decode cX2_more 211 = .ok (.putfield 235, 3) := dk_181 0 235 (dk_at dksX2_more_9 0 rfl rfl)
theorem dX2_more_214 : decode cX2_more 214 = .ok (.aload_n 0, 1) := dk_42 (dk_at dksX2_more_9 3 rfl rfl)
theorem dX2_more_215 : decode cX2_more 215 = .ok (.getfield 103, 3) := dk_180 0 103 (dk_at dksX2_more_9 4 rfl rfl)
theorem dX2_more_218 : decode cX2_more 218 = .ok (.aload_n 0, 1) := dk_42 (dk_at dksX2_more_9 7 rfl rfl)
theorem dX2_more_219 : decode cX2_more 219 = .ok (.invokevirtual 262, 3) := dk_182 1 6 (dk_at dksX2_more_9 8 rfl rfl)
theorem dX2_more_222 : decode cX2_more 222 = .ok (.putfield 259, 3) := dk_181 1 3 (dk_at dksX2_more_9 11 rfl rfl)
theorem dX2_more_225 : decode cX2_more 225 = .ok (.goto 27, 3) := dk_167 0 27 (dk_at dksX2_more_9 14 rfl rfl)
theorem dX2_more_228 : decode cX2_more 228 = .ok (.aload_n 0, 1) := dk_42 (dk_at dksX2_more_9 17 rfl rfl)
theorem dX2_more_229 : decode cX2_more 229 = .ok (.getfield 103, 3) := dk_180 0 103 (dk_at dksX2_more_9 18 rfl rfl)
theorem dX2_more_232 : decode cX2_more 232 = .ok (.aload_n 0, 1) := dk_42 (dk_at dksX2_more_9 21 rfl rfl)
theorem dX2_more_233 : decode cX2_more 233 = .ok (.iconst 0, 1) := dk_3 (dk_at dksX2_more_9 22 rfl rfl)
theorem dX2_more_234 : decode cX2_more 234 = .ok (.bipush 100, 2) := dk_16 100 (dk_at dksX2_more_10 0 rfl rfl)
theorem dX2_more_236 : decode cX2_more 236 = .ok (.invokevirtual 96, 3) := dk_182 0 96 (dk_at dksX2_more_10 2 rfl rfl)
theorem dX2_more_239 : decode cX2_more 239 = .ok (.putfield 266, 3) := dk_181 1 10 (dk_at dksX2_more_10 5 rfl rfl)
theorem dX2_more_242 : decode cX2_more 242 = .ok (.goto 10, 3) := dk_167 0 10 (dk_at dksX2_more_10 8 rfl rfl)
theorem dX2_more_245 : decode cX2_more 245 = .ok (.aload_n 0, 1) := dk_42 (dk_at dksX2_more_10 11 rfl rfl)
theorem dX2_more_246 : decode cX2_more 246 = .ok (.iconst 1, 1) := dk_4 (dk_at dksX2_more_10 12 rfl rfl)
theorem dX2_more_247 : decode cX2_more 247 = .ok (.iload_n 2, 1) := dk_28 (dk_at dksX2_more_10 13 rfl rfl)
theorem dX2_more_248 : decode cX2_more 248 = .ok (.invokevirtual 47, 3) := dk_182 0 47 (dk_at dksX2_more_10 14 rfl rfl)
theorem dX2_more_251 : decode cX2_more 251 = .ok (.athrow, 1) := dk_191 (dk_at dksX2_more_10 17 rfl rfl)
theorem dX2_more_252 : decode cX2_more 252 = .ok (.return_, 1) := dk_177 (dk_at dksX2_more_10 18 rfl rfl)
abbrev cX2_once : ByteArray := prog_17_method_22_code
def yX2_once : MethodName := ⟨RX2, "once", "(LShrugHills$Value;II)LShrugHills$Value;"⟩
def dkwX2_once_0 : List UInt8 := [42, 43, 198, 0, 7, 4, 167, 0, 4, 3, 28, 182, 0, 142, 42, 29, 181, 0, 235, 42, 182, 0, 238, 176]
abbrev dktX2_once_0 : List UInt8 := dkwX2_once_0 ++ []
theorem dksX2_once_0 : cX2_once.data.toList.drop 0 = dktX2_once_0 := by decide +kernel
theorem dX2_once_0 : decode cX2_once 0 = .ok (.aload_n 0, 1) := dk_42 (dk_at dksX2_once_0 0 rfl rfl)
theorem dX2_once_1 : decode cX2_once 1 = .ok (.aload_n 1, 1) := dk_43 (dk_at dksX2_once_0 1 rfl rfl)
theorem dX2_once_2 : decode cX2_once 2 = .ok (.ifnull 7, 3) := dk_198 0 7 (dk_at dksX2_once_0 2 rfl rfl)
theorem dX2_once_5 : decode cX2_once 5 = .ok (.iconst 1, 1) := dk_4 (dk_at dksX2_once_0 5 rfl rfl)
theorem dX2_once_6 : decode cX2_once 6 = .ok (.goto 4, 3) := dk_167 0 4 (dk_at dksX2_once_0 6 rfl rfl)
theorem dX2_once_9 : decode cX2_once 9 = .ok (.iconst 0, 1) := dk_3 (dk_at dksX2_once_0 9 rfl rfl)
theorem dX2_once_10 : decode cX2_once 10 = .ok (.iload_n 2, 1) := dk_28 (dk_at dksX2_once_0 10 rfl rfl)
theorem dX2_once_11 : decode cX2_once 11 = .ok (.invokevirtual 142, 3) := dk_182 0 142 (dk_at dksX2_once_0 11 rfl rfl)
theorem dX2_once_14 : decode cX2_once 14 = .ok (.aload_n 0, 1) := dk_42 (dk_at dksX2_once_0 14 rfl rfl)
theorem dX2_once_15 : decode cX2_once 15 = .ok (.iload_n 3, 1) := dk_29 (dk_at dksX2_once_0 15 rfl rfl)
theorem dX2_once_16 : decode cX2_once 16 = .ok (.putfield 235, 3) := dk_181 0 235 (dk_at dksX2_once_0 16 rfl rfl)
theorem dX2_once_19 : decode cX2_once 19 = .ok (.aload_n 0, 1) := dk_42 (dk_at dksX2_once_0 19 rfl rfl)
theorem dX2_once_20 : decode cX2_once 20 = .ok (.invokevirtual 238, 3) := dk_182 0 238 (dk_at dksX2_once_0 20 rfl rfl)
theorem dX2_once_23 : decode cX2_once 23 = .ok (.areturn, 1) := dk_176 (dk_at dksX2_once_0 23 rfl rfl)
abbrev cX2_sum : ByteArray := prog_17_method_25_code
def yX2_sum : MethodName := ⟨RX2, "sum", "()LShrugHills$Value;"⟩
def dkwX2_sum_3 : List UInt8 := [167, 255, 206, 43, 176]
abbrev dktX2_sum_3 : List UInt8 := dkwX2_sum_3 ++ []
def dkwX2_sum_2 : List UInt8 := [16, 45, 182, 1, 21, 153, 0, 16, 43, 16, 45, 42, 182, 1, 15, 182, 1, 18, 167, 255, 211, 3, 61]
abbrev dktX2_sum_2 : List UInt8 := dkwX2_sum_2 ++ dktX2_sum_3
def dkwX2_sum_1 : List UInt8 := [42, 16, 43, 182, 1, 21, 153, 0, 16, 43, 16, 43, 42, 182, 1, 15, 182, 1, 18, 167, 255, 233, 42]
abbrev dktX2_sum_1 : List UInt8 := dkwX2_sum_1 ++ dktX2_sum_2
def dkwX2_sum_0 : List UInt8 := [187, 1, 12, 89, 183, 1, 14, 76, 43, 16, 43, 42, 182, 1, 15, 182, 1, 18, 4, 61, 28, 153, 0, 52]
abbrev dktX2_sum_0 : List UInt8 := dkwX2_sum_0 ++ dktX2_sum_1
theorem dksX2_sum_0 : cX2_sum.data.toList.drop 0 = dktX2_sum_0 := by decide +kernel
theorem dksX2_sum_1 : cX2_sum.data.toList.drop 24 = dktX2_sum_1 := dk_seg dksX2_sum_0 24 rfl rfl
theorem dksX2_sum_2 : cX2_sum.data.toList.drop 47 = dktX2_sum_2 := dk_seg dksX2_sum_1 23 rfl rfl
theorem dksX2_sum_3 : cX2_sum.data.toList.drop 70 = dktX2_sum_3 := dk_seg dksX2_sum_2 23 rfl rfl
theorem dX2_sum_0 : decode cX2_sum 0 = .ok (.new 268, 3) := dk_187 1 12 (dk_at dksX2_sum_0 0 rfl rfl)
theorem dX2_sum_3 : decode cX2_sum 3 = .ok (.dup, 1) := dk_89 (dk_at dksX2_sum_0 3 rfl rfl)
theorem dX2_sum_4 : decode cX2_sum 4 = .ok (.invokespecial 270, 3) := dk_183 1 14 (dk_at dksX2_sum_0 4 rfl rfl)
theorem dX2_sum_7 : decode cX2_sum 7 = .ok (.astore_n 1, 1) := dk_76 (dk_at dksX2_sum_0 7 rfl rfl)
theorem dX2_sum_8 : decode cX2_sum 8 = .ok (.aload_n 1, 1) := dk_43 (dk_at dksX2_sum_0 8 rfl rfl)
theorem dX2_sum_9 : decode cX2_sum 9 = .ok (.bipush 43, 2) := dk_16 43 (dk_at dksX2_sum_0 9 rfl rfl)
theorem dX2_sum_11 : decode cX2_sum 11 = .ok (.aload_n 0, 1) := dk_42 (dk_at dksX2_sum_0 11 rfl rfl)
theorem dX2_sum_12 : decode cX2_sum 12 = .ok (.invokevirtual 271, 3) := dk_182 1 15 (dk_at dksX2_sum_0 12 rfl rfl)
theorem dX2_sum_15 : decode cX2_sum 15 = .ok (.invokevirtual 274, 3) := dk_182 1 18 (dk_at dksX2_sum_0 15 rfl rfl)
theorem dX2_sum_18 : decode cX2_sum 18 = .ok (.iconst 1, 1) := dk_4 (dk_at dksX2_sum_0 18 rfl rfl)
theorem dX2_sum_19 : decode cX2_sum 19 = .ok (.istore_n 2, 1) := dk_61 (dk_at dksX2_sum_0 19 rfl rfl)
theorem dX2_sum_20 : decode cX2_sum 20 = .ok (.iload_n 2, 1) := dk_28 (dk_at dksX2_sum_0 20 rfl rfl)
theorem dX2_sum_21 : decode cX2_sum 21 = .ok (.ifCond .eq 52, 3) := dk_153 0 52 (dk_at dksX2_sum_0 21 rfl rfl)
theorem dX2_sum_24 : decode cX2_sum 24 = .ok (.aload_n 0, 1) := dk_42 (dk_at dksX2_sum_1 0 rfl rfl)
theorem dX2_sum_25 : decode cX2_sum 25 = .ok (.bipush 43, 2) := dk_16 43 (dk_at dksX2_sum_1 1 rfl rfl)
theorem dX2_sum_27 : decode cX2_sum 27 = .ok (.invokevirtual 277, 3) := dk_182 1 21 (dk_at dksX2_sum_1 3 rfl rfl)
theorem dX2_sum_30 : decode cX2_sum 30 = .ok (.ifCond .eq 16, 3) := dk_153 0 16 (dk_at dksX2_sum_1 6 rfl rfl)
theorem dX2_sum_33 : decode cX2_sum 33 = .ok (.aload_n 1, 1) := dk_43 (dk_at dksX2_sum_1 9 rfl rfl)
theorem dX2_sum_34 : decode cX2_sum 34 = .ok (.bipush 43, 2) := dk_16 43 (dk_at dksX2_sum_1 10 rfl rfl)
theorem dX2_sum_36 : decode cX2_sum 36 = .ok (.aload_n 0, 1) := dk_42 (dk_at dksX2_sum_1 12 rfl rfl)
theorem dX2_sum_37 : decode cX2_sum 37 = .ok (.invokevirtual 271, 3) := dk_182 1 15 (dk_at dksX2_sum_1 13 rfl rfl)
theorem dX2_sum_40 : decode cX2_sum 40 = .ok (.invokevirtual 274, 3) := dk_182 1 18 (dk_at dksX2_sum_1 16 rfl rfl)
theorem dX2_sum_43 : decode cX2_sum 43 = .ok (.goto (-23), 3) := dk_167 255 233 (dk_at dksX2_sum_1 19 rfl rfl)
theorem dX2_sum_46 : decode cX2_sum 46 = .ok (.aload_n 0, 1) := dk_42 (dk_at dksX2_sum_1 22 rfl rfl)
theorem dX2_sum_47 : decode cX2_sum 47 = .ok (.bipush 45, 2) := dk_16 45 (dk_at dksX2_sum_2 0 rfl rfl)
theorem dX2_sum_49 : decode cX2_sum 49 = .ok (.invokevirtual 277, 3) := dk_182 1 21 (dk_at dksX2_sum_2 2 rfl rfl)
theorem dX2_sum_52 : decode cX2_sum 52 = .ok (.ifCond .eq 16, 3) := dk_153 0 16 (dk_at dksX2_sum_2 5 rfl rfl)
theorem dX2_sum_55 : decode cX2_sum 55 = .ok (.aload_n 1, 1) := dk_43 (dk_at dksX2_sum_2 8 rfl rfl)
theorem dX2_sum_56 : decode cX2_sum 56 = .ok (.bipush 45, 2) := dk_16 45 (dk_at dksX2_sum_2 9 rfl rfl)
theorem dX2_sum_58 : decode cX2_sum 58 = .ok (.aload_n 0, 1) := dk_42 (dk_at dksX2_sum_2 11 rfl rfl)
theorem dX2_sum_59 : decode cX2_sum 59 = .ok (.invokevirtual 271, 3) := dk_182 1 15 (dk_at dksX2_sum_2 12 rfl rfl)
theorem dX2_sum_62 : decode cX2_sum 62 = .ok (.invokevirtual 274, 3) := dk_182 1 18 (dk_at dksX2_sum_2 15 rfl rfl)
theorem dX2_sum_65 : decode cX2_sum 65 = .ok (.goto (-45), 3) := dk_167 255 211 (dk_at dksX2_sum_2 18 rfl rfl)
theorem dX2_sum_68 : decode cX2_sum 68 = .ok (.iconst 0, 1) := dk_3 (dk_at dksX2_sum_2 21 rfl rfl)
theorem dX2_sum_69 : decode cX2_sum 69 = .ok (.istore_n 2, 1) := dk_61 (dk_at dksX2_sum_2 22 rfl rfl)
theorem dX2_sum_70 : decode cX2_sum 70 = .ok (.goto (-50), 3) := dk_167 255 206 (dk_at dksX2_sum_3 0 rfl rfl)
theorem dX2_sum_73 : decode cX2_sum 73 = .ok (.aload_n 1, 1) := dk_43 (dk_at dksX2_sum_3 3 rfl rfl)
theorem dX2_sum_74 : decode cX2_sum 74 = .ok (.areturn, 1) := dk_176 (dk_at dksX2_sum_3 4 rfl rfl)
abbrev cX2_product : ByteArray := prog_17_method_26_code
def yX2_product : MethodName := ⟨RX2, "product", "()LShrugHills$Value;"⟩
def dkwX2_product_3 : List UInt8 := [167, 255, 206, 43, 176]
abbrev dktX2_product_3 : List UInt8 := dkwX2_product_3 ++ []
def dkwX2_product_2 : List UInt8 := [16, 47, 182, 1, 21, 153, 0, 16, 43, 16, 47, 42, 182, 1, 24, 182, 1, 18, 167, 255, 211, 3, 61]
abbrev dktX2_product_2 : List UInt8 := dkwX2_product_2 ++ dktX2_product_3
def dkwX2_product_1 : List UInt8 := [42, 16, 42, 182, 1, 21, 153, 0, 16, 43, 16, 42, 42, 182, 1, 24, 182, 1, 18, 167, 255, 233, 42]
abbrev dktX2_product_1 : List UInt8 := dkwX2_product_1 ++ dktX2_product_2
def dkwX2_product_0 : List UInt8 := [187, 1, 12, 89, 183, 1, 14, 76, 43, 16, 42, 42, 182, 1, 24, 182, 1, 18, 4, 61, 28, 153, 0, 52]
abbrev dktX2_product_0 : List UInt8 := dkwX2_product_0 ++ dktX2_product_1
theorem dksX2_product_0 : cX2_product.data.toList.drop 0 = dktX2_product_0 := by decide +kernel
theorem dksX2_product_1 : cX2_product.data.toList.drop 24 = dktX2_product_1 := dk_seg dksX2_product_0 24 rfl rfl
theorem dksX2_product_2 : cX2_product.data.toList.drop 47 = dktX2_product_2 := dk_seg dksX2_product_1 23 rfl rfl
theorem dksX2_product_3 : cX2_product.data.toList.drop 70 = dktX2_product_3 := dk_seg dksX2_product_2 23 rfl rfl
theorem dX2_product_0 : decode cX2_product 0 = .ok (.new 268, 3) := dk_187 1 12 (dk_at dksX2_product_0 0 rfl rfl)
theorem dX2_product_3 : decode cX2_product 3 = .ok (.dup, 1) := dk_89 (dk_at dksX2_product_0 3 rfl rfl)
theorem dX2_product_4 : decode cX2_product 4 = .ok (.invokespecial 270, 3) := dk_183 1 14 (dk_at dksX2_product_0 4 rfl rfl)
theorem dX2_product_7 : decode cX2_product 7 = .ok (.astore_n 1, 1) := dk_76 (dk_at dksX2_product_0 7 rfl rfl)
theorem dX2_product_8 : decode cX2_product 8 = .ok (.aload_n 1, 1) := dk_43 (dk_at dksX2_product_0 8 rfl rfl)
theorem dX2_product_9 : decode cX2_product 9 = .ok (.bipush 42, 2) := dk_16 42 (dk_at dksX2_product_0 9 rfl rfl)
theorem dX2_product_11 : decode cX2_product 11 = .ok (.aload_n 0, 1) := dk_42 (dk_at dksX2_product_0 11 rfl rfl)
theorem dX2_product_12 : decode cX2_product 12 = .ok (.invokevirtual 280, 3) := dk_182 1 24 (dk_at dksX2_product_0 12 rfl rfl)
theorem dX2_product_15 : decode cX2_product 15 = .ok (.invokevirtual 274, 3) := dk_182 1 18 (dk_at dksX2_product_0 15 rfl rfl)
theorem dX2_product_18 : decode cX2_product 18 = .ok (.iconst 1, 1) := dk_4 (dk_at dksX2_product_0 18 rfl rfl)
theorem dX2_product_19 : decode cX2_product 19 = .ok (.istore_n 2, 1) := dk_61 (dk_at dksX2_product_0 19 rfl rfl)
theorem dX2_product_20 : decode cX2_product 20 = .ok (.iload_n 2, 1) := dk_28 (dk_at dksX2_product_0 20 rfl rfl)
theorem dX2_product_21 : decode cX2_product 21 = .ok (.ifCond .eq 52, 3) := dk_153 0 52 (dk_at dksX2_product_0 21 rfl rfl)
theorem dX2_product_24 : decode cX2_product 24 = .ok (.aload_n 0, 1) := dk_42 (dk_at dksX2_product_1 0 rfl rfl)
theorem dX2_product_25 : decode cX2_product 25 = .ok (.bipush 42, 2) := dk_16 42 (dk_at dksX2_product_1 1 rfl rfl)
theorem dX2_product_27 : decode cX2_product 27 = .ok (.invokevirtual 277, 3) := dk_182 1 21 (dk_at dksX2_product_1 3 rfl rfl)
theorem dX2_product_30 : decode cX2_product 30 = .ok (.ifCond .eq 16, 3) := dk_153 0 16 (dk_at dksX2_product_1 6 rfl rfl)
theorem dX2_product_33 : decode cX2_product 33 = .ok (.aload_n 1, 1) := dk_43 (dk_at dksX2_product_1 9 rfl rfl)
theorem dX2_product_34 : decode cX2_product 34 = .ok (.bipush 42, 2) := dk_16 42 (dk_at dksX2_product_1 10 rfl rfl)
theorem dX2_product_36 : decode cX2_product 36 = .ok (.aload_n 0, 1) := dk_42 (dk_at dksX2_product_1 12 rfl rfl)
theorem dX2_product_37 : decode cX2_product 37 = .ok (.invokevirtual 280, 3) := dk_182 1 24 (dk_at dksX2_product_1 13 rfl rfl)
theorem dX2_product_40 : decode cX2_product 40 = .ok (.invokevirtual 274, 3) := dk_182 1 18 (dk_at dksX2_product_1 16 rfl rfl)
theorem dX2_product_43 : decode cX2_product 43 = .ok (.goto (-23), 3) := dk_167 255 233 (dk_at dksX2_product_1 19 rfl rfl)
theorem dX2_product_46 : decode cX2_product 46 = .ok (.aload_n 0, 1) := dk_42 (dk_at dksX2_product_1 22 rfl rfl)
theorem dX2_product_47 : decode cX2_product 47 = .ok (.bipush 47, 2) := dk_16 47 (dk_at dksX2_product_2 0 rfl rfl)
theorem dX2_product_49 : decode cX2_product 49 = .ok (.invokevirtual 277, 3) := dk_182 1 21 (dk_at dksX2_product_2 2 rfl rfl)
theorem dX2_product_52 : decode cX2_product 52 = .ok (.ifCond .eq 16, 3) := dk_153 0 16 (dk_at dksX2_product_2 5 rfl rfl)
theorem dX2_product_55 : decode cX2_product 55 = .ok (.aload_n 1, 1) := dk_43 (dk_at dksX2_product_2 8 rfl rfl)
theorem dX2_product_56 : decode cX2_product 56 = .ok (.bipush 47, 2) := dk_16 47 (dk_at dksX2_product_2 9 rfl rfl)
theorem dX2_product_58 : decode cX2_product 58 = .ok (.aload_n 0, 1) := dk_42 (dk_at dksX2_product_2 11 rfl rfl)
theorem dX2_product_59 : decode cX2_product 59 = .ok (.invokevirtual 280, 3) := dk_182 1 24 (dk_at dksX2_product_2 12 rfl rfl)
theorem dX2_product_62 : decode cX2_product 62 = .ok (.invokevirtual 274, 3) := dk_182 1 18 (dk_at dksX2_product_2 15 rfl rfl)
theorem dX2_product_65 : decode cX2_product 65 = .ok (.goto (-45), 3) := dk_167 255 211 (dk_at dksX2_product_2 18 rfl rfl)
theorem dX2_product_68 : decode cX2_product 68 = .ok (.iconst 0, 1) := dk_3 (dk_at dksX2_product_2 21 rfl rfl)
theorem dX2_product_69 : decode cX2_product 69 = .ok (.istore_n 2, 1) := dk_61 (dk_at dksX2_product_2 22 rfl rfl)
theorem dX2_product_70 : decode cX2_product 70 = .ok (.goto (-50), 3) := dk_167 255 206 (dk_at dksX2_product_3 0 rfl rfl)
theorem dX2_product_73 : decode cX2_product 73 = .ok (.aload_n 1, 1) := dk_43 (dk_at dksX2_product_3 3 rfl rfl)
theorem dX2_product_74 : decode cX2_product 74 = .ok (.areturn, 1) := dk_176 (dk_at dksX2_product_3 4 rfl rfl)
abbrev cX2_atom : ByteArray := prog_17_method_29_code
def yX2_atom : MethodName := ⟨RX2, "atom", "()LShrugHills$Value;"⟩
def dkwX2_atom_7 : List UInt8 := [182, 1, 35, 176]
abbrev dktX2_atom_7 : List UInt8 := dkwX2_atom_7 ++ []
def dkwX2_atom_6 : List UInt8 := [180, 0, 61, 182, 0, 47, 191, 42, 43, 19, 1, 57, 182, 0, 74, 153, 0, 7, 4, 167, 0, 4, 5]
abbrev dktX2_atom_6 : List UInt8 := dkwX2_atom_6 ++ dktX2_atom_7
def dkwX2_atom_5 : List UInt8 := [19, 1, 57, 182, 0, 74, 154, 0, 23, 43, 19, 1, 59, 182, 0, 74, 154, 0, 13, 42, 4, 42]
abbrev dktX2_atom_5 : List UInt8 := dkwX2_atom_5 ++ dktX2_atom_6
def dkwX2_atom_4 : List UInt8 := [178, 1, 51, 184, 0, 82, 167, 0, 4, 2, 61, 28, 2, 159, 0, 9, 42, 28, 182, 1, 54, 176, 43]
abbrev dktX2_atom_4 : List UInt8 := dkwX2_atom_4 ++ dktX2_atom_5
def dkwX2_atom_3 : List UInt8 := [153, 0, 12, 187, 1, 47, 89, 28, 183, 1, 49, 176, 42, 180, 0, 235, 17, 1, 207, 160, 0, 13, 43]
abbrev dktX2_atom_3 : List UInt8 := dkwX2_atom_3 ++ dktX2_atom_4
def dkwX2_atom_2 : List UInt8 := [76, 43, 178, 1, 44, 184, 0, 82, 61, 28, 2, 159, 0, 23, 42, 180, 0, 235, 28, 184, 0, 198]
abbrev dktX2_atom_2 : List UInt8 := dkwX2_atom_2 ++ dktX2_atom_3
def dkwX2_atom_1 : List UInt8 := [153, 0, 20, 187, 1, 39, 89, 42, 3, 17, 39, 15, 182, 0, 96, 133, 183, 1, 41, 176, 42, 182, 0, 70]
abbrev dktX2_atom_1 : List UInt8 := dkwX2_atom_1 ++ dktX2_atom_2
def dkwX2_atom_0 : List UInt8 := [42, 182, 0, 43, 16, 40, 160, 0, 9, 42, 3, 182, 1, 35, 176, 42, 182, 0, 43, 184, 0, 55]
abbrev dktX2_atom_0 : List UInt8 := dkwX2_atom_0 ++ dktX2_atom_1
theorem dksX2_atom_0 : cX2_atom.data.toList.drop 0 = dktX2_atom_0 := by decide +kernel
theorem dksX2_atom_1 : cX2_atom.data.toList.drop 22 = dktX2_atom_1 := dk_seg dksX2_atom_0 22 rfl rfl
theorem dksX2_atom_2 : cX2_atom.data.toList.drop 46 = dktX2_atom_2 := dk_seg dksX2_atom_1 24 rfl rfl
theorem dksX2_atom_3 : cX2_atom.data.toList.drop 68 = dktX2_atom_3 := dk_seg dksX2_atom_2 22 rfl rfl
theorem dksX2_atom_4 : cX2_atom.data.toList.drop 91 = dktX2_atom_4 := dk_seg dksX2_atom_3 23 rfl rfl
theorem dksX2_atom_5 : cX2_atom.data.toList.drop 114 = dktX2_atom_5 := dk_seg dksX2_atom_4 23 rfl rfl
theorem dksX2_atom_6 : cX2_atom.data.toList.drop 136 = dktX2_atom_6 := dk_seg dksX2_atom_5 22 rfl rfl
theorem dksX2_atom_7 : cX2_atom.data.toList.drop 159 = dktX2_atom_7 := dk_seg dksX2_atom_6 23 rfl rfl
theorem dX2_atom_0 : decode cX2_atom 0 = .ok (.aload_n 0, 1) := dk_42 (dk_at dksX2_atom_0 0 rfl rfl)
theorem dX2_atom_1 : decode cX2_atom 1 = .ok (.invokevirtual 43, 3) := dk_182 0 43 (dk_at dksX2_atom_0 1 rfl rfl)
theorem dX2_atom_4 : decode cX2_atom 4 = .ok (.bipush 40, 2) := dk_16 40 (dk_at dksX2_atom_0 4 rfl rfl)
theorem dX2_atom_6 : decode cX2_atom 6 = .ok (.if_icmp .ne 9, 3) := dk_160 0 9 (dk_at dksX2_atom_0 6 rfl rfl)
theorem dX2_atom_9 : decode cX2_atom 9 = .ok (.aload_n 0, 1) := dk_42 (dk_at dksX2_atom_0 9 rfl rfl)
theorem dX2_atom_10 : decode cX2_atom 10 = .ok (.iconst 0, 1) := dk_3 (dk_at dksX2_atom_0 10 rfl rfl)
theorem dX2_atom_11 : decode cX2_atom 11 = .ok (.invokevirtual 291, 3) := dk_182 1 35 (dk_at dksX2_atom_0 11 rfl rfl)
theorem dX2_atom_14 : decode cX2_atom 14 = .ok (.areturn, 1) := dk_176 (dk_at dksX2_atom_0 14 rfl rfl)
theorem dX2_atom_15 : decode cX2_atom 15 = .ok (.aload_n 0, 1) := dk_42 (dk_at dksX2_atom_0 15 rfl rfl)
theorem dX2_atom_16 : decode cX2_atom 16 = .ok (.invokevirtual 43, 3) := dk_182 0 43 (dk_at dksX2_atom_0 16 rfl rfl)
theorem dX2_atom_19 : decode cX2_atom 19 = .ok (.invokestatic 55, 3) := dk_184 0 55 (dk_at dksX2_atom_0 19 rfl rfl)
theorem dX2_atom_22 : decode cX2_atom 22 = .ok (.ifCond .eq 20, 3) := dk_153 0 20 (dk_at dksX2_atom_1 0 rfl rfl)
theorem dX2_atom_25 : decode cX2_atom 25 = .ok (.new 295, 3) := dk_187 1 39 (dk_at dksX2_atom_1 3 rfl rfl)
theorem dX2_atom_28 : decode cX2_atom 28 = .ok (.dup, 1) := dk_89 (dk_at dksX2_atom_1 6 rfl rfl)
theorem dX2_atom_29 : decode cX2_atom 29 = .ok (.aload_n 0, 1) := dk_42 (dk_at dksX2_atom_1 7 rfl rfl)
theorem dX2_atom_30 : decode cX2_atom 30 = .ok (.iconst 0, 1) := dk_3 (dk_at dksX2_atom_1 8 rfl rfl)
theorem dX2_atom_31 : decode cX2_atom 31 = .ok (.sipush 9999, 3) := dk_17 39 15 (dk_at dksX2_atom_1 9 rfl rfl)
theorem dX2_atom_34 : decode cX2_atom 34 = .ok (.invokevirtual 96, 3) := dk_182 0 96 (dk_at dksX2_atom_1 12 rfl rfl)
theorem dX2_atom_37 : decode cX2_atom 37 = .ok (.i2l, 1) := dk_133 (dk_at dksX2_atom_1 15 rfl rfl)
theorem dX2_atom_38 : decode cX2_atom 38 = .ok (.invokespecial 297, 3) := dk_183 1 41 (dk_at dksX2_atom_1 16 rfl rfl)
theorem dX2_atom_41 : decode cX2_atom 41 = .ok (.areturn, 1) := dk_176 (dk_at dksX2_atom_1 19 rfl rfl)
theorem dX2_atom_42 : decode cX2_atom 42 = .ok (.aload_n 0, 1) := dk_42 (dk_at dksX2_atom_1 20 rfl rfl)
theorem dX2_atom_43 : decode cX2_atom 43 = .ok (.invokevirtual 70, 3) := dk_182 0 70 (dk_at dksX2_atom_1 21 rfl rfl)
theorem dX2_atom_46 : decode cX2_atom 46 = .ok (.astore_n 1, 1) := dk_76 (dk_at dksX2_atom_2 0 rfl rfl)
theorem dX2_atom_47 : decode cX2_atom 47 = .ok (.aload_n 1, 1) := dk_43 (dk_at dksX2_atom_2 1 rfl rfl)
theorem dX2_atom_48 : decode cX2_atom 48 = .ok (.getstatic 300, 3) := dk_178 1 44 (dk_at dksX2_atom_2 2 rfl rfl)
theorem dX2_atom_51 : decode cX2_atom 51 = .ok (.invokestatic 82, 3) := dk_184 0 82 (dk_at dksX2_atom_2 5 rfl rfl)
theorem dX2_atom_54 : decode cX2_atom 54 = .ok (.istore_n 2, 1) := dk_61 (dk_at dksX2_atom_2 8 rfl rfl)
theorem dX2_atom_55 : decode cX2_atom 55 = .ok (.iload_n 2, 1) := dk_28 (dk_at dksX2_atom_2 9 rfl rfl)
theorem dX2_atom_56 : decode cX2_atom 56 = .ok (.iconst (-1), 1) := dk_2 (dk_at dksX2_atom_2 10 rfl rfl)
theorem dX2_atom_57 : decode cX2_atom 57 = .ok (.if_icmp .eq 23, 3) := dk_159 0 23 (dk_at dksX2_atom_2 11 rfl rfl)
theorem dX2_atom_60 : decode cX2_atom 60 = .ok (.aload_n 0, 1) := dk_42 (dk_at dksX2_atom_2 14 rfl rfl)
theorem dX2_atom_61 : decode cX2_atom 61 = .ok (.getfield 235, 3) := dk_180 0 235 (dk_at dksX2_atom_2 15 rfl rfl)
theorem dX2_atom_64 : decode cX2_atom 64 = .ok (.iload_n 2, 1) := dk_28 (dk_at dksX2_atom_2 18 rfl rfl)
theorem dX2_atom_65 : decode cX2_atom 65 = .ok (.invokestatic 198, 3) := dk_184 0 198 (dk_at dksX2_atom_2 19 rfl rfl)
theorem dX2_atom_68 : decode cX2_atom 68 = .ok (.ifCond .eq 12, 3) := dk_153 0 12 (dk_at dksX2_atom_3 0 rfl rfl)
theorem dX2_atom_71 : decode cX2_atom 71 = .ok (.new 303, 3) := dk_187 1 47 (dk_at dksX2_atom_3 3 rfl rfl)
theorem dX2_atom_74 : decode cX2_atom 74 = .ok (.dup, 1) := dk_89 (dk_at dksX2_atom_3 6 rfl rfl)
theorem dX2_atom_75 : decode cX2_atom 75 = .ok (.iload_n 2, 1) := dk_28 (dk_at dksX2_atom_3 7 rfl rfl)
theorem dX2_atom_76 : decode cX2_atom 76 = .ok (.invokespecial 305, 3) := dk_183 1 49 (dk_at dksX2_atom_3 8 rfl rfl)
theorem dX2_atom_79 : decode cX2_atom 79 = .ok (.areturn, 1) := dk_176 (dk_at dksX2_atom_3 11 rfl rfl)
theorem dX2_atom_80 : decode cX2_atom 80 = .ok (.aload_n 0, 1) := dk_42 (dk_at dksX2_atom_3 12 rfl rfl)
theorem dX2_atom_81 : decode cX2_atom 81 = .ok (.getfield 235, 3) := dk_180 0 235 (dk_at dksX2_atom_3 13 rfl rfl)
theorem dX2_atom_84 : decode cX2_atom 84 = .ok (.sipush 463, 3) := dk_17 1 207 (dk_at dksX2_atom_3 16 rfl rfl)
theorem dX2_atom_87 : decode cX2_atom 87 = .ok (.if_icmp .ne 13, 3) := dk_160 0 13 (dk_at dksX2_atom_3 19 rfl rfl)
theorem dX2_atom_90 : decode cX2_atom 90 = .ok (.aload_n 1, 1) := dk_43 (dk_at dksX2_atom_3 22 rfl rfl)
theorem dX2_atom_91 : decode cX2_atom 91 = .ok (.getstatic 307, 3) := dk_178 1 51 (dk_at dksX2_atom_4 0 rfl rfl)
theorem dX2_atom_94 : decode cX2_atom 94 = .ok (.invokestatic 82, 3) := dk_184 0 82 (dk_at dksX2_atom_4 3 rfl rfl)
theorem dX2_atom_97 : decode cX2_atom 97 = .ok (.goto 4, 3) := dk_167 0 4 (dk_at dksX2_atom_4 6 rfl rfl)
theorem dX2_atom_100 : decode cX2_atom 100 = .ok (.iconst (-1), 1) := dk_2 (dk_at dksX2_atom_4 9 rfl rfl)
theorem dX2_atom_101 : decode cX2_atom 101 = .ok (.istore_n 2, 1) := dk_61 (dk_at dksX2_atom_4 10 rfl rfl)
theorem dX2_atom_102 : decode cX2_atom 102 = .ok (.iload_n 2, 1) := dk_28 (dk_at dksX2_atom_4 11 rfl rfl)
theorem dX2_atom_103 : decode cX2_atom 103 = .ok (.iconst (-1), 1) := dk_2 (dk_at dksX2_atom_4 12 rfl rfl)
theorem dX2_atom_104 : decode cX2_atom 104 = .ok (.if_icmp .eq 9, 3) := dk_159 0 9 (dk_at dksX2_atom_4 13 rfl rfl)
theorem dX2_atom_107 : decode cX2_atom 107 = .ok (.aload_n 0, 1) := dk_42 (dk_at dksX2_atom_4 16 rfl rfl)
theorem dX2_atom_108 : decode cX2_atom 108 = .ok (.iload_n 2, 1) := dk_28 (dk_at dksX2_atom_4 17 rfl rfl)
theorem dX2_atom_109 : decode cX2_atom 109 = .ok (.invokevirtual 310, 3) := dk_182 1 54 (dk_at dksX2_atom_4 18 rfl rfl)
theorem dX2_atom_112 : decode cX2_atom 112 = .ok (.areturn, 1) := dk_176 (dk_at dksX2_atom_4 21 rfl rfl)
theorem dX2_atom_113 : decode cX2_atom 113 = .ok (.aload_n 1, 1) := dk_43 (dk_at dksX2_atom_4 22 rfl rfl)
theorem dX2_atom_114 : decode cX2_atom 114 = .ok (.ldc_w 313, 3) := dk_19 1 57 (dk_at dksX2_atom_5 0 rfl rfl)
theorem dX2_atom_117 : decode cX2_atom 117 = .ok (.invokevirtual 74, 3) := dk_182 0 74 (dk_at dksX2_atom_5 3 rfl rfl)
theorem dX2_atom_120 : decode cX2_atom 120 = .ok (.ifCond .ne 23, 3) := dk_154 0 23 (dk_at dksX2_atom_5 6 rfl rfl)
theorem dX2_atom_123 : decode cX2_atom 123 = .ok (.aload_n 1, 1) := dk_43 (dk_at dksX2_atom_5 9 rfl rfl)
theorem dX2_atom_124 : decode cX2_atom 124 = .ok (.ldc_w 315, 3) := dk_19 1 59 (dk_at dksX2_atom_5 10 rfl rfl)
theorem dX2_atom_127 : decode cX2_atom 127 = .ok (.invokevirtual 74, 3) := dk_182 0 74 (dk_at dksX2_atom_5 13 rfl rfl)
theorem dX2_atom_130 : decode cX2_atom 130 = .ok (.ifCond .ne 13, 3) := dk_154 0 13 (dk_at dksX2_atom_5 16 rfl rfl)
theorem dX2_atom_133 : decode cX2_atom 133 = .ok (.aload_n 0, 1) := dk_42 (dk_at dksX2_atom_5 19 rfl rfl)
theorem dX2_atom_134 : decode cX2_atom 134 = .ok (.iconst 1, 1) := dk_4 (dk_at dksX2_atom_5 20 rfl rfl)
theorem dX2_atom_135 : decode cX2_atom 135 = .ok (.aload_n 0, 1) := dk_42 (dk_at dksX2_atom_5 21 rfl rfl)
theorem dX2_atom_136 : decode cX2_atom 136 = .ok (.getfield 61, 3) := dk_180 0 61 (dk_at dksX2_atom_6 0 rfl rfl)
theorem dX2_atom_139 : decode cX2_atom 139 = .ok (.invokevirtual 47, 3) := dk_182 0 47 (dk_at dksX2_atom_6 3 rfl rfl)
theorem dX2_atom_142 : decode cX2_atom 142 = .ok (.athrow, 1) := dk_191 (dk_at dksX2_atom_6 6 rfl rfl)
theorem dX2_atom_143 : decode cX2_atom 143 = .ok (.aload_n 0, 1) := dk_42 (dk_at dksX2_atom_6 7 rfl rfl)
theorem dX2_atom_144 : decode cX2_atom 144 = .ok (.aload_n 1, 1) := dk_43 (dk_at dksX2_atom_6 8 rfl rfl)
theorem dX2_atom_145 : decode cX2_atom 145 = .ok (.ldc_w 313, 3) := dk_19 1 57 (dk_at dksX2_atom_6 9 rfl rfl)
theorem dX2_atom_148 : decode cX2_atom 148 = .ok (.invokevirtual 74, 3) := dk_182 0 74 (dk_at dksX2_atom_6 12 rfl rfl)
theorem dX2_atom_151 : decode cX2_atom 151 = .ok (.ifCond .eq 7, 3) := dk_153 0 7 (dk_at dksX2_atom_6 15 rfl rfl)
theorem dX2_atom_154 : decode cX2_atom 154 = .ok (.iconst 1, 1) := dk_4 (dk_at dksX2_atom_6 18 rfl rfl)
theorem dX2_atom_155 : decode cX2_atom 155 = .ok (.goto 4, 3) := dk_167 0 4 (dk_at dksX2_atom_6 19 rfl rfl)
theorem dX2_atom_158 : decode cX2_atom 158 = .ok (.iconst 2, 1) := dk_5 (dk_at dksX2_atom_6 22 rfl rfl)
theorem dX2_atom_159 : decode cX2_atom 159 = .ok (.invokevirtual 291, 3) := dk_182 1 35 (dk_at dksX2_atom_7 0 rfl rfl)
theorem dX2_atom_162 : decode cX2_atom 162 = .ok (.areturn, 1) := dk_176 (dk_at dksX2_atom_7 3 rfl rfl)
abbrev cX2_within : ByteArray := prog_17_method_28_code
def yX2_within : MethodName := ⟨RX2, "within", "(I)LShrugHills$Value;"⟩
def dkwX2_within_4 : List UInt8 := [176]
abbrev dktX2_within_4 : List UInt8 := dkwX2_within_4 ++ []
def dkwX2_within_3 : List UInt8 := [182, 0, 238, 183, 1, 32, 78, 42, 16, 41, 182, 0, 135, 42, 89, 180, 0, 125, 4, 100, 181, 0, 125, 45]
abbrev dktX2_within_3 : List UInt8 := dkwX2_within_3 ++ dktX2_within_4
def dkwX2_within_2 : List UInt8 := [42, 16, 44, 182, 0, 135, 187, 1, 30, 89, 27, 5, 160, 0, 7, 4, 167, 0, 4, 3, 44, 42]
abbrev dktX2_within_2 : List UInt8 := dkwX2_within_2 ++ dktX2_within_3
def dkwX2_within_1 : List UInt8 := [182, 1, 27, 42, 89, 180, 0, 36, 4, 96, 181, 0, 36, 42, 182, 0, 238, 77, 44, 78, 27, 158, 0, 32]
abbrev dktX2_within_1 : List UInt8 := dkwX2_within_1 ++ dktX2_within_2
def dkwX2_within_0 : List UInt8 := [42, 182, 0, 43, 16, 40, 159, 0, 13, 42, 4, 42, 180, 0, 36, 182, 0, 47, 191, 42, 42, 180, 0, 36]
abbrev dktX2_within_0 : List UInt8 := dkwX2_within_0 ++ dktX2_within_1
theorem dksX2_within_0 : cX2_within.data.toList.drop 0 = dktX2_within_0 := by decide +kernel
theorem dksX2_within_1 : cX2_within.data.toList.drop 24 = dktX2_within_1 := dk_seg dksX2_within_0 24 rfl rfl
theorem dksX2_within_2 : cX2_within.data.toList.drop 48 = dktX2_within_2 := dk_seg dksX2_within_1 24 rfl rfl
theorem dksX2_within_3 : cX2_within.data.toList.drop 70 = dktX2_within_3 := dk_seg dksX2_within_2 22 rfl rfl
theorem dksX2_within_4 : cX2_within.data.toList.drop 94 = dktX2_within_4 := dk_seg dksX2_within_3 24 rfl rfl
theorem dX2_within_0 : decode cX2_within 0 = .ok (.aload_n 0, 1) := dk_42 (dk_at dksX2_within_0 0 rfl rfl)
theorem dX2_within_1 : decode cX2_within 1 = .ok (.invokevirtual 43, 3) := dk_182 0 43 (dk_at dksX2_within_0 1 rfl rfl)
theorem dX2_within_4 : decode cX2_within 4 = .ok (.bipush 40, 2) := dk_16 40 (dk_at dksX2_within_0 4 rfl rfl)
theorem dX2_within_6 : decode cX2_within 6 = .ok (.if_icmp .eq 13, 3) := dk_159 0 13 (dk_at dksX2_within_0 6 rfl rfl)
theorem dX2_within_9 : decode cX2_within 9 = .ok (.aload_n 0, 1) := dk_42 (dk_at dksX2_within_0 9 rfl rfl)
theorem dX2_within_10 : decode cX2_within 10 = .ok (.iconst 1, 1) := dk_4 (dk_at dksX2_within_0 10 rfl rfl)
theorem dX2_within_11 : decode cX2_within 11 = .ok (.aload_n 0, 1) := dk_42 (dk_at dksX2_within_0 11 rfl rfl)
theorem dX2_within_12 : decode cX2_within 12 = .ok (.getfield 36, 3) := dk_180 0 36 (dk_at dksX2_within_0 12 rfl rfl)
theorem dX2_within_15 : decode cX2_within 15 = .ok (.invokevirtual 47, 3) := dk_182 0 47 (dk_at dksX2_within_0 15 rfl rfl)
theorem dX2_within_18 : decode cX2_within 18 = .ok (.athrow, 1) := dk_191 (dk_at dksX2_within_0 18 rfl rfl)
theorem dX2_within_19 : decode cX2_within 19 = .ok (.aload_n 0, 1) := dk_42 (dk_at dksX2_within_0 19 rfl rfl)
theorem dX2_within_20 : decode cX2_within 20 = .ok (.aload_n 0, 1) := dk_42 (dk_at dksX2_within_0 20 rfl rfl)
theorem dX2_within_21 : decode cX2_within 21 = .ok (.getfield 36, 3) := dk_180 0 36 (dk_at dksX2_within_0 21 rfl rfl)
theorem dX2_within_24 : decode cX2_within 24 = .ok (.invokevirtual 283, 3) := dk_182 1 27 (dk_at dksX2_within_1 0 rfl rfl)
theorem dX2_within_27 : decode cX2_within 27 = .ok (.aload_n 0, 1) := dk_42 (dk_at dksX2_within_1 3 rfl rfl)
theorem dX2_within_28 : decode cX2_within 28 = .ok (.dup, 1) := dk_89 (dk_at dksX2_within_1 4 rfl rfl)
theorem dX2_within_29 : decode cX2_within 29 = .ok (.getfield 36, 3) := dk_180 0 36 (dk_at dksX2_within_1 5 rfl rfl)
theorem dX2_within_32 : decode cX2_within 32 = .ok (.iconst 1, 1) := dk_4 (dk_at dksX2_within_1 8 rfl rfl)
theorem dX2_within_33 : decode cX2_within 33 = .ok (.iadd, 1) := dk_96 (dk_at dksX2_within_1 9 rfl rfl)
theorem dX2_within_34 : decode cX2_within 34 = .ok (.putfield 36, 3) := dk_181 0 36 (dk_at dksX2_within_1 10 rfl rfl)
theorem dX2_within_37 : decode cX2_within 37 = .ok (.aload_n 0, 1) := dk_42 (dk_at dksX2_within_1 13 rfl rfl)
theorem dX2_within_38 : decode cX2_within 38 = .ok (.invokevirtual 238, 3) := dk_182 0 238 (dk_at dksX2_within_1 14 rfl rfl)
theorem dX2_within_41 : decode cX2_within 41 = .ok (.astore_n 2, 1) := dk_77 (dk_at dksX2_within_1 17 rfl rfl)
theorem dX2_within_42 : decode cX2_within 42 = .ok (.aload_n 2, 1) := dk_44 (dk_at dksX2_within_1 18 rfl rfl)
theorem dX2_within_43 : decode cX2_within 43 = .ok (.astore_n 3, 1) := dk_78 (dk_at dksX2_within_1 19 rfl rfl)
theorem dX2_within_44 : decode cX2_within 44 = .ok (.iload_n 1, 1) := dk_27 (dk_at dksX2_within_1 20 rfl rfl)
theorem dX2_within_45 : decode cX2_within 45 = .ok (.ifCond .le 32, 3) := dk_158 0 32 (dk_at dksX2_within_1 21 rfl rfl)
theorem dX2_within_48 : decode cX2_within 48 = .ok (.aload_n 0, 1) := dk_42 (dk_at dksX2_within_2 0 rfl rfl)
theorem dX2_within_49 : decode cX2_within 49 = .ok (.bipush 44, 2) := dk_16 44 (dk_at dksX2_within_2 1 rfl rfl)
theorem dX2_within_51 : decode cX2_within 51 = .ok (.invokevirtual 135, 3) := dk_182 0 135 (dk_at dksX2_within_2 3 rfl rfl)
theorem dX2_within_54 : decode cX2_within 54 = .ok (.new 286, 3) := dk_187 1 30 (dk_at dksX2_within_2 6 rfl rfl)
theorem dX2_within_57 : decode cX2_within 57 = .ok (.dup, 1) := dk_89 (dk_at dksX2_within_2 9 rfl rfl)
theorem dX2_within_58 : decode cX2_within 58 = .ok (.iload_n 1, 1) := dk_27 (dk_at dksX2_within_2 10 rfl rfl)
theorem dX2_within_59 : decode cX2_within 59 = .ok (.iconst 2, 1) := dk_5 (dk_at dksX2_within_2 11 rfl rfl)
theorem dX2_within_60 : decode cX2_within 60 = .ok (.if_icmp .ne 7, 3) := dk_160 0 7 (dk_at dksX2_within_2 12 rfl rfl)
theorem dX2_within_63 : decode cX2_within 63 = .ok (.iconst 1, 1) := dk_4 (dk_at dksX2_within_2 15 rfl rfl)
theorem dX2_within_64 : decode cX2_within 64 = .ok (.goto 4, 3) := dk_167 0 4 (dk_at dksX2_within_2 16 rfl rfl)
theorem dX2_within_67 : decode cX2_within 67 = .ok (.iconst 0, 1) := dk_3 (dk_at dksX2_within_2 19 rfl rfl)
theorem dX2_within_68 : decode cX2_within 68 = .ok (.aload_n 2, 1) := dk_44 (dk_at dksX2_within_2 20 rfl rfl)
theorem dX2_within_69 : decode cX2_within 69 = .ok (.aload_n 0, 1) := dk_42 (dk_at dksX2_within_2 21 rfl rfl)
theorem dX2_within_70 : decode cX2_within 70 = .ok (.invokevirtual 238, 3) := dk_182 0 238 (dk_at dksX2_within_3 0 rfl rfl)
theorem dX2_within_73 : decode cX2_within 73 = .ok (.invokespecial 288, 3) := dk_183 1 32 (dk_at dksX2_within_3 3 rfl rfl)
theorem dX2_within_76 : decode cX2_within 76 = .ok (.astore_n 3, 1) := dk_78 (dk_at dksX2_within_3 6 rfl rfl)
theorem dX2_within_77 : decode cX2_within 77 = .ok (.aload_n 0, 1) := dk_42 (dk_at dksX2_within_3 7 rfl rfl)
theorem dX2_within_78 : decode cX2_within 78 = .ok (.bipush 41, 2) := dk_16 41 (dk_at dksX2_within_3 8 rfl rfl)
theorem dX2_within_80 : decode cX2_within 80 = .ok (.invokevirtual 135, 3) := dk_182 0 135 (dk_at dksX2_within_3 10 rfl rfl)
theorem dX2_within_83 : decode cX2_within 83 = .ok (.aload_n 0, 1) := dk_42 (dk_at dksX2_within_3 13 rfl rfl)
theorem dX2_within_84 : decode cX2_within 84 = .ok (.dup, 1) := dk_89 (dk_at dksX2_within_3 14 rfl rfl)
theorem dX2_within_85 : decode cX2_within 85 = .ok (.getfield 125, 3) := dk_180 0 125 (dk_at dksX2_within_3 15 rfl rfl)
theorem dX2_within_88 : decode cX2_within 88 = .ok (.iconst 1, 1) := dk_4 (dk_at dksX2_within_3 18 rfl rfl)
theorem dX2_within_89 : decode cX2_within 89 = .ok (.isub, 1) := dk_100 (dk_at dksX2_within_3 19 rfl rfl)
theorem dX2_within_90 : decode cX2_within 90 = .ok (.putfield 125, 3) := dk_181 0 125 (dk_at dksX2_within_3 20 rfl rfl)
theorem dX2_within_93 : decode cX2_within 93 = .ok (.aload_n 3, 1) := dk_45 (dk_at dksX2_within_3 23 rfl rfl)
theorem dX2_within_94 : decode cX2_within 94 = .ok (.areturn, 1) := dk_176 (dk_at dksX2_within_4 0 rfl rfl)
abbrev cX2_opens : ByteArray := prog_17_method_27_code
def yX2_opens : MethodName := ⟨RX2, "opens", "(I)V"⟩
def dkwX2_opens_1 : List UInt8 := [181, 0, 125, 177]
abbrev dktX2_opens_1 : List UInt8 := dkwX2_opens_1 ++ []
def dkwX2_opens_0 : List UInt8 := [42, 180, 0, 125, 16, 6, 160, 0, 10, 42, 7, 27, 182, 0, 47, 191, 42, 89, 180, 0, 125, 4, 96]
abbrev dktX2_opens_0 : List UInt8 := dkwX2_opens_0 ++ dktX2_opens_1
theorem dksX2_opens_0 : cX2_opens.data.toList.drop 0 = dktX2_opens_0 := by decide +kernel
theorem dksX2_opens_1 : cX2_opens.data.toList.drop 23 = dktX2_opens_1 := dk_seg dksX2_opens_0 23 rfl rfl
theorem dX2_opens_0 : decode cX2_opens 0 = .ok (.aload_n 0, 1) := dk_42 (dk_at dksX2_opens_0 0 rfl rfl)
theorem dX2_opens_1 : decode cX2_opens 1 = .ok (.getfield 125, 3) := dk_180 0 125 (dk_at dksX2_opens_0 1 rfl rfl)
theorem dX2_opens_4 : decode cX2_opens 4 = .ok (.bipush 6, 2) := dk_16 6 (dk_at dksX2_opens_0 4 rfl rfl)
theorem dX2_opens_6 : decode cX2_opens 6 = .ok (.if_icmp .ne 10, 3) := dk_160 0 10 (dk_at dksX2_opens_0 6 rfl rfl)
theorem dX2_opens_9 : decode cX2_opens 9 = .ok (.aload_n 0, 1) := dk_42 (dk_at dksX2_opens_0 9 rfl rfl)
theorem dX2_opens_10 : decode cX2_opens 10 = .ok (.iconst 4, 1) := dk_7 (dk_at dksX2_opens_0 10 rfl rfl)
theorem dX2_opens_11 : decode cX2_opens 11 = .ok (.iload_n 1, 1) := dk_27 (dk_at dksX2_opens_0 11 rfl rfl)
theorem dX2_opens_12 : decode cX2_opens 12 = .ok (.invokevirtual 47, 3) := dk_182 0 47 (dk_at dksX2_opens_0 12 rfl rfl)
theorem dX2_opens_15 : decode cX2_opens 15 = .ok (.athrow, 1) := dk_191 (dk_at dksX2_opens_0 15 rfl rfl)
theorem dX2_opens_16 : decode cX2_opens 16 = .ok (.aload_n 0, 1) := dk_42 (dk_at dksX2_opens_0 16 rfl rfl)
theorem dX2_opens_17 : decode cX2_opens 17 = .ok (.dup, 1) := dk_89 (dk_at dksX2_opens_0 17 rfl rfl)
theorem dX2_opens_18 : decode cX2_opens 18 = .ok (.getfield 125, 3) := dk_180 0 125 (dk_at dksX2_opens_0 18 rfl rfl)
theorem dX2_opens_21 : decode cX2_opens 21 = .ok (.iconst 1, 1) := dk_4 (dk_at dksX2_opens_0 21 rfl rfl)
theorem dX2_opens_22 : decode cX2_opens 22 = .ok (.iadd, 1) := dk_96 (dk_at dksX2_opens_0 22 rfl rfl)
theorem dX2_opens_23 : decode cX2_opens 23 = .ok (.putfield 125, 3) := dk_181 0 125 (dk_at dksX2_opens_1 0 rfl rfl)
theorem dX2_opens_26 : decode cX2_opens 26 = .ok (.return_, 1) := dk_177 (dk_at dksX2_opens_1 3 rfl rfl)
abbrev cX2_looked : ByteArray := prog_17_method_33_code
def yX2_looked : MethodName := ⟨RX2, "looked", "(I)LShrugHills$Value;"⟩
def dkwX2_looked_1 : List UInt8 := [77, 42, 89, 180, 0, 125, 4, 100, 181, 0, 125, 44, 176]
abbrev dktX2_looked_1 : List UInt8 := dkwX2_looked_1 ++ []
def dkwX2_looked_0 : List UInt8 := [42, 42, 180, 0, 61, 182, 1, 27, 187, 1, 99, 89, 42, 180, 0, 3, 27, 42, 182, 1, 24, 183, 1, 101]
abbrev dktX2_looked_0 : List UInt8 := dkwX2_looked_0 ++ dktX2_looked_1
theorem dksX2_looked_0 : cX2_looked.data.toList.drop 0 = dktX2_looked_0 := by decide +kernel
theorem dksX2_looked_1 : cX2_looked.data.toList.drop 24 = dktX2_looked_1 := dk_seg dksX2_looked_0 24 rfl rfl
theorem dX2_looked_0 : decode cX2_looked 0 = .ok (.aload_n 0, 1) := dk_42 (dk_at dksX2_looked_0 0 rfl rfl)
theorem dX2_looked_1 : decode cX2_looked 1 = .ok (.aload_n 0, 1) := dk_42 (dk_at dksX2_looked_0 1 rfl rfl)
theorem dX2_looked_2 : decode cX2_looked 2 = .ok (.getfield 61, 3) := dk_180 0 61 (dk_at dksX2_looked_0 2 rfl rfl)
theorem dX2_looked_5 : decode cX2_looked 5 = .ok (.invokevirtual 283, 3) := dk_182 1 27 (dk_at dksX2_looked_0 5 rfl rfl)
theorem dX2_looked_8 : decode cX2_looked 8 = .ok (.new 355, 3) := dk_187 1 99 (dk_at dksX2_looked_0 8 rfl rfl)
theorem dX2_looked_11 : decode cX2_looked 11 = .ok (.dup, 1) := dk_89 (dk_at dksX2_looked_0 11 rfl rfl)
theorem dX2_looked_12 : decode cX2_looked 12 = .ok (.aload_n 0, 1) := dk_42 (dk_at dksX2_looked_0 12 rfl rfl)
theorem dX2_looked_13 : decode cX2_looked 13 = .ok (.getfield 3, 3) := dk_180 0 3 (dk_at dksX2_looked_0 13 rfl rfl)
theorem dX2_looked_16 : decode cX2_looked 16 = .ok (.iload_n 1, 1) := dk_27 (dk_at dksX2_looked_0 16 rfl rfl)
theorem dX2_looked_17 : decode cX2_looked 17 = .ok (.aload_n 0, 1) := dk_42 (dk_at dksX2_looked_0 17 rfl rfl)
theorem dX2_looked_18 : decode cX2_looked 18 = .ok (.invokevirtual 280, 3) := dk_182 1 24 (dk_at dksX2_looked_0 18 rfl rfl)
theorem dX2_looked_21 : decode cX2_looked 21 = .ok (.invokespecial 357, 3) := dk_183 1 101 (dk_at dksX2_looked_0 21 rfl rfl)
theorem dX2_looked_24 : decode cX2_looked 24 = .ok (.astore_n 2, 1) := dk_77 (dk_at dksX2_looked_1 0 rfl rfl)
theorem dX2_looked_25 : decode cX2_looked 25 = .ok (.aload_n 0, 1) := dk_42 (dk_at dksX2_looked_1 1 rfl rfl)
theorem dX2_looked_26 : decode cX2_looked 26 = .ok (.dup, 1) := dk_89 (dk_at dksX2_looked_1 2 rfl rfl)
theorem dX2_looked_27 : decode cX2_looked 27 = .ok (.getfield 125, 3) := dk_180 0 125 (dk_at dksX2_looked_1 3 rfl rfl)
theorem dX2_looked_30 : decode cX2_looked 30 = .ok (.iconst 1, 1) := dk_4 (dk_at dksX2_looked_1 6 rfl rfl)
theorem dX2_looked_31 : decode cX2_looked 31 = .ok (.isub, 1) := dk_100 (dk_at dksX2_looked_1 7 rfl rfl)
theorem dX2_looked_32 : decode cX2_looked 32 = .ok (.putfield 125, 3) := dk_181 0 125 (dk_at dksX2_looked_1 8 rfl rfl)
theorem dX2_looked_35 : decode cX2_looked 35 = .ok (.aload_n 2, 1) := dk_44 (dk_at dksX2_looked_1 11 rfl rfl)
theorem dX2_looked_36 : decode cX2_looked 36 = .ok (.areturn, 1) := dk_176 (dk_at dksX2_looked_1 12 rfl rfl)
abbrev cX2_takes : ByteArray := prog_17_method_24_code
def yX2_takes : MethodName := ⟨RX2, "takes", "(I)Z"⟩
def dkwX2_takes_1 : List UInt8 := [167, 0, 4, 3, 96, 181, 0, 36, 28, 172]
abbrev dktX2_takes_1 : List UInt8 := dkwX2_takes_1 ++ []
def dkwX2_takes_0 : List UInt8 := [42, 182, 0, 43, 27, 160, 0, 7, 4, 167, 0, 4, 3, 61, 42, 89, 180, 0, 36, 28, 153, 0, 7, 4]
abbrev dktX2_takes_0 : List UInt8 := dkwX2_takes_0 ++ dktX2_takes_1
theorem dksX2_takes_0 : cX2_takes.data.toList.drop 0 = dktX2_takes_0 := by decide +kernel
theorem dksX2_takes_1 : cX2_takes.data.toList.drop 24 = dktX2_takes_1 := dk_seg dksX2_takes_0 24 rfl rfl
theorem dX2_takes_0 : decode cX2_takes 0 = .ok (.aload_n 0, 1) := dk_42 (dk_at dksX2_takes_0 0 rfl rfl)
theorem dX2_takes_1 : decode cX2_takes 1 = .ok (.invokevirtual 43, 3) := dk_182 0 43 (dk_at dksX2_takes_0 1 rfl rfl)
theorem dX2_takes_4 : decode cX2_takes 4 = .ok (.iload_n 1, 1) := dk_27 (dk_at dksX2_takes_0 4 rfl rfl)
theorem dX2_takes_5 : decode cX2_takes 5 = .ok (.if_icmp .ne 7, 3) := dk_160 0 7 (dk_at dksX2_takes_0 5 rfl rfl)
theorem dX2_takes_8 : decode cX2_takes 8 = .ok (.iconst 1, 1) := dk_4 (dk_at dksX2_takes_0 8 rfl rfl)
theorem dX2_takes_9 : decode cX2_takes 9 = .ok (.goto 4, 3) := dk_167 0 4 (dk_at dksX2_takes_0 9 rfl rfl)
theorem dX2_takes_12 : decode cX2_takes 12 = .ok (.iconst 0, 1) := dk_3 (dk_at dksX2_takes_0 12 rfl rfl)
theorem dX2_takes_13 : decode cX2_takes 13 = .ok (.istore_n 2, 1) := dk_61 (dk_at dksX2_takes_0 13 rfl rfl)
theorem dX2_takes_14 : decode cX2_takes 14 = .ok (.aload_n 0, 1) := dk_42 (dk_at dksX2_takes_0 14 rfl rfl)
theorem dX2_takes_15 : decode cX2_takes 15 = .ok (.dup, 1) := dk_89 (dk_at dksX2_takes_0 15 rfl rfl)
theorem dX2_takes_16 : decode cX2_takes 16 = .ok (.getfield 36, 3) := dk_180 0 36 (dk_at dksX2_takes_0 16 rfl rfl)
theorem dX2_takes_19 : decode cX2_takes 19 = .ok (.iload_n 2, 1) := dk_28 (dk_at dksX2_takes_0 19 rfl rfl)
theorem dX2_takes_20 : decode cX2_takes 20 = .ok (.ifCond .eq 7, 3) := dk_153 0 7 (dk_at dksX2_takes_0 20 rfl rfl)
theorem dX2_takes_23 : decode cX2_takes 23 = .ok (.iconst 1, 1) := dk_4 (dk_at dksX2_takes_0 23 rfl rfl)
theorem dX2_takes_24 : decode cX2_takes 24 = .ok (.goto 4, 3) := dk_167 0 4 (dk_at dksX2_takes_1 0 rfl rfl)
theorem dX2_takes_27 : decode cX2_takes 27 = .ok (.iconst 0, 1) := dk_3 (dk_at dksX2_takes_1 3 rfl rfl)
theorem dX2_takes_28 : decode cX2_takes 28 = .ok (.iadd, 1) := dk_96 (dk_at dksX2_takes_1 4 rfl rfl)
theorem dX2_takes_29 : decode cX2_takes 29 = .ok (.putfield 36, 3) := dk_181 0 36 (dk_at dksX2_takes_1 5 rfl rfl)
theorem dX2_takes_32 : decode cX2_takes 32 = .ok (.iload_n 2, 1) := dk_28 (dk_at dksX2_takes_1 8 rfl rfl)
theorem dX2_takes_33 : decode cX2_takes 33 = .ok (.ireturn, 1) := dk_172 (dk_at dksX2_takes_1 9 rfl rfl)
abbrev cX2_test : ByteArray := prog_17_method_30_code
def yX2_test : MethodName := ⟨RX2, "test", "()LShrugHills$Test;"⟩
def dkwX2_test_2 : List UInt8 := [167, 255, 232, 43, 176]
abbrev dktX2_test_2 : List UInt8 := dkwX2_test_2 ++ []
def dkwX2_test_1 : List UInt8 := [19, 1, 72, 182, 1, 74, 153, 0, 20, 43, 180, 1, 66, 42, 182, 1, 69, 185, 0, 179, 2, 0, 87]
abbrev dktX2_test_1 : List UInt8 := dkwX2_test_1 ++ dktX2_test_2
def dkwX2_test_0 : List UInt8 := [187, 1, 61, 89, 3, 183, 1, 63, 76, 43, 180, 1, 66, 42, 182, 1, 69, 185, 0, 179, 2, 0, 87, 42]
abbrev dktX2_test_0 : List UInt8 := dkwX2_test_0 ++ dktX2_test_1
theorem dksX2_test_0 : cX2_test.data.toList.drop 0 = dktX2_test_0 := by decide +kernel
theorem dksX2_test_1 : cX2_test.data.toList.drop 24 = dktX2_test_1 := dk_seg dksX2_test_0 24 rfl rfl
theorem dksX2_test_2 : cX2_test.data.toList.drop 47 = dktX2_test_2 := dk_seg dksX2_test_1 23 rfl rfl
theorem dX2_test_0 : decode cX2_test 0 = .ok (.new 317, 3) := dk_187 1 61 (dk_at dksX2_test_0 0 rfl rfl)
theorem dX2_test_3 : decode cX2_test 3 = .ok (.dup, 1) := dk_89 (dk_at dksX2_test_0 3 rfl rfl)
theorem dX2_test_4 : decode cX2_test 4 = .ok (.iconst 0, 1) := dk_3 (dk_at dksX2_test_0 4 rfl rfl)
theorem dX2_test_5 : decode cX2_test 5 = .ok (.invokespecial 319, 3) := dk_183 1 63 (dk_at dksX2_test_0 5 rfl rfl)
theorem dX2_test_8 : decode cX2_test 8 = .ok (.astore_n 1, 1) := dk_76 (dk_at dksX2_test_0 8 rfl rfl)
theorem dX2_test_9 : decode cX2_test 9 = .ok (.aload_n 1, 1) := dk_43 (dk_at dksX2_test_0 9 rfl rfl)
theorem dX2_test_10 : decode cX2_test 10 = .ok (.getfield 322, 3) := dk_180 1 66 (dk_at dksX2_test_0 10 rfl rfl)
theorem dX2_test_13 : decode cX2_test 13 = .ok (.aload_n 0, 1) := dk_42 (dk_at dksX2_test_0 13 rfl rfl)
theorem dX2_test_14 : decode cX2_test 14 = .ok (.invokevirtual 325, 3) := dk_182 1 69 (dk_at dksX2_test_0 14 rfl rfl)
theorem dX2_test_17 : decode cX2_test 17 = .ok (.invokeinterface 179 2, 5) := by decide +kernel
theorem dX2_test_22 : decode cX2_test 22 = .ok (.pop, 1) := dk_87 (dk_at dksX2_test_0 22 rfl rfl)
theorem dX2_test_23 : decode cX2_test 23 = .ok (.aload_n 0, 1) := dk_42 (dk_at dksX2_test_0 23 rfl rfl)
theorem dX2_test_24 : decode cX2_test 24 = .ok (.ldc_w 328, 3) := dk_19 1 72 (dk_at dksX2_test_1 0 rfl rfl)
theorem dX2_test_27 : decode cX2_test 27 = .ok (.invokevirtual 330, 3) := dk_182 1 74 (dk_at dksX2_test_1 3 rfl rfl)
theorem dX2_test_30 : decode cX2_test 30 = .ok (.ifCond .eq 20, 3) := dk_153 0 20 (dk_at dksX2_test_1 6 rfl rfl)
theorem dX2_test_33 : decode cX2_test 33 = .ok (.aload_n 1, 1) := dk_43 (dk_at dksX2_test_1 9 rfl rfl)
theorem dX2_test_34 : decode cX2_test 34 = .ok (.getfield 322, 3) := dk_180 1 66 (dk_at dksX2_test_1 10 rfl rfl)
theorem dX2_test_37 : decode cX2_test 37 = .ok (.aload_n 0, 1) := dk_42 (dk_at dksX2_test_1 13 rfl rfl)
theorem dX2_test_38 : decode cX2_test 38 = .ok (.invokevirtual 325, 3) := dk_182 1 69 (dk_at dksX2_test_1 14 rfl rfl)
theorem dX2_test_41 : decode cX2_test 41 = .ok (.invokeinterface 179 2, 5) := by decide +kernel
theorem dX2_test_46 : decode cX2_test 46 = .ok (.pop, 1) := dk_87 (dk_at dksX2_test_1 22 rfl rfl)
theorem dX2_test_47 : decode cX2_test 47 = .ok (.goto (-24), 3) := dk_167 255 232 (dk_at dksX2_test_2 0 rfl rfl)
theorem dX2_test_50 : decode cX2_test 50 = .ok (.aload_n 1, 1) := dk_43 (dk_at dksX2_test_2 3 rfl rfl)
theorem dX2_test_51 : decode cX2_test 51 = .ok (.areturn, 1) := dk_176 (dk_at dksX2_test_2 4 rfl rfl)
abbrev cX2_both : ByteArray := prog_17_method_31_code
def yX2_both : MethodName := ⟨RX2, "both", "()LShrugHills$Test;"⟩
def dkwX2_both_2 : List UInt8 := [167, 255, 232, 43, 176]
abbrev dktX2_both_2 : List UInt8 := dkwX2_both_2 ++ []
def dkwX2_both_1 : List UInt8 := [19, 1, 80, 182, 1, 74, 153, 0, 20, 43, 180, 1, 66, 42, 182, 1, 77, 185, 0, 179, 2, 0, 87]
abbrev dktX2_both_1 : List UInt8 := dkwX2_both_1 ++ dktX2_both_2
def dkwX2_both_0 : List UInt8 := [187, 1, 61, 89, 4, 183, 1, 63, 76, 43, 180, 1, 66, 42, 182, 1, 77, 185, 0, 179, 2, 0, 87, 42]
abbrev dktX2_both_0 : List UInt8 := dkwX2_both_0 ++ dktX2_both_1
theorem dksX2_both_0 : cX2_both.data.toList.drop 0 = dktX2_both_0 := by decide +kernel
theorem dksX2_both_1 : cX2_both.data.toList.drop 24 = dktX2_both_1 := dk_seg dksX2_both_0 24 rfl rfl
theorem dksX2_both_2 : cX2_both.data.toList.drop 47 = dktX2_both_2 := dk_seg dksX2_both_1 23 rfl rfl
theorem dX2_both_0 : decode cX2_both 0 = .ok (.new 317, 3) := dk_187 1 61 (dk_at dksX2_both_0 0 rfl rfl)
theorem dX2_both_3 : decode cX2_both 3 = .ok (.dup, 1) := dk_89 (dk_at dksX2_both_0 3 rfl rfl)
theorem dX2_both_4 : decode cX2_both 4 = .ok (.iconst 1, 1) := dk_4 (dk_at dksX2_both_0 4 rfl rfl)
theorem dX2_both_5 : decode cX2_both 5 = .ok (.invokespecial 319, 3) := dk_183 1 63 (dk_at dksX2_both_0 5 rfl rfl)
theorem dX2_both_8 : decode cX2_both 8 = .ok (.astore_n 1, 1) := dk_76 (dk_at dksX2_both_0 8 rfl rfl)
theorem dX2_both_9 : decode cX2_both 9 = .ok (.aload_n 1, 1) := dk_43 (dk_at dksX2_both_0 9 rfl rfl)
theorem dX2_both_10 : decode cX2_both 10 = .ok (.getfield 322, 3) := dk_180 1 66 (dk_at dksX2_both_0 10 rfl rfl)
theorem dX2_both_13 : decode cX2_both 13 = .ok (.aload_n 0, 1) := dk_42 (dk_at dksX2_both_0 13 rfl rfl)
theorem dX2_both_14 : decode cX2_both 14 = .ok (.invokevirtual 333, 3) := dk_182 1 77 (dk_at dksX2_both_0 14 rfl rfl)
theorem dX2_both_17 : decode cX2_both 17 = .ok (.invokeinterface 179 2, 5) := by decide +kernel
theorem dX2_both_22 : decode cX2_both 22 = .ok (.pop, 1) := dk_87 (dk_at dksX2_both_0 22 rfl rfl)
theorem dX2_both_23 : decode cX2_both 23 = .ok (.aload_n 0, 1) := dk_42 (dk_at dksX2_both_0 23 rfl rfl)
theorem dX2_both_24 : decode cX2_both 24 = .ok (.ldc_w 336, 3) := dk_19 1 80 (dk_at dksX2_both_1 0 rfl rfl)
theorem dX2_both_27 : decode cX2_both 27 = .ok (.invokevirtual 330, 3) := dk_182 1 74 (dk_at dksX2_both_1 3 rfl rfl)
theorem dX2_both_30 : decode cX2_both 30 = .ok (.ifCond .eq 20, 3) := dk_153 0 20 (dk_at dksX2_both_1 6 rfl rfl)
theorem dX2_both_33 : decode cX2_both 33 = .ok (.aload_n 1, 1) := dk_43 (dk_at dksX2_both_1 9 rfl rfl)
theorem dX2_both_34 : decode cX2_both 34 = .ok (.getfield 322, 3) := dk_180 1 66 (dk_at dksX2_both_1 10 rfl rfl)
theorem dX2_both_37 : decode cX2_both 37 = .ok (.aload_n 0, 1) := dk_42 (dk_at dksX2_both_1 13 rfl rfl)
theorem dX2_both_38 : decode cX2_both 38 = .ok (.invokevirtual 333, 3) := dk_182 1 77 (dk_at dksX2_both_1 14 rfl rfl)
theorem dX2_both_41 : decode cX2_both 41 = .ok (.invokeinterface 179 2, 5) := by decide +kernel
theorem dX2_both_46 : decode cX2_both 46 = .ok (.pop, 1) := dk_87 (dk_at dksX2_both_1 22 rfl rfl)
theorem dX2_both_47 : decode cX2_both 47 = .ok (.goto (-24), 3) := dk_167 255 232 (dk_at dksX2_both_2 0 rfl rfl)
theorem dX2_both_50 : decode cX2_both 50 = .ok (.aload_n 1, 1) := dk_43 (dk_at dksX2_both_2 3 rfl rfl)
theorem dX2_both_51 : decode cX2_both 51 = .ok (.areturn, 1) := dk_176 (dk_at dksX2_both_2 4 rfl rfl)
abbrev cX2_fact : ByteArray := prog_17_method_32_code
def yX2_fact : MethodName := ⟨RX2, "fact", "()LShrugHills$Test;"⟩
def dkwX2_fact_7 : List UInt8 := [183, 1, 96, 176]
abbrev dktX2_fact_7 : List UInt8 := dkwX2_fact_7 ++ []
def dkwX2_fact_6 : List UInt8 := [182, 0, 47, 191, 42, 89, 180, 0, 36, 4, 96, 181, 0, 36, 187, 1, 94, 89, 43, 28, 42, 182, 0, 238]
abbrev dktX2_fact_6 : List UInt8 := dkwX2_fact_6 ++ dktX2_fact_7
def dkwX2_fact_5 : List UInt8 := [28, 16, 60, 159, 0, 25, 28, 16, 62, 159, 0, 19, 28, 16, 61, 159, 0, 13, 42, 4, 42, 180, 0, 36]
abbrev dktX2_fact_5 : List UInt8 := dkwX2_fact_5 ++ dktX2_fact_6
def dkwX2_fact_4 : List UInt8 := [182, 1, 74, 153, 0, 11, 187, 1, 91, 89, 183, 1, 93, 176, 42, 182, 0, 238, 76, 42, 182, 0, 43, 61]
abbrev dktX2_fact_4 : List UInt8 := dkwX2_fact_4 ++ dktX2_fact_5
def dkwX2_fact_3 : List UInt8 := [42, 182, 1, 77, 183, 1, 86, 76, 42, 89, 180, 0, 125, 4, 100, 181, 0, 125, 43, 176, 42, 19, 1, 89]
abbrev dktX2_fact_3 : List UInt8 := dkwX2_fact_3 ++ dktX2_fact_4
def dkwX2_fact_2 : List UInt8 := [43, 176, 42, 19, 1, 82, 182, 1, 74, 153, 0, 35, 42, 42, 180, 0, 61, 182, 1, 27, 187, 1, 84, 89]
abbrev dktX2_fact_2 : List UInt8 := dkwX2_fact_2 ++ dktX2_fact_3
def dkwX2_fact_1 : List UInt8 := [181, 0, 36, 42, 182, 1, 6, 76, 42, 16, 93, 182, 0, 135, 42, 89, 180, 0, 125, 4, 100, 181, 0, 125]
abbrev dktX2_fact_1 : List UInt8 := dkwX2_fact_1 ++ dktX2_fact_2
def dkwX2_fact_0 : List UInt8 := [42, 182, 0, 43, 16, 91, 160, 0, 44, 42, 42, 180, 0, 36, 182, 1, 27, 42, 89, 180, 0, 36, 4, 96]
abbrev dktX2_fact_0 : List UInt8 := dkwX2_fact_0 ++ dktX2_fact_1
theorem dksX2_fact_0 : cX2_fact.data.toList.drop 0 = dktX2_fact_0 := by decide +kernel
theorem dksX2_fact_1 : cX2_fact.data.toList.drop 24 = dktX2_fact_1 := dk_seg dksX2_fact_0 24 rfl rfl
theorem dksX2_fact_2 : cX2_fact.data.toList.drop 48 = dktX2_fact_2 := dk_seg dksX2_fact_1 24 rfl rfl
theorem dksX2_fact_3 : cX2_fact.data.toList.drop 72 = dktX2_fact_3 := dk_seg dksX2_fact_2 24 rfl rfl
theorem dksX2_fact_4 : cX2_fact.data.toList.drop 96 = dktX2_fact_4 := dk_seg dksX2_fact_3 24 rfl rfl
theorem dksX2_fact_5 : cX2_fact.data.toList.drop 120 = dktX2_fact_5 := dk_seg dksX2_fact_4 24 rfl rfl
theorem dksX2_fact_6 : cX2_fact.data.toList.drop 144 = dktX2_fact_6 := dk_seg dksX2_fact_5 24 rfl rfl
theorem dksX2_fact_7 : cX2_fact.data.toList.drop 168 = dktX2_fact_7 := dk_seg dksX2_fact_6 24 rfl rfl
theorem dX2_fact_0 : decode cX2_fact 0 = .ok (.aload_n 0, 1) := dk_42 (dk_at dksX2_fact_0 0 rfl rfl)
theorem dX2_fact_1 : decode cX2_fact 1 = .ok (.invokevirtual 43, 3) := dk_182 0 43 (dk_at dksX2_fact_0 1 rfl rfl)
theorem dX2_fact_4 : decode cX2_fact 4 = .ok (.bipush 91, 2) := dk_16 91 (dk_at dksX2_fact_0 4 rfl rfl)
theorem dX2_fact_6 : decode cX2_fact 6 = .ok (.if_icmp .ne 44, 3) := dk_160 0 44 (dk_at dksX2_fact_0 6 rfl rfl)
theorem dX2_fact_9 : decode cX2_fact 9 = .ok (.aload_n 0, 1) := dk_42 (dk_at dksX2_fact_0 9 rfl rfl)
theorem dX2_fact_10 : decode cX2_fact 10 = .ok (.aload_n 0, 1) := dk_42 (dk_at dksX2_fact_0 10 rfl rfl)
theorem dX2_fact_11 : decode cX2_fact 11 = .ok (.getfield 36, 3) := dk_180 0 36 (dk_at dksX2_fact_0 11 rfl rfl)
theorem dX2_fact_14 : decode cX2_fact 14 = .ok (.invokevirtual 283, 3) := dk_182 1 27 (dk_at dksX2_fact_0 14 rfl rfl)
theorem dX2_fact_17 : decode cX2_fact 17 = .ok (.aload_n 0, 1) := dk_42 (dk_at dksX2_fact_0 17 rfl rfl)
theorem dX2_fact_18 : decode cX2_fact 18 = .ok (.dup, 1) := dk_89 (dk_at dksX2_fact_0 18 rfl rfl)
theorem dX2_fact_19 : decode cX2_fact 19 = .ok (.getfield 36, 3) := dk_180 0 36 (dk_at dksX2_fact_0 19 rfl rfl)
theorem dX2_fact_22 : decode cX2_fact 22 = .ok (.iconst 1, 1) := dk_4 (dk_at dksX2_fact_0 22 rfl rfl)
theorem dX2_fact_23 : decode cX2_fact 23 = .ok (.iadd, 1) := dk_96 (dk_at dksX2_fact_0 23 rfl rfl)
theorem dX2_fact_24 : decode cX2_fact 24 = .ok (.putfield 36, 3) := dk_181 0 36 (dk_at dksX2_fact_1 0 rfl rfl)
theorem dX2_fact_27 : decode cX2_fact 27 = .ok (.aload_n 0, 1) := dk_42 (dk_at dksX2_fact_1 3 rfl rfl)
theorem dX2_fact_28 : decode cX2_fact 28 = .ok (.invokevirtual 262, 3) := dk_182 1 6 (dk_at dksX2_fact_1 4 rfl rfl)
theorem dX2_fact_31 : decode cX2_fact 31 = .ok (.astore_n 1, 1) := dk_76 (dk_at dksX2_fact_1 7 rfl rfl)
theorem dX2_fact_32 : decode cX2_fact 32 = .ok (.aload_n 0, 1) := dk_42 (dk_at dksX2_fact_1 8 rfl rfl)
theorem dX2_fact_33 : decode cX2_fact 33 = .ok (.bipush 93, 2) := dk_16 93 (dk_at dksX2_fact_1 9 rfl rfl)
theorem dX2_fact_35 : decode cX2_fact 35 = .ok (.invokevirtual 135, 3) := dk_182 0 135 (dk_at dksX2_fact_1 11 rfl rfl)
theorem dX2_fact_38 : decode cX2_fact 38 = .ok (.aload_n 0, 1) := dk_42 (dk_at dksX2_fact_1 14 rfl rfl)
theorem dX2_fact_39 : decode cX2_fact 39 = .ok (.dup, 1) := dk_89 (dk_at dksX2_fact_1 15 rfl rfl)
theorem dX2_fact_40 : decode cX2_fact 40 = .ok (.getfield 125, 3) := dk_180 0 125 (dk_at dksX2_fact_1 16 rfl rfl)
theorem dX2_fact_43 : decode cX2_fact 43 = .ok (.iconst 1, 1) := dk_4 (dk_at dksX2_fact_1 19 rfl rfl)
theorem dX2_fact_44 : decode cX2_fact 44 = .ok (.isub, 1) := dk_100 (dk_at dksX2_fact_1 20 rfl rfl)
theorem dX2_fact_45 : decode cX2_fact 45 = .ok (.putfield 125, 3) := dk_181 0 125 (dk_at dksX2_fact_1 21 rfl rfl)
theorem dX2_fact_48 : decode cX2_fact 48 = .ok (.aload_n 1, 1) := dk_43 (dk_at dksX2_fact_2 0 rfl rfl)
theorem dX2_fact_49 : decode cX2_fact 49 = .ok (.areturn, 1) := dk_176 (dk_at dksX2_fact_2 1 rfl rfl)
theorem dX2_fact_50 : decode cX2_fact 50 = .ok (.aload_n 0, 1) := dk_42 (dk_at dksX2_fact_2 2 rfl rfl)
theorem dX2_fact_51 : decode cX2_fact 51 = .ok (.ldc_w 338, 3) := dk_19 1 82 (dk_at dksX2_fact_2 3 rfl rfl)
theorem dX2_fact_54 : decode cX2_fact 54 = .ok (.invokevirtual 330, 3) := dk_182 1 74 (dk_at dksX2_fact_2 6 rfl rfl)
theorem dX2_fact_57 : decode cX2_fact 57 = .ok (.ifCond .eq 35, 3) := dk_153 0 35 (dk_at dksX2_fact_2 9 rfl rfl)
theorem dX2_fact_60 : decode cX2_fact 60 = .ok (.aload_n 0, 1) := dk_42 (dk_at dksX2_fact_2 12 rfl rfl)
theorem dX2_fact_61 : decode cX2_fact 61 = .ok (.aload_n 0, 1) := dk_42 (dk_at dksX2_fact_2 13 rfl rfl)
theorem dX2_fact_62 : decode cX2_fact 62 = .ok (.getfield 61, 3) := dk_180 0 61 (dk_at dksX2_fact_2 14 rfl rfl)
theorem dX2_fact_65 : decode cX2_fact 65 = .ok (.invokevirtual 283, 3) := dk_182 1 27 (dk_at dksX2_fact_2 17 rfl rfl)
theorem dX2_fact_68 : decode cX2_fact 68 = .ok (.new 340, 3) := dk_187 1 84 (dk_at dksX2_fact_2 20 rfl rfl)
theorem dX2_fact_71 : decode cX2_fact 71 = .ok (.dup, 1) := dk_89 (dk_at dksX2_fact_2 23 rfl rfl)
theorem dX2_fact_72 : decode cX2_fact 72 = .ok (.aload_n 0, 1) := dk_42 (dk_at dksX2_fact_3 0 rfl rfl)
theorem dX2_fact_73 : decode cX2_fact 73 = .ok (.invokevirtual 333, 3) := dk_182 1 77 (dk_at dksX2_fact_3 1 rfl rfl)
theorem dX2_fact_76 : decode cX2_fact 76 = .ok (.invokespecial 342, 3) := dk_183 1 86 (dk_at dksX2_fact_3 4 rfl rfl)
theorem dX2_fact_79 : decode cX2_fact 79 = .ok (.astore_n 1, 1) := dk_76 (dk_at dksX2_fact_3 7 rfl rfl)
theorem dX2_fact_80 : decode cX2_fact 80 = .ok (.aload_n 0, 1) := dk_42 (dk_at dksX2_fact_3 8 rfl rfl)
theorem dX2_fact_81 : decode cX2_fact 81 = .ok (.dup, 1) := dk_89 (dk_at dksX2_fact_3 9 rfl rfl)
theorem dX2_fact_82 : decode cX2_fact 82 = .ok (.getfield 125, 3) := dk_180 0 125 (dk_at dksX2_fact_3 10 rfl rfl)
theorem dX2_fact_85 : decode cX2_fact 85 = .ok (.iconst 1, 1) := dk_4 (dk_at dksX2_fact_3 13 rfl rfl)
theorem dX2_fact_86 : decode cX2_fact 86 = .ok (.isub, 1) := dk_100 (dk_at dksX2_fact_3 14 rfl rfl)
theorem dX2_fact_87 : decode cX2_fact 87 = .ok (.putfield 125, 3) := dk_181 0 125 (dk_at dksX2_fact_3 15 rfl rfl)
theorem dX2_fact_90 : decode cX2_fact 90 = .ok (.aload_n 1, 1) := dk_43 (dk_at dksX2_fact_3 18 rfl rfl)
theorem dX2_fact_91 : decode cX2_fact 91 = .ok (.areturn, 1) := dk_176 (dk_at dksX2_fact_3 19 rfl rfl)
theorem dX2_fact_92 : decode cX2_fact 92 = .ok (.aload_n 0, 1) := dk_42 (dk_at dksX2_fact_3 20 rfl rfl)
theorem dX2_fact_93 : decode cX2_fact 93 = .ok (.ldc_w 345, 3) := dk_19 1 89 (dk_at dksX2_fact_3 21 rfl rfl)
theorem dX2_fact_96 : decode cX2_fact 96 = .ok (.invokevirtual 330, 3) := dk_182 1 74 (dk_at dksX2_fact_4 0 rfl rfl)
theorem dX2_fact_99 : decode cX2_fact 99 = .ok (.ifCond .eq 11, 3) := dk_153 0 11 (dk_at dksX2_fact_4 3 rfl rfl)
theorem dX2_fact_102 : decode cX2_fact 102 = .ok (.new 347, 3) := dk_187 1 91 (dk_at dksX2_fact_4 6 rfl rfl)
theorem dX2_fact_105 : decode cX2_fact 105 = .ok (.dup, 1) := dk_89 (dk_at dksX2_fact_4 9 rfl rfl)
theorem dX2_fact_106 : decode cX2_fact 106 = .ok (.invokespecial 349, 3) := dk_183 1 93 (dk_at dksX2_fact_4 10 rfl rfl)
theorem dX2_fact_109 : decode cX2_fact 109 = .ok (.areturn, 1) := dk_176 (dk_at dksX2_fact_4 13 rfl rfl)
theorem dX2_fact_110 : decode cX2_fact 110 = .ok (.aload_n 0, 1) := dk_42 (dk_at dksX2_fact_4 14 rfl rfl)
theorem dX2_fact_111 : decode cX2_fact 111 = .ok (.invokevirtual 238, 3) := dk_182 0 238 (dk_at dksX2_fact_4 15 rfl rfl)
theorem dX2_fact_114 : decode cX2_fact 114 = .ok (.astore_n 1, 1) := dk_76 (dk_at dksX2_fact_4 18 rfl rfl)
theorem dX2_fact_115 : decode cX2_fact 115 = .ok (.aload_n 0, 1) := dk_42 (dk_at dksX2_fact_4 19 rfl rfl)
theorem dX2_fact_116 : decode cX2_fact 116 = .ok (.invokevirtual 43, 3) := dk_182 0 43 (dk_at dksX2_fact_4 20 rfl rfl)
theorem dX2_fact_119 : decode cX2_fact 119 = .ok (.istore_n 2, 1) := dk_61 (dk_at dksX2_fact_4 23 rfl rfl)
theorem dX2_fact_120 : decode cX2_fact 120 = .ok (.iload_n 2, 1) := dk_28 (dk_at dksX2_fact_5 0 rfl rfl)
theorem dX2_fact_121 : decode cX2_fact 121 = .ok (.bipush 60, 2) := dk_16 60 (dk_at dksX2_fact_5 1 rfl rfl)
theorem dX2_fact_123 : decode cX2_fact 123 = .ok (.if_icmp .eq 25, 3) := dk_159 0 25 (dk_at dksX2_fact_5 3 rfl rfl)
theorem dX2_fact_126 : decode cX2_fact 126 = .ok (.iload_n 2, 1) := dk_28 (dk_at dksX2_fact_5 6 rfl rfl)
theorem dX2_fact_127 : decode cX2_fact 127 = .ok (.bipush 62, 2) := dk_16 62 (dk_at dksX2_fact_5 7 rfl rfl)
theorem dX2_fact_129 : decode cX2_fact 129 = .ok (.if_icmp .eq 19, 3) := dk_159 0 19 (dk_at dksX2_fact_5 9 rfl rfl)
theorem dX2_fact_132 : decode cX2_fact 132 = .ok (.iload_n 2, 1) := dk_28 (dk_at dksX2_fact_5 12 rfl rfl)
theorem dX2_fact_133 : decode cX2_fact 133 = .ok (.bipush 61, 2) := dk_16 61 (dk_at dksX2_fact_5 13 rfl rfl)
theorem dX2_fact_135 : decode cX2_fact 135 = .ok (.if_icmp .eq 13, 3) := dk_159 0 13 (dk_at dksX2_fact_5 15 rfl rfl)
theorem dX2_fact_138 : decode cX2_fact 138 = .ok (.aload_n 0, 1) := dk_42 (dk_at dksX2_fact_5 18 rfl rfl)
theorem dX2_fact_139 : decode cX2_fact 139 = .ok (.iconst 1, 1) := dk_4 (dk_at dksX2_fact_5 19 rfl rfl)
theorem dX2_fact_140 : decode cX2_fact 140 = .ok (.aload_n 0, 1) := dk_42 (dk_at dksX2_fact_5 20 rfl rfl)
theorem dX2_fact_141 : decode cX2_fact 141 = .ok (.getfield 36, 3) := dk_180 0 36 (dk_at dksX2_fact_5 21 rfl rfl)
theorem dX2_fact_144 : decode cX2_fact 144 = .ok (.invokevirtual 47, 3) := dk_182 0 47 (dk_at dksX2_fact_6 0 rfl rfl)
theorem dX2_fact_147 : decode cX2_fact 147 = .ok (.athrow, 1) := dk_191 (dk_at dksX2_fact_6 3 rfl rfl)
theorem dX2_fact_148 : decode cX2_fact 148 = .ok (.aload_n 0, 1) := dk_42 (dk_at dksX2_fact_6 4 rfl rfl)
theorem dX2_fact_149 : decode cX2_fact 149 = .ok (.dup, 1) := dk_89 (dk_at dksX2_fact_6 5 rfl rfl)
theorem dX2_fact_150 : decode cX2_fact 150 = .ok (.getfield 36, 3) := dk_180 0 36 (dk_at dksX2_fact_6 6 rfl rfl)
theorem dX2_fact_153 : decode cX2_fact 153 = .ok (.iconst 1, 1) := dk_4 (dk_at dksX2_fact_6 9 rfl rfl)
theorem dX2_fact_154 : decode cX2_fact 154 = .ok (.iadd, 1) := dk_96 (dk_at dksX2_fact_6 10 rfl rfl)
theorem dX2_fact_155 : decode cX2_fact 155 = .ok (.putfield 36, 3) := dk_181 0 36 (dk_at dksX2_fact_6 11 rfl rfl)
theorem dX2_fact_158 : decode cX2_fact 158 = .ok (.new 350, 3) := dk_187 1 94 (dk_at dksX2_fact_6 14 rfl rfl)
theorem dX2_fact_161 : decode cX2_fact 161 = .ok (.dup, 1) := dk_89 (dk_at dksX2_fact_6 17 rfl rfl)
theorem dX2_fact_162 : decode cX2_fact 162 = .ok (.aload_n 1, 1) := dk_43 (dk_at dksX2_fact_6 18 rfl rfl)
theorem dX2_fact_163 : decode cX2_fact 163 = .ok (.iload_n 2, 1) := dk_28 (dk_at dksX2_fact_6 19 rfl rfl)
theorem dX2_fact_164 : decode cX2_fact 164 = .ok (.aload_n 0, 1) := dk_42 (dk_at dksX2_fact_6 20 rfl rfl)
theorem dX2_fact_165 : decode cX2_fact 165 = .ok (.invokevirtual 238, 3) := dk_182 0 238 (dk_at dksX2_fact_6 21 rfl rfl)
theorem dX2_fact_168 : decode cX2_fact 168 = .ok (.invokespecial 352, 3) := dk_183 1 96 (dk_at dksX2_fact_7 0 rfl rfl)
theorem dX2_fact_171 : decode cX2_fact 171 = .ok (.areturn, 1) := dk_176 (dk_at dksX2_fact_7 3 rfl rfl)
abbrev cX2_passes : ByteArray := prog_17_method_9_code
def yX2_passes : MethodName := ⟨RX2, "passes", "(Ljava/lang/String;)Z"⟩
def dkwX2_passes_1 : List UInt8 := [182, 0, 74, 153, 0, 5, 4, 172, 42, 28, 181, 0, 36, 3, 172]
abbrev dktX2_passes_1 : List UInt8 := dkwX2_passes_1 ++ []
def dkwX2_passes_0 : List UInt8 := [42, 180, 0, 36, 61, 42, 182, 0, 43, 184, 0, 51, 154, 0, 5, 3, 172, 42, 182, 0, 70, 43]
abbrev dktX2_passes_0 : List UInt8 := dkwX2_passes_0 ++ dktX2_passes_1
theorem dksX2_passes_0 : cX2_passes.data.toList.drop 0 = dktX2_passes_0 := by decide +kernel
theorem dksX2_passes_1 : cX2_passes.data.toList.drop 22 = dktX2_passes_1 := dk_seg dksX2_passes_0 22 rfl rfl
theorem dX2_passes_0 : decode cX2_passes 0 = .ok (.aload_n 0, 1) := dk_42 (dk_at dksX2_passes_0 0 rfl rfl)
theorem dX2_passes_1 : decode cX2_passes 1 = .ok (.getfield 36, 3) := dk_180 0 36 (dk_at dksX2_passes_0 1 rfl rfl)
theorem dX2_passes_4 : decode cX2_passes 4 = .ok (.istore_n 2, 1) := dk_61 (dk_at dksX2_passes_0 4 rfl rfl)
theorem dX2_passes_5 : decode cX2_passes 5 = .ok (.aload_n 0, 1) := dk_42 (dk_at dksX2_passes_0 5 rfl rfl)
theorem dX2_passes_6 : decode cX2_passes 6 = .ok (.invokevirtual 43, 3) := dk_182 0 43 (dk_at dksX2_passes_0 6 rfl rfl)
theorem dX2_passes_9 : decode cX2_passes 9 = .ok (.invokestatic 51, 3) := dk_184 0 51 (dk_at dksX2_passes_0 9 rfl rfl)
theorem dX2_passes_12 : decode cX2_passes 12 = .ok (.ifCond .ne 5, 3) := dk_154 0 5 (dk_at dksX2_passes_0 12 rfl rfl)
theorem dX2_passes_15 : decode cX2_passes 15 = .ok (.iconst 0, 1) := dk_3 (dk_at dksX2_passes_0 15 rfl rfl)
theorem dX2_passes_16 : decode cX2_passes 16 = .ok (.ireturn, 1) := dk_172 (dk_at dksX2_passes_0 16 rfl rfl)
theorem dX2_passes_17 : decode cX2_passes 17 = .ok (.aload_n 0, 1) := dk_42 (dk_at dksX2_passes_0 17 rfl rfl)
theorem dX2_passes_18 : decode cX2_passes 18 = .ok (.invokevirtual 70, 3) := dk_182 0 70 (dk_at dksX2_passes_0 18 rfl rfl)
theorem dX2_passes_21 : decode cX2_passes 21 = .ok (.aload_n 1, 1) := dk_43 (dk_at dksX2_passes_0 21 rfl rfl)
theorem dX2_passes_22 : decode cX2_passes 22 = .ok (.invokevirtual 74, 3) := dk_182 0 74 (dk_at dksX2_passes_1 0 rfl rfl)
theorem dX2_passes_25 : decode cX2_passes 25 = .ok (.ifCond .eq 5, 3) := dk_153 0 5 (dk_at dksX2_passes_1 3 rfl rfl)
theorem dX2_passes_28 : decode cX2_passes 28 = .ok (.iconst 1, 1) := dk_4 (dk_at dksX2_passes_1 6 rfl rfl)
theorem dX2_passes_29 : decode cX2_passes 29 = .ok (.ireturn, 1) := dk_172 (dk_at dksX2_passes_1 7 rfl rfl)
theorem dX2_passes_30 : decode cX2_passes 30 = .ok (.aload_n 0, 1) := dk_42 (dk_at dksX2_passes_1 8 rfl rfl)
theorem dX2_passes_31 : decode cX2_passes 31 = .ok (.iload_n 2, 1) := dk_28 (dk_at dksX2_passes_1 9 rfl rfl)
theorem dX2_passes_32 : decode cX2_passes 32 = .ok (.putfield 36, 3) := dk_181 0 36 (dk_at dksX2_passes_1 10 rfl rfl)
theorem dX2_passes_35 : decode cX2_passes 35 = .ok (.iconst 0, 1) := dk_3 (dk_at dksX2_passes_1 13 rfl rfl)
theorem dX2_passes_36 : decode cX2_passes 36 = .ok (.ireturn, 1) := dk_172 (dk_at dksX2_passes_1 14 rfl rfl)
abbrev cX2_question : ByteArray := prog_17_method_34_code
def yX2_question : MethodName := ⟨RX2, "question", "(I)LShrugHills$Question;"⟩
def dkwX2_question_4 : List UInt8 := [42, 180, 0, 36, 182, 0, 47, 191, 45, 176]
abbrev dktX2_question_4 : List UInt8 := dkwX2_question_4 ++ []
def dkwX2_question_3 : List UInt8 := [187, 1, 107, 89, 28, 1, 42, 182, 0, 238, 183, 1, 109, 78, 42, 182, 0, 43, 2, 159, 0, 13, 42, 4]
abbrev dktX2_question_3 : List UInt8 := dkwX2_question_3 ++ dktX2_question_4
def dkwX2_question_2 : List UInt8 := [191, 28, 6, 162, 0, 19, 187, 1, 107, 89, 28, 42, 182, 1, 6, 1, 183, 1, 109, 167, 0, 16]
abbrev dktX2_question_2 : List UInt8 := dkwX2_question_2 ++ dktX2_question_3
def dkwX2_question_1 : List UInt8 := [182, 0, 70, 178, 1, 104, 184, 0, 82, 61, 28, 2, 160, 0, 13, 42, 4, 42, 180, 0, 61, 182, 0, 47]
abbrev dktX2_question_1 : List UInt8 := dkwX2_question_1 ++ dktX2_question_2
def dkwX2_question_0 : List UInt8 := [42, 27, 181, 0, 29, 42, 3, 181, 0, 36, 42, 3, 181, 0, 125, 42, 17, 1, 207, 181, 0, 235, 42]
abbrev dktX2_question_0 : List UInt8 := dkwX2_question_0 ++ dktX2_question_1
theorem dksX2_question_0 : cX2_question.data.toList.drop 0 = dktX2_question_0 := by decide +kernel
theorem dksX2_question_1 : cX2_question.data.toList.drop 23 = dktX2_question_1 := dk_seg dksX2_question_0 23 rfl rfl
theorem dksX2_question_2 : cX2_question.data.toList.drop 47 = dktX2_question_2 := dk_seg dksX2_question_1 24 rfl rfl
theorem dksX2_question_3 : cX2_question.data.toList.drop 69 = dktX2_question_3 := dk_seg dksX2_question_2 22 rfl rfl
theorem dksX2_question_4 : cX2_question.data.toList.drop 93 = dktX2_question_4 := dk_seg dksX2_question_3 24 rfl rfl
theorem dX2_question_0 : decode cX2_question 0 = .ok (.aload_n 0, 1) := dk_42 (dk_at dksX2_question_0 0 rfl rfl)
theorem dX2_question_1 : decode cX2_question 1 = .ok (.iload_n 1, 1) := dk_27 (dk_at dksX2_question_0 1 rfl rfl)
theorem dX2_question_2 : decode cX2_question 2 = .ok (.putfield 29, 3) := dk_181 0 29 (dk_at dksX2_question_0 2 rfl rfl)
theorem dX2_question_5 : decode cX2_question 5 = .ok (.aload_n 0, 1) := dk_42 (dk_at dksX2_question_0 5 rfl rfl)
theorem dX2_question_6 : decode cX2_question 6 = .ok (.iconst 0, 1) := dk_3 (dk_at dksX2_question_0 6 rfl rfl)
theorem dX2_question_7 : decode cX2_question 7 = .ok (.putfield 36, 3) := dk_181 0 36 (dk_at dksX2_question_0 7 rfl rfl)
theorem dX2_question_10 : decode cX2_question 10 = .ok (.aload_n 0, 1) := dk_42 (dk_at dksX2_question_0 10 rfl rfl)
theorem dX2_question_11 : decode cX2_question 11 = .ok (.iconst 0, 1) := dk_3 (dk_at dksX2_question_0 11 rfl rfl)
theorem dX2_question_12 : decode cX2_question 12 = .ok (.putfield 125, 3) := dk_181 0 125 (dk_at dksX2_question_0 12 rfl rfl)
theorem dX2_question_15 : decode cX2_question 15 = .ok (.aload_n 0, 1) := dk_42 (dk_at dksX2_question_0 15 rfl rfl)
theorem dX2_question_16 : decode cX2_question 16 = .ok (.sipush 463, 3) := dk_17 1 207 (dk_at dksX2_question_0 16 rfl rfl)
theorem dX2_question_19 : decode cX2_question 19 = .ok (.putfield 235, 3) := dk_181 0 235 (dk_at dksX2_question_0 19 rfl rfl)
theorem dX2_question_22 : decode cX2_question 22 = .ok (.aload_n 0, 1) := dk_42 (dk_at dksX2_question_0 22 rfl rfl)
theorem dX2_question_23 : decode cX2_question 23 = .ok (.invokevirtual 70, 3) := dk_182 0 70 (dk_at dksX2_question_1 0 rfl rfl)
theorem dX2_question_26 : decode cX2_question 26 = .ok (.getstatic 360, 3) := dk_178 1 104 (dk_at dksX2_question_1 3 rfl rfl)
theorem dX2_question_29 : decode cX2_question 29 = .ok (.invokestatic 82, 3) := dk_184 0 82 (dk_at dksX2_question_1 6 rfl rfl)
theorem dX2_question_32 : decode cX2_question 32 = .ok (.istore_n 2, 1) := dk_61 (dk_at dksX2_question_1 9 rfl rfl)
theorem dX2_question_33 : decode cX2_question 33 = .ok (.iload_n 2, 1) := dk_28 (dk_at dksX2_question_1 10 rfl rfl)
theorem dX2_question_34 : decode cX2_question 34 = .ok (.iconst (-1), 1) := dk_2 (dk_at dksX2_question_1 11 rfl rfl)
theorem dX2_question_35 : decode cX2_question 35 = .ok (.if_icmp .ne 13, 3) := dk_160 0 13 (dk_at dksX2_question_1 12 rfl rfl)
theorem dX2_question_38 : decode cX2_question 38 = .ok (.aload_n 0, 1) := dk_42 (dk_at dksX2_question_1 15 rfl rfl)
theorem dX2_question_39 : decode cX2_question 39 = .ok (.iconst 1, 1) := dk_4 (dk_at dksX2_question_1 16 rfl rfl)
theorem dX2_question_40 : decode cX2_question 40 = .ok (.aload_n 0, 1) := dk_42 (dk_at dksX2_question_1 17 rfl rfl)
theorem dX2_question_41 : decode cX2_question 41 = .ok (.getfield 61, 3) := dk_180 0 61 (dk_at dksX2_question_1 18 rfl rfl)
theorem dX2_question_44 : decode cX2_question 44 = .ok (.invokevirtual 47, 3) := dk_182 0 47 (dk_at dksX2_question_1 21 rfl rfl)
theorem dX2_question_47 : decode cX2_question 47 = .ok (.athrow, 1) := dk_191 (dk_at dksX2_question_2 0 rfl rfl)
theorem dX2_question_48 : decode cX2_question 48 = .ok (.iload_n 2, 1) := dk_28 (dk_at dksX2_question_2 1 rfl rfl)
theorem dX2_question_49 : decode cX2_question 49 = .ok (.iconst 3, 1) := dk_6 (dk_at dksX2_question_2 2 rfl rfl)
theorem dX2_question_50 : decode cX2_question 50 = .ok (.if_icmp .ge 19, 3) := dk_162 0 19 (dk_at dksX2_question_2 3 rfl rfl)
theorem dX2_question_53 : decode cX2_question 53 = .ok (.new 363, 3) := dk_187 1 107 (dk_at dksX2_question_2 6 rfl rfl)
theorem dX2_question_56 : decode cX2_question 56 = .ok (.dup, 1) := dk_89 (dk_at dksX2_question_2 9 rfl rfl)
theorem dX2_question_57 : decode cX2_question 57 = .ok (.iload_n 2, 1) := dk_28 (dk_at dksX2_question_2 10 rfl rfl)
theorem dX2_question_58 : decode cX2_question 58 = .ok (.aload_n 0, 1) := dk_42 (dk_at dksX2_question_2 11 rfl rfl)
theorem dX2_question_59 : decode cX2_question 59 = .ok (.invokevirtual 262, 3) := dk_182 1 6 (dk_at dksX2_question_2 12 rfl rfl)
theorem dX2_question_62 : decode cX2_question 62 = .ok (.aconst_null, 1) := dk_1 (dk_at dksX2_question_2 15 rfl rfl)
theorem dX2_question_63 : decode cX2_question 63 = .ok (.invokespecial 365, 3) := dk_183 1 109 (dk_at dksX2_question_2 16 rfl rfl)
theorem dX2_question_66 : decode cX2_question 66 = .ok (.goto 16, 3) := dk_167 0 16 (dk_at dksX2_question_2 19 rfl rfl)
theorem dX2_question_69 : decode cX2_question 69 = .ok (.new 363, 3) := dk_187 1 107 (dk_at dksX2_question_3 0 rfl rfl)
theorem dX2_question_72 : decode cX2_question 72 = .ok (.dup, 1) := dk_89 (dk_at dksX2_question_3 3 rfl rfl)
theorem dX2_question_73 : decode cX2_question 73 = .ok (.iload_n 2, 1) := dk_28 (dk_at dksX2_question_3 4 rfl rfl)
theorem dX2_question_74 : decode cX2_question 74 = .ok (.aconst_null, 1) := dk_1 (dk_at dksX2_question_3 5 rfl rfl)
theorem dX2_question_75 : decode cX2_question 75 = .ok (.aload_n 0, 1) := dk_42 (dk_at dksX2_question_3 6 rfl rfl)
theorem dX2_question_76 : decode cX2_question 76 = .ok (.invokevirtual 238, 3) := dk_182 0 238 (dk_at dksX2_question_3 7 rfl rfl)
theorem dX2_question_79 : decode cX2_question 79 = .ok (.invokespecial 365, 3) := dk_183 1 109 (dk_at dksX2_question_3 10 rfl rfl)
theorem dX2_question_82 : decode cX2_question 82 = .ok (.astore_n 3, 1) := dk_78 (dk_at dksX2_question_3 13 rfl rfl)
theorem dX2_question_83 : decode cX2_question 83 = .ok (.aload_n 0, 1) := dk_42 (dk_at dksX2_question_3 14 rfl rfl)
theorem dX2_question_84 : decode cX2_question 84 = .ok (.invokevirtual 43, 3) := dk_182 0 43 (dk_at dksX2_question_3 15 rfl rfl)
theorem dX2_question_87 : decode cX2_question 87 = .ok (.iconst (-1), 1) := dk_2 (dk_at dksX2_question_3 18 rfl rfl)
theorem dX2_question_88 : decode cX2_question 88 = .ok (.if_icmp .eq 13, 3) := dk_159 0 13 (dk_at dksX2_question_3 19 rfl rfl)
theorem dX2_question_91 : decode cX2_question 91 = .ok (.aload_n 0, 1) := dk_42 (dk_at dksX2_question_3 22 rfl rfl)
theorem dX2_question_92 : decode cX2_question 92 = .ok (.iconst 1, 1) := dk_4 (dk_at dksX2_question_3 23 rfl rfl)
theorem dX2_question_93 : decode cX2_question 93 = .ok (.aload_n 0, 1) := dk_42 (dk_at dksX2_question_4 0 rfl rfl)
theorem dX2_question_94 : decode cX2_question 94 = .ok (.getfield 36, 3) := dk_180 0 36 (dk_at dksX2_question_4 1 rfl rfl)
theorem dX2_question_97 : decode cX2_question 97 = .ok (.invokevirtual 47, 3) := dk_182 0 47 (dk_at dksX2_question_4 4 rfl rfl)
theorem dX2_question_100 : decode cX2_question 100 = .ok (.athrow, 1) := dk_191 (dk_at dksX2_question_4 7 rfl rfl)
theorem dX2_question_101 : decode cX2_question 101 = .ok (.aload_n 3, 1) := dk_45 (dk_at dksX2_question_4 8 rfl rfl)
theorem dX2_question_102 : decode cX2_question 102 = .ok (.areturn, 1) := dk_176 (dk_at dksX2_question_4 9 rfl rfl)
theorem q176 : (Jvm.Cond.initialized "ShrugHills$Reader") ∈ lw_all := lw_g (lw_at lw_m1 6 rfl) rfl
theorem q255 : (Jvm.Cond.fieldLinkNest "ShrugHills$Reader" (139 : Nat) "ShrugHills$Plain" "statements" "I" "ShrugHills") ∈ lw_tbl := lw_at lw_m1 85 rfl
theorem q257 : (Jvm.Cond.fieldLinkNest "ShrugHills$Reader" (118 : Nat) "ShrugHills$Plain" "columns" "I" "ShrugHills") ∈ lw_tbl := lw_at lw_m1 87 rfl
theorem q258 : (Jvm.Cond.fieldLinkNest "ShrugHills$Reader" (121 : Nat) "ShrugHills$Plain" "rows" "I" "ShrugHills") ∈ lw_tbl := lw_at lw_m1 88 rfl
theorem q260 : (Jvm.Cond.fieldLinkNest "ShrugHills$Reader" (266 : Nat) "ShrugHills$Plain" "crowd" "I" "ShrugHills") ∈ lw_tbl := lw_at lw_m1 90 rfl
theorem q264 : (Jvm.Cond.fieldLinkNest "ShrugHills$Reader" (222 : Nat) "ShrugHills$Plain" "height" "[I" "ShrugHills") ∈ lw_tbl := lw_at lw_m1 94 rfl
theorem q267 : (Jvm.Cond.fieldLinkNest "ShrugHills$Reader" (192 : Nat) "ShrugHills$Plain" "topics" "Ljava/util/List;" "ShrugHills") ∈ lw_tbl := lw_at lw_m1 97 rfl
theorem q271 : (Jvm.Cond.fieldLinkNest "ShrugHills$Reader" (154 : Nat) "ShrugHills$Plain" "people" "Ljava/util/List;" "ShrugHills") ∈ lw_tbl := lw_at lw_m1 101 rfl
theorem q274 : (Jvm.Cond.fieldLinkNest "ShrugHills$Reader" (202 : Nat) "ShrugHills$Plain" "list" "Ljava/util/List;" "ShrugHills") ∈ lw_tbl := lw_at lw_m1 104 rfl
theorem q277 : (Jvm.Cond.fieldLinkNest "ShrugHills$Reader" (250 : Nat) "ShrugHills$Plain" "lifts" "LShrugHills$Value;" "ShrugHills") ∈ lw_tbl := lw_at lw_m1 107 rfl
theorem q279 : (Jvm.Cond.fieldLinkNest "ShrugHills$Reader" (257 : Nat) "ShrugHills$Plain" "tires" "LShrugHills$Value;" "ShrugHills") ∈ lw_tbl := lw_at lw_m1 109 rfl
theorem q281 : (Jvm.Cond.fieldLinkNest "ShrugHills$Reader" (259 : Nat) "ShrugHills$Plain" "holds" "LShrugHills$Test;" "ShrugHills") ∈ lw_tbl := lw_at lw_m1 111 rfl
theorem q306 : (Jvm.Cond.instantiable "ShrugHills$Reader" (8 : Nat)) ∈ lw_all := lw_g (lw_at lw_m1 136 rfl) rfl
theorem q308 : (Jvm.Cond.instanceMethod ({ cls := "ShrugHills$Reader", name := "<init>", desc := "(LShrugHills;)V" } : Jvm.MethodName)) ∈ lw_all := lw_g (lw_at lw_m1 138 rfl) rfl
theorem q309 : (Jvm.Cond.code ({ cls := "ShrugHills$Reader", name := "<init>", desc := "(LShrugHills;)V" } : Jvm.MethodName) prog_17_method_1_code (2 : Nat) (Option.none : Option Jvm.ClassFile.FieldType)) ∈ lw_all := lw_g (lw_at lw_m1 139 rfl) rfl
theorem q310 : (Jvm.Cond.methodLink "ShrugHills$Reader" (9 : Nat) ({ cls := "java/lang/Object", name := "<init>", desc := "()V" } : Jvm.MethodName)) ∈ lw_all := lw_g (lw_at lw_m1 140 rfl) rfl
theorem q311 : (Jvm.Cond.classLink "ShrugHills$Reader" (15 : Nat) "ShrugHills$Fault") ∈ lw_all := lw_g (lw_at lw_m1 141 rfl) rfl
theorem q350 : (Jvm.Cond.methodLink "ShrugHills$Reader" (17 : Nat) ({ cls := "ShrugHills$Fault", name := "<init>", desc := "()V" } : Jvm.MethodName)) ∈ lw_all := lw_g (lw_at lw_m1 180 rfl) rfl
theorem q362 : (Jvm.Cond.fieldLinkNest "ShrugHills$Reader" (22 : Nat) "ShrugHills$Fault" "kind" "I" "ShrugHills") ∈ lw_tbl := lw_at lw_m1 192 rfl
theorem q364 : (Jvm.Cond.fieldLinkNest "ShrugHills$Reader" (26 : Nat) "ShrugHills$Fault" "place" "I" "ShrugHills") ∈ lw_tbl := lw_at lw_m1 194 rfl
theorem q384 : (Jvm.Cond.fieldLink "ShrugHills$Reader" (18 : Nat) "ShrugHills$Reader" "fault" "LShrugHills$Fault;") ∈ lw_all := lw_g (lw_at lw_m1 214 rfl) rfl
theorem q385 : (Jvm.Cond.fieldLink "ShrugHills$Reader" (29 : Nat) "ShrugHills$Reader" "size" "I") ∈ lw_all := lw_g (lw_at lw_m1 215 rfl) rfl
theorem q386 : (Jvm.Cond.fieldLink "ShrugHills$Reader" (36 : Nat) "ShrugHills$Reader" "at" "I") ∈ lw_all := lw_g (lw_at lw_m1 216 rfl) rfl
theorem q387 : (Jvm.Cond.fieldLink "ShrugHills$Reader" (61 : Nat) "ShrugHills$Reader" "from" "I") ∈ lw_all := lw_g (lw_at lw_m1 217 rfl) rfl
theorem q388 : (Jvm.Cond.fieldLink "ShrugHills$Reader" (125 : Nat) "ShrugHills$Reader" "open" "I") ∈ lw_all := lw_g (lw_at lw_m1 218 rfl) rfl
theorem q389 : (Jvm.Cond.fieldLink "ShrugHills$Reader" (235 : Nat) "ShrugHills$Reader" "context" "I") ∈ lw_all := lw_g (lw_at lw_m1 219 rfl) rfl
theorem q390 : (Jvm.Cond.fieldLink "ShrugHills$Reader" (103 : Nat) "ShrugHills$Reader" "to" "LShrugHills$Plain;") ∈ lw_all := lw_g (lw_at lw_m1 220 rfl) rfl
theorem q391 : (Jvm.Cond.fieldLink "ShrugHills$Reader" (3 : Nat) "ShrugHills$Reader" "this$0" "LShrugHills;") ∈ lw_all := lw_g (lw_at lw_m1 221 rfl) rfl
theorem q392 : (Jvm.Cond.laysFinal "ShrugHills$Reader" "ShrugHills$Reader" "fault" "LShrugHills$Fault;") ∈ lw_all := lw_g (lw_at lw_m1 222 rfl) rfl
theorem q393 : (Jvm.Cond.soleField "ShrugHills$Reader" "fault") ∈ lw_all := lw_g (lw_at lw_m1 223 rfl) rfl
theorem q394 : (Jvm.Cond.lays "ShrugHills$Reader" "ShrugHills$Reader" "size" "I") ∈ lw_all := lw_g (lw_at lw_m1 224 rfl) rfl
theorem q395 : (Jvm.Cond.soleField "ShrugHills$Reader" "size") ∈ lw_all := lw_g (lw_at lw_m1 225 rfl) rfl
theorem q396 : (Jvm.Cond.lays "ShrugHills$Reader" "ShrugHills$Reader" "at" "I") ∈ lw_all := lw_g (lw_at lw_m1 226 rfl) rfl
theorem q397 : (Jvm.Cond.soleField "ShrugHills$Reader" "at") ∈ lw_all := lw_g (lw_at lw_m1 227 rfl) rfl
theorem q398 : (Jvm.Cond.lays "ShrugHills$Reader" "ShrugHills$Reader" "from" "I") ∈ lw_all := lw_g (lw_at lw_m1 228 rfl) rfl
theorem q399 : (Jvm.Cond.soleField "ShrugHills$Reader" "from") ∈ lw_all := lw_g (lw_at lw_m1 229 rfl) rfl
theorem q400 : (Jvm.Cond.lays "ShrugHills$Reader" "ShrugHills$Reader" "open" "I") ∈ lw_all := lw_g (lw_at lw_m1 230 rfl) rfl
theorem q401 : (Jvm.Cond.soleField "ShrugHills$Reader" "open") ∈ lw_all := lw_g (lw_at lw_m1 231 rfl) rfl
theorem q402 : (Jvm.Cond.lays "ShrugHills$Reader" "ShrugHills$Reader" "context" "I") ∈ lw_all := lw_g (lw_at lw_m1 232 rfl) rfl
theorem q403 : (Jvm.Cond.soleField "ShrugHills$Reader" "context") ∈ lw_all := lw_g (lw_at lw_m1 233 rfl) rfl
theorem q404 : (Jvm.Cond.lays "ShrugHills$Reader" "ShrugHills$Reader" "to" "LShrugHills$Plain;") ∈ lw_all := lw_g (lw_at lw_m1 234 rfl) rfl
theorem q405 : (Jvm.Cond.soleField "ShrugHills$Reader" "to") ∈ lw_all := lw_g (lw_at lw_m1 235 rfl) rfl
theorem q406 : (Jvm.Cond.laysFinal "ShrugHills$Reader" "ShrugHills$Reader" "this$0" "LShrugHills;") ∈ lw_all := lw_g (lw_at lw_m1 236 rfl) rfl
theorem q407 : (Jvm.Cond.soleField "ShrugHills$Reader" "this$0") ∈ lw_all := lw_g (lw_at lw_m1 237 rfl) rfl
theorem q408 : (Jvm.Cond.superclass "ShrugHills$Reader" "java/lang/Object") ∈ lw_all := lw_g (lw_at lw_m1 238 rfl) rfl
theorem q473 : (Jvm.Cond.fieldLinkNest "ShrugHills$Reader" (32 : Nat) "ShrugHills" "tape" "[B" "ShrugHills") ∈ lw_tbl := lw_at lw_m2 63 rfl
theorem q579 : (Jvm.Cond.instanceMethod ({ cls := "ShrugHills$Reader", name := "all", desc := "(I)LShrugHills$Plain;" } : Jvm.MethodName)) ∈ lw_all := lw_g (lw_at lw_m2 169 rfl) rfl
theorem q580 : (Jvm.Cond.selects "ShrugHills$Reader" ({ cls := "ShrugHills$Reader", name := "all", desc := "(I)LShrugHills$Plain;" } : Jvm.MethodName) ({ cls := "ShrugHills$Reader", name := "all", desc := "(I)LShrugHills$Plain;" } : Jvm.MethodName)) ∈ lw_all := lw_g (lw_at lw_m2 170 rfl) rfl
theorem q581 : (Jvm.Cond.code ({ cls := "ShrugHills$Reader", name := "all", desc := "(I)LShrugHills$Plain;" } : Jvm.MethodName) prog_17_method_17_code (3 : Nat) (Option.some (Jvm.ClassFile.FieldType.object "ShrugHills$Plain"))) ∈ lw_all := lw_g (lw_at lw_m2 171 rfl) rfl
theorem q582 : (Jvm.Cond.classLink "ShrugHills$Reader" (108 : Nat) "ShrugHills$Plain") ∈ lw_all := lw_g (lw_at lw_m2 172 rfl) rfl
theorem q583 : (Jvm.Cond.methodLink "ShrugHills$Reader" (124 : Nat) ({ cls := "ShrugHills$Plain", name := "<init>", desc := "()V" } : Jvm.MethodName)) ∈ lw_all := lw_g (lw_at lw_m2 173 rfl) rfl
theorem q584 : (Jvm.Cond.stringRef "ShrugHills$Reader" (128 : Nat) "plain") ∈ lw_tbl := lw_at lw_m2 174 rfl
theorem q585 : (Jvm.Cond.methodLink "ShrugHills$Reader" (93 : Nat) ({ cls := "ShrugHills$Reader", name := "word", desc := "(Ljava/lang/String;)V" } : Jvm.MethodName)) ∈ lw_all := lw_g (lw_at lw_m2 175 rfl) rfl
theorem q586 : (Jvm.Cond.privateMethod ({ cls := "ShrugHills$Reader", name := "word", desc := "(Ljava/lang/String;)V" } : Jvm.MethodName)) ∈ lw_tbl := lw_at lw_m2 176 rfl
theorem q587 : (Jvm.Cond.instanceMethod ({ cls := "ShrugHills$Reader", name := "word", desc := "(Ljava/lang/String;)V" } : Jvm.MethodName)) ∈ lw_all := lw_g (lw_at lw_m2 177 rfl) rfl
theorem q588 : (Jvm.Cond.code ({ cls := "ShrugHills$Reader", name := "word", desc := "(Ljava/lang/String;)V" } : Jvm.MethodName) prog_17_method_8_code (2 : Nat) (Option.none : Option Jvm.ClassFile.FieldType)) ∈ lw_all := lw_g (lw_at lw_m2 178 rfl) rfl
theorem q589 : (Jvm.Cond.methodLink "ShrugHills$Reader" (70 : Nat) ({ cls := "ShrugHills$Reader", name := "word", desc := "()Ljava/lang/String;" } : Jvm.MethodName)) ∈ lw_all := lw_g (lw_at lw_m2 179 rfl) rfl
theorem q590 : (Jvm.Cond.privateMethod ({ cls := "ShrugHills$Reader", name := "word", desc := "()Ljava/lang/String;" } : Jvm.MethodName)) ∈ lw_tbl := lw_at lw_m2 180 rfl
theorem q591 : (Jvm.Cond.instanceMethod ({ cls := "ShrugHills$Reader", name := "word", desc := "()Ljava/lang/String;" } : Jvm.MethodName)) ∈ lw_all := lw_g (lw_at lw_m2 181 rfl) rfl
theorem q592 : (Jvm.Cond.code ({ cls := "ShrugHills$Reader", name := "word", desc := "()Ljava/lang/String;" } : Jvm.MethodName) prog_17_method_7_code (3 : Nat) (Option.some (Jvm.ClassFile.FieldType.object "java/lang/String"))) ∈ lw_all := lw_g (lw_at lw_m2 182 rfl) rfl
theorem q593 : (Jvm.Cond.methodLink "ShrugHills$Reader" (43 : Nat) ({ cls := "ShrugHills$Reader", name := "here", desc := "()I" } : Jvm.MethodName)) ∈ lw_all := lw_g (lw_at lw_m2 183 rfl) rfl
theorem q594 : (Jvm.Cond.privateMethod ({ cls := "ShrugHills$Reader", name := "here", desc := "()I" } : Jvm.MethodName)) ∈ lw_tbl := lw_at lw_m2 184 rfl
theorem q595 : (Jvm.Cond.instanceMethod ({ cls := "ShrugHills$Reader", name := "here", desc := "()I" } : Jvm.MethodName)) ∈ lw_all := lw_g (lw_at lw_m2 185 rfl) rfl
theorem q596 : (Jvm.Cond.code ({ cls := "ShrugHills$Reader", name := "here", desc := "()I" } : Jvm.MethodName) prog_17_method_4_code (1 : Nat) (Option.some Jvm.ClassFile.FieldType.int)) ∈ lw_all := lw_g (lw_at lw_m2 186 rfl) rfl
theorem q597 : (Jvm.Cond.methodLink "ShrugHills$Reader" (39 : Nat) ({ cls := "ShrugHills$Reader", name := "byteAt", desc := "(I)I" } : Jvm.MethodName)) ∈ lw_all := lw_g (lw_at lw_m2 187 rfl) rfl
theorem q598 : (Jvm.Cond.privateMethod ({ cls := "ShrugHills$Reader", name := "byteAt", desc := "(I)I" } : Jvm.MethodName)) ∈ lw_tbl := lw_at lw_m2 188 rfl
theorem q599 : (Jvm.Cond.instanceMethod ({ cls := "ShrugHills$Reader", name := "byteAt", desc := "(I)I" } : Jvm.MethodName)) ∈ lw_all := lw_g (lw_at lw_m2 189 rfl) rfl
theorem q600 : (Jvm.Cond.code ({ cls := "ShrugHills$Reader", name := "byteAt", desc := "(I)I" } : Jvm.MethodName) prog_17_method_3_code (2 : Nat) (Option.some Jvm.ClassFile.FieldType.int)) ∈ lw_all := lw_g (lw_at lw_m2 190 rfl) rfl
theorem q601 : (Jvm.Cond.methodLinkNest "ShrugHills$Reader" (51 : Nat) ({ cls := "ShrugHills", name := "isLetter", desc := "(I)Z" } : Jvm.MethodName) "ShrugHills") ∈ lw_tbl := lw_at lw_m2 191 rfl
theorem q604 : (Jvm.Cond.methodLink "ShrugHills$Reader" (47 : Nat) ({ cls := "ShrugHills$Reader", name := "wrong", desc := "(II)LShrugHills$Fault;" } : Jvm.MethodName)) ∈ lw_all := lw_g (lw_at lw_m2 194 rfl) rfl
theorem q605 : (Jvm.Cond.privateMethod ({ cls := "ShrugHills$Reader", name := "wrong", desc := "(II)LShrugHills$Fault;" } : Jvm.MethodName)) ∈ lw_tbl := lw_at lw_m2 195 rfl
theorem q606 : (Jvm.Cond.instanceMethod ({ cls := "ShrugHills$Reader", name := "wrong", desc := "(II)LShrugHills$Fault;" } : Jvm.MethodName)) ∈ lw_all := lw_g (lw_at lw_m2 196 rfl) rfl
theorem q607 : (Jvm.Cond.code ({ cls := "ShrugHills$Reader", name := "wrong", desc := "(II)LShrugHills$Fault;" } : Jvm.MethodName) prog_17_method_2_code (3 : Nat) (Option.some (Jvm.ClassFile.FieldType.object "ShrugHills$Fault"))) ∈ lw_all := lw_g (lw_at lw_m2 197 rfl) rfl
theorem q608 : (Jvm.Cond.methodLink "ShrugHills$Reader" (58 : Nat) ({ cls := "ShrugHills$Reader", name := "parted", desc := "()V" } : Jvm.MethodName)) ∈ lw_all := lw_g (lw_at lw_m2 198 rfl) rfl
theorem q609 : (Jvm.Cond.privateMethod ({ cls := "ShrugHills$Reader", name := "parted", desc := "()V" } : Jvm.MethodName)) ∈ lw_tbl := lw_at lw_m2 199 rfl
theorem q610 : (Jvm.Cond.instanceMethod ({ cls := "ShrugHills$Reader", name := "parted", desc := "()V" } : Jvm.MethodName)) ∈ lw_all := lw_g (lw_at lw_m2 200 rfl) rfl
theorem q611 : (Jvm.Cond.code ({ cls := "ShrugHills$Reader", name := "parted", desc := "()V" } : Jvm.MethodName) prog_17_method_6_code (1 : Nat) (Option.none : Option Jvm.ClassFile.FieldType)) ∈ lw_all := lw_g (lw_at lw_m2 201 rfl) rfl
theorem q612 : (Jvm.Cond.methodLinkNest "ShrugHills$Reader" (55 : Nat) ({ cls := "ShrugHills", name := "isDigit", desc := "(I)Z" } : Jvm.MethodName) "ShrugHills") ∈ lw_tbl := lw_at lw_m2 202 rfl
theorem q615 : (Jvm.Cond.methodLink "ShrugHills$Reader" (64 : Nat) ({ cls := "java/lang/String", name := "valueOf", desc := "([C)Ljava/lang/String;" } : Jvm.MethodName)) ∈ lw_all := lw_g (lw_at lw_m2 205 rfl) rfl
theorem q693 : (Jvm.Cond.methodLink "ShrugHills$Reader" (74 : Nat) ({ cls := "java/lang/String", name := "equals", desc := "(Ljava/lang/Object;)Z" } : Jvm.MethodName)) ∈ lw_all := lw_g (lw_at lw_m3 43 rfl) rfl
theorem q700 : (Jvm.Cond.methodLink "ShrugHills$Reader" (96 : Nat) ({ cls := "ShrugHills$Reader", name := "number", desc := "(II)I" } : Jvm.MethodName)) ∈ lw_all := lw_g (lw_at lw_m3 50 rfl) rfl
theorem q701 : (Jvm.Cond.privateMethod ({ cls := "ShrugHills$Reader", name := "number", desc := "(II)I" } : Jvm.MethodName)) ∈ lw_tbl := lw_at lw_m3 51 rfl
theorem q702 : (Jvm.Cond.instanceMethod ({ cls := "ShrugHills$Reader", name := "number", desc := "(II)I" } : Jvm.MethodName)) ∈ lw_all := lw_g (lw_at lw_m3 52 rfl) rfl
theorem q703 : (Jvm.Cond.code ({ cls := "ShrugHills$Reader", name := "number", desc := "(II)I" } : Jvm.MethodName) prog_17_method_11_code (4 : Nat) (Option.some Jvm.ClassFile.FieldType.int)) ∈ lw_all := lw_g (lw_at lw_m3 53 rfl) rfl
theorem q704 : (Jvm.Cond.methodLinkNest "ShrugHills$Reader" (89 : Nat) ({ cls := "ShrugHills", name := "is", desc := "(III)Z" } : Jvm.MethodName) "ShrugHills") ∈ lw_tbl := lw_at lw_m3 54 rfl
theorem q707 : (Jvm.Cond.stringRef "ShrugHills$Reader" (130 : Nat) "by") ∈ lw_tbl := lw_at lw_m3 57 rfl
theorem q708 : (Jvm.Cond.methodLink "ShrugHills$Reader" (132 : Nat) ({ cls := "ShrugHills$Reader", name := "number", desc := "(Ljava/lang/String;II)I" } : Jvm.MethodName)) ∈ lw_all := lw_g (lw_at lw_m3 58 rfl) rfl
theorem q709 : (Jvm.Cond.privateMethod ({ cls := "ShrugHills$Reader", name := "number", desc := "(Ljava/lang/String;II)I" } : Jvm.MethodName)) ∈ lw_tbl := lw_at lw_m3 59 rfl
theorem q710 : (Jvm.Cond.instanceMethod ({ cls := "ShrugHills$Reader", name := "number", desc := "(Ljava/lang/String;II)I" } : Jvm.MethodName)) ∈ lw_all := lw_g (lw_at lw_m3 60 rfl) rfl
theorem q711 : (Jvm.Cond.code ({ cls := "ShrugHills$Reader", name := "number", desc := "(Ljava/lang/String;II)I" } : Jvm.MethodName) prog_17_method_12_code (4 : Nat) (Option.some Jvm.ClassFile.FieldType.int)) ∈ lw_all := lw_g (lw_at lw_m3 61 rfl) rfl
theorem q712 : (Jvm.Cond.methodLink "ShrugHills$Reader" (135 : Nat) ({ cls := "ShrugHills$Reader", name := "must", desc := "(I)V" } : Jvm.MethodName)) ∈ lw_all := lw_g (lw_at lw_m3 62 rfl) rfl
theorem q713 : (Jvm.Cond.privateMethod ({ cls := "ShrugHills$Reader", name := "must", desc := "(I)V" } : Jvm.MethodName)) ∈ lw_tbl := lw_at lw_m3 63 rfl
theorem q714 : (Jvm.Cond.instanceMethod ({ cls := "ShrugHills$Reader", name := "must", desc := "(I)V" } : Jvm.MethodName)) ∈ lw_all := lw_g (lw_at lw_m3 64 rfl) rfl
theorem q715 : (Jvm.Cond.code ({ cls := "ShrugHills$Reader", name := "must", desc := "(I)V" } : Jvm.MethodName) prog_17_method_5_code (2 : Nat) (Option.none : Option Jvm.ClassFile.FieldType)) ∈ lw_all := lw_g (lw_at lw_m3 65 rfl) rfl
theorem q716 : (Jvm.Cond.methodLink "ShrugHills$Reader" (142 : Nat) ({ cls := "ShrugHills$Reader", name := "most", desc := "(ZI)V" } : Jvm.MethodName)) ∈ lw_all := lw_g (lw_at lw_m3 66 rfl) rfl
theorem q717 : (Jvm.Cond.privateMethod ({ cls := "ShrugHills$Reader", name := "most", desc := "(ZI)V" } : Jvm.MethodName)) ∈ lw_tbl := lw_at lw_m3 67 rfl
theorem q718 : (Jvm.Cond.instanceMethod ({ cls := "ShrugHills$Reader", name := "most", desc := "(ZI)V" } : Jvm.MethodName)) ∈ lw_all := lw_g (lw_at lw_m3 68 rfl) rfl
theorem q719 : (Jvm.Cond.code ({ cls := "ShrugHills$Reader", name := "most", desc := "(ZI)V" } : Jvm.MethodName) prog_17_method_15_code (3 : Nat) (Option.none : Option Jvm.ClassFile.FieldType)) ∈ lw_all := lw_g (lw_at lw_m3 69 rfl) rfl
theorem q720 : (Jvm.Cond.methodLink "ShrugHills$Reader" (146 : Nat) ({ cls := "ShrugHills$Reader", name := "laid", desc := "(Ljava/lang/String;I)Z" } : Jvm.MethodName)) ∈ lw_all := lw_g (lw_at lw_m3 70 rfl) rfl
theorem q721 : (Jvm.Cond.privateMethod ({ cls := "ShrugHills$Reader", name := "laid", desc := "(Ljava/lang/String;I)Z" } : Jvm.MethodName)) ∈ lw_tbl := lw_at lw_m3 71 rfl
theorem q722 : (Jvm.Cond.instanceMethod ({ cls := "ShrugHills$Reader", name := "laid", desc := "(Ljava/lang/String;I)Z" } : Jvm.MethodName)) ∈ lw_all := lw_g (lw_at lw_m3 72 rfl) rfl
theorem q723 : (Jvm.Cond.code ({ cls := "ShrugHills$Reader", name := "laid", desc := "(Ljava/lang/String;I)Z" } : Jvm.MethodName) prog_17_method_21_code (6 : Nat) (Option.some Jvm.ClassFile.FieldType.boolean)) ∈ lw_all := lw_g (lw_at lw_m3 73 rfl) rfl
theorem q724 : (Jvm.Cond.methodLink "ShrugHills$Reader" (210 : Nat) ({ cls := "java/lang/String", name := "hashCode", desc := "()I" } : Jvm.MethodName)) ∈ lw_all := lw_g (lw_at lw_m3 74 rfl) rfl
theorem q777 : (Jvm.Cond.stringRef "ShrugHills$Reader" (213 : Nat) "high") ∈ lw_tbl := lw_at lw_m3 127 rfl
theorem q778 : (Jvm.Cond.stringRef "ShrugHills$Reader" (215 : Nat) "topic") ∈ lw_tbl := lw_at lw_m3 128 rfl
theorem q779 : (Jvm.Cond.stringRef "ShrugHills$Reader" (217 : Nat) "person") ∈ lw_tbl := lw_at lw_m3 129 rfl
theorem q780 : (Jvm.Cond.stringRef "ShrugHills$Reader" (219 : Nat) "knows") ∈ lw_tbl := lw_at lw_m3 130 rfl
theorem q781 : (Jvm.Cond.stringRef "ShrugHills$Reader" (220 : Nat) "asks") ∈ lw_tbl := lw_at lw_m3 131 rfl
theorem q782 : (Jvm.Cond.methodLink "ShrugHills$Reader" (166 : Nat) ({ cls := "ShrugHills$Reader", name := "cell", desc := "()I" } : Jvm.MethodName)) ∈ lw_all := lw_g (lw_at lw_m3 132 rfl) rfl
theorem q783 : (Jvm.Cond.privateMethod ({ cls := "ShrugHills$Reader", name := "cell", desc := "()I" } : Jvm.MethodName)) ∈ lw_tbl := lw_at lw_m3 133 rfl
theorem q784 : (Jvm.Cond.instanceMethod ({ cls := "ShrugHills$Reader", name := "cell", desc := "()I" } : Jvm.MethodName)) ∈ lw_all := lw_g (lw_at lw_m3 134 rfl) rfl
theorem q785 : (Jvm.Cond.code ({ cls := "ShrugHills$Reader", name := "cell", desc := "()I" } : Jvm.MethodName) prog_17_method_16_code (2 : Nat) (Option.some Jvm.ClassFile.FieldType.int)) ∈ lw_all := lw_g (lw_at lw_m3 135 rfl) rfl
theorem q786 : (Jvm.Cond.interfaceEntry "ShrugHills$Reader" (158 : Nat)) ∈ lw_tbl := lw_at lw_m3 136 rfl
theorem q787 : (Jvm.Cond.methodLink "ShrugHills$Reader" (158 : Nat) ({ cls := "java/util/List", name := "size", desc := "()I" } : Jvm.MethodName)) ∈ lw_all := lw_g (lw_at lw_m3 137 rfl) rfl
theorem q796 : (Jvm.Cond.classLink "ShrugHills$Reader" (114 : Nat) "ShrugHills$Named") ∈ lw_all := lw_g (lw_at lw_m3 146 rfl) rfl
theorem q798 : (Jvm.Cond.methodLink "ShrugHills$Reader" (162 : Nat) ({ cls := "ShrugHills$Reader", name := "fresh", desc := "()Ljava/lang/String;" } : Jvm.MethodName)) ∈ lw_all := lw_g (lw_at lw_m3 148 rfl) rfl
theorem q799 : (Jvm.Cond.privateMethod ({ cls := "ShrugHills$Reader", name := "fresh", desc := "()Ljava/lang/String;" } : Jvm.MethodName)) ∈ lw_tbl := lw_at lw_m3 149 rfl
theorem q800 : (Jvm.Cond.instanceMethod ({ cls := "ShrugHills$Reader", name := "fresh", desc := "()Ljava/lang/String;" } : Jvm.MethodName)) ∈ lw_all := lw_g (lw_at lw_m3 150 rfl) rfl
theorem q801 : (Jvm.Cond.code ({ cls := "ShrugHills$Reader", name := "fresh", desc := "()Ljava/lang/String;" } : Jvm.MethodName) prog_17_method_13_code (2 : Nat) (Option.some (Jvm.ClassFile.FieldType.object "java/lang/String"))) ∈ lw_all := lw_g (lw_at lw_m3 151 rfl) rfl
theorem q802 : (Jvm.Cond.methodLink "ShrugHills$Reader" (100 : Nat) ({ cls := "ShrugHills$Reader", name := "name", desc := "()Ljava/lang/String;" } : Jvm.MethodName)) ∈ lw_all := lw_g (lw_at lw_m3 152 rfl) rfl
theorem q803 : (Jvm.Cond.privateMethod ({ cls := "ShrugHills$Reader", name := "name", desc := "()Ljava/lang/String;" } : Jvm.MethodName)) ∈ lw_tbl := lw_at lw_m3 153 rfl
theorem q804 : (Jvm.Cond.instanceMethod ({ cls := "ShrugHills$Reader", name := "name", desc := "()Ljava/lang/String;" } : Jvm.MethodName)) ∈ lw_all := lw_g (lw_at lw_m3 154 rfl) rfl
theorem q805 : (Jvm.Cond.code ({ cls := "ShrugHills$Reader", name := "name", desc := "()Ljava/lang/String;" } : Jvm.MethodName) prog_17_method_10_code (2 : Nat) (Option.some (Jvm.ClassFile.FieldType.object "java/lang/String"))) ∈ lw_all := lw_g (lw_at lw_m3 155 rfl) rfl
theorem q806 : (Jvm.Cond.fieldLinkNest "ShrugHills$Reader" (78 : Nat) "ShrugHills" "OWN" "[Ljava/lang/String;" "ShrugHills") ∈ lw_tbl := lw_at lw_m3 156 rfl
theorem q808 : (Jvm.Cond.methodLinkNest "ShrugHills$Reader" (82 : Nat) ({ cls := "ShrugHills", name := "find", desc := "(Ljava/lang/String;[Ljava/lang/String;)I" } : Jvm.MethodName) "ShrugHills") ∈ lw_tbl := lw_at lw_m3 158 rfl
theorem q812 : (Jvm.Cond.methodLink "ShrugHills$Reader" (86 : Nat) ({ cls := "java/lang/String", name := "length", desc := "()I" } : Jvm.MethodName)) ∈ lw_all := lw_g (lw_at lw_m3 162 rfl) rfl
theorem q820 : (Jvm.Cond.methodLink "ShrugHills$Reader" (107 : Nat) ({ cls := "ShrugHills$Plain", name := "isNamed", desc := "(Ljava/lang/String;)Z" } : Jvm.MethodName)) ∈ lw_all := lw_g (lw_at lw_m3 170 rfl) rfl
theorem q850 : (Jvm.Cond.methodLink "ShrugHills$Reader" (226 : Nat) ({ cls := "ShrugHills$Named", name := "<init>", desc := "(Ljava/lang/String;)V" } : Jvm.MethodName)) ∈ lw_all := lw_g (lw_at lw_m3 200 rfl) rfl
theorem q858 : (Jvm.Cond.interfaceEntry "ShrugHills$Reader" (179 : Nat)) ∈ lw_tbl := lw_at lw_m3 208 rfl
theorem q859 : (Jvm.Cond.methodLink "ShrugHills$Reader" (179 : Nat) ({ cls := "java/util/List", name := "add", desc := "(Ljava/lang/Object;)Z" } : Jvm.MethodName)) ∈ lw_all := lw_g (lw_at lw_m3 209 rfl) rfl
theorem q913 : (Jvm.Cond.selects "ShrugHills$Reader" ({ cls := "java/lang/Object", name := "getClass", desc := "()Ljava/lang/Class;" } : Jvm.MethodName) ({ cls := "java/lang/Object", name := "getClass", desc := "()Ljava/lang/Class;" } : Jvm.MethodName)) ∈ lw_all := lw_g (lw_at lw_m4 23 rfl) rfl
theorem q934 : (Jvm.Cond.methodLink "ShrugHills$Reader" (228 : Nat) ({ cls := "ShrugHills$Reader", name := "person", desc := "(I)V" } : Jvm.MethodName)) ∈ lw_all := lw_g (lw_at lw_m4 44 rfl) rfl
theorem q935 : (Jvm.Cond.privateMethod ({ cls := "ShrugHills$Reader", name := "person", desc := "(I)V" } : Jvm.MethodName)) ∈ lw_tbl := lw_at lw_m4 45 rfl
theorem q936 : (Jvm.Cond.instanceMethod ({ cls := "ShrugHills$Reader", name := "person", desc := "(I)V" } : Jvm.MethodName)) ∈ lw_all := lw_g (lw_at lw_m4 46 rfl) rfl
theorem q937 : (Jvm.Cond.code ({ cls := "ShrugHills$Reader", name := "person", desc := "(I)V" } : Jvm.MethodName) prog_17_method_18_code (4 : Nat) (Option.none : Option Jvm.ClassFile.FieldType)) ∈ lw_all := lw_g (lw_at lw_m4 47 rfl) rfl
theorem q938 : (Jvm.Cond.stringRef "ShrugHills$Reader" (165 : Nat) "at") ∈ lw_tbl := lw_at lw_m4 48 rfl
theorem q939 : (Jvm.Cond.methodLink "ShrugHills$Reader" (169 : Nat) ({ cls := "ShrugHills$Plain", name := "isTaken", desc := "(I)Z" } : Jvm.MethodName)) ∈ lw_all := lw_g (lw_at lw_m4 49 rfl) rfl
theorem q948 : (Jvm.Cond.classLink "ShrugHills$Reader" (172 : Nat) "ShrugHills$Person") ∈ lw_all := lw_g (lw_at lw_m4 58 rfl) rfl
theorem q950 : (Jvm.Cond.stringRef "ShrugHills$Reader" (174 : Nat) "tired") ∈ lw_tbl := lw_at lw_m4 60 rfl
theorem q951 : (Jvm.Cond.methodLink "ShrugHills$Reader" (176 : Nat) ({ cls := "ShrugHills$Person", name := "<init>", desc := "(Ljava/lang/String;II)V" } : Jvm.MethodName)) ∈ lw_all := lw_g (lw_at lw_m4 61 rfl) rfl
theorem q961 : (Jvm.Cond.fieldLinkNest "ShrugHills$Reader" (195 : Nat) "ShrugHills$Person" "knows" "I" "ShrugHills") ∈ lw_tbl := lw_at lw_m4 71 rfl
theorem q970 : (Jvm.Cond.methodLink "ShrugHills$Reader" (230 : Nat) ({ cls := "ShrugHills$Reader", name := "knows", desc := "()V" } : Jvm.MethodName)) ∈ lw_all := lw_g (lw_at lw_m4 80 rfl) rfl
theorem q971 : (Jvm.Cond.privateMethod ({ cls := "ShrugHills$Reader", name := "knows", desc := "()V" } : Jvm.MethodName)) ∈ lw_tbl := lw_at lw_m4 81 rfl
theorem q972 : (Jvm.Cond.instanceMethod ({ cls := "ShrugHills$Reader", name := "knows", desc := "()V" } : Jvm.MethodName)) ∈ lw_all := lw_g (lw_at lw_m4 82 rfl) rfl
theorem q973 : (Jvm.Cond.code ({ cls := "ShrugHills$Reader", name := "knows", desc := "()V" } : Jvm.MethodName) prog_17_method_19_code (3 : Nat) (Option.none : Option Jvm.ClassFile.FieldType)) ∈ lw_all := lw_g (lw_at lw_m4 83 rfl) rfl
theorem q974 : (Jvm.Cond.methodLink "ShrugHills$Reader" (182 : Nat) ({ cls := "ShrugHills$Reader", name := "known", desc := "(Ljava/util/List;)I" } : Jvm.MethodName)) ∈ lw_all := lw_g (lw_at lw_m4 84 rfl) rfl
theorem q975 : (Jvm.Cond.privateMethod ({ cls := "ShrugHills$Reader", name := "known", desc := "(Ljava/util/List;)I" } : Jvm.MethodName)) ∈ lw_tbl := lw_at lw_m4 85 rfl
theorem q976 : (Jvm.Cond.instanceMethod ({ cls := "ShrugHills$Reader", name := "known", desc := "(Ljava/util/List;)I" } : Jvm.MethodName)) ∈ lw_all := lw_g (lw_at lw_m4 86 rfl) rfl
theorem q977 : (Jvm.Cond.code ({ cls := "ShrugHills$Reader", name := "known", desc := "(Ljava/util/List;)I" } : Jvm.MethodName) prog_17_method_14_code (3 : Nat) (Option.some Jvm.ClassFile.FieldType.int)) ∈ lw_all := lw_g (lw_at lw_m4 87 rfl) rfl
theorem q978 : (Jvm.Cond.methodLink "ShrugHills$Reader" (113 : Nat) ({ cls := "ShrugHills$Named", name := "find", desc := "(Ljava/util/List;Ljava/lang/String;)I" } : Jvm.MethodName)) ∈ lw_all := lw_g (lw_at lw_m4 88 rfl) rfl
theorem q979 : (Jvm.Cond.interfaceEntry "ShrugHills$Reader" (186 : Nat)) ∈ lw_tbl := lw_at lw_m4 89 rfl
theorem q980 : (Jvm.Cond.methodLink "ShrugHills$Reader" (186 : Nat) ({ cls := "java/util/List", name := "get", desc := "(I)Ljava/lang/Object;" } : Jvm.MethodName)) ∈ lw_all := lw_g (lw_at lw_m4 90 rfl) rfl
theorem q981 : (Jvm.Cond.stringRef "ShrugHills$Reader" (190 : Nat) "of") ∈ lw_tbl := lw_at lw_m4 91 rfl
theorem q982 : (Jvm.Cond.methodLinkNest "ShrugHills$Reader" (198 : Nat) ({ cls := "ShrugHills", name := "has", desc := "(II)Z" } : Jvm.MethodName) "ShrugHills") ∈ lw_tbl := lw_at lw_m4 92 rfl
theorem q985 : (Jvm.Cond.methodLink "ShrugHills$Reader" (232 : Nat) ({ cls := "ShrugHills$Reader", name := "asking", desc := "(I)V" } : Jvm.MethodName)) ∈ lw_all := lw_g (lw_at lw_m4 95 rfl) rfl
theorem q986 : (Jvm.Cond.privateMethod ({ cls := "ShrugHills$Reader", name := "asking", desc := "(I)V" } : Jvm.MethodName)) ∈ lw_tbl := lw_at lw_m4 96 rfl
theorem q987 : (Jvm.Cond.instanceMethod ({ cls := "ShrugHills$Reader", name := "asking", desc := "(I)V" } : Jvm.MethodName)) ∈ lw_all := lw_g (lw_at lw_m4 97 rfl) rfl
theorem q988 : (Jvm.Cond.code ({ cls := "ShrugHills$Reader", name := "asking", desc := "(I)V" } : Jvm.MethodName) prog_17_method_20_code (3 : Nat) (Option.none : Option Jvm.ClassFile.FieldType)) ∈ lw_all := lw_g (lw_at lw_m4 98 rfl) rfl
theorem q989 : (Jvm.Cond.classLink "ShrugHills$Reader" (205 : Nat) "ShrugHills$Asking") ∈ lw_all := lw_g (lw_at lw_m4 99 rfl) rfl
theorem q991 : (Jvm.Cond.methodLink "ShrugHills$Reader" (207 : Nat) ({ cls := "ShrugHills$Asking", name := "<init>", desc := "(II)V" } : Jvm.MethodName)) ∈ lw_all := lw_g (lw_at lw_m4 101 rfl) rfl
theorem q1006 : (Jvm.Cond.methodLink "ShrugHills$Reader" (150 : Nat) ({ cls := "ShrugHills$Reader", name := "more", desc := "(Ljava/lang/String;I)V" } : Jvm.MethodName)) ∈ lw_all := lw_g (lw_at lw_m4 116 rfl) rfl
theorem q1007 : (Jvm.Cond.privateMethod ({ cls := "ShrugHills$Reader", name := "more", desc := "(Ljava/lang/String;I)V" } : Jvm.MethodName)) ∈ lw_tbl := lw_at lw_m4 117 rfl
theorem q1008 : (Jvm.Cond.instanceMethod ({ cls := "ShrugHills$Reader", name := "more", desc := "(Ljava/lang/String;I)V" } : Jvm.MethodName)) ∈ lw_all := lw_g (lw_at lw_m4 118 rfl) rfl
theorem q1009 : (Jvm.Cond.code ({ cls := "ShrugHills$Reader", name := "more", desc := "(Ljava/lang/String;I)V" } : Jvm.MethodName) prog_17_method_23_code (5 : Nat) (Option.none : Option Jvm.ClassFile.FieldType)) ∈ lw_all := lw_g (lw_at lw_m4 119 rfl) rfl
theorem q1010 : (Jvm.Cond.stringRef "ShrugHills$Reader" (242 : Nat) "lifts") ∈ lw_tbl := lw_at lw_m4 120 rfl
theorem q1011 : (Jvm.Cond.stringRef "ShrugHills$Reader" (244 : Nat) "tires") ∈ lw_tbl := lw_at lw_m4 121 rfl
theorem q1012 : (Jvm.Cond.stringRef "ShrugHills$Reader" (246 : Nat) "holds") ∈ lw_tbl := lw_at lw_m4 122 rfl
theorem q1013 : (Jvm.Cond.stringRef "ShrugHills$Reader" (248 : Nat) "crowd") ∈ lw_tbl := lw_at lw_m4 123 rfl
theorem q1014 : (Jvm.Cond.methodLink "ShrugHills$Reader" (253 : Nat) ({ cls := "ShrugHills$Reader", name := "once", desc := "(LShrugHills$Value;II)LShrugHills$Value;" } : Jvm.MethodName)) ∈ lw_all := lw_g (lw_at lw_m4 124 rfl) rfl
theorem q1015 : (Jvm.Cond.privateMethod ({ cls := "ShrugHills$Reader", name := "once", desc := "(LShrugHills$Value;II)LShrugHills$Value;" } : Jvm.MethodName)) ∈ lw_tbl := lw_at lw_m4 125 rfl
theorem q1016 : (Jvm.Cond.instanceMethod ({ cls := "ShrugHills$Reader", name := "once", desc := "(LShrugHills$Value;II)LShrugHills$Value;" } : Jvm.MethodName)) ∈ lw_all := lw_g (lw_at lw_m4 126 rfl) rfl
theorem q1017 : (Jvm.Cond.code ({ cls := "ShrugHills$Reader", name := "once", desc := "(LShrugHills$Value;II)LShrugHills$Value;" } : Jvm.MethodName) prog_17_method_22_code (4 : Nat) (Option.some (Jvm.ClassFile.FieldType.object "ShrugHills$Value"))) ∈ lw_all := lw_g (lw_at lw_m4 127 rfl) rfl
theorem q1018 : (Jvm.Cond.methodLink "ShrugHills$Reader" (238 : Nat) ({ cls := "ShrugHills$Reader", name := "sum", desc := "()LShrugHills$Value;" } : Jvm.MethodName)) ∈ lw_all := lw_g (lw_at lw_m4 128 rfl) rfl
theorem q1019 : (Jvm.Cond.privateMethod ({ cls := "ShrugHills$Reader", name := "sum", desc := "()LShrugHills$Value;" } : Jvm.MethodName)) ∈ lw_tbl := lw_at lw_m4 129 rfl
theorem q1020 : (Jvm.Cond.instanceMethod ({ cls := "ShrugHills$Reader", name := "sum", desc := "()LShrugHills$Value;" } : Jvm.MethodName)) ∈ lw_all := lw_g (lw_at lw_m4 130 rfl) rfl
theorem q1021 : (Jvm.Cond.code ({ cls := "ShrugHills$Reader", name := "sum", desc := "()LShrugHills$Value;" } : Jvm.MethodName) prog_17_method_25_code (3 : Nat) (Option.some (Jvm.ClassFile.FieldType.object "ShrugHills$Value"))) ∈ lw_all := lw_g (lw_at lw_m4 131 rfl) rfl
theorem q1022 : (Jvm.Cond.classLink "ShrugHills$Reader" (268 : Nat) "ShrugHills$Chain") ∈ lw_all := lw_g (lw_at lw_m4 132 rfl) rfl
theorem q1024 : (Jvm.Cond.methodLinkNest "ShrugHills$Reader" (270 : Nat) ({ cls := "ShrugHills$Chain", name := "<init>", desc := "()V" } : Jvm.MethodName) "ShrugHills") ∈ lw_tbl := lw_at lw_m4 134 rfl
theorem q1063 : (Jvm.Cond.methodLink "ShrugHills$Reader" (271 : Nat) ({ cls := "ShrugHills$Reader", name := "product", desc := "()LShrugHills$Value;" } : Jvm.MethodName)) ∈ lw_all := lw_g (lw_at lw_m4 173 rfl) rfl
theorem q1064 : (Jvm.Cond.privateMethod ({ cls := "ShrugHills$Reader", name := "product", desc := "()LShrugHills$Value;" } : Jvm.MethodName)) ∈ lw_tbl := lw_at lw_m4 174 rfl
theorem q1065 : (Jvm.Cond.instanceMethod ({ cls := "ShrugHills$Reader", name := "product", desc := "()LShrugHills$Value;" } : Jvm.MethodName)) ∈ lw_all := lw_g (lw_at lw_m4 175 rfl) rfl
theorem q1066 : (Jvm.Cond.code ({ cls := "ShrugHills$Reader", name := "product", desc := "()LShrugHills$Value;" } : Jvm.MethodName) prog_17_method_26_code (3 : Nat) (Option.some (Jvm.ClassFile.FieldType.object "ShrugHills$Value"))) ∈ lw_all := lw_g (lw_at lw_m4 176 rfl) rfl
theorem q1067 : (Jvm.Cond.methodLink "ShrugHills$Reader" (280 : Nat) ({ cls := "ShrugHills$Reader", name := "atom", desc := "()LShrugHills$Value;" } : Jvm.MethodName)) ∈ lw_all := lw_g (lw_at lw_m4 177 rfl) rfl
theorem q1068 : (Jvm.Cond.privateMethod ({ cls := "ShrugHills$Reader", name := "atom", desc := "()LShrugHills$Value;" } : Jvm.MethodName)) ∈ lw_tbl := lw_at lw_m4 178 rfl
theorem q1069 : (Jvm.Cond.instanceMethod ({ cls := "ShrugHills$Reader", name := "atom", desc := "()LShrugHills$Value;" } : Jvm.MethodName)) ∈ lw_all := lw_g (lw_at lw_m4 179 rfl) rfl
theorem q1070 : (Jvm.Cond.code ({ cls := "ShrugHills$Reader", name := "atom", desc := "()LShrugHills$Value;" } : Jvm.MethodName) prog_17_method_29_code (3 : Nat) (Option.some (Jvm.ClassFile.FieldType.object "ShrugHills$Value"))) ∈ lw_all := lw_g (lw_at lw_m4 180 rfl) rfl
theorem q1071 : (Jvm.Cond.methodLink "ShrugHills$Reader" (291 : Nat) ({ cls := "ShrugHills$Reader", name := "within", desc := "(I)LShrugHills$Value;" } : Jvm.MethodName)) ∈ lw_all := lw_g (lw_at lw_m4 181 rfl) rfl
theorem q1072 : (Jvm.Cond.privateMethod ({ cls := "ShrugHills$Reader", name := "within", desc := "(I)LShrugHills$Value;" } : Jvm.MethodName)) ∈ lw_tbl := lw_at lw_m4 182 rfl
theorem q1073 : (Jvm.Cond.instanceMethod ({ cls := "ShrugHills$Reader", name := "within", desc := "(I)LShrugHills$Value;" } : Jvm.MethodName)) ∈ lw_all := lw_g (lw_at lw_m4 183 rfl) rfl
theorem q1074 : (Jvm.Cond.code ({ cls := "ShrugHills$Reader", name := "within", desc := "(I)LShrugHills$Value;" } : Jvm.MethodName) prog_17_method_28_code (4 : Nat) (Option.some (Jvm.ClassFile.FieldType.object "ShrugHills$Value"))) ∈ lw_all := lw_g (lw_at lw_m4 184 rfl) rfl
theorem q1075 : (Jvm.Cond.methodLink "ShrugHills$Reader" (283 : Nat) ({ cls := "ShrugHills$Reader", name := "opens", desc := "(I)V" } : Jvm.MethodName)) ∈ lw_all := lw_g (lw_at lw_m4 185 rfl) rfl
theorem q1076 : (Jvm.Cond.privateMethod ({ cls := "ShrugHills$Reader", name := "opens", desc := "(I)V" } : Jvm.MethodName)) ∈ lw_tbl := lw_at lw_m4 186 rfl
theorem q1077 : (Jvm.Cond.instanceMethod ({ cls := "ShrugHills$Reader", name := "opens", desc := "(I)V" } : Jvm.MethodName)) ∈ lw_all := lw_g (lw_at lw_m4 187 rfl) rfl
theorem q1078 : (Jvm.Cond.code ({ cls := "ShrugHills$Reader", name := "opens", desc := "(I)V" } : Jvm.MethodName) prog_17_method_27_code (2 : Nat) (Option.none : Option Jvm.ClassFile.FieldType)) ∈ lw_all := lw_g (lw_at lw_m4 188 rfl) rfl
theorem q1079 : (Jvm.Cond.classLink "ShrugHills$Reader" (286 : Nat) "ShrugHills$Pair") ∈ lw_all := lw_g (lw_at lw_m4 189 rfl) rfl
theorem q1081 : (Jvm.Cond.methodLink "ShrugHills$Reader" (288 : Nat) ({ cls := "ShrugHills$Pair", name := "<init>", desc := "(ZLShrugHills$Value;LShrugHills$Value;)V" } : Jvm.MethodName)) ∈ lw_all := lw_g (lw_at lw_m4 191 rfl) rfl
theorem q1095 : (Jvm.Cond.classLink "ShrugHills$Reader" (295 : Nat) "ShrugHills$Fixed") ∈ lw_all := lw_g (lw_at lw_m4 205 rfl) rfl
theorem q1097 : (Jvm.Cond.methodLink "ShrugHills$Reader" (297 : Nat) ({ cls := "ShrugHills$Fixed", name := "<init>", desc := "(J)V" } : Jvm.MethodName)) ∈ lw_all := lw_g (lw_at lw_m4 207 rfl) rfl
theorem q1105 : (Jvm.Cond.fieldLinkNest "ShrugHills$Reader" (300 : Nat) "ShrugHills" "ASKED" "[Ljava/lang/String;" "ShrugHills") ∈ lw_tbl := lw_at lw_m4 215 rfl
theorem q1107 : (Jvm.Cond.classLink "ShrugHills$Reader" (303 : Nat) "ShrugHills$Asked") ∈ lw_all := lw_g (lw_at lw_m4 217 rfl) rfl
theorem q1109 : (Jvm.Cond.methodLink "ShrugHills$Reader" (305 : Nat) ({ cls := "ShrugHills$Asked", name := "<init>", desc := "(I)V" } : Jvm.MethodName)) ∈ lw_all := lw_g (lw_at lw_m4 219 rfl) rfl
theorem q1117 : (Jvm.Cond.fieldLinkNest "ShrugHills$Reader" (307 : Nat) "ShrugHills" "LOOKED" "[Ljava/lang/String;" "ShrugHills") ∈ lw_tbl := lw_at lw_m4 227 rfl
theorem q1119 : (Jvm.Cond.methodLink "ShrugHills$Reader" (310 : Nat) ({ cls := "ShrugHills$Reader", name := "looked", desc := "(I)LShrugHills$Value;" } : Jvm.MethodName)) ∈ lw_all := lw_g (lw_at lw_m4 229 rfl) rfl
theorem q1120 : (Jvm.Cond.privateMethod ({ cls := "ShrugHills$Reader", name := "looked", desc := "(I)LShrugHills$Value;" } : Jvm.MethodName)) ∈ lw_tbl := lw_at lw_m4 230 rfl
theorem q1121 : (Jvm.Cond.instanceMethod ({ cls := "ShrugHills$Reader", name := "looked", desc := "(I)LShrugHills$Value;" } : Jvm.MethodName)) ∈ lw_all := lw_g (lw_at lw_m4 231 rfl) rfl
theorem q1122 : (Jvm.Cond.code ({ cls := "ShrugHills$Reader", name := "looked", desc := "(I)LShrugHills$Value;" } : Jvm.MethodName) prog_17_method_33_code (3 : Nat) (Option.some (Jvm.ClassFile.FieldType.object "ShrugHills$Value"))) ∈ lw_all := lw_g (lw_at lw_m4 232 rfl) rfl
theorem q1123 : (Jvm.Cond.classLink "ShrugHills$Reader" (355 : Nat) "ShrugHills$Looked") ∈ lw_all := lw_g (lw_at lw_m4 233 rfl) rfl
theorem q1125 : (Jvm.Cond.methodLink "ShrugHills$Reader" (357 : Nat) ({ cls := "ShrugHills$Looked", name := "<init>", desc := "(LShrugHills;ILShrugHills$Value;)V" } : Jvm.MethodName)) ∈ lw_all := lw_g (lw_at lw_m4 235 rfl) rfl
theorem q1139 : (Jvm.Cond.stringRef "ShrugHills$Reader" (313 : Nat) "min") ∈ lw_tbl := lw_at lw_m5 9 rfl
theorem q1140 : (Jvm.Cond.stringRef "ShrugHills$Reader" (315 : Nat) "max") ∈ lw_tbl := lw_at lw_m5 10 rfl
theorem q1141 : (Jvm.Cond.methodLink "ShrugHills$Reader" (274 : Nat) ({ cls := "ShrugHills$Chain", name := "add", desc := "(CLShrugHills$Value;)V" } : Jvm.MethodName)) ∈ lw_all := lw_g (lw_at lw_m5 11 rfl) rfl
theorem q1202 : (Jvm.Cond.methodLink "ShrugHills$Reader" (277 : Nat) ({ cls := "ShrugHills$Reader", name := "takes", desc := "(I)Z" } : Jvm.MethodName)) ∈ lw_all := lw_g (lw_at lw_m5 72 rfl) rfl
theorem q1203 : (Jvm.Cond.privateMethod ({ cls := "ShrugHills$Reader", name := "takes", desc := "(I)Z" } : Jvm.MethodName)) ∈ lw_tbl := lw_at lw_m5 73 rfl
theorem q1204 : (Jvm.Cond.instanceMethod ({ cls := "ShrugHills$Reader", name := "takes", desc := "(I)Z" } : Jvm.MethodName)) ∈ lw_all := lw_g (lw_at lw_m5 74 rfl) rfl
theorem q1205 : (Jvm.Cond.code ({ cls := "ShrugHills$Reader", name := "takes", desc := "(I)Z" } : Jvm.MethodName) prog_17_method_24_code (3 : Nat) (Option.some Jvm.ClassFile.FieldType.boolean)) ∈ lw_all := lw_g (lw_at lw_m5 75 rfl) rfl
theorem q1206 : (Jvm.Cond.methodLink "ShrugHills$Reader" (262 : Nat) ({ cls := "ShrugHills$Reader", name := "test", desc := "()LShrugHills$Test;" } : Jvm.MethodName)) ∈ lw_all := lw_g (lw_at lw_m5 76 rfl) rfl
theorem q1207 : (Jvm.Cond.privateMethod ({ cls := "ShrugHills$Reader", name := "test", desc := "()LShrugHills$Test;" } : Jvm.MethodName)) ∈ lw_tbl := lw_at lw_m5 77 rfl
theorem q1208 : (Jvm.Cond.instanceMethod ({ cls := "ShrugHills$Reader", name := "test", desc := "()LShrugHills$Test;" } : Jvm.MethodName)) ∈ lw_all := lw_g (lw_at lw_m5 78 rfl) rfl
theorem q1209 : (Jvm.Cond.code ({ cls := "ShrugHills$Reader", name := "test", desc := "()LShrugHills$Test;" } : Jvm.MethodName) prog_17_method_30_code (2 : Nat) (Option.some (Jvm.ClassFile.FieldType.object "ShrugHills$Test"))) ∈ lw_all := lw_g (lw_at lw_m5 79 rfl) rfl
theorem q1210 : (Jvm.Cond.classLink "ShrugHills$Reader" (317 : Nat) "ShrugHills$Facts") ∈ lw_all := lw_g (lw_at lw_m5 80 rfl) rfl
theorem q1212 : (Jvm.Cond.methodLink "ShrugHills$Reader" (319 : Nat) ({ cls := "ShrugHills$Facts", name := "<init>", desc := "(Z)V" } : Jvm.MethodName)) ∈ lw_all := lw_g (lw_at lw_m5 82 rfl) rfl
theorem q1222 : (Jvm.Cond.fieldLinkNest "ShrugHills$Reader" (322 : Nat) "ShrugHills$Facts" "tests" "Ljava/util/List;" "ShrugHills") ∈ lw_tbl := lw_at lw_m5 92 rfl
theorem q1229 : (Jvm.Cond.methodLink "ShrugHills$Reader" (325 : Nat) ({ cls := "ShrugHills$Reader", name := "both", desc := "()LShrugHills$Test;" } : Jvm.MethodName)) ∈ lw_all := lw_g (lw_at lw_m5 99 rfl) rfl
theorem q1230 : (Jvm.Cond.privateMethod ({ cls := "ShrugHills$Reader", name := "both", desc := "()LShrugHills$Test;" } : Jvm.MethodName)) ∈ lw_tbl := lw_at lw_m5 100 rfl
theorem q1231 : (Jvm.Cond.instanceMethod ({ cls := "ShrugHills$Reader", name := "both", desc := "()LShrugHills$Test;" } : Jvm.MethodName)) ∈ lw_all := lw_g (lw_at lw_m5 101 rfl) rfl
theorem q1232 : (Jvm.Cond.code ({ cls := "ShrugHills$Reader", name := "both", desc := "()LShrugHills$Test;" } : Jvm.MethodName) prog_17_method_31_code (2 : Nat) (Option.some (Jvm.ClassFile.FieldType.object "ShrugHills$Test"))) ∈ lw_all := lw_g (lw_at lw_m5 102 rfl) rfl
theorem q1233 : (Jvm.Cond.methodLink "ShrugHills$Reader" (333 : Nat) ({ cls := "ShrugHills$Reader", name := "fact", desc := "()LShrugHills$Test;" } : Jvm.MethodName)) ∈ lw_all := lw_g (lw_at lw_m5 103 rfl) rfl
theorem q1234 : (Jvm.Cond.privateMethod ({ cls := "ShrugHills$Reader", name := "fact", desc := "()LShrugHills$Test;" } : Jvm.MethodName)) ∈ lw_tbl := lw_at lw_m5 104 rfl
theorem q1235 : (Jvm.Cond.instanceMethod ({ cls := "ShrugHills$Reader", name := "fact", desc := "()LShrugHills$Test;" } : Jvm.MethodName)) ∈ lw_all := lw_g (lw_at lw_m5 105 rfl) rfl
theorem q1236 : (Jvm.Cond.code ({ cls := "ShrugHills$Reader", name := "fact", desc := "()LShrugHills$Test;" } : Jvm.MethodName) prog_17_method_32_code (3 : Nat) (Option.some (Jvm.ClassFile.FieldType.object "ShrugHills$Test"))) ∈ lw_all := lw_g (lw_at lw_m5 106 rfl) rfl
theorem q1237 : (Jvm.Cond.stringRef "ShrugHills$Reader" (338 : Nat) "not") ∈ lw_tbl := lw_at lw_m5 107 rfl
theorem q1238 : (Jvm.Cond.methodLink "ShrugHills$Reader" (330 : Nat) ({ cls := "ShrugHills$Reader", name := "passes", desc := "(Ljava/lang/String;)Z" } : Jvm.MethodName)) ∈ lw_all := lw_g (lw_at lw_m5 108 rfl) rfl
theorem q1239 : (Jvm.Cond.privateMethod ({ cls := "ShrugHills$Reader", name := "passes", desc := "(Ljava/lang/String;)Z" } : Jvm.MethodName)) ∈ lw_tbl := lw_at lw_m5 109 rfl
theorem q1240 : (Jvm.Cond.instanceMethod ({ cls := "ShrugHills$Reader", name := "passes", desc := "(Ljava/lang/String;)Z" } : Jvm.MethodName)) ∈ lw_all := lw_g (lw_at lw_m5 110 rfl) rfl
theorem q1241 : (Jvm.Cond.code ({ cls := "ShrugHills$Reader", name := "passes", desc := "(Ljava/lang/String;)Z" } : Jvm.MethodName) prog_17_method_9_code (3 : Nat) (Option.some Jvm.ClassFile.FieldType.boolean)) ∈ lw_all := lw_g (lw_at lw_m5 111 rfl) rfl
theorem q1242 : (Jvm.Cond.classLink "ShrugHills$Reader" (340 : Nat) "ShrugHills$Not") ∈ lw_all := lw_g (lw_at lw_m5 112 rfl) rfl
theorem q1244 : (Jvm.Cond.methodLink "ShrugHills$Reader" (342 : Nat) ({ cls := "ShrugHills$Not", name := "<init>", desc := "(LShrugHills$Test;)V" } : Jvm.MethodName)) ∈ lw_all := lw_g (lw_at lw_m5 114 rfl) rfl
theorem q1252 : (Jvm.Cond.stringRef "ShrugHills$Reader" (345 : Nat) "all") ∈ lw_tbl := lw_at lw_m5 122 rfl
theorem q1253 : (Jvm.Cond.classLink "ShrugHills$Reader" (347 : Nat) "ShrugHills$All") ∈ lw_all := lw_g (lw_at lw_m5 123 rfl) rfl
theorem q1255 : (Jvm.Cond.methodLinkNest "ShrugHills$Reader" (349 : Nat) ({ cls := "ShrugHills$All", name := "<init>", desc := "()V" } : Jvm.MethodName) "ShrugHills") ∈ lw_tbl := lw_at lw_m5 125 rfl
theorem q1260 : (Jvm.Cond.classLink "ShrugHills$Reader" (350 : Nat) "ShrugHills$Than") ∈ lw_all := lw_g (lw_at lw_m5 130 rfl) rfl
theorem q1262 : (Jvm.Cond.methodLink "ShrugHills$Reader" (352 : Nat) ({ cls := "ShrugHills$Than", name := "<init>", desc := "(LShrugHills$Value;ILShrugHills$Value;)V" } : Jvm.MethodName)) ∈ lw_all := lw_g (lw_at lw_m5 132 rfl) rfl
theorem q1276 : (Jvm.Cond.stringRef "ShrugHills$Reader" (336 : Nat) "and") ∈ lw_tbl := lw_at lw_m5 146 rfl
theorem q1277 : (Jvm.Cond.stringRef "ShrugHills$Reader" (328 : Nat) "or") ∈ lw_tbl := lw_at lw_m5 147 rfl
theorem q1681 : (Jvm.Cond.instanceMethod ({ cls := "ShrugHills$Reader", name := "question", desc := "(I)LShrugHills$Question;" } : Jvm.MethodName)) ∈ lw_all := lw_g (lw_at lw_m7 71 rfl) rfl
theorem q1682 : (Jvm.Cond.selects "ShrugHills$Reader" ({ cls := "ShrugHills$Reader", name := "question", desc := "(I)LShrugHills$Question;" } : Jvm.MethodName) ({ cls := "ShrugHills$Reader", name := "question", desc := "(I)LShrugHills$Question;" } : Jvm.MethodName)) ∈ lw_all := lw_g (lw_at lw_m7 72 rfl) rfl
theorem q1683 : (Jvm.Cond.code ({ cls := "ShrugHills$Reader", name := "question", desc := "(I)LShrugHills$Question;" } : Jvm.MethodName) prog_17_method_34_code (4 : Nat) (Option.some (Jvm.ClassFile.FieldType.object "ShrugHills$Question"))) ∈ lw_all := lw_g (lw_at lw_m7 73 rfl) rfl
theorem q1684 : (Jvm.Cond.fieldLinkNest "ShrugHills$Reader" (360 : Nat) "ShrugHills" "TOLD_OF" "[Ljava/lang/String;" "ShrugHills") ∈ lw_tbl := lw_at lw_m7 74 rfl
theorem q1686 : (Jvm.Cond.classLink "ShrugHills$Reader" (363 : Nat) "ShrugHills$Question") ∈ lw_all := lw_g (lw_at lw_m7 76 rfl) rfl
theorem q1688 : (Jvm.Cond.methodLink "ShrugHills$Reader" (365 : Nat) ({ cls := "ShrugHills$Question", name := "<init>", desc := "(ILShrugHills$Test;LShrugHills$Value;)V" } : Jvm.MethodName)) ∈ lw_all := lw_g (lw_at lw_m7 78 rfl) rfl
theorem q2719 : (Jvm.Cond.castable "ShrugHills$Reader" "java/lang/Object") ∈ lw_tbl := lw_at lw_m11 149 rfl
theorem in_X2 : ∀ w ∈ wsX20, w ∈ lw_all := lw_in wsX20 [392, 394, 396, 398, 400, 402, 404, 406] (by decide +kernel) (by decide +kernel)
/-! ShrugHills$Fault -/
set_option maxRecDepth 100000
def RX3 : String := "ShrugHills$Fault"
def TX3 : u_T := fun k => match k with
  | 0 => ("java/lang/Throwable", "cause", "Ljava/lang/Throwable;", false)
  | 1 => ("java/lang/Throwable", "stackTrace", "[Ljava/lang/StackTraceElement;", false)
  | 2 => ("java/lang/Throwable", "suppressedExceptions", "Ljava/util/List;", false)
  | 3 => ("java/lang/Throwable", "detailMessage", "Ljava/lang/String;", false)
  | 4 => ("java/lang/Throwable", "backtrace", "Ljava/lang/Object;", false)
  | 5 => ("java/lang/Throwable", "depth", "I", false)
  | 6 => ("ShrugHills$Fault", "kind", "I", false)
  | _ => ("ShrugHills$Fault", "place", "I", false)
def tyX3 : Nat → FieldType := fun k => match k with
  | 0 => .object "java/lang/Throwable"
  | 1 => .array (.object "java/lang/StackTraceElement")
  | 2 => .object "java/util/List"
  | 3 => .object "java/lang/String"
  | 4 => .object "java/lang/Object"
  | 5 => .int
  | 6 => .int
  | _ => .int
abbrev wsX30 : List Cond := u_ws RX3 TX3 8
theorem nmX3 : ∀ a, a < 8 → ∀ b, b < 8 → a ≠ b → (TX3 a).2.1 ≠ (TX3 b).2.1 := by decide +kernel
theorem tyX3_ok : ∀ k, k < 8 → parseFieldDescriptor (TX3 k).2.2.1 = some (tyX3 k) := by decide +kernel
abbrev cX3_init : ByteArray := prog_7_method_1_code
def yX3_init : MethodName := ⟨RX3, "<init>", "()V"⟩
def dkwX3_init_0 : List UInt8 := [42, 1, 1, 3, 3, 183, 0, 1, 177]
abbrev dktX3_init_0 : List UInt8 := dkwX3_init_0 ++ []
theorem dksX3_init_0 : cX3_init.data.toList.drop 0 = dktX3_init_0 := by decide +kernel
theorem dX3_init_0 : decode cX3_init 0 = .ok (.aload_n 0, 1) := dk_42 (dk_at dksX3_init_0 0 rfl rfl)
theorem dX3_init_1 : decode cX3_init 1 = .ok (.aconst_null, 1) := dk_1 (dk_at dksX3_init_0 1 rfl rfl)
theorem dX3_init_2 : decode cX3_init 2 = .ok (.aconst_null, 1) := dk_1 (dk_at dksX3_init_0 2 rfl rfl)
theorem dX3_init_3 : decode cX3_init 3 = .ok (.iconst 0, 1) := dk_3 (dk_at dksX3_init_0 3 rfl rfl)
theorem dX3_init_4 : decode cX3_init 4 = .ok (.iconst 0, 1) := dk_3 (dk_at dksX3_init_0 4 rfl rfl)
theorem dX3_init_5 : decode cX3_init 5 = .ok (.invokespecial 1, 3) := dk_183 0 1 (dk_at dksX3_init_0 5 rfl rfl)
theorem dX3_init_8 : decode cX3_init 8 = .ok (.return_, 1) := dk_177 (dk_at dksX3_init_0 8 rfl rfl)
theorem q180 : (Jvm.Cond.initialized "ShrugHills$Fault") ∈ lw_all := lw_g (lw_at lw_m1 10 rfl) rfl
theorem q312 : (Jvm.Cond.instantiable "ShrugHills$Fault" (8 : Nat)) ∈ lw_all := lw_g (lw_at lw_m1 142 rfl) rfl
theorem q313 : (Jvm.Cond.castable "ShrugHills$Fault" "ShrugHills$Fault") ∈ lw_tbl := lw_at lw_m1 143 rfl
theorem q320 : (Jvm.Cond.selects "ShrugHills$Fault" ({ cls := "java/lang/Throwable", name := "fillInStackTrace", desc := "(I)Ljava/lang/Throwable;" } : Jvm.MethodName) ({ cls := "java/lang/Throwable", name := "fillInStackTrace", desc := "(I)Ljava/lang/Throwable;" } : Jvm.MethodName)) ∈ lw_all := lw_g (lw_at lw_m1 150 rfl) rfl
theorem q321 : (Jvm.Cond.selects "ShrugHills$Fault" ({ cls := "java/lang/Throwable", name := "fillInStackTrace", desc := "()Ljava/lang/Throwable;" } : Jvm.MethodName) ({ cls := "java/lang/Throwable", name := "fillInStackTrace", desc := "()Ljava/lang/Throwable;" } : Jvm.MethodName)) ∈ lw_all := lw_g (lw_at lw_m1 151 rfl) rfl
theorem q322 : (Jvm.Cond.lays "ShrugHills$Fault" "java/lang/Throwable" "cause" "Ljava/lang/Throwable;") ∈ lw_all := lw_g (lw_at lw_m1 152 rfl) rfl
theorem q324 : (Jvm.Cond.lays "ShrugHills$Fault" "java/lang/Throwable" "stackTrace" "[Ljava/lang/StackTraceElement;") ∈ lw_all := lw_g (lw_at lw_m1 154 rfl) rfl
theorem q326 : (Jvm.Cond.lays "ShrugHills$Fault" "java/lang/Throwable" "suppressedExceptions" "Ljava/util/List;") ∈ lw_all := lw_g (lw_at lw_m1 156 rfl) rfl
theorem q328 : (Jvm.Cond.lays "ShrugHills$Fault" "java/lang/Throwable" "detailMessage" "Ljava/lang/String;") ∈ lw_all := lw_g (lw_at lw_m1 158 rfl) rfl
theorem q330 : (Jvm.Cond.lays "ShrugHills$Fault" "java/lang/Throwable" "backtrace" "Ljava/lang/Object;") ∈ lw_all := lw_g (lw_at lw_m1 160 rfl) rfl
theorem q351 : (Jvm.Cond.instanceMethod ({ cls := "ShrugHills$Fault", name := "<init>", desc := "()V" } : Jvm.MethodName)) ∈ lw_all := lw_g (lw_at lw_m1 181 rfl) rfl
theorem q352 : (Jvm.Cond.code ({ cls := "ShrugHills$Fault", name := "<init>", desc := "()V" } : Jvm.MethodName) prog_7_method_1_code (1 : Nat) (Option.none : Option Jvm.ClassFile.FieldType)) ∈ lw_all := lw_g (lw_at lw_m1 182 rfl) rfl
theorem q353 : (Jvm.Cond.methodLink "ShrugHills$Fault" (1 : Nat) ({ cls := "java/lang/RuntimeException", name := "<init>", desc := "(Ljava/lang/String;Ljava/lang/Throwable;ZZ)V" } : Jvm.MethodName)) ∈ lw_all := lw_g (lw_at lw_m1 183 rfl) rfl
theorem q371 : (Jvm.Cond.lays "ShrugHills$Fault" "ShrugHills$Fault" "kind" "I") ∈ lw_all := lw_g (lw_at lw_m1 201 rfl) rfl
theorem q372 : (Jvm.Cond.soleField "ShrugHills$Fault" "kind") ∈ lw_all := lw_g (lw_at lw_m1 202 rfl) rfl
theorem q373 : (Jvm.Cond.lays "ShrugHills$Fault" "ShrugHills$Fault" "place" "I") ∈ lw_all := lw_g (lw_at lw_m1 203 rfl) rfl
theorem q374 : (Jvm.Cond.soleField "ShrugHills$Fault" "place") ∈ lw_all := lw_g (lw_at lw_m1 204 rfl) rfl
theorem q379 : (Jvm.Cond.lays "ShrugHills$Fault" "java/lang/Throwable" "depth" "I") ∈ lw_all := lw_g (lw_at lw_m1 209 rfl) rfl
theorem q382 : (Jvm.Cond.superclass "ShrugHills$Fault" "java/lang/RuntimeException") ∈ lw_all := lw_g (lw_at lw_m1 212 rfl) rfl
theorem q903 : (Jvm.Cond.selects "ShrugHills$Fault" ({ cls := "java/lang/Object", name := "getClass", desc := "()Ljava/lang/Class;" } : Jvm.MethodName) ({ cls := "java/lang/Object", name := "getClass", desc := "()Ljava/lang/Class;" } : Jvm.MethodName)) ∈ lw_all := lw_g (lw_at lw_m4 13 rfl) rfl
theorem q2720 : (Jvm.Cond.castable "ShrugHills$Fault" "java/lang/Object") ∈ lw_tbl := lw_at lw_m11 150 rfl
theorem in_X3 : ∀ w ∈ wsX30, w ∈ lw_all := lw_in wsX30 [322, 324, 326, 328, 330, 379, 371, 373] (by decide +kernel) (by decide +kernel)
/-! ShrugHills$Moment -/
set_option maxRecDepth 100000
def RX4 : String := "ShrugHills$Moment"
def TX4 : u_T := fun k => match k with
  | _ => ("ShrugHills$Moment", "of", "[J", true)
def tyX4 : Nat → FieldType := fun k => match k with
  | _ => .array .long
abbrev wsX40 : List Cond := u_ws RX4 TX4 1
theorem nmX4 : ∀ a, a < 1 → ∀ b, b < 1 → a ≠ b → (TX4 a).2.1 ≠ (TX4 b).2.1 := by decide +kernel
theorem tyX4_ok : ∀ k, k < 1 → parseFieldDescriptor (TX4 k).2.2.1 = some (tyX4 k) := by decide +kernel
abbrev cX4_init : ByteArray := prog_10_method_1_code
def yX4_init : MethodName := ⟨RX4, "<init>", "()V"⟩
def dkwX4_init_0 : List UInt8 := [42, 183, 0, 1, 42, 16, 9, 188, 11, 181, 0, 7, 177]
abbrev dktX4_init_0 : List UInt8 := dkwX4_init_0 ++ []
theorem dksX4_init_0 : cX4_init.data.toList.drop 0 = dktX4_init_0 := by decide +kernel
theorem dX4_init_0 : decode cX4_init 0 = .ok (.aload_n 0, 1) := dk_42 (dk_at dksX4_init_0 0 rfl rfl)
theorem dX4_init_1 : decode cX4_init 1 = .ok (.invokespecial 1, 3) := dk_183 0 1 (dk_at dksX4_init_0 1 rfl rfl)
theorem dX4_init_4 : decode cX4_init 4 = .ok (.aload_n 0, 1) := dk_42 (dk_at dksX4_init_0 4 rfl rfl)
theorem dX4_init_5 : decode cX4_init 5 = .ok (.bipush 9, 2) := dk_16 9 (dk_at dksX4_init_0 5 rfl rfl)
theorem dX4_init_7 : decode cX4_init 7 = .ok (.newarray .long, 2) := dk_188_11 (dk_at dksX4_init_0 7 rfl rfl)
theorem dX4_init_9 : decode cX4_init 9 = .ok (.putfield 7, 3) := dk_181 0 7 (dk_at dksX4_init_0 9 rfl rfl)
theorem dX4_init_12 : decode cX4_init 12 = .ok (.return_, 1) := dk_177 (dk_at dksX4_init_0 12 rfl rfl)
theorem q181 : (Jvm.Cond.initialized "ShrugHills$Moment") ∈ lw_all := lw_g (lw_at lw_m1 11 rfl) rfl
theorem q410 : (Jvm.Cond.instantiable "ShrugHills$Moment" (1 : Nat)) ∈ lw_all := lw_g (lw_at lw_m2 0 rfl) rfl
theorem q412 : (Jvm.Cond.instanceMethod ({ cls := "ShrugHills$Moment", name := "<init>", desc := "()V" } : Jvm.MethodName)) ∈ lw_all := lw_g (lw_at lw_m2 2 rfl) rfl
theorem q413 : (Jvm.Cond.code ({ cls := "ShrugHills$Moment", name := "<init>", desc := "()V" } : Jvm.MethodName) prog_10_method_1_code (1 : Nat) (Option.none : Option Jvm.ClassFile.FieldType)) ∈ lw_all := lw_g (lw_at lw_m2 3 rfl) rfl
theorem q414 : (Jvm.Cond.methodLink "ShrugHills$Moment" (1 : Nat) ({ cls := "java/lang/Object", name := "<init>", desc := "()V" } : Jvm.MethodName)) ∈ lw_all := lw_g (lw_at lw_m2 4 rfl) rfl
theorem q415 : (Jvm.Cond.fieldLink "ShrugHills$Moment" (7 : Nat) "ShrugHills$Moment" "of" "[J") ∈ lw_all := lw_g (lw_at lw_m2 5 rfl) rfl
theorem q419 : (Jvm.Cond.laysFinal "ShrugHills$Moment" "ShrugHills$Moment" "of" "[J") ∈ lw_all := lw_g (lw_at lw_m2 9 rfl) rfl
theorem q420 : (Jvm.Cond.soleField "ShrugHills$Moment" "of") ∈ lw_all := lw_g (lw_at lw_m2 10 rfl) rfl
theorem q421 : (Jvm.Cond.superclass "ShrugHills$Moment" "java/lang/Object") ∈ lw_all := lw_g (lw_at lw_m2 11 rfl) rfl
theorem q906 : (Jvm.Cond.selects "ShrugHills$Moment" ({ cls := "java/lang/Object", name := "getClass", desc := "()Ljava/lang/Class;" } : Jvm.MethodName) ({ cls := "java/lang/Object", name := "getClass", desc := "()Ljava/lang/Class;" } : Jvm.MethodName)) ∈ lw_all := lw_g (lw_at lw_m4 16 rfl) rfl
theorem q2721 : (Jvm.Cond.castable "ShrugHills$Moment" "java/lang/Object") ∈ lw_tbl := lw_at lw_m11 151 rfl
theorem in_X4 : ∀ w ∈ wsX40, w ∈ lw_all := lw_in wsX40 [419] (by decide +kernel) (by decide +kernel)
/-! ShrugHills$State -/
set_option maxRecDepth 100000
def RX5 : String := "ShrugHills$State"
def TX5 : u_T := fun k => match k with
  | 0 => ("ShrugHills$State", "day", "I", false)
  | 1 => ("ShrugHills$State", "keeps", "I", false)
  | 2 => ("ShrugHills$State", "silent", "I", false)
  | 3 => ("ShrugHills$State", "height", "[I", true)
  | 4 => ("ShrugHills$State", "at", "[I", true)
  | 5 => ("ShrugHills$State", "tired", "[I", true)
  | 6 => ("ShrugHills$State", "knows", "[I", true)
  | 7 => ("ShrugHills$State", "rows", "[[I", true)
  | _ => ("ShrugHills$State", "this$0", "LShrugHills;", true)
def tyX5 : Nat → FieldType := fun k => match k with
  | 0 => .int
  | 1 => .int
  | 2 => .int
  | 3 => .array .int
  | 4 => .array .int
  | 5 => .array .int
  | 6 => .array .int
  | 7 => .array (.array .int)
  | _ => .object "ShrugHills"
abbrev wsX50 : List Cond := u_ws RX5 TX5 9
theorem nmX5 : ∀ a, a < 9 → ∀ b, b < 9 → a ≠ b → (TX5 a).2.1 ≠ (TX5 b).2.1 := by decide +kernel
theorem tyX5_ok : ∀ k, k < 9 → parseFieldDescriptor (TX5 k).2.2.1 = some (tyX5 k) := by decide +kernel
abbrev cX5_init : ByteArray := prog_18_method_1_code
def yX5_init : MethodName := ⟨RX5, "<init>", "(LShrugHills;)V"⟩
def dkwX5_init_2 : List UInt8 := [197, 0, 28, 2, 181, 0, 30, 177]
abbrev dktX5_init_2 : List UInt8 := dkwX5_init_2 ++ []
def dkwX5_init_1 : List UInt8 := [181, 0, 19, 42, 16, 7, 188, 10, 181, 0, 22, 42, 16, 7, 188, 10, 181, 0, 25, 42, 16, 40, 7]
abbrev dktX5_init_1 : List UInt8 := dkwX5_init_1 ++ dktX5_init_2
def dkwX5_init_0 : List UInt8 := [42, 43, 181, 0, 3, 42, 183, 0, 9, 42, 16, 64, 188, 10, 181, 0, 15, 42, 16, 7, 188, 10]
abbrev dktX5_init_0 : List UInt8 := dkwX5_init_0 ++ dktX5_init_1
theorem dksX5_init_0 : cX5_init.data.toList.drop 0 = dktX5_init_0 := by decide +kernel
theorem dksX5_init_1 : cX5_init.data.toList.drop 22 = dktX5_init_1 := dk_seg dksX5_init_0 22 rfl rfl
theorem dksX5_init_2 : cX5_init.data.toList.drop 45 = dktX5_init_2 := dk_seg dksX5_init_1 23 rfl rfl
theorem dX5_init_0 : decode cX5_init 0 = .ok (.aload_n 0, 1) := dk_42 (dk_at dksX5_init_0 0 rfl rfl)
theorem dX5_init_1 : decode cX5_init 1 = .ok (.aload_n 1, 1) := dk_43 (dk_at dksX5_init_0 1 rfl rfl)
theorem dX5_init_2 : decode cX5_init 2 = .ok (.putfield 3, 3) := dk_181 0 3 (dk_at dksX5_init_0 2 rfl rfl)
theorem dX5_init_5 : decode cX5_init 5 = .ok (.aload_n 0, 1) := dk_42 (dk_at dksX5_init_0 5 rfl rfl)
theorem dX5_init_6 : decode cX5_init 6 = .ok (.invokespecial 9, 3) := dk_183 0 9 (dk_at dksX5_init_0 6 rfl rfl)
theorem dX5_init_9 : decode cX5_init 9 = .ok (.aload_n 0, 1) := dk_42 (dk_at dksX5_init_0 9 rfl rfl)
theorem dX5_init_10 : decode cX5_init 10 = .ok (.bipush 64, 2) := dk_16 64 (dk_at dksX5_init_0 10 rfl rfl)
theorem dX5_init_12 : decode cX5_init 12 = .ok (.newarray .int, 2) := dk_188_10 (dk_at dksX5_init_0 12 rfl rfl)
theorem dX5_init_14 : decode cX5_init 14 = .ok (.putfield 15, 3) := dk_181 0 15 (dk_at dksX5_init_0 14 rfl rfl)
theorem dX5_init_17 : decode cX5_init 17 = .ok (.aload_n 0, 1) := dk_42 (dk_at dksX5_init_0 17 rfl rfl)
theorem dX5_init_18 : decode cX5_init 18 = .ok (.bipush 7, 2) := dk_16 7 (dk_at dksX5_init_0 18 rfl rfl)
theorem dX5_init_20 : decode cX5_init 20 = .ok (.newarray .int, 2) := dk_188_10 (dk_at dksX5_init_0 20 rfl rfl)
theorem dX5_init_22 : decode cX5_init 22 = .ok (.putfield 19, 3) := dk_181 0 19 (dk_at dksX5_init_1 0 rfl rfl)
theorem dX5_init_25 : decode cX5_init 25 = .ok (.aload_n 0, 1) := dk_42 (dk_at dksX5_init_1 3 rfl rfl)
theorem dX5_init_26 : decode cX5_init 26 = .ok (.bipush 7, 2) := dk_16 7 (dk_at dksX5_init_1 4 rfl rfl)
theorem dX5_init_28 : decode cX5_init 28 = .ok (.newarray .int, 2) := dk_188_10 (dk_at dksX5_init_1 6 rfl rfl)
theorem dX5_init_30 : decode cX5_init 30 = .ok (.putfield 22, 3) := dk_181 0 22 (dk_at dksX5_init_1 8 rfl rfl)
theorem dX5_init_33 : decode cX5_init 33 = .ok (.aload_n 0, 1) := dk_42 (dk_at dksX5_init_1 11 rfl rfl)
theorem dX5_init_34 : decode cX5_init 34 = .ok (.bipush 7, 2) := dk_16 7 (dk_at dksX5_init_1 12 rfl rfl)
theorem dX5_init_36 : decode cX5_init 36 = .ok (.newarray .int, 2) := dk_188_10 (dk_at dksX5_init_1 14 rfl rfl)
theorem dX5_init_38 : decode cX5_init 38 = .ok (.putfield 25, 3) := dk_181 0 25 (dk_at dksX5_init_1 16 rfl rfl)
theorem dX5_init_41 : decode cX5_init 41 = .ok (.aload_n 0, 1) := dk_42 (dk_at dksX5_init_1 19 rfl rfl)
theorem dX5_init_42 : decode cX5_init 42 = .ok (.bipush 40, 2) := dk_16 40 (dk_at dksX5_init_1 20 rfl rfl)
theorem dX5_init_44 : decode cX5_init 44 = .ok (.iconst 4, 1) := dk_7 (dk_at dksX5_init_1 22 rfl rfl)
theorem dX5_init_45 : decode cX5_init 45 = .ok (.multianewarray 28 2, 4) := by decide +kernel
theorem dX5_init_49 : decode cX5_init 49 = .ok (.putfield 30, 3) := dk_181 0 30 (dk_at dksX5_init_2 4 rfl rfl)
theorem dX5_init_52 : decode cX5_init 52 = .ok (.return_, 1) := dk_177 (dk_at dksX5_init_2 7 rfl rfl)
abbrev cX5_begins : ByteArray := prog_18_method_2_code
def yX5_begins : MethodName := ⟨RX5, "begins", "()V"⟩
def dkwX5_begins_6 : List UInt8 := [132, 1, 1, 167, 255, 158, 177]
abbrev dktX5_begins_6 : List UInt8 := dkwX5_begins_6 ++ []
def dkwX5_begins_5 : List UInt8 := [42, 180, 0, 3, 180, 0, 40, 180, 0, 51, 27, 185, 0, 54, 2, 0, 192, 0, 60, 180, 0, 67, 79]
abbrev dktX5_begins_5 : List UInt8 := dkwX5_begins_5 ++ dktX5_begins_6
def dkwX5_begins_4 : List UInt8 := [180, 0, 40, 180, 0, 51, 27, 185, 0, 54, 2, 0, 192, 0, 60, 180, 0, 65, 79, 42, 180, 0, 25, 27]
abbrev dktX5_begins_4 : List UInt8 := dkwX5_begins_4 ++ dktX5_begins_5
def dkwX5_begins_3 : List UInt8 := [27, 185, 0, 54, 2, 0, 192, 0, 60, 180, 0, 62, 79, 42, 180, 0, 22, 27, 42, 180, 0, 3]
abbrev dktX5_begins_3 : List UInt8 := dkwX5_begins_3 ++ dktX5_begins_4
def dkwX5_begins_2 : List UInt8 := [180, 0, 3, 182, 0, 47, 162, 0, 93, 42, 180, 0, 19, 27, 42, 180, 0, 3, 180, 0, 40, 180, 0, 51]
abbrev dktX5_begins_2 : List UInt8 := dkwX5_begins_2 ++ dktX5_begins_3
def dkwX5_begins_1 : List UInt8 := [180, 0, 3, 180, 0, 40, 180, 0, 44, 27, 46, 79, 132, 1, 1, 167, 255, 229, 3, 60, 27, 42]
abbrev dktX5_begins_1 : List UInt8 := dkwX5_begins_1 ++ dktX5_begins_2
def dkwX5_begins_0 : List UInt8 := [42, 3, 181, 0, 33, 42, 3, 181, 0, 37, 3, 60, 27, 16, 64, 162, 0, 27, 42, 180, 0, 15, 27, 42]
abbrev dktX5_begins_0 : List UInt8 := dkwX5_begins_0 ++ dktX5_begins_1
theorem dksX5_begins_0 : cX5_begins.data.toList.drop 0 = dktX5_begins_0 := by decide +kernel
theorem dksX5_begins_1 : cX5_begins.data.toList.drop 24 = dktX5_begins_1 := dk_seg dksX5_begins_0 24 rfl rfl
theorem dksX5_begins_2 : cX5_begins.data.toList.drop 46 = dktX5_begins_2 := dk_seg dksX5_begins_1 22 rfl rfl
theorem dksX5_begins_3 : cX5_begins.data.toList.drop 70 = dktX5_begins_3 := dk_seg dksX5_begins_2 24 rfl rfl
theorem dksX5_begins_4 : cX5_begins.data.toList.drop 92 = dktX5_begins_4 := dk_seg dksX5_begins_3 22 rfl rfl
theorem dksX5_begins_5 : cX5_begins.data.toList.drop 116 = dktX5_begins_5 := dk_seg dksX5_begins_4 24 rfl rfl
theorem dksX5_begins_6 : cX5_begins.data.toList.drop 139 = dktX5_begins_6 := dk_seg dksX5_begins_5 23 rfl rfl
theorem dX5_begins_0 : decode cX5_begins 0 = .ok (.aload_n 0, 1) := dk_42 (dk_at dksX5_begins_0 0 rfl rfl)
theorem dX5_begins_1 : decode cX5_begins 1 = .ok (.iconst 0, 1) := dk_3 (dk_at dksX5_begins_0 1 rfl rfl)
theorem dX5_begins_2 : decode cX5_begins 2 = .ok (.putfield 33, 3) := dk_181 0 33 (dk_at dksX5_begins_0 2 rfl rfl)
theorem dX5_begins_5 : decode cX5_begins 5 = .ok (.aload_n 0, 1) := dk_42 (dk_at dksX5_begins_0 5 rfl rfl)
theorem dX5_begins_6 : decode cX5_begins 6 = .ok (.iconst 0, 1) := dk_3 (dk_at dksX5_begins_0 6 rfl rfl)
theorem dX5_begins_7 : decode cX5_begins 7 = .ok (.putfield 37, 3) := dk_181 0 37 (dk_at dksX5_begins_0 7 rfl rfl)
theorem dX5_begins_10 : decode cX5_begins 10 = .ok (.iconst 0, 1) := dk_3 (dk_at dksX5_begins_0 10 rfl rfl)
theorem dX5_begins_11 : decode cX5_begins 11 = .ok (.istore_n 1, 1) := dk_60 (dk_at dksX5_begins_0 11 rfl rfl)
theorem dX5_begins_12 : decode cX5_begins 12 = .ok (.iload_n 1, 1) := dk_27 (dk_at dksX5_begins_0 12 rfl rfl)
theorem dX5_begins_13 : decode cX5_begins 13 = .ok (.bipush 64, 2) := dk_16 64 (dk_at dksX5_begins_0 13 rfl rfl)
theorem dX5_begins_15 : decode cX5_begins 15 = .ok (.if_icmp .ge 27, 3) := dk_162 0 27 (dk_at dksX5_begins_0 15 rfl rfl)
theorem dX5_begins_18 : decode cX5_begins 18 = .ok (.aload_n 0, 1) := dk_42 (dk_at dksX5_begins_0 18 rfl rfl)
theorem dX5_begins_19 : decode cX5_begins 19 = .ok (.getfield 15, 3) := dk_180 0 15 (dk_at dksX5_begins_0 19 rfl rfl)
theorem dX5_begins_22 : decode cX5_begins 22 = .ok (.iload_n 1, 1) := dk_27 (dk_at dksX5_begins_0 22 rfl rfl)
theorem dX5_begins_23 : decode cX5_begins 23 = .ok (.aload_n 0, 1) := dk_42 (dk_at dksX5_begins_0 23 rfl rfl)
theorem dX5_begins_24 : decode cX5_begins 24 = .ok (.getfield 3, 3) := dk_180 0 3 (dk_at dksX5_begins_1 0 rfl rfl)
theorem dX5_begins_27 : decode cX5_begins 27 = .ok (.getfield 40, 3) := dk_180 0 40 (dk_at dksX5_begins_1 3 rfl rfl)
theorem dX5_begins_30 : decode cX5_begins 30 = .ok (.getfield 44, 3) := dk_180 0 44 (dk_at dksX5_begins_1 6 rfl rfl)
theorem dX5_begins_33 : decode cX5_begins 33 = .ok (.iload_n 1, 1) := dk_27 (dk_at dksX5_begins_1 9 rfl rfl)
theorem dX5_begins_34 : decode cX5_begins 34 = .ok (.iaload, 1) := dk_46 (dk_at dksX5_begins_1 10 rfl rfl)
theorem dX5_begins_35 : decode cX5_begins 35 = .ok (.iastore, 1) := dk_79 (dk_at dksX5_begins_1 11 rfl rfl)
theorem dX5_begins_36 : decode cX5_begins 36 = .ok (.iinc 1 1, 3) := dk_132 1 1 (dk_at dksX5_begins_1 12 rfl rfl)
theorem dX5_begins_39 : decode cX5_begins 39 = .ok (.goto (-27), 3) := dk_167 255 229 (dk_at dksX5_begins_1 15 rfl rfl)
theorem dX5_begins_42 : decode cX5_begins 42 = .ok (.iconst 0, 1) := dk_3 (dk_at dksX5_begins_1 18 rfl rfl)
theorem dX5_begins_43 : decode cX5_begins 43 = .ok (.istore_n 1, 1) := dk_60 (dk_at dksX5_begins_1 19 rfl rfl)
theorem dX5_begins_44 : decode cX5_begins 44 = .ok (.iload_n 1, 1) := dk_27 (dk_at dksX5_begins_1 20 rfl rfl)
theorem dX5_begins_45 : decode cX5_begins 45 = .ok (.aload_n 0, 1) := dk_42 (dk_at dksX5_begins_1 21 rfl rfl)
theorem dX5_begins_46 : decode cX5_begins 46 = .ok (.getfield 3, 3) := dk_180 0 3 (dk_at dksX5_begins_2 0 rfl rfl)
theorem dX5_begins_49 : decode cX5_begins 49 = .ok (.invokevirtual 47, 3) := dk_182 0 47 (dk_at dksX5_begins_2 3 rfl rfl)
theorem dX5_begins_52 : decode cX5_begins 52 = .ok (.if_icmp .ge 93, 3) := dk_162 0 93 (dk_at dksX5_begins_2 6 rfl rfl)
theorem dX5_begins_55 : decode cX5_begins 55 = .ok (.aload_n 0, 1) := dk_42 (dk_at dksX5_begins_2 9 rfl rfl)
theorem dX5_begins_56 : decode cX5_begins 56 = .ok (.getfield 19, 3) := dk_180 0 19 (dk_at dksX5_begins_2 10 rfl rfl)
theorem dX5_begins_59 : decode cX5_begins 59 = .ok (.iload_n 1, 1) := dk_27 (dk_at dksX5_begins_2 13 rfl rfl)
theorem dX5_begins_60 : decode cX5_begins 60 = .ok (.aload_n 0, 1) := dk_42 (dk_at dksX5_begins_2 14 rfl rfl)
theorem dX5_begins_61 : decode cX5_begins 61 = .ok (.getfield 3, 3) := dk_180 0 3 (dk_at dksX5_begins_2 15 rfl rfl)
theorem dX5_begins_64 : decode cX5_begins 64 = .ok (.getfield 40, 3) := dk_180 0 40 (dk_at dksX5_begins_2 18 rfl rfl)
theorem dX5_begins_67 : decode cX5_begins 67 = .ok (.getfield 51, 3) := dk_180 0 51 (dk_at dksX5_begins_2 21 rfl rfl)
theorem dX5_begins_70 : decode cX5_begins 70 = .ok (.iload_n 1, 1) := dk_27 (dk_at dksX5_begins_3 0 rfl rfl)
theorem dX5_begins_71 : decode cX5_begins 71 = .ok (.invokeinterface 54 2, 5) := by decide +kernel
theorem dX5_begins_76 : decode cX5_begins 76 = .ok (.checkcast 60, 3) := dk_192 0 60 (dk_at dksX5_begins_3 6 rfl rfl)
theorem dX5_begins_79 : decode cX5_begins 79 = .ok (.getfield 62, 3) := dk_180 0 62 (dk_at dksX5_begins_3 9 rfl rfl)
theorem dX5_begins_82 : decode cX5_begins 82 = .ok (.iastore, 1) := dk_79 (dk_at dksX5_begins_3 12 rfl rfl)
theorem dX5_begins_83 : decode cX5_begins 83 = .ok (.aload_n 0, 1) := dk_42 (dk_at dksX5_begins_3 13 rfl rfl)
theorem dX5_begins_84 : decode cX5_begins 84 = .ok (.getfield 22, 3) := dk_180 0 22 (dk_at dksX5_begins_3 14 rfl rfl)
theorem dX5_begins_87 : decode cX5_begins 87 = .ok (.iload_n 1, 1) := dk_27 (dk_at dksX5_begins_3 17 rfl rfl)
theorem dX5_begins_88 : decode cX5_begins 88 = .ok (.aload_n 0, 1) := dk_42 (dk_at dksX5_begins_3 18 rfl rfl)
theorem dX5_begins_89 : decode cX5_begins 89 = .ok (.getfield 3, 3) := dk_180 0 3 (dk_at dksX5_begins_3 19 rfl rfl)
theorem dX5_begins_92 : decode cX5_begins 92 = .ok (.getfield 40, 3) := dk_180 0 40 (dk_at dksX5_begins_4 0 rfl rfl)
theorem dX5_begins_95 : decode cX5_begins 95 = .ok (.getfield 51, 3) := dk_180 0 51 (dk_at dksX5_begins_4 3 rfl rfl)
theorem dX5_begins_98 : decode cX5_begins 98 = .ok (.iload_n 1, 1) := dk_27 (dk_at dksX5_begins_4 6 rfl rfl)
theorem dX5_begins_99 : decode cX5_begins 99 = .ok (.invokeinterface 54 2, 5) := by decide +kernel
theorem dX5_begins_104 : decode cX5_begins 104 = .ok (.checkcast 60, 3) := dk_192 0 60 (dk_at dksX5_begins_4 12 rfl rfl)
theorem dX5_begins_107 : decode cX5_begins 107 = .ok (.getfield 65, 3) := dk_180 0 65 (dk_at dksX5_begins_4 15 rfl rfl)
theorem dX5_begins_110 : decode cX5_begins 110 = .ok (.iastore, 1) := dk_79 (dk_at dksX5_begins_4 18 rfl rfl)
theorem dX5_begins_111 : decode cX5_begins 111 = .ok (.aload_n 0, 1) := dk_42 (dk_at dksX5_begins_4 19 rfl rfl)
theorem dX5_begins_112 : decode cX5_begins 112 = .ok (.getfield 25, 3) := dk_180 0 25 (dk_at dksX5_begins_4 20 rfl rfl)
theorem dX5_begins_115 : decode cX5_begins 115 = .ok (.iload_n 1, 1) := dk_27 (dk_at dksX5_begins_4 23 rfl rfl)
theorem dX5_begins_116 : decode cX5_begins 116 = .ok (.aload_n 0, 1) := dk_42 (dk_at dksX5_begins_5 0 rfl rfl)
theorem dX5_begins_117 : decode cX5_begins 117 = .ok (.getfield 3, 3) := dk_180 0 3 (dk_at dksX5_begins_5 1 rfl rfl)
theorem dX5_begins_120 : decode cX5_begins 120 = .ok (.getfield 40, 3) := dk_180 0 40 (dk_at dksX5_begins_5 4 rfl rfl)
theorem dX5_begins_123 : decode cX5_begins 123 = .ok (.getfield 51, 3) := dk_180 0 51 (dk_at dksX5_begins_5 7 rfl rfl)
theorem dX5_begins_126 : decode cX5_begins 126 = .ok (.iload_n 1, 1) := dk_27 (dk_at dksX5_begins_5 10 rfl rfl)
theorem dX5_begins_127 : decode cX5_begins 127 = .ok (.invokeinterface 54 2, 5) := by decide +kernel
theorem dX5_begins_132 : decode cX5_begins 132 = .ok (.checkcast 60, 3) := dk_192 0 60 (dk_at dksX5_begins_5 16 rfl rfl)
theorem dX5_begins_135 : decode cX5_begins 135 = .ok (.getfield 67, 3) := dk_180 0 67 (dk_at dksX5_begins_5 19 rfl rfl)
theorem dX5_begins_138 : decode cX5_begins 138 = .ok (.iastore, 1) := dk_79 (dk_at dksX5_begins_5 22 rfl rfl)
theorem dX5_begins_139 : decode cX5_begins 139 = .ok (.iinc 1 1, 3) := dk_132 1 1 (dk_at dksX5_begins_6 0 rfl rfl)
theorem dX5_begins_142 : decode cX5_begins 142 = .ok (.goto (-98), 3) := dk_167 255 158 (dk_at dksX5_begins_6 3 rfl rfl)
theorem dX5_begins_145 : decode cX5_begins 145 = .ok (.return_, 1) := dk_177 (dk_at dksX5_begins_6 6 rfl rfl)
abbrev cX5_would : ByteArray := prog_18_method_6_code
def yX5_would : MethodName := ⟨RX5, "would", "(II)I"⟩
def dkwX5_would_3 : List UInt8 := [167, 0, 4, 5, 172]
abbrev dktX5_would_3 : List UInt8 := dkwX5_would_3 ++ []
def dkwX5_would_2 : List UInt8 := [180, 0, 3, 180, 0, 40, 180, 0, 96, 42, 180, 0, 3, 180, 0, 72, 182, 0, 100, 153, 0, 7, 4]
abbrev dktX5_would_2 : List UInt8 := dkwX5_would_2 ++ dktX5_would_3
def dkwX5_would_1 : List UInt8 := [3, 172, 42, 27, 28, 182, 0, 92, 42, 180, 0, 3, 180, 0, 40, 180, 0, 96, 198, 0, 30, 42]
abbrev dktX5_would_1 : List UInt8 := dkwX5_would_1 ++ dktX5_would_2
def dkwX5_would_0 : List UInt8 := [42, 180, 0, 25, 27, 46, 28, 184, 0, 88, 154, 0, 14, 42, 180, 0, 69, 27, 184, 0, 88, 153, 0, 5]
abbrev dktX5_would_0 : List UInt8 := dkwX5_would_0 ++ dktX5_would_1
theorem dksX5_would_0 : cX5_would.data.toList.drop 0 = dktX5_would_0 := by decide +kernel
theorem dksX5_would_1 : cX5_would.data.toList.drop 24 = dktX5_would_1 := dk_seg dksX5_would_0 24 rfl rfl
theorem dksX5_would_2 : cX5_would.data.toList.drop 46 = dktX5_would_2 := dk_seg dksX5_would_1 22 rfl rfl
theorem dksX5_would_3 : cX5_would.data.toList.drop 69 = dktX5_would_3 := dk_seg dksX5_would_2 23 rfl rfl
theorem dX5_would_0 : decode cX5_would 0 = .ok (.aload_n 0, 1) := dk_42 (dk_at dksX5_would_0 0 rfl rfl)
theorem dX5_would_1 : decode cX5_would 1 = .ok (.getfield 25, 3) := dk_180 0 25 (dk_at dksX5_would_0 1 rfl rfl)
theorem dX5_would_4 : decode cX5_would 4 = .ok (.iload_n 1, 1) := dk_27 (dk_at dksX5_would_0 4 rfl rfl)
theorem dX5_would_5 : decode cX5_would 5 = .ok (.iaload, 1) := dk_46 (dk_at dksX5_would_0 5 rfl rfl)
theorem dX5_would_6 : decode cX5_would 6 = .ok (.iload_n 2, 1) := dk_28 (dk_at dksX5_would_0 6 rfl rfl)
theorem dX5_would_7 : decode cX5_would 7 = .ok (.invokestatic 88, 3) := dk_184 0 88 (dk_at dksX5_would_0 7 rfl rfl)
theorem dX5_would_10 : decode cX5_would 10 = .ok (.ifCond .ne 14, 3) := dk_154 0 14 (dk_at dksX5_would_0 10 rfl rfl)
theorem dX5_would_13 : decode cX5_would 13 = .ok (.aload_n 0, 1) := dk_42 (dk_at dksX5_would_0 13 rfl rfl)
theorem dX5_would_14 : decode cX5_would 14 = .ok (.getfield 69, 3) := dk_180 0 69 (dk_at dksX5_would_0 14 rfl rfl)
theorem dX5_would_17 : decode cX5_would 17 = .ok (.iload_n 1, 1) := dk_27 (dk_at dksX5_would_0 17 rfl rfl)
theorem dX5_would_18 : decode cX5_would 18 = .ok (.invokestatic 88, 3) := dk_184 0 88 (dk_at dksX5_would_0 18 rfl rfl)
theorem dX5_would_21 : decode cX5_would 21 = .ok (.ifCond .eq 5, 3) := dk_153 0 5 (dk_at dksX5_would_0 21 rfl rfl)
theorem dX5_would_24 : decode cX5_would 24 = .ok (.iconst 0, 1) := dk_3 (dk_at dksX5_would_1 0 rfl rfl)
theorem dX5_would_25 : decode cX5_would 25 = .ok (.ireturn, 1) := dk_172 (dk_at dksX5_would_1 1 rfl rfl)
theorem dX5_would_26 : decode cX5_would 26 = .ok (.aload_n 0, 1) := dk_42 (dk_at dksX5_would_1 2 rfl rfl)
theorem dX5_would_27 : decode cX5_would 27 = .ok (.iload_n 1, 1) := dk_27 (dk_at dksX5_would_1 3 rfl rfl)
theorem dX5_would_28 : decode cX5_would 28 = .ok (.iload_n 2, 1) := dk_28 (dk_at dksX5_would_1 4 rfl rfl)
theorem dX5_would_29 : decode cX5_would 29 = .ok (.invokevirtual 92, 3) := dk_182 0 92 (dk_at dksX5_would_1 5 rfl rfl)
theorem dX5_would_32 : decode cX5_would 32 = .ok (.aload_n 0, 1) := dk_42 (dk_at dksX5_would_1 8 rfl rfl)
theorem dX5_would_33 : decode cX5_would 33 = .ok (.getfield 3, 3) := dk_180 0 3 (dk_at dksX5_would_1 9 rfl rfl)
theorem dX5_would_36 : decode cX5_would 36 = .ok (.getfield 40, 3) := dk_180 0 40 (dk_at dksX5_would_1 12 rfl rfl)
theorem dX5_would_39 : decode cX5_would 39 = .ok (.getfield 96, 3) := dk_180 0 96 (dk_at dksX5_would_1 15 rfl rfl)
theorem dX5_would_42 : decode cX5_would 42 = .ok (.ifnull 30, 3) := dk_198 0 30 (dk_at dksX5_would_1 18 rfl rfl)
theorem dX5_would_45 : decode cX5_would 45 = .ok (.aload_n 0, 1) := dk_42 (dk_at dksX5_would_1 21 rfl rfl)
theorem dX5_would_46 : decode cX5_would 46 = .ok (.getfield 3, 3) := dk_180 0 3 (dk_at dksX5_would_2 0 rfl rfl)
theorem dX5_would_49 : decode cX5_would 49 = .ok (.getfield 40, 3) := dk_180 0 40 (dk_at dksX5_would_2 3 rfl rfl)
theorem dX5_would_52 : decode cX5_would 52 = .ok (.getfield 96, 3) := dk_180 0 96 (dk_at dksX5_would_2 6 rfl rfl)
theorem dX5_would_55 : decode cX5_would 55 = .ok (.aload_n 0, 1) := dk_42 (dk_at dksX5_would_2 9 rfl rfl)
theorem dX5_would_56 : decode cX5_would 56 = .ok (.getfield 3, 3) := dk_180 0 3 (dk_at dksX5_would_2 10 rfl rfl)
theorem dX5_would_59 : decode cX5_would 59 = .ok (.getfield 72, 3) := dk_180 0 72 (dk_at dksX5_would_2 13 rfl rfl)
theorem dX5_would_62 : decode cX5_would 62 = .ok (.invokevirtual 100, 3) := dk_182 0 100 (dk_at dksX5_would_2 16 rfl rfl)
theorem dX5_would_65 : decode cX5_would 65 = .ok (.ifCond .eq 7, 3) := dk_153 0 7 (dk_at dksX5_would_2 19 rfl rfl)
theorem dX5_would_68 : decode cX5_would 68 = .ok (.iconst 1, 1) := dk_4 (dk_at dksX5_would_2 22 rfl rfl)
theorem dX5_would_69 : decode cX5_would 69 = .ok (.goto 4, 3) := dk_167 0 4 (dk_at dksX5_would_3 0 rfl rfl)
theorem dX5_would_72 : decode cX5_would 72 = .ok (.iconst 2, 1) := dk_5 (dk_at dksX5_would_3 3 rfl rfl)
theorem dX5_would_73 : decode cX5_would 73 = .ok (.ireturn, 1) := dk_172 (dk_at dksX5_would_3 4 rfl rfl)
abbrev cX5_asks : ByteArray := prog_18_method_5_code
def yX5_asks : MethodName := ⟨RX5, "asks", "(II)V"⟩
def dkwX5_asks_4 : List UInt8 := [28, 133, 80, 177]
abbrev dktX5_asks_4 : List UInt8 := dkwX5_asks_4 ++ []
def dkwX5_asks_3 : List UInt8 := [180, 0, 72, 180, 0, 76, 6, 42, 180, 0, 33, 133, 80, 42, 180, 0, 3, 180, 0, 72, 180, 0, 76, 7]
abbrev dktX5_asks_3 : List UInt8 := dkwX5_asks_3 ++ dktX5_asks_4
def dkwX5_asks_2 : List UInt8 := [180, 0, 72, 180, 0, 76, 5, 42, 180, 0, 25, 27, 46, 184, 0, 82, 133, 80, 42, 180, 0, 3]
abbrev dktX5_asks_2 : List UInt8 := dkwX5_asks_2 ++ dktX5_asks_3
def dkwX5_asks_1 : List UInt8 := [180, 0, 72, 180, 0, 76, 4, 42, 180, 0, 15, 42, 180, 0, 19, 27, 46, 46, 133, 80, 42, 180, 0, 3]
abbrev dktX5_asks_1 : List UInt8 := dkwX5_asks_1 ++ dktX5_asks_2
def dkwX5_asks_0 : List UInt8 := [42, 180, 0, 3, 180, 0, 72, 180, 0, 76, 3, 42, 180, 0, 22, 27, 46, 133, 80, 42, 180, 0, 3]
abbrev dktX5_asks_0 : List UInt8 := dkwX5_asks_0 ++ dktX5_asks_1
theorem dksX5_asks_0 : cX5_asks.data.toList.drop 0 = dktX5_asks_0 := by decide +kernel
theorem dksX5_asks_1 : cX5_asks.data.toList.drop 23 = dktX5_asks_1 := dk_seg dksX5_asks_0 23 rfl rfl
theorem dksX5_asks_2 : cX5_asks.data.toList.drop 47 = dktX5_asks_2 := dk_seg dksX5_asks_1 24 rfl rfl
theorem dksX5_asks_3 : cX5_asks.data.toList.drop 69 = dktX5_asks_3 := dk_seg dksX5_asks_2 22 rfl rfl
theorem dksX5_asks_4 : cX5_asks.data.toList.drop 93 = dktX5_asks_4 := dk_seg dksX5_asks_3 24 rfl rfl
theorem dX5_asks_0 : decode cX5_asks 0 = .ok (.aload_n 0, 1) := dk_42 (dk_at dksX5_asks_0 0 rfl rfl)
theorem dX5_asks_1 : decode cX5_asks 1 = .ok (.getfield 3, 3) := dk_180 0 3 (dk_at dksX5_asks_0 1 rfl rfl)
theorem dX5_asks_4 : decode cX5_asks 4 = .ok (.getfield 72, 3) := dk_180 0 72 (dk_at dksX5_asks_0 4 rfl rfl)
theorem dX5_asks_7 : decode cX5_asks 7 = .ok (.getfield 76, 3) := dk_180 0 76 (dk_at dksX5_asks_0 7 rfl rfl)
theorem dX5_asks_10 : decode cX5_asks 10 = .ok (.iconst 0, 1) := dk_3 (dk_at dksX5_asks_0 10 rfl rfl)
theorem dX5_asks_11 : decode cX5_asks 11 = .ok (.aload_n 0, 1) := dk_42 (dk_at dksX5_asks_0 11 rfl rfl)
theorem dX5_asks_12 : decode cX5_asks 12 = .ok (.getfield 22, 3) := dk_180 0 22 (dk_at dksX5_asks_0 12 rfl rfl)
theorem dX5_asks_15 : decode cX5_asks 15 = .ok (.iload_n 1, 1) := dk_27 (dk_at dksX5_asks_0 15 rfl rfl)
theorem dX5_asks_16 : decode cX5_asks 16 = .ok (.iaload, 1) := dk_46 (dk_at dksX5_asks_0 16 rfl rfl)
theorem dX5_asks_17 : decode cX5_asks 17 = .ok (.i2l, 1) := dk_133 (dk_at dksX5_asks_0 17 rfl rfl)
theorem dX5_asks_18 : decode cX5_asks 18 = .ok (.lastore, 1) := dk_80 (dk_at dksX5_asks_0 18 rfl rfl)
theorem dX5_asks_19 : decode cX5_asks 19 = .ok (.aload_n 0, 1) := dk_42 (dk_at dksX5_asks_0 19 rfl rfl)
theorem dX5_asks_20 : decode cX5_asks 20 = .ok (.getfield 3, 3) := dk_180 0 3 (dk_at dksX5_asks_0 20 rfl rfl)
theorem dX5_asks_23 : decode cX5_asks 23 = .ok (.getfield 72, 3) := dk_180 0 72 (dk_at dksX5_asks_1 0 rfl rfl)
theorem dX5_asks_26 : decode cX5_asks 26 = .ok (.getfield 76, 3) := dk_180 0 76 (dk_at dksX5_asks_1 3 rfl rfl)
theorem dX5_asks_29 : decode cX5_asks 29 = .ok (.iconst 1, 1) := dk_4 (dk_at dksX5_asks_1 6 rfl rfl)
theorem dX5_asks_30 : decode cX5_asks 30 = .ok (.aload_n 0, 1) := dk_42 (dk_at dksX5_asks_1 7 rfl rfl)
theorem dX5_asks_31 : decode cX5_asks 31 = .ok (.getfield 15, 3) := dk_180 0 15 (dk_at dksX5_asks_1 8 rfl rfl)
theorem dX5_asks_34 : decode cX5_asks 34 = .ok (.aload_n 0, 1) := dk_42 (dk_at dksX5_asks_1 11 rfl rfl)
theorem dX5_asks_35 : decode cX5_asks 35 = .ok (.getfield 19, 3) := dk_180 0 19 (dk_at dksX5_asks_1 12 rfl rfl)
theorem dX5_asks_38 : decode cX5_asks 38 = .ok (.iload_n 1, 1) := dk_27 (dk_at dksX5_asks_1 15 rfl rfl)
theorem dX5_asks_39 : decode cX5_asks 39 = .ok (.iaload, 1) := dk_46 (dk_at dksX5_asks_1 16 rfl rfl)
theorem dX5_asks_40 : decode cX5_asks 40 = .ok (.iaload, 1) := dk_46 (dk_at dksX5_asks_1 17 rfl rfl)
theorem dX5_asks_41 : decode cX5_asks 41 = .ok (.i2l, 1) := dk_133 (dk_at dksX5_asks_1 18 rfl rfl)
theorem dX5_asks_42 : decode cX5_asks 42 = .ok (.lastore, 1) := dk_80 (dk_at dksX5_asks_1 19 rfl rfl)
theorem dX5_asks_43 : decode cX5_asks 43 = .ok (.aload_n 0, 1) := dk_42 (dk_at dksX5_asks_1 20 rfl rfl)
theorem dX5_asks_44 : decode cX5_asks 44 = .ok (.getfield 3, 3) := dk_180 0 3 (dk_at dksX5_asks_1 21 rfl rfl)
theorem dX5_asks_47 : decode cX5_asks 47 = .ok (.getfield 72, 3) := dk_180 0 72 (dk_at dksX5_asks_2 0 rfl rfl)
theorem dX5_asks_50 : decode cX5_asks 50 = .ok (.getfield 76, 3) := dk_180 0 76 (dk_at dksX5_asks_2 3 rfl rfl)
theorem dX5_asks_53 : decode cX5_asks 53 = .ok (.iconst 2, 1) := dk_5 (dk_at dksX5_asks_2 6 rfl rfl)
theorem dX5_asks_54 : decode cX5_asks 54 = .ok (.aload_n 0, 1) := dk_42 (dk_at dksX5_asks_2 7 rfl rfl)
theorem dX5_asks_55 : decode cX5_asks 55 = .ok (.getfield 25, 3) := dk_180 0 25 (dk_at dksX5_asks_2 8 rfl rfl)
theorem dX5_asks_58 : decode cX5_asks 58 = .ok (.iload_n 1, 1) := dk_27 (dk_at dksX5_asks_2 11 rfl rfl)
theorem dX5_asks_59 : decode cX5_asks 59 = .ok (.iaload, 1) := dk_46 (dk_at dksX5_asks_2 12 rfl rfl)
theorem dX5_asks_60 : decode cX5_asks 60 = .ok (.invokestatic 82, 3) := dk_184 0 82 (dk_at dksX5_asks_2 13 rfl rfl)
theorem dX5_asks_63 : decode cX5_asks 63 = .ok (.i2l, 1) := dk_133 (dk_at dksX5_asks_2 16 rfl rfl)
theorem dX5_asks_64 : decode cX5_asks 64 = .ok (.lastore, 1) := dk_80 (dk_at dksX5_asks_2 17 rfl rfl)
theorem dX5_asks_65 : decode cX5_asks 65 = .ok (.aload_n 0, 1) := dk_42 (dk_at dksX5_asks_2 18 rfl rfl)
theorem dX5_asks_66 : decode cX5_asks 66 = .ok (.getfield 3, 3) := dk_180 0 3 (dk_at dksX5_asks_2 19 rfl rfl)
theorem dX5_asks_69 : decode cX5_asks 69 = .ok (.getfield 72, 3) := dk_180 0 72 (dk_at dksX5_asks_3 0 rfl rfl)
theorem dX5_asks_72 : decode cX5_asks 72 = .ok (.getfield 76, 3) := dk_180 0 76 (dk_at dksX5_asks_3 3 rfl rfl)
theorem dX5_asks_75 : decode cX5_asks 75 = .ok (.iconst 3, 1) := dk_6 (dk_at dksX5_asks_3 6 rfl rfl)
theorem dX5_asks_76 : decode cX5_asks 76 = .ok (.aload_n 0, 1) := dk_42 (dk_at dksX5_asks_3 7 rfl rfl)
theorem dX5_asks_77 : decode cX5_asks 77 = .ok (.getfield 33, 3) := dk_180 0 33 (dk_at dksX5_asks_3 8 rfl rfl)
theorem dX5_asks_80 : decode cX5_asks 80 = .ok (.i2l, 1) := dk_133 (dk_at dksX5_asks_3 11 rfl rfl)
theorem dX5_asks_81 : decode cX5_asks 81 = .ok (.lastore, 1) := dk_80 (dk_at dksX5_asks_3 12 rfl rfl)
theorem dX5_asks_82 : decode cX5_asks 82 = .ok (.aload_n 0, 1) := dk_42 (dk_at dksX5_asks_3 13 rfl rfl)
theorem dX5_asks_83 : decode cX5_asks 83 = .ok (.getfield 3, 3) := dk_180 0 3 (dk_at dksX5_asks_3 14 rfl rfl)
theorem dX5_asks_86 : decode cX5_asks 86 = .ok (.getfield 72, 3) := dk_180 0 72 (dk_at dksX5_asks_3 17 rfl rfl)
theorem dX5_asks_89 : decode cX5_asks 89 = .ok (.getfield 76, 3) := dk_180 0 76 (dk_at dksX5_asks_3 20 rfl rfl)
theorem dX5_asks_92 : decode cX5_asks 92 = .ok (.iconst 4, 1) := dk_7 (dk_at dksX5_asks_3 23 rfl rfl)
theorem dX5_asks_93 : decode cX5_asks 93 = .ok (.iload_n 2, 1) := dk_28 (dk_at dksX5_asks_4 0 rfl rfl)
theorem dX5_asks_94 : decode cX5_asks 94 = .ok (.i2l, 1) := dk_133 (dk_at dksX5_asks_4 1 rfl rfl)
theorem dX5_asks_95 : decode cX5_asks 95 = .ok (.lastore, 1) := dk_80 (dk_at dksX5_asks_4 2 rfl rfl)
theorem dX5_asks_96 : decode cX5_asks 96 = .ok (.return_, 1) := dk_177 (dk_at dksX5_asks_4 3 rfl rfl)
abbrev cX5_copy : ByteArray := prog_18_method_3_code
def yX5_copy : MethodName := ⟨RX5, "copy", "(LShrugHills$State;)LShrugHills$State;"⟩
def dkwX5_copy_6 : List UInt8 := [42, 176]
abbrev dktX5_copy_6 : List UInt8 := dkwX5_copy_6 ++ []
def dkwX5_copy_5 : List UInt8 := [28, 50, 29, 43, 180, 0, 30, 28, 50, 29, 46, 79, 132, 3, 1, 167, 255, 232, 132, 2, 1, 167, 255, 216]
abbrev dktX5_copy_5 : List UInt8 := dkwX5_copy_5 ++ dktX5_copy_6
def dkwX5_copy_4 : List UInt8 := [167, 255, 211, 3, 61, 28, 42, 180, 0, 37, 162, 0, 38, 3, 62, 29, 7, 162, 0, 25, 42, 180, 0, 30]
abbrev dktX5_copy_4 : List UInt8 := dkwX5_copy_4 ++ dktX5_copy_5
def dkwX5_copy_3 : List UInt8 := [43, 180, 0, 22, 28, 46, 79, 42, 180, 0, 25, 28, 43, 180, 0, 25, 28, 46, 79, 132, 2, 1]
abbrev dktX5_copy_3 : List UInt8 := dkwX5_copy_3 ++ dktX5_copy_4
def dkwX5_copy_2 : List UInt8 := [61, 28, 16, 7, 162, 0, 45, 42, 180, 0, 19, 28, 43, 180, 0, 19, 28, 46, 79, 42, 180, 0, 22, 28]
abbrev dktX5_copy_2 : List UInt8 := dkwX5_copy_2 ++ dktX5_copy_3
def dkwX5_copy_1 : List UInt8 := [16, 64, 162, 0, 21, 42, 180, 0, 15, 28, 43, 180, 0, 15, 28, 46, 79, 132, 2, 1, 167, 255, 235, 3]
abbrev dktX5_copy_1 : List UInt8 := dkwX5_copy_1 ++ dktX5_copy_2
def dkwX5_copy_0 : List UInt8 := [42, 43, 180, 0, 33, 181, 0, 33, 42, 43, 180, 0, 37, 181, 0, 37, 42, 3, 181, 0, 69, 3, 61, 28]
abbrev dktX5_copy_0 : List UInt8 := dkwX5_copy_0 ++ dktX5_copy_1
theorem dksX5_copy_0 : cX5_copy.data.toList.drop 0 = dktX5_copy_0 := by decide +kernel
theorem dksX5_copy_1 : cX5_copy.data.toList.drop 24 = dktX5_copy_1 := dk_seg dksX5_copy_0 24 rfl rfl
theorem dksX5_copy_2 : cX5_copy.data.toList.drop 48 = dktX5_copy_2 := dk_seg dksX5_copy_1 24 rfl rfl
theorem dksX5_copy_3 : cX5_copy.data.toList.drop 72 = dktX5_copy_3 := dk_seg dksX5_copy_2 24 rfl rfl
theorem dksX5_copy_4 : cX5_copy.data.toList.drop 94 = dktX5_copy_4 := dk_seg dksX5_copy_3 22 rfl rfl
theorem dksX5_copy_5 : cX5_copy.data.toList.drop 118 = dktX5_copy_5 := dk_seg dksX5_copy_4 24 rfl rfl
theorem dksX5_copy_6 : cX5_copy.data.toList.drop 142 = dktX5_copy_6 := dk_seg dksX5_copy_5 24 rfl rfl
theorem dX5_copy_0 : decode cX5_copy 0 = .ok (.aload_n 0, 1) := dk_42 (dk_at dksX5_copy_0 0 rfl rfl)
theorem dX5_copy_1 : decode cX5_copy 1 = .ok (.aload_n 1, 1) := dk_43 (dk_at dksX5_copy_0 1 rfl rfl)
theorem dX5_copy_2 : decode cX5_copy 2 = .ok (.getfield 33, 3) := dk_180 0 33 (dk_at dksX5_copy_0 2 rfl rfl)
theorem dX5_copy_5 : decode cX5_copy 5 = .ok (.putfield 33, 3) := dk_181 0 33 (dk_at dksX5_copy_0 5 rfl rfl)
theorem dX5_copy_8 : decode cX5_copy 8 = .ok (.aload_n 0, 1) := dk_42 (dk_at dksX5_copy_0 8 rfl rfl)
theorem dX5_copy_9 : decode cX5_copy 9 = .ok (.aload_n 1, 1) := dk_43 (dk_at dksX5_copy_0 9 rfl rfl)
theorem dX5_copy_10 : decode cX5_copy 10 = .ok (.getfield 37, 3) := dk_180 0 37 (dk_at dksX5_copy_0 10 rfl rfl)
theorem dX5_copy_13 : decode cX5_copy 13 = .ok (.putfield 37, 3) := dk_181 0 37 (dk_at dksX5_copy_0 13 rfl rfl)
theorem dX5_copy_16 : decode cX5_copy 16 = .ok (.aload_n 0, 1) := dk_42 (dk_at dksX5_copy_0 16 rfl rfl)
theorem dX5_copy_17 : decode cX5_copy 17 = .ok (.iconst 0, 1) := dk_3 (dk_at dksX5_copy_0 17 rfl rfl)
theorem dX5_copy_18 : decode cX5_copy 18 = .ok (.putfield 69, 3) := dk_181 0 69 (dk_at dksX5_copy_0 18 rfl rfl)
theorem dX5_copy_21 : decode cX5_copy 21 = .ok (.iconst 0, 1) := dk_3 (dk_at dksX5_copy_0 21 rfl rfl)
theorem dX5_copy_22 : decode cX5_copy 22 = .ok (.istore_n 2, 1) := dk_61 (dk_at dksX5_copy_0 22 rfl rfl)
theorem dX5_copy_23 : decode cX5_copy 23 = .ok (.iload_n 2, 1) := dk_28 (dk_at dksX5_copy_0 23 rfl rfl)
theorem dX5_copy_24 : decode cX5_copy 24 = .ok (.bipush 64, 2) := dk_16 64 (dk_at dksX5_copy_1 0 rfl rfl)
theorem dX5_copy_26 : decode cX5_copy 26 = .ok (.if_icmp .ge 21, 3) := dk_162 0 21 (dk_at dksX5_copy_1 2 rfl rfl)
theorem dX5_copy_29 : decode cX5_copy 29 = .ok (.aload_n 0, 1) := dk_42 (dk_at dksX5_copy_1 5 rfl rfl)
theorem dX5_copy_30 : decode cX5_copy 30 = .ok (.getfield 15, 3) := dk_180 0 15 (dk_at dksX5_copy_1 6 rfl rfl)
theorem dX5_copy_33 : decode cX5_copy 33 = .ok (.iload_n 2, 1) := dk_28 (dk_at dksX5_copy_1 9 rfl rfl)
theorem dX5_copy_34 : decode cX5_copy 34 = .ok (.aload_n 1, 1) := dk_43 (dk_at dksX5_copy_1 10 rfl rfl)
theorem dX5_copy_35 : decode cX5_copy 35 = .ok (.getfield 15, 3) := dk_180 0 15 (dk_at dksX5_copy_1 11 rfl rfl)
theorem dX5_copy_38 : decode cX5_copy 38 = .ok (.iload_n 2, 1) := dk_28 (dk_at dksX5_copy_1 14 rfl rfl)
theorem dX5_copy_39 : decode cX5_copy 39 = .ok (.iaload, 1) := dk_46 (dk_at dksX5_copy_1 15 rfl rfl)
theorem dX5_copy_40 : decode cX5_copy 40 = .ok (.iastore, 1) := dk_79 (dk_at dksX5_copy_1 16 rfl rfl)
theorem dX5_copy_41 : decode cX5_copy 41 = .ok (.iinc 2 1, 3) := dk_132 2 1 (dk_at dksX5_copy_1 17 rfl rfl)
theorem dX5_copy_44 : decode cX5_copy 44 = .ok (.goto (-21), 3) := dk_167 255 235 (dk_at dksX5_copy_1 20 rfl rfl)
theorem dX5_copy_47 : decode cX5_copy 47 = .ok (.iconst 0, 1) := dk_3 (dk_at dksX5_copy_1 23 rfl rfl)
theorem dX5_copy_48 : decode cX5_copy 48 = .ok (.istore_n 2, 1) := dk_61 (dk_at dksX5_copy_2 0 rfl rfl)
theorem dX5_copy_49 : decode cX5_copy 49 = .ok (.iload_n 2, 1) := dk_28 (dk_at dksX5_copy_2 1 rfl rfl)
theorem dX5_copy_50 : decode cX5_copy 50 = .ok (.bipush 7, 2) := dk_16 7 (dk_at dksX5_copy_2 2 rfl rfl)
theorem dX5_copy_52 : decode cX5_copy 52 = .ok (.if_icmp .ge 45, 3) := dk_162 0 45 (dk_at dksX5_copy_2 4 rfl rfl)
theorem dX5_copy_55 : decode cX5_copy 55 = .ok (.aload_n 0, 1) := dk_42 (dk_at dksX5_copy_2 7 rfl rfl)
theorem dX5_copy_56 : decode cX5_copy 56 = .ok (.getfield 19, 3) := dk_180 0 19 (dk_at dksX5_copy_2 8 rfl rfl)
theorem dX5_copy_59 : decode cX5_copy 59 = .ok (.iload_n 2, 1) := dk_28 (dk_at dksX5_copy_2 11 rfl rfl)
theorem dX5_copy_60 : decode cX5_copy 60 = .ok (.aload_n 1, 1) := dk_43 (dk_at dksX5_copy_2 12 rfl rfl)
theorem dX5_copy_61 : decode cX5_copy 61 = .ok (.getfield 19, 3) := dk_180 0 19 (dk_at dksX5_copy_2 13 rfl rfl)
theorem dX5_copy_64 : decode cX5_copy 64 = .ok (.iload_n 2, 1) := dk_28 (dk_at dksX5_copy_2 16 rfl rfl)
theorem dX5_copy_65 : decode cX5_copy 65 = .ok (.iaload, 1) := dk_46 (dk_at dksX5_copy_2 17 rfl rfl)
theorem dX5_copy_66 : decode cX5_copy 66 = .ok (.iastore, 1) := dk_79 (dk_at dksX5_copy_2 18 rfl rfl)
theorem dX5_copy_67 : decode cX5_copy 67 = .ok (.aload_n 0, 1) := dk_42 (dk_at dksX5_copy_2 19 rfl rfl)
theorem dX5_copy_68 : decode cX5_copy 68 = .ok (.getfield 22, 3) := dk_180 0 22 (dk_at dksX5_copy_2 20 rfl rfl)
theorem dX5_copy_71 : decode cX5_copy 71 = .ok (.iload_n 2, 1) := dk_28 (dk_at dksX5_copy_2 23 rfl rfl)
theorem dX5_copy_72 : decode cX5_copy 72 = .ok (.aload_n 1, 1) := dk_43 (dk_at dksX5_copy_3 0 rfl rfl)
theorem dX5_copy_73 : decode cX5_copy 73 = .ok (.getfield 22, 3) := dk_180 0 22 (dk_at dksX5_copy_3 1 rfl rfl)
theorem dX5_copy_76 : decode cX5_copy 76 = .ok (.iload_n 2, 1) := dk_28 (dk_at dksX5_copy_3 4 rfl rfl)
theorem dX5_copy_77 : decode cX5_copy 77 = .ok (.iaload, 1) := dk_46 (dk_at dksX5_copy_3 5 rfl rfl)
theorem dX5_copy_78 : decode cX5_copy 78 = .ok (.iastore, 1) := dk_79 (dk_at dksX5_copy_3 6 rfl rfl)
theorem dX5_copy_79 : decode cX5_copy 79 = .ok (.aload_n 0, 1) := dk_42 (dk_at dksX5_copy_3 7 rfl rfl)
theorem dX5_copy_80 : decode cX5_copy 80 = .ok (.getfield 25, 3) := dk_180 0 25 (dk_at dksX5_copy_3 8 rfl rfl)
theorem dX5_copy_83 : decode cX5_copy 83 = .ok (.iload_n 2, 1) := dk_28 (dk_at dksX5_copy_3 11 rfl rfl)
theorem dX5_copy_84 : decode cX5_copy 84 = .ok (.aload_n 1, 1) := dk_43 (dk_at dksX5_copy_3 12 rfl rfl)
theorem dX5_copy_85 : decode cX5_copy 85 = .ok (.getfield 25, 3) := dk_180 0 25 (dk_at dksX5_copy_3 13 rfl rfl)
theorem dX5_copy_88 : decode cX5_copy 88 = .ok (.iload_n 2, 1) := dk_28 (dk_at dksX5_copy_3 16 rfl rfl)
theorem dX5_copy_89 : decode cX5_copy 89 = .ok (.iaload, 1) := dk_46 (dk_at dksX5_copy_3 17 rfl rfl)
theorem dX5_copy_90 : decode cX5_copy 90 = .ok (.iastore, 1) := dk_79 (dk_at dksX5_copy_3 18 rfl rfl)
theorem dX5_copy_91 : decode cX5_copy 91 = .ok (.iinc 2 1, 3) := dk_132 2 1 (dk_at dksX5_copy_3 19 rfl rfl)
theorem dX5_copy_94 : decode cX5_copy 94 = .ok (.goto (-45), 3) := dk_167 255 211 (dk_at dksX5_copy_4 0 rfl rfl)
theorem dX5_copy_97 : decode cX5_copy 97 = .ok (.iconst 0, 1) := dk_3 (dk_at dksX5_copy_4 3 rfl rfl)
theorem dX5_copy_98 : decode cX5_copy 98 = .ok (.istore_n 2, 1) := dk_61 (dk_at dksX5_copy_4 4 rfl rfl)
theorem dX5_copy_99 : decode cX5_copy 99 = .ok (.iload_n 2, 1) := dk_28 (dk_at dksX5_copy_4 5 rfl rfl)
theorem dX5_copy_100 : decode cX5_copy 100 = .ok (.aload_n 0, 1) := dk_42 (dk_at dksX5_copy_4 6 rfl rfl)
theorem dX5_copy_101 : decode cX5_copy 101 = .ok (.getfield 37, 3) := dk_180 0 37 (dk_at dksX5_copy_4 7 rfl rfl)
theorem dX5_copy_104 : decode cX5_copy 104 = .ok (.if_icmp .ge 38, 3) := dk_162 0 38 (dk_at dksX5_copy_4 10 rfl rfl)
theorem dX5_copy_107 : decode cX5_copy 107 = .ok (.iconst 0, 1) := dk_3 (dk_at dksX5_copy_4 13 rfl rfl)
theorem dX5_copy_108 : decode cX5_copy 108 = .ok (.istore_n 3, 1) := dk_62 (dk_at dksX5_copy_4 14 rfl rfl)
theorem dX5_copy_109 : decode cX5_copy 109 = .ok (.iload_n 3, 1) := dk_29 (dk_at dksX5_copy_4 15 rfl rfl)
theorem dX5_copy_110 : decode cX5_copy 110 = .ok (.iconst 4, 1) := dk_7 (dk_at dksX5_copy_4 16 rfl rfl)
theorem dX5_copy_111 : decode cX5_copy 111 = .ok (.if_icmp .ge 25, 3) := dk_162 0 25 (dk_at dksX5_copy_4 17 rfl rfl)
theorem dX5_copy_114 : decode cX5_copy 114 = .ok (.aload_n 0, 1) := dk_42 (dk_at dksX5_copy_4 20 rfl rfl)
theorem dX5_copy_115 : decode cX5_copy 115 = .ok (.getfield 30, 3) := dk_180 0 30 (dk_at dksX5_copy_4 21 rfl rfl)
theorem dX5_copy_118 : decode cX5_copy 118 = .ok (.iload_n 2, 1) := dk_28 (dk_at dksX5_copy_5 0 rfl rfl)
theorem dX5_copy_119 : decode cX5_copy 119 = .ok (.aaload, 1) := dk_50 (dk_at dksX5_copy_5 1 rfl rfl)
theorem dX5_copy_120 : decode cX5_copy 120 = .ok (.iload_n 3, 1) := dk_29 (dk_at dksX5_copy_5 2 rfl rfl)
theorem dX5_copy_121 : decode cX5_copy 121 = .ok (.aload_n 1, 1) := dk_43 (dk_at dksX5_copy_5 3 rfl rfl)
theorem dX5_copy_122 : decode cX5_copy 122 = .ok (.getfield 30, 3) := dk_180 0 30 (dk_at dksX5_copy_5 4 rfl rfl)
theorem dX5_copy_125 : decode cX5_copy 125 = .ok (.iload_n 2, 1) := dk_28 (dk_at dksX5_copy_5 7 rfl rfl)
theorem dX5_copy_126 : decode cX5_copy 126 = .ok (.aaload, 1) := dk_50 (dk_at dksX5_copy_5 8 rfl rfl)
theorem dX5_copy_127 : decode cX5_copy 127 = .ok (.iload_n 3, 1) := dk_29 (dk_at dksX5_copy_5 9 rfl rfl)
theorem dX5_copy_128 : decode cX5_copy 128 = .ok (.iaload, 1) := dk_46 (dk_at dksX5_copy_5 10 rfl rfl)
theorem dX5_copy_129 : decode cX5_copy 129 = .ok (.iastore, 1) := dk_79 (dk_at dksX5_copy_5 11 rfl rfl)
theorem dX5_copy_130 : decode cX5_copy 130 = .ok (.iinc 3 1, 3) := dk_132 3 1 (dk_at dksX5_copy_5 12 rfl rfl)
theorem dX5_copy_133 : decode cX5_copy 133 = .ok (.goto (-24), 3) := dk_167 255 232 (dk_at dksX5_copy_5 15 rfl rfl)
theorem dX5_copy_136 : decode cX5_copy 136 = .ok (.iinc 2 1, 3) := dk_132 2 1 (dk_at dksX5_copy_5 18 rfl rfl)
theorem dX5_copy_139 : decode cX5_copy 139 = .ok (.goto (-40), 3) := dk_167 255 216 (dk_at dksX5_copy_5 21 rfl rfl)
theorem dX5_copy_142 : decode cX5_copy 142 = .ok (.aload_n 0, 1) := dk_42 (dk_at dksX5_copy_6 0 rfl rfl)
theorem dX5_copy_143 : decode cX5_copy 143 = .ok (.areturn, 1) := dk_176 (dk_at dksX5_copy_6 1 rfl rfl)
abbrev cX5_lifts : ByteArray := prog_18_method_13_code
def yX5_lifts : MethodName := ⟨RX5, "lifts", "(II)I"⟩
def dkwX5_lifts_0 : List UInt8 := [42, 27, 28, 182, 0, 152, 5, 160, 0, 12, 42, 27, 28, 182, 0, 155, 167, 0, 4, 3, 172]
abbrev dktX5_lifts_0 : List UInt8 := dkwX5_lifts_0 ++ []
theorem dksX5_lifts_0 : cX5_lifts.data.toList.drop 0 = dktX5_lifts_0 := by decide +kernel
theorem dX5_lifts_0 : decode cX5_lifts 0 = .ok (.aload_n 0, 1) := dk_42 (dk_at dksX5_lifts_0 0 rfl rfl)
theorem dX5_lifts_1 : decode cX5_lifts 1 = .ok (.iload_n 1, 1) := dk_27 (dk_at dksX5_lifts_0 1 rfl rfl)
theorem dX5_lifts_2 : decode cX5_lifts 2 = .ok (.iload_n 2, 1) := dk_28 (dk_at dksX5_lifts_0 2 rfl rfl)
theorem dX5_lifts_3 : decode cX5_lifts 3 = .ok (.invokevirtual 152, 3) := dk_182 0 152 (dk_at dksX5_lifts_0 3 rfl rfl)
theorem dX5_lifts_6 : decode cX5_lifts 6 = .ok (.iconst 2, 1) := dk_5 (dk_at dksX5_lifts_0 6 rfl rfl)
theorem dX5_lifts_7 : decode cX5_lifts 7 = .ok (.if_icmp .ne 12, 3) := dk_160 0 12 (dk_at dksX5_lifts_0 7 rfl rfl)
theorem dX5_lifts_10 : decode cX5_lifts 10 = .ok (.aload_n 0, 1) := dk_42 (dk_at dksX5_lifts_0 10 rfl rfl)
theorem dX5_lifts_11 : decode cX5_lifts 11 = .ok (.iload_n 1, 1) := dk_27 (dk_at dksX5_lifts_0 11 rfl rfl)
theorem dX5_lifts_12 : decode cX5_lifts 12 = .ok (.iload_n 2, 1) := dk_28 (dk_at dksX5_lifts_0 12 rfl rfl)
theorem dX5_lifts_13 : decode cX5_lifts 13 = .ok (.invokevirtual 155, 3) := dk_182 0 155 (dk_at dksX5_lifts_0 13 rfl rfl)
theorem dX5_lifts_16 : decode cX5_lifts 16 = .ok (.goto 4, 3) := dk_167 0 4 (dk_at dksX5_lifts_0 16 rfl rfl)
theorem dX5_lifts_19 : decode cX5_lifts 19 = .ok (.iconst 0, 1) := dk_3 (dk_at dksX5_lifts_0 19 rfl rfl)
theorem dX5_lifts_20 : decode cX5_lifts 20 = .ok (.ireturn, 1) := dk_172 (dk_at dksX5_lifts_0 20 rfl rfl)
abbrev cX5_shrugs : ByteArray := prog_18_method_11_code
def yX5_shrugs : MethodName := ⟨RX5, "shrugs", "(II)I"⟩
def dkwX5_shrugs_4 : List UInt8 := [182, 0, 111, 184, 0, 116, 184, 0, 122, 136, 79, 42, 27, 28, 29, 182, 0, 148, 29, 172]
abbrev dktX5_shrugs_4 : List UInt8 := dkwX5_shrugs_4 ++ []
def dkwX5_shrugs_3 : List UInt8 := [167, 0, 34, 9, 20, 0, 109, 42, 180, 0, 3, 180, 0, 40, 180, 0, 142, 42, 180, 0, 3, 180, 0, 72]
abbrev dktX5_shrugs_3 : List UInt8 := dkwX5_shrugs_3 ++ dktX5_shrugs_4
def dkwX5_shrugs_2 : List UInt8 := [180, 0, 40, 180, 0, 142, 199, 0, 19, 16, 9, 42, 180, 0, 22, 27, 46, 4, 96, 184, 0, 145]
abbrev dktX5_shrugs_2 : List UInt8 := dkwX5_shrugs_2 ++ dktX5_shrugs_3
def dkwX5_shrugs_1 : List UInt8 := [46, 4, 96, 182, 0, 139, 96, 62, 42, 27, 28, 182, 0, 92, 42, 180, 0, 22, 27, 42, 180, 0, 3]
abbrev dktX5_shrugs_1 : List UInt8 := dkwX5_shrugs_1 ++ dktX5_shrugs_2
def dkwX5_shrugs_0 : List UInt8 := [42, 27, 28, 42, 180, 0, 19, 27, 46, 4, 100, 182, 0, 139, 62, 29, 42, 27, 28, 42, 180, 0, 19, 27]
abbrev dktX5_shrugs_0 : List UInt8 := dkwX5_shrugs_0 ++ dktX5_shrugs_1
theorem dksX5_shrugs_0 : cX5_shrugs.data.toList.drop 0 = dktX5_shrugs_0 := by decide +kernel
theorem dksX5_shrugs_1 : cX5_shrugs.data.toList.drop 24 = dktX5_shrugs_1 := dk_seg dksX5_shrugs_0 24 rfl rfl
theorem dksX5_shrugs_2 : cX5_shrugs.data.toList.drop 47 = dktX5_shrugs_2 := dk_seg dksX5_shrugs_1 23 rfl rfl
theorem dksX5_shrugs_3 : cX5_shrugs.data.toList.drop 69 = dktX5_shrugs_3 := dk_seg dksX5_shrugs_2 22 rfl rfl
theorem dksX5_shrugs_4 : cX5_shrugs.data.toList.drop 93 = dktX5_shrugs_4 := dk_seg dksX5_shrugs_3 24 rfl rfl
theorem dX5_shrugs_0 : decode cX5_shrugs 0 = .ok (.aload_n 0, 1) := dk_42 (dk_at dksX5_shrugs_0 0 rfl rfl)
theorem dX5_shrugs_1 : decode cX5_shrugs 1 = .ok (.iload_n 1, 1) := dk_27 (dk_at dksX5_shrugs_0 1 rfl rfl)
theorem dX5_shrugs_2 : decode cX5_shrugs 2 = .ok (.iload_n 2, 1) := dk_28 (dk_at dksX5_shrugs_0 2 rfl rfl)
theorem dX5_shrugs_3 : decode cX5_shrugs 3 = .ok (.aload_n 0, 1) := dk_42 (dk_at dksX5_shrugs_0 3 rfl rfl)
theorem dX5_shrugs_4 : decode cX5_shrugs 4 = .ok (.getfield 19, 3) := dk_180 0 19 (dk_at dksX5_shrugs_0 4 rfl rfl)
theorem dX5_shrugs_7 : decode cX5_shrugs 7 = .ok (.iload_n 1, 1) := dk_27 (dk_at dksX5_shrugs_0 7 rfl rfl)
theorem dX5_shrugs_8 : decode cX5_shrugs 8 = .ok (.iaload, 1) := dk_46 (dk_at dksX5_shrugs_0 8 rfl rfl)
theorem dX5_shrugs_9 : decode cX5_shrugs 9 = .ok (.iconst 1, 1) := dk_4 (dk_at dksX5_shrugs_0 9 rfl rfl)
theorem dX5_shrugs_10 : decode cX5_shrugs 10 = .ok (.isub, 1) := dk_100 (dk_at dksX5_shrugs_0 10 rfl rfl)
theorem dX5_shrugs_11 : decode cX5_shrugs 11 = .ok (.invokevirtual 139, 3) := dk_182 0 139 (dk_at dksX5_shrugs_0 11 rfl rfl)
theorem dX5_shrugs_14 : decode cX5_shrugs 14 = .ok (.istore_n 3, 1) := dk_62 (dk_at dksX5_shrugs_0 14 rfl rfl)
theorem dX5_shrugs_15 : decode cX5_shrugs 15 = .ok (.iload_n 3, 1) := dk_29 (dk_at dksX5_shrugs_0 15 rfl rfl)
theorem dX5_shrugs_16 : decode cX5_shrugs 16 = .ok (.aload_n 0, 1) := dk_42 (dk_at dksX5_shrugs_0 16 rfl rfl)
theorem dX5_shrugs_17 : decode cX5_shrugs 17 = .ok (.iload_n 1, 1) := dk_27 (dk_at dksX5_shrugs_0 17 rfl rfl)
theorem dX5_shrugs_18 : decode cX5_shrugs 18 = .ok (.iload_n 2, 1) := dk_28 (dk_at dksX5_shrugs_0 18 rfl rfl)
theorem dX5_shrugs_19 : decode cX5_shrugs 19 = .ok (.aload_n 0, 1) := dk_42 (dk_at dksX5_shrugs_0 19 rfl rfl)
theorem dX5_shrugs_20 : decode cX5_shrugs 20 = .ok (.getfield 19, 3) := dk_180 0 19 (dk_at dksX5_shrugs_0 20 rfl rfl)
theorem dX5_shrugs_23 : decode cX5_shrugs 23 = .ok (.iload_n 1, 1) := dk_27 (dk_at dksX5_shrugs_0 23 rfl rfl)
theorem dX5_shrugs_24 : decode cX5_shrugs 24 = .ok (.iaload, 1) := dk_46 (dk_at dksX5_shrugs_1 0 rfl rfl)
theorem dX5_shrugs_25 : decode cX5_shrugs 25 = .ok (.iconst 1, 1) := dk_4 (dk_at dksX5_shrugs_1 1 rfl rfl)
theorem dX5_shrugs_26 : decode cX5_shrugs 26 = .ok (.iadd, 1) := dk_96 (dk_at dksX5_shrugs_1 2 rfl rfl)
theorem dX5_shrugs_27 : decode cX5_shrugs 27 = .ok (.invokevirtual 139, 3) := dk_182 0 139 (dk_at dksX5_shrugs_1 3 rfl rfl)
theorem dX5_shrugs_30 : decode cX5_shrugs 30 = .ok (.iadd, 1) := dk_96 (dk_at dksX5_shrugs_1 6 rfl rfl)
theorem dX5_shrugs_31 : decode cX5_shrugs 31 = .ok (.istore_n 3, 1) := dk_62 (dk_at dksX5_shrugs_1 7 rfl rfl)
theorem dX5_shrugs_32 : decode cX5_shrugs 32 = .ok (.aload_n 0, 1) := dk_42 (dk_at dksX5_shrugs_1 8 rfl rfl)
theorem dX5_shrugs_33 : decode cX5_shrugs 33 = .ok (.iload_n 1, 1) := dk_27 (dk_at dksX5_shrugs_1 9 rfl rfl)
theorem dX5_shrugs_34 : decode cX5_shrugs 34 = .ok (.iload_n 2, 1) := dk_28 (dk_at dksX5_shrugs_1 10 rfl rfl)
theorem dX5_shrugs_35 : decode cX5_shrugs 35 = .ok (.invokevirtual 92, 3) := dk_182 0 92 (dk_at dksX5_shrugs_1 11 rfl rfl)
theorem dX5_shrugs_38 : decode cX5_shrugs 38 = .ok (.aload_n 0, 1) := dk_42 (dk_at dksX5_shrugs_1 14 rfl rfl)
theorem dX5_shrugs_39 : decode cX5_shrugs 39 = .ok (.getfield 22, 3) := dk_180 0 22 (dk_at dksX5_shrugs_1 15 rfl rfl)
theorem dX5_shrugs_42 : decode cX5_shrugs 42 = .ok (.iload_n 1, 1) := dk_27 (dk_at dksX5_shrugs_1 18 rfl rfl)
theorem dX5_shrugs_43 : decode cX5_shrugs 43 = .ok (.aload_n 0, 1) := dk_42 (dk_at dksX5_shrugs_1 19 rfl rfl)
theorem dX5_shrugs_44 : decode cX5_shrugs 44 = .ok (.getfield 3, 3) := dk_180 0 3 (dk_at dksX5_shrugs_1 20 rfl rfl)
theorem dX5_shrugs_47 : decode cX5_shrugs 47 = .ok (.getfield 40, 3) := dk_180 0 40 (dk_at dksX5_shrugs_2 0 rfl rfl)
theorem dX5_shrugs_50 : decode cX5_shrugs 50 = .ok (.getfield 142, 3) := dk_180 0 142 (dk_at dksX5_shrugs_2 3 rfl rfl)
theorem dX5_shrugs_53 : decode cX5_shrugs 53 = .ok (.ifnonnull 19, 3) := dk_199 0 19 (dk_at dksX5_shrugs_2 6 rfl rfl)
theorem dX5_shrugs_56 : decode cX5_shrugs 56 = .ok (.bipush 9, 2) := dk_16 9 (dk_at dksX5_shrugs_2 9 rfl rfl)
theorem dX5_shrugs_58 : decode cX5_shrugs 58 = .ok (.aload_n 0, 1) := dk_42 (dk_at dksX5_shrugs_2 11 rfl rfl)
theorem dX5_shrugs_59 : decode cX5_shrugs 59 = .ok (.getfield 22, 3) := dk_180 0 22 (dk_at dksX5_shrugs_2 12 rfl rfl)
theorem dX5_shrugs_62 : decode cX5_shrugs 62 = .ok (.iload_n 1, 1) := dk_27 (dk_at dksX5_shrugs_2 15 rfl rfl)
theorem dX5_shrugs_63 : decode cX5_shrugs 63 = .ok (.iaload, 1) := dk_46 (dk_at dksX5_shrugs_2 16 rfl rfl)
theorem dX5_shrugs_64 : decode cX5_shrugs 64 = .ok (.iconst 1, 1) := dk_4 (dk_at dksX5_shrugs_2 17 rfl rfl)
theorem dX5_shrugs_65 : decode cX5_shrugs 65 = .ok (.iadd, 1) := dk_96 (dk_at dksX5_shrugs_2 18 rfl rfl)
theorem dX5_shrugs_66 : decode cX5_shrugs 66 = .ok (.invokestatic 145, 3) := dk_184 0 145 (dk_at dksX5_shrugs_2 19 rfl rfl)
theorem dX5_shrugs_69 : decode cX5_shrugs 69 = .ok (.goto 34, 3) := dk_167 0 34 (dk_at dksX5_shrugs_3 0 rfl rfl)
theorem dX5_shrugs_72 : decode cX5_shrugs 72 = .ok (.lconst 0, 1) := dk_9 (dk_at dksX5_shrugs_3 3 rfl rfl)
theorem dX5_shrugs_73 : decode cX5_shrugs 73 = .ok (.ldc2_w 109, 3) := dk_20 0 109 (dk_at dksX5_shrugs_3 4 rfl rfl)
theorem dX5_shrugs_76 : decode cX5_shrugs 76 = .ok (.aload_n 0, 1) := dk_42 (dk_at dksX5_shrugs_3 7 rfl rfl)
theorem dX5_shrugs_77 : decode cX5_shrugs 77 = .ok (.getfield 3, 3) := dk_180 0 3 (dk_at dksX5_shrugs_3 8 rfl rfl)
theorem dX5_shrugs_80 : decode cX5_shrugs 80 = .ok (.getfield 40, 3) := dk_180 0 40 (dk_at dksX5_shrugs_3 11 rfl rfl)
theorem dX5_shrugs_83 : decode cX5_shrugs 83 = .ok (.getfield 142, 3) := dk_180 0 142 (dk_at dksX5_shrugs_3 14 rfl rfl)
theorem dX5_shrugs_86 : decode cX5_shrugs 86 = .ok (.aload_n 0, 1) := dk_42 (dk_at dksX5_shrugs_3 17 rfl rfl)
theorem dX5_shrugs_87 : decode cX5_shrugs 87 = .ok (.getfield 3, 3) := dk_180 0 3 (dk_at dksX5_shrugs_3 18 rfl rfl)
theorem dX5_shrugs_90 : decode cX5_shrugs 90 = .ok (.getfield 72, 3) := dk_180 0 72 (dk_at dksX5_shrugs_3 21 rfl rfl)
theorem dX5_shrugs_93 : decode cX5_shrugs 93 = .ok (.invokevirtual 111, 3) := dk_182 0 111 (dk_at dksX5_shrugs_4 0 rfl rfl)
theorem dX5_shrugs_96 : decode cX5_shrugs 96 = .ok (.invokestatic 116, 3) := dk_184 0 116 (dk_at dksX5_shrugs_4 3 rfl rfl)
theorem dX5_shrugs_99 : decode cX5_shrugs 99 = .ok (.invokestatic 122, 3) := dk_184 0 122 (dk_at dksX5_shrugs_4 6 rfl rfl)
theorem dX5_shrugs_102 : decode cX5_shrugs 102 = .ok (.l2i, 1) := dk_136 (dk_at dksX5_shrugs_4 9 rfl rfl)
theorem dX5_shrugs_103 : decode cX5_shrugs 103 = .ok (.iastore, 1) := dk_79 (dk_at dksX5_shrugs_4 10 rfl rfl)
theorem dX5_shrugs_104 : decode cX5_shrugs 104 = .ok (.aload_n 0, 1) := dk_42 (dk_at dksX5_shrugs_4 11 rfl rfl)
theorem dX5_shrugs_105 : decode cX5_shrugs 105 = .ok (.iload_n 1, 1) := dk_27 (dk_at dksX5_shrugs_4 12 rfl rfl)
theorem dX5_shrugs_106 : decode cX5_shrugs 106 = .ok (.iload_n 2, 1) := dk_28 (dk_at dksX5_shrugs_4 13 rfl rfl)
theorem dX5_shrugs_107 : decode cX5_shrugs 107 = .ok (.iload_n 3, 1) := dk_29 (dk_at dksX5_shrugs_4 14 rfl rfl)
theorem dX5_shrugs_108 : decode cX5_shrugs 108 = .ok (.invokevirtual 148, 3) := dk_182 0 148 (dk_at dksX5_shrugs_4 15 rfl rfl)
theorem dX5_shrugs_111 : decode cX5_shrugs 111 = .ok (.iload_n 3, 1) := dk_29 (dk_at dksX5_shrugs_4 18 rfl rfl)
theorem dX5_shrugs_112 : decode cX5_shrugs 112 = .ok (.ireturn, 1) := dk_172 (dk_at dksX5_shrugs_4 19 rfl rfl)
abbrev cX5_lifted : ByteArray := prog_18_method_9_code
def yX5_lifted : MethodName := ⟨RX5, "lifted", "(III)I"⟩
def dkwX5_lifted_4 : List UInt8 := [42, 180, 0, 15, 29, 92, 46, 4, 96, 79, 132, 5, 1, 167, 255, 189, 21, 4, 172]
abbrev dktX5_lifted_4 : List UInt8 := dkwX5_lifted_4 ++ []
def dkwX5_lifted_3 : List UInt8 := [180, 0, 15, 29, 46, 16, 99, 160, 0, 6, 21, 5, 172, 42, 180, 0, 15, 21, 6, 92, 46, 4, 100, 79]
abbrev dktX5_lifted_3 : List UInt8 := dkwX5_lifted_3 ++ dktX5_lifted_4
def dkwX5_lifted_2 : List UInt8 := [42, 42, 180, 0, 19, 27, 46, 182, 0, 136, 54, 6, 42, 180, 0, 15, 21, 6, 46, 153, 0, 14, 42]
abbrev dktX5_lifted_2 : List UInt8 := dkwX5_lifted_2 ++ dktX5_lifted_3
def dkwX5_lifted_1 : List UInt8 := [159, 0, 5, 3, 172, 42, 27, 28, 29, 182, 0, 132, 54, 4, 3, 54, 5, 21, 5, 21, 4, 162, 0, 66]
abbrev dktX5_lifted_1 : List UInt8 := dkwX5_lifted_1 ++ dktX5_lifted_2
def dkwX5_lifted_0 : List UInt8 := [42, 180, 0, 3, 29, 182, 0, 125, 153, 0, 19, 29, 16, 8, 108, 42, 180, 0, 19, 27, 46, 16, 8, 108]
abbrev dktX5_lifted_0 : List UInt8 := dkwX5_lifted_0 ++ dktX5_lifted_1
theorem dksX5_lifted_0 : cX5_lifted.data.toList.drop 0 = dktX5_lifted_0 := by decide +kernel
theorem dksX5_lifted_1 : cX5_lifted.data.toList.drop 24 = dktX5_lifted_1 := dk_seg dksX5_lifted_0 24 rfl rfl
theorem dksX5_lifted_2 : cX5_lifted.data.toList.drop 48 = dktX5_lifted_2 := dk_seg dksX5_lifted_1 24 rfl rfl
theorem dksX5_lifted_3 : cX5_lifted.data.toList.drop 71 = dktX5_lifted_3 := dk_seg dksX5_lifted_2 23 rfl rfl
theorem dksX5_lifted_4 : cX5_lifted.data.toList.drop 95 = dktX5_lifted_4 := dk_seg dksX5_lifted_3 24 rfl rfl
theorem dX5_lifted_0 : decode cX5_lifted 0 = .ok (.aload_n 0, 1) := dk_42 (dk_at dksX5_lifted_0 0 rfl rfl)
theorem dX5_lifted_1 : decode cX5_lifted 1 = .ok (.getfield 3, 3) := dk_180 0 3 (dk_at dksX5_lifted_0 1 rfl rfl)
theorem dX5_lifted_4 : decode cX5_lifted 4 = .ok (.iload_n 3, 1) := dk_29 (dk_at dksX5_lifted_0 4 rfl rfl)
theorem dX5_lifted_5 : decode cX5_lifted 5 = .ok (.invokevirtual 125, 3) := dk_182 0 125 (dk_at dksX5_lifted_0 5 rfl rfl)
theorem dX5_lifted_8 : decode cX5_lifted 8 = .ok (.ifCond .eq 19, 3) := dk_153 0 19 (dk_at dksX5_lifted_0 8 rfl rfl)
theorem dX5_lifted_11 : decode cX5_lifted 11 = .ok (.iload_n 3, 1) := dk_29 (dk_at dksX5_lifted_0 11 rfl rfl)
theorem dX5_lifted_12 : decode cX5_lifted 12 = .ok (.bipush 8, 2) := dk_16 8 (dk_at dksX5_lifted_0 12 rfl rfl)
theorem dX5_lifted_14 : decode cX5_lifted 14 = .ok (.idiv, 1) := dk_108 (dk_at dksX5_lifted_0 14 rfl rfl)
theorem dX5_lifted_15 : decode cX5_lifted 15 = .ok (.aload_n 0, 1) := dk_42 (dk_at dksX5_lifted_0 15 rfl rfl)
theorem dX5_lifted_16 : decode cX5_lifted 16 = .ok (.getfield 19, 3) := dk_180 0 19 (dk_at dksX5_lifted_0 16 rfl rfl)
theorem dX5_lifted_19 : decode cX5_lifted 19 = .ok (.iload_n 1, 1) := dk_27 (dk_at dksX5_lifted_0 19 rfl rfl)
theorem dX5_lifted_20 : decode cX5_lifted 20 = .ok (.iaload, 1) := dk_46 (dk_at dksX5_lifted_0 20 rfl rfl)
theorem dX5_lifted_21 : decode cX5_lifted 21 = .ok (.bipush 8, 2) := dk_16 8 (dk_at dksX5_lifted_0 21 rfl rfl)
theorem dX5_lifted_23 : decode cX5_lifted 23 = .ok (.idiv, 1) := dk_108 (dk_at dksX5_lifted_0 23 rfl rfl)
theorem dX5_lifted_24 : decode cX5_lifted 24 = .ok (.if_icmp .eq 5, 3) := dk_159 0 5 (dk_at dksX5_lifted_1 0 rfl rfl)
theorem dX5_lifted_27 : decode cX5_lifted 27 = .ok (.iconst 0, 1) := dk_3 (dk_at dksX5_lifted_1 3 rfl rfl)
theorem dX5_lifted_28 : decode cX5_lifted 28 = .ok (.ireturn, 1) := dk_172 (dk_at dksX5_lifted_1 4 rfl rfl)
theorem dX5_lifted_29 : decode cX5_lifted 29 = .ok (.aload_n 0, 1) := dk_42 (dk_at dksX5_lifted_1 5 rfl rfl)
theorem dX5_lifted_30 : decode cX5_lifted 30 = .ok (.iload_n 1, 1) := dk_27 (dk_at dksX5_lifted_1 6 rfl rfl)
theorem dX5_lifted_31 : decode cX5_lifted 31 = .ok (.iload_n 2, 1) := dk_28 (dk_at dksX5_lifted_1 7 rfl rfl)
theorem dX5_lifted_32 : decode cX5_lifted 32 = .ok (.iload_n 3, 1) := dk_29 (dk_at dksX5_lifted_1 8 rfl rfl)
theorem dX5_lifted_33 : decode cX5_lifted 33 = .ok (.invokevirtual 132, 3) := dk_182 0 132 (dk_at dksX5_lifted_1 9 rfl rfl)
theorem dX5_lifted_36 : decode cX5_lifted 36 = .ok (.istore 4, 2) := dk_54 4 (dk_at dksX5_lifted_1 12 rfl rfl)
theorem dX5_lifted_38 : decode cX5_lifted 38 = .ok (.iconst 0, 1) := dk_3 (dk_at dksX5_lifted_1 14 rfl rfl)
theorem dX5_lifted_39 : decode cX5_lifted 39 = .ok (.istore 5, 2) := dk_54 5 (dk_at dksX5_lifted_1 15 rfl rfl)
theorem dX5_lifted_41 : decode cX5_lifted 41 = .ok (.iload 5, 2) := dk_21 5 (dk_at dksX5_lifted_1 17 rfl rfl)
theorem dX5_lifted_43 : decode cX5_lifted 43 = .ok (.iload 4, 2) := dk_21 4 (dk_at dksX5_lifted_1 19 rfl rfl)
theorem dX5_lifted_45 : decode cX5_lifted 45 = .ok (.if_icmp .ge 66, 3) := dk_162 0 66 (dk_at dksX5_lifted_1 21 rfl rfl)
theorem dX5_lifted_48 : decode cX5_lifted 48 = .ok (.aload_n 0, 1) := dk_42 (dk_at dksX5_lifted_2 0 rfl rfl)
theorem dX5_lifted_49 : decode cX5_lifted 49 = .ok (.aload_n 0, 1) := dk_42 (dk_at dksX5_lifted_2 1 rfl rfl)
theorem dX5_lifted_50 : decode cX5_lifted 50 = .ok (.getfield 19, 3) := dk_180 0 19 (dk_at dksX5_lifted_2 2 rfl rfl)
theorem dX5_lifted_53 : decode cX5_lifted 53 = .ok (.iload_n 1, 1) := dk_27 (dk_at dksX5_lifted_2 5 rfl rfl)
theorem dX5_lifted_54 : decode cX5_lifted 54 = .ok (.iaload, 1) := dk_46 (dk_at dksX5_lifted_2 6 rfl rfl)
theorem dX5_lifted_55 : decode cX5_lifted 55 = .ok (.invokevirtual 136, 3) := dk_182 0 136 (dk_at dksX5_lifted_2 7 rfl rfl)
theorem dX5_lifted_58 : decode cX5_lifted 58 = .ok (.istore 6, 2) := dk_54 6 (dk_at dksX5_lifted_2 10 rfl rfl)
theorem dX5_lifted_60 : decode cX5_lifted 60 = .ok (.aload_n 0, 1) := dk_42 (dk_at dksX5_lifted_2 12 rfl rfl)
theorem dX5_lifted_61 : decode cX5_lifted 61 = .ok (.getfield 15, 3) := dk_180 0 15 (dk_at dksX5_lifted_2 13 rfl rfl)
theorem dX5_lifted_64 : decode cX5_lifted 64 = .ok (.iload 6, 2) := dk_21 6 (dk_at dksX5_lifted_2 16 rfl rfl)
theorem dX5_lifted_66 : decode cX5_lifted 66 = .ok (.iaload, 1) := dk_46 (dk_at dksX5_lifted_2 18 rfl rfl)
theorem dX5_lifted_67 : decode cX5_lifted 67 = .ok (.ifCond .eq 14, 3) := dk_153 0 14 (dk_at dksX5_lifted_2 19 rfl rfl)
theorem dX5_lifted_70 : decode cX5_lifted 70 = .ok (.aload_n 0, 1) := dk_42 (dk_at dksX5_lifted_2 22 rfl rfl)
theorem dX5_lifted_71 : decode cX5_lifted 71 = .ok (.getfield 15, 3) := dk_180 0 15 (dk_at dksX5_lifted_3 0 rfl rfl)
theorem dX5_lifted_74 : decode cX5_lifted 74 = .ok (.iload_n 3, 1) := dk_29 (dk_at dksX5_lifted_3 3 rfl rfl)
theorem dX5_lifted_75 : decode cX5_lifted 75 = .ok (.iaload, 1) := dk_46 (dk_at dksX5_lifted_3 4 rfl rfl)
theorem dX5_lifted_76 : decode cX5_lifted 76 = .ok (.bipush 99, 2) := dk_16 99 (dk_at dksX5_lifted_3 5 rfl rfl)
theorem dX5_lifted_78 : decode cX5_lifted 78 = .ok (.if_icmp .ne 6, 3) := dk_160 0 6 (dk_at dksX5_lifted_3 7 rfl rfl)
theorem dX5_lifted_81 : decode cX5_lifted 81 = .ok (.iload 5, 2) := dk_21 5 (dk_at dksX5_lifted_3 10 rfl rfl)
theorem dX5_lifted_83 : decode cX5_lifted 83 = .ok (.ireturn, 1) := dk_172 (dk_at dksX5_lifted_3 12 rfl rfl)
theorem dX5_lifted_84 : decode cX5_lifted 84 = .ok (.aload_n 0, 1) := dk_42 (dk_at dksX5_lifted_3 13 rfl rfl)
theorem dX5_lifted_85 : decode cX5_lifted 85 = .ok (.getfield 15, 3) := dk_180 0 15 (dk_at dksX5_lifted_3 14 rfl rfl)
theorem dX5_lifted_88 : decode cX5_lifted 88 = .ok (.iload 6, 2) := dk_21 6 (dk_at dksX5_lifted_3 17 rfl rfl)
theorem dX5_lifted_90 : decode cX5_lifted 90 = .ok (.dup2, 1) := dk_92 (dk_at dksX5_lifted_3 19 rfl rfl)
theorem dX5_lifted_91 : decode cX5_lifted 91 = .ok (.iaload, 1) := dk_46 (dk_at dksX5_lifted_3 20 rfl rfl)
theorem dX5_lifted_92 : decode cX5_lifted 92 = .ok (.iconst 1, 1) := dk_4 (dk_at dksX5_lifted_3 21 rfl rfl)
theorem dX5_lifted_93 : decode cX5_lifted 93 = .ok (.isub, 1) := dk_100 (dk_at dksX5_lifted_3 22 rfl rfl)
theorem dX5_lifted_94 : decode cX5_lifted 94 = .ok (.iastore, 1) := dk_79 (dk_at dksX5_lifted_3 23 rfl rfl)
theorem dX5_lifted_95 : decode cX5_lifted 95 = .ok (.aload_n 0, 1) := dk_42 (dk_at dksX5_lifted_4 0 rfl rfl)
theorem dX5_lifted_96 : decode cX5_lifted 96 = .ok (.getfield 15, 3) := dk_180 0 15 (dk_at dksX5_lifted_4 1 rfl rfl)
theorem dX5_lifted_99 : decode cX5_lifted 99 = .ok (.iload_n 3, 1) := dk_29 (dk_at dksX5_lifted_4 4 rfl rfl)
theorem dX5_lifted_100 : decode cX5_lifted 100 = .ok (.dup2, 1) := dk_92 (dk_at dksX5_lifted_4 5 rfl rfl)
theorem dX5_lifted_101 : decode cX5_lifted 101 = .ok (.iaload, 1) := dk_46 (dk_at dksX5_lifted_4 6 rfl rfl)
theorem dX5_lifted_102 : decode cX5_lifted 102 = .ok (.iconst 1, 1) := dk_4 (dk_at dksX5_lifted_4 7 rfl rfl)
theorem dX5_lifted_103 : decode cX5_lifted 103 = .ok (.iadd, 1) := dk_96 (dk_at dksX5_lifted_4 8 rfl rfl)
theorem dX5_lifted_104 : decode cX5_lifted 104 = .ok (.iastore, 1) := dk_79 (dk_at dksX5_lifted_4 9 rfl rfl)
theorem dX5_lifted_105 : decode cX5_lifted 105 = .ok (.iinc 5 1, 3) := dk_132 5 1 (dk_at dksX5_lifted_4 10 rfl rfl)
theorem dX5_lifted_108 : decode cX5_lifted 108 = .ok (.goto (-67), 3) := dk_167 255 189 (dk_at dksX5_lifted_4 13 rfl rfl)
theorem dX5_lifted_111 : decode cX5_lifted 111 = .ok (.iload 4, 2) := dk_21 4 (dk_at dksX5_lifted_4 16 rfl rfl)
theorem dX5_lifted_113 : decode cX5_lifted 113 = .ok (.ireturn, 1) := dk_172 (dk_at dksX5_lifted_4 18 rfl rfl)
abbrev cX5_times : ByteArray := prog_18_method_7_code
def yX5_times : MethodName := ⟨RX5, "times", "(III)I"⟩
def dkwX5_times_3 : List UInt8 := [184, 0, 122, 136, 172]
abbrev dktX5_times_3 : List UInt8 := dkwX5_times_3 ++ []
def dkwX5_times_2 : List UInt8 := [180, 0, 3, 180, 0, 40, 180, 0, 105, 42, 180, 0, 3, 180, 0, 72, 182, 0, 111, 184, 0, 116]
abbrev dktX5_times_2 : List UInt8 := dkwX5_times_2 ++ dktX5_times_3
def dkwX5_times_1 : List UInt8 := [180, 0, 3, 180, 0, 72, 180, 0, 76, 8, 42, 180, 0, 15, 29, 46, 133, 80, 9, 20, 0, 109, 42]
abbrev dktX5_times_1 : List UInt8 := dkwX5_times_1 ++ dktX5_times_2
def dkwX5_times_0 : List UInt8 := [42, 180, 0, 3, 180, 0, 40, 180, 0, 105, 199, 0, 5, 6, 172, 42, 27, 28, 182, 0, 92, 42]
abbrev dktX5_times_0 : List UInt8 := dkwX5_times_0 ++ dktX5_times_1
theorem dksX5_times_0 : cX5_times.data.toList.drop 0 = dktX5_times_0 := by decide +kernel
theorem dksX5_times_1 : cX5_times.data.toList.drop 22 = dktX5_times_1 := dk_seg dksX5_times_0 22 rfl rfl
theorem dksX5_times_2 : cX5_times.data.toList.drop 45 = dktX5_times_2 := dk_seg dksX5_times_1 23 rfl rfl
theorem dksX5_times_3 : cX5_times.data.toList.drop 67 = dktX5_times_3 := dk_seg dksX5_times_2 22 rfl rfl
theorem dX5_times_0 : decode cX5_times 0 = .ok (.aload_n 0, 1) := dk_42 (dk_at dksX5_times_0 0 rfl rfl)
theorem dX5_times_1 : decode cX5_times 1 = .ok (.getfield 3, 3) := dk_180 0 3 (dk_at dksX5_times_0 1 rfl rfl)
theorem dX5_times_4 : decode cX5_times 4 = .ok (.getfield 40, 3) := dk_180 0 40 (dk_at dksX5_times_0 4 rfl rfl)
theorem dX5_times_7 : decode cX5_times 7 = .ok (.getfield 105, 3) := dk_180 0 105 (dk_at dksX5_times_0 7 rfl rfl)
theorem dX5_times_10 : decode cX5_times 10 = .ok (.ifnonnull 5, 3) := dk_199 0 5 (dk_at dksX5_times_0 10 rfl rfl)
theorem dX5_times_13 : decode cX5_times 13 = .ok (.iconst 3, 1) := dk_6 (dk_at dksX5_times_0 13 rfl rfl)
theorem dX5_times_14 : decode cX5_times 14 = .ok (.ireturn, 1) := dk_172 (dk_at dksX5_times_0 14 rfl rfl)
theorem dX5_times_15 : decode cX5_times 15 = .ok (.aload_n 0, 1) := dk_42 (dk_at dksX5_times_0 15 rfl rfl)
theorem dX5_times_16 : decode cX5_times 16 = .ok (.iload_n 1, 1) := dk_27 (dk_at dksX5_times_0 16 rfl rfl)
theorem dX5_times_17 : decode cX5_times 17 = .ok (.iload_n 2, 1) := dk_28 (dk_at dksX5_times_0 17 rfl rfl)
theorem dX5_times_18 : decode cX5_times 18 = .ok (.invokevirtual 92, 3) := dk_182 0 92 (dk_at dksX5_times_0 18 rfl rfl)
theorem dX5_times_21 : decode cX5_times 21 = .ok (.aload_n 0, 1) := dk_42 (dk_at dksX5_times_0 21 rfl rfl)
theorem dX5_times_22 : decode cX5_times 22 = .ok (.getfield 3, 3) := dk_180 0 3 (dk_at dksX5_times_1 0 rfl rfl)
theorem dX5_times_25 : decode cX5_times 25 = .ok (.getfield 72, 3) := dk_180 0 72 (dk_at dksX5_times_1 3 rfl rfl)
theorem dX5_times_28 : decode cX5_times 28 = .ok (.getfield 76, 3) := dk_180 0 76 (dk_at dksX5_times_1 6 rfl rfl)
theorem dX5_times_31 : decode cX5_times 31 = .ok (.iconst 5, 1) := dk_8 (dk_at dksX5_times_1 9 rfl rfl)
theorem dX5_times_32 : decode cX5_times 32 = .ok (.aload_n 0, 1) := dk_42 (dk_at dksX5_times_1 10 rfl rfl)
theorem dX5_times_33 : decode cX5_times 33 = .ok (.getfield 15, 3) := dk_180 0 15 (dk_at dksX5_times_1 11 rfl rfl)
theorem dX5_times_36 : decode cX5_times 36 = .ok (.iload_n 3, 1) := dk_29 (dk_at dksX5_times_1 14 rfl rfl)
theorem dX5_times_37 : decode cX5_times 37 = .ok (.iaload, 1) := dk_46 (dk_at dksX5_times_1 15 rfl rfl)
theorem dX5_times_38 : decode cX5_times 38 = .ok (.i2l, 1) := dk_133 (dk_at dksX5_times_1 16 rfl rfl)
theorem dX5_times_39 : decode cX5_times 39 = .ok (.lastore, 1) := dk_80 (dk_at dksX5_times_1 17 rfl rfl)
theorem dX5_times_40 : decode cX5_times 40 = .ok (.lconst 0, 1) := dk_9 (dk_at dksX5_times_1 18 rfl rfl)
theorem dX5_times_41 : decode cX5_times 41 = .ok (.ldc2_w 109, 3) := dk_20 0 109 (dk_at dksX5_times_1 19 rfl rfl)
theorem dX5_times_44 : decode cX5_times 44 = .ok (.aload_n 0, 1) := dk_42 (dk_at dksX5_times_1 22 rfl rfl)
theorem dX5_times_45 : decode cX5_times 45 = .ok (.getfield 3, 3) := dk_180 0 3 (dk_at dksX5_times_2 0 rfl rfl)
theorem dX5_times_48 : decode cX5_times 48 = .ok (.getfield 40, 3) := dk_180 0 40 (dk_at dksX5_times_2 3 rfl rfl)
theorem dX5_times_51 : decode cX5_times 51 = .ok (.getfield 105, 3) := dk_180 0 105 (dk_at dksX5_times_2 6 rfl rfl)
theorem dX5_times_54 : decode cX5_times 54 = .ok (.aload_n 0, 1) := dk_42 (dk_at dksX5_times_2 9 rfl rfl)
theorem dX5_times_55 : decode cX5_times 55 = .ok (.getfield 3, 3) := dk_180 0 3 (dk_at dksX5_times_2 10 rfl rfl)
theorem dX5_times_58 : decode cX5_times 58 = .ok (.getfield 72, 3) := dk_180 0 72 (dk_at dksX5_times_2 13 rfl rfl)
theorem dX5_times_61 : decode cX5_times 61 = .ok (.invokevirtual 111, 3) := dk_182 0 111 (dk_at dksX5_times_2 16 rfl rfl)
theorem dX5_times_64 : decode cX5_times 64 = .ok (.invokestatic 116, 3) := dk_184 0 116 (dk_at dksX5_times_2 19 rfl rfl)
theorem dX5_times_67 : decode cX5_times 67 = .ok (.invokestatic 122, 3) := dk_184 0 122 (dk_at dksX5_times_3 0 rfl rfl)
theorem dX5_times_70 : decode cX5_times 70 = .ok (.l2i, 1) := dk_136 (dk_at dksX5_times_3 3 rfl rfl)
theorem dX5_times_71 : decode cX5_times 71 = .ok (.ireturn, 1) := dk_172 (dk_at dksX5_times_3 4 rfl rfl)
abbrev cX5_highest : ByteArray := prog_18_method_8_code
def yX5_highest : MethodName := ⟨RX5, "highest", "(I)I"⟩
def dkwX5_highest_3 : List UInt8 := [167, 255, 190, 28, 172]
abbrev dktX5_highest_3 : List UInt8 := dkwX5_highest_3 ++ []
def dkwX5_highest_2 : List UInt8 := [159, 0, 18, 42, 180, 0, 15, 29, 46, 42, 180, 0, 15, 28, 46, 164, 0, 5, 29, 61, 132, 3, 1]
abbrev dktX5_highest_2 : List UInt8 := dkwX5_highest_2 ++ dktX5_highest_3
def dkwX5_highest_1 : List UInt8 := [108, 27, 16, 8, 108, 160, 0, 16, 29, 27, 100, 184, 0, 129, 4, 163, 0, 6, 167, 0, 25, 28, 2]
abbrev dktX5_highest_1 : List UInt8 := dkwX5_highest_1 ++ dktX5_highest_2
def dkwX5_highest_0 : List UInt8 := [2, 61, 3, 62, 29, 16, 64, 162, 0, 66, 42, 180, 0, 3, 29, 182, 0, 125, 153, 0, 49, 29, 16, 8]
abbrev dktX5_highest_0 : List UInt8 := dkwX5_highest_0 ++ dktX5_highest_1
theorem dksX5_highest_0 : cX5_highest.data.toList.drop 0 = dktX5_highest_0 := by decide +kernel
theorem dksX5_highest_1 : cX5_highest.data.toList.drop 24 = dktX5_highest_1 := dk_seg dksX5_highest_0 24 rfl rfl
theorem dksX5_highest_2 : cX5_highest.data.toList.drop 47 = dktX5_highest_2 := dk_seg dksX5_highest_1 23 rfl rfl
theorem dksX5_highest_3 : cX5_highest.data.toList.drop 70 = dktX5_highest_3 := dk_seg dksX5_highest_2 23 rfl rfl
theorem dX5_highest_0 : decode cX5_highest 0 = .ok (.iconst (-1), 1) := dk_2 (dk_at dksX5_highest_0 0 rfl rfl)
theorem dX5_highest_1 : decode cX5_highest 1 = .ok (.istore_n 2, 1) := dk_61 (dk_at dksX5_highest_0 1 rfl rfl)
theorem dX5_highest_2 : decode cX5_highest 2 = .ok (.iconst 0, 1) := dk_3 (dk_at dksX5_highest_0 2 rfl rfl)
theorem dX5_highest_3 : decode cX5_highest 3 = .ok (.istore_n 3, 1) := dk_62 (dk_at dksX5_highest_0 3 rfl rfl)
theorem dX5_highest_4 : decode cX5_highest 4 = .ok (.iload_n 3, 1) := dk_29 (dk_at dksX5_highest_0 4 rfl rfl)
theorem dX5_highest_5 : decode cX5_highest 5 = .ok (.bipush 64, 2) := dk_16 64 (dk_at dksX5_highest_0 5 rfl rfl)
theorem dX5_highest_7 : decode cX5_highest 7 = .ok (.if_icmp .ge 66, 3) := dk_162 0 66 (dk_at dksX5_highest_0 7 rfl rfl)
theorem dX5_highest_10 : decode cX5_highest 10 = .ok (.aload_n 0, 1) := dk_42 (dk_at dksX5_highest_0 10 rfl rfl)
theorem dX5_highest_11 : decode cX5_highest 11 = .ok (.getfield 3, 3) := dk_180 0 3 (dk_at dksX5_highest_0 11 rfl rfl)
theorem dX5_highest_14 : decode cX5_highest 14 = .ok (.iload_n 3, 1) := dk_29 (dk_at dksX5_highest_0 14 rfl rfl)
theorem dX5_highest_15 : decode cX5_highest 15 = .ok (.invokevirtual 125, 3) := dk_182 0 125 (dk_at dksX5_highest_0 15 rfl rfl)
theorem dX5_highest_18 : decode cX5_highest 18 = .ok (.ifCond .eq 49, 3) := dk_153 0 49 (dk_at dksX5_highest_0 18 rfl rfl)
theorem dX5_highest_21 : decode cX5_highest 21 = .ok (.iload_n 3, 1) := dk_29 (dk_at dksX5_highest_0 21 rfl rfl)
theorem dX5_highest_22 : decode cX5_highest 22 = .ok (.bipush 8, 2) := dk_16 8 (dk_at dksX5_highest_0 22 rfl rfl)
theorem dX5_highest_24 : decode cX5_highest 24 = .ok (.idiv, 1) := dk_108 (dk_at dksX5_highest_1 0 rfl rfl)
theorem dX5_highest_25 : decode cX5_highest 25 = .ok (.iload_n 1, 1) := dk_27 (dk_at dksX5_highest_1 1 rfl rfl)
theorem dX5_highest_26 : decode cX5_highest 26 = .ok (.bipush 8, 2) := dk_16 8 (dk_at dksX5_highest_1 2 rfl rfl)
theorem dX5_highest_28 : decode cX5_highest 28 = .ok (.idiv, 1) := dk_108 (dk_at dksX5_highest_1 4 rfl rfl)
theorem dX5_highest_29 : decode cX5_highest 29 = .ok (.if_icmp .ne 16, 3) := dk_160 0 16 (dk_at dksX5_highest_1 5 rfl rfl)
theorem dX5_highest_32 : decode cX5_highest 32 = .ok (.iload_n 3, 1) := dk_29 (dk_at dksX5_highest_1 8 rfl rfl)
theorem dX5_highest_33 : decode cX5_highest 33 = .ok (.iload_n 1, 1) := dk_27 (dk_at dksX5_highest_1 9 rfl rfl)
theorem dX5_highest_34 : decode cX5_highest 34 = .ok (.isub, 1) := dk_100 (dk_at dksX5_highest_1 10 rfl rfl)
theorem dX5_highest_35 : decode cX5_highest 35 = .ok (.invokestatic 129, 3) := dk_184 0 129 (dk_at dksX5_highest_1 11 rfl rfl)
theorem dX5_highest_38 : decode cX5_highest 38 = .ok (.iconst 1, 1) := dk_4 (dk_at dksX5_highest_1 14 rfl rfl)
theorem dX5_highest_39 : decode cX5_highest 39 = .ok (.if_icmp .gt 6, 3) := dk_163 0 6 (dk_at dksX5_highest_1 15 rfl rfl)
theorem dX5_highest_42 : decode cX5_highest 42 = .ok (.goto 25, 3) := dk_167 0 25 (dk_at dksX5_highest_1 18 rfl rfl)
theorem dX5_highest_45 : decode cX5_highest 45 = .ok (.iload_n 2, 1) := dk_28 (dk_at dksX5_highest_1 21 rfl rfl)
theorem dX5_highest_46 : decode cX5_highest 46 = .ok (.iconst (-1), 1) := dk_2 (dk_at dksX5_highest_1 22 rfl rfl)
theorem dX5_highest_47 : decode cX5_highest 47 = .ok (.if_icmp .eq 18, 3) := dk_159 0 18 (dk_at dksX5_highest_2 0 rfl rfl)
theorem dX5_highest_50 : decode cX5_highest 50 = .ok (.aload_n 0, 1) := dk_42 (dk_at dksX5_highest_2 3 rfl rfl)
theorem dX5_highest_51 : decode cX5_highest 51 = .ok (.getfield 15, 3) := dk_180 0 15 (dk_at dksX5_highest_2 4 rfl rfl)
theorem dX5_highest_54 : decode cX5_highest 54 = .ok (.iload_n 3, 1) := dk_29 (dk_at dksX5_highest_2 7 rfl rfl)
theorem dX5_highest_55 : decode cX5_highest 55 = .ok (.iaload, 1) := dk_46 (dk_at dksX5_highest_2 8 rfl rfl)
theorem dX5_highest_56 : decode cX5_highest 56 = .ok (.aload_n 0, 1) := dk_42 (dk_at dksX5_highest_2 9 rfl rfl)
theorem dX5_highest_57 : decode cX5_highest 57 = .ok (.getfield 15, 3) := dk_180 0 15 (dk_at dksX5_highest_2 10 rfl rfl)
theorem dX5_highest_60 : decode cX5_highest 60 = .ok (.iload_n 2, 1) := dk_28 (dk_at dksX5_highest_2 13 rfl rfl)
theorem dX5_highest_61 : decode cX5_highest 61 = .ok (.iaload, 1) := dk_46 (dk_at dksX5_highest_2 14 rfl rfl)
theorem dX5_highest_62 : decode cX5_highest 62 = .ok (.if_icmp .le 5, 3) := dk_164 0 5 (dk_at dksX5_highest_2 15 rfl rfl)
theorem dX5_highest_65 : decode cX5_highest 65 = .ok (.iload_n 3, 1) := dk_29 (dk_at dksX5_highest_2 18 rfl rfl)
theorem dX5_highest_66 : decode cX5_highest 66 = .ok (.istore_n 2, 1) := dk_61 (dk_at dksX5_highest_2 19 rfl rfl)
theorem dX5_highest_67 : decode cX5_highest 67 = .ok (.iinc 3 1, 3) := dk_132 3 1 (dk_at dksX5_highest_2 20 rfl rfl)
theorem dX5_highest_70 : decode cX5_highest 70 = .ok (.goto (-66), 3) := dk_167 255 190 (dk_at dksX5_highest_3 0 rfl rfl)
theorem dX5_highest_73 : decode cX5_highest 73 = .ok (.iload_n 2, 1) := dk_28 (dk_at dksX5_highest_3 3 rfl rfl)
theorem dX5_highest_74 : decode cX5_highest 74 = .ok (.ireturn, 1) := dk_172 (dk_at dksX5_highest_3 4 rfl rfl)
abbrev cX5_tells : ByteArray := prog_18_method_10_code
def yX5_tells : MethodName := ⟨RX5, "tells", "(III)V"⟩
def dkwX5_tells_5 : List UInt8 := [29, 79, 42, 89, 180, 0, 37, 4, 96, 181, 0, 37, 177]
abbrev dktX5_tells_5 : List UInt8 := dkwX5_tells_5 ++ []
def dkwX5_tells_4 : List UInt8 := [27, 79, 42, 180, 0, 30, 42, 180, 0, 37, 50, 5, 28, 79, 42, 180, 0, 30, 42, 180, 0, 37, 50, 6]
abbrev dktX5_tells_4 : List UInt8 := dkwX5_tells_4 ++ dktX5_tells_5
def dkwX5_tells_3 : List UInt8 := [180, 0, 30, 42, 180, 0, 37, 50, 3, 42, 180, 0, 33, 79, 42, 180, 0, 30, 42, 180, 0, 37, 50, 4]
abbrev dktX5_tells_3 : List UInt8 := dkwX5_tells_3 ++ dktX5_tells_4
def dkwX5_tells_2 : List UInt8 := [167, 255, 230, 42, 180, 0, 30, 16, 39, 25, 4, 83, 42, 89, 180, 0, 37, 4, 100, 181, 0, 37, 42]
abbrev dktX5_tells_2 : List UInt8 := dkwX5_tells_2 ++ dktX5_tells_3
def dkwX5_tells_1 : List UInt8 := [162, 0, 25, 42, 180, 0, 30, 21, 5, 4, 100, 42, 180, 0, 30, 21, 5, 50, 83, 132, 5, 1]
abbrev dktX5_tells_1 : List UInt8 := dkwX5_tells_1 ++ dktX5_tells_2
def dkwX5_tells_0 : List UInt8 := [42, 180, 0, 37, 16, 40, 160, 0, 62, 42, 180, 0, 30, 3, 50, 58, 4, 4, 54, 5, 21, 5, 16, 40]
abbrev dktX5_tells_0 : List UInt8 := dkwX5_tells_0 ++ dktX5_tells_1
theorem dksX5_tells_0 : cX5_tells.data.toList.drop 0 = dktX5_tells_0 := by decide +kernel
theorem dksX5_tells_1 : cX5_tells.data.toList.drop 24 = dktX5_tells_1 := dk_seg dksX5_tells_0 24 rfl rfl
theorem dksX5_tells_2 : cX5_tells.data.toList.drop 46 = dktX5_tells_2 := dk_seg dksX5_tells_1 22 rfl rfl
theorem dksX5_tells_3 : cX5_tells.data.toList.drop 69 = dktX5_tells_3 := dk_seg dksX5_tells_2 23 rfl rfl
theorem dksX5_tells_4 : cX5_tells.data.toList.drop 93 = dktX5_tells_4 := dk_seg dksX5_tells_3 24 rfl rfl
theorem dksX5_tells_5 : cX5_tells.data.toList.drop 117 = dktX5_tells_5 := dk_seg dksX5_tells_4 24 rfl rfl
theorem dX5_tells_0 : decode cX5_tells 0 = .ok (.aload_n 0, 1) := dk_42 (dk_at dksX5_tells_0 0 rfl rfl)
theorem dX5_tells_1 : decode cX5_tells 1 = .ok (.getfield 37, 3) := dk_180 0 37 (dk_at dksX5_tells_0 1 rfl rfl)
theorem dX5_tells_4 : decode cX5_tells 4 = .ok (.bipush 40, 2) := dk_16 40 (dk_at dksX5_tells_0 4 rfl rfl)
theorem dX5_tells_6 : decode cX5_tells 6 = .ok (.if_icmp .ne 62, 3) := dk_160 0 62 (dk_at dksX5_tells_0 6 rfl rfl)
theorem dX5_tells_9 : decode cX5_tells 9 = .ok (.aload_n 0, 1) := dk_42 (dk_at dksX5_tells_0 9 rfl rfl)
theorem dX5_tells_10 : decode cX5_tells 10 = .ok (.getfield 30, 3) := dk_180 0 30 (dk_at dksX5_tells_0 10 rfl rfl)
theorem dX5_tells_13 : decode cX5_tells 13 = .ok (.iconst 0, 1) := dk_3 (dk_at dksX5_tells_0 13 rfl rfl)
theorem dX5_tells_14 : decode cX5_tells 14 = .ok (.aaload, 1) := dk_50 (dk_at dksX5_tells_0 14 rfl rfl)
theorem dX5_tells_15 : decode cX5_tells 15 = .ok (.astore 4, 2) := dk_58 4 (dk_at dksX5_tells_0 15 rfl rfl)
theorem dX5_tells_17 : decode cX5_tells 17 = .ok (.iconst 1, 1) := dk_4 (dk_at dksX5_tells_0 17 rfl rfl)
theorem dX5_tells_18 : decode cX5_tells 18 = .ok (.istore 5, 2) := dk_54 5 (dk_at dksX5_tells_0 18 rfl rfl)
theorem dX5_tells_20 : decode cX5_tells 20 = .ok (.iload 5, 2) := dk_21 5 (dk_at dksX5_tells_0 20 rfl rfl)
theorem dX5_tells_22 : decode cX5_tells 22 = .ok (.bipush 40, 2) := dk_16 40 (dk_at dksX5_tells_0 22 rfl rfl)
theorem dX5_tells_24 : decode cX5_tells 24 = .ok (.if_icmp .ge 25, 3) := dk_162 0 25 (dk_at dksX5_tells_1 0 rfl rfl)
theorem dX5_tells_27 : decode cX5_tells 27 = .ok (.aload_n 0, 1) := dk_42 (dk_at dksX5_tells_1 3 rfl rfl)
theorem dX5_tells_28 : decode cX5_tells 28 = .ok (.getfield 30, 3) := dk_180 0 30 (dk_at dksX5_tells_1 4 rfl rfl)
theorem dX5_tells_31 : decode cX5_tells 31 = .ok (.iload 5, 2) := dk_21 5 (dk_at dksX5_tells_1 7 rfl rfl)
theorem dX5_tells_33 : decode cX5_tells 33 = .ok (.iconst 1, 1) := dk_4 (dk_at dksX5_tells_1 9 rfl rfl)
theorem dX5_tells_34 : decode cX5_tells 34 = .ok (.isub, 1) := dk_100 (dk_at dksX5_tells_1 10 rfl rfl)
theorem dX5_tells_35 : decode cX5_tells 35 = .ok (.aload_n 0, 1) := dk_42 (dk_at dksX5_tells_1 11 rfl rfl)
theorem dX5_tells_36 : decode cX5_tells 36 = .ok (.getfield 30, 3) := dk_180 0 30 (dk_at dksX5_tells_1 12 rfl rfl)
theorem dX5_tells_39 : decode cX5_tells 39 = .ok (.iload 5, 2) := dk_21 5 (dk_at dksX5_tells_1 15 rfl rfl)
theorem dX5_tells_41 : decode cX5_tells 41 = .ok (.aaload, 1) := dk_50 (dk_at dksX5_tells_1 17 rfl rfl)
theorem dX5_tells_42 : decode cX5_tells 42 = .ok (.aastore, 1) := dk_83 (dk_at dksX5_tells_1 18 rfl rfl)
theorem dX5_tells_43 : decode cX5_tells 43 = .ok (.iinc 5 1, 3) := dk_132 5 1 (dk_at dksX5_tells_1 19 rfl rfl)
theorem dX5_tells_46 : decode cX5_tells 46 = .ok (.goto (-26), 3) := dk_167 255 230 (dk_at dksX5_tells_2 0 rfl rfl)
theorem dX5_tells_49 : decode cX5_tells 49 = .ok (.aload_n 0, 1) := dk_42 (dk_at dksX5_tells_2 3 rfl rfl)
theorem dX5_tells_50 : decode cX5_tells 50 = .ok (.getfield 30, 3) := dk_180 0 30 (dk_at dksX5_tells_2 4 rfl rfl)
theorem dX5_tells_53 : decode cX5_tells 53 = .ok (.bipush 39, 2) := dk_16 39 (dk_at dksX5_tells_2 7 rfl rfl)
theorem dX5_tells_55 : decode cX5_tells 55 = .ok (.aload 4, 2) := dk_25 4 (dk_at dksX5_tells_2 9 rfl rfl)
theorem dX5_tells_57 : decode cX5_tells 57 = .ok (.aastore, 1) := dk_83 (dk_at dksX5_tells_2 11 rfl rfl)
theorem dX5_tells_58 : decode cX5_tells 58 = .ok (.aload_n 0, 1) := dk_42 (dk_at dksX5_tells_2 12 rfl rfl)
theorem dX5_tells_59 : decode cX5_tells 59 = .ok (.dup, 1) := dk_89 (dk_at dksX5_tells_2 13 rfl rfl)
theorem dX5_tells_60 : decode cX5_tells 60 = .ok (.getfield 37, 3) := dk_180 0 37 (dk_at dksX5_tells_2 14 rfl rfl)
theorem dX5_tells_63 : decode cX5_tells 63 = .ok (.iconst 1, 1) := dk_4 (dk_at dksX5_tells_2 17 rfl rfl)
theorem dX5_tells_64 : decode cX5_tells 64 = .ok (.isub, 1) := dk_100 (dk_at dksX5_tells_2 18 rfl rfl)
theorem dX5_tells_65 : decode cX5_tells 65 = .ok (.putfield 37, 3) := dk_181 0 37 (dk_at dksX5_tells_2 19 rfl rfl)
theorem dX5_tells_68 : decode cX5_tells 68 = .ok (.aload_n 0, 1) := dk_42 (dk_at dksX5_tells_2 22 rfl rfl)
theorem dX5_tells_69 : decode cX5_tells 69 = .ok (.getfield 30, 3) := dk_180 0 30 (dk_at dksX5_tells_3 0 rfl rfl)
theorem dX5_tells_72 : decode cX5_tells 72 = .ok (.aload_n 0, 1) := dk_42 (dk_at dksX5_tells_3 3 rfl rfl)
theorem dX5_tells_73 : decode cX5_tells 73 = .ok (.getfield 37, 3) := dk_180 0 37 (dk_at dksX5_tells_3 4 rfl rfl)
theorem dX5_tells_76 : decode cX5_tells 76 = .ok (.aaload, 1) := dk_50 (dk_at dksX5_tells_3 7 rfl rfl)
theorem dX5_tells_77 : decode cX5_tells 77 = .ok (.iconst 0, 1) := dk_3 (dk_at dksX5_tells_3 8 rfl rfl)
theorem dX5_tells_78 : decode cX5_tells 78 = .ok (.aload_n 0, 1) := dk_42 (dk_at dksX5_tells_3 9 rfl rfl)
theorem dX5_tells_79 : decode cX5_tells 79 = .ok (.getfield 33, 3) := dk_180 0 33 (dk_at dksX5_tells_3 10 rfl rfl)
theorem dX5_tells_82 : decode cX5_tells 82 = .ok (.iastore, 1) := dk_79 (dk_at dksX5_tells_3 13 rfl rfl)
theorem dX5_tells_83 : decode cX5_tells 83 = .ok (.aload_n 0, 1) := dk_42 (dk_at dksX5_tells_3 14 rfl rfl)
theorem dX5_tells_84 : decode cX5_tells 84 = .ok (.getfield 30, 3) := dk_180 0 30 (dk_at dksX5_tells_3 15 rfl rfl)
theorem dX5_tells_87 : decode cX5_tells 87 = .ok (.aload_n 0, 1) := dk_42 (dk_at dksX5_tells_3 18 rfl rfl)
theorem dX5_tells_88 : decode cX5_tells 88 = .ok (.getfield 37, 3) := dk_180 0 37 (dk_at dksX5_tells_3 19 rfl rfl)
theorem dX5_tells_91 : decode cX5_tells 91 = .ok (.aaload, 1) := dk_50 (dk_at dksX5_tells_3 22 rfl rfl)
theorem dX5_tells_92 : decode cX5_tells 92 = .ok (.iconst 1, 1) := dk_4 (dk_at dksX5_tells_3 23 rfl rfl)
theorem dX5_tells_93 : decode cX5_tells 93 = .ok (.iload_n 1, 1) := dk_27 (dk_at dksX5_tells_4 0 rfl rfl)
theorem dX5_tells_94 : decode cX5_tells 94 = .ok (.iastore, 1) := dk_79 (dk_at dksX5_tells_4 1 rfl rfl)
theorem dX5_tells_95 : decode cX5_tells 95 = .ok (.aload_n 0, 1) := dk_42 (dk_at dksX5_tells_4 2 rfl rfl)
theorem dX5_tells_96 : decode cX5_tells 96 = .ok (.getfield 30, 3) := dk_180 0 30 (dk_at dksX5_tells_4 3 rfl rfl)
theorem dX5_tells_99 : decode cX5_tells 99 = .ok (.aload_n 0, 1) := dk_42 (dk_at dksX5_tells_4 6 rfl rfl)
theorem dX5_tells_100 : decode cX5_tells 100 = .ok (.getfield 37, 3) := dk_180 0 37 (dk_at dksX5_tells_4 7 rfl rfl)
theorem dX5_tells_103 : decode cX5_tells 103 = .ok (.aaload, 1) := dk_50 (dk_at dksX5_tells_4 10 rfl rfl)
theorem dX5_tells_104 : decode cX5_tells 104 = .ok (.iconst 2, 1) := dk_5 (dk_at dksX5_tells_4 11 rfl rfl)
theorem dX5_tells_105 : decode cX5_tells 105 = .ok (.iload_n 2, 1) := dk_28 (dk_at dksX5_tells_4 12 rfl rfl)
theorem dX5_tells_106 : decode cX5_tells 106 = .ok (.iastore, 1) := dk_79 (dk_at dksX5_tells_4 13 rfl rfl)
theorem dX5_tells_107 : decode cX5_tells 107 = .ok (.aload_n 0, 1) := dk_42 (dk_at dksX5_tells_4 14 rfl rfl)
theorem dX5_tells_108 : decode cX5_tells 108 = .ok (.getfield 30, 3) := dk_180 0 30 (dk_at dksX5_tells_4 15 rfl rfl)
theorem dX5_tells_111 : decode cX5_tells 111 = .ok (.aload_n 0, 1) := dk_42 (dk_at dksX5_tells_4 18 rfl rfl)
theorem dX5_tells_112 : decode cX5_tells 112 = .ok (.getfield 37, 3) := dk_180 0 37 (dk_at dksX5_tells_4 19 rfl rfl)
theorem dX5_tells_115 : decode cX5_tells 115 = .ok (.aaload, 1) := dk_50 (dk_at dksX5_tells_4 22 rfl rfl)
theorem dX5_tells_116 : decode cX5_tells 116 = .ok (.iconst 3, 1) := dk_6 (dk_at dksX5_tells_4 23 rfl rfl)
theorem dX5_tells_117 : decode cX5_tells 117 = .ok (.iload_n 3, 1) := dk_29 (dk_at dksX5_tells_5 0 rfl rfl)
theorem dX5_tells_118 : decode cX5_tells 118 = .ok (.iastore, 1) := dk_79 (dk_at dksX5_tells_5 1 rfl rfl)
theorem dX5_tells_119 : decode cX5_tells 119 = .ok (.aload_n 0, 1) := dk_42 (dk_at dksX5_tells_5 2 rfl rfl)
theorem dX5_tells_120 : decode cX5_tells 120 = .ok (.dup, 1) := dk_89 (dk_at dksX5_tells_5 3 rfl rfl)
theorem dX5_tells_121 : decode cX5_tells 121 = .ok (.getfield 37, 3) := dk_180 0 37 (dk_at dksX5_tells_5 4 rfl rfl)
theorem dX5_tells_124 : decode cX5_tells 124 = .ok (.iconst 1, 1) := dk_4 (dk_at dksX5_tells_5 7 rfl rfl)
theorem dX5_tells_125 : decode cX5_tells 125 = .ok (.iadd, 1) := dk_96 (dk_at dksX5_tells_5 8 rfl rfl)
theorem dX5_tells_126 : decode cX5_tells 126 = .ok (.putfield 37, 3) := dk_181 0 37 (dk_at dksX5_tells_5 9 rfl rfl)
theorem dX5_tells_129 : decode cX5_tells 129 = .ok (.return_, 1) := dk_177 (dk_at dksX5_tells_5 12 rfl rfl)
abbrev cX5_days : ByteArray := prog_18_method_15_code
def yX5_days : MethodName := ⟨RX5, "days", "(I)LShrugHills$State;"⟩
def dkwX5_days_0 : List UInt8 := [3, 61, 28, 27, 162, 0, 14, 42, 182, 0, 179, 87, 132, 2, 1, 167, 255, 243, 42, 176]
abbrev dktX5_days_0 : List UInt8 := dkwX5_days_0 ++ []
theorem dksX5_days_0 : cX5_days.data.toList.drop 0 = dktX5_days_0 := by decide +kernel
theorem dX5_days_0 : decode cX5_days 0 = .ok (.iconst 0, 1) := dk_3 (dk_at dksX5_days_0 0 rfl rfl)
theorem dX5_days_1 : decode cX5_days 1 = .ok (.istore_n 2, 1) := dk_61 (dk_at dksX5_days_0 1 rfl rfl)
theorem dX5_days_2 : decode cX5_days 2 = .ok (.iload_n 2, 1) := dk_28 (dk_at dksX5_days_0 2 rfl rfl)
theorem dX5_days_3 : decode cX5_days 3 = .ok (.iload_n 1, 1) := dk_27 (dk_at dksX5_days_0 3 rfl rfl)
theorem dX5_days_4 : decode cX5_days 4 = .ok (.if_icmp .ge 14, 3) := dk_162 0 14 (dk_at dksX5_days_0 4 rfl rfl)
theorem dX5_days_7 : decode cX5_days 7 = .ok (.aload_n 0, 1) := dk_42 (dk_at dksX5_days_0 7 rfl rfl)
theorem dX5_days_8 : decode cX5_days 8 = .ok (.invokevirtual 179, 3) := dk_182 0 179 (dk_at dksX5_days_0 8 rfl rfl)
theorem dX5_days_11 : decode cX5_days 11 = .ok (.pop, 1) := dk_87 (dk_at dksX5_days_0 11 rfl rfl)
theorem dX5_days_12 : decode cX5_days 12 = .ok (.iinc 2 1, 3) := dk_132 2 1 (dk_at dksX5_days_0 12 rfl rfl)
theorem dX5_days_15 : decode cX5_days 15 = .ok (.goto (-13), 3) := dk_167 255 243 (dk_at dksX5_days_0 15 rfl rfl)
theorem dX5_days_18 : decode cX5_days 18 = .ok (.aload_n 0, 1) := dk_42 (dk_at dksX5_days_0 18 rfl rfl)
theorem dX5_days_19 : decode cX5_days 19 = .ok (.areturn, 1) := dk_176 (dk_at dksX5_days_0 19 rfl rfl)
abbrev cX5_passes : ByteArray := prog_18_method_14_code
def yX5_passes : MethodName := ⟨RX5, "passes", "()Z"⟩
def dkwX5_passes_4 : List UInt8 := [172]
abbrev dktX5_passes_4 : List UInt8 := dkwX5_passes_4 ++ []
def dkwX5_passes_3 : List UInt8 := [182, 0, 176, 5, 160, 0, 7, 4, 167, 0, 4, 3, 60, 42, 89, 180, 0, 33, 4, 96, 181, 0, 33, 27]
abbrev dktX5_passes_3 : List UInt8 := dkwX5_passes_3 ++ dktX5_passes_4
def dkwX5_passes_2 : List UInt8 := [185, 0, 165, 1, 0, 112, 185, 0, 54, 2, 0, 192, 0, 168, 77, 42, 44, 180, 0, 170, 44, 180, 0, 173]
abbrev dktX5_passes_2 : List UInt8 := dkwX5_passes_2 ++ dktX5_passes_3
def dkwX5_passes_1 : List UInt8 := [180, 0, 40, 180, 0, 158, 42, 180, 0, 33, 42, 180, 0, 3, 180, 0, 40, 180, 0, 158]
abbrev dktX5_passes_1 : List UInt8 := dkwX5_passes_1 ++ dktX5_passes_2
def dkwX5_passes_0 : List UInt8 := [3, 60, 42, 180, 0, 3, 180, 0, 40, 180, 0, 158, 185, 0, 161, 1, 0, 154, 0, 64, 42, 180, 0, 3]
abbrev dktX5_passes_0 : List UInt8 := dkwX5_passes_0 ++ dktX5_passes_1
theorem dksX5_passes_0 : cX5_passes.data.toList.drop 0 = dktX5_passes_0 := by decide +kernel
theorem dksX5_passes_1 : cX5_passes.data.toList.drop 24 = dktX5_passes_1 := dk_seg dksX5_passes_0 24 rfl rfl
theorem dksX5_passes_2 : cX5_passes.data.toList.drop 44 = dktX5_passes_2 := dk_seg dksX5_passes_1 20 rfl rfl
theorem dksX5_passes_3 : cX5_passes.data.toList.drop 68 = dktX5_passes_3 := dk_seg dksX5_passes_2 24 rfl rfl
theorem dksX5_passes_4 : cX5_passes.data.toList.drop 92 = dktX5_passes_4 := dk_seg dksX5_passes_3 24 rfl rfl
theorem dX5_passes_0 : decode cX5_passes 0 = .ok (.iconst 0, 1) := dk_3 (dk_at dksX5_passes_0 0 rfl rfl)
theorem dX5_passes_1 : decode cX5_passes 1 = .ok (.istore_n 1, 1) := dk_60 (dk_at dksX5_passes_0 1 rfl rfl)
theorem dX5_passes_2 : decode cX5_passes 2 = .ok (.aload_n 0, 1) := dk_42 (dk_at dksX5_passes_0 2 rfl rfl)
theorem dX5_passes_3 : decode cX5_passes 3 = .ok (.getfield 3, 3) := dk_180 0 3 (dk_at dksX5_passes_0 3 rfl rfl)
theorem dX5_passes_6 : decode cX5_passes 6 = .ok (.getfield 40, 3) := dk_180 0 40 (dk_at dksX5_passes_0 6 rfl rfl)
theorem dX5_passes_9 : decode cX5_passes 9 = .ok (.getfield 158, 3) := dk_180 0 158 (dk_at dksX5_passes_0 9 rfl rfl)
theorem dX5_passes_12 : decode cX5_passes 12 = .ok (.invokeinterface 161 1, 5) := by decide +kernel
theorem dX5_passes_17 : decode cX5_passes 17 = .ok (.ifCond .ne 64, 3) := dk_154 0 64 (dk_at dksX5_passes_0 17 rfl rfl)
theorem dX5_passes_20 : decode cX5_passes 20 = .ok (.aload_n 0, 1) := dk_42 (dk_at dksX5_passes_0 20 rfl rfl)
theorem dX5_passes_21 : decode cX5_passes 21 = .ok (.getfield 3, 3) := dk_180 0 3 (dk_at dksX5_passes_0 21 rfl rfl)
theorem dX5_passes_24 : decode cX5_passes 24 = .ok (.getfield 40, 3) := dk_180 0 40 (dk_at dksX5_passes_1 0 rfl rfl)
theorem dX5_passes_27 : decode cX5_passes 27 = .ok (.getfield 158, 3) := dk_180 0 158 (dk_at dksX5_passes_1 3 rfl rfl)
theorem dX5_passes_30 : decode cX5_passes 30 = .ok (.aload_n 0, 1) := dk_42 (dk_at dksX5_passes_1 6 rfl rfl)
theorem dX5_passes_31 : decode cX5_passes 31 = .ok (.getfield 33, 3) := dk_180 0 33 (dk_at dksX5_passes_1 7 rfl rfl)
theorem dX5_passes_34 : decode cX5_passes 34 = .ok (.aload_n 0, 1) := dk_42 (dk_at dksX5_passes_1 10 rfl rfl)
theorem dX5_passes_35 : decode cX5_passes 35 = .ok (.getfield 3, 3) := dk_180 0 3 (dk_at dksX5_passes_1 11 rfl rfl)
theorem dX5_passes_38 : decode cX5_passes 38 = .ok (.getfield 40, 3) := dk_180 0 40 (dk_at dksX5_passes_1 14 rfl rfl)
theorem dX5_passes_41 : decode cX5_passes 41 = .ok (.getfield 158, 3) := dk_180 0 158 (dk_at dksX5_passes_1 17 rfl rfl)
theorem dX5_passes_44 : decode cX5_passes 44 = .ok (.invokeinterface 165 1, 5) := by decide +kernel
theorem dX5_passes_49 : decode cX5_passes 49 = .ok (.irem, 1) := dk_112 (dk_at dksX5_passes_2 5 rfl rfl)
theorem dX5_passes_50 : decode cX5_passes 50 = .ok (.invokeinterface 54 2, 5) := by decide +kernel
theorem dX5_passes_55 : decode cX5_passes 55 = .ok (.checkcast 168, 3) := dk_192 0 168 (dk_at dksX5_passes_2 11 rfl rfl)
theorem dX5_passes_58 : decode cX5_passes 58 = .ok (.astore_n 2, 1) := dk_77 (dk_at dksX5_passes_2 14 rfl rfl)
theorem dX5_passes_59 : decode cX5_passes 59 = .ok (.aload_n 0, 1) := dk_42 (dk_at dksX5_passes_2 15 rfl rfl)
theorem dX5_passes_60 : decode cX5_passes 60 = .ok (.aload_n 2, 1) := dk_44 (dk_at dksX5_passes_2 16 rfl rfl)
theorem dX5_passes_61 : decode cX5_passes 61 = .ok (.getfield 170, 3) := dk_180 0 170 (dk_at dksX5_passes_2 17 rfl rfl)
theorem dX5_passes_64 : decode cX5_passes 64 = .ok (.aload_n 2, 1) := dk_44 (dk_at dksX5_passes_2 20 rfl rfl)
theorem dX5_passes_65 : decode cX5_passes 65 = .ok (.getfield 173, 3) := dk_180 0 173 (dk_at dksX5_passes_2 21 rfl rfl)
theorem dX5_passes_68 : decode cX5_passes 68 = .ok (.invokevirtual 176, 3) := dk_182 0 176 (dk_at dksX5_passes_3 0 rfl rfl)
theorem dX5_passes_71 : decode cX5_passes 71 = .ok (.iconst 2, 1) := dk_5 (dk_at dksX5_passes_3 3 rfl rfl)
theorem dX5_passes_72 : decode cX5_passes 72 = .ok (.if_icmp .ne 7, 3) := dk_160 0 7 (dk_at dksX5_passes_3 4 rfl rfl)
theorem dX5_passes_75 : decode cX5_passes 75 = .ok (.iconst 1, 1) := dk_4 (dk_at dksX5_passes_3 7 rfl rfl)
theorem dX5_passes_76 : decode cX5_passes 76 = .ok (.goto 4, 3) := dk_167 0 4 (dk_at dksX5_passes_3 8 rfl rfl)
theorem dX5_passes_79 : decode cX5_passes 79 = .ok (.iconst 0, 1) := dk_3 (dk_at dksX5_passes_3 11 rfl rfl)
theorem dX5_passes_80 : decode cX5_passes 80 = .ok (.istore_n 1, 1) := dk_60 (dk_at dksX5_passes_3 12 rfl rfl)
theorem dX5_passes_81 : decode cX5_passes 81 = .ok (.aload_n 0, 1) := dk_42 (dk_at dksX5_passes_3 13 rfl rfl)
theorem dX5_passes_82 : decode cX5_passes 82 = .ok (.dup, 1) := dk_89 (dk_at dksX5_passes_3 14 rfl rfl)
theorem dX5_passes_83 : decode cX5_passes 83 = .ok (.getfield 33, 3) := dk_180 0 33 (dk_at dksX5_passes_3 15 rfl rfl)
theorem dX5_passes_86 : decode cX5_passes 86 = .ok (.iconst 1, 1) := dk_4 (dk_at dksX5_passes_3 18 rfl rfl)
theorem dX5_passes_87 : decode cX5_passes 87 = .ok (.iadd, 1) := dk_96 (dk_at dksX5_passes_3 19 rfl rfl)
theorem dX5_passes_88 : decode cX5_passes 88 = .ok (.putfield 33, 3) := dk_181 0 33 (dk_at dksX5_passes_3 20 rfl rfl)
theorem dX5_passes_91 : decode cX5_passes 91 = .ok (.iload_n 1, 1) := dk_27 (dk_at dksX5_passes_3 23 rfl rfl)
theorem dX5_passes_92 : decode cX5_passes 92 = .ok (.ireturn, 1) := dk_172 (dk_at dksX5_passes_4 0 rfl rfl)
abbrev cX5_asked : ByteArray := prog_18_method_12_code
def yX5_asked : MethodName := ⟨RX5, "asked", "(II)I"⟩
def dkwX5_asked_0 : List UInt8 := [42, 27, 28, 182, 0, 152, 62, 29, 5, 160, 0, 10, 42, 27, 28, 182, 0, 155, 87, 29, 172]
abbrev dktX5_asked_0 : List UInt8 := dkwX5_asked_0 ++ []
theorem dksX5_asked_0 : cX5_asked.data.toList.drop 0 = dktX5_asked_0 := by decide +kernel
theorem dX5_asked_0 : decode cX5_asked 0 = .ok (.aload_n 0, 1) := dk_42 (dk_at dksX5_asked_0 0 rfl rfl)
theorem dX5_asked_1 : decode cX5_asked 1 = .ok (.iload_n 1, 1) := dk_27 (dk_at dksX5_asked_0 1 rfl rfl)
theorem dX5_asked_2 : decode cX5_asked 2 = .ok (.iload_n 2, 1) := dk_28 (dk_at dksX5_asked_0 2 rfl rfl)
theorem dX5_asked_3 : decode cX5_asked 3 = .ok (.invokevirtual 152, 3) := dk_182 0 152 (dk_at dksX5_asked_0 3 rfl rfl)
theorem dX5_asked_6 : decode cX5_asked 6 = .ok (.istore_n 3, 1) := dk_62 (dk_at dksX5_asked_0 6 rfl rfl)
theorem dX5_asked_7 : decode cX5_asked 7 = .ok (.iload_n 3, 1) := dk_29 (dk_at dksX5_asked_0 7 rfl rfl)
theorem dX5_asked_8 : decode cX5_asked 8 = .ok (.iconst 2, 1) := dk_5 (dk_at dksX5_asked_0 8 rfl rfl)
theorem dX5_asked_9 : decode cX5_asked 9 = .ok (.if_icmp .ne 10, 3) := dk_160 0 10 (dk_at dksX5_asked_0 9 rfl rfl)
theorem dX5_asked_12 : decode cX5_asked 12 = .ok (.aload_n 0, 1) := dk_42 (dk_at dksX5_asked_0 12 rfl rfl)
theorem dX5_asked_13 : decode cX5_asked 13 = .ok (.iload_n 1, 1) := dk_27 (dk_at dksX5_asked_0 13 rfl rfl)
theorem dX5_asked_14 : decode cX5_asked 14 = .ok (.iload_n 2, 1) := dk_28 (dk_at dksX5_asked_0 14 rfl rfl)
theorem dX5_asked_15 : decode cX5_asked 15 = .ok (.invokevirtual 155, 3) := dk_182 0 155 (dk_at dksX5_asked_0 15 rfl rfl)
theorem dX5_asked_18 : decode cX5_asked 18 = .ok (.pop, 1) := dk_87 (dk_at dksX5_asked_0 18 rfl rfl)
theorem dX5_asked_19 : decode cX5_asked 19 = .ok (.iload_n 3, 1) := dk_29 (dk_at dksX5_asked_0 19 rfl rfl)
theorem dX5_asked_20 : decode cX5_asked 20 = .ok (.ireturn, 1) := dk_172 (dk_at dksX5_asked_0 20 rfl rfl)
abbrev cX5_isFree : ByteArray := prog_18_method_4_code
def yX5_isFree : MethodName := ⟨RX5, "isFree", "(I)Z"⟩
def dkwX5_isFree_1 : List UInt8 := [172, 132, 2, 1, 167, 255, 230, 4, 172]
abbrev dktX5_isFree_1 : List UInt8 := dkwX5_isFree_1 ++ []
def dkwX5_isFree_0 : List UInt8 := [3, 61, 28, 42, 180, 0, 3, 182, 0, 47, 162, 0, 21, 42, 180, 0, 19, 28, 46, 27, 160, 0, 5, 3]
abbrev dktX5_isFree_0 : List UInt8 := dkwX5_isFree_0 ++ dktX5_isFree_1
theorem dksX5_isFree_0 : cX5_isFree.data.toList.drop 0 = dktX5_isFree_0 := by decide +kernel
theorem dksX5_isFree_1 : cX5_isFree.data.toList.drop 24 = dktX5_isFree_1 := dk_seg dksX5_isFree_0 24 rfl rfl
theorem dX5_isFree_0 : decode cX5_isFree 0 = .ok (.iconst 0, 1) := dk_3 (dk_at dksX5_isFree_0 0 rfl rfl)
theorem dX5_isFree_1 : decode cX5_isFree 1 = .ok (.istore_n 2, 1) := dk_61 (dk_at dksX5_isFree_0 1 rfl rfl)
theorem dX5_isFree_2 : decode cX5_isFree 2 = .ok (.iload_n 2, 1) := dk_28 (dk_at dksX5_isFree_0 2 rfl rfl)
theorem dX5_isFree_3 : decode cX5_isFree 3 = .ok (.aload_n 0, 1) := dk_42 (dk_at dksX5_isFree_0 3 rfl rfl)
theorem dX5_isFree_4 : decode cX5_isFree 4 = .ok (.getfield 3, 3) := dk_180 0 3 (dk_at dksX5_isFree_0 4 rfl rfl)
theorem dX5_isFree_7 : decode cX5_isFree 7 = .ok (.invokevirtual 47, 3) := dk_182 0 47 (dk_at dksX5_isFree_0 7 rfl rfl)
theorem dX5_isFree_10 : decode cX5_isFree 10 = .ok (.if_icmp .ge 21, 3) := dk_162 0 21 (dk_at dksX5_isFree_0 10 rfl rfl)
theorem dX5_isFree_13 : decode cX5_isFree 13 = .ok (.aload_n 0, 1) := dk_42 (dk_at dksX5_isFree_0 13 rfl rfl)
theorem dX5_isFree_14 : decode cX5_isFree 14 = .ok (.getfield 19, 3) := dk_180 0 19 (dk_at dksX5_isFree_0 14 rfl rfl)
theorem dX5_isFree_17 : decode cX5_isFree 17 = .ok (.iload_n 2, 1) := dk_28 (dk_at dksX5_isFree_0 17 rfl rfl)
theorem dX5_isFree_18 : decode cX5_isFree 18 = .ok (.iaload, 1) := dk_46 (dk_at dksX5_isFree_0 18 rfl rfl)
theorem dX5_isFree_19 : decode cX5_isFree 19 = .ok (.iload_n 1, 1) := dk_27 (dk_at dksX5_isFree_0 19 rfl rfl)
theorem dX5_isFree_20 : decode cX5_isFree 20 = .ok (.if_icmp .ne 5, 3) := dk_160 0 5 (dk_at dksX5_isFree_0 20 rfl rfl)
theorem dX5_isFree_23 : decode cX5_isFree 23 = .ok (.iconst 0, 1) := dk_3 (dk_at dksX5_isFree_0 23 rfl rfl)
theorem dX5_isFree_24 : decode cX5_isFree 24 = .ok (.ireturn, 1) := dk_172 (dk_at dksX5_isFree_1 0 rfl rfl)
theorem dX5_isFree_25 : decode cX5_isFree 25 = .ok (.iinc 2 1, 3) := dk_132 2 1 (dk_at dksX5_isFree_1 1 rfl rfl)
theorem dX5_isFree_28 : decode cX5_isFree 28 = .ok (.goto (-26), 3) := dk_167 255 230 (dk_at dksX5_isFree_1 4 rfl rfl)
theorem dX5_isFree_31 : decode cX5_isFree 31 = .ok (.iconst 1, 1) := dk_4 (dk_at dksX5_isFree_1 7 rfl rfl)
theorem dX5_isFree_32 : decode cX5_isFree 32 = .ok (.ireturn, 1) := dk_172 (dk_at dksX5_isFree_1 8 rfl rfl)
theorem q182 : (Jvm.Cond.initialized "ShrugHills$State") ∈ lw_all := lw_g (lw_at lw_m1 12 rfl) rfl
theorem q263 : (Jvm.Cond.fieldLinkNest "ShrugHills$State" (44 : Nat) "ShrugHills$Plain" "height" "[I" "ShrugHills") ∈ lw_tbl := lw_at lw_m1 93 rfl
theorem q269 : (Jvm.Cond.fieldLinkNest "ShrugHills$State" (51 : Nat) "ShrugHills$Plain" "people" "Ljava/util/List;" "ShrugHills") ∈ lw_tbl := lw_at lw_m1 99 rfl
theorem q273 : (Jvm.Cond.fieldLinkNest "ShrugHills$State" (158 : Nat) "ShrugHills$Plain" "list" "Ljava/util/List;" "ShrugHills") ∈ lw_tbl := lw_at lw_m1 103 rfl
theorem q276 : (Jvm.Cond.fieldLinkNest "ShrugHills$State" (105 : Nat) "ShrugHills$Plain" "lifts" "LShrugHills$Value;" "ShrugHills") ∈ lw_tbl := lw_at lw_m1 106 rfl
theorem q278 : (Jvm.Cond.fieldLinkNest "ShrugHills$State" (142 : Nat) "ShrugHills$Plain" "tires" "LShrugHills$Value;" "ShrugHills") ∈ lw_tbl := lw_at lw_m1 108 rfl
theorem q280 : (Jvm.Cond.fieldLinkNest "ShrugHills$State" (96 : Nat) "ShrugHills$Plain" "holds" "LShrugHills$Test;" "ShrugHills") ∈ lw_tbl := lw_at lw_m1 110 rfl
theorem q417 : (Jvm.Cond.fieldLinkNest "ShrugHills$State" (76 : Nat) "ShrugHills$Moment" "of" "[J" "ShrugHills") ∈ lw_tbl := lw_at lw_m2 7 rfl
theorem q424 : (Jvm.Cond.instantiable "ShrugHills$State" (9 : Nat)) ∈ lw_all := lw_g (lw_at lw_m2 14 rfl) rfl
theorem q426 : (Jvm.Cond.instanceMethod ({ cls := "ShrugHills$State", name := "<init>", desc := "(LShrugHills;)V" } : Jvm.MethodName)) ∈ lw_all := lw_g (lw_at lw_m2 16 rfl) rfl
theorem q427 : (Jvm.Cond.code ({ cls := "ShrugHills$State", name := "<init>", desc := "(LShrugHills;)V" } : Jvm.MethodName) prog_18_method_1_code (2 : Nat) (Option.none : Option Jvm.ClassFile.FieldType)) ∈ lw_all := lw_g (lw_at lw_m2 17 rfl) rfl
theorem q428 : (Jvm.Cond.methodLink "ShrugHills$State" (9 : Nat) ({ cls := "java/lang/Object", name := "<init>", desc := "()V" } : Jvm.MethodName)) ∈ lw_all := lw_g (lw_at lw_m2 18 rfl) rfl
theorem q429 : (Jvm.Cond.classLink "ShrugHills$State" (28 : Nat) "[[I") ∈ lw_all := lw_g (lw_at lw_m2 19 rfl) rfl
theorem q431 : (Jvm.Cond.fieldLink "ShrugHills$State" (33 : Nat) "ShrugHills$State" "day" "I") ∈ lw_all := lw_g (lw_at lw_m2 21 rfl) rfl
theorem q433 : (Jvm.Cond.fieldLink "ShrugHills$State" (37 : Nat) "ShrugHills$State" "keeps" "I") ∈ lw_all := lw_g (lw_at lw_m2 23 rfl) rfl
theorem q435 : (Jvm.Cond.fieldLink "ShrugHills$State" (69 : Nat) "ShrugHills$State" "silent" "I") ∈ lw_all := lw_g (lw_at lw_m2 25 rfl) rfl
theorem q437 : (Jvm.Cond.fieldLink "ShrugHills$State" (15 : Nat) "ShrugHills$State" "height" "[I") ∈ lw_all := lw_g (lw_at lw_m2 27 rfl) rfl
theorem q439 : (Jvm.Cond.fieldLink "ShrugHills$State" (19 : Nat) "ShrugHills$State" "at" "[I") ∈ lw_all := lw_g (lw_at lw_m2 29 rfl) rfl
theorem q441 : (Jvm.Cond.fieldLink "ShrugHills$State" (22 : Nat) "ShrugHills$State" "tired" "[I") ∈ lw_all := lw_g (lw_at lw_m2 31 rfl) rfl
theorem q443 : (Jvm.Cond.fieldLink "ShrugHills$State" (25 : Nat) "ShrugHills$State" "knows" "[I") ∈ lw_all := lw_g (lw_at lw_m2 33 rfl) rfl
theorem q445 : (Jvm.Cond.fieldLink "ShrugHills$State" (30 : Nat) "ShrugHills$State" "rows" "[[I") ∈ lw_all := lw_g (lw_at lw_m2 35 rfl) rfl
theorem q447 : (Jvm.Cond.fieldLink "ShrugHills$State" (3 : Nat) "ShrugHills$State" "this$0" "LShrugHills;") ∈ lw_all := lw_g (lw_at lw_m2 37 rfl) rfl
theorem q448 : (Jvm.Cond.lays "ShrugHills$State" "ShrugHills$State" "day" "I") ∈ lw_all := lw_g (lw_at lw_m2 38 rfl) rfl
theorem q449 : (Jvm.Cond.soleField "ShrugHills$State" "day") ∈ lw_all := lw_g (lw_at lw_m2 39 rfl) rfl
theorem q450 : (Jvm.Cond.lays "ShrugHills$State" "ShrugHills$State" "keeps" "I") ∈ lw_all := lw_g (lw_at lw_m2 40 rfl) rfl
theorem q451 : (Jvm.Cond.soleField "ShrugHills$State" "keeps") ∈ lw_all := lw_g (lw_at lw_m2 41 rfl) rfl
theorem q452 : (Jvm.Cond.lays "ShrugHills$State" "ShrugHills$State" "silent" "I") ∈ lw_all := lw_g (lw_at lw_m2 42 rfl) rfl
theorem q453 : (Jvm.Cond.soleField "ShrugHills$State" "silent") ∈ lw_all := lw_g (lw_at lw_m2 43 rfl) rfl
theorem q454 : (Jvm.Cond.laysFinal "ShrugHills$State" "ShrugHills$State" "height" "[I") ∈ lw_all := lw_g (lw_at lw_m2 44 rfl) rfl
theorem q455 : (Jvm.Cond.soleField "ShrugHills$State" "height") ∈ lw_all := lw_g (lw_at lw_m2 45 rfl) rfl
theorem q456 : (Jvm.Cond.laysFinal "ShrugHills$State" "ShrugHills$State" "at" "[I") ∈ lw_all := lw_g (lw_at lw_m2 46 rfl) rfl
theorem q457 : (Jvm.Cond.soleField "ShrugHills$State" "at") ∈ lw_all := lw_g (lw_at lw_m2 47 rfl) rfl
theorem q458 : (Jvm.Cond.laysFinal "ShrugHills$State" "ShrugHills$State" "tired" "[I") ∈ lw_all := lw_g (lw_at lw_m2 48 rfl) rfl
theorem q459 : (Jvm.Cond.soleField "ShrugHills$State" "tired") ∈ lw_all := lw_g (lw_at lw_m2 49 rfl) rfl
theorem q460 : (Jvm.Cond.laysFinal "ShrugHills$State" "ShrugHills$State" "knows" "[I") ∈ lw_all := lw_g (lw_at lw_m2 50 rfl) rfl
theorem q461 : (Jvm.Cond.soleField "ShrugHills$State" "knows") ∈ lw_all := lw_g (lw_at lw_m2 51 rfl) rfl
theorem q462 : (Jvm.Cond.laysFinal "ShrugHills$State" "ShrugHills$State" "rows" "[[I") ∈ lw_all := lw_g (lw_at lw_m2 52 rfl) rfl
theorem q463 : (Jvm.Cond.soleField "ShrugHills$State" "rows") ∈ lw_all := lw_g (lw_at lw_m2 53 rfl) rfl
theorem q464 : (Jvm.Cond.laysFinal "ShrugHills$State" "ShrugHills$State" "this$0" "LShrugHills;") ∈ lw_all := lw_g (lw_at lw_m2 54 rfl) rfl
theorem q465 : (Jvm.Cond.soleField "ShrugHills$State" "this$0") ∈ lw_all := lw_g (lw_at lw_m2 55 rfl) rfl
theorem q466 : (Jvm.Cond.superclass "ShrugHills$State" "java/lang/Object") ∈ lw_all := lw_g (lw_at lw_m2 56 rfl) rfl
theorem q471 : (Jvm.Cond.fieldLinkNest "ShrugHills$State" (40 : Nat) "ShrugHills" "plain" "LShrugHills$Plain;" "ShrugHills") ∈ lw_tbl := lw_at lw_m2 61 rfl
theorem q479 : (Jvm.Cond.fieldLinkNest "ShrugHills$State" (72 : Nat) "ShrugHills" "moment" "LShrugHills$Moment;" "ShrugHills") ∈ lw_tbl := lw_at lw_m2 69 rfl
theorem q914 : (Jvm.Cond.selects "ShrugHills$State" ({ cls := "java/lang/Object", name := "getClass", desc := "()Ljava/lang/Class;" } : Jvm.MethodName) ({ cls := "java/lang/Object", name := "getClass", desc := "()Ljava/lang/Class;" } : Jvm.MethodName)) ∈ lw_all := lw_g (lw_at lw_m4 24 rfl) rfl
theorem q956 : (Jvm.Cond.fieldLinkNest "ShrugHills$State" (62 : Nat) "ShrugHills$Person" "cell" "I" "ShrugHills") ∈ lw_tbl := lw_at lw_m4 66 rfl
theorem q959 : (Jvm.Cond.fieldLinkNest "ShrugHills$State" (65 : Nat) "ShrugHills$Person" "tired" "I" "ShrugHills") ∈ lw_tbl := lw_at lw_m4 69 rfl
theorem q960 : (Jvm.Cond.fieldLinkNest "ShrugHills$State" (67 : Nat) "ShrugHills$Person" "knows" "I" "ShrugHills") ∈ lw_tbl := lw_at lw_m4 70 rfl
theorem q996 : (Jvm.Cond.fieldLinkNest "ShrugHills$State" (170 : Nat) "ShrugHills$Asking" "person" "I" "ShrugHills") ∈ lw_tbl := lw_at lw_m4 106 rfl
theorem q999 : (Jvm.Cond.fieldLinkNest "ShrugHills$State" (173 : Nat) "ShrugHills$Asking" "topic" "I" "ShrugHills") ∈ lw_tbl := lw_at lw_m4 109 rfl
theorem q1279 : (Jvm.Cond.instanceMethod ({ cls := "ShrugHills$State", name := "begins", desc := "()V" } : Jvm.MethodName)) ∈ lw_all := lw_g (lw_at lw_m5 149 rfl) rfl
theorem q1280 : (Jvm.Cond.selects "ShrugHills$State" ({ cls := "ShrugHills$State", name := "begins", desc := "()V" } : Jvm.MethodName) ({ cls := "ShrugHills$State", name := "begins", desc := "()V" } : Jvm.MethodName)) ∈ lw_all := lw_g (lw_at lw_m5 150 rfl) rfl
theorem q1281 : (Jvm.Cond.code ({ cls := "ShrugHills$State", name := "begins", desc := "()V" } : Jvm.MethodName) prog_18_method_2_code (2 : Nat) (Option.none : Option Jvm.ClassFile.FieldType)) ∈ lw_all := lw_g (lw_at lw_m5 151 rfl) rfl
theorem q1282 : (Jvm.Cond.methodLinkNest "ShrugHills$State" (47 : Nat) ({ cls := "ShrugHills", name := "people", desc := "()I" } : Jvm.MethodName) "ShrugHills") ∈ lw_tbl := lw_at lw_m5 152 rfl
theorem q1288 : (Jvm.Cond.interfaceEntry "ShrugHills$State" (54 : Nat)) ∈ lw_tbl := lw_at lw_m5 158 rfl
theorem q1289 : (Jvm.Cond.methodLink "ShrugHills$State" (54 : Nat) ({ cls := "java/util/List", name := "get", desc := "(I)Ljava/lang/Object;" } : Jvm.MethodName)) ∈ lw_all := lw_g (lw_at lw_m5 159 rfl) rfl
theorem q1290 : (Jvm.Cond.classLink "ShrugHills$State" (60 : Nat) "ShrugHills$Person") ∈ lw_all := lw_g (lw_at lw_m5 160 rfl) rfl
theorem q1364 : (Jvm.Cond.instanceMethod ({ cls := "ShrugHills$State", name := "would", desc := "(II)I" } : Jvm.MethodName)) ∈ lw_all := lw_g (lw_at lw_m5 234 rfl) rfl
theorem q1365 : (Jvm.Cond.selects "ShrugHills$State" ({ cls := "ShrugHills$State", name := "would", desc := "(II)I" } : Jvm.MethodName) ({ cls := "ShrugHills$State", name := "would", desc := "(II)I" } : Jvm.MethodName)) ∈ lw_all := lw_g (lw_at lw_m5 235 rfl) rfl
theorem q1366 : (Jvm.Cond.code ({ cls := "ShrugHills$State", name := "would", desc := "(II)I" } : Jvm.MethodName) prog_18_method_6_code (3 : Nat) (Option.some Jvm.ClassFile.FieldType.int)) ∈ lw_all := lw_g (lw_at lw_m5 236 rfl) rfl
theorem q1367 : (Jvm.Cond.methodLinkNest "ShrugHills$State" (88 : Nat) ({ cls := "ShrugHills", name := "has", desc := "(II)Z" } : Jvm.MethodName) "ShrugHills") ∈ lw_tbl := lw_at lw_m5 237 rfl
theorem q1368 : (Jvm.Cond.methodLink "ShrugHills$State" (92 : Nat) ({ cls := "ShrugHills$State", name := "asks", desc := "(II)V" } : Jvm.MethodName)) ∈ lw_all := lw_g (lw_at lw_m5 238 rfl) rfl
theorem q1369 : (Jvm.Cond.privateMethod ({ cls := "ShrugHills$State", name := "asks", desc := "(II)V" } : Jvm.MethodName)) ∈ lw_tbl := lw_at lw_m5 239 rfl
theorem q1370 : (Jvm.Cond.instanceMethod ({ cls := "ShrugHills$State", name := "asks", desc := "(II)V" } : Jvm.MethodName)) ∈ lw_all := lw_g (lw_at lw_m6 0 rfl) rfl
theorem q1371 : (Jvm.Cond.code ({ cls := "ShrugHills$State", name := "asks", desc := "(II)V" } : Jvm.MethodName) prog_18_method_5_code (3 : Nat) (Option.none : Option Jvm.ClassFile.FieldType)) ∈ lw_all := lw_g (lw_at lw_m6 1 rfl) rfl
theorem q1372 : (Jvm.Cond.methodLink "ShrugHills$State" (82 : Nat) ({ cls := "java/lang/Integer", name := "bitCount", desc := "(I)I" } : Jvm.MethodName)) ∈ lw_all := lw_g (lw_at lw_m6 2 rfl) rfl
theorem q1378 : (Jvm.Cond.methodLink "ShrugHills$State" (100 : Nat) ({ cls := "ShrugHills$Test", name := "holds", desc := "(LShrugHills$Moment;)Z" } : Jvm.MethodName)) ∈ lw_all := lw_g (lw_at lw_m6 8 rfl) rfl
theorem q1436 : (Jvm.Cond.instanceMethod ({ cls := "ShrugHills$State", name := "copy", desc := "(LShrugHills$State;)LShrugHills$State;" } : Jvm.MethodName)) ∈ lw_all := lw_g (lw_at lw_m6 66 rfl) rfl
theorem q1437 : (Jvm.Cond.selects "ShrugHills$State" ({ cls := "ShrugHills$State", name := "copy", desc := "(LShrugHills$State;)LShrugHills$State;" } : Jvm.MethodName) ({ cls := "ShrugHills$State", name := "copy", desc := "(LShrugHills$State;)LShrugHills$State;" } : Jvm.MethodName)) ∈ lw_all := lw_g (lw_at lw_m6 67 rfl) rfl
theorem q1438 : (Jvm.Cond.code ({ cls := "ShrugHills$State", name := "copy", desc := "(LShrugHills$State;)LShrugHills$State;" } : Jvm.MethodName) prog_18_method_3_code (4 : Nat) (Option.some (Jvm.ClassFile.FieldType.object "ShrugHills$State"))) ∈ lw_all := lw_g (lw_at lw_m6 68 rfl) rfl
theorem q1440 : (Jvm.Cond.instanceMethod ({ cls := "ShrugHills$State", name := "lifts", desc := "(II)I" } : Jvm.MethodName)) ∈ lw_all := lw_g (lw_at lw_m6 70 rfl) rfl
theorem q1441 : (Jvm.Cond.selects "ShrugHills$State" ({ cls := "ShrugHills$State", name := "lifts", desc := "(II)I" } : Jvm.MethodName) ({ cls := "ShrugHills$State", name := "lifts", desc := "(II)I" } : Jvm.MethodName)) ∈ lw_all := lw_g (lw_at lw_m6 71 rfl) rfl
theorem q1442 : (Jvm.Cond.code ({ cls := "ShrugHills$State", name := "lifts", desc := "(II)I" } : Jvm.MethodName) prog_18_method_13_code (3 : Nat) (Option.some Jvm.ClassFile.FieldType.int)) ∈ lw_all := lw_g (lw_at lw_m6 72 rfl) rfl
theorem q1443 : (Jvm.Cond.methodLink "ShrugHills$State" (152 : Nat) ({ cls := "ShrugHills$State", name := "would", desc := "(II)I" } : Jvm.MethodName)) ∈ lw_all := lw_g (lw_at lw_m6 73 rfl) rfl
theorem q1444 : (Jvm.Cond.methodLink "ShrugHills$State" (155 : Nat) ({ cls := "ShrugHills$State", name := "shrugs", desc := "(II)I" } : Jvm.MethodName)) ∈ lw_all := lw_g (lw_at lw_m6 74 rfl) rfl
theorem q1445 : (Jvm.Cond.privateMethod ({ cls := "ShrugHills$State", name := "shrugs", desc := "(II)I" } : Jvm.MethodName)) ∈ lw_tbl := lw_at lw_m6 75 rfl
theorem q1446 : (Jvm.Cond.instanceMethod ({ cls := "ShrugHills$State", name := "shrugs", desc := "(II)I" } : Jvm.MethodName)) ∈ lw_all := lw_g (lw_at lw_m6 76 rfl) rfl
theorem q1447 : (Jvm.Cond.code ({ cls := "ShrugHills$State", name := "shrugs", desc := "(II)I" } : Jvm.MethodName) prog_18_method_11_code (4 : Nat) (Option.some Jvm.ClassFile.FieldType.int)) ∈ lw_all := lw_g (lw_at lw_m6 77 rfl) rfl
theorem q1448 : (Jvm.Cond.methodLink "ShrugHills$State" (139 : Nat) ({ cls := "ShrugHills$State", name := "lifted", desc := "(III)I" } : Jvm.MethodName)) ∈ lw_all := lw_g (lw_at lw_m6 78 rfl) rfl
theorem q1449 : (Jvm.Cond.privateMethod ({ cls := "ShrugHills$State", name := "lifted", desc := "(III)I" } : Jvm.MethodName)) ∈ lw_tbl := lw_at lw_m6 79 rfl
theorem q1450 : (Jvm.Cond.instanceMethod ({ cls := "ShrugHills$State", name := "lifted", desc := "(III)I" } : Jvm.MethodName)) ∈ lw_all := lw_g (lw_at lw_m6 80 rfl) rfl
theorem q1451 : (Jvm.Cond.code ({ cls := "ShrugHills$State", name := "lifted", desc := "(III)I" } : Jvm.MethodName) prog_18_method_9_code (7 : Nat) (Option.some Jvm.ClassFile.FieldType.int)) ∈ lw_all := lw_g (lw_at lw_m6 81 rfl) rfl
theorem q1452 : (Jvm.Cond.methodLinkNest "ShrugHills$State" (125 : Nat) ({ cls := "ShrugHills", name := "isCell", desc := "(I)Z" } : Jvm.MethodName) "ShrugHills") ∈ lw_tbl := lw_at lw_m6 82 rfl
theorem q1453 : (Jvm.Cond.methodLink "ShrugHills$State" (132 : Nat) ({ cls := "ShrugHills$State", name := "times", desc := "(III)I" } : Jvm.MethodName)) ∈ lw_all := lw_g (lw_at lw_m6 83 rfl) rfl
theorem q1454 : (Jvm.Cond.privateMethod ({ cls := "ShrugHills$State", name := "times", desc := "(III)I" } : Jvm.MethodName)) ∈ lw_tbl := lw_at lw_m6 84 rfl
theorem q1455 : (Jvm.Cond.instanceMethod ({ cls := "ShrugHills$State", name := "times", desc := "(III)I" } : Jvm.MethodName)) ∈ lw_all := lw_g (lw_at lw_m6 85 rfl) rfl
theorem q1456 : (Jvm.Cond.code ({ cls := "ShrugHills$State", name := "times", desc := "(III)I" } : Jvm.MethodName) prog_18_method_7_code (4 : Nat) (Option.some Jvm.ClassFile.FieldType.int)) ∈ lw_all := lw_g (lw_at lw_m6 86 rfl) rfl
theorem q1457 : (Jvm.Cond.constantLong "ShrugHills$State" (109 : Nat) (9 : Int64)) ∈ lw_all := lw_g (lw_at lw_m6 87 rfl) rfl
theorem q1458 : (Jvm.Cond.methodLink "ShrugHills$State" (111 : Nat) ({ cls := "ShrugHills$Value", name := "at", desc := "(LShrugHills$Moment;)J" } : Jvm.MethodName)) ∈ lw_all := lw_g (lw_at lw_m6 88 rfl) rfl
theorem q1459 : (Jvm.Cond.methodLink "ShrugHills$State" (116 : Nat) ({ cls := "java/lang/Math", name := "min", desc := "(JJ)J" } : Jvm.MethodName)) ∈ lw_all := lw_g (lw_at lw_m6 89 rfl) rfl
theorem q1460 : (Jvm.Cond.methodLink "ShrugHills$State" (122 : Nat) ({ cls := "java/lang/Math", name := "max", desc := "(JJ)J" } : Jvm.MethodName)) ∈ lw_all := lw_g (lw_at lw_m6 90 rfl) rfl
theorem q1461 : (Jvm.Cond.methodLink "ShrugHills$State" (136 : Nat) ({ cls := "ShrugHills$State", name := "highest", desc := "(I)I" } : Jvm.MethodName)) ∈ lw_all := lw_g (lw_at lw_m6 91 rfl) rfl
theorem q1462 : (Jvm.Cond.privateMethod ({ cls := "ShrugHills$State", name := "highest", desc := "(I)I" } : Jvm.MethodName)) ∈ lw_tbl := lw_at lw_m6 92 rfl
theorem q1463 : (Jvm.Cond.instanceMethod ({ cls := "ShrugHills$State", name := "highest", desc := "(I)I" } : Jvm.MethodName)) ∈ lw_all := lw_g (lw_at lw_m6 93 rfl) rfl
theorem q1464 : (Jvm.Cond.code ({ cls := "ShrugHills$State", name := "highest", desc := "(I)I" } : Jvm.MethodName) prog_18_method_8_code (4 : Nat) (Option.some Jvm.ClassFile.FieldType.int)) ∈ lw_all := lw_g (lw_at lw_m6 94 rfl) rfl
theorem q1465 : (Jvm.Cond.methodLink "ShrugHills$State" (129 : Nat) ({ cls := "java/lang/Math", name := "abs", desc := "(I)I" } : Jvm.MethodName)) ∈ lw_all := lw_g (lw_at lw_m6 95 rfl) rfl
theorem q1468 : (Jvm.Cond.methodLink "ShrugHills$State" (145 : Nat) ({ cls := "java/lang/Math", name := "min", desc := "(II)I" } : Jvm.MethodName)) ∈ lw_all := lw_g (lw_at lw_m6 98 rfl) rfl
theorem q1469 : (Jvm.Cond.methodLink "ShrugHills$State" (148 : Nat) ({ cls := "ShrugHills$State", name := "tells", desc := "(III)V" } : Jvm.MethodName)) ∈ lw_all := lw_g (lw_at lw_m6 99 rfl) rfl
theorem q1470 : (Jvm.Cond.privateMethod ({ cls := "ShrugHills$State", name := "tells", desc := "(III)V" } : Jvm.MethodName)) ∈ lw_tbl := lw_at lw_m6 100 rfl
theorem q1471 : (Jvm.Cond.instanceMethod ({ cls := "ShrugHills$State", name := "tells", desc := "(III)V" } : Jvm.MethodName)) ∈ lw_all := lw_g (lw_at lw_m6 101 rfl) rfl
theorem q1472 : (Jvm.Cond.code ({ cls := "ShrugHills$State", name := "tells", desc := "(III)V" } : Jvm.MethodName) prog_18_method_10_code (6 : Nat) (Option.none : Option Jvm.ClassFile.FieldType)) ∈ lw_all := lw_g (lw_at lw_m6 102 rfl) rfl
theorem q1515 : (Jvm.Cond.instanceMethod ({ cls := "ShrugHills$State", name := "days", desc := "(I)LShrugHills$State;" } : Jvm.MethodName)) ∈ lw_all := lw_g (lw_at lw_m6 145 rfl) rfl
theorem q1516 : (Jvm.Cond.selects "ShrugHills$State" ({ cls := "ShrugHills$State", name := "days", desc := "(I)LShrugHills$State;" } : Jvm.MethodName) ({ cls := "ShrugHills$State", name := "days", desc := "(I)LShrugHills$State;" } : Jvm.MethodName)) ∈ lw_all := lw_g (lw_at lw_m6 146 rfl) rfl
theorem q1517 : (Jvm.Cond.code ({ cls := "ShrugHills$State", name := "days", desc := "(I)LShrugHills$State;" } : Jvm.MethodName) prog_18_method_15_code (3 : Nat) (Option.some (Jvm.ClassFile.FieldType.object "ShrugHills$State"))) ∈ lw_all := lw_g (lw_at lw_m6 147 rfl) rfl
theorem q1518 : (Jvm.Cond.methodLink "ShrugHills$State" (179 : Nat) ({ cls := "ShrugHills$State", name := "passes", desc := "()Z" } : Jvm.MethodName)) ∈ lw_all := lw_g (lw_at lw_m6 148 rfl) rfl
theorem q1519 : (Jvm.Cond.instanceMethod ({ cls := "ShrugHills$State", name := "passes", desc := "()Z" } : Jvm.MethodName)) ∈ lw_all := lw_g (lw_at lw_m6 149 rfl) rfl
theorem q1520 : (Jvm.Cond.selects "ShrugHills$State" ({ cls := "ShrugHills$State", name := "passes", desc := "()Z" } : Jvm.MethodName) ({ cls := "ShrugHills$State", name := "passes", desc := "()Z" } : Jvm.MethodName)) ∈ lw_all := lw_g (lw_at lw_m6 150 rfl) rfl
theorem q1521 : (Jvm.Cond.code ({ cls := "ShrugHills$State", name := "passes", desc := "()Z" } : Jvm.MethodName) prog_18_method_14_code (3 : Nat) (Option.some Jvm.ClassFile.FieldType.boolean)) ∈ lw_all := lw_g (lw_at lw_m6 151 rfl) rfl
theorem q1522 : (Jvm.Cond.interfaceEntry "ShrugHills$State" (161 : Nat)) ∈ lw_tbl := lw_at lw_m6 152 rfl
theorem q1523 : (Jvm.Cond.methodLink "ShrugHills$State" (161 : Nat) ({ cls := "java/util/List", name := "isEmpty", desc := "()Z" } : Jvm.MethodName)) ∈ lw_all := lw_g (lw_at lw_m6 153 rfl) rfl
theorem q1531 : (Jvm.Cond.interfaceEntry "ShrugHills$State" (165 : Nat)) ∈ lw_tbl := lw_at lw_m6 161 rfl
theorem q1532 : (Jvm.Cond.methodLink "ShrugHills$State" (165 : Nat) ({ cls := "java/util/List", name := "size", desc := "()I" } : Jvm.MethodName)) ∈ lw_all := lw_g (lw_at lw_m6 162 rfl) rfl
theorem q1533 : (Jvm.Cond.classLink "ShrugHills$State" (168 : Nat) "ShrugHills$Asking") ∈ lw_all := lw_g (lw_at lw_m6 163 rfl) rfl
theorem q1534 : (Jvm.Cond.methodLink "ShrugHills$State" (176 : Nat) ({ cls := "ShrugHills$State", name := "asked", desc := "(II)I" } : Jvm.MethodName)) ∈ lw_all := lw_g (lw_at lw_m6 164 rfl) rfl
theorem q1535 : (Jvm.Cond.instanceMethod ({ cls := "ShrugHills$State", name := "asked", desc := "(II)I" } : Jvm.MethodName)) ∈ lw_all := lw_g (lw_at lw_m6 165 rfl) rfl
theorem q1536 : (Jvm.Cond.selects "ShrugHills$State" ({ cls := "ShrugHills$State", name := "asked", desc := "(II)I" } : Jvm.MethodName) ({ cls := "ShrugHills$State", name := "asked", desc := "(II)I" } : Jvm.MethodName)) ∈ lw_all := lw_g (lw_at lw_m6 166 rfl) rfl
theorem q1537 : (Jvm.Cond.code ({ cls := "ShrugHills$State", name := "asked", desc := "(II)I" } : Jvm.MethodName) prog_18_method_12_code (4 : Nat) (Option.some Jvm.ClassFile.FieldType.int)) ∈ lw_all := lw_g (lw_at lw_m6 167 rfl) rfl
theorem q1648 : (Jvm.Cond.instanceMethod ({ cls := "ShrugHills$State", name := "isFree", desc := "(I)Z" } : Jvm.MethodName)) ∈ lw_all := lw_g (lw_at lw_m7 38 rfl) rfl
theorem q1649 : (Jvm.Cond.selects "ShrugHills$State" ({ cls := "ShrugHills$State", name := "isFree", desc := "(I)Z" } : Jvm.MethodName) ({ cls := "ShrugHills$State", name := "isFree", desc := "(I)Z" } : Jvm.MethodName)) ∈ lw_all := lw_g (lw_at lw_m7 39 rfl) rfl
theorem q1650 : (Jvm.Cond.code ({ cls := "ShrugHills$State", name := "isFree", desc := "(I)Z" } : Jvm.MethodName) prog_18_method_4_code (3 : Nat) (Option.some Jvm.ClassFile.FieldType.boolean)) ∈ lw_all := lw_g (lw_at lw_m7 40 rfl) rfl
theorem q2714 : (Jvm.Cond.castable "ShrugHills$State" "java/lang/Object") ∈ lw_tbl := lw_at lw_m11 144 rfl
theorem in_X5 : ∀ w ∈ wsX50, w ∈ lw_all := lw_in wsX50 [448, 450, 452, 454, 456, 458, 460, 462, 464] (by decide +kernel) (by decide +kernel)
/-! ShrugHills$Named -/
set_option maxRecDepth 100000
def RX7 : String := "ShrugHills$Named"
def TX7 : u_T := fun k => match k with
  | _ => ("ShrugHills$Named", "name", "Ljava/lang/String;", true)
def tyX7 : Nat → FieldType := fun k => match k with
  | _ => .object "java/lang/String"
abbrev wsX70 : List Cond := u_ws RX7 TX7 1
theorem nmX7 : ∀ a, a < 1 → ∀ b, b < 1 → a ≠ b → (TX7 a).2.1 ≠ (TX7 b).2.1 := by decide +kernel
theorem tyX7_ok : ∀ k, k < 1 → parseFieldDescriptor (TX7 k).2.2.1 = some (tyX7 k) := by decide +kernel
abbrev cX7_find : ByteArray := prog_11_method_2_code
def yX7_find : MethodName := ⟨RX7, "find", "(Ljava/util/List;Ljava/lang/String;)I"⟩
def dkwX7_find_1 : List UInt8 := [180, 0, 9, 43, 182, 0, 25, 153, 0, 5, 28, 172, 132, 2, 1, 167, 255, 221, 2, 172]
abbrev dktX7_find_1 : List UInt8 := dkwX7_find_1 ++ []
def dkwX7_find_0 : List UInt8 := [3, 61, 28, 42, 185, 0, 15, 1, 0, 162, 0, 31, 42, 28, 185, 0, 21, 2, 0, 192, 0, 10]
abbrev dktX7_find_0 : List UInt8 := dkwX7_find_0 ++ dktX7_find_1
theorem dksX7_find_0 : cX7_find.data.toList.drop 0 = dktX7_find_0 := by decide +kernel
theorem dksX7_find_1 : cX7_find.data.toList.drop 22 = dktX7_find_1 := dk_seg dksX7_find_0 22 rfl rfl
theorem dX7_find_0 : decode cX7_find 0 = .ok (.iconst 0, 1) := dk_3 (dk_at dksX7_find_0 0 rfl rfl)
theorem dX7_find_1 : decode cX7_find 1 = .ok (.istore_n 2, 1) := dk_61 (dk_at dksX7_find_0 1 rfl rfl)
theorem dX7_find_2 : decode cX7_find 2 = .ok (.iload_n 2, 1) := dk_28 (dk_at dksX7_find_0 2 rfl rfl)
theorem dX7_find_3 : decode cX7_find 3 = .ok (.aload_n 0, 1) := dk_42 (dk_at dksX7_find_0 3 rfl rfl)
theorem dX7_find_4 : decode cX7_find 4 = .ok (.invokeinterface 15 1, 5) := by decide +kernel
theorem dX7_find_9 : decode cX7_find 9 = .ok (.if_icmp .ge 31, 3) := dk_162 0 31 (dk_at dksX7_find_0 9 rfl rfl)
theorem dX7_find_12 : decode cX7_find 12 = .ok (.aload_n 0, 1) := dk_42 (dk_at dksX7_find_0 12 rfl rfl)
theorem dX7_find_13 : decode cX7_find 13 = .ok (.iload_n 2, 1) := dk_28 (dk_at dksX7_find_0 13 rfl rfl)
theorem dX7_find_14 : decode cX7_find 14 = .ok (.invokeinterface 21 2, 5) := by decide +kernel
theorem dX7_find_19 : decode cX7_find 19 = .ok (.checkcast 10, 3) := dk_192 0 10 (dk_at dksX7_find_0 19 rfl rfl)
theorem dX7_find_22 : decode cX7_find 22 = .ok (.getfield 9, 3) := dk_180 0 9 (dk_at dksX7_find_1 0 rfl rfl)
theorem dX7_find_25 : decode cX7_find 25 = .ok (.aload_n 1, 1) := dk_43 (dk_at dksX7_find_1 3 rfl rfl)
theorem dX7_find_26 : decode cX7_find 26 = .ok (.invokevirtual 25, 3) := dk_182 0 25 (dk_at dksX7_find_1 4 rfl rfl)
theorem dX7_find_29 : decode cX7_find 29 = .ok (.ifCond .eq 5, 3) := dk_153 0 5 (dk_at dksX7_find_1 7 rfl rfl)
theorem dX7_find_32 : decode cX7_find 32 = .ok (.iload_n 2, 1) := dk_28 (dk_at dksX7_find_1 10 rfl rfl)
theorem dX7_find_33 : decode cX7_find 33 = .ok (.ireturn, 1) := dk_172 (dk_at dksX7_find_1 11 rfl rfl)
theorem dX7_find_34 : decode cX7_find 34 = .ok (.iinc 2 1, 3) := dk_132 2 1 (dk_at dksX7_find_1 12 rfl rfl)
theorem dX7_find_37 : decode cX7_find 37 = .ok (.goto (-35), 3) := dk_167 255 221 (dk_at dksX7_find_1 15 rfl rfl)
theorem dX7_find_40 : decode cX7_find 40 = .ok (.iconst (-1), 1) := dk_2 (dk_at dksX7_find_1 18 rfl rfl)
theorem dX7_find_41 : decode cX7_find 41 = .ok (.ireturn, 1) := dk_172 (dk_at dksX7_find_1 19 rfl rfl)
abbrev cX7_init : ByteArray := prog_11_method_1_code
def yX7_init : MethodName := ⟨RX7, "<init>", "(Ljava/lang/String;)V"⟩
def dkwX7_init_0 : List UInt8 := [42, 183, 0, 3, 42, 43, 181, 0, 9, 177]
abbrev dktX7_init_0 : List UInt8 := dkwX7_init_0 ++ []
theorem dksX7_init_0 : cX7_init.data.toList.drop 0 = dktX7_init_0 := by decide +kernel
theorem dX7_init_0 : decode cX7_init 0 = .ok (.aload_n 0, 1) := dk_42 (dk_at dksX7_init_0 0 rfl rfl)
theorem dX7_init_1 : decode cX7_init 1 = .ok (.invokespecial 3, 3) := dk_183 0 3 (dk_at dksX7_init_0 1 rfl rfl)
theorem dX7_init_4 : decode cX7_init 4 = .ok (.aload_n 0, 1) := dk_42 (dk_at dksX7_init_0 4 rfl rfl)
theorem dX7_init_5 : decode cX7_init 5 = .ok (.aload_n 1, 1) := dk_43 (dk_at dksX7_init_0 5 rfl rfl)
theorem dX7_init_6 : decode cX7_init 6 = .ok (.putfield 9, 3) := dk_181 0 9 (dk_at dksX7_init_0 6 rfl rfl)
theorem dX7_init_9 : decode cX7_init 9 = .ok (.return_, 1) := dk_177 (dk_at dksX7_init_0 9 rfl rfl)
abbrev cX7_letter : ByteArray := prog_11_method_3_code
def yX7_letter : MethodName := ⟨RX7, "letter", "(I)I"⟩
def dkwX7_letter_1 : List UInt8 := [167, 0, 4, 3, 172]
abbrev dktX7_letter_1 : List UInt8 := dkwX7_letter_1 ++ []
def dkwX7_letter_0 : List UInt8 := [27, 42, 180, 0, 9, 182, 0, 31, 162, 0, 19, 42, 180, 0, 9, 27, 182, 0, 34, 16, 97, 100, 4, 96]
abbrev dktX7_letter_0 : List UInt8 := dkwX7_letter_0 ++ dktX7_letter_1
theorem dksX7_letter_0 : cX7_letter.data.toList.drop 0 = dktX7_letter_0 := by decide +kernel
theorem dksX7_letter_1 : cX7_letter.data.toList.drop 24 = dktX7_letter_1 := dk_seg dksX7_letter_0 24 rfl rfl
theorem dX7_letter_0 : decode cX7_letter 0 = .ok (.iload_n 1, 1) := dk_27 (dk_at dksX7_letter_0 0 rfl rfl)
theorem dX7_letter_1 : decode cX7_letter 1 = .ok (.aload_n 0, 1) := dk_42 (dk_at dksX7_letter_0 1 rfl rfl)
theorem dX7_letter_2 : decode cX7_letter 2 = .ok (.getfield 9, 3) := dk_180 0 9 (dk_at dksX7_letter_0 2 rfl rfl)
theorem dX7_letter_5 : decode cX7_letter 5 = .ok (.invokevirtual 31, 3) := dk_182 0 31 (dk_at dksX7_letter_0 5 rfl rfl)
theorem dX7_letter_8 : decode cX7_letter 8 = .ok (.if_icmp .ge 19, 3) := dk_162 0 19 (dk_at dksX7_letter_0 8 rfl rfl)
theorem dX7_letter_11 : decode cX7_letter 11 = .ok (.aload_n 0, 1) := dk_42 (dk_at dksX7_letter_0 11 rfl rfl)
theorem dX7_letter_12 : decode cX7_letter 12 = .ok (.getfield 9, 3) := dk_180 0 9 (dk_at dksX7_letter_0 12 rfl rfl)
theorem dX7_letter_15 : decode cX7_letter 15 = .ok (.iload_n 1, 1) := dk_27 (dk_at dksX7_letter_0 15 rfl rfl)
theorem dX7_letter_16 : decode cX7_letter 16 = .ok (.invokevirtual 34, 3) := dk_182 0 34 (dk_at dksX7_letter_0 16 rfl rfl)
theorem dX7_letter_19 : decode cX7_letter 19 = .ok (.bipush 97, 2) := dk_16 97 (dk_at dksX7_letter_0 19 rfl rfl)
theorem dX7_letter_21 : decode cX7_letter 21 = .ok (.isub, 1) := dk_100 (dk_at dksX7_letter_0 21 rfl rfl)
theorem dX7_letter_22 : decode cX7_letter 22 = .ok (.iconst 1, 1) := dk_4 (dk_at dksX7_letter_0 22 rfl rfl)
theorem dX7_letter_23 : decode cX7_letter 23 = .ok (.iadd, 1) := dk_96 (dk_at dksX7_letter_0 23 rfl rfl)
theorem dX7_letter_24 : decode cX7_letter 24 = .ok (.goto 4, 3) := dk_167 0 4 (dk_at dksX7_letter_1 0 rfl rfl)
theorem dX7_letter_27 : decode cX7_letter 27 = .ok (.iconst 0, 1) := dk_3 (dk_at dksX7_letter_1 3 rfl rfl)
theorem dX7_letter_28 : decode cX7_letter 28 = .ok (.ireturn, 1) := dk_172 (dk_at dksX7_letter_1 4 rfl rfl)
theorem q189 : (Jvm.Cond.initialized "ShrugHills$Named") ∈ lw_all := lw_g (lw_at lw_m1 19 rfl) rfl
theorem q797 : (Jvm.Cond.instantiable "ShrugHills$Named" (1 : Nat)) ∈ lw_all := lw_g (lw_at lw_m3 147 rfl) rfl
theorem q825 : (Jvm.Cond.static ({ cls := "ShrugHills$Named", name := "find", desc := "(Ljava/util/List;Ljava/lang/String;)I" } : Jvm.MethodName)) ∈ lw_all := lw_g (lw_at lw_m3 175 rfl) rfl
theorem q826 : (Jvm.Cond.code ({ cls := "ShrugHills$Named", name := "find", desc := "(Ljava/util/List;Ljava/lang/String;)I" } : Jvm.MethodName) prog_11_method_2_code (3 : Nat) (Option.some Jvm.ClassFile.FieldType.int)) ∈ lw_all := lw_g (lw_at lw_m3 176 rfl) rfl
theorem q827 : (Jvm.Cond.interfaceEntry "ShrugHills$Named" (15 : Nat)) ∈ lw_tbl := lw_at lw_m3 177 rfl
theorem q828 : (Jvm.Cond.methodLink "ShrugHills$Named" (15 : Nat) ({ cls := "java/util/List", name := "size", desc := "()I" } : Jvm.MethodName)) ∈ lw_all := lw_g (lw_at lw_m3 178 rfl) rfl
theorem q829 : (Jvm.Cond.interfaceEntry "ShrugHills$Named" (21 : Nat)) ∈ lw_tbl := lw_at lw_m3 179 rfl
theorem q830 : (Jvm.Cond.methodLink "ShrugHills$Named" (21 : Nat) ({ cls := "java/util/List", name := "get", desc := "(I)Ljava/lang/Object;" } : Jvm.MethodName)) ∈ lw_all := lw_g (lw_at lw_m3 180 rfl) rfl
theorem q848 : (Jvm.Cond.classLink "ShrugHills$Named" (10 : Nat) "ShrugHills$Named") ∈ lw_all := lw_g (lw_at lw_m3 198 rfl) rfl
theorem q849 : (Jvm.Cond.methodLink "ShrugHills$Named" (25 : Nat) ({ cls := "java/lang/String", name := "equals", desc := "(Ljava/lang/Object;)Z" } : Jvm.MethodName)) ∈ lw_all := lw_g (lw_at lw_m3 199 rfl) rfl
theorem q851 : (Jvm.Cond.instanceMethod ({ cls := "ShrugHills$Named", name := "<init>", desc := "(Ljava/lang/String;)V" } : Jvm.MethodName)) ∈ lw_all := lw_g (lw_at lw_m3 201 rfl) rfl
theorem q852 : (Jvm.Cond.code ({ cls := "ShrugHills$Named", name := "<init>", desc := "(Ljava/lang/String;)V" } : Jvm.MethodName) prog_11_method_1_code (2 : Nat) (Option.none : Option Jvm.ClassFile.FieldType)) ∈ lw_all := lw_g (lw_at lw_m3 202 rfl) rfl
theorem q853 : (Jvm.Cond.methodLink "ShrugHills$Named" (3 : Nat) ({ cls := "java/lang/Object", name := "<init>", desc := "()V" } : Jvm.MethodName)) ∈ lw_all := lw_g (lw_at lw_m3 203 rfl) rfl
theorem q854 : (Jvm.Cond.fieldLink "ShrugHills$Named" (9 : Nat) "ShrugHills$Named" "name" "Ljava/lang/String;") ∈ lw_all := lw_g (lw_at lw_m3 204 rfl) rfl
theorem q855 : (Jvm.Cond.laysFinal "ShrugHills$Named" "ShrugHills$Named" "name" "Ljava/lang/String;") ∈ lw_all := lw_g (lw_at lw_m3 205 rfl) rfl
theorem q856 : (Jvm.Cond.soleField "ShrugHills$Named" "name") ∈ lw_all := lw_g (lw_at lw_m3 206 rfl) rfl
theorem q857 : (Jvm.Cond.superclass "ShrugHills$Named" "java/lang/Object") ∈ lw_all := lw_g (lw_at lw_m3 207 rfl) rfl
theorem q907 : (Jvm.Cond.selects "ShrugHills$Named" ({ cls := "java/lang/Object", name := "getClass", desc := "()Ljava/lang/Class;" } : Jvm.MethodName) ({ cls := "java/lang/Object", name := "getClass", desc := "()Ljava/lang/Class;" } : Jvm.MethodName)) ∈ lw_all := lw_g (lw_at lw_m4 17 rfl) rfl
theorem q1321 : (Jvm.Cond.instanceMethod ({ cls := "ShrugHills$Named", name := "letter", desc := "(I)I" } : Jvm.MethodName)) ∈ lw_all := lw_g (lw_at lw_m5 191 rfl) rfl
theorem q1322 : (Jvm.Cond.selects "ShrugHills$Named" ({ cls := "ShrugHills$Named", name := "letter", desc := "(I)I" } : Jvm.MethodName) ({ cls := "ShrugHills$Named", name := "letter", desc := "(I)I" } : Jvm.MethodName)) ∈ lw_all := lw_g (lw_at lw_m5 192 rfl) rfl
theorem q1323 : (Jvm.Cond.sameMethod "ShrugHills$Named" "ShrugHills$Named" "letter" "(I)I") ∈ lw_all := lw_g (lw_at lw_m5 193 rfl) rfl
theorem q1325 : (Jvm.Cond.code ({ cls := "ShrugHills$Named", name := "letter", desc := "(I)I" } : Jvm.MethodName) prog_11_method_3_code (2 : Nat) (Option.some Jvm.ClassFile.FieldType.int)) ∈ lw_all := lw_g (lw_at lw_m5 195 rfl) rfl
theorem q1326 : (Jvm.Cond.methodLink "ShrugHills$Named" (31 : Nat) ({ cls := "java/lang/String", name := "length", desc := "()I" } : Jvm.MethodName)) ∈ lw_all := lw_g (lw_at lw_m5 196 rfl) rfl
theorem q1327 : (Jvm.Cond.methodLink "ShrugHills$Named" (34 : Nat) ({ cls := "java/lang/String", name := "charAt", desc := "(I)C" } : Jvm.MethodName)) ∈ lw_all := lw_g (lw_at lw_m5 197 rfl) rfl
theorem q2724 : (Jvm.Cond.castable "ShrugHills$Named" "java/lang/Object") ∈ lw_tbl := lw_at lw_m11 154 rfl
theorem in_X7 : ∀ w ∈ wsX70, w ∈ lw_all := lw_in wsX70 [855] (by decide +kernel) (by decide +kernel)
/-! ShrugHills$Person -/
set_option maxRecDepth 100000
def RX8 : String := "ShrugHills$Person"
def TX8 : u_T := fun k => match k with
  | 0 => ("ShrugHills$Named", "name", "Ljava/lang/String;", true)
  | 1 => ("ShrugHills$Person", "cell", "I", true)
  | 2 => ("ShrugHills$Person", "tired", "I", true)
  | _ => ("ShrugHills$Person", "knows", "I", false)
def tyX8 : Nat → FieldType := fun k => match k with
  | 0 => .object "java/lang/String"
  | 1 => .int
  | 2 => .int
  | _ => .int
abbrev wsX80 : List Cond := u_ws RX8 TX8 4
theorem nmX8 : ∀ a, a < 4 → ∀ b, b < 4 → a ≠ b → (TX8 a).2.1 ≠ (TX8 b).2.1 := by decide +kernel
theorem tyX8_ok : ∀ k, k < 4 → parseFieldDescriptor (TX8 k).2.2.1 = some (tyX8 k) := by decide +kernel
abbrev cX8_init : ByteArray := prog_14_method_1_code
def yX8_init : MethodName := ⟨RX8, "<init>", "(Ljava/lang/String;II)V"⟩
def dkwX8_init_0 : List UInt8 := [42, 43, 183, 0, 1, 42, 28, 181, 0, 7, 42, 29, 181, 0, 13, 177]
abbrev dktX8_init_0 : List UInt8 := dkwX8_init_0 ++ []
theorem dksX8_init_0 : cX8_init.data.toList.drop 0 = dktX8_init_0 := by decide +kernel
theorem dX8_init_0 : decode cX8_init 0 = .ok (.aload_n 0, 1) := dk_42 (dk_at dksX8_init_0 0 rfl rfl)
theorem dX8_init_1 : decode cX8_init 1 = .ok (.aload_n 1, 1) := dk_43 (dk_at dksX8_init_0 1 rfl rfl)
theorem dX8_init_2 : decode cX8_init 2 = .ok (.invokespecial 1, 3) := dk_183 0 1 (dk_at dksX8_init_0 2 rfl rfl)
theorem dX8_init_5 : decode cX8_init 5 = .ok (.aload_n 0, 1) := dk_42 (dk_at dksX8_init_0 5 rfl rfl)
theorem dX8_init_6 : decode cX8_init 6 = .ok (.iload_n 2, 1) := dk_28 (dk_at dksX8_init_0 6 rfl rfl)
theorem dX8_init_7 : decode cX8_init 7 = .ok (.putfield 7, 3) := dk_181 0 7 (dk_at dksX8_init_0 7 rfl rfl)
theorem dX8_init_10 : decode cX8_init 10 = .ok (.aload_n 0, 1) := dk_42 (dk_at dksX8_init_0 10 rfl rfl)
theorem dX8_init_11 : decode cX8_init 11 = .ok (.iload_n 3, 1) := dk_29 (dk_at dksX8_init_0 11 rfl rfl)
theorem dX8_init_12 : decode cX8_init 12 = .ok (.putfield 13, 3) := dk_181 0 13 (dk_at dksX8_init_0 12 rfl rfl)
theorem dX8_init_15 : decode cX8_init 15 = .ok (.return_, 1) := dk_177 (dk_at dksX8_init_0 15 rfl rfl)
theorem q194 : (Jvm.Cond.initialized "ShrugHills$Person") ∈ lw_all := lw_g (lw_at lw_m1 24 rfl) rfl
theorem q910 : (Jvm.Cond.selects "ShrugHills$Person" ({ cls := "java/lang/Object", name := "getClass", desc := "()Ljava/lang/Class;" } : Jvm.MethodName) ({ cls := "java/lang/Object", name := "getClass", desc := "()Ljava/lang/Class;" } : Jvm.MethodName)) ∈ lw_all := lw_g (lw_at lw_m4 20 rfl) rfl
theorem q949 : (Jvm.Cond.instantiable "ShrugHills$Person" (4 : Nat)) ∈ lw_all := lw_g (lw_at lw_m4 59 rfl) rfl
theorem q952 : (Jvm.Cond.instanceMethod ({ cls := "ShrugHills$Person", name := "<init>", desc := "(Ljava/lang/String;II)V" } : Jvm.MethodName)) ∈ lw_all := lw_g (lw_at lw_m4 62 rfl) rfl
theorem q953 : (Jvm.Cond.code ({ cls := "ShrugHills$Person", name := "<init>", desc := "(Ljava/lang/String;II)V" } : Jvm.MethodName) prog_14_method_1_code (4 : Nat) (Option.none : Option Jvm.ClassFile.FieldType)) ∈ lw_all := lw_g (lw_at lw_m4 63 rfl) rfl
theorem q954 : (Jvm.Cond.methodLink "ShrugHills$Person" (1 : Nat) ({ cls := "ShrugHills$Named", name := "<init>", desc := "(Ljava/lang/String;)V" } : Jvm.MethodName)) ∈ lw_all := lw_g (lw_at lw_m4 64 rfl) rfl
theorem q955 : (Jvm.Cond.fieldLink "ShrugHills$Person" (7 : Nat) "ShrugHills$Person" "cell" "I") ∈ lw_all := lw_g (lw_at lw_m4 65 rfl) rfl
theorem q958 : (Jvm.Cond.fieldLink "ShrugHills$Person" (13 : Nat) "ShrugHills$Person" "tired" "I") ∈ lw_all := lw_g (lw_at lw_m4 68 rfl) rfl
theorem q962 : (Jvm.Cond.laysFinal "ShrugHills$Person" "ShrugHills$Person" "cell" "I") ∈ lw_all := lw_g (lw_at lw_m4 72 rfl) rfl
theorem q963 : (Jvm.Cond.soleField "ShrugHills$Person" "cell") ∈ lw_all := lw_g (lw_at lw_m4 73 rfl) rfl
theorem q964 : (Jvm.Cond.laysFinal "ShrugHills$Person" "ShrugHills$Person" "tired" "I") ∈ lw_all := lw_g (lw_at lw_m4 74 rfl) rfl
theorem q965 : (Jvm.Cond.soleField "ShrugHills$Person" "tired") ∈ lw_all := lw_g (lw_at lw_m4 75 rfl) rfl
theorem q966 : (Jvm.Cond.lays "ShrugHills$Person" "ShrugHills$Person" "knows" "I") ∈ lw_all := lw_g (lw_at lw_m4 76 rfl) rfl
theorem q967 : (Jvm.Cond.soleField "ShrugHills$Person" "knows") ∈ lw_all := lw_g (lw_at lw_m4 77 rfl) rfl
theorem q968 : (Jvm.Cond.laysFinal "ShrugHills$Person" "ShrugHills$Named" "name" "Ljava/lang/String;") ∈ lw_all := lw_g (lw_at lw_m4 78 rfl) rfl
theorem q969 : (Jvm.Cond.superclass "ShrugHills$Person" "ShrugHills$Named") ∈ lw_all := lw_g (lw_at lw_m4 79 rfl) rfl
theorem q1324 : (Jvm.Cond.selects "ShrugHills$Person" ({ cls := "ShrugHills$Named", name := "letter", desc := "(I)I" } : Jvm.MethodName) ({ cls := "ShrugHills$Named", name := "letter", desc := "(I)I" } : Jvm.MethodName)) ∈ lw_all := lw_g (lw_at lw_m5 194 rfl) rfl
theorem q2704 : (Jvm.Cond.castable "ShrugHills$Person" "ShrugHills$Named") ∈ lw_tbl := lw_at lw_m11 134 rfl
theorem q2725 : (Jvm.Cond.castable "ShrugHills$Person" "java/lang/Object") ∈ lw_tbl := lw_at lw_m11 155 rfl
theorem in_X8 : ∀ w ∈ wsX80, w ∈ lw_all := lw_in wsX80 [968, 962, 964, 966] (by decide +kernel) (by decide +kernel)
/-! ShrugHills$Asking -/
set_option maxRecDepth 100000
def RX9 : String := "ShrugHills$Asking"
def TX9 : u_T := fun k => match k with
  | 0 => ("ShrugHills$Asking", "person", "I", true)
  | _ => ("ShrugHills$Asking", "topic", "I", true)
def tyX9 : Nat → FieldType := fun k => match k with
  | 0 => .int
  | _ => .int
abbrev wsX90 : List Cond := u_ws RX9 TX9 2
theorem nmX9 : ∀ a, a < 2 → ∀ b, b < 2 → a ≠ b → (TX9 a).2.1 ≠ (TX9 b).2.1 := by decide +kernel
theorem tyX9_ok : ∀ k, k < 2 → parseFieldDescriptor (TX9 k).2.2.1 = some (tyX9 k) := by decide +kernel
abbrev cX9_init : ByteArray := prog_4_method_1_code
def yX9_init : MethodName := ⟨RX9, "<init>", "(II)V"⟩
def dkwX9_init_0 : List UInt8 := [42, 183, 0, 1, 42, 27, 181, 0, 7, 42, 28, 181, 0, 13, 177]
abbrev dktX9_init_0 : List UInt8 := dkwX9_init_0 ++ []
theorem dksX9_init_0 : cX9_init.data.toList.drop 0 = dktX9_init_0 := by decide +kernel
theorem dX9_init_0 : decode cX9_init 0 = .ok (.aload_n 0, 1) := dk_42 (dk_at dksX9_init_0 0 rfl rfl)
theorem dX9_init_1 : decode cX9_init 1 = .ok (.invokespecial 1, 3) := dk_183 0 1 (dk_at dksX9_init_0 1 rfl rfl)
theorem dX9_init_4 : decode cX9_init 4 = .ok (.aload_n 0, 1) := dk_42 (dk_at dksX9_init_0 4 rfl rfl)
theorem dX9_init_5 : decode cX9_init 5 = .ok (.iload_n 1, 1) := dk_27 (dk_at dksX9_init_0 5 rfl rfl)
theorem dX9_init_6 : decode cX9_init 6 = .ok (.putfield 7, 3) := dk_181 0 7 (dk_at dksX9_init_0 6 rfl rfl)
theorem dX9_init_9 : decode cX9_init 9 = .ok (.aload_n 0, 1) := dk_42 (dk_at dksX9_init_0 9 rfl rfl)
theorem dX9_init_10 : decode cX9_init 10 = .ok (.iload_n 2, 1) := dk_28 (dk_at dksX9_init_0 10 rfl rfl)
theorem dX9_init_11 : decode cX9_init 11 = .ok (.putfield 13, 3) := dk_181 0 13 (dk_at dksX9_init_0 11 rfl rfl)
theorem dX9_init_14 : decode cX9_init 14 = .ok (.return_, 1) := dk_177 (dk_at dksX9_init_0 14 rfl rfl)
theorem q195 : (Jvm.Cond.initialized "ShrugHills$Asking") ∈ lw_all := lw_g (lw_at lw_m1 25 rfl) rfl
theorem q900 : (Jvm.Cond.selects "ShrugHills$Asking" ({ cls := "java/lang/Object", name := "getClass", desc := "()Ljava/lang/Class;" } : Jvm.MethodName) ({ cls := "java/lang/Object", name := "getClass", desc := "()Ljava/lang/Class;" } : Jvm.MethodName)) ∈ lw_all := lw_g (lw_at lw_m4 10 rfl) rfl
theorem q990 : (Jvm.Cond.instantiable "ShrugHills$Asking" (2 : Nat)) ∈ lw_all := lw_g (lw_at lw_m4 100 rfl) rfl
theorem q992 : (Jvm.Cond.instanceMethod ({ cls := "ShrugHills$Asking", name := "<init>", desc := "(II)V" } : Jvm.MethodName)) ∈ lw_all := lw_g (lw_at lw_m4 102 rfl) rfl
theorem q993 : (Jvm.Cond.code ({ cls := "ShrugHills$Asking", name := "<init>", desc := "(II)V" } : Jvm.MethodName) prog_4_method_1_code (3 : Nat) (Option.none : Option Jvm.ClassFile.FieldType)) ∈ lw_all := lw_g (lw_at lw_m4 103 rfl) rfl
theorem q994 : (Jvm.Cond.methodLink "ShrugHills$Asking" (1 : Nat) ({ cls := "java/lang/Object", name := "<init>", desc := "()V" } : Jvm.MethodName)) ∈ lw_all := lw_g (lw_at lw_m4 104 rfl) rfl
theorem q995 : (Jvm.Cond.fieldLink "ShrugHills$Asking" (7 : Nat) "ShrugHills$Asking" "person" "I") ∈ lw_all := lw_g (lw_at lw_m4 105 rfl) rfl
theorem q998 : (Jvm.Cond.fieldLink "ShrugHills$Asking" (13 : Nat) "ShrugHills$Asking" "topic" "I") ∈ lw_all := lw_g (lw_at lw_m4 108 rfl) rfl
theorem q1001 : (Jvm.Cond.laysFinal "ShrugHills$Asking" "ShrugHills$Asking" "person" "I") ∈ lw_all := lw_g (lw_at lw_m4 111 rfl) rfl
theorem q1002 : (Jvm.Cond.soleField "ShrugHills$Asking" "person") ∈ lw_all := lw_g (lw_at lw_m4 112 rfl) rfl
theorem q1003 : (Jvm.Cond.laysFinal "ShrugHills$Asking" "ShrugHills$Asking" "topic" "I") ∈ lw_all := lw_g (lw_at lw_m4 113 rfl) rfl
theorem q1004 : (Jvm.Cond.soleField "ShrugHills$Asking" "topic") ∈ lw_all := lw_g (lw_at lw_m4 114 rfl) rfl
theorem q1005 : (Jvm.Cond.superclass "ShrugHills$Asking" "java/lang/Object") ∈ lw_all := lw_g (lw_at lw_m4 115 rfl) rfl
theorem q2726 : (Jvm.Cond.castable "ShrugHills$Asking" "java/lang/Object") ∈ lw_tbl := lw_at lw_m11 156 rfl
theorem in_X9 : ∀ w ∈ wsX90, w ∈ lw_all := lw_in wsX90 [1001, 1003] (by decide +kernel) (by decide +kernel)
/-! ShrugHills$Value -/
set_option maxRecDepth 100000
def RX10 : String := "ShrugHills$Value"
abbrev cX10_init : ByteArray := prog_21_method_1_code
def yX10_init : MethodName := ⟨RX10, "<init>", "()V"⟩
theorem dX10_init_0 : decode cX10_init 0 = .ok (.aload_n 0, 1) := by decide +kernel
theorem dX10_init_1 : decode cX10_init 1 = .ok (.invokespecial 1, 3) := by decide +kernel
theorem dX10_init_4 : decode cX10_init 4 = .ok (.return_, 1) := by decide +kernel
theorem q196 : (Jvm.Cond.initialized "ShrugHills$Value") ∈ lw_all := lw_g (lw_at lw_m1 26 rfl) rfl
theorem q1028 : (Jvm.Cond.instanceMethod ({ cls := "ShrugHills$Value", name := "<init>", desc := "()V" } : Jvm.MethodName)) ∈ lw_all := lw_g (lw_at lw_m4 138 rfl) rfl
theorem q1029 : (Jvm.Cond.code ({ cls := "ShrugHills$Value", name := "<init>", desc := "()V" } : Jvm.MethodName) prog_21_method_1_code (1 : Nat) (Option.none : Option Jvm.ClassFile.FieldType)) ∈ lw_all := lw_g (lw_at lw_m4 139 rfl) rfl
theorem q1030 : (Jvm.Cond.methodLink "ShrugHills$Value" (1 : Nat) ({ cls := "java/lang/Object", name := "<init>", desc := "()V" } : Jvm.MethodName)) ∈ lw_all := lw_g (lw_at lw_m4 140 rfl) rfl
theorem q1399 : (Jvm.Cond.declares ({ cls := "ShrugHills$Value", name := "at", desc := "(LShrugHills$Moment;)J" } : Jvm.MethodName)) ∈ lw_tbl := lw_at lw_m6 29 rfl
theorem q1400 : (Jvm.Cond.sameMethod "ShrugHills$Value" "ShrugHills$Value" "at" "(LShrugHills$Moment;)J") ∈ lw_all := lw_g (lw_at lw_m6 30 rfl) rfl
/-! ShrugHills$Chain -/
set_option maxRecDepth 100000
def RX11 : String := "ShrugHills$Chain"
def TX11 : u_T := fun k => match k with
  | 0 => ("ShrugHills$Chain", "values", "Ljava/util/List;", true)
  | _ => ("ShrugHills$Chain", "signs", "Ljava/lang/StringBuilder;", true)
def tyX11 : Nat → FieldType := fun k => match k with
  | 0 => .object "java/util/List"
  | _ => .object "java/lang/StringBuilder"
abbrev wsX110 : List Cond := u_ws RX11 TX11 2
theorem nmX11 : ∀ a, a < 2 → ∀ b, b < 2 → a ≠ b → (TX11 a).2.1 ≠ (TX11 b).2.1 := by decide +kernel
theorem tyX11_ok : ∀ k, k < 2 → parseFieldDescriptor (TX11 k).2.2.1 = some (tyX11 k) := by decide +kernel
abbrev cX11_init : ByteArray := prog_5_method_1_code
def yX11_init : MethodName := ⟨RX11, "<init>", "()V"⟩
def dkwX11_init_1 : List UInt8 := [181, 0, 21, 177]
abbrev dktX11_init_1 : List UInt8 := dkwX11_init_1 ++ []
def dkwX11_init_0 : List UInt8 := [42, 183, 0, 1, 42, 187, 0, 7, 89, 5, 183, 0, 9, 181, 0, 12, 42, 187, 0, 18, 89, 183, 0, 20]
abbrev dktX11_init_0 : List UInt8 := dkwX11_init_0 ++ dktX11_init_1
theorem dksX11_init_0 : cX11_init.data.toList.drop 0 = dktX11_init_0 := by decide +kernel
theorem dksX11_init_1 : cX11_init.data.toList.drop 24 = dktX11_init_1 := dk_seg dksX11_init_0 24 rfl rfl
theorem dX11_init_0 : decode cX11_init 0 = .ok (.aload_n 0, 1) := dk_42 (dk_at dksX11_init_0 0 rfl rfl)
theorem dX11_init_1 : decode cX11_init 1 = .ok (.invokespecial 1, 3) := dk_183 0 1 (dk_at dksX11_init_0 1 rfl rfl)
theorem dX11_init_4 : decode cX11_init 4 = .ok (.aload_n 0, 1) := dk_42 (dk_at dksX11_init_0 4 rfl rfl)
theorem dX11_init_5 : decode cX11_init 5 = .ok (.new 7, 3) := dk_187 0 7 (dk_at dksX11_init_0 5 rfl rfl)
theorem dX11_init_8 : decode cX11_init 8 = .ok (.dup, 1) := dk_89 (dk_at dksX11_init_0 8 rfl rfl)
theorem dX11_init_9 : decode cX11_init 9 = .ok (.iconst 2, 1) := dk_5 (dk_at dksX11_init_0 9 rfl rfl)
theorem dX11_init_10 : decode cX11_init 10 = .ok (.invokespecial 9, 3) := dk_183 0 9 (dk_at dksX11_init_0 10 rfl rfl)
theorem dX11_init_13 : decode cX11_init 13 = .ok (.putfield 12, 3) := dk_181 0 12 (dk_at dksX11_init_0 13 rfl rfl)
theorem dX11_init_16 : decode cX11_init 16 = .ok (.aload_n 0, 1) := dk_42 (dk_at dksX11_init_0 16 rfl rfl)
theorem dX11_init_17 : decode cX11_init 17 = .ok (.new 18, 3) := dk_187 0 18 (dk_at dksX11_init_0 17 rfl rfl)
theorem dX11_init_20 : decode cX11_init 20 = .ok (.dup, 1) := dk_89 (dk_at dksX11_init_0 20 rfl rfl)
theorem dX11_init_21 : decode cX11_init 21 = .ok (.invokespecial 20, 3) := dk_183 0 20 (dk_at dksX11_init_0 21 rfl rfl)
theorem dX11_init_24 : decode cX11_init 24 = .ok (.putfield 21, 3) := dk_181 0 21 (dk_at dksX11_init_1 0 rfl rfl)
theorem dX11_init_27 : decode cX11_init 27 = .ok (.return_, 1) := dk_177 (dk_at dksX11_init_1 3 rfl rfl)
abbrev cX11_add : ByteArray := prog_5_method_2_code
def yX11_add : MethodName := ⟨RX11, "add", "(CLShrugHills$Value;)V"⟩
def dkwX11_add_0 : List UInt8 := [42, 180, 0, 21, 27, 182, 0, 25, 87, 42, 180, 0, 12, 44, 185, 0, 29, 2, 0, 87, 177]
abbrev dktX11_add_0 : List UInt8 := dkwX11_add_0 ++ []
theorem dksX11_add_0 : cX11_add.data.toList.drop 0 = dktX11_add_0 := by decide +kernel
theorem dX11_add_0 : decode cX11_add 0 = .ok (.aload_n 0, 1) := dk_42 (dk_at dksX11_add_0 0 rfl rfl)
theorem dX11_add_1 : decode cX11_add 1 = .ok (.getfield 21, 3) := dk_180 0 21 (dk_at dksX11_add_0 1 rfl rfl)
theorem dX11_add_4 : decode cX11_add 4 = .ok (.iload_n 1, 1) := dk_27 (dk_at dksX11_add_0 4 rfl rfl)
theorem dX11_add_5 : decode cX11_add 5 = .ok (.invokevirtual 25, 3) := dk_182 0 25 (dk_at dksX11_add_0 5 rfl rfl)
theorem dX11_add_8 : decode cX11_add 8 = .ok (.pop, 1) := dk_87 (dk_at dksX11_add_0 8 rfl rfl)
theorem dX11_add_9 : decode cX11_add 9 = .ok (.aload_n 0, 1) := dk_42 (dk_at dksX11_add_0 9 rfl rfl)
theorem dX11_add_10 : decode cX11_add 10 = .ok (.getfield 12, 3) := dk_180 0 12 (dk_at dksX11_add_0 10 rfl rfl)
theorem dX11_add_13 : decode cX11_add 13 = .ok (.aload_n 2, 1) := dk_44 (dk_at dksX11_add_0 13 rfl rfl)
theorem dX11_add_14 : decode cX11_add 14 = .ok (.invokeinterface 29 2, 5) := by decide +kernel
theorem dX11_add_19 : decode cX11_add 19 = .ok (.pop, 1) := dk_87 (dk_at dksX11_add_0 19 rfl rfl)
theorem dX11_add_20 : decode cX11_add 20 = .ok (.return_, 1) := dk_177 (dk_at dksX11_add_0 20 rfl rfl)
abbrev cX11_at : ByteArray := prog_5_method_3_code
def yX11_at : MethodName := ⟨RX11, "at", "(LShrugHills$Moment;)J"⟩
def dkwX11_at_3 : List UInt8 := [132, 4, 1, 167, 255, 204, 32, 173]
abbrev dktX11_at_3 : List UInt8 := dkwX11_at_3 ++ []
def dkwX11_at_2 : List UInt8 := [180, 0, 12, 21, 4, 185, 0, 35, 2, 0, 192, 0, 2, 43, 182, 0, 39, 184, 0, 51, 184, 0, 55, 65]
abbrev dktX11_at_2 : List UInt8 := dkwX11_at_2 ++ dktX11_at_3
def dkwX11_at_1 : List UInt8 := [180, 0, 12, 185, 0, 43, 1, 0, 162, 0, 44, 42, 180, 0, 21, 21, 4, 182, 0, 47, 32, 42]
abbrev dktX11_at_1 : List UInt8 := dkwX11_at_1 ++ dktX11_at_2
def dkwX11_at_0 : List UInt8 := [42, 180, 0, 12, 3, 185, 0, 35, 2, 0, 192, 0, 2, 43, 182, 0, 39, 65, 4, 54, 4, 21, 4, 42]
abbrev dktX11_at_0 : List UInt8 := dkwX11_at_0 ++ dktX11_at_1
theorem dksX11_at_0 : cX11_at.data.toList.drop 0 = dktX11_at_0 := by decide +kernel
theorem dksX11_at_1 : cX11_at.data.toList.drop 24 = dktX11_at_1 := dk_seg dksX11_at_0 24 rfl rfl
theorem dksX11_at_2 : cX11_at.data.toList.drop 46 = dktX11_at_2 := dk_seg dksX11_at_1 22 rfl rfl
theorem dksX11_at_3 : cX11_at.data.toList.drop 70 = dktX11_at_3 := dk_seg dksX11_at_2 24 rfl rfl
theorem dX11_at_0 : decode cX11_at 0 = .ok (.aload_n 0, 1) := dk_42 (dk_at dksX11_at_0 0 rfl rfl)
theorem dX11_at_1 : decode cX11_at 1 = .ok (.getfield 12, 3) := dk_180 0 12 (dk_at dksX11_at_0 1 rfl rfl)
theorem dX11_at_4 : decode cX11_at 4 = .ok (.iconst 0, 1) := dk_3 (dk_at dksX11_at_0 4 rfl rfl)
theorem dX11_at_5 : decode cX11_at 5 = .ok (.invokeinterface 35 2, 5) := by decide +kernel
theorem dX11_at_10 : decode cX11_at 10 = .ok (.checkcast 2, 3) := dk_192 0 2 (dk_at dksX11_at_0 10 rfl rfl)
theorem dX11_at_13 : decode cX11_at 13 = .ok (.aload_n 1, 1) := dk_43 (dk_at dksX11_at_0 13 rfl rfl)
theorem dX11_at_14 : decode cX11_at 14 = .ok (.invokevirtual 39, 3) := dk_182 0 39 (dk_at dksX11_at_0 14 rfl rfl)
theorem dX11_at_17 : decode cX11_at 17 = .ok (.lstore_n 2, 1) := dk_65 (dk_at dksX11_at_0 17 rfl rfl)
theorem dX11_at_18 : decode cX11_at 18 = .ok (.iconst 1, 1) := dk_4 (dk_at dksX11_at_0 18 rfl rfl)
theorem dX11_at_19 : decode cX11_at 19 = .ok (.istore 4, 2) := dk_54 4 (dk_at dksX11_at_0 19 rfl rfl)
theorem dX11_at_21 : decode cX11_at 21 = .ok (.iload 4, 2) := dk_21 4 (dk_at dksX11_at_0 21 rfl rfl)
theorem dX11_at_23 : decode cX11_at 23 = .ok (.aload_n 0, 1) := dk_42 (dk_at dksX11_at_0 23 rfl rfl)
theorem dX11_at_24 : decode cX11_at 24 = .ok (.getfield 12, 3) := dk_180 0 12 (dk_at dksX11_at_1 0 rfl rfl)
theorem dX11_at_27 : decode cX11_at 27 = .ok (.invokeinterface 43 1, 5) := by decide +kernel
theorem dX11_at_32 : decode cX11_at 32 = .ok (.if_icmp .ge 44, 3) := dk_162 0 44 (dk_at dksX11_at_1 8 rfl rfl)
theorem dX11_at_35 : decode cX11_at 35 = .ok (.aload_n 0, 1) := dk_42 (dk_at dksX11_at_1 11 rfl rfl)
theorem dX11_at_36 : decode cX11_at 36 = .ok (.getfield 21, 3) := dk_180 0 21 (dk_at dksX11_at_1 12 rfl rfl)
theorem dX11_at_39 : decode cX11_at 39 = .ok (.iload 4, 2) := dk_21 4 (dk_at dksX11_at_1 15 rfl rfl)
theorem dX11_at_41 : decode cX11_at 41 = .ok (.invokevirtual 47, 3) := dk_182 0 47 (dk_at dksX11_at_1 17 rfl rfl)
theorem dX11_at_44 : decode cX11_at 44 = .ok (.lload_n 2, 1) := dk_32 (dk_at dksX11_at_1 20 rfl rfl)
theorem dX11_at_45 : decode cX11_at 45 = .ok (.aload_n 0, 1) := dk_42 (dk_at dksX11_at_1 21 rfl rfl)
theorem dX11_at_46 : decode cX11_at 46 = .ok (.getfield 12, 3) := dk_180 0 12 (dk_at dksX11_at_2 0 rfl rfl)
theorem dX11_at_49 : decode cX11_at 49 = .ok (.iload 4, 2) := dk_21 4 (dk_at dksX11_at_2 3 rfl rfl)
theorem dX11_at_51 : decode cX11_at 51 = .ok (.invokeinterface 35 2, 5) := by decide +kernel
theorem dX11_at_56 : decode cX11_at 56 = .ok (.checkcast 2, 3) := dk_192 0 2 (dk_at dksX11_at_2 10 rfl rfl)
theorem dX11_at_59 : decode cX11_at 59 = .ok (.aload_n 1, 1) := dk_43 (dk_at dksX11_at_2 13 rfl rfl)
theorem dX11_at_60 : decode cX11_at 60 = .ok (.invokevirtual 39, 3) := dk_182 0 39 (dk_at dksX11_at_2 14 rfl rfl)
theorem dX11_at_63 : decode cX11_at 63 = .ok (.invokestatic 51, 3) := dk_184 0 51 (dk_at dksX11_at_2 17 rfl rfl)
theorem dX11_at_66 : decode cX11_at 66 = .ok (.invokestatic 55, 3) := dk_184 0 55 (dk_at dksX11_at_2 20 rfl rfl)
theorem dX11_at_69 : decode cX11_at 69 = .ok (.lstore_n 2, 1) := dk_65 (dk_at dksX11_at_2 23 rfl rfl)
theorem dX11_at_70 : decode cX11_at 70 = .ok (.iinc 4 1, 3) := dk_132 4 1 (dk_at dksX11_at_3 0 rfl rfl)
theorem dX11_at_73 : decode cX11_at 73 = .ok (.goto (-52), 3) := dk_167 255 204 (dk_at dksX11_at_3 3 rfl rfl)
theorem dX11_at_76 : decode cX11_at 76 = .ok (.lload_n 2, 1) := dk_32 (dk_at dksX11_at_3 6 rfl rfl)
theorem dX11_at_77 : decode cX11_at 77 = .ok (.lreturn, 1) := dk_173 (dk_at dksX11_at_3 7 rfl rfl)
abbrev cX11_two : ByteArray := prog_5_method_4_code
def yX11_two : MethodName := ⟨RX11, "two", "(CJJ)J"⟩
def dkwX11_two_3 : List UInt8 := [184, 0, 61, 173]
abbrev dktX11_two_3 : List UInt8 := dkwX11_two_3 ++ []
def dkwX11_two_2 : List UInt8 := [31, 33, 97, 173, 31, 33, 101, 173, 31, 33, 105, 173, 33, 9, 148, 154, 0, 7, 9, 167, 0, 8, 31, 33]
abbrev dktX11_two_2 : List UInt8 := dkwX11_two_2 ++ dktX11_two_3
def dkwX11_two_1 : List UInt8 := [170, 0, 0, 0, 0, 0, 43, 0, 0, 0, 42, 0, 0, 0, 45, 0, 0, 0, 39, 0, 0, 0, 31, 0, 0, 0, 43, 0, 0, 0, 35]
abbrev dktX11_two_1 : List UInt8 := dkwX11_two_1 ++ dktX11_two_2
def dkwX11_two_0 : List UInt8 := [26]
abbrev dktX11_two_0 : List UInt8 := dkwX11_two_0 ++ dktX11_two_1
theorem dksX11_two_0 : cX11_two.data.toList.drop 0 = dktX11_two_0 := by decide +kernel
theorem dksX11_two_1 : cX11_two.data.toList.drop 1 = dktX11_two_1 := dk_seg dksX11_two_0 1 rfl rfl
theorem dksX11_two_2 : cX11_two.data.toList.drop 32 = dktX11_two_2 := dk_seg dksX11_two_1 31 rfl rfl
theorem dksX11_two_3 : cX11_two.data.toList.drop 56 = dktX11_two_3 := dk_seg dksX11_two_2 24 rfl rfl
theorem dX11_two_0 : decode cX11_two 0 = .ok (.iload_n 0, 1) := dk_26 (dk_at dksX11_two_0 0 rfl rfl)
theorem dX11_two_1 : decode cX11_two 1 = .ok (.tableswitch 43 42 45 #[39, 31, 43, 35], 31) := by decide +kernel
theorem dX11_two_32 : decode cX11_two 32 = .ok (.lload_n 1, 1) := dk_31 (dk_at dksX11_two_2 0 rfl rfl)
theorem dX11_two_33 : decode cX11_two 33 = .ok (.lload_n 3, 1) := dk_33 (dk_at dksX11_two_2 1 rfl rfl)
theorem dX11_two_34 : decode cX11_two 34 = .ok (.ladd, 1) := dk_97 (dk_at dksX11_two_2 2 rfl rfl)
theorem dX11_two_35 : decode cX11_two 35 = .ok (.lreturn, 1) := dk_173 (dk_at dksX11_two_2 3 rfl rfl)
theorem dX11_two_36 : decode cX11_two 36 = .ok (.lload_n 1, 1) := dk_31 (dk_at dksX11_two_2 4 rfl rfl)
theorem dX11_two_37 : decode cX11_two 37 = .ok (.lload_n 3, 1) := dk_33 (dk_at dksX11_two_2 5 rfl rfl)
theorem dX11_two_38 : decode cX11_two 38 = .ok (.lsub, 1) := dk_101 (dk_at dksX11_two_2 6 rfl rfl)
theorem dX11_two_39 : decode cX11_two 39 = .ok (.lreturn, 1) := dk_173 (dk_at dksX11_two_2 7 rfl rfl)
theorem dX11_two_40 : decode cX11_two 40 = .ok (.lload_n 1, 1) := dk_31 (dk_at dksX11_two_2 8 rfl rfl)
theorem dX11_two_41 : decode cX11_two 41 = .ok (.lload_n 3, 1) := dk_33 (dk_at dksX11_two_2 9 rfl rfl)
theorem dX11_two_42 : decode cX11_two 42 = .ok (.lmul, 1) := dk_105 (dk_at dksX11_two_2 10 rfl rfl)
theorem dX11_two_43 : decode cX11_two 43 = .ok (.lreturn, 1) := dk_173 (dk_at dksX11_two_2 11 rfl rfl)
theorem dX11_two_44 : decode cX11_two 44 = .ok (.lload_n 3, 1) := dk_33 (dk_at dksX11_two_2 12 rfl rfl)
theorem dX11_two_45 : decode cX11_two 45 = .ok (.lconst 0, 1) := dk_9 (dk_at dksX11_two_2 13 rfl rfl)
theorem dX11_two_46 : decode cX11_two 46 = .ok (.lcmp, 1) := dk_148 (dk_at dksX11_two_2 14 rfl rfl)
theorem dX11_two_47 : decode cX11_two 47 = .ok (.ifCond .ne 7, 3) := dk_154 0 7 (dk_at dksX11_two_2 15 rfl rfl)
theorem dX11_two_50 : decode cX11_two 50 = .ok (.lconst 0, 1) := dk_9 (dk_at dksX11_two_2 18 rfl rfl)
theorem dX11_two_51 : decode cX11_two 51 = .ok (.goto 8, 3) := dk_167 0 8 (dk_at dksX11_two_2 19 rfl rfl)
theorem dX11_two_54 : decode cX11_two 54 = .ok (.lload_n 1, 1) := dk_31 (dk_at dksX11_two_2 22 rfl rfl)
theorem dX11_two_55 : decode cX11_two 55 = .ok (.lload_n 3, 1) := dk_33 (dk_at dksX11_two_2 23 rfl rfl)
theorem dX11_two_56 : decode cX11_two 56 = .ok (.invokestatic 61, 3) := dk_184 0 61 (dk_at dksX11_two_3 0 rfl rfl)
theorem dX11_two_59 : decode cX11_two 59 = .ok (.lreturn, 1) := dk_173 (dk_at dksX11_two_3 3 rfl rfl)
theorem q197 : (Jvm.Cond.initialized "ShrugHills$Chain") ∈ lw_all := lw_g (lw_at lw_m1 27 rfl) rfl
theorem q901 : (Jvm.Cond.selects "ShrugHills$Chain" ({ cls := "java/lang/Object", name := "getClass", desc := "()Ljava/lang/Class;" } : Jvm.MethodName) ({ cls := "java/lang/Object", name := "getClass", desc := "()Ljava/lang/Class;" } : Jvm.MethodName)) ∈ lw_all := lw_g (lw_at lw_m4 11 rfl) rfl
theorem q1023 : (Jvm.Cond.instantiable "ShrugHills$Chain" (2 : Nat)) ∈ lw_all := lw_g (lw_at lw_m4 133 rfl) rfl
theorem q1025 : (Jvm.Cond.instanceMethod ({ cls := "ShrugHills$Chain", name := "<init>", desc := "()V" } : Jvm.MethodName)) ∈ lw_all := lw_g (lw_at lw_m4 135 rfl) rfl
theorem q1026 : (Jvm.Cond.code ({ cls := "ShrugHills$Chain", name := "<init>", desc := "()V" } : Jvm.MethodName) prog_5_method_1_code (1 : Nat) (Option.none : Option Jvm.ClassFile.FieldType)) ∈ lw_all := lw_g (lw_at lw_m4 136 rfl) rfl
theorem q1027 : (Jvm.Cond.methodLinkNest "ShrugHills$Chain" (1 : Nat) ({ cls := "ShrugHills$Value", name := "<init>", desc := "()V" } : Jvm.MethodName) "ShrugHills") ∈ lw_tbl := lw_at lw_m4 137 rfl
theorem q1031 : (Jvm.Cond.classLink "ShrugHills$Chain" (7 : Nat) "java/util/ArrayList") ∈ lw_all := lw_g (lw_at lw_m4 141 rfl) rfl
theorem q1032 : (Jvm.Cond.methodLink "ShrugHills$Chain" (9 : Nat) ({ cls := "java/util/ArrayList", name := "<init>", desc := "(I)V" } : Jvm.MethodName)) ∈ lw_all := lw_g (lw_at lw_m4 142 rfl) rfl
theorem q1033 : (Jvm.Cond.classLink "ShrugHills$Chain" (18 : Nat) "java/lang/StringBuilder") ∈ lw_all := lw_g (lw_at lw_m4 143 rfl) rfl
theorem q1035 : (Jvm.Cond.methodLink "ShrugHills$Chain" (20 : Nat) ({ cls := "java/lang/StringBuilder", name := "<init>", desc := "()V" } : Jvm.MethodName)) ∈ lw_all := lw_g (lw_at lw_m4 145 rfl) rfl
theorem q1056 : (Jvm.Cond.fieldLink "ShrugHills$Chain" (12 : Nat) "ShrugHills$Chain" "values" "Ljava/util/List;") ∈ lw_all := lw_g (lw_at lw_m4 166 rfl) rfl
theorem q1057 : (Jvm.Cond.fieldLink "ShrugHills$Chain" (21 : Nat) "ShrugHills$Chain" "signs" "Ljava/lang/StringBuilder;") ∈ lw_all := lw_g (lw_at lw_m4 167 rfl) rfl
theorem q1058 : (Jvm.Cond.laysFinal "ShrugHills$Chain" "ShrugHills$Chain" "values" "Ljava/util/List;") ∈ lw_all := lw_g (lw_at lw_m4 168 rfl) rfl
theorem q1059 : (Jvm.Cond.soleField "ShrugHills$Chain" "values") ∈ lw_all := lw_g (lw_at lw_m4 169 rfl) rfl
theorem q1060 : (Jvm.Cond.laysFinal "ShrugHills$Chain" "ShrugHills$Chain" "signs" "Ljava/lang/StringBuilder;") ∈ lw_all := lw_g (lw_at lw_m4 170 rfl) rfl
theorem q1061 : (Jvm.Cond.soleField "ShrugHills$Chain" "signs") ∈ lw_all := lw_g (lw_at lw_m4 171 rfl) rfl
theorem q1062 : (Jvm.Cond.superclass "ShrugHills$Chain" "ShrugHills$Value") ∈ lw_all := lw_g (lw_at lw_m4 172 rfl) rfl
theorem q1142 : (Jvm.Cond.instanceMethod ({ cls := "ShrugHills$Chain", name := "add", desc := "(CLShrugHills$Value;)V" } : Jvm.MethodName)) ∈ lw_all := lw_g (lw_at lw_m5 12 rfl) rfl
theorem q1143 : (Jvm.Cond.selects "ShrugHills$Chain" ({ cls := "ShrugHills$Chain", name := "add", desc := "(CLShrugHills$Value;)V" } : Jvm.MethodName) ({ cls := "ShrugHills$Chain", name := "add", desc := "(CLShrugHills$Value;)V" } : Jvm.MethodName)) ∈ lw_all := lw_g (lw_at lw_m5 13 rfl) rfl
theorem q1144 : (Jvm.Cond.code ({ cls := "ShrugHills$Chain", name := "add", desc := "(CLShrugHills$Value;)V" } : Jvm.MethodName) prog_5_method_2_code (3 : Nat) (Option.none : Option Jvm.ClassFile.FieldType)) ∈ lw_all := lw_g (lw_at lw_m5 14 rfl) rfl
theorem q1145 : (Jvm.Cond.methodLink "ShrugHills$Chain" (25 : Nat) ({ cls := "java/lang/StringBuilder", name := "append", desc := "(C)Ljava/lang/StringBuilder;" } : Jvm.MethodName)) ∈ lw_all := lw_g (lw_at lw_m5 15 rfl) rfl
theorem q1200 : (Jvm.Cond.interfaceEntry "ShrugHills$Chain" (29 : Nat)) ∈ lw_tbl := lw_at lw_m5 70 rfl
theorem q1201 : (Jvm.Cond.methodLink "ShrugHills$Chain" (29 : Nat) ({ cls := "java/util/List", name := "add", desc := "(Ljava/lang/Object;)Z" } : Jvm.MethodName)) ∈ lw_all := lw_g (lw_at lw_m5 71 rfl) rfl
theorem q1415 : (Jvm.Cond.selects "ShrugHills$Chain" ({ cls := "ShrugHills$Value", name := "at", desc := "(LShrugHills$Moment;)J" } : Jvm.MethodName) ({ cls := "ShrugHills$Chain", name := "at", desc := "(LShrugHills$Moment;)J" } : Jvm.MethodName)) ∈ lw_all := lw_g (lw_at lw_m6 45 rfl) rfl
theorem q1416 : (Jvm.Cond.instanceMethod ({ cls := "ShrugHills$Chain", name := "at", desc := "(LShrugHills$Moment;)J" } : Jvm.MethodName)) ∈ lw_all := lw_g (lw_at lw_m6 46 rfl) rfl
theorem q1417 : (Jvm.Cond.code ({ cls := "ShrugHills$Chain", name := "at", desc := "(LShrugHills$Moment;)J" } : Jvm.MethodName) prog_5_method_3_code (5 : Nat) (Option.some Jvm.ClassFile.FieldType.long)) ∈ lw_all := lw_g (lw_at lw_m6 47 rfl) rfl
theorem q1418 : (Jvm.Cond.interfaceEntry "ShrugHills$Chain" (35 : Nat)) ∈ lw_tbl := lw_at lw_m6 48 rfl
theorem q1419 : (Jvm.Cond.methodLink "ShrugHills$Chain" (35 : Nat) ({ cls := "java/util/List", name := "get", desc := "(I)Ljava/lang/Object;" } : Jvm.MethodName)) ∈ lw_all := lw_g (lw_at lw_m6 49 rfl) rfl
theorem q1420 : (Jvm.Cond.classLink "ShrugHills$Chain" (2 : Nat) "ShrugHills$Value") ∈ lw_all := lw_g (lw_at lw_m6 50 rfl) rfl
theorem q1421 : (Jvm.Cond.methodLink "ShrugHills$Chain" (39 : Nat) ({ cls := "ShrugHills$Value", name := "at", desc := "(LShrugHills$Moment;)J" } : Jvm.MethodName)) ∈ lw_all := lw_g (lw_at lw_m6 51 rfl) rfl
theorem q1474 : (Jvm.Cond.interfaceEntry "ShrugHills$Chain" (43 : Nat)) ∈ lw_tbl := lw_at lw_m6 104 rfl
theorem q1475 : (Jvm.Cond.methodLink "ShrugHills$Chain" (43 : Nat) ({ cls := "java/util/List", name := "size", desc := "()I" } : Jvm.MethodName)) ∈ lw_all := lw_g (lw_at lw_m6 105 rfl) rfl
theorem q1476 : (Jvm.Cond.methodLink "ShrugHills$Chain" (47 : Nat) ({ cls := "java/lang/StringBuilder", name := "charAt", desc := "(I)C" } : Jvm.MethodName)) ∈ lw_all := lw_g (lw_at lw_m6 106 rfl) rfl
theorem q1486 : (Jvm.Cond.methodLink "ShrugHills$Chain" (51 : Nat) ({ cls := "ShrugHills$Chain", name := "two", desc := "(CJJ)J" } : Jvm.MethodName)) ∈ lw_all := lw_g (lw_at lw_m6 116 rfl) rfl
theorem q1487 : (Jvm.Cond.static ({ cls := "ShrugHills$Chain", name := "two", desc := "(CJJ)J" } : Jvm.MethodName)) ∈ lw_all := lw_g (lw_at lw_m6 117 rfl) rfl
theorem q1488 : (Jvm.Cond.code ({ cls := "ShrugHills$Chain", name := "two", desc := "(CJJ)J" } : Jvm.MethodName) prog_5_method_4_code (5 : Nat) (Option.some Jvm.ClassFile.FieldType.long)) ∈ lw_all := lw_g (lw_at lw_m6 118 rfl) rfl
theorem q1489 : (Jvm.Cond.methodLink "ShrugHills$Chain" (61 : Nat) ({ cls := "java/lang/Math", name := "floorDiv", desc := "(JJ)J" } : Jvm.MethodName)) ∈ lw_all := lw_g (lw_at lw_m6 119 rfl) rfl
theorem q1492 : (Jvm.Cond.methodLinkNest "ShrugHills$Chain" (55 : Nat) ({ cls := "ShrugHills", name := "held", desc := "(J)J" } : Jvm.MethodName) "ShrugHills") ∈ lw_tbl := lw_at lw_m6 122 rfl
theorem q2710 : (Jvm.Cond.castable "ShrugHills$Chain" "ShrugHills$Value") ∈ lw_tbl := lw_at lw_m11 140 rfl
theorem q2727 : (Jvm.Cond.castable "ShrugHills$Chain" "java/lang/Object") ∈ lw_tbl := lw_at lw_m11 157 rfl
theorem in_X11 : ∀ w ∈ wsX110, w ∈ lw_all := lw_in wsX110 [1058, 1060] (by decide +kernel) (by decide +kernel)
/-! ShrugHills$Pair -/
set_option maxRecDepth 100000
def RX12 : String := "ShrugHills$Pair"
def TX12 : u_T := fun k => match k with
  | 0 => ("ShrugHills$Pair", "most", "Z", true)
  | 1 => ("ShrugHills$Pair", "first", "LShrugHills$Value;", true)
  | _ => ("ShrugHills$Pair", "second", "LShrugHills$Value;", true)
def tyX12 : Nat → FieldType := fun k => match k with
  | 0 => .boolean
  | 1 => .object "ShrugHills$Value"
  | _ => .object "ShrugHills$Value"
abbrev wsX120 : List Cond := u_ws RX12 TX12 3
theorem nmX12 : ∀ a, a < 3 → ∀ b, b < 3 → a ≠ b → (TX12 a).2.1 ≠ (TX12 b).2.1 := by decide +kernel
theorem tyX12_ok : ∀ k, k < 3 → parseFieldDescriptor (TX12 k).2.2.1 = some (tyX12 k) := by decide +kernel
abbrev cX12_init : ByteArray := prog_13_method_1_code
def yX12_init : MethodName := ⟨RX12, "<init>", "(ZLShrugHills$Value;LShrugHills$Value;)V"⟩
def dkwX12_init_0 : List UInt8 := [42, 183, 0, 1, 42, 27, 181, 0, 7, 42, 44, 181, 0, 13, 42, 45, 181, 0, 17, 177]
abbrev dktX12_init_0 : List UInt8 := dkwX12_init_0 ++ []
theorem dksX12_init_0 : cX12_init.data.toList.drop 0 = dktX12_init_0 := by decide +kernel
theorem dX12_init_0 : decode cX12_init 0 = .ok (.aload_n 0, 1) := dk_42 (dk_at dksX12_init_0 0 rfl rfl)
theorem dX12_init_1 : decode cX12_init 1 = .ok (.invokespecial 1, 3) := dk_183 0 1 (dk_at dksX12_init_0 1 rfl rfl)
theorem dX12_init_4 : decode cX12_init 4 = .ok (.aload_n 0, 1) := dk_42 (dk_at dksX12_init_0 4 rfl rfl)
theorem dX12_init_5 : decode cX12_init 5 = .ok (.iload_n 1, 1) := dk_27 (dk_at dksX12_init_0 5 rfl rfl)
theorem dX12_init_6 : decode cX12_init 6 = .ok (.putfield 7, 3) := dk_181 0 7 (dk_at dksX12_init_0 6 rfl rfl)
theorem dX12_init_9 : decode cX12_init 9 = .ok (.aload_n 0, 1) := dk_42 (dk_at dksX12_init_0 9 rfl rfl)
theorem dX12_init_10 : decode cX12_init 10 = .ok (.aload_n 2, 1) := dk_44 (dk_at dksX12_init_0 10 rfl rfl)
theorem dX12_init_11 : decode cX12_init 11 = .ok (.putfield 13, 3) := dk_181 0 13 (dk_at dksX12_init_0 11 rfl rfl)
theorem dX12_init_14 : decode cX12_init 14 = .ok (.aload_n 0, 1) := dk_42 (dk_at dksX12_init_0 14 rfl rfl)
theorem dX12_init_15 : decode cX12_init 15 = .ok (.aload_n 3, 1) := dk_45 (dk_at dksX12_init_0 15 rfl rfl)
theorem dX12_init_16 : decode cX12_init 16 = .ok (.putfield 17, 3) := dk_181 0 17 (dk_at dksX12_init_0 16 rfl rfl)
theorem dX12_init_19 : decode cX12_init 19 = .ok (.return_, 1) := dk_177 (dk_at dksX12_init_0 19 rfl rfl)
abbrev cX12_at : ByteArray := prog_13_method_2_code
def yX12_at : MethodName := ⟨RX12, "at", "(LShrugHills$Moment;)J"⟩
def dkwX12_at_1 : List UInt8 := [22, 4, 148, 158, 0, 7, 4, 167, 0, 4, 3, 160, 0, 7, 32, 167, 0, 5, 22, 4, 173]
abbrev dktX12_at_1 : List UInt8 := dkwX12_at_1 ++ []
def dkwX12_at_0 : List UInt8 := [42, 180, 0, 13, 43, 182, 0, 20, 65, 42, 180, 0, 17, 43, 182, 0, 20, 55, 4, 42, 180, 0, 7, 32]
abbrev dktX12_at_0 : List UInt8 := dkwX12_at_0 ++ dktX12_at_1
theorem dksX12_at_0 : cX12_at.data.toList.drop 0 = dktX12_at_0 := by decide +kernel
theorem dksX12_at_1 : cX12_at.data.toList.drop 24 = dktX12_at_1 := dk_seg dksX12_at_0 24 rfl rfl
theorem dX12_at_0 : decode cX12_at 0 = .ok (.aload_n 0, 1) := dk_42 (dk_at dksX12_at_0 0 rfl rfl)
theorem dX12_at_1 : decode cX12_at 1 = .ok (.getfield 13, 3) := dk_180 0 13 (dk_at dksX12_at_0 1 rfl rfl)
theorem dX12_at_4 : decode cX12_at 4 = .ok (.aload_n 1, 1) := dk_43 (dk_at dksX12_at_0 4 rfl rfl)
theorem dX12_at_5 : decode cX12_at 5 = .ok (.invokevirtual 20, 3) := dk_182 0 20 (dk_at dksX12_at_0 5 rfl rfl)
theorem dX12_at_8 : decode cX12_at 8 = .ok (.lstore_n 2, 1) := dk_65 (dk_at dksX12_at_0 8 rfl rfl)
theorem dX12_at_9 : decode cX12_at 9 = .ok (.aload_n 0, 1) := dk_42 (dk_at dksX12_at_0 9 rfl rfl)
theorem dX12_at_10 : decode cX12_at 10 = .ok (.getfield 17, 3) := dk_180 0 17 (dk_at dksX12_at_0 10 rfl rfl)
theorem dX12_at_13 : decode cX12_at 13 = .ok (.aload_n 1, 1) := dk_43 (dk_at dksX12_at_0 13 rfl rfl)
theorem dX12_at_14 : decode cX12_at 14 = .ok (.invokevirtual 20, 3) := dk_182 0 20 (dk_at dksX12_at_0 14 rfl rfl)
theorem dX12_at_17 : decode cX12_at 17 = .ok (.lstore 4, 2) := dk_55 4 (dk_at dksX12_at_0 17 rfl rfl)
theorem dX12_at_19 : decode cX12_at 19 = .ok (.aload_n 0, 1) := dk_42 (dk_at dksX12_at_0 19 rfl rfl)
theorem dX12_at_20 : decode cX12_at 20 = .ok (.getfield 7, 3) := dk_180 0 7 (dk_at dksX12_at_0 20 rfl rfl)
theorem dX12_at_23 : decode cX12_at 23 = .ok (.lload_n 2, 1) := dk_32 (dk_at dksX12_at_0 23 rfl rfl)
theorem dX12_at_24 : decode cX12_at 24 = .ok (.lload 4, 2) := dk_22 4 (dk_at dksX12_at_1 0 rfl rfl)
theorem dX12_at_26 : decode cX12_at 26 = .ok (.lcmp, 1) := dk_148 (dk_at dksX12_at_1 2 rfl rfl)
theorem dX12_at_27 : decode cX12_at 27 = .ok (.ifCond .le 7, 3) := dk_158 0 7 (dk_at dksX12_at_1 3 rfl rfl)
theorem dX12_at_30 : decode cX12_at 30 = .ok (.iconst 1, 1) := dk_4 (dk_at dksX12_at_1 6 rfl rfl)
theorem dX12_at_31 : decode cX12_at 31 = .ok (.goto 4, 3) := dk_167 0 4 (dk_at dksX12_at_1 7 rfl rfl)
theorem dX12_at_34 : decode cX12_at 34 = .ok (.iconst 0, 1) := dk_3 (dk_at dksX12_at_1 10 rfl rfl)
theorem dX12_at_35 : decode cX12_at 35 = .ok (.if_icmp .ne 7, 3) := dk_160 0 7 (dk_at dksX12_at_1 11 rfl rfl)
theorem dX12_at_38 : decode cX12_at 38 = .ok (.lload_n 2, 1) := dk_32 (dk_at dksX12_at_1 14 rfl rfl)
theorem dX12_at_39 : decode cX12_at 39 = .ok (.goto 5, 3) := dk_167 0 5 (dk_at dksX12_at_1 15 rfl rfl)
theorem dX12_at_42 : decode cX12_at 42 = .ok (.lload 4, 2) := dk_22 4 (dk_at dksX12_at_1 18 rfl rfl)
theorem dX12_at_44 : decode cX12_at 44 = .ok (.lreturn, 1) := dk_173 (dk_at dksX12_at_1 20 rfl rfl)
theorem q200 : (Jvm.Cond.initialized "ShrugHills$Pair") ∈ lw_all := lw_g (lw_at lw_m1 30 rfl) rfl
theorem q909 : (Jvm.Cond.selects "ShrugHills$Pair" ({ cls := "java/lang/Object", name := "getClass", desc := "()Ljava/lang/Class;" } : Jvm.MethodName) ({ cls := "java/lang/Object", name := "getClass", desc := "()Ljava/lang/Class;" } : Jvm.MethodName)) ∈ lw_all := lw_g (lw_at lw_m4 19 rfl) rfl
theorem q1080 : (Jvm.Cond.instantiable "ShrugHills$Pair" (3 : Nat)) ∈ lw_all := lw_g (lw_at lw_m4 190 rfl) rfl
theorem q1082 : (Jvm.Cond.instanceMethod ({ cls := "ShrugHills$Pair", name := "<init>", desc := "(ZLShrugHills$Value;LShrugHills$Value;)V" } : Jvm.MethodName)) ∈ lw_all := lw_g (lw_at lw_m4 192 rfl) rfl
theorem q1083 : (Jvm.Cond.code ({ cls := "ShrugHills$Pair", name := "<init>", desc := "(ZLShrugHills$Value;LShrugHills$Value;)V" } : Jvm.MethodName) prog_13_method_1_code (4 : Nat) (Option.none : Option Jvm.ClassFile.FieldType)) ∈ lw_all := lw_g (lw_at lw_m4 193 rfl) rfl
theorem q1084 : (Jvm.Cond.methodLinkNest "ShrugHills$Pair" (1 : Nat) ({ cls := "ShrugHills$Value", name := "<init>", desc := "()V" } : Jvm.MethodName) "ShrugHills") ∈ lw_tbl := lw_at lw_m4 194 rfl
theorem q1085 : (Jvm.Cond.fieldLink "ShrugHills$Pair" (7 : Nat) "ShrugHills$Pair" "most" "Z") ∈ lw_all := lw_g (lw_at lw_m4 195 rfl) rfl
theorem q1086 : (Jvm.Cond.fieldLink "ShrugHills$Pair" (13 : Nat) "ShrugHills$Pair" "first" "LShrugHills$Value;") ∈ lw_all := lw_g (lw_at lw_m4 196 rfl) rfl
theorem q1087 : (Jvm.Cond.fieldLink "ShrugHills$Pair" (17 : Nat) "ShrugHills$Pair" "second" "LShrugHills$Value;") ∈ lw_all := lw_g (lw_at lw_m4 197 rfl) rfl
theorem q1088 : (Jvm.Cond.laysFinal "ShrugHills$Pair" "ShrugHills$Pair" "most" "Z") ∈ lw_all := lw_g (lw_at lw_m4 198 rfl) rfl
theorem q1089 : (Jvm.Cond.soleField "ShrugHills$Pair" "most") ∈ lw_all := lw_g (lw_at lw_m4 199 rfl) rfl
theorem q1090 : (Jvm.Cond.laysFinal "ShrugHills$Pair" "ShrugHills$Pair" "first" "LShrugHills$Value;") ∈ lw_all := lw_g (lw_at lw_m4 200 rfl) rfl
theorem q1091 : (Jvm.Cond.soleField "ShrugHills$Pair" "first") ∈ lw_all := lw_g (lw_at lw_m4 201 rfl) rfl
theorem q1092 : (Jvm.Cond.laysFinal "ShrugHills$Pair" "ShrugHills$Pair" "second" "LShrugHills$Value;") ∈ lw_all := lw_g (lw_at lw_m4 202 rfl) rfl
theorem q1093 : (Jvm.Cond.soleField "ShrugHills$Pair" "second") ∈ lw_all := lw_g (lw_at lw_m4 203 rfl) rfl
theorem q1094 : (Jvm.Cond.superclass "ShrugHills$Pair" "ShrugHills$Value") ∈ lw_all := lw_g (lw_at lw_m4 204 rfl) rfl
theorem q1427 : (Jvm.Cond.instanceMethod ({ cls := "ShrugHills$Pair", name := "at", desc := "(LShrugHills$Moment;)J" } : Jvm.MethodName)) ∈ lw_all := lw_g (lw_at lw_m6 57 rfl) rfl
theorem q1428 : (Jvm.Cond.code ({ cls := "ShrugHills$Pair", name := "at", desc := "(LShrugHills$Moment;)J" } : Jvm.MethodName) prog_13_method_2_code (6 : Nat) (Option.some Jvm.ClassFile.FieldType.long)) ∈ lw_all := lw_g (lw_at lw_m6 58 rfl) rfl
theorem q1429 : (Jvm.Cond.methodLink "ShrugHills$Pair" (20 : Nat) ({ cls := "ShrugHills$Value", name := "at", desc := "(LShrugHills$Moment;)J" } : Jvm.MethodName)) ∈ lw_all := lw_g (lw_at lw_m6 59 rfl) rfl
theorem q1495 : (Jvm.Cond.selects "ShrugHills$Pair" ({ cls := "ShrugHills$Value", name := "at", desc := "(LShrugHills$Moment;)J" } : Jvm.MethodName) ({ cls := "ShrugHills$Pair", name := "at", desc := "(LShrugHills$Moment;)J" } : Jvm.MethodName)) ∈ lw_all := lw_g (lw_at lw_m6 125 rfl) rfl
theorem q2713 : (Jvm.Cond.castable "ShrugHills$Pair" "ShrugHills$Value") ∈ lw_tbl := lw_at lw_m11 143 rfl
theorem q2729 : (Jvm.Cond.castable "ShrugHills$Pair" "java/lang/Object") ∈ lw_tbl := lw_at lw_m11 159 rfl
theorem in_X12 : ∀ w ∈ wsX120, w ∈ lw_all := lw_in wsX120 [1088, 1090, 1092] (by decide +kernel) (by decide +kernel)
/-! ShrugHills$Fixed -/
set_option maxRecDepth 100000
def RX13 : String := "ShrugHills$Fixed"
def TX13 : u_T := fun k => match k with
  | _ => ("ShrugHills$Fixed", "value", "J", true)
def tyX13 : Nat → FieldType := fun k => match k with
  | _ => .long
abbrev wsX130 : List Cond := u_ws RX13 TX13 1
theorem nmX13 : ∀ a, a < 1 → ∀ b, b < 1 → a ≠ b → (TX13 a).2.1 ≠ (TX13 b).2.1 := by decide +kernel
theorem tyX13_ok : ∀ k, k < 1 → parseFieldDescriptor (TX13 k).2.2.1 = some (tyX13 k) := by decide +kernel
abbrev cX13_init : ByteArray := prog_8_method_1_code
def yX13_init : MethodName := ⟨RX13, "<init>", "(J)V"⟩
def dkwX13_init_0 : List UInt8 := [42, 183, 0, 1, 42, 31, 181, 0, 7, 177]
abbrev dktX13_init_0 : List UInt8 := dkwX13_init_0 ++ []
theorem dksX13_init_0 : cX13_init.data.toList.drop 0 = dktX13_init_0 := by decide +kernel
theorem dX13_init_0 : decode cX13_init 0 = .ok (.aload_n 0, 1) := dk_42 (dk_at dksX13_init_0 0 rfl rfl)
theorem dX13_init_1 : decode cX13_init 1 = .ok (.invokespecial 1, 3) := dk_183 0 1 (dk_at dksX13_init_0 1 rfl rfl)
theorem dX13_init_4 : decode cX13_init 4 = .ok (.aload_n 0, 1) := dk_42 (dk_at dksX13_init_0 4 rfl rfl)
theorem dX13_init_5 : decode cX13_init 5 = .ok (.lload_n 1, 1) := dk_31 (dk_at dksX13_init_0 5 rfl rfl)
theorem dX13_init_6 : decode cX13_init 6 = .ok (.putfield 7, 3) := dk_181 0 7 (dk_at dksX13_init_0 6 rfl rfl)
theorem dX13_init_9 : decode cX13_init 9 = .ok (.return_, 1) := dk_177 (dk_at dksX13_init_0 9 rfl rfl)
abbrev cX13_at : ByteArray := prog_8_method_2_code
def yX13_at : MethodName := ⟨RX13, "at", "(LShrugHills$Moment;)J"⟩
theorem dX13_at_0 : decode cX13_at 0 = .ok (.aload_n 0, 1) := by decide +kernel
theorem dX13_at_1 : decode cX13_at 1 = .ok (.getfield 7, 3) := by decide +kernel
theorem dX13_at_4 : decode cX13_at 4 = .ok (.lreturn, 1) := by decide +kernel
theorem q201 : (Jvm.Cond.initialized "ShrugHills$Fixed") ∈ lw_all := lw_g (lw_at lw_m1 31 rfl) rfl
theorem q904 : (Jvm.Cond.selects "ShrugHills$Fixed" ({ cls := "java/lang/Object", name := "getClass", desc := "()Ljava/lang/Class;" } : Jvm.MethodName) ({ cls := "java/lang/Object", name := "getClass", desc := "()Ljava/lang/Class;" } : Jvm.MethodName)) ∈ lw_all := lw_g (lw_at lw_m4 14 rfl) rfl
theorem q1096 : (Jvm.Cond.instantiable "ShrugHills$Fixed" (1 : Nat)) ∈ lw_all := lw_g (lw_at lw_m4 206 rfl) rfl
theorem q1098 : (Jvm.Cond.instanceMethod ({ cls := "ShrugHills$Fixed", name := "<init>", desc := "(J)V" } : Jvm.MethodName)) ∈ lw_all := lw_g (lw_at lw_m4 208 rfl) rfl
theorem q1099 : (Jvm.Cond.code ({ cls := "ShrugHills$Fixed", name := "<init>", desc := "(J)V" } : Jvm.MethodName) prog_8_method_1_code (3 : Nat) (Option.none : Option Jvm.ClassFile.FieldType)) ∈ lw_all := lw_g (lw_at lw_m4 209 rfl) rfl
theorem q1100 : (Jvm.Cond.methodLinkNest "ShrugHills$Fixed" (1 : Nat) ({ cls := "ShrugHills$Value", name := "<init>", desc := "()V" } : Jvm.MethodName) "ShrugHills") ∈ lw_tbl := lw_at lw_m4 210 rfl
theorem q1101 : (Jvm.Cond.fieldLink "ShrugHills$Fixed" (7 : Nat) "ShrugHills$Fixed" "value" "J") ∈ lw_all := lw_g (lw_at lw_m4 211 rfl) rfl
theorem q1102 : (Jvm.Cond.laysFinal "ShrugHills$Fixed" "ShrugHills$Fixed" "value" "J") ∈ lw_all := lw_g (lw_at lw_m4 212 rfl) rfl
theorem q1103 : (Jvm.Cond.soleField "ShrugHills$Fixed" "value") ∈ lw_all := lw_g (lw_at lw_m4 213 rfl) rfl
theorem q1104 : (Jvm.Cond.superclass "ShrugHills$Fixed" "ShrugHills$Value") ∈ lw_all := lw_g (lw_at lw_m4 214 rfl) rfl
theorem q1422 : (Jvm.Cond.instanceMethod ({ cls := "ShrugHills$Fixed", name := "at", desc := "(LShrugHills$Moment;)J" } : Jvm.MethodName)) ∈ lw_all := lw_g (lw_at lw_m6 52 rfl) rfl
theorem q1423 : (Jvm.Cond.code ({ cls := "ShrugHills$Fixed", name := "at", desc := "(LShrugHills$Moment;)J" } : Jvm.MethodName) prog_8_method_2_code (2 : Nat) (Option.some Jvm.ClassFile.FieldType.long)) ∈ lw_all := lw_g (lw_at lw_m6 53 rfl) rfl
theorem q1493 : (Jvm.Cond.selects "ShrugHills$Fixed" ({ cls := "ShrugHills$Value", name := "at", desc := "(LShrugHills$Moment;)J" } : Jvm.MethodName) ({ cls := "ShrugHills$Fixed", name := "at", desc := "(LShrugHills$Moment;)J" } : Jvm.MethodName)) ∈ lw_all := lw_g (lw_at lw_m6 123 rfl) rfl
theorem q2711 : (Jvm.Cond.castable "ShrugHills$Fixed" "ShrugHills$Value") ∈ lw_tbl := lw_at lw_m11 141 rfl
theorem q2730 : (Jvm.Cond.castable "ShrugHills$Fixed" "java/lang/Object") ∈ lw_tbl := lw_at lw_m11 160 rfl
theorem in_X13 : ∀ w ∈ wsX130, w ∈ lw_all := lw_in wsX130 [1102] (by decide +kernel) (by decide +kernel)
/-! ShrugHills$Asked -/
set_option maxRecDepth 100000
def RX14 : String := "ShrugHills$Asked"
def TX14 : u_T := fun k => match k with
  | _ => ("ShrugHills$Asked", "what", "I", true)
def tyX14 : Nat → FieldType := fun k => match k with
  | _ => .int
abbrev wsX140 : List Cond := u_ws RX14 TX14 1
theorem nmX14 : ∀ a, a < 1 → ∀ b, b < 1 → a ≠ b → (TX14 a).2.1 ≠ (TX14 b).2.1 := by decide +kernel
theorem tyX14_ok : ∀ k, k < 1 → parseFieldDescriptor (TX14 k).2.2.1 = some (tyX14 k) := by decide +kernel
abbrev cX14_init : ByteArray := prog_3_method_1_code
def yX14_init : MethodName := ⟨RX14, "<init>", "(I)V"⟩
def dkwX14_init_0 : List UInt8 := [42, 183, 0, 1, 42, 27, 181, 0, 7, 177]
abbrev dktX14_init_0 : List UInt8 := dkwX14_init_0 ++ []
theorem dksX14_init_0 : cX14_init.data.toList.drop 0 = dktX14_init_0 := by decide +kernel
theorem dX14_init_0 : decode cX14_init 0 = .ok (.aload_n 0, 1) := dk_42 (dk_at dksX14_init_0 0 rfl rfl)
theorem dX14_init_1 : decode cX14_init 1 = .ok (.invokespecial 1, 3) := dk_183 0 1 (dk_at dksX14_init_0 1 rfl rfl)
theorem dX14_init_4 : decode cX14_init 4 = .ok (.aload_n 0, 1) := dk_42 (dk_at dksX14_init_0 4 rfl rfl)
theorem dX14_init_5 : decode cX14_init 5 = .ok (.iload_n 1, 1) := dk_27 (dk_at dksX14_init_0 5 rfl rfl)
theorem dX14_init_6 : decode cX14_init 6 = .ok (.putfield 7, 3) := dk_181 0 7 (dk_at dksX14_init_0 6 rfl rfl)
theorem dX14_init_9 : decode cX14_init 9 = .ok (.return_, 1) := dk_177 (dk_at dksX14_init_0 9 rfl rfl)
abbrev cX14_at : ByteArray := prog_3_method_2_code
def yX14_at : MethodName := ⟨RX14, "at", "(LShrugHills$Moment;)J"⟩
def dkwX14_at_0 : List UInt8 := [43, 180, 0, 13, 42, 180, 0, 7, 47, 184, 0, 19, 173]
abbrev dktX14_at_0 : List UInt8 := dkwX14_at_0 ++ []
theorem dksX14_at_0 : cX14_at.data.toList.drop 0 = dktX14_at_0 := by decide +kernel
theorem dX14_at_0 : decode cX14_at 0 = .ok (.aload_n 1, 1) := dk_43 (dk_at dksX14_at_0 0 rfl rfl)
theorem dX14_at_1 : decode cX14_at 1 = .ok (.getfield 13, 3) := dk_180 0 13 (dk_at dksX14_at_0 1 rfl rfl)
theorem dX14_at_4 : decode cX14_at 4 = .ok (.aload_n 0, 1) := dk_42 (dk_at dksX14_at_0 4 rfl rfl)
theorem dX14_at_5 : decode cX14_at 5 = .ok (.getfield 7, 3) := dk_180 0 7 (dk_at dksX14_at_0 5 rfl rfl)
theorem dX14_at_8 : decode cX14_at 8 = .ok (.laload, 1) := dk_47 (dk_at dksX14_at_0 8 rfl rfl)
theorem dX14_at_9 : decode cX14_at 9 = .ok (.invokestatic 19, 3) := dk_184 0 19 (dk_at dksX14_at_0 9 rfl rfl)
theorem dX14_at_12 : decode cX14_at 12 = .ok (.lreturn, 1) := dk_173 (dk_at dksX14_at_0 12 rfl rfl)
theorem q202 : (Jvm.Cond.initialized "ShrugHills$Asked") ∈ lw_all := lw_g (lw_at lw_m1 32 rfl) rfl
theorem q416 : (Jvm.Cond.fieldLinkNest "ShrugHills$Asked" (13 : Nat) "ShrugHills$Moment" "of" "[J" "ShrugHills") ∈ lw_tbl := lw_at lw_m2 6 rfl
theorem q899 : (Jvm.Cond.selects "ShrugHills$Asked" ({ cls := "java/lang/Object", name := "getClass", desc := "()Ljava/lang/Class;" } : Jvm.MethodName) ({ cls := "java/lang/Object", name := "getClass", desc := "()Ljava/lang/Class;" } : Jvm.MethodName)) ∈ lw_all := lw_g (lw_at lw_m4 9 rfl) rfl
theorem q1108 : (Jvm.Cond.instantiable "ShrugHills$Asked" (1 : Nat)) ∈ lw_all := lw_g (lw_at lw_m4 218 rfl) rfl
theorem q1110 : (Jvm.Cond.instanceMethod ({ cls := "ShrugHills$Asked", name := "<init>", desc := "(I)V" } : Jvm.MethodName)) ∈ lw_all := lw_g (lw_at lw_m4 220 rfl) rfl
theorem q1111 : (Jvm.Cond.code ({ cls := "ShrugHills$Asked", name := "<init>", desc := "(I)V" } : Jvm.MethodName) prog_3_method_1_code (2 : Nat) (Option.none : Option Jvm.ClassFile.FieldType)) ∈ lw_all := lw_g (lw_at lw_m4 221 rfl) rfl
theorem q1112 : (Jvm.Cond.methodLinkNest "ShrugHills$Asked" (1 : Nat) ({ cls := "ShrugHills$Value", name := "<init>", desc := "()V" } : Jvm.MethodName) "ShrugHills") ∈ lw_tbl := lw_at lw_m4 222 rfl
theorem q1113 : (Jvm.Cond.fieldLink "ShrugHills$Asked" (7 : Nat) "ShrugHills$Asked" "what" "I") ∈ lw_all := lw_g (lw_at lw_m4 223 rfl) rfl
theorem q1114 : (Jvm.Cond.laysFinal "ShrugHills$Asked" "ShrugHills$Asked" "what" "I") ∈ lw_all := lw_g (lw_at lw_m4 224 rfl) rfl
theorem q1115 : (Jvm.Cond.soleField "ShrugHills$Asked" "what") ∈ lw_all := lw_g (lw_at lw_m4 225 rfl) rfl
theorem q1116 : (Jvm.Cond.superclass "ShrugHills$Asked" "ShrugHills$Value") ∈ lw_all := lw_g (lw_at lw_m4 226 rfl) rfl
theorem q1401 : (Jvm.Cond.selects "ShrugHills$Asked" ({ cls := "ShrugHills$Value", name := "at", desc := "(LShrugHills$Moment;)J" } : Jvm.MethodName) ({ cls := "ShrugHills$Asked", name := "at", desc := "(LShrugHills$Moment;)J" } : Jvm.MethodName)) ∈ lw_all := lw_g (lw_at lw_m6 31 rfl) rfl
theorem q1402 : (Jvm.Cond.instanceMethod ({ cls := "ShrugHills$Asked", name := "at", desc := "(LShrugHills$Moment;)J" } : Jvm.MethodName)) ∈ lw_all := lw_g (lw_at lw_m6 32 rfl) rfl
theorem q1403 : (Jvm.Cond.code ({ cls := "ShrugHills$Asked", name := "at", desc := "(LShrugHills$Moment;)J" } : Jvm.MethodName) prog_3_method_2_code (2 : Nat) (Option.some Jvm.ClassFile.FieldType.long)) ∈ lw_all := lw_g (lw_at lw_m6 33 rfl) rfl
theorem q1404 : (Jvm.Cond.methodLinkNest "ShrugHills$Asked" (19 : Nat) ({ cls := "ShrugHills", name := "held", desc := "(J)J" } : Jvm.MethodName) "ShrugHills") ∈ lw_tbl := lw_at lw_m6 34 rfl
theorem q2709 : (Jvm.Cond.castable "ShrugHills$Asked" "ShrugHills$Value") ∈ lw_tbl := lw_at lw_m11 139 rfl
theorem q2731 : (Jvm.Cond.castable "ShrugHills$Asked" "java/lang/Object") ∈ lw_tbl := lw_at lw_m11 161 rfl
theorem in_X14 : ∀ w ∈ wsX140, w ∈ lw_all := lw_in wsX140 [1114] (by decide +kernel) (by decide +kernel)
/-! ShrugHills$Looked -/
set_option maxRecDepth 100000
def RX15 : String := "ShrugHills$Looked"
def TX15 : u_T := fun k => match k with
  | 0 => ("ShrugHills$Looked", "what", "I", true)
  | 1 => ("ShrugHills$Looked", "of", "LShrugHills$Value;", true)
  | _ => ("ShrugHills$Looked", "this$0", "LShrugHills;", true)
def tyX15 : Nat → FieldType := fun k => match k with
  | 0 => .int
  | 1 => .object "ShrugHills$Value"
  | _ => .object "ShrugHills"
abbrev wsX150 : List Cond := u_ws RX15 TX15 3
theorem nmX15 : ∀ a, a < 3 → ∀ b, b < 3 → a ≠ b → (TX15 a).2.1 ≠ (TX15 b).2.1 := by decide +kernel
theorem tyX15_ok : ∀ k, k < 3 → parseFieldDescriptor (TX15 k).2.2.1 = some (tyX15 k) := by decide +kernel
abbrev cX15_init : ByteArray := prog_9_method_1_code
def yX15_init : MethodName := ⟨RX15, "<init>", "(LShrugHills;ILShrugHills$Value;)V"⟩
def dkwX15_init_0 : List UInt8 := [42, 43, 181, 0, 1, 42, 183, 0, 7, 42, 28, 181, 0, 13, 42, 45, 181, 0, 17, 177]
abbrev dktX15_init_0 : List UInt8 := dkwX15_init_0 ++ []
theorem dksX15_init_0 : cX15_init.data.toList.drop 0 = dktX15_init_0 := by decide +kernel
theorem dX15_init_0 : decode cX15_init 0 = .ok (.aload_n 0, 1) := dk_42 (dk_at dksX15_init_0 0 rfl rfl)
theorem dX15_init_1 : decode cX15_init 1 = .ok (.aload_n 1, 1) := dk_43 (dk_at dksX15_init_0 1 rfl rfl)
theorem dX15_init_2 : decode cX15_init 2 = .ok (.putfield 1, 3) := dk_181 0 1 (dk_at dksX15_init_0 2 rfl rfl)
theorem dX15_init_5 : decode cX15_init 5 = .ok (.aload_n 0, 1) := dk_42 (dk_at dksX15_init_0 5 rfl rfl)
theorem dX15_init_6 : decode cX15_init 6 = .ok (.invokespecial 7, 3) := dk_183 0 7 (dk_at dksX15_init_0 6 rfl rfl)
theorem dX15_init_9 : decode cX15_init 9 = .ok (.aload_n 0, 1) := dk_42 (dk_at dksX15_init_0 9 rfl rfl)
theorem dX15_init_10 : decode cX15_init 10 = .ok (.iload_n 2, 1) := dk_28 (dk_at dksX15_init_0 10 rfl rfl)
theorem dX15_init_11 : decode cX15_init 11 = .ok (.putfield 13, 3) := dk_181 0 13 (dk_at dksX15_init_0 11 rfl rfl)
theorem dX15_init_14 : decode cX15_init 14 = .ok (.aload_n 0, 1) := dk_42 (dk_at dksX15_init_0 14 rfl rfl)
theorem dX15_init_15 : decode cX15_init 15 = .ok (.aload_n 3, 1) := dk_45 (dk_at dksX15_init_0 15 rfl rfl)
theorem dX15_init_16 : decode cX15_init 16 = .ok (.putfield 17, 3) := dk_181 0 17 (dk_at dksX15_init_0 16 rfl rfl)
theorem dX15_init_19 : decode cX15_init 19 = .ok (.return_, 1) := dk_177 (dk_at dksX15_init_0 19 rfl rfl)
abbrev cX15_at : ByteArray := prog_9_method_2_code
def yX15_at : MethodName := ⟨RX15, "at", "(LShrugHills$Moment;)J"⟩
def dkwX15_at_0 : List UInt8 := [42, 180, 0, 1, 42, 180, 0, 13, 42, 180, 0, 17, 43, 182, 0, 21, 182, 0, 25, 184, 0, 31, 173]
abbrev dktX15_at_0 : List UInt8 := dkwX15_at_0 ++ []
theorem dksX15_at_0 : cX15_at.data.toList.drop 0 = dktX15_at_0 := by decide +kernel
theorem dX15_at_0 : decode cX15_at 0 = .ok (.aload_n 0, 1) := dk_42 (dk_at dksX15_at_0 0 rfl rfl)
theorem dX15_at_1 : decode cX15_at 1 = .ok (.getfield 1, 3) := dk_180 0 1 (dk_at dksX15_at_0 1 rfl rfl)
theorem dX15_at_4 : decode cX15_at 4 = .ok (.aload_n 0, 1) := dk_42 (dk_at dksX15_at_0 4 rfl rfl)
theorem dX15_at_5 : decode cX15_at 5 = .ok (.getfield 13, 3) := dk_180 0 13 (dk_at dksX15_at_0 5 rfl rfl)
theorem dX15_at_8 : decode cX15_at 8 = .ok (.aload_n 0, 1) := dk_42 (dk_at dksX15_at_0 8 rfl rfl)
theorem dX15_at_9 : decode cX15_at 9 = .ok (.getfield 17, 3) := dk_180 0 17 (dk_at dksX15_at_0 9 rfl rfl)
theorem dX15_at_12 : decode cX15_at 12 = .ok (.aload_n 1, 1) := dk_43 (dk_at dksX15_at_0 12 rfl rfl)
theorem dX15_at_13 : decode cX15_at 13 = .ok (.invokevirtual 21, 3) := dk_182 0 21 (dk_at dksX15_at_0 13 rfl rfl)
theorem dX15_at_16 : decode cX15_at 16 = .ok (.invokevirtual 25, 3) := dk_182 0 25 (dk_at dksX15_at_0 16 rfl rfl)
theorem dX15_at_19 : decode cX15_at 19 = .ok (.invokestatic 31, 3) := dk_184 0 31 (dk_at dksX15_at_0 19 rfl rfl)
theorem dX15_at_22 : decode cX15_at 22 = .ok (.lreturn, 1) := dk_173 (dk_at dksX15_at_0 22 rfl rfl)
theorem q203 : (Jvm.Cond.initialized "ShrugHills$Looked") ∈ lw_all := lw_g (lw_at lw_m1 33 rfl) rfl
theorem q905 : (Jvm.Cond.selects "ShrugHills$Looked" ({ cls := "java/lang/Object", name := "getClass", desc := "()Ljava/lang/Class;" } : Jvm.MethodName) ({ cls := "java/lang/Object", name := "getClass", desc := "()Ljava/lang/Class;" } : Jvm.MethodName)) ∈ lw_all := lw_g (lw_at lw_m4 15 rfl) rfl
theorem q1124 : (Jvm.Cond.instantiable "ShrugHills$Looked" (3 : Nat)) ∈ lw_all := lw_g (lw_at lw_m4 234 rfl) rfl
theorem q1126 : (Jvm.Cond.instanceMethod ({ cls := "ShrugHills$Looked", name := "<init>", desc := "(LShrugHills;ILShrugHills$Value;)V" } : Jvm.MethodName)) ∈ lw_all := lw_g (lw_at lw_m4 236 rfl) rfl
theorem q1127 : (Jvm.Cond.code ({ cls := "ShrugHills$Looked", name := "<init>", desc := "(LShrugHills;ILShrugHills$Value;)V" } : Jvm.MethodName) prog_9_method_1_code (4 : Nat) (Option.none : Option Jvm.ClassFile.FieldType)) ∈ lw_all := lw_g (lw_at lw_m4 237 rfl) rfl
theorem q1128 : (Jvm.Cond.methodLinkNest "ShrugHills$Looked" (7 : Nat) ({ cls := "ShrugHills$Value", name := "<init>", desc := "()V" } : Jvm.MethodName) "ShrugHills") ∈ lw_tbl := lw_at lw_m4 238 rfl
theorem q1129 : (Jvm.Cond.fieldLink "ShrugHills$Looked" (13 : Nat) "ShrugHills$Looked" "what" "I") ∈ lw_all := lw_g (lw_at lw_m4 239 rfl) rfl
theorem q1130 : (Jvm.Cond.fieldLink "ShrugHills$Looked" (17 : Nat) "ShrugHills$Looked" "of" "LShrugHills$Value;") ∈ lw_all := lw_g (lw_at lw_m5 0 rfl) rfl
theorem q1131 : (Jvm.Cond.fieldLink "ShrugHills$Looked" (1 : Nat) "ShrugHills$Looked" "this$0" "LShrugHills;") ∈ lw_all := lw_g (lw_at lw_m5 1 rfl) rfl
theorem q1132 : (Jvm.Cond.laysFinal "ShrugHills$Looked" "ShrugHills$Looked" "what" "I") ∈ lw_all := lw_g (lw_at lw_m5 2 rfl) rfl
theorem q1133 : (Jvm.Cond.soleField "ShrugHills$Looked" "what") ∈ lw_all := lw_g (lw_at lw_m5 3 rfl) rfl
theorem q1134 : (Jvm.Cond.laysFinal "ShrugHills$Looked" "ShrugHills$Looked" "of" "LShrugHills$Value;") ∈ lw_all := lw_g (lw_at lw_m5 4 rfl) rfl
theorem q1135 : (Jvm.Cond.soleField "ShrugHills$Looked" "of") ∈ lw_all := lw_g (lw_at lw_m5 5 rfl) rfl
theorem q1136 : (Jvm.Cond.laysFinal "ShrugHills$Looked" "ShrugHills$Looked" "this$0" "LShrugHills;") ∈ lw_all := lw_g (lw_at lw_m5 6 rfl) rfl
theorem q1137 : (Jvm.Cond.soleField "ShrugHills$Looked" "this$0") ∈ lw_all := lw_g (lw_at lw_m5 7 rfl) rfl
theorem q1138 : (Jvm.Cond.superclass "ShrugHills$Looked" "ShrugHills$Value") ∈ lw_all := lw_g (lw_at lw_m5 8 rfl) rfl
theorem q1424 : (Jvm.Cond.instanceMethod ({ cls := "ShrugHills$Looked", name := "at", desc := "(LShrugHills$Moment;)J" } : Jvm.MethodName)) ∈ lw_all := lw_g (lw_at lw_m6 54 rfl) rfl
theorem q1425 : (Jvm.Cond.code ({ cls := "ShrugHills$Looked", name := "at", desc := "(LShrugHills$Moment;)J" } : Jvm.MethodName) prog_9_method_2_code (2 : Nat) (Option.some Jvm.ClassFile.FieldType.long)) ∈ lw_all := lw_g (lw_at lw_m6 55 rfl) rfl
theorem q1426 : (Jvm.Cond.methodLink "ShrugHills$Looked" (21 : Nat) ({ cls := "ShrugHills$Value", name := "at", desc := "(LShrugHills$Moment;)J" } : Jvm.MethodName)) ∈ lw_all := lw_g (lw_at lw_m6 56 rfl) rfl
theorem q1430 : (Jvm.Cond.methodLinkNest "ShrugHills$Looked" (25 : Nat) ({ cls := "ShrugHills", name := "looked", desc := "(IJ)J" } : Jvm.MethodName) "ShrugHills") ∈ lw_tbl := lw_at lw_m6 60 rfl
theorem q1473 : (Jvm.Cond.methodLinkNest "ShrugHills$Looked" (31 : Nat) ({ cls := "ShrugHills", name := "held", desc := "(J)J" } : Jvm.MethodName) "ShrugHills") ∈ lw_tbl := lw_at lw_m6 103 rfl
theorem q1494 : (Jvm.Cond.selects "ShrugHills$Looked" ({ cls := "ShrugHills$Value", name := "at", desc := "(LShrugHills$Moment;)J" } : Jvm.MethodName) ({ cls := "ShrugHills$Looked", name := "at", desc := "(LShrugHills$Moment;)J" } : Jvm.MethodName)) ∈ lw_all := lw_g (lw_at lw_m6 124 rfl) rfl
theorem q2712 : (Jvm.Cond.castable "ShrugHills$Looked" "ShrugHills$Value") ∈ lw_tbl := lw_at lw_m11 142 rfl
theorem q2732 : (Jvm.Cond.castable "ShrugHills$Looked" "java/lang/Object") ∈ lw_tbl := lw_at lw_m11 162 rfl
theorem in_X15 : ∀ w ∈ wsX150, w ∈ lw_all := lw_in wsX150 [1132, 1134, 1136] (by decide +kernel) (by decide +kernel)
/-! ShrugHills$Test -/
set_option maxRecDepth 100000
def RX16 : String := "ShrugHills$Test"
abbrev cX16_init : ByteArray := prog_19_method_1_code
def yX16_init : MethodName := ⟨RX16, "<init>", "()V"⟩
theorem dX16_init_0 : decode cX16_init 0 = .ok (.aload_n 0, 1) := by decide +kernel
theorem dX16_init_1 : decode cX16_init 1 = .ok (.invokespecial 1, 3) := by decide +kernel
theorem dX16_init_4 : decode cX16_init 4 = .ok (.return_, 1) := by decide +kernel
theorem q204 : (Jvm.Cond.initialized "ShrugHills$Test") ∈ lw_all := lw_g (lw_at lw_m1 34 rfl) rfl
theorem q1216 : (Jvm.Cond.instanceMethod ({ cls := "ShrugHills$Test", name := "<init>", desc := "()V" } : Jvm.MethodName)) ∈ lw_all := lw_g (lw_at lw_m5 86 rfl) rfl
theorem q1217 : (Jvm.Cond.code ({ cls := "ShrugHills$Test", name := "<init>", desc := "()V" } : Jvm.MethodName) prog_19_method_1_code (1 : Nat) (Option.none : Option Jvm.ClassFile.FieldType)) ∈ lw_all := lw_g (lw_at lw_m5 87 rfl) rfl
theorem q1218 : (Jvm.Cond.methodLink "ShrugHills$Test" (1 : Nat) ({ cls := "java/lang/Object", name := "<init>", desc := "()V" } : Jvm.MethodName)) ∈ lw_all := lw_g (lw_at lw_m5 88 rfl) rfl
theorem q1379 : (Jvm.Cond.declares ({ cls := "ShrugHills$Test", name := "holds", desc := "(LShrugHills$Moment;)Z" } : Jvm.MethodName)) ∈ lw_tbl := lw_at lw_m6 9 rfl
theorem q1380 : (Jvm.Cond.sameMethod "ShrugHills$Test" "ShrugHills$Test" "holds" "(LShrugHills$Moment;)Z") ∈ lw_all := lw_g (lw_at lw_m6 10 rfl) rfl
/-! ShrugHills$Facts -/
set_option maxRecDepth 100000
def RX17 : String := "ShrugHills$Facts"
def TX17 : u_T := fun k => match k with
  | 0 => ("ShrugHills$Facts", "tests", "Ljava/util/List;", true)
  | _ => ("ShrugHills$Facts", "all", "Z", true)
def tyX17 : Nat → FieldType := fun k => match k with
  | 0 => .object "java/util/List"
  | _ => .boolean
abbrev wsX170 : List Cond := u_ws RX17 TX17 2
theorem nmX17 : ∀ a, a < 2 → ∀ b, b < 2 → a ≠ b → (TX17 a).2.1 ≠ (TX17 b).2.1 := by decide +kernel
theorem tyX17_ok : ∀ k, k < 2 → parseFieldDescriptor (TX17 k).2.2.1 = some (tyX17 k) := by decide +kernel
abbrev cX17_init : ByteArray := prog_6_method_1_code
def yX17_init : MethodName := ⟨RX17, "<init>", "(Z)V"⟩
def dkwX17_init_0 : List UInt8 := [42, 183, 0, 1, 42, 187, 0, 7, 89, 5, 183, 0, 9, 181, 0, 12, 42, 27, 181, 0, 18, 177]
abbrev dktX17_init_0 : List UInt8 := dkwX17_init_0 ++ []
theorem dksX17_init_0 : cX17_init.data.toList.drop 0 = dktX17_init_0 := by decide +kernel
theorem dX17_init_0 : decode cX17_init 0 = .ok (.aload_n 0, 1) := dk_42 (dk_at dksX17_init_0 0 rfl rfl)
theorem dX17_init_1 : decode cX17_init 1 = .ok (.invokespecial 1, 3) := dk_183 0 1 (dk_at dksX17_init_0 1 rfl rfl)
theorem dX17_init_4 : decode cX17_init 4 = .ok (.aload_n 0, 1) := dk_42 (dk_at dksX17_init_0 4 rfl rfl)
theorem dX17_init_5 : decode cX17_init 5 = .ok (.new 7, 3) := dk_187 0 7 (dk_at dksX17_init_0 5 rfl rfl)
theorem dX17_init_8 : decode cX17_init 8 = .ok (.dup, 1) := dk_89 (dk_at dksX17_init_0 8 rfl rfl)
theorem dX17_init_9 : decode cX17_init 9 = .ok (.iconst 2, 1) := dk_5 (dk_at dksX17_init_0 9 rfl rfl)
theorem dX17_init_10 : decode cX17_init 10 = .ok (.invokespecial 9, 3) := dk_183 0 9 (dk_at dksX17_init_0 10 rfl rfl)
theorem dX17_init_13 : decode cX17_init 13 = .ok (.putfield 12, 3) := dk_181 0 12 (dk_at dksX17_init_0 13 rfl rfl)
theorem dX17_init_16 : decode cX17_init 16 = .ok (.aload_n 0, 1) := dk_42 (dk_at dksX17_init_0 16 rfl rfl)
theorem dX17_init_17 : decode cX17_init 17 = .ok (.iload_n 1, 1) := dk_27 (dk_at dksX17_init_0 17 rfl rfl)
theorem dX17_init_18 : decode cX17_init 18 = .ok (.putfield 18, 3) := dk_181 0 18 (dk_at dksX17_init_0 18 rfl rfl)
theorem dX17_init_21 : decode cX17_init 21 = .ok (.return_, 1) := dk_177 (dk_at dksX17_init_0 21 rfl rfl)
abbrev cX17_holds : ByteArray := prog_6_method_2_code
def yX17_holds : MethodName := ⟨RX17, "holds", "(LShrugHills$Moment;)Z"⟩
def dkwX17_holds_2 : List UInt8 := [154, 0, 7, 4, 167, 0, 4, 3, 172, 132, 2, 1, 167, 255, 203, 42, 180, 0, 18, 172]
abbrev dktX17_holds_2 : List UInt8 := dkwX17_holds_2 ++ []
def dkwX17_holds_1 : List UInt8 := [185, 0, 28, 2, 0, 192, 0, 2, 43, 182, 0, 32, 42, 180, 0, 18, 159, 0, 16, 42, 180, 0, 18]
abbrev dktX17_holds_1 : List UInt8 := dkwX17_holds_1 ++ dktX17_holds_2
def dkwX17_holds_0 : List UInt8 := [3, 61, 28, 42, 180, 0, 12, 185, 0, 22, 1, 0, 162, 0, 46, 42, 180, 0, 12, 28]
abbrev dktX17_holds_0 : List UInt8 := dkwX17_holds_0 ++ dktX17_holds_1
theorem dksX17_holds_0 : cX17_holds.data.toList.drop 0 = dktX17_holds_0 := by decide +kernel
theorem dksX17_holds_1 : cX17_holds.data.toList.drop 20 = dktX17_holds_1 := dk_seg dksX17_holds_0 20 rfl rfl
theorem dksX17_holds_2 : cX17_holds.data.toList.drop 43 = dktX17_holds_2 := dk_seg dksX17_holds_1 23 rfl rfl
theorem dX17_holds_0 : decode cX17_holds 0 = .ok (.iconst 0, 1) := dk_3 (dk_at dksX17_holds_0 0 rfl rfl)
theorem dX17_holds_1 : decode cX17_holds 1 = .ok (.istore_n 2, 1) := dk_61 (dk_at dksX17_holds_0 1 rfl rfl)
theorem dX17_holds_2 : decode cX17_holds 2 = .ok (.iload_n 2, 1) := dk_28 (dk_at dksX17_holds_0 2 rfl rfl)
theorem dX17_holds_3 : decode cX17_holds 3 = .ok (.aload_n 0, 1) := dk_42 (dk_at dksX17_holds_0 3 rfl rfl)
theorem dX17_holds_4 : decode cX17_holds 4 = .ok (.getfield 12, 3) := dk_180 0 12 (dk_at dksX17_holds_0 4 rfl rfl)
theorem dX17_holds_7 : decode cX17_holds 7 = .ok (.invokeinterface 22 1, 5) := by decide +kernel
theorem dX17_holds_12 : decode cX17_holds 12 = .ok (.if_icmp .ge 46, 3) := dk_162 0 46 (dk_at dksX17_holds_0 12 rfl rfl)
theorem dX17_holds_15 : decode cX17_holds 15 = .ok (.aload_n 0, 1) := dk_42 (dk_at dksX17_holds_0 15 rfl rfl)
theorem dX17_holds_16 : decode cX17_holds 16 = .ok (.getfield 12, 3) := dk_180 0 12 (dk_at dksX17_holds_0 16 rfl rfl)
theorem dX17_holds_19 : decode cX17_holds 19 = .ok (.iload_n 2, 1) := dk_28 (dk_at dksX17_holds_0 19 rfl rfl)
theorem dX17_holds_20 : decode cX17_holds 20 = .ok (.invokeinterface 28 2, 5) := by decide +kernel
theorem dX17_holds_25 : decode cX17_holds 25 = .ok (.checkcast 2, 3) := dk_192 0 2 (dk_at dksX17_holds_1 5 rfl rfl)
theorem dX17_holds_28 : decode cX17_holds 28 = .ok (.aload_n 1, 1) := dk_43 (dk_at dksX17_holds_1 8 rfl rfl)
theorem dX17_holds_29 : decode cX17_holds 29 = .ok (.invokevirtual 32, 3) := dk_182 0 32 (dk_at dksX17_holds_1 9 rfl rfl)
theorem dX17_holds_32 : decode cX17_holds 32 = .ok (.aload_n 0, 1) := dk_42 (dk_at dksX17_holds_1 12 rfl rfl)
theorem dX17_holds_33 : decode cX17_holds 33 = .ok (.getfield 18, 3) := dk_180 0 18 (dk_at dksX17_holds_1 13 rfl rfl)
theorem dX17_holds_36 : decode cX17_holds 36 = .ok (.if_icmp .eq 16, 3) := dk_159 0 16 (dk_at dksX17_holds_1 16 rfl rfl)
theorem dX17_holds_39 : decode cX17_holds 39 = .ok (.aload_n 0, 1) := dk_42 (dk_at dksX17_holds_1 19 rfl rfl)
theorem dX17_holds_40 : decode cX17_holds 40 = .ok (.getfield 18, 3) := dk_180 0 18 (dk_at dksX17_holds_1 20 rfl rfl)
theorem dX17_holds_43 : decode cX17_holds 43 = .ok (.ifCond .ne 7, 3) := dk_154 0 7 (dk_at dksX17_holds_2 0 rfl rfl)
theorem dX17_holds_46 : decode cX17_holds 46 = .ok (.iconst 1, 1) := dk_4 (dk_at dksX17_holds_2 3 rfl rfl)
theorem dX17_holds_47 : decode cX17_holds 47 = .ok (.goto 4, 3) := dk_167 0 4 (dk_at dksX17_holds_2 4 rfl rfl)
theorem dX17_holds_50 : decode cX17_holds 50 = .ok (.iconst 0, 1) := dk_3 (dk_at dksX17_holds_2 7 rfl rfl)
theorem dX17_holds_51 : decode cX17_holds 51 = .ok (.ireturn, 1) := dk_172 (dk_at dksX17_holds_2 8 rfl rfl)
theorem dX17_holds_52 : decode cX17_holds 52 = .ok (.iinc 2 1, 3) := dk_132 2 1 (dk_at dksX17_holds_2 9 rfl rfl)
theorem dX17_holds_55 : decode cX17_holds 55 = .ok (.goto (-53), 3) := dk_167 255 203 (dk_at dksX17_holds_2 12 rfl rfl)
theorem dX17_holds_58 : decode cX17_holds 58 = .ok (.aload_n 0, 1) := dk_42 (dk_at dksX17_holds_2 15 rfl rfl)
theorem dX17_holds_59 : decode cX17_holds 59 = .ok (.getfield 18, 3) := dk_180 0 18 (dk_at dksX17_holds_2 16 rfl rfl)
theorem dX17_holds_62 : decode cX17_holds 62 = .ok (.ireturn, 1) := dk_172 (dk_at dksX17_holds_2 19 rfl rfl)
theorem q205 : (Jvm.Cond.initialized "ShrugHills$Facts") ∈ lw_all := lw_g (lw_at lw_m1 35 rfl) rfl
theorem q902 : (Jvm.Cond.selects "ShrugHills$Facts" ({ cls := "java/lang/Object", name := "getClass", desc := "()Ljava/lang/Class;" } : Jvm.MethodName) ({ cls := "java/lang/Object", name := "getClass", desc := "()Ljava/lang/Class;" } : Jvm.MethodName)) ∈ lw_all := lw_g (lw_at lw_m4 12 rfl) rfl
theorem q1211 : (Jvm.Cond.instantiable "ShrugHills$Facts" (2 : Nat)) ∈ lw_all := lw_g (lw_at lw_m5 81 rfl) rfl
theorem q1213 : (Jvm.Cond.instanceMethod ({ cls := "ShrugHills$Facts", name := "<init>", desc := "(Z)V" } : Jvm.MethodName)) ∈ lw_all := lw_g (lw_at lw_m5 83 rfl) rfl
theorem q1214 : (Jvm.Cond.code ({ cls := "ShrugHills$Facts", name := "<init>", desc := "(Z)V" } : Jvm.MethodName) prog_6_method_1_code (2 : Nat) (Option.none : Option Jvm.ClassFile.FieldType)) ∈ lw_all := lw_g (lw_at lw_m5 84 rfl) rfl
theorem q1215 : (Jvm.Cond.methodLinkNest "ShrugHills$Facts" (1 : Nat) ({ cls := "ShrugHills$Test", name := "<init>", desc := "()V" } : Jvm.MethodName) "ShrugHills") ∈ lw_tbl := lw_at lw_m5 85 rfl
theorem q1219 : (Jvm.Cond.classLink "ShrugHills$Facts" (7 : Nat) "java/util/ArrayList") ∈ lw_all := lw_g (lw_at lw_m5 89 rfl) rfl
theorem q1220 : (Jvm.Cond.methodLink "ShrugHills$Facts" (9 : Nat) ({ cls := "java/util/ArrayList", name := "<init>", desc := "(I)V" } : Jvm.MethodName)) ∈ lw_all := lw_g (lw_at lw_m5 90 rfl) rfl
theorem q1221 : (Jvm.Cond.fieldLink "ShrugHills$Facts" (12 : Nat) "ShrugHills$Facts" "tests" "Ljava/util/List;") ∈ lw_all := lw_g (lw_at lw_m5 91 rfl) rfl
theorem q1223 : (Jvm.Cond.fieldLink "ShrugHills$Facts" (18 : Nat) "ShrugHills$Facts" "all" "Z") ∈ lw_all := lw_g (lw_at lw_m5 93 rfl) rfl
theorem q1224 : (Jvm.Cond.laysFinal "ShrugHills$Facts" "ShrugHills$Facts" "tests" "Ljava/util/List;") ∈ lw_all := lw_g (lw_at lw_m5 94 rfl) rfl
theorem q1225 : (Jvm.Cond.soleField "ShrugHills$Facts" "tests") ∈ lw_all := lw_g (lw_at lw_m5 95 rfl) rfl
theorem q1226 : (Jvm.Cond.laysFinal "ShrugHills$Facts" "ShrugHills$Facts" "all" "Z") ∈ lw_all := lw_g (lw_at lw_m5 96 rfl) rfl
theorem q1227 : (Jvm.Cond.soleField "ShrugHills$Facts" "all") ∈ lw_all := lw_g (lw_at lw_m5 97 rfl) rfl
theorem q1228 : (Jvm.Cond.superclass "ShrugHills$Facts" "ShrugHills$Test") ∈ lw_all := lw_g (lw_at lw_m5 98 rfl) rfl
theorem q1384 : (Jvm.Cond.selects "ShrugHills$Facts" ({ cls := "ShrugHills$Test", name := "holds", desc := "(LShrugHills$Moment;)Z" } : Jvm.MethodName) ({ cls := "ShrugHills$Facts", name := "holds", desc := "(LShrugHills$Moment;)Z" } : Jvm.MethodName)) ∈ lw_all := lw_g (lw_at lw_m6 14 rfl) rfl
theorem q1385 : (Jvm.Cond.instanceMethod ({ cls := "ShrugHills$Facts", name := "holds", desc := "(LShrugHills$Moment;)Z" } : Jvm.MethodName)) ∈ lw_all := lw_g (lw_at lw_m6 15 rfl) rfl
theorem q1386 : (Jvm.Cond.code ({ cls := "ShrugHills$Facts", name := "holds", desc := "(LShrugHills$Moment;)Z" } : Jvm.MethodName) prog_6_method_2_code (3 : Nat) (Option.some Jvm.ClassFile.FieldType.boolean)) ∈ lw_all := lw_g (lw_at lw_m6 16 rfl) rfl
theorem q1387 : (Jvm.Cond.interfaceEntry "ShrugHills$Facts" (22 : Nat)) ∈ lw_tbl := lw_at lw_m6 17 rfl
theorem q1388 : (Jvm.Cond.methodLink "ShrugHills$Facts" (22 : Nat) ({ cls := "java/util/List", name := "size", desc := "()I" } : Jvm.MethodName)) ∈ lw_all := lw_g (lw_at lw_m6 18 rfl) rfl
theorem q1389 : (Jvm.Cond.interfaceEntry "ShrugHills$Facts" (28 : Nat)) ∈ lw_tbl := lw_at lw_m6 19 rfl
theorem q1390 : (Jvm.Cond.methodLink "ShrugHills$Facts" (28 : Nat) ({ cls := "java/util/List", name := "get", desc := "(I)Ljava/lang/Object;" } : Jvm.MethodName)) ∈ lw_all := lw_g (lw_at lw_m6 20 rfl) rfl
theorem q1391 : (Jvm.Cond.classLink "ShrugHills$Facts" (2 : Nat) "ShrugHills$Test") ∈ lw_all := lw_g (lw_at lw_m6 21 rfl) rfl
theorem q1392 : (Jvm.Cond.methodLink "ShrugHills$Facts" (32 : Nat) ({ cls := "ShrugHills$Test", name := "holds", desc := "(LShrugHills$Moment;)Z" } : Jvm.MethodName)) ∈ lw_all := lw_g (lw_at lw_m6 22 rfl) rfl
theorem q2706 : (Jvm.Cond.castable "ShrugHills$Facts" "ShrugHills$Test") ∈ lw_tbl := lw_at lw_m11 136 rfl
theorem q2733 : (Jvm.Cond.castable "ShrugHills$Facts" "java/lang/Object") ∈ lw_tbl := lw_at lw_m11 163 rfl
theorem in_X17 : ∀ w ∈ wsX170, w ∈ lw_all := lw_in wsX170 [1224, 1226] (by decide +kernel) (by decide +kernel)
/-! ShrugHills$Not -/
set_option maxRecDepth 100000
def RX18 : String := "ShrugHills$Not"
def TX18 : u_T := fun k => match k with
  | _ => ("ShrugHills$Not", "test", "LShrugHills$Test;", true)
def tyX18 : Nat → FieldType := fun k => match k with
  | _ => .object "ShrugHills$Test"
abbrev wsX180 : List Cond := u_ws RX18 TX18 1
theorem nmX18 : ∀ a, a < 1 → ∀ b, b < 1 → a ≠ b → (TX18 a).2.1 ≠ (TX18 b).2.1 := by decide +kernel
theorem tyX18_ok : ∀ k, k < 1 → parseFieldDescriptor (TX18 k).2.2.1 = some (tyX18 k) := by decide +kernel
abbrev cX18_init : ByteArray := prog_12_method_1_code
def yX18_init : MethodName := ⟨RX18, "<init>", "(LShrugHills$Test;)V"⟩
def dkwX18_init_0 : List UInt8 := [42, 183, 0, 1, 42, 43, 181, 0, 7, 177]
abbrev dktX18_init_0 : List UInt8 := dkwX18_init_0 ++ []
theorem dksX18_init_0 : cX18_init.data.toList.drop 0 = dktX18_init_0 := by decide +kernel
theorem dX18_init_0 : decode cX18_init 0 = .ok (.aload_n 0, 1) := dk_42 (dk_at dksX18_init_0 0 rfl rfl)
theorem dX18_init_1 : decode cX18_init 1 = .ok (.invokespecial 1, 3) := dk_183 0 1 (dk_at dksX18_init_0 1 rfl rfl)
theorem dX18_init_4 : decode cX18_init 4 = .ok (.aload_n 0, 1) := dk_42 (dk_at dksX18_init_0 4 rfl rfl)
theorem dX18_init_5 : decode cX18_init 5 = .ok (.aload_n 1, 1) := dk_43 (dk_at dksX18_init_0 5 rfl rfl)
theorem dX18_init_6 : decode cX18_init 6 = .ok (.putfield 7, 3) := dk_181 0 7 (dk_at dksX18_init_0 6 rfl rfl)
theorem dX18_init_9 : decode cX18_init 9 = .ok (.return_, 1) := dk_177 (dk_at dksX18_init_0 9 rfl rfl)
abbrev cX18_holds : ByteArray := prog_12_method_2_code
def yX18_holds : MethodName := ⟨RX18, "holds", "(LShrugHills$Moment;)Z"⟩
def dkwX18_holds_0 : List UInt8 := [42, 180, 0, 7, 43, 182, 0, 13, 154, 0, 7, 4, 167, 0, 4, 3, 172]
abbrev dktX18_holds_0 : List UInt8 := dkwX18_holds_0 ++ []
theorem dksX18_holds_0 : cX18_holds.data.toList.drop 0 = dktX18_holds_0 := by decide +kernel
theorem dX18_holds_0 : decode cX18_holds 0 = .ok (.aload_n 0, 1) := dk_42 (dk_at dksX18_holds_0 0 rfl rfl)
theorem dX18_holds_1 : decode cX18_holds 1 = .ok (.getfield 7, 3) := dk_180 0 7 (dk_at dksX18_holds_0 1 rfl rfl)
theorem dX18_holds_4 : decode cX18_holds 4 = .ok (.aload_n 1, 1) := dk_43 (dk_at dksX18_holds_0 4 rfl rfl)
theorem dX18_holds_5 : decode cX18_holds 5 = .ok (.invokevirtual 13, 3) := dk_182 0 13 (dk_at dksX18_holds_0 5 rfl rfl)
theorem dX18_holds_8 : decode cX18_holds 8 = .ok (.ifCond .ne 7, 3) := dk_154 0 7 (dk_at dksX18_holds_0 8 rfl rfl)
theorem dX18_holds_11 : decode cX18_holds 11 = .ok (.iconst 1, 1) := dk_4 (dk_at dksX18_holds_0 11 rfl rfl)
theorem dX18_holds_12 : decode cX18_holds 12 = .ok (.goto 4, 3) := dk_167 0 4 (dk_at dksX18_holds_0 12 rfl rfl)
theorem dX18_holds_15 : decode cX18_holds 15 = .ok (.iconst 0, 1) := dk_3 (dk_at dksX18_holds_0 15 rfl rfl)
theorem dX18_holds_16 : decode cX18_holds 16 = .ok (.ireturn, 1) := dk_172 (dk_at dksX18_holds_0 16 rfl rfl)
theorem q206 : (Jvm.Cond.initialized "ShrugHills$Not") ∈ lw_all := lw_g (lw_at lw_m1 36 rfl) rfl
theorem q908 : (Jvm.Cond.selects "ShrugHills$Not" ({ cls := "java/lang/Object", name := "getClass", desc := "()Ljava/lang/Class;" } : Jvm.MethodName) ({ cls := "java/lang/Object", name := "getClass", desc := "()Ljava/lang/Class;" } : Jvm.MethodName)) ∈ lw_all := lw_g (lw_at lw_m4 18 rfl) rfl
theorem q1243 : (Jvm.Cond.instantiable "ShrugHills$Not" (1 : Nat)) ∈ lw_all := lw_g (lw_at lw_m5 113 rfl) rfl
theorem q1245 : (Jvm.Cond.instanceMethod ({ cls := "ShrugHills$Not", name := "<init>", desc := "(LShrugHills$Test;)V" } : Jvm.MethodName)) ∈ lw_all := lw_g (lw_at lw_m5 115 rfl) rfl
theorem q1246 : (Jvm.Cond.code ({ cls := "ShrugHills$Not", name := "<init>", desc := "(LShrugHills$Test;)V" } : Jvm.MethodName) prog_12_method_1_code (2 : Nat) (Option.none : Option Jvm.ClassFile.FieldType)) ∈ lw_all := lw_g (lw_at lw_m5 116 rfl) rfl
theorem q1247 : (Jvm.Cond.methodLinkNest "ShrugHills$Not" (1 : Nat) ({ cls := "ShrugHills$Test", name := "<init>", desc := "()V" } : Jvm.MethodName) "ShrugHills") ∈ lw_tbl := lw_at lw_m5 117 rfl
theorem q1248 : (Jvm.Cond.fieldLink "ShrugHills$Not" (7 : Nat) "ShrugHills$Not" "test" "LShrugHills$Test;") ∈ lw_all := lw_g (lw_at lw_m5 118 rfl) rfl
theorem q1249 : (Jvm.Cond.laysFinal "ShrugHills$Not" "ShrugHills$Not" "test" "LShrugHills$Test;") ∈ lw_all := lw_g (lw_at lw_m5 119 rfl) rfl
theorem q1250 : (Jvm.Cond.soleField "ShrugHills$Not" "test") ∈ lw_all := lw_g (lw_at lw_m5 120 rfl) rfl
theorem q1251 : (Jvm.Cond.superclass "ShrugHills$Not" "ShrugHills$Test") ∈ lw_all := lw_g (lw_at lw_m5 121 rfl) rfl
theorem q1393 : (Jvm.Cond.instanceMethod ({ cls := "ShrugHills$Not", name := "holds", desc := "(LShrugHills$Moment;)Z" } : Jvm.MethodName)) ∈ lw_all := lw_g (lw_at lw_m6 23 rfl) rfl
theorem q1394 : (Jvm.Cond.code ({ cls := "ShrugHills$Not", name := "holds", desc := "(LShrugHills$Moment;)Z" } : Jvm.MethodName) prog_12_method_2_code (2 : Nat) (Option.some Jvm.ClassFile.FieldType.boolean)) ∈ lw_all := lw_g (lw_at lw_m6 24 rfl) rfl
theorem q1395 : (Jvm.Cond.methodLink "ShrugHills$Not" (13 : Nat) ({ cls := "ShrugHills$Test", name := "holds", desc := "(LShrugHills$Moment;)Z" } : Jvm.MethodName)) ∈ lw_all := lw_g (lw_at lw_m6 25 rfl) rfl
theorem q1496 : (Jvm.Cond.selects "ShrugHills$Not" ({ cls := "ShrugHills$Test", name := "holds", desc := "(LShrugHills$Moment;)Z" } : Jvm.MethodName) ({ cls := "ShrugHills$Not", name := "holds", desc := "(LShrugHills$Moment;)Z" } : Jvm.MethodName)) ∈ lw_all := lw_g (lw_at lw_m6 126 rfl) rfl
theorem q2707 : (Jvm.Cond.castable "ShrugHills$Not" "ShrugHills$Test") ∈ lw_tbl := lw_at lw_m11 137 rfl
theorem q2734 : (Jvm.Cond.castable "ShrugHills$Not" "java/lang/Object") ∈ lw_tbl := lw_at lw_m11 164 rfl
theorem in_X18 : ∀ w ∈ wsX180, w ∈ lw_all := lw_in wsX180 [1249] (by decide +kernel) (by decide +kernel)
/-! ShrugHills$All -/
set_option maxRecDepth 100000
def RX19 : String := "ShrugHills$All"
abbrev cX19_init : ByteArray := prog_2_method_1_code
def yX19_init : MethodName := ⟨RX19, "<init>", "()V"⟩
theorem dX19_init_0 : decode cX19_init 0 = .ok (.aload_n 0, 1) := by decide +kernel
theorem dX19_init_1 : decode cX19_init 1 = .ok (.invokespecial 1, 3) := by decide +kernel
theorem dX19_init_4 : decode cX19_init 4 = .ok (.return_, 1) := by decide +kernel
abbrev cX19_holds : ByteArray := prog_2_method_2_code
def yX19_holds : MethodName := ⟨RX19, "holds", "(LShrugHills$Moment;)Z"⟩
theorem dX19_holds_0 : decode cX19_holds 0 = .ok (.iconst 1, 1) := by decide +kernel
theorem dX19_holds_1 : decode cX19_holds 1 = .ok (.ireturn, 1) := by decide +kernel
theorem q207 : (Jvm.Cond.initialized "ShrugHills$All") ∈ lw_all := lw_g (lw_at lw_m1 37 rfl) rfl
theorem q898 : (Jvm.Cond.selects "ShrugHills$All" ({ cls := "java/lang/Object", name := "getClass", desc := "()Ljava/lang/Class;" } : Jvm.MethodName) ({ cls := "java/lang/Object", name := "getClass", desc := "()Ljava/lang/Class;" } : Jvm.MethodName)) ∈ lw_all := lw_g (lw_at lw_m4 8 rfl) rfl
theorem q1254 : (Jvm.Cond.instantiable "ShrugHills$All" (0 : Nat)) ∈ lw_all := lw_g (lw_at lw_m5 124 rfl) rfl
theorem q1256 : (Jvm.Cond.instanceMethod ({ cls := "ShrugHills$All", name := "<init>", desc := "()V" } : Jvm.MethodName)) ∈ lw_all := lw_g (lw_at lw_m5 126 rfl) rfl
theorem q1257 : (Jvm.Cond.code ({ cls := "ShrugHills$All", name := "<init>", desc := "()V" } : Jvm.MethodName) prog_2_method_1_code (1 : Nat) (Option.none : Option Jvm.ClassFile.FieldType)) ∈ lw_all := lw_g (lw_at lw_m5 127 rfl) rfl
theorem q1258 : (Jvm.Cond.methodLinkNest "ShrugHills$All" (1 : Nat) ({ cls := "ShrugHills$Test", name := "<init>", desc := "()V" } : Jvm.MethodName) "ShrugHills") ∈ lw_tbl := lw_at lw_m5 128 rfl
theorem q1259 : (Jvm.Cond.superclass "ShrugHills$All" "ShrugHills$Test") ∈ lw_all := lw_g (lw_at lw_m5 129 rfl) rfl
theorem q1381 : (Jvm.Cond.selects "ShrugHills$All" ({ cls := "ShrugHills$Test", name := "holds", desc := "(LShrugHills$Moment;)Z" } : Jvm.MethodName) ({ cls := "ShrugHills$All", name := "holds", desc := "(LShrugHills$Moment;)Z" } : Jvm.MethodName)) ∈ lw_all := lw_g (lw_at lw_m6 11 rfl) rfl
theorem q1382 : (Jvm.Cond.instanceMethod ({ cls := "ShrugHills$All", name := "holds", desc := "(LShrugHills$Moment;)Z" } : Jvm.MethodName)) ∈ lw_all := lw_g (lw_at lw_m6 12 rfl) rfl
theorem q1383 : (Jvm.Cond.code ({ cls := "ShrugHills$All", name := "holds", desc := "(LShrugHills$Moment;)Z" } : Jvm.MethodName) prog_2_method_2_code (2 : Nat) (Option.some Jvm.ClassFile.FieldType.boolean)) ∈ lw_all := lw_g (lw_at lw_m6 13 rfl) rfl
theorem q2705 : (Jvm.Cond.castable "ShrugHills$All" "ShrugHills$Test") ∈ lw_tbl := lw_at lw_m11 135 rfl
theorem q2735 : (Jvm.Cond.castable "ShrugHills$All" "java/lang/Object") ∈ lw_tbl := lw_at lw_m11 165 rfl
/-! ShrugHills$Than -/
set_option maxRecDepth 100000
def RX20 : String := "ShrugHills$Than"
def TX20 : u_T := fun k => match k with
  | 0 => ("ShrugHills$Than", "a", "LShrugHills$Value;", true)
  | 1 => ("ShrugHills$Than", "b", "LShrugHills$Value;", true)
  | _ => ("ShrugHills$Than", "sign", "I", true)
def tyX20 : Nat → FieldType := fun k => match k with
  | 0 => .object "ShrugHills$Value"
  | 1 => .object "ShrugHills$Value"
  | _ => .int
abbrev wsX200 : List Cond := u_ws RX20 TX20 3
theorem nmX20 : ∀ a, a < 3 → ∀ b, b < 3 → a ≠ b → (TX20 a).2.1 ≠ (TX20 b).2.1 := by decide +kernel
theorem tyX20_ok : ∀ k, k < 3 → parseFieldDescriptor (TX20 k).2.2.1 = some (tyX20 k) := by decide +kernel
abbrev cX20_init : ByteArray := prog_20_method_1_code
def yX20_init : MethodName := ⟨RX20, "<init>", "(LShrugHills$Value;ILShrugHills$Value;)V"⟩
def dkwX20_init_0 : List UInt8 := [42, 183, 0, 1, 42, 43, 181, 0, 7, 42, 28, 181, 0, 13, 42, 45, 181, 0, 17, 177]
abbrev dktX20_init_0 : List UInt8 := dkwX20_init_0 ++ []
theorem dksX20_init_0 : cX20_init.data.toList.drop 0 = dktX20_init_0 := by decide +kernel
theorem dX20_init_0 : decode cX20_init 0 = .ok (.aload_n 0, 1) := dk_42 (dk_at dksX20_init_0 0 rfl rfl)
theorem dX20_init_1 : decode cX20_init 1 = .ok (.invokespecial 1, 3) := dk_183 0 1 (dk_at dksX20_init_0 1 rfl rfl)
theorem dX20_init_4 : decode cX20_init 4 = .ok (.aload_n 0, 1) := dk_42 (dk_at dksX20_init_0 4 rfl rfl)
theorem dX20_init_5 : decode cX20_init 5 = .ok (.aload_n 1, 1) := dk_43 (dk_at dksX20_init_0 5 rfl rfl)
theorem dX20_init_6 : decode cX20_init 6 = .ok (.putfield 7, 3) := dk_181 0 7 (dk_at dksX20_init_0 6 rfl rfl)
theorem dX20_init_9 : decode cX20_init 9 = .ok (.aload_n 0, 1) := dk_42 (dk_at dksX20_init_0 9 rfl rfl)
theorem dX20_init_10 : decode cX20_init 10 = .ok (.iload_n 2, 1) := dk_28 (dk_at dksX20_init_0 10 rfl rfl)
theorem dX20_init_11 : decode cX20_init 11 = .ok (.putfield 13, 3) := dk_181 0 13 (dk_at dksX20_init_0 11 rfl rfl)
theorem dX20_init_14 : decode cX20_init 14 = .ok (.aload_n 0, 1) := dk_42 (dk_at dksX20_init_0 14 rfl rfl)
theorem dX20_init_15 : decode cX20_init 15 = .ok (.aload_n 3, 1) := dk_45 (dk_at dksX20_init_0 15 rfl rfl)
theorem dX20_init_16 : decode cX20_init 16 = .ok (.putfield 17, 3) := dk_181 0 17 (dk_at dksX20_init_0 16 rfl rfl)
theorem dX20_init_19 : decode cX20_init 19 = .ok (.return_, 1) := dk_177 (dk_at dksX20_init_0 19 rfl rfl)
abbrev cX20_holds : ByteArray := prog_20_method_2_code
def yX20_holds : MethodName := ⟨RX20, "holds", "(LShrugHills$Moment;)Z"⟩
def dkwX20_holds_3 : List UInt8 := [154, 0, 7, 4, 167, 0, 4, 3, 172]
abbrev dktX20_holds_3 : List UInt8 := dkwX20_holds_3 ++ []
def dkwX20_holds_2 : List UInt8 := [16, 62, 160, 0, 18, 32, 22, 4, 148, 158, 0, 7, 4, 167, 0, 19, 3, 167, 0, 15, 32, 22, 4, 148]
abbrev dktX20_holds_2 : List UInt8 := dkwX20_holds_2 ++ dktX20_holds_3
def dkwX20_holds_1 : List UInt8 := [16, 60, 160, 0, 18, 32, 22, 4, 148, 156, 0, 7, 4, 167, 0, 43, 3, 167, 0, 39, 42, 180, 0, 13]
abbrev dktX20_holds_1 : List UInt8 := dkwX20_holds_1 ++ dktX20_holds_2
def dkwX20_holds_0 : List UInt8 := [42, 180, 0, 7, 43, 182, 0, 20, 65, 42, 180, 0, 17, 43, 182, 0, 20, 55, 4, 42, 180, 0, 13]
abbrev dktX20_holds_0 : List UInt8 := dkwX20_holds_0 ++ dktX20_holds_1
theorem dksX20_holds_0 : cX20_holds.data.toList.drop 0 = dktX20_holds_0 := by decide +kernel
theorem dksX20_holds_1 : cX20_holds.data.toList.drop 23 = dktX20_holds_1 := dk_seg dksX20_holds_0 23 rfl rfl
theorem dksX20_holds_2 : cX20_holds.data.toList.drop 47 = dktX20_holds_2 := dk_seg dksX20_holds_1 24 rfl rfl
theorem dksX20_holds_3 : cX20_holds.data.toList.drop 71 = dktX20_holds_3 := dk_seg dksX20_holds_2 24 rfl rfl
theorem dX20_holds_0 : decode cX20_holds 0 = .ok (.aload_n 0, 1) := dk_42 (dk_at dksX20_holds_0 0 rfl rfl)
theorem dX20_holds_1 : decode cX20_holds 1 = .ok (.getfield 7, 3) := dk_180 0 7 (dk_at dksX20_holds_0 1 rfl rfl)
theorem dX20_holds_4 : decode cX20_holds 4 = .ok (.aload_n 1, 1) := dk_43 (dk_at dksX20_holds_0 4 rfl rfl)
theorem dX20_holds_5 : decode cX20_holds 5 = .ok (.invokevirtual 20, 3) := dk_182 0 20 (dk_at dksX20_holds_0 5 rfl rfl)
theorem dX20_holds_8 : decode cX20_holds 8 = .ok (.lstore_n 2, 1) := dk_65 (dk_at dksX20_holds_0 8 rfl rfl)
theorem dX20_holds_9 : decode cX20_holds 9 = .ok (.aload_n 0, 1) := dk_42 (dk_at dksX20_holds_0 9 rfl rfl)
theorem dX20_holds_10 : decode cX20_holds 10 = .ok (.getfield 17, 3) := dk_180 0 17 (dk_at dksX20_holds_0 10 rfl rfl)
theorem dX20_holds_13 : decode cX20_holds 13 = .ok (.aload_n 1, 1) := dk_43 (dk_at dksX20_holds_0 13 rfl rfl)
theorem dX20_holds_14 : decode cX20_holds 14 = .ok (.invokevirtual 20, 3) := dk_182 0 20 (dk_at dksX20_holds_0 14 rfl rfl)
theorem dX20_holds_17 : decode cX20_holds 17 = .ok (.lstore 4, 2) := dk_55 4 (dk_at dksX20_holds_0 17 rfl rfl)
theorem dX20_holds_19 : decode cX20_holds 19 = .ok (.aload_n 0, 1) := dk_42 (dk_at dksX20_holds_0 19 rfl rfl)
theorem dX20_holds_20 : decode cX20_holds 20 = .ok (.getfield 13, 3) := dk_180 0 13 (dk_at dksX20_holds_0 20 rfl rfl)
theorem dX20_holds_23 : decode cX20_holds 23 = .ok (.bipush 60, 2) := dk_16 60 (dk_at dksX20_holds_1 0 rfl rfl)
theorem dX20_holds_25 : decode cX20_holds 25 = .ok (.if_icmp .ne 18, 3) := dk_160 0 18 (dk_at dksX20_holds_1 2 rfl rfl)
theorem dX20_holds_28 : decode cX20_holds 28 = .ok (.lload_n 2, 1) := dk_32 (dk_at dksX20_holds_1 5 rfl rfl)
theorem dX20_holds_29 : decode cX20_holds 29 = .ok (.lload 4, 2) := dk_22 4 (dk_at dksX20_holds_1 6 rfl rfl)
theorem dX20_holds_31 : decode cX20_holds 31 = .ok (.lcmp, 1) := dk_148 (dk_at dksX20_holds_1 8 rfl rfl)
theorem dX20_holds_32 : decode cX20_holds 32 = .ok (.ifCond .ge 7, 3) := dk_156 0 7 (dk_at dksX20_holds_1 9 rfl rfl)
theorem dX20_holds_35 : decode cX20_holds 35 = .ok (.iconst 1, 1) := dk_4 (dk_at dksX20_holds_1 12 rfl rfl)
theorem dX20_holds_36 : decode cX20_holds 36 = .ok (.goto 43, 3) := dk_167 0 43 (dk_at dksX20_holds_1 13 rfl rfl)
theorem dX20_holds_39 : decode cX20_holds 39 = .ok (.iconst 0, 1) := dk_3 (dk_at dksX20_holds_1 16 rfl rfl)
theorem dX20_holds_40 : decode cX20_holds 40 = .ok (.goto 39, 3) := dk_167 0 39 (dk_at dksX20_holds_1 17 rfl rfl)
theorem dX20_holds_43 : decode cX20_holds 43 = .ok (.aload_n 0, 1) := dk_42 (dk_at dksX20_holds_1 20 rfl rfl)
theorem dX20_holds_44 : decode cX20_holds 44 = .ok (.getfield 13, 3) := dk_180 0 13 (dk_at dksX20_holds_1 21 rfl rfl)
theorem dX20_holds_47 : decode cX20_holds 47 = .ok (.bipush 62, 2) := dk_16 62 (dk_at dksX20_holds_2 0 rfl rfl)
theorem dX20_holds_49 : decode cX20_holds 49 = .ok (.if_icmp .ne 18, 3) := dk_160 0 18 (dk_at dksX20_holds_2 2 rfl rfl)
theorem dX20_holds_52 : decode cX20_holds 52 = .ok (.lload_n 2, 1) := dk_32 (dk_at dksX20_holds_2 5 rfl rfl)
theorem dX20_holds_53 : decode cX20_holds 53 = .ok (.lload 4, 2) := dk_22 4 (dk_at dksX20_holds_2 6 rfl rfl)
theorem dX20_holds_55 : decode cX20_holds 55 = .ok (.lcmp, 1) := dk_148 (dk_at dksX20_holds_2 8 rfl rfl)
theorem dX20_holds_56 : decode cX20_holds 56 = .ok (.ifCond .le 7, 3) := dk_158 0 7 (dk_at dksX20_holds_2 9 rfl rfl)
theorem dX20_holds_59 : decode cX20_holds 59 = .ok (.iconst 1, 1) := dk_4 (dk_at dksX20_holds_2 12 rfl rfl)
theorem dX20_holds_60 : decode cX20_holds 60 = .ok (.goto 19, 3) := dk_167 0 19 (dk_at dksX20_holds_2 13 rfl rfl)
theorem dX20_holds_63 : decode cX20_holds 63 = .ok (.iconst 0, 1) := dk_3 (dk_at dksX20_holds_2 16 rfl rfl)
theorem dX20_holds_64 : decode cX20_holds 64 = .ok (.goto 15, 3) := dk_167 0 15 (dk_at dksX20_holds_2 17 rfl rfl)
theorem dX20_holds_67 : decode cX20_holds 67 = .ok (.lload_n 2, 1) := dk_32 (dk_at dksX20_holds_2 20 rfl rfl)
theorem dX20_holds_68 : decode cX20_holds 68 = .ok (.lload 4, 2) := dk_22 4 (dk_at dksX20_holds_2 21 rfl rfl)
theorem dX20_holds_70 : decode cX20_holds 70 = .ok (.lcmp, 1) := dk_148 (dk_at dksX20_holds_2 23 rfl rfl)
theorem dX20_holds_71 : decode cX20_holds 71 = .ok (.ifCond .ne 7, 3) := dk_154 0 7 (dk_at dksX20_holds_3 0 rfl rfl)
theorem dX20_holds_74 : decode cX20_holds 74 = .ok (.iconst 1, 1) := dk_4 (dk_at dksX20_holds_3 3 rfl rfl)
theorem dX20_holds_75 : decode cX20_holds 75 = .ok (.goto 4, 3) := dk_167 0 4 (dk_at dksX20_holds_3 4 rfl rfl)
theorem dX20_holds_78 : decode cX20_holds 78 = .ok (.iconst 0, 1) := dk_3 (dk_at dksX20_holds_3 7 rfl rfl)
theorem dX20_holds_79 : decode cX20_holds 79 = .ok (.ireturn, 1) := dk_172 (dk_at dksX20_holds_3 8 rfl rfl)
theorem q208 : (Jvm.Cond.initialized "ShrugHills$Than") ∈ lw_all := lw_g (lw_at lw_m1 38 rfl) rfl
theorem q915 : (Jvm.Cond.selects "ShrugHills$Than" ({ cls := "java/lang/Object", name := "getClass", desc := "()Ljava/lang/Class;" } : Jvm.MethodName) ({ cls := "java/lang/Object", name := "getClass", desc := "()Ljava/lang/Class;" } : Jvm.MethodName)) ∈ lw_all := lw_g (lw_at lw_m4 25 rfl) rfl
theorem q1261 : (Jvm.Cond.instantiable "ShrugHills$Than" (3 : Nat)) ∈ lw_all := lw_g (lw_at lw_m5 131 rfl) rfl
theorem q1263 : (Jvm.Cond.instanceMethod ({ cls := "ShrugHills$Than", name := "<init>", desc := "(LShrugHills$Value;ILShrugHills$Value;)V" } : Jvm.MethodName)) ∈ lw_all := lw_g (lw_at lw_m5 133 rfl) rfl
theorem q1264 : (Jvm.Cond.code ({ cls := "ShrugHills$Than", name := "<init>", desc := "(LShrugHills$Value;ILShrugHills$Value;)V" } : Jvm.MethodName) prog_20_method_1_code (4 : Nat) (Option.none : Option Jvm.ClassFile.FieldType)) ∈ lw_all := lw_g (lw_at lw_m5 134 rfl) rfl
theorem q1265 : (Jvm.Cond.methodLinkNest "ShrugHills$Than" (1 : Nat) ({ cls := "ShrugHills$Test", name := "<init>", desc := "()V" } : Jvm.MethodName) "ShrugHills") ∈ lw_tbl := lw_at lw_m5 135 rfl
theorem q1266 : (Jvm.Cond.fieldLink "ShrugHills$Than" (7 : Nat) "ShrugHills$Than" "a" "LShrugHills$Value;") ∈ lw_all := lw_g (lw_at lw_m5 136 rfl) rfl
theorem q1267 : (Jvm.Cond.fieldLink "ShrugHills$Than" (17 : Nat) "ShrugHills$Than" "b" "LShrugHills$Value;") ∈ lw_all := lw_g (lw_at lw_m5 137 rfl) rfl
theorem q1268 : (Jvm.Cond.fieldLink "ShrugHills$Than" (13 : Nat) "ShrugHills$Than" "sign" "I") ∈ lw_all := lw_g (lw_at lw_m5 138 rfl) rfl
theorem q1269 : (Jvm.Cond.laysFinal "ShrugHills$Than" "ShrugHills$Than" "a" "LShrugHills$Value;") ∈ lw_all := lw_g (lw_at lw_m5 139 rfl) rfl
theorem q1270 : (Jvm.Cond.soleField "ShrugHills$Than" "a") ∈ lw_all := lw_g (lw_at lw_m5 140 rfl) rfl
theorem q1271 : (Jvm.Cond.laysFinal "ShrugHills$Than" "ShrugHills$Than" "b" "LShrugHills$Value;") ∈ lw_all := lw_g (lw_at lw_m5 141 rfl) rfl
theorem q1272 : (Jvm.Cond.soleField "ShrugHills$Than" "b") ∈ lw_all := lw_g (lw_at lw_m5 142 rfl) rfl
theorem q1273 : (Jvm.Cond.laysFinal "ShrugHills$Than" "ShrugHills$Than" "sign" "I") ∈ lw_all := lw_g (lw_at lw_m5 143 rfl) rfl
theorem q1274 : (Jvm.Cond.soleField "ShrugHills$Than" "sign") ∈ lw_all := lw_g (lw_at lw_m5 144 rfl) rfl
theorem q1275 : (Jvm.Cond.superclass "ShrugHills$Than" "ShrugHills$Test") ∈ lw_all := lw_g (lw_at lw_m5 145 rfl) rfl
theorem q1396 : (Jvm.Cond.instanceMethod ({ cls := "ShrugHills$Than", name := "holds", desc := "(LShrugHills$Moment;)Z" } : Jvm.MethodName)) ∈ lw_all := lw_g (lw_at lw_m6 26 rfl) rfl
theorem q1397 : (Jvm.Cond.code ({ cls := "ShrugHills$Than", name := "holds", desc := "(LShrugHills$Moment;)Z" } : Jvm.MethodName) prog_20_method_2_code (6 : Nat) (Option.some Jvm.ClassFile.FieldType.boolean)) ∈ lw_all := lw_g (lw_at lw_m6 27 rfl) rfl
theorem q1398 : (Jvm.Cond.methodLink "ShrugHills$Than" (20 : Nat) ({ cls := "ShrugHills$Value", name := "at", desc := "(LShrugHills$Moment;)J" } : Jvm.MethodName)) ∈ lw_all := lw_g (lw_at lw_m6 28 rfl) rfl
theorem q1497 : (Jvm.Cond.selects "ShrugHills$Than" ({ cls := "ShrugHills$Test", name := "holds", desc := "(LShrugHills$Moment;)Z" } : Jvm.MethodName) ({ cls := "ShrugHills$Than", name := "holds", desc := "(LShrugHills$Moment;)Z" } : Jvm.MethodName)) ∈ lw_all := lw_g (lw_at lw_m6 127 rfl) rfl
theorem q2708 : (Jvm.Cond.castable "ShrugHills$Than" "ShrugHills$Test") ∈ lw_tbl := lw_at lw_m11 138 rfl
theorem q2736 : (Jvm.Cond.castable "ShrugHills$Than" "java/lang/Object") ∈ lw_tbl := lw_at lw_m11 166 rfl
theorem in_X20 : ∀ w ∈ wsX200, w ∈ lw_all := lw_in wsX200 [1269, 1271, 1273] (by decide +kernel) (by decide +kernel)
/-! ShrugHills$Question -/
set_option maxRecDepth 100000
def RX21 : String := "ShrugHills$Question"
def TX21 : u_T := fun k => match k with
  | 0 => ("ShrugHills$Question", "what", "I", true)
  | 1 => ("ShrugHills$Question", "test", "LShrugHills$Test;", true)
  | 2 => ("ShrugHills$Question", "sum", "LShrugHills$Value;", true)
  | 3 => ("ShrugHills$Question", "found", "J", false)
  | _ => ("ShrugHills$Question", "has", "Z", false)
def tyX21 : Nat → FieldType := fun k => match k with
  | 0 => .int
  | 1 => .object "ShrugHills$Test"
  | 2 => .object "ShrugHills$Value"
  | 3 => .long
  | _ => .boolean
abbrev wsX210 : List Cond := u_ws RX21 TX21 5
theorem nmX21 : ∀ a, a < 5 → ∀ b, b < 5 → a ≠ b → (TX21 a).2.1 ≠ (TX21 b).2.1 := by decide +kernel
theorem tyX21_ok : ∀ k, k < 5 → parseFieldDescriptor (TX21 k).2.2.1 = some (tyX21 k) := by decide +kernel
abbrev cX21_init : ByteArray := prog_16_method_1_code
def yX21_init : MethodName := ⟨RX21, "<init>", "(ILShrugHills$Test;LShrugHills$Value;)V"⟩
def dkwX21_init_1 : List UInt8 := [181, 0, 25, 177]
abbrev dktX21_init_1 : List UInt8 := dkwX21_init_1 ++ []
def dkwX21_init_0 : List UInt8 := [42, 183, 0, 3, 42, 20, 0, 9, 181, 0, 11, 42, 27, 181, 0, 17, 42, 44, 181, 0, 21, 42, 45]
abbrev dktX21_init_0 : List UInt8 := dkwX21_init_0 ++ dktX21_init_1
theorem dksX21_init_0 : cX21_init.data.toList.drop 0 = dktX21_init_0 := by decide +kernel
theorem dksX21_init_1 : cX21_init.data.toList.drop 23 = dktX21_init_1 := dk_seg dksX21_init_0 23 rfl rfl
theorem dX21_init_0 : decode cX21_init 0 = .ok (.aload_n 0, 1) := dk_42 (dk_at dksX21_init_0 0 rfl rfl)
theorem dX21_init_1 : decode cX21_init 1 = .ok (.invokespecial 3, 3) := dk_183 0 3 (dk_at dksX21_init_0 1 rfl rfl)
theorem dX21_init_4 : decode cX21_init 4 = .ok (.aload_n 0, 1) := dk_42 (dk_at dksX21_init_0 4 rfl rfl)
theorem dX21_init_5 : decode cX21_init 5 = .ok (.ldc2_w 9, 3) := dk_20 0 9 (dk_at dksX21_init_0 5 rfl rfl)
theorem dX21_init_8 : decode cX21_init 8 = .ok (.putfield 11, 3) := dk_181 0 11 (dk_at dksX21_init_0 8 rfl rfl)
theorem dX21_init_11 : decode cX21_init 11 = .ok (.aload_n 0, 1) := dk_42 (dk_at dksX21_init_0 11 rfl rfl)
theorem dX21_init_12 : decode cX21_init 12 = .ok (.iload_n 1, 1) := dk_27 (dk_at dksX21_init_0 12 rfl rfl)
theorem dX21_init_13 : decode cX21_init 13 = .ok (.putfield 17, 3) := dk_181 0 17 (dk_at dksX21_init_0 13 rfl rfl)
theorem dX21_init_16 : decode cX21_init 16 = .ok (.aload_n 0, 1) := dk_42 (dk_at dksX21_init_0 16 rfl rfl)
theorem dX21_init_17 : decode cX21_init 17 = .ok (.aload_n 2, 1) := dk_44 (dk_at dksX21_init_0 17 rfl rfl)
theorem dX21_init_18 : decode cX21_init 18 = .ok (.putfield 21, 3) := dk_181 0 21 (dk_at dksX21_init_0 18 rfl rfl)
theorem dX21_init_21 : decode cX21_init 21 = .ok (.aload_n 0, 1) := dk_42 (dk_at dksX21_init_0 21 rfl rfl)
theorem dX21_init_22 : decode cX21_init 22 = .ok (.aload_n 3, 1) := dk_45 (dk_at dksX21_init_0 22 rfl rfl)
theorem dX21_init_23 : decode cX21_init 23 = .ok (.putfield 25, 3) := dk_181 0 25 (dk_at dksX21_init_1 0 rfl rfl)
theorem dX21_init_26 : decode cX21_init 26 = .ok (.return_, 1) := dk_177 (dk_at dksX21_init_1 3 rfl rfl)
abbrev cX21_meets : ByteArray := prog_16_method_2_code
def yX21_meets : MethodName := ⟨RX21, "meets", "(ILShrugHills$Moment;)V"⟩
def dkwX21_meets_6 : List UInt8 := [181, 0, 11, 42, 4, 181, 0, 41, 177]
abbrev dktX21_meets_6 : List UInt8 := dkwX21_meets_6 ++ []
def dkwX21_meets_5 : List UInt8 := [7, 160, 0, 14, 42, 180, 0, 11, 33, 184, 0, 35, 167, 0, 11, 42, 180, 0, 11, 33, 184, 0, 51]
abbrev dktX21_meets_5 : List UInt8 := dkwX21_meets_5 ++ dktX21_meets_6
def dkwX21_meets_4 : List UInt8 := [167, 0, 47, 42, 180, 0, 17, 6, 160, 0, 12, 42, 180, 0, 11, 33, 97, 167, 0, 30, 42, 180, 0, 17]
abbrev dktX21_meets_4 : List UInt8 := dkwX21_meets_4 ++ dktX21_meets_5
def dkwX21_meets_3 : List UInt8 := [181, 0, 41, 177, 42, 180, 0, 25, 44, 182, 0, 45, 66, 42, 42, 180, 0, 41, 154, 0, 7, 33]
abbrev dktX21_meets_3 : List UInt8 := dkwX21_meets_3 ++ dktX21_meets_4
def dkwX21_meets_2 : List UInt8 := [154, 0, 17, 42, 180, 0, 41, 153, 0, 10, 42, 180, 0, 11, 167, 0, 5, 27, 133, 181, 0, 11, 42, 4]
abbrev dktX21_meets_2 : List UInt8 := dkwX21_meets_2 ++ dktX21_meets_3
def dkwX21_meets_1 : List UInt8 := [180, 0, 17, 5, 160, 0, 16, 9, 42, 180, 0, 11, 184, 0, 35, 10, 97, 167, 0, 26, 42, 180, 0, 17]
abbrev dktX21_meets_1 : List UInt8 := dkwX21_meets_1 ++ dktX21_meets_2
def dkwX21_meets_0 : List UInt8 := [42, 180, 0, 17, 6, 162, 0, 69, 42, 180, 0, 21, 44, 182, 0, 29, 154, 0, 4, 177, 42, 42]
abbrev dktX21_meets_0 : List UInt8 := dkwX21_meets_0 ++ dktX21_meets_1
theorem dksX21_meets_0 : cX21_meets.data.toList.drop 0 = dktX21_meets_0 := by decide +kernel
theorem dksX21_meets_1 : cX21_meets.data.toList.drop 22 = dktX21_meets_1 := dk_seg dksX21_meets_0 22 rfl rfl
theorem dksX21_meets_2 : cX21_meets.data.toList.drop 46 = dktX21_meets_2 := dk_seg dksX21_meets_1 24 rfl rfl
theorem dksX21_meets_3 : cX21_meets.data.toList.drop 70 = dktX21_meets_3 := dk_seg dksX21_meets_2 24 rfl rfl
theorem dksX21_meets_4 : cX21_meets.data.toList.drop 92 = dktX21_meets_4 := dk_seg dksX21_meets_3 22 rfl rfl
theorem dksX21_meets_5 : cX21_meets.data.toList.drop 116 = dktX21_meets_5 := dk_seg dksX21_meets_4 24 rfl rfl
theorem dksX21_meets_6 : cX21_meets.data.toList.drop 139 = dktX21_meets_6 := dk_seg dksX21_meets_5 23 rfl rfl
theorem dX21_meets_0 : decode cX21_meets 0 = .ok (.aload_n 0, 1) := dk_42 (dk_at dksX21_meets_0 0 rfl rfl)
theorem dX21_meets_1 : decode cX21_meets 1 = .ok (.getfield 17, 3) := dk_180 0 17 (dk_at dksX21_meets_0 1 rfl rfl)
theorem dX21_meets_4 : decode cX21_meets 4 = .ok (.iconst 3, 1) := dk_6 (dk_at dksX21_meets_0 4 rfl rfl)
theorem dX21_meets_5 : decode cX21_meets 5 = .ok (.if_icmp .ge 69, 3) := dk_162 0 69 (dk_at dksX21_meets_0 5 rfl rfl)
theorem dX21_meets_8 : decode cX21_meets 8 = .ok (.aload_n 0, 1) := dk_42 (dk_at dksX21_meets_0 8 rfl rfl)
theorem dX21_meets_9 : decode cX21_meets 9 = .ok (.getfield 21, 3) := dk_180 0 21 (dk_at dksX21_meets_0 9 rfl rfl)
theorem dX21_meets_12 : decode cX21_meets 12 = .ok (.aload_n 2, 1) := dk_44 (dk_at dksX21_meets_0 12 rfl rfl)
theorem dX21_meets_13 : decode cX21_meets 13 = .ok (.invokevirtual 29, 3) := dk_182 0 29 (dk_at dksX21_meets_0 13 rfl rfl)
theorem dX21_meets_16 : decode cX21_meets 16 = .ok (.ifCond .ne 4, 3) := dk_154 0 4 (dk_at dksX21_meets_0 16 rfl rfl)
theorem dX21_meets_19 : decode cX21_meets 19 = .ok (.return_, 1) := dk_177 (dk_at dksX21_meets_0 19 rfl rfl)
theorem dX21_meets_20 : decode cX21_meets 20 = .ok (.aload_n 0, 1) := dk_42 (dk_at dksX21_meets_0 20 rfl rfl)
theorem dX21_meets_21 : decode cX21_meets 21 = .ok (.aload_n 0, 1) := dk_42 (dk_at dksX21_meets_0 21 rfl rfl)
theorem dX21_meets_22 : decode cX21_meets 22 = .ok (.getfield 17, 3) := dk_180 0 17 (dk_at dksX21_meets_1 0 rfl rfl)
theorem dX21_meets_25 : decode cX21_meets 25 = .ok (.iconst 2, 1) := dk_5 (dk_at dksX21_meets_1 3 rfl rfl)
theorem dX21_meets_26 : decode cX21_meets 26 = .ok (.if_icmp .ne 16, 3) := dk_160 0 16 (dk_at dksX21_meets_1 4 rfl rfl)
theorem dX21_meets_29 : decode cX21_meets 29 = .ok (.lconst 0, 1) := dk_9 (dk_at dksX21_meets_1 7 rfl rfl)
theorem dX21_meets_30 : decode cX21_meets 30 = .ok (.aload_n 0, 1) := dk_42 (dk_at dksX21_meets_1 8 rfl rfl)
theorem dX21_meets_31 : decode cX21_meets 31 = .ok (.getfield 11, 3) := dk_180 0 11 (dk_at dksX21_meets_1 9 rfl rfl)
theorem dX21_meets_34 : decode cX21_meets 34 = .ok (.invokestatic 35, 3) := dk_184 0 35 (dk_at dksX21_meets_1 12 rfl rfl)
theorem dX21_meets_37 : decode cX21_meets 37 = .ok (.lconst 1, 1) := dk_10 (dk_at dksX21_meets_1 15 rfl rfl)
theorem dX21_meets_38 : decode cX21_meets 38 = .ok (.ladd, 1) := dk_97 (dk_at dksX21_meets_1 16 rfl rfl)
theorem dX21_meets_39 : decode cX21_meets 39 = .ok (.goto 26, 3) := dk_167 0 26 (dk_at dksX21_meets_1 17 rfl rfl)
theorem dX21_meets_42 : decode cX21_meets 42 = .ok (.aload_n 0, 1) := dk_42 (dk_at dksX21_meets_1 20 rfl rfl)
theorem dX21_meets_43 : decode cX21_meets 43 = .ok (.getfield 17, 3) := dk_180 0 17 (dk_at dksX21_meets_1 21 rfl rfl)
theorem dX21_meets_46 : decode cX21_meets 46 = .ok (.ifCond .ne 17, 3) := dk_154 0 17 (dk_at dksX21_meets_2 0 rfl rfl)
theorem dX21_meets_49 : decode cX21_meets 49 = .ok (.aload_n 0, 1) := dk_42 (dk_at dksX21_meets_2 3 rfl rfl)
theorem dX21_meets_50 : decode cX21_meets 50 = .ok (.getfield 41, 3) := dk_180 0 41 (dk_at dksX21_meets_2 4 rfl rfl)
theorem dX21_meets_53 : decode cX21_meets 53 = .ok (.ifCond .eq 10, 3) := dk_153 0 10 (dk_at dksX21_meets_2 7 rfl rfl)
theorem dX21_meets_56 : decode cX21_meets 56 = .ok (.aload_n 0, 1) := dk_42 (dk_at dksX21_meets_2 10 rfl rfl)
theorem dX21_meets_57 : decode cX21_meets 57 = .ok (.getfield 11, 3) := dk_180 0 11 (dk_at dksX21_meets_2 11 rfl rfl)
theorem dX21_meets_60 : decode cX21_meets 60 = .ok (.goto 5, 3) := dk_167 0 5 (dk_at dksX21_meets_2 14 rfl rfl)
theorem dX21_meets_63 : decode cX21_meets 63 = .ok (.iload_n 1, 1) := dk_27 (dk_at dksX21_meets_2 17 rfl rfl)
theorem dX21_meets_64 : decode cX21_meets 64 = .ok (.i2l, 1) := dk_133 (dk_at dksX21_meets_2 18 rfl rfl)
theorem dX21_meets_65 : decode cX21_meets 65 = .ok (.putfield 11, 3) := dk_181 0 11 (dk_at dksX21_meets_2 19 rfl rfl)
theorem dX21_meets_68 : decode cX21_meets 68 = .ok (.aload_n 0, 1) := dk_42 (dk_at dksX21_meets_2 22 rfl rfl)
theorem dX21_meets_69 : decode cX21_meets 69 = .ok (.iconst 1, 1) := dk_4 (dk_at dksX21_meets_2 23 rfl rfl)
theorem dX21_meets_70 : decode cX21_meets 70 = .ok (.putfield 41, 3) := dk_181 0 41 (dk_at dksX21_meets_3 0 rfl rfl)
theorem dX21_meets_73 : decode cX21_meets 73 = .ok (.return_, 1) := dk_177 (dk_at dksX21_meets_3 3 rfl rfl)
theorem dX21_meets_74 : decode cX21_meets 74 = .ok (.aload_n 0, 1) := dk_42 (dk_at dksX21_meets_3 4 rfl rfl)
theorem dX21_meets_75 : decode cX21_meets 75 = .ok (.getfield 25, 3) := dk_180 0 25 (dk_at dksX21_meets_3 5 rfl rfl)
theorem dX21_meets_78 : decode cX21_meets 78 = .ok (.aload_n 2, 1) := dk_44 (dk_at dksX21_meets_3 8 rfl rfl)
theorem dX21_meets_79 : decode cX21_meets 79 = .ok (.invokevirtual 45, 3) := dk_182 0 45 (dk_at dksX21_meets_3 9 rfl rfl)
theorem dX21_meets_82 : decode cX21_meets 82 = .ok (.lstore_n 3, 1) := dk_66 (dk_at dksX21_meets_3 12 rfl rfl)
theorem dX21_meets_83 : decode cX21_meets 83 = .ok (.aload_n 0, 1) := dk_42 (dk_at dksX21_meets_3 13 rfl rfl)
theorem dX21_meets_84 : decode cX21_meets 84 = .ok (.aload_n 0, 1) := dk_42 (dk_at dksX21_meets_3 14 rfl rfl)
theorem dX21_meets_85 : decode cX21_meets 85 = .ok (.getfield 41, 3) := dk_180 0 41 (dk_at dksX21_meets_3 15 rfl rfl)
theorem dX21_meets_88 : decode cX21_meets 88 = .ok (.ifCond .ne 7, 3) := dk_154 0 7 (dk_at dksX21_meets_3 18 rfl rfl)
theorem dX21_meets_91 : decode cX21_meets 91 = .ok (.lload_n 3, 1) := dk_33 (dk_at dksX21_meets_3 21 rfl rfl)
theorem dX21_meets_92 : decode cX21_meets 92 = .ok (.goto 47, 3) := dk_167 0 47 (dk_at dksX21_meets_4 0 rfl rfl)
theorem dX21_meets_95 : decode cX21_meets 95 = .ok (.aload_n 0, 1) := dk_42 (dk_at dksX21_meets_4 3 rfl rfl)
theorem dX21_meets_96 : decode cX21_meets 96 = .ok (.getfield 17, 3) := dk_180 0 17 (dk_at dksX21_meets_4 4 rfl rfl)
theorem dX21_meets_99 : decode cX21_meets 99 = .ok (.iconst 3, 1) := dk_6 (dk_at dksX21_meets_4 7 rfl rfl)
theorem dX21_meets_100 : decode cX21_meets 100 = .ok (.if_icmp .ne 12, 3) := dk_160 0 12 (dk_at dksX21_meets_4 8 rfl rfl)
theorem dX21_meets_103 : decode cX21_meets 103 = .ok (.aload_n 0, 1) := dk_42 (dk_at dksX21_meets_4 11 rfl rfl)
theorem dX21_meets_104 : decode cX21_meets 104 = .ok (.getfield 11, 3) := dk_180 0 11 (dk_at dksX21_meets_4 12 rfl rfl)
theorem dX21_meets_107 : decode cX21_meets 107 = .ok (.lload_n 3, 1) := dk_33 (dk_at dksX21_meets_4 15 rfl rfl)
theorem dX21_meets_108 : decode cX21_meets 108 = .ok (.ladd, 1) := dk_97 (dk_at dksX21_meets_4 16 rfl rfl)
theorem dX21_meets_109 : decode cX21_meets 109 = .ok (.goto 30, 3) := dk_167 0 30 (dk_at dksX21_meets_4 17 rfl rfl)
theorem dX21_meets_112 : decode cX21_meets 112 = .ok (.aload_n 0, 1) := dk_42 (dk_at dksX21_meets_4 20 rfl rfl)
theorem dX21_meets_113 : decode cX21_meets 113 = .ok (.getfield 17, 3) := dk_180 0 17 (dk_at dksX21_meets_4 21 rfl rfl)
theorem dX21_meets_116 : decode cX21_meets 116 = .ok (.iconst 4, 1) := dk_7 (dk_at dksX21_meets_5 0 rfl rfl)
theorem dX21_meets_117 : decode cX21_meets 117 = .ok (.if_icmp .ne 14, 3) := dk_160 0 14 (dk_at dksX21_meets_5 1 rfl rfl)
theorem dX21_meets_120 : decode cX21_meets 120 = .ok (.aload_n 0, 1) := dk_42 (dk_at dksX21_meets_5 4 rfl rfl)
theorem dX21_meets_121 : decode cX21_meets 121 = .ok (.getfield 11, 3) := dk_180 0 11 (dk_at dksX21_meets_5 5 rfl rfl)
theorem dX21_meets_124 : decode cX21_meets 124 = .ok (.lload_n 3, 1) := dk_33 (dk_at dksX21_meets_5 8 rfl rfl)
theorem dX21_meets_125 : decode cX21_meets 125 = .ok (.invokestatic 35, 3) := dk_184 0 35 (dk_at dksX21_meets_5 9 rfl rfl)
theorem dX21_meets_128 : decode cX21_meets 128 = .ok (.goto 11, 3) := dk_167 0 11 (dk_at dksX21_meets_5 12 rfl rfl)
theorem dX21_meets_131 : decode cX21_meets 131 = .ok (.aload_n 0, 1) := dk_42 (dk_at dksX21_meets_5 15 rfl rfl)
theorem dX21_meets_132 : decode cX21_meets 132 = .ok (.getfield 11, 3) := dk_180 0 11 (dk_at dksX21_meets_5 16 rfl rfl)
theorem dX21_meets_135 : decode cX21_meets 135 = .ok (.lload_n 3, 1) := dk_33 (dk_at dksX21_meets_5 19 rfl rfl)
theorem dX21_meets_136 : decode cX21_meets 136 = .ok (.invokestatic 51, 3) := dk_184 0 51 (dk_at dksX21_meets_5 20 rfl rfl)
theorem dX21_meets_139 : decode cX21_meets 139 = .ok (.putfield 11, 3) := dk_181 0 11 (dk_at dksX21_meets_6 0 rfl rfl)
theorem dX21_meets_142 : decode cX21_meets 142 = .ok (.aload_n 0, 1) := dk_42 (dk_at dksX21_meets_6 3 rfl rfl)
theorem dX21_meets_143 : decode cX21_meets 143 = .ok (.iconst 1, 1) := dk_4 (dk_at dksX21_meets_6 4 rfl rfl)
theorem dX21_meets_144 : decode cX21_meets 144 = .ok (.putfield 41, 3) := dk_181 0 41 (dk_at dksX21_meets_6 5 rfl rfl)
theorem dX21_meets_147 : decode cX21_meets 147 = .ok (.return_, 1) := dk_177 (dk_at dksX21_meets_6 8 rfl rfl)
abbrev cX21_answer : ByteArray := prog_16_method_3_code
def yX21_answer : MethodName := ⟨RX21, "answer", "()J"⟩
def dkwX21_answer_0 : List UInt8 := [42, 180, 0, 41, 154, 0, 11, 42, 180, 0, 17, 5, 162, 0, 10, 42, 180, 0, 11, 167, 0, 4, 9, 173]
abbrev dktX21_answer_0 : List UInt8 := dkwX21_answer_0 ++ []
theorem dksX21_answer_0 : cX21_answer.data.toList.drop 0 = dktX21_answer_0 := by decide +kernel
theorem dX21_answer_0 : decode cX21_answer 0 = .ok (.aload_n 0, 1) := dk_42 (dk_at dksX21_answer_0 0 rfl rfl)
theorem dX21_answer_1 : decode cX21_answer 1 = .ok (.getfield 41, 3) := dk_180 0 41 (dk_at dksX21_answer_0 1 rfl rfl)
theorem dX21_answer_4 : decode cX21_answer 4 = .ok (.ifCond .ne 11, 3) := dk_154 0 11 (dk_at dksX21_answer_0 4 rfl rfl)
theorem dX21_answer_7 : decode cX21_answer 7 = .ok (.aload_n 0, 1) := dk_42 (dk_at dksX21_answer_0 7 rfl rfl)
theorem dX21_answer_8 : decode cX21_answer 8 = .ok (.getfield 17, 3) := dk_180 0 17 (dk_at dksX21_answer_0 8 rfl rfl)
theorem dX21_answer_11 : decode cX21_answer 11 = .ok (.iconst 2, 1) := dk_5 (dk_at dksX21_answer_0 11 rfl rfl)
theorem dX21_answer_12 : decode cX21_answer 12 = .ok (.if_icmp .ge 10, 3) := dk_162 0 10 (dk_at dksX21_answer_0 12 rfl rfl)
theorem dX21_answer_15 : decode cX21_answer 15 = .ok (.aload_n 0, 1) := dk_42 (dk_at dksX21_answer_0 15 rfl rfl)
theorem dX21_answer_16 : decode cX21_answer 16 = .ok (.getfield 11, 3) := dk_180 0 11 (dk_at dksX21_answer_0 16 rfl rfl)
theorem dX21_answer_19 : decode cX21_answer 19 = .ok (.goto 4, 3) := dk_167 0 4 (dk_at dksX21_answer_0 19 rfl rfl)
theorem dX21_answer_22 : decode cX21_answer 22 = .ok (.lconst 0, 1) := dk_9 (dk_at dksX21_answer_0 22 rfl rfl)
theorem dX21_answer_23 : decode cX21_answer 23 = .ok (.lreturn, 1) := dk_173 (dk_at dksX21_answer_0 23 rfl rfl)
theorem q210 : (Jvm.Cond.initialized "ShrugHills$Question") ∈ lw_all := lw_g (lw_at lw_m1 40 rfl) rfl
theorem q912 : (Jvm.Cond.selects "ShrugHills$Question" ({ cls := "java/lang/Object", name := "getClass", desc := "()Ljava/lang/Class;" } : Jvm.MethodName) ({ cls := "java/lang/Object", name := "getClass", desc := "()Ljava/lang/Class;" } : Jvm.MethodName)) ∈ lw_all := lw_g (lw_at lw_m4 22 rfl) rfl
theorem q1687 : (Jvm.Cond.instantiable "ShrugHills$Question" (5 : Nat)) ∈ lw_all := lw_g (lw_at lw_m7 77 rfl) rfl
theorem q1689 : (Jvm.Cond.instanceMethod ({ cls := "ShrugHills$Question", name := "<init>", desc := "(ILShrugHills$Test;LShrugHills$Value;)V" } : Jvm.MethodName)) ∈ lw_all := lw_g (lw_at lw_m7 79 rfl) rfl
theorem q1690 : (Jvm.Cond.code ({ cls := "ShrugHills$Question", name := "<init>", desc := "(ILShrugHills$Test;LShrugHills$Value;)V" } : Jvm.MethodName) prog_16_method_1_code (4 : Nat) (Option.none : Option Jvm.ClassFile.FieldType)) ∈ lw_all := lw_g (lw_at lw_m7 80 rfl) rfl
theorem q1691 : (Jvm.Cond.methodLink "ShrugHills$Question" (3 : Nat) ({ cls := "java/lang/Object", name := "<init>", desc := "()V" } : Jvm.MethodName)) ∈ lw_all := lw_g (lw_at lw_m7 81 rfl) rfl
theorem q1692 : (Jvm.Cond.constantLong "ShrugHills$Question" (9 : Nat) (-1 : Int64)) ∈ lw_all := lw_g (lw_at lw_m7 82 rfl) rfl
theorem q1693 : (Jvm.Cond.fieldLink "ShrugHills$Question" (17 : Nat) "ShrugHills$Question" "what" "I") ∈ lw_all := lw_g (lw_at lw_m7 83 rfl) rfl
theorem q1694 : (Jvm.Cond.fieldLink "ShrugHills$Question" (21 : Nat) "ShrugHills$Question" "test" "LShrugHills$Test;") ∈ lw_all := lw_g (lw_at lw_m7 84 rfl) rfl
theorem q1695 : (Jvm.Cond.fieldLink "ShrugHills$Question" (25 : Nat) "ShrugHills$Question" "sum" "LShrugHills$Value;") ∈ lw_all := lw_g (lw_at lw_m7 85 rfl) rfl
theorem q1696 : (Jvm.Cond.fieldLink "ShrugHills$Question" (11 : Nat) "ShrugHills$Question" "found" "J") ∈ lw_all := lw_g (lw_at lw_m7 86 rfl) rfl
theorem q1697 : (Jvm.Cond.fieldLink "ShrugHills$Question" (41 : Nat) "ShrugHills$Question" "has" "Z") ∈ lw_all := lw_g (lw_at lw_m7 87 rfl) rfl
theorem q1698 : (Jvm.Cond.laysFinal "ShrugHills$Question" "ShrugHills$Question" "what" "I") ∈ lw_all := lw_g (lw_at lw_m7 88 rfl) rfl
theorem q1699 : (Jvm.Cond.soleField "ShrugHills$Question" "what") ∈ lw_all := lw_g (lw_at lw_m7 89 rfl) rfl
theorem q1700 : (Jvm.Cond.laysFinal "ShrugHills$Question" "ShrugHills$Question" "test" "LShrugHills$Test;") ∈ lw_all := lw_g (lw_at lw_m7 90 rfl) rfl
theorem q1701 : (Jvm.Cond.soleField "ShrugHills$Question" "test") ∈ lw_all := lw_g (lw_at lw_m7 91 rfl) rfl
theorem q1702 : (Jvm.Cond.laysFinal "ShrugHills$Question" "ShrugHills$Question" "sum" "LShrugHills$Value;") ∈ lw_all := lw_g (lw_at lw_m7 92 rfl) rfl
theorem q1703 : (Jvm.Cond.soleField "ShrugHills$Question" "sum") ∈ lw_all := lw_g (lw_at lw_m7 93 rfl) rfl
theorem q1704 : (Jvm.Cond.lays "ShrugHills$Question" "ShrugHills$Question" "found" "J") ∈ lw_all := lw_g (lw_at lw_m7 94 rfl) rfl
theorem q1705 : (Jvm.Cond.soleField "ShrugHills$Question" "found") ∈ lw_all := lw_g (lw_at lw_m7 95 rfl) rfl
theorem q1706 : (Jvm.Cond.lays "ShrugHills$Question" "ShrugHills$Question" "has" "Z") ∈ lw_all := lw_g (lw_at lw_m7 96 rfl) rfl
theorem q1707 : (Jvm.Cond.soleField "ShrugHills$Question" "has") ∈ lw_all := lw_g (lw_at lw_m7 97 rfl) rfl
theorem q1708 : (Jvm.Cond.superclass "ShrugHills$Question" "java/lang/Object") ∈ lw_all := lw_g (lw_at lw_m7 98 rfl) rfl
theorem q1710 : (Jvm.Cond.instanceMethod ({ cls := "ShrugHills$Question", name := "meets", desc := "(ILShrugHills$Moment;)V" } : Jvm.MethodName)) ∈ lw_all := lw_g (lw_at lw_m7 100 rfl) rfl
theorem q1711 : (Jvm.Cond.selects "ShrugHills$Question" ({ cls := "ShrugHills$Question", name := "meets", desc := "(ILShrugHills$Moment;)V" } : Jvm.MethodName) ({ cls := "ShrugHills$Question", name := "meets", desc := "(ILShrugHills$Moment;)V" } : Jvm.MethodName)) ∈ lw_all := lw_g (lw_at lw_m7 101 rfl) rfl
theorem q1712 : (Jvm.Cond.code ({ cls := "ShrugHills$Question", name := "meets", desc := "(ILShrugHills$Moment;)V" } : Jvm.MethodName) prog_16_method_2_code (5 : Nat) (Option.none : Option Jvm.ClassFile.FieldType)) ∈ lw_all := lw_g (lw_at lw_m7 102 rfl) rfl
theorem q1713 : (Jvm.Cond.methodLink "ShrugHills$Question" (29 : Nat) ({ cls := "ShrugHills$Test", name := "holds", desc := "(LShrugHills$Moment;)Z" } : Jvm.MethodName)) ∈ lw_all := lw_g (lw_at lw_m7 103 rfl) rfl
theorem q1714 : (Jvm.Cond.methodLink "ShrugHills$Question" (35 : Nat) ({ cls := "java/lang/Math", name := "max", desc := "(JJ)J" } : Jvm.MethodName)) ∈ lw_all := lw_g (lw_at lw_m7 104 rfl) rfl
theorem q1715 : (Jvm.Cond.methodLink "ShrugHills$Question" (45 : Nat) ({ cls := "ShrugHills$Value", name := "at", desc := "(LShrugHills$Moment;)J" } : Jvm.MethodName)) ∈ lw_all := lw_g (lw_at lw_m7 105 rfl) rfl
theorem q1716 : (Jvm.Cond.methodLink "ShrugHills$Question" (51 : Nat) ({ cls := "java/lang/Math", name := "min", desc := "(JJ)J" } : Jvm.MethodName)) ∈ lw_all := lw_g (lw_at lw_m7 106 rfl) rfl
theorem q1718 : (Jvm.Cond.instanceMethod ({ cls := "ShrugHills$Question", name := "answer", desc := "()J" } : Jvm.MethodName)) ∈ lw_all := lw_g (lw_at lw_m7 108 rfl) rfl
theorem q1719 : (Jvm.Cond.selects "ShrugHills$Question" ({ cls := "ShrugHills$Question", name := "answer", desc := "()J" } : Jvm.MethodName) ({ cls := "ShrugHills$Question", name := "answer", desc := "()J" } : Jvm.MethodName)) ∈ lw_all := lw_g (lw_at lw_m7 109 rfl) rfl
theorem q1720 : (Jvm.Cond.code ({ cls := "ShrugHills$Question", name := "answer", desc := "()J" } : Jvm.MethodName) prog_16_method_3_code (1 : Nat) (Option.some Jvm.ClassFile.FieldType.long)) ∈ lw_all := lw_g (lw_at lw_m7 110 rfl) rfl
theorem q2737 : (Jvm.Cond.castable "ShrugHills$Question" "java/lang/Object") ∈ lw_tbl := lw_at lw_m11 167 rfl
theorem in_X21 : ∀ w ∈ wsX210, w ∈ lw_all := lw_in wsX210 [1698, 1700, 1702, 1704, 1706] (by decide +kernel) (by decide +kernel)
