/-! ShrugHills -/
set_option maxRecDepth 100000
def RX0 : String := "ShrugHills"
def TX0 : u_T := fun k => match k with
  | 0 => ("ShrugHills", "plain", "LShrugHills$Plain;", false)
  | 1 => ("ShrugHills", "tape", "[B", true)
  | 2 => ("ShrugHills", "taped", "I", false)
  | 3 => ("ShrugHills", "faultKind", "I", false)
  | 4 => ("ShrugHills", "faultPlace", "I", false)
  | 5 => ("ShrugHills", "reader", "LShrugHills$Reader;", true)
  | 6 => ("ShrugHills", "moment", "LShrugHills$Moment;", true)
  | 7 => ("ShrugHills", "asked", "LShrugHills$Moment;", true)
  | 8 => ("ShrugHills", "refused", "[I", true)
  | 9 => ("ShrugHills", "now", "LShrugHills$State;", true)
  | 10 => ("ShrugHills", "tried", "LShrugHills$State;", true)
  | 11 => ("ShrugHills", "askedBy", "[LShrugHills$State;", true)
  | 12 => ("ShrugHills", "planned", "[I", true)
  | 13 => ("ShrugHills", "far", "[I", true)
  | 14 => ("ShrugHills", "isHigh", "[[I", true)
  | 15 => ("ShrugHills", "rowDay", "[I", true)
  | 16 => ("ShrugHills", "rowCell", "[I", true)
  | 17 => ("ShrugHills", "rowHeight", "[I", true)
  | 18 => ("ShrugHills", "rows", "I", false)
  | 19 => ("ShrugHills", "heightBy", "[[[I", true)
  | 20 => ("ShrugHills", "kept", "[LShrugHills$State;", true)
  | 21 => ("ShrugHills", "undos", "I", false)
  | 22 => ("ShrugHills", "seeds", "J", false)
  | 23 => ("ShrugHills", "askedPerson", "I", false)
  | 24 => ("ShrugHills", "out", "[B", true)
  | _ => ("ShrugHills", "outs", "I", false)
def tyX0 : Nat → FieldType := fun k => match k with
  | 0 => .object "ShrugHills$Plain"
  | 1 => .array .byte
  | 2 => .int
  | 3 => .int
  | 4 => .int
  | 5 => .object "ShrugHills$Reader"
  | 6 => .object "ShrugHills$Moment"
  | 7 => .object "ShrugHills$Moment"
  | 8 => .array .int
  | 9 => .object "ShrugHills$State"
  | 10 => .object "ShrugHills$State"
  | 11 => .array (.object "ShrugHills$State")
  | 12 => .array .int
  | 13 => .array .int
  | 14 => .array (.array .int)
  | 15 => .array .int
  | 16 => .array .int
  | 17 => .array .int
  | 18 => .int
  | 19 => .array (.array (.array .int))
  | 20 => .array (.object "ShrugHills$State")
  | 21 => .int
  | 22 => .long
  | 23 => .int
  | 24 => .array .byte
  | _ => .int
abbrev wsX00 : List Cond := u_ws RX0 TX0 26
set_option maxRecDepth 100000 in
theorem nmX0 : ∀ a, a < 26 → ∀ b, b < 26 → a ≠ b → (TX0 a).2.1 ≠ (TX0 b).2.1 := by decide +kernel
set_option maxRecDepth 100000 in
theorem tyX0_ok : ∀ k, k < 26 → parseFieldDescriptor (TX0 k).2.2.1 = some (tyX0 k) := by decide +kernel
abbrev cX0_init : ByteArray := prog_1_method_7_code
def yX0_init : MethodName := ⟨RX0, "<init>", "()V"⟩
def dkwX0_init_10 : List UInt8 := [10, 181, 0, 108, 42, 16, 95, 188, 8, 181, 0, 112, 177]
abbrev dktX0_init_10 : List UInt8 := dkwX0_init_10 ++ []
def dkwX0_init_9 : List UInt8 := [163, 0, 23, 42, 180, 0, 76, 27, 187, 0, 66, 89, 42, 183, 0, 68, 83, 132, 1, 1, 167, 255, 234, 42]
abbrev dktX0_init_9 : List UInt8 := dkwX0_init_9 ++ dktX0_init_10
def dkwX0_init_8 : List UInt8 := [42, 180, 0, 105, 27, 187, 0, 66, 89, 42, 183, 0, 68, 83, 132, 1, 1, 167, 255, 233, 3, 60, 27, 6]
abbrev dktX0_init_8 : List UInt8 := dkwX0_init_8 ++ dktX0_init_9
def dkwX0_init_7 : List UInt8 := [197, 0, 100, 3, 181, 0, 102, 42, 16, 20, 189, 0, 66, 181, 0, 105, 3, 60, 27, 16, 20, 162, 0, 23]
abbrev dktX0_init_7 : List UInt8 := dkwX0_init_7 ++ dktX0_init_8
def dkwX0_init_6 : List UInt8 := [42, 16, 16, 188, 10, 181, 0, 94, 42, 16, 16, 188, 10, 181, 0, 97, 42, 16, 7, 16, 31, 16, 64]
abbrev dktX0_init_6 : List UInt8 := dkwX0_init_6 ++ dktX0_init_7
def dkwX0_init_5 : List UInt8 := [181, 0, 83, 42, 17, 0, 128, 16, 7, 197, 0, 86, 2, 181, 0, 88, 42, 16, 16, 188, 10, 181, 0, 91]
abbrev dktX0_init_5 : List UInt8 := dkwX0_init_5 ++ dktX0_init_6
def dkwX0_init_4 : List UInt8 := [181, 0, 73, 42, 7, 189, 0, 66, 181, 0, 76, 42, 6, 188, 10, 181, 0, 80, 42, 16, 64, 188, 10]
abbrev dktX0_init_4 : List UInt8 := dkwX0_init_4 ++ dktX0_init_5
def dkwX0_init_3 : List UInt8 := [181, 0, 62, 42, 187, 0, 66, 89, 42, 183, 0, 68, 181, 0, 69, 42, 187, 0, 66, 89, 42, 183, 0, 68]
abbrev dktX0_init_3 : List UInt8 := dkwX0_init_3 ++ dktX0_init_4
def dkwX0_init_2 : List UInt8 := [183, 0, 54, 181, 0, 55, 42, 187, 0, 52, 89, 183, 0, 54, 181, 0, 59, 42, 16, 6, 188, 10]
abbrev dktX0_init_2 : List UInt8 := dkwX0_init_2 ++ dktX0_init_3
def dkwX0_init_1 : List UInt8 := [42, 2, 181, 0, 39, 42, 187, 0, 43, 89, 42, 183, 0, 45, 181, 0, 48, 42, 187, 0, 52, 89]
abbrev dktX0_init_1 : List UInt8 := dkwX0_init_1 ++ dktX0_init_2
def dkwX0_init_0 : List UInt8 := [42, 183, 0, 22, 42, 187, 0, 28, 89, 183, 0, 30, 181, 0, 31, 42, 17, 6, 64, 188, 8, 181, 0, 35]
abbrev dktX0_init_0 : List UInt8 := dkwX0_init_0 ++ dktX0_init_1
theorem dksX0_init_0 : cX0_init.data.toList.drop 0 = dktX0_init_0 := by decide +kernel
theorem dksX0_init_1 : cX0_init.data.toList.drop 24 = dktX0_init_1 := dk_seg dksX0_init_0 24 rfl rfl
theorem dksX0_init_2 : cX0_init.data.toList.drop 46 = dktX0_init_2 := dk_seg dksX0_init_1 22 rfl rfl
theorem dksX0_init_3 : cX0_init.data.toList.drop 68 = dktX0_init_3 := dk_seg dksX0_init_2 22 rfl rfl
theorem dksX0_init_4 : cX0_init.data.toList.drop 92 = dktX0_init_4 := dk_seg dksX0_init_3 24 rfl rfl
theorem dksX0_init_5 : cX0_init.data.toList.drop 115 = dktX0_init_5 := dk_seg dksX0_init_4 23 rfl rfl
theorem dksX0_init_6 : cX0_init.data.toList.drop 139 = dktX0_init_6 := dk_seg dksX0_init_5 24 rfl rfl
theorem dksX0_init_7 : cX0_init.data.toList.drop 162 = dktX0_init_7 := dk_seg dksX0_init_6 23 rfl rfl
theorem dksX0_init_8 : cX0_init.data.toList.drop 186 = dktX0_init_8 := dk_seg dksX0_init_7 24 rfl rfl
theorem dksX0_init_9 : cX0_init.data.toList.drop 210 = dktX0_init_9 := dk_seg dksX0_init_8 24 rfl rfl
theorem dksX0_init_10 : cX0_init.data.toList.drop 234 = dktX0_init_10 := dk_seg dksX0_init_9 24 rfl rfl
theorem dX0_init_0 : decode cX0_init 0 = .ok (.aload_n 0, 1) := dk_42 (dk_at dksX0_init_0 0 rfl rfl)
theorem dX0_init_1 : decode cX0_init 1 = .ok (.invokespecial 22, 3) := dk_183 0 22 (dk_at dksX0_init_0 1 rfl rfl)
theorem dX0_init_4 : decode cX0_init 4 = .ok (.aload_n 0, 1) := dk_42 (dk_at dksX0_init_0 4 rfl rfl)
theorem dX0_init_5 : decode cX0_init 5 = .ok (.new 28, 3) := dk_187 0 28 (dk_at dksX0_init_0 5 rfl rfl)
theorem dX0_init_8 : decode cX0_init 8 = .ok (.dup, 1) := dk_89 (dk_at dksX0_init_0 8 rfl rfl)
theorem dX0_init_9 : decode cX0_init 9 = .ok (.invokespecial 30, 3) := dk_183 0 30 (dk_at dksX0_init_0 9 rfl rfl)
theorem dX0_init_12 : decode cX0_init 12 = .ok (.putfield 31, 3) := dk_181 0 31 (dk_at dksX0_init_0 12 rfl rfl)
theorem dX0_init_15 : decode cX0_init 15 = .ok (.aload_n 0, 1) := dk_42 (dk_at dksX0_init_0 15 rfl rfl)
theorem dX0_init_16 : decode cX0_init 16 = .ok (.sipush 1600, 3) := dk_17 6 64 (dk_at dksX0_init_0 16 rfl rfl)
theorem dX0_init_19 : decode cX0_init 19 = .ok (.newarray .byte, 2) := dk_188_8 (dk_at dksX0_init_0 19 rfl rfl)
theorem dX0_init_21 : decode cX0_init 21 = .ok (.putfield 35, 3) := dk_181 0 35 (dk_at dksX0_init_0 21 rfl rfl)
theorem dX0_init_24 : decode cX0_init 24 = .ok (.aload_n 0, 1) := dk_42 (dk_at dksX0_init_1 0 rfl rfl)
theorem dX0_init_25 : decode cX0_init 25 = .ok (.iconst (-1), 1) := dk_2 (dk_at dksX0_init_1 1 rfl rfl)
theorem dX0_init_26 : decode cX0_init 26 = .ok (.putfield 39, 3) := dk_181 0 39 (dk_at dksX0_init_1 2 rfl rfl)
theorem dX0_init_29 : decode cX0_init 29 = .ok (.aload_n 0, 1) := dk_42 (dk_at dksX0_init_1 5 rfl rfl)
theorem dX0_init_30 : decode cX0_init 30 = .ok (.new 43, 3) := dk_187 0 43 (dk_at dksX0_init_1 6 rfl rfl)
theorem dX0_init_33 : decode cX0_init 33 = .ok (.dup, 1) := dk_89 (dk_at dksX0_init_1 9 rfl rfl)
theorem dX0_init_34 : decode cX0_init 34 = .ok (.aload_n 0, 1) := dk_42 (dk_at dksX0_init_1 10 rfl rfl)
theorem dX0_init_35 : decode cX0_init 35 = .ok (.invokespecial 45, 3) := dk_183 0 45 (dk_at dksX0_init_1 11 rfl rfl)
theorem dX0_init_38 : decode cX0_init 38 = .ok (.putfield 48, 3) := dk_181 0 48 (dk_at dksX0_init_1 14 rfl rfl)
theorem dX0_init_41 : decode cX0_init 41 = .ok (.aload_n 0, 1) := dk_42 (dk_at dksX0_init_1 17 rfl rfl)
theorem dX0_init_42 : decode cX0_init 42 = .ok (.new 52, 3) := dk_187 0 52 (dk_at dksX0_init_1 18 rfl rfl)
theorem dX0_init_45 : decode cX0_init 45 = .ok (.dup, 1) := dk_89 (dk_at dksX0_init_1 21 rfl rfl)
theorem dX0_init_46 : decode cX0_init 46 = .ok (.invokespecial 54, 3) := dk_183 0 54 (dk_at dksX0_init_2 0 rfl rfl)
theorem dX0_init_49 : decode cX0_init 49 = .ok (.putfield 55, 3) := dk_181 0 55 (dk_at dksX0_init_2 3 rfl rfl)
theorem dX0_init_52 : decode cX0_init 52 = .ok (.aload_n 0, 1) := dk_42 (dk_at dksX0_init_2 6 rfl rfl)
theorem dX0_init_53 : decode cX0_init 53 = .ok (.new 52, 3) := dk_187 0 52 (dk_at dksX0_init_2 7 rfl rfl)
theorem dX0_init_56 : decode cX0_init 56 = .ok (.dup, 1) := dk_89 (dk_at dksX0_init_2 10 rfl rfl)
theorem dX0_init_57 : decode cX0_init 57 = .ok (.invokespecial 54, 3) := dk_183 0 54 (dk_at dksX0_init_2 11 rfl rfl)
theorem dX0_init_60 : decode cX0_init 60 = .ok (.putfield 59, 3) := dk_181 0 59 (dk_at dksX0_init_2 14 rfl rfl)
theorem dX0_init_63 : decode cX0_init 63 = .ok (.aload_n 0, 1) := dk_42 (dk_at dksX0_init_2 17 rfl rfl)
theorem dX0_init_64 : decode cX0_init 64 = .ok (.bipush 6, 2) := dk_16 6 (dk_at dksX0_init_2 18 rfl rfl)
theorem dX0_init_66 : decode cX0_init 66 = .ok (.newarray .int, 2) := dk_188_10 (dk_at dksX0_init_2 20 rfl rfl)
theorem dX0_init_68 : decode cX0_init 68 = .ok (.putfield 62, 3) := dk_181 0 62 (dk_at dksX0_init_3 0 rfl rfl)
theorem dX0_init_71 : decode cX0_init 71 = .ok (.aload_n 0, 1) := dk_42 (dk_at dksX0_init_3 3 rfl rfl)
theorem dX0_init_72 : decode cX0_init 72 = .ok (.new 66, 3) := dk_187 0 66 (dk_at dksX0_init_3 4 rfl rfl)
theorem dX0_init_75 : decode cX0_init 75 = .ok (.dup, 1) := dk_89 (dk_at dksX0_init_3 7 rfl rfl)
theorem dX0_init_76 : decode cX0_init 76 = .ok (.aload_n 0, 1) := dk_42 (dk_at dksX0_init_3 8 rfl rfl)
theorem dX0_init_77 : decode cX0_init 77 = .ok (.invokespecial 68, 3) := dk_183 0 68 (dk_at dksX0_init_3 9 rfl rfl)
theorem dX0_init_80 : decode cX0_init 80 = .ok (.putfield 69, 3) := dk_181 0 69 (dk_at dksX0_init_3 12 rfl rfl)
theorem dX0_init_83 : decode cX0_init 83 = .ok (.aload_n 0, 1) := dk_42 (dk_at dksX0_init_3 15 rfl rfl)
theorem dX0_init_84 : decode cX0_init 84 = .ok (.new 66, 3) := dk_187 0 66 (dk_at dksX0_init_3 16 rfl rfl)
theorem dX0_init_87 : decode cX0_init 87 = .ok (.dup, 1) := dk_89 (dk_at dksX0_init_3 19 rfl rfl)
theorem dX0_init_88 : decode cX0_init 88 = .ok (.aload_n 0, 1) := dk_42 (dk_at dksX0_init_3 20 rfl rfl)
theorem dX0_init_89 : decode cX0_init 89 = .ok (.invokespecial 68, 3) := dk_183 0 68 (dk_at dksX0_init_3 21 rfl rfl)
theorem dX0_init_92 : decode cX0_init 92 = .ok (.putfield 73, 3) := dk_181 0 73 (dk_at dksX0_init_4 0 rfl rfl)
theorem dX0_init_95 : decode cX0_init 95 = .ok (.aload_n 0, 1) := dk_42 (dk_at dksX0_init_4 3 rfl rfl)
theorem dX0_init_96 : decode cX0_init 96 = .ok (.iconst 4, 1) := dk_7 (dk_at dksX0_init_4 4 rfl rfl)
theorem dX0_init_97 : decode cX0_init 97 = .ok (.anewarray 66, 3) := dk_189 0 66 (dk_at dksX0_init_4 5 rfl rfl)
theorem dX0_init_100 : decode cX0_init 100 = .ok (.putfield 76, 3) := dk_181 0 76 (dk_at dksX0_init_4 8 rfl rfl)
theorem dX0_init_103 : decode cX0_init 103 = .ok (.aload_n 0, 1) := dk_42 (dk_at dksX0_init_4 11 rfl rfl)
theorem dX0_init_104 : decode cX0_init 104 = .ok (.iconst 3, 1) := dk_6 (dk_at dksX0_init_4 12 rfl rfl)
theorem dX0_init_105 : decode cX0_init 105 = .ok (.newarray .int, 2) := dk_188_10 (dk_at dksX0_init_4 13 rfl rfl)
theorem dX0_init_107 : decode cX0_init 107 = .ok (.putfield 80, 3) := dk_181 0 80 (dk_at dksX0_init_4 15 rfl rfl)
theorem dX0_init_110 : decode cX0_init 110 = .ok (.aload_n 0, 1) := dk_42 (dk_at dksX0_init_4 18 rfl rfl)
theorem dX0_init_111 : decode cX0_init 111 = .ok (.bipush 64, 2) := dk_16 64 (dk_at dksX0_init_4 19 rfl rfl)
theorem dX0_init_113 : decode cX0_init 113 = .ok (.newarray .int, 2) := dk_188_10 (dk_at dksX0_init_4 21 rfl rfl)
theorem dX0_init_115 : decode cX0_init 115 = .ok (.putfield 83, 3) := dk_181 0 83 (dk_at dksX0_init_5 0 rfl rfl)
theorem dX0_init_118 : decode cX0_init 118 = .ok (.aload_n 0, 1) := dk_42 (dk_at dksX0_init_5 3 rfl rfl)
theorem dX0_init_119 : decode cX0_init 119 = .ok (.sipush 128, 3) := dk_17 0 128 (dk_at dksX0_init_5 4 rfl rfl)
theorem dX0_init_122 : decode cX0_init 122 = .ok (.bipush 7, 2) := dk_16 7 (dk_at dksX0_init_5 7 rfl rfl)
theorem dX0_init_124 : decode cX0_init 124 = .ok (.multianewarray 86 2, 4) := by decide +kernel
theorem dX0_init_128 : decode cX0_init 128 = .ok (.putfield 88, 3) := dk_181 0 88 (dk_at dksX0_init_5 13 rfl rfl)
theorem dX0_init_131 : decode cX0_init 131 = .ok (.aload_n 0, 1) := dk_42 (dk_at dksX0_init_5 16 rfl rfl)
theorem dX0_init_132 : decode cX0_init 132 = .ok (.bipush 16, 2) := dk_16 16 (dk_at dksX0_init_5 17 rfl rfl)
theorem dX0_init_134 : decode cX0_init 134 = .ok (.newarray .int, 2) := dk_188_10 (dk_at dksX0_init_5 19 rfl rfl)
theorem dX0_init_136 : decode cX0_init 136 = .ok (.putfield 91, 3) := dk_181 0 91 (dk_at dksX0_init_5 21 rfl rfl)
theorem dX0_init_139 : decode cX0_init 139 = .ok (.aload_n 0, 1) := dk_42 (dk_at dksX0_init_6 0 rfl rfl)
theorem dX0_init_140 : decode cX0_init 140 = .ok (.bipush 16, 2) := dk_16 16 (dk_at dksX0_init_6 1 rfl rfl)
theorem dX0_init_142 : decode cX0_init 142 = .ok (.newarray .int, 2) := dk_188_10 (dk_at dksX0_init_6 3 rfl rfl)
theorem dX0_init_144 : decode cX0_init 144 = .ok (.putfield 94, 3) := dk_181 0 94 (dk_at dksX0_init_6 5 rfl rfl)
theorem dX0_init_147 : decode cX0_init 147 = .ok (.aload_n 0, 1) := dk_42 (dk_at dksX0_init_6 8 rfl rfl)
theorem dX0_init_148 : decode cX0_init 148 = .ok (.bipush 16, 2) := dk_16 16 (dk_at dksX0_init_6 9 rfl rfl)
theorem dX0_init_150 : decode cX0_init 150 = .ok (.newarray .int, 2) := dk_188_10 (dk_at dksX0_init_6 11 rfl rfl)
theorem dX0_init_152 : decode cX0_init 152 = .ok (.putfield 97, 3) := dk_181 0 97 (dk_at dksX0_init_6 13 rfl rfl)
theorem dX0_init_155 : decode cX0_init 155 = .ok (.aload_n 0, 1) := dk_42 (dk_at dksX0_init_6 16 rfl rfl)
theorem dX0_init_156 : decode cX0_init 156 = .ok (.bipush 7, 2) := dk_16 7 (dk_at dksX0_init_6 17 rfl rfl)
theorem dX0_init_158 : decode cX0_init 158 = .ok (.bipush 31, 2) := dk_16 31 (dk_at dksX0_init_6 19 rfl rfl)
theorem dX0_init_160 : decode cX0_init 160 = .ok (.bipush 64, 2) := dk_16 64 (dk_at dksX0_init_6 21 rfl rfl)
theorem dX0_init_162 : decode cX0_init 162 = .ok (.multianewarray 100 3, 4) := by decide +kernel
theorem dX0_init_166 : decode cX0_init 166 = .ok (.putfield 102, 3) := dk_181 0 102 (dk_at dksX0_init_7 4 rfl rfl)
theorem dX0_init_169 : decode cX0_init 169 = .ok (.aload_n 0, 1) := dk_42 (dk_at dksX0_init_7 7 rfl rfl)
theorem dX0_init_170 : decode cX0_init 170 = .ok (.bipush 20, 2) := dk_16 20 (dk_at dksX0_init_7 8 rfl rfl)
theorem dX0_init_172 : decode cX0_init 172 = .ok (.anewarray 66, 3) := dk_189 0 66 (dk_at dksX0_init_7 10 rfl rfl)
theorem dX0_init_175 : decode cX0_init 175 = .ok (.putfield 105, 3) := dk_181 0 105 (dk_at dksX0_init_7 13 rfl rfl)
theorem dX0_init_178 : decode cX0_init 178 = .ok (.iconst 0, 1) := dk_3 (dk_at dksX0_init_7 16 rfl rfl)
theorem dX0_init_179 : decode cX0_init 179 = .ok (.istore_n 1, 1) := dk_60 (dk_at dksX0_init_7 17 rfl rfl)
theorem dX0_init_180 : decode cX0_init 180 = .ok (.iload_n 1, 1) := dk_27 (dk_at dksX0_init_7 18 rfl rfl)
theorem dX0_init_181 : decode cX0_init 181 = .ok (.bipush 20, 2) := dk_16 20 (dk_at dksX0_init_7 19 rfl rfl)
theorem dX0_init_183 : decode cX0_init 183 = .ok (.if_icmp .ge 23, 3) := dk_162 0 23 (dk_at dksX0_init_7 21 rfl rfl)
theorem dX0_init_186 : decode cX0_init 186 = .ok (.aload_n 0, 1) := dk_42 (dk_at dksX0_init_8 0 rfl rfl)
theorem dX0_init_187 : decode cX0_init 187 = .ok (.getfield 105, 3) := dk_180 0 105 (dk_at dksX0_init_8 1 rfl rfl)
theorem dX0_init_190 : decode cX0_init 190 = .ok (.iload_n 1, 1) := dk_27 (dk_at dksX0_init_8 4 rfl rfl)
theorem dX0_init_191 : decode cX0_init 191 = .ok (.new 66, 3) := dk_187 0 66 (dk_at dksX0_init_8 5 rfl rfl)
theorem dX0_init_194 : decode cX0_init 194 = .ok (.dup, 1) := dk_89 (dk_at dksX0_init_8 8 rfl rfl)
theorem dX0_init_195 : decode cX0_init 195 = .ok (.aload_n 0, 1) := dk_42 (dk_at dksX0_init_8 9 rfl rfl)
theorem dX0_init_196 : decode cX0_init 196 = .ok (.invokespecial 68, 3) := dk_183 0 68 (dk_at dksX0_init_8 10 rfl rfl)
theorem dX0_init_199 : decode cX0_init 199 = .ok (.aastore, 1) := dk_83 (dk_at dksX0_init_8 13 rfl rfl)
theorem dX0_init_200 : decode cX0_init 200 = .ok (.iinc 1 1, 3) := dk_132 1 1 (dk_at dksX0_init_8 14 rfl rfl)
theorem dX0_init_203 : decode cX0_init 203 = .ok (.goto (-23), 3) := dk_167 255 233 (dk_at dksX0_init_8 17 rfl rfl)
theorem dX0_init_206 : decode cX0_init 206 = .ok (.iconst 0, 1) := dk_3 (dk_at dksX0_init_8 20 rfl rfl)
theorem dX0_init_207 : decode cX0_init 207 = .ok (.istore_n 1, 1) := dk_60 (dk_at dksX0_init_8 21 rfl rfl)
theorem dX0_init_208 : decode cX0_init 208 = .ok (.iload_n 1, 1) := dk_27 (dk_at dksX0_init_8 22 rfl rfl)
theorem dX0_init_209 : decode cX0_init 209 = .ok (.iconst 3, 1) := dk_6 (dk_at dksX0_init_8 23 rfl rfl)
theorem dX0_init_210 : decode cX0_init 210 = .ok (.if_icmp .gt 23, 3) := dk_163 0 23 (dk_at dksX0_init_9 0 rfl rfl)
theorem dX0_init_213 : decode cX0_init 213 = .ok (.aload_n 0, 1) := dk_42 (dk_at dksX0_init_9 3 rfl rfl)
theorem dX0_init_214 : decode cX0_init 214 = .ok (.getfield 76, 3) := dk_180 0 76 (dk_at dksX0_init_9 4 rfl rfl)
theorem dX0_init_217 : decode cX0_init 217 = .ok (.iload_n 1, 1) := dk_27 (dk_at dksX0_init_9 7 rfl rfl)
theorem dX0_init_218 : decode cX0_init 218 = .ok (.new 66, 3) := dk_187 0 66 (dk_at dksX0_init_9 8 rfl rfl)
theorem dX0_init_221 : decode cX0_init 221 = .ok (.dup, 1) := dk_89 (dk_at dksX0_init_9 11 rfl rfl)
theorem dX0_init_222 : decode cX0_init 222 = .ok (.aload_n 0, 1) := dk_42 (dk_at dksX0_init_9 12 rfl rfl)
theorem dX0_init_223 : decode cX0_init 223 = .ok (.invokespecial 68, 3) := dk_183 0 68 (dk_at dksX0_init_9 13 rfl rfl)
theorem dX0_init_226 : decode cX0_init 226 = .ok (.aastore, 1) := dk_83 (dk_at dksX0_init_9 16 rfl rfl)
theorem dX0_init_227 : decode cX0_init 227 = .ok (.iinc 1 1, 3) := dk_132 1 1 (dk_at dksX0_init_9 17 rfl rfl)
theorem dX0_init_230 : decode cX0_init 230 = .ok (.goto (-22), 3) := dk_167 255 234 (dk_at dksX0_init_9 20 rfl rfl)
theorem dX0_init_233 : decode cX0_init 233 = .ok (.aload_n 0, 1) := dk_42 (dk_at dksX0_init_9 23 rfl rfl)
theorem dX0_init_234 : decode cX0_init 234 = .ok (.lconst 1, 1) := dk_10 (dk_at dksX0_init_10 0 rfl rfl)
theorem dX0_init_235 : decode cX0_init 235 = .ok (.putfield 108, 3) := dk_181 0 108 (dk_at dksX0_init_10 1 rfl rfl)
theorem dX0_init_238 : decode cX0_init 238 = .ok (.aload_n 0, 1) := dk_42 (dk_at dksX0_init_10 4 rfl rfl)
theorem dX0_init_239 : decode cX0_init 239 = .ok (.bipush 95, 2) := dk_16 95 (dk_at dksX0_init_10 5 rfl rfl)
theorem dX0_init_241 : decode cX0_init 241 = .ok (.newarray .byte, 2) := dk_188_8 (dk_at dksX0_init_10 7 rfl rfl)
theorem dX0_init_243 : decode cX0_init 243 = .ok (.putfield 112, 3) := dk_181 0 112 (dk_at dksX0_init_10 9 rfl rfl)
theorem dX0_init_246 : decode cX0_init 246 = .ok (.return_, 1) := dk_177 (dk_at dksX0_init_10 12 rfl rfl)
abbrev cX0_feed : ByteArray := prog_1_method_10_code
def yX0_feed : MethodName := ⟨RX0, "feed", "(IIIII)I"⟩
def dkwX0_feed_2 : List UInt8 := [180, 0, 115, 172]
abbrev dktX0_feed_2 : List UInt8 := dkwX0_feed_2 ++ []
def dkwX0_feed_1 : List UInt8 := [42, 28, 182, 0, 122, 42, 29, 182, 0, 122, 42, 21, 4, 182, 0, 122, 42, 21, 5, 182, 0, 122, 42]
abbrev dktX0_feed_1 : List UInt8 := dkwX0_feed_1 ++ dktX0_feed_2
def dkwX0_feed_0 : List UInt8 := [42, 180, 0, 115, 16, 20, 96, 17, 6, 64, 164, 0, 9, 42, 3, 182, 0, 118, 172, 42, 27, 182, 0, 122]
abbrev dktX0_feed_0 : List UInt8 := dkwX0_feed_0 ++ dktX0_feed_1
theorem dksX0_feed_0 : cX0_feed.data.toList.drop 0 = dktX0_feed_0 := by decide +kernel
theorem dksX0_feed_1 : cX0_feed.data.toList.drop 24 = dktX0_feed_1 := dk_seg dksX0_feed_0 24 rfl rfl
theorem dksX0_feed_2 : cX0_feed.data.toList.drop 47 = dktX0_feed_2 := dk_seg dksX0_feed_1 23 rfl rfl
theorem dX0_feed_0 : decode cX0_feed 0 = .ok (.aload_n 0, 1) := dk_42 (dk_at dksX0_feed_0 0 rfl rfl)
theorem dX0_feed_1 : decode cX0_feed 1 = .ok (.getfield 115, 3) := dk_180 0 115 (dk_at dksX0_feed_0 1 rfl rfl)
theorem dX0_feed_4 : decode cX0_feed 4 = .ok (.bipush 20, 2) := dk_16 20 (dk_at dksX0_feed_0 4 rfl rfl)
theorem dX0_feed_6 : decode cX0_feed 6 = .ok (.iadd, 1) := dk_96 (dk_at dksX0_feed_0 6 rfl rfl)
theorem dX0_feed_7 : decode cX0_feed 7 = .ok (.sipush 1600, 3) := dk_17 6 64 (dk_at dksX0_feed_0 7 rfl rfl)
theorem dX0_feed_10 : decode cX0_feed 10 = .ok (.if_icmp .le 9, 3) := dk_164 0 9 (dk_at dksX0_feed_0 10 rfl rfl)
theorem dX0_feed_13 : decode cX0_feed 13 = .ok (.aload_n 0, 1) := dk_42 (dk_at dksX0_feed_0 13 rfl rfl)
theorem dX0_feed_14 : decode cX0_feed 14 = .ok (.iconst 0, 1) := dk_3 (dk_at dksX0_feed_0 14 rfl rfl)
theorem dX0_feed_15 : decode cX0_feed 15 = .ok (.invokevirtual 118, 3) := dk_182 0 118 (dk_at dksX0_feed_0 15 rfl rfl)
theorem dX0_feed_18 : decode cX0_feed 18 = .ok (.ireturn, 1) := dk_172 (dk_at dksX0_feed_0 18 rfl rfl)
theorem dX0_feed_19 : decode cX0_feed 19 = .ok (.aload_n 0, 1) := dk_42 (dk_at dksX0_feed_0 19 rfl rfl)
theorem dX0_feed_20 : decode cX0_feed 20 = .ok (.iload_n 1, 1) := dk_27 (dk_at dksX0_feed_0 20 rfl rfl)
theorem dX0_feed_21 : decode cX0_feed 21 = .ok (.invokevirtual 122, 3) := dk_182 0 122 (dk_at dksX0_feed_0 21 rfl rfl)
theorem dX0_feed_24 : decode cX0_feed 24 = .ok (.aload_n 0, 1) := dk_42 (dk_at dksX0_feed_1 0 rfl rfl)
theorem dX0_feed_25 : decode cX0_feed 25 = .ok (.iload_n 2, 1) := dk_28 (dk_at dksX0_feed_1 1 rfl rfl)
theorem dX0_feed_26 : decode cX0_feed 26 = .ok (.invokevirtual 122, 3) := dk_182 0 122 (dk_at dksX0_feed_1 2 rfl rfl)
theorem dX0_feed_29 : decode cX0_feed 29 = .ok (.aload_n 0, 1) := dk_42 (dk_at dksX0_feed_1 5 rfl rfl)
theorem dX0_feed_30 : decode cX0_feed 30 = .ok (.iload_n 3, 1) := dk_29 (dk_at dksX0_feed_1 6 rfl rfl)
theorem dX0_feed_31 : decode cX0_feed 31 = .ok (.invokevirtual 122, 3) := dk_182 0 122 (dk_at dksX0_feed_1 7 rfl rfl)
theorem dX0_feed_34 : decode cX0_feed 34 = .ok (.aload_n 0, 1) := dk_42 (dk_at dksX0_feed_1 10 rfl rfl)
theorem dX0_feed_35 : decode cX0_feed 35 = .ok (.iload 4, 2) := dk_21 4 (dk_at dksX0_feed_1 11 rfl rfl)
theorem dX0_feed_37 : decode cX0_feed 37 = .ok (.invokevirtual 122, 3) := dk_182 0 122 (dk_at dksX0_feed_1 13 rfl rfl)
theorem dX0_feed_40 : decode cX0_feed 40 = .ok (.aload_n 0, 1) := dk_42 (dk_at dksX0_feed_1 16 rfl rfl)
theorem dX0_feed_41 : decode cX0_feed 41 = .ok (.iload 5, 2) := dk_21 5 (dk_at dksX0_feed_1 17 rfl rfl)
theorem dX0_feed_43 : decode cX0_feed 43 = .ok (.invokevirtual 122, 3) := dk_182 0 122 (dk_at dksX0_feed_1 19 rfl rfl)
theorem dX0_feed_46 : decode cX0_feed 46 = .ok (.aload_n 0, 1) := dk_42 (dk_at dksX0_feed_1 22 rfl rfl)
theorem dX0_feed_47 : decode cX0_feed 47 = .ok (.getfield 115, 3) := dk_180 0 115 (dk_at dksX0_feed_2 0 rfl rfl)
theorem dX0_feed_50 : decode cX0_feed 50 = .ok (.ireturn, 1) := dk_172 (dk_at dksX0_feed_2 3 rfl rfl)
abbrev cX0_refuses : ByteArray := prog_1_method_8_code
def yX0_refuses : MethodName := ⟨RX0, "refuses", "(I)I"⟩
def dkwX0_refuses_0 : List UInt8 := [42, 180, 0, 62, 27, 92, 46, 4, 96, 79, 2, 172]
abbrev dktX0_refuses_0 : List UInt8 := dkwX0_refuses_0 ++ []
theorem dksX0_refuses_0 : cX0_refuses.data.toList.drop 0 = dktX0_refuses_0 := by decide +kernel
theorem dX0_refuses_0 : decode cX0_refuses 0 = .ok (.aload_n 0, 1) := dk_42 (dk_at dksX0_refuses_0 0 rfl rfl)
theorem dX0_refuses_1 : decode cX0_refuses 1 = .ok (.getfield 62, 3) := dk_180 0 62 (dk_at dksX0_refuses_0 1 rfl rfl)
theorem dX0_refuses_4 : decode cX0_refuses 4 = .ok (.iload_n 1, 1) := dk_27 (dk_at dksX0_refuses_0 4 rfl rfl)
theorem dX0_refuses_5 : decode cX0_refuses 5 = .ok (.dup2, 1) := dk_92 (dk_at dksX0_refuses_0 5 rfl rfl)
theorem dX0_refuses_6 : decode cX0_refuses 6 = .ok (.iaload, 1) := dk_46 (dk_at dksX0_refuses_0 6 rfl rfl)
theorem dX0_refuses_7 : decode cX0_refuses 7 = .ok (.iconst 1, 1) := dk_4 (dk_at dksX0_refuses_0 7 rfl rfl)
theorem dX0_refuses_8 : decode cX0_refuses 8 = .ok (.iadd, 1) := dk_96 (dk_at dksX0_refuses_0 8 rfl rfl)
theorem dX0_refuses_9 : decode cX0_refuses 9 = .ok (.iastore, 1) := dk_79 (dk_at dksX0_refuses_0 9 rfl rfl)
theorem dX0_refuses_10 : decode cX0_refuses 10 = .ok (.iconst (-1), 1) := dk_2 (dk_at dksX0_refuses_0 10 rfl rfl)
theorem dX0_refuses_11 : decode cX0_refuses 11 = .ok (.ireturn, 1) := dk_172 (dk_at dksX0_refuses_0 11 rfl rfl)
abbrev cX0_put : ByteArray := prog_1_method_9_code
def yX0_put : MethodName := ⟨RX0, "put", "(I)V"⟩
def dkwX0_put_1 : List UInt8 := [122, 145, 84, 132, 2, 248, 167, 255, 229, 177]
abbrev dktX0_put_1 : List UInt8 := dkwX0_put_1 ++ []
def dkwX0_put_0 : List UInt8 := [16, 24, 61, 28, 155, 0, 29, 42, 180, 0, 35, 42, 89, 180, 0, 115, 90, 4, 96, 181, 0, 115, 27, 28]
abbrev dktX0_put_0 : List UInt8 := dkwX0_put_0 ++ dktX0_put_1
theorem dksX0_put_0 : cX0_put.data.toList.drop 0 = dktX0_put_0 := by decide +kernel
theorem dksX0_put_1 : cX0_put.data.toList.drop 24 = dktX0_put_1 := dk_seg dksX0_put_0 24 rfl rfl
theorem dX0_put_0 : decode cX0_put 0 = .ok (.bipush 24, 2) := dk_16 24 (dk_at dksX0_put_0 0 rfl rfl)
theorem dX0_put_2 : decode cX0_put 2 = .ok (.istore_n 2, 1) := dk_61 (dk_at dksX0_put_0 2 rfl rfl)
theorem dX0_put_3 : decode cX0_put 3 = .ok (.iload_n 2, 1) := dk_28 (dk_at dksX0_put_0 3 rfl rfl)
theorem dX0_put_4 : decode cX0_put 4 = .ok (.ifCond .lt 29, 3) := dk_155 0 29 (dk_at dksX0_put_0 4 rfl rfl)
theorem dX0_put_7 : decode cX0_put 7 = .ok (.aload_n 0, 1) := dk_42 (dk_at dksX0_put_0 7 rfl rfl)
theorem dX0_put_8 : decode cX0_put 8 = .ok (.getfield 35, 3) := dk_180 0 35 (dk_at dksX0_put_0 8 rfl rfl)
theorem dX0_put_11 : decode cX0_put 11 = .ok (.aload_n 0, 1) := dk_42 (dk_at dksX0_put_0 11 rfl rfl)
theorem dX0_put_12 : decode cX0_put 12 = .ok (.dup, 1) := dk_89 (dk_at dksX0_put_0 12 rfl rfl)
theorem dX0_put_13 : decode cX0_put 13 = .ok (.getfield 115, 3) := dk_180 0 115 (dk_at dksX0_put_0 13 rfl rfl)
theorem dX0_put_16 : decode cX0_put 16 = .ok (.dup_x1, 1) := dk_90 (dk_at dksX0_put_0 16 rfl rfl)
theorem dX0_put_17 : decode cX0_put 17 = .ok (.iconst 1, 1) := dk_4 (dk_at dksX0_put_0 17 rfl rfl)
theorem dX0_put_18 : decode cX0_put 18 = .ok (.iadd, 1) := dk_96 (dk_at dksX0_put_0 18 rfl rfl)
theorem dX0_put_19 : decode cX0_put 19 = .ok (.putfield 115, 3) := dk_181 0 115 (dk_at dksX0_put_0 19 rfl rfl)
theorem dX0_put_22 : decode cX0_put 22 = .ok (.iload_n 1, 1) := dk_27 (dk_at dksX0_put_0 22 rfl rfl)
theorem dX0_put_23 : decode cX0_put 23 = .ok (.iload_n 2, 1) := dk_28 (dk_at dksX0_put_0 23 rfl rfl)
theorem dX0_put_24 : decode cX0_put 24 = .ok (.ishr, 1) := dk_122 (dk_at dksX0_put_1 0 rfl rfl)
theorem dX0_put_25 : decode cX0_put 25 = .ok (.i2b, 1) := dk_145 (dk_at dksX0_put_1 1 rfl rfl)
theorem dX0_put_26 : decode cX0_put 26 = .ok (.bastore, 1) := dk_84 (dk_at dksX0_put_1 2 rfl rfl)
theorem dX0_put_27 : decode cX0_put 27 = .ok (.iinc 2 (-8), 3) := dk_132 2 248 (dk_at dksX0_put_1 3 rfl rfl)
theorem dX0_put_30 : decode cX0_put 30 = .ok (.goto (-27), 3) := dk_167 255 229 (dk_at dksX0_put_1 6 rfl rfl)
theorem dX0_put_33 : decode cX0_put 33 = .ok (.return_, 1) := dk_177 (dk_at dksX0_put_1 9 rfl rfl)
abbrev cX0_end : ByteArray := prog_1_method_11_code
def yX0_end : MethodName := ⟨RX0, "end", "(I)Z"⟩
def dkwX0_end_1 : List UInt8 := [3, 172, 42, 27, 181, 0, 115, 4, 172]
abbrev dktX0_end_1 : List UInt8 := dkwX0_end_1 ++ []
def dkwX0_end_0 : List UInt8 := [27, 155, 0, 11, 27, 42, 180, 0, 115, 164, 0, 17, 42, 3, 182, 0, 118, 155, 0, 7, 4, 167, 0, 4]
abbrev dktX0_end_0 : List UInt8 := dkwX0_end_0 ++ dktX0_end_1
theorem dksX0_end_0 : cX0_end.data.toList.drop 0 = dktX0_end_0 := by decide +kernel
theorem dksX0_end_1 : cX0_end.data.toList.drop 24 = dktX0_end_1 := dk_seg dksX0_end_0 24 rfl rfl
theorem dX0_end_0 : decode cX0_end 0 = .ok (.iload_n 1, 1) := dk_27 (dk_at dksX0_end_0 0 rfl rfl)
theorem dX0_end_1 : decode cX0_end 1 = .ok (.ifCond .lt 11, 3) := dk_155 0 11 (dk_at dksX0_end_0 1 rfl rfl)
theorem dX0_end_4 : decode cX0_end 4 = .ok (.iload_n 1, 1) := dk_27 (dk_at dksX0_end_0 4 rfl rfl)
theorem dX0_end_5 : decode cX0_end 5 = .ok (.aload_n 0, 1) := dk_42 (dk_at dksX0_end_0 5 rfl rfl)
theorem dX0_end_6 : decode cX0_end 6 = .ok (.getfield 115, 3) := dk_180 0 115 (dk_at dksX0_end_0 6 rfl rfl)
theorem dX0_end_9 : decode cX0_end 9 = .ok (.if_icmp .le 17, 3) := dk_164 0 17 (dk_at dksX0_end_0 9 rfl rfl)
theorem dX0_end_12 : decode cX0_end 12 = .ok (.aload_n 0, 1) := dk_42 (dk_at dksX0_end_0 12 rfl rfl)
theorem dX0_end_13 : decode cX0_end 13 = .ok (.iconst 0, 1) := dk_3 (dk_at dksX0_end_0 13 rfl rfl)
theorem dX0_end_14 : decode cX0_end 14 = .ok (.invokevirtual 118, 3) := dk_182 0 118 (dk_at dksX0_end_0 14 rfl rfl)
theorem dX0_end_17 : decode cX0_end 17 = .ok (.ifCond .lt 7, 3) := dk_155 0 7 (dk_at dksX0_end_0 17 rfl rfl)
theorem dX0_end_20 : decode cX0_end 20 = .ok (.iconst 1, 1) := dk_4 (dk_at dksX0_end_0 20 rfl rfl)
theorem dX0_end_21 : decode cX0_end 21 = .ok (.goto 4, 3) := dk_167 0 4 (dk_at dksX0_end_0 21 rfl rfl)
theorem dX0_end_24 : decode cX0_end 24 = .ok (.iconst 0, 1) := dk_3 (dk_at dksX0_end_1 0 rfl rfl)
theorem dX0_end_25 : decode cX0_end 25 = .ok (.ireturn, 1) := dk_172 (dk_at dksX0_end_1 1 rfl rfl)
theorem dX0_end_26 : decode cX0_end 26 = .ok (.aload_n 0, 1) := dk_42 (dk_at dksX0_end_1 2 rfl rfl)
theorem dX0_end_27 : decode cX0_end 27 = .ok (.iload_n 1, 1) := dk_27 (dk_at dksX0_end_1 3 rfl rfl)
theorem dX0_end_28 : decode cX0_end 28 = .ok (.putfield 115, 3) := dk_181 0 115 (dk_at dksX0_end_1 4 rfl rfl)
theorem dX0_end_31 : decode cX0_end 31 = .ok (.iconst 1, 1) := dk_4 (dk_at dksX0_end_1 7 rfl rfl)
theorem dX0_end_32 : decode cX0_end 32 = .ok (.ireturn, 1) := dk_172 (dk_at dksX0_end_1 8 rfl rfl)
abbrev cX0_plain : ByteArray := prog_1_method_13_code
def yX0_plain : MethodName := ⟨RX0, "plain", "()I"⟩
def dkwX0_plain_3 : List UInt8 := [180, 0, 31, 180, 0, 154, 172]
abbrev dktX0_plain_3 : List UInt8 := dkwX0_plain_3 ++ []
def dkwX0_plain_2 : List UInt8 := [4, 182, 0, 118, 172, 42, 180, 0, 69, 182, 0, 145, 42, 3, 181, 0, 148, 42, 3, 181, 0, 151, 42]
abbrev dktX0_plain_2 : List UInt8 := dkwX0_plain_2 ++ dktX0_plain_3
def dkwX0_plain_1 : List UInt8 := [181, 0, 31, 167, 0, 26, 76, 42, 43, 180, 0, 139, 181, 0, 126, 42, 43, 180, 0, 142, 181, 0, 39, 42]
abbrev dktX0_plain_1 : List UInt8 := dkwX0_plain_1 ++ dktX0_plain_2
def dkwX0_plain_0 : List UInt8 := [42, 3, 181, 0, 126, 42, 2, 181, 0, 39, 42, 42, 180, 0, 48, 42, 182, 0, 129, 182, 0, 133]
abbrev dktX0_plain_0 : List UInt8 := dkwX0_plain_0 ++ dktX0_plain_1
theorem dksX0_plain_0 : cX0_plain.data.toList.drop 0 = dktX0_plain_0 := by decide +kernel
theorem dksX0_plain_1 : cX0_plain.data.toList.drop 22 = dktX0_plain_1 := dk_seg dksX0_plain_0 22 rfl rfl
theorem dksX0_plain_2 : cX0_plain.data.toList.drop 46 = dktX0_plain_2 := dk_seg dksX0_plain_1 24 rfl rfl
theorem dksX0_plain_3 : cX0_plain.data.toList.drop 69 = dktX0_plain_3 := dk_seg dksX0_plain_2 23 rfl rfl
theorem dX0_plain_0 : decode cX0_plain 0 = .ok (.aload_n 0, 1) := dk_42 (dk_at dksX0_plain_0 0 rfl rfl)
theorem dX0_plain_1 : decode cX0_plain 1 = .ok (.iconst 0, 1) := dk_3 (dk_at dksX0_plain_0 1 rfl rfl)
theorem dX0_plain_2 : decode cX0_plain 2 = .ok (.putfield 126, 3) := dk_181 0 126 (dk_at dksX0_plain_0 2 rfl rfl)
theorem dX0_plain_5 : decode cX0_plain 5 = .ok (.aload_n 0, 1) := dk_42 (dk_at dksX0_plain_0 5 rfl rfl)
theorem dX0_plain_6 : decode cX0_plain 6 = .ok (.iconst (-1), 1) := dk_2 (dk_at dksX0_plain_0 6 rfl rfl)
theorem dX0_plain_7 : decode cX0_plain 7 = .ok (.putfield 39, 3) := dk_181 0 39 (dk_at dksX0_plain_0 7 rfl rfl)
theorem dX0_plain_10 : decode cX0_plain 10 = .ok (.aload_n 0, 1) := dk_42 (dk_at dksX0_plain_0 10 rfl rfl)
theorem dX0_plain_11 : decode cX0_plain 11 = .ok (.aload_n 0, 1) := dk_42 (dk_at dksX0_plain_0 11 rfl rfl)
theorem dX0_plain_12 : decode cX0_plain 12 = .ok (.getfield 48, 3) := dk_180 0 48 (dk_at dksX0_plain_0 12 rfl rfl)
theorem dX0_plain_15 : decode cX0_plain 15 = .ok (.aload_n 0, 1) := dk_42 (dk_at dksX0_plain_0 15 rfl rfl)
theorem dX0_plain_16 : decode cX0_plain 16 = .ok (.invokevirtual 129, 3) := dk_182 0 129 (dk_at dksX0_plain_0 16 rfl rfl)
theorem dX0_plain_19 : decode cX0_plain 19 = .ok (.invokevirtual 133, 3) := dk_182 0 133 (dk_at dksX0_plain_0 19 rfl rfl)
theorem dX0_plain_22 : decode cX0_plain 22 = .ok (.putfield 31, 3) := dk_181 0 31 (dk_at dksX0_plain_1 0 rfl rfl)
theorem dX0_plain_25 : decode cX0_plain 25 = .ok (.goto 26, 3) := dk_167 0 26 (dk_at dksX0_plain_1 3 rfl rfl)
theorem dX0_plain_28 : decode cX0_plain 28 = .ok (.astore_n 1, 1) := dk_76 (dk_at dksX0_plain_1 6 rfl rfl)
theorem dX0_plain_29 : decode cX0_plain 29 = .ok (.aload_n 0, 1) := dk_42 (dk_at dksX0_plain_1 7 rfl rfl)
theorem dX0_plain_30 : decode cX0_plain 30 = .ok (.aload_n 1, 1) := dk_43 (dk_at dksX0_plain_1 8 rfl rfl)
theorem dX0_plain_31 : decode cX0_plain 31 = .ok (.getfield 139, 3) := dk_180 0 139 (dk_at dksX0_plain_1 9 rfl rfl)
theorem dX0_plain_34 : decode cX0_plain 34 = .ok (.putfield 126, 3) := dk_181 0 126 (dk_at dksX0_plain_1 12 rfl rfl)
theorem dX0_plain_37 : decode cX0_plain 37 = .ok (.aload_n 0, 1) := dk_42 (dk_at dksX0_plain_1 15 rfl rfl)
theorem dX0_plain_38 : decode cX0_plain 38 = .ok (.aload_n 1, 1) := dk_43 (dk_at dksX0_plain_1 16 rfl rfl)
theorem dX0_plain_39 : decode cX0_plain 39 = .ok (.getfield 142, 3) := dk_180 0 142 (dk_at dksX0_plain_1 17 rfl rfl)
theorem dX0_plain_42 : decode cX0_plain 42 = .ok (.putfield 39, 3) := dk_181 0 39 (dk_at dksX0_plain_1 20 rfl rfl)
theorem dX0_plain_45 : decode cX0_plain 45 = .ok (.aload_n 0, 1) := dk_42 (dk_at dksX0_plain_1 23 rfl rfl)
theorem dX0_plain_46 : decode cX0_plain 46 = .ok (.iconst 1, 1) := dk_4 (dk_at dksX0_plain_2 0 rfl rfl)
theorem dX0_plain_47 : decode cX0_plain 47 = .ok (.invokevirtual 118, 3) := dk_182 0 118 (dk_at dksX0_plain_2 1 rfl rfl)
theorem dX0_plain_50 : decode cX0_plain 50 = .ok (.ireturn, 1) := dk_172 (dk_at dksX0_plain_2 4 rfl rfl)
theorem dX0_plain_51 : decode cX0_plain 51 = .ok (.aload_n 0, 1) := dk_42 (dk_at dksX0_plain_2 5 rfl rfl)
theorem dX0_plain_52 : decode cX0_plain 52 = .ok (.getfield 69, 3) := dk_180 0 69 (dk_at dksX0_plain_2 6 rfl rfl)
theorem dX0_plain_55 : decode cX0_plain 55 = .ok (.invokevirtual 145, 3) := dk_182 0 145 (dk_at dksX0_plain_2 9 rfl rfl)
theorem dX0_plain_58 : decode cX0_plain 58 = .ok (.aload_n 0, 1) := dk_42 (dk_at dksX0_plain_2 12 rfl rfl)
theorem dX0_plain_59 : decode cX0_plain 59 = .ok (.iconst 0, 1) := dk_3 (dk_at dksX0_plain_2 13 rfl rfl)
theorem dX0_plain_60 : decode cX0_plain 60 = .ok (.putfield 148, 3) := dk_181 0 148 (dk_at dksX0_plain_2 14 rfl rfl)
theorem dX0_plain_63 : decode cX0_plain 63 = .ok (.aload_n 0, 1) := dk_42 (dk_at dksX0_plain_2 17 rfl rfl)
theorem dX0_plain_64 : decode cX0_plain 64 = .ok (.iconst 0, 1) := dk_3 (dk_at dksX0_plain_2 18 rfl rfl)
theorem dX0_plain_65 : decode cX0_plain 65 = .ok (.putfield 151, 3) := dk_181 0 151 (dk_at dksX0_plain_2 19 rfl rfl)
theorem dX0_plain_68 : decode cX0_plain 68 = .ok (.aload_n 0, 1) := dk_42 (dk_at dksX0_plain_2 22 rfl rfl)
theorem dX0_plain_69 : decode cX0_plain 69 = .ok (.getfield 31, 3) := dk_180 0 31 (dk_at dksX0_plain_3 0 rfl rfl)
theorem dX0_plain_72 : decode cX0_plain 72 = .ok (.getfield 154, 3) := dk_180 0 154 (dk_at dksX0_plain_3 3 rfl rfl)
theorem dX0_plain_75 : decode cX0_plain 75 = .ok (.ireturn, 1) := dk_172 (dk_at dksX0_plain_3 6 rfl rfl)
abbrev cX0_taken : ByteArray := prog_1_method_12_code
def yX0_taken : MethodName := ⟨RX0, "taken", "()I"⟩
def dkwX0_taken_0 : List UInt8 := [42, 180, 0, 115, 60, 42, 3, 181, 0, 115, 27, 172]
abbrev dktX0_taken_0 : List UInt8 := dkwX0_taken_0 ++ []
theorem dksX0_taken_0 : cX0_taken.data.toList.drop 0 = dktX0_taken_0 := by decide +kernel
theorem dX0_taken_0 : decode cX0_taken 0 = .ok (.aload_n 0, 1) := dk_42 (dk_at dksX0_taken_0 0 rfl rfl)
theorem dX0_taken_1 : decode cX0_taken 1 = .ok (.getfield 115, 3) := dk_180 0 115 (dk_at dksX0_taken_0 1 rfl rfl)
theorem dX0_taken_4 : decode cX0_taken 4 = .ok (.istore_n 1, 1) := dk_60 (dk_at dksX0_taken_0 4 rfl rfl)
theorem dX0_taken_5 : decode cX0_taken 5 = .ok (.aload_n 0, 1) := dk_42 (dk_at dksX0_taken_0 5 rfl rfl)
theorem dX0_taken_6 : decode cX0_taken 6 = .ok (.iconst 0, 1) := dk_3 (dk_at dksX0_taken_0 6 rfl rfl)
theorem dX0_taken_7 : decode cX0_taken 7 = .ok (.putfield 115, 3) := dk_181 0 115 (dk_at dksX0_taken_0 7 rfl rfl)
theorem dX0_taken_10 : decode cX0_taken 10 = .ok (.iload_n 1, 1) := dk_27 (dk_at dksX0_taken_0 10 rfl rfl)
theorem dX0_taken_11 : decode cX0_taken 11 = .ok (.ireturn, 1) := dk_172 (dk_at dksX0_taken_0 11 rfl rfl)
abbrev cX0_isLetter : ByteArray := prog_1_method_4_code
def yX0_isLetter : MethodName := ⟨RX0, "isLetter", "(I)Z"⟩
def dkwX0_isLetter_0 : List UInt8 := [26, 16, 97, 161, 0, 13, 26, 16, 122, 163, 0, 7, 4, 167, 0, 4, 3, 172]
abbrev dktX0_isLetter_0 : List UInt8 := dkwX0_isLetter_0 ++ []
theorem dksX0_isLetter_0 : cX0_isLetter.data.toList.drop 0 = dktX0_isLetter_0 := by decide +kernel
theorem dX0_isLetter_0 : decode cX0_isLetter 0 = .ok (.iload_n 0, 1) := dk_26 (dk_at dksX0_isLetter_0 0 rfl rfl)
theorem dX0_isLetter_1 : decode cX0_isLetter 1 = .ok (.bipush 97, 2) := dk_16 97 (dk_at dksX0_isLetter_0 1 rfl rfl)
theorem dX0_isLetter_3 : decode cX0_isLetter 3 = .ok (.if_icmp .lt 13, 3) := dk_161 0 13 (dk_at dksX0_isLetter_0 3 rfl rfl)
theorem dX0_isLetter_6 : decode cX0_isLetter 6 = .ok (.iload_n 0, 1) := dk_26 (dk_at dksX0_isLetter_0 6 rfl rfl)
theorem dX0_isLetter_7 : decode cX0_isLetter 7 = .ok (.bipush 122, 2) := dk_16 122 (dk_at dksX0_isLetter_0 7 rfl rfl)
theorem dX0_isLetter_9 : decode cX0_isLetter 9 = .ok (.if_icmp .gt 7, 3) := dk_163 0 7 (dk_at dksX0_isLetter_0 9 rfl rfl)
theorem dX0_isLetter_12 : decode cX0_isLetter 12 = .ok (.iconst 1, 1) := dk_4 (dk_at dksX0_isLetter_0 12 rfl rfl)
theorem dX0_isLetter_13 : decode cX0_isLetter 13 = .ok (.goto 4, 3) := dk_167 0 4 (dk_at dksX0_isLetter_0 13 rfl rfl)
theorem dX0_isLetter_16 : decode cX0_isLetter 16 = .ok (.iconst 0, 1) := dk_3 (dk_at dksX0_isLetter_0 16 rfl rfl)
theorem dX0_isLetter_17 : decode cX0_isLetter 17 = .ok (.ireturn, 1) := dk_172 (dk_at dksX0_isLetter_0 17 rfl rfl)
abbrev cX0_isDigit : ByteArray := prog_1_method_5_code
def yX0_isDigit : MethodName := ⟨RX0, "isDigit", "(I)Z"⟩
def dkwX0_isDigit_0 : List UInt8 := [26, 16, 48, 161, 0, 13, 26, 16, 57, 163, 0, 7, 4, 167, 0, 4, 3, 172]
abbrev dktX0_isDigit_0 : List UInt8 := dkwX0_isDigit_0 ++ []
theorem dksX0_isDigit_0 : cX0_isDigit.data.toList.drop 0 = dktX0_isDigit_0 := by decide +kernel
theorem dX0_isDigit_0 : decode cX0_isDigit 0 = .ok (.iload_n 0, 1) := dk_26 (dk_at dksX0_isDigit_0 0 rfl rfl)
theorem dX0_isDigit_1 : decode cX0_isDigit 1 = .ok (.bipush 48, 2) := dk_16 48 (dk_at dksX0_isDigit_0 1 rfl rfl)
theorem dX0_isDigit_3 : decode cX0_isDigit 3 = .ok (.if_icmp .lt 13, 3) := dk_161 0 13 (dk_at dksX0_isDigit_0 3 rfl rfl)
theorem dX0_isDigit_6 : decode cX0_isDigit 6 = .ok (.iload_n 0, 1) := dk_26 (dk_at dksX0_isDigit_0 6 rfl rfl)
theorem dX0_isDigit_7 : decode cX0_isDigit 7 = .ok (.bipush 57, 2) := dk_16 57 (dk_at dksX0_isDigit_0 7 rfl rfl)
theorem dX0_isDigit_9 : decode cX0_isDigit 9 = .ok (.if_icmp .gt 7, 3) := dk_163 0 7 (dk_at dksX0_isDigit_0 9 rfl rfl)
theorem dX0_isDigit_12 : decode cX0_isDigit 12 = .ok (.iconst 1, 1) := dk_4 (dk_at dksX0_isDigit_0 12 rfl rfl)
theorem dX0_isDigit_13 : decode cX0_isDigit 13 = .ok (.goto 4, 3) := dk_167 0 4 (dk_at dksX0_isDigit_0 13 rfl rfl)
theorem dX0_isDigit_16 : decode cX0_isDigit 16 = .ok (.iconst 0, 1) := dk_3 (dk_at dksX0_isDigit_0 16 rfl rfl)
theorem dX0_isDigit_17 : decode cX0_isDigit 17 = .ok (.ireturn, 1) := dk_172 (dk_at dksX0_isDigit_0 17 rfl rfl)
abbrev cX0_is : ByteArray := prog_1_method_1_code
def yX0_is : MethodName := ⟨RX0, "is", "(III)Z"⟩
def dkwX0_is_0 : List UInt8 := [26, 27, 161, 0, 12, 26, 28, 163, 0, 7, 4, 167, 0, 4, 3, 172]
abbrev dktX0_is_0 : List UInt8 := dkwX0_is_0 ++ []
theorem dksX0_is_0 : cX0_is.data.toList.drop 0 = dktX0_is_0 := by decide +kernel
theorem dX0_is_0 : decode cX0_is 0 = .ok (.iload_n 0, 1) := dk_26 (dk_at dksX0_is_0 0 rfl rfl)
theorem dX0_is_1 : decode cX0_is 1 = .ok (.iload_n 1, 1) := dk_27 (dk_at dksX0_is_0 1 rfl rfl)
theorem dX0_is_2 : decode cX0_is 2 = .ok (.if_icmp .lt 12, 3) := dk_161 0 12 (dk_at dksX0_is_0 2 rfl rfl)
theorem dX0_is_5 : decode cX0_is 5 = .ok (.iload_n 0, 1) := dk_26 (dk_at dksX0_is_0 5 rfl rfl)
theorem dX0_is_6 : decode cX0_is 6 = .ok (.iload_n 2, 1) := dk_28 (dk_at dksX0_is_0 6 rfl rfl)
theorem dX0_is_7 : decode cX0_is 7 = .ok (.if_icmp .gt 7, 3) := dk_163 0 7 (dk_at dksX0_is_0 7 rfl rfl)
theorem dX0_is_10 : decode cX0_is 10 = .ok (.iconst 1, 1) := dk_4 (dk_at dksX0_is_0 10 rfl rfl)
theorem dX0_is_11 : decode cX0_is 11 = .ok (.goto 4, 3) := dk_167 0 4 (dk_at dksX0_is_0 11 rfl rfl)
theorem dX0_is_14 : decode cX0_is 14 = .ok (.iconst 0, 1) := dk_3 (dk_at dksX0_is_0 14 rfl rfl)
theorem dX0_is_15 : decode cX0_is 15 = .ok (.ireturn, 1) := dk_172 (dk_at dksX0_is_0 15 rfl rfl)
abbrev cX0_find : ByteArray := prog_1_method_6_code
def yX0_find : MethodName := ⟨RX0, "find", "(Ljava/lang/String;[Ljava/lang/String;)I"⟩
def dkwX0_find_1 : List UInt8 := [167, 255, 235, 2, 172]
abbrev dktX0_find_1 : List UInt8 := dkwX0_find_1 ++ []
def dkwX0_find_0 : List UInt8 := [3, 61, 28, 43, 190, 162, 0, 21, 43, 28, 50, 42, 182, 0, 16, 153, 0, 5, 28, 172, 132, 2, 1]
abbrev dktX0_find_0 : List UInt8 := dkwX0_find_0 ++ dktX0_find_1
theorem dksX0_find_0 : cX0_find.data.toList.drop 0 = dktX0_find_0 := by decide +kernel
theorem dksX0_find_1 : cX0_find.data.toList.drop 23 = dktX0_find_1 := dk_seg dksX0_find_0 23 rfl rfl
theorem dX0_find_0 : decode cX0_find 0 = .ok (.iconst 0, 1) := dk_3 (dk_at dksX0_find_0 0 rfl rfl)
theorem dX0_find_1 : decode cX0_find 1 = .ok (.istore_n 2, 1) := dk_61 (dk_at dksX0_find_0 1 rfl rfl)
theorem dX0_find_2 : decode cX0_find 2 = .ok (.iload_n 2, 1) := dk_28 (dk_at dksX0_find_0 2 rfl rfl)
theorem dX0_find_3 : decode cX0_find 3 = .ok (.aload_n 1, 1) := dk_43 (dk_at dksX0_find_0 3 rfl rfl)
theorem dX0_find_4 : decode cX0_find 4 = .ok (.arraylength, 1) := dk_190 (dk_at dksX0_find_0 4 rfl rfl)
theorem dX0_find_5 : decode cX0_find 5 = .ok (.if_icmp .ge 21, 3) := dk_162 0 21 (dk_at dksX0_find_0 5 rfl rfl)
theorem dX0_find_8 : decode cX0_find 8 = .ok (.aload_n 1, 1) := dk_43 (dk_at dksX0_find_0 8 rfl rfl)
theorem dX0_find_9 : decode cX0_find 9 = .ok (.iload_n 2, 1) := dk_28 (dk_at dksX0_find_0 9 rfl rfl)
theorem dX0_find_10 : decode cX0_find 10 = .ok (.aaload, 1) := dk_50 (dk_at dksX0_find_0 10 rfl rfl)
theorem dX0_find_11 : decode cX0_find 11 = .ok (.aload_n 0, 1) := dk_42 (dk_at dksX0_find_0 11 rfl rfl)
theorem dX0_find_12 : decode cX0_find 12 = .ok (.invokevirtual 16, 3) := dk_182 0 16 (dk_at dksX0_find_0 12 rfl rfl)
theorem dX0_find_15 : decode cX0_find 15 = .ok (.ifCond .eq 5, 3) := dk_153 0 5 (dk_at dksX0_find_0 15 rfl rfl)
theorem dX0_find_18 : decode cX0_find 18 = .ok (.iload_n 2, 1) := dk_28 (dk_at dksX0_find_0 18 rfl rfl)
theorem dX0_find_19 : decode cX0_find 19 = .ok (.ireturn, 1) := dk_172 (dk_at dksX0_find_0 19 rfl rfl)
theorem dX0_find_20 : decode cX0_find 20 = .ok (.iinc 2 1, 3) := dk_132 2 1 (dk_at dksX0_find_0 20 rfl rfl)
theorem dX0_find_23 : decode cX0_find 23 = .ok (.goto (-21), 3) := dk_167 255 235 (dk_at dksX0_find_1 0 rfl rfl)
theorem dX0_find_26 : decode cX0_find 26 = .ok (.iconst (-1), 1) := dk_2 (dk_at dksX0_find_1 3 rfl rfl)
theorem dX0_find_27 : decode cX0_find 27 = .ok (.ireturn, 1) := dk_172 (dk_at dksX0_find_1 4 rfl rfl)
abbrev cX0_has : ByteArray := prog_1_method_2_code
def yX0_has : MethodName := ⟨RX0, "has", "(II)Z"⟩
def dkwX0_has_0 : List UInt8 := [26, 27, 122, 4, 126, 4, 160, 0, 7, 4, 167, 0, 4, 3, 172]
abbrev dktX0_has_0 : List UInt8 := dkwX0_has_0 ++ []
theorem dksX0_has_0 : cX0_has.data.toList.drop 0 = dktX0_has_0 := by decide +kernel
theorem dX0_has_0 : decode cX0_has 0 = .ok (.iload_n 0, 1) := dk_26 (dk_at dksX0_has_0 0 rfl rfl)
theorem dX0_has_1 : decode cX0_has 1 = .ok (.iload_n 1, 1) := dk_27 (dk_at dksX0_has_0 1 rfl rfl)
theorem dX0_has_2 : decode cX0_has 2 = .ok (.ishr, 1) := dk_122 (dk_at dksX0_has_0 2 rfl rfl)
theorem dX0_has_3 : decode cX0_has 3 = .ok (.iconst 1, 1) := dk_4 (dk_at dksX0_has_0 3 rfl rfl)
theorem dX0_has_4 : decode cX0_has 4 = .ok (.iand, 1) := dk_126 (dk_at dksX0_has_0 4 rfl rfl)
theorem dX0_has_5 : decode cX0_has 5 = .ok (.iconst 1, 1) := dk_4 (dk_at dksX0_has_0 5 rfl rfl)
theorem dX0_has_6 : decode cX0_has 6 = .ok (.if_icmp .ne 7, 3) := dk_160 0 7 (dk_at dksX0_has_0 6 rfl rfl)
theorem dX0_has_9 : decode cX0_has 9 = .ok (.iconst 1, 1) := dk_4 (dk_at dksX0_has_0 9 rfl rfl)
theorem dX0_has_10 : decode cX0_has 10 = .ok (.goto 4, 3) := dk_167 0 4 (dk_at dksX0_has_0 10 rfl rfl)
theorem dX0_has_13 : decode cX0_has 13 = .ok (.iconst 0, 1) := dk_3 (dk_at dksX0_has_0 13 rfl rfl)
theorem dX0_has_14 : decode cX0_has 14 = .ok (.ireturn, 1) := dk_172 (dk_at dksX0_has_0 14 rfl rfl)
abbrev cX0_people : ByteArray := prog_1_method_17_code
def yX0_people : MethodName := ⟨RX0, "people", "()I"⟩
def dkwX0_people_0 : List UInt8 := [42, 180, 0, 31, 180, 0, 169, 185, 0, 164, 1, 0, 172]
abbrev dktX0_people_0 : List UInt8 := dkwX0_people_0 ++ []
theorem dksX0_people_0 : cX0_people.data.toList.drop 0 = dktX0_people_0 := by decide +kernel
theorem dX0_people_0 : decode cX0_people 0 = .ok (.aload_n 0, 1) := dk_42 (dk_at dksX0_people_0 0 rfl rfl)
theorem dX0_people_1 : decode cX0_people 1 = .ok (.getfield 31, 3) := dk_180 0 31 (dk_at dksX0_people_0 1 rfl rfl)
theorem dX0_people_4 : decode cX0_people 4 = .ok (.getfield 169, 3) := dk_180 0 169 (dk_at dksX0_people_0 4 rfl rfl)
theorem dX0_people_7 : decode cX0_people 7 = .ok (.invokeinterface 164 1, 5) := by decide +kernel
theorem dX0_people_12 : decode cX0_people 12 = .ok (.ireturn, 1) := dk_172 (dk_at dksX0_people_0 12 rfl rfl)
abbrev cX0_fault : ByteArray := prog_1_method_14_code
def yX0_fault : MethodName := ⟨RX0, "fault", "(I)I"⟩
def dkwX0_fault_1 : List UInt8 := [172]
abbrev dktX0_fault_1 : List UInt8 := dkwX0_fault_1 ++ []
def dkwX0_fault_0 : List UInt8 := [27, 154, 0, 10, 42, 180, 0, 126, 167, 0, 16, 27, 4, 160, 0, 10, 42, 180, 0, 39, 167, 0, 4, 2]
abbrev dktX0_fault_0 : List UInt8 := dkwX0_fault_0 ++ dktX0_fault_1
theorem dksX0_fault_0 : cX0_fault.data.toList.drop 0 = dktX0_fault_0 := by decide +kernel
theorem dksX0_fault_1 : cX0_fault.data.toList.drop 24 = dktX0_fault_1 := dk_seg dksX0_fault_0 24 rfl rfl
theorem dX0_fault_0 : decode cX0_fault 0 = .ok (.iload_n 1, 1) := dk_27 (dk_at dksX0_fault_0 0 rfl rfl)
theorem dX0_fault_1 : decode cX0_fault 1 = .ok (.ifCond .ne 10, 3) := dk_154 0 10 (dk_at dksX0_fault_0 1 rfl rfl)
theorem dX0_fault_4 : decode cX0_fault 4 = .ok (.aload_n 0, 1) := dk_42 (dk_at dksX0_fault_0 4 rfl rfl)
theorem dX0_fault_5 : decode cX0_fault 5 = .ok (.getfield 126, 3) := dk_180 0 126 (dk_at dksX0_fault_0 5 rfl rfl)
theorem dX0_fault_8 : decode cX0_fault 8 = .ok (.goto 16, 3) := dk_167 0 16 (dk_at dksX0_fault_0 8 rfl rfl)
theorem dX0_fault_11 : decode cX0_fault 11 = .ok (.iload_n 1, 1) := dk_27 (dk_at dksX0_fault_0 11 rfl rfl)
theorem dX0_fault_12 : decode cX0_fault 12 = .ok (.iconst 1, 1) := dk_4 (dk_at dksX0_fault_0 12 rfl rfl)
theorem dX0_fault_13 : decode cX0_fault 13 = .ok (.if_icmp .ne 10, 3) := dk_160 0 10 (dk_at dksX0_fault_0 13 rfl rfl)
theorem dX0_fault_16 : decode cX0_fault 16 = .ok (.aload_n 0, 1) := dk_42 (dk_at dksX0_fault_0 16 rfl rfl)
theorem dX0_fault_17 : decode cX0_fault 17 = .ok (.getfield 39, 3) := dk_180 0 39 (dk_at dksX0_fault_0 17 rfl rfl)
theorem dX0_fault_20 : decode cX0_fault 20 = .ok (.goto 4, 3) := dk_167 0 4 (dk_at dksX0_fault_0 20 rfl rfl)
theorem dX0_fault_23 : decode cX0_fault 23 = .ok (.iconst (-1), 1) := dk_2 (dk_at dksX0_fault_0 23 rfl rfl)
theorem dX0_fault_24 : decode cX0_fault 24 = .ok (.ireturn, 1) := dk_172 (dk_at dksX0_fault_1 0 rfl rfl)
abbrev cX0_has_2 : ByteArray := prog_1_method_23_code
def yX0_has_2 : MethodName := ⟨RX0, "has", "(I)I"⟩
def dkwX0_has_2_6 : List UInt8 := [180, 0, 201, 172, 42, 180, 0, 151, 172, 42, 180, 0, 148, 172, 2, 172]
abbrev dktX0_has_2_6 : List UInt8 := dkwX0_has_2_6 ++ []
def dkwX0_has_2_5 : List UInt8 := [180, 0, 198, 29, 46, 167, 0, 4, 3, 96, 61, 132, 3, 1, 167, 255, 223, 28, 172, 42, 180, 0, 69]
abbrev dktX0_has_2_5 : List UInt8 := dkwX0_has_2_5 ++ dktX0_has_2_6
def dkwX0_has_2_4 : List UInt8 := [172, 3, 62, 29, 16, 64, 162, 0, 33, 28, 42, 29, 182, 0, 194, 153, 0, 15, 42, 180, 0, 69]
abbrev dktX0_has_2_4 : List UInt8 := dkwX0_has_2_4 ++ dktX0_has_2_5
def dkwX0_has_2_3 : List UInt8 := [182, 0, 174, 172, 42, 180, 0, 31, 180, 0, 188, 185, 0, 164, 1, 0, 172, 42, 180, 0, 69, 180, 0, 191]
abbrev dktX0_has_2_3 : List UInt8 := dkwX0_has_2_3 ++ dktX0_has_2_4
def dkwX0_has_2_2 : List UInt8 := [42, 180, 0, 31, 180, 0, 157, 172, 42, 180, 0, 31, 180, 0, 180, 172, 42, 182, 0, 172, 172, 42]
abbrev dktX0_has_2_2 : List UInt8 := dkwX0_has_2_2 ++ dktX0_has_2_3
def dkwX0_has_2_1 : List UInt8 := [170, 0, 0, 0, 158, 0, 0, 0, 0, 0, 0, 0, 9, 0, 0, 0, 53, 0, 0, 0, 61, 0, 0, 0, 69, 0, 0, 0, 74, 0, 0, 0, 79, 0, 0, 0, 92, 0, 0, 0, 100, 0, 0, 0, 140, 0, 0, 0, 148, 0, 0, 0, 153]
abbrev dktX0_has_2_1 : List UInt8 := dkwX0_has_2_1 ++ dktX0_has_2_2
def dkwX0_has_2_0 : List UInt8 := [3, 61, 27]
abbrev dktX0_has_2_0 : List UInt8 := dkwX0_has_2_0 ++ dktX0_has_2_1
theorem dksX0_has_2_0 : cX0_has_2.data.toList.drop 0 = dktX0_has_2_0 := by decide +kernel
theorem dksX0_has_2_1 : cX0_has_2.data.toList.drop 3 = dktX0_has_2_1 := dk_seg dksX0_has_2_0 3 rfl rfl
theorem dksX0_has_2_2 : cX0_has_2.data.toList.drop 56 = dktX0_has_2_2 := dk_seg dksX0_has_2_1 53 rfl rfl
theorem dksX0_has_2_3 : cX0_has_2.data.toList.drop 78 = dktX0_has_2_3 := dk_seg dksX0_has_2_2 22 rfl rfl
theorem dksX0_has_2_4 : cX0_has_2.data.toList.drop 102 = dktX0_has_2_4 := dk_seg dksX0_has_2_3 24 rfl rfl
theorem dksX0_has_2_5 : cX0_has_2.data.toList.drop 124 = dktX0_has_2_5 := dk_seg dksX0_has_2_4 22 rfl rfl
theorem dksX0_has_2_6 : cX0_has_2.data.toList.drop 147 = dktX0_has_2_6 := dk_seg dksX0_has_2_5 23 rfl rfl
theorem dX0_has_2_0 : decode cX0_has_2 0 = .ok (.iconst 0, 1) := dk_3 (dk_at dksX0_has_2_0 0 rfl rfl)
theorem dX0_has_2_1 : decode cX0_has_2 1 = .ok (.istore_n 2, 1) := dk_61 (dk_at dksX0_has_2_0 1 rfl rfl)
theorem dX0_has_2_2 : decode cX0_has_2 2 = .ok (.iload_n 1, 1) := dk_27 (dk_at dksX0_has_2_0 2 rfl rfl)
theorem dX0_has_2_3 : decode cX0_has_2 3 = .ok (.tableswitch 158 0 9 #[53, 61, 69, 74, 79, 92, 100, 140, 148, 153], 53) := by decide +kernel
theorem dX0_has_2_56 : decode cX0_has_2 56 = .ok (.aload_n 0, 1) := dk_42 (dk_at dksX0_has_2_2 0 rfl rfl)
theorem dX0_has_2_57 : decode cX0_has_2 57 = .ok (.getfield 31, 3) := dk_180 0 31 (dk_at dksX0_has_2_2 1 rfl rfl)
theorem dX0_has_2_60 : decode cX0_has_2 60 = .ok (.getfield 157, 3) := dk_180 0 157 (dk_at dksX0_has_2_2 4 rfl rfl)
theorem dX0_has_2_63 : decode cX0_has_2 63 = .ok (.ireturn, 1) := dk_172 (dk_at dksX0_has_2_2 7 rfl rfl)
theorem dX0_has_2_64 : decode cX0_has_2 64 = .ok (.aload_n 0, 1) := dk_42 (dk_at dksX0_has_2_2 8 rfl rfl)
theorem dX0_has_2_65 : decode cX0_has_2 65 = .ok (.getfield 31, 3) := dk_180 0 31 (dk_at dksX0_has_2_2 9 rfl rfl)
theorem dX0_has_2_68 : decode cX0_has_2 68 = .ok (.getfield 180, 3) := dk_180 0 180 (dk_at dksX0_has_2_2 12 rfl rfl)
theorem dX0_has_2_71 : decode cX0_has_2 71 = .ok (.ireturn, 1) := dk_172 (dk_at dksX0_has_2_2 15 rfl rfl)
theorem dX0_has_2_72 : decode cX0_has_2 72 = .ok (.aload_n 0, 1) := dk_42 (dk_at dksX0_has_2_2 16 rfl rfl)
theorem dX0_has_2_73 : decode cX0_has_2 73 = .ok (.invokevirtual 172, 3) := dk_182 0 172 (dk_at dksX0_has_2_2 17 rfl rfl)
theorem dX0_has_2_76 : decode cX0_has_2 76 = .ok (.ireturn, 1) := dk_172 (dk_at dksX0_has_2_2 20 rfl rfl)
theorem dX0_has_2_77 : decode cX0_has_2 77 = .ok (.aload_n 0, 1) := dk_42 (dk_at dksX0_has_2_2 21 rfl rfl)
theorem dX0_has_2_78 : decode cX0_has_2 78 = .ok (.invokevirtual 174, 3) := dk_182 0 174 (dk_at dksX0_has_2_3 0 rfl rfl)
theorem dX0_has_2_81 : decode cX0_has_2 81 = .ok (.ireturn, 1) := dk_172 (dk_at dksX0_has_2_3 3 rfl rfl)
theorem dX0_has_2_82 : decode cX0_has_2 82 = .ok (.aload_n 0, 1) := dk_42 (dk_at dksX0_has_2_3 4 rfl rfl)
theorem dX0_has_2_83 : decode cX0_has_2 83 = .ok (.getfield 31, 3) := dk_180 0 31 (dk_at dksX0_has_2_3 5 rfl rfl)
theorem dX0_has_2_86 : decode cX0_has_2 86 = .ok (.getfield 188, 3) := dk_180 0 188 (dk_at dksX0_has_2_3 8 rfl rfl)
theorem dX0_has_2_89 : decode cX0_has_2 89 = .ok (.invokeinterface 164 1, 5) := by decide +kernel
theorem dX0_has_2_94 : decode cX0_has_2 94 = .ok (.ireturn, 1) := dk_172 (dk_at dksX0_has_2_3 16 rfl rfl)
theorem dX0_has_2_95 : decode cX0_has_2 95 = .ok (.aload_n 0, 1) := dk_42 (dk_at dksX0_has_2_3 17 rfl rfl)
theorem dX0_has_2_96 : decode cX0_has_2 96 = .ok (.getfield 69, 3) := dk_180 0 69 (dk_at dksX0_has_2_3 18 rfl rfl)
theorem dX0_has_2_99 : decode cX0_has_2 99 = .ok (.getfield 191, 3) := dk_180 0 191 (dk_at dksX0_has_2_3 21 rfl rfl)
theorem dX0_has_2_102 : decode cX0_has_2 102 = .ok (.ireturn, 1) := dk_172 (dk_at dksX0_has_2_4 0 rfl rfl)
theorem dX0_has_2_103 : decode cX0_has_2 103 = .ok (.iconst 0, 1) := dk_3 (dk_at dksX0_has_2_4 1 rfl rfl)
theorem dX0_has_2_104 : decode cX0_has_2 104 = .ok (.istore_n 3, 1) := dk_62 (dk_at dksX0_has_2_4 2 rfl rfl)
theorem dX0_has_2_105 : decode cX0_has_2 105 = .ok (.iload_n 3, 1) := dk_29 (dk_at dksX0_has_2_4 3 rfl rfl)
theorem dX0_has_2_106 : decode cX0_has_2 106 = .ok (.bipush 64, 2) := dk_16 64 (dk_at dksX0_has_2_4 4 rfl rfl)
theorem dX0_has_2_108 : decode cX0_has_2 108 = .ok (.if_icmp .ge 33, 3) := dk_162 0 33 (dk_at dksX0_has_2_4 6 rfl rfl)
theorem dX0_has_2_111 : decode cX0_has_2 111 = .ok (.iload_n 2, 1) := dk_28 (dk_at dksX0_has_2_4 9 rfl rfl)
theorem dX0_has_2_112 : decode cX0_has_2 112 = .ok (.aload_n 0, 1) := dk_42 (dk_at dksX0_has_2_4 10 rfl rfl)
theorem dX0_has_2_113 : decode cX0_has_2 113 = .ok (.iload_n 3, 1) := dk_29 (dk_at dksX0_has_2_4 11 rfl rfl)
theorem dX0_has_2_114 : decode cX0_has_2 114 = .ok (.invokevirtual 194, 3) := dk_182 0 194 (dk_at dksX0_has_2_4 12 rfl rfl)
theorem dX0_has_2_117 : decode cX0_has_2 117 = .ok (.ifCond .eq 15, 3) := dk_153 0 15 (dk_at dksX0_has_2_4 15 rfl rfl)
theorem dX0_has_2_120 : decode cX0_has_2 120 = .ok (.aload_n 0, 1) := dk_42 (dk_at dksX0_has_2_4 18 rfl rfl)
theorem dX0_has_2_121 : decode cX0_has_2 121 = .ok (.getfield 69, 3) := dk_180 0 69 (dk_at dksX0_has_2_4 19 rfl rfl)
theorem dX0_has_2_124 : decode cX0_has_2 124 = .ok (.getfield 198, 3) := dk_180 0 198 (dk_at dksX0_has_2_5 0 rfl rfl)
theorem dX0_has_2_127 : decode cX0_has_2 127 = .ok (.iload_n 3, 1) := dk_29 (dk_at dksX0_has_2_5 3 rfl rfl)
theorem dX0_has_2_128 : decode cX0_has_2 128 = .ok (.iaload, 1) := dk_46 (dk_at dksX0_has_2_5 4 rfl rfl)
theorem dX0_has_2_129 : decode cX0_has_2 129 = .ok (.goto 4, 3) := dk_167 0 4 (dk_at dksX0_has_2_5 5 rfl rfl)
theorem dX0_has_2_132 : decode cX0_has_2 132 = .ok (.iconst 0, 1) := dk_3 (dk_at dksX0_has_2_5 8 rfl rfl)
theorem dX0_has_2_133 : decode cX0_has_2 133 = .ok (.iadd, 1) := dk_96 (dk_at dksX0_has_2_5 9 rfl rfl)
theorem dX0_has_2_134 : decode cX0_has_2 134 = .ok (.istore_n 2, 1) := dk_61 (dk_at dksX0_has_2_5 10 rfl rfl)
theorem dX0_has_2_135 : decode cX0_has_2 135 = .ok (.iinc 3 1, 3) := dk_132 3 1 (dk_at dksX0_has_2_5 11 rfl rfl)
theorem dX0_has_2_138 : decode cX0_has_2 138 = .ok (.goto (-33), 3) := dk_167 255 223 (dk_at dksX0_has_2_5 14 rfl rfl)
theorem dX0_has_2_141 : decode cX0_has_2 141 = .ok (.iload_n 2, 1) := dk_28 (dk_at dksX0_has_2_5 17 rfl rfl)
theorem dX0_has_2_142 : decode cX0_has_2 142 = .ok (.ireturn, 1) := dk_172 (dk_at dksX0_has_2_5 18 rfl rfl)
theorem dX0_has_2_143 : decode cX0_has_2 143 = .ok (.aload_n 0, 1) := dk_42 (dk_at dksX0_has_2_5 19 rfl rfl)
theorem dX0_has_2_144 : decode cX0_has_2 144 = .ok (.getfield 69, 3) := dk_180 0 69 (dk_at dksX0_has_2_5 20 rfl rfl)
theorem dX0_has_2_147 : decode cX0_has_2 147 = .ok (.getfield 201, 3) := dk_180 0 201 (dk_at dksX0_has_2_6 0 rfl rfl)
theorem dX0_has_2_150 : decode cX0_has_2 150 = .ok (.ireturn, 1) := dk_172 (dk_at dksX0_has_2_6 3 rfl rfl)
theorem dX0_has_2_151 : decode cX0_has_2 151 = .ok (.aload_n 0, 1) := dk_42 (dk_at dksX0_has_2_6 4 rfl rfl)
theorem dX0_has_2_152 : decode cX0_has_2 152 = .ok (.getfield 151, 3) := dk_180 0 151 (dk_at dksX0_has_2_6 5 rfl rfl)
theorem dX0_has_2_155 : decode cX0_has_2 155 = .ok (.ireturn, 1) := dk_172 (dk_at dksX0_has_2_6 8 rfl rfl)
theorem dX0_has_2_156 : decode cX0_has_2 156 = .ok (.aload_n 0, 1) := dk_42 (dk_at dksX0_has_2_6 9 rfl rfl)
theorem dX0_has_2_157 : decode cX0_has_2 157 = .ok (.getfield 148, 3) := dk_180 0 148 (dk_at dksX0_has_2_6 10 rfl rfl)
theorem dX0_has_2_160 : decode cX0_has_2 160 = .ok (.ireturn, 1) := dk_172 (dk_at dksX0_has_2_6 13 rfl rfl)
theorem dX0_has_2_161 : decode cX0_has_2 161 = .ok (.iconst (-1), 1) := dk_2 (dk_at dksX0_has_2_6 14 rfl rfl)
theorem dX0_has_2_162 : decode cX0_has_2 162 = .ok (.ireturn, 1) := dk_172 (dk_at dksX0_has_2_6 15 rfl rfl)
abbrev cX0_topics : ByteArray := prog_1_method_16_code
def yX0_topics : MethodName := ⟨RX0, "topics", "()I"⟩
def dkwX0_topics_0 : List UInt8 := [42, 180, 0, 31, 180, 0, 160, 185, 0, 164, 1, 0, 172]
abbrev dktX0_topics_0 : List UInt8 := dkwX0_topics_0 ++ []
theorem dksX0_topics_0 : cX0_topics.data.toList.drop 0 = dktX0_topics_0 := by decide +kernel
theorem dX0_topics_0 : decode cX0_topics 0 = .ok (.aload_n 0, 1) := dk_42 (dk_at dksX0_topics_0 0 rfl rfl)
theorem dX0_topics_1 : decode cX0_topics 1 = .ok (.getfield 31, 3) := dk_180 0 31 (dk_at dksX0_topics_0 1 rfl rfl)
theorem dX0_topics_4 : decode cX0_topics 4 = .ok (.getfield 160, 3) := dk_180 0 160 (dk_at dksX0_topics_0 4 rfl rfl)
theorem dX0_topics_7 : decode cX0_topics 7 = .ok (.invokeinterface 164 1, 5) := by decide +kernel
theorem dX0_topics_12 : decode cX0_topics 12 = .ok (.ireturn, 1) := dk_172 (dk_at dksX0_topics_0 12 rfl rfl)
abbrev cX0_isCell : ByteArray := prog_1_method_21_code
def yX0_isCell : MethodName := ⟨RX0, "isCell", "(I)Z"⟩
def dkwX0_isCell_1 : List UInt8 := [172]
abbrev dktX0_isCell_1 : List UInt8 := dkwX0_isCell_1 ++ []
def dkwX0_isCell_0 : List UInt8 := [27, 155, 0, 22, 42, 27, 16, 8, 112, 27, 16, 8, 108, 182, 0, 181, 153, 0, 7, 4, 167, 0, 4, 3]
abbrev dktX0_isCell_0 : List UInt8 := dkwX0_isCell_0 ++ dktX0_isCell_1
theorem dksX0_isCell_0 : cX0_isCell.data.toList.drop 0 = dktX0_isCell_0 := by decide +kernel
theorem dksX0_isCell_1 : cX0_isCell.data.toList.drop 24 = dktX0_isCell_1 := dk_seg dksX0_isCell_0 24 rfl rfl
theorem dX0_isCell_0 : decode cX0_isCell 0 = .ok (.iload_n 1, 1) := dk_27 (dk_at dksX0_isCell_0 0 rfl rfl)
theorem dX0_isCell_1 : decode cX0_isCell 1 = .ok (.ifCond .lt 22, 3) := dk_155 0 22 (dk_at dksX0_isCell_0 1 rfl rfl)
theorem dX0_isCell_4 : decode cX0_isCell 4 = .ok (.aload_n 0, 1) := dk_42 (dk_at dksX0_isCell_0 4 rfl rfl)
theorem dX0_isCell_5 : decode cX0_isCell 5 = .ok (.iload_n 1, 1) := dk_27 (dk_at dksX0_isCell_0 5 rfl rfl)
theorem dX0_isCell_6 : decode cX0_isCell 6 = .ok (.bipush 8, 2) := dk_16 8 (dk_at dksX0_isCell_0 6 rfl rfl)
theorem dX0_isCell_8 : decode cX0_isCell 8 = .ok (.irem, 1) := dk_112 (dk_at dksX0_isCell_0 8 rfl rfl)
theorem dX0_isCell_9 : decode cX0_isCell 9 = .ok (.iload_n 1, 1) := dk_27 (dk_at dksX0_isCell_0 9 rfl rfl)
theorem dX0_isCell_10 : decode cX0_isCell 10 = .ok (.bipush 8, 2) := dk_16 8 (dk_at dksX0_isCell_0 10 rfl rfl)
theorem dX0_isCell_12 : decode cX0_isCell 12 = .ok (.idiv, 1) := dk_108 (dk_at dksX0_isCell_0 12 rfl rfl)
theorem dX0_isCell_13 : decode cX0_isCell 13 = .ok (.invokevirtual 181, 3) := dk_182 0 181 (dk_at dksX0_isCell_0 13 rfl rfl)
theorem dX0_isCell_16 : decode cX0_isCell 16 = .ok (.ifCond .eq 7, 3) := dk_153 0 7 (dk_at dksX0_isCell_0 16 rfl rfl)
theorem dX0_isCell_19 : decode cX0_isCell 19 = .ok (.iconst 1, 1) := dk_4 (dk_at dksX0_isCell_0 19 rfl rfl)
theorem dX0_isCell_20 : decode cX0_isCell 20 = .ok (.goto 4, 3) := dk_167 0 4 (dk_at dksX0_isCell_0 20 rfl rfl)
theorem dX0_isCell_23 : decode cX0_isCell 23 = .ok (.iconst 0, 1) := dk_3 (dk_at dksX0_isCell_0 23 rfl rfl)
theorem dX0_isCell_24 : decode cX0_isCell 24 = .ok (.ireturn, 1) := dk_172 (dk_at dksX0_isCell_1 0 rfl rfl)
abbrev cX0_isIn : ByteArray := prog_1_method_20_code
def yX0_isIn : MethodName := ⟨RX0, "isIn", "(II)Z"⟩
def dkwX0_isIn_1 : List UInt8 := [180, 0, 180, 4, 100, 184, 0, 176, 153, 0, 7, 4, 167, 0, 4, 3, 172]
abbrev dktX0_isIn_1 : List UInt8 := dkwX0_isIn_1 ++ []
def dkwX0_isIn_0 : List UInt8 := [27, 3, 42, 180, 0, 31, 180, 0, 157, 4, 100, 184, 0, 176, 153, 0, 24, 28, 3, 42, 180, 0, 31]
abbrev dktX0_isIn_0 : List UInt8 := dkwX0_isIn_0 ++ dktX0_isIn_1
theorem dksX0_isIn_0 : cX0_isIn.data.toList.drop 0 = dktX0_isIn_0 := by decide +kernel
theorem dksX0_isIn_1 : cX0_isIn.data.toList.drop 23 = dktX0_isIn_1 := dk_seg dksX0_isIn_0 23 rfl rfl
theorem dX0_isIn_0 : decode cX0_isIn 0 = .ok (.iload_n 1, 1) := dk_27 (dk_at dksX0_isIn_0 0 rfl rfl)
theorem dX0_isIn_1 : decode cX0_isIn 1 = .ok (.iconst 0, 1) := dk_3 (dk_at dksX0_isIn_0 1 rfl rfl)
theorem dX0_isIn_2 : decode cX0_isIn 2 = .ok (.aload_n 0, 1) := dk_42 (dk_at dksX0_isIn_0 2 rfl rfl)
theorem dX0_isIn_3 : decode cX0_isIn 3 = .ok (.getfield 31, 3) := dk_180 0 31 (dk_at dksX0_isIn_0 3 rfl rfl)
theorem dX0_isIn_6 : decode cX0_isIn 6 = .ok (.getfield 157, 3) := dk_180 0 157 (dk_at dksX0_isIn_0 6 rfl rfl)
theorem dX0_isIn_9 : decode cX0_isIn 9 = .ok (.iconst 1, 1) := dk_4 (dk_at dksX0_isIn_0 9 rfl rfl)
theorem dX0_isIn_10 : decode cX0_isIn 10 = .ok (.isub, 1) := dk_100 (dk_at dksX0_isIn_0 10 rfl rfl)
theorem dX0_isIn_11 : decode cX0_isIn 11 = .ok (.invokestatic 176, 3) := dk_184 0 176 (dk_at dksX0_isIn_0 11 rfl rfl)
theorem dX0_isIn_14 : decode cX0_isIn 14 = .ok (.ifCond .eq 24, 3) := dk_153 0 24 (dk_at dksX0_isIn_0 14 rfl rfl)
theorem dX0_isIn_17 : decode cX0_isIn 17 = .ok (.iload_n 2, 1) := dk_28 (dk_at dksX0_isIn_0 17 rfl rfl)
theorem dX0_isIn_18 : decode cX0_isIn 18 = .ok (.iconst 0, 1) := dk_3 (dk_at dksX0_isIn_0 18 rfl rfl)
theorem dX0_isIn_19 : decode cX0_isIn 19 = .ok (.aload_n 0, 1) := dk_42 (dk_at dksX0_isIn_0 19 rfl rfl)
theorem dX0_isIn_20 : decode cX0_isIn 20 = .ok (.getfield 31, 3) := dk_180 0 31 (dk_at dksX0_isIn_0 20 rfl rfl)
theorem dX0_isIn_23 : decode cX0_isIn 23 = .ok (.getfield 180, 3) := dk_180 0 180 (dk_at dksX0_isIn_1 0 rfl rfl)
theorem dX0_isIn_26 : decode cX0_isIn 26 = .ok (.iconst 1, 1) := dk_4 (dk_at dksX0_isIn_1 3 rfl rfl)
theorem dX0_isIn_27 : decode cX0_isIn 27 = .ok (.isub, 1) := dk_100 (dk_at dksX0_isIn_1 4 rfl rfl)
theorem dX0_isIn_28 : decode cX0_isIn 28 = .ok (.invokestatic 176, 3) := dk_184 0 176 (dk_at dksX0_isIn_1 5 rfl rfl)
theorem dX0_isIn_31 : decode cX0_isIn 31 = .ok (.ifCond .eq 7, 3) := dk_153 0 7 (dk_at dksX0_isIn_1 8 rfl rfl)
theorem dX0_isIn_34 : decode cX0_isIn 34 = .ok (.iconst 1, 1) := dk_4 (dk_at dksX0_isIn_1 11 rfl rfl)
theorem dX0_isIn_35 : decode cX0_isIn 35 = .ok (.goto 4, 3) := dk_167 0 4 (dk_at dksX0_isIn_1 12 rfl rfl)
theorem dX0_isIn_38 : decode cX0_isIn 38 = .ok (.iconst 0, 1) := dk_3 (dk_at dksX0_isIn_1 15 rfl rfl)
theorem dX0_isIn_39 : decode cX0_isIn 39 = .ok (.ireturn, 1) := dk_172 (dk_at dksX0_isIn_1 16 rfl rfl)
abbrev cX0_letter : ByteArray := prog_1_method_24_code
def yX0_letter : MethodName := ⟨RX0, "letter", "(III)I"⟩
def dkwX0_letter_3 : List UInt8 := [182, 0, 210, 167, 0, 4, 2, 172]
abbrev dktX0_letter_3 : List UInt8 := dkwX0_letter_3 ++ []
def dkwX0_letter_2 : List UInt8 := [25, 4, 185, 0, 164, 1, 0, 162, 0, 21, 25, 4, 28, 185, 0, 204, 2, 0, 192, 0, 208, 29]
abbrev dktX0_letter_2 : List UInt8 := dkwX0_letter_2 ++ dktX0_letter_3
def dkwX0_letter_1 : List UInt8 := [27, 154, 0, 13, 42, 180, 0, 31, 180, 0, 160, 167, 0, 10, 42, 180, 0, 31, 180, 0, 169, 58, 4, 28]
abbrev dktX0_letter_1 : List UInt8 := dkwX0_letter_1 ++ dktX0_letter_2
def dkwX0_letter_0 : List UInt8 := [29, 3, 8, 184, 0, 176, 153, 0, 16, 27, 3, 4, 184, 0, 176, 153, 0, 7, 28, 156, 0, 5, 2, 172]
abbrev dktX0_letter_0 : List UInt8 := dkwX0_letter_0 ++ dktX0_letter_1
theorem dksX0_letter_0 : cX0_letter.data.toList.drop 0 = dktX0_letter_0 := by decide +kernel
theorem dksX0_letter_1 : cX0_letter.data.toList.drop 24 = dktX0_letter_1 := dk_seg dksX0_letter_0 24 rfl rfl
theorem dksX0_letter_2 : cX0_letter.data.toList.drop 48 = dktX0_letter_2 := dk_seg dksX0_letter_1 24 rfl rfl
theorem dksX0_letter_3 : cX0_letter.data.toList.drop 70 = dktX0_letter_3 := dk_seg dksX0_letter_2 22 rfl rfl
theorem dX0_letter_0 : decode cX0_letter 0 = .ok (.iload_n 3, 1) := dk_29 (dk_at dksX0_letter_0 0 rfl rfl)
theorem dX0_letter_1 : decode cX0_letter 1 = .ok (.iconst 0, 1) := dk_3 (dk_at dksX0_letter_0 1 rfl rfl)
theorem dX0_letter_2 : decode cX0_letter 2 = .ok (.iconst 5, 1) := dk_8 (dk_at dksX0_letter_0 2 rfl rfl)
theorem dX0_letter_3 : decode cX0_letter 3 = .ok (.invokestatic 176, 3) := dk_184 0 176 (dk_at dksX0_letter_0 3 rfl rfl)
theorem dX0_letter_6 : decode cX0_letter 6 = .ok (.ifCond .eq 16, 3) := dk_153 0 16 (dk_at dksX0_letter_0 6 rfl rfl)
theorem dX0_letter_9 : decode cX0_letter 9 = .ok (.iload_n 1, 1) := dk_27 (dk_at dksX0_letter_0 9 rfl rfl)
theorem dX0_letter_10 : decode cX0_letter 10 = .ok (.iconst 0, 1) := dk_3 (dk_at dksX0_letter_0 10 rfl rfl)
theorem dX0_letter_11 : decode cX0_letter 11 = .ok (.iconst 1, 1) := dk_4 (dk_at dksX0_letter_0 11 rfl rfl)
theorem dX0_letter_12 : decode cX0_letter 12 = .ok (.invokestatic 176, 3) := dk_184 0 176 (dk_at dksX0_letter_0 12 rfl rfl)
theorem dX0_letter_15 : decode cX0_letter 15 = .ok (.ifCond .eq 7, 3) := dk_153 0 7 (dk_at dksX0_letter_0 15 rfl rfl)
theorem dX0_letter_18 : decode cX0_letter 18 = .ok (.iload_n 2, 1) := dk_28 (dk_at dksX0_letter_0 18 rfl rfl)
theorem dX0_letter_19 : decode cX0_letter 19 = .ok (.ifCond .ge 5, 3) := dk_156 0 5 (dk_at dksX0_letter_0 19 rfl rfl)
theorem dX0_letter_22 : decode cX0_letter 22 = .ok (.iconst (-1), 1) := dk_2 (dk_at dksX0_letter_0 22 rfl rfl)
theorem dX0_letter_23 : decode cX0_letter 23 = .ok (.ireturn, 1) := dk_172 (dk_at dksX0_letter_0 23 rfl rfl)
theorem dX0_letter_24 : decode cX0_letter 24 = .ok (.iload_n 1, 1) := dk_27 (dk_at dksX0_letter_1 0 rfl rfl)
theorem dX0_letter_25 : decode cX0_letter 25 = .ok (.ifCond .ne 13, 3) := dk_154 0 13 (dk_at dksX0_letter_1 1 rfl rfl)
theorem dX0_letter_28 : decode cX0_letter 28 = .ok (.aload_n 0, 1) := dk_42 (dk_at dksX0_letter_1 4 rfl rfl)
theorem dX0_letter_29 : decode cX0_letter 29 = .ok (.getfield 31, 3) := dk_180 0 31 (dk_at dksX0_letter_1 5 rfl rfl)
theorem dX0_letter_32 : decode cX0_letter 32 = .ok (.getfield 160, 3) := dk_180 0 160 (dk_at dksX0_letter_1 8 rfl rfl)
theorem dX0_letter_35 : decode cX0_letter 35 = .ok (.goto 10, 3) := dk_167 0 10 (dk_at dksX0_letter_1 11 rfl rfl)
theorem dX0_letter_38 : decode cX0_letter 38 = .ok (.aload_n 0, 1) := dk_42 (dk_at dksX0_letter_1 14 rfl rfl)
theorem dX0_letter_39 : decode cX0_letter 39 = .ok (.getfield 31, 3) := dk_180 0 31 (dk_at dksX0_letter_1 15 rfl rfl)
theorem dX0_letter_42 : decode cX0_letter 42 = .ok (.getfield 169, 3) := dk_180 0 169 (dk_at dksX0_letter_1 18 rfl rfl)
theorem dX0_letter_45 : decode cX0_letter 45 = .ok (.astore 4, 2) := dk_58 4 (dk_at dksX0_letter_1 21 rfl rfl)
theorem dX0_letter_47 : decode cX0_letter 47 = .ok (.iload_n 2, 1) := dk_28 (dk_at dksX0_letter_1 23 rfl rfl)
theorem dX0_letter_48 : decode cX0_letter 48 = .ok (.aload 4, 2) := dk_25 4 (dk_at dksX0_letter_2 0 rfl rfl)
theorem dX0_letter_50 : decode cX0_letter 50 = .ok (.invokeinterface 164 1, 5) := by decide +kernel
theorem dX0_letter_55 : decode cX0_letter 55 = .ok (.if_icmp .ge 21, 3) := dk_162 0 21 (dk_at dksX0_letter_2 7 rfl rfl)
theorem dX0_letter_58 : decode cX0_letter 58 = .ok (.aload 4, 2) := dk_25 4 (dk_at dksX0_letter_2 10 rfl rfl)
theorem dX0_letter_60 : decode cX0_letter 60 = .ok (.iload_n 2, 1) := dk_28 (dk_at dksX0_letter_2 12 rfl rfl)
theorem dX0_letter_61 : decode cX0_letter 61 = .ok (.invokeinterface 204 2, 5) := by decide +kernel
theorem dX0_letter_66 : decode cX0_letter 66 = .ok (.checkcast 208, 3) := dk_192 0 208 (dk_at dksX0_letter_2 18 rfl rfl)
theorem dX0_letter_69 : decode cX0_letter 69 = .ok (.iload_n 3, 1) := dk_29 (dk_at dksX0_letter_2 21 rfl rfl)
theorem dX0_letter_70 : decode cX0_letter 70 = .ok (.invokevirtual 210, 3) := dk_182 0 210 (dk_at dksX0_letter_3 0 rfl rfl)
theorem dX0_letter_73 : decode cX0_letter 73 = .ok (.goto 4, 3) := dk_167 0 4 (dk_at dksX0_letter_3 3 rfl rfl)
theorem dX0_letter_76 : decode cX0_letter 76 = .ok (.iconst (-1), 1) := dk_2 (dk_at dksX0_letter_3 6 rfl rfl)
theorem dX0_letter_77 : decode cX0_letter 77 = .ok (.ireturn, 1) := dk_172 (dk_at dksX0_letter_3 7 rfl rfl)
abbrev cX0_height : ByteArray := prog_1_method_25_code
def yX0_height : MethodName := ⟨RX0, "height", "(II)I"⟩
def dkwX0_height_1 : List UInt8 := [167, 0, 4, 2, 172]
abbrev dktX0_height_1 : List UInt8 := dkwX0_height_1 ++ []
def dkwX0_height_0 : List UInt8 := [42, 27, 28, 182, 0, 181, 153, 0, 20, 42, 180, 0, 69, 180, 0, 198, 16, 8, 28, 104, 27, 96, 46]
abbrev dktX0_height_0 : List UInt8 := dkwX0_height_0 ++ dktX0_height_1
theorem dksX0_height_0 : cX0_height.data.toList.drop 0 = dktX0_height_0 := by decide +kernel
theorem dksX0_height_1 : cX0_height.data.toList.drop 23 = dktX0_height_1 := dk_seg dksX0_height_0 23 rfl rfl
theorem dX0_height_0 : decode cX0_height 0 = .ok (.aload_n 0, 1) := dk_42 (dk_at dksX0_height_0 0 rfl rfl)
theorem dX0_height_1 : decode cX0_height 1 = .ok (.iload_n 1, 1) := dk_27 (dk_at dksX0_height_0 1 rfl rfl)
theorem dX0_height_2 : decode cX0_height 2 = .ok (.iload_n 2, 1) := dk_28 (dk_at dksX0_height_0 2 rfl rfl)
theorem dX0_height_3 : decode cX0_height 3 = .ok (.invokevirtual 181, 3) := dk_182 0 181 (dk_at dksX0_height_0 3 rfl rfl)
theorem dX0_height_6 : decode cX0_height 6 = .ok (.ifCond .eq 20, 3) := dk_153 0 20 (dk_at dksX0_height_0 6 rfl rfl)
theorem dX0_height_9 : decode cX0_height 9 = .ok (.aload_n 0, 1) := dk_42 (dk_at dksX0_height_0 9 rfl rfl)
theorem dX0_height_10 : decode cX0_height 10 = .ok (.getfield 69, 3) := dk_180 0 69 (dk_at dksX0_height_0 10 rfl rfl)
theorem dX0_height_13 : decode cX0_height 13 = .ok (.getfield 198, 3) := dk_180 0 198 (dk_at dksX0_height_0 13 rfl rfl)
theorem dX0_height_16 : decode cX0_height 16 = .ok (.bipush 8, 2) := dk_16 8 (dk_at dksX0_height_0 16 rfl rfl)
theorem dX0_height_18 : decode cX0_height 18 = .ok (.iload_n 2, 1) := dk_28 (dk_at dksX0_height_0 18 rfl rfl)
theorem dX0_height_19 : decode cX0_height 19 = .ok (.imul, 1) := dk_104 (dk_at dksX0_height_0 19 rfl rfl)
theorem dX0_height_20 : decode cX0_height 20 = .ok (.iload_n 1, 1) := dk_27 (dk_at dksX0_height_0 20 rfl rfl)
theorem dX0_height_21 : decode cX0_height 21 = .ok (.iadd, 1) := dk_96 (dk_at dksX0_height_0 21 rfl rfl)
theorem dX0_height_22 : decode cX0_height 22 = .ok (.iaload, 1) := dk_46 (dk_at dksX0_height_0 22 rfl rfl)
theorem dX0_height_23 : decode cX0_height 23 = .ok (.goto 4, 3) := dk_167 0 4 (dk_at dksX0_height_1 0 rfl rfl)
theorem dX0_height_26 : decode cX0_height 26 = .ok (.iconst (-1), 1) := dk_2 (dk_at dksX0_height_1 3 rfl rfl)
theorem dX0_height_27 : decode cX0_height 27 = .ok (.ireturn, 1) := dk_172 (dk_at dksX0_height_1 4 rfl rfl)
abbrev cX0_person : ByteArray := prog_1_method_26_code
def yX0_person : MethodName := ⟨RX0, "person", "(II)I"⟩
def dkwX0_person_3 : List UInt8 := [108, 172, 42, 180, 0, 69, 180, 0, 219, 27, 46, 172, 42, 180, 0, 69, 180, 0, 222, 27, 46, 172, 2, 172]
abbrev dktX0_person_3 : List UInt8 := dkwX0_person_3 ++ []
def dkwX0_person_2 : List UInt8 := [42, 180, 0, 69, 180, 0, 216, 27, 46, 16, 8, 112, 172, 42, 180, 0, 69, 180, 0, 216, 27, 46, 16, 8]
abbrev dktX0_person_2 : List UInt8 := dkwX0_person_2 ++ dktX0_person_3
def dkwX0_person_1 : List UInt8 := [170, 0, 0, 0, 75, 0, 0, 0, 0, 0, 0, 0, 3, 0, 0, 0, 29, 0, 0, 0, 42, 0, 0, 0, 55, 0, 0, 0, 65]
abbrev dktX0_person_1 : List UInt8 := dkwX0_person_1 ++ dktX0_person_2
def dkwX0_person_0 : List UInt8 := [42, 27, 182, 0, 213, 154, 0, 5, 2, 172, 28]
abbrev dktX0_person_0 : List UInt8 := dkwX0_person_0 ++ dktX0_person_1
theorem dksX0_person_0 : cX0_person.data.toList.drop 0 = dktX0_person_0 := by decide +kernel
theorem dksX0_person_1 : cX0_person.data.toList.drop 11 = dktX0_person_1 := dk_seg dksX0_person_0 11 rfl rfl
theorem dksX0_person_2 : cX0_person.data.toList.drop 40 = dktX0_person_2 := dk_seg dksX0_person_1 29 rfl rfl
theorem dksX0_person_3 : cX0_person.data.toList.drop 64 = dktX0_person_3 := dk_seg dksX0_person_2 24 rfl rfl
theorem dX0_person_0 : decode cX0_person 0 = .ok (.aload_n 0, 1) := dk_42 (dk_at dksX0_person_0 0 rfl rfl)
theorem dX0_person_1 : decode cX0_person 1 = .ok (.iload_n 1, 1) := dk_27 (dk_at dksX0_person_0 1 rfl rfl)
theorem dX0_person_2 : decode cX0_person 2 = .ok (.invokevirtual 213, 3) := dk_182 0 213 (dk_at dksX0_person_0 2 rfl rfl)
theorem dX0_person_5 : decode cX0_person 5 = .ok (.ifCond .ne 5, 3) := dk_154 0 5 (dk_at dksX0_person_0 5 rfl rfl)
theorem dX0_person_8 : decode cX0_person 8 = .ok (.iconst (-1), 1) := dk_2 (dk_at dksX0_person_0 8 rfl rfl)
theorem dX0_person_9 : decode cX0_person 9 = .ok (.ireturn, 1) := dk_172 (dk_at dksX0_person_0 9 rfl rfl)
theorem dX0_person_10 : decode cX0_person 10 = .ok (.iload_n 2, 1) := dk_28 (dk_at dksX0_person_0 10 rfl rfl)
theorem dX0_person_11 : decode cX0_person 11 = .ok (.tableswitch 75 0 3 #[29, 42, 55, 65], 29) := by decide +kernel
theorem dX0_person_40 : decode cX0_person 40 = .ok (.aload_n 0, 1) := dk_42 (dk_at dksX0_person_2 0 rfl rfl)
theorem dX0_person_41 : decode cX0_person 41 = .ok (.getfield 69, 3) := dk_180 0 69 (dk_at dksX0_person_2 1 rfl rfl)
theorem dX0_person_44 : decode cX0_person 44 = .ok (.getfield 216, 3) := dk_180 0 216 (dk_at dksX0_person_2 4 rfl rfl)
theorem dX0_person_47 : decode cX0_person 47 = .ok (.iload_n 1, 1) := dk_27 (dk_at dksX0_person_2 7 rfl rfl)
theorem dX0_person_48 : decode cX0_person 48 = .ok (.iaload, 1) := dk_46 (dk_at dksX0_person_2 8 rfl rfl)
theorem dX0_person_49 : decode cX0_person 49 = .ok (.bipush 8, 2) := dk_16 8 (dk_at dksX0_person_2 9 rfl rfl)
theorem dX0_person_51 : decode cX0_person 51 = .ok (.irem, 1) := dk_112 (dk_at dksX0_person_2 11 rfl rfl)
theorem dX0_person_52 : decode cX0_person 52 = .ok (.ireturn, 1) := dk_172 (dk_at dksX0_person_2 12 rfl rfl)
theorem dX0_person_53 : decode cX0_person 53 = .ok (.aload_n 0, 1) := dk_42 (dk_at dksX0_person_2 13 rfl rfl)
theorem dX0_person_54 : decode cX0_person 54 = .ok (.getfield 69, 3) := dk_180 0 69 (dk_at dksX0_person_2 14 rfl rfl)
theorem dX0_person_57 : decode cX0_person 57 = .ok (.getfield 216, 3) := dk_180 0 216 (dk_at dksX0_person_2 17 rfl rfl)
theorem dX0_person_60 : decode cX0_person 60 = .ok (.iload_n 1, 1) := dk_27 (dk_at dksX0_person_2 20 rfl rfl)
theorem dX0_person_61 : decode cX0_person 61 = .ok (.iaload, 1) := dk_46 (dk_at dksX0_person_2 21 rfl rfl)
theorem dX0_person_62 : decode cX0_person 62 = .ok (.bipush 8, 2) := dk_16 8 (dk_at dksX0_person_2 22 rfl rfl)
theorem dX0_person_64 : decode cX0_person 64 = .ok (.idiv, 1) := dk_108 (dk_at dksX0_person_3 0 rfl rfl)
theorem dX0_person_65 : decode cX0_person 65 = .ok (.ireturn, 1) := dk_172 (dk_at dksX0_person_3 1 rfl rfl)
theorem dX0_person_66 : decode cX0_person 66 = .ok (.aload_n 0, 1) := dk_42 (dk_at dksX0_person_3 2 rfl rfl)
theorem dX0_person_67 : decode cX0_person 67 = .ok (.getfield 69, 3) := dk_180 0 69 (dk_at dksX0_person_3 3 rfl rfl)
theorem dX0_person_70 : decode cX0_person 70 = .ok (.getfield 219, 3) := dk_180 0 219 (dk_at dksX0_person_3 6 rfl rfl)
theorem dX0_person_73 : decode cX0_person 73 = .ok (.iload_n 1, 1) := dk_27 (dk_at dksX0_person_3 9 rfl rfl)
theorem dX0_person_74 : decode cX0_person 74 = .ok (.iaload, 1) := dk_46 (dk_at dksX0_person_3 10 rfl rfl)
theorem dX0_person_75 : decode cX0_person 75 = .ok (.ireturn, 1) := dk_172 (dk_at dksX0_person_3 11 rfl rfl)
theorem dX0_person_76 : decode cX0_person 76 = .ok (.aload_n 0, 1) := dk_42 (dk_at dksX0_person_3 12 rfl rfl)
theorem dX0_person_77 : decode cX0_person 77 = .ok (.getfield 69, 3) := dk_180 0 69 (dk_at dksX0_person_3 13 rfl rfl)
theorem dX0_person_80 : decode cX0_person 80 = .ok (.getfield 222, 3) := dk_180 0 222 (dk_at dksX0_person_3 16 rfl rfl)
theorem dX0_person_83 : decode cX0_person 83 = .ok (.iload_n 1, 1) := dk_27 (dk_at dksX0_person_3 19 rfl rfl)
theorem dX0_person_84 : decode cX0_person 84 = .ok (.iaload, 1) := dk_46 (dk_at dksX0_person_3 20 rfl rfl)
theorem dX0_person_85 : decode cX0_person 85 = .ok (.ireturn, 1) := dk_172 (dk_at dksX0_person_3 21 rfl rfl)
theorem dX0_person_86 : decode cX0_person 86 = .ok (.iconst (-1), 1) := dk_2 (dk_at dksX0_person_3 22 rfl rfl)
theorem dX0_person_87 : decode cX0_person 87 = .ok (.ireturn, 1) := dk_172 (dk_at dksX0_person_3 23 rfl rfl)
abbrev cX0_isPerson : ByteArray := prog_1_method_19_code
def yX0_isPerson : MethodName := ⟨RX0, "isPerson", "(I)Z"⟩
def dkwX0_isPerson_0 : List UInt8 := [27, 155, 0, 15, 27, 42, 182, 0, 174, 162, 0, 7, 4, 167, 0, 4, 3, 172]
abbrev dktX0_isPerson_0 : List UInt8 := dkwX0_isPerson_0 ++ []
theorem dksX0_isPerson_0 : cX0_isPerson.data.toList.drop 0 = dktX0_isPerson_0 := by decide +kernel
theorem dX0_isPerson_0 : decode cX0_isPerson 0 = .ok (.iload_n 1, 1) := dk_27 (dk_at dksX0_isPerson_0 0 rfl rfl)
theorem dX0_isPerson_1 : decode cX0_isPerson 1 = .ok (.ifCond .lt 15, 3) := dk_155 0 15 (dk_at dksX0_isPerson_0 1 rfl rfl)
theorem dX0_isPerson_4 : decode cX0_isPerson 4 = .ok (.iload_n 1, 1) := dk_27 (dk_at dksX0_isPerson_0 4 rfl rfl)
theorem dX0_isPerson_5 : decode cX0_isPerson 5 = .ok (.aload_n 0, 1) := dk_42 (dk_at dksX0_isPerson_0 5 rfl rfl)
theorem dX0_isPerson_6 : decode cX0_isPerson 6 = .ok (.invokevirtual 174, 3) := dk_182 0 174 (dk_at dksX0_isPerson_0 6 rfl rfl)
theorem dX0_isPerson_9 : decode cX0_isPerson 9 = .ok (.if_icmp .ge 7, 3) := dk_162 0 7 (dk_at dksX0_isPerson_0 9 rfl rfl)
theorem dX0_isPerson_12 : decode cX0_isPerson 12 = .ok (.iconst 1, 1) := dk_4 (dk_at dksX0_isPerson_0 12 rfl rfl)
theorem dX0_isPerson_13 : decode cX0_isPerson 13 = .ok (.goto 4, 3) := dk_167 0 4 (dk_at dksX0_isPerson_0 13 rfl rfl)
theorem dX0_isPerson_16 : decode cX0_isPerson 16 = .ok (.iconst 0, 1) := dk_3 (dk_at dksX0_isPerson_0 16 rfl rfl)
theorem dX0_isPerson_17 : decode cX0_isPerson 17 = .ok (.ireturn, 1) := dk_172 (dk_at dksX0_isPerson_0 17 rfl rfl)
abbrev cX0_list : ByteArray := prog_1_method_27_code
def yX0_list : MethodName := ⟨RX0, "list", "(II)I"⟩
def dkwX0_list_2 : List UInt8 := [180, 0, 227, 167, 0, 16, 28, 4, 160, 0, 10, 45, 180, 0, 230, 167, 0, 4, 2, 172]
abbrev dktX0_list_2 : List UInt8 := dkwX0_list_2 ++ []
def dkwX0_list_1 : List UInt8 := [42, 180, 0, 31, 180, 0, 188, 27, 185, 0, 204, 2, 0, 192, 0, 225, 78, 28, 154, 0, 10, 45]
abbrev dktX0_list_1 : List UInt8 := dkwX0_list_1 ++ dktX0_list_2
def dkwX0_list_0 : List UInt8 := [27, 3, 42, 180, 0, 31, 180, 0, 188, 185, 0, 164, 1, 0, 4, 100, 184, 0, 176, 154, 0, 5, 2, 172]
abbrev dktX0_list_0 : List UInt8 := dkwX0_list_0 ++ dktX0_list_1
theorem dksX0_list_0 : cX0_list.data.toList.drop 0 = dktX0_list_0 := by decide +kernel
theorem dksX0_list_1 : cX0_list.data.toList.drop 24 = dktX0_list_1 := dk_seg dksX0_list_0 24 rfl rfl
theorem dksX0_list_2 : cX0_list.data.toList.drop 46 = dktX0_list_2 := dk_seg dksX0_list_1 22 rfl rfl
theorem dX0_list_0 : decode cX0_list 0 = .ok (.iload_n 1, 1) := dk_27 (dk_at dksX0_list_0 0 rfl rfl)
theorem dX0_list_1 : decode cX0_list 1 = .ok (.iconst 0, 1) := dk_3 (dk_at dksX0_list_0 1 rfl rfl)
theorem dX0_list_2 : decode cX0_list 2 = .ok (.aload_n 0, 1) := dk_42 (dk_at dksX0_list_0 2 rfl rfl)
theorem dX0_list_3 : decode cX0_list 3 = .ok (.getfield 31, 3) := dk_180 0 31 (dk_at dksX0_list_0 3 rfl rfl)
theorem dX0_list_6 : decode cX0_list 6 = .ok (.getfield 188, 3) := dk_180 0 188 (dk_at dksX0_list_0 6 rfl rfl)
theorem dX0_list_9 : decode cX0_list 9 = .ok (.invokeinterface 164 1, 5) := by decide +kernel
theorem dX0_list_14 : decode cX0_list 14 = .ok (.iconst 1, 1) := dk_4 (dk_at dksX0_list_0 14 rfl rfl)
theorem dX0_list_15 : decode cX0_list 15 = .ok (.isub, 1) := dk_100 (dk_at dksX0_list_0 15 rfl rfl)
theorem dX0_list_16 : decode cX0_list 16 = .ok (.invokestatic 176, 3) := dk_184 0 176 (dk_at dksX0_list_0 16 rfl rfl)
theorem dX0_list_19 : decode cX0_list 19 = .ok (.ifCond .ne 5, 3) := dk_154 0 5 (dk_at dksX0_list_0 19 rfl rfl)
theorem dX0_list_22 : decode cX0_list 22 = .ok (.iconst (-1), 1) := dk_2 (dk_at dksX0_list_0 22 rfl rfl)
theorem dX0_list_23 : decode cX0_list 23 = .ok (.ireturn, 1) := dk_172 (dk_at dksX0_list_0 23 rfl rfl)
theorem dX0_list_24 : decode cX0_list 24 = .ok (.aload_n 0, 1) := dk_42 (dk_at dksX0_list_1 0 rfl rfl)
theorem dX0_list_25 : decode cX0_list 25 = .ok (.getfield 31, 3) := dk_180 0 31 (dk_at dksX0_list_1 1 rfl rfl)
theorem dX0_list_28 : decode cX0_list 28 = .ok (.getfield 188, 3) := dk_180 0 188 (dk_at dksX0_list_1 4 rfl rfl)
theorem dX0_list_31 : decode cX0_list 31 = .ok (.iload_n 1, 1) := dk_27 (dk_at dksX0_list_1 7 rfl rfl)
theorem dX0_list_32 : decode cX0_list 32 = .ok (.invokeinterface 204 2, 5) := by decide +kernel
theorem dX0_list_37 : decode cX0_list 37 = .ok (.checkcast 225, 3) := dk_192 0 225 (dk_at dksX0_list_1 13 rfl rfl)
theorem dX0_list_40 : decode cX0_list 40 = .ok (.astore_n 3, 1) := dk_78 (dk_at dksX0_list_1 16 rfl rfl)
theorem dX0_list_41 : decode cX0_list 41 = .ok (.iload_n 2, 1) := dk_28 (dk_at dksX0_list_1 17 rfl rfl)
theorem dX0_list_42 : decode cX0_list 42 = .ok (.ifCond .ne 10, 3) := dk_154 0 10 (dk_at dksX0_list_1 18 rfl rfl)
theorem dX0_list_45 : decode cX0_list 45 = .ok (.aload_n 3, 1) := dk_45 (dk_at dksX0_list_1 21 rfl rfl)
theorem dX0_list_46 : decode cX0_list 46 = .ok (.getfield 227, 3) := dk_180 0 227 (dk_at dksX0_list_2 0 rfl rfl)
theorem dX0_list_49 : decode cX0_list 49 = .ok (.goto 16, 3) := dk_167 0 16 (dk_at dksX0_list_2 3 rfl rfl)
theorem dX0_list_52 : decode cX0_list 52 = .ok (.iload_n 2, 1) := dk_28 (dk_at dksX0_list_2 6 rfl rfl)
theorem dX0_list_53 : decode cX0_list 53 = .ok (.iconst 1, 1) := dk_4 (dk_at dksX0_list_2 7 rfl rfl)
theorem dX0_list_54 : decode cX0_list 54 = .ok (.if_icmp .ne 10, 3) := dk_160 0 10 (dk_at dksX0_list_2 8 rfl rfl)
theorem dX0_list_57 : decode cX0_list 57 = .ok (.aload_n 3, 1) := dk_45 (dk_at dksX0_list_2 11 rfl rfl)
theorem dX0_list_58 : decode cX0_list 58 = .ok (.getfield 230, 3) := dk_180 0 230 (dk_at dksX0_list_2 12 rfl rfl)
theorem dX0_list_61 : decode cX0_list 61 = .ok (.goto 4, 3) := dk_167 0 4 (dk_at dksX0_list_2 15 rfl rfl)
theorem dX0_list_64 : decode cX0_list 64 = .ok (.iconst (-1), 1) := dk_2 (dk_at dksX0_list_2 18 rfl rfl)
theorem dX0_list_65 : decode cX0_list 65 = .ok (.ireturn, 1) := dk_172 (dk_at dksX0_list_2 19 rfl rfl)
abbrev cX0_would : ByteArray := prog_1_method_28_code
def yX0_would : MethodName := ⟨RX0, "would", "(II)I"⟩
def dkwX0_would_1 : List UInt8 := [182, 0, 236, 167, 0, 4, 2, 172]
abbrev dktX0_would_1 : List UInt8 := dkwX0_would_1 ++ []
def dkwX0_would_0 : List UInt8 := [42, 27, 182, 0, 213, 153, 0, 23, 42, 28, 182, 0, 233, 153, 0, 15, 42, 180, 0, 69, 27, 28]
abbrev dktX0_would_0 : List UInt8 := dkwX0_would_0 ++ dktX0_would_1
theorem dksX0_would_0 : cX0_would.data.toList.drop 0 = dktX0_would_0 := by decide +kernel
theorem dksX0_would_1 : cX0_would.data.toList.drop 22 = dktX0_would_1 := dk_seg dksX0_would_0 22 rfl rfl
theorem dX0_would_0 : decode cX0_would 0 = .ok (.aload_n 0, 1) := dk_42 (dk_at dksX0_would_0 0 rfl rfl)
theorem dX0_would_1 : decode cX0_would 1 = .ok (.iload_n 1, 1) := dk_27 (dk_at dksX0_would_0 1 rfl rfl)
theorem dX0_would_2 : decode cX0_would 2 = .ok (.invokevirtual 213, 3) := dk_182 0 213 (dk_at dksX0_would_0 2 rfl rfl)
theorem dX0_would_5 : decode cX0_would 5 = .ok (.ifCond .eq 23, 3) := dk_153 0 23 (dk_at dksX0_would_0 5 rfl rfl)
theorem dX0_would_8 : decode cX0_would 8 = .ok (.aload_n 0, 1) := dk_42 (dk_at dksX0_would_0 8 rfl rfl)
theorem dX0_would_9 : decode cX0_would 9 = .ok (.iload_n 2, 1) := dk_28 (dk_at dksX0_would_0 9 rfl rfl)
theorem dX0_would_10 : decode cX0_would 10 = .ok (.invokevirtual 233, 3) := dk_182 0 233 (dk_at dksX0_would_0 10 rfl rfl)
theorem dX0_would_13 : decode cX0_would 13 = .ok (.ifCond .eq 15, 3) := dk_153 0 15 (dk_at dksX0_would_0 13 rfl rfl)
theorem dX0_would_16 : decode cX0_would 16 = .ok (.aload_n 0, 1) := dk_42 (dk_at dksX0_would_0 16 rfl rfl)
theorem dX0_would_17 : decode cX0_would 17 = .ok (.getfield 69, 3) := dk_180 0 69 (dk_at dksX0_would_0 17 rfl rfl)
theorem dX0_would_20 : decode cX0_would 20 = .ok (.iload_n 1, 1) := dk_27 (dk_at dksX0_would_0 20 rfl rfl)
theorem dX0_would_21 : decode cX0_would 21 = .ok (.iload_n 2, 1) := dk_28 (dk_at dksX0_would_0 21 rfl rfl)
theorem dX0_would_22 : decode cX0_would 22 = .ok (.invokevirtual 236, 3) := dk_182 0 236 (dk_at dksX0_would_1 0 rfl rfl)
theorem dX0_would_25 : decode cX0_would 25 = .ok (.goto 4, 3) := dk_167 0 4 (dk_at dksX0_would_1 3 rfl rfl)
theorem dX0_would_28 : decode cX0_would 28 = .ok (.iconst (-1), 1) := dk_2 (dk_at dksX0_would_1 6 rfl rfl)
theorem dX0_would_29 : decode cX0_would 29 = .ok (.ireturn, 1) := dk_172 (dk_at dksX0_would_1 7 rfl rfl)
abbrev cX0_isTopic : ByteArray := prog_1_method_18_code
def yX0_isTopic : MethodName := ⟨RX0, "isTopic", "(I)Z"⟩
def dkwX0_isTopic_0 : List UInt8 := [27, 155, 0, 15, 27, 42, 182, 0, 172, 162, 0, 7, 4, 167, 0, 4, 3, 172]
abbrev dktX0_isTopic_0 : List UInt8 := dkwX0_isTopic_0 ++ []
theorem dksX0_isTopic_0 : cX0_isTopic.data.toList.drop 0 = dktX0_isTopic_0 := by decide +kernel
theorem dX0_isTopic_0 : decode cX0_isTopic 0 = .ok (.iload_n 1, 1) := dk_27 (dk_at dksX0_isTopic_0 0 rfl rfl)
theorem dX0_isTopic_1 : decode cX0_isTopic 1 = .ok (.ifCond .lt 15, 3) := dk_155 0 15 (dk_at dksX0_isTopic_0 1 rfl rfl)
theorem dX0_isTopic_4 : decode cX0_isTopic 4 = .ok (.iload_n 1, 1) := dk_27 (dk_at dksX0_isTopic_0 4 rfl rfl)
theorem dX0_isTopic_5 : decode cX0_isTopic 5 = .ok (.aload_n 0, 1) := dk_42 (dk_at dksX0_isTopic_0 5 rfl rfl)
theorem dX0_isTopic_6 : decode cX0_isTopic 6 = .ok (.invokevirtual 172, 3) := dk_182 0 172 (dk_at dksX0_isTopic_0 6 rfl rfl)
theorem dX0_isTopic_9 : decode cX0_isTopic 9 = .ok (.if_icmp .ge 7, 3) := dk_162 0 7 (dk_at dksX0_isTopic_0 9 rfl rfl)
theorem dX0_isTopic_12 : decode cX0_isTopic 12 = .ok (.iconst 1, 1) := dk_4 (dk_at dksX0_isTopic_0 12 rfl rfl)
theorem dX0_isTopic_13 : decode cX0_isTopic 13 = .ok (.goto 4, 3) := dk_167 0 4 (dk_at dksX0_isTopic_0 13 rfl rfl)
theorem dX0_isTopic_16 : decode cX0_isTopic 16 = .ok (.iconst 0, 1) := dk_3 (dk_at dksX0_isTopic_0 16 rfl rfl)
theorem dX0_isTopic_17 : decode cX0_isTopic 17 = .ok (.ireturn, 1) := dk_172 (dk_at dksX0_isTopic_0 17 rfl rfl)
abbrev cX0_held : ByteArray := prog_1_method_3_code
def yX0_held : MethodName := ⟨RX0, "held", "(J)J"⟩
def dkwX0_held_0 : List UInt8 := [20, 0, 3, 20, 0, 5, 30, 184, 0, 7, 184, 0, 13, 173]
abbrev dktX0_held_0 : List UInt8 := dkwX0_held_0 ++ []
theorem dksX0_held_0 : cX0_held.data.toList.drop 0 = dktX0_held_0 := by decide +kernel
theorem dX0_held_0 : decode cX0_held 0 = .ok (.ldc2_w 3, 3) := dk_20 0 3 (dk_at dksX0_held_0 0 rfl rfl)
theorem dX0_held_3 : decode cX0_held 3 = .ok (.ldc2_w 5, 3) := dk_20 0 5 (dk_at dksX0_held_0 3 rfl rfl)
theorem dX0_held_6 : decode cX0_held 6 = .ok (.lload_n 0, 1) := dk_30 (dk_at dksX0_held_0 6 rfl rfl)
theorem dX0_held_7 : decode cX0_held 7 = .ok (.invokestatic 7, 3) := dk_184 0 7 (dk_at dksX0_held_0 7 rfl rfl)
theorem dX0_held_10 : decode cX0_held 10 = .ok (.invokestatic 13, 3) := dk_184 0 13 (dk_at dksX0_held_0 10 rfl rfl)
theorem dX0_held_13 : decode cX0_held 13 = .ok (.lreturn, 1) := dk_173 (dk_at dksX0_held_0 13 rfl rfl)
abbrev cX0_looked : ByteArray := prog_1_method_62_code
def yX0_looked : MethodName := ⟨RX0, "looked", "(IJ)J"⟩
def dkwX0_looked_3 : List UInt8 := [173]
abbrev dktX0_looked_3 : List UInt8 := dkwX0_looked_3 ++ []
def dkwX0_looked_2 : List UInt8 := [167, 0, 24, 42, 180, 0, 73, 42, 180, 0, 69, 182, 0, 249, 42, 180, 1, 81, 32, 136, 182, 1, 84, 133]
abbrev dktX0_looked_2 : List UInt8 := dkwX0_looked_2 ++ dktX0_looked_3
def dkwX0_looked_1 : List UInt8 := [180, 0, 69, 180, 0, 222, 42, 180, 1, 81, 46, 32, 136, 184, 1, 49, 153, 0, 7, 10, 167, 0, 28, 9]
abbrev dktX0_looked_1 : List UInt8 := dkwX0_looked_1 ++ dktX0_looked_2
def dkwX0_looked_0 : List UInt8 := [32, 9, 148, 155, 0, 13, 32, 42, 182, 0, 172, 133, 148, 155, 0, 5, 9, 173, 27, 154, 0, 31, 42]
abbrev dktX0_looked_0 : List UInt8 := dkwX0_looked_0 ++ dktX0_looked_1
theorem dksX0_looked_0 : cX0_looked.data.toList.drop 0 = dktX0_looked_0 := by decide +kernel
theorem dksX0_looked_1 : cX0_looked.data.toList.drop 23 = dktX0_looked_1 := dk_seg dksX0_looked_0 23 rfl rfl
theorem dksX0_looked_2 : cX0_looked.data.toList.drop 47 = dktX0_looked_2 := dk_seg dksX0_looked_1 24 rfl rfl
theorem dksX0_looked_3 : cX0_looked.data.toList.drop 71 = dktX0_looked_3 := dk_seg dksX0_looked_2 24 rfl rfl
theorem dX0_looked_0 : decode cX0_looked 0 = .ok (.lload_n 2, 1) := dk_32 (dk_at dksX0_looked_0 0 rfl rfl)
theorem dX0_looked_1 : decode cX0_looked 1 = .ok (.lconst 0, 1) := dk_9 (dk_at dksX0_looked_0 1 rfl rfl)
theorem dX0_looked_2 : decode cX0_looked 2 = .ok (.lcmp, 1) := dk_148 (dk_at dksX0_looked_0 2 rfl rfl)
theorem dX0_looked_3 : decode cX0_looked 3 = .ok (.ifCond .lt 13, 3) := dk_155 0 13 (dk_at dksX0_looked_0 3 rfl rfl)
theorem dX0_looked_6 : decode cX0_looked 6 = .ok (.lload_n 2, 1) := dk_32 (dk_at dksX0_looked_0 6 rfl rfl)
theorem dX0_looked_7 : decode cX0_looked 7 = .ok (.aload_n 0, 1) := dk_42 (dk_at dksX0_looked_0 7 rfl rfl)
theorem dX0_looked_8 : decode cX0_looked 8 = .ok (.invokevirtual 172, 3) := dk_182 0 172 (dk_at dksX0_looked_0 8 rfl rfl)
theorem dX0_looked_11 : decode cX0_looked 11 = .ok (.i2l, 1) := dk_133 (dk_at dksX0_looked_0 11 rfl rfl)
theorem dX0_looked_12 : decode cX0_looked 12 = .ok (.lcmp, 1) := dk_148 (dk_at dksX0_looked_0 12 rfl rfl)
theorem dX0_looked_13 : decode cX0_looked 13 = .ok (.ifCond .lt 5, 3) := dk_155 0 5 (dk_at dksX0_looked_0 13 rfl rfl)
theorem dX0_looked_16 : decode cX0_looked 16 = .ok (.lconst 0, 1) := dk_9 (dk_at dksX0_looked_0 16 rfl rfl)
theorem dX0_looked_17 : decode cX0_looked 17 = .ok (.lreturn, 1) := dk_173 (dk_at dksX0_looked_0 17 rfl rfl)
theorem dX0_looked_18 : decode cX0_looked 18 = .ok (.iload_n 1, 1) := dk_27 (dk_at dksX0_looked_0 18 rfl rfl)
theorem dX0_looked_19 : decode cX0_looked 19 = .ok (.ifCond .ne 31, 3) := dk_154 0 31 (dk_at dksX0_looked_0 19 rfl rfl)
theorem dX0_looked_22 : decode cX0_looked 22 = .ok (.aload_n 0, 1) := dk_42 (dk_at dksX0_looked_0 22 rfl rfl)
theorem dX0_looked_23 : decode cX0_looked 23 = .ok (.getfield 69, 3) := dk_180 0 69 (dk_at dksX0_looked_1 0 rfl rfl)
theorem dX0_looked_26 : decode cX0_looked 26 = .ok (.getfield 222, 3) := dk_180 0 222 (dk_at dksX0_looked_1 3 rfl rfl)
theorem dX0_looked_29 : decode cX0_looked 29 = .ok (.aload_n 0, 1) := dk_42 (dk_at dksX0_looked_1 6 rfl rfl)
theorem dX0_looked_30 : decode cX0_looked 30 = .ok (.getfield 337, 3) := dk_180 1 81 (dk_at dksX0_looked_1 7 rfl rfl)
theorem dX0_looked_33 : decode cX0_looked 33 = .ok (.iaload, 1) := dk_46 (dk_at dksX0_looked_1 10 rfl rfl)
theorem dX0_looked_34 : decode cX0_looked 34 = .ok (.lload_n 2, 1) := dk_32 (dk_at dksX0_looked_1 11 rfl rfl)
theorem dX0_looked_35 : decode cX0_looked 35 = .ok (.l2i, 1) := dk_136 (dk_at dksX0_looked_1 12 rfl rfl)
theorem dX0_looked_36 : decode cX0_looked 36 = .ok (.invokestatic 305, 3) := dk_184 1 49 (dk_at dksX0_looked_1 13 rfl rfl)
theorem dX0_looked_39 : decode cX0_looked 39 = .ok (.ifCond .eq 7, 3) := dk_153 0 7 (dk_at dksX0_looked_1 16 rfl rfl)
theorem dX0_looked_42 : decode cX0_looked 42 = .ok (.lconst 1, 1) := dk_10 (dk_at dksX0_looked_1 19 rfl rfl)
theorem dX0_looked_43 : decode cX0_looked 43 = .ok (.goto 28, 3) := dk_167 0 28 (dk_at dksX0_looked_1 20 rfl rfl)
theorem dX0_looked_46 : decode cX0_looked 46 = .ok (.lconst 0, 1) := dk_9 (dk_at dksX0_looked_1 23 rfl rfl)
theorem dX0_looked_47 : decode cX0_looked 47 = .ok (.goto 24, 3) := dk_167 0 24 (dk_at dksX0_looked_2 0 rfl rfl)
theorem dX0_looked_50 : decode cX0_looked 50 = .ok (.aload_n 0, 1) := dk_42 (dk_at dksX0_looked_2 3 rfl rfl)
theorem dX0_looked_51 : decode cX0_looked 51 = .ok (.getfield 73, 3) := dk_180 0 73 (dk_at dksX0_looked_2 4 rfl rfl)
theorem dX0_looked_54 : decode cX0_looked 54 = .ok (.aload_n 0, 1) := dk_42 (dk_at dksX0_looked_2 7 rfl rfl)
theorem dX0_looked_55 : decode cX0_looked 55 = .ok (.getfield 69, 3) := dk_180 0 69 (dk_at dksX0_looked_2 8 rfl rfl)
theorem dX0_looked_58 : decode cX0_looked 58 = .ok (.invokevirtual 249, 3) := dk_182 0 249 (dk_at dksX0_looked_2 11 rfl rfl)
theorem dX0_looked_61 : decode cX0_looked 61 = .ok (.aload_n 0, 1) := dk_42 (dk_at dksX0_looked_2 14 rfl rfl)
theorem dX0_looked_62 : decode cX0_looked 62 = .ok (.getfield 337, 3) := dk_180 1 81 (dk_at dksX0_looked_2 15 rfl rfl)
theorem dX0_looked_65 : decode cX0_looked 65 = .ok (.lload_n 2, 1) := dk_32 (dk_at dksX0_looked_2 18 rfl rfl)
theorem dX0_looked_66 : decode cX0_looked 66 = .ok (.l2i, 1) := dk_136 (dk_at dksX0_looked_2 19 rfl rfl)
theorem dX0_looked_67 : decode cX0_looked 67 = .ok (.invokevirtual 340, 3) := dk_182 1 84 (dk_at dksX0_looked_2 20 rfl rfl)
theorem dX0_looked_70 : decode cX0_looked 70 = .ok (.i2l, 1) := dk_133 (dk_at dksX0_looked_2 23 rfl rfl)
theorem dX0_looked_71 : decode cX0_looked 71 = .ok (.lreturn, 1) := dk_173 (dk_at dksX0_looked_3 0 rfl rfl)
abbrev cX0_kept : ByteArray := prog_1_method_29_code
def yX0_kept : MethodName := ⟨RX0, "kept", "(II)I"⟩
def dkwX0_kept_1 : List UInt8 := [153, 0, 17, 42, 180, 0, 69, 180, 0, 240, 27, 50, 28, 46, 167, 0, 4, 2, 172]
abbrev dktX0_kept_1 : List UInt8 := dkwX0_kept_1 ++ []
def dkwX0_kept_0 : List UInt8 := [27, 3, 42, 180, 0, 69, 180, 0, 201, 4, 100, 184, 0, 176, 153, 0, 26, 28, 3, 6, 184, 0, 176]
abbrev dktX0_kept_0 : List UInt8 := dkwX0_kept_0 ++ dktX0_kept_1
theorem dksX0_kept_0 : cX0_kept.data.toList.drop 0 = dktX0_kept_0 := by decide +kernel
theorem dksX0_kept_1 : cX0_kept.data.toList.drop 23 = dktX0_kept_1 := dk_seg dksX0_kept_0 23 rfl rfl
theorem dX0_kept_0 : decode cX0_kept 0 = .ok (.iload_n 1, 1) := dk_27 (dk_at dksX0_kept_0 0 rfl rfl)
theorem dX0_kept_1 : decode cX0_kept 1 = .ok (.iconst 0, 1) := dk_3 (dk_at dksX0_kept_0 1 rfl rfl)
theorem dX0_kept_2 : decode cX0_kept 2 = .ok (.aload_n 0, 1) := dk_42 (dk_at dksX0_kept_0 2 rfl rfl)
theorem dX0_kept_3 : decode cX0_kept 3 = .ok (.getfield 69, 3) := dk_180 0 69 (dk_at dksX0_kept_0 3 rfl rfl)
theorem dX0_kept_6 : decode cX0_kept 6 = .ok (.getfield 201, 3) := dk_180 0 201 (dk_at dksX0_kept_0 6 rfl rfl)
theorem dX0_kept_9 : decode cX0_kept 9 = .ok (.iconst 1, 1) := dk_4 (dk_at dksX0_kept_0 9 rfl rfl)
theorem dX0_kept_10 : decode cX0_kept 10 = .ok (.isub, 1) := dk_100 (dk_at dksX0_kept_0 10 rfl rfl)
theorem dX0_kept_11 : decode cX0_kept 11 = .ok (.invokestatic 176, 3) := dk_184 0 176 (dk_at dksX0_kept_0 11 rfl rfl)
theorem dX0_kept_14 : decode cX0_kept 14 = .ok (.ifCond .eq 26, 3) := dk_153 0 26 (dk_at dksX0_kept_0 14 rfl rfl)
theorem dX0_kept_17 : decode cX0_kept 17 = .ok (.iload_n 2, 1) := dk_28 (dk_at dksX0_kept_0 17 rfl rfl)
theorem dX0_kept_18 : decode cX0_kept 18 = .ok (.iconst 0, 1) := dk_3 (dk_at dksX0_kept_0 18 rfl rfl)
theorem dX0_kept_19 : decode cX0_kept 19 = .ok (.iconst 3, 1) := dk_6 (dk_at dksX0_kept_0 19 rfl rfl)
theorem dX0_kept_20 : decode cX0_kept 20 = .ok (.invokestatic 176, 3) := dk_184 0 176 (dk_at dksX0_kept_0 20 rfl rfl)
theorem dX0_kept_23 : decode cX0_kept 23 = .ok (.ifCond .eq 17, 3) := dk_153 0 17 (dk_at dksX0_kept_1 0 rfl rfl)
theorem dX0_kept_26 : decode cX0_kept 26 = .ok (.aload_n 0, 1) := dk_42 (dk_at dksX0_kept_1 3 rfl rfl)
theorem dX0_kept_27 : decode cX0_kept 27 = .ok (.getfield 69, 3) := dk_180 0 69 (dk_at dksX0_kept_1 4 rfl rfl)
theorem dX0_kept_30 : decode cX0_kept 30 = .ok (.getfield 240, 3) := dk_180 0 240 (dk_at dksX0_kept_1 7 rfl rfl)
theorem dX0_kept_33 : decode cX0_kept 33 = .ok (.iload_n 1, 1) := dk_27 (dk_at dksX0_kept_1 10 rfl rfl)
theorem dX0_kept_34 : decode cX0_kept 34 = .ok (.aaload, 1) := dk_50 (dk_at dksX0_kept_1 11 rfl rfl)
theorem dX0_kept_35 : decode cX0_kept 35 = .ok (.iload_n 2, 1) := dk_28 (dk_at dksX0_kept_1 12 rfl rfl)
theorem dX0_kept_36 : decode cX0_kept 36 = .ok (.iaload, 1) := dk_46 (dk_at dksX0_kept_1 13 rfl rfl)
theorem dX0_kept_37 : decode cX0_kept 37 = .ok (.goto 4, 3) := dk_167 0 4 (dk_at dksX0_kept_1 14 rfl rfl)
theorem dX0_kept_40 : decode cX0_kept 40 = .ok (.iconst (-1), 1) := dk_2 (dk_at dksX0_kept_1 17 rfl rfl)
theorem dX0_kept_41 : decode cX0_kept 41 = .ok (.ireturn, 1) := dk_172 (dk_at dksX0_kept_1 18 rfl rfl)
abbrev cX0_later : ByteArray := prog_1_method_31_code
def yX0_later : MethodName := ⟨RX0, "later", "(III)I"⟩
def dkwX0_later_2 : List UInt8 := [2, 172]
abbrev dktX0_later_2 : List UInt8 := dkwX0_later_2 ++ []
def dkwX0_later_1 : List UInt8 := [42, 180, 0, 69, 182, 0, 249, 29, 182, 0, 253, 180, 0, 198, 16, 8, 28, 104, 27, 96, 46, 167, 0, 4]
abbrev dktX0_later_1 : List UInt8 := dkwX0_later_1 ++ dktX0_later_2
def dkwX0_later_0 : List UInt8 := [42, 27, 28, 182, 0, 181, 153, 0, 42, 42, 29, 3, 16, 60, 182, 0, 246, 153, 0, 31, 42, 180, 0, 73]
abbrev dktX0_later_0 : List UInt8 := dkwX0_later_0 ++ dktX0_later_1
theorem dksX0_later_0 : cX0_later.data.toList.drop 0 = dktX0_later_0 := by decide +kernel
theorem dksX0_later_1 : cX0_later.data.toList.drop 24 = dktX0_later_1 := dk_seg dksX0_later_0 24 rfl rfl
theorem dksX0_later_2 : cX0_later.data.toList.drop 48 = dktX0_later_2 := dk_seg dksX0_later_1 24 rfl rfl
theorem dX0_later_0 : decode cX0_later 0 = .ok (.aload_n 0, 1) := dk_42 (dk_at dksX0_later_0 0 rfl rfl)
theorem dX0_later_1 : decode cX0_later 1 = .ok (.iload_n 1, 1) := dk_27 (dk_at dksX0_later_0 1 rfl rfl)
theorem dX0_later_2 : decode cX0_later 2 = .ok (.iload_n 2, 1) := dk_28 (dk_at dksX0_later_0 2 rfl rfl)
theorem dX0_later_3 : decode cX0_later 3 = .ok (.invokevirtual 181, 3) := dk_182 0 181 (dk_at dksX0_later_0 3 rfl rfl)
theorem dX0_later_6 : decode cX0_later 6 = .ok (.ifCond .eq 42, 3) := dk_153 0 42 (dk_at dksX0_later_0 6 rfl rfl)
theorem dX0_later_9 : decode cX0_later 9 = .ok (.aload_n 0, 1) := dk_42 (dk_at dksX0_later_0 9 rfl rfl)
theorem dX0_later_10 : decode cX0_later 10 = .ok (.iload_n 3, 1) := dk_29 (dk_at dksX0_later_0 10 rfl rfl)
theorem dX0_later_11 : decode cX0_later 11 = .ok (.iconst 0, 1) := dk_3 (dk_at dksX0_later_0 11 rfl rfl)
theorem dX0_later_12 : decode cX0_later 12 = .ok (.bipush 60, 2) := dk_16 60 (dk_at dksX0_later_0 12 rfl rfl)
theorem dX0_later_14 : decode cX0_later 14 = .ok (.invokevirtual 246, 3) := dk_182 0 246 (dk_at dksX0_later_0 14 rfl rfl)
theorem dX0_later_17 : decode cX0_later 17 = .ok (.ifCond .eq 31, 3) := dk_153 0 31 (dk_at dksX0_later_0 17 rfl rfl)
theorem dX0_later_20 : decode cX0_later 20 = .ok (.aload_n 0, 1) := dk_42 (dk_at dksX0_later_0 20 rfl rfl)
theorem dX0_later_21 : decode cX0_later 21 = .ok (.getfield 73, 3) := dk_180 0 73 (dk_at dksX0_later_0 21 rfl rfl)
theorem dX0_later_24 : decode cX0_later 24 = .ok (.aload_n 0, 1) := dk_42 (dk_at dksX0_later_1 0 rfl rfl)
theorem dX0_later_25 : decode cX0_later 25 = .ok (.getfield 69, 3) := dk_180 0 69 (dk_at dksX0_later_1 1 rfl rfl)
theorem dX0_later_28 : decode cX0_later 28 = .ok (.invokevirtual 249, 3) := dk_182 0 249 (dk_at dksX0_later_1 4 rfl rfl)
theorem dX0_later_31 : decode cX0_later 31 = .ok (.iload_n 3, 1) := dk_29 (dk_at dksX0_later_1 7 rfl rfl)
theorem dX0_later_32 : decode cX0_later 32 = .ok (.invokevirtual 253, 3) := dk_182 0 253 (dk_at dksX0_later_1 8 rfl rfl)
theorem dX0_later_35 : decode cX0_later 35 = .ok (.getfield 198, 3) := dk_180 0 198 (dk_at dksX0_later_1 11 rfl rfl)
theorem dX0_later_38 : decode cX0_later 38 = .ok (.bipush 8, 2) := dk_16 8 (dk_at dksX0_later_1 14 rfl rfl)
theorem dX0_later_40 : decode cX0_later 40 = .ok (.iload_n 2, 1) := dk_28 (dk_at dksX0_later_1 16 rfl rfl)
theorem dX0_later_41 : decode cX0_later 41 = .ok (.imul, 1) := dk_104 (dk_at dksX0_later_1 17 rfl rfl)
theorem dX0_later_42 : decode cX0_later 42 = .ok (.iload_n 1, 1) := dk_27 (dk_at dksX0_later_1 18 rfl rfl)
theorem dX0_later_43 : decode cX0_later 43 = .ok (.iadd, 1) := dk_96 (dk_at dksX0_later_1 19 rfl rfl)
theorem dX0_later_44 : decode cX0_later 44 = .ok (.iaload, 1) := dk_46 (dk_at dksX0_later_1 20 rfl rfl)
theorem dX0_later_45 : decode cX0_later 45 = .ok (.goto 4, 3) := dk_167 0 4 (dk_at dksX0_later_1 21 rfl rfl)
theorem dX0_later_48 : decode cX0_later 48 = .ok (.iconst (-1), 1) := dk_2 (dk_at dksX0_later_2 0 rfl rfl)
theorem dX0_later_49 : decode cX0_later 49 = .ok (.ireturn, 1) := dk_172 (dk_at dksX0_later_2 1 rfl rfl)
abbrev cX0_isAhead : ByteArray := prog_1_method_30_code
def yX0_isAhead : MethodName := ⟨RX0, "isAhead", "(III)Z"⟩
def dkwX0_isAhead_1 : List UInt8 := [96, 17, 3, 231, 163, 0, 7, 4, 167, 0, 4, 3, 172]
abbrev dktX0_isAhead_1 : List UInt8 := dkwX0_isAhead_1 ++ []
def dkwX0_isAhead_0 : List UInt8 := [42, 182, 0, 242, 153, 0, 31, 27, 28, 29, 184, 0, 176, 153, 0, 22, 42, 180, 0, 69, 180, 0, 191, 27]
abbrev dktX0_isAhead_0 : List UInt8 := dkwX0_isAhead_0 ++ dktX0_isAhead_1
theorem dksX0_isAhead_0 : cX0_isAhead.data.toList.drop 0 = dktX0_isAhead_0 := by decide +kernel
theorem dksX0_isAhead_1 : cX0_isAhead.data.toList.drop 24 = dktX0_isAhead_1 := dk_seg dksX0_isAhead_0 24 rfl rfl
theorem dX0_isAhead_0 : decode cX0_isAhead 0 = .ok (.aload_n 0, 1) := dk_42 (dk_at dksX0_isAhead_0 0 rfl rfl)
theorem dX0_isAhead_1 : decode cX0_isAhead 1 = .ok (.invokevirtual 242, 3) := dk_182 0 242 (dk_at dksX0_isAhead_0 1 rfl rfl)
theorem dX0_isAhead_4 : decode cX0_isAhead 4 = .ok (.ifCond .eq 31, 3) := dk_153 0 31 (dk_at dksX0_isAhead_0 4 rfl rfl)
theorem dX0_isAhead_7 : decode cX0_isAhead 7 = .ok (.iload_n 1, 1) := dk_27 (dk_at dksX0_isAhead_0 7 rfl rfl)
theorem dX0_isAhead_8 : decode cX0_isAhead 8 = .ok (.iload_n 2, 1) := dk_28 (dk_at dksX0_isAhead_0 8 rfl rfl)
theorem dX0_isAhead_9 : decode cX0_isAhead 9 = .ok (.iload_n 3, 1) := dk_29 (dk_at dksX0_isAhead_0 9 rfl rfl)
theorem dX0_isAhead_10 : decode cX0_isAhead 10 = .ok (.invokestatic 176, 3) := dk_184 0 176 (dk_at dksX0_isAhead_0 10 rfl rfl)
theorem dX0_isAhead_13 : decode cX0_isAhead 13 = .ok (.ifCond .eq 22, 3) := dk_153 0 22 (dk_at dksX0_isAhead_0 13 rfl rfl)
theorem dX0_isAhead_16 : decode cX0_isAhead 16 = .ok (.aload_n 0, 1) := dk_42 (dk_at dksX0_isAhead_0 16 rfl rfl)
theorem dX0_isAhead_17 : decode cX0_isAhead 17 = .ok (.getfield 69, 3) := dk_180 0 69 (dk_at dksX0_isAhead_0 17 rfl rfl)
theorem dX0_isAhead_20 : decode cX0_isAhead 20 = .ok (.getfield 191, 3) := dk_180 0 191 (dk_at dksX0_isAhead_0 20 rfl rfl)
theorem dX0_isAhead_23 : decode cX0_isAhead 23 = .ok (.iload_n 1, 1) := dk_27 (dk_at dksX0_isAhead_0 23 rfl rfl)
theorem dX0_isAhead_24 : decode cX0_isAhead 24 = .ok (.iadd, 1) := dk_96 (dk_at dksX0_isAhead_1 0 rfl rfl)
theorem dX0_isAhead_25 : decode cX0_isAhead 25 = .ok (.sipush 999, 3) := dk_17 3 231 (dk_at dksX0_isAhead_1 1 rfl rfl)
theorem dX0_isAhead_28 : decode cX0_isAhead 28 = .ok (.if_icmp .gt 7, 3) := dk_163 0 7 (dk_at dksX0_isAhead_1 4 rfl rfl)
theorem dX0_isAhead_31 : decode cX0_isAhead 31 = .ok (.iconst 1, 1) := dk_4 (dk_at dksX0_isAhead_1 7 rfl rfl)
theorem dX0_isAhead_32 : decode cX0_isAhead 32 = .ok (.goto 4, 3) := dk_167 0 4 (dk_at dksX0_isAhead_1 8 rfl rfl)
theorem dX0_isAhead_35 : decode cX0_isAhead 35 = .ok (.iconst 0, 1) := dk_3 (dk_at dksX0_isAhead_1 11 rfl rfl)
theorem dX0_isAhead_36 : decode cX0_isAhead 36 = .ok (.ireturn, 1) := dk_172 (dk_at dksX0_isAhead_1 12 rfl rfl)
abbrev cX0_isPlain : ByteArray := prog_1_method_15_code
def yX0_isPlain : MethodName := ⟨RX0, "isPlain", "()Z"⟩
def dkwX0_isPlain_0 : List UInt8 := [42, 180, 0, 31, 180, 0, 157, 158, 0, 7, 4, 167, 0, 4, 3, 172]
abbrev dktX0_isPlain_0 : List UInt8 := dkwX0_isPlain_0 ++ []
theorem dksX0_isPlain_0 : cX0_isPlain.data.toList.drop 0 = dktX0_isPlain_0 := by decide +kernel
theorem dX0_isPlain_0 : decode cX0_isPlain 0 = .ok (.aload_n 0, 1) := dk_42 (dk_at dksX0_isPlain_0 0 rfl rfl)
theorem dX0_isPlain_1 : decode cX0_isPlain 1 = .ok (.getfield 31, 3) := dk_180 0 31 (dk_at dksX0_isPlain_0 1 rfl rfl)
theorem dX0_isPlain_4 : decode cX0_isPlain 4 = .ok (.getfield 157, 3) := dk_180 0 157 (dk_at dksX0_isPlain_0 4 rfl rfl)
theorem dX0_isPlain_7 : decode cX0_isPlain 7 = .ok (.ifCond .le 7, 3) := dk_158 0 7 (dk_at dksX0_isPlain_0 7 rfl rfl)
theorem dX0_isPlain_10 : decode cX0_isPlain 10 = .ok (.iconst 1, 1) := dk_4 (dk_at dksX0_isPlain_0 10 rfl rfl)
theorem dX0_isPlain_11 : decode cX0_isPlain 11 = .ok (.goto 4, 3) := dk_167 0 4 (dk_at dksX0_isPlain_0 11 rfl rfl)
theorem dX0_isPlain_14 : decode cX0_isPlain 14 = .ok (.iconst 0, 1) := dk_3 (dk_at dksX0_isPlain_0 14 rfl rfl)
theorem dX0_isPlain_15 : decode cX0_isPlain 15 = .ok (.ireturn, 1) := dk_172 (dk_at dksX0_isPlain_0 15 rfl rfl)
abbrev cX0_tired : ByteArray := prog_1_method_32_code
def yX0_tired : MethodName := ⟨RX0, "tired", "(II)I"⟩
def dkwX0_tired_1 : List UInt8 := [180, 0, 69, 182, 0, 249, 28, 182, 0, 253, 180, 0, 219, 27, 46, 167, 0, 4, 2, 172]
abbrev dktX0_tired_1 : List UInt8 := dkwX0_tired_1 ++ []
def dkwX0_tired_0 : List UInt8 := [42, 27, 182, 0, 213, 153, 0, 37, 42, 28, 3, 16, 60, 182, 0, 246, 153, 0, 26, 42, 180, 0, 73, 42]
abbrev dktX0_tired_0 : List UInt8 := dkwX0_tired_0 ++ dktX0_tired_1
theorem dksX0_tired_0 : cX0_tired.data.toList.drop 0 = dktX0_tired_0 := by decide +kernel
theorem dksX0_tired_1 : cX0_tired.data.toList.drop 24 = dktX0_tired_1 := dk_seg dksX0_tired_0 24 rfl rfl
theorem dX0_tired_0 : decode cX0_tired 0 = .ok (.aload_n 0, 1) := dk_42 (dk_at dksX0_tired_0 0 rfl rfl)
theorem dX0_tired_1 : decode cX0_tired 1 = .ok (.iload_n 1, 1) := dk_27 (dk_at dksX0_tired_0 1 rfl rfl)
theorem dX0_tired_2 : decode cX0_tired 2 = .ok (.invokevirtual 213, 3) := dk_182 0 213 (dk_at dksX0_tired_0 2 rfl rfl)
theorem dX0_tired_5 : decode cX0_tired 5 = .ok (.ifCond .eq 37, 3) := dk_153 0 37 (dk_at dksX0_tired_0 5 rfl rfl)
theorem dX0_tired_8 : decode cX0_tired 8 = .ok (.aload_n 0, 1) := dk_42 (dk_at dksX0_tired_0 8 rfl rfl)
theorem dX0_tired_9 : decode cX0_tired 9 = .ok (.iload_n 2, 1) := dk_28 (dk_at dksX0_tired_0 9 rfl rfl)
theorem dX0_tired_10 : decode cX0_tired 10 = .ok (.iconst 0, 1) := dk_3 (dk_at dksX0_tired_0 10 rfl rfl)
theorem dX0_tired_11 : decode cX0_tired 11 = .ok (.bipush 60, 2) := dk_16 60 (dk_at dksX0_tired_0 11 rfl rfl)
theorem dX0_tired_13 : decode cX0_tired 13 = .ok (.invokevirtual 246, 3) := dk_182 0 246 (dk_at dksX0_tired_0 13 rfl rfl)
theorem dX0_tired_16 : decode cX0_tired 16 = .ok (.ifCond .eq 26, 3) := dk_153 0 26 (dk_at dksX0_tired_0 16 rfl rfl)
theorem dX0_tired_19 : decode cX0_tired 19 = .ok (.aload_n 0, 1) := dk_42 (dk_at dksX0_tired_0 19 rfl rfl)
theorem dX0_tired_20 : decode cX0_tired 20 = .ok (.getfield 73, 3) := dk_180 0 73 (dk_at dksX0_tired_0 20 rfl rfl)
theorem dX0_tired_23 : decode cX0_tired 23 = .ok (.aload_n 0, 1) := dk_42 (dk_at dksX0_tired_0 23 rfl rfl)
theorem dX0_tired_24 : decode cX0_tired 24 = .ok (.getfield 69, 3) := dk_180 0 69 (dk_at dksX0_tired_1 0 rfl rfl)
theorem dX0_tired_27 : decode cX0_tired 27 = .ok (.invokevirtual 249, 3) := dk_182 0 249 (dk_at dksX0_tired_1 3 rfl rfl)
theorem dX0_tired_30 : decode cX0_tired 30 = .ok (.iload_n 2, 1) := dk_28 (dk_at dksX0_tired_1 6 rfl rfl)
theorem dX0_tired_31 : decode cX0_tired 31 = .ok (.invokevirtual 253, 3) := dk_182 0 253 (dk_at dksX0_tired_1 7 rfl rfl)
theorem dX0_tired_34 : decode cX0_tired 34 = .ok (.getfield 219, 3) := dk_180 0 219 (dk_at dksX0_tired_1 10 rfl rfl)
theorem dX0_tired_37 : decode cX0_tired 37 = .ok (.iload_n 1, 1) := dk_27 (dk_at dksX0_tired_1 13 rfl rfl)
theorem dX0_tired_38 : decode cX0_tired 38 = .ok (.iaload, 1) := dk_46 (dk_at dksX0_tired_1 14 rfl rfl)
theorem dX0_tired_39 : decode cX0_tired 39 = .ok (.goto 4, 3) := dk_167 0 4 (dk_at dksX0_tired_1 15 rfl rfl)
theorem dX0_tired_42 : decode cX0_tired 42 = .ok (.iconst (-1), 1) := dk_2 (dk_at dksX0_tired_1 18 rfl rfl)
theorem dX0_tired_43 : decode cX0_tired 43 = .ok (.ireturn, 1) := dk_172 (dk_at dksX0_tired_1 19 rfl rfl)
abbrev cX0_rises : ByteArray := prog_1_method_33_code
def yX0_rises : MethodName := ⟨RX0, "rises", "(III)I"⟩
def dkwX0_rises_3 : List UInt8 := [167, 255, 212, 2, 172]
abbrev dktX0_rises_3 : List UInt8 := dkwX0_rises_3 ++ []
def dkwX0_rises_2 : List UInt8 := [104, 27, 96, 46, 29, 161, 0, 6, 21, 4, 172, 42, 180, 0, 73, 182, 1, 1, 87, 132, 4, 1]
abbrev dktX0_rises_2 : List UInt8 := dkwX0_rises_2 ++ dktX0_rises_3
def dkwX0_rises_1 : List UInt8 := [54, 4, 42, 21, 4, 3, 16, 60, 182, 0, 246, 153, 0, 38, 42, 180, 0, 73, 180, 0, 198, 16, 8, 28]
abbrev dktX0_rises_1 : List UInt8 := dkwX0_rises_1 ++ dktX0_rises_2
def dkwX0_rises_0 : List UInt8 := [42, 27, 28, 182, 0, 181, 154, 0, 5, 2, 172, 42, 180, 0, 73, 42, 180, 0, 69, 182, 0, 249, 87, 3]
abbrev dktX0_rises_0 : List UInt8 := dkwX0_rises_0 ++ dktX0_rises_1
theorem dksX0_rises_0 : cX0_rises.data.toList.drop 0 = dktX0_rises_0 := by decide +kernel
theorem dksX0_rises_1 : cX0_rises.data.toList.drop 24 = dktX0_rises_1 := dk_seg dksX0_rises_0 24 rfl rfl
theorem dksX0_rises_2 : cX0_rises.data.toList.drop 48 = dktX0_rises_2 := dk_seg dksX0_rises_1 24 rfl rfl
theorem dksX0_rises_3 : cX0_rises.data.toList.drop 70 = dktX0_rises_3 := dk_seg dksX0_rises_2 22 rfl rfl
theorem dX0_rises_0 : decode cX0_rises 0 = .ok (.aload_n 0, 1) := dk_42 (dk_at dksX0_rises_0 0 rfl rfl)
theorem dX0_rises_1 : decode cX0_rises 1 = .ok (.iload_n 1, 1) := dk_27 (dk_at dksX0_rises_0 1 rfl rfl)
theorem dX0_rises_2 : decode cX0_rises 2 = .ok (.iload_n 2, 1) := dk_28 (dk_at dksX0_rises_0 2 rfl rfl)
theorem dX0_rises_3 : decode cX0_rises 3 = .ok (.invokevirtual 181, 3) := dk_182 0 181 (dk_at dksX0_rises_0 3 rfl rfl)
theorem dX0_rises_6 : decode cX0_rises 6 = .ok (.ifCond .ne 5, 3) := dk_154 0 5 (dk_at dksX0_rises_0 6 rfl rfl)
theorem dX0_rises_9 : decode cX0_rises 9 = .ok (.iconst (-1), 1) := dk_2 (dk_at dksX0_rises_0 9 rfl rfl)
theorem dX0_rises_10 : decode cX0_rises 10 = .ok (.ireturn, 1) := dk_172 (dk_at dksX0_rises_0 10 rfl rfl)
theorem dX0_rises_11 : decode cX0_rises 11 = .ok (.aload_n 0, 1) := dk_42 (dk_at dksX0_rises_0 11 rfl rfl)
theorem dX0_rises_12 : decode cX0_rises 12 = .ok (.getfield 73, 3) := dk_180 0 73 (dk_at dksX0_rises_0 12 rfl rfl)
theorem dX0_rises_15 : decode cX0_rises 15 = .ok (.aload_n 0, 1) := dk_42 (dk_at dksX0_rises_0 15 rfl rfl)
theorem dX0_rises_16 : decode cX0_rises 16 = .ok (.getfield 69, 3) := dk_180 0 69 (dk_at dksX0_rises_0 16 rfl rfl)
theorem dX0_rises_19 : decode cX0_rises 19 = .ok (.invokevirtual 249, 3) := dk_182 0 249 (dk_at dksX0_rises_0 19 rfl rfl)
theorem dX0_rises_22 : decode cX0_rises 22 = .ok (.pop, 1) := dk_87 (dk_at dksX0_rises_0 22 rfl rfl)
theorem dX0_rises_23 : decode cX0_rises 23 = .ok (.iconst 0, 1) := dk_3 (dk_at dksX0_rises_0 23 rfl rfl)
theorem dX0_rises_24 : decode cX0_rises 24 = .ok (.istore 4, 2) := dk_54 4 (dk_at dksX0_rises_1 0 rfl rfl)
theorem dX0_rises_26 : decode cX0_rises 26 = .ok (.aload_n 0, 1) := dk_42 (dk_at dksX0_rises_1 2 rfl rfl)
theorem dX0_rises_27 : decode cX0_rises 27 = .ok (.iload 4, 2) := dk_21 4 (dk_at dksX0_rises_1 3 rfl rfl)
theorem dX0_rises_29 : decode cX0_rises 29 = .ok (.iconst 0, 1) := dk_3 (dk_at dksX0_rises_1 5 rfl rfl)
theorem dX0_rises_30 : decode cX0_rises 30 = .ok (.bipush 60, 2) := dk_16 60 (dk_at dksX0_rises_1 6 rfl rfl)
theorem dX0_rises_32 : decode cX0_rises 32 = .ok (.invokevirtual 246, 3) := dk_182 0 246 (dk_at dksX0_rises_1 8 rfl rfl)
theorem dX0_rises_35 : decode cX0_rises 35 = .ok (.ifCond .eq 38, 3) := dk_153 0 38 (dk_at dksX0_rises_1 11 rfl rfl)
theorem dX0_rises_38 : decode cX0_rises 38 = .ok (.aload_n 0, 1) := dk_42 (dk_at dksX0_rises_1 14 rfl rfl)
theorem dX0_rises_39 : decode cX0_rises 39 = .ok (.getfield 73, 3) := dk_180 0 73 (dk_at dksX0_rises_1 15 rfl rfl)
theorem dX0_rises_42 : decode cX0_rises 42 = .ok (.getfield 198, 3) := dk_180 0 198 (dk_at dksX0_rises_1 18 rfl rfl)
theorem dX0_rises_45 : decode cX0_rises 45 = .ok (.bipush 8, 2) := dk_16 8 (dk_at dksX0_rises_1 21 rfl rfl)
theorem dX0_rises_47 : decode cX0_rises 47 = .ok (.iload_n 2, 1) := dk_28 (dk_at dksX0_rises_1 23 rfl rfl)
theorem dX0_rises_48 : decode cX0_rises 48 = .ok (.imul, 1) := dk_104 (dk_at dksX0_rises_2 0 rfl rfl)
theorem dX0_rises_49 : decode cX0_rises 49 = .ok (.iload_n 1, 1) := dk_27 (dk_at dksX0_rises_2 1 rfl rfl)
theorem dX0_rises_50 : decode cX0_rises 50 = .ok (.iadd, 1) := dk_96 (dk_at dksX0_rises_2 2 rfl rfl)
theorem dX0_rises_51 : decode cX0_rises 51 = .ok (.iaload, 1) := dk_46 (dk_at dksX0_rises_2 3 rfl rfl)
theorem dX0_rises_52 : decode cX0_rises 52 = .ok (.iload_n 3, 1) := dk_29 (dk_at dksX0_rises_2 4 rfl rfl)
theorem dX0_rises_53 : decode cX0_rises 53 = .ok (.if_icmp .lt 6, 3) := dk_161 0 6 (dk_at dksX0_rises_2 5 rfl rfl)
theorem dX0_rises_56 : decode cX0_rises 56 = .ok (.iload 4, 2) := dk_21 4 (dk_at dksX0_rises_2 8 rfl rfl)
theorem dX0_rises_58 : decode cX0_rises 58 = .ok (.ireturn, 1) := dk_172 (dk_at dksX0_rises_2 10 rfl rfl)
theorem dX0_rises_59 : decode cX0_rises 59 = .ok (.aload_n 0, 1) := dk_42 (dk_at dksX0_rises_2 11 rfl rfl)
theorem dX0_rises_60 : decode cX0_rises 60 = .ok (.getfield 73, 3) := dk_180 0 73 (dk_at dksX0_rises_2 12 rfl rfl)
theorem dX0_rises_63 : decode cX0_rises 63 = .ok (.invokevirtual 257, 3) := dk_182 1 1 (dk_at dksX0_rises_2 15 rfl rfl)
theorem dX0_rises_66 : decode cX0_rises 66 = .ok (.pop, 1) := dk_87 (dk_at dksX0_rises_2 18 rfl rfl)
theorem dX0_rises_67 : decode cX0_rises 67 = .ok (.iinc 4 1, 3) := dk_132 4 1 (dk_at dksX0_rises_2 19 rfl rfl)
theorem dX0_rises_70 : decode cX0_rises 70 = .ok (.goto (-44), 3) := dk_167 255 212 (dk_at dksX0_rises_3 0 rfl rfl)
theorem dX0_rises_73 : decode cX0_rises 73 = .ok (.iconst (-1), 1) := dk_2 (dk_at dksX0_rises_3 3 rfl rfl)
theorem dX0_rises_74 : decode cX0_rises 74 = .ok (.ireturn, 1) := dk_172 (dk_at dksX0_rises_3 4 rfl rfl)
abbrev cX0_plan : ByteArray := prog_1_method_35_code
def yX0_plan : MethodName := ⟨RX0, "plan", "(IIII)I"⟩
def dkwX0_plan_4 : List UInt8 := [46, 167, 0, 4, 2, 172, 132, 5, 1, 167, 255, 198, 2, 172]
abbrev dktX0_plan_4 : List UInt8 := dkwX0_plan_4 ++ []
def dkwX0_plan_3 : List UInt8 := [21, 5, 167, 0, 27, 21, 4, 3, 21, 5, 4, 100, 184, 0, 176, 153, 0, 13, 42, 180, 0, 80, 21, 4]
abbrev dktX0_plan_3 : List UInt8 := dkwX0_plan_3 ++ dktX0_plan_4
def dkwX0_plan_2 : List UInt8 := [6, 163, 0, 58, 42, 27, 28, 29, 3, 21, 5, 182, 1, 6, 153, 0, 39, 21, 4, 2, 160, 0, 8]
abbrev dktX0_plan_2 : List UInt8 := dkwX0_plan_2 ++ dktX0_plan_3
def dkwX0_plan_1 : List UInt8 := [154, 0, 5, 2, 172, 42, 180, 0, 76, 3, 50, 42, 180, 0, 69, 182, 0, 249, 87, 3, 54, 5, 21, 5]
abbrev dktX0_plan_1 : List UInt8 := dkwX0_plan_1 ++ dktX0_plan_2
def dkwX0_plan_0 : List UInt8 := [42, 27, 182, 0, 194, 153, 0, 21, 42, 29, 182, 0, 194, 153, 0, 13, 28, 3, 16, 99, 184, 0, 176]
abbrev dktX0_plan_0 : List UInt8 := dkwX0_plan_0 ++ dktX0_plan_1
theorem dksX0_plan_0 : cX0_plan.data.toList.drop 0 = dktX0_plan_0 := by decide +kernel
theorem dksX0_plan_1 : cX0_plan.data.toList.drop 23 = dktX0_plan_1 := dk_seg dksX0_plan_0 23 rfl rfl
theorem dksX0_plan_2 : cX0_plan.data.toList.drop 47 = dktX0_plan_2 := dk_seg dksX0_plan_1 24 rfl rfl
theorem dksX0_plan_3 : cX0_plan.data.toList.drop 70 = dktX0_plan_3 := dk_seg dksX0_plan_2 23 rfl rfl
theorem dksX0_plan_4 : cX0_plan.data.toList.drop 94 = dktX0_plan_4 := dk_seg dksX0_plan_3 24 rfl rfl
theorem dX0_plan_0 : decode cX0_plan 0 = .ok (.aload_n 0, 1) := dk_42 (dk_at dksX0_plan_0 0 rfl rfl)
theorem dX0_plan_1 : decode cX0_plan 1 = .ok (.iload_n 1, 1) := dk_27 (dk_at dksX0_plan_0 1 rfl rfl)
theorem dX0_plan_2 : decode cX0_plan 2 = .ok (.invokevirtual 194, 3) := dk_182 0 194 (dk_at dksX0_plan_0 2 rfl rfl)
theorem dX0_plan_5 : decode cX0_plan 5 = .ok (.ifCond .eq 21, 3) := dk_153 0 21 (dk_at dksX0_plan_0 5 rfl rfl)
theorem dX0_plan_8 : decode cX0_plan 8 = .ok (.aload_n 0, 1) := dk_42 (dk_at dksX0_plan_0 8 rfl rfl)
theorem dX0_plan_9 : decode cX0_plan 9 = .ok (.iload_n 3, 1) := dk_29 (dk_at dksX0_plan_0 9 rfl rfl)
theorem dX0_plan_10 : decode cX0_plan 10 = .ok (.invokevirtual 194, 3) := dk_182 0 194 (dk_at dksX0_plan_0 10 rfl rfl)
theorem dX0_plan_13 : decode cX0_plan 13 = .ok (.ifCond .eq 13, 3) := dk_153 0 13 (dk_at dksX0_plan_0 13 rfl rfl)
theorem dX0_plan_16 : decode cX0_plan 16 = .ok (.iload_n 2, 1) := dk_28 (dk_at dksX0_plan_0 16 rfl rfl)
theorem dX0_plan_17 : decode cX0_plan 17 = .ok (.iconst 0, 1) := dk_3 (dk_at dksX0_plan_0 17 rfl rfl)
theorem dX0_plan_18 : decode cX0_plan 18 = .ok (.bipush 99, 2) := dk_16 99 (dk_at dksX0_plan_0 18 rfl rfl)
theorem dX0_plan_20 : decode cX0_plan 20 = .ok (.invokestatic 176, 3) := dk_184 0 176 (dk_at dksX0_plan_0 20 rfl rfl)
theorem dX0_plan_23 : decode cX0_plan 23 = .ok (.ifCond .ne 5, 3) := dk_154 0 5 (dk_at dksX0_plan_1 0 rfl rfl)
theorem dX0_plan_26 : decode cX0_plan 26 = .ok (.iconst (-1), 1) := dk_2 (dk_at dksX0_plan_1 3 rfl rfl)
theorem dX0_plan_27 : decode cX0_plan 27 = .ok (.ireturn, 1) := dk_172 (dk_at dksX0_plan_1 4 rfl rfl)
theorem dX0_plan_28 : decode cX0_plan 28 = .ok (.aload_n 0, 1) := dk_42 (dk_at dksX0_plan_1 5 rfl rfl)
theorem dX0_plan_29 : decode cX0_plan 29 = .ok (.getfield 76, 3) := dk_180 0 76 (dk_at dksX0_plan_1 6 rfl rfl)
theorem dX0_plan_32 : decode cX0_plan 32 = .ok (.iconst 0, 1) := dk_3 (dk_at dksX0_plan_1 9 rfl rfl)
theorem dX0_plan_33 : decode cX0_plan 33 = .ok (.aaload, 1) := dk_50 (dk_at dksX0_plan_1 10 rfl rfl)
theorem dX0_plan_34 : decode cX0_plan 34 = .ok (.aload_n 0, 1) := dk_42 (dk_at dksX0_plan_1 11 rfl rfl)
theorem dX0_plan_35 : decode cX0_plan 35 = .ok (.getfield 69, 3) := dk_180 0 69 (dk_at dksX0_plan_1 12 rfl rfl)
theorem dX0_plan_38 : decode cX0_plan 38 = .ok (.invokevirtual 249, 3) := dk_182 0 249 (dk_at dksX0_plan_1 15 rfl rfl)
theorem dX0_plan_41 : decode cX0_plan 41 = .ok (.pop, 1) := dk_87 (dk_at dksX0_plan_1 18 rfl rfl)
theorem dX0_plan_42 : decode cX0_plan 42 = .ok (.iconst 0, 1) := dk_3 (dk_at dksX0_plan_1 19 rfl rfl)
theorem dX0_plan_43 : decode cX0_plan 43 = .ok (.istore 5, 2) := dk_54 5 (dk_at dksX0_plan_1 20 rfl rfl)
theorem dX0_plan_45 : decode cX0_plan 45 = .ok (.iload 5, 2) := dk_21 5 (dk_at dksX0_plan_1 22 rfl rfl)
theorem dX0_plan_47 : decode cX0_plan 47 = .ok (.iconst 3, 1) := dk_6 (dk_at dksX0_plan_2 0 rfl rfl)
theorem dX0_plan_48 : decode cX0_plan 48 = .ok (.if_icmp .gt 58, 3) := dk_163 0 58 (dk_at dksX0_plan_2 1 rfl rfl)
theorem dX0_plan_51 : decode cX0_plan 51 = .ok (.aload_n 0, 1) := dk_42 (dk_at dksX0_plan_2 4 rfl rfl)
theorem dX0_plan_52 : decode cX0_plan 52 = .ok (.iload_n 1, 1) := dk_27 (dk_at dksX0_plan_2 5 rfl rfl)
theorem dX0_plan_53 : decode cX0_plan 53 = .ok (.iload_n 2, 1) := dk_28 (dk_at dksX0_plan_2 6 rfl rfl)
theorem dX0_plan_54 : decode cX0_plan 54 = .ok (.iload_n 3, 1) := dk_29 (dk_at dksX0_plan_2 7 rfl rfl)
theorem dX0_plan_55 : decode cX0_plan 55 = .ok (.iconst 0, 1) := dk_3 (dk_at dksX0_plan_2 8 rfl rfl)
theorem dX0_plan_56 : decode cX0_plan 56 = .ok (.iload 5, 2) := dk_21 5 (dk_at dksX0_plan_2 9 rfl rfl)
theorem dX0_plan_58 : decode cX0_plan 58 = .ok (.invokevirtual 262, 3) := dk_182 1 6 (dk_at dksX0_plan_2 11 rfl rfl)
theorem dX0_plan_61 : decode cX0_plan 61 = .ok (.ifCond .eq 39, 3) := dk_153 0 39 (dk_at dksX0_plan_2 14 rfl rfl)
theorem dX0_plan_64 : decode cX0_plan 64 = .ok (.iload 4, 2) := dk_21 4 (dk_at dksX0_plan_2 17 rfl rfl)
theorem dX0_plan_66 : decode cX0_plan 66 = .ok (.iconst (-1), 1) := dk_2 (dk_at dksX0_plan_2 19 rfl rfl)
theorem dX0_plan_67 : decode cX0_plan 67 = .ok (.if_icmp .ne 8, 3) := dk_160 0 8 (dk_at dksX0_plan_2 20 rfl rfl)
theorem dX0_plan_70 : decode cX0_plan 70 = .ok (.iload 5, 2) := dk_21 5 (dk_at dksX0_plan_3 0 rfl rfl)
theorem dX0_plan_72 : decode cX0_plan 72 = .ok (.goto 27, 3) := dk_167 0 27 (dk_at dksX0_plan_3 2 rfl rfl)
theorem dX0_plan_75 : decode cX0_plan 75 = .ok (.iload 4, 2) := dk_21 4 (dk_at dksX0_plan_3 5 rfl rfl)
theorem dX0_plan_77 : decode cX0_plan 77 = .ok (.iconst 0, 1) := dk_3 (dk_at dksX0_plan_3 7 rfl rfl)
theorem dX0_plan_78 : decode cX0_plan 78 = .ok (.iload 5, 2) := dk_21 5 (dk_at dksX0_plan_3 8 rfl rfl)
theorem dX0_plan_80 : decode cX0_plan 80 = .ok (.iconst 1, 1) := dk_4 (dk_at dksX0_plan_3 10 rfl rfl)
theorem dX0_plan_81 : decode cX0_plan 81 = .ok (.isub, 1) := dk_100 (dk_at dksX0_plan_3 11 rfl rfl)
theorem dX0_plan_82 : decode cX0_plan 82 = .ok (.invokestatic 176, 3) := dk_184 0 176 (dk_at dksX0_plan_3 12 rfl rfl)
theorem dX0_plan_85 : decode cX0_plan 85 = .ok (.ifCond .eq 13, 3) := dk_153 0 13 (dk_at dksX0_plan_3 15 rfl rfl)
theorem dX0_plan_88 : decode cX0_plan 88 = .ok (.aload_n 0, 1) := dk_42 (dk_at dksX0_plan_3 18 rfl rfl)
theorem dX0_plan_89 : decode cX0_plan 89 = .ok (.getfield 80, 3) := dk_180 0 80 (dk_at dksX0_plan_3 19 rfl rfl)
theorem dX0_plan_92 : decode cX0_plan 92 = .ok (.iload 4, 2) := dk_21 4 (dk_at dksX0_plan_3 22 rfl rfl)
theorem dX0_plan_94 : decode cX0_plan 94 = .ok (.iaload, 1) := dk_46 (dk_at dksX0_plan_4 0 rfl rfl)
theorem dX0_plan_95 : decode cX0_plan 95 = .ok (.goto 4, 3) := dk_167 0 4 (dk_at dksX0_plan_4 1 rfl rfl)
theorem dX0_plan_98 : decode cX0_plan 98 = .ok (.iconst (-1), 1) := dk_2 (dk_at dksX0_plan_4 4 rfl rfl)
theorem dX0_plan_99 : decode cX0_plan 99 = .ok (.ireturn, 1) := dk_172 (dk_at dksX0_plan_4 5 rfl rfl)
theorem dX0_plan_100 : decode cX0_plan 100 = .ok (.iinc 5 1, 3) := dk_132 5 1 (dk_at dksX0_plan_4 6 rfl rfl)
theorem dX0_plan_103 : decode cX0_plan 103 = .ok (.goto (-58), 3) := dk_167 255 198 (dk_at dksX0_plan_4 9 rfl rfl)
theorem dX0_plan_106 : decode cX0_plan 106 = .ok (.iconst (-1), 1) := dk_2 (dk_at dksX0_plan_4 12 rfl rfl)
theorem dX0_plan_107 : decode cX0_plan 107 = .ok (.ireturn, 1) := dk_172 (dk_at dksX0_plan_4 13 rfl rfl)
abbrev cX0_plans : ByteArray := prog_1_method_34_code
def yX0_plans : MethodName := ⟨RX0, "plans", "(IIIII)Z"⟩
def dkwX0_plans_7 : List UInt8 := [3, 172]
abbrev dktX0_plans_7 : List UInt8 := dkwX0_plans_7 ++ []
def dkwX0_plans_6 : List UInt8 := [42, 27, 28, 29, 21, 4, 4, 96, 21, 5, 182, 1, 6, 153, 0, 5, 4, 172, 132, 6, 1, 167, 255, 149]
abbrev dktX0_plans_6 : List UInt8 := dkwX0_plans_6 ++ dktX0_plans_7
def dkwX0_plans_5 : List UInt8 := [180, 0, 80, 21, 4, 16, 8, 21, 6, 42, 182, 0, 172, 108, 104, 21, 6, 42, 182, 0, 172, 112, 96, 79]
abbrev dktX0_plans_5 : List UInt8 := dkwX0_plans_5 ++ dktX0_plans_6
def dkwX0_plans_4 : List UInt8 := [21, 4, 4, 96, 50, 21, 6, 42, 182, 0, 172, 108, 21, 6, 42, 182, 0, 172, 112, 182, 1, 4, 87, 42]
abbrev dktX0_plans_4 : List UInt8 := dkwX0_plans_4 ++ dktX0_plans_5
def dkwX0_plans_3 : List UInt8 := [180, 0, 76, 21, 4, 4, 96, 50, 42, 180, 0, 76, 21, 4, 50, 182, 0, 249, 87, 42, 180, 0, 76]
abbrev dktX0_plans_3 : List UInt8 := dkwX0_plans_3 ++ dktX0_plans_4
def dkwX0_plans_2 : List UInt8 := [167, 0, 4, 3, 172, 3, 54, 6, 21, 6, 42, 182, 0, 174, 42, 182, 0, 172, 104, 162, 0, 99, 42]
abbrev dktX0_plans_2 : List UInt8 := dkwX0_plans_2 ++ dktX0_plans_3
def dkwX0_plans_1 : List UInt8 := [180, 0, 76, 21, 4, 50, 180, 0, 198, 29, 46, 42, 180, 0, 69, 180, 0, 198, 29, 46, 160, 0, 7, 4]
abbrev dktX0_plans_1 : List UInt8 := dkwX0_plans_1 ++ dktX0_plans_2
def dkwX0_plans_0 : List UInt8 := [21, 4, 21, 5, 160, 0, 49, 42, 180, 0, 76, 21, 4, 50, 180, 0, 198, 27, 46, 28, 161, 0, 31, 42]
abbrev dktX0_plans_0 : List UInt8 := dkwX0_plans_0 ++ dktX0_plans_1
theorem dksX0_plans_0 : cX0_plans.data.toList.drop 0 = dktX0_plans_0 := by decide +kernel
theorem dksX0_plans_1 : cX0_plans.data.toList.drop 24 = dktX0_plans_1 := dk_seg dksX0_plans_0 24 rfl rfl
theorem dksX0_plans_2 : cX0_plans.data.toList.drop 48 = dktX0_plans_2 := dk_seg dksX0_plans_1 24 rfl rfl
theorem dksX0_plans_3 : cX0_plans.data.toList.drop 71 = dktX0_plans_3 := dk_seg dksX0_plans_2 23 rfl rfl
theorem dksX0_plans_4 : cX0_plans.data.toList.drop 94 = dktX0_plans_4 := dk_seg dksX0_plans_3 23 rfl rfl
theorem dksX0_plans_5 : cX0_plans.data.toList.drop 118 = dktX0_plans_5 := dk_seg dksX0_plans_4 24 rfl rfl
theorem dksX0_plans_6 : cX0_plans.data.toList.drop 142 = dktX0_plans_6 := dk_seg dksX0_plans_5 24 rfl rfl
theorem dksX0_plans_7 : cX0_plans.data.toList.drop 166 = dktX0_plans_7 := dk_seg dksX0_plans_6 24 rfl rfl
theorem dX0_plans_0 : decode cX0_plans 0 = .ok (.iload 4, 2) := dk_21 4 (dk_at dksX0_plans_0 0 rfl rfl)
theorem dX0_plans_2 : decode cX0_plans 2 = .ok (.iload 5, 2) := dk_21 5 (dk_at dksX0_plans_0 2 rfl rfl)
theorem dX0_plans_4 : decode cX0_plans 4 = .ok (.if_icmp .ne 49, 3) := dk_160 0 49 (dk_at dksX0_plans_0 4 rfl rfl)
theorem dX0_plans_7 : decode cX0_plans 7 = .ok (.aload_n 0, 1) := dk_42 (dk_at dksX0_plans_0 7 rfl rfl)
theorem dX0_plans_8 : decode cX0_plans 8 = .ok (.getfield 76, 3) := dk_180 0 76 (dk_at dksX0_plans_0 8 rfl rfl)
theorem dX0_plans_11 : decode cX0_plans 11 = .ok (.iload 4, 2) := dk_21 4 (dk_at dksX0_plans_0 11 rfl rfl)
theorem dX0_plans_13 : decode cX0_plans 13 = .ok (.aaload, 1) := dk_50 (dk_at dksX0_plans_0 13 rfl rfl)
theorem dX0_plans_14 : decode cX0_plans 14 = .ok (.getfield 198, 3) := dk_180 0 198 (dk_at dksX0_plans_0 14 rfl rfl)
theorem dX0_plans_17 : decode cX0_plans 17 = .ok (.iload_n 1, 1) := dk_27 (dk_at dksX0_plans_0 17 rfl rfl)
theorem dX0_plans_18 : decode cX0_plans 18 = .ok (.iaload, 1) := dk_46 (dk_at dksX0_plans_0 18 rfl rfl)
theorem dX0_plans_19 : decode cX0_plans 19 = .ok (.iload_n 2, 1) := dk_28 (dk_at dksX0_plans_0 19 rfl rfl)
theorem dX0_plans_20 : decode cX0_plans 20 = .ok (.if_icmp .lt 31, 3) := dk_161 0 31 (dk_at dksX0_plans_0 20 rfl rfl)
theorem dX0_plans_23 : decode cX0_plans 23 = .ok (.aload_n 0, 1) := dk_42 (dk_at dksX0_plans_0 23 rfl rfl)
theorem dX0_plans_24 : decode cX0_plans 24 = .ok (.getfield 76, 3) := dk_180 0 76 (dk_at dksX0_plans_1 0 rfl rfl)
theorem dX0_plans_27 : decode cX0_plans 27 = .ok (.iload 4, 2) := dk_21 4 (dk_at dksX0_plans_1 3 rfl rfl)
theorem dX0_plans_29 : decode cX0_plans 29 = .ok (.aaload, 1) := dk_50 (dk_at dksX0_plans_1 5 rfl rfl)
theorem dX0_plans_30 : decode cX0_plans 30 = .ok (.getfield 198, 3) := dk_180 0 198 (dk_at dksX0_plans_1 6 rfl rfl)
theorem dX0_plans_33 : decode cX0_plans 33 = .ok (.iload_n 3, 1) := dk_29 (dk_at dksX0_plans_1 9 rfl rfl)
theorem dX0_plans_34 : decode cX0_plans 34 = .ok (.iaload, 1) := dk_46 (dk_at dksX0_plans_1 10 rfl rfl)
theorem dX0_plans_35 : decode cX0_plans 35 = .ok (.aload_n 0, 1) := dk_42 (dk_at dksX0_plans_1 11 rfl rfl)
theorem dX0_plans_36 : decode cX0_plans 36 = .ok (.getfield 69, 3) := dk_180 0 69 (dk_at dksX0_plans_1 12 rfl rfl)
theorem dX0_plans_39 : decode cX0_plans 39 = .ok (.getfield 198, 3) := dk_180 0 198 (dk_at dksX0_plans_1 15 rfl rfl)
theorem dX0_plans_42 : decode cX0_plans 42 = .ok (.iload_n 3, 1) := dk_29 (dk_at dksX0_plans_1 18 rfl rfl)
theorem dX0_plans_43 : decode cX0_plans 43 = .ok (.iaload, 1) := dk_46 (dk_at dksX0_plans_1 19 rfl rfl)
theorem dX0_plans_44 : decode cX0_plans 44 = .ok (.if_icmp .ne 7, 3) := dk_160 0 7 (dk_at dksX0_plans_1 20 rfl rfl)
theorem dX0_plans_47 : decode cX0_plans 47 = .ok (.iconst 1, 1) := dk_4 (dk_at dksX0_plans_1 23 rfl rfl)
theorem dX0_plans_48 : decode cX0_plans 48 = .ok (.goto 4, 3) := dk_167 0 4 (dk_at dksX0_plans_2 0 rfl rfl)
theorem dX0_plans_51 : decode cX0_plans 51 = .ok (.iconst 0, 1) := dk_3 (dk_at dksX0_plans_2 3 rfl rfl)
theorem dX0_plans_52 : decode cX0_plans 52 = .ok (.ireturn, 1) := dk_172 (dk_at dksX0_plans_2 4 rfl rfl)
theorem dX0_plans_53 : decode cX0_plans 53 = .ok (.iconst 0, 1) := dk_3 (dk_at dksX0_plans_2 5 rfl rfl)
theorem dX0_plans_54 : decode cX0_plans 54 = .ok (.istore 6, 2) := dk_54 6 (dk_at dksX0_plans_2 6 rfl rfl)
theorem dX0_plans_56 : decode cX0_plans 56 = .ok (.iload 6, 2) := dk_21 6 (dk_at dksX0_plans_2 8 rfl rfl)
theorem dX0_plans_58 : decode cX0_plans 58 = .ok (.aload_n 0, 1) := dk_42 (dk_at dksX0_plans_2 10 rfl rfl)
theorem dX0_plans_59 : decode cX0_plans 59 = .ok (.invokevirtual 174, 3) := dk_182 0 174 (dk_at dksX0_plans_2 11 rfl rfl)
theorem dX0_plans_62 : decode cX0_plans 62 = .ok (.aload_n 0, 1) := dk_42 (dk_at dksX0_plans_2 14 rfl rfl)
theorem dX0_plans_63 : decode cX0_plans 63 = .ok (.invokevirtual 172, 3) := dk_182 0 172 (dk_at dksX0_plans_2 15 rfl rfl)
theorem dX0_plans_66 : decode cX0_plans 66 = .ok (.imul, 1) := dk_104 (dk_at dksX0_plans_2 18 rfl rfl)
theorem dX0_plans_67 : decode cX0_plans 67 = .ok (.if_icmp .ge 99, 3) := dk_162 0 99 (dk_at dksX0_plans_2 19 rfl rfl)
theorem dX0_plans_70 : decode cX0_plans 70 = .ok (.aload_n 0, 1) := dk_42 (dk_at dksX0_plans_2 22 rfl rfl)
theorem dX0_plans_71 : decode cX0_plans 71 = .ok (.getfield 76, 3) := dk_180 0 76 (dk_at dksX0_plans_3 0 rfl rfl)
theorem dX0_plans_74 : decode cX0_plans 74 = .ok (.iload 4, 2) := dk_21 4 (dk_at dksX0_plans_3 3 rfl rfl)
theorem dX0_plans_76 : decode cX0_plans 76 = .ok (.iconst 1, 1) := dk_4 (dk_at dksX0_plans_3 5 rfl rfl)
theorem dX0_plans_77 : decode cX0_plans 77 = .ok (.iadd, 1) := dk_96 (dk_at dksX0_plans_3 6 rfl rfl)
theorem dX0_plans_78 : decode cX0_plans 78 = .ok (.aaload, 1) := dk_50 (dk_at dksX0_plans_3 7 rfl rfl)
theorem dX0_plans_79 : decode cX0_plans 79 = .ok (.aload_n 0, 1) := dk_42 (dk_at dksX0_plans_3 8 rfl rfl)
theorem dX0_plans_80 : decode cX0_plans 80 = .ok (.getfield 76, 3) := dk_180 0 76 (dk_at dksX0_plans_3 9 rfl rfl)
theorem dX0_plans_83 : decode cX0_plans 83 = .ok (.iload 4, 2) := dk_21 4 (dk_at dksX0_plans_3 12 rfl rfl)
theorem dX0_plans_85 : decode cX0_plans 85 = .ok (.aaload, 1) := dk_50 (dk_at dksX0_plans_3 14 rfl rfl)
theorem dX0_plans_86 : decode cX0_plans 86 = .ok (.invokevirtual 249, 3) := dk_182 0 249 (dk_at dksX0_plans_3 15 rfl rfl)
theorem dX0_plans_89 : decode cX0_plans 89 = .ok (.pop, 1) := dk_87 (dk_at dksX0_plans_3 18 rfl rfl)
theorem dX0_plans_90 : decode cX0_plans 90 = .ok (.aload_n 0, 1) := dk_42 (dk_at dksX0_plans_3 19 rfl rfl)
theorem dX0_plans_91 : decode cX0_plans 91 = .ok (.getfield 76, 3) := dk_180 0 76 (dk_at dksX0_plans_3 20 rfl rfl)
theorem dX0_plans_94 : decode cX0_plans 94 = .ok (.iload 4, 2) := dk_21 4 (dk_at dksX0_plans_4 0 rfl rfl)
theorem dX0_plans_96 : decode cX0_plans 96 = .ok (.iconst 1, 1) := dk_4 (dk_at dksX0_plans_4 2 rfl rfl)
theorem dX0_plans_97 : decode cX0_plans 97 = .ok (.iadd, 1) := dk_96 (dk_at dksX0_plans_4 3 rfl rfl)
theorem dX0_plans_98 : decode cX0_plans 98 = .ok (.aaload, 1) := dk_50 (dk_at dksX0_plans_4 4 rfl rfl)
theorem dX0_plans_99 : decode cX0_plans 99 = .ok (.iload 6, 2) := dk_21 6 (dk_at dksX0_plans_4 5 rfl rfl)
theorem dX0_plans_101 : decode cX0_plans 101 = .ok (.aload_n 0, 1) := dk_42 (dk_at dksX0_plans_4 7 rfl rfl)
theorem dX0_plans_102 : decode cX0_plans 102 = .ok (.invokevirtual 172, 3) := dk_182 0 172 (dk_at dksX0_plans_4 8 rfl rfl)
theorem dX0_plans_105 : decode cX0_plans 105 = .ok (.idiv, 1) := dk_108 (dk_at dksX0_plans_4 11 rfl rfl)
theorem dX0_plans_106 : decode cX0_plans 106 = .ok (.iload 6, 2) := dk_21 6 (dk_at dksX0_plans_4 12 rfl rfl)
theorem dX0_plans_108 : decode cX0_plans 108 = .ok (.aload_n 0, 1) := dk_42 (dk_at dksX0_plans_4 14 rfl rfl)
theorem dX0_plans_109 : decode cX0_plans 109 = .ok (.invokevirtual 172, 3) := dk_182 0 172 (dk_at dksX0_plans_4 15 rfl rfl)
theorem dX0_plans_112 : decode cX0_plans 112 = .ok (.irem, 1) := dk_112 (dk_at dksX0_plans_4 18 rfl rfl)
theorem dX0_plans_113 : decode cX0_plans 113 = .ok (.invokevirtual 260, 3) := dk_182 1 4 (dk_at dksX0_plans_4 19 rfl rfl)
theorem dX0_plans_116 : decode cX0_plans 116 = .ok (.pop, 1) := dk_87 (dk_at dksX0_plans_4 22 rfl rfl)
theorem dX0_plans_117 : decode cX0_plans 117 = .ok (.aload_n 0, 1) := dk_42 (dk_at dksX0_plans_4 23 rfl rfl)
theorem dX0_plans_118 : decode cX0_plans 118 = .ok (.getfield 80, 3) := dk_180 0 80 (dk_at dksX0_plans_5 0 rfl rfl)
theorem dX0_plans_121 : decode cX0_plans 121 = .ok (.iload 4, 2) := dk_21 4 (dk_at dksX0_plans_5 3 rfl rfl)
theorem dX0_plans_123 : decode cX0_plans 123 = .ok (.bipush 8, 2) := dk_16 8 (dk_at dksX0_plans_5 5 rfl rfl)
theorem dX0_plans_125 : decode cX0_plans 125 = .ok (.iload 6, 2) := dk_21 6 (dk_at dksX0_plans_5 7 rfl rfl)
theorem dX0_plans_127 : decode cX0_plans 127 = .ok (.aload_n 0, 1) := dk_42 (dk_at dksX0_plans_5 9 rfl rfl)
theorem dX0_plans_128 : decode cX0_plans 128 = .ok (.invokevirtual 172, 3) := dk_182 0 172 (dk_at dksX0_plans_5 10 rfl rfl)
theorem dX0_plans_131 : decode cX0_plans 131 = .ok (.idiv, 1) := dk_108 (dk_at dksX0_plans_5 13 rfl rfl)
theorem dX0_plans_132 : decode cX0_plans 132 = .ok (.imul, 1) := dk_104 (dk_at dksX0_plans_5 14 rfl rfl)
theorem dX0_plans_133 : decode cX0_plans 133 = .ok (.iload 6, 2) := dk_21 6 (dk_at dksX0_plans_5 15 rfl rfl)
theorem dX0_plans_135 : decode cX0_plans 135 = .ok (.aload_n 0, 1) := dk_42 (dk_at dksX0_plans_5 17 rfl rfl)
theorem dX0_plans_136 : decode cX0_plans 136 = .ok (.invokevirtual 172, 3) := dk_182 0 172 (dk_at dksX0_plans_5 18 rfl rfl)
theorem dX0_plans_139 : decode cX0_plans 139 = .ok (.irem, 1) := dk_112 (dk_at dksX0_plans_5 21 rfl rfl)
theorem dX0_plans_140 : decode cX0_plans 140 = .ok (.iadd, 1) := dk_96 (dk_at dksX0_plans_5 22 rfl rfl)
theorem dX0_plans_141 : decode cX0_plans 141 = .ok (.iastore, 1) := dk_79 (dk_at dksX0_plans_5 23 rfl rfl)
theorem dX0_plans_142 : decode cX0_plans 142 = .ok (.aload_n 0, 1) := dk_42 (dk_at dksX0_plans_6 0 rfl rfl)
theorem dX0_plans_143 : decode cX0_plans 143 = .ok (.iload_n 1, 1) := dk_27 (dk_at dksX0_plans_6 1 rfl rfl)
theorem dX0_plans_144 : decode cX0_plans 144 = .ok (.iload_n 2, 1) := dk_28 (dk_at dksX0_plans_6 2 rfl rfl)
theorem dX0_plans_145 : decode cX0_plans 145 = .ok (.iload_n 3, 1) := dk_29 (dk_at dksX0_plans_6 3 rfl rfl)
theorem dX0_plans_146 : decode cX0_plans 146 = .ok (.iload 4, 2) := dk_21 4 (dk_at dksX0_plans_6 4 rfl rfl)
theorem dX0_plans_148 : decode cX0_plans 148 = .ok (.iconst 1, 1) := dk_4 (dk_at dksX0_plans_6 6 rfl rfl)
theorem dX0_plans_149 : decode cX0_plans 149 = .ok (.iadd, 1) := dk_96 (dk_at dksX0_plans_6 7 rfl rfl)
theorem dX0_plans_150 : decode cX0_plans 150 = .ok (.iload 5, 2) := dk_21 5 (dk_at dksX0_plans_6 8 rfl rfl)
theorem dX0_plans_152 : decode cX0_plans 152 = .ok (.invokevirtual 262, 3) := dk_182 1 6 (dk_at dksX0_plans_6 10 rfl rfl)
theorem dX0_plans_155 : decode cX0_plans 155 = .ok (.ifCond .eq 5, 3) := dk_153 0 5 (dk_at dksX0_plans_6 13 rfl rfl)
theorem dX0_plans_158 : decode cX0_plans 158 = .ok (.iconst 1, 1) := dk_4 (dk_at dksX0_plans_6 16 rfl rfl)
theorem dX0_plans_159 : decode cX0_plans 159 = .ok (.ireturn, 1) := dk_172 (dk_at dksX0_plans_6 17 rfl rfl)
theorem dX0_plans_160 : decode cX0_plans 160 = .ok (.iinc 6 1, 3) := dk_132 6 1 (dk_at dksX0_plans_6 18 rfl rfl)
theorem dX0_plans_163 : decode cX0_plans 163 = .ok (.goto (-107), 3) := dk_167 255 149 (dk_at dksX0_plans_6 21 rfl rfl)
theorem dX0_plans_166 : decode cX0_plans 166 = .ok (.iconst 0, 1) := dk_3 (dk_at dksX0_plans_7 0 rfl rfl)
theorem dX0_plans_167 : decode cX0_plans 167 = .ok (.ireturn, 1) := dk_172 (dk_at dksX0_plans_7 1 rfl rfl)
abbrev cX0_way : ByteArray := prog_1_method_38_code
def yX0_way : MethodName := ⟨RX0, "way", "(II)I"⟩
def dkwX0_way_1 : List UInt8 := [182, 1, 18, 167, 0, 4, 2, 172]
abbrev dktX0_way_1 : List UInt8 := dkwX0_way_1 ++ []
def dkwX0_way_0 : List UInt8 := [42, 27, 182, 0, 194, 153, 0, 24, 42, 28, 182, 0, 194, 153, 0, 16, 42, 42, 180, 0, 69, 27, 28]
abbrev dktX0_way_0 : List UInt8 := dkwX0_way_0 ++ dktX0_way_1
theorem dksX0_way_0 : cX0_way.data.toList.drop 0 = dktX0_way_0 := by decide +kernel
theorem dksX0_way_1 : cX0_way.data.toList.drop 23 = dktX0_way_1 := dk_seg dksX0_way_0 23 rfl rfl
theorem dX0_way_0 : decode cX0_way 0 = .ok (.aload_n 0, 1) := dk_42 (dk_at dksX0_way_0 0 rfl rfl)
theorem dX0_way_1 : decode cX0_way 1 = .ok (.iload_n 1, 1) := dk_27 (dk_at dksX0_way_0 1 rfl rfl)
theorem dX0_way_2 : decode cX0_way 2 = .ok (.invokevirtual 194, 3) := dk_182 0 194 (dk_at dksX0_way_0 2 rfl rfl)
theorem dX0_way_5 : decode cX0_way 5 = .ok (.ifCond .eq 24, 3) := dk_153 0 24 (dk_at dksX0_way_0 5 rfl rfl)
theorem dX0_way_8 : decode cX0_way 8 = .ok (.aload_n 0, 1) := dk_42 (dk_at dksX0_way_0 8 rfl rfl)
theorem dX0_way_9 : decode cX0_way 9 = .ok (.iload_n 2, 1) := dk_28 (dk_at dksX0_way_0 9 rfl rfl)
theorem dX0_way_10 : decode cX0_way 10 = .ok (.invokevirtual 194, 3) := dk_182 0 194 (dk_at dksX0_way_0 10 rfl rfl)
theorem dX0_way_13 : decode cX0_way 13 = .ok (.ifCond .eq 16, 3) := dk_153 0 16 (dk_at dksX0_way_0 13 rfl rfl)
theorem dX0_way_16 : decode cX0_way 16 = .ok (.aload_n 0, 1) := dk_42 (dk_at dksX0_way_0 16 rfl rfl)
theorem dX0_way_17 : decode cX0_way 17 = .ok (.aload_n 0, 1) := dk_42 (dk_at dksX0_way_0 17 rfl rfl)
theorem dX0_way_18 : decode cX0_way 18 = .ok (.getfield 69, 3) := dk_180 0 69 (dk_at dksX0_way_0 18 rfl rfl)
theorem dX0_way_21 : decode cX0_way 21 = .ok (.iload_n 1, 1) := dk_27 (dk_at dksX0_way_0 21 rfl rfl)
theorem dX0_way_22 : decode cX0_way 22 = .ok (.iload_n 2, 1) := dk_28 (dk_at dksX0_way_0 22 rfl rfl)
theorem dX0_way_23 : decode cX0_way 23 = .ok (.invokevirtual 274, 3) := dk_182 1 18 (dk_at dksX0_way_1 0 rfl rfl)
theorem dX0_way_26 : decode cX0_way 26 = .ok (.goto 4, 3) := dk_167 0 4 (dk_at dksX0_way_1 3 rfl rfl)
theorem dX0_way_29 : decode cX0_way 29 = .ok (.iconst (-1), 1) := dk_2 (dk_at dksX0_way_1 6 rfl rfl)
theorem dX0_way_30 : decode cX0_way 30 = .ok (.ireturn, 1) := dk_172 (dk_at dksX0_way_1 7 rfl rfl)
abbrev cX0_wayOver : ByteArray := prog_1_method_37_code
def yX0_wayOver : MethodName := ⟨RX0, "wayOver", "(LShrugHills$State;II)I"⟩
def dkwX0_wayOver_6 : List UInt8 := [180, 0, 83, 29, 46, 172]
abbrev dktX0_wayOver_6 : List UInt8 := dkwX0_wayOver_6 ++ []
def dkwX0_wayOver_5 : List UInt8 := [167, 0, 4, 3, 54, 4, 132, 6, 1, 167, 255, 190, 132, 5, 1, 167, 255, 174, 167, 255, 160, 42]
abbrev dktX0_wayOver_5 : List UInt8 := dkwX0_wayOver_5 ++ dktX0_wayOver_6
def dkwX0_wayOver_4 : List UInt8 := [184, 1, 11, 153, 0, 15, 42, 43, 21, 5, 21, 6, 182, 1, 14, 154, 0, 8, 21, 4, 153, 0, 7, 4]
abbrev dktX0_wayOver_4 : List UInt8 := dkwX0_wayOver_4 ++ dktX0_wayOver_5
def dkwX0_wayOver_3 : List UInt8 := [21, 5, 46, 19, 1, 10, 162, 0, 52, 42, 21, 6, 182, 0, 194, 153, 0, 25, 21, 5, 21, 6]
abbrev dktX0_wayOver_3 : List UInt8 := dkwX0_wayOver_3 ++ dktX0_wayOver_4
def dkwX0_wayOver_2 : List UInt8 := [3, 54, 5, 21, 5, 16, 64, 162, 0, 81, 3, 54, 6, 21, 6, 16, 64, 162, 0, 65, 42, 180, 0, 83]
abbrev dktX0_wayOver_2 : List UInt8 := dkwX0_wayOver_2 ++ dktX0_wayOver_3
def dkwX0_wayOver_1 : List UInt8 := [167, 0, 6, 19, 1, 10, 79, 132, 4, 1, 167, 255, 226, 4, 54, 4, 21, 4, 153, 0, 97, 3, 54, 4]
abbrev dktX0_wayOver_1 : List UInt8 := dkwX0_wayOver_1 ++ dktX0_wayOver_2
def dkwX0_wayOver_0 : List UInt8 := [3, 54, 4, 21, 4, 16, 64, 162, 0, 29, 42, 180, 0, 83, 21, 4, 21, 4, 28, 160, 0, 7, 3]
abbrev dktX0_wayOver_0 : List UInt8 := dkwX0_wayOver_0 ++ dktX0_wayOver_1
theorem dksX0_wayOver_0 : cX0_wayOver.data.toList.drop 0 = dktX0_wayOver_0 := by decide +kernel
theorem dksX0_wayOver_1 : cX0_wayOver.data.toList.drop 23 = dktX0_wayOver_1 := dk_seg dksX0_wayOver_0 23 rfl rfl
theorem dksX0_wayOver_2 : cX0_wayOver.data.toList.drop 47 = dktX0_wayOver_2 := dk_seg dksX0_wayOver_1 24 rfl rfl
theorem dksX0_wayOver_3 : cX0_wayOver.data.toList.drop 71 = dktX0_wayOver_3 := dk_seg dksX0_wayOver_2 24 rfl rfl
theorem dksX0_wayOver_4 : cX0_wayOver.data.toList.drop 93 = dktX0_wayOver_4 := dk_seg dksX0_wayOver_3 22 rfl rfl
theorem dksX0_wayOver_5 : cX0_wayOver.data.toList.drop 117 = dktX0_wayOver_5 := dk_seg dksX0_wayOver_4 24 rfl rfl
theorem dksX0_wayOver_6 : cX0_wayOver.data.toList.drop 139 = dktX0_wayOver_6 := dk_seg dksX0_wayOver_5 22 rfl rfl
theorem dX0_wayOver_0 : decode cX0_wayOver 0 = .ok (.iconst 0, 1) := dk_3 (dk_at dksX0_wayOver_0 0 rfl rfl)
theorem dX0_wayOver_1 : decode cX0_wayOver 1 = .ok (.istore 4, 2) := dk_54 4 (dk_at dksX0_wayOver_0 1 rfl rfl)
theorem dX0_wayOver_3 : decode cX0_wayOver 3 = .ok (.iload 4, 2) := dk_21 4 (dk_at dksX0_wayOver_0 3 rfl rfl)
theorem dX0_wayOver_5 : decode cX0_wayOver 5 = .ok (.bipush 64, 2) := dk_16 64 (dk_at dksX0_wayOver_0 5 rfl rfl)
theorem dX0_wayOver_7 : decode cX0_wayOver 7 = .ok (.if_icmp .ge 29, 3) := dk_162 0 29 (dk_at dksX0_wayOver_0 7 rfl rfl)
theorem dX0_wayOver_10 : decode cX0_wayOver 10 = .ok (.aload_n 0, 1) := dk_42 (dk_at dksX0_wayOver_0 10 rfl rfl)
theorem dX0_wayOver_11 : decode cX0_wayOver 11 = .ok (.getfield 83, 3) := dk_180 0 83 (dk_at dksX0_wayOver_0 11 rfl rfl)
theorem dX0_wayOver_14 : decode cX0_wayOver 14 = .ok (.iload 4, 2) := dk_21 4 (dk_at dksX0_wayOver_0 14 rfl rfl)
theorem dX0_wayOver_16 : decode cX0_wayOver 16 = .ok (.iload 4, 2) := dk_21 4 (dk_at dksX0_wayOver_0 16 rfl rfl)
theorem dX0_wayOver_18 : decode cX0_wayOver 18 = .ok (.iload_n 2, 1) := dk_28 (dk_at dksX0_wayOver_0 18 rfl rfl)
theorem dX0_wayOver_19 : decode cX0_wayOver 19 = .ok (.if_icmp .ne 7, 3) := dk_160 0 7 (dk_at dksX0_wayOver_0 19 rfl rfl)
theorem dX0_wayOver_22 : decode cX0_wayOver 22 = .ok (.iconst 0, 1) := dk_3 (dk_at dksX0_wayOver_0 22 rfl rfl)
theorem dX0_wayOver_23 : decode cX0_wayOver 23 = .ok (.goto 6, 3) := dk_167 0 6 (dk_at dksX0_wayOver_1 0 rfl rfl)
theorem dX0_wayOver_26 : decode cX0_wayOver 26 = .ok (.ldc_w 266, 3) := dk_19 1 10 (dk_at dksX0_wayOver_1 3 rfl rfl)
theorem dX0_wayOver_29 : decode cX0_wayOver 29 = .ok (.iastore, 1) := dk_79 (dk_at dksX0_wayOver_1 6 rfl rfl)
theorem dX0_wayOver_30 : decode cX0_wayOver 30 = .ok (.iinc 4 1, 3) := dk_132 4 1 (dk_at dksX0_wayOver_1 7 rfl rfl)
theorem dX0_wayOver_33 : decode cX0_wayOver 33 = .ok (.goto (-30), 3) := dk_167 255 226 (dk_at dksX0_wayOver_1 10 rfl rfl)
theorem dX0_wayOver_36 : decode cX0_wayOver 36 = .ok (.iconst 1, 1) := dk_4 (dk_at dksX0_wayOver_1 13 rfl rfl)
theorem dX0_wayOver_37 : decode cX0_wayOver 37 = .ok (.istore 4, 2) := dk_54 4 (dk_at dksX0_wayOver_1 14 rfl rfl)
theorem dX0_wayOver_39 : decode cX0_wayOver 39 = .ok (.iload 4, 2) := dk_21 4 (dk_at dksX0_wayOver_1 16 rfl rfl)
theorem dX0_wayOver_41 : decode cX0_wayOver 41 = .ok (.ifCond .eq 97, 3) := dk_153 0 97 (dk_at dksX0_wayOver_1 18 rfl rfl)
theorem dX0_wayOver_44 : decode cX0_wayOver 44 = .ok (.iconst 0, 1) := dk_3 (dk_at dksX0_wayOver_1 21 rfl rfl)
theorem dX0_wayOver_45 : decode cX0_wayOver 45 = .ok (.istore 4, 2) := dk_54 4 (dk_at dksX0_wayOver_1 22 rfl rfl)
theorem dX0_wayOver_47 : decode cX0_wayOver 47 = .ok (.iconst 0, 1) := dk_3 (dk_at dksX0_wayOver_2 0 rfl rfl)
theorem dX0_wayOver_48 : decode cX0_wayOver 48 = .ok (.istore 5, 2) := dk_54 5 (dk_at dksX0_wayOver_2 1 rfl rfl)
theorem dX0_wayOver_50 : decode cX0_wayOver 50 = .ok (.iload 5, 2) := dk_21 5 (dk_at dksX0_wayOver_2 3 rfl rfl)
theorem dX0_wayOver_52 : decode cX0_wayOver 52 = .ok (.bipush 64, 2) := dk_16 64 (dk_at dksX0_wayOver_2 5 rfl rfl)
theorem dX0_wayOver_54 : decode cX0_wayOver 54 = .ok (.if_icmp .ge 81, 3) := dk_162 0 81 (dk_at dksX0_wayOver_2 7 rfl rfl)
theorem dX0_wayOver_57 : decode cX0_wayOver 57 = .ok (.iconst 0, 1) := dk_3 (dk_at dksX0_wayOver_2 10 rfl rfl)
theorem dX0_wayOver_58 : decode cX0_wayOver 58 = .ok (.istore 6, 2) := dk_54 6 (dk_at dksX0_wayOver_2 11 rfl rfl)
theorem dX0_wayOver_60 : decode cX0_wayOver 60 = .ok (.iload 6, 2) := dk_21 6 (dk_at dksX0_wayOver_2 13 rfl rfl)
theorem dX0_wayOver_62 : decode cX0_wayOver 62 = .ok (.bipush 64, 2) := dk_16 64 (dk_at dksX0_wayOver_2 15 rfl rfl)
theorem dX0_wayOver_64 : decode cX0_wayOver 64 = .ok (.if_icmp .ge 65, 3) := dk_162 0 65 (dk_at dksX0_wayOver_2 17 rfl rfl)
theorem dX0_wayOver_67 : decode cX0_wayOver 67 = .ok (.aload_n 0, 1) := dk_42 (dk_at dksX0_wayOver_2 20 rfl rfl)
theorem dX0_wayOver_68 : decode cX0_wayOver 68 = .ok (.getfield 83, 3) := dk_180 0 83 (dk_at dksX0_wayOver_2 21 rfl rfl)
theorem dX0_wayOver_71 : decode cX0_wayOver 71 = .ok (.iload 5, 2) := dk_21 5 (dk_at dksX0_wayOver_3 0 rfl rfl)
theorem dX0_wayOver_73 : decode cX0_wayOver 73 = .ok (.iaload, 1) := dk_46 (dk_at dksX0_wayOver_3 2 rfl rfl)
theorem dX0_wayOver_74 : decode cX0_wayOver 74 = .ok (.ldc_w 266, 3) := dk_19 1 10 (dk_at dksX0_wayOver_3 3 rfl rfl)
theorem dX0_wayOver_77 : decode cX0_wayOver 77 = .ok (.if_icmp .ge 52, 3) := dk_162 0 52 (dk_at dksX0_wayOver_3 6 rfl rfl)
theorem dX0_wayOver_80 : decode cX0_wayOver 80 = .ok (.aload_n 0, 1) := dk_42 (dk_at dksX0_wayOver_3 9 rfl rfl)
theorem dX0_wayOver_81 : decode cX0_wayOver 81 = .ok (.iload 6, 2) := dk_21 6 (dk_at dksX0_wayOver_3 10 rfl rfl)
theorem dX0_wayOver_83 : decode cX0_wayOver 83 = .ok (.invokevirtual 194, 3) := dk_182 0 194 (dk_at dksX0_wayOver_3 12 rfl rfl)
theorem dX0_wayOver_86 : decode cX0_wayOver 86 = .ok (.ifCond .eq 25, 3) := dk_153 0 25 (dk_at dksX0_wayOver_3 15 rfl rfl)
theorem dX0_wayOver_89 : decode cX0_wayOver 89 = .ok (.iload 5, 2) := dk_21 5 (dk_at dksX0_wayOver_3 18 rfl rfl)
theorem dX0_wayOver_91 : decode cX0_wayOver 91 = .ok (.iload 6, 2) := dk_21 6 (dk_at dksX0_wayOver_3 20 rfl rfl)
theorem dX0_wayOver_93 : decode cX0_wayOver 93 = .ok (.invokestatic 267, 3) := dk_184 1 11 (dk_at dksX0_wayOver_4 0 rfl rfl)
theorem dX0_wayOver_96 : decode cX0_wayOver 96 = .ok (.ifCond .eq 15, 3) := dk_153 0 15 (dk_at dksX0_wayOver_4 3 rfl rfl)
theorem dX0_wayOver_99 : decode cX0_wayOver 99 = .ok (.aload_n 0, 1) := dk_42 (dk_at dksX0_wayOver_4 6 rfl rfl)
theorem dX0_wayOver_100 : decode cX0_wayOver 100 = .ok (.aload_n 1, 1) := dk_43 (dk_at dksX0_wayOver_4 7 rfl rfl)
theorem dX0_wayOver_101 : decode cX0_wayOver 101 = .ok (.iload 5, 2) := dk_21 5 (dk_at dksX0_wayOver_4 8 rfl rfl)
theorem dX0_wayOver_103 : decode cX0_wayOver 103 = .ok (.iload 6, 2) := dk_21 6 (dk_at dksX0_wayOver_4 10 rfl rfl)
theorem dX0_wayOver_105 : decode cX0_wayOver 105 = .ok (.invokevirtual 270, 3) := dk_182 1 14 (dk_at dksX0_wayOver_4 12 rfl rfl)
theorem dX0_wayOver_108 : decode cX0_wayOver 108 = .ok (.ifCond .ne 8, 3) := dk_154 0 8 (dk_at dksX0_wayOver_4 15 rfl rfl)
theorem dX0_wayOver_111 : decode cX0_wayOver 111 = .ok (.iload 4, 2) := dk_21 4 (dk_at dksX0_wayOver_4 18 rfl rfl)
theorem dX0_wayOver_113 : decode cX0_wayOver 113 = .ok (.ifCond .eq 7, 3) := dk_153 0 7 (dk_at dksX0_wayOver_4 20 rfl rfl)
theorem dX0_wayOver_116 : decode cX0_wayOver 116 = .ok (.iconst 1, 1) := dk_4 (dk_at dksX0_wayOver_4 23 rfl rfl)
theorem dX0_wayOver_117 : decode cX0_wayOver 117 = .ok (.goto 4, 3) := dk_167 0 4 (dk_at dksX0_wayOver_5 0 rfl rfl)
theorem dX0_wayOver_120 : decode cX0_wayOver 120 = .ok (.iconst 0, 1) := dk_3 (dk_at dksX0_wayOver_5 3 rfl rfl)
theorem dX0_wayOver_121 : decode cX0_wayOver 121 = .ok (.istore 4, 2) := dk_54 4 (dk_at dksX0_wayOver_5 4 rfl rfl)
theorem dX0_wayOver_123 : decode cX0_wayOver 123 = .ok (.iinc 6 1, 3) := dk_132 6 1 (dk_at dksX0_wayOver_5 6 rfl rfl)
theorem dX0_wayOver_126 : decode cX0_wayOver 126 = .ok (.goto (-66), 3) := dk_167 255 190 (dk_at dksX0_wayOver_5 9 rfl rfl)
theorem dX0_wayOver_129 : decode cX0_wayOver 129 = .ok (.iinc 5 1, 3) := dk_132 5 1 (dk_at dksX0_wayOver_5 12 rfl rfl)
theorem dX0_wayOver_132 : decode cX0_wayOver 132 = .ok (.goto (-82), 3) := dk_167 255 174 (dk_at dksX0_wayOver_5 15 rfl rfl)
theorem dX0_wayOver_135 : decode cX0_wayOver 135 = .ok (.goto (-96), 3) := dk_167 255 160 (dk_at dksX0_wayOver_5 18 rfl rfl)
theorem dX0_wayOver_138 : decode cX0_wayOver 138 = .ok (.aload_n 0, 1) := dk_42 (dk_at dksX0_wayOver_5 21 rfl rfl)
theorem dX0_wayOver_139 : decode cX0_wayOver 139 = .ok (.getfield 83, 3) := dk_180 0 83 (dk_at dksX0_wayOver_6 0 rfl rfl)
theorem dX0_wayOver_142 : decode cX0_wayOver 142 = .ok (.iload_n 3, 1) := dk_29 (dk_at dksX0_wayOver_6 3 rfl rfl)
theorem dX0_wayOver_143 : decode cX0_wayOver 143 = .ok (.iaload, 1) := dk_46 (dk_at dksX0_wayOver_6 4 rfl rfl)
theorem dX0_wayOver_144 : decode cX0_wayOver 144 = .ok (.ireturn, 1) := dk_172 (dk_at dksX0_wayOver_6 5 rfl rfl)
abbrev cX0_areNext : ByteArray := prog_1_method_22_code
def yX0_areNext : MethodName := ⟨RX0, "areNext", "(II)Z"⟩
def dkwX0_areNext_1 : List UInt8 := [96, 4, 160, 0, 7, 4, 167, 0, 4, 3, 172]
abbrev dktX0_areNext_1 : List UInt8 := dkwX0_areNext_1 ++ []
def dkwX0_areNext_0 : List UInt8 := [26, 16, 8, 112, 27, 16, 8, 112, 100, 184, 0, 185, 26, 16, 8, 108, 27, 16, 8, 108, 100, 184, 0, 185]
abbrev dktX0_areNext_0 : List UInt8 := dkwX0_areNext_0 ++ dktX0_areNext_1
theorem dksX0_areNext_0 : cX0_areNext.data.toList.drop 0 = dktX0_areNext_0 := by decide +kernel
theorem dksX0_areNext_1 : cX0_areNext.data.toList.drop 24 = dktX0_areNext_1 := dk_seg dksX0_areNext_0 24 rfl rfl
theorem dX0_areNext_0 : decode cX0_areNext 0 = .ok (.iload_n 0, 1) := dk_26 (dk_at dksX0_areNext_0 0 rfl rfl)
theorem dX0_areNext_1 : decode cX0_areNext 1 = .ok (.bipush 8, 2) := dk_16 8 (dk_at dksX0_areNext_0 1 rfl rfl)
theorem dX0_areNext_3 : decode cX0_areNext 3 = .ok (.irem, 1) := dk_112 (dk_at dksX0_areNext_0 3 rfl rfl)
theorem dX0_areNext_4 : decode cX0_areNext 4 = .ok (.iload_n 1, 1) := dk_27 (dk_at dksX0_areNext_0 4 rfl rfl)
theorem dX0_areNext_5 : decode cX0_areNext 5 = .ok (.bipush 8, 2) := dk_16 8 (dk_at dksX0_areNext_0 5 rfl rfl)
theorem dX0_areNext_7 : decode cX0_areNext 7 = .ok (.irem, 1) := dk_112 (dk_at dksX0_areNext_0 7 rfl rfl)
theorem dX0_areNext_8 : decode cX0_areNext 8 = .ok (.isub, 1) := dk_100 (dk_at dksX0_areNext_0 8 rfl rfl)
theorem dX0_areNext_9 : decode cX0_areNext 9 = .ok (.invokestatic 185, 3) := dk_184 0 185 (dk_at dksX0_areNext_0 9 rfl rfl)
theorem dX0_areNext_12 : decode cX0_areNext 12 = .ok (.iload_n 0, 1) := dk_26 (dk_at dksX0_areNext_0 12 rfl rfl)
theorem dX0_areNext_13 : decode cX0_areNext 13 = .ok (.bipush 8, 2) := dk_16 8 (dk_at dksX0_areNext_0 13 rfl rfl)
theorem dX0_areNext_15 : decode cX0_areNext 15 = .ok (.idiv, 1) := dk_108 (dk_at dksX0_areNext_0 15 rfl rfl)
theorem dX0_areNext_16 : decode cX0_areNext 16 = .ok (.iload_n 1, 1) := dk_27 (dk_at dksX0_areNext_0 16 rfl rfl)
theorem dX0_areNext_17 : decode cX0_areNext 17 = .ok (.bipush 8, 2) := dk_16 8 (dk_at dksX0_areNext_0 17 rfl rfl)
theorem dX0_areNext_19 : decode cX0_areNext 19 = .ok (.idiv, 1) := dk_108 (dk_at dksX0_areNext_0 19 rfl rfl)
theorem dX0_areNext_20 : decode cX0_areNext 20 = .ok (.isub, 1) := dk_100 (dk_at dksX0_areNext_0 20 rfl rfl)
theorem dX0_areNext_21 : decode cX0_areNext 21 = .ok (.invokestatic 185, 3) := dk_184 0 185 (dk_at dksX0_areNext_0 21 rfl rfl)
theorem dX0_areNext_24 : decode cX0_areNext 24 = .ok (.iadd, 1) := dk_96 (dk_at dksX0_areNext_1 0 rfl rfl)
theorem dX0_areNext_25 : decode cX0_areNext 25 = .ok (.iconst 1, 1) := dk_4 (dk_at dksX0_areNext_1 1 rfl rfl)
theorem dX0_areNext_26 : decode cX0_areNext 26 = .ok (.if_icmp .ne 7, 3) := dk_160 0 7 (dk_at dksX0_areNext_1 2 rfl rfl)
theorem dX0_areNext_29 : decode cX0_areNext 29 = .ok (.iconst 1, 1) := dk_4 (dk_at dksX0_areNext_1 5 rfl rfl)
theorem dX0_areNext_30 : decode cX0_areNext 30 = .ok (.goto 4, 3) := dk_167 0 4 (dk_at dksX0_areNext_1 6 rfl rfl)
theorem dX0_areNext_33 : decode cX0_areNext 33 = .ok (.iconst 0, 1) := dk_3 (dk_at dksX0_areNext_1 9 rfl rfl)
theorem dX0_areNext_34 : decode cX0_areNext 34 = .ok (.ireturn, 1) := dk_172 (dk_at dksX0_areNext_1 10 rfl rfl)
abbrev cX0_isNearer : ByteArray := prog_1_method_36_code
def yX0_isNearer : MethodName := ⟨RX0, "isNearer", "(LShrugHills$State;II)Z"⟩
def dkwX0_isNearer_2 : List UInt8 := [153, 0, 11, 42, 180, 0, 83, 29, 21, 4, 79, 21, 5, 172]
abbrev dktX0_isNearer_2 : List UInt8 := dkwX0_isNearer_2 ++ []
def dkwX0_isNearer_1 : List UInt8 := [96, 54, 4, 21, 4, 42, 180, 0, 83, 29, 46, 162, 0, 7, 4, 167, 0, 4, 3, 54, 5, 21, 5]
abbrev dktX0_isNearer_1 : List UInt8 := dkwX0_isNearer_1 ++ dktX0_isNearer_2
def dkwX0_isNearer_0 : List UInt8 := [42, 180, 0, 83, 28, 46, 4, 96, 43, 180, 0, 198, 28, 46, 43, 180, 0, 198, 29, 46, 100, 184, 0, 185]
abbrev dktX0_isNearer_0 : List UInt8 := dkwX0_isNearer_0 ++ dktX0_isNearer_1
theorem dksX0_isNearer_0 : cX0_isNearer.data.toList.drop 0 = dktX0_isNearer_0 := by decide +kernel
theorem dksX0_isNearer_1 : cX0_isNearer.data.toList.drop 24 = dktX0_isNearer_1 := dk_seg dksX0_isNearer_0 24 rfl rfl
theorem dksX0_isNearer_2 : cX0_isNearer.data.toList.drop 47 = dktX0_isNearer_2 := dk_seg dksX0_isNearer_1 23 rfl rfl
theorem dX0_isNearer_0 : decode cX0_isNearer 0 = .ok (.aload_n 0, 1) := dk_42 (dk_at dksX0_isNearer_0 0 rfl rfl)
theorem dX0_isNearer_1 : decode cX0_isNearer 1 = .ok (.getfield 83, 3) := dk_180 0 83 (dk_at dksX0_isNearer_0 1 rfl rfl)
theorem dX0_isNearer_4 : decode cX0_isNearer 4 = .ok (.iload_n 2, 1) := dk_28 (dk_at dksX0_isNearer_0 4 rfl rfl)
theorem dX0_isNearer_5 : decode cX0_isNearer 5 = .ok (.iaload, 1) := dk_46 (dk_at dksX0_isNearer_0 5 rfl rfl)
theorem dX0_isNearer_6 : decode cX0_isNearer 6 = .ok (.iconst 1, 1) := dk_4 (dk_at dksX0_isNearer_0 6 rfl rfl)
theorem dX0_isNearer_7 : decode cX0_isNearer 7 = .ok (.iadd, 1) := dk_96 (dk_at dksX0_isNearer_0 7 rfl rfl)
theorem dX0_isNearer_8 : decode cX0_isNearer 8 = .ok (.aload_n 1, 1) := dk_43 (dk_at dksX0_isNearer_0 8 rfl rfl)
theorem dX0_isNearer_9 : decode cX0_isNearer 9 = .ok (.getfield 198, 3) := dk_180 0 198 (dk_at dksX0_isNearer_0 9 rfl rfl)
theorem dX0_isNearer_12 : decode cX0_isNearer 12 = .ok (.iload_n 2, 1) := dk_28 (dk_at dksX0_isNearer_0 12 rfl rfl)
theorem dX0_isNearer_13 : decode cX0_isNearer 13 = .ok (.iaload, 1) := dk_46 (dk_at dksX0_isNearer_0 13 rfl rfl)
theorem dX0_isNearer_14 : decode cX0_isNearer 14 = .ok (.aload_n 1, 1) := dk_43 (dk_at dksX0_isNearer_0 14 rfl rfl)
theorem dX0_isNearer_15 : decode cX0_isNearer 15 = .ok (.getfield 198, 3) := dk_180 0 198 (dk_at dksX0_isNearer_0 15 rfl rfl)
theorem dX0_isNearer_18 : decode cX0_isNearer 18 = .ok (.iload_n 3, 1) := dk_29 (dk_at dksX0_isNearer_0 18 rfl rfl)
theorem dX0_isNearer_19 : decode cX0_isNearer 19 = .ok (.iaload, 1) := dk_46 (dk_at dksX0_isNearer_0 19 rfl rfl)
theorem dX0_isNearer_20 : decode cX0_isNearer 20 = .ok (.isub, 1) := dk_100 (dk_at dksX0_isNearer_0 20 rfl rfl)
theorem dX0_isNearer_21 : decode cX0_isNearer 21 = .ok (.invokestatic 185, 3) := dk_184 0 185 (dk_at dksX0_isNearer_0 21 rfl rfl)
theorem dX0_isNearer_24 : decode cX0_isNearer 24 = .ok (.iadd, 1) := dk_96 (dk_at dksX0_isNearer_1 0 rfl rfl)
theorem dX0_isNearer_25 : decode cX0_isNearer 25 = .ok (.istore 4, 2) := dk_54 4 (dk_at dksX0_isNearer_1 1 rfl rfl)
theorem dX0_isNearer_27 : decode cX0_isNearer 27 = .ok (.iload 4, 2) := dk_21 4 (dk_at dksX0_isNearer_1 3 rfl rfl)
theorem dX0_isNearer_29 : decode cX0_isNearer 29 = .ok (.aload_n 0, 1) := dk_42 (dk_at dksX0_isNearer_1 5 rfl rfl)
theorem dX0_isNearer_30 : decode cX0_isNearer 30 = .ok (.getfield 83, 3) := dk_180 0 83 (dk_at dksX0_isNearer_1 6 rfl rfl)
theorem dX0_isNearer_33 : decode cX0_isNearer 33 = .ok (.iload_n 3, 1) := dk_29 (dk_at dksX0_isNearer_1 9 rfl rfl)
theorem dX0_isNearer_34 : decode cX0_isNearer 34 = .ok (.iaload, 1) := dk_46 (dk_at dksX0_isNearer_1 10 rfl rfl)
theorem dX0_isNearer_35 : decode cX0_isNearer 35 = .ok (.if_icmp .ge 7, 3) := dk_162 0 7 (dk_at dksX0_isNearer_1 11 rfl rfl)
theorem dX0_isNearer_38 : decode cX0_isNearer 38 = .ok (.iconst 1, 1) := dk_4 (dk_at dksX0_isNearer_1 14 rfl rfl)
theorem dX0_isNearer_39 : decode cX0_isNearer 39 = .ok (.goto 4, 3) := dk_167 0 4 (dk_at dksX0_isNearer_1 15 rfl rfl)
theorem dX0_isNearer_42 : decode cX0_isNearer 42 = .ok (.iconst 0, 1) := dk_3 (dk_at dksX0_isNearer_1 18 rfl rfl)
theorem dX0_isNearer_43 : decode cX0_isNearer 43 = .ok (.istore 5, 2) := dk_54 5 (dk_at dksX0_isNearer_1 19 rfl rfl)
theorem dX0_isNearer_45 : decode cX0_isNearer 45 = .ok (.iload 5, 2) := dk_21 5 (dk_at dksX0_isNearer_1 21 rfl rfl)
theorem dX0_isNearer_47 : decode cX0_isNearer 47 = .ok (.ifCond .eq 11, 3) := dk_153 0 11 (dk_at dksX0_isNearer_2 0 rfl rfl)
theorem dX0_isNearer_50 : decode cX0_isNearer 50 = .ok (.aload_n 0, 1) := dk_42 (dk_at dksX0_isNearer_2 3 rfl rfl)
theorem dX0_isNearer_51 : decode cX0_isNearer 51 = .ok (.getfield 83, 3) := dk_180 0 83 (dk_at dksX0_isNearer_2 4 rfl rfl)
theorem dX0_isNearer_54 : decode cX0_isNearer 54 = .ok (.iload_n 3, 1) := dk_29 (dk_at dksX0_isNearer_2 7 rfl rfl)
theorem dX0_isNearer_55 : decode cX0_isNearer 55 = .ok (.iload 4, 2) := dk_21 4 (dk_at dksX0_isNearer_2 8 rfl rfl)
theorem dX0_isNearer_57 : decode cX0_isNearer 57 = .ok (.iastore, 1) := dk_79 (dk_at dksX0_isNearer_2 10 rfl rfl)
theorem dX0_isNearer_58 : decode cX0_isNearer 58 = .ok (.iload 5, 2) := dk_21 5 (dk_at dksX0_isNearer_2 11 rfl rfl)
theorem dX0_isNearer_60 : decode cX0_isNearer 60 = .ok (.ireturn, 1) := dk_172 (dk_at dksX0_isNearer_2 13 rfl rfl)
abbrev cX0_pond : ByteArray := prog_1_method_40_code
def yX0_pond : MethodName := ⟨RX0, "pond", "(II)I"⟩
def dkwX0_pond_1 : List UInt8 := [54, 4, 21, 4, 29, 159, 0, 16, 21, 4, 62, 42, 29, 182, 1, 22, 54, 4, 167, 255, 240, 29, 172]
abbrev dktX0_pond_1 : List UInt8 := dkwX0_pond_1 ++ []
def dkwX0_pond_0 : List UInt8 := [42, 27, 28, 182, 0, 181, 154, 0, 5, 2, 172, 16, 8, 28, 104, 27, 96, 62, 42, 29, 182, 1, 22]
abbrev dktX0_pond_0 : List UInt8 := dkwX0_pond_0 ++ dktX0_pond_1
theorem dksX0_pond_0 : cX0_pond.data.toList.drop 0 = dktX0_pond_0 := by decide +kernel
theorem dksX0_pond_1 : cX0_pond.data.toList.drop 23 = dktX0_pond_1 := dk_seg dksX0_pond_0 23 rfl rfl
theorem dX0_pond_0 : decode cX0_pond 0 = .ok (.aload_n 0, 1) := dk_42 (dk_at dksX0_pond_0 0 rfl rfl)
theorem dX0_pond_1 : decode cX0_pond 1 = .ok (.iload_n 1, 1) := dk_27 (dk_at dksX0_pond_0 1 rfl rfl)
theorem dX0_pond_2 : decode cX0_pond 2 = .ok (.iload_n 2, 1) := dk_28 (dk_at dksX0_pond_0 2 rfl rfl)
theorem dX0_pond_3 : decode cX0_pond 3 = .ok (.invokevirtual 181, 3) := dk_182 0 181 (dk_at dksX0_pond_0 3 rfl rfl)
theorem dX0_pond_6 : decode cX0_pond 6 = .ok (.ifCond .ne 5, 3) := dk_154 0 5 (dk_at dksX0_pond_0 6 rfl rfl)
theorem dX0_pond_9 : decode cX0_pond 9 = .ok (.iconst (-1), 1) := dk_2 (dk_at dksX0_pond_0 9 rfl rfl)
theorem dX0_pond_10 : decode cX0_pond 10 = .ok (.ireturn, 1) := dk_172 (dk_at dksX0_pond_0 10 rfl rfl)
theorem dX0_pond_11 : decode cX0_pond 11 = .ok (.bipush 8, 2) := dk_16 8 (dk_at dksX0_pond_0 11 rfl rfl)
theorem dX0_pond_13 : decode cX0_pond 13 = .ok (.iload_n 2, 1) := dk_28 (dk_at dksX0_pond_0 13 rfl rfl)
theorem dX0_pond_14 : decode cX0_pond 14 = .ok (.imul, 1) := dk_104 (dk_at dksX0_pond_0 14 rfl rfl)
theorem dX0_pond_15 : decode cX0_pond 15 = .ok (.iload_n 1, 1) := dk_27 (dk_at dksX0_pond_0 15 rfl rfl)
theorem dX0_pond_16 : decode cX0_pond 16 = .ok (.iadd, 1) := dk_96 (dk_at dksX0_pond_0 16 rfl rfl)
theorem dX0_pond_17 : decode cX0_pond 17 = .ok (.istore_n 3, 1) := dk_62 (dk_at dksX0_pond_0 17 rfl rfl)
theorem dX0_pond_18 : decode cX0_pond 18 = .ok (.aload_n 0, 1) := dk_42 (dk_at dksX0_pond_0 18 rfl rfl)
theorem dX0_pond_19 : decode cX0_pond 19 = .ok (.iload_n 3, 1) := dk_29 (dk_at dksX0_pond_0 19 rfl rfl)
theorem dX0_pond_20 : decode cX0_pond 20 = .ok (.invokevirtual 278, 3) := dk_182 1 22 (dk_at dksX0_pond_0 20 rfl rfl)
theorem dX0_pond_23 : decode cX0_pond 23 = .ok (.istore 4, 2) := dk_54 4 (dk_at dksX0_pond_1 0 rfl rfl)
theorem dX0_pond_25 : decode cX0_pond 25 = .ok (.iload 4, 2) := dk_21 4 (dk_at dksX0_pond_1 2 rfl rfl)
theorem dX0_pond_27 : decode cX0_pond 27 = .ok (.iload_n 3, 1) := dk_29 (dk_at dksX0_pond_1 4 rfl rfl)
theorem dX0_pond_28 : decode cX0_pond 28 = .ok (.if_icmp .eq 16, 3) := dk_159 0 16 (dk_at dksX0_pond_1 5 rfl rfl)
theorem dX0_pond_31 : decode cX0_pond 31 = .ok (.iload 4, 2) := dk_21 4 (dk_at dksX0_pond_1 8 rfl rfl)
theorem dX0_pond_33 : decode cX0_pond 33 = .ok (.istore_n 3, 1) := dk_62 (dk_at dksX0_pond_1 10 rfl rfl)
theorem dX0_pond_34 : decode cX0_pond 34 = .ok (.aload_n 0, 1) := dk_42 (dk_at dksX0_pond_1 11 rfl rfl)
theorem dX0_pond_35 : decode cX0_pond 35 = .ok (.iload_n 3, 1) := dk_29 (dk_at dksX0_pond_1 12 rfl rfl)
theorem dX0_pond_36 : decode cX0_pond 36 = .ok (.invokevirtual 278, 3) := dk_182 1 22 (dk_at dksX0_pond_1 13 rfl rfl)
theorem dX0_pond_39 : decode cX0_pond 39 = .ok (.istore 4, 2) := dk_54 4 (dk_at dksX0_pond_1 16 rfl rfl)
theorem dX0_pond_41 : decode cX0_pond 41 = .ok (.goto (-16), 3) := dk_167 255 240 (dk_at dksX0_pond_1 18 rfl rfl)
theorem dX0_pond_44 : decode cX0_pond 44 = .ok (.iload_n 3, 1) := dk_29 (dk_at dksX0_pond_1 21 rfl rfl)
theorem dX0_pond_45 : decode cX0_pond 45 = .ok (.ireturn, 1) := dk_172 (dk_at dksX0_pond_1 22 rfl rfl)
abbrev cX0_lower : ByteArray := prog_1_method_39_code
def yX0_lower : MethodName := ⟨RX0, "lower", "(I)I"⟩
def dkwX0_lower_2 : List UInt8 := [29, 61, 132, 3, 1, 167, 255, 208, 28, 172]
abbrev dktX0_lower_2 : List UInt8 := dkwX0_lower_2 ++ []
def dkwX0_lower_1 : List UInt8 := [153, 0, 26, 42, 180, 0, 69, 180, 0, 198, 29, 46, 42, 180, 0, 69, 180, 0, 198, 28, 46, 162, 0, 5]
abbrev dktX0_lower_1 : List UInt8 := dkwX0_lower_1 ++ dktX0_lower_2
def dkwX0_lower_0 : List UInt8 := [27, 61, 3, 62, 29, 16, 64, 162, 0, 48, 42, 29, 182, 0, 194, 153, 0, 34, 29, 27, 184, 1, 11]
abbrev dktX0_lower_0 : List UInt8 := dkwX0_lower_0 ++ dktX0_lower_1
theorem dksX0_lower_0 : cX0_lower.data.toList.drop 0 = dktX0_lower_0 := by decide +kernel
theorem dksX0_lower_1 : cX0_lower.data.toList.drop 23 = dktX0_lower_1 := dk_seg dksX0_lower_0 23 rfl rfl
theorem dksX0_lower_2 : cX0_lower.data.toList.drop 47 = dktX0_lower_2 := dk_seg dksX0_lower_1 24 rfl rfl
theorem dX0_lower_0 : decode cX0_lower 0 = .ok (.iload_n 1, 1) := dk_27 (dk_at dksX0_lower_0 0 rfl rfl)
theorem dX0_lower_1 : decode cX0_lower 1 = .ok (.istore_n 2, 1) := dk_61 (dk_at dksX0_lower_0 1 rfl rfl)
theorem dX0_lower_2 : decode cX0_lower 2 = .ok (.iconst 0, 1) := dk_3 (dk_at dksX0_lower_0 2 rfl rfl)
theorem dX0_lower_3 : decode cX0_lower 3 = .ok (.istore_n 3, 1) := dk_62 (dk_at dksX0_lower_0 3 rfl rfl)
theorem dX0_lower_4 : decode cX0_lower 4 = .ok (.iload_n 3, 1) := dk_29 (dk_at dksX0_lower_0 4 rfl rfl)
theorem dX0_lower_5 : decode cX0_lower 5 = .ok (.bipush 64, 2) := dk_16 64 (dk_at dksX0_lower_0 5 rfl rfl)
theorem dX0_lower_7 : decode cX0_lower 7 = .ok (.if_icmp .ge 48, 3) := dk_162 0 48 (dk_at dksX0_lower_0 7 rfl rfl)
theorem dX0_lower_10 : decode cX0_lower 10 = .ok (.aload_n 0, 1) := dk_42 (dk_at dksX0_lower_0 10 rfl rfl)
theorem dX0_lower_11 : decode cX0_lower 11 = .ok (.iload_n 3, 1) := dk_29 (dk_at dksX0_lower_0 11 rfl rfl)
theorem dX0_lower_12 : decode cX0_lower 12 = .ok (.invokevirtual 194, 3) := dk_182 0 194 (dk_at dksX0_lower_0 12 rfl rfl)
theorem dX0_lower_15 : decode cX0_lower 15 = .ok (.ifCond .eq 34, 3) := dk_153 0 34 (dk_at dksX0_lower_0 15 rfl rfl)
theorem dX0_lower_18 : decode cX0_lower 18 = .ok (.iload_n 3, 1) := dk_29 (dk_at dksX0_lower_0 18 rfl rfl)
theorem dX0_lower_19 : decode cX0_lower 19 = .ok (.iload_n 1, 1) := dk_27 (dk_at dksX0_lower_0 19 rfl rfl)
theorem dX0_lower_20 : decode cX0_lower 20 = .ok (.invokestatic 267, 3) := dk_184 1 11 (dk_at dksX0_lower_0 20 rfl rfl)
theorem dX0_lower_23 : decode cX0_lower 23 = .ok (.ifCond .eq 26, 3) := dk_153 0 26 (dk_at dksX0_lower_1 0 rfl rfl)
theorem dX0_lower_26 : decode cX0_lower 26 = .ok (.aload_n 0, 1) := dk_42 (dk_at dksX0_lower_1 3 rfl rfl)
theorem dX0_lower_27 : decode cX0_lower 27 = .ok (.getfield 69, 3) := dk_180 0 69 (dk_at dksX0_lower_1 4 rfl rfl)
theorem dX0_lower_30 : decode cX0_lower 30 = .ok (.getfield 198, 3) := dk_180 0 198 (dk_at dksX0_lower_1 7 rfl rfl)
theorem dX0_lower_33 : decode cX0_lower 33 = .ok (.iload_n 3, 1) := dk_29 (dk_at dksX0_lower_1 10 rfl rfl)
theorem dX0_lower_34 : decode cX0_lower 34 = .ok (.iaload, 1) := dk_46 (dk_at dksX0_lower_1 11 rfl rfl)
theorem dX0_lower_35 : decode cX0_lower 35 = .ok (.aload_n 0, 1) := dk_42 (dk_at dksX0_lower_1 12 rfl rfl)
theorem dX0_lower_36 : decode cX0_lower 36 = .ok (.getfield 69, 3) := dk_180 0 69 (dk_at dksX0_lower_1 13 rfl rfl)
theorem dX0_lower_39 : decode cX0_lower 39 = .ok (.getfield 198, 3) := dk_180 0 198 (dk_at dksX0_lower_1 16 rfl rfl)
theorem dX0_lower_42 : decode cX0_lower 42 = .ok (.iload_n 2, 1) := dk_28 (dk_at dksX0_lower_1 19 rfl rfl)
theorem dX0_lower_43 : decode cX0_lower 43 = .ok (.iaload, 1) := dk_46 (dk_at dksX0_lower_1 20 rfl rfl)
theorem dX0_lower_44 : decode cX0_lower 44 = .ok (.if_icmp .ge 5, 3) := dk_162 0 5 (dk_at dksX0_lower_1 21 rfl rfl)
theorem dX0_lower_47 : decode cX0_lower 47 = .ok (.iload_n 3, 1) := dk_29 (dk_at dksX0_lower_2 0 rfl rfl)
theorem dX0_lower_48 : decode cX0_lower 48 = .ok (.istore_n 2, 1) := dk_61 (dk_at dksX0_lower_2 1 rfl rfl)
theorem dX0_lower_49 : decode cX0_lower 49 = .ok (.iinc 3 1, 3) := dk_132 3 1 (dk_at dksX0_lower_2 2 rfl rfl)
theorem dX0_lower_52 : decode cX0_lower 52 = .ok (.goto (-48), 3) := dk_167 255 208 (dk_at dksX0_lower_2 5 rfl rfl)
theorem dX0_lower_55 : decode cX0_lower 55 = .ok (.iload_n 2, 1) := dk_28 (dk_at dksX0_lower_2 8 rfl rfl)
theorem dX0_lower_56 : decode cX0_lower 56 = .ok (.ireturn, 1) := dk_172 (dk_at dksX0_lower_2 9 rfl rfl)
abbrev cX0_keeps : ByteArray := prog_1_method_43_code
def yX0_keeps : MethodName := ⟨RX0, "keeps", "(III)I"⟩
def dkwX0_keeps_4 : List UInt8 := [167, 255, 210, 21, 5, 172]
abbrev dktX0_keeps_4 : List UInt8 := dkwX0_keeps_4 ++ []
def dkwX0_keeps_3 : List UInt8 := [21, 6, 29, 182, 1, 36, 27, 28, 182, 1, 18, 21, 4, 163, 0, 7, 21, 6, 54, 5, 132, 6, 1]
abbrev dktX0_keeps_3 : List UInt8 := dkwX0_keeps_3 ++ dktX0_keeps_4
def dkwX0_keeps_2 : List UInt8 := [21, 6, 4, 42, 182, 0, 174, 120, 162, 0, 41, 21, 6, 21, 5, 184, 1, 33, 153, 0, 25, 42, 42]
abbrev dktX0_keeps_2 : List UInt8 := dkwX0_keeps_2 ++ dktX0_keeps_3
def dkwX0_keeps_1 : List UInt8 := [154, 0, 5, 2, 172, 42, 42, 180, 0, 69, 27, 28, 182, 1, 18, 54, 4, 2, 54, 5, 3, 54, 6]
abbrev dktX0_keeps_1 : List UInt8 := dkwX0_keeps_1 ++ dktX0_keeps_2
def dkwX0_keeps_0 : List UInt8 := [42, 27, 182, 0, 194, 153, 0, 22, 42, 28, 182, 0, 194, 153, 0, 14, 42, 29, 4, 16, 20, 182, 0, 246]
abbrev dktX0_keeps_0 : List UInt8 := dkwX0_keeps_0 ++ dktX0_keeps_1
theorem dksX0_keeps_0 : cX0_keeps.data.toList.drop 0 = dktX0_keeps_0 := by decide +kernel
theorem dksX0_keeps_1 : cX0_keeps.data.toList.drop 24 = dktX0_keeps_1 := dk_seg dksX0_keeps_0 24 rfl rfl
theorem dksX0_keeps_2 : cX0_keeps.data.toList.drop 47 = dktX0_keeps_2 := dk_seg dksX0_keeps_1 23 rfl rfl
theorem dksX0_keeps_3 : cX0_keeps.data.toList.drop 70 = dktX0_keeps_3 := dk_seg dksX0_keeps_2 23 rfl rfl
theorem dksX0_keeps_4 : cX0_keeps.data.toList.drop 93 = dktX0_keeps_4 := dk_seg dksX0_keeps_3 23 rfl rfl
theorem dX0_keeps_0 : decode cX0_keeps 0 = .ok (.aload_n 0, 1) := dk_42 (dk_at dksX0_keeps_0 0 rfl rfl)
theorem dX0_keeps_1 : decode cX0_keeps 1 = .ok (.iload_n 1, 1) := dk_27 (dk_at dksX0_keeps_0 1 rfl rfl)
theorem dX0_keeps_2 : decode cX0_keeps 2 = .ok (.invokevirtual 194, 3) := dk_182 0 194 (dk_at dksX0_keeps_0 2 rfl rfl)
theorem dX0_keeps_5 : decode cX0_keeps 5 = .ok (.ifCond .eq 22, 3) := dk_153 0 22 (dk_at dksX0_keeps_0 5 rfl rfl)
theorem dX0_keeps_8 : decode cX0_keeps 8 = .ok (.aload_n 0, 1) := dk_42 (dk_at dksX0_keeps_0 8 rfl rfl)
theorem dX0_keeps_9 : decode cX0_keeps 9 = .ok (.iload_n 2, 1) := dk_28 (dk_at dksX0_keeps_0 9 rfl rfl)
theorem dX0_keeps_10 : decode cX0_keeps 10 = .ok (.invokevirtual 194, 3) := dk_182 0 194 (dk_at dksX0_keeps_0 10 rfl rfl)
theorem dX0_keeps_13 : decode cX0_keeps 13 = .ok (.ifCond .eq 14, 3) := dk_153 0 14 (dk_at dksX0_keeps_0 13 rfl rfl)
theorem dX0_keeps_16 : decode cX0_keeps 16 = .ok (.aload_n 0, 1) := dk_42 (dk_at dksX0_keeps_0 16 rfl rfl)
theorem dX0_keeps_17 : decode cX0_keeps 17 = .ok (.iload_n 3, 1) := dk_29 (dk_at dksX0_keeps_0 17 rfl rfl)
theorem dX0_keeps_18 : decode cX0_keeps 18 = .ok (.iconst 1, 1) := dk_4 (dk_at dksX0_keeps_0 18 rfl rfl)
theorem dX0_keeps_19 : decode cX0_keeps 19 = .ok (.bipush 20, 2) := dk_16 20 (dk_at dksX0_keeps_0 19 rfl rfl)
theorem dX0_keeps_21 : decode cX0_keeps 21 = .ok (.invokevirtual 246, 3) := dk_182 0 246 (dk_at dksX0_keeps_0 21 rfl rfl)
theorem dX0_keeps_24 : decode cX0_keeps 24 = .ok (.ifCond .ne 5, 3) := dk_154 0 5 (dk_at dksX0_keeps_1 0 rfl rfl)
theorem dX0_keeps_27 : decode cX0_keeps 27 = .ok (.iconst (-1), 1) := dk_2 (dk_at dksX0_keeps_1 3 rfl rfl)
theorem dX0_keeps_28 : decode cX0_keeps 28 = .ok (.ireturn, 1) := dk_172 (dk_at dksX0_keeps_1 4 rfl rfl)
theorem dX0_keeps_29 : decode cX0_keeps 29 = .ok (.aload_n 0, 1) := dk_42 (dk_at dksX0_keeps_1 5 rfl rfl)
theorem dX0_keeps_30 : decode cX0_keeps 30 = .ok (.aload_n 0, 1) := dk_42 (dk_at dksX0_keeps_1 6 rfl rfl)
theorem dX0_keeps_31 : decode cX0_keeps 31 = .ok (.getfield 69, 3) := dk_180 0 69 (dk_at dksX0_keeps_1 7 rfl rfl)
theorem dX0_keeps_34 : decode cX0_keeps 34 = .ok (.iload_n 1, 1) := dk_27 (dk_at dksX0_keeps_1 10 rfl rfl)
theorem dX0_keeps_35 : decode cX0_keeps 35 = .ok (.iload_n 2, 1) := dk_28 (dk_at dksX0_keeps_1 11 rfl rfl)
theorem dX0_keeps_36 : decode cX0_keeps 36 = .ok (.invokevirtual 274, 3) := dk_182 1 18 (dk_at dksX0_keeps_1 12 rfl rfl)
theorem dX0_keeps_39 : decode cX0_keeps 39 = .ok (.istore 4, 2) := dk_54 4 (dk_at dksX0_keeps_1 15 rfl rfl)
theorem dX0_keeps_41 : decode cX0_keeps 41 = .ok (.iconst (-1), 1) := dk_2 (dk_at dksX0_keeps_1 17 rfl rfl)
theorem dX0_keeps_42 : decode cX0_keeps 42 = .ok (.istore 5, 2) := dk_54 5 (dk_at dksX0_keeps_1 18 rfl rfl)
theorem dX0_keeps_44 : decode cX0_keeps 44 = .ok (.iconst 0, 1) := dk_3 (dk_at dksX0_keeps_1 20 rfl rfl)
theorem dX0_keeps_45 : decode cX0_keeps 45 = .ok (.istore 6, 2) := dk_54 6 (dk_at dksX0_keeps_1 21 rfl rfl)
theorem dX0_keeps_47 : decode cX0_keeps 47 = .ok (.iload 6, 2) := dk_21 6 (dk_at dksX0_keeps_2 0 rfl rfl)
theorem dX0_keeps_49 : decode cX0_keeps 49 = .ok (.iconst 1, 1) := dk_4 (dk_at dksX0_keeps_2 2 rfl rfl)
theorem dX0_keeps_50 : decode cX0_keeps 50 = .ok (.aload_n 0, 1) := dk_42 (dk_at dksX0_keeps_2 3 rfl rfl)
theorem dX0_keeps_51 : decode cX0_keeps 51 = .ok (.invokevirtual 174, 3) := dk_182 0 174 (dk_at dksX0_keeps_2 4 rfl rfl)
theorem dX0_keeps_54 : decode cX0_keeps 54 = .ok (.ishl, 1) := dk_120 (dk_at dksX0_keeps_2 7 rfl rfl)
theorem dX0_keeps_55 : decode cX0_keeps 55 = .ok (.if_icmp .ge 41, 3) := dk_162 0 41 (dk_at dksX0_keeps_2 8 rfl rfl)
theorem dX0_keeps_58 : decode cX0_keeps 58 = .ok (.iload 6, 2) := dk_21 6 (dk_at dksX0_keeps_2 11 rfl rfl)
theorem dX0_keeps_60 : decode cX0_keeps 60 = .ok (.iload 5, 2) := dk_21 5 (dk_at dksX0_keeps_2 13 rfl rfl)
theorem dX0_keeps_62 : decode cX0_keeps 62 = .ok (.invokestatic 289, 3) := dk_184 1 33 (dk_at dksX0_keeps_2 15 rfl rfl)
theorem dX0_keeps_65 : decode cX0_keeps 65 = .ok (.ifCond .eq 25, 3) := dk_153 0 25 (dk_at dksX0_keeps_2 18 rfl rfl)
theorem dX0_keeps_68 : decode cX0_keeps 68 = .ok (.aload_n 0, 1) := dk_42 (dk_at dksX0_keeps_2 21 rfl rfl)
theorem dX0_keeps_69 : decode cX0_keeps 69 = .ok (.aload_n 0, 1) := dk_42 (dk_at dksX0_keeps_2 22 rfl rfl)
theorem dX0_keeps_70 : decode cX0_keeps 70 = .ok (.iload 6, 2) := dk_21 6 (dk_at dksX0_keeps_3 0 rfl rfl)
theorem dX0_keeps_72 : decode cX0_keeps 72 = .ok (.iload_n 3, 1) := dk_29 (dk_at dksX0_keeps_3 2 rfl rfl)
theorem dX0_keeps_73 : decode cX0_keeps 73 = .ok (.invokevirtual 292, 3) := dk_182 1 36 (dk_at dksX0_keeps_3 3 rfl rfl)
theorem dX0_keeps_76 : decode cX0_keeps 76 = .ok (.iload_n 1, 1) := dk_27 (dk_at dksX0_keeps_3 6 rfl rfl)
theorem dX0_keeps_77 : decode cX0_keeps 77 = .ok (.iload_n 2, 1) := dk_28 (dk_at dksX0_keeps_3 7 rfl rfl)
theorem dX0_keeps_78 : decode cX0_keeps 78 = .ok (.invokevirtual 274, 3) := dk_182 1 18 (dk_at dksX0_keeps_3 8 rfl rfl)
theorem dX0_keeps_81 : decode cX0_keeps 81 = .ok (.iload 4, 2) := dk_21 4 (dk_at dksX0_keeps_3 11 rfl rfl)
theorem dX0_keeps_83 : decode cX0_keeps 83 = .ok (.if_icmp .gt 7, 3) := dk_163 0 7 (dk_at dksX0_keeps_3 13 rfl rfl)
theorem dX0_keeps_86 : decode cX0_keeps 86 = .ok (.iload 6, 2) := dk_21 6 (dk_at dksX0_keeps_3 16 rfl rfl)
theorem dX0_keeps_88 : decode cX0_keeps 88 = .ok (.istore 5, 2) := dk_54 5 (dk_at dksX0_keeps_3 18 rfl rfl)
theorem dX0_keeps_90 : decode cX0_keeps 90 = .ok (.iinc 6 1, 3) := dk_132 6 1 (dk_at dksX0_keeps_3 20 rfl rfl)
theorem dX0_keeps_93 : decode cX0_keeps 93 = .ok (.goto (-46), 3) := dk_167 255 210 (dk_at dksX0_keeps_4 0 rfl rfl)
theorem dX0_keeps_96 : decode cX0_keeps 96 = .ok (.iload 5, 2) := dk_21 5 (dk_at dksX0_keeps_4 3 rfl rfl)
theorem dX0_keeps_98 : decode cX0_keeps 98 = .ok (.ireturn, 1) := dk_172 (dk_at dksX0_keeps_4 5 rfl rfl)
abbrev cX0_isFewer : ByteArray := prog_1_method_41_code
def yX0_isFewer : MethodName := ⟨RX0, "isFewer", "(II)Z"⟩
def dkwX0_isFewer_0 : List UInt8 := [27, 2, 159, 0, 14, 26, 184, 1, 25, 27, 184, 1, 25, 162, 0, 7, 4, 167, 0, 4, 3, 172]
abbrev dktX0_isFewer_0 : List UInt8 := dkwX0_isFewer_0 ++ []
theorem dksX0_isFewer_0 : cX0_isFewer.data.toList.drop 0 = dktX0_isFewer_0 := by decide +kernel
theorem dX0_isFewer_0 : decode cX0_isFewer 0 = .ok (.iload_n 1, 1) := dk_27 (dk_at dksX0_isFewer_0 0 rfl rfl)
theorem dX0_isFewer_1 : decode cX0_isFewer 1 = .ok (.iconst (-1), 1) := dk_2 (dk_at dksX0_isFewer_0 1 rfl rfl)
theorem dX0_isFewer_2 : decode cX0_isFewer 2 = .ok (.if_icmp .eq 14, 3) := dk_159 0 14 (dk_at dksX0_isFewer_0 2 rfl rfl)
theorem dX0_isFewer_5 : decode cX0_isFewer 5 = .ok (.iload_n 0, 1) := dk_26 (dk_at dksX0_isFewer_0 5 rfl rfl)
theorem dX0_isFewer_6 : decode cX0_isFewer 6 = .ok (.invokestatic 281, 3) := dk_184 1 25 (dk_at dksX0_isFewer_0 6 rfl rfl)
theorem dX0_isFewer_9 : decode cX0_isFewer 9 = .ok (.iload_n 1, 1) := dk_27 (dk_at dksX0_isFewer_0 9 rfl rfl)
theorem dX0_isFewer_10 : decode cX0_isFewer 10 = .ok (.invokestatic 281, 3) := dk_184 1 25 (dk_at dksX0_isFewer_0 10 rfl rfl)
theorem dX0_isFewer_13 : decode cX0_isFewer 13 = .ok (.if_icmp .ge 7, 3) := dk_162 0 7 (dk_at dksX0_isFewer_0 13 rfl rfl)
theorem dX0_isFewer_16 : decode cX0_isFewer 16 = .ok (.iconst 1, 1) := dk_4 (dk_at dksX0_isFewer_0 16 rfl rfl)
theorem dX0_isFewer_17 : decode cX0_isFewer 17 = .ok (.goto 4, 3) := dk_167 0 4 (dk_at dksX0_isFewer_0 17 rfl rfl)
theorem dX0_isFewer_20 : decode cX0_isFewer 20 = .ok (.iconst 0, 1) := dk_3 (dk_at dksX0_isFewer_0 20 rfl rfl)
theorem dX0_isFewer_21 : decode cX0_isFewer 21 = .ok (.ireturn, 1) := dk_172 (dk_at dksX0_isFewer_0 21 rfl rfl)
abbrev cX0_silently : ByteArray := prog_1_method_42_code
def yX0_silently : MethodName := ⟨RX0, "silently", "(II)LShrugHills$State;"⟩
def dkwX0_silently_0 : List UInt8 := [42, 180, 0, 73, 42, 180, 0, 69, 182, 0, 249, 27, 181, 1, 30, 42, 180, 0, 73, 28, 182, 0, 253, 176]
abbrev dktX0_silently_0 : List UInt8 := dkwX0_silently_0 ++ []
theorem dksX0_silently_0 : cX0_silently.data.toList.drop 0 = dktX0_silently_0 := by decide +kernel
theorem dX0_silently_0 : decode cX0_silently 0 = .ok (.aload_n 0, 1) := dk_42 (dk_at dksX0_silently_0 0 rfl rfl)
theorem dX0_silently_1 : decode cX0_silently 1 = .ok (.getfield 73, 3) := dk_180 0 73 (dk_at dksX0_silently_0 1 rfl rfl)
theorem dX0_silently_4 : decode cX0_silently 4 = .ok (.aload_n 0, 1) := dk_42 (dk_at dksX0_silently_0 4 rfl rfl)
theorem dX0_silently_5 : decode cX0_silently 5 = .ok (.getfield 69, 3) := dk_180 0 69 (dk_at dksX0_silently_0 5 rfl rfl)
theorem dX0_silently_8 : decode cX0_silently 8 = .ok (.invokevirtual 249, 3) := dk_182 0 249 (dk_at dksX0_silently_0 8 rfl rfl)
theorem dX0_silently_11 : decode cX0_silently 11 = .ok (.iload_n 1, 1) := dk_27 (dk_at dksX0_silently_0 11 rfl rfl)
theorem dX0_silently_12 : decode cX0_silently 12 = .ok (.putfield 286, 3) := dk_181 1 30 (dk_at dksX0_silently_0 12 rfl rfl)
theorem dX0_silently_15 : decode cX0_silently 15 = .ok (.aload_n 0, 1) := dk_42 (dk_at dksX0_silently_0 15 rfl rfl)
theorem dX0_silently_16 : decode cX0_silently 16 = .ok (.getfield 73, 3) := dk_180 0 73 (dk_at dksX0_silently_0 16 rfl rfl)
theorem dX0_silently_19 : decode cX0_silently 19 = .ok (.iload_n 2, 1) := dk_28 (dk_at dksX0_silently_0 19 rfl rfl)
theorem dX0_silently_20 : decode cX0_silently 20 = .ok (.invokevirtual 253, 3) := dk_182 0 253 (dk_at dksX0_silently_0 20 rfl rfl)
theorem dX0_silently_23 : decode cX0_silently 23 = .ok (.areturn, 1) := dk_176 (dk_at dksX0_silently_0 23 rfl rfl)
abbrev cX0_rest : ByteArray := prog_1_method_45_code
def yX0_rest : MethodName := ⟨RX0, "rest", "(I)I"⟩
def dkwX0_rest_5 : List UInt8 := [172]
abbrev dktX0_rest_5 : List UInt8 := dkwX0_rest_5 ++ []
def dkwX0_rest_4 : List UInt8 := [28, 184, 1, 33, 153, 0, 13, 42, 29, 182, 1, 40, 153, 0, 5, 29, 61, 132, 3, 1, 167, 255, 225, 28]
abbrev dktX0_rest_4 : List UInt8 := dkwX0_rest_4 ++ dktX0_rest_5
def dkwX0_rest_3 : List UInt8 := [167, 255, 220, 132, 2, 1, 167, 255, 195, 2, 61, 3, 62, 29, 4, 42, 182, 0, 174, 120, 162, 0, 27, 29]
abbrev dktX0_rest_3 : List UInt8 := dkwX0_rest_3 ++ dktX0_rest_4
def dkwX0_rest_2 : List UInt8 := [28, 50, 29, 42, 180, 0, 73, 180, 0, 198, 42, 180, 0, 73, 180, 0, 216, 29, 46, 46, 79, 132, 3, 1]
abbrev dktX0_rest_2 : List UInt8 := dkwX0_rest_2 ++ dktX0_rest_3
def dkwX0_rest_1 : List UInt8 := [162, 0, 57, 42, 28, 27, 182, 1, 36, 87, 3, 62, 29, 42, 182, 0, 174, 162, 0, 34, 42, 180, 0, 88]
abbrev dktX0_rest_1 : List UInt8 := dkwX0_rest_1 ++ dktX0_rest_2
def dkwX0_rest_0 : List UInt8 := [42, 27, 4, 16, 20, 182, 0, 246, 154, 0, 5, 2, 172, 3, 61, 28, 4, 42, 182, 0, 174, 120]
abbrev dktX0_rest_0 : List UInt8 := dkwX0_rest_0 ++ dktX0_rest_1
theorem dksX0_rest_0 : cX0_rest.data.toList.drop 0 = dktX0_rest_0 := by decide +kernel
theorem dksX0_rest_1 : cX0_rest.data.toList.drop 22 = dktX0_rest_1 := dk_seg dksX0_rest_0 22 rfl rfl
theorem dksX0_rest_2 : cX0_rest.data.toList.drop 46 = dktX0_rest_2 := dk_seg dksX0_rest_1 24 rfl rfl
theorem dksX0_rest_3 : cX0_rest.data.toList.drop 70 = dktX0_rest_3 := dk_seg dksX0_rest_2 24 rfl rfl
theorem dksX0_rest_4 : cX0_rest.data.toList.drop 94 = dktX0_rest_4 := dk_seg dksX0_rest_3 24 rfl rfl
theorem dksX0_rest_5 : cX0_rest.data.toList.drop 118 = dktX0_rest_5 := dk_seg dksX0_rest_4 24 rfl rfl
theorem dX0_rest_0 : decode cX0_rest 0 = .ok (.aload_n 0, 1) := dk_42 (dk_at dksX0_rest_0 0 rfl rfl)
theorem dX0_rest_1 : decode cX0_rest 1 = .ok (.iload_n 1, 1) := dk_27 (dk_at dksX0_rest_0 1 rfl rfl)
theorem dX0_rest_2 : decode cX0_rest 2 = .ok (.iconst 1, 1) := dk_4 (dk_at dksX0_rest_0 2 rfl rfl)
theorem dX0_rest_3 : decode cX0_rest 3 = .ok (.bipush 20, 2) := dk_16 20 (dk_at dksX0_rest_0 3 rfl rfl)
theorem dX0_rest_5 : decode cX0_rest 5 = .ok (.invokevirtual 246, 3) := dk_182 0 246 (dk_at dksX0_rest_0 5 rfl rfl)
theorem dX0_rest_8 : decode cX0_rest 8 = .ok (.ifCond .ne 5, 3) := dk_154 0 5 (dk_at dksX0_rest_0 8 rfl rfl)
theorem dX0_rest_11 : decode cX0_rest 11 = .ok (.iconst (-1), 1) := dk_2 (dk_at dksX0_rest_0 11 rfl rfl)
theorem dX0_rest_12 : decode cX0_rest 12 = .ok (.ireturn, 1) := dk_172 (dk_at dksX0_rest_0 12 rfl rfl)
theorem dX0_rest_13 : decode cX0_rest 13 = .ok (.iconst 0, 1) := dk_3 (dk_at dksX0_rest_0 13 rfl rfl)
theorem dX0_rest_14 : decode cX0_rest 14 = .ok (.istore_n 2, 1) := dk_61 (dk_at dksX0_rest_0 14 rfl rfl)
theorem dX0_rest_15 : decode cX0_rest 15 = .ok (.iload_n 2, 1) := dk_28 (dk_at dksX0_rest_0 15 rfl rfl)
theorem dX0_rest_16 : decode cX0_rest 16 = .ok (.iconst 1, 1) := dk_4 (dk_at dksX0_rest_0 16 rfl rfl)
theorem dX0_rest_17 : decode cX0_rest 17 = .ok (.aload_n 0, 1) := dk_42 (dk_at dksX0_rest_0 17 rfl rfl)
theorem dX0_rest_18 : decode cX0_rest 18 = .ok (.invokevirtual 174, 3) := dk_182 0 174 (dk_at dksX0_rest_0 18 rfl rfl)
theorem dX0_rest_21 : decode cX0_rest 21 = .ok (.ishl, 1) := dk_120 (dk_at dksX0_rest_0 21 rfl rfl)
theorem dX0_rest_22 : decode cX0_rest 22 = .ok (.if_icmp .ge 57, 3) := dk_162 0 57 (dk_at dksX0_rest_1 0 rfl rfl)
theorem dX0_rest_25 : decode cX0_rest 25 = .ok (.aload_n 0, 1) := dk_42 (dk_at dksX0_rest_1 3 rfl rfl)
theorem dX0_rest_26 : decode cX0_rest 26 = .ok (.iload_n 2, 1) := dk_28 (dk_at dksX0_rest_1 4 rfl rfl)
theorem dX0_rest_27 : decode cX0_rest 27 = .ok (.iload_n 1, 1) := dk_27 (dk_at dksX0_rest_1 5 rfl rfl)
theorem dX0_rest_28 : decode cX0_rest 28 = .ok (.invokevirtual 292, 3) := dk_182 1 36 (dk_at dksX0_rest_1 6 rfl rfl)
theorem dX0_rest_31 : decode cX0_rest 31 = .ok (.pop, 1) := dk_87 (dk_at dksX0_rest_1 9 rfl rfl)
theorem dX0_rest_32 : decode cX0_rest 32 = .ok (.iconst 0, 1) := dk_3 (dk_at dksX0_rest_1 10 rfl rfl)
theorem dX0_rest_33 : decode cX0_rest 33 = .ok (.istore_n 3, 1) := dk_62 (dk_at dksX0_rest_1 11 rfl rfl)
theorem dX0_rest_34 : decode cX0_rest 34 = .ok (.iload_n 3, 1) := dk_29 (dk_at dksX0_rest_1 12 rfl rfl)
theorem dX0_rest_35 : decode cX0_rest 35 = .ok (.aload_n 0, 1) := dk_42 (dk_at dksX0_rest_1 13 rfl rfl)
theorem dX0_rest_36 : decode cX0_rest 36 = .ok (.invokevirtual 174, 3) := dk_182 0 174 (dk_at dksX0_rest_1 14 rfl rfl)
theorem dX0_rest_39 : decode cX0_rest 39 = .ok (.if_icmp .ge 34, 3) := dk_162 0 34 (dk_at dksX0_rest_1 17 rfl rfl)
theorem dX0_rest_42 : decode cX0_rest 42 = .ok (.aload_n 0, 1) := dk_42 (dk_at dksX0_rest_1 20 rfl rfl)
theorem dX0_rest_43 : decode cX0_rest 43 = .ok (.getfield 88, 3) := dk_180 0 88 (dk_at dksX0_rest_1 21 rfl rfl)
theorem dX0_rest_46 : decode cX0_rest 46 = .ok (.iload_n 2, 1) := dk_28 (dk_at dksX0_rest_2 0 rfl rfl)
theorem dX0_rest_47 : decode cX0_rest 47 = .ok (.aaload, 1) := dk_50 (dk_at dksX0_rest_2 1 rfl rfl)
theorem dX0_rest_48 : decode cX0_rest 48 = .ok (.iload_n 3, 1) := dk_29 (dk_at dksX0_rest_2 2 rfl rfl)
theorem dX0_rest_49 : decode cX0_rest 49 = .ok (.aload_n 0, 1) := dk_42 (dk_at dksX0_rest_2 3 rfl rfl)
theorem dX0_rest_50 : decode cX0_rest 50 = .ok (.getfield 73, 3) := dk_180 0 73 (dk_at dksX0_rest_2 4 rfl rfl)
theorem dX0_rest_53 : decode cX0_rest 53 = .ok (.getfield 198, 3) := dk_180 0 198 (dk_at dksX0_rest_2 7 rfl rfl)
theorem dX0_rest_56 : decode cX0_rest 56 = .ok (.aload_n 0, 1) := dk_42 (dk_at dksX0_rest_2 10 rfl rfl)
theorem dX0_rest_57 : decode cX0_rest 57 = .ok (.getfield 73, 3) := dk_180 0 73 (dk_at dksX0_rest_2 11 rfl rfl)
theorem dX0_rest_60 : decode cX0_rest 60 = .ok (.getfield 216, 3) := dk_180 0 216 (dk_at dksX0_rest_2 14 rfl rfl)
theorem dX0_rest_63 : decode cX0_rest 63 = .ok (.iload_n 3, 1) := dk_29 (dk_at dksX0_rest_2 17 rfl rfl)
theorem dX0_rest_64 : decode cX0_rest 64 = .ok (.iaload, 1) := dk_46 (dk_at dksX0_rest_2 18 rfl rfl)
theorem dX0_rest_65 : decode cX0_rest 65 = .ok (.iaload, 1) := dk_46 (dk_at dksX0_rest_2 19 rfl rfl)
theorem dX0_rest_66 : decode cX0_rest 66 = .ok (.iastore, 1) := dk_79 (dk_at dksX0_rest_2 20 rfl rfl)
theorem dX0_rest_67 : decode cX0_rest 67 = .ok (.iinc 3 1, 3) := dk_132 3 1 (dk_at dksX0_rest_2 21 rfl rfl)
theorem dX0_rest_70 : decode cX0_rest 70 = .ok (.goto (-36), 3) := dk_167 255 220 (dk_at dksX0_rest_3 0 rfl rfl)
theorem dX0_rest_73 : decode cX0_rest 73 = .ok (.iinc 2 1, 3) := dk_132 2 1 (dk_at dksX0_rest_3 3 rfl rfl)
theorem dX0_rest_76 : decode cX0_rest 76 = .ok (.goto (-61), 3) := dk_167 255 195 (dk_at dksX0_rest_3 6 rfl rfl)
theorem dX0_rest_79 : decode cX0_rest 79 = .ok (.iconst (-1), 1) := dk_2 (dk_at dksX0_rest_3 9 rfl rfl)
theorem dX0_rest_80 : decode cX0_rest 80 = .ok (.istore_n 2, 1) := dk_61 (dk_at dksX0_rest_3 10 rfl rfl)
theorem dX0_rest_81 : decode cX0_rest 81 = .ok (.iconst 0, 1) := dk_3 (dk_at dksX0_rest_3 11 rfl rfl)
theorem dX0_rest_82 : decode cX0_rest 82 = .ok (.istore_n 3, 1) := dk_62 (dk_at dksX0_rest_3 12 rfl rfl)
theorem dX0_rest_83 : decode cX0_rest 83 = .ok (.iload_n 3, 1) := dk_29 (dk_at dksX0_rest_3 13 rfl rfl)
theorem dX0_rest_84 : decode cX0_rest 84 = .ok (.iconst 1, 1) := dk_4 (dk_at dksX0_rest_3 14 rfl rfl)
theorem dX0_rest_85 : decode cX0_rest 85 = .ok (.aload_n 0, 1) := dk_42 (dk_at dksX0_rest_3 15 rfl rfl)
theorem dX0_rest_86 : decode cX0_rest 86 = .ok (.invokevirtual 174, 3) := dk_182 0 174 (dk_at dksX0_rest_3 16 rfl rfl)
theorem dX0_rest_89 : decode cX0_rest 89 = .ok (.ishl, 1) := dk_120 (dk_at dksX0_rest_3 19 rfl rfl)
theorem dX0_rest_90 : decode cX0_rest 90 = .ok (.if_icmp .ge 27, 3) := dk_162 0 27 (dk_at dksX0_rest_3 20 rfl rfl)
theorem dX0_rest_93 : decode cX0_rest 93 = .ok (.iload_n 3, 1) := dk_29 (dk_at dksX0_rest_3 23 rfl rfl)
theorem dX0_rest_94 : decode cX0_rest 94 = .ok (.iload_n 2, 1) := dk_28 (dk_at dksX0_rest_4 0 rfl rfl)
theorem dX0_rest_95 : decode cX0_rest 95 = .ok (.invokestatic 289, 3) := dk_184 1 33 (dk_at dksX0_rest_4 1 rfl rfl)
theorem dX0_rest_98 : decode cX0_rest 98 = .ok (.ifCond .eq 13, 3) := dk_153 0 13 (dk_at dksX0_rest_4 4 rfl rfl)
theorem dX0_rest_101 : decode cX0_rest 101 = .ok (.aload_n 0, 1) := dk_42 (dk_at dksX0_rest_4 7 rfl rfl)
theorem dX0_rest_102 : decode cX0_rest 102 = .ok (.iload_n 3, 1) := dk_29 (dk_at dksX0_rest_4 8 rfl rfl)
theorem dX0_rest_103 : decode cX0_rest 103 = .ok (.invokevirtual 296, 3) := dk_182 1 40 (dk_at dksX0_rest_4 9 rfl rfl)
theorem dX0_rest_106 : decode cX0_rest 106 = .ok (.ifCond .eq 5, 3) := dk_153 0 5 (dk_at dksX0_rest_4 12 rfl rfl)
theorem dX0_rest_109 : decode cX0_rest 109 = .ok (.iload_n 3, 1) := dk_29 (dk_at dksX0_rest_4 15 rfl rfl)
theorem dX0_rest_110 : decode cX0_rest 110 = .ok (.istore_n 2, 1) := dk_61 (dk_at dksX0_rest_4 16 rfl rfl)
theorem dX0_rest_111 : decode cX0_rest 111 = .ok (.iinc 3 1, 3) := dk_132 3 1 (dk_at dksX0_rest_4 17 rfl rfl)
theorem dX0_rest_114 : decode cX0_rest 114 = .ok (.goto (-31), 3) := dk_167 255 225 (dk_at dksX0_rest_4 20 rfl rfl)
theorem dX0_rest_117 : decode cX0_rest 117 = .ok (.iload_n 2, 1) := dk_28 (dk_at dksX0_rest_4 23 rfl rfl)
theorem dX0_rest_118 : decode cX0_rest 118 = .ok (.ireturn, 1) := dk_172 (dk_at dksX0_rest_5 0 rfl rfl)
abbrev cX0_isRest : ByteArray := prog_1_method_44_code
def yX0_isRest : MethodName := ⟨RX0, "isRest", "(I)Z"⟩
def dkwX0_isRest_1 : List UInt8 := [180, 0, 88, 27, 50, 28, 46, 164, 0, 5, 3, 172, 132, 2, 1, 167, 255, 220, 4, 172]
abbrev dktX0_isRest_1 : List UInt8 := dkwX0_isRest_1 ++ []
def dkwX0_isRest_0 : List UInt8 := [3, 61, 28, 42, 182, 0, 174, 162, 0, 34, 42, 180, 0, 88, 27, 4, 28, 120, 130, 50, 28, 46, 42]
abbrev dktX0_isRest_0 : List UInt8 := dkwX0_isRest_0 ++ dktX0_isRest_1
theorem dksX0_isRest_0 : cX0_isRest.data.toList.drop 0 = dktX0_isRest_0 := by decide +kernel
theorem dksX0_isRest_1 : cX0_isRest.data.toList.drop 23 = dktX0_isRest_1 := dk_seg dksX0_isRest_0 23 rfl rfl
theorem dX0_isRest_0 : decode cX0_isRest 0 = .ok (.iconst 0, 1) := dk_3 (dk_at dksX0_isRest_0 0 rfl rfl)
theorem dX0_isRest_1 : decode cX0_isRest 1 = .ok (.istore_n 2, 1) := dk_61 (dk_at dksX0_isRest_0 1 rfl rfl)
theorem dX0_isRest_2 : decode cX0_isRest 2 = .ok (.iload_n 2, 1) := dk_28 (dk_at dksX0_isRest_0 2 rfl rfl)
theorem dX0_isRest_3 : decode cX0_isRest 3 = .ok (.aload_n 0, 1) := dk_42 (dk_at dksX0_isRest_0 3 rfl rfl)
theorem dX0_isRest_4 : decode cX0_isRest 4 = .ok (.invokevirtual 174, 3) := dk_182 0 174 (dk_at dksX0_isRest_0 4 rfl rfl)
theorem dX0_isRest_7 : decode cX0_isRest 7 = .ok (.if_icmp .ge 34, 3) := dk_162 0 34 (dk_at dksX0_isRest_0 7 rfl rfl)
theorem dX0_isRest_10 : decode cX0_isRest 10 = .ok (.aload_n 0, 1) := dk_42 (dk_at dksX0_isRest_0 10 rfl rfl)
theorem dX0_isRest_11 : decode cX0_isRest 11 = .ok (.getfield 88, 3) := dk_180 0 88 (dk_at dksX0_isRest_0 11 rfl rfl)
theorem dX0_isRest_14 : decode cX0_isRest 14 = .ok (.iload_n 1, 1) := dk_27 (dk_at dksX0_isRest_0 14 rfl rfl)
theorem dX0_isRest_15 : decode cX0_isRest 15 = .ok (.iconst 1, 1) := dk_4 (dk_at dksX0_isRest_0 15 rfl rfl)
theorem dX0_isRest_16 : decode cX0_isRest 16 = .ok (.iload_n 2, 1) := dk_28 (dk_at dksX0_isRest_0 16 rfl rfl)
theorem dX0_isRest_17 : decode cX0_isRest 17 = .ok (.ishl, 1) := dk_120 (dk_at dksX0_isRest_0 17 rfl rfl)
theorem dX0_isRest_18 : decode cX0_isRest 18 = .ok (.ixor, 1) := dk_130 (dk_at dksX0_isRest_0 18 rfl rfl)
theorem dX0_isRest_19 : decode cX0_isRest 19 = .ok (.aaload, 1) := dk_50 (dk_at dksX0_isRest_0 19 rfl rfl)
theorem dX0_isRest_20 : decode cX0_isRest 20 = .ok (.iload_n 2, 1) := dk_28 (dk_at dksX0_isRest_0 20 rfl rfl)
theorem dX0_isRest_21 : decode cX0_isRest 21 = .ok (.iaload, 1) := dk_46 (dk_at dksX0_isRest_0 21 rfl rfl)
theorem dX0_isRest_22 : decode cX0_isRest 22 = .ok (.aload_n 0, 1) := dk_42 (dk_at dksX0_isRest_0 22 rfl rfl)
theorem dX0_isRest_23 : decode cX0_isRest 23 = .ok (.getfield 88, 3) := dk_180 0 88 (dk_at dksX0_isRest_1 0 rfl rfl)
theorem dX0_isRest_26 : decode cX0_isRest 26 = .ok (.iload_n 1, 1) := dk_27 (dk_at dksX0_isRest_1 3 rfl rfl)
theorem dX0_isRest_27 : decode cX0_isRest 27 = .ok (.aaload, 1) := dk_50 (dk_at dksX0_isRest_1 4 rfl rfl)
theorem dX0_isRest_28 : decode cX0_isRest 28 = .ok (.iload_n 2, 1) := dk_28 (dk_at dksX0_isRest_1 5 rfl rfl)
theorem dX0_isRest_29 : decode cX0_isRest 29 = .ok (.iaload, 1) := dk_46 (dk_at dksX0_isRest_1 6 rfl rfl)
theorem dX0_isRest_30 : decode cX0_isRest 30 = .ok (.if_icmp .le 5, 3) := dk_164 0 5 (dk_at dksX0_isRest_1 7 rfl rfl)
theorem dX0_isRest_33 : decode cX0_isRest 33 = .ok (.iconst 0, 1) := dk_3 (dk_at dksX0_isRest_1 10 rfl rfl)
theorem dX0_isRest_34 : decode cX0_isRest 34 = .ok (.ireturn, 1) := dk_172 (dk_at dksX0_isRest_1 11 rfl rfl)
theorem dX0_isRest_35 : decode cX0_isRest 35 = .ok (.iinc 2 1, 3) := dk_132 2 1 (dk_at dksX0_isRest_1 12 rfl rfl)
theorem dX0_isRest_38 : decode cX0_isRest 38 = .ok (.goto (-36), 3) := dk_167 255 220 (dk_at dksX0_isRest_1 15 rfl rfl)
theorem dX0_isRest_41 : decode cX0_isRest 41 = .ok (.iconst 1, 1) := dk_4 (dk_at dksX0_isRest_1 18 rfl rfl)
theorem dX0_isRest_42 : decode cX0_isRest 42 = .ok (.ireturn, 1) := dk_172 (dk_at dksX0_isRest_1 19 rfl rfl)
abbrev cX0_see : ByteArray := prog_1_method_47_code
def yX0_see : MethodName := ⟨RX0, "see", "()I"⟩
def dkwX0_see_7 : List UInt8 := [29, 42, 7, 29, 104, 6, 96, 182, 1, 43, 79, 132, 3, 1, 167, 255, 189, 42, 180, 0, 151, 172]
abbrev dktX0_see_7 : List UInt8 := dkwX0_see_7 ++ []
def dkwX0_see_6 : List UInt8 := [7, 29, 104, 5, 96, 182, 1, 43, 104, 42, 7, 29, 104, 4, 96, 182, 1, 43, 96, 79, 42, 180, 0, 97]
abbrev dktX0_see_6 : List UInt8 := dkwX0_see_6 ++ dktX0_see_7
def dkwX0_see_5 : List UInt8 := [162, 0, 65, 42, 180, 0, 91, 29, 42, 7, 29, 104, 182, 1, 43, 79, 42, 180, 0, 94, 29, 16, 8, 42]
abbrev dktX0_see_5 : List UInt8 := dkwX0_see_5 ++ dktX0_see_6
def dkwX0_see_4 : List UInt8 := [28, 154, 0, 9, 42, 4, 182, 0, 118, 172, 42, 27, 7, 108, 181, 0, 151, 3, 62, 29, 42, 180, 0, 151]
abbrev dktX0_see_4 : List UInt8 := dkwX0_see_4 ++ dktX0_see_5
def dkwX0_see_3 : List UInt8 := [42, 29, 6, 96, 182, 1, 43, 16, 99, 163, 0, 7, 4, 167, 0, 4, 3, 61, 132, 3, 4, 167, 255, 195]
abbrev dktX0_see_3 : List UInt8 := dkwX0_see_3 ++ dktX0_see_4
def dkwX0_see_2 : List UInt8 := [163, 0, 40, 42, 42, 29, 4, 96, 182, 1, 43, 42, 29, 5, 96, 182, 1, 43, 182, 0, 181, 153, 0, 19]
abbrev dktX0_see_2 : List UInt8 := dkwX0_see_2 ++ dktX0_see_3
def dkwX0_see_1 : List UInt8 := [167, 0, 4, 3, 61, 3, 62, 29, 27, 162, 0, 62, 28, 153, 0, 58, 42, 29, 182, 1, 43, 16, 30]
abbrev dktX0_see_1 : List UInt8 := dkwX0_see_1 ++ dktX0_see_2
def dkwX0_see_0 : List UInt8 := [42, 182, 0, 129, 60, 27, 158, 0, 19, 27, 7, 112, 154, 0, 13, 27, 16, 64, 163, 0, 7, 4]
abbrev dktX0_see_0 : List UInt8 := dkwX0_see_0 ++ dktX0_see_1
theorem dksX0_see_0 : cX0_see.data.toList.drop 0 = dktX0_see_0 := by decide +kernel
theorem dksX0_see_1 : cX0_see.data.toList.drop 22 = dktX0_see_1 := dk_seg dksX0_see_0 22 rfl rfl
theorem dksX0_see_2 : cX0_see.data.toList.drop 45 = dktX0_see_2 := dk_seg dksX0_see_1 23 rfl rfl
theorem dksX0_see_3 : cX0_see.data.toList.drop 69 = dktX0_see_3 := dk_seg dksX0_see_2 24 rfl rfl
theorem dksX0_see_4 : cX0_see.data.toList.drop 93 = dktX0_see_4 := dk_seg dksX0_see_3 24 rfl rfl
theorem dksX0_see_5 : cX0_see.data.toList.drop 117 = dktX0_see_5 := dk_seg dksX0_see_4 24 rfl rfl
theorem dksX0_see_6 : cX0_see.data.toList.drop 141 = dktX0_see_6 := dk_seg dksX0_see_5 24 rfl rfl
theorem dksX0_see_7 : cX0_see.data.toList.drop 165 = dktX0_see_7 := dk_seg dksX0_see_6 24 rfl rfl
theorem dX0_see_0 : decode cX0_see 0 = .ok (.aload_n 0, 1) := dk_42 (dk_at dksX0_see_0 0 rfl rfl)
theorem dX0_see_1 : decode cX0_see 1 = .ok (.invokevirtual 129, 3) := dk_182 0 129 (dk_at dksX0_see_0 1 rfl rfl)
theorem dX0_see_4 : decode cX0_see 4 = .ok (.istore_n 1, 1) := dk_60 (dk_at dksX0_see_0 4 rfl rfl)
theorem dX0_see_5 : decode cX0_see 5 = .ok (.iload_n 1, 1) := dk_27 (dk_at dksX0_see_0 5 rfl rfl)
theorem dX0_see_6 : decode cX0_see 6 = .ok (.ifCond .le 19, 3) := dk_158 0 19 (dk_at dksX0_see_0 6 rfl rfl)
theorem dX0_see_9 : decode cX0_see 9 = .ok (.iload_n 1, 1) := dk_27 (dk_at dksX0_see_0 9 rfl rfl)
theorem dX0_see_10 : decode cX0_see 10 = .ok (.iconst 4, 1) := dk_7 (dk_at dksX0_see_0 10 rfl rfl)
theorem dX0_see_11 : decode cX0_see 11 = .ok (.irem, 1) := dk_112 (dk_at dksX0_see_0 11 rfl rfl)
theorem dX0_see_12 : decode cX0_see 12 = .ok (.ifCond .ne 13, 3) := dk_154 0 13 (dk_at dksX0_see_0 12 rfl rfl)
theorem dX0_see_15 : decode cX0_see 15 = .ok (.iload_n 1, 1) := dk_27 (dk_at dksX0_see_0 15 rfl rfl)
theorem dX0_see_16 : decode cX0_see 16 = .ok (.bipush 64, 2) := dk_16 64 (dk_at dksX0_see_0 16 rfl rfl)
theorem dX0_see_18 : decode cX0_see 18 = .ok (.if_icmp .gt 7, 3) := dk_163 0 7 (dk_at dksX0_see_0 18 rfl rfl)
theorem dX0_see_21 : decode cX0_see 21 = .ok (.iconst 1, 1) := dk_4 (dk_at dksX0_see_0 21 rfl rfl)
theorem dX0_see_22 : decode cX0_see 22 = .ok (.goto 4, 3) := dk_167 0 4 (dk_at dksX0_see_1 0 rfl rfl)
theorem dX0_see_25 : decode cX0_see 25 = .ok (.iconst 0, 1) := dk_3 (dk_at dksX0_see_1 3 rfl rfl)
theorem dX0_see_26 : decode cX0_see 26 = .ok (.istore_n 2, 1) := dk_61 (dk_at dksX0_see_1 4 rfl rfl)
theorem dX0_see_27 : decode cX0_see 27 = .ok (.iconst 0, 1) := dk_3 (dk_at dksX0_see_1 5 rfl rfl)
theorem dX0_see_28 : decode cX0_see 28 = .ok (.istore_n 3, 1) := dk_62 (dk_at dksX0_see_1 6 rfl rfl)
theorem dX0_see_29 : decode cX0_see 29 = .ok (.iload_n 3, 1) := dk_29 (dk_at dksX0_see_1 7 rfl rfl)
theorem dX0_see_30 : decode cX0_see 30 = .ok (.iload_n 1, 1) := dk_27 (dk_at dksX0_see_1 8 rfl rfl)
theorem dX0_see_31 : decode cX0_see 31 = .ok (.if_icmp .ge 62, 3) := dk_162 0 62 (dk_at dksX0_see_1 9 rfl rfl)
theorem dX0_see_34 : decode cX0_see 34 = .ok (.iload_n 2, 1) := dk_28 (dk_at dksX0_see_1 12 rfl rfl)
theorem dX0_see_35 : decode cX0_see 35 = .ok (.ifCond .eq 58, 3) := dk_153 0 58 (dk_at dksX0_see_1 13 rfl rfl)
theorem dX0_see_38 : decode cX0_see 38 = .ok (.aload_n 0, 1) := dk_42 (dk_at dksX0_see_1 16 rfl rfl)
theorem dX0_see_39 : decode cX0_see 39 = .ok (.iload_n 3, 1) := dk_29 (dk_at dksX0_see_1 17 rfl rfl)
theorem dX0_see_40 : decode cX0_see 40 = .ok (.invokevirtual 299, 3) := dk_182 1 43 (dk_at dksX0_see_1 18 rfl rfl)
theorem dX0_see_43 : decode cX0_see 43 = .ok (.bipush 30, 2) := dk_16 30 (dk_at dksX0_see_1 21 rfl rfl)
theorem dX0_see_45 : decode cX0_see 45 = .ok (.if_icmp .gt 40, 3) := dk_163 0 40 (dk_at dksX0_see_2 0 rfl rfl)
theorem dX0_see_48 : decode cX0_see 48 = .ok (.aload_n 0, 1) := dk_42 (dk_at dksX0_see_2 3 rfl rfl)
theorem dX0_see_49 : decode cX0_see 49 = .ok (.aload_n 0, 1) := dk_42 (dk_at dksX0_see_2 4 rfl rfl)
theorem dX0_see_50 : decode cX0_see 50 = .ok (.iload_n 3, 1) := dk_29 (dk_at dksX0_see_2 5 rfl rfl)
theorem dX0_see_51 : decode cX0_see 51 = .ok (.iconst 1, 1) := dk_4 (dk_at dksX0_see_2 6 rfl rfl)
theorem dX0_see_52 : decode cX0_see 52 = .ok (.iadd, 1) := dk_96 (dk_at dksX0_see_2 7 rfl rfl)
theorem dX0_see_53 : decode cX0_see 53 = .ok (.invokevirtual 299, 3) := dk_182 1 43 (dk_at dksX0_see_2 8 rfl rfl)
theorem dX0_see_56 : decode cX0_see 56 = .ok (.aload_n 0, 1) := dk_42 (dk_at dksX0_see_2 11 rfl rfl)
theorem dX0_see_57 : decode cX0_see 57 = .ok (.iload_n 3, 1) := dk_29 (dk_at dksX0_see_2 12 rfl rfl)
theorem dX0_see_58 : decode cX0_see 58 = .ok (.iconst 2, 1) := dk_5 (dk_at dksX0_see_2 13 rfl rfl)
theorem dX0_see_59 : decode cX0_see 59 = .ok (.iadd, 1) := dk_96 (dk_at dksX0_see_2 14 rfl rfl)
theorem dX0_see_60 : decode cX0_see 60 = .ok (.invokevirtual 299, 3) := dk_182 1 43 (dk_at dksX0_see_2 15 rfl rfl)
theorem dX0_see_63 : decode cX0_see 63 = .ok (.invokevirtual 181, 3) := dk_182 0 181 (dk_at dksX0_see_2 18 rfl rfl)
theorem dX0_see_66 : decode cX0_see 66 = .ok (.ifCond .eq 19, 3) := dk_153 0 19 (dk_at dksX0_see_2 21 rfl rfl)
theorem dX0_see_69 : decode cX0_see 69 = .ok (.aload_n 0, 1) := dk_42 (dk_at dksX0_see_3 0 rfl rfl)
theorem dX0_see_70 : decode cX0_see 70 = .ok (.iload_n 3, 1) := dk_29 (dk_at dksX0_see_3 1 rfl rfl)
theorem dX0_see_71 : decode cX0_see 71 = .ok (.iconst 3, 1) := dk_6 (dk_at dksX0_see_3 2 rfl rfl)
theorem dX0_see_72 : decode cX0_see 72 = .ok (.iadd, 1) := dk_96 (dk_at dksX0_see_3 3 rfl rfl)
theorem dX0_see_73 : decode cX0_see 73 = .ok (.invokevirtual 299, 3) := dk_182 1 43 (dk_at dksX0_see_3 4 rfl rfl)
theorem dX0_see_76 : decode cX0_see 76 = .ok (.bipush 99, 2) := dk_16 99 (dk_at dksX0_see_3 7 rfl rfl)
theorem dX0_see_78 : decode cX0_see 78 = .ok (.if_icmp .gt 7, 3) := dk_163 0 7 (dk_at dksX0_see_3 9 rfl rfl)
theorem dX0_see_81 : decode cX0_see 81 = .ok (.iconst 1, 1) := dk_4 (dk_at dksX0_see_3 12 rfl rfl)
theorem dX0_see_82 : decode cX0_see 82 = .ok (.goto 4, 3) := dk_167 0 4 (dk_at dksX0_see_3 13 rfl rfl)
theorem dX0_see_85 : decode cX0_see 85 = .ok (.iconst 0, 1) := dk_3 (dk_at dksX0_see_3 16 rfl rfl)
theorem dX0_see_86 : decode cX0_see 86 = .ok (.istore_n 2, 1) := dk_61 (dk_at dksX0_see_3 17 rfl rfl)
theorem dX0_see_87 : decode cX0_see 87 = .ok (.iinc 3 4, 3) := dk_132 3 4 (dk_at dksX0_see_3 18 rfl rfl)
theorem dX0_see_90 : decode cX0_see 90 = .ok (.goto (-61), 3) := dk_167 255 195 (dk_at dksX0_see_3 21 rfl rfl)
theorem dX0_see_93 : decode cX0_see 93 = .ok (.iload_n 2, 1) := dk_28 (dk_at dksX0_see_4 0 rfl rfl)
theorem dX0_see_94 : decode cX0_see 94 = .ok (.ifCond .ne 9, 3) := dk_154 0 9 (dk_at dksX0_see_4 1 rfl rfl)
theorem dX0_see_97 : decode cX0_see 97 = .ok (.aload_n 0, 1) := dk_42 (dk_at dksX0_see_4 4 rfl rfl)
theorem dX0_see_98 : decode cX0_see 98 = .ok (.iconst 1, 1) := dk_4 (dk_at dksX0_see_4 5 rfl rfl)
theorem dX0_see_99 : decode cX0_see 99 = .ok (.invokevirtual 118, 3) := dk_182 0 118 (dk_at dksX0_see_4 6 rfl rfl)
theorem dX0_see_102 : decode cX0_see 102 = .ok (.ireturn, 1) := dk_172 (dk_at dksX0_see_4 9 rfl rfl)
theorem dX0_see_103 : decode cX0_see 103 = .ok (.aload_n 0, 1) := dk_42 (dk_at dksX0_see_4 10 rfl rfl)
theorem dX0_see_104 : decode cX0_see 104 = .ok (.iload_n 1, 1) := dk_27 (dk_at dksX0_see_4 11 rfl rfl)
theorem dX0_see_105 : decode cX0_see 105 = .ok (.iconst 4, 1) := dk_7 (dk_at dksX0_see_4 12 rfl rfl)
theorem dX0_see_106 : decode cX0_see 106 = .ok (.idiv, 1) := dk_108 (dk_at dksX0_see_4 13 rfl rfl)
theorem dX0_see_107 : decode cX0_see 107 = .ok (.putfield 151, 3) := dk_181 0 151 (dk_at dksX0_see_4 14 rfl rfl)
theorem dX0_see_110 : decode cX0_see 110 = .ok (.iconst 0, 1) := dk_3 (dk_at dksX0_see_4 17 rfl rfl)
theorem dX0_see_111 : decode cX0_see 111 = .ok (.istore_n 3, 1) := dk_62 (dk_at dksX0_see_4 18 rfl rfl)
theorem dX0_see_112 : decode cX0_see 112 = .ok (.iload_n 3, 1) := dk_29 (dk_at dksX0_see_4 19 rfl rfl)
theorem dX0_see_113 : decode cX0_see 113 = .ok (.aload_n 0, 1) := dk_42 (dk_at dksX0_see_4 20 rfl rfl)
theorem dX0_see_114 : decode cX0_see 114 = .ok (.getfield 151, 3) := dk_180 0 151 (dk_at dksX0_see_4 21 rfl rfl)
theorem dX0_see_117 : decode cX0_see 117 = .ok (.if_icmp .ge 65, 3) := dk_162 0 65 (dk_at dksX0_see_5 0 rfl rfl)
theorem dX0_see_120 : decode cX0_see 120 = .ok (.aload_n 0, 1) := dk_42 (dk_at dksX0_see_5 3 rfl rfl)
theorem dX0_see_121 : decode cX0_see 121 = .ok (.getfield 91, 3) := dk_180 0 91 (dk_at dksX0_see_5 4 rfl rfl)
theorem dX0_see_124 : decode cX0_see 124 = .ok (.iload_n 3, 1) := dk_29 (dk_at dksX0_see_5 7 rfl rfl)
theorem dX0_see_125 : decode cX0_see 125 = .ok (.aload_n 0, 1) := dk_42 (dk_at dksX0_see_5 8 rfl rfl)
theorem dX0_see_126 : decode cX0_see 126 = .ok (.iconst 4, 1) := dk_7 (dk_at dksX0_see_5 9 rfl rfl)
theorem dX0_see_127 : decode cX0_see 127 = .ok (.iload_n 3, 1) := dk_29 (dk_at dksX0_see_5 10 rfl rfl)
theorem dX0_see_128 : decode cX0_see 128 = .ok (.imul, 1) := dk_104 (dk_at dksX0_see_5 11 rfl rfl)
theorem dX0_see_129 : decode cX0_see 129 = .ok (.invokevirtual 299, 3) := dk_182 1 43 (dk_at dksX0_see_5 12 rfl rfl)
theorem dX0_see_132 : decode cX0_see 132 = .ok (.iastore, 1) := dk_79 (dk_at dksX0_see_5 15 rfl rfl)
theorem dX0_see_133 : decode cX0_see 133 = .ok (.aload_n 0, 1) := dk_42 (dk_at dksX0_see_5 16 rfl rfl)
theorem dX0_see_134 : decode cX0_see 134 = .ok (.getfield 94, 3) := dk_180 0 94 (dk_at dksX0_see_5 17 rfl rfl)
theorem dX0_see_137 : decode cX0_see 137 = .ok (.iload_n 3, 1) := dk_29 (dk_at dksX0_see_5 20 rfl rfl)
theorem dX0_see_138 : decode cX0_see 138 = .ok (.bipush 8, 2) := dk_16 8 (dk_at dksX0_see_5 21 rfl rfl)
theorem dX0_see_140 : decode cX0_see 140 = .ok (.aload_n 0, 1) := dk_42 (dk_at dksX0_see_5 23 rfl rfl)
theorem dX0_see_141 : decode cX0_see 141 = .ok (.iconst 4, 1) := dk_7 (dk_at dksX0_see_6 0 rfl rfl)
theorem dX0_see_142 : decode cX0_see 142 = .ok (.iload_n 3, 1) := dk_29 (dk_at dksX0_see_6 1 rfl rfl)
theorem dX0_see_143 : decode cX0_see 143 = .ok (.imul, 1) := dk_104 (dk_at dksX0_see_6 2 rfl rfl)
theorem dX0_see_144 : decode cX0_see 144 = .ok (.iconst 2, 1) := dk_5 (dk_at dksX0_see_6 3 rfl rfl)
theorem dX0_see_145 : decode cX0_see 145 = .ok (.iadd, 1) := dk_96 (dk_at dksX0_see_6 4 rfl rfl)
theorem dX0_see_146 : decode cX0_see 146 = .ok (.invokevirtual 299, 3) := dk_182 1 43 (dk_at dksX0_see_6 5 rfl rfl)
theorem dX0_see_149 : decode cX0_see 149 = .ok (.imul, 1) := dk_104 (dk_at dksX0_see_6 8 rfl rfl)
theorem dX0_see_150 : decode cX0_see 150 = .ok (.aload_n 0, 1) := dk_42 (dk_at dksX0_see_6 9 rfl rfl)
theorem dX0_see_151 : decode cX0_see 151 = .ok (.iconst 4, 1) := dk_7 (dk_at dksX0_see_6 10 rfl rfl)
theorem dX0_see_152 : decode cX0_see 152 = .ok (.iload_n 3, 1) := dk_29 (dk_at dksX0_see_6 11 rfl rfl)
theorem dX0_see_153 : decode cX0_see 153 = .ok (.imul, 1) := dk_104 (dk_at dksX0_see_6 12 rfl rfl)
theorem dX0_see_154 : decode cX0_see 154 = .ok (.iconst 1, 1) := dk_4 (dk_at dksX0_see_6 13 rfl rfl)
theorem dX0_see_155 : decode cX0_see 155 = .ok (.iadd, 1) := dk_96 (dk_at dksX0_see_6 14 rfl rfl)
theorem dX0_see_156 : decode cX0_see 156 = .ok (.invokevirtual 299, 3) := dk_182 1 43 (dk_at dksX0_see_6 15 rfl rfl)
theorem dX0_see_159 : decode cX0_see 159 = .ok (.iadd, 1) := dk_96 (dk_at dksX0_see_6 18 rfl rfl)
theorem dX0_see_160 : decode cX0_see 160 = .ok (.iastore, 1) := dk_79 (dk_at dksX0_see_6 19 rfl rfl)
theorem dX0_see_161 : decode cX0_see 161 = .ok (.aload_n 0, 1) := dk_42 (dk_at dksX0_see_6 20 rfl rfl)
theorem dX0_see_162 : decode cX0_see 162 = .ok (.getfield 97, 3) := dk_180 0 97 (dk_at dksX0_see_6 21 rfl rfl)
theorem dX0_see_165 : decode cX0_see 165 = .ok (.iload_n 3, 1) := dk_29 (dk_at dksX0_see_7 0 rfl rfl)
theorem dX0_see_166 : decode cX0_see 166 = .ok (.aload_n 0, 1) := dk_42 (dk_at dksX0_see_7 1 rfl rfl)
theorem dX0_see_167 : decode cX0_see 167 = .ok (.iconst 4, 1) := dk_7 (dk_at dksX0_see_7 2 rfl rfl)
theorem dX0_see_168 : decode cX0_see 168 = .ok (.iload_n 3, 1) := dk_29 (dk_at dksX0_see_7 3 rfl rfl)
theorem dX0_see_169 : decode cX0_see 169 = .ok (.imul, 1) := dk_104 (dk_at dksX0_see_7 4 rfl rfl)
theorem dX0_see_170 : decode cX0_see 170 = .ok (.iconst 3, 1) := dk_6 (dk_at dksX0_see_7 5 rfl rfl)
theorem dX0_see_171 : decode cX0_see 171 = .ok (.iadd, 1) := dk_96 (dk_at dksX0_see_7 6 rfl rfl)
theorem dX0_see_172 : decode cX0_see 172 = .ok (.invokevirtual 299, 3) := dk_182 1 43 (dk_at dksX0_see_7 7 rfl rfl)
theorem dX0_see_175 : decode cX0_see 175 = .ok (.iastore, 1) := dk_79 (dk_at dksX0_see_7 10 rfl rfl)
theorem dX0_see_176 : decode cX0_see 176 = .ok (.iinc 3 1, 3) := dk_132 3 1 (dk_at dksX0_see_7 11 rfl rfl)
theorem dX0_see_179 : decode cX0_see 179 = .ok (.goto (-67), 3) := dk_167 255 189 (dk_at dksX0_see_7 14 rfl rfl)
theorem dX0_see_182 : decode cX0_see 182 = .ok (.aload_n 0, 1) := dk_42 (dk_at dksX0_see_7 17 rfl rfl)
theorem dX0_see_183 : decode cX0_see 183 = .ok (.getfield 151, 3) := dk_180 0 151 (dk_at dksX0_see_7 18 rfl rfl)
theorem dX0_see_186 : decode cX0_see 186 = .ok (.ireturn, 1) := dk_172 (dk_at dksX0_see_7 21 rfl rfl)
abbrev cX0_byteAt : ByteArray := prog_1_method_46_code
def yX0_byteAt : MethodName := ⟨RX0, "byteAt", "(I)I"⟩
def dkwX0_byteAt_0 : List UInt8 := [42, 180, 0, 35, 27, 51, 17, 0, 255, 126, 172]
abbrev dktX0_byteAt_0 : List UInt8 := dkwX0_byteAt_0 ++ []
theorem dksX0_byteAt_0 : cX0_byteAt.data.toList.drop 0 = dktX0_byteAt_0 := by decide +kernel
theorem dX0_byteAt_0 : decode cX0_byteAt 0 = .ok (.aload_n 0, 1) := dk_42 (dk_at dksX0_byteAt_0 0 rfl rfl)
theorem dX0_byteAt_1 : decode cX0_byteAt 1 = .ok (.getfield 35, 3) := dk_180 0 35 (dk_at dksX0_byteAt_0 1 rfl rfl)
theorem dX0_byteAt_4 : decode cX0_byteAt 4 = .ok (.iload_n 1, 1) := dk_27 (dk_at dksX0_byteAt_0 4 rfl rfl)
theorem dX0_byteAt_5 : decode cX0_byteAt 5 = .ok (.baload, 1) := dk_51 (dk_at dksX0_byteAt_0 5 rfl rfl)
theorem dX0_byteAt_6 : decode cX0_byteAt 6 = .ok (.sipush 255, 3) := dk_17 0 255 (dk_at dksX0_byteAt_0 6 rfl rfl)
theorem dX0_byteAt_9 : decode cX0_byteAt 9 = .ok (.iand, 1) := dk_126 (dk_at dksX0_byteAt_0 9 rfl rfl)
theorem dX0_byteAt_10 : decode cX0_byteAt 10 = .ok (.ireturn, 1) := dk_172 (dk_at dksX0_byteAt_0 10 rfl rfl)
abbrev cX0_who : ByteArray := prog_1_method_49_code
def yX0_who : MethodName := ⟨RX0, "who", "(I)I"⟩
def dkwX0_who_2 : List UInt8 := [172]
abbrev dktX0_who_2 : List UInt8 := dkwX0_who_2 ++ []
def dkwX0_who_1 : List UInt8 := [29, 27, 182, 1, 46, 153, 0, 9, 4, 29, 120, 167, 0, 4, 3, 128, 61, 132, 3, 1, 167, 255, 226, 28]
abbrev dktX0_who_1 : List UInt8 := dkwX0_who_1 ++ dktX0_who_2
def dkwX0_who_0 : List UInt8 := [42, 27, 182, 0, 233, 154, 0, 5, 2, 172, 3, 61, 3, 62, 29, 42, 182, 0, 174, 162, 0, 28, 28, 42]
abbrev dktX0_who_0 : List UInt8 := dkwX0_who_0 ++ dktX0_who_1
theorem dksX0_who_0 : cX0_who.data.toList.drop 0 = dktX0_who_0 := by decide +kernel
theorem dksX0_who_1 : cX0_who.data.toList.drop 24 = dktX0_who_1 := dk_seg dksX0_who_0 24 rfl rfl
theorem dksX0_who_2 : cX0_who.data.toList.drop 48 = dktX0_who_2 := dk_seg dksX0_who_1 24 rfl rfl
theorem dX0_who_0 : decode cX0_who 0 = .ok (.aload_n 0, 1) := dk_42 (dk_at dksX0_who_0 0 rfl rfl)
theorem dX0_who_1 : decode cX0_who 1 = .ok (.iload_n 1, 1) := dk_27 (dk_at dksX0_who_0 1 rfl rfl)
theorem dX0_who_2 : decode cX0_who 2 = .ok (.invokevirtual 233, 3) := dk_182 0 233 (dk_at dksX0_who_0 2 rfl rfl)
theorem dX0_who_5 : decode cX0_who 5 = .ok (.ifCond .ne 5, 3) := dk_154 0 5 (dk_at dksX0_who_0 5 rfl rfl)
theorem dX0_who_8 : decode cX0_who 8 = .ok (.iconst (-1), 1) := dk_2 (dk_at dksX0_who_0 8 rfl rfl)
theorem dX0_who_9 : decode cX0_who 9 = .ok (.ireturn, 1) := dk_172 (dk_at dksX0_who_0 9 rfl rfl)
theorem dX0_who_10 : decode cX0_who 10 = .ok (.iconst 0, 1) := dk_3 (dk_at dksX0_who_0 10 rfl rfl)
theorem dX0_who_11 : decode cX0_who 11 = .ok (.istore_n 2, 1) := dk_61 (dk_at dksX0_who_0 11 rfl rfl)
theorem dX0_who_12 : decode cX0_who 12 = .ok (.iconst 0, 1) := dk_3 (dk_at dksX0_who_0 12 rfl rfl)
theorem dX0_who_13 : decode cX0_who 13 = .ok (.istore_n 3, 1) := dk_62 (dk_at dksX0_who_0 13 rfl rfl)
theorem dX0_who_14 : decode cX0_who 14 = .ok (.iload_n 3, 1) := dk_29 (dk_at dksX0_who_0 14 rfl rfl)
theorem dX0_who_15 : decode cX0_who 15 = .ok (.aload_n 0, 1) := dk_42 (dk_at dksX0_who_0 15 rfl rfl)
theorem dX0_who_16 : decode cX0_who 16 = .ok (.invokevirtual 174, 3) := dk_182 0 174 (dk_at dksX0_who_0 16 rfl rfl)
theorem dX0_who_19 : decode cX0_who 19 = .ok (.if_icmp .ge 28, 3) := dk_162 0 28 (dk_at dksX0_who_0 19 rfl rfl)
theorem dX0_who_22 : decode cX0_who 22 = .ok (.iload_n 2, 1) := dk_28 (dk_at dksX0_who_0 22 rfl rfl)
theorem dX0_who_23 : decode cX0_who 23 = .ok (.aload_n 0, 1) := dk_42 (dk_at dksX0_who_0 23 rfl rfl)
theorem dX0_who_24 : decode cX0_who 24 = .ok (.iload_n 3, 1) := dk_29 (dk_at dksX0_who_1 0 rfl rfl)
theorem dX0_who_25 : decode cX0_who 25 = .ok (.iload_n 1, 1) := dk_27 (dk_at dksX0_who_1 1 rfl rfl)
theorem dX0_who_26 : decode cX0_who 26 = .ok (.invokevirtual 302, 3) := dk_182 1 46 (dk_at dksX0_who_1 2 rfl rfl)
theorem dX0_who_29 : decode cX0_who 29 = .ok (.ifCond .eq 9, 3) := dk_153 0 9 (dk_at dksX0_who_1 5 rfl rfl)
theorem dX0_who_32 : decode cX0_who 32 = .ok (.iconst 1, 1) := dk_4 (dk_at dksX0_who_1 8 rfl rfl)
theorem dX0_who_33 : decode cX0_who 33 = .ok (.iload_n 3, 1) := dk_29 (dk_at dksX0_who_1 9 rfl rfl)
theorem dX0_who_34 : decode cX0_who 34 = .ok (.ishl, 1) := dk_120 (dk_at dksX0_who_1 10 rfl rfl)
theorem dX0_who_35 : decode cX0_who 35 = .ok (.goto 4, 3) := dk_167 0 4 (dk_at dksX0_who_1 11 rfl rfl)
theorem dX0_who_38 : decode cX0_who 38 = .ok (.iconst 0, 1) := dk_3 (dk_at dksX0_who_1 14 rfl rfl)
theorem dX0_who_39 : decode cX0_who 39 = .ok (.ior, 1) := dk_128 (dk_at dksX0_who_1 15 rfl rfl)
theorem dX0_who_40 : decode cX0_who 40 = .ok (.istore_n 2, 1) := dk_61 (dk_at dksX0_who_1 16 rfl rfl)
theorem dX0_who_41 : decode cX0_who 41 = .ok (.iinc 3 1, 3) := dk_132 3 1 (dk_at dksX0_who_1 17 rfl rfl)
theorem dX0_who_44 : decode cX0_who 44 = .ok (.goto (-30), 3) := dk_167 255 226 (dk_at dksX0_who_1 20 rfl rfl)
theorem dX0_who_47 : decode cX0_who 47 = .ok (.iload_n 2, 1) := dk_28 (dk_at dksX0_who_1 23 rfl rfl)
theorem dX0_who_48 : decode cX0_who 48 = .ok (.ireturn, 1) := dk_172 (dk_at dksX0_who_2 0 rfl rfl)
abbrev cX0_wasAsked : ByteArray := prog_1_method_48_code
def yX0_wasAsked : MethodName := ⟨RX0, "wasAsked", "(II)Z"⟩
def dkwX0_wasAsked_6 : List UInt8 := [182, 1, 1, 87, 132, 4, 1, 167, 255, 132, 29, 42, 180, 0, 151, 160, 0, 7, 4, 167, 0, 4, 3, 172]
abbrev dktX0_wasAsked_6 : List UInt8 := dkwX0_wasAsked_6 ++ []
def dkwX0_wasAsked_5 : List UInt8 := [21, 5, 46, 160, 0, 7, 4, 167, 0, 4, 3, 96, 62, 132, 5, 1, 167, 255, 199, 42, 180, 0, 73]
abbrev dktX0_wasAsked_5 : List UInt8 := dkwX0_wasAsked_5 ++ dktX0_wasAsked_6
def dkwX0_wasAsked_4 : List UInt8 := [21, 4, 160, 0, 32, 42, 180, 0, 73, 180, 0, 198, 42, 180, 0, 94, 21, 5, 46, 46, 42, 180, 0, 97]
abbrev dktX0_wasAsked_4 : List UInt8 := dkwX0_wasAsked_4 ++ dktX0_wasAsked_5
def dkwX0_wasAsked_3 : List UInt8 := [167, 255, 224, 3, 54, 5, 21, 5, 42, 180, 0, 151, 162, 0, 54, 29, 42, 180, 0, 91, 21, 5, 46]
abbrev dktX0_wasAsked_3 : List UInt8 := dkwX0_wasAsked_3 ++ dktX0_wasAsked_4
def dkwX0_wasAsked_2 : List UInt8 := [180, 0, 102, 27, 50, 21, 4, 50, 21, 5, 42, 180, 0, 73, 180, 0, 198, 21, 5, 46, 79, 132, 5, 1]
abbrev dktX0_wasAsked_2 : List UInt8 := dkwX0_wasAsked_2 ++ dktX0_wasAsked_3
def dkwX0_wasAsked_1 : List UInt8 := [21, 4, 3, 16, 30, 182, 0, 246, 153, 0, 118, 3, 54, 5, 21, 5, 16, 64, 162, 0, 31, 42]
abbrev dktX0_wasAsked_1 : List UInt8 := dkwX0_wasAsked_1 ++ dktX0_wasAsked_2
def dkwX0_wasAsked_0 : List UInt8 := [42, 180, 0, 73, 42, 180, 0, 69, 182, 0, 249, 27, 28, 182, 1, 4, 87, 3, 62, 3, 54, 4, 42]
abbrev dktX0_wasAsked_0 : List UInt8 := dkwX0_wasAsked_0 ++ dktX0_wasAsked_1
theorem dksX0_wasAsked_0 : cX0_wasAsked.data.toList.drop 0 = dktX0_wasAsked_0 := by decide +kernel
theorem dksX0_wasAsked_1 : cX0_wasAsked.data.toList.drop 23 = dktX0_wasAsked_1 := dk_seg dksX0_wasAsked_0 23 rfl rfl
theorem dksX0_wasAsked_2 : cX0_wasAsked.data.toList.drop 45 = dktX0_wasAsked_2 := dk_seg dksX0_wasAsked_1 22 rfl rfl
theorem dksX0_wasAsked_3 : cX0_wasAsked.data.toList.drop 69 = dktX0_wasAsked_3 := dk_seg dksX0_wasAsked_2 24 rfl rfl
theorem dksX0_wasAsked_4 : cX0_wasAsked.data.toList.drop 92 = dktX0_wasAsked_4 := dk_seg dksX0_wasAsked_3 23 rfl rfl
theorem dksX0_wasAsked_5 : cX0_wasAsked.data.toList.drop 116 = dktX0_wasAsked_5 := dk_seg dksX0_wasAsked_4 24 rfl rfl
theorem dksX0_wasAsked_6 : cX0_wasAsked.data.toList.drop 139 = dktX0_wasAsked_6 := dk_seg dksX0_wasAsked_5 23 rfl rfl
theorem dX0_wasAsked_0 : decode cX0_wasAsked 0 = .ok (.aload_n 0, 1) := dk_42 (dk_at dksX0_wasAsked_0 0 rfl rfl)
theorem dX0_wasAsked_1 : decode cX0_wasAsked 1 = .ok (.getfield 73, 3) := dk_180 0 73 (dk_at dksX0_wasAsked_0 1 rfl rfl)
theorem dX0_wasAsked_4 : decode cX0_wasAsked 4 = .ok (.aload_n 0, 1) := dk_42 (dk_at dksX0_wasAsked_0 4 rfl rfl)
theorem dX0_wasAsked_5 : decode cX0_wasAsked 5 = .ok (.getfield 69, 3) := dk_180 0 69 (dk_at dksX0_wasAsked_0 5 rfl rfl)
theorem dX0_wasAsked_8 : decode cX0_wasAsked 8 = .ok (.invokevirtual 249, 3) := dk_182 0 249 (dk_at dksX0_wasAsked_0 8 rfl rfl)
theorem dX0_wasAsked_11 : decode cX0_wasAsked 11 = .ok (.iload_n 1, 1) := dk_27 (dk_at dksX0_wasAsked_0 11 rfl rfl)
theorem dX0_wasAsked_12 : decode cX0_wasAsked 12 = .ok (.iload_n 2, 1) := dk_28 (dk_at dksX0_wasAsked_0 12 rfl rfl)
theorem dX0_wasAsked_13 : decode cX0_wasAsked 13 = .ok (.invokevirtual 260, 3) := dk_182 1 4 (dk_at dksX0_wasAsked_0 13 rfl rfl)
theorem dX0_wasAsked_16 : decode cX0_wasAsked 16 = .ok (.pop, 1) := dk_87 (dk_at dksX0_wasAsked_0 16 rfl rfl)
theorem dX0_wasAsked_17 : decode cX0_wasAsked 17 = .ok (.iconst 0, 1) := dk_3 (dk_at dksX0_wasAsked_0 17 rfl rfl)
theorem dX0_wasAsked_18 : decode cX0_wasAsked 18 = .ok (.istore_n 3, 1) := dk_62 (dk_at dksX0_wasAsked_0 18 rfl rfl)
theorem dX0_wasAsked_19 : decode cX0_wasAsked 19 = .ok (.iconst 0, 1) := dk_3 (dk_at dksX0_wasAsked_0 19 rfl rfl)
theorem dX0_wasAsked_20 : decode cX0_wasAsked 20 = .ok (.istore 4, 2) := dk_54 4 (dk_at dksX0_wasAsked_0 20 rfl rfl)
theorem dX0_wasAsked_22 : decode cX0_wasAsked 22 = .ok (.aload_n 0, 1) := dk_42 (dk_at dksX0_wasAsked_0 22 rfl rfl)
theorem dX0_wasAsked_23 : decode cX0_wasAsked 23 = .ok (.iload 4, 2) := dk_21 4 (dk_at dksX0_wasAsked_1 0 rfl rfl)
theorem dX0_wasAsked_25 : decode cX0_wasAsked 25 = .ok (.iconst 0, 1) := dk_3 (dk_at dksX0_wasAsked_1 2 rfl rfl)
theorem dX0_wasAsked_26 : decode cX0_wasAsked 26 = .ok (.bipush 30, 2) := dk_16 30 (dk_at dksX0_wasAsked_1 3 rfl rfl)
theorem dX0_wasAsked_28 : decode cX0_wasAsked 28 = .ok (.invokevirtual 246, 3) := dk_182 0 246 (dk_at dksX0_wasAsked_1 5 rfl rfl)
theorem dX0_wasAsked_31 : decode cX0_wasAsked 31 = .ok (.ifCond .eq 118, 3) := dk_153 0 118 (dk_at dksX0_wasAsked_1 8 rfl rfl)
theorem dX0_wasAsked_34 : decode cX0_wasAsked 34 = .ok (.iconst 0, 1) := dk_3 (dk_at dksX0_wasAsked_1 11 rfl rfl)
theorem dX0_wasAsked_35 : decode cX0_wasAsked 35 = .ok (.istore 5, 2) := dk_54 5 (dk_at dksX0_wasAsked_1 12 rfl rfl)
theorem dX0_wasAsked_37 : decode cX0_wasAsked 37 = .ok (.iload 5, 2) := dk_21 5 (dk_at dksX0_wasAsked_1 14 rfl rfl)
theorem dX0_wasAsked_39 : decode cX0_wasAsked 39 = .ok (.bipush 64, 2) := dk_16 64 (dk_at dksX0_wasAsked_1 16 rfl rfl)
theorem dX0_wasAsked_41 : decode cX0_wasAsked 41 = .ok (.if_icmp .ge 31, 3) := dk_162 0 31 (dk_at dksX0_wasAsked_1 18 rfl rfl)
theorem dX0_wasAsked_44 : decode cX0_wasAsked 44 = .ok (.aload_n 0, 1) := dk_42 (dk_at dksX0_wasAsked_1 21 rfl rfl)
theorem dX0_wasAsked_45 : decode cX0_wasAsked 45 = .ok (.getfield 102, 3) := dk_180 0 102 (dk_at dksX0_wasAsked_2 0 rfl rfl)
theorem dX0_wasAsked_48 : decode cX0_wasAsked 48 = .ok (.iload_n 1, 1) := dk_27 (dk_at dksX0_wasAsked_2 3 rfl rfl)
theorem dX0_wasAsked_49 : decode cX0_wasAsked 49 = .ok (.aaload, 1) := dk_50 (dk_at dksX0_wasAsked_2 4 rfl rfl)
theorem dX0_wasAsked_50 : decode cX0_wasAsked 50 = .ok (.iload 4, 2) := dk_21 4 (dk_at dksX0_wasAsked_2 5 rfl rfl)
theorem dX0_wasAsked_52 : decode cX0_wasAsked 52 = .ok (.aaload, 1) := dk_50 (dk_at dksX0_wasAsked_2 7 rfl rfl)
theorem dX0_wasAsked_53 : decode cX0_wasAsked 53 = .ok (.iload 5, 2) := dk_21 5 (dk_at dksX0_wasAsked_2 8 rfl rfl)
theorem dX0_wasAsked_55 : decode cX0_wasAsked 55 = .ok (.aload_n 0, 1) := dk_42 (dk_at dksX0_wasAsked_2 10 rfl rfl)
theorem dX0_wasAsked_56 : decode cX0_wasAsked 56 = .ok (.getfield 73, 3) := dk_180 0 73 (dk_at dksX0_wasAsked_2 11 rfl rfl)
theorem dX0_wasAsked_59 : decode cX0_wasAsked 59 = .ok (.getfield 198, 3) := dk_180 0 198 (dk_at dksX0_wasAsked_2 14 rfl rfl)
theorem dX0_wasAsked_62 : decode cX0_wasAsked 62 = .ok (.iload 5, 2) := dk_21 5 (dk_at dksX0_wasAsked_2 17 rfl rfl)
theorem dX0_wasAsked_64 : decode cX0_wasAsked 64 = .ok (.iaload, 1) := dk_46 (dk_at dksX0_wasAsked_2 19 rfl rfl)
theorem dX0_wasAsked_65 : decode cX0_wasAsked 65 = .ok (.iastore, 1) := dk_79 (dk_at dksX0_wasAsked_2 20 rfl rfl)
theorem dX0_wasAsked_66 : decode cX0_wasAsked 66 = .ok (.iinc 5 1, 3) := dk_132 5 1 (dk_at dksX0_wasAsked_2 21 rfl rfl)
theorem dX0_wasAsked_69 : decode cX0_wasAsked 69 = .ok (.goto (-32), 3) := dk_167 255 224 (dk_at dksX0_wasAsked_3 0 rfl rfl)
theorem dX0_wasAsked_72 : decode cX0_wasAsked 72 = .ok (.iconst 0, 1) := dk_3 (dk_at dksX0_wasAsked_3 3 rfl rfl)
theorem dX0_wasAsked_73 : decode cX0_wasAsked 73 = .ok (.istore 5, 2) := dk_54 5 (dk_at dksX0_wasAsked_3 4 rfl rfl)
theorem dX0_wasAsked_75 : decode cX0_wasAsked 75 = .ok (.iload 5, 2) := dk_21 5 (dk_at dksX0_wasAsked_3 6 rfl rfl)
theorem dX0_wasAsked_77 : decode cX0_wasAsked 77 = .ok (.aload_n 0, 1) := dk_42 (dk_at dksX0_wasAsked_3 8 rfl rfl)
theorem dX0_wasAsked_78 : decode cX0_wasAsked 78 = .ok (.getfield 151, 3) := dk_180 0 151 (dk_at dksX0_wasAsked_3 9 rfl rfl)
theorem dX0_wasAsked_81 : decode cX0_wasAsked 81 = .ok (.if_icmp .ge 54, 3) := dk_162 0 54 (dk_at dksX0_wasAsked_3 12 rfl rfl)
theorem dX0_wasAsked_84 : decode cX0_wasAsked 84 = .ok (.iload_n 3, 1) := dk_29 (dk_at dksX0_wasAsked_3 15 rfl rfl)
theorem dX0_wasAsked_85 : decode cX0_wasAsked 85 = .ok (.aload_n 0, 1) := dk_42 (dk_at dksX0_wasAsked_3 16 rfl rfl)
theorem dX0_wasAsked_86 : decode cX0_wasAsked 86 = .ok (.getfield 91, 3) := dk_180 0 91 (dk_at dksX0_wasAsked_3 17 rfl rfl)
theorem dX0_wasAsked_89 : decode cX0_wasAsked 89 = .ok (.iload 5, 2) := dk_21 5 (dk_at dksX0_wasAsked_3 20 rfl rfl)
theorem dX0_wasAsked_91 : decode cX0_wasAsked 91 = .ok (.iaload, 1) := dk_46 (dk_at dksX0_wasAsked_3 22 rfl rfl)
theorem dX0_wasAsked_92 : decode cX0_wasAsked 92 = .ok (.iload 4, 2) := dk_21 4 (dk_at dksX0_wasAsked_4 0 rfl rfl)
theorem dX0_wasAsked_94 : decode cX0_wasAsked 94 = .ok (.if_icmp .ne 32, 3) := dk_160 0 32 (dk_at dksX0_wasAsked_4 2 rfl rfl)
theorem dX0_wasAsked_97 : decode cX0_wasAsked 97 = .ok (.aload_n 0, 1) := dk_42 (dk_at dksX0_wasAsked_4 5 rfl rfl)
theorem dX0_wasAsked_98 : decode cX0_wasAsked 98 = .ok (.getfield 73, 3) := dk_180 0 73 (dk_at dksX0_wasAsked_4 6 rfl rfl)
theorem dX0_wasAsked_101 : decode cX0_wasAsked 101 = .ok (.getfield 198, 3) := dk_180 0 198 (dk_at dksX0_wasAsked_4 9 rfl rfl)
theorem dX0_wasAsked_104 : decode cX0_wasAsked 104 = .ok (.aload_n 0, 1) := dk_42 (dk_at dksX0_wasAsked_4 12 rfl rfl)
theorem dX0_wasAsked_105 : decode cX0_wasAsked 105 = .ok (.getfield 94, 3) := dk_180 0 94 (dk_at dksX0_wasAsked_4 13 rfl rfl)
theorem dX0_wasAsked_108 : decode cX0_wasAsked 108 = .ok (.iload 5, 2) := dk_21 5 (dk_at dksX0_wasAsked_4 16 rfl rfl)
theorem dX0_wasAsked_110 : decode cX0_wasAsked 110 = .ok (.iaload, 1) := dk_46 (dk_at dksX0_wasAsked_4 18 rfl rfl)
theorem dX0_wasAsked_111 : decode cX0_wasAsked 111 = .ok (.iaload, 1) := dk_46 (dk_at dksX0_wasAsked_4 19 rfl rfl)
theorem dX0_wasAsked_112 : decode cX0_wasAsked 112 = .ok (.aload_n 0, 1) := dk_42 (dk_at dksX0_wasAsked_4 20 rfl rfl)
theorem dX0_wasAsked_113 : decode cX0_wasAsked 113 = .ok (.getfield 97, 3) := dk_180 0 97 (dk_at dksX0_wasAsked_4 21 rfl rfl)
theorem dX0_wasAsked_116 : decode cX0_wasAsked 116 = .ok (.iload 5, 2) := dk_21 5 (dk_at dksX0_wasAsked_5 0 rfl rfl)
theorem dX0_wasAsked_118 : decode cX0_wasAsked 118 = .ok (.iaload, 1) := dk_46 (dk_at dksX0_wasAsked_5 2 rfl rfl)
theorem dX0_wasAsked_119 : decode cX0_wasAsked 119 = .ok (.if_icmp .ne 7, 3) := dk_160 0 7 (dk_at dksX0_wasAsked_5 3 rfl rfl)
theorem dX0_wasAsked_122 : decode cX0_wasAsked 122 = .ok (.iconst 1, 1) := dk_4 (dk_at dksX0_wasAsked_5 6 rfl rfl)
theorem dX0_wasAsked_123 : decode cX0_wasAsked 123 = .ok (.goto 4, 3) := dk_167 0 4 (dk_at dksX0_wasAsked_5 7 rfl rfl)
theorem dX0_wasAsked_126 : decode cX0_wasAsked 126 = .ok (.iconst 0, 1) := dk_3 (dk_at dksX0_wasAsked_5 10 rfl rfl)
theorem dX0_wasAsked_127 : decode cX0_wasAsked 127 = .ok (.iadd, 1) := dk_96 (dk_at dksX0_wasAsked_5 11 rfl rfl)
theorem dX0_wasAsked_128 : decode cX0_wasAsked 128 = .ok (.istore_n 3, 1) := dk_62 (dk_at dksX0_wasAsked_5 12 rfl rfl)
theorem dX0_wasAsked_129 : decode cX0_wasAsked 129 = .ok (.iinc 5 1, 3) := dk_132 5 1 (dk_at dksX0_wasAsked_5 13 rfl rfl)
theorem dX0_wasAsked_132 : decode cX0_wasAsked 132 = .ok (.goto (-57), 3) := dk_167 255 199 (dk_at dksX0_wasAsked_5 16 rfl rfl)
theorem dX0_wasAsked_135 : decode cX0_wasAsked 135 = .ok (.aload_n 0, 1) := dk_42 (dk_at dksX0_wasAsked_5 19 rfl rfl)
theorem dX0_wasAsked_136 : decode cX0_wasAsked 136 = .ok (.getfield 73, 3) := dk_180 0 73 (dk_at dksX0_wasAsked_5 20 rfl rfl)
theorem dX0_wasAsked_139 : decode cX0_wasAsked 139 = .ok (.invokevirtual 257, 3) := dk_182 1 1 (dk_at dksX0_wasAsked_6 0 rfl rfl)
theorem dX0_wasAsked_142 : decode cX0_wasAsked 142 = .ok (.pop, 1) := dk_87 (dk_at dksX0_wasAsked_6 3 rfl rfl)
theorem dX0_wasAsked_143 : decode cX0_wasAsked 143 = .ok (.iinc 4 1, 3) := dk_132 4 1 (dk_at dksX0_wasAsked_6 4 rfl rfl)
theorem dX0_wasAsked_146 : decode cX0_wasAsked 146 = .ok (.goto (-124), 3) := dk_167 255 132 (dk_at dksX0_wasAsked_6 7 rfl rfl)
theorem dX0_wasAsked_149 : decode cX0_wasAsked 149 = .ok (.iload_n 3, 1) := dk_29 (dk_at dksX0_wasAsked_6 10 rfl rfl)
theorem dX0_wasAsked_150 : decode cX0_wasAsked 150 = .ok (.aload_n 0, 1) := dk_42 (dk_at dksX0_wasAsked_6 11 rfl rfl)
theorem dX0_wasAsked_151 : decode cX0_wasAsked 151 = .ok (.getfield 151, 3) := dk_180 0 151 (dk_at dksX0_wasAsked_6 12 rfl rfl)
theorem dX0_wasAsked_154 : decode cX0_wasAsked 154 = .ok (.if_icmp .ne 7, 3) := dk_160 0 7 (dk_at dksX0_wasAsked_6 15 rfl rfl)
theorem dX0_wasAsked_157 : decode cX0_wasAsked 157 = .ok (.iconst 1, 1) := dk_4 (dk_at dksX0_wasAsked_6 18 rfl rfl)
theorem dX0_wasAsked_158 : decode cX0_wasAsked 158 = .ok (.goto 4, 3) := dk_167 0 4 (dk_at dksX0_wasAsked_6 19 rfl rfl)
theorem dX0_wasAsked_161 : decode cX0_wasAsked 161 = .ok (.iconst 0, 1) := dk_3 (dk_at dksX0_wasAsked_6 22 rfl rfl)
theorem dX0_wasAsked_162 : decode cX0_wasAsked 162 = .ok (.ireturn, 1) := dk_172 (dk_at dksX0_wasAsked_6 23 rfl rfl)
abbrev cX0_tells : ByteArray := prog_1_method_51_code
def yX0_tells : MethodName := ⟨RX0, "tells", "(II)I"⟩
def dkwX0_tells_6 : List UInt8 := [167, 0, 5, 21, 5, 172]
abbrev dktX0_tells_6 : List UInt8 := dkwX0_tells_6 ++ []
def dkwX0_tells_5 : List UInt8 := [28, 154, 0, 11, 21, 4, 16, 64, 108, 167, 0, 18, 28, 4, 160, 0, 11, 21, 4, 16, 64, 112]
abbrev dktX0_tells_5 : List UInt8 := dkwX0_tells_5 ++ dktX0_tells_6
def dkwX0_tells_4 : List UInt8 := [54, 5, 16, 64, 21, 6, 104, 21, 7, 96, 54, 4, 132, 7, 1, 167, 255, 196, 132, 6, 1, 167, 255, 175]
abbrev dktX0_tells_4 : List UInt8 := dkwX0_tells_4 ++ dktX0_tells_5
def dkwX0_tells_3 : List UInt8 := [182, 1, 57, 167, 0, 6, 19, 1, 10, 54, 8, 21, 8, 21, 5, 161, 0, 6, 167, 0, 17, 21, 8]
abbrev dktX0_tells_3 : List UInt8 := dkwX0_tells_3 ++ dktX0_tells_4
def dkwX0_tells_2 : List UInt8 := [21, 7, 16, 64, 162, 0, 59, 42, 21, 7, 182, 0, 194, 153, 0, 15, 42, 29, 21, 6, 21, 7]
abbrev dktX0_tells_2 : List UInt8 := dkwX0_tells_2 ++ dktX0_tells_3
def dkwX0_tells_1 : List UInt8 := [19, 1, 10, 54, 5, 3, 54, 6, 42, 21, 6, 3, 16, 30, 182, 0, 246, 153, 0, 75, 3, 54, 7]
abbrev dktX0_tells_1 : List UInt8 := dkwX0_tells_1 ++ dktX0_tells_2
def dkwX0_tells_0 : List UInt8 := [42, 27, 182, 1, 54, 62, 29, 158, 0, 12, 28, 3, 5, 184, 0, 176, 154, 0, 5, 2, 172, 2, 54, 4]
abbrev dktX0_tells_0 : List UInt8 := dkwX0_tells_0 ++ dktX0_tells_1
theorem dksX0_tells_0 : cX0_tells.data.toList.drop 0 = dktX0_tells_0 := by decide +kernel
theorem dksX0_tells_1 : cX0_tells.data.toList.drop 24 = dktX0_tells_1 := dk_seg dksX0_tells_0 24 rfl rfl
theorem dksX0_tells_2 : cX0_tells.data.toList.drop 47 = dktX0_tells_2 := dk_seg dksX0_tells_1 23 rfl rfl
theorem dksX0_tells_3 : cX0_tells.data.toList.drop 69 = dktX0_tells_3 := dk_seg dksX0_tells_2 22 rfl rfl
theorem dksX0_tells_4 : cX0_tells.data.toList.drop 92 = dktX0_tells_4 := dk_seg dksX0_tells_3 23 rfl rfl
theorem dksX0_tells_5 : cX0_tells.data.toList.drop 116 = dktX0_tells_5 := dk_seg dksX0_tells_4 24 rfl rfl
theorem dksX0_tells_6 : cX0_tells.data.toList.drop 138 = dktX0_tells_6 := dk_seg dksX0_tells_5 22 rfl rfl
theorem dX0_tells_0 : decode cX0_tells 0 = .ok (.aload_n 0, 1) := dk_42 (dk_at dksX0_tells_0 0 rfl rfl)
theorem dX0_tells_1 : decode cX0_tells 1 = .ok (.iload_n 1, 1) := dk_27 (dk_at dksX0_tells_0 1 rfl rfl)
theorem dX0_tells_2 : decode cX0_tells 2 = .ok (.invokevirtual 310, 3) := dk_182 1 54 (dk_at dksX0_tells_0 2 rfl rfl)
theorem dX0_tells_5 : decode cX0_tells 5 = .ok (.istore_n 3, 1) := dk_62 (dk_at dksX0_tells_0 5 rfl rfl)
theorem dX0_tells_6 : decode cX0_tells 6 = .ok (.iload_n 3, 1) := dk_29 (dk_at dksX0_tells_0 6 rfl rfl)
theorem dX0_tells_7 : decode cX0_tells 7 = .ok (.ifCond .le 12, 3) := dk_158 0 12 (dk_at dksX0_tells_0 7 rfl rfl)
theorem dX0_tells_10 : decode cX0_tells 10 = .ok (.iload_n 2, 1) := dk_28 (dk_at dksX0_tells_0 10 rfl rfl)
theorem dX0_tells_11 : decode cX0_tells 11 = .ok (.iconst 0, 1) := dk_3 (dk_at dksX0_tells_0 11 rfl rfl)
theorem dX0_tells_12 : decode cX0_tells 12 = .ok (.iconst 2, 1) := dk_5 (dk_at dksX0_tells_0 12 rfl rfl)
theorem dX0_tells_13 : decode cX0_tells 13 = .ok (.invokestatic 176, 3) := dk_184 0 176 (dk_at dksX0_tells_0 13 rfl rfl)
theorem dX0_tells_16 : decode cX0_tells 16 = .ok (.ifCond .ne 5, 3) := dk_154 0 5 (dk_at dksX0_tells_0 16 rfl rfl)
theorem dX0_tells_19 : decode cX0_tells 19 = .ok (.iconst (-1), 1) := dk_2 (dk_at dksX0_tells_0 19 rfl rfl)
theorem dX0_tells_20 : decode cX0_tells 20 = .ok (.ireturn, 1) := dk_172 (dk_at dksX0_tells_0 20 rfl rfl)
theorem dX0_tells_21 : decode cX0_tells 21 = .ok (.iconst (-1), 1) := dk_2 (dk_at dksX0_tells_0 21 rfl rfl)
theorem dX0_tells_22 : decode cX0_tells 22 = .ok (.istore 4, 2) := dk_54 4 (dk_at dksX0_tells_0 22 rfl rfl)
theorem dX0_tells_24 : decode cX0_tells 24 = .ok (.ldc_w 266, 3) := dk_19 1 10 (dk_at dksX0_tells_1 0 rfl rfl)
theorem dX0_tells_27 : decode cX0_tells 27 = .ok (.istore 5, 2) := dk_54 5 (dk_at dksX0_tells_1 3 rfl rfl)
theorem dX0_tells_29 : decode cX0_tells 29 = .ok (.iconst 0, 1) := dk_3 (dk_at dksX0_tells_1 5 rfl rfl)
theorem dX0_tells_30 : decode cX0_tells 30 = .ok (.istore 6, 2) := dk_54 6 (dk_at dksX0_tells_1 6 rfl rfl)
theorem dX0_tells_32 : decode cX0_tells 32 = .ok (.aload_n 0, 1) := dk_42 (dk_at dksX0_tells_1 8 rfl rfl)
theorem dX0_tells_33 : decode cX0_tells 33 = .ok (.iload 6, 2) := dk_21 6 (dk_at dksX0_tells_1 9 rfl rfl)
theorem dX0_tells_35 : decode cX0_tells 35 = .ok (.iconst 0, 1) := dk_3 (dk_at dksX0_tells_1 11 rfl rfl)
theorem dX0_tells_36 : decode cX0_tells 36 = .ok (.bipush 30, 2) := dk_16 30 (dk_at dksX0_tells_1 12 rfl rfl)
theorem dX0_tells_38 : decode cX0_tells 38 = .ok (.invokevirtual 246, 3) := dk_182 0 246 (dk_at dksX0_tells_1 14 rfl rfl)
theorem dX0_tells_41 : decode cX0_tells 41 = .ok (.ifCond .eq 75, 3) := dk_153 0 75 (dk_at dksX0_tells_1 17 rfl rfl)
theorem dX0_tells_44 : decode cX0_tells 44 = .ok (.iconst 0, 1) := dk_3 (dk_at dksX0_tells_1 20 rfl rfl)
theorem dX0_tells_45 : decode cX0_tells 45 = .ok (.istore 7, 2) := dk_54 7 (dk_at dksX0_tells_1 21 rfl rfl)
theorem dX0_tells_47 : decode cX0_tells 47 = .ok (.iload 7, 2) := dk_21 7 (dk_at dksX0_tells_2 0 rfl rfl)
theorem dX0_tells_49 : decode cX0_tells 49 = .ok (.bipush 64, 2) := dk_16 64 (dk_at dksX0_tells_2 2 rfl rfl)
theorem dX0_tells_51 : decode cX0_tells 51 = .ok (.if_icmp .ge 59, 3) := dk_162 0 59 (dk_at dksX0_tells_2 4 rfl rfl)
theorem dX0_tells_54 : decode cX0_tells 54 = .ok (.aload_n 0, 1) := dk_42 (dk_at dksX0_tells_2 7 rfl rfl)
theorem dX0_tells_55 : decode cX0_tells 55 = .ok (.iload 7, 2) := dk_21 7 (dk_at dksX0_tells_2 8 rfl rfl)
theorem dX0_tells_57 : decode cX0_tells 57 = .ok (.invokevirtual 194, 3) := dk_182 0 194 (dk_at dksX0_tells_2 10 rfl rfl)
theorem dX0_tells_60 : decode cX0_tells 60 = .ok (.ifCond .eq 15, 3) := dk_153 0 15 (dk_at dksX0_tells_2 13 rfl rfl)
theorem dX0_tells_63 : decode cX0_tells 63 = .ok (.aload_n 0, 1) := dk_42 (dk_at dksX0_tells_2 16 rfl rfl)
theorem dX0_tells_64 : decode cX0_tells 64 = .ok (.iload_n 3, 1) := dk_29 (dk_at dksX0_tells_2 17 rfl rfl)
theorem dX0_tells_65 : decode cX0_tells 65 = .ok (.iload 6, 2) := dk_21 6 (dk_at dksX0_tells_2 18 rfl rfl)
theorem dX0_tells_67 : decode cX0_tells 67 = .ok (.iload 7, 2) := dk_21 7 (dk_at dksX0_tells_2 20 rfl rfl)
theorem dX0_tells_69 : decode cX0_tells 69 = .ok (.invokevirtual 313, 3) := dk_182 1 57 (dk_at dksX0_tells_3 0 rfl rfl)
theorem dX0_tells_72 : decode cX0_tells 72 = .ok (.goto 6, 3) := dk_167 0 6 (dk_at dksX0_tells_3 3 rfl rfl)
theorem dX0_tells_75 : decode cX0_tells 75 = .ok (.ldc_w 266, 3) := dk_19 1 10 (dk_at dksX0_tells_3 6 rfl rfl)
theorem dX0_tells_78 : decode cX0_tells 78 = .ok (.istore 8, 2) := dk_54 8 (dk_at dksX0_tells_3 9 rfl rfl)
theorem dX0_tells_80 : decode cX0_tells 80 = .ok (.iload 8, 2) := dk_21 8 (dk_at dksX0_tells_3 11 rfl rfl)
theorem dX0_tells_82 : decode cX0_tells 82 = .ok (.iload 5, 2) := dk_21 5 (dk_at dksX0_tells_3 13 rfl rfl)
theorem dX0_tells_84 : decode cX0_tells 84 = .ok (.if_icmp .lt 6, 3) := dk_161 0 6 (dk_at dksX0_tells_3 15 rfl rfl)
theorem dX0_tells_87 : decode cX0_tells 87 = .ok (.goto 17, 3) := dk_167 0 17 (dk_at dksX0_tells_3 18 rfl rfl)
theorem dX0_tells_90 : decode cX0_tells 90 = .ok (.iload 8, 2) := dk_21 8 (dk_at dksX0_tells_3 21 rfl rfl)
theorem dX0_tells_92 : decode cX0_tells 92 = .ok (.istore 5, 2) := dk_54 5 (dk_at dksX0_tells_4 0 rfl rfl)
theorem dX0_tells_94 : decode cX0_tells 94 = .ok (.bipush 64, 2) := dk_16 64 (dk_at dksX0_tells_4 2 rfl rfl)
theorem dX0_tells_96 : decode cX0_tells 96 = .ok (.iload 6, 2) := dk_21 6 (dk_at dksX0_tells_4 4 rfl rfl)
theorem dX0_tells_98 : decode cX0_tells 98 = .ok (.imul, 1) := dk_104 (dk_at dksX0_tells_4 6 rfl rfl)
theorem dX0_tells_99 : decode cX0_tells 99 = .ok (.iload 7, 2) := dk_21 7 (dk_at dksX0_tells_4 7 rfl rfl)
theorem dX0_tells_101 : decode cX0_tells 101 = .ok (.iadd, 1) := dk_96 (dk_at dksX0_tells_4 9 rfl rfl)
theorem dX0_tells_102 : decode cX0_tells 102 = .ok (.istore 4, 2) := dk_54 4 (dk_at dksX0_tells_4 10 rfl rfl)
theorem dX0_tells_104 : decode cX0_tells 104 = .ok (.iinc 7 1, 3) := dk_132 7 1 (dk_at dksX0_tells_4 12 rfl rfl)
theorem dX0_tells_107 : decode cX0_tells 107 = .ok (.goto (-60), 3) := dk_167 255 196 (dk_at dksX0_tells_4 15 rfl rfl)
theorem dX0_tells_110 : decode cX0_tells 110 = .ok (.iinc 6 1, 3) := dk_132 6 1 (dk_at dksX0_tells_4 18 rfl rfl)
theorem dX0_tells_113 : decode cX0_tells 113 = .ok (.goto (-81), 3) := dk_167 255 175 (dk_at dksX0_tells_4 21 rfl rfl)
theorem dX0_tells_116 : decode cX0_tells 116 = .ok (.iload_n 2, 1) := dk_28 (dk_at dksX0_tells_5 0 rfl rfl)
theorem dX0_tells_117 : decode cX0_tells 117 = .ok (.ifCond .ne 11, 3) := dk_154 0 11 (dk_at dksX0_tells_5 1 rfl rfl)
theorem dX0_tells_120 : decode cX0_tells 120 = .ok (.iload 4, 2) := dk_21 4 (dk_at dksX0_tells_5 4 rfl rfl)
theorem dX0_tells_122 : decode cX0_tells 122 = .ok (.bipush 64, 2) := dk_16 64 (dk_at dksX0_tells_5 6 rfl rfl)
theorem dX0_tells_124 : decode cX0_tells 124 = .ok (.idiv, 1) := dk_108 (dk_at dksX0_tells_5 8 rfl rfl)
theorem dX0_tells_125 : decode cX0_tells 125 = .ok (.goto 18, 3) := dk_167 0 18 (dk_at dksX0_tells_5 9 rfl rfl)
theorem dX0_tells_128 : decode cX0_tells 128 = .ok (.iload_n 2, 1) := dk_28 (dk_at dksX0_tells_5 12 rfl rfl)
theorem dX0_tells_129 : decode cX0_tells 129 = .ok (.iconst 1, 1) := dk_4 (dk_at dksX0_tells_5 13 rfl rfl)
theorem dX0_tells_130 : decode cX0_tells 130 = .ok (.if_icmp .ne 11, 3) := dk_160 0 11 (dk_at dksX0_tells_5 14 rfl rfl)
theorem dX0_tells_133 : decode cX0_tells 133 = .ok (.iload 4, 2) := dk_21 4 (dk_at dksX0_tells_5 17 rfl rfl)
theorem dX0_tells_135 : decode cX0_tells 135 = .ok (.bipush 64, 2) := dk_16 64 (dk_at dksX0_tells_5 19 rfl rfl)
theorem dX0_tells_137 : decode cX0_tells 137 = .ok (.irem, 1) := dk_112 (dk_at dksX0_tells_5 21 rfl rfl)
theorem dX0_tells_138 : decode cX0_tells 138 = .ok (.goto 5, 3) := dk_167 0 5 (dk_at dksX0_tells_6 0 rfl rfl)
theorem dX0_tells_141 : decode cX0_tells 141 = .ok (.iload 5, 2) := dk_21 5 (dk_at dksX0_tells_6 3 rfl rfl)
theorem dX0_tells_143 : decode cX0_tells 143 = .ok (.ireturn, 1) := dk_172 (dk_at dksX0_tells_6 5 rfl rfl)
abbrev cX0_mostBy : ByteArray := prog_1_method_50_code
def yX0_mostBy : MethodName := ⟨RX0, "mostBy", "(III)I"⟩
def dkwX0_mostBy_4 : List UInt8 := [184, 1, 52, 54, 4, 132, 5, 1, 167, 255, 161, 21, 4, 172]
abbrev dktX0_mostBy_4 : List UInt8 := dkwX0_mostBy_4 ++ []
def dkwX0_mostBy_3 : List UInt8 := [46, 160, 0, 7, 4, 167, 0, 4, 3, 96, 54, 6, 132, 7, 1, 167, 255, 191, 21, 4, 21, 6]
abbrev dktX0_mostBy_3 : List UInt8 := dkwX0_mostBy_3 ++ dktX0_mostBy_4
def dkwX0_mostBy_2 : List UInt8 := [153, 0, 32, 42, 180, 0, 102, 21, 5, 50, 28, 50, 29, 46, 42, 180, 0, 102, 21, 7, 50, 28, 50, 29]
abbrev dktX0_mostBy_2 : List UInt8 := dkwX0_mostBy_2 ++ dktX0_mostBy_3
def dkwX0_mostBy_1 : List UInt8 := [182, 0, 174, 162, 0, 62, 21, 6, 27, 21, 5, 184, 1, 49, 153, 0, 41, 27, 21, 7, 184, 1, 49]
abbrev dktX0_mostBy_1 : List UInt8 := dkwX0_mostBy_1 ++ dktX0_mostBy_2
def dkwX0_mostBy_0 : List UInt8 := [3, 54, 4, 3, 54, 5, 21, 5, 42, 182, 0, 174, 162, 0, 92, 3, 54, 6, 3, 54, 7, 21, 7, 42]
abbrev dktX0_mostBy_0 : List UInt8 := dkwX0_mostBy_0 ++ dktX0_mostBy_1
theorem dksX0_mostBy_0 : cX0_mostBy.data.toList.drop 0 = dktX0_mostBy_0 := by decide +kernel
theorem dksX0_mostBy_1 : cX0_mostBy.data.toList.drop 24 = dktX0_mostBy_1 := dk_seg dksX0_mostBy_0 24 rfl rfl
theorem dksX0_mostBy_2 : cX0_mostBy.data.toList.drop 47 = dktX0_mostBy_2 := dk_seg dksX0_mostBy_1 23 rfl rfl
theorem dksX0_mostBy_3 : cX0_mostBy.data.toList.drop 71 = dktX0_mostBy_3 := dk_seg dksX0_mostBy_2 24 rfl rfl
theorem dksX0_mostBy_4 : cX0_mostBy.data.toList.drop 93 = dktX0_mostBy_4 := dk_seg dksX0_mostBy_3 22 rfl rfl
theorem dX0_mostBy_0 : decode cX0_mostBy 0 = .ok (.iconst 0, 1) := dk_3 (dk_at dksX0_mostBy_0 0 rfl rfl)
theorem dX0_mostBy_1 : decode cX0_mostBy 1 = .ok (.istore 4, 2) := dk_54 4 (dk_at dksX0_mostBy_0 1 rfl rfl)
theorem dX0_mostBy_3 : decode cX0_mostBy 3 = .ok (.iconst 0, 1) := dk_3 (dk_at dksX0_mostBy_0 3 rfl rfl)
theorem dX0_mostBy_4 : decode cX0_mostBy 4 = .ok (.istore 5, 2) := dk_54 5 (dk_at dksX0_mostBy_0 4 rfl rfl)
theorem dX0_mostBy_6 : decode cX0_mostBy 6 = .ok (.iload 5, 2) := dk_21 5 (dk_at dksX0_mostBy_0 6 rfl rfl)
theorem dX0_mostBy_8 : decode cX0_mostBy 8 = .ok (.aload_n 0, 1) := dk_42 (dk_at dksX0_mostBy_0 8 rfl rfl)
theorem dX0_mostBy_9 : decode cX0_mostBy 9 = .ok (.invokevirtual 174, 3) := dk_182 0 174 (dk_at dksX0_mostBy_0 9 rfl rfl)
theorem dX0_mostBy_12 : decode cX0_mostBy 12 = .ok (.if_icmp .ge 92, 3) := dk_162 0 92 (dk_at dksX0_mostBy_0 12 rfl rfl)
theorem dX0_mostBy_15 : decode cX0_mostBy 15 = .ok (.iconst 0, 1) := dk_3 (dk_at dksX0_mostBy_0 15 rfl rfl)
theorem dX0_mostBy_16 : decode cX0_mostBy 16 = .ok (.istore 6, 2) := dk_54 6 (dk_at dksX0_mostBy_0 16 rfl rfl)
theorem dX0_mostBy_18 : decode cX0_mostBy 18 = .ok (.iconst 0, 1) := dk_3 (dk_at dksX0_mostBy_0 18 rfl rfl)
theorem dX0_mostBy_19 : decode cX0_mostBy 19 = .ok (.istore 7, 2) := dk_54 7 (dk_at dksX0_mostBy_0 19 rfl rfl)
theorem dX0_mostBy_21 : decode cX0_mostBy 21 = .ok (.iload 7, 2) := dk_21 7 (dk_at dksX0_mostBy_0 21 rfl rfl)
theorem dX0_mostBy_23 : decode cX0_mostBy 23 = .ok (.aload_n 0, 1) := dk_42 (dk_at dksX0_mostBy_0 23 rfl rfl)
theorem dX0_mostBy_24 : decode cX0_mostBy 24 = .ok (.invokevirtual 174, 3) := dk_182 0 174 (dk_at dksX0_mostBy_1 0 rfl rfl)
theorem dX0_mostBy_27 : decode cX0_mostBy 27 = .ok (.if_icmp .ge 62, 3) := dk_162 0 62 (dk_at dksX0_mostBy_1 3 rfl rfl)
theorem dX0_mostBy_30 : decode cX0_mostBy 30 = .ok (.iload 6, 2) := dk_21 6 (dk_at dksX0_mostBy_1 6 rfl rfl)
theorem dX0_mostBy_32 : decode cX0_mostBy 32 = .ok (.iload_n 1, 1) := dk_27 (dk_at dksX0_mostBy_1 8 rfl rfl)
theorem dX0_mostBy_33 : decode cX0_mostBy 33 = .ok (.iload 5, 2) := dk_21 5 (dk_at dksX0_mostBy_1 9 rfl rfl)
theorem dX0_mostBy_35 : decode cX0_mostBy 35 = .ok (.invokestatic 305, 3) := dk_184 1 49 (dk_at dksX0_mostBy_1 11 rfl rfl)
theorem dX0_mostBy_38 : decode cX0_mostBy 38 = .ok (.ifCond .eq 41, 3) := dk_153 0 41 (dk_at dksX0_mostBy_1 14 rfl rfl)
theorem dX0_mostBy_41 : decode cX0_mostBy 41 = .ok (.iload_n 1, 1) := dk_27 (dk_at dksX0_mostBy_1 17 rfl rfl)
theorem dX0_mostBy_42 : decode cX0_mostBy 42 = .ok (.iload 7, 2) := dk_21 7 (dk_at dksX0_mostBy_1 18 rfl rfl)
theorem dX0_mostBy_44 : decode cX0_mostBy 44 = .ok (.invokestatic 305, 3) := dk_184 1 49 (dk_at dksX0_mostBy_1 20 rfl rfl)
theorem dX0_mostBy_47 : decode cX0_mostBy 47 = .ok (.ifCond .eq 32, 3) := dk_153 0 32 (dk_at dksX0_mostBy_2 0 rfl rfl)
theorem dX0_mostBy_50 : decode cX0_mostBy 50 = .ok (.aload_n 0, 1) := dk_42 (dk_at dksX0_mostBy_2 3 rfl rfl)
theorem dX0_mostBy_51 : decode cX0_mostBy 51 = .ok (.getfield 102, 3) := dk_180 0 102 (dk_at dksX0_mostBy_2 4 rfl rfl)
theorem dX0_mostBy_54 : decode cX0_mostBy 54 = .ok (.iload 5, 2) := dk_21 5 (dk_at dksX0_mostBy_2 7 rfl rfl)
theorem dX0_mostBy_56 : decode cX0_mostBy 56 = .ok (.aaload, 1) := dk_50 (dk_at dksX0_mostBy_2 9 rfl rfl)
theorem dX0_mostBy_57 : decode cX0_mostBy 57 = .ok (.iload_n 2, 1) := dk_28 (dk_at dksX0_mostBy_2 10 rfl rfl)
theorem dX0_mostBy_58 : decode cX0_mostBy 58 = .ok (.aaload, 1) := dk_50 (dk_at dksX0_mostBy_2 11 rfl rfl)
theorem dX0_mostBy_59 : decode cX0_mostBy 59 = .ok (.iload_n 3, 1) := dk_29 (dk_at dksX0_mostBy_2 12 rfl rfl)
theorem dX0_mostBy_60 : decode cX0_mostBy 60 = .ok (.iaload, 1) := dk_46 (dk_at dksX0_mostBy_2 13 rfl rfl)
theorem dX0_mostBy_61 : decode cX0_mostBy 61 = .ok (.aload_n 0, 1) := dk_42 (dk_at dksX0_mostBy_2 14 rfl rfl)
theorem dX0_mostBy_62 : decode cX0_mostBy 62 = .ok (.getfield 102, 3) := dk_180 0 102 (dk_at dksX0_mostBy_2 15 rfl rfl)
theorem dX0_mostBy_65 : decode cX0_mostBy 65 = .ok (.iload 7, 2) := dk_21 7 (dk_at dksX0_mostBy_2 18 rfl rfl)
theorem dX0_mostBy_67 : decode cX0_mostBy 67 = .ok (.aaload, 1) := dk_50 (dk_at dksX0_mostBy_2 20 rfl rfl)
theorem dX0_mostBy_68 : decode cX0_mostBy 68 = .ok (.iload_n 2, 1) := dk_28 (dk_at dksX0_mostBy_2 21 rfl rfl)
theorem dX0_mostBy_69 : decode cX0_mostBy 69 = .ok (.aaload, 1) := dk_50 (dk_at dksX0_mostBy_2 22 rfl rfl)
theorem dX0_mostBy_70 : decode cX0_mostBy 70 = .ok (.iload_n 3, 1) := dk_29 (dk_at dksX0_mostBy_2 23 rfl rfl)
theorem dX0_mostBy_71 : decode cX0_mostBy 71 = .ok (.iaload, 1) := dk_46 (dk_at dksX0_mostBy_3 0 rfl rfl)
theorem dX0_mostBy_72 : decode cX0_mostBy 72 = .ok (.if_icmp .ne 7, 3) := dk_160 0 7 (dk_at dksX0_mostBy_3 1 rfl rfl)
theorem dX0_mostBy_75 : decode cX0_mostBy 75 = .ok (.iconst 1, 1) := dk_4 (dk_at dksX0_mostBy_3 4 rfl rfl)
theorem dX0_mostBy_76 : decode cX0_mostBy 76 = .ok (.goto 4, 3) := dk_167 0 4 (dk_at dksX0_mostBy_3 5 rfl rfl)
theorem dX0_mostBy_79 : decode cX0_mostBy 79 = .ok (.iconst 0, 1) := dk_3 (dk_at dksX0_mostBy_3 8 rfl rfl)
theorem dX0_mostBy_80 : decode cX0_mostBy 80 = .ok (.iadd, 1) := dk_96 (dk_at dksX0_mostBy_3 9 rfl rfl)
theorem dX0_mostBy_81 : decode cX0_mostBy 81 = .ok (.istore 6, 2) := dk_54 6 (dk_at dksX0_mostBy_3 10 rfl rfl)
theorem dX0_mostBy_83 : decode cX0_mostBy 83 = .ok (.iinc 7 1, 3) := dk_132 7 1 (dk_at dksX0_mostBy_3 12 rfl rfl)
theorem dX0_mostBy_86 : decode cX0_mostBy 86 = .ok (.goto (-65), 3) := dk_167 255 191 (dk_at dksX0_mostBy_3 15 rfl rfl)
theorem dX0_mostBy_89 : decode cX0_mostBy 89 = .ok (.iload 4, 2) := dk_21 4 (dk_at dksX0_mostBy_3 18 rfl rfl)
theorem dX0_mostBy_91 : decode cX0_mostBy 91 = .ok (.iload 6, 2) := dk_21 6 (dk_at dksX0_mostBy_3 20 rfl rfl)
theorem dX0_mostBy_93 : decode cX0_mostBy 93 = .ok (.invokestatic 308, 3) := dk_184 1 52 (dk_at dksX0_mostBy_4 0 rfl rfl)
theorem dX0_mostBy_96 : decode cX0_mostBy 96 = .ok (.istore 4, 2) := dk_54 4 (dk_at dksX0_mostBy_4 3 rfl rfl)
theorem dX0_mostBy_98 : decode cX0_mostBy 98 = .ok (.iinc 5 1, 3) := dk_132 5 1 (dk_at dksX0_mostBy_4 5 rfl rfl)
theorem dX0_mostBy_101 : decode cX0_mostBy 101 = .ok (.goto (-95), 3) := dk_167 255 161 (dk_at dksX0_mostBy_4 8 rfl rfl)
theorem dX0_mostBy_104 : decode cX0_mostBy 104 = .ok (.iload 4, 2) := dk_21 4 (dk_at dksX0_mostBy_4 11 rfl rfl)
theorem dX0_mostBy_106 : decode cX0_mostBy 106 = .ok (.ireturn, 1) := dk_172 (dk_at dksX0_mostBy_4 13 rfl rfl)
abbrev cX0_undo : ByteArray := prog_1_method_53_code
def yX0_undo : MethodName := ⟨RX0, "undo", "()Z"⟩
def dkwX0_undo_2 : List UInt8 := [87, 4, 172]
abbrev dktX0_undo_2 : List UInt8 := dkwX0_undo_2 ++ []
def dkwX0_undo_1 : List UInt8 := [180, 0, 148, 4, 100, 181, 0, 148, 42, 180, 0, 69, 42, 180, 0, 105, 42, 180, 0, 148, 50, 182, 0, 249]
abbrev dktX0_undo_1 : List UInt8 := dkwX0_undo_1 ++ dktX0_undo_2
def dkwX0_undo_0 : List UInt8 := [42, 180, 0, 148, 154, 0, 17, 42, 7, 182, 0, 118, 155, 0, 7, 4, 167, 0, 4, 3, 172, 42, 89]
abbrev dktX0_undo_0 : List UInt8 := dkwX0_undo_0 ++ dktX0_undo_1
theorem dksX0_undo_0 : cX0_undo.data.toList.drop 0 = dktX0_undo_0 := by decide +kernel
theorem dksX0_undo_1 : cX0_undo.data.toList.drop 23 = dktX0_undo_1 := dk_seg dksX0_undo_0 23 rfl rfl
theorem dksX0_undo_2 : cX0_undo.data.toList.drop 47 = dktX0_undo_2 := dk_seg dksX0_undo_1 24 rfl rfl
theorem dX0_undo_0 : decode cX0_undo 0 = .ok (.aload_n 0, 1) := dk_42 (dk_at dksX0_undo_0 0 rfl rfl)
theorem dX0_undo_1 : decode cX0_undo 1 = .ok (.getfield 148, 3) := dk_180 0 148 (dk_at dksX0_undo_0 1 rfl rfl)
theorem dX0_undo_4 : decode cX0_undo 4 = .ok (.ifCond .ne 17, 3) := dk_154 0 17 (dk_at dksX0_undo_0 4 rfl rfl)
theorem dX0_undo_7 : decode cX0_undo 7 = .ok (.aload_n 0, 1) := dk_42 (dk_at dksX0_undo_0 7 rfl rfl)
theorem dX0_undo_8 : decode cX0_undo 8 = .ok (.iconst 4, 1) := dk_7 (dk_at dksX0_undo_0 8 rfl rfl)
theorem dX0_undo_9 : decode cX0_undo 9 = .ok (.invokevirtual 118, 3) := dk_182 0 118 (dk_at dksX0_undo_0 9 rfl rfl)
theorem dX0_undo_12 : decode cX0_undo 12 = .ok (.ifCond .lt 7, 3) := dk_155 0 7 (dk_at dksX0_undo_0 12 rfl rfl)
theorem dX0_undo_15 : decode cX0_undo 15 = .ok (.iconst 1, 1) := dk_4 (dk_at dksX0_undo_0 15 rfl rfl)
theorem dX0_undo_16 : decode cX0_undo 16 = .ok (.goto 4, 3) := dk_167 0 4 (dk_at dksX0_undo_0 16 rfl rfl)
theorem dX0_undo_19 : decode cX0_undo 19 = .ok (.iconst 0, 1) := dk_3 (dk_at dksX0_undo_0 19 rfl rfl)
theorem dX0_undo_20 : decode cX0_undo 20 = .ok (.ireturn, 1) := dk_172 (dk_at dksX0_undo_0 20 rfl rfl)
theorem dX0_undo_21 : decode cX0_undo 21 = .ok (.aload_n 0, 1) := dk_42 (dk_at dksX0_undo_0 21 rfl rfl)
theorem dX0_undo_22 : decode cX0_undo 22 = .ok (.dup, 1) := dk_89 (dk_at dksX0_undo_0 22 rfl rfl)
theorem dX0_undo_23 : decode cX0_undo 23 = .ok (.getfield 148, 3) := dk_180 0 148 (dk_at dksX0_undo_1 0 rfl rfl)
theorem dX0_undo_26 : decode cX0_undo 26 = .ok (.iconst 1, 1) := dk_4 (dk_at dksX0_undo_1 3 rfl rfl)
theorem dX0_undo_27 : decode cX0_undo 27 = .ok (.isub, 1) := dk_100 (dk_at dksX0_undo_1 4 rfl rfl)
theorem dX0_undo_28 : decode cX0_undo 28 = .ok (.putfield 148, 3) := dk_181 0 148 (dk_at dksX0_undo_1 5 rfl rfl)
theorem dX0_undo_31 : decode cX0_undo 31 = .ok (.aload_n 0, 1) := dk_42 (dk_at dksX0_undo_1 8 rfl rfl)
theorem dX0_undo_32 : decode cX0_undo 32 = .ok (.getfield 69, 3) := dk_180 0 69 (dk_at dksX0_undo_1 9 rfl rfl)
theorem dX0_undo_35 : decode cX0_undo 35 = .ok (.aload_n 0, 1) := dk_42 (dk_at dksX0_undo_1 12 rfl rfl)
theorem dX0_undo_36 : decode cX0_undo 36 = .ok (.getfield 105, 3) := dk_180 0 105 (dk_at dksX0_undo_1 13 rfl rfl)
theorem dX0_undo_39 : decode cX0_undo 39 = .ok (.aload_n 0, 1) := dk_42 (dk_at dksX0_undo_1 16 rfl rfl)
theorem dX0_undo_40 : decode cX0_undo 40 = .ok (.getfield 148, 3) := dk_180 0 148 (dk_at dksX0_undo_1 17 rfl rfl)
theorem dX0_undo_43 : decode cX0_undo 43 = .ok (.aaload, 1) := dk_50 (dk_at dksX0_undo_1 20 rfl rfl)
theorem dX0_undo_44 : decode cX0_undo 44 = .ok (.invokevirtual 249, 3) := dk_182 0 249 (dk_at dksX0_undo_1 21 rfl rfl)
theorem dX0_undo_47 : decode cX0_undo 47 = .ok (.pop, 1) := dk_87 (dk_at dksX0_undo_2 0 rfl rfl)
theorem dX0_undo_48 : decode cX0_undo 48 = .ok (.iconst 1, 1) := dk_4 (dk_at dksX0_undo_2 1 rfl rfl)
theorem dX0_undo_49 : decode cX0_undo 49 = .ok (.ireturn, 1) := dk_172 (dk_at dksX0_undo_2 2 rfl rfl)
abbrev cX0_asks : ByteArray := prog_1_method_54_code
def yX0_asks : MethodName := ⟨RX0, "asks", "(II)I"⟩
def dkwX0_asks_1 : List UInt8 := [182, 1, 61, 42, 180, 0, 69, 27, 28, 182, 1, 4, 172]
abbrev dktX0_asks_1 : List UInt8 := dkwX0_asks_1 ++ []
def dkwX0_asks_0 : List UInt8 := [42, 27, 182, 0, 213, 153, 0, 11, 42, 28, 182, 0, 233, 154, 0, 9, 42, 5, 182, 0, 118, 172, 42]
abbrev dktX0_asks_0 : List UInt8 := dkwX0_asks_0 ++ dktX0_asks_1
theorem dksX0_asks_0 : cX0_asks.data.toList.drop 0 = dktX0_asks_0 := by decide +kernel
theorem dksX0_asks_1 : cX0_asks.data.toList.drop 23 = dktX0_asks_1 := dk_seg dksX0_asks_0 23 rfl rfl
theorem dX0_asks_0 : decode cX0_asks 0 = .ok (.aload_n 0, 1) := dk_42 (dk_at dksX0_asks_0 0 rfl rfl)
theorem dX0_asks_1 : decode cX0_asks 1 = .ok (.iload_n 1, 1) := dk_27 (dk_at dksX0_asks_0 1 rfl rfl)
theorem dX0_asks_2 : decode cX0_asks 2 = .ok (.invokevirtual 213, 3) := dk_182 0 213 (dk_at dksX0_asks_0 2 rfl rfl)
theorem dX0_asks_5 : decode cX0_asks 5 = .ok (.ifCond .eq 11, 3) := dk_153 0 11 (dk_at dksX0_asks_0 5 rfl rfl)
theorem dX0_asks_8 : decode cX0_asks 8 = .ok (.aload_n 0, 1) := dk_42 (dk_at dksX0_asks_0 8 rfl rfl)
theorem dX0_asks_9 : decode cX0_asks 9 = .ok (.iload_n 2, 1) := dk_28 (dk_at dksX0_asks_0 9 rfl rfl)
theorem dX0_asks_10 : decode cX0_asks 10 = .ok (.invokevirtual 233, 3) := dk_182 0 233 (dk_at dksX0_asks_0 10 rfl rfl)
theorem dX0_asks_13 : decode cX0_asks 13 = .ok (.ifCond .ne 9, 3) := dk_154 0 9 (dk_at dksX0_asks_0 13 rfl rfl)
theorem dX0_asks_16 : decode cX0_asks 16 = .ok (.aload_n 0, 1) := dk_42 (dk_at dksX0_asks_0 16 rfl rfl)
theorem dX0_asks_17 : decode cX0_asks 17 = .ok (.iconst 2, 1) := dk_5 (dk_at dksX0_asks_0 17 rfl rfl)
theorem dX0_asks_18 : decode cX0_asks 18 = .ok (.invokevirtual 118, 3) := dk_182 0 118 (dk_at dksX0_asks_0 18 rfl rfl)
theorem dX0_asks_21 : decode cX0_asks 21 = .ok (.ireturn, 1) := dk_172 (dk_at dksX0_asks_0 21 rfl rfl)
theorem dX0_asks_22 : decode cX0_asks 22 = .ok (.aload_n 0, 1) := dk_42 (dk_at dksX0_asks_0 22 rfl rfl)
theorem dX0_asks_23 : decode cX0_asks 23 = .ok (.invokevirtual 317, 3) := dk_182 1 61 (dk_at dksX0_asks_1 0 rfl rfl)
theorem dX0_asks_26 : decode cX0_asks 26 = .ok (.aload_n 0, 1) := dk_42 (dk_at dksX0_asks_1 3 rfl rfl)
theorem dX0_asks_27 : decode cX0_asks 27 = .ok (.getfield 69, 3) := dk_180 0 69 (dk_at dksX0_asks_1 4 rfl rfl)
theorem dX0_asks_30 : decode cX0_asks 30 = .ok (.iload_n 1, 1) := dk_27 (dk_at dksX0_asks_1 7 rfl rfl)
theorem dX0_asks_31 : decode cX0_asks 31 = .ok (.iload_n 2, 1) := dk_28 (dk_at dksX0_asks_1 8 rfl rfl)
theorem dX0_asks_32 : decode cX0_asks 32 = .ok (.invokevirtual 260, 3) := dk_182 1 4 (dk_at dksX0_asks_1 9 rfl rfl)
theorem dX0_asks_35 : decode cX0_asks 35 = .ok (.ireturn, 1) := dk_172 (dk_at dksX0_asks_1 12 rfl rfl)
abbrev cX0_remembers : ByteArray := prog_1_method_52_code
def yX0_remembers : MethodName := ⟨RX0, "remembers", "()V"⟩
def dkwX0_remembers_3 : List UInt8 := [180, 0, 69, 182, 0, 249, 87, 42, 89, 180, 0, 148, 4, 96, 181, 0, 148, 177]
abbrev dktX0_remembers_3 : List UInt8 := dkwX0_remembers_3 ++ []
def dkwX0_remembers_2 : List UInt8 := [16, 19, 43, 83, 42, 89, 180, 0, 148, 4, 100, 181, 0, 148, 42, 180, 0, 105, 42, 180, 0, 148, 50, 42]
abbrev dktX0_remembers_2 : List UInt8 := dkwX0_remembers_2 ++ dktX0_remembers_3
def dkwX0_remembers_1 : List UInt8 := [42, 180, 0, 105, 28, 4, 100, 42, 180, 0, 105, 28, 50, 83, 132, 2, 1, 167, 255, 233, 42, 180, 0, 105]
abbrev dktX0_remembers_1 : List UInt8 := dkwX0_remembers_1 ++ dktX0_remembers_2
def dkwX0_remembers_0 : List UInt8 := [42, 180, 0, 148, 16, 20, 160, 0, 56, 42, 180, 0, 105, 3, 50, 76, 4, 61, 28, 16, 20, 162, 0, 23]
abbrev dktX0_remembers_0 : List UInt8 := dkwX0_remembers_0 ++ dktX0_remembers_1
theorem dksX0_remembers_0 : cX0_remembers.data.toList.drop 0 = dktX0_remembers_0 := by decide +kernel
theorem dksX0_remembers_1 : cX0_remembers.data.toList.drop 24 = dktX0_remembers_1 := dk_seg dksX0_remembers_0 24 rfl rfl
theorem dksX0_remembers_2 : cX0_remembers.data.toList.drop 48 = dktX0_remembers_2 := dk_seg dksX0_remembers_1 24 rfl rfl
theorem dksX0_remembers_3 : cX0_remembers.data.toList.drop 72 = dktX0_remembers_3 := dk_seg dksX0_remembers_2 24 rfl rfl
theorem dX0_remembers_0 : decode cX0_remembers 0 = .ok (.aload_n 0, 1) := dk_42 (dk_at dksX0_remembers_0 0 rfl rfl)
theorem dX0_remembers_1 : decode cX0_remembers 1 = .ok (.getfield 148, 3) := dk_180 0 148 (dk_at dksX0_remembers_0 1 rfl rfl)
theorem dX0_remembers_4 : decode cX0_remembers 4 = .ok (.bipush 20, 2) := dk_16 20 (dk_at dksX0_remembers_0 4 rfl rfl)
theorem dX0_remembers_6 : decode cX0_remembers 6 = .ok (.if_icmp .ne 56, 3) := dk_160 0 56 (dk_at dksX0_remembers_0 6 rfl rfl)
theorem dX0_remembers_9 : decode cX0_remembers 9 = .ok (.aload_n 0, 1) := dk_42 (dk_at dksX0_remembers_0 9 rfl rfl)
theorem dX0_remembers_10 : decode cX0_remembers 10 = .ok (.getfield 105, 3) := dk_180 0 105 (dk_at dksX0_remembers_0 10 rfl rfl)
theorem dX0_remembers_13 : decode cX0_remembers 13 = .ok (.iconst 0, 1) := dk_3 (dk_at dksX0_remembers_0 13 rfl rfl)
theorem dX0_remembers_14 : decode cX0_remembers 14 = .ok (.aaload, 1) := dk_50 (dk_at dksX0_remembers_0 14 rfl rfl)
theorem dX0_remembers_15 : decode cX0_remembers 15 = .ok (.astore_n 1, 1) := dk_76 (dk_at dksX0_remembers_0 15 rfl rfl)
theorem dX0_remembers_16 : decode cX0_remembers 16 = .ok (.iconst 1, 1) := dk_4 (dk_at dksX0_remembers_0 16 rfl rfl)
theorem dX0_remembers_17 : decode cX0_remembers 17 = .ok (.istore_n 2, 1) := dk_61 (dk_at dksX0_remembers_0 17 rfl rfl)
theorem dX0_remembers_18 : decode cX0_remembers 18 = .ok (.iload_n 2, 1) := dk_28 (dk_at dksX0_remembers_0 18 rfl rfl)
theorem dX0_remembers_19 : decode cX0_remembers 19 = .ok (.bipush 20, 2) := dk_16 20 (dk_at dksX0_remembers_0 19 rfl rfl)
theorem dX0_remembers_21 : decode cX0_remembers 21 = .ok (.if_icmp .ge 23, 3) := dk_162 0 23 (dk_at dksX0_remembers_0 21 rfl rfl)
theorem dX0_remembers_24 : decode cX0_remembers 24 = .ok (.aload_n 0, 1) := dk_42 (dk_at dksX0_remembers_1 0 rfl rfl)
theorem dX0_remembers_25 : decode cX0_remembers 25 = .ok (.getfield 105, 3) := dk_180 0 105 (dk_at dksX0_remembers_1 1 rfl rfl)
theorem dX0_remembers_28 : decode cX0_remembers 28 = .ok (.iload_n 2, 1) := dk_28 (dk_at dksX0_remembers_1 4 rfl rfl)
theorem dX0_remembers_29 : decode cX0_remembers 29 = .ok (.iconst 1, 1) := dk_4 (dk_at dksX0_remembers_1 5 rfl rfl)
theorem dX0_remembers_30 : decode cX0_remembers 30 = .ok (.isub, 1) := dk_100 (dk_at dksX0_remembers_1 6 rfl rfl)
theorem dX0_remembers_31 : decode cX0_remembers 31 = .ok (.aload_n 0, 1) := dk_42 (dk_at dksX0_remembers_1 7 rfl rfl)
theorem dX0_remembers_32 : decode cX0_remembers 32 = .ok (.getfield 105, 3) := dk_180 0 105 (dk_at dksX0_remembers_1 8 rfl rfl)
theorem dX0_remembers_35 : decode cX0_remembers 35 = .ok (.iload_n 2, 1) := dk_28 (dk_at dksX0_remembers_1 11 rfl rfl)
theorem dX0_remembers_36 : decode cX0_remembers 36 = .ok (.aaload, 1) := dk_50 (dk_at dksX0_remembers_1 12 rfl rfl)
theorem dX0_remembers_37 : decode cX0_remembers 37 = .ok (.aastore, 1) := dk_83 (dk_at dksX0_remembers_1 13 rfl rfl)
theorem dX0_remembers_38 : decode cX0_remembers 38 = .ok (.iinc 2 1, 3) := dk_132 2 1 (dk_at dksX0_remembers_1 14 rfl rfl)
theorem dX0_remembers_41 : decode cX0_remembers 41 = .ok (.goto (-23), 3) := dk_167 255 233 (dk_at dksX0_remembers_1 17 rfl rfl)
theorem dX0_remembers_44 : decode cX0_remembers 44 = .ok (.aload_n 0, 1) := dk_42 (dk_at dksX0_remembers_1 20 rfl rfl)
theorem dX0_remembers_45 : decode cX0_remembers 45 = .ok (.getfield 105, 3) := dk_180 0 105 (dk_at dksX0_remembers_1 21 rfl rfl)
theorem dX0_remembers_48 : decode cX0_remembers 48 = .ok (.bipush 19, 2) := dk_16 19 (dk_at dksX0_remembers_2 0 rfl rfl)
theorem dX0_remembers_50 : decode cX0_remembers 50 = .ok (.aload_n 1, 1) := dk_43 (dk_at dksX0_remembers_2 2 rfl rfl)
theorem dX0_remembers_51 : decode cX0_remembers 51 = .ok (.aastore, 1) := dk_83 (dk_at dksX0_remembers_2 3 rfl rfl)
theorem dX0_remembers_52 : decode cX0_remembers 52 = .ok (.aload_n 0, 1) := dk_42 (dk_at dksX0_remembers_2 4 rfl rfl)
theorem dX0_remembers_53 : decode cX0_remembers 53 = .ok (.dup, 1) := dk_89 (dk_at dksX0_remembers_2 5 rfl rfl)
theorem dX0_remembers_54 : decode cX0_remembers 54 = .ok (.getfield 148, 3) := dk_180 0 148 (dk_at dksX0_remembers_2 6 rfl rfl)
theorem dX0_remembers_57 : decode cX0_remembers 57 = .ok (.iconst 1, 1) := dk_4 (dk_at dksX0_remembers_2 9 rfl rfl)
theorem dX0_remembers_58 : decode cX0_remembers 58 = .ok (.isub, 1) := dk_100 (dk_at dksX0_remembers_2 10 rfl rfl)
theorem dX0_remembers_59 : decode cX0_remembers 59 = .ok (.putfield 148, 3) := dk_181 0 148 (dk_at dksX0_remembers_2 11 rfl rfl)
theorem dX0_remembers_62 : decode cX0_remembers 62 = .ok (.aload_n 0, 1) := dk_42 (dk_at dksX0_remembers_2 14 rfl rfl)
theorem dX0_remembers_63 : decode cX0_remembers 63 = .ok (.getfield 105, 3) := dk_180 0 105 (dk_at dksX0_remembers_2 15 rfl rfl)
theorem dX0_remembers_66 : decode cX0_remembers 66 = .ok (.aload_n 0, 1) := dk_42 (dk_at dksX0_remembers_2 18 rfl rfl)
theorem dX0_remembers_67 : decode cX0_remembers 67 = .ok (.getfield 148, 3) := dk_180 0 148 (dk_at dksX0_remembers_2 19 rfl rfl)
theorem dX0_remembers_70 : decode cX0_remembers 70 = .ok (.aaload, 1) := dk_50 (dk_at dksX0_remembers_2 22 rfl rfl)
theorem dX0_remembers_71 : decode cX0_remembers 71 = .ok (.aload_n 0, 1) := dk_42 (dk_at dksX0_remembers_2 23 rfl rfl)
theorem dX0_remembers_72 : decode cX0_remembers 72 = .ok (.getfield 69, 3) := dk_180 0 69 (dk_at dksX0_remembers_3 0 rfl rfl)
theorem dX0_remembers_75 : decode cX0_remembers 75 = .ok (.invokevirtual 249, 3) := dk_182 0 249 (dk_at dksX0_remembers_3 3 rfl rfl)
theorem dX0_remembers_78 : decode cX0_remembers 78 = .ok (.pop, 1) := dk_87 (dk_at dksX0_remembers_3 6 rfl rfl)
theorem dX0_remembers_79 : decode cX0_remembers 79 = .ok (.aload_n 0, 1) := dk_42 (dk_at dksX0_remembers_3 7 rfl rfl)
theorem dX0_remembers_80 : decode cX0_remembers 80 = .ok (.dup, 1) := dk_89 (dk_at dksX0_remembers_3 8 rfl rfl)
theorem dX0_remembers_81 : decode cX0_remembers 81 = .ok (.getfield 148, 3) := dk_180 0 148 (dk_at dksX0_remembers_3 9 rfl rfl)
theorem dX0_remembers_84 : decode cX0_remembers 84 = .ok (.iconst 1, 1) := dk_4 (dk_at dksX0_remembers_3 12 rfl rfl)
theorem dX0_remembers_85 : decode cX0_remembers 85 = .ok (.iadd, 1) := dk_96 (dk_at dksX0_remembers_3 13 rfl rfl)
theorem dX0_remembers_86 : decode cX0_remembers 86 = .ok (.putfield 148, 3) := dk_181 0 148 (dk_at dksX0_remembers_3 14 rfl rfl)
theorem dX0_remembers_89 : decode cX0_remembers 89 = .ok (.return_, 1) := dk_177 (dk_at dksX0_remembers_3 17 rfl rfl)
abbrev cX0_teach : ByteArray := prog_1_method_55_code
def yX0_teach : MethodName := ⟨RX0, "teach", "(III)Z"⟩
def dkwX0_teach_3 : List UInt8 := [182, 1, 61, 42, 180, 0, 69, 180, 0, 222, 27, 92, 46, 4, 28, 120, 130, 79, 4, 172]
abbrev dktX0_teach_3 : List UInt8 := dkwX0_teach_3 ++ []
def dkwX0_teach_2 : List UInt8 := [167, 0, 4, 3, 160, 0, 17, 42, 5, 182, 0, 118, 155, 0, 7, 4, 167, 0, 4, 3, 172, 42]
abbrev dktX0_teach_2 : List UInt8 := dkwX0_teach_2 ++ dktX0_teach_3
def dkwX0_teach_1 : List UInt8 := [153, 0, 29, 42, 180, 0, 69, 180, 0, 222, 27, 46, 28, 184, 1, 49, 29, 4, 160, 0, 7, 4]
abbrev dktX0_teach_1 : List UInt8 := dkwX0_teach_1 ++ dktX0_teach_2
def dkwX0_teach_0 : List UInt8 := [42, 27, 182, 0, 213, 153, 0, 46, 42, 28, 182, 0, 233, 153, 0, 38, 29, 3, 4, 184, 0, 176]
abbrev dktX0_teach_0 : List UInt8 := dkwX0_teach_0 ++ dktX0_teach_1
theorem dksX0_teach_0 : cX0_teach.data.toList.drop 0 = dktX0_teach_0 := by decide +kernel
theorem dksX0_teach_1 : cX0_teach.data.toList.drop 22 = dktX0_teach_1 := dk_seg dksX0_teach_0 22 rfl rfl
theorem dksX0_teach_2 : cX0_teach.data.toList.drop 44 = dktX0_teach_2 := dk_seg dksX0_teach_1 22 rfl rfl
theorem dksX0_teach_3 : cX0_teach.data.toList.drop 66 = dktX0_teach_3 := dk_seg dksX0_teach_2 22 rfl rfl
theorem dX0_teach_0 : decode cX0_teach 0 = .ok (.aload_n 0, 1) := dk_42 (dk_at dksX0_teach_0 0 rfl rfl)
theorem dX0_teach_1 : decode cX0_teach 1 = .ok (.iload_n 1, 1) := dk_27 (dk_at dksX0_teach_0 1 rfl rfl)
theorem dX0_teach_2 : decode cX0_teach 2 = .ok (.invokevirtual 213, 3) := dk_182 0 213 (dk_at dksX0_teach_0 2 rfl rfl)
theorem dX0_teach_5 : decode cX0_teach 5 = .ok (.ifCond .eq 46, 3) := dk_153 0 46 (dk_at dksX0_teach_0 5 rfl rfl)
theorem dX0_teach_8 : decode cX0_teach 8 = .ok (.aload_n 0, 1) := dk_42 (dk_at dksX0_teach_0 8 rfl rfl)
theorem dX0_teach_9 : decode cX0_teach 9 = .ok (.iload_n 2, 1) := dk_28 (dk_at dksX0_teach_0 9 rfl rfl)
theorem dX0_teach_10 : decode cX0_teach 10 = .ok (.invokevirtual 233, 3) := dk_182 0 233 (dk_at dksX0_teach_0 10 rfl rfl)
theorem dX0_teach_13 : decode cX0_teach 13 = .ok (.ifCond .eq 38, 3) := dk_153 0 38 (dk_at dksX0_teach_0 13 rfl rfl)
theorem dX0_teach_16 : decode cX0_teach 16 = .ok (.iload_n 3, 1) := dk_29 (dk_at dksX0_teach_0 16 rfl rfl)
theorem dX0_teach_17 : decode cX0_teach 17 = .ok (.iconst 0, 1) := dk_3 (dk_at dksX0_teach_0 17 rfl rfl)
theorem dX0_teach_18 : decode cX0_teach 18 = .ok (.iconst 1, 1) := dk_4 (dk_at dksX0_teach_0 18 rfl rfl)
theorem dX0_teach_19 : decode cX0_teach 19 = .ok (.invokestatic 176, 3) := dk_184 0 176 (dk_at dksX0_teach_0 19 rfl rfl)
theorem dX0_teach_22 : decode cX0_teach 22 = .ok (.ifCond .eq 29, 3) := dk_153 0 29 (dk_at dksX0_teach_1 0 rfl rfl)
theorem dX0_teach_25 : decode cX0_teach 25 = .ok (.aload_n 0, 1) := dk_42 (dk_at dksX0_teach_1 3 rfl rfl)
theorem dX0_teach_26 : decode cX0_teach 26 = .ok (.getfield 69, 3) := dk_180 0 69 (dk_at dksX0_teach_1 4 rfl rfl)
theorem dX0_teach_29 : decode cX0_teach 29 = .ok (.getfield 222, 3) := dk_180 0 222 (dk_at dksX0_teach_1 7 rfl rfl)
theorem dX0_teach_32 : decode cX0_teach 32 = .ok (.iload_n 1, 1) := dk_27 (dk_at dksX0_teach_1 10 rfl rfl)
theorem dX0_teach_33 : decode cX0_teach 33 = .ok (.iaload, 1) := dk_46 (dk_at dksX0_teach_1 11 rfl rfl)
theorem dX0_teach_34 : decode cX0_teach 34 = .ok (.iload_n 2, 1) := dk_28 (dk_at dksX0_teach_1 12 rfl rfl)
theorem dX0_teach_35 : decode cX0_teach 35 = .ok (.invokestatic 305, 3) := dk_184 1 49 (dk_at dksX0_teach_1 13 rfl rfl)
theorem dX0_teach_38 : decode cX0_teach 38 = .ok (.iload_n 3, 1) := dk_29 (dk_at dksX0_teach_1 16 rfl rfl)
theorem dX0_teach_39 : decode cX0_teach 39 = .ok (.iconst 1, 1) := dk_4 (dk_at dksX0_teach_1 17 rfl rfl)
theorem dX0_teach_40 : decode cX0_teach 40 = .ok (.if_icmp .ne 7, 3) := dk_160 0 7 (dk_at dksX0_teach_1 18 rfl rfl)
theorem dX0_teach_43 : decode cX0_teach 43 = .ok (.iconst 1, 1) := dk_4 (dk_at dksX0_teach_1 21 rfl rfl)
theorem dX0_teach_44 : decode cX0_teach 44 = .ok (.goto 4, 3) := dk_167 0 4 (dk_at dksX0_teach_2 0 rfl rfl)
theorem dX0_teach_47 : decode cX0_teach 47 = .ok (.iconst 0, 1) := dk_3 (dk_at dksX0_teach_2 3 rfl rfl)
theorem dX0_teach_48 : decode cX0_teach 48 = .ok (.if_icmp .ne 17, 3) := dk_160 0 17 (dk_at dksX0_teach_2 4 rfl rfl)
theorem dX0_teach_51 : decode cX0_teach 51 = .ok (.aload_n 0, 1) := dk_42 (dk_at dksX0_teach_2 7 rfl rfl)
theorem dX0_teach_52 : decode cX0_teach 52 = .ok (.iconst 2, 1) := dk_5 (dk_at dksX0_teach_2 8 rfl rfl)
theorem dX0_teach_53 : decode cX0_teach 53 = .ok (.invokevirtual 118, 3) := dk_182 0 118 (dk_at dksX0_teach_2 9 rfl rfl)
theorem dX0_teach_56 : decode cX0_teach 56 = .ok (.ifCond .lt 7, 3) := dk_155 0 7 (dk_at dksX0_teach_2 12 rfl rfl)
theorem dX0_teach_59 : decode cX0_teach 59 = .ok (.iconst 1, 1) := dk_4 (dk_at dksX0_teach_2 15 rfl rfl)
theorem dX0_teach_60 : decode cX0_teach 60 = .ok (.goto 4, 3) := dk_167 0 4 (dk_at dksX0_teach_2 16 rfl rfl)
theorem dX0_teach_63 : decode cX0_teach 63 = .ok (.iconst 0, 1) := dk_3 (dk_at dksX0_teach_2 19 rfl rfl)
theorem dX0_teach_64 : decode cX0_teach 64 = .ok (.ireturn, 1) := dk_172 (dk_at dksX0_teach_2 20 rfl rfl)
theorem dX0_teach_65 : decode cX0_teach 65 = .ok (.aload_n 0, 1) := dk_42 (dk_at dksX0_teach_2 21 rfl rfl)
theorem dX0_teach_66 : decode cX0_teach 66 = .ok (.invokevirtual 317, 3) := dk_182 1 61 (dk_at dksX0_teach_3 0 rfl rfl)
theorem dX0_teach_69 : decode cX0_teach 69 = .ok (.aload_n 0, 1) := dk_42 (dk_at dksX0_teach_3 3 rfl rfl)
theorem dX0_teach_70 : decode cX0_teach 70 = .ok (.getfield 69, 3) := dk_180 0 69 (dk_at dksX0_teach_3 4 rfl rfl)
theorem dX0_teach_73 : decode cX0_teach 73 = .ok (.getfield 222, 3) := dk_180 0 222 (dk_at dksX0_teach_3 7 rfl rfl)
theorem dX0_teach_76 : decode cX0_teach 76 = .ok (.iload_n 1, 1) := dk_27 (dk_at dksX0_teach_3 10 rfl rfl)
theorem dX0_teach_77 : decode cX0_teach 77 = .ok (.dup2, 1) := dk_92 (dk_at dksX0_teach_3 11 rfl rfl)
theorem dX0_teach_78 : decode cX0_teach 78 = .ok (.iaload, 1) := dk_46 (dk_at dksX0_teach_3 12 rfl rfl)
theorem dX0_teach_79 : decode cX0_teach 79 = .ok (.iconst 1, 1) := dk_4 (dk_at dksX0_teach_3 13 rfl rfl)
theorem dX0_teach_80 : decode cX0_teach 80 = .ok (.iload_n 2, 1) := dk_28 (dk_at dksX0_teach_3 14 rfl rfl)
theorem dX0_teach_81 : decode cX0_teach 81 = .ok (.ishl, 1) := dk_120 (dk_at dksX0_teach_3 15 rfl rfl)
theorem dX0_teach_82 : decode cX0_teach 82 = .ok (.ixor, 1) := dk_130 (dk_at dksX0_teach_3 16 rfl rfl)
theorem dX0_teach_83 : decode cX0_teach 83 = .ok (.iastore, 1) := dk_79 (dk_at dksX0_teach_3 17 rfl rfl)
theorem dX0_teach_84 : decode cX0_teach 84 = .ok (.iconst 1, 1) := dk_4 (dk_at dksX0_teach_3 18 rfl rfl)
theorem dX0_teach_85 : decode cX0_teach 85 = .ok (.ireturn, 1) := dk_172 (dk_at dksX0_teach_3 19 rfl rfl)
abbrev cX0_go : ByteArray := prog_1_method_56_code
def yX0_go : MethodName := ⟨RX0, "go", "(III)Z"⟩
def dkwX0_go_2 : List UInt8 := [182, 1, 61, 42, 180, 0, 69, 180, 0, 216, 27, 16, 8, 29, 104, 28, 96, 79, 4, 172]
abbrev dktX0_go_2 : List UInt8 := dkwX0_go_2 ++ []
def dkwX0_go_1 : List UInt8 := [104, 28, 96, 182, 1, 64, 154, 0, 17, 42, 5, 182, 0, 118, 155, 0, 7, 4, 167, 0, 4, 3, 172, 42]
abbrev dktX0_go_1 : List UInt8 := dkwX0_go_1 ++ dktX0_go_2
def dkwX0_go_0 : List UInt8 := [42, 27, 182, 0, 213, 153, 0, 28, 42, 28, 29, 182, 0, 181, 153, 0, 19, 42, 180, 0, 69, 16, 8, 29]
abbrev dktX0_go_0 : List UInt8 := dkwX0_go_0 ++ dktX0_go_1
theorem dksX0_go_0 : cX0_go.data.toList.drop 0 = dktX0_go_0 := by decide +kernel
theorem dksX0_go_1 : cX0_go.data.toList.drop 24 = dktX0_go_1 := dk_seg dksX0_go_0 24 rfl rfl
theorem dksX0_go_2 : cX0_go.data.toList.drop 48 = dktX0_go_2 := dk_seg dksX0_go_1 24 rfl rfl
theorem dX0_go_0 : decode cX0_go 0 = .ok (.aload_n 0, 1) := dk_42 (dk_at dksX0_go_0 0 rfl rfl)
theorem dX0_go_1 : decode cX0_go 1 = .ok (.iload_n 1, 1) := dk_27 (dk_at dksX0_go_0 1 rfl rfl)
theorem dX0_go_2 : decode cX0_go 2 = .ok (.invokevirtual 213, 3) := dk_182 0 213 (dk_at dksX0_go_0 2 rfl rfl)
theorem dX0_go_5 : decode cX0_go 5 = .ok (.ifCond .eq 28, 3) := dk_153 0 28 (dk_at dksX0_go_0 5 rfl rfl)
theorem dX0_go_8 : decode cX0_go 8 = .ok (.aload_n 0, 1) := dk_42 (dk_at dksX0_go_0 8 rfl rfl)
theorem dX0_go_9 : decode cX0_go 9 = .ok (.iload_n 2, 1) := dk_28 (dk_at dksX0_go_0 9 rfl rfl)
theorem dX0_go_10 : decode cX0_go 10 = .ok (.iload_n 3, 1) := dk_29 (dk_at dksX0_go_0 10 rfl rfl)
theorem dX0_go_11 : decode cX0_go 11 = .ok (.invokevirtual 181, 3) := dk_182 0 181 (dk_at dksX0_go_0 11 rfl rfl)
theorem dX0_go_14 : decode cX0_go 14 = .ok (.ifCond .eq 19, 3) := dk_153 0 19 (dk_at dksX0_go_0 14 rfl rfl)
theorem dX0_go_17 : decode cX0_go 17 = .ok (.aload_n 0, 1) := dk_42 (dk_at dksX0_go_0 17 rfl rfl)
theorem dX0_go_18 : decode cX0_go 18 = .ok (.getfield 69, 3) := dk_180 0 69 (dk_at dksX0_go_0 18 rfl rfl)
theorem dX0_go_21 : decode cX0_go 21 = .ok (.bipush 8, 2) := dk_16 8 (dk_at dksX0_go_0 21 rfl rfl)
theorem dX0_go_23 : decode cX0_go 23 = .ok (.iload_n 3, 1) := dk_29 (dk_at dksX0_go_0 23 rfl rfl)
theorem dX0_go_24 : decode cX0_go 24 = .ok (.imul, 1) := dk_104 (dk_at dksX0_go_1 0 rfl rfl)
theorem dX0_go_25 : decode cX0_go 25 = .ok (.iload_n 2, 1) := dk_28 (dk_at dksX0_go_1 1 rfl rfl)
theorem dX0_go_26 : decode cX0_go 26 = .ok (.iadd, 1) := dk_96 (dk_at dksX0_go_1 2 rfl rfl)
theorem dX0_go_27 : decode cX0_go 27 = .ok (.invokevirtual 320, 3) := dk_182 1 64 (dk_at dksX0_go_1 3 rfl rfl)
theorem dX0_go_30 : decode cX0_go 30 = .ok (.ifCond .ne 17, 3) := dk_154 0 17 (dk_at dksX0_go_1 6 rfl rfl)
theorem dX0_go_33 : decode cX0_go 33 = .ok (.aload_n 0, 1) := dk_42 (dk_at dksX0_go_1 9 rfl rfl)
theorem dX0_go_34 : decode cX0_go 34 = .ok (.iconst 2, 1) := dk_5 (dk_at dksX0_go_1 10 rfl rfl)
theorem dX0_go_35 : decode cX0_go 35 = .ok (.invokevirtual 118, 3) := dk_182 0 118 (dk_at dksX0_go_1 11 rfl rfl)
theorem dX0_go_38 : decode cX0_go 38 = .ok (.ifCond .lt 7, 3) := dk_155 0 7 (dk_at dksX0_go_1 14 rfl rfl)
theorem dX0_go_41 : decode cX0_go 41 = .ok (.iconst 1, 1) := dk_4 (dk_at dksX0_go_1 17 rfl rfl)
theorem dX0_go_42 : decode cX0_go 42 = .ok (.goto 4, 3) := dk_167 0 4 (dk_at dksX0_go_1 18 rfl rfl)
theorem dX0_go_45 : decode cX0_go 45 = .ok (.iconst 0, 1) := dk_3 (dk_at dksX0_go_1 21 rfl rfl)
theorem dX0_go_46 : decode cX0_go 46 = .ok (.ireturn, 1) := dk_172 (dk_at dksX0_go_1 22 rfl rfl)
theorem dX0_go_47 : decode cX0_go 47 = .ok (.aload_n 0, 1) := dk_42 (dk_at dksX0_go_1 23 rfl rfl)
theorem dX0_go_48 : decode cX0_go 48 = .ok (.invokevirtual 317, 3) := dk_182 1 61 (dk_at dksX0_go_2 0 rfl rfl)
theorem dX0_go_51 : decode cX0_go 51 = .ok (.aload_n 0, 1) := dk_42 (dk_at dksX0_go_2 3 rfl rfl)
theorem dX0_go_52 : decode cX0_go 52 = .ok (.getfield 69, 3) := dk_180 0 69 (dk_at dksX0_go_2 4 rfl rfl)
theorem dX0_go_55 : decode cX0_go 55 = .ok (.getfield 216, 3) := dk_180 0 216 (dk_at dksX0_go_2 7 rfl rfl)
theorem dX0_go_58 : decode cX0_go 58 = .ok (.iload_n 1, 1) := dk_27 (dk_at dksX0_go_2 10 rfl rfl)
theorem dX0_go_59 : decode cX0_go 59 = .ok (.bipush 8, 2) := dk_16 8 (dk_at dksX0_go_2 11 rfl rfl)
theorem dX0_go_61 : decode cX0_go 61 = .ok (.iload_n 3, 1) := dk_29 (dk_at dksX0_go_2 13 rfl rfl)
theorem dX0_go_62 : decode cX0_go 62 = .ok (.imul, 1) := dk_104 (dk_at dksX0_go_2 14 rfl rfl)
theorem dX0_go_63 : decode cX0_go 63 = .ok (.iload_n 2, 1) := dk_28 (dk_at dksX0_go_2 15 rfl rfl)
theorem dX0_go_64 : decode cX0_go 64 = .ok (.iadd, 1) := dk_96 (dk_at dksX0_go_2 16 rfl rfl)
theorem dX0_go_65 : decode cX0_go 65 = .ok (.iastore, 1) := dk_79 (dk_at dksX0_go_2 17 rfl rfl)
theorem dX0_go_66 : decode cX0_go 66 = .ok (.iconst 1, 1) := dk_4 (dk_at dksX0_go_2 18 rfl rfl)
theorem dX0_go_67 : decode cX0_go 67 = .ok (.ireturn, 1) := dk_172 (dk_at dksX0_go_2 19 rfl rfl)
abbrev cX0_ease : ByteArray := prog_1_method_57_code
def yX0_ease : MethodName := ⟨RX0, "ease", "(I)Z"⟩
def dkwX0_ease_2 : List UInt8 := [3, 79, 4, 172]
abbrev dktX0_ease_2 : List UInt8 := dkwX0_ease_2 ++ []
def dkwX0_ease_1 : List UInt8 := [182, 0, 118, 155, 0, 7, 4, 167, 0, 4, 3, 172, 42, 182, 1, 61, 42, 180, 0, 69, 180, 0, 219, 27]
abbrev dktX0_ease_1 : List UInt8 := dkwX0_ease_1 ++ dktX0_ease_2
def dkwX0_ease_0 : List UInt8 := [42, 27, 182, 0, 213, 153, 0, 15, 42, 180, 0, 69, 180, 0, 219, 27, 46, 154, 0, 17, 42, 5]
abbrev dktX0_ease_0 : List UInt8 := dkwX0_ease_0 ++ dktX0_ease_1
theorem dksX0_ease_0 : cX0_ease.data.toList.drop 0 = dktX0_ease_0 := by decide +kernel
theorem dksX0_ease_1 : cX0_ease.data.toList.drop 22 = dktX0_ease_1 := dk_seg dksX0_ease_0 22 rfl rfl
theorem dksX0_ease_2 : cX0_ease.data.toList.drop 46 = dktX0_ease_2 := dk_seg dksX0_ease_1 24 rfl rfl
theorem dX0_ease_0 : decode cX0_ease 0 = .ok (.aload_n 0, 1) := dk_42 (dk_at dksX0_ease_0 0 rfl rfl)
theorem dX0_ease_1 : decode cX0_ease 1 = .ok (.iload_n 1, 1) := dk_27 (dk_at dksX0_ease_0 1 rfl rfl)
theorem dX0_ease_2 : decode cX0_ease 2 = .ok (.invokevirtual 213, 3) := dk_182 0 213 (dk_at dksX0_ease_0 2 rfl rfl)
theorem dX0_ease_5 : decode cX0_ease 5 = .ok (.ifCond .eq 15, 3) := dk_153 0 15 (dk_at dksX0_ease_0 5 rfl rfl)
theorem dX0_ease_8 : decode cX0_ease 8 = .ok (.aload_n 0, 1) := dk_42 (dk_at dksX0_ease_0 8 rfl rfl)
theorem dX0_ease_9 : decode cX0_ease 9 = .ok (.getfield 69, 3) := dk_180 0 69 (dk_at dksX0_ease_0 9 rfl rfl)
theorem dX0_ease_12 : decode cX0_ease 12 = .ok (.getfield 219, 3) := dk_180 0 219 (dk_at dksX0_ease_0 12 rfl rfl)
theorem dX0_ease_15 : decode cX0_ease 15 = .ok (.iload_n 1, 1) := dk_27 (dk_at dksX0_ease_0 15 rfl rfl)
theorem dX0_ease_16 : decode cX0_ease 16 = .ok (.iaload, 1) := dk_46 (dk_at dksX0_ease_0 16 rfl rfl)
theorem dX0_ease_17 : decode cX0_ease 17 = .ok (.ifCond .ne 17, 3) := dk_154 0 17 (dk_at dksX0_ease_0 17 rfl rfl)
theorem dX0_ease_20 : decode cX0_ease 20 = .ok (.aload_n 0, 1) := dk_42 (dk_at dksX0_ease_0 20 rfl rfl)
theorem dX0_ease_21 : decode cX0_ease 21 = .ok (.iconst 2, 1) := dk_5 (dk_at dksX0_ease_0 21 rfl rfl)
theorem dX0_ease_22 : decode cX0_ease 22 = .ok (.invokevirtual 118, 3) := dk_182 0 118 (dk_at dksX0_ease_1 0 rfl rfl)
theorem dX0_ease_25 : decode cX0_ease 25 = .ok (.ifCond .lt 7, 3) := dk_155 0 7 (dk_at dksX0_ease_1 3 rfl rfl)
theorem dX0_ease_28 : decode cX0_ease 28 = .ok (.iconst 1, 1) := dk_4 (dk_at dksX0_ease_1 6 rfl rfl)
theorem dX0_ease_29 : decode cX0_ease 29 = .ok (.goto 4, 3) := dk_167 0 4 (dk_at dksX0_ease_1 7 rfl rfl)
theorem dX0_ease_32 : decode cX0_ease 32 = .ok (.iconst 0, 1) := dk_3 (dk_at dksX0_ease_1 10 rfl rfl)
theorem dX0_ease_33 : decode cX0_ease 33 = .ok (.ireturn, 1) := dk_172 (dk_at dksX0_ease_1 11 rfl rfl)
theorem dX0_ease_34 : decode cX0_ease 34 = .ok (.aload_n 0, 1) := dk_42 (dk_at dksX0_ease_1 12 rfl rfl)
theorem dX0_ease_35 : decode cX0_ease 35 = .ok (.invokevirtual 317, 3) := dk_182 1 61 (dk_at dksX0_ease_1 13 rfl rfl)
theorem dX0_ease_38 : decode cX0_ease 38 = .ok (.aload_n 0, 1) := dk_42 (dk_at dksX0_ease_1 16 rfl rfl)
theorem dX0_ease_39 : decode cX0_ease 39 = .ok (.getfield 69, 3) := dk_180 0 69 (dk_at dksX0_ease_1 17 rfl rfl)
theorem dX0_ease_42 : decode cX0_ease 42 = .ok (.getfield 219, 3) := dk_180 0 219 (dk_at dksX0_ease_1 20 rfl rfl)
theorem dX0_ease_45 : decode cX0_ease 45 = .ok (.iload_n 1, 1) := dk_27 (dk_at dksX0_ease_1 23 rfl rfl)
theorem dX0_ease_46 : decode cX0_ease 46 = .ok (.iconst 0, 1) := dk_3 (dk_at dksX0_ease_2 0 rfl rfl)
theorem dX0_ease_47 : decode cX0_ease 47 = .ok (.iastore, 1) := dk_79 (dk_at dksX0_ease_2 1 rfl rfl)
theorem dX0_ease_48 : decode cX0_ease 48 = .ok (.iconst 1, 1) := dk_4 (dk_at dksX0_ease_2 2 rfl rfl)
theorem dX0_ease_49 : decode cX0_ease 49 = .ok (.ireturn, 1) := dk_172 (dk_at dksX0_ease_2 3 rfl rfl)
abbrev cX0_days : ByteArray := prog_1_method_58_code
def yX0_days : MethodName := ⟨RX0, "days", "(I)I"⟩
def dkwX0_days_2 : List UInt8 := [132, 3, 1, 167, 255, 230, 28, 172]
abbrev dktX0_days_2 : List UInt8 := dkwX0_days_2 ++ []
def dkwX0_days_1 : List UInt8 := [62, 29, 27, 162, 0, 27, 28, 42, 180, 0, 69, 182, 1, 1, 153, 0, 7, 4, 167, 0, 4, 3, 96, 61]
abbrev dktX0_days_1 : List UInt8 := dkwX0_days_1 ++ dktX0_days_2
def dkwX0_days_0 : List UInt8 := [42, 27, 4, 16, 100, 182, 0, 246, 154, 0, 9, 42, 6, 182, 0, 118, 172, 42, 182, 1, 61, 3, 61, 3]
abbrev dktX0_days_0 : List UInt8 := dkwX0_days_0 ++ dktX0_days_1
theorem dksX0_days_0 : cX0_days.data.toList.drop 0 = dktX0_days_0 := by decide +kernel
theorem dksX0_days_1 : cX0_days.data.toList.drop 24 = dktX0_days_1 := dk_seg dksX0_days_0 24 rfl rfl
theorem dksX0_days_2 : cX0_days.data.toList.drop 48 = dktX0_days_2 := dk_seg dksX0_days_1 24 rfl rfl
theorem dX0_days_0 : decode cX0_days 0 = .ok (.aload_n 0, 1) := dk_42 (dk_at dksX0_days_0 0 rfl rfl)
theorem dX0_days_1 : decode cX0_days 1 = .ok (.iload_n 1, 1) := dk_27 (dk_at dksX0_days_0 1 rfl rfl)
theorem dX0_days_2 : decode cX0_days 2 = .ok (.iconst 1, 1) := dk_4 (dk_at dksX0_days_0 2 rfl rfl)
theorem dX0_days_3 : decode cX0_days 3 = .ok (.bipush 100, 2) := dk_16 100 (dk_at dksX0_days_0 3 rfl rfl)
theorem dX0_days_5 : decode cX0_days 5 = .ok (.invokevirtual 246, 3) := dk_182 0 246 (dk_at dksX0_days_0 5 rfl rfl)
theorem dX0_days_8 : decode cX0_days 8 = .ok (.ifCond .ne 9, 3) := dk_154 0 9 (dk_at dksX0_days_0 8 rfl rfl)
theorem dX0_days_11 : decode cX0_days 11 = .ok (.aload_n 0, 1) := dk_42 (dk_at dksX0_days_0 11 rfl rfl)
theorem dX0_days_12 : decode cX0_days 12 = .ok (.iconst 3, 1) := dk_6 (dk_at dksX0_days_0 12 rfl rfl)
theorem dX0_days_13 : decode cX0_days 13 = .ok (.invokevirtual 118, 3) := dk_182 0 118 (dk_at dksX0_days_0 13 rfl rfl)
theorem dX0_days_16 : decode cX0_days 16 = .ok (.ireturn, 1) := dk_172 (dk_at dksX0_days_0 16 rfl rfl)
theorem dX0_days_17 : decode cX0_days 17 = .ok (.aload_n 0, 1) := dk_42 (dk_at dksX0_days_0 17 rfl rfl)
theorem dX0_days_18 : decode cX0_days 18 = .ok (.invokevirtual 317, 3) := dk_182 1 61 (dk_at dksX0_days_0 18 rfl rfl)
theorem dX0_days_21 : decode cX0_days 21 = .ok (.iconst 0, 1) := dk_3 (dk_at dksX0_days_0 21 rfl rfl)
theorem dX0_days_22 : decode cX0_days 22 = .ok (.istore_n 2, 1) := dk_61 (dk_at dksX0_days_0 22 rfl rfl)
theorem dX0_days_23 : decode cX0_days 23 = .ok (.iconst 0, 1) := dk_3 (dk_at dksX0_days_0 23 rfl rfl)
theorem dX0_days_24 : decode cX0_days 24 = .ok (.istore_n 3, 1) := dk_62 (dk_at dksX0_days_1 0 rfl rfl)
theorem dX0_days_25 : decode cX0_days 25 = .ok (.iload_n 3, 1) := dk_29 (dk_at dksX0_days_1 1 rfl rfl)
theorem dX0_days_26 : decode cX0_days 26 = .ok (.iload_n 1, 1) := dk_27 (dk_at dksX0_days_1 2 rfl rfl)
theorem dX0_days_27 : decode cX0_days 27 = .ok (.if_icmp .ge 27, 3) := dk_162 0 27 (dk_at dksX0_days_1 3 rfl rfl)
theorem dX0_days_30 : decode cX0_days 30 = .ok (.iload_n 2, 1) := dk_28 (dk_at dksX0_days_1 6 rfl rfl)
theorem dX0_days_31 : decode cX0_days 31 = .ok (.aload_n 0, 1) := dk_42 (dk_at dksX0_days_1 7 rfl rfl)
theorem dX0_days_32 : decode cX0_days 32 = .ok (.getfield 69, 3) := dk_180 0 69 (dk_at dksX0_days_1 8 rfl rfl)
theorem dX0_days_35 : decode cX0_days 35 = .ok (.invokevirtual 257, 3) := dk_182 1 1 (dk_at dksX0_days_1 11 rfl rfl)
theorem dX0_days_38 : decode cX0_days 38 = .ok (.ifCond .eq 7, 3) := dk_153 0 7 (dk_at dksX0_days_1 14 rfl rfl)
theorem dX0_days_41 : decode cX0_days 41 = .ok (.iconst 1, 1) := dk_4 (dk_at dksX0_days_1 17 rfl rfl)
theorem dX0_days_42 : decode cX0_days 42 = .ok (.goto 4, 3) := dk_167 0 4 (dk_at dksX0_days_1 18 rfl rfl)
theorem dX0_days_45 : decode cX0_days 45 = .ok (.iconst 0, 1) := dk_3 (dk_at dksX0_days_1 21 rfl rfl)
theorem dX0_days_46 : decode cX0_days 46 = .ok (.iadd, 1) := dk_96 (dk_at dksX0_days_1 22 rfl rfl)
theorem dX0_days_47 : decode cX0_days 47 = .ok (.istore_n 2, 1) := dk_61 (dk_at dksX0_days_1 23 rfl rfl)
theorem dX0_days_48 : decode cX0_days 48 = .ok (.iinc 3 1, 3) := dk_132 3 1 (dk_at dksX0_days_2 0 rfl rfl)
theorem dX0_days_51 : decode cX0_days 51 = .ok (.goto (-26), 3) := dk_167 255 230 (dk_at dksX0_days_2 3 rfl rfl)
theorem dX0_days_54 : decode cX0_days 54 = .ok (.iload_n 2, 1) := dk_28 (dk_at dksX0_days_2 6 rfl rfl)
theorem dX0_days_55 : decode cX0_days 55 = .ok (.ireturn, 1) := dk_172 (dk_at dksX0_days_2 7 rfl rfl)
abbrev cX0_chance : ByteArray := prog_1_method_60_code
def yX0_chance : MethodName := ⟨RX0, "chance", "(I)I"⟩
def dkwX0_chance_4 : List UInt8 := [167, 0, 4, 3, 96, 61, 42, 180, 0, 69, 182, 1, 1, 87, 132, 3, 1, 167, 255, 171, 28, 172]
abbrev dktX0_chance_4 : List UInt8 := dkwX0_chance_4 ++ []
def dkwX0_chance_3 : List UInt8 := [42, 180, 0, 69, 21, 4, 42, 42, 182, 0, 172, 182, 1, 75, 182, 1, 4, 5, 160, 0, 7, 4]
abbrev dktX0_chance_3 : List UInt8 := dkwX0_chance_3 ++ dktX0_chance_4
def dkwX0_chance_2 : List UInt8 := [182, 0, 174, 158, 0, 49, 42, 182, 0, 172, 158, 0, 42, 42, 42, 182, 0, 174, 182, 1, 75, 54, 4, 28]
abbrev dktX0_chance_2 : List UInt8 := dkwX0_chance_2 ++ dktX0_chance_3
def dkwX0_chance_1 : List UInt8 := [62, 29, 27, 162, 0, 86, 42, 16, 100, 182, 1, 75, 42, 180, 0, 31, 180, 1, 78, 162, 0, 56, 42]
abbrev dktX0_chance_1 : List UInt8 := dkwX0_chance_1 ++ dktX0_chance_2
def dkwX0_chance_0 : List UInt8 := [42, 27, 4, 16, 100, 182, 0, 246, 154, 0, 9, 42, 6, 182, 0, 118, 172, 42, 182, 1, 61, 3, 61, 3]
abbrev dktX0_chance_0 : List UInt8 := dkwX0_chance_0 ++ dktX0_chance_1
theorem dksX0_chance_0 : cX0_chance.data.toList.drop 0 = dktX0_chance_0 := by decide +kernel
theorem dksX0_chance_1 : cX0_chance.data.toList.drop 24 = dktX0_chance_1 := dk_seg dksX0_chance_0 24 rfl rfl
theorem dksX0_chance_2 : cX0_chance.data.toList.drop 47 = dktX0_chance_2 := dk_seg dksX0_chance_1 23 rfl rfl
theorem dksX0_chance_3 : cX0_chance.data.toList.drop 71 = dktX0_chance_3 := dk_seg dksX0_chance_2 24 rfl rfl
theorem dksX0_chance_4 : cX0_chance.data.toList.drop 93 = dktX0_chance_4 := dk_seg dksX0_chance_3 22 rfl rfl
theorem dX0_chance_0 : decode cX0_chance 0 = .ok (.aload_n 0, 1) := dk_42 (dk_at dksX0_chance_0 0 rfl rfl)
theorem dX0_chance_1 : decode cX0_chance 1 = .ok (.iload_n 1, 1) := dk_27 (dk_at dksX0_chance_0 1 rfl rfl)
theorem dX0_chance_2 : decode cX0_chance 2 = .ok (.iconst 1, 1) := dk_4 (dk_at dksX0_chance_0 2 rfl rfl)
theorem dX0_chance_3 : decode cX0_chance 3 = .ok (.bipush 100, 2) := dk_16 100 (dk_at dksX0_chance_0 3 rfl rfl)
theorem dX0_chance_5 : decode cX0_chance 5 = .ok (.invokevirtual 246, 3) := dk_182 0 246 (dk_at dksX0_chance_0 5 rfl rfl)
theorem dX0_chance_8 : decode cX0_chance 8 = .ok (.ifCond .ne 9, 3) := dk_154 0 9 (dk_at dksX0_chance_0 8 rfl rfl)
theorem dX0_chance_11 : decode cX0_chance 11 = .ok (.aload_n 0, 1) := dk_42 (dk_at dksX0_chance_0 11 rfl rfl)
theorem dX0_chance_12 : decode cX0_chance 12 = .ok (.iconst 3, 1) := dk_6 (dk_at dksX0_chance_0 12 rfl rfl)
theorem dX0_chance_13 : decode cX0_chance 13 = .ok (.invokevirtual 118, 3) := dk_182 0 118 (dk_at dksX0_chance_0 13 rfl rfl)
theorem dX0_chance_16 : decode cX0_chance 16 = .ok (.ireturn, 1) := dk_172 (dk_at dksX0_chance_0 16 rfl rfl)
theorem dX0_chance_17 : decode cX0_chance 17 = .ok (.aload_n 0, 1) := dk_42 (dk_at dksX0_chance_0 17 rfl rfl)
theorem dX0_chance_18 : decode cX0_chance 18 = .ok (.invokevirtual 317, 3) := dk_182 1 61 (dk_at dksX0_chance_0 18 rfl rfl)
theorem dX0_chance_21 : decode cX0_chance 21 = .ok (.iconst 0, 1) := dk_3 (dk_at dksX0_chance_0 21 rfl rfl)
theorem dX0_chance_22 : decode cX0_chance 22 = .ok (.istore_n 2, 1) := dk_61 (dk_at dksX0_chance_0 22 rfl rfl)
theorem dX0_chance_23 : decode cX0_chance 23 = .ok (.iconst 0, 1) := dk_3 (dk_at dksX0_chance_0 23 rfl rfl)
theorem dX0_chance_24 : decode cX0_chance 24 = .ok (.istore_n 3, 1) := dk_62 (dk_at dksX0_chance_1 0 rfl rfl)
theorem dX0_chance_25 : decode cX0_chance 25 = .ok (.iload_n 3, 1) := dk_29 (dk_at dksX0_chance_1 1 rfl rfl)
theorem dX0_chance_26 : decode cX0_chance 26 = .ok (.iload_n 1, 1) := dk_27 (dk_at dksX0_chance_1 2 rfl rfl)
theorem dX0_chance_27 : decode cX0_chance 27 = .ok (.if_icmp .ge 86, 3) := dk_162 0 86 (dk_at dksX0_chance_1 3 rfl rfl)
theorem dX0_chance_30 : decode cX0_chance 30 = .ok (.aload_n 0, 1) := dk_42 (dk_at dksX0_chance_1 6 rfl rfl)
theorem dX0_chance_31 : decode cX0_chance 31 = .ok (.bipush 100, 2) := dk_16 100 (dk_at dksX0_chance_1 7 rfl rfl)
theorem dX0_chance_33 : decode cX0_chance 33 = .ok (.invokevirtual 331, 3) := dk_182 1 75 (dk_at dksX0_chance_1 9 rfl rfl)
theorem dX0_chance_36 : decode cX0_chance 36 = .ok (.aload_n 0, 1) := dk_42 (dk_at dksX0_chance_1 12 rfl rfl)
theorem dX0_chance_37 : decode cX0_chance 37 = .ok (.getfield 31, 3) := dk_180 0 31 (dk_at dksX0_chance_1 13 rfl rfl)
theorem dX0_chance_40 : decode cX0_chance 40 = .ok (.getfield 334, 3) := dk_180 1 78 (dk_at dksX0_chance_1 16 rfl rfl)
theorem dX0_chance_43 : decode cX0_chance 43 = .ok (.if_icmp .ge 56, 3) := dk_162 0 56 (dk_at dksX0_chance_1 19 rfl rfl)
theorem dX0_chance_46 : decode cX0_chance 46 = .ok (.aload_n 0, 1) := dk_42 (dk_at dksX0_chance_1 22 rfl rfl)
theorem dX0_chance_47 : decode cX0_chance 47 = .ok (.invokevirtual 174, 3) := dk_182 0 174 (dk_at dksX0_chance_2 0 rfl rfl)
theorem dX0_chance_50 : decode cX0_chance 50 = .ok (.ifCond .le 49, 3) := dk_158 0 49 (dk_at dksX0_chance_2 3 rfl rfl)
theorem dX0_chance_53 : decode cX0_chance 53 = .ok (.aload_n 0, 1) := dk_42 (dk_at dksX0_chance_2 6 rfl rfl)
theorem dX0_chance_54 : decode cX0_chance 54 = .ok (.invokevirtual 172, 3) := dk_182 0 172 (dk_at dksX0_chance_2 7 rfl rfl)
theorem dX0_chance_57 : decode cX0_chance 57 = .ok (.ifCond .le 42, 3) := dk_158 0 42 (dk_at dksX0_chance_2 10 rfl rfl)
theorem dX0_chance_60 : decode cX0_chance 60 = .ok (.aload_n 0, 1) := dk_42 (dk_at dksX0_chance_2 13 rfl rfl)
theorem dX0_chance_61 : decode cX0_chance 61 = .ok (.aload_n 0, 1) := dk_42 (dk_at dksX0_chance_2 14 rfl rfl)
theorem dX0_chance_62 : decode cX0_chance 62 = .ok (.invokevirtual 174, 3) := dk_182 0 174 (dk_at dksX0_chance_2 15 rfl rfl)
theorem dX0_chance_65 : decode cX0_chance 65 = .ok (.invokevirtual 331, 3) := dk_182 1 75 (dk_at dksX0_chance_2 18 rfl rfl)
theorem dX0_chance_68 : decode cX0_chance 68 = .ok (.istore 4, 2) := dk_54 4 (dk_at dksX0_chance_2 21 rfl rfl)
theorem dX0_chance_70 : decode cX0_chance 70 = .ok (.iload_n 2, 1) := dk_28 (dk_at dksX0_chance_2 23 rfl rfl)
theorem dX0_chance_71 : decode cX0_chance 71 = .ok (.aload_n 0, 1) := dk_42 (dk_at dksX0_chance_3 0 rfl rfl)
theorem dX0_chance_72 : decode cX0_chance 72 = .ok (.getfield 69, 3) := dk_180 0 69 (dk_at dksX0_chance_3 1 rfl rfl)
theorem dX0_chance_75 : decode cX0_chance 75 = .ok (.iload 4, 2) := dk_21 4 (dk_at dksX0_chance_3 4 rfl rfl)
theorem dX0_chance_77 : decode cX0_chance 77 = .ok (.aload_n 0, 1) := dk_42 (dk_at dksX0_chance_3 6 rfl rfl)
theorem dX0_chance_78 : decode cX0_chance 78 = .ok (.aload_n 0, 1) := dk_42 (dk_at dksX0_chance_3 7 rfl rfl)
theorem dX0_chance_79 : decode cX0_chance 79 = .ok (.invokevirtual 172, 3) := dk_182 0 172 (dk_at dksX0_chance_3 8 rfl rfl)
theorem dX0_chance_82 : decode cX0_chance 82 = .ok (.invokevirtual 331, 3) := dk_182 1 75 (dk_at dksX0_chance_3 11 rfl rfl)
theorem dX0_chance_85 : decode cX0_chance 85 = .ok (.invokevirtual 260, 3) := dk_182 1 4 (dk_at dksX0_chance_3 14 rfl rfl)
theorem dX0_chance_88 : decode cX0_chance 88 = .ok (.iconst 2, 1) := dk_5 (dk_at dksX0_chance_3 17 rfl rfl)
theorem dX0_chance_89 : decode cX0_chance 89 = .ok (.if_icmp .ne 7, 3) := dk_160 0 7 (dk_at dksX0_chance_3 18 rfl rfl)
theorem dX0_chance_92 : decode cX0_chance 92 = .ok (.iconst 1, 1) := dk_4 (dk_at dksX0_chance_3 21 rfl rfl)
theorem dX0_chance_93 : decode cX0_chance 93 = .ok (.goto 4, 3) := dk_167 0 4 (dk_at dksX0_chance_4 0 rfl rfl)
theorem dX0_chance_96 : decode cX0_chance 96 = .ok (.iconst 0, 1) := dk_3 (dk_at dksX0_chance_4 3 rfl rfl)
theorem dX0_chance_97 : decode cX0_chance 97 = .ok (.iadd, 1) := dk_96 (dk_at dksX0_chance_4 4 rfl rfl)
theorem dX0_chance_98 : decode cX0_chance 98 = .ok (.istore_n 2, 1) := dk_61 (dk_at dksX0_chance_4 5 rfl rfl)
theorem dX0_chance_99 : decode cX0_chance 99 = .ok (.aload_n 0, 1) := dk_42 (dk_at dksX0_chance_4 6 rfl rfl)
theorem dX0_chance_100 : decode cX0_chance 100 = .ok (.getfield 69, 3) := dk_180 0 69 (dk_at dksX0_chance_4 7 rfl rfl)
theorem dX0_chance_103 : decode cX0_chance 103 = .ok (.invokevirtual 257, 3) := dk_182 1 1 (dk_at dksX0_chance_4 10 rfl rfl)
theorem dX0_chance_106 : decode cX0_chance 106 = .ok (.pop, 1) := dk_87 (dk_at dksX0_chance_4 13 rfl rfl)
theorem dX0_chance_107 : decode cX0_chance 107 = .ok (.iinc 3 1, 3) := dk_132 3 1 (dk_at dksX0_chance_4 14 rfl rfl)
theorem dX0_chance_110 : decode cX0_chance 110 = .ok (.goto (-85), 3) := dk_167 255 171 (dk_at dksX0_chance_4 17 rfl rfl)
theorem dX0_chance_113 : decode cX0_chance 113 = .ok (.iload_n 2, 1) := dk_28 (dk_at dksX0_chance_4 20 rfl rfl)
theorem dX0_chance_114 : decode cX0_chance 114 = .ok (.ireturn, 1) := dk_172 (dk_at dksX0_chance_4 21 rfl rfl)
abbrev cX0_draw : ByteArray := prog_1_method_59_code
def yX0_draw : MethodName := ⟨RX0, "draw", "(I)I"⟩
def dkwX0_draw_1 : List UInt8 := [20, 1, 73, 109, 27, 133, 113, 136, 172]
abbrev dktX0_draw_1 : List UInt8 := dkwX0_draw_1 ++ []
def dkwX0_draw_0 : List UInt8 := [42, 20, 1, 67, 42, 180, 0, 108, 105, 20, 1, 69, 97, 20, 1, 71, 113, 181, 0, 108, 42, 180, 0, 108]
abbrev dktX0_draw_0 : List UInt8 := dkwX0_draw_0 ++ dktX0_draw_1
theorem dksX0_draw_0 : cX0_draw.data.toList.drop 0 = dktX0_draw_0 := by decide +kernel
theorem dksX0_draw_1 : cX0_draw.data.toList.drop 24 = dktX0_draw_1 := dk_seg dksX0_draw_0 24 rfl rfl
theorem dX0_draw_0 : decode cX0_draw 0 = .ok (.aload_n 0, 1) := dk_42 (dk_at dksX0_draw_0 0 rfl rfl)
theorem dX0_draw_1 : decode cX0_draw 1 = .ok (.ldc2_w 323, 3) := dk_20 1 67 (dk_at dksX0_draw_0 1 rfl rfl)
theorem dX0_draw_4 : decode cX0_draw 4 = .ok (.aload_n 0, 1) := dk_42 (dk_at dksX0_draw_0 4 rfl rfl)
theorem dX0_draw_5 : decode cX0_draw 5 = .ok (.getfield 108, 3) := dk_180 0 108 (dk_at dksX0_draw_0 5 rfl rfl)
theorem dX0_draw_8 : decode cX0_draw 8 = .ok (.lmul, 1) := dk_105 (dk_at dksX0_draw_0 8 rfl rfl)
theorem dX0_draw_9 : decode cX0_draw 9 = .ok (.ldc2_w 325, 3) := dk_20 1 69 (dk_at dksX0_draw_0 9 rfl rfl)
theorem dX0_draw_12 : decode cX0_draw 12 = .ok (.ladd, 1) := dk_97 (dk_at dksX0_draw_0 12 rfl rfl)
theorem dX0_draw_13 : decode cX0_draw 13 = .ok (.ldc2_w 327, 3) := dk_20 1 71 (dk_at dksX0_draw_0 13 rfl rfl)
theorem dX0_draw_16 : decode cX0_draw 16 = .ok (.lrem, 1) := dk_113 (dk_at dksX0_draw_0 16 rfl rfl)
theorem dX0_draw_17 : decode cX0_draw 17 = .ok (.putfield 108, 3) := dk_181 0 108 (dk_at dksX0_draw_0 17 rfl rfl)
theorem dX0_draw_20 : decode cX0_draw 20 = .ok (.aload_n 0, 1) := dk_42 (dk_at dksX0_draw_0 20 rfl rfl)
theorem dX0_draw_21 : decode cX0_draw 21 = .ok (.getfield 108, 3) := dk_180 0 108 (dk_at dksX0_draw_0 21 rfl rfl)
theorem dX0_draw_24 : decode cX0_draw 24 = .ok (.ldc2_w 329, 3) := dk_20 1 73 (dk_at dksX0_draw_1 0 rfl rfl)
theorem dX0_draw_27 : decode cX0_draw 27 = .ok (.ldiv, 1) := dk_109 (dk_at dksX0_draw_1 3 rfl rfl)
theorem dX0_draw_28 : decode cX0_draw 28 = .ok (.iload_n 1, 1) := dk_27 (dk_at dksX0_draw_1 4 rfl rfl)
theorem dX0_draw_29 : decode cX0_draw 29 = .ok (.i2l, 1) := dk_133 (dk_at dksX0_draw_1 5 rfl rfl)
theorem dX0_draw_30 : decode cX0_draw 30 = .ok (.lrem, 1) := dk_113 (dk_at dksX0_draw_1 6 rfl rfl)
theorem dX0_draw_31 : decode cX0_draw 31 = .ok (.l2i, 1) := dk_136 (dk_at dksX0_draw_1 7 rfl rfl)
theorem dX0_draw_32 : decode cX0_draw 32 = .ok (.ireturn, 1) := dk_172 (dk_at dksX0_draw_1 8 rfl rfl)
abbrev cX0_seed : ByteArray := prog_1_method_61_code
def yX0_seed : MethodName := ⟨RX0, "seed", "(I)Z"⟩
def dkwX0_seed_1 : List UInt8 := [4, 172]
abbrev dktX0_seed_1 : List UInt8 := dkwX0_seed_1 ++ []
def dkwX0_seed_0 : List UInt8 := [27, 156, 0, 17, 42, 8, 182, 0, 118, 155, 0, 7, 4, 167, 0, 4, 3, 172, 42, 27, 133, 181, 0, 108]
abbrev dktX0_seed_0 : List UInt8 := dkwX0_seed_0 ++ dktX0_seed_1
theorem dksX0_seed_0 : cX0_seed.data.toList.drop 0 = dktX0_seed_0 := by decide +kernel
theorem dksX0_seed_1 : cX0_seed.data.toList.drop 24 = dktX0_seed_1 := dk_seg dksX0_seed_0 24 rfl rfl
theorem dX0_seed_0 : decode cX0_seed 0 = .ok (.iload_n 1, 1) := dk_27 (dk_at dksX0_seed_0 0 rfl rfl)
theorem dX0_seed_1 : decode cX0_seed 1 = .ok (.ifCond .ge 17, 3) := dk_156 0 17 (dk_at dksX0_seed_0 1 rfl rfl)
theorem dX0_seed_4 : decode cX0_seed 4 = .ok (.aload_n 0, 1) := dk_42 (dk_at dksX0_seed_0 4 rfl rfl)
theorem dX0_seed_5 : decode cX0_seed 5 = .ok (.iconst 5, 1) := dk_8 (dk_at dksX0_seed_0 5 rfl rfl)
theorem dX0_seed_6 : decode cX0_seed 6 = .ok (.invokevirtual 118, 3) := dk_182 0 118 (dk_at dksX0_seed_0 6 rfl rfl)
theorem dX0_seed_9 : decode cX0_seed 9 = .ok (.ifCond .lt 7, 3) := dk_155 0 7 (dk_at dksX0_seed_0 9 rfl rfl)
theorem dX0_seed_12 : decode cX0_seed 12 = .ok (.iconst 1, 1) := dk_4 (dk_at dksX0_seed_0 12 rfl rfl)
theorem dX0_seed_13 : decode cX0_seed 13 = .ok (.goto 4, 3) := dk_167 0 4 (dk_at dksX0_seed_0 13 rfl rfl)
theorem dX0_seed_16 : decode cX0_seed 16 = .ok (.iconst 0, 1) := dk_3 (dk_at dksX0_seed_0 16 rfl rfl)
theorem dX0_seed_17 : decode cX0_seed 17 = .ok (.ireturn, 1) := dk_172 (dk_at dksX0_seed_0 17 rfl rfl)
theorem dX0_seed_18 : decode cX0_seed 18 = .ok (.aload_n 0, 1) := dk_42 (dk_at dksX0_seed_0 18 rfl rfl)
theorem dX0_seed_19 : decode cX0_seed 19 = .ok (.iload_n 1, 1) := dk_27 (dk_at dksX0_seed_0 19 rfl rfl)
theorem dX0_seed_20 : decode cX0_seed 20 = .ok (.i2l, 1) := dk_133 (dk_at dksX0_seed_0 20 rfl rfl)
theorem dX0_seed_21 : decode cX0_seed 21 = .ok (.putfield 108, 3) := dk_181 0 108 (dk_at dksX0_seed_0 21 rfl rfl)
theorem dX0_seed_24 : decode cX0_seed 24 = .ok (.iconst 1, 1) := dk_4 (dk_at dksX0_seed_1 0 rfl rfl)
theorem dX0_seed_25 : decode cX0_seed 25 = .ok (.ireturn, 1) := dk_172 (dk_at dksX0_seed_1 1 rfl rfl)
abbrev cX0_ask : ByteArray := prog_1_method_63_code
def yX0_ask : MethodName := ⟨RX0, "ask", "()J"⟩
def dkwX0_ask_10 : List UInt8 := [96, 181, 1, 81, 167, 255, 82, 44, 182, 1, 103, 173]
abbrev dktX0_ask_10 : List UInt8 := dkwX0_ask_10 ++ []
def dkwX0_ask_9 : List UInt8 := [29, 16, 8, 108, 133, 80, 44, 42, 180, 1, 81, 42, 180, 0, 59, 182, 1, 97, 42, 89, 180, 1, 81, 4]
abbrev dktX0_ask_9 : List UInt8 := dkwX0_ask_9 ++ dktX0_ask_10
def dkwX0_ask_8 : List UInt8 := [42, 180, 0, 59, 180, 1, 93, 16, 7, 29, 16, 8, 112, 133, 80, 42, 180, 0, 59, 180, 1, 93, 16, 8]
abbrev dktX0_ask_8 : List UInt8 := dkwX0_ask_8 ++ dktX0_ask_9
def dkwX0_ask_7 : List UInt8 := [42, 180, 0, 69, 180, 0, 191, 133, 80, 42, 180, 0, 59, 180, 1, 93, 16, 6, 42, 180, 1, 81, 133, 80]
abbrev dktX0_ask_7 : List UInt8 := dkwX0_ask_7 ++ dktX0_ask_8
def dkwX0_ask_6 : List UInt8 := [180, 0, 69, 180, 0, 222, 42, 180, 1, 81, 46, 184, 1, 25, 133, 80, 42, 180, 0, 59, 180, 1, 93, 6]
abbrev dktX0_ask_6 : List UInt8 := dkwX0_ask_6 ++ dktX0_ask_7
def dkwX0_ask_5 : List UInt8 := [180, 1, 93, 4, 42, 180, 0, 69, 180, 0, 198, 29, 46, 133, 80, 42, 180, 0, 59, 180, 1, 93, 5, 42]
abbrev dktX0_ask_5 : List UInt8 := dkwX0_ask_5 ++ dktX0_ask_6
def dkwX0_ask_4 : List UInt8 := [180, 1, 93, 3, 42, 180, 0, 69, 180, 0, 219, 42, 180, 1, 81, 46, 133, 80, 42, 180, 0, 59]
abbrev dktX0_ask_4 : List UInt8 := dkwX0_ask_4 ++ dktX0_ask_5
def dkwX0_ask_3 : List UInt8 := [182, 0, 174, 162, 0, 169, 42, 180, 0, 69, 180, 0, 216, 42, 180, 1, 81, 46, 62, 42, 180, 0, 59]
abbrev dktX0_ask_3 : List UInt8 := dkwX0_ask_3 ++ dktX0_ask_4
def dkwX0_ask_2 : List UInt8 := [42, 45, 180, 0, 142, 181, 0, 39, 20, 1, 87, 173, 42, 3, 181, 1, 81, 42, 180, 1, 81, 42]
abbrev dktX0_ask_2 : List UInt8 := dkwX0_ask_2 ++ dktX0_ask_3
def dkwX0_ask_1 : List UInt8 := [181, 0, 39, 42, 180, 0, 48, 27, 182, 1, 89, 77, 167, 0, 24, 78, 42, 45, 180, 0, 139, 181, 0, 126]
abbrev dktX0_ask_1 : List UInt8 := dkwX0_ask_1 ++ dktX0_ask_2
def dkwX0_ask_0 : List UInt8 := [42, 182, 0, 129, 60, 42, 182, 0, 242, 154, 0, 7, 20, 1, 87, 173, 42, 3, 181, 0, 126, 42, 2]
abbrev dktX0_ask_0 : List UInt8 := dkwX0_ask_0 ++ dktX0_ask_1
theorem dksX0_ask_0 : cX0_ask.data.toList.drop 0 = dktX0_ask_0 := by decide +kernel
theorem dksX0_ask_1 : cX0_ask.data.toList.drop 23 = dktX0_ask_1 := dk_seg dksX0_ask_0 23 rfl rfl
theorem dksX0_ask_2 : cX0_ask.data.toList.drop 47 = dktX0_ask_2 := dk_seg dksX0_ask_1 24 rfl rfl
theorem dksX0_ask_3 : cX0_ask.data.toList.drop 69 = dktX0_ask_3 := dk_seg dksX0_ask_2 22 rfl rfl
theorem dksX0_ask_4 : cX0_ask.data.toList.drop 92 = dktX0_ask_4 := dk_seg dksX0_ask_3 23 rfl rfl
theorem dksX0_ask_5 : cX0_ask.data.toList.drop 114 = dktX0_ask_5 := dk_seg dksX0_ask_4 22 rfl rfl
theorem dksX0_ask_6 : cX0_ask.data.toList.drop 138 = dktX0_ask_6 := dk_seg dksX0_ask_5 24 rfl rfl
theorem dksX0_ask_7 : cX0_ask.data.toList.drop 162 = dktX0_ask_7 := dk_seg dksX0_ask_6 24 rfl rfl
theorem dksX0_ask_8 : cX0_ask.data.toList.drop 186 = dktX0_ask_8 := dk_seg dksX0_ask_7 24 rfl rfl
theorem dksX0_ask_9 : cX0_ask.data.toList.drop 210 = dktX0_ask_9 := dk_seg dksX0_ask_8 24 rfl rfl
theorem dksX0_ask_10 : cX0_ask.data.toList.drop 234 = dktX0_ask_10 := dk_seg dksX0_ask_9 24 rfl rfl
theorem dX0_ask_0 : decode cX0_ask 0 = .ok (.aload_n 0, 1) := dk_42 (dk_at dksX0_ask_0 0 rfl rfl)
theorem dX0_ask_1 : decode cX0_ask 1 = .ok (.invokevirtual 129, 3) := dk_182 0 129 (dk_at dksX0_ask_0 1 rfl rfl)
theorem dX0_ask_4 : decode cX0_ask 4 = .ok (.istore_n 1, 1) := dk_60 (dk_at dksX0_ask_0 4 rfl rfl)
theorem dX0_ask_5 : decode cX0_ask 5 = .ok (.aload_n 0, 1) := dk_42 (dk_at dksX0_ask_0 5 rfl rfl)
theorem dX0_ask_6 : decode cX0_ask 6 = .ok (.invokevirtual 242, 3) := dk_182 0 242 (dk_at dksX0_ask_0 6 rfl rfl)
theorem dX0_ask_9 : decode cX0_ask 9 = .ok (.ifCond .ne 7, 3) := dk_154 0 7 (dk_at dksX0_ask_0 9 rfl rfl)
theorem dX0_ask_12 : decode cX0_ask 12 = .ok (.ldc2_w 343, 3) := dk_20 1 87 (dk_at dksX0_ask_0 12 rfl rfl)
theorem dX0_ask_15 : decode cX0_ask 15 = .ok (.lreturn, 1) := dk_173 (dk_at dksX0_ask_0 15 rfl rfl)
theorem dX0_ask_16 : decode cX0_ask 16 = .ok (.aload_n 0, 1) := dk_42 (dk_at dksX0_ask_0 16 rfl rfl)
theorem dX0_ask_17 : decode cX0_ask 17 = .ok (.iconst 0, 1) := dk_3 (dk_at dksX0_ask_0 17 rfl rfl)
theorem dX0_ask_18 : decode cX0_ask 18 = .ok (.putfield 126, 3) := dk_181 0 126 (dk_at dksX0_ask_0 18 rfl rfl)
theorem dX0_ask_21 : decode cX0_ask 21 = .ok (.aload_n 0, 1) := dk_42 (dk_at dksX0_ask_0 21 rfl rfl)
theorem dX0_ask_22 : decode cX0_ask 22 = .ok (.iconst (-1), 1) := dk_2 (dk_at dksX0_ask_0 22 rfl rfl)
theorem dX0_ask_23 : decode cX0_ask 23 = .ok (.putfield 39, 3) := dk_181 0 39 (dk_at dksX0_ask_1 0 rfl rfl)
theorem dX0_ask_26 : decode cX0_ask 26 = .ok (.aload_n 0, 1) := dk_42 (dk_at dksX0_ask_1 3 rfl rfl)
theorem dX0_ask_27 : decode cX0_ask 27 = .ok (.getfield 48, 3) := dk_180 0 48 (dk_at dksX0_ask_1 4 rfl rfl)
theorem dX0_ask_30 : decode cX0_ask 30 = .ok (.iload_n 1, 1) := dk_27 (dk_at dksX0_ask_1 7 rfl rfl)
theorem dX0_ask_31 : decode cX0_ask 31 = .ok (.invokevirtual 345, 3) := dk_182 1 89 (dk_at dksX0_ask_1 8 rfl rfl)
theorem dX0_ask_34 : decode cX0_ask 34 = .ok (.astore_n 2, 1) := dk_77 (dk_at dksX0_ask_1 11 rfl rfl)
theorem dX0_ask_35 : decode cX0_ask 35 = .ok (.goto 24, 3) := dk_167 0 24 (dk_at dksX0_ask_1 12 rfl rfl)
theorem dX0_ask_38 : decode cX0_ask 38 = .ok (.astore_n 3, 1) := dk_78 (dk_at dksX0_ask_1 15 rfl rfl)
theorem dX0_ask_39 : decode cX0_ask 39 = .ok (.aload_n 0, 1) := dk_42 (dk_at dksX0_ask_1 16 rfl rfl)
theorem dX0_ask_40 : decode cX0_ask 40 = .ok (.aload_n 3, 1) := dk_45 (dk_at dksX0_ask_1 17 rfl rfl)
theorem dX0_ask_41 : decode cX0_ask 41 = .ok (.getfield 139, 3) := dk_180 0 139 (dk_at dksX0_ask_1 18 rfl rfl)
theorem dX0_ask_44 : decode cX0_ask 44 = .ok (.putfield 126, 3) := dk_181 0 126 (dk_at dksX0_ask_1 21 rfl rfl)
theorem dX0_ask_47 : decode cX0_ask 47 = .ok (.aload_n 0, 1) := dk_42 (dk_at dksX0_ask_2 0 rfl rfl)
theorem dX0_ask_48 : decode cX0_ask 48 = .ok (.aload_n 3, 1) := dk_45 (dk_at dksX0_ask_2 1 rfl rfl)
theorem dX0_ask_49 : decode cX0_ask 49 = .ok (.getfield 142, 3) := dk_180 0 142 (dk_at dksX0_ask_2 2 rfl rfl)
theorem dX0_ask_52 : decode cX0_ask 52 = .ok (.putfield 39, 3) := dk_181 0 39 (dk_at dksX0_ask_2 5 rfl rfl)
theorem dX0_ask_55 : decode cX0_ask 55 = .ok (.ldc2_w 343, 3) := dk_20 1 87 (dk_at dksX0_ask_2 8 rfl rfl)
theorem dX0_ask_58 : decode cX0_ask 58 = .ok (.lreturn, 1) := dk_173 (dk_at dksX0_ask_2 11 rfl rfl)
theorem dX0_ask_59 : decode cX0_ask 59 = .ok (.aload_n 0, 1) := dk_42 (dk_at dksX0_ask_2 12 rfl rfl)
theorem dX0_ask_60 : decode cX0_ask 60 = .ok (.iconst 0, 1) := dk_3 (dk_at dksX0_ask_2 13 rfl rfl)
theorem dX0_ask_61 : decode cX0_ask 61 = .ok (.putfield 337, 3) := dk_181 1 81 (dk_at dksX0_ask_2 14 rfl rfl)
theorem dX0_ask_64 : decode cX0_ask 64 = .ok (.aload_n 0, 1) := dk_42 (dk_at dksX0_ask_2 17 rfl rfl)
theorem dX0_ask_65 : decode cX0_ask 65 = .ok (.getfield 337, 3) := dk_180 1 81 (dk_at dksX0_ask_2 18 rfl rfl)
theorem dX0_ask_68 : decode cX0_ask 68 = .ok (.aload_n 0, 1) := dk_42 (dk_at dksX0_ask_2 21 rfl rfl)
theorem dX0_ask_69 : decode cX0_ask 69 = .ok (.invokevirtual 174, 3) := dk_182 0 174 (dk_at dksX0_ask_3 0 rfl rfl)
theorem dX0_ask_72 : decode cX0_ask 72 = .ok (.if_icmp .ge 169, 3) := dk_162 0 169 (dk_at dksX0_ask_3 3 rfl rfl)
theorem dX0_ask_75 : decode cX0_ask 75 = .ok (.aload_n 0, 1) := dk_42 (dk_at dksX0_ask_3 6 rfl rfl)
theorem dX0_ask_76 : decode cX0_ask 76 = .ok (.getfield 69, 3) := dk_180 0 69 (dk_at dksX0_ask_3 7 rfl rfl)
theorem dX0_ask_79 : decode cX0_ask 79 = .ok (.getfield 216, 3) := dk_180 0 216 (dk_at dksX0_ask_3 10 rfl rfl)
theorem dX0_ask_82 : decode cX0_ask 82 = .ok (.aload_n 0, 1) := dk_42 (dk_at dksX0_ask_3 13 rfl rfl)
theorem dX0_ask_83 : decode cX0_ask 83 = .ok (.getfield 337, 3) := dk_180 1 81 (dk_at dksX0_ask_3 14 rfl rfl)
theorem dX0_ask_86 : decode cX0_ask 86 = .ok (.iaload, 1) := dk_46 (dk_at dksX0_ask_3 17 rfl rfl)
theorem dX0_ask_87 : decode cX0_ask 87 = .ok (.istore_n 3, 1) := dk_62 (dk_at dksX0_ask_3 18 rfl rfl)
theorem dX0_ask_88 : decode cX0_ask 88 = .ok (.aload_n 0, 1) := dk_42 (dk_at dksX0_ask_3 19 rfl rfl)
theorem dX0_ask_89 : decode cX0_ask 89 = .ok (.getfield 59, 3) := dk_180 0 59 (dk_at dksX0_ask_3 20 rfl rfl)
theorem dX0_ask_92 : decode cX0_ask 92 = .ok (.getfield 349, 3) := dk_180 1 93 (dk_at dksX0_ask_4 0 rfl rfl)
theorem dX0_ask_95 : decode cX0_ask 95 = .ok (.iconst 0, 1) := dk_3 (dk_at dksX0_ask_4 3 rfl rfl)
theorem dX0_ask_96 : decode cX0_ask 96 = .ok (.aload_n 0, 1) := dk_42 (dk_at dksX0_ask_4 4 rfl rfl)
theorem dX0_ask_97 : decode cX0_ask 97 = .ok (.getfield 69, 3) := dk_180 0 69 (dk_at dksX0_ask_4 5 rfl rfl)
theorem dX0_ask_100 : decode cX0_ask 100 = .ok (.getfield 219, 3) := dk_180 0 219 (dk_at dksX0_ask_4 8 rfl rfl)
theorem dX0_ask_103 : decode cX0_ask 103 = .ok (.aload_n 0, 1) := dk_42 (dk_at dksX0_ask_4 11 rfl rfl)
theorem dX0_ask_104 : decode cX0_ask 104 = .ok (.getfield 337, 3) := dk_180 1 81 (dk_at dksX0_ask_4 12 rfl rfl)
theorem dX0_ask_107 : decode cX0_ask 107 = .ok (.iaload, 1) := dk_46 (dk_at dksX0_ask_4 15 rfl rfl)
theorem dX0_ask_108 : decode cX0_ask 108 = .ok (.i2l, 1) := dk_133 (dk_at dksX0_ask_4 16 rfl rfl)
theorem dX0_ask_109 : decode cX0_ask 109 = .ok (.lastore, 1) := dk_80 (dk_at dksX0_ask_4 17 rfl rfl)
theorem dX0_ask_110 : decode cX0_ask 110 = .ok (.aload_n 0, 1) := dk_42 (dk_at dksX0_ask_4 18 rfl rfl)
theorem dX0_ask_111 : decode cX0_ask 111 = .ok (.getfield 59, 3) := dk_180 0 59 (dk_at dksX0_ask_4 19 rfl rfl)
theorem dX0_ask_114 : decode cX0_ask 114 = .ok (.getfield 349, 3) := dk_180 1 93 (dk_at dksX0_ask_5 0 rfl rfl)
theorem dX0_ask_117 : decode cX0_ask 117 = .ok (.iconst 1, 1) := dk_4 (dk_at dksX0_ask_5 3 rfl rfl)
theorem dX0_ask_118 : decode cX0_ask 118 = .ok (.aload_n 0, 1) := dk_42 (dk_at dksX0_ask_5 4 rfl rfl)
theorem dX0_ask_119 : decode cX0_ask 119 = .ok (.getfield 69, 3) := dk_180 0 69 (dk_at dksX0_ask_5 5 rfl rfl)
theorem dX0_ask_122 : decode cX0_ask 122 = .ok (.getfield 198, 3) := dk_180 0 198 (dk_at dksX0_ask_5 8 rfl rfl)
theorem dX0_ask_125 : decode cX0_ask 125 = .ok (.iload_n 3, 1) := dk_29 (dk_at dksX0_ask_5 11 rfl rfl)
theorem dX0_ask_126 : decode cX0_ask 126 = .ok (.iaload, 1) := dk_46 (dk_at dksX0_ask_5 12 rfl rfl)
theorem dX0_ask_127 : decode cX0_ask 127 = .ok (.i2l, 1) := dk_133 (dk_at dksX0_ask_5 13 rfl rfl)
theorem dX0_ask_128 : decode cX0_ask 128 = .ok (.lastore, 1) := dk_80 (dk_at dksX0_ask_5 14 rfl rfl)
theorem dX0_ask_129 : decode cX0_ask 129 = .ok (.aload_n 0, 1) := dk_42 (dk_at dksX0_ask_5 15 rfl rfl)
theorem dX0_ask_130 : decode cX0_ask 130 = .ok (.getfield 59, 3) := dk_180 0 59 (dk_at dksX0_ask_5 16 rfl rfl)
theorem dX0_ask_133 : decode cX0_ask 133 = .ok (.getfield 349, 3) := dk_180 1 93 (dk_at dksX0_ask_5 19 rfl rfl)
theorem dX0_ask_136 : decode cX0_ask 136 = .ok (.iconst 2, 1) := dk_5 (dk_at dksX0_ask_5 22 rfl rfl)
theorem dX0_ask_137 : decode cX0_ask 137 = .ok (.aload_n 0, 1) := dk_42 (dk_at dksX0_ask_5 23 rfl rfl)
theorem dX0_ask_138 : decode cX0_ask 138 = .ok (.getfield 69, 3) := dk_180 0 69 (dk_at dksX0_ask_6 0 rfl rfl)
theorem dX0_ask_141 : decode cX0_ask 141 = .ok (.getfield 222, 3) := dk_180 0 222 (dk_at dksX0_ask_6 3 rfl rfl)
theorem dX0_ask_144 : decode cX0_ask 144 = .ok (.aload_n 0, 1) := dk_42 (dk_at dksX0_ask_6 6 rfl rfl)
theorem dX0_ask_145 : decode cX0_ask 145 = .ok (.getfield 337, 3) := dk_180 1 81 (dk_at dksX0_ask_6 7 rfl rfl)
theorem dX0_ask_148 : decode cX0_ask 148 = .ok (.iaload, 1) := dk_46 (dk_at dksX0_ask_6 10 rfl rfl)
theorem dX0_ask_149 : decode cX0_ask 149 = .ok (.invokestatic 281, 3) := dk_184 1 25 (dk_at dksX0_ask_6 11 rfl rfl)
theorem dX0_ask_152 : decode cX0_ask 152 = .ok (.i2l, 1) := dk_133 (dk_at dksX0_ask_6 14 rfl rfl)
theorem dX0_ask_153 : decode cX0_ask 153 = .ok (.lastore, 1) := dk_80 (dk_at dksX0_ask_6 15 rfl rfl)
theorem dX0_ask_154 : decode cX0_ask 154 = .ok (.aload_n 0, 1) := dk_42 (dk_at dksX0_ask_6 16 rfl rfl)
theorem dX0_ask_155 : decode cX0_ask 155 = .ok (.getfield 59, 3) := dk_180 0 59 (dk_at dksX0_ask_6 17 rfl rfl)
theorem dX0_ask_158 : decode cX0_ask 158 = .ok (.getfield 349, 3) := dk_180 1 93 (dk_at dksX0_ask_6 20 rfl rfl)
theorem dX0_ask_161 : decode cX0_ask 161 = .ok (.iconst 3, 1) := dk_6 (dk_at dksX0_ask_6 23 rfl rfl)
theorem dX0_ask_162 : decode cX0_ask 162 = .ok (.aload_n 0, 1) := dk_42 (dk_at dksX0_ask_7 0 rfl rfl)
theorem dX0_ask_163 : decode cX0_ask 163 = .ok (.getfield 69, 3) := dk_180 0 69 (dk_at dksX0_ask_7 1 rfl rfl)
theorem dX0_ask_166 : decode cX0_ask 166 = .ok (.getfield 191, 3) := dk_180 0 191 (dk_at dksX0_ask_7 4 rfl rfl)
theorem dX0_ask_169 : decode cX0_ask 169 = .ok (.i2l, 1) := dk_133 (dk_at dksX0_ask_7 7 rfl rfl)
theorem dX0_ask_170 : decode cX0_ask 170 = .ok (.lastore, 1) := dk_80 (dk_at dksX0_ask_7 8 rfl rfl)
theorem dX0_ask_171 : decode cX0_ask 171 = .ok (.aload_n 0, 1) := dk_42 (dk_at dksX0_ask_7 9 rfl rfl)
theorem dX0_ask_172 : decode cX0_ask 172 = .ok (.getfield 59, 3) := dk_180 0 59 (dk_at dksX0_ask_7 10 rfl rfl)
theorem dX0_ask_175 : decode cX0_ask 175 = .ok (.getfield 349, 3) := dk_180 1 93 (dk_at dksX0_ask_7 13 rfl rfl)
theorem dX0_ask_178 : decode cX0_ask 178 = .ok (.bipush 6, 2) := dk_16 6 (dk_at dksX0_ask_7 16 rfl rfl)
theorem dX0_ask_180 : decode cX0_ask 180 = .ok (.aload_n 0, 1) := dk_42 (dk_at dksX0_ask_7 18 rfl rfl)
theorem dX0_ask_181 : decode cX0_ask 181 = .ok (.getfield 337, 3) := dk_180 1 81 (dk_at dksX0_ask_7 19 rfl rfl)
theorem dX0_ask_184 : decode cX0_ask 184 = .ok (.i2l, 1) := dk_133 (dk_at dksX0_ask_7 22 rfl rfl)
theorem dX0_ask_185 : decode cX0_ask 185 = .ok (.lastore, 1) := dk_80 (dk_at dksX0_ask_7 23 rfl rfl)
theorem dX0_ask_186 : decode cX0_ask 186 = .ok (.aload_n 0, 1) := dk_42 (dk_at dksX0_ask_8 0 rfl rfl)
theorem dX0_ask_187 : decode cX0_ask 187 = .ok (.getfield 59, 3) := dk_180 0 59 (dk_at dksX0_ask_8 1 rfl rfl)
theorem dX0_ask_190 : decode cX0_ask 190 = .ok (.getfield 349, 3) := dk_180 1 93 (dk_at dksX0_ask_8 4 rfl rfl)
theorem dX0_ask_193 : decode cX0_ask 193 = .ok (.bipush 7, 2) := dk_16 7 (dk_at dksX0_ask_8 7 rfl rfl)
theorem dX0_ask_195 : decode cX0_ask 195 = .ok (.iload_n 3, 1) := dk_29 (dk_at dksX0_ask_8 9 rfl rfl)
theorem dX0_ask_196 : decode cX0_ask 196 = .ok (.bipush 8, 2) := dk_16 8 (dk_at dksX0_ask_8 10 rfl rfl)
theorem dX0_ask_198 : decode cX0_ask 198 = .ok (.irem, 1) := dk_112 (dk_at dksX0_ask_8 12 rfl rfl)
theorem dX0_ask_199 : decode cX0_ask 199 = .ok (.i2l, 1) := dk_133 (dk_at dksX0_ask_8 13 rfl rfl)
theorem dX0_ask_200 : decode cX0_ask 200 = .ok (.lastore, 1) := dk_80 (dk_at dksX0_ask_8 14 rfl rfl)
theorem dX0_ask_201 : decode cX0_ask 201 = .ok (.aload_n 0, 1) := dk_42 (dk_at dksX0_ask_8 15 rfl rfl)
theorem dX0_ask_202 : decode cX0_ask 202 = .ok (.getfield 59, 3) := dk_180 0 59 (dk_at dksX0_ask_8 16 rfl rfl)
theorem dX0_ask_205 : decode cX0_ask 205 = .ok (.getfield 349, 3) := dk_180 1 93 (dk_at dksX0_ask_8 19 rfl rfl)
theorem dX0_ask_208 : decode cX0_ask 208 = .ok (.bipush 8, 2) := dk_16 8 (dk_at dksX0_ask_8 22 rfl rfl)
theorem dX0_ask_210 : decode cX0_ask 210 = .ok (.iload_n 3, 1) := dk_29 (dk_at dksX0_ask_9 0 rfl rfl)
theorem dX0_ask_211 : decode cX0_ask 211 = .ok (.bipush 8, 2) := dk_16 8 (dk_at dksX0_ask_9 1 rfl rfl)
theorem dX0_ask_213 : decode cX0_ask 213 = .ok (.idiv, 1) := dk_108 (dk_at dksX0_ask_9 3 rfl rfl)
theorem dX0_ask_214 : decode cX0_ask 214 = .ok (.i2l, 1) := dk_133 (dk_at dksX0_ask_9 4 rfl rfl)
theorem dX0_ask_215 : decode cX0_ask 215 = .ok (.lastore, 1) := dk_80 (dk_at dksX0_ask_9 5 rfl rfl)
theorem dX0_ask_216 : decode cX0_ask 216 = .ok (.aload_n 2, 1) := dk_44 (dk_at dksX0_ask_9 6 rfl rfl)
theorem dX0_ask_217 : decode cX0_ask 217 = .ok (.aload_n 0, 1) := dk_42 (dk_at dksX0_ask_9 7 rfl rfl)
theorem dX0_ask_218 : decode cX0_ask 218 = .ok (.getfield 337, 3) := dk_180 1 81 (dk_at dksX0_ask_9 8 rfl rfl)
theorem dX0_ask_221 : decode cX0_ask 221 = .ok (.aload_n 0, 1) := dk_42 (dk_at dksX0_ask_9 11 rfl rfl)
theorem dX0_ask_222 : decode cX0_ask 222 = .ok (.getfield 59, 3) := dk_180 0 59 (dk_at dksX0_ask_9 12 rfl rfl)
theorem dX0_ask_225 : decode cX0_ask 225 = .ok (.invokevirtual 353, 3) := dk_182 1 97 (dk_at dksX0_ask_9 15 rfl rfl)
theorem dX0_ask_228 : decode cX0_ask 228 = .ok (.aload_n 0, 1) := dk_42 (dk_at dksX0_ask_9 18 rfl rfl)
theorem dX0_ask_229 : decode cX0_ask 229 = .ok (.dup, 1) := dk_89 (dk_at dksX0_ask_9 19 rfl rfl)
theorem dX0_ask_230 : decode cX0_ask 230 = .ok (.getfield 337, 3) := dk_180 1 81 (dk_at dksX0_ask_9 20 rfl rfl)
theorem dX0_ask_233 : decode cX0_ask 233 = .ok (.iconst 1, 1) := dk_4 (dk_at dksX0_ask_9 23 rfl rfl)
theorem dX0_ask_234 : decode cX0_ask 234 = .ok (.iadd, 1) := dk_96 (dk_at dksX0_ask_10 0 rfl rfl)
theorem dX0_ask_235 : decode cX0_ask 235 = .ok (.putfield 337, 3) := dk_181 1 81 (dk_at dksX0_ask_10 1 rfl rfl)
theorem dX0_ask_238 : decode cX0_ask 238 = .ok (.goto (-174), 3) := dk_167 255 82 (dk_at dksX0_ask_10 4 rfl rfl)
theorem dX0_ask_241 : decode cX0_ask 241 = .ok (.aload_n 2, 1) := dk_44 (dk_at dksX0_ask_10 7 rfl rfl)
theorem dX0_ask_242 : decode cX0_ask 242 = .ok (.invokevirtual 359, 3) := dk_182 1 103 (dk_at dksX0_ask_10 8 rfl rfl)
theorem dX0_ask_245 : decode cX0_ask 245 = .ok (.lreturn, 1) := dk_173 (dk_at dksX0_ask_10 11 rfl rfl)
abbrev cX0_image : ByteArray := prog_1_method_66_code
def yX0_image : MethodName := ⟨RX0, "image", "()I"⟩
def dkwX0_image_6 : List UInt8 := [42, 180, 1, 107, 184, 1, 113, 182, 1, 110, 42, 180, 1, 107, 172]
abbrev dktX0_image_6 : List UInt8 := dkwX0_image_6 ++ []
def dkwX0_image_5 : List UInt8 := [42, 42, 180, 0, 69, 180, 0, 222, 27, 46, 182, 1, 110, 132, 1, 1, 167, 255, 187, 42, 42, 180, 0, 112]
abbrev dktX0_image_5 : List UInt8 := dkwX0_image_5 ++ dktX0_image_6
def dkwX0_image_4 : List UInt8 := [180, 0, 216, 27, 46, 16, 8, 108, 182, 1, 110, 42, 42, 180, 0, 69, 180, 0, 219, 27, 46, 182, 1, 110]
abbrev dktX0_image_4 : List UInt8 := dkwX0_image_4 ++ dktX0_image_5
def dkwX0_image_3 : List UInt8 := [162, 0, 67, 42, 42, 180, 0, 69, 180, 0, 216, 27, 46, 16, 8, 112, 182, 1, 110, 42, 42, 180, 0, 69]
abbrev dktX0_image_3 : List UInt8 := dkwX0_image_3 ++ dktX0_image_4
def dkwX0_image_2 : List UInt8 := [180, 0, 69, 180, 0, 198, 27, 46, 182, 1, 110, 132, 1, 1, 167, 255, 226, 3, 60, 27, 42, 182, 0, 174]
abbrev dktX0_image_2 : List UInt8 := dkwX0_image_2 ++ dktX0_image_3
def dkwX0_image_1 : List UInt8 := [180, 0, 191, 182, 1, 110, 3, 60, 27, 16, 64, 162, 0, 30, 42, 27, 182, 0, 194, 153, 0, 16, 42, 42]
abbrev dktX0_image_1 : List UInt8 := dkwX0_image_1 ++ dktX0_image_2
def dkwX0_image_0 : List UInt8 := [42, 3, 181, 1, 107, 42, 42, 180, 0, 69, 180, 0, 191, 16, 8, 122, 182, 1, 110, 42, 42, 180, 0, 69]
abbrev dktX0_image_0 : List UInt8 := dkwX0_image_0 ++ dktX0_image_1
theorem dksX0_image_0 : cX0_image.data.toList.drop 0 = dktX0_image_0 := by decide +kernel
theorem dksX0_image_1 : cX0_image.data.toList.drop 24 = dktX0_image_1 := dk_seg dksX0_image_0 24 rfl rfl
theorem dksX0_image_2 : cX0_image.data.toList.drop 48 = dktX0_image_2 := dk_seg dksX0_image_1 24 rfl rfl
theorem dksX0_image_3 : cX0_image.data.toList.drop 72 = dktX0_image_3 := dk_seg dksX0_image_2 24 rfl rfl
theorem dksX0_image_4 : cX0_image.data.toList.drop 96 = dktX0_image_4 := dk_seg dksX0_image_3 24 rfl rfl
theorem dksX0_image_5 : cX0_image.data.toList.drop 120 = dktX0_image_5 := dk_seg dksX0_image_4 24 rfl rfl
theorem dksX0_image_6 : cX0_image.data.toList.drop 144 = dktX0_image_6 := dk_seg dksX0_image_5 24 rfl rfl
theorem dX0_image_0 : decode cX0_image 0 = .ok (.aload_n 0, 1) := dk_42 (dk_at dksX0_image_0 0 rfl rfl)
theorem dX0_image_1 : decode cX0_image 1 = .ok (.iconst 0, 1) := dk_3 (dk_at dksX0_image_0 1 rfl rfl)
theorem dX0_image_2 : decode cX0_image 2 = .ok (.putfield 363, 3) := dk_181 1 107 (dk_at dksX0_image_0 2 rfl rfl)
theorem dX0_image_5 : decode cX0_image 5 = .ok (.aload_n 0, 1) := dk_42 (dk_at dksX0_image_0 5 rfl rfl)
theorem dX0_image_6 : decode cX0_image 6 = .ok (.aload_n 0, 1) := dk_42 (dk_at dksX0_image_0 6 rfl rfl)
theorem dX0_image_7 : decode cX0_image 7 = .ok (.getfield 69, 3) := dk_180 0 69 (dk_at dksX0_image_0 7 rfl rfl)
theorem dX0_image_10 : decode cX0_image 10 = .ok (.getfield 191, 3) := dk_180 0 191 (dk_at dksX0_image_0 10 rfl rfl)
theorem dX0_image_13 : decode cX0_image 13 = .ok (.bipush 8, 2) := dk_16 8 (dk_at dksX0_image_0 13 rfl rfl)
theorem dX0_image_15 : decode cX0_image 15 = .ok (.ishr, 1) := dk_122 (dk_at dksX0_image_0 15 rfl rfl)
theorem dX0_image_16 : decode cX0_image 16 = .ok (.invokevirtual 366, 3) := dk_182 1 110 (dk_at dksX0_image_0 16 rfl rfl)
theorem dX0_image_19 : decode cX0_image 19 = .ok (.aload_n 0, 1) := dk_42 (dk_at dksX0_image_0 19 rfl rfl)
theorem dX0_image_20 : decode cX0_image 20 = .ok (.aload_n 0, 1) := dk_42 (dk_at dksX0_image_0 20 rfl rfl)
theorem dX0_image_21 : decode cX0_image 21 = .ok (.getfield 69, 3) := dk_180 0 69 (dk_at dksX0_image_0 21 rfl rfl)
theorem dX0_image_24 : decode cX0_image 24 = .ok (.getfield 191, 3) := dk_180 0 191 (dk_at dksX0_image_1 0 rfl rfl)
theorem dX0_image_27 : decode cX0_image 27 = .ok (.invokevirtual 366, 3) := dk_182 1 110 (dk_at dksX0_image_1 3 rfl rfl)
theorem dX0_image_30 : decode cX0_image 30 = .ok (.iconst 0, 1) := dk_3 (dk_at dksX0_image_1 6 rfl rfl)
theorem dX0_image_31 : decode cX0_image 31 = .ok (.istore_n 1, 1) := dk_60 (dk_at dksX0_image_1 7 rfl rfl)
theorem dX0_image_32 : decode cX0_image 32 = .ok (.iload_n 1, 1) := dk_27 (dk_at dksX0_image_1 8 rfl rfl)
theorem dX0_image_33 : decode cX0_image 33 = .ok (.bipush 64, 2) := dk_16 64 (dk_at dksX0_image_1 9 rfl rfl)
theorem dX0_image_35 : decode cX0_image 35 = .ok (.if_icmp .ge 30, 3) := dk_162 0 30 (dk_at dksX0_image_1 11 rfl rfl)
theorem dX0_image_38 : decode cX0_image 38 = .ok (.aload_n 0, 1) := dk_42 (dk_at dksX0_image_1 14 rfl rfl)
theorem dX0_image_39 : decode cX0_image 39 = .ok (.iload_n 1, 1) := dk_27 (dk_at dksX0_image_1 15 rfl rfl)
theorem dX0_image_40 : decode cX0_image 40 = .ok (.invokevirtual 194, 3) := dk_182 0 194 (dk_at dksX0_image_1 16 rfl rfl)
theorem dX0_image_43 : decode cX0_image 43 = .ok (.ifCond .eq 16, 3) := dk_153 0 16 (dk_at dksX0_image_1 19 rfl rfl)
theorem dX0_image_46 : decode cX0_image 46 = .ok (.aload_n 0, 1) := dk_42 (dk_at dksX0_image_1 22 rfl rfl)
theorem dX0_image_47 : decode cX0_image 47 = .ok (.aload_n 0, 1) := dk_42 (dk_at dksX0_image_1 23 rfl rfl)
theorem dX0_image_48 : decode cX0_image 48 = .ok (.getfield 69, 3) := dk_180 0 69 (dk_at dksX0_image_2 0 rfl rfl)
theorem dX0_image_51 : decode cX0_image 51 = .ok (.getfield 198, 3) := dk_180 0 198 (dk_at dksX0_image_2 3 rfl rfl)
theorem dX0_image_54 : decode cX0_image 54 = .ok (.iload_n 1, 1) := dk_27 (dk_at dksX0_image_2 6 rfl rfl)
theorem dX0_image_55 : decode cX0_image 55 = .ok (.iaload, 1) := dk_46 (dk_at dksX0_image_2 7 rfl rfl)
theorem dX0_image_56 : decode cX0_image 56 = .ok (.invokevirtual 366, 3) := dk_182 1 110 (dk_at dksX0_image_2 8 rfl rfl)
theorem dX0_image_59 : decode cX0_image 59 = .ok (.iinc 1 1, 3) := dk_132 1 1 (dk_at dksX0_image_2 11 rfl rfl)
theorem dX0_image_62 : decode cX0_image 62 = .ok (.goto (-30), 3) := dk_167 255 226 (dk_at dksX0_image_2 14 rfl rfl)
theorem dX0_image_65 : decode cX0_image 65 = .ok (.iconst 0, 1) := dk_3 (dk_at dksX0_image_2 17 rfl rfl)
theorem dX0_image_66 : decode cX0_image 66 = .ok (.istore_n 1, 1) := dk_60 (dk_at dksX0_image_2 18 rfl rfl)
theorem dX0_image_67 : decode cX0_image 67 = .ok (.iload_n 1, 1) := dk_27 (dk_at dksX0_image_2 19 rfl rfl)
theorem dX0_image_68 : decode cX0_image 68 = .ok (.aload_n 0, 1) := dk_42 (dk_at dksX0_image_2 20 rfl rfl)
theorem dX0_image_69 : decode cX0_image 69 = .ok (.invokevirtual 174, 3) := dk_182 0 174 (dk_at dksX0_image_2 21 rfl rfl)
theorem dX0_image_72 : decode cX0_image 72 = .ok (.if_icmp .ge 67, 3) := dk_162 0 67 (dk_at dksX0_image_3 0 rfl rfl)
theorem dX0_image_75 : decode cX0_image 75 = .ok (.aload_n 0, 1) := dk_42 (dk_at dksX0_image_3 3 rfl rfl)
theorem dX0_image_76 : decode cX0_image 76 = .ok (.aload_n 0, 1) := dk_42 (dk_at dksX0_image_3 4 rfl rfl)
theorem dX0_image_77 : decode cX0_image 77 = .ok (.getfield 69, 3) := dk_180 0 69 (dk_at dksX0_image_3 5 rfl rfl)
theorem dX0_image_80 : decode cX0_image 80 = .ok (.getfield 216, 3) := dk_180 0 216 (dk_at dksX0_image_3 8 rfl rfl)
theorem dX0_image_83 : decode cX0_image 83 = .ok (.iload_n 1, 1) := dk_27 (dk_at dksX0_image_3 11 rfl rfl)
theorem dX0_image_84 : decode cX0_image 84 = .ok (.iaload, 1) := dk_46 (dk_at dksX0_image_3 12 rfl rfl)
theorem dX0_image_85 : decode cX0_image 85 = .ok (.bipush 8, 2) := dk_16 8 (dk_at dksX0_image_3 13 rfl rfl)
theorem dX0_image_87 : decode cX0_image 87 = .ok (.irem, 1) := dk_112 (dk_at dksX0_image_3 15 rfl rfl)
theorem dX0_image_88 : decode cX0_image 88 = .ok (.invokevirtual 366, 3) := dk_182 1 110 (dk_at dksX0_image_3 16 rfl rfl)
theorem dX0_image_91 : decode cX0_image 91 = .ok (.aload_n 0, 1) := dk_42 (dk_at dksX0_image_3 19 rfl rfl)
theorem dX0_image_92 : decode cX0_image 92 = .ok (.aload_n 0, 1) := dk_42 (dk_at dksX0_image_3 20 rfl rfl)
theorem dX0_image_93 : decode cX0_image 93 = .ok (.getfield 69, 3) := dk_180 0 69 (dk_at dksX0_image_3 21 rfl rfl)
theorem dX0_image_96 : decode cX0_image 96 = .ok (.getfield 216, 3) := dk_180 0 216 (dk_at dksX0_image_4 0 rfl rfl)
theorem dX0_image_99 : decode cX0_image 99 = .ok (.iload_n 1, 1) := dk_27 (dk_at dksX0_image_4 3 rfl rfl)
theorem dX0_image_100 : decode cX0_image 100 = .ok (.iaload, 1) := dk_46 (dk_at dksX0_image_4 4 rfl rfl)
theorem dX0_image_101 : decode cX0_image 101 = .ok (.bipush 8, 2) := dk_16 8 (dk_at dksX0_image_4 5 rfl rfl)
theorem dX0_image_103 : decode cX0_image 103 = .ok (.idiv, 1) := dk_108 (dk_at dksX0_image_4 7 rfl rfl)
theorem dX0_image_104 : decode cX0_image 104 = .ok (.invokevirtual 366, 3) := dk_182 1 110 (dk_at dksX0_image_4 8 rfl rfl)
theorem dX0_image_107 : decode cX0_image 107 = .ok (.aload_n 0, 1) := dk_42 (dk_at dksX0_image_4 11 rfl rfl)
theorem dX0_image_108 : decode cX0_image 108 = .ok (.aload_n 0, 1) := dk_42 (dk_at dksX0_image_4 12 rfl rfl)
theorem dX0_image_109 : decode cX0_image 109 = .ok (.getfield 69, 3) := dk_180 0 69 (dk_at dksX0_image_4 13 rfl rfl)
theorem dX0_image_112 : decode cX0_image 112 = .ok (.getfield 219, 3) := dk_180 0 219 (dk_at dksX0_image_4 16 rfl rfl)
theorem dX0_image_115 : decode cX0_image 115 = .ok (.iload_n 1, 1) := dk_27 (dk_at dksX0_image_4 19 rfl rfl)
theorem dX0_image_116 : decode cX0_image 116 = .ok (.iaload, 1) := dk_46 (dk_at dksX0_image_4 20 rfl rfl)
theorem dX0_image_117 : decode cX0_image 117 = .ok (.invokevirtual 366, 3) := dk_182 1 110 (dk_at dksX0_image_4 21 rfl rfl)
theorem dX0_image_120 : decode cX0_image 120 = .ok (.aload_n 0, 1) := dk_42 (dk_at dksX0_image_5 0 rfl rfl)
theorem dX0_image_121 : decode cX0_image 121 = .ok (.aload_n 0, 1) := dk_42 (dk_at dksX0_image_5 1 rfl rfl)
theorem dX0_image_122 : decode cX0_image 122 = .ok (.getfield 69, 3) := dk_180 0 69 (dk_at dksX0_image_5 2 rfl rfl)
theorem dX0_image_125 : decode cX0_image 125 = .ok (.getfield 222, 3) := dk_180 0 222 (dk_at dksX0_image_5 5 rfl rfl)
theorem dX0_image_128 : decode cX0_image 128 = .ok (.iload_n 1, 1) := dk_27 (dk_at dksX0_image_5 8 rfl rfl)
theorem dX0_image_129 : decode cX0_image 129 = .ok (.iaload, 1) := dk_46 (dk_at dksX0_image_5 9 rfl rfl)
theorem dX0_image_130 : decode cX0_image 130 = .ok (.invokevirtual 366, 3) := dk_182 1 110 (dk_at dksX0_image_5 10 rfl rfl)
theorem dX0_image_133 : decode cX0_image 133 = .ok (.iinc 1 1, 3) := dk_132 1 1 (dk_at dksX0_image_5 13 rfl rfl)
theorem dX0_image_136 : decode cX0_image 136 = .ok (.goto (-69), 3) := dk_167 255 187 (dk_at dksX0_image_5 16 rfl rfl)
theorem dX0_image_139 : decode cX0_image 139 = .ok (.aload_n 0, 1) := dk_42 (dk_at dksX0_image_5 19 rfl rfl)
theorem dX0_image_140 : decode cX0_image 140 = .ok (.aload_n 0, 1) := dk_42 (dk_at dksX0_image_5 20 rfl rfl)
theorem dX0_image_141 : decode cX0_image 141 = .ok (.getfield 112, 3) := dk_180 0 112 (dk_at dksX0_image_5 21 rfl rfl)
theorem dX0_image_144 : decode cX0_image 144 = .ok (.aload_n 0, 1) := dk_42 (dk_at dksX0_image_6 0 rfl rfl)
theorem dX0_image_145 : decode cX0_image 145 = .ok (.getfield 363, 3) := dk_180 1 107 (dk_at dksX0_image_6 1 rfl rfl)
theorem dX0_image_148 : decode cX0_image 148 = .ok (.invokestatic 369, 3) := dk_184 1 113 (dk_at dksX0_image_6 4 rfl rfl)
theorem dX0_image_151 : decode cX0_image 151 = .ok (.invokevirtual 366, 3) := dk_182 1 110 (dk_at dksX0_image_6 7 rfl rfl)
theorem dX0_image_154 : decode cX0_image 154 = .ok (.aload_n 0, 1) := dk_42 (dk_at dksX0_image_6 10 rfl rfl)
theorem dX0_image_155 : decode cX0_image 155 = .ok (.getfield 363, 3) := dk_180 1 107 (dk_at dksX0_image_6 11 rfl rfl)
theorem dX0_image_158 : decode cX0_image 158 = .ok (.ireturn, 1) := dk_172 (dk_at dksX0_image_6 14 rfl rfl)
abbrev cX0_writes : ByteArray := prog_1_method_64_code
def yX0_writes : MethodName := ⟨RX0, "writes", "(I)V"⟩
def dkwX0_writes_0 : List UInt8 := [42, 180, 0, 112, 42, 89, 180, 1, 107, 90, 4, 96, 181, 1, 107, 27, 145, 84, 177]
abbrev dktX0_writes_0 : List UInt8 := dkwX0_writes_0 ++ []
theorem dksX0_writes_0 : cX0_writes.data.toList.drop 0 = dktX0_writes_0 := by decide +kernel
theorem dX0_writes_0 : decode cX0_writes 0 = .ok (.aload_n 0, 1) := dk_42 (dk_at dksX0_writes_0 0 rfl rfl)
theorem dX0_writes_1 : decode cX0_writes 1 = .ok (.getfield 112, 3) := dk_180 0 112 (dk_at dksX0_writes_0 1 rfl rfl)
theorem dX0_writes_4 : decode cX0_writes 4 = .ok (.aload_n 0, 1) := dk_42 (dk_at dksX0_writes_0 4 rfl rfl)
theorem dX0_writes_5 : decode cX0_writes 5 = .ok (.dup, 1) := dk_89 (dk_at dksX0_writes_0 5 rfl rfl)
theorem dX0_writes_6 : decode cX0_writes 6 = .ok (.getfield 363, 3) := dk_180 1 107 (dk_at dksX0_writes_0 6 rfl rfl)
theorem dX0_writes_9 : decode cX0_writes 9 = .ok (.dup_x1, 1) := dk_90 (dk_at dksX0_writes_0 9 rfl rfl)
theorem dX0_writes_10 : decode cX0_writes 10 = .ok (.iconst 1, 1) := dk_4 (dk_at dksX0_writes_0 10 rfl rfl)
theorem dX0_writes_11 : decode cX0_writes 11 = .ok (.iadd, 1) := dk_96 (dk_at dksX0_writes_0 11 rfl rfl)
theorem dX0_writes_12 : decode cX0_writes 12 = .ok (.putfield 363, 3) := dk_181 1 107 (dk_at dksX0_writes_0 12 rfl rfl)
theorem dX0_writes_15 : decode cX0_writes 15 = .ok (.iload_n 1, 1) := dk_27 (dk_at dksX0_writes_0 15 rfl rfl)
theorem dX0_writes_16 : decode cX0_writes 16 = .ok (.i2b, 1) := dk_145 (dk_at dksX0_writes_0 16 rfl rfl)
theorem dX0_writes_17 : decode cX0_writes 17 = .ok (.bastore, 1) := dk_84 (dk_at dksX0_writes_0 17 rfl rfl)
theorem dX0_writes_18 : decode cX0_writes 18 = .ok (.return_, 1) := dk_177 (dk_at dksX0_writes_0 18 rfl rfl)
abbrev cX0_check : ByteArray := prog_1_method_65_code
def yX0_check : MethodName := ⟨RX0, "check", "([BI)I"⟩
def dkwX0_check_1 : List UInt8 := [17, 0, 251, 112, 61, 132, 3, 1, 167, 255, 232, 28, 172]
abbrev dktX0_check_1 : List UInt8 := dkwX0_check_1 ++ []
def dkwX0_check_0 : List UInt8 := [17, 0, 227, 61, 3, 62, 29, 27, 162, 0, 25, 6, 28, 104, 42, 29, 51, 17, 0, 255, 126, 96]
abbrev dktX0_check_0 : List UInt8 := dkwX0_check_0 ++ dktX0_check_1
theorem dksX0_check_0 : cX0_check.data.toList.drop 0 = dktX0_check_0 := by decide +kernel
theorem dksX0_check_1 : cX0_check.data.toList.drop 22 = dktX0_check_1 := dk_seg dksX0_check_0 22 rfl rfl
theorem dX0_check_0 : decode cX0_check 0 = .ok (.sipush 227, 3) := dk_17 0 227 (dk_at dksX0_check_0 0 rfl rfl)
theorem dX0_check_3 : decode cX0_check 3 = .ok (.istore_n 2, 1) := dk_61 (dk_at dksX0_check_0 3 rfl rfl)
theorem dX0_check_4 : decode cX0_check 4 = .ok (.iconst 0, 1) := dk_3 (dk_at dksX0_check_0 4 rfl rfl)
theorem dX0_check_5 : decode cX0_check 5 = .ok (.istore_n 3, 1) := dk_62 (dk_at dksX0_check_0 5 rfl rfl)
theorem dX0_check_6 : decode cX0_check 6 = .ok (.iload_n 3, 1) := dk_29 (dk_at dksX0_check_0 6 rfl rfl)
theorem dX0_check_7 : decode cX0_check 7 = .ok (.iload_n 1, 1) := dk_27 (dk_at dksX0_check_0 7 rfl rfl)
theorem dX0_check_8 : decode cX0_check 8 = .ok (.if_icmp .ge 25, 3) := dk_162 0 25 (dk_at dksX0_check_0 8 rfl rfl)
theorem dX0_check_11 : decode cX0_check 11 = .ok (.iconst 3, 1) := dk_6 (dk_at dksX0_check_0 11 rfl rfl)
theorem dX0_check_12 : decode cX0_check 12 = .ok (.iload_n 2, 1) := dk_28 (dk_at dksX0_check_0 12 rfl rfl)
theorem dX0_check_13 : decode cX0_check 13 = .ok (.imul, 1) := dk_104 (dk_at dksX0_check_0 13 rfl rfl)
theorem dX0_check_14 : decode cX0_check 14 = .ok (.aload_n 0, 1) := dk_42 (dk_at dksX0_check_0 14 rfl rfl)
theorem dX0_check_15 : decode cX0_check 15 = .ok (.iload_n 3, 1) := dk_29 (dk_at dksX0_check_0 15 rfl rfl)
theorem dX0_check_16 : decode cX0_check 16 = .ok (.baload, 1) := dk_51 (dk_at dksX0_check_0 16 rfl rfl)
theorem dX0_check_17 : decode cX0_check 17 = .ok (.sipush 255, 3) := dk_17 0 255 (dk_at dksX0_check_0 17 rfl rfl)
theorem dX0_check_20 : decode cX0_check 20 = .ok (.iand, 1) := dk_126 (dk_at dksX0_check_0 20 rfl rfl)
theorem dX0_check_21 : decode cX0_check 21 = .ok (.iadd, 1) := dk_96 (dk_at dksX0_check_0 21 rfl rfl)
theorem dX0_check_22 : decode cX0_check 22 = .ok (.sipush 251, 3) := dk_17 0 251 (dk_at dksX0_check_1 0 rfl rfl)
theorem dX0_check_25 : decode cX0_check 25 = .ok (.irem, 1) := dk_112 (dk_at dksX0_check_1 3 rfl rfl)
theorem dX0_check_26 : decode cX0_check 26 = .ok (.istore_n 2, 1) := dk_61 (dk_at dksX0_check_1 4 rfl rfl)
theorem dX0_check_27 : decode cX0_check 27 = .ok (.iinc 3 1, 3) := dk_132 3 1 (dk_at dksX0_check_1 5 rfl rfl)
theorem dX0_check_30 : decode cX0_check 30 = .ok (.goto (-24), 3) := dk_167 255 232 (dk_at dksX0_check_1 8 rfl rfl)
theorem dX0_check_33 : decode cX0_check 33 = .ok (.iload_n 2, 1) := dk_28 (dk_at dksX0_check_1 11 rfl rfl)
theorem dX0_check_34 : decode cX0_check 34 = .ok (.ireturn, 1) := dk_172 (dk_at dksX0_check_1 12 rfl rfl)
abbrev cX0_octet : ByteArray := prog_1_method_67_code
def yX0_octet : MethodName := ⟨RX0, "octet", "(I)I"⟩
def dkwX0_octet_1 : List UInt8 := [17, 0, 255, 126, 172]
abbrev dktX0_octet_1 : List UInt8 := dkwX0_octet_1 ++ []
def dkwX0_octet_0 : List UInt8 := [27, 155, 0, 11, 27, 42, 180, 1, 107, 161, 0, 7, 2, 167, 0, 13, 42, 180, 0, 112, 27, 51]
abbrev dktX0_octet_0 : List UInt8 := dkwX0_octet_0 ++ dktX0_octet_1
theorem dksX0_octet_0 : cX0_octet.data.toList.drop 0 = dktX0_octet_0 := by decide +kernel
theorem dksX0_octet_1 : cX0_octet.data.toList.drop 22 = dktX0_octet_1 := dk_seg dksX0_octet_0 22 rfl rfl
theorem dX0_octet_0 : decode cX0_octet 0 = .ok (.iload_n 1, 1) := dk_27 (dk_at dksX0_octet_0 0 rfl rfl)
theorem dX0_octet_1 : decode cX0_octet 1 = .ok (.ifCond .lt 11, 3) := dk_155 0 11 (dk_at dksX0_octet_0 1 rfl rfl)
theorem dX0_octet_4 : decode cX0_octet 4 = .ok (.iload_n 1, 1) := dk_27 (dk_at dksX0_octet_0 4 rfl rfl)
theorem dX0_octet_5 : decode cX0_octet 5 = .ok (.aload_n 0, 1) := dk_42 (dk_at dksX0_octet_0 5 rfl rfl)
theorem dX0_octet_6 : decode cX0_octet 6 = .ok (.getfield 363, 3) := dk_180 1 107 (dk_at dksX0_octet_0 6 rfl rfl)
theorem dX0_octet_9 : decode cX0_octet 9 = .ok (.if_icmp .lt 7, 3) := dk_161 0 7 (dk_at dksX0_octet_0 9 rfl rfl)
theorem dX0_octet_12 : decode cX0_octet 12 = .ok (.iconst (-1), 1) := dk_2 (dk_at dksX0_octet_0 12 rfl rfl)
theorem dX0_octet_13 : decode cX0_octet 13 = .ok (.goto 13, 3) := dk_167 0 13 (dk_at dksX0_octet_0 13 rfl rfl)
theorem dX0_octet_16 : decode cX0_octet 16 = .ok (.aload_n 0, 1) := dk_42 (dk_at dksX0_octet_0 16 rfl rfl)
theorem dX0_octet_17 : decode cX0_octet 17 = .ok (.getfield 112, 3) := dk_180 0 112 (dk_at dksX0_octet_0 17 rfl rfl)
theorem dX0_octet_20 : decode cX0_octet 20 = .ok (.iload_n 1, 1) := dk_27 (dk_at dksX0_octet_0 20 rfl rfl)
theorem dX0_octet_21 : decode cX0_octet 21 = .ok (.baload, 1) := dk_51 (dk_at dksX0_octet_0 21 rfl rfl)
theorem dX0_octet_22 : decode cX0_octet 22 = .ok (.sipush 255, 3) := dk_17 0 255 (dk_at dksX0_octet_1 0 rfl rfl)
theorem dX0_octet_25 : decode cX0_octet 25 = .ok (.iand, 1) := dk_126 (dk_at dksX0_octet_1 3 rfl rfl)
theorem dX0_octet_26 : decode cX0_octet 26 = .ok (.ireturn, 1) := dk_172 (dk_at dksX0_octet_1 4 rfl rfl)
abbrev cX0_on : ByteArray := prog_1_method_70_code
def yX0_on : MethodName := ⟨RX0, "on", "()Z"⟩
def dkwX0_on_1 : List UInt8 := [172, 42, 180, 0, 69, 42, 180, 0, 73, 182, 0, 249, 87, 42, 3, 181, 0, 148, 4, 172]
abbrev dktX0_on_1 : List UInt8 := dkwX0_on_1 ++ []
def dkwX0_on_0 : List UInt8 := [42, 42, 182, 0, 129, 182, 1, 120, 154, 0, 17, 42, 8, 182, 0, 118, 155, 0, 7, 4, 167, 0, 4, 3]
abbrev dktX0_on_0 : List UInt8 := dkwX0_on_0 ++ dktX0_on_1
theorem dksX0_on_0 : cX0_on.data.toList.drop 0 = dktX0_on_0 := by decide +kernel
theorem dksX0_on_1 : cX0_on.data.toList.drop 24 = dktX0_on_1 := dk_seg dksX0_on_0 24 rfl rfl
theorem dX0_on_0 : decode cX0_on 0 = .ok (.aload_n 0, 1) := dk_42 (dk_at dksX0_on_0 0 rfl rfl)
theorem dX0_on_1 : decode cX0_on 1 = .ok (.aload_n 0, 1) := dk_42 (dk_at dksX0_on_0 1 rfl rfl)
theorem dX0_on_2 : decode cX0_on 2 = .ok (.invokevirtual 129, 3) := dk_182 0 129 (dk_at dksX0_on_0 2 rfl rfl)
theorem dX0_on_5 : decode cX0_on 5 = .ok (.invokevirtual 376, 3) := dk_182 1 120 (dk_at dksX0_on_0 5 rfl rfl)
theorem dX0_on_8 : decode cX0_on 8 = .ok (.ifCond .ne 17, 3) := dk_154 0 17 (dk_at dksX0_on_0 8 rfl rfl)
theorem dX0_on_11 : decode cX0_on 11 = .ok (.aload_n 0, 1) := dk_42 (dk_at dksX0_on_0 11 rfl rfl)
theorem dX0_on_12 : decode cX0_on 12 = .ok (.iconst 5, 1) := dk_8 (dk_at dksX0_on_0 12 rfl rfl)
theorem dX0_on_13 : decode cX0_on 13 = .ok (.invokevirtual 118, 3) := dk_182 0 118 (dk_at dksX0_on_0 13 rfl rfl)
theorem dX0_on_16 : decode cX0_on 16 = .ok (.ifCond .lt 7, 3) := dk_155 0 7 (dk_at dksX0_on_0 16 rfl rfl)
theorem dX0_on_19 : decode cX0_on 19 = .ok (.iconst 1, 1) := dk_4 (dk_at dksX0_on_0 19 rfl rfl)
theorem dX0_on_20 : decode cX0_on 20 = .ok (.goto 4, 3) := dk_167 0 4 (dk_at dksX0_on_0 20 rfl rfl)
theorem dX0_on_23 : decode cX0_on 23 = .ok (.iconst 0, 1) := dk_3 (dk_at dksX0_on_0 23 rfl rfl)
theorem dX0_on_24 : decode cX0_on 24 = .ok (.ireturn, 1) := dk_172 (dk_at dksX0_on_1 0 rfl rfl)
theorem dX0_on_25 : decode cX0_on 25 = .ok (.aload_n 0, 1) := dk_42 (dk_at dksX0_on_1 1 rfl rfl)
theorem dX0_on_26 : decode cX0_on 26 = .ok (.getfield 69, 3) := dk_180 0 69 (dk_at dksX0_on_1 2 rfl rfl)
theorem dX0_on_29 : decode cX0_on 29 = .ok (.aload_n 0, 1) := dk_42 (dk_at dksX0_on_1 5 rfl rfl)
theorem dX0_on_30 : decode cX0_on 30 = .ok (.getfield 73, 3) := dk_180 0 73 (dk_at dksX0_on_1 6 rfl rfl)
theorem dX0_on_33 : decode cX0_on 33 = .ok (.invokevirtual 249, 3) := dk_182 0 249 (dk_at dksX0_on_1 9 rfl rfl)
theorem dX0_on_36 : decode cX0_on 36 = .ok (.pop, 1) := dk_87 (dk_at dksX0_on_1 12 rfl rfl)
theorem dX0_on_37 : decode cX0_on 37 = .ok (.aload_n 0, 1) := dk_42 (dk_at dksX0_on_1 13 rfl rfl)
theorem dX0_on_38 : decode cX0_on 38 = .ok (.iconst 0, 1) := dk_3 (dk_at dksX0_on_1 14 rfl rfl)
theorem dX0_on_39 : decode cX0_on 39 = .ok (.putfield 148, 3) := dk_181 0 148 (dk_at dksX0_on_1 15 rfl rfl)
theorem dX0_on_42 : decode cX0_on 42 = .ok (.iconst 1, 1) := dk_4 (dk_at dksX0_on_1 18 rfl rfl)
theorem dX0_on_43 : decode cX0_on 43 = .ok (.ireturn, 1) := dk_172 (dk_at dksX0_on_1 19 rfl rfl)
abbrev cX0_comesOn : ByteArray := prog_1_method_69_code
def yX0_comesOn : MethodName := ⟨RX0, "comesOn", "(I)Z"⟩
def dkwX0_comesOn_8 : List UInt8 := [154, 0, 5, 3, 172, 132, 5, 1, 167, 255, 226, 4, 172]
abbrev dktX0_comesOn_8 : List UInt8 := dkwX0_comesOn_8 ++ []
def dkwX0_comesOn_7 : List UInt8 := [54, 5, 21, 5, 42, 182, 0, 174, 162, 0, 27, 42, 21, 5, 21, 4, 7, 21, 5, 104, 96, 182, 1, 117]
abbrev dktX0_comesOn_7 : List UInt8 := dkwX0_comesOn_7 ++ dktX0_comesOn_8
def dkwX0_comesOn_6 : List UInt8 := [79, 42, 21, 4, 182, 1, 43, 16, 99, 164, 0, 5, 3, 172, 132, 4, 1, 132, 5, 1, 167, 255, 202, 3]
abbrev dktX0_comesOn_6 : List UInt8 := dkwX0_comesOn_6 ++ dktX0_comesOn_7
def dkwX0_comesOn_5 : List UInt8 := [182, 0, 194, 154, 0, 6, 167, 0, 35, 42, 180, 0, 73, 180, 0, 198, 21, 5, 42, 21, 4, 182, 1, 43]
abbrev dktX0_comesOn_5 : List UInt8 := dkwX0_comesOn_5 ++ dktX0_comesOn_6
def dkwX0_comesOn_4 : List UInt8 := [42, 180, 0, 73, 3, 181, 0, 201, 5, 54, 4, 3, 54, 5, 21, 5, 16, 64, 162, 0, 53, 42, 21, 5]
abbrev dktX0_comesOn_4 : List UInt8 := dkwX0_comesOn_4 ++ dktX0_comesOn_5
def dkwX0_comesOn_3 : List UInt8 := [29, 17, 3, 231, 164, 0, 5, 3, 172, 42, 180, 0, 73, 42, 180, 0, 69, 182, 0, 249, 29, 181, 0, 191]
abbrev dktX0_comesOn_3 : List UInt8 := dkwX0_comesOn_3 ++ dktX0_comesOn_4
def dkwX0_comesOn_2 : List UInt8 := [96, 160, 0, 30, 42, 27, 4, 100, 182, 1, 43, 42, 180, 0, 35, 27, 4, 100, 184, 1, 113, 160, 0, 10]
abbrev dktX0_comesOn_2 : List UInt8 := dkwX0_comesOn_2 ++ dktX0_comesOn_3
def dkwX0_comesOn_1 : List UInt8 := [42, 4, 182, 1, 43, 128, 62, 42, 182, 0, 242, 153, 0, 44, 27, 6, 28, 96, 7, 42, 182, 0, 174, 104]
abbrev dktX0_comesOn_1 : List UInt8 := dkwX0_comesOn_1 ++ dktX0_comesOn_2
def dkwX0_comesOn_0 : List UInt8 := [42, 180, 0, 31, 180, 0, 157, 42, 180, 0, 31, 180, 0, 180, 104, 61, 42, 3, 182, 1, 43, 16, 8, 120]
abbrev dktX0_comesOn_0 : List UInt8 := dkwX0_comesOn_0 ++ dktX0_comesOn_1
theorem dksX0_comesOn_0 : cX0_comesOn.data.toList.drop 0 = dktX0_comesOn_0 := by decide +kernel
theorem dksX0_comesOn_1 : cX0_comesOn.data.toList.drop 24 = dktX0_comesOn_1 := dk_seg dksX0_comesOn_0 24 rfl rfl
theorem dksX0_comesOn_2 : cX0_comesOn.data.toList.drop 48 = dktX0_comesOn_2 := dk_seg dksX0_comesOn_1 24 rfl rfl
theorem dksX0_comesOn_3 : cX0_comesOn.data.toList.drop 72 = dktX0_comesOn_3 := dk_seg dksX0_comesOn_2 24 rfl rfl
theorem dksX0_comesOn_4 : cX0_comesOn.data.toList.drop 96 = dktX0_comesOn_4 := dk_seg dksX0_comesOn_3 24 rfl rfl
theorem dksX0_comesOn_5 : cX0_comesOn.data.toList.drop 120 = dktX0_comesOn_5 := dk_seg dksX0_comesOn_4 24 rfl rfl
theorem dksX0_comesOn_6 : cX0_comesOn.data.toList.drop 144 = dktX0_comesOn_6 := dk_seg dksX0_comesOn_5 24 rfl rfl
theorem dksX0_comesOn_7 : cX0_comesOn.data.toList.drop 168 = dktX0_comesOn_7 := dk_seg dksX0_comesOn_6 24 rfl rfl
theorem dksX0_comesOn_8 : cX0_comesOn.data.toList.drop 192 = dktX0_comesOn_8 := dk_seg dksX0_comesOn_7 24 rfl rfl
theorem dX0_comesOn_0 : decode cX0_comesOn 0 = .ok (.aload_n 0, 1) := dk_42 (dk_at dksX0_comesOn_0 0 rfl rfl)
theorem dX0_comesOn_1 : decode cX0_comesOn 1 = .ok (.getfield 31, 3) := dk_180 0 31 (dk_at dksX0_comesOn_0 1 rfl rfl)
theorem dX0_comesOn_4 : decode cX0_comesOn 4 = .ok (.getfield 157, 3) := dk_180 0 157 (dk_at dksX0_comesOn_0 4 rfl rfl)
theorem dX0_comesOn_7 : decode cX0_comesOn 7 = .ok (.aload_n 0, 1) := dk_42 (dk_at dksX0_comesOn_0 7 rfl rfl)
theorem dX0_comesOn_8 : decode cX0_comesOn 8 = .ok (.getfield 31, 3) := dk_180 0 31 (dk_at dksX0_comesOn_0 8 rfl rfl)
theorem dX0_comesOn_11 : decode cX0_comesOn 11 = .ok (.getfield 180, 3) := dk_180 0 180 (dk_at dksX0_comesOn_0 11 rfl rfl)
theorem dX0_comesOn_14 : decode cX0_comesOn 14 = .ok (.imul, 1) := dk_104 (dk_at dksX0_comesOn_0 14 rfl rfl)
theorem dX0_comesOn_15 : decode cX0_comesOn 15 = .ok (.istore_n 2, 1) := dk_61 (dk_at dksX0_comesOn_0 15 rfl rfl)
theorem dX0_comesOn_16 : decode cX0_comesOn 16 = .ok (.aload_n 0, 1) := dk_42 (dk_at dksX0_comesOn_0 16 rfl rfl)
theorem dX0_comesOn_17 : decode cX0_comesOn 17 = .ok (.iconst 0, 1) := dk_3 (dk_at dksX0_comesOn_0 17 rfl rfl)
theorem dX0_comesOn_18 : decode cX0_comesOn 18 = .ok (.invokevirtual 299, 3) := dk_182 1 43 (dk_at dksX0_comesOn_0 18 rfl rfl)
theorem dX0_comesOn_21 : decode cX0_comesOn 21 = .ok (.bipush 8, 2) := dk_16 8 (dk_at dksX0_comesOn_0 21 rfl rfl)
theorem dX0_comesOn_23 : decode cX0_comesOn 23 = .ok (.ishl, 1) := dk_120 (dk_at dksX0_comesOn_0 23 rfl rfl)
theorem dX0_comesOn_24 : decode cX0_comesOn 24 = .ok (.aload_n 0, 1) := dk_42 (dk_at dksX0_comesOn_1 0 rfl rfl)
theorem dX0_comesOn_25 : decode cX0_comesOn 25 = .ok (.iconst 1, 1) := dk_4 (dk_at dksX0_comesOn_1 1 rfl rfl)
theorem dX0_comesOn_26 : decode cX0_comesOn 26 = .ok (.invokevirtual 299, 3) := dk_182 1 43 (dk_at dksX0_comesOn_1 2 rfl rfl)
theorem dX0_comesOn_29 : decode cX0_comesOn 29 = .ok (.ior, 1) := dk_128 (dk_at dksX0_comesOn_1 5 rfl rfl)
theorem dX0_comesOn_30 : decode cX0_comesOn 30 = .ok (.istore_n 3, 1) := dk_62 (dk_at dksX0_comesOn_1 6 rfl rfl)
theorem dX0_comesOn_31 : decode cX0_comesOn 31 = .ok (.aload_n 0, 1) := dk_42 (dk_at dksX0_comesOn_1 7 rfl rfl)
theorem dX0_comesOn_32 : decode cX0_comesOn 32 = .ok (.invokevirtual 242, 3) := dk_182 0 242 (dk_at dksX0_comesOn_1 8 rfl rfl)
theorem dX0_comesOn_35 : decode cX0_comesOn 35 = .ok (.ifCond .eq 44, 3) := dk_153 0 44 (dk_at dksX0_comesOn_1 11 rfl rfl)
theorem dX0_comesOn_38 : decode cX0_comesOn 38 = .ok (.iload_n 1, 1) := dk_27 (dk_at dksX0_comesOn_1 14 rfl rfl)
theorem dX0_comesOn_39 : decode cX0_comesOn 39 = .ok (.iconst 3, 1) := dk_6 (dk_at dksX0_comesOn_1 15 rfl rfl)
theorem dX0_comesOn_40 : decode cX0_comesOn 40 = .ok (.iload_n 2, 1) := dk_28 (dk_at dksX0_comesOn_1 16 rfl rfl)
theorem dX0_comesOn_41 : decode cX0_comesOn 41 = .ok (.iadd, 1) := dk_96 (dk_at dksX0_comesOn_1 17 rfl rfl)
theorem dX0_comesOn_42 : decode cX0_comesOn 42 = .ok (.iconst 4, 1) := dk_7 (dk_at dksX0_comesOn_1 18 rfl rfl)
theorem dX0_comesOn_43 : decode cX0_comesOn 43 = .ok (.aload_n 0, 1) := dk_42 (dk_at dksX0_comesOn_1 19 rfl rfl)
theorem dX0_comesOn_44 : decode cX0_comesOn 44 = .ok (.invokevirtual 174, 3) := dk_182 0 174 (dk_at dksX0_comesOn_1 20 rfl rfl)
theorem dX0_comesOn_47 : decode cX0_comesOn 47 = .ok (.imul, 1) := dk_104 (dk_at dksX0_comesOn_1 23 rfl rfl)
theorem dX0_comesOn_48 : decode cX0_comesOn 48 = .ok (.iadd, 1) := dk_96 (dk_at dksX0_comesOn_2 0 rfl rfl)
theorem dX0_comesOn_49 : decode cX0_comesOn 49 = .ok (.if_icmp .ne 30, 3) := dk_160 0 30 (dk_at dksX0_comesOn_2 1 rfl rfl)
theorem dX0_comesOn_52 : decode cX0_comesOn 52 = .ok (.aload_n 0, 1) := dk_42 (dk_at dksX0_comesOn_2 4 rfl rfl)
theorem dX0_comesOn_53 : decode cX0_comesOn 53 = .ok (.iload_n 1, 1) := dk_27 (dk_at dksX0_comesOn_2 5 rfl rfl)
theorem dX0_comesOn_54 : decode cX0_comesOn 54 = .ok (.iconst 1, 1) := dk_4 (dk_at dksX0_comesOn_2 6 rfl rfl)
theorem dX0_comesOn_55 : decode cX0_comesOn 55 = .ok (.isub, 1) := dk_100 (dk_at dksX0_comesOn_2 7 rfl rfl)
theorem dX0_comesOn_56 : decode cX0_comesOn 56 = .ok (.invokevirtual 299, 3) := dk_182 1 43 (dk_at dksX0_comesOn_2 8 rfl rfl)
theorem dX0_comesOn_59 : decode cX0_comesOn 59 = .ok (.aload_n 0, 1) := dk_42 (dk_at dksX0_comesOn_2 11 rfl rfl)
theorem dX0_comesOn_60 : decode cX0_comesOn 60 = .ok (.getfield 35, 3) := dk_180 0 35 (dk_at dksX0_comesOn_2 12 rfl rfl)
theorem dX0_comesOn_63 : decode cX0_comesOn 63 = .ok (.iload_n 1, 1) := dk_27 (dk_at dksX0_comesOn_2 15 rfl rfl)
theorem dX0_comesOn_64 : decode cX0_comesOn 64 = .ok (.iconst 1, 1) := dk_4 (dk_at dksX0_comesOn_2 16 rfl rfl)
theorem dX0_comesOn_65 : decode cX0_comesOn 65 = .ok (.isub, 1) := dk_100 (dk_at dksX0_comesOn_2 17 rfl rfl)
theorem dX0_comesOn_66 : decode cX0_comesOn 66 = .ok (.invokestatic 369, 3) := dk_184 1 113 (dk_at dksX0_comesOn_2 18 rfl rfl)
theorem dX0_comesOn_69 : decode cX0_comesOn 69 = .ok (.if_icmp .ne 10, 3) := dk_160 0 10 (dk_at dksX0_comesOn_2 21 rfl rfl)
theorem dX0_comesOn_72 : decode cX0_comesOn 72 = .ok (.iload_n 3, 1) := dk_29 (dk_at dksX0_comesOn_3 0 rfl rfl)
theorem dX0_comesOn_73 : decode cX0_comesOn 73 = .ok (.sipush 999, 3) := dk_17 3 231 (dk_at dksX0_comesOn_3 1 rfl rfl)
theorem dX0_comesOn_76 : decode cX0_comesOn 76 = .ok (.if_icmp .le 5, 3) := dk_164 0 5 (dk_at dksX0_comesOn_3 4 rfl rfl)
theorem dX0_comesOn_79 : decode cX0_comesOn 79 = .ok (.iconst 0, 1) := dk_3 (dk_at dksX0_comesOn_3 7 rfl rfl)
theorem dX0_comesOn_80 : decode cX0_comesOn 80 = .ok (.ireturn, 1) := dk_172 (dk_at dksX0_comesOn_3 8 rfl rfl)
theorem dX0_comesOn_81 : decode cX0_comesOn 81 = .ok (.aload_n 0, 1) := dk_42 (dk_at dksX0_comesOn_3 9 rfl rfl)
theorem dX0_comesOn_82 : decode cX0_comesOn 82 = .ok (.getfield 73, 3) := dk_180 0 73 (dk_at dksX0_comesOn_3 10 rfl rfl)
theorem dX0_comesOn_85 : decode cX0_comesOn 85 = .ok (.aload_n 0, 1) := dk_42 (dk_at dksX0_comesOn_3 13 rfl rfl)
theorem dX0_comesOn_86 : decode cX0_comesOn 86 = .ok (.getfield 69, 3) := dk_180 0 69 (dk_at dksX0_comesOn_3 14 rfl rfl)
theorem dX0_comesOn_89 : decode cX0_comesOn 89 = .ok (.invokevirtual 249, 3) := dk_182 0 249 (dk_at dksX0_comesOn_3 17 rfl rfl)
theorem dX0_comesOn_92 : decode cX0_comesOn 92 = .ok (.iload_n 3, 1) := dk_29 (dk_at dksX0_comesOn_3 20 rfl rfl)
theorem dX0_comesOn_93 : decode cX0_comesOn 93 = .ok (.putfield 191, 3) := dk_181 0 191 (dk_at dksX0_comesOn_3 21 rfl rfl)
theorem dX0_comesOn_96 : decode cX0_comesOn 96 = .ok (.aload_n 0, 1) := dk_42 (dk_at dksX0_comesOn_4 0 rfl rfl)
theorem dX0_comesOn_97 : decode cX0_comesOn 97 = .ok (.getfield 73, 3) := dk_180 0 73 (dk_at dksX0_comesOn_4 1 rfl rfl)
theorem dX0_comesOn_100 : decode cX0_comesOn 100 = .ok (.iconst 0, 1) := dk_3 (dk_at dksX0_comesOn_4 4 rfl rfl)
theorem dX0_comesOn_101 : decode cX0_comesOn 101 = .ok (.putfield 201, 3) := dk_181 0 201 (dk_at dksX0_comesOn_4 5 rfl rfl)
theorem dX0_comesOn_104 : decode cX0_comesOn 104 = .ok (.iconst 2, 1) := dk_5 (dk_at dksX0_comesOn_4 8 rfl rfl)
theorem dX0_comesOn_105 : decode cX0_comesOn 105 = .ok (.istore 4, 2) := dk_54 4 (dk_at dksX0_comesOn_4 9 rfl rfl)
theorem dX0_comesOn_107 : decode cX0_comesOn 107 = .ok (.iconst 0, 1) := dk_3 (dk_at dksX0_comesOn_4 11 rfl rfl)
theorem dX0_comesOn_108 : decode cX0_comesOn 108 = .ok (.istore 5, 2) := dk_54 5 (dk_at dksX0_comesOn_4 12 rfl rfl)
theorem dX0_comesOn_110 : decode cX0_comesOn 110 = .ok (.iload 5, 2) := dk_21 5 (dk_at dksX0_comesOn_4 14 rfl rfl)
theorem dX0_comesOn_112 : decode cX0_comesOn 112 = .ok (.bipush 64, 2) := dk_16 64 (dk_at dksX0_comesOn_4 16 rfl rfl)
theorem dX0_comesOn_114 : decode cX0_comesOn 114 = .ok (.if_icmp .ge 53, 3) := dk_162 0 53 (dk_at dksX0_comesOn_4 18 rfl rfl)
theorem dX0_comesOn_117 : decode cX0_comesOn 117 = .ok (.aload_n 0, 1) := dk_42 (dk_at dksX0_comesOn_4 21 rfl rfl)
theorem dX0_comesOn_118 : decode cX0_comesOn 118 = .ok (.iload 5, 2) := dk_21 5 (dk_at dksX0_comesOn_4 22 rfl rfl)
theorem dX0_comesOn_120 : decode cX0_comesOn 120 = .ok (.invokevirtual 194, 3) := dk_182 0 194 (dk_at dksX0_comesOn_5 0 rfl rfl)
theorem dX0_comesOn_123 : decode cX0_comesOn 123 = .ok (.ifCond .ne 6, 3) := dk_154 0 6 (dk_at dksX0_comesOn_5 3 rfl rfl)
theorem dX0_comesOn_126 : decode cX0_comesOn 126 = .ok (.goto 35, 3) := dk_167 0 35 (dk_at dksX0_comesOn_5 6 rfl rfl)
theorem dX0_comesOn_129 : decode cX0_comesOn 129 = .ok (.aload_n 0, 1) := dk_42 (dk_at dksX0_comesOn_5 9 rfl rfl)
theorem dX0_comesOn_130 : decode cX0_comesOn 130 = .ok (.getfield 73, 3) := dk_180 0 73 (dk_at dksX0_comesOn_5 10 rfl rfl)
theorem dX0_comesOn_133 : decode cX0_comesOn 133 = .ok (.getfield 198, 3) := dk_180 0 198 (dk_at dksX0_comesOn_5 13 rfl rfl)
theorem dX0_comesOn_136 : decode cX0_comesOn 136 = .ok (.iload 5, 2) := dk_21 5 (dk_at dksX0_comesOn_5 16 rfl rfl)
theorem dX0_comesOn_138 : decode cX0_comesOn 138 = .ok (.aload_n 0, 1) := dk_42 (dk_at dksX0_comesOn_5 18 rfl rfl)
theorem dX0_comesOn_139 : decode cX0_comesOn 139 = .ok (.iload 4, 2) := dk_21 4 (dk_at dksX0_comesOn_5 19 rfl rfl)
theorem dX0_comesOn_141 : decode cX0_comesOn 141 = .ok (.invokevirtual 299, 3) := dk_182 1 43 (dk_at dksX0_comesOn_5 21 rfl rfl)
theorem dX0_comesOn_144 : decode cX0_comesOn 144 = .ok (.iastore, 1) := dk_79 (dk_at dksX0_comesOn_6 0 rfl rfl)
theorem dX0_comesOn_145 : decode cX0_comesOn 145 = .ok (.aload_n 0, 1) := dk_42 (dk_at dksX0_comesOn_6 1 rfl rfl)
theorem dX0_comesOn_146 : decode cX0_comesOn 146 = .ok (.iload 4, 2) := dk_21 4 (dk_at dksX0_comesOn_6 2 rfl rfl)
theorem dX0_comesOn_148 : decode cX0_comesOn 148 = .ok (.invokevirtual 299, 3) := dk_182 1 43 (dk_at dksX0_comesOn_6 4 rfl rfl)
theorem dX0_comesOn_151 : decode cX0_comesOn 151 = .ok (.bipush 99, 2) := dk_16 99 (dk_at dksX0_comesOn_6 7 rfl rfl)
theorem dX0_comesOn_153 : decode cX0_comesOn 153 = .ok (.if_icmp .le 5, 3) := dk_164 0 5 (dk_at dksX0_comesOn_6 9 rfl rfl)
theorem dX0_comesOn_156 : decode cX0_comesOn 156 = .ok (.iconst 0, 1) := dk_3 (dk_at dksX0_comesOn_6 12 rfl rfl)
theorem dX0_comesOn_157 : decode cX0_comesOn 157 = .ok (.ireturn, 1) := dk_172 (dk_at dksX0_comesOn_6 13 rfl rfl)
theorem dX0_comesOn_158 : decode cX0_comesOn 158 = .ok (.iinc 4 1, 3) := dk_132 4 1 (dk_at dksX0_comesOn_6 14 rfl rfl)
theorem dX0_comesOn_161 : decode cX0_comesOn 161 = .ok (.iinc 5 1, 3) := dk_132 5 1 (dk_at dksX0_comesOn_6 17 rfl rfl)
theorem dX0_comesOn_164 : decode cX0_comesOn 164 = .ok (.goto (-54), 3) := dk_167 255 202 (dk_at dksX0_comesOn_6 20 rfl rfl)
theorem dX0_comesOn_167 : decode cX0_comesOn 167 = .ok (.iconst 0, 1) := dk_3 (dk_at dksX0_comesOn_6 23 rfl rfl)
theorem dX0_comesOn_168 : decode cX0_comesOn 168 = .ok (.istore 5, 2) := dk_54 5 (dk_at dksX0_comesOn_7 0 rfl rfl)
theorem dX0_comesOn_170 : decode cX0_comesOn 170 = .ok (.iload 5, 2) := dk_21 5 (dk_at dksX0_comesOn_7 2 rfl rfl)
theorem dX0_comesOn_172 : decode cX0_comesOn 172 = .ok (.aload_n 0, 1) := dk_42 (dk_at dksX0_comesOn_7 4 rfl rfl)
theorem dX0_comesOn_173 : decode cX0_comesOn 173 = .ok (.invokevirtual 174, 3) := dk_182 0 174 (dk_at dksX0_comesOn_7 5 rfl rfl)
theorem dX0_comesOn_176 : decode cX0_comesOn 176 = .ok (.if_icmp .ge 27, 3) := dk_162 0 27 (dk_at dksX0_comesOn_7 8 rfl rfl)
theorem dX0_comesOn_179 : decode cX0_comesOn 179 = .ok (.aload_n 0, 1) := dk_42 (dk_at dksX0_comesOn_7 11 rfl rfl)
theorem dX0_comesOn_180 : decode cX0_comesOn 180 = .ok (.iload 5, 2) := dk_21 5 (dk_at dksX0_comesOn_7 12 rfl rfl)
theorem dX0_comesOn_182 : decode cX0_comesOn 182 = .ok (.iload 4, 2) := dk_21 4 (dk_at dksX0_comesOn_7 14 rfl rfl)
theorem dX0_comesOn_184 : decode cX0_comesOn 184 = .ok (.iconst 4, 1) := dk_7 (dk_at dksX0_comesOn_7 16 rfl rfl)
theorem dX0_comesOn_185 : decode cX0_comesOn 185 = .ok (.iload 5, 2) := dk_21 5 (dk_at dksX0_comesOn_7 17 rfl rfl)
theorem dX0_comesOn_187 : decode cX0_comesOn 187 = .ok (.imul, 1) := dk_104 (dk_at dksX0_comesOn_7 19 rfl rfl)
theorem dX0_comesOn_188 : decode cX0_comesOn 188 = .ok (.iadd, 1) := dk_96 (dk_at dksX0_comesOn_7 20 rfl rfl)
theorem dX0_comesOn_189 : decode cX0_comesOn 189 = .ok (.invokevirtual 373, 3) := dk_182 1 117 (dk_at dksX0_comesOn_7 21 rfl rfl)
theorem dX0_comesOn_192 : decode cX0_comesOn 192 = .ok (.ifCond .ne 5, 3) := dk_154 0 5 (dk_at dksX0_comesOn_8 0 rfl rfl)
theorem dX0_comesOn_195 : decode cX0_comesOn 195 = .ok (.iconst 0, 1) := dk_3 (dk_at dksX0_comesOn_8 3 rfl rfl)
theorem dX0_comesOn_196 : decode cX0_comesOn 196 = .ok (.ireturn, 1) := dk_172 (dk_at dksX0_comesOn_8 4 rfl rfl)
theorem dX0_comesOn_197 : decode cX0_comesOn 197 = .ok (.iinc 5 1, 3) := dk_132 5 1 (dk_at dksX0_comesOn_8 5 rfl rfl)
theorem dX0_comesOn_200 : decode cX0_comesOn 200 = .ok (.goto (-30), 3) := dk_167 255 226 (dk_at dksX0_comesOn_8 8 rfl rfl)
theorem dX0_comesOn_203 : decode cX0_comesOn 203 = .ok (.iconst 1, 1) := dk_4 (dk_at dksX0_comesOn_8 11 rfl rfl)
theorem dX0_comesOn_204 : decode cX0_comesOn 204 = .ok (.ireturn, 1) := dk_172 (dk_at dksX0_comesOn_8 12 rfl rfl)
abbrev cX0_personOn : ByteArray := prog_1_method_68_code
def yX0_personOn : MethodName := ⟨RX0, "personOn", "(II)Z"⟩
def dkwX0_personOn_6 : List UInt8 := [167, 0, 4, 3, 172]
abbrev dktX0_personOn_6 : List UInt8 := dkwX0_personOn_6 ++ []
def dkwX0_personOn_5 : List UInt8 := [16, 9, 163, 0, 23, 42, 28, 6, 96, 182, 1, 43, 4, 42, 182, 0, 172, 120, 162, 0, 7, 4]
abbrev dktX0_personOn_5 : List UInt8 := dkwX0_personOn_5 ++ dktX0_personOn_6
def dkwX0_personOn_4 : List UInt8 := [182, 1, 43, 42, 28, 4, 96, 182, 1, 43, 182, 0, 181, 153, 0, 35, 42, 28, 5, 96, 182, 1, 43]
abbrev dktX0_personOn_4 : List UInt8 := dkwX0_personOn_4 ++ dktX0_personOn_5
def dkwX0_personOn_3 : List UInt8 := [96, 182, 1, 43, 79, 42, 180, 0, 73, 180, 0, 222, 27, 42, 28, 6, 96, 182, 1, 43, 79, 42, 42, 28]
abbrev dktX0_personOn_3 : List UInt8 := dkwX0_personOn_3 ++ dktX0_personOn_4
def dkwX0_personOn_2 : List UInt8 := [167, 255, 231, 42, 180, 0, 73, 180, 0, 216, 27, 29, 79, 42, 180, 0, 73, 180, 0, 219, 27, 42, 28, 5]
abbrev dktX0_personOn_2 : List UInt8 := dkwX0_personOn_2 ++ dktX0_personOn_3
def dkwX0_personOn_1 : List UInt8 := [162, 0, 25, 42, 180, 0, 73, 180, 0, 216, 21, 4, 46, 29, 160, 0, 5, 3, 172, 132, 4, 1]
abbrev dktX0_personOn_1 : List UInt8 := dkwX0_personOn_1 ++ dktX0_personOn_2
def dkwX0_personOn_0 : List UInt8 := [16, 8, 42, 28, 4, 96, 182, 1, 43, 104, 42, 28, 182, 1, 43, 96, 62, 3, 54, 4, 21, 4, 27]
abbrev dktX0_personOn_0 : List UInt8 := dkwX0_personOn_0 ++ dktX0_personOn_1
theorem dksX0_personOn_0 : cX0_personOn.data.toList.drop 0 = dktX0_personOn_0 := by decide +kernel
theorem dksX0_personOn_1 : cX0_personOn.data.toList.drop 23 = dktX0_personOn_1 := dk_seg dksX0_personOn_0 23 rfl rfl
theorem dksX0_personOn_2 : cX0_personOn.data.toList.drop 45 = dktX0_personOn_2 := dk_seg dksX0_personOn_1 22 rfl rfl
theorem dksX0_personOn_3 : cX0_personOn.data.toList.drop 69 = dktX0_personOn_3 := dk_seg dksX0_personOn_2 24 rfl rfl
theorem dksX0_personOn_4 : cX0_personOn.data.toList.drop 93 = dktX0_personOn_4 := dk_seg dksX0_personOn_3 24 rfl rfl
theorem dksX0_personOn_5 : cX0_personOn.data.toList.drop 116 = dktX0_personOn_5 := dk_seg dksX0_personOn_4 23 rfl rfl
theorem dksX0_personOn_6 : cX0_personOn.data.toList.drop 138 = dktX0_personOn_6 := dk_seg dksX0_personOn_5 22 rfl rfl
theorem dX0_personOn_0 : decode cX0_personOn 0 = .ok (.bipush 8, 2) := dk_16 8 (dk_at dksX0_personOn_0 0 rfl rfl)
theorem dX0_personOn_2 : decode cX0_personOn 2 = .ok (.aload_n 0, 1) := dk_42 (dk_at dksX0_personOn_0 2 rfl rfl)
theorem dX0_personOn_3 : decode cX0_personOn 3 = .ok (.iload_n 2, 1) := dk_28 (dk_at dksX0_personOn_0 3 rfl rfl)
theorem dX0_personOn_4 : decode cX0_personOn 4 = .ok (.iconst 1, 1) := dk_4 (dk_at dksX0_personOn_0 4 rfl rfl)
theorem dX0_personOn_5 : decode cX0_personOn 5 = .ok (.iadd, 1) := dk_96 (dk_at dksX0_personOn_0 5 rfl rfl)
theorem dX0_personOn_6 : decode cX0_personOn 6 = .ok (.invokevirtual 299, 3) := dk_182 1 43 (dk_at dksX0_personOn_0 6 rfl rfl)
theorem dX0_personOn_9 : decode cX0_personOn 9 = .ok (.imul, 1) := dk_104 (dk_at dksX0_personOn_0 9 rfl rfl)
theorem dX0_personOn_10 : decode cX0_personOn 10 = .ok (.aload_n 0, 1) := dk_42 (dk_at dksX0_personOn_0 10 rfl rfl)
theorem dX0_personOn_11 : decode cX0_personOn 11 = .ok (.iload_n 2, 1) := dk_28 (dk_at dksX0_personOn_0 11 rfl rfl)
theorem dX0_personOn_12 : decode cX0_personOn 12 = .ok (.invokevirtual 299, 3) := dk_182 1 43 (dk_at dksX0_personOn_0 12 rfl rfl)
theorem dX0_personOn_15 : decode cX0_personOn 15 = .ok (.iadd, 1) := dk_96 (dk_at dksX0_personOn_0 15 rfl rfl)
theorem dX0_personOn_16 : decode cX0_personOn 16 = .ok (.istore_n 3, 1) := dk_62 (dk_at dksX0_personOn_0 16 rfl rfl)
theorem dX0_personOn_17 : decode cX0_personOn 17 = .ok (.iconst 0, 1) := dk_3 (dk_at dksX0_personOn_0 17 rfl rfl)
theorem dX0_personOn_18 : decode cX0_personOn 18 = .ok (.istore 4, 2) := dk_54 4 (dk_at dksX0_personOn_0 18 rfl rfl)
theorem dX0_personOn_20 : decode cX0_personOn 20 = .ok (.iload 4, 2) := dk_21 4 (dk_at dksX0_personOn_0 20 rfl rfl)
theorem dX0_personOn_22 : decode cX0_personOn 22 = .ok (.iload_n 1, 1) := dk_27 (dk_at dksX0_personOn_0 22 rfl rfl)
theorem dX0_personOn_23 : decode cX0_personOn 23 = .ok (.if_icmp .ge 25, 3) := dk_162 0 25 (dk_at dksX0_personOn_1 0 rfl rfl)
theorem dX0_personOn_26 : decode cX0_personOn 26 = .ok (.aload_n 0, 1) := dk_42 (dk_at dksX0_personOn_1 3 rfl rfl)
theorem dX0_personOn_27 : decode cX0_personOn 27 = .ok (.getfield 73, 3) := dk_180 0 73 (dk_at dksX0_personOn_1 4 rfl rfl)
theorem dX0_personOn_30 : decode cX0_personOn 30 = .ok (.getfield 216, 3) := dk_180 0 216 (dk_at dksX0_personOn_1 7 rfl rfl)
theorem dX0_personOn_33 : decode cX0_personOn 33 = .ok (.iload 4, 2) := dk_21 4 (dk_at dksX0_personOn_1 10 rfl rfl)
theorem dX0_personOn_35 : decode cX0_personOn 35 = .ok (.iaload, 1) := dk_46 (dk_at dksX0_personOn_1 12 rfl rfl)
theorem dX0_personOn_36 : decode cX0_personOn 36 = .ok (.iload_n 3, 1) := dk_29 (dk_at dksX0_personOn_1 13 rfl rfl)
theorem dX0_personOn_37 : decode cX0_personOn 37 = .ok (.if_icmp .ne 5, 3) := dk_160 0 5 (dk_at dksX0_personOn_1 14 rfl rfl)
theorem dX0_personOn_40 : decode cX0_personOn 40 = .ok (.iconst 0, 1) := dk_3 (dk_at dksX0_personOn_1 17 rfl rfl)
theorem dX0_personOn_41 : decode cX0_personOn 41 = .ok (.ireturn, 1) := dk_172 (dk_at dksX0_personOn_1 18 rfl rfl)
theorem dX0_personOn_42 : decode cX0_personOn 42 = .ok (.iinc 4 1, 3) := dk_132 4 1 (dk_at dksX0_personOn_1 19 rfl rfl)
theorem dX0_personOn_45 : decode cX0_personOn 45 = .ok (.goto (-25), 3) := dk_167 255 231 (dk_at dksX0_personOn_2 0 rfl rfl)
theorem dX0_personOn_48 : decode cX0_personOn 48 = .ok (.aload_n 0, 1) := dk_42 (dk_at dksX0_personOn_2 3 rfl rfl)
theorem dX0_personOn_49 : decode cX0_personOn 49 = .ok (.getfield 73, 3) := dk_180 0 73 (dk_at dksX0_personOn_2 4 rfl rfl)
theorem dX0_personOn_52 : decode cX0_personOn 52 = .ok (.getfield 216, 3) := dk_180 0 216 (dk_at dksX0_personOn_2 7 rfl rfl)
theorem dX0_personOn_55 : decode cX0_personOn 55 = .ok (.iload_n 1, 1) := dk_27 (dk_at dksX0_personOn_2 10 rfl rfl)
theorem dX0_personOn_56 : decode cX0_personOn 56 = .ok (.iload_n 3, 1) := dk_29 (dk_at dksX0_personOn_2 11 rfl rfl)
theorem dX0_personOn_57 : decode cX0_personOn 57 = .ok (.iastore, 1) := dk_79 (dk_at dksX0_personOn_2 12 rfl rfl)
theorem dX0_personOn_58 : decode cX0_personOn 58 = .ok (.aload_n 0, 1) := dk_42 (dk_at dksX0_personOn_2 13 rfl rfl)
theorem dX0_personOn_59 : decode cX0_personOn 59 = .ok (.getfield 73, 3) := dk_180 0 73 (dk_at dksX0_personOn_2 14 rfl rfl)
theorem dX0_personOn_62 : decode cX0_personOn 62 = .ok (.getfield 219, 3) := dk_180 0 219 (dk_at dksX0_personOn_2 17 rfl rfl)
theorem dX0_personOn_65 : decode cX0_personOn 65 = .ok (.iload_n 1, 1) := dk_27 (dk_at dksX0_personOn_2 20 rfl rfl)
theorem dX0_personOn_66 : decode cX0_personOn 66 = .ok (.aload_n 0, 1) := dk_42 (dk_at dksX0_personOn_2 21 rfl rfl)
theorem dX0_personOn_67 : decode cX0_personOn 67 = .ok (.iload_n 2, 1) := dk_28 (dk_at dksX0_personOn_2 22 rfl rfl)
theorem dX0_personOn_68 : decode cX0_personOn 68 = .ok (.iconst 2, 1) := dk_5 (dk_at dksX0_personOn_2 23 rfl rfl)
theorem dX0_personOn_69 : decode cX0_personOn 69 = .ok (.iadd, 1) := dk_96 (dk_at dksX0_personOn_3 0 rfl rfl)
theorem dX0_personOn_70 : decode cX0_personOn 70 = .ok (.invokevirtual 299, 3) := dk_182 1 43 (dk_at dksX0_personOn_3 1 rfl rfl)
theorem dX0_personOn_73 : decode cX0_personOn 73 = .ok (.iastore, 1) := dk_79 (dk_at dksX0_personOn_3 4 rfl rfl)
theorem dX0_personOn_74 : decode cX0_personOn 74 = .ok (.aload_n 0, 1) := dk_42 (dk_at dksX0_personOn_3 5 rfl rfl)
theorem dX0_personOn_75 : decode cX0_personOn 75 = .ok (.getfield 73, 3) := dk_180 0 73 (dk_at dksX0_personOn_3 6 rfl rfl)
theorem dX0_personOn_78 : decode cX0_personOn 78 = .ok (.getfield 222, 3) := dk_180 0 222 (dk_at dksX0_personOn_3 9 rfl rfl)
theorem dX0_personOn_81 : decode cX0_personOn 81 = .ok (.iload_n 1, 1) := dk_27 (dk_at dksX0_personOn_3 12 rfl rfl)
theorem dX0_personOn_82 : decode cX0_personOn 82 = .ok (.aload_n 0, 1) := dk_42 (dk_at dksX0_personOn_3 13 rfl rfl)
theorem dX0_personOn_83 : decode cX0_personOn 83 = .ok (.iload_n 2, 1) := dk_28 (dk_at dksX0_personOn_3 14 rfl rfl)
theorem dX0_personOn_84 : decode cX0_personOn 84 = .ok (.iconst 3, 1) := dk_6 (dk_at dksX0_personOn_3 15 rfl rfl)
theorem dX0_personOn_85 : decode cX0_personOn 85 = .ok (.iadd, 1) := dk_96 (dk_at dksX0_personOn_3 16 rfl rfl)
theorem dX0_personOn_86 : decode cX0_personOn 86 = .ok (.invokevirtual 299, 3) := dk_182 1 43 (dk_at dksX0_personOn_3 17 rfl rfl)
theorem dX0_personOn_89 : decode cX0_personOn 89 = .ok (.iastore, 1) := dk_79 (dk_at dksX0_personOn_3 20 rfl rfl)
theorem dX0_personOn_90 : decode cX0_personOn 90 = .ok (.aload_n 0, 1) := dk_42 (dk_at dksX0_personOn_3 21 rfl rfl)
theorem dX0_personOn_91 : decode cX0_personOn 91 = .ok (.aload_n 0, 1) := dk_42 (dk_at dksX0_personOn_3 22 rfl rfl)
theorem dX0_personOn_92 : decode cX0_personOn 92 = .ok (.iload_n 2, 1) := dk_28 (dk_at dksX0_personOn_3 23 rfl rfl)
theorem dX0_personOn_93 : decode cX0_personOn 93 = .ok (.invokevirtual 299, 3) := dk_182 1 43 (dk_at dksX0_personOn_4 0 rfl rfl)
theorem dX0_personOn_96 : decode cX0_personOn 96 = .ok (.aload_n 0, 1) := dk_42 (dk_at dksX0_personOn_4 3 rfl rfl)
theorem dX0_personOn_97 : decode cX0_personOn 97 = .ok (.iload_n 2, 1) := dk_28 (dk_at dksX0_personOn_4 4 rfl rfl)
theorem dX0_personOn_98 : decode cX0_personOn 98 = .ok (.iconst 1, 1) := dk_4 (dk_at dksX0_personOn_4 5 rfl rfl)
theorem dX0_personOn_99 : decode cX0_personOn 99 = .ok (.iadd, 1) := dk_96 (dk_at dksX0_personOn_4 6 rfl rfl)
theorem dX0_personOn_100 : decode cX0_personOn 100 = .ok (.invokevirtual 299, 3) := dk_182 1 43 (dk_at dksX0_personOn_4 7 rfl rfl)
theorem dX0_personOn_103 : decode cX0_personOn 103 = .ok (.invokevirtual 181, 3) := dk_182 0 181 (dk_at dksX0_personOn_4 10 rfl rfl)
theorem dX0_personOn_106 : decode cX0_personOn 106 = .ok (.ifCond .eq 35, 3) := dk_153 0 35 (dk_at dksX0_personOn_4 13 rfl rfl)
theorem dX0_personOn_109 : decode cX0_personOn 109 = .ok (.aload_n 0, 1) := dk_42 (dk_at dksX0_personOn_4 16 rfl rfl)
theorem dX0_personOn_110 : decode cX0_personOn 110 = .ok (.iload_n 2, 1) := dk_28 (dk_at dksX0_personOn_4 17 rfl rfl)
theorem dX0_personOn_111 : decode cX0_personOn 111 = .ok (.iconst 2, 1) := dk_5 (dk_at dksX0_personOn_4 18 rfl rfl)
theorem dX0_personOn_112 : decode cX0_personOn 112 = .ok (.iadd, 1) := dk_96 (dk_at dksX0_personOn_4 19 rfl rfl)
theorem dX0_personOn_113 : decode cX0_personOn 113 = .ok (.invokevirtual 299, 3) := dk_182 1 43 (dk_at dksX0_personOn_4 20 rfl rfl)
theorem dX0_personOn_116 : decode cX0_personOn 116 = .ok (.bipush 9, 2) := dk_16 9 (dk_at dksX0_personOn_5 0 rfl rfl)
theorem dX0_personOn_118 : decode cX0_personOn 118 = .ok (.if_icmp .gt 23, 3) := dk_163 0 23 (dk_at dksX0_personOn_5 2 rfl rfl)
theorem dX0_personOn_121 : decode cX0_personOn 121 = .ok (.aload_n 0, 1) := dk_42 (dk_at dksX0_personOn_5 5 rfl rfl)
theorem dX0_personOn_122 : decode cX0_personOn 122 = .ok (.iload_n 2, 1) := dk_28 (dk_at dksX0_personOn_5 6 rfl rfl)
theorem dX0_personOn_123 : decode cX0_personOn 123 = .ok (.iconst 3, 1) := dk_6 (dk_at dksX0_personOn_5 7 rfl rfl)
theorem dX0_personOn_124 : decode cX0_personOn 124 = .ok (.iadd, 1) := dk_96 (dk_at dksX0_personOn_5 8 rfl rfl)
theorem dX0_personOn_125 : decode cX0_personOn 125 = .ok (.invokevirtual 299, 3) := dk_182 1 43 (dk_at dksX0_personOn_5 9 rfl rfl)
theorem dX0_personOn_128 : decode cX0_personOn 128 = .ok (.iconst 1, 1) := dk_4 (dk_at dksX0_personOn_5 12 rfl rfl)
theorem dX0_personOn_129 : decode cX0_personOn 129 = .ok (.aload_n 0, 1) := dk_42 (dk_at dksX0_personOn_5 13 rfl rfl)
theorem dX0_personOn_130 : decode cX0_personOn 130 = .ok (.invokevirtual 172, 3) := dk_182 0 172 (dk_at dksX0_personOn_5 14 rfl rfl)
theorem dX0_personOn_133 : decode cX0_personOn 133 = .ok (.ishl, 1) := dk_120 (dk_at dksX0_personOn_5 17 rfl rfl)
theorem dX0_personOn_134 : decode cX0_personOn 134 = .ok (.if_icmp .ge 7, 3) := dk_162 0 7 (dk_at dksX0_personOn_5 18 rfl rfl)
theorem dX0_personOn_137 : decode cX0_personOn 137 = .ok (.iconst 1, 1) := dk_4 (dk_at dksX0_personOn_5 21 rfl rfl)
theorem dX0_personOn_138 : decode cX0_personOn 138 = .ok (.goto 4, 3) := dk_167 0 4 (dk_at dksX0_personOn_6 0 rfl rfl)
theorem dX0_personOn_141 : decode cX0_personOn 141 = .ok (.iconst 0, 1) := dk_3 (dk_at dksX0_personOn_6 3 rfl rfl)
theorem dX0_personOn_142 : decode cX0_personOn 142 = .ok (.ireturn, 1) := dk_172 (dk_at dksX0_personOn_6 4 rfl rfl)
abbrev cX0_status : ByteArray := prog_1_method_71_code
def yX0_status : MethodName := ⟨RX0, "status", "(I)I"⟩
def dkwX0_status_0 : List UInt8 := [27, 3, 8, 184, 0, 176, 153, 0, 12, 42, 180, 0, 62, 27, 46, 167, 0, 4, 2, 172]
abbrev dktX0_status_0 : List UInt8 := dkwX0_status_0 ++ []
theorem dksX0_status_0 : cX0_status.data.toList.drop 0 = dktX0_status_0 := by decide +kernel
theorem dX0_status_0 : decode cX0_status 0 = .ok (.iload_n 1, 1) := dk_27 (dk_at dksX0_status_0 0 rfl rfl)
theorem dX0_status_1 : decode cX0_status 1 = .ok (.iconst 0, 1) := dk_3 (dk_at dksX0_status_0 1 rfl rfl)
theorem dX0_status_2 : decode cX0_status 2 = .ok (.iconst 5, 1) := dk_8 (dk_at dksX0_status_0 2 rfl rfl)
theorem dX0_status_3 : decode cX0_status 3 = .ok (.invokestatic 176, 3) := dk_184 0 176 (dk_at dksX0_status_0 3 rfl rfl)
theorem dX0_status_6 : decode cX0_status 6 = .ok (.ifCond .eq 12, 3) := dk_153 0 12 (dk_at dksX0_status_0 6 rfl rfl)
theorem dX0_status_9 : decode cX0_status 9 = .ok (.aload_n 0, 1) := dk_42 (dk_at dksX0_status_0 9 rfl rfl)
theorem dX0_status_10 : decode cX0_status 10 = .ok (.getfield 62, 3) := dk_180 0 62 (dk_at dksX0_status_0 10 rfl rfl)
theorem dX0_status_13 : decode cX0_status 13 = .ok (.iload_n 1, 1) := dk_27 (dk_at dksX0_status_0 13 rfl rfl)
theorem dX0_status_14 : decode cX0_status 14 = .ok (.iaload, 1) := dk_46 (dk_at dksX0_status_0 14 rfl rfl)
theorem dX0_status_15 : decode cX0_status 15 = .ok (.goto 4, 3) := dk_167 0 4 (dk_at dksX0_status_0 15 rfl rfl)
theorem dX0_status_18 : decode cX0_status 18 = .ok (.iconst (-1), 1) := dk_2 (dk_at dksX0_status_0 18 rfl rfl)
theorem dX0_status_19 : decode cX0_status 19 = .ok (.ireturn, 1) := dk_172 (dk_at dksX0_status_0 19 rfl rfl)
theorem q171 : (Jvm.Cond.initialized "ShrugHills") ∈ lw_all := lw_g (lw_at lw_m1 1 rfl) rfl
theorem q212 : (Jvm.Cond.instantiable "ShrugHills" (26 : Nat)) ∈ lw_all := lw_g (lw_at lw_m1 42 rfl) rfl
theorem q214 : (Jvm.Cond.instanceMethod ({ cls := "ShrugHills", name := "<init>", desc := "()V" } : Jvm.MethodName)) ∈ lw_all := lw_g (lw_at lw_m1 44 rfl) rfl
theorem q215 : (Jvm.Cond.code ({ cls := "ShrugHills", name := "<init>", desc := "()V" } : Jvm.MethodName) prog_1_method_7_code (2 : Nat) (Option.none : Option Jvm.ClassFile.FieldType)) ∈ lw_all := lw_g (lw_at lw_m1 45 rfl) rfl
theorem q216 : (Jvm.Cond.methodLink "ShrugHills" (22 : Nat) ({ cls := "java/lang/Object", name := "<init>", desc := "()V" } : Jvm.MethodName)) ∈ lw_all := lw_g (lw_at lw_m1 46 rfl) rfl
theorem q219 : (Jvm.Cond.classLink "ShrugHills" (28 : Nat) "ShrugHills$Plain") ∈ lw_all := lw_g (lw_at lw_m1 49 rfl) rfl
theorem q221 : (Jvm.Cond.methodLink "ShrugHills" (30 : Nat) ({ cls := "ShrugHills$Plain", name := "<init>", desc := "()V" } : Jvm.MethodName)) ∈ lw_all := lw_g (lw_at lw_m1 51 rfl) rfl
theorem q254 : (Jvm.Cond.fieldLinkNest "ShrugHills" (154 : Nat) "ShrugHills$Plain" "statements" "I" "ShrugHills") ∈ lw_tbl := lw_at lw_m1 84 rfl
theorem q256 : (Jvm.Cond.fieldLinkNest "ShrugHills" (157 : Nat) "ShrugHills$Plain" "columns" "I" "ShrugHills") ∈ lw_tbl := lw_at lw_m1 86 rfl
theorem q259 : (Jvm.Cond.fieldLinkNest "ShrugHills" (180 : Nat) "ShrugHills$Plain" "rows" "I" "ShrugHills") ∈ lw_tbl := lw_at lw_m1 89 rfl
theorem q261 : (Jvm.Cond.fieldLinkNest "ShrugHills" (334 : Nat) "ShrugHills$Plain" "crowd" "I" "ShrugHills") ∈ lw_tbl := lw_at lw_m1 91 rfl
theorem q266 : (Jvm.Cond.fieldLinkNest "ShrugHills" (160 : Nat) "ShrugHills$Plain" "topics" "Ljava/util/List;" "ShrugHills") ∈ lw_tbl := lw_at lw_m1 96 rfl
theorem q270 : (Jvm.Cond.fieldLinkNest "ShrugHills" (169 : Nat) "ShrugHills$Plain" "people" "Ljava/util/List;" "ShrugHills") ∈ lw_tbl := lw_at lw_m1 100 rfl
theorem q275 : (Jvm.Cond.fieldLinkNest "ShrugHills" (188 : Nat) "ShrugHills$Plain" "list" "Ljava/util/List;" "ShrugHills") ∈ lw_tbl := lw_at lw_m1 105 rfl
theorem q305 : (Jvm.Cond.classLink "ShrugHills" (43 : Nat) "ShrugHills$Reader") ∈ lw_all := lw_g (lw_at lw_m1 135 rfl) rfl
theorem q307 : (Jvm.Cond.methodLinkNest "ShrugHills" (45 : Nat) ({ cls := "ShrugHills$Reader", name := "<init>", desc := "(LShrugHills;)V" } : Jvm.MethodName) "ShrugHills") ∈ lw_tbl := lw_at lw_m1 137 rfl
theorem q363 : (Jvm.Cond.fieldLinkNest "ShrugHills" (139 : Nat) "ShrugHills$Fault" "kind" "I" "ShrugHills") ∈ lw_tbl := lw_at lw_m1 193 rfl
theorem q365 : (Jvm.Cond.fieldLinkNest "ShrugHills" (142 : Nat) "ShrugHills$Fault" "place" "I" "ShrugHills") ∈ lw_tbl := lw_at lw_m1 195 rfl
theorem q409 : (Jvm.Cond.classLink "ShrugHills" (52 : Nat) "ShrugHills$Moment") ∈ lw_all := lw_g (lw_at lw_m1 239 rfl) rfl
theorem q411 : (Jvm.Cond.methodLinkNest "ShrugHills" (54 : Nat) ({ cls := "ShrugHills$Moment", name := "<init>", desc := "()V" } : Jvm.MethodName) "ShrugHills") ∈ lw_tbl := lw_at lw_m2 1 rfl
theorem q418 : (Jvm.Cond.fieldLinkNest "ShrugHills" (349 : Nat) "ShrugHills$Moment" "of" "[J" "ShrugHills") ∈ lw_tbl := lw_at lw_m2 8 rfl
theorem q423 : (Jvm.Cond.classLink "ShrugHills" (66 : Nat) "ShrugHills$State") ∈ lw_all := lw_g (lw_at lw_m2 13 rfl) rfl
theorem q425 : (Jvm.Cond.methodLinkNest "ShrugHills" (68 : Nat) ({ cls := "ShrugHills$State", name := "<init>", desc := "(LShrugHills;)V" } : Jvm.MethodName) "ShrugHills") ∈ lw_tbl := lw_at lw_m2 15 rfl
theorem q432 : (Jvm.Cond.fieldLinkNest "ShrugHills" (191 : Nat) "ShrugHills$State" "day" "I" "ShrugHills") ∈ lw_tbl := lw_at lw_m2 22 rfl
theorem q434 : (Jvm.Cond.fieldLinkNest "ShrugHills" (201 : Nat) "ShrugHills$State" "keeps" "I" "ShrugHills") ∈ lw_tbl := lw_at lw_m2 24 rfl
theorem q436 : (Jvm.Cond.fieldLinkNest "ShrugHills" (286 : Nat) "ShrugHills$State" "silent" "I" "ShrugHills") ∈ lw_tbl := lw_at lw_m2 26 rfl
theorem q438 : (Jvm.Cond.fieldLinkNest "ShrugHills" (198 : Nat) "ShrugHills$State" "height" "[I" "ShrugHills") ∈ lw_tbl := lw_at lw_m2 28 rfl
theorem q440 : (Jvm.Cond.fieldLinkNest "ShrugHills" (216 : Nat) "ShrugHills$State" "at" "[I" "ShrugHills") ∈ lw_tbl := lw_at lw_m2 30 rfl
theorem q442 : (Jvm.Cond.fieldLinkNest "ShrugHills" (219 : Nat) "ShrugHills$State" "tired" "[I" "ShrugHills") ∈ lw_tbl := lw_at lw_m2 32 rfl
theorem q444 : (Jvm.Cond.fieldLinkNest "ShrugHills" (222 : Nat) "ShrugHills$State" "knows" "[I" "ShrugHills") ∈ lw_tbl := lw_at lw_m2 34 rfl
theorem q446 : (Jvm.Cond.fieldLinkNest "ShrugHills" (240 : Nat) "ShrugHills$State" "rows" "[[I" "ShrugHills") ∈ lw_tbl := lw_at lw_m2 36 rfl
theorem q468 : (Jvm.Cond.classLink "ShrugHills" (86 : Nat) "[[I") ∈ lw_all := lw_g (lw_at lw_m2 58 rfl) rfl
theorem q469 : (Jvm.Cond.classLink "ShrugHills" (100 : Nat) "[[[I") ∈ lw_all := lw_g (lw_at lw_m2 59 rfl) rfl
theorem q472 : (Jvm.Cond.fieldLink "ShrugHills" (31 : Nat) "ShrugHills" "plain" "LShrugHills$Plain;") ∈ lw_all := lw_g (lw_at lw_m2 62 rfl) rfl
theorem q474 : (Jvm.Cond.fieldLink "ShrugHills" (35 : Nat) "ShrugHills" "tape" "[B") ∈ lw_all := lw_g (lw_at lw_m2 64 rfl) rfl
theorem q475 : (Jvm.Cond.fieldLink "ShrugHills" (115 : Nat) "ShrugHills" "taped" "I") ∈ lw_all := lw_g (lw_at lw_m2 65 rfl) rfl
theorem q476 : (Jvm.Cond.fieldLink "ShrugHills" (126 : Nat) "ShrugHills" "faultKind" "I") ∈ lw_all := lw_g (lw_at lw_m2 66 rfl) rfl
theorem q477 : (Jvm.Cond.fieldLink "ShrugHills" (39 : Nat) "ShrugHills" "faultPlace" "I") ∈ lw_all := lw_g (lw_at lw_m2 67 rfl) rfl
theorem q478 : (Jvm.Cond.fieldLink "ShrugHills" (48 : Nat) "ShrugHills" "reader" "LShrugHills$Reader;") ∈ lw_all := lw_g (lw_at lw_m2 68 rfl) rfl
theorem q480 : (Jvm.Cond.fieldLink "ShrugHills" (55 : Nat) "ShrugHills" "moment" "LShrugHills$Moment;") ∈ lw_all := lw_g (lw_at lw_m2 70 rfl) rfl
theorem q481 : (Jvm.Cond.fieldLink "ShrugHills" (59 : Nat) "ShrugHills" "asked" "LShrugHills$Moment;") ∈ lw_all := lw_g (lw_at lw_m2 71 rfl) rfl
theorem q482 : (Jvm.Cond.fieldLink "ShrugHills" (62 : Nat) "ShrugHills" "refused" "[I") ∈ lw_all := lw_g (lw_at lw_m2 72 rfl) rfl
theorem q483 : (Jvm.Cond.fieldLink "ShrugHills" (69 : Nat) "ShrugHills" "now" "LShrugHills$State;") ∈ lw_all := lw_g (lw_at lw_m2 73 rfl) rfl
theorem q484 : (Jvm.Cond.fieldLink "ShrugHills" (73 : Nat) "ShrugHills" "tried" "LShrugHills$State;") ∈ lw_all := lw_g (lw_at lw_m2 74 rfl) rfl
theorem q485 : (Jvm.Cond.fieldLink "ShrugHills" (76 : Nat) "ShrugHills" "askedBy" "[LShrugHills$State;") ∈ lw_all := lw_g (lw_at lw_m2 75 rfl) rfl
theorem q486 : (Jvm.Cond.fieldLink "ShrugHills" (80 : Nat) "ShrugHills" "planned" "[I") ∈ lw_all := lw_g (lw_at lw_m2 76 rfl) rfl
theorem q487 : (Jvm.Cond.fieldLink "ShrugHills" (83 : Nat) "ShrugHills" "far" "[I") ∈ lw_all := lw_g (lw_at lw_m2 77 rfl) rfl
theorem q488 : (Jvm.Cond.fieldLink "ShrugHills" (88 : Nat) "ShrugHills" "isHigh" "[[I") ∈ lw_all := lw_g (lw_at lw_m2 78 rfl) rfl
theorem q489 : (Jvm.Cond.fieldLink "ShrugHills" (91 : Nat) "ShrugHills" "rowDay" "[I") ∈ lw_all := lw_g (lw_at lw_m2 79 rfl) rfl
theorem q490 : (Jvm.Cond.fieldLink "ShrugHills" (94 : Nat) "ShrugHills" "rowCell" "[I") ∈ lw_all := lw_g (lw_at lw_m2 80 rfl) rfl
theorem q491 : (Jvm.Cond.fieldLink "ShrugHills" (97 : Nat) "ShrugHills" "rowHeight" "[I") ∈ lw_all := lw_g (lw_at lw_m2 81 rfl) rfl
theorem q492 : (Jvm.Cond.fieldLink "ShrugHills" (151 : Nat) "ShrugHills" "rows" "I") ∈ lw_all := lw_g (lw_at lw_m2 82 rfl) rfl
theorem q493 : (Jvm.Cond.fieldLink "ShrugHills" (102 : Nat) "ShrugHills" "heightBy" "[[[I") ∈ lw_all := lw_g (lw_at lw_m2 83 rfl) rfl
theorem q494 : (Jvm.Cond.fieldLink "ShrugHills" (105 : Nat) "ShrugHills" "kept" "[LShrugHills$State;") ∈ lw_all := lw_g (lw_at lw_m2 84 rfl) rfl
theorem q495 : (Jvm.Cond.fieldLink "ShrugHills" (148 : Nat) "ShrugHills" "undos" "I") ∈ lw_all := lw_g (lw_at lw_m2 85 rfl) rfl
theorem q496 : (Jvm.Cond.fieldLink "ShrugHills" (108 : Nat) "ShrugHills" "seeds" "J") ∈ lw_all := lw_g (lw_at lw_m2 86 rfl) rfl
theorem q497 : (Jvm.Cond.fieldLink "ShrugHills" (337 : Nat) "ShrugHills" "askedPerson" "I") ∈ lw_all := lw_g (lw_at lw_m2 87 rfl) rfl
theorem q498 : (Jvm.Cond.fieldLink "ShrugHills" (112 : Nat) "ShrugHills" "out" "[B") ∈ lw_all := lw_g (lw_at lw_m2 88 rfl) rfl
theorem q499 : (Jvm.Cond.fieldLink "ShrugHills" (363 : Nat) "ShrugHills" "outs" "I") ∈ lw_all := lw_g (lw_at lw_m2 89 rfl) rfl
theorem q500 : (Jvm.Cond.lays "ShrugHills" "ShrugHills" "plain" "LShrugHills$Plain;") ∈ lw_all := lw_g (lw_at lw_m2 90 rfl) rfl
theorem q501 : (Jvm.Cond.soleField "ShrugHills" "plain") ∈ lw_all := lw_g (lw_at lw_m2 91 rfl) rfl
theorem q502 : (Jvm.Cond.laysFinal "ShrugHills" "ShrugHills" "tape" "[B") ∈ lw_all := lw_g (lw_at lw_m2 92 rfl) rfl
theorem q503 : (Jvm.Cond.soleField "ShrugHills" "tape") ∈ lw_all := lw_g (lw_at lw_m2 93 rfl) rfl
theorem q504 : (Jvm.Cond.lays "ShrugHills" "ShrugHills" "taped" "I") ∈ lw_all := lw_g (lw_at lw_m2 94 rfl) rfl
theorem q505 : (Jvm.Cond.soleField "ShrugHills" "taped") ∈ lw_all := lw_g (lw_at lw_m2 95 rfl) rfl
theorem q506 : (Jvm.Cond.lays "ShrugHills" "ShrugHills" "faultKind" "I") ∈ lw_all := lw_g (lw_at lw_m2 96 rfl) rfl
theorem q507 : (Jvm.Cond.soleField "ShrugHills" "faultKind") ∈ lw_all := lw_g (lw_at lw_m2 97 rfl) rfl
theorem q508 : (Jvm.Cond.lays "ShrugHills" "ShrugHills" "faultPlace" "I") ∈ lw_all := lw_g (lw_at lw_m2 98 rfl) rfl
theorem q509 : (Jvm.Cond.soleField "ShrugHills" "faultPlace") ∈ lw_all := lw_g (lw_at lw_m2 99 rfl) rfl
theorem q510 : (Jvm.Cond.laysFinal "ShrugHills" "ShrugHills" "reader" "LShrugHills$Reader;") ∈ lw_all := lw_g (lw_at lw_m2 100 rfl) rfl
theorem q511 : (Jvm.Cond.soleField "ShrugHills" "reader") ∈ lw_all := lw_g (lw_at lw_m2 101 rfl) rfl
theorem q512 : (Jvm.Cond.laysFinal "ShrugHills" "ShrugHills" "moment" "LShrugHills$Moment;") ∈ lw_all := lw_g (lw_at lw_m2 102 rfl) rfl
theorem q513 : (Jvm.Cond.soleField "ShrugHills" "moment") ∈ lw_all := lw_g (lw_at lw_m2 103 rfl) rfl
theorem q514 : (Jvm.Cond.laysFinal "ShrugHills" "ShrugHills" "asked" "LShrugHills$Moment;") ∈ lw_all := lw_g (lw_at lw_m2 104 rfl) rfl
theorem q515 : (Jvm.Cond.soleField "ShrugHills" "asked") ∈ lw_all := lw_g (lw_at lw_m2 105 rfl) rfl
theorem q516 : (Jvm.Cond.laysFinal "ShrugHills" "ShrugHills" "refused" "[I") ∈ lw_all := lw_g (lw_at lw_m2 106 rfl) rfl
theorem q517 : (Jvm.Cond.soleField "ShrugHills" "refused") ∈ lw_all := lw_g (lw_at lw_m2 107 rfl) rfl
theorem q518 : (Jvm.Cond.laysFinal "ShrugHills" "ShrugHills" "now" "LShrugHills$State;") ∈ lw_all := lw_g (lw_at lw_m2 108 rfl) rfl
theorem q519 : (Jvm.Cond.soleField "ShrugHills" "now") ∈ lw_all := lw_g (lw_at lw_m2 109 rfl) rfl
theorem q520 : (Jvm.Cond.laysFinal "ShrugHills" "ShrugHills" "tried" "LShrugHills$State;") ∈ lw_all := lw_g (lw_at lw_m2 110 rfl) rfl
theorem q521 : (Jvm.Cond.soleField "ShrugHills" "tried") ∈ lw_all := lw_g (lw_at lw_m2 111 rfl) rfl
theorem q522 : (Jvm.Cond.laysFinal "ShrugHills" "ShrugHills" "askedBy" "[LShrugHills$State;") ∈ lw_all := lw_g (lw_at lw_m2 112 rfl) rfl
theorem q523 : (Jvm.Cond.soleField "ShrugHills" "askedBy") ∈ lw_all := lw_g (lw_at lw_m2 113 rfl) rfl
theorem q524 : (Jvm.Cond.laysFinal "ShrugHills" "ShrugHills" "planned" "[I") ∈ lw_all := lw_g (lw_at lw_m2 114 rfl) rfl
theorem q525 : (Jvm.Cond.soleField "ShrugHills" "planned") ∈ lw_all := lw_g (lw_at lw_m2 115 rfl) rfl
theorem q526 : (Jvm.Cond.laysFinal "ShrugHills" "ShrugHills" "far" "[I") ∈ lw_all := lw_g (lw_at lw_m2 116 rfl) rfl
theorem q527 : (Jvm.Cond.soleField "ShrugHills" "far") ∈ lw_all := lw_g (lw_at lw_m2 117 rfl) rfl
theorem q528 : (Jvm.Cond.laysFinal "ShrugHills" "ShrugHills" "isHigh" "[[I") ∈ lw_all := lw_g (lw_at lw_m2 118 rfl) rfl
theorem q529 : (Jvm.Cond.soleField "ShrugHills" "isHigh") ∈ lw_all := lw_g (lw_at lw_m2 119 rfl) rfl
theorem q530 : (Jvm.Cond.laysFinal "ShrugHills" "ShrugHills" "rowDay" "[I") ∈ lw_all := lw_g (lw_at lw_m2 120 rfl) rfl
theorem q531 : (Jvm.Cond.soleField "ShrugHills" "rowDay") ∈ lw_all := lw_g (lw_at lw_m2 121 rfl) rfl
theorem q532 : (Jvm.Cond.laysFinal "ShrugHills" "ShrugHills" "rowCell" "[I") ∈ lw_all := lw_g (lw_at lw_m2 122 rfl) rfl
theorem q533 : (Jvm.Cond.soleField "ShrugHills" "rowCell") ∈ lw_all := lw_g (lw_at lw_m2 123 rfl) rfl
theorem q534 : (Jvm.Cond.laysFinal "ShrugHills" "ShrugHills" "rowHeight" "[I") ∈ lw_all := lw_g (lw_at lw_m2 124 rfl) rfl
theorem q535 : (Jvm.Cond.soleField "ShrugHills" "rowHeight") ∈ lw_all := lw_g (lw_at lw_m2 125 rfl) rfl
theorem q536 : (Jvm.Cond.lays "ShrugHills" "ShrugHills" "rows" "I") ∈ lw_all := lw_g (lw_at lw_m2 126 rfl) rfl
theorem q537 : (Jvm.Cond.soleField "ShrugHills" "rows") ∈ lw_all := lw_g (lw_at lw_m2 127 rfl) rfl
theorem q538 : (Jvm.Cond.laysFinal "ShrugHills" "ShrugHills" "heightBy" "[[[I") ∈ lw_all := lw_g (lw_at lw_m2 128 rfl) rfl
theorem q539 : (Jvm.Cond.soleField "ShrugHills" "heightBy") ∈ lw_all := lw_g (lw_at lw_m2 129 rfl) rfl
theorem q540 : (Jvm.Cond.laysFinal "ShrugHills" "ShrugHills" "kept" "[LShrugHills$State;") ∈ lw_all := lw_g (lw_at lw_m2 130 rfl) rfl
theorem q541 : (Jvm.Cond.soleField "ShrugHills" "kept") ∈ lw_all := lw_g (lw_at lw_m2 131 rfl) rfl
theorem q542 : (Jvm.Cond.lays "ShrugHills" "ShrugHills" "undos" "I") ∈ lw_all := lw_g (lw_at lw_m2 132 rfl) rfl
theorem q543 : (Jvm.Cond.soleField "ShrugHills" "undos") ∈ lw_all := lw_g (lw_at lw_m2 133 rfl) rfl
theorem q544 : (Jvm.Cond.lays "ShrugHills" "ShrugHills" "seeds" "J") ∈ lw_all := lw_g (lw_at lw_m2 134 rfl) rfl
theorem q545 : (Jvm.Cond.soleField "ShrugHills" "seeds") ∈ lw_all := lw_g (lw_at lw_m2 135 rfl) rfl
theorem q546 : (Jvm.Cond.lays "ShrugHills" "ShrugHills" "askedPerson" "I") ∈ lw_all := lw_g (lw_at lw_m2 136 rfl) rfl
theorem q547 : (Jvm.Cond.soleField "ShrugHills" "askedPerson") ∈ lw_all := lw_g (lw_at lw_m2 137 rfl) rfl
theorem q548 : (Jvm.Cond.laysFinal "ShrugHills" "ShrugHills" "out" "[B") ∈ lw_all := lw_g (lw_at lw_m2 138 rfl) rfl
theorem q549 : (Jvm.Cond.soleField "ShrugHills" "out") ∈ lw_all := lw_g (lw_at lw_m2 139 rfl) rfl
theorem q550 : (Jvm.Cond.lays "ShrugHills" "ShrugHills" "outs" "I") ∈ lw_all := lw_g (lw_at lw_m2 140 rfl) rfl
theorem q551 : (Jvm.Cond.soleField "ShrugHills" "outs") ∈ lw_all := lw_g (lw_at lw_m2 141 rfl) rfl
theorem q552 : (Jvm.Cond.superclass "ShrugHills" "java/lang/Object") ∈ lw_all := lw_g (lw_at lw_m2 142 rfl) rfl
theorem q554 : (Jvm.Cond.instanceMethod ({ cls := "ShrugHills", name := "feed", desc := "(IIIII)I" } : Jvm.MethodName)) ∈ lw_all := lw_g (lw_at lw_m2 144 rfl) rfl
theorem q555 : (Jvm.Cond.selects "ShrugHills" ({ cls := "ShrugHills", name := "feed", desc := "(IIIII)I" } : Jvm.MethodName) ({ cls := "ShrugHills", name := "feed", desc := "(IIIII)I" } : Jvm.MethodName)) ∈ lw_all := lw_g (lw_at lw_m2 145 rfl) rfl
theorem q556 : (Jvm.Cond.code ({ cls := "ShrugHills", name := "feed", desc := "(IIIII)I" } : Jvm.MethodName) prog_1_method_10_code (6 : Nat) (Option.some Jvm.ClassFile.FieldType.int)) ∈ lw_all := lw_g (lw_at lw_m2 146 rfl) rfl
theorem q557 : (Jvm.Cond.methodLink "ShrugHills" (118 : Nat) ({ cls := "ShrugHills", name := "refuses", desc := "(I)I" } : Jvm.MethodName)) ∈ lw_all := lw_g (lw_at lw_m2 147 rfl) rfl
theorem q558 : (Jvm.Cond.privateMethod ({ cls := "ShrugHills", name := "refuses", desc := "(I)I" } : Jvm.MethodName)) ∈ lw_tbl := lw_at lw_m2 148 rfl
theorem q559 : (Jvm.Cond.instanceMethod ({ cls := "ShrugHills", name := "refuses", desc := "(I)I" } : Jvm.MethodName)) ∈ lw_all := lw_g (lw_at lw_m2 149 rfl) rfl
theorem q560 : (Jvm.Cond.code ({ cls := "ShrugHills", name := "refuses", desc := "(I)I" } : Jvm.MethodName) prog_1_method_8_code (2 : Nat) (Option.some Jvm.ClassFile.FieldType.int)) ∈ lw_all := lw_g (lw_at lw_m2 150 rfl) rfl
theorem q561 : (Jvm.Cond.methodLink "ShrugHills" (122 : Nat) ({ cls := "ShrugHills", name := "put", desc := "(I)V" } : Jvm.MethodName)) ∈ lw_all := lw_g (lw_at lw_m2 151 rfl) rfl
theorem q562 : (Jvm.Cond.privateMethod ({ cls := "ShrugHills", name := "put", desc := "(I)V" } : Jvm.MethodName)) ∈ lw_tbl := lw_at lw_m2 152 rfl
theorem q563 : (Jvm.Cond.instanceMethod ({ cls := "ShrugHills", name := "put", desc := "(I)V" } : Jvm.MethodName)) ∈ lw_all := lw_g (lw_at lw_m2 153 rfl) rfl
theorem q564 : (Jvm.Cond.code ({ cls := "ShrugHills", name := "put", desc := "(I)V" } : Jvm.MethodName) prog_1_method_9_code (3 : Nat) (Option.none : Option Jvm.ClassFile.FieldType)) ∈ lw_all := lw_g (lw_at lw_m2 154 rfl) rfl
theorem q566 : (Jvm.Cond.instanceMethod ({ cls := "ShrugHills", name := "end", desc := "(I)Z" } : Jvm.MethodName)) ∈ lw_all := lw_g (lw_at lw_m2 156 rfl) rfl
theorem q567 : (Jvm.Cond.selects "ShrugHills" ({ cls := "ShrugHills", name := "end", desc := "(I)Z" } : Jvm.MethodName) ({ cls := "ShrugHills", name := "end", desc := "(I)Z" } : Jvm.MethodName)) ∈ lw_all := lw_g (lw_at lw_m2 157 rfl) rfl
theorem q568 : (Jvm.Cond.code ({ cls := "ShrugHills", name := "end", desc := "(I)Z" } : Jvm.MethodName) prog_1_method_11_code (2 : Nat) (Option.some Jvm.ClassFile.FieldType.boolean)) ∈ lw_all := lw_g (lw_at lw_m2 158 rfl) rfl
theorem q570 : (Jvm.Cond.instanceMethod ({ cls := "ShrugHills", name := "plain", desc := "()I" } : Jvm.MethodName)) ∈ lw_all := lw_g (lw_at lw_m2 160 rfl) rfl
theorem q571 : (Jvm.Cond.selects "ShrugHills" ({ cls := "ShrugHills", name := "plain", desc := "()I" } : Jvm.MethodName) ({ cls := "ShrugHills", name := "plain", desc := "()I" } : Jvm.MethodName)) ∈ lw_all := lw_g (lw_at lw_m2 161 rfl) rfl
theorem q572 : (Jvm.Cond.codeWith ({ cls := "ShrugHills", name := "plain", desc := "()I" } : Jvm.MethodName) prog_1_method_13_code (2 : Nat) (Option.some Jvm.ClassFile.FieldType.int) [((10 : Nat), (25 : Nat), (28 : Nat), (137 : Nat))]) ∈ lw_all := lw_g (lw_at lw_m2 162 rfl) rfl
theorem q573 : (Jvm.Cond.classLink "ShrugHills" (137 : Nat) "ShrugHills$Fault") ∈ lw_all := lw_g (lw_at lw_m2 163 rfl) rfl
theorem q574 : (Jvm.Cond.methodLink "ShrugHills" (129 : Nat) ({ cls := "ShrugHills", name := "taken", desc := "()I" } : Jvm.MethodName)) ∈ lw_all := lw_g (lw_at lw_m2 164 rfl) rfl
theorem q575 : (Jvm.Cond.privateMethod ({ cls := "ShrugHills", name := "taken", desc := "()I" } : Jvm.MethodName)) ∈ lw_tbl := lw_at lw_m2 165 rfl
theorem q576 : (Jvm.Cond.instanceMethod ({ cls := "ShrugHills", name := "taken", desc := "()I" } : Jvm.MethodName)) ∈ lw_all := lw_g (lw_at lw_m2 166 rfl) rfl
theorem q577 : (Jvm.Cond.code ({ cls := "ShrugHills", name := "taken", desc := "()I" } : Jvm.MethodName) prog_1_method_12_code (2 : Nat) (Option.some Jvm.ClassFile.FieldType.int)) ∈ lw_all := lw_g (lw_at lw_m2 167 rfl) rfl
theorem q578 : (Jvm.Cond.methodLink "ShrugHills" (133 : Nat) ({ cls := "ShrugHills$Reader", name := "all", desc := "(I)LShrugHills$Plain;" } : Jvm.MethodName)) ∈ lw_all := lw_g (lw_at lw_m2 168 rfl) rfl
theorem q602 : (Jvm.Cond.static ({ cls := "ShrugHills", name := "isLetter", desc := "(I)Z" } : Jvm.MethodName)) ∈ lw_all := lw_g (lw_at lw_m2 192 rfl) rfl
theorem q603 : (Jvm.Cond.code ({ cls := "ShrugHills", name := "isLetter", desc := "(I)Z" } : Jvm.MethodName) prog_1_method_4_code (1 : Nat) (Option.some Jvm.ClassFile.FieldType.boolean)) ∈ lw_all := lw_g (lw_at lw_m2 193 rfl) rfl
theorem q613 : (Jvm.Cond.static ({ cls := "ShrugHills", name := "isDigit", desc := "(I)Z" } : Jvm.MethodName)) ∈ lw_all := lw_g (lw_at lw_m2 203 rfl) rfl
theorem q614 : (Jvm.Cond.code ({ cls := "ShrugHills", name := "isDigit", desc := "(I)Z" } : Jvm.MethodName) prog_1_method_5_code (1 : Nat) (Option.some Jvm.ClassFile.FieldType.boolean)) ∈ lw_all := lw_g (lw_at lw_m2 204 rfl) rfl
theorem q705 : (Jvm.Cond.static ({ cls := "ShrugHills", name := "is", desc := "(III)Z" } : Jvm.MethodName)) ∈ lw_all := lw_g (lw_at lw_m3 55 rfl) rfl
theorem q706 : (Jvm.Cond.code ({ cls := "ShrugHills", name := "is", desc := "(III)Z" } : Jvm.MethodName) prog_1_method_1_code (3 : Nat) (Option.some Jvm.ClassFile.FieldType.boolean)) ∈ lw_all := lw_g (lw_at lw_m3 56 rfl) rfl
theorem q807 : (Jvm.Cond.laysStatic "ShrugHills" "OWN" "[Ljava/lang/String;") ∈ lw_tbl := lw_at lw_m3 157 rfl
theorem q809 : (Jvm.Cond.static ({ cls := "ShrugHills", name := "find", desc := "(Ljava/lang/String;[Ljava/lang/String;)I" } : Jvm.MethodName)) ∈ lw_all := lw_g (lw_at lw_m3 159 rfl) rfl
theorem q810 : (Jvm.Cond.code ({ cls := "ShrugHills", name := "find", desc := "(Ljava/lang/String;[Ljava/lang/String;)I" } : Jvm.MethodName) prog_1_method_6_code (3 : Nat) (Option.some Jvm.ClassFile.FieldType.int)) ∈ lw_all := lw_g (lw_at lw_m3 160 rfl) rfl
theorem q811 : (Jvm.Cond.methodLink "ShrugHills" (16 : Nat) ({ cls := "java/lang/String", name := "equals", desc := "(Ljava/lang/Object;)Z" } : Jvm.MethodName)) ∈ lw_all := lw_g (lw_at lw_m3 161 rfl) rfl
theorem q897 : (Jvm.Cond.selects "ShrugHills" ({ cls := "java/lang/Object", name := "getClass", desc := "()Ljava/lang/Class;" } : Jvm.MethodName) ({ cls := "java/lang/Object", name := "getClass", desc := "()Ljava/lang/Class;" } : Jvm.MethodName)) ∈ lw_all := lw_g (lw_at lw_m4 7 rfl) rfl
theorem q983 : (Jvm.Cond.static ({ cls := "ShrugHills", name := "has", desc := "(II)Z" } : Jvm.MethodName)) ∈ lw_all := lw_g (lw_at lw_m4 93 rfl) rfl
theorem q984 : (Jvm.Cond.code ({ cls := "ShrugHills", name := "has", desc := "(II)Z" } : Jvm.MethodName) prog_1_method_2_code (2 : Nat) (Option.some Jvm.ClassFile.FieldType.boolean)) ∈ lw_all := lw_g (lw_at lw_m4 94 rfl) rfl
theorem q997 : (Jvm.Cond.fieldLinkNest "ShrugHills" (227 : Nat) "ShrugHills$Asking" "person" "I" "ShrugHills") ∈ lw_tbl := lw_at lw_m4 107 rfl
theorem q1000 : (Jvm.Cond.fieldLinkNest "ShrugHills" (230 : Nat) "ShrugHills$Asking" "topic" "I" "ShrugHills") ∈ lw_tbl := lw_at lw_m4 110 rfl
theorem q1106 : (Jvm.Cond.laysStatic "ShrugHills" "ASKED" "[Ljava/lang/String;") ∈ lw_tbl := lw_at lw_m4 216 rfl
theorem q1118 : (Jvm.Cond.laysStatic "ShrugHills" "LOOKED" "[Ljava/lang/String;") ∈ lw_tbl := lw_at lw_m4 228 rfl
theorem q1278 : (Jvm.Cond.methodLink "ShrugHills" (145 : Nat) ({ cls := "ShrugHills$State", name := "begins", desc := "()V" } : Jvm.MethodName)) ∈ lw_all := lw_g (lw_at lw_m5 148 rfl) rfl
theorem q1283 : (Jvm.Cond.privateMethod ({ cls := "ShrugHills", name := "people", desc := "()I" } : Jvm.MethodName)) ∈ lw_tbl := lw_at lw_m5 153 rfl
theorem q1284 : (Jvm.Cond.instanceMethod ({ cls := "ShrugHills", name := "people", desc := "()I" } : Jvm.MethodName)) ∈ lw_all := lw_g (lw_at lw_m5 154 rfl) rfl
theorem q1285 : (Jvm.Cond.code ({ cls := "ShrugHills", name := "people", desc := "()I" } : Jvm.MethodName) prog_1_method_17_code (1 : Nat) (Option.some Jvm.ClassFile.FieldType.int)) ∈ lw_all := lw_g (lw_at lw_m5 155 rfl) rfl
theorem q1286 : (Jvm.Cond.interfaceEntry "ShrugHills" (164 : Nat)) ∈ lw_tbl := lw_at lw_m5 156 rfl
theorem q1287 : (Jvm.Cond.methodLink "ShrugHills" (164 : Nat) ({ cls := "java/util/List", name := "size", desc := "()I" } : Jvm.MethodName)) ∈ lw_all := lw_g (lw_at lw_m5 157 rfl) rfl
theorem q1292 : (Jvm.Cond.instanceMethod ({ cls := "ShrugHills", name := "fault", desc := "(I)I" } : Jvm.MethodName)) ∈ lw_all := lw_g (lw_at lw_m5 162 rfl) rfl
theorem q1293 : (Jvm.Cond.selects "ShrugHills" ({ cls := "ShrugHills", name := "fault", desc := "(I)I" } : Jvm.MethodName) ({ cls := "ShrugHills", name := "fault", desc := "(I)I" } : Jvm.MethodName)) ∈ lw_all := lw_g (lw_at lw_m5 163 rfl) rfl
theorem q1294 : (Jvm.Cond.code ({ cls := "ShrugHills", name := "fault", desc := "(I)I" } : Jvm.MethodName) prog_1_method_14_code (2 : Nat) (Option.some Jvm.ClassFile.FieldType.int)) ∈ lw_all := lw_g (lw_at lw_m5 164 rfl) rfl
theorem q1296 : (Jvm.Cond.instanceMethod ({ cls := "ShrugHills", name := "has", desc := "(I)I" } : Jvm.MethodName)) ∈ lw_all := lw_g (lw_at lw_m5 166 rfl) rfl
theorem q1297 : (Jvm.Cond.selects "ShrugHills" ({ cls := "ShrugHills", name := "has", desc := "(I)I" } : Jvm.MethodName) ({ cls := "ShrugHills", name := "has", desc := "(I)I" } : Jvm.MethodName)) ∈ lw_all := lw_g (lw_at lw_m5 167 rfl) rfl
theorem q1298 : (Jvm.Cond.code ({ cls := "ShrugHills", name := "has", desc := "(I)I" } : Jvm.MethodName) prog_1_method_23_code (4 : Nat) (Option.some Jvm.ClassFile.FieldType.int)) ∈ lw_all := lw_g (lw_at lw_m5 168 rfl) rfl
theorem q1299 : (Jvm.Cond.methodLink "ShrugHills" (172 : Nat) ({ cls := "ShrugHills", name := "topics", desc := "()I" } : Jvm.MethodName)) ∈ lw_all := lw_g (lw_at lw_m5 169 rfl) rfl
theorem q1300 : (Jvm.Cond.privateMethod ({ cls := "ShrugHills", name := "topics", desc := "()I" } : Jvm.MethodName)) ∈ lw_tbl := lw_at lw_m5 170 rfl
theorem q1301 : (Jvm.Cond.instanceMethod ({ cls := "ShrugHills", name := "topics", desc := "()I" } : Jvm.MethodName)) ∈ lw_all := lw_g (lw_at lw_m5 171 rfl) rfl
theorem q1302 : (Jvm.Cond.code ({ cls := "ShrugHills", name := "topics", desc := "()I" } : Jvm.MethodName) prog_1_method_16_code (1 : Nat) (Option.some Jvm.ClassFile.FieldType.int)) ∈ lw_all := lw_g (lw_at lw_m5 172 rfl) rfl
theorem q1303 : (Jvm.Cond.methodLink "ShrugHills" (174 : Nat) ({ cls := "ShrugHills", name := "people", desc := "()I" } : Jvm.MethodName)) ∈ lw_all := lw_g (lw_at lw_m5 173 rfl) rfl
theorem q1304 : (Jvm.Cond.methodLink "ShrugHills" (194 : Nat) ({ cls := "ShrugHills", name := "isCell", desc := "(I)Z" } : Jvm.MethodName)) ∈ lw_all := lw_g (lw_at lw_m5 174 rfl) rfl
theorem q1305 : (Jvm.Cond.privateMethod ({ cls := "ShrugHills", name := "isCell", desc := "(I)Z" } : Jvm.MethodName)) ∈ lw_tbl := lw_at lw_m5 175 rfl
theorem q1306 : (Jvm.Cond.instanceMethod ({ cls := "ShrugHills", name := "isCell", desc := "(I)Z" } : Jvm.MethodName)) ∈ lw_all := lw_g (lw_at lw_m5 176 rfl) rfl
theorem q1307 : (Jvm.Cond.code ({ cls := "ShrugHills", name := "isCell", desc := "(I)Z" } : Jvm.MethodName) prog_1_method_21_code (2 : Nat) (Option.some Jvm.ClassFile.FieldType.boolean)) ∈ lw_all := lw_g (lw_at lw_m5 177 rfl) rfl
theorem q1308 : (Jvm.Cond.methodLink "ShrugHills" (181 : Nat) ({ cls := "ShrugHills", name := "isIn", desc := "(II)Z" } : Jvm.MethodName)) ∈ lw_all := lw_g (lw_at lw_m5 178 rfl) rfl
theorem q1309 : (Jvm.Cond.privateMethod ({ cls := "ShrugHills", name := "isIn", desc := "(II)Z" } : Jvm.MethodName)) ∈ lw_tbl := lw_at lw_m5 179 rfl
theorem q1310 : (Jvm.Cond.instanceMethod ({ cls := "ShrugHills", name := "isIn", desc := "(II)Z" } : Jvm.MethodName)) ∈ lw_all := lw_g (lw_at lw_m5 180 rfl) rfl
theorem q1311 : (Jvm.Cond.code ({ cls := "ShrugHills", name := "isIn", desc := "(II)Z" } : Jvm.MethodName) prog_1_method_20_code (3 : Nat) (Option.some Jvm.ClassFile.FieldType.boolean)) ∈ lw_all := lw_g (lw_at lw_m5 181 rfl) rfl
theorem q1312 : (Jvm.Cond.methodLink "ShrugHills" (176 : Nat) ({ cls := "ShrugHills", name := "is", desc := "(III)Z" } : Jvm.MethodName)) ∈ lw_all := lw_g (lw_at lw_m5 182 rfl) rfl
theorem q1314 : (Jvm.Cond.instanceMethod ({ cls := "ShrugHills", name := "letter", desc := "(III)I" } : Jvm.MethodName)) ∈ lw_all := lw_g (lw_at lw_m5 184 rfl) rfl
theorem q1315 : (Jvm.Cond.selects "ShrugHills" ({ cls := "ShrugHills", name := "letter", desc := "(III)I" } : Jvm.MethodName) ({ cls := "ShrugHills", name := "letter", desc := "(III)I" } : Jvm.MethodName)) ∈ lw_all := lw_g (lw_at lw_m5 185 rfl) rfl
theorem q1316 : (Jvm.Cond.code ({ cls := "ShrugHills", name := "letter", desc := "(III)I" } : Jvm.MethodName) prog_1_method_24_code (5 : Nat) (Option.some Jvm.ClassFile.FieldType.int)) ∈ lw_all := lw_g (lw_at lw_m5 186 rfl) rfl
theorem q1317 : (Jvm.Cond.interfaceEntry "ShrugHills" (204 : Nat)) ∈ lw_tbl := lw_at lw_m5 187 rfl
theorem q1318 : (Jvm.Cond.methodLink "ShrugHills" (204 : Nat) ({ cls := "java/util/List", name := "get", desc := "(I)Ljava/lang/Object;" } : Jvm.MethodName)) ∈ lw_all := lw_g (lw_at lw_m5 188 rfl) rfl
theorem q1319 : (Jvm.Cond.classLink "ShrugHills" (208 : Nat) "ShrugHills$Named") ∈ lw_all := lw_g (lw_at lw_m5 189 rfl) rfl
theorem q1320 : (Jvm.Cond.methodLink "ShrugHills" (210 : Nat) ({ cls := "ShrugHills$Named", name := "letter", desc := "(I)I" } : Jvm.MethodName)) ∈ lw_all := lw_g (lw_at lw_m5 190 rfl) rfl
theorem q1339 : (Jvm.Cond.instanceMethod ({ cls := "ShrugHills", name := "height", desc := "(II)I" } : Jvm.MethodName)) ∈ lw_all := lw_g (lw_at lw_m5 209 rfl) rfl
theorem q1340 : (Jvm.Cond.selects "ShrugHills" ({ cls := "ShrugHills", name := "height", desc := "(II)I" } : Jvm.MethodName) ({ cls := "ShrugHills", name := "height", desc := "(II)I" } : Jvm.MethodName)) ∈ lw_all := lw_g (lw_at lw_m5 210 rfl) rfl
theorem q1341 : (Jvm.Cond.code ({ cls := "ShrugHills", name := "height", desc := "(II)I" } : Jvm.MethodName) prog_1_method_25_code (3 : Nat) (Option.some Jvm.ClassFile.FieldType.int)) ∈ lw_all := lw_g (lw_at lw_m5 211 rfl) rfl
theorem q1343 : (Jvm.Cond.instanceMethod ({ cls := "ShrugHills", name := "person", desc := "(II)I" } : Jvm.MethodName)) ∈ lw_all := lw_g (lw_at lw_m5 213 rfl) rfl
theorem q1344 : (Jvm.Cond.selects "ShrugHills" ({ cls := "ShrugHills", name := "person", desc := "(II)I" } : Jvm.MethodName) ({ cls := "ShrugHills", name := "person", desc := "(II)I" } : Jvm.MethodName)) ∈ lw_all := lw_g (lw_at lw_m5 214 rfl) rfl
theorem q1345 : (Jvm.Cond.code ({ cls := "ShrugHills", name := "person", desc := "(II)I" } : Jvm.MethodName) prog_1_method_26_code (3 : Nat) (Option.some Jvm.ClassFile.FieldType.int)) ∈ lw_all := lw_g (lw_at lw_m5 215 rfl) rfl
theorem q1346 : (Jvm.Cond.methodLink "ShrugHills" (213 : Nat) ({ cls := "ShrugHills", name := "isPerson", desc := "(I)Z" } : Jvm.MethodName)) ∈ lw_all := lw_g (lw_at lw_m5 216 rfl) rfl
theorem q1347 : (Jvm.Cond.privateMethod ({ cls := "ShrugHills", name := "isPerson", desc := "(I)Z" } : Jvm.MethodName)) ∈ lw_tbl := lw_at lw_m5 217 rfl
theorem q1348 : (Jvm.Cond.instanceMethod ({ cls := "ShrugHills", name := "isPerson", desc := "(I)Z" } : Jvm.MethodName)) ∈ lw_all := lw_g (lw_at lw_m5 218 rfl) rfl
theorem q1349 : (Jvm.Cond.code ({ cls := "ShrugHills", name := "isPerson", desc := "(I)Z" } : Jvm.MethodName) prog_1_method_19_code (2 : Nat) (Option.some Jvm.ClassFile.FieldType.boolean)) ∈ lw_all := lw_g (lw_at lw_m5 219 rfl) rfl
theorem q1351 : (Jvm.Cond.instanceMethod ({ cls := "ShrugHills", name := "list", desc := "(II)I" } : Jvm.MethodName)) ∈ lw_all := lw_g (lw_at lw_m5 221 rfl) rfl
theorem q1352 : (Jvm.Cond.selects "ShrugHills" ({ cls := "ShrugHills", name := "list", desc := "(II)I" } : Jvm.MethodName) ({ cls := "ShrugHills", name := "list", desc := "(II)I" } : Jvm.MethodName)) ∈ lw_all := lw_g (lw_at lw_m5 222 rfl) rfl
theorem q1353 : (Jvm.Cond.code ({ cls := "ShrugHills", name := "list", desc := "(II)I" } : Jvm.MethodName) prog_1_method_27_code (4 : Nat) (Option.some Jvm.ClassFile.FieldType.int)) ∈ lw_all := lw_g (lw_at lw_m5 223 rfl) rfl
theorem q1354 : (Jvm.Cond.classLink "ShrugHills" (225 : Nat) "ShrugHills$Asking") ∈ lw_all := lw_g (lw_at lw_m5 224 rfl) rfl
theorem q1356 : (Jvm.Cond.instanceMethod ({ cls := "ShrugHills", name := "would", desc := "(II)I" } : Jvm.MethodName)) ∈ lw_all := lw_g (lw_at lw_m5 226 rfl) rfl
theorem q1357 : (Jvm.Cond.selects "ShrugHills" ({ cls := "ShrugHills", name := "would", desc := "(II)I" } : Jvm.MethodName) ({ cls := "ShrugHills", name := "would", desc := "(II)I" } : Jvm.MethodName)) ∈ lw_all := lw_g (lw_at lw_m5 227 rfl) rfl
theorem q1358 : (Jvm.Cond.code ({ cls := "ShrugHills", name := "would", desc := "(II)I" } : Jvm.MethodName) prog_1_method_28_code (3 : Nat) (Option.some Jvm.ClassFile.FieldType.int)) ∈ lw_all := lw_g (lw_at lw_m5 228 rfl) rfl
theorem q1359 : (Jvm.Cond.methodLink "ShrugHills" (233 : Nat) ({ cls := "ShrugHills", name := "isTopic", desc := "(I)Z" } : Jvm.MethodName)) ∈ lw_all := lw_g (lw_at lw_m5 229 rfl) rfl
theorem q1360 : (Jvm.Cond.privateMethod ({ cls := "ShrugHills", name := "isTopic", desc := "(I)Z" } : Jvm.MethodName)) ∈ lw_tbl := lw_at lw_m5 230 rfl
theorem q1361 : (Jvm.Cond.instanceMethod ({ cls := "ShrugHills", name := "isTopic", desc := "(I)Z" } : Jvm.MethodName)) ∈ lw_all := lw_g (lw_at lw_m5 231 rfl) rfl
theorem q1362 : (Jvm.Cond.code ({ cls := "ShrugHills", name := "isTopic", desc := "(I)Z" } : Jvm.MethodName) prog_1_method_18_code (2 : Nat) (Option.some Jvm.ClassFile.FieldType.boolean)) ∈ lw_all := lw_g (lw_at lw_m5 232 rfl) rfl
theorem q1363 : (Jvm.Cond.methodLink "ShrugHills" (236 : Nat) ({ cls := "ShrugHills$State", name := "would", desc := "(II)I" } : Jvm.MethodName)) ∈ lw_all := lw_g (lw_at lw_m5 233 rfl) rfl
theorem q1405 : (Jvm.Cond.static ({ cls := "ShrugHills", name := "held", desc := "(J)J" } : Jvm.MethodName)) ∈ lw_all := lw_g (lw_at lw_m6 35 rfl) rfl
theorem q1406 : (Jvm.Cond.code ({ cls := "ShrugHills", name := "held", desc := "(J)J" } : Jvm.MethodName) prog_1_method_3_code (2 : Nat) (Option.some Jvm.ClassFile.FieldType.long)) ∈ lw_all := lw_g (lw_at lw_m6 36 rfl) rfl
theorem q1407 : (Jvm.Cond.constantLong "ShrugHills" (3 : Nat) (-1000000 : Int64)) ∈ lw_all := lw_g (lw_at lw_m6 37 rfl) rfl
theorem q1408 : (Jvm.Cond.constantLong "ShrugHills" (5 : Nat) (1000000 : Int64)) ∈ lw_all := lw_g (lw_at lw_m6 38 rfl) rfl
theorem q1409 : (Jvm.Cond.methodLink "ShrugHills" (7 : Nat) ({ cls := "java/lang/Math", name := "min", desc := "(JJ)J" } : Jvm.MethodName)) ∈ lw_all := lw_g (lw_at lw_m6 39 rfl) rfl
theorem q1412 : (Jvm.Cond.methodLink "ShrugHills" (13 : Nat) ({ cls := "java/lang/Math", name := "max", desc := "(JJ)J" } : Jvm.MethodName)) ∈ lw_all := lw_g (lw_at lw_m6 42 rfl) rfl
theorem q1431 : (Jvm.Cond.privateMethod ({ cls := "ShrugHills", name := "looked", desc := "(IJ)J" } : Jvm.MethodName)) ∈ lw_tbl := lw_at lw_m6 61 rfl
theorem q1432 : (Jvm.Cond.instanceMethod ({ cls := "ShrugHills", name := "looked", desc := "(IJ)J" } : Jvm.MethodName)) ∈ lw_all := lw_g (lw_at lw_m6 62 rfl) rfl
theorem q1433 : (Jvm.Cond.code ({ cls := "ShrugHills", name := "looked", desc := "(IJ)J" } : Jvm.MethodName) prog_1_method_62_code (4 : Nat) (Option.some Jvm.ClassFile.FieldType.long)) ∈ lw_all := lw_g (lw_at lw_m6 63 rfl) rfl
theorem q1434 : (Jvm.Cond.methodLink "ShrugHills" (305 : Nat) ({ cls := "ShrugHills", name := "has", desc := "(II)Z" } : Jvm.MethodName)) ∈ lw_all := lw_g (lw_at lw_m6 64 rfl) rfl
theorem q1435 : (Jvm.Cond.methodLink "ShrugHills" (249 : Nat) ({ cls := "ShrugHills$State", name := "copy", desc := "(LShrugHills$State;)LShrugHills$State;" } : Jvm.MethodName)) ∈ lw_all := lw_g (lw_at lw_m6 65 rfl) rfl
theorem q1439 : (Jvm.Cond.methodLink "ShrugHills" (340 : Nat) ({ cls := "ShrugHills$State", name := "lifts", desc := "(II)I" } : Jvm.MethodName)) ∈ lw_all := lw_g (lw_at lw_m6 69 rfl) rfl
theorem q1499 : (Jvm.Cond.instanceMethod ({ cls := "ShrugHills", name := "kept", desc := "(II)I" } : Jvm.MethodName)) ∈ lw_all := lw_g (lw_at lw_m6 129 rfl) rfl
theorem q1500 : (Jvm.Cond.selects "ShrugHills" ({ cls := "ShrugHills", name := "kept", desc := "(II)I" } : Jvm.MethodName) ({ cls := "ShrugHills", name := "kept", desc := "(II)I" } : Jvm.MethodName)) ∈ lw_all := lw_g (lw_at lw_m6 130 rfl) rfl
theorem q1501 : (Jvm.Cond.code ({ cls := "ShrugHills", name := "kept", desc := "(II)I" } : Jvm.MethodName) prog_1_method_29_code (3 : Nat) (Option.some Jvm.ClassFile.FieldType.int)) ∈ lw_all := lw_g (lw_at lw_m6 131 rfl) rfl
theorem q1503 : (Jvm.Cond.instanceMethod ({ cls := "ShrugHills", name := "later", desc := "(III)I" } : Jvm.MethodName)) ∈ lw_all := lw_g (lw_at lw_m6 133 rfl) rfl
theorem q1504 : (Jvm.Cond.selects "ShrugHills" ({ cls := "ShrugHills", name := "later", desc := "(III)I" } : Jvm.MethodName) ({ cls := "ShrugHills", name := "later", desc := "(III)I" } : Jvm.MethodName)) ∈ lw_all := lw_g (lw_at lw_m6 134 rfl) rfl
theorem q1505 : (Jvm.Cond.code ({ cls := "ShrugHills", name := "later", desc := "(III)I" } : Jvm.MethodName) prog_1_method_31_code (4 : Nat) (Option.some Jvm.ClassFile.FieldType.int)) ∈ lw_all := lw_g (lw_at lw_m6 135 rfl) rfl
theorem q1506 : (Jvm.Cond.methodLink "ShrugHills" (246 : Nat) ({ cls := "ShrugHills", name := "isAhead", desc := "(III)Z" } : Jvm.MethodName)) ∈ lw_all := lw_g (lw_at lw_m6 136 rfl) rfl
theorem q1507 : (Jvm.Cond.privateMethod ({ cls := "ShrugHills", name := "isAhead", desc := "(III)Z" } : Jvm.MethodName)) ∈ lw_tbl := lw_at lw_m6 137 rfl
theorem q1508 : (Jvm.Cond.instanceMethod ({ cls := "ShrugHills", name := "isAhead", desc := "(III)Z" } : Jvm.MethodName)) ∈ lw_all := lw_g (lw_at lw_m6 138 rfl) rfl
theorem q1509 : (Jvm.Cond.code ({ cls := "ShrugHills", name := "isAhead", desc := "(III)Z" } : Jvm.MethodName) prog_1_method_30_code (4 : Nat) (Option.some Jvm.ClassFile.FieldType.boolean)) ∈ lw_all := lw_g (lw_at lw_m6 139 rfl) rfl
theorem q1510 : (Jvm.Cond.methodLink "ShrugHills" (242 : Nat) ({ cls := "ShrugHills", name := "isPlain", desc := "()Z" } : Jvm.MethodName)) ∈ lw_all := lw_g (lw_at lw_m6 140 rfl) rfl
theorem q1511 : (Jvm.Cond.privateMethod ({ cls := "ShrugHills", name := "isPlain", desc := "()Z" } : Jvm.MethodName)) ∈ lw_tbl := lw_at lw_m6 141 rfl
theorem q1512 : (Jvm.Cond.instanceMethod ({ cls := "ShrugHills", name := "isPlain", desc := "()Z" } : Jvm.MethodName)) ∈ lw_all := lw_g (lw_at lw_m6 142 rfl) rfl
theorem q1513 : (Jvm.Cond.code ({ cls := "ShrugHills", name := "isPlain", desc := "()Z" } : Jvm.MethodName) prog_1_method_15_code (1 : Nat) (Option.some Jvm.ClassFile.FieldType.boolean)) ∈ lw_all := lw_g (lw_at lw_m6 143 rfl) rfl
theorem q1514 : (Jvm.Cond.methodLink "ShrugHills" (253 : Nat) ({ cls := "ShrugHills$State", name := "days", desc := "(I)LShrugHills$State;" } : Jvm.MethodName)) ∈ lw_all := lw_g (lw_at lw_m6 144 rfl) rfl
theorem q1539 : (Jvm.Cond.instanceMethod ({ cls := "ShrugHills", name := "tired", desc := "(II)I" } : Jvm.MethodName)) ∈ lw_all := lw_g (lw_at lw_m6 169 rfl) rfl
theorem q1540 : (Jvm.Cond.selects "ShrugHills" ({ cls := "ShrugHills", name := "tired", desc := "(II)I" } : Jvm.MethodName) ({ cls := "ShrugHills", name := "tired", desc := "(II)I" } : Jvm.MethodName)) ∈ lw_all := lw_g (lw_at lw_m6 170 rfl) rfl
theorem q1541 : (Jvm.Cond.code ({ cls := "ShrugHills", name := "tired", desc := "(II)I" } : Jvm.MethodName) prog_1_method_32_code (3 : Nat) (Option.some Jvm.ClassFile.FieldType.int)) ∈ lw_all := lw_g (lw_at lw_m6 171 rfl) rfl
theorem q1543 : (Jvm.Cond.instanceMethod ({ cls := "ShrugHills", name := "rises", desc := "(III)I" } : Jvm.MethodName)) ∈ lw_all := lw_g (lw_at lw_m6 173 rfl) rfl
theorem q1544 : (Jvm.Cond.selects "ShrugHills" ({ cls := "ShrugHills", name := "rises", desc := "(III)I" } : Jvm.MethodName) ({ cls := "ShrugHills", name := "rises", desc := "(III)I" } : Jvm.MethodName)) ∈ lw_all := lw_g (lw_at lw_m6 174 rfl) rfl
theorem q1545 : (Jvm.Cond.code ({ cls := "ShrugHills", name := "rises", desc := "(III)I" } : Jvm.MethodName) prog_1_method_33_code (5 : Nat) (Option.some Jvm.ClassFile.FieldType.int)) ∈ lw_all := lw_g (lw_at lw_m6 175 rfl) rfl
theorem q1546 : (Jvm.Cond.methodLink "ShrugHills" (257 : Nat) ({ cls := "ShrugHills$State", name := "passes", desc := "()Z" } : Jvm.MethodName)) ∈ lw_all := lw_g (lw_at lw_m6 176 rfl) rfl
theorem q1548 : (Jvm.Cond.instanceMethod ({ cls := "ShrugHills", name := "plan", desc := "(IIII)I" } : Jvm.MethodName)) ∈ lw_all := lw_g (lw_at lw_m6 178 rfl) rfl
theorem q1549 : (Jvm.Cond.selects "ShrugHills" ({ cls := "ShrugHills", name := "plan", desc := "(IIII)I" } : Jvm.MethodName) ({ cls := "ShrugHills", name := "plan", desc := "(IIII)I" } : Jvm.MethodName)) ∈ lw_all := lw_g (lw_at lw_m6 179 rfl) rfl
theorem q1550 : (Jvm.Cond.code ({ cls := "ShrugHills", name := "plan", desc := "(IIII)I" } : Jvm.MethodName) prog_1_method_35_code (6 : Nat) (Option.some Jvm.ClassFile.FieldType.int)) ∈ lw_all := lw_g (lw_at lw_m6 180 rfl) rfl
theorem q1551 : (Jvm.Cond.methodLink "ShrugHills" (262 : Nat) ({ cls := "ShrugHills", name := "plans", desc := "(IIIII)Z" } : Jvm.MethodName)) ∈ lw_all := lw_g (lw_at lw_m6 181 rfl) rfl
theorem q1552 : (Jvm.Cond.privateMethod ({ cls := "ShrugHills", name := "plans", desc := "(IIIII)Z" } : Jvm.MethodName)) ∈ lw_tbl := lw_at lw_m6 182 rfl
theorem q1553 : (Jvm.Cond.instanceMethod ({ cls := "ShrugHills", name := "plans", desc := "(IIIII)Z" } : Jvm.MethodName)) ∈ lw_all := lw_g (lw_at lw_m6 183 rfl) rfl
theorem q1554 : (Jvm.Cond.code ({ cls := "ShrugHills", name := "plans", desc := "(IIIII)Z" } : Jvm.MethodName) prog_1_method_34_code (7 : Nat) (Option.some Jvm.ClassFile.FieldType.boolean)) ∈ lw_all := lw_g (lw_at lw_m6 184 rfl) rfl
theorem q1555 : (Jvm.Cond.methodLink "ShrugHills" (260 : Nat) ({ cls := "ShrugHills$State", name := "asked", desc := "(II)I" } : Jvm.MethodName)) ∈ lw_all := lw_g (lw_at lw_m6 185 rfl) rfl
theorem q1557 : (Jvm.Cond.instanceMethod ({ cls := "ShrugHills", name := "way", desc := "(II)I" } : Jvm.MethodName)) ∈ lw_all := lw_g (lw_at lw_m6 187 rfl) rfl
theorem q1558 : (Jvm.Cond.selects "ShrugHills" ({ cls := "ShrugHills", name := "way", desc := "(II)I" } : Jvm.MethodName) ({ cls := "ShrugHills", name := "way", desc := "(II)I" } : Jvm.MethodName)) ∈ lw_all := lw_g (lw_at lw_m6 188 rfl) rfl
theorem q1559 : (Jvm.Cond.code ({ cls := "ShrugHills", name := "way", desc := "(II)I" } : Jvm.MethodName) prog_1_method_38_code (3 : Nat) (Option.some Jvm.ClassFile.FieldType.int)) ∈ lw_all := lw_g (lw_at lw_m6 189 rfl) rfl
theorem q1560 : (Jvm.Cond.methodLink "ShrugHills" (274 : Nat) ({ cls := "ShrugHills", name := "wayOver", desc := "(LShrugHills$State;II)I" } : Jvm.MethodName)) ∈ lw_all := lw_g (lw_at lw_m6 190 rfl) rfl
theorem q1561 : (Jvm.Cond.privateMethod ({ cls := "ShrugHills", name := "wayOver", desc := "(LShrugHills$State;II)I" } : Jvm.MethodName)) ∈ lw_tbl := lw_at lw_m6 191 rfl
theorem q1562 : (Jvm.Cond.instanceMethod ({ cls := "ShrugHills", name := "wayOver", desc := "(LShrugHills$State;II)I" } : Jvm.MethodName)) ∈ lw_all := lw_g (lw_at lw_m6 192 rfl) rfl
theorem q1563 : (Jvm.Cond.code ({ cls := "ShrugHills", name := "wayOver", desc := "(LShrugHills$State;II)I" } : Jvm.MethodName) prog_1_method_37_code (7 : Nat) (Option.some Jvm.ClassFile.FieldType.int)) ∈ lw_all := lw_g (lw_at lw_m6 193 rfl) rfl
theorem q1564 : (Jvm.Cond.constant "ShrugHills" (266 : Nat) (100000000 : Int32)) ∈ lw_all := lw_g (lw_at lw_m6 194 rfl) rfl
theorem q1565 : (Jvm.Cond.methodLink "ShrugHills" (267 : Nat) ({ cls := "ShrugHills", name := "areNext", desc := "(II)Z" } : Jvm.MethodName)) ∈ lw_all := lw_g (lw_at lw_m6 195 rfl) rfl
theorem q1566 : (Jvm.Cond.static ({ cls := "ShrugHills", name := "areNext", desc := "(II)Z" } : Jvm.MethodName)) ∈ lw_all := lw_g (lw_at lw_m6 196 rfl) rfl
theorem q1567 : (Jvm.Cond.code ({ cls := "ShrugHills", name := "areNext", desc := "(II)Z" } : Jvm.MethodName) prog_1_method_22_code (2 : Nat) (Option.some Jvm.ClassFile.FieldType.boolean)) ∈ lw_all := lw_g (lw_at lw_m6 197 rfl) rfl
theorem q1568 : (Jvm.Cond.methodLink "ShrugHills" (185 : Nat) ({ cls := "java/lang/Math", name := "abs", desc := "(I)I" } : Jvm.MethodName)) ∈ lw_all := lw_g (lw_at lw_m6 198 rfl) rfl
theorem q1569 : (Jvm.Cond.methodLink "ShrugHills" (270 : Nat) ({ cls := "ShrugHills", name := "isNearer", desc := "(LShrugHills$State;II)Z" } : Jvm.MethodName)) ∈ lw_all := lw_g (lw_at lw_m6 199 rfl) rfl
theorem q1570 : (Jvm.Cond.privateMethod ({ cls := "ShrugHills", name := "isNearer", desc := "(LShrugHills$State;II)Z" } : Jvm.MethodName)) ∈ lw_tbl := lw_at lw_m6 200 rfl
theorem q1571 : (Jvm.Cond.instanceMethod ({ cls := "ShrugHills", name := "isNearer", desc := "(LShrugHills$State;II)Z" } : Jvm.MethodName)) ∈ lw_all := lw_g (lw_at lw_m6 201 rfl) rfl
theorem q1572 : (Jvm.Cond.code ({ cls := "ShrugHills", name := "isNearer", desc := "(LShrugHills$State;II)Z" } : Jvm.MethodName) prog_1_method_36_code (6 : Nat) (Option.some Jvm.ClassFile.FieldType.boolean)) ∈ lw_all := lw_g (lw_at lw_m6 202 rfl) rfl
theorem q1574 : (Jvm.Cond.instanceMethod ({ cls := "ShrugHills", name := "pond", desc := "(II)I" } : Jvm.MethodName)) ∈ lw_all := lw_g (lw_at lw_m6 204 rfl) rfl
theorem q1575 : (Jvm.Cond.selects "ShrugHills" ({ cls := "ShrugHills", name := "pond", desc := "(II)I" } : Jvm.MethodName) ({ cls := "ShrugHills", name := "pond", desc := "(II)I" } : Jvm.MethodName)) ∈ lw_all := lw_g (lw_at lw_m6 205 rfl) rfl
theorem q1576 : (Jvm.Cond.code ({ cls := "ShrugHills", name := "pond", desc := "(II)I" } : Jvm.MethodName) prog_1_method_40_code (5 : Nat) (Option.some Jvm.ClassFile.FieldType.int)) ∈ lw_all := lw_g (lw_at lw_m6 206 rfl) rfl
theorem q1577 : (Jvm.Cond.methodLink "ShrugHills" (278 : Nat) ({ cls := "ShrugHills", name := "lower", desc := "(I)I" } : Jvm.MethodName)) ∈ lw_all := lw_g (lw_at lw_m6 207 rfl) rfl
theorem q1578 : (Jvm.Cond.privateMethod ({ cls := "ShrugHills", name := "lower", desc := "(I)I" } : Jvm.MethodName)) ∈ lw_tbl := lw_at lw_m6 208 rfl
theorem q1579 : (Jvm.Cond.instanceMethod ({ cls := "ShrugHills", name := "lower", desc := "(I)I" } : Jvm.MethodName)) ∈ lw_all := lw_g (lw_at lw_m6 209 rfl) rfl
theorem q1580 : (Jvm.Cond.code ({ cls := "ShrugHills", name := "lower", desc := "(I)I" } : Jvm.MethodName) prog_1_method_39_code (4 : Nat) (Option.some Jvm.ClassFile.FieldType.int)) ∈ lw_all := lw_g (lw_at lw_m6 210 rfl) rfl
theorem q1582 : (Jvm.Cond.instanceMethod ({ cls := "ShrugHills", name := "keeps", desc := "(III)I" } : Jvm.MethodName)) ∈ lw_all := lw_g (lw_at lw_m6 212 rfl) rfl
theorem q1583 : (Jvm.Cond.selects "ShrugHills" ({ cls := "ShrugHills", name := "keeps", desc := "(III)I" } : Jvm.MethodName) ({ cls := "ShrugHills", name := "keeps", desc := "(III)I" } : Jvm.MethodName)) ∈ lw_all := lw_g (lw_at lw_m6 213 rfl) rfl
theorem q1584 : (Jvm.Cond.code ({ cls := "ShrugHills", name := "keeps", desc := "(III)I" } : Jvm.MethodName) prog_1_method_43_code (7 : Nat) (Option.some Jvm.ClassFile.FieldType.int)) ∈ lw_all := lw_g (lw_at lw_m6 214 rfl) rfl
theorem q1585 : (Jvm.Cond.methodLink "ShrugHills" (289 : Nat) ({ cls := "ShrugHills", name := "isFewer", desc := "(II)Z" } : Jvm.MethodName)) ∈ lw_all := lw_g (lw_at lw_m6 215 rfl) rfl
theorem q1586 : (Jvm.Cond.static ({ cls := "ShrugHills", name := "isFewer", desc := "(II)Z" } : Jvm.MethodName)) ∈ lw_all := lw_g (lw_at lw_m6 216 rfl) rfl
theorem q1587 : (Jvm.Cond.code ({ cls := "ShrugHills", name := "isFewer", desc := "(II)Z" } : Jvm.MethodName) prog_1_method_41_code (2 : Nat) (Option.some Jvm.ClassFile.FieldType.boolean)) ∈ lw_all := lw_g (lw_at lw_m6 217 rfl) rfl
theorem q1588 : (Jvm.Cond.methodLink "ShrugHills" (281 : Nat) ({ cls := "java/lang/Integer", name := "bitCount", desc := "(I)I" } : Jvm.MethodName)) ∈ lw_all := lw_g (lw_at lw_m6 218 rfl) rfl
theorem q1589 : (Jvm.Cond.methodLink "ShrugHills" (292 : Nat) ({ cls := "ShrugHills", name := "silently", desc := "(II)LShrugHills$State;" } : Jvm.MethodName)) ∈ lw_all := lw_g (lw_at lw_m6 219 rfl) rfl
theorem q1590 : (Jvm.Cond.privateMethod ({ cls := "ShrugHills", name := "silently", desc := "(II)LShrugHills$State;" } : Jvm.MethodName)) ∈ lw_tbl := lw_at lw_m6 220 rfl
theorem q1591 : (Jvm.Cond.instanceMethod ({ cls := "ShrugHills", name := "silently", desc := "(II)LShrugHills$State;" } : Jvm.MethodName)) ∈ lw_all := lw_g (lw_at lw_m6 221 rfl) rfl
theorem q1592 : (Jvm.Cond.code ({ cls := "ShrugHills", name := "silently", desc := "(II)LShrugHills$State;" } : Jvm.MethodName) prog_1_method_42_code (3 : Nat) (Option.some (Jvm.ClassFile.FieldType.object "ShrugHills$State"))) ∈ lw_all := lw_g (lw_at lw_m6 222 rfl) rfl
theorem q1594 : (Jvm.Cond.instanceMethod ({ cls := "ShrugHills", name := "rest", desc := "(I)I" } : Jvm.MethodName)) ∈ lw_all := lw_g (lw_at lw_m6 224 rfl) rfl
theorem q1595 : (Jvm.Cond.selects "ShrugHills" ({ cls := "ShrugHills", name := "rest", desc := "(I)I" } : Jvm.MethodName) ({ cls := "ShrugHills", name := "rest", desc := "(I)I" } : Jvm.MethodName)) ∈ lw_all := lw_g (lw_at lw_m6 225 rfl) rfl
theorem q1596 : (Jvm.Cond.code ({ cls := "ShrugHills", name := "rest", desc := "(I)I" } : Jvm.MethodName) prog_1_method_45_code (4 : Nat) (Option.some Jvm.ClassFile.FieldType.int)) ∈ lw_all := lw_g (lw_at lw_m6 226 rfl) rfl
theorem q1597 : (Jvm.Cond.methodLink "ShrugHills" (296 : Nat) ({ cls := "ShrugHills", name := "isRest", desc := "(I)Z" } : Jvm.MethodName)) ∈ lw_all := lw_g (lw_at lw_m6 227 rfl) rfl
theorem q1598 : (Jvm.Cond.privateMethod ({ cls := "ShrugHills", name := "isRest", desc := "(I)Z" } : Jvm.MethodName)) ∈ lw_tbl := lw_at lw_m6 228 rfl
theorem q1599 : (Jvm.Cond.instanceMethod ({ cls := "ShrugHills", name := "isRest", desc := "(I)Z" } : Jvm.MethodName)) ∈ lw_all := lw_g (lw_at lw_m6 229 rfl) rfl
theorem q1600 : (Jvm.Cond.code ({ cls := "ShrugHills", name := "isRest", desc := "(I)Z" } : Jvm.MethodName) prog_1_method_44_code (3 : Nat) (Option.some Jvm.ClassFile.FieldType.boolean)) ∈ lw_all := lw_g (lw_at lw_m6 230 rfl) rfl
theorem q1602 : (Jvm.Cond.instanceMethod ({ cls := "ShrugHills", name := "see", desc := "()I" } : Jvm.MethodName)) ∈ lw_all := lw_g (lw_at lw_m6 232 rfl) rfl
theorem q1603 : (Jvm.Cond.selects "ShrugHills" ({ cls := "ShrugHills", name := "see", desc := "()I" } : Jvm.MethodName) ({ cls := "ShrugHills", name := "see", desc := "()I" } : Jvm.MethodName)) ∈ lw_all := lw_g (lw_at lw_m6 233 rfl) rfl
theorem q1604 : (Jvm.Cond.code ({ cls := "ShrugHills", name := "see", desc := "()I" } : Jvm.MethodName) prog_1_method_47_code (4 : Nat) (Option.some Jvm.ClassFile.FieldType.int)) ∈ lw_all := lw_g (lw_at lw_m6 234 rfl) rfl
theorem q1605 : (Jvm.Cond.methodLink "ShrugHills" (299 : Nat) ({ cls := "ShrugHills", name := "byteAt", desc := "(I)I" } : Jvm.MethodName)) ∈ lw_all := lw_g (lw_at lw_m6 235 rfl) rfl
theorem q1606 : (Jvm.Cond.privateMethod ({ cls := "ShrugHills", name := "byteAt", desc := "(I)I" } : Jvm.MethodName)) ∈ lw_tbl := lw_at lw_m6 236 rfl
theorem q1607 : (Jvm.Cond.instanceMethod ({ cls := "ShrugHills", name := "byteAt", desc := "(I)I" } : Jvm.MethodName)) ∈ lw_all := lw_g (lw_at lw_m6 237 rfl) rfl
theorem q1608 : (Jvm.Cond.code ({ cls := "ShrugHills", name := "byteAt", desc := "(I)I" } : Jvm.MethodName) prog_1_method_46_code (2 : Nat) (Option.some Jvm.ClassFile.FieldType.int)) ∈ lw_all := lw_g (lw_at lw_m6 238 rfl) rfl
theorem q1610 : (Jvm.Cond.instanceMethod ({ cls := "ShrugHills", name := "who", desc := "(I)I" } : Jvm.MethodName)) ∈ lw_all := lw_g (lw_at lw_m7 0 rfl) rfl
theorem q1611 : (Jvm.Cond.selects "ShrugHills" ({ cls := "ShrugHills", name := "who", desc := "(I)I" } : Jvm.MethodName) ({ cls := "ShrugHills", name := "who", desc := "(I)I" } : Jvm.MethodName)) ∈ lw_all := lw_g (lw_at lw_m7 1 rfl) rfl
theorem q1612 : (Jvm.Cond.code ({ cls := "ShrugHills", name := "who", desc := "(I)I" } : Jvm.MethodName) prog_1_method_49_code (4 : Nat) (Option.some Jvm.ClassFile.FieldType.int)) ∈ lw_all := lw_g (lw_at lw_m7 2 rfl) rfl
theorem q1613 : (Jvm.Cond.methodLink "ShrugHills" (302 : Nat) ({ cls := "ShrugHills", name := "wasAsked", desc := "(II)Z" } : Jvm.MethodName)) ∈ lw_all := lw_g (lw_at lw_m7 3 rfl) rfl
theorem q1614 : (Jvm.Cond.privateMethod ({ cls := "ShrugHills", name := "wasAsked", desc := "(II)Z" } : Jvm.MethodName)) ∈ lw_tbl := lw_at lw_m7 4 rfl
theorem q1615 : (Jvm.Cond.instanceMethod ({ cls := "ShrugHills", name := "wasAsked", desc := "(II)Z" } : Jvm.MethodName)) ∈ lw_all := lw_g (lw_at lw_m7 5 rfl) rfl
theorem q1616 : (Jvm.Cond.code ({ cls := "ShrugHills", name := "wasAsked", desc := "(II)Z" } : Jvm.MethodName) prog_1_method_48_code (6 : Nat) (Option.some Jvm.ClassFile.FieldType.boolean)) ∈ lw_all := lw_g (lw_at lw_m7 6 rfl) rfl
theorem q1618 : (Jvm.Cond.instanceMethod ({ cls := "ShrugHills", name := "tells", desc := "(II)I" } : Jvm.MethodName)) ∈ lw_all := lw_g (lw_at lw_m7 8 rfl) rfl
theorem q1619 : (Jvm.Cond.selects "ShrugHills" ({ cls := "ShrugHills", name := "tells", desc := "(II)I" } : Jvm.MethodName) ({ cls := "ShrugHills", name := "tells", desc := "(II)I" } : Jvm.MethodName)) ∈ lw_all := lw_g (lw_at lw_m7 9 rfl) rfl
theorem q1620 : (Jvm.Cond.code ({ cls := "ShrugHills", name := "tells", desc := "(II)I" } : Jvm.MethodName) prog_1_method_51_code (9 : Nat) (Option.some Jvm.ClassFile.FieldType.int)) ∈ lw_all := lw_g (lw_at lw_m7 10 rfl) rfl
theorem q1621 : (Jvm.Cond.methodLink "ShrugHills" (310 : Nat) ({ cls := "ShrugHills", name := "who", desc := "(I)I" } : Jvm.MethodName)) ∈ lw_all := lw_g (lw_at lw_m7 11 rfl) rfl
theorem q1622 : (Jvm.Cond.methodLink "ShrugHills" (313 : Nat) ({ cls := "ShrugHills", name := "mostBy", desc := "(III)I" } : Jvm.MethodName)) ∈ lw_all := lw_g (lw_at lw_m7 12 rfl) rfl
theorem q1623 : (Jvm.Cond.privateMethod ({ cls := "ShrugHills", name := "mostBy", desc := "(III)I" } : Jvm.MethodName)) ∈ lw_tbl := lw_at lw_m7 13 rfl
theorem q1624 : (Jvm.Cond.instanceMethod ({ cls := "ShrugHills", name := "mostBy", desc := "(III)I" } : Jvm.MethodName)) ∈ lw_all := lw_g (lw_at lw_m7 14 rfl) rfl
theorem q1625 : (Jvm.Cond.code ({ cls := "ShrugHills", name := "mostBy", desc := "(III)I" } : Jvm.MethodName) prog_1_method_50_code (8 : Nat) (Option.some Jvm.ClassFile.FieldType.int)) ∈ lw_all := lw_g (lw_at lw_m7 15 rfl) rfl
theorem q1626 : (Jvm.Cond.methodLink "ShrugHills" (308 : Nat) ({ cls := "java/lang/Math", name := "max", desc := "(II)I" } : Jvm.MethodName)) ∈ lw_all := lw_g (lw_at lw_m7 16 rfl) rfl
theorem q1628 : (Jvm.Cond.instanceMethod ({ cls := "ShrugHills", name := "undo", desc := "()Z" } : Jvm.MethodName)) ∈ lw_all := lw_g (lw_at lw_m7 18 rfl) rfl
theorem q1629 : (Jvm.Cond.selects "ShrugHills" ({ cls := "ShrugHills", name := "undo", desc := "()Z" } : Jvm.MethodName) ({ cls := "ShrugHills", name := "undo", desc := "()Z" } : Jvm.MethodName)) ∈ lw_all := lw_g (lw_at lw_m7 19 rfl) rfl
theorem q1630 : (Jvm.Cond.code ({ cls := "ShrugHills", name := "undo", desc := "()Z" } : Jvm.MethodName) prog_1_method_53_code (1 : Nat) (Option.some Jvm.ClassFile.FieldType.boolean)) ∈ lw_all := lw_g (lw_at lw_m7 20 rfl) rfl
theorem q1632 : (Jvm.Cond.instanceMethod ({ cls := "ShrugHills", name := "asks", desc := "(II)I" } : Jvm.MethodName)) ∈ lw_all := lw_g (lw_at lw_m7 22 rfl) rfl
theorem q1633 : (Jvm.Cond.selects "ShrugHills" ({ cls := "ShrugHills", name := "asks", desc := "(II)I" } : Jvm.MethodName) ({ cls := "ShrugHills", name := "asks", desc := "(II)I" } : Jvm.MethodName)) ∈ lw_all := lw_g (lw_at lw_m7 23 rfl) rfl
theorem q1634 : (Jvm.Cond.code ({ cls := "ShrugHills", name := "asks", desc := "(II)I" } : Jvm.MethodName) prog_1_method_54_code (3 : Nat) (Option.some Jvm.ClassFile.FieldType.int)) ∈ lw_all := lw_g (lw_at lw_m7 24 rfl) rfl
theorem q1635 : (Jvm.Cond.methodLink "ShrugHills" (317 : Nat) ({ cls := "ShrugHills", name := "remembers", desc := "()V" } : Jvm.MethodName)) ∈ lw_all := lw_g (lw_at lw_m7 25 rfl) rfl
theorem q1636 : (Jvm.Cond.privateMethod ({ cls := "ShrugHills", name := "remembers", desc := "()V" } : Jvm.MethodName)) ∈ lw_tbl := lw_at lw_m7 26 rfl
theorem q1637 : (Jvm.Cond.instanceMethod ({ cls := "ShrugHills", name := "remembers", desc := "()V" } : Jvm.MethodName)) ∈ lw_all := lw_g (lw_at lw_m7 27 rfl) rfl
theorem q1638 : (Jvm.Cond.code ({ cls := "ShrugHills", name := "remembers", desc := "()V" } : Jvm.MethodName) prog_1_method_52_code (3 : Nat) (Option.none : Option Jvm.ClassFile.FieldType)) ∈ lw_all := lw_g (lw_at lw_m7 28 rfl) rfl
theorem q1640 : (Jvm.Cond.instanceMethod ({ cls := "ShrugHills", name := "teach", desc := "(III)Z" } : Jvm.MethodName)) ∈ lw_all := lw_g (lw_at lw_m7 30 rfl) rfl
theorem q1641 : (Jvm.Cond.selects "ShrugHills" ({ cls := "ShrugHills", name := "teach", desc := "(III)Z" } : Jvm.MethodName) ({ cls := "ShrugHills", name := "teach", desc := "(III)Z" } : Jvm.MethodName)) ∈ lw_all := lw_g (lw_at lw_m7 31 rfl) rfl
theorem q1642 : (Jvm.Cond.code ({ cls := "ShrugHills", name := "teach", desc := "(III)Z" } : Jvm.MethodName) prog_1_method_55_code (4 : Nat) (Option.some Jvm.ClassFile.FieldType.boolean)) ∈ lw_all := lw_g (lw_at lw_m7 32 rfl) rfl
theorem q1644 : (Jvm.Cond.instanceMethod ({ cls := "ShrugHills", name := "go", desc := "(III)Z" } : Jvm.MethodName)) ∈ lw_all := lw_g (lw_at lw_m7 34 rfl) rfl
theorem q1645 : (Jvm.Cond.selects "ShrugHills" ({ cls := "ShrugHills", name := "go", desc := "(III)Z" } : Jvm.MethodName) ({ cls := "ShrugHills", name := "go", desc := "(III)Z" } : Jvm.MethodName)) ∈ lw_all := lw_g (lw_at lw_m7 35 rfl) rfl
theorem q1646 : (Jvm.Cond.code ({ cls := "ShrugHills", name := "go", desc := "(III)Z" } : Jvm.MethodName) prog_1_method_56_code (4 : Nat) (Option.some Jvm.ClassFile.FieldType.boolean)) ∈ lw_all := lw_g (lw_at lw_m7 36 rfl) rfl
theorem q1647 : (Jvm.Cond.methodLink "ShrugHills" (320 : Nat) ({ cls := "ShrugHills$State", name := "isFree", desc := "(I)Z" } : Jvm.MethodName)) ∈ lw_all := lw_g (lw_at lw_m7 37 rfl) rfl
theorem q1652 : (Jvm.Cond.instanceMethod ({ cls := "ShrugHills", name := "ease", desc := "(I)Z" } : Jvm.MethodName)) ∈ lw_all := lw_g (lw_at lw_m7 42 rfl) rfl
theorem q1653 : (Jvm.Cond.selects "ShrugHills" ({ cls := "ShrugHills", name := "ease", desc := "(I)Z" } : Jvm.MethodName) ({ cls := "ShrugHills", name := "ease", desc := "(I)Z" } : Jvm.MethodName)) ∈ lw_all := lw_g (lw_at lw_m7 43 rfl) rfl
theorem q1654 : (Jvm.Cond.code ({ cls := "ShrugHills", name := "ease", desc := "(I)Z" } : Jvm.MethodName) prog_1_method_57_code (2 : Nat) (Option.some Jvm.ClassFile.FieldType.boolean)) ∈ lw_all := lw_g (lw_at lw_m7 44 rfl) rfl
theorem q1656 : (Jvm.Cond.instanceMethod ({ cls := "ShrugHills", name := "days", desc := "(I)I" } : Jvm.MethodName)) ∈ lw_all := lw_g (lw_at lw_m7 46 rfl) rfl
theorem q1657 : (Jvm.Cond.selects "ShrugHills" ({ cls := "ShrugHills", name := "days", desc := "(I)I" } : Jvm.MethodName) ({ cls := "ShrugHills", name := "days", desc := "(I)I" } : Jvm.MethodName)) ∈ lw_all := lw_g (lw_at lw_m7 47 rfl) rfl
theorem q1658 : (Jvm.Cond.code ({ cls := "ShrugHills", name := "days", desc := "(I)I" } : Jvm.MethodName) prog_1_method_58_code (4 : Nat) (Option.some Jvm.ClassFile.FieldType.int)) ∈ lw_all := lw_g (lw_at lw_m7 48 rfl) rfl
theorem q1660 : (Jvm.Cond.instanceMethod ({ cls := "ShrugHills", name := "chance", desc := "(I)I" } : Jvm.MethodName)) ∈ lw_all := lw_g (lw_at lw_m7 50 rfl) rfl
theorem q1661 : (Jvm.Cond.selects "ShrugHills" ({ cls := "ShrugHills", name := "chance", desc := "(I)I" } : Jvm.MethodName) ({ cls := "ShrugHills", name := "chance", desc := "(I)I" } : Jvm.MethodName)) ∈ lw_all := lw_g (lw_at lw_m7 51 rfl) rfl
theorem q1662 : (Jvm.Cond.code ({ cls := "ShrugHills", name := "chance", desc := "(I)I" } : Jvm.MethodName) prog_1_method_60_code (5 : Nat) (Option.some Jvm.ClassFile.FieldType.int)) ∈ lw_all := lw_g (lw_at lw_m7 52 rfl) rfl
theorem q1663 : (Jvm.Cond.methodLink "ShrugHills" (331 : Nat) ({ cls := "ShrugHills", name := "draw", desc := "(I)I" } : Jvm.MethodName)) ∈ lw_all := lw_g (lw_at lw_m7 53 rfl) rfl
theorem q1664 : (Jvm.Cond.privateMethod ({ cls := "ShrugHills", name := "draw", desc := "(I)I" } : Jvm.MethodName)) ∈ lw_tbl := lw_at lw_m7 54 rfl
theorem q1665 : (Jvm.Cond.instanceMethod ({ cls := "ShrugHills", name := "draw", desc := "(I)I" } : Jvm.MethodName)) ∈ lw_all := lw_g (lw_at lw_m7 55 rfl) rfl
theorem q1666 : (Jvm.Cond.code ({ cls := "ShrugHills", name := "draw", desc := "(I)I" } : Jvm.MethodName) prog_1_method_59_code (2 : Nat) (Option.some Jvm.ClassFile.FieldType.int)) ∈ lw_all := lw_g (lw_at lw_m7 56 rfl) rfl
theorem q1667 : (Jvm.Cond.constantLong "ShrugHills" (323 : Nat) (1103515245 : Int64)) ∈ lw_all := lw_g (lw_at lw_m7 57 rfl) rfl
theorem q1668 : (Jvm.Cond.constantLong "ShrugHills" (325 : Nat) (12345 : Int64)) ∈ lw_all := lw_g (lw_at lw_m7 58 rfl) rfl
theorem q1669 : (Jvm.Cond.constantLong "ShrugHills" (327 : Nat) (2147483648 : Int64)) ∈ lw_all := lw_g (lw_at lw_m7 59 rfl) rfl
theorem q1670 : (Jvm.Cond.constantLong "ShrugHills" (329 : Nat) (64 : Int64)) ∈ lw_all := lw_g (lw_at lw_m7 60 rfl) rfl
theorem q1672 : (Jvm.Cond.instanceMethod ({ cls := "ShrugHills", name := "seed", desc := "(I)Z" } : Jvm.MethodName)) ∈ lw_all := lw_g (lw_at lw_m7 62 rfl) rfl
theorem q1673 : (Jvm.Cond.selects "ShrugHills" ({ cls := "ShrugHills", name := "seed", desc := "(I)Z" } : Jvm.MethodName) ({ cls := "ShrugHills", name := "seed", desc := "(I)Z" } : Jvm.MethodName)) ∈ lw_all := lw_g (lw_at lw_m7 63 rfl) rfl
theorem q1674 : (Jvm.Cond.code ({ cls := "ShrugHills", name := "seed", desc := "(I)Z" } : Jvm.MethodName) prog_1_method_61_code (2 : Nat) (Option.some Jvm.ClassFile.FieldType.boolean)) ∈ lw_all := lw_g (lw_at lw_m7 64 rfl) rfl
theorem q1676 : (Jvm.Cond.instanceMethod ({ cls := "ShrugHills", name := "ask", desc := "()J" } : Jvm.MethodName)) ∈ lw_all := lw_g (lw_at lw_m7 66 rfl) rfl
theorem q1677 : (Jvm.Cond.selects "ShrugHills" ({ cls := "ShrugHills", name := "ask", desc := "()J" } : Jvm.MethodName) ({ cls := "ShrugHills", name := "ask", desc := "()J" } : Jvm.MethodName)) ∈ lw_all := lw_g (lw_at lw_m7 67 rfl) rfl
theorem q1678 : (Jvm.Cond.codeWith ({ cls := "ShrugHills", name := "ask", desc := "()J" } : Jvm.MethodName) prog_1_method_63_code (4 : Nat) (Option.some Jvm.ClassFile.FieldType.long) [((26 : Nat), (35 : Nat), (38 : Nat), (137 : Nat))]) ∈ lw_all := lw_g (lw_at lw_m7 68 rfl) rfl
theorem q1679 : (Jvm.Cond.constantLong "ShrugHills" (343 : Nat) (-1000000000000000 : Int64)) ∈ lw_all := lw_g (lw_at lw_m7 69 rfl) rfl
theorem q1680 : (Jvm.Cond.methodLink "ShrugHills" (345 : Nat) ({ cls := "ShrugHills$Reader", name := "question", desc := "(I)LShrugHills$Question;" } : Jvm.MethodName)) ∈ lw_all := lw_g (lw_at lw_m7 70 rfl) rfl
theorem q1685 : (Jvm.Cond.laysStatic "ShrugHills" "TOLD_OF" "[Ljava/lang/String;") ∈ lw_tbl := lw_at lw_m7 75 rfl
theorem q1709 : (Jvm.Cond.methodLink "ShrugHills" (353 : Nat) ({ cls := "ShrugHills$Question", name := "meets", desc := "(ILShrugHills$Moment;)V" } : Jvm.MethodName)) ∈ lw_all := lw_g (lw_at lw_m7 99 rfl) rfl
theorem q1717 : (Jvm.Cond.methodLink "ShrugHills" (359 : Nat) ({ cls := "ShrugHills$Question", name := "answer", desc := "()J" } : Jvm.MethodName)) ∈ lw_all := lw_g (lw_at lw_m7 107 rfl) rfl
theorem q1722 : (Jvm.Cond.instanceMethod ({ cls := "ShrugHills", name := "image", desc := "()I" } : Jvm.MethodName)) ∈ lw_all := lw_g (lw_at lw_m7 112 rfl) rfl
theorem q1723 : (Jvm.Cond.selects "ShrugHills" ({ cls := "ShrugHills", name := "image", desc := "()I" } : Jvm.MethodName) ({ cls := "ShrugHills", name := "image", desc := "()I" } : Jvm.MethodName)) ∈ lw_all := lw_g (lw_at lw_m7 113 rfl) rfl
theorem q1724 : (Jvm.Cond.code ({ cls := "ShrugHills", name := "image", desc := "()I" } : Jvm.MethodName) prog_1_method_66_code (2 : Nat) (Option.some Jvm.ClassFile.FieldType.int)) ∈ lw_all := lw_g (lw_at lw_m7 114 rfl) rfl
theorem q1725 : (Jvm.Cond.methodLink "ShrugHills" (366 : Nat) ({ cls := "ShrugHills", name := "writes", desc := "(I)V" } : Jvm.MethodName)) ∈ lw_all := lw_g (lw_at lw_m7 115 rfl) rfl
theorem q1726 : (Jvm.Cond.privateMethod ({ cls := "ShrugHills", name := "writes", desc := "(I)V" } : Jvm.MethodName)) ∈ lw_tbl := lw_at lw_m7 116 rfl
theorem q1727 : (Jvm.Cond.instanceMethod ({ cls := "ShrugHills", name := "writes", desc := "(I)V" } : Jvm.MethodName)) ∈ lw_all := lw_g (lw_at lw_m7 117 rfl) rfl
theorem q1728 : (Jvm.Cond.code ({ cls := "ShrugHills", name := "writes", desc := "(I)V" } : Jvm.MethodName) prog_1_method_64_code (2 : Nat) (Option.none : Option Jvm.ClassFile.FieldType)) ∈ lw_all := lw_g (lw_at lw_m7 118 rfl) rfl
theorem q1729 : (Jvm.Cond.methodLink "ShrugHills" (369 : Nat) ({ cls := "ShrugHills", name := "check", desc := "([BI)I" } : Jvm.MethodName)) ∈ lw_all := lw_g (lw_at lw_m7 119 rfl) rfl
theorem q1730 : (Jvm.Cond.static ({ cls := "ShrugHills", name := "check", desc := "([BI)I" } : Jvm.MethodName)) ∈ lw_all := lw_g (lw_at lw_m7 120 rfl) rfl
theorem q1731 : (Jvm.Cond.code ({ cls := "ShrugHills", name := "check", desc := "([BI)I" } : Jvm.MethodName) prog_1_method_65_code (4 : Nat) (Option.some Jvm.ClassFile.FieldType.int)) ∈ lw_all := lw_g (lw_at lw_m7 121 rfl) rfl
theorem q1733 : (Jvm.Cond.instanceMethod ({ cls := "ShrugHills", name := "octet", desc := "(I)I" } : Jvm.MethodName)) ∈ lw_all := lw_g (lw_at lw_m7 123 rfl) rfl
theorem q1734 : (Jvm.Cond.selects "ShrugHills" ({ cls := "ShrugHills", name := "octet", desc := "(I)I" } : Jvm.MethodName) ({ cls := "ShrugHills", name := "octet", desc := "(I)I" } : Jvm.MethodName)) ∈ lw_all := lw_g (lw_at lw_m7 124 rfl) rfl
theorem q1735 : (Jvm.Cond.code ({ cls := "ShrugHills", name := "octet", desc := "(I)I" } : Jvm.MethodName) prog_1_method_67_code (2 : Nat) (Option.some Jvm.ClassFile.FieldType.int)) ∈ lw_all := lw_g (lw_at lw_m7 125 rfl) rfl
theorem q1737 : (Jvm.Cond.instanceMethod ({ cls := "ShrugHills", name := "on", desc := "()Z" } : Jvm.MethodName)) ∈ lw_all := lw_g (lw_at lw_m7 127 rfl) rfl
theorem q1738 : (Jvm.Cond.selects "ShrugHills" ({ cls := "ShrugHills", name := "on", desc := "()Z" } : Jvm.MethodName) ({ cls := "ShrugHills", name := "on", desc := "()Z" } : Jvm.MethodName)) ∈ lw_all := lw_g (lw_at lw_m7 128 rfl) rfl
theorem q1739 : (Jvm.Cond.code ({ cls := "ShrugHills", name := "on", desc := "()Z" } : Jvm.MethodName) prog_1_method_70_code (1 : Nat) (Option.some Jvm.ClassFile.FieldType.boolean)) ∈ lw_all := lw_g (lw_at lw_m7 129 rfl) rfl
theorem q1740 : (Jvm.Cond.methodLink "ShrugHills" (376 : Nat) ({ cls := "ShrugHills", name := "comesOn", desc := "(I)Z" } : Jvm.MethodName)) ∈ lw_all := lw_g (lw_at lw_m7 130 rfl) rfl
theorem q1741 : (Jvm.Cond.privateMethod ({ cls := "ShrugHills", name := "comesOn", desc := "(I)Z" } : Jvm.MethodName)) ∈ lw_tbl := lw_at lw_m7 131 rfl
theorem q1742 : (Jvm.Cond.instanceMethod ({ cls := "ShrugHills", name := "comesOn", desc := "(I)Z" } : Jvm.MethodName)) ∈ lw_all := lw_g (lw_at lw_m7 132 rfl) rfl
theorem q1743 : (Jvm.Cond.code ({ cls := "ShrugHills", name := "comesOn", desc := "(I)Z" } : Jvm.MethodName) prog_1_method_69_code (6 : Nat) (Option.some Jvm.ClassFile.FieldType.boolean)) ∈ lw_all := lw_g (lw_at lw_m7 133 rfl) rfl
theorem q1744 : (Jvm.Cond.methodLink "ShrugHills" (373 : Nat) ({ cls := "ShrugHills", name := "personOn", desc := "(II)Z" } : Jvm.MethodName)) ∈ lw_all := lw_g (lw_at lw_m7 134 rfl) rfl
theorem q1745 : (Jvm.Cond.privateMethod ({ cls := "ShrugHills", name := "personOn", desc := "(II)Z" } : Jvm.MethodName)) ∈ lw_tbl := lw_at lw_m7 135 rfl
theorem q1746 : (Jvm.Cond.instanceMethod ({ cls := "ShrugHills", name := "personOn", desc := "(II)Z" } : Jvm.MethodName)) ∈ lw_all := lw_g (lw_at lw_m7 136 rfl) rfl
theorem q1747 : (Jvm.Cond.code ({ cls := "ShrugHills", name := "personOn", desc := "(II)Z" } : Jvm.MethodName) prog_1_method_68_code (5 : Nat) (Option.some Jvm.ClassFile.FieldType.boolean)) ∈ lw_all := lw_g (lw_at lw_m7 137 rfl) rfl
theorem q1749 : (Jvm.Cond.instanceMethod ({ cls := "ShrugHills", name := "status", desc := "(I)I" } : Jvm.MethodName)) ∈ lw_all := lw_g (lw_at lw_m7 139 rfl) rfl
theorem q1750 : (Jvm.Cond.selects "ShrugHills" ({ cls := "ShrugHills", name := "status", desc := "(I)I" } : Jvm.MethodName) ({ cls := "ShrugHills", name := "status", desc := "(I)I" } : Jvm.MethodName)) ∈ lw_all := lw_g (lw_at lw_m7 140 rfl) rfl
theorem q1751 : (Jvm.Cond.code ({ cls := "ShrugHills", name := "status", desc := "(I)I" } : Jvm.MethodName) prog_1_method_71_code (2 : Nat) (Option.some Jvm.ClassFile.FieldType.int)) ∈ lw_all := lw_g (lw_at lw_m7 141 rfl) rfl
theorem q2716 : (Jvm.Cond.castable "ShrugHills" "java/lang/Object") ∈ lw_tbl := lw_at lw_m11 146 rfl
theorem q2752 : (Jvm.Cond.stringRef "ShrugHills" (417 : Nat) "plain") ∈ lw_tbl := lw_at lw_m11 182 rfl
theorem q2753 : (Jvm.Cond.stringRef "ShrugHills" (418 : Nat) "by") ∈ lw_tbl := lw_at lw_m11 183 rfl
theorem q2754 : (Jvm.Cond.stringRef "ShrugHills" (420 : Nat) "high") ∈ lw_tbl := lw_at lw_m11 184 rfl
theorem q2755 : (Jvm.Cond.stringRef "ShrugHills" (384 : Nat) "topic") ∈ lw_tbl := lw_at lw_m11 185 rfl
theorem q2756 : (Jvm.Cond.stringRef "ShrugHills" (422 : Nat) "person") ∈ lw_tbl := lw_at lw_m11 186 rfl
theorem q2757 : (Jvm.Cond.stringRef "ShrugHills" (423 : Nat) "at") ∈ lw_tbl := lw_at lw_m11 187 rfl
theorem q2758 : (Jvm.Cond.stringRef "ShrugHills" (379 : Nat) "tired") ∈ lw_tbl := lw_at lw_m11 188 rfl
theorem q2759 : (Jvm.Cond.stringRef "ShrugHills" (397 : Nat) "knows") ∈ lw_tbl := lw_at lw_m11 189 rfl
theorem q2760 : (Jvm.Cond.stringRef "ShrugHills" (424 : Nat) "of") ∈ lw_tbl := lw_at lw_m11 190 rfl
theorem q2761 : (Jvm.Cond.stringRef "ShrugHills" (425 : Nat) "asks") ∈ lw_tbl := lw_at lw_m11 191 rfl
theorem q2762 : (Jvm.Cond.stringRef "ShrugHills" (398 : Nat) "lifts") ∈ lw_tbl := lw_at lw_m11 192 rfl
theorem q2763 : (Jvm.Cond.stringRef "ShrugHills" (427 : Nat) "tires") ∈ lw_tbl := lw_at lw_m11 193 rfl
theorem q2764 : (Jvm.Cond.stringRef "ShrugHills" (429 : Nat) "holds") ∈ lw_tbl := lw_at lw_m11 194 rfl
theorem q2765 : (Jvm.Cond.stringRef "ShrugHills" (431 : Nat) "crowd") ∈ lw_tbl := lw_at lw_m11 195 rfl
theorem q2766 : (Jvm.Cond.stringRef "ShrugHills" (380 : Nat) "height") ∈ lw_tbl := lw_at lw_m11 196 rfl
theorem q2767 : (Jvm.Cond.stringRef "ShrugHills" (381 : Nat) "known") ∈ lw_tbl := lw_at lw_m11 197 rfl
theorem q2768 : (Jvm.Cond.stringRef "ShrugHills" (383 : Nat) "day") ∈ lw_tbl := lw_at lw_m11 198 rfl
theorem q2769 : (Jvm.Cond.stringRef "ShrugHills" (385 : Nat) "side") ∈ lw_tbl := lw_at lw_m11 199 rfl
theorem q2770 : (Jvm.Cond.stringRef "ShrugHills" (387 : Nat) "number") ∈ lw_tbl := lw_at lw_m11 200 rfl
theorem q2771 : (Jvm.Cond.stringRef "ShrugHills" (389 : Nat) "column") ∈ lw_tbl := lw_at lw_m11 201 rfl
theorem q2772 : (Jvm.Cond.stringRef "ShrugHills" (391 : Nat) "row") ∈ lw_tbl := lw_at lw_m11 202 rfl
theorem q2773 : (Jvm.Cond.stringRef "ShrugHills" (432 : Nat) "or") ∈ lw_tbl := lw_at lw_m11 203 rfl
theorem q2774 : (Jvm.Cond.stringRef "ShrugHills" (434 : Nat) "and") ∈ lw_tbl := lw_at lw_m11 204 rfl
theorem q2775 : (Jvm.Cond.stringRef "ShrugHills" (436 : Nat) "not") ∈ lw_tbl := lw_at lw_m11 205 rfl
theorem q2776 : (Jvm.Cond.stringRef "ShrugHills" (438 : Nat) "all") ∈ lw_tbl := lw_at lw_m11 206 rfl
theorem q2777 : (Jvm.Cond.stringRef "ShrugHills" (439 : Nat) "min") ∈ lw_tbl := lw_at lw_m11 207 rfl
theorem q2778 : (Jvm.Cond.stringRef "ShrugHills" (440 : Nat) "max") ∈ lw_tbl := lw_at lw_m11 208 rfl
theorem q2780 : (Jvm.Cond.stringRef "ShrugHills" (402 : Nat) "first") ∈ lw_tbl := lw_at lw_m11 210 rfl
theorem q2781 : (Jvm.Cond.stringRef "ShrugHills" (404 : Nat) "last") ∈ lw_tbl := lw_at lw_m11 211 rfl
theorem q2782 : (Jvm.Cond.stringRef "ShrugHills" (406 : Nat) "often") ∈ lw_tbl := lw_at lw_m11 212 rfl
theorem q2783 : (Jvm.Cond.stringRef "ShrugHills" (408 : Nat) "total") ∈ lw_tbl := lw_at lw_m11 213 rfl
theorem q2784 : (Jvm.Cond.stringRef "ShrugHills" (410 : Nat) "most") ∈ lw_tbl := lw_at lw_m11 214 rfl
theorem q2785 : (Jvm.Cond.stringRef "ShrugHills" (412 : Nat) "least") ∈ lw_tbl := lw_at lw_m11 215 rfl
theorem in_X0 : ∀ w ∈ wsX00, w ∈ lw_all := lw_in wsX00 [500, 502, 504, 506, 508, 510, 512, 514, 516, 518, 520, 522, 524, 526, 528, 530, 532, 534, 536, 538, 540, 542, 544, 546, 548, 550] (by decide +kernel) (by decide +kernel)
