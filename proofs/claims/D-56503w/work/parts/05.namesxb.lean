/-! LendlatheModel -/
set_option maxRecDepth 100000
def RX4 : String := "LendlatheModel"
def TX4 : u_T := fun k => match k with
  | 0 => ("LendlatheModel", "machineKinds", "[I", true)
  | 1 => ("LendlatheModel", "setups", "[I", true)
  | 2 => ("LendlatheModel", "machines", "I", false)
  | 3 => ("LendlatheModel", "members", "I", false)
  | 4 => ("LendlatheModel", "taken", "[[I", true)
  | 5 => ("LendlatheModel", "paid", "[J", true)
  | 6 => ("LendlatheModel", "needs", "[[Z", true)
  | 7 => ("LendlatheModel", "day", "I", false)
  | 8 => ("LendlatheModel", "owner", "[I", true)
  | 9 => ("LendlatheModel", "machineOf", "[I", true)
  | 10 => ("LendlatheModel", "dayOf", "[I", true)
  | 11 => ("LendlatheModel", "starts", "[I", true)
  | 12 => ("LendlatheModel", "lengths", "[I", true)
  | 13 => ("LendlatheModel", "works", "[C", true)
  | 14 => ("LendlatheModel", "states", "[C", true)
  | 15 => ("LendlatheModel", "dues", "[I", true)
  | 16 => ("LendlatheModel", "cutMany", "[I", true)
  | 17 => ("LendlatheModel", "cutBars", "[[I", true)
  | 18 => ("LendlatheModel", "cutLengths", "[[I", true)
  | 19 => ("LendlatheModel", "entries", "I", false)
  | 20 => ("LendlatheModel", "materials", "[I", true)
  | 21 => ("LendlatheModel", "barLengths", "[I", true)
  | 22 => ("LendlatheModel", "bars", "I", false)
  | 23 => ("LendlatheModel", "prices", "[I", true)
  | 24 => ("LendlatheModel", "layerSorts", "[[C", true)
  | 25 => ("LendlatheModel", "layerNumbers", "[[I", true)
  | 26 => ("LendlatheModel", "layerMany", "[I", true)
  | 27 => ("LendlatheModel", "shares", "[[I", true)
  | 28 => ("LendlatheModel", "breakages", "I", false)
  | _ => ("LendlatheModel", "thrown", "I", false)
def tyX4 : Nat → FieldType := fun k => match k with
  | 0 => .array .int
  | 1 => .array .int
  | 2 => .int
  | 3 => .int
  | 4 => .array (.array .int)
  | 5 => .array .long
  | 6 => .array (.array .boolean)
  | 7 => .int
  | 8 => .array .int
  | 9 => .array .int
  | 10 => .array .int
  | 11 => .array .int
  | 12 => .array .int
  | 13 => .array .char
  | 14 => .array .char
  | 15 => .array .int
  | 16 => .array .int
  | 17 => .array (.array .int)
  | 18 => .array (.array .int)
  | 19 => .int
  | 20 => .array .int
  | 21 => .array .int
  | 22 => .int
  | 23 => .array .int
  | 24 => .array (.array .char)
  | 25 => .array (.array .int)
  | 26 => .array .int
  | 27 => .array (.array .int)
  | 28 => .int
  | _ => .int
abbrev wsX40 : List Cond := u_ws RX4 TX4 30
set_option maxRecDepth 100000 in
theorem nmX4 : ∀ a, a < 30 → ∀ b, b < 30 → a ≠ b → (TX4 a).2.1 ≠ (TX4 b).2.1 := by decide +kernel
set_option maxRecDepth 100000 in
theorem tyX4_ok : ∀ k, k < 30 → parseFieldDescriptor (TX4 k).2.2.1 = some (tyX4 k) := by decide +kernel
abbrev cX4_init : ByteArray := prog_14_method_1_code
def yX4_init : MethodName := ⟨RX4, "<init>", "()V"⟩
def dkwX4_init_10 : List UInt8 := [180, 0, 75, 27, 50, 3, 16, 114, 85, 42, 180, 0, 81, 27, 4, 79, 132, 1, 1, 167, 255, 231, 177]
abbrev dktX4_init_10 : List UInt8 := dkwX4_init_10 ++ []
def dkwX4_init_9 : List UInt8 := [181, 0, 81, 42, 16, 20, 16, 10, 197, 0, 16, 2, 181, 0, 84, 3, 60, 27, 7, 162, 0, 26, 42]
abbrev dktX4_init_9 : List UInt8 := dkwX4_init_9 ++ dktX4_init_10
def dkwX4_init_8 : List UInt8 := [197, 0, 73, 2, 181, 0, 75, 42, 7, 16, 6, 197, 0, 16, 2, 181, 0, 78, 42, 7, 188, 10]
abbrev dktX4_init_8 : List UInt8 := dkwX4_init_8 ++ dktX4_init_9
def dkwX4_init_7 : List UInt8 := [181, 0, 64, 42, 16, 30, 188, 10, 181, 0, 67, 42, 6, 188, 10, 181, 0, 70, 42, 7, 16, 6]
abbrev dktX4_init_7 : List UInt8 := dkwX4_init_7 ++ dktX4_init_8
def dkwX4_init_6 : List UInt8 := [197, 0, 16, 2, 181, 0, 58, 42, 17, 0, 150, 8, 197, 0, 16, 2, 181, 0, 61, 42, 16, 30, 188, 10]
abbrev dktX4_init_6 : List UInt8 := dkwX4_init_6 ++ dktX4_init_7
def dkwX4_init_5 : List UInt8 := [17, 0, 150, 188, 10, 181, 0, 52, 42, 17, 0, 150, 188, 10, 181, 0, 55, 42, 17, 0, 150, 8]
abbrev dktX4_init_5 : List UInt8 := dkwX4_init_5 ++ dktX4_init_6
def dkwX4_init_4 : List UInt8 := [181, 0, 42, 42, 17, 0, 150, 188, 5, 181, 0, 45, 42, 17, 0, 150, 188, 5, 181, 0, 49, 42]
abbrev dktX4_init_4 : List UInt8 := dkwX4_init_4 ++ dktX4_init_5
def dkwX4_init_3 : List UInt8 := [17, 0, 150, 188, 10, 181, 0, 36, 42, 17, 0, 150, 188, 10, 181, 0, 39, 42, 17, 0, 150, 188, 10]
abbrev dktX4_init_3 : List UInt8 := dkwX4_init_3 ++ dktX4_init_4
def dkwX4_init_2 : List UInt8 := [181, 0, 27, 42, 17, 0, 150, 188, 10, 181, 0, 30, 42, 17, 0, 150, 188, 10, 181, 0, 33, 42]
abbrev dktX4_init_2 : List UInt8 := dkwX4_init_2 ++ dktX4_init_3
def dkwX4_init_1 : List UInt8 := [197, 0, 16, 2, 181, 0, 18, 42, 16, 10, 188, 11, 181, 0, 21, 42, 7, 7, 197, 0, 25, 2]
abbrev dktX4_init_1 : List UInt8 := dkwX4_init_1 ++ dktX4_init_2
def dkwX4_init_0 : List UInt8 := [42, 183, 0, 1, 42, 16, 6, 188, 10, 181, 0, 9, 42, 16, 6, 188, 10, 181, 0, 13, 42, 16, 10, 7]
abbrev dktX4_init_0 : List UInt8 := dkwX4_init_0 ++ dktX4_init_1
theorem dksX4_init_0 : cX4_init.data.toList.drop 0 = dktX4_init_0 := by decide +kernel
theorem dksX4_init_1 : cX4_init.data.toList.drop 24 = dktX4_init_1 := dk_seg dksX4_init_0 24 rfl rfl
theorem dksX4_init_2 : cX4_init.data.toList.drop 46 = dktX4_init_2 := dk_seg dksX4_init_1 22 rfl rfl
theorem dksX4_init_3 : cX4_init.data.toList.drop 68 = dktX4_init_3 := dk_seg dksX4_init_2 22 rfl rfl
theorem dksX4_init_4 : cX4_init.data.toList.drop 91 = dktX4_init_4 := dk_seg dksX4_init_3 23 rfl rfl
theorem dksX4_init_5 : cX4_init.data.toList.drop 113 = dktX4_init_5 := dk_seg dksX4_init_4 22 rfl rfl
theorem dksX4_init_6 : cX4_init.data.toList.drop 135 = dktX4_init_6 := dk_seg dksX4_init_5 22 rfl rfl
theorem dksX4_init_7 : cX4_init.data.toList.drop 159 = dktX4_init_7 := dk_seg dksX4_init_6 24 rfl rfl
theorem dksX4_init_8 : cX4_init.data.toList.drop 181 = dktX4_init_8 := dk_seg dksX4_init_7 22 rfl rfl
theorem dksX4_init_9 : cX4_init.data.toList.drop 203 = dktX4_init_9 := dk_seg dksX4_init_8 22 rfl rfl
theorem dksX4_init_10 : cX4_init.data.toList.drop 226 = dktX4_init_10 := dk_seg dksX4_init_9 23 rfl rfl
theorem dX4_init_0 : decode cX4_init 0 = .ok (.aload_n 0, 1) := dk_42 (dk_at dksX4_init_0 0 rfl rfl)
theorem dX4_init_1 : decode cX4_init 1 = .ok (.invokespecial 1, 3) := dk_183 0 1 (dk_at dksX4_init_0 1 rfl rfl)
theorem dX4_init_4 : decode cX4_init 4 = .ok (.aload_n 0, 1) := dk_42 (dk_at dksX4_init_0 4 rfl rfl)
theorem dX4_init_5 : decode cX4_init 5 = .ok (.bipush 6, 2) := dk_16 6 (dk_at dksX4_init_0 5 rfl rfl)
theorem dX4_init_7 : decode cX4_init 7 = .ok (.newarray .int, 2) := dk_188_10 (dk_at dksX4_init_0 7 rfl rfl)
theorem dX4_init_9 : decode cX4_init 9 = .ok (.putfield 9, 3) := dk_181 0 9 (dk_at dksX4_init_0 9 rfl rfl)
theorem dX4_init_12 : decode cX4_init 12 = .ok (.aload_n 0, 1) := dk_42 (dk_at dksX4_init_0 12 rfl rfl)
theorem dX4_init_13 : decode cX4_init 13 = .ok (.bipush 6, 2) := dk_16 6 (dk_at dksX4_init_0 13 rfl rfl)
theorem dX4_init_15 : decode cX4_init 15 = .ok (.newarray .int, 2) := dk_188_10 (dk_at dksX4_init_0 15 rfl rfl)
theorem dX4_init_17 : decode cX4_init 17 = .ok (.putfield 13, 3) := dk_181 0 13 (dk_at dksX4_init_0 17 rfl rfl)
theorem dX4_init_20 : decode cX4_init 20 = .ok (.aload_n 0, 1) := dk_42 (dk_at dksX4_init_0 20 rfl rfl)
theorem dX4_init_21 : decode cX4_init 21 = .ok (.bipush 10, 2) := dk_16 10 (dk_at dksX4_init_0 21 rfl rfl)
theorem dX4_init_23 : decode cX4_init 23 = .ok (.iconst 4, 1) := dk_7 (dk_at dksX4_init_0 23 rfl rfl)
theorem dX4_init_24 : decode cX4_init 24 = .ok (.multianewarray 16 2, 4) := by decide +kernel
theorem dX4_init_28 : decode cX4_init 28 = .ok (.putfield 18, 3) := dk_181 0 18 (dk_at dksX4_init_1 4 rfl rfl)
theorem dX4_init_31 : decode cX4_init 31 = .ok (.aload_n 0, 1) := dk_42 (dk_at dksX4_init_1 7 rfl rfl)
theorem dX4_init_32 : decode cX4_init 32 = .ok (.bipush 10, 2) := dk_16 10 (dk_at dksX4_init_1 8 rfl rfl)
theorem dX4_init_34 : decode cX4_init 34 = .ok (.newarray .long, 2) := dk_188_11 (dk_at dksX4_init_1 10 rfl rfl)
theorem dX4_init_36 : decode cX4_init 36 = .ok (.putfield 21, 3) := dk_181 0 21 (dk_at dksX4_init_1 12 rfl rfl)
theorem dX4_init_39 : decode cX4_init 39 = .ok (.aload_n 0, 1) := dk_42 (dk_at dksX4_init_1 15 rfl rfl)
theorem dX4_init_40 : decode cX4_init 40 = .ok (.iconst 4, 1) := dk_7 (dk_at dksX4_init_1 16 rfl rfl)
theorem dX4_init_41 : decode cX4_init 41 = .ok (.iconst 4, 1) := dk_7 (dk_at dksX4_init_1 17 rfl rfl)
theorem dX4_init_42 : decode cX4_init 42 = .ok (.multianewarray 25 2, 4) := by decide +kernel
theorem dX4_init_46 : decode cX4_init 46 = .ok (.putfield 27, 3) := dk_181 0 27 (dk_at dksX4_init_2 0 rfl rfl)
theorem dX4_init_49 : decode cX4_init 49 = .ok (.aload_n 0, 1) := dk_42 (dk_at dksX4_init_2 3 rfl rfl)
theorem dX4_init_50 : decode cX4_init 50 = .ok (.sipush 150, 3) := dk_17 0 150 (dk_at dksX4_init_2 4 rfl rfl)
theorem dX4_init_53 : decode cX4_init 53 = .ok (.newarray .int, 2) := dk_188_10 (dk_at dksX4_init_2 7 rfl rfl)
theorem dX4_init_55 : decode cX4_init 55 = .ok (.putfield 30, 3) := dk_181 0 30 (dk_at dksX4_init_2 9 rfl rfl)
theorem dX4_init_58 : decode cX4_init 58 = .ok (.aload_n 0, 1) := dk_42 (dk_at dksX4_init_2 12 rfl rfl)
theorem dX4_init_59 : decode cX4_init 59 = .ok (.sipush 150, 3) := dk_17 0 150 (dk_at dksX4_init_2 13 rfl rfl)
theorem dX4_init_62 : decode cX4_init 62 = .ok (.newarray .int, 2) := dk_188_10 (dk_at dksX4_init_2 16 rfl rfl)
theorem dX4_init_64 : decode cX4_init 64 = .ok (.putfield 33, 3) := dk_181 0 33 (dk_at dksX4_init_2 18 rfl rfl)
theorem dX4_init_67 : decode cX4_init 67 = .ok (.aload_n 0, 1) := dk_42 (dk_at dksX4_init_2 21 rfl rfl)
theorem dX4_init_68 : decode cX4_init 68 = .ok (.sipush 150, 3) := dk_17 0 150 (dk_at dksX4_init_3 0 rfl rfl)
theorem dX4_init_71 : decode cX4_init 71 = .ok (.newarray .int, 2) := dk_188_10 (dk_at dksX4_init_3 3 rfl rfl)
theorem dX4_init_73 : decode cX4_init 73 = .ok (.putfield 36, 3) := dk_181 0 36 (dk_at dksX4_init_3 5 rfl rfl)
theorem dX4_init_76 : decode cX4_init 76 = .ok (.aload_n 0, 1) := dk_42 (dk_at dksX4_init_3 8 rfl rfl)
theorem dX4_init_77 : decode cX4_init 77 = .ok (.sipush 150, 3) := dk_17 0 150 (dk_at dksX4_init_3 9 rfl rfl)
theorem dX4_init_80 : decode cX4_init 80 = .ok (.newarray .int, 2) := dk_188_10 (dk_at dksX4_init_3 12 rfl rfl)
theorem dX4_init_82 : decode cX4_init 82 = .ok (.putfield 39, 3) := dk_181 0 39 (dk_at dksX4_init_3 14 rfl rfl)
theorem dX4_init_85 : decode cX4_init 85 = .ok (.aload_n 0, 1) := dk_42 (dk_at dksX4_init_3 17 rfl rfl)
theorem dX4_init_86 : decode cX4_init 86 = .ok (.sipush 150, 3) := dk_17 0 150 (dk_at dksX4_init_3 18 rfl rfl)
theorem dX4_init_89 : decode cX4_init 89 = .ok (.newarray .int, 2) := dk_188_10 (dk_at dksX4_init_3 21 rfl rfl)
theorem dX4_init_91 : decode cX4_init 91 = .ok (.putfield 42, 3) := dk_181 0 42 (dk_at dksX4_init_4 0 rfl rfl)
theorem dX4_init_94 : decode cX4_init 94 = .ok (.aload_n 0, 1) := dk_42 (dk_at dksX4_init_4 3 rfl rfl)
theorem dX4_init_95 : decode cX4_init 95 = .ok (.sipush 150, 3) := dk_17 0 150 (dk_at dksX4_init_4 4 rfl rfl)
theorem dX4_init_98 : decode cX4_init 98 = .ok (.newarray .char, 2) := dk_188_5 (dk_at dksX4_init_4 7 rfl rfl)
theorem dX4_init_100 : decode cX4_init 100 = .ok (.putfield 45, 3) := dk_181 0 45 (dk_at dksX4_init_4 9 rfl rfl)
theorem dX4_init_103 : decode cX4_init 103 = .ok (.aload_n 0, 1) := dk_42 (dk_at dksX4_init_4 12 rfl rfl)
theorem dX4_init_104 : decode cX4_init 104 = .ok (.sipush 150, 3) := dk_17 0 150 (dk_at dksX4_init_4 13 rfl rfl)
theorem dX4_init_107 : decode cX4_init 107 = .ok (.newarray .char, 2) := dk_188_5 (dk_at dksX4_init_4 16 rfl rfl)
theorem dX4_init_109 : decode cX4_init 109 = .ok (.putfield 49, 3) := dk_181 0 49 (dk_at dksX4_init_4 18 rfl rfl)
theorem dX4_init_112 : decode cX4_init 112 = .ok (.aload_n 0, 1) := dk_42 (dk_at dksX4_init_4 21 rfl rfl)
theorem dX4_init_113 : decode cX4_init 113 = .ok (.sipush 150, 3) := dk_17 0 150 (dk_at dksX4_init_5 0 rfl rfl)
theorem dX4_init_116 : decode cX4_init 116 = .ok (.newarray .int, 2) := dk_188_10 (dk_at dksX4_init_5 3 rfl rfl)
theorem dX4_init_118 : decode cX4_init 118 = .ok (.putfield 52, 3) := dk_181 0 52 (dk_at dksX4_init_5 5 rfl rfl)
theorem dX4_init_121 : decode cX4_init 121 = .ok (.aload_n 0, 1) := dk_42 (dk_at dksX4_init_5 8 rfl rfl)
theorem dX4_init_122 : decode cX4_init 122 = .ok (.sipush 150, 3) := dk_17 0 150 (dk_at dksX4_init_5 9 rfl rfl)
theorem dX4_init_125 : decode cX4_init 125 = .ok (.newarray .int, 2) := dk_188_10 (dk_at dksX4_init_5 12 rfl rfl)
theorem dX4_init_127 : decode cX4_init 127 = .ok (.putfield 55, 3) := dk_181 0 55 (dk_at dksX4_init_5 14 rfl rfl)
theorem dX4_init_130 : decode cX4_init 130 = .ok (.aload_n 0, 1) := dk_42 (dk_at dksX4_init_5 17 rfl rfl)
theorem dX4_init_131 : decode cX4_init 131 = .ok (.sipush 150, 3) := dk_17 0 150 (dk_at dksX4_init_5 18 rfl rfl)
theorem dX4_init_134 : decode cX4_init 134 = .ok (.iconst 5, 1) := dk_8 (dk_at dksX4_init_5 21 rfl rfl)
theorem dX4_init_135 : decode cX4_init 135 = .ok (.multianewarray 16 2, 4) := by decide +kernel
theorem dX4_init_139 : decode cX4_init 139 = .ok (.putfield 58, 3) := dk_181 0 58 (dk_at dksX4_init_6 4 rfl rfl)
theorem dX4_init_142 : decode cX4_init 142 = .ok (.aload_n 0, 1) := dk_42 (dk_at dksX4_init_6 7 rfl rfl)
theorem dX4_init_143 : decode cX4_init 143 = .ok (.sipush 150, 3) := dk_17 0 150 (dk_at dksX4_init_6 8 rfl rfl)
theorem dX4_init_146 : decode cX4_init 146 = .ok (.iconst 5, 1) := dk_8 (dk_at dksX4_init_6 11 rfl rfl)
theorem dX4_init_147 : decode cX4_init 147 = .ok (.multianewarray 16 2, 4) := by decide +kernel
theorem dX4_init_151 : decode cX4_init 151 = .ok (.putfield 61, 3) := dk_181 0 61 (dk_at dksX4_init_6 16 rfl rfl)
theorem dX4_init_154 : decode cX4_init 154 = .ok (.aload_n 0, 1) := dk_42 (dk_at dksX4_init_6 19 rfl rfl)
theorem dX4_init_155 : decode cX4_init 155 = .ok (.bipush 30, 2) := dk_16 30 (dk_at dksX4_init_6 20 rfl rfl)
theorem dX4_init_157 : decode cX4_init 157 = .ok (.newarray .int, 2) := dk_188_10 (dk_at dksX4_init_6 22 rfl rfl)
theorem dX4_init_159 : decode cX4_init 159 = .ok (.putfield 64, 3) := dk_181 0 64 (dk_at dksX4_init_7 0 rfl rfl)
theorem dX4_init_162 : decode cX4_init 162 = .ok (.aload_n 0, 1) := dk_42 (dk_at dksX4_init_7 3 rfl rfl)
theorem dX4_init_163 : decode cX4_init 163 = .ok (.bipush 30, 2) := dk_16 30 (dk_at dksX4_init_7 4 rfl rfl)
theorem dX4_init_165 : decode cX4_init 165 = .ok (.newarray .int, 2) := dk_188_10 (dk_at dksX4_init_7 6 rfl rfl)
theorem dX4_init_167 : decode cX4_init 167 = .ok (.putfield 67, 3) := dk_181 0 67 (dk_at dksX4_init_7 8 rfl rfl)
theorem dX4_init_170 : decode cX4_init 170 = .ok (.aload_n 0, 1) := dk_42 (dk_at dksX4_init_7 11 rfl rfl)
theorem dX4_init_171 : decode cX4_init 171 = .ok (.iconst 3, 1) := dk_6 (dk_at dksX4_init_7 12 rfl rfl)
theorem dX4_init_172 : decode cX4_init 172 = .ok (.newarray .int, 2) := dk_188_10 (dk_at dksX4_init_7 13 rfl rfl)
theorem dX4_init_174 : decode cX4_init 174 = .ok (.putfield 70, 3) := dk_181 0 70 (dk_at dksX4_init_7 15 rfl rfl)
theorem dX4_init_177 : decode cX4_init 177 = .ok (.aload_n 0, 1) := dk_42 (dk_at dksX4_init_7 18 rfl rfl)
theorem dX4_init_178 : decode cX4_init 178 = .ok (.iconst 4, 1) := dk_7 (dk_at dksX4_init_7 19 rfl rfl)
theorem dX4_init_179 : decode cX4_init 179 = .ok (.bipush 6, 2) := dk_16 6 (dk_at dksX4_init_7 20 rfl rfl)
theorem dX4_init_181 : decode cX4_init 181 = .ok (.multianewarray 73 2, 4) := by decide +kernel
theorem dX4_init_185 : decode cX4_init 185 = .ok (.putfield 75, 3) := dk_181 0 75 (dk_at dksX4_init_8 4 rfl rfl)
theorem dX4_init_188 : decode cX4_init 188 = .ok (.aload_n 0, 1) := dk_42 (dk_at dksX4_init_8 7 rfl rfl)
theorem dX4_init_189 : decode cX4_init 189 = .ok (.iconst 4, 1) := dk_7 (dk_at dksX4_init_8 8 rfl rfl)
theorem dX4_init_190 : decode cX4_init 190 = .ok (.bipush 6, 2) := dk_16 6 (dk_at dksX4_init_8 9 rfl rfl)
theorem dX4_init_192 : decode cX4_init 192 = .ok (.multianewarray 16 2, 4) := by decide +kernel
theorem dX4_init_196 : decode cX4_init 196 = .ok (.putfield 78, 3) := dk_181 0 78 (dk_at dksX4_init_8 15 rfl rfl)
theorem dX4_init_199 : decode cX4_init 199 = .ok (.aload_n 0, 1) := dk_42 (dk_at dksX4_init_8 18 rfl rfl)
theorem dX4_init_200 : decode cX4_init 200 = .ok (.iconst 4, 1) := dk_7 (dk_at dksX4_init_8 19 rfl rfl)
theorem dX4_init_201 : decode cX4_init 201 = .ok (.newarray .int, 2) := dk_188_10 (dk_at dksX4_init_8 20 rfl rfl)
theorem dX4_init_203 : decode cX4_init 203 = .ok (.putfield 81, 3) := dk_181 0 81 (dk_at dksX4_init_9 0 rfl rfl)
theorem dX4_init_206 : decode cX4_init 206 = .ok (.aload_n 0, 1) := dk_42 (dk_at dksX4_init_9 3 rfl rfl)
theorem dX4_init_207 : decode cX4_init 207 = .ok (.bipush 20, 2) := dk_16 20 (dk_at dksX4_init_9 4 rfl rfl)
theorem dX4_init_209 : decode cX4_init 209 = .ok (.bipush 10, 2) := dk_16 10 (dk_at dksX4_init_9 6 rfl rfl)
theorem dX4_init_211 : decode cX4_init 211 = .ok (.multianewarray 16 2, 4) := by decide +kernel
theorem dX4_init_215 : decode cX4_init 215 = .ok (.putfield 84, 3) := dk_181 0 84 (dk_at dksX4_init_9 12 rfl rfl)
theorem dX4_init_218 : decode cX4_init 218 = .ok (.iconst 0, 1) := dk_3 (dk_at dksX4_init_9 15 rfl rfl)
theorem dX4_init_219 : decode cX4_init 219 = .ok (.istore_n 1, 1) := dk_60 (dk_at dksX4_init_9 16 rfl rfl)
theorem dX4_init_220 : decode cX4_init 220 = .ok (.iload_n 1, 1) := dk_27 (dk_at dksX4_init_9 17 rfl rfl)
theorem dX4_init_221 : decode cX4_init 221 = .ok (.iconst 4, 1) := dk_7 (dk_at dksX4_init_9 18 rfl rfl)
theorem dX4_init_222 : decode cX4_init 222 = .ok (.if_icmp .ge 26, 3) := dk_162 0 26 (dk_at dksX4_init_9 19 rfl rfl)
theorem dX4_init_225 : decode cX4_init 225 = .ok (.aload_n 0, 1) := dk_42 (dk_at dksX4_init_9 22 rfl rfl)
theorem dX4_init_226 : decode cX4_init 226 = .ok (.getfield 75, 3) := dk_180 0 75 (dk_at dksX4_init_10 0 rfl rfl)
theorem dX4_init_229 : decode cX4_init 229 = .ok (.iload_n 1, 1) := dk_27 (dk_at dksX4_init_10 3 rfl rfl)
theorem dX4_init_230 : decode cX4_init 230 = .ok (.aaload, 1) := dk_50 (dk_at dksX4_init_10 4 rfl rfl)
theorem dX4_init_231 : decode cX4_init 231 = .ok (.iconst 0, 1) := dk_3 (dk_at dksX4_init_10 5 rfl rfl)
theorem dX4_init_232 : decode cX4_init 232 = .ok (.bipush 114, 2) := dk_16 114 (dk_at dksX4_init_10 6 rfl rfl)
theorem dX4_init_234 : decode cX4_init 234 = .ok (.castore, 1) := dk_85 (dk_at dksX4_init_10 8 rfl rfl)
theorem dX4_init_235 : decode cX4_init 235 = .ok (.aload_n 0, 1) := dk_42 (dk_at dksX4_init_10 9 rfl rfl)
theorem dX4_init_236 : decode cX4_init 236 = .ok (.getfield 81, 3) := dk_180 0 81 (dk_at dksX4_init_10 10 rfl rfl)
theorem dX4_init_239 : decode cX4_init 239 = .ok (.iload_n 1, 1) := dk_27 (dk_at dksX4_init_10 13 rfl rfl)
theorem dX4_init_240 : decode cX4_init 240 = .ok (.iconst 1, 1) := dk_4 (dk_at dksX4_init_10 14 rfl rfl)
theorem dX4_init_241 : decode cX4_init 241 = .ok (.iastore, 1) := dk_79 (dk_at dksX4_init_10 15 rfl rfl)
theorem dX4_init_242 : decode cX4_init 242 = .ok (.iinc 1 1, 3) := dk_132 1 1 (dk_at dksX4_init_10 16 rfl rfl)
theorem dX4_init_245 : decode cX4_init 245 = .ok (.goto (-25), 3) := dk_167 255 231 (dk_at dksX4_init_10 19 rfl rfl)
theorem dX4_init_248 : decode cX4_init 248 = .ok (.return_, 1) := dk_177 (dk_at dksX4_init_10 22 rfl rfl)
abbrev cX4_thrown : ByteArray := prog_14_method_2_code
def yX4_thrown : MethodName := ⟨RX4, "thrown", "()I"⟩
theorem dX4_thrown_0 : decode cX4_thrown 0 = .ok (.aload_n 0, 1) := by decide +kernel
theorem dX4_thrown_1 : decode cX4_thrown 1 = .ok (.getfield 87, 3) := by decide +kernel
theorem dX4_thrown_4 : decode cX4_thrown 4 = .ok (.ireturn, 1) := by decide +kernel
abbrev cX4_addMachine : ByteArray := prog_14_method_9_code
def yX4_addMachine : MethodName := ⟨RX4, "addMachine", "(II)I"⟩
def dkwX4_addMachine_3 : List UInt8 := [180, 0, 98, 4, 96, 181, 0, 98, 42, 180, 0, 98, 4, 100, 172]
abbrev dktX4_addMachine_3 : List UInt8 := dkwX4_addMachine_3 ++ []
def dkwX4_addMachine_2 : List UInt8 := [172, 42, 180, 0, 9, 42, 180, 0, 98, 27, 79, 42, 180, 0, 13, 42, 180, 0, 98, 28, 79, 42, 89]
abbrev dktX4_addMachine_2 : List UInt8 := dkwX4_addMachine_2 ++ dktX4_addMachine_3
def dkwX4_addMachine_1 : List UInt8 := [180, 0, 98, 16, 6, 160, 0, 7, 5, 167, 0, 4, 3, 181, 0, 87, 42, 180, 0, 87, 158, 0, 5, 3]
abbrev dktX4_addMachine_1 : List UInt8 := dkwX4_addMachine_1 ++ dktX4_addMachine_2
def dkwX4_addMachine_0 : List UInt8 := [42, 27, 184, 0, 104, 153, 0, 13, 28, 3, 16, 30, 184, 0, 91, 154, 0, 7, 4, 167, 0, 17, 42]
abbrev dktX4_addMachine_0 : List UInt8 := dkwX4_addMachine_0 ++ dktX4_addMachine_1
theorem dksX4_addMachine_0 : cX4_addMachine.data.toList.drop 0 = dktX4_addMachine_0 := by decide +kernel
theorem dksX4_addMachine_1 : cX4_addMachine.data.toList.drop 23 = dktX4_addMachine_1 := dk_seg dksX4_addMachine_0 23 rfl rfl
theorem dksX4_addMachine_2 : cX4_addMachine.data.toList.drop 47 = dktX4_addMachine_2 := dk_seg dksX4_addMachine_1 24 rfl rfl
theorem dksX4_addMachine_3 : cX4_addMachine.data.toList.drop 70 = dktX4_addMachine_3 := dk_seg dksX4_addMachine_2 23 rfl rfl
theorem dX4_addMachine_0 : decode cX4_addMachine 0 = .ok (.aload_n 0, 1) := dk_42 (dk_at dksX4_addMachine_0 0 rfl rfl)
theorem dX4_addMachine_1 : decode cX4_addMachine 1 = .ok (.iload_n 1, 1) := dk_27 (dk_at dksX4_addMachine_0 1 rfl rfl)
theorem dX4_addMachine_2 : decode cX4_addMachine 2 = .ok (.invokestatic 104, 3) := dk_184 0 104 (dk_at dksX4_addMachine_0 2 rfl rfl)
theorem dX4_addMachine_5 : decode cX4_addMachine 5 = .ok (.ifCond .eq 13, 3) := dk_153 0 13 (dk_at dksX4_addMachine_0 5 rfl rfl)
theorem dX4_addMachine_8 : decode cX4_addMachine 8 = .ok (.iload_n 2, 1) := dk_28 (dk_at dksX4_addMachine_0 8 rfl rfl)
theorem dX4_addMachine_9 : decode cX4_addMachine 9 = .ok (.iconst 0, 1) := dk_3 (dk_at dksX4_addMachine_0 9 rfl rfl)
theorem dX4_addMachine_10 : decode cX4_addMachine 10 = .ok (.bipush 30, 2) := dk_16 30 (dk_at dksX4_addMachine_0 10 rfl rfl)
theorem dX4_addMachine_12 : decode cX4_addMachine 12 = .ok (.invokestatic 91, 3) := dk_184 0 91 (dk_at dksX4_addMachine_0 12 rfl rfl)
theorem dX4_addMachine_15 : decode cX4_addMachine 15 = .ok (.ifCond .ne 7, 3) := dk_154 0 7 (dk_at dksX4_addMachine_0 15 rfl rfl)
theorem dX4_addMachine_18 : decode cX4_addMachine 18 = .ok (.iconst 1, 1) := dk_4 (dk_at dksX4_addMachine_0 18 rfl rfl)
theorem dX4_addMachine_19 : decode cX4_addMachine 19 = .ok (.goto 17, 3) := dk_167 0 17 (dk_at dksX4_addMachine_0 19 rfl rfl)
theorem dX4_addMachine_22 : decode cX4_addMachine 22 = .ok (.aload_n 0, 1) := dk_42 (dk_at dksX4_addMachine_0 22 rfl rfl)
theorem dX4_addMachine_23 : decode cX4_addMachine 23 = .ok (.getfield 98, 3) := dk_180 0 98 (dk_at dksX4_addMachine_1 0 rfl rfl)
theorem dX4_addMachine_26 : decode cX4_addMachine 26 = .ok (.bipush 6, 2) := dk_16 6 (dk_at dksX4_addMachine_1 3 rfl rfl)
theorem dX4_addMachine_28 : decode cX4_addMachine 28 = .ok (.if_icmp .ne 7, 3) := dk_160 0 7 (dk_at dksX4_addMachine_1 5 rfl rfl)
theorem dX4_addMachine_31 : decode cX4_addMachine 31 = .ok (.iconst 2, 1) := dk_5 (dk_at dksX4_addMachine_1 8 rfl rfl)
theorem dX4_addMachine_32 : decode cX4_addMachine 32 = .ok (.goto 4, 3) := dk_167 0 4 (dk_at dksX4_addMachine_1 9 rfl rfl)
theorem dX4_addMachine_35 : decode cX4_addMachine 35 = .ok (.iconst 0, 1) := dk_3 (dk_at dksX4_addMachine_1 12 rfl rfl)
theorem dX4_addMachine_36 : decode cX4_addMachine 36 = .ok (.putfield 87, 3) := dk_181 0 87 (dk_at dksX4_addMachine_1 13 rfl rfl)
theorem dX4_addMachine_39 : decode cX4_addMachine 39 = .ok (.aload_n 0, 1) := dk_42 (dk_at dksX4_addMachine_1 16 rfl rfl)
theorem dX4_addMachine_40 : decode cX4_addMachine 40 = .ok (.getfield 87, 3) := dk_180 0 87 (dk_at dksX4_addMachine_1 17 rfl rfl)
theorem dX4_addMachine_43 : decode cX4_addMachine 43 = .ok (.ifCond .le 5, 3) := dk_158 0 5 (dk_at dksX4_addMachine_1 20 rfl rfl)
theorem dX4_addMachine_46 : decode cX4_addMachine 46 = .ok (.iconst 0, 1) := dk_3 (dk_at dksX4_addMachine_1 23 rfl rfl)
theorem dX4_addMachine_47 : decode cX4_addMachine 47 = .ok (.ireturn, 1) := dk_172 (dk_at dksX4_addMachine_2 0 rfl rfl)
theorem dX4_addMachine_48 : decode cX4_addMachine 48 = .ok (.aload_n 0, 1) := dk_42 (dk_at dksX4_addMachine_2 1 rfl rfl)
theorem dX4_addMachine_49 : decode cX4_addMachine 49 = .ok (.getfield 9, 3) := dk_180 0 9 (dk_at dksX4_addMachine_2 2 rfl rfl)
theorem dX4_addMachine_52 : decode cX4_addMachine 52 = .ok (.aload_n 0, 1) := dk_42 (dk_at dksX4_addMachine_2 5 rfl rfl)
theorem dX4_addMachine_53 : decode cX4_addMachine 53 = .ok (.getfield 98, 3) := dk_180 0 98 (dk_at dksX4_addMachine_2 6 rfl rfl)
theorem dX4_addMachine_56 : decode cX4_addMachine 56 = .ok (.iload_n 1, 1) := dk_27 (dk_at dksX4_addMachine_2 9 rfl rfl)
theorem dX4_addMachine_57 : decode cX4_addMachine 57 = .ok (.iastore, 1) := dk_79 (dk_at dksX4_addMachine_2 10 rfl rfl)
theorem dX4_addMachine_58 : decode cX4_addMachine 58 = .ok (.aload_n 0, 1) := dk_42 (dk_at dksX4_addMachine_2 11 rfl rfl)
theorem dX4_addMachine_59 : decode cX4_addMachine 59 = .ok (.getfield 13, 3) := dk_180 0 13 (dk_at dksX4_addMachine_2 12 rfl rfl)
theorem dX4_addMachine_62 : decode cX4_addMachine 62 = .ok (.aload_n 0, 1) := dk_42 (dk_at dksX4_addMachine_2 15 rfl rfl)
theorem dX4_addMachine_63 : decode cX4_addMachine 63 = .ok (.getfield 98, 3) := dk_180 0 98 (dk_at dksX4_addMachine_2 16 rfl rfl)
theorem dX4_addMachine_66 : decode cX4_addMachine 66 = .ok (.iload_n 2, 1) := dk_28 (dk_at dksX4_addMachine_2 19 rfl rfl)
theorem dX4_addMachine_67 : decode cX4_addMachine 67 = .ok (.iastore, 1) := dk_79 (dk_at dksX4_addMachine_2 20 rfl rfl)
theorem dX4_addMachine_68 : decode cX4_addMachine 68 = .ok (.aload_n 0, 1) := dk_42 (dk_at dksX4_addMachine_2 21 rfl rfl)
theorem dX4_addMachine_69 : decode cX4_addMachine 69 = .ok (.dup, 1) := dk_89 (dk_at dksX4_addMachine_2 22 rfl rfl)
theorem dX4_addMachine_70 : decode cX4_addMachine 70 = .ok (.getfield 98, 3) := dk_180 0 98 (dk_at dksX4_addMachine_3 0 rfl rfl)
theorem dX4_addMachine_73 : decode cX4_addMachine 73 = .ok (.iconst 1, 1) := dk_4 (dk_at dksX4_addMachine_3 3 rfl rfl)
theorem dX4_addMachine_74 : decode cX4_addMachine 74 = .ok (.iadd, 1) := dk_96 (dk_at dksX4_addMachine_3 4 rfl rfl)
theorem dX4_addMachine_75 : decode cX4_addMachine 75 = .ok (.putfield 98, 3) := dk_181 0 98 (dk_at dksX4_addMachine_3 5 rfl rfl)
theorem dX4_addMachine_78 : decode cX4_addMachine 78 = .ok (.aload_n 0, 1) := dk_42 (dk_at dksX4_addMachine_3 8 rfl rfl)
theorem dX4_addMachine_79 : decode cX4_addMachine 79 = .ok (.getfield 98, 3) := dk_180 0 98 (dk_at dksX4_addMachine_3 9 rfl rfl)
theorem dX4_addMachine_82 : decode cX4_addMachine 82 = .ok (.iconst 1, 1) := dk_4 (dk_at dksX4_addMachine_3 12 rfl rfl)
theorem dX4_addMachine_83 : decode cX4_addMachine 83 = .ok (.isub, 1) := dk_100 (dk_at dksX4_addMachine_3 13 rfl rfl)
theorem dX4_addMachine_84 : decode cX4_addMachine 84 = .ok (.ireturn, 1) := dk_172 (dk_at dksX4_addMachine_3 14 rfl rfl)
abbrev cX4_isKind : ByteArray := prog_14_method_5_code
def yX4_isKind : MethodName := ⟨RX4, "isKind", "(I)Z"⟩
def dkwX4_isKind_0 : List UInt8 := [26, 3, 6, 184, 0, 91, 172]
abbrev dktX4_isKind_0 : List UInt8 := dkwX4_isKind_0 ++ []
theorem dksX4_isKind_0 : cX4_isKind.data.toList.drop 0 = dktX4_isKind_0 := by decide +kernel
theorem dX4_isKind_0 : decode cX4_isKind 0 = .ok (.iload_n 0, 1) := dk_26 (dk_at dksX4_isKind_0 0 rfl rfl)
theorem dX4_isKind_1 : decode cX4_isKind 1 = .ok (.iconst 0, 1) := dk_3 (dk_at dksX4_isKind_0 1 rfl rfl)
theorem dX4_isKind_2 : decode cX4_isKind 2 = .ok (.iconst 3, 1) := dk_6 (dk_at dksX4_isKind_0 2 rfl rfl)
theorem dX4_isKind_3 : decode cX4_isKind 3 = .ok (.invokestatic 91, 3) := dk_184 0 91 (dk_at dksX4_isKind_0 3 rfl rfl)
theorem dX4_isKind_6 : decode cX4_isKind 6 = .ok (.ireturn, 1) := dk_172 (dk_at dksX4_isKind_0 6 rfl rfl)
abbrev cX4_in : ByteArray := prog_14_method_4_code
def yX4_in : MethodName := ⟨RX4, "in", "(III)Z"⟩
def dkwX4_in_0 : List UInt8 := [26, 27, 161, 0, 12, 26, 28, 163, 0, 7, 4, 167, 0, 4, 3, 172]
abbrev dktX4_in_0 : List UInt8 := dkwX4_in_0 ++ []
theorem dksX4_in_0 : cX4_in.data.toList.drop 0 = dktX4_in_0 := by decide +kernel
theorem dX4_in_0 : decode cX4_in 0 = .ok (.iload_n 0, 1) := dk_26 (dk_at dksX4_in_0 0 rfl rfl)
theorem dX4_in_1 : decode cX4_in 1 = .ok (.iload_n 1, 1) := dk_27 (dk_at dksX4_in_0 1 rfl rfl)
theorem dX4_in_2 : decode cX4_in 2 = .ok (.if_icmp .lt 12, 3) := dk_161 0 12 (dk_at dksX4_in_0 2 rfl rfl)
theorem dX4_in_5 : decode cX4_in 5 = .ok (.iload_n 0, 1) := dk_26 (dk_at dksX4_in_0 5 rfl rfl)
theorem dX4_in_6 : decode cX4_in 6 = .ok (.iload_n 2, 1) := dk_28 (dk_at dksX4_in_0 6 rfl rfl)
theorem dX4_in_7 : decode cX4_in 7 = .ok (.if_icmp .gt 7, 3) := dk_163 0 7 (dk_at dksX4_in_0 7 rfl rfl)
theorem dX4_in_10 : decode cX4_in 10 = .ok (.iconst 1, 1) := dk_4 (dk_at dksX4_in_0 10 rfl rfl)
theorem dX4_in_11 : decode cX4_in 11 = .ok (.goto 4, 3) := dk_167 0 4 (dk_at dksX4_in_0 11 rfl rfl)
theorem dX4_in_14 : decode cX4_in 14 = .ok (.iconst 0, 1) := dk_3 (dk_at dksX4_in_0 14 rfl rfl)
theorem dX4_in_15 : decode cX4_in 15 = .ok (.ireturn, 1) := dk_172 (dk_at dksX4_in_0 15 rfl rfl)
abbrev cX4_addMember : ByteArray := prog_14_method_10_code
def yX4_addMember : MethodName := ⟨RX4, "addMember", "()I"⟩
def dkwX4_addMember_2 : List UInt8 := [180, 0, 95, 4, 96, 181, 0, 95, 42, 180, 0, 95, 4, 100, 172]
abbrev dktX4_addMember_2 : List UInt8 := dkwX4_addMember_2 ++ []
def dkwX4_addMember_1 : List UInt8 := [162, 0, 21, 42, 180, 0, 18, 42, 180, 0, 95, 50, 27, 2, 79, 132, 1, 1, 167, 255, 236, 42, 89]
abbrev dktX4_addMember_1 : List UInt8 := dkwX4_addMember_1 ++ dktX4_addMember_2
def dkwX4_addMember_0 : List UInt8 := [42, 180, 0, 95, 16, 10, 160, 0, 9, 42, 4, 182, 0, 108, 172, 42, 3, 181, 0, 87, 3, 60, 27, 7]
abbrev dktX4_addMember_0 : List UInt8 := dkwX4_addMember_0 ++ dktX4_addMember_1
theorem dksX4_addMember_0 : cX4_addMember.data.toList.drop 0 = dktX4_addMember_0 := by decide +kernel
theorem dksX4_addMember_1 : cX4_addMember.data.toList.drop 24 = dktX4_addMember_1 := dk_seg dksX4_addMember_0 24 rfl rfl
theorem dksX4_addMember_2 : cX4_addMember.data.toList.drop 47 = dktX4_addMember_2 := dk_seg dksX4_addMember_1 23 rfl rfl
theorem dX4_addMember_0 : decode cX4_addMember 0 = .ok (.aload_n 0, 1) := dk_42 (dk_at dksX4_addMember_0 0 rfl rfl)
theorem dX4_addMember_1 : decode cX4_addMember 1 = .ok (.getfield 95, 3) := dk_180 0 95 (dk_at dksX4_addMember_0 1 rfl rfl)
theorem dX4_addMember_4 : decode cX4_addMember 4 = .ok (.bipush 10, 2) := dk_16 10 (dk_at dksX4_addMember_0 4 rfl rfl)
theorem dX4_addMember_6 : decode cX4_addMember 6 = .ok (.if_icmp .ne 9, 3) := dk_160 0 9 (dk_at dksX4_addMember_0 6 rfl rfl)
theorem dX4_addMember_9 : decode cX4_addMember 9 = .ok (.aload_n 0, 1) := dk_42 (dk_at dksX4_addMember_0 9 rfl rfl)
theorem dX4_addMember_10 : decode cX4_addMember 10 = .ok (.iconst 1, 1) := dk_4 (dk_at dksX4_addMember_0 10 rfl rfl)
theorem dX4_addMember_11 : decode cX4_addMember 11 = .ok (.invokevirtual 108, 3) := dk_182 0 108 (dk_at dksX4_addMember_0 11 rfl rfl)
theorem dX4_addMember_14 : decode cX4_addMember 14 = .ok (.ireturn, 1) := dk_172 (dk_at dksX4_addMember_0 14 rfl rfl)
theorem dX4_addMember_15 : decode cX4_addMember 15 = .ok (.aload_n 0, 1) := dk_42 (dk_at dksX4_addMember_0 15 rfl rfl)
theorem dX4_addMember_16 : decode cX4_addMember 16 = .ok (.iconst 0, 1) := dk_3 (dk_at dksX4_addMember_0 16 rfl rfl)
theorem dX4_addMember_17 : decode cX4_addMember 17 = .ok (.putfield 87, 3) := dk_181 0 87 (dk_at dksX4_addMember_0 17 rfl rfl)
theorem dX4_addMember_20 : decode cX4_addMember 20 = .ok (.iconst 0, 1) := dk_3 (dk_at dksX4_addMember_0 20 rfl rfl)
theorem dX4_addMember_21 : decode cX4_addMember 21 = .ok (.istore_n 1, 1) := dk_60 (dk_at dksX4_addMember_0 21 rfl rfl)
theorem dX4_addMember_22 : decode cX4_addMember 22 = .ok (.iload_n 1, 1) := dk_27 (dk_at dksX4_addMember_0 22 rfl rfl)
theorem dX4_addMember_23 : decode cX4_addMember 23 = .ok (.iconst 4, 1) := dk_7 (dk_at dksX4_addMember_0 23 rfl rfl)
theorem dX4_addMember_24 : decode cX4_addMember 24 = .ok (.if_icmp .ge 21, 3) := dk_162 0 21 (dk_at dksX4_addMember_1 0 rfl rfl)
theorem dX4_addMember_27 : decode cX4_addMember 27 = .ok (.aload_n 0, 1) := dk_42 (dk_at dksX4_addMember_1 3 rfl rfl)
theorem dX4_addMember_28 : decode cX4_addMember 28 = .ok (.getfield 18, 3) := dk_180 0 18 (dk_at dksX4_addMember_1 4 rfl rfl)
theorem dX4_addMember_31 : decode cX4_addMember 31 = .ok (.aload_n 0, 1) := dk_42 (dk_at dksX4_addMember_1 7 rfl rfl)
theorem dX4_addMember_32 : decode cX4_addMember 32 = .ok (.getfield 95, 3) := dk_180 0 95 (dk_at dksX4_addMember_1 8 rfl rfl)
theorem dX4_addMember_35 : decode cX4_addMember 35 = .ok (.aaload, 1) := dk_50 (dk_at dksX4_addMember_1 11 rfl rfl)
theorem dX4_addMember_36 : decode cX4_addMember 36 = .ok (.iload_n 1, 1) := dk_27 (dk_at dksX4_addMember_1 12 rfl rfl)
theorem dX4_addMember_37 : decode cX4_addMember 37 = .ok (.iconst (-1), 1) := dk_2 (dk_at dksX4_addMember_1 13 rfl rfl)
theorem dX4_addMember_38 : decode cX4_addMember 38 = .ok (.iastore, 1) := dk_79 (dk_at dksX4_addMember_1 14 rfl rfl)
theorem dX4_addMember_39 : decode cX4_addMember 39 = .ok (.iinc 1 1, 3) := dk_132 1 1 (dk_at dksX4_addMember_1 15 rfl rfl)
theorem dX4_addMember_42 : decode cX4_addMember 42 = .ok (.goto (-20), 3) := dk_167 255 236 (dk_at dksX4_addMember_1 18 rfl rfl)
theorem dX4_addMember_45 : decode cX4_addMember 45 = .ok (.aload_n 0, 1) := dk_42 (dk_at dksX4_addMember_1 21 rfl rfl)
theorem dX4_addMember_46 : decode cX4_addMember 46 = .ok (.dup, 1) := dk_89 (dk_at dksX4_addMember_1 22 rfl rfl)
theorem dX4_addMember_47 : decode cX4_addMember 47 = .ok (.getfield 95, 3) := dk_180 0 95 (dk_at dksX4_addMember_2 0 rfl rfl)
theorem dX4_addMember_50 : decode cX4_addMember 50 = .ok (.iconst 1, 1) := dk_4 (dk_at dksX4_addMember_2 3 rfl rfl)
theorem dX4_addMember_51 : decode cX4_addMember 51 = .ok (.iadd, 1) := dk_96 (dk_at dksX4_addMember_2 4 rfl rfl)
theorem dX4_addMember_52 : decode cX4_addMember 52 = .ok (.putfield 95, 3) := dk_181 0 95 (dk_at dksX4_addMember_2 5 rfl rfl)
theorem dX4_addMember_55 : decode cX4_addMember 55 = .ok (.aload_n 0, 1) := dk_42 (dk_at dksX4_addMember_2 8 rfl rfl)
theorem dX4_addMember_56 : decode cX4_addMember 56 = .ok (.getfield 95, 3) := dk_180 0 95 (dk_at dksX4_addMember_2 9 rfl rfl)
theorem dX4_addMember_59 : decode cX4_addMember 59 = .ok (.iconst 1, 1) := dk_4 (dk_at dksX4_addMember_2 12 rfl rfl)
theorem dX4_addMember_60 : decode cX4_addMember 60 = .ok (.isub, 1) := dk_100 (dk_at dksX4_addMember_2 13 rfl rfl)
theorem dX4_addMember_61 : decode cX4_addMember 61 = .ok (.ireturn, 1) := dk_172 (dk_at dksX4_addMember_2 14 rfl rfl)
abbrev cX4_raises : ByteArray := prog_14_method_3_code
def yX4_raises : MethodName := ⟨RX4, "raises", "(I)I"⟩
def dkwX4_raises_0 : List UInt8 := [42, 27, 181, 0, 87, 3, 172]
abbrev dktX4_raises_0 : List UInt8 := dkwX4_raises_0 ++ []
theorem dksX4_raises_0 : cX4_raises.data.toList.drop 0 = dktX4_raises_0 := by decide +kernel
theorem dX4_raises_0 : decode cX4_raises 0 = .ok (.aload_n 0, 1) := dk_42 (dk_at dksX4_raises_0 0 rfl rfl)
theorem dX4_raises_1 : decode cX4_raises 1 = .ok (.iload_n 1, 1) := dk_27 (dk_at dksX4_raises_0 1 rfl rfl)
theorem dX4_raises_2 : decode cX4_raises 2 = .ok (.putfield 87, 3) := dk_181 0 87 (dk_at dksX4_raises_0 2 rfl rfl)
theorem dX4_raises_5 : decode cX4_raises 5 = .ok (.iconst 0, 1) := dk_3 (dk_at dksX4_raises_0 5 rfl rfl)
theorem dX4_raises_6 : decode cX4_raises 6 = .ok (.ireturn, 1) := dk_172 (dk_at dksX4_raises_0 6 rfl rfl)
abbrev cX4_day : ByteArray := prog_14_method_11_code
def yX4_day : MethodName := ⟨RX4, "day", "()I"⟩
def dkwX4_day_0 : List UInt8 := [42, 3, 181, 0, 87, 42, 180, 0, 112, 172]
abbrev dktX4_day_0 : List UInt8 := dkwX4_day_0 ++ []
theorem dksX4_day_0 : cX4_day.data.toList.drop 0 = dktX4_day_0 := by decide +kernel
theorem dX4_day_0 : decode cX4_day 0 = .ok (.aload_n 0, 1) := dk_42 (dk_at dksX4_day_0 0 rfl rfl)
theorem dX4_day_1 : decode cX4_day 1 = .ok (.iconst 0, 1) := dk_3 (dk_at dksX4_day_0 1 rfl rfl)
theorem dX4_day_2 : decode cX4_day 2 = .ok (.putfield 87, 3) := dk_181 0 87 (dk_at dksX4_day_0 2 rfl rfl)
theorem dX4_day_5 : decode cX4_day 5 = .ok (.aload_n 0, 1) := dk_42 (dk_at dksX4_day_0 5 rfl rfl)
theorem dX4_day_6 : decode cX4_day 6 = .ok (.getfield 112, 3) := dk_180 0 112 (dk_at dksX4_day_0 6 rfl rfl)
theorem dX4_day_9 : decode cX4_day 9 = .ok (.ireturn, 1) := dk_172 (dk_at dksX4_day_0 9 rfl rfl)
abbrev cX4_addNeed : ByteArray := prog_14_method_15_code
def yX4_addNeed : MethodName := ⟨RX4, "addNeed", "(II)Z"⟩
def dkwX4_addNeed_7 : List UInt8 := [180, 0, 49, 21, 4, 52, 85, 132, 4, 1, 167, 255, 161, 42, 182, 0, 125, 29, 172]
abbrev dktX4_addNeed_7 : List UInt8 := dkwX4_addNeed_7 ++ []
def dkwX4_addNeed_6 : List UInt8 := [167, 0, 4, 3, 54, 5, 42, 180, 0, 49, 21, 4, 21, 5, 153, 0, 8, 16, 99, 167, 0, 10, 42]
abbrev dktX4_addNeed_6 : List UInt8 := dkwX4_addNeed_6 ++ dktX4_addNeed_7
def dkwX4_addNeed_5 : List UInt8 := [46, 42, 180, 0, 33, 21, 4, 46, 42, 180, 0, 36, 21, 4, 46, 182, 0, 122, 154, 0, 7, 4]
abbrev dktX4_addNeed_5 : List UInt8 := dkwX4_addNeed_5 ++ dktX4_addNeed_6
def dkwX4_addNeed_4 : List UInt8 := [16, 119, 159, 0, 15, 42, 180, 0, 49, 21, 4, 52, 16, 98, 160, 0, 35, 42, 42, 180, 0, 30, 21, 4]
abbrev dktX4_addNeed_4 : List UInt8 := dkwX4_addNeed_4 ++ dktX4_addNeed_5
def dkwX4_addNeed_3 : List UInt8 := [50, 28, 4, 84, 3, 54, 4, 21, 4, 42, 180, 0, 101, 162, 0, 92, 42, 180, 0, 49, 21, 4, 52]
abbrev dktX4_addNeed_3 : List UInt8 := dkwX4_addNeed_3 ++ dktX4_addNeed_4
def dkwX4_addNeed_2 : List UInt8 := [3, 172, 42, 180, 0, 27, 27, 50, 28, 51, 154, 0, 7, 4, 167, 0, 4, 3, 62, 42, 180, 0, 27, 27]
abbrev dktX4_addNeed_2 : List UInt8 := dkwX4_addNeed_2 ++ dktX4_addNeed_3
def dkwX4_addNeed_1 : List UInt8 := [42, 28, 27, 182, 0, 115, 153, 0, 7, 5, 167, 0, 4, 3, 181, 0, 87, 42, 180, 0, 87, 158, 0, 5]
abbrev dktX4_addNeed_1 : List UInt8 := dkwX4_addNeed_1 ++ dktX4_addNeed_2
def dkwX4_addNeed_0 : List UInt8 := [42, 27, 184, 0, 104, 153, 0, 15, 28, 184, 0, 104, 153, 0, 8, 27, 28, 160, 0, 7, 4, 167, 0, 17]
abbrev dktX4_addNeed_0 : List UInt8 := dkwX4_addNeed_0 ++ dktX4_addNeed_1
theorem dksX4_addNeed_0 : cX4_addNeed.data.toList.drop 0 = dktX4_addNeed_0 := by decide +kernel
theorem dksX4_addNeed_1 : cX4_addNeed.data.toList.drop 24 = dktX4_addNeed_1 := dk_seg dksX4_addNeed_0 24 rfl rfl
theorem dksX4_addNeed_2 : cX4_addNeed.data.toList.drop 48 = dktX4_addNeed_2 := dk_seg dksX4_addNeed_1 24 rfl rfl
theorem dksX4_addNeed_3 : cX4_addNeed.data.toList.drop 72 = dktX4_addNeed_3 := dk_seg dksX4_addNeed_2 24 rfl rfl
theorem dksX4_addNeed_4 : cX4_addNeed.data.toList.drop 95 = dktX4_addNeed_4 := dk_seg dksX4_addNeed_3 23 rfl rfl
theorem dksX4_addNeed_5 : cX4_addNeed.data.toList.drop 119 = dktX4_addNeed_5 := dk_seg dksX4_addNeed_4 24 rfl rfl
theorem dksX4_addNeed_6 : cX4_addNeed.data.toList.drop 141 = dktX4_addNeed_6 := dk_seg dksX4_addNeed_5 22 rfl rfl
theorem dksX4_addNeed_7 : cX4_addNeed.data.toList.drop 164 = dktX4_addNeed_7 := dk_seg dksX4_addNeed_6 23 rfl rfl
theorem dX4_addNeed_0 : decode cX4_addNeed 0 = .ok (.aload_n 0, 1) := dk_42 (dk_at dksX4_addNeed_0 0 rfl rfl)
theorem dX4_addNeed_1 : decode cX4_addNeed 1 = .ok (.iload_n 1, 1) := dk_27 (dk_at dksX4_addNeed_0 1 rfl rfl)
theorem dX4_addNeed_2 : decode cX4_addNeed 2 = .ok (.invokestatic 104, 3) := dk_184 0 104 (dk_at dksX4_addNeed_0 2 rfl rfl)
theorem dX4_addNeed_5 : decode cX4_addNeed 5 = .ok (.ifCond .eq 15, 3) := dk_153 0 15 (dk_at dksX4_addNeed_0 5 rfl rfl)
theorem dX4_addNeed_8 : decode cX4_addNeed 8 = .ok (.iload_n 2, 1) := dk_28 (dk_at dksX4_addNeed_0 8 rfl rfl)
theorem dX4_addNeed_9 : decode cX4_addNeed 9 = .ok (.invokestatic 104, 3) := dk_184 0 104 (dk_at dksX4_addNeed_0 9 rfl rfl)
theorem dX4_addNeed_12 : decode cX4_addNeed 12 = .ok (.ifCond .eq 8, 3) := dk_153 0 8 (dk_at dksX4_addNeed_0 12 rfl rfl)
theorem dX4_addNeed_15 : decode cX4_addNeed 15 = .ok (.iload_n 1, 1) := dk_27 (dk_at dksX4_addNeed_0 15 rfl rfl)
theorem dX4_addNeed_16 : decode cX4_addNeed 16 = .ok (.iload_n 2, 1) := dk_28 (dk_at dksX4_addNeed_0 16 rfl rfl)
theorem dX4_addNeed_17 : decode cX4_addNeed 17 = .ok (.if_icmp .ne 7, 3) := dk_160 0 7 (dk_at dksX4_addNeed_0 17 rfl rfl)
theorem dX4_addNeed_20 : decode cX4_addNeed 20 = .ok (.iconst 1, 1) := dk_4 (dk_at dksX4_addNeed_0 20 rfl rfl)
theorem dX4_addNeed_21 : decode cX4_addNeed 21 = .ok (.goto 17, 3) := dk_167 0 17 (dk_at dksX4_addNeed_0 21 rfl rfl)
theorem dX4_addNeed_24 : decode cX4_addNeed 24 = .ok (.aload_n 0, 1) := dk_42 (dk_at dksX4_addNeed_1 0 rfl rfl)
theorem dX4_addNeed_25 : decode cX4_addNeed 25 = .ok (.iload_n 2, 1) := dk_28 (dk_at dksX4_addNeed_1 1 rfl rfl)
theorem dX4_addNeed_26 : decode cX4_addNeed 26 = .ok (.iload_n 1, 1) := dk_27 (dk_at dksX4_addNeed_1 2 rfl rfl)
theorem dX4_addNeed_27 : decode cX4_addNeed 27 = .ok (.invokevirtual 115, 3) := dk_182 0 115 (dk_at dksX4_addNeed_1 3 rfl rfl)
theorem dX4_addNeed_30 : decode cX4_addNeed 30 = .ok (.ifCond .eq 7, 3) := dk_153 0 7 (dk_at dksX4_addNeed_1 6 rfl rfl)
theorem dX4_addNeed_33 : decode cX4_addNeed 33 = .ok (.iconst 2, 1) := dk_5 (dk_at dksX4_addNeed_1 9 rfl rfl)
theorem dX4_addNeed_34 : decode cX4_addNeed 34 = .ok (.goto 4, 3) := dk_167 0 4 (dk_at dksX4_addNeed_1 10 rfl rfl)
theorem dX4_addNeed_37 : decode cX4_addNeed 37 = .ok (.iconst 0, 1) := dk_3 (dk_at dksX4_addNeed_1 13 rfl rfl)
theorem dX4_addNeed_38 : decode cX4_addNeed 38 = .ok (.putfield 87, 3) := dk_181 0 87 (dk_at dksX4_addNeed_1 14 rfl rfl)
theorem dX4_addNeed_41 : decode cX4_addNeed 41 = .ok (.aload_n 0, 1) := dk_42 (dk_at dksX4_addNeed_1 17 rfl rfl)
theorem dX4_addNeed_42 : decode cX4_addNeed 42 = .ok (.getfield 87, 3) := dk_180 0 87 (dk_at dksX4_addNeed_1 18 rfl rfl)
theorem dX4_addNeed_45 : decode cX4_addNeed 45 = .ok (.ifCond .le 5, 3) := dk_158 0 5 (dk_at dksX4_addNeed_1 21 rfl rfl)
theorem dX4_addNeed_48 : decode cX4_addNeed 48 = .ok (.iconst 0, 1) := dk_3 (dk_at dksX4_addNeed_2 0 rfl rfl)
theorem dX4_addNeed_49 : decode cX4_addNeed 49 = .ok (.ireturn, 1) := dk_172 (dk_at dksX4_addNeed_2 1 rfl rfl)
theorem dX4_addNeed_50 : decode cX4_addNeed 50 = .ok (.aload_n 0, 1) := dk_42 (dk_at dksX4_addNeed_2 2 rfl rfl)
theorem dX4_addNeed_51 : decode cX4_addNeed 51 = .ok (.getfield 27, 3) := dk_180 0 27 (dk_at dksX4_addNeed_2 3 rfl rfl)
theorem dX4_addNeed_54 : decode cX4_addNeed 54 = .ok (.iload_n 1, 1) := dk_27 (dk_at dksX4_addNeed_2 6 rfl rfl)
theorem dX4_addNeed_55 : decode cX4_addNeed 55 = .ok (.aaload, 1) := dk_50 (dk_at dksX4_addNeed_2 7 rfl rfl)
theorem dX4_addNeed_56 : decode cX4_addNeed 56 = .ok (.iload_n 2, 1) := dk_28 (dk_at dksX4_addNeed_2 8 rfl rfl)
theorem dX4_addNeed_57 : decode cX4_addNeed 57 = .ok (.baload, 1) := dk_51 (dk_at dksX4_addNeed_2 9 rfl rfl)
theorem dX4_addNeed_58 : decode cX4_addNeed 58 = .ok (.ifCond .ne 7, 3) := dk_154 0 7 (dk_at dksX4_addNeed_2 10 rfl rfl)
theorem dX4_addNeed_61 : decode cX4_addNeed 61 = .ok (.iconst 1, 1) := dk_4 (dk_at dksX4_addNeed_2 13 rfl rfl)
theorem dX4_addNeed_62 : decode cX4_addNeed 62 = .ok (.goto 4, 3) := dk_167 0 4 (dk_at dksX4_addNeed_2 14 rfl rfl)
theorem dX4_addNeed_65 : decode cX4_addNeed 65 = .ok (.iconst 0, 1) := dk_3 (dk_at dksX4_addNeed_2 17 rfl rfl)
theorem dX4_addNeed_66 : decode cX4_addNeed 66 = .ok (.istore_n 3, 1) := dk_62 (dk_at dksX4_addNeed_2 18 rfl rfl)
theorem dX4_addNeed_67 : decode cX4_addNeed 67 = .ok (.aload_n 0, 1) := dk_42 (dk_at dksX4_addNeed_2 19 rfl rfl)
theorem dX4_addNeed_68 : decode cX4_addNeed 68 = .ok (.getfield 27, 3) := dk_180 0 27 (dk_at dksX4_addNeed_2 20 rfl rfl)
theorem dX4_addNeed_71 : decode cX4_addNeed 71 = .ok (.iload_n 1, 1) := dk_27 (dk_at dksX4_addNeed_2 23 rfl rfl)
theorem dX4_addNeed_72 : decode cX4_addNeed 72 = .ok (.aaload, 1) := dk_50 (dk_at dksX4_addNeed_3 0 rfl rfl)
theorem dX4_addNeed_73 : decode cX4_addNeed 73 = .ok (.iload_n 2, 1) := dk_28 (dk_at dksX4_addNeed_3 1 rfl rfl)
theorem dX4_addNeed_74 : decode cX4_addNeed 74 = .ok (.iconst 1, 1) := dk_4 (dk_at dksX4_addNeed_3 2 rfl rfl)
theorem dX4_addNeed_75 : decode cX4_addNeed 75 = .ok (.bastore, 1) := dk_84 (dk_at dksX4_addNeed_3 3 rfl rfl)
theorem dX4_addNeed_76 : decode cX4_addNeed 76 = .ok (.iconst 0, 1) := dk_3 (dk_at dksX4_addNeed_3 4 rfl rfl)
theorem dX4_addNeed_77 : decode cX4_addNeed 77 = .ok (.istore 4, 2) := dk_54 4 (dk_at dksX4_addNeed_3 5 rfl rfl)
theorem dX4_addNeed_79 : decode cX4_addNeed 79 = .ok (.iload 4, 2) := dk_21 4 (dk_at dksX4_addNeed_3 7 rfl rfl)
theorem dX4_addNeed_81 : decode cX4_addNeed 81 = .ok (.aload_n 0, 1) := dk_42 (dk_at dksX4_addNeed_3 9 rfl rfl)
theorem dX4_addNeed_82 : decode cX4_addNeed 82 = .ok (.getfield 101, 3) := dk_180 0 101 (dk_at dksX4_addNeed_3 10 rfl rfl)
theorem dX4_addNeed_85 : decode cX4_addNeed 85 = .ok (.if_icmp .ge 92, 3) := dk_162 0 92 (dk_at dksX4_addNeed_3 13 rfl rfl)
theorem dX4_addNeed_88 : decode cX4_addNeed 88 = .ok (.aload_n 0, 1) := dk_42 (dk_at dksX4_addNeed_3 16 rfl rfl)
theorem dX4_addNeed_89 : decode cX4_addNeed 89 = .ok (.getfield 49, 3) := dk_180 0 49 (dk_at dksX4_addNeed_3 17 rfl rfl)
theorem dX4_addNeed_92 : decode cX4_addNeed 92 = .ok (.iload 4, 2) := dk_21 4 (dk_at dksX4_addNeed_3 20 rfl rfl)
theorem dX4_addNeed_94 : decode cX4_addNeed 94 = .ok (.caload, 1) := dk_52 (dk_at dksX4_addNeed_3 22 rfl rfl)
theorem dX4_addNeed_95 : decode cX4_addNeed 95 = .ok (.bipush 119, 2) := dk_16 119 (dk_at dksX4_addNeed_4 0 rfl rfl)
theorem dX4_addNeed_97 : decode cX4_addNeed 97 = .ok (.if_icmp .eq 15, 3) := dk_159 0 15 (dk_at dksX4_addNeed_4 2 rfl rfl)
theorem dX4_addNeed_100 : decode cX4_addNeed 100 = .ok (.aload_n 0, 1) := dk_42 (dk_at dksX4_addNeed_4 5 rfl rfl)
theorem dX4_addNeed_101 : decode cX4_addNeed 101 = .ok (.getfield 49, 3) := dk_180 0 49 (dk_at dksX4_addNeed_4 6 rfl rfl)
theorem dX4_addNeed_104 : decode cX4_addNeed 104 = .ok (.iload 4, 2) := dk_21 4 (dk_at dksX4_addNeed_4 9 rfl rfl)
theorem dX4_addNeed_106 : decode cX4_addNeed 106 = .ok (.caload, 1) := dk_52 (dk_at dksX4_addNeed_4 11 rfl rfl)
theorem dX4_addNeed_107 : decode cX4_addNeed 107 = .ok (.bipush 98, 2) := dk_16 98 (dk_at dksX4_addNeed_4 12 rfl rfl)
theorem dX4_addNeed_109 : decode cX4_addNeed 109 = .ok (.if_icmp .ne 35, 3) := dk_160 0 35 (dk_at dksX4_addNeed_4 14 rfl rfl)
theorem dX4_addNeed_112 : decode cX4_addNeed 112 = .ok (.aload_n 0, 1) := dk_42 (dk_at dksX4_addNeed_4 17 rfl rfl)
theorem dX4_addNeed_113 : decode cX4_addNeed 113 = .ok (.aload_n 0, 1) := dk_42 (dk_at dksX4_addNeed_4 18 rfl rfl)
theorem dX4_addNeed_114 : decode cX4_addNeed 114 = .ok (.getfield 30, 3) := dk_180 0 30 (dk_at dksX4_addNeed_4 19 rfl rfl)
theorem dX4_addNeed_117 : decode cX4_addNeed 117 = .ok (.iload 4, 2) := dk_21 4 (dk_at dksX4_addNeed_4 22 rfl rfl)
theorem dX4_addNeed_119 : decode cX4_addNeed 119 = .ok (.iaload, 1) := dk_46 (dk_at dksX4_addNeed_5 0 rfl rfl)
theorem dX4_addNeed_120 : decode cX4_addNeed 120 = .ok (.aload_n 0, 1) := dk_42 (dk_at dksX4_addNeed_5 1 rfl rfl)
theorem dX4_addNeed_121 : decode cX4_addNeed 121 = .ok (.getfield 33, 3) := dk_180 0 33 (dk_at dksX4_addNeed_5 2 rfl rfl)
theorem dX4_addNeed_124 : decode cX4_addNeed 124 = .ok (.iload 4, 2) := dk_21 4 (dk_at dksX4_addNeed_5 5 rfl rfl)
theorem dX4_addNeed_126 : decode cX4_addNeed 126 = .ok (.iaload, 1) := dk_46 (dk_at dksX4_addNeed_5 7 rfl rfl)
theorem dX4_addNeed_127 : decode cX4_addNeed 127 = .ok (.aload_n 0, 1) := dk_42 (dk_at dksX4_addNeed_5 8 rfl rfl)
theorem dX4_addNeed_128 : decode cX4_addNeed 128 = .ok (.getfield 36, 3) := dk_180 0 36 (dk_at dksX4_addNeed_5 9 rfl rfl)
theorem dX4_addNeed_131 : decode cX4_addNeed 131 = .ok (.iload 4, 2) := dk_21 4 (dk_at dksX4_addNeed_5 12 rfl rfl)
theorem dX4_addNeed_133 : decode cX4_addNeed 133 = .ok (.iaload, 1) := dk_46 (dk_at dksX4_addNeed_5 14 rfl rfl)
theorem dX4_addNeed_134 : decode cX4_addNeed 134 = .ok (.invokevirtual 122, 3) := dk_182 0 122 (dk_at dksX4_addNeed_5 15 rfl rfl)
theorem dX4_addNeed_137 : decode cX4_addNeed 137 = .ok (.ifCond .ne 7, 3) := dk_154 0 7 (dk_at dksX4_addNeed_5 18 rfl rfl)
theorem dX4_addNeed_140 : decode cX4_addNeed 140 = .ok (.iconst 1, 1) := dk_4 (dk_at dksX4_addNeed_5 21 rfl rfl)
theorem dX4_addNeed_141 : decode cX4_addNeed 141 = .ok (.goto 4, 3) := dk_167 0 4 (dk_at dksX4_addNeed_6 0 rfl rfl)
theorem dX4_addNeed_144 : decode cX4_addNeed 144 = .ok (.iconst 0, 1) := dk_3 (dk_at dksX4_addNeed_6 3 rfl rfl)
theorem dX4_addNeed_145 : decode cX4_addNeed 145 = .ok (.istore 5, 2) := dk_54 5 (dk_at dksX4_addNeed_6 4 rfl rfl)
theorem dX4_addNeed_147 : decode cX4_addNeed 147 = .ok (.aload_n 0, 1) := dk_42 (dk_at dksX4_addNeed_6 6 rfl rfl)
theorem dX4_addNeed_148 : decode cX4_addNeed 148 = .ok (.getfield 49, 3) := dk_180 0 49 (dk_at dksX4_addNeed_6 7 rfl rfl)
theorem dX4_addNeed_151 : decode cX4_addNeed 151 = .ok (.iload 4, 2) := dk_21 4 (dk_at dksX4_addNeed_6 10 rfl rfl)
theorem dX4_addNeed_153 : decode cX4_addNeed 153 = .ok (.iload 5, 2) := dk_21 5 (dk_at dksX4_addNeed_6 12 rfl rfl)
theorem dX4_addNeed_155 : decode cX4_addNeed 155 = .ok (.ifCond .eq 8, 3) := dk_153 0 8 (dk_at dksX4_addNeed_6 14 rfl rfl)
theorem dX4_addNeed_158 : decode cX4_addNeed 158 = .ok (.bipush 99, 2) := dk_16 99 (dk_at dksX4_addNeed_6 17 rfl rfl)
theorem dX4_addNeed_160 : decode cX4_addNeed 160 = .ok (.goto 10, 3) := dk_167 0 10 (dk_at dksX4_addNeed_6 19 rfl rfl)
theorem dX4_addNeed_163 : decode cX4_addNeed 163 = .ok (.aload_n 0, 1) := dk_42 (dk_at dksX4_addNeed_6 22 rfl rfl)
theorem dX4_addNeed_164 : decode cX4_addNeed 164 = .ok (.getfield 49, 3) := dk_180 0 49 (dk_at dksX4_addNeed_7 0 rfl rfl)
theorem dX4_addNeed_167 : decode cX4_addNeed 167 = .ok (.iload 4, 2) := dk_21 4 (dk_at dksX4_addNeed_7 3 rfl rfl)
theorem dX4_addNeed_169 : decode cX4_addNeed 169 = .ok (.caload, 1) := dk_52 (dk_at dksX4_addNeed_7 5 rfl rfl)
theorem dX4_addNeed_170 : decode cX4_addNeed 170 = .ok (.castore, 1) := dk_85 (dk_at dksX4_addNeed_7 6 rfl rfl)
theorem dX4_addNeed_171 : decode cX4_addNeed 171 = .ok (.iinc 4 1, 3) := dk_132 4 1 (dk_at dksX4_addNeed_7 7 rfl rfl)
theorem dX4_addNeed_174 : decode cX4_addNeed 174 = .ok (.goto (-95), 3) := dk_167 255 161 (dk_at dksX4_addNeed_7 10 rfl rfl)
theorem dX4_addNeed_177 : decode cX4_addNeed 177 = .ok (.aload_n 0, 1) := dk_42 (dk_at dksX4_addNeed_7 13 rfl rfl)
theorem dX4_addNeed_178 : decode cX4_addNeed 178 = .ok (.invokevirtual 125, 3) := dk_182 0 125 (dk_at dksX4_addNeed_7 14 rfl rfl)
theorem dX4_addNeed_181 : decode cX4_addNeed 181 = .ok (.iload_n 3, 1) := dk_29 (dk_at dksX4_addNeed_7 17 rfl rfl)
theorem dX4_addNeed_182 : decode cX4_addNeed 182 = .ok (.ireturn, 1) := dk_172 (dk_at dksX4_addNeed_7 18 rfl rfl)
abbrev cX4_reaches : ByteArray := prog_14_method_12_code
def yX4_reaches : MethodName := ⟨RX4, "reaches", "(II)Z"⟩
def dkwX4_reaches_2 : List UInt8 := [167, 0, 4, 3, 62, 132, 4, 1, 167, 255, 215, 29, 172]
abbrev dktX4_reaches_2 : List UInt8 := dkwX4_reaches_2 ++ []
def dkwX4_reaches_1 : List UInt8 := [42, 180, 0, 27, 27, 50, 21, 4, 51, 153, 0, 17, 42, 21, 4, 28, 182, 0, 115, 153, 0, 7, 4]
abbrev dktX4_reaches_1 : List UInt8 := dkwX4_reaches_1 ++ dktX4_reaches_2
def dkwX4_reaches_0 : List UInt8 := [27, 28, 160, 0, 7, 4, 167, 0, 4, 3, 62, 3, 54, 4, 21, 4, 7, 162, 0, 41, 29, 154, 0, 37]
abbrev dktX4_reaches_0 : List UInt8 := dkwX4_reaches_0 ++ dktX4_reaches_1
theorem dksX4_reaches_0 : cX4_reaches.data.toList.drop 0 = dktX4_reaches_0 := by decide +kernel
theorem dksX4_reaches_1 : cX4_reaches.data.toList.drop 24 = dktX4_reaches_1 := dk_seg dksX4_reaches_0 24 rfl rfl
theorem dksX4_reaches_2 : cX4_reaches.data.toList.drop 47 = dktX4_reaches_2 := dk_seg dksX4_reaches_1 23 rfl rfl
theorem dX4_reaches_0 : decode cX4_reaches 0 = .ok (.iload_n 1, 1) := dk_27 (dk_at dksX4_reaches_0 0 rfl rfl)
theorem dX4_reaches_1 : decode cX4_reaches 1 = .ok (.iload_n 2, 1) := dk_28 (dk_at dksX4_reaches_0 1 rfl rfl)
theorem dX4_reaches_2 : decode cX4_reaches 2 = .ok (.if_icmp .ne 7, 3) := dk_160 0 7 (dk_at dksX4_reaches_0 2 rfl rfl)
theorem dX4_reaches_5 : decode cX4_reaches 5 = .ok (.iconst 1, 1) := dk_4 (dk_at dksX4_reaches_0 5 rfl rfl)
theorem dX4_reaches_6 : decode cX4_reaches 6 = .ok (.goto 4, 3) := dk_167 0 4 (dk_at dksX4_reaches_0 6 rfl rfl)
theorem dX4_reaches_9 : decode cX4_reaches 9 = .ok (.iconst 0, 1) := dk_3 (dk_at dksX4_reaches_0 9 rfl rfl)
theorem dX4_reaches_10 : decode cX4_reaches 10 = .ok (.istore_n 3, 1) := dk_62 (dk_at dksX4_reaches_0 10 rfl rfl)
theorem dX4_reaches_11 : decode cX4_reaches 11 = .ok (.iconst 0, 1) := dk_3 (dk_at dksX4_reaches_0 11 rfl rfl)
theorem dX4_reaches_12 : decode cX4_reaches 12 = .ok (.istore 4, 2) := dk_54 4 (dk_at dksX4_reaches_0 12 rfl rfl)
theorem dX4_reaches_14 : decode cX4_reaches 14 = .ok (.iload 4, 2) := dk_21 4 (dk_at dksX4_reaches_0 14 rfl rfl)
theorem dX4_reaches_16 : decode cX4_reaches 16 = .ok (.iconst 4, 1) := dk_7 (dk_at dksX4_reaches_0 16 rfl rfl)
theorem dX4_reaches_17 : decode cX4_reaches 17 = .ok (.if_icmp .ge 41, 3) := dk_162 0 41 (dk_at dksX4_reaches_0 17 rfl rfl)
theorem dX4_reaches_20 : decode cX4_reaches 20 = .ok (.iload_n 3, 1) := dk_29 (dk_at dksX4_reaches_0 20 rfl rfl)
theorem dX4_reaches_21 : decode cX4_reaches 21 = .ok (.ifCond .ne 37, 3) := dk_154 0 37 (dk_at dksX4_reaches_0 21 rfl rfl)
theorem dX4_reaches_24 : decode cX4_reaches 24 = .ok (.aload_n 0, 1) := dk_42 (dk_at dksX4_reaches_1 0 rfl rfl)
theorem dX4_reaches_25 : decode cX4_reaches 25 = .ok (.getfield 27, 3) := dk_180 0 27 (dk_at dksX4_reaches_1 1 rfl rfl)
theorem dX4_reaches_28 : decode cX4_reaches 28 = .ok (.iload_n 1, 1) := dk_27 (dk_at dksX4_reaches_1 4 rfl rfl)
theorem dX4_reaches_29 : decode cX4_reaches 29 = .ok (.aaload, 1) := dk_50 (dk_at dksX4_reaches_1 5 rfl rfl)
theorem dX4_reaches_30 : decode cX4_reaches 30 = .ok (.iload 4, 2) := dk_21 4 (dk_at dksX4_reaches_1 6 rfl rfl)
theorem dX4_reaches_32 : decode cX4_reaches 32 = .ok (.baload, 1) := dk_51 (dk_at dksX4_reaches_1 8 rfl rfl)
theorem dX4_reaches_33 : decode cX4_reaches 33 = .ok (.ifCond .eq 17, 3) := dk_153 0 17 (dk_at dksX4_reaches_1 9 rfl rfl)
theorem dX4_reaches_36 : decode cX4_reaches 36 = .ok (.aload_n 0, 1) := dk_42 (dk_at dksX4_reaches_1 12 rfl rfl)
theorem dX4_reaches_37 : decode cX4_reaches 37 = .ok (.iload 4, 2) := dk_21 4 (dk_at dksX4_reaches_1 13 rfl rfl)
theorem dX4_reaches_39 : decode cX4_reaches 39 = .ok (.iload_n 2, 1) := dk_28 (dk_at dksX4_reaches_1 15 rfl rfl)
theorem dX4_reaches_40 : decode cX4_reaches 40 = .ok (.invokevirtual 115, 3) := dk_182 0 115 (dk_at dksX4_reaches_1 16 rfl rfl)
theorem dX4_reaches_43 : decode cX4_reaches 43 = .ok (.ifCond .eq 7, 3) := dk_153 0 7 (dk_at dksX4_reaches_1 19 rfl rfl)
theorem dX4_reaches_46 : decode cX4_reaches 46 = .ok (.iconst 1, 1) := dk_4 (dk_at dksX4_reaches_1 22 rfl rfl)
theorem dX4_reaches_47 : decode cX4_reaches 47 = .ok (.goto 4, 3) := dk_167 0 4 (dk_at dksX4_reaches_2 0 rfl rfl)
theorem dX4_reaches_50 : decode cX4_reaches 50 = .ok (.iconst 0, 1) := dk_3 (dk_at dksX4_reaches_2 3 rfl rfl)
theorem dX4_reaches_51 : decode cX4_reaches 51 = .ok (.istore_n 3, 1) := dk_62 (dk_at dksX4_reaches_2 4 rfl rfl)
theorem dX4_reaches_52 : decode cX4_reaches 52 = .ok (.iinc 4 1, 3) := dk_132 4 1 (dk_at dksX4_reaches_2 5 rfl rfl)
theorem dX4_reaches_55 : decode cX4_reaches 55 = .ok (.goto (-41), 3) := dk_167 255 215 (dk_at dksX4_reaches_2 8 rfl rfl)
theorem dX4_reaches_58 : decode cX4_reaches 58 = .ok (.iload_n 3, 1) := dk_29 (dk_at dksX4_reaches_2 11 rfl rfl)
theorem dX4_reaches_59 : decode cX4_reaches 59 = .ok (.ireturn, 1) := dk_172 (dk_at dksX4_reaches_2 12 rfl rfl)
abbrev cX4_liveFor : ByteArray := prog_14_method_14_code
def yX4_liveFor : MethodName := ⟨RX4, "liveFor", "(III)Z"⟩
def dkwX4_liveFor_0 : List UInt8 := [42, 27, 42, 180, 0, 9, 28, 46, 29, 182, 0, 119, 172]
abbrev dktX4_liveFor_0 : List UInt8 := dkwX4_liveFor_0 ++ []
theorem dksX4_liveFor_0 : cX4_liveFor.data.toList.drop 0 = dktX4_liveFor_0 := by decide +kernel
theorem dX4_liveFor_0 : decode cX4_liveFor 0 = .ok (.aload_n 0, 1) := dk_42 (dk_at dksX4_liveFor_0 0 rfl rfl)
theorem dX4_liveFor_1 : decode cX4_liveFor 1 = .ok (.iload_n 1, 1) := dk_27 (dk_at dksX4_liveFor_0 1 rfl rfl)
theorem dX4_liveFor_2 : decode cX4_liveFor 2 = .ok (.aload_n 0, 1) := dk_42 (dk_at dksX4_liveFor_0 2 rfl rfl)
theorem dX4_liveFor_3 : decode cX4_liveFor 3 = .ok (.getfield 9, 3) := dk_180 0 9 (dk_at dksX4_liveFor_0 3 rfl rfl)
theorem dX4_liveFor_6 : decode cX4_liveFor 6 = .ok (.iload_n 2, 1) := dk_28 (dk_at dksX4_liveFor_0 6 rfl rfl)
theorem dX4_liveFor_7 : decode cX4_liveFor 7 = .ok (.iaload, 1) := dk_46 (dk_at dksX4_liveFor_0 7 rfl rfl)
theorem dX4_liveFor_8 : decode cX4_liveFor 8 = .ok (.iload_n 3, 1) := dk_29 (dk_at dksX4_liveFor_0 8 rfl rfl)
theorem dX4_liveFor_9 : decode cX4_liveFor 9 = .ok (.invokevirtual 119, 3) := dk_182 0 119 (dk_at dksX4_liveFor_0 9 rfl rfl)
theorem dX4_liveFor_12 : decode cX4_liveFor 12 = .ok (.ireturn, 1) := dk_172 (dk_at dksX4_liveFor_0 12 rfl rfl)
abbrev cX4_live : ByteArray := prog_14_method_13_code
def yX4_live : MethodName := ⟨RX4, "live", "(III)Z"⟩
def dkwX4_live_3 : List UInt8 := [153, 0, 7, 4, 167, 0, 4, 3, 54, 5, 132, 6, 1, 167, 255, 212, 21, 5, 172]
abbrev dktX4_live_3 : List UInt8 := dkwX4_live_3 ++ []
def dkwX4_live_2 : List UInt8 := [153, 0, 39, 42, 180, 0, 27, 28, 50, 21, 6, 51, 153, 0, 14, 42, 27, 21, 6, 29, 182, 0, 119]
abbrev dktX4_live_2 : List UInt8 := dkwX4_live_2 ++ dktX4_live_3
def dkwX4_live_1 : List UInt8 := [184, 0, 91, 153, 0, 7, 4, 167, 0, 4, 3, 54, 5, 3, 54, 6, 21, 6, 7, 162, 0, 44, 21, 5]
abbrev dktX4_live_1 : List UInt8 := dkwX4_live_1 ++ dktX4_live_2
def dkwX4_live_0 : List UInt8 := [42, 180, 0, 18, 27, 50, 28, 46, 54, 4, 21, 4, 2, 159, 0, 21, 29, 21, 4, 21, 4, 16, 29, 96]
abbrev dktX4_live_0 : List UInt8 := dkwX4_live_0 ++ dktX4_live_1
theorem dksX4_live_0 : cX4_live.data.toList.drop 0 = dktX4_live_0 := by decide +kernel
theorem dksX4_live_1 : cX4_live.data.toList.drop 24 = dktX4_live_1 := dk_seg dksX4_live_0 24 rfl rfl
theorem dksX4_live_2 : cX4_live.data.toList.drop 48 = dktX4_live_2 := dk_seg dksX4_live_1 24 rfl rfl
theorem dksX4_live_3 : cX4_live.data.toList.drop 71 = dktX4_live_3 := dk_seg dksX4_live_2 23 rfl rfl
theorem dX4_live_0 : decode cX4_live 0 = .ok (.aload_n 0, 1) := dk_42 (dk_at dksX4_live_0 0 rfl rfl)
theorem dX4_live_1 : decode cX4_live 1 = .ok (.getfield 18, 3) := dk_180 0 18 (dk_at dksX4_live_0 1 rfl rfl)
theorem dX4_live_4 : decode cX4_live 4 = .ok (.iload_n 1, 1) := dk_27 (dk_at dksX4_live_0 4 rfl rfl)
theorem dX4_live_5 : decode cX4_live 5 = .ok (.aaload, 1) := dk_50 (dk_at dksX4_live_0 5 rfl rfl)
theorem dX4_live_6 : decode cX4_live 6 = .ok (.iload_n 2, 1) := dk_28 (dk_at dksX4_live_0 6 rfl rfl)
theorem dX4_live_7 : decode cX4_live 7 = .ok (.iaload, 1) := dk_46 (dk_at dksX4_live_0 7 rfl rfl)
theorem dX4_live_8 : decode cX4_live 8 = .ok (.istore 4, 2) := dk_54 4 (dk_at dksX4_live_0 8 rfl rfl)
theorem dX4_live_10 : decode cX4_live 10 = .ok (.iload 4, 2) := dk_21 4 (dk_at dksX4_live_0 10 rfl rfl)
theorem dX4_live_12 : decode cX4_live 12 = .ok (.iconst (-1), 1) := dk_2 (dk_at dksX4_live_0 12 rfl rfl)
theorem dX4_live_13 : decode cX4_live 13 = .ok (.if_icmp .eq 21, 3) := dk_159 0 21 (dk_at dksX4_live_0 13 rfl rfl)
theorem dX4_live_16 : decode cX4_live 16 = .ok (.iload_n 3, 1) := dk_29 (dk_at dksX4_live_0 16 rfl rfl)
theorem dX4_live_17 : decode cX4_live 17 = .ok (.iload 4, 2) := dk_21 4 (dk_at dksX4_live_0 17 rfl rfl)
theorem dX4_live_19 : decode cX4_live 19 = .ok (.iload 4, 2) := dk_21 4 (dk_at dksX4_live_0 19 rfl rfl)
theorem dX4_live_21 : decode cX4_live 21 = .ok (.bipush 29, 2) := dk_16 29 (dk_at dksX4_live_0 21 rfl rfl)
theorem dX4_live_23 : decode cX4_live 23 = .ok (.iadd, 1) := dk_96 (dk_at dksX4_live_0 23 rfl rfl)
theorem dX4_live_24 : decode cX4_live 24 = .ok (.invokestatic 91, 3) := dk_184 0 91 (dk_at dksX4_live_1 0 rfl rfl)
theorem dX4_live_27 : decode cX4_live 27 = .ok (.ifCond .eq 7, 3) := dk_153 0 7 (dk_at dksX4_live_1 3 rfl rfl)
theorem dX4_live_30 : decode cX4_live 30 = .ok (.iconst 1, 1) := dk_4 (dk_at dksX4_live_1 6 rfl rfl)
theorem dX4_live_31 : decode cX4_live 31 = .ok (.goto 4, 3) := dk_167 0 4 (dk_at dksX4_live_1 7 rfl rfl)
theorem dX4_live_34 : decode cX4_live 34 = .ok (.iconst 0, 1) := dk_3 (dk_at dksX4_live_1 10 rfl rfl)
theorem dX4_live_35 : decode cX4_live 35 = .ok (.istore 5, 2) := dk_54 5 (dk_at dksX4_live_1 11 rfl rfl)
theorem dX4_live_37 : decode cX4_live 37 = .ok (.iconst 0, 1) := dk_3 (dk_at dksX4_live_1 13 rfl rfl)
theorem dX4_live_38 : decode cX4_live 38 = .ok (.istore 6, 2) := dk_54 6 (dk_at dksX4_live_1 14 rfl rfl)
theorem dX4_live_40 : decode cX4_live 40 = .ok (.iload 6, 2) := dk_21 6 (dk_at dksX4_live_1 16 rfl rfl)
theorem dX4_live_42 : decode cX4_live 42 = .ok (.iconst 4, 1) := dk_7 (dk_at dksX4_live_1 18 rfl rfl)
theorem dX4_live_43 : decode cX4_live 43 = .ok (.if_icmp .ge 44, 3) := dk_162 0 44 (dk_at dksX4_live_1 19 rfl rfl)
theorem dX4_live_46 : decode cX4_live 46 = .ok (.iload 5, 2) := dk_21 5 (dk_at dksX4_live_1 22 rfl rfl)
theorem dX4_live_48 : decode cX4_live 48 = .ok (.ifCond .eq 39, 3) := dk_153 0 39 (dk_at dksX4_live_2 0 rfl rfl)
theorem dX4_live_51 : decode cX4_live 51 = .ok (.aload_n 0, 1) := dk_42 (dk_at dksX4_live_2 3 rfl rfl)
theorem dX4_live_52 : decode cX4_live 52 = .ok (.getfield 27, 3) := dk_180 0 27 (dk_at dksX4_live_2 4 rfl rfl)
theorem dX4_live_55 : decode cX4_live 55 = .ok (.iload_n 2, 1) := dk_28 (dk_at dksX4_live_2 7 rfl rfl)
theorem dX4_live_56 : decode cX4_live 56 = .ok (.aaload, 1) := dk_50 (dk_at dksX4_live_2 8 rfl rfl)
theorem dX4_live_57 : decode cX4_live 57 = .ok (.iload 6, 2) := dk_21 6 (dk_at dksX4_live_2 9 rfl rfl)
theorem dX4_live_59 : decode cX4_live 59 = .ok (.baload, 1) := dk_51 (dk_at dksX4_live_2 11 rfl rfl)
theorem dX4_live_60 : decode cX4_live 60 = .ok (.ifCond .eq 14, 3) := dk_153 0 14 (dk_at dksX4_live_2 12 rfl rfl)
theorem dX4_live_63 : decode cX4_live 63 = .ok (.aload_n 0, 1) := dk_42 (dk_at dksX4_live_2 15 rfl rfl)
theorem dX4_live_64 : decode cX4_live 64 = .ok (.iload_n 1, 1) := dk_27 (dk_at dksX4_live_2 16 rfl rfl)
theorem dX4_live_65 : decode cX4_live 65 = .ok (.iload 6, 2) := dk_21 6 (dk_at dksX4_live_2 17 rfl rfl)
theorem dX4_live_67 : decode cX4_live 67 = .ok (.iload_n 3, 1) := dk_29 (dk_at dksX4_live_2 19 rfl rfl)
theorem dX4_live_68 : decode cX4_live 68 = .ok (.invokevirtual 119, 3) := dk_182 0 119 (dk_at dksX4_live_2 20 rfl rfl)
theorem dX4_live_71 : decode cX4_live 71 = .ok (.ifCond .eq 7, 3) := dk_153 0 7 (dk_at dksX4_live_3 0 rfl rfl)
theorem dX4_live_74 : decode cX4_live 74 = .ok (.iconst 1, 1) := dk_4 (dk_at dksX4_live_3 3 rfl rfl)
theorem dX4_live_75 : decode cX4_live 75 = .ok (.goto 4, 3) := dk_167 0 4 (dk_at dksX4_live_3 4 rfl rfl)
theorem dX4_live_78 : decode cX4_live 78 = .ok (.iconst 0, 1) := dk_3 (dk_at dksX4_live_3 7 rfl rfl)
theorem dX4_live_79 : decode cX4_live 79 = .ok (.istore 5, 2) := dk_54 5 (dk_at dksX4_live_3 8 rfl rfl)
theorem dX4_live_81 : decode cX4_live 81 = .ok (.iinc 6 1, 3) := dk_132 6 1 (dk_at dksX4_live_3 10 rfl rfl)
theorem dX4_live_84 : decode cX4_live 84 = .ok (.goto (-44), 3) := dk_167 255 212 (dk_at dksX4_live_3 13 rfl rfl)
theorem dX4_live_87 : decode cX4_live 87 = .ok (.iload 5, 2) := dk_21 5 (dk_at dksX4_live_3 16 rfl rfl)
theorem dX4_live_89 : decode cX4_live 89 = .ok (.ireturn, 1) := dk_172 (dk_at dksX4_live_3 18 rfl rfl)
abbrev cX4_gives : ByteArray := prog_14_method_24_code
def yX4_gives : MethodName := ⟨RX4, "gives", "()V"⟩
def dkwX4_gives_3 : List UInt8 := [16, 98, 85, 3, 60, 167, 255, 182, 132, 1, 1, 167, 255, 176, 177]
abbrev dktX4_gives_3 : List UInt8 := dkwX4_gives_3 ++ []
def dkwX4_gives_2 : List UInt8 := [180, 0, 42, 27, 46, 42, 180, 0, 45, 27, 52, 182, 0, 149, 16, 111, 160, 0, 16, 42, 180, 0, 49, 27]
abbrev dktX4_gives_2 : List UInt8 := dkwX4_gives_2 ++ dktX4_gives_3
def dkwX4_gives_1 : List UInt8 := [180, 0, 30, 27, 46, 42, 180, 0, 33, 27, 46, 42, 180, 0, 36, 27, 46, 42, 180, 0, 39, 27, 46, 42]
abbrev dktX4_gives_1 : List UInt8 := dkwX4_gives_1 ++ dktX4_gives_2
def dkwX4_gives_0 : List UInt8 := [3, 60, 27, 42, 180, 0, 101, 162, 0, 78, 42, 180, 0, 49, 27, 52, 16, 119, 160, 0, 61, 42, 42]
abbrev dktX4_gives_0 : List UInt8 := dkwX4_gives_0 ++ dktX4_gives_1
theorem dksX4_gives_0 : cX4_gives.data.toList.drop 0 = dktX4_gives_0 := by decide +kernel
theorem dksX4_gives_1 : cX4_gives.data.toList.drop 23 = dktX4_gives_1 := dk_seg dksX4_gives_0 23 rfl rfl
theorem dksX4_gives_2 : cX4_gives.data.toList.drop 47 = dktX4_gives_2 := dk_seg dksX4_gives_1 24 rfl rfl
theorem dksX4_gives_3 : cX4_gives.data.toList.drop 71 = dktX4_gives_3 := dk_seg dksX4_gives_2 24 rfl rfl
theorem dX4_gives_0 : decode cX4_gives 0 = .ok (.iconst 0, 1) := dk_3 (dk_at dksX4_gives_0 0 rfl rfl)
theorem dX4_gives_1 : decode cX4_gives 1 = .ok (.istore_n 1, 1) := dk_60 (dk_at dksX4_gives_0 1 rfl rfl)
theorem dX4_gives_2 : decode cX4_gives 2 = .ok (.iload_n 1, 1) := dk_27 (dk_at dksX4_gives_0 2 rfl rfl)
theorem dX4_gives_3 : decode cX4_gives 3 = .ok (.aload_n 0, 1) := dk_42 (dk_at dksX4_gives_0 3 rfl rfl)
theorem dX4_gives_4 : decode cX4_gives 4 = .ok (.getfield 101, 3) := dk_180 0 101 (dk_at dksX4_gives_0 4 rfl rfl)
theorem dX4_gives_7 : decode cX4_gives 7 = .ok (.if_icmp .ge 78, 3) := dk_162 0 78 (dk_at dksX4_gives_0 7 rfl rfl)
theorem dX4_gives_10 : decode cX4_gives 10 = .ok (.aload_n 0, 1) := dk_42 (dk_at dksX4_gives_0 10 rfl rfl)
theorem dX4_gives_11 : decode cX4_gives 11 = .ok (.getfield 49, 3) := dk_180 0 49 (dk_at dksX4_gives_0 11 rfl rfl)
theorem dX4_gives_14 : decode cX4_gives 14 = .ok (.iload_n 1, 1) := dk_27 (dk_at dksX4_gives_0 14 rfl rfl)
theorem dX4_gives_15 : decode cX4_gives 15 = .ok (.caload, 1) := dk_52 (dk_at dksX4_gives_0 15 rfl rfl)
theorem dX4_gives_16 : decode cX4_gives 16 = .ok (.bipush 119, 2) := dk_16 119 (dk_at dksX4_gives_0 16 rfl rfl)
theorem dX4_gives_18 : decode cX4_gives 18 = .ok (.if_icmp .ne 61, 3) := dk_160 0 61 (dk_at dksX4_gives_0 18 rfl rfl)
theorem dX4_gives_21 : decode cX4_gives 21 = .ok (.aload_n 0, 1) := dk_42 (dk_at dksX4_gives_0 21 rfl rfl)
theorem dX4_gives_22 : decode cX4_gives 22 = .ok (.aload_n 0, 1) := dk_42 (dk_at dksX4_gives_0 22 rfl rfl)
theorem dX4_gives_23 : decode cX4_gives 23 = .ok (.getfield 30, 3) := dk_180 0 30 (dk_at dksX4_gives_1 0 rfl rfl)
theorem dX4_gives_26 : decode cX4_gives 26 = .ok (.iload_n 1, 1) := dk_27 (dk_at dksX4_gives_1 3 rfl rfl)
theorem dX4_gives_27 : decode cX4_gives 27 = .ok (.iaload, 1) := dk_46 (dk_at dksX4_gives_1 4 rfl rfl)
theorem dX4_gives_28 : decode cX4_gives 28 = .ok (.aload_n 0, 1) := dk_42 (dk_at dksX4_gives_1 5 rfl rfl)
theorem dX4_gives_29 : decode cX4_gives 29 = .ok (.getfield 33, 3) := dk_180 0 33 (dk_at dksX4_gives_1 6 rfl rfl)
theorem dX4_gives_32 : decode cX4_gives 32 = .ok (.iload_n 1, 1) := dk_27 (dk_at dksX4_gives_1 9 rfl rfl)
theorem dX4_gives_33 : decode cX4_gives 33 = .ok (.iaload, 1) := dk_46 (dk_at dksX4_gives_1 10 rfl rfl)
theorem dX4_gives_34 : decode cX4_gives 34 = .ok (.aload_n 0, 1) := dk_42 (dk_at dksX4_gives_1 11 rfl rfl)
theorem dX4_gives_35 : decode cX4_gives 35 = .ok (.getfield 36, 3) := dk_180 0 36 (dk_at dksX4_gives_1 12 rfl rfl)
theorem dX4_gives_38 : decode cX4_gives 38 = .ok (.iload_n 1, 1) := dk_27 (dk_at dksX4_gives_1 15 rfl rfl)
theorem dX4_gives_39 : decode cX4_gives 39 = .ok (.iaload, 1) := dk_46 (dk_at dksX4_gives_1 16 rfl rfl)
theorem dX4_gives_40 : decode cX4_gives 40 = .ok (.aload_n 0, 1) := dk_42 (dk_at dksX4_gives_1 17 rfl rfl)
theorem dX4_gives_41 : decode cX4_gives 41 = .ok (.getfield 39, 3) := dk_180 0 39 (dk_at dksX4_gives_1 18 rfl rfl)
theorem dX4_gives_44 : decode cX4_gives 44 = .ok (.iload_n 1, 1) := dk_27 (dk_at dksX4_gives_1 21 rfl rfl)
theorem dX4_gives_45 : decode cX4_gives 45 = .ok (.iaload, 1) := dk_46 (dk_at dksX4_gives_1 22 rfl rfl)
theorem dX4_gives_46 : decode cX4_gives 46 = .ok (.aload_n 0, 1) := dk_42 (dk_at dksX4_gives_1 23 rfl rfl)
theorem dX4_gives_47 : decode cX4_gives 47 = .ok (.getfield 42, 3) := dk_180 0 42 (dk_at dksX4_gives_2 0 rfl rfl)
theorem dX4_gives_50 : decode cX4_gives 50 = .ok (.iload_n 1, 1) := dk_27 (dk_at dksX4_gives_2 3 rfl rfl)
theorem dX4_gives_51 : decode cX4_gives 51 = .ok (.iaload, 1) := dk_46 (dk_at dksX4_gives_2 4 rfl rfl)
theorem dX4_gives_52 : decode cX4_gives 52 = .ok (.aload_n 0, 1) := dk_42 (dk_at dksX4_gives_2 5 rfl rfl)
theorem dX4_gives_53 : decode cX4_gives 53 = .ok (.getfield 45, 3) := dk_180 0 45 (dk_at dksX4_gives_2 6 rfl rfl)
theorem dX4_gives_56 : decode cX4_gives 56 = .ok (.iload_n 1, 1) := dk_27 (dk_at dksX4_gives_2 9 rfl rfl)
theorem dX4_gives_57 : decode cX4_gives 57 = .ok (.caload, 1) := dk_52 (dk_at dksX4_gives_2 10 rfl rfl)
theorem dX4_gives_58 : decode cX4_gives 58 = .ok (.invokevirtual 149, 3) := dk_182 0 149 (dk_at dksX4_gives_2 11 rfl rfl)
theorem dX4_gives_61 : decode cX4_gives 61 = .ok (.bipush 111, 2) := dk_16 111 (dk_at dksX4_gives_2 14 rfl rfl)
theorem dX4_gives_63 : decode cX4_gives 63 = .ok (.if_icmp .ne 16, 3) := dk_160 0 16 (dk_at dksX4_gives_2 16 rfl rfl)
theorem dX4_gives_66 : decode cX4_gives 66 = .ok (.aload_n 0, 1) := dk_42 (dk_at dksX4_gives_2 19 rfl rfl)
theorem dX4_gives_67 : decode cX4_gives 67 = .ok (.getfield 49, 3) := dk_180 0 49 (dk_at dksX4_gives_2 20 rfl rfl)
theorem dX4_gives_70 : decode cX4_gives 70 = .ok (.iload_n 1, 1) := dk_27 (dk_at dksX4_gives_2 23 rfl rfl)
theorem dX4_gives_71 : decode cX4_gives 71 = .ok (.bipush 98, 2) := dk_16 98 (dk_at dksX4_gives_3 0 rfl rfl)
theorem dX4_gives_73 : decode cX4_gives 73 = .ok (.castore, 1) := dk_85 (dk_at dksX4_gives_3 2 rfl rfl)
theorem dX4_gives_74 : decode cX4_gives 74 = .ok (.iconst 0, 1) := dk_3 (dk_at dksX4_gives_3 3 rfl rfl)
theorem dX4_gives_75 : decode cX4_gives 75 = .ok (.istore_n 1, 1) := dk_60 (dk_at dksX4_gives_3 4 rfl rfl)
theorem dX4_gives_76 : decode cX4_gives 76 = .ok (.goto (-74), 3) := dk_167 255 182 (dk_at dksX4_gives_3 5 rfl rfl)
theorem dX4_gives_79 : decode cX4_gives 79 = .ok (.iinc 1 1, 3) := dk_132 1 1 (dk_at dksX4_gives_3 8 rfl rfl)
theorem dX4_gives_82 : decode cX4_gives 82 = .ok (.goto (-80), 3) := dk_167 255 176 (dk_at dksX4_gives_3 11 rfl rfl)
theorem dX4_gives_85 : decode cX4_gives 85 = .ok (.return_, 1) := dk_177 (dk_at dksX4_gives_3 14 rfl rfl)
abbrev cX4_letter : ByteArray := prog_14_method_23_code
def yX4_letter : MethodName := ⟨RX4, "letter", "(IIIIIC)C"⟩
def dkwX4_letter_2 : List UInt8 := [154, 0, 8, 16, 116, 167, 0, 5, 16, 111, 172]
abbrev dktX4_letter_2 : List UInt8 := dkwX4_letter_2 ++ []
def dkwX4_letter_1 : List UInt8 := [182, 0, 142, 153, 0, 8, 16, 109, 167, 0, 25, 42, 28, 29, 21, 4, 21, 5, 21, 6, 182, 0, 145]
abbrev dktX4_letter_1 : List UInt8 := dkwX4_letter_1 ++ dktX4_letter_2
def dkwX4_letter_0 : List UInt8 := [42, 27, 28, 29, 182, 0, 122, 154, 0, 8, 16, 105, 167, 0, 43, 42, 27, 29, 21, 4, 21, 5]
abbrev dktX4_letter_0 : List UInt8 := dkwX4_letter_0 ++ dktX4_letter_1
theorem dksX4_letter_0 : cX4_letter.data.toList.drop 0 = dktX4_letter_0 := by decide +kernel
theorem dksX4_letter_1 : cX4_letter.data.toList.drop 22 = dktX4_letter_1 := dk_seg dksX4_letter_0 22 rfl rfl
theorem dksX4_letter_2 : cX4_letter.data.toList.drop 45 = dktX4_letter_2 := dk_seg dksX4_letter_1 23 rfl rfl
theorem dX4_letter_0 : decode cX4_letter 0 = .ok (.aload_n 0, 1) := dk_42 (dk_at dksX4_letter_0 0 rfl rfl)
theorem dX4_letter_1 : decode cX4_letter 1 = .ok (.iload_n 1, 1) := dk_27 (dk_at dksX4_letter_0 1 rfl rfl)
theorem dX4_letter_2 : decode cX4_letter 2 = .ok (.iload_n 2, 1) := dk_28 (dk_at dksX4_letter_0 2 rfl rfl)
theorem dX4_letter_3 : decode cX4_letter 3 = .ok (.iload_n 3, 1) := dk_29 (dk_at dksX4_letter_0 3 rfl rfl)
theorem dX4_letter_4 : decode cX4_letter 4 = .ok (.invokevirtual 122, 3) := dk_182 0 122 (dk_at dksX4_letter_0 4 rfl rfl)
theorem dX4_letter_7 : decode cX4_letter 7 = .ok (.ifCond .ne 8, 3) := dk_154 0 8 (dk_at dksX4_letter_0 7 rfl rfl)
theorem dX4_letter_10 : decode cX4_letter 10 = .ok (.bipush 105, 2) := dk_16 105 (dk_at dksX4_letter_0 10 rfl rfl)
theorem dX4_letter_12 : decode cX4_letter 12 = .ok (.goto 43, 3) := dk_167 0 43 (dk_at dksX4_letter_0 12 rfl rfl)
theorem dX4_letter_15 : decode cX4_letter 15 = .ok (.aload_n 0, 1) := dk_42 (dk_at dksX4_letter_0 15 rfl rfl)
theorem dX4_letter_16 : decode cX4_letter 16 = .ok (.iload_n 1, 1) := dk_27 (dk_at dksX4_letter_0 16 rfl rfl)
theorem dX4_letter_17 : decode cX4_letter 17 = .ok (.iload_n 3, 1) := dk_29 (dk_at dksX4_letter_0 17 rfl rfl)
theorem dX4_letter_18 : decode cX4_letter 18 = .ok (.iload 4, 2) := dk_21 4 (dk_at dksX4_letter_0 18 rfl rfl)
theorem dX4_letter_20 : decode cX4_letter 20 = .ok (.iload 5, 2) := dk_21 5 (dk_at dksX4_letter_0 20 rfl rfl)
theorem dX4_letter_22 : decode cX4_letter 22 = .ok (.invokevirtual 142, 3) := dk_182 0 142 (dk_at dksX4_letter_1 0 rfl rfl)
theorem dX4_letter_25 : decode cX4_letter 25 = .ok (.ifCond .eq 8, 3) := dk_153 0 8 (dk_at dksX4_letter_1 3 rfl rfl)
theorem dX4_letter_28 : decode cX4_letter 28 = .ok (.bipush 109, 2) := dk_16 109 (dk_at dksX4_letter_1 6 rfl rfl)
theorem dX4_letter_30 : decode cX4_letter 30 = .ok (.goto 25, 3) := dk_167 0 25 (dk_at dksX4_letter_1 8 rfl rfl)
theorem dX4_letter_33 : decode cX4_letter 33 = .ok (.aload_n 0, 1) := dk_42 (dk_at dksX4_letter_1 11 rfl rfl)
theorem dX4_letter_34 : decode cX4_letter 34 = .ok (.iload_n 2, 1) := dk_28 (dk_at dksX4_letter_1 12 rfl rfl)
theorem dX4_letter_35 : decode cX4_letter 35 = .ok (.iload_n 3, 1) := dk_29 (dk_at dksX4_letter_1 13 rfl rfl)
theorem dX4_letter_36 : decode cX4_letter 36 = .ok (.iload 4, 2) := dk_21 4 (dk_at dksX4_letter_1 14 rfl rfl)
theorem dX4_letter_38 : decode cX4_letter 38 = .ok (.iload 5, 2) := dk_21 5 (dk_at dksX4_letter_1 16 rfl rfl)
theorem dX4_letter_40 : decode cX4_letter 40 = .ok (.iload 6, 2) := dk_21 6 (dk_at dksX4_letter_1 18 rfl rfl)
theorem dX4_letter_42 : decode cX4_letter 42 = .ok (.invokevirtual 145, 3) := dk_182 0 145 (dk_at dksX4_letter_1 20 rfl rfl)
theorem dX4_letter_45 : decode cX4_letter 45 = .ok (.ifCond .ne 8, 3) := dk_154 0 8 (dk_at dksX4_letter_2 0 rfl rfl)
theorem dX4_letter_48 : decode cX4_letter 48 = .ok (.bipush 116, 2) := dk_16 116 (dk_at dksX4_letter_2 3 rfl rfl)
theorem dX4_letter_50 : decode cX4_letter 50 = .ok (.goto 5, 3) := dk_167 0 5 (dk_at dksX4_letter_2 5 rfl rfl)
theorem dX4_letter_53 : decode cX4_letter 53 = .ok (.bipush 111, 2) := dk_16 111 (dk_at dksX4_letter_2 8 rfl rfl)
theorem dX4_letter_55 : decode cX4_letter 55 = .ok (.ireturn, 1) := dk_172 (dk_at dksX4_letter_2 10 rfl rfl)
abbrev cX4_isBusy : ByteArray := prog_14_method_22_code
def yX4_isBusy : MethodName := ⟨RX4, "isBusy", "(IIII)Z"⟩
def dkwX4_isBusy_2 : List UInt8 := [3, 54, 5, 132, 6, 1, 167, 255, 208, 21, 5, 172]
abbrev dktX4_isBusy_2 : List UInt8 := dkwX4_isBusy_2 ++ []
def dkwX4_isBusy_1 : List UInt8 := [21, 6, 46, 27, 160, 0, 20, 42, 21, 6, 28, 29, 21, 4, 182, 0, 134, 153, 0, 7, 4, 167, 0, 4]
abbrev dktX4_isBusy_1 : List UInt8 := dkwX4_isBusy_1 ++ dktX4_isBusy_2
def dkwX4_isBusy_0 : List UInt8 := [3, 54, 5, 3, 54, 6, 21, 6, 42, 180, 0, 101, 162, 0, 45, 21, 5, 154, 0, 27, 42, 180, 0, 30]
abbrev dktX4_isBusy_0 : List UInt8 := dkwX4_isBusy_0 ++ dktX4_isBusy_1
theorem dksX4_isBusy_0 : cX4_isBusy.data.toList.drop 0 = dktX4_isBusy_0 := by decide +kernel
theorem dksX4_isBusy_1 : cX4_isBusy.data.toList.drop 24 = dktX4_isBusy_1 := dk_seg dksX4_isBusy_0 24 rfl rfl
theorem dksX4_isBusy_2 : cX4_isBusy.data.toList.drop 48 = dktX4_isBusy_2 := dk_seg dksX4_isBusy_1 24 rfl rfl
theorem dX4_isBusy_0 : decode cX4_isBusy 0 = .ok (.iconst 0, 1) := dk_3 (dk_at dksX4_isBusy_0 0 rfl rfl)
theorem dX4_isBusy_1 : decode cX4_isBusy 1 = .ok (.istore 5, 2) := dk_54 5 (dk_at dksX4_isBusy_0 1 rfl rfl)
theorem dX4_isBusy_3 : decode cX4_isBusy 3 = .ok (.iconst 0, 1) := dk_3 (dk_at dksX4_isBusy_0 3 rfl rfl)
theorem dX4_isBusy_4 : decode cX4_isBusy 4 = .ok (.istore 6, 2) := dk_54 6 (dk_at dksX4_isBusy_0 4 rfl rfl)
theorem dX4_isBusy_6 : decode cX4_isBusy 6 = .ok (.iload 6, 2) := dk_21 6 (dk_at dksX4_isBusy_0 6 rfl rfl)
theorem dX4_isBusy_8 : decode cX4_isBusy 8 = .ok (.aload_n 0, 1) := dk_42 (dk_at dksX4_isBusy_0 8 rfl rfl)
theorem dX4_isBusy_9 : decode cX4_isBusy 9 = .ok (.getfield 101, 3) := dk_180 0 101 (dk_at dksX4_isBusy_0 9 rfl rfl)
theorem dX4_isBusy_12 : decode cX4_isBusy 12 = .ok (.if_icmp .ge 45, 3) := dk_162 0 45 (dk_at dksX4_isBusy_0 12 rfl rfl)
theorem dX4_isBusy_15 : decode cX4_isBusy 15 = .ok (.iload 5, 2) := dk_21 5 (dk_at dksX4_isBusy_0 15 rfl rfl)
theorem dX4_isBusy_17 : decode cX4_isBusy 17 = .ok (.ifCond .ne 27, 3) := dk_154 0 27 (dk_at dksX4_isBusy_0 17 rfl rfl)
theorem dX4_isBusy_20 : decode cX4_isBusy 20 = .ok (.aload_n 0, 1) := dk_42 (dk_at dksX4_isBusy_0 20 rfl rfl)
theorem dX4_isBusy_21 : decode cX4_isBusy 21 = .ok (.getfield 30, 3) := dk_180 0 30 (dk_at dksX4_isBusy_0 21 rfl rfl)
theorem dX4_isBusy_24 : decode cX4_isBusy 24 = .ok (.iload 6, 2) := dk_21 6 (dk_at dksX4_isBusy_1 0 rfl rfl)
theorem dX4_isBusy_26 : decode cX4_isBusy 26 = .ok (.iaload, 1) := dk_46 (dk_at dksX4_isBusy_1 2 rfl rfl)
theorem dX4_isBusy_27 : decode cX4_isBusy 27 = .ok (.iload_n 1, 1) := dk_27 (dk_at dksX4_isBusy_1 3 rfl rfl)
theorem dX4_isBusy_28 : decode cX4_isBusy 28 = .ok (.if_icmp .ne 20, 3) := dk_160 0 20 (dk_at dksX4_isBusy_1 4 rfl rfl)
theorem dX4_isBusy_31 : decode cX4_isBusy 31 = .ok (.aload_n 0, 1) := dk_42 (dk_at dksX4_isBusy_1 7 rfl rfl)
theorem dX4_isBusy_32 : decode cX4_isBusy 32 = .ok (.iload 6, 2) := dk_21 6 (dk_at dksX4_isBusy_1 8 rfl rfl)
theorem dX4_isBusy_34 : decode cX4_isBusy 34 = .ok (.iload_n 2, 1) := dk_28 (dk_at dksX4_isBusy_1 10 rfl rfl)
theorem dX4_isBusy_35 : decode cX4_isBusy 35 = .ok (.iload_n 3, 1) := dk_29 (dk_at dksX4_isBusy_1 11 rfl rfl)
theorem dX4_isBusy_36 : decode cX4_isBusy 36 = .ok (.iload 4, 2) := dk_21 4 (dk_at dksX4_isBusy_1 12 rfl rfl)
theorem dX4_isBusy_38 : decode cX4_isBusy 38 = .ok (.invokevirtual 134, 3) := dk_182 0 134 (dk_at dksX4_isBusy_1 14 rfl rfl)
theorem dX4_isBusy_41 : decode cX4_isBusy 41 = .ok (.ifCond .eq 7, 3) := dk_153 0 7 (dk_at dksX4_isBusy_1 17 rfl rfl)
theorem dX4_isBusy_44 : decode cX4_isBusy 44 = .ok (.iconst 1, 1) := dk_4 (dk_at dksX4_isBusy_1 20 rfl rfl)
theorem dX4_isBusy_45 : decode cX4_isBusy 45 = .ok (.goto 4, 3) := dk_167 0 4 (dk_at dksX4_isBusy_1 21 rfl rfl)
theorem dX4_isBusy_48 : decode cX4_isBusy 48 = .ok (.iconst 0, 1) := dk_3 (dk_at dksX4_isBusy_2 0 rfl rfl)
theorem dX4_isBusy_49 : decode cX4_isBusy 49 = .ok (.istore 5, 2) := dk_54 5 (dk_at dksX4_isBusy_2 1 rfl rfl)
theorem dX4_isBusy_51 : decode cX4_isBusy 51 = .ok (.iinc 6 1, 3) := dk_132 6 1 (dk_at dksX4_isBusy_2 3 rfl rfl)
theorem dX4_isBusy_54 : decode cX4_isBusy 54 = .ok (.goto (-48), 3) := dk_167 255 208 (dk_at dksX4_isBusy_2 6 rfl rfl)
theorem dX4_isBusy_57 : decode cX4_isBusy 57 = .ok (.iload 5, 2) := dk_21 5 (dk_at dksX4_isBusy_2 9 rfl rfl)
theorem dX4_isBusy_59 : decode cX4_isBusy 59 = .ok (.ireturn, 1) := dk_172 (dk_at dksX4_isBusy_2 11 rfl rfl)
abbrev cX4_overlaps : ByteArray := prog_14_method_19_code
def yX4_overlaps : MethodName := ⟨RX4, "overlaps", "(IIII)Z"⟩
def dkwX4_overlaps_2 : List UInt8 := [167, 0, 4, 3, 172]
abbrev dktX4_overlaps_2 : List UInt8 := dkwX4_overlaps_2 ++ []
def dkwX4_overlaps_1 : List UInt8 := [180, 0, 39, 27, 46, 29, 21, 4, 96, 162, 0, 16, 29, 42, 27, 182, 0, 131, 162, 0, 7, 4]
abbrev dktX4_overlaps_1 : List UInt8 := dkwX4_overlaps_1 ++ dktX4_overlaps_2
def dkwX4_overlaps_0 : List UInt8 := [42, 180, 0, 49, 27, 52, 16, 98, 160, 0, 39, 42, 180, 0, 36, 27, 46, 28, 160, 0, 29, 42]
abbrev dktX4_overlaps_0 : List UInt8 := dkwX4_overlaps_0 ++ dktX4_overlaps_1
theorem dksX4_overlaps_0 : cX4_overlaps.data.toList.drop 0 = dktX4_overlaps_0 := by decide +kernel
theorem dksX4_overlaps_1 : cX4_overlaps.data.toList.drop 22 = dktX4_overlaps_1 := dk_seg dksX4_overlaps_0 22 rfl rfl
theorem dksX4_overlaps_2 : cX4_overlaps.data.toList.drop 44 = dktX4_overlaps_2 := dk_seg dksX4_overlaps_1 22 rfl rfl
theorem dX4_overlaps_0 : decode cX4_overlaps 0 = .ok (.aload_n 0, 1) := dk_42 (dk_at dksX4_overlaps_0 0 rfl rfl)
theorem dX4_overlaps_1 : decode cX4_overlaps 1 = .ok (.getfield 49, 3) := dk_180 0 49 (dk_at dksX4_overlaps_0 1 rfl rfl)
theorem dX4_overlaps_4 : decode cX4_overlaps 4 = .ok (.iload_n 1, 1) := dk_27 (dk_at dksX4_overlaps_0 4 rfl rfl)
theorem dX4_overlaps_5 : decode cX4_overlaps 5 = .ok (.caload, 1) := dk_52 (dk_at dksX4_overlaps_0 5 rfl rfl)
theorem dX4_overlaps_6 : decode cX4_overlaps 6 = .ok (.bipush 98, 2) := dk_16 98 (dk_at dksX4_overlaps_0 6 rfl rfl)
theorem dX4_overlaps_8 : decode cX4_overlaps 8 = .ok (.if_icmp .ne 39, 3) := dk_160 0 39 (dk_at dksX4_overlaps_0 8 rfl rfl)
theorem dX4_overlaps_11 : decode cX4_overlaps 11 = .ok (.aload_n 0, 1) := dk_42 (dk_at dksX4_overlaps_0 11 rfl rfl)
theorem dX4_overlaps_12 : decode cX4_overlaps 12 = .ok (.getfield 36, 3) := dk_180 0 36 (dk_at dksX4_overlaps_0 12 rfl rfl)
theorem dX4_overlaps_15 : decode cX4_overlaps 15 = .ok (.iload_n 1, 1) := dk_27 (dk_at dksX4_overlaps_0 15 rfl rfl)
theorem dX4_overlaps_16 : decode cX4_overlaps 16 = .ok (.iaload, 1) := dk_46 (dk_at dksX4_overlaps_0 16 rfl rfl)
theorem dX4_overlaps_17 : decode cX4_overlaps 17 = .ok (.iload_n 2, 1) := dk_28 (dk_at dksX4_overlaps_0 17 rfl rfl)
theorem dX4_overlaps_18 : decode cX4_overlaps 18 = .ok (.if_icmp .ne 29, 3) := dk_160 0 29 (dk_at dksX4_overlaps_0 18 rfl rfl)
theorem dX4_overlaps_21 : decode cX4_overlaps 21 = .ok (.aload_n 0, 1) := dk_42 (dk_at dksX4_overlaps_0 21 rfl rfl)
theorem dX4_overlaps_22 : decode cX4_overlaps 22 = .ok (.getfield 39, 3) := dk_180 0 39 (dk_at dksX4_overlaps_1 0 rfl rfl)
theorem dX4_overlaps_25 : decode cX4_overlaps 25 = .ok (.iload_n 1, 1) := dk_27 (dk_at dksX4_overlaps_1 3 rfl rfl)
theorem dX4_overlaps_26 : decode cX4_overlaps 26 = .ok (.iaload, 1) := dk_46 (dk_at dksX4_overlaps_1 4 rfl rfl)
theorem dX4_overlaps_27 : decode cX4_overlaps 27 = .ok (.iload_n 3, 1) := dk_29 (dk_at dksX4_overlaps_1 5 rfl rfl)
theorem dX4_overlaps_28 : decode cX4_overlaps 28 = .ok (.iload 4, 2) := dk_21 4 (dk_at dksX4_overlaps_1 6 rfl rfl)
theorem dX4_overlaps_30 : decode cX4_overlaps 30 = .ok (.iadd, 1) := dk_96 (dk_at dksX4_overlaps_1 8 rfl rfl)
theorem dX4_overlaps_31 : decode cX4_overlaps 31 = .ok (.if_icmp .ge 16, 3) := dk_162 0 16 (dk_at dksX4_overlaps_1 9 rfl rfl)
theorem dX4_overlaps_34 : decode cX4_overlaps 34 = .ok (.iload_n 3, 1) := dk_29 (dk_at dksX4_overlaps_1 12 rfl rfl)
theorem dX4_overlaps_35 : decode cX4_overlaps 35 = .ok (.aload_n 0, 1) := dk_42 (dk_at dksX4_overlaps_1 13 rfl rfl)
theorem dX4_overlaps_36 : decode cX4_overlaps 36 = .ok (.iload_n 1, 1) := dk_27 (dk_at dksX4_overlaps_1 14 rfl rfl)
theorem dX4_overlaps_37 : decode cX4_overlaps 37 = .ok (.invokevirtual 131, 3) := dk_182 0 131 (dk_at dksX4_overlaps_1 15 rfl rfl)
theorem dX4_overlaps_40 : decode cX4_overlaps 40 = .ok (.if_icmp .ge 7, 3) := dk_162 0 7 (dk_at dksX4_overlaps_1 18 rfl rfl)
theorem dX4_overlaps_43 : decode cX4_overlaps 43 = .ok (.iconst 1, 1) := dk_4 (dk_at dksX4_overlaps_1 21 rfl rfl)
theorem dX4_overlaps_44 : decode cX4_overlaps 44 = .ok (.goto 4, 3) := dk_167 0 4 (dk_at dksX4_overlaps_2 0 rfl rfl)
theorem dX4_overlaps_47 : decode cX4_overlaps 47 = .ok (.iconst 0, 1) := dk_3 (dk_at dksX4_overlaps_2 3 rfl rfl)
theorem dX4_overlaps_48 : decode cX4_overlaps 48 = .ok (.ireturn, 1) := dk_172 (dk_at dksX4_overlaps_2 4 rfl rfl)
abbrev cX4_endOf : ByteArray := prog_14_method_18_code
def yX4_endOf : MethodName := ⟨RX4, "endOf", "(I)I"⟩
def dkwX4_endOf_0 : List UInt8 := [42, 180, 0, 39, 27, 46, 42, 180, 0, 42, 27, 46, 96, 172]
abbrev dktX4_endOf_0 : List UInt8 := dkwX4_endOf_0 ++ []
theorem dksX4_endOf_0 : cX4_endOf.data.toList.drop 0 = dktX4_endOf_0 := by decide +kernel
theorem dX4_endOf_0 : decode cX4_endOf 0 = .ok (.aload_n 0, 1) := dk_42 (dk_at dksX4_endOf_0 0 rfl rfl)
theorem dX4_endOf_1 : decode cX4_endOf 1 = .ok (.getfield 39, 3) := dk_180 0 39 (dk_at dksX4_endOf_0 1 rfl rfl)
theorem dX4_endOf_4 : decode cX4_endOf 4 = .ok (.iload_n 1, 1) := dk_27 (dk_at dksX4_endOf_0 4 rfl rfl)
theorem dX4_endOf_5 : decode cX4_endOf 5 = .ok (.iaload, 1) := dk_46 (dk_at dksX4_endOf_0 5 rfl rfl)
theorem dX4_endOf_6 : decode cX4_endOf 6 = .ok (.aload_n 0, 1) := dk_42 (dk_at dksX4_endOf_0 6 rfl rfl)
theorem dX4_endOf_7 : decode cX4_endOf 7 = .ok (.getfield 42, 3) := dk_180 0 42 (dk_at dksX4_endOf_0 7 rfl rfl)
theorem dX4_endOf_10 : decode cX4_endOf 10 = .ok (.iload_n 1, 1) := dk_27 (dk_at dksX4_endOf_0 10 rfl rfl)
theorem dX4_endOf_11 : decode cX4_endOf 11 = .ok (.iaload, 1) := dk_46 (dk_at dksX4_endOf_0 11 rfl rfl)
theorem dX4_endOf_12 : decode cX4_endOf 12 = .ok (.iadd, 1) := dk_96 (dk_at dksX4_endOf_0 12 rfl rfl)
theorem dX4_endOf_13 : decode cX4_endOf 13 = .ok (.ireturn, 1) := dk_172 (dk_at dksX4_endOf_0 13 rfl rfl)
abbrev cX4_isFree : ByteArray := prog_14_method_21_code
def yX4_isFree : MethodName := ⟨RX4, "isFree", "(IIIIC)Z"⟩
def dkwX4_isFree_9 : List UInt8 := [182, 0, 138, 161, 0, 7, 4, 167, 0, 4, 3, 172]
abbrev dktX4_isFree_9 : List UInt8 := dkwX4_isFree_9 ++ []
def dkwX4_isFree_8 : List UInt8 := [180, 0, 39, 21, 7, 46, 29, 100, 21, 4, 100, 42, 27, 42, 180, 0, 45, 21, 7, 52, 21, 5]
abbrev dktX4_isFree_8 : List UInt8 := dkwX4_isFree_8 ++ dktX4_isFree_9
def dkwX4_isFree_7 : List UInt8 := [42, 180, 0, 45, 21, 6, 52, 21, 5, 182, 0, 138, 161, 0, 42, 21, 7, 2, 159, 0, 32, 42]
abbrev dktX4_isFree_7 : List UInt8 := dkwX4_isFree_7 ++ dktX4_isFree_8
def dkwX4_isFree_6 : List UInt8 := [54, 7, 132, 8, 1, 167, 255, 117, 21, 6, 2, 159, 0, 28, 29, 42, 21, 6, 182, 0, 131, 100, 42, 27]
abbrev dktX4_isFree_6 : List UInt8 := dkwX4_isFree_6 ++ dktX4_isFree_7
def dkwX4_isFree_5 : List UInt8 := [42, 180, 0, 39, 21, 8, 46, 42, 180, 0, 39, 21, 7, 46, 162, 0, 8, 21, 8, 167, 0, 5, 21, 7]
abbrev dktX4_isFree_5 : List UInt8 := dkwX4_isFree_5 ++ dktX4_isFree_6
def dkwX4_isFree_4 : List UInt8 := [21, 6, 46, 164, 0, 8, 21, 8, 167, 0, 5, 21, 6, 54, 6, 167, 0, 35, 21, 7, 2, 159, 0, 20]
abbrev dktX4_isFree_4 : List UInt8 := dkwX4_isFree_4 ++ dktX4_isFree_5
def dkwX4_isFree_3 : List UInt8 := [21, 8, 46, 29, 162, 0, 38, 21, 6, 2, 159, 0, 20, 42, 180, 0, 39, 21, 8, 46, 42, 180, 0, 39]
abbrev dktX4_isFree_3 : List UInt8 := dkwX4_isFree_3 ++ dktX4_isFree_4
def dkwX4_isFree_2 : List UInt8 := [28, 160, 0, 96, 42, 21, 8, 28, 29, 21, 4, 182, 0, 134, 153, 0, 5, 3, 172, 42, 180, 0, 39]
abbrev dktX4_isFree_2 : List UInt8 := dkwX4_isFree_2 ++ dktX4_isFree_3
def dkwX4_isFree_1 : List UInt8 := [52, 16, 98, 160, 0, 118, 42, 180, 0, 33, 21, 8, 46, 27, 160, 0, 107, 42, 180, 0, 36, 21, 8, 46]
abbrev dktX4_isFree_1 : List UInt8 := dkwX4_isFree_1 ++ dktX4_isFree_2
def dkwX4_isFree_0 : List UInt8 := [2, 54, 6, 2, 54, 7, 3, 54, 8, 21, 8, 42, 180, 0, 101, 162, 0, 136, 42, 180, 0, 49, 21, 8]
abbrev dktX4_isFree_0 : List UInt8 := dkwX4_isFree_0 ++ dktX4_isFree_1
theorem dksX4_isFree_0 : cX4_isFree.data.toList.drop 0 = dktX4_isFree_0 := by decide +kernel
theorem dksX4_isFree_1 : cX4_isFree.data.toList.drop 24 = dktX4_isFree_1 := dk_seg dksX4_isFree_0 24 rfl rfl
theorem dksX4_isFree_2 : cX4_isFree.data.toList.drop 48 = dktX4_isFree_2 := dk_seg dksX4_isFree_1 24 rfl rfl
theorem dksX4_isFree_3 : cX4_isFree.data.toList.drop 71 = dktX4_isFree_3 := dk_seg dksX4_isFree_2 23 rfl rfl
theorem dksX4_isFree_4 : cX4_isFree.data.toList.drop 95 = dktX4_isFree_4 := dk_seg dksX4_isFree_3 24 rfl rfl
theorem dksX4_isFree_5 : cX4_isFree.data.toList.drop 119 = dktX4_isFree_5 := dk_seg dksX4_isFree_4 24 rfl rfl
theorem dksX4_isFree_6 : cX4_isFree.data.toList.drop 143 = dktX4_isFree_6 := dk_seg dksX4_isFree_5 24 rfl rfl
theorem dksX4_isFree_7 : cX4_isFree.data.toList.drop 167 = dktX4_isFree_7 := dk_seg dksX4_isFree_6 24 rfl rfl
theorem dksX4_isFree_8 : cX4_isFree.data.toList.drop 189 = dktX4_isFree_8 := dk_seg dksX4_isFree_7 22 rfl rfl
theorem dksX4_isFree_9 : cX4_isFree.data.toList.drop 211 = dktX4_isFree_9 := dk_seg dksX4_isFree_8 22 rfl rfl
theorem dX4_isFree_0 : decode cX4_isFree 0 = .ok (.iconst (-1), 1) := dk_2 (dk_at dksX4_isFree_0 0 rfl rfl)
theorem dX4_isFree_1 : decode cX4_isFree 1 = .ok (.istore 6, 2) := dk_54 6 (dk_at dksX4_isFree_0 1 rfl rfl)
theorem dX4_isFree_3 : decode cX4_isFree 3 = .ok (.iconst (-1), 1) := dk_2 (dk_at dksX4_isFree_0 3 rfl rfl)
theorem dX4_isFree_4 : decode cX4_isFree 4 = .ok (.istore 7, 2) := dk_54 7 (dk_at dksX4_isFree_0 4 rfl rfl)
theorem dX4_isFree_6 : decode cX4_isFree 6 = .ok (.iconst 0, 1) := dk_3 (dk_at dksX4_isFree_0 6 rfl rfl)
theorem dX4_isFree_7 : decode cX4_isFree 7 = .ok (.istore 8, 2) := dk_54 8 (dk_at dksX4_isFree_0 7 rfl rfl)
theorem dX4_isFree_9 : decode cX4_isFree 9 = .ok (.iload 8, 2) := dk_21 8 (dk_at dksX4_isFree_0 9 rfl rfl)
theorem dX4_isFree_11 : decode cX4_isFree 11 = .ok (.aload_n 0, 1) := dk_42 (dk_at dksX4_isFree_0 11 rfl rfl)
theorem dX4_isFree_12 : decode cX4_isFree 12 = .ok (.getfield 101, 3) := dk_180 0 101 (dk_at dksX4_isFree_0 12 rfl rfl)
theorem dX4_isFree_15 : decode cX4_isFree 15 = .ok (.if_icmp .ge 136, 3) := dk_162 0 136 (dk_at dksX4_isFree_0 15 rfl rfl)
theorem dX4_isFree_18 : decode cX4_isFree 18 = .ok (.aload_n 0, 1) := dk_42 (dk_at dksX4_isFree_0 18 rfl rfl)
theorem dX4_isFree_19 : decode cX4_isFree 19 = .ok (.getfield 49, 3) := dk_180 0 49 (dk_at dksX4_isFree_0 19 rfl rfl)
theorem dX4_isFree_22 : decode cX4_isFree 22 = .ok (.iload 8, 2) := dk_21 8 (dk_at dksX4_isFree_0 22 rfl rfl)
theorem dX4_isFree_24 : decode cX4_isFree 24 = .ok (.caload, 1) := dk_52 (dk_at dksX4_isFree_1 0 rfl rfl)
theorem dX4_isFree_25 : decode cX4_isFree 25 = .ok (.bipush 98, 2) := dk_16 98 (dk_at dksX4_isFree_1 1 rfl rfl)
theorem dX4_isFree_27 : decode cX4_isFree 27 = .ok (.if_icmp .ne 118, 3) := dk_160 0 118 (dk_at dksX4_isFree_1 3 rfl rfl)
theorem dX4_isFree_30 : decode cX4_isFree 30 = .ok (.aload_n 0, 1) := dk_42 (dk_at dksX4_isFree_1 6 rfl rfl)
theorem dX4_isFree_31 : decode cX4_isFree 31 = .ok (.getfield 33, 3) := dk_180 0 33 (dk_at dksX4_isFree_1 7 rfl rfl)
theorem dX4_isFree_34 : decode cX4_isFree 34 = .ok (.iload 8, 2) := dk_21 8 (dk_at dksX4_isFree_1 10 rfl rfl)
theorem dX4_isFree_36 : decode cX4_isFree 36 = .ok (.iaload, 1) := dk_46 (dk_at dksX4_isFree_1 12 rfl rfl)
theorem dX4_isFree_37 : decode cX4_isFree 37 = .ok (.iload_n 1, 1) := dk_27 (dk_at dksX4_isFree_1 13 rfl rfl)
theorem dX4_isFree_38 : decode cX4_isFree 38 = .ok (.if_icmp .ne 107, 3) := dk_160 0 107 (dk_at dksX4_isFree_1 14 rfl rfl)
theorem dX4_isFree_41 : decode cX4_isFree 41 = .ok (.aload_n 0, 1) := dk_42 (dk_at dksX4_isFree_1 17 rfl rfl)
theorem dX4_isFree_42 : decode cX4_isFree 42 = .ok (.getfield 36, 3) := dk_180 0 36 (dk_at dksX4_isFree_1 18 rfl rfl)
theorem dX4_isFree_45 : decode cX4_isFree 45 = .ok (.iload 8, 2) := dk_21 8 (dk_at dksX4_isFree_1 21 rfl rfl)
theorem dX4_isFree_47 : decode cX4_isFree 47 = .ok (.iaload, 1) := dk_46 (dk_at dksX4_isFree_1 23 rfl rfl)
theorem dX4_isFree_48 : decode cX4_isFree 48 = .ok (.iload_n 2, 1) := dk_28 (dk_at dksX4_isFree_2 0 rfl rfl)
theorem dX4_isFree_49 : decode cX4_isFree 49 = .ok (.if_icmp .ne 96, 3) := dk_160 0 96 (dk_at dksX4_isFree_2 1 rfl rfl)
theorem dX4_isFree_52 : decode cX4_isFree 52 = .ok (.aload_n 0, 1) := dk_42 (dk_at dksX4_isFree_2 4 rfl rfl)
theorem dX4_isFree_53 : decode cX4_isFree 53 = .ok (.iload 8, 2) := dk_21 8 (dk_at dksX4_isFree_2 5 rfl rfl)
theorem dX4_isFree_55 : decode cX4_isFree 55 = .ok (.iload_n 2, 1) := dk_28 (dk_at dksX4_isFree_2 7 rfl rfl)
theorem dX4_isFree_56 : decode cX4_isFree 56 = .ok (.iload_n 3, 1) := dk_29 (dk_at dksX4_isFree_2 8 rfl rfl)
theorem dX4_isFree_57 : decode cX4_isFree 57 = .ok (.iload 4, 2) := dk_21 4 (dk_at dksX4_isFree_2 9 rfl rfl)
theorem dX4_isFree_59 : decode cX4_isFree 59 = .ok (.invokevirtual 134, 3) := dk_182 0 134 (dk_at dksX4_isFree_2 11 rfl rfl)
theorem dX4_isFree_62 : decode cX4_isFree 62 = .ok (.ifCond .eq 5, 3) := dk_153 0 5 (dk_at dksX4_isFree_2 14 rfl rfl)
theorem dX4_isFree_65 : decode cX4_isFree 65 = .ok (.iconst 0, 1) := dk_3 (dk_at dksX4_isFree_2 17 rfl rfl)
theorem dX4_isFree_66 : decode cX4_isFree 66 = .ok (.ireturn, 1) := dk_172 (dk_at dksX4_isFree_2 18 rfl rfl)
theorem dX4_isFree_67 : decode cX4_isFree 67 = .ok (.aload_n 0, 1) := dk_42 (dk_at dksX4_isFree_2 19 rfl rfl)
theorem dX4_isFree_68 : decode cX4_isFree 68 = .ok (.getfield 39, 3) := dk_180 0 39 (dk_at dksX4_isFree_2 20 rfl rfl)
theorem dX4_isFree_71 : decode cX4_isFree 71 = .ok (.iload 8, 2) := dk_21 8 (dk_at dksX4_isFree_3 0 rfl rfl)
theorem dX4_isFree_73 : decode cX4_isFree 73 = .ok (.iaload, 1) := dk_46 (dk_at dksX4_isFree_3 2 rfl rfl)
theorem dX4_isFree_74 : decode cX4_isFree 74 = .ok (.iload_n 3, 1) := dk_29 (dk_at dksX4_isFree_3 3 rfl rfl)
theorem dX4_isFree_75 : decode cX4_isFree 75 = .ok (.if_icmp .ge 38, 3) := dk_162 0 38 (dk_at dksX4_isFree_3 4 rfl rfl)
theorem dX4_isFree_78 : decode cX4_isFree 78 = .ok (.iload 6, 2) := dk_21 6 (dk_at dksX4_isFree_3 7 rfl rfl)
theorem dX4_isFree_80 : decode cX4_isFree 80 = .ok (.iconst (-1), 1) := dk_2 (dk_at dksX4_isFree_3 9 rfl rfl)
theorem dX4_isFree_81 : decode cX4_isFree 81 = .ok (.if_icmp .eq 20, 3) := dk_159 0 20 (dk_at dksX4_isFree_3 10 rfl rfl)
theorem dX4_isFree_84 : decode cX4_isFree 84 = .ok (.aload_n 0, 1) := dk_42 (dk_at dksX4_isFree_3 13 rfl rfl)
theorem dX4_isFree_85 : decode cX4_isFree 85 = .ok (.getfield 39, 3) := dk_180 0 39 (dk_at dksX4_isFree_3 14 rfl rfl)
theorem dX4_isFree_88 : decode cX4_isFree 88 = .ok (.iload 8, 2) := dk_21 8 (dk_at dksX4_isFree_3 17 rfl rfl)
theorem dX4_isFree_90 : decode cX4_isFree 90 = .ok (.iaload, 1) := dk_46 (dk_at dksX4_isFree_3 19 rfl rfl)
theorem dX4_isFree_91 : decode cX4_isFree 91 = .ok (.aload_n 0, 1) := dk_42 (dk_at dksX4_isFree_3 20 rfl rfl)
theorem dX4_isFree_92 : decode cX4_isFree 92 = .ok (.getfield 39, 3) := dk_180 0 39 (dk_at dksX4_isFree_3 21 rfl rfl)
theorem dX4_isFree_95 : decode cX4_isFree 95 = .ok (.iload 6, 2) := dk_21 6 (dk_at dksX4_isFree_4 0 rfl rfl)
theorem dX4_isFree_97 : decode cX4_isFree 97 = .ok (.iaload, 1) := dk_46 (dk_at dksX4_isFree_4 2 rfl rfl)
theorem dX4_isFree_98 : decode cX4_isFree 98 = .ok (.if_icmp .le 8, 3) := dk_164 0 8 (dk_at dksX4_isFree_4 3 rfl rfl)
theorem dX4_isFree_101 : decode cX4_isFree 101 = .ok (.iload 8, 2) := dk_21 8 (dk_at dksX4_isFree_4 6 rfl rfl)
theorem dX4_isFree_103 : decode cX4_isFree 103 = .ok (.goto 5, 3) := dk_167 0 5 (dk_at dksX4_isFree_4 8 rfl rfl)
theorem dX4_isFree_106 : decode cX4_isFree 106 = .ok (.iload 6, 2) := dk_21 6 (dk_at dksX4_isFree_4 11 rfl rfl)
theorem dX4_isFree_108 : decode cX4_isFree 108 = .ok (.istore 6, 2) := dk_54 6 (dk_at dksX4_isFree_4 13 rfl rfl)
theorem dX4_isFree_110 : decode cX4_isFree 110 = .ok (.goto 35, 3) := dk_167 0 35 (dk_at dksX4_isFree_4 15 rfl rfl)
theorem dX4_isFree_113 : decode cX4_isFree 113 = .ok (.iload 7, 2) := dk_21 7 (dk_at dksX4_isFree_4 18 rfl rfl)
theorem dX4_isFree_115 : decode cX4_isFree 115 = .ok (.iconst (-1), 1) := dk_2 (dk_at dksX4_isFree_4 20 rfl rfl)
theorem dX4_isFree_116 : decode cX4_isFree 116 = .ok (.if_icmp .eq 20, 3) := dk_159 0 20 (dk_at dksX4_isFree_4 21 rfl rfl)
theorem dX4_isFree_119 : decode cX4_isFree 119 = .ok (.aload_n 0, 1) := dk_42 (dk_at dksX4_isFree_5 0 rfl rfl)
theorem dX4_isFree_120 : decode cX4_isFree 120 = .ok (.getfield 39, 3) := dk_180 0 39 (dk_at dksX4_isFree_5 1 rfl rfl)
theorem dX4_isFree_123 : decode cX4_isFree 123 = .ok (.iload 8, 2) := dk_21 8 (dk_at dksX4_isFree_5 4 rfl rfl)
theorem dX4_isFree_125 : decode cX4_isFree 125 = .ok (.iaload, 1) := dk_46 (dk_at dksX4_isFree_5 6 rfl rfl)
theorem dX4_isFree_126 : decode cX4_isFree 126 = .ok (.aload_n 0, 1) := dk_42 (dk_at dksX4_isFree_5 7 rfl rfl)
theorem dX4_isFree_127 : decode cX4_isFree 127 = .ok (.getfield 39, 3) := dk_180 0 39 (dk_at dksX4_isFree_5 8 rfl rfl)
theorem dX4_isFree_130 : decode cX4_isFree 130 = .ok (.iload 7, 2) := dk_21 7 (dk_at dksX4_isFree_5 11 rfl rfl)
theorem dX4_isFree_132 : decode cX4_isFree 132 = .ok (.iaload, 1) := dk_46 (dk_at dksX4_isFree_5 13 rfl rfl)
theorem dX4_isFree_133 : decode cX4_isFree 133 = .ok (.if_icmp .ge 8, 3) := dk_162 0 8 (dk_at dksX4_isFree_5 14 rfl rfl)
theorem dX4_isFree_136 : decode cX4_isFree 136 = .ok (.iload 8, 2) := dk_21 8 (dk_at dksX4_isFree_5 17 rfl rfl)
theorem dX4_isFree_138 : decode cX4_isFree 138 = .ok (.goto 5, 3) := dk_167 0 5 (dk_at dksX4_isFree_5 19 rfl rfl)
theorem dX4_isFree_141 : decode cX4_isFree 141 = .ok (.iload 7, 2) := dk_21 7 (dk_at dksX4_isFree_5 22 rfl rfl)
theorem dX4_isFree_143 : decode cX4_isFree 143 = .ok (.istore 7, 2) := dk_54 7 (dk_at dksX4_isFree_6 0 rfl rfl)
theorem dX4_isFree_145 : decode cX4_isFree 145 = .ok (.iinc 8 1, 3) := dk_132 8 1 (dk_at dksX4_isFree_6 2 rfl rfl)
theorem dX4_isFree_148 : decode cX4_isFree 148 = .ok (.goto (-139), 3) := dk_167 255 117 (dk_at dksX4_isFree_6 5 rfl rfl)
theorem dX4_isFree_151 : decode cX4_isFree 151 = .ok (.iload 6, 2) := dk_21 6 (dk_at dksX4_isFree_6 8 rfl rfl)
theorem dX4_isFree_153 : decode cX4_isFree 153 = .ok (.iconst (-1), 1) := dk_2 (dk_at dksX4_isFree_6 10 rfl rfl)
theorem dX4_isFree_154 : decode cX4_isFree 154 = .ok (.if_icmp .eq 28, 3) := dk_159 0 28 (dk_at dksX4_isFree_6 11 rfl rfl)
theorem dX4_isFree_157 : decode cX4_isFree 157 = .ok (.iload_n 3, 1) := dk_29 (dk_at dksX4_isFree_6 14 rfl rfl)
theorem dX4_isFree_158 : decode cX4_isFree 158 = .ok (.aload_n 0, 1) := dk_42 (dk_at dksX4_isFree_6 15 rfl rfl)
theorem dX4_isFree_159 : decode cX4_isFree 159 = .ok (.iload 6, 2) := dk_21 6 (dk_at dksX4_isFree_6 16 rfl rfl)
theorem dX4_isFree_161 : decode cX4_isFree 161 = .ok (.invokevirtual 131, 3) := dk_182 0 131 (dk_at dksX4_isFree_6 18 rfl rfl)
theorem dX4_isFree_164 : decode cX4_isFree 164 = .ok (.isub, 1) := dk_100 (dk_at dksX4_isFree_6 21 rfl rfl)
theorem dX4_isFree_165 : decode cX4_isFree 165 = .ok (.aload_n 0, 1) := dk_42 (dk_at dksX4_isFree_6 22 rfl rfl)
theorem dX4_isFree_166 : decode cX4_isFree 166 = .ok (.iload_n 1, 1) := dk_27 (dk_at dksX4_isFree_6 23 rfl rfl)
theorem dX4_isFree_167 : decode cX4_isFree 167 = .ok (.aload_n 0, 1) := dk_42 (dk_at dksX4_isFree_7 0 rfl rfl)
theorem dX4_isFree_168 : decode cX4_isFree 168 = .ok (.getfield 45, 3) := dk_180 0 45 (dk_at dksX4_isFree_7 1 rfl rfl)
theorem dX4_isFree_171 : decode cX4_isFree 171 = .ok (.iload 6, 2) := dk_21 6 (dk_at dksX4_isFree_7 4 rfl rfl)
theorem dX4_isFree_173 : decode cX4_isFree 173 = .ok (.caload, 1) := dk_52 (dk_at dksX4_isFree_7 6 rfl rfl)
theorem dX4_isFree_174 : decode cX4_isFree 174 = .ok (.iload 5, 2) := dk_21 5 (dk_at dksX4_isFree_7 7 rfl rfl)
theorem dX4_isFree_176 : decode cX4_isFree 176 = .ok (.invokevirtual 138, 3) := dk_182 0 138 (dk_at dksX4_isFree_7 9 rfl rfl)
theorem dX4_isFree_179 : decode cX4_isFree 179 = .ok (.if_icmp .lt 42, 3) := dk_161 0 42 (dk_at dksX4_isFree_7 12 rfl rfl)
theorem dX4_isFree_182 : decode cX4_isFree 182 = .ok (.iload 7, 2) := dk_21 7 (dk_at dksX4_isFree_7 15 rfl rfl)
theorem dX4_isFree_184 : decode cX4_isFree 184 = .ok (.iconst (-1), 1) := dk_2 (dk_at dksX4_isFree_7 17 rfl rfl)
theorem dX4_isFree_185 : decode cX4_isFree 185 = .ok (.if_icmp .eq 32, 3) := dk_159 0 32 (dk_at dksX4_isFree_7 18 rfl rfl)
theorem dX4_isFree_188 : decode cX4_isFree 188 = .ok (.aload_n 0, 1) := dk_42 (dk_at dksX4_isFree_7 21 rfl rfl)
theorem dX4_isFree_189 : decode cX4_isFree 189 = .ok (.getfield 39, 3) := dk_180 0 39 (dk_at dksX4_isFree_8 0 rfl rfl)
theorem dX4_isFree_192 : decode cX4_isFree 192 = .ok (.iload 7, 2) := dk_21 7 (dk_at dksX4_isFree_8 3 rfl rfl)
theorem dX4_isFree_194 : decode cX4_isFree 194 = .ok (.iaload, 1) := dk_46 (dk_at dksX4_isFree_8 5 rfl rfl)
theorem dX4_isFree_195 : decode cX4_isFree 195 = .ok (.iload_n 3, 1) := dk_29 (dk_at dksX4_isFree_8 6 rfl rfl)
theorem dX4_isFree_196 : decode cX4_isFree 196 = .ok (.isub, 1) := dk_100 (dk_at dksX4_isFree_8 7 rfl rfl)
theorem dX4_isFree_197 : decode cX4_isFree 197 = .ok (.iload 4, 2) := dk_21 4 (dk_at dksX4_isFree_8 8 rfl rfl)
theorem dX4_isFree_199 : decode cX4_isFree 199 = .ok (.isub, 1) := dk_100 (dk_at dksX4_isFree_8 10 rfl rfl)
theorem dX4_isFree_200 : decode cX4_isFree 200 = .ok (.aload_n 0, 1) := dk_42 (dk_at dksX4_isFree_8 11 rfl rfl)
theorem dX4_isFree_201 : decode cX4_isFree 201 = .ok (.iload_n 1, 1) := dk_27 (dk_at dksX4_isFree_8 12 rfl rfl)
theorem dX4_isFree_202 : decode cX4_isFree 202 = .ok (.aload_n 0, 1) := dk_42 (dk_at dksX4_isFree_8 13 rfl rfl)
theorem dX4_isFree_203 : decode cX4_isFree 203 = .ok (.getfield 45, 3) := dk_180 0 45 (dk_at dksX4_isFree_8 14 rfl rfl)
theorem dX4_isFree_206 : decode cX4_isFree 206 = .ok (.iload 7, 2) := dk_21 7 (dk_at dksX4_isFree_8 17 rfl rfl)
theorem dX4_isFree_208 : decode cX4_isFree 208 = .ok (.caload, 1) := dk_52 (dk_at dksX4_isFree_8 19 rfl rfl)
theorem dX4_isFree_209 : decode cX4_isFree 209 = .ok (.iload 5, 2) := dk_21 5 (dk_at dksX4_isFree_8 20 rfl rfl)
theorem dX4_isFree_211 : decode cX4_isFree 211 = .ok (.invokevirtual 138, 3) := dk_182 0 138 (dk_at dksX4_isFree_9 0 rfl rfl)
theorem dX4_isFree_214 : decode cX4_isFree 214 = .ok (.if_icmp .lt 7, 3) := dk_161 0 7 (dk_at dksX4_isFree_9 3 rfl rfl)
theorem dX4_isFree_217 : decode cX4_isFree 217 = .ok (.iconst 1, 1) := dk_4 (dk_at dksX4_isFree_9 6 rfl rfl)
theorem dX4_isFree_218 : decode cX4_isFree 218 = .ok (.goto 4, 3) := dk_167 0 4 (dk_at dksX4_isFree_9 7 rfl rfl)
theorem dX4_isFree_221 : decode cX4_isFree 221 = .ok (.iconst 0, 1) := dk_3 (dk_at dksX4_isFree_9 10 rfl rfl)
theorem dX4_isFree_222 : decode cX4_isFree 222 = .ok (.ireturn, 1) := dk_172 (dk_at dksX4_isFree_9 11 rfl rfl)
abbrev cX4_setup : ByteArray := prog_14_method_20_code
def yX4_setup : MethodName := ⟨RX4, "setup", "(ICC)I"⟩
def dkwX4_setup_0 : List UInt8 := [28, 29, 160, 0, 7, 3, 167, 0, 9, 42, 180, 0, 13, 27, 46, 172]
abbrev dktX4_setup_0 : List UInt8 := dkwX4_setup_0 ++ []
theorem dksX4_setup_0 : cX4_setup.data.toList.drop 0 = dktX4_setup_0 := by decide +kernel
theorem dX4_setup_0 : decode cX4_setup 0 = .ok (.iload_n 2, 1) := dk_28 (dk_at dksX4_setup_0 0 rfl rfl)
theorem dX4_setup_1 : decode cX4_setup 1 = .ok (.iload_n 3, 1) := dk_29 (dk_at dksX4_setup_0 1 rfl rfl)
theorem dX4_setup_2 : decode cX4_setup 2 = .ok (.if_icmp .ne 7, 3) := dk_160 0 7 (dk_at dksX4_setup_0 2 rfl rfl)
theorem dX4_setup_5 : decode cX4_setup 5 = .ok (.iconst 0, 1) := dk_3 (dk_at dksX4_setup_0 5 rfl rfl)
theorem dX4_setup_6 : decode cX4_setup 6 = .ok (.goto 9, 3) := dk_167 0 9 (dk_at dksX4_setup_0 6 rfl rfl)
theorem dX4_setup_9 : decode cX4_setup 9 = .ok (.aload_n 0, 1) := dk_42 (dk_at dksX4_setup_0 9 rfl rfl)
theorem dX4_setup_10 : decode cX4_setup 10 = .ok (.getfield 13, 3) := dk_180 0 13 (dk_at dksX4_setup_0 10 rfl rfl)
theorem dX4_setup_13 : decode cX4_setup 13 = .ok (.iload_n 1, 1) := dk_27 (dk_at dksX4_setup_0 13 rfl rfl)
theorem dX4_setup_14 : decode cX4_setup 14 = .ok (.iaload, 1) := dk_46 (dk_at dksX4_setup_0 14 rfl rfl)
theorem dX4_setup_15 : decode cX4_setup 15 = .ok (.ireturn, 1) := dk_172 (dk_at dksX4_setup_0 15 rfl rfl)
abbrev cX4_induct : ByteArray := prog_14_method_16_code
def yX4_induct : MethodName := ⟨RX4, "induct", "(II)I"⟩
def dkwX4_induct_5 : List UInt8 := [2, 167, 0, 9, 42, 180, 0, 112, 29, 100, 172]
abbrev dktX4_induct_5 : List UInt8 := dkwX4_induct_5 ++ []
def dkwX4_induct_4 : List UInt8 := [28, 46, 62, 42, 180, 0, 18, 27, 50, 28, 42, 180, 0, 112, 79, 42, 182, 0, 125, 29, 2, 160, 0, 7]
abbrev dktX4_induct_4 : List UInt8 := dkwX4_induct_4 ++ dktX4_induct_5
def dkwX4_induct_3 : List UInt8 := [181, 0, 87, 132, 3, 1, 167, 255, 208, 42, 180, 0, 87, 158, 0, 5, 3, 172, 42, 180, 0, 18, 27, 50]
abbrev dktX4_induct_3 : List UInt8 := dkwX4_induct_3 ++ dktX4_induct_4
def dkwX4_induct_2 : List UInt8 := [50, 29, 51, 153, 0, 20, 42, 27, 29, 42, 180, 0, 112, 182, 0, 119, 154, 0, 7, 6, 167, 0, 4, 3]
abbrev dktX4_induct_2 : List UInt8 := dkwX4_induct_2 ++ dktX4_induct_3
def dkwX4_induct_1 : List UInt8 := [3, 181, 0, 87, 3, 62, 29, 7, 162, 0, 49, 42, 180, 0, 87, 154, 0, 42, 42, 42, 180, 0, 27, 28]
abbrev dktX4_induct_1 : List UInt8 := dkwX4_induct_1 ++ dktX4_induct_2
def dkwX4_induct_0 : List UInt8 := [42, 42, 27, 182, 0, 128, 154, 0, 7, 4, 167, 0, 15, 28, 184, 0, 104, 154, 0, 7, 5, 167, 0, 4]
abbrev dktX4_induct_0 : List UInt8 := dkwX4_induct_0 ++ dktX4_induct_1
theorem dksX4_induct_0 : cX4_induct.data.toList.drop 0 = dktX4_induct_0 := by decide +kernel
theorem dksX4_induct_1 : cX4_induct.data.toList.drop 24 = dktX4_induct_1 := dk_seg dksX4_induct_0 24 rfl rfl
theorem dksX4_induct_2 : cX4_induct.data.toList.drop 48 = dktX4_induct_2 := dk_seg dksX4_induct_1 24 rfl rfl
theorem dksX4_induct_3 : cX4_induct.data.toList.drop 72 = dktX4_induct_3 := dk_seg dksX4_induct_2 24 rfl rfl
theorem dksX4_induct_4 : cX4_induct.data.toList.drop 96 = dktX4_induct_4 := dk_seg dksX4_induct_3 24 rfl rfl
theorem dksX4_induct_5 : cX4_induct.data.toList.drop 120 = dktX4_induct_5 := dk_seg dksX4_induct_4 24 rfl rfl
theorem dX4_induct_0 : decode cX4_induct 0 = .ok (.aload_n 0, 1) := dk_42 (dk_at dksX4_induct_0 0 rfl rfl)
theorem dX4_induct_1 : decode cX4_induct 1 = .ok (.aload_n 0, 1) := dk_42 (dk_at dksX4_induct_0 1 rfl rfl)
theorem dX4_induct_2 : decode cX4_induct 2 = .ok (.iload_n 1, 1) := dk_27 (dk_at dksX4_induct_0 2 rfl rfl)
theorem dX4_induct_3 : decode cX4_induct 3 = .ok (.invokevirtual 128, 3) := dk_182 0 128 (dk_at dksX4_induct_0 3 rfl rfl)
theorem dX4_induct_6 : decode cX4_induct 6 = .ok (.ifCond .ne 7, 3) := dk_154 0 7 (dk_at dksX4_induct_0 6 rfl rfl)
theorem dX4_induct_9 : decode cX4_induct 9 = .ok (.iconst 1, 1) := dk_4 (dk_at dksX4_induct_0 9 rfl rfl)
theorem dX4_induct_10 : decode cX4_induct 10 = .ok (.goto 15, 3) := dk_167 0 15 (dk_at dksX4_induct_0 10 rfl rfl)
theorem dX4_induct_13 : decode cX4_induct 13 = .ok (.iload_n 2, 1) := dk_28 (dk_at dksX4_induct_0 13 rfl rfl)
theorem dX4_induct_14 : decode cX4_induct 14 = .ok (.invokestatic 104, 3) := dk_184 0 104 (dk_at dksX4_induct_0 14 rfl rfl)
theorem dX4_induct_17 : decode cX4_induct 17 = .ok (.ifCond .ne 7, 3) := dk_154 0 7 (dk_at dksX4_induct_0 17 rfl rfl)
theorem dX4_induct_20 : decode cX4_induct 20 = .ok (.iconst 2, 1) := dk_5 (dk_at dksX4_induct_0 20 rfl rfl)
theorem dX4_induct_21 : decode cX4_induct 21 = .ok (.goto 4, 3) := dk_167 0 4 (dk_at dksX4_induct_0 21 rfl rfl)
theorem dX4_induct_24 : decode cX4_induct 24 = .ok (.iconst 0, 1) := dk_3 (dk_at dksX4_induct_1 0 rfl rfl)
theorem dX4_induct_25 : decode cX4_induct 25 = .ok (.putfield 87, 3) := dk_181 0 87 (dk_at dksX4_induct_1 1 rfl rfl)
theorem dX4_induct_28 : decode cX4_induct 28 = .ok (.iconst 0, 1) := dk_3 (dk_at dksX4_induct_1 4 rfl rfl)
theorem dX4_induct_29 : decode cX4_induct 29 = .ok (.istore_n 3, 1) := dk_62 (dk_at dksX4_induct_1 5 rfl rfl)
theorem dX4_induct_30 : decode cX4_induct 30 = .ok (.iload_n 3, 1) := dk_29 (dk_at dksX4_induct_1 6 rfl rfl)
theorem dX4_induct_31 : decode cX4_induct 31 = .ok (.iconst 4, 1) := dk_7 (dk_at dksX4_induct_1 7 rfl rfl)
theorem dX4_induct_32 : decode cX4_induct 32 = .ok (.if_icmp .ge 49, 3) := dk_162 0 49 (dk_at dksX4_induct_1 8 rfl rfl)
theorem dX4_induct_35 : decode cX4_induct 35 = .ok (.aload_n 0, 1) := dk_42 (dk_at dksX4_induct_1 11 rfl rfl)
theorem dX4_induct_36 : decode cX4_induct 36 = .ok (.getfield 87, 3) := dk_180 0 87 (dk_at dksX4_induct_1 12 rfl rfl)
theorem dX4_induct_39 : decode cX4_induct 39 = .ok (.ifCond .ne 42, 3) := dk_154 0 42 (dk_at dksX4_induct_1 15 rfl rfl)
theorem dX4_induct_42 : decode cX4_induct 42 = .ok (.aload_n 0, 1) := dk_42 (dk_at dksX4_induct_1 18 rfl rfl)
theorem dX4_induct_43 : decode cX4_induct 43 = .ok (.aload_n 0, 1) := dk_42 (dk_at dksX4_induct_1 19 rfl rfl)
theorem dX4_induct_44 : decode cX4_induct 44 = .ok (.getfield 27, 3) := dk_180 0 27 (dk_at dksX4_induct_1 20 rfl rfl)
theorem dX4_induct_47 : decode cX4_induct 47 = .ok (.iload_n 2, 1) := dk_28 (dk_at dksX4_induct_1 23 rfl rfl)
theorem dX4_induct_48 : decode cX4_induct 48 = .ok (.aaload, 1) := dk_50 (dk_at dksX4_induct_2 0 rfl rfl)
theorem dX4_induct_49 : decode cX4_induct 49 = .ok (.iload_n 3, 1) := dk_29 (dk_at dksX4_induct_2 1 rfl rfl)
theorem dX4_induct_50 : decode cX4_induct 50 = .ok (.baload, 1) := dk_51 (dk_at dksX4_induct_2 2 rfl rfl)
theorem dX4_induct_51 : decode cX4_induct 51 = .ok (.ifCond .eq 20, 3) := dk_153 0 20 (dk_at dksX4_induct_2 3 rfl rfl)
theorem dX4_induct_54 : decode cX4_induct 54 = .ok (.aload_n 0, 1) := dk_42 (dk_at dksX4_induct_2 6 rfl rfl)
theorem dX4_induct_55 : decode cX4_induct 55 = .ok (.iload_n 1, 1) := dk_27 (dk_at dksX4_induct_2 7 rfl rfl)
theorem dX4_induct_56 : decode cX4_induct 56 = .ok (.iload_n 3, 1) := dk_29 (dk_at dksX4_induct_2 8 rfl rfl)
theorem dX4_induct_57 : decode cX4_induct 57 = .ok (.aload_n 0, 1) := dk_42 (dk_at dksX4_induct_2 9 rfl rfl)
theorem dX4_induct_58 : decode cX4_induct 58 = .ok (.getfield 112, 3) := dk_180 0 112 (dk_at dksX4_induct_2 10 rfl rfl)
theorem dX4_induct_61 : decode cX4_induct 61 = .ok (.invokevirtual 119, 3) := dk_182 0 119 (dk_at dksX4_induct_2 13 rfl rfl)
theorem dX4_induct_64 : decode cX4_induct 64 = .ok (.ifCond .ne 7, 3) := dk_154 0 7 (dk_at dksX4_induct_2 16 rfl rfl)
theorem dX4_induct_67 : decode cX4_induct 67 = .ok (.iconst 3, 1) := dk_6 (dk_at dksX4_induct_2 19 rfl rfl)
theorem dX4_induct_68 : decode cX4_induct 68 = .ok (.goto 4, 3) := dk_167 0 4 (dk_at dksX4_induct_2 20 rfl rfl)
theorem dX4_induct_71 : decode cX4_induct 71 = .ok (.iconst 0, 1) := dk_3 (dk_at dksX4_induct_2 23 rfl rfl)
theorem dX4_induct_72 : decode cX4_induct 72 = .ok (.putfield 87, 3) := dk_181 0 87 (dk_at dksX4_induct_3 0 rfl rfl)
theorem dX4_induct_75 : decode cX4_induct 75 = .ok (.iinc 3 1, 3) := dk_132 3 1 (dk_at dksX4_induct_3 3 rfl rfl)
theorem dX4_induct_78 : decode cX4_induct 78 = .ok (.goto (-48), 3) := dk_167 255 208 (dk_at dksX4_induct_3 6 rfl rfl)
theorem dX4_induct_81 : decode cX4_induct 81 = .ok (.aload_n 0, 1) := dk_42 (dk_at dksX4_induct_3 9 rfl rfl)
theorem dX4_induct_82 : decode cX4_induct 82 = .ok (.getfield 87, 3) := dk_180 0 87 (dk_at dksX4_induct_3 10 rfl rfl)
theorem dX4_induct_85 : decode cX4_induct 85 = .ok (.ifCond .le 5, 3) := dk_158 0 5 (dk_at dksX4_induct_3 13 rfl rfl)
theorem dX4_induct_88 : decode cX4_induct 88 = .ok (.iconst 0, 1) := dk_3 (dk_at dksX4_induct_3 16 rfl rfl)
theorem dX4_induct_89 : decode cX4_induct 89 = .ok (.ireturn, 1) := dk_172 (dk_at dksX4_induct_3 17 rfl rfl)
theorem dX4_induct_90 : decode cX4_induct 90 = .ok (.aload_n 0, 1) := dk_42 (dk_at dksX4_induct_3 18 rfl rfl)
theorem dX4_induct_91 : decode cX4_induct 91 = .ok (.getfield 18, 3) := dk_180 0 18 (dk_at dksX4_induct_3 19 rfl rfl)
theorem dX4_induct_94 : decode cX4_induct 94 = .ok (.iload_n 1, 1) := dk_27 (dk_at dksX4_induct_3 22 rfl rfl)
theorem dX4_induct_95 : decode cX4_induct 95 = .ok (.aaload, 1) := dk_50 (dk_at dksX4_induct_3 23 rfl rfl)
theorem dX4_induct_96 : decode cX4_induct 96 = .ok (.iload_n 2, 1) := dk_28 (dk_at dksX4_induct_4 0 rfl rfl)
theorem dX4_induct_97 : decode cX4_induct 97 = .ok (.iaload, 1) := dk_46 (dk_at dksX4_induct_4 1 rfl rfl)
theorem dX4_induct_98 : decode cX4_induct 98 = .ok (.istore_n 3, 1) := dk_62 (dk_at dksX4_induct_4 2 rfl rfl)
theorem dX4_induct_99 : decode cX4_induct 99 = .ok (.aload_n 0, 1) := dk_42 (dk_at dksX4_induct_4 3 rfl rfl)
theorem dX4_induct_100 : decode cX4_induct 100 = .ok (.getfield 18, 3) := dk_180 0 18 (dk_at dksX4_induct_4 4 rfl rfl)
theorem dX4_induct_103 : decode cX4_induct 103 = .ok (.iload_n 1, 1) := dk_27 (dk_at dksX4_induct_4 7 rfl rfl)
theorem dX4_induct_104 : decode cX4_induct 104 = .ok (.aaload, 1) := dk_50 (dk_at dksX4_induct_4 8 rfl rfl)
theorem dX4_induct_105 : decode cX4_induct 105 = .ok (.iload_n 2, 1) := dk_28 (dk_at dksX4_induct_4 9 rfl rfl)
theorem dX4_induct_106 : decode cX4_induct 106 = .ok (.aload_n 0, 1) := dk_42 (dk_at dksX4_induct_4 10 rfl rfl)
theorem dX4_induct_107 : decode cX4_induct 107 = .ok (.getfield 112, 3) := dk_180 0 112 (dk_at dksX4_induct_4 11 rfl rfl)
theorem dX4_induct_110 : decode cX4_induct 110 = .ok (.iastore, 1) := dk_79 (dk_at dksX4_induct_4 14 rfl rfl)
theorem dX4_induct_111 : decode cX4_induct 111 = .ok (.aload_n 0, 1) := dk_42 (dk_at dksX4_induct_4 15 rfl rfl)
theorem dX4_induct_112 : decode cX4_induct 112 = .ok (.invokevirtual 125, 3) := dk_182 0 125 (dk_at dksX4_induct_4 16 rfl rfl)
theorem dX4_induct_115 : decode cX4_induct 115 = .ok (.iload_n 3, 1) := dk_29 (dk_at dksX4_induct_4 19 rfl rfl)
theorem dX4_induct_116 : decode cX4_induct 116 = .ok (.iconst (-1), 1) := dk_2 (dk_at dksX4_induct_4 20 rfl rfl)
theorem dX4_induct_117 : decode cX4_induct 117 = .ok (.if_icmp .ne 7, 3) := dk_160 0 7 (dk_at dksX4_induct_4 21 rfl rfl)
theorem dX4_induct_120 : decode cX4_induct 120 = .ok (.iconst (-1), 1) := dk_2 (dk_at dksX4_induct_5 0 rfl rfl)
theorem dX4_induct_121 : decode cX4_induct 121 = .ok (.goto 9, 3) := dk_167 0 9 (dk_at dksX4_induct_5 1 rfl rfl)
theorem dX4_induct_124 : decode cX4_induct 124 = .ok (.aload_n 0, 1) := dk_42 (dk_at dksX4_induct_5 4 rfl rfl)
theorem dX4_induct_125 : decode cX4_induct 125 = .ok (.getfield 112, 3) := dk_180 0 112 (dk_at dksX4_induct_5 5 rfl rfl)
theorem dX4_induct_128 : decode cX4_induct 128 = .ok (.iload_n 3, 1) := dk_29 (dk_at dksX4_induct_5 8 rfl rfl)
theorem dX4_induct_129 : decode cX4_induct 129 = .ok (.isub, 1) := dk_100 (dk_at dksX4_induct_5 9 rfl rfl)
theorem dX4_induct_130 : decode cX4_induct 130 = .ok (.ireturn, 1) := dk_172 (dk_at dksX4_induct_5 10 rfl rfl)
abbrev cX4_isMember : ByteArray := prog_14_method_6_code
def yX4_isMember : MethodName := ⟨RX4, "isMember", "(I)Z"⟩
def dkwX4_isMember_0 : List UInt8 := [27, 3, 42, 180, 0, 95, 4, 100, 184, 0, 91, 172]
abbrev dktX4_isMember_0 : List UInt8 := dkwX4_isMember_0 ++ []
theorem dksX4_isMember_0 : cX4_isMember.data.toList.drop 0 = dktX4_isMember_0 := by decide +kernel
theorem dX4_isMember_0 : decode cX4_isMember 0 = .ok (.iload_n 1, 1) := dk_27 (dk_at dksX4_isMember_0 0 rfl rfl)
theorem dX4_isMember_1 : decode cX4_isMember 1 = .ok (.iconst 0, 1) := dk_3 (dk_at dksX4_isMember_0 1 rfl rfl)
theorem dX4_isMember_2 : decode cX4_isMember 2 = .ok (.aload_n 0, 1) := dk_42 (dk_at dksX4_isMember_0 2 rfl rfl)
theorem dX4_isMember_3 : decode cX4_isMember 3 = .ok (.getfield 95, 3) := dk_180 0 95 (dk_at dksX4_isMember_0 3 rfl rfl)
theorem dX4_isMember_6 : decode cX4_isMember 6 = .ok (.iconst 1, 1) := dk_4 (dk_at dksX4_isMember_0 6 rfl rfl)
theorem dX4_isMember_7 : decode cX4_isMember 7 = .ok (.isub, 1) := dk_100 (dk_at dksX4_isMember_0 7 rfl rfl)
theorem dX4_isMember_8 : decode cX4_isMember 8 = .ok (.invokestatic 91, 3) := dk_184 0 91 (dk_at dksX4_isMember_0 8 rfl rfl)
theorem dX4_isMember_11 : decode cX4_isMember 11 = .ok (.ireturn, 1) := dk_172 (dk_at dksX4_isMember_0 11 rfl rfl)
abbrev cX4_isLive : ByteArray := prog_14_method_17_code
def yX4_isLive : MethodName := ⟨RX4, "isLive", "(III)Z"⟩
def dkwX4_isLive_2 : List UInt8 := [154, 0, 17, 42, 27, 28, 29, 182, 0, 119, 153, 0, 7, 4, 167, 0, 4, 3, 172]
abbrev dktX4_isLive_2 : List UInt8 := dkwX4_isLive_2 ++ []
def dkwX4_isLive_1 : List UInt8 := [180, 0, 112, 17, 3, 231, 184, 0, 91, 154, 0, 7, 5, 167, 0, 4, 3, 181, 0, 87, 42, 180, 0, 87]
abbrev dktX4_isLive_1 : List UInt8 := dkwX4_isLive_1 ++ dktX4_isLive_2
def dkwX4_isLive_0 : List UInt8 := [42, 42, 27, 182, 0, 128, 154, 0, 7, 4, 167, 0, 29, 28, 184, 0, 104, 153, 0, 17, 29, 42]
abbrev dktX4_isLive_0 : List UInt8 := dkwX4_isLive_0 ++ dktX4_isLive_1
theorem dksX4_isLive_0 : cX4_isLive.data.toList.drop 0 = dktX4_isLive_0 := by decide +kernel
theorem dksX4_isLive_1 : cX4_isLive.data.toList.drop 22 = dktX4_isLive_1 := dk_seg dksX4_isLive_0 22 rfl rfl
theorem dksX4_isLive_2 : cX4_isLive.data.toList.drop 46 = dktX4_isLive_2 := dk_seg dksX4_isLive_1 24 rfl rfl
theorem dX4_isLive_0 : decode cX4_isLive 0 = .ok (.aload_n 0, 1) := dk_42 (dk_at dksX4_isLive_0 0 rfl rfl)
theorem dX4_isLive_1 : decode cX4_isLive 1 = .ok (.aload_n 0, 1) := dk_42 (dk_at dksX4_isLive_0 1 rfl rfl)
theorem dX4_isLive_2 : decode cX4_isLive 2 = .ok (.iload_n 1, 1) := dk_27 (dk_at dksX4_isLive_0 2 rfl rfl)
theorem dX4_isLive_3 : decode cX4_isLive 3 = .ok (.invokevirtual 128, 3) := dk_182 0 128 (dk_at dksX4_isLive_0 3 rfl rfl)
theorem dX4_isLive_6 : decode cX4_isLive 6 = .ok (.ifCond .ne 7, 3) := dk_154 0 7 (dk_at dksX4_isLive_0 6 rfl rfl)
theorem dX4_isLive_9 : decode cX4_isLive 9 = .ok (.iconst 1, 1) := dk_4 (dk_at dksX4_isLive_0 9 rfl rfl)
theorem dX4_isLive_10 : decode cX4_isLive 10 = .ok (.goto 29, 3) := dk_167 0 29 (dk_at dksX4_isLive_0 10 rfl rfl)
theorem dX4_isLive_13 : decode cX4_isLive 13 = .ok (.iload_n 2, 1) := dk_28 (dk_at dksX4_isLive_0 13 rfl rfl)
theorem dX4_isLive_14 : decode cX4_isLive 14 = .ok (.invokestatic 104, 3) := dk_184 0 104 (dk_at dksX4_isLive_0 14 rfl rfl)
theorem dX4_isLive_17 : decode cX4_isLive 17 = .ok (.ifCond .eq 17, 3) := dk_153 0 17 (dk_at dksX4_isLive_0 17 rfl rfl)
theorem dX4_isLive_20 : decode cX4_isLive 20 = .ok (.iload_n 3, 1) := dk_29 (dk_at dksX4_isLive_0 20 rfl rfl)
theorem dX4_isLive_21 : decode cX4_isLive 21 = .ok (.aload_n 0, 1) := dk_42 (dk_at dksX4_isLive_0 21 rfl rfl)
theorem dX4_isLive_22 : decode cX4_isLive 22 = .ok (.getfield 112, 3) := dk_180 0 112 (dk_at dksX4_isLive_1 0 rfl rfl)
theorem dX4_isLive_25 : decode cX4_isLive 25 = .ok (.sipush 999, 3) := dk_17 3 231 (dk_at dksX4_isLive_1 3 rfl rfl)
theorem dX4_isLive_28 : decode cX4_isLive 28 = .ok (.invokestatic 91, 3) := dk_184 0 91 (dk_at dksX4_isLive_1 6 rfl rfl)
theorem dX4_isLive_31 : decode cX4_isLive 31 = .ok (.ifCond .ne 7, 3) := dk_154 0 7 (dk_at dksX4_isLive_1 9 rfl rfl)
theorem dX4_isLive_34 : decode cX4_isLive 34 = .ok (.iconst 2, 1) := dk_5 (dk_at dksX4_isLive_1 12 rfl rfl)
theorem dX4_isLive_35 : decode cX4_isLive 35 = .ok (.goto 4, 3) := dk_167 0 4 (dk_at dksX4_isLive_1 13 rfl rfl)
theorem dX4_isLive_38 : decode cX4_isLive 38 = .ok (.iconst 0, 1) := dk_3 (dk_at dksX4_isLive_1 16 rfl rfl)
theorem dX4_isLive_39 : decode cX4_isLive 39 = .ok (.putfield 87, 3) := dk_181 0 87 (dk_at dksX4_isLive_1 17 rfl rfl)
theorem dX4_isLive_42 : decode cX4_isLive 42 = .ok (.aload_n 0, 1) := dk_42 (dk_at dksX4_isLive_1 20 rfl rfl)
theorem dX4_isLive_43 : decode cX4_isLive 43 = .ok (.getfield 87, 3) := dk_180 0 87 (dk_at dksX4_isLive_1 21 rfl rfl)
theorem dX4_isLive_46 : decode cX4_isLive 46 = .ok (.ifCond .ne 17, 3) := dk_154 0 17 (dk_at dksX4_isLive_2 0 rfl rfl)
theorem dX4_isLive_49 : decode cX4_isLive 49 = .ok (.aload_n 0, 1) := dk_42 (dk_at dksX4_isLive_2 3 rfl rfl)
theorem dX4_isLive_50 : decode cX4_isLive 50 = .ok (.iload_n 1, 1) := dk_27 (dk_at dksX4_isLive_2 4 rfl rfl)
theorem dX4_isLive_51 : decode cX4_isLive 51 = .ok (.iload_n 2, 1) := dk_28 (dk_at dksX4_isLive_2 5 rfl rfl)
theorem dX4_isLive_52 : decode cX4_isLive 52 = .ok (.iload_n 3, 1) := dk_29 (dk_at dksX4_isLive_2 6 rfl rfl)
theorem dX4_isLive_53 : decode cX4_isLive 53 = .ok (.invokevirtual 119, 3) := dk_182 0 119 (dk_at dksX4_isLive_2 7 rfl rfl)
theorem dX4_isLive_56 : decode cX4_isLive 56 = .ok (.ifCond .eq 7, 3) := dk_153 0 7 (dk_at dksX4_isLive_2 10 rfl rfl)
theorem dX4_isLive_59 : decode cX4_isLive 59 = .ok (.iconst 1, 1) := dk_4 (dk_at dksX4_isLive_2 13 rfl rfl)
theorem dX4_isLive_60 : decode cX4_isLive 60 = .ok (.goto 4, 3) := dk_167 0 4 (dk_at dksX4_isLive_2 14 rfl rfl)
theorem dX4_isLive_63 : decode cX4_isLive 63 = .ok (.iconst 0, 1) := dk_3 (dk_at dksX4_isLive_2 17 rfl rfl)
theorem dX4_isLive_64 : decode cX4_isLive 64 = .ok (.ireturn, 1) := dk_172 (dk_at dksX4_isLive_2 18 rfl rfl)
abbrev cX4_book : ByteArray := prog_14_method_28_code
def yX4_book : MethodName := ⟨RX4, "book", "(IIIIIC)I"⟩
def dkwX4_book_5 : List UInt8 := [16, 98, 182, 0, 164, 172]
abbrev dktX4_book_5 : List UInt8 := dkwX4_book_5 ++ []
def dkwX4_book_4 : List UInt8 := [181, 0, 87, 42, 180, 0, 87, 158, 0, 7, 3, 167, 0, 18, 42, 27, 28, 29, 21, 4, 21, 5, 21, 6]
abbrev dktX4_book_4 : List UInt8 := dkwX4_book_4 ++ dktX4_book_5
def dkwX4_book_3 : List UInt8 := [160, 0, 7, 8, 167, 0, 19, 42, 180, 0, 101, 17, 0, 150, 160, 0, 8, 16, 6, 167, 0, 4, 3]
abbrev dktX4_book_3 : List UInt8 := dkwX4_book_3 ++ dktX4_book_4
def dkwX4_book_2 : List UInt8 := [160, 0, 7, 6, 167, 0, 41, 21, 7, 16, 109, 160, 0, 7, 7, 167, 0, 30, 21, 7, 16, 116]
abbrev dktX4_book_2 : List UInt8 := dkwX4_book_2 ++ dktX4_book_3
def dkwX4_book_1 : List UInt8 := [3, 172, 42, 27, 28, 29, 21, 4, 21, 5, 21, 6, 182, 0, 149, 54, 7, 42, 21, 7, 16, 105]
abbrev dktX4_book_1 : List UInt8 := dkwX4_book_1 ++ dktX4_book_2
def dkwX4_book_0 : List UInt8 := [42, 42, 27, 28, 29, 21, 4, 21, 5, 21, 6, 182, 0, 160, 181, 0, 87, 42, 180, 0, 87, 158, 0, 5]
abbrev dktX4_book_0 : List UInt8 := dkwX4_book_0 ++ dktX4_book_1
theorem dksX4_book_0 : cX4_book.data.toList.drop 0 = dktX4_book_0 := by decide +kernel
theorem dksX4_book_1 : cX4_book.data.toList.drop 24 = dktX4_book_1 := dk_seg dksX4_book_0 24 rfl rfl
theorem dksX4_book_2 : cX4_book.data.toList.drop 46 = dktX4_book_2 := dk_seg dksX4_book_1 22 rfl rfl
theorem dksX4_book_3 : cX4_book.data.toList.drop 68 = dktX4_book_3 := dk_seg dksX4_book_2 22 rfl rfl
theorem dksX4_book_4 : cX4_book.data.toList.drop 91 = dktX4_book_4 := dk_seg dksX4_book_3 23 rfl rfl
theorem dksX4_book_5 : cX4_book.data.toList.drop 115 = dktX4_book_5 := dk_seg dksX4_book_4 24 rfl rfl
theorem dX4_book_0 : decode cX4_book 0 = .ok (.aload_n 0, 1) := dk_42 (dk_at dksX4_book_0 0 rfl rfl)
theorem dX4_book_1 : decode cX4_book 1 = .ok (.aload_n 0, 1) := dk_42 (dk_at dksX4_book_0 1 rfl rfl)
theorem dX4_book_2 : decode cX4_book 2 = .ok (.iload_n 1, 1) := dk_27 (dk_at dksX4_book_0 2 rfl rfl)
theorem dX4_book_3 : decode cX4_book 3 = .ok (.iload_n 2, 1) := dk_28 (dk_at dksX4_book_0 3 rfl rfl)
theorem dX4_book_4 : decode cX4_book 4 = .ok (.iload_n 3, 1) := dk_29 (dk_at dksX4_book_0 4 rfl rfl)
theorem dX4_book_5 : decode cX4_book 5 = .ok (.iload 4, 2) := dk_21 4 (dk_at dksX4_book_0 5 rfl rfl)
theorem dX4_book_7 : decode cX4_book 7 = .ok (.iload 5, 2) := dk_21 5 (dk_at dksX4_book_0 7 rfl rfl)
theorem dX4_book_9 : decode cX4_book 9 = .ok (.iload 6, 2) := dk_21 6 (dk_at dksX4_book_0 9 rfl rfl)
theorem dX4_book_11 : decode cX4_book 11 = .ok (.invokevirtual 160, 3) := dk_182 0 160 (dk_at dksX4_book_0 11 rfl rfl)
theorem dX4_book_14 : decode cX4_book 14 = .ok (.putfield 87, 3) := dk_181 0 87 (dk_at dksX4_book_0 14 rfl rfl)
theorem dX4_book_17 : decode cX4_book 17 = .ok (.aload_n 0, 1) := dk_42 (dk_at dksX4_book_0 17 rfl rfl)
theorem dX4_book_18 : decode cX4_book 18 = .ok (.getfield 87, 3) := dk_180 0 87 (dk_at dksX4_book_0 18 rfl rfl)
theorem dX4_book_21 : decode cX4_book 21 = .ok (.ifCond .le 5, 3) := dk_158 0 5 (dk_at dksX4_book_0 21 rfl rfl)
theorem dX4_book_24 : decode cX4_book 24 = .ok (.iconst 0, 1) := dk_3 (dk_at dksX4_book_1 0 rfl rfl)
theorem dX4_book_25 : decode cX4_book 25 = .ok (.ireturn, 1) := dk_172 (dk_at dksX4_book_1 1 rfl rfl)
theorem dX4_book_26 : decode cX4_book 26 = .ok (.aload_n 0, 1) := dk_42 (dk_at dksX4_book_1 2 rfl rfl)
theorem dX4_book_27 : decode cX4_book 27 = .ok (.iload_n 1, 1) := dk_27 (dk_at dksX4_book_1 3 rfl rfl)
theorem dX4_book_28 : decode cX4_book 28 = .ok (.iload_n 2, 1) := dk_28 (dk_at dksX4_book_1 4 rfl rfl)
theorem dX4_book_29 : decode cX4_book 29 = .ok (.iload_n 3, 1) := dk_29 (dk_at dksX4_book_1 5 rfl rfl)
theorem dX4_book_30 : decode cX4_book 30 = .ok (.iload 4, 2) := dk_21 4 (dk_at dksX4_book_1 6 rfl rfl)
theorem dX4_book_32 : decode cX4_book 32 = .ok (.iload 5, 2) := dk_21 5 (dk_at dksX4_book_1 8 rfl rfl)
theorem dX4_book_34 : decode cX4_book 34 = .ok (.iload 6, 2) := dk_21 6 (dk_at dksX4_book_1 10 rfl rfl)
theorem dX4_book_36 : decode cX4_book 36 = .ok (.invokevirtual 149, 3) := dk_182 0 149 (dk_at dksX4_book_1 12 rfl rfl)
theorem dX4_book_39 : decode cX4_book 39 = .ok (.istore 7, 2) := dk_54 7 (dk_at dksX4_book_1 15 rfl rfl)
theorem dX4_book_41 : decode cX4_book 41 = .ok (.aload_n 0, 1) := dk_42 (dk_at dksX4_book_1 17 rfl rfl)
theorem dX4_book_42 : decode cX4_book 42 = .ok (.iload 7, 2) := dk_21 7 (dk_at dksX4_book_1 18 rfl rfl)
theorem dX4_book_44 : decode cX4_book 44 = .ok (.bipush 105, 2) := dk_16 105 (dk_at dksX4_book_1 20 rfl rfl)
theorem dX4_book_46 : decode cX4_book 46 = .ok (.if_icmp .ne 7, 3) := dk_160 0 7 (dk_at dksX4_book_2 0 rfl rfl)
theorem dX4_book_49 : decode cX4_book 49 = .ok (.iconst 3, 1) := dk_6 (dk_at dksX4_book_2 3 rfl rfl)
theorem dX4_book_50 : decode cX4_book 50 = .ok (.goto 41, 3) := dk_167 0 41 (dk_at dksX4_book_2 4 rfl rfl)
theorem dX4_book_53 : decode cX4_book 53 = .ok (.iload 7, 2) := dk_21 7 (dk_at dksX4_book_2 7 rfl rfl)
theorem dX4_book_55 : decode cX4_book 55 = .ok (.bipush 109, 2) := dk_16 109 (dk_at dksX4_book_2 9 rfl rfl)
theorem dX4_book_57 : decode cX4_book 57 = .ok (.if_icmp .ne 7, 3) := dk_160 0 7 (dk_at dksX4_book_2 11 rfl rfl)
theorem dX4_book_60 : decode cX4_book 60 = .ok (.iconst 4, 1) := dk_7 (dk_at dksX4_book_2 14 rfl rfl)
theorem dX4_book_61 : decode cX4_book 61 = .ok (.goto 30, 3) := dk_167 0 30 (dk_at dksX4_book_2 15 rfl rfl)
theorem dX4_book_64 : decode cX4_book 64 = .ok (.iload 7, 2) := dk_21 7 (dk_at dksX4_book_2 18 rfl rfl)
theorem dX4_book_66 : decode cX4_book 66 = .ok (.bipush 116, 2) := dk_16 116 (dk_at dksX4_book_2 20 rfl rfl)
theorem dX4_book_68 : decode cX4_book 68 = .ok (.if_icmp .ne 7, 3) := dk_160 0 7 (dk_at dksX4_book_3 0 rfl rfl)
theorem dX4_book_71 : decode cX4_book 71 = .ok (.iconst 5, 1) := dk_8 (dk_at dksX4_book_3 3 rfl rfl)
theorem dX4_book_72 : decode cX4_book 72 = .ok (.goto 19, 3) := dk_167 0 19 (dk_at dksX4_book_3 4 rfl rfl)
theorem dX4_book_75 : decode cX4_book 75 = .ok (.aload_n 0, 1) := dk_42 (dk_at dksX4_book_3 7 rfl rfl)
theorem dX4_book_76 : decode cX4_book 76 = .ok (.getfield 101, 3) := dk_180 0 101 (dk_at dksX4_book_3 8 rfl rfl)
theorem dX4_book_79 : decode cX4_book 79 = .ok (.sipush 150, 3) := dk_17 0 150 (dk_at dksX4_book_3 11 rfl rfl)
theorem dX4_book_82 : decode cX4_book 82 = .ok (.if_icmp .ne 8, 3) := dk_160 0 8 (dk_at dksX4_book_3 14 rfl rfl)
theorem dX4_book_85 : decode cX4_book 85 = .ok (.bipush 6, 2) := dk_16 6 (dk_at dksX4_book_3 17 rfl rfl)
theorem dX4_book_87 : decode cX4_book 87 = .ok (.goto 4, 3) := dk_167 0 4 (dk_at dksX4_book_3 19 rfl rfl)
theorem dX4_book_90 : decode cX4_book 90 = .ok (.iconst 0, 1) := dk_3 (dk_at dksX4_book_3 22 rfl rfl)
theorem dX4_book_91 : decode cX4_book 91 = .ok (.putfield 87, 3) := dk_181 0 87 (dk_at dksX4_book_4 0 rfl rfl)
theorem dX4_book_94 : decode cX4_book 94 = .ok (.aload_n 0, 1) := dk_42 (dk_at dksX4_book_4 3 rfl rfl)
theorem dX4_book_95 : decode cX4_book 95 = .ok (.getfield 87, 3) := dk_180 0 87 (dk_at dksX4_book_4 4 rfl rfl)
theorem dX4_book_98 : decode cX4_book 98 = .ok (.ifCond .le 7, 3) := dk_158 0 7 (dk_at dksX4_book_4 7 rfl rfl)
theorem dX4_book_101 : decode cX4_book 101 = .ok (.iconst 0, 1) := dk_3 (dk_at dksX4_book_4 10 rfl rfl)
theorem dX4_book_102 : decode cX4_book 102 = .ok (.goto 18, 3) := dk_167 0 18 (dk_at dksX4_book_4 11 rfl rfl)
theorem dX4_book_105 : decode cX4_book 105 = .ok (.aload_n 0, 1) := dk_42 (dk_at dksX4_book_4 14 rfl rfl)
theorem dX4_book_106 : decode cX4_book 106 = .ok (.iload_n 1, 1) := dk_27 (dk_at dksX4_book_4 15 rfl rfl)
theorem dX4_book_107 : decode cX4_book 107 = .ok (.iload_n 2, 1) := dk_28 (dk_at dksX4_book_4 16 rfl rfl)
theorem dX4_book_108 : decode cX4_book 108 = .ok (.iload_n 3, 1) := dk_29 (dk_at dksX4_book_4 17 rfl rfl)
theorem dX4_book_109 : decode cX4_book 109 = .ok (.iload 4, 2) := dk_21 4 (dk_at dksX4_book_4 18 rfl rfl)
theorem dX4_book_111 : decode cX4_book 111 = .ok (.iload 5, 2) := dk_21 5 (dk_at dksX4_book_4 20 rfl rfl)
theorem dX4_book_113 : decode cX4_book 113 = .ok (.iload 6, 2) := dk_21 6 (dk_at dksX4_book_4 22 rfl rfl)
theorem dX4_book_115 : decode cX4_book 115 = .ok (.bipush 98, 2) := dk_16 98 (dk_at dksX4_book_5 0 rfl rfl)
theorem dX4_book_117 : decode cX4_book 117 = .ok (.invokevirtual 164, 3) := dk_182 0 164 (dk_at dksX4_book_5 2 rfl rfl)
theorem dX4_book_120 : decode cX4_book 120 = .ok (.ireturn, 1) := dk_172 (dk_at dksX4_book_5 5 rfl rfl)
abbrev cX4_lacks : ByteArray := prog_14_method_26_code
def yX4_lacks : MethodName := ⟨RX4, "lacks", "(IIIIIC)I"⟩
def dkwX4_lacks_3 : List UInt8 := [28, 182, 0, 157, 154, 0, 7, 4, 167, 0, 13, 21, 7, 153, 0, 7, 3, 167, 0, 4, 5, 172]
abbrev dktX4_lacks_3 : List UInt8 := dkwX4_lacks_3 ++ []
def dkwX4_lacks_2 : List UInt8 := [21, 6, 184, 0, 153, 153, 0, 7, 4, 167, 0, 4, 3, 54, 7, 42, 27, 182, 0, 128, 153, 0, 11, 42]
abbrev dktX4_lacks_2 : List UInt8 := dkwX4_lacks_2 ++ dktX4_lacks_3
def dkwX4_lacks_1 : List UInt8 := [21, 5, 4, 17, 0, 240, 184, 0, 91, 153, 0, 26, 21, 4, 17, 1, 224, 21, 5, 100, 163, 0, 15]
abbrev dktX4_lacks_1 : List UInt8 := dkwX4_lacks_1 ++ dktX4_lacks_2
def dkwX4_lacks_0 : List UInt8 := [29, 42, 180, 0, 112, 42, 180, 0, 112, 16, 6, 96, 184, 0, 91, 153, 0, 43, 21, 4, 155, 0, 38]
abbrev dktX4_lacks_0 : List UInt8 := dkwX4_lacks_0 ++ dktX4_lacks_1
theorem dksX4_lacks_0 : cX4_lacks.data.toList.drop 0 = dktX4_lacks_0 := by decide +kernel
theorem dksX4_lacks_1 : cX4_lacks.data.toList.drop 23 = dktX4_lacks_1 := dk_seg dksX4_lacks_0 23 rfl rfl
theorem dksX4_lacks_2 : cX4_lacks.data.toList.drop 46 = dktX4_lacks_2 := dk_seg dksX4_lacks_1 23 rfl rfl
theorem dksX4_lacks_3 : cX4_lacks.data.toList.drop 70 = dktX4_lacks_3 := dk_seg dksX4_lacks_2 24 rfl rfl
theorem dX4_lacks_0 : decode cX4_lacks 0 = .ok (.iload_n 3, 1) := dk_29 (dk_at dksX4_lacks_0 0 rfl rfl)
theorem dX4_lacks_1 : decode cX4_lacks 1 = .ok (.aload_n 0, 1) := dk_42 (dk_at dksX4_lacks_0 1 rfl rfl)
theorem dX4_lacks_2 : decode cX4_lacks 2 = .ok (.getfield 112, 3) := dk_180 0 112 (dk_at dksX4_lacks_0 2 rfl rfl)
theorem dX4_lacks_5 : decode cX4_lacks 5 = .ok (.aload_n 0, 1) := dk_42 (dk_at dksX4_lacks_0 5 rfl rfl)
theorem dX4_lacks_6 : decode cX4_lacks 6 = .ok (.getfield 112, 3) := dk_180 0 112 (dk_at dksX4_lacks_0 6 rfl rfl)
theorem dX4_lacks_9 : decode cX4_lacks 9 = .ok (.bipush 6, 2) := dk_16 6 (dk_at dksX4_lacks_0 9 rfl rfl)
theorem dX4_lacks_11 : decode cX4_lacks 11 = .ok (.iadd, 1) := dk_96 (dk_at dksX4_lacks_0 11 rfl rfl)
theorem dX4_lacks_12 : decode cX4_lacks 12 = .ok (.invokestatic 91, 3) := dk_184 0 91 (dk_at dksX4_lacks_0 12 rfl rfl)
theorem dX4_lacks_15 : decode cX4_lacks 15 = .ok (.ifCond .eq 43, 3) := dk_153 0 43 (dk_at dksX4_lacks_0 15 rfl rfl)
theorem dX4_lacks_18 : decode cX4_lacks 18 = .ok (.iload 4, 2) := dk_21 4 (dk_at dksX4_lacks_0 18 rfl rfl)
theorem dX4_lacks_20 : decode cX4_lacks 20 = .ok (.ifCond .lt 38, 3) := dk_155 0 38 (dk_at dksX4_lacks_0 20 rfl rfl)
theorem dX4_lacks_23 : decode cX4_lacks 23 = .ok (.iload 5, 2) := dk_21 5 (dk_at dksX4_lacks_1 0 rfl rfl)
theorem dX4_lacks_25 : decode cX4_lacks 25 = .ok (.iconst 1, 1) := dk_4 (dk_at dksX4_lacks_1 2 rfl rfl)
theorem dX4_lacks_26 : decode cX4_lacks 26 = .ok (.sipush 240, 3) := dk_17 0 240 (dk_at dksX4_lacks_1 3 rfl rfl)
theorem dX4_lacks_29 : decode cX4_lacks 29 = .ok (.invokestatic 91, 3) := dk_184 0 91 (dk_at dksX4_lacks_1 6 rfl rfl)
theorem dX4_lacks_32 : decode cX4_lacks 32 = .ok (.ifCond .eq 26, 3) := dk_153 0 26 (dk_at dksX4_lacks_1 9 rfl rfl)
theorem dX4_lacks_35 : decode cX4_lacks 35 = .ok (.iload 4, 2) := dk_21 4 (dk_at dksX4_lacks_1 12 rfl rfl)
theorem dX4_lacks_37 : decode cX4_lacks 37 = .ok (.sipush 480, 3) := dk_17 1 224 (dk_at dksX4_lacks_1 14 rfl rfl)
theorem dX4_lacks_40 : decode cX4_lacks 40 = .ok (.iload 5, 2) := dk_21 5 (dk_at dksX4_lacks_1 17 rfl rfl)
theorem dX4_lacks_42 : decode cX4_lacks 42 = .ok (.isub, 1) := dk_100 (dk_at dksX4_lacks_1 19 rfl rfl)
theorem dX4_lacks_43 : decode cX4_lacks 43 = .ok (.if_icmp .gt 15, 3) := dk_163 0 15 (dk_at dksX4_lacks_1 20 rfl rfl)
theorem dX4_lacks_46 : decode cX4_lacks 46 = .ok (.iload 6, 2) := dk_21 6 (dk_at dksX4_lacks_2 0 rfl rfl)
theorem dX4_lacks_48 : decode cX4_lacks 48 = .ok (.invokestatic 153, 3) := dk_184 0 153 (dk_at dksX4_lacks_2 2 rfl rfl)
theorem dX4_lacks_51 : decode cX4_lacks 51 = .ok (.ifCond .eq 7, 3) := dk_153 0 7 (dk_at dksX4_lacks_2 5 rfl rfl)
theorem dX4_lacks_54 : decode cX4_lacks 54 = .ok (.iconst 1, 1) := dk_4 (dk_at dksX4_lacks_2 8 rfl rfl)
theorem dX4_lacks_55 : decode cX4_lacks 55 = .ok (.goto 4, 3) := dk_167 0 4 (dk_at dksX4_lacks_2 9 rfl rfl)
theorem dX4_lacks_58 : decode cX4_lacks 58 = .ok (.iconst 0, 1) := dk_3 (dk_at dksX4_lacks_2 12 rfl rfl)
theorem dX4_lacks_59 : decode cX4_lacks 59 = .ok (.istore 7, 2) := dk_54 7 (dk_at dksX4_lacks_2 13 rfl rfl)
theorem dX4_lacks_61 : decode cX4_lacks 61 = .ok (.aload_n 0, 1) := dk_42 (dk_at dksX4_lacks_2 15 rfl rfl)
theorem dX4_lacks_62 : decode cX4_lacks 62 = .ok (.iload_n 1, 1) := dk_27 (dk_at dksX4_lacks_2 16 rfl rfl)
theorem dX4_lacks_63 : decode cX4_lacks 63 = .ok (.invokevirtual 128, 3) := dk_182 0 128 (dk_at dksX4_lacks_2 17 rfl rfl)
theorem dX4_lacks_66 : decode cX4_lacks 66 = .ok (.ifCond .eq 11, 3) := dk_153 0 11 (dk_at dksX4_lacks_2 20 rfl rfl)
theorem dX4_lacks_69 : decode cX4_lacks 69 = .ok (.aload_n 0, 1) := dk_42 (dk_at dksX4_lacks_2 23 rfl rfl)
theorem dX4_lacks_70 : decode cX4_lacks 70 = .ok (.iload_n 2, 1) := dk_28 (dk_at dksX4_lacks_3 0 rfl rfl)
theorem dX4_lacks_71 : decode cX4_lacks 71 = .ok (.invokevirtual 157, 3) := dk_182 0 157 (dk_at dksX4_lacks_3 1 rfl rfl)
theorem dX4_lacks_74 : decode cX4_lacks 74 = .ok (.ifCond .ne 7, 3) := dk_154 0 7 (dk_at dksX4_lacks_3 4 rfl rfl)
theorem dX4_lacks_77 : decode cX4_lacks 77 = .ok (.iconst 1, 1) := dk_4 (dk_at dksX4_lacks_3 7 rfl rfl)
theorem dX4_lacks_78 : decode cX4_lacks 78 = .ok (.goto 13, 3) := dk_167 0 13 (dk_at dksX4_lacks_3 8 rfl rfl)
theorem dX4_lacks_81 : decode cX4_lacks 81 = .ok (.iload 7, 2) := dk_21 7 (dk_at dksX4_lacks_3 11 rfl rfl)
theorem dX4_lacks_83 : decode cX4_lacks 83 = .ok (.ifCond .eq 7, 3) := dk_153 0 7 (dk_at dksX4_lacks_3 13 rfl rfl)
theorem dX4_lacks_86 : decode cX4_lacks 86 = .ok (.iconst 0, 1) := dk_3 (dk_at dksX4_lacks_3 16 rfl rfl)
theorem dX4_lacks_87 : decode cX4_lacks 87 = .ok (.goto 4, 3) := dk_167 0 4 (dk_at dksX4_lacks_3 17 rfl rfl)
theorem dX4_lacks_90 : decode cX4_lacks 90 = .ok (.iconst 2, 1) := dk_5 (dk_at dksX4_lacks_3 20 rfl rfl)
theorem dX4_lacks_91 : decode cX4_lacks 91 = .ok (.ireturn, 1) := dk_172 (dk_at dksX4_lacks_3 21 rfl rfl)
abbrev cX4_isWork : ByteArray := prog_14_method_25_code
def yX4_isWork : MethodName := ⟨RX4, "isWork", "(C)Z"⟩
def dkwX4_isWork_0 : List UInt8 := [26, 16, 97, 159, 0, 15, 26, 16, 98, 159, 0, 9, 26, 16, 99, 160, 0, 7, 4, 167, 0, 4, 3, 172]
abbrev dktX4_isWork_0 : List UInt8 := dkwX4_isWork_0 ++ []
theorem dksX4_isWork_0 : cX4_isWork.data.toList.drop 0 = dktX4_isWork_0 := by decide +kernel
theorem dX4_isWork_0 : decode cX4_isWork 0 = .ok (.iload_n 0, 1) := dk_26 (dk_at dksX4_isWork_0 0 rfl rfl)
theorem dX4_isWork_1 : decode cX4_isWork 1 = .ok (.bipush 97, 2) := dk_16 97 (dk_at dksX4_isWork_0 1 rfl rfl)
theorem dX4_isWork_3 : decode cX4_isWork 3 = .ok (.if_icmp .eq 15, 3) := dk_159 0 15 (dk_at dksX4_isWork_0 3 rfl rfl)
theorem dX4_isWork_6 : decode cX4_isWork 6 = .ok (.iload_n 0, 1) := dk_26 (dk_at dksX4_isWork_0 6 rfl rfl)
theorem dX4_isWork_7 : decode cX4_isWork 7 = .ok (.bipush 98, 2) := dk_16 98 (dk_at dksX4_isWork_0 7 rfl rfl)
theorem dX4_isWork_9 : decode cX4_isWork 9 = .ok (.if_icmp .eq 9, 3) := dk_159 0 9 (dk_at dksX4_isWork_0 9 rfl rfl)
theorem dX4_isWork_12 : decode cX4_isWork 12 = .ok (.iload_n 0, 1) := dk_26 (dk_at dksX4_isWork_0 12 rfl rfl)
theorem dX4_isWork_13 : decode cX4_isWork 13 = .ok (.bipush 99, 2) := dk_16 99 (dk_at dksX4_isWork_0 13 rfl rfl)
theorem dX4_isWork_15 : decode cX4_isWork 15 = .ok (.if_icmp .ne 7, 3) := dk_160 0 7 (dk_at dksX4_isWork_0 15 rfl rfl)
theorem dX4_isWork_18 : decode cX4_isWork 18 = .ok (.iconst 1, 1) := dk_4 (dk_at dksX4_isWork_0 18 rfl rfl)
theorem dX4_isWork_19 : decode cX4_isWork 19 = .ok (.goto 4, 3) := dk_167 0 4 (dk_at dksX4_isWork_0 19 rfl rfl)
theorem dX4_isWork_22 : decode cX4_isWork 22 = .ok (.iconst 0, 1) := dk_3 (dk_at dksX4_isWork_0 22 rfl rfl)
theorem dX4_isWork_23 : decode cX4_isWork 23 = .ok (.ireturn, 1) := dk_172 (dk_at dksX4_isWork_0 23 rfl rfl)
abbrev cX4_isMachine : ByteArray := prog_14_method_7_code
def yX4_isMachine : MethodName := ⟨RX4, "isMachine", "(I)Z"⟩
def dkwX4_isMachine_0 : List UInt8 := [27, 3, 42, 180, 0, 98, 4, 100, 184, 0, 91, 172]
abbrev dktX4_isMachine_0 : List UInt8 := dkwX4_isMachine_0 ++ []
theorem dksX4_isMachine_0 : cX4_isMachine.data.toList.drop 0 = dktX4_isMachine_0 := by decide +kernel
theorem dX4_isMachine_0 : decode cX4_isMachine 0 = .ok (.iload_n 1, 1) := dk_27 (dk_at dksX4_isMachine_0 0 rfl rfl)
theorem dX4_isMachine_1 : decode cX4_isMachine 1 = .ok (.iconst 0, 1) := dk_3 (dk_at dksX4_isMachine_0 1 rfl rfl)
theorem dX4_isMachine_2 : decode cX4_isMachine 2 = .ok (.aload_n 0, 1) := dk_42 (dk_at dksX4_isMachine_0 2 rfl rfl)
theorem dX4_isMachine_3 : decode cX4_isMachine 3 = .ok (.getfield 98, 3) := dk_180 0 98 (dk_at dksX4_isMachine_0 3 rfl rfl)
theorem dX4_isMachine_6 : decode cX4_isMachine 6 = .ok (.iconst 1, 1) := dk_4 (dk_at dksX4_isMachine_0 6 rfl rfl)
theorem dX4_isMachine_7 : decode cX4_isMachine 7 = .ok (.isub, 1) := dk_100 (dk_at dksX4_isMachine_0 7 rfl rfl)
theorem dX4_isMachine_8 : decode cX4_isMachine 8 = .ok (.invokestatic 91, 3) := dk_184 0 91 (dk_at dksX4_isMachine_0 8 rfl rfl)
theorem dX4_isMachine_11 : decode cX4_isMachine 11 = .ok (.ireturn, 1) := dk_172 (dk_at dksX4_isMachine_0 11 rfl rfl)
abbrev cX4_adds : ByteArray := prog_14_method_27_code
def yX4_adds : MethodName := ⟨RX4, "adds", "(IIIIICC)I"⟩
def dkwX4_adds_3 : List UInt8 := [180, 0, 101, 21, 7, 85, 42, 89, 180, 0, 101, 4, 96, 181, 0, 101, 42, 180, 0, 101, 4, 100, 172]
abbrev dktX4_adds_3 : List UInt8 := dkwX4_adds_3 ++ []
def dkwX4_adds_2 : List UInt8 := [180, 0, 101, 21, 5, 79, 42, 180, 0, 45, 42, 180, 0, 101, 21, 6, 85, 42, 180, 0, 49, 42]
abbrev dktX4_adds_2 : List UInt8 := dkwX4_adds_2 ++ dktX4_adds_3
def dkwX4_adds_1 : List UInt8 := [42, 180, 0, 101, 29, 79, 42, 180, 0, 39, 42, 180, 0, 101, 21, 4, 79, 42, 180, 0, 42, 42]
abbrev dktX4_adds_1 : List UInt8 := dkwX4_adds_1 ++ dktX4_adds_2
def dkwX4_adds_0 : List UInt8 := [42, 180, 0, 30, 42, 180, 0, 101, 27, 79, 42, 180, 0, 33, 42, 180, 0, 101, 28, 79, 42, 180, 0, 36]
abbrev dktX4_adds_0 : List UInt8 := dkwX4_adds_0 ++ dktX4_adds_1
theorem dksX4_adds_0 : cX4_adds.data.toList.drop 0 = dktX4_adds_0 := by decide +kernel
theorem dksX4_adds_1 : cX4_adds.data.toList.drop 24 = dktX4_adds_1 := dk_seg dksX4_adds_0 24 rfl rfl
theorem dksX4_adds_2 : cX4_adds.data.toList.drop 46 = dktX4_adds_2 := dk_seg dksX4_adds_1 22 rfl rfl
theorem dksX4_adds_3 : cX4_adds.data.toList.drop 68 = dktX4_adds_3 := dk_seg dksX4_adds_2 22 rfl rfl
theorem dX4_adds_0 : decode cX4_adds 0 = .ok (.aload_n 0, 1) := dk_42 (dk_at dksX4_adds_0 0 rfl rfl)
theorem dX4_adds_1 : decode cX4_adds 1 = .ok (.getfield 30, 3) := dk_180 0 30 (dk_at dksX4_adds_0 1 rfl rfl)
theorem dX4_adds_4 : decode cX4_adds 4 = .ok (.aload_n 0, 1) := dk_42 (dk_at dksX4_adds_0 4 rfl rfl)
theorem dX4_adds_5 : decode cX4_adds 5 = .ok (.getfield 101, 3) := dk_180 0 101 (dk_at dksX4_adds_0 5 rfl rfl)
theorem dX4_adds_8 : decode cX4_adds 8 = .ok (.iload_n 1, 1) := dk_27 (dk_at dksX4_adds_0 8 rfl rfl)
theorem dX4_adds_9 : decode cX4_adds 9 = .ok (.iastore, 1) := dk_79 (dk_at dksX4_adds_0 9 rfl rfl)
theorem dX4_adds_10 : decode cX4_adds 10 = .ok (.aload_n 0, 1) := dk_42 (dk_at dksX4_adds_0 10 rfl rfl)
theorem dX4_adds_11 : decode cX4_adds 11 = .ok (.getfield 33, 3) := dk_180 0 33 (dk_at dksX4_adds_0 11 rfl rfl)
theorem dX4_adds_14 : decode cX4_adds 14 = .ok (.aload_n 0, 1) := dk_42 (dk_at dksX4_adds_0 14 rfl rfl)
theorem dX4_adds_15 : decode cX4_adds 15 = .ok (.getfield 101, 3) := dk_180 0 101 (dk_at dksX4_adds_0 15 rfl rfl)
theorem dX4_adds_18 : decode cX4_adds 18 = .ok (.iload_n 2, 1) := dk_28 (dk_at dksX4_adds_0 18 rfl rfl)
theorem dX4_adds_19 : decode cX4_adds 19 = .ok (.iastore, 1) := dk_79 (dk_at dksX4_adds_0 19 rfl rfl)
theorem dX4_adds_20 : decode cX4_adds 20 = .ok (.aload_n 0, 1) := dk_42 (dk_at dksX4_adds_0 20 rfl rfl)
theorem dX4_adds_21 : decode cX4_adds 21 = .ok (.getfield 36, 3) := dk_180 0 36 (dk_at dksX4_adds_0 21 rfl rfl)
theorem dX4_adds_24 : decode cX4_adds 24 = .ok (.aload_n 0, 1) := dk_42 (dk_at dksX4_adds_1 0 rfl rfl)
theorem dX4_adds_25 : decode cX4_adds 25 = .ok (.getfield 101, 3) := dk_180 0 101 (dk_at dksX4_adds_1 1 rfl rfl)
theorem dX4_adds_28 : decode cX4_adds 28 = .ok (.iload_n 3, 1) := dk_29 (dk_at dksX4_adds_1 4 rfl rfl)
theorem dX4_adds_29 : decode cX4_adds 29 = .ok (.iastore, 1) := dk_79 (dk_at dksX4_adds_1 5 rfl rfl)
theorem dX4_adds_30 : decode cX4_adds 30 = .ok (.aload_n 0, 1) := dk_42 (dk_at dksX4_adds_1 6 rfl rfl)
theorem dX4_adds_31 : decode cX4_adds 31 = .ok (.getfield 39, 3) := dk_180 0 39 (dk_at dksX4_adds_1 7 rfl rfl)
theorem dX4_adds_34 : decode cX4_adds 34 = .ok (.aload_n 0, 1) := dk_42 (dk_at dksX4_adds_1 10 rfl rfl)
theorem dX4_adds_35 : decode cX4_adds 35 = .ok (.getfield 101, 3) := dk_180 0 101 (dk_at dksX4_adds_1 11 rfl rfl)
theorem dX4_adds_38 : decode cX4_adds 38 = .ok (.iload 4, 2) := dk_21 4 (dk_at dksX4_adds_1 14 rfl rfl)
theorem dX4_adds_40 : decode cX4_adds 40 = .ok (.iastore, 1) := dk_79 (dk_at dksX4_adds_1 16 rfl rfl)
theorem dX4_adds_41 : decode cX4_adds 41 = .ok (.aload_n 0, 1) := dk_42 (dk_at dksX4_adds_1 17 rfl rfl)
theorem dX4_adds_42 : decode cX4_adds 42 = .ok (.getfield 42, 3) := dk_180 0 42 (dk_at dksX4_adds_1 18 rfl rfl)
theorem dX4_adds_45 : decode cX4_adds 45 = .ok (.aload_n 0, 1) := dk_42 (dk_at dksX4_adds_1 21 rfl rfl)
theorem dX4_adds_46 : decode cX4_adds 46 = .ok (.getfield 101, 3) := dk_180 0 101 (dk_at dksX4_adds_2 0 rfl rfl)
theorem dX4_adds_49 : decode cX4_adds 49 = .ok (.iload 5, 2) := dk_21 5 (dk_at dksX4_adds_2 3 rfl rfl)
theorem dX4_adds_51 : decode cX4_adds 51 = .ok (.iastore, 1) := dk_79 (dk_at dksX4_adds_2 5 rfl rfl)
theorem dX4_adds_52 : decode cX4_adds 52 = .ok (.aload_n 0, 1) := dk_42 (dk_at dksX4_adds_2 6 rfl rfl)
theorem dX4_adds_53 : decode cX4_adds 53 = .ok (.getfield 45, 3) := dk_180 0 45 (dk_at dksX4_adds_2 7 rfl rfl)
theorem dX4_adds_56 : decode cX4_adds 56 = .ok (.aload_n 0, 1) := dk_42 (dk_at dksX4_adds_2 10 rfl rfl)
theorem dX4_adds_57 : decode cX4_adds 57 = .ok (.getfield 101, 3) := dk_180 0 101 (dk_at dksX4_adds_2 11 rfl rfl)
theorem dX4_adds_60 : decode cX4_adds 60 = .ok (.iload 6, 2) := dk_21 6 (dk_at dksX4_adds_2 14 rfl rfl)
theorem dX4_adds_62 : decode cX4_adds 62 = .ok (.castore, 1) := dk_85 (dk_at dksX4_adds_2 16 rfl rfl)
theorem dX4_adds_63 : decode cX4_adds 63 = .ok (.aload_n 0, 1) := dk_42 (dk_at dksX4_adds_2 17 rfl rfl)
theorem dX4_adds_64 : decode cX4_adds 64 = .ok (.getfield 49, 3) := dk_180 0 49 (dk_at dksX4_adds_2 18 rfl rfl)
theorem dX4_adds_67 : decode cX4_adds 67 = .ok (.aload_n 0, 1) := dk_42 (dk_at dksX4_adds_2 21 rfl rfl)
theorem dX4_adds_68 : decode cX4_adds 68 = .ok (.getfield 101, 3) := dk_180 0 101 (dk_at dksX4_adds_3 0 rfl rfl)
theorem dX4_adds_71 : decode cX4_adds 71 = .ok (.iload 7, 2) := dk_21 7 (dk_at dksX4_adds_3 3 rfl rfl)
theorem dX4_adds_73 : decode cX4_adds 73 = .ok (.castore, 1) := dk_85 (dk_at dksX4_adds_3 5 rfl rfl)
theorem dX4_adds_74 : decode cX4_adds 74 = .ok (.aload_n 0, 1) := dk_42 (dk_at dksX4_adds_3 6 rfl rfl)
theorem dX4_adds_75 : decode cX4_adds 75 = .ok (.dup, 1) := dk_89 (dk_at dksX4_adds_3 7 rfl rfl)
theorem dX4_adds_76 : decode cX4_adds 76 = .ok (.getfield 101, 3) := dk_180 0 101 (dk_at dksX4_adds_3 8 rfl rfl)
theorem dX4_adds_79 : decode cX4_adds 79 = .ok (.iconst 1, 1) := dk_4 (dk_at dksX4_adds_3 11 rfl rfl)
theorem dX4_adds_80 : decode cX4_adds 80 = .ok (.iadd, 1) := dk_96 (dk_at dksX4_adds_3 12 rfl rfl)
theorem dX4_adds_81 : decode cX4_adds 81 = .ok (.putfield 101, 3) := dk_181 0 101 (dk_at dksX4_adds_3 13 rfl rfl)
theorem dX4_adds_84 : decode cX4_adds 84 = .ok (.aload_n 0, 1) := dk_42 (dk_at dksX4_adds_3 16 rfl rfl)
theorem dX4_adds_85 : decode cX4_adds 85 = .ok (.getfield 101, 3) := dk_180 0 101 (dk_at dksX4_adds_3 17 rfl rfl)
theorem dX4_adds_88 : decode cX4_adds 88 = .ok (.iconst 1, 1) := dk_4 (dk_at dksX4_adds_3 20 rfl rfl)
theorem dX4_adds_89 : decode cX4_adds 89 = .ok (.isub, 1) := dk_100 (dk_at dksX4_adds_3 21 rfl rfl)
theorem dX4_adds_90 : decode cX4_adds 90 = .ok (.ireturn, 1) := dk_172 (dk_at dksX4_adds_3 22 rfl rfl)
abbrev cX4_await : ByteArray := prog_14_method_29_code
def yX4_await : MethodName := ⟨RX4, "await", "(IIIIIC)I"⟩
def dkwX4_await_4 : List UInt8 := [21, 4, 21, 5, 21, 6, 16, 119, 182, 0, 164, 172]
abbrev dktX4_await_4 : List UInt8 := dkwX4_await_4 ++ []
def dkwX4_await_3 : List UInt8 := [7, 167, 0, 4, 3, 181, 0, 87, 42, 180, 0, 87, 158, 0, 7, 3, 167, 0, 18, 42, 27, 28, 29]
abbrev dktX4_await_3 : List UInt8 := dkwX4_await_3 ++ dktX4_await_4
def dkwX4_await_2 : List UInt8 := [160, 0, 7, 6, 167, 0, 25, 21, 7, 16, 111, 159, 0, 13, 42, 180, 0, 101, 17, 0, 150, 160, 0, 7]
abbrev dktX4_await_2 : List UInt8 := dkwX4_await_2 ++ dktX4_await_3
def dkwX4_await_1 : List UInt8 := [3, 172, 42, 27, 28, 29, 21, 4, 21, 5, 21, 6, 182, 0, 149, 54, 7, 42, 21, 7, 16, 105]
abbrev dktX4_await_1 : List UInt8 := dkwX4_await_1 ++ dktX4_await_2
def dkwX4_await_0 : List UInt8 := [42, 42, 27, 28, 29, 21, 4, 21, 5, 21, 6, 182, 0, 160, 181, 0, 87, 42, 180, 0, 87, 158, 0, 5]
abbrev dktX4_await_0 : List UInt8 := dkwX4_await_0 ++ dktX4_await_1
theorem dksX4_await_0 : cX4_await.data.toList.drop 0 = dktX4_await_0 := by decide +kernel
theorem dksX4_await_1 : cX4_await.data.toList.drop 24 = dktX4_await_1 := dk_seg dksX4_await_0 24 rfl rfl
theorem dksX4_await_2 : cX4_await.data.toList.drop 46 = dktX4_await_2 := dk_seg dksX4_await_1 22 rfl rfl
theorem dksX4_await_3 : cX4_await.data.toList.drop 70 = dktX4_await_3 := dk_seg dksX4_await_2 24 rfl rfl
theorem dksX4_await_4 : cX4_await.data.toList.drop 93 = dktX4_await_4 := dk_seg dksX4_await_3 23 rfl rfl
theorem dX4_await_0 : decode cX4_await 0 = .ok (.aload_n 0, 1) := dk_42 (dk_at dksX4_await_0 0 rfl rfl)
theorem dX4_await_1 : decode cX4_await 1 = .ok (.aload_n 0, 1) := dk_42 (dk_at dksX4_await_0 1 rfl rfl)
theorem dX4_await_2 : decode cX4_await 2 = .ok (.iload_n 1, 1) := dk_27 (dk_at dksX4_await_0 2 rfl rfl)
theorem dX4_await_3 : decode cX4_await 3 = .ok (.iload_n 2, 1) := dk_28 (dk_at dksX4_await_0 3 rfl rfl)
theorem dX4_await_4 : decode cX4_await 4 = .ok (.iload_n 3, 1) := dk_29 (dk_at dksX4_await_0 4 rfl rfl)
theorem dX4_await_5 : decode cX4_await 5 = .ok (.iload 4, 2) := dk_21 4 (dk_at dksX4_await_0 5 rfl rfl)
theorem dX4_await_7 : decode cX4_await 7 = .ok (.iload 5, 2) := dk_21 5 (dk_at dksX4_await_0 7 rfl rfl)
theorem dX4_await_9 : decode cX4_await 9 = .ok (.iload 6, 2) := dk_21 6 (dk_at dksX4_await_0 9 rfl rfl)
theorem dX4_await_11 : decode cX4_await 11 = .ok (.invokevirtual 160, 3) := dk_182 0 160 (dk_at dksX4_await_0 11 rfl rfl)
theorem dX4_await_14 : decode cX4_await 14 = .ok (.putfield 87, 3) := dk_181 0 87 (dk_at dksX4_await_0 14 rfl rfl)
theorem dX4_await_17 : decode cX4_await 17 = .ok (.aload_n 0, 1) := dk_42 (dk_at dksX4_await_0 17 rfl rfl)
theorem dX4_await_18 : decode cX4_await 18 = .ok (.getfield 87, 3) := dk_180 0 87 (dk_at dksX4_await_0 18 rfl rfl)
theorem dX4_await_21 : decode cX4_await 21 = .ok (.ifCond .le 5, 3) := dk_158 0 5 (dk_at dksX4_await_0 21 rfl rfl)
theorem dX4_await_24 : decode cX4_await 24 = .ok (.iconst 0, 1) := dk_3 (dk_at dksX4_await_1 0 rfl rfl)
theorem dX4_await_25 : decode cX4_await 25 = .ok (.ireturn, 1) := dk_172 (dk_at dksX4_await_1 1 rfl rfl)
theorem dX4_await_26 : decode cX4_await 26 = .ok (.aload_n 0, 1) := dk_42 (dk_at dksX4_await_1 2 rfl rfl)
theorem dX4_await_27 : decode cX4_await 27 = .ok (.iload_n 1, 1) := dk_27 (dk_at dksX4_await_1 3 rfl rfl)
theorem dX4_await_28 : decode cX4_await 28 = .ok (.iload_n 2, 1) := dk_28 (dk_at dksX4_await_1 4 rfl rfl)
theorem dX4_await_29 : decode cX4_await 29 = .ok (.iload_n 3, 1) := dk_29 (dk_at dksX4_await_1 5 rfl rfl)
theorem dX4_await_30 : decode cX4_await 30 = .ok (.iload 4, 2) := dk_21 4 (dk_at dksX4_await_1 6 rfl rfl)
theorem dX4_await_32 : decode cX4_await 32 = .ok (.iload 5, 2) := dk_21 5 (dk_at dksX4_await_1 8 rfl rfl)
theorem dX4_await_34 : decode cX4_await 34 = .ok (.iload 6, 2) := dk_21 6 (dk_at dksX4_await_1 10 rfl rfl)
theorem dX4_await_36 : decode cX4_await 36 = .ok (.invokevirtual 149, 3) := dk_182 0 149 (dk_at dksX4_await_1 12 rfl rfl)
theorem dX4_await_39 : decode cX4_await 39 = .ok (.istore 7, 2) := dk_54 7 (dk_at dksX4_await_1 15 rfl rfl)
theorem dX4_await_41 : decode cX4_await 41 = .ok (.aload_n 0, 1) := dk_42 (dk_at dksX4_await_1 17 rfl rfl)
theorem dX4_await_42 : decode cX4_await 42 = .ok (.iload 7, 2) := dk_21 7 (dk_at dksX4_await_1 18 rfl rfl)
theorem dX4_await_44 : decode cX4_await 44 = .ok (.bipush 105, 2) := dk_16 105 (dk_at dksX4_await_1 20 rfl rfl)
theorem dX4_await_46 : decode cX4_await 46 = .ok (.if_icmp .ne 7, 3) := dk_160 0 7 (dk_at dksX4_await_2 0 rfl rfl)
theorem dX4_await_49 : decode cX4_await 49 = .ok (.iconst 3, 1) := dk_6 (dk_at dksX4_await_2 3 rfl rfl)
theorem dX4_await_50 : decode cX4_await 50 = .ok (.goto 25, 3) := dk_167 0 25 (dk_at dksX4_await_2 4 rfl rfl)
theorem dX4_await_53 : decode cX4_await 53 = .ok (.iload 7, 2) := dk_21 7 (dk_at dksX4_await_2 7 rfl rfl)
theorem dX4_await_55 : decode cX4_await 55 = .ok (.bipush 111, 2) := dk_16 111 (dk_at dksX4_await_2 9 rfl rfl)
theorem dX4_await_57 : decode cX4_await 57 = .ok (.if_icmp .eq 13, 3) := dk_159 0 13 (dk_at dksX4_await_2 11 rfl rfl)
theorem dX4_await_60 : decode cX4_await 60 = .ok (.aload_n 0, 1) := dk_42 (dk_at dksX4_await_2 14 rfl rfl)
theorem dX4_await_61 : decode cX4_await 61 = .ok (.getfield 101, 3) := dk_180 0 101 (dk_at dksX4_await_2 15 rfl rfl)
theorem dX4_await_64 : decode cX4_await 64 = .ok (.sipush 150, 3) := dk_17 0 150 (dk_at dksX4_await_2 18 rfl rfl)
theorem dX4_await_67 : decode cX4_await 67 = .ok (.if_icmp .ne 7, 3) := dk_160 0 7 (dk_at dksX4_await_2 21 rfl rfl)
theorem dX4_await_70 : decode cX4_await 70 = .ok (.iconst 4, 1) := dk_7 (dk_at dksX4_await_3 0 rfl rfl)
theorem dX4_await_71 : decode cX4_await 71 = .ok (.goto 4, 3) := dk_167 0 4 (dk_at dksX4_await_3 1 rfl rfl)
theorem dX4_await_74 : decode cX4_await 74 = .ok (.iconst 0, 1) := dk_3 (dk_at dksX4_await_3 4 rfl rfl)
theorem dX4_await_75 : decode cX4_await 75 = .ok (.putfield 87, 3) := dk_181 0 87 (dk_at dksX4_await_3 5 rfl rfl)
theorem dX4_await_78 : decode cX4_await 78 = .ok (.aload_n 0, 1) := dk_42 (dk_at dksX4_await_3 8 rfl rfl)
theorem dX4_await_79 : decode cX4_await 79 = .ok (.getfield 87, 3) := dk_180 0 87 (dk_at dksX4_await_3 9 rfl rfl)
theorem dX4_await_82 : decode cX4_await 82 = .ok (.ifCond .le 7, 3) := dk_158 0 7 (dk_at dksX4_await_3 12 rfl rfl)
theorem dX4_await_85 : decode cX4_await 85 = .ok (.iconst 0, 1) := dk_3 (dk_at dksX4_await_3 15 rfl rfl)
theorem dX4_await_86 : decode cX4_await 86 = .ok (.goto 18, 3) := dk_167 0 18 (dk_at dksX4_await_3 16 rfl rfl)
theorem dX4_await_89 : decode cX4_await 89 = .ok (.aload_n 0, 1) := dk_42 (dk_at dksX4_await_3 19 rfl rfl)
theorem dX4_await_90 : decode cX4_await 90 = .ok (.iload_n 1, 1) := dk_27 (dk_at dksX4_await_3 20 rfl rfl)
theorem dX4_await_91 : decode cX4_await 91 = .ok (.iload_n 2, 1) := dk_28 (dk_at dksX4_await_3 21 rfl rfl)
theorem dX4_await_92 : decode cX4_await 92 = .ok (.iload_n 3, 1) := dk_29 (dk_at dksX4_await_3 22 rfl rfl)
theorem dX4_await_93 : decode cX4_await 93 = .ok (.iload 4, 2) := dk_21 4 (dk_at dksX4_await_4 0 rfl rfl)
theorem dX4_await_95 : decode cX4_await 95 = .ok (.iload 5, 2) := dk_21 5 (dk_at dksX4_await_4 2 rfl rfl)
theorem dX4_await_97 : decode cX4_await 97 = .ok (.iload 6, 2) := dk_21 6 (dk_at dksX4_await_4 4 rfl rfl)
theorem dX4_await_99 : decode cX4_await 99 = .ok (.bipush 119, 2) := dk_16 119 (dk_at dksX4_await_4 6 rfl rfl)
theorem dX4_await_101 : decode cX4_await 101 = .ok (.invokevirtual 164, 3) := dk_182 0 164 (dk_at dksX4_await_4 8 rfl rfl)
theorem dX4_await_104 : decode cX4_await 104 = .ok (.ireturn, 1) := dk_172 (dk_at dksX4_await_4 11 rfl rfl)
abbrev cX4_check : ByteArray := prog_14_method_30_code
def yX4_check : MethodName := ⟨RX4, "check", "(IIIIIC)C"⟩
def dkwX4_check_1 : List UInt8 := [3, 167, 0, 16, 42, 27, 28, 29, 21, 4, 21, 5, 21, 6, 182, 0, 149, 172]
abbrev dktX4_check_1 : List UInt8 := dkwX4_check_1 ++ []
def dkwX4_check_0 : List UInt8 := [42, 42, 27, 28, 29, 21, 4, 21, 5, 21, 6, 182, 0, 160, 181, 0, 87, 42, 180, 0, 87, 158, 0, 7]
abbrev dktX4_check_0 : List UInt8 := dkwX4_check_0 ++ dktX4_check_1
theorem dksX4_check_0 : cX4_check.data.toList.drop 0 = dktX4_check_0 := by decide +kernel
theorem dksX4_check_1 : cX4_check.data.toList.drop 24 = dktX4_check_1 := dk_seg dksX4_check_0 24 rfl rfl
theorem dX4_check_0 : decode cX4_check 0 = .ok (.aload_n 0, 1) := dk_42 (dk_at dksX4_check_0 0 rfl rfl)
theorem dX4_check_1 : decode cX4_check 1 = .ok (.aload_n 0, 1) := dk_42 (dk_at dksX4_check_0 1 rfl rfl)
theorem dX4_check_2 : decode cX4_check 2 = .ok (.iload_n 1, 1) := dk_27 (dk_at dksX4_check_0 2 rfl rfl)
theorem dX4_check_3 : decode cX4_check 3 = .ok (.iload_n 2, 1) := dk_28 (dk_at dksX4_check_0 3 rfl rfl)
theorem dX4_check_4 : decode cX4_check 4 = .ok (.iload_n 3, 1) := dk_29 (dk_at dksX4_check_0 4 rfl rfl)
theorem dX4_check_5 : decode cX4_check 5 = .ok (.iload 4, 2) := dk_21 4 (dk_at dksX4_check_0 5 rfl rfl)
theorem dX4_check_7 : decode cX4_check 7 = .ok (.iload 5, 2) := dk_21 5 (dk_at dksX4_check_0 7 rfl rfl)
theorem dX4_check_9 : decode cX4_check 9 = .ok (.iload 6, 2) := dk_21 6 (dk_at dksX4_check_0 9 rfl rfl)
theorem dX4_check_11 : decode cX4_check 11 = .ok (.invokevirtual 160, 3) := dk_182 0 160 (dk_at dksX4_check_0 11 rfl rfl)
theorem dX4_check_14 : decode cX4_check 14 = .ok (.putfield 87, 3) := dk_181 0 87 (dk_at dksX4_check_0 14 rfl rfl)
theorem dX4_check_17 : decode cX4_check 17 = .ok (.aload_n 0, 1) := dk_42 (dk_at dksX4_check_0 17 rfl rfl)
theorem dX4_check_18 : decode cX4_check 18 = .ok (.getfield 87, 3) := dk_180 0 87 (dk_at dksX4_check_0 18 rfl rfl)
theorem dX4_check_21 : decode cX4_check 21 = .ok (.ifCond .le 7, 3) := dk_158 0 7 (dk_at dksX4_check_0 21 rfl rfl)
theorem dX4_check_24 : decode cX4_check 24 = .ok (.iconst 0, 1) := dk_3 (dk_at dksX4_check_1 0 rfl rfl)
theorem dX4_check_25 : decode cX4_check 25 = .ok (.goto 16, 3) := dk_167 0 16 (dk_at dksX4_check_1 1 rfl rfl)
theorem dX4_check_28 : decode cX4_check 28 = .ok (.aload_n 0, 1) := dk_42 (dk_at dksX4_check_1 4 rfl rfl)
theorem dX4_check_29 : decode cX4_check 29 = .ok (.iload_n 1, 1) := dk_27 (dk_at dksX4_check_1 5 rfl rfl)
theorem dX4_check_30 : decode cX4_check 30 = .ok (.iload_n 2, 1) := dk_28 (dk_at dksX4_check_1 6 rfl rfl)
theorem dX4_check_31 : decode cX4_check 31 = .ok (.iload_n 3, 1) := dk_29 (dk_at dksX4_check_1 7 rfl rfl)
theorem dX4_check_32 : decode cX4_check 32 = .ok (.iload 4, 2) := dk_21 4 (dk_at dksX4_check_1 8 rfl rfl)
theorem dX4_check_34 : decode cX4_check 34 = .ok (.iload 5, 2) := dk_21 5 (dk_at dksX4_check_1 10 rfl rfl)
theorem dX4_check_36 : decode cX4_check 36 = .ok (.iload 6, 2) := dk_21 6 (dk_at dksX4_check_1 12 rfl rfl)
theorem dX4_check_38 : decode cX4_check 38 = .ok (.invokevirtual 149, 3) := dk_182 0 149 (dk_at dksX4_check_1 14 rfl rfl)
theorem dX4_check_41 : decode cX4_check 41 = .ok (.ireturn, 1) := dk_172 (dk_at dksX4_check_1 17 rfl rfl)
abbrev cX4_cancel : ByteArray := prog_14_method_31_code
def yX4_cancel : MethodName := ⟨RX4, "cancel", "(I)C"⟩
def dkwX4_cancel_6 : List UInt8 := [172]
abbrev dktX4_cancel_6 : List UInt8 := dkwX4_cancel_6 ++ []
def dkwX4_cancel_5 : List UInt8 := [46, 182, 0, 171, 5, 108, 167, 0, 4, 3, 79, 42, 180, 0, 49, 27, 16, 99, 85, 42, 182, 0, 125, 28]
abbrev dktX4_cancel_5 : List UInt8 := dkwX4_cancel_5 ++ dktX4_cancel_6
def dkwX4_cancel_4 : List UInt8 := [27, 28, 16, 104, 160, 0, 29, 42, 42, 180, 0, 9, 42, 180, 0, 33, 27, 46, 46, 42, 180, 0, 42, 27]
abbrev dktX4_cancel_4 : List UInt8 := dkwX4_cancel_4 ++ dktX4_cancel_5
def dkwX4_cancel_3 : List UInt8 := [180, 0, 36, 27, 46, 42, 180, 0, 112, 160, 0, 8, 16, 104, 167, 0, 5, 16, 102, 61, 42, 180, 0, 52]
abbrev dktX4_cancel_3 : List UInt8 := dkwX4_cancel_3 ++ dktX4_cancel_4
def dkwX4_cancel_2 : List UInt8 := [158, 0, 5, 3, 172, 42, 180, 0, 49, 27, 52, 16, 119, 160, 0, 8, 16, 119, 167, 0, 23, 42]
abbrev dktX4_cancel_2 : List UInt8 := dkwX4_cancel_2 ++ dktX4_cancel_3
def dkwX4_cancel_1 : List UInt8 := [42, 180, 0, 49, 27, 52, 16, 98, 159, 0, 7, 5, 167, 0, 4, 3, 181, 0, 87, 42, 180, 0, 87]
abbrev dktX4_cancel_1 : List UInt8 := dkwX4_cancel_1 ++ dktX4_cancel_2
def dkwX4_cancel_0 : List UInt8 := [42, 42, 27, 182, 0, 168, 154, 0, 7, 4, 167, 0, 30, 42, 180, 0, 49, 27, 52, 16, 119, 159, 0, 18]
abbrev dktX4_cancel_0 : List UInt8 := dkwX4_cancel_0 ++ dktX4_cancel_1
theorem dksX4_cancel_0 : cX4_cancel.data.toList.drop 0 = dktX4_cancel_0 := by decide +kernel
theorem dksX4_cancel_1 : cX4_cancel.data.toList.drop 24 = dktX4_cancel_1 := dk_seg dksX4_cancel_0 24 rfl rfl
theorem dksX4_cancel_2 : cX4_cancel.data.toList.drop 47 = dktX4_cancel_2 := dk_seg dksX4_cancel_1 23 rfl rfl
theorem dksX4_cancel_3 : cX4_cancel.data.toList.drop 69 = dktX4_cancel_3 := dk_seg dksX4_cancel_2 22 rfl rfl
theorem dksX4_cancel_4 : cX4_cancel.data.toList.drop 93 = dktX4_cancel_4 := dk_seg dksX4_cancel_3 24 rfl rfl
theorem dksX4_cancel_5 : cX4_cancel.data.toList.drop 117 = dktX4_cancel_5 := dk_seg dksX4_cancel_4 24 rfl rfl
theorem dksX4_cancel_6 : cX4_cancel.data.toList.drop 141 = dktX4_cancel_6 := dk_seg dksX4_cancel_5 24 rfl rfl
theorem dX4_cancel_0 : decode cX4_cancel 0 = .ok (.aload_n 0, 1) := dk_42 (dk_at dksX4_cancel_0 0 rfl rfl)
theorem dX4_cancel_1 : decode cX4_cancel 1 = .ok (.aload_n 0, 1) := dk_42 (dk_at dksX4_cancel_0 1 rfl rfl)
theorem dX4_cancel_2 : decode cX4_cancel 2 = .ok (.iload_n 1, 1) := dk_27 (dk_at dksX4_cancel_0 2 rfl rfl)
theorem dX4_cancel_3 : decode cX4_cancel 3 = .ok (.invokevirtual 168, 3) := dk_182 0 168 (dk_at dksX4_cancel_0 3 rfl rfl)
theorem dX4_cancel_6 : decode cX4_cancel 6 = .ok (.ifCond .ne 7, 3) := dk_154 0 7 (dk_at dksX4_cancel_0 6 rfl rfl)
theorem dX4_cancel_9 : decode cX4_cancel 9 = .ok (.iconst 1, 1) := dk_4 (dk_at dksX4_cancel_0 9 rfl rfl)
theorem dX4_cancel_10 : decode cX4_cancel 10 = .ok (.goto 30, 3) := dk_167 0 30 (dk_at dksX4_cancel_0 10 rfl rfl)
theorem dX4_cancel_13 : decode cX4_cancel 13 = .ok (.aload_n 0, 1) := dk_42 (dk_at dksX4_cancel_0 13 rfl rfl)
theorem dX4_cancel_14 : decode cX4_cancel 14 = .ok (.getfield 49, 3) := dk_180 0 49 (dk_at dksX4_cancel_0 14 rfl rfl)
theorem dX4_cancel_17 : decode cX4_cancel 17 = .ok (.iload_n 1, 1) := dk_27 (dk_at dksX4_cancel_0 17 rfl rfl)
theorem dX4_cancel_18 : decode cX4_cancel 18 = .ok (.caload, 1) := dk_52 (dk_at dksX4_cancel_0 18 rfl rfl)
theorem dX4_cancel_19 : decode cX4_cancel 19 = .ok (.bipush 119, 2) := dk_16 119 (dk_at dksX4_cancel_0 19 rfl rfl)
theorem dX4_cancel_21 : decode cX4_cancel 21 = .ok (.if_icmp .eq 18, 3) := dk_159 0 18 (dk_at dksX4_cancel_0 21 rfl rfl)
theorem dX4_cancel_24 : decode cX4_cancel 24 = .ok (.aload_n 0, 1) := dk_42 (dk_at dksX4_cancel_1 0 rfl rfl)
theorem dX4_cancel_25 : decode cX4_cancel 25 = .ok (.getfield 49, 3) := dk_180 0 49 (dk_at dksX4_cancel_1 1 rfl rfl)
theorem dX4_cancel_28 : decode cX4_cancel 28 = .ok (.iload_n 1, 1) := dk_27 (dk_at dksX4_cancel_1 4 rfl rfl)
theorem dX4_cancel_29 : decode cX4_cancel 29 = .ok (.caload, 1) := dk_52 (dk_at dksX4_cancel_1 5 rfl rfl)
theorem dX4_cancel_30 : decode cX4_cancel 30 = .ok (.bipush 98, 2) := dk_16 98 (dk_at dksX4_cancel_1 6 rfl rfl)
theorem dX4_cancel_32 : decode cX4_cancel 32 = .ok (.if_icmp .eq 7, 3) := dk_159 0 7 (dk_at dksX4_cancel_1 8 rfl rfl)
theorem dX4_cancel_35 : decode cX4_cancel 35 = .ok (.iconst 2, 1) := dk_5 (dk_at dksX4_cancel_1 11 rfl rfl)
theorem dX4_cancel_36 : decode cX4_cancel 36 = .ok (.goto 4, 3) := dk_167 0 4 (dk_at dksX4_cancel_1 12 rfl rfl)
theorem dX4_cancel_39 : decode cX4_cancel 39 = .ok (.iconst 0, 1) := dk_3 (dk_at dksX4_cancel_1 15 rfl rfl)
theorem dX4_cancel_40 : decode cX4_cancel 40 = .ok (.putfield 87, 3) := dk_181 0 87 (dk_at dksX4_cancel_1 16 rfl rfl)
theorem dX4_cancel_43 : decode cX4_cancel 43 = .ok (.aload_n 0, 1) := dk_42 (dk_at dksX4_cancel_1 19 rfl rfl)
theorem dX4_cancel_44 : decode cX4_cancel 44 = .ok (.getfield 87, 3) := dk_180 0 87 (dk_at dksX4_cancel_1 20 rfl rfl)
theorem dX4_cancel_47 : decode cX4_cancel 47 = .ok (.ifCond .le 5, 3) := dk_158 0 5 (dk_at dksX4_cancel_2 0 rfl rfl)
theorem dX4_cancel_50 : decode cX4_cancel 50 = .ok (.iconst 0, 1) := dk_3 (dk_at dksX4_cancel_2 3 rfl rfl)
theorem dX4_cancel_51 : decode cX4_cancel 51 = .ok (.ireturn, 1) := dk_172 (dk_at dksX4_cancel_2 4 rfl rfl)
theorem dX4_cancel_52 : decode cX4_cancel 52 = .ok (.aload_n 0, 1) := dk_42 (dk_at dksX4_cancel_2 5 rfl rfl)
theorem dX4_cancel_53 : decode cX4_cancel 53 = .ok (.getfield 49, 3) := dk_180 0 49 (dk_at dksX4_cancel_2 6 rfl rfl)
theorem dX4_cancel_56 : decode cX4_cancel 56 = .ok (.iload_n 1, 1) := dk_27 (dk_at dksX4_cancel_2 9 rfl rfl)
theorem dX4_cancel_57 : decode cX4_cancel 57 = .ok (.caload, 1) := dk_52 (dk_at dksX4_cancel_2 10 rfl rfl)
theorem dX4_cancel_58 : decode cX4_cancel 58 = .ok (.bipush 119, 2) := dk_16 119 (dk_at dksX4_cancel_2 11 rfl rfl)
theorem dX4_cancel_60 : decode cX4_cancel 60 = .ok (.if_icmp .ne 8, 3) := dk_160 0 8 (dk_at dksX4_cancel_2 13 rfl rfl)
theorem dX4_cancel_63 : decode cX4_cancel 63 = .ok (.bipush 119, 2) := dk_16 119 (dk_at dksX4_cancel_2 16 rfl rfl)
theorem dX4_cancel_65 : decode cX4_cancel 65 = .ok (.goto 23, 3) := dk_167 0 23 (dk_at dksX4_cancel_2 18 rfl rfl)
theorem dX4_cancel_68 : decode cX4_cancel 68 = .ok (.aload_n 0, 1) := dk_42 (dk_at dksX4_cancel_2 21 rfl rfl)
theorem dX4_cancel_69 : decode cX4_cancel 69 = .ok (.getfield 36, 3) := dk_180 0 36 (dk_at dksX4_cancel_3 0 rfl rfl)
theorem dX4_cancel_72 : decode cX4_cancel 72 = .ok (.iload_n 1, 1) := dk_27 (dk_at dksX4_cancel_3 3 rfl rfl)
theorem dX4_cancel_73 : decode cX4_cancel 73 = .ok (.iaload, 1) := dk_46 (dk_at dksX4_cancel_3 4 rfl rfl)
theorem dX4_cancel_74 : decode cX4_cancel 74 = .ok (.aload_n 0, 1) := dk_42 (dk_at dksX4_cancel_3 5 rfl rfl)
theorem dX4_cancel_75 : decode cX4_cancel 75 = .ok (.getfield 112, 3) := dk_180 0 112 (dk_at dksX4_cancel_3 6 rfl rfl)
theorem dX4_cancel_78 : decode cX4_cancel 78 = .ok (.if_icmp .ne 8, 3) := dk_160 0 8 (dk_at dksX4_cancel_3 9 rfl rfl)
theorem dX4_cancel_81 : decode cX4_cancel 81 = .ok (.bipush 104, 2) := dk_16 104 (dk_at dksX4_cancel_3 12 rfl rfl)
theorem dX4_cancel_83 : decode cX4_cancel 83 = .ok (.goto 5, 3) := dk_167 0 5 (dk_at dksX4_cancel_3 14 rfl rfl)
theorem dX4_cancel_86 : decode cX4_cancel 86 = .ok (.bipush 102, 2) := dk_16 102 (dk_at dksX4_cancel_3 17 rfl rfl)
theorem dX4_cancel_88 : decode cX4_cancel 88 = .ok (.istore_n 2, 1) := dk_61 (dk_at dksX4_cancel_3 19 rfl rfl)
theorem dX4_cancel_89 : decode cX4_cancel 89 = .ok (.aload_n 0, 1) := dk_42 (dk_at dksX4_cancel_3 20 rfl rfl)
theorem dX4_cancel_90 : decode cX4_cancel 90 = .ok (.getfield 52, 3) := dk_180 0 52 (dk_at dksX4_cancel_3 21 rfl rfl)
theorem dX4_cancel_93 : decode cX4_cancel 93 = .ok (.iload_n 1, 1) := dk_27 (dk_at dksX4_cancel_4 0 rfl rfl)
theorem dX4_cancel_94 : decode cX4_cancel 94 = .ok (.iload_n 2, 1) := dk_28 (dk_at dksX4_cancel_4 1 rfl rfl)
theorem dX4_cancel_95 : decode cX4_cancel 95 = .ok (.bipush 104, 2) := dk_16 104 (dk_at dksX4_cancel_4 2 rfl rfl)
theorem dX4_cancel_97 : decode cX4_cancel 97 = .ok (.if_icmp .ne 29, 3) := dk_160 0 29 (dk_at dksX4_cancel_4 4 rfl rfl)
theorem dX4_cancel_100 : decode cX4_cancel 100 = .ok (.aload_n 0, 1) := dk_42 (dk_at dksX4_cancel_4 7 rfl rfl)
theorem dX4_cancel_101 : decode cX4_cancel 101 = .ok (.aload_n 0, 1) := dk_42 (dk_at dksX4_cancel_4 8 rfl rfl)
theorem dX4_cancel_102 : decode cX4_cancel 102 = .ok (.getfield 9, 3) := dk_180 0 9 (dk_at dksX4_cancel_4 9 rfl rfl)
theorem dX4_cancel_105 : decode cX4_cancel 105 = .ok (.aload_n 0, 1) := dk_42 (dk_at dksX4_cancel_4 12 rfl rfl)
theorem dX4_cancel_106 : decode cX4_cancel 106 = .ok (.getfield 33, 3) := dk_180 0 33 (dk_at dksX4_cancel_4 13 rfl rfl)
theorem dX4_cancel_109 : decode cX4_cancel 109 = .ok (.iload_n 1, 1) := dk_27 (dk_at dksX4_cancel_4 16 rfl rfl)
theorem dX4_cancel_110 : decode cX4_cancel 110 = .ok (.iaload, 1) := dk_46 (dk_at dksX4_cancel_4 17 rfl rfl)
theorem dX4_cancel_111 : decode cX4_cancel 111 = .ok (.iaload, 1) := dk_46 (dk_at dksX4_cancel_4 18 rfl rfl)
theorem dX4_cancel_112 : decode cX4_cancel 112 = .ok (.aload_n 0, 1) := dk_42 (dk_at dksX4_cancel_4 19 rfl rfl)
theorem dX4_cancel_113 : decode cX4_cancel 113 = .ok (.getfield 42, 3) := dk_180 0 42 (dk_at dksX4_cancel_4 20 rfl rfl)
theorem dX4_cancel_116 : decode cX4_cancel 116 = .ok (.iload_n 1, 1) := dk_27 (dk_at dksX4_cancel_4 23 rfl rfl)
theorem dX4_cancel_117 : decode cX4_cancel 117 = .ok (.iaload, 1) := dk_46 (dk_at dksX4_cancel_5 0 rfl rfl)
theorem dX4_cancel_118 : decode cX4_cancel 118 = .ok (.invokevirtual 171, 3) := dk_182 0 171 (dk_at dksX4_cancel_5 1 rfl rfl)
theorem dX4_cancel_121 : decode cX4_cancel 121 = .ok (.iconst 2, 1) := dk_5 (dk_at dksX4_cancel_5 4 rfl rfl)
theorem dX4_cancel_122 : decode cX4_cancel 122 = .ok (.idiv, 1) := dk_108 (dk_at dksX4_cancel_5 5 rfl rfl)
theorem dX4_cancel_123 : decode cX4_cancel 123 = .ok (.goto 4, 3) := dk_167 0 4 (dk_at dksX4_cancel_5 6 rfl rfl)
theorem dX4_cancel_126 : decode cX4_cancel 126 = .ok (.iconst 0, 1) := dk_3 (dk_at dksX4_cancel_5 9 rfl rfl)
theorem dX4_cancel_127 : decode cX4_cancel 127 = .ok (.iastore, 1) := dk_79 (dk_at dksX4_cancel_5 10 rfl rfl)
theorem dX4_cancel_128 : decode cX4_cancel 128 = .ok (.aload_n 0, 1) := dk_42 (dk_at dksX4_cancel_5 11 rfl rfl)
theorem dX4_cancel_129 : decode cX4_cancel 129 = .ok (.getfield 49, 3) := dk_180 0 49 (dk_at dksX4_cancel_5 12 rfl rfl)
theorem dX4_cancel_132 : decode cX4_cancel 132 = .ok (.iload_n 1, 1) := dk_27 (dk_at dksX4_cancel_5 15 rfl rfl)
theorem dX4_cancel_133 : decode cX4_cancel 133 = .ok (.bipush 99, 2) := dk_16 99 (dk_at dksX4_cancel_5 16 rfl rfl)
theorem dX4_cancel_135 : decode cX4_cancel 135 = .ok (.castore, 1) := dk_85 (dk_at dksX4_cancel_5 18 rfl rfl)
theorem dX4_cancel_136 : decode cX4_cancel 136 = .ok (.aload_n 0, 1) := dk_42 (dk_at dksX4_cancel_5 19 rfl rfl)
theorem dX4_cancel_137 : decode cX4_cancel 137 = .ok (.invokevirtual 125, 3) := dk_182 0 125 (dk_at dksX4_cancel_5 20 rfl rfl)
theorem dX4_cancel_140 : decode cX4_cancel 140 = .ok (.iload_n 2, 1) := dk_28 (dk_at dksX4_cancel_5 23 rfl rfl)
theorem dX4_cancel_141 : decode cX4_cancel 141 = .ok (.ireturn, 1) := dk_172 (dk_at dksX4_cancel_6 0 rfl rfl)
abbrev cX4_isEntry : ByteArray := prog_14_method_8_code
def yX4_isEntry : MethodName := ⟨RX4, "isEntry", "(I)Z"⟩
def dkwX4_isEntry_0 : List UInt8 := [27, 3, 42, 180, 0, 101, 4, 100, 184, 0, 91, 172]
abbrev dktX4_isEntry_0 : List UInt8 := dkwX4_isEntry_0 ++ []
theorem dksX4_isEntry_0 : cX4_isEntry.data.toList.drop 0 = dktX4_isEntry_0 := by decide +kernel
theorem dX4_isEntry_0 : decode cX4_isEntry 0 = .ok (.iload_n 1, 1) := dk_27 (dk_at dksX4_isEntry_0 0 rfl rfl)
theorem dX4_isEntry_1 : decode cX4_isEntry 1 = .ok (.iconst 0, 1) := dk_3 (dk_at dksX4_isEntry_0 1 rfl rfl)
theorem dX4_isEntry_2 : decode cX4_isEntry 2 = .ok (.aload_n 0, 1) := dk_42 (dk_at dksX4_isEntry_0 2 rfl rfl)
theorem dX4_isEntry_3 : decode cX4_isEntry 3 = .ok (.getfield 101, 3) := dk_180 0 101 (dk_at dksX4_isEntry_0 3 rfl rfl)
theorem dX4_isEntry_6 : decode cX4_isEntry 6 = .ok (.iconst 1, 1) := dk_4 (dk_at dksX4_isEntry_0 6 rfl rfl)
theorem dX4_isEntry_7 : decode cX4_isEntry 7 = .ok (.isub, 1) := dk_100 (dk_at dksX4_isEntry_0 7 rfl rfl)
theorem dX4_isEntry_8 : decode cX4_isEntry 8 = .ok (.invokestatic 91, 3) := dk_184 0 91 (dk_at dksX4_isEntry_0 8 rfl rfl)
theorem dX4_isEntry_11 : decode cX4_isEntry 11 = .ok (.ireturn, 1) := dk_172 (dk_at dksX4_isEntry_0 11 rfl rfl)
abbrev cX4_cost : ByteArray := prog_14_method_53_code
def yX4_cost : MethodName := ⟨RX4, "cost", "(II)I"⟩
def dkwX4_cost_7 : List UInt8 := [16, 100, 108, 100, 167, 0, 5, 21, 5, 54, 5, 132, 6, 1, 167, 255, 163, 21, 5, 172]
abbrev dktX4_cost_7 : List UInt8 := dkwX4_cost_7 ++ []
def dkwX4_cost_6 : List UInt8 := [21, 5, 21, 8, 184, 0, 213, 167, 0, 26, 21, 7, 16, 112, 160, 0, 17, 21, 5, 21, 5, 21, 8, 104]
abbrev dktX4_cost_6 : List UInt8 := dkwX4_cost_6 ++ dktX4_cost_7
def dkwX4_cost_5 : List UInt8 := [54, 8, 21, 7, 16, 102, 160, 0, 11, 21, 5, 21, 8, 96, 167, 0, 43, 21, 7, 16, 99, 160, 0, 13]
abbrev dktX4_cost_5 : List UInt8 := dkwX4_cost_5 ++ dktX4_cost_6
def dkwX4_cost_4 : List UInt8 := [46, 162, 0, 88, 42, 180, 0, 75, 27, 50, 21, 6, 52, 54, 7, 42, 180, 0, 78, 27, 50, 21, 6, 46]
abbrev dktX4_cost_4 : List UInt8 := dkwX4_cost_4 ++ dktX4_cost_5
def dkwX4_cost_3 : List UInt8 := [180, 0, 78, 27, 50, 3, 46, 25, 4, 3, 46, 104, 54, 5, 4, 54, 6, 21, 6, 42, 180, 0, 81, 27]
abbrev dktX4_cost_3 : List UInt8 := dkwX4_cost_3 ++ dktX4_cost_4
def dkwX4_cost_2 : List UInt8 := [46, 100, 184, 0, 208, 167, 0, 4, 3, 96, 62, 25, 4, 21, 5, 29, 79, 132, 5, 255, 167, 255, 206, 42]
abbrev dktX4_cost_2 : List UInt8 := dkwX4_cost_2 ++ dktX4_cost_3
def dkwX4_cost_1 : List UInt8 := [42, 180, 0, 75, 27, 50, 21, 5, 52, 16, 100, 160, 0, 21, 3, 29, 42, 180, 0, 78, 27, 50, 21, 5]
abbrev dktX4_cost_1 : List UInt8 := dkwX4_cost_1 ++ dktX4_cost_2
def dkwX4_cost_0 : List UInt8 := [28, 62, 16, 6, 188, 10, 58, 4, 42, 180, 0, 81, 27, 46, 4, 100, 54, 5, 21, 5, 155, 0, 51, 29]
abbrev dktX4_cost_0 : List UInt8 := dkwX4_cost_0 ++ dktX4_cost_1
theorem dksX4_cost_0 : cX4_cost.data.toList.drop 0 = dktX4_cost_0 := by decide +kernel
theorem dksX4_cost_1 : cX4_cost.data.toList.drop 24 = dktX4_cost_1 := dk_seg dksX4_cost_0 24 rfl rfl
theorem dksX4_cost_2 : cX4_cost.data.toList.drop 48 = dktX4_cost_2 := dk_seg dksX4_cost_1 24 rfl rfl
theorem dksX4_cost_3 : cX4_cost.data.toList.drop 72 = dktX4_cost_3 := dk_seg dksX4_cost_2 24 rfl rfl
theorem dksX4_cost_4 : cX4_cost.data.toList.drop 96 = dktX4_cost_4 := dk_seg dksX4_cost_3 24 rfl rfl
theorem dksX4_cost_5 : cX4_cost.data.toList.drop 120 = dktX4_cost_5 := dk_seg dksX4_cost_4 24 rfl rfl
theorem dksX4_cost_6 : cX4_cost.data.toList.drop 144 = dktX4_cost_6 := dk_seg dksX4_cost_5 24 rfl rfl
theorem dksX4_cost_7 : cX4_cost.data.toList.drop 168 = dktX4_cost_7 := dk_seg dksX4_cost_6 24 rfl rfl
theorem dX4_cost_0 : decode cX4_cost 0 = .ok (.iload_n 2, 1) := dk_28 (dk_at dksX4_cost_0 0 rfl rfl)
theorem dX4_cost_1 : decode cX4_cost 1 = .ok (.istore_n 3, 1) := dk_62 (dk_at dksX4_cost_0 1 rfl rfl)
theorem dX4_cost_2 : decode cX4_cost 2 = .ok (.bipush 6, 2) := dk_16 6 (dk_at dksX4_cost_0 2 rfl rfl)
theorem dX4_cost_4 : decode cX4_cost 4 = .ok (.newarray .int, 2) := dk_188_10 (dk_at dksX4_cost_0 4 rfl rfl)
theorem dX4_cost_6 : decode cX4_cost 6 = .ok (.astore 4, 2) := dk_58 4 (dk_at dksX4_cost_0 6 rfl rfl)
theorem dX4_cost_8 : decode cX4_cost 8 = .ok (.aload_n 0, 1) := dk_42 (dk_at dksX4_cost_0 8 rfl rfl)
theorem dX4_cost_9 : decode cX4_cost 9 = .ok (.getfield 81, 3) := dk_180 0 81 (dk_at dksX4_cost_0 9 rfl rfl)
theorem dX4_cost_12 : decode cX4_cost 12 = .ok (.iload_n 1, 1) := dk_27 (dk_at dksX4_cost_0 12 rfl rfl)
theorem dX4_cost_13 : decode cX4_cost 13 = .ok (.iaload, 1) := dk_46 (dk_at dksX4_cost_0 13 rfl rfl)
theorem dX4_cost_14 : decode cX4_cost 14 = .ok (.iconst 1, 1) := dk_4 (dk_at dksX4_cost_0 14 rfl rfl)
theorem dX4_cost_15 : decode cX4_cost 15 = .ok (.isub, 1) := dk_100 (dk_at dksX4_cost_0 15 rfl rfl)
theorem dX4_cost_16 : decode cX4_cost 16 = .ok (.istore 5, 2) := dk_54 5 (dk_at dksX4_cost_0 16 rfl rfl)
theorem dX4_cost_18 : decode cX4_cost 18 = .ok (.iload 5, 2) := dk_21 5 (dk_at dksX4_cost_0 18 rfl rfl)
theorem dX4_cost_20 : decode cX4_cost 20 = .ok (.ifCond .lt 51, 3) := dk_155 0 51 (dk_at dksX4_cost_0 20 rfl rfl)
theorem dX4_cost_23 : decode cX4_cost 23 = .ok (.iload_n 3, 1) := dk_29 (dk_at dksX4_cost_0 23 rfl rfl)
theorem dX4_cost_24 : decode cX4_cost 24 = .ok (.aload_n 0, 1) := dk_42 (dk_at dksX4_cost_1 0 rfl rfl)
theorem dX4_cost_25 : decode cX4_cost 25 = .ok (.getfield 75, 3) := dk_180 0 75 (dk_at dksX4_cost_1 1 rfl rfl)
theorem dX4_cost_28 : decode cX4_cost 28 = .ok (.iload_n 1, 1) := dk_27 (dk_at dksX4_cost_1 4 rfl rfl)
theorem dX4_cost_29 : decode cX4_cost 29 = .ok (.aaload, 1) := dk_50 (dk_at dksX4_cost_1 5 rfl rfl)
theorem dX4_cost_30 : decode cX4_cost 30 = .ok (.iload 5, 2) := dk_21 5 (dk_at dksX4_cost_1 6 rfl rfl)
theorem dX4_cost_32 : decode cX4_cost 32 = .ok (.caload, 1) := dk_52 (dk_at dksX4_cost_1 8 rfl rfl)
theorem dX4_cost_33 : decode cX4_cost 33 = .ok (.bipush 100, 2) := dk_16 100 (dk_at dksX4_cost_1 9 rfl rfl)
theorem dX4_cost_35 : decode cX4_cost 35 = .ok (.if_icmp .ne 21, 3) := dk_160 0 21 (dk_at dksX4_cost_1 11 rfl rfl)
theorem dX4_cost_38 : decode cX4_cost 38 = .ok (.iconst 0, 1) := dk_3 (dk_at dksX4_cost_1 14 rfl rfl)
theorem dX4_cost_39 : decode cX4_cost 39 = .ok (.iload_n 3, 1) := dk_29 (dk_at dksX4_cost_1 15 rfl rfl)
theorem dX4_cost_40 : decode cX4_cost 40 = .ok (.aload_n 0, 1) := dk_42 (dk_at dksX4_cost_1 16 rfl rfl)
theorem dX4_cost_41 : decode cX4_cost 41 = .ok (.getfield 78, 3) := dk_180 0 78 (dk_at dksX4_cost_1 17 rfl rfl)
theorem dX4_cost_44 : decode cX4_cost 44 = .ok (.iload_n 1, 1) := dk_27 (dk_at dksX4_cost_1 20 rfl rfl)
theorem dX4_cost_45 : decode cX4_cost 45 = .ok (.aaload, 1) := dk_50 (dk_at dksX4_cost_1 21 rfl rfl)
theorem dX4_cost_46 : decode cX4_cost 46 = .ok (.iload 5, 2) := dk_21 5 (dk_at dksX4_cost_1 22 rfl rfl)
theorem dX4_cost_48 : decode cX4_cost 48 = .ok (.iaload, 1) := dk_46 (dk_at dksX4_cost_2 0 rfl rfl)
theorem dX4_cost_49 : decode cX4_cost 49 = .ok (.isub, 1) := dk_100 (dk_at dksX4_cost_2 1 rfl rfl)
theorem dX4_cost_50 : decode cX4_cost 50 = .ok (.invokestatic 208, 3) := dk_184 0 208 (dk_at dksX4_cost_2 2 rfl rfl)
theorem dX4_cost_53 : decode cX4_cost 53 = .ok (.goto 4, 3) := dk_167 0 4 (dk_at dksX4_cost_2 5 rfl rfl)
theorem dX4_cost_56 : decode cX4_cost 56 = .ok (.iconst 0, 1) := dk_3 (dk_at dksX4_cost_2 8 rfl rfl)
theorem dX4_cost_57 : decode cX4_cost 57 = .ok (.iadd, 1) := dk_96 (dk_at dksX4_cost_2 9 rfl rfl)
theorem dX4_cost_58 : decode cX4_cost 58 = .ok (.istore_n 3, 1) := dk_62 (dk_at dksX4_cost_2 10 rfl rfl)
theorem dX4_cost_59 : decode cX4_cost 59 = .ok (.aload 4, 2) := dk_25 4 (dk_at dksX4_cost_2 11 rfl rfl)
theorem dX4_cost_61 : decode cX4_cost 61 = .ok (.iload 5, 2) := dk_21 5 (dk_at dksX4_cost_2 13 rfl rfl)
theorem dX4_cost_63 : decode cX4_cost 63 = .ok (.iload_n 3, 1) := dk_29 (dk_at dksX4_cost_2 15 rfl rfl)
theorem dX4_cost_64 : decode cX4_cost 64 = .ok (.iastore, 1) := dk_79 (dk_at dksX4_cost_2 16 rfl rfl)
theorem dX4_cost_65 : decode cX4_cost 65 = .ok (.iinc 5 (-1), 3) := dk_132 5 255 (dk_at dksX4_cost_2 17 rfl rfl)
theorem dX4_cost_68 : decode cX4_cost 68 = .ok (.goto (-50), 3) := dk_167 255 206 (dk_at dksX4_cost_2 20 rfl rfl)
theorem dX4_cost_71 : decode cX4_cost 71 = .ok (.aload_n 0, 1) := dk_42 (dk_at dksX4_cost_2 23 rfl rfl)
theorem dX4_cost_72 : decode cX4_cost 72 = .ok (.getfield 78, 3) := dk_180 0 78 (dk_at dksX4_cost_3 0 rfl rfl)
theorem dX4_cost_75 : decode cX4_cost 75 = .ok (.iload_n 1, 1) := dk_27 (dk_at dksX4_cost_3 3 rfl rfl)
theorem dX4_cost_76 : decode cX4_cost 76 = .ok (.aaload, 1) := dk_50 (dk_at dksX4_cost_3 4 rfl rfl)
theorem dX4_cost_77 : decode cX4_cost 77 = .ok (.iconst 0, 1) := dk_3 (dk_at dksX4_cost_3 5 rfl rfl)
theorem dX4_cost_78 : decode cX4_cost 78 = .ok (.iaload, 1) := dk_46 (dk_at dksX4_cost_3 6 rfl rfl)
theorem dX4_cost_79 : decode cX4_cost 79 = .ok (.aload 4, 2) := dk_25 4 (dk_at dksX4_cost_3 7 rfl rfl)
theorem dX4_cost_81 : decode cX4_cost 81 = .ok (.iconst 0, 1) := dk_3 (dk_at dksX4_cost_3 9 rfl rfl)
theorem dX4_cost_82 : decode cX4_cost 82 = .ok (.iaload, 1) := dk_46 (dk_at dksX4_cost_3 10 rfl rfl)
theorem dX4_cost_83 : decode cX4_cost 83 = .ok (.imul, 1) := dk_104 (dk_at dksX4_cost_3 11 rfl rfl)
theorem dX4_cost_84 : decode cX4_cost 84 = .ok (.istore 5, 2) := dk_54 5 (dk_at dksX4_cost_3 12 rfl rfl)
theorem dX4_cost_86 : decode cX4_cost 86 = .ok (.iconst 1, 1) := dk_4 (dk_at dksX4_cost_3 14 rfl rfl)
theorem dX4_cost_87 : decode cX4_cost 87 = .ok (.istore 6, 2) := dk_54 6 (dk_at dksX4_cost_3 15 rfl rfl)
theorem dX4_cost_89 : decode cX4_cost 89 = .ok (.iload 6, 2) := dk_21 6 (dk_at dksX4_cost_3 17 rfl rfl)
theorem dX4_cost_91 : decode cX4_cost 91 = .ok (.aload_n 0, 1) := dk_42 (dk_at dksX4_cost_3 19 rfl rfl)
theorem dX4_cost_92 : decode cX4_cost 92 = .ok (.getfield 81, 3) := dk_180 0 81 (dk_at dksX4_cost_3 20 rfl rfl)
theorem dX4_cost_95 : decode cX4_cost 95 = .ok (.iload_n 1, 1) := dk_27 (dk_at dksX4_cost_3 23 rfl rfl)
theorem dX4_cost_96 : decode cX4_cost 96 = .ok (.iaload, 1) := dk_46 (dk_at dksX4_cost_4 0 rfl rfl)
theorem dX4_cost_97 : decode cX4_cost 97 = .ok (.if_icmp .ge 88, 3) := dk_162 0 88 (dk_at dksX4_cost_4 1 rfl rfl)
theorem dX4_cost_100 : decode cX4_cost 100 = .ok (.aload_n 0, 1) := dk_42 (dk_at dksX4_cost_4 4 rfl rfl)
theorem dX4_cost_101 : decode cX4_cost 101 = .ok (.getfield 75, 3) := dk_180 0 75 (dk_at dksX4_cost_4 5 rfl rfl)
theorem dX4_cost_104 : decode cX4_cost 104 = .ok (.iload_n 1, 1) := dk_27 (dk_at dksX4_cost_4 8 rfl rfl)
theorem dX4_cost_105 : decode cX4_cost 105 = .ok (.aaload, 1) := dk_50 (dk_at dksX4_cost_4 9 rfl rfl)
theorem dX4_cost_106 : decode cX4_cost 106 = .ok (.iload 6, 2) := dk_21 6 (dk_at dksX4_cost_4 10 rfl rfl)
theorem dX4_cost_108 : decode cX4_cost 108 = .ok (.caload, 1) := dk_52 (dk_at dksX4_cost_4 12 rfl rfl)
theorem dX4_cost_109 : decode cX4_cost 109 = .ok (.istore 7, 2) := dk_54 7 (dk_at dksX4_cost_4 13 rfl rfl)
theorem dX4_cost_111 : decode cX4_cost 111 = .ok (.aload_n 0, 1) := dk_42 (dk_at dksX4_cost_4 15 rfl rfl)
theorem dX4_cost_112 : decode cX4_cost 112 = .ok (.getfield 78, 3) := dk_180 0 78 (dk_at dksX4_cost_4 16 rfl rfl)
theorem dX4_cost_115 : decode cX4_cost 115 = .ok (.iload_n 1, 1) := dk_27 (dk_at dksX4_cost_4 19 rfl rfl)
theorem dX4_cost_116 : decode cX4_cost 116 = .ok (.aaload, 1) := dk_50 (dk_at dksX4_cost_4 20 rfl rfl)
theorem dX4_cost_117 : decode cX4_cost 117 = .ok (.iload 6, 2) := dk_21 6 (dk_at dksX4_cost_4 21 rfl rfl)
theorem dX4_cost_119 : decode cX4_cost 119 = .ok (.iaload, 1) := dk_46 (dk_at dksX4_cost_4 23 rfl rfl)
theorem dX4_cost_120 : decode cX4_cost 120 = .ok (.istore 8, 2) := dk_54 8 (dk_at dksX4_cost_5 0 rfl rfl)
theorem dX4_cost_122 : decode cX4_cost 122 = .ok (.iload 7, 2) := dk_21 7 (dk_at dksX4_cost_5 2 rfl rfl)
theorem dX4_cost_124 : decode cX4_cost 124 = .ok (.bipush 102, 2) := dk_16 102 (dk_at dksX4_cost_5 4 rfl rfl)
theorem dX4_cost_126 : decode cX4_cost 126 = .ok (.if_icmp .ne 11, 3) := dk_160 0 11 (dk_at dksX4_cost_5 6 rfl rfl)
theorem dX4_cost_129 : decode cX4_cost 129 = .ok (.iload 5, 2) := dk_21 5 (dk_at dksX4_cost_5 9 rfl rfl)
theorem dX4_cost_131 : decode cX4_cost 131 = .ok (.iload 8, 2) := dk_21 8 (dk_at dksX4_cost_5 11 rfl rfl)
theorem dX4_cost_133 : decode cX4_cost 133 = .ok (.iadd, 1) := dk_96 (dk_at dksX4_cost_5 13 rfl rfl)
theorem dX4_cost_134 : decode cX4_cost 134 = .ok (.goto 43, 3) := dk_167 0 43 (dk_at dksX4_cost_5 14 rfl rfl)
theorem dX4_cost_137 : decode cX4_cost 137 = .ok (.iload 7, 2) := dk_21 7 (dk_at dksX4_cost_5 17 rfl rfl)
theorem dX4_cost_139 : decode cX4_cost 139 = .ok (.bipush 99, 2) := dk_16 99 (dk_at dksX4_cost_5 19 rfl rfl)
theorem dX4_cost_141 : decode cX4_cost 141 = .ok (.if_icmp .ne 13, 3) := dk_160 0 13 (dk_at dksX4_cost_5 21 rfl rfl)
theorem dX4_cost_144 : decode cX4_cost 144 = .ok (.iload 5, 2) := dk_21 5 (dk_at dksX4_cost_6 0 rfl rfl)
theorem dX4_cost_146 : decode cX4_cost 146 = .ok (.iload 8, 2) := dk_21 8 (dk_at dksX4_cost_6 2 rfl rfl)
theorem dX4_cost_148 : decode cX4_cost 148 = .ok (.invokestatic 213, 3) := dk_184 0 213 (dk_at dksX4_cost_6 4 rfl rfl)
theorem dX4_cost_151 : decode cX4_cost 151 = .ok (.goto 26, 3) := dk_167 0 26 (dk_at dksX4_cost_6 7 rfl rfl)
theorem dX4_cost_154 : decode cX4_cost 154 = .ok (.iload 7, 2) := dk_21 7 (dk_at dksX4_cost_6 10 rfl rfl)
theorem dX4_cost_156 : decode cX4_cost 156 = .ok (.bipush 112, 2) := dk_16 112 (dk_at dksX4_cost_6 12 rfl rfl)
theorem dX4_cost_158 : decode cX4_cost 158 = .ok (.if_icmp .ne 17, 3) := dk_160 0 17 (dk_at dksX4_cost_6 14 rfl rfl)
theorem dX4_cost_161 : decode cX4_cost 161 = .ok (.iload 5, 2) := dk_21 5 (dk_at dksX4_cost_6 17 rfl rfl)
theorem dX4_cost_163 : decode cX4_cost 163 = .ok (.iload 5, 2) := dk_21 5 (dk_at dksX4_cost_6 19 rfl rfl)
theorem dX4_cost_165 : decode cX4_cost 165 = .ok (.iload 8, 2) := dk_21 8 (dk_at dksX4_cost_6 21 rfl rfl)
theorem dX4_cost_167 : decode cX4_cost 167 = .ok (.imul, 1) := dk_104 (dk_at dksX4_cost_6 23 rfl rfl)
theorem dX4_cost_168 : decode cX4_cost 168 = .ok (.bipush 100, 2) := dk_16 100 (dk_at dksX4_cost_7 0 rfl rfl)
theorem dX4_cost_170 : decode cX4_cost 170 = .ok (.idiv, 1) := dk_108 (dk_at dksX4_cost_7 2 rfl rfl)
theorem dX4_cost_171 : decode cX4_cost 171 = .ok (.isub, 1) := dk_100 (dk_at dksX4_cost_7 3 rfl rfl)
theorem dX4_cost_172 : decode cX4_cost 172 = .ok (.goto 5, 3) := dk_167 0 5 (dk_at dksX4_cost_7 4 rfl rfl)
theorem dX4_cost_175 : decode cX4_cost 175 = .ok (.iload 5, 2) := dk_21 5 (dk_at dksX4_cost_7 7 rfl rfl)
theorem dX4_cost_177 : decode cX4_cost 177 = .ok (.istore 5, 2) := dk_54 5 (dk_at dksX4_cost_7 9 rfl rfl)
theorem dX4_cost_179 : decode cX4_cost 179 = .ok (.iinc 6 1, 3) := dk_132 6 1 (dk_at dksX4_cost_7 11 rfl rfl)
theorem dX4_cost_182 : decode cX4_cost 182 = .ok (.goto (-93), 3) := dk_167 255 163 (dk_at dksX4_cost_7 14 rfl rfl)
theorem dX4_cost_185 : decode cX4_cost 185 = .ok (.iload 5, 2) := dk_21 5 (dk_at dksX4_cost_7 17 rfl rfl)
theorem dX4_cost_187 : decode cX4_cost 187 = .ok (.ireturn, 1) := dk_172 (dk_at dksX4_cost_7 19 rfl rfl)
abbrev cX4_stateOf : ByteArray := prog_14_method_32_code
def yX4_stateOf : MethodName := ⟨RX4, "stateOf", "(I)C"⟩
def dkwX4_stateOf_1 : List UInt8 := [3, 167, 0, 9, 42, 180, 0, 49, 27, 52, 172]
abbrev dktX4_stateOf_1 : List UInt8 := dkwX4_stateOf_1 ++ []
def dkwX4_stateOf_0 : List UInt8 := [42, 42, 27, 182, 0, 168, 153, 0, 7, 3, 167, 0, 4, 4, 181, 0, 87, 42, 180, 0, 87, 158, 0, 7]
abbrev dktX4_stateOf_0 : List UInt8 := dkwX4_stateOf_0 ++ dktX4_stateOf_1
theorem dksX4_stateOf_0 : cX4_stateOf.data.toList.drop 0 = dktX4_stateOf_0 := by decide +kernel
theorem dksX4_stateOf_1 : cX4_stateOf.data.toList.drop 24 = dktX4_stateOf_1 := dk_seg dksX4_stateOf_0 24 rfl rfl
theorem dX4_stateOf_0 : decode cX4_stateOf 0 = .ok (.aload_n 0, 1) := dk_42 (dk_at dksX4_stateOf_0 0 rfl rfl)
theorem dX4_stateOf_1 : decode cX4_stateOf 1 = .ok (.aload_n 0, 1) := dk_42 (dk_at dksX4_stateOf_0 1 rfl rfl)
theorem dX4_stateOf_2 : decode cX4_stateOf 2 = .ok (.iload_n 1, 1) := dk_27 (dk_at dksX4_stateOf_0 2 rfl rfl)
theorem dX4_stateOf_3 : decode cX4_stateOf 3 = .ok (.invokevirtual 168, 3) := dk_182 0 168 (dk_at dksX4_stateOf_0 3 rfl rfl)
theorem dX4_stateOf_6 : decode cX4_stateOf 6 = .ok (.ifCond .eq 7, 3) := dk_153 0 7 (dk_at dksX4_stateOf_0 6 rfl rfl)
theorem dX4_stateOf_9 : decode cX4_stateOf 9 = .ok (.iconst 0, 1) := dk_3 (dk_at dksX4_stateOf_0 9 rfl rfl)
theorem dX4_stateOf_10 : decode cX4_stateOf 10 = .ok (.goto 4, 3) := dk_167 0 4 (dk_at dksX4_stateOf_0 10 rfl rfl)
theorem dX4_stateOf_13 : decode cX4_stateOf 13 = .ok (.iconst 1, 1) := dk_4 (dk_at dksX4_stateOf_0 13 rfl rfl)
theorem dX4_stateOf_14 : decode cX4_stateOf 14 = .ok (.putfield 87, 3) := dk_181 0 87 (dk_at dksX4_stateOf_0 14 rfl rfl)
theorem dX4_stateOf_17 : decode cX4_stateOf 17 = .ok (.aload_n 0, 1) := dk_42 (dk_at dksX4_stateOf_0 17 rfl rfl)
theorem dX4_stateOf_18 : decode cX4_stateOf 18 = .ok (.getfield 87, 3) := dk_180 0 87 (dk_at dksX4_stateOf_0 18 rfl rfl)
theorem dX4_stateOf_21 : decode cX4_stateOf 21 = .ok (.ifCond .le 7, 3) := dk_158 0 7 (dk_at dksX4_stateOf_0 21 rfl rfl)
theorem dX4_stateOf_24 : decode cX4_stateOf 24 = .ok (.iconst 0, 1) := dk_3 (dk_at dksX4_stateOf_1 0 rfl rfl)
theorem dX4_stateOf_25 : decode cX4_stateOf 25 = .ok (.goto 9, 3) := dk_167 0 9 (dk_at dksX4_stateOf_1 1 rfl rfl)
theorem dX4_stateOf_28 : decode cX4_stateOf 28 = .ok (.aload_n 0, 1) := dk_42 (dk_at dksX4_stateOf_1 4 rfl rfl)
theorem dX4_stateOf_29 : decode cX4_stateOf 29 = .ok (.getfield 49, 3) := dk_180 0 49 (dk_at dksX4_stateOf_1 5 rfl rfl)
theorem dX4_stateOf_32 : decode cX4_stateOf 32 = .ok (.iload_n 1, 1) := dk_27 (dk_at dksX4_stateOf_1 8 rfl rfl)
theorem dX4_stateOf_33 : decode cX4_stateOf 33 = .ok (.caload, 1) := dk_52 (dk_at dksX4_stateOf_1 9 rfl rfl)
theorem dX4_stateOf_34 : decode cX4_stateOf 34 = .ok (.ireturn, 1) := dk_172 (dk_at dksX4_stateOf_1 10 rfl rfl)
abbrev cX4_entries : ByteArray := prog_14_method_33_code
def yX4_entries : MethodName := ⟨RX4, "entries", "()I"⟩
def dkwX4_entries_0 : List UInt8 := [42, 3, 181, 0, 87, 42, 180, 0, 101, 172]
abbrev dktX4_entries_0 : List UInt8 := dkwX4_entries_0 ++ []
theorem dksX4_entries_0 : cX4_entries.data.toList.drop 0 = dktX4_entries_0 := by decide +kernel
theorem dX4_entries_0 : decode cX4_entries 0 = .ok (.aload_n 0, 1) := dk_42 (dk_at dksX4_entries_0 0 rfl rfl)
theorem dX4_entries_1 : decode cX4_entries 1 = .ok (.iconst 0, 1) := dk_3 (dk_at dksX4_entries_0 1 rfl rfl)
theorem dX4_entries_2 : decode cX4_entries 2 = .ok (.putfield 87, 3) := dk_181 0 87 (dk_at dksX4_entries_0 2 rfl rfl)
theorem dX4_entries_5 : decode cX4_entries 5 = .ok (.aload_n 0, 1) := dk_42 (dk_at dksX4_entries_0 5 rfl rfl)
theorem dX4_entries_6 : decode cX4_entries 6 = .ok (.getfield 101, 3) := dk_180 0 101 (dk_at dksX4_entries_0 6 rfl rfl)
theorem dX4_entries_9 : decode cX4_entries 9 = .ok (.ireturn, 1) := dk_172 (dk_at dksX4_entries_0 9 rfl rfl)
abbrev cX4_endDay : ByteArray := prog_14_method_34_code
def yX4_endDay : MethodName := ⟨RX4, "endDay", "()I"⟩
def dkwX4_endDay_9 : List UInt8 := [182, 0, 125, 27, 172]
abbrev dktX4_endDay_9 : List UInt8 := dkwX4_endDay_9 ++ []
def dkwX4_endDay_8 : List UInt8 := [180, 0, 49, 28, 16, 120, 85, 132, 2, 1, 167, 255, 88, 42, 89, 180, 0, 112, 4, 96, 181, 0, 112, 42]
abbrev dktX4_endDay_8 : List UInt8 := dkwX4_endDay_8 ++ dktX4_endDay_9
def dkwX4_endDay_7 : List UInt8 := [180, 0, 36, 28, 46, 42, 180, 0, 112, 160, 0, 22, 42, 180, 0, 49, 28, 52, 16, 119, 160, 0, 11, 42]
abbrev dktX4_endDay_7 : List UInt8 := dkwX4_endDay_7 ++ dktX4_endDay_8
def dkwX4_endDay_6 : List UInt8 := [46, 104, 16, 99, 96, 16, 100, 108, 96, 79, 132, 3, 1, 167, 255, 201, 132, 1, 1, 167, 0, 35, 42]
abbrev dktX4_endDay_6 : List UInt8 := dkwX4_endDay_6 ++ dktX4_endDay_7
def dkwX4_endDay_5 : List UInt8 := [180, 0, 61, 28, 50, 29, 46, 42, 180, 0, 70, 42, 180, 0, 64, 42, 180, 0, 58, 28, 50, 29, 46, 46]
abbrev dktX4_endDay_5 : List UInt8 := dkwX4_endDay_5 ++ dktX4_endDay_6
def dkwX4_endDay_4 : List UInt8 := [182, 0, 171, 79, 3, 62, 29, 42, 180, 0, 55, 28, 46, 162, 0, 51, 42, 180, 0, 52, 28, 92, 46, 42]
abbrev dktX4_endDay_4 : List UInt8 := dkwX4_endDay_4 ++ dktX4_endDay_5
def dkwX4_endDay_3 : List UInt8 := [85, 42, 180, 0, 52, 28, 42, 42, 180, 0, 9, 42, 180, 0, 33, 28, 46, 46, 42, 180, 0, 42, 28, 46]
abbrev dktX4_endDay_3 : List UInt8 := dkwX4_endDay_3 ++ dktX4_endDay_4
def dkwX4_endDay_2 : List UInt8 := [180, 0, 112, 160, 0, 115, 42, 180, 0, 49, 28, 52, 16, 98, 160, 0, 104, 42, 180, 0, 49, 28, 16, 100]
abbrev dktX4_endDay_2 : List UInt8 := dkwX4_endDay_2 ++ dktX4_endDay_3
def dkwX4_endDay_1 : List UInt8 := [158, 0, 5, 3, 172, 3, 60, 3, 61, 28, 42, 180, 0, 101, 162, 0, 166, 42, 180, 0, 36, 28, 46, 42]
abbrev dktX4_endDay_1 : List UInt8 := dkwX4_endDay_1 ++ dktX4_endDay_2
def dkwX4_endDay_0 : List UInt8 := [42, 42, 180, 0, 112, 17, 3, 132, 160, 0, 7, 4, 167, 0, 4, 3, 181, 0, 87, 42, 180, 0, 87]
abbrev dktX4_endDay_0 : List UInt8 := dkwX4_endDay_0 ++ dktX4_endDay_1
theorem dksX4_endDay_0 : cX4_endDay.data.toList.drop 0 = dktX4_endDay_0 := by decide +kernel
theorem dksX4_endDay_1 : cX4_endDay.data.toList.drop 23 = dktX4_endDay_1 := dk_seg dksX4_endDay_0 23 rfl rfl
theorem dksX4_endDay_2 : cX4_endDay.data.toList.drop 47 = dktX4_endDay_2 := dk_seg dksX4_endDay_1 24 rfl rfl
theorem dksX4_endDay_3 : cX4_endDay.data.toList.drop 71 = dktX4_endDay_3 := dk_seg dksX4_endDay_2 24 rfl rfl
theorem dksX4_endDay_4 : cX4_endDay.data.toList.drop 95 = dktX4_endDay_4 := dk_seg dksX4_endDay_3 24 rfl rfl
theorem dksX4_endDay_5 : cX4_endDay.data.toList.drop 119 = dktX4_endDay_5 := dk_seg dksX4_endDay_4 24 rfl rfl
theorem dksX4_endDay_6 : cX4_endDay.data.toList.drop 143 = dktX4_endDay_6 := dk_seg dksX4_endDay_5 24 rfl rfl
theorem dksX4_endDay_7 : cX4_endDay.data.toList.drop 166 = dktX4_endDay_7 := dk_seg dksX4_endDay_6 23 rfl rfl
theorem dksX4_endDay_8 : cX4_endDay.data.toList.drop 190 = dktX4_endDay_8 := dk_seg dksX4_endDay_7 24 rfl rfl
theorem dksX4_endDay_9 : cX4_endDay.data.toList.drop 214 = dktX4_endDay_9 := dk_seg dksX4_endDay_8 24 rfl rfl
theorem dX4_endDay_0 : decode cX4_endDay 0 = .ok (.aload_n 0, 1) := dk_42 (dk_at dksX4_endDay_0 0 rfl rfl)
theorem dX4_endDay_1 : decode cX4_endDay 1 = .ok (.aload_n 0, 1) := dk_42 (dk_at dksX4_endDay_0 1 rfl rfl)
theorem dX4_endDay_2 : decode cX4_endDay 2 = .ok (.getfield 112, 3) := dk_180 0 112 (dk_at dksX4_endDay_0 2 rfl rfl)
theorem dX4_endDay_5 : decode cX4_endDay 5 = .ok (.sipush 900, 3) := dk_17 3 132 (dk_at dksX4_endDay_0 5 rfl rfl)
theorem dX4_endDay_8 : decode cX4_endDay 8 = .ok (.if_icmp .ne 7, 3) := dk_160 0 7 (dk_at dksX4_endDay_0 8 rfl rfl)
theorem dX4_endDay_11 : decode cX4_endDay 11 = .ok (.iconst 1, 1) := dk_4 (dk_at dksX4_endDay_0 11 rfl rfl)
theorem dX4_endDay_12 : decode cX4_endDay 12 = .ok (.goto 4, 3) := dk_167 0 4 (dk_at dksX4_endDay_0 12 rfl rfl)
theorem dX4_endDay_15 : decode cX4_endDay 15 = .ok (.iconst 0, 1) := dk_3 (dk_at dksX4_endDay_0 15 rfl rfl)
theorem dX4_endDay_16 : decode cX4_endDay 16 = .ok (.putfield 87, 3) := dk_181 0 87 (dk_at dksX4_endDay_0 16 rfl rfl)
theorem dX4_endDay_19 : decode cX4_endDay 19 = .ok (.aload_n 0, 1) := dk_42 (dk_at dksX4_endDay_0 19 rfl rfl)
theorem dX4_endDay_20 : decode cX4_endDay 20 = .ok (.getfield 87, 3) := dk_180 0 87 (dk_at dksX4_endDay_0 20 rfl rfl)
theorem dX4_endDay_23 : decode cX4_endDay 23 = .ok (.ifCond .le 5, 3) := dk_158 0 5 (dk_at dksX4_endDay_1 0 rfl rfl)
theorem dX4_endDay_26 : decode cX4_endDay 26 = .ok (.iconst 0, 1) := dk_3 (dk_at dksX4_endDay_1 3 rfl rfl)
theorem dX4_endDay_27 : decode cX4_endDay 27 = .ok (.ireturn, 1) := dk_172 (dk_at dksX4_endDay_1 4 rfl rfl)
theorem dX4_endDay_28 : decode cX4_endDay 28 = .ok (.iconst 0, 1) := dk_3 (dk_at dksX4_endDay_1 5 rfl rfl)
theorem dX4_endDay_29 : decode cX4_endDay 29 = .ok (.istore_n 1, 1) := dk_60 (dk_at dksX4_endDay_1 6 rfl rfl)
theorem dX4_endDay_30 : decode cX4_endDay 30 = .ok (.iconst 0, 1) := dk_3 (dk_at dksX4_endDay_1 7 rfl rfl)
theorem dX4_endDay_31 : decode cX4_endDay 31 = .ok (.istore_n 2, 1) := dk_61 (dk_at dksX4_endDay_1 8 rfl rfl)
theorem dX4_endDay_32 : decode cX4_endDay 32 = .ok (.iload_n 2, 1) := dk_28 (dk_at dksX4_endDay_1 9 rfl rfl)
theorem dX4_endDay_33 : decode cX4_endDay 33 = .ok (.aload_n 0, 1) := dk_42 (dk_at dksX4_endDay_1 10 rfl rfl)
theorem dX4_endDay_34 : decode cX4_endDay 34 = .ok (.getfield 101, 3) := dk_180 0 101 (dk_at dksX4_endDay_1 11 rfl rfl)
theorem dX4_endDay_37 : decode cX4_endDay 37 = .ok (.if_icmp .ge 166, 3) := dk_162 0 166 (dk_at dksX4_endDay_1 14 rfl rfl)
theorem dX4_endDay_40 : decode cX4_endDay 40 = .ok (.aload_n 0, 1) := dk_42 (dk_at dksX4_endDay_1 17 rfl rfl)
theorem dX4_endDay_41 : decode cX4_endDay 41 = .ok (.getfield 36, 3) := dk_180 0 36 (dk_at dksX4_endDay_1 18 rfl rfl)
theorem dX4_endDay_44 : decode cX4_endDay 44 = .ok (.iload_n 2, 1) := dk_28 (dk_at dksX4_endDay_1 21 rfl rfl)
theorem dX4_endDay_45 : decode cX4_endDay 45 = .ok (.iaload, 1) := dk_46 (dk_at dksX4_endDay_1 22 rfl rfl)
theorem dX4_endDay_46 : decode cX4_endDay 46 = .ok (.aload_n 0, 1) := dk_42 (dk_at dksX4_endDay_1 23 rfl rfl)
theorem dX4_endDay_47 : decode cX4_endDay 47 = .ok (.getfield 112, 3) := dk_180 0 112 (dk_at dksX4_endDay_2 0 rfl rfl)
theorem dX4_endDay_50 : decode cX4_endDay 50 = .ok (.if_icmp .ne 115, 3) := dk_160 0 115 (dk_at dksX4_endDay_2 3 rfl rfl)
theorem dX4_endDay_53 : decode cX4_endDay 53 = .ok (.aload_n 0, 1) := dk_42 (dk_at dksX4_endDay_2 6 rfl rfl)
theorem dX4_endDay_54 : decode cX4_endDay 54 = .ok (.getfield 49, 3) := dk_180 0 49 (dk_at dksX4_endDay_2 7 rfl rfl)
theorem dX4_endDay_57 : decode cX4_endDay 57 = .ok (.iload_n 2, 1) := dk_28 (dk_at dksX4_endDay_2 10 rfl rfl)
theorem dX4_endDay_58 : decode cX4_endDay 58 = .ok (.caload, 1) := dk_52 (dk_at dksX4_endDay_2 11 rfl rfl)
theorem dX4_endDay_59 : decode cX4_endDay 59 = .ok (.bipush 98, 2) := dk_16 98 (dk_at dksX4_endDay_2 12 rfl rfl)
theorem dX4_endDay_61 : decode cX4_endDay 61 = .ok (.if_icmp .ne 104, 3) := dk_160 0 104 (dk_at dksX4_endDay_2 14 rfl rfl)
theorem dX4_endDay_64 : decode cX4_endDay 64 = .ok (.aload_n 0, 1) := dk_42 (dk_at dksX4_endDay_2 17 rfl rfl)
theorem dX4_endDay_65 : decode cX4_endDay 65 = .ok (.getfield 49, 3) := dk_180 0 49 (dk_at dksX4_endDay_2 18 rfl rfl)
theorem dX4_endDay_68 : decode cX4_endDay 68 = .ok (.iload_n 2, 1) := dk_28 (dk_at dksX4_endDay_2 21 rfl rfl)
theorem dX4_endDay_69 : decode cX4_endDay 69 = .ok (.bipush 100, 2) := dk_16 100 (dk_at dksX4_endDay_2 22 rfl rfl)
theorem dX4_endDay_71 : decode cX4_endDay 71 = .ok (.castore, 1) := dk_85 (dk_at dksX4_endDay_3 0 rfl rfl)
theorem dX4_endDay_72 : decode cX4_endDay 72 = .ok (.aload_n 0, 1) := dk_42 (dk_at dksX4_endDay_3 1 rfl rfl)
theorem dX4_endDay_73 : decode cX4_endDay 73 = .ok (.getfield 52, 3) := dk_180 0 52 (dk_at dksX4_endDay_3 2 rfl rfl)
theorem dX4_endDay_76 : decode cX4_endDay 76 = .ok (.iload_n 2, 1) := dk_28 (dk_at dksX4_endDay_3 5 rfl rfl)
theorem dX4_endDay_77 : decode cX4_endDay 77 = .ok (.aload_n 0, 1) := dk_42 (dk_at dksX4_endDay_3 6 rfl rfl)
theorem dX4_endDay_78 : decode cX4_endDay 78 = .ok (.aload_n 0, 1) := dk_42 (dk_at dksX4_endDay_3 7 rfl rfl)
theorem dX4_endDay_79 : decode cX4_endDay 79 = .ok (.getfield 9, 3) := dk_180 0 9 (dk_at dksX4_endDay_3 8 rfl rfl)
theorem dX4_endDay_82 : decode cX4_endDay 82 = .ok (.aload_n 0, 1) := dk_42 (dk_at dksX4_endDay_3 11 rfl rfl)
theorem dX4_endDay_83 : decode cX4_endDay 83 = .ok (.getfield 33, 3) := dk_180 0 33 (dk_at dksX4_endDay_3 12 rfl rfl)
theorem dX4_endDay_86 : decode cX4_endDay 86 = .ok (.iload_n 2, 1) := dk_28 (dk_at dksX4_endDay_3 15 rfl rfl)
theorem dX4_endDay_87 : decode cX4_endDay 87 = .ok (.iaload, 1) := dk_46 (dk_at dksX4_endDay_3 16 rfl rfl)
theorem dX4_endDay_88 : decode cX4_endDay 88 = .ok (.iaload, 1) := dk_46 (dk_at dksX4_endDay_3 17 rfl rfl)
theorem dX4_endDay_89 : decode cX4_endDay 89 = .ok (.aload_n 0, 1) := dk_42 (dk_at dksX4_endDay_3 18 rfl rfl)
theorem dX4_endDay_90 : decode cX4_endDay 90 = .ok (.getfield 42, 3) := dk_180 0 42 (dk_at dksX4_endDay_3 19 rfl rfl)
theorem dX4_endDay_93 : decode cX4_endDay 93 = .ok (.iload_n 2, 1) := dk_28 (dk_at dksX4_endDay_3 22 rfl rfl)
theorem dX4_endDay_94 : decode cX4_endDay 94 = .ok (.iaload, 1) := dk_46 (dk_at dksX4_endDay_3 23 rfl rfl)
theorem dX4_endDay_95 : decode cX4_endDay 95 = .ok (.invokevirtual 171, 3) := dk_182 0 171 (dk_at dksX4_endDay_4 0 rfl rfl)
theorem dX4_endDay_98 : decode cX4_endDay 98 = .ok (.iastore, 1) := dk_79 (dk_at dksX4_endDay_4 3 rfl rfl)
theorem dX4_endDay_99 : decode cX4_endDay 99 = .ok (.iconst 0, 1) := dk_3 (dk_at dksX4_endDay_4 4 rfl rfl)
theorem dX4_endDay_100 : decode cX4_endDay 100 = .ok (.istore_n 3, 1) := dk_62 (dk_at dksX4_endDay_4 5 rfl rfl)
theorem dX4_endDay_101 : decode cX4_endDay 101 = .ok (.iload_n 3, 1) := dk_29 (dk_at dksX4_endDay_4 6 rfl rfl)
theorem dX4_endDay_102 : decode cX4_endDay 102 = .ok (.aload_n 0, 1) := dk_42 (dk_at dksX4_endDay_4 7 rfl rfl)
theorem dX4_endDay_103 : decode cX4_endDay 103 = .ok (.getfield 55, 3) := dk_180 0 55 (dk_at dksX4_endDay_4 8 rfl rfl)
theorem dX4_endDay_106 : decode cX4_endDay 106 = .ok (.iload_n 2, 1) := dk_28 (dk_at dksX4_endDay_4 11 rfl rfl)
theorem dX4_endDay_107 : decode cX4_endDay 107 = .ok (.iaload, 1) := dk_46 (dk_at dksX4_endDay_4 12 rfl rfl)
theorem dX4_endDay_108 : decode cX4_endDay 108 = .ok (.if_icmp .ge 51, 3) := dk_162 0 51 (dk_at dksX4_endDay_4 13 rfl rfl)
theorem dX4_endDay_111 : decode cX4_endDay 111 = .ok (.aload_n 0, 1) := dk_42 (dk_at dksX4_endDay_4 16 rfl rfl)
theorem dX4_endDay_112 : decode cX4_endDay 112 = .ok (.getfield 52, 3) := dk_180 0 52 (dk_at dksX4_endDay_4 17 rfl rfl)
theorem dX4_endDay_115 : decode cX4_endDay 115 = .ok (.iload_n 2, 1) := dk_28 (dk_at dksX4_endDay_4 20 rfl rfl)
theorem dX4_endDay_116 : decode cX4_endDay 116 = .ok (.dup2, 1) := dk_92 (dk_at dksX4_endDay_4 21 rfl rfl)
theorem dX4_endDay_117 : decode cX4_endDay 117 = .ok (.iaload, 1) := dk_46 (dk_at dksX4_endDay_4 22 rfl rfl)
theorem dX4_endDay_118 : decode cX4_endDay 118 = .ok (.aload_n 0, 1) := dk_42 (dk_at dksX4_endDay_4 23 rfl rfl)
theorem dX4_endDay_119 : decode cX4_endDay 119 = .ok (.getfield 61, 3) := dk_180 0 61 (dk_at dksX4_endDay_5 0 rfl rfl)
theorem dX4_endDay_122 : decode cX4_endDay 122 = .ok (.iload_n 2, 1) := dk_28 (dk_at dksX4_endDay_5 3 rfl rfl)
theorem dX4_endDay_123 : decode cX4_endDay 123 = .ok (.aaload, 1) := dk_50 (dk_at dksX4_endDay_5 4 rfl rfl)
theorem dX4_endDay_124 : decode cX4_endDay 124 = .ok (.iload_n 3, 1) := dk_29 (dk_at dksX4_endDay_5 5 rfl rfl)
theorem dX4_endDay_125 : decode cX4_endDay 125 = .ok (.iaload, 1) := dk_46 (dk_at dksX4_endDay_5 6 rfl rfl)
theorem dX4_endDay_126 : decode cX4_endDay 126 = .ok (.aload_n 0, 1) := dk_42 (dk_at dksX4_endDay_5 7 rfl rfl)
theorem dX4_endDay_127 : decode cX4_endDay 127 = .ok (.getfield 70, 3) := dk_180 0 70 (dk_at dksX4_endDay_5 8 rfl rfl)
theorem dX4_endDay_130 : decode cX4_endDay 130 = .ok (.aload_n 0, 1) := dk_42 (dk_at dksX4_endDay_5 11 rfl rfl)
theorem dX4_endDay_131 : decode cX4_endDay 131 = .ok (.getfield 64, 3) := dk_180 0 64 (dk_at dksX4_endDay_5 12 rfl rfl)
theorem dX4_endDay_134 : decode cX4_endDay 134 = .ok (.aload_n 0, 1) := dk_42 (dk_at dksX4_endDay_5 15 rfl rfl)
theorem dX4_endDay_135 : decode cX4_endDay 135 = .ok (.getfield 58, 3) := dk_180 0 58 (dk_at dksX4_endDay_5 16 rfl rfl)
theorem dX4_endDay_138 : decode cX4_endDay 138 = .ok (.iload_n 2, 1) := dk_28 (dk_at dksX4_endDay_5 19 rfl rfl)
theorem dX4_endDay_139 : decode cX4_endDay 139 = .ok (.aaload, 1) := dk_50 (dk_at dksX4_endDay_5 20 rfl rfl)
theorem dX4_endDay_140 : decode cX4_endDay 140 = .ok (.iload_n 3, 1) := dk_29 (dk_at dksX4_endDay_5 21 rfl rfl)
theorem dX4_endDay_141 : decode cX4_endDay 141 = .ok (.iaload, 1) := dk_46 (dk_at dksX4_endDay_5 22 rfl rfl)
theorem dX4_endDay_142 : decode cX4_endDay 142 = .ok (.iaload, 1) := dk_46 (dk_at dksX4_endDay_5 23 rfl rfl)
theorem dX4_endDay_143 : decode cX4_endDay 143 = .ok (.iaload, 1) := dk_46 (dk_at dksX4_endDay_6 0 rfl rfl)
theorem dX4_endDay_144 : decode cX4_endDay 144 = .ok (.imul, 1) := dk_104 (dk_at dksX4_endDay_6 1 rfl rfl)
theorem dX4_endDay_145 : decode cX4_endDay 145 = .ok (.bipush 99, 2) := dk_16 99 (dk_at dksX4_endDay_6 2 rfl rfl)
theorem dX4_endDay_147 : decode cX4_endDay 147 = .ok (.iadd, 1) := dk_96 (dk_at dksX4_endDay_6 4 rfl rfl)
theorem dX4_endDay_148 : decode cX4_endDay 148 = .ok (.bipush 100, 2) := dk_16 100 (dk_at dksX4_endDay_6 5 rfl rfl)
theorem dX4_endDay_150 : decode cX4_endDay 150 = .ok (.idiv, 1) := dk_108 (dk_at dksX4_endDay_6 7 rfl rfl)
theorem dX4_endDay_151 : decode cX4_endDay 151 = .ok (.iadd, 1) := dk_96 (dk_at dksX4_endDay_6 8 rfl rfl)
theorem dX4_endDay_152 : decode cX4_endDay 152 = .ok (.iastore, 1) := dk_79 (dk_at dksX4_endDay_6 9 rfl rfl)
theorem dX4_endDay_153 : decode cX4_endDay 153 = .ok (.iinc 3 1, 3) := dk_132 3 1 (dk_at dksX4_endDay_6 10 rfl rfl)
theorem dX4_endDay_156 : decode cX4_endDay 156 = .ok (.goto (-55), 3) := dk_167 255 201 (dk_at dksX4_endDay_6 13 rfl rfl)
theorem dX4_endDay_159 : decode cX4_endDay 159 = .ok (.iinc 1 1, 3) := dk_132 1 1 (dk_at dksX4_endDay_6 16 rfl rfl)
theorem dX4_endDay_162 : decode cX4_endDay 162 = .ok (.goto 35, 3) := dk_167 0 35 (dk_at dksX4_endDay_6 19 rfl rfl)
theorem dX4_endDay_165 : decode cX4_endDay 165 = .ok (.aload_n 0, 1) := dk_42 (dk_at dksX4_endDay_6 22 rfl rfl)
theorem dX4_endDay_166 : decode cX4_endDay 166 = .ok (.getfield 36, 3) := dk_180 0 36 (dk_at dksX4_endDay_7 0 rfl rfl)
theorem dX4_endDay_169 : decode cX4_endDay 169 = .ok (.iload_n 2, 1) := dk_28 (dk_at dksX4_endDay_7 3 rfl rfl)
theorem dX4_endDay_170 : decode cX4_endDay 170 = .ok (.iaload, 1) := dk_46 (dk_at dksX4_endDay_7 4 rfl rfl)
theorem dX4_endDay_171 : decode cX4_endDay 171 = .ok (.aload_n 0, 1) := dk_42 (dk_at dksX4_endDay_7 5 rfl rfl)
theorem dX4_endDay_172 : decode cX4_endDay 172 = .ok (.getfield 112, 3) := dk_180 0 112 (dk_at dksX4_endDay_7 6 rfl rfl)
theorem dX4_endDay_175 : decode cX4_endDay 175 = .ok (.if_icmp .ne 22, 3) := dk_160 0 22 (dk_at dksX4_endDay_7 9 rfl rfl)
theorem dX4_endDay_178 : decode cX4_endDay 178 = .ok (.aload_n 0, 1) := dk_42 (dk_at dksX4_endDay_7 12 rfl rfl)
theorem dX4_endDay_179 : decode cX4_endDay 179 = .ok (.getfield 49, 3) := dk_180 0 49 (dk_at dksX4_endDay_7 13 rfl rfl)
theorem dX4_endDay_182 : decode cX4_endDay 182 = .ok (.iload_n 2, 1) := dk_28 (dk_at dksX4_endDay_7 16 rfl rfl)
theorem dX4_endDay_183 : decode cX4_endDay 183 = .ok (.caload, 1) := dk_52 (dk_at dksX4_endDay_7 17 rfl rfl)
theorem dX4_endDay_184 : decode cX4_endDay 184 = .ok (.bipush 119, 2) := dk_16 119 (dk_at dksX4_endDay_7 18 rfl rfl)
theorem dX4_endDay_186 : decode cX4_endDay 186 = .ok (.if_icmp .ne 11, 3) := dk_160 0 11 (dk_at dksX4_endDay_7 20 rfl rfl)
theorem dX4_endDay_189 : decode cX4_endDay 189 = .ok (.aload_n 0, 1) := dk_42 (dk_at dksX4_endDay_7 23 rfl rfl)
theorem dX4_endDay_190 : decode cX4_endDay 190 = .ok (.getfield 49, 3) := dk_180 0 49 (dk_at dksX4_endDay_8 0 rfl rfl)
theorem dX4_endDay_193 : decode cX4_endDay 193 = .ok (.iload_n 2, 1) := dk_28 (dk_at dksX4_endDay_8 3 rfl rfl)
theorem dX4_endDay_194 : decode cX4_endDay 194 = .ok (.bipush 120, 2) := dk_16 120 (dk_at dksX4_endDay_8 4 rfl rfl)
theorem dX4_endDay_196 : decode cX4_endDay 196 = .ok (.castore, 1) := dk_85 (dk_at dksX4_endDay_8 6 rfl rfl)
theorem dX4_endDay_197 : decode cX4_endDay 197 = .ok (.iinc 2 1, 3) := dk_132 2 1 (dk_at dksX4_endDay_8 7 rfl rfl)
theorem dX4_endDay_200 : decode cX4_endDay 200 = .ok (.goto (-168), 3) := dk_167 255 88 (dk_at dksX4_endDay_8 10 rfl rfl)
theorem dX4_endDay_203 : decode cX4_endDay 203 = .ok (.aload_n 0, 1) := dk_42 (dk_at dksX4_endDay_8 13 rfl rfl)
theorem dX4_endDay_204 : decode cX4_endDay 204 = .ok (.dup, 1) := dk_89 (dk_at dksX4_endDay_8 14 rfl rfl)
theorem dX4_endDay_205 : decode cX4_endDay 205 = .ok (.getfield 112, 3) := dk_180 0 112 (dk_at dksX4_endDay_8 15 rfl rfl)
theorem dX4_endDay_208 : decode cX4_endDay 208 = .ok (.iconst 1, 1) := dk_4 (dk_at dksX4_endDay_8 18 rfl rfl)
theorem dX4_endDay_209 : decode cX4_endDay 209 = .ok (.iadd, 1) := dk_96 (dk_at dksX4_endDay_8 19 rfl rfl)
theorem dX4_endDay_210 : decode cX4_endDay 210 = .ok (.putfield 112, 3) := dk_181 0 112 (dk_at dksX4_endDay_8 20 rfl rfl)
theorem dX4_endDay_213 : decode cX4_endDay 213 = .ok (.aload_n 0, 1) := dk_42 (dk_at dksX4_endDay_8 23 rfl rfl)
theorem dX4_endDay_214 : decode cX4_endDay 214 = .ok (.invokevirtual 125, 3) := dk_182 0 125 (dk_at dksX4_endDay_9 0 rfl rfl)
theorem dX4_endDay_217 : decode cX4_endDay 217 = .ok (.iload_n 1, 1) := dk_27 (dk_at dksX4_endDay_9 3 rfl rfl)
theorem dX4_endDay_218 : decode cX4_endDay 218 = .ok (.ireturn, 1) := dk_172 (dk_at dksX4_endDay_9 4 rfl rfl)
abbrev cX4_minuteAt : ByteArray := prog_14_method_38_code
def yX4_minuteAt : MethodName := ⟨RX4, "minuteAt", "(III)C"⟩
def dkwX4_minuteAt_2 : List UInt8 := [182, 0, 181, 172]
abbrev dktX4_minuteAt_2 : List UInt8 := dkwX4_minuteAt_2 ++ []
def dkwX4_minuteAt_1 : List UInt8 := [3, 167, 0, 4, 5, 181, 0, 87, 42, 180, 0, 87, 158, 0, 7, 3, 167, 0, 10, 42, 27, 28, 29]
abbrev dktX4_minuteAt_1 : List UInt8 := dkwX4_minuteAt_1 ++ dktX4_minuteAt_2
def dkwX4_minuteAt_0 : List UInt8 := [42, 27, 28, 3, 182, 0, 178, 154, 0, 5, 3, 172, 42, 29, 3, 17, 1, 223, 184, 0, 91, 153, 0, 7]
abbrev dktX4_minuteAt_0 : List UInt8 := dkwX4_minuteAt_0 ++ dktX4_minuteAt_1
theorem dksX4_minuteAt_0 : cX4_minuteAt.data.toList.drop 0 = dktX4_minuteAt_0 := by decide +kernel
theorem dksX4_minuteAt_1 : cX4_minuteAt.data.toList.drop 24 = dktX4_minuteAt_1 := dk_seg dksX4_minuteAt_0 24 rfl rfl
theorem dksX4_minuteAt_2 : cX4_minuteAt.data.toList.drop 47 = dktX4_minuteAt_2 := dk_seg dksX4_minuteAt_1 23 rfl rfl
theorem dX4_minuteAt_0 : decode cX4_minuteAt 0 = .ok (.aload_n 0, 1) := dk_42 (dk_at dksX4_minuteAt_0 0 rfl rfl)
theorem dX4_minuteAt_1 : decode cX4_minuteAt 1 = .ok (.iload_n 1, 1) := dk_27 (dk_at dksX4_minuteAt_0 1 rfl rfl)
theorem dX4_minuteAt_2 : decode cX4_minuteAt 2 = .ok (.iload_n 2, 1) := dk_28 (dk_at dksX4_minuteAt_0 2 rfl rfl)
theorem dX4_minuteAt_3 : decode cX4_minuteAt 3 = .ok (.iconst 0, 1) := dk_3 (dk_at dksX4_minuteAt_0 3 rfl rfl)
theorem dX4_minuteAt_4 : decode cX4_minuteAt 4 = .ok (.invokevirtual 178, 3) := dk_182 0 178 (dk_at dksX4_minuteAt_0 4 rfl rfl)
theorem dX4_minuteAt_7 : decode cX4_minuteAt 7 = .ok (.ifCond .ne 5, 3) := dk_154 0 5 (dk_at dksX4_minuteAt_0 7 rfl rfl)
theorem dX4_minuteAt_10 : decode cX4_minuteAt 10 = .ok (.iconst 0, 1) := dk_3 (dk_at dksX4_minuteAt_0 10 rfl rfl)
theorem dX4_minuteAt_11 : decode cX4_minuteAt 11 = .ok (.ireturn, 1) := dk_172 (dk_at dksX4_minuteAt_0 11 rfl rfl)
theorem dX4_minuteAt_12 : decode cX4_minuteAt 12 = .ok (.aload_n 0, 1) := dk_42 (dk_at dksX4_minuteAt_0 12 rfl rfl)
theorem dX4_minuteAt_13 : decode cX4_minuteAt 13 = .ok (.iload_n 3, 1) := dk_29 (dk_at dksX4_minuteAt_0 13 rfl rfl)
theorem dX4_minuteAt_14 : decode cX4_minuteAt 14 = .ok (.iconst 0, 1) := dk_3 (dk_at dksX4_minuteAt_0 14 rfl rfl)
theorem dX4_minuteAt_15 : decode cX4_minuteAt 15 = .ok (.sipush 479, 3) := dk_17 1 223 (dk_at dksX4_minuteAt_0 15 rfl rfl)
theorem dX4_minuteAt_18 : decode cX4_minuteAt 18 = .ok (.invokestatic 91, 3) := dk_184 0 91 (dk_at dksX4_minuteAt_0 18 rfl rfl)
theorem dX4_minuteAt_21 : decode cX4_minuteAt 21 = .ok (.ifCond .eq 7, 3) := dk_153 0 7 (dk_at dksX4_minuteAt_0 21 rfl rfl)
theorem dX4_minuteAt_24 : decode cX4_minuteAt 24 = .ok (.iconst 0, 1) := dk_3 (dk_at dksX4_minuteAt_1 0 rfl rfl)
theorem dX4_minuteAt_25 : decode cX4_minuteAt 25 = .ok (.goto 4, 3) := dk_167 0 4 (dk_at dksX4_minuteAt_1 1 rfl rfl)
theorem dX4_minuteAt_28 : decode cX4_minuteAt 28 = .ok (.iconst 2, 1) := dk_5 (dk_at dksX4_minuteAt_1 4 rfl rfl)
theorem dX4_minuteAt_29 : decode cX4_minuteAt 29 = .ok (.putfield 87, 3) := dk_181 0 87 (dk_at dksX4_minuteAt_1 5 rfl rfl)
theorem dX4_minuteAt_32 : decode cX4_minuteAt 32 = .ok (.aload_n 0, 1) := dk_42 (dk_at dksX4_minuteAt_1 8 rfl rfl)
theorem dX4_minuteAt_33 : decode cX4_minuteAt 33 = .ok (.getfield 87, 3) := dk_180 0 87 (dk_at dksX4_minuteAt_1 9 rfl rfl)
theorem dX4_minuteAt_36 : decode cX4_minuteAt 36 = .ok (.ifCond .le 7, 3) := dk_158 0 7 (dk_at dksX4_minuteAt_1 12 rfl rfl)
theorem dX4_minuteAt_39 : decode cX4_minuteAt 39 = .ok (.iconst 0, 1) := dk_3 (dk_at dksX4_minuteAt_1 15 rfl rfl)
theorem dX4_minuteAt_40 : decode cX4_minuteAt 40 = .ok (.goto 10, 3) := dk_167 0 10 (dk_at dksX4_minuteAt_1 16 rfl rfl)
theorem dX4_minuteAt_43 : decode cX4_minuteAt 43 = .ok (.aload_n 0, 1) := dk_42 (dk_at dksX4_minuteAt_1 19 rfl rfl)
theorem dX4_minuteAt_44 : decode cX4_minuteAt 44 = .ok (.iload_n 1, 1) := dk_27 (dk_at dksX4_minuteAt_1 20 rfl rfl)
theorem dX4_minuteAt_45 : decode cX4_minuteAt 45 = .ok (.iload_n 2, 1) := dk_28 (dk_at dksX4_minuteAt_1 21 rfl rfl)
theorem dX4_minuteAt_46 : decode cX4_minuteAt 46 = .ok (.iload_n 3, 1) := dk_29 (dk_at dksX4_minuteAt_1 22 rfl rfl)
theorem dX4_minuteAt_47 : decode cX4_minuteAt 47 = .ok (.invokevirtual 181, 3) := dk_182 0 181 (dk_at dksX4_minuteAt_2 0 rfl rfl)
theorem dX4_minuteAt_50 : decode cX4_minuteAt 50 = .ok (.ireturn, 1) := dk_172 (dk_at dksX4_minuteAt_2 3 rfl rfl)
abbrev cX4_may : ByteArray := prog_14_method_37_code
def yX4_may : MethodName := ⟨RX4, "may", "(III)Z"⟩
def dkwX4_may_2 : List UInt8 := [167, 0, 4, 3, 172]
abbrev dktX4_may_2 : List UInt8 := dkwX4_may_2 ++ []
def dkwX4_may_1 : List UInt8 := [184, 0, 91, 154, 0, 7, 5, 167, 0, 4, 3, 181, 0, 87, 42, 180, 0, 87, 154, 0, 7, 4]
abbrev dktX4_may_1 : List UInt8 := dkwX4_may_1 ++ dktX4_may_2
def dkwX4_may_0 : List UInt8 := [42, 42, 27, 182, 0, 157, 154, 0, 7, 4, 167, 0, 23, 28, 29, 42, 180, 0, 112, 16, 6, 96]
abbrev dktX4_may_0 : List UInt8 := dkwX4_may_0 ++ dktX4_may_1
theorem dksX4_may_0 : cX4_may.data.toList.drop 0 = dktX4_may_0 := by decide +kernel
theorem dksX4_may_1 : cX4_may.data.toList.drop 22 = dktX4_may_1 := dk_seg dksX4_may_0 22 rfl rfl
theorem dksX4_may_2 : cX4_may.data.toList.drop 44 = dktX4_may_2 := dk_seg dksX4_may_1 22 rfl rfl
theorem dX4_may_0 : decode cX4_may 0 = .ok (.aload_n 0, 1) := dk_42 (dk_at dksX4_may_0 0 rfl rfl)
theorem dX4_may_1 : decode cX4_may 1 = .ok (.aload_n 0, 1) := dk_42 (dk_at dksX4_may_0 1 rfl rfl)
theorem dX4_may_2 : decode cX4_may 2 = .ok (.iload_n 1, 1) := dk_27 (dk_at dksX4_may_0 2 rfl rfl)
theorem dX4_may_3 : decode cX4_may 3 = .ok (.invokevirtual 157, 3) := dk_182 0 157 (dk_at dksX4_may_0 3 rfl rfl)
theorem dX4_may_6 : decode cX4_may 6 = .ok (.ifCond .ne 7, 3) := dk_154 0 7 (dk_at dksX4_may_0 6 rfl rfl)
theorem dX4_may_9 : decode cX4_may 9 = .ok (.iconst 1, 1) := dk_4 (dk_at dksX4_may_0 9 rfl rfl)
theorem dX4_may_10 : decode cX4_may 10 = .ok (.goto 23, 3) := dk_167 0 23 (dk_at dksX4_may_0 10 rfl rfl)
theorem dX4_may_13 : decode cX4_may 13 = .ok (.iload_n 2, 1) := dk_28 (dk_at dksX4_may_0 13 rfl rfl)
theorem dX4_may_14 : decode cX4_may 14 = .ok (.iload_n 3, 1) := dk_29 (dk_at dksX4_may_0 14 rfl rfl)
theorem dX4_may_15 : decode cX4_may 15 = .ok (.aload_n 0, 1) := dk_42 (dk_at dksX4_may_0 15 rfl rfl)
theorem dX4_may_16 : decode cX4_may 16 = .ok (.getfield 112, 3) := dk_180 0 112 (dk_at dksX4_may_0 16 rfl rfl)
theorem dX4_may_19 : decode cX4_may 19 = .ok (.bipush 6, 2) := dk_16 6 (dk_at dksX4_may_0 19 rfl rfl)
theorem dX4_may_21 : decode cX4_may 21 = .ok (.iadd, 1) := dk_96 (dk_at dksX4_may_0 21 rfl rfl)
theorem dX4_may_22 : decode cX4_may 22 = .ok (.invokestatic 91, 3) := dk_184 0 91 (dk_at dksX4_may_1 0 rfl rfl)
theorem dX4_may_25 : decode cX4_may 25 = .ok (.ifCond .ne 7, 3) := dk_154 0 7 (dk_at dksX4_may_1 3 rfl rfl)
theorem dX4_may_28 : decode cX4_may 28 = .ok (.iconst 2, 1) := dk_5 (dk_at dksX4_may_1 6 rfl rfl)
theorem dX4_may_29 : decode cX4_may 29 = .ok (.goto 4, 3) := dk_167 0 4 (dk_at dksX4_may_1 7 rfl rfl)
theorem dX4_may_32 : decode cX4_may 32 = .ok (.iconst 0, 1) := dk_3 (dk_at dksX4_may_1 10 rfl rfl)
theorem dX4_may_33 : decode cX4_may 33 = .ok (.putfield 87, 3) := dk_181 0 87 (dk_at dksX4_may_1 11 rfl rfl)
theorem dX4_may_36 : decode cX4_may 36 = .ok (.aload_n 0, 1) := dk_42 (dk_at dksX4_may_1 14 rfl rfl)
theorem dX4_may_37 : decode cX4_may 37 = .ok (.getfield 87, 3) := dk_180 0 87 (dk_at dksX4_may_1 15 rfl rfl)
theorem dX4_may_40 : decode cX4_may 40 = .ok (.ifCond .ne 7, 3) := dk_154 0 7 (dk_at dksX4_may_1 18 rfl rfl)
theorem dX4_may_43 : decode cX4_may 43 = .ok (.iconst 1, 1) := dk_4 (dk_at dksX4_may_1 21 rfl rfl)
theorem dX4_may_44 : decode cX4_may 44 = .ok (.goto 4, 3) := dk_167 0 4 (dk_at dksX4_may_2 0 rfl rfl)
theorem dX4_may_47 : decode cX4_may 47 = .ok (.iconst 0, 1) := dk_3 (dk_at dksX4_may_2 3 rfl rfl)
theorem dX4_may_48 : decode cX4_may 48 = .ok (.ireturn, 1) := dk_172 (dk_at dksX4_may_2 4 rfl rfl)
abbrev cX4_minute : ByteArray := prog_14_method_36_code
def yX4_minute : MethodName := ⟨RX4, "minute", "(III)C"⟩
def dkwX4_minute_8 : List UInt8 := [54, 6, 21, 6, 153, 0, 8, 16, 115, 167, 0, 5, 16, 102, 172]
abbrev dktX4_minute_8 : List UInt8 := dkwX4_minute_8 ++ []
def dkwX4_minute_7 : List UInt8 := [180, 0, 45, 21, 5, 52, 42, 180, 0, 45, 21, 4, 52, 182, 0, 138, 163, 0, 7, 4, 167, 0, 4, 3]
abbrev dktX4_minute_7 : List UInt8 := dkwX4_minute_7 ++ dktX4_minute_8
def dkwX4_minute_6 : List UInt8 := [21, 4, 2, 159, 0, 44, 21, 5, 2, 159, 0, 38, 42, 180, 0, 39, 21, 4, 46, 29, 100, 42, 27, 42]
abbrev dktX4_minute_6 : List UInt8 := dkwX4_minute_6 ++ dktX4_minute_7
def dkwX4_minute_5 : List UInt8 := [180, 0, 39, 21, 5, 46, 164, 0, 8, 21, 6, 167, 0, 5, 21, 5, 54, 5, 132, 6, 1, 167, 255, 130]
abbrev dktX4_minute_5 : List UInt8 := dkwX4_minute_5 ++ dktX4_minute_6
def dkwX4_minute_4 : List UInt8 := [167, 0, 5, 21, 4, 54, 4, 167, 0, 35, 21, 5, 2, 159, 0, 20, 42, 180, 0, 39, 21, 6, 46, 42]
abbrev dktX4_minute_4 : List UInt8 := dkwX4_minute_4 ++ dktX4_minute_5
def dkwX4_minute_3 : List UInt8 := [159, 0, 20, 42, 180, 0, 39, 21, 6, 46, 42, 180, 0, 39, 21, 4, 46, 162, 0, 8, 21, 6]
abbrev dktX4_minute_3 : List UInt8 := dkwX4_minute_3 ++ dktX4_minute_4
def dkwX4_minute_2 : List UInt8 := [184, 0, 91, 153, 0, 6, 16, 98, 172, 42, 180, 0, 39, 21, 6, 46, 29, 164, 0, 38, 21, 4, 2]
abbrev dktX4_minute_2 : List UInt8 := dkwX4_minute_2 ++ dktX4_minute_3
def dkwX4_minute_1 : List UInt8 := [182, 0, 175, 153, 0, 106, 29, 42, 180, 0, 39, 21, 6, 46, 42, 21, 6, 182, 0, 131, 4, 100]
abbrev dktX4_minute_1 : List UInt8 := dkwX4_minute_1 ++ dktX4_minute_2
def dkwX4_minute_0 : List UInt8 := [2, 54, 4, 2, 54, 5, 3, 54, 6, 21, 6, 42, 180, 0, 101, 162, 0, 123, 42, 21, 6, 27, 28]
abbrev dktX4_minute_0 : List UInt8 := dkwX4_minute_0 ++ dktX4_minute_1
theorem dksX4_minute_0 : cX4_minute.data.toList.drop 0 = dktX4_minute_0 := by decide +kernel
theorem dksX4_minute_1 : cX4_minute.data.toList.drop 23 = dktX4_minute_1 := dk_seg dksX4_minute_0 23 rfl rfl
theorem dksX4_minute_2 : cX4_minute.data.toList.drop 45 = dktX4_minute_2 := dk_seg dksX4_minute_1 22 rfl rfl
theorem dksX4_minute_3 : cX4_minute.data.toList.drop 68 = dktX4_minute_3 := dk_seg dksX4_minute_2 23 rfl rfl
theorem dksX4_minute_4 : cX4_minute.data.toList.drop 90 = dktX4_minute_4 := dk_seg dksX4_minute_3 22 rfl rfl
theorem dksX4_minute_5 : cX4_minute.data.toList.drop 114 = dktX4_minute_5 := dk_seg dksX4_minute_4 24 rfl rfl
theorem dksX4_minute_6 : cX4_minute.data.toList.drop 138 = dktX4_minute_6 := dk_seg dksX4_minute_5 24 rfl rfl
theorem dksX4_minute_7 : cX4_minute.data.toList.drop 162 = dktX4_minute_7 := dk_seg dksX4_minute_6 24 rfl rfl
theorem dksX4_minute_8 : cX4_minute.data.toList.drop 186 = dktX4_minute_8 := dk_seg dksX4_minute_7 24 rfl rfl
theorem dX4_minute_0 : decode cX4_minute 0 = .ok (.iconst (-1), 1) := dk_2 (dk_at dksX4_minute_0 0 rfl rfl)
theorem dX4_minute_1 : decode cX4_minute 1 = .ok (.istore 4, 2) := dk_54 4 (dk_at dksX4_minute_0 1 rfl rfl)
theorem dX4_minute_3 : decode cX4_minute 3 = .ok (.iconst (-1), 1) := dk_2 (dk_at dksX4_minute_0 3 rfl rfl)
theorem dX4_minute_4 : decode cX4_minute 4 = .ok (.istore 5, 2) := dk_54 5 (dk_at dksX4_minute_0 4 rfl rfl)
theorem dX4_minute_6 : decode cX4_minute 6 = .ok (.iconst 0, 1) := dk_3 (dk_at dksX4_minute_0 6 rfl rfl)
theorem dX4_minute_7 : decode cX4_minute 7 = .ok (.istore 6, 2) := dk_54 6 (dk_at dksX4_minute_0 7 rfl rfl)
theorem dX4_minute_9 : decode cX4_minute 9 = .ok (.iload 6, 2) := dk_21 6 (dk_at dksX4_minute_0 9 rfl rfl)
theorem dX4_minute_11 : decode cX4_minute 11 = .ok (.aload_n 0, 1) := dk_42 (dk_at dksX4_minute_0 11 rfl rfl)
theorem dX4_minute_12 : decode cX4_minute 12 = .ok (.getfield 101, 3) := dk_180 0 101 (dk_at dksX4_minute_0 12 rfl rfl)
theorem dX4_minute_15 : decode cX4_minute 15 = .ok (.if_icmp .ge 123, 3) := dk_162 0 123 (dk_at dksX4_minute_0 15 rfl rfl)
theorem dX4_minute_18 : decode cX4_minute 18 = .ok (.aload_n 0, 1) := dk_42 (dk_at dksX4_minute_0 18 rfl rfl)
theorem dX4_minute_19 : decode cX4_minute 19 = .ok (.iload 6, 2) := dk_21 6 (dk_at dksX4_minute_0 19 rfl rfl)
theorem dX4_minute_21 : decode cX4_minute 21 = .ok (.iload_n 1, 1) := dk_27 (dk_at dksX4_minute_0 21 rfl rfl)
theorem dX4_minute_22 : decode cX4_minute 22 = .ok (.iload_n 2, 1) := dk_28 (dk_at dksX4_minute_0 22 rfl rfl)
theorem dX4_minute_23 : decode cX4_minute 23 = .ok (.invokevirtual 175, 3) := dk_182 0 175 (dk_at dksX4_minute_1 0 rfl rfl)
theorem dX4_minute_26 : decode cX4_minute 26 = .ok (.ifCond .eq 106, 3) := dk_153 0 106 (dk_at dksX4_minute_1 3 rfl rfl)
theorem dX4_minute_29 : decode cX4_minute 29 = .ok (.iload_n 3, 1) := dk_29 (dk_at dksX4_minute_1 6 rfl rfl)
theorem dX4_minute_30 : decode cX4_minute 30 = .ok (.aload_n 0, 1) := dk_42 (dk_at dksX4_minute_1 7 rfl rfl)
theorem dX4_minute_31 : decode cX4_minute 31 = .ok (.getfield 39, 3) := dk_180 0 39 (dk_at dksX4_minute_1 8 rfl rfl)
theorem dX4_minute_34 : decode cX4_minute 34 = .ok (.iload 6, 2) := dk_21 6 (dk_at dksX4_minute_1 11 rfl rfl)
theorem dX4_minute_36 : decode cX4_minute 36 = .ok (.iaload, 1) := dk_46 (dk_at dksX4_minute_1 13 rfl rfl)
theorem dX4_minute_37 : decode cX4_minute 37 = .ok (.aload_n 0, 1) := dk_42 (dk_at dksX4_minute_1 14 rfl rfl)
theorem dX4_minute_38 : decode cX4_minute 38 = .ok (.iload 6, 2) := dk_21 6 (dk_at dksX4_minute_1 15 rfl rfl)
theorem dX4_minute_40 : decode cX4_minute 40 = .ok (.invokevirtual 131, 3) := dk_182 0 131 (dk_at dksX4_minute_1 17 rfl rfl)
theorem dX4_minute_43 : decode cX4_minute 43 = .ok (.iconst 1, 1) := dk_4 (dk_at dksX4_minute_1 20 rfl rfl)
theorem dX4_minute_44 : decode cX4_minute 44 = .ok (.isub, 1) := dk_100 (dk_at dksX4_minute_1 21 rfl rfl)
theorem dX4_minute_45 : decode cX4_minute 45 = .ok (.invokestatic 91, 3) := dk_184 0 91 (dk_at dksX4_minute_2 0 rfl rfl)
theorem dX4_minute_48 : decode cX4_minute 48 = .ok (.ifCond .eq 6, 3) := dk_153 0 6 (dk_at dksX4_minute_2 3 rfl rfl)
theorem dX4_minute_51 : decode cX4_minute 51 = .ok (.bipush 98, 2) := dk_16 98 (dk_at dksX4_minute_2 6 rfl rfl)
theorem dX4_minute_53 : decode cX4_minute 53 = .ok (.ireturn, 1) := dk_172 (dk_at dksX4_minute_2 8 rfl rfl)
theorem dX4_minute_54 : decode cX4_minute 54 = .ok (.aload_n 0, 1) := dk_42 (dk_at dksX4_minute_2 9 rfl rfl)
theorem dX4_minute_55 : decode cX4_minute 55 = .ok (.getfield 39, 3) := dk_180 0 39 (dk_at dksX4_minute_2 10 rfl rfl)
theorem dX4_minute_58 : decode cX4_minute 58 = .ok (.iload 6, 2) := dk_21 6 (dk_at dksX4_minute_2 13 rfl rfl)
theorem dX4_minute_60 : decode cX4_minute 60 = .ok (.iaload, 1) := dk_46 (dk_at dksX4_minute_2 15 rfl rfl)
theorem dX4_minute_61 : decode cX4_minute 61 = .ok (.iload_n 3, 1) := dk_29 (dk_at dksX4_minute_2 16 rfl rfl)
theorem dX4_minute_62 : decode cX4_minute 62 = .ok (.if_icmp .le 38, 3) := dk_164 0 38 (dk_at dksX4_minute_2 17 rfl rfl)
theorem dX4_minute_65 : decode cX4_minute 65 = .ok (.iload 4, 2) := dk_21 4 (dk_at dksX4_minute_2 20 rfl rfl)
theorem dX4_minute_67 : decode cX4_minute 67 = .ok (.iconst (-1), 1) := dk_2 (dk_at dksX4_minute_2 22 rfl rfl)
theorem dX4_minute_68 : decode cX4_minute 68 = .ok (.if_icmp .eq 20, 3) := dk_159 0 20 (dk_at dksX4_minute_3 0 rfl rfl)
theorem dX4_minute_71 : decode cX4_minute 71 = .ok (.aload_n 0, 1) := dk_42 (dk_at dksX4_minute_3 3 rfl rfl)
theorem dX4_minute_72 : decode cX4_minute 72 = .ok (.getfield 39, 3) := dk_180 0 39 (dk_at dksX4_minute_3 4 rfl rfl)
theorem dX4_minute_75 : decode cX4_minute 75 = .ok (.iload 6, 2) := dk_21 6 (dk_at dksX4_minute_3 7 rfl rfl)
theorem dX4_minute_77 : decode cX4_minute 77 = .ok (.iaload, 1) := dk_46 (dk_at dksX4_minute_3 9 rfl rfl)
theorem dX4_minute_78 : decode cX4_minute 78 = .ok (.aload_n 0, 1) := dk_42 (dk_at dksX4_minute_3 10 rfl rfl)
theorem dX4_minute_79 : decode cX4_minute 79 = .ok (.getfield 39, 3) := dk_180 0 39 (dk_at dksX4_minute_3 11 rfl rfl)
theorem dX4_minute_82 : decode cX4_minute 82 = .ok (.iload 4, 2) := dk_21 4 (dk_at dksX4_minute_3 14 rfl rfl)
theorem dX4_minute_84 : decode cX4_minute 84 = .ok (.iaload, 1) := dk_46 (dk_at dksX4_minute_3 16 rfl rfl)
theorem dX4_minute_85 : decode cX4_minute 85 = .ok (.if_icmp .ge 8, 3) := dk_162 0 8 (dk_at dksX4_minute_3 17 rfl rfl)
theorem dX4_minute_88 : decode cX4_minute 88 = .ok (.iload 6, 2) := dk_21 6 (dk_at dksX4_minute_3 20 rfl rfl)
theorem dX4_minute_90 : decode cX4_minute 90 = .ok (.goto 5, 3) := dk_167 0 5 (dk_at dksX4_minute_4 0 rfl rfl)
theorem dX4_minute_93 : decode cX4_minute 93 = .ok (.iload 4, 2) := dk_21 4 (dk_at dksX4_minute_4 3 rfl rfl)
theorem dX4_minute_95 : decode cX4_minute 95 = .ok (.istore 4, 2) := dk_54 4 (dk_at dksX4_minute_4 5 rfl rfl)
theorem dX4_minute_97 : decode cX4_minute 97 = .ok (.goto 35, 3) := dk_167 0 35 (dk_at dksX4_minute_4 7 rfl rfl)
theorem dX4_minute_100 : decode cX4_minute 100 = .ok (.iload 5, 2) := dk_21 5 (dk_at dksX4_minute_4 10 rfl rfl)
theorem dX4_minute_102 : decode cX4_minute 102 = .ok (.iconst (-1), 1) := dk_2 (dk_at dksX4_minute_4 12 rfl rfl)
theorem dX4_minute_103 : decode cX4_minute 103 = .ok (.if_icmp .eq 20, 3) := dk_159 0 20 (dk_at dksX4_minute_4 13 rfl rfl)
theorem dX4_minute_106 : decode cX4_minute 106 = .ok (.aload_n 0, 1) := dk_42 (dk_at dksX4_minute_4 16 rfl rfl)
theorem dX4_minute_107 : decode cX4_minute 107 = .ok (.getfield 39, 3) := dk_180 0 39 (dk_at dksX4_minute_4 17 rfl rfl)
theorem dX4_minute_110 : decode cX4_minute 110 = .ok (.iload 6, 2) := dk_21 6 (dk_at dksX4_minute_4 20 rfl rfl)
theorem dX4_minute_112 : decode cX4_minute 112 = .ok (.iaload, 1) := dk_46 (dk_at dksX4_minute_4 22 rfl rfl)
theorem dX4_minute_113 : decode cX4_minute 113 = .ok (.aload_n 0, 1) := dk_42 (dk_at dksX4_minute_4 23 rfl rfl)
theorem dX4_minute_114 : decode cX4_minute 114 = .ok (.getfield 39, 3) := dk_180 0 39 (dk_at dksX4_minute_5 0 rfl rfl)
theorem dX4_minute_117 : decode cX4_minute 117 = .ok (.iload 5, 2) := dk_21 5 (dk_at dksX4_minute_5 3 rfl rfl)
theorem dX4_minute_119 : decode cX4_minute 119 = .ok (.iaload, 1) := dk_46 (dk_at dksX4_minute_5 5 rfl rfl)
theorem dX4_minute_120 : decode cX4_minute 120 = .ok (.if_icmp .le 8, 3) := dk_164 0 8 (dk_at dksX4_minute_5 6 rfl rfl)
theorem dX4_minute_123 : decode cX4_minute 123 = .ok (.iload 6, 2) := dk_21 6 (dk_at dksX4_minute_5 9 rfl rfl)
theorem dX4_minute_125 : decode cX4_minute 125 = .ok (.goto 5, 3) := dk_167 0 5 (dk_at dksX4_minute_5 11 rfl rfl)
theorem dX4_minute_128 : decode cX4_minute 128 = .ok (.iload 5, 2) := dk_21 5 (dk_at dksX4_minute_5 14 rfl rfl)
theorem dX4_minute_130 : decode cX4_minute 130 = .ok (.istore 5, 2) := dk_54 5 (dk_at dksX4_minute_5 16 rfl rfl)
theorem dX4_minute_132 : decode cX4_minute 132 = .ok (.iinc 6 1, 3) := dk_132 6 1 (dk_at dksX4_minute_5 18 rfl rfl)
theorem dX4_minute_135 : decode cX4_minute 135 = .ok (.goto (-126), 3) := dk_167 255 130 (dk_at dksX4_minute_5 21 rfl rfl)
theorem dX4_minute_138 : decode cX4_minute 138 = .ok (.iload 4, 2) := dk_21 4 (dk_at dksX4_minute_6 0 rfl rfl)
theorem dX4_minute_140 : decode cX4_minute 140 = .ok (.iconst (-1), 1) := dk_2 (dk_at dksX4_minute_6 2 rfl rfl)
theorem dX4_minute_141 : decode cX4_minute 141 = .ok (.if_icmp .eq 44, 3) := dk_159 0 44 (dk_at dksX4_minute_6 3 rfl rfl)
theorem dX4_minute_144 : decode cX4_minute 144 = .ok (.iload 5, 2) := dk_21 5 (dk_at dksX4_minute_6 6 rfl rfl)
theorem dX4_minute_146 : decode cX4_minute 146 = .ok (.iconst (-1), 1) := dk_2 (dk_at dksX4_minute_6 8 rfl rfl)
theorem dX4_minute_147 : decode cX4_minute 147 = .ok (.if_icmp .eq 38, 3) := dk_159 0 38 (dk_at dksX4_minute_6 9 rfl rfl)
theorem dX4_minute_150 : decode cX4_minute 150 = .ok (.aload_n 0, 1) := dk_42 (dk_at dksX4_minute_6 12 rfl rfl)
theorem dX4_minute_151 : decode cX4_minute 151 = .ok (.getfield 39, 3) := dk_180 0 39 (dk_at dksX4_minute_6 13 rfl rfl)
theorem dX4_minute_154 : decode cX4_minute 154 = .ok (.iload 4, 2) := dk_21 4 (dk_at dksX4_minute_6 16 rfl rfl)
theorem dX4_minute_156 : decode cX4_minute 156 = .ok (.iaload, 1) := dk_46 (dk_at dksX4_minute_6 18 rfl rfl)
theorem dX4_minute_157 : decode cX4_minute 157 = .ok (.iload_n 3, 1) := dk_29 (dk_at dksX4_minute_6 19 rfl rfl)
theorem dX4_minute_158 : decode cX4_minute 158 = .ok (.isub, 1) := dk_100 (dk_at dksX4_minute_6 20 rfl rfl)
theorem dX4_minute_159 : decode cX4_minute 159 = .ok (.aload_n 0, 1) := dk_42 (dk_at dksX4_minute_6 21 rfl rfl)
theorem dX4_minute_160 : decode cX4_minute 160 = .ok (.iload_n 1, 1) := dk_27 (dk_at dksX4_minute_6 22 rfl rfl)
theorem dX4_minute_161 : decode cX4_minute 161 = .ok (.aload_n 0, 1) := dk_42 (dk_at dksX4_minute_6 23 rfl rfl)
theorem dX4_minute_162 : decode cX4_minute 162 = .ok (.getfield 45, 3) := dk_180 0 45 (dk_at dksX4_minute_7 0 rfl rfl)
theorem dX4_minute_165 : decode cX4_minute 165 = .ok (.iload 5, 2) := dk_21 5 (dk_at dksX4_minute_7 3 rfl rfl)
theorem dX4_minute_167 : decode cX4_minute 167 = .ok (.caload, 1) := dk_52 (dk_at dksX4_minute_7 5 rfl rfl)
theorem dX4_minute_168 : decode cX4_minute 168 = .ok (.aload_n 0, 1) := dk_42 (dk_at dksX4_minute_7 6 rfl rfl)
theorem dX4_minute_169 : decode cX4_minute 169 = .ok (.getfield 45, 3) := dk_180 0 45 (dk_at dksX4_minute_7 7 rfl rfl)
theorem dX4_minute_172 : decode cX4_minute 172 = .ok (.iload 4, 2) := dk_21 4 (dk_at dksX4_minute_7 10 rfl rfl)
theorem dX4_minute_174 : decode cX4_minute 174 = .ok (.caload, 1) := dk_52 (dk_at dksX4_minute_7 12 rfl rfl)
theorem dX4_minute_175 : decode cX4_minute 175 = .ok (.invokevirtual 138, 3) := dk_182 0 138 (dk_at dksX4_minute_7 13 rfl rfl)
theorem dX4_minute_178 : decode cX4_minute 178 = .ok (.if_icmp .gt 7, 3) := dk_163 0 7 (dk_at dksX4_minute_7 16 rfl rfl)
theorem dX4_minute_181 : decode cX4_minute 181 = .ok (.iconst 1, 1) := dk_4 (dk_at dksX4_minute_7 19 rfl rfl)
theorem dX4_minute_182 : decode cX4_minute 182 = .ok (.goto 4, 3) := dk_167 0 4 (dk_at dksX4_minute_7 20 rfl rfl)
theorem dX4_minute_185 : decode cX4_minute 185 = .ok (.iconst 0, 1) := dk_3 (dk_at dksX4_minute_7 23 rfl rfl)
theorem dX4_minute_186 : decode cX4_minute 186 = .ok (.istore 6, 2) := dk_54 6 (dk_at dksX4_minute_8 0 rfl rfl)
theorem dX4_minute_188 : decode cX4_minute 188 = .ok (.iload 6, 2) := dk_21 6 (dk_at dksX4_minute_8 2 rfl rfl)
theorem dX4_minute_190 : decode cX4_minute 190 = .ok (.ifCond .eq 8, 3) := dk_153 0 8 (dk_at dksX4_minute_8 4 rfl rfl)
theorem dX4_minute_193 : decode cX4_minute 193 = .ok (.bipush 115, 2) := dk_16 115 (dk_at dksX4_minute_8 7 rfl rfl)
theorem dX4_minute_195 : decode cX4_minute 195 = .ok (.goto 5, 3) := dk_167 0 5 (dk_at dksX4_minute_8 9 rfl rfl)
theorem dX4_minute_198 : decode cX4_minute 198 = .ok (.bipush 102, 2) := dk_16 102 (dk_at dksX4_minute_8 12 rfl rfl)
theorem dX4_minute_200 : decode cX4_minute 200 = .ok (.ireturn, 1) := dk_172 (dk_at dksX4_minute_8 14 rfl rfl)
abbrev cX4_stands : ByteArray := prog_14_method_35_code
def yX4_stands : MethodName := ⟨RX4, "stands", "(III)Z"⟩
def dkwX4_stands_2 : List UInt8 := [172]
abbrev dktX4_stands_2 : List UInt8 := dkwX4_stands_2 ++ []
def dkwX4_stands_1 : List UInt8 := [180, 0, 33, 27, 46, 28, 160, 0, 17, 42, 180, 0, 36, 27, 46, 29, 160, 0, 7, 4, 167, 0, 4, 3]
abbrev dktX4_stands_1 : List UInt8 := dkwX4_stands_1 ++ dktX4_stands_2
def dkwX4_stands_0 : List UInt8 := [42, 180, 0, 49, 27, 52, 16, 98, 159, 0, 14, 42, 180, 0, 49, 27, 52, 16, 100, 160, 0, 27, 42]
abbrev dktX4_stands_0 : List UInt8 := dkwX4_stands_0 ++ dktX4_stands_1
theorem dksX4_stands_0 : cX4_stands.data.toList.drop 0 = dktX4_stands_0 := by decide +kernel
theorem dksX4_stands_1 : cX4_stands.data.toList.drop 23 = dktX4_stands_1 := dk_seg dksX4_stands_0 23 rfl rfl
theorem dksX4_stands_2 : cX4_stands.data.toList.drop 47 = dktX4_stands_2 := dk_seg dksX4_stands_1 24 rfl rfl
theorem dX4_stands_0 : decode cX4_stands 0 = .ok (.aload_n 0, 1) := dk_42 (dk_at dksX4_stands_0 0 rfl rfl)
theorem dX4_stands_1 : decode cX4_stands 1 = .ok (.getfield 49, 3) := dk_180 0 49 (dk_at dksX4_stands_0 1 rfl rfl)
theorem dX4_stands_4 : decode cX4_stands 4 = .ok (.iload_n 1, 1) := dk_27 (dk_at dksX4_stands_0 4 rfl rfl)
theorem dX4_stands_5 : decode cX4_stands 5 = .ok (.caload, 1) := dk_52 (dk_at dksX4_stands_0 5 rfl rfl)
theorem dX4_stands_6 : decode cX4_stands 6 = .ok (.bipush 98, 2) := dk_16 98 (dk_at dksX4_stands_0 6 rfl rfl)
theorem dX4_stands_8 : decode cX4_stands 8 = .ok (.if_icmp .eq 14, 3) := dk_159 0 14 (dk_at dksX4_stands_0 8 rfl rfl)
theorem dX4_stands_11 : decode cX4_stands 11 = .ok (.aload_n 0, 1) := dk_42 (dk_at dksX4_stands_0 11 rfl rfl)
theorem dX4_stands_12 : decode cX4_stands 12 = .ok (.getfield 49, 3) := dk_180 0 49 (dk_at dksX4_stands_0 12 rfl rfl)
theorem dX4_stands_15 : decode cX4_stands 15 = .ok (.iload_n 1, 1) := dk_27 (dk_at dksX4_stands_0 15 rfl rfl)
theorem dX4_stands_16 : decode cX4_stands 16 = .ok (.caload, 1) := dk_52 (dk_at dksX4_stands_0 16 rfl rfl)
theorem dX4_stands_17 : decode cX4_stands 17 = .ok (.bipush 100, 2) := dk_16 100 (dk_at dksX4_stands_0 17 rfl rfl)
theorem dX4_stands_19 : decode cX4_stands 19 = .ok (.if_icmp .ne 27, 3) := dk_160 0 27 (dk_at dksX4_stands_0 19 rfl rfl)
theorem dX4_stands_22 : decode cX4_stands 22 = .ok (.aload_n 0, 1) := dk_42 (dk_at dksX4_stands_0 22 rfl rfl)
theorem dX4_stands_23 : decode cX4_stands 23 = .ok (.getfield 33, 3) := dk_180 0 33 (dk_at dksX4_stands_1 0 rfl rfl)
theorem dX4_stands_26 : decode cX4_stands 26 = .ok (.iload_n 1, 1) := dk_27 (dk_at dksX4_stands_1 3 rfl rfl)
theorem dX4_stands_27 : decode cX4_stands 27 = .ok (.iaload, 1) := dk_46 (dk_at dksX4_stands_1 4 rfl rfl)
theorem dX4_stands_28 : decode cX4_stands 28 = .ok (.iload_n 2, 1) := dk_28 (dk_at dksX4_stands_1 5 rfl rfl)
theorem dX4_stands_29 : decode cX4_stands 29 = .ok (.if_icmp .ne 17, 3) := dk_160 0 17 (dk_at dksX4_stands_1 6 rfl rfl)
theorem dX4_stands_32 : decode cX4_stands 32 = .ok (.aload_n 0, 1) := dk_42 (dk_at dksX4_stands_1 9 rfl rfl)
theorem dX4_stands_33 : decode cX4_stands 33 = .ok (.getfield 36, 3) := dk_180 0 36 (dk_at dksX4_stands_1 10 rfl rfl)
theorem dX4_stands_36 : decode cX4_stands 36 = .ok (.iload_n 1, 1) := dk_27 (dk_at dksX4_stands_1 13 rfl rfl)
theorem dX4_stands_37 : decode cX4_stands 37 = .ok (.iaload, 1) := dk_46 (dk_at dksX4_stands_1 14 rfl rfl)
theorem dX4_stands_38 : decode cX4_stands 38 = .ok (.iload_n 3, 1) := dk_29 (dk_at dksX4_stands_1 15 rfl rfl)
theorem dX4_stands_39 : decode cX4_stands 39 = .ok (.if_icmp .ne 7, 3) := dk_160 0 7 (dk_at dksX4_stands_1 16 rfl rfl)
theorem dX4_stands_42 : decode cX4_stands 42 = .ok (.iconst 1, 1) := dk_4 (dk_at dksX4_stands_1 19 rfl rfl)
theorem dX4_stands_43 : decode cX4_stands 43 = .ok (.goto 4, 3) := dk_167 0 4 (dk_at dksX4_stands_1 20 rfl rfl)
theorem dX4_stands_46 : decode cX4_stands 46 = .ok (.iconst 0, 1) := dk_3 (dk_at dksX4_stands_1 23 rfl rfl)
theorem dX4_stands_47 : decode cX4_stands 47 = .ok (.ireturn, 1) := dk_172 (dk_at dksX4_stands_2 0 rfl rfl)
abbrev cX4_usedMinutes : ByteArray := prog_14_method_41_code
def yX4_usedMinutes : MethodName := ⟨RX4, "usedMinutes", "(II)I"⟩
def dkwX4_usedMinutes_0 : List UInt8 := [42, 27, 28, 3, 182, 0, 178, 153, 0, 12, 42, 27, 28, 182, 0, 185, 167, 0, 4, 3, 172]
abbrev dktX4_usedMinutes_0 : List UInt8 := dkwX4_usedMinutes_0 ++ []
theorem dksX4_usedMinutes_0 : cX4_usedMinutes.data.toList.drop 0 = dktX4_usedMinutes_0 := by decide +kernel
theorem dX4_usedMinutes_0 : decode cX4_usedMinutes 0 = .ok (.aload_n 0, 1) := dk_42 (dk_at dksX4_usedMinutes_0 0 rfl rfl)
theorem dX4_usedMinutes_1 : decode cX4_usedMinutes 1 = .ok (.iload_n 1, 1) := dk_27 (dk_at dksX4_usedMinutes_0 1 rfl rfl)
theorem dX4_usedMinutes_2 : decode cX4_usedMinutes 2 = .ok (.iload_n 2, 1) := dk_28 (dk_at dksX4_usedMinutes_0 2 rfl rfl)
theorem dX4_usedMinutes_3 : decode cX4_usedMinutes 3 = .ok (.iconst 0, 1) := dk_3 (dk_at dksX4_usedMinutes_0 3 rfl rfl)
theorem dX4_usedMinutes_4 : decode cX4_usedMinutes 4 = .ok (.invokevirtual 178, 3) := dk_182 0 178 (dk_at dksX4_usedMinutes_0 4 rfl rfl)
theorem dX4_usedMinutes_7 : decode cX4_usedMinutes 7 = .ok (.ifCond .eq 12, 3) := dk_153 0 12 (dk_at dksX4_usedMinutes_0 7 rfl rfl)
theorem dX4_usedMinutes_10 : decode cX4_usedMinutes 10 = .ok (.aload_n 0, 1) := dk_42 (dk_at dksX4_usedMinutes_0 10 rfl rfl)
theorem dX4_usedMinutes_11 : decode cX4_usedMinutes 11 = .ok (.iload_n 1, 1) := dk_27 (dk_at dksX4_usedMinutes_0 11 rfl rfl)
theorem dX4_usedMinutes_12 : decode cX4_usedMinutes 12 = .ok (.iload_n 2, 1) := dk_28 (dk_at dksX4_usedMinutes_0 12 rfl rfl)
theorem dX4_usedMinutes_13 : decode cX4_usedMinutes 13 = .ok (.invokevirtual 185, 3) := dk_182 0 185 (dk_at dksX4_usedMinutes_0 13 rfl rfl)
theorem dX4_usedMinutes_16 : decode cX4_usedMinutes 16 = .ok (.goto 4, 3) := dk_167 0 4 (dk_at dksX4_usedMinutes_0 16 rfl rfl)
theorem dX4_usedMinutes_19 : decode cX4_usedMinutes 19 = .ok (.iconst 0, 1) := dk_3 (dk_at dksX4_usedMinutes_0 19 rfl rfl)
theorem dX4_usedMinutes_20 : decode cX4_usedMinutes 20 = .ok (.ireturn, 1) := dk_172 (dk_at dksX4_usedMinutes_0 20 rfl rfl)
abbrev cX4_used : ByteArray := prog_14_method_40_code
def yX4_used : MethodName := ⟨RX4, "used", "(II)I"⟩
def dkwX4_used_1 : List UInt8 := [153, 0, 13, 42, 180, 0, 42, 21, 4, 46, 167, 0, 4, 3, 96, 62, 132, 4, 1, 167, 255, 219, 29, 172]
abbrev dktX4_used_1 : List UInt8 := dkwX4_used_1 ++ []
def dkwX4_used_0 : List UInt8 := [3, 62, 3, 54, 4, 21, 4, 42, 180, 0, 101, 162, 0, 34, 29, 42, 21, 4, 27, 28, 182, 0, 175]
abbrev dktX4_used_0 : List UInt8 := dkwX4_used_0 ++ dktX4_used_1
theorem dksX4_used_0 : cX4_used.data.toList.drop 0 = dktX4_used_0 := by decide +kernel
theorem dksX4_used_1 : cX4_used.data.toList.drop 23 = dktX4_used_1 := dk_seg dksX4_used_0 23 rfl rfl
theorem dX4_used_0 : decode cX4_used 0 = .ok (.iconst 0, 1) := dk_3 (dk_at dksX4_used_0 0 rfl rfl)
theorem dX4_used_1 : decode cX4_used 1 = .ok (.istore_n 3, 1) := dk_62 (dk_at dksX4_used_0 1 rfl rfl)
theorem dX4_used_2 : decode cX4_used 2 = .ok (.iconst 0, 1) := dk_3 (dk_at dksX4_used_0 2 rfl rfl)
theorem dX4_used_3 : decode cX4_used 3 = .ok (.istore 4, 2) := dk_54 4 (dk_at dksX4_used_0 3 rfl rfl)
theorem dX4_used_5 : decode cX4_used 5 = .ok (.iload 4, 2) := dk_21 4 (dk_at dksX4_used_0 5 rfl rfl)
theorem dX4_used_7 : decode cX4_used 7 = .ok (.aload_n 0, 1) := dk_42 (dk_at dksX4_used_0 7 rfl rfl)
theorem dX4_used_8 : decode cX4_used 8 = .ok (.getfield 101, 3) := dk_180 0 101 (dk_at dksX4_used_0 8 rfl rfl)
theorem dX4_used_11 : decode cX4_used 11 = .ok (.if_icmp .ge 34, 3) := dk_162 0 34 (dk_at dksX4_used_0 11 rfl rfl)
theorem dX4_used_14 : decode cX4_used 14 = .ok (.iload_n 3, 1) := dk_29 (dk_at dksX4_used_0 14 rfl rfl)
theorem dX4_used_15 : decode cX4_used 15 = .ok (.aload_n 0, 1) := dk_42 (dk_at dksX4_used_0 15 rfl rfl)
theorem dX4_used_16 : decode cX4_used 16 = .ok (.iload 4, 2) := dk_21 4 (dk_at dksX4_used_0 16 rfl rfl)
theorem dX4_used_18 : decode cX4_used 18 = .ok (.iload_n 1, 1) := dk_27 (dk_at dksX4_used_0 18 rfl rfl)
theorem dX4_used_19 : decode cX4_used 19 = .ok (.iload_n 2, 1) := dk_28 (dk_at dksX4_used_0 19 rfl rfl)
theorem dX4_used_20 : decode cX4_used 20 = .ok (.invokevirtual 175, 3) := dk_182 0 175 (dk_at dksX4_used_0 20 rfl rfl)
theorem dX4_used_23 : decode cX4_used 23 = .ok (.ifCond .eq 13, 3) := dk_153 0 13 (dk_at dksX4_used_1 0 rfl rfl)
theorem dX4_used_26 : decode cX4_used 26 = .ok (.aload_n 0, 1) := dk_42 (dk_at dksX4_used_1 3 rfl rfl)
theorem dX4_used_27 : decode cX4_used 27 = .ok (.getfield 42, 3) := dk_180 0 42 (dk_at dksX4_used_1 4 rfl rfl)
theorem dX4_used_30 : decode cX4_used 30 = .ok (.iload 4, 2) := dk_21 4 (dk_at dksX4_used_1 7 rfl rfl)
theorem dX4_used_32 : decode cX4_used 32 = .ok (.iaload, 1) := dk_46 (dk_at dksX4_used_1 9 rfl rfl)
theorem dX4_used_33 : decode cX4_used 33 = .ok (.goto 4, 3) := dk_167 0 4 (dk_at dksX4_used_1 10 rfl rfl)
theorem dX4_used_36 : decode cX4_used 36 = .ok (.iconst 0, 1) := dk_3 (dk_at dksX4_used_1 13 rfl rfl)
theorem dX4_used_37 : decode cX4_used 37 = .ok (.iadd, 1) := dk_96 (dk_at dksX4_used_1 14 rfl rfl)
theorem dX4_used_38 : decode cX4_used 38 = .ok (.istore_n 3, 1) := dk_62 (dk_at dksX4_used_1 15 rfl rfl)
theorem dX4_used_39 : decode cX4_used 39 = .ok (.iinc 4 1, 3) := dk_132 4 1 (dk_at dksX4_used_1 16 rfl rfl)
theorem dX4_used_42 : decode cX4_used 42 = .ok (.goto (-37), 3) := dk_167 255 219 (dk_at dksX4_used_1 19 rfl rfl)
theorem dX4_used_45 : decode cX4_used 45 = .ok (.iload_n 3, 1) := dk_29 (dk_at dksX4_used_1 22 rfl rfl)
theorem dX4_used_46 : decode cX4_used 46 = .ok (.ireturn, 1) := dk_172 (dk_at dksX4_used_1 23 rfl rfl)
abbrev cX4_usedByMinutes : ByteArray := prog_14_method_42_code
def yX4_usedByMinutes : MethodName := ⟨RX4, "usedByMinutes", "(II)I"⟩
def dkwX4_usedByMinutes_0 : List UInt8 := [42, 27, 28, 182, 0, 188, 172]
abbrev dktX4_usedByMinutes_0 : List UInt8 := dkwX4_usedByMinutes_0 ++ []
theorem dksX4_usedByMinutes_0 : cX4_usedByMinutes.data.toList.drop 0 = dktX4_usedByMinutes_0 := by decide +kernel
theorem dX4_usedByMinutes_0 : decode cX4_usedByMinutes 0 = .ok (.aload_n 0, 1) := dk_42 (dk_at dksX4_usedByMinutes_0 0 rfl rfl)
theorem dX4_usedByMinutes_1 : decode cX4_usedByMinutes 1 = .ok (.iload_n 1, 1) := dk_27 (dk_at dksX4_usedByMinutes_0 1 rfl rfl)
theorem dX4_usedByMinutes_2 : decode cX4_usedByMinutes 2 = .ok (.iload_n 2, 1) := dk_28 (dk_at dksX4_usedByMinutes_0 2 rfl rfl)
theorem dX4_usedByMinutes_3 : decode cX4_usedByMinutes 3 = .ok (.invokevirtual 188, 3) := dk_182 0 188 (dk_at dksX4_usedByMinutes_0 3 rfl rfl)
theorem dX4_usedByMinutes_6 : decode cX4_usedByMinutes 6 = .ok (.ireturn, 1) := dk_172 (dk_at dksX4_usedByMinutes_0 6 rfl rfl)
abbrev cX4_setupMinutes : ByteArray := prog_14_method_43_code
def yX4_setupMinutes : MethodName := ⟨RX4, "setupMinutes", "(II)I"⟩
def dkwX4_setupMinutes_0 : List UInt8 := [42, 27, 28, 3, 182, 0, 178, 153, 0, 14, 42, 27, 28, 16, 115, 182, 0, 191, 167, 0, 4, 3, 172]
abbrev dktX4_setupMinutes_0 : List UInt8 := dkwX4_setupMinutes_0 ++ []
theorem dksX4_setupMinutes_0 : cX4_setupMinutes.data.toList.drop 0 = dktX4_setupMinutes_0 := by decide +kernel
theorem dX4_setupMinutes_0 : decode cX4_setupMinutes 0 = .ok (.aload_n 0, 1) := dk_42 (dk_at dksX4_setupMinutes_0 0 rfl rfl)
theorem dX4_setupMinutes_1 : decode cX4_setupMinutes 1 = .ok (.iload_n 1, 1) := dk_27 (dk_at dksX4_setupMinutes_0 1 rfl rfl)
theorem dX4_setupMinutes_2 : decode cX4_setupMinutes 2 = .ok (.iload_n 2, 1) := dk_28 (dk_at dksX4_setupMinutes_0 2 rfl rfl)
theorem dX4_setupMinutes_3 : decode cX4_setupMinutes 3 = .ok (.iconst 0, 1) := dk_3 (dk_at dksX4_setupMinutes_0 3 rfl rfl)
theorem dX4_setupMinutes_4 : decode cX4_setupMinutes 4 = .ok (.invokevirtual 178, 3) := dk_182 0 178 (dk_at dksX4_setupMinutes_0 4 rfl rfl)
theorem dX4_setupMinutes_7 : decode cX4_setupMinutes 7 = .ok (.ifCond .eq 14, 3) := dk_153 0 14 (dk_at dksX4_setupMinutes_0 7 rfl rfl)
theorem dX4_setupMinutes_10 : decode cX4_setupMinutes 10 = .ok (.aload_n 0, 1) := dk_42 (dk_at dksX4_setupMinutes_0 10 rfl rfl)
theorem dX4_setupMinutes_11 : decode cX4_setupMinutes 11 = .ok (.iload_n 1, 1) := dk_27 (dk_at dksX4_setupMinutes_0 11 rfl rfl)
theorem dX4_setupMinutes_12 : decode cX4_setupMinutes 12 = .ok (.iload_n 2, 1) := dk_28 (dk_at dksX4_setupMinutes_0 12 rfl rfl)
theorem dX4_setupMinutes_13 : decode cX4_setupMinutes 13 = .ok (.bipush 115, 2) := dk_16 115 (dk_at dksX4_setupMinutes_0 13 rfl rfl)
theorem dX4_setupMinutes_15 : decode cX4_setupMinutes 15 = .ok (.invokevirtual 191, 3) := dk_182 0 191 (dk_at dksX4_setupMinutes_0 15 rfl rfl)
theorem dX4_setupMinutes_18 : decode cX4_setupMinutes 18 = .ok (.goto 4, 3) := dk_167 0 4 (dk_at dksX4_setupMinutes_0 18 rfl rfl)
theorem dX4_setupMinutes_21 : decode cX4_setupMinutes 21 = .ok (.iconst 0, 1) := dk_3 (dk_at dksX4_setupMinutes_0 21 rfl rfl)
theorem dX4_setupMinutes_22 : decode cX4_setupMinutes 22 = .ok (.ireturn, 1) := dk_172 (dk_at dksX4_setupMinutes_0 22 rfl rfl)
abbrev cX4_minutes : ByteArray := prog_14_method_39_code
def yX4_minutes : MethodName := ⟨RX4, "minutes", "(IIC)I"⟩
def dkwX4_minutes_1 : List UInt8 := [29, 160, 0, 7, 4, 167, 0, 4, 3, 96, 54, 4, 132, 5, 1, 167, 255, 223, 21, 4, 172]
abbrev dktX4_minutes_1 : List UInt8 := dkwX4_minutes_1 ++ []
def dkwX4_minutes_0 : List UInt8 := [3, 54, 4, 3, 54, 5, 21, 5, 17, 1, 224, 162, 0, 31, 21, 4, 42, 27, 28, 21, 5, 182, 0, 181]
abbrev dktX4_minutes_0 : List UInt8 := dkwX4_minutes_0 ++ dktX4_minutes_1
theorem dksX4_minutes_0 : cX4_minutes.data.toList.drop 0 = dktX4_minutes_0 := by decide +kernel
theorem dksX4_minutes_1 : cX4_minutes.data.toList.drop 24 = dktX4_minutes_1 := dk_seg dksX4_minutes_0 24 rfl rfl
theorem dX4_minutes_0 : decode cX4_minutes 0 = .ok (.iconst 0, 1) := dk_3 (dk_at dksX4_minutes_0 0 rfl rfl)
theorem dX4_minutes_1 : decode cX4_minutes 1 = .ok (.istore 4, 2) := dk_54 4 (dk_at dksX4_minutes_0 1 rfl rfl)
theorem dX4_minutes_3 : decode cX4_minutes 3 = .ok (.iconst 0, 1) := dk_3 (dk_at dksX4_minutes_0 3 rfl rfl)
theorem dX4_minutes_4 : decode cX4_minutes 4 = .ok (.istore 5, 2) := dk_54 5 (dk_at dksX4_minutes_0 4 rfl rfl)
theorem dX4_minutes_6 : decode cX4_minutes 6 = .ok (.iload 5, 2) := dk_21 5 (dk_at dksX4_minutes_0 6 rfl rfl)
theorem dX4_minutes_8 : decode cX4_minutes 8 = .ok (.sipush 480, 3) := dk_17 1 224 (dk_at dksX4_minutes_0 8 rfl rfl)
theorem dX4_minutes_11 : decode cX4_minutes 11 = .ok (.if_icmp .ge 31, 3) := dk_162 0 31 (dk_at dksX4_minutes_0 11 rfl rfl)
theorem dX4_minutes_14 : decode cX4_minutes 14 = .ok (.iload 4, 2) := dk_21 4 (dk_at dksX4_minutes_0 14 rfl rfl)
theorem dX4_minutes_16 : decode cX4_minutes 16 = .ok (.aload_n 0, 1) := dk_42 (dk_at dksX4_minutes_0 16 rfl rfl)
theorem dX4_minutes_17 : decode cX4_minutes 17 = .ok (.iload_n 1, 1) := dk_27 (dk_at dksX4_minutes_0 17 rfl rfl)
theorem dX4_minutes_18 : decode cX4_minutes 18 = .ok (.iload_n 2, 1) := dk_28 (dk_at dksX4_minutes_0 18 rfl rfl)
theorem dX4_minutes_19 : decode cX4_minutes 19 = .ok (.iload 5, 2) := dk_21 5 (dk_at dksX4_minutes_0 19 rfl rfl)
theorem dX4_minutes_21 : decode cX4_minutes 21 = .ok (.invokevirtual 181, 3) := dk_182 0 181 (dk_at dksX4_minutes_0 21 rfl rfl)
theorem dX4_minutes_24 : decode cX4_minutes 24 = .ok (.iload_n 3, 1) := dk_29 (dk_at dksX4_minutes_1 0 rfl rfl)
theorem dX4_minutes_25 : decode cX4_minutes 25 = .ok (.if_icmp .ne 7, 3) := dk_160 0 7 (dk_at dksX4_minutes_1 1 rfl rfl)
theorem dX4_minutes_28 : decode cX4_minutes 28 = .ok (.iconst 1, 1) := dk_4 (dk_at dksX4_minutes_1 4 rfl rfl)
theorem dX4_minutes_29 : decode cX4_minutes 29 = .ok (.goto 4, 3) := dk_167 0 4 (dk_at dksX4_minutes_1 5 rfl rfl)
theorem dX4_minutes_32 : decode cX4_minutes 32 = .ok (.iconst 0, 1) := dk_3 (dk_at dksX4_minutes_1 8 rfl rfl)
theorem dX4_minutes_33 : decode cX4_minutes 33 = .ok (.iadd, 1) := dk_96 (dk_at dksX4_minutes_1 9 rfl rfl)
theorem dX4_minutes_34 : decode cX4_minutes 34 = .ok (.istore 4, 2) := dk_54 4 (dk_at dksX4_minutes_1 10 rfl rfl)
theorem dX4_minutes_36 : decode cX4_minutes 36 = .ok (.iinc 5 1, 3) := dk_132 5 1 (dk_at dksX4_minutes_1 12 rfl rfl)
theorem dX4_minutes_39 : decode cX4_minutes 39 = .ok (.goto (-33), 3) := dk_167 255 223 (dk_at dksX4_minutes_1 15 rfl rfl)
theorem dX4_minutes_42 : decode cX4_minutes 42 = .ok (.iload 4, 2) := dk_21 4 (dk_at dksX4_minutes_1 18 rfl rfl)
theorem dX4_minutes_44 : decode cX4_minutes 44 = .ok (.ireturn, 1) := dk_172 (dk_at dksX4_minutes_1 20 rfl rfl)
abbrev cX4_firstStart : ByteArray := prog_14_method_44_code
def yX4_firstStart : MethodName := ⟨RX4, "firstStart", "(IIIC)I"⟩
def dkwX4_firstStart_3 : List UInt8 := [132, 5, 1, 167, 255, 226, 42, 6, 182, 0, 108, 172]
abbrev dktX4_firstStart_3 : List UInt8 := dkwX4_firstStart_3 ++ []
def dkwX4_firstStart_2 : List UInt8 := [17, 1, 224, 163, 0, 26, 42, 27, 28, 21, 5, 29, 21, 4, 182, 0, 145, 153, 0, 6, 21, 5, 172]
abbrev dktX4_firstStart_2 : List UInt8 := dkwX4_firstStart_2 ++ dktX4_firstStart_3
def dkwX4_firstStart_1 : List UInt8 := [153, 0, 11, 21, 4, 184, 0, 153, 154, 0, 9, 42, 5, 182, 0, 108, 172, 3, 54, 5, 21, 5, 29, 96]
abbrev dktX4_firstStart_1 : List UInt8 := dkwX4_firstStart_1 ++ dktX4_firstStart_2
def dkwX4_firstStart_0 : List UInt8 := [42, 27, 28, 42, 180, 0, 112, 182, 0, 178, 154, 0, 5, 3, 172, 29, 4, 17, 0, 240, 184, 0, 91]
abbrev dktX4_firstStart_0 : List UInt8 := dkwX4_firstStart_0 ++ dktX4_firstStart_1
theorem dksX4_firstStart_0 : cX4_firstStart.data.toList.drop 0 = dktX4_firstStart_0 := by decide +kernel
theorem dksX4_firstStart_1 : cX4_firstStart.data.toList.drop 23 = dktX4_firstStart_1 := dk_seg dksX4_firstStart_0 23 rfl rfl
theorem dksX4_firstStart_2 : cX4_firstStart.data.toList.drop 47 = dktX4_firstStart_2 := dk_seg dksX4_firstStart_1 24 rfl rfl
theorem dksX4_firstStart_3 : cX4_firstStart.data.toList.drop 70 = dktX4_firstStart_3 := dk_seg dksX4_firstStart_2 23 rfl rfl
theorem dX4_firstStart_0 : decode cX4_firstStart 0 = .ok (.aload_n 0, 1) := dk_42 (dk_at dksX4_firstStart_0 0 rfl rfl)
theorem dX4_firstStart_1 : decode cX4_firstStart 1 = .ok (.iload_n 1, 1) := dk_27 (dk_at dksX4_firstStart_0 1 rfl rfl)
theorem dX4_firstStart_2 : decode cX4_firstStart 2 = .ok (.iload_n 2, 1) := dk_28 (dk_at dksX4_firstStart_0 2 rfl rfl)
theorem dX4_firstStart_3 : decode cX4_firstStart 3 = .ok (.aload_n 0, 1) := dk_42 (dk_at dksX4_firstStart_0 3 rfl rfl)
theorem dX4_firstStart_4 : decode cX4_firstStart 4 = .ok (.getfield 112, 3) := dk_180 0 112 (dk_at dksX4_firstStart_0 4 rfl rfl)
theorem dX4_firstStart_7 : decode cX4_firstStart 7 = .ok (.invokevirtual 178, 3) := dk_182 0 178 (dk_at dksX4_firstStart_0 7 rfl rfl)
theorem dX4_firstStart_10 : decode cX4_firstStart 10 = .ok (.ifCond .ne 5, 3) := dk_154 0 5 (dk_at dksX4_firstStart_0 10 rfl rfl)
theorem dX4_firstStart_13 : decode cX4_firstStart 13 = .ok (.iconst 0, 1) := dk_3 (dk_at dksX4_firstStart_0 13 rfl rfl)
theorem dX4_firstStart_14 : decode cX4_firstStart 14 = .ok (.ireturn, 1) := dk_172 (dk_at dksX4_firstStart_0 14 rfl rfl)
theorem dX4_firstStart_15 : decode cX4_firstStart 15 = .ok (.iload_n 3, 1) := dk_29 (dk_at dksX4_firstStart_0 15 rfl rfl)
theorem dX4_firstStart_16 : decode cX4_firstStart 16 = .ok (.iconst 1, 1) := dk_4 (dk_at dksX4_firstStart_0 16 rfl rfl)
theorem dX4_firstStart_17 : decode cX4_firstStart 17 = .ok (.sipush 240, 3) := dk_17 0 240 (dk_at dksX4_firstStart_0 17 rfl rfl)
theorem dX4_firstStart_20 : decode cX4_firstStart 20 = .ok (.invokestatic 91, 3) := dk_184 0 91 (dk_at dksX4_firstStart_0 20 rfl rfl)
theorem dX4_firstStart_23 : decode cX4_firstStart 23 = .ok (.ifCond .eq 11, 3) := dk_153 0 11 (dk_at dksX4_firstStart_1 0 rfl rfl)
theorem dX4_firstStart_26 : decode cX4_firstStart 26 = .ok (.iload 4, 2) := dk_21 4 (dk_at dksX4_firstStart_1 3 rfl rfl)
theorem dX4_firstStart_28 : decode cX4_firstStart 28 = .ok (.invokestatic 153, 3) := dk_184 0 153 (dk_at dksX4_firstStart_1 5 rfl rfl)
theorem dX4_firstStart_31 : decode cX4_firstStart 31 = .ok (.ifCond .ne 9, 3) := dk_154 0 9 (dk_at dksX4_firstStart_1 8 rfl rfl)
theorem dX4_firstStart_34 : decode cX4_firstStart 34 = .ok (.aload_n 0, 1) := dk_42 (dk_at dksX4_firstStart_1 11 rfl rfl)
theorem dX4_firstStart_35 : decode cX4_firstStart 35 = .ok (.iconst 2, 1) := dk_5 (dk_at dksX4_firstStart_1 12 rfl rfl)
theorem dX4_firstStart_36 : decode cX4_firstStart 36 = .ok (.invokevirtual 108, 3) := dk_182 0 108 (dk_at dksX4_firstStart_1 13 rfl rfl)
theorem dX4_firstStart_39 : decode cX4_firstStart 39 = .ok (.ireturn, 1) := dk_172 (dk_at dksX4_firstStart_1 16 rfl rfl)
theorem dX4_firstStart_40 : decode cX4_firstStart 40 = .ok (.iconst 0, 1) := dk_3 (dk_at dksX4_firstStart_1 17 rfl rfl)
theorem dX4_firstStart_41 : decode cX4_firstStart 41 = .ok (.istore 5, 2) := dk_54 5 (dk_at dksX4_firstStart_1 18 rfl rfl)
theorem dX4_firstStart_43 : decode cX4_firstStart 43 = .ok (.iload 5, 2) := dk_21 5 (dk_at dksX4_firstStart_1 20 rfl rfl)
theorem dX4_firstStart_45 : decode cX4_firstStart 45 = .ok (.iload_n 3, 1) := dk_29 (dk_at dksX4_firstStart_1 22 rfl rfl)
theorem dX4_firstStart_46 : decode cX4_firstStart 46 = .ok (.iadd, 1) := dk_96 (dk_at dksX4_firstStart_1 23 rfl rfl)
theorem dX4_firstStart_47 : decode cX4_firstStart 47 = .ok (.sipush 480, 3) := dk_17 1 224 (dk_at dksX4_firstStart_2 0 rfl rfl)
theorem dX4_firstStart_50 : decode cX4_firstStart 50 = .ok (.if_icmp .gt 26, 3) := dk_163 0 26 (dk_at dksX4_firstStart_2 3 rfl rfl)
theorem dX4_firstStart_53 : decode cX4_firstStart 53 = .ok (.aload_n 0, 1) := dk_42 (dk_at dksX4_firstStart_2 6 rfl rfl)
theorem dX4_firstStart_54 : decode cX4_firstStart 54 = .ok (.iload_n 1, 1) := dk_27 (dk_at dksX4_firstStart_2 7 rfl rfl)
theorem dX4_firstStart_55 : decode cX4_firstStart 55 = .ok (.iload_n 2, 1) := dk_28 (dk_at dksX4_firstStart_2 8 rfl rfl)
theorem dX4_firstStart_56 : decode cX4_firstStart 56 = .ok (.iload 5, 2) := dk_21 5 (dk_at dksX4_firstStart_2 9 rfl rfl)
theorem dX4_firstStart_58 : decode cX4_firstStart 58 = .ok (.iload_n 3, 1) := dk_29 (dk_at dksX4_firstStart_2 11 rfl rfl)
theorem dX4_firstStart_59 : decode cX4_firstStart 59 = .ok (.iload 4, 2) := dk_21 4 (dk_at dksX4_firstStart_2 12 rfl rfl)
theorem dX4_firstStart_61 : decode cX4_firstStart 61 = .ok (.invokevirtual 145, 3) := dk_182 0 145 (dk_at dksX4_firstStart_2 14 rfl rfl)
theorem dX4_firstStart_64 : decode cX4_firstStart 64 = .ok (.ifCond .eq 6, 3) := dk_153 0 6 (dk_at dksX4_firstStart_2 17 rfl rfl)
theorem dX4_firstStart_67 : decode cX4_firstStart 67 = .ok (.iload 5, 2) := dk_21 5 (dk_at dksX4_firstStart_2 20 rfl rfl)
theorem dX4_firstStart_69 : decode cX4_firstStart 69 = .ok (.ireturn, 1) := dk_172 (dk_at dksX4_firstStart_2 22 rfl rfl)
theorem dX4_firstStart_70 : decode cX4_firstStart 70 = .ok (.iinc 5 1, 3) := dk_132 5 1 (dk_at dksX4_firstStart_3 0 rfl rfl)
theorem dX4_firstStart_73 : decode cX4_firstStart 73 = .ok (.goto (-30), 3) := dk_167 255 226 (dk_at dksX4_firstStart_3 3 rfl rfl)
theorem dX4_firstStart_76 : decode cX4_firstStart 76 = .ok (.aload_n 0, 1) := dk_42 (dk_at dksX4_firstStart_3 6 rfl rfl)
theorem dX4_firstStart_77 : decode cX4_firstStart 77 = .ok (.iconst 3, 1) := dk_6 (dk_at dksX4_firstStart_3 7 rfl rfl)
theorem dX4_firstStart_78 : decode cX4_firstStart 78 = .ok (.invokevirtual 108, 3) := dk_182 0 108 (dk_at dksX4_firstStart_3 8 rfl rfl)
theorem dX4_firstStart_81 : decode cX4_firstStart 81 = .ok (.ireturn, 1) := dk_172 (dk_at dksX4_firstStart_3 11 rfl rfl)
abbrev cX4_firstByMinutes : ByteArray := prog_14_method_45_code
def yX4_firstByMinutes : MethodName := ⟨RX4, "firstByMinutes", "(IIIC)I"⟩
def dkwX4_firstByMinutes_0 : List UInt8 := [42, 27, 28, 29, 21, 4, 182, 0, 195, 172]
abbrev dktX4_firstByMinutes_0 : List UInt8 := dkwX4_firstByMinutes_0 ++ []
theorem dksX4_firstByMinutes_0 : cX4_firstByMinutes.data.toList.drop 0 = dktX4_firstByMinutes_0 := by decide +kernel
theorem dX4_firstByMinutes_0 : decode cX4_firstByMinutes 0 = .ok (.aload_n 0, 1) := dk_42 (dk_at dksX4_firstByMinutes_0 0 rfl rfl)
theorem dX4_firstByMinutes_1 : decode cX4_firstByMinutes 1 = .ok (.iload_n 1, 1) := dk_27 (dk_at dksX4_firstByMinutes_0 1 rfl rfl)
theorem dX4_firstByMinutes_2 : decode cX4_firstByMinutes 2 = .ok (.iload_n 2, 1) := dk_28 (dk_at dksX4_firstByMinutes_0 2 rfl rfl)
theorem dX4_firstByMinutes_3 : decode cX4_firstByMinutes 3 = .ok (.iload_n 3, 1) := dk_29 (dk_at dksX4_firstByMinutes_0 3 rfl rfl)
theorem dX4_firstByMinutes_4 : decode cX4_firstByMinutes 4 = .ok (.iload 4, 2) := dk_21 4 (dk_at dksX4_firstByMinutes_0 4 rfl rfl)
theorem dX4_firstByMinutes_6 : decode cX4_firstByMinutes 6 = .ok (.invokevirtual 195, 3) := dk_182 0 195 (dk_at dksX4_firstByMinutes_0 6 rfl rfl)
theorem dX4_firstByMinutes_9 : decode cX4_firstByMinutes 9 = .ok (.ireturn, 1) := dk_172 (dk_at dksX4_firstByMinutes_0 9 rfl rfl)
abbrev cX4_waiting : ByteArray := prog_14_method_46_code
def yX4_waiting : MethodName := ⟨RX4, "waiting", "(II)I"⟩
def dkwX4_waiting_3 : List UInt8 := [167, 255, 202, 29, 172]
abbrev dktX4_waiting_3 : List UInt8 := dkwX4_waiting_3 ++ []
def dkwX4_waiting_2 : List UInt8 := [160, 0, 18, 42, 180, 0, 36, 21, 4, 46, 28, 160, 0, 7, 4, 167, 0, 4, 3, 96, 62, 132, 4, 1]
abbrev dktX4_waiting_2 : List UInt8 := dkwX4_waiting_2 ++ dktX4_waiting_3
def dkwX4_waiting_1 : List UInt8 := [162, 0, 51, 29, 42, 180, 0, 49, 21, 4, 52, 16, 119, 160, 0, 29, 42, 180, 0, 33, 21, 4, 46, 27]
abbrev dktX4_waiting_1 : List UInt8 := dkwX4_waiting_1 ++ dktX4_waiting_2
def dkwX4_waiting_0 : List UInt8 := [3, 62, 42, 27, 28, 42, 180, 0, 112, 182, 0, 178, 153, 0, 63, 3, 54, 4, 21, 4, 42, 180, 0, 101]
abbrev dktX4_waiting_0 : List UInt8 := dkwX4_waiting_0 ++ dktX4_waiting_1
theorem dksX4_waiting_0 : cX4_waiting.data.toList.drop 0 = dktX4_waiting_0 := by decide +kernel
theorem dksX4_waiting_1 : cX4_waiting.data.toList.drop 24 = dktX4_waiting_1 := dk_seg dksX4_waiting_0 24 rfl rfl
theorem dksX4_waiting_2 : cX4_waiting.data.toList.drop 48 = dktX4_waiting_2 := dk_seg dksX4_waiting_1 24 rfl rfl
theorem dksX4_waiting_3 : cX4_waiting.data.toList.drop 72 = dktX4_waiting_3 := dk_seg dksX4_waiting_2 24 rfl rfl
theorem dX4_waiting_0 : decode cX4_waiting 0 = .ok (.iconst 0, 1) := dk_3 (dk_at dksX4_waiting_0 0 rfl rfl)
theorem dX4_waiting_1 : decode cX4_waiting 1 = .ok (.istore_n 3, 1) := dk_62 (dk_at dksX4_waiting_0 1 rfl rfl)
theorem dX4_waiting_2 : decode cX4_waiting 2 = .ok (.aload_n 0, 1) := dk_42 (dk_at dksX4_waiting_0 2 rfl rfl)
theorem dX4_waiting_3 : decode cX4_waiting 3 = .ok (.iload_n 1, 1) := dk_27 (dk_at dksX4_waiting_0 3 rfl rfl)
theorem dX4_waiting_4 : decode cX4_waiting 4 = .ok (.iload_n 2, 1) := dk_28 (dk_at dksX4_waiting_0 4 rfl rfl)
theorem dX4_waiting_5 : decode cX4_waiting 5 = .ok (.aload_n 0, 1) := dk_42 (dk_at dksX4_waiting_0 5 rfl rfl)
theorem dX4_waiting_6 : decode cX4_waiting 6 = .ok (.getfield 112, 3) := dk_180 0 112 (dk_at dksX4_waiting_0 6 rfl rfl)
theorem dX4_waiting_9 : decode cX4_waiting 9 = .ok (.invokevirtual 178, 3) := dk_182 0 178 (dk_at dksX4_waiting_0 9 rfl rfl)
theorem dX4_waiting_12 : decode cX4_waiting 12 = .ok (.ifCond .eq 63, 3) := dk_153 0 63 (dk_at dksX4_waiting_0 12 rfl rfl)
theorem dX4_waiting_15 : decode cX4_waiting 15 = .ok (.iconst 0, 1) := dk_3 (dk_at dksX4_waiting_0 15 rfl rfl)
theorem dX4_waiting_16 : decode cX4_waiting 16 = .ok (.istore 4, 2) := dk_54 4 (dk_at dksX4_waiting_0 16 rfl rfl)
theorem dX4_waiting_18 : decode cX4_waiting 18 = .ok (.iload 4, 2) := dk_21 4 (dk_at dksX4_waiting_0 18 rfl rfl)
theorem dX4_waiting_20 : decode cX4_waiting 20 = .ok (.aload_n 0, 1) := dk_42 (dk_at dksX4_waiting_0 20 rfl rfl)
theorem dX4_waiting_21 : decode cX4_waiting 21 = .ok (.getfield 101, 3) := dk_180 0 101 (dk_at dksX4_waiting_0 21 rfl rfl)
theorem dX4_waiting_24 : decode cX4_waiting 24 = .ok (.if_icmp .ge 51, 3) := dk_162 0 51 (dk_at dksX4_waiting_1 0 rfl rfl)
theorem dX4_waiting_27 : decode cX4_waiting 27 = .ok (.iload_n 3, 1) := dk_29 (dk_at dksX4_waiting_1 3 rfl rfl)
theorem dX4_waiting_28 : decode cX4_waiting 28 = .ok (.aload_n 0, 1) := dk_42 (dk_at dksX4_waiting_1 4 rfl rfl)
theorem dX4_waiting_29 : decode cX4_waiting 29 = .ok (.getfield 49, 3) := dk_180 0 49 (dk_at dksX4_waiting_1 5 rfl rfl)
theorem dX4_waiting_32 : decode cX4_waiting 32 = .ok (.iload 4, 2) := dk_21 4 (dk_at dksX4_waiting_1 8 rfl rfl)
theorem dX4_waiting_34 : decode cX4_waiting 34 = .ok (.caload, 1) := dk_52 (dk_at dksX4_waiting_1 10 rfl rfl)
theorem dX4_waiting_35 : decode cX4_waiting 35 = .ok (.bipush 119, 2) := dk_16 119 (dk_at dksX4_waiting_1 11 rfl rfl)
theorem dX4_waiting_37 : decode cX4_waiting 37 = .ok (.if_icmp .ne 29, 3) := dk_160 0 29 (dk_at dksX4_waiting_1 13 rfl rfl)
theorem dX4_waiting_40 : decode cX4_waiting 40 = .ok (.aload_n 0, 1) := dk_42 (dk_at dksX4_waiting_1 16 rfl rfl)
theorem dX4_waiting_41 : decode cX4_waiting 41 = .ok (.getfield 33, 3) := dk_180 0 33 (dk_at dksX4_waiting_1 17 rfl rfl)
theorem dX4_waiting_44 : decode cX4_waiting 44 = .ok (.iload 4, 2) := dk_21 4 (dk_at dksX4_waiting_1 20 rfl rfl)
theorem dX4_waiting_46 : decode cX4_waiting 46 = .ok (.iaload, 1) := dk_46 (dk_at dksX4_waiting_1 22 rfl rfl)
theorem dX4_waiting_47 : decode cX4_waiting 47 = .ok (.iload_n 1, 1) := dk_27 (dk_at dksX4_waiting_1 23 rfl rfl)
theorem dX4_waiting_48 : decode cX4_waiting 48 = .ok (.if_icmp .ne 18, 3) := dk_160 0 18 (dk_at dksX4_waiting_2 0 rfl rfl)
theorem dX4_waiting_51 : decode cX4_waiting 51 = .ok (.aload_n 0, 1) := dk_42 (dk_at dksX4_waiting_2 3 rfl rfl)
theorem dX4_waiting_52 : decode cX4_waiting 52 = .ok (.getfield 36, 3) := dk_180 0 36 (dk_at dksX4_waiting_2 4 rfl rfl)
theorem dX4_waiting_55 : decode cX4_waiting 55 = .ok (.iload 4, 2) := dk_21 4 (dk_at dksX4_waiting_2 7 rfl rfl)
theorem dX4_waiting_57 : decode cX4_waiting 57 = .ok (.iaload, 1) := dk_46 (dk_at dksX4_waiting_2 9 rfl rfl)
theorem dX4_waiting_58 : decode cX4_waiting 58 = .ok (.iload_n 2, 1) := dk_28 (dk_at dksX4_waiting_2 10 rfl rfl)
theorem dX4_waiting_59 : decode cX4_waiting 59 = .ok (.if_icmp .ne 7, 3) := dk_160 0 7 (dk_at dksX4_waiting_2 11 rfl rfl)
theorem dX4_waiting_62 : decode cX4_waiting 62 = .ok (.iconst 1, 1) := dk_4 (dk_at dksX4_waiting_2 14 rfl rfl)
theorem dX4_waiting_63 : decode cX4_waiting 63 = .ok (.goto 4, 3) := dk_167 0 4 (dk_at dksX4_waiting_2 15 rfl rfl)
theorem dX4_waiting_66 : decode cX4_waiting 66 = .ok (.iconst 0, 1) := dk_3 (dk_at dksX4_waiting_2 18 rfl rfl)
theorem dX4_waiting_67 : decode cX4_waiting 67 = .ok (.iadd, 1) := dk_96 (dk_at dksX4_waiting_2 19 rfl rfl)
theorem dX4_waiting_68 : decode cX4_waiting 68 = .ok (.istore_n 3, 1) := dk_62 (dk_at dksX4_waiting_2 20 rfl rfl)
theorem dX4_waiting_69 : decode cX4_waiting 69 = .ok (.iinc 4 1, 3) := dk_132 4 1 (dk_at dksX4_waiting_2 21 rfl rfl)
theorem dX4_waiting_72 : decode cX4_waiting 72 = .ok (.goto (-54), 3) := dk_167 255 202 (dk_at dksX4_waiting_3 0 rfl rfl)
theorem dX4_waiting_75 : decode cX4_waiting 75 = .ok (.iload_n 3, 1) := dk_29 (dk_at dksX4_waiting_3 3 rfl rfl)
theorem dX4_waiting_76 : decode cX4_waiting 76 = .ok (.ireturn, 1) := dk_172 (dk_at dksX4_waiting_3 4 rfl rfl)
abbrev cX4_deliver : ByteArray := prog_14_method_47_code
def yX4_deliver : MethodName := ⟨RX4, "deliver", "(II)I"⟩
def dkwX4_deliver_3 : List UInt8 := [79, 42, 89, 180, 0, 199, 4, 96, 181, 0, 199, 42, 180, 0, 199, 4, 100, 172]
abbrev dktX4_deliver_3 : List UInt8 := dkwX4_deliver_3 ++ []
def dkwX4_deliver_2 : List UInt8 := [158, 0, 5, 3, 172, 42, 180, 0, 64, 42, 180, 0, 199, 27, 79, 42, 180, 0, 67, 42, 180, 0, 199, 28]
abbrev dktX4_deliver_2 : List UInt8 := dkwX4_deliver_2 ++ dktX4_deliver_3
def dkwX4_deliver_1 : List UInt8 := [167, 0, 17, 42, 180, 0, 199, 16, 30, 160, 0, 7, 5, 167, 0, 4, 3, 181, 0, 87, 42, 180, 0, 87]
abbrev dktX4_deliver_1 : List UInt8 := dkwX4_deliver_1 ++ dktX4_deliver_2
def dkwX4_deliver_0 : List UInt8 := [42, 27, 3, 5, 184, 0, 91, 153, 0, 14, 28, 4, 17, 19, 136, 184, 0, 91, 154, 0, 7, 4]
abbrev dktX4_deliver_0 : List UInt8 := dkwX4_deliver_0 ++ dktX4_deliver_1
theorem dksX4_deliver_0 : cX4_deliver.data.toList.drop 0 = dktX4_deliver_0 := by decide +kernel
theorem dksX4_deliver_1 : cX4_deliver.data.toList.drop 22 = dktX4_deliver_1 := dk_seg dksX4_deliver_0 22 rfl rfl
theorem dksX4_deliver_2 : cX4_deliver.data.toList.drop 46 = dktX4_deliver_2 := dk_seg dksX4_deliver_1 24 rfl rfl
theorem dksX4_deliver_3 : cX4_deliver.data.toList.drop 70 = dktX4_deliver_3 := dk_seg dksX4_deliver_2 24 rfl rfl
theorem dX4_deliver_0 : decode cX4_deliver 0 = .ok (.aload_n 0, 1) := dk_42 (dk_at dksX4_deliver_0 0 rfl rfl)
theorem dX4_deliver_1 : decode cX4_deliver 1 = .ok (.iload_n 1, 1) := dk_27 (dk_at dksX4_deliver_0 1 rfl rfl)
theorem dX4_deliver_2 : decode cX4_deliver 2 = .ok (.iconst 0, 1) := dk_3 (dk_at dksX4_deliver_0 2 rfl rfl)
theorem dX4_deliver_3 : decode cX4_deliver 3 = .ok (.iconst 2, 1) := dk_5 (dk_at dksX4_deliver_0 3 rfl rfl)
theorem dX4_deliver_4 : decode cX4_deliver 4 = .ok (.invokestatic 91, 3) := dk_184 0 91 (dk_at dksX4_deliver_0 4 rfl rfl)
theorem dX4_deliver_7 : decode cX4_deliver 7 = .ok (.ifCond .eq 14, 3) := dk_153 0 14 (dk_at dksX4_deliver_0 7 rfl rfl)
theorem dX4_deliver_10 : decode cX4_deliver 10 = .ok (.iload_n 2, 1) := dk_28 (dk_at dksX4_deliver_0 10 rfl rfl)
theorem dX4_deliver_11 : decode cX4_deliver 11 = .ok (.iconst 1, 1) := dk_4 (dk_at dksX4_deliver_0 11 rfl rfl)
theorem dX4_deliver_12 : decode cX4_deliver 12 = .ok (.sipush 5000, 3) := dk_17 19 136 (dk_at dksX4_deliver_0 12 rfl rfl)
theorem dX4_deliver_15 : decode cX4_deliver 15 = .ok (.invokestatic 91, 3) := dk_184 0 91 (dk_at dksX4_deliver_0 15 rfl rfl)
theorem dX4_deliver_18 : decode cX4_deliver 18 = .ok (.ifCond .ne 7, 3) := dk_154 0 7 (dk_at dksX4_deliver_0 18 rfl rfl)
theorem dX4_deliver_21 : decode cX4_deliver 21 = .ok (.iconst 1, 1) := dk_4 (dk_at dksX4_deliver_0 21 rfl rfl)
theorem dX4_deliver_22 : decode cX4_deliver 22 = .ok (.goto 17, 3) := dk_167 0 17 (dk_at dksX4_deliver_1 0 rfl rfl)
theorem dX4_deliver_25 : decode cX4_deliver 25 = .ok (.aload_n 0, 1) := dk_42 (dk_at dksX4_deliver_1 3 rfl rfl)
theorem dX4_deliver_26 : decode cX4_deliver 26 = .ok (.getfield 199, 3) := dk_180 0 199 (dk_at dksX4_deliver_1 4 rfl rfl)
theorem dX4_deliver_29 : decode cX4_deliver 29 = .ok (.bipush 30, 2) := dk_16 30 (dk_at dksX4_deliver_1 7 rfl rfl)
theorem dX4_deliver_31 : decode cX4_deliver 31 = .ok (.if_icmp .ne 7, 3) := dk_160 0 7 (dk_at dksX4_deliver_1 9 rfl rfl)
theorem dX4_deliver_34 : decode cX4_deliver 34 = .ok (.iconst 2, 1) := dk_5 (dk_at dksX4_deliver_1 12 rfl rfl)
theorem dX4_deliver_35 : decode cX4_deliver 35 = .ok (.goto 4, 3) := dk_167 0 4 (dk_at dksX4_deliver_1 13 rfl rfl)
theorem dX4_deliver_38 : decode cX4_deliver 38 = .ok (.iconst 0, 1) := dk_3 (dk_at dksX4_deliver_1 16 rfl rfl)
theorem dX4_deliver_39 : decode cX4_deliver 39 = .ok (.putfield 87, 3) := dk_181 0 87 (dk_at dksX4_deliver_1 17 rfl rfl)
theorem dX4_deliver_42 : decode cX4_deliver 42 = .ok (.aload_n 0, 1) := dk_42 (dk_at dksX4_deliver_1 20 rfl rfl)
theorem dX4_deliver_43 : decode cX4_deliver 43 = .ok (.getfield 87, 3) := dk_180 0 87 (dk_at dksX4_deliver_1 21 rfl rfl)
theorem dX4_deliver_46 : decode cX4_deliver 46 = .ok (.ifCond .le 5, 3) := dk_158 0 5 (dk_at dksX4_deliver_2 0 rfl rfl)
theorem dX4_deliver_49 : decode cX4_deliver 49 = .ok (.iconst 0, 1) := dk_3 (dk_at dksX4_deliver_2 3 rfl rfl)
theorem dX4_deliver_50 : decode cX4_deliver 50 = .ok (.ireturn, 1) := dk_172 (dk_at dksX4_deliver_2 4 rfl rfl)
theorem dX4_deliver_51 : decode cX4_deliver 51 = .ok (.aload_n 0, 1) := dk_42 (dk_at dksX4_deliver_2 5 rfl rfl)
theorem dX4_deliver_52 : decode cX4_deliver 52 = .ok (.getfield 64, 3) := dk_180 0 64 (dk_at dksX4_deliver_2 6 rfl rfl)
theorem dX4_deliver_55 : decode cX4_deliver 55 = .ok (.aload_n 0, 1) := dk_42 (dk_at dksX4_deliver_2 9 rfl rfl)
theorem dX4_deliver_56 : decode cX4_deliver 56 = .ok (.getfield 199, 3) := dk_180 0 199 (dk_at dksX4_deliver_2 10 rfl rfl)
theorem dX4_deliver_59 : decode cX4_deliver 59 = .ok (.iload_n 1, 1) := dk_27 (dk_at dksX4_deliver_2 13 rfl rfl)
theorem dX4_deliver_60 : decode cX4_deliver 60 = .ok (.iastore, 1) := dk_79 (dk_at dksX4_deliver_2 14 rfl rfl)
theorem dX4_deliver_61 : decode cX4_deliver 61 = .ok (.aload_n 0, 1) := dk_42 (dk_at dksX4_deliver_2 15 rfl rfl)
theorem dX4_deliver_62 : decode cX4_deliver 62 = .ok (.getfield 67, 3) := dk_180 0 67 (dk_at dksX4_deliver_2 16 rfl rfl)
theorem dX4_deliver_65 : decode cX4_deliver 65 = .ok (.aload_n 0, 1) := dk_42 (dk_at dksX4_deliver_2 19 rfl rfl)
theorem dX4_deliver_66 : decode cX4_deliver 66 = .ok (.getfield 199, 3) := dk_180 0 199 (dk_at dksX4_deliver_2 20 rfl rfl)
theorem dX4_deliver_69 : decode cX4_deliver 69 = .ok (.iload_n 2, 1) := dk_28 (dk_at dksX4_deliver_2 23 rfl rfl)
theorem dX4_deliver_70 : decode cX4_deliver 70 = .ok (.iastore, 1) := dk_79 (dk_at dksX4_deliver_3 0 rfl rfl)
theorem dX4_deliver_71 : decode cX4_deliver 71 = .ok (.aload_n 0, 1) := dk_42 (dk_at dksX4_deliver_3 1 rfl rfl)
theorem dX4_deliver_72 : decode cX4_deliver 72 = .ok (.dup, 1) := dk_89 (dk_at dksX4_deliver_3 2 rfl rfl)
theorem dX4_deliver_73 : decode cX4_deliver 73 = .ok (.getfield 199, 3) := dk_180 0 199 (dk_at dksX4_deliver_3 3 rfl rfl)
theorem dX4_deliver_76 : decode cX4_deliver 76 = .ok (.iconst 1, 1) := dk_4 (dk_at dksX4_deliver_3 6 rfl rfl)
theorem dX4_deliver_77 : decode cX4_deliver 77 = .ok (.iadd, 1) := dk_96 (dk_at dksX4_deliver_3 7 rfl rfl)
theorem dX4_deliver_78 : decode cX4_deliver 78 = .ok (.putfield 199, 3) := dk_181 0 199 (dk_at dksX4_deliver_3 8 rfl rfl)
theorem dX4_deliver_81 : decode cX4_deliver 81 = .ok (.aload_n 0, 1) := dk_42 (dk_at dksX4_deliver_3 11 rfl rfl)
theorem dX4_deliver_82 : decode cX4_deliver 82 = .ok (.getfield 199, 3) := dk_180 0 199 (dk_at dksX4_deliver_3 12 rfl rfl)
theorem dX4_deliver_85 : decode cX4_deliver 85 = .ok (.iconst 1, 1) := dk_4 (dk_at dksX4_deliver_3 15 rfl rfl)
theorem dX4_deliver_86 : decode cX4_deliver 86 = .ok (.isub, 1) := dk_100 (dk_at dksX4_deliver_3 16 rfl rfl)
theorem dX4_deliver_87 : decode cX4_deliver 87 = .ok (.ireturn, 1) := dk_172 (dk_at dksX4_deliver_3 17 rfl rfl)
abbrev cX4_cut : ByteArray := prog_14_method_49_code
def yX4_cut : MethodName := ⟨RX4, "cut", "(III)I"⟩
def dkwX4_cut_9 : List UInt8 := [21, 4, 172]
abbrev dktX4_cut_9 : List UInt8 := dkwX4_cut_9 ++ []
def dkwX4_cut_8 : List UInt8 := [42, 180, 0, 61, 27, 50, 42, 180, 0, 55, 27, 46, 29, 79, 42, 180, 0, 55, 27, 92, 46, 4, 96, 79]
abbrev dktX4_cut_8 : List UInt8 := dkwX4_cut_8 ++ dktX4_cut_9
def dkwX4_cut_7 : List UInt8 := [160, 0, 9, 42, 7, 182, 0, 108, 172, 42, 180, 0, 58, 27, 50, 42, 180, 0, 55, 27, 46, 21, 4, 79]
abbrev dktX4_cut_7 : List UInt8 := dkwX4_cut_7 ++ dktX4_cut_8
def dkwX4_cut_6 : List UInt8 := [182, 0, 202, 162, 0, 8, 21, 5, 167, 0, 5, 21, 4, 54, 4, 132, 5, 1, 167, 255, 179, 21, 4, 2]
abbrev dktX4_cut_6 : List UInt8 := dkwX4_cut_6 ++ dktX4_cut_7
def dkwX4_cut_5 : List UInt8 := [54, 6, 21, 6, 153, 0, 29, 21, 4, 2, 159, 0, 18, 42, 21, 5, 182, 0, 202, 42, 21, 4]
abbrev dktX4_cut_5 : List UInt8 := dkwX4_cut_5 ++ dktX4_cut_6
def dkwX4_cut_4 : List UInt8 := [21, 5, 46, 28, 160, 0, 19, 42, 21, 5, 182, 0, 202, 29, 6, 96, 161, 0, 7, 4, 167, 0, 4, 3]
abbrev dktX4_cut_4 : List UInt8 := dkwX4_cut_4 ++ dktX4_cut_5
def dkwX4_cut_3 : List UInt8 := [158, 0, 5, 3, 172, 2, 54, 4, 3, 54, 5, 21, 5, 42, 180, 0, 199, 162, 0, 74, 42, 180, 0, 64]
abbrev dktX4_cut_3 : List UInt8 := dkwX4_cut_3 ++ dktX4_cut_4
def dkwX4_cut_2 : List UInt8 := [42, 180, 0, 55, 27, 46, 8, 160, 0, 7, 6, 167, 0, 4, 3, 181, 0, 87, 42, 180, 0, 87]
abbrev dktX4_cut_2 : List UInt8 := dkwX4_cut_2 ++ dktX4_cut_3
def dkwX4_cut_1 : List UInt8 := [17, 19, 136, 184, 0, 91, 154, 0, 7, 5, 167, 0, 29, 42, 180, 0, 49, 27, 52, 16, 98, 160, 0, 13]
abbrev dktX4_cut_1 : List UInt8 := dkwX4_cut_1 ++ dktX4_cut_2
def dkwX4_cut_0 : List UInt8 := [42, 42, 27, 182, 0, 168, 154, 0, 7, 4, 167, 0, 53, 28, 3, 5, 184, 0, 91, 153, 0, 14, 29, 4]
abbrev dktX4_cut_0 : List UInt8 := dkwX4_cut_0 ++ dktX4_cut_1
theorem dksX4_cut_0 : cX4_cut.data.toList.drop 0 = dktX4_cut_0 := by decide +kernel
theorem dksX4_cut_1 : cX4_cut.data.toList.drop 24 = dktX4_cut_1 := dk_seg dksX4_cut_0 24 rfl rfl
theorem dksX4_cut_2 : cX4_cut.data.toList.drop 48 = dktX4_cut_2 := dk_seg dksX4_cut_1 24 rfl rfl
theorem dksX4_cut_3 : cX4_cut.data.toList.drop 70 = dktX4_cut_3 := dk_seg dksX4_cut_2 22 rfl rfl
theorem dksX4_cut_4 : cX4_cut.data.toList.drop 94 = dktX4_cut_4 := dk_seg dksX4_cut_3 24 rfl rfl
theorem dksX4_cut_5 : cX4_cut.data.toList.drop 118 = dktX4_cut_5 := dk_seg dksX4_cut_4 24 rfl rfl
theorem dksX4_cut_6 : cX4_cut.data.toList.drop 140 = dktX4_cut_6 := dk_seg dksX4_cut_5 22 rfl rfl
theorem dksX4_cut_7 : cX4_cut.data.toList.drop 164 = dktX4_cut_7 := dk_seg dksX4_cut_6 24 rfl rfl
theorem dksX4_cut_8 : cX4_cut.data.toList.drop 188 = dktX4_cut_8 := dk_seg dksX4_cut_7 24 rfl rfl
theorem dksX4_cut_9 : cX4_cut.data.toList.drop 212 = dktX4_cut_9 := dk_seg dksX4_cut_8 24 rfl rfl
theorem dX4_cut_0 : decode cX4_cut 0 = .ok (.aload_n 0, 1) := dk_42 (dk_at dksX4_cut_0 0 rfl rfl)
theorem dX4_cut_1 : decode cX4_cut 1 = .ok (.aload_n 0, 1) := dk_42 (dk_at dksX4_cut_0 1 rfl rfl)
theorem dX4_cut_2 : decode cX4_cut 2 = .ok (.iload_n 1, 1) := dk_27 (dk_at dksX4_cut_0 2 rfl rfl)
theorem dX4_cut_3 : decode cX4_cut 3 = .ok (.invokevirtual 168, 3) := dk_182 0 168 (dk_at dksX4_cut_0 3 rfl rfl)
theorem dX4_cut_6 : decode cX4_cut 6 = .ok (.ifCond .ne 7, 3) := dk_154 0 7 (dk_at dksX4_cut_0 6 rfl rfl)
theorem dX4_cut_9 : decode cX4_cut 9 = .ok (.iconst 1, 1) := dk_4 (dk_at dksX4_cut_0 9 rfl rfl)
theorem dX4_cut_10 : decode cX4_cut 10 = .ok (.goto 53, 3) := dk_167 0 53 (dk_at dksX4_cut_0 10 rfl rfl)
theorem dX4_cut_13 : decode cX4_cut 13 = .ok (.iload_n 2, 1) := dk_28 (dk_at dksX4_cut_0 13 rfl rfl)
theorem dX4_cut_14 : decode cX4_cut 14 = .ok (.iconst 0, 1) := dk_3 (dk_at dksX4_cut_0 14 rfl rfl)
theorem dX4_cut_15 : decode cX4_cut 15 = .ok (.iconst 2, 1) := dk_5 (dk_at dksX4_cut_0 15 rfl rfl)
theorem dX4_cut_16 : decode cX4_cut 16 = .ok (.invokestatic 91, 3) := dk_184 0 91 (dk_at dksX4_cut_0 16 rfl rfl)
theorem dX4_cut_19 : decode cX4_cut 19 = .ok (.ifCond .eq 14, 3) := dk_153 0 14 (dk_at dksX4_cut_0 19 rfl rfl)
theorem dX4_cut_22 : decode cX4_cut 22 = .ok (.iload_n 3, 1) := dk_29 (dk_at dksX4_cut_0 22 rfl rfl)
theorem dX4_cut_23 : decode cX4_cut 23 = .ok (.iconst 1, 1) := dk_4 (dk_at dksX4_cut_0 23 rfl rfl)
theorem dX4_cut_24 : decode cX4_cut 24 = .ok (.sipush 5000, 3) := dk_17 19 136 (dk_at dksX4_cut_1 0 rfl rfl)
theorem dX4_cut_27 : decode cX4_cut 27 = .ok (.invokestatic 91, 3) := dk_184 0 91 (dk_at dksX4_cut_1 3 rfl rfl)
theorem dX4_cut_30 : decode cX4_cut 30 = .ok (.ifCond .ne 7, 3) := dk_154 0 7 (dk_at dksX4_cut_1 6 rfl rfl)
theorem dX4_cut_33 : decode cX4_cut 33 = .ok (.iconst 2, 1) := dk_5 (dk_at dksX4_cut_1 9 rfl rfl)
theorem dX4_cut_34 : decode cX4_cut 34 = .ok (.goto 29, 3) := dk_167 0 29 (dk_at dksX4_cut_1 10 rfl rfl)
theorem dX4_cut_37 : decode cX4_cut 37 = .ok (.aload_n 0, 1) := dk_42 (dk_at dksX4_cut_1 13 rfl rfl)
theorem dX4_cut_38 : decode cX4_cut 38 = .ok (.getfield 49, 3) := dk_180 0 49 (dk_at dksX4_cut_1 14 rfl rfl)
theorem dX4_cut_41 : decode cX4_cut 41 = .ok (.iload_n 1, 1) := dk_27 (dk_at dksX4_cut_1 17 rfl rfl)
theorem dX4_cut_42 : decode cX4_cut 42 = .ok (.caload, 1) := dk_52 (dk_at dksX4_cut_1 18 rfl rfl)
theorem dX4_cut_43 : decode cX4_cut 43 = .ok (.bipush 98, 2) := dk_16 98 (dk_at dksX4_cut_1 19 rfl rfl)
theorem dX4_cut_45 : decode cX4_cut 45 = .ok (.if_icmp .ne 13, 3) := dk_160 0 13 (dk_at dksX4_cut_1 21 rfl rfl)
theorem dX4_cut_48 : decode cX4_cut 48 = .ok (.aload_n 0, 1) := dk_42 (dk_at dksX4_cut_2 0 rfl rfl)
theorem dX4_cut_49 : decode cX4_cut 49 = .ok (.getfield 55, 3) := dk_180 0 55 (dk_at dksX4_cut_2 1 rfl rfl)
theorem dX4_cut_52 : decode cX4_cut 52 = .ok (.iload_n 1, 1) := dk_27 (dk_at dksX4_cut_2 4 rfl rfl)
theorem dX4_cut_53 : decode cX4_cut 53 = .ok (.iaload, 1) := dk_46 (dk_at dksX4_cut_2 5 rfl rfl)
theorem dX4_cut_54 : decode cX4_cut 54 = .ok (.iconst 5, 1) := dk_8 (dk_at dksX4_cut_2 6 rfl rfl)
theorem dX4_cut_55 : decode cX4_cut 55 = .ok (.if_icmp .ne 7, 3) := dk_160 0 7 (dk_at dksX4_cut_2 7 rfl rfl)
theorem dX4_cut_58 : decode cX4_cut 58 = .ok (.iconst 3, 1) := dk_6 (dk_at dksX4_cut_2 10 rfl rfl)
theorem dX4_cut_59 : decode cX4_cut 59 = .ok (.goto 4, 3) := dk_167 0 4 (dk_at dksX4_cut_2 11 rfl rfl)
theorem dX4_cut_62 : decode cX4_cut 62 = .ok (.iconst 0, 1) := dk_3 (dk_at dksX4_cut_2 14 rfl rfl)
theorem dX4_cut_63 : decode cX4_cut 63 = .ok (.putfield 87, 3) := dk_181 0 87 (dk_at dksX4_cut_2 15 rfl rfl)
theorem dX4_cut_66 : decode cX4_cut 66 = .ok (.aload_n 0, 1) := dk_42 (dk_at dksX4_cut_2 18 rfl rfl)
theorem dX4_cut_67 : decode cX4_cut 67 = .ok (.getfield 87, 3) := dk_180 0 87 (dk_at dksX4_cut_2 19 rfl rfl)
theorem dX4_cut_70 : decode cX4_cut 70 = .ok (.ifCond .le 5, 3) := dk_158 0 5 (dk_at dksX4_cut_3 0 rfl rfl)
theorem dX4_cut_73 : decode cX4_cut 73 = .ok (.iconst 0, 1) := dk_3 (dk_at dksX4_cut_3 3 rfl rfl)
theorem dX4_cut_74 : decode cX4_cut 74 = .ok (.ireturn, 1) := dk_172 (dk_at dksX4_cut_3 4 rfl rfl)
theorem dX4_cut_75 : decode cX4_cut 75 = .ok (.iconst (-1), 1) := dk_2 (dk_at dksX4_cut_3 5 rfl rfl)
theorem dX4_cut_76 : decode cX4_cut 76 = .ok (.istore 4, 2) := dk_54 4 (dk_at dksX4_cut_3 6 rfl rfl)
theorem dX4_cut_78 : decode cX4_cut 78 = .ok (.iconst 0, 1) := dk_3 (dk_at dksX4_cut_3 8 rfl rfl)
theorem dX4_cut_79 : decode cX4_cut 79 = .ok (.istore 5, 2) := dk_54 5 (dk_at dksX4_cut_3 9 rfl rfl)
theorem dX4_cut_81 : decode cX4_cut 81 = .ok (.iload 5, 2) := dk_21 5 (dk_at dksX4_cut_3 11 rfl rfl)
theorem dX4_cut_83 : decode cX4_cut 83 = .ok (.aload_n 0, 1) := dk_42 (dk_at dksX4_cut_3 13 rfl rfl)
theorem dX4_cut_84 : decode cX4_cut 84 = .ok (.getfield 199, 3) := dk_180 0 199 (dk_at dksX4_cut_3 14 rfl rfl)
theorem dX4_cut_87 : decode cX4_cut 87 = .ok (.if_icmp .ge 74, 3) := dk_162 0 74 (dk_at dksX4_cut_3 17 rfl rfl)
theorem dX4_cut_90 : decode cX4_cut 90 = .ok (.aload_n 0, 1) := dk_42 (dk_at dksX4_cut_3 20 rfl rfl)
theorem dX4_cut_91 : decode cX4_cut 91 = .ok (.getfield 64, 3) := dk_180 0 64 (dk_at dksX4_cut_3 21 rfl rfl)
theorem dX4_cut_94 : decode cX4_cut 94 = .ok (.iload 5, 2) := dk_21 5 (dk_at dksX4_cut_4 0 rfl rfl)
theorem dX4_cut_96 : decode cX4_cut 96 = .ok (.iaload, 1) := dk_46 (dk_at dksX4_cut_4 2 rfl rfl)
theorem dX4_cut_97 : decode cX4_cut 97 = .ok (.iload_n 2, 1) := dk_28 (dk_at dksX4_cut_4 3 rfl rfl)
theorem dX4_cut_98 : decode cX4_cut 98 = .ok (.if_icmp .ne 19, 3) := dk_160 0 19 (dk_at dksX4_cut_4 4 rfl rfl)
theorem dX4_cut_101 : decode cX4_cut 101 = .ok (.aload_n 0, 1) := dk_42 (dk_at dksX4_cut_4 7 rfl rfl)
theorem dX4_cut_102 : decode cX4_cut 102 = .ok (.iload 5, 2) := dk_21 5 (dk_at dksX4_cut_4 8 rfl rfl)
theorem dX4_cut_104 : decode cX4_cut 104 = .ok (.invokevirtual 202, 3) := dk_182 0 202 (dk_at dksX4_cut_4 10 rfl rfl)
theorem dX4_cut_107 : decode cX4_cut 107 = .ok (.iload_n 3, 1) := dk_29 (dk_at dksX4_cut_4 13 rfl rfl)
theorem dX4_cut_108 : decode cX4_cut 108 = .ok (.iconst 3, 1) := dk_6 (dk_at dksX4_cut_4 14 rfl rfl)
theorem dX4_cut_109 : decode cX4_cut 109 = .ok (.iadd, 1) := dk_96 (dk_at dksX4_cut_4 15 rfl rfl)
theorem dX4_cut_110 : decode cX4_cut 110 = .ok (.if_icmp .lt 7, 3) := dk_161 0 7 (dk_at dksX4_cut_4 16 rfl rfl)
theorem dX4_cut_113 : decode cX4_cut 113 = .ok (.iconst 1, 1) := dk_4 (dk_at dksX4_cut_4 19 rfl rfl)
theorem dX4_cut_114 : decode cX4_cut 114 = .ok (.goto 4, 3) := dk_167 0 4 (dk_at dksX4_cut_4 20 rfl rfl)
theorem dX4_cut_117 : decode cX4_cut 117 = .ok (.iconst 0, 1) := dk_3 (dk_at dksX4_cut_4 23 rfl rfl)
theorem dX4_cut_118 : decode cX4_cut 118 = .ok (.istore 6, 2) := dk_54 6 (dk_at dksX4_cut_5 0 rfl rfl)
theorem dX4_cut_120 : decode cX4_cut 120 = .ok (.iload 6, 2) := dk_21 6 (dk_at dksX4_cut_5 2 rfl rfl)
theorem dX4_cut_122 : decode cX4_cut 122 = .ok (.ifCond .eq 29, 3) := dk_153 0 29 (dk_at dksX4_cut_5 4 rfl rfl)
theorem dX4_cut_125 : decode cX4_cut 125 = .ok (.iload 4, 2) := dk_21 4 (dk_at dksX4_cut_5 7 rfl rfl)
theorem dX4_cut_127 : decode cX4_cut 127 = .ok (.iconst (-1), 1) := dk_2 (dk_at dksX4_cut_5 9 rfl rfl)
theorem dX4_cut_128 : decode cX4_cut 128 = .ok (.if_icmp .eq 18, 3) := dk_159 0 18 (dk_at dksX4_cut_5 10 rfl rfl)
theorem dX4_cut_131 : decode cX4_cut 131 = .ok (.aload_n 0, 1) := dk_42 (dk_at dksX4_cut_5 13 rfl rfl)
theorem dX4_cut_132 : decode cX4_cut 132 = .ok (.iload 5, 2) := dk_21 5 (dk_at dksX4_cut_5 14 rfl rfl)
theorem dX4_cut_134 : decode cX4_cut 134 = .ok (.invokevirtual 202, 3) := dk_182 0 202 (dk_at dksX4_cut_5 16 rfl rfl)
theorem dX4_cut_137 : decode cX4_cut 137 = .ok (.aload_n 0, 1) := dk_42 (dk_at dksX4_cut_5 19 rfl rfl)
theorem dX4_cut_138 : decode cX4_cut 138 = .ok (.iload 4, 2) := dk_21 4 (dk_at dksX4_cut_5 20 rfl rfl)
theorem dX4_cut_140 : decode cX4_cut 140 = .ok (.invokevirtual 202, 3) := dk_182 0 202 (dk_at dksX4_cut_6 0 rfl rfl)
theorem dX4_cut_143 : decode cX4_cut 143 = .ok (.if_icmp .ge 8, 3) := dk_162 0 8 (dk_at dksX4_cut_6 3 rfl rfl)
theorem dX4_cut_146 : decode cX4_cut 146 = .ok (.iload 5, 2) := dk_21 5 (dk_at dksX4_cut_6 6 rfl rfl)
theorem dX4_cut_148 : decode cX4_cut 148 = .ok (.goto 5, 3) := dk_167 0 5 (dk_at dksX4_cut_6 8 rfl rfl)
theorem dX4_cut_151 : decode cX4_cut 151 = .ok (.iload 4, 2) := dk_21 4 (dk_at dksX4_cut_6 11 rfl rfl)
theorem dX4_cut_153 : decode cX4_cut 153 = .ok (.istore 4, 2) := dk_54 4 (dk_at dksX4_cut_6 13 rfl rfl)
theorem dX4_cut_155 : decode cX4_cut 155 = .ok (.iinc 5 1, 3) := dk_132 5 1 (dk_at dksX4_cut_6 15 rfl rfl)
theorem dX4_cut_158 : decode cX4_cut 158 = .ok (.goto (-77), 3) := dk_167 255 179 (dk_at dksX4_cut_6 18 rfl rfl)
theorem dX4_cut_161 : decode cX4_cut 161 = .ok (.iload 4, 2) := dk_21 4 (dk_at dksX4_cut_6 21 rfl rfl)
theorem dX4_cut_163 : decode cX4_cut 163 = .ok (.iconst (-1), 1) := dk_2 (dk_at dksX4_cut_6 23 rfl rfl)
theorem dX4_cut_164 : decode cX4_cut 164 = .ok (.if_icmp .ne 9, 3) := dk_160 0 9 (dk_at dksX4_cut_7 0 rfl rfl)
theorem dX4_cut_167 : decode cX4_cut 167 = .ok (.aload_n 0, 1) := dk_42 (dk_at dksX4_cut_7 3 rfl rfl)
theorem dX4_cut_168 : decode cX4_cut 168 = .ok (.iconst 4, 1) := dk_7 (dk_at dksX4_cut_7 4 rfl rfl)
theorem dX4_cut_169 : decode cX4_cut 169 = .ok (.invokevirtual 108, 3) := dk_182 0 108 (dk_at dksX4_cut_7 5 rfl rfl)
theorem dX4_cut_172 : decode cX4_cut 172 = .ok (.ireturn, 1) := dk_172 (dk_at dksX4_cut_7 8 rfl rfl)
theorem dX4_cut_173 : decode cX4_cut 173 = .ok (.aload_n 0, 1) := dk_42 (dk_at dksX4_cut_7 9 rfl rfl)
theorem dX4_cut_174 : decode cX4_cut 174 = .ok (.getfield 58, 3) := dk_180 0 58 (dk_at dksX4_cut_7 10 rfl rfl)
theorem dX4_cut_177 : decode cX4_cut 177 = .ok (.iload_n 1, 1) := dk_27 (dk_at dksX4_cut_7 13 rfl rfl)
theorem dX4_cut_178 : decode cX4_cut 178 = .ok (.aaload, 1) := dk_50 (dk_at dksX4_cut_7 14 rfl rfl)
theorem dX4_cut_179 : decode cX4_cut 179 = .ok (.aload_n 0, 1) := dk_42 (dk_at dksX4_cut_7 15 rfl rfl)
theorem dX4_cut_180 : decode cX4_cut 180 = .ok (.getfield 55, 3) := dk_180 0 55 (dk_at dksX4_cut_7 16 rfl rfl)
theorem dX4_cut_183 : decode cX4_cut 183 = .ok (.iload_n 1, 1) := dk_27 (dk_at dksX4_cut_7 19 rfl rfl)
theorem dX4_cut_184 : decode cX4_cut 184 = .ok (.iaload, 1) := dk_46 (dk_at dksX4_cut_7 20 rfl rfl)
theorem dX4_cut_185 : decode cX4_cut 185 = .ok (.iload 4, 2) := dk_21 4 (dk_at dksX4_cut_7 21 rfl rfl)
theorem dX4_cut_187 : decode cX4_cut 187 = .ok (.iastore, 1) := dk_79 (dk_at dksX4_cut_7 23 rfl rfl)
theorem dX4_cut_188 : decode cX4_cut 188 = .ok (.aload_n 0, 1) := dk_42 (dk_at dksX4_cut_8 0 rfl rfl)
theorem dX4_cut_189 : decode cX4_cut 189 = .ok (.getfield 61, 3) := dk_180 0 61 (dk_at dksX4_cut_8 1 rfl rfl)
theorem dX4_cut_192 : decode cX4_cut 192 = .ok (.iload_n 1, 1) := dk_27 (dk_at dksX4_cut_8 4 rfl rfl)
theorem dX4_cut_193 : decode cX4_cut 193 = .ok (.aaload, 1) := dk_50 (dk_at dksX4_cut_8 5 rfl rfl)
theorem dX4_cut_194 : decode cX4_cut 194 = .ok (.aload_n 0, 1) := dk_42 (dk_at dksX4_cut_8 6 rfl rfl)
theorem dX4_cut_195 : decode cX4_cut 195 = .ok (.getfield 55, 3) := dk_180 0 55 (dk_at dksX4_cut_8 7 rfl rfl)
theorem dX4_cut_198 : decode cX4_cut 198 = .ok (.iload_n 1, 1) := dk_27 (dk_at dksX4_cut_8 10 rfl rfl)
theorem dX4_cut_199 : decode cX4_cut 199 = .ok (.iaload, 1) := dk_46 (dk_at dksX4_cut_8 11 rfl rfl)
theorem dX4_cut_200 : decode cX4_cut 200 = .ok (.iload_n 3, 1) := dk_29 (dk_at dksX4_cut_8 12 rfl rfl)
theorem dX4_cut_201 : decode cX4_cut 201 = .ok (.iastore, 1) := dk_79 (dk_at dksX4_cut_8 13 rfl rfl)
theorem dX4_cut_202 : decode cX4_cut 202 = .ok (.aload_n 0, 1) := dk_42 (dk_at dksX4_cut_8 14 rfl rfl)
theorem dX4_cut_203 : decode cX4_cut 203 = .ok (.getfield 55, 3) := dk_180 0 55 (dk_at dksX4_cut_8 15 rfl rfl)
theorem dX4_cut_206 : decode cX4_cut 206 = .ok (.iload_n 1, 1) := dk_27 (dk_at dksX4_cut_8 18 rfl rfl)
theorem dX4_cut_207 : decode cX4_cut 207 = .ok (.dup2, 1) := dk_92 (dk_at dksX4_cut_8 19 rfl rfl)
theorem dX4_cut_208 : decode cX4_cut 208 = .ok (.iaload, 1) := dk_46 (dk_at dksX4_cut_8 20 rfl rfl)
theorem dX4_cut_209 : decode cX4_cut 209 = .ok (.iconst 1, 1) := dk_4 (dk_at dksX4_cut_8 21 rfl rfl)
theorem dX4_cut_210 : decode cX4_cut 210 = .ok (.iadd, 1) := dk_96 (dk_at dksX4_cut_8 22 rfl rfl)
theorem dX4_cut_211 : decode cX4_cut 211 = .ok (.iastore, 1) := dk_79 (dk_at dksX4_cut_8 23 rfl rfl)
theorem dX4_cut_212 : decode cX4_cut 212 = .ok (.iload 4, 2) := dk_21 4 (dk_at dksX4_cut_9 0 rfl rfl)
theorem dX4_cut_214 : decode cX4_cut 214 = .ok (.ireturn, 1) := dk_172 (dk_at dksX4_cut_9 2 rfl rfl)
abbrev cX4_free : ByteArray := prog_14_method_48_code
def yX4_free : MethodName := ⟨RX4, "free", "(I)I"⟩
def dkwX4_free_4 : List UInt8 := [167, 255, 172, 28, 172]
abbrev dktX4_free_4 : List UInt8 := dkwX4_free_4 ++ []
def dkwX4_free_3 : List UInt8 := [29, 50, 21, 4, 46, 6, 96, 167, 0, 4, 3, 100, 61, 132, 4, 1, 167, 255, 189, 132, 3, 1]
abbrev dktX4_free_3 : List UInt8 := dkwX4_free_3 ++ dktX4_free_4
def dkwX4_free_2 : List UInt8 := [52, 16, 100, 160, 0, 40, 28, 42, 180, 0, 58, 29, 50, 21, 4, 46, 27, 160, 0, 17, 42, 180, 0, 61]
abbrev dktX4_free_2 : List UInt8 := dkwX4_free_2 ++ dktX4_free_3
def dkwX4_free_1 : List UInt8 := [180, 0, 55, 29, 46, 162, 0, 62, 42, 180, 0, 49, 29, 52, 16, 98, 159, 0, 14, 42, 180, 0, 49, 29]
abbrev dktX4_free_1 : List UInt8 := dkwX4_free_1 ++ dktX4_free_2
def dkwX4_free_0 : List UInt8 := [42, 180, 0, 67, 27, 46, 61, 3, 62, 29, 42, 180, 0, 101, 162, 0, 82, 3, 54, 4, 21, 4, 42]
abbrev dktX4_free_0 : List UInt8 := dkwX4_free_0 ++ dktX4_free_1
theorem dksX4_free_0 : cX4_free.data.toList.drop 0 = dktX4_free_0 := by decide +kernel
theorem dksX4_free_1 : cX4_free.data.toList.drop 23 = dktX4_free_1 := dk_seg dksX4_free_0 23 rfl rfl
theorem dksX4_free_2 : cX4_free.data.toList.drop 47 = dktX4_free_2 := dk_seg dksX4_free_1 24 rfl rfl
theorem dksX4_free_3 : cX4_free.data.toList.drop 71 = dktX4_free_3 := dk_seg dksX4_free_2 24 rfl rfl
theorem dksX4_free_4 : cX4_free.data.toList.drop 93 = dktX4_free_4 := dk_seg dksX4_free_3 22 rfl rfl
theorem dX4_free_0 : decode cX4_free 0 = .ok (.aload_n 0, 1) := dk_42 (dk_at dksX4_free_0 0 rfl rfl)
theorem dX4_free_1 : decode cX4_free 1 = .ok (.getfield 67, 3) := dk_180 0 67 (dk_at dksX4_free_0 1 rfl rfl)
theorem dX4_free_4 : decode cX4_free 4 = .ok (.iload_n 1, 1) := dk_27 (dk_at dksX4_free_0 4 rfl rfl)
theorem dX4_free_5 : decode cX4_free 5 = .ok (.iaload, 1) := dk_46 (dk_at dksX4_free_0 5 rfl rfl)
theorem dX4_free_6 : decode cX4_free 6 = .ok (.istore_n 2, 1) := dk_61 (dk_at dksX4_free_0 6 rfl rfl)
theorem dX4_free_7 : decode cX4_free 7 = .ok (.iconst 0, 1) := dk_3 (dk_at dksX4_free_0 7 rfl rfl)
theorem dX4_free_8 : decode cX4_free 8 = .ok (.istore_n 3, 1) := dk_62 (dk_at dksX4_free_0 8 rfl rfl)
theorem dX4_free_9 : decode cX4_free 9 = .ok (.iload_n 3, 1) := dk_29 (dk_at dksX4_free_0 9 rfl rfl)
theorem dX4_free_10 : decode cX4_free 10 = .ok (.aload_n 0, 1) := dk_42 (dk_at dksX4_free_0 10 rfl rfl)
theorem dX4_free_11 : decode cX4_free 11 = .ok (.getfield 101, 3) := dk_180 0 101 (dk_at dksX4_free_0 11 rfl rfl)
theorem dX4_free_14 : decode cX4_free 14 = .ok (.if_icmp .ge 82, 3) := dk_162 0 82 (dk_at dksX4_free_0 14 rfl rfl)
theorem dX4_free_17 : decode cX4_free 17 = .ok (.iconst 0, 1) := dk_3 (dk_at dksX4_free_0 17 rfl rfl)
theorem dX4_free_18 : decode cX4_free 18 = .ok (.istore 4, 2) := dk_54 4 (dk_at dksX4_free_0 18 rfl rfl)
theorem dX4_free_20 : decode cX4_free 20 = .ok (.iload 4, 2) := dk_21 4 (dk_at dksX4_free_0 20 rfl rfl)
theorem dX4_free_22 : decode cX4_free 22 = .ok (.aload_n 0, 1) := dk_42 (dk_at dksX4_free_0 22 rfl rfl)
theorem dX4_free_23 : decode cX4_free 23 = .ok (.getfield 55, 3) := dk_180 0 55 (dk_at dksX4_free_1 0 rfl rfl)
theorem dX4_free_26 : decode cX4_free 26 = .ok (.iload_n 3, 1) := dk_29 (dk_at dksX4_free_1 3 rfl rfl)
theorem dX4_free_27 : decode cX4_free 27 = .ok (.iaload, 1) := dk_46 (dk_at dksX4_free_1 4 rfl rfl)
theorem dX4_free_28 : decode cX4_free 28 = .ok (.if_icmp .ge 62, 3) := dk_162 0 62 (dk_at dksX4_free_1 5 rfl rfl)
theorem dX4_free_31 : decode cX4_free 31 = .ok (.aload_n 0, 1) := dk_42 (dk_at dksX4_free_1 8 rfl rfl)
theorem dX4_free_32 : decode cX4_free 32 = .ok (.getfield 49, 3) := dk_180 0 49 (dk_at dksX4_free_1 9 rfl rfl)
theorem dX4_free_35 : decode cX4_free 35 = .ok (.iload_n 3, 1) := dk_29 (dk_at dksX4_free_1 12 rfl rfl)
theorem dX4_free_36 : decode cX4_free 36 = .ok (.caload, 1) := dk_52 (dk_at dksX4_free_1 13 rfl rfl)
theorem dX4_free_37 : decode cX4_free 37 = .ok (.bipush 98, 2) := dk_16 98 (dk_at dksX4_free_1 14 rfl rfl)
theorem dX4_free_39 : decode cX4_free 39 = .ok (.if_icmp .eq 14, 3) := dk_159 0 14 (dk_at dksX4_free_1 16 rfl rfl)
theorem dX4_free_42 : decode cX4_free 42 = .ok (.aload_n 0, 1) := dk_42 (dk_at dksX4_free_1 19 rfl rfl)
theorem dX4_free_43 : decode cX4_free 43 = .ok (.getfield 49, 3) := dk_180 0 49 (dk_at dksX4_free_1 20 rfl rfl)
theorem dX4_free_46 : decode cX4_free 46 = .ok (.iload_n 3, 1) := dk_29 (dk_at dksX4_free_1 23 rfl rfl)
theorem dX4_free_47 : decode cX4_free 47 = .ok (.caload, 1) := dk_52 (dk_at dksX4_free_2 0 rfl rfl)
theorem dX4_free_48 : decode cX4_free 48 = .ok (.bipush 100, 2) := dk_16 100 (dk_at dksX4_free_2 1 rfl rfl)
theorem dX4_free_50 : decode cX4_free 50 = .ok (.if_icmp .ne 40, 3) := dk_160 0 40 (dk_at dksX4_free_2 3 rfl rfl)
theorem dX4_free_53 : decode cX4_free 53 = .ok (.iload_n 2, 1) := dk_28 (dk_at dksX4_free_2 6 rfl rfl)
theorem dX4_free_54 : decode cX4_free 54 = .ok (.aload_n 0, 1) := dk_42 (dk_at dksX4_free_2 7 rfl rfl)
theorem dX4_free_55 : decode cX4_free 55 = .ok (.getfield 58, 3) := dk_180 0 58 (dk_at dksX4_free_2 8 rfl rfl)
theorem dX4_free_58 : decode cX4_free 58 = .ok (.iload_n 3, 1) := dk_29 (dk_at dksX4_free_2 11 rfl rfl)
theorem dX4_free_59 : decode cX4_free 59 = .ok (.aaload, 1) := dk_50 (dk_at dksX4_free_2 12 rfl rfl)
theorem dX4_free_60 : decode cX4_free 60 = .ok (.iload 4, 2) := dk_21 4 (dk_at dksX4_free_2 13 rfl rfl)
theorem dX4_free_62 : decode cX4_free 62 = .ok (.iaload, 1) := dk_46 (dk_at dksX4_free_2 15 rfl rfl)
theorem dX4_free_63 : decode cX4_free 63 = .ok (.iload_n 1, 1) := dk_27 (dk_at dksX4_free_2 16 rfl rfl)
theorem dX4_free_64 : decode cX4_free 64 = .ok (.if_icmp .ne 17, 3) := dk_160 0 17 (dk_at dksX4_free_2 17 rfl rfl)
theorem dX4_free_67 : decode cX4_free 67 = .ok (.aload_n 0, 1) := dk_42 (dk_at dksX4_free_2 20 rfl rfl)
theorem dX4_free_68 : decode cX4_free 68 = .ok (.getfield 61, 3) := dk_180 0 61 (dk_at dksX4_free_2 21 rfl rfl)
theorem dX4_free_71 : decode cX4_free 71 = .ok (.iload_n 3, 1) := dk_29 (dk_at dksX4_free_3 0 rfl rfl)
theorem dX4_free_72 : decode cX4_free 72 = .ok (.aaload, 1) := dk_50 (dk_at dksX4_free_3 1 rfl rfl)
theorem dX4_free_73 : decode cX4_free 73 = .ok (.iload 4, 2) := dk_21 4 (dk_at dksX4_free_3 2 rfl rfl)
theorem dX4_free_75 : decode cX4_free 75 = .ok (.iaload, 1) := dk_46 (dk_at dksX4_free_3 4 rfl rfl)
theorem dX4_free_76 : decode cX4_free 76 = .ok (.iconst 3, 1) := dk_6 (dk_at dksX4_free_3 5 rfl rfl)
theorem dX4_free_77 : decode cX4_free 77 = .ok (.iadd, 1) := dk_96 (dk_at dksX4_free_3 6 rfl rfl)
theorem dX4_free_78 : decode cX4_free 78 = .ok (.goto 4, 3) := dk_167 0 4 (dk_at dksX4_free_3 7 rfl rfl)
theorem dX4_free_81 : decode cX4_free 81 = .ok (.iconst 0, 1) := dk_3 (dk_at dksX4_free_3 10 rfl rfl)
theorem dX4_free_82 : decode cX4_free 82 = .ok (.isub, 1) := dk_100 (dk_at dksX4_free_3 11 rfl rfl)
theorem dX4_free_83 : decode cX4_free 83 = .ok (.istore_n 2, 1) := dk_61 (dk_at dksX4_free_3 12 rfl rfl)
theorem dX4_free_84 : decode cX4_free 84 = .ok (.iinc 4 1, 3) := dk_132 4 1 (dk_at dksX4_free_3 13 rfl rfl)
theorem dX4_free_87 : decode cX4_free 87 = .ok (.goto (-67), 3) := dk_167 255 189 (dk_at dksX4_free_3 16 rfl rfl)
theorem dX4_free_90 : decode cX4_free 90 = .ok (.iinc 3 1, 3) := dk_132 3 1 (dk_at dksX4_free_3 19 rfl rfl)
theorem dX4_free_93 : decode cX4_free 93 = .ok (.goto (-84), 3) := dk_167 255 172 (dk_at dksX4_free_4 0 rfl rfl)
theorem dX4_free_96 : decode cX4_free 96 = .ok (.iload_n 2, 1) := dk_28 (dk_at dksX4_free_4 3 rfl rfl)
theorem dX4_free_97 : decode cX4_free 97 = .ok (.ireturn, 1) := dk_172 (dk_at dksX4_free_4 4 rfl rfl)
abbrev cX4_freeOf : ByteArray := prog_14_method_50_code
def yX4_freeOf : MethodName := ⟨RX4, "freeOf", "(I)I"⟩
def dkwX4_freeOf_1 : List UInt8 := [180, 0, 87, 158, 0, 7, 3, 167, 0, 8, 42, 27, 182, 0, 202, 172]
abbrev dktX4_freeOf_1 : List UInt8 := dkwX4_freeOf_1 ++ []
def dkwX4_freeOf_0 : List UInt8 := [42, 27, 3, 42, 180, 0, 199, 4, 100, 184, 0, 91, 153, 0, 7, 3, 167, 0, 4, 4, 181, 0, 87, 42]
abbrev dktX4_freeOf_0 : List UInt8 := dkwX4_freeOf_0 ++ dktX4_freeOf_1
theorem dksX4_freeOf_0 : cX4_freeOf.data.toList.drop 0 = dktX4_freeOf_0 := by decide +kernel
theorem dksX4_freeOf_1 : cX4_freeOf.data.toList.drop 24 = dktX4_freeOf_1 := dk_seg dksX4_freeOf_0 24 rfl rfl
theorem dX4_freeOf_0 : decode cX4_freeOf 0 = .ok (.aload_n 0, 1) := dk_42 (dk_at dksX4_freeOf_0 0 rfl rfl)
theorem dX4_freeOf_1 : decode cX4_freeOf 1 = .ok (.iload_n 1, 1) := dk_27 (dk_at dksX4_freeOf_0 1 rfl rfl)
theorem dX4_freeOf_2 : decode cX4_freeOf 2 = .ok (.iconst 0, 1) := dk_3 (dk_at dksX4_freeOf_0 2 rfl rfl)
theorem dX4_freeOf_3 : decode cX4_freeOf 3 = .ok (.aload_n 0, 1) := dk_42 (dk_at dksX4_freeOf_0 3 rfl rfl)
theorem dX4_freeOf_4 : decode cX4_freeOf 4 = .ok (.getfield 199, 3) := dk_180 0 199 (dk_at dksX4_freeOf_0 4 rfl rfl)
theorem dX4_freeOf_7 : decode cX4_freeOf 7 = .ok (.iconst 1, 1) := dk_4 (dk_at dksX4_freeOf_0 7 rfl rfl)
theorem dX4_freeOf_8 : decode cX4_freeOf 8 = .ok (.isub, 1) := dk_100 (dk_at dksX4_freeOf_0 8 rfl rfl)
theorem dX4_freeOf_9 : decode cX4_freeOf 9 = .ok (.invokestatic 91, 3) := dk_184 0 91 (dk_at dksX4_freeOf_0 9 rfl rfl)
theorem dX4_freeOf_12 : decode cX4_freeOf 12 = .ok (.ifCond .eq 7, 3) := dk_153 0 7 (dk_at dksX4_freeOf_0 12 rfl rfl)
theorem dX4_freeOf_15 : decode cX4_freeOf 15 = .ok (.iconst 0, 1) := dk_3 (dk_at dksX4_freeOf_0 15 rfl rfl)
theorem dX4_freeOf_16 : decode cX4_freeOf 16 = .ok (.goto 4, 3) := dk_167 0 4 (dk_at dksX4_freeOf_0 16 rfl rfl)
theorem dX4_freeOf_19 : decode cX4_freeOf 19 = .ok (.iconst 1, 1) := dk_4 (dk_at dksX4_freeOf_0 19 rfl rfl)
theorem dX4_freeOf_20 : decode cX4_freeOf 20 = .ok (.putfield 87, 3) := dk_181 0 87 (dk_at dksX4_freeOf_0 20 rfl rfl)
theorem dX4_freeOf_23 : decode cX4_freeOf 23 = .ok (.aload_n 0, 1) := dk_42 (dk_at dksX4_freeOf_0 23 rfl rfl)
theorem dX4_freeOf_24 : decode cX4_freeOf 24 = .ok (.getfield 87, 3) := dk_180 0 87 (dk_at dksX4_freeOf_1 0 rfl rfl)
theorem dX4_freeOf_27 : decode cX4_freeOf 27 = .ok (.ifCond .le 7, 3) := dk_158 0 7 (dk_at dksX4_freeOf_1 3 rfl rfl)
theorem dX4_freeOf_30 : decode cX4_freeOf 30 = .ok (.iconst 0, 1) := dk_3 (dk_at dksX4_freeOf_1 6 rfl rfl)
theorem dX4_freeOf_31 : decode cX4_freeOf 31 = .ok (.goto 8, 3) := dk_167 0 8 (dk_at dksX4_freeOf_1 7 rfl rfl)
theorem dX4_freeOf_34 : decode cX4_freeOf 34 = .ok (.aload_n 0, 1) := dk_42 (dk_at dksX4_freeOf_1 10 rfl rfl)
theorem dX4_freeOf_35 : decode cX4_freeOf 35 = .ok (.iload_n 1, 1) := dk_27 (dk_at dksX4_freeOf_1 11 rfl rfl)
theorem dX4_freeOf_36 : decode cX4_freeOf 36 = .ok (.invokevirtual 202, 3) := dk_182 0 202 (dk_at dksX4_freeOf_1 12 rfl rfl)
theorem dX4_freeOf_39 : decode cX4_freeOf 39 = .ok (.ireturn, 1) := dk_172 (dk_at dksX4_freeOf_1 15 rfl rfl)
abbrev cX4_freeByCuts : ByteArray := prog_14_method_51_code
def yX4_freeByCuts : MethodName := ⟨RX4, "freeByCuts", "(I)I"⟩
def dkwX4_freeByCuts_0 : List UInt8 := [42, 27, 182, 0, 205, 172]
abbrev dktX4_freeByCuts_0 : List UInt8 := dkwX4_freeByCuts_0 ++ []
theorem dksX4_freeByCuts_0 : cX4_freeByCuts.data.toList.drop 0 = dktX4_freeByCuts_0 := by decide +kernel
theorem dX4_freeByCuts_0 : decode cX4_freeByCuts 0 = .ok (.aload_n 0, 1) := dk_42 (dk_at dksX4_freeByCuts_0 0 rfl rfl)
theorem dX4_freeByCuts_1 : decode cX4_freeByCuts 1 = .ok (.iload_n 1, 1) := dk_27 (dk_at dksX4_freeByCuts_0 1 rfl rfl)
theorem dX4_freeByCuts_2 : decode cX4_freeByCuts 2 = .ok (.invokevirtual 205, 3) := dk_182 0 205 (dk_at dksX4_freeByCuts_0 2 rfl rfl)
theorem dX4_freeByCuts_5 : decode cX4_freeByCuts 5 = .ok (.ireturn, 1) := dk_172 (dk_at dksX4_freeByCuts_0 5 rfl rfl)
abbrev cX4_setPrice : ByteArray := prog_14_method_52_code
def yX4_setPrice : MethodName := ⟨RX4, "setPrice", "(II)I"⟩
def dkwX4_setPrice_2 : List UInt8 := [27, 28, 79, 29, 172]
abbrev dktX4_setPrice_2 : List UInt8 := dkwX4_setPrice_2 ++ []
def dkwX4_setPrice_1 : List UInt8 := [4, 181, 0, 87, 42, 180, 0, 87, 158, 0, 5, 3, 172, 42, 180, 0, 70, 27, 46, 62, 42, 180, 0, 70]
abbrev dktX4_setPrice_1 : List UInt8 := dkwX4_setPrice_1 ++ dktX4_setPrice_2
def dkwX4_setPrice_0 : List UInt8 := [42, 27, 3, 5, 184, 0, 91, 153, 0, 17, 28, 3, 16, 99, 184, 0, 91, 153, 0, 7, 3, 167, 0, 4]
abbrev dktX4_setPrice_0 : List UInt8 := dkwX4_setPrice_0 ++ dktX4_setPrice_1
theorem dksX4_setPrice_0 : cX4_setPrice.data.toList.drop 0 = dktX4_setPrice_0 := by decide +kernel
theorem dksX4_setPrice_1 : cX4_setPrice.data.toList.drop 24 = dktX4_setPrice_1 := dk_seg dksX4_setPrice_0 24 rfl rfl
theorem dksX4_setPrice_2 : cX4_setPrice.data.toList.drop 48 = dktX4_setPrice_2 := dk_seg dksX4_setPrice_1 24 rfl rfl
theorem dX4_setPrice_0 : decode cX4_setPrice 0 = .ok (.aload_n 0, 1) := dk_42 (dk_at dksX4_setPrice_0 0 rfl rfl)
theorem dX4_setPrice_1 : decode cX4_setPrice 1 = .ok (.iload_n 1, 1) := dk_27 (dk_at dksX4_setPrice_0 1 rfl rfl)
theorem dX4_setPrice_2 : decode cX4_setPrice 2 = .ok (.iconst 0, 1) := dk_3 (dk_at dksX4_setPrice_0 2 rfl rfl)
theorem dX4_setPrice_3 : decode cX4_setPrice 3 = .ok (.iconst 2, 1) := dk_5 (dk_at dksX4_setPrice_0 3 rfl rfl)
theorem dX4_setPrice_4 : decode cX4_setPrice 4 = .ok (.invokestatic 91, 3) := dk_184 0 91 (dk_at dksX4_setPrice_0 4 rfl rfl)
theorem dX4_setPrice_7 : decode cX4_setPrice 7 = .ok (.ifCond .eq 17, 3) := dk_153 0 17 (dk_at dksX4_setPrice_0 7 rfl rfl)
theorem dX4_setPrice_10 : decode cX4_setPrice 10 = .ok (.iload_n 2, 1) := dk_28 (dk_at dksX4_setPrice_0 10 rfl rfl)
theorem dX4_setPrice_11 : decode cX4_setPrice 11 = .ok (.iconst 0, 1) := dk_3 (dk_at dksX4_setPrice_0 11 rfl rfl)
theorem dX4_setPrice_12 : decode cX4_setPrice 12 = .ok (.bipush 99, 2) := dk_16 99 (dk_at dksX4_setPrice_0 12 rfl rfl)
theorem dX4_setPrice_14 : decode cX4_setPrice 14 = .ok (.invokestatic 91, 3) := dk_184 0 91 (dk_at dksX4_setPrice_0 14 rfl rfl)
theorem dX4_setPrice_17 : decode cX4_setPrice 17 = .ok (.ifCond .eq 7, 3) := dk_153 0 7 (dk_at dksX4_setPrice_0 17 rfl rfl)
theorem dX4_setPrice_20 : decode cX4_setPrice 20 = .ok (.iconst 0, 1) := dk_3 (dk_at dksX4_setPrice_0 20 rfl rfl)
theorem dX4_setPrice_21 : decode cX4_setPrice 21 = .ok (.goto 4, 3) := dk_167 0 4 (dk_at dksX4_setPrice_0 21 rfl rfl)
theorem dX4_setPrice_24 : decode cX4_setPrice 24 = .ok (.iconst 1, 1) := dk_4 (dk_at dksX4_setPrice_1 0 rfl rfl)
theorem dX4_setPrice_25 : decode cX4_setPrice 25 = .ok (.putfield 87, 3) := dk_181 0 87 (dk_at dksX4_setPrice_1 1 rfl rfl)
theorem dX4_setPrice_28 : decode cX4_setPrice 28 = .ok (.aload_n 0, 1) := dk_42 (dk_at dksX4_setPrice_1 4 rfl rfl)
theorem dX4_setPrice_29 : decode cX4_setPrice 29 = .ok (.getfield 87, 3) := dk_180 0 87 (dk_at dksX4_setPrice_1 5 rfl rfl)
theorem dX4_setPrice_32 : decode cX4_setPrice 32 = .ok (.ifCond .le 5, 3) := dk_158 0 5 (dk_at dksX4_setPrice_1 8 rfl rfl)
theorem dX4_setPrice_35 : decode cX4_setPrice 35 = .ok (.iconst 0, 1) := dk_3 (dk_at dksX4_setPrice_1 11 rfl rfl)
theorem dX4_setPrice_36 : decode cX4_setPrice 36 = .ok (.ireturn, 1) := dk_172 (dk_at dksX4_setPrice_1 12 rfl rfl)
theorem dX4_setPrice_37 : decode cX4_setPrice 37 = .ok (.aload_n 0, 1) := dk_42 (dk_at dksX4_setPrice_1 13 rfl rfl)
theorem dX4_setPrice_38 : decode cX4_setPrice 38 = .ok (.getfield 70, 3) := dk_180 0 70 (dk_at dksX4_setPrice_1 14 rfl rfl)
theorem dX4_setPrice_41 : decode cX4_setPrice 41 = .ok (.iload_n 1, 1) := dk_27 (dk_at dksX4_setPrice_1 17 rfl rfl)
theorem dX4_setPrice_42 : decode cX4_setPrice 42 = .ok (.iaload, 1) := dk_46 (dk_at dksX4_setPrice_1 18 rfl rfl)
theorem dX4_setPrice_43 : decode cX4_setPrice 43 = .ok (.istore_n 3, 1) := dk_62 (dk_at dksX4_setPrice_1 19 rfl rfl)
theorem dX4_setPrice_44 : decode cX4_setPrice 44 = .ok (.aload_n 0, 1) := dk_42 (dk_at dksX4_setPrice_1 20 rfl rfl)
theorem dX4_setPrice_45 : decode cX4_setPrice 45 = .ok (.getfield 70, 3) := dk_180 0 70 (dk_at dksX4_setPrice_1 21 rfl rfl)
theorem dX4_setPrice_48 : decode cX4_setPrice 48 = .ok (.iload_n 1, 1) := dk_27 (dk_at dksX4_setPrice_2 0 rfl rfl)
theorem dX4_setPrice_49 : decode cX4_setPrice 49 = .ok (.iload_n 2, 1) := dk_28 (dk_at dksX4_setPrice_2 1 rfl rfl)
theorem dX4_setPrice_50 : decode cX4_setPrice 50 = .ok (.iastore, 1) := dk_79 (dk_at dksX4_setPrice_2 2 rfl rfl)
theorem dX4_setPrice_51 : decode cX4_setPrice 51 = .ok (.iload_n 3, 1) := dk_29 (dk_at dksX4_setPrice_2 3 rfl rfl)
theorem dX4_setPrice_52 : decode cX4_setPrice 52 = .ok (.ireturn, 1) := dk_172 (dk_at dksX4_setPrice_2 4 rfl rfl)
abbrev cX4_setRate : ByteArray := prog_14_method_54_code
def yX4_setRate : MethodName := ⟨RX4, "setRate", "(II)I"⟩
def dkwX4_setRate_2 : List UInt8 := [50, 3, 28, 79, 42, 180, 0, 81, 27, 4, 79, 29, 172]
abbrev dktX4_setRate_2 : List UInt8 := dkwX4_setRate_2 ++ []
def dkwX4_setRate_1 : List UInt8 := [181, 0, 87, 42, 180, 0, 87, 158, 0, 5, 3, 172, 42, 180, 0, 81, 27, 46, 62, 42, 180, 0, 78, 27]
abbrev dktX4_setRate_1 : List UInt8 := dkwX4_setRate_1 ++ dktX4_setRate_2
def dkwX4_setRate_0 : List UInt8 := [42, 27, 184, 0, 104, 153, 0, 17, 28, 3, 16, 99, 184, 0, 91, 153, 0, 7, 3, 167, 0, 4, 4]
abbrev dktX4_setRate_0 : List UInt8 := dkwX4_setRate_0 ++ dktX4_setRate_1
theorem dksX4_setRate_0 : cX4_setRate.data.toList.drop 0 = dktX4_setRate_0 := by decide +kernel
theorem dksX4_setRate_1 : cX4_setRate.data.toList.drop 23 = dktX4_setRate_1 := dk_seg dksX4_setRate_0 23 rfl rfl
theorem dksX4_setRate_2 : cX4_setRate.data.toList.drop 47 = dktX4_setRate_2 := dk_seg dksX4_setRate_1 24 rfl rfl
theorem dX4_setRate_0 : decode cX4_setRate 0 = .ok (.aload_n 0, 1) := dk_42 (dk_at dksX4_setRate_0 0 rfl rfl)
theorem dX4_setRate_1 : decode cX4_setRate 1 = .ok (.iload_n 1, 1) := dk_27 (dk_at dksX4_setRate_0 1 rfl rfl)
theorem dX4_setRate_2 : decode cX4_setRate 2 = .ok (.invokestatic 104, 3) := dk_184 0 104 (dk_at dksX4_setRate_0 2 rfl rfl)
theorem dX4_setRate_5 : decode cX4_setRate 5 = .ok (.ifCond .eq 17, 3) := dk_153 0 17 (dk_at dksX4_setRate_0 5 rfl rfl)
theorem dX4_setRate_8 : decode cX4_setRate 8 = .ok (.iload_n 2, 1) := dk_28 (dk_at dksX4_setRate_0 8 rfl rfl)
theorem dX4_setRate_9 : decode cX4_setRate 9 = .ok (.iconst 0, 1) := dk_3 (dk_at dksX4_setRate_0 9 rfl rfl)
theorem dX4_setRate_10 : decode cX4_setRate 10 = .ok (.bipush 99, 2) := dk_16 99 (dk_at dksX4_setRate_0 10 rfl rfl)
theorem dX4_setRate_12 : decode cX4_setRate 12 = .ok (.invokestatic 91, 3) := dk_184 0 91 (dk_at dksX4_setRate_0 12 rfl rfl)
theorem dX4_setRate_15 : decode cX4_setRate 15 = .ok (.ifCond .eq 7, 3) := dk_153 0 7 (dk_at dksX4_setRate_0 15 rfl rfl)
theorem dX4_setRate_18 : decode cX4_setRate 18 = .ok (.iconst 0, 1) := dk_3 (dk_at dksX4_setRate_0 18 rfl rfl)
theorem dX4_setRate_19 : decode cX4_setRate 19 = .ok (.goto 4, 3) := dk_167 0 4 (dk_at dksX4_setRate_0 19 rfl rfl)
theorem dX4_setRate_22 : decode cX4_setRate 22 = .ok (.iconst 1, 1) := dk_4 (dk_at dksX4_setRate_0 22 rfl rfl)
theorem dX4_setRate_23 : decode cX4_setRate 23 = .ok (.putfield 87, 3) := dk_181 0 87 (dk_at dksX4_setRate_1 0 rfl rfl)
theorem dX4_setRate_26 : decode cX4_setRate 26 = .ok (.aload_n 0, 1) := dk_42 (dk_at dksX4_setRate_1 3 rfl rfl)
theorem dX4_setRate_27 : decode cX4_setRate 27 = .ok (.getfield 87, 3) := dk_180 0 87 (dk_at dksX4_setRate_1 4 rfl rfl)
theorem dX4_setRate_30 : decode cX4_setRate 30 = .ok (.ifCond .le 5, 3) := dk_158 0 5 (dk_at dksX4_setRate_1 7 rfl rfl)
theorem dX4_setRate_33 : decode cX4_setRate 33 = .ok (.iconst 0, 1) := dk_3 (dk_at dksX4_setRate_1 10 rfl rfl)
theorem dX4_setRate_34 : decode cX4_setRate 34 = .ok (.ireturn, 1) := dk_172 (dk_at dksX4_setRate_1 11 rfl rfl)
theorem dX4_setRate_35 : decode cX4_setRate 35 = .ok (.aload_n 0, 1) := dk_42 (dk_at dksX4_setRate_1 12 rfl rfl)
theorem dX4_setRate_36 : decode cX4_setRate 36 = .ok (.getfield 81, 3) := dk_180 0 81 (dk_at dksX4_setRate_1 13 rfl rfl)
theorem dX4_setRate_39 : decode cX4_setRate 39 = .ok (.iload_n 1, 1) := dk_27 (dk_at dksX4_setRate_1 16 rfl rfl)
theorem dX4_setRate_40 : decode cX4_setRate 40 = .ok (.iaload, 1) := dk_46 (dk_at dksX4_setRate_1 17 rfl rfl)
theorem dX4_setRate_41 : decode cX4_setRate 41 = .ok (.istore_n 3, 1) := dk_62 (dk_at dksX4_setRate_1 18 rfl rfl)
theorem dX4_setRate_42 : decode cX4_setRate 42 = .ok (.aload_n 0, 1) := dk_42 (dk_at dksX4_setRate_1 19 rfl rfl)
theorem dX4_setRate_43 : decode cX4_setRate 43 = .ok (.getfield 78, 3) := dk_180 0 78 (dk_at dksX4_setRate_1 20 rfl rfl)
theorem dX4_setRate_46 : decode cX4_setRate 46 = .ok (.iload_n 1, 1) := dk_27 (dk_at dksX4_setRate_1 23 rfl rfl)
theorem dX4_setRate_47 : decode cX4_setRate 47 = .ok (.aaload, 1) := dk_50 (dk_at dksX4_setRate_2 0 rfl rfl)
theorem dX4_setRate_48 : decode cX4_setRate 48 = .ok (.iconst 0, 1) := dk_3 (dk_at dksX4_setRate_2 1 rfl rfl)
theorem dX4_setRate_49 : decode cX4_setRate 49 = .ok (.iload_n 2, 1) := dk_28 (dk_at dksX4_setRate_2 2 rfl rfl)
theorem dX4_setRate_50 : decode cX4_setRate 50 = .ok (.iastore, 1) := dk_79 (dk_at dksX4_setRate_2 3 rfl rfl)
theorem dX4_setRate_51 : decode cX4_setRate 51 = .ok (.aload_n 0, 1) := dk_42 (dk_at dksX4_setRate_2 4 rfl rfl)
theorem dX4_setRate_52 : decode cX4_setRate 52 = .ok (.getfield 81, 3) := dk_180 0 81 (dk_at dksX4_setRate_2 5 rfl rfl)
theorem dX4_setRate_55 : decode cX4_setRate 55 = .ok (.iload_n 1, 1) := dk_27 (dk_at dksX4_setRate_2 8 rfl rfl)
theorem dX4_setRate_56 : decode cX4_setRate 56 = .ok (.iconst 1, 1) := dk_4 (dk_at dksX4_setRate_2 9 rfl rfl)
theorem dX4_setRate_57 : decode cX4_setRate 57 = .ok (.iastore, 1) := dk_79 (dk_at dksX4_setRate_2 10 rfl rfl)
theorem dX4_setRate_58 : decode cX4_setRate 58 = .ok (.iload_n 3, 1) := dk_29 (dk_at dksX4_setRate_2 11 rfl rfl)
theorem dX4_setRate_59 : decode cX4_setRate 59 = .ok (.ireturn, 1) := dk_172 (dk_at dksX4_setRate_2 12 rfl rfl)
abbrev cX4_addFee : ByteArray := prog_14_method_56_code
def yX4_addFee : MethodName := ⟨RX4, "addFee", "(II)I"⟩
def dkwX4_addFee_0 : List UInt8 := [42, 27, 16, 102, 28, 17, 3, 231, 182, 0, 216, 172]
abbrev dktX4_addFee_0 : List UInt8 := dkwX4_addFee_0 ++ []
theorem dksX4_addFee_0 : cX4_addFee.data.toList.drop 0 = dktX4_addFee_0 := by decide +kernel
theorem dX4_addFee_0 : decode cX4_addFee 0 = .ok (.aload_n 0, 1) := dk_42 (dk_at dksX4_addFee_0 0 rfl rfl)
theorem dX4_addFee_1 : decode cX4_addFee 1 = .ok (.iload_n 1, 1) := dk_27 (dk_at dksX4_addFee_0 1 rfl rfl)
theorem dX4_addFee_2 : decode cX4_addFee 2 = .ok (.bipush 102, 2) := dk_16 102 (dk_at dksX4_addFee_0 2 rfl rfl)
theorem dX4_addFee_4 : decode cX4_addFee 4 = .ok (.iload_n 2, 1) := dk_28 (dk_at dksX4_addFee_0 4 rfl rfl)
theorem dX4_addFee_5 : decode cX4_addFee 5 = .ok (.sipush 999, 3) := dk_17 3 231 (dk_at dksX4_addFee_0 5 rfl rfl)
theorem dX4_addFee_8 : decode cX4_addFee 8 = .ok (.invokevirtual 216, 3) := dk_182 0 216 (dk_at dksX4_addFee_0 8 rfl rfl)
theorem dX4_addFee_11 : decode cX4_addFee 11 = .ok (.ireturn, 1) := dk_172 (dk_at dksX4_addFee_0 11 rfl rfl)
abbrev cX4_lays : ByteArray := prog_14_method_55_code
def yX4_lays : MethodName := ⟨RX4, "lays", "(ICII)I"⟩
def dkwX4_lays_4 : List UInt8 := [46, 172]
abbrev dktX4_lays_4 : List UInt8 := dkwX4_lays_4 ++ []
def dkwX4_lays_3 : List UInt8 := [50, 42, 180, 0, 81, 27, 46, 29, 79, 42, 180, 0, 81, 27, 92, 46, 4, 96, 79, 42, 180, 0, 81, 27]
abbrev dktX4_lays_3 : List UInt8 := dkwX4_lays_3 ++ dktX4_lays_4
def dkwX4_lays_2 : List UInt8 := [158, 0, 5, 3, 172, 42, 180, 0, 75, 27, 50, 42, 180, 0, 81, 27, 46, 28, 85, 42, 180, 0, 78, 27]
abbrev dktX4_lays_2 : List UInt8 := dkwX4_lays_2 ++ dktX4_lays_3
def dkwX4_lays_1 : List UInt8 := [180, 0, 81, 27, 46, 16, 6, 160, 0, 7, 5, 167, 0, 4, 3, 181, 0, 87, 42, 180, 0, 87]
abbrev dktX4_lays_1 : List UInt8 := dkwX4_lays_1 ++ dktX4_lays_2
def dkwX4_lays_0 : List UInt8 := [42, 27, 184, 0, 104, 153, 0, 13, 29, 3, 21, 4, 184, 0, 91, 154, 0, 7, 4, 167, 0, 19, 42]
abbrev dktX4_lays_0 : List UInt8 := dkwX4_lays_0 ++ dktX4_lays_1
theorem dksX4_lays_0 : cX4_lays.data.toList.drop 0 = dktX4_lays_0 := by decide +kernel
theorem dksX4_lays_1 : cX4_lays.data.toList.drop 23 = dktX4_lays_1 := dk_seg dksX4_lays_0 23 rfl rfl
theorem dksX4_lays_2 : cX4_lays.data.toList.drop 45 = dktX4_lays_2 := dk_seg dksX4_lays_1 22 rfl rfl
theorem dksX4_lays_3 : cX4_lays.data.toList.drop 69 = dktX4_lays_3 := dk_seg dksX4_lays_2 24 rfl rfl
theorem dksX4_lays_4 : cX4_lays.data.toList.drop 93 = dktX4_lays_4 := dk_seg dksX4_lays_3 24 rfl rfl
theorem dX4_lays_0 : decode cX4_lays 0 = .ok (.aload_n 0, 1) := dk_42 (dk_at dksX4_lays_0 0 rfl rfl)
theorem dX4_lays_1 : decode cX4_lays 1 = .ok (.iload_n 1, 1) := dk_27 (dk_at dksX4_lays_0 1 rfl rfl)
theorem dX4_lays_2 : decode cX4_lays 2 = .ok (.invokestatic 104, 3) := dk_184 0 104 (dk_at dksX4_lays_0 2 rfl rfl)
theorem dX4_lays_5 : decode cX4_lays 5 = .ok (.ifCond .eq 13, 3) := dk_153 0 13 (dk_at dksX4_lays_0 5 rfl rfl)
theorem dX4_lays_8 : decode cX4_lays 8 = .ok (.iload_n 3, 1) := dk_29 (dk_at dksX4_lays_0 8 rfl rfl)
theorem dX4_lays_9 : decode cX4_lays 9 = .ok (.iconst 0, 1) := dk_3 (dk_at dksX4_lays_0 9 rfl rfl)
theorem dX4_lays_10 : decode cX4_lays 10 = .ok (.iload 4, 2) := dk_21 4 (dk_at dksX4_lays_0 10 rfl rfl)
theorem dX4_lays_12 : decode cX4_lays 12 = .ok (.invokestatic 91, 3) := dk_184 0 91 (dk_at dksX4_lays_0 12 rfl rfl)
theorem dX4_lays_15 : decode cX4_lays 15 = .ok (.ifCond .ne 7, 3) := dk_154 0 7 (dk_at dksX4_lays_0 15 rfl rfl)
theorem dX4_lays_18 : decode cX4_lays 18 = .ok (.iconst 1, 1) := dk_4 (dk_at dksX4_lays_0 18 rfl rfl)
theorem dX4_lays_19 : decode cX4_lays 19 = .ok (.goto 19, 3) := dk_167 0 19 (dk_at dksX4_lays_0 19 rfl rfl)
theorem dX4_lays_22 : decode cX4_lays 22 = .ok (.aload_n 0, 1) := dk_42 (dk_at dksX4_lays_0 22 rfl rfl)
theorem dX4_lays_23 : decode cX4_lays 23 = .ok (.getfield 81, 3) := dk_180 0 81 (dk_at dksX4_lays_1 0 rfl rfl)
theorem dX4_lays_26 : decode cX4_lays 26 = .ok (.iload_n 1, 1) := dk_27 (dk_at dksX4_lays_1 3 rfl rfl)
theorem dX4_lays_27 : decode cX4_lays 27 = .ok (.iaload, 1) := dk_46 (dk_at dksX4_lays_1 4 rfl rfl)
theorem dX4_lays_28 : decode cX4_lays 28 = .ok (.bipush 6, 2) := dk_16 6 (dk_at dksX4_lays_1 5 rfl rfl)
theorem dX4_lays_30 : decode cX4_lays 30 = .ok (.if_icmp .ne 7, 3) := dk_160 0 7 (dk_at dksX4_lays_1 7 rfl rfl)
theorem dX4_lays_33 : decode cX4_lays 33 = .ok (.iconst 2, 1) := dk_5 (dk_at dksX4_lays_1 10 rfl rfl)
theorem dX4_lays_34 : decode cX4_lays 34 = .ok (.goto 4, 3) := dk_167 0 4 (dk_at dksX4_lays_1 11 rfl rfl)
theorem dX4_lays_37 : decode cX4_lays 37 = .ok (.iconst 0, 1) := dk_3 (dk_at dksX4_lays_1 14 rfl rfl)
theorem dX4_lays_38 : decode cX4_lays 38 = .ok (.putfield 87, 3) := dk_181 0 87 (dk_at dksX4_lays_1 15 rfl rfl)
theorem dX4_lays_41 : decode cX4_lays 41 = .ok (.aload_n 0, 1) := dk_42 (dk_at dksX4_lays_1 18 rfl rfl)
theorem dX4_lays_42 : decode cX4_lays 42 = .ok (.getfield 87, 3) := dk_180 0 87 (dk_at dksX4_lays_1 19 rfl rfl)
theorem dX4_lays_45 : decode cX4_lays 45 = .ok (.ifCond .le 5, 3) := dk_158 0 5 (dk_at dksX4_lays_2 0 rfl rfl)
theorem dX4_lays_48 : decode cX4_lays 48 = .ok (.iconst 0, 1) := dk_3 (dk_at dksX4_lays_2 3 rfl rfl)
theorem dX4_lays_49 : decode cX4_lays 49 = .ok (.ireturn, 1) := dk_172 (dk_at dksX4_lays_2 4 rfl rfl)
theorem dX4_lays_50 : decode cX4_lays 50 = .ok (.aload_n 0, 1) := dk_42 (dk_at dksX4_lays_2 5 rfl rfl)
theorem dX4_lays_51 : decode cX4_lays 51 = .ok (.getfield 75, 3) := dk_180 0 75 (dk_at dksX4_lays_2 6 rfl rfl)
theorem dX4_lays_54 : decode cX4_lays 54 = .ok (.iload_n 1, 1) := dk_27 (dk_at dksX4_lays_2 9 rfl rfl)
theorem dX4_lays_55 : decode cX4_lays 55 = .ok (.aaload, 1) := dk_50 (dk_at dksX4_lays_2 10 rfl rfl)
theorem dX4_lays_56 : decode cX4_lays 56 = .ok (.aload_n 0, 1) := dk_42 (dk_at dksX4_lays_2 11 rfl rfl)
theorem dX4_lays_57 : decode cX4_lays 57 = .ok (.getfield 81, 3) := dk_180 0 81 (dk_at dksX4_lays_2 12 rfl rfl)
theorem dX4_lays_60 : decode cX4_lays 60 = .ok (.iload_n 1, 1) := dk_27 (dk_at dksX4_lays_2 15 rfl rfl)
theorem dX4_lays_61 : decode cX4_lays 61 = .ok (.iaload, 1) := dk_46 (dk_at dksX4_lays_2 16 rfl rfl)
theorem dX4_lays_62 : decode cX4_lays 62 = .ok (.iload_n 2, 1) := dk_28 (dk_at dksX4_lays_2 17 rfl rfl)
theorem dX4_lays_63 : decode cX4_lays 63 = .ok (.castore, 1) := dk_85 (dk_at dksX4_lays_2 18 rfl rfl)
theorem dX4_lays_64 : decode cX4_lays 64 = .ok (.aload_n 0, 1) := dk_42 (dk_at dksX4_lays_2 19 rfl rfl)
theorem dX4_lays_65 : decode cX4_lays 65 = .ok (.getfield 78, 3) := dk_180 0 78 (dk_at dksX4_lays_2 20 rfl rfl)
theorem dX4_lays_68 : decode cX4_lays 68 = .ok (.iload_n 1, 1) := dk_27 (dk_at dksX4_lays_2 23 rfl rfl)
theorem dX4_lays_69 : decode cX4_lays 69 = .ok (.aaload, 1) := dk_50 (dk_at dksX4_lays_3 0 rfl rfl)
theorem dX4_lays_70 : decode cX4_lays 70 = .ok (.aload_n 0, 1) := dk_42 (dk_at dksX4_lays_3 1 rfl rfl)
theorem dX4_lays_71 : decode cX4_lays 71 = .ok (.getfield 81, 3) := dk_180 0 81 (dk_at dksX4_lays_3 2 rfl rfl)
theorem dX4_lays_74 : decode cX4_lays 74 = .ok (.iload_n 1, 1) := dk_27 (dk_at dksX4_lays_3 5 rfl rfl)
theorem dX4_lays_75 : decode cX4_lays 75 = .ok (.iaload, 1) := dk_46 (dk_at dksX4_lays_3 6 rfl rfl)
theorem dX4_lays_76 : decode cX4_lays 76 = .ok (.iload_n 3, 1) := dk_29 (dk_at dksX4_lays_3 7 rfl rfl)
theorem dX4_lays_77 : decode cX4_lays 77 = .ok (.iastore, 1) := dk_79 (dk_at dksX4_lays_3 8 rfl rfl)
theorem dX4_lays_78 : decode cX4_lays 78 = .ok (.aload_n 0, 1) := dk_42 (dk_at dksX4_lays_3 9 rfl rfl)
theorem dX4_lays_79 : decode cX4_lays 79 = .ok (.getfield 81, 3) := dk_180 0 81 (dk_at dksX4_lays_3 10 rfl rfl)
theorem dX4_lays_82 : decode cX4_lays 82 = .ok (.iload_n 1, 1) := dk_27 (dk_at dksX4_lays_3 13 rfl rfl)
theorem dX4_lays_83 : decode cX4_lays 83 = .ok (.dup2, 1) := dk_92 (dk_at dksX4_lays_3 14 rfl rfl)
theorem dX4_lays_84 : decode cX4_lays 84 = .ok (.iaload, 1) := dk_46 (dk_at dksX4_lays_3 15 rfl rfl)
theorem dX4_lays_85 : decode cX4_lays 85 = .ok (.iconst 1, 1) := dk_4 (dk_at dksX4_lays_3 16 rfl rfl)
theorem dX4_lays_86 : decode cX4_lays 86 = .ok (.iadd, 1) := dk_96 (dk_at dksX4_lays_3 17 rfl rfl)
theorem dX4_lays_87 : decode cX4_lays 87 = .ok (.iastore, 1) := dk_79 (dk_at dksX4_lays_3 18 rfl rfl)
theorem dX4_lays_88 : decode cX4_lays 88 = .ok (.aload_n 0, 1) := dk_42 (dk_at dksX4_lays_3 19 rfl rfl)
theorem dX4_lays_89 : decode cX4_lays 89 = .ok (.getfield 81, 3) := dk_180 0 81 (dk_at dksX4_lays_3 20 rfl rfl)
theorem dX4_lays_92 : decode cX4_lays 92 = .ok (.iload_n 1, 1) := dk_27 (dk_at dksX4_lays_3 23 rfl rfl)
theorem dX4_lays_93 : decode cX4_lays 93 = .ok (.iaload, 1) := dk_46 (dk_at dksX4_lays_4 0 rfl rfl)
theorem dX4_lays_94 : decode cX4_lays 94 = .ok (.ireturn, 1) := dk_172 (dk_at dksX4_lays_4 1 rfl rfl)
abbrev cX4_addCap : ByteArray := prog_14_method_57_code
def yX4_addCap : MethodName := ⟨RX4, "addCap", "(II)I"⟩
def dkwX4_addCap_0 : List UInt8 := [42, 27, 16, 99, 28, 17, 39, 15, 182, 0, 216, 172]
abbrev dktX4_addCap_0 : List UInt8 := dkwX4_addCap_0 ++ []
theorem dksX4_addCap_0 : cX4_addCap.data.toList.drop 0 = dktX4_addCap_0 := by decide +kernel
theorem dX4_addCap_0 : decode cX4_addCap 0 = .ok (.aload_n 0, 1) := dk_42 (dk_at dksX4_addCap_0 0 rfl rfl)
theorem dX4_addCap_1 : decode cX4_addCap 1 = .ok (.iload_n 1, 1) := dk_27 (dk_at dksX4_addCap_0 1 rfl rfl)
theorem dX4_addCap_2 : decode cX4_addCap 2 = .ok (.bipush 99, 2) := dk_16 99 (dk_at dksX4_addCap_0 2 rfl rfl)
theorem dX4_addCap_4 : decode cX4_addCap 4 = .ok (.iload_n 2, 1) := dk_28 (dk_at dksX4_addCap_0 4 rfl rfl)
theorem dX4_addCap_5 : decode cX4_addCap 5 = .ok (.sipush 9999, 3) := dk_17 39 15 (dk_at dksX4_addCap_0 5 rfl rfl)
theorem dX4_addCap_8 : decode cX4_addCap 8 = .ok (.invokevirtual 216, 3) := dk_182 0 216 (dk_at dksX4_addCap_0 8 rfl rfl)
theorem dX4_addCap_11 : decode cX4_addCap 11 = .ok (.ireturn, 1) := dk_172 (dk_at dksX4_addCap_0 11 rfl rfl)
abbrev cX4_addDouble : ByteArray := prog_14_method_58_code
def yX4_addDouble : MethodName := ⟨RX4, "addDouble", "(II)I"⟩
def dkwX4_addDouble_0 : List UInt8 := [42, 27, 16, 100, 28, 17, 0, 240, 182, 0, 216, 172]
abbrev dktX4_addDouble_0 : List UInt8 := dkwX4_addDouble_0 ++ []
theorem dksX4_addDouble_0 : cX4_addDouble.data.toList.drop 0 = dktX4_addDouble_0 := by decide +kernel
theorem dX4_addDouble_0 : decode cX4_addDouble 0 = .ok (.aload_n 0, 1) := dk_42 (dk_at dksX4_addDouble_0 0 rfl rfl)
theorem dX4_addDouble_1 : decode cX4_addDouble 1 = .ok (.iload_n 1, 1) := dk_27 (dk_at dksX4_addDouble_0 1 rfl rfl)
theorem dX4_addDouble_2 : decode cX4_addDouble 2 = .ok (.bipush 100, 2) := dk_16 100 (dk_at dksX4_addDouble_0 2 rfl rfl)
theorem dX4_addDouble_4 : decode cX4_addDouble 4 = .ok (.iload_n 2, 1) := dk_28 (dk_at dksX4_addDouble_0 4 rfl rfl)
theorem dX4_addDouble_5 : decode cX4_addDouble 5 = .ok (.sipush 240, 3) := dk_17 0 240 (dk_at dksX4_addDouble_0 5 rfl rfl)
theorem dX4_addDouble_8 : decode cX4_addDouble 8 = .ok (.invokevirtual 216, 3) := dk_182 0 216 (dk_at dksX4_addDouble_0 8 rfl rfl)
theorem dX4_addDouble_11 : decode cX4_addDouble 11 = .ok (.ireturn, 1) := dk_172 (dk_at dksX4_addDouble_0 11 rfl rfl)
abbrev cX4_addDiscount : ByteArray := prog_14_method_59_code
def yX4_addDiscount : MethodName := ⟨RX4, "addDiscount", "(II)I"⟩
def dkwX4_addDiscount_0 : List UInt8 := [42, 27, 16, 112, 28, 16, 100, 182, 0, 216, 172]
abbrev dktX4_addDiscount_0 : List UInt8 := dkwX4_addDiscount_0 ++ []
theorem dksX4_addDiscount_0 : cX4_addDiscount.data.toList.drop 0 = dktX4_addDiscount_0 := by decide +kernel
theorem dX4_addDiscount_0 : decode cX4_addDiscount 0 = .ok (.aload_n 0, 1) := dk_42 (dk_at dksX4_addDiscount_0 0 rfl rfl)
theorem dX4_addDiscount_1 : decode cX4_addDiscount 1 = .ok (.iload_n 1, 1) := dk_27 (dk_at dksX4_addDiscount_0 1 rfl rfl)
theorem dX4_addDiscount_2 : decode cX4_addDiscount 2 = .ok (.bipush 112, 2) := dk_16 112 (dk_at dksX4_addDiscount_0 2 rfl rfl)
theorem dX4_addDiscount_4 : decode cX4_addDiscount 4 = .ok (.iload_n 2, 1) := dk_28 (dk_at dksX4_addDiscount_0 4 rfl rfl)
theorem dX4_addDiscount_5 : decode cX4_addDiscount 5 = .ok (.bipush 100, 2) := dk_16 100 (dk_at dksX4_addDiscount_0 5 rfl rfl)
theorem dX4_addDiscount_7 : decode cX4_addDiscount 7 = .ok (.invokevirtual 216, 3) := dk_182 0 216 (dk_at dksX4_addDiscount_0 7 rfl rfl)
theorem dX4_addDiscount_10 : decode cX4_addDiscount 10 = .ok (.ireturn, 1) := dk_172 (dk_at dksX4_addDiscount_0 10 rfl rfl)
abbrev cX4_costOf : ByteArray := prog_14_method_60_code
def yX4_costOf : MethodName := ⟨RX4, "costOf", "(II)I"⟩
def dkwX4_costOf_1 : List UInt8 := [181, 0, 87, 42, 180, 0, 87, 158, 0, 7, 3, 167, 0, 9, 42, 27, 28, 182, 0, 171, 172]
abbrev dktX4_costOf_1 : List UInt8 := dkwX4_costOf_1 ++ []
def dkwX4_costOf_0 : List UInt8 := [42, 27, 184, 0, 104, 153, 0, 18, 28, 3, 17, 1, 224, 184, 0, 91, 153, 0, 7, 3, 167, 0, 4, 4]
abbrev dktX4_costOf_0 : List UInt8 := dkwX4_costOf_0 ++ dktX4_costOf_1
theorem dksX4_costOf_0 : cX4_costOf.data.toList.drop 0 = dktX4_costOf_0 := by decide +kernel
theorem dksX4_costOf_1 : cX4_costOf.data.toList.drop 24 = dktX4_costOf_1 := dk_seg dksX4_costOf_0 24 rfl rfl
theorem dX4_costOf_0 : decode cX4_costOf 0 = .ok (.aload_n 0, 1) := dk_42 (dk_at dksX4_costOf_0 0 rfl rfl)
theorem dX4_costOf_1 : decode cX4_costOf 1 = .ok (.iload_n 1, 1) := dk_27 (dk_at dksX4_costOf_0 1 rfl rfl)
theorem dX4_costOf_2 : decode cX4_costOf 2 = .ok (.invokestatic 104, 3) := dk_184 0 104 (dk_at dksX4_costOf_0 2 rfl rfl)
theorem dX4_costOf_5 : decode cX4_costOf 5 = .ok (.ifCond .eq 18, 3) := dk_153 0 18 (dk_at dksX4_costOf_0 5 rfl rfl)
theorem dX4_costOf_8 : decode cX4_costOf 8 = .ok (.iload_n 2, 1) := dk_28 (dk_at dksX4_costOf_0 8 rfl rfl)
theorem dX4_costOf_9 : decode cX4_costOf 9 = .ok (.iconst 0, 1) := dk_3 (dk_at dksX4_costOf_0 9 rfl rfl)
theorem dX4_costOf_10 : decode cX4_costOf 10 = .ok (.sipush 480, 3) := dk_17 1 224 (dk_at dksX4_costOf_0 10 rfl rfl)
theorem dX4_costOf_13 : decode cX4_costOf 13 = .ok (.invokestatic 91, 3) := dk_184 0 91 (dk_at dksX4_costOf_0 13 rfl rfl)
theorem dX4_costOf_16 : decode cX4_costOf 16 = .ok (.ifCond .eq 7, 3) := dk_153 0 7 (dk_at dksX4_costOf_0 16 rfl rfl)
theorem dX4_costOf_19 : decode cX4_costOf 19 = .ok (.iconst 0, 1) := dk_3 (dk_at dksX4_costOf_0 19 rfl rfl)
theorem dX4_costOf_20 : decode cX4_costOf 20 = .ok (.goto 4, 3) := dk_167 0 4 (dk_at dksX4_costOf_0 20 rfl rfl)
theorem dX4_costOf_23 : decode cX4_costOf 23 = .ok (.iconst 1, 1) := dk_4 (dk_at dksX4_costOf_0 23 rfl rfl)
theorem dX4_costOf_24 : decode cX4_costOf 24 = .ok (.putfield 87, 3) := dk_181 0 87 (dk_at dksX4_costOf_1 0 rfl rfl)
theorem dX4_costOf_27 : decode cX4_costOf 27 = .ok (.aload_n 0, 1) := dk_42 (dk_at dksX4_costOf_1 3 rfl rfl)
theorem dX4_costOf_28 : decode cX4_costOf 28 = .ok (.getfield 87, 3) := dk_180 0 87 (dk_at dksX4_costOf_1 4 rfl rfl)
theorem dX4_costOf_31 : decode cX4_costOf 31 = .ok (.ifCond .le 7, 3) := dk_158 0 7 (dk_at dksX4_costOf_1 7 rfl rfl)
theorem dX4_costOf_34 : decode cX4_costOf 34 = .ok (.iconst 0, 1) := dk_3 (dk_at dksX4_costOf_1 10 rfl rfl)
theorem dX4_costOf_35 : decode cX4_costOf 35 = .ok (.goto 9, 3) := dk_167 0 9 (dk_at dksX4_costOf_1 11 rfl rfl)
theorem dX4_costOf_38 : decode cX4_costOf 38 = .ok (.aload_n 0, 1) := dk_42 (dk_at dksX4_costOf_1 14 rfl rfl)
theorem dX4_costOf_39 : decode cX4_costOf 39 = .ok (.iload_n 1, 1) := dk_27 (dk_at dksX4_costOf_1 15 rfl rfl)
theorem dX4_costOf_40 : decode cX4_costOf 40 = .ok (.iload_n 2, 1) := dk_28 (dk_at dksX4_costOf_1 16 rfl rfl)
theorem dX4_costOf_41 : decode cX4_costOf 41 = .ok (.invokevirtual 171, 3) := dk_182 0 171 (dk_at dksX4_costOf_1 17 rfl rfl)
theorem dX4_costOf_44 : decode cX4_costOf 44 = .ok (.ireturn, 1) := dk_172 (dk_at dksX4_costOf_1 20 rfl rfl)
abbrev cX4_breakDown : ByteArray := prog_14_method_61_code
def yX4_breakDown : MethodName := ⟨RX4, "breakDown", "(II)I"⟩
def dkwX4_breakDown_14 : List UInt8 := [4, 96, 79, 25, 6, 21, 8, 20, 0, 224, 80, 132, 7, 255, 167, 255, 182, 21, 4, 172]
abbrev dktX4_breakDown_14 : List UInt8 := dkwX4_breakDown_14 ++ []
def dkwX4_breakDown_13 : List UInt8 := [167, 0, 5, 21, 8, 54, 8, 132, 9, 1, 167, 255, 221, 42, 180, 0, 84, 21, 5, 50, 21, 8, 92, 46]
abbrev dktX4_breakDown_13 : List UInt8 := dkwX4_breakDown_13 ++ dktX4_breakDown_14
def dkwX4_breakDown_12 : List UInt8 := [180, 0, 95, 162, 0, 32, 25, 6, 21, 9, 47, 25, 6, 21, 8, 47, 148, 158, 0, 8, 21, 9]
abbrev dktX4_breakDown_12 : List UInt8 := dkwX4_breakDown_12 ++ dktX4_breakDown_13
def dkwX4_breakDown_11 : List UInt8 := [54, 7, 132, 8, 1, 167, 255, 189, 21, 7, 158, 0, 75, 3, 54, 8, 4, 54, 9, 21, 9, 42]
abbrev dktX4_breakDown_11 : List UInt8 := dkwX4_breakDown_11 ++ dktX4_breakDown_12
def dkwX4_breakDown_10 : List UInt8 := [21, 8, 46, 133, 105, 21, 4, 133, 113, 80, 21, 7, 42, 180, 0, 84, 21, 5, 50, 21, 8, 46, 100]
abbrev dktX4_breakDown_10 : List UInt8 := dkwX4_breakDown_10 ++ dktX4_breakDown_11
def dkwX4_breakDown_9 : List UInt8 := [21, 8, 28, 133, 45, 21, 8, 46, 133, 105, 21, 4, 133, 109, 136, 79, 25, 6, 21, 8, 28, 133, 45]
abbrev dktX4_breakDown_9 : List UInt8 := dkwX4_breakDown_9 ++ dktX4_breakDown_10
def dkwX4_breakDown_8 : List UInt8 := [58, 6, 28, 54, 7, 3, 54, 8, 21, 8, 42, 180, 0, 95, 162, 0, 64, 42, 180, 0, 84, 21, 5, 50]
abbrev dktX4_breakDown_8 : List UInt8 := dkwX4_breakDown_8 ++ dktX4_breakDown_9
def dkwX4_breakDown_7 : List UInt8 := [54, 5, 42, 89, 180, 0, 221, 4, 96, 181, 0, 221, 21, 4, 154, 0, 5, 3, 172, 16, 10, 188, 11]
abbrev dktX4_breakDown_7 : List UInt8 := dkwX4_breakDown_7 ++ dktX4_breakDown_8
def dkwX4_breakDown_6 : List UInt8 := [79, 21, 4, 42, 180, 0, 42, 21, 5, 46, 96, 54, 4, 132, 5, 1, 167, 255, 164, 42, 180, 0, 221]
abbrev dktX4_breakDown_6 : List UInt8 := dkwX4_breakDown_6 ++ dktX4_breakDown_7
def dkwX4_breakDown_5 : List UInt8 := [184, 0, 91, 153, 0, 34, 45, 42, 180, 0, 30, 21, 5, 46, 92, 46, 42, 180, 0, 42, 21, 5, 46, 96]
abbrev dktX4_breakDown_5 : List UInt8 := dkwX4_breakDown_5 ++ dktX4_breakDown_6
def dkwX4_breakDown_4 : List UInt8 := [160, 0, 60, 42, 180, 0, 36, 21, 5, 46, 42, 180, 0, 112, 16, 7, 100, 42, 180, 0, 112, 4, 100]
abbrev dktX4_breakDown_4 : List UInt8 := dkwX4_breakDown_4 ++ dktX4_breakDown_5
def dkwX4_breakDown_3 : List UInt8 := [162, 0, 89, 42, 180, 0, 49, 21, 5, 52, 16, 100, 160, 0, 71, 42, 180, 0, 33, 21, 5, 46, 27]
abbrev dktX4_breakDown_3 : List UInt8 := dkwX4_breakDown_3 ++ dktX4_breakDown_4
def dkwX4_breakDown_2 : List UInt8 := [158, 0, 5, 3, 172, 16, 10, 188, 10, 78, 3, 54, 4, 3, 54, 5, 21, 5, 42, 180, 0, 101]
abbrev dktX4_breakDown_2 : List UInt8 := dkwX4_breakDown_2 ++ dktX4_breakDown_3
def dkwX4_breakDown_1 : List UInt8 := [167, 0, 17, 42, 180, 0, 221, 16, 20, 160, 0, 7, 6, 167, 0, 4, 3, 181, 0, 87, 42, 180, 0, 87]
abbrev dktX4_breakDown_1 : List UInt8 := dkwX4_breakDown_1 ++ dktX4_breakDown_2
def dkwX4_breakDown_0 : List UInt8 := [42, 42, 27, 182, 0, 157, 154, 0, 7, 4, 167, 0, 31, 28, 4, 18, 220, 184, 0, 91, 154, 0, 7, 5]
abbrev dktX4_breakDown_0 : List UInt8 := dkwX4_breakDown_0 ++ dktX4_breakDown_1
theorem dksX4_breakDown_0 : cX4_breakDown.data.toList.drop 0 = dktX4_breakDown_0 := by decide +kernel
theorem dksX4_breakDown_1 : cX4_breakDown.data.toList.drop 24 = dktX4_breakDown_1 := dk_seg dksX4_breakDown_0 24 rfl rfl
theorem dksX4_breakDown_2 : cX4_breakDown.data.toList.drop 48 = dktX4_breakDown_2 := dk_seg dksX4_breakDown_1 24 rfl rfl
theorem dksX4_breakDown_3 : cX4_breakDown.data.toList.drop 70 = dktX4_breakDown_3 := dk_seg dksX4_breakDown_2 22 rfl rfl
theorem dksX4_breakDown_4 : cX4_breakDown.data.toList.drop 93 = dktX4_breakDown_4 := dk_seg dksX4_breakDown_3 23 rfl rfl
theorem dksX4_breakDown_5 : cX4_breakDown.data.toList.drop 116 = dktX4_breakDown_5 := dk_seg dksX4_breakDown_4 23 rfl rfl
theorem dksX4_breakDown_6 : cX4_breakDown.data.toList.drop 140 = dktX4_breakDown_6 := dk_seg dksX4_breakDown_5 24 rfl rfl
theorem dksX4_breakDown_7 : cX4_breakDown.data.toList.drop 163 = dktX4_breakDown_7 := dk_seg dksX4_breakDown_6 23 rfl rfl
theorem dksX4_breakDown_8 : cX4_breakDown.data.toList.drop 186 = dktX4_breakDown_8 := dk_seg dksX4_breakDown_7 23 rfl rfl
theorem dksX4_breakDown_9 : cX4_breakDown.data.toList.drop 210 = dktX4_breakDown_9 := dk_seg dksX4_breakDown_8 24 rfl rfl
theorem dksX4_breakDown_10 : cX4_breakDown.data.toList.drop 233 = dktX4_breakDown_10 := dk_seg dksX4_breakDown_9 23 rfl rfl
theorem dksX4_breakDown_11 : cX4_breakDown.data.toList.drop 256 = dktX4_breakDown_11 := dk_seg dksX4_breakDown_10 23 rfl rfl
theorem dksX4_breakDown_12 : cX4_breakDown.data.toList.drop 278 = dktX4_breakDown_12 := dk_seg dksX4_breakDown_11 22 rfl rfl
theorem dksX4_breakDown_13 : cX4_breakDown.data.toList.drop 300 = dktX4_breakDown_13 := dk_seg dksX4_breakDown_12 22 rfl rfl
theorem dksX4_breakDown_14 : cX4_breakDown.data.toList.drop 324 = dktX4_breakDown_14 := dk_seg dksX4_breakDown_13 24 rfl rfl
theorem dX4_breakDown_0 : decode cX4_breakDown 0 = .ok (.aload_n 0, 1) := dk_42 (dk_at dksX4_breakDown_0 0 rfl rfl)
theorem dX4_breakDown_1 : decode cX4_breakDown 1 = .ok (.aload_n 0, 1) := dk_42 (dk_at dksX4_breakDown_0 1 rfl rfl)
theorem dX4_breakDown_2 : decode cX4_breakDown 2 = .ok (.iload_n 1, 1) := dk_27 (dk_at dksX4_breakDown_0 2 rfl rfl)
theorem dX4_breakDown_3 : decode cX4_breakDown 3 = .ok (.invokevirtual 157, 3) := dk_182 0 157 (dk_at dksX4_breakDown_0 3 rfl rfl)
theorem dX4_breakDown_6 : decode cX4_breakDown 6 = .ok (.ifCond .ne 7, 3) := dk_154 0 7 (dk_at dksX4_breakDown_0 6 rfl rfl)
theorem dX4_breakDown_9 : decode cX4_breakDown 9 = .ok (.iconst 1, 1) := dk_4 (dk_at dksX4_breakDown_0 9 rfl rfl)
theorem dX4_breakDown_10 : decode cX4_breakDown 10 = .ok (.goto 31, 3) := dk_167 0 31 (dk_at dksX4_breakDown_0 10 rfl rfl)
theorem dX4_breakDown_13 : decode cX4_breakDown 13 = .ok (.iload_n 2, 1) := dk_28 (dk_at dksX4_breakDown_0 13 rfl rfl)
theorem dX4_breakDown_14 : decode cX4_breakDown 14 = .ok (.iconst 1, 1) := dk_4 (dk_at dksX4_breakDown_0 14 rfl rfl)
theorem dX4_breakDown_15 : decode cX4_breakDown 15 = .ok (.ldc 220, 2) := dk_18 220 (dk_at dksX4_breakDown_0 15 rfl rfl)
theorem dX4_breakDown_17 : decode cX4_breakDown 17 = .ok (.invokestatic 91, 3) := dk_184 0 91 (dk_at dksX4_breakDown_0 17 rfl rfl)
theorem dX4_breakDown_20 : decode cX4_breakDown 20 = .ok (.ifCond .ne 7, 3) := dk_154 0 7 (dk_at dksX4_breakDown_0 20 rfl rfl)
theorem dX4_breakDown_23 : decode cX4_breakDown 23 = .ok (.iconst 2, 1) := dk_5 (dk_at dksX4_breakDown_0 23 rfl rfl)
theorem dX4_breakDown_24 : decode cX4_breakDown 24 = .ok (.goto 17, 3) := dk_167 0 17 (dk_at dksX4_breakDown_1 0 rfl rfl)
theorem dX4_breakDown_27 : decode cX4_breakDown 27 = .ok (.aload_n 0, 1) := dk_42 (dk_at dksX4_breakDown_1 3 rfl rfl)
theorem dX4_breakDown_28 : decode cX4_breakDown 28 = .ok (.getfield 221, 3) := dk_180 0 221 (dk_at dksX4_breakDown_1 4 rfl rfl)
theorem dX4_breakDown_31 : decode cX4_breakDown 31 = .ok (.bipush 20, 2) := dk_16 20 (dk_at dksX4_breakDown_1 7 rfl rfl)
theorem dX4_breakDown_33 : decode cX4_breakDown 33 = .ok (.if_icmp .ne 7, 3) := dk_160 0 7 (dk_at dksX4_breakDown_1 9 rfl rfl)
theorem dX4_breakDown_36 : decode cX4_breakDown 36 = .ok (.iconst 3, 1) := dk_6 (dk_at dksX4_breakDown_1 12 rfl rfl)
theorem dX4_breakDown_37 : decode cX4_breakDown 37 = .ok (.goto 4, 3) := dk_167 0 4 (dk_at dksX4_breakDown_1 13 rfl rfl)
theorem dX4_breakDown_40 : decode cX4_breakDown 40 = .ok (.iconst 0, 1) := dk_3 (dk_at dksX4_breakDown_1 16 rfl rfl)
theorem dX4_breakDown_41 : decode cX4_breakDown 41 = .ok (.putfield 87, 3) := dk_181 0 87 (dk_at dksX4_breakDown_1 17 rfl rfl)
theorem dX4_breakDown_44 : decode cX4_breakDown 44 = .ok (.aload_n 0, 1) := dk_42 (dk_at dksX4_breakDown_1 20 rfl rfl)
theorem dX4_breakDown_45 : decode cX4_breakDown 45 = .ok (.getfield 87, 3) := dk_180 0 87 (dk_at dksX4_breakDown_1 21 rfl rfl)
theorem dX4_breakDown_48 : decode cX4_breakDown 48 = .ok (.ifCond .le 5, 3) := dk_158 0 5 (dk_at dksX4_breakDown_2 0 rfl rfl)
theorem dX4_breakDown_51 : decode cX4_breakDown 51 = .ok (.iconst 0, 1) := dk_3 (dk_at dksX4_breakDown_2 3 rfl rfl)
theorem dX4_breakDown_52 : decode cX4_breakDown 52 = .ok (.ireturn, 1) := dk_172 (dk_at dksX4_breakDown_2 4 rfl rfl)
theorem dX4_breakDown_53 : decode cX4_breakDown 53 = .ok (.bipush 10, 2) := dk_16 10 (dk_at dksX4_breakDown_2 5 rfl rfl)
theorem dX4_breakDown_55 : decode cX4_breakDown 55 = .ok (.newarray .int, 2) := dk_188_10 (dk_at dksX4_breakDown_2 7 rfl rfl)
theorem dX4_breakDown_57 : decode cX4_breakDown 57 = .ok (.astore_n 3, 1) := dk_78 (dk_at dksX4_breakDown_2 9 rfl rfl)
theorem dX4_breakDown_58 : decode cX4_breakDown 58 = .ok (.iconst 0, 1) := dk_3 (dk_at dksX4_breakDown_2 10 rfl rfl)
theorem dX4_breakDown_59 : decode cX4_breakDown 59 = .ok (.istore 4, 2) := dk_54 4 (dk_at dksX4_breakDown_2 11 rfl rfl)
theorem dX4_breakDown_61 : decode cX4_breakDown 61 = .ok (.iconst 0, 1) := dk_3 (dk_at dksX4_breakDown_2 13 rfl rfl)
theorem dX4_breakDown_62 : decode cX4_breakDown 62 = .ok (.istore 5, 2) := dk_54 5 (dk_at dksX4_breakDown_2 14 rfl rfl)
theorem dX4_breakDown_64 : decode cX4_breakDown 64 = .ok (.iload 5, 2) := dk_21 5 (dk_at dksX4_breakDown_2 16 rfl rfl)
theorem dX4_breakDown_66 : decode cX4_breakDown 66 = .ok (.aload_n 0, 1) := dk_42 (dk_at dksX4_breakDown_2 18 rfl rfl)
theorem dX4_breakDown_67 : decode cX4_breakDown 67 = .ok (.getfield 101, 3) := dk_180 0 101 (dk_at dksX4_breakDown_2 19 rfl rfl)
theorem dX4_breakDown_70 : decode cX4_breakDown 70 = .ok (.if_icmp .ge 89, 3) := dk_162 0 89 (dk_at dksX4_breakDown_3 0 rfl rfl)
theorem dX4_breakDown_73 : decode cX4_breakDown 73 = .ok (.aload_n 0, 1) := dk_42 (dk_at dksX4_breakDown_3 3 rfl rfl)
theorem dX4_breakDown_74 : decode cX4_breakDown 74 = .ok (.getfield 49, 3) := dk_180 0 49 (dk_at dksX4_breakDown_3 4 rfl rfl)
theorem dX4_breakDown_77 : decode cX4_breakDown 77 = .ok (.iload 5, 2) := dk_21 5 (dk_at dksX4_breakDown_3 7 rfl rfl)
theorem dX4_breakDown_79 : decode cX4_breakDown 79 = .ok (.caload, 1) := dk_52 (dk_at dksX4_breakDown_3 9 rfl rfl)
theorem dX4_breakDown_80 : decode cX4_breakDown 80 = .ok (.bipush 100, 2) := dk_16 100 (dk_at dksX4_breakDown_3 10 rfl rfl)
theorem dX4_breakDown_82 : decode cX4_breakDown 82 = .ok (.if_icmp .ne 71, 3) := dk_160 0 71 (dk_at dksX4_breakDown_3 12 rfl rfl)
theorem dX4_breakDown_85 : decode cX4_breakDown 85 = .ok (.aload_n 0, 1) := dk_42 (dk_at dksX4_breakDown_3 15 rfl rfl)
theorem dX4_breakDown_86 : decode cX4_breakDown 86 = .ok (.getfield 33, 3) := dk_180 0 33 (dk_at dksX4_breakDown_3 16 rfl rfl)
theorem dX4_breakDown_89 : decode cX4_breakDown 89 = .ok (.iload 5, 2) := dk_21 5 (dk_at dksX4_breakDown_3 19 rfl rfl)
theorem dX4_breakDown_91 : decode cX4_breakDown 91 = .ok (.iaload, 1) := dk_46 (dk_at dksX4_breakDown_3 21 rfl rfl)
theorem dX4_breakDown_92 : decode cX4_breakDown 92 = .ok (.iload_n 1, 1) := dk_27 (dk_at dksX4_breakDown_3 22 rfl rfl)
theorem dX4_breakDown_93 : decode cX4_breakDown 93 = .ok (.if_icmp .ne 60, 3) := dk_160 0 60 (dk_at dksX4_breakDown_4 0 rfl rfl)
theorem dX4_breakDown_96 : decode cX4_breakDown 96 = .ok (.aload_n 0, 1) := dk_42 (dk_at dksX4_breakDown_4 3 rfl rfl)
theorem dX4_breakDown_97 : decode cX4_breakDown 97 = .ok (.getfield 36, 3) := dk_180 0 36 (dk_at dksX4_breakDown_4 4 rfl rfl)
theorem dX4_breakDown_100 : decode cX4_breakDown 100 = .ok (.iload 5, 2) := dk_21 5 (dk_at dksX4_breakDown_4 7 rfl rfl)
theorem dX4_breakDown_102 : decode cX4_breakDown 102 = .ok (.iaload, 1) := dk_46 (dk_at dksX4_breakDown_4 9 rfl rfl)
theorem dX4_breakDown_103 : decode cX4_breakDown 103 = .ok (.aload_n 0, 1) := dk_42 (dk_at dksX4_breakDown_4 10 rfl rfl)
theorem dX4_breakDown_104 : decode cX4_breakDown 104 = .ok (.getfield 112, 3) := dk_180 0 112 (dk_at dksX4_breakDown_4 11 rfl rfl)
theorem dX4_breakDown_107 : decode cX4_breakDown 107 = .ok (.bipush 7, 2) := dk_16 7 (dk_at dksX4_breakDown_4 14 rfl rfl)
theorem dX4_breakDown_109 : decode cX4_breakDown 109 = .ok (.isub, 1) := dk_100 (dk_at dksX4_breakDown_4 16 rfl rfl)
theorem dX4_breakDown_110 : decode cX4_breakDown 110 = .ok (.aload_n 0, 1) := dk_42 (dk_at dksX4_breakDown_4 17 rfl rfl)
theorem dX4_breakDown_111 : decode cX4_breakDown 111 = .ok (.getfield 112, 3) := dk_180 0 112 (dk_at dksX4_breakDown_4 18 rfl rfl)
theorem dX4_breakDown_114 : decode cX4_breakDown 114 = .ok (.iconst 1, 1) := dk_4 (dk_at dksX4_breakDown_4 21 rfl rfl)
theorem dX4_breakDown_115 : decode cX4_breakDown 115 = .ok (.isub, 1) := dk_100 (dk_at dksX4_breakDown_4 22 rfl rfl)
theorem dX4_breakDown_116 : decode cX4_breakDown 116 = .ok (.invokestatic 91, 3) := dk_184 0 91 (dk_at dksX4_breakDown_5 0 rfl rfl)
theorem dX4_breakDown_119 : decode cX4_breakDown 119 = .ok (.ifCond .eq 34, 3) := dk_153 0 34 (dk_at dksX4_breakDown_5 3 rfl rfl)
theorem dX4_breakDown_122 : decode cX4_breakDown 122 = .ok (.aload_n 3, 1) := dk_45 (dk_at dksX4_breakDown_5 6 rfl rfl)
theorem dX4_breakDown_123 : decode cX4_breakDown 123 = .ok (.aload_n 0, 1) := dk_42 (dk_at dksX4_breakDown_5 7 rfl rfl)
theorem dX4_breakDown_124 : decode cX4_breakDown 124 = .ok (.getfield 30, 3) := dk_180 0 30 (dk_at dksX4_breakDown_5 8 rfl rfl)
theorem dX4_breakDown_127 : decode cX4_breakDown 127 = .ok (.iload 5, 2) := dk_21 5 (dk_at dksX4_breakDown_5 11 rfl rfl)
theorem dX4_breakDown_129 : decode cX4_breakDown 129 = .ok (.iaload, 1) := dk_46 (dk_at dksX4_breakDown_5 13 rfl rfl)
theorem dX4_breakDown_130 : decode cX4_breakDown 130 = .ok (.dup2, 1) := dk_92 (dk_at dksX4_breakDown_5 14 rfl rfl)
theorem dX4_breakDown_131 : decode cX4_breakDown 131 = .ok (.iaload, 1) := dk_46 (dk_at dksX4_breakDown_5 15 rfl rfl)
theorem dX4_breakDown_132 : decode cX4_breakDown 132 = .ok (.aload_n 0, 1) := dk_42 (dk_at dksX4_breakDown_5 16 rfl rfl)
theorem dX4_breakDown_133 : decode cX4_breakDown 133 = .ok (.getfield 42, 3) := dk_180 0 42 (dk_at dksX4_breakDown_5 17 rfl rfl)
theorem dX4_breakDown_136 : decode cX4_breakDown 136 = .ok (.iload 5, 2) := dk_21 5 (dk_at dksX4_breakDown_5 20 rfl rfl)
theorem dX4_breakDown_138 : decode cX4_breakDown 138 = .ok (.iaload, 1) := dk_46 (dk_at dksX4_breakDown_5 22 rfl rfl)
theorem dX4_breakDown_139 : decode cX4_breakDown 139 = .ok (.iadd, 1) := dk_96 (dk_at dksX4_breakDown_5 23 rfl rfl)
theorem dX4_breakDown_140 : decode cX4_breakDown 140 = .ok (.iastore, 1) := dk_79 (dk_at dksX4_breakDown_6 0 rfl rfl)
theorem dX4_breakDown_141 : decode cX4_breakDown 141 = .ok (.iload 4, 2) := dk_21 4 (dk_at dksX4_breakDown_6 1 rfl rfl)
theorem dX4_breakDown_143 : decode cX4_breakDown 143 = .ok (.aload_n 0, 1) := dk_42 (dk_at dksX4_breakDown_6 3 rfl rfl)
theorem dX4_breakDown_144 : decode cX4_breakDown 144 = .ok (.getfield 42, 3) := dk_180 0 42 (dk_at dksX4_breakDown_6 4 rfl rfl)
theorem dX4_breakDown_147 : decode cX4_breakDown 147 = .ok (.iload 5, 2) := dk_21 5 (dk_at dksX4_breakDown_6 7 rfl rfl)
theorem dX4_breakDown_149 : decode cX4_breakDown 149 = .ok (.iaload, 1) := dk_46 (dk_at dksX4_breakDown_6 9 rfl rfl)
theorem dX4_breakDown_150 : decode cX4_breakDown 150 = .ok (.iadd, 1) := dk_96 (dk_at dksX4_breakDown_6 10 rfl rfl)
theorem dX4_breakDown_151 : decode cX4_breakDown 151 = .ok (.istore 4, 2) := dk_54 4 (dk_at dksX4_breakDown_6 11 rfl rfl)
theorem dX4_breakDown_153 : decode cX4_breakDown 153 = .ok (.iinc 5 1, 3) := dk_132 5 1 (dk_at dksX4_breakDown_6 13 rfl rfl)
theorem dX4_breakDown_156 : decode cX4_breakDown 156 = .ok (.goto (-92), 3) := dk_167 255 164 (dk_at dksX4_breakDown_6 16 rfl rfl)
theorem dX4_breakDown_159 : decode cX4_breakDown 159 = .ok (.aload_n 0, 1) := dk_42 (dk_at dksX4_breakDown_6 19 rfl rfl)
theorem dX4_breakDown_160 : decode cX4_breakDown 160 = .ok (.getfield 221, 3) := dk_180 0 221 (dk_at dksX4_breakDown_6 20 rfl rfl)
theorem dX4_breakDown_163 : decode cX4_breakDown 163 = .ok (.istore 5, 2) := dk_54 5 (dk_at dksX4_breakDown_7 0 rfl rfl)
theorem dX4_breakDown_165 : decode cX4_breakDown 165 = .ok (.aload_n 0, 1) := dk_42 (dk_at dksX4_breakDown_7 2 rfl rfl)
theorem dX4_breakDown_166 : decode cX4_breakDown 166 = .ok (.dup, 1) := dk_89 (dk_at dksX4_breakDown_7 3 rfl rfl)
theorem dX4_breakDown_167 : decode cX4_breakDown 167 = .ok (.getfield 221, 3) := dk_180 0 221 (dk_at dksX4_breakDown_7 4 rfl rfl)
theorem dX4_breakDown_170 : decode cX4_breakDown 170 = .ok (.iconst 1, 1) := dk_4 (dk_at dksX4_breakDown_7 7 rfl rfl)
theorem dX4_breakDown_171 : decode cX4_breakDown 171 = .ok (.iadd, 1) := dk_96 (dk_at dksX4_breakDown_7 8 rfl rfl)
theorem dX4_breakDown_172 : decode cX4_breakDown 172 = .ok (.putfield 221, 3) := dk_181 0 221 (dk_at dksX4_breakDown_7 9 rfl rfl)
theorem dX4_breakDown_175 : decode cX4_breakDown 175 = .ok (.iload 4, 2) := dk_21 4 (dk_at dksX4_breakDown_7 12 rfl rfl)
theorem dX4_breakDown_177 : decode cX4_breakDown 177 = .ok (.ifCond .ne 5, 3) := dk_154 0 5 (dk_at dksX4_breakDown_7 14 rfl rfl)
theorem dX4_breakDown_180 : decode cX4_breakDown 180 = .ok (.iconst 0, 1) := dk_3 (dk_at dksX4_breakDown_7 17 rfl rfl)
theorem dX4_breakDown_181 : decode cX4_breakDown 181 = .ok (.ireturn, 1) := dk_172 (dk_at dksX4_breakDown_7 18 rfl rfl)
theorem dX4_breakDown_182 : decode cX4_breakDown 182 = .ok (.bipush 10, 2) := dk_16 10 (dk_at dksX4_breakDown_7 19 rfl rfl)
theorem dX4_breakDown_184 : decode cX4_breakDown 184 = .ok (.newarray .long, 2) := dk_188_11 (dk_at dksX4_breakDown_7 21 rfl rfl)
theorem dX4_breakDown_186 : decode cX4_breakDown 186 = .ok (.astore 6, 2) := dk_58 6 (dk_at dksX4_breakDown_8 0 rfl rfl)
theorem dX4_breakDown_188 : decode cX4_breakDown 188 = .ok (.iload_n 2, 1) := dk_28 (dk_at dksX4_breakDown_8 2 rfl rfl)
theorem dX4_breakDown_189 : decode cX4_breakDown 189 = .ok (.istore 7, 2) := dk_54 7 (dk_at dksX4_breakDown_8 3 rfl rfl)
theorem dX4_breakDown_191 : decode cX4_breakDown 191 = .ok (.iconst 0, 1) := dk_3 (dk_at dksX4_breakDown_8 5 rfl rfl)
theorem dX4_breakDown_192 : decode cX4_breakDown 192 = .ok (.istore 8, 2) := dk_54 8 (dk_at dksX4_breakDown_8 6 rfl rfl)
theorem dX4_breakDown_194 : decode cX4_breakDown 194 = .ok (.iload 8, 2) := dk_21 8 (dk_at dksX4_breakDown_8 8 rfl rfl)
theorem dX4_breakDown_196 : decode cX4_breakDown 196 = .ok (.aload_n 0, 1) := dk_42 (dk_at dksX4_breakDown_8 10 rfl rfl)
theorem dX4_breakDown_197 : decode cX4_breakDown 197 = .ok (.getfield 95, 3) := dk_180 0 95 (dk_at dksX4_breakDown_8 11 rfl rfl)
theorem dX4_breakDown_200 : decode cX4_breakDown 200 = .ok (.if_icmp .ge 64, 3) := dk_162 0 64 (dk_at dksX4_breakDown_8 14 rfl rfl)
theorem dX4_breakDown_203 : decode cX4_breakDown 203 = .ok (.aload_n 0, 1) := dk_42 (dk_at dksX4_breakDown_8 17 rfl rfl)
theorem dX4_breakDown_204 : decode cX4_breakDown 204 = .ok (.getfield 84, 3) := dk_180 0 84 (dk_at dksX4_breakDown_8 18 rfl rfl)
theorem dX4_breakDown_207 : decode cX4_breakDown 207 = .ok (.iload 5, 2) := dk_21 5 (dk_at dksX4_breakDown_8 21 rfl rfl)
theorem dX4_breakDown_209 : decode cX4_breakDown 209 = .ok (.aaload, 1) := dk_50 (dk_at dksX4_breakDown_8 23 rfl rfl)
theorem dX4_breakDown_210 : decode cX4_breakDown 210 = .ok (.iload 8, 2) := dk_21 8 (dk_at dksX4_breakDown_9 0 rfl rfl)
theorem dX4_breakDown_212 : decode cX4_breakDown 212 = .ok (.iload_n 2, 1) := dk_28 (dk_at dksX4_breakDown_9 2 rfl rfl)
theorem dX4_breakDown_213 : decode cX4_breakDown 213 = .ok (.i2l, 1) := dk_133 (dk_at dksX4_breakDown_9 3 rfl rfl)
theorem dX4_breakDown_214 : decode cX4_breakDown 214 = .ok (.aload_n 3, 1) := dk_45 (dk_at dksX4_breakDown_9 4 rfl rfl)
theorem dX4_breakDown_215 : decode cX4_breakDown 215 = .ok (.iload 8, 2) := dk_21 8 (dk_at dksX4_breakDown_9 5 rfl rfl)
theorem dX4_breakDown_217 : decode cX4_breakDown 217 = .ok (.iaload, 1) := dk_46 (dk_at dksX4_breakDown_9 7 rfl rfl)
theorem dX4_breakDown_218 : decode cX4_breakDown 218 = .ok (.i2l, 1) := dk_133 (dk_at dksX4_breakDown_9 8 rfl rfl)
theorem dX4_breakDown_219 : decode cX4_breakDown 219 = .ok (.lmul, 1) := dk_105 (dk_at dksX4_breakDown_9 9 rfl rfl)
theorem dX4_breakDown_220 : decode cX4_breakDown 220 = .ok (.iload 4, 2) := dk_21 4 (dk_at dksX4_breakDown_9 10 rfl rfl)
theorem dX4_breakDown_222 : decode cX4_breakDown 222 = .ok (.i2l, 1) := dk_133 (dk_at dksX4_breakDown_9 12 rfl rfl)
theorem dX4_breakDown_223 : decode cX4_breakDown 223 = .ok (.ldiv, 1) := dk_109 (dk_at dksX4_breakDown_9 13 rfl rfl)
theorem dX4_breakDown_224 : decode cX4_breakDown 224 = .ok (.l2i, 1) := dk_136 (dk_at dksX4_breakDown_9 14 rfl rfl)
theorem dX4_breakDown_225 : decode cX4_breakDown 225 = .ok (.iastore, 1) := dk_79 (dk_at dksX4_breakDown_9 15 rfl rfl)
theorem dX4_breakDown_226 : decode cX4_breakDown 226 = .ok (.aload 6, 2) := dk_25 6 (dk_at dksX4_breakDown_9 16 rfl rfl)
theorem dX4_breakDown_228 : decode cX4_breakDown 228 = .ok (.iload 8, 2) := dk_21 8 (dk_at dksX4_breakDown_9 18 rfl rfl)
theorem dX4_breakDown_230 : decode cX4_breakDown 230 = .ok (.iload_n 2, 1) := dk_28 (dk_at dksX4_breakDown_9 20 rfl rfl)
theorem dX4_breakDown_231 : decode cX4_breakDown 231 = .ok (.i2l, 1) := dk_133 (dk_at dksX4_breakDown_9 21 rfl rfl)
theorem dX4_breakDown_232 : decode cX4_breakDown 232 = .ok (.aload_n 3, 1) := dk_45 (dk_at dksX4_breakDown_9 22 rfl rfl)
theorem dX4_breakDown_233 : decode cX4_breakDown 233 = .ok (.iload 8, 2) := dk_21 8 (dk_at dksX4_breakDown_10 0 rfl rfl)
theorem dX4_breakDown_235 : decode cX4_breakDown 235 = .ok (.iaload, 1) := dk_46 (dk_at dksX4_breakDown_10 2 rfl rfl)
theorem dX4_breakDown_236 : decode cX4_breakDown 236 = .ok (.i2l, 1) := dk_133 (dk_at dksX4_breakDown_10 3 rfl rfl)
theorem dX4_breakDown_237 : decode cX4_breakDown 237 = .ok (.lmul, 1) := dk_105 (dk_at dksX4_breakDown_10 4 rfl rfl)
theorem dX4_breakDown_238 : decode cX4_breakDown 238 = .ok (.iload 4, 2) := dk_21 4 (dk_at dksX4_breakDown_10 5 rfl rfl)
theorem dX4_breakDown_240 : decode cX4_breakDown 240 = .ok (.i2l, 1) := dk_133 (dk_at dksX4_breakDown_10 7 rfl rfl)
theorem dX4_breakDown_241 : decode cX4_breakDown 241 = .ok (.lrem, 1) := dk_113 (dk_at dksX4_breakDown_10 8 rfl rfl)
theorem dX4_breakDown_242 : decode cX4_breakDown 242 = .ok (.lastore, 1) := dk_80 (dk_at dksX4_breakDown_10 9 rfl rfl)
theorem dX4_breakDown_243 : decode cX4_breakDown 243 = .ok (.iload 7, 2) := dk_21 7 (dk_at dksX4_breakDown_10 10 rfl rfl)
theorem dX4_breakDown_245 : decode cX4_breakDown 245 = .ok (.aload_n 0, 1) := dk_42 (dk_at dksX4_breakDown_10 12 rfl rfl)
theorem dX4_breakDown_246 : decode cX4_breakDown 246 = .ok (.getfield 84, 3) := dk_180 0 84 (dk_at dksX4_breakDown_10 13 rfl rfl)
theorem dX4_breakDown_249 : decode cX4_breakDown 249 = .ok (.iload 5, 2) := dk_21 5 (dk_at dksX4_breakDown_10 16 rfl rfl)
theorem dX4_breakDown_251 : decode cX4_breakDown 251 = .ok (.aaload, 1) := dk_50 (dk_at dksX4_breakDown_10 18 rfl rfl)
theorem dX4_breakDown_252 : decode cX4_breakDown 252 = .ok (.iload 8, 2) := dk_21 8 (dk_at dksX4_breakDown_10 19 rfl rfl)
theorem dX4_breakDown_254 : decode cX4_breakDown 254 = .ok (.iaload, 1) := dk_46 (dk_at dksX4_breakDown_10 21 rfl rfl)
theorem dX4_breakDown_255 : decode cX4_breakDown 255 = .ok (.isub, 1) := dk_100 (dk_at dksX4_breakDown_10 22 rfl rfl)
theorem dX4_breakDown_256 : decode cX4_breakDown 256 = .ok (.istore 7, 2) := dk_54 7 (dk_at dksX4_breakDown_11 0 rfl rfl)
theorem dX4_breakDown_258 : decode cX4_breakDown 258 = .ok (.iinc 8 1, 3) := dk_132 8 1 (dk_at dksX4_breakDown_11 2 rfl rfl)
theorem dX4_breakDown_261 : decode cX4_breakDown 261 = .ok (.goto (-67), 3) := dk_167 255 189 (dk_at dksX4_breakDown_11 5 rfl rfl)
theorem dX4_breakDown_264 : decode cX4_breakDown 264 = .ok (.iload 7, 2) := dk_21 7 (dk_at dksX4_breakDown_11 8 rfl rfl)
theorem dX4_breakDown_266 : decode cX4_breakDown 266 = .ok (.ifCond .le 75, 3) := dk_158 0 75 (dk_at dksX4_breakDown_11 10 rfl rfl)
theorem dX4_breakDown_269 : decode cX4_breakDown 269 = .ok (.iconst 0, 1) := dk_3 (dk_at dksX4_breakDown_11 13 rfl rfl)
theorem dX4_breakDown_270 : decode cX4_breakDown 270 = .ok (.istore 8, 2) := dk_54 8 (dk_at dksX4_breakDown_11 14 rfl rfl)
theorem dX4_breakDown_272 : decode cX4_breakDown 272 = .ok (.iconst 1, 1) := dk_4 (dk_at dksX4_breakDown_11 16 rfl rfl)
theorem dX4_breakDown_273 : decode cX4_breakDown 273 = .ok (.istore 9, 2) := dk_54 9 (dk_at dksX4_breakDown_11 17 rfl rfl)
theorem dX4_breakDown_275 : decode cX4_breakDown 275 = .ok (.iload 9, 2) := dk_21 9 (dk_at dksX4_breakDown_11 19 rfl rfl)
theorem dX4_breakDown_277 : decode cX4_breakDown 277 = .ok (.aload_n 0, 1) := dk_42 (dk_at dksX4_breakDown_11 21 rfl rfl)
theorem dX4_breakDown_278 : decode cX4_breakDown 278 = .ok (.getfield 95, 3) := dk_180 0 95 (dk_at dksX4_breakDown_12 0 rfl rfl)
theorem dX4_breakDown_281 : decode cX4_breakDown 281 = .ok (.if_icmp .ge 32, 3) := dk_162 0 32 (dk_at dksX4_breakDown_12 3 rfl rfl)
theorem dX4_breakDown_284 : decode cX4_breakDown 284 = .ok (.aload 6, 2) := dk_25 6 (dk_at dksX4_breakDown_12 6 rfl rfl)
theorem dX4_breakDown_286 : decode cX4_breakDown 286 = .ok (.iload 9, 2) := dk_21 9 (dk_at dksX4_breakDown_12 8 rfl rfl)
theorem dX4_breakDown_288 : decode cX4_breakDown 288 = .ok (.laload, 1) := dk_47 (dk_at dksX4_breakDown_12 10 rfl rfl)
theorem dX4_breakDown_289 : decode cX4_breakDown 289 = .ok (.aload 6, 2) := dk_25 6 (dk_at dksX4_breakDown_12 11 rfl rfl)
theorem dX4_breakDown_291 : decode cX4_breakDown 291 = .ok (.iload 8, 2) := dk_21 8 (dk_at dksX4_breakDown_12 13 rfl rfl)
theorem dX4_breakDown_293 : decode cX4_breakDown 293 = .ok (.laload, 1) := dk_47 (dk_at dksX4_breakDown_12 15 rfl rfl)
theorem dX4_breakDown_294 : decode cX4_breakDown 294 = .ok (.lcmp, 1) := dk_148 (dk_at dksX4_breakDown_12 16 rfl rfl)
theorem dX4_breakDown_295 : decode cX4_breakDown 295 = .ok (.ifCond .le 8, 3) := dk_158 0 8 (dk_at dksX4_breakDown_12 17 rfl rfl)
theorem dX4_breakDown_298 : decode cX4_breakDown 298 = .ok (.iload 9, 2) := dk_21 9 (dk_at dksX4_breakDown_12 20 rfl rfl)
theorem dX4_breakDown_300 : decode cX4_breakDown 300 = .ok (.goto 5, 3) := dk_167 0 5 (dk_at dksX4_breakDown_13 0 rfl rfl)
theorem dX4_breakDown_303 : decode cX4_breakDown 303 = .ok (.iload 8, 2) := dk_21 8 (dk_at dksX4_breakDown_13 3 rfl rfl)
theorem dX4_breakDown_305 : decode cX4_breakDown 305 = .ok (.istore 8, 2) := dk_54 8 (dk_at dksX4_breakDown_13 5 rfl rfl)
theorem dX4_breakDown_307 : decode cX4_breakDown 307 = .ok (.iinc 9 1, 3) := dk_132 9 1 (dk_at dksX4_breakDown_13 7 rfl rfl)
theorem dX4_breakDown_310 : decode cX4_breakDown 310 = .ok (.goto (-35), 3) := dk_167 255 221 (dk_at dksX4_breakDown_13 10 rfl rfl)
theorem dX4_breakDown_313 : decode cX4_breakDown 313 = .ok (.aload_n 0, 1) := dk_42 (dk_at dksX4_breakDown_13 13 rfl rfl)
theorem dX4_breakDown_314 : decode cX4_breakDown 314 = .ok (.getfield 84, 3) := dk_180 0 84 (dk_at dksX4_breakDown_13 14 rfl rfl)
theorem dX4_breakDown_317 : decode cX4_breakDown 317 = .ok (.iload 5, 2) := dk_21 5 (dk_at dksX4_breakDown_13 17 rfl rfl)
theorem dX4_breakDown_319 : decode cX4_breakDown 319 = .ok (.aaload, 1) := dk_50 (dk_at dksX4_breakDown_13 19 rfl rfl)
theorem dX4_breakDown_320 : decode cX4_breakDown 320 = .ok (.iload 8, 2) := dk_21 8 (dk_at dksX4_breakDown_13 20 rfl rfl)
theorem dX4_breakDown_322 : decode cX4_breakDown 322 = .ok (.dup2, 1) := dk_92 (dk_at dksX4_breakDown_13 22 rfl rfl)
theorem dX4_breakDown_323 : decode cX4_breakDown 323 = .ok (.iaload, 1) := dk_46 (dk_at dksX4_breakDown_13 23 rfl rfl)
theorem dX4_breakDown_324 : decode cX4_breakDown 324 = .ok (.iconst 1, 1) := dk_4 (dk_at dksX4_breakDown_14 0 rfl rfl)
theorem dX4_breakDown_325 : decode cX4_breakDown 325 = .ok (.iadd, 1) := dk_96 (dk_at dksX4_breakDown_14 1 rfl rfl)
theorem dX4_breakDown_326 : decode cX4_breakDown 326 = .ok (.iastore, 1) := dk_79 (dk_at dksX4_breakDown_14 2 rfl rfl)
theorem dX4_breakDown_327 : decode cX4_breakDown 327 = .ok (.aload 6, 2) := dk_25 6 (dk_at dksX4_breakDown_14 3 rfl rfl)
theorem dX4_breakDown_329 : decode cX4_breakDown 329 = .ok (.iload 8, 2) := dk_21 8 (dk_at dksX4_breakDown_14 5 rfl rfl)
theorem dX4_breakDown_331 : decode cX4_breakDown 331 = .ok (.ldc2_w 224, 3) := dk_20 0 224 (dk_at dksX4_breakDown_14 7 rfl rfl)
theorem dX4_breakDown_334 : decode cX4_breakDown 334 = .ok (.lastore, 1) := dk_80 (dk_at dksX4_breakDown_14 10 rfl rfl)
theorem dX4_breakDown_335 : decode cX4_breakDown 335 = .ok (.iinc 7 (-1), 3) := dk_132 7 255 (dk_at dksX4_breakDown_14 11 rfl rfl)
theorem dX4_breakDown_338 : decode cX4_breakDown 338 = .ok (.goto (-74), 3) := dk_167 255 182 (dk_at dksX4_breakDown_14 14 rfl rfl)
theorem dX4_breakDown_341 : decode cX4_breakDown 341 = .ok (.iload 4, 2) := dk_21 4 (dk_at dksX4_breakDown_14 17 rfl rfl)
theorem dX4_breakDown_343 : decode cX4_breakDown 343 = .ok (.ireturn, 1) := dk_172 (dk_at dksX4_breakDown_14 19 rfl rfl)
abbrev cX4_shareOf : ByteArray := prog_14_method_62_code
def yX4_shareOf : MethodName := ⟨RX4, "shareOf", "(II)I"⟩
def dkwX4_shareOf_2 : List UInt8 := [180, 0, 84, 27, 50, 28, 46, 172]
abbrev dktX4_shareOf_2 : List UInt8 := dkwX4_shareOf_2 ++ []
def dkwX4_shareOf_1 : List UInt8 := [154, 0, 7, 5, 167, 0, 4, 3, 181, 0, 87, 42, 180, 0, 87, 158, 0, 7, 3, 167, 0, 11, 42]
abbrev dktX4_shareOf_1 : List UInt8 := dkwX4_shareOf_1 ++ dktX4_shareOf_2
def dkwX4_shareOf_0 : List UInt8 := [42, 27, 3, 42, 180, 0, 221, 4, 100, 184, 0, 91, 154, 0, 7, 4, 167, 0, 16, 42, 28, 182, 0, 128]
abbrev dktX4_shareOf_0 : List UInt8 := dkwX4_shareOf_0 ++ dktX4_shareOf_1
theorem dksX4_shareOf_0 : cX4_shareOf.data.toList.drop 0 = dktX4_shareOf_0 := by decide +kernel
theorem dksX4_shareOf_1 : cX4_shareOf.data.toList.drop 24 = dktX4_shareOf_1 := dk_seg dksX4_shareOf_0 24 rfl rfl
theorem dksX4_shareOf_2 : cX4_shareOf.data.toList.drop 47 = dktX4_shareOf_2 := dk_seg dksX4_shareOf_1 23 rfl rfl
theorem dX4_shareOf_0 : decode cX4_shareOf 0 = .ok (.aload_n 0, 1) := dk_42 (dk_at dksX4_shareOf_0 0 rfl rfl)
theorem dX4_shareOf_1 : decode cX4_shareOf 1 = .ok (.iload_n 1, 1) := dk_27 (dk_at dksX4_shareOf_0 1 rfl rfl)
theorem dX4_shareOf_2 : decode cX4_shareOf 2 = .ok (.iconst 0, 1) := dk_3 (dk_at dksX4_shareOf_0 2 rfl rfl)
theorem dX4_shareOf_3 : decode cX4_shareOf 3 = .ok (.aload_n 0, 1) := dk_42 (dk_at dksX4_shareOf_0 3 rfl rfl)
theorem dX4_shareOf_4 : decode cX4_shareOf 4 = .ok (.getfield 221, 3) := dk_180 0 221 (dk_at dksX4_shareOf_0 4 rfl rfl)
theorem dX4_shareOf_7 : decode cX4_shareOf 7 = .ok (.iconst 1, 1) := dk_4 (dk_at dksX4_shareOf_0 7 rfl rfl)
theorem dX4_shareOf_8 : decode cX4_shareOf 8 = .ok (.isub, 1) := dk_100 (dk_at dksX4_shareOf_0 8 rfl rfl)
theorem dX4_shareOf_9 : decode cX4_shareOf 9 = .ok (.invokestatic 91, 3) := dk_184 0 91 (dk_at dksX4_shareOf_0 9 rfl rfl)
theorem dX4_shareOf_12 : decode cX4_shareOf 12 = .ok (.ifCond .ne 7, 3) := dk_154 0 7 (dk_at dksX4_shareOf_0 12 rfl rfl)
theorem dX4_shareOf_15 : decode cX4_shareOf 15 = .ok (.iconst 1, 1) := dk_4 (dk_at dksX4_shareOf_0 15 rfl rfl)
theorem dX4_shareOf_16 : decode cX4_shareOf 16 = .ok (.goto 16, 3) := dk_167 0 16 (dk_at dksX4_shareOf_0 16 rfl rfl)
theorem dX4_shareOf_19 : decode cX4_shareOf 19 = .ok (.aload_n 0, 1) := dk_42 (dk_at dksX4_shareOf_0 19 rfl rfl)
theorem dX4_shareOf_20 : decode cX4_shareOf 20 = .ok (.iload_n 2, 1) := dk_28 (dk_at dksX4_shareOf_0 20 rfl rfl)
theorem dX4_shareOf_21 : decode cX4_shareOf 21 = .ok (.invokevirtual 128, 3) := dk_182 0 128 (dk_at dksX4_shareOf_0 21 rfl rfl)
theorem dX4_shareOf_24 : decode cX4_shareOf 24 = .ok (.ifCond .ne 7, 3) := dk_154 0 7 (dk_at dksX4_shareOf_1 0 rfl rfl)
theorem dX4_shareOf_27 : decode cX4_shareOf 27 = .ok (.iconst 2, 1) := dk_5 (dk_at dksX4_shareOf_1 3 rfl rfl)
theorem dX4_shareOf_28 : decode cX4_shareOf 28 = .ok (.goto 4, 3) := dk_167 0 4 (dk_at dksX4_shareOf_1 4 rfl rfl)
theorem dX4_shareOf_31 : decode cX4_shareOf 31 = .ok (.iconst 0, 1) := dk_3 (dk_at dksX4_shareOf_1 7 rfl rfl)
theorem dX4_shareOf_32 : decode cX4_shareOf 32 = .ok (.putfield 87, 3) := dk_181 0 87 (dk_at dksX4_shareOf_1 8 rfl rfl)
theorem dX4_shareOf_35 : decode cX4_shareOf 35 = .ok (.aload_n 0, 1) := dk_42 (dk_at dksX4_shareOf_1 11 rfl rfl)
theorem dX4_shareOf_36 : decode cX4_shareOf 36 = .ok (.getfield 87, 3) := dk_180 0 87 (dk_at dksX4_shareOf_1 12 rfl rfl)
theorem dX4_shareOf_39 : decode cX4_shareOf 39 = .ok (.ifCond .le 7, 3) := dk_158 0 7 (dk_at dksX4_shareOf_1 15 rfl rfl)
theorem dX4_shareOf_42 : decode cX4_shareOf 42 = .ok (.iconst 0, 1) := dk_3 (dk_at dksX4_shareOf_1 18 rfl rfl)
theorem dX4_shareOf_43 : decode cX4_shareOf 43 = .ok (.goto 11, 3) := dk_167 0 11 (dk_at dksX4_shareOf_1 19 rfl rfl)
theorem dX4_shareOf_46 : decode cX4_shareOf 46 = .ok (.aload_n 0, 1) := dk_42 (dk_at dksX4_shareOf_1 22 rfl rfl)
theorem dX4_shareOf_47 : decode cX4_shareOf 47 = .ok (.getfield 84, 3) := dk_180 0 84 (dk_at dksX4_shareOf_2 0 rfl rfl)
theorem dX4_shareOf_50 : decode cX4_shareOf 50 = .ok (.iload_n 1, 1) := dk_27 (dk_at dksX4_shareOf_2 3 rfl rfl)
theorem dX4_shareOf_51 : decode cX4_shareOf 51 = .ok (.aaload, 1) := dk_50 (dk_at dksX4_shareOf_2 4 rfl rfl)
theorem dX4_shareOf_52 : decode cX4_shareOf 52 = .ok (.iload_n 2, 1) := dk_28 (dk_at dksX4_shareOf_2 5 rfl rfl)
theorem dX4_shareOf_53 : decode cX4_shareOf 53 = .ok (.iaload, 1) := dk_46 (dk_at dksX4_shareOf_2 6 rfl rfl)
theorem dX4_shareOf_54 : decode cX4_shareOf 54 = .ok (.ireturn, 1) := dk_172 (dk_at dksX4_shareOf_2 7 rfl rfl)
abbrev cX4_pay : ByteArray := prog_14_method_64_code
def yX4_pay : MethodName := ⟨RX4, "pay", "(II)I"⟩
def dkwX4_pay_3 : List UInt8 := [27, 182, 0, 229, 136, 172]
abbrev dktX4_pay_3 : List UInt8 := dkwX4_pay_3 ++ []
def dkwX4_pay_2 : List UInt8 := [181, 0, 87, 42, 180, 0, 87, 158, 0, 5, 3, 172, 42, 180, 0, 21, 27, 92, 47, 28, 133, 97, 80, 42]
abbrev dktX4_pay_2 : List UInt8 := dkwX4_pay_2 ++ dktX4_pay_3
def dkwX4_pay_1 : List UInt8 := [167, 0, 24, 42, 180, 0, 21, 27, 47, 28, 133, 97, 20, 0, 227, 148, 158, 0, 7, 6, 167, 0, 4, 3]
abbrev dktX4_pay_1 : List UInt8 := dkwX4_pay_1 ++ dktX4_pay_2
def dkwX4_pay_0 : List UInt8 := [42, 42, 27, 182, 0, 128, 154, 0, 7, 4, 167, 0, 38, 28, 4, 18, 226, 184, 0, 91, 154, 0, 7, 5]
abbrev dktX4_pay_0 : List UInt8 := dkwX4_pay_0 ++ dktX4_pay_1
theorem dksX4_pay_0 : cX4_pay.data.toList.drop 0 = dktX4_pay_0 := by decide +kernel
theorem dksX4_pay_1 : cX4_pay.data.toList.drop 24 = dktX4_pay_1 := dk_seg dksX4_pay_0 24 rfl rfl
theorem dksX4_pay_2 : cX4_pay.data.toList.drop 48 = dktX4_pay_2 := dk_seg dksX4_pay_1 24 rfl rfl
theorem dksX4_pay_3 : cX4_pay.data.toList.drop 72 = dktX4_pay_3 := dk_seg dksX4_pay_2 24 rfl rfl
theorem dX4_pay_0 : decode cX4_pay 0 = .ok (.aload_n 0, 1) := dk_42 (dk_at dksX4_pay_0 0 rfl rfl)
theorem dX4_pay_1 : decode cX4_pay 1 = .ok (.aload_n 0, 1) := dk_42 (dk_at dksX4_pay_0 1 rfl rfl)
theorem dX4_pay_2 : decode cX4_pay 2 = .ok (.iload_n 1, 1) := dk_27 (dk_at dksX4_pay_0 2 rfl rfl)
theorem dX4_pay_3 : decode cX4_pay 3 = .ok (.invokevirtual 128, 3) := dk_182 0 128 (dk_at dksX4_pay_0 3 rfl rfl)
theorem dX4_pay_6 : decode cX4_pay 6 = .ok (.ifCond .ne 7, 3) := dk_154 0 7 (dk_at dksX4_pay_0 6 rfl rfl)
theorem dX4_pay_9 : decode cX4_pay 9 = .ok (.iconst 1, 1) := dk_4 (dk_at dksX4_pay_0 9 rfl rfl)
theorem dX4_pay_10 : decode cX4_pay 10 = .ok (.goto 38, 3) := dk_167 0 38 (dk_at dksX4_pay_0 10 rfl rfl)
theorem dX4_pay_13 : decode cX4_pay 13 = .ok (.iload_n 2, 1) := dk_28 (dk_at dksX4_pay_0 13 rfl rfl)
theorem dX4_pay_14 : decode cX4_pay 14 = .ok (.iconst 1, 1) := dk_4 (dk_at dksX4_pay_0 14 rfl rfl)
theorem dX4_pay_15 : decode cX4_pay 15 = .ok (.ldc 226, 2) := dk_18 226 (dk_at dksX4_pay_0 15 rfl rfl)
theorem dX4_pay_17 : decode cX4_pay 17 = .ok (.invokestatic 91, 3) := dk_184 0 91 (dk_at dksX4_pay_0 17 rfl rfl)
theorem dX4_pay_20 : decode cX4_pay 20 = .ok (.ifCond .ne 7, 3) := dk_154 0 7 (dk_at dksX4_pay_0 20 rfl rfl)
theorem dX4_pay_23 : decode cX4_pay 23 = .ok (.iconst 2, 1) := dk_5 (dk_at dksX4_pay_0 23 rfl rfl)
theorem dX4_pay_24 : decode cX4_pay 24 = .ok (.goto 24, 3) := dk_167 0 24 (dk_at dksX4_pay_1 0 rfl rfl)
theorem dX4_pay_27 : decode cX4_pay 27 = .ok (.aload_n 0, 1) := dk_42 (dk_at dksX4_pay_1 3 rfl rfl)
theorem dX4_pay_28 : decode cX4_pay 28 = .ok (.getfield 21, 3) := dk_180 0 21 (dk_at dksX4_pay_1 4 rfl rfl)
theorem dX4_pay_31 : decode cX4_pay 31 = .ok (.iload_n 1, 1) := dk_27 (dk_at dksX4_pay_1 7 rfl rfl)
theorem dX4_pay_32 : decode cX4_pay 32 = .ok (.laload, 1) := dk_47 (dk_at dksX4_pay_1 8 rfl rfl)
theorem dX4_pay_33 : decode cX4_pay 33 = .ok (.iload_n 2, 1) := dk_28 (dk_at dksX4_pay_1 9 rfl rfl)
theorem dX4_pay_34 : decode cX4_pay 34 = .ok (.i2l, 1) := dk_133 (dk_at dksX4_pay_1 10 rfl rfl)
theorem dX4_pay_35 : decode cX4_pay 35 = .ok (.ladd, 1) := dk_97 (dk_at dksX4_pay_1 11 rfl rfl)
theorem dX4_pay_36 : decode cX4_pay 36 = .ok (.ldc2_w 227, 3) := dk_20 0 227 (dk_at dksX4_pay_1 12 rfl rfl)
theorem dX4_pay_39 : decode cX4_pay 39 = .ok (.lcmp, 1) := dk_148 (dk_at dksX4_pay_1 15 rfl rfl)
theorem dX4_pay_40 : decode cX4_pay 40 = .ok (.ifCond .le 7, 3) := dk_158 0 7 (dk_at dksX4_pay_1 16 rfl rfl)
theorem dX4_pay_43 : decode cX4_pay 43 = .ok (.iconst 3, 1) := dk_6 (dk_at dksX4_pay_1 19 rfl rfl)
theorem dX4_pay_44 : decode cX4_pay 44 = .ok (.goto 4, 3) := dk_167 0 4 (dk_at dksX4_pay_1 20 rfl rfl)
theorem dX4_pay_47 : decode cX4_pay 47 = .ok (.iconst 0, 1) := dk_3 (dk_at dksX4_pay_1 23 rfl rfl)
theorem dX4_pay_48 : decode cX4_pay 48 = .ok (.putfield 87, 3) := dk_181 0 87 (dk_at dksX4_pay_2 0 rfl rfl)
theorem dX4_pay_51 : decode cX4_pay 51 = .ok (.aload_n 0, 1) := dk_42 (dk_at dksX4_pay_2 3 rfl rfl)
theorem dX4_pay_52 : decode cX4_pay 52 = .ok (.getfield 87, 3) := dk_180 0 87 (dk_at dksX4_pay_2 4 rfl rfl)
theorem dX4_pay_55 : decode cX4_pay 55 = .ok (.ifCond .le 5, 3) := dk_158 0 5 (dk_at dksX4_pay_2 7 rfl rfl)
theorem dX4_pay_58 : decode cX4_pay 58 = .ok (.iconst 0, 1) := dk_3 (dk_at dksX4_pay_2 10 rfl rfl)
theorem dX4_pay_59 : decode cX4_pay 59 = .ok (.ireturn, 1) := dk_172 (dk_at dksX4_pay_2 11 rfl rfl)
theorem dX4_pay_60 : decode cX4_pay 60 = .ok (.aload_n 0, 1) := dk_42 (dk_at dksX4_pay_2 12 rfl rfl)
theorem dX4_pay_61 : decode cX4_pay 61 = .ok (.getfield 21, 3) := dk_180 0 21 (dk_at dksX4_pay_2 13 rfl rfl)
theorem dX4_pay_64 : decode cX4_pay 64 = .ok (.iload_n 1, 1) := dk_27 (dk_at dksX4_pay_2 16 rfl rfl)
theorem dX4_pay_65 : decode cX4_pay 65 = .ok (.dup2, 1) := dk_92 (dk_at dksX4_pay_2 17 rfl rfl)
theorem dX4_pay_66 : decode cX4_pay 66 = .ok (.laload, 1) := dk_47 (dk_at dksX4_pay_2 18 rfl rfl)
theorem dX4_pay_67 : decode cX4_pay 67 = .ok (.iload_n 2, 1) := dk_28 (dk_at dksX4_pay_2 19 rfl rfl)
theorem dX4_pay_68 : decode cX4_pay 68 = .ok (.i2l, 1) := dk_133 (dk_at dksX4_pay_2 20 rfl rfl)
theorem dX4_pay_69 : decode cX4_pay 69 = .ok (.ladd, 1) := dk_97 (dk_at dksX4_pay_2 21 rfl rfl)
theorem dX4_pay_70 : decode cX4_pay 70 = .ok (.lastore, 1) := dk_80 (dk_at dksX4_pay_2 22 rfl rfl)
theorem dX4_pay_71 : decode cX4_pay 71 = .ok (.aload_n 0, 1) := dk_42 (dk_at dksX4_pay_2 23 rfl rfl)
theorem dX4_pay_72 : decode cX4_pay 72 = .ok (.iload_n 1, 1) := dk_27 (dk_at dksX4_pay_3 0 rfl rfl)
theorem dX4_pay_73 : decode cX4_pay 73 = .ok (.invokevirtual 229, 3) := dk_182 0 229 (dk_at dksX4_pay_3 1 rfl rfl)
theorem dX4_pay_76 : decode cX4_pay 76 = .ok (.l2i, 1) := dk_136 (dk_at dksX4_pay_3 4 rfl rfl)
theorem dX4_pay_77 : decode cX4_pay 77 = .ok (.ireturn, 1) := dk_172 (dk_at dksX4_pay_3 5 rfl rfl)
abbrev cX4_owed : ByteArray := prog_14_method_63_code
def yX4_owed : MethodName := ⟨RX4, "owed", "(I)J"⟩
def dkwX4_owed_3 : List UInt8 := [21, 4, 50, 27, 46, 133, 97, 65, 132, 4, 1, 167, 255, 231, 32, 173]
abbrev dktX4_owed_3 : List UInt8 := dkwX4_owed_3 ++ []
def dkwX4_owed_2 : List UInt8 := [132, 4, 1, 167, 255, 218, 3, 54, 4, 21, 4, 42, 180, 0, 221, 162, 0, 22, 32, 42, 180, 0, 84]
abbrev dktX4_owed_2 : List UInt8 := dkwX4_owed_2 ++ dktX4_owed_3
def dkwX4_owed_1 : List UInt8 := [180, 0, 30, 21, 4, 46, 27, 160, 0, 14, 42, 180, 0, 52, 21, 4, 46, 133, 167, 0, 4, 9, 97, 65]
abbrev dktX4_owed_1 : List UInt8 := dkwX4_owed_1 ++ dktX4_owed_2
def dkwX4_owed_0 : List UInt8 := [42, 180, 0, 21, 27, 47, 117, 65, 3, 54, 4, 21, 4, 42, 180, 0, 101, 162, 0, 35, 32, 42]
abbrev dktX4_owed_0 : List UInt8 := dkwX4_owed_0 ++ dktX4_owed_1
theorem dksX4_owed_0 : cX4_owed.data.toList.drop 0 = dktX4_owed_0 := by decide +kernel
theorem dksX4_owed_1 : cX4_owed.data.toList.drop 22 = dktX4_owed_1 := dk_seg dksX4_owed_0 22 rfl rfl
theorem dksX4_owed_2 : cX4_owed.data.toList.drop 46 = dktX4_owed_2 := dk_seg dksX4_owed_1 24 rfl rfl
theorem dksX4_owed_3 : cX4_owed.data.toList.drop 69 = dktX4_owed_3 := dk_seg dksX4_owed_2 23 rfl rfl
theorem dX4_owed_0 : decode cX4_owed 0 = .ok (.aload_n 0, 1) := dk_42 (dk_at dksX4_owed_0 0 rfl rfl)
theorem dX4_owed_1 : decode cX4_owed 1 = .ok (.getfield 21, 3) := dk_180 0 21 (dk_at dksX4_owed_0 1 rfl rfl)
theorem dX4_owed_4 : decode cX4_owed 4 = .ok (.iload_n 1, 1) := dk_27 (dk_at dksX4_owed_0 4 rfl rfl)
theorem dX4_owed_5 : decode cX4_owed 5 = .ok (.laload, 1) := dk_47 (dk_at dksX4_owed_0 5 rfl rfl)
theorem dX4_owed_6 : decode cX4_owed 6 = .ok (.lneg, 1) := dk_117 (dk_at dksX4_owed_0 6 rfl rfl)
theorem dX4_owed_7 : decode cX4_owed 7 = .ok (.lstore_n 2, 1) := dk_65 (dk_at dksX4_owed_0 7 rfl rfl)
theorem dX4_owed_8 : decode cX4_owed 8 = .ok (.iconst 0, 1) := dk_3 (dk_at dksX4_owed_0 8 rfl rfl)
theorem dX4_owed_9 : decode cX4_owed 9 = .ok (.istore 4, 2) := dk_54 4 (dk_at dksX4_owed_0 9 rfl rfl)
theorem dX4_owed_11 : decode cX4_owed 11 = .ok (.iload 4, 2) := dk_21 4 (dk_at dksX4_owed_0 11 rfl rfl)
theorem dX4_owed_13 : decode cX4_owed 13 = .ok (.aload_n 0, 1) := dk_42 (dk_at dksX4_owed_0 13 rfl rfl)
theorem dX4_owed_14 : decode cX4_owed 14 = .ok (.getfield 101, 3) := dk_180 0 101 (dk_at dksX4_owed_0 14 rfl rfl)
theorem dX4_owed_17 : decode cX4_owed 17 = .ok (.if_icmp .ge 35, 3) := dk_162 0 35 (dk_at dksX4_owed_0 17 rfl rfl)
theorem dX4_owed_20 : decode cX4_owed 20 = .ok (.lload_n 2, 1) := dk_32 (dk_at dksX4_owed_0 20 rfl rfl)
theorem dX4_owed_21 : decode cX4_owed 21 = .ok (.aload_n 0, 1) := dk_42 (dk_at dksX4_owed_0 21 rfl rfl)
theorem dX4_owed_22 : decode cX4_owed 22 = .ok (.getfield 30, 3) := dk_180 0 30 (dk_at dksX4_owed_1 0 rfl rfl)
theorem dX4_owed_25 : decode cX4_owed 25 = .ok (.iload 4, 2) := dk_21 4 (dk_at dksX4_owed_1 3 rfl rfl)
theorem dX4_owed_27 : decode cX4_owed 27 = .ok (.iaload, 1) := dk_46 (dk_at dksX4_owed_1 5 rfl rfl)
theorem dX4_owed_28 : decode cX4_owed 28 = .ok (.iload_n 1, 1) := dk_27 (dk_at dksX4_owed_1 6 rfl rfl)
theorem dX4_owed_29 : decode cX4_owed 29 = .ok (.if_icmp .ne 14, 3) := dk_160 0 14 (dk_at dksX4_owed_1 7 rfl rfl)
theorem dX4_owed_32 : decode cX4_owed 32 = .ok (.aload_n 0, 1) := dk_42 (dk_at dksX4_owed_1 10 rfl rfl)
theorem dX4_owed_33 : decode cX4_owed 33 = .ok (.getfield 52, 3) := dk_180 0 52 (dk_at dksX4_owed_1 11 rfl rfl)
theorem dX4_owed_36 : decode cX4_owed 36 = .ok (.iload 4, 2) := dk_21 4 (dk_at dksX4_owed_1 14 rfl rfl)
theorem dX4_owed_38 : decode cX4_owed 38 = .ok (.iaload, 1) := dk_46 (dk_at dksX4_owed_1 16 rfl rfl)
theorem dX4_owed_39 : decode cX4_owed 39 = .ok (.i2l, 1) := dk_133 (dk_at dksX4_owed_1 17 rfl rfl)
theorem dX4_owed_40 : decode cX4_owed 40 = .ok (.goto 4, 3) := dk_167 0 4 (dk_at dksX4_owed_1 18 rfl rfl)
theorem dX4_owed_43 : decode cX4_owed 43 = .ok (.lconst 0, 1) := dk_9 (dk_at dksX4_owed_1 21 rfl rfl)
theorem dX4_owed_44 : decode cX4_owed 44 = .ok (.ladd, 1) := dk_97 (dk_at dksX4_owed_1 22 rfl rfl)
theorem dX4_owed_45 : decode cX4_owed 45 = .ok (.lstore_n 2, 1) := dk_65 (dk_at dksX4_owed_1 23 rfl rfl)
theorem dX4_owed_46 : decode cX4_owed 46 = .ok (.iinc 4 1, 3) := dk_132 4 1 (dk_at dksX4_owed_2 0 rfl rfl)
theorem dX4_owed_49 : decode cX4_owed 49 = .ok (.goto (-38), 3) := dk_167 255 218 (dk_at dksX4_owed_2 3 rfl rfl)
theorem dX4_owed_52 : decode cX4_owed 52 = .ok (.iconst 0, 1) := dk_3 (dk_at dksX4_owed_2 6 rfl rfl)
theorem dX4_owed_53 : decode cX4_owed 53 = .ok (.istore 4, 2) := dk_54 4 (dk_at dksX4_owed_2 7 rfl rfl)
theorem dX4_owed_55 : decode cX4_owed 55 = .ok (.iload 4, 2) := dk_21 4 (dk_at dksX4_owed_2 9 rfl rfl)
theorem dX4_owed_57 : decode cX4_owed 57 = .ok (.aload_n 0, 1) := dk_42 (dk_at dksX4_owed_2 11 rfl rfl)
theorem dX4_owed_58 : decode cX4_owed 58 = .ok (.getfield 221, 3) := dk_180 0 221 (dk_at dksX4_owed_2 12 rfl rfl)
theorem dX4_owed_61 : decode cX4_owed 61 = .ok (.if_icmp .ge 22, 3) := dk_162 0 22 (dk_at dksX4_owed_2 15 rfl rfl)
theorem dX4_owed_64 : decode cX4_owed 64 = .ok (.lload_n 2, 1) := dk_32 (dk_at dksX4_owed_2 18 rfl rfl)
theorem dX4_owed_65 : decode cX4_owed 65 = .ok (.aload_n 0, 1) := dk_42 (dk_at dksX4_owed_2 19 rfl rfl)
theorem dX4_owed_66 : decode cX4_owed 66 = .ok (.getfield 84, 3) := dk_180 0 84 (dk_at dksX4_owed_2 20 rfl rfl)
theorem dX4_owed_69 : decode cX4_owed 69 = .ok (.iload 4, 2) := dk_21 4 (dk_at dksX4_owed_3 0 rfl rfl)
theorem dX4_owed_71 : decode cX4_owed 71 = .ok (.aaload, 1) := dk_50 (dk_at dksX4_owed_3 2 rfl rfl)
theorem dX4_owed_72 : decode cX4_owed 72 = .ok (.iload_n 1, 1) := dk_27 (dk_at dksX4_owed_3 3 rfl rfl)
theorem dX4_owed_73 : decode cX4_owed 73 = .ok (.iaload, 1) := dk_46 (dk_at dksX4_owed_3 4 rfl rfl)
theorem dX4_owed_74 : decode cX4_owed 74 = .ok (.i2l, 1) := dk_133 (dk_at dksX4_owed_3 5 rfl rfl)
theorem dX4_owed_75 : decode cX4_owed 75 = .ok (.ladd, 1) := dk_97 (dk_at dksX4_owed_3 6 rfl rfl)
theorem dX4_owed_76 : decode cX4_owed 76 = .ok (.lstore_n 2, 1) := dk_65 (dk_at dksX4_owed_3 7 rfl rfl)
theorem dX4_owed_77 : decode cX4_owed 77 = .ok (.iinc 4 1, 3) := dk_132 4 1 (dk_at dksX4_owed_3 8 rfl rfl)
theorem dX4_owed_80 : decode cX4_owed 80 = .ok (.goto (-25), 3) := dk_167 255 231 (dk_at dksX4_owed_3 11 rfl rfl)
theorem dX4_owed_83 : decode cX4_owed 83 = .ok (.lload_n 2, 1) := dk_32 (dk_at dksX4_owed_3 14 rfl rfl)
theorem dX4_owed_84 : decode cX4_owed 84 = .ok (.lreturn, 1) := dk_173 (dk_at dksX4_owed_3 15 rfl rfl)
abbrev cX4_owes : ByteArray := prog_14_method_65_code
def yX4_owes : MethodName := ⟨RX4, "owes", "(I)I"⟩
def dkwX4_owes_1 : List UInt8 := [3, 167, 0, 9, 42, 27, 182, 0, 229, 136, 172]
abbrev dktX4_owes_1 : List UInt8 := dkwX4_owes_1 ++ []
def dkwX4_owes_0 : List UInt8 := [42, 42, 27, 182, 0, 128, 153, 0, 7, 3, 167, 0, 4, 4, 181, 0, 87, 42, 180, 0, 87, 158, 0, 7]
abbrev dktX4_owes_0 : List UInt8 := dkwX4_owes_0 ++ dktX4_owes_1
theorem dksX4_owes_0 : cX4_owes.data.toList.drop 0 = dktX4_owes_0 := by decide +kernel
theorem dksX4_owes_1 : cX4_owes.data.toList.drop 24 = dktX4_owes_1 := dk_seg dksX4_owes_0 24 rfl rfl
theorem dX4_owes_0 : decode cX4_owes 0 = .ok (.aload_n 0, 1) := dk_42 (dk_at dksX4_owes_0 0 rfl rfl)
theorem dX4_owes_1 : decode cX4_owes 1 = .ok (.aload_n 0, 1) := dk_42 (dk_at dksX4_owes_0 1 rfl rfl)
theorem dX4_owes_2 : decode cX4_owes 2 = .ok (.iload_n 1, 1) := dk_27 (dk_at dksX4_owes_0 2 rfl rfl)
theorem dX4_owes_3 : decode cX4_owes 3 = .ok (.invokevirtual 128, 3) := dk_182 0 128 (dk_at dksX4_owes_0 3 rfl rfl)
theorem dX4_owes_6 : decode cX4_owes 6 = .ok (.ifCond .eq 7, 3) := dk_153 0 7 (dk_at dksX4_owes_0 6 rfl rfl)
theorem dX4_owes_9 : decode cX4_owes 9 = .ok (.iconst 0, 1) := dk_3 (dk_at dksX4_owes_0 9 rfl rfl)
theorem dX4_owes_10 : decode cX4_owes 10 = .ok (.goto 4, 3) := dk_167 0 4 (dk_at dksX4_owes_0 10 rfl rfl)
theorem dX4_owes_13 : decode cX4_owes 13 = .ok (.iconst 1, 1) := dk_4 (dk_at dksX4_owes_0 13 rfl rfl)
theorem dX4_owes_14 : decode cX4_owes 14 = .ok (.putfield 87, 3) := dk_181 0 87 (dk_at dksX4_owes_0 14 rfl rfl)
theorem dX4_owes_17 : decode cX4_owes 17 = .ok (.aload_n 0, 1) := dk_42 (dk_at dksX4_owes_0 17 rfl rfl)
theorem dX4_owes_18 : decode cX4_owes 18 = .ok (.getfield 87, 3) := dk_180 0 87 (dk_at dksX4_owes_0 18 rfl rfl)
theorem dX4_owes_21 : decode cX4_owes 21 = .ok (.ifCond .le 7, 3) := dk_158 0 7 (dk_at dksX4_owes_0 21 rfl rfl)
theorem dX4_owes_24 : decode cX4_owes 24 = .ok (.iconst 0, 1) := dk_3 (dk_at dksX4_owes_1 0 rfl rfl)
theorem dX4_owes_25 : decode cX4_owes 25 = .ok (.goto 9, 3) := dk_167 0 9 (dk_at dksX4_owes_1 1 rfl rfl)
theorem dX4_owes_28 : decode cX4_owes 28 = .ok (.aload_n 0, 1) := dk_42 (dk_at dksX4_owes_1 4 rfl rfl)
theorem dX4_owes_29 : decode cX4_owes 29 = .ok (.iload_n 1, 1) := dk_27 (dk_at dksX4_owes_1 5 rfl rfl)
theorem dX4_owes_30 : decode cX4_owes 30 = .ok (.invokevirtual 229, 3) := dk_182 0 229 (dk_at dksX4_owes_1 6 rfl rfl)
theorem dX4_owes_33 : decode cX4_owes 33 = .ok (.l2i, 1) := dk_136 (dk_at dksX4_owes_1 9 rfl rfl)
theorem dX4_owes_34 : decode cX4_owes 34 = .ok (.ireturn, 1) := dk_172 (dk_at dksX4_owes_1 10 rfl rfl)
abbrev cX4_owesByEntries : ByteArray := prog_14_method_66_code
def yX4_owesByEntries : MethodName := ⟨RX4, "owesByEntries", "(I)I"⟩
def dkwX4_owesByEntries_0 : List UInt8 := [42, 27, 182, 0, 233, 172]
abbrev dktX4_owesByEntries_0 : List UInt8 := dkwX4_owesByEntries_0 ++ []
theorem dksX4_owesByEntries_0 : cX4_owesByEntries.data.toList.drop 0 = dktX4_owesByEntries_0 := by decide +kernel
theorem dX4_owesByEntries_0 : decode cX4_owesByEntries 0 = .ok (.aload_n 0, 1) := dk_42 (dk_at dksX4_owesByEntries_0 0 rfl rfl)
theorem dX4_owesByEntries_1 : decode cX4_owesByEntries 1 = .ok (.iload_n 1, 1) := dk_27 (dk_at dksX4_owesByEntries_0 1 rfl rfl)
theorem dX4_owesByEntries_2 : decode cX4_owesByEntries 2 = .ok (.invokevirtual 233, 3) := dk_182 0 233 (dk_at dksX4_owesByEntries_0 2 rfl rfl)
theorem dX4_owesByEntries_5 : decode cX4_owesByEntries 5 = .ok (.ireturn, 1) := dk_172 (dk_at dksX4_owesByEntries_0 5 rfl rfl)
abbrev cX4_dueOf : ByteArray := prog_14_method_67_code
def yX4_dueOf : MethodName := ⟨RX4, "dueOf", "(I)I"⟩
def dkwX4_dueOf_1 : List UInt8 := [3, 167, 0, 9, 42, 180, 0, 52, 27, 46, 172]
abbrev dktX4_dueOf_1 : List UInt8 := dkwX4_dueOf_1 ++ []
def dkwX4_dueOf_0 : List UInt8 := [42, 42, 27, 182, 0, 168, 153, 0, 7, 3, 167, 0, 4, 4, 181, 0, 87, 42, 180, 0, 87, 158, 0, 7]
abbrev dktX4_dueOf_0 : List UInt8 := dkwX4_dueOf_0 ++ dktX4_dueOf_1
theorem dksX4_dueOf_0 : cX4_dueOf.data.toList.drop 0 = dktX4_dueOf_0 := by decide +kernel
theorem dksX4_dueOf_1 : cX4_dueOf.data.toList.drop 24 = dktX4_dueOf_1 := dk_seg dksX4_dueOf_0 24 rfl rfl
theorem dX4_dueOf_0 : decode cX4_dueOf 0 = .ok (.aload_n 0, 1) := dk_42 (dk_at dksX4_dueOf_0 0 rfl rfl)
theorem dX4_dueOf_1 : decode cX4_dueOf 1 = .ok (.aload_n 0, 1) := dk_42 (dk_at dksX4_dueOf_0 1 rfl rfl)
theorem dX4_dueOf_2 : decode cX4_dueOf 2 = .ok (.iload_n 1, 1) := dk_27 (dk_at dksX4_dueOf_0 2 rfl rfl)
theorem dX4_dueOf_3 : decode cX4_dueOf 3 = .ok (.invokevirtual 168, 3) := dk_182 0 168 (dk_at dksX4_dueOf_0 3 rfl rfl)
theorem dX4_dueOf_6 : decode cX4_dueOf 6 = .ok (.ifCond .eq 7, 3) := dk_153 0 7 (dk_at dksX4_dueOf_0 6 rfl rfl)
theorem dX4_dueOf_9 : decode cX4_dueOf 9 = .ok (.iconst 0, 1) := dk_3 (dk_at dksX4_dueOf_0 9 rfl rfl)
theorem dX4_dueOf_10 : decode cX4_dueOf 10 = .ok (.goto 4, 3) := dk_167 0 4 (dk_at dksX4_dueOf_0 10 rfl rfl)
theorem dX4_dueOf_13 : decode cX4_dueOf 13 = .ok (.iconst 1, 1) := dk_4 (dk_at dksX4_dueOf_0 13 rfl rfl)
theorem dX4_dueOf_14 : decode cX4_dueOf 14 = .ok (.putfield 87, 3) := dk_181 0 87 (dk_at dksX4_dueOf_0 14 rfl rfl)
theorem dX4_dueOf_17 : decode cX4_dueOf 17 = .ok (.aload_n 0, 1) := dk_42 (dk_at dksX4_dueOf_0 17 rfl rfl)
theorem dX4_dueOf_18 : decode cX4_dueOf 18 = .ok (.getfield 87, 3) := dk_180 0 87 (dk_at dksX4_dueOf_0 18 rfl rfl)
theorem dX4_dueOf_21 : decode cX4_dueOf 21 = .ok (.ifCond .le 7, 3) := dk_158 0 7 (dk_at dksX4_dueOf_0 21 rfl rfl)
theorem dX4_dueOf_24 : decode cX4_dueOf 24 = .ok (.iconst 0, 1) := dk_3 (dk_at dksX4_dueOf_1 0 rfl rfl)
theorem dX4_dueOf_25 : decode cX4_dueOf 25 = .ok (.goto 9, 3) := dk_167 0 9 (dk_at dksX4_dueOf_1 1 rfl rfl)
theorem dX4_dueOf_28 : decode cX4_dueOf 28 = .ok (.aload_n 0, 1) := dk_42 (dk_at dksX4_dueOf_1 4 rfl rfl)
theorem dX4_dueOf_29 : decode cX4_dueOf 29 = .ok (.getfield 52, 3) := dk_180 0 52 (dk_at dksX4_dueOf_1 5 rfl rfl)
theorem dX4_dueOf_32 : decode cX4_dueOf 32 = .ok (.iload_n 1, 1) := dk_27 (dk_at dksX4_dueOf_1 8 rfl rfl)
theorem dX4_dueOf_33 : decode cX4_dueOf 33 = .ok (.iaload, 1) := dk_46 (dk_at dksX4_dueOf_1 9 rfl rfl)
theorem dX4_dueOf_34 : decode cX4_dueOf 34 = .ok (.ireturn, 1) := dk_172 (dk_at dksX4_dueOf_1 10 rfl rfl)
abbrev cX4_takings : ByteArray := prog_14_method_68_code
def yX4_takings : MethodName := ⟨RX4, "takings", "()J"⟩
def dkwX4_takings_1 : List UInt8 := [97, 64, 132, 3, 1, 167, 255, 236, 31, 173]
abbrev dktX4_takings_1 : List UInt8 := dkwX4_takings_1 ++ []
def dkwX4_takings_0 : List UInt8 := [42, 3, 181, 0, 87, 9, 64, 3, 62, 29, 42, 180, 0, 95, 162, 0, 18, 31, 42, 180, 0, 21, 29, 47]
abbrev dktX4_takings_0 : List UInt8 := dkwX4_takings_0 ++ dktX4_takings_1
theorem dksX4_takings_0 : cX4_takings.data.toList.drop 0 = dktX4_takings_0 := by decide +kernel
theorem dksX4_takings_1 : cX4_takings.data.toList.drop 24 = dktX4_takings_1 := dk_seg dksX4_takings_0 24 rfl rfl
theorem dX4_takings_0 : decode cX4_takings 0 = .ok (.aload_n 0, 1) := dk_42 (dk_at dksX4_takings_0 0 rfl rfl)
theorem dX4_takings_1 : decode cX4_takings 1 = .ok (.iconst 0, 1) := dk_3 (dk_at dksX4_takings_0 1 rfl rfl)
theorem dX4_takings_2 : decode cX4_takings 2 = .ok (.putfield 87, 3) := dk_181 0 87 (dk_at dksX4_takings_0 2 rfl rfl)
theorem dX4_takings_5 : decode cX4_takings 5 = .ok (.lconst 0, 1) := dk_9 (dk_at dksX4_takings_0 5 rfl rfl)
theorem dX4_takings_6 : decode cX4_takings 6 = .ok (.lstore_n 1, 1) := dk_64 (dk_at dksX4_takings_0 6 rfl rfl)
theorem dX4_takings_7 : decode cX4_takings 7 = .ok (.iconst 0, 1) := dk_3 (dk_at dksX4_takings_0 7 rfl rfl)
theorem dX4_takings_8 : decode cX4_takings 8 = .ok (.istore_n 3, 1) := dk_62 (dk_at dksX4_takings_0 8 rfl rfl)
theorem dX4_takings_9 : decode cX4_takings 9 = .ok (.iload_n 3, 1) := dk_29 (dk_at dksX4_takings_0 9 rfl rfl)
theorem dX4_takings_10 : decode cX4_takings 10 = .ok (.aload_n 0, 1) := dk_42 (dk_at dksX4_takings_0 10 rfl rfl)
theorem dX4_takings_11 : decode cX4_takings 11 = .ok (.getfield 95, 3) := dk_180 0 95 (dk_at dksX4_takings_0 11 rfl rfl)
theorem dX4_takings_14 : decode cX4_takings 14 = .ok (.if_icmp .ge 18, 3) := dk_162 0 18 (dk_at dksX4_takings_0 14 rfl rfl)
theorem dX4_takings_17 : decode cX4_takings 17 = .ok (.lload_n 1, 1) := dk_31 (dk_at dksX4_takings_0 17 rfl rfl)
theorem dX4_takings_18 : decode cX4_takings 18 = .ok (.aload_n 0, 1) := dk_42 (dk_at dksX4_takings_0 18 rfl rfl)
theorem dX4_takings_19 : decode cX4_takings 19 = .ok (.getfield 21, 3) := dk_180 0 21 (dk_at dksX4_takings_0 19 rfl rfl)
theorem dX4_takings_22 : decode cX4_takings 22 = .ok (.iload_n 3, 1) := dk_29 (dk_at dksX4_takings_0 22 rfl rfl)
theorem dX4_takings_23 : decode cX4_takings 23 = .ok (.laload, 1) := dk_47 (dk_at dksX4_takings_0 23 rfl rfl)
theorem dX4_takings_24 : decode cX4_takings 24 = .ok (.ladd, 1) := dk_97 (dk_at dksX4_takings_1 0 rfl rfl)
theorem dX4_takings_25 : decode cX4_takings 25 = .ok (.lstore_n 1, 1) := dk_64 (dk_at dksX4_takings_1 1 rfl rfl)
theorem dX4_takings_26 : decode cX4_takings 26 = .ok (.iinc 3 1, 3) := dk_132 3 1 (dk_at dksX4_takings_1 2 rfl rfl)
theorem dX4_takings_29 : decode cX4_takings 29 = .ok (.goto (-20), 3) := dk_167 255 236 (dk_at dksX4_takings_1 5 rfl rfl)
theorem dX4_takings_32 : decode cX4_takings 32 = .ok (.lload_n 1, 1) := dk_31 (dk_at dksX4_takings_1 8 rfl rfl)
theorem dX4_takings_33 : decode cX4_takings 33 = .ok (.lreturn, 1) := dk_173 (dk_at dksX4_takings_1 9 rfl rfl)
abbrev cX4_use : ByteArray := prog_14_method_69_code
def yX4_use : MethodName := ⟨RX4, "use", "(II)F"⟩
def dkwX4_use_1 : List UInt8 := [174]
abbrev dktX4_use_1 : List UInt8 := dkwX4_use_1 ++ []
def dkwX4_use_0 : List UInt8 := [42, 27, 28, 3, 182, 0, 178, 153, 0, 16, 42, 27, 28, 182, 0, 185, 134, 18, 236, 110, 167, 0, 4, 11]
abbrev dktX4_use_0 : List UInt8 := dkwX4_use_0 ++ dktX4_use_1
theorem dksX4_use_0 : cX4_use.data.toList.drop 0 = dktX4_use_0 := by decide +kernel
theorem dksX4_use_1 : cX4_use.data.toList.drop 24 = dktX4_use_1 := dk_seg dksX4_use_0 24 rfl rfl
theorem dX4_use_0 : decode cX4_use 0 = .ok (.aload_n 0, 1) := dk_42 (dk_at dksX4_use_0 0 rfl rfl)
theorem dX4_use_1 : decode cX4_use 1 = .ok (.iload_n 1, 1) := dk_27 (dk_at dksX4_use_0 1 rfl rfl)
theorem dX4_use_2 : decode cX4_use 2 = .ok (.iload_n 2, 1) := dk_28 (dk_at dksX4_use_0 2 rfl rfl)
theorem dX4_use_3 : decode cX4_use 3 = .ok (.iconst 0, 1) := dk_3 (dk_at dksX4_use_0 3 rfl rfl)
theorem dX4_use_4 : decode cX4_use 4 = .ok (.invokevirtual 178, 3) := dk_182 0 178 (dk_at dksX4_use_0 4 rfl rfl)
theorem dX4_use_7 : decode cX4_use 7 = .ok (.ifCond .eq 16, 3) := dk_153 0 16 (dk_at dksX4_use_0 7 rfl rfl)
theorem dX4_use_10 : decode cX4_use 10 = .ok (.aload_n 0, 1) := dk_42 (dk_at dksX4_use_0 10 rfl rfl)
theorem dX4_use_11 : decode cX4_use 11 = .ok (.iload_n 1, 1) := dk_27 (dk_at dksX4_use_0 11 rfl rfl)
theorem dX4_use_12 : decode cX4_use 12 = .ok (.iload_n 2, 1) := dk_28 (dk_at dksX4_use_0 12 rfl rfl)
theorem dX4_use_13 : decode cX4_use 13 = .ok (.invokevirtual 185, 3) := dk_182 0 185 (dk_at dksX4_use_0 13 rfl rfl)
theorem dX4_use_16 : decode cX4_use 16 = .ok (.i2f, 1) := dk_134 (dk_at dksX4_use_0 16 rfl rfl)
theorem dX4_use_17 : decode cX4_use 17 = .ok (.ldc 236, 2) := dk_18 236 (dk_at dksX4_use_0 17 rfl rfl)
theorem dX4_use_19 : decode cX4_use 19 = .ok (.fdiv, 1) := dk_110 (dk_at dksX4_use_0 19 rfl rfl)
theorem dX4_use_20 : decode cX4_use 20 = .ok (.goto 4, 3) := dk_167 0 4 (dk_at dksX4_use_0 20 rfl rfl)
theorem dX4_use_23 : decode cX4_use 23 = .ok (.fconst 0, 1) := dk_11 (dk_at dksX4_use_0 23 rfl rfl)
theorem dX4_use_24 : decode cX4_use 24 = .ok (.freturn, 1) := dk_174 (dk_at dksX4_use_1 0 rfl rfl)
abbrev cX4_meanMinutes : ByteArray := prog_14_method_70_code
def yX4_meanMinutes : MethodName := ⟨RX4, "meanMinutes", "()D"⟩
def dkwX4_meanMinutes_3 : List UInt8 := [167, 0, 4, 3, 181, 0, 87, 42, 180, 0, 87, 158, 0, 7, 14, 167, 0, 8, 27, 135, 28, 135, 111, 175]
abbrev dktX4_meanMinutes_3 : List UInt8 := dkwX4_meanMinutes_3 ++ []
def dkwX4_meanMinutes_2 : List UInt8 := [160, 0, 7, 4, 167, 0, 4, 3, 96, 61, 132, 3, 1, 167, 255, 202, 42, 28, 154, 0, 7, 4]
abbrev dktX4_meanMinutes_2 : List UInt8 := dkwX4_meanMinutes_2 ++ dktX4_meanMinutes_3
def dkwX4_meanMinutes_1 : List UInt8 := [160, 0, 12, 42, 180, 0, 42, 29, 46, 167, 0, 4, 3, 96, 60, 28, 42, 180, 0, 49, 29, 52, 16, 100]
abbrev dktX4_meanMinutes_1 : List UInt8 := dkwX4_meanMinutes_1 ++ dktX4_meanMinutes_2
def dkwX4_meanMinutes_0 : List UInt8 := [3, 60, 3, 61, 3, 62, 29, 42, 180, 0, 101, 162, 0, 52, 27, 42, 180, 0, 49, 29, 52, 16, 100]
abbrev dktX4_meanMinutes_0 : List UInt8 := dkwX4_meanMinutes_0 ++ dktX4_meanMinutes_1
theorem dksX4_meanMinutes_0 : cX4_meanMinutes.data.toList.drop 0 = dktX4_meanMinutes_0 := by decide +kernel
theorem dksX4_meanMinutes_1 : cX4_meanMinutes.data.toList.drop 23 = dktX4_meanMinutes_1 := dk_seg dksX4_meanMinutes_0 23 rfl rfl
theorem dksX4_meanMinutes_2 : cX4_meanMinutes.data.toList.drop 47 = dktX4_meanMinutes_2 := dk_seg dksX4_meanMinutes_1 24 rfl rfl
theorem dksX4_meanMinutes_3 : cX4_meanMinutes.data.toList.drop 69 = dktX4_meanMinutes_3 := dk_seg dksX4_meanMinutes_2 22 rfl rfl
theorem dX4_meanMinutes_0 : decode cX4_meanMinutes 0 = .ok (.iconst 0, 1) := dk_3 (dk_at dksX4_meanMinutes_0 0 rfl rfl)
theorem dX4_meanMinutes_1 : decode cX4_meanMinutes 1 = .ok (.istore_n 1, 1) := dk_60 (dk_at dksX4_meanMinutes_0 1 rfl rfl)
theorem dX4_meanMinutes_2 : decode cX4_meanMinutes 2 = .ok (.iconst 0, 1) := dk_3 (dk_at dksX4_meanMinutes_0 2 rfl rfl)
theorem dX4_meanMinutes_3 : decode cX4_meanMinutes 3 = .ok (.istore_n 2, 1) := dk_61 (dk_at dksX4_meanMinutes_0 3 rfl rfl)
theorem dX4_meanMinutes_4 : decode cX4_meanMinutes 4 = .ok (.iconst 0, 1) := dk_3 (dk_at dksX4_meanMinutes_0 4 rfl rfl)
theorem dX4_meanMinutes_5 : decode cX4_meanMinutes 5 = .ok (.istore_n 3, 1) := dk_62 (dk_at dksX4_meanMinutes_0 5 rfl rfl)
theorem dX4_meanMinutes_6 : decode cX4_meanMinutes 6 = .ok (.iload_n 3, 1) := dk_29 (dk_at dksX4_meanMinutes_0 6 rfl rfl)
theorem dX4_meanMinutes_7 : decode cX4_meanMinutes 7 = .ok (.aload_n 0, 1) := dk_42 (dk_at dksX4_meanMinutes_0 7 rfl rfl)
theorem dX4_meanMinutes_8 : decode cX4_meanMinutes 8 = .ok (.getfield 101, 3) := dk_180 0 101 (dk_at dksX4_meanMinutes_0 8 rfl rfl)
theorem dX4_meanMinutes_11 : decode cX4_meanMinutes 11 = .ok (.if_icmp .ge 52, 3) := dk_162 0 52 (dk_at dksX4_meanMinutes_0 11 rfl rfl)
theorem dX4_meanMinutes_14 : decode cX4_meanMinutes 14 = .ok (.iload_n 1, 1) := dk_27 (dk_at dksX4_meanMinutes_0 14 rfl rfl)
theorem dX4_meanMinutes_15 : decode cX4_meanMinutes 15 = .ok (.aload_n 0, 1) := dk_42 (dk_at dksX4_meanMinutes_0 15 rfl rfl)
theorem dX4_meanMinutes_16 : decode cX4_meanMinutes 16 = .ok (.getfield 49, 3) := dk_180 0 49 (dk_at dksX4_meanMinutes_0 16 rfl rfl)
theorem dX4_meanMinutes_19 : decode cX4_meanMinutes 19 = .ok (.iload_n 3, 1) := dk_29 (dk_at dksX4_meanMinutes_0 19 rfl rfl)
theorem dX4_meanMinutes_20 : decode cX4_meanMinutes 20 = .ok (.caload, 1) := dk_52 (dk_at dksX4_meanMinutes_0 20 rfl rfl)
theorem dX4_meanMinutes_21 : decode cX4_meanMinutes 21 = .ok (.bipush 100, 2) := dk_16 100 (dk_at dksX4_meanMinutes_0 21 rfl rfl)
theorem dX4_meanMinutes_23 : decode cX4_meanMinutes 23 = .ok (.if_icmp .ne 12, 3) := dk_160 0 12 (dk_at dksX4_meanMinutes_1 0 rfl rfl)
theorem dX4_meanMinutes_26 : decode cX4_meanMinutes 26 = .ok (.aload_n 0, 1) := dk_42 (dk_at dksX4_meanMinutes_1 3 rfl rfl)
theorem dX4_meanMinutes_27 : decode cX4_meanMinutes 27 = .ok (.getfield 42, 3) := dk_180 0 42 (dk_at dksX4_meanMinutes_1 4 rfl rfl)
theorem dX4_meanMinutes_30 : decode cX4_meanMinutes 30 = .ok (.iload_n 3, 1) := dk_29 (dk_at dksX4_meanMinutes_1 7 rfl rfl)
theorem dX4_meanMinutes_31 : decode cX4_meanMinutes 31 = .ok (.iaload, 1) := dk_46 (dk_at dksX4_meanMinutes_1 8 rfl rfl)
theorem dX4_meanMinutes_32 : decode cX4_meanMinutes 32 = .ok (.goto 4, 3) := dk_167 0 4 (dk_at dksX4_meanMinutes_1 9 rfl rfl)
theorem dX4_meanMinutes_35 : decode cX4_meanMinutes 35 = .ok (.iconst 0, 1) := dk_3 (dk_at dksX4_meanMinutes_1 12 rfl rfl)
theorem dX4_meanMinutes_36 : decode cX4_meanMinutes 36 = .ok (.iadd, 1) := dk_96 (dk_at dksX4_meanMinutes_1 13 rfl rfl)
theorem dX4_meanMinutes_37 : decode cX4_meanMinutes 37 = .ok (.istore_n 1, 1) := dk_60 (dk_at dksX4_meanMinutes_1 14 rfl rfl)
theorem dX4_meanMinutes_38 : decode cX4_meanMinutes 38 = .ok (.iload_n 2, 1) := dk_28 (dk_at dksX4_meanMinutes_1 15 rfl rfl)
theorem dX4_meanMinutes_39 : decode cX4_meanMinutes 39 = .ok (.aload_n 0, 1) := dk_42 (dk_at dksX4_meanMinutes_1 16 rfl rfl)
theorem dX4_meanMinutes_40 : decode cX4_meanMinutes 40 = .ok (.getfield 49, 3) := dk_180 0 49 (dk_at dksX4_meanMinutes_1 17 rfl rfl)
theorem dX4_meanMinutes_43 : decode cX4_meanMinutes 43 = .ok (.iload_n 3, 1) := dk_29 (dk_at dksX4_meanMinutes_1 20 rfl rfl)
theorem dX4_meanMinutes_44 : decode cX4_meanMinutes 44 = .ok (.caload, 1) := dk_52 (dk_at dksX4_meanMinutes_1 21 rfl rfl)
theorem dX4_meanMinutes_45 : decode cX4_meanMinutes 45 = .ok (.bipush 100, 2) := dk_16 100 (dk_at dksX4_meanMinutes_1 22 rfl rfl)
theorem dX4_meanMinutes_47 : decode cX4_meanMinutes 47 = .ok (.if_icmp .ne 7, 3) := dk_160 0 7 (dk_at dksX4_meanMinutes_2 0 rfl rfl)
theorem dX4_meanMinutes_50 : decode cX4_meanMinutes 50 = .ok (.iconst 1, 1) := dk_4 (dk_at dksX4_meanMinutes_2 3 rfl rfl)
theorem dX4_meanMinutes_51 : decode cX4_meanMinutes 51 = .ok (.goto 4, 3) := dk_167 0 4 (dk_at dksX4_meanMinutes_2 4 rfl rfl)
theorem dX4_meanMinutes_54 : decode cX4_meanMinutes 54 = .ok (.iconst 0, 1) := dk_3 (dk_at dksX4_meanMinutes_2 7 rfl rfl)
theorem dX4_meanMinutes_55 : decode cX4_meanMinutes 55 = .ok (.iadd, 1) := dk_96 (dk_at dksX4_meanMinutes_2 8 rfl rfl)
theorem dX4_meanMinutes_56 : decode cX4_meanMinutes 56 = .ok (.istore_n 2, 1) := dk_61 (dk_at dksX4_meanMinutes_2 9 rfl rfl)
theorem dX4_meanMinutes_57 : decode cX4_meanMinutes 57 = .ok (.iinc 3 1, 3) := dk_132 3 1 (dk_at dksX4_meanMinutes_2 10 rfl rfl)
theorem dX4_meanMinutes_60 : decode cX4_meanMinutes 60 = .ok (.goto (-54), 3) := dk_167 255 202 (dk_at dksX4_meanMinutes_2 13 rfl rfl)
theorem dX4_meanMinutes_63 : decode cX4_meanMinutes 63 = .ok (.aload_n 0, 1) := dk_42 (dk_at dksX4_meanMinutes_2 16 rfl rfl)
theorem dX4_meanMinutes_64 : decode cX4_meanMinutes 64 = .ok (.iload_n 2, 1) := dk_28 (dk_at dksX4_meanMinutes_2 17 rfl rfl)
theorem dX4_meanMinutes_65 : decode cX4_meanMinutes 65 = .ok (.ifCond .ne 7, 3) := dk_154 0 7 (dk_at dksX4_meanMinutes_2 18 rfl rfl)
theorem dX4_meanMinutes_68 : decode cX4_meanMinutes 68 = .ok (.iconst 1, 1) := dk_4 (dk_at dksX4_meanMinutes_2 21 rfl rfl)
theorem dX4_meanMinutes_69 : decode cX4_meanMinutes 69 = .ok (.goto 4, 3) := dk_167 0 4 (dk_at dksX4_meanMinutes_3 0 rfl rfl)
theorem dX4_meanMinutes_72 : decode cX4_meanMinutes 72 = .ok (.iconst 0, 1) := dk_3 (dk_at dksX4_meanMinutes_3 3 rfl rfl)
theorem dX4_meanMinutes_73 : decode cX4_meanMinutes 73 = .ok (.putfield 87, 3) := dk_181 0 87 (dk_at dksX4_meanMinutes_3 4 rfl rfl)
theorem dX4_meanMinutes_76 : decode cX4_meanMinutes 76 = .ok (.aload_n 0, 1) := dk_42 (dk_at dksX4_meanMinutes_3 7 rfl rfl)
theorem dX4_meanMinutes_77 : decode cX4_meanMinutes 77 = .ok (.getfield 87, 3) := dk_180 0 87 (dk_at dksX4_meanMinutes_3 8 rfl rfl)
theorem dX4_meanMinutes_80 : decode cX4_meanMinutes 80 = .ok (.ifCond .le 7, 3) := dk_158 0 7 (dk_at dksX4_meanMinutes_3 11 rfl rfl)
theorem dX4_meanMinutes_83 : decode cX4_meanMinutes 83 = .ok (.dconst 0, 1) := dk_14 (dk_at dksX4_meanMinutes_3 14 rfl rfl)
theorem dX4_meanMinutes_84 : decode cX4_meanMinutes 84 = .ok (.goto 8, 3) := dk_167 0 8 (dk_at dksX4_meanMinutes_3 15 rfl rfl)
theorem dX4_meanMinutes_87 : decode cX4_meanMinutes 87 = .ok (.iload_n 1, 1) := dk_27 (dk_at dksX4_meanMinutes_3 18 rfl rfl)
theorem dX4_meanMinutes_88 : decode cX4_meanMinutes 88 = .ok (.i2d, 1) := dk_135 (dk_at dksX4_meanMinutes_3 19 rfl rfl)
theorem dX4_meanMinutes_89 : decode cX4_meanMinutes 89 = .ok (.iload_n 2, 1) := dk_28 (dk_at dksX4_meanMinutes_3 20 rfl rfl)
theorem dX4_meanMinutes_90 : decode cX4_meanMinutes 90 = .ok (.i2d, 1) := dk_135 (dk_at dksX4_meanMinutes_3 21 rfl rfl)
theorem dX4_meanMinutes_91 : decode cX4_meanMinutes 91 = .ok (.ddiv, 1) := dk_111 (dk_at dksX4_meanMinutes_3 22 rfl rfl)
theorem dX4_meanMinutes_92 : decode cX4_meanMinutes 92 = .ok (.dreturn, 1) := dk_175 (dk_at dksX4_meanMinutes_3 23 rfl rfl)
abbrev cX4_isSound : ByteArray := prog_14_method_71_code
def yX4_isSound : MethodName := ⟨RX4, "isSound", "()Z"⟩
def dkwX4_isSound_0 : List UInt8 := [42, 3, 181, 0, 87, 4, 172]
abbrev dktX4_isSound_0 : List UInt8 := dkwX4_isSound_0 ++ []
theorem dksX4_isSound_0 : cX4_isSound.data.toList.drop 0 = dktX4_isSound_0 := by decide +kernel
theorem dX4_isSound_0 : decode cX4_isSound 0 = .ok (.aload_n 0, 1) := dk_42 (dk_at dksX4_isSound_0 0 rfl rfl)
theorem dX4_isSound_1 : decode cX4_isSound 1 = .ok (.iconst 0, 1) := dk_3 (dk_at dksX4_isSound_0 1 rfl rfl)
theorem dX4_isSound_2 : decode cX4_isSound 2 = .ok (.putfield 87, 3) := dk_181 0 87 (dk_at dksX4_isSound_0 2 rfl rfl)
theorem dX4_isSound_5 : decode cX4_isSound 5 = .ok (.iconst 1, 1) := dk_4 (dk_at dksX4_isSound_0 5 rfl rfl)
theorem dX4_isSound_6 : decode cX4_isSound 6 = .ok (.ireturn, 1) := dk_172 (dk_at dksX4_isSound_0 6 rfl rfl)
theorem q80 : (Jvm.Cond.initialized "LendlatheModel") ∈ lw_all := lw_g (lw_at lw_m1 25 rfl) rfl
theorem q835 : (Jvm.Cond.selects "LendlatheModel" ({ cls := "java/lang/Object", name := "getClass", desc := "()Ljava/lang/Class;" } : Jvm.MethodName) ({ cls := "java/lang/Object", name := "getClass", desc := "()Ljava/lang/Class;" } : Jvm.MethodName)) ∈ lw_all := lw_g (lw_at lw_m4 60 rfl) rfl
theorem q1445 : (Jvm.Cond.instantiable "LendlatheModel" (30 : Nat)) ∈ lw_all := lw_g (lw_at lw_m6 190 rfl) rfl
theorem q1447 : (Jvm.Cond.instanceMethod ({ cls := "LendlatheModel", name := "<init>", desc := "()V" } : Jvm.MethodName)) ∈ lw_all := lw_g (lw_at lw_m6 192 rfl) rfl
theorem q1448 : (Jvm.Cond.code ({ cls := "LendlatheModel", name := "<init>", desc := "()V" } : Jvm.MethodName) prog_14_method_1_code (2 : Nat) (Option.none : Option Jvm.ClassFile.FieldType)) ∈ lw_all := lw_g (lw_at lw_m6 193 rfl) rfl
theorem q1449 : (Jvm.Cond.methodLink "LendlatheModel" (1 : Nat) ({ cls := "java/lang/Object", name := "<init>", desc := "()V" } : Jvm.MethodName)) ∈ lw_all := lw_g (lw_at lw_m6 194 rfl) rfl
theorem q1450 : (Jvm.Cond.classLink "LendlatheModel" (16 : Nat) "[[I") ∈ lw_all := lw_g (lw_at lw_m6 195 rfl) rfl
theorem q1451 : (Jvm.Cond.classLink "LendlatheModel" (25 : Nat) "[[Z") ∈ lw_all := lw_g (lw_at lw_m6 196 rfl) rfl
theorem q1452 : (Jvm.Cond.classLink "LendlatheModel" (73 : Nat) "[[C") ∈ lw_all := lw_g (lw_at lw_m6 197 rfl) rfl
theorem q1454 : (Jvm.Cond.fieldLink "LendlatheModel" (9 : Nat) "LendlatheModel" "machineKinds" "[I") ∈ lw_all := lw_g (lw_at lw_m6 199 rfl) rfl
theorem q1455 : (Jvm.Cond.fieldLink "LendlatheModel" (13 : Nat) "LendlatheModel" "setups" "[I") ∈ lw_all := lw_g (lw_at lw_m6 200 rfl) rfl
theorem q1456 : (Jvm.Cond.fieldLink "LendlatheModel" (98 : Nat) "LendlatheModel" "machines" "I") ∈ lw_all := lw_g (lw_at lw_m6 201 rfl) rfl
theorem q1457 : (Jvm.Cond.fieldLink "LendlatheModel" (95 : Nat) "LendlatheModel" "members" "I") ∈ lw_all := lw_g (lw_at lw_m6 202 rfl) rfl
theorem q1458 : (Jvm.Cond.fieldLink "LendlatheModel" (18 : Nat) "LendlatheModel" "taken" "[[I") ∈ lw_all := lw_g (lw_at lw_m6 203 rfl) rfl
theorem q1459 : (Jvm.Cond.fieldLink "LendlatheModel" (21 : Nat) "LendlatheModel" "paid" "[J") ∈ lw_all := lw_g (lw_at lw_m6 204 rfl) rfl
theorem q1460 : (Jvm.Cond.fieldLink "LendlatheModel" (27 : Nat) "LendlatheModel" "needs" "[[Z") ∈ lw_all := lw_g (lw_at lw_m6 205 rfl) rfl
theorem q1461 : (Jvm.Cond.fieldLink "LendlatheModel" (112 : Nat) "LendlatheModel" "day" "I") ∈ lw_all := lw_g (lw_at lw_m6 206 rfl) rfl
theorem q1462 : (Jvm.Cond.fieldLink "LendlatheModel" (30 : Nat) "LendlatheModel" "owner" "[I") ∈ lw_all := lw_g (lw_at lw_m6 207 rfl) rfl
theorem q1463 : (Jvm.Cond.fieldLink "LendlatheModel" (33 : Nat) "LendlatheModel" "machineOf" "[I") ∈ lw_all := lw_g (lw_at lw_m6 208 rfl) rfl
theorem q1464 : (Jvm.Cond.fieldLink "LendlatheModel" (36 : Nat) "LendlatheModel" "dayOf" "[I") ∈ lw_all := lw_g (lw_at lw_m6 209 rfl) rfl
theorem q1465 : (Jvm.Cond.fieldLink "LendlatheModel" (39 : Nat) "LendlatheModel" "starts" "[I") ∈ lw_all := lw_g (lw_at lw_m6 210 rfl) rfl
theorem q1466 : (Jvm.Cond.fieldLink "LendlatheModel" (42 : Nat) "LendlatheModel" "lengths" "[I") ∈ lw_all := lw_g (lw_at lw_m6 211 rfl) rfl
theorem q1467 : (Jvm.Cond.fieldLink "LendlatheModel" (45 : Nat) "LendlatheModel" "works" "[C") ∈ lw_all := lw_g (lw_at lw_m6 212 rfl) rfl
theorem q1468 : (Jvm.Cond.fieldLink "LendlatheModel" (49 : Nat) "LendlatheModel" "states" "[C") ∈ lw_all := lw_g (lw_at lw_m6 213 rfl) rfl
theorem q1469 : (Jvm.Cond.fieldLink "LendlatheModel" (52 : Nat) "LendlatheModel" "dues" "[I") ∈ lw_all := lw_g (lw_at lw_m6 214 rfl) rfl
theorem q1470 : (Jvm.Cond.fieldLink "LendlatheModel" (55 : Nat) "LendlatheModel" "cutMany" "[I") ∈ lw_all := lw_g (lw_at lw_m6 215 rfl) rfl
theorem q1471 : (Jvm.Cond.fieldLink "LendlatheModel" (58 : Nat) "LendlatheModel" "cutBars" "[[I") ∈ lw_all := lw_g (lw_at lw_m6 216 rfl) rfl
theorem q1472 : (Jvm.Cond.fieldLink "LendlatheModel" (61 : Nat) "LendlatheModel" "cutLengths" "[[I") ∈ lw_all := lw_g (lw_at lw_m6 217 rfl) rfl
theorem q1473 : (Jvm.Cond.fieldLink "LendlatheModel" (101 : Nat) "LendlatheModel" "entries" "I") ∈ lw_all := lw_g (lw_at lw_m6 218 rfl) rfl
theorem q1474 : (Jvm.Cond.fieldLink "LendlatheModel" (64 : Nat) "LendlatheModel" "materials" "[I") ∈ lw_all := lw_g (lw_at lw_m6 219 rfl) rfl
theorem q1475 : (Jvm.Cond.fieldLink "LendlatheModel" (67 : Nat) "LendlatheModel" "barLengths" "[I") ∈ lw_all := lw_g (lw_at lw_m6 220 rfl) rfl
theorem q1476 : (Jvm.Cond.fieldLink "LendlatheModel" (199 : Nat) "LendlatheModel" "bars" "I") ∈ lw_all := lw_g (lw_at lw_m6 221 rfl) rfl
theorem q1477 : (Jvm.Cond.fieldLink "LendlatheModel" (70 : Nat) "LendlatheModel" "prices" "[I") ∈ lw_all := lw_g (lw_at lw_m6 222 rfl) rfl
theorem q1478 : (Jvm.Cond.fieldLink "LendlatheModel" (75 : Nat) "LendlatheModel" "layerSorts" "[[C") ∈ lw_all := lw_g (lw_at lw_m6 223 rfl) rfl
theorem q1479 : (Jvm.Cond.fieldLink "LendlatheModel" (78 : Nat) "LendlatheModel" "layerNumbers" "[[I") ∈ lw_all := lw_g (lw_at lw_m6 224 rfl) rfl
theorem q1480 : (Jvm.Cond.fieldLink "LendlatheModel" (81 : Nat) "LendlatheModel" "layerMany" "[I") ∈ lw_all := lw_g (lw_at lw_m6 225 rfl) rfl
theorem q1481 : (Jvm.Cond.fieldLink "LendlatheModel" (84 : Nat) "LendlatheModel" "shares" "[[I") ∈ lw_all := lw_g (lw_at lw_m6 226 rfl) rfl
theorem q1482 : (Jvm.Cond.fieldLink "LendlatheModel" (221 : Nat) "LendlatheModel" "breakages" "I") ∈ lw_all := lw_g (lw_at lw_m6 227 rfl) rfl
theorem q1483 : (Jvm.Cond.fieldLink "LendlatheModel" (87 : Nat) "LendlatheModel" "thrown" "I") ∈ lw_all := lw_g (lw_at lw_m6 228 rfl) rfl
theorem q1484 : (Jvm.Cond.laysFinal "LendlatheModel" "LendlatheModel" "machineKinds" "[I") ∈ lw_all := lw_g (lw_at lw_m6 229 rfl) rfl
theorem q1485 : (Jvm.Cond.soleField "LendlatheModel" "machineKinds") ∈ lw_all := lw_g (lw_at lw_m6 230 rfl) rfl
theorem q1486 : (Jvm.Cond.laysFinal "LendlatheModel" "LendlatheModel" "setups" "[I") ∈ lw_all := lw_g (lw_at lw_m6 231 rfl) rfl
theorem q1487 : (Jvm.Cond.soleField "LendlatheModel" "setups") ∈ lw_all := lw_g (lw_at lw_m6 232 rfl) rfl
theorem q1488 : (Jvm.Cond.lays "LendlatheModel" "LendlatheModel" "machines" "I") ∈ lw_all := lw_g (lw_at lw_m6 233 rfl) rfl
theorem q1489 : (Jvm.Cond.soleField "LendlatheModel" "machines") ∈ lw_all := lw_g (lw_at lw_m6 234 rfl) rfl
theorem q1490 : (Jvm.Cond.lays "LendlatheModel" "LendlatheModel" "members" "I") ∈ lw_all := lw_g (lw_at lw_m6 235 rfl) rfl
theorem q1491 : (Jvm.Cond.soleField "LendlatheModel" "members") ∈ lw_all := lw_g (lw_at lw_m6 236 rfl) rfl
theorem q1492 : (Jvm.Cond.laysFinal "LendlatheModel" "LendlatheModel" "taken" "[[I") ∈ lw_all := lw_g (lw_at lw_m6 237 rfl) rfl
theorem q1493 : (Jvm.Cond.soleField "LendlatheModel" "taken") ∈ lw_all := lw_g (lw_at lw_m6 238 rfl) rfl
theorem q1494 : (Jvm.Cond.laysFinal "LendlatheModel" "LendlatheModel" "paid" "[J") ∈ lw_all := lw_g (lw_at lw_m6 239 rfl) rfl
theorem q1495 : (Jvm.Cond.soleField "LendlatheModel" "paid") ∈ lw_all := lw_g (lw_at lw_m7 0 rfl) rfl
theorem q1496 : (Jvm.Cond.laysFinal "LendlatheModel" "LendlatheModel" "needs" "[[Z") ∈ lw_all := lw_g (lw_at lw_m7 1 rfl) rfl
theorem q1497 : (Jvm.Cond.soleField "LendlatheModel" "needs") ∈ lw_all := lw_g (lw_at lw_m7 2 rfl) rfl
theorem q1498 : (Jvm.Cond.lays "LendlatheModel" "LendlatheModel" "day" "I") ∈ lw_all := lw_g (lw_at lw_m7 3 rfl) rfl
theorem q1499 : (Jvm.Cond.soleField "LendlatheModel" "day") ∈ lw_all := lw_g (lw_at lw_m7 4 rfl) rfl
theorem q1500 : (Jvm.Cond.laysFinal "LendlatheModel" "LendlatheModel" "owner" "[I") ∈ lw_all := lw_g (lw_at lw_m7 5 rfl) rfl
theorem q1501 : (Jvm.Cond.soleField "LendlatheModel" "owner") ∈ lw_all := lw_g (lw_at lw_m7 6 rfl) rfl
theorem q1502 : (Jvm.Cond.laysFinal "LendlatheModel" "LendlatheModel" "machineOf" "[I") ∈ lw_all := lw_g (lw_at lw_m7 7 rfl) rfl
theorem q1503 : (Jvm.Cond.soleField "LendlatheModel" "machineOf") ∈ lw_all := lw_g (lw_at lw_m7 8 rfl) rfl
theorem q1504 : (Jvm.Cond.laysFinal "LendlatheModel" "LendlatheModel" "dayOf" "[I") ∈ lw_all := lw_g (lw_at lw_m7 9 rfl) rfl
theorem q1505 : (Jvm.Cond.soleField "LendlatheModel" "dayOf") ∈ lw_all := lw_g (lw_at lw_m7 10 rfl) rfl
theorem q1506 : (Jvm.Cond.laysFinal "LendlatheModel" "LendlatheModel" "starts" "[I") ∈ lw_all := lw_g (lw_at lw_m7 11 rfl) rfl
theorem q1507 : (Jvm.Cond.soleField "LendlatheModel" "starts") ∈ lw_all := lw_g (lw_at lw_m7 12 rfl) rfl
theorem q1508 : (Jvm.Cond.laysFinal "LendlatheModel" "LendlatheModel" "lengths" "[I") ∈ lw_all := lw_g (lw_at lw_m7 13 rfl) rfl
theorem q1509 : (Jvm.Cond.soleField "LendlatheModel" "lengths") ∈ lw_all := lw_g (lw_at lw_m7 14 rfl) rfl
theorem q1510 : (Jvm.Cond.laysFinal "LendlatheModel" "LendlatheModel" "works" "[C") ∈ lw_all := lw_g (lw_at lw_m7 15 rfl) rfl
theorem q1511 : (Jvm.Cond.soleField "LendlatheModel" "works") ∈ lw_all := lw_g (lw_at lw_m7 16 rfl) rfl
theorem q1512 : (Jvm.Cond.laysFinal "LendlatheModel" "LendlatheModel" "states" "[C") ∈ lw_all := lw_g (lw_at lw_m7 17 rfl) rfl
theorem q1513 : (Jvm.Cond.soleField "LendlatheModel" "states") ∈ lw_all := lw_g (lw_at lw_m7 18 rfl) rfl
theorem q1514 : (Jvm.Cond.laysFinal "LendlatheModel" "LendlatheModel" "dues" "[I") ∈ lw_all := lw_g (lw_at lw_m7 19 rfl) rfl
theorem q1515 : (Jvm.Cond.soleField "LendlatheModel" "dues") ∈ lw_all := lw_g (lw_at lw_m7 20 rfl) rfl
theorem q1516 : (Jvm.Cond.laysFinal "LendlatheModel" "LendlatheModel" "cutMany" "[I") ∈ lw_all := lw_g (lw_at lw_m7 21 rfl) rfl
theorem q1517 : (Jvm.Cond.soleField "LendlatheModel" "cutMany") ∈ lw_all := lw_g (lw_at lw_m7 22 rfl) rfl
theorem q1518 : (Jvm.Cond.laysFinal "LendlatheModel" "LendlatheModel" "cutBars" "[[I") ∈ lw_all := lw_g (lw_at lw_m7 23 rfl) rfl
theorem q1519 : (Jvm.Cond.soleField "LendlatheModel" "cutBars") ∈ lw_all := lw_g (lw_at lw_m7 24 rfl) rfl
theorem q1520 : (Jvm.Cond.laysFinal "LendlatheModel" "LendlatheModel" "cutLengths" "[[I") ∈ lw_all := lw_g (lw_at lw_m7 25 rfl) rfl
theorem q1521 : (Jvm.Cond.soleField "LendlatheModel" "cutLengths") ∈ lw_all := lw_g (lw_at lw_m7 26 rfl) rfl
theorem q1522 : (Jvm.Cond.lays "LendlatheModel" "LendlatheModel" "entries" "I") ∈ lw_all := lw_g (lw_at lw_m7 27 rfl) rfl
theorem q1523 : (Jvm.Cond.soleField "LendlatheModel" "entries") ∈ lw_all := lw_g (lw_at lw_m7 28 rfl) rfl
theorem q1524 : (Jvm.Cond.laysFinal "LendlatheModel" "LendlatheModel" "materials" "[I") ∈ lw_all := lw_g (lw_at lw_m7 29 rfl) rfl
theorem q1525 : (Jvm.Cond.soleField "LendlatheModel" "materials") ∈ lw_all := lw_g (lw_at lw_m7 30 rfl) rfl
theorem q1526 : (Jvm.Cond.laysFinal "LendlatheModel" "LendlatheModel" "barLengths" "[I") ∈ lw_all := lw_g (lw_at lw_m7 31 rfl) rfl
theorem q1527 : (Jvm.Cond.soleField "LendlatheModel" "barLengths") ∈ lw_all := lw_g (lw_at lw_m7 32 rfl) rfl
theorem q1528 : (Jvm.Cond.lays "LendlatheModel" "LendlatheModel" "bars" "I") ∈ lw_all := lw_g (lw_at lw_m7 33 rfl) rfl
theorem q1529 : (Jvm.Cond.soleField "LendlatheModel" "bars") ∈ lw_all := lw_g (lw_at lw_m7 34 rfl) rfl
theorem q1530 : (Jvm.Cond.laysFinal "LendlatheModel" "LendlatheModel" "prices" "[I") ∈ lw_all := lw_g (lw_at lw_m7 35 rfl) rfl
theorem q1531 : (Jvm.Cond.soleField "LendlatheModel" "prices") ∈ lw_all := lw_g (lw_at lw_m7 36 rfl) rfl
theorem q1532 : (Jvm.Cond.laysFinal "LendlatheModel" "LendlatheModel" "layerSorts" "[[C") ∈ lw_all := lw_g (lw_at lw_m7 37 rfl) rfl
theorem q1533 : (Jvm.Cond.soleField "LendlatheModel" "layerSorts") ∈ lw_all := lw_g (lw_at lw_m7 38 rfl) rfl
theorem q1534 : (Jvm.Cond.laysFinal "LendlatheModel" "LendlatheModel" "layerNumbers" "[[I") ∈ lw_all := lw_g (lw_at lw_m7 39 rfl) rfl
theorem q1535 : (Jvm.Cond.soleField "LendlatheModel" "layerNumbers") ∈ lw_all := lw_g (lw_at lw_m7 40 rfl) rfl
theorem q1536 : (Jvm.Cond.laysFinal "LendlatheModel" "LendlatheModel" "layerMany" "[I") ∈ lw_all := lw_g (lw_at lw_m7 41 rfl) rfl
theorem q1537 : (Jvm.Cond.soleField "LendlatheModel" "layerMany") ∈ lw_all := lw_g (lw_at lw_m7 42 rfl) rfl
theorem q1538 : (Jvm.Cond.laysFinal "LendlatheModel" "LendlatheModel" "shares" "[[I") ∈ lw_all := lw_g (lw_at lw_m7 43 rfl) rfl
theorem q1539 : (Jvm.Cond.soleField "LendlatheModel" "shares") ∈ lw_all := lw_g (lw_at lw_m7 44 rfl) rfl
theorem q1540 : (Jvm.Cond.lays "LendlatheModel" "LendlatheModel" "breakages" "I") ∈ lw_all := lw_g (lw_at lw_m7 45 rfl) rfl
theorem q1541 : (Jvm.Cond.soleField "LendlatheModel" "breakages") ∈ lw_all := lw_g (lw_at lw_m7 46 rfl) rfl
theorem q1542 : (Jvm.Cond.lays "LendlatheModel" "LendlatheModel" "thrown" "I") ∈ lw_all := lw_g (lw_at lw_m7 47 rfl) rfl
theorem q1543 : (Jvm.Cond.soleField "LendlatheModel" "thrown") ∈ lw_all := lw_g (lw_at lw_m7 48 rfl) rfl
theorem q1544 : (Jvm.Cond.superclass "LendlatheModel" "java/lang/Object") ∈ lw_all := lw_g (lw_at lw_m7 49 rfl) rfl
theorem q1548 : (Jvm.Cond.instanceMethod ({ cls := "LendlatheModel", name := "thrown", desc := "()I" } : Jvm.MethodName)) ∈ lw_all := lw_g (lw_at lw_m7 53 rfl) rfl
theorem q1549 : (Jvm.Cond.selects "LendlatheModel" ({ cls := "LendlatheModel", name := "thrown", desc := "()I" } : Jvm.MethodName) ({ cls := "LendlatheModel", name := "thrown", desc := "()I" } : Jvm.MethodName)) ∈ lw_all := lw_g (lw_at lw_m7 54 rfl) rfl
theorem q1550 : (Jvm.Cond.code ({ cls := "LendlatheModel", name := "thrown", desc := "()I" } : Jvm.MethodName) prog_14_method_2_code (1 : Nat) (Option.some Jvm.ClassFile.FieldType.int)) ∈ lw_all := lw_g (lw_at lw_m7 55 rfl) rfl
theorem q1552 : (Jvm.Cond.instanceMethod ({ cls := "LendlatheModel", name := "addMachine", desc := "(II)I" } : Jvm.MethodName)) ∈ lw_all := lw_g (lw_at lw_m7 57 rfl) rfl
theorem q1553 : (Jvm.Cond.selects "LendlatheModel" ({ cls := "LendlatheModel", name := "addMachine", desc := "(II)I" } : Jvm.MethodName) ({ cls := "LendlatheModel", name := "addMachine", desc := "(II)I" } : Jvm.MethodName)) ∈ lw_all := lw_g (lw_at lw_m7 58 rfl) rfl
theorem q1554 : (Jvm.Cond.code ({ cls := "LendlatheModel", name := "addMachine", desc := "(II)I" } : Jvm.MethodName) prog_14_method_9_code (3 : Nat) (Option.some Jvm.ClassFile.FieldType.int)) ∈ lw_all := lw_g (lw_at lw_m7 59 rfl) rfl
theorem q1555 : (Jvm.Cond.methodLink "LendlatheModel" (104 : Nat) ({ cls := "LendlatheModel", name := "isKind", desc := "(I)Z" } : Jvm.MethodName)) ∈ lw_all := lw_g (lw_at lw_m7 60 rfl) rfl
theorem q1556 : (Jvm.Cond.static ({ cls := "LendlatheModel", name := "isKind", desc := "(I)Z" } : Jvm.MethodName)) ∈ lw_all := lw_g (lw_at lw_m7 61 rfl) rfl
theorem q1557 : (Jvm.Cond.code ({ cls := "LendlatheModel", name := "isKind", desc := "(I)Z" } : Jvm.MethodName) prog_14_method_5_code (1 : Nat) (Option.some Jvm.ClassFile.FieldType.boolean)) ∈ lw_all := lw_g (lw_at lw_m7 62 rfl) rfl
theorem q1558 : (Jvm.Cond.methodLink "LendlatheModel" (91 : Nat) ({ cls := "LendlatheModel", name := "in", desc := "(III)Z" } : Jvm.MethodName)) ∈ lw_all := lw_g (lw_at lw_m7 63 rfl) rfl
theorem q1559 : (Jvm.Cond.static ({ cls := "LendlatheModel", name := "in", desc := "(III)Z" } : Jvm.MethodName)) ∈ lw_all := lw_g (lw_at lw_m7 64 rfl) rfl
theorem q1560 : (Jvm.Cond.code ({ cls := "LendlatheModel", name := "in", desc := "(III)Z" } : Jvm.MethodName) prog_14_method_4_code (3 : Nat) (Option.some Jvm.ClassFile.FieldType.boolean)) ∈ lw_all := lw_g (lw_at lw_m7 65 rfl) rfl
theorem q1562 : (Jvm.Cond.instanceMethod ({ cls := "LendlatheModel", name := "addMember", desc := "()I" } : Jvm.MethodName)) ∈ lw_all := lw_g (lw_at lw_m7 67 rfl) rfl
theorem q1563 : (Jvm.Cond.selects "LendlatheModel" ({ cls := "LendlatheModel", name := "addMember", desc := "()I" } : Jvm.MethodName) ({ cls := "LendlatheModel", name := "addMember", desc := "()I" } : Jvm.MethodName)) ∈ lw_all := lw_g (lw_at lw_m7 68 rfl) rfl
theorem q1564 : (Jvm.Cond.code ({ cls := "LendlatheModel", name := "addMember", desc := "()I" } : Jvm.MethodName) prog_14_method_10_code (2 : Nat) (Option.some Jvm.ClassFile.FieldType.int)) ∈ lw_all := lw_g (lw_at lw_m7 69 rfl) rfl
theorem q1565 : (Jvm.Cond.methodLink "LendlatheModel" (108 : Nat) ({ cls := "LendlatheModel", name := "raises", desc := "(I)I" } : Jvm.MethodName)) ∈ lw_all := lw_g (lw_at lw_m7 70 rfl) rfl
theorem q1566 : (Jvm.Cond.privateMethod ({ cls := "LendlatheModel", name := "raises", desc := "(I)I" } : Jvm.MethodName)) ∈ lw_tbl := lw_at lw_m7 71 rfl
theorem q1567 : (Jvm.Cond.instanceMethod ({ cls := "LendlatheModel", name := "raises", desc := "(I)I" } : Jvm.MethodName)) ∈ lw_all := lw_g (lw_at lw_m7 72 rfl) rfl
theorem q1568 : (Jvm.Cond.code ({ cls := "LendlatheModel", name := "raises", desc := "(I)I" } : Jvm.MethodName) prog_14_method_3_code (2 : Nat) (Option.some Jvm.ClassFile.FieldType.int)) ∈ lw_all := lw_g (lw_at lw_m7 73 rfl) rfl
theorem q1570 : (Jvm.Cond.instanceMethod ({ cls := "LendlatheModel", name := "day", desc := "()I" } : Jvm.MethodName)) ∈ lw_all := lw_g (lw_at lw_m7 75 rfl) rfl
theorem q1571 : (Jvm.Cond.selects "LendlatheModel" ({ cls := "LendlatheModel", name := "day", desc := "()I" } : Jvm.MethodName) ({ cls := "LendlatheModel", name := "day", desc := "()I" } : Jvm.MethodName)) ∈ lw_all := lw_g (lw_at lw_m7 76 rfl) rfl
theorem q1572 : (Jvm.Cond.code ({ cls := "LendlatheModel", name := "day", desc := "()I" } : Jvm.MethodName) prog_14_method_11_code (1 : Nat) (Option.some Jvm.ClassFile.FieldType.int)) ∈ lw_all := lw_g (lw_at lw_m7 77 rfl) rfl
theorem q1574 : (Jvm.Cond.instanceMethod ({ cls := "LendlatheModel", name := "addNeed", desc := "(II)Z" } : Jvm.MethodName)) ∈ lw_all := lw_g (lw_at lw_m7 79 rfl) rfl
theorem q1575 : (Jvm.Cond.selects "LendlatheModel" ({ cls := "LendlatheModel", name := "addNeed", desc := "(II)Z" } : Jvm.MethodName) ({ cls := "LendlatheModel", name := "addNeed", desc := "(II)Z" } : Jvm.MethodName)) ∈ lw_all := lw_g (lw_at lw_m7 80 rfl) rfl
theorem q1576 : (Jvm.Cond.code ({ cls := "LendlatheModel", name := "addNeed", desc := "(II)Z" } : Jvm.MethodName) prog_14_method_15_code (6 : Nat) (Option.some Jvm.ClassFile.FieldType.boolean)) ∈ lw_all := lw_g (lw_at lw_m7 81 rfl) rfl
theorem q1577 : (Jvm.Cond.methodLink "LendlatheModel" (115 : Nat) ({ cls := "LendlatheModel", name := "reaches", desc := "(II)Z" } : Jvm.MethodName)) ∈ lw_all := lw_g (lw_at lw_m7 82 rfl) rfl
theorem q1578 : (Jvm.Cond.privateMethod ({ cls := "LendlatheModel", name := "reaches", desc := "(II)Z" } : Jvm.MethodName)) ∈ lw_tbl := lw_at lw_m7 83 rfl
theorem q1579 : (Jvm.Cond.instanceMethod ({ cls := "LendlatheModel", name := "reaches", desc := "(II)Z" } : Jvm.MethodName)) ∈ lw_all := lw_g (lw_at lw_m7 84 rfl) rfl
theorem q1580 : (Jvm.Cond.code ({ cls := "LendlatheModel", name := "reaches", desc := "(II)Z" } : Jvm.MethodName) prog_14_method_12_code (5 : Nat) (Option.some Jvm.ClassFile.FieldType.boolean)) ∈ lw_all := lw_g (lw_at lw_m7 85 rfl) rfl
theorem q1581 : (Jvm.Cond.methodLink "LendlatheModel" (122 : Nat) ({ cls := "LendlatheModel", name := "liveFor", desc := "(III)Z" } : Jvm.MethodName)) ∈ lw_all := lw_g (lw_at lw_m7 86 rfl) rfl
theorem q1582 : (Jvm.Cond.privateMethod ({ cls := "LendlatheModel", name := "liveFor", desc := "(III)Z" } : Jvm.MethodName)) ∈ lw_tbl := lw_at lw_m7 87 rfl
theorem q1583 : (Jvm.Cond.instanceMethod ({ cls := "LendlatheModel", name := "liveFor", desc := "(III)Z" } : Jvm.MethodName)) ∈ lw_all := lw_g (lw_at lw_m7 88 rfl) rfl
theorem q1584 : (Jvm.Cond.code ({ cls := "LendlatheModel", name := "liveFor", desc := "(III)Z" } : Jvm.MethodName) prog_14_method_14_code (4 : Nat) (Option.some Jvm.ClassFile.FieldType.boolean)) ∈ lw_all := lw_g (lw_at lw_m7 89 rfl) rfl
theorem q1585 : (Jvm.Cond.methodLink "LendlatheModel" (119 : Nat) ({ cls := "LendlatheModel", name := "live", desc := "(III)Z" } : Jvm.MethodName)) ∈ lw_all := lw_g (lw_at lw_m7 90 rfl) rfl
theorem q1586 : (Jvm.Cond.privateMethod ({ cls := "LendlatheModel", name := "live", desc := "(III)Z" } : Jvm.MethodName)) ∈ lw_tbl := lw_at lw_m7 91 rfl
theorem q1587 : (Jvm.Cond.instanceMethod ({ cls := "LendlatheModel", name := "live", desc := "(III)Z" } : Jvm.MethodName)) ∈ lw_all := lw_g (lw_at lw_m7 92 rfl) rfl
theorem q1588 : (Jvm.Cond.code ({ cls := "LendlatheModel", name := "live", desc := "(III)Z" } : Jvm.MethodName) prog_14_method_13_code (7 : Nat) (Option.some Jvm.ClassFile.FieldType.boolean)) ∈ lw_all := lw_g (lw_at lw_m7 93 rfl) rfl
theorem q1589 : (Jvm.Cond.methodLink "LendlatheModel" (125 : Nat) ({ cls := "LendlatheModel", name := "gives", desc := "()V" } : Jvm.MethodName)) ∈ lw_all := lw_g (lw_at lw_m7 94 rfl) rfl
theorem q1590 : (Jvm.Cond.privateMethod ({ cls := "LendlatheModel", name := "gives", desc := "()V" } : Jvm.MethodName)) ∈ lw_tbl := lw_at lw_m7 95 rfl
theorem q1591 : (Jvm.Cond.instanceMethod ({ cls := "LendlatheModel", name := "gives", desc := "()V" } : Jvm.MethodName)) ∈ lw_all := lw_g (lw_at lw_m7 96 rfl) rfl
theorem q1592 : (Jvm.Cond.code ({ cls := "LendlatheModel", name := "gives", desc := "()V" } : Jvm.MethodName) prog_14_method_24_code (2 : Nat) (Option.none : Option Jvm.ClassFile.FieldType)) ∈ lw_all := lw_g (lw_at lw_m7 97 rfl) rfl
theorem q1593 : (Jvm.Cond.methodLink "LendlatheModel" (149 : Nat) ({ cls := "LendlatheModel", name := "letter", desc := "(IIIIIC)C" } : Jvm.MethodName)) ∈ lw_all := lw_g (lw_at lw_m7 98 rfl) rfl
theorem q1594 : (Jvm.Cond.privateMethod ({ cls := "LendlatheModel", name := "letter", desc := "(IIIIIC)C" } : Jvm.MethodName)) ∈ lw_tbl := lw_at lw_m7 99 rfl
theorem q1595 : (Jvm.Cond.instanceMethod ({ cls := "LendlatheModel", name := "letter", desc := "(IIIIIC)C" } : Jvm.MethodName)) ∈ lw_all := lw_g (lw_at lw_m7 100 rfl) rfl
theorem q1596 : (Jvm.Cond.code ({ cls := "LendlatheModel", name := "letter", desc := "(IIIIIC)C" } : Jvm.MethodName) prog_14_method_23_code (7 : Nat) (Option.some Jvm.ClassFile.FieldType.char)) ∈ lw_all := lw_g (lw_at lw_m7 101 rfl) rfl
theorem q1597 : (Jvm.Cond.methodLink "LendlatheModel" (142 : Nat) ({ cls := "LendlatheModel", name := "isBusy", desc := "(IIII)Z" } : Jvm.MethodName)) ∈ lw_all := lw_g (lw_at lw_m7 102 rfl) rfl
theorem q1598 : (Jvm.Cond.privateMethod ({ cls := "LendlatheModel", name := "isBusy", desc := "(IIII)Z" } : Jvm.MethodName)) ∈ lw_tbl := lw_at lw_m7 103 rfl
theorem q1599 : (Jvm.Cond.instanceMethod ({ cls := "LendlatheModel", name := "isBusy", desc := "(IIII)Z" } : Jvm.MethodName)) ∈ lw_all := lw_g (lw_at lw_m7 104 rfl) rfl
theorem q1600 : (Jvm.Cond.code ({ cls := "LendlatheModel", name := "isBusy", desc := "(IIII)Z" } : Jvm.MethodName) prog_14_method_22_code (7 : Nat) (Option.some Jvm.ClassFile.FieldType.boolean)) ∈ lw_all := lw_g (lw_at lw_m7 105 rfl) rfl
theorem q1601 : (Jvm.Cond.methodLink "LendlatheModel" (134 : Nat) ({ cls := "LendlatheModel", name := "overlaps", desc := "(IIII)Z" } : Jvm.MethodName)) ∈ lw_all := lw_g (lw_at lw_m7 106 rfl) rfl
theorem q1602 : (Jvm.Cond.privateMethod ({ cls := "LendlatheModel", name := "overlaps", desc := "(IIII)Z" } : Jvm.MethodName)) ∈ lw_tbl := lw_at lw_m7 107 rfl
theorem q1603 : (Jvm.Cond.instanceMethod ({ cls := "LendlatheModel", name := "overlaps", desc := "(IIII)Z" } : Jvm.MethodName)) ∈ lw_all := lw_g (lw_at lw_m7 108 rfl) rfl
theorem q1604 : (Jvm.Cond.code ({ cls := "LendlatheModel", name := "overlaps", desc := "(IIII)Z" } : Jvm.MethodName) prog_14_method_19_code (5 : Nat) (Option.some Jvm.ClassFile.FieldType.boolean)) ∈ lw_all := lw_g (lw_at lw_m7 109 rfl) rfl
theorem q1605 : (Jvm.Cond.methodLink "LendlatheModel" (131 : Nat) ({ cls := "LendlatheModel", name := "endOf", desc := "(I)I" } : Jvm.MethodName)) ∈ lw_all := lw_g (lw_at lw_m7 110 rfl) rfl
theorem q1606 : (Jvm.Cond.privateMethod ({ cls := "LendlatheModel", name := "endOf", desc := "(I)I" } : Jvm.MethodName)) ∈ lw_tbl := lw_at lw_m7 111 rfl
theorem q1607 : (Jvm.Cond.instanceMethod ({ cls := "LendlatheModel", name := "endOf", desc := "(I)I" } : Jvm.MethodName)) ∈ lw_all := lw_g (lw_at lw_m7 112 rfl) rfl
theorem q1608 : (Jvm.Cond.code ({ cls := "LendlatheModel", name := "endOf", desc := "(I)I" } : Jvm.MethodName) prog_14_method_18_code (2 : Nat) (Option.some Jvm.ClassFile.FieldType.int)) ∈ lw_all := lw_g (lw_at lw_m7 113 rfl) rfl
theorem q1609 : (Jvm.Cond.methodLink "LendlatheModel" (145 : Nat) ({ cls := "LendlatheModel", name := "isFree", desc := "(IIIIC)Z" } : Jvm.MethodName)) ∈ lw_all := lw_g (lw_at lw_m7 114 rfl) rfl
theorem q1610 : (Jvm.Cond.privateMethod ({ cls := "LendlatheModel", name := "isFree", desc := "(IIIIC)Z" } : Jvm.MethodName)) ∈ lw_tbl := lw_at lw_m7 115 rfl
theorem q1611 : (Jvm.Cond.instanceMethod ({ cls := "LendlatheModel", name := "isFree", desc := "(IIIIC)Z" } : Jvm.MethodName)) ∈ lw_all := lw_g (lw_at lw_m7 116 rfl) rfl
theorem q1612 : (Jvm.Cond.code ({ cls := "LendlatheModel", name := "isFree", desc := "(IIIIC)Z" } : Jvm.MethodName) prog_14_method_21_code (9 : Nat) (Option.some Jvm.ClassFile.FieldType.boolean)) ∈ lw_all := lw_g (lw_at lw_m7 117 rfl) rfl
theorem q1613 : (Jvm.Cond.methodLink "LendlatheModel" (138 : Nat) ({ cls := "LendlatheModel", name := "setup", desc := "(ICC)I" } : Jvm.MethodName)) ∈ lw_all := lw_g (lw_at lw_m7 118 rfl) rfl
theorem q1614 : (Jvm.Cond.privateMethod ({ cls := "LendlatheModel", name := "setup", desc := "(ICC)I" } : Jvm.MethodName)) ∈ lw_tbl := lw_at lw_m7 119 rfl
theorem q1615 : (Jvm.Cond.instanceMethod ({ cls := "LendlatheModel", name := "setup", desc := "(ICC)I" } : Jvm.MethodName)) ∈ lw_all := lw_g (lw_at lw_m7 120 rfl) rfl
theorem q1616 : (Jvm.Cond.code ({ cls := "LendlatheModel", name := "setup", desc := "(ICC)I" } : Jvm.MethodName) prog_14_method_20_code (4 : Nat) (Option.some Jvm.ClassFile.FieldType.int)) ∈ lw_all := lw_g (lw_at lw_m7 121 rfl) rfl
theorem q1618 : (Jvm.Cond.instanceMethod ({ cls := "LendlatheModel", name := "induct", desc := "(II)I" } : Jvm.MethodName)) ∈ lw_all := lw_g (lw_at lw_m7 123 rfl) rfl
theorem q1619 : (Jvm.Cond.selects "LendlatheModel" ({ cls := "LendlatheModel", name := "induct", desc := "(II)I" } : Jvm.MethodName) ({ cls := "LendlatheModel", name := "induct", desc := "(II)I" } : Jvm.MethodName)) ∈ lw_all := lw_g (lw_at lw_m7 124 rfl) rfl
theorem q1620 : (Jvm.Cond.code ({ cls := "LendlatheModel", name := "induct", desc := "(II)I" } : Jvm.MethodName) prog_14_method_16_code (4 : Nat) (Option.some Jvm.ClassFile.FieldType.int)) ∈ lw_all := lw_g (lw_at lw_m7 125 rfl) rfl
theorem q1621 : (Jvm.Cond.methodLink "LendlatheModel" (128 : Nat) ({ cls := "LendlatheModel", name := "isMember", desc := "(I)Z" } : Jvm.MethodName)) ∈ lw_all := lw_g (lw_at lw_m7 126 rfl) rfl
theorem q1622 : (Jvm.Cond.privateMethod ({ cls := "LendlatheModel", name := "isMember", desc := "(I)Z" } : Jvm.MethodName)) ∈ lw_tbl := lw_at lw_m7 127 rfl
theorem q1623 : (Jvm.Cond.instanceMethod ({ cls := "LendlatheModel", name := "isMember", desc := "(I)Z" } : Jvm.MethodName)) ∈ lw_all := lw_g (lw_at lw_m7 128 rfl) rfl
theorem q1624 : (Jvm.Cond.code ({ cls := "LendlatheModel", name := "isMember", desc := "(I)Z" } : Jvm.MethodName) prog_14_method_6_code (2 : Nat) (Option.some Jvm.ClassFile.FieldType.boolean)) ∈ lw_all := lw_g (lw_at lw_m7 129 rfl) rfl
theorem q1626 : (Jvm.Cond.instanceMethod ({ cls := "LendlatheModel", name := "isLive", desc := "(III)Z" } : Jvm.MethodName)) ∈ lw_all := lw_g (lw_at lw_m7 131 rfl) rfl
theorem q1627 : (Jvm.Cond.selects "LendlatheModel" ({ cls := "LendlatheModel", name := "isLive", desc := "(III)Z" } : Jvm.MethodName) ({ cls := "LendlatheModel", name := "isLive", desc := "(III)Z" } : Jvm.MethodName)) ∈ lw_all := lw_g (lw_at lw_m7 132 rfl) rfl
theorem q1628 : (Jvm.Cond.code ({ cls := "LendlatheModel", name := "isLive", desc := "(III)Z" } : Jvm.MethodName) prog_14_method_17_code (4 : Nat) (Option.some Jvm.ClassFile.FieldType.boolean)) ∈ lw_all := lw_g (lw_at lw_m7 133 rfl) rfl
theorem q1630 : (Jvm.Cond.instanceMethod ({ cls := "LendlatheModel", name := "book", desc := "(IIIIIC)I" } : Jvm.MethodName)) ∈ lw_all := lw_g (lw_at lw_m7 135 rfl) rfl
theorem q1631 : (Jvm.Cond.selects "LendlatheModel" ({ cls := "LendlatheModel", name := "book", desc := "(IIIIIC)I" } : Jvm.MethodName) ({ cls := "LendlatheModel", name := "book", desc := "(IIIIIC)I" } : Jvm.MethodName)) ∈ lw_all := lw_g (lw_at lw_m7 136 rfl) rfl
theorem q1632 : (Jvm.Cond.code ({ cls := "LendlatheModel", name := "book", desc := "(IIIIIC)I" } : Jvm.MethodName) prog_14_method_28_code (8 : Nat) (Option.some Jvm.ClassFile.FieldType.int)) ∈ lw_all := lw_g (lw_at lw_m7 137 rfl) rfl
theorem q1633 : (Jvm.Cond.methodLink "LendlatheModel" (160 : Nat) ({ cls := "LendlatheModel", name := "lacks", desc := "(IIIIIC)I" } : Jvm.MethodName)) ∈ lw_all := lw_g (lw_at lw_m7 138 rfl) rfl
theorem q1634 : (Jvm.Cond.privateMethod ({ cls := "LendlatheModel", name := "lacks", desc := "(IIIIIC)I" } : Jvm.MethodName)) ∈ lw_tbl := lw_at lw_m7 139 rfl
theorem q1635 : (Jvm.Cond.instanceMethod ({ cls := "LendlatheModel", name := "lacks", desc := "(IIIIIC)I" } : Jvm.MethodName)) ∈ lw_all := lw_g (lw_at lw_m7 140 rfl) rfl
theorem q1636 : (Jvm.Cond.code ({ cls := "LendlatheModel", name := "lacks", desc := "(IIIIIC)I" } : Jvm.MethodName) prog_14_method_26_code (8 : Nat) (Option.some Jvm.ClassFile.FieldType.int)) ∈ lw_all := lw_g (lw_at lw_m7 141 rfl) rfl
theorem q1637 : (Jvm.Cond.methodLink "LendlatheModel" (153 : Nat) ({ cls := "LendlatheModel", name := "isWork", desc := "(C)Z" } : Jvm.MethodName)) ∈ lw_all := lw_g (lw_at lw_m7 142 rfl) rfl
theorem q1638 : (Jvm.Cond.static ({ cls := "LendlatheModel", name := "isWork", desc := "(C)Z" } : Jvm.MethodName)) ∈ lw_all := lw_g (lw_at lw_m7 143 rfl) rfl
theorem q1639 : (Jvm.Cond.code ({ cls := "LendlatheModel", name := "isWork", desc := "(C)Z" } : Jvm.MethodName) prog_14_method_25_code (1 : Nat) (Option.some Jvm.ClassFile.FieldType.boolean)) ∈ lw_all := lw_g (lw_at lw_m7 144 rfl) rfl
theorem q1640 : (Jvm.Cond.methodLink "LendlatheModel" (157 : Nat) ({ cls := "LendlatheModel", name := "isMachine", desc := "(I)Z" } : Jvm.MethodName)) ∈ lw_all := lw_g (lw_at lw_m7 145 rfl) rfl
theorem q1641 : (Jvm.Cond.privateMethod ({ cls := "LendlatheModel", name := "isMachine", desc := "(I)Z" } : Jvm.MethodName)) ∈ lw_tbl := lw_at lw_m7 146 rfl
theorem q1642 : (Jvm.Cond.instanceMethod ({ cls := "LendlatheModel", name := "isMachine", desc := "(I)Z" } : Jvm.MethodName)) ∈ lw_all := lw_g (lw_at lw_m7 147 rfl) rfl
theorem q1643 : (Jvm.Cond.code ({ cls := "LendlatheModel", name := "isMachine", desc := "(I)Z" } : Jvm.MethodName) prog_14_method_7_code (2 : Nat) (Option.some Jvm.ClassFile.FieldType.boolean)) ∈ lw_all := lw_g (lw_at lw_m7 148 rfl) rfl
theorem q1644 : (Jvm.Cond.methodLink "LendlatheModel" (164 : Nat) ({ cls := "LendlatheModel", name := "adds", desc := "(IIIIICC)I" } : Jvm.MethodName)) ∈ lw_all := lw_g (lw_at lw_m7 149 rfl) rfl
theorem q1645 : (Jvm.Cond.privateMethod ({ cls := "LendlatheModel", name := "adds", desc := "(IIIIICC)I" } : Jvm.MethodName)) ∈ lw_tbl := lw_at lw_m7 150 rfl
theorem q1646 : (Jvm.Cond.instanceMethod ({ cls := "LendlatheModel", name := "adds", desc := "(IIIIICC)I" } : Jvm.MethodName)) ∈ lw_all := lw_g (lw_at lw_m7 151 rfl) rfl
theorem q1647 : (Jvm.Cond.code ({ cls := "LendlatheModel", name := "adds", desc := "(IIIIICC)I" } : Jvm.MethodName) prog_14_method_27_code (8 : Nat) (Option.some Jvm.ClassFile.FieldType.int)) ∈ lw_all := lw_g (lw_at lw_m7 152 rfl) rfl
theorem q1649 : (Jvm.Cond.instanceMethod ({ cls := "LendlatheModel", name := "await", desc := "(IIIIIC)I" } : Jvm.MethodName)) ∈ lw_all := lw_g (lw_at lw_m7 154 rfl) rfl
theorem q1650 : (Jvm.Cond.selects "LendlatheModel" ({ cls := "LendlatheModel", name := "await", desc := "(IIIIIC)I" } : Jvm.MethodName) ({ cls := "LendlatheModel", name := "await", desc := "(IIIIIC)I" } : Jvm.MethodName)) ∈ lw_all := lw_g (lw_at lw_m7 155 rfl) rfl
theorem q1651 : (Jvm.Cond.code ({ cls := "LendlatheModel", name := "await", desc := "(IIIIIC)I" } : Jvm.MethodName) prog_14_method_29_code (8 : Nat) (Option.some Jvm.ClassFile.FieldType.int)) ∈ lw_all := lw_g (lw_at lw_m7 156 rfl) rfl
theorem q1653 : (Jvm.Cond.instanceMethod ({ cls := "LendlatheModel", name := "check", desc := "(IIIIIC)C" } : Jvm.MethodName)) ∈ lw_all := lw_g (lw_at lw_m7 158 rfl) rfl
theorem q1654 : (Jvm.Cond.selects "LendlatheModel" ({ cls := "LendlatheModel", name := "check", desc := "(IIIIIC)C" } : Jvm.MethodName) ({ cls := "LendlatheModel", name := "check", desc := "(IIIIIC)C" } : Jvm.MethodName)) ∈ lw_all := lw_g (lw_at lw_m7 159 rfl) rfl
theorem q1655 : (Jvm.Cond.code ({ cls := "LendlatheModel", name := "check", desc := "(IIIIIC)C" } : Jvm.MethodName) prog_14_method_30_code (7 : Nat) (Option.some Jvm.ClassFile.FieldType.char)) ∈ lw_all := lw_g (lw_at lw_m7 160 rfl) rfl
theorem q1657 : (Jvm.Cond.instanceMethod ({ cls := "LendlatheModel", name := "cancel", desc := "(I)C" } : Jvm.MethodName)) ∈ lw_all := lw_g (lw_at lw_m7 162 rfl) rfl
theorem q1658 : (Jvm.Cond.selects "LendlatheModel" ({ cls := "LendlatheModel", name := "cancel", desc := "(I)C" } : Jvm.MethodName) ({ cls := "LendlatheModel", name := "cancel", desc := "(I)C" } : Jvm.MethodName)) ∈ lw_all := lw_g (lw_at lw_m7 163 rfl) rfl
theorem q1659 : (Jvm.Cond.code ({ cls := "LendlatheModel", name := "cancel", desc := "(I)C" } : Jvm.MethodName) prog_14_method_31_code (3 : Nat) (Option.some Jvm.ClassFile.FieldType.char)) ∈ lw_all := lw_g (lw_at lw_m7 164 rfl) rfl
theorem q1660 : (Jvm.Cond.methodLink "LendlatheModel" (168 : Nat) ({ cls := "LendlatheModel", name := "isEntry", desc := "(I)Z" } : Jvm.MethodName)) ∈ lw_all := lw_g (lw_at lw_m7 165 rfl) rfl
theorem q1661 : (Jvm.Cond.privateMethod ({ cls := "LendlatheModel", name := "isEntry", desc := "(I)Z" } : Jvm.MethodName)) ∈ lw_tbl := lw_at lw_m7 166 rfl
theorem q1662 : (Jvm.Cond.instanceMethod ({ cls := "LendlatheModel", name := "isEntry", desc := "(I)Z" } : Jvm.MethodName)) ∈ lw_all := lw_g (lw_at lw_m7 167 rfl) rfl
theorem q1663 : (Jvm.Cond.code ({ cls := "LendlatheModel", name := "isEntry", desc := "(I)Z" } : Jvm.MethodName) prog_14_method_8_code (2 : Nat) (Option.some Jvm.ClassFile.FieldType.boolean)) ∈ lw_all := lw_g (lw_at lw_m7 168 rfl) rfl
theorem q1664 : (Jvm.Cond.methodLink "LendlatheModel" (171 : Nat) ({ cls := "LendlatheModel", name := "cost", desc := "(II)I" } : Jvm.MethodName)) ∈ lw_all := lw_g (lw_at lw_m7 169 rfl) rfl
theorem q1665 : (Jvm.Cond.privateMethod ({ cls := "LendlatheModel", name := "cost", desc := "(II)I" } : Jvm.MethodName)) ∈ lw_tbl := lw_at lw_m7 170 rfl
theorem q1666 : (Jvm.Cond.instanceMethod ({ cls := "LendlatheModel", name := "cost", desc := "(II)I" } : Jvm.MethodName)) ∈ lw_all := lw_g (lw_at lw_m7 171 rfl) rfl
theorem q1667 : (Jvm.Cond.code ({ cls := "LendlatheModel", name := "cost", desc := "(II)I" } : Jvm.MethodName) prog_14_method_53_code (9 : Nat) (Option.some Jvm.ClassFile.FieldType.int)) ∈ lw_all := lw_g (lw_at lw_m7 172 rfl) rfl
theorem q1668 : (Jvm.Cond.methodLink "LendlatheModel" (208 : Nat) ({ cls := "java/lang/Math", name := "max", desc := "(II)I" } : Jvm.MethodName)) ∈ lw_all := lw_g (lw_at lw_m7 173 rfl) rfl
theorem q1669 : (Jvm.Cond.methodLink "LendlatheModel" (213 : Nat) ({ cls := "java/lang/Math", name := "min", desc := "(II)I" } : Jvm.MethodName)) ∈ lw_all := lw_g (lw_at lw_m7 174 rfl) rfl
theorem q1671 : (Jvm.Cond.instanceMethod ({ cls := "LendlatheModel", name := "stateOf", desc := "(I)C" } : Jvm.MethodName)) ∈ lw_all := lw_g (lw_at lw_m7 176 rfl) rfl
theorem q1672 : (Jvm.Cond.selects "LendlatheModel" ({ cls := "LendlatheModel", name := "stateOf", desc := "(I)C" } : Jvm.MethodName) ({ cls := "LendlatheModel", name := "stateOf", desc := "(I)C" } : Jvm.MethodName)) ∈ lw_all := lw_g (lw_at lw_m7 177 rfl) rfl
theorem q1673 : (Jvm.Cond.code ({ cls := "LendlatheModel", name := "stateOf", desc := "(I)C" } : Jvm.MethodName) prog_14_method_32_code (2 : Nat) (Option.some Jvm.ClassFile.FieldType.char)) ∈ lw_all := lw_g (lw_at lw_m7 178 rfl) rfl
theorem q1675 : (Jvm.Cond.instanceMethod ({ cls := "LendlatheModel", name := "entries", desc := "()I" } : Jvm.MethodName)) ∈ lw_all := lw_g (lw_at lw_m7 180 rfl) rfl
theorem q1676 : (Jvm.Cond.selects "LendlatheModel" ({ cls := "LendlatheModel", name := "entries", desc := "()I" } : Jvm.MethodName) ({ cls := "LendlatheModel", name := "entries", desc := "()I" } : Jvm.MethodName)) ∈ lw_all := lw_g (lw_at lw_m7 181 rfl) rfl
theorem q1677 : (Jvm.Cond.code ({ cls := "LendlatheModel", name := "entries", desc := "()I" } : Jvm.MethodName) prog_14_method_33_code (1 : Nat) (Option.some Jvm.ClassFile.FieldType.int)) ∈ lw_all := lw_g (lw_at lw_m7 182 rfl) rfl
theorem q1679 : (Jvm.Cond.instanceMethod ({ cls := "LendlatheModel", name := "endDay", desc := "()I" } : Jvm.MethodName)) ∈ lw_all := lw_g (lw_at lw_m7 184 rfl) rfl
theorem q1680 : (Jvm.Cond.selects "LendlatheModel" ({ cls := "LendlatheModel", name := "endDay", desc := "()I" } : Jvm.MethodName) ({ cls := "LendlatheModel", name := "endDay", desc := "()I" } : Jvm.MethodName)) ∈ lw_all := lw_g (lw_at lw_m7 185 rfl) rfl
theorem q1681 : (Jvm.Cond.code ({ cls := "LendlatheModel", name := "endDay", desc := "()I" } : Jvm.MethodName) prog_14_method_34_code (4 : Nat) (Option.some Jvm.ClassFile.FieldType.int)) ∈ lw_all := lw_g (lw_at lw_m7 186 rfl) rfl
theorem q1683 : (Jvm.Cond.instanceMethod ({ cls := "LendlatheModel", name := "minuteAt", desc := "(III)C" } : Jvm.MethodName)) ∈ lw_all := lw_g (lw_at lw_m7 188 rfl) rfl
theorem q1684 : (Jvm.Cond.selects "LendlatheModel" ({ cls := "LendlatheModel", name := "minuteAt", desc := "(III)C" } : Jvm.MethodName) ({ cls := "LendlatheModel", name := "minuteAt", desc := "(III)C" } : Jvm.MethodName)) ∈ lw_all := lw_g (lw_at lw_m7 189 rfl) rfl
theorem q1685 : (Jvm.Cond.code ({ cls := "LendlatheModel", name := "minuteAt", desc := "(III)C" } : Jvm.MethodName) prog_14_method_38_code (4 : Nat) (Option.some Jvm.ClassFile.FieldType.char)) ∈ lw_all := lw_g (lw_at lw_m7 190 rfl) rfl
theorem q1686 : (Jvm.Cond.methodLink "LendlatheModel" (178 : Nat) ({ cls := "LendlatheModel", name := "may", desc := "(III)Z" } : Jvm.MethodName)) ∈ lw_all := lw_g (lw_at lw_m7 191 rfl) rfl
theorem q1687 : (Jvm.Cond.privateMethod ({ cls := "LendlatheModel", name := "may", desc := "(III)Z" } : Jvm.MethodName)) ∈ lw_tbl := lw_at lw_m7 192 rfl
theorem q1688 : (Jvm.Cond.instanceMethod ({ cls := "LendlatheModel", name := "may", desc := "(III)Z" } : Jvm.MethodName)) ∈ lw_all := lw_g (lw_at lw_m7 193 rfl) rfl
theorem q1689 : (Jvm.Cond.code ({ cls := "LendlatheModel", name := "may", desc := "(III)Z" } : Jvm.MethodName) prog_14_method_37_code (4 : Nat) (Option.some Jvm.ClassFile.FieldType.boolean)) ∈ lw_all := lw_g (lw_at lw_m7 194 rfl) rfl
theorem q1690 : (Jvm.Cond.methodLink "LendlatheModel" (181 : Nat) ({ cls := "LendlatheModel", name := "minute", desc := "(III)C" } : Jvm.MethodName)) ∈ lw_all := lw_g (lw_at lw_m7 195 rfl) rfl
theorem q1691 : (Jvm.Cond.privateMethod ({ cls := "LendlatheModel", name := "minute", desc := "(III)C" } : Jvm.MethodName)) ∈ lw_tbl := lw_at lw_m7 196 rfl
theorem q1692 : (Jvm.Cond.instanceMethod ({ cls := "LendlatheModel", name := "minute", desc := "(III)C" } : Jvm.MethodName)) ∈ lw_all := lw_g (lw_at lw_m7 197 rfl) rfl
theorem q1693 : (Jvm.Cond.code ({ cls := "LendlatheModel", name := "minute", desc := "(III)C" } : Jvm.MethodName) prog_14_method_36_code (7 : Nat) (Option.some Jvm.ClassFile.FieldType.char)) ∈ lw_all := lw_g (lw_at lw_m7 198 rfl) rfl
theorem q1694 : (Jvm.Cond.methodLink "LendlatheModel" (175 : Nat) ({ cls := "LendlatheModel", name := "stands", desc := "(III)Z" } : Jvm.MethodName)) ∈ lw_all := lw_g (lw_at lw_m7 199 rfl) rfl
theorem q1695 : (Jvm.Cond.privateMethod ({ cls := "LendlatheModel", name := "stands", desc := "(III)Z" } : Jvm.MethodName)) ∈ lw_tbl := lw_at lw_m7 200 rfl
theorem q1696 : (Jvm.Cond.instanceMethod ({ cls := "LendlatheModel", name := "stands", desc := "(III)Z" } : Jvm.MethodName)) ∈ lw_all := lw_g (lw_at lw_m7 201 rfl) rfl
theorem q1697 : (Jvm.Cond.code ({ cls := "LendlatheModel", name := "stands", desc := "(III)Z" } : Jvm.MethodName) prog_14_method_35_code (4 : Nat) (Option.some Jvm.ClassFile.FieldType.boolean)) ∈ lw_all := lw_g (lw_at lw_m7 202 rfl) rfl
theorem q1699 : (Jvm.Cond.instanceMethod ({ cls := "LendlatheModel", name := "usedMinutes", desc := "(II)I" } : Jvm.MethodName)) ∈ lw_all := lw_g (lw_at lw_m7 204 rfl) rfl
theorem q1700 : (Jvm.Cond.selects "LendlatheModel" ({ cls := "LendlatheModel", name := "usedMinutes", desc := "(II)I" } : Jvm.MethodName) ({ cls := "LendlatheModel", name := "usedMinutes", desc := "(II)I" } : Jvm.MethodName)) ∈ lw_all := lw_g (lw_at lw_m7 205 rfl) rfl
theorem q1701 : (Jvm.Cond.code ({ cls := "LendlatheModel", name := "usedMinutes", desc := "(II)I" } : Jvm.MethodName) prog_14_method_41_code (3 : Nat) (Option.some Jvm.ClassFile.FieldType.int)) ∈ lw_all := lw_g (lw_at lw_m7 206 rfl) rfl
theorem q1702 : (Jvm.Cond.methodLink "LendlatheModel" (185 : Nat) ({ cls := "LendlatheModel", name := "used", desc := "(II)I" } : Jvm.MethodName)) ∈ lw_all := lw_g (lw_at lw_m7 207 rfl) rfl
theorem q1703 : (Jvm.Cond.privateMethod ({ cls := "LendlatheModel", name := "used", desc := "(II)I" } : Jvm.MethodName)) ∈ lw_tbl := lw_at lw_m7 208 rfl
theorem q1704 : (Jvm.Cond.instanceMethod ({ cls := "LendlatheModel", name := "used", desc := "(II)I" } : Jvm.MethodName)) ∈ lw_all := lw_g (lw_at lw_m7 209 rfl) rfl
theorem q1705 : (Jvm.Cond.code ({ cls := "LendlatheModel", name := "used", desc := "(II)I" } : Jvm.MethodName) prog_14_method_40_code (5 : Nat) (Option.some Jvm.ClassFile.FieldType.int)) ∈ lw_all := lw_g (lw_at lw_m7 210 rfl) rfl
theorem q1707 : (Jvm.Cond.instanceMethod ({ cls := "LendlatheModel", name := "usedByMinutes", desc := "(II)I" } : Jvm.MethodName)) ∈ lw_all := lw_g (lw_at lw_m7 212 rfl) rfl
theorem q1708 : (Jvm.Cond.selects "LendlatheModel" ({ cls := "LendlatheModel", name := "usedByMinutes", desc := "(II)I" } : Jvm.MethodName) ({ cls := "LendlatheModel", name := "usedByMinutes", desc := "(II)I" } : Jvm.MethodName)) ∈ lw_all := lw_g (lw_at lw_m7 213 rfl) rfl
theorem q1709 : (Jvm.Cond.code ({ cls := "LendlatheModel", name := "usedByMinutes", desc := "(II)I" } : Jvm.MethodName) prog_14_method_42_code (3 : Nat) (Option.some Jvm.ClassFile.FieldType.int)) ∈ lw_all := lw_g (lw_at lw_m7 214 rfl) rfl
theorem q1710 : (Jvm.Cond.methodLink "LendlatheModel" (188 : Nat) ({ cls := "LendlatheModel", name := "usedMinutes", desc := "(II)I" } : Jvm.MethodName)) ∈ lw_all := lw_g (lw_at lw_m7 215 rfl) rfl
theorem q1712 : (Jvm.Cond.instanceMethod ({ cls := "LendlatheModel", name := "setupMinutes", desc := "(II)I" } : Jvm.MethodName)) ∈ lw_all := lw_g (lw_at lw_m7 217 rfl) rfl
theorem q1713 : (Jvm.Cond.selects "LendlatheModel" ({ cls := "LendlatheModel", name := "setupMinutes", desc := "(II)I" } : Jvm.MethodName) ({ cls := "LendlatheModel", name := "setupMinutes", desc := "(II)I" } : Jvm.MethodName)) ∈ lw_all := lw_g (lw_at lw_m7 218 rfl) rfl
theorem q1714 : (Jvm.Cond.code ({ cls := "LendlatheModel", name := "setupMinutes", desc := "(II)I" } : Jvm.MethodName) prog_14_method_43_code (3 : Nat) (Option.some Jvm.ClassFile.FieldType.int)) ∈ lw_all := lw_g (lw_at lw_m7 219 rfl) rfl
theorem q1715 : (Jvm.Cond.methodLink "LendlatheModel" (191 : Nat) ({ cls := "LendlatheModel", name := "minutes", desc := "(IIC)I" } : Jvm.MethodName)) ∈ lw_all := lw_g (lw_at lw_m7 220 rfl) rfl
theorem q1716 : (Jvm.Cond.privateMethod ({ cls := "LendlatheModel", name := "minutes", desc := "(IIC)I" } : Jvm.MethodName)) ∈ lw_tbl := lw_at lw_m7 221 rfl
theorem q1717 : (Jvm.Cond.instanceMethod ({ cls := "LendlatheModel", name := "minutes", desc := "(IIC)I" } : Jvm.MethodName)) ∈ lw_all := lw_g (lw_at lw_m7 222 rfl) rfl
theorem q1718 : (Jvm.Cond.code ({ cls := "LendlatheModel", name := "minutes", desc := "(IIC)I" } : Jvm.MethodName) prog_14_method_39_code (6 : Nat) (Option.some Jvm.ClassFile.FieldType.int)) ∈ lw_all := lw_g (lw_at lw_m7 223 rfl) rfl
theorem q1720 : (Jvm.Cond.instanceMethod ({ cls := "LendlatheModel", name := "firstStart", desc := "(IIIC)I" } : Jvm.MethodName)) ∈ lw_all := lw_g (lw_at lw_m7 225 rfl) rfl
theorem q1721 : (Jvm.Cond.selects "LendlatheModel" ({ cls := "LendlatheModel", name := "firstStart", desc := "(IIIC)I" } : Jvm.MethodName) ({ cls := "LendlatheModel", name := "firstStart", desc := "(IIIC)I" } : Jvm.MethodName)) ∈ lw_all := lw_g (lw_at lw_m7 226 rfl) rfl
theorem q1722 : (Jvm.Cond.code ({ cls := "LendlatheModel", name := "firstStart", desc := "(IIIC)I" } : Jvm.MethodName) prog_14_method_44_code (6 : Nat) (Option.some Jvm.ClassFile.FieldType.int)) ∈ lw_all := lw_g (lw_at lw_m7 227 rfl) rfl
theorem q1724 : (Jvm.Cond.instanceMethod ({ cls := "LendlatheModel", name := "firstByMinutes", desc := "(IIIC)I" } : Jvm.MethodName)) ∈ lw_all := lw_g (lw_at lw_m7 229 rfl) rfl
theorem q1725 : (Jvm.Cond.selects "LendlatheModel" ({ cls := "LendlatheModel", name := "firstByMinutes", desc := "(IIIC)I" } : Jvm.MethodName) ({ cls := "LendlatheModel", name := "firstByMinutes", desc := "(IIIC)I" } : Jvm.MethodName)) ∈ lw_all := lw_g (lw_at lw_m7 230 rfl) rfl
theorem q1726 : (Jvm.Cond.code ({ cls := "LendlatheModel", name := "firstByMinutes", desc := "(IIIC)I" } : Jvm.MethodName) prog_14_method_45_code (5 : Nat) (Option.some Jvm.ClassFile.FieldType.int)) ∈ lw_all := lw_g (lw_at lw_m7 231 rfl) rfl
theorem q1727 : (Jvm.Cond.methodLink "LendlatheModel" (195 : Nat) ({ cls := "LendlatheModel", name := "firstStart", desc := "(IIIC)I" } : Jvm.MethodName)) ∈ lw_all := lw_g (lw_at lw_m7 232 rfl) rfl
theorem q1729 : (Jvm.Cond.instanceMethod ({ cls := "LendlatheModel", name := "waiting", desc := "(II)I" } : Jvm.MethodName)) ∈ lw_all := lw_g (lw_at lw_m7 234 rfl) rfl
theorem q1730 : (Jvm.Cond.selects "LendlatheModel" ({ cls := "LendlatheModel", name := "waiting", desc := "(II)I" } : Jvm.MethodName) ({ cls := "LendlatheModel", name := "waiting", desc := "(II)I" } : Jvm.MethodName)) ∈ lw_all := lw_g (lw_at lw_m7 235 rfl) rfl
theorem q1731 : (Jvm.Cond.code ({ cls := "LendlatheModel", name := "waiting", desc := "(II)I" } : Jvm.MethodName) prog_14_method_46_code (5 : Nat) (Option.some Jvm.ClassFile.FieldType.int)) ∈ lw_all := lw_g (lw_at lw_m7 236 rfl) rfl
theorem q1733 : (Jvm.Cond.instanceMethod ({ cls := "LendlatheModel", name := "deliver", desc := "(II)I" } : Jvm.MethodName)) ∈ lw_all := lw_g (lw_at lw_m7 238 rfl) rfl
theorem q1734 : (Jvm.Cond.selects "LendlatheModel" ({ cls := "LendlatheModel", name := "deliver", desc := "(II)I" } : Jvm.MethodName) ({ cls := "LendlatheModel", name := "deliver", desc := "(II)I" } : Jvm.MethodName)) ∈ lw_all := lw_g (lw_at lw_m7 239 rfl) rfl
theorem q1735 : (Jvm.Cond.code ({ cls := "LendlatheModel", name := "deliver", desc := "(II)I" } : Jvm.MethodName) prog_14_method_47_code (3 : Nat) (Option.some Jvm.ClassFile.FieldType.int)) ∈ lw_all := lw_g (lw_at lw_m8 0 rfl) rfl
theorem q1737 : (Jvm.Cond.instanceMethod ({ cls := "LendlatheModel", name := "cut", desc := "(III)I" } : Jvm.MethodName)) ∈ lw_all := lw_g (lw_at lw_m8 2 rfl) rfl
theorem q1738 : (Jvm.Cond.selects "LendlatheModel" ({ cls := "LendlatheModel", name := "cut", desc := "(III)I" } : Jvm.MethodName) ({ cls := "LendlatheModel", name := "cut", desc := "(III)I" } : Jvm.MethodName)) ∈ lw_all := lw_g (lw_at lw_m8 3 rfl) rfl
theorem q1739 : (Jvm.Cond.code ({ cls := "LendlatheModel", name := "cut", desc := "(III)I" } : Jvm.MethodName) prog_14_method_49_code (7 : Nat) (Option.some Jvm.ClassFile.FieldType.int)) ∈ lw_all := lw_g (lw_at lw_m8 4 rfl) rfl
theorem q1740 : (Jvm.Cond.methodLink "LendlatheModel" (202 : Nat) ({ cls := "LendlatheModel", name := "free", desc := "(I)I" } : Jvm.MethodName)) ∈ lw_all := lw_g (lw_at lw_m8 5 rfl) rfl
theorem q1741 : (Jvm.Cond.privateMethod ({ cls := "LendlatheModel", name := "free", desc := "(I)I" } : Jvm.MethodName)) ∈ lw_tbl := lw_at lw_m8 6 rfl
theorem q1742 : (Jvm.Cond.instanceMethod ({ cls := "LendlatheModel", name := "free", desc := "(I)I" } : Jvm.MethodName)) ∈ lw_all := lw_g (lw_at lw_m8 7 rfl) rfl
theorem q1743 : (Jvm.Cond.code ({ cls := "LendlatheModel", name := "free", desc := "(I)I" } : Jvm.MethodName) prog_14_method_48_code (5 : Nat) (Option.some Jvm.ClassFile.FieldType.int)) ∈ lw_all := lw_g (lw_at lw_m8 8 rfl) rfl
theorem q1745 : (Jvm.Cond.instanceMethod ({ cls := "LendlatheModel", name := "freeOf", desc := "(I)I" } : Jvm.MethodName)) ∈ lw_all := lw_g (lw_at lw_m8 10 rfl) rfl
theorem q1746 : (Jvm.Cond.selects "LendlatheModel" ({ cls := "LendlatheModel", name := "freeOf", desc := "(I)I" } : Jvm.MethodName) ({ cls := "LendlatheModel", name := "freeOf", desc := "(I)I" } : Jvm.MethodName)) ∈ lw_all := lw_g (lw_at lw_m8 11 rfl) rfl
theorem q1747 : (Jvm.Cond.code ({ cls := "LendlatheModel", name := "freeOf", desc := "(I)I" } : Jvm.MethodName) prog_14_method_50_code (2 : Nat) (Option.some Jvm.ClassFile.FieldType.int)) ∈ lw_all := lw_g (lw_at lw_m8 12 rfl) rfl
theorem q1749 : (Jvm.Cond.instanceMethod ({ cls := "LendlatheModel", name := "freeByCuts", desc := "(I)I" } : Jvm.MethodName)) ∈ lw_all := lw_g (lw_at lw_m8 14 rfl) rfl
theorem q1750 : (Jvm.Cond.selects "LendlatheModel" ({ cls := "LendlatheModel", name := "freeByCuts", desc := "(I)I" } : Jvm.MethodName) ({ cls := "LendlatheModel", name := "freeByCuts", desc := "(I)I" } : Jvm.MethodName)) ∈ lw_all := lw_g (lw_at lw_m8 15 rfl) rfl
theorem q1751 : (Jvm.Cond.code ({ cls := "LendlatheModel", name := "freeByCuts", desc := "(I)I" } : Jvm.MethodName) prog_14_method_51_code (2 : Nat) (Option.some Jvm.ClassFile.FieldType.int)) ∈ lw_all := lw_g (lw_at lw_m8 16 rfl) rfl
theorem q1752 : (Jvm.Cond.methodLink "LendlatheModel" (205 : Nat) ({ cls := "LendlatheModel", name := "freeOf", desc := "(I)I" } : Jvm.MethodName)) ∈ lw_all := lw_g (lw_at lw_m8 17 rfl) rfl
theorem q1754 : (Jvm.Cond.instanceMethod ({ cls := "LendlatheModel", name := "setPrice", desc := "(II)I" } : Jvm.MethodName)) ∈ lw_all := lw_g (lw_at lw_m8 19 rfl) rfl
theorem q1755 : (Jvm.Cond.selects "LendlatheModel" ({ cls := "LendlatheModel", name := "setPrice", desc := "(II)I" } : Jvm.MethodName) ({ cls := "LendlatheModel", name := "setPrice", desc := "(II)I" } : Jvm.MethodName)) ∈ lw_all := lw_g (lw_at lw_m8 20 rfl) rfl
theorem q1756 : (Jvm.Cond.code ({ cls := "LendlatheModel", name := "setPrice", desc := "(II)I" } : Jvm.MethodName) prog_14_method_52_code (4 : Nat) (Option.some Jvm.ClassFile.FieldType.int)) ∈ lw_all := lw_g (lw_at lw_m8 21 rfl) rfl
theorem q1758 : (Jvm.Cond.instanceMethod ({ cls := "LendlatheModel", name := "setRate", desc := "(II)I" } : Jvm.MethodName)) ∈ lw_all := lw_g (lw_at lw_m8 23 rfl) rfl
theorem q1759 : (Jvm.Cond.selects "LendlatheModel" ({ cls := "LendlatheModel", name := "setRate", desc := "(II)I" } : Jvm.MethodName) ({ cls := "LendlatheModel", name := "setRate", desc := "(II)I" } : Jvm.MethodName)) ∈ lw_all := lw_g (lw_at lw_m8 24 rfl) rfl
theorem q1760 : (Jvm.Cond.code ({ cls := "LendlatheModel", name := "setRate", desc := "(II)I" } : Jvm.MethodName) prog_14_method_54_code (4 : Nat) (Option.some Jvm.ClassFile.FieldType.int)) ∈ lw_all := lw_g (lw_at lw_m8 25 rfl) rfl
theorem q1762 : (Jvm.Cond.instanceMethod ({ cls := "LendlatheModel", name := "addFee", desc := "(II)I" } : Jvm.MethodName)) ∈ lw_all := lw_g (lw_at lw_m8 27 rfl) rfl
theorem q1763 : (Jvm.Cond.selects "LendlatheModel" ({ cls := "LendlatheModel", name := "addFee", desc := "(II)I" } : Jvm.MethodName) ({ cls := "LendlatheModel", name := "addFee", desc := "(II)I" } : Jvm.MethodName)) ∈ lw_all := lw_g (lw_at lw_m8 28 rfl) rfl
theorem q1764 : (Jvm.Cond.code ({ cls := "LendlatheModel", name := "addFee", desc := "(II)I" } : Jvm.MethodName) prog_14_method_56_code (3 : Nat) (Option.some Jvm.ClassFile.FieldType.int)) ∈ lw_all := lw_g (lw_at lw_m8 29 rfl) rfl
theorem q1765 : (Jvm.Cond.methodLink "LendlatheModel" (216 : Nat) ({ cls := "LendlatheModel", name := "lays", desc := "(ICII)I" } : Jvm.MethodName)) ∈ lw_all := lw_g (lw_at lw_m8 30 rfl) rfl
theorem q1766 : (Jvm.Cond.privateMethod ({ cls := "LendlatheModel", name := "lays", desc := "(ICII)I" } : Jvm.MethodName)) ∈ lw_tbl := lw_at lw_m8 31 rfl
theorem q1767 : (Jvm.Cond.instanceMethod ({ cls := "LendlatheModel", name := "lays", desc := "(ICII)I" } : Jvm.MethodName)) ∈ lw_all := lw_g (lw_at lw_m8 32 rfl) rfl
theorem q1768 : (Jvm.Cond.code ({ cls := "LendlatheModel", name := "lays", desc := "(ICII)I" } : Jvm.MethodName) prog_14_method_55_code (5 : Nat) (Option.some Jvm.ClassFile.FieldType.int)) ∈ lw_all := lw_g (lw_at lw_m8 33 rfl) rfl
theorem q1770 : (Jvm.Cond.instanceMethod ({ cls := "LendlatheModel", name := "addCap", desc := "(II)I" } : Jvm.MethodName)) ∈ lw_all := lw_g (lw_at lw_m8 35 rfl) rfl
theorem q1771 : (Jvm.Cond.selects "LendlatheModel" ({ cls := "LendlatheModel", name := "addCap", desc := "(II)I" } : Jvm.MethodName) ({ cls := "LendlatheModel", name := "addCap", desc := "(II)I" } : Jvm.MethodName)) ∈ lw_all := lw_g (lw_at lw_m8 36 rfl) rfl
theorem q1772 : (Jvm.Cond.code ({ cls := "LendlatheModel", name := "addCap", desc := "(II)I" } : Jvm.MethodName) prog_14_method_57_code (3 : Nat) (Option.some Jvm.ClassFile.FieldType.int)) ∈ lw_all := lw_g (lw_at lw_m8 37 rfl) rfl
theorem q1774 : (Jvm.Cond.instanceMethod ({ cls := "LendlatheModel", name := "addDouble", desc := "(II)I" } : Jvm.MethodName)) ∈ lw_all := lw_g (lw_at lw_m8 39 rfl) rfl
theorem q1775 : (Jvm.Cond.selects "LendlatheModel" ({ cls := "LendlatheModel", name := "addDouble", desc := "(II)I" } : Jvm.MethodName) ({ cls := "LendlatheModel", name := "addDouble", desc := "(II)I" } : Jvm.MethodName)) ∈ lw_all := lw_g (lw_at lw_m8 40 rfl) rfl
theorem q1776 : (Jvm.Cond.code ({ cls := "LendlatheModel", name := "addDouble", desc := "(II)I" } : Jvm.MethodName) prog_14_method_58_code (3 : Nat) (Option.some Jvm.ClassFile.FieldType.int)) ∈ lw_all := lw_g (lw_at lw_m8 41 rfl) rfl
theorem q1778 : (Jvm.Cond.instanceMethod ({ cls := "LendlatheModel", name := "addDiscount", desc := "(II)I" } : Jvm.MethodName)) ∈ lw_all := lw_g (lw_at lw_m8 43 rfl) rfl
theorem q1779 : (Jvm.Cond.selects "LendlatheModel" ({ cls := "LendlatheModel", name := "addDiscount", desc := "(II)I" } : Jvm.MethodName) ({ cls := "LendlatheModel", name := "addDiscount", desc := "(II)I" } : Jvm.MethodName)) ∈ lw_all := lw_g (lw_at lw_m8 44 rfl) rfl
theorem q1780 : (Jvm.Cond.code ({ cls := "LendlatheModel", name := "addDiscount", desc := "(II)I" } : Jvm.MethodName) prog_14_method_59_code (3 : Nat) (Option.some Jvm.ClassFile.FieldType.int)) ∈ lw_all := lw_g (lw_at lw_m8 45 rfl) rfl
theorem q1782 : (Jvm.Cond.instanceMethod ({ cls := "LendlatheModel", name := "costOf", desc := "(II)I" } : Jvm.MethodName)) ∈ lw_all := lw_g (lw_at lw_m8 47 rfl) rfl
theorem q1783 : (Jvm.Cond.selects "LendlatheModel" ({ cls := "LendlatheModel", name := "costOf", desc := "(II)I" } : Jvm.MethodName) ({ cls := "LendlatheModel", name := "costOf", desc := "(II)I" } : Jvm.MethodName)) ∈ lw_all := lw_g (lw_at lw_m8 48 rfl) rfl
theorem q1784 : (Jvm.Cond.code ({ cls := "LendlatheModel", name := "costOf", desc := "(II)I" } : Jvm.MethodName) prog_14_method_60_code (3 : Nat) (Option.some Jvm.ClassFile.FieldType.int)) ∈ lw_all := lw_g (lw_at lw_m8 49 rfl) rfl
theorem q1786 : (Jvm.Cond.instanceMethod ({ cls := "LendlatheModel", name := "breakDown", desc := "(II)I" } : Jvm.MethodName)) ∈ lw_all := lw_g (lw_at lw_m8 51 rfl) rfl
theorem q1787 : (Jvm.Cond.selects "LendlatheModel" ({ cls := "LendlatheModel", name := "breakDown", desc := "(II)I" } : Jvm.MethodName) ({ cls := "LendlatheModel", name := "breakDown", desc := "(II)I" } : Jvm.MethodName)) ∈ lw_all := lw_g (lw_at lw_m8 52 rfl) rfl
theorem q1788 : (Jvm.Cond.code ({ cls := "LendlatheModel", name := "breakDown", desc := "(II)I" } : Jvm.MethodName) prog_14_method_61_code (10 : Nat) (Option.some Jvm.ClassFile.FieldType.int)) ∈ lw_all := lw_g (lw_at lw_m8 53 rfl) rfl
theorem q1789 : (Jvm.Cond.constant "LendlatheModel" (220 : Nat) (100000 : Int32)) ∈ lw_all := lw_g (lw_at lw_m8 54 rfl) rfl
theorem q1790 : (Jvm.Cond.constantLong "LendlatheModel" (224 : Nat) (-1 : Int64)) ∈ lw_all := lw_g (lw_at lw_m8 55 rfl) rfl
theorem q1792 : (Jvm.Cond.instanceMethod ({ cls := "LendlatheModel", name := "shareOf", desc := "(II)I" } : Jvm.MethodName)) ∈ lw_all := lw_g (lw_at lw_m8 57 rfl) rfl
theorem q1793 : (Jvm.Cond.selects "LendlatheModel" ({ cls := "LendlatheModel", name := "shareOf", desc := "(II)I" } : Jvm.MethodName) ({ cls := "LendlatheModel", name := "shareOf", desc := "(II)I" } : Jvm.MethodName)) ∈ lw_all := lw_g (lw_at lw_m8 58 rfl) rfl
theorem q1794 : (Jvm.Cond.code ({ cls := "LendlatheModel", name := "shareOf", desc := "(II)I" } : Jvm.MethodName) prog_14_method_62_code (3 : Nat) (Option.some Jvm.ClassFile.FieldType.int)) ∈ lw_all := lw_g (lw_at lw_m8 59 rfl) rfl
theorem q1796 : (Jvm.Cond.instanceMethod ({ cls := "LendlatheModel", name := "pay", desc := "(II)I" } : Jvm.MethodName)) ∈ lw_all := lw_g (lw_at lw_m8 61 rfl) rfl
theorem q1797 : (Jvm.Cond.selects "LendlatheModel" ({ cls := "LendlatheModel", name := "pay", desc := "(II)I" } : Jvm.MethodName) ({ cls := "LendlatheModel", name := "pay", desc := "(II)I" } : Jvm.MethodName)) ∈ lw_all := lw_g (lw_at lw_m8 62 rfl) rfl
theorem q1798 : (Jvm.Cond.code ({ cls := "LendlatheModel", name := "pay", desc := "(II)I" } : Jvm.MethodName) prog_14_method_64_code (3 : Nat) (Option.some Jvm.ClassFile.FieldType.int)) ∈ lw_all := lw_g (lw_at lw_m8 63 rfl) rfl
theorem q1799 : (Jvm.Cond.constant "LendlatheModel" (226 : Nat) (1000000 : Int32)) ∈ lw_all := lw_g (lw_at lw_m8 64 rfl) rfl
theorem q1800 : (Jvm.Cond.constantLong "LendlatheModel" (227 : Nat) (1000000000 : Int64)) ∈ lw_all := lw_g (lw_at lw_m8 65 rfl) rfl
theorem q1801 : (Jvm.Cond.methodLink "LendlatheModel" (229 : Nat) ({ cls := "LendlatheModel", name := "owed", desc := "(I)J" } : Jvm.MethodName)) ∈ lw_all := lw_g (lw_at lw_m8 66 rfl) rfl
theorem q1802 : (Jvm.Cond.privateMethod ({ cls := "LendlatheModel", name := "owed", desc := "(I)J" } : Jvm.MethodName)) ∈ lw_tbl := lw_at lw_m8 67 rfl
theorem q1803 : (Jvm.Cond.instanceMethod ({ cls := "LendlatheModel", name := "owed", desc := "(I)J" } : Jvm.MethodName)) ∈ lw_all := lw_g (lw_at lw_m8 68 rfl) rfl
theorem q1804 : (Jvm.Cond.code ({ cls := "LendlatheModel", name := "owed", desc := "(I)J" } : Jvm.MethodName) prog_14_method_63_code (5 : Nat) (Option.some Jvm.ClassFile.FieldType.long)) ∈ lw_all := lw_g (lw_at lw_m8 69 rfl) rfl
theorem q1806 : (Jvm.Cond.instanceMethod ({ cls := "LendlatheModel", name := "owes", desc := "(I)I" } : Jvm.MethodName)) ∈ lw_all := lw_g (lw_at lw_m8 71 rfl) rfl
theorem q1807 : (Jvm.Cond.selects "LendlatheModel" ({ cls := "LendlatheModel", name := "owes", desc := "(I)I" } : Jvm.MethodName) ({ cls := "LendlatheModel", name := "owes", desc := "(I)I" } : Jvm.MethodName)) ∈ lw_all := lw_g (lw_at lw_m8 72 rfl) rfl
theorem q1808 : (Jvm.Cond.code ({ cls := "LendlatheModel", name := "owes", desc := "(I)I" } : Jvm.MethodName) prog_14_method_65_code (2 : Nat) (Option.some Jvm.ClassFile.FieldType.int)) ∈ lw_all := lw_g (lw_at lw_m8 73 rfl) rfl
theorem q1810 : (Jvm.Cond.instanceMethod ({ cls := "LendlatheModel", name := "owesByEntries", desc := "(I)I" } : Jvm.MethodName)) ∈ lw_all := lw_g (lw_at lw_m8 75 rfl) rfl
theorem q1811 : (Jvm.Cond.selects "LendlatheModel" ({ cls := "LendlatheModel", name := "owesByEntries", desc := "(I)I" } : Jvm.MethodName) ({ cls := "LendlatheModel", name := "owesByEntries", desc := "(I)I" } : Jvm.MethodName)) ∈ lw_all := lw_g (lw_at lw_m8 76 rfl) rfl
theorem q1812 : (Jvm.Cond.code ({ cls := "LendlatheModel", name := "owesByEntries", desc := "(I)I" } : Jvm.MethodName) prog_14_method_66_code (2 : Nat) (Option.some Jvm.ClassFile.FieldType.int)) ∈ lw_all := lw_g (lw_at lw_m8 77 rfl) rfl
theorem q1813 : (Jvm.Cond.methodLink "LendlatheModel" (233 : Nat) ({ cls := "LendlatheModel", name := "owes", desc := "(I)I" } : Jvm.MethodName)) ∈ lw_all := lw_g (lw_at lw_m8 78 rfl) rfl
theorem q1815 : (Jvm.Cond.instanceMethod ({ cls := "LendlatheModel", name := "dueOf", desc := "(I)I" } : Jvm.MethodName)) ∈ lw_all := lw_g (lw_at lw_m8 80 rfl) rfl
theorem q1816 : (Jvm.Cond.selects "LendlatheModel" ({ cls := "LendlatheModel", name := "dueOf", desc := "(I)I" } : Jvm.MethodName) ({ cls := "LendlatheModel", name := "dueOf", desc := "(I)I" } : Jvm.MethodName)) ∈ lw_all := lw_g (lw_at lw_m8 81 rfl) rfl
theorem q1817 : (Jvm.Cond.code ({ cls := "LendlatheModel", name := "dueOf", desc := "(I)I" } : Jvm.MethodName) prog_14_method_67_code (2 : Nat) (Option.some Jvm.ClassFile.FieldType.int)) ∈ lw_all := lw_g (lw_at lw_m8 82 rfl) rfl
theorem q1819 : (Jvm.Cond.instanceMethod ({ cls := "LendlatheModel", name := "takings", desc := "()J" } : Jvm.MethodName)) ∈ lw_all := lw_g (lw_at lw_m8 84 rfl) rfl
theorem q1820 : (Jvm.Cond.selects "LendlatheModel" ({ cls := "LendlatheModel", name := "takings", desc := "()J" } : Jvm.MethodName) ({ cls := "LendlatheModel", name := "takings", desc := "()J" } : Jvm.MethodName)) ∈ lw_all := lw_g (lw_at lw_m8 85 rfl) rfl
theorem q1821 : (Jvm.Cond.code ({ cls := "LendlatheModel", name := "takings", desc := "()J" } : Jvm.MethodName) prog_14_method_68_code (4 : Nat) (Option.some Jvm.ClassFile.FieldType.long)) ∈ lw_all := lw_g (lw_at lw_m8 86 rfl) rfl
theorem q1823 : (Jvm.Cond.instanceMethod ({ cls := "LendlatheModel", name := "use", desc := "(II)F" } : Jvm.MethodName)) ∈ lw_all := lw_g (lw_at lw_m8 88 rfl) rfl
theorem q1824 : (Jvm.Cond.selects "LendlatheModel" ({ cls := "LendlatheModel", name := "use", desc := "(II)F" } : Jvm.MethodName) ({ cls := "LendlatheModel", name := "use", desc := "(II)F" } : Jvm.MethodName)) ∈ lw_all := lw_g (lw_at lw_m8 89 rfl) rfl
theorem q1825 : (Jvm.Cond.code ({ cls := "LendlatheModel", name := "use", desc := "(II)F" } : Jvm.MethodName) prog_14_method_69_code (3 : Nat) (Option.some Jvm.ClassFile.FieldType.float)) ∈ lw_all := lw_g (lw_at lw_m8 90 rfl) rfl
theorem q1826 : (Jvm.Cond.constantFloat "LendlatheModel" (236 : Nat) (1139802112 : UInt32)) ∈ lw_all := lw_g (lw_at lw_m8 91 rfl) rfl
theorem q1828 : (Jvm.Cond.instanceMethod ({ cls := "LendlatheModel", name := "meanMinutes", desc := "()D" } : Jvm.MethodName)) ∈ lw_all := lw_g (lw_at lw_m8 93 rfl) rfl
theorem q1829 : (Jvm.Cond.selects "LendlatheModel" ({ cls := "LendlatheModel", name := "meanMinutes", desc := "()D" } : Jvm.MethodName) ({ cls := "LendlatheModel", name := "meanMinutes", desc := "()D" } : Jvm.MethodName)) ∈ lw_all := lw_g (lw_at lw_m8 94 rfl) rfl
theorem q1830 : (Jvm.Cond.code ({ cls := "LendlatheModel", name := "meanMinutes", desc := "()D" } : Jvm.MethodName) prog_14_method_70_code (4 : Nat) (Option.some Jvm.ClassFile.FieldType.double)) ∈ lw_all := lw_g (lw_at lw_m8 95 rfl) rfl
theorem q1832 : (Jvm.Cond.instanceMethod ({ cls := "LendlatheModel", name := "isSound", desc := "()Z" } : Jvm.MethodName)) ∈ lw_all := lw_g (lw_at lw_m8 97 rfl) rfl
theorem q1833 : (Jvm.Cond.selects "LendlatheModel" ({ cls := "LendlatheModel", name := "isSound", desc := "()Z" } : Jvm.MethodName) ({ cls := "LendlatheModel", name := "isSound", desc := "()Z" } : Jvm.MethodName)) ∈ lw_all := lw_g (lw_at lw_m8 98 rfl) rfl
theorem q1834 : (Jvm.Cond.code ({ cls := "LendlatheModel", name := "isSound", desc := "()Z" } : Jvm.MethodName) prog_14_method_71_code (1 : Nat) (Option.some Jvm.ClassFile.FieldType.boolean)) ∈ lw_all := lw_g (lw_at lw_m8 99 rfl) rfl
theorem q1860 : (Jvm.Cond.castable "LendlatheModel" "java/lang/Object") ∈ lw_tbl := lw_at lw_m8 125 rfl
theorem in_X4 : ∀ w ∈ wsX40, w ∈ lw_all := lw_in wsX40 [1484, 1486, 1488, 1490, 1492, 1494, 1496, 1498, 1500, 1502, 1504, 1506, 1508, 1510, 1512, 1514, 1516, 1518, 1520, 1522, 1524, 1526, 1528, 1530, 1532, 1534, 1536, 1538, 1540, 1542] (by decide +kernel) (by decide +kernel)

