/-! Lendlathe -/
set_option maxRecDepth 100000
def RX1 : String := "Lendlathe"
def TX1 : u_T := fun k => match k with
  | 0 => ("Lendlathe", "tariffs", "[LLendlathe$Tariff;", true)
  | 1 => ("Lendlathe", "layers", "[I", true)
  | 2 => ("Lendlathe", "machines", "Ljava/util/ArrayList;", true)
  | 3 => ("Lendlathe", "members", "Ljava/util/ArrayList;", true)
  | 4 => ("Lendlathe", "entries", "Ljava/util/ArrayList;", true)
  | 5 => ("Lendlathe", "bars", "Ljava/util/ArrayList;", true)
  | 6 => ("Lendlathe", "needs", "[[Z", true)
  | 7 => ("Lendlathe", "prices", "[I", true)
  | 8 => ("Lendlathe", "day", "I", false)
  | 9 => ("Lendlathe", "walk", "LLendlathe$Walk;", true)
  | 10 => ("Lendlathe", "checkers", "[LLendlathe$Check;", true)
  | 11 => ("Lendlathe", "shares", "[[I", true)
  | _ => ("Lendlathe", "breakages", "I", false)
def tyX1 : Nat → FieldType := fun k => match k with
  | 0 => .array (.object "Lendlathe$Tariff")
  | 1 => .array .int
  | 2 => .object "java/util/ArrayList"
  | 3 => .object "java/util/ArrayList"
  | 4 => .object "java/util/ArrayList"
  | 5 => .object "java/util/ArrayList"
  | 6 => .array (.array .boolean)
  | 7 => .array .int
  | 8 => .int
  | 9 => .object "Lendlathe$Walk"
  | 10 => .array (.object "Lendlathe$Check")
  | 11 => .array (.array .int)
  | _ => .int
abbrev wsX10 : List Cond := u_ws RX1 TX1 13
set_option maxRecDepth 100000 in
theorem nmX1 : ∀ a, a < 13 → ∀ b, b < 13 → a ≠ b → (TX1 a).2.1 ≠ (TX1 b).2.1 := by decide +kernel
set_option maxRecDepth 100000 in
theorem tyX1_ok : ∀ k, k < 13 → parseFieldDescriptor (TX1 k).2.2.1 = some (tyX1 k) := by decide +kernel
abbrev cX1_init : ByteArray := prog_1_method_1_code
def yX1_init : MethodName := ⟨RX1, "<init>", "()V"⟩
def dkwX1_init_7 : List UInt8 := [83, 181, 0, 65, 42, 16, 20, 16, 10, 197, 0, 69, 2, 181, 0, 71, 177]
abbrev dktX1_init_7 : List UInt8 := dkwX1_init_7 ++ []
def dkwX1_init_6 : List UInt8 := [42, 186, 0, 59, 0, 0, 83, 89, 4, 42, 186, 0, 63, 0, 0, 83, 89, 5, 42, 186, 0, 64, 0, 0]
abbrev dktX1_init_6 : List UInt8 := dkwX1_init_6 ++ dktX1_init_7
def dkwX1_init_5 : List UInt8 := [188, 10, 181, 0, 47, 42, 187, 0, 50, 89, 42, 183, 0, 52, 181, 0, 53, 42, 6, 189, 0, 57, 89, 3]
abbrev dktX1_init_5 : List UInt8 := dkwX1_init_5 ++ dktX1_init_6
def dkwX1_init_4 : List UInt8 := [187, 0, 24, 89, 16, 30, 183, 0, 26, 181, 0, 39, 42, 7, 7, 197, 0, 42, 2, 181, 0, 44, 42, 6]
abbrev dktX1_init_4 : List UInt8 := dkwX1_init_4 ++ dktX1_init_5
def dkwX1_init_3 : List UInt8 := [89, 16, 10, 183, 0, 26, 181, 0, 33, 42, 187, 0, 24, 89, 17, 0, 150, 183, 0, 26, 181, 0, 36, 42]
abbrev dktX1_init_3 : List UInt8 := dkwX1_init_3 ++ dktX1_init_4
def dkwX1_init_2 : List UInt8 := [79, 132, 2, 1, 167, 255, 234, 42, 187, 0, 24, 89, 16, 6, 183, 0, 26, 181, 0, 29, 42, 187, 0, 24]
abbrev dktX1_init_2 : List UInt8 := dkwX1_init_2 ++ dktX1_init_3
def dkwX1_init_1 : List UInt8 := [183, 0, 21, 76, 3, 61, 28, 7, 162, 0, 23, 42, 180, 0, 11, 28, 43, 83, 42, 180, 0, 15, 28, 4]
abbrev dktX1_init_1 : List UInt8 := dkwX1_init_1 ++ dktX1_init_2
def dkwX1_init_0 : List UInt8 := [42, 183, 0, 1, 42, 7, 189, 0, 9, 181, 0, 11, 42, 7, 188, 10, 181, 0, 15, 187, 0, 19, 89, 42]
abbrev dktX1_init_0 : List UInt8 := dkwX1_init_0 ++ dktX1_init_1
theorem dksX1_init_0 : cX1_init.data.toList.drop 0 = dktX1_init_0 := by decide +kernel
theorem dksX1_init_1 : cX1_init.data.toList.drop 24 = dktX1_init_1 := dk_seg dksX1_init_0 24 rfl rfl
theorem dksX1_init_2 : cX1_init.data.toList.drop 48 = dktX1_init_2 := dk_seg dksX1_init_1 24 rfl rfl
theorem dksX1_init_3 : cX1_init.data.toList.drop 72 = dktX1_init_3 := dk_seg dksX1_init_2 24 rfl rfl
theorem dksX1_init_4 : cX1_init.data.toList.drop 96 = dktX1_init_4 := dk_seg dksX1_init_3 24 rfl rfl
theorem dksX1_init_5 : cX1_init.data.toList.drop 120 = dktX1_init_5 := dk_seg dksX1_init_4 24 rfl rfl
theorem dksX1_init_6 : cX1_init.data.toList.drop 144 = dktX1_init_6 := dk_seg dksX1_init_5 24 rfl rfl
theorem dksX1_init_7 : cX1_init.data.toList.drop 168 = dktX1_init_7 := dk_seg dksX1_init_6 24 rfl rfl
theorem dX1_init_0 : decode cX1_init 0 = .ok (.aload_n 0, 1) := dk_42 (dk_at dksX1_init_0 0 rfl rfl)
theorem dX1_init_1 : decode cX1_init 1 = .ok (.invokespecial 1, 3) := dk_183 0 1 (dk_at dksX1_init_0 1 rfl rfl)
theorem dX1_init_4 : decode cX1_init 4 = .ok (.aload_n 0, 1) := dk_42 (dk_at dksX1_init_0 4 rfl rfl)
theorem dX1_init_5 : decode cX1_init 5 = .ok (.iconst 4, 1) := dk_7 (dk_at dksX1_init_0 5 rfl rfl)
theorem dX1_init_6 : decode cX1_init 6 = .ok (.anewarray 9, 3) := dk_189 0 9 (dk_at dksX1_init_0 6 rfl rfl)
theorem dX1_init_9 : decode cX1_init 9 = .ok (.putfield 11, 3) := dk_181 0 11 (dk_at dksX1_init_0 9 rfl rfl)
theorem dX1_init_12 : decode cX1_init 12 = .ok (.aload_n 0, 1) := dk_42 (dk_at dksX1_init_0 12 rfl rfl)
theorem dX1_init_13 : decode cX1_init 13 = .ok (.iconst 4, 1) := dk_7 (dk_at dksX1_init_0 13 rfl rfl)
theorem dX1_init_14 : decode cX1_init 14 = .ok (.newarray .int, 2) := dk_188_10 (dk_at dksX1_init_0 14 rfl rfl)
theorem dX1_init_16 : decode cX1_init 16 = .ok (.putfield 15, 3) := dk_181 0 15 (dk_at dksX1_init_0 16 rfl rfl)
theorem dX1_init_19 : decode cX1_init 19 = .ok (.new 19, 3) := dk_187 0 19 (dk_at dksX1_init_0 19 rfl rfl)
theorem dX1_init_22 : decode cX1_init 22 = .ok (.dup, 1) := dk_89 (dk_at dksX1_init_0 22 rfl rfl)
theorem dX1_init_23 : decode cX1_init 23 = .ok (.aload_n 0, 1) := dk_42 (dk_at dksX1_init_0 23 rfl rfl)
theorem dX1_init_24 : decode cX1_init 24 = .ok (.invokespecial 21, 3) := dk_183 0 21 (dk_at dksX1_init_1 0 rfl rfl)
theorem dX1_init_27 : decode cX1_init 27 = .ok (.astore_n 1, 1) := dk_76 (dk_at dksX1_init_1 3 rfl rfl)
theorem dX1_init_28 : decode cX1_init 28 = .ok (.iconst 0, 1) := dk_3 (dk_at dksX1_init_1 4 rfl rfl)
theorem dX1_init_29 : decode cX1_init 29 = .ok (.istore_n 2, 1) := dk_61 (dk_at dksX1_init_1 5 rfl rfl)
theorem dX1_init_30 : decode cX1_init 30 = .ok (.iload_n 2, 1) := dk_28 (dk_at dksX1_init_1 6 rfl rfl)
theorem dX1_init_31 : decode cX1_init 31 = .ok (.iconst 4, 1) := dk_7 (dk_at dksX1_init_1 7 rfl rfl)
theorem dX1_init_32 : decode cX1_init 32 = .ok (.if_icmp .ge 23, 3) := dk_162 0 23 (dk_at dksX1_init_1 8 rfl rfl)
theorem dX1_init_35 : decode cX1_init 35 = .ok (.aload_n 0, 1) := dk_42 (dk_at dksX1_init_1 11 rfl rfl)
theorem dX1_init_36 : decode cX1_init 36 = .ok (.getfield 11, 3) := dk_180 0 11 (dk_at dksX1_init_1 12 rfl rfl)
theorem dX1_init_39 : decode cX1_init 39 = .ok (.iload_n 2, 1) := dk_28 (dk_at dksX1_init_1 15 rfl rfl)
theorem dX1_init_40 : decode cX1_init 40 = .ok (.aload_n 1, 1) := dk_43 (dk_at dksX1_init_1 16 rfl rfl)
theorem dX1_init_41 : decode cX1_init 41 = .ok (.aastore, 1) := dk_83 (dk_at dksX1_init_1 17 rfl rfl)
theorem dX1_init_42 : decode cX1_init 42 = .ok (.aload_n 0, 1) := dk_42 (dk_at dksX1_init_1 18 rfl rfl)
theorem dX1_init_43 : decode cX1_init 43 = .ok (.getfield 15, 3) := dk_180 0 15 (dk_at dksX1_init_1 19 rfl rfl)
theorem dX1_init_46 : decode cX1_init 46 = .ok (.iload_n 2, 1) := dk_28 (dk_at dksX1_init_1 22 rfl rfl)
theorem dX1_init_47 : decode cX1_init 47 = .ok (.iconst 1, 1) := dk_4 (dk_at dksX1_init_1 23 rfl rfl)
theorem dX1_init_48 : decode cX1_init 48 = .ok (.iastore, 1) := dk_79 (dk_at dksX1_init_2 0 rfl rfl)
theorem dX1_init_49 : decode cX1_init 49 = .ok (.iinc 2 1, 3) := dk_132 2 1 (dk_at dksX1_init_2 1 rfl rfl)
theorem dX1_init_52 : decode cX1_init 52 = .ok (.goto (-22), 3) := dk_167 255 234 (dk_at dksX1_init_2 4 rfl rfl)
theorem dX1_init_55 : decode cX1_init 55 = .ok (.aload_n 0, 1) := dk_42 (dk_at dksX1_init_2 7 rfl rfl)
theorem dX1_init_56 : decode cX1_init 56 = .ok (.new 24, 3) := dk_187 0 24 (dk_at dksX1_init_2 8 rfl rfl)
theorem dX1_init_59 : decode cX1_init 59 = .ok (.dup, 1) := dk_89 (dk_at dksX1_init_2 11 rfl rfl)
theorem dX1_init_60 : decode cX1_init 60 = .ok (.bipush 6, 2) := dk_16 6 (dk_at dksX1_init_2 12 rfl rfl)
theorem dX1_init_62 : decode cX1_init 62 = .ok (.invokespecial 26, 3) := dk_183 0 26 (dk_at dksX1_init_2 14 rfl rfl)
theorem dX1_init_65 : decode cX1_init 65 = .ok (.putfield 29, 3) := dk_181 0 29 (dk_at dksX1_init_2 17 rfl rfl)
theorem dX1_init_68 : decode cX1_init 68 = .ok (.aload_n 0, 1) := dk_42 (dk_at dksX1_init_2 20 rfl rfl)
theorem dX1_init_69 : decode cX1_init 69 = .ok (.new 24, 3) := dk_187 0 24 (dk_at dksX1_init_2 21 rfl rfl)
theorem dX1_init_72 : decode cX1_init 72 = .ok (.dup, 1) := dk_89 (dk_at dksX1_init_3 0 rfl rfl)
theorem dX1_init_73 : decode cX1_init 73 = .ok (.bipush 10, 2) := dk_16 10 (dk_at dksX1_init_3 1 rfl rfl)
theorem dX1_init_75 : decode cX1_init 75 = .ok (.invokespecial 26, 3) := dk_183 0 26 (dk_at dksX1_init_3 3 rfl rfl)
theorem dX1_init_78 : decode cX1_init 78 = .ok (.putfield 33, 3) := dk_181 0 33 (dk_at dksX1_init_3 6 rfl rfl)
theorem dX1_init_81 : decode cX1_init 81 = .ok (.aload_n 0, 1) := dk_42 (dk_at dksX1_init_3 9 rfl rfl)
theorem dX1_init_82 : decode cX1_init 82 = .ok (.new 24, 3) := dk_187 0 24 (dk_at dksX1_init_3 10 rfl rfl)
theorem dX1_init_85 : decode cX1_init 85 = .ok (.dup, 1) := dk_89 (dk_at dksX1_init_3 13 rfl rfl)
theorem dX1_init_86 : decode cX1_init 86 = .ok (.sipush 150, 3) := dk_17 0 150 (dk_at dksX1_init_3 14 rfl rfl)
theorem dX1_init_89 : decode cX1_init 89 = .ok (.invokespecial 26, 3) := dk_183 0 26 (dk_at dksX1_init_3 17 rfl rfl)
theorem dX1_init_92 : decode cX1_init 92 = .ok (.putfield 36, 3) := dk_181 0 36 (dk_at dksX1_init_3 20 rfl rfl)
theorem dX1_init_95 : decode cX1_init 95 = .ok (.aload_n 0, 1) := dk_42 (dk_at dksX1_init_3 23 rfl rfl)
theorem dX1_init_96 : decode cX1_init 96 = .ok (.new 24, 3) := dk_187 0 24 (dk_at dksX1_init_4 0 rfl rfl)
theorem dX1_init_99 : decode cX1_init 99 = .ok (.dup, 1) := dk_89 (dk_at dksX1_init_4 3 rfl rfl)
theorem dX1_init_100 : decode cX1_init 100 = .ok (.bipush 30, 2) := dk_16 30 (dk_at dksX1_init_4 4 rfl rfl)
theorem dX1_init_102 : decode cX1_init 102 = .ok (.invokespecial 26, 3) := dk_183 0 26 (dk_at dksX1_init_4 6 rfl rfl)
theorem dX1_init_105 : decode cX1_init 105 = .ok (.putfield 39, 3) := dk_181 0 39 (dk_at dksX1_init_4 9 rfl rfl)
theorem dX1_init_108 : decode cX1_init 108 = .ok (.aload_n 0, 1) := dk_42 (dk_at dksX1_init_4 12 rfl rfl)
theorem dX1_init_109 : decode cX1_init 109 = .ok (.iconst 4, 1) := dk_7 (dk_at dksX1_init_4 13 rfl rfl)
theorem dX1_init_110 : decode cX1_init 110 = .ok (.iconst 4, 1) := dk_7 (dk_at dksX1_init_4 14 rfl rfl)
theorem dX1_init_111 : decode cX1_init 111 = .ok (.multianewarray 42 2, 4) := by decide +kernel
theorem dX1_init_115 : decode cX1_init 115 = .ok (.putfield 44, 3) := dk_181 0 44 (dk_at dksX1_init_4 19 rfl rfl)
theorem dX1_init_118 : decode cX1_init 118 = .ok (.aload_n 0, 1) := dk_42 (dk_at dksX1_init_4 22 rfl rfl)
theorem dX1_init_119 : decode cX1_init 119 = .ok (.iconst 3, 1) := dk_6 (dk_at dksX1_init_4 23 rfl rfl)
theorem dX1_init_120 : decode cX1_init 120 = .ok (.newarray .int, 2) := dk_188_10 (dk_at dksX1_init_5 0 rfl rfl)
theorem dX1_init_122 : decode cX1_init 122 = .ok (.putfield 47, 3) := dk_181 0 47 (dk_at dksX1_init_5 2 rfl rfl)
theorem dX1_init_125 : decode cX1_init 125 = .ok (.aload_n 0, 1) := dk_42 (dk_at dksX1_init_5 5 rfl rfl)
theorem dX1_init_126 : decode cX1_init 126 = .ok (.new 50, 3) := dk_187 0 50 (dk_at dksX1_init_5 6 rfl rfl)
theorem dX1_init_129 : decode cX1_init 129 = .ok (.dup, 1) := dk_89 (dk_at dksX1_init_5 9 rfl rfl)
theorem dX1_init_130 : decode cX1_init 130 = .ok (.aload_n 0, 1) := dk_42 (dk_at dksX1_init_5 10 rfl rfl)
theorem dX1_init_131 : decode cX1_init 131 = .ok (.invokespecial 52, 3) := dk_183 0 52 (dk_at dksX1_init_5 11 rfl rfl)
theorem dX1_init_134 : decode cX1_init 134 = .ok (.putfield 53, 3) := dk_181 0 53 (dk_at dksX1_init_5 14 rfl rfl)
theorem dX1_init_137 : decode cX1_init 137 = .ok (.aload_n 0, 1) := dk_42 (dk_at dksX1_init_5 17 rfl rfl)
theorem dX1_init_138 : decode cX1_init 138 = .ok (.iconst 3, 1) := dk_6 (dk_at dksX1_init_5 18 rfl rfl)
theorem dX1_init_139 : decode cX1_init 139 = .ok (.anewarray 57, 3) := dk_189 0 57 (dk_at dksX1_init_5 19 rfl rfl)
theorem dX1_init_142 : decode cX1_init 142 = .ok (.dup, 1) := dk_89 (dk_at dksX1_init_5 22 rfl rfl)
theorem dX1_init_143 : decode cX1_init 143 = .ok (.iconst 0, 1) := dk_3 (dk_at dksX1_init_5 23 rfl rfl)
theorem dX1_init_144 : decode cX1_init 144 = .ok (.aload_n 0, 1) := dk_42 (dk_at dksX1_init_6 0 rfl rfl)
theorem dX1_init_145 : decode cX1_init 145 = .ok (.invokedynamic 59, 5) := by decide +kernel
theorem dX1_init_150 : decode cX1_init 150 = .ok (.aastore, 1) := dk_83 (dk_at dksX1_init_6 6 rfl rfl)
theorem dX1_init_151 : decode cX1_init 151 = .ok (.dup, 1) := dk_89 (dk_at dksX1_init_6 7 rfl rfl)
theorem dX1_init_152 : decode cX1_init 152 = .ok (.iconst 1, 1) := dk_4 (dk_at dksX1_init_6 8 rfl rfl)
theorem dX1_init_153 : decode cX1_init 153 = .ok (.aload_n 0, 1) := dk_42 (dk_at dksX1_init_6 9 rfl rfl)
theorem dX1_init_154 : decode cX1_init 154 = .ok (.invokedynamic 63, 5) := by decide +kernel
theorem dX1_init_159 : decode cX1_init 159 = .ok (.aastore, 1) := dk_83 (dk_at dksX1_init_6 15 rfl rfl)
theorem dX1_init_160 : decode cX1_init 160 = .ok (.dup, 1) := dk_89 (dk_at dksX1_init_6 16 rfl rfl)
theorem dX1_init_161 : decode cX1_init 161 = .ok (.iconst 2, 1) := dk_5 (dk_at dksX1_init_6 17 rfl rfl)
theorem dX1_init_162 : decode cX1_init 162 = .ok (.aload_n 0, 1) := dk_42 (dk_at dksX1_init_6 18 rfl rfl)
theorem dX1_init_163 : decode cX1_init 163 = .ok (.invokedynamic 64, 5) := by decide +kernel
theorem dX1_init_168 : decode cX1_init 168 = .ok (.aastore, 1) := dk_83 (dk_at dksX1_init_7 0 rfl rfl)
theorem dX1_init_169 : decode cX1_init 169 = .ok (.putfield 65, 3) := dk_181 0 65 (dk_at dksX1_init_7 1 rfl rfl)
theorem dX1_init_172 : decode cX1_init 172 = .ok (.aload_n 0, 1) := dk_42 (dk_at dksX1_init_7 4 rfl rfl)
theorem dX1_init_173 : decode cX1_init 173 = .ok (.bipush 20, 2) := dk_16 20 (dk_at dksX1_init_7 5 rfl rfl)
theorem dX1_init_175 : decode cX1_init 175 = .ok (.bipush 10, 2) := dk_16 10 (dk_at dksX1_init_7 7 rfl rfl)
theorem dX1_init_177 : decode cX1_init 177 = .ok (.multianewarray 69 2, 4) := by decide +kernel
theorem dX1_init_181 : decode cX1_init 181 = .ok (.putfield 71, 3) := dk_181 0 71 (dk_at dksX1_init_7 13 rfl rfl)
theorem dX1_init_184 : decode cX1_init 184 = .ok (.return_, 1) := dk_177 (dk_at dksX1_init_7 16 rfl rfl)
abbrev cX1_lacksInduction : ByteArray := prog_1_method_17_code
def yX1_lacksInduction : MethodName := ⟨RX1, "lacksInduction", "(IIIIIC)Z"⟩
def dkwX1_lacksInduction_1 : List UInt8 := [180, 0, 134, 29, 182, 0, 137, 154, 0, 7, 4, 167, 0, 4, 3, 172]
abbrev dktX1_lacksInduction_1 : List UInt8 := dkwX1_lacksInduction_1 ++ []
def dkwX1_lacksInduction_0 : List UInt8 := [42, 180, 0, 33, 27, 182, 0, 122, 192, 0, 132, 42, 180, 0, 29, 28, 182, 0, 122, 192, 0, 126]
abbrev dktX1_lacksInduction_0 : List UInt8 := dkwX1_lacksInduction_0 ++ dktX1_lacksInduction_1
theorem dksX1_lacksInduction_0 : cX1_lacksInduction.data.toList.drop 0 = dktX1_lacksInduction_0 := by decide +kernel
theorem dksX1_lacksInduction_1 : cX1_lacksInduction.data.toList.drop 22 = dktX1_lacksInduction_1 := dk_seg dksX1_lacksInduction_0 22 rfl rfl
theorem dX1_lacksInduction_0 : decode cX1_lacksInduction 0 = .ok (.aload_n 0, 1) := dk_42 (dk_at dksX1_lacksInduction_0 0 rfl rfl)
theorem dX1_lacksInduction_1 : decode cX1_lacksInduction 1 = .ok (.getfield 33, 3) := dk_180 0 33 (dk_at dksX1_lacksInduction_0 1 rfl rfl)
theorem dX1_lacksInduction_4 : decode cX1_lacksInduction 4 = .ok (.iload_n 1, 1) := dk_27 (dk_at dksX1_lacksInduction_0 4 rfl rfl)
theorem dX1_lacksInduction_5 : decode cX1_lacksInduction 5 = .ok (.invokevirtual 122, 3) := dk_182 0 122 (dk_at dksX1_lacksInduction_0 5 rfl rfl)
theorem dX1_lacksInduction_8 : decode cX1_lacksInduction 8 = .ok (.checkcast 132, 3) := dk_192 0 132 (dk_at dksX1_lacksInduction_0 8 rfl rfl)
theorem dX1_lacksInduction_11 : decode cX1_lacksInduction 11 = .ok (.aload_n 0, 1) := dk_42 (dk_at dksX1_lacksInduction_0 11 rfl rfl)
theorem dX1_lacksInduction_12 : decode cX1_lacksInduction 12 = .ok (.getfield 29, 3) := dk_180 0 29 (dk_at dksX1_lacksInduction_0 12 rfl rfl)
theorem dX1_lacksInduction_15 : decode cX1_lacksInduction 15 = .ok (.iload_n 2, 1) := dk_28 (dk_at dksX1_lacksInduction_0 15 rfl rfl)
theorem dX1_lacksInduction_16 : decode cX1_lacksInduction 16 = .ok (.invokevirtual 122, 3) := dk_182 0 122 (dk_at dksX1_lacksInduction_0 16 rfl rfl)
theorem dX1_lacksInduction_19 : decode cX1_lacksInduction 19 = .ok (.checkcast 126, 3) := dk_192 0 126 (dk_at dksX1_lacksInduction_0 19 rfl rfl)
theorem dX1_lacksInduction_22 : decode cX1_lacksInduction 22 = .ok (.getfield 134, 3) := dk_180 0 134 (dk_at dksX1_lacksInduction_1 0 rfl rfl)
theorem dX1_lacksInduction_25 : decode cX1_lacksInduction 25 = .ok (.iload_n 3, 1) := dk_29 (dk_at dksX1_lacksInduction_1 3 rfl rfl)
theorem dX1_lacksInduction_26 : decode cX1_lacksInduction 26 = .ok (.invokevirtual 137, 3) := dk_182 0 137 (dk_at dksX1_lacksInduction_1 4 rfl rfl)
theorem dX1_lacksInduction_29 : decode cX1_lacksInduction 29 = .ok (.ifCond .ne 7, 3) := dk_154 0 7 (dk_at dksX1_lacksInduction_1 7 rfl rfl)
theorem dX1_lacksInduction_32 : decode cX1_lacksInduction 32 = .ok (.iconst 1, 1) := dk_4 (dk_at dksX1_lacksInduction_1 10 rfl rfl)
theorem dX1_lacksInduction_33 : decode cX1_lacksInduction 33 = .ok (.goto 4, 3) := dk_167 0 4 (dk_at dksX1_lacksInduction_1 11 rfl rfl)
theorem dX1_lacksInduction_36 : decode cX1_lacksInduction 36 = .ok (.iconst 0, 1) := dk_3 (dk_at dksX1_lacksInduction_1 14 rfl rfl)
theorem dX1_lacksInduction_37 : decode cX1_lacksInduction 37 = .ok (.ireturn, 1) := dk_172 (dk_at dksX1_lacksInduction_1 15 rfl rfl)
abbrev cX1_isElsewhere : ByteArray := prog_1_method_18_code
def yX1_isElsewhere : MethodName := ⟨RX1, "isElsewhere", "(IIIIIC)Z"⟩
def dkwX1_isElsewhere_3 : List UInt8 := [4, 172, 132, 7, 1, 167, 255, 182, 3, 172]
abbrev dktX1_isElsewhere_3 : List UInt8 := dkwX1_isElsewhere_3 ++ []
def dkwX1_isElsewhere_2 : List UInt8 := [25, 8, 180, 0, 154, 29, 160, 0, 20, 25, 8, 21, 4, 21, 4, 21, 5, 96, 182, 0, 157, 153, 0, 5]
abbrev dktX1_isElsewhere_2 : List UInt8 := dkwX1_isElsewhere_2 ++ dktX1_isElsewhere_3
def dkwX1_isElsewhere_1 : List UInt8 := [192, 0, 145, 58, 8, 25, 8, 180, 0, 147, 27, 160, 0, 39, 25, 8, 180, 0, 150, 16, 98, 160, 0, 29]
abbrev dktX1_isElsewhere_1 : List UInt8 := dkwX1_isElsewhere_1 ++ dktX1_isElsewhere_2
def dkwX1_isElsewhere_0 : List UInt8 := [3, 54, 7, 21, 7, 42, 180, 0, 36, 182, 0, 141, 162, 0, 68, 42, 180, 0, 36, 21, 7, 182, 0, 122]
abbrev dktX1_isElsewhere_0 : List UInt8 := dkwX1_isElsewhere_0 ++ dktX1_isElsewhere_1
theorem dksX1_isElsewhere_0 : cX1_isElsewhere.data.toList.drop 0 = dktX1_isElsewhere_0 := by decide +kernel
theorem dksX1_isElsewhere_1 : cX1_isElsewhere.data.toList.drop 24 = dktX1_isElsewhere_1 := dk_seg dksX1_isElsewhere_0 24 rfl rfl
theorem dksX1_isElsewhere_2 : cX1_isElsewhere.data.toList.drop 48 = dktX1_isElsewhere_2 := dk_seg dksX1_isElsewhere_1 24 rfl rfl
theorem dksX1_isElsewhere_3 : cX1_isElsewhere.data.toList.drop 72 = dktX1_isElsewhere_3 := dk_seg dksX1_isElsewhere_2 24 rfl rfl
theorem dX1_isElsewhere_0 : decode cX1_isElsewhere 0 = .ok (.iconst 0, 1) := dk_3 (dk_at dksX1_isElsewhere_0 0 rfl rfl)
theorem dX1_isElsewhere_1 : decode cX1_isElsewhere 1 = .ok (.istore 7, 2) := dk_54 7 (dk_at dksX1_isElsewhere_0 1 rfl rfl)
theorem dX1_isElsewhere_3 : decode cX1_isElsewhere 3 = .ok (.iload 7, 2) := dk_21 7 (dk_at dksX1_isElsewhere_0 3 rfl rfl)
theorem dX1_isElsewhere_5 : decode cX1_isElsewhere 5 = .ok (.aload_n 0, 1) := dk_42 (dk_at dksX1_isElsewhere_0 5 rfl rfl)
theorem dX1_isElsewhere_6 : decode cX1_isElsewhere 6 = .ok (.getfield 36, 3) := dk_180 0 36 (dk_at dksX1_isElsewhere_0 6 rfl rfl)
theorem dX1_isElsewhere_9 : decode cX1_isElsewhere 9 = .ok (.invokevirtual 141, 3) := dk_182 0 141 (dk_at dksX1_isElsewhere_0 9 rfl rfl)
theorem dX1_isElsewhere_12 : decode cX1_isElsewhere 12 = .ok (.if_icmp .ge 68, 3) := dk_162 0 68 (dk_at dksX1_isElsewhere_0 12 rfl rfl)
theorem dX1_isElsewhere_15 : decode cX1_isElsewhere 15 = .ok (.aload_n 0, 1) := dk_42 (dk_at dksX1_isElsewhere_0 15 rfl rfl)
theorem dX1_isElsewhere_16 : decode cX1_isElsewhere 16 = .ok (.getfield 36, 3) := dk_180 0 36 (dk_at dksX1_isElsewhere_0 16 rfl rfl)
theorem dX1_isElsewhere_19 : decode cX1_isElsewhere 19 = .ok (.iload 7, 2) := dk_21 7 (dk_at dksX1_isElsewhere_0 19 rfl rfl)
theorem dX1_isElsewhere_21 : decode cX1_isElsewhere 21 = .ok (.invokevirtual 122, 3) := dk_182 0 122 (dk_at dksX1_isElsewhere_0 21 rfl rfl)
theorem dX1_isElsewhere_24 : decode cX1_isElsewhere 24 = .ok (.checkcast 145, 3) := dk_192 0 145 (dk_at dksX1_isElsewhere_1 0 rfl rfl)
theorem dX1_isElsewhere_27 : decode cX1_isElsewhere 27 = .ok (.astore 8, 2) := dk_58 8 (dk_at dksX1_isElsewhere_1 3 rfl rfl)
theorem dX1_isElsewhere_29 : decode cX1_isElsewhere 29 = .ok (.aload 8, 2) := dk_25 8 (dk_at dksX1_isElsewhere_1 5 rfl rfl)
theorem dX1_isElsewhere_31 : decode cX1_isElsewhere 31 = .ok (.getfield 147, 3) := dk_180 0 147 (dk_at dksX1_isElsewhere_1 7 rfl rfl)
theorem dX1_isElsewhere_34 : decode cX1_isElsewhere 34 = .ok (.iload_n 1, 1) := dk_27 (dk_at dksX1_isElsewhere_1 10 rfl rfl)
theorem dX1_isElsewhere_35 : decode cX1_isElsewhere 35 = .ok (.if_icmp .ne 39, 3) := dk_160 0 39 (dk_at dksX1_isElsewhere_1 11 rfl rfl)
theorem dX1_isElsewhere_38 : decode cX1_isElsewhere 38 = .ok (.aload 8, 2) := dk_25 8 (dk_at dksX1_isElsewhere_1 14 rfl rfl)
theorem dX1_isElsewhere_40 : decode cX1_isElsewhere 40 = .ok (.getfield 150, 3) := dk_180 0 150 (dk_at dksX1_isElsewhere_1 16 rfl rfl)
theorem dX1_isElsewhere_43 : decode cX1_isElsewhere 43 = .ok (.bipush 98, 2) := dk_16 98 (dk_at dksX1_isElsewhere_1 19 rfl rfl)
theorem dX1_isElsewhere_45 : decode cX1_isElsewhere 45 = .ok (.if_icmp .ne 29, 3) := dk_160 0 29 (dk_at dksX1_isElsewhere_1 21 rfl rfl)
theorem dX1_isElsewhere_48 : decode cX1_isElsewhere 48 = .ok (.aload 8, 2) := dk_25 8 (dk_at dksX1_isElsewhere_2 0 rfl rfl)
theorem dX1_isElsewhere_50 : decode cX1_isElsewhere 50 = .ok (.getfield 154, 3) := dk_180 0 154 (dk_at dksX1_isElsewhere_2 2 rfl rfl)
theorem dX1_isElsewhere_53 : decode cX1_isElsewhere 53 = .ok (.iload_n 3, 1) := dk_29 (dk_at dksX1_isElsewhere_2 5 rfl rfl)
theorem dX1_isElsewhere_54 : decode cX1_isElsewhere 54 = .ok (.if_icmp .ne 20, 3) := dk_160 0 20 (dk_at dksX1_isElsewhere_2 6 rfl rfl)
theorem dX1_isElsewhere_57 : decode cX1_isElsewhere 57 = .ok (.aload 8, 2) := dk_25 8 (dk_at dksX1_isElsewhere_2 9 rfl rfl)
theorem dX1_isElsewhere_59 : decode cX1_isElsewhere 59 = .ok (.iload 4, 2) := dk_21 4 (dk_at dksX1_isElsewhere_2 11 rfl rfl)
theorem dX1_isElsewhere_61 : decode cX1_isElsewhere 61 = .ok (.iload 4, 2) := dk_21 4 (dk_at dksX1_isElsewhere_2 13 rfl rfl)
theorem dX1_isElsewhere_63 : decode cX1_isElsewhere 63 = .ok (.iload 5, 2) := dk_21 5 (dk_at dksX1_isElsewhere_2 15 rfl rfl)
theorem dX1_isElsewhere_65 : decode cX1_isElsewhere 65 = .ok (.iadd, 1) := dk_96 (dk_at dksX1_isElsewhere_2 17 rfl rfl)
theorem dX1_isElsewhere_66 : decode cX1_isElsewhere 66 = .ok (.invokevirtual 157, 3) := dk_182 0 157 (dk_at dksX1_isElsewhere_2 18 rfl rfl)
theorem dX1_isElsewhere_69 : decode cX1_isElsewhere 69 = .ok (.ifCond .eq 5, 3) := dk_153 0 5 (dk_at dksX1_isElsewhere_2 21 rfl rfl)
theorem dX1_isElsewhere_72 : decode cX1_isElsewhere 72 = .ok (.iconst 1, 1) := dk_4 (dk_at dksX1_isElsewhere_3 0 rfl rfl)
theorem dX1_isElsewhere_73 : decode cX1_isElsewhere 73 = .ok (.ireturn, 1) := dk_172 (dk_at dksX1_isElsewhere_3 1 rfl rfl)
theorem dX1_isElsewhere_74 : decode cX1_isElsewhere 74 = .ok (.iinc 7 1, 3) := dk_132 7 1 (dk_at dksX1_isElsewhere_3 2 rfl rfl)
theorem dX1_isElsewhere_77 : decode cX1_isElsewhere 77 = .ok (.goto (-74), 3) := dk_167 255 182 (dk_at dksX1_isElsewhere_3 5 rfl rfl)
theorem dX1_isElsewhere_80 : decode cX1_isElsewhere 80 = .ok (.iconst 0, 1) := dk_3 (dk_at dksX1_isElsewhere_3 8 rfl rfl)
theorem dX1_isElsewhere_81 : decode cX1_isElsewhere 81 = .ok (.ireturn, 1) := dk_172 (dk_at dksX1_isElsewhere_3 9 rfl rfl)
abbrev cX1_isBusy : ByteArray := prog_1_method_19_code
def yX1_isBusy : MethodName := ⟨RX1, "isBusy", "(IIIIIC)Z"⟩
def dkwX1_isBusy_5 : List UInt8 := [25, 8, 21, 4, 21, 6, 182, 0, 187, 172]
abbrev dktX1_isBusy_5 : List UInt8 := dkwX1_isBusy_5 ++ []
def dkwX1_isBusy_4 : List UInt8 := [21, 4, 21, 6, 182, 0, 187, 153, 0, 7, 4, 167, 0, 4, 3, 172, 25, 10, 58, 8, 167, 255, 164, 42]
abbrev dktX1_isBusy_4 : List UInt8 := dkwX1_isBusy_4 ++ dktX1_isBusy_5
def dkwX1_isBusy_3 : List UInt8 := [180, 0, 178, 21, 7, 100, 42, 28, 25, 10, 180, 0, 181, 21, 6, 182, 0, 184, 161, 0, 16, 42, 25, 8]
abbrev dktX1_isBusy_3 : List UInt8 := dkwX1_isBusy_3 ++ dktX1_isBusy_4
def dkwX1_isBusy_2 : List UInt8 := [21, 4, 21, 7, 182, 0, 157, 153, 0, 5, 4, 172, 25, 10, 180, 0, 178, 21, 7, 161, 0, 45, 25, 10]
abbrev dktX1_isBusy_2 : List UInt8 := dkwX1_isBusy_2 ++ dktX1_isBusy_3
def dkwX1_isBusy_1 : List UInt8 := [25, 9, 185, 0, 168, 1, 0, 153, 0, 88, 25, 9, 185, 0, 174, 1, 0, 192, 0, 145, 58, 10, 25, 10]
abbrev dktX1_isBusy_1 : List UInt8 := dkwX1_isBusy_1 ++ dktX1_isBusy_2
def dkwX1_isBusy_0 : List UInt8 := [21, 4, 21, 5, 96, 54, 7, 1, 58, 8, 42, 180, 0, 53, 28, 29, 182, 0, 160, 182, 0, 164, 58, 9]
abbrev dktX1_isBusy_0 : List UInt8 := dkwX1_isBusy_0 ++ dktX1_isBusy_1
theorem dksX1_isBusy_0 : cX1_isBusy.data.toList.drop 0 = dktX1_isBusy_0 := by decide +kernel
theorem dksX1_isBusy_1 : cX1_isBusy.data.toList.drop 24 = dktX1_isBusy_1 := dk_seg dksX1_isBusy_0 24 rfl rfl
theorem dksX1_isBusy_2 : cX1_isBusy.data.toList.drop 48 = dktX1_isBusy_2 := dk_seg dksX1_isBusy_1 24 rfl rfl
theorem dksX1_isBusy_3 : cX1_isBusy.data.toList.drop 72 = dktX1_isBusy_3 := dk_seg dksX1_isBusy_2 24 rfl rfl
theorem dksX1_isBusy_4 : cX1_isBusy.data.toList.drop 96 = dktX1_isBusy_4 := dk_seg dksX1_isBusy_3 24 rfl rfl
theorem dksX1_isBusy_5 : cX1_isBusy.data.toList.drop 120 = dktX1_isBusy_5 := dk_seg dksX1_isBusy_4 24 rfl rfl
theorem dX1_isBusy_0 : decode cX1_isBusy 0 = .ok (.iload 4, 2) := dk_21 4 (dk_at dksX1_isBusy_0 0 rfl rfl)
theorem dX1_isBusy_2 : decode cX1_isBusy 2 = .ok (.iload 5, 2) := dk_21 5 (dk_at dksX1_isBusy_0 2 rfl rfl)
theorem dX1_isBusy_4 : decode cX1_isBusy 4 = .ok (.iadd, 1) := dk_96 (dk_at dksX1_isBusy_0 4 rfl rfl)
theorem dX1_isBusy_5 : decode cX1_isBusy 5 = .ok (.istore 7, 2) := dk_54 7 (dk_at dksX1_isBusy_0 5 rfl rfl)
theorem dX1_isBusy_7 : decode cX1_isBusy 7 = .ok (.aconst_null, 1) := dk_1 (dk_at dksX1_isBusy_0 7 rfl rfl)
theorem dX1_isBusy_8 : decode cX1_isBusy 8 = .ok (.astore 8, 2) := dk_58 8 (dk_at dksX1_isBusy_0 8 rfl rfl)
theorem dX1_isBusy_10 : decode cX1_isBusy 10 = .ok (.aload_n 0, 1) := dk_42 (dk_at dksX1_isBusy_0 10 rfl rfl)
theorem dX1_isBusy_11 : decode cX1_isBusy 11 = .ok (.getfield 53, 3) := dk_180 0 53 (dk_at dksX1_isBusy_0 11 rfl rfl)
theorem dX1_isBusy_14 : decode cX1_isBusy 14 = .ok (.iload_n 2, 1) := dk_28 (dk_at dksX1_isBusy_0 14 rfl rfl)
theorem dX1_isBusy_15 : decode cX1_isBusy 15 = .ok (.iload_n 3, 1) := dk_29 (dk_at dksX1_isBusy_0 15 rfl rfl)
theorem dX1_isBusy_16 : decode cX1_isBusy 16 = .ok (.invokevirtual 160, 3) := dk_182 0 160 (dk_at dksX1_isBusy_0 16 rfl rfl)
theorem dX1_isBusy_19 : decode cX1_isBusy 19 = .ok (.invokevirtual 164, 3) := dk_182 0 164 (dk_at dksX1_isBusy_0 19 rfl rfl)
theorem dX1_isBusy_22 : decode cX1_isBusy 22 = .ok (.astore 9, 2) := dk_58 9 (dk_at dksX1_isBusy_0 22 rfl rfl)
theorem dX1_isBusy_24 : decode cX1_isBusy 24 = .ok (.aload 9, 2) := dk_25 9 (dk_at dksX1_isBusy_1 0 rfl rfl)
theorem dX1_isBusy_26 : decode cX1_isBusy 26 = .ok (.invokeinterface 168 1, 5) := by decide +kernel
theorem dX1_isBusy_31 : decode cX1_isBusy 31 = .ok (.ifCond .eq 88, 3) := dk_153 0 88 (dk_at dksX1_isBusy_1 7 rfl rfl)
theorem dX1_isBusy_34 : decode cX1_isBusy 34 = .ok (.aload 9, 2) := dk_25 9 (dk_at dksX1_isBusy_1 10 rfl rfl)
theorem dX1_isBusy_36 : decode cX1_isBusy 36 = .ok (.invokeinterface 174 1, 5) := by decide +kernel
theorem dX1_isBusy_41 : decode cX1_isBusy 41 = .ok (.checkcast 145, 3) := dk_192 0 145 (dk_at dksX1_isBusy_1 17 rfl rfl)
theorem dX1_isBusy_44 : decode cX1_isBusy 44 = .ok (.astore 10, 2) := dk_58 10 (dk_at dksX1_isBusy_1 20 rfl rfl)
theorem dX1_isBusy_46 : decode cX1_isBusy 46 = .ok (.aload 10, 2) := dk_25 10 (dk_at dksX1_isBusy_1 22 rfl rfl)
theorem dX1_isBusy_48 : decode cX1_isBusy 48 = .ok (.iload 4, 2) := dk_21 4 (dk_at dksX1_isBusy_2 0 rfl rfl)
theorem dX1_isBusy_50 : decode cX1_isBusy 50 = .ok (.iload 7, 2) := dk_21 7 (dk_at dksX1_isBusy_2 2 rfl rfl)
theorem dX1_isBusy_52 : decode cX1_isBusy 52 = .ok (.invokevirtual 157, 3) := dk_182 0 157 (dk_at dksX1_isBusy_2 4 rfl rfl)
theorem dX1_isBusy_55 : decode cX1_isBusy 55 = .ok (.ifCond .eq 5, 3) := dk_153 0 5 (dk_at dksX1_isBusy_2 7 rfl rfl)
theorem dX1_isBusy_58 : decode cX1_isBusy 58 = .ok (.iconst 1, 1) := dk_4 (dk_at dksX1_isBusy_2 10 rfl rfl)
theorem dX1_isBusy_59 : decode cX1_isBusy 59 = .ok (.ireturn, 1) := dk_172 (dk_at dksX1_isBusy_2 11 rfl rfl)
theorem dX1_isBusy_60 : decode cX1_isBusy 60 = .ok (.aload 10, 2) := dk_25 10 (dk_at dksX1_isBusy_2 12 rfl rfl)
theorem dX1_isBusy_62 : decode cX1_isBusy 62 = .ok (.getfield 178, 3) := dk_180 0 178 (dk_at dksX1_isBusy_2 14 rfl rfl)
theorem dX1_isBusy_65 : decode cX1_isBusy 65 = .ok (.iload 7, 2) := dk_21 7 (dk_at dksX1_isBusy_2 17 rfl rfl)
theorem dX1_isBusy_67 : decode cX1_isBusy 67 = .ok (.if_icmp .lt 45, 3) := dk_161 0 45 (dk_at dksX1_isBusy_2 19 rfl rfl)
theorem dX1_isBusy_70 : decode cX1_isBusy 70 = .ok (.aload 10, 2) := dk_25 10 (dk_at dksX1_isBusy_2 22 rfl rfl)
theorem dX1_isBusy_72 : decode cX1_isBusy 72 = .ok (.getfield 178, 3) := dk_180 0 178 (dk_at dksX1_isBusy_3 0 rfl rfl)
theorem dX1_isBusy_75 : decode cX1_isBusy 75 = .ok (.iload 7, 2) := dk_21 7 (dk_at dksX1_isBusy_3 3 rfl rfl)
theorem dX1_isBusy_77 : decode cX1_isBusy 77 = .ok (.isub, 1) := dk_100 (dk_at dksX1_isBusy_3 5 rfl rfl)
theorem dX1_isBusy_78 : decode cX1_isBusy 78 = .ok (.aload_n 0, 1) := dk_42 (dk_at dksX1_isBusy_3 6 rfl rfl)
theorem dX1_isBusy_79 : decode cX1_isBusy 79 = .ok (.iload_n 2, 1) := dk_28 (dk_at dksX1_isBusy_3 7 rfl rfl)
theorem dX1_isBusy_80 : decode cX1_isBusy 80 = .ok (.aload 10, 2) := dk_25 10 (dk_at dksX1_isBusy_3 8 rfl rfl)
theorem dX1_isBusy_82 : decode cX1_isBusy 82 = .ok (.getfield 181, 3) := dk_180 0 181 (dk_at dksX1_isBusy_3 10 rfl rfl)
theorem dX1_isBusy_85 : decode cX1_isBusy 85 = .ok (.iload 6, 2) := dk_21 6 (dk_at dksX1_isBusy_3 13 rfl rfl)
theorem dX1_isBusy_87 : decode cX1_isBusy 87 = .ok (.invokevirtual 184, 3) := dk_182 0 184 (dk_at dksX1_isBusy_3 15 rfl rfl)
theorem dX1_isBusy_90 : decode cX1_isBusy 90 = .ok (.if_icmp .lt 16, 3) := dk_161 0 16 (dk_at dksX1_isBusy_3 18 rfl rfl)
theorem dX1_isBusy_93 : decode cX1_isBusy 93 = .ok (.aload_n 0, 1) := dk_42 (dk_at dksX1_isBusy_3 21 rfl rfl)
theorem dX1_isBusy_94 : decode cX1_isBusy 94 = .ok (.aload 8, 2) := dk_25 8 (dk_at dksX1_isBusy_3 22 rfl rfl)
theorem dX1_isBusy_96 : decode cX1_isBusy 96 = .ok (.iload 4, 2) := dk_21 4 (dk_at dksX1_isBusy_4 0 rfl rfl)
theorem dX1_isBusy_98 : decode cX1_isBusy 98 = .ok (.iload 6, 2) := dk_21 6 (dk_at dksX1_isBusy_4 2 rfl rfl)
theorem dX1_isBusy_100 : decode cX1_isBusy 100 = .ok (.invokevirtual 187, 3) := dk_182 0 187 (dk_at dksX1_isBusy_4 4 rfl rfl)
theorem dX1_isBusy_103 : decode cX1_isBusy 103 = .ok (.ifCond .eq 7, 3) := dk_153 0 7 (dk_at dksX1_isBusy_4 7 rfl rfl)
theorem dX1_isBusy_106 : decode cX1_isBusy 106 = .ok (.iconst 1, 1) := dk_4 (dk_at dksX1_isBusy_4 10 rfl rfl)
theorem dX1_isBusy_107 : decode cX1_isBusy 107 = .ok (.goto 4, 3) := dk_167 0 4 (dk_at dksX1_isBusy_4 11 rfl rfl)
theorem dX1_isBusy_110 : decode cX1_isBusy 110 = .ok (.iconst 0, 1) := dk_3 (dk_at dksX1_isBusy_4 14 rfl rfl)
theorem dX1_isBusy_111 : decode cX1_isBusy 111 = .ok (.ireturn, 1) := dk_172 (dk_at dksX1_isBusy_4 15 rfl rfl)
theorem dX1_isBusy_112 : decode cX1_isBusy 112 = .ok (.aload 10, 2) := dk_25 10 (dk_at dksX1_isBusy_4 16 rfl rfl)
theorem dX1_isBusy_114 : decode cX1_isBusy 114 = .ok (.astore 8, 2) := dk_58 8 (dk_at dksX1_isBusy_4 18 rfl rfl)
theorem dX1_isBusy_116 : decode cX1_isBusy 116 = .ok (.goto (-92), 3) := dk_167 255 164 (dk_at dksX1_isBusy_4 20 rfl rfl)
theorem dX1_isBusy_119 : decode cX1_isBusy 119 = .ok (.aload_n 0, 1) := dk_42 (dk_at dksX1_isBusy_4 23 rfl rfl)
theorem dX1_isBusy_120 : decode cX1_isBusy 120 = .ok (.aload 8, 2) := dk_25 8 (dk_at dksX1_isBusy_5 0 rfl rfl)
theorem dX1_isBusy_122 : decode cX1_isBusy 122 = .ok (.iload 4, 2) := dk_21 4 (dk_at dksX1_isBusy_5 2 rfl rfl)
theorem dX1_isBusy_124 : decode cX1_isBusy 124 = .ok (.iload 6, 2) := dk_21 6 (dk_at dksX1_isBusy_5 4 rfl rfl)
theorem dX1_isBusy_126 : decode cX1_isBusy 126 = .ok (.invokevirtual 187, 3) := dk_182 0 187 (dk_at dksX1_isBusy_5 6 rfl rfl)
theorem dX1_isBusy_129 : decode cX1_isBusy 129 = .ok (.ireturn, 1) := dk_172 (dk_at dksX1_isBusy_5 9 rfl rfl)
abbrev cX1_setup : ByteArray := prog_1_method_16_code
def yX1_setup : MethodName := ⟨RX1, "setup", "(ICC)I"⟩
def dkwX1_setup_0 : List UInt8 := [28, 29, 160, 0, 7, 3, 167, 0, 17, 42, 180, 0, 29, 27, 182, 0, 122, 192, 0, 126, 180, 0, 128, 172]
abbrev dktX1_setup_0 : List UInt8 := dkwX1_setup_0 ++ []
theorem dksX1_setup_0 : cX1_setup.data.toList.drop 0 = dktX1_setup_0 := by decide +kernel
theorem dX1_setup_0 : decode cX1_setup 0 = .ok (.iload_n 2, 1) := dk_28 (dk_at dksX1_setup_0 0 rfl rfl)
theorem dX1_setup_1 : decode cX1_setup 1 = .ok (.iload_n 3, 1) := dk_29 (dk_at dksX1_setup_0 1 rfl rfl)
theorem dX1_setup_2 : decode cX1_setup 2 = .ok (.if_icmp .ne 7, 3) := dk_160 0 7 (dk_at dksX1_setup_0 2 rfl rfl)
theorem dX1_setup_5 : decode cX1_setup 5 = .ok (.iconst 0, 1) := dk_3 (dk_at dksX1_setup_0 5 rfl rfl)
theorem dX1_setup_6 : decode cX1_setup 6 = .ok (.goto 17, 3) := dk_167 0 17 (dk_at dksX1_setup_0 6 rfl rfl)
theorem dX1_setup_9 : decode cX1_setup 9 = .ok (.aload_n 0, 1) := dk_42 (dk_at dksX1_setup_0 9 rfl rfl)
theorem dX1_setup_10 : decode cX1_setup 10 = .ok (.getfield 29, 3) := dk_180 0 29 (dk_at dksX1_setup_0 10 rfl rfl)
theorem dX1_setup_13 : decode cX1_setup 13 = .ok (.iload_n 1, 1) := dk_27 (dk_at dksX1_setup_0 13 rfl rfl)
theorem dX1_setup_14 : decode cX1_setup 14 = .ok (.invokevirtual 122, 3) := dk_182 0 122 (dk_at dksX1_setup_0 14 rfl rfl)
theorem dX1_setup_17 : decode cX1_setup 17 = .ok (.checkcast 126, 3) := dk_192 0 126 (dk_at dksX1_setup_0 17 rfl rfl)
theorem dX1_setup_20 : decode cX1_setup 20 = .ok (.getfield 128, 3) := dk_180 0 128 (dk_at dksX1_setup_0 20 rfl rfl)
theorem dX1_setup_23 : decode cX1_setup 23 = .ok (.ireturn, 1) := dk_172 (dk_at dksX1_setup_0 23 rfl rfl)
abbrev cX1_comesTooSoon : ByteArray := prog_1_method_20_code
def yX1_comesTooSoon : MethodName := ⟨RX1, "comesTooSoon", "(LLendlathe$Entry;IC)Z"⟩
def dkwX1_comesTooSoon_1 : List UInt8 := [162, 0, 7, 4, 167, 0, 4, 3, 172]
abbrev dktX1_comesTooSoon_1 : List UInt8 := dkwX1_comesTooSoon_1 ++ []
def dkwX1_comesTooSoon_0 : List UInt8 := [43, 198, 0, 29, 28, 43, 182, 0, 191, 100, 42, 43, 180, 0, 194, 43, 180, 0, 181, 29, 182, 0, 184]
abbrev dktX1_comesTooSoon_0 : List UInt8 := dkwX1_comesTooSoon_0 ++ dktX1_comesTooSoon_1
theorem dksX1_comesTooSoon_0 : cX1_comesTooSoon.data.toList.drop 0 = dktX1_comesTooSoon_0 := by decide +kernel
theorem dksX1_comesTooSoon_1 : cX1_comesTooSoon.data.toList.drop 23 = dktX1_comesTooSoon_1 := dk_seg dksX1_comesTooSoon_0 23 rfl rfl
theorem dX1_comesTooSoon_0 : decode cX1_comesTooSoon 0 = .ok (.aload_n 1, 1) := dk_43 (dk_at dksX1_comesTooSoon_0 0 rfl rfl)
theorem dX1_comesTooSoon_1 : decode cX1_comesTooSoon 1 = .ok (.ifnull 29, 3) := dk_198 0 29 (dk_at dksX1_comesTooSoon_0 1 rfl rfl)
theorem dX1_comesTooSoon_4 : decode cX1_comesTooSoon 4 = .ok (.iload_n 2, 1) := dk_28 (dk_at dksX1_comesTooSoon_0 4 rfl rfl)
theorem dX1_comesTooSoon_5 : decode cX1_comesTooSoon 5 = .ok (.aload_n 1, 1) := dk_43 (dk_at dksX1_comesTooSoon_0 5 rfl rfl)
theorem dX1_comesTooSoon_6 : decode cX1_comesTooSoon 6 = .ok (.invokevirtual 191, 3) := dk_182 0 191 (dk_at dksX1_comesTooSoon_0 6 rfl rfl)
theorem dX1_comesTooSoon_9 : decode cX1_comesTooSoon 9 = .ok (.isub, 1) := dk_100 (dk_at dksX1_comesTooSoon_0 9 rfl rfl)
theorem dX1_comesTooSoon_10 : decode cX1_comesTooSoon 10 = .ok (.aload_n 0, 1) := dk_42 (dk_at dksX1_comesTooSoon_0 10 rfl rfl)
theorem dX1_comesTooSoon_11 : decode cX1_comesTooSoon 11 = .ok (.aload_n 1, 1) := dk_43 (dk_at dksX1_comesTooSoon_0 11 rfl rfl)
theorem dX1_comesTooSoon_12 : decode cX1_comesTooSoon 12 = .ok (.getfield 194, 3) := dk_180 0 194 (dk_at dksX1_comesTooSoon_0 12 rfl rfl)
theorem dX1_comesTooSoon_15 : decode cX1_comesTooSoon 15 = .ok (.aload_n 1, 1) := dk_43 (dk_at dksX1_comesTooSoon_0 15 rfl rfl)
theorem dX1_comesTooSoon_16 : decode cX1_comesTooSoon 16 = .ok (.getfield 181, 3) := dk_180 0 181 (dk_at dksX1_comesTooSoon_0 16 rfl rfl)
theorem dX1_comesTooSoon_19 : decode cX1_comesTooSoon 19 = .ok (.iload_n 3, 1) := dk_29 (dk_at dksX1_comesTooSoon_0 19 rfl rfl)
theorem dX1_comesTooSoon_20 : decode cX1_comesTooSoon 20 = .ok (.invokevirtual 184, 3) := dk_182 0 184 (dk_at dksX1_comesTooSoon_0 20 rfl rfl)
theorem dX1_comesTooSoon_23 : decode cX1_comesTooSoon 23 = .ok (.if_icmp .ge 7, 3) := dk_162 0 7 (dk_at dksX1_comesTooSoon_1 0 rfl rfl)
theorem dX1_comesTooSoon_26 : decode cX1_comesTooSoon 26 = .ok (.iconst 1, 1) := dk_4 (dk_at dksX1_comesTooSoon_1 3 rfl rfl)
theorem dX1_comesTooSoon_27 : decode cX1_comesTooSoon 27 = .ok (.goto 4, 3) := dk_167 0 4 (dk_at dksX1_comesTooSoon_1 4 rfl rfl)
theorem dX1_comesTooSoon_30 : decode cX1_comesTooSoon 30 = .ok (.iconst 0, 1) := dk_3 (dk_at dksX1_comesTooSoon_1 7 rfl rfl)
theorem dX1_comesTooSoon_31 : decode cX1_comesTooSoon 31 = .ok (.ireturn, 1) := dk_172 (dk_at dksX1_comesTooSoon_1 8 rfl rfl)
abbrev cX1_day : ByteArray := prog_1_method_29_code
def yX1_day : MethodName := ⟨RX1, "day", "()I"⟩
theorem dX1_day_0 : decode cX1_day 0 = .ok (.aload_n 0, 1) := by decide +kernel
theorem dX1_day_1 : decode cX1_day 1 = .ok (.getfield 215, 3) := by decide +kernel
theorem dX1_day_4 : decode cX1_day 4 = .ok (.ireturn, 1) := by decide +kernel
abbrev cX1_entries : ByteArray := prog_1_method_43_code
def yX1_entries : MethodName := ⟨RX1, "entries", "()I"⟩
def dkwX1_entries_0 : List UInt8 := [42, 180, 0, 36, 182, 0, 141, 172]
abbrev dktX1_entries_0 : List UInt8 := dkwX1_entries_0 ++ []
theorem dksX1_entries_0 : cX1_entries.data.toList.drop 0 = dktX1_entries_0 := by decide +kernel
theorem dX1_entries_0 : decode cX1_entries 0 = .ok (.aload_n 0, 1) := dk_42 (dk_at dksX1_entries_0 0 rfl rfl)
theorem dX1_entries_1 : decode cX1_entries 1 = .ok (.getfield 36, 3) := dk_180 0 36 (dk_at dksX1_entries_0 1 rfl rfl)
theorem dX1_entries_4 : decode cX1_entries 4 = .ok (.invokevirtual 141, 3) := dk_182 0 141 (dk_at dksX1_entries_0 4 rfl rfl)
theorem dX1_entries_7 : decode cX1_entries 7 = .ok (.ireturn, 1) := dk_172 (dk_at dksX1_entries_0 7 rfl rfl)
abbrev cX1_takings : ByteArray := prog_1_method_73_code
def yX1_takings : MethodName := ⟨RX1, "takings", "()J"⟩
def dkwX1_takings_1 : List UInt8 := [192, 0, 132, 180, 1, 110, 133, 97, 64, 132, 3, 1, 167, 255, 224, 31, 173]
abbrev dktX1_takings_1 : List UInt8 := dkwX1_takings_1 ++ []
def dkwX1_takings_0 : List UInt8 := [9, 64, 3, 62, 29, 42, 180, 0, 33, 182, 0, 141, 162, 0, 27, 31, 42, 180, 0, 33, 29, 182, 0, 122]
abbrev dktX1_takings_0 : List UInt8 := dkwX1_takings_0 ++ dktX1_takings_1
theorem dksX1_takings_0 : cX1_takings.data.toList.drop 0 = dktX1_takings_0 := by decide +kernel
theorem dksX1_takings_1 : cX1_takings.data.toList.drop 24 = dktX1_takings_1 := dk_seg dksX1_takings_0 24 rfl rfl
theorem dX1_takings_0 : decode cX1_takings 0 = .ok (.lconst 0, 1) := dk_9 (dk_at dksX1_takings_0 0 rfl rfl)
theorem dX1_takings_1 : decode cX1_takings 1 = .ok (.lstore_n 1, 1) := dk_64 (dk_at dksX1_takings_0 1 rfl rfl)
theorem dX1_takings_2 : decode cX1_takings 2 = .ok (.iconst 0, 1) := dk_3 (dk_at dksX1_takings_0 2 rfl rfl)
theorem dX1_takings_3 : decode cX1_takings 3 = .ok (.istore_n 3, 1) := dk_62 (dk_at dksX1_takings_0 3 rfl rfl)
theorem dX1_takings_4 : decode cX1_takings 4 = .ok (.iload_n 3, 1) := dk_29 (dk_at dksX1_takings_0 4 rfl rfl)
theorem dX1_takings_5 : decode cX1_takings 5 = .ok (.aload_n 0, 1) := dk_42 (dk_at dksX1_takings_0 5 rfl rfl)
theorem dX1_takings_6 : decode cX1_takings 6 = .ok (.getfield 33, 3) := dk_180 0 33 (dk_at dksX1_takings_0 6 rfl rfl)
theorem dX1_takings_9 : decode cX1_takings 9 = .ok (.invokevirtual 141, 3) := dk_182 0 141 (dk_at dksX1_takings_0 9 rfl rfl)
theorem dX1_takings_12 : decode cX1_takings 12 = .ok (.if_icmp .ge 27, 3) := dk_162 0 27 (dk_at dksX1_takings_0 12 rfl rfl)
theorem dX1_takings_15 : decode cX1_takings 15 = .ok (.lload_n 1, 1) := dk_31 (dk_at dksX1_takings_0 15 rfl rfl)
theorem dX1_takings_16 : decode cX1_takings 16 = .ok (.aload_n 0, 1) := dk_42 (dk_at dksX1_takings_0 16 rfl rfl)
theorem dX1_takings_17 : decode cX1_takings 17 = .ok (.getfield 33, 3) := dk_180 0 33 (dk_at dksX1_takings_0 17 rfl rfl)
theorem dX1_takings_20 : decode cX1_takings 20 = .ok (.iload_n 3, 1) := dk_29 (dk_at dksX1_takings_0 20 rfl rfl)
theorem dX1_takings_21 : decode cX1_takings 21 = .ok (.invokevirtual 122, 3) := dk_182 0 122 (dk_at dksX1_takings_0 21 rfl rfl)
theorem dX1_takings_24 : decode cX1_takings 24 = .ok (.checkcast 132, 3) := dk_192 0 132 (dk_at dksX1_takings_1 0 rfl rfl)
theorem dX1_takings_27 : decode cX1_takings 27 = .ok (.getfield 366, 3) := dk_180 1 110 (dk_at dksX1_takings_1 3 rfl rfl)
theorem dX1_takings_30 : decode cX1_takings 30 = .ok (.i2l, 1) := dk_133 (dk_at dksX1_takings_1 6 rfl rfl)
theorem dX1_takings_31 : decode cX1_takings 31 = .ok (.ladd, 1) := dk_97 (dk_at dksX1_takings_1 7 rfl rfl)
theorem dX1_takings_32 : decode cX1_takings 32 = .ok (.lstore_n 1, 1) := dk_64 (dk_at dksX1_takings_1 8 rfl rfl)
theorem dX1_takings_33 : decode cX1_takings 33 = .ok (.iinc 3 1, 3) := dk_132 3 1 (dk_at dksX1_takings_1 9 rfl rfl)
theorem dX1_takings_36 : decode cX1_takings 36 = .ok (.goto (-32), 3) := dk_167 255 224 (dk_at dksX1_takings_1 12 rfl rfl)
theorem dX1_takings_39 : decode cX1_takings 39 = .ok (.lload_n 1, 1) := dk_31 (dk_at dksX1_takings_1 15 rfl rfl)
theorem dX1_takings_40 : decode cX1_takings 40 = .ok (.lreturn, 1) := dk_173 (dk_at dksX1_takings_1 16 rfl rfl)
abbrev cX1_isSound : ByteArray := prog_1_method_75_code
def yX1_isSound : MethodName := ⟨RX1, "isSound", "()Z"⟩
def dkwX1_isSound_8 : List UInt8 := [167, 0, 4, 3, 60, 132, 3, 1, 167, 255, 217, 132, 2, 1, 167, 255, 191, 27, 172]
abbrev dktX1_isSound_8 : List UInt8 := dkwX1_isSound_8 ++ []
def dkwX1_isSound_7 : List UInt8 := [163, 0, 34, 27, 153, 0, 30, 42, 28, 29, 182, 1, 43, 42, 28, 29, 182, 1, 47, 160, 0, 7, 4]
abbrev dktX1_isSound_7 : List UInt8 := dkwX1_isSound_7 ++ dktX1_isSound_8
def dkwX1_isSound_6 : List UInt8 := [182, 0, 141, 162, 0, 60, 27, 153, 0, 56, 42, 180, 0, 215, 62, 29, 42, 180, 0, 215, 16, 6, 96]
abbrev dktX1_isSound_6 : List UInt8 := dkwX1_isSound_6 ++ dktX1_isSound_7
def dkwX1_isSound_5 : List UInt8 := [160, 0, 7, 4, 167, 0, 4, 3, 60, 132, 2, 1, 167, 255, 210, 3, 61, 28, 42, 180, 0, 29]
abbrev dktX1_isSound_5 : List UInt8 := dkwX1_isSound_5 ++ dktX1_isSound_6
def dkwX1_isSound_4 : List UInt8 := [27, 153, 0, 37, 42, 28, 182, 1, 119, 42, 180, 0, 33, 28, 182, 0, 122, 192, 0, 132, 182, 1, 114]
abbrev dktX1_isSound_4 : List UInt8 := dkwX1_isSound_4 ++ dktX1_isSound_5
def dkwX1_isSound_3 : List UInt8 := [167, 0, 4, 3, 60, 132, 2, 1, 167, 255, 210, 3, 61, 28, 42, 180, 0, 33, 182, 0, 141, 162, 0, 41]
abbrev dktX1_isSound_3 : List UInt8 := dkwX1_isSound_3 ++ dktX1_isSound_4
def dkwX1_isSound_2 : List UInt8 := [42, 28, 182, 1, 84, 42, 180, 0, 39, 28, 182, 0, 122, 192, 1, 61, 180, 1, 70, 160, 0, 7, 4]
abbrev dktX1_isSound_2 : List UInt8 := dkwX1_isSound_2 ++ dktX1_isSound_3
def dkwX1_isSound_1 : List UInt8 := [60, 132, 2, 1, 167, 255, 232, 3, 61, 28, 42, 180, 0, 39, 182, 0, 141, 162, 0, 41, 27, 153, 0, 37]
abbrev dktX1_isSound_1 : List UInt8 := dkwX1_isSound_1 ++ dktX1_isSound_2
def dkwX1_isSound_0 : List UInt8 := [4, 60, 3, 61, 28, 42, 180, 0, 36, 182, 0, 141, 162, 0, 19, 27, 153, 0, 15, 42, 28, 182, 1, 122]
abbrev dktX1_isSound_0 : List UInt8 := dkwX1_isSound_0 ++ dktX1_isSound_1
theorem dksX1_isSound_0 : cX1_isSound.data.toList.drop 0 = dktX1_isSound_0 := by decide +kernel
theorem dksX1_isSound_1 : cX1_isSound.data.toList.drop 24 = dktX1_isSound_1 := dk_seg dksX1_isSound_0 24 rfl rfl
theorem dksX1_isSound_2 : cX1_isSound.data.toList.drop 48 = dktX1_isSound_2 := dk_seg dksX1_isSound_1 24 rfl rfl
theorem dksX1_isSound_3 : cX1_isSound.data.toList.drop 71 = dktX1_isSound_3 := dk_seg dksX1_isSound_2 23 rfl rfl
theorem dksX1_isSound_4 : cX1_isSound.data.toList.drop 95 = dktX1_isSound_4 := dk_seg dksX1_isSound_3 24 rfl rfl
theorem dksX1_isSound_5 : cX1_isSound.data.toList.drop 118 = dktX1_isSound_5 := dk_seg dksX1_isSound_4 23 rfl rfl
theorem dksX1_isSound_6 : cX1_isSound.data.toList.drop 140 = dktX1_isSound_6 := dk_seg dksX1_isSound_5 22 rfl rfl
theorem dksX1_isSound_7 : cX1_isSound.data.toList.drop 163 = dktX1_isSound_7 := dk_seg dksX1_isSound_6 23 rfl rfl
theorem dksX1_isSound_8 : cX1_isSound.data.toList.drop 186 = dktX1_isSound_8 := dk_seg dksX1_isSound_7 23 rfl rfl
theorem dX1_isSound_0 : decode cX1_isSound 0 = .ok (.iconst 1, 1) := dk_4 (dk_at dksX1_isSound_0 0 rfl rfl)
theorem dX1_isSound_1 : decode cX1_isSound 1 = .ok (.istore_n 1, 1) := dk_60 (dk_at dksX1_isSound_0 1 rfl rfl)
theorem dX1_isSound_2 : decode cX1_isSound 2 = .ok (.iconst 0, 1) := dk_3 (dk_at dksX1_isSound_0 2 rfl rfl)
theorem dX1_isSound_3 : decode cX1_isSound 3 = .ok (.istore_n 2, 1) := dk_61 (dk_at dksX1_isSound_0 3 rfl rfl)
theorem dX1_isSound_4 : decode cX1_isSound 4 = .ok (.iload_n 2, 1) := dk_28 (dk_at dksX1_isSound_0 4 rfl rfl)
theorem dX1_isSound_5 : decode cX1_isSound 5 = .ok (.aload_n 0, 1) := dk_42 (dk_at dksX1_isSound_0 5 rfl rfl)
theorem dX1_isSound_6 : decode cX1_isSound 6 = .ok (.getfield 36, 3) := dk_180 0 36 (dk_at dksX1_isSound_0 6 rfl rfl)
theorem dX1_isSound_9 : decode cX1_isSound 9 = .ok (.invokevirtual 141, 3) := dk_182 0 141 (dk_at dksX1_isSound_0 9 rfl rfl)
theorem dX1_isSound_12 : decode cX1_isSound 12 = .ok (.if_icmp .ge 19, 3) := dk_162 0 19 (dk_at dksX1_isSound_0 12 rfl rfl)
theorem dX1_isSound_15 : decode cX1_isSound 15 = .ok (.iload_n 1, 1) := dk_27 (dk_at dksX1_isSound_0 15 rfl rfl)
theorem dX1_isSound_16 : decode cX1_isSound 16 = .ok (.ifCond .eq 15, 3) := dk_153 0 15 (dk_at dksX1_isSound_0 16 rfl rfl)
theorem dX1_isSound_19 : decode cX1_isSound 19 = .ok (.aload_n 0, 1) := dk_42 (dk_at dksX1_isSound_0 19 rfl rfl)
theorem dX1_isSound_20 : decode cX1_isSound 20 = .ok (.iload_n 2, 1) := dk_28 (dk_at dksX1_isSound_0 20 rfl rfl)
theorem dX1_isSound_21 : decode cX1_isSound 21 = .ok (.invokevirtual 378, 3) := dk_182 1 122 (dk_at dksX1_isSound_0 21 rfl rfl)
theorem dX1_isSound_24 : decode cX1_isSound 24 = .ok (.istore_n 1, 1) := dk_60 (dk_at dksX1_isSound_1 0 rfl rfl)
theorem dX1_isSound_25 : decode cX1_isSound 25 = .ok (.iinc 2 1, 3) := dk_132 2 1 (dk_at dksX1_isSound_1 1 rfl rfl)
theorem dX1_isSound_28 : decode cX1_isSound 28 = .ok (.goto (-24), 3) := dk_167 255 232 (dk_at dksX1_isSound_1 4 rfl rfl)
theorem dX1_isSound_31 : decode cX1_isSound 31 = .ok (.iconst 0, 1) := dk_3 (dk_at dksX1_isSound_1 7 rfl rfl)
theorem dX1_isSound_32 : decode cX1_isSound 32 = .ok (.istore_n 2, 1) := dk_61 (dk_at dksX1_isSound_1 8 rfl rfl)
theorem dX1_isSound_33 : decode cX1_isSound 33 = .ok (.iload_n 2, 1) := dk_28 (dk_at dksX1_isSound_1 9 rfl rfl)
theorem dX1_isSound_34 : decode cX1_isSound 34 = .ok (.aload_n 0, 1) := dk_42 (dk_at dksX1_isSound_1 10 rfl rfl)
theorem dX1_isSound_35 : decode cX1_isSound 35 = .ok (.getfield 39, 3) := dk_180 0 39 (dk_at dksX1_isSound_1 11 rfl rfl)
theorem dX1_isSound_38 : decode cX1_isSound 38 = .ok (.invokevirtual 141, 3) := dk_182 0 141 (dk_at dksX1_isSound_1 14 rfl rfl)
theorem dX1_isSound_41 : decode cX1_isSound 41 = .ok (.if_icmp .ge 41, 3) := dk_162 0 41 (dk_at dksX1_isSound_1 17 rfl rfl)
theorem dX1_isSound_44 : decode cX1_isSound 44 = .ok (.iload_n 1, 1) := dk_27 (dk_at dksX1_isSound_1 20 rfl rfl)
theorem dX1_isSound_45 : decode cX1_isSound 45 = .ok (.ifCond .eq 37, 3) := dk_153 0 37 (dk_at dksX1_isSound_1 21 rfl rfl)
theorem dX1_isSound_48 : decode cX1_isSound 48 = .ok (.aload_n 0, 1) := dk_42 (dk_at dksX1_isSound_2 0 rfl rfl)
theorem dX1_isSound_49 : decode cX1_isSound 49 = .ok (.iload_n 2, 1) := dk_28 (dk_at dksX1_isSound_2 1 rfl rfl)
theorem dX1_isSound_50 : decode cX1_isSound 50 = .ok (.invokevirtual 340, 3) := dk_182 1 84 (dk_at dksX1_isSound_2 2 rfl rfl)
theorem dX1_isSound_53 : decode cX1_isSound 53 = .ok (.aload_n 0, 1) := dk_42 (dk_at dksX1_isSound_2 5 rfl rfl)
theorem dX1_isSound_54 : decode cX1_isSound 54 = .ok (.getfield 39, 3) := dk_180 0 39 (dk_at dksX1_isSound_2 6 rfl rfl)
theorem dX1_isSound_57 : decode cX1_isSound 57 = .ok (.iload_n 2, 1) := dk_28 (dk_at dksX1_isSound_2 9 rfl rfl)
theorem dX1_isSound_58 : decode cX1_isSound 58 = .ok (.invokevirtual 122, 3) := dk_182 0 122 (dk_at dksX1_isSound_2 10 rfl rfl)
theorem dX1_isSound_61 : decode cX1_isSound 61 = .ok (.checkcast 317, 3) := dk_192 1 61 (dk_at dksX1_isSound_2 13 rfl rfl)
theorem dX1_isSound_64 : decode cX1_isSound 64 = .ok (.getfield 326, 3) := dk_180 1 70 (dk_at dksX1_isSound_2 16 rfl rfl)
theorem dX1_isSound_67 : decode cX1_isSound 67 = .ok (.if_icmp .ne 7, 3) := dk_160 0 7 (dk_at dksX1_isSound_2 19 rfl rfl)
theorem dX1_isSound_70 : decode cX1_isSound 70 = .ok (.iconst 1, 1) := dk_4 (dk_at dksX1_isSound_2 22 rfl rfl)
theorem dX1_isSound_71 : decode cX1_isSound 71 = .ok (.goto 4, 3) := dk_167 0 4 (dk_at dksX1_isSound_3 0 rfl rfl)
theorem dX1_isSound_74 : decode cX1_isSound 74 = .ok (.iconst 0, 1) := dk_3 (dk_at dksX1_isSound_3 3 rfl rfl)
theorem dX1_isSound_75 : decode cX1_isSound 75 = .ok (.istore_n 1, 1) := dk_60 (dk_at dksX1_isSound_3 4 rfl rfl)
theorem dX1_isSound_76 : decode cX1_isSound 76 = .ok (.iinc 2 1, 3) := dk_132 2 1 (dk_at dksX1_isSound_3 5 rfl rfl)
theorem dX1_isSound_79 : decode cX1_isSound 79 = .ok (.goto (-46), 3) := dk_167 255 210 (dk_at dksX1_isSound_3 8 rfl rfl)
theorem dX1_isSound_82 : decode cX1_isSound 82 = .ok (.iconst 0, 1) := dk_3 (dk_at dksX1_isSound_3 11 rfl rfl)
theorem dX1_isSound_83 : decode cX1_isSound 83 = .ok (.istore_n 2, 1) := dk_61 (dk_at dksX1_isSound_3 12 rfl rfl)
theorem dX1_isSound_84 : decode cX1_isSound 84 = .ok (.iload_n 2, 1) := dk_28 (dk_at dksX1_isSound_3 13 rfl rfl)
theorem dX1_isSound_85 : decode cX1_isSound 85 = .ok (.aload_n 0, 1) := dk_42 (dk_at dksX1_isSound_3 14 rfl rfl)
theorem dX1_isSound_86 : decode cX1_isSound 86 = .ok (.getfield 33, 3) := dk_180 0 33 (dk_at dksX1_isSound_3 15 rfl rfl)
theorem dX1_isSound_89 : decode cX1_isSound 89 = .ok (.invokevirtual 141, 3) := dk_182 0 141 (dk_at dksX1_isSound_3 18 rfl rfl)
theorem dX1_isSound_92 : decode cX1_isSound 92 = .ok (.if_icmp .ge 41, 3) := dk_162 0 41 (dk_at dksX1_isSound_3 21 rfl rfl)
theorem dX1_isSound_95 : decode cX1_isSound 95 = .ok (.iload_n 1, 1) := dk_27 (dk_at dksX1_isSound_4 0 rfl rfl)
theorem dX1_isSound_96 : decode cX1_isSound 96 = .ok (.ifCond .eq 37, 3) := dk_153 0 37 (dk_at dksX1_isSound_4 1 rfl rfl)
theorem dX1_isSound_99 : decode cX1_isSound 99 = .ok (.aload_n 0, 1) := dk_42 (dk_at dksX1_isSound_4 4 rfl rfl)
theorem dX1_isSound_100 : decode cX1_isSound 100 = .ok (.iload_n 2, 1) := dk_28 (dk_at dksX1_isSound_4 5 rfl rfl)
theorem dX1_isSound_101 : decode cX1_isSound 101 = .ok (.invokevirtual 375, 3) := dk_182 1 119 (dk_at dksX1_isSound_4 6 rfl rfl)
theorem dX1_isSound_104 : decode cX1_isSound 104 = .ok (.aload_n 0, 1) := dk_42 (dk_at dksX1_isSound_4 9 rfl rfl)
theorem dX1_isSound_105 : decode cX1_isSound 105 = .ok (.getfield 33, 3) := dk_180 0 33 (dk_at dksX1_isSound_4 10 rfl rfl)
theorem dX1_isSound_108 : decode cX1_isSound 108 = .ok (.iload_n 2, 1) := dk_28 (dk_at dksX1_isSound_4 13 rfl rfl)
theorem dX1_isSound_109 : decode cX1_isSound 109 = .ok (.invokevirtual 122, 3) := dk_182 0 122 (dk_at dksX1_isSound_4 14 rfl rfl)
theorem dX1_isSound_112 : decode cX1_isSound 112 = .ok (.checkcast 132, 3) := dk_192 0 132 (dk_at dksX1_isSound_4 17 rfl rfl)
theorem dX1_isSound_115 : decode cX1_isSound 115 = .ok (.invokevirtual 370, 3) := dk_182 1 114 (dk_at dksX1_isSound_4 20 rfl rfl)
theorem dX1_isSound_118 : decode cX1_isSound 118 = .ok (.if_icmp .ne 7, 3) := dk_160 0 7 (dk_at dksX1_isSound_5 0 rfl rfl)
theorem dX1_isSound_121 : decode cX1_isSound 121 = .ok (.iconst 1, 1) := dk_4 (dk_at dksX1_isSound_5 3 rfl rfl)
theorem dX1_isSound_122 : decode cX1_isSound 122 = .ok (.goto 4, 3) := dk_167 0 4 (dk_at dksX1_isSound_5 4 rfl rfl)
theorem dX1_isSound_125 : decode cX1_isSound 125 = .ok (.iconst 0, 1) := dk_3 (dk_at dksX1_isSound_5 7 rfl rfl)
theorem dX1_isSound_126 : decode cX1_isSound 126 = .ok (.istore_n 1, 1) := dk_60 (dk_at dksX1_isSound_5 8 rfl rfl)
theorem dX1_isSound_127 : decode cX1_isSound 127 = .ok (.iinc 2 1, 3) := dk_132 2 1 (dk_at dksX1_isSound_5 9 rfl rfl)
theorem dX1_isSound_130 : decode cX1_isSound 130 = .ok (.goto (-46), 3) := dk_167 255 210 (dk_at dksX1_isSound_5 12 rfl rfl)
theorem dX1_isSound_133 : decode cX1_isSound 133 = .ok (.iconst 0, 1) := dk_3 (dk_at dksX1_isSound_5 15 rfl rfl)
theorem dX1_isSound_134 : decode cX1_isSound 134 = .ok (.istore_n 2, 1) := dk_61 (dk_at dksX1_isSound_5 16 rfl rfl)
theorem dX1_isSound_135 : decode cX1_isSound 135 = .ok (.iload_n 2, 1) := dk_28 (dk_at dksX1_isSound_5 17 rfl rfl)
theorem dX1_isSound_136 : decode cX1_isSound 136 = .ok (.aload_n 0, 1) := dk_42 (dk_at dksX1_isSound_5 18 rfl rfl)
theorem dX1_isSound_137 : decode cX1_isSound 137 = .ok (.getfield 29, 3) := dk_180 0 29 (dk_at dksX1_isSound_5 19 rfl rfl)
theorem dX1_isSound_140 : decode cX1_isSound 140 = .ok (.invokevirtual 141, 3) := dk_182 0 141 (dk_at dksX1_isSound_6 0 rfl rfl)
theorem dX1_isSound_143 : decode cX1_isSound 143 = .ok (.if_icmp .ge 60, 3) := dk_162 0 60 (dk_at dksX1_isSound_6 3 rfl rfl)
theorem dX1_isSound_146 : decode cX1_isSound 146 = .ok (.iload_n 1, 1) := dk_27 (dk_at dksX1_isSound_6 6 rfl rfl)
theorem dX1_isSound_147 : decode cX1_isSound 147 = .ok (.ifCond .eq 56, 3) := dk_153 0 56 (dk_at dksX1_isSound_6 7 rfl rfl)
theorem dX1_isSound_150 : decode cX1_isSound 150 = .ok (.aload_n 0, 1) := dk_42 (dk_at dksX1_isSound_6 10 rfl rfl)
theorem dX1_isSound_151 : decode cX1_isSound 151 = .ok (.getfield 215, 3) := dk_180 0 215 (dk_at dksX1_isSound_6 11 rfl rfl)
theorem dX1_isSound_154 : decode cX1_isSound 154 = .ok (.istore_n 3, 1) := dk_62 (dk_at dksX1_isSound_6 14 rfl rfl)
theorem dX1_isSound_155 : decode cX1_isSound 155 = .ok (.iload_n 3, 1) := dk_29 (dk_at dksX1_isSound_6 15 rfl rfl)
theorem dX1_isSound_156 : decode cX1_isSound 156 = .ok (.aload_n 0, 1) := dk_42 (dk_at dksX1_isSound_6 16 rfl rfl)
theorem dX1_isSound_157 : decode cX1_isSound 157 = .ok (.getfield 215, 3) := dk_180 0 215 (dk_at dksX1_isSound_6 17 rfl rfl)
theorem dX1_isSound_160 : decode cX1_isSound 160 = .ok (.bipush 6, 2) := dk_16 6 (dk_at dksX1_isSound_6 20 rfl rfl)
theorem dX1_isSound_162 : decode cX1_isSound 162 = .ok (.iadd, 1) := dk_96 (dk_at dksX1_isSound_6 22 rfl rfl)
theorem dX1_isSound_163 : decode cX1_isSound 163 = .ok (.if_icmp .gt 34, 3) := dk_163 0 34 (dk_at dksX1_isSound_7 0 rfl rfl)
theorem dX1_isSound_166 : decode cX1_isSound 166 = .ok (.iload_n 1, 1) := dk_27 (dk_at dksX1_isSound_7 3 rfl rfl)
theorem dX1_isSound_167 : decode cX1_isSound 167 = .ok (.ifCond .eq 30, 3) := dk_153 0 30 (dk_at dksX1_isSound_7 4 rfl rfl)
theorem dX1_isSound_170 : decode cX1_isSound 170 = .ok (.aload_n 0, 1) := dk_42 (dk_at dksX1_isSound_7 7 rfl rfl)
theorem dX1_isSound_171 : decode cX1_isSound 171 = .ok (.iload_n 2, 1) := dk_28 (dk_at dksX1_isSound_7 8 rfl rfl)
theorem dX1_isSound_172 : decode cX1_isSound 172 = .ok (.iload_n 3, 1) := dk_29 (dk_at dksX1_isSound_7 9 rfl rfl)
theorem dX1_isSound_173 : decode cX1_isSound 173 = .ok (.invokevirtual 299, 3) := dk_182 1 43 (dk_at dksX1_isSound_7 10 rfl rfl)
theorem dX1_isSound_176 : decode cX1_isSound 176 = .ok (.aload_n 0, 1) := dk_42 (dk_at dksX1_isSound_7 13 rfl rfl)
theorem dX1_isSound_177 : decode cX1_isSound 177 = .ok (.iload_n 2, 1) := dk_28 (dk_at dksX1_isSound_7 14 rfl rfl)
theorem dX1_isSound_178 : decode cX1_isSound 178 = .ok (.iload_n 3, 1) := dk_29 (dk_at dksX1_isSound_7 15 rfl rfl)
theorem dX1_isSound_179 : decode cX1_isSound 179 = .ok (.invokevirtual 303, 3) := dk_182 1 47 (dk_at dksX1_isSound_7 16 rfl rfl)
theorem dX1_isSound_182 : decode cX1_isSound 182 = .ok (.if_icmp .ne 7, 3) := dk_160 0 7 (dk_at dksX1_isSound_7 19 rfl rfl)
theorem dX1_isSound_185 : decode cX1_isSound 185 = .ok (.iconst 1, 1) := dk_4 (dk_at dksX1_isSound_7 22 rfl rfl)
theorem dX1_isSound_186 : decode cX1_isSound 186 = .ok (.goto 4, 3) := dk_167 0 4 (dk_at dksX1_isSound_8 0 rfl rfl)
theorem dX1_isSound_189 : decode cX1_isSound 189 = .ok (.iconst 0, 1) := dk_3 (dk_at dksX1_isSound_8 3 rfl rfl)
theorem dX1_isSound_190 : decode cX1_isSound 190 = .ok (.istore_n 1, 1) := dk_60 (dk_at dksX1_isSound_8 4 rfl rfl)
theorem dX1_isSound_191 : decode cX1_isSound 191 = .ok (.iinc 3 1, 3) := dk_132 3 1 (dk_at dksX1_isSound_8 5 rfl rfl)
theorem dX1_isSound_194 : decode cX1_isSound 194 = .ok (.goto (-39), 3) := dk_167 255 217 (dk_at dksX1_isSound_8 8 rfl rfl)
theorem dX1_isSound_197 : decode cX1_isSound 197 = .ok (.iinc 2 1, 3) := dk_132 2 1 (dk_at dksX1_isSound_8 11 rfl rfl)
theorem dX1_isSound_200 : decode cX1_isSound 200 = .ok (.goto (-65), 3) := dk_167 255 191 (dk_at dksX1_isSound_8 14 rfl rfl)
theorem dX1_isSound_203 : decode cX1_isSound 203 = .ok (.iload_n 1, 1) := dk_27 (dk_at dksX1_isSound_8 17 rfl rfl)
theorem dX1_isSound_204 : decode cX1_isSound 204 = .ok (.ireturn, 1) := dk_172 (dk_at dksX1_isSound_8 18 rfl rfl)
abbrev cX1_isSoundEntry : ByteArray := prog_1_method_74_code
def yX1_isSoundEntry : MethodName := ⟨RX1, "isSoundEntry", "(I)Z"⟩
def dkwX1_isSoundEntry_6 : List UInt8 := [154, 0, 7, 4, 167, 0, 4, 3, 62, 132, 4, 1, 167, 255, 161, 29, 172]
abbrev dktX1_isSoundEntry_6 : List UInt8 := dkwX1_isSoundEntry_6 ++ []
def dkwX1_isSoundEntry_5 : List UInt8 := [180, 0, 194, 44, 180, 0, 194, 160, 0, 19, 25, 5, 44, 180, 0, 178, 44, 182, 0, 191, 182, 0, 157]
abbrev dktX1_isSoundEntry_5 : List UInt8 := dkwX1_isSoundEntry_5 ++ dktX1_isSoundEntry_6
def dkwX1_isSoundEntry_4 : List UInt8 := [180, 0, 154, 44, 180, 0, 154, 160, 0, 43, 25, 5, 180, 0, 147, 44, 180, 0, 147, 159, 0, 15, 25, 5]
abbrev dktX1_isSoundEntry_4 : List UInt8 := dkwX1_isSoundEntry_4 ++ dktX1_isSoundEntry_5
def dkwX1_isSoundEntry_3 : List UInt8 := [21, 4, 182, 0, 122, 192, 0, 145, 58, 5, 25, 5, 180, 0, 150, 16, 98, 160, 0, 55, 25, 5]
abbrev dktX1_isSoundEntry_3 : List UInt8 := dkwX1_isSoundEntry_3 ++ dktX1_isSoundEntry_4
def dkwX1_isSoundEntry_2 : List UInt8 := [172, 44, 182, 0, 227, 62, 3, 54, 4, 21, 4, 27, 162, 0, 95, 29, 153, 0, 91, 42, 180, 0, 36]
abbrev dktX1_isSoundEntry_2 : List UInt8 := dkwX1_isSoundEntry_2 ++ dktX1_isSoundEntry_3
def dkwX1_isSoundEntry_1 : List UInt8 := [182, 0, 208, 16, 111, 159, 0, 7, 4, 167, 0, 4, 3, 172, 44, 180, 0, 150, 16, 98, 159, 0, 5, 4]
abbrev dktX1_isSoundEntry_1 : List UInt8 := dkwX1_isSoundEntry_1 ++ dktX1_isSoundEntry_2
def dkwX1_isSoundEntry_0 : List UInt8 := [42, 180, 0, 36, 27, 182, 0, 122, 192, 0, 145, 77, 44, 180, 0, 150, 16, 119, 160, 0, 18, 44]
abbrev dktX1_isSoundEntry_0 : List UInt8 := dkwX1_isSoundEntry_0 ++ dktX1_isSoundEntry_1
theorem dksX1_isSoundEntry_0 : cX1_isSoundEntry.data.toList.drop 0 = dktX1_isSoundEntry_0 := by decide +kernel
theorem dksX1_isSoundEntry_1 : cX1_isSoundEntry.data.toList.drop 22 = dktX1_isSoundEntry_1 := dk_seg dksX1_isSoundEntry_0 22 rfl rfl
theorem dksX1_isSoundEntry_2 : cX1_isSoundEntry.data.toList.drop 46 = dktX1_isSoundEntry_2 := dk_seg dksX1_isSoundEntry_1 24 rfl rfl
theorem dksX1_isSoundEntry_3 : cX1_isSoundEntry.data.toList.drop 69 = dktX1_isSoundEntry_3 := dk_seg dksX1_isSoundEntry_2 23 rfl rfl
theorem dksX1_isSoundEntry_4 : cX1_isSoundEntry.data.toList.drop 91 = dktX1_isSoundEntry_4 := dk_seg dksX1_isSoundEntry_3 22 rfl rfl
theorem dksX1_isSoundEntry_5 : cX1_isSoundEntry.data.toList.drop 115 = dktX1_isSoundEntry_5 := dk_seg dksX1_isSoundEntry_4 24 rfl rfl
theorem dksX1_isSoundEntry_6 : cX1_isSoundEntry.data.toList.drop 138 = dktX1_isSoundEntry_6 := dk_seg dksX1_isSoundEntry_5 23 rfl rfl
theorem dX1_isSoundEntry_0 : decode cX1_isSoundEntry 0 = .ok (.aload_n 0, 1) := dk_42 (dk_at dksX1_isSoundEntry_0 0 rfl rfl)
theorem dX1_isSoundEntry_1 : decode cX1_isSoundEntry 1 = .ok (.getfield 36, 3) := dk_180 0 36 (dk_at dksX1_isSoundEntry_0 1 rfl rfl)
theorem dX1_isSoundEntry_4 : decode cX1_isSoundEntry 4 = .ok (.iload_n 1, 1) := dk_27 (dk_at dksX1_isSoundEntry_0 4 rfl rfl)
theorem dX1_isSoundEntry_5 : decode cX1_isSoundEntry 5 = .ok (.invokevirtual 122, 3) := dk_182 0 122 (dk_at dksX1_isSoundEntry_0 5 rfl rfl)
theorem dX1_isSoundEntry_8 : decode cX1_isSoundEntry 8 = .ok (.checkcast 145, 3) := dk_192 0 145 (dk_at dksX1_isSoundEntry_0 8 rfl rfl)
theorem dX1_isSoundEntry_11 : decode cX1_isSoundEntry 11 = .ok (.astore_n 2, 1) := dk_77 (dk_at dksX1_isSoundEntry_0 11 rfl rfl)
theorem dX1_isSoundEntry_12 : decode cX1_isSoundEntry 12 = .ok (.aload_n 2, 1) := dk_44 (dk_at dksX1_isSoundEntry_0 12 rfl rfl)
theorem dX1_isSoundEntry_13 : decode cX1_isSoundEntry 13 = .ok (.getfield 150, 3) := dk_180 0 150 (dk_at dksX1_isSoundEntry_0 13 rfl rfl)
theorem dX1_isSoundEntry_16 : decode cX1_isSoundEntry 16 = .ok (.bipush 119, 2) := dk_16 119 (dk_at dksX1_isSoundEntry_0 16 rfl rfl)
theorem dX1_isSoundEntry_18 : decode cX1_isSoundEntry 18 = .ok (.if_icmp .ne 18, 3) := dk_160 0 18 (dk_at dksX1_isSoundEntry_0 18 rfl rfl)
theorem dX1_isSoundEntry_21 : decode cX1_isSoundEntry 21 = .ok (.aload_n 2, 1) := dk_44 (dk_at dksX1_isSoundEntry_0 21 rfl rfl)
theorem dX1_isSoundEntry_22 : decode cX1_isSoundEntry 22 = .ok (.invokevirtual 208, 3) := dk_182 0 208 (dk_at dksX1_isSoundEntry_1 0 rfl rfl)
theorem dX1_isSoundEntry_25 : decode cX1_isSoundEntry 25 = .ok (.bipush 111, 2) := dk_16 111 (dk_at dksX1_isSoundEntry_1 3 rfl rfl)
theorem dX1_isSoundEntry_27 : decode cX1_isSoundEntry 27 = .ok (.if_icmp .eq 7, 3) := dk_159 0 7 (dk_at dksX1_isSoundEntry_1 5 rfl rfl)
theorem dX1_isSoundEntry_30 : decode cX1_isSoundEntry 30 = .ok (.iconst 1, 1) := dk_4 (dk_at dksX1_isSoundEntry_1 8 rfl rfl)
theorem dX1_isSoundEntry_31 : decode cX1_isSoundEntry 31 = .ok (.goto 4, 3) := dk_167 0 4 (dk_at dksX1_isSoundEntry_1 9 rfl rfl)
theorem dX1_isSoundEntry_34 : decode cX1_isSoundEntry 34 = .ok (.iconst 0, 1) := dk_3 (dk_at dksX1_isSoundEntry_1 12 rfl rfl)
theorem dX1_isSoundEntry_35 : decode cX1_isSoundEntry 35 = .ok (.ireturn, 1) := dk_172 (dk_at dksX1_isSoundEntry_1 13 rfl rfl)
theorem dX1_isSoundEntry_36 : decode cX1_isSoundEntry 36 = .ok (.aload_n 2, 1) := dk_44 (dk_at dksX1_isSoundEntry_1 14 rfl rfl)
theorem dX1_isSoundEntry_37 : decode cX1_isSoundEntry 37 = .ok (.getfield 150, 3) := dk_180 0 150 (dk_at dksX1_isSoundEntry_1 15 rfl rfl)
theorem dX1_isSoundEntry_40 : decode cX1_isSoundEntry 40 = .ok (.bipush 98, 2) := dk_16 98 (dk_at dksX1_isSoundEntry_1 18 rfl rfl)
theorem dX1_isSoundEntry_42 : decode cX1_isSoundEntry 42 = .ok (.if_icmp .eq 5, 3) := dk_159 0 5 (dk_at dksX1_isSoundEntry_1 20 rfl rfl)
theorem dX1_isSoundEntry_45 : decode cX1_isSoundEntry 45 = .ok (.iconst 1, 1) := dk_4 (dk_at dksX1_isSoundEntry_1 23 rfl rfl)
theorem dX1_isSoundEntry_46 : decode cX1_isSoundEntry 46 = .ok (.ireturn, 1) := dk_172 (dk_at dksX1_isSoundEntry_2 0 rfl rfl)
theorem dX1_isSoundEntry_47 : decode cX1_isSoundEntry 47 = .ok (.aload_n 2, 1) := dk_44 (dk_at dksX1_isSoundEntry_2 1 rfl rfl)
theorem dX1_isSoundEntry_48 : decode cX1_isSoundEntry 48 = .ok (.invokevirtual 227, 3) := dk_182 0 227 (dk_at dksX1_isSoundEntry_2 2 rfl rfl)
theorem dX1_isSoundEntry_51 : decode cX1_isSoundEntry 51 = .ok (.istore_n 3, 1) := dk_62 (dk_at dksX1_isSoundEntry_2 5 rfl rfl)
theorem dX1_isSoundEntry_52 : decode cX1_isSoundEntry 52 = .ok (.iconst 0, 1) := dk_3 (dk_at dksX1_isSoundEntry_2 6 rfl rfl)
theorem dX1_isSoundEntry_53 : decode cX1_isSoundEntry 53 = .ok (.istore 4, 2) := dk_54 4 (dk_at dksX1_isSoundEntry_2 7 rfl rfl)
theorem dX1_isSoundEntry_55 : decode cX1_isSoundEntry 55 = .ok (.iload 4, 2) := dk_21 4 (dk_at dksX1_isSoundEntry_2 9 rfl rfl)
theorem dX1_isSoundEntry_57 : decode cX1_isSoundEntry 57 = .ok (.iload_n 1, 1) := dk_27 (dk_at dksX1_isSoundEntry_2 11 rfl rfl)
theorem dX1_isSoundEntry_58 : decode cX1_isSoundEntry 58 = .ok (.if_icmp .ge 95, 3) := dk_162 0 95 (dk_at dksX1_isSoundEntry_2 12 rfl rfl)
theorem dX1_isSoundEntry_61 : decode cX1_isSoundEntry 61 = .ok (.iload_n 3, 1) := dk_29 (dk_at dksX1_isSoundEntry_2 15 rfl rfl)
theorem dX1_isSoundEntry_62 : decode cX1_isSoundEntry 62 = .ok (.ifCond .eq 91, 3) := dk_153 0 91 (dk_at dksX1_isSoundEntry_2 16 rfl rfl)
theorem dX1_isSoundEntry_65 : decode cX1_isSoundEntry 65 = .ok (.aload_n 0, 1) := dk_42 (dk_at dksX1_isSoundEntry_2 19 rfl rfl)
theorem dX1_isSoundEntry_66 : decode cX1_isSoundEntry 66 = .ok (.getfield 36, 3) := dk_180 0 36 (dk_at dksX1_isSoundEntry_2 20 rfl rfl)
theorem dX1_isSoundEntry_69 : decode cX1_isSoundEntry 69 = .ok (.iload 4, 2) := dk_21 4 (dk_at dksX1_isSoundEntry_3 0 rfl rfl)
theorem dX1_isSoundEntry_71 : decode cX1_isSoundEntry 71 = .ok (.invokevirtual 122, 3) := dk_182 0 122 (dk_at dksX1_isSoundEntry_3 2 rfl rfl)
theorem dX1_isSoundEntry_74 : decode cX1_isSoundEntry 74 = .ok (.checkcast 145, 3) := dk_192 0 145 (dk_at dksX1_isSoundEntry_3 5 rfl rfl)
theorem dX1_isSoundEntry_77 : decode cX1_isSoundEntry 77 = .ok (.astore 5, 2) := dk_58 5 (dk_at dksX1_isSoundEntry_3 8 rfl rfl)
theorem dX1_isSoundEntry_79 : decode cX1_isSoundEntry 79 = .ok (.aload 5, 2) := dk_25 5 (dk_at dksX1_isSoundEntry_3 10 rfl rfl)
theorem dX1_isSoundEntry_81 : decode cX1_isSoundEntry 81 = .ok (.getfield 150, 3) := dk_180 0 150 (dk_at dksX1_isSoundEntry_3 12 rfl rfl)
theorem dX1_isSoundEntry_84 : decode cX1_isSoundEntry 84 = .ok (.bipush 98, 2) := dk_16 98 (dk_at dksX1_isSoundEntry_3 15 rfl rfl)
theorem dX1_isSoundEntry_86 : decode cX1_isSoundEntry 86 = .ok (.if_icmp .ne 55, 3) := dk_160 0 55 (dk_at dksX1_isSoundEntry_3 17 rfl rfl)
theorem dX1_isSoundEntry_89 : decode cX1_isSoundEntry 89 = .ok (.aload 5, 2) := dk_25 5 (dk_at dksX1_isSoundEntry_3 20 rfl rfl)
theorem dX1_isSoundEntry_91 : decode cX1_isSoundEntry 91 = .ok (.getfield 154, 3) := dk_180 0 154 (dk_at dksX1_isSoundEntry_4 0 rfl rfl)
theorem dX1_isSoundEntry_94 : decode cX1_isSoundEntry 94 = .ok (.aload_n 2, 1) := dk_44 (dk_at dksX1_isSoundEntry_4 3 rfl rfl)
theorem dX1_isSoundEntry_95 : decode cX1_isSoundEntry 95 = .ok (.getfield 154, 3) := dk_180 0 154 (dk_at dksX1_isSoundEntry_4 4 rfl rfl)
theorem dX1_isSoundEntry_98 : decode cX1_isSoundEntry 98 = .ok (.if_icmp .ne 43, 3) := dk_160 0 43 (dk_at dksX1_isSoundEntry_4 7 rfl rfl)
theorem dX1_isSoundEntry_101 : decode cX1_isSoundEntry 101 = .ok (.aload 5, 2) := dk_25 5 (dk_at dksX1_isSoundEntry_4 10 rfl rfl)
theorem dX1_isSoundEntry_103 : decode cX1_isSoundEntry 103 = .ok (.getfield 147, 3) := dk_180 0 147 (dk_at dksX1_isSoundEntry_4 12 rfl rfl)
theorem dX1_isSoundEntry_106 : decode cX1_isSoundEntry 106 = .ok (.aload_n 2, 1) := dk_44 (dk_at dksX1_isSoundEntry_4 15 rfl rfl)
theorem dX1_isSoundEntry_107 : decode cX1_isSoundEntry 107 = .ok (.getfield 147, 3) := dk_180 0 147 (dk_at dksX1_isSoundEntry_4 16 rfl rfl)
theorem dX1_isSoundEntry_110 : decode cX1_isSoundEntry 110 = .ok (.if_icmp .eq 15, 3) := dk_159 0 15 (dk_at dksX1_isSoundEntry_4 19 rfl rfl)
theorem dX1_isSoundEntry_113 : decode cX1_isSoundEntry 113 = .ok (.aload 5, 2) := dk_25 5 (dk_at dksX1_isSoundEntry_4 22 rfl rfl)
theorem dX1_isSoundEntry_115 : decode cX1_isSoundEntry 115 = .ok (.getfield 194, 3) := dk_180 0 194 (dk_at dksX1_isSoundEntry_5 0 rfl rfl)
theorem dX1_isSoundEntry_118 : decode cX1_isSoundEntry 118 = .ok (.aload_n 2, 1) := dk_44 (dk_at dksX1_isSoundEntry_5 3 rfl rfl)
theorem dX1_isSoundEntry_119 : decode cX1_isSoundEntry 119 = .ok (.getfield 194, 3) := dk_180 0 194 (dk_at dksX1_isSoundEntry_5 4 rfl rfl)
theorem dX1_isSoundEntry_122 : decode cX1_isSoundEntry 122 = .ok (.if_icmp .ne 19, 3) := dk_160 0 19 (dk_at dksX1_isSoundEntry_5 7 rfl rfl)
theorem dX1_isSoundEntry_125 : decode cX1_isSoundEntry 125 = .ok (.aload 5, 2) := dk_25 5 (dk_at dksX1_isSoundEntry_5 10 rfl rfl)
theorem dX1_isSoundEntry_127 : decode cX1_isSoundEntry 127 = .ok (.aload_n 2, 1) := dk_44 (dk_at dksX1_isSoundEntry_5 12 rfl rfl)
theorem dX1_isSoundEntry_128 : decode cX1_isSoundEntry 128 = .ok (.getfield 178, 3) := dk_180 0 178 (dk_at dksX1_isSoundEntry_5 13 rfl rfl)
theorem dX1_isSoundEntry_131 : decode cX1_isSoundEntry 131 = .ok (.aload_n 2, 1) := dk_44 (dk_at dksX1_isSoundEntry_5 16 rfl rfl)
theorem dX1_isSoundEntry_132 : decode cX1_isSoundEntry 132 = .ok (.invokevirtual 191, 3) := dk_182 0 191 (dk_at dksX1_isSoundEntry_5 17 rfl rfl)
theorem dX1_isSoundEntry_135 : decode cX1_isSoundEntry 135 = .ok (.invokevirtual 157, 3) := dk_182 0 157 (dk_at dksX1_isSoundEntry_5 20 rfl rfl)
theorem dX1_isSoundEntry_138 : decode cX1_isSoundEntry 138 = .ok (.ifCond .ne 7, 3) := dk_154 0 7 (dk_at dksX1_isSoundEntry_6 0 rfl rfl)
theorem dX1_isSoundEntry_141 : decode cX1_isSoundEntry 141 = .ok (.iconst 1, 1) := dk_4 (dk_at dksX1_isSoundEntry_6 3 rfl rfl)
theorem dX1_isSoundEntry_142 : decode cX1_isSoundEntry 142 = .ok (.goto 4, 3) := dk_167 0 4 (dk_at dksX1_isSoundEntry_6 4 rfl rfl)
theorem dX1_isSoundEntry_145 : decode cX1_isSoundEntry 145 = .ok (.iconst 0, 1) := dk_3 (dk_at dksX1_isSoundEntry_6 7 rfl rfl)
theorem dX1_isSoundEntry_146 : decode cX1_isSoundEntry 146 = .ok (.istore_n 3, 1) := dk_62 (dk_at dksX1_isSoundEntry_6 8 rfl rfl)
theorem dX1_isSoundEntry_147 : decode cX1_isSoundEntry 147 = .ok (.iinc 4 1, 3) := dk_132 4 1 (dk_at dksX1_isSoundEntry_6 9 rfl rfl)
theorem dX1_isSoundEntry_150 : decode cX1_isSoundEntry 150 = .ok (.goto (-95), 3) := dk_167 255 161 (dk_at dksX1_isSoundEntry_6 12 rfl rfl)
theorem dX1_isSoundEntry_153 : decode cX1_isSoundEntry 153 = .ok (.iload_n 3, 1) := dk_29 (dk_at dksX1_isSoundEntry_6 15 rfl rfl)
theorem dX1_isSoundEntry_154 : decode cX1_isSoundEntry 154 = .ok (.ireturn, 1) := dk_172 (dk_at dksX1_isSoundEntry_6 16 rfl rfl)
abbrev cX1_checks : ByteArray := prog_1_method_21_code
def yX1_checks : MethodName := ⟨RX1, "checks", "(IIIIIC)C"⟩
def dkwX1_checks_2 : List UInt8 := [132, 7, 1, 167, 255, 211, 16, 111, 172]
abbrev dktX1_checks_2 : List UInt8 := dkwX1_checks_2 ++ []
def dkwX1_checks_1 : List UInt8 := [21, 4, 21, 5, 21, 6, 185, 0, 197, 7, 0, 153, 0, 11, 18, 200, 21, 7, 182, 0, 202, 172]
abbrev dktX1_checks_1 : List UInt8 := dkwX1_checks_1 ++ dktX1_checks_2
def dkwX1_checks_0 : List UInt8 := [3, 54, 7, 21, 7, 42, 180, 0, 65, 190, 162, 0, 41, 42, 180, 0, 65, 21, 7, 50, 27, 28, 29]
abbrev dktX1_checks_0 : List UInt8 := dkwX1_checks_0 ++ dktX1_checks_1
theorem dksX1_checks_0 : cX1_checks.data.toList.drop 0 = dktX1_checks_0 := by decide +kernel
theorem dksX1_checks_1 : cX1_checks.data.toList.drop 23 = dktX1_checks_1 := dk_seg dksX1_checks_0 23 rfl rfl
theorem dksX1_checks_2 : cX1_checks.data.toList.drop 45 = dktX1_checks_2 := dk_seg dksX1_checks_1 22 rfl rfl
theorem dX1_checks_0 : decode cX1_checks 0 = .ok (.iconst 0, 1) := dk_3 (dk_at dksX1_checks_0 0 rfl rfl)
theorem dX1_checks_1 : decode cX1_checks 1 = .ok (.istore 7, 2) := dk_54 7 (dk_at dksX1_checks_0 1 rfl rfl)
theorem dX1_checks_3 : decode cX1_checks 3 = .ok (.iload 7, 2) := dk_21 7 (dk_at dksX1_checks_0 3 rfl rfl)
theorem dX1_checks_5 : decode cX1_checks 5 = .ok (.aload_n 0, 1) := dk_42 (dk_at dksX1_checks_0 5 rfl rfl)
theorem dX1_checks_6 : decode cX1_checks 6 = .ok (.getfield 65, 3) := dk_180 0 65 (dk_at dksX1_checks_0 6 rfl rfl)
theorem dX1_checks_9 : decode cX1_checks 9 = .ok (.arraylength, 1) := dk_190 (dk_at dksX1_checks_0 9 rfl rfl)
theorem dX1_checks_10 : decode cX1_checks 10 = .ok (.if_icmp .ge 41, 3) := dk_162 0 41 (dk_at dksX1_checks_0 10 rfl rfl)
theorem dX1_checks_13 : decode cX1_checks 13 = .ok (.aload_n 0, 1) := dk_42 (dk_at dksX1_checks_0 13 rfl rfl)
theorem dX1_checks_14 : decode cX1_checks 14 = .ok (.getfield 65, 3) := dk_180 0 65 (dk_at dksX1_checks_0 14 rfl rfl)
theorem dX1_checks_17 : decode cX1_checks 17 = .ok (.iload 7, 2) := dk_21 7 (dk_at dksX1_checks_0 17 rfl rfl)
theorem dX1_checks_19 : decode cX1_checks 19 = .ok (.aaload, 1) := dk_50 (dk_at dksX1_checks_0 19 rfl rfl)
theorem dX1_checks_20 : decode cX1_checks 20 = .ok (.iload_n 1, 1) := dk_27 (dk_at dksX1_checks_0 20 rfl rfl)
theorem dX1_checks_21 : decode cX1_checks 21 = .ok (.iload_n 2, 1) := dk_28 (dk_at dksX1_checks_0 21 rfl rfl)
theorem dX1_checks_22 : decode cX1_checks 22 = .ok (.iload_n 3, 1) := dk_29 (dk_at dksX1_checks_0 22 rfl rfl)
theorem dX1_checks_23 : decode cX1_checks 23 = .ok (.iload 4, 2) := dk_21 4 (dk_at dksX1_checks_1 0 rfl rfl)
theorem dX1_checks_25 : decode cX1_checks 25 = .ok (.iload 5, 2) := dk_21 5 (dk_at dksX1_checks_1 2 rfl rfl)
theorem dX1_checks_27 : decode cX1_checks 27 = .ok (.iload 6, 2) := dk_21 6 (dk_at dksX1_checks_1 4 rfl rfl)
theorem dX1_checks_29 : decode cX1_checks 29 = .ok (.invokeinterface 197 7, 5) := by decide +kernel
theorem dX1_checks_34 : decode cX1_checks 34 = .ok (.ifCond .eq 11, 3) := dk_153 0 11 (dk_at dksX1_checks_1 11 rfl rfl)
theorem dX1_checks_37 : decode cX1_checks 37 = .ok (.ldc 200, 2) := dk_18 200 (dk_at dksX1_checks_1 14 rfl rfl)
theorem dX1_checks_39 : decode cX1_checks 39 = .ok (.iload 7, 2) := dk_21 7 (dk_at dksX1_checks_1 16 rfl rfl)
theorem dX1_checks_41 : decode cX1_checks 41 = .ok (.invokevirtual 202, 3) := dk_182 0 202 (dk_at dksX1_checks_1 18 rfl rfl)
theorem dX1_checks_44 : decode cX1_checks 44 = .ok (.ireturn, 1) := dk_172 (dk_at dksX1_checks_1 21 rfl rfl)
theorem dX1_checks_45 : decode cX1_checks 45 = .ok (.iinc 7 1, 3) := dk_132 7 1 (dk_at dksX1_checks_2 0 rfl rfl)
theorem dX1_checks_48 : decode cX1_checks 48 = .ok (.goto (-45), 3) := dk_167 255 211 (dk_at dksX1_checks_2 3 rfl rfl)
theorem dX1_checks_51 : decode cX1_checks 51 = .ok (.bipush 111, 2) := dk_16 111 (dk_at dksX1_checks_2 6 rfl rfl)
theorem dX1_checks_53 : decode cX1_checks 53 = .ok (.ireturn, 1) := dk_172 (dk_at dksX1_checks_2 8 rfl rfl)
abbrev cX1_freeBy : ByteArray := prog_1_method_62_code
def yX1_freeBy : MethodName := ⟨RX1, "freeBy", "(I)I"⟩
def dkwX1_freeBy_2 : List UInt8 := [132, 3, 1, 167, 255, 224, 28, 172]
abbrev dktX1_freeBy_2 : List UInt8 := dkwX1_freeBy_2 ++ []
def dkwX1_freeBy_1 : List UInt8 := [182, 0, 141, 162, 0, 27, 28, 42, 180, 0, 36, 29, 182, 0, 122, 192, 0, 145, 27, 182, 1, 81, 100, 61]
abbrev dktX1_freeBy_1 : List UInt8 := dkwX1_freeBy_1 ++ dktX1_freeBy_2
def dkwX1_freeBy_0 : List UInt8 := [42, 180, 0, 39, 27, 182, 0, 122, 192, 1, 61, 180, 1, 79, 61, 3, 62, 29, 42, 180, 0, 36]
abbrev dktX1_freeBy_0 : List UInt8 := dkwX1_freeBy_0 ++ dktX1_freeBy_1
theorem dksX1_freeBy_0 : cX1_freeBy.data.toList.drop 0 = dktX1_freeBy_0 := by decide +kernel
theorem dksX1_freeBy_1 : cX1_freeBy.data.toList.drop 22 = dktX1_freeBy_1 := dk_seg dksX1_freeBy_0 22 rfl rfl
theorem dksX1_freeBy_2 : cX1_freeBy.data.toList.drop 46 = dktX1_freeBy_2 := dk_seg dksX1_freeBy_1 24 rfl rfl
theorem dX1_freeBy_0 : decode cX1_freeBy 0 = .ok (.aload_n 0, 1) := dk_42 (dk_at dksX1_freeBy_0 0 rfl rfl)
theorem dX1_freeBy_1 : decode cX1_freeBy 1 = .ok (.getfield 39, 3) := dk_180 0 39 (dk_at dksX1_freeBy_0 1 rfl rfl)
theorem dX1_freeBy_4 : decode cX1_freeBy 4 = .ok (.iload_n 1, 1) := dk_27 (dk_at dksX1_freeBy_0 4 rfl rfl)
theorem dX1_freeBy_5 : decode cX1_freeBy 5 = .ok (.invokevirtual 122, 3) := dk_182 0 122 (dk_at dksX1_freeBy_0 5 rfl rfl)
theorem dX1_freeBy_8 : decode cX1_freeBy 8 = .ok (.checkcast 317, 3) := dk_192 1 61 (dk_at dksX1_freeBy_0 8 rfl rfl)
theorem dX1_freeBy_11 : decode cX1_freeBy 11 = .ok (.getfield 335, 3) := dk_180 1 79 (dk_at dksX1_freeBy_0 11 rfl rfl)
theorem dX1_freeBy_14 : decode cX1_freeBy 14 = .ok (.istore_n 2, 1) := dk_61 (dk_at dksX1_freeBy_0 14 rfl rfl)
theorem dX1_freeBy_15 : decode cX1_freeBy 15 = .ok (.iconst 0, 1) := dk_3 (dk_at dksX1_freeBy_0 15 rfl rfl)
theorem dX1_freeBy_16 : decode cX1_freeBy 16 = .ok (.istore_n 3, 1) := dk_62 (dk_at dksX1_freeBy_0 16 rfl rfl)
theorem dX1_freeBy_17 : decode cX1_freeBy 17 = .ok (.iload_n 3, 1) := dk_29 (dk_at dksX1_freeBy_0 17 rfl rfl)
theorem dX1_freeBy_18 : decode cX1_freeBy 18 = .ok (.aload_n 0, 1) := dk_42 (dk_at dksX1_freeBy_0 18 rfl rfl)
theorem dX1_freeBy_19 : decode cX1_freeBy 19 = .ok (.getfield 36, 3) := dk_180 0 36 (dk_at dksX1_freeBy_0 19 rfl rfl)
theorem dX1_freeBy_22 : decode cX1_freeBy 22 = .ok (.invokevirtual 141, 3) := dk_182 0 141 (dk_at dksX1_freeBy_1 0 rfl rfl)
theorem dX1_freeBy_25 : decode cX1_freeBy 25 = .ok (.if_icmp .ge 27, 3) := dk_162 0 27 (dk_at dksX1_freeBy_1 3 rfl rfl)
theorem dX1_freeBy_28 : decode cX1_freeBy 28 = .ok (.iload_n 2, 1) := dk_28 (dk_at dksX1_freeBy_1 6 rfl rfl)
theorem dX1_freeBy_29 : decode cX1_freeBy 29 = .ok (.aload_n 0, 1) := dk_42 (dk_at dksX1_freeBy_1 7 rfl rfl)
theorem dX1_freeBy_30 : decode cX1_freeBy 30 = .ok (.getfield 36, 3) := dk_180 0 36 (dk_at dksX1_freeBy_1 8 rfl rfl)
theorem dX1_freeBy_33 : decode cX1_freeBy 33 = .ok (.iload_n 3, 1) := dk_29 (dk_at dksX1_freeBy_1 11 rfl rfl)
theorem dX1_freeBy_34 : decode cX1_freeBy 34 = .ok (.invokevirtual 122, 3) := dk_182 0 122 (dk_at dksX1_freeBy_1 12 rfl rfl)
theorem dX1_freeBy_37 : decode cX1_freeBy 37 = .ok (.checkcast 145, 3) := dk_192 0 145 (dk_at dksX1_freeBy_1 15 rfl rfl)
theorem dX1_freeBy_40 : decode cX1_freeBy 40 = .ok (.iload_n 1, 1) := dk_27 (dk_at dksX1_freeBy_1 18 rfl rfl)
theorem dX1_freeBy_41 : decode cX1_freeBy 41 = .ok (.invokevirtual 337, 3) := dk_182 1 81 (dk_at dksX1_freeBy_1 19 rfl rfl)
theorem dX1_freeBy_44 : decode cX1_freeBy 44 = .ok (.isub, 1) := dk_100 (dk_at dksX1_freeBy_1 22 rfl rfl)
theorem dX1_freeBy_45 : decode cX1_freeBy 45 = .ok (.istore_n 2, 1) := dk_61 (dk_at dksX1_freeBy_1 23 rfl rfl)
theorem dX1_freeBy_46 : decode cX1_freeBy 46 = .ok (.iinc 3 1, 3) := dk_132 3 1 (dk_at dksX1_freeBy_2 0 rfl rfl)
theorem dX1_freeBy_49 : decode cX1_freeBy 49 = .ok (.goto (-32), 3) := dk_167 255 224 (dk_at dksX1_freeBy_2 3 rfl rfl)
theorem dX1_freeBy_52 : decode cX1_freeBy 52 = .ok (.iload_n 2, 1) := dk_28 (dk_at dksX1_freeBy_2 6 rfl rfl)
theorem dX1_freeBy_53 : decode cX1_freeBy 53 = .ok (.ireturn, 1) := dk_172 (dk_at dksX1_freeBy_2 7 rfl rfl)
abbrev cX1_owesBy : ByteArray := prog_1_method_70_code
def yX1_owesBy : MethodName := ⟨RX1, "owesBy", "(I)I"⟩
def dkwX1_owesBy_4 : List UInt8 := [46, 96, 61, 132, 3, 1, 167, 255, 234, 28, 172]
abbrev dktX1_owesBy_4 : List UInt8 := dkwX1_owesBy_4 ++ []
def dkwX1_owesBy_3 : List UInt8 := [132, 3, 1, 167, 255, 203, 3, 62, 29, 42, 180, 1, 88, 162, 0, 20, 28, 42, 180, 0, 71, 29, 50, 27]
abbrev dktX1_owesBy_3 : List UInt8 := dkwX1_owesBy_3 ++ dktX1_owesBy_4
def dkwX1_owesBy_2 : List UInt8 := [160, 0, 20, 42, 180, 0, 36, 29, 182, 0, 122, 192, 0, 145, 180, 1, 116, 167, 0, 4, 3, 96, 61]
abbrev dktX1_owesBy_2 : List UInt8 := dkwX1_owesBy_2 ++ dktX1_owesBy_3
def dkwX1_owesBy_1 : List UInt8 := [182, 0, 141, 162, 0, 48, 28, 42, 180, 0, 36, 29, 182, 0, 122, 192, 0, 145, 180, 0, 147, 27]
abbrev dktX1_owesBy_1 : List UInt8 := dkwX1_owesBy_1 ++ dktX1_owesBy_2
def dkwX1_owesBy_0 : List UInt8 := [42, 180, 0, 33, 27, 182, 0, 122, 192, 0, 132, 180, 1, 110, 116, 61, 3, 62, 29, 42, 180, 0, 36]
abbrev dktX1_owesBy_0 : List UInt8 := dkwX1_owesBy_0 ++ dktX1_owesBy_1
theorem dksX1_owesBy_0 : cX1_owesBy.data.toList.drop 0 = dktX1_owesBy_0 := by decide +kernel
theorem dksX1_owesBy_1 : cX1_owesBy.data.toList.drop 23 = dktX1_owesBy_1 := dk_seg dksX1_owesBy_0 23 rfl rfl
theorem dksX1_owesBy_2 : cX1_owesBy.data.toList.drop 45 = dktX1_owesBy_2 := dk_seg dksX1_owesBy_1 22 rfl rfl
theorem dksX1_owesBy_3 : cX1_owesBy.data.toList.drop 68 = dktX1_owesBy_3 := dk_seg dksX1_owesBy_2 23 rfl rfl
theorem dksX1_owesBy_4 : cX1_owesBy.data.toList.drop 92 = dktX1_owesBy_4 := dk_seg dksX1_owesBy_3 24 rfl rfl
theorem dX1_owesBy_0 : decode cX1_owesBy 0 = .ok (.aload_n 0, 1) := dk_42 (dk_at dksX1_owesBy_0 0 rfl rfl)
theorem dX1_owesBy_1 : decode cX1_owesBy 1 = .ok (.getfield 33, 3) := dk_180 0 33 (dk_at dksX1_owesBy_0 1 rfl rfl)
theorem dX1_owesBy_4 : decode cX1_owesBy 4 = .ok (.iload_n 1, 1) := dk_27 (dk_at dksX1_owesBy_0 4 rfl rfl)
theorem dX1_owesBy_5 : decode cX1_owesBy 5 = .ok (.invokevirtual 122, 3) := dk_182 0 122 (dk_at dksX1_owesBy_0 5 rfl rfl)
theorem dX1_owesBy_8 : decode cX1_owesBy 8 = .ok (.checkcast 132, 3) := dk_192 0 132 (dk_at dksX1_owesBy_0 8 rfl rfl)
theorem dX1_owesBy_11 : decode cX1_owesBy 11 = .ok (.getfield 366, 3) := dk_180 1 110 (dk_at dksX1_owesBy_0 11 rfl rfl)
theorem dX1_owesBy_14 : decode cX1_owesBy 14 = .ok (.ineg, 1) := dk_116 (dk_at dksX1_owesBy_0 14 rfl rfl)
theorem dX1_owesBy_15 : decode cX1_owesBy 15 = .ok (.istore_n 2, 1) := dk_61 (dk_at dksX1_owesBy_0 15 rfl rfl)
theorem dX1_owesBy_16 : decode cX1_owesBy 16 = .ok (.iconst 0, 1) := dk_3 (dk_at dksX1_owesBy_0 16 rfl rfl)
theorem dX1_owesBy_17 : decode cX1_owesBy 17 = .ok (.istore_n 3, 1) := dk_62 (dk_at dksX1_owesBy_0 17 rfl rfl)
theorem dX1_owesBy_18 : decode cX1_owesBy 18 = .ok (.iload_n 3, 1) := dk_29 (dk_at dksX1_owesBy_0 18 rfl rfl)
theorem dX1_owesBy_19 : decode cX1_owesBy 19 = .ok (.aload_n 0, 1) := dk_42 (dk_at dksX1_owesBy_0 19 rfl rfl)
theorem dX1_owesBy_20 : decode cX1_owesBy 20 = .ok (.getfield 36, 3) := dk_180 0 36 (dk_at dksX1_owesBy_0 20 rfl rfl)
theorem dX1_owesBy_23 : decode cX1_owesBy 23 = .ok (.invokevirtual 141, 3) := dk_182 0 141 (dk_at dksX1_owesBy_1 0 rfl rfl)
theorem dX1_owesBy_26 : decode cX1_owesBy 26 = .ok (.if_icmp .ge 48, 3) := dk_162 0 48 (dk_at dksX1_owesBy_1 3 rfl rfl)
theorem dX1_owesBy_29 : decode cX1_owesBy 29 = .ok (.iload_n 2, 1) := dk_28 (dk_at dksX1_owesBy_1 6 rfl rfl)
theorem dX1_owesBy_30 : decode cX1_owesBy 30 = .ok (.aload_n 0, 1) := dk_42 (dk_at dksX1_owesBy_1 7 rfl rfl)
theorem dX1_owesBy_31 : decode cX1_owesBy 31 = .ok (.getfield 36, 3) := dk_180 0 36 (dk_at dksX1_owesBy_1 8 rfl rfl)
theorem dX1_owesBy_34 : decode cX1_owesBy 34 = .ok (.iload_n 3, 1) := dk_29 (dk_at dksX1_owesBy_1 11 rfl rfl)
theorem dX1_owesBy_35 : decode cX1_owesBy 35 = .ok (.invokevirtual 122, 3) := dk_182 0 122 (dk_at dksX1_owesBy_1 12 rfl rfl)
theorem dX1_owesBy_38 : decode cX1_owesBy 38 = .ok (.checkcast 145, 3) := dk_192 0 145 (dk_at dksX1_owesBy_1 15 rfl rfl)
theorem dX1_owesBy_41 : decode cX1_owesBy 41 = .ok (.getfield 147, 3) := dk_180 0 147 (dk_at dksX1_owesBy_1 18 rfl rfl)
theorem dX1_owesBy_44 : decode cX1_owesBy 44 = .ok (.iload_n 1, 1) := dk_27 (dk_at dksX1_owesBy_1 21 rfl rfl)
theorem dX1_owesBy_45 : decode cX1_owesBy 45 = .ok (.if_icmp .ne 20, 3) := dk_160 0 20 (dk_at dksX1_owesBy_2 0 rfl rfl)
theorem dX1_owesBy_48 : decode cX1_owesBy 48 = .ok (.aload_n 0, 1) := dk_42 (dk_at dksX1_owesBy_2 3 rfl rfl)
theorem dX1_owesBy_49 : decode cX1_owesBy 49 = .ok (.getfield 36, 3) := dk_180 0 36 (dk_at dksX1_owesBy_2 4 rfl rfl)
theorem dX1_owesBy_52 : decode cX1_owesBy 52 = .ok (.iload_n 3, 1) := dk_29 (dk_at dksX1_owesBy_2 7 rfl rfl)
theorem dX1_owesBy_53 : decode cX1_owesBy 53 = .ok (.invokevirtual 122, 3) := dk_182 0 122 (dk_at dksX1_owesBy_2 8 rfl rfl)
theorem dX1_owesBy_56 : decode cX1_owesBy 56 = .ok (.checkcast 145, 3) := dk_192 0 145 (dk_at dksX1_owesBy_2 11 rfl rfl)
theorem dX1_owesBy_59 : decode cX1_owesBy 59 = .ok (.getfield 372, 3) := dk_180 1 116 (dk_at dksX1_owesBy_2 14 rfl rfl)
theorem dX1_owesBy_62 : decode cX1_owesBy 62 = .ok (.goto 4, 3) := dk_167 0 4 (dk_at dksX1_owesBy_2 17 rfl rfl)
theorem dX1_owesBy_65 : decode cX1_owesBy 65 = .ok (.iconst 0, 1) := dk_3 (dk_at dksX1_owesBy_2 20 rfl rfl)
theorem dX1_owesBy_66 : decode cX1_owesBy 66 = .ok (.iadd, 1) := dk_96 (dk_at dksX1_owesBy_2 21 rfl rfl)
theorem dX1_owesBy_67 : decode cX1_owesBy 67 = .ok (.istore_n 2, 1) := dk_61 (dk_at dksX1_owesBy_2 22 rfl rfl)
theorem dX1_owesBy_68 : decode cX1_owesBy 68 = .ok (.iinc 3 1, 3) := dk_132 3 1 (dk_at dksX1_owesBy_3 0 rfl rfl)
theorem dX1_owesBy_71 : decode cX1_owesBy 71 = .ok (.goto (-53), 3) := dk_167 255 203 (dk_at dksX1_owesBy_3 3 rfl rfl)
theorem dX1_owesBy_74 : decode cX1_owesBy 74 = .ok (.iconst 0, 1) := dk_3 (dk_at dksX1_owesBy_3 6 rfl rfl)
theorem dX1_owesBy_75 : decode cX1_owesBy 75 = .ok (.istore_n 3, 1) := dk_62 (dk_at dksX1_owesBy_3 7 rfl rfl)
theorem dX1_owesBy_76 : decode cX1_owesBy 76 = .ok (.iload_n 3, 1) := dk_29 (dk_at dksX1_owesBy_3 8 rfl rfl)
theorem dX1_owesBy_77 : decode cX1_owesBy 77 = .ok (.aload_n 0, 1) := dk_42 (dk_at dksX1_owesBy_3 9 rfl rfl)
theorem dX1_owesBy_78 : decode cX1_owesBy 78 = .ok (.getfield 344, 3) := dk_180 1 88 (dk_at dksX1_owesBy_3 10 rfl rfl)
theorem dX1_owesBy_81 : decode cX1_owesBy 81 = .ok (.if_icmp .ge 20, 3) := dk_162 0 20 (dk_at dksX1_owesBy_3 13 rfl rfl)
theorem dX1_owesBy_84 : decode cX1_owesBy 84 = .ok (.iload_n 2, 1) := dk_28 (dk_at dksX1_owesBy_3 16 rfl rfl)
theorem dX1_owesBy_85 : decode cX1_owesBy 85 = .ok (.aload_n 0, 1) := dk_42 (dk_at dksX1_owesBy_3 17 rfl rfl)
theorem dX1_owesBy_86 : decode cX1_owesBy 86 = .ok (.getfield 71, 3) := dk_180 0 71 (dk_at dksX1_owesBy_3 18 rfl rfl)
theorem dX1_owesBy_89 : decode cX1_owesBy 89 = .ok (.iload_n 3, 1) := dk_29 (dk_at dksX1_owesBy_3 21 rfl rfl)
theorem dX1_owesBy_90 : decode cX1_owesBy 90 = .ok (.aaload, 1) := dk_50 (dk_at dksX1_owesBy_3 22 rfl rfl)
theorem dX1_owesBy_91 : decode cX1_owesBy 91 = .ok (.iload_n 1, 1) := dk_27 (dk_at dksX1_owesBy_3 23 rfl rfl)
theorem dX1_owesBy_92 : decode cX1_owesBy 92 = .ok (.iaload, 1) := dk_46 (dk_at dksX1_owesBy_4 0 rfl rfl)
theorem dX1_owesBy_93 : decode cX1_owesBy 93 = .ok (.iadd, 1) := dk_96 (dk_at dksX1_owesBy_4 1 rfl rfl)
theorem dX1_owesBy_94 : decode cX1_owesBy 94 = .ok (.istore_n 2, 1) := dk_61 (dk_at dksX1_owesBy_4 2 rfl rfl)
theorem dX1_owesBy_95 : decode cX1_owesBy 95 = .ok (.iinc 3 1, 3) := dk_132 3 1 (dk_at dksX1_owesBy_4 3 rfl rfl)
theorem dX1_owesBy_98 : decode cX1_owesBy 98 = .ok (.goto (-22), 3) := dk_167 255 234 (dk_at dksX1_owesBy_4 6 rfl rfl)
theorem dX1_owesBy_101 : decode cX1_owesBy 101 = .ok (.iload_n 2, 1) := dk_28 (dk_at dksX1_owesBy_4 9 rfl rfl)
theorem dX1_owesBy_102 : decode cX1_owesBy 102 = .ok (.ireturn, 1) := dk_172 (dk_at dksX1_owesBy_4 10 rfl rfl)
abbrev cX1_usedOn : ByteArray := prog_1_method_48_code
def yX1_usedOn : MethodName := ⟨RX1, "usedOn", "(II)I"⟩
def dkwX1_usedOn_2 : List UInt8 := [167, 255, 226, 29, 172]
abbrev dktX1_usedOn_2 : List UInt8 := dkwX1_usedOn_2 ++ []
def dkwX1_usedOn_1 : List UInt8 := [153, 0, 26, 25, 4, 185, 0, 174, 1, 0, 192, 0, 145, 58, 5, 29, 25, 5, 180, 1, 40, 96, 62]
abbrev dktX1_usedOn_1 : List UInt8 := dkwX1_usedOn_1 ++ dktX1_usedOn_2
def dkwX1_usedOn_0 : List UInt8 := [3, 62, 42, 180, 0, 53, 27, 28, 182, 0, 160, 182, 0, 164, 58, 4, 25, 4, 185, 0, 168, 1, 0]
abbrev dktX1_usedOn_0 : List UInt8 := dkwX1_usedOn_0 ++ dktX1_usedOn_1
theorem dksX1_usedOn_0 : cX1_usedOn.data.toList.drop 0 = dktX1_usedOn_0 := by decide +kernel
theorem dksX1_usedOn_1 : cX1_usedOn.data.toList.drop 23 = dktX1_usedOn_1 := dk_seg dksX1_usedOn_0 23 rfl rfl
theorem dksX1_usedOn_2 : cX1_usedOn.data.toList.drop 46 = dktX1_usedOn_2 := dk_seg dksX1_usedOn_1 23 rfl rfl
theorem dX1_usedOn_0 : decode cX1_usedOn 0 = .ok (.iconst 0, 1) := dk_3 (dk_at dksX1_usedOn_0 0 rfl rfl)
theorem dX1_usedOn_1 : decode cX1_usedOn 1 = .ok (.istore_n 3, 1) := dk_62 (dk_at dksX1_usedOn_0 1 rfl rfl)
theorem dX1_usedOn_2 : decode cX1_usedOn 2 = .ok (.aload_n 0, 1) := dk_42 (dk_at dksX1_usedOn_0 2 rfl rfl)
theorem dX1_usedOn_3 : decode cX1_usedOn 3 = .ok (.getfield 53, 3) := dk_180 0 53 (dk_at dksX1_usedOn_0 3 rfl rfl)
theorem dX1_usedOn_6 : decode cX1_usedOn 6 = .ok (.iload_n 1, 1) := dk_27 (dk_at dksX1_usedOn_0 6 rfl rfl)
theorem dX1_usedOn_7 : decode cX1_usedOn 7 = .ok (.iload_n 2, 1) := dk_28 (dk_at dksX1_usedOn_0 7 rfl rfl)
theorem dX1_usedOn_8 : decode cX1_usedOn 8 = .ok (.invokevirtual 160, 3) := dk_182 0 160 (dk_at dksX1_usedOn_0 8 rfl rfl)
theorem dX1_usedOn_11 : decode cX1_usedOn 11 = .ok (.invokevirtual 164, 3) := dk_182 0 164 (dk_at dksX1_usedOn_0 11 rfl rfl)
theorem dX1_usedOn_14 : decode cX1_usedOn 14 = .ok (.astore 4, 2) := dk_58 4 (dk_at dksX1_usedOn_0 14 rfl rfl)
theorem dX1_usedOn_16 : decode cX1_usedOn 16 = .ok (.aload 4, 2) := dk_25 4 (dk_at dksX1_usedOn_0 16 rfl rfl)
theorem dX1_usedOn_18 : decode cX1_usedOn 18 = .ok (.invokeinterface 168 1, 5) := by decide +kernel
theorem dX1_usedOn_23 : decode cX1_usedOn 23 = .ok (.ifCond .eq 26, 3) := dk_153 0 26 (dk_at dksX1_usedOn_1 0 rfl rfl)
theorem dX1_usedOn_26 : decode cX1_usedOn 26 = .ok (.aload 4, 2) := dk_25 4 (dk_at dksX1_usedOn_1 3 rfl rfl)
theorem dX1_usedOn_28 : decode cX1_usedOn 28 = .ok (.invokeinterface 174 1, 5) := by decide +kernel
theorem dX1_usedOn_33 : decode cX1_usedOn 33 = .ok (.checkcast 145, 3) := dk_192 0 145 (dk_at dksX1_usedOn_1 10 rfl rfl)
theorem dX1_usedOn_36 : decode cX1_usedOn 36 = .ok (.astore 5, 2) := dk_58 5 (dk_at dksX1_usedOn_1 13 rfl rfl)
theorem dX1_usedOn_38 : decode cX1_usedOn 38 = .ok (.iload_n 3, 1) := dk_29 (dk_at dksX1_usedOn_1 15 rfl rfl)
theorem dX1_usedOn_39 : decode cX1_usedOn 39 = .ok (.aload 5, 2) := dk_25 5 (dk_at dksX1_usedOn_1 16 rfl rfl)
theorem dX1_usedOn_41 : decode cX1_usedOn 41 = .ok (.getfield 296, 3) := dk_180 1 40 (dk_at dksX1_usedOn_1 18 rfl rfl)
theorem dX1_usedOn_44 : decode cX1_usedOn 44 = .ok (.iadd, 1) := dk_96 (dk_at dksX1_usedOn_1 21 rfl rfl)
theorem dX1_usedOn_45 : decode cX1_usedOn 45 = .ok (.istore_n 3, 1) := dk_62 (dk_at dksX1_usedOn_1 22 rfl rfl)
theorem dX1_usedOn_46 : decode cX1_usedOn 46 = .ok (.goto (-30), 3) := dk_167 255 226 (dk_at dksX1_usedOn_2 0 rfl rfl)
theorem dX1_usedOn_49 : decode cX1_usedOn 49 = .ok (.iload_n 3, 1) := dk_29 (dk_at dksX1_usedOn_2 3 rfl rfl)
theorem dX1_usedOn_50 : decode cX1_usedOn 50 = .ok (.ireturn, 1) := dk_172 (dk_at dksX1_usedOn_2 4 rfl rfl)
abbrev cX1_usedBy : ByteArray := prog_1_method_49_code
def yX1_usedBy : MethodName := ⟨RX1, "usedBy", "(II)I"⟩
def dkwX1_usedBy_2 : List UInt8 := [29, 172]
abbrev dktX1_usedBy_2 : List UInt8 := dkwX1_usedBy_2 ++ []
def dkwX1_usedBy_1 : List UInt8 := [42, 21, 4, 182, 1, 38, 16, 98, 160, 0, 7, 4, 167, 0, 4, 3, 96, 62, 132, 4, 1, 167, 255, 226]
abbrev dktX1_usedBy_1 : List UInt8 := dkwX1_usedBy_1 ++ dktX1_usedBy_2
def dkwX1_usedBy_0 : List UInt8 := [42, 180, 0, 53, 27, 28, 182, 0, 160, 87, 3, 62, 3, 54, 4, 21, 4, 17, 1, 224, 162, 0, 28, 29]
abbrev dktX1_usedBy_0 : List UInt8 := dkwX1_usedBy_0 ++ dktX1_usedBy_1
theorem dksX1_usedBy_0 : cX1_usedBy.data.toList.drop 0 = dktX1_usedBy_0 := by decide +kernel
theorem dksX1_usedBy_1 : cX1_usedBy.data.toList.drop 24 = dktX1_usedBy_1 := dk_seg dksX1_usedBy_0 24 rfl rfl
theorem dksX1_usedBy_2 : cX1_usedBy.data.toList.drop 48 = dktX1_usedBy_2 := dk_seg dksX1_usedBy_1 24 rfl rfl
theorem dX1_usedBy_0 : decode cX1_usedBy 0 = .ok (.aload_n 0, 1) := dk_42 (dk_at dksX1_usedBy_0 0 rfl rfl)
theorem dX1_usedBy_1 : decode cX1_usedBy 1 = .ok (.getfield 53, 3) := dk_180 0 53 (dk_at dksX1_usedBy_0 1 rfl rfl)
theorem dX1_usedBy_4 : decode cX1_usedBy 4 = .ok (.iload_n 1, 1) := dk_27 (dk_at dksX1_usedBy_0 4 rfl rfl)
theorem dX1_usedBy_5 : decode cX1_usedBy 5 = .ok (.iload_n 2, 1) := dk_28 (dk_at dksX1_usedBy_0 5 rfl rfl)
theorem dX1_usedBy_6 : decode cX1_usedBy 6 = .ok (.invokevirtual 160, 3) := dk_182 0 160 (dk_at dksX1_usedBy_0 6 rfl rfl)
theorem dX1_usedBy_9 : decode cX1_usedBy 9 = .ok (.pop, 1) := dk_87 (dk_at dksX1_usedBy_0 9 rfl rfl)
theorem dX1_usedBy_10 : decode cX1_usedBy 10 = .ok (.iconst 0, 1) := dk_3 (dk_at dksX1_usedBy_0 10 rfl rfl)
theorem dX1_usedBy_11 : decode cX1_usedBy 11 = .ok (.istore_n 3, 1) := dk_62 (dk_at dksX1_usedBy_0 11 rfl rfl)
theorem dX1_usedBy_12 : decode cX1_usedBy 12 = .ok (.iconst 0, 1) := dk_3 (dk_at dksX1_usedBy_0 12 rfl rfl)
theorem dX1_usedBy_13 : decode cX1_usedBy 13 = .ok (.istore 4, 2) := dk_54 4 (dk_at dksX1_usedBy_0 13 rfl rfl)
theorem dX1_usedBy_15 : decode cX1_usedBy 15 = .ok (.iload 4, 2) := dk_21 4 (dk_at dksX1_usedBy_0 15 rfl rfl)
theorem dX1_usedBy_17 : decode cX1_usedBy 17 = .ok (.sipush 480, 3) := dk_17 1 224 (dk_at dksX1_usedBy_0 17 rfl rfl)
theorem dX1_usedBy_20 : decode cX1_usedBy 20 = .ok (.if_icmp .ge 28, 3) := dk_162 0 28 (dk_at dksX1_usedBy_0 20 rfl rfl)
theorem dX1_usedBy_23 : decode cX1_usedBy 23 = .ok (.iload_n 3, 1) := dk_29 (dk_at dksX1_usedBy_0 23 rfl rfl)
theorem dX1_usedBy_24 : decode cX1_usedBy 24 = .ok (.aload_n 0, 1) := dk_42 (dk_at dksX1_usedBy_1 0 rfl rfl)
theorem dX1_usedBy_25 : decode cX1_usedBy 25 = .ok (.iload 4, 2) := dk_21 4 (dk_at dksX1_usedBy_1 1 rfl rfl)
theorem dX1_usedBy_27 : decode cX1_usedBy 27 = .ok (.invokevirtual 294, 3) := dk_182 1 38 (dk_at dksX1_usedBy_1 3 rfl rfl)
theorem dX1_usedBy_30 : decode cX1_usedBy 30 = .ok (.bipush 98, 2) := dk_16 98 (dk_at dksX1_usedBy_1 6 rfl rfl)
theorem dX1_usedBy_32 : decode cX1_usedBy 32 = .ok (.if_icmp .ne 7, 3) := dk_160 0 7 (dk_at dksX1_usedBy_1 8 rfl rfl)
theorem dX1_usedBy_35 : decode cX1_usedBy 35 = .ok (.iconst 1, 1) := dk_4 (dk_at dksX1_usedBy_1 11 rfl rfl)
theorem dX1_usedBy_36 : decode cX1_usedBy 36 = .ok (.goto 4, 3) := dk_167 0 4 (dk_at dksX1_usedBy_1 12 rfl rfl)
theorem dX1_usedBy_39 : decode cX1_usedBy 39 = .ok (.iconst 0, 1) := dk_3 (dk_at dksX1_usedBy_1 15 rfl rfl)
theorem dX1_usedBy_40 : decode cX1_usedBy 40 = .ok (.iadd, 1) := dk_96 (dk_at dksX1_usedBy_1 16 rfl rfl)
theorem dX1_usedBy_41 : decode cX1_usedBy 41 = .ok (.istore_n 3, 1) := dk_62 (dk_at dksX1_usedBy_1 17 rfl rfl)
theorem dX1_usedBy_42 : decode cX1_usedBy 42 = .ok (.iinc 4 1, 3) := dk_132 4 1 (dk_at dksX1_usedBy_1 18 rfl rfl)
theorem dX1_usedBy_45 : decode cX1_usedBy 45 = .ok (.goto (-30), 3) := dk_167 255 226 (dk_at dksX1_usedBy_1 21 rfl rfl)
theorem dX1_usedBy_48 : decode cX1_usedBy 48 = .ok (.iload_n 3, 1) := dk_29 (dk_at dksX1_usedBy_2 0 rfl rfl)
theorem dX1_usedBy_49 : decode cX1_usedBy 49 = .ok (.ireturn, 1) := dk_172 (dk_at dksX1_usedBy_2 1 rfl rfl)
abbrev cX1_state : ByteArray := prog_1_method_46_code
def yX1_state : MethodName := ⟨RX1, "state", "(I)C"⟩
def dkwX1_state_5 : List UInt8 := [167, 255, 155, 16, 102, 172]
abbrev dktX1_state_5 : List UInt8 := dkwX1_state_5 ++ []
def dkwX1_state_4 : List UInt8 := [25, 4, 180, 0, 178, 21, 5, 100, 161, 0, 8, 16, 115, 167, 0, 5, 16, 102, 172, 25, 4, 77]
abbrev dktX1_state_4 : List UInt8 := dkwX1_state_4 ++ dktX1_state_5
def dkwX1_state_3 : List UInt8 := [180, 0, 181, 25, 4, 180, 0, 181, 182, 0, 184, 54, 5, 27, 25, 4, 180, 0, 178, 162, 0, 23, 27]
abbrev dktX1_state_3 : List UInt8 := dkwX1_state_3 ++ dktX1_state_4
def dkwX1_state_2 : List UInt8 := [182, 0, 191, 162, 0, 6, 16, 98, 172, 44, 199, 0, 7, 3, 167, 0, 21, 42, 25, 4, 180, 0, 194, 44]
abbrev dktX1_state_2 : List UInt8 := dkwX1_state_2 ++ dktX1_state_3
def dkwX1_state_1 : List UInt8 := [185, 0, 174, 1, 0, 192, 0, 145, 58, 4, 27, 25, 4, 180, 0, 178, 161, 0, 15, 27, 25, 4]
abbrev dktX1_state_1 : List UInt8 := dkwX1_state_1 ++ dktX1_state_2
def dkwX1_state_0 : List UInt8 := [1, 77, 42, 180, 0, 53, 182, 0, 164, 78, 45, 185, 0, 168, 1, 0, 153, 0, 98, 45]
abbrev dktX1_state_0 : List UInt8 := dkwX1_state_0 ++ dktX1_state_1
theorem dksX1_state_0 : cX1_state.data.toList.drop 0 = dktX1_state_0 := by decide +kernel
theorem dksX1_state_1 : cX1_state.data.toList.drop 20 = dktX1_state_1 := dk_seg dksX1_state_0 20 rfl rfl
theorem dksX1_state_2 : cX1_state.data.toList.drop 42 = dktX1_state_2 := dk_seg dksX1_state_1 22 rfl rfl
theorem dksX1_state_3 : cX1_state.data.toList.drop 66 = dktX1_state_3 := dk_seg dksX1_state_2 24 rfl rfl
theorem dksX1_state_4 : cX1_state.data.toList.drop 89 = dktX1_state_4 := dk_seg dksX1_state_3 23 rfl rfl
theorem dksX1_state_5 : cX1_state.data.toList.drop 111 = dktX1_state_5 := dk_seg dksX1_state_4 22 rfl rfl
theorem dX1_state_0 : decode cX1_state 0 = .ok (.aconst_null, 1) := dk_1 (dk_at dksX1_state_0 0 rfl rfl)
theorem dX1_state_1 : decode cX1_state 1 = .ok (.astore_n 2, 1) := dk_77 (dk_at dksX1_state_0 1 rfl rfl)
theorem dX1_state_2 : decode cX1_state 2 = .ok (.aload_n 0, 1) := dk_42 (dk_at dksX1_state_0 2 rfl rfl)
theorem dX1_state_3 : decode cX1_state 3 = .ok (.getfield 53, 3) := dk_180 0 53 (dk_at dksX1_state_0 3 rfl rfl)
theorem dX1_state_6 : decode cX1_state 6 = .ok (.invokevirtual 164, 3) := dk_182 0 164 (dk_at dksX1_state_0 6 rfl rfl)
theorem dX1_state_9 : decode cX1_state 9 = .ok (.astore_n 3, 1) := dk_78 (dk_at dksX1_state_0 9 rfl rfl)
theorem dX1_state_10 : decode cX1_state 10 = .ok (.aload_n 3, 1) := dk_45 (dk_at dksX1_state_0 10 rfl rfl)
theorem dX1_state_11 : decode cX1_state 11 = .ok (.invokeinterface 168 1, 5) := by decide +kernel
theorem dX1_state_16 : decode cX1_state 16 = .ok (.ifCond .eq 98, 3) := dk_153 0 98 (dk_at dksX1_state_0 16 rfl rfl)
theorem dX1_state_19 : decode cX1_state 19 = .ok (.aload_n 3, 1) := dk_45 (dk_at dksX1_state_0 19 rfl rfl)
theorem dX1_state_20 : decode cX1_state 20 = .ok (.invokeinterface 174 1, 5) := by decide +kernel
theorem dX1_state_25 : decode cX1_state 25 = .ok (.checkcast 145, 3) := dk_192 0 145 (dk_at dksX1_state_1 5 rfl rfl)
theorem dX1_state_28 : decode cX1_state 28 = .ok (.astore 4, 2) := dk_58 4 (dk_at dksX1_state_1 8 rfl rfl)
theorem dX1_state_30 : decode cX1_state 30 = .ok (.iload_n 1, 1) := dk_27 (dk_at dksX1_state_1 10 rfl rfl)
theorem dX1_state_31 : decode cX1_state 31 = .ok (.aload 4, 2) := dk_25 4 (dk_at dksX1_state_1 11 rfl rfl)
theorem dX1_state_33 : decode cX1_state 33 = .ok (.getfield 178, 3) := dk_180 0 178 (dk_at dksX1_state_1 13 rfl rfl)
theorem dX1_state_36 : decode cX1_state 36 = .ok (.if_icmp .lt 15, 3) := dk_161 0 15 (dk_at dksX1_state_1 16 rfl rfl)
theorem dX1_state_39 : decode cX1_state 39 = .ok (.iload_n 1, 1) := dk_27 (dk_at dksX1_state_1 19 rfl rfl)
theorem dX1_state_40 : decode cX1_state 40 = .ok (.aload 4, 2) := dk_25 4 (dk_at dksX1_state_1 20 rfl rfl)
theorem dX1_state_42 : decode cX1_state 42 = .ok (.invokevirtual 191, 3) := dk_182 0 191 (dk_at dksX1_state_2 0 rfl rfl)
theorem dX1_state_45 : decode cX1_state 45 = .ok (.if_icmp .ge 6, 3) := dk_162 0 6 (dk_at dksX1_state_2 3 rfl rfl)
theorem dX1_state_48 : decode cX1_state 48 = .ok (.bipush 98, 2) := dk_16 98 (dk_at dksX1_state_2 6 rfl rfl)
theorem dX1_state_50 : decode cX1_state 50 = .ok (.ireturn, 1) := dk_172 (dk_at dksX1_state_2 8 rfl rfl)
theorem dX1_state_51 : decode cX1_state 51 = .ok (.aload_n 2, 1) := dk_44 (dk_at dksX1_state_2 9 rfl rfl)
theorem dX1_state_52 : decode cX1_state 52 = .ok (.ifnonnull 7, 3) := dk_199 0 7 (dk_at dksX1_state_2 10 rfl rfl)
theorem dX1_state_55 : decode cX1_state 55 = .ok (.iconst 0, 1) := dk_3 (dk_at dksX1_state_2 13 rfl rfl)
theorem dX1_state_56 : decode cX1_state 56 = .ok (.goto 21, 3) := dk_167 0 21 (dk_at dksX1_state_2 14 rfl rfl)
theorem dX1_state_59 : decode cX1_state 59 = .ok (.aload_n 0, 1) := dk_42 (dk_at dksX1_state_2 17 rfl rfl)
theorem dX1_state_60 : decode cX1_state 60 = .ok (.aload 4, 2) := dk_25 4 (dk_at dksX1_state_2 18 rfl rfl)
theorem dX1_state_62 : decode cX1_state 62 = .ok (.getfield 194, 3) := dk_180 0 194 (dk_at dksX1_state_2 20 rfl rfl)
theorem dX1_state_65 : decode cX1_state 65 = .ok (.aload_n 2, 1) := dk_44 (dk_at dksX1_state_2 23 rfl rfl)
theorem dX1_state_66 : decode cX1_state 66 = .ok (.getfield 181, 3) := dk_180 0 181 (dk_at dksX1_state_3 0 rfl rfl)
theorem dX1_state_69 : decode cX1_state 69 = .ok (.aload 4, 2) := dk_25 4 (dk_at dksX1_state_3 3 rfl rfl)
theorem dX1_state_71 : decode cX1_state 71 = .ok (.getfield 181, 3) := dk_180 0 181 (dk_at dksX1_state_3 5 rfl rfl)
theorem dX1_state_74 : decode cX1_state 74 = .ok (.invokevirtual 184, 3) := dk_182 0 184 (dk_at dksX1_state_3 8 rfl rfl)
theorem dX1_state_77 : decode cX1_state 77 = .ok (.istore 5, 2) := dk_54 5 (dk_at dksX1_state_3 11 rfl rfl)
theorem dX1_state_79 : decode cX1_state 79 = .ok (.iload_n 1, 1) := dk_27 (dk_at dksX1_state_3 13 rfl rfl)
theorem dX1_state_80 : decode cX1_state 80 = .ok (.aload 4, 2) := dk_25 4 (dk_at dksX1_state_3 14 rfl rfl)
theorem dX1_state_82 : decode cX1_state 82 = .ok (.getfield 178, 3) := dk_180 0 178 (dk_at dksX1_state_3 16 rfl rfl)
theorem dX1_state_85 : decode cX1_state 85 = .ok (.if_icmp .ge 23, 3) := dk_162 0 23 (dk_at dksX1_state_3 19 rfl rfl)
theorem dX1_state_88 : decode cX1_state 88 = .ok (.iload_n 1, 1) := dk_27 (dk_at dksX1_state_3 22 rfl rfl)
theorem dX1_state_89 : decode cX1_state 89 = .ok (.aload 4, 2) := dk_25 4 (dk_at dksX1_state_4 0 rfl rfl)
theorem dX1_state_91 : decode cX1_state 91 = .ok (.getfield 178, 3) := dk_180 0 178 (dk_at dksX1_state_4 2 rfl rfl)
theorem dX1_state_94 : decode cX1_state 94 = .ok (.iload 5, 2) := dk_21 5 (dk_at dksX1_state_4 5 rfl rfl)
theorem dX1_state_96 : decode cX1_state 96 = .ok (.isub, 1) := dk_100 (dk_at dksX1_state_4 7 rfl rfl)
theorem dX1_state_97 : decode cX1_state 97 = .ok (.if_icmp .lt 8, 3) := dk_161 0 8 (dk_at dksX1_state_4 8 rfl rfl)
theorem dX1_state_100 : decode cX1_state 100 = .ok (.bipush 115, 2) := dk_16 115 (dk_at dksX1_state_4 11 rfl rfl)
theorem dX1_state_102 : decode cX1_state 102 = .ok (.goto 5, 3) := dk_167 0 5 (dk_at dksX1_state_4 13 rfl rfl)
theorem dX1_state_105 : decode cX1_state 105 = .ok (.bipush 102, 2) := dk_16 102 (dk_at dksX1_state_4 16 rfl rfl)
theorem dX1_state_107 : decode cX1_state 107 = .ok (.ireturn, 1) := dk_172 (dk_at dksX1_state_4 18 rfl rfl)
theorem dX1_state_108 : decode cX1_state 108 = .ok (.aload 4, 2) := dk_25 4 (dk_at dksX1_state_4 19 rfl rfl)
theorem dX1_state_110 : decode cX1_state 110 = .ok (.astore_n 2, 1) := dk_77 (dk_at dksX1_state_4 21 rfl rfl)
theorem dX1_state_111 : decode cX1_state 111 = .ok (.goto (-101), 3) := dk_167 255 155 (dk_at dksX1_state_5 0 rfl rfl)
theorem dX1_state_114 : decode cX1_state 114 = .ok (.bipush 102, 2) := dk_16 102 (dk_at dksX1_state_5 3 rfl rfl)
theorem dX1_state_116 : decode cX1_state 116 = .ok (.ireturn, 1) := dk_172 (dk_at dksX1_state_5 5 rfl rfl)
abbrev cX1_addMachine : ByteArray := prog_1_method_27_code
def yX1_addMachine : MethodName := ⟨RX1, "addMachine", "(II)I"⟩
def dkwX1_addMachine_3 : List UInt8 := [100, 172]
abbrev dktX1_addMachine_3 : List UInt8 := dkwX1_addMachine_3 ++ []
def dkwX1_addMachine_2 : List UInt8 := [180, 0, 29, 187, 0, 126, 89, 27, 28, 183, 0, 216, 182, 0, 219, 87, 42, 180, 0, 29, 182, 0, 141, 4]
abbrev dktX1_addMachine_2 : List UInt8 := dkwX1_addMachine_2 ++ dktX1_addMachine_3
def dkwX1_addMachine_1 : List UInt8 := [184, 0, 94, 42, 180, 0, 29, 182, 0, 141, 16, 6, 162, 0, 7, 4, 167, 0, 4, 3, 184, 0, 98, 42]
abbrev dktX1_addMachine_1 : List UInt8 := dkwX1_addMachine_1 ++ dktX1_addMachine_2
def dkwX1_addMachine_0 : List UInt8 := [27, 184, 0, 86, 153, 0, 17, 28, 3, 16, 30, 184, 0, 90, 153, 0, 7, 4, 167, 0, 4, 3]
abbrev dktX1_addMachine_0 : List UInt8 := dkwX1_addMachine_0 ++ dktX1_addMachine_1
theorem dksX1_addMachine_0 : cX1_addMachine.data.toList.drop 0 = dktX1_addMachine_0 := by decide +kernel
theorem dksX1_addMachine_1 : cX1_addMachine.data.toList.drop 22 = dktX1_addMachine_1 := dk_seg dksX1_addMachine_0 22 rfl rfl
theorem dksX1_addMachine_2 : cX1_addMachine.data.toList.drop 46 = dktX1_addMachine_2 := dk_seg dksX1_addMachine_1 24 rfl rfl
theorem dksX1_addMachine_3 : cX1_addMachine.data.toList.drop 70 = dktX1_addMachine_3 := dk_seg dksX1_addMachine_2 24 rfl rfl
theorem dX1_addMachine_0 : decode cX1_addMachine 0 = .ok (.iload_n 1, 1) := dk_27 (dk_at dksX1_addMachine_0 0 rfl rfl)
theorem dX1_addMachine_1 : decode cX1_addMachine 1 = .ok (.invokestatic 86, 3) := dk_184 0 86 (dk_at dksX1_addMachine_0 1 rfl rfl)
theorem dX1_addMachine_4 : decode cX1_addMachine 4 = .ok (.ifCond .eq 17, 3) := dk_153 0 17 (dk_at dksX1_addMachine_0 4 rfl rfl)
theorem dX1_addMachine_7 : decode cX1_addMachine 7 = .ok (.iload_n 2, 1) := dk_28 (dk_at dksX1_addMachine_0 7 rfl rfl)
theorem dX1_addMachine_8 : decode cX1_addMachine 8 = .ok (.iconst 0, 1) := dk_3 (dk_at dksX1_addMachine_0 8 rfl rfl)
theorem dX1_addMachine_9 : decode cX1_addMachine 9 = .ok (.bipush 30, 2) := dk_16 30 (dk_at dksX1_addMachine_0 9 rfl rfl)
theorem dX1_addMachine_11 : decode cX1_addMachine 11 = .ok (.invokestatic 90, 3) := dk_184 0 90 (dk_at dksX1_addMachine_0 11 rfl rfl)
theorem dX1_addMachine_14 : decode cX1_addMachine 14 = .ok (.ifCond .eq 7, 3) := dk_153 0 7 (dk_at dksX1_addMachine_0 14 rfl rfl)
theorem dX1_addMachine_17 : decode cX1_addMachine 17 = .ok (.iconst 1, 1) := dk_4 (dk_at dksX1_addMachine_0 17 rfl rfl)
theorem dX1_addMachine_18 : decode cX1_addMachine 18 = .ok (.goto 4, 3) := dk_167 0 4 (dk_at dksX1_addMachine_0 18 rfl rfl)
theorem dX1_addMachine_21 : decode cX1_addMachine 21 = .ok (.iconst 0, 1) := dk_3 (dk_at dksX1_addMachine_0 21 rfl rfl)
theorem dX1_addMachine_22 : decode cX1_addMachine 22 = .ok (.invokestatic 94, 3) := dk_184 0 94 (dk_at dksX1_addMachine_1 0 rfl rfl)
theorem dX1_addMachine_25 : decode cX1_addMachine 25 = .ok (.aload_n 0, 1) := dk_42 (dk_at dksX1_addMachine_1 3 rfl rfl)
theorem dX1_addMachine_26 : decode cX1_addMachine 26 = .ok (.getfield 29, 3) := dk_180 0 29 (dk_at dksX1_addMachine_1 4 rfl rfl)
theorem dX1_addMachine_29 : decode cX1_addMachine 29 = .ok (.invokevirtual 141, 3) := dk_182 0 141 (dk_at dksX1_addMachine_1 7 rfl rfl)
theorem dX1_addMachine_32 : decode cX1_addMachine 32 = .ok (.bipush 6, 2) := dk_16 6 (dk_at dksX1_addMachine_1 10 rfl rfl)
theorem dX1_addMachine_34 : decode cX1_addMachine 34 = .ok (.if_icmp .ge 7, 3) := dk_162 0 7 (dk_at dksX1_addMachine_1 12 rfl rfl)
theorem dX1_addMachine_37 : decode cX1_addMachine 37 = .ok (.iconst 1, 1) := dk_4 (dk_at dksX1_addMachine_1 15 rfl rfl)
theorem dX1_addMachine_38 : decode cX1_addMachine 38 = .ok (.goto 4, 3) := dk_167 0 4 (dk_at dksX1_addMachine_1 16 rfl rfl)
theorem dX1_addMachine_41 : decode cX1_addMachine 41 = .ok (.iconst 0, 1) := dk_3 (dk_at dksX1_addMachine_1 19 rfl rfl)
theorem dX1_addMachine_42 : decode cX1_addMachine 42 = .ok (.invokestatic 98, 3) := dk_184 0 98 (dk_at dksX1_addMachine_1 20 rfl rfl)
theorem dX1_addMachine_45 : decode cX1_addMachine 45 = .ok (.aload_n 0, 1) := dk_42 (dk_at dksX1_addMachine_1 23 rfl rfl)
theorem dX1_addMachine_46 : decode cX1_addMachine 46 = .ok (.getfield 29, 3) := dk_180 0 29 (dk_at dksX1_addMachine_2 0 rfl rfl)
theorem dX1_addMachine_49 : decode cX1_addMachine 49 = .ok (.new 126, 3) := dk_187 0 126 (dk_at dksX1_addMachine_2 3 rfl rfl)
theorem dX1_addMachine_52 : decode cX1_addMachine 52 = .ok (.dup, 1) := dk_89 (dk_at dksX1_addMachine_2 6 rfl rfl)
theorem dX1_addMachine_53 : decode cX1_addMachine 53 = .ok (.iload_n 1, 1) := dk_27 (dk_at dksX1_addMachine_2 7 rfl rfl)
theorem dX1_addMachine_54 : decode cX1_addMachine 54 = .ok (.iload_n 2, 1) := dk_28 (dk_at dksX1_addMachine_2 8 rfl rfl)
theorem dX1_addMachine_55 : decode cX1_addMachine 55 = .ok (.invokespecial 216, 3) := dk_183 0 216 (dk_at dksX1_addMachine_2 9 rfl rfl)
theorem dX1_addMachine_58 : decode cX1_addMachine 58 = .ok (.invokevirtual 219, 3) := dk_182 0 219 (dk_at dksX1_addMachine_2 12 rfl rfl)
theorem dX1_addMachine_61 : decode cX1_addMachine 61 = .ok (.pop, 1) := dk_87 (dk_at dksX1_addMachine_2 15 rfl rfl)
theorem dX1_addMachine_62 : decode cX1_addMachine 62 = .ok (.aload_n 0, 1) := dk_42 (dk_at dksX1_addMachine_2 16 rfl rfl)
theorem dX1_addMachine_63 : decode cX1_addMachine 63 = .ok (.getfield 29, 3) := dk_180 0 29 (dk_at dksX1_addMachine_2 17 rfl rfl)
theorem dX1_addMachine_66 : decode cX1_addMachine 66 = .ok (.invokevirtual 141, 3) := dk_182 0 141 (dk_at dksX1_addMachine_2 20 rfl rfl)
theorem dX1_addMachine_69 : decode cX1_addMachine 69 = .ok (.iconst 1, 1) := dk_4 (dk_at dksX1_addMachine_2 23 rfl rfl)
theorem dX1_addMachine_70 : decode cX1_addMachine 70 = .ok (.isub, 1) := dk_100 (dk_at dksX1_addMachine_3 0 rfl rfl)
theorem dX1_addMachine_71 : decode cX1_addMachine 71 = .ok (.ireturn, 1) := dk_172 (dk_at dksX1_addMachine_3 1 rfl rfl)
abbrev cX1_isKind : ByteArray := prog_1_method_9_code
def yX1_isKind : MethodName := ⟨RX1, "isKind", "(I)Z"⟩
def dkwX1_isKind_0 : List UInt8 := [26, 3, 6, 184, 0, 90, 172]
abbrev dktX1_isKind_0 : List UInt8 := dkwX1_isKind_0 ++ []
theorem dksX1_isKind_0 : cX1_isKind.data.toList.drop 0 = dktX1_isKind_0 := by decide +kernel
theorem dX1_isKind_0 : decode cX1_isKind 0 = .ok (.iload_n 0, 1) := dk_26 (dk_at dksX1_isKind_0 0 rfl rfl)
theorem dX1_isKind_1 : decode cX1_isKind 1 = .ok (.iconst 0, 1) := dk_3 (dk_at dksX1_isKind_0 1 rfl rfl)
theorem dX1_isKind_2 : decode cX1_isKind 2 = .ok (.iconst 3, 1) := dk_6 (dk_at dksX1_isKind_0 2 rfl rfl)
theorem dX1_isKind_3 : decode cX1_isKind 3 = .ok (.invokestatic 90, 3) := dk_184 0 90 (dk_at dksX1_isKind_0 3 rfl rfl)
theorem dX1_isKind_6 : decode cX1_isKind 6 = .ok (.ireturn, 1) := dk_172 (dk_at dksX1_isKind_0 6 rfl rfl)
abbrev cX1_in : ByteArray := prog_1_method_2_code
def yX1_in : MethodName := ⟨RX1, "in", "(III)Z"⟩
def dkwX1_in_0 : List UInt8 := [26, 27, 161, 0, 12, 26, 28, 163, 0, 7, 4, 167, 0, 4, 3, 172]
abbrev dktX1_in_0 : List UInt8 := dkwX1_in_0 ++ []
theorem dksX1_in_0 : cX1_in.data.toList.drop 0 = dktX1_in_0 := by decide +kernel
theorem dX1_in_0 : decode cX1_in 0 = .ok (.iload_n 0, 1) := dk_26 (dk_at dksX1_in_0 0 rfl rfl)
theorem dX1_in_1 : decode cX1_in 1 = .ok (.iload_n 1, 1) := dk_27 (dk_at dksX1_in_0 1 rfl rfl)
theorem dX1_in_2 : decode cX1_in 2 = .ok (.if_icmp .lt 12, 3) := dk_161 0 12 (dk_at dksX1_in_0 2 rfl rfl)
theorem dX1_in_5 : decode cX1_in 5 = .ok (.iload_n 0, 1) := dk_26 (dk_at dksX1_in_0 5 rfl rfl)
theorem dX1_in_6 : decode cX1_in 6 = .ok (.iload_n 2, 1) := dk_28 (dk_at dksX1_in_0 6 rfl rfl)
theorem dX1_in_7 : decode cX1_in 7 = .ok (.if_icmp .gt 7, 3) := dk_163 0 7 (dk_at dksX1_in_0 7 rfl rfl)
theorem dX1_in_10 : decode cX1_in 10 = .ok (.iconst 1, 1) := dk_4 (dk_at dksX1_in_0 10 rfl rfl)
theorem dX1_in_11 : decode cX1_in 11 = .ok (.goto 4, 3) := dk_167 0 4 (dk_at dksX1_in_0 11 rfl rfl)
theorem dX1_in_14 : decode cX1_in 14 = .ok (.iconst 0, 1) := dk_3 (dk_at dksX1_in_0 14 rfl rfl)
theorem dX1_in_15 : decode cX1_in 15 = .ok (.ireturn, 1) := dk_172 (dk_at dksX1_in_0 15 rfl rfl)
abbrev cX1_want : ByteArray := prog_1_method_3_code
def yX1_want : MethodName := ⟨RX1, "want", "(Z)V"⟩
def dkwX1_want_0 : List UInt8 := [26, 154, 0, 11, 187, 0, 74, 89, 183, 0, 76, 191, 177]
abbrev dktX1_want_0 : List UInt8 := dkwX1_want_0 ++ []
theorem dksX1_want_0 : cX1_want.data.toList.drop 0 = dktX1_want_0 := by decide +kernel
theorem dX1_want_0 : decode cX1_want 0 = .ok (.iload_n 0, 1) := dk_26 (dk_at dksX1_want_0 0 rfl rfl)
theorem dX1_want_1 : decode cX1_want 1 = .ok (.ifCond .ne 11, 3) := dk_154 0 11 (dk_at dksX1_want_0 1 rfl rfl)
theorem dX1_want_4 : decode cX1_want 4 = .ok (.new 74, 3) := dk_187 0 74 (dk_at dksX1_want_0 4 rfl rfl)
theorem dX1_want_7 : decode cX1_want 7 = .ok (.dup, 1) := dk_89 (dk_at dksX1_want_0 7 rfl rfl)
theorem dX1_want_8 : decode cX1_want 8 = .ok (.invokespecial 76, 3) := dk_183 0 76 (dk_at dksX1_want_0 8 rfl rfl)
theorem dX1_want_11 : decode cX1_want 11 = .ok (.athrow, 1) := dk_191 (dk_at dksX1_want_0 11 rfl rfl)
theorem dX1_want_12 : decode cX1_want 12 = .ok (.return_, 1) := dk_177 (dk_at dksX1_want_0 12 rfl rfl)
abbrev cX1_ready : ByteArray := prog_1_method_4_code
def yX1_ready : MethodName := ⟨RX1, "ready", "(Z)V"⟩
def dkwX1_ready_0 : List UInt8 := [26, 154, 0, 11, 187, 0, 77, 89, 183, 0, 79, 191, 177]
abbrev dktX1_ready_0 : List UInt8 := dkwX1_ready_0 ++ []
theorem dksX1_ready_0 : cX1_ready.data.toList.drop 0 = dktX1_ready_0 := by decide +kernel
theorem dX1_ready_0 : decode cX1_ready 0 = .ok (.iload_n 0, 1) := dk_26 (dk_at dksX1_ready_0 0 rfl rfl)
theorem dX1_ready_1 : decode cX1_ready 1 = .ok (.ifCond .ne 11, 3) := dk_154 0 11 (dk_at dksX1_ready_0 1 rfl rfl)
theorem dX1_ready_4 : decode cX1_ready 4 = .ok (.new 77, 3) := dk_187 0 77 (dk_at dksX1_ready_0 4 rfl rfl)
theorem dX1_ready_7 : decode cX1_ready 7 = .ok (.dup, 1) := dk_89 (dk_at dksX1_ready_0 7 rfl rfl)
theorem dX1_ready_8 : decode cX1_ready 8 = .ok (.invokespecial 79, 3) := dk_183 0 79 (dk_at dksX1_ready_0 8 rfl rfl)
theorem dX1_ready_11 : decode cX1_ready 11 = .ok (.athrow, 1) := dk_191 (dk_at dksX1_ready_0 11 rfl rfl)
theorem dX1_ready_12 : decode cX1_ready 12 = .ok (.return_, 1) := dk_177 (dk_at dksX1_ready_0 12 rfl rfl)
abbrev cX1_addMember : ByteArray := prog_1_method_28_code
def yX1_addMember : MethodName := ⟨RX1, "addMember", "()I"⟩
def dkwX1_addMember_1 : List UInt8 := [187, 0, 132, 89, 42, 183, 0, 223, 182, 0, 219, 87, 42, 180, 0, 33, 182, 0, 141, 4, 100, 172]
abbrev dktX1_addMember_1 : List UInt8 := dkwX1_addMember_1 ++ []
def dkwX1_addMember_0 : List UInt8 := [42, 180, 0, 33, 182, 0, 141, 16, 10, 162, 0, 7, 4, 167, 0, 4, 3, 184, 0, 98, 42, 180, 0, 33]
abbrev dktX1_addMember_0 : List UInt8 := dkwX1_addMember_0 ++ dktX1_addMember_1
theorem dksX1_addMember_0 : cX1_addMember.data.toList.drop 0 = dktX1_addMember_0 := by decide +kernel
theorem dksX1_addMember_1 : cX1_addMember.data.toList.drop 24 = dktX1_addMember_1 := dk_seg dksX1_addMember_0 24 rfl rfl
theorem dX1_addMember_0 : decode cX1_addMember 0 = .ok (.aload_n 0, 1) := dk_42 (dk_at dksX1_addMember_0 0 rfl rfl)
theorem dX1_addMember_1 : decode cX1_addMember 1 = .ok (.getfield 33, 3) := dk_180 0 33 (dk_at dksX1_addMember_0 1 rfl rfl)
theorem dX1_addMember_4 : decode cX1_addMember 4 = .ok (.invokevirtual 141, 3) := dk_182 0 141 (dk_at dksX1_addMember_0 4 rfl rfl)
theorem dX1_addMember_7 : decode cX1_addMember 7 = .ok (.bipush 10, 2) := dk_16 10 (dk_at dksX1_addMember_0 7 rfl rfl)
theorem dX1_addMember_9 : decode cX1_addMember 9 = .ok (.if_icmp .ge 7, 3) := dk_162 0 7 (dk_at dksX1_addMember_0 9 rfl rfl)
theorem dX1_addMember_12 : decode cX1_addMember 12 = .ok (.iconst 1, 1) := dk_4 (dk_at dksX1_addMember_0 12 rfl rfl)
theorem dX1_addMember_13 : decode cX1_addMember 13 = .ok (.goto 4, 3) := dk_167 0 4 (dk_at dksX1_addMember_0 13 rfl rfl)
theorem dX1_addMember_16 : decode cX1_addMember 16 = .ok (.iconst 0, 1) := dk_3 (dk_at dksX1_addMember_0 16 rfl rfl)
theorem dX1_addMember_17 : decode cX1_addMember 17 = .ok (.invokestatic 98, 3) := dk_184 0 98 (dk_at dksX1_addMember_0 17 rfl rfl)
theorem dX1_addMember_20 : decode cX1_addMember 20 = .ok (.aload_n 0, 1) := dk_42 (dk_at dksX1_addMember_0 20 rfl rfl)
theorem dX1_addMember_21 : decode cX1_addMember 21 = .ok (.getfield 33, 3) := dk_180 0 33 (dk_at dksX1_addMember_0 21 rfl rfl)
theorem dX1_addMember_24 : decode cX1_addMember 24 = .ok (.new 132, 3) := dk_187 0 132 (dk_at dksX1_addMember_1 0 rfl rfl)
theorem dX1_addMember_27 : decode cX1_addMember 27 = .ok (.dup, 1) := dk_89 (dk_at dksX1_addMember_1 3 rfl rfl)
theorem dX1_addMember_28 : decode cX1_addMember 28 = .ok (.aload_n 0, 1) := dk_42 (dk_at dksX1_addMember_1 4 rfl rfl)
theorem dX1_addMember_29 : decode cX1_addMember 29 = .ok (.invokespecial 223, 3) := dk_183 0 223 (dk_at dksX1_addMember_1 5 rfl rfl)
theorem dX1_addMember_32 : decode cX1_addMember 32 = .ok (.invokevirtual 219, 3) := dk_182 0 219 (dk_at dksX1_addMember_1 8 rfl rfl)
theorem dX1_addMember_35 : decode cX1_addMember 35 = .ok (.pop, 1) := dk_87 (dk_at dksX1_addMember_1 11 rfl rfl)
theorem dX1_addMember_36 : decode cX1_addMember 36 = .ok (.aload_n 0, 1) := dk_42 (dk_at dksX1_addMember_1 12 rfl rfl)
theorem dX1_addMember_37 : decode cX1_addMember 37 = .ok (.getfield 33, 3) := dk_180 0 33 (dk_at dksX1_addMember_1 13 rfl rfl)
theorem dX1_addMember_40 : decode cX1_addMember 40 = .ok (.invokevirtual 141, 3) := dk_182 0 141 (dk_at dksX1_addMember_1 16 rfl rfl)
theorem dX1_addMember_43 : decode cX1_addMember 43 = .ok (.iconst 1, 1) := dk_4 (dk_at dksX1_addMember_1 19 rfl rfl)
theorem dX1_addMember_44 : decode cX1_addMember 44 = .ok (.isub, 1) := dk_100 (dk_at dksX1_addMember_1 20 rfl rfl)
theorem dX1_addMember_45 : decode cX1_addMember 45 = .ok (.ireturn, 1) := dk_172 (dk_at dksX1_addMember_1 21 rfl rfl)
abbrev cX1_addNeed : ByteArray := prog_1_method_31_code
def yX1_addNeed : MethodName := ⟨RX1, "addNeed", "(II)Z"⟩
def dkwX1_addNeed_6 : List UInt8 := [182, 0, 232, 29, 172]
abbrev dktX1_addNeed_6 : List UInt8 := dkwX1_addNeed_6 ++ []
def dkwX1_addNeed_5 : List UInt8 := [160, 0, 16, 25, 5, 182, 0, 227, 154, 0, 8, 25, 5, 182, 0, 229, 132, 4, 1, 167, 255, 194, 42]
abbrev dktX1_addNeed_5 : List UInt8 := dkwX1_addNeed_5 ++ dktX1_addNeed_6
def dkwX1_addNeed_4 : List UInt8 := [192, 0, 145, 58, 5, 25, 5, 180, 0, 150, 16, 119, 159, 0, 13, 25, 5, 180, 0, 150, 16, 98]
abbrev dktX1_addNeed_4 : List UInt8 := dkwX1_addNeed_4 ++ dktX1_addNeed_5
def dkwX1_addNeed_3 : List UInt8 := [54, 4, 21, 4, 42, 180, 0, 36, 182, 0, 141, 162, 0, 56, 42, 180, 0, 36, 21, 4, 182, 0, 122]
abbrev dktX1_addNeed_3 : List UInt8 := dkwX1_addNeed_3 ++ dktX1_addNeed_4
def dkwX1_addNeed_2 : List UInt8 := [27, 50, 28, 51, 154, 0, 7, 4, 167, 0, 4, 3, 62, 42, 180, 0, 44, 27, 50, 28, 4, 84, 3]
abbrev dktX1_addNeed_2 : List UInt8 := dkwX1_addNeed_2 ++ dktX1_addNeed_3
def dkwX1_addNeed_1 : List UInt8 := [184, 0, 94, 42, 28, 27, 182, 0, 224, 154, 0, 7, 4, 167, 0, 4, 3, 184, 0, 98, 42, 180, 0, 44]
abbrev dktX1_addNeed_1 : List UInt8 := dkwX1_addNeed_1 ++ dktX1_addNeed_2
def dkwX1_addNeed_0 : List UInt8 := [27, 184, 0, 86, 153, 0, 19, 28, 184, 0, 86, 153, 0, 12, 27, 28, 159, 0, 7, 4, 167, 0, 4, 3]
abbrev dktX1_addNeed_0 : List UInt8 := dkwX1_addNeed_0 ++ dktX1_addNeed_1
theorem dksX1_addNeed_0 : cX1_addNeed.data.toList.drop 0 = dktX1_addNeed_0 := by decide +kernel
theorem dksX1_addNeed_1 : cX1_addNeed.data.toList.drop 24 = dktX1_addNeed_1 := dk_seg dksX1_addNeed_0 24 rfl rfl
theorem dksX1_addNeed_2 : cX1_addNeed.data.toList.drop 48 = dktX1_addNeed_2 := dk_seg dksX1_addNeed_1 24 rfl rfl
theorem dksX1_addNeed_3 : cX1_addNeed.data.toList.drop 71 = dktX1_addNeed_3 := dk_seg dksX1_addNeed_2 23 rfl rfl
theorem dksX1_addNeed_4 : cX1_addNeed.data.toList.drop 94 = dktX1_addNeed_4 := dk_seg dksX1_addNeed_3 23 rfl rfl
theorem dksX1_addNeed_5 : cX1_addNeed.data.toList.drop 116 = dktX1_addNeed_5 := dk_seg dksX1_addNeed_4 22 rfl rfl
theorem dksX1_addNeed_6 : cX1_addNeed.data.toList.drop 139 = dktX1_addNeed_6 := dk_seg dksX1_addNeed_5 23 rfl rfl
theorem dX1_addNeed_0 : decode cX1_addNeed 0 = .ok (.iload_n 1, 1) := dk_27 (dk_at dksX1_addNeed_0 0 rfl rfl)
theorem dX1_addNeed_1 : decode cX1_addNeed 1 = .ok (.invokestatic 86, 3) := dk_184 0 86 (dk_at dksX1_addNeed_0 1 rfl rfl)
theorem dX1_addNeed_4 : decode cX1_addNeed 4 = .ok (.ifCond .eq 19, 3) := dk_153 0 19 (dk_at dksX1_addNeed_0 4 rfl rfl)
theorem dX1_addNeed_7 : decode cX1_addNeed 7 = .ok (.iload_n 2, 1) := dk_28 (dk_at dksX1_addNeed_0 7 rfl rfl)
theorem dX1_addNeed_8 : decode cX1_addNeed 8 = .ok (.invokestatic 86, 3) := dk_184 0 86 (dk_at dksX1_addNeed_0 8 rfl rfl)
theorem dX1_addNeed_11 : decode cX1_addNeed 11 = .ok (.ifCond .eq 12, 3) := dk_153 0 12 (dk_at dksX1_addNeed_0 11 rfl rfl)
theorem dX1_addNeed_14 : decode cX1_addNeed 14 = .ok (.iload_n 1, 1) := dk_27 (dk_at dksX1_addNeed_0 14 rfl rfl)
theorem dX1_addNeed_15 : decode cX1_addNeed 15 = .ok (.iload_n 2, 1) := dk_28 (dk_at dksX1_addNeed_0 15 rfl rfl)
theorem dX1_addNeed_16 : decode cX1_addNeed 16 = .ok (.if_icmp .eq 7, 3) := dk_159 0 7 (dk_at dksX1_addNeed_0 16 rfl rfl)
theorem dX1_addNeed_19 : decode cX1_addNeed 19 = .ok (.iconst 1, 1) := dk_4 (dk_at dksX1_addNeed_0 19 rfl rfl)
theorem dX1_addNeed_20 : decode cX1_addNeed 20 = .ok (.goto 4, 3) := dk_167 0 4 (dk_at dksX1_addNeed_0 20 rfl rfl)
theorem dX1_addNeed_23 : decode cX1_addNeed 23 = .ok (.iconst 0, 1) := dk_3 (dk_at dksX1_addNeed_0 23 rfl rfl)
theorem dX1_addNeed_24 : decode cX1_addNeed 24 = .ok (.invokestatic 94, 3) := dk_184 0 94 (dk_at dksX1_addNeed_1 0 rfl rfl)
theorem dX1_addNeed_27 : decode cX1_addNeed 27 = .ok (.aload_n 0, 1) := dk_42 (dk_at dksX1_addNeed_1 3 rfl rfl)
theorem dX1_addNeed_28 : decode cX1_addNeed 28 = .ok (.iload_n 2, 1) := dk_28 (dk_at dksX1_addNeed_1 4 rfl rfl)
theorem dX1_addNeed_29 : decode cX1_addNeed 29 = .ok (.iload_n 1, 1) := dk_27 (dk_at dksX1_addNeed_1 5 rfl rfl)
theorem dX1_addNeed_30 : decode cX1_addNeed 30 = .ok (.invokevirtual 224, 3) := dk_182 0 224 (dk_at dksX1_addNeed_1 6 rfl rfl)
theorem dX1_addNeed_33 : decode cX1_addNeed 33 = .ok (.ifCond .ne 7, 3) := dk_154 0 7 (dk_at dksX1_addNeed_1 9 rfl rfl)
theorem dX1_addNeed_36 : decode cX1_addNeed 36 = .ok (.iconst 1, 1) := dk_4 (dk_at dksX1_addNeed_1 12 rfl rfl)
theorem dX1_addNeed_37 : decode cX1_addNeed 37 = .ok (.goto 4, 3) := dk_167 0 4 (dk_at dksX1_addNeed_1 13 rfl rfl)
theorem dX1_addNeed_40 : decode cX1_addNeed 40 = .ok (.iconst 0, 1) := dk_3 (dk_at dksX1_addNeed_1 16 rfl rfl)
theorem dX1_addNeed_41 : decode cX1_addNeed 41 = .ok (.invokestatic 98, 3) := dk_184 0 98 (dk_at dksX1_addNeed_1 17 rfl rfl)
theorem dX1_addNeed_44 : decode cX1_addNeed 44 = .ok (.aload_n 0, 1) := dk_42 (dk_at dksX1_addNeed_1 20 rfl rfl)
theorem dX1_addNeed_45 : decode cX1_addNeed 45 = .ok (.getfield 44, 3) := dk_180 0 44 (dk_at dksX1_addNeed_1 21 rfl rfl)
theorem dX1_addNeed_48 : decode cX1_addNeed 48 = .ok (.iload_n 1, 1) := dk_27 (dk_at dksX1_addNeed_2 0 rfl rfl)
theorem dX1_addNeed_49 : decode cX1_addNeed 49 = .ok (.aaload, 1) := dk_50 (dk_at dksX1_addNeed_2 1 rfl rfl)
theorem dX1_addNeed_50 : decode cX1_addNeed 50 = .ok (.iload_n 2, 1) := dk_28 (dk_at dksX1_addNeed_2 2 rfl rfl)
theorem dX1_addNeed_51 : decode cX1_addNeed 51 = .ok (.baload, 1) := dk_51 (dk_at dksX1_addNeed_2 3 rfl rfl)
theorem dX1_addNeed_52 : decode cX1_addNeed 52 = .ok (.ifCond .ne 7, 3) := dk_154 0 7 (dk_at dksX1_addNeed_2 4 rfl rfl)
theorem dX1_addNeed_55 : decode cX1_addNeed 55 = .ok (.iconst 1, 1) := dk_4 (dk_at dksX1_addNeed_2 7 rfl rfl)
theorem dX1_addNeed_56 : decode cX1_addNeed 56 = .ok (.goto 4, 3) := dk_167 0 4 (dk_at dksX1_addNeed_2 8 rfl rfl)
theorem dX1_addNeed_59 : decode cX1_addNeed 59 = .ok (.iconst 0, 1) := dk_3 (dk_at dksX1_addNeed_2 11 rfl rfl)
theorem dX1_addNeed_60 : decode cX1_addNeed 60 = .ok (.istore_n 3, 1) := dk_62 (dk_at dksX1_addNeed_2 12 rfl rfl)
theorem dX1_addNeed_61 : decode cX1_addNeed 61 = .ok (.aload_n 0, 1) := dk_42 (dk_at dksX1_addNeed_2 13 rfl rfl)
theorem dX1_addNeed_62 : decode cX1_addNeed 62 = .ok (.getfield 44, 3) := dk_180 0 44 (dk_at dksX1_addNeed_2 14 rfl rfl)
theorem dX1_addNeed_65 : decode cX1_addNeed 65 = .ok (.iload_n 1, 1) := dk_27 (dk_at dksX1_addNeed_2 17 rfl rfl)
theorem dX1_addNeed_66 : decode cX1_addNeed 66 = .ok (.aaload, 1) := dk_50 (dk_at dksX1_addNeed_2 18 rfl rfl)
theorem dX1_addNeed_67 : decode cX1_addNeed 67 = .ok (.iload_n 2, 1) := dk_28 (dk_at dksX1_addNeed_2 19 rfl rfl)
theorem dX1_addNeed_68 : decode cX1_addNeed 68 = .ok (.iconst 1, 1) := dk_4 (dk_at dksX1_addNeed_2 20 rfl rfl)
theorem dX1_addNeed_69 : decode cX1_addNeed 69 = .ok (.bastore, 1) := dk_84 (dk_at dksX1_addNeed_2 21 rfl rfl)
theorem dX1_addNeed_70 : decode cX1_addNeed 70 = .ok (.iconst 0, 1) := dk_3 (dk_at dksX1_addNeed_2 22 rfl rfl)
theorem dX1_addNeed_71 : decode cX1_addNeed 71 = .ok (.istore 4, 2) := dk_54 4 (dk_at dksX1_addNeed_3 0 rfl rfl)
theorem dX1_addNeed_73 : decode cX1_addNeed 73 = .ok (.iload 4, 2) := dk_21 4 (dk_at dksX1_addNeed_3 2 rfl rfl)
theorem dX1_addNeed_75 : decode cX1_addNeed 75 = .ok (.aload_n 0, 1) := dk_42 (dk_at dksX1_addNeed_3 4 rfl rfl)
theorem dX1_addNeed_76 : decode cX1_addNeed 76 = .ok (.getfield 36, 3) := dk_180 0 36 (dk_at dksX1_addNeed_3 5 rfl rfl)
theorem dX1_addNeed_79 : decode cX1_addNeed 79 = .ok (.invokevirtual 141, 3) := dk_182 0 141 (dk_at dksX1_addNeed_3 8 rfl rfl)
theorem dX1_addNeed_82 : decode cX1_addNeed 82 = .ok (.if_icmp .ge 56, 3) := dk_162 0 56 (dk_at dksX1_addNeed_3 11 rfl rfl)
theorem dX1_addNeed_85 : decode cX1_addNeed 85 = .ok (.aload_n 0, 1) := dk_42 (dk_at dksX1_addNeed_3 14 rfl rfl)
theorem dX1_addNeed_86 : decode cX1_addNeed 86 = .ok (.getfield 36, 3) := dk_180 0 36 (dk_at dksX1_addNeed_3 15 rfl rfl)
theorem dX1_addNeed_89 : decode cX1_addNeed 89 = .ok (.iload 4, 2) := dk_21 4 (dk_at dksX1_addNeed_3 18 rfl rfl)
theorem dX1_addNeed_91 : decode cX1_addNeed 91 = .ok (.invokevirtual 122, 3) := dk_182 0 122 (dk_at dksX1_addNeed_3 20 rfl rfl)
theorem dX1_addNeed_94 : decode cX1_addNeed 94 = .ok (.checkcast 145, 3) := dk_192 0 145 (dk_at dksX1_addNeed_4 0 rfl rfl)
theorem dX1_addNeed_97 : decode cX1_addNeed 97 = .ok (.astore 5, 2) := dk_58 5 (dk_at dksX1_addNeed_4 3 rfl rfl)
theorem dX1_addNeed_99 : decode cX1_addNeed 99 = .ok (.aload 5, 2) := dk_25 5 (dk_at dksX1_addNeed_4 5 rfl rfl)
theorem dX1_addNeed_101 : decode cX1_addNeed 101 = .ok (.getfield 150, 3) := dk_180 0 150 (dk_at dksX1_addNeed_4 7 rfl rfl)
theorem dX1_addNeed_104 : decode cX1_addNeed 104 = .ok (.bipush 119, 2) := dk_16 119 (dk_at dksX1_addNeed_4 10 rfl rfl)
theorem dX1_addNeed_106 : decode cX1_addNeed 106 = .ok (.if_icmp .eq 13, 3) := dk_159 0 13 (dk_at dksX1_addNeed_4 12 rfl rfl)
theorem dX1_addNeed_109 : decode cX1_addNeed 109 = .ok (.aload 5, 2) := dk_25 5 (dk_at dksX1_addNeed_4 15 rfl rfl)
theorem dX1_addNeed_111 : decode cX1_addNeed 111 = .ok (.getfield 150, 3) := dk_180 0 150 (dk_at dksX1_addNeed_4 17 rfl rfl)
theorem dX1_addNeed_114 : decode cX1_addNeed 114 = .ok (.bipush 98, 2) := dk_16 98 (dk_at dksX1_addNeed_4 20 rfl rfl)
theorem dX1_addNeed_116 : decode cX1_addNeed 116 = .ok (.if_icmp .ne 16, 3) := dk_160 0 16 (dk_at dksX1_addNeed_5 0 rfl rfl)
theorem dX1_addNeed_119 : decode cX1_addNeed 119 = .ok (.aload 5, 2) := dk_25 5 (dk_at dksX1_addNeed_5 3 rfl rfl)
theorem dX1_addNeed_121 : decode cX1_addNeed 121 = .ok (.invokevirtual 227, 3) := dk_182 0 227 (dk_at dksX1_addNeed_5 5 rfl rfl)
theorem dX1_addNeed_124 : decode cX1_addNeed 124 = .ok (.ifCond .ne 8, 3) := dk_154 0 8 (dk_at dksX1_addNeed_5 8 rfl rfl)
theorem dX1_addNeed_127 : decode cX1_addNeed 127 = .ok (.aload 5, 2) := dk_25 5 (dk_at dksX1_addNeed_5 11 rfl rfl)
theorem dX1_addNeed_129 : decode cX1_addNeed 129 = .ok (.invokevirtual 229, 3) := dk_182 0 229 (dk_at dksX1_addNeed_5 13 rfl rfl)
theorem dX1_addNeed_132 : decode cX1_addNeed 132 = .ok (.iinc 4 1, 3) := dk_132 4 1 (dk_at dksX1_addNeed_5 16 rfl rfl)
theorem dX1_addNeed_135 : decode cX1_addNeed 135 = .ok (.goto (-62), 3) := dk_167 255 194 (dk_at dksX1_addNeed_5 19 rfl rfl)
theorem dX1_addNeed_138 : decode cX1_addNeed 138 = .ok (.aload_n 0, 1) := dk_42 (dk_at dksX1_addNeed_5 22 rfl rfl)
theorem dX1_addNeed_139 : decode cX1_addNeed 139 = .ok (.invokevirtual 232, 3) := dk_182 0 232 (dk_at dksX1_addNeed_6 0 rfl rfl)
theorem dX1_addNeed_142 : decode cX1_addNeed 142 = .ok (.iload_n 3, 1) := dk_29 (dk_at dksX1_addNeed_6 3 rfl rfl)
theorem dX1_addNeed_143 : decode cX1_addNeed 143 = .ok (.ireturn, 1) := dk_172 (dk_at dksX1_addNeed_6 4 rfl rfl)
abbrev cX1_leadsTo : ByteArray := prog_1_method_30_code
def yX1_leadsTo : MethodName := ⟨RX1, "leadsTo", "(II)Z"⟩
def dkwX1_leadsTo_2 : List UInt8 := [167, 0, 4, 3, 62, 132, 4, 1, 167, 255, 215, 29, 172]
abbrev dktX1_leadsTo_2 : List UInt8 := dkwX1_leadsTo_2 ++ []
def dkwX1_leadsTo_1 : List UInt8 := [180, 0, 44, 27, 50, 21, 4, 51, 153, 0, 17, 42, 21, 4, 28, 182, 0, 224, 153, 0, 7, 4]
abbrev dktX1_leadsTo_1 : List UInt8 := dkwX1_leadsTo_1 ++ dktX1_leadsTo_2
def dkwX1_leadsTo_0 : List UInt8 := [42, 180, 0, 44, 27, 50, 28, 51, 62, 3, 54, 4, 21, 4, 7, 162, 0, 41, 29, 154, 0, 37, 42]
abbrev dktX1_leadsTo_0 : List UInt8 := dkwX1_leadsTo_0 ++ dktX1_leadsTo_1
theorem dksX1_leadsTo_0 : cX1_leadsTo.data.toList.drop 0 = dktX1_leadsTo_0 := by decide +kernel
theorem dksX1_leadsTo_1 : cX1_leadsTo.data.toList.drop 23 = dktX1_leadsTo_1 := dk_seg dksX1_leadsTo_0 23 rfl rfl
theorem dksX1_leadsTo_2 : cX1_leadsTo.data.toList.drop 45 = dktX1_leadsTo_2 := dk_seg dksX1_leadsTo_1 22 rfl rfl
theorem dX1_leadsTo_0 : decode cX1_leadsTo 0 = .ok (.aload_n 0, 1) := dk_42 (dk_at dksX1_leadsTo_0 0 rfl rfl)
theorem dX1_leadsTo_1 : decode cX1_leadsTo 1 = .ok (.getfield 44, 3) := dk_180 0 44 (dk_at dksX1_leadsTo_0 1 rfl rfl)
theorem dX1_leadsTo_4 : decode cX1_leadsTo 4 = .ok (.iload_n 1, 1) := dk_27 (dk_at dksX1_leadsTo_0 4 rfl rfl)
theorem dX1_leadsTo_5 : decode cX1_leadsTo 5 = .ok (.aaload, 1) := dk_50 (dk_at dksX1_leadsTo_0 5 rfl rfl)
theorem dX1_leadsTo_6 : decode cX1_leadsTo 6 = .ok (.iload_n 2, 1) := dk_28 (dk_at dksX1_leadsTo_0 6 rfl rfl)
theorem dX1_leadsTo_7 : decode cX1_leadsTo 7 = .ok (.baload, 1) := dk_51 (dk_at dksX1_leadsTo_0 7 rfl rfl)
theorem dX1_leadsTo_8 : decode cX1_leadsTo 8 = .ok (.istore_n 3, 1) := dk_62 (dk_at dksX1_leadsTo_0 8 rfl rfl)
theorem dX1_leadsTo_9 : decode cX1_leadsTo 9 = .ok (.iconst 0, 1) := dk_3 (dk_at dksX1_leadsTo_0 9 rfl rfl)
theorem dX1_leadsTo_10 : decode cX1_leadsTo 10 = .ok (.istore 4, 2) := dk_54 4 (dk_at dksX1_leadsTo_0 10 rfl rfl)
theorem dX1_leadsTo_12 : decode cX1_leadsTo 12 = .ok (.iload 4, 2) := dk_21 4 (dk_at dksX1_leadsTo_0 12 rfl rfl)
theorem dX1_leadsTo_14 : decode cX1_leadsTo 14 = .ok (.iconst 4, 1) := dk_7 (dk_at dksX1_leadsTo_0 14 rfl rfl)
theorem dX1_leadsTo_15 : decode cX1_leadsTo 15 = .ok (.if_icmp .ge 41, 3) := dk_162 0 41 (dk_at dksX1_leadsTo_0 15 rfl rfl)
theorem dX1_leadsTo_18 : decode cX1_leadsTo 18 = .ok (.iload_n 3, 1) := dk_29 (dk_at dksX1_leadsTo_0 18 rfl rfl)
theorem dX1_leadsTo_19 : decode cX1_leadsTo 19 = .ok (.ifCond .ne 37, 3) := dk_154 0 37 (dk_at dksX1_leadsTo_0 19 rfl rfl)
theorem dX1_leadsTo_22 : decode cX1_leadsTo 22 = .ok (.aload_n 0, 1) := dk_42 (dk_at dksX1_leadsTo_0 22 rfl rfl)
theorem dX1_leadsTo_23 : decode cX1_leadsTo 23 = .ok (.getfield 44, 3) := dk_180 0 44 (dk_at dksX1_leadsTo_1 0 rfl rfl)
theorem dX1_leadsTo_26 : decode cX1_leadsTo 26 = .ok (.iload_n 1, 1) := dk_27 (dk_at dksX1_leadsTo_1 3 rfl rfl)
theorem dX1_leadsTo_27 : decode cX1_leadsTo 27 = .ok (.aaload, 1) := dk_50 (dk_at dksX1_leadsTo_1 4 rfl rfl)
theorem dX1_leadsTo_28 : decode cX1_leadsTo 28 = .ok (.iload 4, 2) := dk_21 4 (dk_at dksX1_leadsTo_1 5 rfl rfl)
theorem dX1_leadsTo_30 : decode cX1_leadsTo 30 = .ok (.baload, 1) := dk_51 (dk_at dksX1_leadsTo_1 7 rfl rfl)
theorem dX1_leadsTo_31 : decode cX1_leadsTo 31 = .ok (.ifCond .eq 17, 3) := dk_153 0 17 (dk_at dksX1_leadsTo_1 8 rfl rfl)
theorem dX1_leadsTo_34 : decode cX1_leadsTo 34 = .ok (.aload_n 0, 1) := dk_42 (dk_at dksX1_leadsTo_1 11 rfl rfl)
theorem dX1_leadsTo_35 : decode cX1_leadsTo 35 = .ok (.iload 4, 2) := dk_21 4 (dk_at dksX1_leadsTo_1 12 rfl rfl)
theorem dX1_leadsTo_37 : decode cX1_leadsTo 37 = .ok (.iload_n 2, 1) := dk_28 (dk_at dksX1_leadsTo_1 14 rfl rfl)
theorem dX1_leadsTo_38 : decode cX1_leadsTo 38 = .ok (.invokevirtual 224, 3) := dk_182 0 224 (dk_at dksX1_leadsTo_1 15 rfl rfl)
theorem dX1_leadsTo_41 : decode cX1_leadsTo 41 = .ok (.ifCond .eq 7, 3) := dk_153 0 7 (dk_at dksX1_leadsTo_1 18 rfl rfl)
theorem dX1_leadsTo_44 : decode cX1_leadsTo 44 = .ok (.iconst 1, 1) := dk_4 (dk_at dksX1_leadsTo_1 21 rfl rfl)
theorem dX1_leadsTo_45 : decode cX1_leadsTo 45 = .ok (.goto 4, 3) := dk_167 0 4 (dk_at dksX1_leadsTo_2 0 rfl rfl)
theorem dX1_leadsTo_48 : decode cX1_leadsTo 48 = .ok (.iconst 0, 1) := dk_3 (dk_at dksX1_leadsTo_2 3 rfl rfl)
theorem dX1_leadsTo_49 : decode cX1_leadsTo 49 = .ok (.istore_n 3, 1) := dk_62 (dk_at dksX1_leadsTo_2 4 rfl rfl)
theorem dX1_leadsTo_50 : decode cX1_leadsTo 50 = .ok (.iinc 4 1, 3) := dk_132 4 1 (dk_at dksX1_leadsTo_2 5 rfl rfl)
theorem dX1_leadsTo_53 : decode cX1_leadsTo 53 = .ok (.goto (-41), 3) := dk_167 255 215 (dk_at dksX1_leadsTo_2 8 rfl rfl)
theorem dX1_leadsTo_56 : decode cX1_leadsTo 56 = .ok (.iload_n 3, 1) := dk_29 (dk_at dksX1_leadsTo_2 11 rfl rfl)
theorem dX1_leadsTo_57 : decode cX1_leadsTo 57 = .ok (.ireturn, 1) := dk_172 (dk_at dksX1_leadsTo_2 12 rfl rfl)
abbrev cX1_fills : ByteArray := prog_1_method_23_code
def yX1_fills : MethodName := ⟨RX1, "fills", "()V"⟩
def dkwX1_fills_1 : List UInt8 := [181, 0, 150, 42, 182, 0, 212, 60, 167, 255, 230, 177]
abbrev dktX1_fills_1 : List UInt8 := dkwX1_fills_1 ++ []
def dkwX1_fills_0 : List UInt8 := [42, 182, 0, 212, 60, 27, 2, 159, 0, 27, 42, 180, 0, 36, 27, 182, 0, 122, 192, 0, 145, 16, 98]
abbrev dktX1_fills_0 : List UInt8 := dkwX1_fills_0 ++ dktX1_fills_1
theorem dksX1_fills_0 : cX1_fills.data.toList.drop 0 = dktX1_fills_0 := by decide +kernel
theorem dksX1_fills_1 : cX1_fills.data.toList.drop 23 = dktX1_fills_1 := dk_seg dksX1_fills_0 23 rfl rfl
theorem dX1_fills_0 : decode cX1_fills 0 = .ok (.aload_n 0, 1) := dk_42 (dk_at dksX1_fills_0 0 rfl rfl)
theorem dX1_fills_1 : decode cX1_fills 1 = .ok (.invokevirtual 212, 3) := dk_182 0 212 (dk_at dksX1_fills_0 1 rfl rfl)
theorem dX1_fills_4 : decode cX1_fills 4 = .ok (.istore_n 1, 1) := dk_60 (dk_at dksX1_fills_0 4 rfl rfl)
theorem dX1_fills_5 : decode cX1_fills 5 = .ok (.iload_n 1, 1) := dk_27 (dk_at dksX1_fills_0 5 rfl rfl)
theorem dX1_fills_6 : decode cX1_fills 6 = .ok (.iconst (-1), 1) := dk_2 (dk_at dksX1_fills_0 6 rfl rfl)
theorem dX1_fills_7 : decode cX1_fills 7 = .ok (.if_icmp .eq 27, 3) := dk_159 0 27 (dk_at dksX1_fills_0 7 rfl rfl)
theorem dX1_fills_10 : decode cX1_fills 10 = .ok (.aload_n 0, 1) := dk_42 (dk_at dksX1_fills_0 10 rfl rfl)
theorem dX1_fills_11 : decode cX1_fills 11 = .ok (.getfield 36, 3) := dk_180 0 36 (dk_at dksX1_fills_0 11 rfl rfl)
theorem dX1_fills_14 : decode cX1_fills 14 = .ok (.iload_n 1, 1) := dk_27 (dk_at dksX1_fills_0 14 rfl rfl)
theorem dX1_fills_15 : decode cX1_fills 15 = .ok (.invokevirtual 122, 3) := dk_182 0 122 (dk_at dksX1_fills_0 15 rfl rfl)
theorem dX1_fills_18 : decode cX1_fills 18 = .ok (.checkcast 145, 3) := dk_192 0 145 (dk_at dksX1_fills_0 18 rfl rfl)
theorem dX1_fills_21 : decode cX1_fills 21 = .ok (.bipush 98, 2) := dk_16 98 (dk_at dksX1_fills_0 21 rfl rfl)
theorem dX1_fills_23 : decode cX1_fills 23 = .ok (.putfield 150, 3) := dk_181 0 150 (dk_at dksX1_fills_1 0 rfl rfl)
theorem dX1_fills_26 : decode cX1_fills 26 = .ok (.aload_n 0, 1) := dk_42 (dk_at dksX1_fills_1 3 rfl rfl)
theorem dX1_fills_27 : decode cX1_fills 27 = .ok (.invokevirtual 212, 3) := dk_182 0 212 (dk_at dksX1_fills_1 4 rfl rfl)
theorem dX1_fills_30 : decode cX1_fills 30 = .ok (.istore_n 1, 1) := dk_60 (dk_at dksX1_fills_1 7 rfl rfl)
theorem dX1_fills_31 : decode cX1_fills 31 = .ok (.goto (-26), 3) := dk_167 255 230 (dk_at dksX1_fills_1 8 rfl rfl)
theorem dX1_fills_34 : decode cX1_fills 34 = .ok (.return_, 1) := dk_177 (dk_at dksX1_fills_1 11 rfl rfl)
abbrev cX1_firstToBook : ByteArray := prog_1_method_22_code
def yX1_firstToBook : MethodName := ⟨RX1, "firstToBook", "()I"⟩
def dkwX1_firstToBook_2 : List UInt8 := [160, 0, 5, 27, 172, 132, 1, 1, 167, 255, 202, 2, 172]
abbrev dktX1_firstToBook_2 : List UInt8 := dkwX1_firstToBook_2 ++ []
def dkwX1_firstToBook_1 : List UInt8 := [180, 0, 150, 16, 119, 160, 0, 24, 42, 180, 0, 36, 27, 182, 0, 122, 192, 0, 145, 182, 0, 208, 16, 111]
abbrev dktX1_firstToBook_1 : List UInt8 := dkwX1_firstToBook_1 ++ dktX1_firstToBook_2
def dkwX1_firstToBook_0 : List UInt8 := [3, 60, 27, 42, 180, 0, 36, 182, 0, 141, 162, 0, 49, 42, 180, 0, 36, 27, 182, 0, 122, 192, 0, 145]
abbrev dktX1_firstToBook_0 : List UInt8 := dkwX1_firstToBook_0 ++ dktX1_firstToBook_1
theorem dksX1_firstToBook_0 : cX1_firstToBook.data.toList.drop 0 = dktX1_firstToBook_0 := by decide +kernel
theorem dksX1_firstToBook_1 : cX1_firstToBook.data.toList.drop 24 = dktX1_firstToBook_1 := dk_seg dksX1_firstToBook_0 24 rfl rfl
theorem dksX1_firstToBook_2 : cX1_firstToBook.data.toList.drop 48 = dktX1_firstToBook_2 := dk_seg dksX1_firstToBook_1 24 rfl rfl
theorem dX1_firstToBook_0 : decode cX1_firstToBook 0 = .ok (.iconst 0, 1) := dk_3 (dk_at dksX1_firstToBook_0 0 rfl rfl)
theorem dX1_firstToBook_1 : decode cX1_firstToBook 1 = .ok (.istore_n 1, 1) := dk_60 (dk_at dksX1_firstToBook_0 1 rfl rfl)
theorem dX1_firstToBook_2 : decode cX1_firstToBook 2 = .ok (.iload_n 1, 1) := dk_27 (dk_at dksX1_firstToBook_0 2 rfl rfl)
theorem dX1_firstToBook_3 : decode cX1_firstToBook 3 = .ok (.aload_n 0, 1) := dk_42 (dk_at dksX1_firstToBook_0 3 rfl rfl)
theorem dX1_firstToBook_4 : decode cX1_firstToBook 4 = .ok (.getfield 36, 3) := dk_180 0 36 (dk_at dksX1_firstToBook_0 4 rfl rfl)
theorem dX1_firstToBook_7 : decode cX1_firstToBook 7 = .ok (.invokevirtual 141, 3) := dk_182 0 141 (dk_at dksX1_firstToBook_0 7 rfl rfl)
theorem dX1_firstToBook_10 : decode cX1_firstToBook 10 = .ok (.if_icmp .ge 49, 3) := dk_162 0 49 (dk_at dksX1_firstToBook_0 10 rfl rfl)
theorem dX1_firstToBook_13 : decode cX1_firstToBook 13 = .ok (.aload_n 0, 1) := dk_42 (dk_at dksX1_firstToBook_0 13 rfl rfl)
theorem dX1_firstToBook_14 : decode cX1_firstToBook 14 = .ok (.getfield 36, 3) := dk_180 0 36 (dk_at dksX1_firstToBook_0 14 rfl rfl)
theorem dX1_firstToBook_17 : decode cX1_firstToBook 17 = .ok (.iload_n 1, 1) := dk_27 (dk_at dksX1_firstToBook_0 17 rfl rfl)
theorem dX1_firstToBook_18 : decode cX1_firstToBook 18 = .ok (.invokevirtual 122, 3) := dk_182 0 122 (dk_at dksX1_firstToBook_0 18 rfl rfl)
theorem dX1_firstToBook_21 : decode cX1_firstToBook 21 = .ok (.checkcast 145, 3) := dk_192 0 145 (dk_at dksX1_firstToBook_0 21 rfl rfl)
theorem dX1_firstToBook_24 : decode cX1_firstToBook 24 = .ok (.getfield 150, 3) := dk_180 0 150 (dk_at dksX1_firstToBook_1 0 rfl rfl)
theorem dX1_firstToBook_27 : decode cX1_firstToBook 27 = .ok (.bipush 119, 2) := dk_16 119 (dk_at dksX1_firstToBook_1 3 rfl rfl)
theorem dX1_firstToBook_29 : decode cX1_firstToBook 29 = .ok (.if_icmp .ne 24, 3) := dk_160 0 24 (dk_at dksX1_firstToBook_1 5 rfl rfl)
theorem dX1_firstToBook_32 : decode cX1_firstToBook 32 = .ok (.aload_n 0, 1) := dk_42 (dk_at dksX1_firstToBook_1 8 rfl rfl)
theorem dX1_firstToBook_33 : decode cX1_firstToBook 33 = .ok (.getfield 36, 3) := dk_180 0 36 (dk_at dksX1_firstToBook_1 9 rfl rfl)
theorem dX1_firstToBook_36 : decode cX1_firstToBook 36 = .ok (.iload_n 1, 1) := dk_27 (dk_at dksX1_firstToBook_1 12 rfl rfl)
theorem dX1_firstToBook_37 : decode cX1_firstToBook 37 = .ok (.invokevirtual 122, 3) := dk_182 0 122 (dk_at dksX1_firstToBook_1 13 rfl rfl)
theorem dX1_firstToBook_40 : decode cX1_firstToBook 40 = .ok (.checkcast 145, 3) := dk_192 0 145 (dk_at dksX1_firstToBook_1 16 rfl rfl)
theorem dX1_firstToBook_43 : decode cX1_firstToBook 43 = .ok (.invokevirtual 208, 3) := dk_182 0 208 (dk_at dksX1_firstToBook_1 19 rfl rfl)
theorem dX1_firstToBook_46 : decode cX1_firstToBook 46 = .ok (.bipush 111, 2) := dk_16 111 (dk_at dksX1_firstToBook_1 22 rfl rfl)
theorem dX1_firstToBook_48 : decode cX1_firstToBook 48 = .ok (.if_icmp .ne 5, 3) := dk_160 0 5 (dk_at dksX1_firstToBook_2 0 rfl rfl)
theorem dX1_firstToBook_51 : decode cX1_firstToBook 51 = .ok (.iload_n 1, 1) := dk_27 (dk_at dksX1_firstToBook_2 3 rfl rfl)
theorem dX1_firstToBook_52 : decode cX1_firstToBook 52 = .ok (.ireturn, 1) := dk_172 (dk_at dksX1_firstToBook_2 4 rfl rfl)
theorem dX1_firstToBook_53 : decode cX1_firstToBook 53 = .ok (.iinc 1 1, 3) := dk_132 1 1 (dk_at dksX1_firstToBook_2 5 rfl rfl)
theorem dX1_firstToBook_56 : decode cX1_firstToBook 56 = .ok (.goto (-54), 3) := dk_167 255 202 (dk_at dksX1_firstToBook_2 8 rfl rfl)
theorem dX1_firstToBook_59 : decode cX1_firstToBook 59 = .ok (.iconst (-1), 1) := dk_2 (dk_at dksX1_firstToBook_2 11 rfl rfl)
theorem dX1_firstToBook_60 : decode cX1_firstToBook 60 = .ok (.ireturn, 1) := dk_172 (dk_at dksX1_firstToBook_2 12 rfl rfl)
abbrev cX1_induct : ByteArray := prog_1_method_32_code
def yX1_induct : MethodName := ⟨RX1, "induct", "(II)I"⟩
def dkwX1_induct_5 : List UInt8 := [21, 4, 172]
abbrev dktX1_induct_5 : List UInt8 := dkwX1_induct_5 ++ []
def dkwX1_induct_4 : List UInt8 := [45, 180, 0, 244, 28, 46, 100, 54, 4, 45, 180, 0, 244, 28, 42, 180, 0, 215, 79, 42, 182, 0, 232]
abbrev dktX1_induct_4 : List UInt8 := dkwX1_induct_4 ++ dktX1_induct_5
def dkwX1_induct_3 : List UInt8 := [132, 4, 1, 167, 255, 214, 45, 180, 0, 244, 28, 46, 2, 160, 0, 7, 2, 167, 0, 14, 42, 180, 0, 215]
abbrev dktX1_induct_3 : List UInt8 := dkwX1_induct_3 ++ dktX1_induct_4
def dkwX1_induct_2 : List UInt8 := [153, 0, 24, 45, 21, 4, 42, 180, 0, 215, 182, 0, 137, 154, 0, 11, 187, 0, 241, 89, 183, 0, 243, 191]
abbrev dktX1_induct_2 : List UInt8 := dkwX1_induct_2 ++ dktX1_induct_3
def dkwX1_induct_1 : List UInt8 := [192, 0, 132, 78, 3, 54, 4, 21, 4, 7, 162, 0, 42, 42, 180, 0, 44, 28, 50, 21, 4, 51]
abbrev dktX1_induct_1 : List UInt8 := dkwX1_induct_1 ++ dktX1_induct_2
def dkwX1_induct_0 : List UInt8 := [42, 27, 182, 0, 235, 184, 0, 238, 28, 184, 0, 86, 184, 0, 94, 42, 180, 0, 33, 27, 182, 0, 122]
abbrev dktX1_induct_0 : List UInt8 := dkwX1_induct_0 ++ dktX1_induct_1
theorem dksX1_induct_0 : cX1_induct.data.toList.drop 0 = dktX1_induct_0 := by decide +kernel
theorem dksX1_induct_1 : cX1_induct.data.toList.drop 23 = dktX1_induct_1 := dk_seg dksX1_induct_0 23 rfl rfl
theorem dksX1_induct_2 : cX1_induct.data.toList.drop 45 = dktX1_induct_2 := dk_seg dksX1_induct_1 22 rfl rfl
theorem dksX1_induct_3 : cX1_induct.data.toList.drop 69 = dktX1_induct_3 := dk_seg dksX1_induct_2 24 rfl rfl
theorem dksX1_induct_4 : cX1_induct.data.toList.drop 93 = dktX1_induct_4 := dk_seg dksX1_induct_3 24 rfl rfl
theorem dksX1_induct_5 : cX1_induct.data.toList.drop 116 = dktX1_induct_5 := dk_seg dksX1_induct_4 23 rfl rfl
theorem dX1_induct_0 : decode cX1_induct 0 = .ok (.aload_n 0, 1) := dk_42 (dk_at dksX1_induct_0 0 rfl rfl)
theorem dX1_induct_1 : decode cX1_induct 1 = .ok (.iload_n 1, 1) := dk_27 (dk_at dksX1_induct_0 1 rfl rfl)
theorem dX1_induct_2 : decode cX1_induct 2 = .ok (.invokevirtual 235, 3) := dk_182 0 235 (dk_at dksX1_induct_0 2 rfl rfl)
theorem dX1_induct_5 : decode cX1_induct 5 = .ok (.invokestatic 238, 3) := dk_184 0 238 (dk_at dksX1_induct_0 5 rfl rfl)
theorem dX1_induct_8 : decode cX1_induct 8 = .ok (.iload_n 2, 1) := dk_28 (dk_at dksX1_induct_0 8 rfl rfl)
theorem dX1_induct_9 : decode cX1_induct 9 = .ok (.invokestatic 86, 3) := dk_184 0 86 (dk_at dksX1_induct_0 9 rfl rfl)
theorem dX1_induct_12 : decode cX1_induct 12 = .ok (.invokestatic 94, 3) := dk_184 0 94 (dk_at dksX1_induct_0 12 rfl rfl)
theorem dX1_induct_15 : decode cX1_induct 15 = .ok (.aload_n 0, 1) := dk_42 (dk_at dksX1_induct_0 15 rfl rfl)
theorem dX1_induct_16 : decode cX1_induct 16 = .ok (.getfield 33, 3) := dk_180 0 33 (dk_at dksX1_induct_0 16 rfl rfl)
theorem dX1_induct_19 : decode cX1_induct 19 = .ok (.iload_n 1, 1) := dk_27 (dk_at dksX1_induct_0 19 rfl rfl)
theorem dX1_induct_20 : decode cX1_induct 20 = .ok (.invokevirtual 122, 3) := dk_182 0 122 (dk_at dksX1_induct_0 20 rfl rfl)
theorem dX1_induct_23 : decode cX1_induct 23 = .ok (.checkcast 132, 3) := dk_192 0 132 (dk_at dksX1_induct_1 0 rfl rfl)
theorem dX1_induct_26 : decode cX1_induct 26 = .ok (.astore_n 3, 1) := dk_78 (dk_at dksX1_induct_1 3 rfl rfl)
theorem dX1_induct_27 : decode cX1_induct 27 = .ok (.iconst 0, 1) := dk_3 (dk_at dksX1_induct_1 4 rfl rfl)
theorem dX1_induct_28 : decode cX1_induct 28 = .ok (.istore 4, 2) := dk_54 4 (dk_at dksX1_induct_1 5 rfl rfl)
theorem dX1_induct_30 : decode cX1_induct 30 = .ok (.iload 4, 2) := dk_21 4 (dk_at dksX1_induct_1 7 rfl rfl)
theorem dX1_induct_32 : decode cX1_induct 32 = .ok (.iconst 4, 1) := dk_7 (dk_at dksX1_induct_1 9 rfl rfl)
theorem dX1_induct_33 : decode cX1_induct 33 = .ok (.if_icmp .ge 42, 3) := dk_162 0 42 (dk_at dksX1_induct_1 10 rfl rfl)
theorem dX1_induct_36 : decode cX1_induct 36 = .ok (.aload_n 0, 1) := dk_42 (dk_at dksX1_induct_1 13 rfl rfl)
theorem dX1_induct_37 : decode cX1_induct 37 = .ok (.getfield 44, 3) := dk_180 0 44 (dk_at dksX1_induct_1 14 rfl rfl)
theorem dX1_induct_40 : decode cX1_induct 40 = .ok (.iload_n 2, 1) := dk_28 (dk_at dksX1_induct_1 17 rfl rfl)
theorem dX1_induct_41 : decode cX1_induct 41 = .ok (.aaload, 1) := dk_50 (dk_at dksX1_induct_1 18 rfl rfl)
theorem dX1_induct_42 : decode cX1_induct 42 = .ok (.iload 4, 2) := dk_21 4 (dk_at dksX1_induct_1 19 rfl rfl)
theorem dX1_induct_44 : decode cX1_induct 44 = .ok (.baload, 1) := dk_51 (dk_at dksX1_induct_1 21 rfl rfl)
theorem dX1_induct_45 : decode cX1_induct 45 = .ok (.ifCond .eq 24, 3) := dk_153 0 24 (dk_at dksX1_induct_2 0 rfl rfl)
theorem dX1_induct_48 : decode cX1_induct 48 = .ok (.aload_n 3, 1) := dk_45 (dk_at dksX1_induct_2 3 rfl rfl)
theorem dX1_induct_49 : decode cX1_induct 49 = .ok (.iload 4, 2) := dk_21 4 (dk_at dksX1_induct_2 4 rfl rfl)
theorem dX1_induct_51 : decode cX1_induct 51 = .ok (.aload_n 0, 1) := dk_42 (dk_at dksX1_induct_2 6 rfl rfl)
theorem dX1_induct_52 : decode cX1_induct 52 = .ok (.getfield 215, 3) := dk_180 0 215 (dk_at dksX1_induct_2 7 rfl rfl)
theorem dX1_induct_55 : decode cX1_induct 55 = .ok (.invokevirtual 137, 3) := dk_182 0 137 (dk_at dksX1_induct_2 10 rfl rfl)
theorem dX1_induct_58 : decode cX1_induct 58 = .ok (.ifCond .ne 11, 3) := dk_154 0 11 (dk_at dksX1_induct_2 13 rfl rfl)
theorem dX1_induct_61 : decode cX1_induct 61 = .ok (.new 241, 3) := dk_187 0 241 (dk_at dksX1_induct_2 16 rfl rfl)
theorem dX1_induct_64 : decode cX1_induct 64 = .ok (.dup, 1) := dk_89 (dk_at dksX1_induct_2 19 rfl rfl)
theorem dX1_induct_65 : decode cX1_induct 65 = .ok (.invokespecial 243, 3) := dk_183 0 243 (dk_at dksX1_induct_2 20 rfl rfl)
theorem dX1_induct_68 : decode cX1_induct 68 = .ok (.athrow, 1) := dk_191 (dk_at dksX1_induct_2 23 rfl rfl)
theorem dX1_induct_69 : decode cX1_induct 69 = .ok (.iinc 4 1, 3) := dk_132 4 1 (dk_at dksX1_induct_3 0 rfl rfl)
theorem dX1_induct_72 : decode cX1_induct 72 = .ok (.goto (-42), 3) := dk_167 255 214 (dk_at dksX1_induct_3 3 rfl rfl)
theorem dX1_induct_75 : decode cX1_induct 75 = .ok (.aload_n 3, 1) := dk_45 (dk_at dksX1_induct_3 6 rfl rfl)
theorem dX1_induct_76 : decode cX1_induct 76 = .ok (.getfield 244, 3) := dk_180 0 244 (dk_at dksX1_induct_3 7 rfl rfl)
theorem dX1_induct_79 : decode cX1_induct 79 = .ok (.iload_n 2, 1) := dk_28 (dk_at dksX1_induct_3 10 rfl rfl)
theorem dX1_induct_80 : decode cX1_induct 80 = .ok (.iaload, 1) := dk_46 (dk_at dksX1_induct_3 11 rfl rfl)
theorem dX1_induct_81 : decode cX1_induct 81 = .ok (.iconst (-1), 1) := dk_2 (dk_at dksX1_induct_3 12 rfl rfl)
theorem dX1_induct_82 : decode cX1_induct 82 = .ok (.if_icmp .ne 7, 3) := dk_160 0 7 (dk_at dksX1_induct_3 13 rfl rfl)
theorem dX1_induct_85 : decode cX1_induct 85 = .ok (.iconst (-1), 1) := dk_2 (dk_at dksX1_induct_3 16 rfl rfl)
theorem dX1_induct_86 : decode cX1_induct 86 = .ok (.goto 14, 3) := dk_167 0 14 (dk_at dksX1_induct_3 17 rfl rfl)
theorem dX1_induct_89 : decode cX1_induct 89 = .ok (.aload_n 0, 1) := dk_42 (dk_at dksX1_induct_3 20 rfl rfl)
theorem dX1_induct_90 : decode cX1_induct 90 = .ok (.getfield 215, 3) := dk_180 0 215 (dk_at dksX1_induct_3 21 rfl rfl)
theorem dX1_induct_93 : decode cX1_induct 93 = .ok (.aload_n 3, 1) := dk_45 (dk_at dksX1_induct_4 0 rfl rfl)
theorem dX1_induct_94 : decode cX1_induct 94 = .ok (.getfield 244, 3) := dk_180 0 244 (dk_at dksX1_induct_4 1 rfl rfl)
theorem dX1_induct_97 : decode cX1_induct 97 = .ok (.iload_n 2, 1) := dk_28 (dk_at dksX1_induct_4 4 rfl rfl)
theorem dX1_induct_98 : decode cX1_induct 98 = .ok (.iaload, 1) := dk_46 (dk_at dksX1_induct_4 5 rfl rfl)
theorem dX1_induct_99 : decode cX1_induct 99 = .ok (.isub, 1) := dk_100 (dk_at dksX1_induct_4 6 rfl rfl)
theorem dX1_induct_100 : decode cX1_induct 100 = .ok (.istore 4, 2) := dk_54 4 (dk_at dksX1_induct_4 7 rfl rfl)
theorem dX1_induct_102 : decode cX1_induct 102 = .ok (.aload_n 3, 1) := dk_45 (dk_at dksX1_induct_4 9 rfl rfl)
theorem dX1_induct_103 : decode cX1_induct 103 = .ok (.getfield 244, 3) := dk_180 0 244 (dk_at dksX1_induct_4 10 rfl rfl)
theorem dX1_induct_106 : decode cX1_induct 106 = .ok (.iload_n 2, 1) := dk_28 (dk_at dksX1_induct_4 13 rfl rfl)
theorem dX1_induct_107 : decode cX1_induct 107 = .ok (.aload_n 0, 1) := dk_42 (dk_at dksX1_induct_4 14 rfl rfl)
theorem dX1_induct_108 : decode cX1_induct 108 = .ok (.getfield 215, 3) := dk_180 0 215 (dk_at dksX1_induct_4 15 rfl rfl)
theorem dX1_induct_111 : decode cX1_induct 111 = .ok (.iastore, 1) := dk_79 (dk_at dksX1_induct_4 18 rfl rfl)
theorem dX1_induct_112 : decode cX1_induct 112 = .ok (.aload_n 0, 1) := dk_42 (dk_at dksX1_induct_4 19 rfl rfl)
theorem dX1_induct_113 : decode cX1_induct 113 = .ok (.invokevirtual 232, 3) := dk_182 0 232 (dk_at dksX1_induct_4 20 rfl rfl)
theorem dX1_induct_116 : decode cX1_induct 116 = .ok (.iload 4, 2) := dk_21 4 (dk_at dksX1_induct_5 0 rfl rfl)
theorem dX1_induct_118 : decode cX1_induct 118 = .ok (.ireturn, 1) := dk_172 (dk_at dksX1_induct_5 2 rfl rfl)
abbrev cX1_isMember : ByteArray := prog_1_method_25_code
def yX1_isMember : MethodName := ⟨RX1, "isMember", "(I)Z"⟩
def dkwX1_isMember_0 : List UInt8 := [27, 3, 42, 180, 0, 33, 182, 0, 141, 4, 100, 184, 0, 90, 172]
abbrev dktX1_isMember_0 : List UInt8 := dkwX1_isMember_0 ++ []
theorem dksX1_isMember_0 : cX1_isMember.data.toList.drop 0 = dktX1_isMember_0 := by decide +kernel
theorem dX1_isMember_0 : decode cX1_isMember 0 = .ok (.iload_n 1, 1) := dk_27 (dk_at dksX1_isMember_0 0 rfl rfl)
theorem dX1_isMember_1 : decode cX1_isMember 1 = .ok (.iconst 0, 1) := dk_3 (dk_at dksX1_isMember_0 1 rfl rfl)
theorem dX1_isMember_2 : decode cX1_isMember 2 = .ok (.aload_n 0, 1) := dk_42 (dk_at dksX1_isMember_0 2 rfl rfl)
theorem dX1_isMember_3 : decode cX1_isMember 3 = .ok (.getfield 33, 3) := dk_180 0 33 (dk_at dksX1_isMember_0 3 rfl rfl)
theorem dX1_isMember_6 : decode cX1_isMember 6 = .ok (.invokevirtual 141, 3) := dk_182 0 141 (dk_at dksX1_isMember_0 6 rfl rfl)
theorem dX1_isMember_9 : decode cX1_isMember 9 = .ok (.iconst 1, 1) := dk_4 (dk_at dksX1_isMember_0 9 rfl rfl)
theorem dX1_isMember_10 : decode cX1_isMember 10 = .ok (.isub, 1) := dk_100 (dk_at dksX1_isMember_0 10 rfl rfl)
theorem dX1_isMember_11 : decode cX1_isMember 11 = .ok (.invokestatic 90, 3) := dk_184 0 90 (dk_at dksX1_isMember_0 11 rfl rfl)
theorem dX1_isMember_14 : decode cX1_isMember 14 = .ok (.ireturn, 1) := dk_172 (dk_at dksX1_isMember_0 14 rfl rfl)
abbrev cX1_there : ByteArray := prog_1_method_6_code
def yX1_there : MethodName := ⟨RX1, "there", "(Z)V"⟩
def dkwX1_there_0 : List UInt8 := [26, 154, 0, 11, 187, 0, 83, 89, 183, 0, 85, 191, 177]
abbrev dktX1_there_0 : List UInt8 := dkwX1_there_0 ++ []
theorem dksX1_there_0 : cX1_there.data.toList.drop 0 = dktX1_there_0 := by decide +kernel
theorem dX1_there_0 : decode cX1_there 0 = .ok (.iload_n 0, 1) := dk_26 (dk_at dksX1_there_0 0 rfl rfl)
theorem dX1_there_1 : decode cX1_there 1 = .ok (.ifCond .ne 11, 3) := dk_154 0 11 (dk_at dksX1_there_0 1 rfl rfl)
theorem dX1_there_4 : decode cX1_there 4 = .ok (.new 83, 3) := dk_187 0 83 (dk_at dksX1_there_0 4 rfl rfl)
theorem dX1_there_7 : decode cX1_there 7 = .ok (.dup, 1) := dk_89 (dk_at dksX1_there_0 7 rfl rfl)
theorem dX1_there_8 : decode cX1_there 8 = .ok (.invokespecial 85, 3) := dk_183 0 85 (dk_at dksX1_there_0 8 rfl rfl)
theorem dX1_there_11 : decode cX1_there 11 = .ok (.athrow, 1) := dk_191 (dk_at dksX1_there_0 11 rfl rfl)
theorem dX1_there_12 : decode cX1_there 12 = .ok (.return_, 1) := dk_177 (dk_at dksX1_there_0 12 rfl rfl)
abbrev cX1_isLive : ByteArray := prog_1_method_33_code
def yX1_isLive : MethodName := ⟨RX1, "isLive", "(III)Z"⟩
def dkwX1_isLive_2 : List UInt8 := [192, 0, 132, 28, 29, 182, 0, 137, 172]
abbrev dktX1_isLive_2 : List UInt8 := dkwX1_isLive_2 ++ []
def dkwX1_isLive_1 : List UInt8 := [184, 0, 90, 153, 0, 7, 4, 167, 0, 4, 3, 184, 0, 94, 42, 180, 0, 33, 27, 182, 0, 122]
abbrev dktX1_isLive_1 : List UInt8 := dkwX1_isLive_1 ++ dktX1_isLive_2
def dkwX1_isLive_0 : List UInt8 := [42, 27, 182, 0, 235, 184, 0, 238, 28, 184, 0, 86, 153, 0, 21, 29, 42, 180, 0, 215, 17, 3, 231]
abbrev dktX1_isLive_0 : List UInt8 := dkwX1_isLive_0 ++ dktX1_isLive_1
theorem dksX1_isLive_0 : cX1_isLive.data.toList.drop 0 = dktX1_isLive_0 := by decide +kernel
theorem dksX1_isLive_1 : cX1_isLive.data.toList.drop 23 = dktX1_isLive_1 := dk_seg dksX1_isLive_0 23 rfl rfl
theorem dksX1_isLive_2 : cX1_isLive.data.toList.drop 45 = dktX1_isLive_2 := dk_seg dksX1_isLive_1 22 rfl rfl
theorem dX1_isLive_0 : decode cX1_isLive 0 = .ok (.aload_n 0, 1) := dk_42 (dk_at dksX1_isLive_0 0 rfl rfl)
theorem dX1_isLive_1 : decode cX1_isLive 1 = .ok (.iload_n 1, 1) := dk_27 (dk_at dksX1_isLive_0 1 rfl rfl)
theorem dX1_isLive_2 : decode cX1_isLive 2 = .ok (.invokevirtual 235, 3) := dk_182 0 235 (dk_at dksX1_isLive_0 2 rfl rfl)
theorem dX1_isLive_5 : decode cX1_isLive 5 = .ok (.invokestatic 238, 3) := dk_184 0 238 (dk_at dksX1_isLive_0 5 rfl rfl)
theorem dX1_isLive_8 : decode cX1_isLive 8 = .ok (.iload_n 2, 1) := dk_28 (dk_at dksX1_isLive_0 8 rfl rfl)
theorem dX1_isLive_9 : decode cX1_isLive 9 = .ok (.invokestatic 86, 3) := dk_184 0 86 (dk_at dksX1_isLive_0 9 rfl rfl)
theorem dX1_isLive_12 : decode cX1_isLive 12 = .ok (.ifCond .eq 21, 3) := dk_153 0 21 (dk_at dksX1_isLive_0 12 rfl rfl)
theorem dX1_isLive_15 : decode cX1_isLive 15 = .ok (.iload_n 3, 1) := dk_29 (dk_at dksX1_isLive_0 15 rfl rfl)
theorem dX1_isLive_16 : decode cX1_isLive 16 = .ok (.aload_n 0, 1) := dk_42 (dk_at dksX1_isLive_0 16 rfl rfl)
theorem dX1_isLive_17 : decode cX1_isLive 17 = .ok (.getfield 215, 3) := dk_180 0 215 (dk_at dksX1_isLive_0 17 rfl rfl)
theorem dX1_isLive_20 : decode cX1_isLive 20 = .ok (.sipush 999, 3) := dk_17 3 231 (dk_at dksX1_isLive_0 20 rfl rfl)
theorem dX1_isLive_23 : decode cX1_isLive 23 = .ok (.invokestatic 90, 3) := dk_184 0 90 (dk_at dksX1_isLive_1 0 rfl rfl)
theorem dX1_isLive_26 : decode cX1_isLive 26 = .ok (.ifCond .eq 7, 3) := dk_153 0 7 (dk_at dksX1_isLive_1 3 rfl rfl)
theorem dX1_isLive_29 : decode cX1_isLive 29 = .ok (.iconst 1, 1) := dk_4 (dk_at dksX1_isLive_1 6 rfl rfl)
theorem dX1_isLive_30 : decode cX1_isLive 30 = .ok (.goto 4, 3) := dk_167 0 4 (dk_at dksX1_isLive_1 7 rfl rfl)
theorem dX1_isLive_33 : decode cX1_isLive 33 = .ok (.iconst 0, 1) := dk_3 (dk_at dksX1_isLive_1 10 rfl rfl)
theorem dX1_isLive_34 : decode cX1_isLive 34 = .ok (.invokestatic 94, 3) := dk_184 0 94 (dk_at dksX1_isLive_1 11 rfl rfl)
theorem dX1_isLive_37 : decode cX1_isLive 37 = .ok (.aload_n 0, 1) := dk_42 (dk_at dksX1_isLive_1 14 rfl rfl)
theorem dX1_isLive_38 : decode cX1_isLive 38 = .ok (.getfield 33, 3) := dk_180 0 33 (dk_at dksX1_isLive_1 15 rfl rfl)
theorem dX1_isLive_41 : decode cX1_isLive 41 = .ok (.iload_n 1, 1) := dk_27 (dk_at dksX1_isLive_1 18 rfl rfl)
theorem dX1_isLive_42 : decode cX1_isLive 42 = .ok (.invokevirtual 122, 3) := dk_182 0 122 (dk_at dksX1_isLive_1 19 rfl rfl)
theorem dX1_isLive_45 : decode cX1_isLive 45 = .ok (.checkcast 132, 3) := dk_192 0 132 (dk_at dksX1_isLive_2 0 rfl rfl)
theorem dX1_isLive_48 : decode cX1_isLive 48 = .ok (.iload_n 2, 1) := dk_28 (dk_at dksX1_isLive_2 3 rfl rfl)
theorem dX1_isLive_49 : decode cX1_isLive 49 = .ok (.iload_n 3, 1) := dk_29 (dk_at dksX1_isLive_2 4 rfl rfl)
theorem dX1_isLive_50 : decode cX1_isLive 50 = .ok (.invokevirtual 137, 3) := dk_182 0 137 (dk_at dksX1_isLive_2 5 rfl rfl)
theorem dX1_isLive_53 : decode cX1_isLive 53 = .ok (.ireturn, 1) := dk_172 (dk_at dksX1_isLive_2 8 rfl rfl)
abbrev cX1_book : ByteArray := prog_1_method_37_code
def yX1_book : MethodName := ⟨RX1, "book", "(IIIIIC)I"⟩
def dkwX1_book_5 : List UInt8 := [29, 21, 4, 21, 5, 21, 6, 16, 98, 182, 1, 15, 172]
abbrev dktX1_book_5 : List UInt8 := dkwX1_book_5 ++ []
def dkwX1_book_4 : List UInt8 := [42, 180, 0, 36, 182, 0, 141, 17, 0, 150, 162, 0, 7, 4, 167, 0, 4, 3, 184, 0, 98, 42, 27, 28]
abbrev dktX1_book_4 : List UInt8 := dkwX1_book_4 ++ dktX1_book_5
def dkwX1_book_3 : List UInt8 := [187, 0, 241, 89, 183, 0, 243, 191, 187, 1, 12, 89, 183, 1, 14, 191, 187, 0, 80, 89, 183, 0, 82, 191]
abbrev dktX1_book_3 : List UInt8 := dkwX1_book_3 ++ dktX1_book_4
def dkwX1_book_2 : List UInt8 := [171, 0, 0, 0, 0, 58, 0, 0, 0, 3, 0, 0, 0, 105, 0, 0, 0, 34, 0, 0, 0, 109, 0, 0, 0, 42, 0, 0, 0, 116, 0, 0, 0, 50]
abbrev dktX1_book_2 : List UInt8 := dkwX1_book_2 ++ dktX1_book_3
def dkwX1_book_1 : List UInt8 := [182, 1, 8]
abbrev dktX1_book_1 : List UInt8 := dkwX1_book_1 ++ dktX1_book_2
def dkwX1_book_0 : List UInt8 := [42, 27, 28, 29, 21, 4, 21, 5, 21, 6, 182, 1, 4, 42, 27, 28, 29, 21, 4, 21, 5, 21, 6]
abbrev dktX1_book_0 : List UInt8 := dkwX1_book_0 ++ dktX1_book_1
theorem dksX1_book_0 : cX1_book.data.toList.drop 0 = dktX1_book_0 := by decide +kernel
theorem dksX1_book_1 : cX1_book.data.toList.drop 23 = dktX1_book_1 := dk_seg dksX1_book_0 23 rfl rfl
theorem dksX1_book_2 : cX1_book.data.toList.drop 26 = dktX1_book_2 := dk_seg dksX1_book_1 3 rfl rfl
theorem dksX1_book_3 : cX1_book.data.toList.drop 60 = dktX1_book_3 := dk_seg dksX1_book_2 34 rfl rfl
theorem dksX1_book_4 : cX1_book.data.toList.drop 84 = dktX1_book_4 := dk_seg dksX1_book_3 24 rfl rfl
theorem dksX1_book_5 : cX1_book.data.toList.drop 108 = dktX1_book_5 := dk_seg dksX1_book_4 24 rfl rfl
theorem dX1_book_0 : decode cX1_book 0 = .ok (.aload_n 0, 1) := dk_42 (dk_at dksX1_book_0 0 rfl rfl)
theorem dX1_book_1 : decode cX1_book 1 = .ok (.iload_n 1, 1) := dk_27 (dk_at dksX1_book_0 1 rfl rfl)
theorem dX1_book_2 : decode cX1_book 2 = .ok (.iload_n 2, 1) := dk_28 (dk_at dksX1_book_0 2 rfl rfl)
theorem dX1_book_3 : decode cX1_book 3 = .ok (.iload_n 3, 1) := dk_29 (dk_at dksX1_book_0 3 rfl rfl)
theorem dX1_book_4 : decode cX1_book 4 = .ok (.iload 4, 2) := dk_21 4 (dk_at dksX1_book_0 4 rfl rfl)
theorem dX1_book_6 : decode cX1_book 6 = .ok (.iload 5, 2) := dk_21 5 (dk_at dksX1_book_0 6 rfl rfl)
theorem dX1_book_8 : decode cX1_book 8 = .ok (.iload 6, 2) := dk_21 6 (dk_at dksX1_book_0 8 rfl rfl)
theorem dX1_book_10 : decode cX1_book 10 = .ok (.invokevirtual 260, 3) := dk_182 1 4 (dk_at dksX1_book_0 10 rfl rfl)
theorem dX1_book_13 : decode cX1_book 13 = .ok (.aload_n 0, 1) := dk_42 (dk_at dksX1_book_0 13 rfl rfl)
theorem dX1_book_14 : decode cX1_book 14 = .ok (.iload_n 1, 1) := dk_27 (dk_at dksX1_book_0 14 rfl rfl)
theorem dX1_book_15 : decode cX1_book 15 = .ok (.iload_n 2, 1) := dk_28 (dk_at dksX1_book_0 15 rfl rfl)
theorem dX1_book_16 : decode cX1_book 16 = .ok (.iload_n 3, 1) := dk_29 (dk_at dksX1_book_0 16 rfl rfl)
theorem dX1_book_17 : decode cX1_book 17 = .ok (.iload 4, 2) := dk_21 4 (dk_at dksX1_book_0 17 rfl rfl)
theorem dX1_book_19 : decode cX1_book 19 = .ok (.iload 5, 2) := dk_21 5 (dk_at dksX1_book_0 19 rfl rfl)
theorem dX1_book_21 : decode cX1_book 21 = .ok (.iload 6, 2) := dk_21 6 (dk_at dksX1_book_0 21 rfl rfl)
theorem dX1_book_23 : decode cX1_book 23 = .ok (.invokevirtual 264, 3) := dk_182 1 8 (dk_at dksX1_book_1 0 rfl rfl)
theorem dX1_book_26 : decode cX1_book 26 = .ok (.lookupswitch 58 #[(105, 34), (109, 42), (116, 50)], 34) := by decide +kernel
theorem dX1_book_60 : decode cX1_book 60 = .ok (.new 241, 3) := dk_187 0 241 (dk_at dksX1_book_3 0 rfl rfl)
theorem dX1_book_63 : decode cX1_book 63 = .ok (.dup, 1) := dk_89 (dk_at dksX1_book_3 3 rfl rfl)
theorem dX1_book_64 : decode cX1_book 64 = .ok (.invokespecial 243, 3) := dk_183 0 243 (dk_at dksX1_book_3 4 rfl rfl)
theorem dX1_book_67 : decode cX1_book 67 = .ok (.athrow, 1) := dk_191 (dk_at dksX1_book_3 7 rfl rfl)
theorem dX1_book_68 : decode cX1_book 68 = .ok (.new 268, 3) := dk_187 1 12 (dk_at dksX1_book_3 8 rfl rfl)
theorem dX1_book_71 : decode cX1_book 71 = .ok (.dup, 1) := dk_89 (dk_at dksX1_book_3 11 rfl rfl)
theorem dX1_book_72 : decode cX1_book 72 = .ok (.invokespecial 270, 3) := dk_183 1 14 (dk_at dksX1_book_3 12 rfl rfl)
theorem dX1_book_75 : decode cX1_book 75 = .ok (.athrow, 1) := dk_191 (dk_at dksX1_book_3 15 rfl rfl)
theorem dX1_book_76 : decode cX1_book 76 = .ok (.new 80, 3) := dk_187 0 80 (dk_at dksX1_book_3 16 rfl rfl)
theorem dX1_book_79 : decode cX1_book 79 = .ok (.dup, 1) := dk_89 (dk_at dksX1_book_3 19 rfl rfl)
theorem dX1_book_80 : decode cX1_book 80 = .ok (.invokespecial 82, 3) := dk_183 0 82 (dk_at dksX1_book_3 20 rfl rfl)
theorem dX1_book_83 : decode cX1_book 83 = .ok (.athrow, 1) := dk_191 (dk_at dksX1_book_3 23 rfl rfl)
theorem dX1_book_84 : decode cX1_book 84 = .ok (.aload_n 0, 1) := dk_42 (dk_at dksX1_book_4 0 rfl rfl)
theorem dX1_book_85 : decode cX1_book 85 = .ok (.getfield 36, 3) := dk_180 0 36 (dk_at dksX1_book_4 1 rfl rfl)
theorem dX1_book_88 : decode cX1_book 88 = .ok (.invokevirtual 141, 3) := dk_182 0 141 (dk_at dksX1_book_4 4 rfl rfl)
theorem dX1_book_91 : decode cX1_book 91 = .ok (.sipush 150, 3) := dk_17 0 150 (dk_at dksX1_book_4 7 rfl rfl)
theorem dX1_book_94 : decode cX1_book 94 = .ok (.if_icmp .ge 7, 3) := dk_162 0 7 (dk_at dksX1_book_4 10 rfl rfl)
theorem dX1_book_97 : decode cX1_book 97 = .ok (.iconst 1, 1) := dk_4 (dk_at dksX1_book_4 13 rfl rfl)
theorem dX1_book_98 : decode cX1_book 98 = .ok (.goto 4, 3) := dk_167 0 4 (dk_at dksX1_book_4 14 rfl rfl)
theorem dX1_book_101 : decode cX1_book 101 = .ok (.iconst 0, 1) := dk_3 (dk_at dksX1_book_4 17 rfl rfl)
theorem dX1_book_102 : decode cX1_book 102 = .ok (.invokestatic 98, 3) := dk_184 0 98 (dk_at dksX1_book_4 18 rfl rfl)
theorem dX1_book_105 : decode cX1_book 105 = .ok (.aload_n 0, 1) := dk_42 (dk_at dksX1_book_4 21 rfl rfl)
theorem dX1_book_106 : decode cX1_book 106 = .ok (.iload_n 1, 1) := dk_27 (dk_at dksX1_book_4 22 rfl rfl)
theorem dX1_book_107 : decode cX1_book 107 = .ok (.iload_n 2, 1) := dk_28 (dk_at dksX1_book_4 23 rfl rfl)
theorem dX1_book_108 : decode cX1_book 108 = .ok (.iload_n 3, 1) := dk_29 (dk_at dksX1_book_5 0 rfl rfl)
theorem dX1_book_109 : decode cX1_book 109 = .ok (.iload 4, 2) := dk_21 4 (dk_at dksX1_book_5 1 rfl rfl)
theorem dX1_book_111 : decode cX1_book 111 = .ok (.iload 5, 2) := dk_21 5 (dk_at dksX1_book_5 3 rfl rfl)
theorem dX1_book_113 : decode cX1_book 113 = .ok (.iload 6, 2) := dk_21 6 (dk_at dksX1_book_5 5 rfl rfl)
theorem dX1_book_115 : decode cX1_book 115 = .ok (.bipush 98, 2) := dk_16 98 (dk_at dksX1_book_5 7 rfl rfl)
theorem dX1_book_117 : decode cX1_book 117 = .ok (.invokevirtual 271, 3) := dk_182 1 15 (dk_at dksX1_book_5 9 rfl rfl)
theorem dX1_book_120 : decode cX1_book 120 = .ok (.ireturn, 1) := dk_172 (dk_at dksX1_book_5 12 rfl rfl)
abbrev cX1_mayAsk : ByteArray := prog_1_method_34_code
def yX1_mayAsk : MethodName := ⟨RX1, "mayAsk", "(IIIIIC)V"⟩
def dkwX1_mayAsk_3 : List UInt8 := [167, 0, 4, 3, 184, 0, 94, 177]
abbrev dktX1_mayAsk_3 : List UInt8 := dkwX1_mayAsk_3 ++ []
def dkwX1_mayAsk_2 : List UInt8 := [153, 0, 26, 21, 4, 17, 1, 224, 21, 5, 100, 163, 0, 15, 21, 6, 184, 0, 253, 153, 0, 7, 4]
abbrev dktX1_mayAsk_2 : List UInt8 := dkwX1_mayAsk_2 ++ dktX1_mayAsk_3
def dkwX1_mayAsk_1 : List UInt8 := [42, 29, 182, 0, 250, 153, 0, 43, 21, 4, 155, 0, 38, 21, 5, 4, 17, 0, 240, 184, 0, 90]
abbrev dktX1_mayAsk_1 : List UInt8 := dkwX1_mayAsk_1 ++ dktX1_mayAsk_2
def dkwX1_mayAsk_0 : List UInt8 := [42, 27, 182, 0, 235, 153, 0, 15, 42, 28, 182, 0, 247, 153, 0, 7, 4, 167, 0, 4, 3, 184, 0, 238]
abbrev dktX1_mayAsk_0 : List UInt8 := dkwX1_mayAsk_0 ++ dktX1_mayAsk_1
theorem dksX1_mayAsk_0 : cX1_mayAsk.data.toList.drop 0 = dktX1_mayAsk_0 := by decide +kernel
theorem dksX1_mayAsk_1 : cX1_mayAsk.data.toList.drop 24 = dktX1_mayAsk_1 := dk_seg dksX1_mayAsk_0 24 rfl rfl
theorem dksX1_mayAsk_2 : cX1_mayAsk.data.toList.drop 46 = dktX1_mayAsk_2 := dk_seg dksX1_mayAsk_1 22 rfl rfl
theorem dksX1_mayAsk_3 : cX1_mayAsk.data.toList.drop 69 = dktX1_mayAsk_3 := dk_seg dksX1_mayAsk_2 23 rfl rfl
theorem dX1_mayAsk_0 : decode cX1_mayAsk 0 = .ok (.aload_n 0, 1) := dk_42 (dk_at dksX1_mayAsk_0 0 rfl rfl)
theorem dX1_mayAsk_1 : decode cX1_mayAsk 1 = .ok (.iload_n 1, 1) := dk_27 (dk_at dksX1_mayAsk_0 1 rfl rfl)
theorem dX1_mayAsk_2 : decode cX1_mayAsk 2 = .ok (.invokevirtual 235, 3) := dk_182 0 235 (dk_at dksX1_mayAsk_0 2 rfl rfl)
theorem dX1_mayAsk_5 : decode cX1_mayAsk 5 = .ok (.ifCond .eq 15, 3) := dk_153 0 15 (dk_at dksX1_mayAsk_0 5 rfl rfl)
theorem dX1_mayAsk_8 : decode cX1_mayAsk 8 = .ok (.aload_n 0, 1) := dk_42 (dk_at dksX1_mayAsk_0 8 rfl rfl)
theorem dX1_mayAsk_9 : decode cX1_mayAsk 9 = .ok (.iload_n 2, 1) := dk_28 (dk_at dksX1_mayAsk_0 9 rfl rfl)
theorem dX1_mayAsk_10 : decode cX1_mayAsk 10 = .ok (.invokevirtual 247, 3) := dk_182 0 247 (dk_at dksX1_mayAsk_0 10 rfl rfl)
theorem dX1_mayAsk_13 : decode cX1_mayAsk 13 = .ok (.ifCond .eq 7, 3) := dk_153 0 7 (dk_at dksX1_mayAsk_0 13 rfl rfl)
theorem dX1_mayAsk_16 : decode cX1_mayAsk 16 = .ok (.iconst 1, 1) := dk_4 (dk_at dksX1_mayAsk_0 16 rfl rfl)
theorem dX1_mayAsk_17 : decode cX1_mayAsk 17 = .ok (.goto 4, 3) := dk_167 0 4 (dk_at dksX1_mayAsk_0 17 rfl rfl)
theorem dX1_mayAsk_20 : decode cX1_mayAsk 20 = .ok (.iconst 0, 1) := dk_3 (dk_at dksX1_mayAsk_0 20 rfl rfl)
theorem dX1_mayAsk_21 : decode cX1_mayAsk 21 = .ok (.invokestatic 238, 3) := dk_184 0 238 (dk_at dksX1_mayAsk_0 21 rfl rfl)
theorem dX1_mayAsk_24 : decode cX1_mayAsk 24 = .ok (.aload_n 0, 1) := dk_42 (dk_at dksX1_mayAsk_1 0 rfl rfl)
theorem dX1_mayAsk_25 : decode cX1_mayAsk 25 = .ok (.iload_n 3, 1) := dk_29 (dk_at dksX1_mayAsk_1 1 rfl rfl)
theorem dX1_mayAsk_26 : decode cX1_mayAsk 26 = .ok (.invokevirtual 250, 3) := dk_182 0 250 (dk_at dksX1_mayAsk_1 2 rfl rfl)
theorem dX1_mayAsk_29 : decode cX1_mayAsk 29 = .ok (.ifCond .eq 43, 3) := dk_153 0 43 (dk_at dksX1_mayAsk_1 5 rfl rfl)
theorem dX1_mayAsk_32 : decode cX1_mayAsk 32 = .ok (.iload 4, 2) := dk_21 4 (dk_at dksX1_mayAsk_1 8 rfl rfl)
theorem dX1_mayAsk_34 : decode cX1_mayAsk 34 = .ok (.ifCond .lt 38, 3) := dk_155 0 38 (dk_at dksX1_mayAsk_1 10 rfl rfl)
theorem dX1_mayAsk_37 : decode cX1_mayAsk 37 = .ok (.iload 5, 2) := dk_21 5 (dk_at dksX1_mayAsk_1 13 rfl rfl)
theorem dX1_mayAsk_39 : decode cX1_mayAsk 39 = .ok (.iconst 1, 1) := dk_4 (dk_at dksX1_mayAsk_1 15 rfl rfl)
theorem dX1_mayAsk_40 : decode cX1_mayAsk 40 = .ok (.sipush 240, 3) := dk_17 0 240 (dk_at dksX1_mayAsk_1 16 rfl rfl)
theorem dX1_mayAsk_43 : decode cX1_mayAsk 43 = .ok (.invokestatic 90, 3) := dk_184 0 90 (dk_at dksX1_mayAsk_1 19 rfl rfl)
theorem dX1_mayAsk_46 : decode cX1_mayAsk 46 = .ok (.ifCond .eq 26, 3) := dk_153 0 26 (dk_at dksX1_mayAsk_2 0 rfl rfl)
theorem dX1_mayAsk_49 : decode cX1_mayAsk 49 = .ok (.iload 4, 2) := dk_21 4 (dk_at dksX1_mayAsk_2 3 rfl rfl)
theorem dX1_mayAsk_51 : decode cX1_mayAsk 51 = .ok (.sipush 480, 3) := dk_17 1 224 (dk_at dksX1_mayAsk_2 5 rfl rfl)
theorem dX1_mayAsk_54 : decode cX1_mayAsk 54 = .ok (.iload 5, 2) := dk_21 5 (dk_at dksX1_mayAsk_2 8 rfl rfl)
theorem dX1_mayAsk_56 : decode cX1_mayAsk 56 = .ok (.isub, 1) := dk_100 (dk_at dksX1_mayAsk_2 10 rfl rfl)
theorem dX1_mayAsk_57 : decode cX1_mayAsk 57 = .ok (.if_icmp .gt 15, 3) := dk_163 0 15 (dk_at dksX1_mayAsk_2 11 rfl rfl)
theorem dX1_mayAsk_60 : decode cX1_mayAsk 60 = .ok (.iload 6, 2) := dk_21 6 (dk_at dksX1_mayAsk_2 14 rfl rfl)
theorem dX1_mayAsk_62 : decode cX1_mayAsk 62 = .ok (.invokestatic 253, 3) := dk_184 0 253 (dk_at dksX1_mayAsk_2 16 rfl rfl)
theorem dX1_mayAsk_65 : decode cX1_mayAsk 65 = .ok (.ifCond .eq 7, 3) := dk_153 0 7 (dk_at dksX1_mayAsk_2 19 rfl rfl)
theorem dX1_mayAsk_68 : decode cX1_mayAsk 68 = .ok (.iconst 1, 1) := dk_4 (dk_at dksX1_mayAsk_2 22 rfl rfl)
theorem dX1_mayAsk_69 : decode cX1_mayAsk 69 = .ok (.goto 4, 3) := dk_167 0 4 (dk_at dksX1_mayAsk_3 0 rfl rfl)
theorem dX1_mayAsk_72 : decode cX1_mayAsk 72 = .ok (.iconst 0, 1) := dk_3 (dk_at dksX1_mayAsk_3 3 rfl rfl)
theorem dX1_mayAsk_73 : decode cX1_mayAsk 73 = .ok (.invokestatic 94, 3) := dk_184 0 94 (dk_at dksX1_mayAsk_3 4 rfl rfl)
theorem dX1_mayAsk_76 : decode cX1_mayAsk 76 = .ok (.return_, 1) := dk_177 (dk_at dksX1_mayAsk_3 7 rfl rfl)
abbrev cX1_isMachine : ByteArray := prog_1_method_24_code
def yX1_isMachine : MethodName := ⟨RX1, "isMachine", "(I)Z"⟩
def dkwX1_isMachine_0 : List UInt8 := [27, 3, 42, 180, 0, 29, 182, 0, 141, 4, 100, 184, 0, 90, 172]
abbrev dktX1_isMachine_0 : List UInt8 := dkwX1_isMachine_0 ++ []
theorem dksX1_isMachine_0 : cX1_isMachine.data.toList.drop 0 = dktX1_isMachine_0 := by decide +kernel
theorem dX1_isMachine_0 : decode cX1_isMachine 0 = .ok (.iload_n 1, 1) := dk_27 (dk_at dksX1_isMachine_0 0 rfl rfl)
theorem dX1_isMachine_1 : decode cX1_isMachine 1 = .ok (.iconst 0, 1) := dk_3 (dk_at dksX1_isMachine_0 1 rfl rfl)
theorem dX1_isMachine_2 : decode cX1_isMachine 2 = .ok (.aload_n 0, 1) := dk_42 (dk_at dksX1_isMachine_0 2 rfl rfl)
theorem dX1_isMachine_3 : decode cX1_isMachine 3 = .ok (.getfield 29, 3) := dk_180 0 29 (dk_at dksX1_isMachine_0 3 rfl rfl)
theorem dX1_isMachine_6 : decode cX1_isMachine 6 = .ok (.invokevirtual 141, 3) := dk_182 0 141 (dk_at dksX1_isMachine_0 6 rfl rfl)
theorem dX1_isMachine_9 : decode cX1_isMachine 9 = .ok (.iconst 1, 1) := dk_4 (dk_at dksX1_isMachine_0 9 rfl rfl)
theorem dX1_isMachine_10 : decode cX1_isMachine 10 = .ok (.isub, 1) := dk_100 (dk_at dksX1_isMachine_0 10 rfl rfl)
theorem dX1_isMachine_11 : decode cX1_isMachine 11 = .ok (.invokestatic 90, 3) := dk_184 0 90 (dk_at dksX1_isMachine_0 11 rfl rfl)
theorem dX1_isMachine_14 : decode cX1_isMachine 14 = .ok (.ireturn, 1) := dk_172 (dk_at dksX1_isMachine_0 14 rfl rfl)
abbrev cX1_isAhead : ByteArray := prog_1_method_26_code
def yX1_isAhead : MethodName := ⟨RX1, "isAhead", "(I)Z"⟩
def dkwX1_isAhead_0 : List UInt8 := [27, 42, 180, 0, 215, 42, 180, 0, 215, 16, 6, 96, 184, 0, 90, 172]
abbrev dktX1_isAhead_0 : List UInt8 := dkwX1_isAhead_0 ++ []
theorem dksX1_isAhead_0 : cX1_isAhead.data.toList.drop 0 = dktX1_isAhead_0 := by decide +kernel
theorem dX1_isAhead_0 : decode cX1_isAhead 0 = .ok (.iload_n 1, 1) := dk_27 (dk_at dksX1_isAhead_0 0 rfl rfl)
theorem dX1_isAhead_1 : decode cX1_isAhead 1 = .ok (.aload_n 0, 1) := dk_42 (dk_at dksX1_isAhead_0 1 rfl rfl)
theorem dX1_isAhead_2 : decode cX1_isAhead 2 = .ok (.getfield 215, 3) := dk_180 0 215 (dk_at dksX1_isAhead_0 2 rfl rfl)
theorem dX1_isAhead_5 : decode cX1_isAhead 5 = .ok (.aload_n 0, 1) := dk_42 (dk_at dksX1_isAhead_0 5 rfl rfl)
theorem dX1_isAhead_6 : decode cX1_isAhead 6 = .ok (.getfield 215, 3) := dk_180 0 215 (dk_at dksX1_isAhead_0 6 rfl rfl)
theorem dX1_isAhead_9 : decode cX1_isAhead 9 = .ok (.bipush 6, 2) := dk_16 6 (dk_at dksX1_isAhead_0 9 rfl rfl)
theorem dX1_isAhead_11 : decode cX1_isAhead 11 = .ok (.iadd, 1) := dk_96 (dk_at dksX1_isAhead_0 11 rfl rfl)
theorem dX1_isAhead_12 : decode cX1_isAhead 12 = .ok (.invokestatic 90, 3) := dk_184 0 90 (dk_at dksX1_isAhead_0 12 rfl rfl)
theorem dX1_isAhead_15 : decode cX1_isAhead 15 = .ok (.ireturn, 1) := dk_172 (dk_at dksX1_isAhead_0 15 rfl rfl)
abbrev cX1_isWork : ByteArray := prog_1_method_35_code
def yX1_isWork : MethodName := ⟨RX1, "isWork", "(C)Z"⟩
def dkwX1_isWork_0 : List UInt8 := [26, 16, 97, 16, 99, 184, 0, 90, 172]
abbrev dktX1_isWork_0 : List UInt8 := dkwX1_isWork_0 ++ []
theorem dksX1_isWork_0 : cX1_isWork.data.toList.drop 0 = dktX1_isWork_0 := by decide +kernel
theorem dX1_isWork_0 : decode cX1_isWork 0 = .ok (.iload_n 0, 1) := dk_26 (dk_at dksX1_isWork_0 0 rfl rfl)
theorem dX1_isWork_1 : decode cX1_isWork 1 = .ok (.bipush 97, 2) := dk_16 97 (dk_at dksX1_isWork_0 1 rfl rfl)
theorem dX1_isWork_3 : decode cX1_isWork 3 = .ok (.bipush 99, 2) := dk_16 99 (dk_at dksX1_isWork_0 3 rfl rfl)
theorem dX1_isWork_5 : decode cX1_isWork 5 = .ok (.invokestatic 90, 3) := dk_184 0 90 (dk_at dksX1_isWork_0 5 rfl rfl)
theorem dX1_isWork_8 : decode cX1_isWork 8 = .ok (.ireturn, 1) := dk_172 (dk_at dksX1_isWork_0 8 rfl rfl)
abbrev cX1_enters : ByteArray := prog_1_method_36_code
def yX1_enters : MethodName := ⟨RX1, "enters", "(IIIIICC)I"⟩
def dkwX1_enters_1 : List UInt8 := [182, 0, 219, 87, 42, 182, 0, 232, 42, 180, 0, 36, 182, 0, 141, 4, 100, 172]
abbrev dktX1_enters_1 : List UInt8 := dkwX1_enters_1 ++ []
def dkwX1_enters_0 : List UInt8 := [42, 180, 0, 36, 187, 0, 145, 89, 42, 27, 28, 29, 21, 4, 21, 5, 21, 6, 21, 7, 183, 1, 1]
abbrev dktX1_enters_0 : List UInt8 := dkwX1_enters_0 ++ dktX1_enters_1
theorem dksX1_enters_0 : cX1_enters.data.toList.drop 0 = dktX1_enters_0 := by decide +kernel
theorem dksX1_enters_1 : cX1_enters.data.toList.drop 23 = dktX1_enters_1 := dk_seg dksX1_enters_0 23 rfl rfl
theorem dX1_enters_0 : decode cX1_enters 0 = .ok (.aload_n 0, 1) := dk_42 (dk_at dksX1_enters_0 0 rfl rfl)
theorem dX1_enters_1 : decode cX1_enters 1 = .ok (.getfield 36, 3) := dk_180 0 36 (dk_at dksX1_enters_0 1 rfl rfl)
theorem dX1_enters_4 : decode cX1_enters 4 = .ok (.new 145, 3) := dk_187 0 145 (dk_at dksX1_enters_0 4 rfl rfl)
theorem dX1_enters_7 : decode cX1_enters 7 = .ok (.dup, 1) := dk_89 (dk_at dksX1_enters_0 7 rfl rfl)
theorem dX1_enters_8 : decode cX1_enters 8 = .ok (.aload_n 0, 1) := dk_42 (dk_at dksX1_enters_0 8 rfl rfl)
theorem dX1_enters_9 : decode cX1_enters 9 = .ok (.iload_n 1, 1) := dk_27 (dk_at dksX1_enters_0 9 rfl rfl)
theorem dX1_enters_10 : decode cX1_enters 10 = .ok (.iload_n 2, 1) := dk_28 (dk_at dksX1_enters_0 10 rfl rfl)
theorem dX1_enters_11 : decode cX1_enters 11 = .ok (.iload_n 3, 1) := dk_29 (dk_at dksX1_enters_0 11 rfl rfl)
theorem dX1_enters_12 : decode cX1_enters 12 = .ok (.iload 4, 2) := dk_21 4 (dk_at dksX1_enters_0 12 rfl rfl)
theorem dX1_enters_14 : decode cX1_enters 14 = .ok (.iload 5, 2) := dk_21 5 (dk_at dksX1_enters_0 14 rfl rfl)
theorem dX1_enters_16 : decode cX1_enters 16 = .ok (.iload 6, 2) := dk_21 6 (dk_at dksX1_enters_0 16 rfl rfl)
theorem dX1_enters_18 : decode cX1_enters 18 = .ok (.iload 7, 2) := dk_21 7 (dk_at dksX1_enters_0 18 rfl rfl)
theorem dX1_enters_20 : decode cX1_enters 20 = .ok (.invokespecial 257, 3) := dk_183 1 1 (dk_at dksX1_enters_0 20 rfl rfl)
theorem dX1_enters_23 : decode cX1_enters 23 = .ok (.invokevirtual 219, 3) := dk_182 0 219 (dk_at dksX1_enters_1 0 rfl rfl)
theorem dX1_enters_26 : decode cX1_enters 26 = .ok (.pop, 1) := dk_87 (dk_at dksX1_enters_1 3 rfl rfl)
theorem dX1_enters_27 : decode cX1_enters 27 = .ok (.aload_n 0, 1) := dk_42 (dk_at dksX1_enters_1 4 rfl rfl)
theorem dX1_enters_28 : decode cX1_enters 28 = .ok (.invokevirtual 232, 3) := dk_182 0 232 (dk_at dksX1_enters_1 5 rfl rfl)
theorem dX1_enters_31 : decode cX1_enters 31 = .ok (.aload_n 0, 1) := dk_42 (dk_at dksX1_enters_1 8 rfl rfl)
theorem dX1_enters_32 : decode cX1_enters 32 = .ok (.getfield 36, 3) := dk_180 0 36 (dk_at dksX1_enters_1 9 rfl rfl)
theorem dX1_enters_35 : decode cX1_enters 35 = .ok (.invokevirtual 141, 3) := dk_182 0 141 (dk_at dksX1_enters_1 12 rfl rfl)
theorem dX1_enters_38 : decode cX1_enters 38 = .ok (.iconst 1, 1) := dk_4 (dk_at dksX1_enters_1 15 rfl rfl)
theorem dX1_enters_39 : decode cX1_enters 39 = .ok (.isub, 1) := dk_100 (dk_at dksX1_enters_1 16 rfl rfl)
theorem dX1_enters_40 : decode cX1_enters 40 = .ok (.ireturn, 1) := dk_172 (dk_at dksX1_enters_1 17 rfl rfl)
abbrev cX1_await : ByteArray := prog_1_method_38_code
def yX1_await : MethodName := ⟨RX1, "await", "(IIIIIC)I"⟩
def dkwX1_await_3 : List UInt8 := [42, 27, 28, 29, 21, 4, 21, 5, 21, 6, 16, 119, 182, 1, 15, 172]
abbrev dktX1_await_3 : List UInt8 := dkwX1_await_3 ++ []
def dkwX1_await_2 : List UInt8 := [159, 0, 20, 42, 180, 0, 36, 182, 0, 141, 17, 0, 150, 162, 0, 7, 4, 167, 0, 4, 3, 184, 0, 98]
abbrev dktX1_await_2 : List UInt8 := dkwX1_await_2 ++ dktX1_await_3
def dkwX1_await_1 : List UInt8 := [182, 1, 8, 54, 7, 21, 7, 16, 105, 160, 0, 11, 187, 0, 241, 89, 183, 0, 243, 191, 21, 7, 16, 111]
abbrev dktX1_await_1 : List UInt8 := dkwX1_await_1 ++ dktX1_await_2
def dkwX1_await_0 : List UInt8 := [42, 27, 28, 29, 21, 4, 21, 5, 21, 6, 182, 1, 4, 42, 27, 28, 29, 21, 4, 21, 5, 21, 6]
abbrev dktX1_await_0 : List UInt8 := dkwX1_await_0 ++ dktX1_await_1
theorem dksX1_await_0 : cX1_await.data.toList.drop 0 = dktX1_await_0 := by decide +kernel
theorem dksX1_await_1 : cX1_await.data.toList.drop 23 = dktX1_await_1 := dk_seg dksX1_await_0 23 rfl rfl
theorem dksX1_await_2 : cX1_await.data.toList.drop 47 = dktX1_await_2 := dk_seg dksX1_await_1 24 rfl rfl
theorem dksX1_await_3 : cX1_await.data.toList.drop 71 = dktX1_await_3 := dk_seg dksX1_await_2 24 rfl rfl
theorem dX1_await_0 : decode cX1_await 0 = .ok (.aload_n 0, 1) := dk_42 (dk_at dksX1_await_0 0 rfl rfl)
theorem dX1_await_1 : decode cX1_await 1 = .ok (.iload_n 1, 1) := dk_27 (dk_at dksX1_await_0 1 rfl rfl)
theorem dX1_await_2 : decode cX1_await 2 = .ok (.iload_n 2, 1) := dk_28 (dk_at dksX1_await_0 2 rfl rfl)
theorem dX1_await_3 : decode cX1_await 3 = .ok (.iload_n 3, 1) := dk_29 (dk_at dksX1_await_0 3 rfl rfl)
theorem dX1_await_4 : decode cX1_await 4 = .ok (.iload 4, 2) := dk_21 4 (dk_at dksX1_await_0 4 rfl rfl)
theorem dX1_await_6 : decode cX1_await 6 = .ok (.iload 5, 2) := dk_21 5 (dk_at dksX1_await_0 6 rfl rfl)
theorem dX1_await_8 : decode cX1_await 8 = .ok (.iload 6, 2) := dk_21 6 (dk_at dksX1_await_0 8 rfl rfl)
theorem dX1_await_10 : decode cX1_await 10 = .ok (.invokevirtual 260, 3) := dk_182 1 4 (dk_at dksX1_await_0 10 rfl rfl)
theorem dX1_await_13 : decode cX1_await 13 = .ok (.aload_n 0, 1) := dk_42 (dk_at dksX1_await_0 13 rfl rfl)
theorem dX1_await_14 : decode cX1_await 14 = .ok (.iload_n 1, 1) := dk_27 (dk_at dksX1_await_0 14 rfl rfl)
theorem dX1_await_15 : decode cX1_await 15 = .ok (.iload_n 2, 1) := dk_28 (dk_at dksX1_await_0 15 rfl rfl)
theorem dX1_await_16 : decode cX1_await 16 = .ok (.iload_n 3, 1) := dk_29 (dk_at dksX1_await_0 16 rfl rfl)
theorem dX1_await_17 : decode cX1_await 17 = .ok (.iload 4, 2) := dk_21 4 (dk_at dksX1_await_0 17 rfl rfl)
theorem dX1_await_19 : decode cX1_await 19 = .ok (.iload 5, 2) := dk_21 5 (dk_at dksX1_await_0 19 rfl rfl)
theorem dX1_await_21 : decode cX1_await 21 = .ok (.iload 6, 2) := dk_21 6 (dk_at dksX1_await_0 21 rfl rfl)
theorem dX1_await_23 : decode cX1_await 23 = .ok (.invokevirtual 264, 3) := dk_182 1 8 (dk_at dksX1_await_1 0 rfl rfl)
theorem dX1_await_26 : decode cX1_await 26 = .ok (.istore 7, 2) := dk_54 7 (dk_at dksX1_await_1 3 rfl rfl)
theorem dX1_await_28 : decode cX1_await 28 = .ok (.iload 7, 2) := dk_21 7 (dk_at dksX1_await_1 5 rfl rfl)
theorem dX1_await_30 : decode cX1_await 30 = .ok (.bipush 105, 2) := dk_16 105 (dk_at dksX1_await_1 7 rfl rfl)
theorem dX1_await_32 : decode cX1_await 32 = .ok (.if_icmp .ne 11, 3) := dk_160 0 11 (dk_at dksX1_await_1 9 rfl rfl)
theorem dX1_await_35 : decode cX1_await 35 = .ok (.new 241, 3) := dk_187 0 241 (dk_at dksX1_await_1 12 rfl rfl)
theorem dX1_await_38 : decode cX1_await 38 = .ok (.dup, 1) := dk_89 (dk_at dksX1_await_1 15 rfl rfl)
theorem dX1_await_39 : decode cX1_await 39 = .ok (.invokespecial 243, 3) := dk_183 0 243 (dk_at dksX1_await_1 16 rfl rfl)
theorem dX1_await_42 : decode cX1_await 42 = .ok (.athrow, 1) := dk_191 (dk_at dksX1_await_1 19 rfl rfl)
theorem dX1_await_43 : decode cX1_await 43 = .ok (.iload 7, 2) := dk_21 7 (dk_at dksX1_await_1 20 rfl rfl)
theorem dX1_await_45 : decode cX1_await 45 = .ok (.bipush 111, 2) := dk_16 111 (dk_at dksX1_await_1 22 rfl rfl)
theorem dX1_await_47 : decode cX1_await 47 = .ok (.if_icmp .eq 20, 3) := dk_159 0 20 (dk_at dksX1_await_2 0 rfl rfl)
theorem dX1_await_50 : decode cX1_await 50 = .ok (.aload_n 0, 1) := dk_42 (dk_at dksX1_await_2 3 rfl rfl)
theorem dX1_await_51 : decode cX1_await 51 = .ok (.getfield 36, 3) := dk_180 0 36 (dk_at dksX1_await_2 4 rfl rfl)
theorem dX1_await_54 : decode cX1_await 54 = .ok (.invokevirtual 141, 3) := dk_182 0 141 (dk_at dksX1_await_2 7 rfl rfl)
theorem dX1_await_57 : decode cX1_await 57 = .ok (.sipush 150, 3) := dk_17 0 150 (dk_at dksX1_await_2 10 rfl rfl)
theorem dX1_await_60 : decode cX1_await 60 = .ok (.if_icmp .ge 7, 3) := dk_162 0 7 (dk_at dksX1_await_2 13 rfl rfl)
theorem dX1_await_63 : decode cX1_await 63 = .ok (.iconst 1, 1) := dk_4 (dk_at dksX1_await_2 16 rfl rfl)
theorem dX1_await_64 : decode cX1_await 64 = .ok (.goto 4, 3) := dk_167 0 4 (dk_at dksX1_await_2 17 rfl rfl)
theorem dX1_await_67 : decode cX1_await 67 = .ok (.iconst 0, 1) := dk_3 (dk_at dksX1_await_2 20 rfl rfl)
theorem dX1_await_68 : decode cX1_await 68 = .ok (.invokestatic 98, 3) := dk_184 0 98 (dk_at dksX1_await_2 21 rfl rfl)
theorem dX1_await_71 : decode cX1_await 71 = .ok (.aload_n 0, 1) := dk_42 (dk_at dksX1_await_3 0 rfl rfl)
theorem dX1_await_72 : decode cX1_await 72 = .ok (.iload_n 1, 1) := dk_27 (dk_at dksX1_await_3 1 rfl rfl)
theorem dX1_await_73 : decode cX1_await 73 = .ok (.iload_n 2, 1) := dk_28 (dk_at dksX1_await_3 2 rfl rfl)
theorem dX1_await_74 : decode cX1_await 74 = .ok (.iload_n 3, 1) := dk_29 (dk_at dksX1_await_3 3 rfl rfl)
theorem dX1_await_75 : decode cX1_await 75 = .ok (.iload 4, 2) := dk_21 4 (dk_at dksX1_await_3 4 rfl rfl)
theorem dX1_await_77 : decode cX1_await 77 = .ok (.iload 5, 2) := dk_21 5 (dk_at dksX1_await_3 6 rfl rfl)
theorem dX1_await_79 : decode cX1_await 79 = .ok (.iload 6, 2) := dk_21 6 (dk_at dksX1_await_3 8 rfl rfl)
theorem dX1_await_81 : decode cX1_await 81 = .ok (.bipush 119, 2) := dk_16 119 (dk_at dksX1_await_3 10 rfl rfl)
theorem dX1_await_83 : decode cX1_await 83 = .ok (.invokevirtual 271, 3) := dk_182 1 15 (dk_at dksX1_await_3 12 rfl rfl)
theorem dX1_await_86 : decode cX1_await 86 = .ok (.ireturn, 1) := dk_172 (dk_at dksX1_await_3 15 rfl rfl)
abbrev cX1_check : ByteArray := prog_1_method_39_code
def yX1_check : MethodName := ⟨RX1, "check", "(IIIIIC)C"⟩
def dkwX1_check_1 : List UInt8 := [182, 1, 8, 172]
abbrev dktX1_check_1 : List UInt8 := dkwX1_check_1 ++ []
def dkwX1_check_0 : List UInt8 := [42, 27, 28, 29, 21, 4, 21, 5, 21, 6, 182, 1, 4, 42, 27, 28, 29, 21, 4, 21, 5, 21, 6]
abbrev dktX1_check_0 : List UInt8 := dkwX1_check_0 ++ dktX1_check_1
theorem dksX1_check_0 : cX1_check.data.toList.drop 0 = dktX1_check_0 := by decide +kernel
theorem dksX1_check_1 : cX1_check.data.toList.drop 23 = dktX1_check_1 := dk_seg dksX1_check_0 23 rfl rfl
theorem dX1_check_0 : decode cX1_check 0 = .ok (.aload_n 0, 1) := dk_42 (dk_at dksX1_check_0 0 rfl rfl)
theorem dX1_check_1 : decode cX1_check 1 = .ok (.iload_n 1, 1) := dk_27 (dk_at dksX1_check_0 1 rfl rfl)
theorem dX1_check_2 : decode cX1_check 2 = .ok (.iload_n 2, 1) := dk_28 (dk_at dksX1_check_0 2 rfl rfl)
theorem dX1_check_3 : decode cX1_check 3 = .ok (.iload_n 3, 1) := dk_29 (dk_at dksX1_check_0 3 rfl rfl)
theorem dX1_check_4 : decode cX1_check 4 = .ok (.iload 4, 2) := dk_21 4 (dk_at dksX1_check_0 4 rfl rfl)
theorem dX1_check_6 : decode cX1_check 6 = .ok (.iload 5, 2) := dk_21 5 (dk_at dksX1_check_0 6 rfl rfl)
theorem dX1_check_8 : decode cX1_check 8 = .ok (.iload 6, 2) := dk_21 6 (dk_at dksX1_check_0 8 rfl rfl)
theorem dX1_check_10 : decode cX1_check 10 = .ok (.invokevirtual 260, 3) := dk_182 1 4 (dk_at dksX1_check_0 10 rfl rfl)
theorem dX1_check_13 : decode cX1_check 13 = .ok (.aload_n 0, 1) := dk_42 (dk_at dksX1_check_0 13 rfl rfl)
theorem dX1_check_14 : decode cX1_check 14 = .ok (.iload_n 1, 1) := dk_27 (dk_at dksX1_check_0 14 rfl rfl)
theorem dX1_check_15 : decode cX1_check 15 = .ok (.iload_n 2, 1) := dk_28 (dk_at dksX1_check_0 15 rfl rfl)
theorem dX1_check_16 : decode cX1_check 16 = .ok (.iload_n 3, 1) := dk_29 (dk_at dksX1_check_0 16 rfl rfl)
theorem dX1_check_17 : decode cX1_check 17 = .ok (.iload 4, 2) := dk_21 4 (dk_at dksX1_check_0 17 rfl rfl)
theorem dX1_check_19 : decode cX1_check 19 = .ok (.iload 5, 2) := dk_21 5 (dk_at dksX1_check_0 19 rfl rfl)
theorem dX1_check_21 : decode cX1_check 21 = .ok (.iload 6, 2) := dk_21 6 (dk_at dksX1_check_0 21 rfl rfl)
theorem dX1_check_23 : decode cX1_check 23 = .ok (.invokevirtual 264, 3) := dk_182 1 8 (dk_at dksX1_check_1 0 rfl rfl)
theorem dX1_check_26 : decode cX1_check 26 = .ok (.ireturn, 1) := dk_172 (dk_at dksX1_check_1 3 rfl rfl)
abbrev cX1_cancel : ByteArray := prog_1_method_41_code
def yX1_cancel : MethodName := ⟨RX1, "cancel", "(I)C"⟩
def dkwX1_cancel_3 : List UInt8 := [44, 44, 182, 1, 26, 5, 108, 182, 1, 29, 44, 182, 0, 229, 42, 182, 0, 232, 29, 172]
abbrev dktX1_cancel_3 : List UInt8 := dkwX1_cancel_3 ++ []
def dkwX1_cancel_2 : List UInt8 := [180, 0, 154, 42, 180, 0, 215, 160, 0, 8, 16, 104, 167, 0, 5, 16, 102, 62, 29, 16, 104, 160, 0, 13]
abbrev dktX1_cancel_2 : List UInt8 := dkwX1_cancel_2 ++ dktX1_cancel_3
def dkwX1_cancel_1 : List UInt8 := [4, 167, 0, 4, 3, 184, 0, 98, 44, 180, 0, 150, 16, 119, 160, 0, 8, 16, 119, 167, 0, 21, 44]
abbrev dktX1_cancel_1 : List UInt8 := dkwX1_cancel_1 ++ dktX1_cancel_2
def dkwX1_cancel_0 : List UInt8 := [42, 27, 182, 1, 22, 77, 44, 180, 0, 150, 16, 119, 159, 0, 12, 44, 180, 0, 150, 16, 98, 160, 0, 7]
abbrev dktX1_cancel_0 : List UInt8 := dkwX1_cancel_0 ++ dktX1_cancel_1
theorem dksX1_cancel_0 : cX1_cancel.data.toList.drop 0 = dktX1_cancel_0 := by decide +kernel
theorem dksX1_cancel_1 : cX1_cancel.data.toList.drop 24 = dktX1_cancel_1 := dk_seg dksX1_cancel_0 24 rfl rfl
theorem dksX1_cancel_2 : cX1_cancel.data.toList.drop 47 = dktX1_cancel_2 := dk_seg dksX1_cancel_1 23 rfl rfl
theorem dksX1_cancel_3 : cX1_cancel.data.toList.drop 71 = dktX1_cancel_3 := dk_seg dksX1_cancel_2 24 rfl rfl
theorem dX1_cancel_0 : decode cX1_cancel 0 = .ok (.aload_n 0, 1) := dk_42 (dk_at dksX1_cancel_0 0 rfl rfl)
theorem dX1_cancel_1 : decode cX1_cancel 1 = .ok (.iload_n 1, 1) := dk_27 (dk_at dksX1_cancel_0 1 rfl rfl)
theorem dX1_cancel_2 : decode cX1_cancel 2 = .ok (.invokevirtual 278, 3) := dk_182 1 22 (dk_at dksX1_cancel_0 2 rfl rfl)
theorem dX1_cancel_5 : decode cX1_cancel 5 = .ok (.astore_n 2, 1) := dk_77 (dk_at dksX1_cancel_0 5 rfl rfl)
theorem dX1_cancel_6 : decode cX1_cancel 6 = .ok (.aload_n 2, 1) := dk_44 (dk_at dksX1_cancel_0 6 rfl rfl)
theorem dX1_cancel_7 : decode cX1_cancel 7 = .ok (.getfield 150, 3) := dk_180 0 150 (dk_at dksX1_cancel_0 7 rfl rfl)
theorem dX1_cancel_10 : decode cX1_cancel 10 = .ok (.bipush 119, 2) := dk_16 119 (dk_at dksX1_cancel_0 10 rfl rfl)
theorem dX1_cancel_12 : decode cX1_cancel 12 = .ok (.if_icmp .eq 12, 3) := dk_159 0 12 (dk_at dksX1_cancel_0 12 rfl rfl)
theorem dX1_cancel_15 : decode cX1_cancel 15 = .ok (.aload_n 2, 1) := dk_44 (dk_at dksX1_cancel_0 15 rfl rfl)
theorem dX1_cancel_16 : decode cX1_cancel 16 = .ok (.getfield 150, 3) := dk_180 0 150 (dk_at dksX1_cancel_0 16 rfl rfl)
theorem dX1_cancel_19 : decode cX1_cancel 19 = .ok (.bipush 98, 2) := dk_16 98 (dk_at dksX1_cancel_0 19 rfl rfl)
theorem dX1_cancel_21 : decode cX1_cancel 21 = .ok (.if_icmp .ne 7, 3) := dk_160 0 7 (dk_at dksX1_cancel_0 21 rfl rfl)
theorem dX1_cancel_24 : decode cX1_cancel 24 = .ok (.iconst 1, 1) := dk_4 (dk_at dksX1_cancel_1 0 rfl rfl)
theorem dX1_cancel_25 : decode cX1_cancel 25 = .ok (.goto 4, 3) := dk_167 0 4 (dk_at dksX1_cancel_1 1 rfl rfl)
theorem dX1_cancel_28 : decode cX1_cancel 28 = .ok (.iconst 0, 1) := dk_3 (dk_at dksX1_cancel_1 4 rfl rfl)
theorem dX1_cancel_29 : decode cX1_cancel 29 = .ok (.invokestatic 98, 3) := dk_184 0 98 (dk_at dksX1_cancel_1 5 rfl rfl)
theorem dX1_cancel_32 : decode cX1_cancel 32 = .ok (.aload_n 2, 1) := dk_44 (dk_at dksX1_cancel_1 8 rfl rfl)
theorem dX1_cancel_33 : decode cX1_cancel 33 = .ok (.getfield 150, 3) := dk_180 0 150 (dk_at dksX1_cancel_1 9 rfl rfl)
theorem dX1_cancel_36 : decode cX1_cancel 36 = .ok (.bipush 119, 2) := dk_16 119 (dk_at dksX1_cancel_1 12 rfl rfl)
theorem dX1_cancel_38 : decode cX1_cancel 38 = .ok (.if_icmp .ne 8, 3) := dk_160 0 8 (dk_at dksX1_cancel_1 14 rfl rfl)
theorem dX1_cancel_41 : decode cX1_cancel 41 = .ok (.bipush 119, 2) := dk_16 119 (dk_at dksX1_cancel_1 17 rfl rfl)
theorem dX1_cancel_43 : decode cX1_cancel 43 = .ok (.goto 21, 3) := dk_167 0 21 (dk_at dksX1_cancel_1 19 rfl rfl)
theorem dX1_cancel_46 : decode cX1_cancel 46 = .ok (.aload_n 2, 1) := dk_44 (dk_at dksX1_cancel_1 22 rfl rfl)
theorem dX1_cancel_47 : decode cX1_cancel 47 = .ok (.getfield 154, 3) := dk_180 0 154 (dk_at dksX1_cancel_2 0 rfl rfl)
theorem dX1_cancel_50 : decode cX1_cancel 50 = .ok (.aload_n 0, 1) := dk_42 (dk_at dksX1_cancel_2 3 rfl rfl)
theorem dX1_cancel_51 : decode cX1_cancel 51 = .ok (.getfield 215, 3) := dk_180 0 215 (dk_at dksX1_cancel_2 4 rfl rfl)
theorem dX1_cancel_54 : decode cX1_cancel 54 = .ok (.if_icmp .ne 8, 3) := dk_160 0 8 (dk_at dksX1_cancel_2 7 rfl rfl)
theorem dX1_cancel_57 : decode cX1_cancel 57 = .ok (.bipush 104, 2) := dk_16 104 (dk_at dksX1_cancel_2 10 rfl rfl)
theorem dX1_cancel_59 : decode cX1_cancel 59 = .ok (.goto 5, 3) := dk_167 0 5 (dk_at dksX1_cancel_2 12 rfl rfl)
theorem dX1_cancel_62 : decode cX1_cancel 62 = .ok (.bipush 102, 2) := dk_16 102 (dk_at dksX1_cancel_2 15 rfl rfl)
theorem dX1_cancel_64 : decode cX1_cancel 64 = .ok (.istore_n 3, 1) := dk_62 (dk_at dksX1_cancel_2 17 rfl rfl)
theorem dX1_cancel_65 : decode cX1_cancel 65 = .ok (.iload_n 3, 1) := dk_29 (dk_at dksX1_cancel_2 18 rfl rfl)
theorem dX1_cancel_66 : decode cX1_cancel 66 = .ok (.bipush 104, 2) := dk_16 104 (dk_at dksX1_cancel_2 19 rfl rfl)
theorem dX1_cancel_68 : decode cX1_cancel 68 = .ok (.if_icmp .ne 13, 3) := dk_160 0 13 (dk_at dksX1_cancel_2 21 rfl rfl)
theorem dX1_cancel_71 : decode cX1_cancel 71 = .ok (.aload_n 2, 1) := dk_44 (dk_at dksX1_cancel_3 0 rfl rfl)
theorem dX1_cancel_72 : decode cX1_cancel 72 = .ok (.aload_n 2, 1) := dk_44 (dk_at dksX1_cancel_3 1 rfl rfl)
theorem dX1_cancel_73 : decode cX1_cancel 73 = .ok (.invokevirtual 282, 3) := dk_182 1 26 (dk_at dksX1_cancel_3 2 rfl rfl)
theorem dX1_cancel_76 : decode cX1_cancel 76 = .ok (.iconst 2, 1) := dk_5 (dk_at dksX1_cancel_3 5 rfl rfl)
theorem dX1_cancel_77 : decode cX1_cancel 77 = .ok (.idiv, 1) := dk_108 (dk_at dksX1_cancel_3 6 rfl rfl)
theorem dX1_cancel_78 : decode cX1_cancel 78 = .ok (.invokevirtual 285, 3) := dk_182 1 29 (dk_at dksX1_cancel_3 7 rfl rfl)
theorem dX1_cancel_81 : decode cX1_cancel 81 = .ok (.aload_n 2, 1) := dk_44 (dk_at dksX1_cancel_3 10 rfl rfl)
theorem dX1_cancel_82 : decode cX1_cancel 82 = .ok (.invokevirtual 229, 3) := dk_182 0 229 (dk_at dksX1_cancel_3 11 rfl rfl)
theorem dX1_cancel_85 : decode cX1_cancel 85 = .ok (.aload_n 0, 1) := dk_42 (dk_at dksX1_cancel_3 14 rfl rfl)
theorem dX1_cancel_86 : decode cX1_cancel 86 = .ok (.invokevirtual 232, 3) := dk_182 0 232 (dk_at dksX1_cancel_3 15 rfl rfl)
theorem dX1_cancel_89 : decode cX1_cancel 89 = .ok (.iload_n 3, 1) := dk_29 (dk_at dksX1_cancel_3 18 rfl rfl)
theorem dX1_cancel_90 : decode cX1_cancel 90 = .ok (.ireturn, 1) := dk_172 (dk_at dksX1_cancel_3 19 rfl rfl)
abbrev cX1_entryAt : ByteArray := prog_1_method_40_code
def yX1_entryAt : MethodName := ⟨RX1, "entryAt", "(I)LLendlathe$Entry;"⟩
def dkwX1_entryAt_1 : List UInt8 := [182, 0, 122, 192, 0, 145, 176]
abbrev dktX1_entryAt_1 : List UInt8 := dkwX1_entryAt_1 ++ []
def dkwX1_entryAt_0 : List UInt8 := [27, 3, 42, 180, 0, 36, 182, 0, 141, 4, 100, 184, 0, 90, 184, 1, 19, 42, 180, 0, 36, 27]
abbrev dktX1_entryAt_0 : List UInt8 := dkwX1_entryAt_0 ++ dktX1_entryAt_1
theorem dksX1_entryAt_0 : cX1_entryAt.data.toList.drop 0 = dktX1_entryAt_0 := by decide +kernel
theorem dksX1_entryAt_1 : cX1_entryAt.data.toList.drop 22 = dktX1_entryAt_1 := dk_seg dksX1_entryAt_0 22 rfl rfl
theorem dX1_entryAt_0 : decode cX1_entryAt 0 = .ok (.iload_n 1, 1) := dk_27 (dk_at dksX1_entryAt_0 0 rfl rfl)
theorem dX1_entryAt_1 : decode cX1_entryAt 1 = .ok (.iconst 0, 1) := dk_3 (dk_at dksX1_entryAt_0 1 rfl rfl)
theorem dX1_entryAt_2 : decode cX1_entryAt 2 = .ok (.aload_n 0, 1) := dk_42 (dk_at dksX1_entryAt_0 2 rfl rfl)
theorem dX1_entryAt_3 : decode cX1_entryAt 3 = .ok (.getfield 36, 3) := dk_180 0 36 (dk_at dksX1_entryAt_0 3 rfl rfl)
theorem dX1_entryAt_6 : decode cX1_entryAt 6 = .ok (.invokevirtual 141, 3) := dk_182 0 141 (dk_at dksX1_entryAt_0 6 rfl rfl)
theorem dX1_entryAt_9 : decode cX1_entryAt 9 = .ok (.iconst 1, 1) := dk_4 (dk_at dksX1_entryAt_0 9 rfl rfl)
theorem dX1_entryAt_10 : decode cX1_entryAt 10 = .ok (.isub, 1) := dk_100 (dk_at dksX1_entryAt_0 10 rfl rfl)
theorem dX1_entryAt_11 : decode cX1_entryAt 11 = .ok (.invokestatic 90, 3) := dk_184 0 90 (dk_at dksX1_entryAt_0 11 rfl rfl)
theorem dX1_entryAt_14 : decode cX1_entryAt 14 = .ok (.invokestatic 275, 3) := dk_184 1 19 (dk_at dksX1_entryAt_0 14 rfl rfl)
theorem dX1_entryAt_17 : decode cX1_entryAt 17 = .ok (.aload_n 0, 1) := dk_42 (dk_at dksX1_entryAt_0 17 rfl rfl)
theorem dX1_entryAt_18 : decode cX1_entryAt 18 = .ok (.getfield 36, 3) := dk_180 0 36 (dk_at dksX1_entryAt_0 18 rfl rfl)
theorem dX1_entryAt_21 : decode cX1_entryAt 21 = .ok (.iload_n 1, 1) := dk_27 (dk_at dksX1_entryAt_0 21 rfl rfl)
theorem dX1_entryAt_22 : decode cX1_entryAt 22 = .ok (.invokevirtual 122, 3) := dk_182 0 122 (dk_at dksX1_entryAt_1 0 rfl rfl)
theorem dX1_entryAt_25 : decode cX1_entryAt 25 = .ok (.checkcast 145, 3) := dk_192 0 145 (dk_at dksX1_entryAt_1 3 rfl rfl)
theorem dX1_entryAt_28 : decode cX1_entryAt 28 = .ok (.areturn, 1) := dk_176 (dk_at dksX1_entryAt_1 6 rfl rfl)
abbrev cX1_known : ByteArray := prog_1_method_5_code
def yX1_known : MethodName := ⟨RX1, "known", "(Z)V"⟩
def dkwX1_known_0 : List UInt8 := [26, 154, 0, 11, 187, 0, 80, 89, 183, 0, 82, 191, 177]
abbrev dktX1_known_0 : List UInt8 := dkwX1_known_0 ++ []
theorem dksX1_known_0 : cX1_known.data.toList.drop 0 = dktX1_known_0 := by decide +kernel
theorem dX1_known_0 : decode cX1_known 0 = .ok (.iload_n 0, 1) := dk_26 (dk_at dksX1_known_0 0 rfl rfl)
theorem dX1_known_1 : decode cX1_known 1 = .ok (.ifCond .ne 11, 3) := dk_154 0 11 (dk_at dksX1_known_0 1 rfl rfl)
theorem dX1_known_4 : decode cX1_known 4 = .ok (.new 80, 3) := dk_187 0 80 (dk_at dksX1_known_0 4 rfl rfl)
theorem dX1_known_7 : decode cX1_known 7 = .ok (.dup, 1) := dk_89 (dk_at dksX1_known_0 7 rfl rfl)
theorem dX1_known_8 : decode cX1_known 8 = .ok (.invokespecial 82, 3) := dk_183 0 82 (dk_at dksX1_known_0 8 rfl rfl)
theorem dX1_known_11 : decode cX1_known 11 = .ok (.athrow, 1) := dk_191 (dk_at dksX1_known_0 11 rfl rfl)
theorem dX1_known_12 : decode cX1_known 12 = .ok (.return_, 1) := dk_177 (dk_at dksX1_known_0 12 rfl rfl)
abbrev cX1_stateOf : ByteArray := prog_1_method_42_code
def yX1_stateOf : MethodName := ⟨RX1, "stateOf", "(I)C"⟩
def dkwX1_stateOf_0 : List UInt8 := [42, 27, 182, 1, 22, 180, 0, 150, 172]
abbrev dktX1_stateOf_0 : List UInt8 := dkwX1_stateOf_0 ++ []
theorem dksX1_stateOf_0 : cX1_stateOf.data.toList.drop 0 = dktX1_stateOf_0 := by decide +kernel
theorem dX1_stateOf_0 : decode cX1_stateOf 0 = .ok (.aload_n 0, 1) := dk_42 (dk_at dksX1_stateOf_0 0 rfl rfl)
theorem dX1_stateOf_1 : decode cX1_stateOf 1 = .ok (.iload_n 1, 1) := dk_27 (dk_at dksX1_stateOf_0 1 rfl rfl)
theorem dX1_stateOf_2 : decode cX1_stateOf 2 = .ok (.invokevirtual 278, 3) := dk_182 1 22 (dk_at dksX1_stateOf_0 2 rfl rfl)
theorem dX1_stateOf_5 : decode cX1_stateOf 5 = .ok (.getfield 150, 3) := dk_180 0 150 (dk_at dksX1_stateOf_0 5 rfl rfl)
theorem dX1_stateOf_8 : decode cX1_stateOf 8 = .ok (.ireturn, 1) := dk_172 (dk_at dksX1_stateOf_0 8 rfl rfl)
abbrev cX1_endDay : ByteArray := prog_1_method_44_code
def yX1_endDay : MethodName := ⟨RX1, "endDay", "()I"⟩
def dkwX1_endDay_5 : List UInt8 := [180, 0, 215, 4, 96, 181, 0, 215, 42, 182, 0, 232, 27, 172]
abbrev dktX1_endDay_5 : List UInt8 := dkwX1_endDay_5 ++ []
def dkwX1_endDay_4 : List UInt8 := [45, 182, 1, 26, 45, 182, 1, 32, 96, 182, 1, 29, 132, 1, 1, 132, 2, 1, 167, 255, 167, 42, 89]
abbrev dktX1_endDay_4 : List UInt8 := dkwX1_endDay_4 ++ dktX1_endDay_5
def dkwX1_endDay_3 : List UInt8 := [16, 120, 181, 0, 150, 45, 180, 0, 150, 16, 98, 159, 0, 6, 167, 0, 25, 45, 16, 100, 181, 0, 150, 45]
abbrev dktX1_endDay_3 : List UInt8 := dkwX1_endDay_3 ++ dktX1_endDay_4
def dkwX1_endDay_2 : List UInt8 := [180, 0, 154, 42, 180, 0, 215, 159, 0, 6, 167, 0, 52, 45, 180, 0, 150, 16, 119, 160, 0, 9, 45]
abbrev dktX1_endDay_2 : List UInt8 := dkwX1_endDay_2 ++ dktX1_endDay_3
def dkwX1_endDay_1 : List UInt8 := [180, 0, 36, 182, 0, 141, 162, 0, 84, 42, 180, 0, 36, 28, 182, 0, 122, 192, 0, 145, 78, 45]
abbrev dktX1_endDay_1 : List UInt8 := dkwX1_endDay_1 ++ dktX1_endDay_2
def dkwX1_endDay_0 : List UInt8 := [42, 180, 0, 215, 17, 3, 132, 162, 0, 7, 4, 167, 0, 4, 3, 184, 0, 98, 3, 60, 3, 61, 28, 42]
abbrev dktX1_endDay_0 : List UInt8 := dkwX1_endDay_0 ++ dktX1_endDay_1
theorem dksX1_endDay_0 : cX1_endDay.data.toList.drop 0 = dktX1_endDay_0 := by decide +kernel
theorem dksX1_endDay_1 : cX1_endDay.data.toList.drop 24 = dktX1_endDay_1 := dk_seg dksX1_endDay_0 24 rfl rfl
theorem dksX1_endDay_2 : cX1_endDay.data.toList.drop 46 = dktX1_endDay_2 := dk_seg dksX1_endDay_1 22 rfl rfl
theorem dksX1_endDay_3 : cX1_endDay.data.toList.drop 69 = dktX1_endDay_3 := dk_seg dksX1_endDay_2 23 rfl rfl
theorem dksX1_endDay_4 : cX1_endDay.data.toList.drop 93 = dktX1_endDay_4 := dk_seg dksX1_endDay_3 24 rfl rfl
theorem dksX1_endDay_5 : cX1_endDay.data.toList.drop 116 = dktX1_endDay_5 := dk_seg dksX1_endDay_4 23 rfl rfl
theorem dX1_endDay_0 : decode cX1_endDay 0 = .ok (.aload_n 0, 1) := dk_42 (dk_at dksX1_endDay_0 0 rfl rfl)
theorem dX1_endDay_1 : decode cX1_endDay 1 = .ok (.getfield 215, 3) := dk_180 0 215 (dk_at dksX1_endDay_0 1 rfl rfl)
theorem dX1_endDay_4 : decode cX1_endDay 4 = .ok (.sipush 900, 3) := dk_17 3 132 (dk_at dksX1_endDay_0 4 rfl rfl)
theorem dX1_endDay_7 : decode cX1_endDay 7 = .ok (.if_icmp .ge 7, 3) := dk_162 0 7 (dk_at dksX1_endDay_0 7 rfl rfl)
theorem dX1_endDay_10 : decode cX1_endDay 10 = .ok (.iconst 1, 1) := dk_4 (dk_at dksX1_endDay_0 10 rfl rfl)
theorem dX1_endDay_11 : decode cX1_endDay 11 = .ok (.goto 4, 3) := dk_167 0 4 (dk_at dksX1_endDay_0 11 rfl rfl)
theorem dX1_endDay_14 : decode cX1_endDay 14 = .ok (.iconst 0, 1) := dk_3 (dk_at dksX1_endDay_0 14 rfl rfl)
theorem dX1_endDay_15 : decode cX1_endDay 15 = .ok (.invokestatic 98, 3) := dk_184 0 98 (dk_at dksX1_endDay_0 15 rfl rfl)
theorem dX1_endDay_18 : decode cX1_endDay 18 = .ok (.iconst 0, 1) := dk_3 (dk_at dksX1_endDay_0 18 rfl rfl)
theorem dX1_endDay_19 : decode cX1_endDay 19 = .ok (.istore_n 1, 1) := dk_60 (dk_at dksX1_endDay_0 19 rfl rfl)
theorem dX1_endDay_20 : decode cX1_endDay 20 = .ok (.iconst 0, 1) := dk_3 (dk_at dksX1_endDay_0 20 rfl rfl)
theorem dX1_endDay_21 : decode cX1_endDay 21 = .ok (.istore_n 2, 1) := dk_61 (dk_at dksX1_endDay_0 21 rfl rfl)
theorem dX1_endDay_22 : decode cX1_endDay 22 = .ok (.iload_n 2, 1) := dk_28 (dk_at dksX1_endDay_0 22 rfl rfl)
theorem dX1_endDay_23 : decode cX1_endDay 23 = .ok (.aload_n 0, 1) := dk_42 (dk_at dksX1_endDay_0 23 rfl rfl)
theorem dX1_endDay_24 : decode cX1_endDay 24 = .ok (.getfield 36, 3) := dk_180 0 36 (dk_at dksX1_endDay_1 0 rfl rfl)
theorem dX1_endDay_27 : decode cX1_endDay 27 = .ok (.invokevirtual 141, 3) := dk_182 0 141 (dk_at dksX1_endDay_1 3 rfl rfl)
theorem dX1_endDay_30 : decode cX1_endDay 30 = .ok (.if_icmp .ge 84, 3) := dk_162 0 84 (dk_at dksX1_endDay_1 6 rfl rfl)
theorem dX1_endDay_33 : decode cX1_endDay 33 = .ok (.aload_n 0, 1) := dk_42 (dk_at dksX1_endDay_1 9 rfl rfl)
theorem dX1_endDay_34 : decode cX1_endDay 34 = .ok (.getfield 36, 3) := dk_180 0 36 (dk_at dksX1_endDay_1 10 rfl rfl)
theorem dX1_endDay_37 : decode cX1_endDay 37 = .ok (.iload_n 2, 1) := dk_28 (dk_at dksX1_endDay_1 13 rfl rfl)
theorem dX1_endDay_38 : decode cX1_endDay 38 = .ok (.invokevirtual 122, 3) := dk_182 0 122 (dk_at dksX1_endDay_1 14 rfl rfl)
theorem dX1_endDay_41 : decode cX1_endDay 41 = .ok (.checkcast 145, 3) := dk_192 0 145 (dk_at dksX1_endDay_1 17 rfl rfl)
theorem dX1_endDay_44 : decode cX1_endDay 44 = .ok (.astore_n 3, 1) := dk_78 (dk_at dksX1_endDay_1 20 rfl rfl)
theorem dX1_endDay_45 : decode cX1_endDay 45 = .ok (.aload_n 3, 1) := dk_45 (dk_at dksX1_endDay_1 21 rfl rfl)
theorem dX1_endDay_46 : decode cX1_endDay 46 = .ok (.getfield 154, 3) := dk_180 0 154 (dk_at dksX1_endDay_2 0 rfl rfl)
theorem dX1_endDay_49 : decode cX1_endDay 49 = .ok (.aload_n 0, 1) := dk_42 (dk_at dksX1_endDay_2 3 rfl rfl)
theorem dX1_endDay_50 : decode cX1_endDay 50 = .ok (.getfield 215, 3) := dk_180 0 215 (dk_at dksX1_endDay_2 4 rfl rfl)
theorem dX1_endDay_53 : decode cX1_endDay 53 = .ok (.if_icmp .eq 6, 3) := dk_159 0 6 (dk_at dksX1_endDay_2 7 rfl rfl)
theorem dX1_endDay_56 : decode cX1_endDay 56 = .ok (.goto 52, 3) := dk_167 0 52 (dk_at dksX1_endDay_2 10 rfl rfl)
theorem dX1_endDay_59 : decode cX1_endDay 59 = .ok (.aload_n 3, 1) := dk_45 (dk_at dksX1_endDay_2 13 rfl rfl)
theorem dX1_endDay_60 : decode cX1_endDay 60 = .ok (.getfield 150, 3) := dk_180 0 150 (dk_at dksX1_endDay_2 14 rfl rfl)
theorem dX1_endDay_63 : decode cX1_endDay 63 = .ok (.bipush 119, 2) := dk_16 119 (dk_at dksX1_endDay_2 17 rfl rfl)
theorem dX1_endDay_65 : decode cX1_endDay 65 = .ok (.if_icmp .ne 9, 3) := dk_160 0 9 (dk_at dksX1_endDay_2 19 rfl rfl)
theorem dX1_endDay_68 : decode cX1_endDay 68 = .ok (.aload_n 3, 1) := dk_45 (dk_at dksX1_endDay_2 22 rfl rfl)
theorem dX1_endDay_69 : decode cX1_endDay 69 = .ok (.bipush 120, 2) := dk_16 120 (dk_at dksX1_endDay_3 0 rfl rfl)
theorem dX1_endDay_71 : decode cX1_endDay 71 = .ok (.putfield 150, 3) := dk_181 0 150 (dk_at dksX1_endDay_3 2 rfl rfl)
theorem dX1_endDay_74 : decode cX1_endDay 74 = .ok (.aload_n 3, 1) := dk_45 (dk_at dksX1_endDay_3 5 rfl rfl)
theorem dX1_endDay_75 : decode cX1_endDay 75 = .ok (.getfield 150, 3) := dk_180 0 150 (dk_at dksX1_endDay_3 6 rfl rfl)
theorem dX1_endDay_78 : decode cX1_endDay 78 = .ok (.bipush 98, 2) := dk_16 98 (dk_at dksX1_endDay_3 9 rfl rfl)
theorem dX1_endDay_80 : decode cX1_endDay 80 = .ok (.if_icmp .eq 6, 3) := dk_159 0 6 (dk_at dksX1_endDay_3 11 rfl rfl)
theorem dX1_endDay_83 : decode cX1_endDay 83 = .ok (.goto 25, 3) := dk_167 0 25 (dk_at dksX1_endDay_3 14 rfl rfl)
theorem dX1_endDay_86 : decode cX1_endDay 86 = .ok (.aload_n 3, 1) := dk_45 (dk_at dksX1_endDay_3 17 rfl rfl)
theorem dX1_endDay_87 : decode cX1_endDay 87 = .ok (.bipush 100, 2) := dk_16 100 (dk_at dksX1_endDay_3 18 rfl rfl)
theorem dX1_endDay_89 : decode cX1_endDay 89 = .ok (.putfield 150, 3) := dk_181 0 150 (dk_at dksX1_endDay_3 20 rfl rfl)
theorem dX1_endDay_92 : decode cX1_endDay 92 = .ok (.aload_n 3, 1) := dk_45 (dk_at dksX1_endDay_3 23 rfl rfl)
theorem dX1_endDay_93 : decode cX1_endDay 93 = .ok (.aload_n 3, 1) := dk_45 (dk_at dksX1_endDay_4 0 rfl rfl)
theorem dX1_endDay_94 : decode cX1_endDay 94 = .ok (.invokevirtual 282, 3) := dk_182 1 26 (dk_at dksX1_endDay_4 1 rfl rfl)
theorem dX1_endDay_97 : decode cX1_endDay 97 = .ok (.aload_n 3, 1) := dk_45 (dk_at dksX1_endDay_4 4 rfl rfl)
theorem dX1_endDay_98 : decode cX1_endDay 98 = .ok (.invokevirtual 288, 3) := dk_182 1 32 (dk_at dksX1_endDay_4 5 rfl rfl)
theorem dX1_endDay_101 : decode cX1_endDay 101 = .ok (.iadd, 1) := dk_96 (dk_at dksX1_endDay_4 8 rfl rfl)
theorem dX1_endDay_102 : decode cX1_endDay 102 = .ok (.invokevirtual 285, 3) := dk_182 1 29 (dk_at dksX1_endDay_4 9 rfl rfl)
theorem dX1_endDay_105 : decode cX1_endDay 105 = .ok (.iinc 1 1, 3) := dk_132 1 1 (dk_at dksX1_endDay_4 12 rfl rfl)
theorem dX1_endDay_108 : decode cX1_endDay 108 = .ok (.iinc 2 1, 3) := dk_132 2 1 (dk_at dksX1_endDay_4 15 rfl rfl)
theorem dX1_endDay_111 : decode cX1_endDay 111 = .ok (.goto (-89), 3) := dk_167 255 167 (dk_at dksX1_endDay_4 18 rfl rfl)
theorem dX1_endDay_114 : decode cX1_endDay 114 = .ok (.aload_n 0, 1) := dk_42 (dk_at dksX1_endDay_4 21 rfl rfl)
theorem dX1_endDay_115 : decode cX1_endDay 115 = .ok (.dup, 1) := dk_89 (dk_at dksX1_endDay_4 22 rfl rfl)
theorem dX1_endDay_116 : decode cX1_endDay 116 = .ok (.getfield 215, 3) := dk_180 0 215 (dk_at dksX1_endDay_5 0 rfl rfl)
theorem dX1_endDay_119 : decode cX1_endDay 119 = .ok (.iconst 1, 1) := dk_4 (dk_at dksX1_endDay_5 3 rfl rfl)
theorem dX1_endDay_120 : decode cX1_endDay 120 = .ok (.iadd, 1) := dk_96 (dk_at dksX1_endDay_5 4 rfl rfl)
theorem dX1_endDay_121 : decode cX1_endDay 121 = .ok (.putfield 215, 3) := dk_181 0 215 (dk_at dksX1_endDay_5 5 rfl rfl)
theorem dX1_endDay_124 : decode cX1_endDay 124 = .ok (.aload_n 0, 1) := dk_42 (dk_at dksX1_endDay_5 8 rfl rfl)
theorem dX1_endDay_125 : decode cX1_endDay 125 = .ok (.invokevirtual 232, 3) := dk_182 0 232 (dk_at dksX1_endDay_5 9 rfl rfl)
theorem dX1_endDay_128 : decode cX1_endDay 128 = .ok (.iload_n 1, 1) := dk_27 (dk_at dksX1_endDay_5 12 rfl rfl)
theorem dX1_endDay_129 : decode cX1_endDay 129 = .ok (.ireturn, 1) := dk_172 (dk_at dksX1_endDay_5 13 rfl rfl)
abbrev cX1_minuteAt : ByteArray := prog_1_method_47_code
def yX1_minuteAt : MethodName := ⟨RX1, "minuteAt", "(III)C"⟩
def dkwX1_minuteAt_1 : List UInt8 := [182, 0, 160, 87, 42, 29, 182, 1, 38, 172]
abbrev dktX1_minuteAt_1 : List UInt8 := dkwX1_minuteAt_1 ++ []
def dkwX1_minuteAt_0 : List UInt8 := [42, 27, 28, 182, 1, 35, 29, 3, 17, 1, 223, 184, 0, 90, 184, 0, 94, 42, 180, 0, 53, 27, 28]
abbrev dktX1_minuteAt_0 : List UInt8 := dkwX1_minuteAt_0 ++ dktX1_minuteAt_1
theorem dksX1_minuteAt_0 : cX1_minuteAt.data.toList.drop 0 = dktX1_minuteAt_0 := by decide +kernel
theorem dksX1_minuteAt_1 : cX1_minuteAt.data.toList.drop 23 = dktX1_minuteAt_1 := dk_seg dksX1_minuteAt_0 23 rfl rfl
theorem dX1_minuteAt_0 : decode cX1_minuteAt 0 = .ok (.aload_n 0, 1) := dk_42 (dk_at dksX1_minuteAt_0 0 rfl rfl)
theorem dX1_minuteAt_1 : decode cX1_minuteAt 1 = .ok (.iload_n 1, 1) := dk_27 (dk_at dksX1_minuteAt_0 1 rfl rfl)
theorem dX1_minuteAt_2 : decode cX1_minuteAt 2 = .ok (.iload_n 2, 1) := dk_28 (dk_at dksX1_minuteAt_0 2 rfl rfl)
theorem dX1_minuteAt_3 : decode cX1_minuteAt 3 = .ok (.invokevirtual 291, 3) := dk_182 1 35 (dk_at dksX1_minuteAt_0 3 rfl rfl)
theorem dX1_minuteAt_6 : decode cX1_minuteAt 6 = .ok (.iload_n 3, 1) := dk_29 (dk_at dksX1_minuteAt_0 6 rfl rfl)
theorem dX1_minuteAt_7 : decode cX1_minuteAt 7 = .ok (.iconst 0, 1) := dk_3 (dk_at dksX1_minuteAt_0 7 rfl rfl)
theorem dX1_minuteAt_8 : decode cX1_minuteAt 8 = .ok (.sipush 479, 3) := dk_17 1 223 (dk_at dksX1_minuteAt_0 8 rfl rfl)
theorem dX1_minuteAt_11 : decode cX1_minuteAt 11 = .ok (.invokestatic 90, 3) := dk_184 0 90 (dk_at dksX1_minuteAt_0 11 rfl rfl)
theorem dX1_minuteAt_14 : decode cX1_minuteAt 14 = .ok (.invokestatic 94, 3) := dk_184 0 94 (dk_at dksX1_minuteAt_0 14 rfl rfl)
theorem dX1_minuteAt_17 : decode cX1_minuteAt 17 = .ok (.aload_n 0, 1) := dk_42 (dk_at dksX1_minuteAt_0 17 rfl rfl)
theorem dX1_minuteAt_18 : decode cX1_minuteAt 18 = .ok (.getfield 53, 3) := dk_180 0 53 (dk_at dksX1_minuteAt_0 18 rfl rfl)
theorem dX1_minuteAt_21 : decode cX1_minuteAt 21 = .ok (.iload_n 1, 1) := dk_27 (dk_at dksX1_minuteAt_0 21 rfl rfl)
theorem dX1_minuteAt_22 : decode cX1_minuteAt 22 = .ok (.iload_n 2, 1) := dk_28 (dk_at dksX1_minuteAt_0 22 rfl rfl)
theorem dX1_minuteAt_23 : decode cX1_minuteAt 23 = .ok (.invokevirtual 160, 3) := dk_182 0 160 (dk_at dksX1_minuteAt_1 0 rfl rfl)
theorem dX1_minuteAt_26 : decode cX1_minuteAt 26 = .ok (.pop, 1) := dk_87 (dk_at dksX1_minuteAt_1 3 rfl rfl)
theorem dX1_minuteAt_27 : decode cX1_minuteAt 27 = .ok (.aload_n 0, 1) := dk_42 (dk_at dksX1_minuteAt_1 4 rfl rfl)
theorem dX1_minuteAt_28 : decode cX1_minuteAt 28 = .ok (.iload_n 3, 1) := dk_29 (dk_at dksX1_minuteAt_1 5 rfl rfl)
theorem dX1_minuteAt_29 : decode cX1_minuteAt 29 = .ok (.invokevirtual 294, 3) := dk_182 1 38 (dk_at dksX1_minuteAt_1 6 rfl rfl)
theorem dX1_minuteAt_32 : decode cX1_minuteAt 32 = .ok (.ireturn, 1) := dk_172 (dk_at dksX1_minuteAt_1 9 rfl rfl)
abbrev cX1_mayLook : ByteArray := prog_1_method_45_code
def yX1_mayLook : MethodName := ⟨RX1, "mayLook", "(II)V"⟩
def dkwX1_mayLook_0 : List UInt8 := [42, 27, 182, 0, 247, 184, 0, 238, 28, 3, 42, 180, 0, 215, 16, 6, 96, 184, 0, 90, 184, 0, 94, 177]
abbrev dktX1_mayLook_0 : List UInt8 := dkwX1_mayLook_0 ++ []
theorem dksX1_mayLook_0 : cX1_mayLook.data.toList.drop 0 = dktX1_mayLook_0 := by decide +kernel
theorem dX1_mayLook_0 : decode cX1_mayLook 0 = .ok (.aload_n 0, 1) := dk_42 (dk_at dksX1_mayLook_0 0 rfl rfl)
theorem dX1_mayLook_1 : decode cX1_mayLook 1 = .ok (.iload_n 1, 1) := dk_27 (dk_at dksX1_mayLook_0 1 rfl rfl)
theorem dX1_mayLook_2 : decode cX1_mayLook 2 = .ok (.invokevirtual 247, 3) := dk_182 0 247 (dk_at dksX1_mayLook_0 2 rfl rfl)
theorem dX1_mayLook_5 : decode cX1_mayLook 5 = .ok (.invokestatic 238, 3) := dk_184 0 238 (dk_at dksX1_mayLook_0 5 rfl rfl)
theorem dX1_mayLook_8 : decode cX1_mayLook 8 = .ok (.iload_n 2, 1) := dk_28 (dk_at dksX1_mayLook_0 8 rfl rfl)
theorem dX1_mayLook_9 : decode cX1_mayLook 9 = .ok (.iconst 0, 1) := dk_3 (dk_at dksX1_mayLook_0 9 rfl rfl)
theorem dX1_mayLook_10 : decode cX1_mayLook 10 = .ok (.aload_n 0, 1) := dk_42 (dk_at dksX1_mayLook_0 10 rfl rfl)
theorem dX1_mayLook_11 : decode cX1_mayLook 11 = .ok (.getfield 215, 3) := dk_180 0 215 (dk_at dksX1_mayLook_0 11 rfl rfl)
theorem dX1_mayLook_14 : decode cX1_mayLook 14 = .ok (.bipush 6, 2) := dk_16 6 (dk_at dksX1_mayLook_0 14 rfl rfl)
theorem dX1_mayLook_16 : decode cX1_mayLook 16 = .ok (.iadd, 1) := dk_96 (dk_at dksX1_mayLook_0 16 rfl rfl)
theorem dX1_mayLook_17 : decode cX1_mayLook 17 = .ok (.invokestatic 90, 3) := dk_184 0 90 (dk_at dksX1_mayLook_0 17 rfl rfl)
theorem dX1_mayLook_20 : decode cX1_mayLook 20 = .ok (.invokestatic 94, 3) := dk_184 0 94 (dk_at dksX1_mayLook_0 20 rfl rfl)
theorem dX1_mayLook_23 : decode cX1_mayLook 23 = .ok (.return_, 1) := dk_177 (dk_at dksX1_mayLook_0 23 rfl rfl)
abbrev cX1_usedMinutes : ByteArray := prog_1_method_50_code
def yX1_usedMinutes : MethodName := ⟨RX1, "usedMinutes", "(II)I"⟩
def dkwX1_usedMinutes_0 : List UInt8 := [42, 27, 28, 182, 1, 35, 42, 27, 28, 182, 1, 43, 172]
abbrev dktX1_usedMinutes_0 : List UInt8 := dkwX1_usedMinutes_0 ++ []
theorem dksX1_usedMinutes_0 : cX1_usedMinutes.data.toList.drop 0 = dktX1_usedMinutes_0 := by decide +kernel
theorem dX1_usedMinutes_0 : decode cX1_usedMinutes 0 = .ok (.aload_n 0, 1) := dk_42 (dk_at dksX1_usedMinutes_0 0 rfl rfl)
theorem dX1_usedMinutes_1 : decode cX1_usedMinutes 1 = .ok (.iload_n 1, 1) := dk_27 (dk_at dksX1_usedMinutes_0 1 rfl rfl)
theorem dX1_usedMinutes_2 : decode cX1_usedMinutes 2 = .ok (.iload_n 2, 1) := dk_28 (dk_at dksX1_usedMinutes_0 2 rfl rfl)
theorem dX1_usedMinutes_3 : decode cX1_usedMinutes 3 = .ok (.invokevirtual 291, 3) := dk_182 1 35 (dk_at dksX1_usedMinutes_0 3 rfl rfl)
theorem dX1_usedMinutes_6 : decode cX1_usedMinutes 6 = .ok (.aload_n 0, 1) := dk_42 (dk_at dksX1_usedMinutes_0 6 rfl rfl)
theorem dX1_usedMinutes_7 : decode cX1_usedMinutes 7 = .ok (.iload_n 1, 1) := dk_27 (dk_at dksX1_usedMinutes_0 7 rfl rfl)
theorem dX1_usedMinutes_8 : decode cX1_usedMinutes 8 = .ok (.iload_n 2, 1) := dk_28 (dk_at dksX1_usedMinutes_0 8 rfl rfl)
theorem dX1_usedMinutes_9 : decode cX1_usedMinutes 9 = .ok (.invokevirtual 299, 3) := dk_182 1 43 (dk_at dksX1_usedMinutes_0 9 rfl rfl)
theorem dX1_usedMinutes_12 : decode cX1_usedMinutes 12 = .ok (.ireturn, 1) := dk_172 (dk_at dksX1_usedMinutes_0 12 rfl rfl)
abbrev cX1_usedByMinutes : ByteArray := prog_1_method_51_code
def yX1_usedByMinutes : MethodName := ⟨RX1, "usedByMinutes", "(II)I"⟩
def dkwX1_usedByMinutes_0 : List UInt8 := [42, 27, 28, 182, 1, 35, 42, 27, 28, 182, 1, 47, 172]
abbrev dktX1_usedByMinutes_0 : List UInt8 := dkwX1_usedByMinutes_0 ++ []
theorem dksX1_usedByMinutes_0 : cX1_usedByMinutes.data.toList.drop 0 = dktX1_usedByMinutes_0 := by decide +kernel
theorem dX1_usedByMinutes_0 : decode cX1_usedByMinutes 0 = .ok (.aload_n 0, 1) := dk_42 (dk_at dksX1_usedByMinutes_0 0 rfl rfl)
theorem dX1_usedByMinutes_1 : decode cX1_usedByMinutes 1 = .ok (.iload_n 1, 1) := dk_27 (dk_at dksX1_usedByMinutes_0 1 rfl rfl)
theorem dX1_usedByMinutes_2 : decode cX1_usedByMinutes 2 = .ok (.iload_n 2, 1) := dk_28 (dk_at dksX1_usedByMinutes_0 2 rfl rfl)
theorem dX1_usedByMinutes_3 : decode cX1_usedByMinutes 3 = .ok (.invokevirtual 291, 3) := dk_182 1 35 (dk_at dksX1_usedByMinutes_0 3 rfl rfl)
theorem dX1_usedByMinutes_6 : decode cX1_usedByMinutes 6 = .ok (.aload_n 0, 1) := dk_42 (dk_at dksX1_usedByMinutes_0 6 rfl rfl)
theorem dX1_usedByMinutes_7 : decode cX1_usedByMinutes 7 = .ok (.iload_n 1, 1) := dk_27 (dk_at dksX1_usedByMinutes_0 7 rfl rfl)
theorem dX1_usedByMinutes_8 : decode cX1_usedByMinutes 8 = .ok (.iload_n 2, 1) := dk_28 (dk_at dksX1_usedByMinutes_0 8 rfl rfl)
theorem dX1_usedByMinutes_9 : decode cX1_usedByMinutes 9 = .ok (.invokevirtual 303, 3) := dk_182 1 47 (dk_at dksX1_usedByMinutes_0 9 rfl rfl)
theorem dX1_usedByMinutes_12 : decode cX1_usedByMinutes 12 = .ok (.ireturn, 1) := dk_172 (dk_at dksX1_usedByMinutes_0 12 rfl rfl)
abbrev cX1_setupMinutes : ByteArray := prog_1_method_52_code
def yX1_setupMinutes : MethodName := ⟨RX1, "setupMinutes", "(II)I"⟩
def dkwX1_setupMinutes_3 : List UInt8 := [182, 0, 184, 96, 62, 25, 6, 58, 4, 167, 255, 203, 29, 172]
abbrev dktX1_setupMinutes_3 : List UInt8 := dkwX1_setupMinutes_3 ++ []
def dkwX1_setupMinutes_2 : List UInt8 := [29, 25, 4, 199, 0, 7, 3, 167, 0, 18, 42, 27, 25, 4, 180, 0, 181, 25, 6, 180, 0, 181]
abbrev dktX1_setupMinutes_2 : List UInt8 := dkwX1_setupMinutes_2 ++ dktX1_setupMinutes_3
def dkwX1_setupMinutes_1 : List UInt8 := [58, 5, 25, 5, 185, 0, 168, 1, 0, 153, 0, 49, 25, 5, 185, 0, 174, 1, 0, 192, 0, 145, 58, 6]
abbrev dktX1_setupMinutes_1 : List UInt8 := dkwX1_setupMinutes_1 ++ dktX1_setupMinutes_2
def dkwX1_setupMinutes_0 : List UInt8 := [42, 27, 28, 182, 1, 35, 3, 62, 1, 58, 4, 42, 180, 0, 53, 27, 28, 182, 0, 160, 182, 0, 164]
abbrev dktX1_setupMinutes_0 : List UInt8 := dkwX1_setupMinutes_0 ++ dktX1_setupMinutes_1
theorem dksX1_setupMinutes_0 : cX1_setupMinutes.data.toList.drop 0 = dktX1_setupMinutes_0 := by decide +kernel
theorem dksX1_setupMinutes_1 : cX1_setupMinutes.data.toList.drop 23 = dktX1_setupMinutes_1 := dk_seg dksX1_setupMinutes_0 23 rfl rfl
theorem dksX1_setupMinutes_2 : cX1_setupMinutes.data.toList.drop 47 = dktX1_setupMinutes_2 := dk_seg dksX1_setupMinutes_1 24 rfl rfl
theorem dksX1_setupMinutes_3 : cX1_setupMinutes.data.toList.drop 69 = dktX1_setupMinutes_3 := dk_seg dksX1_setupMinutes_2 22 rfl rfl
theorem dX1_setupMinutes_0 : decode cX1_setupMinutes 0 = .ok (.aload_n 0, 1) := dk_42 (dk_at dksX1_setupMinutes_0 0 rfl rfl)
theorem dX1_setupMinutes_1 : decode cX1_setupMinutes 1 = .ok (.iload_n 1, 1) := dk_27 (dk_at dksX1_setupMinutes_0 1 rfl rfl)
theorem dX1_setupMinutes_2 : decode cX1_setupMinutes 2 = .ok (.iload_n 2, 1) := dk_28 (dk_at dksX1_setupMinutes_0 2 rfl rfl)
theorem dX1_setupMinutes_3 : decode cX1_setupMinutes 3 = .ok (.invokevirtual 291, 3) := dk_182 1 35 (dk_at dksX1_setupMinutes_0 3 rfl rfl)
theorem dX1_setupMinutes_6 : decode cX1_setupMinutes 6 = .ok (.iconst 0, 1) := dk_3 (dk_at dksX1_setupMinutes_0 6 rfl rfl)
theorem dX1_setupMinutes_7 : decode cX1_setupMinutes 7 = .ok (.istore_n 3, 1) := dk_62 (dk_at dksX1_setupMinutes_0 7 rfl rfl)
theorem dX1_setupMinutes_8 : decode cX1_setupMinutes 8 = .ok (.aconst_null, 1) := dk_1 (dk_at dksX1_setupMinutes_0 8 rfl rfl)
theorem dX1_setupMinutes_9 : decode cX1_setupMinutes 9 = .ok (.astore 4, 2) := dk_58 4 (dk_at dksX1_setupMinutes_0 9 rfl rfl)
theorem dX1_setupMinutes_11 : decode cX1_setupMinutes 11 = .ok (.aload_n 0, 1) := dk_42 (dk_at dksX1_setupMinutes_0 11 rfl rfl)
theorem dX1_setupMinutes_12 : decode cX1_setupMinutes 12 = .ok (.getfield 53, 3) := dk_180 0 53 (dk_at dksX1_setupMinutes_0 12 rfl rfl)
theorem dX1_setupMinutes_15 : decode cX1_setupMinutes 15 = .ok (.iload_n 1, 1) := dk_27 (dk_at dksX1_setupMinutes_0 15 rfl rfl)
theorem dX1_setupMinutes_16 : decode cX1_setupMinutes 16 = .ok (.iload_n 2, 1) := dk_28 (dk_at dksX1_setupMinutes_0 16 rfl rfl)
theorem dX1_setupMinutes_17 : decode cX1_setupMinutes 17 = .ok (.invokevirtual 160, 3) := dk_182 0 160 (dk_at dksX1_setupMinutes_0 17 rfl rfl)
theorem dX1_setupMinutes_20 : decode cX1_setupMinutes 20 = .ok (.invokevirtual 164, 3) := dk_182 0 164 (dk_at dksX1_setupMinutes_0 20 rfl rfl)
theorem dX1_setupMinutes_23 : decode cX1_setupMinutes 23 = .ok (.astore 5, 2) := dk_58 5 (dk_at dksX1_setupMinutes_1 0 rfl rfl)
theorem dX1_setupMinutes_25 : decode cX1_setupMinutes 25 = .ok (.aload 5, 2) := dk_25 5 (dk_at dksX1_setupMinutes_1 2 rfl rfl)
theorem dX1_setupMinutes_27 : decode cX1_setupMinutes 27 = .ok (.invokeinterface 168 1, 5) := by decide +kernel
theorem dX1_setupMinutes_32 : decode cX1_setupMinutes 32 = .ok (.ifCond .eq 49, 3) := dk_153 0 49 (dk_at dksX1_setupMinutes_1 9 rfl rfl)
theorem dX1_setupMinutes_35 : decode cX1_setupMinutes 35 = .ok (.aload 5, 2) := dk_25 5 (dk_at dksX1_setupMinutes_1 12 rfl rfl)
theorem dX1_setupMinutes_37 : decode cX1_setupMinutes 37 = .ok (.invokeinterface 174 1, 5) := by decide +kernel
theorem dX1_setupMinutes_42 : decode cX1_setupMinutes 42 = .ok (.checkcast 145, 3) := dk_192 0 145 (dk_at dksX1_setupMinutes_1 19 rfl rfl)
theorem dX1_setupMinutes_45 : decode cX1_setupMinutes 45 = .ok (.astore 6, 2) := dk_58 6 (dk_at dksX1_setupMinutes_1 22 rfl rfl)
theorem dX1_setupMinutes_47 : decode cX1_setupMinutes 47 = .ok (.iload_n 3, 1) := dk_29 (dk_at dksX1_setupMinutes_2 0 rfl rfl)
theorem dX1_setupMinutes_48 : decode cX1_setupMinutes 48 = .ok (.aload 4, 2) := dk_25 4 (dk_at dksX1_setupMinutes_2 1 rfl rfl)
theorem dX1_setupMinutes_50 : decode cX1_setupMinutes 50 = .ok (.ifnonnull 7, 3) := dk_199 0 7 (dk_at dksX1_setupMinutes_2 3 rfl rfl)
theorem dX1_setupMinutes_53 : decode cX1_setupMinutes 53 = .ok (.iconst 0, 1) := dk_3 (dk_at dksX1_setupMinutes_2 6 rfl rfl)
theorem dX1_setupMinutes_54 : decode cX1_setupMinutes 54 = .ok (.goto 18, 3) := dk_167 0 18 (dk_at dksX1_setupMinutes_2 7 rfl rfl)
theorem dX1_setupMinutes_57 : decode cX1_setupMinutes 57 = .ok (.aload_n 0, 1) := dk_42 (dk_at dksX1_setupMinutes_2 10 rfl rfl)
theorem dX1_setupMinutes_58 : decode cX1_setupMinutes 58 = .ok (.iload_n 1, 1) := dk_27 (dk_at dksX1_setupMinutes_2 11 rfl rfl)
theorem dX1_setupMinutes_59 : decode cX1_setupMinutes 59 = .ok (.aload 4, 2) := dk_25 4 (dk_at dksX1_setupMinutes_2 12 rfl rfl)
theorem dX1_setupMinutes_61 : decode cX1_setupMinutes 61 = .ok (.getfield 181, 3) := dk_180 0 181 (dk_at dksX1_setupMinutes_2 14 rfl rfl)
theorem dX1_setupMinutes_64 : decode cX1_setupMinutes 64 = .ok (.aload 6, 2) := dk_25 6 (dk_at dksX1_setupMinutes_2 17 rfl rfl)
theorem dX1_setupMinutes_66 : decode cX1_setupMinutes 66 = .ok (.getfield 181, 3) := dk_180 0 181 (dk_at dksX1_setupMinutes_2 19 rfl rfl)
theorem dX1_setupMinutes_69 : decode cX1_setupMinutes 69 = .ok (.invokevirtual 184, 3) := dk_182 0 184 (dk_at dksX1_setupMinutes_3 0 rfl rfl)
theorem dX1_setupMinutes_72 : decode cX1_setupMinutes 72 = .ok (.iadd, 1) := dk_96 (dk_at dksX1_setupMinutes_3 3 rfl rfl)
theorem dX1_setupMinutes_73 : decode cX1_setupMinutes 73 = .ok (.istore_n 3, 1) := dk_62 (dk_at dksX1_setupMinutes_3 4 rfl rfl)
theorem dX1_setupMinutes_74 : decode cX1_setupMinutes 74 = .ok (.aload 6, 2) := dk_25 6 (dk_at dksX1_setupMinutes_3 5 rfl rfl)
theorem dX1_setupMinutes_76 : decode cX1_setupMinutes 76 = .ok (.astore 4, 2) := dk_58 4 (dk_at dksX1_setupMinutes_3 7 rfl rfl)
theorem dX1_setupMinutes_78 : decode cX1_setupMinutes 78 = .ok (.goto (-53), 3) := dk_167 255 203 (dk_at dksX1_setupMinutes_3 9 rfl rfl)
theorem dX1_setupMinutes_81 : decode cX1_setupMinutes 81 = .ok (.iload_n 3, 1) := dk_29 (dk_at dksX1_setupMinutes_3 12 rfl rfl)
theorem dX1_setupMinutes_82 : decode cX1_setupMinutes 82 = .ok (.ireturn, 1) := dk_172 (dk_at dksX1_setupMinutes_3 13 rfl rfl)
abbrev cX1_firstStart : ByteArray := prog_1_method_54_code
def yX1_firstStart : MethodName := ⟨RX1, "firstStart", "(IIIC)I"⟩
def dkwX1_firstStart_5 : List UInt8 := [21, 5, 172]
abbrev dktX1_firstStart_5 : List UInt8 := dkwX1_firstStart_5 ++ []
def dkwX1_firstStart_4 : List UInt8 := [54, 5, 167, 255, 186, 21, 5, 29, 96, 17, 1, 224, 163, 0, 7, 4, 167, 0, 4, 3, 184, 1, 19]
abbrev dktX1_firstStart_4 : List UInt8 := dkwX1_firstStart_4 ++ dktX1_firstStart_5
def dkwX1_firstStart_3 : List UInt8 := [163, 0, 6, 21, 5, 172, 25, 7, 182, 0, 191, 42, 27, 25, 7, 180, 0, 181, 21, 4, 182, 0, 184, 96]
abbrev dktX1_firstStart_3 : List UInt8 := dkwX1_firstStart_3 ++ dktX1_firstStart_4
def dkwX1_firstStart_2 : List UInt8 := [21, 5, 29, 96, 42, 27, 21, 4, 25, 7, 180, 0, 181, 182, 0, 184, 96, 25, 7, 180, 0, 178]
abbrev dktX1_firstStart_2 : List UInt8 := dkwX1_firstStart_2 ++ dktX1_firstStart_3
def dkwX1_firstStart_1 : List UInt8 := [58, 6, 25, 6, 185, 0, 168, 1, 0, 153, 0, 66, 25, 6, 185, 0, 174, 1, 0, 192, 0, 145, 58, 7]
abbrev dktX1_firstStart_1 : List UInt8 := dkwX1_firstStart_1 ++ dktX1_firstStart_2
def dkwX1_firstStart_0 : List UInt8 := [42, 27, 28, 29, 21, 4, 182, 1, 50, 3, 54, 5, 42, 180, 0, 53, 27, 28, 182, 0, 160, 182, 0, 164]
abbrev dktX1_firstStart_0 : List UInt8 := dkwX1_firstStart_0 ++ dktX1_firstStart_1
theorem dksX1_firstStart_0 : cX1_firstStart.data.toList.drop 0 = dktX1_firstStart_0 := by decide +kernel
theorem dksX1_firstStart_1 : cX1_firstStart.data.toList.drop 24 = dktX1_firstStart_1 := dk_seg dksX1_firstStart_0 24 rfl rfl
theorem dksX1_firstStart_2 : cX1_firstStart.data.toList.drop 48 = dktX1_firstStart_2 := dk_seg dksX1_firstStart_1 24 rfl rfl
theorem dksX1_firstStart_3 : cX1_firstStart.data.toList.drop 70 = dktX1_firstStart_3 := dk_seg dksX1_firstStart_2 22 rfl rfl
theorem dksX1_firstStart_4 : cX1_firstStart.data.toList.drop 94 = dktX1_firstStart_4 := dk_seg dksX1_firstStart_3 24 rfl rfl
theorem dksX1_firstStart_5 : cX1_firstStart.data.toList.drop 117 = dktX1_firstStart_5 := dk_seg dksX1_firstStart_4 23 rfl rfl
theorem dX1_firstStart_0 : decode cX1_firstStart 0 = .ok (.aload_n 0, 1) := dk_42 (dk_at dksX1_firstStart_0 0 rfl rfl)
theorem dX1_firstStart_1 : decode cX1_firstStart 1 = .ok (.iload_n 1, 1) := dk_27 (dk_at dksX1_firstStart_0 1 rfl rfl)
theorem dX1_firstStart_2 : decode cX1_firstStart 2 = .ok (.iload_n 2, 1) := dk_28 (dk_at dksX1_firstStart_0 2 rfl rfl)
theorem dX1_firstStart_3 : decode cX1_firstStart 3 = .ok (.iload_n 3, 1) := dk_29 (dk_at dksX1_firstStart_0 3 rfl rfl)
theorem dX1_firstStart_4 : decode cX1_firstStart 4 = .ok (.iload 4, 2) := dk_21 4 (dk_at dksX1_firstStart_0 4 rfl rfl)
theorem dX1_firstStart_6 : decode cX1_firstStart 6 = .ok (.invokevirtual 306, 3) := dk_182 1 50 (dk_at dksX1_firstStart_0 6 rfl rfl)
theorem dX1_firstStart_9 : decode cX1_firstStart 9 = .ok (.iconst 0, 1) := dk_3 (dk_at dksX1_firstStart_0 9 rfl rfl)
theorem dX1_firstStart_10 : decode cX1_firstStart 10 = .ok (.istore 5, 2) := dk_54 5 (dk_at dksX1_firstStart_0 10 rfl rfl)
theorem dX1_firstStart_12 : decode cX1_firstStart 12 = .ok (.aload_n 0, 1) := dk_42 (dk_at dksX1_firstStart_0 12 rfl rfl)
theorem dX1_firstStart_13 : decode cX1_firstStart 13 = .ok (.getfield 53, 3) := dk_180 0 53 (dk_at dksX1_firstStart_0 13 rfl rfl)
theorem dX1_firstStart_16 : decode cX1_firstStart 16 = .ok (.iload_n 1, 1) := dk_27 (dk_at dksX1_firstStart_0 16 rfl rfl)
theorem dX1_firstStart_17 : decode cX1_firstStart 17 = .ok (.iload_n 2, 1) := dk_28 (dk_at dksX1_firstStart_0 17 rfl rfl)
theorem dX1_firstStart_18 : decode cX1_firstStart 18 = .ok (.invokevirtual 160, 3) := dk_182 0 160 (dk_at dksX1_firstStart_0 18 rfl rfl)
theorem dX1_firstStart_21 : decode cX1_firstStart 21 = .ok (.invokevirtual 164, 3) := dk_182 0 164 (dk_at dksX1_firstStart_0 21 rfl rfl)
theorem dX1_firstStart_24 : decode cX1_firstStart 24 = .ok (.astore 6, 2) := dk_58 6 (dk_at dksX1_firstStart_1 0 rfl rfl)
theorem dX1_firstStart_26 : decode cX1_firstStart 26 = .ok (.aload 6, 2) := dk_25 6 (dk_at dksX1_firstStart_1 2 rfl rfl)
theorem dX1_firstStart_28 : decode cX1_firstStart 28 = .ok (.invokeinterface 168 1, 5) := by decide +kernel
theorem dX1_firstStart_33 : decode cX1_firstStart 33 = .ok (.ifCond .eq 66, 3) := dk_153 0 66 (dk_at dksX1_firstStart_1 9 rfl rfl)
theorem dX1_firstStart_36 : decode cX1_firstStart 36 = .ok (.aload 6, 2) := dk_25 6 (dk_at dksX1_firstStart_1 12 rfl rfl)
theorem dX1_firstStart_38 : decode cX1_firstStart 38 = .ok (.invokeinterface 174 1, 5) := by decide +kernel
theorem dX1_firstStart_43 : decode cX1_firstStart 43 = .ok (.checkcast 145, 3) := dk_192 0 145 (dk_at dksX1_firstStart_1 19 rfl rfl)
theorem dX1_firstStart_46 : decode cX1_firstStart 46 = .ok (.astore 7, 2) := dk_58 7 (dk_at dksX1_firstStart_1 22 rfl rfl)
theorem dX1_firstStart_48 : decode cX1_firstStart 48 = .ok (.iload 5, 2) := dk_21 5 (dk_at dksX1_firstStart_2 0 rfl rfl)
theorem dX1_firstStart_50 : decode cX1_firstStart 50 = .ok (.iload_n 3, 1) := dk_29 (dk_at dksX1_firstStart_2 2 rfl rfl)
theorem dX1_firstStart_51 : decode cX1_firstStart 51 = .ok (.iadd, 1) := dk_96 (dk_at dksX1_firstStart_2 3 rfl rfl)
theorem dX1_firstStart_52 : decode cX1_firstStart 52 = .ok (.aload_n 0, 1) := dk_42 (dk_at dksX1_firstStart_2 4 rfl rfl)
theorem dX1_firstStart_53 : decode cX1_firstStart 53 = .ok (.iload_n 1, 1) := dk_27 (dk_at dksX1_firstStart_2 5 rfl rfl)
theorem dX1_firstStart_54 : decode cX1_firstStart 54 = .ok (.iload 4, 2) := dk_21 4 (dk_at dksX1_firstStart_2 6 rfl rfl)
theorem dX1_firstStart_56 : decode cX1_firstStart 56 = .ok (.aload 7, 2) := dk_25 7 (dk_at dksX1_firstStart_2 8 rfl rfl)
theorem dX1_firstStart_58 : decode cX1_firstStart 58 = .ok (.getfield 181, 3) := dk_180 0 181 (dk_at dksX1_firstStart_2 10 rfl rfl)
theorem dX1_firstStart_61 : decode cX1_firstStart 61 = .ok (.invokevirtual 184, 3) := dk_182 0 184 (dk_at dksX1_firstStart_2 13 rfl rfl)
theorem dX1_firstStart_64 : decode cX1_firstStart 64 = .ok (.iadd, 1) := dk_96 (dk_at dksX1_firstStart_2 16 rfl rfl)
theorem dX1_firstStart_65 : decode cX1_firstStart 65 = .ok (.aload 7, 2) := dk_25 7 (dk_at dksX1_firstStart_2 17 rfl rfl)
theorem dX1_firstStart_67 : decode cX1_firstStart 67 = .ok (.getfield 178, 3) := dk_180 0 178 (dk_at dksX1_firstStart_2 19 rfl rfl)
theorem dX1_firstStart_70 : decode cX1_firstStart 70 = .ok (.if_icmp .gt 6, 3) := dk_163 0 6 (dk_at dksX1_firstStart_3 0 rfl rfl)
theorem dX1_firstStart_73 : decode cX1_firstStart 73 = .ok (.iload 5, 2) := dk_21 5 (dk_at dksX1_firstStart_3 3 rfl rfl)
theorem dX1_firstStart_75 : decode cX1_firstStart 75 = .ok (.ireturn, 1) := dk_172 (dk_at dksX1_firstStart_3 5 rfl rfl)
theorem dX1_firstStart_76 : decode cX1_firstStart 76 = .ok (.aload 7, 2) := dk_25 7 (dk_at dksX1_firstStart_3 6 rfl rfl)
theorem dX1_firstStart_78 : decode cX1_firstStart 78 = .ok (.invokevirtual 191, 3) := dk_182 0 191 (dk_at dksX1_firstStart_3 8 rfl rfl)
theorem dX1_firstStart_81 : decode cX1_firstStart 81 = .ok (.aload_n 0, 1) := dk_42 (dk_at dksX1_firstStart_3 11 rfl rfl)
theorem dX1_firstStart_82 : decode cX1_firstStart 82 = .ok (.iload_n 1, 1) := dk_27 (dk_at dksX1_firstStart_3 12 rfl rfl)
theorem dX1_firstStart_83 : decode cX1_firstStart 83 = .ok (.aload 7, 2) := dk_25 7 (dk_at dksX1_firstStart_3 13 rfl rfl)
theorem dX1_firstStart_85 : decode cX1_firstStart 85 = .ok (.getfield 181, 3) := dk_180 0 181 (dk_at dksX1_firstStart_3 15 rfl rfl)
theorem dX1_firstStart_88 : decode cX1_firstStart 88 = .ok (.iload 4, 2) := dk_21 4 (dk_at dksX1_firstStart_3 18 rfl rfl)
theorem dX1_firstStart_90 : decode cX1_firstStart 90 = .ok (.invokevirtual 184, 3) := dk_182 0 184 (dk_at dksX1_firstStart_3 20 rfl rfl)
theorem dX1_firstStart_93 : decode cX1_firstStart 93 = .ok (.iadd, 1) := dk_96 (dk_at dksX1_firstStart_3 23 rfl rfl)
theorem dX1_firstStart_94 : decode cX1_firstStart 94 = .ok (.istore 5, 2) := dk_54 5 (dk_at dksX1_firstStart_4 0 rfl rfl)
theorem dX1_firstStart_96 : decode cX1_firstStart 96 = .ok (.goto (-70), 3) := dk_167 255 186 (dk_at dksX1_firstStart_4 2 rfl rfl)
theorem dX1_firstStart_99 : decode cX1_firstStart 99 = .ok (.iload 5, 2) := dk_21 5 (dk_at dksX1_firstStart_4 5 rfl rfl)
theorem dX1_firstStart_101 : decode cX1_firstStart 101 = .ok (.iload_n 3, 1) := dk_29 (dk_at dksX1_firstStart_4 7 rfl rfl)
theorem dX1_firstStart_102 : decode cX1_firstStart 102 = .ok (.iadd, 1) := dk_96 (dk_at dksX1_firstStart_4 8 rfl rfl)
theorem dX1_firstStart_103 : decode cX1_firstStart 103 = .ok (.sipush 480, 3) := dk_17 1 224 (dk_at dksX1_firstStart_4 9 rfl rfl)
theorem dX1_firstStart_106 : decode cX1_firstStart 106 = .ok (.if_icmp .gt 7, 3) := dk_163 0 7 (dk_at dksX1_firstStart_4 12 rfl rfl)
theorem dX1_firstStart_109 : decode cX1_firstStart 109 = .ok (.iconst 1, 1) := dk_4 (dk_at dksX1_firstStart_4 15 rfl rfl)
theorem dX1_firstStart_110 : decode cX1_firstStart 110 = .ok (.goto 4, 3) := dk_167 0 4 (dk_at dksX1_firstStart_4 16 rfl rfl)
theorem dX1_firstStart_113 : decode cX1_firstStart 113 = .ok (.iconst 0, 1) := dk_3 (dk_at dksX1_firstStart_4 19 rfl rfl)
theorem dX1_firstStart_114 : decode cX1_firstStart 114 = .ok (.invokestatic 275, 3) := dk_184 1 19 (dk_at dksX1_firstStart_4 20 rfl rfl)
theorem dX1_firstStart_117 : decode cX1_firstStart 117 = .ok (.iload 5, 2) := dk_21 5 (dk_at dksX1_firstStart_5 0 rfl rfl)
theorem dX1_firstStart_119 : decode cX1_firstStart 119 = .ok (.ireturn, 1) := dk_172 (dk_at dksX1_firstStart_5 2 rfl rfl)
abbrev cX1_mayStart : ByteArray := prog_1_method_53_code
def yX1_mayStart : MethodName := ⟨RX1, "mayStart", "(IIIC)V"⟩
def dkwX1_mayStart_1 : List UInt8 := [153, 0, 15, 21, 4, 184, 0, 253, 153, 0, 7, 4, 167, 0, 4, 3, 184, 0, 94, 177]
abbrev dktX1_mayStart_1 : List UInt8 := dkwX1_mayStart_1 ++ []
def dkwX1_mayStart_0 : List UInt8 := [42, 27, 182, 0, 247, 184, 0, 238, 42, 28, 182, 0, 250, 153, 0, 26, 29, 4, 17, 0, 240, 184, 0, 90]
abbrev dktX1_mayStart_0 : List UInt8 := dkwX1_mayStart_0 ++ dktX1_mayStart_1
theorem dksX1_mayStart_0 : cX1_mayStart.data.toList.drop 0 = dktX1_mayStart_0 := by decide +kernel
theorem dksX1_mayStart_1 : cX1_mayStart.data.toList.drop 24 = dktX1_mayStart_1 := dk_seg dksX1_mayStart_0 24 rfl rfl
theorem dX1_mayStart_0 : decode cX1_mayStart 0 = .ok (.aload_n 0, 1) := dk_42 (dk_at dksX1_mayStart_0 0 rfl rfl)
theorem dX1_mayStart_1 : decode cX1_mayStart 1 = .ok (.iload_n 1, 1) := dk_27 (dk_at dksX1_mayStart_0 1 rfl rfl)
theorem dX1_mayStart_2 : decode cX1_mayStart 2 = .ok (.invokevirtual 247, 3) := dk_182 0 247 (dk_at dksX1_mayStart_0 2 rfl rfl)
theorem dX1_mayStart_5 : decode cX1_mayStart 5 = .ok (.invokestatic 238, 3) := dk_184 0 238 (dk_at dksX1_mayStart_0 5 rfl rfl)
theorem dX1_mayStart_8 : decode cX1_mayStart 8 = .ok (.aload_n 0, 1) := dk_42 (dk_at dksX1_mayStart_0 8 rfl rfl)
theorem dX1_mayStart_9 : decode cX1_mayStart 9 = .ok (.iload_n 2, 1) := dk_28 (dk_at dksX1_mayStart_0 9 rfl rfl)
theorem dX1_mayStart_10 : decode cX1_mayStart 10 = .ok (.invokevirtual 250, 3) := dk_182 0 250 (dk_at dksX1_mayStart_0 10 rfl rfl)
theorem dX1_mayStart_13 : decode cX1_mayStart 13 = .ok (.ifCond .eq 26, 3) := dk_153 0 26 (dk_at dksX1_mayStart_0 13 rfl rfl)
theorem dX1_mayStart_16 : decode cX1_mayStart 16 = .ok (.iload_n 3, 1) := dk_29 (dk_at dksX1_mayStart_0 16 rfl rfl)
theorem dX1_mayStart_17 : decode cX1_mayStart 17 = .ok (.iconst 1, 1) := dk_4 (dk_at dksX1_mayStart_0 17 rfl rfl)
theorem dX1_mayStart_18 : decode cX1_mayStart 18 = .ok (.sipush 240, 3) := dk_17 0 240 (dk_at dksX1_mayStart_0 18 rfl rfl)
theorem dX1_mayStart_21 : decode cX1_mayStart 21 = .ok (.invokestatic 90, 3) := dk_184 0 90 (dk_at dksX1_mayStart_0 21 rfl rfl)
theorem dX1_mayStart_24 : decode cX1_mayStart 24 = .ok (.ifCond .eq 15, 3) := dk_153 0 15 (dk_at dksX1_mayStart_1 0 rfl rfl)
theorem dX1_mayStart_27 : decode cX1_mayStart 27 = .ok (.iload 4, 2) := dk_21 4 (dk_at dksX1_mayStart_1 3 rfl rfl)
theorem dX1_mayStart_29 : decode cX1_mayStart 29 = .ok (.invokestatic 253, 3) := dk_184 0 253 (dk_at dksX1_mayStart_1 5 rfl rfl)
theorem dX1_mayStart_32 : decode cX1_mayStart 32 = .ok (.ifCond .eq 7, 3) := dk_153 0 7 (dk_at dksX1_mayStart_1 8 rfl rfl)
theorem dX1_mayStart_35 : decode cX1_mayStart 35 = .ok (.iconst 1, 1) := dk_4 (dk_at dksX1_mayStart_1 11 rfl rfl)
theorem dX1_mayStart_36 : decode cX1_mayStart 36 = .ok (.goto 4, 3) := dk_167 0 4 (dk_at dksX1_mayStart_1 12 rfl rfl)
theorem dX1_mayStart_39 : decode cX1_mayStart 39 = .ok (.iconst 0, 1) := dk_3 (dk_at dksX1_mayStart_1 15 rfl rfl)
theorem dX1_mayStart_40 : decode cX1_mayStart 40 = .ok (.invokestatic 94, 3) := dk_184 0 94 (dk_at dksX1_mayStart_1 16 rfl rfl)
theorem dX1_mayStart_43 : decode cX1_mayStart 43 = .ok (.return_, 1) := dk_177 (dk_at dksX1_mayStart_1 19 rfl rfl)
abbrev cX1_firstByMinutes : ByteArray := prog_1_method_55_code
def yX1_firstByMinutes : MethodName := ⟨RX1, "firstByMinutes", "(IIIC)I"⟩
def dkwX1_firstByMinutes_2 : List UInt8 := [187, 0, 80, 89, 183, 0, 82, 191]
abbrev dktX1_firstByMinutes_2 : List UInt8 := dkwX1_firstByMinutes_2 ++ []
def dkwX1_firstByMinutes_1 : List UInt8 := [27, 28, 21, 5, 29, 21, 4, 182, 1, 54, 154, 0, 6, 21, 5, 172, 132, 5, 1, 167, 255, 225]
abbrev dktX1_firstByMinutes_1 : List UInt8 := dkwX1_firstByMinutes_1 ++ dktX1_firstByMinutes_2
def dkwX1_firstByMinutes_0 : List UInt8 := [42, 27, 28, 29, 21, 4, 182, 1, 50, 3, 54, 5, 21, 5, 29, 96, 17, 1, 224, 163, 0, 27, 42, 2]
abbrev dktX1_firstByMinutes_0 : List UInt8 := dkwX1_firstByMinutes_0 ++ dktX1_firstByMinutes_1
theorem dksX1_firstByMinutes_0 : cX1_firstByMinutes.data.toList.drop 0 = dktX1_firstByMinutes_0 := by decide +kernel
theorem dksX1_firstByMinutes_1 : cX1_firstByMinutes.data.toList.drop 24 = dktX1_firstByMinutes_1 := dk_seg dksX1_firstByMinutes_0 24 rfl rfl
theorem dksX1_firstByMinutes_2 : cX1_firstByMinutes.data.toList.drop 46 = dktX1_firstByMinutes_2 := dk_seg dksX1_firstByMinutes_1 22 rfl rfl
theorem dX1_firstByMinutes_0 : decode cX1_firstByMinutes 0 = .ok (.aload_n 0, 1) := dk_42 (dk_at dksX1_firstByMinutes_0 0 rfl rfl)
theorem dX1_firstByMinutes_1 : decode cX1_firstByMinutes 1 = .ok (.iload_n 1, 1) := dk_27 (dk_at dksX1_firstByMinutes_0 1 rfl rfl)
theorem dX1_firstByMinutes_2 : decode cX1_firstByMinutes 2 = .ok (.iload_n 2, 1) := dk_28 (dk_at dksX1_firstByMinutes_0 2 rfl rfl)
theorem dX1_firstByMinutes_3 : decode cX1_firstByMinutes 3 = .ok (.iload_n 3, 1) := dk_29 (dk_at dksX1_firstByMinutes_0 3 rfl rfl)
theorem dX1_firstByMinutes_4 : decode cX1_firstByMinutes 4 = .ok (.iload 4, 2) := dk_21 4 (dk_at dksX1_firstByMinutes_0 4 rfl rfl)
theorem dX1_firstByMinutes_6 : decode cX1_firstByMinutes 6 = .ok (.invokevirtual 306, 3) := dk_182 1 50 (dk_at dksX1_firstByMinutes_0 6 rfl rfl)
theorem dX1_firstByMinutes_9 : decode cX1_firstByMinutes 9 = .ok (.iconst 0, 1) := dk_3 (dk_at dksX1_firstByMinutes_0 9 rfl rfl)
theorem dX1_firstByMinutes_10 : decode cX1_firstByMinutes 10 = .ok (.istore 5, 2) := dk_54 5 (dk_at dksX1_firstByMinutes_0 10 rfl rfl)
theorem dX1_firstByMinutes_12 : decode cX1_firstByMinutes 12 = .ok (.iload 5, 2) := dk_21 5 (dk_at dksX1_firstByMinutes_0 12 rfl rfl)
theorem dX1_firstByMinutes_14 : decode cX1_firstByMinutes 14 = .ok (.iload_n 3, 1) := dk_29 (dk_at dksX1_firstByMinutes_0 14 rfl rfl)
theorem dX1_firstByMinutes_15 : decode cX1_firstByMinutes 15 = .ok (.iadd, 1) := dk_96 (dk_at dksX1_firstByMinutes_0 15 rfl rfl)
theorem dX1_firstByMinutes_16 : decode cX1_firstByMinutes 16 = .ok (.sipush 480, 3) := dk_17 1 224 (dk_at dksX1_firstByMinutes_0 16 rfl rfl)
theorem dX1_firstByMinutes_19 : decode cX1_firstByMinutes 19 = .ok (.if_icmp .gt 27, 3) := dk_163 0 27 (dk_at dksX1_firstByMinutes_0 19 rfl rfl)
theorem dX1_firstByMinutes_22 : decode cX1_firstByMinutes 22 = .ok (.aload_n 0, 1) := dk_42 (dk_at dksX1_firstByMinutes_0 22 rfl rfl)
theorem dX1_firstByMinutes_23 : decode cX1_firstByMinutes 23 = .ok (.iconst (-1), 1) := dk_2 (dk_at dksX1_firstByMinutes_0 23 rfl rfl)
theorem dX1_firstByMinutes_24 : decode cX1_firstByMinutes 24 = .ok (.iload_n 1, 1) := dk_27 (dk_at dksX1_firstByMinutes_1 0 rfl rfl)
theorem dX1_firstByMinutes_25 : decode cX1_firstByMinutes 25 = .ok (.iload_n 2, 1) := dk_28 (dk_at dksX1_firstByMinutes_1 1 rfl rfl)
theorem dX1_firstByMinutes_26 : decode cX1_firstByMinutes 26 = .ok (.iload 5, 2) := dk_21 5 (dk_at dksX1_firstByMinutes_1 2 rfl rfl)
theorem dX1_firstByMinutes_28 : decode cX1_firstByMinutes 28 = .ok (.iload_n 3, 1) := dk_29 (dk_at dksX1_firstByMinutes_1 4 rfl rfl)
theorem dX1_firstByMinutes_29 : decode cX1_firstByMinutes 29 = .ok (.iload 4, 2) := dk_21 4 (dk_at dksX1_firstByMinutes_1 5 rfl rfl)
theorem dX1_firstByMinutes_31 : decode cX1_firstByMinutes 31 = .ok (.invokevirtual 310, 3) := dk_182 1 54 (dk_at dksX1_firstByMinutes_1 7 rfl rfl)
theorem dX1_firstByMinutes_34 : decode cX1_firstByMinutes 34 = .ok (.ifCond .ne 6, 3) := dk_154 0 6 (dk_at dksX1_firstByMinutes_1 10 rfl rfl)
theorem dX1_firstByMinutes_37 : decode cX1_firstByMinutes 37 = .ok (.iload 5, 2) := dk_21 5 (dk_at dksX1_firstByMinutes_1 13 rfl rfl)
theorem dX1_firstByMinutes_39 : decode cX1_firstByMinutes 39 = .ok (.ireturn, 1) := dk_172 (dk_at dksX1_firstByMinutes_1 15 rfl rfl)
theorem dX1_firstByMinutes_40 : decode cX1_firstByMinutes 40 = .ok (.iinc 5 1, 3) := dk_132 5 1 (dk_at dksX1_firstByMinutes_1 16 rfl rfl)
theorem dX1_firstByMinutes_43 : decode cX1_firstByMinutes 43 = .ok (.goto (-31), 3) := dk_167 255 225 (dk_at dksX1_firstByMinutes_1 19 rfl rfl)
theorem dX1_firstByMinutes_46 : decode cX1_firstByMinutes 46 = .ok (.new 80, 3) := dk_187 0 80 (dk_at dksX1_firstByMinutes_2 0 rfl rfl)
theorem dX1_firstByMinutes_49 : decode cX1_firstByMinutes 49 = .ok (.dup, 1) := dk_89 (dk_at dksX1_firstByMinutes_2 3 rfl rfl)
theorem dX1_firstByMinutes_50 : decode cX1_firstByMinutes 50 = .ok (.invokespecial 82, 3) := dk_183 0 82 (dk_at dksX1_firstByMinutes_2 4 rfl rfl)
theorem dX1_firstByMinutes_53 : decode cX1_firstByMinutes 53 = .ok (.athrow, 1) := dk_191 (dk_at dksX1_firstByMinutes_2 7 rfl rfl)
abbrev cX1_waiting : ByteArray := prog_1_method_56_code
def yX1_waiting : MethodName := ⟨RX1, "waiting", "(II)I"⟩
def dkwX1_waiting_4 : List UInt8 := [167, 0, 4, 3, 96, 62, 132, 4, 1, 167, 255, 175, 29, 172]
abbrev dktX1_waiting_4 : List UInt8 := dkwX1_waiting_4 ++ []
def dkwX1_waiting_3 : List UInt8 := [160, 0, 26, 42, 180, 0, 36, 21, 4, 182, 0, 122, 192, 0, 145, 180, 0, 154, 28, 160, 0, 7, 4]
abbrev dktX1_waiting_3 : List UInt8 := dkwX1_waiting_3 ++ dktX1_waiting_4
def dkwX1_waiting_2 : List UInt8 := [180, 0, 150, 16, 119, 160, 0, 45, 42, 180, 0, 36, 21, 4, 182, 0, 122, 192, 0, 145, 180, 0, 194, 27]
abbrev dktX1_waiting_2 : List UInt8 := dkwX1_waiting_2 ++ dktX1_waiting_3
def dkwX1_waiting_1 : List UInt8 := [180, 0, 36, 182, 0, 141, 162, 0, 75, 29, 42, 180, 0, 36, 21, 4, 182, 0, 122, 192, 0, 145]
abbrev dktX1_waiting_1 : List UInt8 := dkwX1_waiting_1 ++ dktX1_waiting_2
def dkwX1_waiting_0 : List UInt8 := [42, 27, 182, 0, 247, 184, 0, 238, 42, 28, 182, 0, 250, 184, 0, 94, 3, 62, 3, 54, 4, 21, 4, 42]
abbrev dktX1_waiting_0 : List UInt8 := dkwX1_waiting_0 ++ dktX1_waiting_1
theorem dksX1_waiting_0 : cX1_waiting.data.toList.drop 0 = dktX1_waiting_0 := by decide +kernel
theorem dksX1_waiting_1 : cX1_waiting.data.toList.drop 24 = dktX1_waiting_1 := dk_seg dksX1_waiting_0 24 rfl rfl
theorem dksX1_waiting_2 : cX1_waiting.data.toList.drop 46 = dktX1_waiting_2 := dk_seg dksX1_waiting_1 22 rfl rfl
theorem dksX1_waiting_3 : cX1_waiting.data.toList.drop 70 = dktX1_waiting_3 := dk_seg dksX1_waiting_2 24 rfl rfl
theorem dksX1_waiting_4 : cX1_waiting.data.toList.drop 93 = dktX1_waiting_4 := dk_seg dksX1_waiting_3 23 rfl rfl
theorem dX1_waiting_0 : decode cX1_waiting 0 = .ok (.aload_n 0, 1) := dk_42 (dk_at dksX1_waiting_0 0 rfl rfl)
theorem dX1_waiting_1 : decode cX1_waiting 1 = .ok (.iload_n 1, 1) := dk_27 (dk_at dksX1_waiting_0 1 rfl rfl)
theorem dX1_waiting_2 : decode cX1_waiting 2 = .ok (.invokevirtual 247, 3) := dk_182 0 247 (dk_at dksX1_waiting_0 2 rfl rfl)
theorem dX1_waiting_5 : decode cX1_waiting 5 = .ok (.invokestatic 238, 3) := dk_184 0 238 (dk_at dksX1_waiting_0 5 rfl rfl)
theorem dX1_waiting_8 : decode cX1_waiting 8 = .ok (.aload_n 0, 1) := dk_42 (dk_at dksX1_waiting_0 8 rfl rfl)
theorem dX1_waiting_9 : decode cX1_waiting 9 = .ok (.iload_n 2, 1) := dk_28 (dk_at dksX1_waiting_0 9 rfl rfl)
theorem dX1_waiting_10 : decode cX1_waiting 10 = .ok (.invokevirtual 250, 3) := dk_182 0 250 (dk_at dksX1_waiting_0 10 rfl rfl)
theorem dX1_waiting_13 : decode cX1_waiting 13 = .ok (.invokestatic 94, 3) := dk_184 0 94 (dk_at dksX1_waiting_0 13 rfl rfl)
theorem dX1_waiting_16 : decode cX1_waiting 16 = .ok (.iconst 0, 1) := dk_3 (dk_at dksX1_waiting_0 16 rfl rfl)
theorem dX1_waiting_17 : decode cX1_waiting 17 = .ok (.istore_n 3, 1) := dk_62 (dk_at dksX1_waiting_0 17 rfl rfl)
theorem dX1_waiting_18 : decode cX1_waiting 18 = .ok (.iconst 0, 1) := dk_3 (dk_at dksX1_waiting_0 18 rfl rfl)
theorem dX1_waiting_19 : decode cX1_waiting 19 = .ok (.istore 4, 2) := dk_54 4 (dk_at dksX1_waiting_0 19 rfl rfl)
theorem dX1_waiting_21 : decode cX1_waiting 21 = .ok (.iload 4, 2) := dk_21 4 (dk_at dksX1_waiting_0 21 rfl rfl)
theorem dX1_waiting_23 : decode cX1_waiting 23 = .ok (.aload_n 0, 1) := dk_42 (dk_at dksX1_waiting_0 23 rfl rfl)
theorem dX1_waiting_24 : decode cX1_waiting 24 = .ok (.getfield 36, 3) := dk_180 0 36 (dk_at dksX1_waiting_1 0 rfl rfl)
theorem dX1_waiting_27 : decode cX1_waiting 27 = .ok (.invokevirtual 141, 3) := dk_182 0 141 (dk_at dksX1_waiting_1 3 rfl rfl)
theorem dX1_waiting_30 : decode cX1_waiting 30 = .ok (.if_icmp .ge 75, 3) := dk_162 0 75 (dk_at dksX1_waiting_1 6 rfl rfl)
theorem dX1_waiting_33 : decode cX1_waiting 33 = .ok (.iload_n 3, 1) := dk_29 (dk_at dksX1_waiting_1 9 rfl rfl)
theorem dX1_waiting_34 : decode cX1_waiting 34 = .ok (.aload_n 0, 1) := dk_42 (dk_at dksX1_waiting_1 10 rfl rfl)
theorem dX1_waiting_35 : decode cX1_waiting 35 = .ok (.getfield 36, 3) := dk_180 0 36 (dk_at dksX1_waiting_1 11 rfl rfl)
theorem dX1_waiting_38 : decode cX1_waiting 38 = .ok (.iload 4, 2) := dk_21 4 (dk_at dksX1_waiting_1 14 rfl rfl)
theorem dX1_waiting_40 : decode cX1_waiting 40 = .ok (.invokevirtual 122, 3) := dk_182 0 122 (dk_at dksX1_waiting_1 16 rfl rfl)
theorem dX1_waiting_43 : decode cX1_waiting 43 = .ok (.checkcast 145, 3) := dk_192 0 145 (dk_at dksX1_waiting_1 19 rfl rfl)
theorem dX1_waiting_46 : decode cX1_waiting 46 = .ok (.getfield 150, 3) := dk_180 0 150 (dk_at dksX1_waiting_2 0 rfl rfl)
theorem dX1_waiting_49 : decode cX1_waiting 49 = .ok (.bipush 119, 2) := dk_16 119 (dk_at dksX1_waiting_2 3 rfl rfl)
theorem dX1_waiting_51 : decode cX1_waiting 51 = .ok (.if_icmp .ne 45, 3) := dk_160 0 45 (dk_at dksX1_waiting_2 5 rfl rfl)
theorem dX1_waiting_54 : decode cX1_waiting 54 = .ok (.aload_n 0, 1) := dk_42 (dk_at dksX1_waiting_2 8 rfl rfl)
theorem dX1_waiting_55 : decode cX1_waiting 55 = .ok (.getfield 36, 3) := dk_180 0 36 (dk_at dksX1_waiting_2 9 rfl rfl)
theorem dX1_waiting_58 : decode cX1_waiting 58 = .ok (.iload 4, 2) := dk_21 4 (dk_at dksX1_waiting_2 12 rfl rfl)
theorem dX1_waiting_60 : decode cX1_waiting 60 = .ok (.invokevirtual 122, 3) := dk_182 0 122 (dk_at dksX1_waiting_2 14 rfl rfl)
theorem dX1_waiting_63 : decode cX1_waiting 63 = .ok (.checkcast 145, 3) := dk_192 0 145 (dk_at dksX1_waiting_2 17 rfl rfl)
theorem dX1_waiting_66 : decode cX1_waiting 66 = .ok (.getfield 194, 3) := dk_180 0 194 (dk_at dksX1_waiting_2 20 rfl rfl)
theorem dX1_waiting_69 : decode cX1_waiting 69 = .ok (.iload_n 1, 1) := dk_27 (dk_at dksX1_waiting_2 23 rfl rfl)
theorem dX1_waiting_70 : decode cX1_waiting 70 = .ok (.if_icmp .ne 26, 3) := dk_160 0 26 (dk_at dksX1_waiting_3 0 rfl rfl)
theorem dX1_waiting_73 : decode cX1_waiting 73 = .ok (.aload_n 0, 1) := dk_42 (dk_at dksX1_waiting_3 3 rfl rfl)
theorem dX1_waiting_74 : decode cX1_waiting 74 = .ok (.getfield 36, 3) := dk_180 0 36 (dk_at dksX1_waiting_3 4 rfl rfl)
theorem dX1_waiting_77 : decode cX1_waiting 77 = .ok (.iload 4, 2) := dk_21 4 (dk_at dksX1_waiting_3 7 rfl rfl)
theorem dX1_waiting_79 : decode cX1_waiting 79 = .ok (.invokevirtual 122, 3) := dk_182 0 122 (dk_at dksX1_waiting_3 9 rfl rfl)
theorem dX1_waiting_82 : decode cX1_waiting 82 = .ok (.checkcast 145, 3) := dk_192 0 145 (dk_at dksX1_waiting_3 12 rfl rfl)
theorem dX1_waiting_85 : decode cX1_waiting 85 = .ok (.getfield 154, 3) := dk_180 0 154 (dk_at dksX1_waiting_3 15 rfl rfl)
theorem dX1_waiting_88 : decode cX1_waiting 88 = .ok (.iload_n 2, 1) := dk_28 (dk_at dksX1_waiting_3 18 rfl rfl)
theorem dX1_waiting_89 : decode cX1_waiting 89 = .ok (.if_icmp .ne 7, 3) := dk_160 0 7 (dk_at dksX1_waiting_3 19 rfl rfl)
theorem dX1_waiting_92 : decode cX1_waiting 92 = .ok (.iconst 1, 1) := dk_4 (dk_at dksX1_waiting_3 22 rfl rfl)
theorem dX1_waiting_93 : decode cX1_waiting 93 = .ok (.goto 4, 3) := dk_167 0 4 (dk_at dksX1_waiting_4 0 rfl rfl)
theorem dX1_waiting_96 : decode cX1_waiting 96 = .ok (.iconst 0, 1) := dk_3 (dk_at dksX1_waiting_4 3 rfl rfl)
theorem dX1_waiting_97 : decode cX1_waiting 97 = .ok (.iadd, 1) := dk_96 (dk_at dksX1_waiting_4 4 rfl rfl)
theorem dX1_waiting_98 : decode cX1_waiting 98 = .ok (.istore_n 3, 1) := dk_62 (dk_at dksX1_waiting_4 5 rfl rfl)
theorem dX1_waiting_99 : decode cX1_waiting 99 = .ok (.iinc 4 1, 3) := dk_132 4 1 (dk_at dksX1_waiting_4 6 rfl rfl)
theorem dX1_waiting_102 : decode cX1_waiting 102 = .ok (.goto (-81), 3) := dk_167 255 175 (dk_at dksX1_waiting_4 9 rfl rfl)
theorem dX1_waiting_105 : decode cX1_waiting 105 = .ok (.iload_n 3, 1) := dk_29 (dk_at dksX1_waiting_4 12 rfl rfl)
theorem dX1_waiting_106 : decode cX1_waiting 106 = .ok (.ireturn, 1) := dk_172 (dk_at dksX1_waiting_4 13 rfl rfl)
abbrev cX1_deliver : ByteArray := prog_1_method_60_code
def yX1_deliver : MethodName := ⟨RX1, "deliver", "(II)I"⟩
def dkwX1_deliver_3 : List UInt8 := [100, 172]
abbrev dktX1_deliver_3 : List UInt8 := dkwX1_deliver_3 ++ []
def dkwX1_deliver_2 : List UInt8 := [180, 0, 39, 187, 1, 61, 89, 27, 28, 183, 1, 63, 182, 0, 219, 87, 42, 180, 0, 39, 182, 0, 141, 4]
abbrev dktX1_deliver_2 : List UInt8 := dkwX1_deliver_2 ++ dktX1_deliver_3
def dkwX1_deliver_1 : List UInt8 := [184, 0, 94, 42, 180, 0, 39, 182, 0, 141, 16, 30, 162, 0, 7, 4, 167, 0, 4, 3, 184, 0, 98, 42]
abbrev dktX1_deliver_1 : List UInt8 := dkwX1_deliver_1 ++ dktX1_deliver_2
def dkwX1_deliver_0 : List UInt8 := [27, 184, 1, 58, 153, 0, 18, 28, 4, 17, 19, 136, 184, 0, 90, 153, 0, 7, 4, 167, 0, 4, 3]
abbrev dktX1_deliver_0 : List UInt8 := dkwX1_deliver_0 ++ dktX1_deliver_1
theorem dksX1_deliver_0 : cX1_deliver.data.toList.drop 0 = dktX1_deliver_0 := by decide +kernel
theorem dksX1_deliver_1 : cX1_deliver.data.toList.drop 23 = dktX1_deliver_1 := dk_seg dksX1_deliver_0 23 rfl rfl
theorem dksX1_deliver_2 : cX1_deliver.data.toList.drop 47 = dktX1_deliver_2 := dk_seg dksX1_deliver_1 24 rfl rfl
theorem dksX1_deliver_3 : cX1_deliver.data.toList.drop 71 = dktX1_deliver_3 := dk_seg dksX1_deliver_2 24 rfl rfl
theorem dX1_deliver_0 : decode cX1_deliver 0 = .ok (.iload_n 1, 1) := dk_27 (dk_at dksX1_deliver_0 0 rfl rfl)
theorem dX1_deliver_1 : decode cX1_deliver 1 = .ok (.invokestatic 314, 3) := dk_184 1 58 (dk_at dksX1_deliver_0 1 rfl rfl)
theorem dX1_deliver_4 : decode cX1_deliver 4 = .ok (.ifCond .eq 18, 3) := dk_153 0 18 (dk_at dksX1_deliver_0 4 rfl rfl)
theorem dX1_deliver_7 : decode cX1_deliver 7 = .ok (.iload_n 2, 1) := dk_28 (dk_at dksX1_deliver_0 7 rfl rfl)
theorem dX1_deliver_8 : decode cX1_deliver 8 = .ok (.iconst 1, 1) := dk_4 (dk_at dksX1_deliver_0 8 rfl rfl)
theorem dX1_deliver_9 : decode cX1_deliver 9 = .ok (.sipush 5000, 3) := dk_17 19 136 (dk_at dksX1_deliver_0 9 rfl rfl)
theorem dX1_deliver_12 : decode cX1_deliver 12 = .ok (.invokestatic 90, 3) := dk_184 0 90 (dk_at dksX1_deliver_0 12 rfl rfl)
theorem dX1_deliver_15 : decode cX1_deliver 15 = .ok (.ifCond .eq 7, 3) := dk_153 0 7 (dk_at dksX1_deliver_0 15 rfl rfl)
theorem dX1_deliver_18 : decode cX1_deliver 18 = .ok (.iconst 1, 1) := dk_4 (dk_at dksX1_deliver_0 18 rfl rfl)
theorem dX1_deliver_19 : decode cX1_deliver 19 = .ok (.goto 4, 3) := dk_167 0 4 (dk_at dksX1_deliver_0 19 rfl rfl)
theorem dX1_deliver_22 : decode cX1_deliver 22 = .ok (.iconst 0, 1) := dk_3 (dk_at dksX1_deliver_0 22 rfl rfl)
theorem dX1_deliver_23 : decode cX1_deliver 23 = .ok (.invokestatic 94, 3) := dk_184 0 94 (dk_at dksX1_deliver_1 0 rfl rfl)
theorem dX1_deliver_26 : decode cX1_deliver 26 = .ok (.aload_n 0, 1) := dk_42 (dk_at dksX1_deliver_1 3 rfl rfl)
theorem dX1_deliver_27 : decode cX1_deliver 27 = .ok (.getfield 39, 3) := dk_180 0 39 (dk_at dksX1_deliver_1 4 rfl rfl)
theorem dX1_deliver_30 : decode cX1_deliver 30 = .ok (.invokevirtual 141, 3) := dk_182 0 141 (dk_at dksX1_deliver_1 7 rfl rfl)
theorem dX1_deliver_33 : decode cX1_deliver 33 = .ok (.bipush 30, 2) := dk_16 30 (dk_at dksX1_deliver_1 10 rfl rfl)
theorem dX1_deliver_35 : decode cX1_deliver 35 = .ok (.if_icmp .ge 7, 3) := dk_162 0 7 (dk_at dksX1_deliver_1 12 rfl rfl)
theorem dX1_deliver_38 : decode cX1_deliver 38 = .ok (.iconst 1, 1) := dk_4 (dk_at dksX1_deliver_1 15 rfl rfl)
theorem dX1_deliver_39 : decode cX1_deliver 39 = .ok (.goto 4, 3) := dk_167 0 4 (dk_at dksX1_deliver_1 16 rfl rfl)
theorem dX1_deliver_42 : decode cX1_deliver 42 = .ok (.iconst 0, 1) := dk_3 (dk_at dksX1_deliver_1 19 rfl rfl)
theorem dX1_deliver_43 : decode cX1_deliver 43 = .ok (.invokestatic 98, 3) := dk_184 0 98 (dk_at dksX1_deliver_1 20 rfl rfl)
theorem dX1_deliver_46 : decode cX1_deliver 46 = .ok (.aload_n 0, 1) := dk_42 (dk_at dksX1_deliver_1 23 rfl rfl)
theorem dX1_deliver_47 : decode cX1_deliver 47 = .ok (.getfield 39, 3) := dk_180 0 39 (dk_at dksX1_deliver_2 0 rfl rfl)
theorem dX1_deliver_50 : decode cX1_deliver 50 = .ok (.new 317, 3) := dk_187 1 61 (dk_at dksX1_deliver_2 3 rfl rfl)
theorem dX1_deliver_53 : decode cX1_deliver 53 = .ok (.dup, 1) := dk_89 (dk_at dksX1_deliver_2 6 rfl rfl)
theorem dX1_deliver_54 : decode cX1_deliver 54 = .ok (.iload_n 1, 1) := dk_27 (dk_at dksX1_deliver_2 7 rfl rfl)
theorem dX1_deliver_55 : decode cX1_deliver 55 = .ok (.iload_n 2, 1) := dk_28 (dk_at dksX1_deliver_2 8 rfl rfl)
theorem dX1_deliver_56 : decode cX1_deliver 56 = .ok (.invokespecial 319, 3) := dk_183 1 63 (dk_at dksX1_deliver_2 9 rfl rfl)
theorem dX1_deliver_59 : decode cX1_deliver 59 = .ok (.invokevirtual 219, 3) := dk_182 0 219 (dk_at dksX1_deliver_2 12 rfl rfl)
theorem dX1_deliver_62 : decode cX1_deliver 62 = .ok (.pop, 1) := dk_87 (dk_at dksX1_deliver_2 15 rfl rfl)
theorem dX1_deliver_63 : decode cX1_deliver 63 = .ok (.aload_n 0, 1) := dk_42 (dk_at dksX1_deliver_2 16 rfl rfl)
theorem dX1_deliver_64 : decode cX1_deliver 64 = .ok (.getfield 39, 3) := dk_180 0 39 (dk_at dksX1_deliver_2 17 rfl rfl)
theorem dX1_deliver_67 : decode cX1_deliver 67 = .ok (.invokevirtual 141, 3) := dk_182 0 141 (dk_at dksX1_deliver_2 20 rfl rfl)
theorem dX1_deliver_70 : decode cX1_deliver 70 = .ok (.iconst 1, 1) := dk_4 (dk_at dksX1_deliver_2 23 rfl rfl)
theorem dX1_deliver_71 : decode cX1_deliver 71 = .ok (.isub, 1) := dk_100 (dk_at dksX1_deliver_3 0 rfl rfl)
theorem dX1_deliver_72 : decode cX1_deliver 72 = .ok (.ireturn, 1) := dk_172 (dk_at dksX1_deliver_3 1 rfl rfl)
abbrev cX1_isMaterial : ByteArray := prog_1_method_59_code
def yX1_isMaterial : MethodName := ⟨RX1, "isMaterial", "(I)Z"⟩
def dkwX1_isMaterial_0 : List UInt8 := [26, 3, 5, 184, 0, 90, 172]
abbrev dktX1_isMaterial_0 : List UInt8 := dkwX1_isMaterial_0 ++ []
theorem dksX1_isMaterial_0 : cX1_isMaterial.data.toList.drop 0 = dktX1_isMaterial_0 := by decide +kernel
theorem dX1_isMaterial_0 : decode cX1_isMaterial 0 = .ok (.iload_n 0, 1) := dk_26 (dk_at dksX1_isMaterial_0 0 rfl rfl)
theorem dX1_isMaterial_1 : decode cX1_isMaterial 1 = .ok (.iconst 0, 1) := dk_3 (dk_at dksX1_isMaterial_0 1 rfl rfl)
theorem dX1_isMaterial_2 : decode cX1_isMaterial 2 = .ok (.iconst 2, 1) := dk_5 (dk_at dksX1_isMaterial_0 2 rfl rfl)
theorem dX1_isMaterial_3 : decode cX1_isMaterial 3 = .ok (.invokestatic 90, 3) := dk_184 0 90 (dk_at dksX1_isMaterial_0 3 rfl rfl)
theorem dX1_isMaterial_6 : decode cX1_isMaterial 6 = .ok (.ireturn, 1) := dk_172 (dk_at dksX1_isMaterial_0 6 rfl rfl)
abbrev cX1_cut : ByteArray := prog_1_method_61_code
def yX1_cut : MethodName := ⟨RX1, "cut", "(III)I"⟩
def dkwX1_cut_9 : List UInt8 := [180, 1, 64, 29, 79, 25, 4, 89, 180, 1, 64, 4, 96, 181, 1, 64, 21, 5, 172]
abbrev dktX1_cut_9 : List UInt8 := dkwX1_cut_9 ++ []
def dkwX1_cut_8 : List UInt8 := [181, 1, 70, 25, 4, 180, 1, 73, 25, 4, 180, 1, 64, 21, 5, 79, 25, 4, 180, 1, 76, 25, 4]
abbrev dktX1_cut_8 : List UInt8 := dkwX1_cut_8 ++ dktX1_cut_9
def dkwX1_cut_7 : List UInt8 := [183, 0, 243, 191, 42, 180, 0, 39, 21, 5, 182, 0, 122, 192, 1, 61, 89, 180, 1, 70, 29, 6, 96, 100]
abbrev dktX1_cut_7 : List UInt8 := dkwX1_cut_7 ++ dktX1_cut_8
def dkwX1_cut_6 : List UInt8 := [162, 0, 7, 21, 6, 54, 5, 132, 6, 1, 167, 255, 174, 21, 5, 2, 160, 0, 11, 187, 0, 241, 89]
abbrev dktX1_cut_6 : List UInt8 := dkwX1_cut_6 ++ dktX1_cut_7
def dkwX1_cut_5 : List UInt8 := [159, 0, 26, 25, 7, 180, 1, 70, 42, 180, 0, 39, 21, 5, 182, 0, 122, 192, 1, 61, 180, 1, 70]
abbrev dktX1_cut_5 : List UInt8 := dkwX1_cut_5 ++ dktX1_cut_6
def dkwX1_cut_4 : List UInt8 := [25, 7, 180, 1, 67, 28, 160, 0, 47, 25, 7, 180, 1, 70, 29, 6, 96, 161, 0, 36, 21, 5, 2]
abbrev dktX1_cut_4 : List UInt8 := dkwX1_cut_4 ++ dktX1_cut_5
def dkwX1_cut_3 : List UInt8 := [180, 0, 39, 182, 0, 141, 162, 0, 76, 42, 180, 0, 39, 21, 6, 182, 0, 122, 192, 1, 61, 58, 7]
abbrev dktX1_cut_3 : List UInt8 := dkwX1_cut_3 ++ dktX1_cut_4
def dkwX1_cut_2 : List UInt8 := [180, 1, 64, 8, 162, 0, 7, 4, 167, 0, 4, 3, 184, 0, 98, 2, 54, 5, 3, 54, 6, 21, 6, 42]
abbrev dktX1_cut_2 : List UInt8 := dkwX1_cut_2 ++ dktX1_cut_3
def dkwX1_cut_1 : List UInt8 := [153, 0, 7, 4, 167, 0, 4, 3, 184, 0, 94, 25, 4, 180, 0, 150, 16, 98, 160, 0, 16, 25, 4]
abbrev dktX1_cut_1 : List UInt8 := dkwX1_cut_1 ++ dktX1_cut_2
def dkwX1_cut_0 : List UInt8 := [42, 27, 182, 1, 22, 58, 4, 28, 184, 1, 58, 153, 0, 18, 29, 4, 17, 19, 136, 184, 0, 90]
abbrev dktX1_cut_0 : List UInt8 := dkwX1_cut_0 ++ dktX1_cut_1
theorem dksX1_cut_0 : cX1_cut.data.toList.drop 0 = dktX1_cut_0 := by decide +kernel
theorem dksX1_cut_1 : cX1_cut.data.toList.drop 22 = dktX1_cut_1 := dk_seg dksX1_cut_0 22 rfl rfl
theorem dksX1_cut_2 : cX1_cut.data.toList.drop 45 = dktX1_cut_2 := dk_seg dksX1_cut_1 23 rfl rfl
theorem dksX1_cut_3 : cX1_cut.data.toList.drop 69 = dktX1_cut_3 := dk_seg dksX1_cut_2 24 rfl rfl
theorem dksX1_cut_4 : cX1_cut.data.toList.drop 92 = dktX1_cut_4 := dk_seg dksX1_cut_3 23 rfl rfl
theorem dksX1_cut_5 : cX1_cut.data.toList.drop 115 = dktX1_cut_5 := dk_seg dksX1_cut_4 23 rfl rfl
theorem dksX1_cut_6 : cX1_cut.data.toList.drop 138 = dktX1_cut_6 := dk_seg dksX1_cut_5 23 rfl rfl
theorem dksX1_cut_7 : cX1_cut.data.toList.drop 161 = dktX1_cut_7 := dk_seg dksX1_cut_6 23 rfl rfl
theorem dksX1_cut_8 : cX1_cut.data.toList.drop 185 = dktX1_cut_8 := dk_seg dksX1_cut_7 24 rfl rfl
theorem dksX1_cut_9 : cX1_cut.data.toList.drop 208 = dktX1_cut_9 := dk_seg dksX1_cut_8 23 rfl rfl
theorem dX1_cut_0 : decode cX1_cut 0 = .ok (.aload_n 0, 1) := dk_42 (dk_at dksX1_cut_0 0 rfl rfl)
theorem dX1_cut_1 : decode cX1_cut 1 = .ok (.iload_n 1, 1) := dk_27 (dk_at dksX1_cut_0 1 rfl rfl)
theorem dX1_cut_2 : decode cX1_cut 2 = .ok (.invokevirtual 278, 3) := dk_182 1 22 (dk_at dksX1_cut_0 2 rfl rfl)
theorem dX1_cut_5 : decode cX1_cut 5 = .ok (.astore 4, 2) := dk_58 4 (dk_at dksX1_cut_0 5 rfl rfl)
theorem dX1_cut_7 : decode cX1_cut 7 = .ok (.iload_n 2, 1) := dk_28 (dk_at dksX1_cut_0 7 rfl rfl)
theorem dX1_cut_8 : decode cX1_cut 8 = .ok (.invokestatic 314, 3) := dk_184 1 58 (dk_at dksX1_cut_0 8 rfl rfl)
theorem dX1_cut_11 : decode cX1_cut 11 = .ok (.ifCond .eq 18, 3) := dk_153 0 18 (dk_at dksX1_cut_0 11 rfl rfl)
theorem dX1_cut_14 : decode cX1_cut 14 = .ok (.iload_n 3, 1) := dk_29 (dk_at dksX1_cut_0 14 rfl rfl)
theorem dX1_cut_15 : decode cX1_cut 15 = .ok (.iconst 1, 1) := dk_4 (dk_at dksX1_cut_0 15 rfl rfl)
theorem dX1_cut_16 : decode cX1_cut 16 = .ok (.sipush 5000, 3) := dk_17 19 136 (dk_at dksX1_cut_0 16 rfl rfl)
theorem dX1_cut_19 : decode cX1_cut 19 = .ok (.invokestatic 90, 3) := dk_184 0 90 (dk_at dksX1_cut_0 19 rfl rfl)
theorem dX1_cut_22 : decode cX1_cut 22 = .ok (.ifCond .eq 7, 3) := dk_153 0 7 (dk_at dksX1_cut_1 0 rfl rfl)
theorem dX1_cut_25 : decode cX1_cut 25 = .ok (.iconst 1, 1) := dk_4 (dk_at dksX1_cut_1 3 rfl rfl)
theorem dX1_cut_26 : decode cX1_cut 26 = .ok (.goto 4, 3) := dk_167 0 4 (dk_at dksX1_cut_1 4 rfl rfl)
theorem dX1_cut_29 : decode cX1_cut 29 = .ok (.iconst 0, 1) := dk_3 (dk_at dksX1_cut_1 7 rfl rfl)
theorem dX1_cut_30 : decode cX1_cut 30 = .ok (.invokestatic 94, 3) := dk_184 0 94 (dk_at dksX1_cut_1 8 rfl rfl)
theorem dX1_cut_33 : decode cX1_cut 33 = .ok (.aload 4, 2) := dk_25 4 (dk_at dksX1_cut_1 11 rfl rfl)
theorem dX1_cut_35 : decode cX1_cut 35 = .ok (.getfield 150, 3) := dk_180 0 150 (dk_at dksX1_cut_1 13 rfl rfl)
theorem dX1_cut_38 : decode cX1_cut 38 = .ok (.bipush 98, 2) := dk_16 98 (dk_at dksX1_cut_1 16 rfl rfl)
theorem dX1_cut_40 : decode cX1_cut 40 = .ok (.if_icmp .ne 16, 3) := dk_160 0 16 (dk_at dksX1_cut_1 18 rfl rfl)
theorem dX1_cut_43 : decode cX1_cut 43 = .ok (.aload 4, 2) := dk_25 4 (dk_at dksX1_cut_1 21 rfl rfl)
theorem dX1_cut_45 : decode cX1_cut 45 = .ok (.getfield 320, 3) := dk_180 1 64 (dk_at dksX1_cut_2 0 rfl rfl)
theorem dX1_cut_48 : decode cX1_cut 48 = .ok (.iconst 5, 1) := dk_8 (dk_at dksX1_cut_2 3 rfl rfl)
theorem dX1_cut_49 : decode cX1_cut 49 = .ok (.if_icmp .ge 7, 3) := dk_162 0 7 (dk_at dksX1_cut_2 4 rfl rfl)
theorem dX1_cut_52 : decode cX1_cut 52 = .ok (.iconst 1, 1) := dk_4 (dk_at dksX1_cut_2 7 rfl rfl)
theorem dX1_cut_53 : decode cX1_cut 53 = .ok (.goto 4, 3) := dk_167 0 4 (dk_at dksX1_cut_2 8 rfl rfl)
theorem dX1_cut_56 : decode cX1_cut 56 = .ok (.iconst 0, 1) := dk_3 (dk_at dksX1_cut_2 11 rfl rfl)
theorem dX1_cut_57 : decode cX1_cut 57 = .ok (.invokestatic 98, 3) := dk_184 0 98 (dk_at dksX1_cut_2 12 rfl rfl)
theorem dX1_cut_60 : decode cX1_cut 60 = .ok (.iconst (-1), 1) := dk_2 (dk_at dksX1_cut_2 15 rfl rfl)
theorem dX1_cut_61 : decode cX1_cut 61 = .ok (.istore 5, 2) := dk_54 5 (dk_at dksX1_cut_2 16 rfl rfl)
theorem dX1_cut_63 : decode cX1_cut 63 = .ok (.iconst 0, 1) := dk_3 (dk_at dksX1_cut_2 18 rfl rfl)
theorem dX1_cut_64 : decode cX1_cut 64 = .ok (.istore 6, 2) := dk_54 6 (dk_at dksX1_cut_2 19 rfl rfl)
theorem dX1_cut_66 : decode cX1_cut 66 = .ok (.iload 6, 2) := dk_21 6 (dk_at dksX1_cut_2 21 rfl rfl)
theorem dX1_cut_68 : decode cX1_cut 68 = .ok (.aload_n 0, 1) := dk_42 (dk_at dksX1_cut_2 23 rfl rfl)
theorem dX1_cut_69 : decode cX1_cut 69 = .ok (.getfield 39, 3) := dk_180 0 39 (dk_at dksX1_cut_3 0 rfl rfl)
theorem dX1_cut_72 : decode cX1_cut 72 = .ok (.invokevirtual 141, 3) := dk_182 0 141 (dk_at dksX1_cut_3 3 rfl rfl)
theorem dX1_cut_75 : decode cX1_cut 75 = .ok (.if_icmp .ge 76, 3) := dk_162 0 76 (dk_at dksX1_cut_3 6 rfl rfl)
theorem dX1_cut_78 : decode cX1_cut 78 = .ok (.aload_n 0, 1) := dk_42 (dk_at dksX1_cut_3 9 rfl rfl)
theorem dX1_cut_79 : decode cX1_cut 79 = .ok (.getfield 39, 3) := dk_180 0 39 (dk_at dksX1_cut_3 10 rfl rfl)
theorem dX1_cut_82 : decode cX1_cut 82 = .ok (.iload 6, 2) := dk_21 6 (dk_at dksX1_cut_3 13 rfl rfl)
theorem dX1_cut_84 : decode cX1_cut 84 = .ok (.invokevirtual 122, 3) := dk_182 0 122 (dk_at dksX1_cut_3 15 rfl rfl)
theorem dX1_cut_87 : decode cX1_cut 87 = .ok (.checkcast 317, 3) := dk_192 1 61 (dk_at dksX1_cut_3 18 rfl rfl)
theorem dX1_cut_90 : decode cX1_cut 90 = .ok (.astore 7, 2) := dk_58 7 (dk_at dksX1_cut_3 21 rfl rfl)
theorem dX1_cut_92 : decode cX1_cut 92 = .ok (.aload 7, 2) := dk_25 7 (dk_at dksX1_cut_4 0 rfl rfl)
theorem dX1_cut_94 : decode cX1_cut 94 = .ok (.getfield 323, 3) := dk_180 1 67 (dk_at dksX1_cut_4 2 rfl rfl)
theorem dX1_cut_97 : decode cX1_cut 97 = .ok (.iload_n 2, 1) := dk_28 (dk_at dksX1_cut_4 5 rfl rfl)
theorem dX1_cut_98 : decode cX1_cut 98 = .ok (.if_icmp .ne 47, 3) := dk_160 0 47 (dk_at dksX1_cut_4 6 rfl rfl)
theorem dX1_cut_101 : decode cX1_cut 101 = .ok (.aload 7, 2) := dk_25 7 (dk_at dksX1_cut_4 9 rfl rfl)
theorem dX1_cut_103 : decode cX1_cut 103 = .ok (.getfield 326, 3) := dk_180 1 70 (dk_at dksX1_cut_4 11 rfl rfl)
theorem dX1_cut_106 : decode cX1_cut 106 = .ok (.iload_n 3, 1) := dk_29 (dk_at dksX1_cut_4 14 rfl rfl)
theorem dX1_cut_107 : decode cX1_cut 107 = .ok (.iconst 3, 1) := dk_6 (dk_at dksX1_cut_4 15 rfl rfl)
theorem dX1_cut_108 : decode cX1_cut 108 = .ok (.iadd, 1) := dk_96 (dk_at dksX1_cut_4 16 rfl rfl)
theorem dX1_cut_109 : decode cX1_cut 109 = .ok (.if_icmp .lt 36, 3) := dk_161 0 36 (dk_at dksX1_cut_4 17 rfl rfl)
theorem dX1_cut_112 : decode cX1_cut 112 = .ok (.iload 5, 2) := dk_21 5 (dk_at dksX1_cut_4 20 rfl rfl)
theorem dX1_cut_114 : decode cX1_cut 114 = .ok (.iconst (-1), 1) := dk_2 (dk_at dksX1_cut_4 22 rfl rfl)
theorem dX1_cut_115 : decode cX1_cut 115 = .ok (.if_icmp .eq 26, 3) := dk_159 0 26 (dk_at dksX1_cut_5 0 rfl rfl)
theorem dX1_cut_118 : decode cX1_cut 118 = .ok (.aload 7, 2) := dk_25 7 (dk_at dksX1_cut_5 3 rfl rfl)
theorem dX1_cut_120 : decode cX1_cut 120 = .ok (.getfield 326, 3) := dk_180 1 70 (dk_at dksX1_cut_5 5 rfl rfl)
theorem dX1_cut_123 : decode cX1_cut 123 = .ok (.aload_n 0, 1) := dk_42 (dk_at dksX1_cut_5 8 rfl rfl)
theorem dX1_cut_124 : decode cX1_cut 124 = .ok (.getfield 39, 3) := dk_180 0 39 (dk_at dksX1_cut_5 9 rfl rfl)
theorem dX1_cut_127 : decode cX1_cut 127 = .ok (.iload 5, 2) := dk_21 5 (dk_at dksX1_cut_5 12 rfl rfl)
theorem dX1_cut_129 : decode cX1_cut 129 = .ok (.invokevirtual 122, 3) := dk_182 0 122 (dk_at dksX1_cut_5 14 rfl rfl)
theorem dX1_cut_132 : decode cX1_cut 132 = .ok (.checkcast 317, 3) := dk_192 1 61 (dk_at dksX1_cut_5 17 rfl rfl)
theorem dX1_cut_135 : decode cX1_cut 135 = .ok (.getfield 326, 3) := dk_180 1 70 (dk_at dksX1_cut_5 20 rfl rfl)
theorem dX1_cut_138 : decode cX1_cut 138 = .ok (.if_icmp .ge 7, 3) := dk_162 0 7 (dk_at dksX1_cut_6 0 rfl rfl)
theorem dX1_cut_141 : decode cX1_cut 141 = .ok (.iload 6, 2) := dk_21 6 (dk_at dksX1_cut_6 3 rfl rfl)
theorem dX1_cut_143 : decode cX1_cut 143 = .ok (.istore 5, 2) := dk_54 5 (dk_at dksX1_cut_6 5 rfl rfl)
theorem dX1_cut_145 : decode cX1_cut 145 = .ok (.iinc 6 1, 3) := dk_132 6 1 (dk_at dksX1_cut_6 7 rfl rfl)
theorem dX1_cut_148 : decode cX1_cut 148 = .ok (.goto (-82), 3) := dk_167 255 174 (dk_at dksX1_cut_6 10 rfl rfl)
theorem dX1_cut_151 : decode cX1_cut 151 = .ok (.iload 5, 2) := dk_21 5 (dk_at dksX1_cut_6 13 rfl rfl)
theorem dX1_cut_153 : decode cX1_cut 153 = .ok (.iconst (-1), 1) := dk_2 (dk_at dksX1_cut_6 15 rfl rfl)
theorem dX1_cut_154 : decode cX1_cut 154 = .ok (.if_icmp .ne 11, 3) := dk_160 0 11 (dk_at dksX1_cut_6 16 rfl rfl)
theorem dX1_cut_157 : decode cX1_cut 157 = .ok (.new 241, 3) := dk_187 0 241 (dk_at dksX1_cut_6 19 rfl rfl)
theorem dX1_cut_160 : decode cX1_cut 160 = .ok (.dup, 1) := dk_89 (dk_at dksX1_cut_6 22 rfl rfl)
theorem dX1_cut_161 : decode cX1_cut 161 = .ok (.invokespecial 243, 3) := dk_183 0 243 (dk_at dksX1_cut_7 0 rfl rfl)
theorem dX1_cut_164 : decode cX1_cut 164 = .ok (.athrow, 1) := dk_191 (dk_at dksX1_cut_7 3 rfl rfl)
theorem dX1_cut_165 : decode cX1_cut 165 = .ok (.aload_n 0, 1) := dk_42 (dk_at dksX1_cut_7 4 rfl rfl)
theorem dX1_cut_166 : decode cX1_cut 166 = .ok (.getfield 39, 3) := dk_180 0 39 (dk_at dksX1_cut_7 5 rfl rfl)
theorem dX1_cut_169 : decode cX1_cut 169 = .ok (.iload 5, 2) := dk_21 5 (dk_at dksX1_cut_7 8 rfl rfl)
theorem dX1_cut_171 : decode cX1_cut 171 = .ok (.invokevirtual 122, 3) := dk_182 0 122 (dk_at dksX1_cut_7 10 rfl rfl)
theorem dX1_cut_174 : decode cX1_cut 174 = .ok (.checkcast 317, 3) := dk_192 1 61 (dk_at dksX1_cut_7 13 rfl rfl)
theorem dX1_cut_177 : decode cX1_cut 177 = .ok (.dup, 1) := dk_89 (dk_at dksX1_cut_7 16 rfl rfl)
theorem dX1_cut_178 : decode cX1_cut 178 = .ok (.getfield 326, 3) := dk_180 1 70 (dk_at dksX1_cut_7 17 rfl rfl)
theorem dX1_cut_181 : decode cX1_cut 181 = .ok (.iload_n 3, 1) := dk_29 (dk_at dksX1_cut_7 20 rfl rfl)
theorem dX1_cut_182 : decode cX1_cut 182 = .ok (.iconst 3, 1) := dk_6 (dk_at dksX1_cut_7 21 rfl rfl)
theorem dX1_cut_183 : decode cX1_cut 183 = .ok (.iadd, 1) := dk_96 (dk_at dksX1_cut_7 22 rfl rfl)
theorem dX1_cut_184 : decode cX1_cut 184 = .ok (.isub, 1) := dk_100 (dk_at dksX1_cut_7 23 rfl rfl)
theorem dX1_cut_185 : decode cX1_cut 185 = .ok (.putfield 326, 3) := dk_181 1 70 (dk_at dksX1_cut_8 0 rfl rfl)
theorem dX1_cut_188 : decode cX1_cut 188 = .ok (.aload 4, 2) := dk_25 4 (dk_at dksX1_cut_8 3 rfl rfl)
theorem dX1_cut_190 : decode cX1_cut 190 = .ok (.getfield 329, 3) := dk_180 1 73 (dk_at dksX1_cut_8 5 rfl rfl)
theorem dX1_cut_193 : decode cX1_cut 193 = .ok (.aload 4, 2) := dk_25 4 (dk_at dksX1_cut_8 8 rfl rfl)
theorem dX1_cut_195 : decode cX1_cut 195 = .ok (.getfield 320, 3) := dk_180 1 64 (dk_at dksX1_cut_8 10 rfl rfl)
theorem dX1_cut_198 : decode cX1_cut 198 = .ok (.iload 5, 2) := dk_21 5 (dk_at dksX1_cut_8 13 rfl rfl)
theorem dX1_cut_200 : decode cX1_cut 200 = .ok (.iastore, 1) := dk_79 (dk_at dksX1_cut_8 15 rfl rfl)
theorem dX1_cut_201 : decode cX1_cut 201 = .ok (.aload 4, 2) := dk_25 4 (dk_at dksX1_cut_8 16 rfl rfl)
theorem dX1_cut_203 : decode cX1_cut 203 = .ok (.getfield 332, 3) := dk_180 1 76 (dk_at dksX1_cut_8 18 rfl rfl)
theorem dX1_cut_206 : decode cX1_cut 206 = .ok (.aload 4, 2) := dk_25 4 (dk_at dksX1_cut_8 21 rfl rfl)
theorem dX1_cut_208 : decode cX1_cut 208 = .ok (.getfield 320, 3) := dk_180 1 64 (dk_at dksX1_cut_9 0 rfl rfl)
theorem dX1_cut_211 : decode cX1_cut 211 = .ok (.iload_n 3, 1) := dk_29 (dk_at dksX1_cut_9 3 rfl rfl)
theorem dX1_cut_212 : decode cX1_cut 212 = .ok (.iastore, 1) := dk_79 (dk_at dksX1_cut_9 4 rfl rfl)
theorem dX1_cut_213 : decode cX1_cut 213 = .ok (.aload 4, 2) := dk_25 4 (dk_at dksX1_cut_9 5 rfl rfl)
theorem dX1_cut_215 : decode cX1_cut 215 = .ok (.dup, 1) := dk_89 (dk_at dksX1_cut_9 7 rfl rfl)
theorem dX1_cut_216 : decode cX1_cut 216 = .ok (.getfield 320, 3) := dk_180 1 64 (dk_at dksX1_cut_9 8 rfl rfl)
theorem dX1_cut_219 : decode cX1_cut 219 = .ok (.iconst 1, 1) := dk_4 (dk_at dksX1_cut_9 11 rfl rfl)
theorem dX1_cut_220 : decode cX1_cut 220 = .ok (.iadd, 1) := dk_96 (dk_at dksX1_cut_9 12 rfl rfl)
theorem dX1_cut_221 : decode cX1_cut 221 = .ok (.putfield 320, 3) := dk_181 1 64 (dk_at dksX1_cut_9 13 rfl rfl)
theorem dX1_cut_224 : decode cX1_cut 224 = .ok (.iload 5, 2) := dk_21 5 (dk_at dksX1_cut_9 16 rfl rfl)
theorem dX1_cut_226 : decode cX1_cut 226 = .ok (.ireturn, 1) := dk_172 (dk_at dksX1_cut_9 18 rfl rfl)
abbrev cX1_freeOf : ByteArray := prog_1_method_63_code
def yX1_freeOf : MethodName := ⟨RX1, "freeOf", "(I)I"⟩
def dkwX1_freeOf_1 : List UInt8 := [182, 0, 122, 192, 1, 61, 180, 1, 70, 172]
abbrev dktX1_freeOf_1 : List UInt8 := dkwX1_freeOf_1 ++ []
def dkwX1_freeOf_0 : List UInt8 := [27, 3, 42, 180, 0, 39, 182, 0, 141, 4, 100, 184, 0, 90, 184, 1, 19, 42, 180, 0, 39, 27]
abbrev dktX1_freeOf_0 : List UInt8 := dkwX1_freeOf_0 ++ dktX1_freeOf_1
theorem dksX1_freeOf_0 : cX1_freeOf.data.toList.drop 0 = dktX1_freeOf_0 := by decide +kernel
theorem dksX1_freeOf_1 : cX1_freeOf.data.toList.drop 22 = dktX1_freeOf_1 := dk_seg dksX1_freeOf_0 22 rfl rfl
theorem dX1_freeOf_0 : decode cX1_freeOf 0 = .ok (.iload_n 1, 1) := dk_27 (dk_at dksX1_freeOf_0 0 rfl rfl)
theorem dX1_freeOf_1 : decode cX1_freeOf 1 = .ok (.iconst 0, 1) := dk_3 (dk_at dksX1_freeOf_0 1 rfl rfl)
theorem dX1_freeOf_2 : decode cX1_freeOf 2 = .ok (.aload_n 0, 1) := dk_42 (dk_at dksX1_freeOf_0 2 rfl rfl)
theorem dX1_freeOf_3 : decode cX1_freeOf 3 = .ok (.getfield 39, 3) := dk_180 0 39 (dk_at dksX1_freeOf_0 3 rfl rfl)
theorem dX1_freeOf_6 : decode cX1_freeOf 6 = .ok (.invokevirtual 141, 3) := dk_182 0 141 (dk_at dksX1_freeOf_0 6 rfl rfl)
theorem dX1_freeOf_9 : decode cX1_freeOf 9 = .ok (.iconst 1, 1) := dk_4 (dk_at dksX1_freeOf_0 9 rfl rfl)
theorem dX1_freeOf_10 : decode cX1_freeOf 10 = .ok (.isub, 1) := dk_100 (dk_at dksX1_freeOf_0 10 rfl rfl)
theorem dX1_freeOf_11 : decode cX1_freeOf 11 = .ok (.invokestatic 90, 3) := dk_184 0 90 (dk_at dksX1_freeOf_0 11 rfl rfl)
theorem dX1_freeOf_14 : decode cX1_freeOf 14 = .ok (.invokestatic 275, 3) := dk_184 1 19 (dk_at dksX1_freeOf_0 14 rfl rfl)
theorem dX1_freeOf_17 : decode cX1_freeOf 17 = .ok (.aload_n 0, 1) := dk_42 (dk_at dksX1_freeOf_0 17 rfl rfl)
theorem dX1_freeOf_18 : decode cX1_freeOf 18 = .ok (.getfield 39, 3) := dk_180 0 39 (dk_at dksX1_freeOf_0 18 rfl rfl)
theorem dX1_freeOf_21 : decode cX1_freeOf 21 = .ok (.iload_n 1, 1) := dk_27 (dk_at dksX1_freeOf_0 21 rfl rfl)
theorem dX1_freeOf_22 : decode cX1_freeOf 22 = .ok (.invokevirtual 122, 3) := dk_182 0 122 (dk_at dksX1_freeOf_1 0 rfl rfl)
theorem dX1_freeOf_25 : decode cX1_freeOf 25 = .ok (.checkcast 317, 3) := dk_192 1 61 (dk_at dksX1_freeOf_1 3 rfl rfl)
theorem dX1_freeOf_28 : decode cX1_freeOf 28 = .ok (.getfield 326, 3) := dk_180 1 70 (dk_at dksX1_freeOf_1 6 rfl rfl)
theorem dX1_freeOf_31 : decode cX1_freeOf 31 = .ok (.ireturn, 1) := dk_172 (dk_at dksX1_freeOf_1 9 rfl rfl)
abbrev cX1_freeByCuts : ByteArray := prog_1_method_64_code
def yX1_freeByCuts : MethodName := ⟨RX1, "freeByCuts", "(I)I"⟩
def dkwX1_freeByCuts_0 : List UInt8 := [27, 3, 42, 180, 0, 39, 182, 0, 141, 4, 100, 184, 0, 90, 184, 1, 19, 42, 27, 182, 1, 84, 172]
abbrev dktX1_freeByCuts_0 : List UInt8 := dkwX1_freeByCuts_0 ++ []
theorem dksX1_freeByCuts_0 : cX1_freeByCuts.data.toList.drop 0 = dktX1_freeByCuts_0 := by decide +kernel
theorem dX1_freeByCuts_0 : decode cX1_freeByCuts 0 = .ok (.iload_n 1, 1) := dk_27 (dk_at dksX1_freeByCuts_0 0 rfl rfl)
theorem dX1_freeByCuts_1 : decode cX1_freeByCuts 1 = .ok (.iconst 0, 1) := dk_3 (dk_at dksX1_freeByCuts_0 1 rfl rfl)
theorem dX1_freeByCuts_2 : decode cX1_freeByCuts 2 = .ok (.aload_n 0, 1) := dk_42 (dk_at dksX1_freeByCuts_0 2 rfl rfl)
theorem dX1_freeByCuts_3 : decode cX1_freeByCuts 3 = .ok (.getfield 39, 3) := dk_180 0 39 (dk_at dksX1_freeByCuts_0 3 rfl rfl)
theorem dX1_freeByCuts_6 : decode cX1_freeByCuts 6 = .ok (.invokevirtual 141, 3) := dk_182 0 141 (dk_at dksX1_freeByCuts_0 6 rfl rfl)
theorem dX1_freeByCuts_9 : decode cX1_freeByCuts 9 = .ok (.iconst 1, 1) := dk_4 (dk_at dksX1_freeByCuts_0 9 rfl rfl)
theorem dX1_freeByCuts_10 : decode cX1_freeByCuts 10 = .ok (.isub, 1) := dk_100 (dk_at dksX1_freeByCuts_0 10 rfl rfl)
theorem dX1_freeByCuts_11 : decode cX1_freeByCuts 11 = .ok (.invokestatic 90, 3) := dk_184 0 90 (dk_at dksX1_freeByCuts_0 11 rfl rfl)
theorem dX1_freeByCuts_14 : decode cX1_freeByCuts 14 = .ok (.invokestatic 275, 3) := dk_184 1 19 (dk_at dksX1_freeByCuts_0 14 rfl rfl)
theorem dX1_freeByCuts_17 : decode cX1_freeByCuts 17 = .ok (.aload_n 0, 1) := dk_42 (dk_at dksX1_freeByCuts_0 17 rfl rfl)
theorem dX1_freeByCuts_18 : decode cX1_freeByCuts 18 = .ok (.iload_n 1, 1) := dk_27 (dk_at dksX1_freeByCuts_0 18 rfl rfl)
theorem dX1_freeByCuts_19 : decode cX1_freeByCuts 19 = .ok (.invokevirtual 340, 3) := dk_182 1 84 (dk_at dksX1_freeByCuts_0 19 rfl rfl)
theorem dX1_freeByCuts_22 : decode cX1_freeByCuts 22 = .ok (.ireturn, 1) := dk_172 (dk_at dksX1_freeByCuts_0 22 rfl rfl)
abbrev cX1_setPrice : ByteArray := prog_1_method_65_code
def yX1_setPrice : MethodName := ⟨RX1, "setPrice", "(II)I"⟩
def dkwX1_setPrice_1 : List UInt8 := [184, 0, 94, 42, 180, 0, 47, 27, 46, 62, 42, 180, 0, 47, 27, 28, 79, 29, 172]
abbrev dktX1_setPrice_1 : List UInt8 := dkwX1_setPrice_1 ++ []
def dkwX1_setPrice_0 : List UInt8 := [27, 184, 1, 58, 153, 0, 17, 28, 3, 16, 99, 184, 0, 90, 153, 0, 7, 4, 167, 0, 4, 3]
abbrev dktX1_setPrice_0 : List UInt8 := dkwX1_setPrice_0 ++ dktX1_setPrice_1
theorem dksX1_setPrice_0 : cX1_setPrice.data.toList.drop 0 = dktX1_setPrice_0 := by decide +kernel
theorem dksX1_setPrice_1 : cX1_setPrice.data.toList.drop 22 = dktX1_setPrice_1 := dk_seg dksX1_setPrice_0 22 rfl rfl
theorem dX1_setPrice_0 : decode cX1_setPrice 0 = .ok (.iload_n 1, 1) := dk_27 (dk_at dksX1_setPrice_0 0 rfl rfl)
theorem dX1_setPrice_1 : decode cX1_setPrice 1 = .ok (.invokestatic 314, 3) := dk_184 1 58 (dk_at dksX1_setPrice_0 1 rfl rfl)
theorem dX1_setPrice_4 : decode cX1_setPrice 4 = .ok (.ifCond .eq 17, 3) := dk_153 0 17 (dk_at dksX1_setPrice_0 4 rfl rfl)
theorem dX1_setPrice_7 : decode cX1_setPrice 7 = .ok (.iload_n 2, 1) := dk_28 (dk_at dksX1_setPrice_0 7 rfl rfl)
theorem dX1_setPrice_8 : decode cX1_setPrice 8 = .ok (.iconst 0, 1) := dk_3 (dk_at dksX1_setPrice_0 8 rfl rfl)
theorem dX1_setPrice_9 : decode cX1_setPrice 9 = .ok (.bipush 99, 2) := dk_16 99 (dk_at dksX1_setPrice_0 9 rfl rfl)
theorem dX1_setPrice_11 : decode cX1_setPrice 11 = .ok (.invokestatic 90, 3) := dk_184 0 90 (dk_at dksX1_setPrice_0 11 rfl rfl)
theorem dX1_setPrice_14 : decode cX1_setPrice 14 = .ok (.ifCond .eq 7, 3) := dk_153 0 7 (dk_at dksX1_setPrice_0 14 rfl rfl)
theorem dX1_setPrice_17 : decode cX1_setPrice 17 = .ok (.iconst 1, 1) := dk_4 (dk_at dksX1_setPrice_0 17 rfl rfl)
theorem dX1_setPrice_18 : decode cX1_setPrice 18 = .ok (.goto 4, 3) := dk_167 0 4 (dk_at dksX1_setPrice_0 18 rfl rfl)
theorem dX1_setPrice_21 : decode cX1_setPrice 21 = .ok (.iconst 0, 1) := dk_3 (dk_at dksX1_setPrice_0 21 rfl rfl)
theorem dX1_setPrice_22 : decode cX1_setPrice 22 = .ok (.invokestatic 94, 3) := dk_184 0 94 (dk_at dksX1_setPrice_1 0 rfl rfl)
theorem dX1_setPrice_25 : decode cX1_setPrice 25 = .ok (.aload_n 0, 1) := dk_42 (dk_at dksX1_setPrice_1 3 rfl rfl)
theorem dX1_setPrice_26 : decode cX1_setPrice 26 = .ok (.getfield 47, 3) := dk_180 0 47 (dk_at dksX1_setPrice_1 4 rfl rfl)
theorem dX1_setPrice_29 : decode cX1_setPrice 29 = .ok (.iload_n 1, 1) := dk_27 (dk_at dksX1_setPrice_1 7 rfl rfl)
theorem dX1_setPrice_30 : decode cX1_setPrice 30 = .ok (.iaload, 1) := dk_46 (dk_at dksX1_setPrice_1 8 rfl rfl)
theorem dX1_setPrice_31 : decode cX1_setPrice 31 = .ok (.istore_n 3, 1) := dk_62 (dk_at dksX1_setPrice_1 9 rfl rfl)
theorem dX1_setPrice_32 : decode cX1_setPrice 32 = .ok (.aload_n 0, 1) := dk_42 (dk_at dksX1_setPrice_1 10 rfl rfl)
theorem dX1_setPrice_33 : decode cX1_setPrice 33 = .ok (.getfield 47, 3) := dk_180 0 47 (dk_at dksX1_setPrice_1 11 rfl rfl)
theorem dX1_setPrice_36 : decode cX1_setPrice 36 = .ok (.iload_n 1, 1) := dk_27 (dk_at dksX1_setPrice_1 14 rfl rfl)
theorem dX1_setPrice_37 : decode cX1_setPrice 37 = .ok (.iload_n 2, 1) := dk_28 (dk_at dksX1_setPrice_1 15 rfl rfl)
theorem dX1_setPrice_38 : decode cX1_setPrice 38 = .ok (.iastore, 1) := dk_79 (dk_at dksX1_setPrice_1 16 rfl rfl)
theorem dX1_setPrice_39 : decode cX1_setPrice 39 = .ok (.iload_n 3, 1) := dk_29 (dk_at dksX1_setPrice_1 17 rfl rfl)
theorem dX1_setPrice_40 : decode cX1_setPrice 40 = .ok (.ireturn, 1) := dk_172 (dk_at dksX1_setPrice_1 18 rfl rfl)
abbrev cX1_setRate : ByteArray := prog_1_method_10_code
def yX1_setRate : MethodName := ⟨RX1, "setRate", "(II)I"⟩
def dkwX1_setRate_2 : List UInt8 := [180, 0, 15, 27, 4, 79, 29, 172]
abbrev dktX1_setRate_2 : List UInt8 := dkwX1_setRate_2 ++ []
def dkwX1_setRate_1 : List UInt8 := [184, 0, 94, 42, 180, 0, 15, 27, 46, 62, 42, 180, 0, 11, 27, 28, 186, 0, 101, 0, 0, 83, 42]
abbrev dktX1_setRate_1 : List UInt8 := dkwX1_setRate_1 ++ dktX1_setRate_2
def dkwX1_setRate_0 : List UInt8 := [27, 184, 0, 86, 153, 0, 17, 28, 3, 16, 99, 184, 0, 90, 153, 0, 7, 4, 167, 0, 4, 3]
abbrev dktX1_setRate_0 : List UInt8 := dkwX1_setRate_0 ++ dktX1_setRate_1
theorem dksX1_setRate_0 : cX1_setRate.data.toList.drop 0 = dktX1_setRate_0 := by decide +kernel
theorem dksX1_setRate_1 : cX1_setRate.data.toList.drop 22 = dktX1_setRate_1 := dk_seg dksX1_setRate_0 22 rfl rfl
theorem dksX1_setRate_2 : cX1_setRate.data.toList.drop 45 = dktX1_setRate_2 := dk_seg dksX1_setRate_1 23 rfl rfl
theorem dX1_setRate_0 : decode cX1_setRate 0 = .ok (.iload_n 1, 1) := dk_27 (dk_at dksX1_setRate_0 0 rfl rfl)
theorem dX1_setRate_1 : decode cX1_setRate 1 = .ok (.invokestatic 86, 3) := dk_184 0 86 (dk_at dksX1_setRate_0 1 rfl rfl)
theorem dX1_setRate_4 : decode cX1_setRate 4 = .ok (.ifCond .eq 17, 3) := dk_153 0 17 (dk_at dksX1_setRate_0 4 rfl rfl)
theorem dX1_setRate_7 : decode cX1_setRate 7 = .ok (.iload_n 2, 1) := dk_28 (dk_at dksX1_setRate_0 7 rfl rfl)
theorem dX1_setRate_8 : decode cX1_setRate 8 = .ok (.iconst 0, 1) := dk_3 (dk_at dksX1_setRate_0 8 rfl rfl)
theorem dX1_setRate_9 : decode cX1_setRate 9 = .ok (.bipush 99, 2) := dk_16 99 (dk_at dksX1_setRate_0 9 rfl rfl)
theorem dX1_setRate_11 : decode cX1_setRate 11 = .ok (.invokestatic 90, 3) := dk_184 0 90 (dk_at dksX1_setRate_0 11 rfl rfl)
theorem dX1_setRate_14 : decode cX1_setRate 14 = .ok (.ifCond .eq 7, 3) := dk_153 0 7 (dk_at dksX1_setRate_0 14 rfl rfl)
theorem dX1_setRate_17 : decode cX1_setRate 17 = .ok (.iconst 1, 1) := dk_4 (dk_at dksX1_setRate_0 17 rfl rfl)
theorem dX1_setRate_18 : decode cX1_setRate 18 = .ok (.goto 4, 3) := dk_167 0 4 (dk_at dksX1_setRate_0 18 rfl rfl)
theorem dX1_setRate_21 : decode cX1_setRate 21 = .ok (.iconst 0, 1) := dk_3 (dk_at dksX1_setRate_0 21 rfl rfl)
theorem dX1_setRate_22 : decode cX1_setRate 22 = .ok (.invokestatic 94, 3) := dk_184 0 94 (dk_at dksX1_setRate_1 0 rfl rfl)
theorem dX1_setRate_25 : decode cX1_setRate 25 = .ok (.aload_n 0, 1) := dk_42 (dk_at dksX1_setRate_1 3 rfl rfl)
theorem dX1_setRate_26 : decode cX1_setRate 26 = .ok (.getfield 15, 3) := dk_180 0 15 (dk_at dksX1_setRate_1 4 rfl rfl)
theorem dX1_setRate_29 : decode cX1_setRate 29 = .ok (.iload_n 1, 1) := dk_27 (dk_at dksX1_setRate_1 7 rfl rfl)
theorem dX1_setRate_30 : decode cX1_setRate 30 = .ok (.iaload, 1) := dk_46 (dk_at dksX1_setRate_1 8 rfl rfl)
theorem dX1_setRate_31 : decode cX1_setRate 31 = .ok (.istore_n 3, 1) := dk_62 (dk_at dksX1_setRate_1 9 rfl rfl)
theorem dX1_setRate_32 : decode cX1_setRate 32 = .ok (.aload_n 0, 1) := dk_42 (dk_at dksX1_setRate_1 10 rfl rfl)
theorem dX1_setRate_33 : decode cX1_setRate 33 = .ok (.getfield 11, 3) := dk_180 0 11 (dk_at dksX1_setRate_1 11 rfl rfl)
theorem dX1_setRate_36 : decode cX1_setRate 36 = .ok (.iload_n 1, 1) := dk_27 (dk_at dksX1_setRate_1 14 rfl rfl)
theorem dX1_setRate_37 : decode cX1_setRate 37 = .ok (.iload_n 2, 1) := dk_28 (dk_at dksX1_setRate_1 15 rfl rfl)
theorem dX1_setRate_38 : decode cX1_setRate 38 = .ok (.invokedynamic 101, 5) := by decide +kernel
theorem dX1_setRate_43 : decode cX1_setRate 43 = .ok (.aastore, 1) := dk_83 (dk_at dksX1_setRate_1 21 rfl rfl)
theorem dX1_setRate_44 : decode cX1_setRate 44 = .ok (.aload_n 0, 1) := dk_42 (dk_at dksX1_setRate_1 22 rfl rfl)
theorem dX1_setRate_45 : decode cX1_setRate 45 = .ok (.getfield 15, 3) := dk_180 0 15 (dk_at dksX1_setRate_2 0 rfl rfl)
theorem dX1_setRate_48 : decode cX1_setRate 48 = .ok (.iload_n 1, 1) := dk_27 (dk_at dksX1_setRate_2 3 rfl rfl)
theorem dX1_setRate_49 : decode cX1_setRate 49 = .ok (.iconst 1, 1) := dk_4 (dk_at dksX1_setRate_2 4 rfl rfl)
theorem dX1_setRate_50 : decode cX1_setRate 50 = .ok (.iastore, 1) := dk_79 (dk_at dksX1_setRate_2 5 rfl rfl)
theorem dX1_setRate_51 : decode cX1_setRate 51 = .ok (.iload_n 3, 1) := dk_29 (dk_at dksX1_setRate_2 6 rfl rfl)
theorem dX1_setRate_52 : decode cX1_setRate 52 = .ok (.ireturn, 1) := dk_172 (dk_at dksX1_setRate_2 7 rfl rfl)
abbrev cX1_lambda_setRate_0 : ByteArray := prog_1_method_80_code
def yX1_lambda_setRate_0 : MethodName := ⟨RX1, "lambda$setRate$0", "(II)I"⟩
def dkwX1_lambda_setRate_0_0 : List UInt8 := [26, 27, 104, 172]
abbrev dktX1_lambda_setRate_0_0 : List UInt8 := dkwX1_lambda_setRate_0_0 ++ []
theorem dksX1_lambda_setRate_0_0 : cX1_lambda_setRate_0.data.toList.drop 0 = dktX1_lambda_setRate_0_0 := by decide +kernel
theorem dX1_lambda_setRate_0_0 : decode cX1_lambda_setRate_0 0 = .ok (.iload_n 0, 1) := dk_26 (dk_at dksX1_lambda_setRate_0_0 0 rfl rfl)
theorem dX1_lambda_setRate_0_1 : decode cX1_lambda_setRate_0 1 = .ok (.iload_n 1, 1) := dk_27 (dk_at dksX1_lambda_setRate_0_0 1 rfl rfl)
theorem dX1_lambda_setRate_0_2 : decode cX1_lambda_setRate_0 2 = .ok (.imul, 1) := dk_104 (dk_at dksX1_lambda_setRate_0_0 2 rfl rfl)
theorem dX1_lambda_setRate_0_3 : decode cX1_lambda_setRate_0 3 = .ok (.ireturn, 1) := dk_172 (dk_at dksX1_lambda_setRate_0_0 3 rfl rfl)
abbrev cX1_addFee : ByteArray := prog_1_method_11_code
def yX1_addFee : MethodName := ⟨RX1, "addFee", "(II)I"⟩
def dkwX1_addFee_1 : List UInt8 := [186, 0, 109, 0, 0, 182, 0, 112, 172]
abbrev dktX1_addFee_1 : List UInt8 := dkwX1_addFee_1 ++ []
def dkwX1_addFee_0 : List UInt8 := [42, 27, 28, 17, 3, 231, 182, 0, 105, 42, 180, 0, 11, 27, 50, 78, 42, 27, 45, 28]
abbrev dktX1_addFee_0 : List UInt8 := dkwX1_addFee_0 ++ dktX1_addFee_1
theorem dksX1_addFee_0 : cX1_addFee.data.toList.drop 0 = dktX1_addFee_0 := by decide +kernel
theorem dksX1_addFee_1 : cX1_addFee.data.toList.drop 20 = dktX1_addFee_1 := dk_seg dksX1_addFee_0 20 rfl rfl
theorem dX1_addFee_0 : decode cX1_addFee 0 = .ok (.aload_n 0, 1) := dk_42 (dk_at dksX1_addFee_0 0 rfl rfl)
theorem dX1_addFee_1 : decode cX1_addFee 1 = .ok (.iload_n 1, 1) := dk_27 (dk_at dksX1_addFee_0 1 rfl rfl)
theorem dX1_addFee_2 : decode cX1_addFee 2 = .ok (.iload_n 2, 1) := dk_28 (dk_at dksX1_addFee_0 2 rfl rfl)
theorem dX1_addFee_3 : decode cX1_addFee 3 = .ok (.sipush 999, 3) := dk_17 3 231 (dk_at dksX1_addFee_0 3 rfl rfl)
theorem dX1_addFee_6 : decode cX1_addFee 6 = .ok (.invokevirtual 105, 3) := dk_182 0 105 (dk_at dksX1_addFee_0 6 rfl rfl)
theorem dX1_addFee_9 : decode cX1_addFee 9 = .ok (.aload_n 0, 1) := dk_42 (dk_at dksX1_addFee_0 9 rfl rfl)
theorem dX1_addFee_10 : decode cX1_addFee 10 = .ok (.getfield 11, 3) := dk_180 0 11 (dk_at dksX1_addFee_0 10 rfl rfl)
theorem dX1_addFee_13 : decode cX1_addFee 13 = .ok (.iload_n 1, 1) := dk_27 (dk_at dksX1_addFee_0 13 rfl rfl)
theorem dX1_addFee_14 : decode cX1_addFee 14 = .ok (.aaload, 1) := dk_50 (dk_at dksX1_addFee_0 14 rfl rfl)
theorem dX1_addFee_15 : decode cX1_addFee 15 = .ok (.astore_n 3, 1) := dk_78 (dk_at dksX1_addFee_0 15 rfl rfl)
theorem dX1_addFee_16 : decode cX1_addFee 16 = .ok (.aload_n 0, 1) := dk_42 (dk_at dksX1_addFee_0 16 rfl rfl)
theorem dX1_addFee_17 : decode cX1_addFee 17 = .ok (.iload_n 1, 1) := dk_27 (dk_at dksX1_addFee_0 17 rfl rfl)
theorem dX1_addFee_18 : decode cX1_addFee 18 = .ok (.aload_n 3, 1) := dk_45 (dk_at dksX1_addFee_0 18 rfl rfl)
theorem dX1_addFee_19 : decode cX1_addFee 19 = .ok (.iload_n 2, 1) := dk_28 (dk_at dksX1_addFee_0 19 rfl rfl)
theorem dX1_addFee_20 : decode cX1_addFee 20 = .ok (.invokedynamic 109, 5) := by decide +kernel
theorem dX1_addFee_25 : decode cX1_addFee 25 = .ok (.invokevirtual 112, 3) := dk_182 0 112 (dk_at dksX1_addFee_1 5 rfl rfl)
theorem dX1_addFee_28 : decode cX1_addFee 28 = .ok (.ireturn, 1) := dk_172 (dk_at dksX1_addFee_1 8 rfl rfl)
abbrev cX1_mayAdd : ByteArray := prog_1_method_8_code
def yX1_mayAdd : MethodName := ⟨RX1, "mayAdd", "(III)V"⟩
def dkwX1_mayAdd_1 : List UInt8 := [42, 180, 0, 15, 27, 46, 16, 6, 162, 0, 7, 4, 167, 0, 4, 3, 184, 0, 98, 177]
abbrev dktX1_mayAdd_1 : List UInt8 := dkwX1_mayAdd_1 ++ []
def dkwX1_mayAdd_0 : List UInt8 := [27, 184, 0, 86, 153, 0, 16, 28, 3, 29, 184, 0, 90, 153, 0, 7, 4, 167, 0, 4, 3, 184, 0, 94]
abbrev dktX1_mayAdd_0 : List UInt8 := dkwX1_mayAdd_0 ++ dktX1_mayAdd_1
theorem dksX1_mayAdd_0 : cX1_mayAdd.data.toList.drop 0 = dktX1_mayAdd_0 := by decide +kernel
theorem dksX1_mayAdd_1 : cX1_mayAdd.data.toList.drop 24 = dktX1_mayAdd_1 := dk_seg dksX1_mayAdd_0 24 rfl rfl
theorem dX1_mayAdd_0 : decode cX1_mayAdd 0 = .ok (.iload_n 1, 1) := dk_27 (dk_at dksX1_mayAdd_0 0 rfl rfl)
theorem dX1_mayAdd_1 : decode cX1_mayAdd 1 = .ok (.invokestatic 86, 3) := dk_184 0 86 (dk_at dksX1_mayAdd_0 1 rfl rfl)
theorem dX1_mayAdd_4 : decode cX1_mayAdd 4 = .ok (.ifCond .eq 16, 3) := dk_153 0 16 (dk_at dksX1_mayAdd_0 4 rfl rfl)
theorem dX1_mayAdd_7 : decode cX1_mayAdd 7 = .ok (.iload_n 2, 1) := dk_28 (dk_at dksX1_mayAdd_0 7 rfl rfl)
theorem dX1_mayAdd_8 : decode cX1_mayAdd 8 = .ok (.iconst 0, 1) := dk_3 (dk_at dksX1_mayAdd_0 8 rfl rfl)
theorem dX1_mayAdd_9 : decode cX1_mayAdd 9 = .ok (.iload_n 3, 1) := dk_29 (dk_at dksX1_mayAdd_0 9 rfl rfl)
theorem dX1_mayAdd_10 : decode cX1_mayAdd 10 = .ok (.invokestatic 90, 3) := dk_184 0 90 (dk_at dksX1_mayAdd_0 10 rfl rfl)
theorem dX1_mayAdd_13 : decode cX1_mayAdd 13 = .ok (.ifCond .eq 7, 3) := dk_153 0 7 (dk_at dksX1_mayAdd_0 13 rfl rfl)
theorem dX1_mayAdd_16 : decode cX1_mayAdd 16 = .ok (.iconst 1, 1) := dk_4 (dk_at dksX1_mayAdd_0 16 rfl rfl)
theorem dX1_mayAdd_17 : decode cX1_mayAdd 17 = .ok (.goto 4, 3) := dk_167 0 4 (dk_at dksX1_mayAdd_0 17 rfl rfl)
theorem dX1_mayAdd_20 : decode cX1_mayAdd 20 = .ok (.iconst 0, 1) := dk_3 (dk_at dksX1_mayAdd_0 20 rfl rfl)
theorem dX1_mayAdd_21 : decode cX1_mayAdd 21 = .ok (.invokestatic 94, 3) := dk_184 0 94 (dk_at dksX1_mayAdd_0 21 rfl rfl)
theorem dX1_mayAdd_24 : decode cX1_mayAdd 24 = .ok (.aload_n 0, 1) := dk_42 (dk_at dksX1_mayAdd_1 0 rfl rfl)
theorem dX1_mayAdd_25 : decode cX1_mayAdd 25 = .ok (.getfield 15, 3) := dk_180 0 15 (dk_at dksX1_mayAdd_1 1 rfl rfl)
theorem dX1_mayAdd_28 : decode cX1_mayAdd 28 = .ok (.iload_n 1, 1) := dk_27 (dk_at dksX1_mayAdd_1 4 rfl rfl)
theorem dX1_mayAdd_29 : decode cX1_mayAdd 29 = .ok (.iaload, 1) := dk_46 (dk_at dksX1_mayAdd_1 5 rfl rfl)
theorem dX1_mayAdd_30 : decode cX1_mayAdd 30 = .ok (.bipush 6, 2) := dk_16 6 (dk_at dksX1_mayAdd_1 6 rfl rfl)
theorem dX1_mayAdd_32 : decode cX1_mayAdd 32 = .ok (.if_icmp .ge 7, 3) := dk_162 0 7 (dk_at dksX1_mayAdd_1 8 rfl rfl)
theorem dX1_mayAdd_35 : decode cX1_mayAdd 35 = .ok (.iconst 1, 1) := dk_4 (dk_at dksX1_mayAdd_1 11 rfl rfl)
theorem dX1_mayAdd_36 : decode cX1_mayAdd 36 = .ok (.goto 4, 3) := dk_167 0 4 (dk_at dksX1_mayAdd_1 12 rfl rfl)
theorem dX1_mayAdd_39 : decode cX1_mayAdd 39 = .ok (.iconst 0, 1) := dk_3 (dk_at dksX1_mayAdd_1 15 rfl rfl)
theorem dX1_mayAdd_40 : decode cX1_mayAdd 40 = .ok (.invokestatic 98, 3) := dk_184 0 98 (dk_at dksX1_mayAdd_1 16 rfl rfl)
theorem dX1_mayAdd_43 : decode cX1_mayAdd 43 = .ok (.return_, 1) := dk_177 (dk_at dksX1_mayAdd_1 19 rfl rfl)
abbrev cX1_lambda_addFee_1 : ByteArray := prog_1_method_79_code
def yX1_lambda_addFee_1 : MethodName := ⟨RX1, "lambda$addFee$1", "(LLendlathe$Tariff;II)I"⟩
def dkwX1_lambda_addFee_1_0 : List UInt8 := [42, 28, 185, 0, 119, 2, 0, 27, 96, 172]
abbrev dktX1_lambda_addFee_1_0 : List UInt8 := dkwX1_lambda_addFee_1_0 ++ []
theorem dksX1_lambda_addFee_1_0 : cX1_lambda_addFee_1.data.toList.drop 0 = dktX1_lambda_addFee_1_0 := by decide +kernel
theorem dX1_lambda_addFee_1_0 : decode cX1_lambda_addFee_1 0 = .ok (.aload_n 0, 1) := dk_42 (dk_at dksX1_lambda_addFee_1_0 0 rfl rfl)
theorem dX1_lambda_addFee_1_1 : decode cX1_lambda_addFee_1 1 = .ok (.iload_n 2, 1) := dk_28 (dk_at dksX1_lambda_addFee_1_0 1 rfl rfl)
theorem dX1_lambda_addFee_1_2 : decode cX1_lambda_addFee_1 2 = .ok (.invokeinterface 119 2, 5) := by decide +kernel
theorem dX1_lambda_addFee_1_7 : decode cX1_lambda_addFee_1 7 = .ok (.iload_n 1, 1) := dk_27 (dk_at dksX1_lambda_addFee_1_0 7 rfl rfl)
theorem dX1_lambda_addFee_1_8 : decode cX1_lambda_addFee_1 8 = .ok (.iadd, 1) := dk_96 (dk_at dksX1_lambda_addFee_1_0 8 rfl rfl)
theorem dX1_lambda_addFee_1_9 : decode cX1_lambda_addFee_1 9 = .ok (.ireturn, 1) := dk_172 (dk_at dksX1_lambda_addFee_1_0 9 rfl rfl)
abbrev cX1_adds : ByteArray := prog_1_method_7_code
def yX1_adds : MethodName := ⟨RX1, "adds", "(ILLendlathe$Tariff;)I"⟩
def dkwX1_adds_0 : List UInt8 := [42, 180, 0, 11, 27, 44, 83, 42, 180, 0, 15, 27, 92, 46, 4, 96, 79, 42, 180, 0, 15, 27, 46, 172]
abbrev dktX1_adds_0 : List UInt8 := dkwX1_adds_0 ++ []
theorem dksX1_adds_0 : cX1_adds.data.toList.drop 0 = dktX1_adds_0 := by decide +kernel
theorem dX1_adds_0 : decode cX1_adds 0 = .ok (.aload_n 0, 1) := dk_42 (dk_at dksX1_adds_0 0 rfl rfl)
theorem dX1_adds_1 : decode cX1_adds 1 = .ok (.getfield 11, 3) := dk_180 0 11 (dk_at dksX1_adds_0 1 rfl rfl)
theorem dX1_adds_4 : decode cX1_adds 4 = .ok (.iload_n 1, 1) := dk_27 (dk_at dksX1_adds_0 4 rfl rfl)
theorem dX1_adds_5 : decode cX1_adds 5 = .ok (.aload_n 2, 1) := dk_44 (dk_at dksX1_adds_0 5 rfl rfl)
theorem dX1_adds_6 : decode cX1_adds 6 = .ok (.aastore, 1) := dk_83 (dk_at dksX1_adds_0 6 rfl rfl)
theorem dX1_adds_7 : decode cX1_adds 7 = .ok (.aload_n 0, 1) := dk_42 (dk_at dksX1_adds_0 7 rfl rfl)
theorem dX1_adds_8 : decode cX1_adds 8 = .ok (.getfield 15, 3) := dk_180 0 15 (dk_at dksX1_adds_0 8 rfl rfl)
theorem dX1_adds_11 : decode cX1_adds 11 = .ok (.iload_n 1, 1) := dk_27 (dk_at dksX1_adds_0 11 rfl rfl)
theorem dX1_adds_12 : decode cX1_adds 12 = .ok (.dup2, 1) := dk_92 (dk_at dksX1_adds_0 12 rfl rfl)
theorem dX1_adds_13 : decode cX1_adds 13 = .ok (.iaload, 1) := dk_46 (dk_at dksX1_adds_0 13 rfl rfl)
theorem dX1_adds_14 : decode cX1_adds 14 = .ok (.iconst 1, 1) := dk_4 (dk_at dksX1_adds_0 14 rfl rfl)
theorem dX1_adds_15 : decode cX1_adds 15 = .ok (.iadd, 1) := dk_96 (dk_at dksX1_adds_0 15 rfl rfl)
theorem dX1_adds_16 : decode cX1_adds 16 = .ok (.iastore, 1) := dk_79 (dk_at dksX1_adds_0 16 rfl rfl)
theorem dX1_adds_17 : decode cX1_adds 17 = .ok (.aload_n 0, 1) := dk_42 (dk_at dksX1_adds_0 17 rfl rfl)
theorem dX1_adds_18 : decode cX1_adds 18 = .ok (.getfield 15, 3) := dk_180 0 15 (dk_at dksX1_adds_0 18 rfl rfl)
theorem dX1_adds_21 : decode cX1_adds 21 = .ok (.iload_n 1, 1) := dk_27 (dk_at dksX1_adds_0 21 rfl rfl)
theorem dX1_adds_22 : decode cX1_adds 22 = .ok (.iaload, 1) := dk_46 (dk_at dksX1_adds_0 22 rfl rfl)
theorem dX1_adds_23 : decode cX1_adds 23 = .ok (.ireturn, 1) := dk_172 (dk_at dksX1_adds_0 23 rfl rfl)
abbrev cX1_addCap : ByteArray := prog_1_method_12_code
def yX1_addCap : MethodName := ⟨RX1, "addCap", "(II)I"⟩
def dkwX1_addCap_1 : List UInt8 := [186, 0, 116, 0, 0, 182, 0, 112, 172]
abbrev dktX1_addCap_1 : List UInt8 := dkwX1_addCap_1 ++ []
def dkwX1_addCap_0 : List UInt8 := [42, 27, 28, 17, 39, 15, 182, 0, 105, 42, 180, 0, 11, 27, 50, 78, 42, 27, 45, 28]
abbrev dktX1_addCap_0 : List UInt8 := dkwX1_addCap_0 ++ dktX1_addCap_1
theorem dksX1_addCap_0 : cX1_addCap.data.toList.drop 0 = dktX1_addCap_0 := by decide +kernel
theorem dksX1_addCap_1 : cX1_addCap.data.toList.drop 20 = dktX1_addCap_1 := dk_seg dksX1_addCap_0 20 rfl rfl
theorem dX1_addCap_0 : decode cX1_addCap 0 = .ok (.aload_n 0, 1) := dk_42 (dk_at dksX1_addCap_0 0 rfl rfl)
theorem dX1_addCap_1 : decode cX1_addCap 1 = .ok (.iload_n 1, 1) := dk_27 (dk_at dksX1_addCap_0 1 rfl rfl)
theorem dX1_addCap_2 : decode cX1_addCap 2 = .ok (.iload_n 2, 1) := dk_28 (dk_at dksX1_addCap_0 2 rfl rfl)
theorem dX1_addCap_3 : decode cX1_addCap 3 = .ok (.sipush 9999, 3) := dk_17 39 15 (dk_at dksX1_addCap_0 3 rfl rfl)
theorem dX1_addCap_6 : decode cX1_addCap 6 = .ok (.invokevirtual 105, 3) := dk_182 0 105 (dk_at dksX1_addCap_0 6 rfl rfl)
theorem dX1_addCap_9 : decode cX1_addCap 9 = .ok (.aload_n 0, 1) := dk_42 (dk_at dksX1_addCap_0 9 rfl rfl)
theorem dX1_addCap_10 : decode cX1_addCap 10 = .ok (.getfield 11, 3) := dk_180 0 11 (dk_at dksX1_addCap_0 10 rfl rfl)
theorem dX1_addCap_13 : decode cX1_addCap 13 = .ok (.iload_n 1, 1) := dk_27 (dk_at dksX1_addCap_0 13 rfl rfl)
theorem dX1_addCap_14 : decode cX1_addCap 14 = .ok (.aaload, 1) := dk_50 (dk_at dksX1_addCap_0 14 rfl rfl)
theorem dX1_addCap_15 : decode cX1_addCap 15 = .ok (.astore_n 3, 1) := dk_78 (dk_at dksX1_addCap_0 15 rfl rfl)
theorem dX1_addCap_16 : decode cX1_addCap 16 = .ok (.aload_n 0, 1) := dk_42 (dk_at dksX1_addCap_0 16 rfl rfl)
theorem dX1_addCap_17 : decode cX1_addCap 17 = .ok (.iload_n 1, 1) := dk_27 (dk_at dksX1_addCap_0 17 rfl rfl)
theorem dX1_addCap_18 : decode cX1_addCap 18 = .ok (.aload_n 3, 1) := dk_45 (dk_at dksX1_addCap_0 18 rfl rfl)
theorem dX1_addCap_19 : decode cX1_addCap 19 = .ok (.iload_n 2, 1) := dk_28 (dk_at dksX1_addCap_0 19 rfl rfl)
theorem dX1_addCap_20 : decode cX1_addCap 20 = .ok (.invokedynamic 116, 5) := by decide +kernel
theorem dX1_addCap_25 : decode cX1_addCap 25 = .ok (.invokevirtual 112, 3) := dk_182 0 112 (dk_at dksX1_addCap_1 5 rfl rfl)
theorem dX1_addCap_28 : decode cX1_addCap 28 = .ok (.ireturn, 1) := dk_172 (dk_at dksX1_addCap_1 8 rfl rfl)
abbrev cX1_lambda_addCap_2 : ByteArray := prog_1_method_78_code
def yX1_lambda_addCap_2 : MethodName := ⟨RX1, "lambda$addCap$2", "(LLendlathe$Tariff;II)I"⟩
def dkwX1_lambda_addCap_2_0 : List UInt8 := [42, 28, 185, 0, 119, 2, 0, 27, 184, 1, 130, 172]
abbrev dktX1_lambda_addCap_2_0 : List UInt8 := dkwX1_lambda_addCap_2_0 ++ []
theorem dksX1_lambda_addCap_2_0 : cX1_lambda_addCap_2.data.toList.drop 0 = dktX1_lambda_addCap_2_0 := by decide +kernel
theorem dX1_lambda_addCap_2_0 : decode cX1_lambda_addCap_2 0 = .ok (.aload_n 0, 1) := dk_42 (dk_at dksX1_lambda_addCap_2_0 0 rfl rfl)
theorem dX1_lambda_addCap_2_1 : decode cX1_lambda_addCap_2 1 = .ok (.iload_n 2, 1) := dk_28 (dk_at dksX1_lambda_addCap_2_0 1 rfl rfl)
theorem dX1_lambda_addCap_2_2 : decode cX1_lambda_addCap_2 2 = .ok (.invokeinterface 119 2, 5) := by decide +kernel
theorem dX1_lambda_addCap_2_7 : decode cX1_lambda_addCap_2 7 = .ok (.iload_n 1, 1) := dk_27 (dk_at dksX1_lambda_addCap_2_0 7 rfl rfl)
theorem dX1_lambda_addCap_2_8 : decode cX1_lambda_addCap_2 8 = .ok (.invokestatic 386, 3) := dk_184 1 130 (dk_at dksX1_lambda_addCap_2_0 8 rfl rfl)
theorem dX1_lambda_addCap_2_11 : decode cX1_lambda_addCap_2 11 = .ok (.ireturn, 1) := dk_172 (dk_at dksX1_lambda_addCap_2_0 11 rfl rfl)
abbrev cX1_addDouble : ByteArray := prog_1_method_13_code
def yX1_addDouble : MethodName := ⟨RX1, "addDouble", "(II)I"⟩
def dkwX1_addDouble_1 : List UInt8 := [186, 0, 117, 0, 0, 182, 0, 112, 172]
abbrev dktX1_addDouble_1 : List UInt8 := dkwX1_addDouble_1 ++ []
def dkwX1_addDouble_0 : List UInt8 := [42, 27, 28, 17, 0, 240, 182, 0, 105, 42, 180, 0, 11, 27, 50, 78, 42, 27, 45, 28]
abbrev dktX1_addDouble_0 : List UInt8 := dkwX1_addDouble_0 ++ dktX1_addDouble_1
theorem dksX1_addDouble_0 : cX1_addDouble.data.toList.drop 0 = dktX1_addDouble_0 := by decide +kernel
theorem dksX1_addDouble_1 : cX1_addDouble.data.toList.drop 20 = dktX1_addDouble_1 := dk_seg dksX1_addDouble_0 20 rfl rfl
theorem dX1_addDouble_0 : decode cX1_addDouble 0 = .ok (.aload_n 0, 1) := dk_42 (dk_at dksX1_addDouble_0 0 rfl rfl)
theorem dX1_addDouble_1 : decode cX1_addDouble 1 = .ok (.iload_n 1, 1) := dk_27 (dk_at dksX1_addDouble_0 1 rfl rfl)
theorem dX1_addDouble_2 : decode cX1_addDouble 2 = .ok (.iload_n 2, 1) := dk_28 (dk_at dksX1_addDouble_0 2 rfl rfl)
theorem dX1_addDouble_3 : decode cX1_addDouble 3 = .ok (.sipush 240, 3) := dk_17 0 240 (dk_at dksX1_addDouble_0 3 rfl rfl)
theorem dX1_addDouble_6 : decode cX1_addDouble 6 = .ok (.invokevirtual 105, 3) := dk_182 0 105 (dk_at dksX1_addDouble_0 6 rfl rfl)
theorem dX1_addDouble_9 : decode cX1_addDouble 9 = .ok (.aload_n 0, 1) := dk_42 (dk_at dksX1_addDouble_0 9 rfl rfl)
theorem dX1_addDouble_10 : decode cX1_addDouble 10 = .ok (.getfield 11, 3) := dk_180 0 11 (dk_at dksX1_addDouble_0 10 rfl rfl)
theorem dX1_addDouble_13 : decode cX1_addDouble 13 = .ok (.iload_n 1, 1) := dk_27 (dk_at dksX1_addDouble_0 13 rfl rfl)
theorem dX1_addDouble_14 : decode cX1_addDouble 14 = .ok (.aaload, 1) := dk_50 (dk_at dksX1_addDouble_0 14 rfl rfl)
theorem dX1_addDouble_15 : decode cX1_addDouble 15 = .ok (.astore_n 3, 1) := dk_78 (dk_at dksX1_addDouble_0 15 rfl rfl)
theorem dX1_addDouble_16 : decode cX1_addDouble 16 = .ok (.aload_n 0, 1) := dk_42 (dk_at dksX1_addDouble_0 16 rfl rfl)
theorem dX1_addDouble_17 : decode cX1_addDouble 17 = .ok (.iload_n 1, 1) := dk_27 (dk_at dksX1_addDouble_0 17 rfl rfl)
theorem dX1_addDouble_18 : decode cX1_addDouble 18 = .ok (.aload_n 3, 1) := dk_45 (dk_at dksX1_addDouble_0 18 rfl rfl)
theorem dX1_addDouble_19 : decode cX1_addDouble 19 = .ok (.iload_n 2, 1) := dk_28 (dk_at dksX1_addDouble_0 19 rfl rfl)
theorem dX1_addDouble_20 : decode cX1_addDouble 20 = .ok (.invokedynamic 117, 5) := by decide +kernel
theorem dX1_addDouble_25 : decode cX1_addDouble 25 = .ok (.invokevirtual 112, 3) := dk_182 0 112 (dk_at dksX1_addDouble_1 5 rfl rfl)
theorem dX1_addDouble_28 : decode cX1_addDouble 28 = .ok (.ireturn, 1) := dk_172 (dk_at dksX1_addDouble_1 8 rfl rfl)
abbrev cX1_lambda_addDouble_3 : ByteArray := prog_1_method_77_code
def yX1_lambda_addDouble_3 : MethodName := ⟨RX1, "lambda$addDouble$3", "(LLendlathe$Tariff;II)I"⟩
def dkwX1_lambda_addDouble_3_0 : List UInt8 := [42, 28, 3, 28, 27, 100, 184, 1, 125, 96, 185, 0, 119, 2, 0, 172]
abbrev dktX1_lambda_addDouble_3_0 : List UInt8 := dkwX1_lambda_addDouble_3_0 ++ []
theorem dksX1_lambda_addDouble_3_0 : cX1_lambda_addDouble_3.data.toList.drop 0 = dktX1_lambda_addDouble_3_0 := by decide +kernel
theorem dX1_lambda_addDouble_3_0 : decode cX1_lambda_addDouble_3 0 = .ok (.aload_n 0, 1) := dk_42 (dk_at dksX1_lambda_addDouble_3_0 0 rfl rfl)
theorem dX1_lambda_addDouble_3_1 : decode cX1_lambda_addDouble_3 1 = .ok (.iload_n 2, 1) := dk_28 (dk_at dksX1_lambda_addDouble_3_0 1 rfl rfl)
theorem dX1_lambda_addDouble_3_2 : decode cX1_lambda_addDouble_3 2 = .ok (.iconst 0, 1) := dk_3 (dk_at dksX1_lambda_addDouble_3_0 2 rfl rfl)
theorem dX1_lambda_addDouble_3_3 : decode cX1_lambda_addDouble_3 3 = .ok (.iload_n 2, 1) := dk_28 (dk_at dksX1_lambda_addDouble_3_0 3 rfl rfl)
theorem dX1_lambda_addDouble_3_4 : decode cX1_lambda_addDouble_3 4 = .ok (.iload_n 1, 1) := dk_27 (dk_at dksX1_lambda_addDouble_3_0 4 rfl rfl)
theorem dX1_lambda_addDouble_3_5 : decode cX1_lambda_addDouble_3 5 = .ok (.isub, 1) := dk_100 (dk_at dksX1_lambda_addDouble_3_0 5 rfl rfl)
theorem dX1_lambda_addDouble_3_6 : decode cX1_lambda_addDouble_3 6 = .ok (.invokestatic 381, 3) := dk_184 1 125 (dk_at dksX1_lambda_addDouble_3_0 6 rfl rfl)
theorem dX1_lambda_addDouble_3_9 : decode cX1_lambda_addDouble_3 9 = .ok (.iadd, 1) := dk_96 (dk_at dksX1_lambda_addDouble_3_0 9 rfl rfl)
theorem dX1_lambda_addDouble_3_10 : decode cX1_lambda_addDouble_3 10 = .ok (.invokeinterface 119 2, 5) := by decide +kernel
theorem dX1_lambda_addDouble_3_15 : decode cX1_lambda_addDouble_3 15 = .ok (.ireturn, 1) := dk_172 (dk_at dksX1_lambda_addDouble_3_0 15 rfl rfl)
abbrev cX1_addDiscount : ByteArray := prog_1_method_14_code
def yX1_addDiscount : MethodName := ⟨RX1, "addDiscount", "(II)I"⟩
def dkwX1_addDiscount_1 : List UInt8 := [182, 0, 112, 172]
abbrev dktX1_addDiscount_1 : List UInt8 := dkwX1_addDiscount_1 ++ []
def dkwX1_addDiscount_0 : List UInt8 := [42, 27, 28, 16, 100, 182, 0, 105, 42, 180, 0, 11, 27, 50, 78, 42, 27, 45, 28, 186, 0, 118, 0, 0]
abbrev dktX1_addDiscount_0 : List UInt8 := dkwX1_addDiscount_0 ++ dktX1_addDiscount_1
theorem dksX1_addDiscount_0 : cX1_addDiscount.data.toList.drop 0 = dktX1_addDiscount_0 := by decide +kernel
theorem dksX1_addDiscount_1 : cX1_addDiscount.data.toList.drop 24 = dktX1_addDiscount_1 := dk_seg dksX1_addDiscount_0 24 rfl rfl
theorem dX1_addDiscount_0 : decode cX1_addDiscount 0 = .ok (.aload_n 0, 1) := dk_42 (dk_at dksX1_addDiscount_0 0 rfl rfl)
theorem dX1_addDiscount_1 : decode cX1_addDiscount 1 = .ok (.iload_n 1, 1) := dk_27 (dk_at dksX1_addDiscount_0 1 rfl rfl)
theorem dX1_addDiscount_2 : decode cX1_addDiscount 2 = .ok (.iload_n 2, 1) := dk_28 (dk_at dksX1_addDiscount_0 2 rfl rfl)
theorem dX1_addDiscount_3 : decode cX1_addDiscount 3 = .ok (.bipush 100, 2) := dk_16 100 (dk_at dksX1_addDiscount_0 3 rfl rfl)
theorem dX1_addDiscount_5 : decode cX1_addDiscount 5 = .ok (.invokevirtual 105, 3) := dk_182 0 105 (dk_at dksX1_addDiscount_0 5 rfl rfl)
theorem dX1_addDiscount_8 : decode cX1_addDiscount 8 = .ok (.aload_n 0, 1) := dk_42 (dk_at dksX1_addDiscount_0 8 rfl rfl)
theorem dX1_addDiscount_9 : decode cX1_addDiscount 9 = .ok (.getfield 11, 3) := dk_180 0 11 (dk_at dksX1_addDiscount_0 9 rfl rfl)
theorem dX1_addDiscount_12 : decode cX1_addDiscount 12 = .ok (.iload_n 1, 1) := dk_27 (dk_at dksX1_addDiscount_0 12 rfl rfl)
theorem dX1_addDiscount_13 : decode cX1_addDiscount 13 = .ok (.aaload, 1) := dk_50 (dk_at dksX1_addDiscount_0 13 rfl rfl)
theorem dX1_addDiscount_14 : decode cX1_addDiscount 14 = .ok (.astore_n 3, 1) := dk_78 (dk_at dksX1_addDiscount_0 14 rfl rfl)
theorem dX1_addDiscount_15 : decode cX1_addDiscount 15 = .ok (.aload_n 0, 1) := dk_42 (dk_at dksX1_addDiscount_0 15 rfl rfl)
theorem dX1_addDiscount_16 : decode cX1_addDiscount 16 = .ok (.iload_n 1, 1) := dk_27 (dk_at dksX1_addDiscount_0 16 rfl rfl)
theorem dX1_addDiscount_17 : decode cX1_addDiscount 17 = .ok (.aload_n 3, 1) := dk_45 (dk_at dksX1_addDiscount_0 17 rfl rfl)
theorem dX1_addDiscount_18 : decode cX1_addDiscount 18 = .ok (.iload_n 2, 1) := dk_28 (dk_at dksX1_addDiscount_0 18 rfl rfl)
theorem dX1_addDiscount_19 : decode cX1_addDiscount 19 = .ok (.invokedynamic 118, 5) := by decide +kernel
theorem dX1_addDiscount_24 : decode cX1_addDiscount 24 = .ok (.invokevirtual 112, 3) := dk_182 0 112 (dk_at dksX1_addDiscount_1 0 rfl rfl)
theorem dX1_addDiscount_27 : decode cX1_addDiscount 27 = .ok (.ireturn, 1) := dk_172 (dk_at dksX1_addDiscount_1 3 rfl rfl)
abbrev cX1_lambda_addDiscount_4 : ByteArray := prog_1_method_76_code
def yX1_lambda_addDiscount_4 : MethodName := ⟨RX1, "lambda$addDiscount$4", "(LLendlathe$Tariff;II)I"⟩
def dkwX1_lambda_addDiscount_4_0 : List UInt8 := [42, 28, 185, 0, 119, 2, 0, 62, 29, 29, 27, 104, 16, 100, 108, 100, 172]
abbrev dktX1_lambda_addDiscount_4_0 : List UInt8 := dkwX1_lambda_addDiscount_4_0 ++ []
theorem dksX1_lambda_addDiscount_4_0 : cX1_lambda_addDiscount_4.data.toList.drop 0 = dktX1_lambda_addDiscount_4_0 := by decide +kernel
theorem dX1_lambda_addDiscount_4_0 : decode cX1_lambda_addDiscount_4 0 = .ok (.aload_n 0, 1) := dk_42 (dk_at dksX1_lambda_addDiscount_4_0 0 rfl rfl)
theorem dX1_lambda_addDiscount_4_1 : decode cX1_lambda_addDiscount_4 1 = .ok (.iload_n 2, 1) := dk_28 (dk_at dksX1_lambda_addDiscount_4_0 1 rfl rfl)
theorem dX1_lambda_addDiscount_4_2 : decode cX1_lambda_addDiscount_4 2 = .ok (.invokeinterface 119 2, 5) := by decide +kernel
theorem dX1_lambda_addDiscount_4_7 : decode cX1_lambda_addDiscount_4 7 = .ok (.istore_n 3, 1) := dk_62 (dk_at dksX1_lambda_addDiscount_4_0 7 rfl rfl)
theorem dX1_lambda_addDiscount_4_8 : decode cX1_lambda_addDiscount_4 8 = .ok (.iload_n 3, 1) := dk_29 (dk_at dksX1_lambda_addDiscount_4_0 8 rfl rfl)
theorem dX1_lambda_addDiscount_4_9 : decode cX1_lambda_addDiscount_4 9 = .ok (.iload_n 3, 1) := dk_29 (dk_at dksX1_lambda_addDiscount_4_0 9 rfl rfl)
theorem dX1_lambda_addDiscount_4_10 : decode cX1_lambda_addDiscount_4 10 = .ok (.iload_n 1, 1) := dk_27 (dk_at dksX1_lambda_addDiscount_4_0 10 rfl rfl)
theorem dX1_lambda_addDiscount_4_11 : decode cX1_lambda_addDiscount_4 11 = .ok (.imul, 1) := dk_104 (dk_at dksX1_lambda_addDiscount_4_0 11 rfl rfl)
theorem dX1_lambda_addDiscount_4_12 : decode cX1_lambda_addDiscount_4 12 = .ok (.bipush 100, 2) := dk_16 100 (dk_at dksX1_lambda_addDiscount_4_0 12 rfl rfl)
theorem dX1_lambda_addDiscount_4_14 : decode cX1_lambda_addDiscount_4 14 = .ok (.idiv, 1) := dk_108 (dk_at dksX1_lambda_addDiscount_4_0 14 rfl rfl)
theorem dX1_lambda_addDiscount_4_15 : decode cX1_lambda_addDiscount_4 15 = .ok (.isub, 1) := dk_100 (dk_at dksX1_lambda_addDiscount_4_0 15 rfl rfl)
theorem dX1_lambda_addDiscount_4_16 : decode cX1_lambda_addDiscount_4 16 = .ok (.ireturn, 1) := dk_172 (dk_at dksX1_lambda_addDiscount_4_0 16 rfl rfl)
abbrev cX1_costOf : ByteArray := prog_1_method_15_code
def yX1_costOf : MethodName := ⟨RX1, "costOf", "(II)I"⟩
def dkwX1_costOf_1 : List UInt8 := [184, 0, 94, 42, 180, 0, 11, 27, 50, 28, 185, 0, 119, 2, 0, 172]
abbrev dktX1_costOf_1 : List UInt8 := dkwX1_costOf_1 ++ []
def dkwX1_costOf_0 : List UInt8 := [27, 184, 0, 86, 153, 0, 18, 28, 3, 17, 1, 224, 184, 0, 90, 153, 0, 7, 4, 167, 0, 4, 3]
abbrev dktX1_costOf_0 : List UInt8 := dkwX1_costOf_0 ++ dktX1_costOf_1
theorem dksX1_costOf_0 : cX1_costOf.data.toList.drop 0 = dktX1_costOf_0 := by decide +kernel
theorem dksX1_costOf_1 : cX1_costOf.data.toList.drop 23 = dktX1_costOf_1 := dk_seg dksX1_costOf_0 23 rfl rfl
theorem dX1_costOf_0 : decode cX1_costOf 0 = .ok (.iload_n 1, 1) := dk_27 (dk_at dksX1_costOf_0 0 rfl rfl)
theorem dX1_costOf_1 : decode cX1_costOf 1 = .ok (.invokestatic 86, 3) := dk_184 0 86 (dk_at dksX1_costOf_0 1 rfl rfl)
theorem dX1_costOf_4 : decode cX1_costOf 4 = .ok (.ifCond .eq 18, 3) := dk_153 0 18 (dk_at dksX1_costOf_0 4 rfl rfl)
theorem dX1_costOf_7 : decode cX1_costOf 7 = .ok (.iload_n 2, 1) := dk_28 (dk_at dksX1_costOf_0 7 rfl rfl)
theorem dX1_costOf_8 : decode cX1_costOf 8 = .ok (.iconst 0, 1) := dk_3 (dk_at dksX1_costOf_0 8 rfl rfl)
theorem dX1_costOf_9 : decode cX1_costOf 9 = .ok (.sipush 480, 3) := dk_17 1 224 (dk_at dksX1_costOf_0 9 rfl rfl)
theorem dX1_costOf_12 : decode cX1_costOf 12 = .ok (.invokestatic 90, 3) := dk_184 0 90 (dk_at dksX1_costOf_0 12 rfl rfl)
theorem dX1_costOf_15 : decode cX1_costOf 15 = .ok (.ifCond .eq 7, 3) := dk_153 0 7 (dk_at dksX1_costOf_0 15 rfl rfl)
theorem dX1_costOf_18 : decode cX1_costOf 18 = .ok (.iconst 1, 1) := dk_4 (dk_at dksX1_costOf_0 18 rfl rfl)
theorem dX1_costOf_19 : decode cX1_costOf 19 = .ok (.goto 4, 3) := dk_167 0 4 (dk_at dksX1_costOf_0 19 rfl rfl)
theorem dX1_costOf_22 : decode cX1_costOf 22 = .ok (.iconst 0, 1) := dk_3 (dk_at dksX1_costOf_0 22 rfl rfl)
theorem dX1_costOf_23 : decode cX1_costOf 23 = .ok (.invokestatic 94, 3) := dk_184 0 94 (dk_at dksX1_costOf_1 0 rfl rfl)
theorem dX1_costOf_26 : decode cX1_costOf 26 = .ok (.aload_n 0, 1) := dk_42 (dk_at dksX1_costOf_1 3 rfl rfl)
theorem dX1_costOf_27 : decode cX1_costOf 27 = .ok (.getfield 11, 3) := dk_180 0 11 (dk_at dksX1_costOf_1 4 rfl rfl)
theorem dX1_costOf_30 : decode cX1_costOf 30 = .ok (.iload_n 1, 1) := dk_27 (dk_at dksX1_costOf_1 7 rfl rfl)
theorem dX1_costOf_31 : decode cX1_costOf 31 = .ok (.aaload, 1) := dk_50 (dk_at dksX1_costOf_1 8 rfl rfl)
theorem dX1_costOf_32 : decode cX1_costOf 32 = .ok (.iload_n 2, 1) := dk_28 (dk_at dksX1_costOf_1 9 rfl rfl)
theorem dX1_costOf_33 : decode cX1_costOf 33 = .ok (.invokeinterface 119 2, 5) := by decide +kernel
theorem dX1_costOf_38 : decode cX1_costOf 38 = .ok (.ireturn, 1) := dk_172 (dk_at dksX1_costOf_1 15 rfl rfl)
abbrev cX1_breakDown : ByteArray := prog_1_method_66_code
def yX1_breakDown : MethodName := ⟨RX1, "breakDown", "(II)I"⟩
def dkwX1_breakDown_13 : List UInt8 := [21, 4, 172]
abbrev dktX1_breakDown_13 : List UInt8 := dkwX1_breakDown_13 ++ []
def dkwX1_breakDown_12 : List UInt8 := [180, 1, 103, 96, 181, 1, 106, 132, 6, 1, 167, 255, 200, 42, 89, 180, 1, 88, 4, 96, 181, 1, 88]
abbrev dktX1_breakDown_12 : List UInt8 := dkwX1_breakDown_12 ++ dktX1_breakDown_13
def dkwX1_breakDown_11 : List UInt8 := [180, 1, 103, 79, 42, 180, 0, 33, 21, 6, 182, 0, 122, 192, 0, 132, 89, 180, 1, 106, 45, 21, 6, 50]
abbrev dktX1_breakDown_11 : List UInt8 := dkwX1_breakDown_11 ++ dktX1_breakDown_12
def dkwX1_breakDown_10 : List UInt8 := [21, 6, 45, 190, 162, 0, 55, 42, 180, 0, 71, 42, 180, 1, 88, 50, 21, 6, 45, 21, 6, 50]
abbrev dktX1_breakDown_10 : List UInt8 := dkwX1_breakDown_10 ++ dktX1_breakDown_11
def dkwX1_breakDown_9 : List UInt8 := [180, 1, 103, 4, 96, 181, 1, 103, 25, 6, 2, 181, 1, 100, 132, 5, 255, 167, 255, 173, 3, 54, 6]
abbrev dktX1_breakDown_9 : List UInt8 := dkwX1_breakDown_9 ++ dktX1_breakDown_10
def dkwX1_breakDown_8 : List UInt8 := [180, 1, 100, 164, 0, 8, 25, 10, 167, 0, 5, 25, 6, 58, 6, 132, 9, 1, 167, 255, 217, 25, 6, 89]
abbrev dktX1_breakDown_8 : List UInt8 := dkwX1_breakDown_8 ++ dktX1_breakDown_9
def dkwX1_breakDown_7 : List UInt8 := [3, 54, 9, 21, 9, 21, 8, 162, 0, 38, 25, 7, 21, 9, 50, 58, 10, 25, 10, 180, 1, 100, 25, 6]
abbrev dktX1_breakDown_7 : List UInt8 := dkwX1_breakDown_7 ++ dktX1_breakDown_8
def dkwX1_breakDown_6 : List UInt8 := [132, 8, 1, 167, 255, 227, 21, 5, 158, 0, 84, 45, 3, 50, 58, 6, 45, 58, 7, 25, 7, 190, 54, 8]
abbrev dktX1_breakDown_6 : List UInt8 := dkwX1_breakDown_6 ++ dktX1_breakDown_7
def dkwX1_breakDown_5 : List UInt8 := [162, 0, 28, 25, 6, 21, 8, 50, 58, 9, 21, 5, 25, 9, 21, 4, 182, 1, 97, 100, 54, 5]
abbrev dktX1_breakDown_5 : List UInt8 := dkwX1_breakDown_5 ++ dktX1_breakDown_6
def dkwX1_breakDown_4 : List UInt8 := [21, 4, 158, 0, 197, 28, 54, 5, 45, 58, 6, 25, 6, 190, 54, 7, 3, 54, 8, 21, 8, 21, 7]
abbrev dktX1_breakDown_4 : List UInt8 := dkwX1_breakDown_4 ++ dktX1_breakDown_5
def dkwX1_breakDown_3 : List UInt8 := [28, 183, 1, 93, 83, 21, 4, 45, 21, 5, 50, 180, 1, 96, 96, 54, 4, 132, 5, 1, 167, 255, 218]
abbrev dktX1_breakDown_3 : List UInt8 := dkwX1_breakDown_3 ++ dktX1_breakDown_4
def dkwX1_breakDown_2 : List UInt8 := [3, 54, 4, 3, 54, 5, 21, 5, 45, 190, 162, 0, 37, 45, 21, 5, 187, 1, 91, 89, 42, 21, 5, 27]
abbrev dktX1_breakDown_2 : List UInt8 := dkwX1_breakDown_2 ++ dktX1_breakDown_3
def dkwX1_breakDown_1 : List UInt8 := [16, 20, 162, 0, 7, 4, 167, 0, 4, 3, 184, 0, 98, 42, 180, 0, 33, 182, 0, 141, 189, 1, 91, 78]
abbrev dktX1_breakDown_1 : List UInt8 := dkwX1_breakDown_1 ++ dktX1_breakDown_2
def dkwX1_breakDown_0 : List UInt8 := [42, 27, 182, 0, 247, 184, 0, 238, 28, 4, 19, 1, 87, 184, 0, 90, 184, 0, 94, 42, 180, 1, 88]
abbrev dktX1_breakDown_0 : List UInt8 := dkwX1_breakDown_0 ++ dktX1_breakDown_1
theorem dksX1_breakDown_0 : cX1_breakDown.data.toList.drop 0 = dktX1_breakDown_0 := by decide +kernel
theorem dksX1_breakDown_1 : cX1_breakDown.data.toList.drop 23 = dktX1_breakDown_1 := dk_seg dksX1_breakDown_0 23 rfl rfl
theorem dksX1_breakDown_2 : cX1_breakDown.data.toList.drop 47 = dktX1_breakDown_2 := dk_seg dksX1_breakDown_1 24 rfl rfl
theorem dksX1_breakDown_3 : cX1_breakDown.data.toList.drop 71 = dktX1_breakDown_3 := dk_seg dksX1_breakDown_2 24 rfl rfl
theorem dksX1_breakDown_4 : cX1_breakDown.data.toList.drop 94 = dktX1_breakDown_4 := dk_seg dksX1_breakDown_3 23 rfl rfl
theorem dksX1_breakDown_5 : cX1_breakDown.data.toList.drop 117 = dktX1_breakDown_5 := dk_seg dksX1_breakDown_4 23 rfl rfl
theorem dksX1_breakDown_6 : cX1_breakDown.data.toList.drop 139 = dktX1_breakDown_6 := dk_seg dksX1_breakDown_5 22 rfl rfl
theorem dksX1_breakDown_7 : cX1_breakDown.data.toList.drop 163 = dktX1_breakDown_7 := dk_seg dksX1_breakDown_6 24 rfl rfl
theorem dksX1_breakDown_8 : cX1_breakDown.data.toList.drop 187 = dktX1_breakDown_8 := dk_seg dksX1_breakDown_7 24 rfl rfl
theorem dksX1_breakDown_9 : cX1_breakDown.data.toList.drop 211 = dktX1_breakDown_9 := dk_seg dksX1_breakDown_8 24 rfl rfl
theorem dksX1_breakDown_10 : cX1_breakDown.data.toList.drop 234 = dktX1_breakDown_10 := dk_seg dksX1_breakDown_9 23 rfl rfl
theorem dksX1_breakDown_11 : cX1_breakDown.data.toList.drop 256 = dktX1_breakDown_11 := dk_seg dksX1_breakDown_10 22 rfl rfl
theorem dksX1_breakDown_12 : cX1_breakDown.data.toList.drop 280 = dktX1_breakDown_12 := dk_seg dksX1_breakDown_11 24 rfl rfl
theorem dksX1_breakDown_13 : cX1_breakDown.data.toList.drop 303 = dktX1_breakDown_13 := dk_seg dksX1_breakDown_12 23 rfl rfl
theorem dX1_breakDown_0 : decode cX1_breakDown 0 = .ok (.aload_n 0, 1) := dk_42 (dk_at dksX1_breakDown_0 0 rfl rfl)
theorem dX1_breakDown_1 : decode cX1_breakDown 1 = .ok (.iload_n 1, 1) := dk_27 (dk_at dksX1_breakDown_0 1 rfl rfl)
theorem dX1_breakDown_2 : decode cX1_breakDown 2 = .ok (.invokevirtual 247, 3) := dk_182 0 247 (dk_at dksX1_breakDown_0 2 rfl rfl)
theorem dX1_breakDown_5 : decode cX1_breakDown 5 = .ok (.invokestatic 238, 3) := dk_184 0 238 (dk_at dksX1_breakDown_0 5 rfl rfl)
theorem dX1_breakDown_8 : decode cX1_breakDown 8 = .ok (.iload_n 2, 1) := dk_28 (dk_at dksX1_breakDown_0 8 rfl rfl)
theorem dX1_breakDown_9 : decode cX1_breakDown 9 = .ok (.iconst 1, 1) := dk_4 (dk_at dksX1_breakDown_0 9 rfl rfl)
theorem dX1_breakDown_10 : decode cX1_breakDown 10 = .ok (.ldc_w 343, 3) := dk_19 1 87 (dk_at dksX1_breakDown_0 10 rfl rfl)
theorem dX1_breakDown_13 : decode cX1_breakDown 13 = .ok (.invokestatic 90, 3) := dk_184 0 90 (dk_at dksX1_breakDown_0 13 rfl rfl)
theorem dX1_breakDown_16 : decode cX1_breakDown 16 = .ok (.invokestatic 94, 3) := dk_184 0 94 (dk_at dksX1_breakDown_0 16 rfl rfl)
theorem dX1_breakDown_19 : decode cX1_breakDown 19 = .ok (.aload_n 0, 1) := dk_42 (dk_at dksX1_breakDown_0 19 rfl rfl)
theorem dX1_breakDown_20 : decode cX1_breakDown 20 = .ok (.getfield 344, 3) := dk_180 1 88 (dk_at dksX1_breakDown_0 20 rfl rfl)
theorem dX1_breakDown_23 : decode cX1_breakDown 23 = .ok (.bipush 20, 2) := dk_16 20 (dk_at dksX1_breakDown_1 0 rfl rfl)
theorem dX1_breakDown_25 : decode cX1_breakDown 25 = .ok (.if_icmp .ge 7, 3) := dk_162 0 7 (dk_at dksX1_breakDown_1 2 rfl rfl)
theorem dX1_breakDown_28 : decode cX1_breakDown 28 = .ok (.iconst 1, 1) := dk_4 (dk_at dksX1_breakDown_1 5 rfl rfl)
theorem dX1_breakDown_29 : decode cX1_breakDown 29 = .ok (.goto 4, 3) := dk_167 0 4 (dk_at dksX1_breakDown_1 6 rfl rfl)
theorem dX1_breakDown_32 : decode cX1_breakDown 32 = .ok (.iconst 0, 1) := dk_3 (dk_at dksX1_breakDown_1 9 rfl rfl)
theorem dX1_breakDown_33 : decode cX1_breakDown 33 = .ok (.invokestatic 98, 3) := dk_184 0 98 (dk_at dksX1_breakDown_1 10 rfl rfl)
theorem dX1_breakDown_36 : decode cX1_breakDown 36 = .ok (.aload_n 0, 1) := dk_42 (dk_at dksX1_breakDown_1 13 rfl rfl)
theorem dX1_breakDown_37 : decode cX1_breakDown 37 = .ok (.getfield 33, 3) := dk_180 0 33 (dk_at dksX1_breakDown_1 14 rfl rfl)
theorem dX1_breakDown_40 : decode cX1_breakDown 40 = .ok (.invokevirtual 141, 3) := dk_182 0 141 (dk_at dksX1_breakDown_1 17 rfl rfl)
theorem dX1_breakDown_43 : decode cX1_breakDown 43 = .ok (.anewarray 347, 3) := dk_189 1 91 (dk_at dksX1_breakDown_1 20 rfl rfl)
theorem dX1_breakDown_46 : decode cX1_breakDown 46 = .ok (.astore_n 3, 1) := dk_78 (dk_at dksX1_breakDown_1 23 rfl rfl)
theorem dX1_breakDown_47 : decode cX1_breakDown 47 = .ok (.iconst 0, 1) := dk_3 (dk_at dksX1_breakDown_2 0 rfl rfl)
theorem dX1_breakDown_48 : decode cX1_breakDown 48 = .ok (.istore 4, 2) := dk_54 4 (dk_at dksX1_breakDown_2 1 rfl rfl)
theorem dX1_breakDown_50 : decode cX1_breakDown 50 = .ok (.iconst 0, 1) := dk_3 (dk_at dksX1_breakDown_2 3 rfl rfl)
theorem dX1_breakDown_51 : decode cX1_breakDown 51 = .ok (.istore 5, 2) := dk_54 5 (dk_at dksX1_breakDown_2 4 rfl rfl)
theorem dX1_breakDown_53 : decode cX1_breakDown 53 = .ok (.iload 5, 2) := dk_21 5 (dk_at dksX1_breakDown_2 6 rfl rfl)
theorem dX1_breakDown_55 : decode cX1_breakDown 55 = .ok (.aload_n 3, 1) := dk_45 (dk_at dksX1_breakDown_2 8 rfl rfl)
theorem dX1_breakDown_56 : decode cX1_breakDown 56 = .ok (.arraylength, 1) := dk_190 (dk_at dksX1_breakDown_2 9 rfl rfl)
theorem dX1_breakDown_57 : decode cX1_breakDown 57 = .ok (.if_icmp .ge 37, 3) := dk_162 0 37 (dk_at dksX1_breakDown_2 10 rfl rfl)
theorem dX1_breakDown_60 : decode cX1_breakDown 60 = .ok (.aload_n 3, 1) := dk_45 (dk_at dksX1_breakDown_2 13 rfl rfl)
theorem dX1_breakDown_61 : decode cX1_breakDown 61 = .ok (.iload 5, 2) := dk_21 5 (dk_at dksX1_breakDown_2 14 rfl rfl)
theorem dX1_breakDown_63 : decode cX1_breakDown 63 = .ok (.new 347, 3) := dk_187 1 91 (dk_at dksX1_breakDown_2 16 rfl rfl)
theorem dX1_breakDown_66 : decode cX1_breakDown 66 = .ok (.dup, 1) := dk_89 (dk_at dksX1_breakDown_2 19 rfl rfl)
theorem dX1_breakDown_67 : decode cX1_breakDown 67 = .ok (.aload_n 0, 1) := dk_42 (dk_at dksX1_breakDown_2 20 rfl rfl)
theorem dX1_breakDown_68 : decode cX1_breakDown 68 = .ok (.iload 5, 2) := dk_21 5 (dk_at dksX1_breakDown_2 21 rfl rfl)
theorem dX1_breakDown_70 : decode cX1_breakDown 70 = .ok (.iload_n 1, 1) := dk_27 (dk_at dksX1_breakDown_2 23 rfl rfl)
theorem dX1_breakDown_71 : decode cX1_breakDown 71 = .ok (.iload_n 2, 1) := dk_28 (dk_at dksX1_breakDown_3 0 rfl rfl)
theorem dX1_breakDown_72 : decode cX1_breakDown 72 = .ok (.invokespecial 349, 3) := dk_183 1 93 (dk_at dksX1_breakDown_3 1 rfl rfl)
theorem dX1_breakDown_75 : decode cX1_breakDown 75 = .ok (.aastore, 1) := dk_83 (dk_at dksX1_breakDown_3 4 rfl rfl)
theorem dX1_breakDown_76 : decode cX1_breakDown 76 = .ok (.iload 4, 2) := dk_21 4 (dk_at dksX1_breakDown_3 5 rfl rfl)
theorem dX1_breakDown_78 : decode cX1_breakDown 78 = .ok (.aload_n 3, 1) := dk_45 (dk_at dksX1_breakDown_3 7 rfl rfl)
theorem dX1_breakDown_79 : decode cX1_breakDown 79 = .ok (.iload 5, 2) := dk_21 5 (dk_at dksX1_breakDown_3 8 rfl rfl)
theorem dX1_breakDown_81 : decode cX1_breakDown 81 = .ok (.aaload, 1) := dk_50 (dk_at dksX1_breakDown_3 10 rfl rfl)
theorem dX1_breakDown_82 : decode cX1_breakDown 82 = .ok (.getfield 352, 3) := dk_180 1 96 (dk_at dksX1_breakDown_3 11 rfl rfl)
theorem dX1_breakDown_85 : decode cX1_breakDown 85 = .ok (.iadd, 1) := dk_96 (dk_at dksX1_breakDown_3 14 rfl rfl)
theorem dX1_breakDown_86 : decode cX1_breakDown 86 = .ok (.istore 4, 2) := dk_54 4 (dk_at dksX1_breakDown_3 15 rfl rfl)
theorem dX1_breakDown_88 : decode cX1_breakDown 88 = .ok (.iinc 5 1, 3) := dk_132 5 1 (dk_at dksX1_breakDown_3 17 rfl rfl)
theorem dX1_breakDown_91 : decode cX1_breakDown 91 = .ok (.goto (-38), 3) := dk_167 255 218 (dk_at dksX1_breakDown_3 20 rfl rfl)
theorem dX1_breakDown_94 : decode cX1_breakDown 94 = .ok (.iload 4, 2) := dk_21 4 (dk_at dksX1_breakDown_4 0 rfl rfl)
theorem dX1_breakDown_96 : decode cX1_breakDown 96 = .ok (.ifCond .le 197, 3) := dk_158 0 197 (dk_at dksX1_breakDown_4 2 rfl rfl)
theorem dX1_breakDown_99 : decode cX1_breakDown 99 = .ok (.iload_n 2, 1) := dk_28 (dk_at dksX1_breakDown_4 5 rfl rfl)
theorem dX1_breakDown_100 : decode cX1_breakDown 100 = .ok (.istore 5, 2) := dk_54 5 (dk_at dksX1_breakDown_4 6 rfl rfl)
theorem dX1_breakDown_102 : decode cX1_breakDown 102 = .ok (.aload_n 3, 1) := dk_45 (dk_at dksX1_breakDown_4 8 rfl rfl)
theorem dX1_breakDown_103 : decode cX1_breakDown 103 = .ok (.astore 6, 2) := dk_58 6 (dk_at dksX1_breakDown_4 9 rfl rfl)
theorem dX1_breakDown_105 : decode cX1_breakDown 105 = .ok (.aload 6, 2) := dk_25 6 (dk_at dksX1_breakDown_4 11 rfl rfl)
theorem dX1_breakDown_107 : decode cX1_breakDown 107 = .ok (.arraylength, 1) := dk_190 (dk_at dksX1_breakDown_4 13 rfl rfl)
theorem dX1_breakDown_108 : decode cX1_breakDown 108 = .ok (.istore 7, 2) := dk_54 7 (dk_at dksX1_breakDown_4 14 rfl rfl)
theorem dX1_breakDown_110 : decode cX1_breakDown 110 = .ok (.iconst 0, 1) := dk_3 (dk_at dksX1_breakDown_4 16 rfl rfl)
theorem dX1_breakDown_111 : decode cX1_breakDown 111 = .ok (.istore 8, 2) := dk_54 8 (dk_at dksX1_breakDown_4 17 rfl rfl)
theorem dX1_breakDown_113 : decode cX1_breakDown 113 = .ok (.iload 8, 2) := dk_21 8 (dk_at dksX1_breakDown_4 19 rfl rfl)
theorem dX1_breakDown_115 : decode cX1_breakDown 115 = .ok (.iload 7, 2) := dk_21 7 (dk_at dksX1_breakDown_4 21 rfl rfl)
theorem dX1_breakDown_117 : decode cX1_breakDown 117 = .ok (.if_icmp .ge 28, 3) := dk_162 0 28 (dk_at dksX1_breakDown_5 0 rfl rfl)
theorem dX1_breakDown_120 : decode cX1_breakDown 120 = .ok (.aload 6, 2) := dk_25 6 (dk_at dksX1_breakDown_5 3 rfl rfl)
theorem dX1_breakDown_122 : decode cX1_breakDown 122 = .ok (.iload 8, 2) := dk_21 8 (dk_at dksX1_breakDown_5 5 rfl rfl)
theorem dX1_breakDown_124 : decode cX1_breakDown 124 = .ok (.aaload, 1) := dk_50 (dk_at dksX1_breakDown_5 7 rfl rfl)
theorem dX1_breakDown_125 : decode cX1_breakDown 125 = .ok (.astore 9, 2) := dk_58 9 (dk_at dksX1_breakDown_5 8 rfl rfl)
theorem dX1_breakDown_127 : decode cX1_breakDown 127 = .ok (.iload 5, 2) := dk_21 5 (dk_at dksX1_breakDown_5 10 rfl rfl)
theorem dX1_breakDown_129 : decode cX1_breakDown 129 = .ok (.aload 9, 2) := dk_25 9 (dk_at dksX1_breakDown_5 12 rfl rfl)
theorem dX1_breakDown_131 : decode cX1_breakDown 131 = .ok (.iload 4, 2) := dk_21 4 (dk_at dksX1_breakDown_5 14 rfl rfl)
theorem dX1_breakDown_133 : decode cX1_breakDown 133 = .ok (.invokevirtual 353, 3) := dk_182 1 97 (dk_at dksX1_breakDown_5 16 rfl rfl)
theorem dX1_breakDown_136 : decode cX1_breakDown 136 = .ok (.isub, 1) := dk_100 (dk_at dksX1_breakDown_5 19 rfl rfl)
theorem dX1_breakDown_137 : decode cX1_breakDown 137 = .ok (.istore 5, 2) := dk_54 5 (dk_at dksX1_breakDown_5 20 rfl rfl)
theorem dX1_breakDown_139 : decode cX1_breakDown 139 = .ok (.iinc 8 1, 3) := dk_132 8 1 (dk_at dksX1_breakDown_6 0 rfl rfl)
theorem dX1_breakDown_142 : decode cX1_breakDown 142 = .ok (.goto (-29), 3) := dk_167 255 227 (dk_at dksX1_breakDown_6 3 rfl rfl)
theorem dX1_breakDown_145 : decode cX1_breakDown 145 = .ok (.iload 5, 2) := dk_21 5 (dk_at dksX1_breakDown_6 6 rfl rfl)
theorem dX1_breakDown_147 : decode cX1_breakDown 147 = .ok (.ifCond .le 84, 3) := dk_158 0 84 (dk_at dksX1_breakDown_6 8 rfl rfl)
theorem dX1_breakDown_150 : decode cX1_breakDown 150 = .ok (.aload_n 3, 1) := dk_45 (dk_at dksX1_breakDown_6 11 rfl rfl)
theorem dX1_breakDown_151 : decode cX1_breakDown 151 = .ok (.iconst 0, 1) := dk_3 (dk_at dksX1_breakDown_6 12 rfl rfl)
theorem dX1_breakDown_152 : decode cX1_breakDown 152 = .ok (.aaload, 1) := dk_50 (dk_at dksX1_breakDown_6 13 rfl rfl)
theorem dX1_breakDown_153 : decode cX1_breakDown 153 = .ok (.astore 6, 2) := dk_58 6 (dk_at dksX1_breakDown_6 14 rfl rfl)
theorem dX1_breakDown_155 : decode cX1_breakDown 155 = .ok (.aload_n 3, 1) := dk_45 (dk_at dksX1_breakDown_6 16 rfl rfl)
theorem dX1_breakDown_156 : decode cX1_breakDown 156 = .ok (.astore 7, 2) := dk_58 7 (dk_at dksX1_breakDown_6 17 rfl rfl)
theorem dX1_breakDown_158 : decode cX1_breakDown 158 = .ok (.aload 7, 2) := dk_25 7 (dk_at dksX1_breakDown_6 19 rfl rfl)
theorem dX1_breakDown_160 : decode cX1_breakDown 160 = .ok (.arraylength, 1) := dk_190 (dk_at dksX1_breakDown_6 21 rfl rfl)
theorem dX1_breakDown_161 : decode cX1_breakDown 161 = .ok (.istore 8, 2) := dk_54 8 (dk_at dksX1_breakDown_6 22 rfl rfl)
theorem dX1_breakDown_163 : decode cX1_breakDown 163 = .ok (.iconst 0, 1) := dk_3 (dk_at dksX1_breakDown_7 0 rfl rfl)
theorem dX1_breakDown_164 : decode cX1_breakDown 164 = .ok (.istore 9, 2) := dk_54 9 (dk_at dksX1_breakDown_7 1 rfl rfl)
theorem dX1_breakDown_166 : decode cX1_breakDown 166 = .ok (.iload 9, 2) := dk_21 9 (dk_at dksX1_breakDown_7 3 rfl rfl)
theorem dX1_breakDown_168 : decode cX1_breakDown 168 = .ok (.iload 8, 2) := dk_21 8 (dk_at dksX1_breakDown_7 5 rfl rfl)
theorem dX1_breakDown_170 : decode cX1_breakDown 170 = .ok (.if_icmp .ge 38, 3) := dk_162 0 38 (dk_at dksX1_breakDown_7 7 rfl rfl)
theorem dX1_breakDown_173 : decode cX1_breakDown 173 = .ok (.aload 7, 2) := dk_25 7 (dk_at dksX1_breakDown_7 10 rfl rfl)
theorem dX1_breakDown_175 : decode cX1_breakDown 175 = .ok (.iload 9, 2) := dk_21 9 (dk_at dksX1_breakDown_7 12 rfl rfl)
theorem dX1_breakDown_177 : decode cX1_breakDown 177 = .ok (.aaload, 1) := dk_50 (dk_at dksX1_breakDown_7 14 rfl rfl)
theorem dX1_breakDown_178 : decode cX1_breakDown 178 = .ok (.astore 10, 2) := dk_58 10 (dk_at dksX1_breakDown_7 15 rfl rfl)
theorem dX1_breakDown_180 : decode cX1_breakDown 180 = .ok (.aload 10, 2) := dk_25 10 (dk_at dksX1_breakDown_7 17 rfl rfl)
theorem dX1_breakDown_182 : decode cX1_breakDown 182 = .ok (.getfield 356, 3) := dk_180 1 100 (dk_at dksX1_breakDown_7 19 rfl rfl)
theorem dX1_breakDown_185 : decode cX1_breakDown 185 = .ok (.aload 6, 2) := dk_25 6 (dk_at dksX1_breakDown_7 22 rfl rfl)
theorem dX1_breakDown_187 : decode cX1_breakDown 187 = .ok (.getfield 356, 3) := dk_180 1 100 (dk_at dksX1_breakDown_8 0 rfl rfl)
theorem dX1_breakDown_190 : decode cX1_breakDown 190 = .ok (.if_icmp .le 8, 3) := dk_164 0 8 (dk_at dksX1_breakDown_8 3 rfl rfl)
theorem dX1_breakDown_193 : decode cX1_breakDown 193 = .ok (.aload 10, 2) := dk_25 10 (dk_at dksX1_breakDown_8 6 rfl rfl)
theorem dX1_breakDown_195 : decode cX1_breakDown 195 = .ok (.goto 5, 3) := dk_167 0 5 (dk_at dksX1_breakDown_8 8 rfl rfl)
theorem dX1_breakDown_198 : decode cX1_breakDown 198 = .ok (.aload 6, 2) := dk_25 6 (dk_at dksX1_breakDown_8 11 rfl rfl)
theorem dX1_breakDown_200 : decode cX1_breakDown 200 = .ok (.astore 6, 2) := dk_58 6 (dk_at dksX1_breakDown_8 13 rfl rfl)
theorem dX1_breakDown_202 : decode cX1_breakDown 202 = .ok (.iinc 9 1, 3) := dk_132 9 1 (dk_at dksX1_breakDown_8 15 rfl rfl)
theorem dX1_breakDown_205 : decode cX1_breakDown 205 = .ok (.goto (-39), 3) := dk_167 255 217 (dk_at dksX1_breakDown_8 18 rfl rfl)
theorem dX1_breakDown_208 : decode cX1_breakDown 208 = .ok (.aload 6, 2) := dk_25 6 (dk_at dksX1_breakDown_8 21 rfl rfl)
theorem dX1_breakDown_210 : decode cX1_breakDown 210 = .ok (.dup, 1) := dk_89 (dk_at dksX1_breakDown_8 23 rfl rfl)
theorem dX1_breakDown_211 : decode cX1_breakDown 211 = .ok (.getfield 359, 3) := dk_180 1 103 (dk_at dksX1_breakDown_9 0 rfl rfl)
theorem dX1_breakDown_214 : decode cX1_breakDown 214 = .ok (.iconst 1, 1) := dk_4 (dk_at dksX1_breakDown_9 3 rfl rfl)
theorem dX1_breakDown_215 : decode cX1_breakDown 215 = .ok (.iadd, 1) := dk_96 (dk_at dksX1_breakDown_9 4 rfl rfl)
theorem dX1_breakDown_216 : decode cX1_breakDown 216 = .ok (.putfield 359, 3) := dk_181 1 103 (dk_at dksX1_breakDown_9 5 rfl rfl)
theorem dX1_breakDown_219 : decode cX1_breakDown 219 = .ok (.aload 6, 2) := dk_25 6 (dk_at dksX1_breakDown_9 8 rfl rfl)
theorem dX1_breakDown_221 : decode cX1_breakDown 221 = .ok (.iconst (-1), 1) := dk_2 (dk_at dksX1_breakDown_9 10 rfl rfl)
theorem dX1_breakDown_222 : decode cX1_breakDown 222 = .ok (.putfield 356, 3) := dk_181 1 100 (dk_at dksX1_breakDown_9 11 rfl rfl)
theorem dX1_breakDown_225 : decode cX1_breakDown 225 = .ok (.iinc 5 (-1), 3) := dk_132 5 255 (dk_at dksX1_breakDown_9 14 rfl rfl)
theorem dX1_breakDown_228 : decode cX1_breakDown 228 = .ok (.goto (-83), 3) := dk_167 255 173 (dk_at dksX1_breakDown_9 17 rfl rfl)
theorem dX1_breakDown_231 : decode cX1_breakDown 231 = .ok (.iconst 0, 1) := dk_3 (dk_at dksX1_breakDown_9 20 rfl rfl)
theorem dX1_breakDown_232 : decode cX1_breakDown 232 = .ok (.istore 6, 2) := dk_54 6 (dk_at dksX1_breakDown_9 21 rfl rfl)
theorem dX1_breakDown_234 : decode cX1_breakDown 234 = .ok (.iload 6, 2) := dk_21 6 (dk_at dksX1_breakDown_10 0 rfl rfl)
theorem dX1_breakDown_236 : decode cX1_breakDown 236 = .ok (.aload_n 3, 1) := dk_45 (dk_at dksX1_breakDown_10 2 rfl rfl)
theorem dX1_breakDown_237 : decode cX1_breakDown 237 = .ok (.arraylength, 1) := dk_190 (dk_at dksX1_breakDown_10 3 rfl rfl)
theorem dX1_breakDown_238 : decode cX1_breakDown 238 = .ok (.if_icmp .ge 55, 3) := dk_162 0 55 (dk_at dksX1_breakDown_10 4 rfl rfl)
theorem dX1_breakDown_241 : decode cX1_breakDown 241 = .ok (.aload_n 0, 1) := dk_42 (dk_at dksX1_breakDown_10 7 rfl rfl)
theorem dX1_breakDown_242 : decode cX1_breakDown 242 = .ok (.getfield 71, 3) := dk_180 0 71 (dk_at dksX1_breakDown_10 8 rfl rfl)
theorem dX1_breakDown_245 : decode cX1_breakDown 245 = .ok (.aload_n 0, 1) := dk_42 (dk_at dksX1_breakDown_10 11 rfl rfl)
theorem dX1_breakDown_246 : decode cX1_breakDown 246 = .ok (.getfield 344, 3) := dk_180 1 88 (dk_at dksX1_breakDown_10 12 rfl rfl)
theorem dX1_breakDown_249 : decode cX1_breakDown 249 = .ok (.aaload, 1) := dk_50 (dk_at dksX1_breakDown_10 15 rfl rfl)
theorem dX1_breakDown_250 : decode cX1_breakDown 250 = .ok (.iload 6, 2) := dk_21 6 (dk_at dksX1_breakDown_10 16 rfl rfl)
theorem dX1_breakDown_252 : decode cX1_breakDown 252 = .ok (.aload_n 3, 1) := dk_45 (dk_at dksX1_breakDown_10 18 rfl rfl)
theorem dX1_breakDown_253 : decode cX1_breakDown 253 = .ok (.iload 6, 2) := dk_21 6 (dk_at dksX1_breakDown_10 19 rfl rfl)
theorem dX1_breakDown_255 : decode cX1_breakDown 255 = .ok (.aaload, 1) := dk_50 (dk_at dksX1_breakDown_10 21 rfl rfl)
theorem dX1_breakDown_256 : decode cX1_breakDown 256 = .ok (.getfield 359, 3) := dk_180 1 103 (dk_at dksX1_breakDown_11 0 rfl rfl)
theorem dX1_breakDown_259 : decode cX1_breakDown 259 = .ok (.iastore, 1) := dk_79 (dk_at dksX1_breakDown_11 3 rfl rfl)
theorem dX1_breakDown_260 : decode cX1_breakDown 260 = .ok (.aload_n 0, 1) := dk_42 (dk_at dksX1_breakDown_11 4 rfl rfl)
theorem dX1_breakDown_261 : decode cX1_breakDown 261 = .ok (.getfield 33, 3) := dk_180 0 33 (dk_at dksX1_breakDown_11 5 rfl rfl)
theorem dX1_breakDown_264 : decode cX1_breakDown 264 = .ok (.iload 6, 2) := dk_21 6 (dk_at dksX1_breakDown_11 8 rfl rfl)
theorem dX1_breakDown_266 : decode cX1_breakDown 266 = .ok (.invokevirtual 122, 3) := dk_182 0 122 (dk_at dksX1_breakDown_11 10 rfl rfl)
theorem dX1_breakDown_269 : decode cX1_breakDown 269 = .ok (.checkcast 132, 3) := dk_192 0 132 (dk_at dksX1_breakDown_11 13 rfl rfl)
theorem dX1_breakDown_272 : decode cX1_breakDown 272 = .ok (.dup, 1) := dk_89 (dk_at dksX1_breakDown_11 16 rfl rfl)
theorem dX1_breakDown_273 : decode cX1_breakDown 273 = .ok (.getfield 362, 3) := dk_180 1 106 (dk_at dksX1_breakDown_11 17 rfl rfl)
theorem dX1_breakDown_276 : decode cX1_breakDown 276 = .ok (.aload_n 3, 1) := dk_45 (dk_at dksX1_breakDown_11 20 rfl rfl)
theorem dX1_breakDown_277 : decode cX1_breakDown 277 = .ok (.iload 6, 2) := dk_21 6 (dk_at dksX1_breakDown_11 21 rfl rfl)
theorem dX1_breakDown_279 : decode cX1_breakDown 279 = .ok (.aaload, 1) := dk_50 (dk_at dksX1_breakDown_11 23 rfl rfl)
theorem dX1_breakDown_280 : decode cX1_breakDown 280 = .ok (.getfield 359, 3) := dk_180 1 103 (dk_at dksX1_breakDown_12 0 rfl rfl)
theorem dX1_breakDown_283 : decode cX1_breakDown 283 = .ok (.iadd, 1) := dk_96 (dk_at dksX1_breakDown_12 3 rfl rfl)
theorem dX1_breakDown_284 : decode cX1_breakDown 284 = .ok (.putfield 362, 3) := dk_181 1 106 (dk_at dksX1_breakDown_12 4 rfl rfl)
theorem dX1_breakDown_287 : decode cX1_breakDown 287 = .ok (.iinc 6 1, 3) := dk_132 6 1 (dk_at dksX1_breakDown_12 7 rfl rfl)
theorem dX1_breakDown_290 : decode cX1_breakDown 290 = .ok (.goto (-56), 3) := dk_167 255 200 (dk_at dksX1_breakDown_12 10 rfl rfl)
theorem dX1_breakDown_293 : decode cX1_breakDown 293 = .ok (.aload_n 0, 1) := dk_42 (dk_at dksX1_breakDown_12 13 rfl rfl)
theorem dX1_breakDown_294 : decode cX1_breakDown 294 = .ok (.dup, 1) := dk_89 (dk_at dksX1_breakDown_12 14 rfl rfl)
theorem dX1_breakDown_295 : decode cX1_breakDown 295 = .ok (.getfield 344, 3) := dk_180 1 88 (dk_at dksX1_breakDown_12 15 rfl rfl)
theorem dX1_breakDown_298 : decode cX1_breakDown 298 = .ok (.iconst 1, 1) := dk_4 (dk_at dksX1_breakDown_12 18 rfl rfl)
theorem dX1_breakDown_299 : decode cX1_breakDown 299 = .ok (.iadd, 1) := dk_96 (dk_at dksX1_breakDown_12 19 rfl rfl)
theorem dX1_breakDown_300 : decode cX1_breakDown 300 = .ok (.putfield 344, 3) := dk_181 1 88 (dk_at dksX1_breakDown_12 20 rfl rfl)
theorem dX1_breakDown_303 : decode cX1_breakDown 303 = .ok (.iload 4, 2) := dk_21 4 (dk_at dksX1_breakDown_13 0 rfl rfl)
theorem dX1_breakDown_305 : decode cX1_breakDown 305 = .ok (.ireturn, 1) := dk_172 (dk_at dksX1_breakDown_13 2 rfl rfl)
abbrev cX1_shareOf : ByteArray := prog_1_method_67_code
def yX1_shareOf : MethodName := ⟨RX1, "shareOf", "(II)I"⟩
def dkwX1_shareOf_1 : List UInt8 := [180, 0, 71, 27, 50, 28, 46, 172]
abbrev dktX1_shareOf_1 : List UInt8 := dkwX1_shareOf_1 ++ []
def dkwX1_shareOf_0 : List UInt8 := [27, 3, 42, 180, 1, 88, 4, 100, 184, 0, 90, 184, 1, 19, 42, 28, 182, 0, 235, 184, 0, 238, 42]
abbrev dktX1_shareOf_0 : List UInt8 := dkwX1_shareOf_0 ++ dktX1_shareOf_1
theorem dksX1_shareOf_0 : cX1_shareOf.data.toList.drop 0 = dktX1_shareOf_0 := by decide +kernel
theorem dksX1_shareOf_1 : cX1_shareOf.data.toList.drop 23 = dktX1_shareOf_1 := dk_seg dksX1_shareOf_0 23 rfl rfl
theorem dX1_shareOf_0 : decode cX1_shareOf 0 = .ok (.iload_n 1, 1) := dk_27 (dk_at dksX1_shareOf_0 0 rfl rfl)
theorem dX1_shareOf_1 : decode cX1_shareOf 1 = .ok (.iconst 0, 1) := dk_3 (dk_at dksX1_shareOf_0 1 rfl rfl)
theorem dX1_shareOf_2 : decode cX1_shareOf 2 = .ok (.aload_n 0, 1) := dk_42 (dk_at dksX1_shareOf_0 2 rfl rfl)
theorem dX1_shareOf_3 : decode cX1_shareOf 3 = .ok (.getfield 344, 3) := dk_180 1 88 (dk_at dksX1_shareOf_0 3 rfl rfl)
theorem dX1_shareOf_6 : decode cX1_shareOf 6 = .ok (.iconst 1, 1) := dk_4 (dk_at dksX1_shareOf_0 6 rfl rfl)
theorem dX1_shareOf_7 : decode cX1_shareOf 7 = .ok (.isub, 1) := dk_100 (dk_at dksX1_shareOf_0 7 rfl rfl)
theorem dX1_shareOf_8 : decode cX1_shareOf 8 = .ok (.invokestatic 90, 3) := dk_184 0 90 (dk_at dksX1_shareOf_0 8 rfl rfl)
theorem dX1_shareOf_11 : decode cX1_shareOf 11 = .ok (.invokestatic 275, 3) := dk_184 1 19 (dk_at dksX1_shareOf_0 11 rfl rfl)
theorem dX1_shareOf_14 : decode cX1_shareOf 14 = .ok (.aload_n 0, 1) := dk_42 (dk_at dksX1_shareOf_0 14 rfl rfl)
theorem dX1_shareOf_15 : decode cX1_shareOf 15 = .ok (.iload_n 2, 1) := dk_28 (dk_at dksX1_shareOf_0 15 rfl rfl)
theorem dX1_shareOf_16 : decode cX1_shareOf 16 = .ok (.invokevirtual 235, 3) := dk_182 0 235 (dk_at dksX1_shareOf_0 16 rfl rfl)
theorem dX1_shareOf_19 : decode cX1_shareOf 19 = .ok (.invokestatic 238, 3) := dk_184 0 238 (dk_at dksX1_shareOf_0 19 rfl rfl)
theorem dX1_shareOf_22 : decode cX1_shareOf 22 = .ok (.aload_n 0, 1) := dk_42 (dk_at dksX1_shareOf_0 22 rfl rfl)
theorem dX1_shareOf_23 : decode cX1_shareOf 23 = .ok (.getfield 71, 3) := dk_180 0 71 (dk_at dksX1_shareOf_1 0 rfl rfl)
theorem dX1_shareOf_26 : decode cX1_shareOf 26 = .ok (.iload_n 1, 1) := dk_27 (dk_at dksX1_shareOf_1 3 rfl rfl)
theorem dX1_shareOf_27 : decode cX1_shareOf 27 = .ok (.aaload, 1) := dk_50 (dk_at dksX1_shareOf_1 4 rfl rfl)
theorem dX1_shareOf_28 : decode cX1_shareOf 28 = .ok (.iload_n 2, 1) := dk_28 (dk_at dksX1_shareOf_1 5 rfl rfl)
theorem dX1_shareOf_29 : decode cX1_shareOf 29 = .ok (.iaload, 1) := dk_46 (dk_at dksX1_shareOf_1 6 rfl rfl)
theorem dX1_shareOf_30 : decode cX1_shareOf 30 = .ok (.ireturn, 1) := dk_172 (dk_at dksX1_shareOf_1 7 rfl rfl)
abbrev cX1_pay : ByteArray := prog_1_method_68_code
def yX1_pay : MethodName := ⟨RX1, "pay", "(II)I"⟩
def dkwX1_pay_2 : List UInt8 := [184, 0, 98, 45, 89, 180, 1, 110, 28, 96, 181, 1, 110, 45, 182, 1, 114, 172]
abbrev dktX1_pay_2 : List UInt8 := dkwX1_pay_2 ++ []
def dkwX1_pay_1 : List UInt8 := [182, 0, 122, 192, 0, 132, 78, 45, 180, 1, 110, 19, 1, 113, 28, 100, 163, 0, 7, 4, 167, 0, 4, 3]
abbrev dktX1_pay_1 : List UInt8 := dkwX1_pay_1 ++ dktX1_pay_2
def dkwX1_pay_0 : List UInt8 := [42, 27, 182, 0, 235, 184, 0, 238, 28, 4, 19, 1, 109, 184, 0, 90, 184, 0, 94, 42, 180, 0, 33, 27]
abbrev dktX1_pay_0 : List UInt8 := dkwX1_pay_0 ++ dktX1_pay_1
theorem dksX1_pay_0 : cX1_pay.data.toList.drop 0 = dktX1_pay_0 := by decide +kernel
theorem dksX1_pay_1 : cX1_pay.data.toList.drop 24 = dktX1_pay_1 := dk_seg dksX1_pay_0 24 rfl rfl
theorem dksX1_pay_2 : cX1_pay.data.toList.drop 48 = dktX1_pay_2 := dk_seg dksX1_pay_1 24 rfl rfl
theorem dX1_pay_0 : decode cX1_pay 0 = .ok (.aload_n 0, 1) := dk_42 (dk_at dksX1_pay_0 0 rfl rfl)
theorem dX1_pay_1 : decode cX1_pay 1 = .ok (.iload_n 1, 1) := dk_27 (dk_at dksX1_pay_0 1 rfl rfl)
theorem dX1_pay_2 : decode cX1_pay 2 = .ok (.invokevirtual 235, 3) := dk_182 0 235 (dk_at dksX1_pay_0 2 rfl rfl)
theorem dX1_pay_5 : decode cX1_pay 5 = .ok (.invokestatic 238, 3) := dk_184 0 238 (dk_at dksX1_pay_0 5 rfl rfl)
theorem dX1_pay_8 : decode cX1_pay 8 = .ok (.iload_n 2, 1) := dk_28 (dk_at dksX1_pay_0 8 rfl rfl)
theorem dX1_pay_9 : decode cX1_pay 9 = .ok (.iconst 1, 1) := dk_4 (dk_at dksX1_pay_0 9 rfl rfl)
theorem dX1_pay_10 : decode cX1_pay 10 = .ok (.ldc_w 365, 3) := dk_19 1 109 (dk_at dksX1_pay_0 10 rfl rfl)
theorem dX1_pay_13 : decode cX1_pay 13 = .ok (.invokestatic 90, 3) := dk_184 0 90 (dk_at dksX1_pay_0 13 rfl rfl)
theorem dX1_pay_16 : decode cX1_pay 16 = .ok (.invokestatic 94, 3) := dk_184 0 94 (dk_at dksX1_pay_0 16 rfl rfl)
theorem dX1_pay_19 : decode cX1_pay 19 = .ok (.aload_n 0, 1) := dk_42 (dk_at dksX1_pay_0 19 rfl rfl)
theorem dX1_pay_20 : decode cX1_pay 20 = .ok (.getfield 33, 3) := dk_180 0 33 (dk_at dksX1_pay_0 20 rfl rfl)
theorem dX1_pay_23 : decode cX1_pay 23 = .ok (.iload_n 1, 1) := dk_27 (dk_at dksX1_pay_0 23 rfl rfl)
theorem dX1_pay_24 : decode cX1_pay 24 = .ok (.invokevirtual 122, 3) := dk_182 0 122 (dk_at dksX1_pay_1 0 rfl rfl)
theorem dX1_pay_27 : decode cX1_pay 27 = .ok (.checkcast 132, 3) := dk_192 0 132 (dk_at dksX1_pay_1 3 rfl rfl)
theorem dX1_pay_30 : decode cX1_pay 30 = .ok (.astore_n 3, 1) := dk_78 (dk_at dksX1_pay_1 6 rfl rfl)
theorem dX1_pay_31 : decode cX1_pay 31 = .ok (.aload_n 3, 1) := dk_45 (dk_at dksX1_pay_1 7 rfl rfl)
theorem dX1_pay_32 : decode cX1_pay 32 = .ok (.getfield 366, 3) := dk_180 1 110 (dk_at dksX1_pay_1 8 rfl rfl)
theorem dX1_pay_35 : decode cX1_pay 35 = .ok (.ldc_w 369, 3) := dk_19 1 113 (dk_at dksX1_pay_1 11 rfl rfl)
theorem dX1_pay_38 : decode cX1_pay 38 = .ok (.iload_n 2, 1) := dk_28 (dk_at dksX1_pay_1 14 rfl rfl)
theorem dX1_pay_39 : decode cX1_pay 39 = .ok (.isub, 1) := dk_100 (dk_at dksX1_pay_1 15 rfl rfl)
theorem dX1_pay_40 : decode cX1_pay 40 = .ok (.if_icmp .gt 7, 3) := dk_163 0 7 (dk_at dksX1_pay_1 16 rfl rfl)
theorem dX1_pay_43 : decode cX1_pay 43 = .ok (.iconst 1, 1) := dk_4 (dk_at dksX1_pay_1 19 rfl rfl)
theorem dX1_pay_44 : decode cX1_pay 44 = .ok (.goto 4, 3) := dk_167 0 4 (dk_at dksX1_pay_1 20 rfl rfl)
theorem dX1_pay_47 : decode cX1_pay 47 = .ok (.iconst 0, 1) := dk_3 (dk_at dksX1_pay_1 23 rfl rfl)
theorem dX1_pay_48 : decode cX1_pay 48 = .ok (.invokestatic 98, 3) := dk_184 0 98 (dk_at dksX1_pay_2 0 rfl rfl)
theorem dX1_pay_51 : decode cX1_pay 51 = .ok (.aload_n 3, 1) := dk_45 (dk_at dksX1_pay_2 3 rfl rfl)
theorem dX1_pay_52 : decode cX1_pay 52 = .ok (.dup, 1) := dk_89 (dk_at dksX1_pay_2 4 rfl rfl)
theorem dX1_pay_53 : decode cX1_pay 53 = .ok (.getfield 366, 3) := dk_180 1 110 (dk_at dksX1_pay_2 5 rfl rfl)
theorem dX1_pay_56 : decode cX1_pay 56 = .ok (.iload_n 2, 1) := dk_28 (dk_at dksX1_pay_2 8 rfl rfl)
theorem dX1_pay_57 : decode cX1_pay 57 = .ok (.iadd, 1) := dk_96 (dk_at dksX1_pay_2 9 rfl rfl)
theorem dX1_pay_58 : decode cX1_pay 58 = .ok (.putfield 366, 3) := dk_181 1 110 (dk_at dksX1_pay_2 10 rfl rfl)
theorem dX1_pay_61 : decode cX1_pay 61 = .ok (.aload_n 3, 1) := dk_45 (dk_at dksX1_pay_2 13 rfl rfl)
theorem dX1_pay_62 : decode cX1_pay 62 = .ok (.invokevirtual 370, 3) := dk_182 1 114 (dk_at dksX1_pay_2 14 rfl rfl)
theorem dX1_pay_65 : decode cX1_pay 65 = .ok (.ireturn, 1) := dk_172 (dk_at dksX1_pay_2 17 rfl rfl)
abbrev cX1_owes : ByteArray := prog_1_method_69_code
def yX1_owes : MethodName := ⟨RX1, "owes", "(I)I"⟩
def dkwX1_owes_0 : List UInt8 := [42, 27, 182, 0, 235, 184, 0, 238, 42, 180, 0, 33, 27, 182, 0, 122, 192, 0, 132, 182, 1, 114, 172]
abbrev dktX1_owes_0 : List UInt8 := dkwX1_owes_0 ++ []
theorem dksX1_owes_0 : cX1_owes.data.toList.drop 0 = dktX1_owes_0 := by decide +kernel
theorem dX1_owes_0 : decode cX1_owes 0 = .ok (.aload_n 0, 1) := dk_42 (dk_at dksX1_owes_0 0 rfl rfl)
theorem dX1_owes_1 : decode cX1_owes 1 = .ok (.iload_n 1, 1) := dk_27 (dk_at dksX1_owes_0 1 rfl rfl)
theorem dX1_owes_2 : decode cX1_owes 2 = .ok (.invokevirtual 235, 3) := dk_182 0 235 (dk_at dksX1_owes_0 2 rfl rfl)
theorem dX1_owes_5 : decode cX1_owes 5 = .ok (.invokestatic 238, 3) := dk_184 0 238 (dk_at dksX1_owes_0 5 rfl rfl)
theorem dX1_owes_8 : decode cX1_owes 8 = .ok (.aload_n 0, 1) := dk_42 (dk_at dksX1_owes_0 8 rfl rfl)
theorem dX1_owes_9 : decode cX1_owes 9 = .ok (.getfield 33, 3) := dk_180 0 33 (dk_at dksX1_owes_0 9 rfl rfl)
theorem dX1_owes_12 : decode cX1_owes 12 = .ok (.iload_n 1, 1) := dk_27 (dk_at dksX1_owes_0 12 rfl rfl)
theorem dX1_owes_13 : decode cX1_owes 13 = .ok (.invokevirtual 122, 3) := dk_182 0 122 (dk_at dksX1_owes_0 13 rfl rfl)
theorem dX1_owes_16 : decode cX1_owes 16 = .ok (.checkcast 132, 3) := dk_192 0 132 (dk_at dksX1_owes_0 16 rfl rfl)
theorem dX1_owes_19 : decode cX1_owes 19 = .ok (.invokevirtual 370, 3) := dk_182 1 114 (dk_at dksX1_owes_0 19 rfl rfl)
theorem dX1_owes_22 : decode cX1_owes 22 = .ok (.ireturn, 1) := dk_172 (dk_at dksX1_owes_0 22 rfl rfl)
abbrev cX1_owesByEntries : ByteArray := prog_1_method_71_code
def yX1_owesByEntries : MethodName := ⟨RX1, "owesByEntries", "(I)I"⟩
def dkwX1_owesByEntries_0 : List UInt8 := [42, 27, 182, 0, 235, 184, 0, 238, 42, 27, 182, 1, 119, 172]
abbrev dktX1_owesByEntries_0 : List UInt8 := dkwX1_owesByEntries_0 ++ []
theorem dksX1_owesByEntries_0 : cX1_owesByEntries.data.toList.drop 0 = dktX1_owesByEntries_0 := by decide +kernel
theorem dX1_owesByEntries_0 : decode cX1_owesByEntries 0 = .ok (.aload_n 0, 1) := dk_42 (dk_at dksX1_owesByEntries_0 0 rfl rfl)
theorem dX1_owesByEntries_1 : decode cX1_owesByEntries 1 = .ok (.iload_n 1, 1) := dk_27 (dk_at dksX1_owesByEntries_0 1 rfl rfl)
theorem dX1_owesByEntries_2 : decode cX1_owesByEntries 2 = .ok (.invokevirtual 235, 3) := dk_182 0 235 (dk_at dksX1_owesByEntries_0 2 rfl rfl)
theorem dX1_owesByEntries_5 : decode cX1_owesByEntries 5 = .ok (.invokestatic 238, 3) := dk_184 0 238 (dk_at dksX1_owesByEntries_0 5 rfl rfl)
theorem dX1_owesByEntries_8 : decode cX1_owesByEntries 8 = .ok (.aload_n 0, 1) := dk_42 (dk_at dksX1_owesByEntries_0 8 rfl rfl)
theorem dX1_owesByEntries_9 : decode cX1_owesByEntries 9 = .ok (.iload_n 1, 1) := dk_27 (dk_at dksX1_owesByEntries_0 9 rfl rfl)
theorem dX1_owesByEntries_10 : decode cX1_owesByEntries 10 = .ok (.invokevirtual 375, 3) := dk_182 1 119 (dk_at dksX1_owesByEntries_0 10 rfl rfl)
theorem dX1_owesByEntries_13 : decode cX1_owesByEntries 13 = .ok (.ireturn, 1) := dk_172 (dk_at dksX1_owesByEntries_0 13 rfl rfl)
abbrev cX1_dueOf : ByteArray := prog_1_method_72_code
def yX1_dueOf : MethodName := ⟨RX1, "dueOf", "(I)I"⟩
def dkwX1_dueOf_0 : List UInt8 := [42, 27, 182, 1, 22, 180, 1, 116, 172]
abbrev dktX1_dueOf_0 : List UInt8 := dkwX1_dueOf_0 ++ []
theorem dksX1_dueOf_0 : cX1_dueOf.data.toList.drop 0 = dktX1_dueOf_0 := by decide +kernel
theorem dX1_dueOf_0 : decode cX1_dueOf 0 = .ok (.aload_n 0, 1) := dk_42 (dk_at dksX1_dueOf_0 0 rfl rfl)
theorem dX1_dueOf_1 : decode cX1_dueOf 1 = .ok (.iload_n 1, 1) := dk_27 (dk_at dksX1_dueOf_0 1 rfl rfl)
theorem dX1_dueOf_2 : decode cX1_dueOf 2 = .ok (.invokevirtual 278, 3) := dk_182 1 22 (dk_at dksX1_dueOf_0 2 rfl rfl)
theorem dX1_dueOf_5 : decode cX1_dueOf 5 = .ok (.getfield 372, 3) := dk_180 1 116 (dk_at dksX1_dueOf_0 5 rfl rfl)
theorem dX1_dueOf_8 : decode cX1_dueOf 8 = .ok (.ireturn, 1) := dk_172 (dk_at dksX1_dueOf_0 8 rfl rfl)
abbrev cX1_use : ByteArray := prog_1_method_57_code
def yX1_use : MethodName := ⟨RX1, "use", "(II)F"⟩
def dkwX1_use_0 : List UInt8 := [42, 27, 28, 182, 1, 35, 42, 27, 28, 182, 1, 43, 134, 19, 1, 57, 110, 174]
abbrev dktX1_use_0 : List UInt8 := dkwX1_use_0 ++ []
theorem dksX1_use_0 : cX1_use.data.toList.drop 0 = dktX1_use_0 := by decide +kernel
theorem dX1_use_0 : decode cX1_use 0 = .ok (.aload_n 0, 1) := dk_42 (dk_at dksX1_use_0 0 rfl rfl)
theorem dX1_use_1 : decode cX1_use 1 = .ok (.iload_n 1, 1) := dk_27 (dk_at dksX1_use_0 1 rfl rfl)
theorem dX1_use_2 : decode cX1_use 2 = .ok (.iload_n 2, 1) := dk_28 (dk_at dksX1_use_0 2 rfl rfl)
theorem dX1_use_3 : decode cX1_use 3 = .ok (.invokevirtual 291, 3) := dk_182 1 35 (dk_at dksX1_use_0 3 rfl rfl)
theorem dX1_use_6 : decode cX1_use 6 = .ok (.aload_n 0, 1) := dk_42 (dk_at dksX1_use_0 6 rfl rfl)
theorem dX1_use_7 : decode cX1_use 7 = .ok (.iload_n 1, 1) := dk_27 (dk_at dksX1_use_0 7 rfl rfl)
theorem dX1_use_8 : decode cX1_use 8 = .ok (.iload_n 2, 1) := dk_28 (dk_at dksX1_use_0 8 rfl rfl)
theorem dX1_use_9 : decode cX1_use 9 = .ok (.invokevirtual 299, 3) := dk_182 1 43 (dk_at dksX1_use_0 9 rfl rfl)
theorem dX1_use_12 : decode cX1_use 12 = .ok (.i2f, 1) := dk_134 (dk_at dksX1_use_0 12 rfl rfl)
theorem dX1_use_13 : decode cX1_use 13 = .ok (.ldc_w 313, 3) := dk_19 1 57 (dk_at dksX1_use_0 13 rfl rfl)
theorem dX1_use_16 : decode cX1_use 16 = .ok (.fdiv, 1) := dk_110 (dk_at dksX1_use_0 16 rfl rfl)
theorem dX1_use_17 : decode cX1_use 17 = .ok (.freturn, 1) := dk_174 (dk_at dksX1_use_0 17 rfl rfl)
abbrev cX1_meanMinutes : ByteArray := prog_1_method_58_code
def yX1_meanMinutes : MethodName := ⟨RX1, "meanMinutes", "()D"⟩
def dkwX1_meanMinutes_3 : List UInt8 := [187, 1, 12, 89, 183, 1, 14, 191, 27, 135, 28, 135, 111, 175]
abbrev dktX1_meanMinutes_3 : List UInt8 := dkwX1_meanMinutes_3 ++ []
def dkwX1_meanMinutes_2 : List UInt8 := [182, 0, 122, 192, 0, 145, 180, 1, 40, 96, 60, 132, 2, 1, 132, 3, 1, 167, 255, 200, 28, 154, 0, 11]
abbrev dktX1_meanMinutes_2 : List UInt8 := dkwX1_meanMinutes_2 ++ dktX1_meanMinutes_3
def dkwX1_meanMinutes_1 : List UInt8 := [182, 0, 122, 192, 0, 145, 180, 0, 150, 16, 100, 159, 0, 6, 167, 0, 23, 27, 42, 180, 0, 36, 29]
abbrev dktX1_meanMinutes_1 : List UInt8 := dkwX1_meanMinutes_1 ++ dktX1_meanMinutes_2
def dkwX1_meanMinutes_0 : List UInt8 := [3, 60, 3, 61, 3, 62, 29, 42, 180, 0, 36, 182, 0, 141, 162, 0, 51, 42, 180, 0, 36, 29]
abbrev dktX1_meanMinutes_0 : List UInt8 := dkwX1_meanMinutes_0 ++ dktX1_meanMinutes_1
theorem dksX1_meanMinutes_0 : cX1_meanMinutes.data.toList.drop 0 = dktX1_meanMinutes_0 := by decide +kernel
theorem dksX1_meanMinutes_1 : cX1_meanMinutes.data.toList.drop 22 = dktX1_meanMinutes_1 := dk_seg dksX1_meanMinutes_0 22 rfl rfl
theorem dksX1_meanMinutes_2 : cX1_meanMinutes.data.toList.drop 45 = dktX1_meanMinutes_2 := dk_seg dksX1_meanMinutes_1 23 rfl rfl
theorem dksX1_meanMinutes_3 : cX1_meanMinutes.data.toList.drop 69 = dktX1_meanMinutes_3 := dk_seg dksX1_meanMinutes_2 24 rfl rfl
theorem dX1_meanMinutes_0 : decode cX1_meanMinutes 0 = .ok (.iconst 0, 1) := dk_3 (dk_at dksX1_meanMinutes_0 0 rfl rfl)
theorem dX1_meanMinutes_1 : decode cX1_meanMinutes 1 = .ok (.istore_n 1, 1) := dk_60 (dk_at dksX1_meanMinutes_0 1 rfl rfl)
theorem dX1_meanMinutes_2 : decode cX1_meanMinutes 2 = .ok (.iconst 0, 1) := dk_3 (dk_at dksX1_meanMinutes_0 2 rfl rfl)
theorem dX1_meanMinutes_3 : decode cX1_meanMinutes 3 = .ok (.istore_n 2, 1) := dk_61 (dk_at dksX1_meanMinutes_0 3 rfl rfl)
theorem dX1_meanMinutes_4 : decode cX1_meanMinutes 4 = .ok (.iconst 0, 1) := dk_3 (dk_at dksX1_meanMinutes_0 4 rfl rfl)
theorem dX1_meanMinutes_5 : decode cX1_meanMinutes 5 = .ok (.istore_n 3, 1) := dk_62 (dk_at dksX1_meanMinutes_0 5 rfl rfl)
theorem dX1_meanMinutes_6 : decode cX1_meanMinutes 6 = .ok (.iload_n 3, 1) := dk_29 (dk_at dksX1_meanMinutes_0 6 rfl rfl)
theorem dX1_meanMinutes_7 : decode cX1_meanMinutes 7 = .ok (.aload_n 0, 1) := dk_42 (dk_at dksX1_meanMinutes_0 7 rfl rfl)
theorem dX1_meanMinutes_8 : decode cX1_meanMinutes 8 = .ok (.getfield 36, 3) := dk_180 0 36 (dk_at dksX1_meanMinutes_0 8 rfl rfl)
theorem dX1_meanMinutes_11 : decode cX1_meanMinutes 11 = .ok (.invokevirtual 141, 3) := dk_182 0 141 (dk_at dksX1_meanMinutes_0 11 rfl rfl)
theorem dX1_meanMinutes_14 : decode cX1_meanMinutes 14 = .ok (.if_icmp .ge 51, 3) := dk_162 0 51 (dk_at dksX1_meanMinutes_0 14 rfl rfl)
theorem dX1_meanMinutes_17 : decode cX1_meanMinutes 17 = .ok (.aload_n 0, 1) := dk_42 (dk_at dksX1_meanMinutes_0 17 rfl rfl)
theorem dX1_meanMinutes_18 : decode cX1_meanMinutes 18 = .ok (.getfield 36, 3) := dk_180 0 36 (dk_at dksX1_meanMinutes_0 18 rfl rfl)
theorem dX1_meanMinutes_21 : decode cX1_meanMinutes 21 = .ok (.iload_n 3, 1) := dk_29 (dk_at dksX1_meanMinutes_0 21 rfl rfl)
theorem dX1_meanMinutes_22 : decode cX1_meanMinutes 22 = .ok (.invokevirtual 122, 3) := dk_182 0 122 (dk_at dksX1_meanMinutes_1 0 rfl rfl)
theorem dX1_meanMinutes_25 : decode cX1_meanMinutes 25 = .ok (.checkcast 145, 3) := dk_192 0 145 (dk_at dksX1_meanMinutes_1 3 rfl rfl)
theorem dX1_meanMinutes_28 : decode cX1_meanMinutes 28 = .ok (.getfield 150, 3) := dk_180 0 150 (dk_at dksX1_meanMinutes_1 6 rfl rfl)
theorem dX1_meanMinutes_31 : decode cX1_meanMinutes 31 = .ok (.bipush 100, 2) := dk_16 100 (dk_at dksX1_meanMinutes_1 9 rfl rfl)
theorem dX1_meanMinutes_33 : decode cX1_meanMinutes 33 = .ok (.if_icmp .eq 6, 3) := dk_159 0 6 (dk_at dksX1_meanMinutes_1 11 rfl rfl)
theorem dX1_meanMinutes_36 : decode cX1_meanMinutes 36 = .ok (.goto 23, 3) := dk_167 0 23 (dk_at dksX1_meanMinutes_1 14 rfl rfl)
theorem dX1_meanMinutes_39 : decode cX1_meanMinutes 39 = .ok (.iload_n 1, 1) := dk_27 (dk_at dksX1_meanMinutes_1 17 rfl rfl)
theorem dX1_meanMinutes_40 : decode cX1_meanMinutes 40 = .ok (.aload_n 0, 1) := dk_42 (dk_at dksX1_meanMinutes_1 18 rfl rfl)
theorem dX1_meanMinutes_41 : decode cX1_meanMinutes 41 = .ok (.getfield 36, 3) := dk_180 0 36 (dk_at dksX1_meanMinutes_1 19 rfl rfl)
theorem dX1_meanMinutes_44 : decode cX1_meanMinutes 44 = .ok (.iload_n 3, 1) := dk_29 (dk_at dksX1_meanMinutes_1 22 rfl rfl)
theorem dX1_meanMinutes_45 : decode cX1_meanMinutes 45 = .ok (.invokevirtual 122, 3) := dk_182 0 122 (dk_at dksX1_meanMinutes_2 0 rfl rfl)
theorem dX1_meanMinutes_48 : decode cX1_meanMinutes 48 = .ok (.checkcast 145, 3) := dk_192 0 145 (dk_at dksX1_meanMinutes_2 3 rfl rfl)
theorem dX1_meanMinutes_51 : decode cX1_meanMinutes 51 = .ok (.getfield 296, 3) := dk_180 1 40 (dk_at dksX1_meanMinutes_2 6 rfl rfl)
theorem dX1_meanMinutes_54 : decode cX1_meanMinutes 54 = .ok (.iadd, 1) := dk_96 (dk_at dksX1_meanMinutes_2 9 rfl rfl)
theorem dX1_meanMinutes_55 : decode cX1_meanMinutes 55 = .ok (.istore_n 1, 1) := dk_60 (dk_at dksX1_meanMinutes_2 10 rfl rfl)
theorem dX1_meanMinutes_56 : decode cX1_meanMinutes 56 = .ok (.iinc 2 1, 3) := dk_132 2 1 (dk_at dksX1_meanMinutes_2 11 rfl rfl)
theorem dX1_meanMinutes_59 : decode cX1_meanMinutes 59 = .ok (.iinc 3 1, 3) := dk_132 3 1 (dk_at dksX1_meanMinutes_2 14 rfl rfl)
theorem dX1_meanMinutes_62 : decode cX1_meanMinutes 62 = .ok (.goto (-56), 3) := dk_167 255 200 (dk_at dksX1_meanMinutes_2 17 rfl rfl)
theorem dX1_meanMinutes_65 : decode cX1_meanMinutes 65 = .ok (.iload_n 2, 1) := dk_28 (dk_at dksX1_meanMinutes_2 20 rfl rfl)
theorem dX1_meanMinutes_66 : decode cX1_meanMinutes 66 = .ok (.ifCond .ne 11, 3) := dk_154 0 11 (dk_at dksX1_meanMinutes_2 21 rfl rfl)
theorem dX1_meanMinutes_69 : decode cX1_meanMinutes 69 = .ok (.new 268, 3) := dk_187 1 12 (dk_at dksX1_meanMinutes_3 0 rfl rfl)
theorem dX1_meanMinutes_72 : decode cX1_meanMinutes 72 = .ok (.dup, 1) := dk_89 (dk_at dksX1_meanMinutes_3 3 rfl rfl)
theorem dX1_meanMinutes_73 : decode cX1_meanMinutes 73 = .ok (.invokespecial 270, 3) := dk_183 1 14 (dk_at dksX1_meanMinutes_3 4 rfl rfl)
theorem dX1_meanMinutes_76 : decode cX1_meanMinutes 76 = .ok (.athrow, 1) := dk_191 (dk_at dksX1_meanMinutes_3 7 rfl rfl)
theorem dX1_meanMinutes_77 : decode cX1_meanMinutes 77 = .ok (.iload_n 1, 1) := dk_27 (dk_at dksX1_meanMinutes_3 8 rfl rfl)
theorem dX1_meanMinutes_78 : decode cX1_meanMinutes 78 = .ok (.i2d, 1) := dk_135 (dk_at dksX1_meanMinutes_3 9 rfl rfl)
theorem dX1_meanMinutes_79 : decode cX1_meanMinutes 79 = .ok (.iload_n 2, 1) := dk_28 (dk_at dksX1_meanMinutes_3 10 rfl rfl)
theorem dX1_meanMinutes_80 : decode cX1_meanMinutes 80 = .ok (.i2d, 1) := dk_135 (dk_at dksX1_meanMinutes_3 11 rfl rfl)
theorem dX1_meanMinutes_81 : decode cX1_meanMinutes 81 = .ok (.ddiv, 1) := dk_111 (dk_at dksX1_meanMinutes_3 12 rfl rfl)
theorem dX1_meanMinutes_82 : decode cX1_meanMinutes 82 = .ok (.dreturn, 1) := dk_175 (dk_at dksX1_meanMinutes_3 13 rfl rfl)
theorem q56 : (Jvm.Cond.initialized "Lendlathe") ∈ lw_all := lw_g (lw_at lw_m1 1 rfl) rfl
theorem q93 : (Jvm.Cond.instantiable "Lendlathe" (13 : Nat)) ∈ lw_all := lw_g (lw_at lw_m1 38 rfl) rfl
theorem q95 : (Jvm.Cond.instanceMethod ({ cls := "Lendlathe", name := "<init>", desc := "()V" } : Jvm.MethodName)) ∈ lw_all := lw_g (lw_at lw_m1 40 rfl) rfl
theorem q96 : (Jvm.Cond.code ({ cls := "Lendlathe", name := "<init>", desc := "()V" } : Jvm.MethodName) prog_1_method_1_code (3 : Nat) (Option.none : Option Jvm.ClassFile.FieldType)) ∈ lw_all := lw_g (lw_at lw_m1 41 rfl) rfl
theorem q97 : (Jvm.Cond.methodLink "Lendlathe" (1 : Nat) ({ cls := "java/lang/Object", name := "<init>", desc := "()V" } : Jvm.MethodName)) ∈ lw_all := lw_g (lw_at lw_m1 42 rfl) rfl
theorem q100 : (Jvm.Cond.classLink "Lendlathe" (9 : Nat) "Lendlathe$Tariff") ∈ lw_all := lw_g (lw_at lw_m1 45 rfl) rfl
theorem q102 : (Jvm.Cond.classLink "Lendlathe" (19 : Nat) "Lendlathe$1") ∈ lw_all := lw_g (lw_at lw_m1 47 rfl) rfl
theorem q104 : (Jvm.Cond.methodLink "Lendlathe" (21 : Nat) ({ cls := "Lendlathe$1", name := "<init>", desc := "(LLendlathe;)V" } : Jvm.MethodName)) ∈ lw_all := lw_g (lw_at lw_m1 49 rfl) rfl
theorem q113 : (Jvm.Cond.classLink "Lendlathe" (24 : Nat) "java/util/ArrayList") ∈ lw_all := lw_g (lw_at lw_m1 58 rfl) rfl
theorem q115 : (Jvm.Cond.methodLink "Lendlathe" (26 : Nat) ({ cls := "java/util/ArrayList", name := "<init>", desc := "(I)V" } : Jvm.MethodName)) ∈ lw_all := lw_g (lw_at lw_m1 60 rfl) rfl
theorem q457 : (Jvm.Cond.classLink "Lendlathe" (42 : Nat) "[[Z") ∈ lw_all := lw_g (lw_at lw_m2 162 rfl) rfl
theorem q459 : (Jvm.Cond.classLink "Lendlathe" (50 : Nat) "Lendlathe$Walk") ∈ lw_all := lw_g (lw_at lw_m2 164 rfl) rfl
theorem q461 : (Jvm.Cond.methodLinkNest "Lendlathe" (52 : Nat) ({ cls := "Lendlathe$Walk", name := "<init>", desc := "(LLendlathe;)V" } : Jvm.MethodName) "Lendlathe") ∈ lw_tbl := lw_at lw_m2 166 rfl
theorem q481 : (Jvm.Cond.classLink "Lendlathe" (57 : Nat) "Lendlathe$Check") ∈ lw_all := lw_g (lw_at lw_m2 186 rfl) rfl
theorem q483 : (Jvm.Cond.privateMethod ({ cls := "Lendlathe", name := "lacksInduction", desc := "(IIIIIC)Z" } : Jvm.MethodName)) ∈ lw_tbl := lw_at lw_m2 188 rfl
theorem q484 : (Jvm.Cond.instanceMethod ({ cls := "Lendlathe", name := "lacksInduction", desc := "(IIIIIC)Z" } : Jvm.MethodName)) ∈ lw_all := lw_g (lw_at lw_m2 189 rfl) rfl
theorem q485 : (Jvm.Cond.code ({ cls := "Lendlathe", name := "lacksInduction", desc := "(IIIIIC)Z" } : Jvm.MethodName) prog_1_method_17_code (7 : Nat) (Option.some Jvm.ClassFile.FieldType.boolean)) ∈ lw_all := lw_g (lw_at lw_m2 190 rfl) rfl
theorem q486 : (Jvm.Cond.methodLink "Lendlathe" (122 : Nat) ({ cls := "java/util/ArrayList", name := "get", desc := "(I)Ljava/lang/Object;" } : Jvm.MethodName)) ∈ lw_all := lw_g (lw_at lw_m2 191 rfl) rfl
theorem q500 : (Jvm.Cond.classLink "Lendlathe" (132 : Nat) "Lendlathe$Member") ∈ lw_all := lw_g (lw_at lw_m2 205 rfl) rfl
theorem q501 : (Jvm.Cond.classLink "Lendlathe" (126 : Nat) "Lendlathe$Machine") ∈ lw_all := lw_g (lw_at lw_m2 206 rfl) rfl
theorem q502 : (Jvm.Cond.methodLink "Lendlathe" (137 : Nat) ({ cls := "Lendlathe$Member", name := "isLive", desc := "(II)Z" } : Jvm.MethodName)) ∈ lw_all := lw_g (lw_at lw_m2 207 rfl) rfl
theorem q507 : (Jvm.Cond.privateMethod ({ cls := "Lendlathe", name := "isElsewhere", desc := "(IIIIIC)Z" } : Jvm.MethodName)) ∈ lw_tbl := lw_at lw_m2 212 rfl
theorem q508 : (Jvm.Cond.instanceMethod ({ cls := "Lendlathe", name := "isElsewhere", desc := "(IIIIIC)Z" } : Jvm.MethodName)) ∈ lw_all := lw_g (lw_at lw_m2 213 rfl) rfl
theorem q509 : (Jvm.Cond.code ({ cls := "Lendlathe", name := "isElsewhere", desc := "(IIIIIC)Z" } : Jvm.MethodName) prog_1_method_18_code (9 : Nat) (Option.some Jvm.ClassFile.FieldType.boolean)) ∈ lw_all := lw_g (lw_at lw_m2 214 rfl) rfl
theorem q510 : (Jvm.Cond.methodLink "Lendlathe" (141 : Nat) ({ cls := "java/util/ArrayList", name := "size", desc := "()I" } : Jvm.MethodName)) ∈ lw_all := lw_g (lw_at lw_m2 215 rfl) rfl
theorem q514 : (Jvm.Cond.classLink "Lendlathe" (145 : Nat) "Lendlathe$Entry") ∈ lw_all := lw_g (lw_at lw_m2 219 rfl) rfl
theorem q515 : (Jvm.Cond.methodLink "Lendlathe" (157 : Nat) ({ cls := "Lendlathe$Entry", name := "overlaps", desc := "(II)Z" } : Jvm.MethodName)) ∈ lw_all := lw_g (lw_at lw_m2 220 rfl) rfl
theorem q526 : (Jvm.Cond.privateMethod ({ cls := "Lendlathe", name := "isBusy", desc := "(IIIIIC)Z" } : Jvm.MethodName)) ∈ lw_tbl := lw_at lw_m2 231 rfl
theorem q527 : (Jvm.Cond.instanceMethod ({ cls := "Lendlathe", name := "isBusy", desc := "(IIIIIC)Z" } : Jvm.MethodName)) ∈ lw_all := lw_g (lw_at lw_m2 232 rfl) rfl
theorem q528 : (Jvm.Cond.code ({ cls := "Lendlathe", name := "isBusy", desc := "(IIIIIC)Z" } : Jvm.MethodName) prog_1_method_19_code (11 : Nat) (Option.some Jvm.ClassFile.FieldType.boolean)) ∈ lw_all := lw_g (lw_at lw_m2 233 rfl) rfl
theorem q529 : (Jvm.Cond.methodLink "Lendlathe" (160 : Nat) ({ cls := "Lendlathe$Walk", name := "over", desc := "(II)LLendlathe$Walk;" } : Jvm.MethodName)) ∈ lw_all := lw_g (lw_at lw_m2 234 rfl) rfl
theorem q543 : (Jvm.Cond.methodLink "Lendlathe" (164 : Nat) ({ cls := "Lendlathe$Walk", name := "iterator", desc := "()Ljava/util/Iterator;" } : Jvm.MethodName)) ∈ lw_all := lw_g (lw_at lw_m3 8 rfl) rfl
theorem q547 : (Jvm.Cond.interfaceEntry "Lendlathe" (168 : Nat)) ∈ lw_tbl := lw_at lw_m3 12 rfl
theorem q548 : (Jvm.Cond.methodLink "Lendlathe" (168 : Nat) ({ cls := "java/util/Iterator", name := "hasNext", desc := "()Z" } : Jvm.MethodName)) ∈ lw_all := lw_g (lw_at lw_m3 13 rfl) rfl
theorem q557 : (Jvm.Cond.interfaceEntry "Lendlathe" (174 : Nat)) ∈ lw_tbl := lw_at lw_m3 22 rfl
theorem q558 : (Jvm.Cond.methodLink "Lendlathe" (174 : Nat) ({ cls := "java/util/Iterator", name := "next", desc := "()Ljava/lang/Object;" } : Jvm.MethodName)) ∈ lw_all := lw_g (lw_at lw_m3 23 rfl) rfl
theorem q591 : (Jvm.Cond.methodLink "Lendlathe" (184 : Nat) ({ cls := "Lendlathe", name := "setup", desc := "(ICC)I" } : Jvm.MethodName)) ∈ lw_all := lw_g (lw_at lw_m3 56 rfl) rfl
theorem q592 : (Jvm.Cond.privateMethod ({ cls := "Lendlathe", name := "setup", desc := "(ICC)I" } : Jvm.MethodName)) ∈ lw_tbl := lw_at lw_m3 57 rfl
theorem q593 : (Jvm.Cond.instanceMethod ({ cls := "Lendlathe", name := "setup", desc := "(ICC)I" } : Jvm.MethodName)) ∈ lw_all := lw_g (lw_at lw_m3 58 rfl) rfl
theorem q594 : (Jvm.Cond.code ({ cls := "Lendlathe", name := "setup", desc := "(ICC)I" } : Jvm.MethodName) prog_1_method_16_code (4 : Nat) (Option.some Jvm.ClassFile.FieldType.int)) ∈ lw_all := lw_g (lw_at lw_m3 59 rfl) rfl
theorem q595 : (Jvm.Cond.methodLink "Lendlathe" (187 : Nat) ({ cls := "Lendlathe", name := "comesTooSoon", desc := "(LLendlathe$Entry;IC)Z" } : Jvm.MethodName)) ∈ lw_all := lw_g (lw_at lw_m3 60 rfl) rfl
theorem q596 : (Jvm.Cond.privateMethod ({ cls := "Lendlathe", name := "comesTooSoon", desc := "(LLendlathe$Entry;IC)Z" } : Jvm.MethodName)) ∈ lw_tbl := lw_at lw_m3 61 rfl
theorem q597 : (Jvm.Cond.instanceMethod ({ cls := "Lendlathe", name := "comesTooSoon", desc := "(LLendlathe$Entry;IC)Z" } : Jvm.MethodName)) ∈ lw_all := lw_g (lw_at lw_m3 62 rfl) rfl
theorem q598 : (Jvm.Cond.code ({ cls := "Lendlathe", name := "comesTooSoon", desc := "(LLendlathe$Entry;IC)Z" } : Jvm.MethodName) prog_1_method_20_code (4 : Nat) (Option.some Jvm.ClassFile.FieldType.boolean)) ∈ lw_all := lw_g (lw_at lw_m3 63 rfl) rfl
theorem q599 : (Jvm.Cond.methodLink "Lendlathe" (191 : Nat) ({ cls := "Lendlathe$Entry", name := "end", desc := "()I" } : Jvm.MethodName)) ∈ lw_all := lw_g (lw_at lw_m3 64 rfl) rfl
theorem q603 : (Jvm.Cond.classLink "Lendlathe" (69 : Nat) "[[I") ∈ lw_all := lw_g (lw_at lw_m3 68 rfl) rfl
theorem q605 : (Jvm.Cond.fieldLink "Lendlathe" (11 : Nat) "Lendlathe" "tariffs" "[LLendlathe$Tariff;") ∈ lw_all := lw_g (lw_at lw_m3 70 rfl) rfl
theorem q607 : (Jvm.Cond.fieldLink "Lendlathe" (15 : Nat) "Lendlathe" "layers" "[I") ∈ lw_all := lw_g (lw_at lw_m3 72 rfl) rfl
theorem q608 : (Jvm.Cond.fieldLink "Lendlathe" (29 : Nat) "Lendlathe" "machines" "Ljava/util/ArrayList;") ∈ lw_all := lw_g (lw_at lw_m3 73 rfl) rfl
theorem q610 : (Jvm.Cond.fieldLink "Lendlathe" (33 : Nat) "Lendlathe" "members" "Ljava/util/ArrayList;") ∈ lw_all := lw_g (lw_at lw_m3 75 rfl) rfl
theorem q613 : (Jvm.Cond.fieldLink "Lendlathe" (36 : Nat) "Lendlathe" "entries" "Ljava/util/ArrayList;") ∈ lw_all := lw_g (lw_at lw_m3 78 rfl) rfl
theorem q615 : (Jvm.Cond.fieldLink "Lendlathe" (39 : Nat) "Lendlathe" "bars" "Ljava/util/ArrayList;") ∈ lw_all := lw_g (lw_at lw_m3 80 rfl) rfl
theorem q617 : (Jvm.Cond.fieldLink "Lendlathe" (44 : Nat) "Lendlathe" "needs" "[[Z") ∈ lw_all := lw_g (lw_at lw_m3 82 rfl) rfl
theorem q619 : (Jvm.Cond.fieldLink "Lendlathe" (47 : Nat) "Lendlathe" "prices" "[I") ∈ lw_all := lw_g (lw_at lw_m3 84 rfl) rfl
theorem q622 : (Jvm.Cond.fieldLink "Lendlathe" (215 : Nat) "Lendlathe" "day" "I") ∈ lw_all := lw_g (lw_at lw_m3 87 rfl) rfl
theorem q623 : (Jvm.Cond.fieldLink "Lendlathe" (53 : Nat) "Lendlathe" "walk" "LLendlathe$Walk;") ∈ lw_all := lw_g (lw_at lw_m3 88 rfl) rfl
theorem q624 : (Jvm.Cond.fieldLink "Lendlathe" (65 : Nat) "Lendlathe" "checkers" "[LLendlathe$Check;") ∈ lw_all := lw_g (lw_at lw_m3 89 rfl) rfl
theorem q625 : (Jvm.Cond.fieldLink "Lendlathe" (71 : Nat) "Lendlathe" "shares" "[[I") ∈ lw_all := lw_g (lw_at lw_m3 90 rfl) rfl
theorem q626 : (Jvm.Cond.fieldLink "Lendlathe" (344 : Nat) "Lendlathe" "breakages" "I") ∈ lw_all := lw_g (lw_at lw_m3 91 rfl) rfl
theorem q627 : (Jvm.Cond.laysFinal "Lendlathe" "Lendlathe" "tariffs" "[LLendlathe$Tariff;") ∈ lw_all := lw_g (lw_at lw_m3 92 rfl) rfl
theorem q628 : (Jvm.Cond.soleField "Lendlathe" "tariffs") ∈ lw_all := lw_g (lw_at lw_m3 93 rfl) rfl
theorem q629 : (Jvm.Cond.laysFinal "Lendlathe" "Lendlathe" "layers" "[I") ∈ lw_all := lw_g (lw_at lw_m3 94 rfl) rfl
theorem q630 : (Jvm.Cond.soleField "Lendlathe" "layers") ∈ lw_all := lw_g (lw_at lw_m3 95 rfl) rfl
theorem q631 : (Jvm.Cond.laysFinal "Lendlathe" "Lendlathe" "machines" "Ljava/util/ArrayList;") ∈ lw_all := lw_g (lw_at lw_m3 96 rfl) rfl
theorem q632 : (Jvm.Cond.soleField "Lendlathe" "machines") ∈ lw_all := lw_g (lw_at lw_m3 97 rfl) rfl
theorem q633 : (Jvm.Cond.laysFinal "Lendlathe" "Lendlathe" "members" "Ljava/util/ArrayList;") ∈ lw_all := lw_g (lw_at lw_m3 98 rfl) rfl
theorem q634 : (Jvm.Cond.soleField "Lendlathe" "members") ∈ lw_all := lw_g (lw_at lw_m3 99 rfl) rfl
theorem q635 : (Jvm.Cond.laysFinal "Lendlathe" "Lendlathe" "entries" "Ljava/util/ArrayList;") ∈ lw_all := lw_g (lw_at lw_m3 100 rfl) rfl
theorem q636 : (Jvm.Cond.soleField "Lendlathe" "entries") ∈ lw_all := lw_g (lw_at lw_m3 101 rfl) rfl
theorem q637 : (Jvm.Cond.laysFinal "Lendlathe" "Lendlathe" "bars" "Ljava/util/ArrayList;") ∈ lw_all := lw_g (lw_at lw_m3 102 rfl) rfl
theorem q638 : (Jvm.Cond.soleField "Lendlathe" "bars") ∈ lw_all := lw_g (lw_at lw_m3 103 rfl) rfl
theorem q639 : (Jvm.Cond.laysFinal "Lendlathe" "Lendlathe" "needs" "[[Z") ∈ lw_all := lw_g (lw_at lw_m3 104 rfl) rfl
theorem q640 : (Jvm.Cond.soleField "Lendlathe" "needs") ∈ lw_all := lw_g (lw_at lw_m3 105 rfl) rfl
theorem q641 : (Jvm.Cond.laysFinal "Lendlathe" "Lendlathe" "prices" "[I") ∈ lw_all := lw_g (lw_at lw_m3 106 rfl) rfl
theorem q642 : (Jvm.Cond.soleField "Lendlathe" "prices") ∈ lw_all := lw_g (lw_at lw_m3 107 rfl) rfl
theorem q643 : (Jvm.Cond.lays "Lendlathe" "Lendlathe" "day" "I") ∈ lw_all := lw_g (lw_at lw_m3 108 rfl) rfl
theorem q644 : (Jvm.Cond.soleField "Lendlathe" "day") ∈ lw_all := lw_g (lw_at lw_m3 109 rfl) rfl
theorem q645 : (Jvm.Cond.laysFinal "Lendlathe" "Lendlathe" "walk" "LLendlathe$Walk;") ∈ lw_all := lw_g (lw_at lw_m3 110 rfl) rfl
theorem q646 : (Jvm.Cond.soleField "Lendlathe" "walk") ∈ lw_all := lw_g (lw_at lw_m3 111 rfl) rfl
theorem q647 : (Jvm.Cond.laysFinal "Lendlathe" "Lendlathe" "checkers" "[LLendlathe$Check;") ∈ lw_all := lw_g (lw_at lw_m3 112 rfl) rfl
theorem q648 : (Jvm.Cond.soleField "Lendlathe" "checkers") ∈ lw_all := lw_g (lw_at lw_m3 113 rfl) rfl
theorem q649 : (Jvm.Cond.laysFinal "Lendlathe" "Lendlathe" "shares" "[[I") ∈ lw_all := lw_g (lw_at lw_m3 114 rfl) rfl
theorem q650 : (Jvm.Cond.soleField "Lendlathe" "shares") ∈ lw_all := lw_g (lw_at lw_m3 115 rfl) rfl
theorem q651 : (Jvm.Cond.lays "Lendlathe" "Lendlathe" "breakages" "I") ∈ lw_all := lw_g (lw_at lw_m3 116 rfl) rfl
theorem q652 : (Jvm.Cond.soleField "Lendlathe" "breakages") ∈ lw_all := lw_g (lw_at lw_m3 117 rfl) rfl
theorem q653 : (Jvm.Cond.superclass "Lendlathe" "java/lang/Object") ∈ lw_all := lw_g (lw_at lw_m3 118 rfl) rfl
theorem q655 : (Jvm.Cond.instanceMethod ({ cls := "Lendlathe", name := "day", desc := "()I" } : Jvm.MethodName)) ∈ lw_all := lw_g (lw_at lw_m3 120 rfl) rfl
theorem q656 : (Jvm.Cond.selects "Lendlathe" ({ cls := "Lendlathe", name := "day", desc := "()I" } : Jvm.MethodName) ({ cls := "Lendlathe", name := "day", desc := "()I" } : Jvm.MethodName)) ∈ lw_all := lw_g (lw_at lw_m3 121 rfl) rfl
theorem q657 : (Jvm.Cond.code ({ cls := "Lendlathe", name := "day", desc := "()I" } : Jvm.MethodName) prog_1_method_29_code (1 : Nat) (Option.some Jvm.ClassFile.FieldType.int)) ∈ lw_all := lw_g (lw_at lw_m3 122 rfl) rfl
theorem q659 : (Jvm.Cond.instanceMethod ({ cls := "Lendlathe", name := "entries", desc := "()I" } : Jvm.MethodName)) ∈ lw_all := lw_g (lw_at lw_m3 124 rfl) rfl
theorem q660 : (Jvm.Cond.selects "Lendlathe" ({ cls := "Lendlathe", name := "entries", desc := "()I" } : Jvm.MethodName) ({ cls := "Lendlathe", name := "entries", desc := "()I" } : Jvm.MethodName)) ∈ lw_all := lw_g (lw_at lw_m3 125 rfl) rfl
theorem q661 : (Jvm.Cond.code ({ cls := "Lendlathe", name := "entries", desc := "()I" } : Jvm.MethodName) prog_1_method_43_code (1 : Nat) (Option.some Jvm.ClassFile.FieldType.int)) ∈ lw_all := lw_g (lw_at lw_m3 126 rfl) rfl
theorem q663 : (Jvm.Cond.instanceMethod ({ cls := "Lendlathe", name := "takings", desc := "()J" } : Jvm.MethodName)) ∈ lw_all := lw_g (lw_at lw_m3 128 rfl) rfl
theorem q664 : (Jvm.Cond.selects "Lendlathe" ({ cls := "Lendlathe", name := "takings", desc := "()J" } : Jvm.MethodName) ({ cls := "Lendlathe", name := "takings", desc := "()J" } : Jvm.MethodName)) ∈ lw_all := lw_g (lw_at lw_m3 129 rfl) rfl
theorem q665 : (Jvm.Cond.code ({ cls := "Lendlathe", name := "takings", desc := "()J" } : Jvm.MethodName) prog_1_method_73_code (4 : Nat) (Option.some Jvm.ClassFile.FieldType.long)) ∈ lw_all := lw_g (lw_at lw_m3 130 rfl) rfl
theorem q667 : (Jvm.Cond.instanceMethod ({ cls := "Lendlathe", name := "isSound", desc := "()Z" } : Jvm.MethodName)) ∈ lw_all := lw_g (lw_at lw_m3 132 rfl) rfl
theorem q668 : (Jvm.Cond.selects "Lendlathe" ({ cls := "Lendlathe", name := "isSound", desc := "()Z" } : Jvm.MethodName) ({ cls := "Lendlathe", name := "isSound", desc := "()Z" } : Jvm.MethodName)) ∈ lw_all := lw_g (lw_at lw_m3 133 rfl) rfl
theorem q669 : (Jvm.Cond.code ({ cls := "Lendlathe", name := "isSound", desc := "()Z" } : Jvm.MethodName) prog_1_method_75_code (4 : Nat) (Option.some Jvm.ClassFile.FieldType.boolean)) ∈ lw_all := lw_g (lw_at lw_m3 134 rfl) rfl
theorem q670 : (Jvm.Cond.methodLink "Lendlathe" (378 : Nat) ({ cls := "Lendlathe", name := "isSoundEntry", desc := "(I)Z" } : Jvm.MethodName)) ∈ lw_all := lw_g (lw_at lw_m3 135 rfl) rfl
theorem q671 : (Jvm.Cond.privateMethod ({ cls := "Lendlathe", name := "isSoundEntry", desc := "(I)Z" } : Jvm.MethodName)) ∈ lw_tbl := lw_at lw_m3 136 rfl
theorem q672 : (Jvm.Cond.instanceMethod ({ cls := "Lendlathe", name := "isSoundEntry", desc := "(I)Z" } : Jvm.MethodName)) ∈ lw_all := lw_g (lw_at lw_m3 137 rfl) rfl
theorem q673 : (Jvm.Cond.code ({ cls := "Lendlathe", name := "isSoundEntry", desc := "(I)Z" } : Jvm.MethodName) prog_1_method_74_code (6 : Nat) (Option.some Jvm.ClassFile.FieldType.boolean)) ∈ lw_all := lw_g (lw_at lw_m3 138 rfl) rfl
theorem q674 : (Jvm.Cond.methodLink "Lendlathe" (208 : Nat) ({ cls := "Lendlathe$Entry", name := "check", desc := "()C" } : Jvm.MethodName)) ∈ lw_all := lw_g (lw_at lw_m3 139 rfl) rfl
theorem q679 : (Jvm.Cond.privateMethod ({ cls := "Lendlathe", name := "checks", desc := "(IIIIIC)C" } : Jvm.MethodName)) ∈ lw_tbl := lw_at lw_m3 144 rfl
theorem q680 : (Jvm.Cond.instanceMethod ({ cls := "Lendlathe", name := "checks", desc := "(IIIIIC)C" } : Jvm.MethodName)) ∈ lw_all := lw_g (lw_at lw_m3 145 rfl) rfl
theorem q681 : (Jvm.Cond.code ({ cls := "Lendlathe", name := "checks", desc := "(IIIIIC)C" } : Jvm.MethodName) prog_1_method_21_code (8 : Nat) (Option.some Jvm.ClassFile.FieldType.char)) ∈ lw_all := lw_g (lw_at lw_m3 146 rfl) rfl
theorem q682 : (Jvm.Cond.interfaceEntry "Lendlathe" (197 : Nat)) ∈ lw_tbl := lw_at lw_m3 147 rfl
theorem q683 : (Jvm.Cond.methodLink "Lendlathe" (197 : Nat) ({ cls := "Lendlathe$Check", name := "fails", desc := "(IIIIIC)Z" } : Jvm.MethodName)) ∈ lw_all := lw_g (lw_at lw_m3 148 rfl) rfl
theorem q686 : (Jvm.Cond.stringRef "Lendlathe" (200 : Nat) "imt") ∈ lw_tbl := lw_at lw_m3 151 rfl
theorem q687 : (Jvm.Cond.methodLink "Lendlathe" (202 : Nat) ({ cls := "java/lang/String", name := "charAt", desc := "(I)C" } : Jvm.MethodName)) ∈ lw_all := lw_g (lw_at lw_m3 152 rfl) rfl
theorem q709 : (Jvm.Cond.methodLink "Lendlathe" (227 : Nat) ({ cls := "Lendlathe$Entry", name := "isLive", desc := "()Z" } : Jvm.MethodName)) ∈ lw_all := lw_g (lw_at lw_m3 174 rfl) rfl
theorem q717 : (Jvm.Cond.methodLink "Lendlathe" (340 : Nat) ({ cls := "Lendlathe", name := "freeBy", desc := "(I)I" } : Jvm.MethodName)) ∈ lw_all := lw_g (lw_at lw_m3 182 rfl) rfl
theorem q718 : (Jvm.Cond.privateMethod ({ cls := "Lendlathe", name := "freeBy", desc := "(I)I" } : Jvm.MethodName)) ∈ lw_tbl := lw_at lw_m3 183 rfl
theorem q719 : (Jvm.Cond.instanceMethod ({ cls := "Lendlathe", name := "freeBy", desc := "(I)I" } : Jvm.MethodName)) ∈ lw_all := lw_g (lw_at lw_m3 184 rfl) rfl
theorem q720 : (Jvm.Cond.code ({ cls := "Lendlathe", name := "freeBy", desc := "(I)I" } : Jvm.MethodName) prog_1_method_62_code (4 : Nat) (Option.some Jvm.ClassFile.FieldType.int)) ∈ lw_all := lw_g (lw_at lw_m3 185 rfl) rfl
theorem q721 : (Jvm.Cond.classLink "Lendlathe" (317 : Nat) "Lendlathe$Bar") ∈ lw_all := lw_g (lw_at lw_m3 186 rfl) rfl
theorem q722 : (Jvm.Cond.methodLink "Lendlathe" (337 : Nat) ({ cls := "Lendlathe$Entry", name := "takes", desc := "(I)I" } : Jvm.MethodName)) ∈ lw_all := lw_g (lw_at lw_m3 187 rfl) rfl
theorem q726 : (Jvm.Cond.methodLink "Lendlathe" (375 : Nat) ({ cls := "Lendlathe", name := "owesBy", desc := "(I)I" } : Jvm.MethodName)) ∈ lw_all := lw_g (lw_at lw_m3 191 rfl) rfl
theorem q727 : (Jvm.Cond.privateMethod ({ cls := "Lendlathe", name := "owesBy", desc := "(I)I" } : Jvm.MethodName)) ∈ lw_tbl := lw_at lw_m3 192 rfl
theorem q728 : (Jvm.Cond.instanceMethod ({ cls := "Lendlathe", name := "owesBy", desc := "(I)I" } : Jvm.MethodName)) ∈ lw_all := lw_g (lw_at lw_m3 193 rfl) rfl
theorem q729 : (Jvm.Cond.code ({ cls := "Lendlathe", name := "owesBy", desc := "(I)I" } : Jvm.MethodName) prog_1_method_70_code (4 : Nat) (Option.some Jvm.ClassFile.FieldType.int)) ∈ lw_all := lw_g (lw_at lw_m3 194 rfl) rfl
theorem q730 : (Jvm.Cond.methodLink "Lendlathe" (370 : Nat) ({ cls := "Lendlathe$Member", name := "owes", desc := "()I" } : Jvm.MethodName)) ∈ lw_all := lw_g (lw_at lw_m3 195 rfl) rfl
theorem q734 : (Jvm.Cond.methodLink "Lendlathe" (299 : Nat) ({ cls := "Lendlathe", name := "usedOn", desc := "(II)I" } : Jvm.MethodName)) ∈ lw_all := lw_g (lw_at lw_m3 199 rfl) rfl
theorem q735 : (Jvm.Cond.privateMethod ({ cls := "Lendlathe", name := "usedOn", desc := "(II)I" } : Jvm.MethodName)) ∈ lw_tbl := lw_at lw_m3 200 rfl
theorem q736 : (Jvm.Cond.instanceMethod ({ cls := "Lendlathe", name := "usedOn", desc := "(II)I" } : Jvm.MethodName)) ∈ lw_all := lw_g (lw_at lw_m3 201 rfl) rfl
theorem q737 : (Jvm.Cond.code ({ cls := "Lendlathe", name := "usedOn", desc := "(II)I" } : Jvm.MethodName) prog_1_method_48_code (6 : Nat) (Option.some Jvm.ClassFile.FieldType.int)) ∈ lw_all := lw_g (lw_at lw_m3 202 rfl) rfl
theorem q738 : (Jvm.Cond.methodLink "Lendlathe" (303 : Nat) ({ cls := "Lendlathe", name := "usedBy", desc := "(II)I" } : Jvm.MethodName)) ∈ lw_all := lw_g (lw_at lw_m3 203 rfl) rfl
theorem q739 : (Jvm.Cond.privateMethod ({ cls := "Lendlathe", name := "usedBy", desc := "(II)I" } : Jvm.MethodName)) ∈ lw_tbl := lw_at lw_m3 204 rfl
theorem q740 : (Jvm.Cond.instanceMethod ({ cls := "Lendlathe", name := "usedBy", desc := "(II)I" } : Jvm.MethodName)) ∈ lw_all := lw_g (lw_at lw_m3 205 rfl) rfl
theorem q741 : (Jvm.Cond.code ({ cls := "Lendlathe", name := "usedBy", desc := "(II)I" } : Jvm.MethodName) prog_1_method_49_code (5 : Nat) (Option.some Jvm.ClassFile.FieldType.int)) ∈ lw_all := lw_g (lw_at lw_m3 206 rfl) rfl
theorem q742 : (Jvm.Cond.methodLink "Lendlathe" (294 : Nat) ({ cls := "Lendlathe", name := "state", desc := "(I)C" } : Jvm.MethodName)) ∈ lw_all := lw_g (lw_at lw_m3 207 rfl) rfl
theorem q743 : (Jvm.Cond.privateMethod ({ cls := "Lendlathe", name := "state", desc := "(I)C" } : Jvm.MethodName)) ∈ lw_tbl := lw_at lw_m3 208 rfl
theorem q744 : (Jvm.Cond.instanceMethod ({ cls := "Lendlathe", name := "state", desc := "(I)C" } : Jvm.MethodName)) ∈ lw_all := lw_g (lw_at lw_m3 209 rfl) rfl
theorem q745 : (Jvm.Cond.code ({ cls := "Lendlathe", name := "state", desc := "(I)C" } : Jvm.MethodName) prog_1_method_46_code (6 : Nat) (Option.some Jvm.ClassFile.FieldType.char)) ∈ lw_all := lw_g (lw_at lw_m3 210 rfl) rfl
theorem q752 : (Jvm.Cond.instanceMethod ({ cls := "Lendlathe", name := "addMachine", desc := "(II)I" } : Jvm.MethodName)) ∈ lw_all := lw_g (lw_at lw_m3 217 rfl) rfl
theorem q753 : (Jvm.Cond.selects "Lendlathe" ({ cls := "Lendlathe", name := "addMachine", desc := "(II)I" } : Jvm.MethodName) ({ cls := "Lendlathe", name := "addMachine", desc := "(II)I" } : Jvm.MethodName)) ∈ lw_all := lw_g (lw_at lw_m3 218 rfl) rfl
theorem q754 : (Jvm.Cond.code ({ cls := "Lendlathe", name := "addMachine", desc := "(II)I" } : Jvm.MethodName) prog_1_method_27_code (3 : Nat) (Option.some Jvm.ClassFile.FieldType.int)) ∈ lw_all := lw_g (lw_at lw_m3 219 rfl) rfl
theorem q755 : (Jvm.Cond.methodLink "Lendlathe" (86 : Nat) ({ cls := "Lendlathe", name := "isKind", desc := "(I)Z" } : Jvm.MethodName)) ∈ lw_all := lw_g (lw_at lw_m3 220 rfl) rfl
theorem q756 : (Jvm.Cond.static ({ cls := "Lendlathe", name := "isKind", desc := "(I)Z" } : Jvm.MethodName)) ∈ lw_all := lw_g (lw_at lw_m3 221 rfl) rfl
theorem q757 : (Jvm.Cond.code ({ cls := "Lendlathe", name := "isKind", desc := "(I)Z" } : Jvm.MethodName) prog_1_method_9_code (1 : Nat) (Option.some Jvm.ClassFile.FieldType.boolean)) ∈ lw_all := lw_g (lw_at lw_m3 222 rfl) rfl
theorem q758 : (Jvm.Cond.methodLink "Lendlathe" (90 : Nat) ({ cls := "Lendlathe", name := "in", desc := "(III)Z" } : Jvm.MethodName)) ∈ lw_all := lw_g (lw_at lw_m3 223 rfl) rfl
theorem q759 : (Jvm.Cond.static ({ cls := "Lendlathe", name := "in", desc := "(III)Z" } : Jvm.MethodName)) ∈ lw_all := lw_g (lw_at lw_m3 224 rfl) rfl
theorem q760 : (Jvm.Cond.code ({ cls := "Lendlathe", name := "in", desc := "(III)Z" } : Jvm.MethodName) prog_1_method_2_code (3 : Nat) (Option.some Jvm.ClassFile.FieldType.boolean)) ∈ lw_all := lw_g (lw_at lw_m3 225 rfl) rfl
theorem q761 : (Jvm.Cond.methodLink "Lendlathe" (94 : Nat) ({ cls := "Lendlathe", name := "want", desc := "(Z)V" } : Jvm.MethodName)) ∈ lw_all := lw_g (lw_at lw_m3 226 rfl) rfl
theorem q762 : (Jvm.Cond.static ({ cls := "Lendlathe", name := "want", desc := "(Z)V" } : Jvm.MethodName)) ∈ lw_all := lw_g (lw_at lw_m3 227 rfl) rfl
theorem q763 : (Jvm.Cond.code ({ cls := "Lendlathe", name := "want", desc := "(Z)V" } : Jvm.MethodName) prog_1_method_3_code (1 : Nat) (Option.none : Option Jvm.ClassFile.FieldType)) ∈ lw_all := lw_g (lw_at lw_m3 228 rfl) rfl
theorem q764 : (Jvm.Cond.classLink "Lendlathe" (74 : Nat) "java/lang/IllegalArgumentException") ∈ lw_all := lw_g (lw_at lw_m3 229 rfl) rfl
theorem q765 : (Jvm.Cond.methodLink "Lendlathe" (76 : Nat) ({ cls := "java/lang/IllegalArgumentException", name := "<init>", desc := "()V" } : Jvm.MethodName)) ∈ lw_all := lw_g (lw_at lw_m3 230 rfl) rfl
theorem q769 : (Jvm.Cond.methodLink "Lendlathe" (98 : Nat) ({ cls := "Lendlathe", name := "ready", desc := "(Z)V" } : Jvm.MethodName)) ∈ lw_all := lw_g (lw_at lw_m3 234 rfl) rfl
theorem q770 : (Jvm.Cond.static ({ cls := "Lendlathe", name := "ready", desc := "(Z)V" } : Jvm.MethodName)) ∈ lw_all := lw_g (lw_at lw_m3 235 rfl) rfl
theorem q771 : (Jvm.Cond.code ({ cls := "Lendlathe", name := "ready", desc := "(Z)V" } : Jvm.MethodName) prog_1_method_4_code (1 : Nat) (Option.none : Option Jvm.ClassFile.FieldType)) ∈ lw_all := lw_g (lw_at lw_m3 236 rfl) rfl
theorem q772 : (Jvm.Cond.classLink "Lendlathe" (77 : Nat) "java/lang/IllegalStateException") ∈ lw_all := lw_g (lw_at lw_m3 237 rfl) rfl
theorem q781 : (Jvm.Cond.methodLink "Lendlathe" (79 : Nat) ({ cls := "java/lang/IllegalStateException", name := "<init>", desc := "()V" } : Jvm.MethodName)) ∈ lw_all := lw_g (lw_at lw_m4 6 rfl) rfl
theorem q788 : (Jvm.Cond.methodLink "Lendlathe" (216 : Nat) ({ cls := "Lendlathe$Machine", name := "<init>", desc := "(II)V" } : Jvm.MethodName)) ∈ lw_all := lw_g (lw_at lw_m4 13 rfl) rfl
theorem q794 : (Jvm.Cond.fieldLinkNest "Lendlathe" (134 : Nat) "Lendlathe$Machine" "kind" "I" "Lendlathe") ∈ lw_tbl := lw_at lw_m4 19 rfl
theorem q796 : (Jvm.Cond.fieldLinkNest "Lendlathe" (128 : Nat) "Lendlathe$Machine" "setup" "I" "Lendlathe") ∈ lw_tbl := lw_at lw_m4 21 rfl
theorem q802 : (Jvm.Cond.methodLink "Lendlathe" (219 : Nat) ({ cls := "java/util/ArrayList", name := "add", desc := "(Ljava/lang/Object;)Z" } : Jvm.MethodName)) ∈ lw_all := lw_g (lw_at lw_m4 27 rfl) rfl
theorem q827 : (Jvm.Cond.selects "Lendlathe" ({ cls := "java/lang/Object", name := "getClass", desc := "()Ljava/lang/Class;" } : Jvm.MethodName) ({ cls := "java/lang/Object", name := "getClass", desc := "()Ljava/lang/Class;" } : Jvm.MethodName)) ∈ lw_all := lw_g (lw_at lw_m4 52 rfl) rfl
theorem q857 : (Jvm.Cond.instanceMethod ({ cls := "Lendlathe", name := "addMember", desc := "()I" } : Jvm.MethodName)) ∈ lw_all := lw_g (lw_at lw_m4 82 rfl) rfl
theorem q858 : (Jvm.Cond.selects "Lendlathe" ({ cls := "Lendlathe", name := "addMember", desc := "()I" } : Jvm.MethodName) ({ cls := "Lendlathe", name := "addMember", desc := "()I" } : Jvm.MethodName)) ∈ lw_all := lw_g (lw_at lw_m4 83 rfl) rfl
theorem q859 : (Jvm.Cond.code ({ cls := "Lendlathe", name := "addMember", desc := "()I" } : Jvm.MethodName) prog_1_method_28_code (1 : Nat) (Option.some Jvm.ClassFile.FieldType.int)) ∈ lw_all := lw_g (lw_at lw_m4 84 rfl) rfl
theorem q861 : (Jvm.Cond.methodLink "Lendlathe" (223 : Nat) ({ cls := "Lendlathe$Member", name := "<init>", desc := "(LLendlathe;)V" } : Jvm.MethodName)) ∈ lw_all := lw_g (lw_at lw_m4 86 rfl) rfl
theorem q866 : (Jvm.Cond.fieldLinkNest "Lendlathe" (244 : Nat) "Lendlathe$Member" "taken" "[I" "Lendlathe") ∈ lw_tbl := lw_at lw_m4 91 rfl
theorem q869 : (Jvm.Cond.fieldLinkNest "Lendlathe" (362 : Nat) "Lendlathe$Member" "dues" "I" "Lendlathe") ∈ lw_tbl := lw_at lw_m4 94 rfl
theorem q871 : (Jvm.Cond.fieldLinkNest "Lendlathe" (366 : Nat) "Lendlathe$Member" "paid" "I" "Lendlathe") ∈ lw_tbl := lw_at lw_m4 96 rfl
theorem q886 : (Jvm.Cond.instanceMethod ({ cls := "Lendlathe", name := "addNeed", desc := "(II)Z" } : Jvm.MethodName)) ∈ lw_all := lw_g (lw_at lw_m4 111 rfl) rfl
theorem q887 : (Jvm.Cond.selects "Lendlathe" ({ cls := "Lendlathe", name := "addNeed", desc := "(II)Z" } : Jvm.MethodName) ({ cls := "Lendlathe", name := "addNeed", desc := "(II)Z" } : Jvm.MethodName)) ∈ lw_all := lw_g (lw_at lw_m4 112 rfl) rfl
theorem q888 : (Jvm.Cond.code ({ cls := "Lendlathe", name := "addNeed", desc := "(II)Z" } : Jvm.MethodName) prog_1_method_31_code (6 : Nat) (Option.some Jvm.ClassFile.FieldType.boolean)) ∈ lw_all := lw_g (lw_at lw_m4 113 rfl) rfl
theorem q889 : (Jvm.Cond.methodLink "Lendlathe" (224 : Nat) ({ cls := "Lendlathe", name := "leadsTo", desc := "(II)Z" } : Jvm.MethodName)) ∈ lw_all := lw_g (lw_at lw_m4 114 rfl) rfl
theorem q890 : (Jvm.Cond.privateMethod ({ cls := "Lendlathe", name := "leadsTo", desc := "(II)Z" } : Jvm.MethodName)) ∈ lw_tbl := lw_at lw_m4 115 rfl
theorem q891 : (Jvm.Cond.instanceMethod ({ cls := "Lendlathe", name := "leadsTo", desc := "(II)Z" } : Jvm.MethodName)) ∈ lw_all := lw_g (lw_at lw_m4 116 rfl) rfl
theorem q892 : (Jvm.Cond.code ({ cls := "Lendlathe", name := "leadsTo", desc := "(II)Z" } : Jvm.MethodName) prog_1_method_30_code (5 : Nat) (Option.some Jvm.ClassFile.FieldType.boolean)) ∈ lw_all := lw_g (lw_at lw_m4 117 rfl) rfl
theorem q893 : (Jvm.Cond.methodLink "Lendlathe" (229 : Nat) ({ cls := "Lendlathe$Entry", name := "ends", desc := "()V" } : Jvm.MethodName)) ∈ lw_all := lw_g (lw_at lw_m4 118 rfl) rfl
theorem q898 : (Jvm.Cond.methodLink "Lendlathe" (232 : Nat) ({ cls := "Lendlathe", name := "fills", desc := "()V" } : Jvm.MethodName)) ∈ lw_all := lw_g (lw_at lw_m4 123 rfl) rfl
theorem q899 : (Jvm.Cond.privateMethod ({ cls := "Lendlathe", name := "fills", desc := "()V" } : Jvm.MethodName)) ∈ lw_tbl := lw_at lw_m4 124 rfl
theorem q900 : (Jvm.Cond.instanceMethod ({ cls := "Lendlathe", name := "fills", desc := "()V" } : Jvm.MethodName)) ∈ lw_all := lw_g (lw_at lw_m4 125 rfl) rfl
theorem q901 : (Jvm.Cond.code ({ cls := "Lendlathe", name := "fills", desc := "()V" } : Jvm.MethodName) prog_1_method_23_code (2 : Nat) (Option.none : Option Jvm.ClassFile.FieldType)) ∈ lw_all := lw_g (lw_at lw_m4 126 rfl) rfl
theorem q902 : (Jvm.Cond.methodLink "Lendlathe" (212 : Nat) ({ cls := "Lendlathe", name := "firstToBook", desc := "()I" } : Jvm.MethodName)) ∈ lw_all := lw_g (lw_at lw_m4 127 rfl) rfl
theorem q903 : (Jvm.Cond.privateMethod ({ cls := "Lendlathe", name := "firstToBook", desc := "()I" } : Jvm.MethodName)) ∈ lw_tbl := lw_at lw_m4 128 rfl
theorem q904 : (Jvm.Cond.instanceMethod ({ cls := "Lendlathe", name := "firstToBook", desc := "()I" } : Jvm.MethodName)) ∈ lw_all := lw_g (lw_at lw_m4 129 rfl) rfl
theorem q905 : (Jvm.Cond.code ({ cls := "Lendlathe", name := "firstToBook", desc := "()I" } : Jvm.MethodName) prog_1_method_22_code (2 : Nat) (Option.some Jvm.ClassFile.FieldType.int)) ∈ lw_all := lw_g (lw_at lw_m4 130 rfl) rfl
theorem q930 : (Jvm.Cond.instanceMethod ({ cls := "Lendlathe", name := "induct", desc := "(II)I" } : Jvm.MethodName)) ∈ lw_all := lw_g (lw_at lw_m4 155 rfl) rfl
theorem q931 : (Jvm.Cond.selects "Lendlathe" ({ cls := "Lendlathe", name := "induct", desc := "(II)I" } : Jvm.MethodName) ({ cls := "Lendlathe", name := "induct", desc := "(II)I" } : Jvm.MethodName)) ∈ lw_all := lw_g (lw_at lw_m4 156 rfl) rfl
theorem q932 : (Jvm.Cond.code ({ cls := "Lendlathe", name := "induct", desc := "(II)I" } : Jvm.MethodName) prog_1_method_32_code (5 : Nat) (Option.some Jvm.ClassFile.FieldType.int)) ∈ lw_all := lw_g (lw_at lw_m4 157 rfl) rfl
theorem q933 : (Jvm.Cond.methodLink "Lendlathe" (235 : Nat) ({ cls := "Lendlathe", name := "isMember", desc := "(I)Z" } : Jvm.MethodName)) ∈ lw_all := lw_g (lw_at lw_m4 158 rfl) rfl
theorem q934 : (Jvm.Cond.privateMethod ({ cls := "Lendlathe", name := "isMember", desc := "(I)Z" } : Jvm.MethodName)) ∈ lw_tbl := lw_at lw_m4 159 rfl
theorem q935 : (Jvm.Cond.instanceMethod ({ cls := "Lendlathe", name := "isMember", desc := "(I)Z" } : Jvm.MethodName)) ∈ lw_all := lw_g (lw_at lw_m4 160 rfl) rfl
theorem q936 : (Jvm.Cond.code ({ cls := "Lendlathe", name := "isMember", desc := "(I)Z" } : Jvm.MethodName) prog_1_method_25_code (2 : Nat) (Option.some Jvm.ClassFile.FieldType.boolean)) ∈ lw_all := lw_g (lw_at lw_m4 161 rfl) rfl
theorem q937 : (Jvm.Cond.methodLink "Lendlathe" (238 : Nat) ({ cls := "Lendlathe", name := "there", desc := "(Z)V" } : Jvm.MethodName)) ∈ lw_all := lw_g (lw_at lw_m4 162 rfl) rfl
theorem q938 : (Jvm.Cond.static ({ cls := "Lendlathe", name := "there", desc := "(Z)V" } : Jvm.MethodName)) ∈ lw_all := lw_g (lw_at lw_m4 163 rfl) rfl
theorem q939 : (Jvm.Cond.code ({ cls := "Lendlathe", name := "there", desc := "(Z)V" } : Jvm.MethodName) prog_1_method_6_code (1 : Nat) (Option.none : Option Jvm.ClassFile.FieldType)) ∈ lw_all := lw_g (lw_at lw_m4 164 rfl) rfl
theorem q940 : (Jvm.Cond.classLink "Lendlathe" (83 : Nat) "java/lang/IndexOutOfBoundsException") ∈ lw_all := lw_g (lw_at lw_m4 165 rfl) rfl
theorem q949 : (Jvm.Cond.methodLink "Lendlathe" (85 : Nat) ({ cls := "java/lang/IndexOutOfBoundsException", name := "<init>", desc := "()V" } : Jvm.MethodName)) ∈ lw_all := lw_g (lw_at lw_m4 174 rfl) rfl
theorem q955 : (Jvm.Cond.classLink "Lendlathe" (241 : Nat) "java/lang/UnsupportedOperationException") ∈ lw_all := lw_g (lw_at lw_m4 180 rfl) rfl
theorem q964 : (Jvm.Cond.methodLink "Lendlathe" (243 : Nat) ({ cls := "java/lang/UnsupportedOperationException", name := "<init>", desc := "()V" } : Jvm.MethodName)) ∈ lw_all := lw_g (lw_at lw_m4 189 rfl) rfl
theorem q974 : (Jvm.Cond.instanceMethod ({ cls := "Lendlathe", name := "isLive", desc := "(III)Z" } : Jvm.MethodName)) ∈ lw_all := lw_g (lw_at lw_m4 199 rfl) rfl
theorem q975 : (Jvm.Cond.selects "Lendlathe" ({ cls := "Lendlathe", name := "isLive", desc := "(III)Z" } : Jvm.MethodName) ({ cls := "Lendlathe", name := "isLive", desc := "(III)Z" } : Jvm.MethodName)) ∈ lw_all := lw_g (lw_at lw_m4 200 rfl) rfl
theorem q976 : (Jvm.Cond.code ({ cls := "Lendlathe", name := "isLive", desc := "(III)Z" } : Jvm.MethodName) prog_1_method_33_code (4 : Nat) (Option.some Jvm.ClassFile.FieldType.boolean)) ∈ lw_all := lw_g (lw_at lw_m4 201 rfl) rfl
theorem q996 : (Jvm.Cond.instanceMethod ({ cls := "Lendlathe", name := "book", desc := "(IIIIIC)I" } : Jvm.MethodName)) ∈ lw_all := lw_g (lw_at lw_m4 221 rfl) rfl
theorem q997 : (Jvm.Cond.selects "Lendlathe" ({ cls := "Lendlathe", name := "book", desc := "(IIIIIC)I" } : Jvm.MethodName) ({ cls := "Lendlathe", name := "book", desc := "(IIIIIC)I" } : Jvm.MethodName)) ∈ lw_all := lw_g (lw_at lw_m4 222 rfl) rfl
theorem q998 : (Jvm.Cond.code ({ cls := "Lendlathe", name := "book", desc := "(IIIIIC)I" } : Jvm.MethodName) prog_1_method_37_code (7 : Nat) (Option.some Jvm.ClassFile.FieldType.int)) ∈ lw_all := lw_g (lw_at lw_m4 223 rfl) rfl
theorem q999 : (Jvm.Cond.methodLink "Lendlathe" (260 : Nat) ({ cls := "Lendlathe", name := "mayAsk", desc := "(IIIIIC)V" } : Jvm.MethodName)) ∈ lw_all := lw_g (lw_at lw_m4 224 rfl) rfl
theorem q1000 : (Jvm.Cond.privateMethod ({ cls := "Lendlathe", name := "mayAsk", desc := "(IIIIIC)V" } : Jvm.MethodName)) ∈ lw_tbl := lw_at lw_m4 225 rfl
theorem q1001 : (Jvm.Cond.instanceMethod ({ cls := "Lendlathe", name := "mayAsk", desc := "(IIIIIC)V" } : Jvm.MethodName)) ∈ lw_all := lw_g (lw_at lw_m4 226 rfl) rfl
theorem q1002 : (Jvm.Cond.code ({ cls := "Lendlathe", name := "mayAsk", desc := "(IIIIIC)V" } : Jvm.MethodName) prog_1_method_34_code (7 : Nat) (Option.none : Option Jvm.ClassFile.FieldType)) ∈ lw_all := lw_g (lw_at lw_m4 227 rfl) rfl
theorem q1003 : (Jvm.Cond.methodLink "Lendlathe" (247 : Nat) ({ cls := "Lendlathe", name := "isMachine", desc := "(I)Z" } : Jvm.MethodName)) ∈ lw_all := lw_g (lw_at lw_m4 228 rfl) rfl
theorem q1004 : (Jvm.Cond.privateMethod ({ cls := "Lendlathe", name := "isMachine", desc := "(I)Z" } : Jvm.MethodName)) ∈ lw_tbl := lw_at lw_m4 229 rfl
theorem q1005 : (Jvm.Cond.instanceMethod ({ cls := "Lendlathe", name := "isMachine", desc := "(I)Z" } : Jvm.MethodName)) ∈ lw_all := lw_g (lw_at lw_m4 230 rfl) rfl
theorem q1006 : (Jvm.Cond.code ({ cls := "Lendlathe", name := "isMachine", desc := "(I)Z" } : Jvm.MethodName) prog_1_method_24_code (2 : Nat) (Option.some Jvm.ClassFile.FieldType.boolean)) ∈ lw_all := lw_g (lw_at lw_m4 231 rfl) rfl
theorem q1007 : (Jvm.Cond.methodLink "Lendlathe" (250 : Nat) ({ cls := "Lendlathe", name := "isAhead", desc := "(I)Z" } : Jvm.MethodName)) ∈ lw_all := lw_g (lw_at lw_m4 232 rfl) rfl
theorem q1008 : (Jvm.Cond.privateMethod ({ cls := "Lendlathe", name := "isAhead", desc := "(I)Z" } : Jvm.MethodName)) ∈ lw_tbl := lw_at lw_m4 233 rfl
theorem q1009 : (Jvm.Cond.instanceMethod ({ cls := "Lendlathe", name := "isAhead", desc := "(I)Z" } : Jvm.MethodName)) ∈ lw_all := lw_g (lw_at lw_m4 234 rfl) rfl
theorem q1010 : (Jvm.Cond.code ({ cls := "Lendlathe", name := "isAhead", desc := "(I)Z" } : Jvm.MethodName) prog_1_method_26_code (2 : Nat) (Option.some Jvm.ClassFile.FieldType.boolean)) ∈ lw_all := lw_g (lw_at lw_m4 235 rfl) rfl
theorem q1011 : (Jvm.Cond.methodLink "Lendlathe" (253 : Nat) ({ cls := "Lendlathe", name := "isWork", desc := "(C)Z" } : Jvm.MethodName)) ∈ lw_all := lw_g (lw_at lw_m4 236 rfl) rfl
theorem q1012 : (Jvm.Cond.static ({ cls := "Lendlathe", name := "isWork", desc := "(C)Z" } : Jvm.MethodName)) ∈ lw_all := lw_g (lw_at lw_m4 237 rfl) rfl
theorem q1013 : (Jvm.Cond.code ({ cls := "Lendlathe", name := "isWork", desc := "(C)Z" } : Jvm.MethodName) prog_1_method_35_code (1 : Nat) (Option.some Jvm.ClassFile.FieldType.boolean)) ∈ lw_all := lw_g (lw_at lw_m4 238 rfl) rfl
theorem q1014 : (Jvm.Cond.methodLink "Lendlathe" (264 : Nat) ({ cls := "Lendlathe", name := "checks", desc := "(IIIIIC)C" } : Jvm.MethodName)) ∈ lw_all := lw_g (lw_at lw_m4 239 rfl) rfl
theorem q1015 : (Jvm.Cond.classLink "Lendlathe" (268 : Nat) "java/lang/ArithmeticException") ∈ lw_all := lw_g (lw_at lw_m5 0 rfl) rfl
theorem q1016 : (Jvm.Cond.methodLink "Lendlathe" (270 : Nat) ({ cls := "java/lang/ArithmeticException", name := "<init>", desc := "()V" } : Jvm.MethodName)) ∈ lw_all := lw_g (lw_at lw_m5 1 rfl) rfl
theorem q1020 : (Jvm.Cond.classLink "Lendlathe" (80 : Nat) "java/util/NoSuchElementException") ∈ lw_all := lw_g (lw_at lw_m5 5 rfl) rfl
theorem q1021 : (Jvm.Cond.methodLink "Lendlathe" (82 : Nat) ({ cls := "java/util/NoSuchElementException", name := "<init>", desc := "()V" } : Jvm.MethodName)) ∈ lw_all := lw_g (lw_at lw_m5 6 rfl) rfl
theorem q1022 : (Jvm.Cond.methodLink "Lendlathe" (271 : Nat) ({ cls := "Lendlathe", name := "enters", desc := "(IIIIICC)I" } : Jvm.MethodName)) ∈ lw_all := lw_g (lw_at lw_m5 7 rfl) rfl
theorem q1023 : (Jvm.Cond.privateMethod ({ cls := "Lendlathe", name := "enters", desc := "(IIIIICC)I" } : Jvm.MethodName)) ∈ lw_tbl := lw_at lw_m5 8 rfl
theorem q1024 : (Jvm.Cond.instanceMethod ({ cls := "Lendlathe", name := "enters", desc := "(IIIIICC)I" } : Jvm.MethodName)) ∈ lw_all := lw_g (lw_at lw_m5 9 rfl) rfl
theorem q1025 : (Jvm.Cond.code ({ cls := "Lendlathe", name := "enters", desc := "(IIIIICC)I" } : Jvm.MethodName) prog_1_method_36_code (8 : Nat) (Option.some Jvm.ClassFile.FieldType.int)) ∈ lw_all := lw_g (lw_at lw_m5 10 rfl) rfl
theorem q1027 : (Jvm.Cond.methodLink "Lendlathe" (257 : Nat) ({ cls := "Lendlathe$Entry", name := "<init>", desc := "(LLendlathe;IIIIICC)V" } : Jvm.MethodName)) ∈ lw_all := lw_g (lw_at lw_m5 12 rfl) rfl
theorem q1035 : (Jvm.Cond.fieldLinkNest "Lendlathe" (181 : Nat) "Lendlathe$Entry" "work" "C" "Lendlathe") ∈ lw_tbl := lw_at lw_m5 20 rfl
theorem q1038 : (Jvm.Cond.fieldLinkNest "Lendlathe" (150 : Nat) "Lendlathe$Entry" "state" "C" "Lendlathe") ∈ lw_tbl := lw_at lw_m5 23 rfl
theorem q1040 : (Jvm.Cond.fieldLinkNest "Lendlathe" (372 : Nat) "Lendlathe$Entry" "due" "I" "Lendlathe") ∈ lw_tbl := lw_at lw_m5 25 rfl
theorem q1042 : (Jvm.Cond.fieldLinkNest "Lendlathe" (320 : Nat) "Lendlathe$Entry" "cuts" "I" "Lendlathe") ∈ lw_tbl := lw_at lw_m5 27 rfl
theorem q1044 : (Jvm.Cond.fieldLinkNest "Lendlathe" (329 : Nat) "Lendlathe$Entry" "bar" "[I" "Lendlathe") ∈ lw_tbl := lw_at lw_m5 29 rfl
theorem q1046 : (Jvm.Cond.fieldLinkNest "Lendlathe" (332 : Nat) "Lendlathe$Entry" "length" "[I" "Lendlathe") ∈ lw_tbl := lw_at lw_m5 31 rfl
theorem q1052 : (Jvm.Cond.fieldLink "Lendlathe" (147 : Nat) "Lendlathe$Entry" "member" "I") ∈ lw_all := lw_g (lw_at lw_m5 37 rfl) rfl
theorem q1058 : (Jvm.Cond.fieldLink "Lendlathe" (194 : Nat) "Lendlathe$Entry" "machine" "I") ∈ lw_all := lw_g (lw_at lw_m5 43 rfl) rfl
theorem q1064 : (Jvm.Cond.fieldLink "Lendlathe" (154 : Nat) "Lendlathe$Entry" "day" "I") ∈ lw_all := lw_g (lw_at lw_m5 49 rfl) rfl
theorem q1069 : (Jvm.Cond.fieldLink "Lendlathe" (178 : Nat) "Lendlathe$Entry" "start" "I") ∈ lw_all := lw_g (lw_at lw_m5 54 rfl) rfl
theorem q1074 : (Jvm.Cond.fieldLink "Lendlathe" (296 : Nat) "Lendlathe$Entry" "minutes" "I") ∈ lw_all := lw_g (lw_at lw_m5 59 rfl) rfl
theorem q1104 : (Jvm.Cond.instanceMethod ({ cls := "Lendlathe", name := "await", desc := "(IIIIIC)I" } : Jvm.MethodName)) ∈ lw_all := lw_g (lw_at lw_m5 89 rfl) rfl
theorem q1105 : (Jvm.Cond.selects "Lendlathe" ({ cls := "Lendlathe", name := "await", desc := "(IIIIIC)I" } : Jvm.MethodName) ({ cls := "Lendlathe", name := "await", desc := "(IIIIIC)I" } : Jvm.MethodName)) ∈ lw_all := lw_g (lw_at lw_m5 90 rfl) rfl
theorem q1106 : (Jvm.Cond.code ({ cls := "Lendlathe", name := "await", desc := "(IIIIIC)I" } : Jvm.MethodName) prog_1_method_38_code (8 : Nat) (Option.some Jvm.ClassFile.FieldType.int)) ∈ lw_all := lw_g (lw_at lw_m5 91 rfl) rfl
theorem q1111 : (Jvm.Cond.instanceMethod ({ cls := "Lendlathe", name := "check", desc := "(IIIIIC)C" } : Jvm.MethodName)) ∈ lw_all := lw_g (lw_at lw_m5 96 rfl) rfl
theorem q1112 : (Jvm.Cond.selects "Lendlathe" ({ cls := "Lendlathe", name := "check", desc := "(IIIIIC)C" } : Jvm.MethodName) ({ cls := "Lendlathe", name := "check", desc := "(IIIIIC)C" } : Jvm.MethodName)) ∈ lw_all := lw_g (lw_at lw_m5 97 rfl) rfl
theorem q1113 : (Jvm.Cond.code ({ cls := "Lendlathe", name := "check", desc := "(IIIIIC)C" } : Jvm.MethodName) prog_1_method_39_code (7 : Nat) (Option.some Jvm.ClassFile.FieldType.char)) ∈ lw_all := lw_g (lw_at lw_m5 98 rfl) rfl
theorem q1118 : (Jvm.Cond.instanceMethod ({ cls := "Lendlathe", name := "cancel", desc := "(I)C" } : Jvm.MethodName)) ∈ lw_all := lw_g (lw_at lw_m5 103 rfl) rfl
theorem q1119 : (Jvm.Cond.selects "Lendlathe" ({ cls := "Lendlathe", name := "cancel", desc := "(I)C" } : Jvm.MethodName) ({ cls := "Lendlathe", name := "cancel", desc := "(I)C" } : Jvm.MethodName)) ∈ lw_all := lw_g (lw_at lw_m5 104 rfl) rfl
theorem q1120 : (Jvm.Cond.code ({ cls := "Lendlathe", name := "cancel", desc := "(I)C" } : Jvm.MethodName) prog_1_method_41_code (4 : Nat) (Option.some Jvm.ClassFile.FieldType.char)) ∈ lw_all := lw_g (lw_at lw_m5 105 rfl) rfl
theorem q1121 : (Jvm.Cond.methodLink "Lendlathe" (278 : Nat) ({ cls := "Lendlathe", name := "entryAt", desc := "(I)LLendlathe$Entry;" } : Jvm.MethodName)) ∈ lw_all := lw_g (lw_at lw_m5 106 rfl) rfl
theorem q1122 : (Jvm.Cond.privateMethod ({ cls := "Lendlathe", name := "entryAt", desc := "(I)LLendlathe$Entry;" } : Jvm.MethodName)) ∈ lw_tbl := lw_at lw_m5 107 rfl
theorem q1123 : (Jvm.Cond.instanceMethod ({ cls := "Lendlathe", name := "entryAt", desc := "(I)LLendlathe$Entry;" } : Jvm.MethodName)) ∈ lw_all := lw_g (lw_at lw_m5 108 rfl) rfl
theorem q1124 : (Jvm.Cond.code ({ cls := "Lendlathe", name := "entryAt", desc := "(I)LLendlathe$Entry;" } : Jvm.MethodName) prog_1_method_40_code (2 : Nat) (Option.some (Jvm.ClassFile.FieldType.object "Lendlathe$Entry"))) ∈ lw_all := lw_g (lw_at lw_m5 109 rfl) rfl
theorem q1125 : (Jvm.Cond.methodLink "Lendlathe" (275 : Nat) ({ cls := "Lendlathe", name := "known", desc := "(Z)V" } : Jvm.MethodName)) ∈ lw_all := lw_g (lw_at lw_m5 110 rfl) rfl
theorem q1126 : (Jvm.Cond.static ({ cls := "Lendlathe", name := "known", desc := "(Z)V" } : Jvm.MethodName)) ∈ lw_all := lw_g (lw_at lw_m5 111 rfl) rfl
theorem q1127 : (Jvm.Cond.code ({ cls := "Lendlathe", name := "known", desc := "(Z)V" } : Jvm.MethodName) prog_1_method_5_code (1 : Nat) (Option.none : Option Jvm.ClassFile.FieldType)) ∈ lw_all := lw_g (lw_at lw_m5 112 rfl) rfl
theorem q1128 : (Jvm.Cond.methodLink "Lendlathe" (282 : Nat) ({ cls := "Lendlathe$Entry", name := "forMinutes", desc := "()I" } : Jvm.MethodName)) ∈ lw_all := lw_g (lw_at lw_m5 113 rfl) rfl
theorem q1142 : (Jvm.Cond.methodLink "Lendlathe" (285 : Nat) ({ cls := "Lendlathe$Entry", name := "owes", desc := "(I)V" } : Jvm.MethodName)) ∈ lw_all := lw_g (lw_at lw_m5 127 rfl) rfl
theorem q1150 : (Jvm.Cond.instanceMethod ({ cls := "Lendlathe", name := "stateOf", desc := "(I)C" } : Jvm.MethodName)) ∈ lw_all := lw_g (lw_at lw_m5 135 rfl) rfl
theorem q1151 : (Jvm.Cond.selects "Lendlathe" ({ cls := "Lendlathe", name := "stateOf", desc := "(I)C" } : Jvm.MethodName) ({ cls := "Lendlathe", name := "stateOf", desc := "(I)C" } : Jvm.MethodName)) ∈ lw_all := lw_g (lw_at lw_m5 136 rfl) rfl
theorem q1152 : (Jvm.Cond.code ({ cls := "Lendlathe", name := "stateOf", desc := "(I)C" } : Jvm.MethodName) prog_1_method_42_code (2 : Nat) (Option.some Jvm.ClassFile.FieldType.char)) ∈ lw_all := lw_g (lw_at lw_m5 137 rfl) rfl
theorem q1157 : (Jvm.Cond.instanceMethod ({ cls := "Lendlathe", name := "endDay", desc := "()I" } : Jvm.MethodName)) ∈ lw_all := lw_g (lw_at lw_m5 142 rfl) rfl
theorem q1158 : (Jvm.Cond.selects "Lendlathe" ({ cls := "Lendlathe", name := "endDay", desc := "()I" } : Jvm.MethodName) ({ cls := "Lendlathe", name := "endDay", desc := "()I" } : Jvm.MethodName)) ∈ lw_all := lw_g (lw_at lw_m5 143 rfl) rfl
theorem q1159 : (Jvm.Cond.code ({ cls := "Lendlathe", name := "endDay", desc := "()I" } : Jvm.MethodName) prog_1_method_44_code (4 : Nat) (Option.some Jvm.ClassFile.FieldType.int)) ∈ lw_all := lw_g (lw_at lw_m5 144 rfl) rfl
theorem q1160 : (Jvm.Cond.methodLink "Lendlathe" (288 : Nat) ({ cls := "Lendlathe$Entry", name := "extra", desc := "()I" } : Jvm.MethodName)) ∈ lw_all := lw_g (lw_at lw_m5 145 rfl) rfl
theorem q1172 : (Jvm.Cond.instanceMethod ({ cls := "Lendlathe", name := "minuteAt", desc := "(III)C" } : Jvm.MethodName)) ∈ lw_all := lw_g (lw_at lw_m5 157 rfl) rfl
theorem q1173 : (Jvm.Cond.selects "Lendlathe" ({ cls := "Lendlathe", name := "minuteAt", desc := "(III)C" } : Jvm.MethodName) ({ cls := "Lendlathe", name := "minuteAt", desc := "(III)C" } : Jvm.MethodName)) ∈ lw_all := lw_g (lw_at lw_m5 158 rfl) rfl
theorem q1174 : (Jvm.Cond.code ({ cls := "Lendlathe", name := "minuteAt", desc := "(III)C" } : Jvm.MethodName) prog_1_method_47_code (4 : Nat) (Option.some Jvm.ClassFile.FieldType.char)) ∈ lw_all := lw_g (lw_at lw_m5 159 rfl) rfl
theorem q1175 : (Jvm.Cond.methodLink "Lendlathe" (291 : Nat) ({ cls := "Lendlathe", name := "mayLook", desc := "(II)V" } : Jvm.MethodName)) ∈ lw_all := lw_g (lw_at lw_m5 160 rfl) rfl
theorem q1176 : (Jvm.Cond.privateMethod ({ cls := "Lendlathe", name := "mayLook", desc := "(II)V" } : Jvm.MethodName)) ∈ lw_tbl := lw_at lw_m5 161 rfl
theorem q1177 : (Jvm.Cond.instanceMethod ({ cls := "Lendlathe", name := "mayLook", desc := "(II)V" } : Jvm.MethodName)) ∈ lw_all := lw_g (lw_at lw_m5 162 rfl) rfl
theorem q1178 : (Jvm.Cond.code ({ cls := "Lendlathe", name := "mayLook", desc := "(II)V" } : Jvm.MethodName) prog_1_method_45_code (3 : Nat) (Option.none : Option Jvm.ClassFile.FieldType)) ∈ lw_all := lw_g (lw_at lw_m5 163 rfl) rfl
theorem q1183 : (Jvm.Cond.instanceMethod ({ cls := "Lendlathe", name := "usedMinutes", desc := "(II)I" } : Jvm.MethodName)) ∈ lw_all := lw_g (lw_at lw_m5 168 rfl) rfl
theorem q1184 : (Jvm.Cond.selects "Lendlathe" ({ cls := "Lendlathe", name := "usedMinutes", desc := "(II)I" } : Jvm.MethodName) ({ cls := "Lendlathe", name := "usedMinutes", desc := "(II)I" } : Jvm.MethodName)) ∈ lw_all := lw_g (lw_at lw_m5 169 rfl) rfl
theorem q1185 : (Jvm.Cond.code ({ cls := "Lendlathe", name := "usedMinutes", desc := "(II)I" } : Jvm.MethodName) prog_1_method_50_code (3 : Nat) (Option.some Jvm.ClassFile.FieldType.int)) ∈ lw_all := lw_g (lw_at lw_m5 170 rfl) rfl
theorem q1190 : (Jvm.Cond.instanceMethod ({ cls := "Lendlathe", name := "usedByMinutes", desc := "(II)I" } : Jvm.MethodName)) ∈ lw_all := lw_g (lw_at lw_m5 175 rfl) rfl
theorem q1191 : (Jvm.Cond.selects "Lendlathe" ({ cls := "Lendlathe", name := "usedByMinutes", desc := "(II)I" } : Jvm.MethodName) ({ cls := "Lendlathe", name := "usedByMinutes", desc := "(II)I" } : Jvm.MethodName)) ∈ lw_all := lw_g (lw_at lw_m5 176 rfl) rfl
theorem q1192 : (Jvm.Cond.code ({ cls := "Lendlathe", name := "usedByMinutes", desc := "(II)I" } : Jvm.MethodName) prog_1_method_51_code (3 : Nat) (Option.some Jvm.ClassFile.FieldType.int)) ∈ lw_all := lw_g (lw_at lw_m5 177 rfl) rfl
theorem q1197 : (Jvm.Cond.instanceMethod ({ cls := "Lendlathe", name := "setupMinutes", desc := "(II)I" } : Jvm.MethodName)) ∈ lw_all := lw_g (lw_at lw_m5 182 rfl) rfl
theorem q1198 : (Jvm.Cond.selects "Lendlathe" ({ cls := "Lendlathe", name := "setupMinutes", desc := "(II)I" } : Jvm.MethodName) ({ cls := "Lendlathe", name := "setupMinutes", desc := "(II)I" } : Jvm.MethodName)) ∈ lw_all := lw_g (lw_at lw_m5 183 rfl) rfl
theorem q1199 : (Jvm.Cond.code ({ cls := "Lendlathe", name := "setupMinutes", desc := "(II)I" } : Jvm.MethodName) prog_1_method_52_code (7 : Nat) (Option.some Jvm.ClassFile.FieldType.int)) ∈ lw_all := lw_g (lw_at lw_m5 184 rfl) rfl
theorem q1204 : (Jvm.Cond.instanceMethod ({ cls := "Lendlathe", name := "firstStart", desc := "(IIIC)I" } : Jvm.MethodName)) ∈ lw_all := lw_g (lw_at lw_m5 189 rfl) rfl
theorem q1205 : (Jvm.Cond.selects "Lendlathe" ({ cls := "Lendlathe", name := "firstStart", desc := "(IIIC)I" } : Jvm.MethodName) ({ cls := "Lendlathe", name := "firstStart", desc := "(IIIC)I" } : Jvm.MethodName)) ∈ lw_all := lw_g (lw_at lw_m5 190 rfl) rfl
theorem q1206 : (Jvm.Cond.code ({ cls := "Lendlathe", name := "firstStart", desc := "(IIIC)I" } : Jvm.MethodName) prog_1_method_54_code (8 : Nat) (Option.some Jvm.ClassFile.FieldType.int)) ∈ lw_all := lw_g (lw_at lw_m5 191 rfl) rfl
theorem q1207 : (Jvm.Cond.methodLink "Lendlathe" (306 : Nat) ({ cls := "Lendlathe", name := "mayStart", desc := "(IIIC)V" } : Jvm.MethodName)) ∈ lw_all := lw_g (lw_at lw_m5 192 rfl) rfl
theorem q1208 : (Jvm.Cond.privateMethod ({ cls := "Lendlathe", name := "mayStart", desc := "(IIIC)V" } : Jvm.MethodName)) ∈ lw_tbl := lw_at lw_m5 193 rfl
theorem q1209 : (Jvm.Cond.instanceMethod ({ cls := "Lendlathe", name := "mayStart", desc := "(IIIC)V" } : Jvm.MethodName)) ∈ lw_all := lw_g (lw_at lw_m5 194 rfl) rfl
theorem q1210 : (Jvm.Cond.code ({ cls := "Lendlathe", name := "mayStart", desc := "(IIIC)V" } : Jvm.MethodName) prog_1_method_53_code (5 : Nat) (Option.none : Option Jvm.ClassFile.FieldType)) ∈ lw_all := lw_g (lw_at lw_m5 195 rfl) rfl
theorem q1215 : (Jvm.Cond.instanceMethod ({ cls := "Lendlathe", name := "firstByMinutes", desc := "(IIIC)I" } : Jvm.MethodName)) ∈ lw_all := lw_g (lw_at lw_m5 200 rfl) rfl
theorem q1216 : (Jvm.Cond.selects "Lendlathe" ({ cls := "Lendlathe", name := "firstByMinutes", desc := "(IIIC)I" } : Jvm.MethodName) ({ cls := "Lendlathe", name := "firstByMinutes", desc := "(IIIC)I" } : Jvm.MethodName)) ∈ lw_all := lw_g (lw_at lw_m5 201 rfl) rfl
theorem q1217 : (Jvm.Cond.code ({ cls := "Lendlathe", name := "firstByMinutes", desc := "(IIIC)I" } : Jvm.MethodName) prog_1_method_55_code (6 : Nat) (Option.some Jvm.ClassFile.FieldType.int)) ∈ lw_all := lw_g (lw_at lw_m5 202 rfl) rfl
theorem q1218 : (Jvm.Cond.methodLink "Lendlathe" (310 : Nat) ({ cls := "Lendlathe", name := "isBusy", desc := "(IIIIIC)Z" } : Jvm.MethodName)) ∈ lw_all := lw_g (lw_at lw_m5 203 rfl) rfl
theorem q1223 : (Jvm.Cond.instanceMethod ({ cls := "Lendlathe", name := "waiting", desc := "(II)I" } : Jvm.MethodName)) ∈ lw_all := lw_g (lw_at lw_m5 208 rfl) rfl
theorem q1224 : (Jvm.Cond.selects "Lendlathe" ({ cls := "Lendlathe", name := "waiting", desc := "(II)I" } : Jvm.MethodName) ({ cls := "Lendlathe", name := "waiting", desc := "(II)I" } : Jvm.MethodName)) ∈ lw_all := lw_g (lw_at lw_m5 209 rfl) rfl
theorem q1225 : (Jvm.Cond.code ({ cls := "Lendlathe", name := "waiting", desc := "(II)I" } : Jvm.MethodName) prog_1_method_56_code (5 : Nat) (Option.some Jvm.ClassFile.FieldType.int)) ∈ lw_all := lw_g (lw_at lw_m5 210 rfl) rfl
theorem q1230 : (Jvm.Cond.instanceMethod ({ cls := "Lendlathe", name := "deliver", desc := "(II)I" } : Jvm.MethodName)) ∈ lw_all := lw_g (lw_at lw_m5 215 rfl) rfl
theorem q1231 : (Jvm.Cond.selects "Lendlathe" ({ cls := "Lendlathe", name := "deliver", desc := "(II)I" } : Jvm.MethodName) ({ cls := "Lendlathe", name := "deliver", desc := "(II)I" } : Jvm.MethodName)) ∈ lw_all := lw_g (lw_at lw_m5 216 rfl) rfl
theorem q1232 : (Jvm.Cond.code ({ cls := "Lendlathe", name := "deliver", desc := "(II)I" } : Jvm.MethodName) prog_1_method_60_code (3 : Nat) (Option.some Jvm.ClassFile.FieldType.int)) ∈ lw_all := lw_g (lw_at lw_m5 217 rfl) rfl
theorem q1233 : (Jvm.Cond.methodLink "Lendlathe" (314 : Nat) ({ cls := "Lendlathe", name := "isMaterial", desc := "(I)Z" } : Jvm.MethodName)) ∈ lw_all := lw_g (lw_at lw_m5 218 rfl) rfl
theorem q1234 : (Jvm.Cond.static ({ cls := "Lendlathe", name := "isMaterial", desc := "(I)Z" } : Jvm.MethodName)) ∈ lw_all := lw_g (lw_at lw_m5 219 rfl) rfl
theorem q1235 : (Jvm.Cond.code ({ cls := "Lendlathe", name := "isMaterial", desc := "(I)Z" } : Jvm.MethodName) prog_1_method_59_code (1 : Nat) (Option.some Jvm.ClassFile.FieldType.boolean)) ∈ lw_all := lw_g (lw_at lw_m5 220 rfl) rfl
theorem q1237 : (Jvm.Cond.methodLink "Lendlathe" (319 : Nat) ({ cls := "Lendlathe$Bar", name := "<init>", desc := "(II)V" } : Jvm.MethodName)) ∈ lw_all := lw_g (lw_at lw_m5 222 rfl) rfl
theorem q1243 : (Jvm.Cond.fieldLinkNest "Lendlathe" (323 : Nat) "Lendlathe$Bar" "material" "I" "Lendlathe") ∈ lw_tbl := lw_at lw_m5 228 rfl
theorem q1245 : (Jvm.Cond.fieldLinkNest "Lendlathe" (335 : Nat) "Lendlathe$Bar" "length" "I" "Lendlathe") ∈ lw_tbl := lw_at lw_m5 230 rfl
theorem q1248 : (Jvm.Cond.fieldLinkNest "Lendlathe" (326 : Nat) "Lendlathe$Bar" "free" "I" "Lendlathe") ∈ lw_tbl := lw_at lw_m5 233 rfl
theorem q1260 : (Jvm.Cond.instanceMethod ({ cls := "Lendlathe", name := "cut", desc := "(III)I" } : Jvm.MethodName)) ∈ lw_all := lw_g (lw_at lw_m6 5 rfl) rfl
theorem q1261 : (Jvm.Cond.selects "Lendlathe" ({ cls := "Lendlathe", name := "cut", desc := "(III)I" } : Jvm.MethodName) ({ cls := "Lendlathe", name := "cut", desc := "(III)I" } : Jvm.MethodName)) ∈ lw_all := lw_g (lw_at lw_m6 6 rfl) rfl
theorem q1262 : (Jvm.Cond.code ({ cls := "Lendlathe", name := "cut", desc := "(III)I" } : Jvm.MethodName) prog_1_method_61_code (8 : Nat) (Option.some Jvm.ClassFile.FieldType.int)) ∈ lw_all := lw_g (lw_at lw_m6 7 rfl) rfl
theorem q1267 : (Jvm.Cond.instanceMethod ({ cls := "Lendlathe", name := "freeOf", desc := "(I)I" } : Jvm.MethodName)) ∈ lw_all := lw_g (lw_at lw_m6 12 rfl) rfl
theorem q1268 : (Jvm.Cond.selects "Lendlathe" ({ cls := "Lendlathe", name := "freeOf", desc := "(I)I" } : Jvm.MethodName) ({ cls := "Lendlathe", name := "freeOf", desc := "(I)I" } : Jvm.MethodName)) ∈ lw_all := lw_g (lw_at lw_m6 13 rfl) rfl
theorem q1269 : (Jvm.Cond.code ({ cls := "Lendlathe", name := "freeOf", desc := "(I)I" } : Jvm.MethodName) prog_1_method_63_code (2 : Nat) (Option.some Jvm.ClassFile.FieldType.int)) ∈ lw_all := lw_g (lw_at lw_m6 14 rfl) rfl
theorem q1274 : (Jvm.Cond.instanceMethod ({ cls := "Lendlathe", name := "freeByCuts", desc := "(I)I" } : Jvm.MethodName)) ∈ lw_all := lw_g (lw_at lw_m6 19 rfl) rfl
theorem q1275 : (Jvm.Cond.selects "Lendlathe" ({ cls := "Lendlathe", name := "freeByCuts", desc := "(I)I" } : Jvm.MethodName) ({ cls := "Lendlathe", name := "freeByCuts", desc := "(I)I" } : Jvm.MethodName)) ∈ lw_all := lw_g (lw_at lw_m6 20 rfl) rfl
theorem q1276 : (Jvm.Cond.code ({ cls := "Lendlathe", name := "freeByCuts", desc := "(I)I" } : Jvm.MethodName) prog_1_method_64_code (2 : Nat) (Option.some Jvm.ClassFile.FieldType.int)) ∈ lw_all := lw_g (lw_at lw_m6 21 rfl) rfl
theorem q1281 : (Jvm.Cond.instanceMethod ({ cls := "Lendlathe", name := "setPrice", desc := "(II)I" } : Jvm.MethodName)) ∈ lw_all := lw_g (lw_at lw_m6 26 rfl) rfl
theorem q1282 : (Jvm.Cond.selects "Lendlathe" ({ cls := "Lendlathe", name := "setPrice", desc := "(II)I" } : Jvm.MethodName) ({ cls := "Lendlathe", name := "setPrice", desc := "(II)I" } : Jvm.MethodName)) ∈ lw_all := lw_g (lw_at lw_m6 27 rfl) rfl
theorem q1283 : (Jvm.Cond.code ({ cls := "Lendlathe", name := "setPrice", desc := "(II)I" } : Jvm.MethodName) prog_1_method_65_code (4 : Nat) (Option.some Jvm.ClassFile.FieldType.int)) ∈ lw_all := lw_g (lw_at lw_m6 28 rfl) rfl
theorem q1288 : (Jvm.Cond.instanceMethod ({ cls := "Lendlathe", name := "setRate", desc := "(II)I" } : Jvm.MethodName)) ∈ lw_all := lw_g (lw_at lw_m6 33 rfl) rfl
theorem q1289 : (Jvm.Cond.selects "Lendlathe" ({ cls := "Lendlathe", name := "setRate", desc := "(II)I" } : Jvm.MethodName) ({ cls := "Lendlathe", name := "setRate", desc := "(II)I" } : Jvm.MethodName)) ∈ lw_all := lw_g (lw_at lw_m6 34 rfl) rfl
theorem q1290 : (Jvm.Cond.code ({ cls := "Lendlathe", name := "setRate", desc := "(II)I" } : Jvm.MethodName) prog_1_method_10_code (4 : Nat) (Option.some Jvm.ClassFile.FieldType.int)) ∈ lw_all := lw_g (lw_at lw_m6 35 rfl) rfl
theorem q1291 : (Jvm.Cond.static ({ cls := "Lendlathe", name := "lambda$setRate$0", desc := "(II)I" } : Jvm.MethodName)) ∈ lw_all := lw_g (lw_at lw_m6 36 rfl) rfl
theorem q1292 : (Jvm.Cond.code ({ cls := "Lendlathe", name := "lambda$setRate$0", desc := "(II)I" } : Jvm.MethodName) prog_1_method_80_code (2 : Nat) (Option.some Jvm.ClassFile.FieldType.int)) ∈ lw_all := lw_g (lw_at lw_m6 37 rfl) rfl
theorem q1297 : (Jvm.Cond.instanceMethod ({ cls := "Lendlathe", name := "addFee", desc := "(II)I" } : Jvm.MethodName)) ∈ lw_all := lw_g (lw_at lw_m6 42 rfl) rfl
theorem q1298 : (Jvm.Cond.selects "Lendlathe" ({ cls := "Lendlathe", name := "addFee", desc := "(II)I" } : Jvm.MethodName) ({ cls := "Lendlathe", name := "addFee", desc := "(II)I" } : Jvm.MethodName)) ∈ lw_all := lw_g (lw_at lw_m6 43 rfl) rfl
theorem q1299 : (Jvm.Cond.code ({ cls := "Lendlathe", name := "addFee", desc := "(II)I" } : Jvm.MethodName) prog_1_method_11_code (4 : Nat) (Option.some Jvm.ClassFile.FieldType.int)) ∈ lw_all := lw_g (lw_at lw_m6 44 rfl) rfl
theorem q1300 : (Jvm.Cond.methodLink "Lendlathe" (105 : Nat) ({ cls := "Lendlathe", name := "mayAdd", desc := "(III)V" } : Jvm.MethodName)) ∈ lw_all := lw_g (lw_at lw_m6 45 rfl) rfl
theorem q1301 : (Jvm.Cond.privateMethod ({ cls := "Lendlathe", name := "mayAdd", desc := "(III)V" } : Jvm.MethodName)) ∈ lw_tbl := lw_at lw_m6 46 rfl
theorem q1302 : (Jvm.Cond.instanceMethod ({ cls := "Lendlathe", name := "mayAdd", desc := "(III)V" } : Jvm.MethodName)) ∈ lw_all := lw_g (lw_at lw_m6 47 rfl) rfl
theorem q1303 : (Jvm.Cond.code ({ cls := "Lendlathe", name := "mayAdd", desc := "(III)V" } : Jvm.MethodName) prog_1_method_8_code (4 : Nat) (Option.none : Option Jvm.ClassFile.FieldType)) ∈ lw_all := lw_g (lw_at lw_m6 48 rfl) rfl
theorem q1304 : (Jvm.Cond.static ({ cls := "Lendlathe", name := "lambda$addFee$1", desc := "(LLendlathe$Tariff;II)I" } : Jvm.MethodName)) ∈ lw_all := lw_g (lw_at lw_m6 49 rfl) rfl
theorem q1305 : (Jvm.Cond.code ({ cls := "Lendlathe", name := "lambda$addFee$1", desc := "(LLendlathe$Tariff;II)I" } : Jvm.MethodName) prog_1_method_79_code (3 : Nat) (Option.some Jvm.ClassFile.FieldType.int)) ∈ lw_all := lw_g (lw_at lw_m6 50 rfl) rfl
theorem q1306 : (Jvm.Cond.interfaceEntry "Lendlathe" (119 : Nat)) ∈ lw_tbl := lw_at lw_m6 51 rfl
theorem q1307 : (Jvm.Cond.methodLink "Lendlathe" (119 : Nat) ({ cls := "Lendlathe$Tariff", name := "of", desc := "(I)I" } : Jvm.MethodName)) ∈ lw_all := lw_g (lw_at lw_m6 52 rfl) rfl
theorem q1308 : (Jvm.Cond.methodLink "Lendlathe" (112 : Nat) ({ cls := "Lendlathe", name := "adds", desc := "(ILLendlathe$Tariff;)I" } : Jvm.MethodName)) ∈ lw_all := lw_g (lw_at lw_m6 53 rfl) rfl
theorem q1309 : (Jvm.Cond.privateMethod ({ cls := "Lendlathe", name := "adds", desc := "(ILLendlathe$Tariff;)I" } : Jvm.MethodName)) ∈ lw_tbl := lw_at lw_m6 54 rfl
theorem q1310 : (Jvm.Cond.instanceMethod ({ cls := "Lendlathe", name := "adds", desc := "(ILLendlathe$Tariff;)I" } : Jvm.MethodName)) ∈ lw_all := lw_g (lw_at lw_m6 55 rfl) rfl
theorem q1311 : (Jvm.Cond.code ({ cls := "Lendlathe", name := "adds", desc := "(ILLendlathe$Tariff;)I" } : Jvm.MethodName) prog_1_method_7_code (3 : Nat) (Option.some Jvm.ClassFile.FieldType.int)) ∈ lw_all := lw_g (lw_at lw_m6 56 rfl) rfl
theorem q1316 : (Jvm.Cond.instanceMethod ({ cls := "Lendlathe", name := "addCap", desc := "(II)I" } : Jvm.MethodName)) ∈ lw_all := lw_g (lw_at lw_m6 61 rfl) rfl
theorem q1317 : (Jvm.Cond.selects "Lendlathe" ({ cls := "Lendlathe", name := "addCap", desc := "(II)I" } : Jvm.MethodName) ({ cls := "Lendlathe", name := "addCap", desc := "(II)I" } : Jvm.MethodName)) ∈ lw_all := lw_g (lw_at lw_m6 62 rfl) rfl
theorem q1318 : (Jvm.Cond.code ({ cls := "Lendlathe", name := "addCap", desc := "(II)I" } : Jvm.MethodName) prog_1_method_12_code (4 : Nat) (Option.some Jvm.ClassFile.FieldType.int)) ∈ lw_all := lw_g (lw_at lw_m6 63 rfl) rfl
theorem q1319 : (Jvm.Cond.static ({ cls := "Lendlathe", name := "lambda$addCap$2", desc := "(LLendlathe$Tariff;II)I" } : Jvm.MethodName)) ∈ lw_all := lw_g (lw_at lw_m6 64 rfl) rfl
theorem q1320 : (Jvm.Cond.code ({ cls := "Lendlathe", name := "lambda$addCap$2", desc := "(LLendlathe$Tariff;II)I" } : Jvm.MethodName) prog_1_method_78_code (3 : Nat) (Option.some Jvm.ClassFile.FieldType.int)) ∈ lw_all := lw_g (lw_at lw_m6 65 rfl) rfl
theorem q1321 : (Jvm.Cond.methodLink "Lendlathe" (386 : Nat) ({ cls := "java/lang/Math", name := "min", desc := "(II)I" } : Jvm.MethodName)) ∈ lw_all := lw_g (lw_at lw_m6 66 rfl) rfl
theorem q1326 : (Jvm.Cond.instanceMethod ({ cls := "Lendlathe", name := "addDouble", desc := "(II)I" } : Jvm.MethodName)) ∈ lw_all := lw_g (lw_at lw_m6 71 rfl) rfl
theorem q1327 : (Jvm.Cond.selects "Lendlathe" ({ cls := "Lendlathe", name := "addDouble", desc := "(II)I" } : Jvm.MethodName) ({ cls := "Lendlathe", name := "addDouble", desc := "(II)I" } : Jvm.MethodName)) ∈ lw_all := lw_g (lw_at lw_m6 72 rfl) rfl
theorem q1328 : (Jvm.Cond.code ({ cls := "Lendlathe", name := "addDouble", desc := "(II)I" } : Jvm.MethodName) prog_1_method_13_code (4 : Nat) (Option.some Jvm.ClassFile.FieldType.int)) ∈ lw_all := lw_g (lw_at lw_m6 73 rfl) rfl
theorem q1329 : (Jvm.Cond.static ({ cls := "Lendlathe", name := "lambda$addDouble$3", desc := "(LLendlathe$Tariff;II)I" } : Jvm.MethodName)) ∈ lw_all := lw_g (lw_at lw_m6 74 rfl) rfl
theorem q1330 : (Jvm.Cond.code ({ cls := "Lendlathe", name := "lambda$addDouble$3", desc := "(LLendlathe$Tariff;II)I" } : Jvm.MethodName) prog_1_method_77_code (3 : Nat) (Option.some Jvm.ClassFile.FieldType.int)) ∈ lw_all := lw_g (lw_at lw_m6 75 rfl) rfl
theorem q1331 : (Jvm.Cond.methodLink "Lendlathe" (381 : Nat) ({ cls := "java/lang/Math", name := "max", desc := "(II)I" } : Jvm.MethodName)) ∈ lw_all := lw_g (lw_at lw_m6 76 rfl) rfl
theorem q1336 : (Jvm.Cond.instanceMethod ({ cls := "Lendlathe", name := "addDiscount", desc := "(II)I" } : Jvm.MethodName)) ∈ lw_all := lw_g (lw_at lw_m6 81 rfl) rfl
theorem q1337 : (Jvm.Cond.selects "Lendlathe" ({ cls := "Lendlathe", name := "addDiscount", desc := "(II)I" } : Jvm.MethodName) ({ cls := "Lendlathe", name := "addDiscount", desc := "(II)I" } : Jvm.MethodName)) ∈ lw_all := lw_g (lw_at lw_m6 82 rfl) rfl
theorem q1338 : (Jvm.Cond.code ({ cls := "Lendlathe", name := "addDiscount", desc := "(II)I" } : Jvm.MethodName) prog_1_method_14_code (4 : Nat) (Option.some Jvm.ClassFile.FieldType.int)) ∈ lw_all := lw_g (lw_at lw_m6 83 rfl) rfl
theorem q1339 : (Jvm.Cond.static ({ cls := "Lendlathe", name := "lambda$addDiscount$4", desc := "(LLendlathe$Tariff;II)I" } : Jvm.MethodName)) ∈ lw_all := lw_g (lw_at lw_m6 84 rfl) rfl
theorem q1340 : (Jvm.Cond.code ({ cls := "Lendlathe", name := "lambda$addDiscount$4", desc := "(LLendlathe$Tariff;II)I" } : Jvm.MethodName) prog_1_method_76_code (4 : Nat) (Option.some Jvm.ClassFile.FieldType.int)) ∈ lw_all := lw_g (lw_at lw_m6 85 rfl) rfl
theorem q1345 : (Jvm.Cond.instanceMethod ({ cls := "Lendlathe", name := "costOf", desc := "(II)I" } : Jvm.MethodName)) ∈ lw_all := lw_g (lw_at lw_m6 90 rfl) rfl
theorem q1346 : (Jvm.Cond.selects "Lendlathe" ({ cls := "Lendlathe", name := "costOf", desc := "(II)I" } : Jvm.MethodName) ({ cls := "Lendlathe", name := "costOf", desc := "(II)I" } : Jvm.MethodName)) ∈ lw_all := lw_g (lw_at lw_m6 91 rfl) rfl
theorem q1347 : (Jvm.Cond.code ({ cls := "Lendlathe", name := "costOf", desc := "(II)I" } : Jvm.MethodName) prog_1_method_15_code (3 : Nat) (Option.some Jvm.ClassFile.FieldType.int)) ∈ lw_all := lw_g (lw_at lw_m6 92 rfl) rfl
theorem q1352 : (Jvm.Cond.instanceMethod ({ cls := "Lendlathe", name := "breakDown", desc := "(II)I" } : Jvm.MethodName)) ∈ lw_all := lw_g (lw_at lw_m6 97 rfl) rfl
theorem q1353 : (Jvm.Cond.selects "Lendlathe" ({ cls := "Lendlathe", name := "breakDown", desc := "(II)I" } : Jvm.MethodName) ({ cls := "Lendlathe", name := "breakDown", desc := "(II)I" } : Jvm.MethodName)) ∈ lw_all := lw_g (lw_at lw_m6 98 rfl) rfl
theorem q1354 : (Jvm.Cond.code ({ cls := "Lendlathe", name := "breakDown", desc := "(II)I" } : Jvm.MethodName) prog_1_method_66_code (11 : Nat) (Option.some Jvm.ClassFile.FieldType.int)) ∈ lw_all := lw_g (lw_at lw_m6 99 rfl) rfl
theorem q1355 : (Jvm.Cond.constant "Lendlathe" (343 : Nat) (100000 : Int32)) ∈ lw_all := lw_g (lw_at lw_m6 100 rfl) rfl
theorem q1356 : (Jvm.Cond.classLink "Lendlathe" (347 : Nat) "Lendlathe$1Part") ∈ lw_all := lw_g (lw_at lw_m6 101 rfl) rfl
theorem q1359 : (Jvm.Cond.methodLink "Lendlathe" (349 : Nat) ({ cls := "Lendlathe$1Part", name := "<init>", desc := "(LLendlathe;III)V" } : Jvm.MethodName)) ∈ lw_all := lw_g (lw_at lw_m6 104 rfl) rfl
theorem q1367 : (Jvm.Cond.fieldLinkNest "Lendlathe" (352 : Nat) "Lendlathe$1Part" "minutes" "I" "Lendlathe") ∈ lw_tbl := lw_at lw_m6 112 rfl
theorem q1369 : (Jvm.Cond.fieldLinkNest "Lendlathe" (359 : Nat) "Lendlathe$1Part" "share" "I" "Lendlathe") ∈ lw_tbl := lw_at lw_m6 114 rfl
theorem q1371 : (Jvm.Cond.fieldLinkNest "Lendlathe" (356 : Nat) "Lendlathe$1Part" "rest" "I" "Lendlathe") ∈ lw_tbl := lw_at lw_m6 116 rfl
theorem q1388 : (Jvm.Cond.methodLink "Lendlathe" (353 : Nat) ({ cls := "Lendlathe$1Part", name := "bears", desc := "(I)I" } : Jvm.MethodName)) ∈ lw_all := lw_g (lw_at lw_m6 133 rfl) rfl
theorem q1396 : (Jvm.Cond.instanceMethod ({ cls := "Lendlathe", name := "shareOf", desc := "(II)I" } : Jvm.MethodName)) ∈ lw_all := lw_g (lw_at lw_m6 141 rfl) rfl
theorem q1397 : (Jvm.Cond.selects "Lendlathe" ({ cls := "Lendlathe", name := "shareOf", desc := "(II)I" } : Jvm.MethodName) ({ cls := "Lendlathe", name := "shareOf", desc := "(II)I" } : Jvm.MethodName)) ∈ lw_all := lw_g (lw_at lw_m6 142 rfl) rfl
theorem q1398 : (Jvm.Cond.code ({ cls := "Lendlathe", name := "shareOf", desc := "(II)I" } : Jvm.MethodName) prog_1_method_67_code (3 : Nat) (Option.some Jvm.ClassFile.FieldType.int)) ∈ lw_all := lw_g (lw_at lw_m6 143 rfl) rfl
theorem q1403 : (Jvm.Cond.instanceMethod ({ cls := "Lendlathe", name := "pay", desc := "(II)I" } : Jvm.MethodName)) ∈ lw_all := lw_g (lw_at lw_m6 148 rfl) rfl
theorem q1404 : (Jvm.Cond.selects "Lendlathe" ({ cls := "Lendlathe", name := "pay", desc := "(II)I" } : Jvm.MethodName) ({ cls := "Lendlathe", name := "pay", desc := "(II)I" } : Jvm.MethodName)) ∈ lw_all := lw_g (lw_at lw_m6 149 rfl) rfl
theorem q1405 : (Jvm.Cond.code ({ cls := "Lendlathe", name := "pay", desc := "(II)I" } : Jvm.MethodName) prog_1_method_68_code (4 : Nat) (Option.some Jvm.ClassFile.FieldType.int)) ∈ lw_all := lw_g (lw_at lw_m6 150 rfl) rfl
theorem q1406 : (Jvm.Cond.constant "Lendlathe" (365 : Nat) (1000000 : Int32)) ∈ lw_all := lw_g (lw_at lw_m6 151 rfl) rfl
theorem q1407 : (Jvm.Cond.constant "Lendlathe" (369 : Nat) (1000000000 : Int32)) ∈ lw_all := lw_g (lw_at lw_m6 152 rfl) rfl
theorem q1412 : (Jvm.Cond.instanceMethod ({ cls := "Lendlathe", name := "owes", desc := "(I)I" } : Jvm.MethodName)) ∈ lw_all := lw_g (lw_at lw_m6 157 rfl) rfl
theorem q1413 : (Jvm.Cond.selects "Lendlathe" ({ cls := "Lendlathe", name := "owes", desc := "(I)I" } : Jvm.MethodName) ({ cls := "Lendlathe", name := "owes", desc := "(I)I" } : Jvm.MethodName)) ∈ lw_all := lw_g (lw_at lw_m6 158 rfl) rfl
theorem q1414 : (Jvm.Cond.code ({ cls := "Lendlathe", name := "owes", desc := "(I)I" } : Jvm.MethodName) prog_1_method_69_code (2 : Nat) (Option.some Jvm.ClassFile.FieldType.int)) ∈ lw_all := lw_g (lw_at lw_m6 159 rfl) rfl
theorem q1419 : (Jvm.Cond.instanceMethod ({ cls := "Lendlathe", name := "owesByEntries", desc := "(I)I" } : Jvm.MethodName)) ∈ lw_all := lw_g (lw_at lw_m6 164 rfl) rfl
theorem q1420 : (Jvm.Cond.selects "Lendlathe" ({ cls := "Lendlathe", name := "owesByEntries", desc := "(I)I" } : Jvm.MethodName) ({ cls := "Lendlathe", name := "owesByEntries", desc := "(I)I" } : Jvm.MethodName)) ∈ lw_all := lw_g (lw_at lw_m6 165 rfl) rfl
theorem q1421 : (Jvm.Cond.code ({ cls := "Lendlathe", name := "owesByEntries", desc := "(I)I" } : Jvm.MethodName) prog_1_method_71_code (2 : Nat) (Option.some Jvm.ClassFile.FieldType.int)) ∈ lw_all := lw_g (lw_at lw_m6 166 rfl) rfl
theorem q1426 : (Jvm.Cond.instanceMethod ({ cls := "Lendlathe", name := "dueOf", desc := "(I)I" } : Jvm.MethodName)) ∈ lw_all := lw_g (lw_at lw_m6 171 rfl) rfl
theorem q1427 : (Jvm.Cond.selects "Lendlathe" ({ cls := "Lendlathe", name := "dueOf", desc := "(I)I" } : Jvm.MethodName) ({ cls := "Lendlathe", name := "dueOf", desc := "(I)I" } : Jvm.MethodName)) ∈ lw_all := lw_g (lw_at lw_m6 172 rfl) rfl
theorem q1428 : (Jvm.Cond.code ({ cls := "Lendlathe", name := "dueOf", desc := "(I)I" } : Jvm.MethodName) prog_1_method_72_code (2 : Nat) (Option.some Jvm.ClassFile.FieldType.int)) ∈ lw_all := lw_g (lw_at lw_m6 173 rfl) rfl
theorem q1433 : (Jvm.Cond.instanceMethod ({ cls := "Lendlathe", name := "use", desc := "(II)F" } : Jvm.MethodName)) ∈ lw_all := lw_g (lw_at lw_m6 178 rfl) rfl
theorem q1434 : (Jvm.Cond.selects "Lendlathe" ({ cls := "Lendlathe", name := "use", desc := "(II)F" } : Jvm.MethodName) ({ cls := "Lendlathe", name := "use", desc := "(II)F" } : Jvm.MethodName)) ∈ lw_all := lw_g (lw_at lw_m6 179 rfl) rfl
theorem q1435 : (Jvm.Cond.code ({ cls := "Lendlathe", name := "use", desc := "(II)F" } : Jvm.MethodName) prog_1_method_57_code (3 : Nat) (Option.some Jvm.ClassFile.FieldType.float)) ∈ lw_all := lw_g (lw_at lw_m6 180 rfl) rfl
theorem q1436 : (Jvm.Cond.constantFloat "Lendlathe" (313 : Nat) (1139802112 : UInt32)) ∈ lw_all := lw_g (lw_at lw_m6 181 rfl) rfl
theorem q1441 : (Jvm.Cond.instanceMethod ({ cls := "Lendlathe", name := "meanMinutes", desc := "()D" } : Jvm.MethodName)) ∈ lw_all := lw_g (lw_at lw_m6 186 rfl) rfl
theorem q1442 : (Jvm.Cond.selects "Lendlathe" ({ cls := "Lendlathe", name := "meanMinutes", desc := "()D" } : Jvm.MethodName) ({ cls := "Lendlathe", name := "meanMinutes", desc := "()D" } : Jvm.MethodName)) ∈ lw_all := lw_g (lw_at lw_m6 187 rfl) rfl
theorem q1443 : (Jvm.Cond.code ({ cls := "Lendlathe", name := "meanMinutes", desc := "()D" } : Jvm.MethodName) prog_1_method_58_code (4 : Nat) (Option.some Jvm.ClassFile.FieldType.double)) ∈ lw_all := lw_g (lw_at lw_m6 188 rfl) rfl
theorem q1852 : (Jvm.Cond.castable "Lendlathe" "java/lang/Object") ∈ lw_tbl := lw_at lw_m8 117 rfl
theorem in_X1 : ∀ w ∈ wsX10, w ∈ lw_all := lw_in wsX10 [627, 629, 631, 633, 635, 637, 639, 641, 643, 645, 647, 649, 651] (by decide +kernel) (by decide +kernel)

