/-! CrateYardModel -/
set_option maxRecDepth 100000
def RX3 : String := "CrateYardModel"
def TX3 : u_T := fun k => match k with
  | 0 => ("CrateYardModel", "thrown", "I", false)
  | 1 => ("CrateYardModel", "now", "I", false)
  | 2 => ("CrateYardModel", "layers", "I", false)
  | 3 => ("CrateYardModel", "isWithdrawn", "[Z", true)
  | 4 => ("CrateYardModel", "outAt", "[I", true)
  | 5 => ("CrateYardModel", "images", "I", false)
  | 6 => ("CrateYardModel", "parent", "[I", true)
  | 7 => ("CrateYardModel", "own", "[I", true)
  | 8 => ("CrateYardModel", "hosts", "I", false)
  | 9 => ("CrateYardModel", "cores", "[I", true)
  | 10 => ("CrateYardModel", "memory", "[I", true)
  | 11 => ("CrateYardModel", "windows", "I", false)
  | 12 => ("CrateYardModel", "first", "[I", true)
  | 13 => ("CrateYardModel", "length", "[I", true)
  | 14 => ("CrateYardModel", "tenantOf", "[I", true)
  | 15 => ("CrateYardModel", "licence", "I", false)
  | 16 => ("CrateYardModel", "containers", "I", false)
  | 17 => ("CrateYardModel", "tenant", "[I", true)
  | 18 => ("CrateYardModel", "image", "[I", true)
  | 19 => ("CrateYardModel", "needsCores", "[I", true)
  | 20 => ("CrateYardModel", "needsMemory", "[I", true)
  | 21 => ("CrateYardModel", "state", "[C", true)
  | 22 => ("CrateYardModel", "host", "[I", true)
  | 23 => ("CrateYardModel", "with", "[I", true)
  | 24 => ("CrateYardModel", "started", "[I", true)
  | 25 => ("CrateYardModel", "until", "[I", true)
  | 26 => ("CrateYardModel", "row", "[I", true)
  | 27 => ("CrateYardModel", "starts", "J", false)
  | 28 => ("CrateYardModel", "leftCores", "[I", true)
  | _ => ("CrateYardModel", "leftMemory", "[I", true)
def tyX3 : Nat → FieldType := fun k => match k with
  | 0 => .int
  | 1 => .int
  | 2 => .int
  | 3 => .array .boolean
  | 4 => .array .int
  | 5 => .int
  | 6 => .array .int
  | 7 => .array .int
  | 8 => .int
  | 9 => .array .int
  | 10 => .array .int
  | 11 => .int
  | 12 => .array .int
  | 13 => .array .int
  | 14 => .array .int
  | 15 => .int
  | 16 => .int
  | 17 => .array .int
  | 18 => .array .int
  | 19 => .array .int
  | 20 => .array .int
  | 21 => .array .char
  | 22 => .array .int
  | 23 => .array .int
  | 24 => .array .int
  | 25 => .array .int
  | 26 => .array .int
  | 27 => .long
  | 28 => .array .int
  | _ => .array .int
abbrev wsX30 : List Cond := u_ws RX3 TX3 30
set_option maxRecDepth 100000 in
theorem nmX3 : ∀ a, a < 30 → ∀ b, b < 30 → a ≠ b → (TX3 a).2.1 ≠ (TX3 b).2.1 := by decide +kernel
set_option maxRecDepth 100000 in
theorem tyX3_ok : ∀ k, k < 30 → parseFieldDescriptor (TX3 k).2.2.1 = some (tyX3 k) := by decide +kernel
abbrev cX3_init : ByteArray := prog_12_method_1_code
def yX3_init : MethodName := ⟨RX3, "<init>", "()V"⟩
def dkwX3_init_7 : List UInt8 := [181, 0, 73, 42, 7, 188, 10, 181, 0, 76, 177]
abbrev dktX3_init_7 : List UInt8 := dkwX3_init_7 ++ []
def dkwX3_init_6 : List UInt8 := [181, 0, 64, 42, 16, 12, 188, 10, 181, 0, 67, 42, 16, 12, 188, 10, 181, 0, 70, 42, 7, 188, 10]
abbrev dktX3_init_6 : List UInt8 := dkwX3_init_6 ++ dktX3_init_7
def dkwX3_init_5 : List UInt8 := [181, 0, 54, 42, 16, 12, 188, 10, 181, 0, 58, 42, 16, 12, 188, 10, 181, 0, 61, 42, 16, 12, 188, 10]
abbrev dktX3_init_5 : List UInt8 := dkwX3_init_5 ++ dktX3_init_6
def dkwX3_init_4 : List UInt8 := [181, 0, 45, 42, 16, 12, 188, 10, 181, 0, 48, 42, 16, 12, 188, 10, 181, 0, 51, 42, 16, 12, 188, 5]
abbrev dktX3_init_4 : List UInt8 := dkwX3_init_4 ++ dktX3_init_5
def dkwX3_init_3 : List UInt8 := [181, 0, 35, 42, 16, 16, 181, 0, 38, 42, 16, 12, 188, 10, 181, 0, 42, 42, 16, 12, 188, 10]
abbrev dktX3_init_3 : List UInt8 := dkwX3_init_3 ++ dktX3_init_4
def dkwX3_init_2 : List UInt8 := [181, 0, 26, 42, 16, 6, 188, 10, 181, 0, 29, 42, 16, 6, 188, 10, 181, 0, 32, 42, 16, 6, 188, 10]
abbrev dktX3_init_2 : List UInt8 := dkwX3_init_2 ++ dktX3_init_3
def dkwX3_init_1 : List UInt8 := [188, 10, 181, 0, 17, 42, 16, 8, 188, 10, 181, 0, 20, 42, 7, 188, 10, 181, 0, 23, 42, 7, 188, 10]
abbrev dktX3_init_1 : List UInt8 := dkwX3_init_1 ++ dktX3_init_2
def dkwX3_init_0 : List UInt8 := [42, 183, 0, 1, 42, 16, 12, 188, 4, 181, 0, 7, 42, 16, 12, 188, 10, 181, 0, 13, 42, 16, 8]
abbrev dktX3_init_0 : List UInt8 := dkwX3_init_0 ++ dktX3_init_1
theorem dksX3_init_0 : cX3_init.data.toList.drop 0 = dktX3_init_0 := by decide +kernel
theorem dksX3_init_1 : cX3_init.data.toList.drop 23 = dktX3_init_1 := dk_seg dksX3_init_0 23 rfl rfl
theorem dksX3_init_2 : cX3_init.data.toList.drop 47 = dktX3_init_2 := dk_seg dksX3_init_1 24 rfl rfl
theorem dksX3_init_3 : cX3_init.data.toList.drop 71 = dktX3_init_3 := dk_seg dksX3_init_2 24 rfl rfl
theorem dksX3_init_4 : cX3_init.data.toList.drop 93 = dktX3_init_4 := dk_seg dksX3_init_3 22 rfl rfl
theorem dksX3_init_5 : cX3_init.data.toList.drop 117 = dktX3_init_5 := dk_seg dksX3_init_4 24 rfl rfl
theorem dksX3_init_6 : cX3_init.data.toList.drop 141 = dktX3_init_6 := dk_seg dksX3_init_5 24 rfl rfl
theorem dksX3_init_7 : cX3_init.data.toList.drop 164 = dktX3_init_7 := dk_seg dksX3_init_6 23 rfl rfl
theorem dX3_init_0 : decode cX3_init 0 = .ok (.aload_n 0, 1) := dk_42 (dk_at dksX3_init_0 0 rfl rfl)
theorem dX3_init_1 : decode cX3_init 1 = .ok (.invokespecial 1, 3) := dk_183 0 1 (dk_at dksX3_init_0 1 rfl rfl)
theorem dX3_init_4 : decode cX3_init 4 = .ok (.aload_n 0, 1) := dk_42 (dk_at dksX3_init_0 4 rfl rfl)
theorem dX3_init_5 : decode cX3_init 5 = .ok (.bipush 12, 2) := dk_16 12 (dk_at dksX3_init_0 5 rfl rfl)
theorem dX3_init_7 : decode cX3_init 7 = .ok (.newarray .boolean, 2) := dk_188_4 (dk_at dksX3_init_0 7 rfl rfl)
theorem dX3_init_9 : decode cX3_init 9 = .ok (.putfield 7, 3) := dk_181 0 7 (dk_at dksX3_init_0 9 rfl rfl)
theorem dX3_init_12 : decode cX3_init 12 = .ok (.aload_n 0, 1) := dk_42 (dk_at dksX3_init_0 12 rfl rfl)
theorem dX3_init_13 : decode cX3_init 13 = .ok (.bipush 12, 2) := dk_16 12 (dk_at dksX3_init_0 13 rfl rfl)
theorem dX3_init_15 : decode cX3_init 15 = .ok (.newarray .int, 2) := dk_188_10 (dk_at dksX3_init_0 15 rfl rfl)
theorem dX3_init_17 : decode cX3_init 17 = .ok (.putfield 13, 3) := dk_181 0 13 (dk_at dksX3_init_0 17 rfl rfl)
theorem dX3_init_20 : decode cX3_init 20 = .ok (.aload_n 0, 1) := dk_42 (dk_at dksX3_init_0 20 rfl rfl)
theorem dX3_init_21 : decode cX3_init 21 = .ok (.bipush 8, 2) := dk_16 8 (dk_at dksX3_init_0 21 rfl rfl)
theorem dX3_init_23 : decode cX3_init 23 = .ok (.newarray .int, 2) := dk_188_10 (dk_at dksX3_init_1 0 rfl rfl)
theorem dX3_init_25 : decode cX3_init 25 = .ok (.putfield 17, 3) := dk_181 0 17 (dk_at dksX3_init_1 2 rfl rfl)
theorem dX3_init_28 : decode cX3_init 28 = .ok (.aload_n 0, 1) := dk_42 (dk_at dksX3_init_1 5 rfl rfl)
theorem dX3_init_29 : decode cX3_init 29 = .ok (.bipush 8, 2) := dk_16 8 (dk_at dksX3_init_1 6 rfl rfl)
theorem dX3_init_31 : decode cX3_init 31 = .ok (.newarray .int, 2) := dk_188_10 (dk_at dksX3_init_1 8 rfl rfl)
theorem dX3_init_33 : decode cX3_init 33 = .ok (.putfield 20, 3) := dk_181 0 20 (dk_at dksX3_init_1 10 rfl rfl)
theorem dX3_init_36 : decode cX3_init 36 = .ok (.aload_n 0, 1) := dk_42 (dk_at dksX3_init_1 13 rfl rfl)
theorem dX3_init_37 : decode cX3_init 37 = .ok (.iconst 4, 1) := dk_7 (dk_at dksX3_init_1 14 rfl rfl)
theorem dX3_init_38 : decode cX3_init 38 = .ok (.newarray .int, 2) := dk_188_10 (dk_at dksX3_init_1 15 rfl rfl)
theorem dX3_init_40 : decode cX3_init 40 = .ok (.putfield 23, 3) := dk_181 0 23 (dk_at dksX3_init_1 17 rfl rfl)
theorem dX3_init_43 : decode cX3_init 43 = .ok (.aload_n 0, 1) := dk_42 (dk_at dksX3_init_1 20 rfl rfl)
theorem dX3_init_44 : decode cX3_init 44 = .ok (.iconst 4, 1) := dk_7 (dk_at dksX3_init_1 21 rfl rfl)
theorem dX3_init_45 : decode cX3_init 45 = .ok (.newarray .int, 2) := dk_188_10 (dk_at dksX3_init_1 22 rfl rfl)
theorem dX3_init_47 : decode cX3_init 47 = .ok (.putfield 26, 3) := dk_181 0 26 (dk_at dksX3_init_2 0 rfl rfl)
theorem dX3_init_50 : decode cX3_init 50 = .ok (.aload_n 0, 1) := dk_42 (dk_at dksX3_init_2 3 rfl rfl)
theorem dX3_init_51 : decode cX3_init 51 = .ok (.bipush 6, 2) := dk_16 6 (dk_at dksX3_init_2 4 rfl rfl)
theorem dX3_init_53 : decode cX3_init 53 = .ok (.newarray .int, 2) := dk_188_10 (dk_at dksX3_init_2 6 rfl rfl)
theorem dX3_init_55 : decode cX3_init 55 = .ok (.putfield 29, 3) := dk_181 0 29 (dk_at dksX3_init_2 8 rfl rfl)
theorem dX3_init_58 : decode cX3_init 58 = .ok (.aload_n 0, 1) := dk_42 (dk_at dksX3_init_2 11 rfl rfl)
theorem dX3_init_59 : decode cX3_init 59 = .ok (.bipush 6, 2) := dk_16 6 (dk_at dksX3_init_2 12 rfl rfl)
theorem dX3_init_61 : decode cX3_init 61 = .ok (.newarray .int, 2) := dk_188_10 (dk_at dksX3_init_2 14 rfl rfl)
theorem dX3_init_63 : decode cX3_init 63 = .ok (.putfield 32, 3) := dk_181 0 32 (dk_at dksX3_init_2 16 rfl rfl)
theorem dX3_init_66 : decode cX3_init 66 = .ok (.aload_n 0, 1) := dk_42 (dk_at dksX3_init_2 19 rfl rfl)
theorem dX3_init_67 : decode cX3_init 67 = .ok (.bipush 6, 2) := dk_16 6 (dk_at dksX3_init_2 20 rfl rfl)
theorem dX3_init_69 : decode cX3_init 69 = .ok (.newarray .int, 2) := dk_188_10 (dk_at dksX3_init_2 22 rfl rfl)
theorem dX3_init_71 : decode cX3_init 71 = .ok (.putfield 35, 3) := dk_181 0 35 (dk_at dksX3_init_3 0 rfl rfl)
theorem dX3_init_74 : decode cX3_init 74 = .ok (.aload_n 0, 1) := dk_42 (dk_at dksX3_init_3 3 rfl rfl)
theorem dX3_init_75 : decode cX3_init 75 = .ok (.bipush 16, 2) := dk_16 16 (dk_at dksX3_init_3 4 rfl rfl)
theorem dX3_init_77 : decode cX3_init 77 = .ok (.putfield 38, 3) := dk_181 0 38 (dk_at dksX3_init_3 6 rfl rfl)
theorem dX3_init_80 : decode cX3_init 80 = .ok (.aload_n 0, 1) := dk_42 (dk_at dksX3_init_3 9 rfl rfl)
theorem dX3_init_81 : decode cX3_init 81 = .ok (.bipush 12, 2) := dk_16 12 (dk_at dksX3_init_3 10 rfl rfl)
theorem dX3_init_83 : decode cX3_init 83 = .ok (.newarray .int, 2) := dk_188_10 (dk_at dksX3_init_3 12 rfl rfl)
theorem dX3_init_85 : decode cX3_init 85 = .ok (.putfield 42, 3) := dk_181 0 42 (dk_at dksX3_init_3 14 rfl rfl)
theorem dX3_init_88 : decode cX3_init 88 = .ok (.aload_n 0, 1) := dk_42 (dk_at dksX3_init_3 17 rfl rfl)
theorem dX3_init_89 : decode cX3_init 89 = .ok (.bipush 12, 2) := dk_16 12 (dk_at dksX3_init_3 18 rfl rfl)
theorem dX3_init_91 : decode cX3_init 91 = .ok (.newarray .int, 2) := dk_188_10 (dk_at dksX3_init_3 20 rfl rfl)
theorem dX3_init_93 : decode cX3_init 93 = .ok (.putfield 45, 3) := dk_181 0 45 (dk_at dksX3_init_4 0 rfl rfl)
theorem dX3_init_96 : decode cX3_init 96 = .ok (.aload_n 0, 1) := dk_42 (dk_at dksX3_init_4 3 rfl rfl)
theorem dX3_init_97 : decode cX3_init 97 = .ok (.bipush 12, 2) := dk_16 12 (dk_at dksX3_init_4 4 rfl rfl)
theorem dX3_init_99 : decode cX3_init 99 = .ok (.newarray .int, 2) := dk_188_10 (dk_at dksX3_init_4 6 rfl rfl)
theorem dX3_init_101 : decode cX3_init 101 = .ok (.putfield 48, 3) := dk_181 0 48 (dk_at dksX3_init_4 8 rfl rfl)
theorem dX3_init_104 : decode cX3_init 104 = .ok (.aload_n 0, 1) := dk_42 (dk_at dksX3_init_4 11 rfl rfl)
theorem dX3_init_105 : decode cX3_init 105 = .ok (.bipush 12, 2) := dk_16 12 (dk_at dksX3_init_4 12 rfl rfl)
theorem dX3_init_107 : decode cX3_init 107 = .ok (.newarray .int, 2) := dk_188_10 (dk_at dksX3_init_4 14 rfl rfl)
theorem dX3_init_109 : decode cX3_init 109 = .ok (.putfield 51, 3) := dk_181 0 51 (dk_at dksX3_init_4 16 rfl rfl)
theorem dX3_init_112 : decode cX3_init 112 = .ok (.aload_n 0, 1) := dk_42 (dk_at dksX3_init_4 19 rfl rfl)
theorem dX3_init_113 : decode cX3_init 113 = .ok (.bipush 12, 2) := dk_16 12 (dk_at dksX3_init_4 20 rfl rfl)
theorem dX3_init_115 : decode cX3_init 115 = .ok (.newarray .char, 2) := dk_188_5 (dk_at dksX3_init_4 22 rfl rfl)
theorem dX3_init_117 : decode cX3_init 117 = .ok (.putfield 54, 3) := dk_181 0 54 (dk_at dksX3_init_5 0 rfl rfl)
theorem dX3_init_120 : decode cX3_init 120 = .ok (.aload_n 0, 1) := dk_42 (dk_at dksX3_init_5 3 rfl rfl)
theorem dX3_init_121 : decode cX3_init 121 = .ok (.bipush 12, 2) := dk_16 12 (dk_at dksX3_init_5 4 rfl rfl)
theorem dX3_init_123 : decode cX3_init 123 = .ok (.newarray .int, 2) := dk_188_10 (dk_at dksX3_init_5 6 rfl rfl)
theorem dX3_init_125 : decode cX3_init 125 = .ok (.putfield 58, 3) := dk_181 0 58 (dk_at dksX3_init_5 8 rfl rfl)
theorem dX3_init_128 : decode cX3_init 128 = .ok (.aload_n 0, 1) := dk_42 (dk_at dksX3_init_5 11 rfl rfl)
theorem dX3_init_129 : decode cX3_init 129 = .ok (.bipush 12, 2) := dk_16 12 (dk_at dksX3_init_5 12 rfl rfl)
theorem dX3_init_131 : decode cX3_init 131 = .ok (.newarray .int, 2) := dk_188_10 (dk_at dksX3_init_5 14 rfl rfl)
theorem dX3_init_133 : decode cX3_init 133 = .ok (.putfield 61, 3) := dk_181 0 61 (dk_at dksX3_init_5 16 rfl rfl)
theorem dX3_init_136 : decode cX3_init 136 = .ok (.aload_n 0, 1) := dk_42 (dk_at dksX3_init_5 19 rfl rfl)
theorem dX3_init_137 : decode cX3_init 137 = .ok (.bipush 12, 2) := dk_16 12 (dk_at dksX3_init_5 20 rfl rfl)
theorem dX3_init_139 : decode cX3_init 139 = .ok (.newarray .int, 2) := dk_188_10 (dk_at dksX3_init_5 22 rfl rfl)
theorem dX3_init_141 : decode cX3_init 141 = .ok (.putfield 64, 3) := dk_181 0 64 (dk_at dksX3_init_6 0 rfl rfl)
theorem dX3_init_144 : decode cX3_init 144 = .ok (.aload_n 0, 1) := dk_42 (dk_at dksX3_init_6 3 rfl rfl)
theorem dX3_init_145 : decode cX3_init 145 = .ok (.bipush 12, 2) := dk_16 12 (dk_at dksX3_init_6 4 rfl rfl)
theorem dX3_init_147 : decode cX3_init 147 = .ok (.newarray .int, 2) := dk_188_10 (dk_at dksX3_init_6 6 rfl rfl)
theorem dX3_init_149 : decode cX3_init 149 = .ok (.putfield 67, 3) := dk_181 0 67 (dk_at dksX3_init_6 8 rfl rfl)
theorem dX3_init_152 : decode cX3_init 152 = .ok (.aload_n 0, 1) := dk_42 (dk_at dksX3_init_6 11 rfl rfl)
theorem dX3_init_153 : decode cX3_init 153 = .ok (.bipush 12, 2) := dk_16 12 (dk_at dksX3_init_6 12 rfl rfl)
theorem dX3_init_155 : decode cX3_init 155 = .ok (.newarray .int, 2) := dk_188_10 (dk_at dksX3_init_6 14 rfl rfl)
theorem dX3_init_157 : decode cX3_init 157 = .ok (.putfield 70, 3) := dk_181 0 70 (dk_at dksX3_init_6 16 rfl rfl)
theorem dX3_init_160 : decode cX3_init 160 = .ok (.aload_n 0, 1) := dk_42 (dk_at dksX3_init_6 19 rfl rfl)
theorem dX3_init_161 : decode cX3_init 161 = .ok (.iconst 4, 1) := dk_7 (dk_at dksX3_init_6 20 rfl rfl)
theorem dX3_init_162 : decode cX3_init 162 = .ok (.newarray .int, 2) := dk_188_10 (dk_at dksX3_init_6 21 rfl rfl)
theorem dX3_init_164 : decode cX3_init 164 = .ok (.putfield 73, 3) := dk_181 0 73 (dk_at dksX3_init_7 0 rfl rfl)
theorem dX3_init_167 : decode cX3_init 167 = .ok (.aload_n 0, 1) := dk_42 (dk_at dksX3_init_7 3 rfl rfl)
theorem dX3_init_168 : decode cX3_init 168 = .ok (.iconst 4, 1) := dk_7 (dk_at dksX3_init_7 4 rfl rfl)
theorem dX3_init_169 : decode cX3_init 169 = .ok (.newarray .int, 2) := dk_188_10 (dk_at dksX3_init_7 5 rfl rfl)
theorem dX3_init_171 : decode cX3_init 171 = .ok (.putfield 76, 3) := dk_181 0 76 (dk_at dksX3_init_7 7 rfl rfl)
theorem dX3_init_174 : decode cX3_init 174 = .ok (.return_, 1) := dk_177 (dk_at dksX3_init_7 10 rfl rfl)
abbrev cX3_thrown : ByteArray := prog_12_method_2_code
def yX3_thrown : MethodName := ⟨RX3, "thrown", "()I"⟩
theorem dX3_thrown_0 : decode cX3_thrown 0 = .ok (.aload_n 0, 1) := by decide +kernel
theorem dX3_thrown_1 : decode cX3_thrown 1 = .ok (.getfield 79, 3) := by decide +kernel
theorem dX3_thrown_4 : decode cX3_thrown 4 = .ok (.ireturn, 1) := by decide +kernel
abbrev cX3_addLayer : ByteArray := prog_12_method_14_code
def yX3_addLayer : MethodName := ⟨RX3, "addLayer", "()I"⟩
def dkwX3_addLayer_1 : List UInt8 := [153, 0, 5, 3, 172, 42, 89, 180, 0, 82, 4, 96, 181, 0, 82, 42, 180, 0, 82, 4, 100, 172]
abbrev dktX3_addLayer_1 : List UInt8 := dkwX3_addLayer_1 ++ []
def dkwX3_addLayer_0 : List UInt8 := [42, 3, 181, 0, 79, 42, 42, 180, 0, 82, 16, 12, 160, 0, 7, 4, 167, 0, 4, 3, 4, 182, 0, 109]
abbrev dktX3_addLayer_0 : List UInt8 := dkwX3_addLayer_0 ++ dktX3_addLayer_1
theorem dksX3_addLayer_0 : cX3_addLayer.data.toList.drop 0 = dktX3_addLayer_0 := by decide +kernel
theorem dksX3_addLayer_1 : cX3_addLayer.data.toList.drop 24 = dktX3_addLayer_1 := dk_seg dksX3_addLayer_0 24 rfl rfl
theorem dX3_addLayer_0 : decode cX3_addLayer 0 = .ok (.aload_n 0, 1) := dk_42 (dk_at dksX3_addLayer_0 0 rfl rfl)
theorem dX3_addLayer_1 : decode cX3_addLayer 1 = .ok (.iconst 0, 1) := dk_3 (dk_at dksX3_addLayer_0 1 rfl rfl)
theorem dX3_addLayer_2 : decode cX3_addLayer 2 = .ok (.putfield 79, 3) := dk_181 0 79 (dk_at dksX3_addLayer_0 2 rfl rfl)
theorem dX3_addLayer_5 : decode cX3_addLayer 5 = .ok (.aload_n 0, 1) := dk_42 (dk_at dksX3_addLayer_0 5 rfl rfl)
theorem dX3_addLayer_6 : decode cX3_addLayer 6 = .ok (.aload_n 0, 1) := dk_42 (dk_at dksX3_addLayer_0 6 rfl rfl)
theorem dX3_addLayer_7 : decode cX3_addLayer 7 = .ok (.getfield 82, 3) := dk_180 0 82 (dk_at dksX3_addLayer_0 7 rfl rfl)
theorem dX3_addLayer_10 : decode cX3_addLayer 10 = .ok (.bipush 12, 2) := dk_16 12 (dk_at dksX3_addLayer_0 10 rfl rfl)
theorem dX3_addLayer_12 : decode cX3_addLayer 12 = .ok (.if_icmp .ne 7, 3) := dk_160 0 7 (dk_at dksX3_addLayer_0 12 rfl rfl)
theorem dX3_addLayer_15 : decode cX3_addLayer 15 = .ok (.iconst 1, 1) := dk_4 (dk_at dksX3_addLayer_0 15 rfl rfl)
theorem dX3_addLayer_16 : decode cX3_addLayer 16 = .ok (.goto 4, 3) := dk_167 0 4 (dk_at dksX3_addLayer_0 16 rfl rfl)
theorem dX3_addLayer_19 : decode cX3_addLayer 19 = .ok (.iconst 0, 1) := dk_3 (dk_at dksX3_addLayer_0 19 rfl rfl)
theorem dX3_addLayer_20 : decode cX3_addLayer 20 = .ok (.iconst 1, 1) := dk_4 (dk_at dksX3_addLayer_0 20 rfl rfl)
theorem dX3_addLayer_21 : decode cX3_addLayer 21 = .ok (.invokevirtual 109, 3) := dk_182 0 109 (dk_at dksX3_addLayer_0 21 rfl rfl)
theorem dX3_addLayer_24 : decode cX3_addLayer 24 = .ok (.ifCond .eq 5, 3) := dk_153 0 5 (dk_at dksX3_addLayer_1 0 rfl rfl)
theorem dX3_addLayer_27 : decode cX3_addLayer 27 = .ok (.iconst 0, 1) := dk_3 (dk_at dksX3_addLayer_1 3 rfl rfl)
theorem dX3_addLayer_28 : decode cX3_addLayer 28 = .ok (.ireturn, 1) := dk_172 (dk_at dksX3_addLayer_1 4 rfl rfl)
theorem dX3_addLayer_29 : decode cX3_addLayer 29 = .ok (.aload_n 0, 1) := dk_42 (dk_at dksX3_addLayer_1 5 rfl rfl)
theorem dX3_addLayer_30 : decode cX3_addLayer 30 = .ok (.dup, 1) := dk_89 (dk_at dksX3_addLayer_1 6 rfl rfl)
theorem dX3_addLayer_31 : decode cX3_addLayer 31 = .ok (.getfield 82, 3) := dk_180 0 82 (dk_at dksX3_addLayer_1 7 rfl rfl)
theorem dX3_addLayer_34 : decode cX3_addLayer 34 = .ok (.iconst 1, 1) := dk_4 (dk_at dksX3_addLayer_1 10 rfl rfl)
theorem dX3_addLayer_35 : decode cX3_addLayer 35 = .ok (.iadd, 1) := dk_96 (dk_at dksX3_addLayer_1 11 rfl rfl)
theorem dX3_addLayer_36 : decode cX3_addLayer 36 = .ok (.putfield 82, 3) := dk_181 0 82 (dk_at dksX3_addLayer_1 12 rfl rfl)
theorem dX3_addLayer_39 : decode cX3_addLayer 39 = .ok (.aload_n 0, 1) := dk_42 (dk_at dksX3_addLayer_1 15 rfl rfl)
theorem dX3_addLayer_40 : decode cX3_addLayer 40 = .ok (.getfield 82, 3) := dk_180 0 82 (dk_at dksX3_addLayer_1 16 rfl rfl)
theorem dX3_addLayer_43 : decode cX3_addLayer 43 = .ok (.iconst 1, 1) := dk_4 (dk_at dksX3_addLayer_1 19 rfl rfl)
theorem dX3_addLayer_44 : decode cX3_addLayer 44 = .ok (.isub, 1) := dk_100 (dk_at dksX3_addLayer_1 20 rfl rfl)
theorem dX3_addLayer_45 : decode cX3_addLayer 45 = .ok (.ireturn, 1) := dk_172 (dk_at dksX3_addLayer_1 21 rfl rfl)
abbrev cX3_fails : ByteArray := prog_12_method_4_code
def yX3_fails : MethodName := ⟨RX3, "fails", "(ZI)Z"⟩
def dkwX3_fails_1 : List UInt8 := [167, 0, 4, 3, 172]
abbrev dktX3_fails_1 : List UInt8 := dkwX3_fails_1 ++ []
def dkwX3_fails_0 : List UInt8 := [27, 153, 0, 15, 42, 180, 0, 79, 154, 0, 8, 42, 28, 181, 0, 79, 42, 180, 0, 79, 153, 0, 7, 4]
abbrev dktX3_fails_0 : List UInt8 := dkwX3_fails_0 ++ dktX3_fails_1
theorem dksX3_fails_0 : cX3_fails.data.toList.drop 0 = dktX3_fails_0 := by decide +kernel
theorem dksX3_fails_1 : cX3_fails.data.toList.drop 24 = dktX3_fails_1 := dk_seg dksX3_fails_0 24 rfl rfl
theorem dX3_fails_0 : decode cX3_fails 0 = .ok (.iload_n 1, 1) := dk_27 (dk_at dksX3_fails_0 0 rfl rfl)
theorem dX3_fails_1 : decode cX3_fails 1 = .ok (.ifCond .eq 15, 3) := dk_153 0 15 (dk_at dksX3_fails_0 1 rfl rfl)
theorem dX3_fails_4 : decode cX3_fails 4 = .ok (.aload_n 0, 1) := dk_42 (dk_at dksX3_fails_0 4 rfl rfl)
theorem dX3_fails_5 : decode cX3_fails 5 = .ok (.getfield 79, 3) := dk_180 0 79 (dk_at dksX3_fails_0 5 rfl rfl)
theorem dX3_fails_8 : decode cX3_fails 8 = .ok (.ifCond .ne 8, 3) := dk_154 0 8 (dk_at dksX3_fails_0 8 rfl rfl)
theorem dX3_fails_11 : decode cX3_fails 11 = .ok (.aload_n 0, 1) := dk_42 (dk_at dksX3_fails_0 11 rfl rfl)
theorem dX3_fails_12 : decode cX3_fails 12 = .ok (.iload_n 2, 1) := dk_28 (dk_at dksX3_fails_0 12 rfl rfl)
theorem dX3_fails_13 : decode cX3_fails 13 = .ok (.putfield 79, 3) := dk_181 0 79 (dk_at dksX3_fails_0 13 rfl rfl)
theorem dX3_fails_16 : decode cX3_fails 16 = .ok (.aload_n 0, 1) := dk_42 (dk_at dksX3_fails_0 16 rfl rfl)
theorem dX3_fails_17 : decode cX3_fails 17 = .ok (.getfield 79, 3) := dk_180 0 79 (dk_at dksX3_fails_0 17 rfl rfl)
theorem dX3_fails_20 : decode cX3_fails 20 = .ok (.ifCond .eq 7, 3) := dk_153 0 7 (dk_at dksX3_fails_0 20 rfl rfl)
theorem dX3_fails_23 : decode cX3_fails 23 = .ok (.iconst 1, 1) := dk_4 (dk_at dksX3_fails_0 23 rfl rfl)
theorem dX3_fails_24 : decode cX3_fails 24 = .ok (.goto 4, 3) := dk_167 0 4 (dk_at dksX3_fails_1 0 rfl rfl)
theorem dX3_fails_27 : decode cX3_fails 27 = .ok (.iconst 0, 1) := dk_3 (dk_at dksX3_fails_1 3 rfl rfl)
theorem dX3_fails_28 : decode cX3_fails 28 = .ok (.ireturn, 1) := dk_172 (dk_at dksX3_fails_1 4 rfl rfl)
abbrev cX3_addImage : ByteArray := prog_12_method_15_code
def yX3_addImage : MethodName := ⟨RX3, "addImage", "(II)I"⟩
def dkwX3_addImage_5 : List UInt8 := [4, 96, 181, 0, 89, 42, 180, 0, 89, 4, 100, 172]
abbrev dktX3_addImage_5 : List UInt8 := dkwX3_addImage_5 ++ []
def dkwX3_addImage_4 : List UInt8 := [180, 0, 17, 42, 180, 0, 89, 27, 79, 42, 180, 0, 20, 42, 180, 0, 89, 28, 79, 42, 89, 180, 0, 89]
abbrev dktX3_addImage_4 : List UInt8 := dkwX3_addImage_4 ++ dktX3_addImage_5
def dkwX3_addImage_3 : List UInt8 := [42, 180, 0, 89, 16, 8, 160, 0, 7, 4, 167, 0, 4, 3, 6, 182, 0, 109, 153, 0, 5, 3, 172, 42]
abbrev dktX3_addImage_3 : List UInt8 := dkwX3_addImage_3 ++ dktX3_addImage_4
def dkwX3_addImage_2 : List UInt8 := [182, 0, 105, 28, 122, 4, 126, 4, 160, 0, 7, 4, 167, 0, 4, 3, 5, 182, 0, 109, 154, 0, 25, 42]
abbrev dktX3_addImage_2 : List UInt8 := dkwX3_addImage_2 ++ dktX3_addImage_3
def dkwX3_addImage_1 : List UInt8 := [153, 0, 7, 4, 167, 0, 4, 3, 4, 182, 0, 109, 154, 0, 56, 42, 27, 2, 159, 0, 20, 42, 27]
abbrev dktX3_addImage_1 : List UInt8 := dkwX3_addImage_1 ++ dktX3_addImage_2
def dkwX3_addImage_0 : List UInt8 := [42, 3, 181, 0, 79, 42, 27, 2, 159, 0, 11, 42, 27, 182, 0, 113, 154, 0, 11, 42, 28, 182, 0, 116]
abbrev dktX3_addImage_0 : List UInt8 := dkwX3_addImage_0 ++ dktX3_addImage_1
theorem dksX3_addImage_0 : cX3_addImage.data.toList.drop 0 = dktX3_addImage_0 := by decide +kernel
theorem dksX3_addImage_1 : cX3_addImage.data.toList.drop 24 = dktX3_addImage_1 := dk_seg dksX3_addImage_0 24 rfl rfl
theorem dksX3_addImage_2 : cX3_addImage.data.toList.drop 47 = dktX3_addImage_2 := dk_seg dksX3_addImage_1 23 rfl rfl
theorem dksX3_addImage_3 : cX3_addImage.data.toList.drop 71 = dktX3_addImage_3 := dk_seg dksX3_addImage_2 24 rfl rfl
theorem dksX3_addImage_4 : cX3_addImage.data.toList.drop 95 = dktX3_addImage_4 := dk_seg dksX3_addImage_3 24 rfl rfl
theorem dksX3_addImage_5 : cX3_addImage.data.toList.drop 119 = dktX3_addImage_5 := dk_seg dksX3_addImage_4 24 rfl rfl
theorem dX3_addImage_0 : decode cX3_addImage 0 = .ok (.aload_n 0, 1) := dk_42 (dk_at dksX3_addImage_0 0 rfl rfl)
theorem dX3_addImage_1 : decode cX3_addImage 1 = .ok (.iconst 0, 1) := dk_3 (dk_at dksX3_addImage_0 1 rfl rfl)
theorem dX3_addImage_2 : decode cX3_addImage 2 = .ok (.putfield 79, 3) := dk_181 0 79 (dk_at dksX3_addImage_0 2 rfl rfl)
theorem dX3_addImage_5 : decode cX3_addImage 5 = .ok (.aload_n 0, 1) := dk_42 (dk_at dksX3_addImage_0 5 rfl rfl)
theorem dX3_addImage_6 : decode cX3_addImage 6 = .ok (.iload_n 1, 1) := dk_27 (dk_at dksX3_addImage_0 6 rfl rfl)
theorem dX3_addImage_7 : decode cX3_addImage 7 = .ok (.iconst (-1), 1) := dk_2 (dk_at dksX3_addImage_0 7 rfl rfl)
theorem dX3_addImage_8 : decode cX3_addImage 8 = .ok (.if_icmp .eq 11, 3) := dk_159 0 11 (dk_at dksX3_addImage_0 8 rfl rfl)
theorem dX3_addImage_11 : decode cX3_addImage 11 = .ok (.aload_n 0, 1) := dk_42 (dk_at dksX3_addImage_0 11 rfl rfl)
theorem dX3_addImage_12 : decode cX3_addImage 12 = .ok (.iload_n 1, 1) := dk_27 (dk_at dksX3_addImage_0 12 rfl rfl)
theorem dX3_addImage_13 : decode cX3_addImage 13 = .ok (.invokevirtual 113, 3) := dk_182 0 113 (dk_at dksX3_addImage_0 13 rfl rfl)
theorem dX3_addImage_16 : decode cX3_addImage 16 = .ok (.ifCond .ne 11, 3) := dk_154 0 11 (dk_at dksX3_addImage_0 16 rfl rfl)
theorem dX3_addImage_19 : decode cX3_addImage 19 = .ok (.aload_n 0, 1) := dk_42 (dk_at dksX3_addImage_0 19 rfl rfl)
theorem dX3_addImage_20 : decode cX3_addImage 20 = .ok (.iload_n 2, 1) := dk_28 (dk_at dksX3_addImage_0 20 rfl rfl)
theorem dX3_addImage_21 : decode cX3_addImage 21 = .ok (.invokevirtual 116, 3) := dk_182 0 116 (dk_at dksX3_addImage_0 21 rfl rfl)
theorem dX3_addImage_24 : decode cX3_addImage 24 = .ok (.ifCond .eq 7, 3) := dk_153 0 7 (dk_at dksX3_addImage_1 0 rfl rfl)
theorem dX3_addImage_27 : decode cX3_addImage 27 = .ok (.iconst 1, 1) := dk_4 (dk_at dksX3_addImage_1 3 rfl rfl)
theorem dX3_addImage_28 : decode cX3_addImage 28 = .ok (.goto 4, 3) := dk_167 0 4 (dk_at dksX3_addImage_1 4 rfl rfl)
theorem dX3_addImage_31 : decode cX3_addImage 31 = .ok (.iconst 0, 1) := dk_3 (dk_at dksX3_addImage_1 7 rfl rfl)
theorem dX3_addImage_32 : decode cX3_addImage 32 = .ok (.iconst 1, 1) := dk_4 (dk_at dksX3_addImage_1 8 rfl rfl)
theorem dX3_addImage_33 : decode cX3_addImage 33 = .ok (.invokevirtual 109, 3) := dk_182 0 109 (dk_at dksX3_addImage_1 9 rfl rfl)
theorem dX3_addImage_36 : decode cX3_addImage 36 = .ok (.ifCond .ne 56, 3) := dk_154 0 56 (dk_at dksX3_addImage_1 12 rfl rfl)
theorem dX3_addImage_39 : decode cX3_addImage 39 = .ok (.aload_n 0, 1) := dk_42 (dk_at dksX3_addImage_1 15 rfl rfl)
theorem dX3_addImage_40 : decode cX3_addImage 40 = .ok (.iload_n 1, 1) := dk_27 (dk_at dksX3_addImage_1 16 rfl rfl)
theorem dX3_addImage_41 : decode cX3_addImage 41 = .ok (.iconst (-1), 1) := dk_2 (dk_at dksX3_addImage_1 17 rfl rfl)
theorem dX3_addImage_42 : decode cX3_addImage 42 = .ok (.if_icmp .eq 20, 3) := dk_159 0 20 (dk_at dksX3_addImage_1 18 rfl rfl)
theorem dX3_addImage_45 : decode cX3_addImage 45 = .ok (.aload_n 0, 1) := dk_42 (dk_at dksX3_addImage_1 21 rfl rfl)
theorem dX3_addImage_46 : decode cX3_addImage 46 = .ok (.iload_n 1, 1) := dk_27 (dk_at dksX3_addImage_1 22 rfl rfl)
theorem dX3_addImage_47 : decode cX3_addImage 47 = .ok (.invokevirtual 105, 3) := dk_182 0 105 (dk_at dksX3_addImage_2 0 rfl rfl)
theorem dX3_addImage_50 : decode cX3_addImage 50 = .ok (.iload_n 2, 1) := dk_28 (dk_at dksX3_addImage_2 3 rfl rfl)
theorem dX3_addImage_51 : decode cX3_addImage 51 = .ok (.ishr, 1) := dk_122 (dk_at dksX3_addImage_2 4 rfl rfl)
theorem dX3_addImage_52 : decode cX3_addImage 52 = .ok (.iconst 1, 1) := dk_4 (dk_at dksX3_addImage_2 5 rfl rfl)
theorem dX3_addImage_53 : decode cX3_addImage 53 = .ok (.iand, 1) := dk_126 (dk_at dksX3_addImage_2 6 rfl rfl)
theorem dX3_addImage_54 : decode cX3_addImage 54 = .ok (.iconst 1, 1) := dk_4 (dk_at dksX3_addImage_2 7 rfl rfl)
theorem dX3_addImage_55 : decode cX3_addImage 55 = .ok (.if_icmp .ne 7, 3) := dk_160 0 7 (dk_at dksX3_addImage_2 8 rfl rfl)
theorem dX3_addImage_58 : decode cX3_addImage 58 = .ok (.iconst 1, 1) := dk_4 (dk_at dksX3_addImage_2 11 rfl rfl)
theorem dX3_addImage_59 : decode cX3_addImage 59 = .ok (.goto 4, 3) := dk_167 0 4 (dk_at dksX3_addImage_2 12 rfl rfl)
theorem dX3_addImage_62 : decode cX3_addImage 62 = .ok (.iconst 0, 1) := dk_3 (dk_at dksX3_addImage_2 15 rfl rfl)
theorem dX3_addImage_63 : decode cX3_addImage 63 = .ok (.iconst 2, 1) := dk_5 (dk_at dksX3_addImage_2 16 rfl rfl)
theorem dX3_addImage_64 : decode cX3_addImage 64 = .ok (.invokevirtual 109, 3) := dk_182 0 109 (dk_at dksX3_addImage_2 17 rfl rfl)
theorem dX3_addImage_67 : decode cX3_addImage 67 = .ok (.ifCond .ne 25, 3) := dk_154 0 25 (dk_at dksX3_addImage_2 20 rfl rfl)
theorem dX3_addImage_70 : decode cX3_addImage 70 = .ok (.aload_n 0, 1) := dk_42 (dk_at dksX3_addImage_2 23 rfl rfl)
theorem dX3_addImage_71 : decode cX3_addImage 71 = .ok (.aload_n 0, 1) := dk_42 (dk_at dksX3_addImage_3 0 rfl rfl)
theorem dX3_addImage_72 : decode cX3_addImage 72 = .ok (.getfield 89, 3) := dk_180 0 89 (dk_at dksX3_addImage_3 1 rfl rfl)
theorem dX3_addImage_75 : decode cX3_addImage 75 = .ok (.bipush 8, 2) := dk_16 8 (dk_at dksX3_addImage_3 4 rfl rfl)
theorem dX3_addImage_77 : decode cX3_addImage 77 = .ok (.if_icmp .ne 7, 3) := dk_160 0 7 (dk_at dksX3_addImage_3 6 rfl rfl)
theorem dX3_addImage_80 : decode cX3_addImage 80 = .ok (.iconst 1, 1) := dk_4 (dk_at dksX3_addImage_3 9 rfl rfl)
theorem dX3_addImage_81 : decode cX3_addImage 81 = .ok (.goto 4, 3) := dk_167 0 4 (dk_at dksX3_addImage_3 10 rfl rfl)
theorem dX3_addImage_84 : decode cX3_addImage 84 = .ok (.iconst 0, 1) := dk_3 (dk_at dksX3_addImage_3 13 rfl rfl)
theorem dX3_addImage_85 : decode cX3_addImage 85 = .ok (.iconst 3, 1) := dk_6 (dk_at dksX3_addImage_3 14 rfl rfl)
theorem dX3_addImage_86 : decode cX3_addImage 86 = .ok (.invokevirtual 109, 3) := dk_182 0 109 (dk_at dksX3_addImage_3 15 rfl rfl)
theorem dX3_addImage_89 : decode cX3_addImage 89 = .ok (.ifCond .eq 5, 3) := dk_153 0 5 (dk_at dksX3_addImage_3 18 rfl rfl)
theorem dX3_addImage_92 : decode cX3_addImage 92 = .ok (.iconst 0, 1) := dk_3 (dk_at dksX3_addImage_3 21 rfl rfl)
theorem dX3_addImage_93 : decode cX3_addImage 93 = .ok (.ireturn, 1) := dk_172 (dk_at dksX3_addImage_3 22 rfl rfl)
theorem dX3_addImage_94 : decode cX3_addImage 94 = .ok (.aload_n 0, 1) := dk_42 (dk_at dksX3_addImage_3 23 rfl rfl)
theorem dX3_addImage_95 : decode cX3_addImage 95 = .ok (.getfield 17, 3) := dk_180 0 17 (dk_at dksX3_addImage_4 0 rfl rfl)
theorem dX3_addImage_98 : decode cX3_addImage 98 = .ok (.aload_n 0, 1) := dk_42 (dk_at dksX3_addImage_4 3 rfl rfl)
theorem dX3_addImage_99 : decode cX3_addImage 99 = .ok (.getfield 89, 3) := dk_180 0 89 (dk_at dksX3_addImage_4 4 rfl rfl)
theorem dX3_addImage_102 : decode cX3_addImage 102 = .ok (.iload_n 1, 1) := dk_27 (dk_at dksX3_addImage_4 7 rfl rfl)
theorem dX3_addImage_103 : decode cX3_addImage 103 = .ok (.iastore, 1) := dk_79 (dk_at dksX3_addImage_4 8 rfl rfl)
theorem dX3_addImage_104 : decode cX3_addImage 104 = .ok (.aload_n 0, 1) := dk_42 (dk_at dksX3_addImage_4 9 rfl rfl)
theorem dX3_addImage_105 : decode cX3_addImage 105 = .ok (.getfield 20, 3) := dk_180 0 20 (dk_at dksX3_addImage_4 10 rfl rfl)
theorem dX3_addImage_108 : decode cX3_addImage 108 = .ok (.aload_n 0, 1) := dk_42 (dk_at dksX3_addImage_4 13 rfl rfl)
theorem dX3_addImage_109 : decode cX3_addImage 109 = .ok (.getfield 89, 3) := dk_180 0 89 (dk_at dksX3_addImage_4 14 rfl rfl)
theorem dX3_addImage_112 : decode cX3_addImage 112 = .ok (.iload_n 2, 1) := dk_28 (dk_at dksX3_addImage_4 17 rfl rfl)
theorem dX3_addImage_113 : decode cX3_addImage 113 = .ok (.iastore, 1) := dk_79 (dk_at dksX3_addImage_4 18 rfl rfl)
theorem dX3_addImage_114 : decode cX3_addImage 114 = .ok (.aload_n 0, 1) := dk_42 (dk_at dksX3_addImage_4 19 rfl rfl)
theorem dX3_addImage_115 : decode cX3_addImage 115 = .ok (.dup, 1) := dk_89 (dk_at dksX3_addImage_4 20 rfl rfl)
theorem dX3_addImage_116 : decode cX3_addImage 116 = .ok (.getfield 89, 3) := dk_180 0 89 (dk_at dksX3_addImage_4 21 rfl rfl)
theorem dX3_addImage_119 : decode cX3_addImage 119 = .ok (.iconst 1, 1) := dk_4 (dk_at dksX3_addImage_5 0 rfl rfl)
theorem dX3_addImage_120 : decode cX3_addImage 120 = .ok (.iadd, 1) := dk_96 (dk_at dksX3_addImage_5 1 rfl rfl)
theorem dX3_addImage_121 : decode cX3_addImage 121 = .ok (.putfield 89, 3) := dk_181 0 89 (dk_at dksX3_addImage_5 2 rfl rfl)
theorem dX3_addImage_124 : decode cX3_addImage 124 = .ok (.aload_n 0, 1) := dk_42 (dk_at dksX3_addImage_5 5 rfl rfl)
theorem dX3_addImage_125 : decode cX3_addImage 125 = .ok (.getfield 89, 3) := dk_180 0 89 (dk_at dksX3_addImage_5 6 rfl rfl)
theorem dX3_addImage_128 : decode cX3_addImage 128 = .ok (.iconst 1, 1) := dk_4 (dk_at dksX3_addImage_5 9 rfl rfl)
theorem dX3_addImage_129 : decode cX3_addImage 129 = .ok (.isub, 1) := dk_100 (dk_at dksX3_addImage_5 10 rfl rfl)
theorem dX3_addImage_130 : decode cX3_addImage 130 = .ok (.ireturn, 1) := dk_172 (dk_at dksX3_addImage_5 11 rfl rfl)
abbrev cX3_noImage : ByteArray := prog_12_method_6_code
def yX3_noImage : MethodName := ⟨RX3, "noImage", "(I)Z"⟩
def dkwX3_noImage_0 : List UInt8 := [27, 3, 42, 180, 0, 89, 4, 100, 184, 0, 85, 154, 0, 7, 4, 167, 0, 4, 3, 172]
abbrev dktX3_noImage_0 : List UInt8 := dkwX3_noImage_0 ++ []
theorem dksX3_noImage_0 : cX3_noImage.data.toList.drop 0 = dktX3_noImage_0 := by decide +kernel
theorem dX3_noImage_0 : decode cX3_noImage 0 = .ok (.iload_n 1, 1) := dk_27 (dk_at dksX3_noImage_0 0 rfl rfl)
theorem dX3_noImage_1 : decode cX3_noImage 1 = .ok (.iconst 0, 1) := dk_3 (dk_at dksX3_noImage_0 1 rfl rfl)
theorem dX3_noImage_2 : decode cX3_noImage 2 = .ok (.aload_n 0, 1) := dk_42 (dk_at dksX3_noImage_0 2 rfl rfl)
theorem dX3_noImage_3 : decode cX3_noImage 3 = .ok (.getfield 89, 3) := dk_180 0 89 (dk_at dksX3_noImage_0 3 rfl rfl)
theorem dX3_noImage_6 : decode cX3_noImage 6 = .ok (.iconst 1, 1) := dk_4 (dk_at dksX3_noImage_0 6 rfl rfl)
theorem dX3_noImage_7 : decode cX3_noImage 7 = .ok (.isub, 1) := dk_100 (dk_at dksX3_noImage_0 7 rfl rfl)
theorem dX3_noImage_8 : decode cX3_noImage 8 = .ok (.invokestatic 85, 3) := dk_184 0 85 (dk_at dksX3_noImage_0 8 rfl rfl)
theorem dX3_noImage_11 : decode cX3_noImage 11 = .ok (.ifCond .ne 7, 3) := dk_154 0 7 (dk_at dksX3_noImage_0 11 rfl rfl)
theorem dX3_noImage_14 : decode cX3_noImage 14 = .ok (.iconst 1, 1) := dk_4 (dk_at dksX3_noImage_0 14 rfl rfl)
theorem dX3_noImage_15 : decode cX3_noImage 15 = .ok (.goto 4, 3) := dk_167 0 4 (dk_at dksX3_noImage_0 15 rfl rfl)
theorem dX3_noImage_18 : decode cX3_noImage 18 = .ok (.iconst 0, 1) := dk_3 (dk_at dksX3_noImage_0 18 rfl rfl)
theorem dX3_noImage_19 : decode cX3_noImage 19 = .ok (.ireturn, 1) := dk_172 (dk_at dksX3_noImage_0 19 rfl rfl)
abbrev cX3_in : ByteArray := prog_12_method_3_code
def yX3_in : MethodName := ⟨RX3, "in", "(III)Z"⟩
def dkwX3_in_0 : List UInt8 := [26, 27, 161, 0, 12, 26, 28, 163, 0, 7, 4, 167, 0, 4, 3, 172]
abbrev dktX3_in_0 : List UInt8 := dkwX3_in_0 ++ []
theorem dksX3_in_0 : cX3_in.data.toList.drop 0 = dktX3_in_0 := by decide +kernel
theorem dX3_in_0 : decode cX3_in 0 = .ok (.iload_n 0, 1) := dk_26 (dk_at dksX3_in_0 0 rfl rfl)
theorem dX3_in_1 : decode cX3_in 1 = .ok (.iload_n 1, 1) := dk_27 (dk_at dksX3_in_0 1 rfl rfl)
theorem dX3_in_2 : decode cX3_in 2 = .ok (.if_icmp .lt 12, 3) := dk_161 0 12 (dk_at dksX3_in_0 2 rfl rfl)
theorem dX3_in_5 : decode cX3_in 5 = .ok (.iload_n 0, 1) := dk_26 (dk_at dksX3_in_0 5 rfl rfl)
theorem dX3_in_6 : decode cX3_in 6 = .ok (.iload_n 2, 1) := dk_28 (dk_at dksX3_in_0 6 rfl rfl)
theorem dX3_in_7 : decode cX3_in 7 = .ok (.if_icmp .gt 7, 3) := dk_163 0 7 (dk_at dksX3_in_0 7 rfl rfl)
theorem dX3_in_10 : decode cX3_in 10 = .ok (.iconst 1, 1) := dk_4 (dk_at dksX3_in_0 10 rfl rfl)
theorem dX3_in_11 : decode cX3_in 11 = .ok (.goto 4, 3) := dk_167 0 4 (dk_at dksX3_in_0 11 rfl rfl)
theorem dX3_in_14 : decode cX3_in 14 = .ok (.iconst 0, 1) := dk_3 (dk_at dksX3_in_0 14 rfl rfl)
theorem dX3_in_15 : decode cX3_in 15 = .ok (.ireturn, 1) := dk_172 (dk_at dksX3_in_0 15 rfl rfl)
abbrev cX3_noLayer : ByteArray := prog_12_method_5_code
def yX3_noLayer : MethodName := ⟨RX3, "noLayer", "(I)Z"⟩
def dkwX3_noLayer_0 : List UInt8 := [27, 3, 42, 180, 0, 82, 4, 100, 184, 0, 85, 154, 0, 7, 4, 167, 0, 4, 3, 172]
abbrev dktX3_noLayer_0 : List UInt8 := dkwX3_noLayer_0 ++ []
theorem dksX3_noLayer_0 : cX3_noLayer.data.toList.drop 0 = dktX3_noLayer_0 := by decide +kernel
theorem dX3_noLayer_0 : decode cX3_noLayer 0 = .ok (.iload_n 1, 1) := dk_27 (dk_at dksX3_noLayer_0 0 rfl rfl)
theorem dX3_noLayer_1 : decode cX3_noLayer 1 = .ok (.iconst 0, 1) := dk_3 (dk_at dksX3_noLayer_0 1 rfl rfl)
theorem dX3_noLayer_2 : decode cX3_noLayer 2 = .ok (.aload_n 0, 1) := dk_42 (dk_at dksX3_noLayer_0 2 rfl rfl)
theorem dX3_noLayer_3 : decode cX3_noLayer 3 = .ok (.getfield 82, 3) := dk_180 0 82 (dk_at dksX3_noLayer_0 3 rfl rfl)
theorem dX3_noLayer_6 : decode cX3_noLayer 6 = .ok (.iconst 1, 1) := dk_4 (dk_at dksX3_noLayer_0 6 rfl rfl)
theorem dX3_noLayer_7 : decode cX3_noLayer 7 = .ok (.isub, 1) := dk_100 (dk_at dksX3_noLayer_0 7 rfl rfl)
theorem dX3_noLayer_8 : decode cX3_noLayer 8 = .ok (.invokestatic 85, 3) := dk_184 0 85 (dk_at dksX3_noLayer_0 8 rfl rfl)
theorem dX3_noLayer_11 : decode cX3_noLayer 11 = .ok (.ifCond .ne 7, 3) := dk_154 0 7 (dk_at dksX3_noLayer_0 11 rfl rfl)
theorem dX3_noLayer_14 : decode cX3_noLayer 14 = .ok (.iconst 1, 1) := dk_4 (dk_at dksX3_noLayer_0 14 rfl rfl)
theorem dX3_noLayer_15 : decode cX3_noLayer 15 = .ok (.goto 4, 3) := dk_167 0 4 (dk_at dksX3_noLayer_0 15 rfl rfl)
theorem dX3_noLayer_18 : decode cX3_noLayer 18 = .ok (.iconst 0, 1) := dk_3 (dk_at dksX3_noLayer_0 18 rfl rfl)
theorem dX3_noLayer_19 : decode cX3_noLayer 19 = .ok (.ireturn, 1) := dk_172 (dk_at dksX3_noLayer_0 19 rfl rfl)
abbrev cX3_set : ByteArray := prog_12_method_9_code
def yX3_set : MethodName := ⟨RX3, "set", "(I)I"⟩
def dkwX3_set_1 : List UInt8 := [29, 46, 62, 167, 255, 233, 28, 172]
abbrev dktX3_set_1 : List UInt8 := dkwX3_set_1 ++ []
def dkwX3_set_0 : List UInt8 := [3, 61, 27, 62, 29, 2, 159, 0, 24, 28, 4, 42, 180, 0, 20, 29, 46, 120, 128, 61, 42, 180, 0, 17]
abbrev dktX3_set_0 : List UInt8 := dkwX3_set_0 ++ dktX3_set_1
theorem dksX3_set_0 : cX3_set.data.toList.drop 0 = dktX3_set_0 := by decide +kernel
theorem dksX3_set_1 : cX3_set.data.toList.drop 24 = dktX3_set_1 := dk_seg dksX3_set_0 24 rfl rfl
theorem dX3_set_0 : decode cX3_set 0 = .ok (.iconst 0, 1) := dk_3 (dk_at dksX3_set_0 0 rfl rfl)
theorem dX3_set_1 : decode cX3_set 1 = .ok (.istore_n 2, 1) := dk_61 (dk_at dksX3_set_0 1 rfl rfl)
theorem dX3_set_2 : decode cX3_set 2 = .ok (.iload_n 1, 1) := dk_27 (dk_at dksX3_set_0 2 rfl rfl)
theorem dX3_set_3 : decode cX3_set 3 = .ok (.istore_n 3, 1) := dk_62 (dk_at dksX3_set_0 3 rfl rfl)
theorem dX3_set_4 : decode cX3_set 4 = .ok (.iload_n 3, 1) := dk_29 (dk_at dksX3_set_0 4 rfl rfl)
theorem dX3_set_5 : decode cX3_set 5 = .ok (.iconst (-1), 1) := dk_2 (dk_at dksX3_set_0 5 rfl rfl)
theorem dX3_set_6 : decode cX3_set 6 = .ok (.if_icmp .eq 24, 3) := dk_159 0 24 (dk_at dksX3_set_0 6 rfl rfl)
theorem dX3_set_9 : decode cX3_set 9 = .ok (.iload_n 2, 1) := dk_28 (dk_at dksX3_set_0 9 rfl rfl)
theorem dX3_set_10 : decode cX3_set 10 = .ok (.iconst 1, 1) := dk_4 (dk_at dksX3_set_0 10 rfl rfl)
theorem dX3_set_11 : decode cX3_set 11 = .ok (.aload_n 0, 1) := dk_42 (dk_at dksX3_set_0 11 rfl rfl)
theorem dX3_set_12 : decode cX3_set 12 = .ok (.getfield 20, 3) := dk_180 0 20 (dk_at dksX3_set_0 12 rfl rfl)
theorem dX3_set_15 : decode cX3_set 15 = .ok (.iload_n 3, 1) := dk_29 (dk_at dksX3_set_0 15 rfl rfl)
theorem dX3_set_16 : decode cX3_set 16 = .ok (.iaload, 1) := dk_46 (dk_at dksX3_set_0 16 rfl rfl)
theorem dX3_set_17 : decode cX3_set 17 = .ok (.ishl, 1) := dk_120 (dk_at dksX3_set_0 17 rfl rfl)
theorem dX3_set_18 : decode cX3_set 18 = .ok (.ior, 1) := dk_128 (dk_at dksX3_set_0 18 rfl rfl)
theorem dX3_set_19 : decode cX3_set 19 = .ok (.istore_n 2, 1) := dk_61 (dk_at dksX3_set_0 19 rfl rfl)
theorem dX3_set_20 : decode cX3_set 20 = .ok (.aload_n 0, 1) := dk_42 (dk_at dksX3_set_0 20 rfl rfl)
theorem dX3_set_21 : decode cX3_set 21 = .ok (.getfield 17, 3) := dk_180 0 17 (dk_at dksX3_set_0 21 rfl rfl)
theorem dX3_set_24 : decode cX3_set 24 = .ok (.iload_n 3, 1) := dk_29 (dk_at dksX3_set_1 0 rfl rfl)
theorem dX3_set_25 : decode cX3_set 25 = .ok (.iaload, 1) := dk_46 (dk_at dksX3_set_1 1 rfl rfl)
theorem dX3_set_26 : decode cX3_set 26 = .ok (.istore_n 3, 1) := dk_62 (dk_at dksX3_set_1 2 rfl rfl)
theorem dX3_set_27 : decode cX3_set 27 = .ok (.goto (-23), 3) := dk_167 255 233 (dk_at dksX3_set_1 3 rfl rfl)
theorem dX3_set_30 : decode cX3_set 30 = .ok (.iload_n 2, 1) := dk_28 (dk_at dksX3_set_1 6 rfl rfl)
theorem dX3_set_31 : decode cX3_set 31 = .ok (.ireturn, 1) := dk_172 (dk_at dksX3_set_1 7 rfl rfl)
abbrev cX3_patch : ByteArray := prog_12_method_17_code
def yX3_patch : MethodName := ⟨RX3, "patch", "(II)I"⟩
def dkwX3_patch_5 : List UInt8 := [167, 255, 227, 29, 172]
abbrev dktX3_patch_5 : List UInt8 := dkwX3_patch_5 ++ []
def dkwX3_patch_4 : List UInt8 := [162, 0, 26, 29, 42, 21, 4, 182, 0, 123, 153, 0, 7, 4, 167, 0, 4, 3, 96, 62, 132, 4, 1]
abbrev dktX3_patch_4 : List UInt8 := dkwX3_patch_4 ++ dktX3_patch_5
def dkwX3_patch_3 : List UInt8 := [153, 0, 5, 3, 172, 42, 180, 0, 20, 27, 28, 79, 3, 62, 3, 54, 4, 21, 4, 42, 180, 0, 95]
abbrev dktX3_patch_3 : List UInt8 := dkwX3_patch_3 ++ dktX3_patch_4
def dkwX3_patch_2 : List UInt8 := [154, 0, 26, 42, 42, 180, 0, 20, 27, 46, 28, 160, 0, 7, 4, 167, 0, 4, 3, 6, 182, 0, 109]
abbrev dktX3_patch_2 : List UInt8 := dkwX3_patch_2 ++ dktX3_patch_3
def dkwX3_patch_1 : List UInt8 := [167, 0, 4, 3, 4, 182, 0, 109, 154, 0, 40, 42, 42, 27, 28, 182, 0, 119, 5, 182, 0, 109]
abbrev dktX3_patch_1 : List UInt8 := dkwX3_patch_1 ++ dktX3_patch_2
def dkwX3_patch_0 : List UInt8 := [42, 3, 181, 0, 79, 42, 42, 27, 182, 0, 113, 154, 0, 11, 42, 28, 182, 0, 116, 153, 0, 7, 4]
abbrev dktX3_patch_0 : List UInt8 := dkwX3_patch_0 ++ dktX3_patch_1
theorem dksX3_patch_0 : cX3_patch.data.toList.drop 0 = dktX3_patch_0 := by decide +kernel
theorem dksX3_patch_1 : cX3_patch.data.toList.drop 23 = dktX3_patch_1 := dk_seg dksX3_patch_0 23 rfl rfl
theorem dksX3_patch_2 : cX3_patch.data.toList.drop 45 = dktX3_patch_2 := dk_seg dksX3_patch_1 22 rfl rfl
theorem dksX3_patch_3 : cX3_patch.data.toList.drop 68 = dktX3_patch_3 := dk_seg dksX3_patch_2 23 rfl rfl
theorem dksX3_patch_4 : cX3_patch.data.toList.drop 91 = dktX3_patch_4 := dk_seg dksX3_patch_3 23 rfl rfl
theorem dksX3_patch_5 : cX3_patch.data.toList.drop 114 = dktX3_patch_5 := dk_seg dksX3_patch_4 23 rfl rfl
theorem dX3_patch_0 : decode cX3_patch 0 = .ok (.aload_n 0, 1) := dk_42 (dk_at dksX3_patch_0 0 rfl rfl)
theorem dX3_patch_1 : decode cX3_patch 1 = .ok (.iconst 0, 1) := dk_3 (dk_at dksX3_patch_0 1 rfl rfl)
theorem dX3_patch_2 : decode cX3_patch 2 = .ok (.putfield 79, 3) := dk_181 0 79 (dk_at dksX3_patch_0 2 rfl rfl)
theorem dX3_patch_5 : decode cX3_patch 5 = .ok (.aload_n 0, 1) := dk_42 (dk_at dksX3_patch_0 5 rfl rfl)
theorem dX3_patch_6 : decode cX3_patch 6 = .ok (.aload_n 0, 1) := dk_42 (dk_at dksX3_patch_0 6 rfl rfl)
theorem dX3_patch_7 : decode cX3_patch 7 = .ok (.iload_n 1, 1) := dk_27 (dk_at dksX3_patch_0 7 rfl rfl)
theorem dX3_patch_8 : decode cX3_patch 8 = .ok (.invokevirtual 113, 3) := dk_182 0 113 (dk_at dksX3_patch_0 8 rfl rfl)
theorem dX3_patch_11 : decode cX3_patch 11 = .ok (.ifCond .ne 11, 3) := dk_154 0 11 (dk_at dksX3_patch_0 11 rfl rfl)
theorem dX3_patch_14 : decode cX3_patch 14 = .ok (.aload_n 0, 1) := dk_42 (dk_at dksX3_patch_0 14 rfl rfl)
theorem dX3_patch_15 : decode cX3_patch 15 = .ok (.iload_n 2, 1) := dk_28 (dk_at dksX3_patch_0 15 rfl rfl)
theorem dX3_patch_16 : decode cX3_patch 16 = .ok (.invokevirtual 116, 3) := dk_182 0 116 (dk_at dksX3_patch_0 16 rfl rfl)
theorem dX3_patch_19 : decode cX3_patch 19 = .ok (.ifCond .eq 7, 3) := dk_153 0 7 (dk_at dksX3_patch_0 19 rfl rfl)
theorem dX3_patch_22 : decode cX3_patch 22 = .ok (.iconst 1, 1) := dk_4 (dk_at dksX3_patch_0 22 rfl rfl)
theorem dX3_patch_23 : decode cX3_patch 23 = .ok (.goto 4, 3) := dk_167 0 4 (dk_at dksX3_patch_1 0 rfl rfl)
theorem dX3_patch_26 : decode cX3_patch 26 = .ok (.iconst 0, 1) := dk_3 (dk_at dksX3_patch_1 3 rfl rfl)
theorem dX3_patch_27 : decode cX3_patch 27 = .ok (.iconst 1, 1) := dk_4 (dk_at dksX3_patch_1 4 rfl rfl)
theorem dX3_patch_28 : decode cX3_patch 28 = .ok (.invokevirtual 109, 3) := dk_182 0 109 (dk_at dksX3_patch_1 5 rfl rfl)
theorem dX3_patch_31 : decode cX3_patch 31 = .ok (.ifCond .ne 40, 3) := dk_154 0 40 (dk_at dksX3_patch_1 8 rfl rfl)
theorem dX3_patch_34 : decode cX3_patch 34 = .ok (.aload_n 0, 1) := dk_42 (dk_at dksX3_patch_1 11 rfl rfl)
theorem dX3_patch_35 : decode cX3_patch 35 = .ok (.aload_n 0, 1) := dk_42 (dk_at dksX3_patch_1 12 rfl rfl)
theorem dX3_patch_36 : decode cX3_patch 36 = .ok (.iload_n 1, 1) := dk_27 (dk_at dksX3_patch_1 13 rfl rfl)
theorem dX3_patch_37 : decode cX3_patch 37 = .ok (.iload_n 2, 1) := dk_28 (dk_at dksX3_patch_1 14 rfl rfl)
theorem dX3_patch_38 : decode cX3_patch 38 = .ok (.invokevirtual 119, 3) := dk_182 0 119 (dk_at dksX3_patch_1 15 rfl rfl)
theorem dX3_patch_41 : decode cX3_patch 41 = .ok (.iconst 2, 1) := dk_5 (dk_at dksX3_patch_1 18 rfl rfl)
theorem dX3_patch_42 : decode cX3_patch 42 = .ok (.invokevirtual 109, 3) := dk_182 0 109 (dk_at dksX3_patch_1 19 rfl rfl)
theorem dX3_patch_45 : decode cX3_patch 45 = .ok (.ifCond .ne 26, 3) := dk_154 0 26 (dk_at dksX3_patch_2 0 rfl rfl)
theorem dX3_patch_48 : decode cX3_patch 48 = .ok (.aload_n 0, 1) := dk_42 (dk_at dksX3_patch_2 3 rfl rfl)
theorem dX3_patch_49 : decode cX3_patch 49 = .ok (.aload_n 0, 1) := dk_42 (dk_at dksX3_patch_2 4 rfl rfl)
theorem dX3_patch_50 : decode cX3_patch 50 = .ok (.getfield 20, 3) := dk_180 0 20 (dk_at dksX3_patch_2 5 rfl rfl)
theorem dX3_patch_53 : decode cX3_patch 53 = .ok (.iload_n 1, 1) := dk_27 (dk_at dksX3_patch_2 8 rfl rfl)
theorem dX3_patch_54 : decode cX3_patch 54 = .ok (.iaload, 1) := dk_46 (dk_at dksX3_patch_2 9 rfl rfl)
theorem dX3_patch_55 : decode cX3_patch 55 = .ok (.iload_n 2, 1) := dk_28 (dk_at dksX3_patch_2 10 rfl rfl)
theorem dX3_patch_56 : decode cX3_patch 56 = .ok (.if_icmp .ne 7, 3) := dk_160 0 7 (dk_at dksX3_patch_2 11 rfl rfl)
theorem dX3_patch_59 : decode cX3_patch 59 = .ok (.iconst 1, 1) := dk_4 (dk_at dksX3_patch_2 14 rfl rfl)
theorem dX3_patch_60 : decode cX3_patch 60 = .ok (.goto 4, 3) := dk_167 0 4 (dk_at dksX3_patch_2 15 rfl rfl)
theorem dX3_patch_63 : decode cX3_patch 63 = .ok (.iconst 0, 1) := dk_3 (dk_at dksX3_patch_2 18 rfl rfl)
theorem dX3_patch_64 : decode cX3_patch 64 = .ok (.iconst 3, 1) := dk_6 (dk_at dksX3_patch_2 19 rfl rfl)
theorem dX3_patch_65 : decode cX3_patch 65 = .ok (.invokevirtual 109, 3) := dk_182 0 109 (dk_at dksX3_patch_2 20 rfl rfl)
theorem dX3_patch_68 : decode cX3_patch 68 = .ok (.ifCond .eq 5, 3) := dk_153 0 5 (dk_at dksX3_patch_3 0 rfl rfl)
theorem dX3_patch_71 : decode cX3_patch 71 = .ok (.iconst 0, 1) := dk_3 (dk_at dksX3_patch_3 3 rfl rfl)
theorem dX3_patch_72 : decode cX3_patch 72 = .ok (.ireturn, 1) := dk_172 (dk_at dksX3_patch_3 4 rfl rfl)
theorem dX3_patch_73 : decode cX3_patch 73 = .ok (.aload_n 0, 1) := dk_42 (dk_at dksX3_patch_3 5 rfl rfl)
theorem dX3_patch_74 : decode cX3_patch 74 = .ok (.getfield 20, 3) := dk_180 0 20 (dk_at dksX3_patch_3 6 rfl rfl)
theorem dX3_patch_77 : decode cX3_patch 77 = .ok (.iload_n 1, 1) := dk_27 (dk_at dksX3_patch_3 9 rfl rfl)
theorem dX3_patch_78 : decode cX3_patch 78 = .ok (.iload_n 2, 1) := dk_28 (dk_at dksX3_patch_3 10 rfl rfl)
theorem dX3_patch_79 : decode cX3_patch 79 = .ok (.iastore, 1) := dk_79 (dk_at dksX3_patch_3 11 rfl rfl)
theorem dX3_patch_80 : decode cX3_patch 80 = .ok (.iconst 0, 1) := dk_3 (dk_at dksX3_patch_3 12 rfl rfl)
theorem dX3_patch_81 : decode cX3_patch 81 = .ok (.istore_n 3, 1) := dk_62 (dk_at dksX3_patch_3 13 rfl rfl)
theorem dX3_patch_82 : decode cX3_patch 82 = .ok (.iconst 0, 1) := dk_3 (dk_at dksX3_patch_3 14 rfl rfl)
theorem dX3_patch_83 : decode cX3_patch 83 = .ok (.istore 4, 2) := dk_54 4 (dk_at dksX3_patch_3 15 rfl rfl)
theorem dX3_patch_85 : decode cX3_patch 85 = .ok (.iload 4, 2) := dk_21 4 (dk_at dksX3_patch_3 17 rfl rfl)
theorem dX3_patch_87 : decode cX3_patch 87 = .ok (.aload_n 0, 1) := dk_42 (dk_at dksX3_patch_3 19 rfl rfl)
theorem dX3_patch_88 : decode cX3_patch 88 = .ok (.getfield 95, 3) := dk_180 0 95 (dk_at dksX3_patch_3 20 rfl rfl)
theorem dX3_patch_91 : decode cX3_patch 91 = .ok (.if_icmp .ge 26, 3) := dk_162 0 26 (dk_at dksX3_patch_4 0 rfl rfl)
theorem dX3_patch_94 : decode cX3_patch 94 = .ok (.iload_n 3, 1) := dk_29 (dk_at dksX3_patch_4 3 rfl rfl)
theorem dX3_patch_95 : decode cX3_patch 95 = .ok (.aload_n 0, 1) := dk_42 (dk_at dksX3_patch_4 4 rfl rfl)
theorem dX3_patch_96 : decode cX3_patch 96 = .ok (.iload 4, 2) := dk_21 4 (dk_at dksX3_patch_4 5 rfl rfl)
theorem dX3_patch_98 : decode cX3_patch 98 = .ok (.invokevirtual 123, 3) := dk_182 0 123 (dk_at dksX3_patch_4 7 rfl rfl)
theorem dX3_patch_101 : decode cX3_patch 101 = .ok (.ifCond .eq 7, 3) := dk_153 0 7 (dk_at dksX3_patch_4 10 rfl rfl)
theorem dX3_patch_104 : decode cX3_patch 104 = .ok (.iconst 1, 1) := dk_4 (dk_at dksX3_patch_4 13 rfl rfl)
theorem dX3_patch_105 : decode cX3_patch 105 = .ok (.goto 4, 3) := dk_167 0 4 (dk_at dksX3_patch_4 14 rfl rfl)
theorem dX3_patch_108 : decode cX3_patch 108 = .ok (.iconst 0, 1) := dk_3 (dk_at dksX3_patch_4 17 rfl rfl)
theorem dX3_patch_109 : decode cX3_patch 109 = .ok (.iadd, 1) := dk_96 (dk_at dksX3_patch_4 18 rfl rfl)
theorem dX3_patch_110 : decode cX3_patch 110 = .ok (.istore_n 3, 1) := dk_62 (dk_at dksX3_patch_4 19 rfl rfl)
theorem dX3_patch_111 : decode cX3_patch 111 = .ok (.iinc 4 1, 3) := dk_132 4 1 (dk_at dksX3_patch_4 20 rfl rfl)
theorem dX3_patch_114 : decode cX3_patch 114 = .ok (.goto (-29), 3) := dk_167 255 227 (dk_at dksX3_patch_5 0 rfl rfl)
theorem dX3_patch_117 : decode cX3_patch 117 = .ok (.iload_n 3, 1) := dk_29 (dk_at dksX3_patch_5 3 rfl rfl)
theorem dX3_patch_118 : decode cX3_patch 118 = .ok (.ireturn, 1) := dk_172 (dk_at dksX3_patch_5 4 rfl rfl)
abbrev cX3_twice : ByteArray := prog_12_method_16_code
def yX3_twice : MethodName := ⟨RX3, "twice", "(II)Z"⟩
def dkwX3_twice_4 : List UInt8 := [153, 0, 12, 21, 6, 153, 0, 7, 4, 167, 0, 4, 3, 62, 132, 4, 1, 167, 255, 149, 29, 172]
abbrev dktX3_twice_4 : List UInt8 := dkwX3_twice_4 ++ []
def dkwX3_twice_3 : List UInt8 := [167, 0, 4, 3, 54, 6, 42, 180, 0, 17, 21, 7, 46, 54, 7, 167, 255, 194, 29, 154, 0, 13, 21, 5]
abbrev dktX3_twice_3 : List UInt8 := dkwX3_twice_3 ++ dktX3_twice_4
def dkwX3_twice_2 : List UInt8 := [21, 6, 154, 0, 20, 21, 7, 27, 159, 0, 18, 42, 180, 0, 20, 21, 7, 46, 28, 160, 0, 7, 4]
abbrev dktX3_twice_2 : List UInt8 := dkwX3_twice_2 ++ dktX3_twice_3
def dkwX3_twice_1 : List UInt8 := [21, 7, 2, 159, 0, 62, 21, 5, 154, 0, 9, 21, 7, 27, 160, 0, 7, 4, 167, 0, 4, 3, 54, 5]
abbrev dktX3_twice_1 : List UInt8 := dkwX3_twice_1 ++ dktX3_twice_2
def dkwX3_twice_0 : List UInt8 := [3, 62, 3, 54, 4, 21, 4, 42, 180, 0, 89, 162, 0, 104, 3, 54, 5, 3, 54, 6, 21, 4, 54, 7]
abbrev dktX3_twice_0 : List UInt8 := dkwX3_twice_0 ++ dktX3_twice_1
theorem dksX3_twice_0 : cX3_twice.data.toList.drop 0 = dktX3_twice_0 := by decide +kernel
theorem dksX3_twice_1 : cX3_twice.data.toList.drop 24 = dktX3_twice_1 := dk_seg dksX3_twice_0 24 rfl rfl
theorem dksX3_twice_2 : cX3_twice.data.toList.drop 48 = dktX3_twice_2 := dk_seg dksX3_twice_1 24 rfl rfl
theorem dksX3_twice_3 : cX3_twice.data.toList.drop 71 = dktX3_twice_3 := dk_seg dksX3_twice_2 23 rfl rfl
theorem dksX3_twice_4 : cX3_twice.data.toList.drop 95 = dktX3_twice_4 := dk_seg dksX3_twice_3 24 rfl rfl
theorem dX3_twice_0 : decode cX3_twice 0 = .ok (.iconst 0, 1) := dk_3 (dk_at dksX3_twice_0 0 rfl rfl)
theorem dX3_twice_1 : decode cX3_twice 1 = .ok (.istore_n 3, 1) := dk_62 (dk_at dksX3_twice_0 1 rfl rfl)
theorem dX3_twice_2 : decode cX3_twice 2 = .ok (.iconst 0, 1) := dk_3 (dk_at dksX3_twice_0 2 rfl rfl)
theorem dX3_twice_3 : decode cX3_twice 3 = .ok (.istore 4, 2) := dk_54 4 (dk_at dksX3_twice_0 3 rfl rfl)
theorem dX3_twice_5 : decode cX3_twice 5 = .ok (.iload 4, 2) := dk_21 4 (dk_at dksX3_twice_0 5 rfl rfl)
theorem dX3_twice_7 : decode cX3_twice 7 = .ok (.aload_n 0, 1) := dk_42 (dk_at dksX3_twice_0 7 rfl rfl)
theorem dX3_twice_8 : decode cX3_twice 8 = .ok (.getfield 89, 3) := dk_180 0 89 (dk_at dksX3_twice_0 8 rfl rfl)
theorem dX3_twice_11 : decode cX3_twice 11 = .ok (.if_icmp .ge 104, 3) := dk_162 0 104 (dk_at dksX3_twice_0 11 rfl rfl)
theorem dX3_twice_14 : decode cX3_twice 14 = .ok (.iconst 0, 1) := dk_3 (dk_at dksX3_twice_0 14 rfl rfl)
theorem dX3_twice_15 : decode cX3_twice 15 = .ok (.istore 5, 2) := dk_54 5 (dk_at dksX3_twice_0 15 rfl rfl)
theorem dX3_twice_17 : decode cX3_twice 17 = .ok (.iconst 0, 1) := dk_3 (dk_at dksX3_twice_0 17 rfl rfl)
theorem dX3_twice_18 : decode cX3_twice 18 = .ok (.istore 6, 2) := dk_54 6 (dk_at dksX3_twice_0 18 rfl rfl)
theorem dX3_twice_20 : decode cX3_twice 20 = .ok (.iload 4, 2) := dk_21 4 (dk_at dksX3_twice_0 20 rfl rfl)
theorem dX3_twice_22 : decode cX3_twice 22 = .ok (.istore 7, 2) := dk_54 7 (dk_at dksX3_twice_0 22 rfl rfl)
theorem dX3_twice_24 : decode cX3_twice 24 = .ok (.iload 7, 2) := dk_21 7 (dk_at dksX3_twice_1 0 rfl rfl)
theorem dX3_twice_26 : decode cX3_twice 26 = .ok (.iconst (-1), 1) := dk_2 (dk_at dksX3_twice_1 2 rfl rfl)
theorem dX3_twice_27 : decode cX3_twice 27 = .ok (.if_icmp .eq 62, 3) := dk_159 0 62 (dk_at dksX3_twice_1 3 rfl rfl)
theorem dX3_twice_30 : decode cX3_twice 30 = .ok (.iload 5, 2) := dk_21 5 (dk_at dksX3_twice_1 6 rfl rfl)
theorem dX3_twice_32 : decode cX3_twice 32 = .ok (.ifCond .ne 9, 3) := dk_154 0 9 (dk_at dksX3_twice_1 8 rfl rfl)
theorem dX3_twice_35 : decode cX3_twice 35 = .ok (.iload 7, 2) := dk_21 7 (dk_at dksX3_twice_1 11 rfl rfl)
theorem dX3_twice_37 : decode cX3_twice 37 = .ok (.iload_n 1, 1) := dk_27 (dk_at dksX3_twice_1 13 rfl rfl)
theorem dX3_twice_38 : decode cX3_twice 38 = .ok (.if_icmp .ne 7, 3) := dk_160 0 7 (dk_at dksX3_twice_1 14 rfl rfl)
theorem dX3_twice_41 : decode cX3_twice 41 = .ok (.iconst 1, 1) := dk_4 (dk_at dksX3_twice_1 17 rfl rfl)
theorem dX3_twice_42 : decode cX3_twice 42 = .ok (.goto 4, 3) := dk_167 0 4 (dk_at dksX3_twice_1 18 rfl rfl)
theorem dX3_twice_45 : decode cX3_twice 45 = .ok (.iconst 0, 1) := dk_3 (dk_at dksX3_twice_1 21 rfl rfl)
theorem dX3_twice_46 : decode cX3_twice 46 = .ok (.istore 5, 2) := dk_54 5 (dk_at dksX3_twice_1 22 rfl rfl)
theorem dX3_twice_48 : decode cX3_twice 48 = .ok (.iload 6, 2) := dk_21 6 (dk_at dksX3_twice_2 0 rfl rfl)
theorem dX3_twice_50 : decode cX3_twice 50 = .ok (.ifCond .ne 20, 3) := dk_154 0 20 (dk_at dksX3_twice_2 2 rfl rfl)
theorem dX3_twice_53 : decode cX3_twice 53 = .ok (.iload 7, 2) := dk_21 7 (dk_at dksX3_twice_2 5 rfl rfl)
theorem dX3_twice_55 : decode cX3_twice 55 = .ok (.iload_n 1, 1) := dk_27 (dk_at dksX3_twice_2 7 rfl rfl)
theorem dX3_twice_56 : decode cX3_twice 56 = .ok (.if_icmp .eq 18, 3) := dk_159 0 18 (dk_at dksX3_twice_2 8 rfl rfl)
theorem dX3_twice_59 : decode cX3_twice 59 = .ok (.aload_n 0, 1) := dk_42 (dk_at dksX3_twice_2 11 rfl rfl)
theorem dX3_twice_60 : decode cX3_twice 60 = .ok (.getfield 20, 3) := dk_180 0 20 (dk_at dksX3_twice_2 12 rfl rfl)
theorem dX3_twice_63 : decode cX3_twice 63 = .ok (.iload 7, 2) := dk_21 7 (dk_at dksX3_twice_2 15 rfl rfl)
theorem dX3_twice_65 : decode cX3_twice 65 = .ok (.iaload, 1) := dk_46 (dk_at dksX3_twice_2 17 rfl rfl)
theorem dX3_twice_66 : decode cX3_twice 66 = .ok (.iload_n 2, 1) := dk_28 (dk_at dksX3_twice_2 18 rfl rfl)
theorem dX3_twice_67 : decode cX3_twice 67 = .ok (.if_icmp .ne 7, 3) := dk_160 0 7 (dk_at dksX3_twice_2 19 rfl rfl)
theorem dX3_twice_70 : decode cX3_twice 70 = .ok (.iconst 1, 1) := dk_4 (dk_at dksX3_twice_2 22 rfl rfl)
theorem dX3_twice_71 : decode cX3_twice 71 = .ok (.goto 4, 3) := dk_167 0 4 (dk_at dksX3_twice_3 0 rfl rfl)
theorem dX3_twice_74 : decode cX3_twice 74 = .ok (.iconst 0, 1) := dk_3 (dk_at dksX3_twice_3 3 rfl rfl)
theorem dX3_twice_75 : decode cX3_twice 75 = .ok (.istore 6, 2) := dk_54 6 (dk_at dksX3_twice_3 4 rfl rfl)
theorem dX3_twice_77 : decode cX3_twice 77 = .ok (.aload_n 0, 1) := dk_42 (dk_at dksX3_twice_3 6 rfl rfl)
theorem dX3_twice_78 : decode cX3_twice 78 = .ok (.getfield 17, 3) := dk_180 0 17 (dk_at dksX3_twice_3 7 rfl rfl)
theorem dX3_twice_81 : decode cX3_twice 81 = .ok (.iload 7, 2) := dk_21 7 (dk_at dksX3_twice_3 10 rfl rfl)
theorem dX3_twice_83 : decode cX3_twice 83 = .ok (.iaload, 1) := dk_46 (dk_at dksX3_twice_3 12 rfl rfl)
theorem dX3_twice_84 : decode cX3_twice 84 = .ok (.istore 7, 2) := dk_54 7 (dk_at dksX3_twice_3 13 rfl rfl)
theorem dX3_twice_86 : decode cX3_twice 86 = .ok (.goto (-62), 3) := dk_167 255 194 (dk_at dksX3_twice_3 15 rfl rfl)
theorem dX3_twice_89 : decode cX3_twice 89 = .ok (.iload_n 3, 1) := dk_29 (dk_at dksX3_twice_3 18 rfl rfl)
theorem dX3_twice_90 : decode cX3_twice 90 = .ok (.ifCond .ne 13, 3) := dk_154 0 13 (dk_at dksX3_twice_3 19 rfl rfl)
theorem dX3_twice_93 : decode cX3_twice 93 = .ok (.iload 5, 2) := dk_21 5 (dk_at dksX3_twice_3 22 rfl rfl)
theorem dX3_twice_95 : decode cX3_twice 95 = .ok (.ifCond .eq 12, 3) := dk_153 0 12 (dk_at dksX3_twice_4 0 rfl rfl)
theorem dX3_twice_98 : decode cX3_twice 98 = .ok (.iload 6, 2) := dk_21 6 (dk_at dksX3_twice_4 3 rfl rfl)
theorem dX3_twice_100 : decode cX3_twice 100 = .ok (.ifCond .eq 7, 3) := dk_153 0 7 (dk_at dksX3_twice_4 5 rfl rfl)
theorem dX3_twice_103 : decode cX3_twice 103 = .ok (.iconst 1, 1) := dk_4 (dk_at dksX3_twice_4 8 rfl rfl)
theorem dX3_twice_104 : decode cX3_twice 104 = .ok (.goto 4, 3) := dk_167 0 4 (dk_at dksX3_twice_4 9 rfl rfl)
theorem dX3_twice_107 : decode cX3_twice 107 = .ok (.iconst 0, 1) := dk_3 (dk_at dksX3_twice_4 12 rfl rfl)
theorem dX3_twice_108 : decode cX3_twice 108 = .ok (.istore_n 3, 1) := dk_62 (dk_at dksX3_twice_4 13 rfl rfl)
theorem dX3_twice_109 : decode cX3_twice 109 = .ok (.iinc 4 1, 3) := dk_132 4 1 (dk_at dksX3_twice_4 14 rfl rfl)
theorem dX3_twice_112 : decode cX3_twice 112 = .ok (.goto (-107), 3) := dk_167 255 149 (dk_at dksX3_twice_4 17 rfl rfl)
theorem dX3_twice_115 : decode cX3_twice 115 = .ok (.iload_n 3, 1) := dk_29 (dk_at dksX3_twice_4 20 rfl rfl)
theorem dX3_twice_116 : decode cX3_twice 116 = .ok (.ireturn, 1) := dk_172 (dk_at dksX3_twice_4 21 rfl rfl)
abbrev cX3_isStaleNow : ByteArray := prog_12_method_13_code
def yX3_isStaleNow : MethodName := ⟨RX3, "isStaleNow", "(I)Z"⟩
def dkwX3_isStaleNow_1 : List UInt8 := [182, 0, 105, 2, 130, 126, 153, 0, 7, 4, 167, 0, 4, 3, 172]
abbrev dktX3_isStaleNow_1 : List UInt8 := dkwX3_isStaleNow_1 ++ []
def dkwX3_isStaleNow_0 : List UInt8 := [42, 180, 0, 54, 27, 52, 16, 114, 160, 0, 29, 42, 180, 0, 61, 27, 46, 42, 42, 180, 0, 45, 27, 46]
abbrev dktX3_isStaleNow_0 : List UInt8 := dkwX3_isStaleNow_0 ++ dktX3_isStaleNow_1
theorem dksX3_isStaleNow_0 : cX3_isStaleNow.data.toList.drop 0 = dktX3_isStaleNow_0 := by decide +kernel
theorem dksX3_isStaleNow_1 : cX3_isStaleNow.data.toList.drop 24 = dktX3_isStaleNow_1 := dk_seg dksX3_isStaleNow_0 24 rfl rfl
theorem dX3_isStaleNow_0 : decode cX3_isStaleNow 0 = .ok (.aload_n 0, 1) := dk_42 (dk_at dksX3_isStaleNow_0 0 rfl rfl)
theorem dX3_isStaleNow_1 : decode cX3_isStaleNow 1 = .ok (.getfield 54, 3) := dk_180 0 54 (dk_at dksX3_isStaleNow_0 1 rfl rfl)
theorem dX3_isStaleNow_4 : decode cX3_isStaleNow 4 = .ok (.iload_n 1, 1) := dk_27 (dk_at dksX3_isStaleNow_0 4 rfl rfl)
theorem dX3_isStaleNow_5 : decode cX3_isStaleNow 5 = .ok (.caload, 1) := dk_52 (dk_at dksX3_isStaleNow_0 5 rfl rfl)
theorem dX3_isStaleNow_6 : decode cX3_isStaleNow 6 = .ok (.bipush 114, 2) := dk_16 114 (dk_at dksX3_isStaleNow_0 6 rfl rfl)
theorem dX3_isStaleNow_8 : decode cX3_isStaleNow 8 = .ok (.if_icmp .ne 29, 3) := dk_160 0 29 (dk_at dksX3_isStaleNow_0 8 rfl rfl)
theorem dX3_isStaleNow_11 : decode cX3_isStaleNow 11 = .ok (.aload_n 0, 1) := dk_42 (dk_at dksX3_isStaleNow_0 11 rfl rfl)
theorem dX3_isStaleNow_12 : decode cX3_isStaleNow 12 = .ok (.getfield 61, 3) := dk_180 0 61 (dk_at dksX3_isStaleNow_0 12 rfl rfl)
theorem dX3_isStaleNow_15 : decode cX3_isStaleNow 15 = .ok (.iload_n 1, 1) := dk_27 (dk_at dksX3_isStaleNow_0 15 rfl rfl)
theorem dX3_isStaleNow_16 : decode cX3_isStaleNow 16 = .ok (.iaload, 1) := dk_46 (dk_at dksX3_isStaleNow_0 16 rfl rfl)
theorem dX3_isStaleNow_17 : decode cX3_isStaleNow 17 = .ok (.aload_n 0, 1) := dk_42 (dk_at dksX3_isStaleNow_0 17 rfl rfl)
theorem dX3_isStaleNow_18 : decode cX3_isStaleNow 18 = .ok (.aload_n 0, 1) := dk_42 (dk_at dksX3_isStaleNow_0 18 rfl rfl)
theorem dX3_isStaleNow_19 : decode cX3_isStaleNow 19 = .ok (.getfield 45, 3) := dk_180 0 45 (dk_at dksX3_isStaleNow_0 19 rfl rfl)
theorem dX3_isStaleNow_22 : decode cX3_isStaleNow 22 = .ok (.iload_n 1, 1) := dk_27 (dk_at dksX3_isStaleNow_0 22 rfl rfl)
theorem dX3_isStaleNow_23 : decode cX3_isStaleNow 23 = .ok (.iaload, 1) := dk_46 (dk_at dksX3_isStaleNow_0 23 rfl rfl)
theorem dX3_isStaleNow_24 : decode cX3_isStaleNow 24 = .ok (.invokevirtual 105, 3) := dk_182 0 105 (dk_at dksX3_isStaleNow_1 0 rfl rfl)
theorem dX3_isStaleNow_27 : decode cX3_isStaleNow 27 = .ok (.iconst (-1), 1) := dk_2 (dk_at dksX3_isStaleNow_1 3 rfl rfl)
theorem dX3_isStaleNow_28 : decode cX3_isStaleNow 28 = .ok (.ixor, 1) := dk_130 (dk_at dksX3_isStaleNow_1 4 rfl rfl)
theorem dX3_isStaleNow_29 : decode cX3_isStaleNow 29 = .ok (.iand, 1) := dk_126 (dk_at dksX3_isStaleNow_1 5 rfl rfl)
theorem dX3_isStaleNow_30 : decode cX3_isStaleNow 30 = .ok (.ifCond .eq 7, 3) := dk_153 0 7 (dk_at dksX3_isStaleNow_1 6 rfl rfl)
theorem dX3_isStaleNow_33 : decode cX3_isStaleNow 33 = .ok (.iconst 1, 1) := dk_4 (dk_at dksX3_isStaleNow_1 9 rfl rfl)
theorem dX3_isStaleNow_34 : decode cX3_isStaleNow 34 = .ok (.goto 4, 3) := dk_167 0 4 (dk_at dksX3_isStaleNow_1 10 rfl rfl)
theorem dX3_isStaleNow_37 : decode cX3_isStaleNow 37 = .ok (.iconst 0, 1) := dk_3 (dk_at dksX3_isStaleNow_1 13 rfl rfl)
theorem dX3_isStaleNow_38 : decode cX3_isStaleNow 38 = .ok (.ireturn, 1) := dk_172 (dk_at dksX3_isStaleNow_1 14 rfl rfl)
abbrev cX3_withdraw : ByteArray := prog_12_method_18_code
def yX3_withdraw : MethodName := ⟨RX3, "withdraw", "(II)I"⟩
def dkwX3_withdraw_5 : List UInt8 := [160, 0, 7, 4, 167, 0, 4, 3, 96, 62, 132, 4, 1, 167, 255, 209, 29, 172]
abbrev dktX3_withdraw_5 : List UInt8 := dkwX3_withdraw_5 ++ []
def dkwX3_withdraw_4 : List UInt8 := [180, 0, 54, 21, 4, 52, 16, 114, 160, 0, 22, 42, 180, 0, 61, 21, 4, 46, 27, 122, 4, 126, 4]
abbrev dktX3_withdraw_4 : List UInt8 := dkwX3_withdraw_4 ++ dktX3_withdraw_5
def dkwX3_withdraw_3 : List UInt8 := [180, 0, 98, 28, 96, 79, 3, 62, 3, 54, 4, 21, 4, 42, 180, 0, 95, 162, 0, 44, 29, 42]
abbrev dktX3_withdraw_3 : List UInt8 := dkwX3_withdraw_3 ++ dktX3_withdraw_4
def dkwX3_withdraw_2 : List UInt8 := [51, 6, 182, 0, 109, 153, 0, 5, 3, 172, 42, 180, 0, 7, 27, 4, 84, 42, 180, 0, 13, 27, 42]
abbrev dktX3_withdraw_2 : List UInt8 := dkwX3_withdraw_2 ++ dktX3_withdraw_3
def dkwX3_withdraw_1 : List UInt8 := [184, 0, 85, 154, 0, 7, 4, 167, 0, 4, 3, 5, 182, 0, 109, 154, 0, 17, 42, 42, 180, 0, 7, 27]
abbrev dktX3_withdraw_1 : List UInt8 := dkwX3_withdraw_1 ++ dktX3_withdraw_2
def dkwX3_withdraw_0 : List UInt8 := [42, 3, 181, 0, 79, 42, 42, 27, 182, 0, 116, 4, 182, 0, 109, 154, 0, 40, 42, 28, 3, 16, 99]
abbrev dktX3_withdraw_0 : List UInt8 := dkwX3_withdraw_0 ++ dktX3_withdraw_1
theorem dksX3_withdraw_0 : cX3_withdraw.data.toList.drop 0 = dktX3_withdraw_0 := by decide +kernel
theorem dksX3_withdraw_1 : cX3_withdraw.data.toList.drop 23 = dktX3_withdraw_1 := dk_seg dksX3_withdraw_0 23 rfl rfl
theorem dksX3_withdraw_2 : cX3_withdraw.data.toList.drop 47 = dktX3_withdraw_2 := dk_seg dksX3_withdraw_1 24 rfl rfl
theorem dksX3_withdraw_3 : cX3_withdraw.data.toList.drop 70 = dktX3_withdraw_3 := dk_seg dksX3_withdraw_2 23 rfl rfl
theorem dksX3_withdraw_4 : cX3_withdraw.data.toList.drop 92 = dktX3_withdraw_4 := dk_seg dksX3_withdraw_3 22 rfl rfl
theorem dksX3_withdraw_5 : cX3_withdraw.data.toList.drop 115 = dktX3_withdraw_5 := dk_seg dksX3_withdraw_4 23 rfl rfl
theorem dX3_withdraw_0 : decode cX3_withdraw 0 = .ok (.aload_n 0, 1) := dk_42 (dk_at dksX3_withdraw_0 0 rfl rfl)
theorem dX3_withdraw_1 : decode cX3_withdraw 1 = .ok (.iconst 0, 1) := dk_3 (dk_at dksX3_withdraw_0 1 rfl rfl)
theorem dX3_withdraw_2 : decode cX3_withdraw 2 = .ok (.putfield 79, 3) := dk_181 0 79 (dk_at dksX3_withdraw_0 2 rfl rfl)
theorem dX3_withdraw_5 : decode cX3_withdraw 5 = .ok (.aload_n 0, 1) := dk_42 (dk_at dksX3_withdraw_0 5 rfl rfl)
theorem dX3_withdraw_6 : decode cX3_withdraw 6 = .ok (.aload_n 0, 1) := dk_42 (dk_at dksX3_withdraw_0 6 rfl rfl)
theorem dX3_withdraw_7 : decode cX3_withdraw 7 = .ok (.iload_n 1, 1) := dk_27 (dk_at dksX3_withdraw_0 7 rfl rfl)
theorem dX3_withdraw_8 : decode cX3_withdraw 8 = .ok (.invokevirtual 116, 3) := dk_182 0 116 (dk_at dksX3_withdraw_0 8 rfl rfl)
theorem dX3_withdraw_11 : decode cX3_withdraw 11 = .ok (.iconst 1, 1) := dk_4 (dk_at dksX3_withdraw_0 11 rfl rfl)
theorem dX3_withdraw_12 : decode cX3_withdraw 12 = .ok (.invokevirtual 109, 3) := dk_182 0 109 (dk_at dksX3_withdraw_0 12 rfl rfl)
theorem dX3_withdraw_15 : decode cX3_withdraw 15 = .ok (.ifCond .ne 40, 3) := dk_154 0 40 (dk_at dksX3_withdraw_0 15 rfl rfl)
theorem dX3_withdraw_18 : decode cX3_withdraw 18 = .ok (.aload_n 0, 1) := dk_42 (dk_at dksX3_withdraw_0 18 rfl rfl)
theorem dX3_withdraw_19 : decode cX3_withdraw 19 = .ok (.iload_n 2, 1) := dk_28 (dk_at dksX3_withdraw_0 19 rfl rfl)
theorem dX3_withdraw_20 : decode cX3_withdraw 20 = .ok (.iconst 0, 1) := dk_3 (dk_at dksX3_withdraw_0 20 rfl rfl)
theorem dX3_withdraw_21 : decode cX3_withdraw 21 = .ok (.bipush 99, 2) := dk_16 99 (dk_at dksX3_withdraw_0 21 rfl rfl)
theorem dX3_withdraw_23 : decode cX3_withdraw 23 = .ok (.invokestatic 85, 3) := dk_184 0 85 (dk_at dksX3_withdraw_1 0 rfl rfl)
theorem dX3_withdraw_26 : decode cX3_withdraw 26 = .ok (.ifCond .ne 7, 3) := dk_154 0 7 (dk_at dksX3_withdraw_1 3 rfl rfl)
theorem dX3_withdraw_29 : decode cX3_withdraw 29 = .ok (.iconst 1, 1) := dk_4 (dk_at dksX3_withdraw_1 6 rfl rfl)
theorem dX3_withdraw_30 : decode cX3_withdraw 30 = .ok (.goto 4, 3) := dk_167 0 4 (dk_at dksX3_withdraw_1 7 rfl rfl)
theorem dX3_withdraw_33 : decode cX3_withdraw 33 = .ok (.iconst 0, 1) := dk_3 (dk_at dksX3_withdraw_1 10 rfl rfl)
theorem dX3_withdraw_34 : decode cX3_withdraw 34 = .ok (.iconst 2, 1) := dk_5 (dk_at dksX3_withdraw_1 11 rfl rfl)
theorem dX3_withdraw_35 : decode cX3_withdraw 35 = .ok (.invokevirtual 109, 3) := dk_182 0 109 (dk_at dksX3_withdraw_1 12 rfl rfl)
theorem dX3_withdraw_38 : decode cX3_withdraw 38 = .ok (.ifCond .ne 17, 3) := dk_154 0 17 (dk_at dksX3_withdraw_1 15 rfl rfl)
theorem dX3_withdraw_41 : decode cX3_withdraw 41 = .ok (.aload_n 0, 1) := dk_42 (dk_at dksX3_withdraw_1 18 rfl rfl)
theorem dX3_withdraw_42 : decode cX3_withdraw 42 = .ok (.aload_n 0, 1) := dk_42 (dk_at dksX3_withdraw_1 19 rfl rfl)
theorem dX3_withdraw_43 : decode cX3_withdraw 43 = .ok (.getfield 7, 3) := dk_180 0 7 (dk_at dksX3_withdraw_1 20 rfl rfl)
theorem dX3_withdraw_46 : decode cX3_withdraw 46 = .ok (.iload_n 1, 1) := dk_27 (dk_at dksX3_withdraw_1 23 rfl rfl)
theorem dX3_withdraw_47 : decode cX3_withdraw 47 = .ok (.baload, 1) := dk_51 (dk_at dksX3_withdraw_2 0 rfl rfl)
theorem dX3_withdraw_48 : decode cX3_withdraw 48 = .ok (.iconst 3, 1) := dk_6 (dk_at dksX3_withdraw_2 1 rfl rfl)
theorem dX3_withdraw_49 : decode cX3_withdraw 49 = .ok (.invokevirtual 109, 3) := dk_182 0 109 (dk_at dksX3_withdraw_2 2 rfl rfl)
theorem dX3_withdraw_52 : decode cX3_withdraw 52 = .ok (.ifCond .eq 5, 3) := dk_153 0 5 (dk_at dksX3_withdraw_2 5 rfl rfl)
theorem dX3_withdraw_55 : decode cX3_withdraw 55 = .ok (.iconst 0, 1) := dk_3 (dk_at dksX3_withdraw_2 8 rfl rfl)
theorem dX3_withdraw_56 : decode cX3_withdraw 56 = .ok (.ireturn, 1) := dk_172 (dk_at dksX3_withdraw_2 9 rfl rfl)
theorem dX3_withdraw_57 : decode cX3_withdraw 57 = .ok (.aload_n 0, 1) := dk_42 (dk_at dksX3_withdraw_2 10 rfl rfl)
theorem dX3_withdraw_58 : decode cX3_withdraw 58 = .ok (.getfield 7, 3) := dk_180 0 7 (dk_at dksX3_withdraw_2 11 rfl rfl)
theorem dX3_withdraw_61 : decode cX3_withdraw 61 = .ok (.iload_n 1, 1) := dk_27 (dk_at dksX3_withdraw_2 14 rfl rfl)
theorem dX3_withdraw_62 : decode cX3_withdraw 62 = .ok (.iconst 1, 1) := dk_4 (dk_at dksX3_withdraw_2 15 rfl rfl)
theorem dX3_withdraw_63 : decode cX3_withdraw 63 = .ok (.bastore, 1) := dk_84 (dk_at dksX3_withdraw_2 16 rfl rfl)
theorem dX3_withdraw_64 : decode cX3_withdraw 64 = .ok (.aload_n 0, 1) := dk_42 (dk_at dksX3_withdraw_2 17 rfl rfl)
theorem dX3_withdraw_65 : decode cX3_withdraw 65 = .ok (.getfield 13, 3) := dk_180 0 13 (dk_at dksX3_withdraw_2 18 rfl rfl)
theorem dX3_withdraw_68 : decode cX3_withdraw 68 = .ok (.iload_n 1, 1) := dk_27 (dk_at dksX3_withdraw_2 21 rfl rfl)
theorem dX3_withdraw_69 : decode cX3_withdraw 69 = .ok (.aload_n 0, 1) := dk_42 (dk_at dksX3_withdraw_2 22 rfl rfl)
theorem dX3_withdraw_70 : decode cX3_withdraw 70 = .ok (.getfield 98, 3) := dk_180 0 98 (dk_at dksX3_withdraw_3 0 rfl rfl)
theorem dX3_withdraw_73 : decode cX3_withdraw 73 = .ok (.iload_n 2, 1) := dk_28 (dk_at dksX3_withdraw_3 3 rfl rfl)
theorem dX3_withdraw_74 : decode cX3_withdraw 74 = .ok (.iadd, 1) := dk_96 (dk_at dksX3_withdraw_3 4 rfl rfl)
theorem dX3_withdraw_75 : decode cX3_withdraw 75 = .ok (.iastore, 1) := dk_79 (dk_at dksX3_withdraw_3 5 rfl rfl)
theorem dX3_withdraw_76 : decode cX3_withdraw 76 = .ok (.iconst 0, 1) := dk_3 (dk_at dksX3_withdraw_3 6 rfl rfl)
theorem dX3_withdraw_77 : decode cX3_withdraw 77 = .ok (.istore_n 3, 1) := dk_62 (dk_at dksX3_withdraw_3 7 rfl rfl)
theorem dX3_withdraw_78 : decode cX3_withdraw 78 = .ok (.iconst 0, 1) := dk_3 (dk_at dksX3_withdraw_3 8 rfl rfl)
theorem dX3_withdraw_79 : decode cX3_withdraw 79 = .ok (.istore 4, 2) := dk_54 4 (dk_at dksX3_withdraw_3 9 rfl rfl)
theorem dX3_withdraw_81 : decode cX3_withdraw 81 = .ok (.iload 4, 2) := dk_21 4 (dk_at dksX3_withdraw_3 11 rfl rfl)
theorem dX3_withdraw_83 : decode cX3_withdraw 83 = .ok (.aload_n 0, 1) := dk_42 (dk_at dksX3_withdraw_3 13 rfl rfl)
theorem dX3_withdraw_84 : decode cX3_withdraw 84 = .ok (.getfield 95, 3) := dk_180 0 95 (dk_at dksX3_withdraw_3 14 rfl rfl)
theorem dX3_withdraw_87 : decode cX3_withdraw 87 = .ok (.if_icmp .ge 44, 3) := dk_162 0 44 (dk_at dksX3_withdraw_3 17 rfl rfl)
theorem dX3_withdraw_90 : decode cX3_withdraw 90 = .ok (.iload_n 3, 1) := dk_29 (dk_at dksX3_withdraw_3 20 rfl rfl)
theorem dX3_withdraw_91 : decode cX3_withdraw 91 = .ok (.aload_n 0, 1) := dk_42 (dk_at dksX3_withdraw_3 21 rfl rfl)
theorem dX3_withdraw_92 : decode cX3_withdraw 92 = .ok (.getfield 54, 3) := dk_180 0 54 (dk_at dksX3_withdraw_4 0 rfl rfl)
theorem dX3_withdraw_95 : decode cX3_withdraw 95 = .ok (.iload 4, 2) := dk_21 4 (dk_at dksX3_withdraw_4 3 rfl rfl)
theorem dX3_withdraw_97 : decode cX3_withdraw 97 = .ok (.caload, 1) := dk_52 (dk_at dksX3_withdraw_4 5 rfl rfl)
theorem dX3_withdraw_98 : decode cX3_withdraw 98 = .ok (.bipush 114, 2) := dk_16 114 (dk_at dksX3_withdraw_4 6 rfl rfl)
theorem dX3_withdraw_100 : decode cX3_withdraw 100 = .ok (.if_icmp .ne 22, 3) := dk_160 0 22 (dk_at dksX3_withdraw_4 8 rfl rfl)
theorem dX3_withdraw_103 : decode cX3_withdraw 103 = .ok (.aload_n 0, 1) := dk_42 (dk_at dksX3_withdraw_4 11 rfl rfl)
theorem dX3_withdraw_104 : decode cX3_withdraw 104 = .ok (.getfield 61, 3) := dk_180 0 61 (dk_at dksX3_withdraw_4 12 rfl rfl)
theorem dX3_withdraw_107 : decode cX3_withdraw 107 = .ok (.iload 4, 2) := dk_21 4 (dk_at dksX3_withdraw_4 15 rfl rfl)
theorem dX3_withdraw_109 : decode cX3_withdraw 109 = .ok (.iaload, 1) := dk_46 (dk_at dksX3_withdraw_4 17 rfl rfl)
theorem dX3_withdraw_110 : decode cX3_withdraw 110 = .ok (.iload_n 1, 1) := dk_27 (dk_at dksX3_withdraw_4 18 rfl rfl)
theorem dX3_withdraw_111 : decode cX3_withdraw 111 = .ok (.ishr, 1) := dk_122 (dk_at dksX3_withdraw_4 19 rfl rfl)
theorem dX3_withdraw_112 : decode cX3_withdraw 112 = .ok (.iconst 1, 1) := dk_4 (dk_at dksX3_withdraw_4 20 rfl rfl)
theorem dX3_withdraw_113 : decode cX3_withdraw 113 = .ok (.iand, 1) := dk_126 (dk_at dksX3_withdraw_4 21 rfl rfl)
theorem dX3_withdraw_114 : decode cX3_withdraw 114 = .ok (.iconst 1, 1) := dk_4 (dk_at dksX3_withdraw_4 22 rfl rfl)
theorem dX3_withdraw_115 : decode cX3_withdraw 115 = .ok (.if_icmp .ne 7, 3) := dk_160 0 7 (dk_at dksX3_withdraw_5 0 rfl rfl)
theorem dX3_withdraw_118 : decode cX3_withdraw 118 = .ok (.iconst 1, 1) := dk_4 (dk_at dksX3_withdraw_5 3 rfl rfl)
theorem dX3_withdraw_119 : decode cX3_withdraw 119 = .ok (.goto 4, 3) := dk_167 0 4 (dk_at dksX3_withdraw_5 4 rfl rfl)
theorem dX3_withdraw_122 : decode cX3_withdraw 122 = .ok (.iconst 0, 1) := dk_3 (dk_at dksX3_withdraw_5 7 rfl rfl)
theorem dX3_withdraw_123 : decode cX3_withdraw 123 = .ok (.iadd, 1) := dk_96 (dk_at dksX3_withdraw_5 8 rfl rfl)
theorem dX3_withdraw_124 : decode cX3_withdraw 124 = .ok (.istore_n 3, 1) := dk_62 (dk_at dksX3_withdraw_5 9 rfl rfl)
theorem dX3_withdraw_125 : decode cX3_withdraw 125 = .ok (.iinc 4 1, 3) := dk_132 4 1 (dk_at dksX3_withdraw_5 10 rfl rfl)
theorem dX3_withdraw_128 : decode cX3_withdraw 128 = .ok (.goto (-47), 3) := dk_167 255 209 (dk_at dksX3_withdraw_5 13 rfl rfl)
theorem dX3_withdraw_131 : decode cX3_withdraw 131 = .ok (.iload_n 3, 1) := dk_29 (dk_at dksX3_withdraw_5 16 rfl rfl)
theorem dX3_withdraw_132 : decode cX3_withdraw 132 = .ok (.ireturn, 1) := dk_172 (dk_at dksX3_withdraw_5 17 rfl rfl)
abbrev cX3_addHost : ByteArray := prog_12_method_19_code
def yX3_addHost : MethodName := ⟨RX3, "addHost", "(LNeed;)I"⟩
def dkwX3_addHost_4 : List UInt8 := [79, 42, 89, 180, 0, 92, 4, 96, 181, 0, 92, 42, 180, 0, 92, 4, 100, 172]
abbrev dktX3_addHost_4 : List UInt8 := dkwX3_addHost_4 ++ []
def dkwX3_addHost_3 : List UInt8 := [180, 0, 23, 42, 180, 0, 92, 43, 182, 0, 126, 79, 42, 180, 0, 26, 42, 180, 0, 92, 43, 182, 0, 131]
abbrev dktX3_addHost_3 : List UInt8 := dkwX3_addHost_3 ++ dktX3_addHost_4
def dkwX3_addHost_2 : List UInt8 := [180, 0, 92, 7, 160, 0, 7, 4, 167, 0, 4, 3, 5, 182, 0, 109, 153, 0, 5, 3, 172, 42]
abbrev dktX3_addHost_2 : List UInt8 := dkwX3_addHost_2 ++ dktX3_addHost_3
def dkwX3_addHost_1 : List UInt8 := [17, 1, 0, 184, 0, 85, 154, 0, 7, 4, 167, 0, 4, 3, 4, 182, 0, 109, 154, 0, 24, 42, 42]
abbrev dktX3_addHost_1 : List UInt8 := dkwX3_addHost_1 ++ dktX3_addHost_2
def dkwX3_addHost_0 : List UInt8 := [42, 3, 181, 0, 79, 42, 43, 182, 0, 126, 4, 16, 32, 184, 0, 85, 153, 0, 17, 43, 182, 0, 131, 4]
abbrev dktX3_addHost_0 : List UInt8 := dkwX3_addHost_0 ++ dktX3_addHost_1
theorem dksX3_addHost_0 : cX3_addHost.data.toList.drop 0 = dktX3_addHost_0 := by decide +kernel
theorem dksX3_addHost_1 : cX3_addHost.data.toList.drop 24 = dktX3_addHost_1 := dk_seg dksX3_addHost_0 24 rfl rfl
theorem dksX3_addHost_2 : cX3_addHost.data.toList.drop 47 = dktX3_addHost_2 := dk_seg dksX3_addHost_1 23 rfl rfl
theorem dksX3_addHost_3 : cX3_addHost.data.toList.drop 69 = dktX3_addHost_3 := dk_seg dksX3_addHost_2 22 rfl rfl
theorem dksX3_addHost_4 : cX3_addHost.data.toList.drop 93 = dktX3_addHost_4 := dk_seg dksX3_addHost_3 24 rfl rfl
theorem dX3_addHost_0 : decode cX3_addHost 0 = .ok (.aload_n 0, 1) := dk_42 (dk_at dksX3_addHost_0 0 rfl rfl)
theorem dX3_addHost_1 : decode cX3_addHost 1 = .ok (.iconst 0, 1) := dk_3 (dk_at dksX3_addHost_0 1 rfl rfl)
theorem dX3_addHost_2 : decode cX3_addHost 2 = .ok (.putfield 79, 3) := dk_181 0 79 (dk_at dksX3_addHost_0 2 rfl rfl)
theorem dX3_addHost_5 : decode cX3_addHost 5 = .ok (.aload_n 0, 1) := dk_42 (dk_at dksX3_addHost_0 5 rfl rfl)
theorem dX3_addHost_6 : decode cX3_addHost 6 = .ok (.aload_n 1, 1) := dk_43 (dk_at dksX3_addHost_0 6 rfl rfl)
theorem dX3_addHost_7 : decode cX3_addHost 7 = .ok (.invokevirtual 126, 3) := dk_182 0 126 (dk_at dksX3_addHost_0 7 rfl rfl)
theorem dX3_addHost_10 : decode cX3_addHost 10 = .ok (.iconst 1, 1) := dk_4 (dk_at dksX3_addHost_0 10 rfl rfl)
theorem dX3_addHost_11 : decode cX3_addHost 11 = .ok (.bipush 32, 2) := dk_16 32 (dk_at dksX3_addHost_0 11 rfl rfl)
theorem dX3_addHost_13 : decode cX3_addHost 13 = .ok (.invokestatic 85, 3) := dk_184 0 85 (dk_at dksX3_addHost_0 13 rfl rfl)
theorem dX3_addHost_16 : decode cX3_addHost 16 = .ok (.ifCond .eq 17, 3) := dk_153 0 17 (dk_at dksX3_addHost_0 16 rfl rfl)
theorem dX3_addHost_19 : decode cX3_addHost 19 = .ok (.aload_n 1, 1) := dk_43 (dk_at dksX3_addHost_0 19 rfl rfl)
theorem dX3_addHost_20 : decode cX3_addHost 20 = .ok (.invokevirtual 131, 3) := dk_182 0 131 (dk_at dksX3_addHost_0 20 rfl rfl)
theorem dX3_addHost_23 : decode cX3_addHost 23 = .ok (.iconst 1, 1) := dk_4 (dk_at dksX3_addHost_0 23 rfl rfl)
theorem dX3_addHost_24 : decode cX3_addHost 24 = .ok (.sipush 256, 3) := dk_17 1 0 (dk_at dksX3_addHost_1 0 rfl rfl)
theorem dX3_addHost_27 : decode cX3_addHost 27 = .ok (.invokestatic 85, 3) := dk_184 0 85 (dk_at dksX3_addHost_1 3 rfl rfl)
theorem dX3_addHost_30 : decode cX3_addHost 30 = .ok (.ifCond .ne 7, 3) := dk_154 0 7 (dk_at dksX3_addHost_1 6 rfl rfl)
theorem dX3_addHost_33 : decode cX3_addHost 33 = .ok (.iconst 1, 1) := dk_4 (dk_at dksX3_addHost_1 9 rfl rfl)
theorem dX3_addHost_34 : decode cX3_addHost 34 = .ok (.goto 4, 3) := dk_167 0 4 (dk_at dksX3_addHost_1 10 rfl rfl)
theorem dX3_addHost_37 : decode cX3_addHost 37 = .ok (.iconst 0, 1) := dk_3 (dk_at dksX3_addHost_1 13 rfl rfl)
theorem dX3_addHost_38 : decode cX3_addHost 38 = .ok (.iconst 1, 1) := dk_4 (dk_at dksX3_addHost_1 14 rfl rfl)
theorem dX3_addHost_39 : decode cX3_addHost 39 = .ok (.invokevirtual 109, 3) := dk_182 0 109 (dk_at dksX3_addHost_1 15 rfl rfl)
theorem dX3_addHost_42 : decode cX3_addHost 42 = .ok (.ifCond .ne 24, 3) := dk_154 0 24 (dk_at dksX3_addHost_1 18 rfl rfl)
theorem dX3_addHost_45 : decode cX3_addHost 45 = .ok (.aload_n 0, 1) := dk_42 (dk_at dksX3_addHost_1 21 rfl rfl)
theorem dX3_addHost_46 : decode cX3_addHost 46 = .ok (.aload_n 0, 1) := dk_42 (dk_at dksX3_addHost_1 22 rfl rfl)
theorem dX3_addHost_47 : decode cX3_addHost 47 = .ok (.getfield 92, 3) := dk_180 0 92 (dk_at dksX3_addHost_2 0 rfl rfl)
theorem dX3_addHost_50 : decode cX3_addHost 50 = .ok (.iconst 4, 1) := dk_7 (dk_at dksX3_addHost_2 3 rfl rfl)
theorem dX3_addHost_51 : decode cX3_addHost 51 = .ok (.if_icmp .ne 7, 3) := dk_160 0 7 (dk_at dksX3_addHost_2 4 rfl rfl)
theorem dX3_addHost_54 : decode cX3_addHost 54 = .ok (.iconst 1, 1) := dk_4 (dk_at dksX3_addHost_2 7 rfl rfl)
theorem dX3_addHost_55 : decode cX3_addHost 55 = .ok (.goto 4, 3) := dk_167 0 4 (dk_at dksX3_addHost_2 8 rfl rfl)
theorem dX3_addHost_58 : decode cX3_addHost 58 = .ok (.iconst 0, 1) := dk_3 (dk_at dksX3_addHost_2 11 rfl rfl)
theorem dX3_addHost_59 : decode cX3_addHost 59 = .ok (.iconst 2, 1) := dk_5 (dk_at dksX3_addHost_2 12 rfl rfl)
theorem dX3_addHost_60 : decode cX3_addHost 60 = .ok (.invokevirtual 109, 3) := dk_182 0 109 (dk_at dksX3_addHost_2 13 rfl rfl)
theorem dX3_addHost_63 : decode cX3_addHost 63 = .ok (.ifCond .eq 5, 3) := dk_153 0 5 (dk_at dksX3_addHost_2 16 rfl rfl)
theorem dX3_addHost_66 : decode cX3_addHost 66 = .ok (.iconst 0, 1) := dk_3 (dk_at dksX3_addHost_2 19 rfl rfl)
theorem dX3_addHost_67 : decode cX3_addHost 67 = .ok (.ireturn, 1) := dk_172 (dk_at dksX3_addHost_2 20 rfl rfl)
theorem dX3_addHost_68 : decode cX3_addHost 68 = .ok (.aload_n 0, 1) := dk_42 (dk_at dksX3_addHost_2 21 rfl rfl)
theorem dX3_addHost_69 : decode cX3_addHost 69 = .ok (.getfield 23, 3) := dk_180 0 23 (dk_at dksX3_addHost_3 0 rfl rfl)
theorem dX3_addHost_72 : decode cX3_addHost 72 = .ok (.aload_n 0, 1) := dk_42 (dk_at dksX3_addHost_3 3 rfl rfl)
theorem dX3_addHost_73 : decode cX3_addHost 73 = .ok (.getfield 92, 3) := dk_180 0 92 (dk_at dksX3_addHost_3 4 rfl rfl)
theorem dX3_addHost_76 : decode cX3_addHost 76 = .ok (.aload_n 1, 1) := dk_43 (dk_at dksX3_addHost_3 7 rfl rfl)
theorem dX3_addHost_77 : decode cX3_addHost 77 = .ok (.invokevirtual 126, 3) := dk_182 0 126 (dk_at dksX3_addHost_3 8 rfl rfl)
theorem dX3_addHost_80 : decode cX3_addHost 80 = .ok (.iastore, 1) := dk_79 (dk_at dksX3_addHost_3 11 rfl rfl)
theorem dX3_addHost_81 : decode cX3_addHost 81 = .ok (.aload_n 0, 1) := dk_42 (dk_at dksX3_addHost_3 12 rfl rfl)
theorem dX3_addHost_82 : decode cX3_addHost 82 = .ok (.getfield 26, 3) := dk_180 0 26 (dk_at dksX3_addHost_3 13 rfl rfl)
theorem dX3_addHost_85 : decode cX3_addHost 85 = .ok (.aload_n 0, 1) := dk_42 (dk_at dksX3_addHost_3 16 rfl rfl)
theorem dX3_addHost_86 : decode cX3_addHost 86 = .ok (.getfield 92, 3) := dk_180 0 92 (dk_at dksX3_addHost_3 17 rfl rfl)
theorem dX3_addHost_89 : decode cX3_addHost 89 = .ok (.aload_n 1, 1) := dk_43 (dk_at dksX3_addHost_3 20 rfl rfl)
theorem dX3_addHost_90 : decode cX3_addHost 90 = .ok (.invokevirtual 131, 3) := dk_182 0 131 (dk_at dksX3_addHost_3 21 rfl rfl)
theorem dX3_addHost_93 : decode cX3_addHost 93 = .ok (.iastore, 1) := dk_79 (dk_at dksX3_addHost_4 0 rfl rfl)
theorem dX3_addHost_94 : decode cX3_addHost 94 = .ok (.aload_n 0, 1) := dk_42 (dk_at dksX3_addHost_4 1 rfl rfl)
theorem dX3_addHost_95 : decode cX3_addHost 95 = .ok (.dup, 1) := dk_89 (dk_at dksX3_addHost_4 2 rfl rfl)
theorem dX3_addHost_96 : decode cX3_addHost 96 = .ok (.getfield 92, 3) := dk_180 0 92 (dk_at dksX3_addHost_4 3 rfl rfl)
theorem dX3_addHost_99 : decode cX3_addHost 99 = .ok (.iconst 1, 1) := dk_4 (dk_at dksX3_addHost_4 6 rfl rfl)
theorem dX3_addHost_100 : decode cX3_addHost 100 = .ok (.iadd, 1) := dk_96 (dk_at dksX3_addHost_4 7 rfl rfl)
theorem dX3_addHost_101 : decode cX3_addHost 101 = .ok (.putfield 92, 3) := dk_181 0 92 (dk_at dksX3_addHost_4 8 rfl rfl)
theorem dX3_addHost_104 : decode cX3_addHost 104 = .ok (.aload_n 0, 1) := dk_42 (dk_at dksX3_addHost_4 11 rfl rfl)
theorem dX3_addHost_105 : decode cX3_addHost 105 = .ok (.getfield 92, 3) := dk_180 0 92 (dk_at dksX3_addHost_4 12 rfl rfl)
theorem dX3_addHost_108 : decode cX3_addHost 108 = .ok (.iconst 1, 1) := dk_4 (dk_at dksX3_addHost_4 15 rfl rfl)
theorem dX3_addHost_109 : decode cX3_addHost 109 = .ok (.isub, 1) := dk_100 (dk_at dksX3_addHost_4 16 rfl rfl)
theorem dX3_addHost_110 : decode cX3_addHost 110 = .ok (.ireturn, 1) := dk_172 (dk_at dksX3_addHost_4 17 rfl rfl)
abbrev cX3_addWindow : ByteArray := prog_12_method_20_code
def yX3_addWindow : MethodName := ⟨RX3, "addWindow", "(LWindow;)I"⟩
def dkwX3_addWindow_5 : List UInt8 := [79, 42, 89, 180, 0, 141, 4, 96, 181, 0, 141, 42, 180, 0, 141, 4, 100, 172]
abbrev dktX3_addWindow_5 : List UInt8 := dkwX3_addWindow_5 ++ []
def dkwX3_addWindow_4 : List UInt8 := [180, 0, 32, 42, 180, 0, 141, 43, 182, 0, 137, 79, 42, 180, 0, 35, 42, 180, 0, 141, 43, 182, 0, 139]
abbrev dktX3_addWindow_4 : List UInt8 := dkwX3_addWindow_4 ++ dktX3_addWindow_5
def dkwX3_addWindow_3 : List UInt8 := [182, 0, 109, 153, 0, 5, 3, 172, 42, 180, 0, 29, 42, 180, 0, 141, 43, 182, 0, 133, 79, 42]
abbrev dktX3_addWindow_3 : List UInt8 := dkwX3_addWindow_3 ++ dktX3_addWindow_4
def dkwX3_addWindow_2 : List UInt8 := [3, 4, 182, 0, 109, 154, 0, 25, 42, 42, 180, 0, 141, 16, 6, 160, 0, 7, 4, 167, 0, 4, 3, 5]
abbrev dktX3_addWindow_2 : List UInt8 := dkwX3_addWindow_2 ++ dktX3_addWindow_3
def dkwX3_addWindow_1 : List UInt8 := [16, 24, 184, 0, 85, 153, 0, 15, 43, 182, 0, 139, 3, 6, 184, 0, 85, 154, 0, 7, 4, 167, 0, 4]
abbrev dktX3_addWindow_1 : List UInt8 := dkwX3_addWindow_1 ++ dktX3_addWindow_2
def dkwX3_addWindow_0 : List UInt8 := [42, 3, 181, 0, 79, 42, 43, 182, 0, 133, 3, 16, 23, 184, 0, 85, 153, 0, 28, 43, 182, 0, 137, 4]
abbrev dktX3_addWindow_0 : List UInt8 := dkwX3_addWindow_0 ++ dktX3_addWindow_1
theorem dksX3_addWindow_0 : cX3_addWindow.data.toList.drop 0 = dktX3_addWindow_0 := by decide +kernel
theorem dksX3_addWindow_1 : cX3_addWindow.data.toList.drop 24 = dktX3_addWindow_1 := dk_seg dksX3_addWindow_0 24 rfl rfl
theorem dksX3_addWindow_2 : cX3_addWindow.data.toList.drop 48 = dktX3_addWindow_2 := dk_seg dksX3_addWindow_1 24 rfl rfl
theorem dksX3_addWindow_3 : cX3_addWindow.data.toList.drop 72 = dktX3_addWindow_3 := dk_seg dksX3_addWindow_2 24 rfl rfl
theorem dksX3_addWindow_4 : cX3_addWindow.data.toList.drop 94 = dktX3_addWindow_4 := dk_seg dksX3_addWindow_3 22 rfl rfl
theorem dksX3_addWindow_5 : cX3_addWindow.data.toList.drop 118 = dktX3_addWindow_5 := dk_seg dksX3_addWindow_4 24 rfl rfl
theorem dX3_addWindow_0 : decode cX3_addWindow 0 = .ok (.aload_n 0, 1) := dk_42 (dk_at dksX3_addWindow_0 0 rfl rfl)
theorem dX3_addWindow_1 : decode cX3_addWindow 1 = .ok (.iconst 0, 1) := dk_3 (dk_at dksX3_addWindow_0 1 rfl rfl)
theorem dX3_addWindow_2 : decode cX3_addWindow 2 = .ok (.putfield 79, 3) := dk_181 0 79 (dk_at dksX3_addWindow_0 2 rfl rfl)
theorem dX3_addWindow_5 : decode cX3_addWindow 5 = .ok (.aload_n 0, 1) := dk_42 (dk_at dksX3_addWindow_0 5 rfl rfl)
theorem dX3_addWindow_6 : decode cX3_addWindow 6 = .ok (.aload_n 1, 1) := dk_43 (dk_at dksX3_addWindow_0 6 rfl rfl)
theorem dX3_addWindow_7 : decode cX3_addWindow 7 = .ok (.invokevirtual 133, 3) := dk_182 0 133 (dk_at dksX3_addWindow_0 7 rfl rfl)
theorem dX3_addWindow_10 : decode cX3_addWindow 10 = .ok (.iconst 0, 1) := dk_3 (dk_at dksX3_addWindow_0 10 rfl rfl)
theorem dX3_addWindow_11 : decode cX3_addWindow 11 = .ok (.bipush 23, 2) := dk_16 23 (dk_at dksX3_addWindow_0 11 rfl rfl)
theorem dX3_addWindow_13 : decode cX3_addWindow 13 = .ok (.invokestatic 85, 3) := dk_184 0 85 (dk_at dksX3_addWindow_0 13 rfl rfl)
theorem dX3_addWindow_16 : decode cX3_addWindow 16 = .ok (.ifCond .eq 28, 3) := dk_153 0 28 (dk_at dksX3_addWindow_0 16 rfl rfl)
theorem dX3_addWindow_19 : decode cX3_addWindow 19 = .ok (.aload_n 1, 1) := dk_43 (dk_at dksX3_addWindow_0 19 rfl rfl)
theorem dX3_addWindow_20 : decode cX3_addWindow 20 = .ok (.invokevirtual 137, 3) := dk_182 0 137 (dk_at dksX3_addWindow_0 20 rfl rfl)
theorem dX3_addWindow_23 : decode cX3_addWindow 23 = .ok (.iconst 1, 1) := dk_4 (dk_at dksX3_addWindow_0 23 rfl rfl)
theorem dX3_addWindow_24 : decode cX3_addWindow 24 = .ok (.bipush 24, 2) := dk_16 24 (dk_at dksX3_addWindow_1 0 rfl rfl)
theorem dX3_addWindow_26 : decode cX3_addWindow 26 = .ok (.invokestatic 85, 3) := dk_184 0 85 (dk_at dksX3_addWindow_1 2 rfl rfl)
theorem dX3_addWindow_29 : decode cX3_addWindow 29 = .ok (.ifCond .eq 15, 3) := dk_153 0 15 (dk_at dksX3_addWindow_1 5 rfl rfl)
theorem dX3_addWindow_32 : decode cX3_addWindow 32 = .ok (.aload_n 1, 1) := dk_43 (dk_at dksX3_addWindow_1 8 rfl rfl)
theorem dX3_addWindow_33 : decode cX3_addWindow 33 = .ok (.invokevirtual 139, 3) := dk_182 0 139 (dk_at dksX3_addWindow_1 9 rfl rfl)
theorem dX3_addWindow_36 : decode cX3_addWindow 36 = .ok (.iconst 0, 1) := dk_3 (dk_at dksX3_addWindow_1 12 rfl rfl)
theorem dX3_addWindow_37 : decode cX3_addWindow 37 = .ok (.iconst 3, 1) := dk_6 (dk_at dksX3_addWindow_1 13 rfl rfl)
theorem dX3_addWindow_38 : decode cX3_addWindow 38 = .ok (.invokestatic 85, 3) := dk_184 0 85 (dk_at dksX3_addWindow_1 14 rfl rfl)
theorem dX3_addWindow_41 : decode cX3_addWindow 41 = .ok (.ifCond .ne 7, 3) := dk_154 0 7 (dk_at dksX3_addWindow_1 17 rfl rfl)
theorem dX3_addWindow_44 : decode cX3_addWindow 44 = .ok (.iconst 1, 1) := dk_4 (dk_at dksX3_addWindow_1 20 rfl rfl)
theorem dX3_addWindow_45 : decode cX3_addWindow 45 = .ok (.goto 4, 3) := dk_167 0 4 (dk_at dksX3_addWindow_1 21 rfl rfl)
theorem dX3_addWindow_48 : decode cX3_addWindow 48 = .ok (.iconst 0, 1) := dk_3 (dk_at dksX3_addWindow_2 0 rfl rfl)
theorem dX3_addWindow_49 : decode cX3_addWindow 49 = .ok (.iconst 1, 1) := dk_4 (dk_at dksX3_addWindow_2 1 rfl rfl)
theorem dX3_addWindow_50 : decode cX3_addWindow 50 = .ok (.invokevirtual 109, 3) := dk_182 0 109 (dk_at dksX3_addWindow_2 2 rfl rfl)
theorem dX3_addWindow_53 : decode cX3_addWindow 53 = .ok (.ifCond .ne 25, 3) := dk_154 0 25 (dk_at dksX3_addWindow_2 5 rfl rfl)
theorem dX3_addWindow_56 : decode cX3_addWindow 56 = .ok (.aload_n 0, 1) := dk_42 (dk_at dksX3_addWindow_2 8 rfl rfl)
theorem dX3_addWindow_57 : decode cX3_addWindow 57 = .ok (.aload_n 0, 1) := dk_42 (dk_at dksX3_addWindow_2 9 rfl rfl)
theorem dX3_addWindow_58 : decode cX3_addWindow 58 = .ok (.getfield 141, 3) := dk_180 0 141 (dk_at dksX3_addWindow_2 10 rfl rfl)
theorem dX3_addWindow_61 : decode cX3_addWindow 61 = .ok (.bipush 6, 2) := dk_16 6 (dk_at dksX3_addWindow_2 13 rfl rfl)
theorem dX3_addWindow_63 : decode cX3_addWindow 63 = .ok (.if_icmp .ne 7, 3) := dk_160 0 7 (dk_at dksX3_addWindow_2 15 rfl rfl)
theorem dX3_addWindow_66 : decode cX3_addWindow 66 = .ok (.iconst 1, 1) := dk_4 (dk_at dksX3_addWindow_2 18 rfl rfl)
theorem dX3_addWindow_67 : decode cX3_addWindow 67 = .ok (.goto 4, 3) := dk_167 0 4 (dk_at dksX3_addWindow_2 19 rfl rfl)
theorem dX3_addWindow_70 : decode cX3_addWindow 70 = .ok (.iconst 0, 1) := dk_3 (dk_at dksX3_addWindow_2 22 rfl rfl)
theorem dX3_addWindow_71 : decode cX3_addWindow 71 = .ok (.iconst 2, 1) := dk_5 (dk_at dksX3_addWindow_2 23 rfl rfl)
theorem dX3_addWindow_72 : decode cX3_addWindow 72 = .ok (.invokevirtual 109, 3) := dk_182 0 109 (dk_at dksX3_addWindow_3 0 rfl rfl)
theorem dX3_addWindow_75 : decode cX3_addWindow 75 = .ok (.ifCond .eq 5, 3) := dk_153 0 5 (dk_at dksX3_addWindow_3 3 rfl rfl)
theorem dX3_addWindow_78 : decode cX3_addWindow 78 = .ok (.iconst 0, 1) := dk_3 (dk_at dksX3_addWindow_3 6 rfl rfl)
theorem dX3_addWindow_79 : decode cX3_addWindow 79 = .ok (.ireturn, 1) := dk_172 (dk_at dksX3_addWindow_3 7 rfl rfl)
theorem dX3_addWindow_80 : decode cX3_addWindow 80 = .ok (.aload_n 0, 1) := dk_42 (dk_at dksX3_addWindow_3 8 rfl rfl)
theorem dX3_addWindow_81 : decode cX3_addWindow 81 = .ok (.getfield 29, 3) := dk_180 0 29 (dk_at dksX3_addWindow_3 9 rfl rfl)
theorem dX3_addWindow_84 : decode cX3_addWindow 84 = .ok (.aload_n 0, 1) := dk_42 (dk_at dksX3_addWindow_3 12 rfl rfl)
theorem dX3_addWindow_85 : decode cX3_addWindow 85 = .ok (.getfield 141, 3) := dk_180 0 141 (dk_at dksX3_addWindow_3 13 rfl rfl)
theorem dX3_addWindow_88 : decode cX3_addWindow 88 = .ok (.aload_n 1, 1) := dk_43 (dk_at dksX3_addWindow_3 16 rfl rfl)
theorem dX3_addWindow_89 : decode cX3_addWindow 89 = .ok (.invokevirtual 133, 3) := dk_182 0 133 (dk_at dksX3_addWindow_3 17 rfl rfl)
theorem dX3_addWindow_92 : decode cX3_addWindow 92 = .ok (.iastore, 1) := dk_79 (dk_at dksX3_addWindow_3 20 rfl rfl)
theorem dX3_addWindow_93 : decode cX3_addWindow 93 = .ok (.aload_n 0, 1) := dk_42 (dk_at dksX3_addWindow_3 21 rfl rfl)
theorem dX3_addWindow_94 : decode cX3_addWindow 94 = .ok (.getfield 32, 3) := dk_180 0 32 (dk_at dksX3_addWindow_4 0 rfl rfl)
theorem dX3_addWindow_97 : decode cX3_addWindow 97 = .ok (.aload_n 0, 1) := dk_42 (dk_at dksX3_addWindow_4 3 rfl rfl)
theorem dX3_addWindow_98 : decode cX3_addWindow 98 = .ok (.getfield 141, 3) := dk_180 0 141 (dk_at dksX3_addWindow_4 4 rfl rfl)
theorem dX3_addWindow_101 : decode cX3_addWindow 101 = .ok (.aload_n 1, 1) := dk_43 (dk_at dksX3_addWindow_4 7 rfl rfl)
theorem dX3_addWindow_102 : decode cX3_addWindow 102 = .ok (.invokevirtual 137, 3) := dk_182 0 137 (dk_at dksX3_addWindow_4 8 rfl rfl)
theorem dX3_addWindow_105 : decode cX3_addWindow 105 = .ok (.iastore, 1) := dk_79 (dk_at dksX3_addWindow_4 11 rfl rfl)
theorem dX3_addWindow_106 : decode cX3_addWindow 106 = .ok (.aload_n 0, 1) := dk_42 (dk_at dksX3_addWindow_4 12 rfl rfl)
theorem dX3_addWindow_107 : decode cX3_addWindow 107 = .ok (.getfield 35, 3) := dk_180 0 35 (dk_at dksX3_addWindow_4 13 rfl rfl)
theorem dX3_addWindow_110 : decode cX3_addWindow 110 = .ok (.aload_n 0, 1) := dk_42 (dk_at dksX3_addWindow_4 16 rfl rfl)
theorem dX3_addWindow_111 : decode cX3_addWindow 111 = .ok (.getfield 141, 3) := dk_180 0 141 (dk_at dksX3_addWindow_4 17 rfl rfl)
theorem dX3_addWindow_114 : decode cX3_addWindow 114 = .ok (.aload_n 1, 1) := dk_43 (dk_at dksX3_addWindow_4 20 rfl rfl)
theorem dX3_addWindow_115 : decode cX3_addWindow 115 = .ok (.invokevirtual 139, 3) := dk_182 0 139 (dk_at dksX3_addWindow_4 21 rfl rfl)
theorem dX3_addWindow_118 : decode cX3_addWindow 118 = .ok (.iastore, 1) := dk_79 (dk_at dksX3_addWindow_5 0 rfl rfl)
theorem dX3_addWindow_119 : decode cX3_addWindow 119 = .ok (.aload_n 0, 1) := dk_42 (dk_at dksX3_addWindow_5 1 rfl rfl)
theorem dX3_addWindow_120 : decode cX3_addWindow 120 = .ok (.dup, 1) := dk_89 (dk_at dksX3_addWindow_5 2 rfl rfl)
theorem dX3_addWindow_121 : decode cX3_addWindow 121 = .ok (.getfield 141, 3) := dk_180 0 141 (dk_at dksX3_addWindow_5 3 rfl rfl)
theorem dX3_addWindow_124 : decode cX3_addWindow 124 = .ok (.iconst 1, 1) := dk_4 (dk_at dksX3_addWindow_5 6 rfl rfl)
theorem dX3_addWindow_125 : decode cX3_addWindow 125 = .ok (.iadd, 1) := dk_96 (dk_at dksX3_addWindow_5 7 rfl rfl)
theorem dX3_addWindow_126 : decode cX3_addWindow 126 = .ok (.putfield 141, 3) := dk_181 0 141 (dk_at dksX3_addWindow_5 8 rfl rfl)
theorem dX3_addWindow_129 : decode cX3_addWindow 129 = .ok (.aload_n 0, 1) := dk_42 (dk_at dksX3_addWindow_5 11 rfl rfl)
theorem dX3_addWindow_130 : decode cX3_addWindow 130 = .ok (.getfield 141, 3) := dk_180 0 141 (dk_at dksX3_addWindow_5 12 rfl rfl)
theorem dX3_addWindow_133 : decode cX3_addWindow 133 = .ok (.iconst 1, 1) := dk_4 (dk_at dksX3_addWindow_5 15 rfl rfl)
theorem dX3_addWindow_134 : decode cX3_addWindow 134 = .ok (.isub, 1) := dk_100 (dk_at dksX3_addWindow_5 16 rfl rfl)
theorem dX3_addWindow_135 : decode cX3_addWindow 135 = .ok (.ireturn, 1) := dk_172 (dk_at dksX3_addWindow_5 17 rfl rfl)
abbrev cX3_lend : ByteArray := prog_12_method_21_code
def yX3_lend : MethodName := ⟨RX3, "lend", "(II)I"⟩
def dkwX3_lend_2 : List UInt8 := [182, 0, 109, 153, 0, 5, 3, 172, 42, 180, 0, 35, 27, 46, 62, 42, 180, 0, 35, 27, 28, 79, 29, 172]
abbrev dktX3_lend_2 : List UInt8 := dkwX3_lend_2 ++ []
def dkwX3_lend_1 : List UInt8 := [3, 4, 182, 0, 109, 154, 0, 25, 42, 28, 3, 6, 184, 0, 85, 154, 0, 7, 4, 167, 0, 4, 3, 5]
abbrev dktX3_lend_1 : List UInt8 := dkwX3_lend_1 ++ dktX3_lend_2
def dkwX3_lend_0 : List UInt8 := [42, 3, 181, 0, 79, 42, 27, 3, 42, 180, 0, 141, 4, 100, 184, 0, 85, 154, 0, 7, 4, 167, 0, 4]
abbrev dktX3_lend_0 : List UInt8 := dkwX3_lend_0 ++ dktX3_lend_1
theorem dksX3_lend_0 : cX3_lend.data.toList.drop 0 = dktX3_lend_0 := by decide +kernel
theorem dksX3_lend_1 : cX3_lend.data.toList.drop 24 = dktX3_lend_1 := dk_seg dksX3_lend_0 24 rfl rfl
theorem dksX3_lend_2 : cX3_lend.data.toList.drop 48 = dktX3_lend_2 := dk_seg dksX3_lend_1 24 rfl rfl
theorem dX3_lend_0 : decode cX3_lend 0 = .ok (.aload_n 0, 1) := dk_42 (dk_at dksX3_lend_0 0 rfl rfl)
theorem dX3_lend_1 : decode cX3_lend 1 = .ok (.iconst 0, 1) := dk_3 (dk_at dksX3_lend_0 1 rfl rfl)
theorem dX3_lend_2 : decode cX3_lend 2 = .ok (.putfield 79, 3) := dk_181 0 79 (dk_at dksX3_lend_0 2 rfl rfl)
theorem dX3_lend_5 : decode cX3_lend 5 = .ok (.aload_n 0, 1) := dk_42 (dk_at dksX3_lend_0 5 rfl rfl)
theorem dX3_lend_6 : decode cX3_lend 6 = .ok (.iload_n 1, 1) := dk_27 (dk_at dksX3_lend_0 6 rfl rfl)
theorem dX3_lend_7 : decode cX3_lend 7 = .ok (.iconst 0, 1) := dk_3 (dk_at dksX3_lend_0 7 rfl rfl)
theorem dX3_lend_8 : decode cX3_lend 8 = .ok (.aload_n 0, 1) := dk_42 (dk_at dksX3_lend_0 8 rfl rfl)
theorem dX3_lend_9 : decode cX3_lend 9 = .ok (.getfield 141, 3) := dk_180 0 141 (dk_at dksX3_lend_0 9 rfl rfl)
theorem dX3_lend_12 : decode cX3_lend 12 = .ok (.iconst 1, 1) := dk_4 (dk_at dksX3_lend_0 12 rfl rfl)
theorem dX3_lend_13 : decode cX3_lend 13 = .ok (.isub, 1) := dk_100 (dk_at dksX3_lend_0 13 rfl rfl)
theorem dX3_lend_14 : decode cX3_lend 14 = .ok (.invokestatic 85, 3) := dk_184 0 85 (dk_at dksX3_lend_0 14 rfl rfl)
theorem dX3_lend_17 : decode cX3_lend 17 = .ok (.ifCond .ne 7, 3) := dk_154 0 7 (dk_at dksX3_lend_0 17 rfl rfl)
theorem dX3_lend_20 : decode cX3_lend 20 = .ok (.iconst 1, 1) := dk_4 (dk_at dksX3_lend_0 20 rfl rfl)
theorem dX3_lend_21 : decode cX3_lend 21 = .ok (.goto 4, 3) := dk_167 0 4 (dk_at dksX3_lend_0 21 rfl rfl)
theorem dX3_lend_24 : decode cX3_lend 24 = .ok (.iconst 0, 1) := dk_3 (dk_at dksX3_lend_1 0 rfl rfl)
theorem dX3_lend_25 : decode cX3_lend 25 = .ok (.iconst 1, 1) := dk_4 (dk_at dksX3_lend_1 1 rfl rfl)
theorem dX3_lend_26 : decode cX3_lend 26 = .ok (.invokevirtual 109, 3) := dk_182 0 109 (dk_at dksX3_lend_1 2 rfl rfl)
theorem dX3_lend_29 : decode cX3_lend 29 = .ok (.ifCond .ne 25, 3) := dk_154 0 25 (dk_at dksX3_lend_1 5 rfl rfl)
theorem dX3_lend_32 : decode cX3_lend 32 = .ok (.aload_n 0, 1) := dk_42 (dk_at dksX3_lend_1 8 rfl rfl)
theorem dX3_lend_33 : decode cX3_lend 33 = .ok (.iload_n 2, 1) := dk_28 (dk_at dksX3_lend_1 9 rfl rfl)
theorem dX3_lend_34 : decode cX3_lend 34 = .ok (.iconst 0, 1) := dk_3 (dk_at dksX3_lend_1 10 rfl rfl)
theorem dX3_lend_35 : decode cX3_lend 35 = .ok (.iconst 3, 1) := dk_6 (dk_at dksX3_lend_1 11 rfl rfl)
theorem dX3_lend_36 : decode cX3_lend 36 = .ok (.invokestatic 85, 3) := dk_184 0 85 (dk_at dksX3_lend_1 12 rfl rfl)
theorem dX3_lend_39 : decode cX3_lend 39 = .ok (.ifCond .ne 7, 3) := dk_154 0 7 (dk_at dksX3_lend_1 15 rfl rfl)
theorem dX3_lend_42 : decode cX3_lend 42 = .ok (.iconst 1, 1) := dk_4 (dk_at dksX3_lend_1 18 rfl rfl)
theorem dX3_lend_43 : decode cX3_lend 43 = .ok (.goto 4, 3) := dk_167 0 4 (dk_at dksX3_lend_1 19 rfl rfl)
theorem dX3_lend_46 : decode cX3_lend 46 = .ok (.iconst 0, 1) := dk_3 (dk_at dksX3_lend_1 22 rfl rfl)
theorem dX3_lend_47 : decode cX3_lend 47 = .ok (.iconst 2, 1) := dk_5 (dk_at dksX3_lend_1 23 rfl rfl)
theorem dX3_lend_48 : decode cX3_lend 48 = .ok (.invokevirtual 109, 3) := dk_182 0 109 (dk_at dksX3_lend_2 0 rfl rfl)
theorem dX3_lend_51 : decode cX3_lend 51 = .ok (.ifCond .eq 5, 3) := dk_153 0 5 (dk_at dksX3_lend_2 3 rfl rfl)
theorem dX3_lend_54 : decode cX3_lend 54 = .ok (.iconst 0, 1) := dk_3 (dk_at dksX3_lend_2 6 rfl rfl)
theorem dX3_lend_55 : decode cX3_lend 55 = .ok (.ireturn, 1) := dk_172 (dk_at dksX3_lend_2 7 rfl rfl)
theorem dX3_lend_56 : decode cX3_lend 56 = .ok (.aload_n 0, 1) := dk_42 (dk_at dksX3_lend_2 8 rfl rfl)
theorem dX3_lend_57 : decode cX3_lend 57 = .ok (.getfield 35, 3) := dk_180 0 35 (dk_at dksX3_lend_2 9 rfl rfl)
theorem dX3_lend_60 : decode cX3_lend 60 = .ok (.iload_n 1, 1) := dk_27 (dk_at dksX3_lend_2 12 rfl rfl)
theorem dX3_lend_61 : decode cX3_lend 61 = .ok (.iaload, 1) := dk_46 (dk_at dksX3_lend_2 13 rfl rfl)
theorem dX3_lend_62 : decode cX3_lend 62 = .ok (.istore_n 3, 1) := dk_62 (dk_at dksX3_lend_2 14 rfl rfl)
theorem dX3_lend_63 : decode cX3_lend 63 = .ok (.aload_n 0, 1) := dk_42 (dk_at dksX3_lend_2 15 rfl rfl)
theorem dX3_lend_64 : decode cX3_lend 64 = .ok (.getfield 35, 3) := dk_180 0 35 (dk_at dksX3_lend_2 16 rfl rfl)
theorem dX3_lend_67 : decode cX3_lend 67 = .ok (.iload_n 1, 1) := dk_27 (dk_at dksX3_lend_2 19 rfl rfl)
theorem dX3_lend_68 : decode cX3_lend 68 = .ok (.iload_n 2, 1) := dk_28 (dk_at dksX3_lend_2 20 rfl rfl)
theorem dX3_lend_69 : decode cX3_lend 69 = .ok (.iastore, 1) := dk_79 (dk_at dksX3_lend_2 21 rfl rfl)
theorem dX3_lend_70 : decode cX3_lend 70 = .ok (.iload_n 3, 1) := dk_29 (dk_at dksX3_lend_2 22 rfl rfl)
theorem dX3_lend_71 : decode cX3_lend 71 = .ok (.ireturn, 1) := dk_172 (dk_at dksX3_lend_2 23 rfl rfl)
abbrev cX3_setLicence : ByteArray := prog_12_method_25_code
def yX3_setLicence : MethodName := ⟨RX3, "setLicence", "(I)I"⟩
def dkwX3_setLicence_3 : List UInt8 := [160, 0, 14, 42, 180, 0, 54, 29, 16, 119, 85, 132, 2, 1, 132, 3, 255, 167, 255, 215, 28, 172]
abbrev dktX3_setLicence_3 : List UInt8 := dkwX3_setLicence_3 ++ []
def dkwX3_setLicence_2 : List UInt8 := [155, 0, 43, 42, 2, 182, 0, 144, 42, 180, 0, 38, 164, 0, 31, 42, 180, 0, 54, 29, 52, 16, 114]
abbrev dktX3_setLicence_2 : List UInt8 := dkwX3_setLicence_2 ++ dktX3_setLicence_3
def dkwX3_setLicence_1 : List UInt8 := [182, 0, 109, 153, 0, 5, 3, 172, 42, 27, 181, 0, 38, 3, 61, 42, 180, 0, 95, 4, 100, 62, 29]
abbrev dktX3_setLicence_1 : List UInt8 := dkwX3_setLicence_1 ++ dktX3_setLicence_2
def dkwX3_setLicence_0 : List UInt8 := [42, 3, 181, 0, 79, 42, 27, 3, 16, 99, 184, 0, 85, 154, 0, 7, 4, 167, 0, 4, 3, 4]
abbrev dktX3_setLicence_0 : List UInt8 := dkwX3_setLicence_0 ++ dktX3_setLicence_1
theorem dksX3_setLicence_0 : cX3_setLicence.data.toList.drop 0 = dktX3_setLicence_0 := by decide +kernel
theorem dksX3_setLicence_1 : cX3_setLicence.data.toList.drop 22 = dktX3_setLicence_1 := dk_seg dksX3_setLicence_0 22 rfl rfl
theorem dksX3_setLicence_2 : cX3_setLicence.data.toList.drop 45 = dktX3_setLicence_2 := dk_seg dksX3_setLicence_1 23 rfl rfl
theorem dksX3_setLicence_3 : cX3_setLicence.data.toList.drop 68 = dktX3_setLicence_3 := dk_seg dksX3_setLicence_2 23 rfl rfl
theorem dX3_setLicence_0 : decode cX3_setLicence 0 = .ok (.aload_n 0, 1) := dk_42 (dk_at dksX3_setLicence_0 0 rfl rfl)
theorem dX3_setLicence_1 : decode cX3_setLicence 1 = .ok (.iconst 0, 1) := dk_3 (dk_at dksX3_setLicence_0 1 rfl rfl)
theorem dX3_setLicence_2 : decode cX3_setLicence 2 = .ok (.putfield 79, 3) := dk_181 0 79 (dk_at dksX3_setLicence_0 2 rfl rfl)
theorem dX3_setLicence_5 : decode cX3_setLicence 5 = .ok (.aload_n 0, 1) := dk_42 (dk_at dksX3_setLicence_0 5 rfl rfl)
theorem dX3_setLicence_6 : decode cX3_setLicence 6 = .ok (.iload_n 1, 1) := dk_27 (dk_at dksX3_setLicence_0 6 rfl rfl)
theorem dX3_setLicence_7 : decode cX3_setLicence 7 = .ok (.iconst 0, 1) := dk_3 (dk_at dksX3_setLicence_0 7 rfl rfl)
theorem dX3_setLicence_8 : decode cX3_setLicence 8 = .ok (.bipush 99, 2) := dk_16 99 (dk_at dksX3_setLicence_0 8 rfl rfl)
theorem dX3_setLicence_10 : decode cX3_setLicence 10 = .ok (.invokestatic 85, 3) := dk_184 0 85 (dk_at dksX3_setLicence_0 10 rfl rfl)
theorem dX3_setLicence_13 : decode cX3_setLicence 13 = .ok (.ifCond .ne 7, 3) := dk_154 0 7 (dk_at dksX3_setLicence_0 13 rfl rfl)
theorem dX3_setLicence_16 : decode cX3_setLicence 16 = .ok (.iconst 1, 1) := dk_4 (dk_at dksX3_setLicence_0 16 rfl rfl)
theorem dX3_setLicence_17 : decode cX3_setLicence 17 = .ok (.goto 4, 3) := dk_167 0 4 (dk_at dksX3_setLicence_0 17 rfl rfl)
theorem dX3_setLicence_20 : decode cX3_setLicence 20 = .ok (.iconst 0, 1) := dk_3 (dk_at dksX3_setLicence_0 20 rfl rfl)
theorem dX3_setLicence_21 : decode cX3_setLicence 21 = .ok (.iconst 1, 1) := dk_4 (dk_at dksX3_setLicence_0 21 rfl rfl)
theorem dX3_setLicence_22 : decode cX3_setLicence 22 = .ok (.invokevirtual 109, 3) := dk_182 0 109 (dk_at dksX3_setLicence_1 0 rfl rfl)
theorem dX3_setLicence_25 : decode cX3_setLicence 25 = .ok (.ifCond .eq 5, 3) := dk_153 0 5 (dk_at dksX3_setLicence_1 3 rfl rfl)
theorem dX3_setLicence_28 : decode cX3_setLicence 28 = .ok (.iconst 0, 1) := dk_3 (dk_at dksX3_setLicence_1 6 rfl rfl)
theorem dX3_setLicence_29 : decode cX3_setLicence 29 = .ok (.ireturn, 1) := dk_172 (dk_at dksX3_setLicence_1 7 rfl rfl)
theorem dX3_setLicence_30 : decode cX3_setLicence 30 = .ok (.aload_n 0, 1) := dk_42 (dk_at dksX3_setLicence_1 8 rfl rfl)
theorem dX3_setLicence_31 : decode cX3_setLicence 31 = .ok (.iload_n 1, 1) := dk_27 (dk_at dksX3_setLicence_1 9 rfl rfl)
theorem dX3_setLicence_32 : decode cX3_setLicence 32 = .ok (.putfield 38, 3) := dk_181 0 38 (dk_at dksX3_setLicence_1 10 rfl rfl)
theorem dX3_setLicence_35 : decode cX3_setLicence 35 = .ok (.iconst 0, 1) := dk_3 (dk_at dksX3_setLicence_1 13 rfl rfl)
theorem dX3_setLicence_36 : decode cX3_setLicence 36 = .ok (.istore_n 2, 1) := dk_61 (dk_at dksX3_setLicence_1 14 rfl rfl)
theorem dX3_setLicence_37 : decode cX3_setLicence 37 = .ok (.aload_n 0, 1) := dk_42 (dk_at dksX3_setLicence_1 15 rfl rfl)
theorem dX3_setLicence_38 : decode cX3_setLicence 38 = .ok (.getfield 95, 3) := dk_180 0 95 (dk_at dksX3_setLicence_1 16 rfl rfl)
theorem dX3_setLicence_41 : decode cX3_setLicence 41 = .ok (.iconst 1, 1) := dk_4 (dk_at dksX3_setLicence_1 19 rfl rfl)
theorem dX3_setLicence_42 : decode cX3_setLicence 42 = .ok (.isub, 1) := dk_100 (dk_at dksX3_setLicence_1 20 rfl rfl)
theorem dX3_setLicence_43 : decode cX3_setLicence 43 = .ok (.istore_n 3, 1) := dk_62 (dk_at dksX3_setLicence_1 21 rfl rfl)
theorem dX3_setLicence_44 : decode cX3_setLicence 44 = .ok (.iload_n 3, 1) := dk_29 (dk_at dksX3_setLicence_1 22 rfl rfl)
theorem dX3_setLicence_45 : decode cX3_setLicence 45 = .ok (.ifCond .lt 43, 3) := dk_155 0 43 (dk_at dksX3_setLicence_2 0 rfl rfl)
theorem dX3_setLicence_48 : decode cX3_setLicence 48 = .ok (.aload_n 0, 1) := dk_42 (dk_at dksX3_setLicence_2 3 rfl rfl)
theorem dX3_setLicence_49 : decode cX3_setLicence 49 = .ok (.iconst (-1), 1) := dk_2 (dk_at dksX3_setLicence_2 4 rfl rfl)
theorem dX3_setLicence_50 : decode cX3_setLicence 50 = .ok (.invokevirtual 144, 3) := dk_182 0 144 (dk_at dksX3_setLicence_2 5 rfl rfl)
theorem dX3_setLicence_53 : decode cX3_setLicence 53 = .ok (.aload_n 0, 1) := dk_42 (dk_at dksX3_setLicence_2 8 rfl rfl)
theorem dX3_setLicence_54 : decode cX3_setLicence 54 = .ok (.getfield 38, 3) := dk_180 0 38 (dk_at dksX3_setLicence_2 9 rfl rfl)
theorem dX3_setLicence_57 : decode cX3_setLicence 57 = .ok (.if_icmp .le 31, 3) := dk_164 0 31 (dk_at dksX3_setLicence_2 12 rfl rfl)
theorem dX3_setLicence_60 : decode cX3_setLicence 60 = .ok (.aload_n 0, 1) := dk_42 (dk_at dksX3_setLicence_2 15 rfl rfl)
theorem dX3_setLicence_61 : decode cX3_setLicence 61 = .ok (.getfield 54, 3) := dk_180 0 54 (dk_at dksX3_setLicence_2 16 rfl rfl)
theorem dX3_setLicence_64 : decode cX3_setLicence 64 = .ok (.iload_n 3, 1) := dk_29 (dk_at dksX3_setLicence_2 19 rfl rfl)
theorem dX3_setLicence_65 : decode cX3_setLicence 65 = .ok (.caload, 1) := dk_52 (dk_at dksX3_setLicence_2 20 rfl rfl)
theorem dX3_setLicence_66 : decode cX3_setLicence 66 = .ok (.bipush 114, 2) := dk_16 114 (dk_at dksX3_setLicence_2 21 rfl rfl)
theorem dX3_setLicence_68 : decode cX3_setLicence 68 = .ok (.if_icmp .ne 14, 3) := dk_160 0 14 (dk_at dksX3_setLicence_3 0 rfl rfl)
theorem dX3_setLicence_71 : decode cX3_setLicence 71 = .ok (.aload_n 0, 1) := dk_42 (dk_at dksX3_setLicence_3 3 rfl rfl)
theorem dX3_setLicence_72 : decode cX3_setLicence 72 = .ok (.getfield 54, 3) := dk_180 0 54 (dk_at dksX3_setLicence_3 4 rfl rfl)
theorem dX3_setLicence_75 : decode cX3_setLicence 75 = .ok (.iload_n 3, 1) := dk_29 (dk_at dksX3_setLicence_3 7 rfl rfl)
theorem dX3_setLicence_76 : decode cX3_setLicence 76 = .ok (.bipush 119, 2) := dk_16 119 (dk_at dksX3_setLicence_3 8 rfl rfl)
theorem dX3_setLicence_78 : decode cX3_setLicence 78 = .ok (.castore, 1) := dk_85 (dk_at dksX3_setLicence_3 10 rfl rfl)
theorem dX3_setLicence_79 : decode cX3_setLicence 79 = .ok (.iinc 2 1, 3) := dk_132 2 1 (dk_at dksX3_setLicence_3 11 rfl rfl)
theorem dX3_setLicence_82 : decode cX3_setLicence 82 = .ok (.iinc 3 (-1), 3) := dk_132 3 255 (dk_at dksX3_setLicence_3 14 rfl rfl)
theorem dX3_setLicence_85 : decode cX3_setLicence 85 = .ok (.goto (-41), 3) := dk_167 255 215 (dk_at dksX3_setLicence_3 17 rfl rfl)
theorem dX3_setLicence_88 : decode cX3_setLicence 88 = .ok (.iload_n 2, 1) := dk_28 (dk_at dksX3_setLicence_3 20 rfl rfl)
theorem dX3_setLicence_89 : decode cX3_setLicence 89 = .ok (.ireturn, 1) := dk_172 (dk_at dksX3_setLicence_3 21 rfl rfl)
abbrev cX3_coresIn : ByteArray := prog_12_method_23_code
def yX3_coresIn : MethodName := ⟨RX3, "coresIn", "(I)I"⟩
def dkwX3_coresIn_2 : List UInt8 := [3, 96, 61, 132, 3, 1, 167, 255, 206, 28, 172]
abbrev dktX3_coresIn_2 : List UInt8 := dkwX3_coresIn_2 ++ []
def dkwX3_coresIn_1 : List UInt8 := [27, 2, 159, 0, 13, 42, 180, 0, 58, 29, 46, 27, 160, 0, 12, 42, 180, 0, 48, 29, 46, 167, 0, 4]
abbrev dktX3_coresIn_1 : List UInt8 := dkwX3_coresIn_1 ++ dktX3_coresIn_2
def dkwX3_coresIn_0 : List UInt8 := [3, 61, 3, 62, 29, 42, 180, 0, 95, 162, 0, 48, 28, 42, 180, 0, 54, 29, 52, 16, 114, 160, 0, 27]
abbrev dktX3_coresIn_0 : List UInt8 := dkwX3_coresIn_0 ++ dktX3_coresIn_1
theorem dksX3_coresIn_0 : cX3_coresIn.data.toList.drop 0 = dktX3_coresIn_0 := by decide +kernel
theorem dksX3_coresIn_1 : cX3_coresIn.data.toList.drop 24 = dktX3_coresIn_1 := dk_seg dksX3_coresIn_0 24 rfl rfl
theorem dksX3_coresIn_2 : cX3_coresIn.data.toList.drop 48 = dktX3_coresIn_2 := dk_seg dksX3_coresIn_1 24 rfl rfl
theorem dX3_coresIn_0 : decode cX3_coresIn 0 = .ok (.iconst 0, 1) := dk_3 (dk_at dksX3_coresIn_0 0 rfl rfl)
theorem dX3_coresIn_1 : decode cX3_coresIn 1 = .ok (.istore_n 2, 1) := dk_61 (dk_at dksX3_coresIn_0 1 rfl rfl)
theorem dX3_coresIn_2 : decode cX3_coresIn 2 = .ok (.iconst 0, 1) := dk_3 (dk_at dksX3_coresIn_0 2 rfl rfl)
theorem dX3_coresIn_3 : decode cX3_coresIn 3 = .ok (.istore_n 3, 1) := dk_62 (dk_at dksX3_coresIn_0 3 rfl rfl)
theorem dX3_coresIn_4 : decode cX3_coresIn 4 = .ok (.iload_n 3, 1) := dk_29 (dk_at dksX3_coresIn_0 4 rfl rfl)
theorem dX3_coresIn_5 : decode cX3_coresIn 5 = .ok (.aload_n 0, 1) := dk_42 (dk_at dksX3_coresIn_0 5 rfl rfl)
theorem dX3_coresIn_6 : decode cX3_coresIn 6 = .ok (.getfield 95, 3) := dk_180 0 95 (dk_at dksX3_coresIn_0 6 rfl rfl)
theorem dX3_coresIn_9 : decode cX3_coresIn 9 = .ok (.if_icmp .ge 48, 3) := dk_162 0 48 (dk_at dksX3_coresIn_0 9 rfl rfl)
theorem dX3_coresIn_12 : decode cX3_coresIn 12 = .ok (.iload_n 2, 1) := dk_28 (dk_at dksX3_coresIn_0 12 rfl rfl)
theorem dX3_coresIn_13 : decode cX3_coresIn 13 = .ok (.aload_n 0, 1) := dk_42 (dk_at dksX3_coresIn_0 13 rfl rfl)
theorem dX3_coresIn_14 : decode cX3_coresIn 14 = .ok (.getfield 54, 3) := dk_180 0 54 (dk_at dksX3_coresIn_0 14 rfl rfl)
theorem dX3_coresIn_17 : decode cX3_coresIn 17 = .ok (.iload_n 3, 1) := dk_29 (dk_at dksX3_coresIn_0 17 rfl rfl)
theorem dX3_coresIn_18 : decode cX3_coresIn 18 = .ok (.caload, 1) := dk_52 (dk_at dksX3_coresIn_0 18 rfl rfl)
theorem dX3_coresIn_19 : decode cX3_coresIn 19 = .ok (.bipush 114, 2) := dk_16 114 (dk_at dksX3_coresIn_0 19 rfl rfl)
theorem dX3_coresIn_21 : decode cX3_coresIn 21 = .ok (.if_icmp .ne 27, 3) := dk_160 0 27 (dk_at dksX3_coresIn_0 21 rfl rfl)
theorem dX3_coresIn_24 : decode cX3_coresIn 24 = .ok (.iload_n 1, 1) := dk_27 (dk_at dksX3_coresIn_1 0 rfl rfl)
theorem dX3_coresIn_25 : decode cX3_coresIn 25 = .ok (.iconst (-1), 1) := dk_2 (dk_at dksX3_coresIn_1 1 rfl rfl)
theorem dX3_coresIn_26 : decode cX3_coresIn 26 = .ok (.if_icmp .eq 13, 3) := dk_159 0 13 (dk_at dksX3_coresIn_1 2 rfl rfl)
theorem dX3_coresIn_29 : decode cX3_coresIn 29 = .ok (.aload_n 0, 1) := dk_42 (dk_at dksX3_coresIn_1 5 rfl rfl)
theorem dX3_coresIn_30 : decode cX3_coresIn 30 = .ok (.getfield 58, 3) := dk_180 0 58 (dk_at dksX3_coresIn_1 6 rfl rfl)
theorem dX3_coresIn_33 : decode cX3_coresIn 33 = .ok (.iload_n 3, 1) := dk_29 (dk_at dksX3_coresIn_1 9 rfl rfl)
theorem dX3_coresIn_34 : decode cX3_coresIn 34 = .ok (.iaload, 1) := dk_46 (dk_at dksX3_coresIn_1 10 rfl rfl)
theorem dX3_coresIn_35 : decode cX3_coresIn 35 = .ok (.iload_n 1, 1) := dk_27 (dk_at dksX3_coresIn_1 11 rfl rfl)
theorem dX3_coresIn_36 : decode cX3_coresIn 36 = .ok (.if_icmp .ne 12, 3) := dk_160 0 12 (dk_at dksX3_coresIn_1 12 rfl rfl)
theorem dX3_coresIn_39 : decode cX3_coresIn 39 = .ok (.aload_n 0, 1) := dk_42 (dk_at dksX3_coresIn_1 15 rfl rfl)
theorem dX3_coresIn_40 : decode cX3_coresIn 40 = .ok (.getfield 48, 3) := dk_180 0 48 (dk_at dksX3_coresIn_1 16 rfl rfl)
theorem dX3_coresIn_43 : decode cX3_coresIn 43 = .ok (.iload_n 3, 1) := dk_29 (dk_at dksX3_coresIn_1 19 rfl rfl)
theorem dX3_coresIn_44 : decode cX3_coresIn 44 = .ok (.iaload, 1) := dk_46 (dk_at dksX3_coresIn_1 20 rfl rfl)
theorem dX3_coresIn_45 : decode cX3_coresIn 45 = .ok (.goto 4, 3) := dk_167 0 4 (dk_at dksX3_coresIn_1 21 rfl rfl)
theorem dX3_coresIn_48 : decode cX3_coresIn 48 = .ok (.iconst 0, 1) := dk_3 (dk_at dksX3_coresIn_2 0 rfl rfl)
theorem dX3_coresIn_49 : decode cX3_coresIn 49 = .ok (.iadd, 1) := dk_96 (dk_at dksX3_coresIn_2 1 rfl rfl)
theorem dX3_coresIn_50 : decode cX3_coresIn 50 = .ok (.istore_n 2, 1) := dk_61 (dk_at dksX3_coresIn_2 2 rfl rfl)
theorem dX3_coresIn_51 : decode cX3_coresIn 51 = .ok (.iinc 3 1, 3) := dk_132 3 1 (dk_at dksX3_coresIn_2 3 rfl rfl)
theorem dX3_coresIn_54 : decode cX3_coresIn 54 = .ok (.goto (-50), 3) := dk_167 255 206 (dk_at dksX3_coresIn_2 6 rfl rfl)
theorem dX3_coresIn_57 : decode cX3_coresIn 57 = .ok (.iload_n 2, 1) := dk_28 (dk_at dksX3_coresIn_2 9 rfl rfl)
theorem dX3_coresIn_58 : decode cX3_coresIn 58 = .ok (.ireturn, 1) := dk_172 (dk_at dksX3_coresIn_2 10 rfl rfl)
abbrev cX3_addContainer : ByteArray := prog_12_method_26_code
def yX3_addContainer : MethodName := ⟨RX3, "addContainer", "(IILNeed;)I"⟩
def dkwX3_addContainer_7 : List UInt8 := [4, 100, 172]
abbrev dktX3_addContainer_7 : List UInt8 := dkwX3_addContainer_7 ++ []
def dkwX3_addContainer_6 : List UInt8 := [180, 0, 54, 42, 180, 0, 95, 16, 119, 85, 42, 89, 180, 0, 95, 4, 96, 181, 0, 95, 42, 180, 0, 95]
abbrev dktX3_addContainer_6 : List UInt8 := dkwX3_addContainer_6 ++ dktX3_addContainer_7
def dkwX3_addContainer_5 : List UInt8 := [180, 0, 95, 45, 182, 0, 126, 79, 42, 180, 0, 51, 42, 180, 0, 95, 45, 182, 0, 131, 79, 42]
abbrev dktX3_addContainer_5 : List UInt8 := dkwX3_addContainer_5 ++ dktX3_addContainer_6
def dkwX3_addContainer_4 : List UInt8 := [180, 0, 42, 42, 180, 0, 95, 27, 79, 42, 180, 0, 45, 42, 180, 0, 95, 28, 79, 42, 180, 0, 48, 42]
abbrev dktX3_addContainer_4 : List UInt8 := dkwX3_addContainer_4 ++ dktX3_addContainer_5
def dkwX3_addContainer_3 : List UInt8 := [180, 0, 95, 16, 12, 160, 0, 7, 4, 167, 0, 4, 3, 6, 182, 0, 109, 153, 0, 5, 3, 172, 42]
abbrev dktX3_addContainer_3 : List UInt8 := dkwX3_addContainer_3 ++ dktX3_addContainer_4
def dkwX3_addContainer_2 : List UInt8 := [3, 4, 182, 0, 109, 154, 0, 38, 42, 42, 28, 182, 0, 113, 5, 182, 0, 109, 154, 0, 25, 42, 42]
abbrev dktX3_addContainer_2 : List UInt8 := dkwX3_addContainer_2 ++ dktX3_addContainer_3
def dkwX3_addContainer_1 : List UInt8 := [184, 0, 85, 153, 0, 17, 45, 182, 0, 131, 4, 17, 0, 128, 184, 0, 85, 154, 0, 7, 4, 167, 0, 4]
abbrev dktX3_addContainer_1 : List UInt8 := dkwX3_addContainer_1 ++ dktX3_addContainer_2
def dkwX3_addContainer_0 : List UInt8 := [42, 3, 181, 0, 79, 42, 27, 3, 6, 184, 0, 85, 153, 0, 30, 45, 182, 0, 126, 4, 16, 16]
abbrev dktX3_addContainer_0 : List UInt8 := dkwX3_addContainer_0 ++ dktX3_addContainer_1
theorem dksX3_addContainer_0 : cX3_addContainer.data.toList.drop 0 = dktX3_addContainer_0 := by decide +kernel
theorem dksX3_addContainer_1 : cX3_addContainer.data.toList.drop 22 = dktX3_addContainer_1 := dk_seg dksX3_addContainer_0 22 rfl rfl
theorem dksX3_addContainer_2 : cX3_addContainer.data.toList.drop 46 = dktX3_addContainer_2 := dk_seg dksX3_addContainer_1 24 rfl rfl
theorem dksX3_addContainer_3 : cX3_addContainer.data.toList.drop 69 = dktX3_addContainer_3 := dk_seg dksX3_addContainer_2 23 rfl rfl
theorem dksX3_addContainer_4 : cX3_addContainer.data.toList.drop 92 = dktX3_addContainer_4 := dk_seg dksX3_addContainer_3 23 rfl rfl
theorem dksX3_addContainer_5 : cX3_addContainer.data.toList.drop 116 = dktX3_addContainer_5 := dk_seg dksX3_addContainer_4 24 rfl rfl
theorem dksX3_addContainer_6 : cX3_addContainer.data.toList.drop 138 = dktX3_addContainer_6 := dk_seg dksX3_addContainer_5 22 rfl rfl
theorem dksX3_addContainer_7 : cX3_addContainer.data.toList.drop 162 = dktX3_addContainer_7 := dk_seg dksX3_addContainer_6 24 rfl rfl
theorem dX3_addContainer_0 : decode cX3_addContainer 0 = .ok (.aload_n 0, 1) := dk_42 (dk_at dksX3_addContainer_0 0 rfl rfl)
theorem dX3_addContainer_1 : decode cX3_addContainer 1 = .ok (.iconst 0, 1) := dk_3 (dk_at dksX3_addContainer_0 1 rfl rfl)
theorem dX3_addContainer_2 : decode cX3_addContainer 2 = .ok (.putfield 79, 3) := dk_181 0 79 (dk_at dksX3_addContainer_0 2 rfl rfl)
theorem dX3_addContainer_5 : decode cX3_addContainer 5 = .ok (.aload_n 0, 1) := dk_42 (dk_at dksX3_addContainer_0 5 rfl rfl)
theorem dX3_addContainer_6 : decode cX3_addContainer 6 = .ok (.iload_n 1, 1) := dk_27 (dk_at dksX3_addContainer_0 6 rfl rfl)
theorem dX3_addContainer_7 : decode cX3_addContainer 7 = .ok (.iconst 0, 1) := dk_3 (dk_at dksX3_addContainer_0 7 rfl rfl)
theorem dX3_addContainer_8 : decode cX3_addContainer 8 = .ok (.iconst 3, 1) := dk_6 (dk_at dksX3_addContainer_0 8 rfl rfl)
theorem dX3_addContainer_9 : decode cX3_addContainer 9 = .ok (.invokestatic 85, 3) := dk_184 0 85 (dk_at dksX3_addContainer_0 9 rfl rfl)
theorem dX3_addContainer_12 : decode cX3_addContainer 12 = .ok (.ifCond .eq 30, 3) := dk_153 0 30 (dk_at dksX3_addContainer_0 12 rfl rfl)
theorem dX3_addContainer_15 : decode cX3_addContainer 15 = .ok (.aload_n 3, 1) := dk_45 (dk_at dksX3_addContainer_0 15 rfl rfl)
theorem dX3_addContainer_16 : decode cX3_addContainer 16 = .ok (.invokevirtual 126, 3) := dk_182 0 126 (dk_at dksX3_addContainer_0 16 rfl rfl)
theorem dX3_addContainer_19 : decode cX3_addContainer 19 = .ok (.iconst 1, 1) := dk_4 (dk_at dksX3_addContainer_0 19 rfl rfl)
theorem dX3_addContainer_20 : decode cX3_addContainer 20 = .ok (.bipush 16, 2) := dk_16 16 (dk_at dksX3_addContainer_0 20 rfl rfl)
theorem dX3_addContainer_22 : decode cX3_addContainer 22 = .ok (.invokestatic 85, 3) := dk_184 0 85 (dk_at dksX3_addContainer_1 0 rfl rfl)
theorem dX3_addContainer_25 : decode cX3_addContainer 25 = .ok (.ifCond .eq 17, 3) := dk_153 0 17 (dk_at dksX3_addContainer_1 3 rfl rfl)
theorem dX3_addContainer_28 : decode cX3_addContainer 28 = .ok (.aload_n 3, 1) := dk_45 (dk_at dksX3_addContainer_1 6 rfl rfl)
theorem dX3_addContainer_29 : decode cX3_addContainer 29 = .ok (.invokevirtual 131, 3) := dk_182 0 131 (dk_at dksX3_addContainer_1 7 rfl rfl)
theorem dX3_addContainer_32 : decode cX3_addContainer 32 = .ok (.iconst 1, 1) := dk_4 (dk_at dksX3_addContainer_1 10 rfl rfl)
theorem dX3_addContainer_33 : decode cX3_addContainer 33 = .ok (.sipush 128, 3) := dk_17 0 128 (dk_at dksX3_addContainer_1 11 rfl rfl)
theorem dX3_addContainer_36 : decode cX3_addContainer 36 = .ok (.invokestatic 85, 3) := dk_184 0 85 (dk_at dksX3_addContainer_1 14 rfl rfl)
theorem dX3_addContainer_39 : decode cX3_addContainer 39 = .ok (.ifCond .ne 7, 3) := dk_154 0 7 (dk_at dksX3_addContainer_1 17 rfl rfl)
theorem dX3_addContainer_42 : decode cX3_addContainer 42 = .ok (.iconst 1, 1) := dk_4 (dk_at dksX3_addContainer_1 20 rfl rfl)
theorem dX3_addContainer_43 : decode cX3_addContainer 43 = .ok (.goto 4, 3) := dk_167 0 4 (dk_at dksX3_addContainer_1 21 rfl rfl)
theorem dX3_addContainer_46 : decode cX3_addContainer 46 = .ok (.iconst 0, 1) := dk_3 (dk_at dksX3_addContainer_2 0 rfl rfl)
theorem dX3_addContainer_47 : decode cX3_addContainer 47 = .ok (.iconst 1, 1) := dk_4 (dk_at dksX3_addContainer_2 1 rfl rfl)
theorem dX3_addContainer_48 : decode cX3_addContainer 48 = .ok (.invokevirtual 109, 3) := dk_182 0 109 (dk_at dksX3_addContainer_2 2 rfl rfl)
theorem dX3_addContainer_51 : decode cX3_addContainer 51 = .ok (.ifCond .ne 38, 3) := dk_154 0 38 (dk_at dksX3_addContainer_2 5 rfl rfl)
theorem dX3_addContainer_54 : decode cX3_addContainer 54 = .ok (.aload_n 0, 1) := dk_42 (dk_at dksX3_addContainer_2 8 rfl rfl)
theorem dX3_addContainer_55 : decode cX3_addContainer 55 = .ok (.aload_n 0, 1) := dk_42 (dk_at dksX3_addContainer_2 9 rfl rfl)
theorem dX3_addContainer_56 : decode cX3_addContainer 56 = .ok (.iload_n 2, 1) := dk_28 (dk_at dksX3_addContainer_2 10 rfl rfl)
theorem dX3_addContainer_57 : decode cX3_addContainer 57 = .ok (.invokevirtual 113, 3) := dk_182 0 113 (dk_at dksX3_addContainer_2 11 rfl rfl)
theorem dX3_addContainer_60 : decode cX3_addContainer 60 = .ok (.iconst 2, 1) := dk_5 (dk_at dksX3_addContainer_2 14 rfl rfl)
theorem dX3_addContainer_61 : decode cX3_addContainer 61 = .ok (.invokevirtual 109, 3) := dk_182 0 109 (dk_at dksX3_addContainer_2 15 rfl rfl)
theorem dX3_addContainer_64 : decode cX3_addContainer 64 = .ok (.ifCond .ne 25, 3) := dk_154 0 25 (dk_at dksX3_addContainer_2 18 rfl rfl)
theorem dX3_addContainer_67 : decode cX3_addContainer 67 = .ok (.aload_n 0, 1) := dk_42 (dk_at dksX3_addContainer_2 21 rfl rfl)
theorem dX3_addContainer_68 : decode cX3_addContainer 68 = .ok (.aload_n 0, 1) := dk_42 (dk_at dksX3_addContainer_2 22 rfl rfl)
theorem dX3_addContainer_69 : decode cX3_addContainer 69 = .ok (.getfield 95, 3) := dk_180 0 95 (dk_at dksX3_addContainer_3 0 rfl rfl)
theorem dX3_addContainer_72 : decode cX3_addContainer 72 = .ok (.bipush 12, 2) := dk_16 12 (dk_at dksX3_addContainer_3 3 rfl rfl)
theorem dX3_addContainer_74 : decode cX3_addContainer 74 = .ok (.if_icmp .ne 7, 3) := dk_160 0 7 (dk_at dksX3_addContainer_3 5 rfl rfl)
theorem dX3_addContainer_77 : decode cX3_addContainer 77 = .ok (.iconst 1, 1) := dk_4 (dk_at dksX3_addContainer_3 8 rfl rfl)
theorem dX3_addContainer_78 : decode cX3_addContainer 78 = .ok (.goto 4, 3) := dk_167 0 4 (dk_at dksX3_addContainer_3 9 rfl rfl)
theorem dX3_addContainer_81 : decode cX3_addContainer 81 = .ok (.iconst 0, 1) := dk_3 (dk_at dksX3_addContainer_3 12 rfl rfl)
theorem dX3_addContainer_82 : decode cX3_addContainer 82 = .ok (.iconst 3, 1) := dk_6 (dk_at dksX3_addContainer_3 13 rfl rfl)
theorem dX3_addContainer_83 : decode cX3_addContainer 83 = .ok (.invokevirtual 109, 3) := dk_182 0 109 (dk_at dksX3_addContainer_3 14 rfl rfl)
theorem dX3_addContainer_86 : decode cX3_addContainer 86 = .ok (.ifCond .eq 5, 3) := dk_153 0 5 (dk_at dksX3_addContainer_3 17 rfl rfl)
theorem dX3_addContainer_89 : decode cX3_addContainer 89 = .ok (.iconst 0, 1) := dk_3 (dk_at dksX3_addContainer_3 20 rfl rfl)
theorem dX3_addContainer_90 : decode cX3_addContainer 90 = .ok (.ireturn, 1) := dk_172 (dk_at dksX3_addContainer_3 21 rfl rfl)
theorem dX3_addContainer_91 : decode cX3_addContainer 91 = .ok (.aload_n 0, 1) := dk_42 (dk_at dksX3_addContainer_3 22 rfl rfl)
theorem dX3_addContainer_92 : decode cX3_addContainer 92 = .ok (.getfield 42, 3) := dk_180 0 42 (dk_at dksX3_addContainer_4 0 rfl rfl)
theorem dX3_addContainer_95 : decode cX3_addContainer 95 = .ok (.aload_n 0, 1) := dk_42 (dk_at dksX3_addContainer_4 3 rfl rfl)
theorem dX3_addContainer_96 : decode cX3_addContainer 96 = .ok (.getfield 95, 3) := dk_180 0 95 (dk_at dksX3_addContainer_4 4 rfl rfl)
theorem dX3_addContainer_99 : decode cX3_addContainer 99 = .ok (.iload_n 1, 1) := dk_27 (dk_at dksX3_addContainer_4 7 rfl rfl)
theorem dX3_addContainer_100 : decode cX3_addContainer 100 = .ok (.iastore, 1) := dk_79 (dk_at dksX3_addContainer_4 8 rfl rfl)
theorem dX3_addContainer_101 : decode cX3_addContainer 101 = .ok (.aload_n 0, 1) := dk_42 (dk_at dksX3_addContainer_4 9 rfl rfl)
theorem dX3_addContainer_102 : decode cX3_addContainer 102 = .ok (.getfield 45, 3) := dk_180 0 45 (dk_at dksX3_addContainer_4 10 rfl rfl)
theorem dX3_addContainer_105 : decode cX3_addContainer 105 = .ok (.aload_n 0, 1) := dk_42 (dk_at dksX3_addContainer_4 13 rfl rfl)
theorem dX3_addContainer_106 : decode cX3_addContainer 106 = .ok (.getfield 95, 3) := dk_180 0 95 (dk_at dksX3_addContainer_4 14 rfl rfl)
theorem dX3_addContainer_109 : decode cX3_addContainer 109 = .ok (.iload_n 2, 1) := dk_28 (dk_at dksX3_addContainer_4 17 rfl rfl)
theorem dX3_addContainer_110 : decode cX3_addContainer 110 = .ok (.iastore, 1) := dk_79 (dk_at dksX3_addContainer_4 18 rfl rfl)
theorem dX3_addContainer_111 : decode cX3_addContainer 111 = .ok (.aload_n 0, 1) := dk_42 (dk_at dksX3_addContainer_4 19 rfl rfl)
theorem dX3_addContainer_112 : decode cX3_addContainer 112 = .ok (.getfield 48, 3) := dk_180 0 48 (dk_at dksX3_addContainer_4 20 rfl rfl)
theorem dX3_addContainer_115 : decode cX3_addContainer 115 = .ok (.aload_n 0, 1) := dk_42 (dk_at dksX3_addContainer_4 23 rfl rfl)
theorem dX3_addContainer_116 : decode cX3_addContainer 116 = .ok (.getfield 95, 3) := dk_180 0 95 (dk_at dksX3_addContainer_5 0 rfl rfl)
theorem dX3_addContainer_119 : decode cX3_addContainer 119 = .ok (.aload_n 3, 1) := dk_45 (dk_at dksX3_addContainer_5 3 rfl rfl)
theorem dX3_addContainer_120 : decode cX3_addContainer 120 = .ok (.invokevirtual 126, 3) := dk_182 0 126 (dk_at dksX3_addContainer_5 4 rfl rfl)
theorem dX3_addContainer_123 : decode cX3_addContainer 123 = .ok (.iastore, 1) := dk_79 (dk_at dksX3_addContainer_5 7 rfl rfl)
theorem dX3_addContainer_124 : decode cX3_addContainer 124 = .ok (.aload_n 0, 1) := dk_42 (dk_at dksX3_addContainer_5 8 rfl rfl)
theorem dX3_addContainer_125 : decode cX3_addContainer 125 = .ok (.getfield 51, 3) := dk_180 0 51 (dk_at dksX3_addContainer_5 9 rfl rfl)
theorem dX3_addContainer_128 : decode cX3_addContainer 128 = .ok (.aload_n 0, 1) := dk_42 (dk_at dksX3_addContainer_5 12 rfl rfl)
theorem dX3_addContainer_129 : decode cX3_addContainer 129 = .ok (.getfield 95, 3) := dk_180 0 95 (dk_at dksX3_addContainer_5 13 rfl rfl)
theorem dX3_addContainer_132 : decode cX3_addContainer 132 = .ok (.aload_n 3, 1) := dk_45 (dk_at dksX3_addContainer_5 16 rfl rfl)
theorem dX3_addContainer_133 : decode cX3_addContainer 133 = .ok (.invokevirtual 131, 3) := dk_182 0 131 (dk_at dksX3_addContainer_5 17 rfl rfl)
theorem dX3_addContainer_136 : decode cX3_addContainer 136 = .ok (.iastore, 1) := dk_79 (dk_at dksX3_addContainer_5 20 rfl rfl)
theorem dX3_addContainer_137 : decode cX3_addContainer 137 = .ok (.aload_n 0, 1) := dk_42 (dk_at dksX3_addContainer_5 21 rfl rfl)
theorem dX3_addContainer_138 : decode cX3_addContainer 138 = .ok (.getfield 54, 3) := dk_180 0 54 (dk_at dksX3_addContainer_6 0 rfl rfl)
theorem dX3_addContainer_141 : decode cX3_addContainer 141 = .ok (.aload_n 0, 1) := dk_42 (dk_at dksX3_addContainer_6 3 rfl rfl)
theorem dX3_addContainer_142 : decode cX3_addContainer 142 = .ok (.getfield 95, 3) := dk_180 0 95 (dk_at dksX3_addContainer_6 4 rfl rfl)
theorem dX3_addContainer_145 : decode cX3_addContainer 145 = .ok (.bipush 119, 2) := dk_16 119 (dk_at dksX3_addContainer_6 7 rfl rfl)
theorem dX3_addContainer_147 : decode cX3_addContainer 147 = .ok (.castore, 1) := dk_85 (dk_at dksX3_addContainer_6 9 rfl rfl)
theorem dX3_addContainer_148 : decode cX3_addContainer 148 = .ok (.aload_n 0, 1) := dk_42 (dk_at dksX3_addContainer_6 10 rfl rfl)
theorem dX3_addContainer_149 : decode cX3_addContainer 149 = .ok (.dup, 1) := dk_89 (dk_at dksX3_addContainer_6 11 rfl rfl)
theorem dX3_addContainer_150 : decode cX3_addContainer 150 = .ok (.getfield 95, 3) := dk_180 0 95 (dk_at dksX3_addContainer_6 12 rfl rfl)
theorem dX3_addContainer_153 : decode cX3_addContainer 153 = .ok (.iconst 1, 1) := dk_4 (dk_at dksX3_addContainer_6 15 rfl rfl)
theorem dX3_addContainer_154 : decode cX3_addContainer 154 = .ok (.iadd, 1) := dk_96 (dk_at dksX3_addContainer_6 16 rfl rfl)
theorem dX3_addContainer_155 : decode cX3_addContainer 155 = .ok (.putfield 95, 3) := dk_181 0 95 (dk_at dksX3_addContainer_6 17 rfl rfl)
theorem dX3_addContainer_158 : decode cX3_addContainer 158 = .ok (.aload_n 0, 1) := dk_42 (dk_at dksX3_addContainer_6 20 rfl rfl)
theorem dX3_addContainer_159 : decode cX3_addContainer 159 = .ok (.getfield 95, 3) := dk_180 0 95 (dk_at dksX3_addContainer_6 21 rfl rfl)
theorem dX3_addContainer_162 : decode cX3_addContainer 162 = .ok (.iconst 1, 1) := dk_4 (dk_at dksX3_addContainer_7 0 rfl rfl)
theorem dX3_addContainer_163 : decode cX3_addContainer 163 = .ok (.isub, 1) := dk_100 (dk_at dksX3_addContainer_7 1 rfl rfl)
theorem dX3_addContainer_164 : decode cX3_addContainer 164 = .ok (.ireturn, 1) := dk_172 (dk_at dksX3_addContainer_7 2 rfl rfl)
abbrev cX3_stop : ByteArray := prog_12_method_28_code
def yX3_stop : MethodName := ⟨RX3, "stop", "(I)LState;"⟩
def dkwX3_stop_2 : List UInt8 := [180, 0, 54, 27, 52, 184, 0, 165, 77, 42, 180, 0, 54, 27, 16, 120, 85, 44, 176]
abbrev dktX3_stop_2 : List UInt8 := dkwX3_stop_2 ++ []
def dkwX3_stop_1 : List UInt8 := [52, 16, 120, 160, 0, 7, 4, 167, 0, 4, 3, 5, 182, 0, 109, 153, 0, 7, 178, 0, 147, 176, 42]
abbrev dktX3_stop_1 : List UInt8 := dkwX3_stop_1 ++ dktX3_stop_2
def dkwX3_stop_0 : List UInt8 := [42, 3, 181, 0, 79, 42, 42, 27, 182, 0, 162, 4, 182, 0, 109, 154, 0, 27, 42, 42, 180, 0, 54, 27]
abbrev dktX3_stop_0 : List UInt8 := dkwX3_stop_0 ++ dktX3_stop_1
theorem dksX3_stop_0 : cX3_stop.data.toList.drop 0 = dktX3_stop_0 := by decide +kernel
theorem dksX3_stop_1 : cX3_stop.data.toList.drop 24 = dktX3_stop_1 := dk_seg dksX3_stop_0 24 rfl rfl
theorem dksX3_stop_2 : cX3_stop.data.toList.drop 47 = dktX3_stop_2 := dk_seg dksX3_stop_1 23 rfl rfl
theorem dX3_stop_0 : decode cX3_stop 0 = .ok (.aload_n 0, 1) := dk_42 (dk_at dksX3_stop_0 0 rfl rfl)
theorem dX3_stop_1 : decode cX3_stop 1 = .ok (.iconst 0, 1) := dk_3 (dk_at dksX3_stop_0 1 rfl rfl)
theorem dX3_stop_2 : decode cX3_stop 2 = .ok (.putfield 79, 3) := dk_181 0 79 (dk_at dksX3_stop_0 2 rfl rfl)
theorem dX3_stop_5 : decode cX3_stop 5 = .ok (.aload_n 0, 1) := dk_42 (dk_at dksX3_stop_0 5 rfl rfl)
theorem dX3_stop_6 : decode cX3_stop 6 = .ok (.aload_n 0, 1) := dk_42 (dk_at dksX3_stop_0 6 rfl rfl)
theorem dX3_stop_7 : decode cX3_stop 7 = .ok (.iload_n 1, 1) := dk_27 (dk_at dksX3_stop_0 7 rfl rfl)
theorem dX3_stop_8 : decode cX3_stop 8 = .ok (.invokevirtual 162, 3) := dk_182 0 162 (dk_at dksX3_stop_0 8 rfl rfl)
theorem dX3_stop_11 : decode cX3_stop 11 = .ok (.iconst 1, 1) := dk_4 (dk_at dksX3_stop_0 11 rfl rfl)
theorem dX3_stop_12 : decode cX3_stop 12 = .ok (.invokevirtual 109, 3) := dk_182 0 109 (dk_at dksX3_stop_0 12 rfl rfl)
theorem dX3_stop_15 : decode cX3_stop 15 = .ok (.ifCond .ne 27, 3) := dk_154 0 27 (dk_at dksX3_stop_0 15 rfl rfl)
theorem dX3_stop_18 : decode cX3_stop 18 = .ok (.aload_n 0, 1) := dk_42 (dk_at dksX3_stop_0 18 rfl rfl)
theorem dX3_stop_19 : decode cX3_stop 19 = .ok (.aload_n 0, 1) := dk_42 (dk_at dksX3_stop_0 19 rfl rfl)
theorem dX3_stop_20 : decode cX3_stop 20 = .ok (.getfield 54, 3) := dk_180 0 54 (dk_at dksX3_stop_0 20 rfl rfl)
theorem dX3_stop_23 : decode cX3_stop 23 = .ok (.iload_n 1, 1) := dk_27 (dk_at dksX3_stop_0 23 rfl rfl)
theorem dX3_stop_24 : decode cX3_stop 24 = .ok (.caload, 1) := dk_52 (dk_at dksX3_stop_1 0 rfl rfl)
theorem dX3_stop_25 : decode cX3_stop 25 = .ok (.bipush 120, 2) := dk_16 120 (dk_at dksX3_stop_1 1 rfl rfl)
theorem dX3_stop_27 : decode cX3_stop 27 = .ok (.if_icmp .ne 7, 3) := dk_160 0 7 (dk_at dksX3_stop_1 3 rfl rfl)
theorem dX3_stop_30 : decode cX3_stop 30 = .ok (.iconst 1, 1) := dk_4 (dk_at dksX3_stop_1 6 rfl rfl)
theorem dX3_stop_31 : decode cX3_stop 31 = .ok (.goto 4, 3) := dk_167 0 4 (dk_at dksX3_stop_1 7 rfl rfl)
theorem dX3_stop_34 : decode cX3_stop 34 = .ok (.iconst 0, 1) := dk_3 (dk_at dksX3_stop_1 10 rfl rfl)
theorem dX3_stop_35 : decode cX3_stop 35 = .ok (.iconst 2, 1) := dk_5 (dk_at dksX3_stop_1 11 rfl rfl)
theorem dX3_stop_36 : decode cX3_stop 36 = .ok (.invokevirtual 109, 3) := dk_182 0 109 (dk_at dksX3_stop_1 12 rfl rfl)
theorem dX3_stop_39 : decode cX3_stop 39 = .ok (.ifCond .eq 7, 3) := dk_153 0 7 (dk_at dksX3_stop_1 15 rfl rfl)
theorem dX3_stop_42 : decode cX3_stop 42 = .ok (.getstatic 147, 3) := dk_178 0 147 (dk_at dksX3_stop_1 18 rfl rfl)
theorem dX3_stop_45 : decode cX3_stop 45 = .ok (.areturn, 1) := dk_176 (dk_at dksX3_stop_1 21 rfl rfl)
theorem dX3_stop_46 : decode cX3_stop 46 = .ok (.aload_n 0, 1) := dk_42 (dk_at dksX3_stop_1 22 rfl rfl)
theorem dX3_stop_47 : decode cX3_stop 47 = .ok (.getfield 54, 3) := dk_180 0 54 (dk_at dksX3_stop_2 0 rfl rfl)
theorem dX3_stop_50 : decode cX3_stop 50 = .ok (.iload_n 1, 1) := dk_27 (dk_at dksX3_stop_2 3 rfl rfl)
theorem dX3_stop_51 : decode cX3_stop 51 = .ok (.caload, 1) := dk_52 (dk_at dksX3_stop_2 4 rfl rfl)
theorem dX3_stop_52 : decode cX3_stop 52 = .ok (.invokestatic 165, 3) := dk_184 0 165 (dk_at dksX3_stop_2 5 rfl rfl)
theorem dX3_stop_55 : decode cX3_stop 55 = .ok (.astore_n 2, 1) := dk_77 (dk_at dksX3_stop_2 8 rfl rfl)
theorem dX3_stop_56 : decode cX3_stop 56 = .ok (.aload_n 0, 1) := dk_42 (dk_at dksX3_stop_2 9 rfl rfl)
theorem dX3_stop_57 : decode cX3_stop 57 = .ok (.getfield 54, 3) := dk_180 0 54 (dk_at dksX3_stop_2 10 rfl rfl)
theorem dX3_stop_60 : decode cX3_stop 60 = .ok (.iload_n 1, 1) := dk_27 (dk_at dksX3_stop_2 13 rfl rfl)
theorem dX3_stop_61 : decode cX3_stop 61 = .ok (.bipush 120, 2) := dk_16 120 (dk_at dksX3_stop_2 14 rfl rfl)
theorem dX3_stop_63 : decode cX3_stop 63 = .ok (.castore, 1) := dk_85 (dk_at dksX3_stop_2 16 rfl rfl)
theorem dX3_stop_64 : decode cX3_stop 64 = .ok (.aload_n 2, 1) := dk_44 (dk_at dksX3_stop_2 17 rfl rfl)
theorem dX3_stop_65 : decode cX3_stop 65 = .ok (.areturn, 1) := dk_176 (dk_at dksX3_stop_2 18 rfl rfl)
abbrev cX3_noContainer : ByteArray := prog_12_method_8_code
def yX3_noContainer : MethodName := ⟨RX3, "noContainer", "(I)Z"⟩
def dkwX3_noContainer_0 : List UInt8 := [27, 3, 42, 180, 0, 95, 4, 100, 184, 0, 85, 154, 0, 7, 4, 167, 0, 4, 3, 172]
abbrev dktX3_noContainer_0 : List UInt8 := dkwX3_noContainer_0 ++ []
theorem dksX3_noContainer_0 : cX3_noContainer.data.toList.drop 0 = dktX3_noContainer_0 := by decide +kernel
theorem dX3_noContainer_0 : decode cX3_noContainer 0 = .ok (.iload_n 1, 1) := dk_27 (dk_at dksX3_noContainer_0 0 rfl rfl)
theorem dX3_noContainer_1 : decode cX3_noContainer 1 = .ok (.iconst 0, 1) := dk_3 (dk_at dksX3_noContainer_0 1 rfl rfl)
theorem dX3_noContainer_2 : decode cX3_noContainer 2 = .ok (.aload_n 0, 1) := dk_42 (dk_at dksX3_noContainer_0 2 rfl rfl)
theorem dX3_noContainer_3 : decode cX3_noContainer 3 = .ok (.getfield 95, 3) := dk_180 0 95 (dk_at dksX3_noContainer_0 3 rfl rfl)
theorem dX3_noContainer_6 : decode cX3_noContainer 6 = .ok (.iconst 1, 1) := dk_4 (dk_at dksX3_noContainer_0 6 rfl rfl)
theorem dX3_noContainer_7 : decode cX3_noContainer 7 = .ok (.isub, 1) := dk_100 (dk_at dksX3_noContainer_0 7 rfl rfl)
theorem dX3_noContainer_8 : decode cX3_noContainer 8 = .ok (.invokestatic 85, 3) := dk_184 0 85 (dk_at dksX3_noContainer_0 8 rfl rfl)
theorem dX3_noContainer_11 : decode cX3_noContainer 11 = .ok (.ifCond .ne 7, 3) := dk_154 0 7 (dk_at dksX3_noContainer_0 11 rfl rfl)
theorem dX3_noContainer_14 : decode cX3_noContainer 14 = .ok (.iconst 1, 1) := dk_4 (dk_at dksX3_noContainer_0 14 rfl rfl)
theorem dX3_noContainer_15 : decode cX3_noContainer 15 = .ok (.goto 4, 3) := dk_167 0 4 (dk_at dksX3_noContainer_0 15 rfl rfl)
theorem dX3_noContainer_18 : decode cX3_noContainer 18 = .ok (.iconst 0, 1) := dk_3 (dk_at dksX3_noContainer_0 18 rfl rfl)
theorem dX3_noContainer_19 : decode cX3_noContainer 19 = .ok (.ireturn, 1) := dk_172 (dk_at dksX3_noContainer_0 19 rfl rfl)
abbrev cX3_told : ByteArray := prog_12_method_27_code
def yX3_told : MethodName := ⟨RX3, "told", "(C)LState;"⟩
def dkwX3_told_1 : List UInt8 := [26, 16, 115, 160, 0, 9, 178, 0, 156, 167, 0, 6, 178, 0, 159, 176]
abbrev dktX3_told_1 : List UInt8 := dkwX3_told_1 ++ []
def dkwX3_told_0 : List UInt8 := [26, 16, 119, 160, 0, 9, 178, 0, 147, 167, 0, 30, 26, 16, 114, 160, 0, 9, 178, 0, 153, 167, 0, 18]
abbrev dktX3_told_0 : List UInt8 := dkwX3_told_0 ++ dktX3_told_1
theorem dksX3_told_0 : cX3_told.data.toList.drop 0 = dktX3_told_0 := by decide +kernel
theorem dksX3_told_1 : cX3_told.data.toList.drop 24 = dktX3_told_1 := dk_seg dksX3_told_0 24 rfl rfl
theorem dX3_told_0 : decode cX3_told 0 = .ok (.iload_n 0, 1) := dk_26 (dk_at dksX3_told_0 0 rfl rfl)
theorem dX3_told_1 : decode cX3_told 1 = .ok (.bipush 119, 2) := dk_16 119 (dk_at dksX3_told_0 1 rfl rfl)
theorem dX3_told_3 : decode cX3_told 3 = .ok (.if_icmp .ne 9, 3) := dk_160 0 9 (dk_at dksX3_told_0 3 rfl rfl)
theorem dX3_told_6 : decode cX3_told 6 = .ok (.getstatic 147, 3) := dk_178 0 147 (dk_at dksX3_told_0 6 rfl rfl)
theorem dX3_told_9 : decode cX3_told 9 = .ok (.goto 30, 3) := dk_167 0 30 (dk_at dksX3_told_0 9 rfl rfl)
theorem dX3_told_12 : decode cX3_told 12 = .ok (.iload_n 0, 1) := dk_26 (dk_at dksX3_told_0 12 rfl rfl)
theorem dX3_told_13 : decode cX3_told 13 = .ok (.bipush 114, 2) := dk_16 114 (dk_at dksX3_told_0 13 rfl rfl)
theorem dX3_told_15 : decode cX3_told 15 = .ok (.if_icmp .ne 9, 3) := dk_160 0 9 (dk_at dksX3_told_0 15 rfl rfl)
theorem dX3_told_18 : decode cX3_told 18 = .ok (.getstatic 153, 3) := dk_178 0 153 (dk_at dksX3_told_0 18 rfl rfl)
theorem dX3_told_21 : decode cX3_told 21 = .ok (.goto 18, 3) := dk_167 0 18 (dk_at dksX3_told_0 21 rfl rfl)
theorem dX3_told_24 : decode cX3_told 24 = .ok (.iload_n 0, 1) := dk_26 (dk_at dksX3_told_1 0 rfl rfl)
theorem dX3_told_25 : decode cX3_told 25 = .ok (.bipush 115, 2) := dk_16 115 (dk_at dksX3_told_1 1 rfl rfl)
theorem dX3_told_27 : decode cX3_told 27 = .ok (.if_icmp .ne 9, 3) := dk_160 0 9 (dk_at dksX3_told_1 3 rfl rfl)
theorem dX3_told_30 : decode cX3_told 30 = .ok (.getstatic 156, 3) := dk_178 0 156 (dk_at dksX3_told_1 6 rfl rfl)
theorem dX3_told_33 : decode cX3_told 33 = .ok (.goto 6, 3) := dk_167 0 6 (dk_at dksX3_told_1 9 rfl rfl)
theorem dX3_told_36 : decode cX3_told 36 = .ok (.getstatic 159, 3) := dk_178 0 159 (dk_at dksX3_told_1 12 rfl rfl)
theorem dX3_told_39 : decode cX3_told 39 = .ok (.areturn, 1) := dk_176 (dk_at dksX3_told_1 15 rfl rfl)
abbrev cX3_fail : ByteArray := prog_12_method_30_code
def yX3_fail : MethodName := ⟨RX3, "fail", "(I)I"⟩
def dkwX3_fail_4 : List UInt8 := [96, 79, 28, 172]
abbrev dktX3_fail_4 : List UInt8 := dkwX3_fail_4 ++ []
def dkwX3_fail_3 : List UInt8 := [27, 92, 46, 4, 96, 79, 42, 180, 0, 54, 27, 16, 115, 85, 42, 180, 0, 67, 27, 42, 180, 0, 98, 28]
abbrev dktX3_fail_3 : List UInt8 := dkwX3_fail_3 ++ dktX3_fail_4
def dkwX3_fail_2 : List UInt8 := [27, 46, 7, 164, 0, 8, 16, 16, 167, 0, 11, 4, 42, 180, 0, 70, 27, 46, 120, 61, 42, 180, 0, 70]
abbrev dktX3_fail_2 : List UInt8 := dkwX3_fail_2 ++ dktX3_fail_3
def dkwX3_fail_1 : List UInt8 := [52, 16, 114, 159, 0, 7, 4, 167, 0, 4, 3, 5, 182, 0, 109, 153, 0, 5, 3, 172, 42, 180, 0, 70]
abbrev dktX3_fail_1 : List UInt8 := dkwX3_fail_1 ++ dktX3_fail_2
def dkwX3_fail_0 : List UInt8 := [42, 3, 181, 0, 79, 42, 42, 27, 182, 0, 162, 4, 182, 0, 109, 154, 0, 27, 42, 42, 180, 0, 54, 27]
abbrev dktX3_fail_0 : List UInt8 := dkwX3_fail_0 ++ dktX3_fail_1
theorem dksX3_fail_0 : cX3_fail.data.toList.drop 0 = dktX3_fail_0 := by decide +kernel
theorem dksX3_fail_1 : cX3_fail.data.toList.drop 24 = dktX3_fail_1 := dk_seg dksX3_fail_0 24 rfl rfl
theorem dksX3_fail_2 : cX3_fail.data.toList.drop 48 = dktX3_fail_2 := dk_seg dksX3_fail_1 24 rfl rfl
theorem dksX3_fail_3 : cX3_fail.data.toList.drop 72 = dktX3_fail_3 := dk_seg dksX3_fail_2 24 rfl rfl
theorem dksX3_fail_4 : cX3_fail.data.toList.drop 96 = dktX3_fail_4 := dk_seg dksX3_fail_3 24 rfl rfl
theorem dX3_fail_0 : decode cX3_fail 0 = .ok (.aload_n 0, 1) := dk_42 (dk_at dksX3_fail_0 0 rfl rfl)
theorem dX3_fail_1 : decode cX3_fail 1 = .ok (.iconst 0, 1) := dk_3 (dk_at dksX3_fail_0 1 rfl rfl)
theorem dX3_fail_2 : decode cX3_fail 2 = .ok (.putfield 79, 3) := dk_181 0 79 (dk_at dksX3_fail_0 2 rfl rfl)
theorem dX3_fail_5 : decode cX3_fail 5 = .ok (.aload_n 0, 1) := dk_42 (dk_at dksX3_fail_0 5 rfl rfl)
theorem dX3_fail_6 : decode cX3_fail 6 = .ok (.aload_n 0, 1) := dk_42 (dk_at dksX3_fail_0 6 rfl rfl)
theorem dX3_fail_7 : decode cX3_fail 7 = .ok (.iload_n 1, 1) := dk_27 (dk_at dksX3_fail_0 7 rfl rfl)
theorem dX3_fail_8 : decode cX3_fail 8 = .ok (.invokevirtual 162, 3) := dk_182 0 162 (dk_at dksX3_fail_0 8 rfl rfl)
theorem dX3_fail_11 : decode cX3_fail 11 = .ok (.iconst 1, 1) := dk_4 (dk_at dksX3_fail_0 11 rfl rfl)
theorem dX3_fail_12 : decode cX3_fail 12 = .ok (.invokevirtual 109, 3) := dk_182 0 109 (dk_at dksX3_fail_0 12 rfl rfl)
theorem dX3_fail_15 : decode cX3_fail 15 = .ok (.ifCond .ne 27, 3) := dk_154 0 27 (dk_at dksX3_fail_0 15 rfl rfl)
theorem dX3_fail_18 : decode cX3_fail 18 = .ok (.aload_n 0, 1) := dk_42 (dk_at dksX3_fail_0 18 rfl rfl)
theorem dX3_fail_19 : decode cX3_fail 19 = .ok (.aload_n 0, 1) := dk_42 (dk_at dksX3_fail_0 19 rfl rfl)
theorem dX3_fail_20 : decode cX3_fail 20 = .ok (.getfield 54, 3) := dk_180 0 54 (dk_at dksX3_fail_0 20 rfl rfl)
theorem dX3_fail_23 : decode cX3_fail 23 = .ok (.iload_n 1, 1) := dk_27 (dk_at dksX3_fail_0 23 rfl rfl)
theorem dX3_fail_24 : decode cX3_fail 24 = .ok (.caload, 1) := dk_52 (dk_at dksX3_fail_1 0 rfl rfl)
theorem dX3_fail_25 : decode cX3_fail 25 = .ok (.bipush 114, 2) := dk_16 114 (dk_at dksX3_fail_1 1 rfl rfl)
theorem dX3_fail_27 : decode cX3_fail 27 = .ok (.if_icmp .eq 7, 3) := dk_159 0 7 (dk_at dksX3_fail_1 3 rfl rfl)
theorem dX3_fail_30 : decode cX3_fail 30 = .ok (.iconst 1, 1) := dk_4 (dk_at dksX3_fail_1 6 rfl rfl)
theorem dX3_fail_31 : decode cX3_fail 31 = .ok (.goto 4, 3) := dk_167 0 4 (dk_at dksX3_fail_1 7 rfl rfl)
theorem dX3_fail_34 : decode cX3_fail 34 = .ok (.iconst 0, 1) := dk_3 (dk_at dksX3_fail_1 10 rfl rfl)
theorem dX3_fail_35 : decode cX3_fail 35 = .ok (.iconst 2, 1) := dk_5 (dk_at dksX3_fail_1 11 rfl rfl)
theorem dX3_fail_36 : decode cX3_fail 36 = .ok (.invokevirtual 109, 3) := dk_182 0 109 (dk_at dksX3_fail_1 12 rfl rfl)
theorem dX3_fail_39 : decode cX3_fail 39 = .ok (.ifCond .eq 5, 3) := dk_153 0 5 (dk_at dksX3_fail_1 15 rfl rfl)
theorem dX3_fail_42 : decode cX3_fail 42 = .ok (.iconst 0, 1) := dk_3 (dk_at dksX3_fail_1 18 rfl rfl)
theorem dX3_fail_43 : decode cX3_fail 43 = .ok (.ireturn, 1) := dk_172 (dk_at dksX3_fail_1 19 rfl rfl)
theorem dX3_fail_44 : decode cX3_fail 44 = .ok (.aload_n 0, 1) := dk_42 (dk_at dksX3_fail_1 20 rfl rfl)
theorem dX3_fail_45 : decode cX3_fail 45 = .ok (.getfield 70, 3) := dk_180 0 70 (dk_at dksX3_fail_1 21 rfl rfl)
theorem dX3_fail_48 : decode cX3_fail 48 = .ok (.iload_n 1, 1) := dk_27 (dk_at dksX3_fail_2 0 rfl rfl)
theorem dX3_fail_49 : decode cX3_fail 49 = .ok (.iaload, 1) := dk_46 (dk_at dksX3_fail_2 1 rfl rfl)
theorem dX3_fail_50 : decode cX3_fail 50 = .ok (.iconst 4, 1) := dk_7 (dk_at dksX3_fail_2 2 rfl rfl)
theorem dX3_fail_51 : decode cX3_fail 51 = .ok (.if_icmp .le 8, 3) := dk_164 0 8 (dk_at dksX3_fail_2 3 rfl rfl)
theorem dX3_fail_54 : decode cX3_fail 54 = .ok (.bipush 16, 2) := dk_16 16 (dk_at dksX3_fail_2 6 rfl rfl)
theorem dX3_fail_56 : decode cX3_fail 56 = .ok (.goto 11, 3) := dk_167 0 11 (dk_at dksX3_fail_2 8 rfl rfl)
theorem dX3_fail_59 : decode cX3_fail 59 = .ok (.iconst 1, 1) := dk_4 (dk_at dksX3_fail_2 11 rfl rfl)
theorem dX3_fail_60 : decode cX3_fail 60 = .ok (.aload_n 0, 1) := dk_42 (dk_at dksX3_fail_2 12 rfl rfl)
theorem dX3_fail_61 : decode cX3_fail 61 = .ok (.getfield 70, 3) := dk_180 0 70 (dk_at dksX3_fail_2 13 rfl rfl)
theorem dX3_fail_64 : decode cX3_fail 64 = .ok (.iload_n 1, 1) := dk_27 (dk_at dksX3_fail_2 16 rfl rfl)
theorem dX3_fail_65 : decode cX3_fail 65 = .ok (.iaload, 1) := dk_46 (dk_at dksX3_fail_2 17 rfl rfl)
theorem dX3_fail_66 : decode cX3_fail 66 = .ok (.ishl, 1) := dk_120 (dk_at dksX3_fail_2 18 rfl rfl)
theorem dX3_fail_67 : decode cX3_fail 67 = .ok (.istore_n 2, 1) := dk_61 (dk_at dksX3_fail_2 19 rfl rfl)
theorem dX3_fail_68 : decode cX3_fail 68 = .ok (.aload_n 0, 1) := dk_42 (dk_at dksX3_fail_2 20 rfl rfl)
theorem dX3_fail_69 : decode cX3_fail 69 = .ok (.getfield 70, 3) := dk_180 0 70 (dk_at dksX3_fail_2 21 rfl rfl)
theorem dX3_fail_72 : decode cX3_fail 72 = .ok (.iload_n 1, 1) := dk_27 (dk_at dksX3_fail_3 0 rfl rfl)
theorem dX3_fail_73 : decode cX3_fail 73 = .ok (.dup2, 1) := dk_92 (dk_at dksX3_fail_3 1 rfl rfl)
theorem dX3_fail_74 : decode cX3_fail 74 = .ok (.iaload, 1) := dk_46 (dk_at dksX3_fail_3 2 rfl rfl)
theorem dX3_fail_75 : decode cX3_fail 75 = .ok (.iconst 1, 1) := dk_4 (dk_at dksX3_fail_3 3 rfl rfl)
theorem dX3_fail_76 : decode cX3_fail 76 = .ok (.iadd, 1) := dk_96 (dk_at dksX3_fail_3 4 rfl rfl)
theorem dX3_fail_77 : decode cX3_fail 77 = .ok (.iastore, 1) := dk_79 (dk_at dksX3_fail_3 5 rfl rfl)
theorem dX3_fail_78 : decode cX3_fail 78 = .ok (.aload_n 0, 1) := dk_42 (dk_at dksX3_fail_3 6 rfl rfl)
theorem dX3_fail_79 : decode cX3_fail 79 = .ok (.getfield 54, 3) := dk_180 0 54 (dk_at dksX3_fail_3 7 rfl rfl)
theorem dX3_fail_82 : decode cX3_fail 82 = .ok (.iload_n 1, 1) := dk_27 (dk_at dksX3_fail_3 10 rfl rfl)
theorem dX3_fail_83 : decode cX3_fail 83 = .ok (.bipush 115, 2) := dk_16 115 (dk_at dksX3_fail_3 11 rfl rfl)
theorem dX3_fail_85 : decode cX3_fail 85 = .ok (.castore, 1) := dk_85 (dk_at dksX3_fail_3 13 rfl rfl)
theorem dX3_fail_86 : decode cX3_fail 86 = .ok (.aload_n 0, 1) := dk_42 (dk_at dksX3_fail_3 14 rfl rfl)
theorem dX3_fail_87 : decode cX3_fail 87 = .ok (.getfield 67, 3) := dk_180 0 67 (dk_at dksX3_fail_3 15 rfl rfl)
theorem dX3_fail_90 : decode cX3_fail 90 = .ok (.iload_n 1, 1) := dk_27 (dk_at dksX3_fail_3 18 rfl rfl)
theorem dX3_fail_91 : decode cX3_fail 91 = .ok (.aload_n 0, 1) := dk_42 (dk_at dksX3_fail_3 19 rfl rfl)
theorem dX3_fail_92 : decode cX3_fail 92 = .ok (.getfield 98, 3) := dk_180 0 98 (dk_at dksX3_fail_3 20 rfl rfl)
theorem dX3_fail_95 : decode cX3_fail 95 = .ok (.iload_n 2, 1) := dk_28 (dk_at dksX3_fail_3 23 rfl rfl)
theorem dX3_fail_96 : decode cX3_fail 96 = .ok (.iadd, 1) := dk_96 (dk_at dksX3_fail_4 0 rfl rfl)
theorem dX3_fail_97 : decode cX3_fail 97 = .ok (.iastore, 1) := dk_79 (dk_at dksX3_fail_4 1 rfl rfl)
theorem dX3_fail_98 : decode cX3_fail 98 = .ok (.iload_n 2, 1) := dk_28 (dk_at dksX3_fail_4 2 rfl rfl)
theorem dX3_fail_99 : decode cX3_fail 99 = .ok (.ireturn, 1) := dk_172 (dk_at dksX3_fail_4 3 rfl rfl)
abbrev cX3_pass : ByteArray := prog_12_method_35_code
def yX3_pass : MethodName := ⟨RX3, "pass", "(I)I"⟩
def dkwX3_pass_10 : List UInt8 := [180, 0, 213, 28, 133, 97, 181, 0, 213, 28, 172]
abbrev dktX3_pass_10 : List UInt8 := dkwX3_pass_10 ++ []
def dkwX3_pass_9 : List UInt8 := [85, 132, 4, 1, 167, 255, 121, 28, 42, 182, 0, 210, 96, 61, 132, 3, 1, 167, 255, 86, 42, 89]
abbrev dktX3_pass_9 : List UInt8 := dkwX3_pass_9 ++ dktX3_pass_10
def dkwX3_pass_8 : List UInt8 := [21, 4, 21, 5, 154, 0, 8, 21, 6, 153, 0, 8, 16, 119, 167, 0, 10, 42, 180, 0, 54, 21, 4, 52]
abbrev dktX3_pass_8 : List UInt8 := dkwX3_pass_8 ++ dktX3_pass_9
def dkwX3_pass_7 : List UInt8 := [21, 4, 46, 42, 180, 0, 98, 182, 0, 207, 153, 0, 7, 4, 167, 0, 4, 3, 54, 6, 42, 180, 0, 54]
abbrev dktX3_pass_7 : List UInt8 := dkwX3_pass_7 ++ dktX3_pass_8
def dkwX3_pass_6 : List UInt8 := [46, 42, 182, 0, 204, 126, 154, 0, 30, 42, 21, 4, 182, 0, 123, 153, 0, 25, 42, 42, 180, 0, 42]
abbrev dktX3_pass_6 : List UInt8 := dkwX3_pass_6 ++ dktX3_pass_7
def dkwX3_pass_5 : List UInt8 := [167, 0, 4, 3, 54, 5, 42, 180, 0, 54, 21, 4, 52, 16, 114, 160, 0, 49, 42, 180, 0, 61, 21, 4]
abbrev dktX3_pass_5 : List UInt8 := dkwX3_pass_5 ++ dktX3_pass_6
def dkwX3_pass_4 : List UInt8 := [21, 4, 52, 16, 115, 160, 0, 21, 42, 180, 0, 67, 21, 4, 46, 42, 180, 0, 98, 163, 0, 7, 4]
abbrev dktX3_pass_4 : List UInt8 := dkwX3_pass_4 ++ dktX3_pass_5
def dkwX3_pass_3 : List UInt8 := [96, 181, 0, 98, 42, 182, 0, 201, 3, 54, 4, 21, 4, 42, 180, 0, 95, 162, 0, 132, 42, 180, 0, 54]
abbrev dktX3_pass_3 : List UInt8 := dkwX3_pass_3 ++ dktX3_pass_4
def dkwX3_pass_2 : List UInt8 := [5, 182, 0, 109, 153, 0, 5, 3, 172, 3, 61, 3, 62, 29, 27, 162, 0, 171, 42, 89, 180, 0, 98, 4]
abbrev dktX3_pass_2 : List UInt8 := dkwX3_pass_2 ++ dktX3_pass_3
def dkwX3_pass_1 : List UInt8 := [182, 0, 109, 154, 0, 28, 42, 42, 180, 0, 98, 27, 96, 17, 3, 231, 164, 0, 7, 4, 167, 0, 4, 3]
abbrev dktX3_pass_1 : List UInt8 := dkwX3_pass_1 ++ dktX3_pass_2
def dkwX3_pass_0 : List UInt8 := [42, 3, 181, 0, 79, 42, 27, 4, 16, 48, 184, 0, 85, 154, 0, 7, 4, 167, 0, 4, 3, 4]
abbrev dktX3_pass_0 : List UInt8 := dkwX3_pass_0 ++ dktX3_pass_1
theorem dksX3_pass_0 : cX3_pass.data.toList.drop 0 = dktX3_pass_0 := by decide +kernel
theorem dksX3_pass_1 : cX3_pass.data.toList.drop 22 = dktX3_pass_1 := dk_seg dksX3_pass_0 22 rfl rfl
theorem dksX3_pass_2 : cX3_pass.data.toList.drop 46 = dktX3_pass_2 := dk_seg dksX3_pass_1 24 rfl rfl
theorem dksX3_pass_3 : cX3_pass.data.toList.drop 70 = dktX3_pass_3 := dk_seg dksX3_pass_2 24 rfl rfl
theorem dksX3_pass_4 : cX3_pass.data.toList.drop 94 = dktX3_pass_4 := dk_seg dksX3_pass_3 24 rfl rfl
theorem dksX3_pass_5 : cX3_pass.data.toList.drop 117 = dktX3_pass_5 := dk_seg dksX3_pass_4 23 rfl rfl
theorem dksX3_pass_6 : cX3_pass.data.toList.drop 141 = dktX3_pass_6 := dk_seg dksX3_pass_5 24 rfl rfl
theorem dksX3_pass_7 : cX3_pass.data.toList.drop 164 = dktX3_pass_7 := dk_seg dksX3_pass_6 23 rfl rfl
theorem dksX3_pass_8 : cX3_pass.data.toList.drop 188 = dktX3_pass_8 := dk_seg dksX3_pass_7 24 rfl rfl
theorem dksX3_pass_9 : cX3_pass.data.toList.drop 212 = dktX3_pass_9 := dk_seg dksX3_pass_8 24 rfl rfl
theorem dksX3_pass_10 : cX3_pass.data.toList.drop 234 = dktX3_pass_10 := dk_seg dksX3_pass_9 22 rfl rfl
theorem dX3_pass_0 : decode cX3_pass 0 = .ok (.aload_n 0, 1) := dk_42 (dk_at dksX3_pass_0 0 rfl rfl)
theorem dX3_pass_1 : decode cX3_pass 1 = .ok (.iconst 0, 1) := dk_3 (dk_at dksX3_pass_0 1 rfl rfl)
theorem dX3_pass_2 : decode cX3_pass 2 = .ok (.putfield 79, 3) := dk_181 0 79 (dk_at dksX3_pass_0 2 rfl rfl)
theorem dX3_pass_5 : decode cX3_pass 5 = .ok (.aload_n 0, 1) := dk_42 (dk_at dksX3_pass_0 5 rfl rfl)
theorem dX3_pass_6 : decode cX3_pass 6 = .ok (.iload_n 1, 1) := dk_27 (dk_at dksX3_pass_0 6 rfl rfl)
theorem dX3_pass_7 : decode cX3_pass 7 = .ok (.iconst 1, 1) := dk_4 (dk_at dksX3_pass_0 7 rfl rfl)
theorem dX3_pass_8 : decode cX3_pass 8 = .ok (.bipush 48, 2) := dk_16 48 (dk_at dksX3_pass_0 8 rfl rfl)
theorem dX3_pass_10 : decode cX3_pass 10 = .ok (.invokestatic 85, 3) := dk_184 0 85 (dk_at dksX3_pass_0 10 rfl rfl)
theorem dX3_pass_13 : decode cX3_pass 13 = .ok (.ifCond .ne 7, 3) := dk_154 0 7 (dk_at dksX3_pass_0 13 rfl rfl)
theorem dX3_pass_16 : decode cX3_pass 16 = .ok (.iconst 1, 1) := dk_4 (dk_at dksX3_pass_0 16 rfl rfl)
theorem dX3_pass_17 : decode cX3_pass 17 = .ok (.goto 4, 3) := dk_167 0 4 (dk_at dksX3_pass_0 17 rfl rfl)
theorem dX3_pass_20 : decode cX3_pass 20 = .ok (.iconst 0, 1) := dk_3 (dk_at dksX3_pass_0 20 rfl rfl)
theorem dX3_pass_21 : decode cX3_pass 21 = .ok (.iconst 1, 1) := dk_4 (dk_at dksX3_pass_0 21 rfl rfl)
theorem dX3_pass_22 : decode cX3_pass 22 = .ok (.invokevirtual 109, 3) := dk_182 0 109 (dk_at dksX3_pass_1 0 rfl rfl)
theorem dX3_pass_25 : decode cX3_pass 25 = .ok (.ifCond .ne 28, 3) := dk_154 0 28 (dk_at dksX3_pass_1 3 rfl rfl)
theorem dX3_pass_28 : decode cX3_pass 28 = .ok (.aload_n 0, 1) := dk_42 (dk_at dksX3_pass_1 6 rfl rfl)
theorem dX3_pass_29 : decode cX3_pass 29 = .ok (.aload_n 0, 1) := dk_42 (dk_at dksX3_pass_1 7 rfl rfl)
theorem dX3_pass_30 : decode cX3_pass 30 = .ok (.getfield 98, 3) := dk_180 0 98 (dk_at dksX3_pass_1 8 rfl rfl)
theorem dX3_pass_33 : decode cX3_pass 33 = .ok (.iload_n 1, 1) := dk_27 (dk_at dksX3_pass_1 11 rfl rfl)
theorem dX3_pass_34 : decode cX3_pass 34 = .ok (.iadd, 1) := dk_96 (dk_at dksX3_pass_1 12 rfl rfl)
theorem dX3_pass_35 : decode cX3_pass 35 = .ok (.sipush 999, 3) := dk_17 3 231 (dk_at dksX3_pass_1 13 rfl rfl)
theorem dX3_pass_38 : decode cX3_pass 38 = .ok (.if_icmp .le 7, 3) := dk_164 0 7 (dk_at dksX3_pass_1 16 rfl rfl)
theorem dX3_pass_41 : decode cX3_pass 41 = .ok (.iconst 1, 1) := dk_4 (dk_at dksX3_pass_1 19 rfl rfl)
theorem dX3_pass_42 : decode cX3_pass 42 = .ok (.goto 4, 3) := dk_167 0 4 (dk_at dksX3_pass_1 20 rfl rfl)
theorem dX3_pass_45 : decode cX3_pass 45 = .ok (.iconst 0, 1) := dk_3 (dk_at dksX3_pass_1 23 rfl rfl)
theorem dX3_pass_46 : decode cX3_pass 46 = .ok (.iconst 2, 1) := dk_5 (dk_at dksX3_pass_2 0 rfl rfl)
theorem dX3_pass_47 : decode cX3_pass 47 = .ok (.invokevirtual 109, 3) := dk_182 0 109 (dk_at dksX3_pass_2 1 rfl rfl)
theorem dX3_pass_50 : decode cX3_pass 50 = .ok (.ifCond .eq 5, 3) := dk_153 0 5 (dk_at dksX3_pass_2 4 rfl rfl)
theorem dX3_pass_53 : decode cX3_pass 53 = .ok (.iconst 0, 1) := dk_3 (dk_at dksX3_pass_2 7 rfl rfl)
theorem dX3_pass_54 : decode cX3_pass 54 = .ok (.ireturn, 1) := dk_172 (dk_at dksX3_pass_2 8 rfl rfl)
theorem dX3_pass_55 : decode cX3_pass 55 = .ok (.iconst 0, 1) := dk_3 (dk_at dksX3_pass_2 9 rfl rfl)
theorem dX3_pass_56 : decode cX3_pass 56 = .ok (.istore_n 2, 1) := dk_61 (dk_at dksX3_pass_2 10 rfl rfl)
theorem dX3_pass_57 : decode cX3_pass 57 = .ok (.iconst 0, 1) := dk_3 (dk_at dksX3_pass_2 11 rfl rfl)
theorem dX3_pass_58 : decode cX3_pass 58 = .ok (.istore_n 3, 1) := dk_62 (dk_at dksX3_pass_2 12 rfl rfl)
theorem dX3_pass_59 : decode cX3_pass 59 = .ok (.iload_n 3, 1) := dk_29 (dk_at dksX3_pass_2 13 rfl rfl)
theorem dX3_pass_60 : decode cX3_pass 60 = .ok (.iload_n 1, 1) := dk_27 (dk_at dksX3_pass_2 14 rfl rfl)
theorem dX3_pass_61 : decode cX3_pass 61 = .ok (.if_icmp .ge 171, 3) := dk_162 0 171 (dk_at dksX3_pass_2 15 rfl rfl)
theorem dX3_pass_64 : decode cX3_pass 64 = .ok (.aload_n 0, 1) := dk_42 (dk_at dksX3_pass_2 18 rfl rfl)
theorem dX3_pass_65 : decode cX3_pass 65 = .ok (.dup, 1) := dk_89 (dk_at dksX3_pass_2 19 rfl rfl)
theorem dX3_pass_66 : decode cX3_pass 66 = .ok (.getfield 98, 3) := dk_180 0 98 (dk_at dksX3_pass_2 20 rfl rfl)
theorem dX3_pass_69 : decode cX3_pass 69 = .ok (.iconst 1, 1) := dk_4 (dk_at dksX3_pass_2 23 rfl rfl)
theorem dX3_pass_70 : decode cX3_pass 70 = .ok (.iadd, 1) := dk_96 (dk_at dksX3_pass_3 0 rfl rfl)
theorem dX3_pass_71 : decode cX3_pass 71 = .ok (.putfield 98, 3) := dk_181 0 98 (dk_at dksX3_pass_3 1 rfl rfl)
theorem dX3_pass_74 : decode cX3_pass 74 = .ok (.aload_n 0, 1) := dk_42 (dk_at dksX3_pass_3 4 rfl rfl)
theorem dX3_pass_75 : decode cX3_pass 75 = .ok (.invokevirtual 201, 3) := dk_182 0 201 (dk_at dksX3_pass_3 5 rfl rfl)
theorem dX3_pass_78 : decode cX3_pass 78 = .ok (.iconst 0, 1) := dk_3 (dk_at dksX3_pass_3 8 rfl rfl)
theorem dX3_pass_79 : decode cX3_pass 79 = .ok (.istore 4, 2) := dk_54 4 (dk_at dksX3_pass_3 9 rfl rfl)
theorem dX3_pass_81 : decode cX3_pass 81 = .ok (.iload 4, 2) := dk_21 4 (dk_at dksX3_pass_3 11 rfl rfl)
theorem dX3_pass_83 : decode cX3_pass 83 = .ok (.aload_n 0, 1) := dk_42 (dk_at dksX3_pass_3 13 rfl rfl)
theorem dX3_pass_84 : decode cX3_pass 84 = .ok (.getfield 95, 3) := dk_180 0 95 (dk_at dksX3_pass_3 14 rfl rfl)
theorem dX3_pass_87 : decode cX3_pass 87 = .ok (.if_icmp .ge 132, 3) := dk_162 0 132 (dk_at dksX3_pass_3 17 rfl rfl)
theorem dX3_pass_90 : decode cX3_pass 90 = .ok (.aload_n 0, 1) := dk_42 (dk_at dksX3_pass_3 20 rfl rfl)
theorem dX3_pass_91 : decode cX3_pass 91 = .ok (.getfield 54, 3) := dk_180 0 54 (dk_at dksX3_pass_3 21 rfl rfl)
theorem dX3_pass_94 : decode cX3_pass 94 = .ok (.iload 4, 2) := dk_21 4 (dk_at dksX3_pass_4 0 rfl rfl)
theorem dX3_pass_96 : decode cX3_pass 96 = .ok (.caload, 1) := dk_52 (dk_at dksX3_pass_4 2 rfl rfl)
theorem dX3_pass_97 : decode cX3_pass 97 = .ok (.bipush 115, 2) := dk_16 115 (dk_at dksX3_pass_4 3 rfl rfl)
theorem dX3_pass_99 : decode cX3_pass 99 = .ok (.if_icmp .ne 21, 3) := dk_160 0 21 (dk_at dksX3_pass_4 5 rfl rfl)
theorem dX3_pass_102 : decode cX3_pass 102 = .ok (.aload_n 0, 1) := dk_42 (dk_at dksX3_pass_4 8 rfl rfl)
theorem dX3_pass_103 : decode cX3_pass 103 = .ok (.getfield 67, 3) := dk_180 0 67 (dk_at dksX3_pass_4 9 rfl rfl)
theorem dX3_pass_106 : decode cX3_pass 106 = .ok (.iload 4, 2) := dk_21 4 (dk_at dksX3_pass_4 12 rfl rfl)
theorem dX3_pass_108 : decode cX3_pass 108 = .ok (.iaload, 1) := dk_46 (dk_at dksX3_pass_4 14 rfl rfl)
theorem dX3_pass_109 : decode cX3_pass 109 = .ok (.aload_n 0, 1) := dk_42 (dk_at dksX3_pass_4 15 rfl rfl)
theorem dX3_pass_110 : decode cX3_pass 110 = .ok (.getfield 98, 3) := dk_180 0 98 (dk_at dksX3_pass_4 16 rfl rfl)
theorem dX3_pass_113 : decode cX3_pass 113 = .ok (.if_icmp .gt 7, 3) := dk_163 0 7 (dk_at dksX3_pass_4 19 rfl rfl)
theorem dX3_pass_116 : decode cX3_pass 116 = .ok (.iconst 1, 1) := dk_4 (dk_at dksX3_pass_4 22 rfl rfl)
theorem dX3_pass_117 : decode cX3_pass 117 = .ok (.goto 4, 3) := dk_167 0 4 (dk_at dksX3_pass_5 0 rfl rfl)
theorem dX3_pass_120 : decode cX3_pass 120 = .ok (.iconst 0, 1) := dk_3 (dk_at dksX3_pass_5 3 rfl rfl)
theorem dX3_pass_121 : decode cX3_pass 121 = .ok (.istore 5, 2) := dk_54 5 (dk_at dksX3_pass_5 4 rfl rfl)
theorem dX3_pass_123 : decode cX3_pass 123 = .ok (.aload_n 0, 1) := dk_42 (dk_at dksX3_pass_5 6 rfl rfl)
theorem dX3_pass_124 : decode cX3_pass 124 = .ok (.getfield 54, 3) := dk_180 0 54 (dk_at dksX3_pass_5 7 rfl rfl)
theorem dX3_pass_127 : decode cX3_pass 127 = .ok (.iload 4, 2) := dk_21 4 (dk_at dksX3_pass_5 10 rfl rfl)
theorem dX3_pass_129 : decode cX3_pass 129 = .ok (.caload, 1) := dk_52 (dk_at dksX3_pass_5 12 rfl rfl)
theorem dX3_pass_130 : decode cX3_pass 130 = .ok (.bipush 114, 2) := dk_16 114 (dk_at dksX3_pass_5 13 rfl rfl)
theorem dX3_pass_132 : decode cX3_pass 132 = .ok (.if_icmp .ne 49, 3) := dk_160 0 49 (dk_at dksX3_pass_5 15 rfl rfl)
theorem dX3_pass_135 : decode cX3_pass 135 = .ok (.aload_n 0, 1) := dk_42 (dk_at dksX3_pass_5 18 rfl rfl)
theorem dX3_pass_136 : decode cX3_pass 136 = .ok (.getfield 61, 3) := dk_180 0 61 (dk_at dksX3_pass_5 19 rfl rfl)
theorem dX3_pass_139 : decode cX3_pass 139 = .ok (.iload 4, 2) := dk_21 4 (dk_at dksX3_pass_5 22 rfl rfl)
theorem dX3_pass_141 : decode cX3_pass 141 = .ok (.iaload, 1) := dk_46 (dk_at dksX3_pass_6 0 rfl rfl)
theorem dX3_pass_142 : decode cX3_pass 142 = .ok (.aload_n 0, 1) := dk_42 (dk_at dksX3_pass_6 1 rfl rfl)
theorem dX3_pass_143 : decode cX3_pass 143 = .ok (.invokevirtual 204, 3) := dk_182 0 204 (dk_at dksX3_pass_6 2 rfl rfl)
theorem dX3_pass_146 : decode cX3_pass 146 = .ok (.iand, 1) := dk_126 (dk_at dksX3_pass_6 5 rfl rfl)
theorem dX3_pass_147 : decode cX3_pass 147 = .ok (.ifCond .ne 30, 3) := dk_154 0 30 (dk_at dksX3_pass_6 6 rfl rfl)
theorem dX3_pass_150 : decode cX3_pass 150 = .ok (.aload_n 0, 1) := dk_42 (dk_at dksX3_pass_6 9 rfl rfl)
theorem dX3_pass_151 : decode cX3_pass 151 = .ok (.iload 4, 2) := dk_21 4 (dk_at dksX3_pass_6 10 rfl rfl)
theorem dX3_pass_153 : decode cX3_pass 153 = .ok (.invokevirtual 123, 3) := dk_182 0 123 (dk_at dksX3_pass_6 12 rfl rfl)
theorem dX3_pass_156 : decode cX3_pass 156 = .ok (.ifCond .eq 25, 3) := dk_153 0 25 (dk_at dksX3_pass_6 15 rfl rfl)
theorem dX3_pass_159 : decode cX3_pass 159 = .ok (.aload_n 0, 1) := dk_42 (dk_at dksX3_pass_6 18 rfl rfl)
theorem dX3_pass_160 : decode cX3_pass 160 = .ok (.aload_n 0, 1) := dk_42 (dk_at dksX3_pass_6 19 rfl rfl)
theorem dX3_pass_161 : decode cX3_pass 161 = .ok (.getfield 42, 3) := dk_180 0 42 (dk_at dksX3_pass_6 20 rfl rfl)
theorem dX3_pass_164 : decode cX3_pass 164 = .ok (.iload 4, 2) := dk_21 4 (dk_at dksX3_pass_7 0 rfl rfl)
theorem dX3_pass_166 : decode cX3_pass 166 = .ok (.iaload, 1) := dk_46 (dk_at dksX3_pass_7 2 rfl rfl)
theorem dX3_pass_167 : decode cX3_pass 167 = .ok (.aload_n 0, 1) := dk_42 (dk_at dksX3_pass_7 3 rfl rfl)
theorem dX3_pass_168 : decode cX3_pass 168 = .ok (.getfield 98, 3) := dk_180 0 98 (dk_at dksX3_pass_7 4 rfl rfl)
theorem dX3_pass_171 : decode cX3_pass 171 = .ok (.invokevirtual 207, 3) := dk_182 0 207 (dk_at dksX3_pass_7 7 rfl rfl)
theorem dX3_pass_174 : decode cX3_pass 174 = .ok (.ifCond .eq 7, 3) := dk_153 0 7 (dk_at dksX3_pass_7 10 rfl rfl)
theorem dX3_pass_177 : decode cX3_pass 177 = .ok (.iconst 1, 1) := dk_4 (dk_at dksX3_pass_7 13 rfl rfl)
theorem dX3_pass_178 : decode cX3_pass 178 = .ok (.goto 4, 3) := dk_167 0 4 (dk_at dksX3_pass_7 14 rfl rfl)
theorem dX3_pass_181 : decode cX3_pass 181 = .ok (.iconst 0, 1) := dk_3 (dk_at dksX3_pass_7 17 rfl rfl)
theorem dX3_pass_182 : decode cX3_pass 182 = .ok (.istore 6, 2) := dk_54 6 (dk_at dksX3_pass_7 18 rfl rfl)
theorem dX3_pass_184 : decode cX3_pass 184 = .ok (.aload_n 0, 1) := dk_42 (dk_at dksX3_pass_7 20 rfl rfl)
theorem dX3_pass_185 : decode cX3_pass 185 = .ok (.getfield 54, 3) := dk_180 0 54 (dk_at dksX3_pass_7 21 rfl rfl)
theorem dX3_pass_188 : decode cX3_pass 188 = .ok (.iload 4, 2) := dk_21 4 (dk_at dksX3_pass_8 0 rfl rfl)
theorem dX3_pass_190 : decode cX3_pass 190 = .ok (.iload 5, 2) := dk_21 5 (dk_at dksX3_pass_8 2 rfl rfl)
theorem dX3_pass_192 : decode cX3_pass 192 = .ok (.ifCond .ne 8, 3) := dk_154 0 8 (dk_at dksX3_pass_8 4 rfl rfl)
theorem dX3_pass_195 : decode cX3_pass 195 = .ok (.iload 6, 2) := dk_21 6 (dk_at dksX3_pass_8 7 rfl rfl)
theorem dX3_pass_197 : decode cX3_pass 197 = .ok (.ifCond .eq 8, 3) := dk_153 0 8 (dk_at dksX3_pass_8 9 rfl rfl)
theorem dX3_pass_200 : decode cX3_pass 200 = .ok (.bipush 119, 2) := dk_16 119 (dk_at dksX3_pass_8 12 rfl rfl)
theorem dX3_pass_202 : decode cX3_pass 202 = .ok (.goto 10, 3) := dk_167 0 10 (dk_at dksX3_pass_8 14 rfl rfl)
theorem dX3_pass_205 : decode cX3_pass 205 = .ok (.aload_n 0, 1) := dk_42 (dk_at dksX3_pass_8 17 rfl rfl)
theorem dX3_pass_206 : decode cX3_pass 206 = .ok (.getfield 54, 3) := dk_180 0 54 (dk_at dksX3_pass_8 18 rfl rfl)
theorem dX3_pass_209 : decode cX3_pass 209 = .ok (.iload 4, 2) := dk_21 4 (dk_at dksX3_pass_8 21 rfl rfl)
theorem dX3_pass_211 : decode cX3_pass 211 = .ok (.caload, 1) := dk_52 (dk_at dksX3_pass_8 23 rfl rfl)
theorem dX3_pass_212 : decode cX3_pass 212 = .ok (.castore, 1) := dk_85 (dk_at dksX3_pass_9 0 rfl rfl)
theorem dX3_pass_213 : decode cX3_pass 213 = .ok (.iinc 4 1, 3) := dk_132 4 1 (dk_at dksX3_pass_9 1 rfl rfl)
theorem dX3_pass_216 : decode cX3_pass 216 = .ok (.goto (-135), 3) := dk_167 255 121 (dk_at dksX3_pass_9 4 rfl rfl)
theorem dX3_pass_219 : decode cX3_pass 219 = .ok (.iload_n 2, 1) := dk_28 (dk_at dksX3_pass_9 7 rfl rfl)
theorem dX3_pass_220 : decode cX3_pass 220 = .ok (.aload_n 0, 1) := dk_42 (dk_at dksX3_pass_9 8 rfl rfl)
theorem dX3_pass_221 : decode cX3_pass 221 = .ok (.invokevirtual 210, 3) := dk_182 0 210 (dk_at dksX3_pass_9 9 rfl rfl)
theorem dX3_pass_224 : decode cX3_pass 224 = .ok (.iadd, 1) := dk_96 (dk_at dksX3_pass_9 12 rfl rfl)
theorem dX3_pass_225 : decode cX3_pass 225 = .ok (.istore_n 2, 1) := dk_61 (dk_at dksX3_pass_9 13 rfl rfl)
theorem dX3_pass_226 : decode cX3_pass 226 = .ok (.iinc 3 1, 3) := dk_132 3 1 (dk_at dksX3_pass_9 14 rfl rfl)
theorem dX3_pass_229 : decode cX3_pass 229 = .ok (.goto (-170), 3) := dk_167 255 86 (dk_at dksX3_pass_9 17 rfl rfl)
theorem dX3_pass_232 : decode cX3_pass 232 = .ok (.aload_n 0, 1) := dk_42 (dk_at dksX3_pass_9 20 rfl rfl)
theorem dX3_pass_233 : decode cX3_pass 233 = .ok (.dup, 1) := dk_89 (dk_at dksX3_pass_9 21 rfl rfl)
theorem dX3_pass_234 : decode cX3_pass 234 = .ok (.getfield 213, 3) := dk_180 0 213 (dk_at dksX3_pass_10 0 rfl rfl)
theorem dX3_pass_237 : decode cX3_pass 237 = .ok (.iload_n 2, 1) := dk_28 (dk_at dksX3_pass_10 3 rfl rfl)
theorem dX3_pass_238 : decode cX3_pass 238 = .ok (.i2l, 1) := dk_133 (dk_at dksX3_pass_10 4 rfl rfl)
theorem dX3_pass_239 : decode cX3_pass 239 = .ok (.ladd, 1) := dk_97 (dk_at dksX3_pass_10 5 rfl rfl)
theorem dX3_pass_240 : decode cX3_pass 240 = .ok (.putfield 213, 3) := dk_181 0 213 (dk_at dksX3_pass_10 6 rfl rfl)
theorem dX3_pass_243 : decode cX3_pass 243 = .ok (.iload_n 2, 1) := dk_28 (dk_at dksX3_pass_10 9 rfl rfl)
theorem dX3_pass_244 : decode cX3_pass 244 = .ok (.ireturn, 1) := dk_172 (dk_at dksX3_pass_10 10 rfl rfl)
abbrev cX3_forgives : ByteArray := prog_12_method_29_code
def yX3_forgives : MethodName := ⟨RX3, "forgives", "()V"⟩
def dkwX3_forgives_2 : List UInt8 := [180, 0, 70, 27, 46, 79, 132, 1, 1, 167, 255, 202, 177]
abbrev dktX3_forgives_2 : List UInt8 := dkwX3_forgives_2 ++ []
def dkwX3_forgives_1 : List UInt8 := [160, 0, 23, 42, 180, 0, 98, 42, 180, 0, 64, 27, 46, 100, 16, 8, 161, 0, 7, 3, 167, 0, 9, 42]
abbrev dktX3_forgives_1 : List UInt8 := dkwX3_forgives_1 ++ dktX3_forgives_2
def dkwX3_forgives_0 : List UInt8 := [3, 60, 27, 42, 180, 0, 95, 162, 0, 52, 42, 180, 0, 70, 27, 42, 180, 0, 54, 27, 52, 16, 114]
abbrev dktX3_forgives_0 : List UInt8 := dkwX3_forgives_0 ++ dktX3_forgives_1
theorem dksX3_forgives_0 : cX3_forgives.data.toList.drop 0 = dktX3_forgives_0 := by decide +kernel
theorem dksX3_forgives_1 : cX3_forgives.data.toList.drop 23 = dktX3_forgives_1 := dk_seg dksX3_forgives_0 23 rfl rfl
theorem dksX3_forgives_2 : cX3_forgives.data.toList.drop 47 = dktX3_forgives_2 := dk_seg dksX3_forgives_1 24 rfl rfl
theorem dX3_forgives_0 : decode cX3_forgives 0 = .ok (.iconst 0, 1) := dk_3 (dk_at dksX3_forgives_0 0 rfl rfl)
theorem dX3_forgives_1 : decode cX3_forgives 1 = .ok (.istore_n 1, 1) := dk_60 (dk_at dksX3_forgives_0 1 rfl rfl)
theorem dX3_forgives_2 : decode cX3_forgives 2 = .ok (.iload_n 1, 1) := dk_27 (dk_at dksX3_forgives_0 2 rfl rfl)
theorem dX3_forgives_3 : decode cX3_forgives 3 = .ok (.aload_n 0, 1) := dk_42 (dk_at dksX3_forgives_0 3 rfl rfl)
theorem dX3_forgives_4 : decode cX3_forgives 4 = .ok (.getfield 95, 3) := dk_180 0 95 (dk_at dksX3_forgives_0 4 rfl rfl)
theorem dX3_forgives_7 : decode cX3_forgives 7 = .ok (.if_icmp .ge 52, 3) := dk_162 0 52 (dk_at dksX3_forgives_0 7 rfl rfl)
theorem dX3_forgives_10 : decode cX3_forgives 10 = .ok (.aload_n 0, 1) := dk_42 (dk_at dksX3_forgives_0 10 rfl rfl)
theorem dX3_forgives_11 : decode cX3_forgives 11 = .ok (.getfield 70, 3) := dk_180 0 70 (dk_at dksX3_forgives_0 11 rfl rfl)
theorem dX3_forgives_14 : decode cX3_forgives 14 = .ok (.iload_n 1, 1) := dk_27 (dk_at dksX3_forgives_0 14 rfl rfl)
theorem dX3_forgives_15 : decode cX3_forgives 15 = .ok (.aload_n 0, 1) := dk_42 (dk_at dksX3_forgives_0 15 rfl rfl)
theorem dX3_forgives_16 : decode cX3_forgives 16 = .ok (.getfield 54, 3) := dk_180 0 54 (dk_at dksX3_forgives_0 16 rfl rfl)
theorem dX3_forgives_19 : decode cX3_forgives 19 = .ok (.iload_n 1, 1) := dk_27 (dk_at dksX3_forgives_0 19 rfl rfl)
theorem dX3_forgives_20 : decode cX3_forgives 20 = .ok (.caload, 1) := dk_52 (dk_at dksX3_forgives_0 20 rfl rfl)
theorem dX3_forgives_21 : decode cX3_forgives 21 = .ok (.bipush 114, 2) := dk_16 114 (dk_at dksX3_forgives_0 21 rfl rfl)
theorem dX3_forgives_23 : decode cX3_forgives 23 = .ok (.if_icmp .ne 23, 3) := dk_160 0 23 (dk_at dksX3_forgives_1 0 rfl rfl)
theorem dX3_forgives_26 : decode cX3_forgives 26 = .ok (.aload_n 0, 1) := dk_42 (dk_at dksX3_forgives_1 3 rfl rfl)
theorem dX3_forgives_27 : decode cX3_forgives 27 = .ok (.getfield 98, 3) := dk_180 0 98 (dk_at dksX3_forgives_1 4 rfl rfl)
theorem dX3_forgives_30 : decode cX3_forgives 30 = .ok (.aload_n 0, 1) := dk_42 (dk_at dksX3_forgives_1 7 rfl rfl)
theorem dX3_forgives_31 : decode cX3_forgives 31 = .ok (.getfield 64, 3) := dk_180 0 64 (dk_at dksX3_forgives_1 8 rfl rfl)
theorem dX3_forgives_34 : decode cX3_forgives 34 = .ok (.iload_n 1, 1) := dk_27 (dk_at dksX3_forgives_1 11 rfl rfl)
theorem dX3_forgives_35 : decode cX3_forgives 35 = .ok (.iaload, 1) := dk_46 (dk_at dksX3_forgives_1 12 rfl rfl)
theorem dX3_forgives_36 : decode cX3_forgives 36 = .ok (.isub, 1) := dk_100 (dk_at dksX3_forgives_1 13 rfl rfl)
theorem dX3_forgives_37 : decode cX3_forgives 37 = .ok (.bipush 8, 2) := dk_16 8 (dk_at dksX3_forgives_1 14 rfl rfl)
theorem dX3_forgives_39 : decode cX3_forgives 39 = .ok (.if_icmp .lt 7, 3) := dk_161 0 7 (dk_at dksX3_forgives_1 16 rfl rfl)
theorem dX3_forgives_42 : decode cX3_forgives 42 = .ok (.iconst 0, 1) := dk_3 (dk_at dksX3_forgives_1 19 rfl rfl)
theorem dX3_forgives_43 : decode cX3_forgives 43 = .ok (.goto 9, 3) := dk_167 0 9 (dk_at dksX3_forgives_1 20 rfl rfl)
theorem dX3_forgives_46 : decode cX3_forgives 46 = .ok (.aload_n 0, 1) := dk_42 (dk_at dksX3_forgives_1 23 rfl rfl)
theorem dX3_forgives_47 : decode cX3_forgives 47 = .ok (.getfield 70, 3) := dk_180 0 70 (dk_at dksX3_forgives_2 0 rfl rfl)
theorem dX3_forgives_50 : decode cX3_forgives 50 = .ok (.iload_n 1, 1) := dk_27 (dk_at dksX3_forgives_2 3 rfl rfl)
theorem dX3_forgives_51 : decode cX3_forgives 51 = .ok (.iaload, 1) := dk_46 (dk_at dksX3_forgives_2 4 rfl rfl)
theorem dX3_forgives_52 : decode cX3_forgives 52 = .ok (.iastore, 1) := dk_79 (dk_at dksX3_forgives_2 5 rfl rfl)
theorem dX3_forgives_53 : decode cX3_forgives 53 = .ok (.iinc 1 1, 3) := dk_132 1 1 (dk_at dksX3_forgives_2 6 rfl rfl)
theorem dX3_forgives_56 : decode cX3_forgives 56 = .ok (.goto (-54), 3) := dk_167 255 202 (dk_at dksX3_forgives_2 9 rfl rfl)
theorem dX3_forgives_59 : decode cX3_forgives 59 = .ok (.return_, 1) := dk_177 (dk_at dksX3_forgives_2 12 rfl rfl)
abbrev cX3_outNow : ByteArray := prog_12_method_11_code
def yX3_outNow : MethodName := ⟨RX3, "outNow", "()I"⟩
def dkwX3_outNow_1 : List UInt8 := [167, 0, 4, 3, 128, 60, 132, 2, 1, 167, 255, 227, 27, 172]
abbrev dktX3_outNow_1 : List UInt8 := dkwX3_outNow_1 ++ []
def dkwX3_outNow_0 : List UInt8 := [3, 60, 3, 61, 28, 42, 180, 0, 82, 162, 0, 27, 27, 42, 28, 182, 0, 101, 153, 0, 9, 4, 28, 120]
abbrev dktX3_outNow_0 : List UInt8 := dkwX3_outNow_0 ++ dktX3_outNow_1
theorem dksX3_outNow_0 : cX3_outNow.data.toList.drop 0 = dktX3_outNow_0 := by decide +kernel
theorem dksX3_outNow_1 : cX3_outNow.data.toList.drop 24 = dktX3_outNow_1 := dk_seg dksX3_outNow_0 24 rfl rfl
theorem dX3_outNow_0 : decode cX3_outNow 0 = .ok (.iconst 0, 1) := dk_3 (dk_at dksX3_outNow_0 0 rfl rfl)
theorem dX3_outNow_1 : decode cX3_outNow 1 = .ok (.istore_n 1, 1) := dk_60 (dk_at dksX3_outNow_0 1 rfl rfl)
theorem dX3_outNow_2 : decode cX3_outNow 2 = .ok (.iconst 0, 1) := dk_3 (dk_at dksX3_outNow_0 2 rfl rfl)
theorem dX3_outNow_3 : decode cX3_outNow 3 = .ok (.istore_n 2, 1) := dk_61 (dk_at dksX3_outNow_0 3 rfl rfl)
theorem dX3_outNow_4 : decode cX3_outNow 4 = .ok (.iload_n 2, 1) := dk_28 (dk_at dksX3_outNow_0 4 rfl rfl)
theorem dX3_outNow_5 : decode cX3_outNow 5 = .ok (.aload_n 0, 1) := dk_42 (dk_at dksX3_outNow_0 5 rfl rfl)
theorem dX3_outNow_6 : decode cX3_outNow 6 = .ok (.getfield 82, 3) := dk_180 0 82 (dk_at dksX3_outNow_0 6 rfl rfl)
theorem dX3_outNow_9 : decode cX3_outNow 9 = .ok (.if_icmp .ge 27, 3) := dk_162 0 27 (dk_at dksX3_outNow_0 9 rfl rfl)
theorem dX3_outNow_12 : decode cX3_outNow 12 = .ok (.iload_n 1, 1) := dk_27 (dk_at dksX3_outNow_0 12 rfl rfl)
theorem dX3_outNow_13 : decode cX3_outNow 13 = .ok (.aload_n 0, 1) := dk_42 (dk_at dksX3_outNow_0 13 rfl rfl)
theorem dX3_outNow_14 : decode cX3_outNow 14 = .ok (.iload_n 2, 1) := dk_28 (dk_at dksX3_outNow_0 14 rfl rfl)
theorem dX3_outNow_15 : decode cX3_outNow 15 = .ok (.invokevirtual 101, 3) := dk_182 0 101 (dk_at dksX3_outNow_0 15 rfl rfl)
theorem dX3_outNow_18 : decode cX3_outNow 18 = .ok (.ifCond .eq 9, 3) := dk_153 0 9 (dk_at dksX3_outNow_0 18 rfl rfl)
theorem dX3_outNow_21 : decode cX3_outNow 21 = .ok (.iconst 1, 1) := dk_4 (dk_at dksX3_outNow_0 21 rfl rfl)
theorem dX3_outNow_22 : decode cX3_outNow 22 = .ok (.iload_n 2, 1) := dk_28 (dk_at dksX3_outNow_0 22 rfl rfl)
theorem dX3_outNow_23 : decode cX3_outNow 23 = .ok (.ishl, 1) := dk_120 (dk_at dksX3_outNow_0 23 rfl rfl)
theorem dX3_outNow_24 : decode cX3_outNow 24 = .ok (.goto 4, 3) := dk_167 0 4 (dk_at dksX3_outNow_1 0 rfl rfl)
theorem dX3_outNow_27 : decode cX3_outNow 27 = .ok (.iconst 0, 1) := dk_3 (dk_at dksX3_outNow_1 3 rfl rfl)
theorem dX3_outNow_28 : decode cX3_outNow 28 = .ok (.ior, 1) := dk_128 (dk_at dksX3_outNow_1 4 rfl rfl)
theorem dX3_outNow_29 : decode cX3_outNow 29 = .ok (.istore_n 1, 1) := dk_60 (dk_at dksX3_outNow_1 5 rfl rfl)
theorem dX3_outNow_30 : decode cX3_outNow 30 = .ok (.iinc 2 1, 3) := dk_132 2 1 (dk_at dksX3_outNow_1 6 rfl rfl)
theorem dX3_outNow_33 : decode cX3_outNow 33 = .ok (.goto (-29), 3) := dk_167 255 227 (dk_at dksX3_outNow_1 9 rfl rfl)
theorem dX3_outNow_36 : decode cX3_outNow 36 = .ok (.iload_n 1, 1) := dk_27 (dk_at dksX3_outNow_1 12 rfl rfl)
theorem dX3_outNow_37 : decode cX3_outNow 37 = .ok (.ireturn, 1) := dk_172 (dk_at dksX3_outNow_1 13 rfl rfl)
abbrev cX3_isOutNow : ByteArray := prog_12_method_10_code
def yX3_isOutNow : MethodName := ⟨RX3, "isOutNow", "(I)Z"⟩
def dkwX3_isOutNow_1 : List UInt8 := [167, 0, 4, 3, 172]
abbrev dktX3_isOutNow_1 : List UInt8 := dkwX3_isOutNow_1 ++ []
def dkwX3_isOutNow_0 : List UInt8 := [42, 180, 0, 7, 27, 51, 153, 0, 20, 42, 180, 0, 98, 42, 180, 0, 13, 27, 46, 161, 0, 7, 4]
abbrev dktX3_isOutNow_0 : List UInt8 := dkwX3_isOutNow_0 ++ dktX3_isOutNow_1
theorem dksX3_isOutNow_0 : cX3_isOutNow.data.toList.drop 0 = dktX3_isOutNow_0 := by decide +kernel
theorem dksX3_isOutNow_1 : cX3_isOutNow.data.toList.drop 23 = dktX3_isOutNow_1 := dk_seg dksX3_isOutNow_0 23 rfl rfl
theorem dX3_isOutNow_0 : decode cX3_isOutNow 0 = .ok (.aload_n 0, 1) := dk_42 (dk_at dksX3_isOutNow_0 0 rfl rfl)
theorem dX3_isOutNow_1 : decode cX3_isOutNow 1 = .ok (.getfield 7, 3) := dk_180 0 7 (dk_at dksX3_isOutNow_0 1 rfl rfl)
theorem dX3_isOutNow_4 : decode cX3_isOutNow 4 = .ok (.iload_n 1, 1) := dk_27 (dk_at dksX3_isOutNow_0 4 rfl rfl)
theorem dX3_isOutNow_5 : decode cX3_isOutNow 5 = .ok (.baload, 1) := dk_51 (dk_at dksX3_isOutNow_0 5 rfl rfl)
theorem dX3_isOutNow_6 : decode cX3_isOutNow 6 = .ok (.ifCond .eq 20, 3) := dk_153 0 20 (dk_at dksX3_isOutNow_0 6 rfl rfl)
theorem dX3_isOutNow_9 : decode cX3_isOutNow 9 = .ok (.aload_n 0, 1) := dk_42 (dk_at dksX3_isOutNow_0 9 rfl rfl)
theorem dX3_isOutNow_10 : decode cX3_isOutNow 10 = .ok (.getfield 98, 3) := dk_180 0 98 (dk_at dksX3_isOutNow_0 10 rfl rfl)
theorem dX3_isOutNow_13 : decode cX3_isOutNow 13 = .ok (.aload_n 0, 1) := dk_42 (dk_at dksX3_isOutNow_0 13 rfl rfl)
theorem dX3_isOutNow_14 : decode cX3_isOutNow 14 = .ok (.getfield 13, 3) := dk_180 0 13 (dk_at dksX3_isOutNow_0 14 rfl rfl)
theorem dX3_isOutNow_17 : decode cX3_isOutNow 17 = .ok (.iload_n 1, 1) := dk_27 (dk_at dksX3_isOutNow_0 17 rfl rfl)
theorem dX3_isOutNow_18 : decode cX3_isOutNow 18 = .ok (.iaload, 1) := dk_46 (dk_at dksX3_isOutNow_0 18 rfl rfl)
theorem dX3_isOutNow_19 : decode cX3_isOutNow 19 = .ok (.if_icmp .lt 7, 3) := dk_161 0 7 (dk_at dksX3_isOutNow_0 19 rfl rfl)
theorem dX3_isOutNow_22 : decode cX3_isOutNow 22 = .ok (.iconst 1, 1) := dk_4 (dk_at dksX3_isOutNow_0 22 rfl rfl)
theorem dX3_isOutNow_23 : decode cX3_isOutNow 23 = .ok (.goto 4, 3) := dk_167 0 4 (dk_at dksX3_isOutNow_1 0 rfl rfl)
theorem dX3_isOutNow_26 : decode cX3_isOutNow 26 = .ok (.iconst 0, 1) := dk_3 (dk_at dksX3_isOutNow_1 3 rfl rfl)
theorem dX3_isOutNow_27 : decode cX3_isOutNow 27 = .ok (.ireturn, 1) := dk_172 (dk_at dksX3_isOutNow_1 4 rfl rfl)
abbrev cX3_isOpenAt : ByteArray := prog_12_method_22_code
def yX3_isOpenAt : MethodName := ⟨RX3, "isOpenAt", "(II)Z"⟩
def dkwX3_isOpenAt_2 : List UInt8 := [180, 0, 32, 21, 4, 46, 162, 0, 7, 4, 167, 0, 4, 3, 62, 132, 4, 1, 167, 255, 195, 29, 172]
abbrev dktX3_isOpenAt_2 : List UInt8 := dkwX3_isOpenAt_2 ++ []
def dkwX3_isOpenAt_1 : List UInt8 := [46, 27, 160, 0, 35, 28, 16, 24, 112, 16, 24, 96, 42, 180, 0, 29, 21, 4, 46, 100, 16, 24, 112, 42]
abbrev dktX3_isOpenAt_1 : List UInt8 := dkwX3_isOpenAt_1 ++ dktX3_isOpenAt_2
def dkwX3_isOpenAt_0 : List UInt8 := [3, 62, 3, 54, 4, 21, 4, 42, 180, 0, 141, 162, 0, 58, 29, 154, 0, 42, 42, 180, 0, 35, 21, 4]
abbrev dktX3_isOpenAt_0 : List UInt8 := dkwX3_isOpenAt_0 ++ dktX3_isOpenAt_1
theorem dksX3_isOpenAt_0 : cX3_isOpenAt.data.toList.drop 0 = dktX3_isOpenAt_0 := by decide +kernel
theorem dksX3_isOpenAt_1 : cX3_isOpenAt.data.toList.drop 24 = dktX3_isOpenAt_1 := dk_seg dksX3_isOpenAt_0 24 rfl rfl
theorem dksX3_isOpenAt_2 : cX3_isOpenAt.data.toList.drop 48 = dktX3_isOpenAt_2 := dk_seg dksX3_isOpenAt_1 24 rfl rfl
theorem dX3_isOpenAt_0 : decode cX3_isOpenAt 0 = .ok (.iconst 0, 1) := dk_3 (dk_at dksX3_isOpenAt_0 0 rfl rfl)
theorem dX3_isOpenAt_1 : decode cX3_isOpenAt 1 = .ok (.istore_n 3, 1) := dk_62 (dk_at dksX3_isOpenAt_0 1 rfl rfl)
theorem dX3_isOpenAt_2 : decode cX3_isOpenAt 2 = .ok (.iconst 0, 1) := dk_3 (dk_at dksX3_isOpenAt_0 2 rfl rfl)
theorem dX3_isOpenAt_3 : decode cX3_isOpenAt 3 = .ok (.istore 4, 2) := dk_54 4 (dk_at dksX3_isOpenAt_0 3 rfl rfl)
theorem dX3_isOpenAt_5 : decode cX3_isOpenAt 5 = .ok (.iload 4, 2) := dk_21 4 (dk_at dksX3_isOpenAt_0 5 rfl rfl)
theorem dX3_isOpenAt_7 : decode cX3_isOpenAt 7 = .ok (.aload_n 0, 1) := dk_42 (dk_at dksX3_isOpenAt_0 7 rfl rfl)
theorem dX3_isOpenAt_8 : decode cX3_isOpenAt 8 = .ok (.getfield 141, 3) := dk_180 0 141 (dk_at dksX3_isOpenAt_0 8 rfl rfl)
theorem dX3_isOpenAt_11 : decode cX3_isOpenAt 11 = .ok (.if_icmp .ge 58, 3) := dk_162 0 58 (dk_at dksX3_isOpenAt_0 11 rfl rfl)
theorem dX3_isOpenAt_14 : decode cX3_isOpenAt 14 = .ok (.iload_n 3, 1) := dk_29 (dk_at dksX3_isOpenAt_0 14 rfl rfl)
theorem dX3_isOpenAt_15 : decode cX3_isOpenAt 15 = .ok (.ifCond .ne 42, 3) := dk_154 0 42 (dk_at dksX3_isOpenAt_0 15 rfl rfl)
theorem dX3_isOpenAt_18 : decode cX3_isOpenAt 18 = .ok (.aload_n 0, 1) := dk_42 (dk_at dksX3_isOpenAt_0 18 rfl rfl)
theorem dX3_isOpenAt_19 : decode cX3_isOpenAt 19 = .ok (.getfield 35, 3) := dk_180 0 35 (dk_at dksX3_isOpenAt_0 19 rfl rfl)
theorem dX3_isOpenAt_22 : decode cX3_isOpenAt 22 = .ok (.iload 4, 2) := dk_21 4 (dk_at dksX3_isOpenAt_0 22 rfl rfl)
theorem dX3_isOpenAt_24 : decode cX3_isOpenAt 24 = .ok (.iaload, 1) := dk_46 (dk_at dksX3_isOpenAt_1 0 rfl rfl)
theorem dX3_isOpenAt_25 : decode cX3_isOpenAt 25 = .ok (.iload_n 1, 1) := dk_27 (dk_at dksX3_isOpenAt_1 1 rfl rfl)
theorem dX3_isOpenAt_26 : decode cX3_isOpenAt 26 = .ok (.if_icmp .ne 35, 3) := dk_160 0 35 (dk_at dksX3_isOpenAt_1 2 rfl rfl)
theorem dX3_isOpenAt_29 : decode cX3_isOpenAt 29 = .ok (.iload_n 2, 1) := dk_28 (dk_at dksX3_isOpenAt_1 5 rfl rfl)
theorem dX3_isOpenAt_30 : decode cX3_isOpenAt 30 = .ok (.bipush 24, 2) := dk_16 24 (dk_at dksX3_isOpenAt_1 6 rfl rfl)
theorem dX3_isOpenAt_32 : decode cX3_isOpenAt 32 = .ok (.irem, 1) := dk_112 (dk_at dksX3_isOpenAt_1 8 rfl rfl)
theorem dX3_isOpenAt_33 : decode cX3_isOpenAt 33 = .ok (.bipush 24, 2) := dk_16 24 (dk_at dksX3_isOpenAt_1 9 rfl rfl)
theorem dX3_isOpenAt_35 : decode cX3_isOpenAt 35 = .ok (.iadd, 1) := dk_96 (dk_at dksX3_isOpenAt_1 11 rfl rfl)
theorem dX3_isOpenAt_36 : decode cX3_isOpenAt 36 = .ok (.aload_n 0, 1) := dk_42 (dk_at dksX3_isOpenAt_1 12 rfl rfl)
theorem dX3_isOpenAt_37 : decode cX3_isOpenAt 37 = .ok (.getfield 29, 3) := dk_180 0 29 (dk_at dksX3_isOpenAt_1 13 rfl rfl)
theorem dX3_isOpenAt_40 : decode cX3_isOpenAt 40 = .ok (.iload 4, 2) := dk_21 4 (dk_at dksX3_isOpenAt_1 16 rfl rfl)
theorem dX3_isOpenAt_42 : decode cX3_isOpenAt 42 = .ok (.iaload, 1) := dk_46 (dk_at dksX3_isOpenAt_1 18 rfl rfl)
theorem dX3_isOpenAt_43 : decode cX3_isOpenAt 43 = .ok (.isub, 1) := dk_100 (dk_at dksX3_isOpenAt_1 19 rfl rfl)
theorem dX3_isOpenAt_44 : decode cX3_isOpenAt 44 = .ok (.bipush 24, 2) := dk_16 24 (dk_at dksX3_isOpenAt_1 20 rfl rfl)
theorem dX3_isOpenAt_46 : decode cX3_isOpenAt 46 = .ok (.irem, 1) := dk_112 (dk_at dksX3_isOpenAt_1 22 rfl rfl)
theorem dX3_isOpenAt_47 : decode cX3_isOpenAt 47 = .ok (.aload_n 0, 1) := dk_42 (dk_at dksX3_isOpenAt_1 23 rfl rfl)
theorem dX3_isOpenAt_48 : decode cX3_isOpenAt 48 = .ok (.getfield 32, 3) := dk_180 0 32 (dk_at dksX3_isOpenAt_2 0 rfl rfl)
theorem dX3_isOpenAt_51 : decode cX3_isOpenAt 51 = .ok (.iload 4, 2) := dk_21 4 (dk_at dksX3_isOpenAt_2 3 rfl rfl)
theorem dX3_isOpenAt_53 : decode cX3_isOpenAt 53 = .ok (.iaload, 1) := dk_46 (dk_at dksX3_isOpenAt_2 5 rfl rfl)
theorem dX3_isOpenAt_54 : decode cX3_isOpenAt 54 = .ok (.if_icmp .ge 7, 3) := dk_162 0 7 (dk_at dksX3_isOpenAt_2 6 rfl rfl)
theorem dX3_isOpenAt_57 : decode cX3_isOpenAt 57 = .ok (.iconst 1, 1) := dk_4 (dk_at dksX3_isOpenAt_2 9 rfl rfl)
theorem dX3_isOpenAt_58 : decode cX3_isOpenAt 58 = .ok (.goto 4, 3) := dk_167 0 4 (dk_at dksX3_isOpenAt_2 10 rfl rfl)
theorem dX3_isOpenAt_61 : decode cX3_isOpenAt 61 = .ok (.iconst 0, 1) := dk_3 (dk_at dksX3_isOpenAt_2 13 rfl rfl)
theorem dX3_isOpenAt_62 : decode cX3_isOpenAt 62 = .ok (.istore_n 3, 1) := dk_62 (dk_at dksX3_isOpenAt_2 14 rfl rfl)
theorem dX3_isOpenAt_63 : decode cX3_isOpenAt 63 = .ok (.iinc 4 1, 3) := dk_132 4 1 (dk_at dksX3_isOpenAt_2 15 rfl rfl)
theorem dX3_isOpenAt_66 : decode cX3_isOpenAt 66 = .ok (.goto (-61), 3) := dk_167 255 195 (dk_at dksX3_isOpenAt_2 18 rfl rfl)
theorem dX3_isOpenAt_69 : decode cX3_isOpenAt 69 = .ok (.iload_n 3, 1) := dk_29 (dk_at dksX3_isOpenAt_2 21 rfl rfl)
theorem dX3_isOpenAt_70 : decode cX3_isOpenAt 70 = .ok (.ireturn, 1) := dk_172 (dk_at dksX3_isOpenAt_2 22 rfl rfl)
abbrev cX3_startsNow : ByteArray := prog_12_method_34_code
def yX3_startsNow : MethodName := ⟨RX3, "startsNow", "()I"⟩
def dkwX3_startsNow_4 : List UInt8 := [132, 2, 1, 167, 255, 165, 27, 172]
abbrev dktX3_startsNow_4 : List UInt8 := dkwX3_startsNow_4 ++ []
def dkwX3_startsNow_3 : List UInt8 := [42, 180, 0, 45, 28, 46, 182, 0, 105, 79, 42, 180, 0, 64, 28, 42, 180, 0, 98, 79, 132, 1, 1]
abbrev dktX3_startsNow_3 : List UInt8 := dkwX3_startsNow_3 ++ dktX3_startsNow_4
def dkwX3_startsNow_2 : List UInt8 := [180, 0, 58, 28, 42, 28, 182, 0, 184, 79, 42, 180, 0, 54, 28, 16, 114, 85, 42, 180, 0, 61, 28, 42]
abbrev dktX3_startsNow_2 : List UInt8 := dkwX3_startsNow_2 ++ dktX3_startsNow_3
def dkwX3_startsNow_1 : List UInt8 := [16, 119, 160, 0, 67, 42, 28, 42, 2, 182, 0, 144, 182, 0, 197, 178, 0, 190, 166, 0, 51, 42]
abbrev dktX3_startsNow_1 : List UInt8 := dkwX3_startsNow_1 ++ dktX3_startsNow_2
def dkwX3_startsNow_0 : List UInt8 := [3, 60, 3, 61, 28, 42, 180, 0, 95, 162, 0, 89, 42, 3, 182, 0, 193, 42, 180, 0, 54, 28, 52]
abbrev dktX3_startsNow_0 : List UInt8 := dkwX3_startsNow_0 ++ dktX3_startsNow_1
theorem dksX3_startsNow_0 : cX3_startsNow.data.toList.drop 0 = dktX3_startsNow_0 := by decide +kernel
theorem dksX3_startsNow_1 : cX3_startsNow.data.toList.drop 23 = dktX3_startsNow_1 := dk_seg dksX3_startsNow_0 23 rfl rfl
theorem dksX3_startsNow_2 : cX3_startsNow.data.toList.drop 45 = dktX3_startsNow_2 := dk_seg dksX3_startsNow_1 22 rfl rfl
theorem dksX3_startsNow_3 : cX3_startsNow.data.toList.drop 69 = dktX3_startsNow_3 := dk_seg dksX3_startsNow_2 24 rfl rfl
theorem dksX3_startsNow_4 : cX3_startsNow.data.toList.drop 92 = dktX3_startsNow_4 := dk_seg dksX3_startsNow_3 23 rfl rfl
theorem dX3_startsNow_0 : decode cX3_startsNow 0 = .ok (.iconst 0, 1) := dk_3 (dk_at dksX3_startsNow_0 0 rfl rfl)
theorem dX3_startsNow_1 : decode cX3_startsNow 1 = .ok (.istore_n 1, 1) := dk_60 (dk_at dksX3_startsNow_0 1 rfl rfl)
theorem dX3_startsNow_2 : decode cX3_startsNow 2 = .ok (.iconst 0, 1) := dk_3 (dk_at dksX3_startsNow_0 2 rfl rfl)
theorem dX3_startsNow_3 : decode cX3_startsNow 3 = .ok (.istore_n 2, 1) := dk_61 (dk_at dksX3_startsNow_0 3 rfl rfl)
theorem dX3_startsNow_4 : decode cX3_startsNow 4 = .ok (.iload_n 2, 1) := dk_28 (dk_at dksX3_startsNow_0 4 rfl rfl)
theorem dX3_startsNow_5 : decode cX3_startsNow 5 = .ok (.aload_n 0, 1) := dk_42 (dk_at dksX3_startsNow_0 5 rfl rfl)
theorem dX3_startsNow_6 : decode cX3_startsNow 6 = .ok (.getfield 95, 3) := dk_180 0 95 (dk_at dksX3_startsNow_0 6 rfl rfl)
theorem dX3_startsNow_9 : decode cX3_startsNow 9 = .ok (.if_icmp .ge 89, 3) := dk_162 0 89 (dk_at dksX3_startsNow_0 9 rfl rfl)
theorem dX3_startsNow_12 : decode cX3_startsNow 12 = .ok (.aload_n 0, 1) := dk_42 (dk_at dksX3_startsNow_0 12 rfl rfl)
theorem dX3_startsNow_13 : decode cX3_startsNow 13 = .ok (.iconst 0, 1) := dk_3 (dk_at dksX3_startsNow_0 13 rfl rfl)
theorem dX3_startsNow_14 : decode cX3_startsNow 14 = .ok (.invokevirtual 193, 3) := dk_182 0 193 (dk_at dksX3_startsNow_0 14 rfl rfl)
theorem dX3_startsNow_17 : decode cX3_startsNow 17 = .ok (.aload_n 0, 1) := dk_42 (dk_at dksX3_startsNow_0 17 rfl rfl)
theorem dX3_startsNow_18 : decode cX3_startsNow 18 = .ok (.getfield 54, 3) := dk_180 0 54 (dk_at dksX3_startsNow_0 18 rfl rfl)
theorem dX3_startsNow_21 : decode cX3_startsNow 21 = .ok (.iload_n 2, 1) := dk_28 (dk_at dksX3_startsNow_0 21 rfl rfl)
theorem dX3_startsNow_22 : decode cX3_startsNow 22 = .ok (.caload, 1) := dk_52 (dk_at dksX3_startsNow_0 22 rfl rfl)
theorem dX3_startsNow_23 : decode cX3_startsNow 23 = .ok (.bipush 119, 2) := dk_16 119 (dk_at dksX3_startsNow_1 0 rfl rfl)
theorem dX3_startsNow_25 : decode cX3_startsNow 25 = .ok (.if_icmp .ne 67, 3) := dk_160 0 67 (dk_at dksX3_startsNow_1 2 rfl rfl)
theorem dX3_startsNow_28 : decode cX3_startsNow 28 = .ok (.aload_n 0, 1) := dk_42 (dk_at dksX3_startsNow_1 5 rfl rfl)
theorem dX3_startsNow_29 : decode cX3_startsNow 29 = .ok (.iload_n 2, 1) := dk_28 (dk_at dksX3_startsNow_1 6 rfl rfl)
theorem dX3_startsNow_30 : decode cX3_startsNow 30 = .ok (.aload_n 0, 1) := dk_42 (dk_at dksX3_startsNow_1 7 rfl rfl)
theorem dX3_startsNow_31 : decode cX3_startsNow 31 = .ok (.iconst (-1), 1) := dk_2 (dk_at dksX3_startsNow_1 8 rfl rfl)
theorem dX3_startsNow_32 : decode cX3_startsNow 32 = .ok (.invokevirtual 144, 3) := dk_182 0 144 (dk_at dksX3_startsNow_1 9 rfl rfl)
theorem dX3_startsNow_35 : decode cX3_startsNow 35 = .ok (.invokevirtual 197, 3) := dk_182 0 197 (dk_at dksX3_startsNow_1 12 rfl rfl)
theorem dX3_startsNow_38 : decode cX3_startsNow 38 = .ok (.getstatic 190, 3) := dk_178 0 190 (dk_at dksX3_startsNow_1 15 rfl rfl)
theorem dX3_startsNow_41 : decode cX3_startsNow 41 = .ok (.if_acmp .ne 51, 3) := dk_166 0 51 (dk_at dksX3_startsNow_1 18 rfl rfl)
theorem dX3_startsNow_44 : decode cX3_startsNow 44 = .ok (.aload_n 0, 1) := dk_42 (dk_at dksX3_startsNow_1 21 rfl rfl)
theorem dX3_startsNow_45 : decode cX3_startsNow 45 = .ok (.getfield 58, 3) := dk_180 0 58 (dk_at dksX3_startsNow_2 0 rfl rfl)
theorem dX3_startsNow_48 : decode cX3_startsNow 48 = .ok (.iload_n 2, 1) := dk_28 (dk_at dksX3_startsNow_2 3 rfl rfl)
theorem dX3_startsNow_49 : decode cX3_startsNow 49 = .ok (.aload_n 0, 1) := dk_42 (dk_at dksX3_startsNow_2 4 rfl rfl)
theorem dX3_startsNow_50 : decode cX3_startsNow 50 = .ok (.iload_n 2, 1) := dk_28 (dk_at dksX3_startsNow_2 5 rfl rfl)
theorem dX3_startsNow_51 : decode cX3_startsNow 51 = .ok (.invokevirtual 184, 3) := dk_182 0 184 (dk_at dksX3_startsNow_2 6 rfl rfl)
theorem dX3_startsNow_54 : decode cX3_startsNow 54 = .ok (.iastore, 1) := dk_79 (dk_at dksX3_startsNow_2 9 rfl rfl)
theorem dX3_startsNow_55 : decode cX3_startsNow 55 = .ok (.aload_n 0, 1) := dk_42 (dk_at dksX3_startsNow_2 10 rfl rfl)
theorem dX3_startsNow_56 : decode cX3_startsNow 56 = .ok (.getfield 54, 3) := dk_180 0 54 (dk_at dksX3_startsNow_2 11 rfl rfl)
theorem dX3_startsNow_59 : decode cX3_startsNow 59 = .ok (.iload_n 2, 1) := dk_28 (dk_at dksX3_startsNow_2 14 rfl rfl)
theorem dX3_startsNow_60 : decode cX3_startsNow 60 = .ok (.bipush 114, 2) := dk_16 114 (dk_at dksX3_startsNow_2 15 rfl rfl)
theorem dX3_startsNow_62 : decode cX3_startsNow 62 = .ok (.castore, 1) := dk_85 (dk_at dksX3_startsNow_2 17 rfl rfl)
theorem dX3_startsNow_63 : decode cX3_startsNow 63 = .ok (.aload_n 0, 1) := dk_42 (dk_at dksX3_startsNow_2 18 rfl rfl)
theorem dX3_startsNow_64 : decode cX3_startsNow 64 = .ok (.getfield 61, 3) := dk_180 0 61 (dk_at dksX3_startsNow_2 19 rfl rfl)
theorem dX3_startsNow_67 : decode cX3_startsNow 67 = .ok (.iload_n 2, 1) := dk_28 (dk_at dksX3_startsNow_2 22 rfl rfl)
theorem dX3_startsNow_68 : decode cX3_startsNow 68 = .ok (.aload_n 0, 1) := dk_42 (dk_at dksX3_startsNow_2 23 rfl rfl)
theorem dX3_startsNow_69 : decode cX3_startsNow 69 = .ok (.aload_n 0, 1) := dk_42 (dk_at dksX3_startsNow_3 0 rfl rfl)
theorem dX3_startsNow_70 : decode cX3_startsNow 70 = .ok (.getfield 45, 3) := dk_180 0 45 (dk_at dksX3_startsNow_3 1 rfl rfl)
theorem dX3_startsNow_73 : decode cX3_startsNow 73 = .ok (.iload_n 2, 1) := dk_28 (dk_at dksX3_startsNow_3 4 rfl rfl)
theorem dX3_startsNow_74 : decode cX3_startsNow 74 = .ok (.iaload, 1) := dk_46 (dk_at dksX3_startsNow_3 5 rfl rfl)
theorem dX3_startsNow_75 : decode cX3_startsNow 75 = .ok (.invokevirtual 105, 3) := dk_182 0 105 (dk_at dksX3_startsNow_3 6 rfl rfl)
theorem dX3_startsNow_78 : decode cX3_startsNow 78 = .ok (.iastore, 1) := dk_79 (dk_at dksX3_startsNow_3 9 rfl rfl)
theorem dX3_startsNow_79 : decode cX3_startsNow 79 = .ok (.aload_n 0, 1) := dk_42 (dk_at dksX3_startsNow_3 10 rfl rfl)
theorem dX3_startsNow_80 : decode cX3_startsNow 80 = .ok (.getfield 64, 3) := dk_180 0 64 (dk_at dksX3_startsNow_3 11 rfl rfl)
theorem dX3_startsNow_83 : decode cX3_startsNow 83 = .ok (.iload_n 2, 1) := dk_28 (dk_at dksX3_startsNow_3 14 rfl rfl)
theorem dX3_startsNow_84 : decode cX3_startsNow 84 = .ok (.aload_n 0, 1) := dk_42 (dk_at dksX3_startsNow_3 15 rfl rfl)
theorem dX3_startsNow_85 : decode cX3_startsNow 85 = .ok (.getfield 98, 3) := dk_180 0 98 (dk_at dksX3_startsNow_3 16 rfl rfl)
theorem dX3_startsNow_88 : decode cX3_startsNow 88 = .ok (.iastore, 1) := dk_79 (dk_at dksX3_startsNow_3 19 rfl rfl)
theorem dX3_startsNow_89 : decode cX3_startsNow 89 = .ok (.iinc 1 1, 3) := dk_132 1 1 (dk_at dksX3_startsNow_3 20 rfl rfl)
theorem dX3_startsNow_92 : decode cX3_startsNow 92 = .ok (.iinc 2 1, 3) := dk_132 2 1 (dk_at dksX3_startsNow_4 0 rfl rfl)
theorem dX3_startsNow_95 : decode cX3_startsNow 95 = .ok (.goto (-91), 3) := dk_167 255 165 (dk_at dksX3_startsNow_4 3 rfl rfl)
theorem dX3_startsNow_98 : decode cX3_startsNow 98 = .ok (.iload_n 1, 1) := dk_27 (dk_at dksX3_startsNow_4 6 rfl rfl)
theorem dX3_startsNow_99 : decode cX3_startsNow 99 = .ok (.ireturn, 1) := dk_172 (dk_at dksX3_startsNow_4 7 rfl rfl)
abbrev cX3_takeRoom : ByteArray := prog_12_method_31_code
def yX3_takeRoom : MethodName := ⟨RX3, "takeRoom", "(Z)V"⟩
def dkwX3_takeRoom_2 : List UInt8 := [46, 27, 153, 0, 7, 3, 167, 0, 8, 42, 28, 182, 0, 169, 100, 79, 132, 2, 1, 167, 255, 193, 177]
abbrev dktX3_takeRoom_2 : List UInt8 := dkwX3_takeRoom_2 ++ []
def dkwX3_takeRoom_1 : List UInt8 := [153, 0, 7, 3, 167, 0, 8, 42, 28, 182, 0, 144, 100, 79, 42, 180, 0, 76, 28, 42, 180, 0, 26, 28]
abbrev dktX3_takeRoom_1 : List UInt8 := dkwX3_takeRoom_1 ++ dktX3_takeRoom_2
def dkwX3_takeRoom_0 : List UInt8 := [3, 61, 28, 42, 180, 0, 92, 162, 0, 61, 42, 180, 0, 73, 28, 42, 180, 0, 23, 28, 46, 27]
abbrev dktX3_takeRoom_0 : List UInt8 := dkwX3_takeRoom_0 ++ dktX3_takeRoom_1
theorem dksX3_takeRoom_0 : cX3_takeRoom.data.toList.drop 0 = dktX3_takeRoom_0 := by decide +kernel
theorem dksX3_takeRoom_1 : cX3_takeRoom.data.toList.drop 22 = dktX3_takeRoom_1 := dk_seg dksX3_takeRoom_0 22 rfl rfl
theorem dksX3_takeRoom_2 : cX3_takeRoom.data.toList.drop 46 = dktX3_takeRoom_2 := dk_seg dksX3_takeRoom_1 24 rfl rfl
theorem dX3_takeRoom_0 : decode cX3_takeRoom 0 = .ok (.iconst 0, 1) := dk_3 (dk_at dksX3_takeRoom_0 0 rfl rfl)
theorem dX3_takeRoom_1 : decode cX3_takeRoom 1 = .ok (.istore_n 2, 1) := dk_61 (dk_at dksX3_takeRoom_0 1 rfl rfl)
theorem dX3_takeRoom_2 : decode cX3_takeRoom 2 = .ok (.iload_n 2, 1) := dk_28 (dk_at dksX3_takeRoom_0 2 rfl rfl)
theorem dX3_takeRoom_3 : decode cX3_takeRoom 3 = .ok (.aload_n 0, 1) := dk_42 (dk_at dksX3_takeRoom_0 3 rfl rfl)
theorem dX3_takeRoom_4 : decode cX3_takeRoom 4 = .ok (.getfield 92, 3) := dk_180 0 92 (dk_at dksX3_takeRoom_0 4 rfl rfl)
theorem dX3_takeRoom_7 : decode cX3_takeRoom 7 = .ok (.if_icmp .ge 61, 3) := dk_162 0 61 (dk_at dksX3_takeRoom_0 7 rfl rfl)
theorem dX3_takeRoom_10 : decode cX3_takeRoom 10 = .ok (.aload_n 0, 1) := dk_42 (dk_at dksX3_takeRoom_0 10 rfl rfl)
theorem dX3_takeRoom_11 : decode cX3_takeRoom 11 = .ok (.getfield 73, 3) := dk_180 0 73 (dk_at dksX3_takeRoom_0 11 rfl rfl)
theorem dX3_takeRoom_14 : decode cX3_takeRoom 14 = .ok (.iload_n 2, 1) := dk_28 (dk_at dksX3_takeRoom_0 14 rfl rfl)
theorem dX3_takeRoom_15 : decode cX3_takeRoom 15 = .ok (.aload_n 0, 1) := dk_42 (dk_at dksX3_takeRoom_0 15 rfl rfl)
theorem dX3_takeRoom_16 : decode cX3_takeRoom 16 = .ok (.getfield 23, 3) := dk_180 0 23 (dk_at dksX3_takeRoom_0 16 rfl rfl)
theorem dX3_takeRoom_19 : decode cX3_takeRoom 19 = .ok (.iload_n 2, 1) := dk_28 (dk_at dksX3_takeRoom_0 19 rfl rfl)
theorem dX3_takeRoom_20 : decode cX3_takeRoom 20 = .ok (.iaload, 1) := dk_46 (dk_at dksX3_takeRoom_0 20 rfl rfl)
theorem dX3_takeRoom_21 : decode cX3_takeRoom 21 = .ok (.iload_n 1, 1) := dk_27 (dk_at dksX3_takeRoom_0 21 rfl rfl)
theorem dX3_takeRoom_22 : decode cX3_takeRoom 22 = .ok (.ifCond .eq 7, 3) := dk_153 0 7 (dk_at dksX3_takeRoom_1 0 rfl rfl)
theorem dX3_takeRoom_25 : decode cX3_takeRoom 25 = .ok (.iconst 0, 1) := dk_3 (dk_at dksX3_takeRoom_1 3 rfl rfl)
theorem dX3_takeRoom_26 : decode cX3_takeRoom 26 = .ok (.goto 8, 3) := dk_167 0 8 (dk_at dksX3_takeRoom_1 4 rfl rfl)
theorem dX3_takeRoom_29 : decode cX3_takeRoom 29 = .ok (.aload_n 0, 1) := dk_42 (dk_at dksX3_takeRoom_1 7 rfl rfl)
theorem dX3_takeRoom_30 : decode cX3_takeRoom 30 = .ok (.iload_n 2, 1) := dk_28 (dk_at dksX3_takeRoom_1 8 rfl rfl)
theorem dX3_takeRoom_31 : decode cX3_takeRoom 31 = .ok (.invokevirtual 144, 3) := dk_182 0 144 (dk_at dksX3_takeRoom_1 9 rfl rfl)
theorem dX3_takeRoom_34 : decode cX3_takeRoom 34 = .ok (.isub, 1) := dk_100 (dk_at dksX3_takeRoom_1 12 rfl rfl)
theorem dX3_takeRoom_35 : decode cX3_takeRoom 35 = .ok (.iastore, 1) := dk_79 (dk_at dksX3_takeRoom_1 13 rfl rfl)
theorem dX3_takeRoom_36 : decode cX3_takeRoom 36 = .ok (.aload_n 0, 1) := dk_42 (dk_at dksX3_takeRoom_1 14 rfl rfl)
theorem dX3_takeRoom_37 : decode cX3_takeRoom 37 = .ok (.getfield 76, 3) := dk_180 0 76 (dk_at dksX3_takeRoom_1 15 rfl rfl)
theorem dX3_takeRoom_40 : decode cX3_takeRoom 40 = .ok (.iload_n 2, 1) := dk_28 (dk_at dksX3_takeRoom_1 18 rfl rfl)
theorem dX3_takeRoom_41 : decode cX3_takeRoom 41 = .ok (.aload_n 0, 1) := dk_42 (dk_at dksX3_takeRoom_1 19 rfl rfl)
theorem dX3_takeRoom_42 : decode cX3_takeRoom 42 = .ok (.getfield 26, 3) := dk_180 0 26 (dk_at dksX3_takeRoom_1 20 rfl rfl)
theorem dX3_takeRoom_45 : decode cX3_takeRoom 45 = .ok (.iload_n 2, 1) := dk_28 (dk_at dksX3_takeRoom_1 23 rfl rfl)
theorem dX3_takeRoom_46 : decode cX3_takeRoom 46 = .ok (.iaload, 1) := dk_46 (dk_at dksX3_takeRoom_2 0 rfl rfl)
theorem dX3_takeRoom_47 : decode cX3_takeRoom 47 = .ok (.iload_n 1, 1) := dk_27 (dk_at dksX3_takeRoom_2 1 rfl rfl)
theorem dX3_takeRoom_48 : decode cX3_takeRoom 48 = .ok (.ifCond .eq 7, 3) := dk_153 0 7 (dk_at dksX3_takeRoom_2 2 rfl rfl)
theorem dX3_takeRoom_51 : decode cX3_takeRoom 51 = .ok (.iconst 0, 1) := dk_3 (dk_at dksX3_takeRoom_2 5 rfl rfl)
theorem dX3_takeRoom_52 : decode cX3_takeRoom 52 = .ok (.goto 8, 3) := dk_167 0 8 (dk_at dksX3_takeRoom_2 6 rfl rfl)
theorem dX3_takeRoom_55 : decode cX3_takeRoom 55 = .ok (.aload_n 0, 1) := dk_42 (dk_at dksX3_takeRoom_2 9 rfl rfl)
theorem dX3_takeRoom_56 : decode cX3_takeRoom 56 = .ok (.iload_n 2, 1) := dk_28 (dk_at dksX3_takeRoom_2 10 rfl rfl)
theorem dX3_takeRoom_57 : decode cX3_takeRoom 57 = .ok (.invokevirtual 169, 3) := dk_182 0 169 (dk_at dksX3_takeRoom_2 11 rfl rfl)
theorem dX3_takeRoom_60 : decode cX3_takeRoom 60 = .ok (.isub, 1) := dk_100 (dk_at dksX3_takeRoom_2 14 rfl rfl)
theorem dX3_takeRoom_61 : decode cX3_takeRoom 61 = .ok (.iastore, 1) := dk_79 (dk_at dksX3_takeRoom_2 15 rfl rfl)
theorem dX3_takeRoom_62 : decode cX3_takeRoom 62 = .ok (.iinc 2 1, 3) := dk_132 2 1 (dk_at dksX3_takeRoom_2 16 rfl rfl)
theorem dX3_takeRoom_65 : decode cX3_takeRoom 65 = .ok (.goto (-63), 3) := dk_167 255 193 (dk_at dksX3_takeRoom_2 19 rfl rfl)
theorem dX3_takeRoom_68 : decode cX3_takeRoom 68 = .ok (.return_, 1) := dk_177 (dk_at dksX3_takeRoom_2 22 rfl rfl)
abbrev cX3_memoryIn : ByteArray := prog_12_method_24_code
def yX3_memoryIn : MethodName := ⟨RX3, "memoryIn", "(I)I"⟩
def dkwX3_memoryIn_2 : List UInt8 := [132, 3, 1, 167, 255, 211, 28, 172]
abbrev dktX3_memoryIn_2 : List UInt8 := dkwX3_memoryIn_2 ++ []
def dkwX3_memoryIn_1 : List UInt8 := [42, 180, 0, 58, 29, 46, 27, 160, 0, 12, 42, 180, 0, 51, 29, 46, 167, 0, 4, 3, 96, 61]
abbrev dktX3_memoryIn_1 : List UInt8 := dkwX3_memoryIn_1 ++ dktX3_memoryIn_2
def dkwX3_memoryIn_0 : List UInt8 := [3, 61, 3, 62, 29, 42, 180, 0, 95, 162, 0, 43, 28, 42, 180, 0, 54, 29, 52, 16, 114, 160, 0, 22]
abbrev dktX3_memoryIn_0 : List UInt8 := dkwX3_memoryIn_0 ++ dktX3_memoryIn_1
theorem dksX3_memoryIn_0 : cX3_memoryIn.data.toList.drop 0 = dktX3_memoryIn_0 := by decide +kernel
theorem dksX3_memoryIn_1 : cX3_memoryIn.data.toList.drop 24 = dktX3_memoryIn_1 := dk_seg dksX3_memoryIn_0 24 rfl rfl
theorem dksX3_memoryIn_2 : cX3_memoryIn.data.toList.drop 46 = dktX3_memoryIn_2 := dk_seg dksX3_memoryIn_1 22 rfl rfl
theorem dX3_memoryIn_0 : decode cX3_memoryIn 0 = .ok (.iconst 0, 1) := dk_3 (dk_at dksX3_memoryIn_0 0 rfl rfl)
theorem dX3_memoryIn_1 : decode cX3_memoryIn 1 = .ok (.istore_n 2, 1) := dk_61 (dk_at dksX3_memoryIn_0 1 rfl rfl)
theorem dX3_memoryIn_2 : decode cX3_memoryIn 2 = .ok (.iconst 0, 1) := dk_3 (dk_at dksX3_memoryIn_0 2 rfl rfl)
theorem dX3_memoryIn_3 : decode cX3_memoryIn 3 = .ok (.istore_n 3, 1) := dk_62 (dk_at dksX3_memoryIn_0 3 rfl rfl)
theorem dX3_memoryIn_4 : decode cX3_memoryIn 4 = .ok (.iload_n 3, 1) := dk_29 (dk_at dksX3_memoryIn_0 4 rfl rfl)
theorem dX3_memoryIn_5 : decode cX3_memoryIn 5 = .ok (.aload_n 0, 1) := dk_42 (dk_at dksX3_memoryIn_0 5 rfl rfl)
theorem dX3_memoryIn_6 : decode cX3_memoryIn 6 = .ok (.getfield 95, 3) := dk_180 0 95 (dk_at dksX3_memoryIn_0 6 rfl rfl)
theorem dX3_memoryIn_9 : decode cX3_memoryIn 9 = .ok (.if_icmp .ge 43, 3) := dk_162 0 43 (dk_at dksX3_memoryIn_0 9 rfl rfl)
theorem dX3_memoryIn_12 : decode cX3_memoryIn 12 = .ok (.iload_n 2, 1) := dk_28 (dk_at dksX3_memoryIn_0 12 rfl rfl)
theorem dX3_memoryIn_13 : decode cX3_memoryIn 13 = .ok (.aload_n 0, 1) := dk_42 (dk_at dksX3_memoryIn_0 13 rfl rfl)
theorem dX3_memoryIn_14 : decode cX3_memoryIn 14 = .ok (.getfield 54, 3) := dk_180 0 54 (dk_at dksX3_memoryIn_0 14 rfl rfl)
theorem dX3_memoryIn_17 : decode cX3_memoryIn 17 = .ok (.iload_n 3, 1) := dk_29 (dk_at dksX3_memoryIn_0 17 rfl rfl)
theorem dX3_memoryIn_18 : decode cX3_memoryIn 18 = .ok (.caload, 1) := dk_52 (dk_at dksX3_memoryIn_0 18 rfl rfl)
theorem dX3_memoryIn_19 : decode cX3_memoryIn 19 = .ok (.bipush 114, 2) := dk_16 114 (dk_at dksX3_memoryIn_0 19 rfl rfl)
theorem dX3_memoryIn_21 : decode cX3_memoryIn 21 = .ok (.if_icmp .ne 22, 3) := dk_160 0 22 (dk_at dksX3_memoryIn_0 21 rfl rfl)
theorem dX3_memoryIn_24 : decode cX3_memoryIn 24 = .ok (.aload_n 0, 1) := dk_42 (dk_at dksX3_memoryIn_1 0 rfl rfl)
theorem dX3_memoryIn_25 : decode cX3_memoryIn 25 = .ok (.getfield 58, 3) := dk_180 0 58 (dk_at dksX3_memoryIn_1 1 rfl rfl)
theorem dX3_memoryIn_28 : decode cX3_memoryIn 28 = .ok (.iload_n 3, 1) := dk_29 (dk_at dksX3_memoryIn_1 4 rfl rfl)
theorem dX3_memoryIn_29 : decode cX3_memoryIn 29 = .ok (.iaload, 1) := dk_46 (dk_at dksX3_memoryIn_1 5 rfl rfl)
theorem dX3_memoryIn_30 : decode cX3_memoryIn 30 = .ok (.iload_n 1, 1) := dk_27 (dk_at dksX3_memoryIn_1 6 rfl rfl)
theorem dX3_memoryIn_31 : decode cX3_memoryIn 31 = .ok (.if_icmp .ne 12, 3) := dk_160 0 12 (dk_at dksX3_memoryIn_1 7 rfl rfl)
theorem dX3_memoryIn_34 : decode cX3_memoryIn 34 = .ok (.aload_n 0, 1) := dk_42 (dk_at dksX3_memoryIn_1 10 rfl rfl)
theorem dX3_memoryIn_35 : decode cX3_memoryIn 35 = .ok (.getfield 51, 3) := dk_180 0 51 (dk_at dksX3_memoryIn_1 11 rfl rfl)
theorem dX3_memoryIn_38 : decode cX3_memoryIn 38 = .ok (.iload_n 3, 1) := dk_29 (dk_at dksX3_memoryIn_1 14 rfl rfl)
theorem dX3_memoryIn_39 : decode cX3_memoryIn 39 = .ok (.iaload, 1) := dk_46 (dk_at dksX3_memoryIn_1 15 rfl rfl)
theorem dX3_memoryIn_40 : decode cX3_memoryIn 40 = .ok (.goto 4, 3) := dk_167 0 4 (dk_at dksX3_memoryIn_1 16 rfl rfl)
theorem dX3_memoryIn_43 : decode cX3_memoryIn 43 = .ok (.iconst 0, 1) := dk_3 (dk_at dksX3_memoryIn_1 19 rfl rfl)
theorem dX3_memoryIn_44 : decode cX3_memoryIn 44 = .ok (.iadd, 1) := dk_96 (dk_at dksX3_memoryIn_1 20 rfl rfl)
theorem dX3_memoryIn_45 : decode cX3_memoryIn 45 = .ok (.istore_n 2, 1) := dk_61 (dk_at dksX3_memoryIn_1 21 rfl rfl)
theorem dX3_memoryIn_46 : decode cX3_memoryIn 46 = .ok (.iinc 3 1, 3) := dk_132 3 1 (dk_at dksX3_memoryIn_2 0 rfl rfl)
theorem dX3_memoryIn_49 : decode cX3_memoryIn 49 = .ok (.goto (-45), 3) := dk_167 255 211 (dk_at dksX3_memoryIn_2 3 rfl rfl)
theorem dX3_memoryIn_52 : decode cX3_memoryIn 52 = .ok (.iload_n 2, 1) := dk_28 (dk_at dksX3_memoryIn_2 6 rfl rfl)
theorem dX3_memoryIn_53 : decode cX3_memoryIn 53 = .ok (.ireturn, 1) := dk_172 (dk_at dksX3_memoryIn_2 7 rfl rfl)
abbrev cX3_barWith : ByteArray := prog_12_method_33_code
def yX3_barWith : MethodName := ⟨RX3, "barWith", "(II)LBar;"⟩
def dkwX3_barWith_2 : List UInt8 := [2, 160, 0, 9, 178, 0, 187, 167, 0, 6, 178, 0, 190, 176]
abbrev dktX3_barWith_2 : List UInt8 := dkwX3_barWith_2 ++ []
def dkwX3_barWith_1 : List UInt8 := [180, 0, 48, 27, 46, 96, 42, 180, 0, 38, 164, 0, 9, 178, 0, 181, 167, 0, 21, 42, 27, 182, 0, 184]
abbrev dktX3_barWith_1 : List UInt8 := dkwX3_barWith_1 ++ dktX3_barWith_2
def dkwX3_barWith_0 : List UInt8 := [42, 42, 180, 0, 45, 27, 46, 182, 0, 105, 42, 182, 0, 172, 126, 153, 0, 7, 178, 0, 175, 176, 28, 42]
abbrev dktX3_barWith_0 : List UInt8 := dkwX3_barWith_0 ++ dktX3_barWith_1
theorem dksX3_barWith_0 : cX3_barWith.data.toList.drop 0 = dktX3_barWith_0 := by decide +kernel
theorem dksX3_barWith_1 : cX3_barWith.data.toList.drop 24 = dktX3_barWith_1 := dk_seg dksX3_barWith_0 24 rfl rfl
theorem dksX3_barWith_2 : cX3_barWith.data.toList.drop 48 = dktX3_barWith_2 := dk_seg dksX3_barWith_1 24 rfl rfl
theorem dX3_barWith_0 : decode cX3_barWith 0 = .ok (.aload_n 0, 1) := dk_42 (dk_at dksX3_barWith_0 0 rfl rfl)
theorem dX3_barWith_1 : decode cX3_barWith 1 = .ok (.aload_n 0, 1) := dk_42 (dk_at dksX3_barWith_0 1 rfl rfl)
theorem dX3_barWith_2 : decode cX3_barWith 2 = .ok (.getfield 45, 3) := dk_180 0 45 (dk_at dksX3_barWith_0 2 rfl rfl)
theorem dX3_barWith_5 : decode cX3_barWith 5 = .ok (.iload_n 1, 1) := dk_27 (dk_at dksX3_barWith_0 5 rfl rfl)
theorem dX3_barWith_6 : decode cX3_barWith 6 = .ok (.iaload, 1) := dk_46 (dk_at dksX3_barWith_0 6 rfl rfl)
theorem dX3_barWith_7 : decode cX3_barWith 7 = .ok (.invokevirtual 105, 3) := dk_182 0 105 (dk_at dksX3_barWith_0 7 rfl rfl)
theorem dX3_barWith_10 : decode cX3_barWith 10 = .ok (.aload_n 0, 1) := dk_42 (dk_at dksX3_barWith_0 10 rfl rfl)
theorem dX3_barWith_11 : decode cX3_barWith 11 = .ok (.invokevirtual 172, 3) := dk_182 0 172 (dk_at dksX3_barWith_0 11 rfl rfl)
theorem dX3_barWith_14 : decode cX3_barWith 14 = .ok (.iand, 1) := dk_126 (dk_at dksX3_barWith_0 14 rfl rfl)
theorem dX3_barWith_15 : decode cX3_barWith 15 = .ok (.ifCond .eq 7, 3) := dk_153 0 7 (dk_at dksX3_barWith_0 15 rfl rfl)
theorem dX3_barWith_18 : decode cX3_barWith 18 = .ok (.getstatic 175, 3) := dk_178 0 175 (dk_at dksX3_barWith_0 18 rfl rfl)
theorem dX3_barWith_21 : decode cX3_barWith 21 = .ok (.areturn, 1) := dk_176 (dk_at dksX3_barWith_0 21 rfl rfl)
theorem dX3_barWith_22 : decode cX3_barWith 22 = .ok (.iload_n 2, 1) := dk_28 (dk_at dksX3_barWith_0 22 rfl rfl)
theorem dX3_barWith_23 : decode cX3_barWith 23 = .ok (.aload_n 0, 1) := dk_42 (dk_at dksX3_barWith_0 23 rfl rfl)
theorem dX3_barWith_24 : decode cX3_barWith 24 = .ok (.getfield 48, 3) := dk_180 0 48 (dk_at dksX3_barWith_1 0 rfl rfl)
theorem dX3_barWith_27 : decode cX3_barWith 27 = .ok (.iload_n 1, 1) := dk_27 (dk_at dksX3_barWith_1 3 rfl rfl)
theorem dX3_barWith_28 : decode cX3_barWith 28 = .ok (.iaload, 1) := dk_46 (dk_at dksX3_barWith_1 4 rfl rfl)
theorem dX3_barWith_29 : decode cX3_barWith 29 = .ok (.iadd, 1) := dk_96 (dk_at dksX3_barWith_1 5 rfl rfl)
theorem dX3_barWith_30 : decode cX3_barWith 30 = .ok (.aload_n 0, 1) := dk_42 (dk_at dksX3_barWith_1 6 rfl rfl)
theorem dX3_barWith_31 : decode cX3_barWith 31 = .ok (.getfield 38, 3) := dk_180 0 38 (dk_at dksX3_barWith_1 7 rfl rfl)
theorem dX3_barWith_34 : decode cX3_barWith 34 = .ok (.if_icmp .le 9, 3) := dk_164 0 9 (dk_at dksX3_barWith_1 10 rfl rfl)
theorem dX3_barWith_37 : decode cX3_barWith 37 = .ok (.getstatic 181, 3) := dk_178 0 181 (dk_at dksX3_barWith_1 13 rfl rfl)
theorem dX3_barWith_40 : decode cX3_barWith 40 = .ok (.goto 21, 3) := dk_167 0 21 (dk_at dksX3_barWith_1 16 rfl rfl)
theorem dX3_barWith_43 : decode cX3_barWith 43 = .ok (.aload_n 0, 1) := dk_42 (dk_at dksX3_barWith_1 19 rfl rfl)
theorem dX3_barWith_44 : decode cX3_barWith 44 = .ok (.iload_n 1, 1) := dk_27 (dk_at dksX3_barWith_1 20 rfl rfl)
theorem dX3_barWith_45 : decode cX3_barWith 45 = .ok (.invokevirtual 184, 3) := dk_182 0 184 (dk_at dksX3_barWith_1 21 rfl rfl)
theorem dX3_barWith_48 : decode cX3_barWith 48 = .ok (.iconst (-1), 1) := dk_2 (dk_at dksX3_barWith_2 0 rfl rfl)
theorem dX3_barWith_49 : decode cX3_barWith 49 = .ok (.if_icmp .ne 9, 3) := dk_160 0 9 (dk_at dksX3_barWith_2 1 rfl rfl)
theorem dX3_barWith_52 : decode cX3_barWith 52 = .ok (.getstatic 187, 3) := dk_178 0 187 (dk_at dksX3_barWith_2 4 rfl rfl)
theorem dX3_barWith_55 : decode cX3_barWith 55 = .ok (.goto 6, 3) := dk_167 0 6 (dk_at dksX3_barWith_2 7 rfl rfl)
theorem dX3_barWith_58 : decode cX3_barWith 58 = .ok (.getstatic 190, 3) := dk_178 0 190 (dk_at dksX3_barWith_2 10 rfl rfl)
theorem dX3_barWith_61 : decode cX3_barWith 61 = .ok (.areturn, 1) := dk_176 (dk_at dksX3_barWith_2 13 rfl rfl)
abbrev cX3_withdrawn : ByteArray := prog_12_method_12_code
def yX3_withdrawn : MethodName := ⟨RX3, "withdrawn", "()I"⟩
def dkwX3_withdrawn_1 : List UInt8 := [120, 167, 0, 4, 3, 128, 60, 132, 2, 1, 167, 255, 226, 27, 172]
abbrev dktX3_withdrawn_1 : List UInt8 := dkwX3_withdrawn_1 ++ []
def dkwX3_withdrawn_0 : List UInt8 := [3, 60, 3, 61, 28, 42, 180, 0, 82, 162, 0, 28, 27, 42, 180, 0, 7, 28, 51, 153, 0, 9, 4, 28]
abbrev dktX3_withdrawn_0 : List UInt8 := dkwX3_withdrawn_0 ++ dktX3_withdrawn_1
theorem dksX3_withdrawn_0 : cX3_withdrawn.data.toList.drop 0 = dktX3_withdrawn_0 := by decide +kernel
theorem dksX3_withdrawn_1 : cX3_withdrawn.data.toList.drop 24 = dktX3_withdrawn_1 := dk_seg dksX3_withdrawn_0 24 rfl rfl
theorem dX3_withdrawn_0 : decode cX3_withdrawn 0 = .ok (.iconst 0, 1) := dk_3 (dk_at dksX3_withdrawn_0 0 rfl rfl)
theorem dX3_withdrawn_1 : decode cX3_withdrawn 1 = .ok (.istore_n 1, 1) := dk_60 (dk_at dksX3_withdrawn_0 1 rfl rfl)
theorem dX3_withdrawn_2 : decode cX3_withdrawn 2 = .ok (.iconst 0, 1) := dk_3 (dk_at dksX3_withdrawn_0 2 rfl rfl)
theorem dX3_withdrawn_3 : decode cX3_withdrawn 3 = .ok (.istore_n 2, 1) := dk_61 (dk_at dksX3_withdrawn_0 3 rfl rfl)
theorem dX3_withdrawn_4 : decode cX3_withdrawn 4 = .ok (.iload_n 2, 1) := dk_28 (dk_at dksX3_withdrawn_0 4 rfl rfl)
theorem dX3_withdrawn_5 : decode cX3_withdrawn 5 = .ok (.aload_n 0, 1) := dk_42 (dk_at dksX3_withdrawn_0 5 rfl rfl)
theorem dX3_withdrawn_6 : decode cX3_withdrawn 6 = .ok (.getfield 82, 3) := dk_180 0 82 (dk_at dksX3_withdrawn_0 6 rfl rfl)
theorem dX3_withdrawn_9 : decode cX3_withdrawn 9 = .ok (.if_icmp .ge 28, 3) := dk_162 0 28 (dk_at dksX3_withdrawn_0 9 rfl rfl)
theorem dX3_withdrawn_12 : decode cX3_withdrawn 12 = .ok (.iload_n 1, 1) := dk_27 (dk_at dksX3_withdrawn_0 12 rfl rfl)
theorem dX3_withdrawn_13 : decode cX3_withdrawn 13 = .ok (.aload_n 0, 1) := dk_42 (dk_at dksX3_withdrawn_0 13 rfl rfl)
theorem dX3_withdrawn_14 : decode cX3_withdrawn 14 = .ok (.getfield 7, 3) := dk_180 0 7 (dk_at dksX3_withdrawn_0 14 rfl rfl)
theorem dX3_withdrawn_17 : decode cX3_withdrawn 17 = .ok (.iload_n 2, 1) := dk_28 (dk_at dksX3_withdrawn_0 17 rfl rfl)
theorem dX3_withdrawn_18 : decode cX3_withdrawn 18 = .ok (.baload, 1) := dk_51 (dk_at dksX3_withdrawn_0 18 rfl rfl)
theorem dX3_withdrawn_19 : decode cX3_withdrawn 19 = .ok (.ifCond .eq 9, 3) := dk_153 0 9 (dk_at dksX3_withdrawn_0 19 rfl rfl)
theorem dX3_withdrawn_22 : decode cX3_withdrawn 22 = .ok (.iconst 1, 1) := dk_4 (dk_at dksX3_withdrawn_0 22 rfl rfl)
theorem dX3_withdrawn_23 : decode cX3_withdrawn 23 = .ok (.iload_n 2, 1) := dk_28 (dk_at dksX3_withdrawn_0 23 rfl rfl)
theorem dX3_withdrawn_24 : decode cX3_withdrawn 24 = .ok (.ishl, 1) := dk_120 (dk_at dksX3_withdrawn_1 0 rfl rfl)
theorem dX3_withdrawn_25 : decode cX3_withdrawn 25 = .ok (.goto 4, 3) := dk_167 0 4 (dk_at dksX3_withdrawn_1 1 rfl rfl)
theorem dX3_withdrawn_28 : decode cX3_withdrawn 28 = .ok (.iconst 0, 1) := dk_3 (dk_at dksX3_withdrawn_1 4 rfl rfl)
theorem dX3_withdrawn_29 : decode cX3_withdrawn 29 = .ok (.ior, 1) := dk_128 (dk_at dksX3_withdrawn_1 5 rfl rfl)
theorem dX3_withdrawn_30 : decode cX3_withdrawn 30 = .ok (.istore_n 1, 1) := dk_60 (dk_at dksX3_withdrawn_1 6 rfl rfl)
theorem dX3_withdrawn_31 : decode cX3_withdrawn 31 = .ok (.iinc 2 1, 3) := dk_132 2 1 (dk_at dksX3_withdrawn_1 7 rfl rfl)
theorem dX3_withdrawn_34 : decode cX3_withdrawn 34 = .ok (.goto (-30), 3) := dk_167 255 226 (dk_at dksX3_withdrawn_1 10 rfl rfl)
theorem dX3_withdrawn_37 : decode cX3_withdrawn 37 = .ok (.iload_n 1, 1) := dk_27 (dk_at dksX3_withdrawn_1 13 rfl rfl)
theorem dX3_withdrawn_38 : decode cX3_withdrawn 38 = .ok (.ireturn, 1) := dk_172 (dk_at dksX3_withdrawn_1 14 rfl rfl)
abbrev cX3_hostFor : ByteArray := prog_12_method_32_code
def yX3_hostFor : MethodName := ⟨RX3, "hostFor", "(I)I"⟩
def dkwX3_hostFor_3 : List UInt8 := [162, 0, 7, 29, 167, 0, 4, 28, 61, 132, 3, 1, 167, 255, 177, 28, 172]
abbrev dktX3_hostFor_3 : List UInt8 := dkwX3_hostFor_3 ++ []
def dkwX3_hostFor_2 : List UInt8 := [54, 4, 21, 4, 153, 0, 27, 28, 2, 159, 0, 18, 42, 180, 0, 73, 29, 46, 42, 180, 0, 73, 28, 46]
abbrev dktX3_hostFor_2 : List UInt8 := dkwX3_hostFor_2 ++ dktX3_hostFor_3
def dkwX3_hostFor_1 : List UInt8 := [161, 0, 22, 42, 180, 0, 76, 29, 46, 42, 180, 0, 51, 27, 46, 161, 0, 7, 4, 167, 0, 4, 3]
abbrev dktX3_hostFor_1 : List UInt8 := dkwX3_hostFor_1 ++ dktX3_hostFor_2
def dkwX3_hostFor_0 : List UInt8 := [2, 61, 3, 62, 29, 42, 180, 0, 92, 162, 0, 77, 42, 180, 0, 73, 29, 46, 42, 180, 0, 48, 27, 46]
abbrev dktX3_hostFor_0 : List UInt8 := dkwX3_hostFor_0 ++ dktX3_hostFor_1
theorem dksX3_hostFor_0 : cX3_hostFor.data.toList.drop 0 = dktX3_hostFor_0 := by decide +kernel
theorem dksX3_hostFor_1 : cX3_hostFor.data.toList.drop 24 = dktX3_hostFor_1 := dk_seg dksX3_hostFor_0 24 rfl rfl
theorem dksX3_hostFor_2 : cX3_hostFor.data.toList.drop 47 = dktX3_hostFor_2 := dk_seg dksX3_hostFor_1 23 rfl rfl
theorem dksX3_hostFor_3 : cX3_hostFor.data.toList.drop 71 = dktX3_hostFor_3 := dk_seg dksX3_hostFor_2 24 rfl rfl
theorem dX3_hostFor_0 : decode cX3_hostFor 0 = .ok (.iconst (-1), 1) := dk_2 (dk_at dksX3_hostFor_0 0 rfl rfl)
theorem dX3_hostFor_1 : decode cX3_hostFor 1 = .ok (.istore_n 2, 1) := dk_61 (dk_at dksX3_hostFor_0 1 rfl rfl)
theorem dX3_hostFor_2 : decode cX3_hostFor 2 = .ok (.iconst 0, 1) := dk_3 (dk_at dksX3_hostFor_0 2 rfl rfl)
theorem dX3_hostFor_3 : decode cX3_hostFor 3 = .ok (.istore_n 3, 1) := dk_62 (dk_at dksX3_hostFor_0 3 rfl rfl)
theorem dX3_hostFor_4 : decode cX3_hostFor 4 = .ok (.iload_n 3, 1) := dk_29 (dk_at dksX3_hostFor_0 4 rfl rfl)
theorem dX3_hostFor_5 : decode cX3_hostFor 5 = .ok (.aload_n 0, 1) := dk_42 (dk_at dksX3_hostFor_0 5 rfl rfl)
theorem dX3_hostFor_6 : decode cX3_hostFor 6 = .ok (.getfield 92, 3) := dk_180 0 92 (dk_at dksX3_hostFor_0 6 rfl rfl)
theorem dX3_hostFor_9 : decode cX3_hostFor 9 = .ok (.if_icmp .ge 77, 3) := dk_162 0 77 (dk_at dksX3_hostFor_0 9 rfl rfl)
theorem dX3_hostFor_12 : decode cX3_hostFor 12 = .ok (.aload_n 0, 1) := dk_42 (dk_at dksX3_hostFor_0 12 rfl rfl)
theorem dX3_hostFor_13 : decode cX3_hostFor 13 = .ok (.getfield 73, 3) := dk_180 0 73 (dk_at dksX3_hostFor_0 13 rfl rfl)
theorem dX3_hostFor_16 : decode cX3_hostFor 16 = .ok (.iload_n 3, 1) := dk_29 (dk_at dksX3_hostFor_0 16 rfl rfl)
theorem dX3_hostFor_17 : decode cX3_hostFor 17 = .ok (.iaload, 1) := dk_46 (dk_at dksX3_hostFor_0 17 rfl rfl)
theorem dX3_hostFor_18 : decode cX3_hostFor 18 = .ok (.aload_n 0, 1) := dk_42 (dk_at dksX3_hostFor_0 18 rfl rfl)
theorem dX3_hostFor_19 : decode cX3_hostFor 19 = .ok (.getfield 48, 3) := dk_180 0 48 (dk_at dksX3_hostFor_0 19 rfl rfl)
theorem dX3_hostFor_22 : decode cX3_hostFor 22 = .ok (.iload_n 1, 1) := dk_27 (dk_at dksX3_hostFor_0 22 rfl rfl)
theorem dX3_hostFor_23 : decode cX3_hostFor 23 = .ok (.iaload, 1) := dk_46 (dk_at dksX3_hostFor_0 23 rfl rfl)
theorem dX3_hostFor_24 : decode cX3_hostFor 24 = .ok (.if_icmp .lt 22, 3) := dk_161 0 22 (dk_at dksX3_hostFor_1 0 rfl rfl)
theorem dX3_hostFor_27 : decode cX3_hostFor 27 = .ok (.aload_n 0, 1) := dk_42 (dk_at dksX3_hostFor_1 3 rfl rfl)
theorem dX3_hostFor_28 : decode cX3_hostFor 28 = .ok (.getfield 76, 3) := dk_180 0 76 (dk_at dksX3_hostFor_1 4 rfl rfl)
theorem dX3_hostFor_31 : decode cX3_hostFor 31 = .ok (.iload_n 3, 1) := dk_29 (dk_at dksX3_hostFor_1 7 rfl rfl)
theorem dX3_hostFor_32 : decode cX3_hostFor 32 = .ok (.iaload, 1) := dk_46 (dk_at dksX3_hostFor_1 8 rfl rfl)
theorem dX3_hostFor_33 : decode cX3_hostFor 33 = .ok (.aload_n 0, 1) := dk_42 (dk_at dksX3_hostFor_1 9 rfl rfl)
theorem dX3_hostFor_34 : decode cX3_hostFor 34 = .ok (.getfield 51, 3) := dk_180 0 51 (dk_at dksX3_hostFor_1 10 rfl rfl)
theorem dX3_hostFor_37 : decode cX3_hostFor 37 = .ok (.iload_n 1, 1) := dk_27 (dk_at dksX3_hostFor_1 13 rfl rfl)
theorem dX3_hostFor_38 : decode cX3_hostFor 38 = .ok (.iaload, 1) := dk_46 (dk_at dksX3_hostFor_1 14 rfl rfl)
theorem dX3_hostFor_39 : decode cX3_hostFor 39 = .ok (.if_icmp .lt 7, 3) := dk_161 0 7 (dk_at dksX3_hostFor_1 15 rfl rfl)
theorem dX3_hostFor_42 : decode cX3_hostFor 42 = .ok (.iconst 1, 1) := dk_4 (dk_at dksX3_hostFor_1 18 rfl rfl)
theorem dX3_hostFor_43 : decode cX3_hostFor 43 = .ok (.goto 4, 3) := dk_167 0 4 (dk_at dksX3_hostFor_1 19 rfl rfl)
theorem dX3_hostFor_46 : decode cX3_hostFor 46 = .ok (.iconst 0, 1) := dk_3 (dk_at dksX3_hostFor_1 22 rfl rfl)
theorem dX3_hostFor_47 : decode cX3_hostFor 47 = .ok (.istore 4, 2) := dk_54 4 (dk_at dksX3_hostFor_2 0 rfl rfl)
theorem dX3_hostFor_49 : decode cX3_hostFor 49 = .ok (.iload 4, 2) := dk_21 4 (dk_at dksX3_hostFor_2 2 rfl rfl)
theorem dX3_hostFor_51 : decode cX3_hostFor 51 = .ok (.ifCond .eq 27, 3) := dk_153 0 27 (dk_at dksX3_hostFor_2 4 rfl rfl)
theorem dX3_hostFor_54 : decode cX3_hostFor 54 = .ok (.iload_n 2, 1) := dk_28 (dk_at dksX3_hostFor_2 7 rfl rfl)
theorem dX3_hostFor_55 : decode cX3_hostFor 55 = .ok (.iconst (-1), 1) := dk_2 (dk_at dksX3_hostFor_2 8 rfl rfl)
theorem dX3_hostFor_56 : decode cX3_hostFor 56 = .ok (.if_icmp .eq 18, 3) := dk_159 0 18 (dk_at dksX3_hostFor_2 9 rfl rfl)
theorem dX3_hostFor_59 : decode cX3_hostFor 59 = .ok (.aload_n 0, 1) := dk_42 (dk_at dksX3_hostFor_2 12 rfl rfl)
theorem dX3_hostFor_60 : decode cX3_hostFor 60 = .ok (.getfield 73, 3) := dk_180 0 73 (dk_at dksX3_hostFor_2 13 rfl rfl)
theorem dX3_hostFor_63 : decode cX3_hostFor 63 = .ok (.iload_n 3, 1) := dk_29 (dk_at dksX3_hostFor_2 16 rfl rfl)
theorem dX3_hostFor_64 : decode cX3_hostFor 64 = .ok (.iaload, 1) := dk_46 (dk_at dksX3_hostFor_2 17 rfl rfl)
theorem dX3_hostFor_65 : decode cX3_hostFor 65 = .ok (.aload_n 0, 1) := dk_42 (dk_at dksX3_hostFor_2 18 rfl rfl)
theorem dX3_hostFor_66 : decode cX3_hostFor 66 = .ok (.getfield 73, 3) := dk_180 0 73 (dk_at dksX3_hostFor_2 19 rfl rfl)
theorem dX3_hostFor_69 : decode cX3_hostFor 69 = .ok (.iload_n 2, 1) := dk_28 (dk_at dksX3_hostFor_2 22 rfl rfl)
theorem dX3_hostFor_70 : decode cX3_hostFor 70 = .ok (.iaload, 1) := dk_46 (dk_at dksX3_hostFor_2 23 rfl rfl)
theorem dX3_hostFor_71 : decode cX3_hostFor 71 = .ok (.if_icmp .ge 7, 3) := dk_162 0 7 (dk_at dksX3_hostFor_3 0 rfl rfl)
theorem dX3_hostFor_74 : decode cX3_hostFor 74 = .ok (.iload_n 3, 1) := dk_29 (dk_at dksX3_hostFor_3 3 rfl rfl)
theorem dX3_hostFor_75 : decode cX3_hostFor 75 = .ok (.goto 4, 3) := dk_167 0 4 (dk_at dksX3_hostFor_3 4 rfl rfl)
theorem dX3_hostFor_78 : decode cX3_hostFor 78 = .ok (.iload_n 2, 1) := dk_28 (dk_at dksX3_hostFor_3 7 rfl rfl)
theorem dX3_hostFor_79 : decode cX3_hostFor 79 = .ok (.istore_n 2, 1) := dk_61 (dk_at dksX3_hostFor_3 8 rfl rfl)
theorem dX3_hostFor_80 : decode cX3_hostFor 80 = .ok (.iinc 3 1, 3) := dk_132 3 1 (dk_at dksX3_hostFor_3 9 rfl rfl)
theorem dX3_hostFor_83 : decode cX3_hostFor 83 = .ok (.goto (-79), 3) := dk_167 255 177 (dk_at dksX3_hostFor_3 12 rfl rfl)
theorem dX3_hostFor_86 : decode cX3_hostFor 86 = .ok (.iload_n 2, 1) := dk_28 (dk_at dksX3_hostFor_3 15 rfl rfl)
theorem dX3_hostFor_87 : decode cX3_hostFor 87 = .ok (.ireturn, 1) := dk_172 (dk_at dksX3_hostFor_3 16 rfl rfl)
abbrev cX3_now : ByteArray := prog_12_method_36_code
def yX3_now : MethodName := ⟨RX3, "now", "()I"⟩
def dkwX3_now_0 : List UInt8 := [42, 3, 181, 0, 79, 42, 180, 0, 98, 172]
abbrev dktX3_now_0 : List UInt8 := dkwX3_now_0 ++ []
theorem dksX3_now_0 : cX3_now.data.toList.drop 0 = dktX3_now_0 := by decide +kernel
theorem dX3_now_0 : decode cX3_now 0 = .ok (.aload_n 0, 1) := dk_42 (dk_at dksX3_now_0 0 rfl rfl)
theorem dX3_now_1 : decode cX3_now 1 = .ok (.iconst 0, 1) := dk_3 (dk_at dksX3_now_0 1 rfl rfl)
theorem dX3_now_2 : decode cX3_now 2 = .ok (.putfield 79, 3) := dk_181 0 79 (dk_at dksX3_now_0 2 rfl rfl)
theorem dX3_now_5 : decode cX3_now 5 = .ok (.aload_n 0, 1) := dk_42 (dk_at dksX3_now_0 5 rfl rfl)
theorem dX3_now_6 : decode cX3_now 6 = .ok (.getfield 98, 3) := dk_180 0 98 (dk_at dksX3_now_0 6 rfl rfl)
theorem dX3_now_9 : decode cX3_now 9 = .ok (.ireturn, 1) := dk_172 (dk_at dksX3_now_0 9 rfl rfl)
abbrev cX3_layersOf : ByteArray := prog_12_method_37_code
def yX3_layersOf : MethodName := ⟨RX3, "layersOf", "(I)I"⟩
def dkwX3_layersOf_1 : List UInt8 := [182, 0, 105, 172]
abbrev dktX3_layersOf_1 : List UInt8 := dkwX3_layersOf_1 ++ []
def dkwX3_layersOf_0 : List UInt8 := [42, 3, 181, 0, 79, 42, 42, 27, 182, 0, 113, 4, 182, 0, 109, 153, 0, 7, 3, 167, 0, 8, 42, 27]
abbrev dktX3_layersOf_0 : List UInt8 := dkwX3_layersOf_0 ++ dktX3_layersOf_1
theorem dksX3_layersOf_0 : cX3_layersOf.data.toList.drop 0 = dktX3_layersOf_0 := by decide +kernel
theorem dksX3_layersOf_1 : cX3_layersOf.data.toList.drop 24 = dktX3_layersOf_1 := dk_seg dksX3_layersOf_0 24 rfl rfl
theorem dX3_layersOf_0 : decode cX3_layersOf 0 = .ok (.aload_n 0, 1) := dk_42 (dk_at dksX3_layersOf_0 0 rfl rfl)
theorem dX3_layersOf_1 : decode cX3_layersOf 1 = .ok (.iconst 0, 1) := dk_3 (dk_at dksX3_layersOf_0 1 rfl rfl)
theorem dX3_layersOf_2 : decode cX3_layersOf 2 = .ok (.putfield 79, 3) := dk_181 0 79 (dk_at dksX3_layersOf_0 2 rfl rfl)
theorem dX3_layersOf_5 : decode cX3_layersOf 5 = .ok (.aload_n 0, 1) := dk_42 (dk_at dksX3_layersOf_0 5 rfl rfl)
theorem dX3_layersOf_6 : decode cX3_layersOf 6 = .ok (.aload_n 0, 1) := dk_42 (dk_at dksX3_layersOf_0 6 rfl rfl)
theorem dX3_layersOf_7 : decode cX3_layersOf 7 = .ok (.iload_n 1, 1) := dk_27 (dk_at dksX3_layersOf_0 7 rfl rfl)
theorem dX3_layersOf_8 : decode cX3_layersOf 8 = .ok (.invokevirtual 113, 3) := dk_182 0 113 (dk_at dksX3_layersOf_0 8 rfl rfl)
theorem dX3_layersOf_11 : decode cX3_layersOf 11 = .ok (.iconst 1, 1) := dk_4 (dk_at dksX3_layersOf_0 11 rfl rfl)
theorem dX3_layersOf_12 : decode cX3_layersOf 12 = .ok (.invokevirtual 109, 3) := dk_182 0 109 (dk_at dksX3_layersOf_0 12 rfl rfl)
theorem dX3_layersOf_15 : decode cX3_layersOf 15 = .ok (.ifCond .eq 7, 3) := dk_153 0 7 (dk_at dksX3_layersOf_0 15 rfl rfl)
theorem dX3_layersOf_18 : decode cX3_layersOf 18 = .ok (.iconst 0, 1) := dk_3 (dk_at dksX3_layersOf_0 18 rfl rfl)
theorem dX3_layersOf_19 : decode cX3_layersOf 19 = .ok (.goto 8, 3) := dk_167 0 8 (dk_at dksX3_layersOf_0 19 rfl rfl)
theorem dX3_layersOf_22 : decode cX3_layersOf 22 = .ok (.aload_n 0, 1) := dk_42 (dk_at dksX3_layersOf_0 22 rfl rfl)
theorem dX3_layersOf_23 : decode cX3_layersOf 23 = .ok (.iload_n 1, 1) := dk_27 (dk_at dksX3_layersOf_0 23 rfl rfl)
theorem dX3_layersOf_24 : decode cX3_layersOf 24 = .ok (.invokevirtual 105, 3) := dk_182 0 105 (dk_at dksX3_layersOf_1 0 rfl rfl)
theorem dX3_layersOf_27 : decode cX3_layersOf 27 = .ok (.ireturn, 1) := dk_172 (dk_at dksX3_layersOf_1 3 rfl rfl)
abbrev cX3_uses : ByteArray := prog_12_method_38_code
def yX3_uses : MethodName := ⟨RX3, "uses", "(I)I"⟩
def dkwX3_uses_2 : List UInt8 := [167, 255, 233, 28, 172]
abbrev dktX3_uses_2 : List UInt8 := dkwX3_uses_2 ++ []
def dkwX3_uses_1 : List UInt8 := [29, 42, 180, 0, 89, 162, 0, 21, 28, 42, 29, 182, 0, 105, 27, 122, 4, 126, 96, 61, 132, 3, 1]
abbrev dktX3_uses_1 : List UInt8 := dkwX3_uses_1 ++ dktX3_uses_2
def dkwX3_uses_0 : List UInt8 := [42, 3, 181, 0, 79, 42, 42, 27, 182, 0, 116, 4, 182, 0, 109, 153, 0, 5, 3, 172, 3, 61, 3, 62]
abbrev dktX3_uses_0 : List UInt8 := dkwX3_uses_0 ++ dktX3_uses_1
theorem dksX3_uses_0 : cX3_uses.data.toList.drop 0 = dktX3_uses_0 := by decide +kernel
theorem dksX3_uses_1 : cX3_uses.data.toList.drop 24 = dktX3_uses_1 := dk_seg dksX3_uses_0 24 rfl rfl
theorem dksX3_uses_2 : cX3_uses.data.toList.drop 47 = dktX3_uses_2 := dk_seg dksX3_uses_1 23 rfl rfl
theorem dX3_uses_0 : decode cX3_uses 0 = .ok (.aload_n 0, 1) := dk_42 (dk_at dksX3_uses_0 0 rfl rfl)
theorem dX3_uses_1 : decode cX3_uses 1 = .ok (.iconst 0, 1) := dk_3 (dk_at dksX3_uses_0 1 rfl rfl)
theorem dX3_uses_2 : decode cX3_uses 2 = .ok (.putfield 79, 3) := dk_181 0 79 (dk_at dksX3_uses_0 2 rfl rfl)
theorem dX3_uses_5 : decode cX3_uses 5 = .ok (.aload_n 0, 1) := dk_42 (dk_at dksX3_uses_0 5 rfl rfl)
theorem dX3_uses_6 : decode cX3_uses 6 = .ok (.aload_n 0, 1) := dk_42 (dk_at dksX3_uses_0 6 rfl rfl)
theorem dX3_uses_7 : decode cX3_uses 7 = .ok (.iload_n 1, 1) := dk_27 (dk_at dksX3_uses_0 7 rfl rfl)
theorem dX3_uses_8 : decode cX3_uses 8 = .ok (.invokevirtual 116, 3) := dk_182 0 116 (dk_at dksX3_uses_0 8 rfl rfl)
theorem dX3_uses_11 : decode cX3_uses 11 = .ok (.iconst 1, 1) := dk_4 (dk_at dksX3_uses_0 11 rfl rfl)
theorem dX3_uses_12 : decode cX3_uses 12 = .ok (.invokevirtual 109, 3) := dk_182 0 109 (dk_at dksX3_uses_0 12 rfl rfl)
theorem dX3_uses_15 : decode cX3_uses 15 = .ok (.ifCond .eq 5, 3) := dk_153 0 5 (dk_at dksX3_uses_0 15 rfl rfl)
theorem dX3_uses_18 : decode cX3_uses 18 = .ok (.iconst 0, 1) := dk_3 (dk_at dksX3_uses_0 18 rfl rfl)
theorem dX3_uses_19 : decode cX3_uses 19 = .ok (.ireturn, 1) := dk_172 (dk_at dksX3_uses_0 19 rfl rfl)
theorem dX3_uses_20 : decode cX3_uses 20 = .ok (.iconst 0, 1) := dk_3 (dk_at dksX3_uses_0 20 rfl rfl)
theorem dX3_uses_21 : decode cX3_uses 21 = .ok (.istore_n 2, 1) := dk_61 (dk_at dksX3_uses_0 21 rfl rfl)
theorem dX3_uses_22 : decode cX3_uses 22 = .ok (.iconst 0, 1) := dk_3 (dk_at dksX3_uses_0 22 rfl rfl)
theorem dX3_uses_23 : decode cX3_uses 23 = .ok (.istore_n 3, 1) := dk_62 (dk_at dksX3_uses_0 23 rfl rfl)
theorem dX3_uses_24 : decode cX3_uses 24 = .ok (.iload_n 3, 1) := dk_29 (dk_at dksX3_uses_1 0 rfl rfl)
theorem dX3_uses_25 : decode cX3_uses 25 = .ok (.aload_n 0, 1) := dk_42 (dk_at dksX3_uses_1 1 rfl rfl)
theorem dX3_uses_26 : decode cX3_uses 26 = .ok (.getfield 89, 3) := dk_180 0 89 (dk_at dksX3_uses_1 2 rfl rfl)
theorem dX3_uses_29 : decode cX3_uses 29 = .ok (.if_icmp .ge 21, 3) := dk_162 0 21 (dk_at dksX3_uses_1 5 rfl rfl)
theorem dX3_uses_32 : decode cX3_uses 32 = .ok (.iload_n 2, 1) := dk_28 (dk_at dksX3_uses_1 8 rfl rfl)
theorem dX3_uses_33 : decode cX3_uses 33 = .ok (.aload_n 0, 1) := dk_42 (dk_at dksX3_uses_1 9 rfl rfl)
theorem dX3_uses_34 : decode cX3_uses 34 = .ok (.iload_n 3, 1) := dk_29 (dk_at dksX3_uses_1 10 rfl rfl)
theorem dX3_uses_35 : decode cX3_uses 35 = .ok (.invokevirtual 105, 3) := dk_182 0 105 (dk_at dksX3_uses_1 11 rfl rfl)
theorem dX3_uses_38 : decode cX3_uses 38 = .ok (.iload_n 1, 1) := dk_27 (dk_at dksX3_uses_1 14 rfl rfl)
theorem dX3_uses_39 : decode cX3_uses 39 = .ok (.ishr, 1) := dk_122 (dk_at dksX3_uses_1 15 rfl rfl)
theorem dX3_uses_40 : decode cX3_uses 40 = .ok (.iconst 1, 1) := dk_4 (dk_at dksX3_uses_1 16 rfl rfl)
theorem dX3_uses_41 : decode cX3_uses 41 = .ok (.iand, 1) := dk_126 (dk_at dksX3_uses_1 17 rfl rfl)
theorem dX3_uses_42 : decode cX3_uses 42 = .ok (.iadd, 1) := dk_96 (dk_at dksX3_uses_1 18 rfl rfl)
theorem dX3_uses_43 : decode cX3_uses 43 = .ok (.istore_n 2, 1) := dk_61 (dk_at dksX3_uses_1 19 rfl rfl)
theorem dX3_uses_44 : decode cX3_uses 44 = .ok (.iinc 3 1, 3) := dk_132 3 1 (dk_at dksX3_uses_1 20 rfl rfl)
theorem dX3_uses_47 : decode cX3_uses 47 = .ok (.goto (-23), 3) := dk_167 255 233 (dk_at dksX3_uses_2 0 rfl rfl)
theorem dX3_uses_50 : decode cX3_uses 50 = .ok (.iload_n 2, 1) := dk_28 (dk_at dksX3_uses_2 3 rfl rfl)
theorem dX3_uses_51 : decode cX3_uses 51 = .ok (.ireturn, 1) := dk_172 (dk_at dksX3_uses_2 4 rfl rfl)
abbrev cX3_isOut : ByteArray := prog_12_method_39_code
def yX3_isOut : MethodName := ⟨RX3, "isOut", "(I)Z"⟩
def dkwX3_isOut_1 : List UInt8 := [153, 0, 7, 4, 167, 0, 4, 3, 172]
abbrev dktX3_isOut_1 : List UInt8 := dkwX3_isOut_1 ++ []
def dkwX3_isOut_0 : List UInt8 := [42, 3, 181, 0, 79, 42, 42, 27, 182, 0, 116, 4, 182, 0, 109, 154, 0, 15, 42, 27, 182, 0, 101]
abbrev dktX3_isOut_0 : List UInt8 := dkwX3_isOut_0 ++ dktX3_isOut_1
theorem dksX3_isOut_0 : cX3_isOut.data.toList.drop 0 = dktX3_isOut_0 := by decide +kernel
theorem dksX3_isOut_1 : cX3_isOut.data.toList.drop 23 = dktX3_isOut_1 := dk_seg dksX3_isOut_0 23 rfl rfl
theorem dX3_isOut_0 : decode cX3_isOut 0 = .ok (.aload_n 0, 1) := dk_42 (dk_at dksX3_isOut_0 0 rfl rfl)
theorem dX3_isOut_1 : decode cX3_isOut 1 = .ok (.iconst 0, 1) := dk_3 (dk_at dksX3_isOut_0 1 rfl rfl)
theorem dX3_isOut_2 : decode cX3_isOut 2 = .ok (.putfield 79, 3) := dk_181 0 79 (dk_at dksX3_isOut_0 2 rfl rfl)
theorem dX3_isOut_5 : decode cX3_isOut 5 = .ok (.aload_n 0, 1) := dk_42 (dk_at dksX3_isOut_0 5 rfl rfl)
theorem dX3_isOut_6 : decode cX3_isOut 6 = .ok (.aload_n 0, 1) := dk_42 (dk_at dksX3_isOut_0 6 rfl rfl)
theorem dX3_isOut_7 : decode cX3_isOut 7 = .ok (.iload_n 1, 1) := dk_27 (dk_at dksX3_isOut_0 7 rfl rfl)
theorem dX3_isOut_8 : decode cX3_isOut 8 = .ok (.invokevirtual 116, 3) := dk_182 0 116 (dk_at dksX3_isOut_0 8 rfl rfl)
theorem dX3_isOut_11 : decode cX3_isOut 11 = .ok (.iconst 1, 1) := dk_4 (dk_at dksX3_isOut_0 11 rfl rfl)
theorem dX3_isOut_12 : decode cX3_isOut 12 = .ok (.invokevirtual 109, 3) := dk_182 0 109 (dk_at dksX3_isOut_0 12 rfl rfl)
theorem dX3_isOut_15 : decode cX3_isOut 15 = .ok (.ifCond .ne 15, 3) := dk_154 0 15 (dk_at dksX3_isOut_0 15 rfl rfl)
theorem dX3_isOut_18 : decode cX3_isOut 18 = .ok (.aload_n 0, 1) := dk_42 (dk_at dksX3_isOut_0 18 rfl rfl)
theorem dX3_isOut_19 : decode cX3_isOut 19 = .ok (.iload_n 1, 1) := dk_27 (dk_at dksX3_isOut_0 19 rfl rfl)
theorem dX3_isOut_20 : decode cX3_isOut 20 = .ok (.invokevirtual 101, 3) := dk_182 0 101 (dk_at dksX3_isOut_0 20 rfl rfl)
theorem dX3_isOut_23 : decode cX3_isOut 23 = .ok (.ifCond .eq 7, 3) := dk_153 0 7 (dk_at dksX3_isOut_1 0 rfl rfl)
theorem dX3_isOut_26 : decode cX3_isOut 26 = .ok (.iconst 1, 1) := dk_4 (dk_at dksX3_isOut_1 3 rfl rfl)
theorem dX3_isOut_27 : decode cX3_isOut 27 = .ok (.goto 4, 3) := dk_167 0 4 (dk_at dksX3_isOut_1 4 rfl rfl)
theorem dX3_isOut_30 : decode cX3_isOut 30 = .ok (.iconst 0, 1) := dk_3 (dk_at dksX3_isOut_1 7 rfl rfl)
theorem dX3_isOut_31 : decode cX3_isOut 31 = .ok (.ireturn, 1) := dk_172 (dk_at dksX3_isOut_1 8 rfl rfl)
abbrev cX3_stateOf : ByteArray := prog_12_method_40_code
def yX3_stateOf : MethodName := ⟨RX3, "stateOf", "(I)LState;"⟩
def dkwX3_stateOf_1 : List UInt8 := [42, 180, 0, 54, 27, 52, 184, 0, 165, 176]
abbrev dktX3_stateOf_1 : List UInt8 := dkwX3_stateOf_1 ++ []
def dkwX3_stateOf_0 : List UInt8 := [42, 3, 181, 0, 79, 42, 42, 27, 182, 0, 162, 4, 182, 0, 109, 153, 0, 9, 178, 0, 147, 167, 0, 12]
abbrev dktX3_stateOf_0 : List UInt8 := dkwX3_stateOf_0 ++ dktX3_stateOf_1
theorem dksX3_stateOf_0 : cX3_stateOf.data.toList.drop 0 = dktX3_stateOf_0 := by decide +kernel
theorem dksX3_stateOf_1 : cX3_stateOf.data.toList.drop 24 = dktX3_stateOf_1 := dk_seg dksX3_stateOf_0 24 rfl rfl
theorem dX3_stateOf_0 : decode cX3_stateOf 0 = .ok (.aload_n 0, 1) := dk_42 (dk_at dksX3_stateOf_0 0 rfl rfl)
theorem dX3_stateOf_1 : decode cX3_stateOf 1 = .ok (.iconst 0, 1) := dk_3 (dk_at dksX3_stateOf_0 1 rfl rfl)
theorem dX3_stateOf_2 : decode cX3_stateOf 2 = .ok (.putfield 79, 3) := dk_181 0 79 (dk_at dksX3_stateOf_0 2 rfl rfl)
theorem dX3_stateOf_5 : decode cX3_stateOf 5 = .ok (.aload_n 0, 1) := dk_42 (dk_at dksX3_stateOf_0 5 rfl rfl)
theorem dX3_stateOf_6 : decode cX3_stateOf 6 = .ok (.aload_n 0, 1) := dk_42 (dk_at dksX3_stateOf_0 6 rfl rfl)
theorem dX3_stateOf_7 : decode cX3_stateOf 7 = .ok (.iload_n 1, 1) := dk_27 (dk_at dksX3_stateOf_0 7 rfl rfl)
theorem dX3_stateOf_8 : decode cX3_stateOf 8 = .ok (.invokevirtual 162, 3) := dk_182 0 162 (dk_at dksX3_stateOf_0 8 rfl rfl)
theorem dX3_stateOf_11 : decode cX3_stateOf 11 = .ok (.iconst 1, 1) := dk_4 (dk_at dksX3_stateOf_0 11 rfl rfl)
theorem dX3_stateOf_12 : decode cX3_stateOf 12 = .ok (.invokevirtual 109, 3) := dk_182 0 109 (dk_at dksX3_stateOf_0 12 rfl rfl)
theorem dX3_stateOf_15 : decode cX3_stateOf 15 = .ok (.ifCond .eq 9, 3) := dk_153 0 9 (dk_at dksX3_stateOf_0 15 rfl rfl)
theorem dX3_stateOf_18 : decode cX3_stateOf 18 = .ok (.getstatic 147, 3) := dk_178 0 147 (dk_at dksX3_stateOf_0 18 rfl rfl)
theorem dX3_stateOf_21 : decode cX3_stateOf 21 = .ok (.goto 12, 3) := dk_167 0 12 (dk_at dksX3_stateOf_0 21 rfl rfl)
theorem dX3_stateOf_24 : decode cX3_stateOf 24 = .ok (.aload_n 0, 1) := dk_42 (dk_at dksX3_stateOf_1 0 rfl rfl)
theorem dX3_stateOf_25 : decode cX3_stateOf 25 = .ok (.getfield 54, 3) := dk_180 0 54 (dk_at dksX3_stateOf_1 1 rfl rfl)
theorem dX3_stateOf_28 : decode cX3_stateOf 28 = .ok (.iload_n 1, 1) := dk_27 (dk_at dksX3_stateOf_1 4 rfl rfl)
theorem dX3_stateOf_29 : decode cX3_stateOf 29 = .ok (.caload, 1) := dk_52 (dk_at dksX3_stateOf_1 5 rfl rfl)
theorem dX3_stateOf_30 : decode cX3_stateOf 30 = .ok (.invokestatic 165, 3) := dk_184 0 165 (dk_at dksX3_stateOf_1 6 rfl rfl)
theorem dX3_stateOf_33 : decode cX3_stateOf 33 = .ok (.areturn, 1) := dk_176 (dk_at dksX3_stateOf_1 9 rfl rfl)
abbrev cX3_hostOf : ByteArray := prog_12_method_41_code
def yX3_hostOf : MethodName := ⟨RX3, "hostOf", "(I)I"⟩
def dkwX3_hostOf_2 : List UInt8 := [180, 0, 58, 27, 46, 172]
abbrev dktX3_hostOf_2 : List UInt8 := dkwX3_hostOf_2 ++ []
def dkwX3_hostOf_1 : List UInt8 := [52, 16, 114, 159, 0, 7, 4, 167, 0, 4, 3, 5, 182, 0, 109, 153, 0, 7, 3, 167, 0, 9, 42]
abbrev dktX3_hostOf_1 : List UInt8 := dkwX3_hostOf_1 ++ dktX3_hostOf_2
def dkwX3_hostOf_0 : List UInt8 := [42, 3, 181, 0, 79, 42, 42, 27, 182, 0, 162, 4, 182, 0, 109, 154, 0, 27, 42, 42, 180, 0, 54, 27]
abbrev dktX3_hostOf_0 : List UInt8 := dkwX3_hostOf_0 ++ dktX3_hostOf_1
theorem dksX3_hostOf_0 : cX3_hostOf.data.toList.drop 0 = dktX3_hostOf_0 := by decide +kernel
theorem dksX3_hostOf_1 : cX3_hostOf.data.toList.drop 24 = dktX3_hostOf_1 := dk_seg dksX3_hostOf_0 24 rfl rfl
theorem dksX3_hostOf_2 : cX3_hostOf.data.toList.drop 47 = dktX3_hostOf_2 := dk_seg dksX3_hostOf_1 23 rfl rfl
theorem dX3_hostOf_0 : decode cX3_hostOf 0 = .ok (.aload_n 0, 1) := dk_42 (dk_at dksX3_hostOf_0 0 rfl rfl)
theorem dX3_hostOf_1 : decode cX3_hostOf 1 = .ok (.iconst 0, 1) := dk_3 (dk_at dksX3_hostOf_0 1 rfl rfl)
theorem dX3_hostOf_2 : decode cX3_hostOf 2 = .ok (.putfield 79, 3) := dk_181 0 79 (dk_at dksX3_hostOf_0 2 rfl rfl)
theorem dX3_hostOf_5 : decode cX3_hostOf 5 = .ok (.aload_n 0, 1) := dk_42 (dk_at dksX3_hostOf_0 5 rfl rfl)
theorem dX3_hostOf_6 : decode cX3_hostOf 6 = .ok (.aload_n 0, 1) := dk_42 (dk_at dksX3_hostOf_0 6 rfl rfl)
theorem dX3_hostOf_7 : decode cX3_hostOf 7 = .ok (.iload_n 1, 1) := dk_27 (dk_at dksX3_hostOf_0 7 rfl rfl)
theorem dX3_hostOf_8 : decode cX3_hostOf 8 = .ok (.invokevirtual 162, 3) := dk_182 0 162 (dk_at dksX3_hostOf_0 8 rfl rfl)
theorem dX3_hostOf_11 : decode cX3_hostOf 11 = .ok (.iconst 1, 1) := dk_4 (dk_at dksX3_hostOf_0 11 rfl rfl)
theorem dX3_hostOf_12 : decode cX3_hostOf 12 = .ok (.invokevirtual 109, 3) := dk_182 0 109 (dk_at dksX3_hostOf_0 12 rfl rfl)
theorem dX3_hostOf_15 : decode cX3_hostOf 15 = .ok (.ifCond .ne 27, 3) := dk_154 0 27 (dk_at dksX3_hostOf_0 15 rfl rfl)
theorem dX3_hostOf_18 : decode cX3_hostOf 18 = .ok (.aload_n 0, 1) := dk_42 (dk_at dksX3_hostOf_0 18 rfl rfl)
theorem dX3_hostOf_19 : decode cX3_hostOf 19 = .ok (.aload_n 0, 1) := dk_42 (dk_at dksX3_hostOf_0 19 rfl rfl)
theorem dX3_hostOf_20 : decode cX3_hostOf 20 = .ok (.getfield 54, 3) := dk_180 0 54 (dk_at dksX3_hostOf_0 20 rfl rfl)
theorem dX3_hostOf_23 : decode cX3_hostOf 23 = .ok (.iload_n 1, 1) := dk_27 (dk_at dksX3_hostOf_0 23 rfl rfl)
theorem dX3_hostOf_24 : decode cX3_hostOf 24 = .ok (.caload, 1) := dk_52 (dk_at dksX3_hostOf_1 0 rfl rfl)
theorem dX3_hostOf_25 : decode cX3_hostOf 25 = .ok (.bipush 114, 2) := dk_16 114 (dk_at dksX3_hostOf_1 1 rfl rfl)
theorem dX3_hostOf_27 : decode cX3_hostOf 27 = .ok (.if_icmp .eq 7, 3) := dk_159 0 7 (dk_at dksX3_hostOf_1 3 rfl rfl)
theorem dX3_hostOf_30 : decode cX3_hostOf 30 = .ok (.iconst 1, 1) := dk_4 (dk_at dksX3_hostOf_1 6 rfl rfl)
theorem dX3_hostOf_31 : decode cX3_hostOf 31 = .ok (.goto 4, 3) := dk_167 0 4 (dk_at dksX3_hostOf_1 7 rfl rfl)
theorem dX3_hostOf_34 : decode cX3_hostOf 34 = .ok (.iconst 0, 1) := dk_3 (dk_at dksX3_hostOf_1 10 rfl rfl)
theorem dX3_hostOf_35 : decode cX3_hostOf 35 = .ok (.iconst 2, 1) := dk_5 (dk_at dksX3_hostOf_1 11 rfl rfl)
theorem dX3_hostOf_36 : decode cX3_hostOf 36 = .ok (.invokevirtual 109, 3) := dk_182 0 109 (dk_at dksX3_hostOf_1 12 rfl rfl)
theorem dX3_hostOf_39 : decode cX3_hostOf 39 = .ok (.ifCond .eq 7, 3) := dk_153 0 7 (dk_at dksX3_hostOf_1 15 rfl rfl)
theorem dX3_hostOf_42 : decode cX3_hostOf 42 = .ok (.iconst 0, 1) := dk_3 (dk_at dksX3_hostOf_1 18 rfl rfl)
theorem dX3_hostOf_43 : decode cX3_hostOf 43 = .ok (.goto 9, 3) := dk_167 0 9 (dk_at dksX3_hostOf_1 19 rfl rfl)
theorem dX3_hostOf_46 : decode cX3_hostOf 46 = .ok (.aload_n 0, 1) := dk_42 (dk_at dksX3_hostOf_1 22 rfl rfl)
theorem dX3_hostOf_47 : decode cX3_hostOf 47 = .ok (.getfield 58, 3) := dk_180 0 58 (dk_at dksX3_hostOf_2 0 rfl rfl)
theorem dX3_hostOf_50 : decode cX3_hostOf 50 = .ok (.iload_n 1, 1) := dk_27 (dk_at dksX3_hostOf_2 3 rfl rfl)
theorem dX3_hostOf_51 : decode cX3_hostOf 51 = .ok (.iaload, 1) := dk_46 (dk_at dksX3_hostOf_2 4 rfl rfl)
theorem dX3_hostOf_52 : decode cX3_hostOf 52 = .ok (.ireturn, 1) := dk_172 (dk_at dksX3_hostOf_2 5 rfl rfl)
abbrev cX3_barOf : ByteArray := prog_12_method_42_code
def yX3_barOf : MethodName := ⟨RX3, "barOf", "(I)LBar;"⟩
def dkwX3_barOf_2 : List UInt8 := [27, 52, 16, 119, 160, 0, 16, 42, 27, 42, 2, 182, 0, 144, 182, 0, 197, 167, 0, 6, 178, 0, 190, 176]
abbrev dktX3_barOf_2 : List UInt8 := dkwX3_barOf_2 ++ []
def dkwX3_barOf_1 : List UInt8 := [182, 0, 193, 42, 180, 0, 54, 27, 52, 16, 115, 160, 0, 9, 178, 0, 217, 167, 0, 30, 42, 180, 0, 54]
abbrev dktX3_barOf_1 : List UInt8 := dkwX3_barOf_1 ++ dktX3_barOf_2
def dkwX3_barOf_0 : List UInt8 := [42, 3, 181, 0, 79, 42, 42, 27, 182, 0, 162, 4, 182, 0, 109, 153, 0, 7, 178, 0, 190, 176, 42, 3]
abbrev dktX3_barOf_0 : List UInt8 := dkwX3_barOf_0 ++ dktX3_barOf_1
theorem dksX3_barOf_0 : cX3_barOf.data.toList.drop 0 = dktX3_barOf_0 := by decide +kernel
theorem dksX3_barOf_1 : cX3_barOf.data.toList.drop 24 = dktX3_barOf_1 := dk_seg dksX3_barOf_0 24 rfl rfl
theorem dksX3_barOf_2 : cX3_barOf.data.toList.drop 48 = dktX3_barOf_2 := dk_seg dksX3_barOf_1 24 rfl rfl
theorem dX3_barOf_0 : decode cX3_barOf 0 = .ok (.aload_n 0, 1) := dk_42 (dk_at dksX3_barOf_0 0 rfl rfl)
theorem dX3_barOf_1 : decode cX3_barOf 1 = .ok (.iconst 0, 1) := dk_3 (dk_at dksX3_barOf_0 1 rfl rfl)
theorem dX3_barOf_2 : decode cX3_barOf 2 = .ok (.putfield 79, 3) := dk_181 0 79 (dk_at dksX3_barOf_0 2 rfl rfl)
theorem dX3_barOf_5 : decode cX3_barOf 5 = .ok (.aload_n 0, 1) := dk_42 (dk_at dksX3_barOf_0 5 rfl rfl)
theorem dX3_barOf_6 : decode cX3_barOf 6 = .ok (.aload_n 0, 1) := dk_42 (dk_at dksX3_barOf_0 6 rfl rfl)
theorem dX3_barOf_7 : decode cX3_barOf 7 = .ok (.iload_n 1, 1) := dk_27 (dk_at dksX3_barOf_0 7 rfl rfl)
theorem dX3_barOf_8 : decode cX3_barOf 8 = .ok (.invokevirtual 162, 3) := dk_182 0 162 (dk_at dksX3_barOf_0 8 rfl rfl)
theorem dX3_barOf_11 : decode cX3_barOf 11 = .ok (.iconst 1, 1) := dk_4 (dk_at dksX3_barOf_0 11 rfl rfl)
theorem dX3_barOf_12 : decode cX3_barOf 12 = .ok (.invokevirtual 109, 3) := dk_182 0 109 (dk_at dksX3_barOf_0 12 rfl rfl)
theorem dX3_barOf_15 : decode cX3_barOf 15 = .ok (.ifCond .eq 7, 3) := dk_153 0 7 (dk_at dksX3_barOf_0 15 rfl rfl)
theorem dX3_barOf_18 : decode cX3_barOf 18 = .ok (.getstatic 190, 3) := dk_178 0 190 (dk_at dksX3_barOf_0 18 rfl rfl)
theorem dX3_barOf_21 : decode cX3_barOf 21 = .ok (.areturn, 1) := dk_176 (dk_at dksX3_barOf_0 21 rfl rfl)
theorem dX3_barOf_22 : decode cX3_barOf 22 = .ok (.aload_n 0, 1) := dk_42 (dk_at dksX3_barOf_0 22 rfl rfl)
theorem dX3_barOf_23 : decode cX3_barOf 23 = .ok (.iconst 0, 1) := dk_3 (dk_at dksX3_barOf_0 23 rfl rfl)
theorem dX3_barOf_24 : decode cX3_barOf 24 = .ok (.invokevirtual 193, 3) := dk_182 0 193 (dk_at dksX3_barOf_1 0 rfl rfl)
theorem dX3_barOf_27 : decode cX3_barOf 27 = .ok (.aload_n 0, 1) := dk_42 (dk_at dksX3_barOf_1 3 rfl rfl)
theorem dX3_barOf_28 : decode cX3_barOf 28 = .ok (.getfield 54, 3) := dk_180 0 54 (dk_at dksX3_barOf_1 4 rfl rfl)
theorem dX3_barOf_31 : decode cX3_barOf 31 = .ok (.iload_n 1, 1) := dk_27 (dk_at dksX3_barOf_1 7 rfl rfl)
theorem dX3_barOf_32 : decode cX3_barOf 32 = .ok (.caload, 1) := dk_52 (dk_at dksX3_barOf_1 8 rfl rfl)
theorem dX3_barOf_33 : decode cX3_barOf 33 = .ok (.bipush 115, 2) := dk_16 115 (dk_at dksX3_barOf_1 9 rfl rfl)
theorem dX3_barOf_35 : decode cX3_barOf 35 = .ok (.if_icmp .ne 9, 3) := dk_160 0 9 (dk_at dksX3_barOf_1 11 rfl rfl)
theorem dX3_barOf_38 : decode cX3_barOf 38 = .ok (.getstatic 217, 3) := dk_178 0 217 (dk_at dksX3_barOf_1 14 rfl rfl)
theorem dX3_barOf_41 : decode cX3_barOf 41 = .ok (.goto 30, 3) := dk_167 0 30 (dk_at dksX3_barOf_1 17 rfl rfl)
theorem dX3_barOf_44 : decode cX3_barOf 44 = .ok (.aload_n 0, 1) := dk_42 (dk_at dksX3_barOf_1 20 rfl rfl)
theorem dX3_barOf_45 : decode cX3_barOf 45 = .ok (.getfield 54, 3) := dk_180 0 54 (dk_at dksX3_barOf_1 21 rfl rfl)
theorem dX3_barOf_48 : decode cX3_barOf 48 = .ok (.iload_n 1, 1) := dk_27 (dk_at dksX3_barOf_2 0 rfl rfl)
theorem dX3_barOf_49 : decode cX3_barOf 49 = .ok (.caload, 1) := dk_52 (dk_at dksX3_barOf_2 1 rfl rfl)
theorem dX3_barOf_50 : decode cX3_barOf 50 = .ok (.bipush 119, 2) := dk_16 119 (dk_at dksX3_barOf_2 2 rfl rfl)
theorem dX3_barOf_52 : decode cX3_barOf 52 = .ok (.if_icmp .ne 16, 3) := dk_160 0 16 (dk_at dksX3_barOf_2 4 rfl rfl)
theorem dX3_barOf_55 : decode cX3_barOf 55 = .ok (.aload_n 0, 1) := dk_42 (dk_at dksX3_barOf_2 7 rfl rfl)
theorem dX3_barOf_56 : decode cX3_barOf 56 = .ok (.iload_n 1, 1) := dk_27 (dk_at dksX3_barOf_2 8 rfl rfl)
theorem dX3_barOf_57 : decode cX3_barOf 57 = .ok (.aload_n 0, 1) := dk_42 (dk_at dksX3_barOf_2 9 rfl rfl)
theorem dX3_barOf_58 : decode cX3_barOf 58 = .ok (.iconst (-1), 1) := dk_2 (dk_at dksX3_barOf_2 10 rfl rfl)
theorem dX3_barOf_59 : decode cX3_barOf 59 = .ok (.invokevirtual 144, 3) := dk_182 0 144 (dk_at dksX3_barOf_2 11 rfl rfl)
theorem dX3_barOf_62 : decode cX3_barOf 62 = .ok (.invokevirtual 197, 3) := dk_182 0 197 (dk_at dksX3_barOf_2 14 rfl rfl)
theorem dX3_barOf_65 : decode cX3_barOf 65 = .ok (.goto 6, 3) := dk_167 0 6 (dk_at dksX3_barOf_2 17 rfl rfl)
theorem dX3_barOf_68 : decode cX3_barOf 68 = .ok (.getstatic 190, 3) := dk_178 0 190 (dk_at dksX3_barOf_2 20 rfl rfl)
theorem dX3_barOf_71 : decode cX3_barOf 71 = .ok (.areturn, 1) := dk_176 (dk_at dksX3_barOf_2 23 rfl rfl)
abbrev cX3_restsUntil : ByteArray := prog_12_method_43_code
def yX3_restsUntil : MethodName := ⟨RX3, "restsUntil", "(I)I"⟩
def dkwX3_restsUntil_2 : List UInt8 := [180, 0, 67, 27, 46, 172]
abbrev dktX3_restsUntil_2 : List UInt8 := dkwX3_restsUntil_2 ++ []
def dkwX3_restsUntil_1 : List UInt8 := [52, 16, 115, 159, 0, 7, 4, 167, 0, 4, 3, 5, 182, 0, 109, 153, 0, 7, 3, 167, 0, 9, 42]
abbrev dktX3_restsUntil_1 : List UInt8 := dkwX3_restsUntil_1 ++ dktX3_restsUntil_2
def dkwX3_restsUntil_0 : List UInt8 := [42, 3, 181, 0, 79, 42, 42, 27, 182, 0, 162, 4, 182, 0, 109, 154, 0, 27, 42, 42, 180, 0, 54, 27]
abbrev dktX3_restsUntil_0 : List UInt8 := dkwX3_restsUntil_0 ++ dktX3_restsUntil_1
theorem dksX3_restsUntil_0 : cX3_restsUntil.data.toList.drop 0 = dktX3_restsUntil_0 := by decide +kernel
theorem dksX3_restsUntil_1 : cX3_restsUntil.data.toList.drop 24 = dktX3_restsUntil_1 := dk_seg dksX3_restsUntil_0 24 rfl rfl
theorem dksX3_restsUntil_2 : cX3_restsUntil.data.toList.drop 47 = dktX3_restsUntil_2 := dk_seg dksX3_restsUntil_1 23 rfl rfl
theorem dX3_restsUntil_0 : decode cX3_restsUntil 0 = .ok (.aload_n 0, 1) := dk_42 (dk_at dksX3_restsUntil_0 0 rfl rfl)
theorem dX3_restsUntil_1 : decode cX3_restsUntil 1 = .ok (.iconst 0, 1) := dk_3 (dk_at dksX3_restsUntil_0 1 rfl rfl)
theorem dX3_restsUntil_2 : decode cX3_restsUntil 2 = .ok (.putfield 79, 3) := dk_181 0 79 (dk_at dksX3_restsUntil_0 2 rfl rfl)
theorem dX3_restsUntil_5 : decode cX3_restsUntil 5 = .ok (.aload_n 0, 1) := dk_42 (dk_at dksX3_restsUntil_0 5 rfl rfl)
theorem dX3_restsUntil_6 : decode cX3_restsUntil 6 = .ok (.aload_n 0, 1) := dk_42 (dk_at dksX3_restsUntil_0 6 rfl rfl)
theorem dX3_restsUntil_7 : decode cX3_restsUntil 7 = .ok (.iload_n 1, 1) := dk_27 (dk_at dksX3_restsUntil_0 7 rfl rfl)
theorem dX3_restsUntil_8 : decode cX3_restsUntil 8 = .ok (.invokevirtual 162, 3) := dk_182 0 162 (dk_at dksX3_restsUntil_0 8 rfl rfl)
theorem dX3_restsUntil_11 : decode cX3_restsUntil 11 = .ok (.iconst 1, 1) := dk_4 (dk_at dksX3_restsUntil_0 11 rfl rfl)
theorem dX3_restsUntil_12 : decode cX3_restsUntil 12 = .ok (.invokevirtual 109, 3) := dk_182 0 109 (dk_at dksX3_restsUntil_0 12 rfl rfl)
theorem dX3_restsUntil_15 : decode cX3_restsUntil 15 = .ok (.ifCond .ne 27, 3) := dk_154 0 27 (dk_at dksX3_restsUntil_0 15 rfl rfl)
theorem dX3_restsUntil_18 : decode cX3_restsUntil 18 = .ok (.aload_n 0, 1) := dk_42 (dk_at dksX3_restsUntil_0 18 rfl rfl)
theorem dX3_restsUntil_19 : decode cX3_restsUntil 19 = .ok (.aload_n 0, 1) := dk_42 (dk_at dksX3_restsUntil_0 19 rfl rfl)
theorem dX3_restsUntil_20 : decode cX3_restsUntil 20 = .ok (.getfield 54, 3) := dk_180 0 54 (dk_at dksX3_restsUntil_0 20 rfl rfl)
theorem dX3_restsUntil_23 : decode cX3_restsUntil 23 = .ok (.iload_n 1, 1) := dk_27 (dk_at dksX3_restsUntil_0 23 rfl rfl)
theorem dX3_restsUntil_24 : decode cX3_restsUntil 24 = .ok (.caload, 1) := dk_52 (dk_at dksX3_restsUntil_1 0 rfl rfl)
theorem dX3_restsUntil_25 : decode cX3_restsUntil 25 = .ok (.bipush 115, 2) := dk_16 115 (dk_at dksX3_restsUntil_1 1 rfl rfl)
theorem dX3_restsUntil_27 : decode cX3_restsUntil 27 = .ok (.if_icmp .eq 7, 3) := dk_159 0 7 (dk_at dksX3_restsUntil_1 3 rfl rfl)
theorem dX3_restsUntil_30 : decode cX3_restsUntil 30 = .ok (.iconst 1, 1) := dk_4 (dk_at dksX3_restsUntil_1 6 rfl rfl)
theorem dX3_restsUntil_31 : decode cX3_restsUntil 31 = .ok (.goto 4, 3) := dk_167 0 4 (dk_at dksX3_restsUntil_1 7 rfl rfl)
theorem dX3_restsUntil_34 : decode cX3_restsUntil 34 = .ok (.iconst 0, 1) := dk_3 (dk_at dksX3_restsUntil_1 10 rfl rfl)
theorem dX3_restsUntil_35 : decode cX3_restsUntil 35 = .ok (.iconst 2, 1) := dk_5 (dk_at dksX3_restsUntil_1 11 rfl rfl)
theorem dX3_restsUntil_36 : decode cX3_restsUntil 36 = .ok (.invokevirtual 109, 3) := dk_182 0 109 (dk_at dksX3_restsUntil_1 12 rfl rfl)
theorem dX3_restsUntil_39 : decode cX3_restsUntil 39 = .ok (.ifCond .eq 7, 3) := dk_153 0 7 (dk_at dksX3_restsUntil_1 15 rfl rfl)
theorem dX3_restsUntil_42 : decode cX3_restsUntil 42 = .ok (.iconst 0, 1) := dk_3 (dk_at dksX3_restsUntil_1 18 rfl rfl)
theorem dX3_restsUntil_43 : decode cX3_restsUntil 43 = .ok (.goto 9, 3) := dk_167 0 9 (dk_at dksX3_restsUntil_1 19 rfl rfl)
theorem dX3_restsUntil_46 : decode cX3_restsUntil 46 = .ok (.aload_n 0, 1) := dk_42 (dk_at dksX3_restsUntil_1 22 rfl rfl)
theorem dX3_restsUntil_47 : decode cX3_restsUntil 47 = .ok (.getfield 67, 3) := dk_180 0 67 (dk_at dksX3_restsUntil_2 0 rfl rfl)
theorem dX3_restsUntil_50 : decode cX3_restsUntil 50 = .ok (.iload_n 1, 1) := dk_27 (dk_at dksX3_restsUntil_2 3 rfl rfl)
theorem dX3_restsUntil_51 : decode cX3_restsUntil 51 = .ok (.iaload, 1) := dk_46 (dk_at dksX3_restsUntil_2 4 rfl rfl)
theorem dX3_restsUntil_52 : decode cX3_restsUntil 52 = .ok (.ireturn, 1) := dk_172 (dk_at dksX3_restsUntil_2 5 rfl rfl)
abbrev cX3_layersIn : ByteArray := prog_12_method_44_code
def yX3_layersIn : MethodName := ⟨RX3, "layersIn", "(I)I"⟩
def dkwX3_layersIn_2 : List UInt8 := [180, 0, 61, 27, 46, 172]
abbrev dktX3_layersIn_2 : List UInt8 := dkwX3_layersIn_2 ++ []
def dkwX3_layersIn_1 : List UInt8 := [52, 16, 114, 159, 0, 7, 4, 167, 0, 4, 3, 5, 182, 0, 109, 153, 0, 7, 3, 167, 0, 9, 42]
abbrev dktX3_layersIn_1 : List UInt8 := dkwX3_layersIn_1 ++ dktX3_layersIn_2
def dkwX3_layersIn_0 : List UInt8 := [42, 3, 181, 0, 79, 42, 42, 27, 182, 0, 162, 4, 182, 0, 109, 154, 0, 27, 42, 42, 180, 0, 54, 27]
abbrev dktX3_layersIn_0 : List UInt8 := dkwX3_layersIn_0 ++ dktX3_layersIn_1
theorem dksX3_layersIn_0 : cX3_layersIn.data.toList.drop 0 = dktX3_layersIn_0 := by decide +kernel
theorem dksX3_layersIn_1 : cX3_layersIn.data.toList.drop 24 = dktX3_layersIn_1 := dk_seg dksX3_layersIn_0 24 rfl rfl
theorem dksX3_layersIn_2 : cX3_layersIn.data.toList.drop 47 = dktX3_layersIn_2 := dk_seg dksX3_layersIn_1 23 rfl rfl
theorem dX3_layersIn_0 : decode cX3_layersIn 0 = .ok (.aload_n 0, 1) := dk_42 (dk_at dksX3_layersIn_0 0 rfl rfl)
theorem dX3_layersIn_1 : decode cX3_layersIn 1 = .ok (.iconst 0, 1) := dk_3 (dk_at dksX3_layersIn_0 1 rfl rfl)
theorem dX3_layersIn_2 : decode cX3_layersIn 2 = .ok (.putfield 79, 3) := dk_181 0 79 (dk_at dksX3_layersIn_0 2 rfl rfl)
theorem dX3_layersIn_5 : decode cX3_layersIn 5 = .ok (.aload_n 0, 1) := dk_42 (dk_at dksX3_layersIn_0 5 rfl rfl)
theorem dX3_layersIn_6 : decode cX3_layersIn 6 = .ok (.aload_n 0, 1) := dk_42 (dk_at dksX3_layersIn_0 6 rfl rfl)
theorem dX3_layersIn_7 : decode cX3_layersIn 7 = .ok (.iload_n 1, 1) := dk_27 (dk_at dksX3_layersIn_0 7 rfl rfl)
theorem dX3_layersIn_8 : decode cX3_layersIn 8 = .ok (.invokevirtual 162, 3) := dk_182 0 162 (dk_at dksX3_layersIn_0 8 rfl rfl)
theorem dX3_layersIn_11 : decode cX3_layersIn 11 = .ok (.iconst 1, 1) := dk_4 (dk_at dksX3_layersIn_0 11 rfl rfl)
theorem dX3_layersIn_12 : decode cX3_layersIn 12 = .ok (.invokevirtual 109, 3) := dk_182 0 109 (dk_at dksX3_layersIn_0 12 rfl rfl)
theorem dX3_layersIn_15 : decode cX3_layersIn 15 = .ok (.ifCond .ne 27, 3) := dk_154 0 27 (dk_at dksX3_layersIn_0 15 rfl rfl)
theorem dX3_layersIn_18 : decode cX3_layersIn 18 = .ok (.aload_n 0, 1) := dk_42 (dk_at dksX3_layersIn_0 18 rfl rfl)
theorem dX3_layersIn_19 : decode cX3_layersIn 19 = .ok (.aload_n 0, 1) := dk_42 (dk_at dksX3_layersIn_0 19 rfl rfl)
theorem dX3_layersIn_20 : decode cX3_layersIn 20 = .ok (.getfield 54, 3) := dk_180 0 54 (dk_at dksX3_layersIn_0 20 rfl rfl)
theorem dX3_layersIn_23 : decode cX3_layersIn 23 = .ok (.iload_n 1, 1) := dk_27 (dk_at dksX3_layersIn_0 23 rfl rfl)
theorem dX3_layersIn_24 : decode cX3_layersIn 24 = .ok (.caload, 1) := dk_52 (dk_at dksX3_layersIn_1 0 rfl rfl)
theorem dX3_layersIn_25 : decode cX3_layersIn 25 = .ok (.bipush 114, 2) := dk_16 114 (dk_at dksX3_layersIn_1 1 rfl rfl)
theorem dX3_layersIn_27 : decode cX3_layersIn 27 = .ok (.if_icmp .eq 7, 3) := dk_159 0 7 (dk_at dksX3_layersIn_1 3 rfl rfl)
theorem dX3_layersIn_30 : decode cX3_layersIn 30 = .ok (.iconst 1, 1) := dk_4 (dk_at dksX3_layersIn_1 6 rfl rfl)
theorem dX3_layersIn_31 : decode cX3_layersIn 31 = .ok (.goto 4, 3) := dk_167 0 4 (dk_at dksX3_layersIn_1 7 rfl rfl)
theorem dX3_layersIn_34 : decode cX3_layersIn 34 = .ok (.iconst 0, 1) := dk_3 (dk_at dksX3_layersIn_1 10 rfl rfl)
theorem dX3_layersIn_35 : decode cX3_layersIn 35 = .ok (.iconst 2, 1) := dk_5 (dk_at dksX3_layersIn_1 11 rfl rfl)
theorem dX3_layersIn_36 : decode cX3_layersIn 36 = .ok (.invokevirtual 109, 3) := dk_182 0 109 (dk_at dksX3_layersIn_1 12 rfl rfl)
theorem dX3_layersIn_39 : decode cX3_layersIn 39 = .ok (.ifCond .eq 7, 3) := dk_153 0 7 (dk_at dksX3_layersIn_1 15 rfl rfl)
theorem dX3_layersIn_42 : decode cX3_layersIn 42 = .ok (.iconst 0, 1) := dk_3 (dk_at dksX3_layersIn_1 18 rfl rfl)
theorem dX3_layersIn_43 : decode cX3_layersIn 43 = .ok (.goto 9, 3) := dk_167 0 9 (dk_at dksX3_layersIn_1 19 rfl rfl)
theorem dX3_layersIn_46 : decode cX3_layersIn 46 = .ok (.aload_n 0, 1) := dk_42 (dk_at dksX3_layersIn_1 22 rfl rfl)
theorem dX3_layersIn_47 : decode cX3_layersIn 47 = .ok (.getfield 61, 3) := dk_180 0 61 (dk_at dksX3_layersIn_2 0 rfl rfl)
theorem dX3_layersIn_50 : decode cX3_layersIn 50 = .ok (.iload_n 1, 1) := dk_27 (dk_at dksX3_layersIn_2 3 rfl rfl)
theorem dX3_layersIn_51 : decode cX3_layersIn 51 = .ok (.iaload, 1) := dk_46 (dk_at dksX3_layersIn_2 4 rfl rfl)
theorem dX3_layersIn_52 : decode cX3_layersIn 52 = .ok (.ireturn, 1) := dk_172 (dk_at dksX3_layersIn_2 5 rfl rfl)
abbrev cX3_isStale : ByteArray := prog_12_method_45_code
def yX3_isStale : MethodName := ⟨RX3, "isStale", "(I)Z"⟩
def dkwX3_isStale_1 : List UInt8 := [153, 0, 7, 4, 167, 0, 4, 3, 172]
abbrev dktX3_isStale_1 : List UInt8 := dkwX3_isStale_1 ++ []
def dkwX3_isStale_0 : List UInt8 := [42, 3, 181, 0, 79, 42, 42, 27, 182, 0, 162, 4, 182, 0, 109, 154, 0, 15, 42, 27, 182, 0, 123]
abbrev dktX3_isStale_0 : List UInt8 := dkwX3_isStale_0 ++ dktX3_isStale_1
theorem dksX3_isStale_0 : cX3_isStale.data.toList.drop 0 = dktX3_isStale_0 := by decide +kernel
theorem dksX3_isStale_1 : cX3_isStale.data.toList.drop 23 = dktX3_isStale_1 := dk_seg dksX3_isStale_0 23 rfl rfl
theorem dX3_isStale_0 : decode cX3_isStale 0 = .ok (.aload_n 0, 1) := dk_42 (dk_at dksX3_isStale_0 0 rfl rfl)
theorem dX3_isStale_1 : decode cX3_isStale 1 = .ok (.iconst 0, 1) := dk_3 (dk_at dksX3_isStale_0 1 rfl rfl)
theorem dX3_isStale_2 : decode cX3_isStale 2 = .ok (.putfield 79, 3) := dk_181 0 79 (dk_at dksX3_isStale_0 2 rfl rfl)
theorem dX3_isStale_5 : decode cX3_isStale 5 = .ok (.aload_n 0, 1) := dk_42 (dk_at dksX3_isStale_0 5 rfl rfl)
theorem dX3_isStale_6 : decode cX3_isStale 6 = .ok (.aload_n 0, 1) := dk_42 (dk_at dksX3_isStale_0 6 rfl rfl)
theorem dX3_isStale_7 : decode cX3_isStale 7 = .ok (.iload_n 1, 1) := dk_27 (dk_at dksX3_isStale_0 7 rfl rfl)
theorem dX3_isStale_8 : decode cX3_isStale 8 = .ok (.invokevirtual 162, 3) := dk_182 0 162 (dk_at dksX3_isStale_0 8 rfl rfl)
theorem dX3_isStale_11 : decode cX3_isStale 11 = .ok (.iconst 1, 1) := dk_4 (dk_at dksX3_isStale_0 11 rfl rfl)
theorem dX3_isStale_12 : decode cX3_isStale 12 = .ok (.invokevirtual 109, 3) := dk_182 0 109 (dk_at dksX3_isStale_0 12 rfl rfl)
theorem dX3_isStale_15 : decode cX3_isStale 15 = .ok (.ifCond .ne 15, 3) := dk_154 0 15 (dk_at dksX3_isStale_0 15 rfl rfl)
theorem dX3_isStale_18 : decode cX3_isStale 18 = .ok (.aload_n 0, 1) := dk_42 (dk_at dksX3_isStale_0 18 rfl rfl)
theorem dX3_isStale_19 : decode cX3_isStale 19 = .ok (.iload_n 1, 1) := dk_27 (dk_at dksX3_isStale_0 19 rfl rfl)
theorem dX3_isStale_20 : decode cX3_isStale 20 = .ok (.invokevirtual 123, 3) := dk_182 0 123 (dk_at dksX3_isStale_0 20 rfl rfl)
theorem dX3_isStale_23 : decode cX3_isStale 23 = .ok (.ifCond .eq 7, 3) := dk_153 0 7 (dk_at dksX3_isStale_1 0 rfl rfl)
theorem dX3_isStale_26 : decode cX3_isStale 26 = .ok (.iconst 1, 1) := dk_4 (dk_at dksX3_isStale_1 3 rfl rfl)
theorem dX3_isStale_27 : decode cX3_isStale 27 = .ok (.goto 4, 3) := dk_167 0 4 (dk_at dksX3_isStale_1 4 rfl rfl)
theorem dX3_isStale_30 : decode cX3_isStale 30 = .ok (.iconst 0, 1) := dk_3 (dk_at dksX3_isStale_1 7 rfl rfl)
theorem dX3_isStale_31 : decode cX3_isStale 31 = .ok (.ireturn, 1) := dk_172 (dk_at dksX3_isStale_1 8 rfl rfl)
abbrev cX3_isOpen : ByteArray := prog_12_method_46_code
def yX3_isOpen : MethodName := ⟨RX3, "isOpen", "(II)Z"⟩
def dkwX3_isOpen_2 : List UInt8 := [4, 167, 0, 4, 3, 172]
abbrev dktX3_isOpen_2 : List UInt8 := dkwX3_isOpen_2 ++ []
def dkwX3_isOpen_1 : List UInt8 := [154, 0, 7, 4, 167, 0, 4, 3, 4, 182, 0, 109, 154, 0, 16, 42, 27, 28, 182, 0, 207, 153, 0, 7]
abbrev dktX3_isOpen_1 : List UInt8 := dkwX3_isOpen_1 ++ dktX3_isOpen_2
def dkwX3_isOpen_0 : List UInt8 := [42, 3, 181, 0, 79, 42, 27, 3, 6, 184, 0, 85, 153, 0, 14, 28, 3, 17, 3, 231, 184, 0, 85]
abbrev dktX3_isOpen_0 : List UInt8 := dkwX3_isOpen_0 ++ dktX3_isOpen_1
theorem dksX3_isOpen_0 : cX3_isOpen.data.toList.drop 0 = dktX3_isOpen_0 := by decide +kernel
theorem dksX3_isOpen_1 : cX3_isOpen.data.toList.drop 23 = dktX3_isOpen_1 := dk_seg dksX3_isOpen_0 23 rfl rfl
theorem dksX3_isOpen_2 : cX3_isOpen.data.toList.drop 47 = dktX3_isOpen_2 := dk_seg dksX3_isOpen_1 24 rfl rfl
theorem dX3_isOpen_0 : decode cX3_isOpen 0 = .ok (.aload_n 0, 1) := dk_42 (dk_at dksX3_isOpen_0 0 rfl rfl)
theorem dX3_isOpen_1 : decode cX3_isOpen 1 = .ok (.iconst 0, 1) := dk_3 (dk_at dksX3_isOpen_0 1 rfl rfl)
theorem dX3_isOpen_2 : decode cX3_isOpen 2 = .ok (.putfield 79, 3) := dk_181 0 79 (dk_at dksX3_isOpen_0 2 rfl rfl)
theorem dX3_isOpen_5 : decode cX3_isOpen 5 = .ok (.aload_n 0, 1) := dk_42 (dk_at dksX3_isOpen_0 5 rfl rfl)
theorem dX3_isOpen_6 : decode cX3_isOpen 6 = .ok (.iload_n 1, 1) := dk_27 (dk_at dksX3_isOpen_0 6 rfl rfl)
theorem dX3_isOpen_7 : decode cX3_isOpen 7 = .ok (.iconst 0, 1) := dk_3 (dk_at dksX3_isOpen_0 7 rfl rfl)
theorem dX3_isOpen_8 : decode cX3_isOpen 8 = .ok (.iconst 3, 1) := dk_6 (dk_at dksX3_isOpen_0 8 rfl rfl)
theorem dX3_isOpen_9 : decode cX3_isOpen 9 = .ok (.invokestatic 85, 3) := dk_184 0 85 (dk_at dksX3_isOpen_0 9 rfl rfl)
theorem dX3_isOpen_12 : decode cX3_isOpen 12 = .ok (.ifCond .eq 14, 3) := dk_153 0 14 (dk_at dksX3_isOpen_0 12 rfl rfl)
theorem dX3_isOpen_15 : decode cX3_isOpen 15 = .ok (.iload_n 2, 1) := dk_28 (dk_at dksX3_isOpen_0 15 rfl rfl)
theorem dX3_isOpen_16 : decode cX3_isOpen 16 = .ok (.iconst 0, 1) := dk_3 (dk_at dksX3_isOpen_0 16 rfl rfl)
theorem dX3_isOpen_17 : decode cX3_isOpen 17 = .ok (.sipush 999, 3) := dk_17 3 231 (dk_at dksX3_isOpen_0 17 rfl rfl)
theorem dX3_isOpen_20 : decode cX3_isOpen 20 = .ok (.invokestatic 85, 3) := dk_184 0 85 (dk_at dksX3_isOpen_0 20 rfl rfl)
theorem dX3_isOpen_23 : decode cX3_isOpen 23 = .ok (.ifCond .ne 7, 3) := dk_154 0 7 (dk_at dksX3_isOpen_1 0 rfl rfl)
theorem dX3_isOpen_26 : decode cX3_isOpen 26 = .ok (.iconst 1, 1) := dk_4 (dk_at dksX3_isOpen_1 3 rfl rfl)
theorem dX3_isOpen_27 : decode cX3_isOpen 27 = .ok (.goto 4, 3) := dk_167 0 4 (dk_at dksX3_isOpen_1 4 rfl rfl)
theorem dX3_isOpen_30 : decode cX3_isOpen 30 = .ok (.iconst 0, 1) := dk_3 (dk_at dksX3_isOpen_1 7 rfl rfl)
theorem dX3_isOpen_31 : decode cX3_isOpen 31 = .ok (.iconst 1, 1) := dk_4 (dk_at dksX3_isOpen_1 8 rfl rfl)
theorem dX3_isOpen_32 : decode cX3_isOpen 32 = .ok (.invokevirtual 109, 3) := dk_182 0 109 (dk_at dksX3_isOpen_1 9 rfl rfl)
theorem dX3_isOpen_35 : decode cX3_isOpen 35 = .ok (.ifCond .ne 16, 3) := dk_154 0 16 (dk_at dksX3_isOpen_1 12 rfl rfl)
theorem dX3_isOpen_38 : decode cX3_isOpen 38 = .ok (.aload_n 0, 1) := dk_42 (dk_at dksX3_isOpen_1 15 rfl rfl)
theorem dX3_isOpen_39 : decode cX3_isOpen 39 = .ok (.iload_n 1, 1) := dk_27 (dk_at dksX3_isOpen_1 16 rfl rfl)
theorem dX3_isOpen_40 : decode cX3_isOpen 40 = .ok (.iload_n 2, 1) := dk_28 (dk_at dksX3_isOpen_1 17 rfl rfl)
theorem dX3_isOpen_41 : decode cX3_isOpen 41 = .ok (.invokevirtual 207, 3) := dk_182 0 207 (dk_at dksX3_isOpen_1 18 rfl rfl)
theorem dX3_isOpen_44 : decode cX3_isOpen 44 = .ok (.ifCond .eq 7, 3) := dk_153 0 7 (dk_at dksX3_isOpen_1 21 rfl rfl)
theorem dX3_isOpen_47 : decode cX3_isOpen 47 = .ok (.iconst 1, 1) := dk_4 (dk_at dksX3_isOpen_2 0 rfl rfl)
theorem dX3_isOpen_48 : decode cX3_isOpen 48 = .ok (.goto 4, 3) := dk_167 0 4 (dk_at dksX3_isOpen_2 1 rfl rfl)
theorem dX3_isOpen_51 : decode cX3_isOpen 51 = .ok (.iconst 0, 1) := dk_3 (dk_at dksX3_isOpen_2 4 rfl rfl)
theorem dX3_isOpen_52 : decode cX3_isOpen 52 = .ok (.ireturn, 1) := dk_172 (dk_at dksX3_isOpen_2 5 rfl rfl)
abbrev cX3_nextOpen : ByteArray := prog_12_method_47_code
def yX3_nextOpen : MethodName := ⟨RX3, "nextOpen", "(I)I"⟩
def dkwX3_nextOpen_3 : List UInt8 := [172]
abbrev dktX3_nextOpen_3 : List UInt8 := dkwX3_nextOpen_3 ++ []
def dkwX3_nextOpen_2 : List UInt8 := [27, 28, 182, 0, 207, 153, 0, 5, 28, 172, 132, 2, 1, 167, 255, 231, 42, 4, 5, 182, 0, 109, 87, 3]
abbrev dktX3_nextOpen_2 : List UInt8 := dkwX3_nextOpen_2 ++ dktX3_nextOpen_3
def dkwX3_nextOpen_1 : List UInt8 := [153, 0, 5, 3, 172, 42, 180, 0, 98, 4, 96, 61, 28, 42, 180, 0, 98, 16, 24, 96, 163, 0, 20, 42]
abbrev dktX3_nextOpen_1 : List UInt8 := dkwX3_nextOpen_1 ++ dktX3_nextOpen_2
def dkwX3_nextOpen_0 : List UInt8 := [42, 3, 181, 0, 79, 42, 27, 3, 6, 184, 0, 85, 154, 0, 7, 4, 167, 0, 4, 3, 4, 182, 0, 109]
abbrev dktX3_nextOpen_0 : List UInt8 := dkwX3_nextOpen_0 ++ dktX3_nextOpen_1
theorem dksX3_nextOpen_0 : cX3_nextOpen.data.toList.drop 0 = dktX3_nextOpen_0 := by decide +kernel
theorem dksX3_nextOpen_1 : cX3_nextOpen.data.toList.drop 24 = dktX3_nextOpen_1 := dk_seg dksX3_nextOpen_0 24 rfl rfl
theorem dksX3_nextOpen_2 : cX3_nextOpen.data.toList.drop 48 = dktX3_nextOpen_2 := dk_seg dksX3_nextOpen_1 24 rfl rfl
theorem dksX3_nextOpen_3 : cX3_nextOpen.data.toList.drop 72 = dktX3_nextOpen_3 := dk_seg dksX3_nextOpen_2 24 rfl rfl
theorem dX3_nextOpen_0 : decode cX3_nextOpen 0 = .ok (.aload_n 0, 1) := dk_42 (dk_at dksX3_nextOpen_0 0 rfl rfl)
theorem dX3_nextOpen_1 : decode cX3_nextOpen 1 = .ok (.iconst 0, 1) := dk_3 (dk_at dksX3_nextOpen_0 1 rfl rfl)
theorem dX3_nextOpen_2 : decode cX3_nextOpen 2 = .ok (.putfield 79, 3) := dk_181 0 79 (dk_at dksX3_nextOpen_0 2 rfl rfl)
theorem dX3_nextOpen_5 : decode cX3_nextOpen 5 = .ok (.aload_n 0, 1) := dk_42 (dk_at dksX3_nextOpen_0 5 rfl rfl)
theorem dX3_nextOpen_6 : decode cX3_nextOpen 6 = .ok (.iload_n 1, 1) := dk_27 (dk_at dksX3_nextOpen_0 6 rfl rfl)
theorem dX3_nextOpen_7 : decode cX3_nextOpen 7 = .ok (.iconst 0, 1) := dk_3 (dk_at dksX3_nextOpen_0 7 rfl rfl)
theorem dX3_nextOpen_8 : decode cX3_nextOpen 8 = .ok (.iconst 3, 1) := dk_6 (dk_at dksX3_nextOpen_0 8 rfl rfl)
theorem dX3_nextOpen_9 : decode cX3_nextOpen 9 = .ok (.invokestatic 85, 3) := dk_184 0 85 (dk_at dksX3_nextOpen_0 9 rfl rfl)
theorem dX3_nextOpen_12 : decode cX3_nextOpen 12 = .ok (.ifCond .ne 7, 3) := dk_154 0 7 (dk_at dksX3_nextOpen_0 12 rfl rfl)
theorem dX3_nextOpen_15 : decode cX3_nextOpen 15 = .ok (.iconst 1, 1) := dk_4 (dk_at dksX3_nextOpen_0 15 rfl rfl)
theorem dX3_nextOpen_16 : decode cX3_nextOpen 16 = .ok (.goto 4, 3) := dk_167 0 4 (dk_at dksX3_nextOpen_0 16 rfl rfl)
theorem dX3_nextOpen_19 : decode cX3_nextOpen 19 = .ok (.iconst 0, 1) := dk_3 (dk_at dksX3_nextOpen_0 19 rfl rfl)
theorem dX3_nextOpen_20 : decode cX3_nextOpen 20 = .ok (.iconst 1, 1) := dk_4 (dk_at dksX3_nextOpen_0 20 rfl rfl)
theorem dX3_nextOpen_21 : decode cX3_nextOpen 21 = .ok (.invokevirtual 109, 3) := dk_182 0 109 (dk_at dksX3_nextOpen_0 21 rfl rfl)
theorem dX3_nextOpen_24 : decode cX3_nextOpen 24 = .ok (.ifCond .eq 5, 3) := dk_153 0 5 (dk_at dksX3_nextOpen_1 0 rfl rfl)
theorem dX3_nextOpen_27 : decode cX3_nextOpen 27 = .ok (.iconst 0, 1) := dk_3 (dk_at dksX3_nextOpen_1 3 rfl rfl)
theorem dX3_nextOpen_28 : decode cX3_nextOpen 28 = .ok (.ireturn, 1) := dk_172 (dk_at dksX3_nextOpen_1 4 rfl rfl)
theorem dX3_nextOpen_29 : decode cX3_nextOpen 29 = .ok (.aload_n 0, 1) := dk_42 (dk_at dksX3_nextOpen_1 5 rfl rfl)
theorem dX3_nextOpen_30 : decode cX3_nextOpen 30 = .ok (.getfield 98, 3) := dk_180 0 98 (dk_at dksX3_nextOpen_1 6 rfl rfl)
theorem dX3_nextOpen_33 : decode cX3_nextOpen 33 = .ok (.iconst 1, 1) := dk_4 (dk_at dksX3_nextOpen_1 9 rfl rfl)
theorem dX3_nextOpen_34 : decode cX3_nextOpen 34 = .ok (.iadd, 1) := dk_96 (dk_at dksX3_nextOpen_1 10 rfl rfl)
theorem dX3_nextOpen_35 : decode cX3_nextOpen 35 = .ok (.istore_n 2, 1) := dk_61 (dk_at dksX3_nextOpen_1 11 rfl rfl)
theorem dX3_nextOpen_36 : decode cX3_nextOpen 36 = .ok (.iload_n 2, 1) := dk_28 (dk_at dksX3_nextOpen_1 12 rfl rfl)
theorem dX3_nextOpen_37 : decode cX3_nextOpen 37 = .ok (.aload_n 0, 1) := dk_42 (dk_at dksX3_nextOpen_1 13 rfl rfl)
theorem dX3_nextOpen_38 : decode cX3_nextOpen 38 = .ok (.getfield 98, 3) := dk_180 0 98 (dk_at dksX3_nextOpen_1 14 rfl rfl)
theorem dX3_nextOpen_41 : decode cX3_nextOpen 41 = .ok (.bipush 24, 2) := dk_16 24 (dk_at dksX3_nextOpen_1 17 rfl rfl)
theorem dX3_nextOpen_43 : decode cX3_nextOpen 43 = .ok (.iadd, 1) := dk_96 (dk_at dksX3_nextOpen_1 19 rfl rfl)
theorem dX3_nextOpen_44 : decode cX3_nextOpen 44 = .ok (.if_icmp .gt 20, 3) := dk_163 0 20 (dk_at dksX3_nextOpen_1 20 rfl rfl)
theorem dX3_nextOpen_47 : decode cX3_nextOpen 47 = .ok (.aload_n 0, 1) := dk_42 (dk_at dksX3_nextOpen_1 23 rfl rfl)
theorem dX3_nextOpen_48 : decode cX3_nextOpen 48 = .ok (.iload_n 1, 1) := dk_27 (dk_at dksX3_nextOpen_2 0 rfl rfl)
theorem dX3_nextOpen_49 : decode cX3_nextOpen 49 = .ok (.iload_n 2, 1) := dk_28 (dk_at dksX3_nextOpen_2 1 rfl rfl)
theorem dX3_nextOpen_50 : decode cX3_nextOpen 50 = .ok (.invokevirtual 207, 3) := dk_182 0 207 (dk_at dksX3_nextOpen_2 2 rfl rfl)
theorem dX3_nextOpen_53 : decode cX3_nextOpen 53 = .ok (.ifCond .eq 5, 3) := dk_153 0 5 (dk_at dksX3_nextOpen_2 5 rfl rfl)
theorem dX3_nextOpen_56 : decode cX3_nextOpen 56 = .ok (.iload_n 2, 1) := dk_28 (dk_at dksX3_nextOpen_2 8 rfl rfl)
theorem dX3_nextOpen_57 : decode cX3_nextOpen 57 = .ok (.ireturn, 1) := dk_172 (dk_at dksX3_nextOpen_2 9 rfl rfl)
theorem dX3_nextOpen_58 : decode cX3_nextOpen 58 = .ok (.iinc 2 1, 3) := dk_132 2 1 (dk_at dksX3_nextOpen_2 10 rfl rfl)
theorem dX3_nextOpen_61 : decode cX3_nextOpen 61 = .ok (.goto (-25), 3) := dk_167 255 231 (dk_at dksX3_nextOpen_2 13 rfl rfl)
theorem dX3_nextOpen_64 : decode cX3_nextOpen 64 = .ok (.aload_n 0, 1) := dk_42 (dk_at dksX3_nextOpen_2 16 rfl rfl)
theorem dX3_nextOpen_65 : decode cX3_nextOpen 65 = .ok (.iconst 1, 1) := dk_4 (dk_at dksX3_nextOpen_2 17 rfl rfl)
theorem dX3_nextOpen_66 : decode cX3_nextOpen 66 = .ok (.iconst 2, 1) := dk_5 (dk_at dksX3_nextOpen_2 18 rfl rfl)
theorem dX3_nextOpen_67 : decode cX3_nextOpen 67 = .ok (.invokevirtual 109, 3) := dk_182 0 109 (dk_at dksX3_nextOpen_2 19 rfl rfl)
theorem dX3_nextOpen_70 : decode cX3_nextOpen 70 = .ok (.pop, 1) := dk_87 (dk_at dksX3_nextOpen_2 22 rfl rfl)
theorem dX3_nextOpen_71 : decode cX3_nextOpen 71 = .ok (.iconst 0, 1) := dk_3 (dk_at dksX3_nextOpen_2 23 rfl rfl)
theorem dX3_nextOpen_72 : decode cX3_nextOpen 72 = .ok (.ireturn, 1) := dk_172 (dk_at dksX3_nextOpen_3 0 rfl rfl)
abbrev cX3_freeCores : ByteArray := prog_12_method_48_code
def yX3_freeCores : MethodName := ⟨RX3, "freeCores", "(I)I"⟩
def dkwX3_freeCores_1 : List UInt8 := [180, 0, 23, 27, 46, 42, 27, 182, 0, 144, 100, 172]
abbrev dktX3_freeCores_1 : List UInt8 := dkwX3_freeCores_1 ++ []
def dkwX3_freeCores_0 : List UInt8 := [42, 3, 181, 0, 79, 42, 42, 27, 182, 0, 220, 4, 182, 0, 109, 153, 0, 7, 3, 167, 0, 15, 42]
abbrev dktX3_freeCores_0 : List UInt8 := dkwX3_freeCores_0 ++ dktX3_freeCores_1
theorem dksX3_freeCores_0 : cX3_freeCores.data.toList.drop 0 = dktX3_freeCores_0 := by decide +kernel
theorem dksX3_freeCores_1 : cX3_freeCores.data.toList.drop 23 = dktX3_freeCores_1 := dk_seg dksX3_freeCores_0 23 rfl rfl
theorem dX3_freeCores_0 : decode cX3_freeCores 0 = .ok (.aload_n 0, 1) := dk_42 (dk_at dksX3_freeCores_0 0 rfl rfl)
theorem dX3_freeCores_1 : decode cX3_freeCores 1 = .ok (.iconst 0, 1) := dk_3 (dk_at dksX3_freeCores_0 1 rfl rfl)
theorem dX3_freeCores_2 : decode cX3_freeCores 2 = .ok (.putfield 79, 3) := dk_181 0 79 (dk_at dksX3_freeCores_0 2 rfl rfl)
theorem dX3_freeCores_5 : decode cX3_freeCores 5 = .ok (.aload_n 0, 1) := dk_42 (dk_at dksX3_freeCores_0 5 rfl rfl)
theorem dX3_freeCores_6 : decode cX3_freeCores 6 = .ok (.aload_n 0, 1) := dk_42 (dk_at dksX3_freeCores_0 6 rfl rfl)
theorem dX3_freeCores_7 : decode cX3_freeCores 7 = .ok (.iload_n 1, 1) := dk_27 (dk_at dksX3_freeCores_0 7 rfl rfl)
theorem dX3_freeCores_8 : decode cX3_freeCores 8 = .ok (.invokevirtual 220, 3) := dk_182 0 220 (dk_at dksX3_freeCores_0 8 rfl rfl)
theorem dX3_freeCores_11 : decode cX3_freeCores 11 = .ok (.iconst 1, 1) := dk_4 (dk_at dksX3_freeCores_0 11 rfl rfl)
theorem dX3_freeCores_12 : decode cX3_freeCores 12 = .ok (.invokevirtual 109, 3) := dk_182 0 109 (dk_at dksX3_freeCores_0 12 rfl rfl)
theorem dX3_freeCores_15 : decode cX3_freeCores 15 = .ok (.ifCond .eq 7, 3) := dk_153 0 7 (dk_at dksX3_freeCores_0 15 rfl rfl)
theorem dX3_freeCores_18 : decode cX3_freeCores 18 = .ok (.iconst 0, 1) := dk_3 (dk_at dksX3_freeCores_0 18 rfl rfl)
theorem dX3_freeCores_19 : decode cX3_freeCores 19 = .ok (.goto 15, 3) := dk_167 0 15 (dk_at dksX3_freeCores_0 19 rfl rfl)
theorem dX3_freeCores_22 : decode cX3_freeCores 22 = .ok (.aload_n 0, 1) := dk_42 (dk_at dksX3_freeCores_0 22 rfl rfl)
theorem dX3_freeCores_23 : decode cX3_freeCores 23 = .ok (.getfield 23, 3) := dk_180 0 23 (dk_at dksX3_freeCores_1 0 rfl rfl)
theorem dX3_freeCores_26 : decode cX3_freeCores 26 = .ok (.iload_n 1, 1) := dk_27 (dk_at dksX3_freeCores_1 3 rfl rfl)
theorem dX3_freeCores_27 : decode cX3_freeCores 27 = .ok (.iaload, 1) := dk_46 (dk_at dksX3_freeCores_1 4 rfl rfl)
theorem dX3_freeCores_28 : decode cX3_freeCores 28 = .ok (.aload_n 0, 1) := dk_42 (dk_at dksX3_freeCores_1 5 rfl rfl)
theorem dX3_freeCores_29 : decode cX3_freeCores 29 = .ok (.iload_n 1, 1) := dk_27 (dk_at dksX3_freeCores_1 6 rfl rfl)
theorem dX3_freeCores_30 : decode cX3_freeCores 30 = .ok (.invokevirtual 144, 3) := dk_182 0 144 (dk_at dksX3_freeCores_1 7 rfl rfl)
theorem dX3_freeCores_33 : decode cX3_freeCores 33 = .ok (.isub, 1) := dk_100 (dk_at dksX3_freeCores_1 10 rfl rfl)
theorem dX3_freeCores_34 : decode cX3_freeCores 34 = .ok (.ireturn, 1) := dk_172 (dk_at dksX3_freeCores_1 11 rfl rfl)
abbrev cX3_noHost : ByteArray := prog_12_method_7_code
def yX3_noHost : MethodName := ⟨RX3, "noHost", "(I)Z"⟩
def dkwX3_noHost_0 : List UInt8 := [27, 3, 42, 180, 0, 92, 4, 100, 184, 0, 85, 154, 0, 7, 4, 167, 0, 4, 3, 172]
abbrev dktX3_noHost_0 : List UInt8 := dkwX3_noHost_0 ++ []
theorem dksX3_noHost_0 : cX3_noHost.data.toList.drop 0 = dktX3_noHost_0 := by decide +kernel
theorem dX3_noHost_0 : decode cX3_noHost 0 = .ok (.iload_n 1, 1) := dk_27 (dk_at dksX3_noHost_0 0 rfl rfl)
theorem dX3_noHost_1 : decode cX3_noHost 1 = .ok (.iconst 0, 1) := dk_3 (dk_at dksX3_noHost_0 1 rfl rfl)
theorem dX3_noHost_2 : decode cX3_noHost 2 = .ok (.aload_n 0, 1) := dk_42 (dk_at dksX3_noHost_0 2 rfl rfl)
theorem dX3_noHost_3 : decode cX3_noHost 3 = .ok (.getfield 92, 3) := dk_180 0 92 (dk_at dksX3_noHost_0 3 rfl rfl)
theorem dX3_noHost_6 : decode cX3_noHost 6 = .ok (.iconst 1, 1) := dk_4 (dk_at dksX3_noHost_0 6 rfl rfl)
theorem dX3_noHost_7 : decode cX3_noHost 7 = .ok (.isub, 1) := dk_100 (dk_at dksX3_noHost_0 7 rfl rfl)
theorem dX3_noHost_8 : decode cX3_noHost 8 = .ok (.invokestatic 85, 3) := dk_184 0 85 (dk_at dksX3_noHost_0 8 rfl rfl)
theorem dX3_noHost_11 : decode cX3_noHost 11 = .ok (.ifCond .ne 7, 3) := dk_154 0 7 (dk_at dksX3_noHost_0 11 rfl rfl)
theorem dX3_noHost_14 : decode cX3_noHost 14 = .ok (.iconst 1, 1) := dk_4 (dk_at dksX3_noHost_0 14 rfl rfl)
theorem dX3_noHost_15 : decode cX3_noHost 15 = .ok (.goto 4, 3) := dk_167 0 4 (dk_at dksX3_noHost_0 15 rfl rfl)
theorem dX3_noHost_18 : decode cX3_noHost 18 = .ok (.iconst 0, 1) := dk_3 (dk_at dksX3_noHost_0 18 rfl rfl)
theorem dX3_noHost_19 : decode cX3_noHost 19 = .ok (.ireturn, 1) := dk_172 (dk_at dksX3_noHost_0 19 rfl rfl)
abbrev cX3_freeByContainers : ByteArray := prog_12_method_49_code
def yX3_freeByContainers : MethodName := ⟨RX3, "freeByContainers", "(I)I"⟩
def dkwX3_freeByContainers_0 : List UInt8 := [42, 27, 182, 0, 223, 172]
abbrev dktX3_freeByContainers_0 : List UInt8 := dkwX3_freeByContainers_0 ++ []
theorem dksX3_freeByContainers_0 : cX3_freeByContainers.data.toList.drop 0 = dktX3_freeByContainers_0 := by decide +kernel
theorem dX3_freeByContainers_0 : decode cX3_freeByContainers 0 = .ok (.aload_n 0, 1) := dk_42 (dk_at dksX3_freeByContainers_0 0 rfl rfl)
theorem dX3_freeByContainers_1 : decode cX3_freeByContainers 1 = .ok (.iload_n 1, 1) := dk_27 (dk_at dksX3_freeByContainers_0 1 rfl rfl)
theorem dX3_freeByContainers_2 : decode cX3_freeByContainers 2 = .ok (.invokevirtual 223, 3) := dk_182 0 223 (dk_at dksX3_freeByContainers_0 2 rfl rfl)
theorem dX3_freeByContainers_5 : decode cX3_freeByContainers 5 = .ok (.ireturn, 1) := dk_172 (dk_at dksX3_freeByContainers_0 5 rfl rfl)
abbrev cX3_freeMemory : ByteArray := prog_12_method_50_code
def yX3_freeMemory : MethodName := ⟨RX3, "freeMemory", "(I)I"⟩
def dkwX3_freeMemory_1 : List UInt8 := [180, 0, 26, 27, 46, 42, 27, 182, 0, 169, 100, 172]
abbrev dktX3_freeMemory_1 : List UInt8 := dkwX3_freeMemory_1 ++ []
def dkwX3_freeMemory_0 : List UInt8 := [42, 3, 181, 0, 79, 42, 42, 27, 182, 0, 220, 4, 182, 0, 109, 153, 0, 7, 3, 167, 0, 15, 42]
abbrev dktX3_freeMemory_0 : List UInt8 := dkwX3_freeMemory_0 ++ dktX3_freeMemory_1
theorem dksX3_freeMemory_0 : cX3_freeMemory.data.toList.drop 0 = dktX3_freeMemory_0 := by decide +kernel
theorem dksX3_freeMemory_1 : cX3_freeMemory.data.toList.drop 23 = dktX3_freeMemory_1 := dk_seg dksX3_freeMemory_0 23 rfl rfl
theorem dX3_freeMemory_0 : decode cX3_freeMemory 0 = .ok (.aload_n 0, 1) := dk_42 (dk_at dksX3_freeMemory_0 0 rfl rfl)
theorem dX3_freeMemory_1 : decode cX3_freeMemory 1 = .ok (.iconst 0, 1) := dk_3 (dk_at dksX3_freeMemory_0 1 rfl rfl)
theorem dX3_freeMemory_2 : decode cX3_freeMemory 2 = .ok (.putfield 79, 3) := dk_181 0 79 (dk_at dksX3_freeMemory_0 2 rfl rfl)
theorem dX3_freeMemory_5 : decode cX3_freeMemory 5 = .ok (.aload_n 0, 1) := dk_42 (dk_at dksX3_freeMemory_0 5 rfl rfl)
theorem dX3_freeMemory_6 : decode cX3_freeMemory 6 = .ok (.aload_n 0, 1) := dk_42 (dk_at dksX3_freeMemory_0 6 rfl rfl)
theorem dX3_freeMemory_7 : decode cX3_freeMemory 7 = .ok (.iload_n 1, 1) := dk_27 (dk_at dksX3_freeMemory_0 7 rfl rfl)
theorem dX3_freeMemory_8 : decode cX3_freeMemory 8 = .ok (.invokevirtual 220, 3) := dk_182 0 220 (dk_at dksX3_freeMemory_0 8 rfl rfl)
theorem dX3_freeMemory_11 : decode cX3_freeMemory 11 = .ok (.iconst 1, 1) := dk_4 (dk_at dksX3_freeMemory_0 11 rfl rfl)
theorem dX3_freeMemory_12 : decode cX3_freeMemory 12 = .ok (.invokevirtual 109, 3) := dk_182 0 109 (dk_at dksX3_freeMemory_0 12 rfl rfl)
theorem dX3_freeMemory_15 : decode cX3_freeMemory 15 = .ok (.ifCond .eq 7, 3) := dk_153 0 7 (dk_at dksX3_freeMemory_0 15 rfl rfl)
theorem dX3_freeMemory_18 : decode cX3_freeMemory 18 = .ok (.iconst 0, 1) := dk_3 (dk_at dksX3_freeMemory_0 18 rfl rfl)
theorem dX3_freeMemory_19 : decode cX3_freeMemory 19 = .ok (.goto 15, 3) := dk_167 0 15 (dk_at dksX3_freeMemory_0 19 rfl rfl)
theorem dX3_freeMemory_22 : decode cX3_freeMemory 22 = .ok (.aload_n 0, 1) := dk_42 (dk_at dksX3_freeMemory_0 22 rfl rfl)
theorem dX3_freeMemory_23 : decode cX3_freeMemory 23 = .ok (.getfield 26, 3) := dk_180 0 26 (dk_at dksX3_freeMemory_1 0 rfl rfl)
theorem dX3_freeMemory_26 : decode cX3_freeMemory 26 = .ok (.iload_n 1, 1) := dk_27 (dk_at dksX3_freeMemory_1 3 rfl rfl)
theorem dX3_freeMemory_27 : decode cX3_freeMemory 27 = .ok (.iaload, 1) := dk_46 (dk_at dksX3_freeMemory_1 4 rfl rfl)
theorem dX3_freeMemory_28 : decode cX3_freeMemory 28 = .ok (.aload_n 0, 1) := dk_42 (dk_at dksX3_freeMemory_1 5 rfl rfl)
theorem dX3_freeMemory_29 : decode cX3_freeMemory 29 = .ok (.iload_n 1, 1) := dk_27 (dk_at dksX3_freeMemory_1 6 rfl rfl)
theorem dX3_freeMemory_30 : decode cX3_freeMemory 30 = .ok (.invokevirtual 169, 3) := dk_182 0 169 (dk_at dksX3_freeMemory_1 7 rfl rfl)
theorem dX3_freeMemory_33 : decode cX3_freeMemory 33 = .ok (.isub, 1) := dk_100 (dk_at dksX3_freeMemory_1 10 rfl rfl)
theorem dX3_freeMemory_34 : decode cX3_freeMemory 34 = .ok (.ireturn, 1) := dk_172 (dk_at dksX3_freeMemory_1 11 rfl rfl)
abbrev cX3_licensed : ByteArray := prog_12_method_51_code
def yX3_licensed : MethodName := ⟨RX3, "licensed", "()I"⟩
def dkwX3_licensed_0 : List UInt8 := [42, 3, 181, 0, 79, 42, 2, 182, 0, 144, 172]
abbrev dktX3_licensed_0 : List UInt8 := dkwX3_licensed_0 ++ []
theorem dksX3_licensed_0 : cX3_licensed.data.toList.drop 0 = dktX3_licensed_0 := by decide +kernel
theorem dX3_licensed_0 : decode cX3_licensed 0 = .ok (.aload_n 0, 1) := dk_42 (dk_at dksX3_licensed_0 0 rfl rfl)
theorem dX3_licensed_1 : decode cX3_licensed 1 = .ok (.iconst 0, 1) := dk_3 (dk_at dksX3_licensed_0 1 rfl rfl)
theorem dX3_licensed_2 : decode cX3_licensed 2 = .ok (.putfield 79, 3) := dk_181 0 79 (dk_at dksX3_licensed_0 2 rfl rfl)
theorem dX3_licensed_5 : decode cX3_licensed 5 = .ok (.aload_n 0, 1) := dk_42 (dk_at dksX3_licensed_0 5 rfl rfl)
theorem dX3_licensed_6 : decode cX3_licensed 6 = .ok (.iconst (-1), 1) := dk_2 (dk_at dksX3_licensed_0 6 rfl rfl)
theorem dX3_licensed_7 : decode cX3_licensed 7 = .ok (.invokevirtual 144, 3) := dk_182 0 144 (dk_at dksX3_licensed_0 7 rfl rfl)
theorem dX3_licensed_10 : decode cX3_licensed 10 = .ok (.ireturn, 1) := dk_172 (dk_at dksX3_licensed_0 10 rfl rfl)
abbrev cX3_laidAnew : ByteArray := prog_12_method_52_code
def yX3_laidAnew : MethodName := ⟨RX3, "laidAnew", "()I"⟩
def dkwX3_laidAnew_4 : List UInt8 := [79, 27, 42, 180, 0, 48, 29, 46, 96, 60, 132, 2, 1, 132, 3, 1, 167, 255, 160, 28, 172]
abbrev dktX3_laidAnew_4 : List UInt8 := dkwX3_laidAnew_4 ++ []
def dkwX3_laidAnew_3 : List UInt8 := [46, 42, 180, 0, 48, 29, 46, 100, 79, 42, 180, 0, 76, 21, 4, 92, 46, 42, 180, 0, 51, 29, 46, 100]
abbrev dktX3_laidAnew_3 : List UInt8 := dkwX3_laidAnew_3 ++ dktX3_laidAnew_4
def dkwX3_laidAnew_2 : List UInt8 := [27, 182, 0, 197, 178, 0, 190, 166, 0, 54, 42, 29, 182, 0, 184, 54, 4, 42, 180, 0, 73, 21, 4, 92]
abbrev dktX3_laidAnew_2 : List UInt8 := dkwX3_laidAnew_2 ++ dktX3_laidAnew_3
def dkwX3_laidAnew_1 : List UInt8 := [42, 180, 0, 54, 29, 52, 16, 119, 159, 0, 14, 42, 180, 0, 54, 29, 52, 16, 114, 160, 0, 66, 42, 29]
abbrev dktX3_laidAnew_1 : List UInt8 := dkwX3_laidAnew_1 ++ dktX3_laidAnew_2
def dkwX3_laidAnew_0 : List UInt8 := [42, 3, 181, 0, 79, 42, 4, 182, 0, 193, 3, 60, 3, 61, 3, 62, 29, 42, 180, 0, 95, 162, 0, 94]
abbrev dktX3_laidAnew_0 : List UInt8 := dkwX3_laidAnew_0 ++ dktX3_laidAnew_1
theorem dksX3_laidAnew_0 : cX3_laidAnew.data.toList.drop 0 = dktX3_laidAnew_0 := by decide +kernel
theorem dksX3_laidAnew_1 : cX3_laidAnew.data.toList.drop 24 = dktX3_laidAnew_1 := dk_seg dksX3_laidAnew_0 24 rfl rfl
theorem dksX3_laidAnew_2 : cX3_laidAnew.data.toList.drop 48 = dktX3_laidAnew_2 := dk_seg dksX3_laidAnew_1 24 rfl rfl
theorem dksX3_laidAnew_3 : cX3_laidAnew.data.toList.drop 72 = dktX3_laidAnew_3 := dk_seg dksX3_laidAnew_2 24 rfl rfl
theorem dksX3_laidAnew_4 : cX3_laidAnew.data.toList.drop 96 = dktX3_laidAnew_4 := dk_seg dksX3_laidAnew_3 24 rfl rfl
theorem dX3_laidAnew_0 : decode cX3_laidAnew 0 = .ok (.aload_n 0, 1) := dk_42 (dk_at dksX3_laidAnew_0 0 rfl rfl)
theorem dX3_laidAnew_1 : decode cX3_laidAnew 1 = .ok (.iconst 0, 1) := dk_3 (dk_at dksX3_laidAnew_0 1 rfl rfl)
theorem dX3_laidAnew_2 : decode cX3_laidAnew 2 = .ok (.putfield 79, 3) := dk_181 0 79 (dk_at dksX3_laidAnew_0 2 rfl rfl)
theorem dX3_laidAnew_5 : decode cX3_laidAnew 5 = .ok (.aload_n 0, 1) := dk_42 (dk_at dksX3_laidAnew_0 5 rfl rfl)
theorem dX3_laidAnew_6 : decode cX3_laidAnew 6 = .ok (.iconst 1, 1) := dk_4 (dk_at dksX3_laidAnew_0 6 rfl rfl)
theorem dX3_laidAnew_7 : decode cX3_laidAnew 7 = .ok (.invokevirtual 193, 3) := dk_182 0 193 (dk_at dksX3_laidAnew_0 7 rfl rfl)
theorem dX3_laidAnew_10 : decode cX3_laidAnew 10 = .ok (.iconst 0, 1) := dk_3 (dk_at dksX3_laidAnew_0 10 rfl rfl)
theorem dX3_laidAnew_11 : decode cX3_laidAnew 11 = .ok (.istore_n 1, 1) := dk_60 (dk_at dksX3_laidAnew_0 11 rfl rfl)
theorem dX3_laidAnew_12 : decode cX3_laidAnew 12 = .ok (.iconst 0, 1) := dk_3 (dk_at dksX3_laidAnew_0 12 rfl rfl)
theorem dX3_laidAnew_13 : decode cX3_laidAnew 13 = .ok (.istore_n 2, 1) := dk_61 (dk_at dksX3_laidAnew_0 13 rfl rfl)
theorem dX3_laidAnew_14 : decode cX3_laidAnew 14 = .ok (.iconst 0, 1) := dk_3 (dk_at dksX3_laidAnew_0 14 rfl rfl)
theorem dX3_laidAnew_15 : decode cX3_laidAnew 15 = .ok (.istore_n 3, 1) := dk_62 (dk_at dksX3_laidAnew_0 15 rfl rfl)
theorem dX3_laidAnew_16 : decode cX3_laidAnew 16 = .ok (.iload_n 3, 1) := dk_29 (dk_at dksX3_laidAnew_0 16 rfl rfl)
theorem dX3_laidAnew_17 : decode cX3_laidAnew 17 = .ok (.aload_n 0, 1) := dk_42 (dk_at dksX3_laidAnew_0 17 rfl rfl)
theorem dX3_laidAnew_18 : decode cX3_laidAnew 18 = .ok (.getfield 95, 3) := dk_180 0 95 (dk_at dksX3_laidAnew_0 18 rfl rfl)
theorem dX3_laidAnew_21 : decode cX3_laidAnew 21 = .ok (.if_icmp .ge 94, 3) := dk_162 0 94 (dk_at dksX3_laidAnew_0 21 rfl rfl)
theorem dX3_laidAnew_24 : decode cX3_laidAnew 24 = .ok (.aload_n 0, 1) := dk_42 (dk_at dksX3_laidAnew_1 0 rfl rfl)
theorem dX3_laidAnew_25 : decode cX3_laidAnew 25 = .ok (.getfield 54, 3) := dk_180 0 54 (dk_at dksX3_laidAnew_1 1 rfl rfl)
theorem dX3_laidAnew_28 : decode cX3_laidAnew 28 = .ok (.iload_n 3, 1) := dk_29 (dk_at dksX3_laidAnew_1 4 rfl rfl)
theorem dX3_laidAnew_29 : decode cX3_laidAnew 29 = .ok (.caload, 1) := dk_52 (dk_at dksX3_laidAnew_1 5 rfl rfl)
theorem dX3_laidAnew_30 : decode cX3_laidAnew 30 = .ok (.bipush 119, 2) := dk_16 119 (dk_at dksX3_laidAnew_1 6 rfl rfl)
theorem dX3_laidAnew_32 : decode cX3_laidAnew 32 = .ok (.if_icmp .eq 14, 3) := dk_159 0 14 (dk_at dksX3_laidAnew_1 8 rfl rfl)
theorem dX3_laidAnew_35 : decode cX3_laidAnew 35 = .ok (.aload_n 0, 1) := dk_42 (dk_at dksX3_laidAnew_1 11 rfl rfl)
theorem dX3_laidAnew_36 : decode cX3_laidAnew 36 = .ok (.getfield 54, 3) := dk_180 0 54 (dk_at dksX3_laidAnew_1 12 rfl rfl)
theorem dX3_laidAnew_39 : decode cX3_laidAnew 39 = .ok (.iload_n 3, 1) := dk_29 (dk_at dksX3_laidAnew_1 15 rfl rfl)
theorem dX3_laidAnew_40 : decode cX3_laidAnew 40 = .ok (.caload, 1) := dk_52 (dk_at dksX3_laidAnew_1 16 rfl rfl)
theorem dX3_laidAnew_41 : decode cX3_laidAnew 41 = .ok (.bipush 114, 2) := dk_16 114 (dk_at dksX3_laidAnew_1 17 rfl rfl)
theorem dX3_laidAnew_43 : decode cX3_laidAnew 43 = .ok (.if_icmp .ne 66, 3) := dk_160 0 66 (dk_at dksX3_laidAnew_1 19 rfl rfl)
theorem dX3_laidAnew_46 : decode cX3_laidAnew 46 = .ok (.aload_n 0, 1) := dk_42 (dk_at dksX3_laidAnew_1 22 rfl rfl)
theorem dX3_laidAnew_47 : decode cX3_laidAnew 47 = .ok (.iload_n 3, 1) := dk_29 (dk_at dksX3_laidAnew_1 23 rfl rfl)
theorem dX3_laidAnew_48 : decode cX3_laidAnew 48 = .ok (.iload_n 1, 1) := dk_27 (dk_at dksX3_laidAnew_2 0 rfl rfl)
theorem dX3_laidAnew_49 : decode cX3_laidAnew 49 = .ok (.invokevirtual 197, 3) := dk_182 0 197 (dk_at dksX3_laidAnew_2 1 rfl rfl)
theorem dX3_laidAnew_52 : decode cX3_laidAnew 52 = .ok (.getstatic 190, 3) := dk_178 0 190 (dk_at dksX3_laidAnew_2 4 rfl rfl)
theorem dX3_laidAnew_55 : decode cX3_laidAnew 55 = .ok (.if_acmp .ne 54, 3) := dk_166 0 54 (dk_at dksX3_laidAnew_2 7 rfl rfl)
theorem dX3_laidAnew_58 : decode cX3_laidAnew 58 = .ok (.aload_n 0, 1) := dk_42 (dk_at dksX3_laidAnew_2 10 rfl rfl)
theorem dX3_laidAnew_59 : decode cX3_laidAnew 59 = .ok (.iload_n 3, 1) := dk_29 (dk_at dksX3_laidAnew_2 11 rfl rfl)
theorem dX3_laidAnew_60 : decode cX3_laidAnew 60 = .ok (.invokevirtual 184, 3) := dk_182 0 184 (dk_at dksX3_laidAnew_2 12 rfl rfl)
theorem dX3_laidAnew_63 : decode cX3_laidAnew 63 = .ok (.istore 4, 2) := dk_54 4 (dk_at dksX3_laidAnew_2 15 rfl rfl)
theorem dX3_laidAnew_65 : decode cX3_laidAnew 65 = .ok (.aload_n 0, 1) := dk_42 (dk_at dksX3_laidAnew_2 17 rfl rfl)
theorem dX3_laidAnew_66 : decode cX3_laidAnew 66 = .ok (.getfield 73, 3) := dk_180 0 73 (dk_at dksX3_laidAnew_2 18 rfl rfl)
theorem dX3_laidAnew_69 : decode cX3_laidAnew 69 = .ok (.iload 4, 2) := dk_21 4 (dk_at dksX3_laidAnew_2 21 rfl rfl)
theorem dX3_laidAnew_71 : decode cX3_laidAnew 71 = .ok (.dup2, 1) := dk_92 (dk_at dksX3_laidAnew_2 23 rfl rfl)
theorem dX3_laidAnew_72 : decode cX3_laidAnew 72 = .ok (.iaload, 1) := dk_46 (dk_at dksX3_laidAnew_3 0 rfl rfl)
theorem dX3_laidAnew_73 : decode cX3_laidAnew 73 = .ok (.aload_n 0, 1) := dk_42 (dk_at dksX3_laidAnew_3 1 rfl rfl)
theorem dX3_laidAnew_74 : decode cX3_laidAnew 74 = .ok (.getfield 48, 3) := dk_180 0 48 (dk_at dksX3_laidAnew_3 2 rfl rfl)
theorem dX3_laidAnew_77 : decode cX3_laidAnew 77 = .ok (.iload_n 3, 1) := dk_29 (dk_at dksX3_laidAnew_3 5 rfl rfl)
theorem dX3_laidAnew_78 : decode cX3_laidAnew 78 = .ok (.iaload, 1) := dk_46 (dk_at dksX3_laidAnew_3 6 rfl rfl)
theorem dX3_laidAnew_79 : decode cX3_laidAnew 79 = .ok (.isub, 1) := dk_100 (dk_at dksX3_laidAnew_3 7 rfl rfl)
theorem dX3_laidAnew_80 : decode cX3_laidAnew 80 = .ok (.iastore, 1) := dk_79 (dk_at dksX3_laidAnew_3 8 rfl rfl)
theorem dX3_laidAnew_81 : decode cX3_laidAnew 81 = .ok (.aload_n 0, 1) := dk_42 (dk_at dksX3_laidAnew_3 9 rfl rfl)
theorem dX3_laidAnew_82 : decode cX3_laidAnew 82 = .ok (.getfield 76, 3) := dk_180 0 76 (dk_at dksX3_laidAnew_3 10 rfl rfl)
theorem dX3_laidAnew_85 : decode cX3_laidAnew 85 = .ok (.iload 4, 2) := dk_21 4 (dk_at dksX3_laidAnew_3 13 rfl rfl)
theorem dX3_laidAnew_87 : decode cX3_laidAnew 87 = .ok (.dup2, 1) := dk_92 (dk_at dksX3_laidAnew_3 15 rfl rfl)
theorem dX3_laidAnew_88 : decode cX3_laidAnew 88 = .ok (.iaload, 1) := dk_46 (dk_at dksX3_laidAnew_3 16 rfl rfl)
theorem dX3_laidAnew_89 : decode cX3_laidAnew 89 = .ok (.aload_n 0, 1) := dk_42 (dk_at dksX3_laidAnew_3 17 rfl rfl)
theorem dX3_laidAnew_90 : decode cX3_laidAnew 90 = .ok (.getfield 51, 3) := dk_180 0 51 (dk_at dksX3_laidAnew_3 18 rfl rfl)
theorem dX3_laidAnew_93 : decode cX3_laidAnew 93 = .ok (.iload_n 3, 1) := dk_29 (dk_at dksX3_laidAnew_3 21 rfl rfl)
theorem dX3_laidAnew_94 : decode cX3_laidAnew 94 = .ok (.iaload, 1) := dk_46 (dk_at dksX3_laidAnew_3 22 rfl rfl)
theorem dX3_laidAnew_95 : decode cX3_laidAnew 95 = .ok (.isub, 1) := dk_100 (dk_at dksX3_laidAnew_3 23 rfl rfl)
theorem dX3_laidAnew_96 : decode cX3_laidAnew 96 = .ok (.iastore, 1) := dk_79 (dk_at dksX3_laidAnew_4 0 rfl rfl)
theorem dX3_laidAnew_97 : decode cX3_laidAnew 97 = .ok (.iload_n 1, 1) := dk_27 (dk_at dksX3_laidAnew_4 1 rfl rfl)
theorem dX3_laidAnew_98 : decode cX3_laidAnew 98 = .ok (.aload_n 0, 1) := dk_42 (dk_at dksX3_laidAnew_4 2 rfl rfl)
theorem dX3_laidAnew_99 : decode cX3_laidAnew 99 = .ok (.getfield 48, 3) := dk_180 0 48 (dk_at dksX3_laidAnew_4 3 rfl rfl)
theorem dX3_laidAnew_102 : decode cX3_laidAnew 102 = .ok (.iload_n 3, 1) := dk_29 (dk_at dksX3_laidAnew_4 6 rfl rfl)
theorem dX3_laidAnew_103 : decode cX3_laidAnew 103 = .ok (.iaload, 1) := dk_46 (dk_at dksX3_laidAnew_4 7 rfl rfl)
theorem dX3_laidAnew_104 : decode cX3_laidAnew 104 = .ok (.iadd, 1) := dk_96 (dk_at dksX3_laidAnew_4 8 rfl rfl)
theorem dX3_laidAnew_105 : decode cX3_laidAnew 105 = .ok (.istore_n 1, 1) := dk_60 (dk_at dksX3_laidAnew_4 9 rfl rfl)
theorem dX3_laidAnew_106 : decode cX3_laidAnew 106 = .ok (.iinc 2 1, 3) := dk_132 2 1 (dk_at dksX3_laidAnew_4 10 rfl rfl)
theorem dX3_laidAnew_109 : decode cX3_laidAnew 109 = .ok (.iinc 3 1, 3) := dk_132 3 1 (dk_at dksX3_laidAnew_4 13 rfl rfl)
theorem dX3_laidAnew_112 : decode cX3_laidAnew 112 = .ok (.goto (-96), 3) := dk_167 255 160 (dk_at dksX3_laidAnew_4 16 rfl rfl)
theorem dX3_laidAnew_115 : decode cX3_laidAnew 115 = .ok (.iload_n 2, 1) := dk_28 (dk_at dksX3_laidAnew_4 19 rfl rfl)
theorem dX3_laidAnew_116 : decode cX3_laidAnew 116 = .ok (.ireturn, 1) := dk_172 (dk_at dksX3_laidAnew_4 20 rfl rfl)
abbrev cX3_line : ByteArray := prog_12_method_53_code
def yX3_line : MethodName := ⟨RX3, "line", "(I)Ljava/lang/String;"⟩
def dkwX3_line_6 : List UInt8 := [132, 3, 1, 167, 255, 198, 44, 182, 0, 238, 176]
abbrev dktX3_line_6 : List UInt8 := dkwX3_line_6 ++ []
def dkwX3_line_5 : List UInt8 := [182, 0, 231, 29, 182, 0, 235, 87, 42, 29, 182, 0, 123, 153, 0, 10, 44, 16, 33, 182, 0, 231, 87]
abbrev dktX3_line_5 : List UInt8 := dkwX3_line_5 ++ dktX3_line_6
def dkwX3_line_4 : List UInt8 := [180, 0, 54, 29, 52, 16, 114, 160, 0, 39, 42, 180, 0, 58, 29, 46, 27, 160, 0, 29, 44, 16, 32]
abbrev dktX3_line_4 : List UInt8 := dkwX3_line_4 ++ dktX3_line_5
def dkwX3_line_3 : List UInt8 := [46, 42, 27, 182, 0, 169, 100, 182, 0, 235, 87, 3, 62, 29, 42, 180, 0, 95, 162, 0, 56, 42]
abbrev dktX3_line_3 : List UInt8 := dkwX3_line_3 ++ dktX3_line_4
def dkwX3_line_2 : List UInt8 := [180, 0, 23, 27, 46, 42, 27, 182, 0, 144, 100, 182, 0, 235, 16, 47, 182, 0, 231, 42, 180, 0, 26, 27]
abbrev dktX3_line_2 : List UInt8 := dkwX3_line_2 ++ dktX3_line_3
def dkwX3_line_1 : List UInt8 := [153, 0, 6, 18, 229, 176, 44, 16, 104, 182, 0, 231, 27, 182, 0, 235, 16, 58, 182, 0, 231, 42]
abbrev dktX3_line_1 : List UInt8 := dkwX3_line_1 ++ dktX3_line_2
def dkwX3_line_0 : List UInt8 := [42, 3, 181, 0, 79, 187, 0, 226, 89, 183, 0, 228, 77, 42, 42, 27, 182, 0, 220, 4, 182, 0, 109]
abbrev dktX3_line_0 : List UInt8 := dkwX3_line_0 ++ dktX3_line_1
theorem dksX3_line_0 : cX3_line.data.toList.drop 0 = dktX3_line_0 := by decide +kernel
theorem dksX3_line_1 : cX3_line.data.toList.drop 23 = dktX3_line_1 := dk_seg dksX3_line_0 23 rfl rfl
theorem dksX3_line_2 : cX3_line.data.toList.drop 45 = dktX3_line_2 := dk_seg dksX3_line_1 22 rfl rfl
theorem dksX3_line_3 : cX3_line.data.toList.drop 69 = dktX3_line_3 := dk_seg dksX3_line_2 24 rfl rfl
theorem dksX3_line_4 : cX3_line.data.toList.drop 91 = dktX3_line_4 := dk_seg dksX3_line_3 22 rfl rfl
theorem dksX3_line_5 : cX3_line.data.toList.drop 114 = dktX3_line_5 := dk_seg dksX3_line_4 23 rfl rfl
theorem dksX3_line_6 : cX3_line.data.toList.drop 137 = dktX3_line_6 := dk_seg dksX3_line_5 23 rfl rfl
theorem dX3_line_0 : decode cX3_line 0 = .ok (.aload_n 0, 1) := dk_42 (dk_at dksX3_line_0 0 rfl rfl)
theorem dX3_line_1 : decode cX3_line 1 = .ok (.iconst 0, 1) := dk_3 (dk_at dksX3_line_0 1 rfl rfl)
theorem dX3_line_2 : decode cX3_line 2 = .ok (.putfield 79, 3) := dk_181 0 79 (dk_at dksX3_line_0 2 rfl rfl)
theorem dX3_line_5 : decode cX3_line 5 = .ok (.new 226, 3) := dk_187 0 226 (dk_at dksX3_line_0 5 rfl rfl)
theorem dX3_line_8 : decode cX3_line 8 = .ok (.dup, 1) := dk_89 (dk_at dksX3_line_0 8 rfl rfl)
theorem dX3_line_9 : decode cX3_line 9 = .ok (.invokespecial 228, 3) := dk_183 0 228 (dk_at dksX3_line_0 9 rfl rfl)
theorem dX3_line_12 : decode cX3_line 12 = .ok (.astore_n 2, 1) := dk_77 (dk_at dksX3_line_0 12 rfl rfl)
theorem dX3_line_13 : decode cX3_line 13 = .ok (.aload_n 0, 1) := dk_42 (dk_at dksX3_line_0 13 rfl rfl)
theorem dX3_line_14 : decode cX3_line 14 = .ok (.aload_n 0, 1) := dk_42 (dk_at dksX3_line_0 14 rfl rfl)
theorem dX3_line_15 : decode cX3_line 15 = .ok (.iload_n 1, 1) := dk_27 (dk_at dksX3_line_0 15 rfl rfl)
theorem dX3_line_16 : decode cX3_line 16 = .ok (.invokevirtual 220, 3) := dk_182 0 220 (dk_at dksX3_line_0 16 rfl rfl)
theorem dX3_line_19 : decode cX3_line 19 = .ok (.iconst 1, 1) := dk_4 (dk_at dksX3_line_0 19 rfl rfl)
theorem dX3_line_20 : decode cX3_line 20 = .ok (.invokevirtual 109, 3) := dk_182 0 109 (dk_at dksX3_line_0 20 rfl rfl)
theorem dX3_line_23 : decode cX3_line 23 = .ok (.ifCond .eq 6, 3) := dk_153 0 6 (dk_at dksX3_line_1 0 rfl rfl)
theorem dX3_line_26 : decode cX3_line 26 = .ok (.ldc 229, 2) := dk_18 229 (dk_at dksX3_line_1 3 rfl rfl)
theorem dX3_line_28 : decode cX3_line 28 = .ok (.areturn, 1) := dk_176 (dk_at dksX3_line_1 5 rfl rfl)
theorem dX3_line_29 : decode cX3_line 29 = .ok (.aload_n 2, 1) := dk_44 (dk_at dksX3_line_1 6 rfl rfl)
theorem dX3_line_30 : decode cX3_line 30 = .ok (.bipush 104, 2) := dk_16 104 (dk_at dksX3_line_1 7 rfl rfl)
theorem dX3_line_32 : decode cX3_line 32 = .ok (.invokevirtual 231, 3) := dk_182 0 231 (dk_at dksX3_line_1 9 rfl rfl)
theorem dX3_line_35 : decode cX3_line 35 = .ok (.iload_n 1, 1) := dk_27 (dk_at dksX3_line_1 12 rfl rfl)
theorem dX3_line_36 : decode cX3_line 36 = .ok (.invokevirtual 235, 3) := dk_182 0 235 (dk_at dksX3_line_1 13 rfl rfl)
theorem dX3_line_39 : decode cX3_line 39 = .ok (.bipush 58, 2) := dk_16 58 (dk_at dksX3_line_1 16 rfl rfl)
theorem dX3_line_41 : decode cX3_line 41 = .ok (.invokevirtual 231, 3) := dk_182 0 231 (dk_at dksX3_line_1 18 rfl rfl)
theorem dX3_line_44 : decode cX3_line 44 = .ok (.aload_n 0, 1) := dk_42 (dk_at dksX3_line_1 21 rfl rfl)
theorem dX3_line_45 : decode cX3_line 45 = .ok (.getfield 23, 3) := dk_180 0 23 (dk_at dksX3_line_2 0 rfl rfl)
theorem dX3_line_48 : decode cX3_line 48 = .ok (.iload_n 1, 1) := dk_27 (dk_at dksX3_line_2 3 rfl rfl)
theorem dX3_line_49 : decode cX3_line 49 = .ok (.iaload, 1) := dk_46 (dk_at dksX3_line_2 4 rfl rfl)
theorem dX3_line_50 : decode cX3_line 50 = .ok (.aload_n 0, 1) := dk_42 (dk_at dksX3_line_2 5 rfl rfl)
theorem dX3_line_51 : decode cX3_line 51 = .ok (.iload_n 1, 1) := dk_27 (dk_at dksX3_line_2 6 rfl rfl)
theorem dX3_line_52 : decode cX3_line 52 = .ok (.invokevirtual 144, 3) := dk_182 0 144 (dk_at dksX3_line_2 7 rfl rfl)
theorem dX3_line_55 : decode cX3_line 55 = .ok (.isub, 1) := dk_100 (dk_at dksX3_line_2 10 rfl rfl)
theorem dX3_line_56 : decode cX3_line 56 = .ok (.invokevirtual 235, 3) := dk_182 0 235 (dk_at dksX3_line_2 11 rfl rfl)
theorem dX3_line_59 : decode cX3_line 59 = .ok (.bipush 47, 2) := dk_16 47 (dk_at dksX3_line_2 14 rfl rfl)
theorem dX3_line_61 : decode cX3_line 61 = .ok (.invokevirtual 231, 3) := dk_182 0 231 (dk_at dksX3_line_2 16 rfl rfl)
theorem dX3_line_64 : decode cX3_line 64 = .ok (.aload_n 0, 1) := dk_42 (dk_at dksX3_line_2 19 rfl rfl)
theorem dX3_line_65 : decode cX3_line 65 = .ok (.getfield 26, 3) := dk_180 0 26 (dk_at dksX3_line_2 20 rfl rfl)
theorem dX3_line_68 : decode cX3_line 68 = .ok (.iload_n 1, 1) := dk_27 (dk_at dksX3_line_2 23 rfl rfl)
theorem dX3_line_69 : decode cX3_line 69 = .ok (.iaload, 1) := dk_46 (dk_at dksX3_line_3 0 rfl rfl)
theorem dX3_line_70 : decode cX3_line 70 = .ok (.aload_n 0, 1) := dk_42 (dk_at dksX3_line_3 1 rfl rfl)
theorem dX3_line_71 : decode cX3_line 71 = .ok (.iload_n 1, 1) := dk_27 (dk_at dksX3_line_3 2 rfl rfl)
theorem dX3_line_72 : decode cX3_line 72 = .ok (.invokevirtual 169, 3) := dk_182 0 169 (dk_at dksX3_line_3 3 rfl rfl)
theorem dX3_line_75 : decode cX3_line 75 = .ok (.isub, 1) := dk_100 (dk_at dksX3_line_3 6 rfl rfl)
theorem dX3_line_76 : decode cX3_line 76 = .ok (.invokevirtual 235, 3) := dk_182 0 235 (dk_at dksX3_line_3 7 rfl rfl)
theorem dX3_line_79 : decode cX3_line 79 = .ok (.pop, 1) := dk_87 (dk_at dksX3_line_3 10 rfl rfl)
theorem dX3_line_80 : decode cX3_line 80 = .ok (.iconst 0, 1) := dk_3 (dk_at dksX3_line_3 11 rfl rfl)
theorem dX3_line_81 : decode cX3_line 81 = .ok (.istore_n 3, 1) := dk_62 (dk_at dksX3_line_3 12 rfl rfl)
theorem dX3_line_82 : decode cX3_line 82 = .ok (.iload_n 3, 1) := dk_29 (dk_at dksX3_line_3 13 rfl rfl)
theorem dX3_line_83 : decode cX3_line 83 = .ok (.aload_n 0, 1) := dk_42 (dk_at dksX3_line_3 14 rfl rfl)
theorem dX3_line_84 : decode cX3_line 84 = .ok (.getfield 95, 3) := dk_180 0 95 (dk_at dksX3_line_3 15 rfl rfl)
theorem dX3_line_87 : decode cX3_line 87 = .ok (.if_icmp .ge 56, 3) := dk_162 0 56 (dk_at dksX3_line_3 18 rfl rfl)
theorem dX3_line_90 : decode cX3_line 90 = .ok (.aload_n 0, 1) := dk_42 (dk_at dksX3_line_3 21 rfl rfl)
theorem dX3_line_91 : decode cX3_line 91 = .ok (.getfield 54, 3) := dk_180 0 54 (dk_at dksX3_line_4 0 rfl rfl)
theorem dX3_line_94 : decode cX3_line 94 = .ok (.iload_n 3, 1) := dk_29 (dk_at dksX3_line_4 3 rfl rfl)
theorem dX3_line_95 : decode cX3_line 95 = .ok (.caload, 1) := dk_52 (dk_at dksX3_line_4 4 rfl rfl)
theorem dX3_line_96 : decode cX3_line 96 = .ok (.bipush 114, 2) := dk_16 114 (dk_at dksX3_line_4 5 rfl rfl)
theorem dX3_line_98 : decode cX3_line 98 = .ok (.if_icmp .ne 39, 3) := dk_160 0 39 (dk_at dksX3_line_4 7 rfl rfl)
theorem dX3_line_101 : decode cX3_line 101 = .ok (.aload_n 0, 1) := dk_42 (dk_at dksX3_line_4 10 rfl rfl)
theorem dX3_line_102 : decode cX3_line 102 = .ok (.getfield 58, 3) := dk_180 0 58 (dk_at dksX3_line_4 11 rfl rfl)
theorem dX3_line_105 : decode cX3_line 105 = .ok (.iload_n 3, 1) := dk_29 (dk_at dksX3_line_4 14 rfl rfl)
theorem dX3_line_106 : decode cX3_line 106 = .ok (.iaload, 1) := dk_46 (dk_at dksX3_line_4 15 rfl rfl)
theorem dX3_line_107 : decode cX3_line 107 = .ok (.iload_n 1, 1) := dk_27 (dk_at dksX3_line_4 16 rfl rfl)
theorem dX3_line_108 : decode cX3_line 108 = .ok (.if_icmp .ne 29, 3) := dk_160 0 29 (dk_at dksX3_line_4 17 rfl rfl)
theorem dX3_line_111 : decode cX3_line 111 = .ok (.aload_n 2, 1) := dk_44 (dk_at dksX3_line_4 20 rfl rfl)
theorem dX3_line_112 : decode cX3_line 112 = .ok (.bipush 32, 2) := dk_16 32 (dk_at dksX3_line_4 21 rfl rfl)
theorem dX3_line_114 : decode cX3_line 114 = .ok (.invokevirtual 231, 3) := dk_182 0 231 (dk_at dksX3_line_5 0 rfl rfl)
theorem dX3_line_117 : decode cX3_line 117 = .ok (.iload_n 3, 1) := dk_29 (dk_at dksX3_line_5 3 rfl rfl)
theorem dX3_line_118 : decode cX3_line 118 = .ok (.invokevirtual 235, 3) := dk_182 0 235 (dk_at dksX3_line_5 4 rfl rfl)
theorem dX3_line_121 : decode cX3_line 121 = .ok (.pop, 1) := dk_87 (dk_at dksX3_line_5 7 rfl rfl)
theorem dX3_line_122 : decode cX3_line 122 = .ok (.aload_n 0, 1) := dk_42 (dk_at dksX3_line_5 8 rfl rfl)
theorem dX3_line_123 : decode cX3_line 123 = .ok (.iload_n 3, 1) := dk_29 (dk_at dksX3_line_5 9 rfl rfl)
theorem dX3_line_124 : decode cX3_line 124 = .ok (.invokevirtual 123, 3) := dk_182 0 123 (dk_at dksX3_line_5 10 rfl rfl)
theorem dX3_line_127 : decode cX3_line 127 = .ok (.ifCond .eq 10, 3) := dk_153 0 10 (dk_at dksX3_line_5 13 rfl rfl)
theorem dX3_line_130 : decode cX3_line 130 = .ok (.aload_n 2, 1) := dk_44 (dk_at dksX3_line_5 16 rfl rfl)
theorem dX3_line_131 : decode cX3_line 131 = .ok (.bipush 33, 2) := dk_16 33 (dk_at dksX3_line_5 17 rfl rfl)
theorem dX3_line_133 : decode cX3_line 133 = .ok (.invokevirtual 231, 3) := dk_182 0 231 (dk_at dksX3_line_5 19 rfl rfl)
theorem dX3_line_136 : decode cX3_line 136 = .ok (.pop, 1) := dk_87 (dk_at dksX3_line_5 22 rfl rfl)
theorem dX3_line_137 : decode cX3_line 137 = .ok (.iinc 3 1, 3) := dk_132 3 1 (dk_at dksX3_line_6 0 rfl rfl)
theorem dX3_line_140 : decode cX3_line 140 = .ok (.goto (-58), 3) := dk_167 255 198 (dk_at dksX3_line_6 3 rfl rfl)
theorem dX3_line_143 : decode cX3_line 143 = .ok (.aload_n 2, 1) := dk_44 (dk_at dksX3_line_6 6 rfl rfl)
theorem dX3_line_144 : decode cX3_line 144 = .ok (.invokevirtual 238, 3) := dk_182 0 238 (dk_at dksX3_line_6 7 rfl rfl)
theorem dX3_line_147 : decode cX3_line 147 = .ok (.areturn, 1) := dk_176 (dk_at dksX3_line_6 10 rfl rfl)
abbrev cX3_starts : ByteArray := prog_12_method_54_code
def yX3_starts : MethodName := ⟨RX3, "starts", "()J"⟩
def dkwX3_starts_0 : List UInt8 := [42, 3, 181, 0, 79, 42, 180, 0, 213, 173]
abbrev dktX3_starts_0 : List UInt8 := dkwX3_starts_0 ++ []
theorem dksX3_starts_0 : cX3_starts.data.toList.drop 0 = dktX3_starts_0 := by decide +kernel
theorem dX3_starts_0 : decode cX3_starts 0 = .ok (.aload_n 0, 1) := dk_42 (dk_at dksX3_starts_0 0 rfl rfl)
theorem dX3_starts_1 : decode cX3_starts 1 = .ok (.iconst 0, 1) := dk_3 (dk_at dksX3_starts_0 1 rfl rfl)
theorem dX3_starts_2 : decode cX3_starts 2 = .ok (.putfield 79, 3) := dk_181 0 79 (dk_at dksX3_starts_0 2 rfl rfl)
theorem dX3_starts_5 : decode cX3_starts 5 = .ok (.aload_n 0, 1) := dk_42 (dk_at dksX3_starts_0 5 rfl rfl)
theorem dX3_starts_6 : decode cX3_starts 6 = .ok (.getfield 213, 3) := dk_180 0 213 (dk_at dksX3_starts_0 6 rfl rfl)
theorem dX3_starts_9 : decode cX3_starts 9 = .ok (.lreturn, 1) := dk_173 (dk_at dksX3_starts_0 9 rfl rfl)
abbrev cX3_runningShare : ByteArray := prog_12_method_56_code
def yX3_runningShare : MethodName := ⟨RX3, "runningShare", "()F"⟩
def dkwX3_runningShare_2 : List UInt8 := [110, 174]
abbrev dktX3_runningShare_2 : List UInt8 := dkwX3_runningShare_2 ++ []
def dkwX3_runningShare_1 : List UInt8 := [167, 0, 4, 3, 4, 182, 0, 109, 153, 0, 7, 11, 167, 0, 13, 42, 16, 114, 182, 0, 242, 134, 27, 134]
abbrev dktX3_runningShare_1 : List UInt8 := dkwX3_runningShare_1 ++ dktX3_runningShare_2
def dkwX3_runningShare_0 : List UInt8 := [42, 3, 181, 0, 79, 42, 180, 0, 95, 42, 16, 120, 182, 0, 242, 100, 60, 42, 27, 154, 0, 7, 4]
abbrev dktX3_runningShare_0 : List UInt8 := dkwX3_runningShare_0 ++ dktX3_runningShare_1
theorem dksX3_runningShare_0 : cX3_runningShare.data.toList.drop 0 = dktX3_runningShare_0 := by decide +kernel
theorem dksX3_runningShare_1 : cX3_runningShare.data.toList.drop 23 = dktX3_runningShare_1 := dk_seg dksX3_runningShare_0 23 rfl rfl
theorem dksX3_runningShare_2 : cX3_runningShare.data.toList.drop 47 = dktX3_runningShare_2 := dk_seg dksX3_runningShare_1 24 rfl rfl
theorem dX3_runningShare_0 : decode cX3_runningShare 0 = .ok (.aload_n 0, 1) := dk_42 (dk_at dksX3_runningShare_0 0 rfl rfl)
theorem dX3_runningShare_1 : decode cX3_runningShare 1 = .ok (.iconst 0, 1) := dk_3 (dk_at dksX3_runningShare_0 1 rfl rfl)
theorem dX3_runningShare_2 : decode cX3_runningShare 2 = .ok (.putfield 79, 3) := dk_181 0 79 (dk_at dksX3_runningShare_0 2 rfl rfl)
theorem dX3_runningShare_5 : decode cX3_runningShare 5 = .ok (.aload_n 0, 1) := dk_42 (dk_at dksX3_runningShare_0 5 rfl rfl)
theorem dX3_runningShare_6 : decode cX3_runningShare 6 = .ok (.getfield 95, 3) := dk_180 0 95 (dk_at dksX3_runningShare_0 6 rfl rfl)
theorem dX3_runningShare_9 : decode cX3_runningShare 9 = .ok (.aload_n 0, 1) := dk_42 (dk_at dksX3_runningShare_0 9 rfl rfl)
theorem dX3_runningShare_10 : decode cX3_runningShare 10 = .ok (.bipush 120, 2) := dk_16 120 (dk_at dksX3_runningShare_0 10 rfl rfl)
theorem dX3_runningShare_12 : decode cX3_runningShare 12 = .ok (.invokevirtual 242, 3) := dk_182 0 242 (dk_at dksX3_runningShare_0 12 rfl rfl)
theorem dX3_runningShare_15 : decode cX3_runningShare 15 = .ok (.isub, 1) := dk_100 (dk_at dksX3_runningShare_0 15 rfl rfl)
theorem dX3_runningShare_16 : decode cX3_runningShare 16 = .ok (.istore_n 1, 1) := dk_60 (dk_at dksX3_runningShare_0 16 rfl rfl)
theorem dX3_runningShare_17 : decode cX3_runningShare 17 = .ok (.aload_n 0, 1) := dk_42 (dk_at dksX3_runningShare_0 17 rfl rfl)
theorem dX3_runningShare_18 : decode cX3_runningShare 18 = .ok (.iload_n 1, 1) := dk_27 (dk_at dksX3_runningShare_0 18 rfl rfl)
theorem dX3_runningShare_19 : decode cX3_runningShare 19 = .ok (.ifCond .ne 7, 3) := dk_154 0 7 (dk_at dksX3_runningShare_0 19 rfl rfl)
theorem dX3_runningShare_22 : decode cX3_runningShare 22 = .ok (.iconst 1, 1) := dk_4 (dk_at dksX3_runningShare_0 22 rfl rfl)
theorem dX3_runningShare_23 : decode cX3_runningShare 23 = .ok (.goto 4, 3) := dk_167 0 4 (dk_at dksX3_runningShare_1 0 rfl rfl)
theorem dX3_runningShare_26 : decode cX3_runningShare 26 = .ok (.iconst 0, 1) := dk_3 (dk_at dksX3_runningShare_1 3 rfl rfl)
theorem dX3_runningShare_27 : decode cX3_runningShare 27 = .ok (.iconst 1, 1) := dk_4 (dk_at dksX3_runningShare_1 4 rfl rfl)
theorem dX3_runningShare_28 : decode cX3_runningShare 28 = .ok (.invokevirtual 109, 3) := dk_182 0 109 (dk_at dksX3_runningShare_1 5 rfl rfl)
theorem dX3_runningShare_31 : decode cX3_runningShare 31 = .ok (.ifCond .eq 7, 3) := dk_153 0 7 (dk_at dksX3_runningShare_1 8 rfl rfl)
theorem dX3_runningShare_34 : decode cX3_runningShare 34 = .ok (.fconst 0, 1) := dk_11 (dk_at dksX3_runningShare_1 11 rfl rfl)
theorem dX3_runningShare_35 : decode cX3_runningShare 35 = .ok (.goto 13, 3) := dk_167 0 13 (dk_at dksX3_runningShare_1 12 rfl rfl)
theorem dX3_runningShare_38 : decode cX3_runningShare 38 = .ok (.aload_n 0, 1) := dk_42 (dk_at dksX3_runningShare_1 15 rfl rfl)
theorem dX3_runningShare_39 : decode cX3_runningShare 39 = .ok (.bipush 114, 2) := dk_16 114 (dk_at dksX3_runningShare_1 16 rfl rfl)
theorem dX3_runningShare_41 : decode cX3_runningShare 41 = .ok (.invokevirtual 242, 3) := dk_182 0 242 (dk_at dksX3_runningShare_1 18 rfl rfl)
theorem dX3_runningShare_44 : decode cX3_runningShare 44 = .ok (.i2f, 1) := dk_134 (dk_at dksX3_runningShare_1 21 rfl rfl)
theorem dX3_runningShare_45 : decode cX3_runningShare 45 = .ok (.iload_n 1, 1) := dk_27 (dk_at dksX3_runningShare_1 22 rfl rfl)
theorem dX3_runningShare_46 : decode cX3_runningShare 46 = .ok (.i2f, 1) := dk_134 (dk_at dksX3_runningShare_1 23 rfl rfl)
theorem dX3_runningShare_47 : decode cX3_runningShare 47 = .ok (.fdiv, 1) := dk_110 (dk_at dksX3_runningShare_2 0 rfl rfl)
theorem dX3_runningShare_48 : decode cX3_runningShare 48 = .ok (.freturn, 1) := dk_174 (dk_at dksX3_runningShare_2 1 rfl rfl)
abbrev cX3_count : ByteArray := prog_12_method_55_code
def yX3_count : MethodName := ⟨RX3, "count", "(C)I"⟩
def dkwX3_count_1 : List UInt8 := [167, 0, 4, 3, 96, 61, 132, 3, 1, 167, 255, 227, 28, 172]
abbrev dktX3_count_1 : List UInt8 := dkwX3_count_1 ++ []
def dkwX3_count_0 : List UInt8 := [3, 61, 3, 62, 29, 42, 180, 0, 95, 162, 0, 27, 28, 42, 180, 0, 54, 29, 52, 27, 160, 0, 7, 4]
abbrev dktX3_count_0 : List UInt8 := dkwX3_count_0 ++ dktX3_count_1
theorem dksX3_count_0 : cX3_count.data.toList.drop 0 = dktX3_count_0 := by decide +kernel
theorem dksX3_count_1 : cX3_count.data.toList.drop 24 = dktX3_count_1 := dk_seg dksX3_count_0 24 rfl rfl
theorem dX3_count_0 : decode cX3_count 0 = .ok (.iconst 0, 1) := dk_3 (dk_at dksX3_count_0 0 rfl rfl)
theorem dX3_count_1 : decode cX3_count 1 = .ok (.istore_n 2, 1) := dk_61 (dk_at dksX3_count_0 1 rfl rfl)
theorem dX3_count_2 : decode cX3_count 2 = .ok (.iconst 0, 1) := dk_3 (dk_at dksX3_count_0 2 rfl rfl)
theorem dX3_count_3 : decode cX3_count 3 = .ok (.istore_n 3, 1) := dk_62 (dk_at dksX3_count_0 3 rfl rfl)
theorem dX3_count_4 : decode cX3_count 4 = .ok (.iload_n 3, 1) := dk_29 (dk_at dksX3_count_0 4 rfl rfl)
theorem dX3_count_5 : decode cX3_count 5 = .ok (.aload_n 0, 1) := dk_42 (dk_at dksX3_count_0 5 rfl rfl)
theorem dX3_count_6 : decode cX3_count 6 = .ok (.getfield 95, 3) := dk_180 0 95 (dk_at dksX3_count_0 6 rfl rfl)
theorem dX3_count_9 : decode cX3_count 9 = .ok (.if_icmp .ge 27, 3) := dk_162 0 27 (dk_at dksX3_count_0 9 rfl rfl)
theorem dX3_count_12 : decode cX3_count 12 = .ok (.iload_n 2, 1) := dk_28 (dk_at dksX3_count_0 12 rfl rfl)
theorem dX3_count_13 : decode cX3_count 13 = .ok (.aload_n 0, 1) := dk_42 (dk_at dksX3_count_0 13 rfl rfl)
theorem dX3_count_14 : decode cX3_count 14 = .ok (.getfield 54, 3) := dk_180 0 54 (dk_at dksX3_count_0 14 rfl rfl)
theorem dX3_count_17 : decode cX3_count 17 = .ok (.iload_n 3, 1) := dk_29 (dk_at dksX3_count_0 17 rfl rfl)
theorem dX3_count_18 : decode cX3_count 18 = .ok (.caload, 1) := dk_52 (dk_at dksX3_count_0 18 rfl rfl)
theorem dX3_count_19 : decode cX3_count 19 = .ok (.iload_n 1, 1) := dk_27 (dk_at dksX3_count_0 19 rfl rfl)
theorem dX3_count_20 : decode cX3_count 20 = .ok (.if_icmp .ne 7, 3) := dk_160 0 7 (dk_at dksX3_count_0 20 rfl rfl)
theorem dX3_count_23 : decode cX3_count 23 = .ok (.iconst 1, 1) := dk_4 (dk_at dksX3_count_0 23 rfl rfl)
theorem dX3_count_24 : decode cX3_count 24 = .ok (.goto 4, 3) := dk_167 0 4 (dk_at dksX3_count_1 0 rfl rfl)
theorem dX3_count_27 : decode cX3_count 27 = .ok (.iconst 0, 1) := dk_3 (dk_at dksX3_count_1 3 rfl rfl)
theorem dX3_count_28 : decode cX3_count 28 = .ok (.iadd, 1) := dk_96 (dk_at dksX3_count_1 4 rfl rfl)
theorem dX3_count_29 : decode cX3_count 29 = .ok (.istore_n 2, 1) := dk_61 (dk_at dksX3_count_1 5 rfl rfl)
theorem dX3_count_30 : decode cX3_count 30 = .ok (.iinc 3 1, 3) := dk_132 3 1 (dk_at dksX3_count_1 6 rfl rfl)
theorem dX3_count_33 : decode cX3_count 33 = .ok (.goto (-29), 3) := dk_167 255 227 (dk_at dksX3_count_1 9 rfl rfl)
theorem dX3_count_36 : decode cX3_count 36 = .ok (.iload_n 2, 1) := dk_28 (dk_at dksX3_count_1 12 rfl rfl)
theorem dX3_count_37 : decode cX3_count 37 = .ok (.ireturn, 1) := dk_172 (dk_at dksX3_count_1 13 rfl rfl)
abbrev cX3_meanCores : ByteArray := prog_12_method_57_code
def yX3_meanCores : MethodName := ⟨RX3, "meanCores", "()D"⟩
def dkwX3_meanCores_1 : List UInt8 := [153, 0, 7, 14, 167, 0, 17, 42, 2, 182, 0, 144, 135, 42, 16, 114, 182, 0, 242, 135, 111, 175]
abbrev dktX3_meanCores_1 : List UInt8 := dkwX3_meanCores_1 ++ []
def dkwX3_meanCores_0 : List UInt8 := [42, 3, 181, 0, 79, 42, 42, 16, 114, 182, 0, 242, 154, 0, 7, 4, 167, 0, 4, 3, 4, 182, 0, 109]
abbrev dktX3_meanCores_0 : List UInt8 := dkwX3_meanCores_0 ++ dktX3_meanCores_1
theorem dksX3_meanCores_0 : cX3_meanCores.data.toList.drop 0 = dktX3_meanCores_0 := by decide +kernel
theorem dksX3_meanCores_1 : cX3_meanCores.data.toList.drop 24 = dktX3_meanCores_1 := dk_seg dksX3_meanCores_0 24 rfl rfl
theorem dX3_meanCores_0 : decode cX3_meanCores 0 = .ok (.aload_n 0, 1) := dk_42 (dk_at dksX3_meanCores_0 0 rfl rfl)
theorem dX3_meanCores_1 : decode cX3_meanCores 1 = .ok (.iconst 0, 1) := dk_3 (dk_at dksX3_meanCores_0 1 rfl rfl)
theorem dX3_meanCores_2 : decode cX3_meanCores 2 = .ok (.putfield 79, 3) := dk_181 0 79 (dk_at dksX3_meanCores_0 2 rfl rfl)
theorem dX3_meanCores_5 : decode cX3_meanCores 5 = .ok (.aload_n 0, 1) := dk_42 (dk_at dksX3_meanCores_0 5 rfl rfl)
theorem dX3_meanCores_6 : decode cX3_meanCores 6 = .ok (.aload_n 0, 1) := dk_42 (dk_at dksX3_meanCores_0 6 rfl rfl)
theorem dX3_meanCores_7 : decode cX3_meanCores 7 = .ok (.bipush 114, 2) := dk_16 114 (dk_at dksX3_meanCores_0 7 rfl rfl)
theorem dX3_meanCores_9 : decode cX3_meanCores 9 = .ok (.invokevirtual 242, 3) := dk_182 0 242 (dk_at dksX3_meanCores_0 9 rfl rfl)
theorem dX3_meanCores_12 : decode cX3_meanCores 12 = .ok (.ifCond .ne 7, 3) := dk_154 0 7 (dk_at dksX3_meanCores_0 12 rfl rfl)
theorem dX3_meanCores_15 : decode cX3_meanCores 15 = .ok (.iconst 1, 1) := dk_4 (dk_at dksX3_meanCores_0 15 rfl rfl)
theorem dX3_meanCores_16 : decode cX3_meanCores 16 = .ok (.goto 4, 3) := dk_167 0 4 (dk_at dksX3_meanCores_0 16 rfl rfl)
theorem dX3_meanCores_19 : decode cX3_meanCores 19 = .ok (.iconst 0, 1) := dk_3 (dk_at dksX3_meanCores_0 19 rfl rfl)
theorem dX3_meanCores_20 : decode cX3_meanCores 20 = .ok (.iconst 1, 1) := dk_4 (dk_at dksX3_meanCores_0 20 rfl rfl)
theorem dX3_meanCores_21 : decode cX3_meanCores 21 = .ok (.invokevirtual 109, 3) := dk_182 0 109 (dk_at dksX3_meanCores_0 21 rfl rfl)
theorem dX3_meanCores_24 : decode cX3_meanCores 24 = .ok (.ifCond .eq 7, 3) := dk_153 0 7 (dk_at dksX3_meanCores_1 0 rfl rfl)
theorem dX3_meanCores_27 : decode cX3_meanCores 27 = .ok (.dconst 0, 1) := dk_14 (dk_at dksX3_meanCores_1 3 rfl rfl)
theorem dX3_meanCores_28 : decode cX3_meanCores 28 = .ok (.goto 17, 3) := dk_167 0 17 (dk_at dksX3_meanCores_1 4 rfl rfl)
theorem dX3_meanCores_31 : decode cX3_meanCores 31 = .ok (.aload_n 0, 1) := dk_42 (dk_at dksX3_meanCores_1 7 rfl rfl)
theorem dX3_meanCores_32 : decode cX3_meanCores 32 = .ok (.iconst (-1), 1) := dk_2 (dk_at dksX3_meanCores_1 8 rfl rfl)
theorem dX3_meanCores_33 : decode cX3_meanCores 33 = .ok (.invokevirtual 144, 3) := dk_182 0 144 (dk_at dksX3_meanCores_1 9 rfl rfl)
theorem dX3_meanCores_36 : decode cX3_meanCores 36 = .ok (.i2d, 1) := dk_135 (dk_at dksX3_meanCores_1 12 rfl rfl)
theorem dX3_meanCores_37 : decode cX3_meanCores 37 = .ok (.aload_n 0, 1) := dk_42 (dk_at dksX3_meanCores_1 13 rfl rfl)
theorem dX3_meanCores_38 : decode cX3_meanCores 38 = .ok (.bipush 114, 2) := dk_16 114 (dk_at dksX3_meanCores_1 14 rfl rfl)
theorem dX3_meanCores_40 : decode cX3_meanCores 40 = .ok (.invokevirtual 242, 3) := dk_182 0 242 (dk_at dksX3_meanCores_1 16 rfl rfl)
theorem dX3_meanCores_43 : decode cX3_meanCores 43 = .ok (.i2d, 1) := dk_135 (dk_at dksX3_meanCores_1 19 rfl rfl)
theorem dX3_meanCores_44 : decode cX3_meanCores 44 = .ok (.ddiv, 1) := dk_111 (dk_at dksX3_meanCores_1 20 rfl rfl)
theorem dX3_meanCores_45 : decode cX3_meanCores 45 = .ok (.dreturn, 1) := dk_175 (dk_at dksX3_meanCores_1 21 rfl rfl)
theorem q39 : (Jvm.Cond.initialized "CrateYardModel") ∈ lw_all := lw_g (lw_at lw_m1 6 rfl) rfl
theorem q380 : (Jvm.Cond.selects "CrateYardModel" ({ cls := "java/lang/Object", name := "getClass", desc := "()Ljava/lang/Class;" } : Jvm.MethodName) ({ cls := "java/lang/Object", name := "getClass", desc := "()Ljava/lang/Class;" } : Jvm.MethodName)) ∈ lw_all := lw_g (lw_at lw_m2 107 rfl) rfl
theorem q1373 : (Jvm.Cond.instantiable "CrateYardModel" (30 : Nat)) ∈ lw_all := lw_g (lw_at lw_m6 140 rfl) rfl
theorem q1375 : (Jvm.Cond.instanceMethod ({ cls := "CrateYardModel", name := "<init>", desc := "()V" } : Jvm.MethodName)) ∈ lw_all := lw_g (lw_at lw_m6 142 rfl) rfl
theorem q1376 : (Jvm.Cond.code ({ cls := "CrateYardModel", name := "<init>", desc := "()V" } : Jvm.MethodName) prog_12_method_1_code (1 : Nat) (Option.none : Option Jvm.ClassFile.FieldType)) ∈ lw_all := lw_g (lw_at lw_m6 143 rfl) rfl
theorem q1377 : (Jvm.Cond.methodLink "CrateYardModel" (1 : Nat) ({ cls := "java/lang/Object", name := "<init>", desc := "()V" } : Jvm.MethodName)) ∈ lw_all := lw_g (lw_at lw_m6 144 rfl) rfl
theorem q1378 : (Jvm.Cond.fieldLink "CrateYardModel" (79 : Nat) "CrateYardModel" "thrown" "I") ∈ lw_all := lw_g (lw_at lw_m6 145 rfl) rfl
theorem q1379 : (Jvm.Cond.fieldLink "CrateYardModel" (98 : Nat) "CrateYardModel" "now" "I") ∈ lw_all := lw_g (lw_at lw_m6 146 rfl) rfl
theorem q1380 : (Jvm.Cond.fieldLink "CrateYardModel" (82 : Nat) "CrateYardModel" "layers" "I") ∈ lw_all := lw_g (lw_at lw_m6 147 rfl) rfl
theorem q1381 : (Jvm.Cond.fieldLink "CrateYardModel" (7 : Nat) "CrateYardModel" "isWithdrawn" "[Z") ∈ lw_all := lw_g (lw_at lw_m6 148 rfl) rfl
theorem q1382 : (Jvm.Cond.fieldLink "CrateYardModel" (13 : Nat) "CrateYardModel" "outAt" "[I") ∈ lw_all := lw_g (lw_at lw_m6 149 rfl) rfl
theorem q1383 : (Jvm.Cond.fieldLink "CrateYardModel" (89 : Nat) "CrateYardModel" "images" "I") ∈ lw_all := lw_g (lw_at lw_m6 150 rfl) rfl
theorem q1384 : (Jvm.Cond.fieldLink "CrateYardModel" (17 : Nat) "CrateYardModel" "parent" "[I") ∈ lw_all := lw_g (lw_at lw_m6 151 rfl) rfl
theorem q1385 : (Jvm.Cond.fieldLink "CrateYardModel" (20 : Nat) "CrateYardModel" "own" "[I") ∈ lw_all := lw_g (lw_at lw_m6 152 rfl) rfl
theorem q1386 : (Jvm.Cond.fieldLink "CrateYardModel" (92 : Nat) "CrateYardModel" "hosts" "I") ∈ lw_all := lw_g (lw_at lw_m6 153 rfl) rfl
theorem q1387 : (Jvm.Cond.fieldLink "CrateYardModel" (23 : Nat) "CrateYardModel" "cores" "[I") ∈ lw_all := lw_g (lw_at lw_m6 154 rfl) rfl
theorem q1388 : (Jvm.Cond.fieldLink "CrateYardModel" (26 : Nat) "CrateYardModel" "memory" "[I") ∈ lw_all := lw_g (lw_at lw_m6 155 rfl) rfl
theorem q1389 : (Jvm.Cond.fieldLink "CrateYardModel" (141 : Nat) "CrateYardModel" "windows" "I") ∈ lw_all := lw_g (lw_at lw_m6 156 rfl) rfl
theorem q1390 : (Jvm.Cond.fieldLink "CrateYardModel" (29 : Nat) "CrateYardModel" "first" "[I") ∈ lw_all := lw_g (lw_at lw_m6 157 rfl) rfl
theorem q1391 : (Jvm.Cond.fieldLink "CrateYardModel" (32 : Nat) "CrateYardModel" "length" "[I") ∈ lw_all := lw_g (lw_at lw_m6 158 rfl) rfl
theorem q1392 : (Jvm.Cond.fieldLink "CrateYardModel" (35 : Nat) "CrateYardModel" "tenantOf" "[I") ∈ lw_all := lw_g (lw_at lw_m6 159 rfl) rfl
theorem q1393 : (Jvm.Cond.fieldLink "CrateYardModel" (38 : Nat) "CrateYardModel" "licence" "I") ∈ lw_all := lw_g (lw_at lw_m6 160 rfl) rfl
theorem q1394 : (Jvm.Cond.fieldLink "CrateYardModel" (95 : Nat) "CrateYardModel" "containers" "I") ∈ lw_all := lw_g (lw_at lw_m6 161 rfl) rfl
theorem q1395 : (Jvm.Cond.fieldLink "CrateYardModel" (42 : Nat) "CrateYardModel" "tenant" "[I") ∈ lw_all := lw_g (lw_at lw_m6 162 rfl) rfl
theorem q1396 : (Jvm.Cond.fieldLink "CrateYardModel" (45 : Nat) "CrateYardModel" "image" "[I") ∈ lw_all := lw_g (lw_at lw_m6 163 rfl) rfl
theorem q1397 : (Jvm.Cond.fieldLink "CrateYardModel" (48 : Nat) "CrateYardModel" "needsCores" "[I") ∈ lw_all := lw_g (lw_at lw_m6 164 rfl) rfl
theorem q1398 : (Jvm.Cond.fieldLink "CrateYardModel" (51 : Nat) "CrateYardModel" "needsMemory" "[I") ∈ lw_all := lw_g (lw_at lw_m6 165 rfl) rfl
theorem q1399 : (Jvm.Cond.fieldLink "CrateYardModel" (54 : Nat) "CrateYardModel" "state" "[C") ∈ lw_all := lw_g (lw_at lw_m6 166 rfl) rfl
theorem q1400 : (Jvm.Cond.fieldLink "CrateYardModel" (58 : Nat) "CrateYardModel" "host" "[I") ∈ lw_all := lw_g (lw_at lw_m6 167 rfl) rfl
theorem q1401 : (Jvm.Cond.fieldLink "CrateYardModel" (61 : Nat) "CrateYardModel" "with" "[I") ∈ lw_all := lw_g (lw_at lw_m6 168 rfl) rfl
theorem q1402 : (Jvm.Cond.fieldLink "CrateYardModel" (64 : Nat) "CrateYardModel" "started" "[I") ∈ lw_all := lw_g (lw_at lw_m6 169 rfl) rfl
theorem q1403 : (Jvm.Cond.fieldLink "CrateYardModel" (67 : Nat) "CrateYardModel" "until" "[I") ∈ lw_all := lw_g (lw_at lw_m6 170 rfl) rfl
theorem q1404 : (Jvm.Cond.fieldLink "CrateYardModel" (70 : Nat) "CrateYardModel" "row" "[I") ∈ lw_all := lw_g (lw_at lw_m6 171 rfl) rfl
theorem q1405 : (Jvm.Cond.fieldLink "CrateYardModel" (213 : Nat) "CrateYardModel" "starts" "J") ∈ lw_all := lw_g (lw_at lw_m6 172 rfl) rfl
theorem q1406 : (Jvm.Cond.fieldLink "CrateYardModel" (73 : Nat) "CrateYardModel" "leftCores" "[I") ∈ lw_all := lw_g (lw_at lw_m6 173 rfl) rfl
theorem q1407 : (Jvm.Cond.fieldLink "CrateYardModel" (76 : Nat) "CrateYardModel" "leftMemory" "[I") ∈ lw_all := lw_g (lw_at lw_m6 174 rfl) rfl
theorem q1408 : (Jvm.Cond.lays "CrateYardModel" "CrateYardModel" "thrown" "I") ∈ lw_all := lw_g (lw_at lw_m6 175 rfl) rfl
theorem q1409 : (Jvm.Cond.soleField "CrateYardModel" "thrown") ∈ lw_all := lw_g (lw_at lw_m6 176 rfl) rfl
theorem q1410 : (Jvm.Cond.lays "CrateYardModel" "CrateYardModel" "now" "I") ∈ lw_all := lw_g (lw_at lw_m6 177 rfl) rfl
theorem q1411 : (Jvm.Cond.soleField "CrateYardModel" "now") ∈ lw_all := lw_g (lw_at lw_m6 178 rfl) rfl
theorem q1412 : (Jvm.Cond.lays "CrateYardModel" "CrateYardModel" "layers" "I") ∈ lw_all := lw_g (lw_at lw_m6 179 rfl) rfl
theorem q1413 : (Jvm.Cond.soleField "CrateYardModel" "layers") ∈ lw_all := lw_g (lw_at lw_m6 180 rfl) rfl
theorem q1414 : (Jvm.Cond.laysFinal "CrateYardModel" "CrateYardModel" "isWithdrawn" "[Z") ∈ lw_all := lw_g (lw_at lw_m6 181 rfl) rfl
theorem q1415 : (Jvm.Cond.soleField "CrateYardModel" "isWithdrawn") ∈ lw_all := lw_g (lw_at lw_m6 182 rfl) rfl
theorem q1416 : (Jvm.Cond.laysFinal "CrateYardModel" "CrateYardModel" "outAt" "[I") ∈ lw_all := lw_g (lw_at lw_m6 183 rfl) rfl
theorem q1417 : (Jvm.Cond.soleField "CrateYardModel" "outAt") ∈ lw_all := lw_g (lw_at lw_m6 184 rfl) rfl
theorem q1418 : (Jvm.Cond.lays "CrateYardModel" "CrateYardModel" "images" "I") ∈ lw_all := lw_g (lw_at lw_m6 185 rfl) rfl
theorem q1419 : (Jvm.Cond.soleField "CrateYardModel" "images") ∈ lw_all := lw_g (lw_at lw_m6 186 rfl) rfl
theorem q1420 : (Jvm.Cond.laysFinal "CrateYardModel" "CrateYardModel" "parent" "[I") ∈ lw_all := lw_g (lw_at lw_m6 187 rfl) rfl
theorem q1421 : (Jvm.Cond.soleField "CrateYardModel" "parent") ∈ lw_all := lw_g (lw_at lw_m6 188 rfl) rfl
theorem q1422 : (Jvm.Cond.laysFinal "CrateYardModel" "CrateYardModel" "own" "[I") ∈ lw_all := lw_g (lw_at lw_m6 189 rfl) rfl
theorem q1423 : (Jvm.Cond.soleField "CrateYardModel" "own") ∈ lw_all := lw_g (lw_at lw_m6 190 rfl) rfl
theorem q1424 : (Jvm.Cond.lays "CrateYardModel" "CrateYardModel" "hosts" "I") ∈ lw_all := lw_g (lw_at lw_m6 191 rfl) rfl
theorem q1425 : (Jvm.Cond.soleField "CrateYardModel" "hosts") ∈ lw_all := lw_g (lw_at lw_m6 192 rfl) rfl
theorem q1426 : (Jvm.Cond.laysFinal "CrateYardModel" "CrateYardModel" "cores" "[I") ∈ lw_all := lw_g (lw_at lw_m6 193 rfl) rfl
theorem q1427 : (Jvm.Cond.soleField "CrateYardModel" "cores") ∈ lw_all := lw_g (lw_at lw_m6 194 rfl) rfl
theorem q1428 : (Jvm.Cond.laysFinal "CrateYardModel" "CrateYardModel" "memory" "[I") ∈ lw_all := lw_g (lw_at lw_m6 195 rfl) rfl
theorem q1429 : (Jvm.Cond.soleField "CrateYardModel" "memory") ∈ lw_all := lw_g (lw_at lw_m6 196 rfl) rfl
theorem q1430 : (Jvm.Cond.lays "CrateYardModel" "CrateYardModel" "windows" "I") ∈ lw_all := lw_g (lw_at lw_m6 197 rfl) rfl
theorem q1431 : (Jvm.Cond.soleField "CrateYardModel" "windows") ∈ lw_all := lw_g (lw_at lw_m6 198 rfl) rfl
theorem q1432 : (Jvm.Cond.laysFinal "CrateYardModel" "CrateYardModel" "first" "[I") ∈ lw_all := lw_g (lw_at lw_m6 199 rfl) rfl
theorem q1433 : (Jvm.Cond.soleField "CrateYardModel" "first") ∈ lw_all := lw_g (lw_at lw_m6 200 rfl) rfl
theorem q1434 : (Jvm.Cond.laysFinal "CrateYardModel" "CrateYardModel" "length" "[I") ∈ lw_all := lw_g (lw_at lw_m6 201 rfl) rfl
theorem q1435 : (Jvm.Cond.soleField "CrateYardModel" "length") ∈ lw_all := lw_g (lw_at lw_m6 202 rfl) rfl
theorem q1436 : (Jvm.Cond.laysFinal "CrateYardModel" "CrateYardModel" "tenantOf" "[I") ∈ lw_all := lw_g (lw_at lw_m6 203 rfl) rfl
theorem q1437 : (Jvm.Cond.soleField "CrateYardModel" "tenantOf") ∈ lw_all := lw_g (lw_at lw_m6 204 rfl) rfl
theorem q1438 : (Jvm.Cond.lays "CrateYardModel" "CrateYardModel" "licence" "I") ∈ lw_all := lw_g (lw_at lw_m6 205 rfl) rfl
theorem q1439 : (Jvm.Cond.soleField "CrateYardModel" "licence") ∈ lw_all := lw_g (lw_at lw_m6 206 rfl) rfl
theorem q1440 : (Jvm.Cond.lays "CrateYardModel" "CrateYardModel" "containers" "I") ∈ lw_all := lw_g (lw_at lw_m6 207 rfl) rfl
theorem q1441 : (Jvm.Cond.soleField "CrateYardModel" "containers") ∈ lw_all := lw_g (lw_at lw_m6 208 rfl) rfl
theorem q1442 : (Jvm.Cond.laysFinal "CrateYardModel" "CrateYardModel" "tenant" "[I") ∈ lw_all := lw_g (lw_at lw_m6 209 rfl) rfl
theorem q1443 : (Jvm.Cond.soleField "CrateYardModel" "tenant") ∈ lw_all := lw_g (lw_at lw_m6 210 rfl) rfl
theorem q1444 : (Jvm.Cond.laysFinal "CrateYardModel" "CrateYardModel" "image" "[I") ∈ lw_all := lw_g (lw_at lw_m6 211 rfl) rfl
theorem q1445 : (Jvm.Cond.soleField "CrateYardModel" "image") ∈ lw_all := lw_g (lw_at lw_m6 212 rfl) rfl
theorem q1446 : (Jvm.Cond.laysFinal "CrateYardModel" "CrateYardModel" "needsCores" "[I") ∈ lw_all := lw_g (lw_at lw_m6 213 rfl) rfl
theorem q1447 : (Jvm.Cond.soleField "CrateYardModel" "needsCores") ∈ lw_all := lw_g (lw_at lw_m6 214 rfl) rfl
theorem q1448 : (Jvm.Cond.laysFinal "CrateYardModel" "CrateYardModel" "needsMemory" "[I") ∈ lw_all := lw_g (lw_at lw_m6 215 rfl) rfl
theorem q1449 : (Jvm.Cond.soleField "CrateYardModel" "needsMemory") ∈ lw_all := lw_g (lw_at lw_m6 216 rfl) rfl
theorem q1450 : (Jvm.Cond.laysFinal "CrateYardModel" "CrateYardModel" "state" "[C") ∈ lw_all := lw_g (lw_at lw_m6 217 rfl) rfl
theorem q1451 : (Jvm.Cond.soleField "CrateYardModel" "state") ∈ lw_all := lw_g (lw_at lw_m6 218 rfl) rfl
theorem q1452 : (Jvm.Cond.laysFinal "CrateYardModel" "CrateYardModel" "host" "[I") ∈ lw_all := lw_g (lw_at lw_m6 219 rfl) rfl
theorem q1453 : (Jvm.Cond.soleField "CrateYardModel" "host") ∈ lw_all := lw_g (lw_at lw_m6 220 rfl) rfl
theorem q1454 : (Jvm.Cond.laysFinal "CrateYardModel" "CrateYardModel" "with" "[I") ∈ lw_all := lw_g (lw_at lw_m6 221 rfl) rfl
theorem q1455 : (Jvm.Cond.soleField "CrateYardModel" "with") ∈ lw_all := lw_g (lw_at lw_m6 222 rfl) rfl
theorem q1456 : (Jvm.Cond.laysFinal "CrateYardModel" "CrateYardModel" "started" "[I") ∈ lw_all := lw_g (lw_at lw_m6 223 rfl) rfl
theorem q1457 : (Jvm.Cond.soleField "CrateYardModel" "started") ∈ lw_all := lw_g (lw_at lw_m6 224 rfl) rfl
theorem q1458 : (Jvm.Cond.laysFinal "CrateYardModel" "CrateYardModel" "until" "[I") ∈ lw_all := lw_g (lw_at lw_m6 225 rfl) rfl
theorem q1459 : (Jvm.Cond.soleField "CrateYardModel" "until") ∈ lw_all := lw_g (lw_at lw_m6 226 rfl) rfl
theorem q1460 : (Jvm.Cond.laysFinal "CrateYardModel" "CrateYardModel" "row" "[I") ∈ lw_all := lw_g (lw_at lw_m6 227 rfl) rfl
theorem q1461 : (Jvm.Cond.soleField "CrateYardModel" "row") ∈ lw_all := lw_g (lw_at lw_m6 228 rfl) rfl
theorem q1462 : (Jvm.Cond.lays "CrateYardModel" "CrateYardModel" "starts" "J") ∈ lw_all := lw_g (lw_at lw_m6 229 rfl) rfl
theorem q1463 : (Jvm.Cond.soleField "CrateYardModel" "starts") ∈ lw_all := lw_g (lw_at lw_m6 230 rfl) rfl
theorem q1464 : (Jvm.Cond.laysFinal "CrateYardModel" "CrateYardModel" "leftCores" "[I") ∈ lw_all := lw_g (lw_at lw_m6 231 rfl) rfl
theorem q1465 : (Jvm.Cond.soleField "CrateYardModel" "leftCores") ∈ lw_all := lw_g (lw_at lw_m6 232 rfl) rfl
theorem q1466 : (Jvm.Cond.laysFinal "CrateYardModel" "CrateYardModel" "leftMemory" "[I") ∈ lw_all := lw_g (lw_at lw_m6 233 rfl) rfl
theorem q1467 : (Jvm.Cond.soleField "CrateYardModel" "leftMemory") ∈ lw_all := lw_g (lw_at lw_m6 234 rfl) rfl
theorem q1468 : (Jvm.Cond.superclass "CrateYardModel" "java/lang/Object") ∈ lw_all := lw_g (lw_at lw_m6 235 rfl) rfl
theorem q1472 : (Jvm.Cond.instanceMethod ({ cls := "CrateYardModel", name := "thrown", desc := "()I" } : Jvm.MethodName)) ∈ lw_all := lw_g (lw_at lw_m6 239 rfl) rfl
theorem q1473 : (Jvm.Cond.selects "CrateYardModel" ({ cls := "CrateYardModel", name := "thrown", desc := "()I" } : Jvm.MethodName) ({ cls := "CrateYardModel", name := "thrown", desc := "()I" } : Jvm.MethodName)) ∈ lw_all := lw_g (lw_at lw_m7 0 rfl) rfl
theorem q1474 : (Jvm.Cond.code ({ cls := "CrateYardModel", name := "thrown", desc := "()I" } : Jvm.MethodName) prog_12_method_2_code (1 : Nat) (Option.some Jvm.ClassFile.FieldType.int)) ∈ lw_all := lw_g (lw_at lw_m7 1 rfl) rfl
theorem q1476 : (Jvm.Cond.instanceMethod ({ cls := "CrateYardModel", name := "addLayer", desc := "()I" } : Jvm.MethodName)) ∈ lw_all := lw_g (lw_at lw_m7 3 rfl) rfl
theorem q1477 : (Jvm.Cond.selects "CrateYardModel" ({ cls := "CrateYardModel", name := "addLayer", desc := "()I" } : Jvm.MethodName) ({ cls := "CrateYardModel", name := "addLayer", desc := "()I" } : Jvm.MethodName)) ∈ lw_all := lw_g (lw_at lw_m7 4 rfl) rfl
theorem q1478 : (Jvm.Cond.code ({ cls := "CrateYardModel", name := "addLayer", desc := "()I" } : Jvm.MethodName) prog_12_method_14_code (1 : Nat) (Option.some Jvm.ClassFile.FieldType.int)) ∈ lw_all := lw_g (lw_at lw_m7 5 rfl) rfl
theorem q1479 : (Jvm.Cond.methodLink "CrateYardModel" (109 : Nat) ({ cls := "CrateYardModel", name := "fails", desc := "(ZI)Z" } : Jvm.MethodName)) ∈ lw_all := lw_g (lw_at lw_m7 6 rfl) rfl
theorem q1480 : (Jvm.Cond.privateMethod ({ cls := "CrateYardModel", name := "fails", desc := "(ZI)Z" } : Jvm.MethodName)) ∈ lw_tbl := lw_at lw_m7 7 rfl
theorem q1481 : (Jvm.Cond.instanceMethod ({ cls := "CrateYardModel", name := "fails", desc := "(ZI)Z" } : Jvm.MethodName)) ∈ lw_all := lw_g (lw_at lw_m7 8 rfl) rfl
theorem q1482 : (Jvm.Cond.code ({ cls := "CrateYardModel", name := "fails", desc := "(ZI)Z" } : Jvm.MethodName) prog_12_method_4_code (3 : Nat) (Option.some Jvm.ClassFile.FieldType.boolean)) ∈ lw_all := lw_g (lw_at lw_m7 9 rfl) rfl
theorem q1484 : (Jvm.Cond.instanceMethod ({ cls := "CrateYardModel", name := "addImage", desc := "(II)I" } : Jvm.MethodName)) ∈ lw_all := lw_g (lw_at lw_m7 11 rfl) rfl
theorem q1485 : (Jvm.Cond.selects "CrateYardModel" ({ cls := "CrateYardModel", name := "addImage", desc := "(II)I" } : Jvm.MethodName) ({ cls := "CrateYardModel", name := "addImage", desc := "(II)I" } : Jvm.MethodName)) ∈ lw_all := lw_g (lw_at lw_m7 12 rfl) rfl
theorem q1486 : (Jvm.Cond.code ({ cls := "CrateYardModel", name := "addImage", desc := "(II)I" } : Jvm.MethodName) prog_12_method_15_code (3 : Nat) (Option.some Jvm.ClassFile.FieldType.int)) ∈ lw_all := lw_g (lw_at lw_m7 13 rfl) rfl
theorem q1487 : (Jvm.Cond.methodLink "CrateYardModel" (113 : Nat) ({ cls := "CrateYardModel", name := "noImage", desc := "(I)Z" } : Jvm.MethodName)) ∈ lw_all := lw_g (lw_at lw_m7 14 rfl) rfl
theorem q1488 : (Jvm.Cond.privateMethod ({ cls := "CrateYardModel", name := "noImage", desc := "(I)Z" } : Jvm.MethodName)) ∈ lw_tbl := lw_at lw_m7 15 rfl
theorem q1489 : (Jvm.Cond.instanceMethod ({ cls := "CrateYardModel", name := "noImage", desc := "(I)Z" } : Jvm.MethodName)) ∈ lw_all := lw_g (lw_at lw_m7 16 rfl) rfl
theorem q1490 : (Jvm.Cond.code ({ cls := "CrateYardModel", name := "noImage", desc := "(I)Z" } : Jvm.MethodName) prog_12_method_6_code (2 : Nat) (Option.some Jvm.ClassFile.FieldType.boolean)) ∈ lw_all := lw_g (lw_at lw_m7 17 rfl) rfl
theorem q1491 : (Jvm.Cond.methodLink "CrateYardModel" (85 : Nat) ({ cls := "CrateYardModel", name := "in", desc := "(III)Z" } : Jvm.MethodName)) ∈ lw_all := lw_g (lw_at lw_m7 18 rfl) rfl
theorem q1492 : (Jvm.Cond.static ({ cls := "CrateYardModel", name := "in", desc := "(III)Z" } : Jvm.MethodName)) ∈ lw_all := lw_g (lw_at lw_m7 19 rfl) rfl
theorem q1493 : (Jvm.Cond.code ({ cls := "CrateYardModel", name := "in", desc := "(III)Z" } : Jvm.MethodName) prog_12_method_3_code (3 : Nat) (Option.some Jvm.ClassFile.FieldType.boolean)) ∈ lw_all := lw_g (lw_at lw_m7 20 rfl) rfl
theorem q1494 : (Jvm.Cond.methodLink "CrateYardModel" (116 : Nat) ({ cls := "CrateYardModel", name := "noLayer", desc := "(I)Z" } : Jvm.MethodName)) ∈ lw_all := lw_g (lw_at lw_m7 21 rfl) rfl
theorem q1495 : (Jvm.Cond.privateMethod ({ cls := "CrateYardModel", name := "noLayer", desc := "(I)Z" } : Jvm.MethodName)) ∈ lw_tbl := lw_at lw_m7 22 rfl
theorem q1496 : (Jvm.Cond.instanceMethod ({ cls := "CrateYardModel", name := "noLayer", desc := "(I)Z" } : Jvm.MethodName)) ∈ lw_all := lw_g (lw_at lw_m7 23 rfl) rfl
theorem q1497 : (Jvm.Cond.code ({ cls := "CrateYardModel", name := "noLayer", desc := "(I)Z" } : Jvm.MethodName) prog_12_method_5_code (2 : Nat) (Option.some Jvm.ClassFile.FieldType.boolean)) ∈ lw_all := lw_g (lw_at lw_m7 24 rfl) rfl
theorem q1498 : (Jvm.Cond.methodLink "CrateYardModel" (105 : Nat) ({ cls := "CrateYardModel", name := "set", desc := "(I)I" } : Jvm.MethodName)) ∈ lw_all := lw_g (lw_at lw_m7 25 rfl) rfl
theorem q1499 : (Jvm.Cond.privateMethod ({ cls := "CrateYardModel", name := "set", desc := "(I)I" } : Jvm.MethodName)) ∈ lw_tbl := lw_at lw_m7 26 rfl
theorem q1500 : (Jvm.Cond.instanceMethod ({ cls := "CrateYardModel", name := "set", desc := "(I)I" } : Jvm.MethodName)) ∈ lw_all := lw_g (lw_at lw_m7 27 rfl) rfl
theorem q1501 : (Jvm.Cond.code ({ cls := "CrateYardModel", name := "set", desc := "(I)I" } : Jvm.MethodName) prog_12_method_9_code (4 : Nat) (Option.some Jvm.ClassFile.FieldType.int)) ∈ lw_all := lw_g (lw_at lw_m7 28 rfl) rfl
theorem q1503 : (Jvm.Cond.instanceMethod ({ cls := "CrateYardModel", name := "patch", desc := "(II)I" } : Jvm.MethodName)) ∈ lw_all := lw_g (lw_at lw_m7 30 rfl) rfl
theorem q1504 : (Jvm.Cond.selects "CrateYardModel" ({ cls := "CrateYardModel", name := "patch", desc := "(II)I" } : Jvm.MethodName) ({ cls := "CrateYardModel", name := "patch", desc := "(II)I" } : Jvm.MethodName)) ∈ lw_all := lw_g (lw_at lw_m7 31 rfl) rfl
theorem q1505 : (Jvm.Cond.code ({ cls := "CrateYardModel", name := "patch", desc := "(II)I" } : Jvm.MethodName) prog_12_method_17_code (5 : Nat) (Option.some Jvm.ClassFile.FieldType.int)) ∈ lw_all := lw_g (lw_at lw_m7 32 rfl) rfl
theorem q1506 : (Jvm.Cond.methodLink "CrateYardModel" (119 : Nat) ({ cls := "CrateYardModel", name := "twice", desc := "(II)Z" } : Jvm.MethodName)) ∈ lw_all := lw_g (lw_at lw_m7 33 rfl) rfl
theorem q1507 : (Jvm.Cond.privateMethod ({ cls := "CrateYardModel", name := "twice", desc := "(II)Z" } : Jvm.MethodName)) ∈ lw_tbl := lw_at lw_m7 34 rfl
theorem q1508 : (Jvm.Cond.instanceMethod ({ cls := "CrateYardModel", name := "twice", desc := "(II)Z" } : Jvm.MethodName)) ∈ lw_all := lw_g (lw_at lw_m7 35 rfl) rfl
theorem q1509 : (Jvm.Cond.code ({ cls := "CrateYardModel", name := "twice", desc := "(II)Z" } : Jvm.MethodName) prog_12_method_16_code (8 : Nat) (Option.some Jvm.ClassFile.FieldType.boolean)) ∈ lw_all := lw_g (lw_at lw_m7 36 rfl) rfl
theorem q1510 : (Jvm.Cond.methodLink "CrateYardModel" (123 : Nat) ({ cls := "CrateYardModel", name := "isStaleNow", desc := "(I)Z" } : Jvm.MethodName)) ∈ lw_all := lw_g (lw_at lw_m7 37 rfl) rfl
theorem q1511 : (Jvm.Cond.privateMethod ({ cls := "CrateYardModel", name := "isStaleNow", desc := "(I)Z" } : Jvm.MethodName)) ∈ lw_tbl := lw_at lw_m7 38 rfl
theorem q1512 : (Jvm.Cond.instanceMethod ({ cls := "CrateYardModel", name := "isStaleNow", desc := "(I)Z" } : Jvm.MethodName)) ∈ lw_all := lw_g (lw_at lw_m7 39 rfl) rfl
theorem q1513 : (Jvm.Cond.code ({ cls := "CrateYardModel", name := "isStaleNow", desc := "(I)Z" } : Jvm.MethodName) prog_12_method_13_code (2 : Nat) (Option.some Jvm.ClassFile.FieldType.boolean)) ∈ lw_all := lw_g (lw_at lw_m7 40 rfl) rfl
theorem q1515 : (Jvm.Cond.instanceMethod ({ cls := "CrateYardModel", name := "withdraw", desc := "(II)I" } : Jvm.MethodName)) ∈ lw_all := lw_g (lw_at lw_m7 42 rfl) rfl
theorem q1516 : (Jvm.Cond.selects "CrateYardModel" ({ cls := "CrateYardModel", name := "withdraw", desc := "(II)I" } : Jvm.MethodName) ({ cls := "CrateYardModel", name := "withdraw", desc := "(II)I" } : Jvm.MethodName)) ∈ lw_all := lw_g (lw_at lw_m7 43 rfl) rfl
theorem q1517 : (Jvm.Cond.code ({ cls := "CrateYardModel", name := "withdraw", desc := "(II)I" } : Jvm.MethodName) prog_12_method_18_code (5 : Nat) (Option.some Jvm.ClassFile.FieldType.int)) ∈ lw_all := lw_g (lw_at lw_m7 44 rfl) rfl
theorem q1519 : (Jvm.Cond.instanceMethod ({ cls := "CrateYardModel", name := "addHost", desc := "(LNeed;)I" } : Jvm.MethodName)) ∈ lw_all := lw_g (lw_at lw_m7 46 rfl) rfl
theorem q1520 : (Jvm.Cond.selects "CrateYardModel" ({ cls := "CrateYardModel", name := "addHost", desc := "(LNeed;)I" } : Jvm.MethodName) ({ cls := "CrateYardModel", name := "addHost", desc := "(LNeed;)I" } : Jvm.MethodName)) ∈ lw_all := lw_g (lw_at lw_m7 47 rfl) rfl
theorem q1521 : (Jvm.Cond.code ({ cls := "CrateYardModel", name := "addHost", desc := "(LNeed;)I" } : Jvm.MethodName) prog_12_method_19_code (2 : Nat) (Option.some Jvm.ClassFile.FieldType.int)) ∈ lw_all := lw_g (lw_at lw_m7 48 rfl) rfl
theorem q1522 : (Jvm.Cond.methodLink "CrateYardModel" (126 : Nat) ({ cls := "Need", name := "cores", desc := "()I" } : Jvm.MethodName)) ∈ lw_all := lw_g (lw_at lw_m7 49 rfl) rfl
theorem q1523 : (Jvm.Cond.methodLink "CrateYardModel" (131 : Nat) ({ cls := "Need", name := "memory", desc := "()I" } : Jvm.MethodName)) ∈ lw_all := lw_g (lw_at lw_m7 50 rfl) rfl
theorem q1525 : (Jvm.Cond.instanceMethod ({ cls := "CrateYardModel", name := "addWindow", desc := "(LWindow;)I" } : Jvm.MethodName)) ∈ lw_all := lw_g (lw_at lw_m7 52 rfl) rfl
theorem q1526 : (Jvm.Cond.selects "CrateYardModel" ({ cls := "CrateYardModel", name := "addWindow", desc := "(LWindow;)I" } : Jvm.MethodName) ({ cls := "CrateYardModel", name := "addWindow", desc := "(LWindow;)I" } : Jvm.MethodName)) ∈ lw_all := lw_g (lw_at lw_m7 53 rfl) rfl
theorem q1527 : (Jvm.Cond.code ({ cls := "CrateYardModel", name := "addWindow", desc := "(LWindow;)I" } : Jvm.MethodName) prog_12_method_20_code (2 : Nat) (Option.some Jvm.ClassFile.FieldType.int)) ∈ lw_all := lw_g (lw_at lw_m7 54 rfl) rfl
theorem q1528 : (Jvm.Cond.methodLink "CrateYardModel" (133 : Nat) ({ cls := "Window", name := "first", desc := "()I" } : Jvm.MethodName)) ∈ lw_all := lw_g (lw_at lw_m7 55 rfl) rfl
theorem q1529 : (Jvm.Cond.methodLink "CrateYardModel" (137 : Nat) ({ cls := "Window", name := "length", desc := "()I" } : Jvm.MethodName)) ∈ lw_all := lw_g (lw_at lw_m7 56 rfl) rfl
theorem q1530 : (Jvm.Cond.methodLink "CrateYardModel" (139 : Nat) ({ cls := "Window", name := "tenant", desc := "()I" } : Jvm.MethodName)) ∈ lw_all := lw_g (lw_at lw_m7 57 rfl) rfl
theorem q1532 : (Jvm.Cond.instanceMethod ({ cls := "CrateYardModel", name := "lend", desc := "(II)I" } : Jvm.MethodName)) ∈ lw_all := lw_g (lw_at lw_m7 59 rfl) rfl
theorem q1533 : (Jvm.Cond.selects "CrateYardModel" ({ cls := "CrateYardModel", name := "lend", desc := "(II)I" } : Jvm.MethodName) ({ cls := "CrateYardModel", name := "lend", desc := "(II)I" } : Jvm.MethodName)) ∈ lw_all := lw_g (lw_at lw_m7 60 rfl) rfl
theorem q1534 : (Jvm.Cond.code ({ cls := "CrateYardModel", name := "lend", desc := "(II)I" } : Jvm.MethodName) prog_12_method_21_code (4 : Nat) (Option.some Jvm.ClassFile.FieldType.int)) ∈ lw_all := lw_g (lw_at lw_m7 61 rfl) rfl
theorem q1536 : (Jvm.Cond.instanceMethod ({ cls := "CrateYardModel", name := "setLicence", desc := "(I)I" } : Jvm.MethodName)) ∈ lw_all := lw_g (lw_at lw_m7 63 rfl) rfl
theorem q1537 : (Jvm.Cond.selects "CrateYardModel" ({ cls := "CrateYardModel", name := "setLicence", desc := "(I)I" } : Jvm.MethodName) ({ cls := "CrateYardModel", name := "setLicence", desc := "(I)I" } : Jvm.MethodName)) ∈ lw_all := lw_g (lw_at lw_m7 64 rfl) rfl
theorem q1538 : (Jvm.Cond.code ({ cls := "CrateYardModel", name := "setLicence", desc := "(I)I" } : Jvm.MethodName) prog_12_method_25_code (4 : Nat) (Option.some Jvm.ClassFile.FieldType.int)) ∈ lw_all := lw_g (lw_at lw_m7 65 rfl) rfl
theorem q1539 : (Jvm.Cond.methodLink "CrateYardModel" (144 : Nat) ({ cls := "CrateYardModel", name := "coresIn", desc := "(I)I" } : Jvm.MethodName)) ∈ lw_all := lw_g (lw_at lw_m7 66 rfl) rfl
theorem q1540 : (Jvm.Cond.privateMethod ({ cls := "CrateYardModel", name := "coresIn", desc := "(I)I" } : Jvm.MethodName)) ∈ lw_tbl := lw_at lw_m7 67 rfl
theorem q1541 : (Jvm.Cond.instanceMethod ({ cls := "CrateYardModel", name := "coresIn", desc := "(I)I" } : Jvm.MethodName)) ∈ lw_all := lw_g (lw_at lw_m7 68 rfl) rfl
theorem q1542 : (Jvm.Cond.code ({ cls := "CrateYardModel", name := "coresIn", desc := "(I)I" } : Jvm.MethodName) prog_12_method_23_code (4 : Nat) (Option.some Jvm.ClassFile.FieldType.int)) ∈ lw_all := lw_g (lw_at lw_m7 69 rfl) rfl
theorem q1544 : (Jvm.Cond.instanceMethod ({ cls := "CrateYardModel", name := "addContainer", desc := "(IILNeed;)I" } : Jvm.MethodName)) ∈ lw_all := lw_g (lw_at lw_m7 71 rfl) rfl
theorem q1545 : (Jvm.Cond.selects "CrateYardModel" ({ cls := "CrateYardModel", name := "addContainer", desc := "(IILNeed;)I" } : Jvm.MethodName) ({ cls := "CrateYardModel", name := "addContainer", desc := "(IILNeed;)I" } : Jvm.MethodName)) ∈ lw_all := lw_g (lw_at lw_m7 72 rfl) rfl
theorem q1546 : (Jvm.Cond.code ({ cls := "CrateYardModel", name := "addContainer", desc := "(IILNeed;)I" } : Jvm.MethodName) prog_12_method_26_code (4 : Nat) (Option.some Jvm.ClassFile.FieldType.int)) ∈ lw_all := lw_g (lw_at lw_m7 73 rfl) rfl
theorem q1548 : (Jvm.Cond.instanceMethod ({ cls := "CrateYardModel", name := "stop", desc := "(I)LState;" } : Jvm.MethodName)) ∈ lw_all := lw_g (lw_at lw_m7 75 rfl) rfl
theorem q1549 : (Jvm.Cond.selects "CrateYardModel" ({ cls := "CrateYardModel", name := "stop", desc := "(I)LState;" } : Jvm.MethodName) ({ cls := "CrateYardModel", name := "stop", desc := "(I)LState;" } : Jvm.MethodName)) ∈ lw_all := lw_g (lw_at lw_m7 76 rfl) rfl
theorem q1550 : (Jvm.Cond.code ({ cls := "CrateYardModel", name := "stop", desc := "(I)LState;" } : Jvm.MethodName) prog_12_method_28_code (3 : Nat) (Option.some (Jvm.ClassFile.FieldType.object "State"))) ∈ lw_all := lw_g (lw_at lw_m7 77 rfl) rfl
theorem q1551 : (Jvm.Cond.methodLink "CrateYardModel" (162 : Nat) ({ cls := "CrateYardModel", name := "noContainer", desc := "(I)Z" } : Jvm.MethodName)) ∈ lw_all := lw_g (lw_at lw_m7 78 rfl) rfl
theorem q1552 : (Jvm.Cond.privateMethod ({ cls := "CrateYardModel", name := "noContainer", desc := "(I)Z" } : Jvm.MethodName)) ∈ lw_tbl := lw_at lw_m7 79 rfl
theorem q1553 : (Jvm.Cond.instanceMethod ({ cls := "CrateYardModel", name := "noContainer", desc := "(I)Z" } : Jvm.MethodName)) ∈ lw_all := lw_g (lw_at lw_m7 80 rfl) rfl
theorem q1554 : (Jvm.Cond.code ({ cls := "CrateYardModel", name := "noContainer", desc := "(I)Z" } : Jvm.MethodName) prog_12_method_8_code (2 : Nat) (Option.some Jvm.ClassFile.FieldType.boolean)) ∈ lw_all := lw_g (lw_at lw_m7 81 rfl) rfl
theorem q1555 : (Jvm.Cond.fieldLink "CrateYardModel" (147 : Nat) "State" "WAITING" "LState;") ∈ lw_all := lw_g (lw_at lw_m7 82 rfl) rfl
theorem q1556 : (Jvm.Cond.methodLink "CrateYardModel" (165 : Nat) ({ cls := "CrateYardModel", name := "told", desc := "(C)LState;" } : Jvm.MethodName)) ∈ lw_all := lw_g (lw_at lw_m7 83 rfl) rfl
theorem q1557 : (Jvm.Cond.static ({ cls := "CrateYardModel", name := "told", desc := "(C)LState;" } : Jvm.MethodName)) ∈ lw_all := lw_g (lw_at lw_m7 84 rfl) rfl
theorem q1558 : (Jvm.Cond.code ({ cls := "CrateYardModel", name := "told", desc := "(C)LState;" } : Jvm.MethodName) prog_12_method_27_code (1 : Nat) (Option.some (Jvm.ClassFile.FieldType.object "State"))) ∈ lw_all := lw_g (lw_at lw_m7 85 rfl) rfl
theorem q1559 : (Jvm.Cond.fieldLink "CrateYardModel" (153 : Nat) "State" "RUNNING" "LState;") ∈ lw_all := lw_g (lw_at lw_m7 86 rfl) rfl
theorem q1560 : (Jvm.Cond.fieldLink "CrateYardModel" (156 : Nat) "State" "RESTING" "LState;") ∈ lw_all := lw_g (lw_at lw_m7 87 rfl) rfl
theorem q1561 : (Jvm.Cond.fieldLink "CrateYardModel" (159 : Nat) "State" "STOPPED" "LState;") ∈ lw_all := lw_g (lw_at lw_m7 88 rfl) rfl
theorem q1563 : (Jvm.Cond.instanceMethod ({ cls := "CrateYardModel", name := "fail", desc := "(I)I" } : Jvm.MethodName)) ∈ lw_all := lw_g (lw_at lw_m7 90 rfl) rfl
theorem q1564 : (Jvm.Cond.selects "CrateYardModel" ({ cls := "CrateYardModel", name := "fail", desc := "(I)I" } : Jvm.MethodName) ({ cls := "CrateYardModel", name := "fail", desc := "(I)I" } : Jvm.MethodName)) ∈ lw_all := lw_g (lw_at lw_m7 91 rfl) rfl
theorem q1565 : (Jvm.Cond.code ({ cls := "CrateYardModel", name := "fail", desc := "(I)I" } : Jvm.MethodName) prog_12_method_30_code (3 : Nat) (Option.some Jvm.ClassFile.FieldType.int)) ∈ lw_all := lw_g (lw_at lw_m7 92 rfl) rfl
theorem q1567 : (Jvm.Cond.instanceMethod ({ cls := "CrateYardModel", name := "pass", desc := "(I)I" } : Jvm.MethodName)) ∈ lw_all := lw_g (lw_at lw_m7 94 rfl) rfl
theorem q1568 : (Jvm.Cond.selects "CrateYardModel" ({ cls := "CrateYardModel", name := "pass", desc := "(I)I" } : Jvm.MethodName) ({ cls := "CrateYardModel", name := "pass", desc := "(I)I" } : Jvm.MethodName)) ∈ lw_all := lw_g (lw_at lw_m7 95 rfl) rfl
theorem q1569 : (Jvm.Cond.code ({ cls := "CrateYardModel", name := "pass", desc := "(I)I" } : Jvm.MethodName) prog_12_method_35_code (7 : Nat) (Option.some Jvm.ClassFile.FieldType.int)) ∈ lw_all := lw_g (lw_at lw_m7 96 rfl) rfl
theorem q1570 : (Jvm.Cond.methodLink "CrateYardModel" (201 : Nat) ({ cls := "CrateYardModel", name := "forgives", desc := "()V" } : Jvm.MethodName)) ∈ lw_all := lw_g (lw_at lw_m7 97 rfl) rfl
theorem q1571 : (Jvm.Cond.privateMethod ({ cls := "CrateYardModel", name := "forgives", desc := "()V" } : Jvm.MethodName)) ∈ lw_tbl := lw_at lw_m7 98 rfl
theorem q1572 : (Jvm.Cond.instanceMethod ({ cls := "CrateYardModel", name := "forgives", desc := "()V" } : Jvm.MethodName)) ∈ lw_all := lw_g (lw_at lw_m7 99 rfl) rfl
theorem q1573 : (Jvm.Cond.code ({ cls := "CrateYardModel", name := "forgives", desc := "()V" } : Jvm.MethodName) prog_12_method_29_code (2 : Nat) (Option.none : Option Jvm.ClassFile.FieldType)) ∈ lw_all := lw_g (lw_at lw_m7 100 rfl) rfl
theorem q1574 : (Jvm.Cond.methodLink "CrateYardModel" (204 : Nat) ({ cls := "CrateYardModel", name := "outNow", desc := "()I" } : Jvm.MethodName)) ∈ lw_all := lw_g (lw_at lw_m7 101 rfl) rfl
theorem q1575 : (Jvm.Cond.privateMethod ({ cls := "CrateYardModel", name := "outNow", desc := "()I" } : Jvm.MethodName)) ∈ lw_tbl := lw_at lw_m7 102 rfl
theorem q1576 : (Jvm.Cond.instanceMethod ({ cls := "CrateYardModel", name := "outNow", desc := "()I" } : Jvm.MethodName)) ∈ lw_all := lw_g (lw_at lw_m7 103 rfl) rfl
theorem q1577 : (Jvm.Cond.code ({ cls := "CrateYardModel", name := "outNow", desc := "()I" } : Jvm.MethodName) prog_12_method_11_code (3 : Nat) (Option.some Jvm.ClassFile.FieldType.int)) ∈ lw_all := lw_g (lw_at lw_m7 104 rfl) rfl
theorem q1578 : (Jvm.Cond.methodLink "CrateYardModel" (101 : Nat) ({ cls := "CrateYardModel", name := "isOutNow", desc := "(I)Z" } : Jvm.MethodName)) ∈ lw_all := lw_g (lw_at lw_m7 105 rfl) rfl
theorem q1579 : (Jvm.Cond.privateMethod ({ cls := "CrateYardModel", name := "isOutNow", desc := "(I)Z" } : Jvm.MethodName)) ∈ lw_tbl := lw_at lw_m7 106 rfl
theorem q1580 : (Jvm.Cond.instanceMethod ({ cls := "CrateYardModel", name := "isOutNow", desc := "(I)Z" } : Jvm.MethodName)) ∈ lw_all := lw_g (lw_at lw_m7 107 rfl) rfl
theorem q1581 : (Jvm.Cond.code ({ cls := "CrateYardModel", name := "isOutNow", desc := "(I)Z" } : Jvm.MethodName) prog_12_method_10_code (2 : Nat) (Option.some Jvm.ClassFile.FieldType.boolean)) ∈ lw_all := lw_g (lw_at lw_m7 108 rfl) rfl
theorem q1582 : (Jvm.Cond.methodLink "CrateYardModel" (207 : Nat) ({ cls := "CrateYardModel", name := "isOpenAt", desc := "(II)Z" } : Jvm.MethodName)) ∈ lw_all := lw_g (lw_at lw_m7 109 rfl) rfl
theorem q1583 : (Jvm.Cond.privateMethod ({ cls := "CrateYardModel", name := "isOpenAt", desc := "(II)Z" } : Jvm.MethodName)) ∈ lw_tbl := lw_at lw_m7 110 rfl
theorem q1584 : (Jvm.Cond.instanceMethod ({ cls := "CrateYardModel", name := "isOpenAt", desc := "(II)Z" } : Jvm.MethodName)) ∈ lw_all := lw_g (lw_at lw_m7 111 rfl) rfl
theorem q1585 : (Jvm.Cond.code ({ cls := "CrateYardModel", name := "isOpenAt", desc := "(II)Z" } : Jvm.MethodName) prog_12_method_22_code (5 : Nat) (Option.some Jvm.ClassFile.FieldType.boolean)) ∈ lw_all := lw_g (lw_at lw_m7 112 rfl) rfl
theorem q1586 : (Jvm.Cond.methodLink "CrateYardModel" (210 : Nat) ({ cls := "CrateYardModel", name := "startsNow", desc := "()I" } : Jvm.MethodName)) ∈ lw_all := lw_g (lw_at lw_m7 113 rfl) rfl
theorem q1587 : (Jvm.Cond.privateMethod ({ cls := "CrateYardModel", name := "startsNow", desc := "()I" } : Jvm.MethodName)) ∈ lw_tbl := lw_at lw_m7 114 rfl
theorem q1588 : (Jvm.Cond.instanceMethod ({ cls := "CrateYardModel", name := "startsNow", desc := "()I" } : Jvm.MethodName)) ∈ lw_all := lw_g (lw_at lw_m7 115 rfl) rfl
theorem q1589 : (Jvm.Cond.code ({ cls := "CrateYardModel", name := "startsNow", desc := "()I" } : Jvm.MethodName) prog_12_method_34_code (3 : Nat) (Option.some Jvm.ClassFile.FieldType.int)) ∈ lw_all := lw_g (lw_at lw_m7 116 rfl) rfl
theorem q1590 : (Jvm.Cond.methodLink "CrateYardModel" (193 : Nat) ({ cls := "CrateYardModel", name := "takeRoom", desc := "(Z)V" } : Jvm.MethodName)) ∈ lw_all := lw_g (lw_at lw_m7 117 rfl) rfl
theorem q1591 : (Jvm.Cond.privateMethod ({ cls := "CrateYardModel", name := "takeRoom", desc := "(Z)V" } : Jvm.MethodName)) ∈ lw_tbl := lw_at lw_m7 118 rfl
theorem q1592 : (Jvm.Cond.instanceMethod ({ cls := "CrateYardModel", name := "takeRoom", desc := "(Z)V" } : Jvm.MethodName)) ∈ lw_all := lw_g (lw_at lw_m7 119 rfl) rfl
theorem q1593 : (Jvm.Cond.code ({ cls := "CrateYardModel", name := "takeRoom", desc := "(Z)V" } : Jvm.MethodName) prog_12_method_31_code (3 : Nat) (Option.none : Option Jvm.ClassFile.FieldType)) ∈ lw_all := lw_g (lw_at lw_m7 120 rfl) rfl
theorem q1594 : (Jvm.Cond.methodLink "CrateYardModel" (169 : Nat) ({ cls := "CrateYardModel", name := "memoryIn", desc := "(I)I" } : Jvm.MethodName)) ∈ lw_all := lw_g (lw_at lw_m7 121 rfl) rfl
theorem q1595 : (Jvm.Cond.privateMethod ({ cls := "CrateYardModel", name := "memoryIn", desc := "(I)I" } : Jvm.MethodName)) ∈ lw_tbl := lw_at lw_m7 122 rfl
theorem q1596 : (Jvm.Cond.instanceMethod ({ cls := "CrateYardModel", name := "memoryIn", desc := "(I)I" } : Jvm.MethodName)) ∈ lw_all := lw_g (lw_at lw_m7 123 rfl) rfl
theorem q1597 : (Jvm.Cond.code ({ cls := "CrateYardModel", name := "memoryIn", desc := "(I)I" } : Jvm.MethodName) prog_12_method_24_code (4 : Nat) (Option.some Jvm.ClassFile.FieldType.int)) ∈ lw_all := lw_g (lw_at lw_m7 124 rfl) rfl
theorem q1598 : (Jvm.Cond.methodLink "CrateYardModel" (197 : Nat) ({ cls := "CrateYardModel", name := "barWith", desc := "(II)LBar;" } : Jvm.MethodName)) ∈ lw_all := lw_g (lw_at lw_m7 125 rfl) rfl
theorem q1599 : (Jvm.Cond.privateMethod ({ cls := "CrateYardModel", name := "barWith", desc := "(II)LBar;" } : Jvm.MethodName)) ∈ lw_tbl := lw_at lw_m7 126 rfl
theorem q1600 : (Jvm.Cond.instanceMethod ({ cls := "CrateYardModel", name := "barWith", desc := "(II)LBar;" } : Jvm.MethodName)) ∈ lw_all := lw_g (lw_at lw_m7 127 rfl) rfl
theorem q1601 : (Jvm.Cond.code ({ cls := "CrateYardModel", name := "barWith", desc := "(II)LBar;" } : Jvm.MethodName) prog_12_method_33_code (3 : Nat) (Option.some (Jvm.ClassFile.FieldType.object "Bar"))) ∈ lw_all := lw_g (lw_at lw_m7 128 rfl) rfl
theorem q1602 : (Jvm.Cond.methodLink "CrateYardModel" (172 : Nat) ({ cls := "CrateYardModel", name := "withdrawn", desc := "()I" } : Jvm.MethodName)) ∈ lw_all := lw_g (lw_at lw_m7 129 rfl) rfl
theorem q1603 : (Jvm.Cond.privateMethod ({ cls := "CrateYardModel", name := "withdrawn", desc := "()I" } : Jvm.MethodName)) ∈ lw_tbl := lw_at lw_m7 130 rfl
theorem q1604 : (Jvm.Cond.instanceMethod ({ cls := "CrateYardModel", name := "withdrawn", desc := "()I" } : Jvm.MethodName)) ∈ lw_all := lw_g (lw_at lw_m7 131 rfl) rfl
theorem q1605 : (Jvm.Cond.code ({ cls := "CrateYardModel", name := "withdrawn", desc := "()I" } : Jvm.MethodName) prog_12_method_12_code (3 : Nat) (Option.some Jvm.ClassFile.FieldType.int)) ∈ lw_all := lw_g (lw_at lw_m7 132 rfl) rfl
theorem q1606 : (Jvm.Cond.fieldLink "CrateYardModel" (175 : Nat) "Bar" "WITHDRAWN" "LBar;") ∈ lw_all := lw_g (lw_at lw_m7 133 rfl) rfl
theorem q1607 : (Jvm.Cond.fieldLink "CrateYardModel" (181 : Nat) "Bar" "LICENCE" "LBar;") ∈ lw_all := lw_g (lw_at lw_m7 134 rfl) rfl
theorem q1608 : (Jvm.Cond.methodLink "CrateYardModel" (184 : Nat) ({ cls := "CrateYardModel", name := "hostFor", desc := "(I)I" } : Jvm.MethodName)) ∈ lw_all := lw_g (lw_at lw_m7 135 rfl) rfl
theorem q1609 : (Jvm.Cond.privateMethod ({ cls := "CrateYardModel", name := "hostFor", desc := "(I)I" } : Jvm.MethodName)) ∈ lw_tbl := lw_at lw_m7 136 rfl
theorem q1610 : (Jvm.Cond.instanceMethod ({ cls := "CrateYardModel", name := "hostFor", desc := "(I)I" } : Jvm.MethodName)) ∈ lw_all := lw_g (lw_at lw_m7 137 rfl) rfl
theorem q1611 : (Jvm.Cond.code ({ cls := "CrateYardModel", name := "hostFor", desc := "(I)I" } : Jvm.MethodName) prog_12_method_32_code (5 : Nat) (Option.some Jvm.ClassFile.FieldType.int)) ∈ lw_all := lw_g (lw_at lw_m7 138 rfl) rfl
theorem q1612 : (Jvm.Cond.fieldLink "CrateYardModel" (187 : Nat) "Bar" "ROOM" "LBar;") ∈ lw_all := lw_g (lw_at lw_m7 139 rfl) rfl
theorem q1613 : (Jvm.Cond.fieldLink "CrateYardModel" (190 : Nat) "Bar" "NONE" "LBar;") ∈ lw_all := lw_g (lw_at lw_m7 140 rfl) rfl
theorem q1615 : (Jvm.Cond.instanceMethod ({ cls := "CrateYardModel", name := "now", desc := "()I" } : Jvm.MethodName)) ∈ lw_all := lw_g (lw_at lw_m7 142 rfl) rfl
theorem q1616 : (Jvm.Cond.selects "CrateYardModel" ({ cls := "CrateYardModel", name := "now", desc := "()I" } : Jvm.MethodName) ({ cls := "CrateYardModel", name := "now", desc := "()I" } : Jvm.MethodName)) ∈ lw_all := lw_g (lw_at lw_m7 143 rfl) rfl
theorem q1617 : (Jvm.Cond.code ({ cls := "CrateYardModel", name := "now", desc := "()I" } : Jvm.MethodName) prog_12_method_36_code (1 : Nat) (Option.some Jvm.ClassFile.FieldType.int)) ∈ lw_all := lw_g (lw_at lw_m7 144 rfl) rfl
theorem q1619 : (Jvm.Cond.instanceMethod ({ cls := "CrateYardModel", name := "layersOf", desc := "(I)I" } : Jvm.MethodName)) ∈ lw_all := lw_g (lw_at lw_m7 146 rfl) rfl
theorem q1620 : (Jvm.Cond.selects "CrateYardModel" ({ cls := "CrateYardModel", name := "layersOf", desc := "(I)I" } : Jvm.MethodName) ({ cls := "CrateYardModel", name := "layersOf", desc := "(I)I" } : Jvm.MethodName)) ∈ lw_all := lw_g (lw_at lw_m7 147 rfl) rfl
theorem q1621 : (Jvm.Cond.code ({ cls := "CrateYardModel", name := "layersOf", desc := "(I)I" } : Jvm.MethodName) prog_12_method_37_code (2 : Nat) (Option.some Jvm.ClassFile.FieldType.int)) ∈ lw_all := lw_g (lw_at lw_m7 148 rfl) rfl
theorem q1623 : (Jvm.Cond.instanceMethod ({ cls := "CrateYardModel", name := "uses", desc := "(I)I" } : Jvm.MethodName)) ∈ lw_all := lw_g (lw_at lw_m7 150 rfl) rfl
theorem q1624 : (Jvm.Cond.selects "CrateYardModel" ({ cls := "CrateYardModel", name := "uses", desc := "(I)I" } : Jvm.MethodName) ({ cls := "CrateYardModel", name := "uses", desc := "(I)I" } : Jvm.MethodName)) ∈ lw_all := lw_g (lw_at lw_m7 151 rfl) rfl
theorem q1625 : (Jvm.Cond.code ({ cls := "CrateYardModel", name := "uses", desc := "(I)I" } : Jvm.MethodName) prog_12_method_38_code (4 : Nat) (Option.some Jvm.ClassFile.FieldType.int)) ∈ lw_all := lw_g (lw_at lw_m7 152 rfl) rfl
theorem q1627 : (Jvm.Cond.instanceMethod ({ cls := "CrateYardModel", name := "isOut", desc := "(I)Z" } : Jvm.MethodName)) ∈ lw_all := lw_g (lw_at lw_m7 154 rfl) rfl
theorem q1628 : (Jvm.Cond.selects "CrateYardModel" ({ cls := "CrateYardModel", name := "isOut", desc := "(I)Z" } : Jvm.MethodName) ({ cls := "CrateYardModel", name := "isOut", desc := "(I)Z" } : Jvm.MethodName)) ∈ lw_all := lw_g (lw_at lw_m7 155 rfl) rfl
theorem q1629 : (Jvm.Cond.code ({ cls := "CrateYardModel", name := "isOut", desc := "(I)Z" } : Jvm.MethodName) prog_12_method_39_code (2 : Nat) (Option.some Jvm.ClassFile.FieldType.boolean)) ∈ lw_all := lw_g (lw_at lw_m7 156 rfl) rfl
theorem q1631 : (Jvm.Cond.instanceMethod ({ cls := "CrateYardModel", name := "stateOf", desc := "(I)LState;" } : Jvm.MethodName)) ∈ lw_all := lw_g (lw_at lw_m7 158 rfl) rfl
theorem q1632 : (Jvm.Cond.selects "CrateYardModel" ({ cls := "CrateYardModel", name := "stateOf", desc := "(I)LState;" } : Jvm.MethodName) ({ cls := "CrateYardModel", name := "stateOf", desc := "(I)LState;" } : Jvm.MethodName)) ∈ lw_all := lw_g (lw_at lw_m7 159 rfl) rfl
theorem q1633 : (Jvm.Cond.code ({ cls := "CrateYardModel", name := "stateOf", desc := "(I)LState;" } : Jvm.MethodName) prog_12_method_40_code (2 : Nat) (Option.some (Jvm.ClassFile.FieldType.object "State"))) ∈ lw_all := lw_g (lw_at lw_m7 160 rfl) rfl
theorem q1635 : (Jvm.Cond.instanceMethod ({ cls := "CrateYardModel", name := "hostOf", desc := "(I)I" } : Jvm.MethodName)) ∈ lw_all := lw_g (lw_at lw_m7 162 rfl) rfl
theorem q1636 : (Jvm.Cond.selects "CrateYardModel" ({ cls := "CrateYardModel", name := "hostOf", desc := "(I)I" } : Jvm.MethodName) ({ cls := "CrateYardModel", name := "hostOf", desc := "(I)I" } : Jvm.MethodName)) ∈ lw_all := lw_g (lw_at lw_m7 163 rfl) rfl
theorem q1637 : (Jvm.Cond.code ({ cls := "CrateYardModel", name := "hostOf", desc := "(I)I" } : Jvm.MethodName) prog_12_method_41_code (2 : Nat) (Option.some Jvm.ClassFile.FieldType.int)) ∈ lw_all := lw_g (lw_at lw_m7 164 rfl) rfl
theorem q1639 : (Jvm.Cond.instanceMethod ({ cls := "CrateYardModel", name := "barOf", desc := "(I)LBar;" } : Jvm.MethodName)) ∈ lw_all := lw_g (lw_at lw_m7 166 rfl) rfl
theorem q1640 : (Jvm.Cond.selects "CrateYardModel" ({ cls := "CrateYardModel", name := "barOf", desc := "(I)LBar;" } : Jvm.MethodName) ({ cls := "CrateYardModel", name := "barOf", desc := "(I)LBar;" } : Jvm.MethodName)) ∈ lw_all := lw_g (lw_at lw_m7 167 rfl) rfl
theorem q1641 : (Jvm.Cond.code ({ cls := "CrateYardModel", name := "barOf", desc := "(I)LBar;" } : Jvm.MethodName) prog_12_method_42_code (2 : Nat) (Option.some (Jvm.ClassFile.FieldType.object "Bar"))) ∈ lw_all := lw_g (lw_at lw_m7 168 rfl) rfl
theorem q1642 : (Jvm.Cond.fieldLink "CrateYardModel" (217 : Nat) "Bar" "REST" "LBar;") ∈ lw_all := lw_g (lw_at lw_m7 169 rfl) rfl
theorem q1644 : (Jvm.Cond.instanceMethod ({ cls := "CrateYardModel", name := "restsUntil", desc := "(I)I" } : Jvm.MethodName)) ∈ lw_all := lw_g (lw_at lw_m7 171 rfl) rfl
theorem q1645 : (Jvm.Cond.selects "CrateYardModel" ({ cls := "CrateYardModel", name := "restsUntil", desc := "(I)I" } : Jvm.MethodName) ({ cls := "CrateYardModel", name := "restsUntil", desc := "(I)I" } : Jvm.MethodName)) ∈ lw_all := lw_g (lw_at lw_m7 172 rfl) rfl
theorem q1646 : (Jvm.Cond.code ({ cls := "CrateYardModel", name := "restsUntil", desc := "(I)I" } : Jvm.MethodName) prog_12_method_43_code (2 : Nat) (Option.some Jvm.ClassFile.FieldType.int)) ∈ lw_all := lw_g (lw_at lw_m7 173 rfl) rfl
theorem q1648 : (Jvm.Cond.instanceMethod ({ cls := "CrateYardModel", name := "layersIn", desc := "(I)I" } : Jvm.MethodName)) ∈ lw_all := lw_g (lw_at lw_m7 175 rfl) rfl
theorem q1649 : (Jvm.Cond.selects "CrateYardModel" ({ cls := "CrateYardModel", name := "layersIn", desc := "(I)I" } : Jvm.MethodName) ({ cls := "CrateYardModel", name := "layersIn", desc := "(I)I" } : Jvm.MethodName)) ∈ lw_all := lw_g (lw_at lw_m7 176 rfl) rfl
theorem q1650 : (Jvm.Cond.code ({ cls := "CrateYardModel", name := "layersIn", desc := "(I)I" } : Jvm.MethodName) prog_12_method_44_code (2 : Nat) (Option.some Jvm.ClassFile.FieldType.int)) ∈ lw_all := lw_g (lw_at lw_m7 177 rfl) rfl
theorem q1652 : (Jvm.Cond.instanceMethod ({ cls := "CrateYardModel", name := "isStale", desc := "(I)Z" } : Jvm.MethodName)) ∈ lw_all := lw_g (lw_at lw_m7 179 rfl) rfl
theorem q1653 : (Jvm.Cond.selects "CrateYardModel" ({ cls := "CrateYardModel", name := "isStale", desc := "(I)Z" } : Jvm.MethodName) ({ cls := "CrateYardModel", name := "isStale", desc := "(I)Z" } : Jvm.MethodName)) ∈ lw_all := lw_g (lw_at lw_m7 180 rfl) rfl
theorem q1654 : (Jvm.Cond.code ({ cls := "CrateYardModel", name := "isStale", desc := "(I)Z" } : Jvm.MethodName) prog_12_method_45_code (2 : Nat) (Option.some Jvm.ClassFile.FieldType.boolean)) ∈ lw_all := lw_g (lw_at lw_m7 181 rfl) rfl
theorem q1656 : (Jvm.Cond.instanceMethod ({ cls := "CrateYardModel", name := "isOpen", desc := "(II)Z" } : Jvm.MethodName)) ∈ lw_all := lw_g (lw_at lw_m7 183 rfl) rfl
theorem q1657 : (Jvm.Cond.selects "CrateYardModel" ({ cls := "CrateYardModel", name := "isOpen", desc := "(II)Z" } : Jvm.MethodName) ({ cls := "CrateYardModel", name := "isOpen", desc := "(II)Z" } : Jvm.MethodName)) ∈ lw_all := lw_g (lw_at lw_m7 184 rfl) rfl
theorem q1658 : (Jvm.Cond.code ({ cls := "CrateYardModel", name := "isOpen", desc := "(II)Z" } : Jvm.MethodName) prog_12_method_46_code (3 : Nat) (Option.some Jvm.ClassFile.FieldType.boolean)) ∈ lw_all := lw_g (lw_at lw_m7 185 rfl) rfl
theorem q1660 : (Jvm.Cond.instanceMethod ({ cls := "CrateYardModel", name := "nextOpen", desc := "(I)I" } : Jvm.MethodName)) ∈ lw_all := lw_g (lw_at lw_m7 187 rfl) rfl
theorem q1661 : (Jvm.Cond.selects "CrateYardModel" ({ cls := "CrateYardModel", name := "nextOpen", desc := "(I)I" } : Jvm.MethodName) ({ cls := "CrateYardModel", name := "nextOpen", desc := "(I)I" } : Jvm.MethodName)) ∈ lw_all := lw_g (lw_at lw_m7 188 rfl) rfl
theorem q1662 : (Jvm.Cond.code ({ cls := "CrateYardModel", name := "nextOpen", desc := "(I)I" } : Jvm.MethodName) prog_12_method_47_code (3 : Nat) (Option.some Jvm.ClassFile.FieldType.int)) ∈ lw_all := lw_g (lw_at lw_m7 189 rfl) rfl
theorem q1664 : (Jvm.Cond.instanceMethod ({ cls := "CrateYardModel", name := "freeCores", desc := "(I)I" } : Jvm.MethodName)) ∈ lw_all := lw_g (lw_at lw_m7 191 rfl) rfl
theorem q1665 : (Jvm.Cond.selects "CrateYardModel" ({ cls := "CrateYardModel", name := "freeCores", desc := "(I)I" } : Jvm.MethodName) ({ cls := "CrateYardModel", name := "freeCores", desc := "(I)I" } : Jvm.MethodName)) ∈ lw_all := lw_g (lw_at lw_m7 192 rfl) rfl
theorem q1666 : (Jvm.Cond.code ({ cls := "CrateYardModel", name := "freeCores", desc := "(I)I" } : Jvm.MethodName) prog_12_method_48_code (2 : Nat) (Option.some Jvm.ClassFile.FieldType.int)) ∈ lw_all := lw_g (lw_at lw_m7 193 rfl) rfl
theorem q1667 : (Jvm.Cond.methodLink "CrateYardModel" (220 : Nat) ({ cls := "CrateYardModel", name := "noHost", desc := "(I)Z" } : Jvm.MethodName)) ∈ lw_all := lw_g (lw_at lw_m7 194 rfl) rfl
theorem q1668 : (Jvm.Cond.privateMethod ({ cls := "CrateYardModel", name := "noHost", desc := "(I)Z" } : Jvm.MethodName)) ∈ lw_tbl := lw_at lw_m7 195 rfl
theorem q1669 : (Jvm.Cond.instanceMethod ({ cls := "CrateYardModel", name := "noHost", desc := "(I)Z" } : Jvm.MethodName)) ∈ lw_all := lw_g (lw_at lw_m7 196 rfl) rfl
theorem q1670 : (Jvm.Cond.code ({ cls := "CrateYardModel", name := "noHost", desc := "(I)Z" } : Jvm.MethodName) prog_12_method_7_code (2 : Nat) (Option.some Jvm.ClassFile.FieldType.boolean)) ∈ lw_all := lw_g (lw_at lw_m7 197 rfl) rfl
theorem q1672 : (Jvm.Cond.instanceMethod ({ cls := "CrateYardModel", name := "freeByContainers", desc := "(I)I" } : Jvm.MethodName)) ∈ lw_all := lw_g (lw_at lw_m7 199 rfl) rfl
theorem q1673 : (Jvm.Cond.selects "CrateYardModel" ({ cls := "CrateYardModel", name := "freeByContainers", desc := "(I)I" } : Jvm.MethodName) ({ cls := "CrateYardModel", name := "freeByContainers", desc := "(I)I" } : Jvm.MethodName)) ∈ lw_all := lw_g (lw_at lw_m7 200 rfl) rfl
theorem q1674 : (Jvm.Cond.code ({ cls := "CrateYardModel", name := "freeByContainers", desc := "(I)I" } : Jvm.MethodName) prog_12_method_49_code (2 : Nat) (Option.some Jvm.ClassFile.FieldType.int)) ∈ lw_all := lw_g (lw_at lw_m7 201 rfl) rfl
theorem q1675 : (Jvm.Cond.methodLink "CrateYardModel" (223 : Nat) ({ cls := "CrateYardModel", name := "freeCores", desc := "(I)I" } : Jvm.MethodName)) ∈ lw_all := lw_g (lw_at lw_m7 202 rfl) rfl
theorem q1677 : (Jvm.Cond.instanceMethod ({ cls := "CrateYardModel", name := "freeMemory", desc := "(I)I" } : Jvm.MethodName)) ∈ lw_all := lw_g (lw_at lw_m7 204 rfl) rfl
theorem q1678 : (Jvm.Cond.selects "CrateYardModel" ({ cls := "CrateYardModel", name := "freeMemory", desc := "(I)I" } : Jvm.MethodName) ({ cls := "CrateYardModel", name := "freeMemory", desc := "(I)I" } : Jvm.MethodName)) ∈ lw_all := lw_g (lw_at lw_m7 205 rfl) rfl
theorem q1679 : (Jvm.Cond.code ({ cls := "CrateYardModel", name := "freeMemory", desc := "(I)I" } : Jvm.MethodName) prog_12_method_50_code (2 : Nat) (Option.some Jvm.ClassFile.FieldType.int)) ∈ lw_all := lw_g (lw_at lw_m7 206 rfl) rfl
theorem q1681 : (Jvm.Cond.instanceMethod ({ cls := "CrateYardModel", name := "licensed", desc := "()I" } : Jvm.MethodName)) ∈ lw_all := lw_g (lw_at lw_m7 208 rfl) rfl
theorem q1682 : (Jvm.Cond.selects "CrateYardModel" ({ cls := "CrateYardModel", name := "licensed", desc := "()I" } : Jvm.MethodName) ({ cls := "CrateYardModel", name := "licensed", desc := "()I" } : Jvm.MethodName)) ∈ lw_all := lw_g (lw_at lw_m7 209 rfl) rfl
theorem q1683 : (Jvm.Cond.code ({ cls := "CrateYardModel", name := "licensed", desc := "()I" } : Jvm.MethodName) prog_12_method_51_code (1 : Nat) (Option.some Jvm.ClassFile.FieldType.int)) ∈ lw_all := lw_g (lw_at lw_m7 210 rfl) rfl
theorem q1685 : (Jvm.Cond.instanceMethod ({ cls := "CrateYardModel", name := "laidAnew", desc := "()I" } : Jvm.MethodName)) ∈ lw_all := lw_g (lw_at lw_m7 212 rfl) rfl
theorem q1686 : (Jvm.Cond.selects "CrateYardModel" ({ cls := "CrateYardModel", name := "laidAnew", desc := "()I" } : Jvm.MethodName) ({ cls := "CrateYardModel", name := "laidAnew", desc := "()I" } : Jvm.MethodName)) ∈ lw_all := lw_g (lw_at lw_m7 213 rfl) rfl
theorem q1687 : (Jvm.Cond.code ({ cls := "CrateYardModel", name := "laidAnew", desc := "()I" } : Jvm.MethodName) prog_12_method_52_code (5 : Nat) (Option.some Jvm.ClassFile.FieldType.int)) ∈ lw_all := lw_g (lw_at lw_m7 214 rfl) rfl
theorem q1689 : (Jvm.Cond.instanceMethod ({ cls := "CrateYardModel", name := "line", desc := "(I)Ljava/lang/String;" } : Jvm.MethodName)) ∈ lw_all := lw_g (lw_at lw_m7 216 rfl) rfl
theorem q1690 : (Jvm.Cond.selects "CrateYardModel" ({ cls := "CrateYardModel", name := "line", desc := "(I)Ljava/lang/String;" } : Jvm.MethodName) ({ cls := "CrateYardModel", name := "line", desc := "(I)Ljava/lang/String;" } : Jvm.MethodName)) ∈ lw_all := lw_g (lw_at lw_m7 217 rfl) rfl
theorem q1691 : (Jvm.Cond.code ({ cls := "CrateYardModel", name := "line", desc := "(I)Ljava/lang/String;" } : Jvm.MethodName) prog_12_method_53_code (4 : Nat) (Option.some (Jvm.ClassFile.FieldType.object "java/lang/String"))) ∈ lw_all := lw_g (lw_at lw_m7 218 rfl) rfl
theorem q1692 : (Jvm.Cond.classLink "CrateYardModel" (226 : Nat) "java/lang/StringBuilder") ∈ lw_all := lw_g (lw_at lw_m7 219 rfl) rfl
theorem q1693 : (Jvm.Cond.methodLink "CrateYardModel" (228 : Nat) ({ cls := "java/lang/StringBuilder", name := "<init>", desc := "()V" } : Jvm.MethodName)) ∈ lw_all := lw_g (lw_at lw_m7 220 rfl) rfl
theorem q1694 : (Jvm.Cond.stringRef "CrateYardModel" (229 : Nat) "") ∈ lw_tbl := lw_at lw_m7 221 rfl
theorem q1695 : (Jvm.Cond.methodLink "CrateYardModel" (231 : Nat) ({ cls := "java/lang/StringBuilder", name := "append", desc := "(C)Ljava/lang/StringBuilder;" } : Jvm.MethodName)) ∈ lw_all := lw_g (lw_at lw_m7 222 rfl) rfl
theorem q1696 : (Jvm.Cond.methodLink "CrateYardModel" (235 : Nat) ({ cls := "java/lang/StringBuilder", name := "append", desc := "(I)Ljava/lang/StringBuilder;" } : Jvm.MethodName)) ∈ lw_all := lw_g (lw_at lw_m7 223 rfl) rfl
theorem q1697 : (Jvm.Cond.methodLink "CrateYardModel" (238 : Nat) ({ cls := "java/lang/StringBuilder", name := "toString", desc := "()Ljava/lang/String;" } : Jvm.MethodName)) ∈ lw_all := lw_g (lw_at lw_m7 224 rfl) rfl
theorem q1699 : (Jvm.Cond.instanceMethod ({ cls := "CrateYardModel", name := "starts", desc := "()J" } : Jvm.MethodName)) ∈ lw_all := lw_g (lw_at lw_m7 226 rfl) rfl
theorem q1700 : (Jvm.Cond.selects "CrateYardModel" ({ cls := "CrateYardModel", name := "starts", desc := "()J" } : Jvm.MethodName) ({ cls := "CrateYardModel", name := "starts", desc := "()J" } : Jvm.MethodName)) ∈ lw_all := lw_g (lw_at lw_m7 227 rfl) rfl
theorem q1701 : (Jvm.Cond.code ({ cls := "CrateYardModel", name := "starts", desc := "()J" } : Jvm.MethodName) prog_12_method_54_code (1 : Nat) (Option.some Jvm.ClassFile.FieldType.long)) ∈ lw_all := lw_g (lw_at lw_m7 228 rfl) rfl
theorem q1703 : (Jvm.Cond.instanceMethod ({ cls := "CrateYardModel", name := "runningShare", desc := "()F" } : Jvm.MethodName)) ∈ lw_all := lw_g (lw_at lw_m7 230 rfl) rfl
theorem q1704 : (Jvm.Cond.selects "CrateYardModel" ({ cls := "CrateYardModel", name := "runningShare", desc := "()F" } : Jvm.MethodName) ({ cls := "CrateYardModel", name := "runningShare", desc := "()F" } : Jvm.MethodName)) ∈ lw_all := lw_g (lw_at lw_m7 231 rfl) rfl
theorem q1705 : (Jvm.Cond.code ({ cls := "CrateYardModel", name := "runningShare", desc := "()F" } : Jvm.MethodName) prog_12_method_56_code (2 : Nat) (Option.some Jvm.ClassFile.FieldType.float)) ∈ lw_all := lw_g (lw_at lw_m7 232 rfl) rfl
theorem q1706 : (Jvm.Cond.methodLink "CrateYardModel" (242 : Nat) ({ cls := "CrateYardModel", name := "count", desc := "(C)I" } : Jvm.MethodName)) ∈ lw_all := lw_g (lw_at lw_m7 233 rfl) rfl
theorem q1707 : (Jvm.Cond.privateMethod ({ cls := "CrateYardModel", name := "count", desc := "(C)I" } : Jvm.MethodName)) ∈ lw_tbl := lw_at lw_m7 234 rfl
theorem q1708 : (Jvm.Cond.instanceMethod ({ cls := "CrateYardModel", name := "count", desc := "(C)I" } : Jvm.MethodName)) ∈ lw_all := lw_g (lw_at lw_m7 235 rfl) rfl
theorem q1709 : (Jvm.Cond.code ({ cls := "CrateYardModel", name := "count", desc := "(C)I" } : Jvm.MethodName) prog_12_method_55_code (4 : Nat) (Option.some Jvm.ClassFile.FieldType.int)) ∈ lw_all := lw_g (lw_at lw_m7 236 rfl) rfl
theorem q1711 : (Jvm.Cond.instanceMethod ({ cls := "CrateYardModel", name := "meanCores", desc := "()D" } : Jvm.MethodName)) ∈ lw_all := lw_g (lw_at lw_m7 238 rfl) rfl
theorem q1712 : (Jvm.Cond.selects "CrateYardModel" ({ cls := "CrateYardModel", name := "meanCores", desc := "()D" } : Jvm.MethodName) ({ cls := "CrateYardModel", name := "meanCores", desc := "()D" } : Jvm.MethodName)) ∈ lw_all := lw_g (lw_at lw_m7 239 rfl) rfl
theorem q1713 : (Jvm.Cond.code ({ cls := "CrateYardModel", name := "meanCores", desc := "()D" } : Jvm.MethodName) prog_12_method_57_code (1 : Nat) (Option.some Jvm.ClassFile.FieldType.double)) ∈ lw_all := lw_g (lw_at lw_m8 0 rfl) rfl
theorem q1767 : (Jvm.Cond.castable "CrateYardModel" "java/lang/Object") ∈ lw_tbl := lw_at lw_m8 54 rfl
theorem in_X3 : ∀ w ∈ wsX30, w ∈ lw_all := lw_in wsX30 [1408, 1410, 1412, 1414, 1416, 1418, 1420, 1422, 1424, 1426, 1428, 1430, 1432, 1434, 1436, 1438, 1440, 1442, 1444, 1446, 1448, 1450, 1452, 1454, 1456, 1458, 1460, 1462, 1464, 1466] (by decide +kernel) (by decide +kernel)
