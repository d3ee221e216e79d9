/-! CrateYard -/
set_option maxRecDepth 100000
def RX1 : String := "CrateYard"
def TX1 : u_T := fun k => match k with
  | 0 => ("CrateYard", "allLayers", "Ljava/util/List;", true)
  | 1 => ("CrateYard", "images", "Ljava/util/List;", true)
  | 2 => ("CrateYard", "windows", "Ljava/util/List;", true)
  | 3 => ("CrateYard", "containers", "Ljava/util/List;", true)
  | 4 => ("CrateYard", "park", "LCrateYard$Park;", true)
  | 5 => ("CrateYard", "hour", "I", false)
  | _ => ("CrateYard", "starts", "J", false)
def tyX1 : Nat → FieldType := fun k => match k with
  | 0 => .object "java/util/List"
  | 1 => .object "java/util/List"
  | 2 => .object "java/util/List"
  | 3 => .object "java/util/List"
  | 4 => .object "CrateYard$Park"
  | 5 => .int
  | _ => .long
abbrev wsX10 : List Cond := u_ws RX1 TX1 7
theorem nmX1 : ∀ a, a < 7 → ∀ b, b < 7 → a ≠ b → (TX1 a).2.1 ≠ (TX1 b).2.1 := by decide +kernel
theorem tyX1_ok : ∀ k, k < 7 → parseFieldDescriptor (TX1 k).2.2.1 = some (tyX1 k) := by decide +kernel
abbrev cX1_init : ByteArray := prog_2_method_8_code
def yX1_init : MethodName := ⟨RX1, "<init>", "()V"⟩
def dkwX1_init_2 : List UInt8 := [181, 0, 40, 42, 187, 0, 43, 89, 183, 0, 45, 181, 0, 46, 177]
abbrev dktX1_init_2 : List UInt8 := dkwX1_init_2 ++ []
def dkwX1_init_1 : List UInt8 := [181, 0, 34, 42, 187, 0, 25, 89, 183, 0, 27, 181, 0, 37, 42, 187, 0, 25, 89, 183, 0, 27]
abbrev dktX1_init_1 : List UInt8 := dkwX1_init_1 ++ dktX1_init_2
def dkwX1_init_0 : List UInt8 := [42, 183, 0, 22, 42, 187, 0, 25, 89, 183, 0, 27, 181, 0, 28, 42, 187, 0, 25, 89, 183, 0, 27]
abbrev dktX1_init_0 : List UInt8 := dkwX1_init_0 ++ dktX1_init_1
theorem dksX1_init_0 : cX1_init.data.toList.drop 0 = dktX1_init_0 := by decide +kernel
theorem dksX1_init_1 : cX1_init.data.toList.drop 23 = dktX1_init_1 := dk_seg dksX1_init_0 23 rfl rfl
theorem dksX1_init_2 : cX1_init.data.toList.drop 45 = dktX1_init_2 := dk_seg dksX1_init_1 22 rfl rfl
theorem dX1_init_0 : decode cX1_init 0 = .ok (.aload_n 0, 1) := dk_42 (dk_at dksX1_init_0 0 rfl rfl)
theorem dX1_init_1 : decode cX1_init 1 = .ok (.invokespecial 22, 3) := dk_183 0 22 (dk_at dksX1_init_0 1 rfl rfl)
theorem dX1_init_4 : decode cX1_init 4 = .ok (.aload_n 0, 1) := dk_42 (dk_at dksX1_init_0 4 rfl rfl)
theorem dX1_init_5 : decode cX1_init 5 = .ok (.new 25, 3) := dk_187 0 25 (dk_at dksX1_init_0 5 rfl rfl)
theorem dX1_init_8 : decode cX1_init 8 = .ok (.dup, 1) := dk_89 (dk_at dksX1_init_0 8 rfl rfl)
theorem dX1_init_9 : decode cX1_init 9 = .ok (.invokespecial 27, 3) := dk_183 0 27 (dk_at dksX1_init_0 9 rfl rfl)
theorem dX1_init_12 : decode cX1_init 12 = .ok (.putfield 28, 3) := dk_181 0 28 (dk_at dksX1_init_0 12 rfl rfl)
theorem dX1_init_15 : decode cX1_init 15 = .ok (.aload_n 0, 1) := dk_42 (dk_at dksX1_init_0 15 rfl rfl)
theorem dX1_init_16 : decode cX1_init 16 = .ok (.new 25, 3) := dk_187 0 25 (dk_at dksX1_init_0 16 rfl rfl)
theorem dX1_init_19 : decode cX1_init 19 = .ok (.dup, 1) := dk_89 (dk_at dksX1_init_0 19 rfl rfl)
theorem dX1_init_20 : decode cX1_init 20 = .ok (.invokespecial 27, 3) := dk_183 0 27 (dk_at dksX1_init_0 20 rfl rfl)
theorem dX1_init_23 : decode cX1_init 23 = .ok (.putfield 34, 3) := dk_181 0 34 (dk_at dksX1_init_1 0 rfl rfl)
theorem dX1_init_26 : decode cX1_init 26 = .ok (.aload_n 0, 1) := dk_42 (dk_at dksX1_init_1 3 rfl rfl)
theorem dX1_init_27 : decode cX1_init 27 = .ok (.new 25, 3) := dk_187 0 25 (dk_at dksX1_init_1 4 rfl rfl)
theorem dX1_init_30 : decode cX1_init 30 = .ok (.dup, 1) := dk_89 (dk_at dksX1_init_1 7 rfl rfl)
theorem dX1_init_31 : decode cX1_init 31 = .ok (.invokespecial 27, 3) := dk_183 0 27 (dk_at dksX1_init_1 8 rfl rfl)
theorem dX1_init_34 : decode cX1_init 34 = .ok (.putfield 37, 3) := dk_181 0 37 (dk_at dksX1_init_1 11 rfl rfl)
theorem dX1_init_37 : decode cX1_init 37 = .ok (.aload_n 0, 1) := dk_42 (dk_at dksX1_init_1 14 rfl rfl)
theorem dX1_init_38 : decode cX1_init 38 = .ok (.new 25, 3) := dk_187 0 25 (dk_at dksX1_init_1 15 rfl rfl)
theorem dX1_init_41 : decode cX1_init 41 = .ok (.dup, 1) := dk_89 (dk_at dksX1_init_1 18 rfl rfl)
theorem dX1_init_42 : decode cX1_init 42 = .ok (.invokespecial 27, 3) := dk_183 0 27 (dk_at dksX1_init_1 19 rfl rfl)
theorem dX1_init_45 : decode cX1_init 45 = .ok (.putfield 40, 3) := dk_181 0 40 (dk_at dksX1_init_2 0 rfl rfl)
theorem dX1_init_48 : decode cX1_init 48 = .ok (.aload_n 0, 1) := dk_42 (dk_at dksX1_init_2 3 rfl rfl)
theorem dX1_init_49 : decode cX1_init 49 = .ok (.new 43, 3) := dk_187 0 43 (dk_at dksX1_init_2 4 rfl rfl)
theorem dX1_init_52 : decode cX1_init 52 = .ok (.dup, 1) := dk_89 (dk_at dksX1_init_2 7 rfl rfl)
theorem dX1_init_53 : decode cX1_init 53 = .ok (.invokespecial 45, 3) := dk_183 0 45 (dk_at dksX1_init_2 8 rfl rfl)
theorem dX1_init_56 : decode cX1_init 56 = .ok (.putfield 46, 3) := dk_181 0 46 (dk_at dksX1_init_2 11 rfl rfl)
theorem dX1_init_59 : decode cX1_init 59 = .ok (.return_, 1) := dk_177 (dk_at dksX1_init_2 14 rfl rfl)
abbrev cX1_now : ByteArray := prog_2_method_30_code
def yX1_now : MethodName := ⟨RX1, "now", "()I"⟩
theorem dX1_now_0 : decode cX1_now 0 = .ok (.aload_n 0, 1) := by decide +kernel
theorem dX1_now_1 : decode cX1_now 1 = .ok (.getfield 155, 3) := by decide +kernel
theorem dX1_now_4 : decode cX1_now 4 = .ok (.ireturn, 1) := by decide +kernel
abbrev cX1_licensed : ByteArray := prog_2_method_45_code
def yX1_licensed : MethodName := ⟨RX1, "licensed", "()I"⟩
def dkwX1_licensed_0 : List UInt8 := [42, 180, 0, 46, 180, 0, 205, 172]
abbrev dktX1_licensed_0 : List UInt8 := dkwX1_licensed_0 ++ []
theorem dksX1_licensed_0 : cX1_licensed.data.toList.drop 0 = dktX1_licensed_0 := by decide +kernel
theorem dX1_licensed_0 : decode cX1_licensed 0 = .ok (.aload_n 0, 1) := dk_42 (dk_at dksX1_licensed_0 0 rfl rfl)
theorem dX1_licensed_1 : decode cX1_licensed 1 = .ok (.getfield 46, 3) := dk_180 0 46 (dk_at dksX1_licensed_0 1 rfl rfl)
theorem dX1_licensed_4 : decode cX1_licensed 4 = .ok (.getfield 205, 3) := dk_180 0 205 (dk_at dksX1_licensed_0 4 rfl rfl)
theorem dX1_licensed_7 : decode cX1_licensed 7 = .ok (.ireturn, 1) := dk_172 (dk_at dksX1_licensed_0 7 rfl rfl)
abbrev cX1_laidAnew : ByteArray := prog_2_method_46_code
def yX1_laidAnew : MethodName := ⟨RX1, "laidAnew", "()I"⟩
def dkwX1_laidAnew_4 : List UInt8 := [180, 1, 44, 182, 1, 52, 25, 4, 180, 1, 44, 182, 1, 56, 132, 2, 1, 167, 255, 169, 28, 172]
abbrev dktX1_laidAnew_4 : List UInt8 := dkwX1_laidAnew_4 ++ []
def dkwX1_laidAnew_3 : List UInt8 := [3, 54, 5, 21, 5, 153, 0, 36, 25, 4, 43, 182, 0, 252, 178, 1, 0, 166, 0, 24, 43, 43, 25, 4]
abbrev dktX1_laidAnew_3 : List UInt8 := dkwX1_laidAnew_3 ++ dktX1_laidAnew_4
def dkwX1_laidAnew_2 : List UInt8 := [178, 0, 208, 182, 0, 167, 154, 0, 14, 25, 4, 178, 0, 161, 182, 0, 167, 153, 0, 7, 4, 167, 0, 4]
abbrev dktX1_laidAnew_2 : List UInt8 := dkwX1_laidAnew_2 ++ dktX1_laidAnew_3
def dkwX1_laidAnew_1 : List UInt8 := [45, 185, 0, 126, 1, 0, 153, 0, 84, 45, 185, 0, 132, 1, 0, 192, 0, 73, 58, 4, 25, 4]
abbrev dktX1_laidAnew_1 : List UInt8 := dkwX1_laidAnew_1 ++ dktX1_laidAnew_2
def dkwX1_laidAnew_0 : List UInt8 := [187, 0, 43, 89, 42, 180, 0, 46, 183, 1, 49, 76, 3, 61, 42, 180, 0, 40, 185, 0, 122, 1, 0, 78]
abbrev dktX1_laidAnew_0 : List UInt8 := dkwX1_laidAnew_0 ++ dktX1_laidAnew_1
theorem dksX1_laidAnew_0 : cX1_laidAnew.data.toList.drop 0 = dktX1_laidAnew_0 := by decide +kernel
theorem dksX1_laidAnew_1 : cX1_laidAnew.data.toList.drop 24 = dktX1_laidAnew_1 := dk_seg dksX1_laidAnew_0 24 rfl rfl
theorem dksX1_laidAnew_2 : cX1_laidAnew.data.toList.drop 46 = dktX1_laidAnew_2 := dk_seg dksX1_laidAnew_1 22 rfl rfl
theorem dksX1_laidAnew_3 : cX1_laidAnew.data.toList.drop 70 = dktX1_laidAnew_3 := dk_seg dksX1_laidAnew_2 24 rfl rfl
theorem dksX1_laidAnew_4 : cX1_laidAnew.data.toList.drop 94 = dktX1_laidAnew_4 := dk_seg dksX1_laidAnew_3 24 rfl rfl
theorem dX1_laidAnew_0 : decode cX1_laidAnew 0 = .ok (.new 43, 3) := dk_187 0 43 (dk_at dksX1_laidAnew_0 0 rfl rfl)
theorem dX1_laidAnew_3 : decode cX1_laidAnew 3 = .ok (.dup, 1) := dk_89 (dk_at dksX1_laidAnew_0 3 rfl rfl)
theorem dX1_laidAnew_4 : decode cX1_laidAnew 4 = .ok (.aload_n 0, 1) := dk_42 (dk_at dksX1_laidAnew_0 4 rfl rfl)
theorem dX1_laidAnew_5 : decode cX1_laidAnew 5 = .ok (.getfield 46, 3) := dk_180 0 46 (dk_at dksX1_laidAnew_0 5 rfl rfl)
theorem dX1_laidAnew_8 : decode cX1_laidAnew 8 = .ok (.invokespecial 305, 3) := dk_183 1 49 (dk_at dksX1_laidAnew_0 8 rfl rfl)
theorem dX1_laidAnew_11 : decode cX1_laidAnew 11 = .ok (.astore_n 1, 1) := dk_76 (dk_at dksX1_laidAnew_0 11 rfl rfl)
theorem dX1_laidAnew_12 : decode cX1_laidAnew 12 = .ok (.iconst 0, 1) := dk_3 (dk_at dksX1_laidAnew_0 12 rfl rfl)
theorem dX1_laidAnew_13 : decode cX1_laidAnew 13 = .ok (.istore_n 2, 1) := dk_61 (dk_at dksX1_laidAnew_0 13 rfl rfl)
theorem dX1_laidAnew_14 : decode cX1_laidAnew 14 = .ok (.aload_n 0, 1) := dk_42 (dk_at dksX1_laidAnew_0 14 rfl rfl)
theorem dX1_laidAnew_15 : decode cX1_laidAnew 15 = .ok (.getfield 40, 3) := dk_180 0 40 (dk_at dksX1_laidAnew_0 15 rfl rfl)
theorem dX1_laidAnew_18 : decode cX1_laidAnew 18 = .ok (.invokeinterface 122 1, 5) := by decide +kernel
theorem dX1_laidAnew_23 : decode cX1_laidAnew 23 = .ok (.astore_n 3, 1) := dk_78 (dk_at dksX1_laidAnew_0 23 rfl rfl)
theorem dX1_laidAnew_24 : decode cX1_laidAnew 24 = .ok (.aload_n 3, 1) := dk_45 (dk_at dksX1_laidAnew_1 0 rfl rfl)
theorem dX1_laidAnew_25 : decode cX1_laidAnew 25 = .ok (.invokeinterface 126 1, 5) := by decide +kernel
theorem dX1_laidAnew_30 : decode cX1_laidAnew 30 = .ok (.ifCond .eq 84, 3) := dk_153 0 84 (dk_at dksX1_laidAnew_1 6 rfl rfl)
theorem dX1_laidAnew_33 : decode cX1_laidAnew 33 = .ok (.aload_n 3, 1) := dk_45 (dk_at dksX1_laidAnew_1 9 rfl rfl)
theorem dX1_laidAnew_34 : decode cX1_laidAnew 34 = .ok (.invokeinterface 132 1, 5) := by decide +kernel
theorem dX1_laidAnew_39 : decode cX1_laidAnew 39 = .ok (.checkcast 73, 3) := dk_192 0 73 (dk_at dksX1_laidAnew_1 15 rfl rfl)
theorem dX1_laidAnew_42 : decode cX1_laidAnew 42 = .ok (.astore 4, 2) := dk_58 4 (dk_at dksX1_laidAnew_1 18 rfl rfl)
theorem dX1_laidAnew_44 : decode cX1_laidAnew 44 = .ok (.aload 4, 2) := dk_25 4 (dk_at dksX1_laidAnew_1 20 rfl rfl)
theorem dX1_laidAnew_46 : decode cX1_laidAnew 46 = .ok (.getstatic 208, 3) := dk_178 0 208 (dk_at dksX1_laidAnew_2 0 rfl rfl)
theorem dX1_laidAnew_49 : decode cX1_laidAnew 49 = .ok (.invokevirtual 167, 3) := dk_182 0 167 (dk_at dksX1_laidAnew_2 3 rfl rfl)
theorem dX1_laidAnew_52 : decode cX1_laidAnew 52 = .ok (.ifCond .ne 14, 3) := dk_154 0 14 (dk_at dksX1_laidAnew_2 6 rfl rfl)
theorem dX1_laidAnew_55 : decode cX1_laidAnew 55 = .ok (.aload 4, 2) := dk_25 4 (dk_at dksX1_laidAnew_2 9 rfl rfl)
theorem dX1_laidAnew_57 : decode cX1_laidAnew 57 = .ok (.getstatic 161, 3) := dk_178 0 161 (dk_at dksX1_laidAnew_2 11 rfl rfl)
theorem dX1_laidAnew_60 : decode cX1_laidAnew 60 = .ok (.invokevirtual 167, 3) := dk_182 0 167 (dk_at dksX1_laidAnew_2 14 rfl rfl)
theorem dX1_laidAnew_63 : decode cX1_laidAnew 63 = .ok (.ifCond .eq 7, 3) := dk_153 0 7 (dk_at dksX1_laidAnew_2 17 rfl rfl)
theorem dX1_laidAnew_66 : decode cX1_laidAnew 66 = .ok (.iconst 1, 1) := dk_4 (dk_at dksX1_laidAnew_2 20 rfl rfl)
theorem dX1_laidAnew_67 : decode cX1_laidAnew 67 = .ok (.goto 4, 3) := dk_167 0 4 (dk_at dksX1_laidAnew_2 21 rfl rfl)
theorem dX1_laidAnew_70 : decode cX1_laidAnew 70 = .ok (.iconst 0, 1) := dk_3 (dk_at dksX1_laidAnew_3 0 rfl rfl)
theorem dX1_laidAnew_71 : decode cX1_laidAnew 71 = .ok (.istore 5, 2) := dk_54 5 (dk_at dksX1_laidAnew_3 1 rfl rfl)
theorem dX1_laidAnew_73 : decode cX1_laidAnew 73 = .ok (.iload 5, 2) := dk_21 5 (dk_at dksX1_laidAnew_3 3 rfl rfl)
theorem dX1_laidAnew_75 : decode cX1_laidAnew 75 = .ok (.ifCond .eq 36, 3) := dk_153 0 36 (dk_at dksX1_laidAnew_3 5 rfl rfl)
theorem dX1_laidAnew_78 : decode cX1_laidAnew 78 = .ok (.aload 4, 2) := dk_25 4 (dk_at dksX1_laidAnew_3 8 rfl rfl)
theorem dX1_laidAnew_80 : decode cX1_laidAnew 80 = .ok (.aload_n 1, 1) := dk_43 (dk_at dksX1_laidAnew_3 10 rfl rfl)
theorem dX1_laidAnew_81 : decode cX1_laidAnew 81 = .ok (.invokevirtual 252, 3) := dk_182 0 252 (dk_at dksX1_laidAnew_3 11 rfl rfl)
theorem dX1_laidAnew_84 : decode cX1_laidAnew 84 = .ok (.getstatic 256, 3) := dk_178 1 0 (dk_at dksX1_laidAnew_3 14 rfl rfl)
theorem dX1_laidAnew_87 : decode cX1_laidAnew 87 = .ok (.if_acmp .ne 24, 3) := dk_166 0 24 (dk_at dksX1_laidAnew_3 17 rfl rfl)
theorem dX1_laidAnew_90 : decode cX1_laidAnew 90 = .ok (.aload_n 1, 1) := dk_43 (dk_at dksX1_laidAnew_3 20 rfl rfl)
theorem dX1_laidAnew_91 : decode cX1_laidAnew 91 = .ok (.aload_n 1, 1) := dk_43 (dk_at dksX1_laidAnew_3 21 rfl rfl)
theorem dX1_laidAnew_92 : decode cX1_laidAnew 92 = .ok (.aload 4, 2) := dk_25 4 (dk_at dksX1_laidAnew_3 22 rfl rfl)
theorem dX1_laidAnew_94 : decode cX1_laidAnew 94 = .ok (.getfield 300, 3) := dk_180 1 44 (dk_at dksX1_laidAnew_4 0 rfl rfl)
theorem dX1_laidAnew_97 : decode cX1_laidAnew 97 = .ok (.invokevirtual 308, 3) := dk_182 1 52 (dk_at dksX1_laidAnew_4 3 rfl rfl)
theorem dX1_laidAnew_100 : decode cX1_laidAnew 100 = .ok (.aload 4, 2) := dk_25 4 (dk_at dksX1_laidAnew_4 6 rfl rfl)
theorem dX1_laidAnew_102 : decode cX1_laidAnew 102 = .ok (.getfield 300, 3) := dk_180 1 44 (dk_at dksX1_laidAnew_4 8 rfl rfl)
theorem dX1_laidAnew_105 : decode cX1_laidAnew 105 = .ok (.invokevirtual 312, 3) := dk_182 1 56 (dk_at dksX1_laidAnew_4 11 rfl rfl)
theorem dX1_laidAnew_108 : decode cX1_laidAnew 108 = .ok (.iinc 2 1, 3) := dk_132 2 1 (dk_at dksX1_laidAnew_4 14 rfl rfl)
theorem dX1_laidAnew_111 : decode cX1_laidAnew 111 = .ok (.goto (-87), 3) := dk_167 255 169 (dk_at dksX1_laidAnew_4 17 rfl rfl)
theorem dX1_laidAnew_114 : decode cX1_laidAnew 114 = .ok (.iload_n 2, 1) := dk_28 (dk_at dksX1_laidAnew_4 20 rfl rfl)
theorem dX1_laidAnew_115 : decode cX1_laidAnew 115 = .ok (.ireturn, 1) := dk_172 (dk_at dksX1_laidAnew_4 21 rfl rfl)
abbrev cX1_starts : ByteArray := prog_2_method_48_code
def yX1_starts : MethodName := ⟨RX1, "starts", "()J"⟩
theorem dX1_starts_0 : decode cX1_starts 0 = .ok (.aload_n 0, 1) := by decide +kernel
theorem dX1_starts_1 : decode cX1_starts 1 = .ok (.getfield 265, 3) := by decide +kernel
theorem dX1_starts_4 : decode cX1_starts 4 = .ok (.lreturn, 1) := by decide +kernel
abbrev cX1_addLayer : ByteArray := prog_2_method_15_code
def yX1_addLayer : MethodName := ⟨RX1, "addLayer", "()I"⟩
def dkwX1_addLayer_2 : List UInt8 := [87, 42, 180, 0, 28, 185, 0, 50, 1, 0, 4, 100, 172]
abbrev dktX1_addLayer_2 : List UInt8 := dkwX1_addLayer_2 ++ []
def dkwX1_addLayer_1 : List UInt8 := [180, 0, 28, 187, 0, 64, 89, 42, 180, 0, 28, 185, 0, 50, 1, 0, 183, 0, 91, 185, 0, 94, 2, 0]
abbrev dktX1_addLayer_1 : List UInt8 := dkwX1_addLayer_1 ++ dktX1_addLayer_2
def dkwX1_addLayer_0 : List UInt8 := [42, 180, 0, 28, 185, 0, 50, 1, 0, 16, 12, 162, 0, 7, 4, 167, 0, 4, 3, 184, 0, 87, 42]
abbrev dktX1_addLayer_0 : List UInt8 := dkwX1_addLayer_0 ++ dktX1_addLayer_1
theorem dksX1_addLayer_0 : cX1_addLayer.data.toList.drop 0 = dktX1_addLayer_0 := by decide +kernel
theorem dksX1_addLayer_1 : cX1_addLayer.data.toList.drop 23 = dktX1_addLayer_1 := dk_seg dksX1_addLayer_0 23 rfl rfl
theorem dksX1_addLayer_2 : cX1_addLayer.data.toList.drop 47 = dktX1_addLayer_2 := dk_seg dksX1_addLayer_1 24 rfl rfl
theorem dX1_addLayer_0 : decode cX1_addLayer 0 = .ok (.aload_n 0, 1) := dk_42 (dk_at dksX1_addLayer_0 0 rfl rfl)
theorem dX1_addLayer_1 : decode cX1_addLayer 1 = .ok (.getfield 28, 3) := dk_180 0 28 (dk_at dksX1_addLayer_0 1 rfl rfl)
theorem dX1_addLayer_4 : decode cX1_addLayer 4 = .ok (.invokeinterface 50 1, 5) := by decide +kernel
theorem dX1_addLayer_9 : decode cX1_addLayer 9 = .ok (.bipush 12, 2) := dk_16 12 (dk_at dksX1_addLayer_0 9 rfl rfl)
theorem dX1_addLayer_11 : decode cX1_addLayer 11 = .ok (.if_icmp .ge 7, 3) := dk_162 0 7 (dk_at dksX1_addLayer_0 11 rfl rfl)
theorem dX1_addLayer_14 : decode cX1_addLayer 14 = .ok (.iconst 1, 1) := dk_4 (dk_at dksX1_addLayer_0 14 rfl rfl)
theorem dX1_addLayer_15 : decode cX1_addLayer 15 = .ok (.goto 4, 3) := dk_167 0 4 (dk_at dksX1_addLayer_0 15 rfl rfl)
theorem dX1_addLayer_18 : decode cX1_addLayer 18 = .ok (.iconst 0, 1) := dk_3 (dk_at dksX1_addLayer_0 18 rfl rfl)
theorem dX1_addLayer_19 : decode cX1_addLayer 19 = .ok (.invokestatic 87, 3) := dk_184 0 87 (dk_at dksX1_addLayer_0 19 rfl rfl)
theorem dX1_addLayer_22 : decode cX1_addLayer 22 = .ok (.aload_n 0, 1) := dk_42 (dk_at dksX1_addLayer_0 22 rfl rfl)
theorem dX1_addLayer_23 : decode cX1_addLayer 23 = .ok (.getfield 28, 3) := dk_180 0 28 (dk_at dksX1_addLayer_1 0 rfl rfl)
theorem dX1_addLayer_26 : decode cX1_addLayer 26 = .ok (.new 64, 3) := dk_187 0 64 (dk_at dksX1_addLayer_1 3 rfl rfl)
theorem dX1_addLayer_29 : decode cX1_addLayer 29 = .ok (.dup, 1) := dk_89 (dk_at dksX1_addLayer_1 6 rfl rfl)
theorem dX1_addLayer_30 : decode cX1_addLayer 30 = .ok (.aload_n 0, 1) := dk_42 (dk_at dksX1_addLayer_1 7 rfl rfl)
theorem dX1_addLayer_31 : decode cX1_addLayer 31 = .ok (.getfield 28, 3) := dk_180 0 28 (dk_at dksX1_addLayer_1 8 rfl rfl)
theorem dX1_addLayer_34 : decode cX1_addLayer 34 = .ok (.invokeinterface 50 1, 5) := by decide +kernel
theorem dX1_addLayer_39 : decode cX1_addLayer 39 = .ok (.invokespecial 91, 3) := dk_183 0 91 (dk_at dksX1_addLayer_1 16 rfl rfl)
theorem dX1_addLayer_42 : decode cX1_addLayer 42 = .ok (.invokeinterface 94 2, 5) := by decide +kernel
theorem dX1_addLayer_47 : decode cX1_addLayer 47 = .ok (.pop, 1) := dk_87 (dk_at dksX1_addLayer_2 0 rfl rfl)
theorem dX1_addLayer_48 : decode cX1_addLayer 48 = .ok (.aload_n 0, 1) := dk_42 (dk_at dksX1_addLayer_2 1 rfl rfl)
theorem dX1_addLayer_49 : decode cX1_addLayer 49 = .ok (.getfield 28, 3) := dk_180 0 28 (dk_at dksX1_addLayer_2 2 rfl rfl)
theorem dX1_addLayer_52 : decode cX1_addLayer 52 = .ok (.invokeinterface 50 1, 5) := by decide +kernel
theorem dX1_addLayer_57 : decode cX1_addLayer 57 = .ok (.iconst 1, 1) := dk_4 (dk_at dksX1_addLayer_2 10 rfl rfl)
theorem dX1_addLayer_58 : decode cX1_addLayer 58 = .ok (.isub, 1) := dk_100 (dk_at dksX1_addLayer_2 11 rfl rfl)
theorem dX1_addLayer_59 : decode cX1_addLayer 59 = .ok (.ireturn, 1) := dk_172 (dk_at dksX1_addLayer_2 12 rfl rfl)
abbrev cX1_requireState : ByteArray := prog_2_method_3_code
def yX1_requireState : MethodName := ⟨RX1, "requireState", "(Z)V"⟩
def dkwX1_requireState_0 : List UInt8 := [26, 154, 0, 11, 187, 0, 7, 89, 183, 0, 9, 191, 177]
abbrev dktX1_requireState_0 : List UInt8 := dkwX1_requireState_0 ++ []
theorem dksX1_requireState_0 : cX1_requireState.data.toList.drop 0 = dktX1_requireState_0 := by decide +kernel
theorem dX1_requireState_0 : decode cX1_requireState 0 = .ok (.iload_n 0, 1) := dk_26 (dk_at dksX1_requireState_0 0 rfl rfl)
theorem dX1_requireState_1 : decode cX1_requireState 1 = .ok (.ifCond .ne 11, 3) := dk_154 0 11 (dk_at dksX1_requireState_0 1 rfl rfl)
theorem dX1_requireState_4 : decode cX1_requireState 4 = .ok (.new 7, 3) := dk_187 0 7 (dk_at dksX1_requireState_0 4 rfl rfl)
theorem dX1_requireState_7 : decode cX1_requireState 7 = .ok (.dup, 1) := dk_89 (dk_at dksX1_requireState_0 7 rfl rfl)
theorem dX1_requireState_8 : decode cX1_requireState 8 = .ok (.invokespecial 9, 3) := dk_183 0 9 (dk_at dksX1_requireState_0 8 rfl rfl)
theorem dX1_requireState_11 : decode cX1_requireState 11 = .ok (.athrow, 1) := dk_191 (dk_at dksX1_requireState_0 11 rfl rfl)
theorem dX1_requireState_12 : decode cX1_requireState 12 = .ok (.return_, 1) := dk_177 (dk_at dksX1_requireState_0 12 rfl rfl)
abbrev cX1_addImage : ByteArray := prog_2_method_16_code
def yX1_addImage : MethodName := ⟨RX1, "addImage", "(II)I"⟩
def dkwX1_addImage_4 : List UInt8 := [185, 0, 50, 1, 0, 4, 100, 172]
abbrev dktX1_addImage_4 : List UInt8 := dkwX1_addImage_4 ++ []
def dkwX1_addImage_3 : List UInt8 := [180, 0, 34, 187, 0, 66, 89, 45, 25, 4, 183, 0, 116, 185, 0, 94, 2, 0, 87, 42, 180, 0, 34]
abbrev dktX1_addImage_3 : List UInt8 := dkwX1_addImage_3 ++ dktX1_addImage_4
def dkwX1_addImage_2 : List UInt8 := [42, 180, 0, 34, 185, 0, 50, 1, 0, 16, 8, 162, 0, 7, 4, 167, 0, 4, 3, 184, 0, 87, 42]
abbrev dktX1_addImage_2 : List UInt8 := dkwX1_addImage_2 ++ dktX1_addImage_3
def dkwX1_addImage_1 : List UInt8 := [198, 0, 16, 45, 182, 0, 106, 25, 4, 180, 0, 109, 126, 154, 0, 7, 4, 167, 0, 4, 3, 184, 0, 113]
abbrev dktX1_addImage_1 : List UInt8 := dkwX1_addImage_1 ++ dktX1_addImage_2
def dkwX1_addImage_0 : List UInt8 := [27, 2, 160, 0, 7, 1, 167, 0, 8, 42, 27, 182, 0, 98, 78, 42, 28, 182, 0, 102, 58, 4, 45]
abbrev dktX1_addImage_0 : List UInt8 := dkwX1_addImage_0 ++ dktX1_addImage_1
theorem dksX1_addImage_0 : cX1_addImage.data.toList.drop 0 = dktX1_addImage_0 := by decide +kernel
theorem dksX1_addImage_1 : cX1_addImage.data.toList.drop 23 = dktX1_addImage_1 := dk_seg dksX1_addImage_0 23 rfl rfl
theorem dksX1_addImage_2 : cX1_addImage.data.toList.drop 47 = dktX1_addImage_2 := dk_seg dksX1_addImage_1 24 rfl rfl
theorem dksX1_addImage_3 : cX1_addImage.data.toList.drop 70 = dktX1_addImage_3 := dk_seg dksX1_addImage_2 23 rfl rfl
theorem dksX1_addImage_4 : cX1_addImage.data.toList.drop 93 = dktX1_addImage_4 := dk_seg dksX1_addImage_3 23 rfl rfl
theorem dX1_addImage_0 : decode cX1_addImage 0 = .ok (.iload_n 1, 1) := dk_27 (dk_at dksX1_addImage_0 0 rfl rfl)
theorem dX1_addImage_1 : decode cX1_addImage 1 = .ok (.iconst (-1), 1) := dk_2 (dk_at dksX1_addImage_0 1 rfl rfl)
theorem dX1_addImage_2 : decode cX1_addImage 2 = .ok (.if_icmp .ne 7, 3) := dk_160 0 7 (dk_at dksX1_addImage_0 2 rfl rfl)
theorem dX1_addImage_5 : decode cX1_addImage 5 = .ok (.aconst_null, 1) := dk_1 (dk_at dksX1_addImage_0 5 rfl rfl)
theorem dX1_addImage_6 : decode cX1_addImage 6 = .ok (.goto 8, 3) := dk_167 0 8 (dk_at dksX1_addImage_0 6 rfl rfl)
theorem dX1_addImage_9 : decode cX1_addImage 9 = .ok (.aload_n 0, 1) := dk_42 (dk_at dksX1_addImage_0 9 rfl rfl)
theorem dX1_addImage_10 : decode cX1_addImage 10 = .ok (.iload_n 1, 1) := dk_27 (dk_at dksX1_addImage_0 10 rfl rfl)
theorem dX1_addImage_11 : decode cX1_addImage 11 = .ok (.invokevirtual 98, 3) := dk_182 0 98 (dk_at dksX1_addImage_0 11 rfl rfl)
theorem dX1_addImage_14 : decode cX1_addImage 14 = .ok (.astore_n 3, 1) := dk_78 (dk_at dksX1_addImage_0 14 rfl rfl)
theorem dX1_addImage_15 : decode cX1_addImage 15 = .ok (.aload_n 0, 1) := dk_42 (dk_at dksX1_addImage_0 15 rfl rfl)
theorem dX1_addImage_16 : decode cX1_addImage 16 = .ok (.iload_n 2, 1) := dk_28 (dk_at dksX1_addImage_0 16 rfl rfl)
theorem dX1_addImage_17 : decode cX1_addImage 17 = .ok (.invokevirtual 102, 3) := dk_182 0 102 (dk_at dksX1_addImage_0 17 rfl rfl)
theorem dX1_addImage_20 : decode cX1_addImage 20 = .ok (.astore 4, 2) := dk_58 4 (dk_at dksX1_addImage_0 20 rfl rfl)
theorem dX1_addImage_22 : decode cX1_addImage 22 = .ok (.aload_n 3, 1) := dk_45 (dk_at dksX1_addImage_0 22 rfl rfl)
theorem dX1_addImage_23 : decode cX1_addImage 23 = .ok (.ifnull 16, 3) := dk_198 0 16 (dk_at dksX1_addImage_1 0 rfl rfl)
theorem dX1_addImage_26 : decode cX1_addImage 26 = .ok (.aload_n 3, 1) := dk_45 (dk_at dksX1_addImage_1 3 rfl rfl)
theorem dX1_addImage_27 : decode cX1_addImage 27 = .ok (.invokevirtual 106, 3) := dk_182 0 106 (dk_at dksX1_addImage_1 4 rfl rfl)
theorem dX1_addImage_30 : decode cX1_addImage 30 = .ok (.aload 4, 2) := dk_25 4 (dk_at dksX1_addImage_1 7 rfl rfl)
theorem dX1_addImage_32 : decode cX1_addImage 32 = .ok (.getfield 109, 3) := dk_180 0 109 (dk_at dksX1_addImage_1 9 rfl rfl)
theorem dX1_addImage_35 : decode cX1_addImage 35 = .ok (.iand, 1) := dk_126 (dk_at dksX1_addImage_1 12 rfl rfl)
theorem dX1_addImage_36 : decode cX1_addImage 36 = .ok (.ifCond .ne 7, 3) := dk_154 0 7 (dk_at dksX1_addImage_1 13 rfl rfl)
theorem dX1_addImage_39 : decode cX1_addImage 39 = .ok (.iconst 1, 1) := dk_4 (dk_at dksX1_addImage_1 16 rfl rfl)
theorem dX1_addImage_40 : decode cX1_addImage 40 = .ok (.goto 4, 3) := dk_167 0 4 (dk_at dksX1_addImage_1 17 rfl rfl)
theorem dX1_addImage_43 : decode cX1_addImage 43 = .ok (.iconst 0, 1) := dk_3 (dk_at dksX1_addImage_1 20 rfl rfl)
theorem dX1_addImage_44 : decode cX1_addImage 44 = .ok (.invokestatic 113, 3) := dk_184 0 113 (dk_at dksX1_addImage_1 21 rfl rfl)
theorem dX1_addImage_47 : decode cX1_addImage 47 = .ok (.aload_n 0, 1) := dk_42 (dk_at dksX1_addImage_2 0 rfl rfl)
theorem dX1_addImage_48 : decode cX1_addImage 48 = .ok (.getfield 34, 3) := dk_180 0 34 (dk_at dksX1_addImage_2 1 rfl rfl)
theorem dX1_addImage_51 : decode cX1_addImage 51 = .ok (.invokeinterface 50 1, 5) := by decide +kernel
theorem dX1_addImage_56 : decode cX1_addImage 56 = .ok (.bipush 8, 2) := dk_16 8 (dk_at dksX1_addImage_2 9 rfl rfl)
theorem dX1_addImage_58 : decode cX1_addImage 58 = .ok (.if_icmp .ge 7, 3) := dk_162 0 7 (dk_at dksX1_addImage_2 11 rfl rfl)
theorem dX1_addImage_61 : decode cX1_addImage 61 = .ok (.iconst 1, 1) := dk_4 (dk_at dksX1_addImage_2 14 rfl rfl)
theorem dX1_addImage_62 : decode cX1_addImage 62 = .ok (.goto 4, 3) := dk_167 0 4 (dk_at dksX1_addImage_2 15 rfl rfl)
theorem dX1_addImage_65 : decode cX1_addImage 65 = .ok (.iconst 0, 1) := dk_3 (dk_at dksX1_addImage_2 18 rfl rfl)
theorem dX1_addImage_66 : decode cX1_addImage 66 = .ok (.invokestatic 87, 3) := dk_184 0 87 (dk_at dksX1_addImage_2 19 rfl rfl)
theorem dX1_addImage_69 : decode cX1_addImage 69 = .ok (.aload_n 0, 1) := dk_42 (dk_at dksX1_addImage_2 22 rfl rfl)
theorem dX1_addImage_70 : decode cX1_addImage 70 = .ok (.getfield 34, 3) := dk_180 0 34 (dk_at dksX1_addImage_3 0 rfl rfl)
theorem dX1_addImage_73 : decode cX1_addImage 73 = .ok (.new 66, 3) := dk_187 0 66 (dk_at dksX1_addImage_3 3 rfl rfl)
theorem dX1_addImage_76 : decode cX1_addImage 76 = .ok (.dup, 1) := dk_89 (dk_at dksX1_addImage_3 6 rfl rfl)
theorem dX1_addImage_77 : decode cX1_addImage 77 = .ok (.aload_n 3, 1) := dk_45 (dk_at dksX1_addImage_3 7 rfl rfl)
theorem dX1_addImage_78 : decode cX1_addImage 78 = .ok (.aload 4, 2) := dk_25 4 (dk_at dksX1_addImage_3 8 rfl rfl)
theorem dX1_addImage_80 : decode cX1_addImage 80 = .ok (.invokespecial 116, 3) := dk_183 0 116 (dk_at dksX1_addImage_3 10 rfl rfl)
theorem dX1_addImage_83 : decode cX1_addImage 83 = .ok (.invokeinterface 94 2, 5) := by decide +kernel
theorem dX1_addImage_88 : decode cX1_addImage 88 = .ok (.pop, 1) := dk_87 (dk_at dksX1_addImage_3 18 rfl rfl)
theorem dX1_addImage_89 : decode cX1_addImage 89 = .ok (.aload_n 0, 1) := dk_42 (dk_at dksX1_addImage_3 19 rfl rfl)
theorem dX1_addImage_90 : decode cX1_addImage 90 = .ok (.getfield 34, 3) := dk_180 0 34 (dk_at dksX1_addImage_3 20 rfl rfl)
theorem dX1_addImage_93 : decode cX1_addImage 93 = .ok (.invokeinterface 50 1, 5) := by decide +kernel
theorem dX1_addImage_98 : decode cX1_addImage 98 = .ok (.iconst 1, 1) := dk_4 (dk_at dksX1_addImage_4 5 rfl rfl)
theorem dX1_addImage_99 : decode cX1_addImage 99 = .ok (.isub, 1) := dk_100 (dk_at dksX1_addImage_4 6 rfl rfl)
theorem dX1_addImage_100 : decode cX1_addImage 100 = .ok (.ireturn, 1) := dk_172 (dk_at dksX1_addImage_4 7 rfl rfl)
abbrev cX1_requireImage : ByteArray := prog_2_method_10_code
def yX1_requireImage : MethodName := ⟨RX1, "requireImage", "(I)LCrateYard$Image;"⟩
def dkwX1_requireImage_1 : List UInt8 := [192, 0, 66, 176]
abbrev dktX1_requireImage_1 : List UInt8 := dkwX1_requireImage_1 ++ []
def dkwX1_requireImage_0 : List UInt8 := [27, 42, 180, 0, 34, 185, 0, 50, 1, 0, 184, 0, 56, 42, 180, 0, 34, 27, 185, 0, 60, 2, 0]
abbrev dktX1_requireImage_0 : List UInt8 := dkwX1_requireImage_0 ++ dktX1_requireImage_1
theorem dksX1_requireImage_0 : cX1_requireImage.data.toList.drop 0 = dktX1_requireImage_0 := by decide +kernel
theorem dksX1_requireImage_1 : cX1_requireImage.data.toList.drop 23 = dktX1_requireImage_1 := dk_seg dksX1_requireImage_0 23 rfl rfl
theorem dX1_requireImage_0 : decode cX1_requireImage 0 = .ok (.iload_n 1, 1) := dk_27 (dk_at dksX1_requireImage_0 0 rfl rfl)
theorem dX1_requireImage_1 : decode cX1_requireImage 1 = .ok (.aload_n 0, 1) := dk_42 (dk_at dksX1_requireImage_0 1 rfl rfl)
theorem dX1_requireImage_2 : decode cX1_requireImage 2 = .ok (.getfield 34, 3) := dk_180 0 34 (dk_at dksX1_requireImage_0 2 rfl rfl)
theorem dX1_requireImage_5 : decode cX1_requireImage 5 = .ok (.invokeinterface 50 1, 5) := by decide +kernel
theorem dX1_requireImage_10 : decode cX1_requireImage 10 = .ok (.invokestatic 56, 3) := dk_184 0 56 (dk_at dksX1_requireImage_0 10 rfl rfl)
theorem dX1_requireImage_13 : decode cX1_requireImage 13 = .ok (.aload_n 0, 1) := dk_42 (dk_at dksX1_requireImage_0 13 rfl rfl)
theorem dX1_requireImage_14 : decode cX1_requireImage 14 = .ok (.getfield 34, 3) := dk_180 0 34 (dk_at dksX1_requireImage_0 14 rfl rfl)
theorem dX1_requireImage_17 : decode cX1_requireImage 17 = .ok (.iload_n 1, 1) := dk_27 (dk_at dksX1_requireImage_0 17 rfl rfl)
theorem dX1_requireImage_18 : decode cX1_requireImage 18 = .ok (.invokeinterface 60 2, 5) := by decide +kernel
theorem dX1_requireImage_23 : decode cX1_requireImage 23 = .ok (.checkcast 66, 3) := dk_192 0 66 (dk_at dksX1_requireImage_1 0 rfl rfl)
theorem dX1_requireImage_26 : decode cX1_requireImage 26 = .ok (.areturn, 1) := dk_176 (dk_at dksX1_requireImage_1 3 rfl rfl)
abbrev cX1_requireIndex : ByteArray := prog_2_method_6_code
def yX1_requireIndex : MethodName := ⟨RX1, "requireIndex", "(II)V"⟩
def dkwX1_requireIndex_0 : List UInt8 := [26, 155, 0, 8, 26, 27, 161, 0, 11, 187, 0, 16, 89, 183, 0, 18, 191, 177]
abbrev dktX1_requireIndex_0 : List UInt8 := dkwX1_requireIndex_0 ++ []
theorem dksX1_requireIndex_0 : cX1_requireIndex.data.toList.drop 0 = dktX1_requireIndex_0 := by decide +kernel
theorem dX1_requireIndex_0 : decode cX1_requireIndex 0 = .ok (.iload_n 0, 1) := dk_26 (dk_at dksX1_requireIndex_0 0 rfl rfl)
theorem dX1_requireIndex_1 : decode cX1_requireIndex 1 = .ok (.ifCond .lt 8, 3) := dk_155 0 8 (dk_at dksX1_requireIndex_0 1 rfl rfl)
theorem dX1_requireIndex_4 : decode cX1_requireIndex 4 = .ok (.iload_n 0, 1) := dk_26 (dk_at dksX1_requireIndex_0 4 rfl rfl)
theorem dX1_requireIndex_5 : decode cX1_requireIndex 5 = .ok (.iload_n 1, 1) := dk_27 (dk_at dksX1_requireIndex_0 5 rfl rfl)
theorem dX1_requireIndex_6 : decode cX1_requireIndex 6 = .ok (.if_icmp .lt 11, 3) := dk_161 0 11 (dk_at dksX1_requireIndex_0 6 rfl rfl)
theorem dX1_requireIndex_9 : decode cX1_requireIndex 9 = .ok (.new 16, 3) := dk_187 0 16 (dk_at dksX1_requireIndex_0 9 rfl rfl)
theorem dX1_requireIndex_12 : decode cX1_requireIndex 12 = .ok (.dup, 1) := dk_89 (dk_at dksX1_requireIndex_0 12 rfl rfl)
theorem dX1_requireIndex_13 : decode cX1_requireIndex 13 = .ok (.invokespecial 18, 3) := dk_183 0 18 (dk_at dksX1_requireIndex_0 13 rfl rfl)
theorem dX1_requireIndex_16 : decode cX1_requireIndex 16 = .ok (.athrow, 1) := dk_191 (dk_at dksX1_requireIndex_0 16 rfl rfl)
theorem dX1_requireIndex_17 : decode cX1_requireIndex 17 = .ok (.return_, 1) := dk_177 (dk_at dksX1_requireIndex_0 17 rfl rfl)
abbrev cX1_requireLayer : ByteArray := prog_2_method_9_code
def yX1_requireLayer : MethodName := ⟨RX1, "requireLayer", "(I)LCrateYard$Layer;"⟩
def dkwX1_requireLayer_1 : List UInt8 := [192, 0, 64, 176]
abbrev dktX1_requireLayer_1 : List UInt8 := dkwX1_requireLayer_1 ++ []
def dkwX1_requireLayer_0 : List UInt8 := [27, 42, 180, 0, 28, 185, 0, 50, 1, 0, 184, 0, 56, 42, 180, 0, 28, 27, 185, 0, 60, 2, 0]
abbrev dktX1_requireLayer_0 : List UInt8 := dkwX1_requireLayer_0 ++ dktX1_requireLayer_1
theorem dksX1_requireLayer_0 : cX1_requireLayer.data.toList.drop 0 = dktX1_requireLayer_0 := by decide +kernel
theorem dksX1_requireLayer_1 : cX1_requireLayer.data.toList.drop 23 = dktX1_requireLayer_1 := dk_seg dksX1_requireLayer_0 23 rfl rfl
theorem dX1_requireLayer_0 : decode cX1_requireLayer 0 = .ok (.iload_n 1, 1) := dk_27 (dk_at dksX1_requireLayer_0 0 rfl rfl)
theorem dX1_requireLayer_1 : decode cX1_requireLayer 1 = .ok (.aload_n 0, 1) := dk_42 (dk_at dksX1_requireLayer_0 1 rfl rfl)
theorem dX1_requireLayer_2 : decode cX1_requireLayer 2 = .ok (.getfield 28, 3) := dk_180 0 28 (dk_at dksX1_requireLayer_0 2 rfl rfl)
theorem dX1_requireLayer_5 : decode cX1_requireLayer 5 = .ok (.invokeinterface 50 1, 5) := by decide +kernel
theorem dX1_requireLayer_10 : decode cX1_requireLayer 10 = .ok (.invokestatic 56, 3) := dk_184 0 56 (dk_at dksX1_requireLayer_0 10 rfl rfl)
theorem dX1_requireLayer_13 : decode cX1_requireLayer 13 = .ok (.aload_n 0, 1) := dk_42 (dk_at dksX1_requireLayer_0 13 rfl rfl)
theorem dX1_requireLayer_14 : decode cX1_requireLayer 14 = .ok (.getfield 28, 3) := dk_180 0 28 (dk_at dksX1_requireLayer_0 14 rfl rfl)
theorem dX1_requireLayer_17 : decode cX1_requireLayer 17 = .ok (.iload_n 1, 1) := dk_27 (dk_at dksX1_requireLayer_0 17 rfl rfl)
theorem dX1_requireLayer_18 : decode cX1_requireLayer 18 = .ok (.invokeinterface 60 2, 5) := by decide +kernel
theorem dX1_requireLayer_23 : decode cX1_requireLayer 23 = .ok (.checkcast 64, 3) := dk_192 0 64 (dk_at dksX1_requireLayer_1 0 rfl rfl)
theorem dX1_requireLayer_26 : decode cX1_requireLayer 26 = .ok (.areturn, 1) := dk_176 (dk_at dksX1_requireLayer_1 3 rfl rfl)
abbrev cX1_requireSupported : ByteArray := prog_2_method_4_code
def yX1_requireSupported : MethodName := ⟨RX1, "requireSupported", "(Z)V"⟩
def dkwX1_requireSupported_0 : List UInt8 := [26, 154, 0, 11, 187, 0, 10, 89, 183, 0, 12, 191, 177]
abbrev dktX1_requireSupported_0 : List UInt8 := dkwX1_requireSupported_0 ++ []
theorem dksX1_requireSupported_0 : cX1_requireSupported.data.toList.drop 0 = dktX1_requireSupported_0 := by decide +kernel
theorem dX1_requireSupported_0 : decode cX1_requireSupported 0 = .ok (.iload_n 0, 1) := dk_26 (dk_at dksX1_requireSupported_0 0 rfl rfl)
theorem dX1_requireSupported_1 : decode cX1_requireSupported 1 = .ok (.ifCond .ne 11, 3) := dk_154 0 11 (dk_at dksX1_requireSupported_0 1 rfl rfl)
theorem dX1_requireSupported_4 : decode cX1_requireSupported 4 = .ok (.new 10, 3) := dk_187 0 10 (dk_at dksX1_requireSupported_0 4 rfl rfl)
theorem dX1_requireSupported_7 : decode cX1_requireSupported 7 = .ok (.dup, 1) := dk_89 (dk_at dksX1_requireSupported_0 7 rfl rfl)
theorem dX1_requireSupported_8 : decode cX1_requireSupported 8 = .ok (.invokespecial 12, 3) := dk_183 0 12 (dk_at dksX1_requireSupported_0 8 rfl rfl)
theorem dX1_requireSupported_11 : decode cX1_requireSupported 11 = .ok (.athrow, 1) := dk_191 (dk_at dksX1_requireSupported_0 11 rfl rfl)
theorem dX1_requireSupported_12 : decode cX1_requireSupported 12 = .ok (.return_, 1) := dk_177 (dk_at dksX1_requireSupported_0 12 rfl rfl)
abbrev cX1_patch : ByteArray := prog_2_method_17_code
def yX1_patch : MethodName := ⟨RX1, "patch", "(II)I"⟩
def dkwX1_patch_8 : List UInt8 := [182, 0, 148, 153, 0, 7, 4, 167, 0, 4, 3, 96, 54, 6, 167, 255, 216, 21, 6, 172]
abbrev dktX1_patch_8 : List UInt8 := dkwX1_patch_8 ++ []
def dkwX1_patch_7 : List UInt8 := [185, 0, 126, 1, 0, 153, 0, 36, 25, 7, 185, 0, 132, 1, 0, 192, 0, 73, 58, 8, 21, 6, 25, 8]
abbrev dktX1_patch_7 : List UInt8 := dkwX1_patch_7 ++ dktX1_patch_8
def dkwX1_patch_6 : List UInt8 := [25, 4, 181, 0, 140, 3, 54, 6, 42, 180, 0, 40, 185, 0, 122, 1, 0, 58, 7, 25, 7]
abbrev dktX1_patch_6 : List UInt8 := dkwX1_patch_6 ++ dktX1_patch_7
def dkwX1_patch_5 : List UInt8 := [188, 4, 89, 3, 45, 180, 0, 140, 25, 4, 165, 0, 7, 4, 167, 0, 4, 3, 84, 184, 0, 144, 45]
abbrev dktX1_patch_5 : List UInt8 := dkwX1_patch_5 ++ dktX1_patch_6
def dkwX1_patch_4 : List UInt8 := [167, 0, 4, 3, 128, 54, 5, 167, 255, 199, 21, 5, 154, 0, 7, 4, 167, 0, 4, 3, 184, 0, 113, 4]
abbrev dktX1_patch_4 : List UInt8 := dkwX1_patch_4 ++ dktX1_patch_5
def dkwX1_patch_3 : List UInt8 := [45, 165, 0, 26, 25, 7, 45, 182, 0, 136, 153, 0, 17, 25, 7, 180, 0, 140, 25, 4, 166, 0, 7, 4]
abbrev dktX1_patch_3 : List UInt8 := dkwX1_patch_3 ++ dktX1_patch_4
def dkwX1_patch_2 : List UInt8 := [185, 0, 126, 1, 0, 153, 0, 53, 25, 6, 185, 0, 132, 1, 0, 192, 0, 66, 58, 7, 21, 5, 25, 7]
abbrev dktX1_patch_2 : List UInt8 := dkwX1_patch_2 ++ dktX1_patch_3
def dkwX1_patch_1 : List UInt8 := [153, 0, 7, 4, 167, 0, 4, 3, 54, 5, 42, 180, 0, 34, 185, 0, 122, 1, 0, 58, 6, 25, 6]
abbrev dktX1_patch_1 : List UInt8 := dkwX1_patch_1 ++ dktX1_patch_2
def dkwX1_patch_0 : List UInt8 := [42, 27, 182, 0, 98, 78, 42, 28, 182, 0, 102, 58, 4, 45, 182, 0, 119, 25, 4, 180, 0, 109, 126]
abbrev dktX1_patch_0 : List UInt8 := dkwX1_patch_0 ++ dktX1_patch_1
theorem dksX1_patch_0 : cX1_patch.data.toList.drop 0 = dktX1_patch_0 := by decide +kernel
theorem dksX1_patch_1 : cX1_patch.data.toList.drop 23 = dktX1_patch_1 := dk_seg dksX1_patch_0 23 rfl rfl
theorem dksX1_patch_2 : cX1_patch.data.toList.drop 46 = dktX1_patch_2 := dk_seg dksX1_patch_1 23 rfl rfl
theorem dksX1_patch_3 : cX1_patch.data.toList.drop 70 = dktX1_patch_3 := dk_seg dksX1_patch_2 24 rfl rfl
theorem dksX1_patch_4 : cX1_patch.data.toList.drop 94 = dktX1_patch_4 := dk_seg dksX1_patch_3 24 rfl rfl
theorem dksX1_patch_5 : cX1_patch.data.toList.drop 118 = dktX1_patch_5 := dk_seg dksX1_patch_4 24 rfl rfl
theorem dksX1_patch_6 : cX1_patch.data.toList.drop 141 = dktX1_patch_6 := dk_seg dksX1_patch_5 23 rfl rfl
theorem dksX1_patch_7 : cX1_patch.data.toList.drop 162 = dktX1_patch_7 := dk_seg dksX1_patch_6 21 rfl rfl
theorem dksX1_patch_8 : cX1_patch.data.toList.drop 186 = dktX1_patch_8 := dk_seg dksX1_patch_7 24 rfl rfl
theorem dX1_patch_0 : decode cX1_patch 0 = .ok (.aload_n 0, 1) := dk_42 (dk_at dksX1_patch_0 0 rfl rfl)
theorem dX1_patch_1 : decode cX1_patch 1 = .ok (.iload_n 1, 1) := dk_27 (dk_at dksX1_patch_0 1 rfl rfl)
theorem dX1_patch_2 : decode cX1_patch 2 = .ok (.invokevirtual 98, 3) := dk_182 0 98 (dk_at dksX1_patch_0 2 rfl rfl)
theorem dX1_patch_5 : decode cX1_patch 5 = .ok (.astore_n 3, 1) := dk_78 (dk_at dksX1_patch_0 5 rfl rfl)
theorem dX1_patch_6 : decode cX1_patch 6 = .ok (.aload_n 0, 1) := dk_42 (dk_at dksX1_patch_0 6 rfl rfl)
theorem dX1_patch_7 : decode cX1_patch 7 = .ok (.iload_n 2, 1) := dk_28 (dk_at dksX1_patch_0 7 rfl rfl)
theorem dX1_patch_8 : decode cX1_patch 8 = .ok (.invokevirtual 102, 3) := dk_182 0 102 (dk_at dksX1_patch_0 8 rfl rfl)
theorem dX1_patch_11 : decode cX1_patch 11 = .ok (.astore 4, 2) := dk_58 4 (dk_at dksX1_patch_0 11 rfl rfl)
theorem dX1_patch_13 : decode cX1_patch 13 = .ok (.aload_n 3, 1) := dk_45 (dk_at dksX1_patch_0 13 rfl rfl)
theorem dX1_patch_14 : decode cX1_patch 14 = .ok (.invokevirtual 119, 3) := dk_182 0 119 (dk_at dksX1_patch_0 14 rfl rfl)
theorem dX1_patch_17 : decode cX1_patch 17 = .ok (.aload 4, 2) := dk_25 4 (dk_at dksX1_patch_0 17 rfl rfl)
theorem dX1_patch_19 : decode cX1_patch 19 = .ok (.getfield 109, 3) := dk_180 0 109 (dk_at dksX1_patch_0 19 rfl rfl)
theorem dX1_patch_22 : decode cX1_patch 22 = .ok (.iand, 1) := dk_126 (dk_at dksX1_patch_0 22 rfl rfl)
theorem dX1_patch_23 : decode cX1_patch 23 = .ok (.ifCond .eq 7, 3) := dk_153 0 7 (dk_at dksX1_patch_1 0 rfl rfl)
theorem dX1_patch_26 : decode cX1_patch 26 = .ok (.iconst 1, 1) := dk_4 (dk_at dksX1_patch_1 3 rfl rfl)
theorem dX1_patch_27 : decode cX1_patch 27 = .ok (.goto 4, 3) := dk_167 0 4 (dk_at dksX1_patch_1 4 rfl rfl)
theorem dX1_patch_30 : decode cX1_patch 30 = .ok (.iconst 0, 1) := dk_3 (dk_at dksX1_patch_1 7 rfl rfl)
theorem dX1_patch_31 : decode cX1_patch 31 = .ok (.istore 5, 2) := dk_54 5 (dk_at dksX1_patch_1 8 rfl rfl)
theorem dX1_patch_33 : decode cX1_patch 33 = .ok (.aload_n 0, 1) := dk_42 (dk_at dksX1_patch_1 10 rfl rfl)
theorem dX1_patch_34 : decode cX1_patch 34 = .ok (.getfield 34, 3) := dk_180 0 34 (dk_at dksX1_patch_1 11 rfl rfl)
theorem dX1_patch_37 : decode cX1_patch 37 = .ok (.invokeinterface 122 1, 5) := by decide +kernel
theorem dX1_patch_42 : decode cX1_patch 42 = .ok (.astore 6, 2) := dk_58 6 (dk_at dksX1_patch_1 19 rfl rfl)
theorem dX1_patch_44 : decode cX1_patch 44 = .ok (.aload 6, 2) := dk_25 6 (dk_at dksX1_patch_1 21 rfl rfl)
theorem dX1_patch_46 : decode cX1_patch 46 = .ok (.invokeinterface 126 1, 5) := by decide +kernel
theorem dX1_patch_51 : decode cX1_patch 51 = .ok (.ifCond .eq 53, 3) := dk_153 0 53 (dk_at dksX1_patch_2 5 rfl rfl)
theorem dX1_patch_54 : decode cX1_patch 54 = .ok (.aload 6, 2) := dk_25 6 (dk_at dksX1_patch_2 8 rfl rfl)
theorem dX1_patch_56 : decode cX1_patch 56 = .ok (.invokeinterface 132 1, 5) := by decide +kernel
theorem dX1_patch_61 : decode cX1_patch 61 = .ok (.checkcast 66, 3) := dk_192 0 66 (dk_at dksX1_patch_2 15 rfl rfl)
theorem dX1_patch_64 : decode cX1_patch 64 = .ok (.astore 7, 2) := dk_58 7 (dk_at dksX1_patch_2 18 rfl rfl)
theorem dX1_patch_66 : decode cX1_patch 66 = .ok (.iload 5, 2) := dk_21 5 (dk_at dksX1_patch_2 20 rfl rfl)
theorem dX1_patch_68 : decode cX1_patch 68 = .ok (.aload 7, 2) := dk_25 7 (dk_at dksX1_patch_2 22 rfl rfl)
theorem dX1_patch_70 : decode cX1_patch 70 = .ok (.aload_n 3, 1) := dk_45 (dk_at dksX1_patch_3 0 rfl rfl)
theorem dX1_patch_71 : decode cX1_patch 71 = .ok (.if_acmp .eq 26, 3) := dk_165 0 26 (dk_at dksX1_patch_3 1 rfl rfl)
theorem dX1_patch_74 : decode cX1_patch 74 = .ok (.aload 7, 2) := dk_25 7 (dk_at dksX1_patch_3 4 rfl rfl)
theorem dX1_patch_76 : decode cX1_patch 76 = .ok (.aload_n 3, 1) := dk_45 (dk_at dksX1_patch_3 6 rfl rfl)
theorem dX1_patch_77 : decode cX1_patch 77 = .ok (.invokevirtual 136, 3) := dk_182 0 136 (dk_at dksX1_patch_3 7 rfl rfl)
theorem dX1_patch_80 : decode cX1_patch 80 = .ok (.ifCond .eq 17, 3) := dk_153 0 17 (dk_at dksX1_patch_3 10 rfl rfl)
theorem dX1_patch_83 : decode cX1_patch 83 = .ok (.aload 7, 2) := dk_25 7 (dk_at dksX1_patch_3 13 rfl rfl)
theorem dX1_patch_85 : decode cX1_patch 85 = .ok (.getfield 140, 3) := dk_180 0 140 (dk_at dksX1_patch_3 15 rfl rfl)
theorem dX1_patch_88 : decode cX1_patch 88 = .ok (.aload 4, 2) := dk_25 4 (dk_at dksX1_patch_3 18 rfl rfl)
theorem dX1_patch_90 : decode cX1_patch 90 = .ok (.if_acmp .ne 7, 3) := dk_166 0 7 (dk_at dksX1_patch_3 20 rfl rfl)
theorem dX1_patch_93 : decode cX1_patch 93 = .ok (.iconst 1, 1) := dk_4 (dk_at dksX1_patch_3 23 rfl rfl)
theorem dX1_patch_94 : decode cX1_patch 94 = .ok (.goto 4, 3) := dk_167 0 4 (dk_at dksX1_patch_4 0 rfl rfl)
theorem dX1_patch_97 : decode cX1_patch 97 = .ok (.iconst 0, 1) := dk_3 (dk_at dksX1_patch_4 3 rfl rfl)
theorem dX1_patch_98 : decode cX1_patch 98 = .ok (.ior, 1) := dk_128 (dk_at dksX1_patch_4 4 rfl rfl)
theorem dX1_patch_99 : decode cX1_patch 99 = .ok (.istore 5, 2) := dk_54 5 (dk_at dksX1_patch_4 5 rfl rfl)
theorem dX1_patch_101 : decode cX1_patch 101 = .ok (.goto (-57), 3) := dk_167 255 199 (dk_at dksX1_patch_4 7 rfl rfl)
theorem dX1_patch_104 : decode cX1_patch 104 = .ok (.iload 5, 2) := dk_21 5 (dk_at dksX1_patch_4 10 rfl rfl)
theorem dX1_patch_106 : decode cX1_patch 106 = .ok (.ifCond .ne 7, 3) := dk_154 0 7 (dk_at dksX1_patch_4 12 rfl rfl)
theorem dX1_patch_109 : decode cX1_patch 109 = .ok (.iconst 1, 1) := dk_4 (dk_at dksX1_patch_4 15 rfl rfl)
theorem dX1_patch_110 : decode cX1_patch 110 = .ok (.goto 4, 3) := dk_167 0 4 (dk_at dksX1_patch_4 16 rfl rfl)
theorem dX1_patch_113 : decode cX1_patch 113 = .ok (.iconst 0, 1) := dk_3 (dk_at dksX1_patch_4 19 rfl rfl)
theorem dX1_patch_114 : decode cX1_patch 114 = .ok (.invokestatic 113, 3) := dk_184 0 113 (dk_at dksX1_patch_4 20 rfl rfl)
theorem dX1_patch_117 : decode cX1_patch 117 = .ok (.iconst 1, 1) := dk_4 (dk_at dksX1_patch_4 23 rfl rfl)
theorem dX1_patch_118 : decode cX1_patch 118 = .ok (.newarray .boolean, 2) := dk_188_4 (dk_at dksX1_patch_5 0 rfl rfl)
theorem dX1_patch_120 : decode cX1_patch 120 = .ok (.dup, 1) := dk_89 (dk_at dksX1_patch_5 2 rfl rfl)
theorem dX1_patch_121 : decode cX1_patch 121 = .ok (.iconst 0, 1) := dk_3 (dk_at dksX1_patch_5 3 rfl rfl)
theorem dX1_patch_122 : decode cX1_patch 122 = .ok (.aload_n 3, 1) := dk_45 (dk_at dksX1_patch_5 4 rfl rfl)
theorem dX1_patch_123 : decode cX1_patch 123 = .ok (.getfield 140, 3) := dk_180 0 140 (dk_at dksX1_patch_5 5 rfl rfl)
theorem dX1_patch_126 : decode cX1_patch 126 = .ok (.aload 4, 2) := dk_25 4 (dk_at dksX1_patch_5 8 rfl rfl)
theorem dX1_patch_128 : decode cX1_patch 128 = .ok (.if_acmp .eq 7, 3) := dk_165 0 7 (dk_at dksX1_patch_5 10 rfl rfl)
theorem dX1_patch_131 : decode cX1_patch 131 = .ok (.iconst 1, 1) := dk_4 (dk_at dksX1_patch_5 13 rfl rfl)
theorem dX1_patch_132 : decode cX1_patch 132 = .ok (.goto 4, 3) := dk_167 0 4 (dk_at dksX1_patch_5 14 rfl rfl)
theorem dX1_patch_135 : decode cX1_patch 135 = .ok (.iconst 0, 1) := dk_3 (dk_at dksX1_patch_5 17 rfl rfl)
theorem dX1_patch_136 : decode cX1_patch 136 = .ok (.bastore, 1) := dk_84 (dk_at dksX1_patch_5 18 rfl rfl)
theorem dX1_patch_137 : decode cX1_patch 137 = .ok (.invokestatic 144, 3) := dk_184 0 144 (dk_at dksX1_patch_5 19 rfl rfl)
theorem dX1_patch_140 : decode cX1_patch 140 = .ok (.aload_n 3, 1) := dk_45 (dk_at dksX1_patch_5 22 rfl rfl)
theorem dX1_patch_141 : decode cX1_patch 141 = .ok (.aload 4, 2) := dk_25 4 (dk_at dksX1_patch_6 0 rfl rfl)
theorem dX1_patch_143 : decode cX1_patch 143 = .ok (.putfield 140, 3) := dk_181 0 140 (dk_at dksX1_patch_6 2 rfl rfl)
theorem dX1_patch_146 : decode cX1_patch 146 = .ok (.iconst 0, 1) := dk_3 (dk_at dksX1_patch_6 5 rfl rfl)
theorem dX1_patch_147 : decode cX1_patch 147 = .ok (.istore 6, 2) := dk_54 6 (dk_at dksX1_patch_6 6 rfl rfl)
theorem dX1_patch_149 : decode cX1_patch 149 = .ok (.aload_n 0, 1) := dk_42 (dk_at dksX1_patch_6 8 rfl rfl)
theorem dX1_patch_150 : decode cX1_patch 150 = .ok (.getfield 40, 3) := dk_180 0 40 (dk_at dksX1_patch_6 9 rfl rfl)
theorem dX1_patch_153 : decode cX1_patch 153 = .ok (.invokeinterface 122 1, 5) := by decide +kernel
theorem dX1_patch_158 : decode cX1_patch 158 = .ok (.astore 7, 2) := dk_58 7 (dk_at dksX1_patch_6 17 rfl rfl)
theorem dX1_patch_160 : decode cX1_patch 160 = .ok (.aload 7, 2) := dk_25 7 (dk_at dksX1_patch_6 19 rfl rfl)
theorem dX1_patch_162 : decode cX1_patch 162 = .ok (.invokeinterface 126 1, 5) := by decide +kernel
theorem dX1_patch_167 : decode cX1_patch 167 = .ok (.ifCond .eq 36, 3) := dk_153 0 36 (dk_at dksX1_patch_7 5 rfl rfl)
theorem dX1_patch_170 : decode cX1_patch 170 = .ok (.aload 7, 2) := dk_25 7 (dk_at dksX1_patch_7 8 rfl rfl)
theorem dX1_patch_172 : decode cX1_patch 172 = .ok (.invokeinterface 132 1, 5) := by decide +kernel
theorem dX1_patch_177 : decode cX1_patch 177 = .ok (.checkcast 73, 3) := dk_192 0 73 (dk_at dksX1_patch_7 15 rfl rfl)
theorem dX1_patch_180 : decode cX1_patch 180 = .ok (.astore 8, 2) := dk_58 8 (dk_at dksX1_patch_7 18 rfl rfl)
theorem dX1_patch_182 : decode cX1_patch 182 = .ok (.iload 6, 2) := dk_21 6 (dk_at dksX1_patch_7 20 rfl rfl)
theorem dX1_patch_184 : decode cX1_patch 184 = .ok (.aload 8, 2) := dk_25 8 (dk_at dksX1_patch_7 22 rfl rfl)
theorem dX1_patch_186 : decode cX1_patch 186 = .ok (.invokevirtual 148, 3) := dk_182 0 148 (dk_at dksX1_patch_8 0 rfl rfl)
theorem dX1_patch_189 : decode cX1_patch 189 = .ok (.ifCond .eq 7, 3) := dk_153 0 7 (dk_at dksX1_patch_8 3 rfl rfl)
theorem dX1_patch_192 : decode cX1_patch 192 = .ok (.iconst 1, 1) := dk_4 (dk_at dksX1_patch_8 6 rfl rfl)
theorem dX1_patch_193 : decode cX1_patch 193 = .ok (.goto 4, 3) := dk_167 0 4 (dk_at dksX1_patch_8 7 rfl rfl)
theorem dX1_patch_196 : decode cX1_patch 196 = .ok (.iconst 0, 1) := dk_3 (dk_at dksX1_patch_8 10 rfl rfl)
theorem dX1_patch_197 : decode cX1_patch 197 = .ok (.iadd, 1) := dk_96 (dk_at dksX1_patch_8 11 rfl rfl)
theorem dX1_patch_198 : decode cX1_patch 198 = .ok (.istore 6, 2) := dk_54 6 (dk_at dksX1_patch_8 12 rfl rfl)
theorem dX1_patch_200 : decode cX1_patch 200 = .ok (.goto (-40), 3) := dk_167 255 216 (dk_at dksX1_patch_8 14 rfl rfl)
theorem dX1_patch_203 : decode cX1_patch 203 = .ok (.iload 6, 2) := dk_21 6 (dk_at dksX1_patch_8 17 rfl rfl)
theorem dX1_patch_205 : decode cX1_patch 205 = .ok (.ireturn, 1) := dk_172 (dk_at dksX1_patch_8 19 rfl rfl)
abbrev cX1_requireArguments : ByteArray := prog_2_method_2_code
def yX1_requireArguments : MethodName := ⟨RX1, "requireArguments", "([Z)V"⟩
def dkwX1_requireArguments_1 : List UInt8 := [187, 0, 1, 89, 183, 0, 3, 191, 132, 3, 1, 167, 255, 230, 177]
abbrev dktX1_requireArguments_1 : List UInt8 := dkwX1_requireArguments_1 ++ []
def dkwX1_requireArguments_0 : List UInt8 := [42, 76, 43, 190, 61, 3, 62, 29, 28, 162, 0, 27, 43, 29, 51, 54, 4, 21, 4, 154, 0, 11]
abbrev dktX1_requireArguments_0 : List UInt8 := dkwX1_requireArguments_0 ++ dktX1_requireArguments_1
theorem dksX1_requireArguments_0 : cX1_requireArguments.data.toList.drop 0 = dktX1_requireArguments_0 := by decide +kernel
theorem dksX1_requireArguments_1 : cX1_requireArguments.data.toList.drop 22 = dktX1_requireArguments_1 := dk_seg dksX1_requireArguments_0 22 rfl rfl
theorem dX1_requireArguments_0 : decode cX1_requireArguments 0 = .ok (.aload_n 0, 1) := dk_42 (dk_at dksX1_requireArguments_0 0 rfl rfl)
theorem dX1_requireArguments_1 : decode cX1_requireArguments 1 = .ok (.astore_n 1, 1) := dk_76 (dk_at dksX1_requireArguments_0 1 rfl rfl)
theorem dX1_requireArguments_2 : decode cX1_requireArguments 2 = .ok (.aload_n 1, 1) := dk_43 (dk_at dksX1_requireArguments_0 2 rfl rfl)
theorem dX1_requireArguments_3 : decode cX1_requireArguments 3 = .ok (.arraylength, 1) := dk_190 (dk_at dksX1_requireArguments_0 3 rfl rfl)
theorem dX1_requireArguments_4 : decode cX1_requireArguments 4 = .ok (.istore_n 2, 1) := dk_61 (dk_at dksX1_requireArguments_0 4 rfl rfl)
theorem dX1_requireArguments_5 : decode cX1_requireArguments 5 = .ok (.iconst 0, 1) := dk_3 (dk_at dksX1_requireArguments_0 5 rfl rfl)
theorem dX1_requireArguments_6 : decode cX1_requireArguments 6 = .ok (.istore_n 3, 1) := dk_62 (dk_at dksX1_requireArguments_0 6 rfl rfl)
theorem dX1_requireArguments_7 : decode cX1_requireArguments 7 = .ok (.iload_n 3, 1) := dk_29 (dk_at dksX1_requireArguments_0 7 rfl rfl)
theorem dX1_requireArguments_8 : decode cX1_requireArguments 8 = .ok (.iload_n 2, 1) := dk_28 (dk_at dksX1_requireArguments_0 8 rfl rfl)
theorem dX1_requireArguments_9 : decode cX1_requireArguments 9 = .ok (.if_icmp .ge 27, 3) := dk_162 0 27 (dk_at dksX1_requireArguments_0 9 rfl rfl)
theorem dX1_requireArguments_12 : decode cX1_requireArguments 12 = .ok (.aload_n 1, 1) := dk_43 (dk_at dksX1_requireArguments_0 12 rfl rfl)
theorem dX1_requireArguments_13 : decode cX1_requireArguments 13 = .ok (.iload_n 3, 1) := dk_29 (dk_at dksX1_requireArguments_0 13 rfl rfl)
theorem dX1_requireArguments_14 : decode cX1_requireArguments 14 = .ok (.baload, 1) := dk_51 (dk_at dksX1_requireArguments_0 14 rfl rfl)
theorem dX1_requireArguments_15 : decode cX1_requireArguments 15 = .ok (.istore 4, 2) := dk_54 4 (dk_at dksX1_requireArguments_0 15 rfl rfl)
theorem dX1_requireArguments_17 : decode cX1_requireArguments 17 = .ok (.iload 4, 2) := dk_21 4 (dk_at dksX1_requireArguments_0 17 rfl rfl)
theorem dX1_requireArguments_19 : decode cX1_requireArguments 19 = .ok (.ifCond .ne 11, 3) := dk_154 0 11 (dk_at dksX1_requireArguments_0 19 rfl rfl)
theorem dX1_requireArguments_22 : decode cX1_requireArguments 22 = .ok (.new 1, 3) := dk_187 0 1 (dk_at dksX1_requireArguments_1 0 rfl rfl)
theorem dX1_requireArguments_25 : decode cX1_requireArguments 25 = .ok (.dup, 1) := dk_89 (dk_at dksX1_requireArguments_1 3 rfl rfl)
theorem dX1_requireArguments_26 : decode cX1_requireArguments 26 = .ok (.invokespecial 3, 3) := dk_183 0 3 (dk_at dksX1_requireArguments_1 4 rfl rfl)
theorem dX1_requireArguments_29 : decode cX1_requireArguments 29 = .ok (.athrow, 1) := dk_191 (dk_at dksX1_requireArguments_1 7 rfl rfl)
theorem dX1_requireArguments_30 : decode cX1_requireArguments 30 = .ok (.iinc 3 1, 3) := dk_132 3 1 (dk_at dksX1_requireArguments_1 8 rfl rfl)
theorem dX1_requireArguments_33 : decode cX1_requireArguments 33 = .ok (.goto (-26), 3) := dk_167 255 230 (dk_at dksX1_requireArguments_1 11 rfl rfl)
theorem dX1_requireArguments_36 : decode cX1_requireArguments 36 = .ok (.return_, 1) := dk_177 (dk_at dksX1_requireArguments_1 14 rfl rfl)
abbrev cX1_withdraw : ByteArray := prog_2_method_18_code
def yX1_withdraw : MethodName := ⟨RX1, "withdraw", "(II)I"⟩
def dkwX1_withdraw_5 : List UInt8 := [167, 0, 4, 3, 96, 54, 4, 167, 255, 200, 21, 4, 172]
abbrev dktX1_withdraw_5 : List UInt8 := dkwX1_withdraw_5 ++ []
def dkwX1_withdraw_4 : List UInt8 := [178, 0, 161, 182, 0, 167, 153, 0, 20, 25, 6, 180, 0, 171, 45, 180, 0, 109, 126, 153, 0, 7, 4]
abbrev dktX1_withdraw_4 : List UInt8 := dkwX1_withdraw_4 ++ dktX1_withdraw_5
def dkwX1_withdraw_3 : List UInt8 := [185, 0, 126, 1, 0, 153, 0, 52, 25, 5, 185, 0, 132, 1, 0, 192, 0, 73, 58, 6, 21, 4, 25, 6]
abbrev dktX1_withdraw_3 : List UInt8 := dkwX1_withdraw_3 ++ dktX1_withdraw_4
def dkwX1_withdraw_2 : List UInt8 := [28, 96, 181, 0, 158, 3, 54, 4, 42, 180, 0, 40, 185, 0, 122, 1, 0, 58, 5, 25, 5]
abbrev dktX1_withdraw_2 : List UInt8 := dkwX1_withdraw_2 ++ dktX1_withdraw_3
def dkwX1_withdraw_1 : List UInt8 := [180, 0, 151, 154, 0, 7, 4, 167, 0, 4, 3, 184, 0, 87, 45, 4, 181, 0, 151, 45, 42, 180, 0, 155]
abbrev dktX1_withdraw_1 : List UInt8 := dkwX1_withdraw_1 ++ dktX1_withdraw_2
def dkwX1_withdraw_0 : List UInt8 := [42, 27, 182, 0, 102, 78, 4, 188, 4, 89, 3, 28, 3, 16, 99, 184, 0, 75, 84, 184, 0, 144, 45]
abbrev dktX1_withdraw_0 : List UInt8 := dkwX1_withdraw_0 ++ dktX1_withdraw_1
theorem dksX1_withdraw_0 : cX1_withdraw.data.toList.drop 0 = dktX1_withdraw_0 := by decide +kernel
theorem dksX1_withdraw_1 : cX1_withdraw.data.toList.drop 23 = dktX1_withdraw_1 := dk_seg dksX1_withdraw_0 23 rfl rfl
theorem dksX1_withdraw_2 : cX1_withdraw.data.toList.drop 47 = dktX1_withdraw_2 := dk_seg dksX1_withdraw_1 24 rfl rfl
theorem dksX1_withdraw_3 : cX1_withdraw.data.toList.drop 68 = dktX1_withdraw_3 := dk_seg dksX1_withdraw_2 21 rfl rfl
theorem dksX1_withdraw_4 : cX1_withdraw.data.toList.drop 92 = dktX1_withdraw_4 := dk_seg dksX1_withdraw_3 24 rfl rfl
theorem dksX1_withdraw_5 : cX1_withdraw.data.toList.drop 115 = dktX1_withdraw_5 := dk_seg dksX1_withdraw_4 23 rfl rfl
theorem dX1_withdraw_0 : decode cX1_withdraw 0 = .ok (.aload_n 0, 1) := dk_42 (dk_at dksX1_withdraw_0 0 rfl rfl)
theorem dX1_withdraw_1 : decode cX1_withdraw 1 = .ok (.iload_n 1, 1) := dk_27 (dk_at dksX1_withdraw_0 1 rfl rfl)
theorem dX1_withdraw_2 : decode cX1_withdraw 2 = .ok (.invokevirtual 102, 3) := dk_182 0 102 (dk_at dksX1_withdraw_0 2 rfl rfl)
theorem dX1_withdraw_5 : decode cX1_withdraw 5 = .ok (.astore_n 3, 1) := dk_78 (dk_at dksX1_withdraw_0 5 rfl rfl)
theorem dX1_withdraw_6 : decode cX1_withdraw 6 = .ok (.iconst 1, 1) := dk_4 (dk_at dksX1_withdraw_0 6 rfl rfl)
theorem dX1_withdraw_7 : decode cX1_withdraw 7 = .ok (.newarray .boolean, 2) := dk_188_4 (dk_at dksX1_withdraw_0 7 rfl rfl)
theorem dX1_withdraw_9 : decode cX1_withdraw 9 = .ok (.dup, 1) := dk_89 (dk_at dksX1_withdraw_0 9 rfl rfl)
theorem dX1_withdraw_10 : decode cX1_withdraw 10 = .ok (.iconst 0, 1) := dk_3 (dk_at dksX1_withdraw_0 10 rfl rfl)
theorem dX1_withdraw_11 : decode cX1_withdraw 11 = .ok (.iload_n 2, 1) := dk_28 (dk_at dksX1_withdraw_0 11 rfl rfl)
theorem dX1_withdraw_12 : decode cX1_withdraw 12 = .ok (.iconst 0, 1) := dk_3 (dk_at dksX1_withdraw_0 12 rfl rfl)
theorem dX1_withdraw_13 : decode cX1_withdraw 13 = .ok (.bipush 99, 2) := dk_16 99 (dk_at dksX1_withdraw_0 13 rfl rfl)
theorem dX1_withdraw_15 : decode cX1_withdraw 15 = .ok (.invokestatic 75, 3) := dk_184 0 75 (dk_at dksX1_withdraw_0 15 rfl rfl)
theorem dX1_withdraw_18 : decode cX1_withdraw 18 = .ok (.bastore, 1) := dk_84 (dk_at dksX1_withdraw_0 18 rfl rfl)
theorem dX1_withdraw_19 : decode cX1_withdraw 19 = .ok (.invokestatic 144, 3) := dk_184 0 144 (dk_at dksX1_withdraw_0 19 rfl rfl)
theorem dX1_withdraw_22 : decode cX1_withdraw 22 = .ok (.aload_n 3, 1) := dk_45 (dk_at dksX1_withdraw_0 22 rfl rfl)
theorem dX1_withdraw_23 : decode cX1_withdraw 23 = .ok (.getfield 151, 3) := dk_180 0 151 (dk_at dksX1_withdraw_1 0 rfl rfl)
theorem dX1_withdraw_26 : decode cX1_withdraw 26 = .ok (.ifCond .ne 7, 3) := dk_154 0 7 (dk_at dksX1_withdraw_1 3 rfl rfl)
theorem dX1_withdraw_29 : decode cX1_withdraw 29 = .ok (.iconst 1, 1) := dk_4 (dk_at dksX1_withdraw_1 6 rfl rfl)
theorem dX1_withdraw_30 : decode cX1_withdraw 30 = .ok (.goto 4, 3) := dk_167 0 4 (dk_at dksX1_withdraw_1 7 rfl rfl)
theorem dX1_withdraw_33 : decode cX1_withdraw 33 = .ok (.iconst 0, 1) := dk_3 (dk_at dksX1_withdraw_1 10 rfl rfl)
theorem dX1_withdraw_34 : decode cX1_withdraw 34 = .ok (.invokestatic 87, 3) := dk_184 0 87 (dk_at dksX1_withdraw_1 11 rfl rfl)
theorem dX1_withdraw_37 : decode cX1_withdraw 37 = .ok (.aload_n 3, 1) := dk_45 (dk_at dksX1_withdraw_1 14 rfl rfl)
theorem dX1_withdraw_38 : decode cX1_withdraw 38 = .ok (.iconst 1, 1) := dk_4 (dk_at dksX1_withdraw_1 15 rfl rfl)
theorem dX1_withdraw_39 : decode cX1_withdraw 39 = .ok (.putfield 151, 3) := dk_181 0 151 (dk_at dksX1_withdraw_1 16 rfl rfl)
theorem dX1_withdraw_42 : decode cX1_withdraw 42 = .ok (.aload_n 3, 1) := dk_45 (dk_at dksX1_withdraw_1 19 rfl rfl)
theorem dX1_withdraw_43 : decode cX1_withdraw 43 = .ok (.aload_n 0, 1) := dk_42 (dk_at dksX1_withdraw_1 20 rfl rfl)
theorem dX1_withdraw_44 : decode cX1_withdraw 44 = .ok (.getfield 155, 3) := dk_180 0 155 (dk_at dksX1_withdraw_1 21 rfl rfl)
theorem dX1_withdraw_47 : decode cX1_withdraw 47 = .ok (.iload_n 2, 1) := dk_28 (dk_at dksX1_withdraw_2 0 rfl rfl)
theorem dX1_withdraw_48 : decode cX1_withdraw 48 = .ok (.iadd, 1) := dk_96 (dk_at dksX1_withdraw_2 1 rfl rfl)
theorem dX1_withdraw_49 : decode cX1_withdraw 49 = .ok (.putfield 158, 3) := dk_181 0 158 (dk_at dksX1_withdraw_2 2 rfl rfl)
theorem dX1_withdraw_52 : decode cX1_withdraw 52 = .ok (.iconst 0, 1) := dk_3 (dk_at dksX1_withdraw_2 5 rfl rfl)
theorem dX1_withdraw_53 : decode cX1_withdraw 53 = .ok (.istore 4, 2) := dk_54 4 (dk_at dksX1_withdraw_2 6 rfl rfl)
theorem dX1_withdraw_55 : decode cX1_withdraw 55 = .ok (.aload_n 0, 1) := dk_42 (dk_at dksX1_withdraw_2 8 rfl rfl)
theorem dX1_withdraw_56 : decode cX1_withdraw 56 = .ok (.getfield 40, 3) := dk_180 0 40 (dk_at dksX1_withdraw_2 9 rfl rfl)
theorem dX1_withdraw_59 : decode cX1_withdraw 59 = .ok (.invokeinterface 122 1, 5) := by decide +kernel
theorem dX1_withdraw_64 : decode cX1_withdraw 64 = .ok (.astore 5, 2) := dk_58 5 (dk_at dksX1_withdraw_2 17 rfl rfl)
theorem dX1_withdraw_66 : decode cX1_withdraw 66 = .ok (.aload 5, 2) := dk_25 5 (dk_at dksX1_withdraw_2 19 rfl rfl)
theorem dX1_withdraw_68 : decode cX1_withdraw 68 = .ok (.invokeinterface 126 1, 5) := by decide +kernel
theorem dX1_withdraw_73 : decode cX1_withdraw 73 = .ok (.ifCond .eq 52, 3) := dk_153 0 52 (dk_at dksX1_withdraw_3 5 rfl rfl)
theorem dX1_withdraw_76 : decode cX1_withdraw 76 = .ok (.aload 5, 2) := dk_25 5 (dk_at dksX1_withdraw_3 8 rfl rfl)
theorem dX1_withdraw_78 : decode cX1_withdraw 78 = .ok (.invokeinterface 132 1, 5) := by decide +kernel
theorem dX1_withdraw_83 : decode cX1_withdraw 83 = .ok (.checkcast 73, 3) := dk_192 0 73 (dk_at dksX1_withdraw_3 15 rfl rfl)
theorem dX1_withdraw_86 : decode cX1_withdraw 86 = .ok (.astore 6, 2) := dk_58 6 (dk_at dksX1_withdraw_3 18 rfl rfl)
theorem dX1_withdraw_88 : decode cX1_withdraw 88 = .ok (.iload 4, 2) := dk_21 4 (dk_at dksX1_withdraw_3 20 rfl rfl)
theorem dX1_withdraw_90 : decode cX1_withdraw 90 = .ok (.aload 6, 2) := dk_25 6 (dk_at dksX1_withdraw_3 22 rfl rfl)
theorem dX1_withdraw_92 : decode cX1_withdraw 92 = .ok (.getstatic 161, 3) := dk_178 0 161 (dk_at dksX1_withdraw_4 0 rfl rfl)
theorem dX1_withdraw_95 : decode cX1_withdraw 95 = .ok (.invokevirtual 167, 3) := dk_182 0 167 (dk_at dksX1_withdraw_4 3 rfl rfl)
theorem dX1_withdraw_98 : decode cX1_withdraw 98 = .ok (.ifCond .eq 20, 3) := dk_153 0 20 (dk_at dksX1_withdraw_4 6 rfl rfl)
theorem dX1_withdraw_101 : decode cX1_withdraw 101 = .ok (.aload 6, 2) := dk_25 6 (dk_at dksX1_withdraw_4 9 rfl rfl)
theorem dX1_withdraw_103 : decode cX1_withdraw 103 = .ok (.getfield 171, 3) := dk_180 0 171 (dk_at dksX1_withdraw_4 11 rfl rfl)
theorem dX1_withdraw_106 : decode cX1_withdraw 106 = .ok (.aload_n 3, 1) := dk_45 (dk_at dksX1_withdraw_4 14 rfl rfl)
theorem dX1_withdraw_107 : decode cX1_withdraw 107 = .ok (.getfield 109, 3) := dk_180 0 109 (dk_at dksX1_withdraw_4 15 rfl rfl)
theorem dX1_withdraw_110 : decode cX1_withdraw 110 = .ok (.iand, 1) := dk_126 (dk_at dksX1_withdraw_4 18 rfl rfl)
theorem dX1_withdraw_111 : decode cX1_withdraw 111 = .ok (.ifCond .eq 7, 3) := dk_153 0 7 (dk_at dksX1_withdraw_4 19 rfl rfl)
theorem dX1_withdraw_114 : decode cX1_withdraw 114 = .ok (.iconst 1, 1) := dk_4 (dk_at dksX1_withdraw_4 22 rfl rfl)
theorem dX1_withdraw_115 : decode cX1_withdraw 115 = .ok (.goto 4, 3) := dk_167 0 4 (dk_at dksX1_withdraw_5 0 rfl rfl)
theorem dX1_withdraw_118 : decode cX1_withdraw 118 = .ok (.iconst 0, 1) := dk_3 (dk_at dksX1_withdraw_5 3 rfl rfl)
theorem dX1_withdraw_119 : decode cX1_withdraw 119 = .ok (.iadd, 1) := dk_96 (dk_at dksX1_withdraw_5 4 rfl rfl)
theorem dX1_withdraw_120 : decode cX1_withdraw 120 = .ok (.istore 4, 2) := dk_54 4 (dk_at dksX1_withdraw_5 5 rfl rfl)
theorem dX1_withdraw_122 : decode cX1_withdraw 122 = .ok (.goto (-56), 3) := dk_167 255 200 (dk_at dksX1_withdraw_5 7 rfl rfl)
theorem dX1_withdraw_125 : decode cX1_withdraw 125 = .ok (.iload 4, 2) := dk_21 4 (dk_at dksX1_withdraw_5 10 rfl rfl)
theorem dX1_withdraw_127 : decode cX1_withdraw 127 = .ok (.ireturn, 1) := dk_172 (dk_at dksX1_withdraw_5 12 rfl rfl)
abbrev cX1_isIn : ByteArray := prog_2_method_1_code
def yX1_isIn : MethodName := ⟨RX1, "isIn", "(III)Z"⟩
def dkwX1_isIn_0 : List UInt8 := [27, 26, 163, 0, 12, 26, 28, 163, 0, 7, 4, 167, 0, 4, 3, 172]
abbrev dktX1_isIn_0 : List UInt8 := dkwX1_isIn_0 ++ []
theorem dksX1_isIn_0 : cX1_isIn.data.toList.drop 0 = dktX1_isIn_0 := by decide +kernel
theorem dX1_isIn_0 : decode cX1_isIn 0 = .ok (.iload_n 1, 1) := dk_27 (dk_at dksX1_isIn_0 0 rfl rfl)
theorem dX1_isIn_1 : decode cX1_isIn 1 = .ok (.iload_n 0, 1) := dk_26 (dk_at dksX1_isIn_0 1 rfl rfl)
theorem dX1_isIn_2 : decode cX1_isIn 2 = .ok (.if_icmp .gt 12, 3) := dk_163 0 12 (dk_at dksX1_isIn_0 2 rfl rfl)
theorem dX1_isIn_5 : decode cX1_isIn 5 = .ok (.iload_n 0, 1) := dk_26 (dk_at dksX1_isIn_0 5 rfl rfl)
theorem dX1_isIn_6 : decode cX1_isIn 6 = .ok (.iload_n 2, 1) := dk_28 (dk_at dksX1_isIn_0 6 rfl rfl)
theorem dX1_isIn_7 : decode cX1_isIn 7 = .ok (.if_icmp .gt 7, 3) := dk_163 0 7 (dk_at dksX1_isIn_0 7 rfl rfl)
theorem dX1_isIn_10 : decode cX1_isIn 10 = .ok (.iconst 1, 1) := dk_4 (dk_at dksX1_isIn_0 10 rfl rfl)
theorem dX1_isIn_11 : decode cX1_isIn 11 = .ok (.goto 4, 3) := dk_167 0 4 (dk_at dksX1_isIn_0 11 rfl rfl)
theorem dX1_isIn_14 : decode cX1_isIn 14 = .ok (.iconst 0, 1) := dk_3 (dk_at dksX1_isIn_0 14 rfl rfl)
theorem dX1_isIn_15 : decode cX1_isIn 15 = .ok (.ireturn, 1) := dk_172 (dk_at dksX1_isIn_0 15 rfl rfl)
abbrev cX1_addHost : ByteArray := prog_2_method_19_code
def yX1_addHost : MethodName := ⟨RX1, "addHost", "(LNeed;)I"⟩
def dkwX1_addHost_3 : List UInt8 := [185, 0, 94, 2, 0, 87, 42, 180, 0, 46, 180, 0, 68, 185, 0, 50, 1, 0, 4, 100, 172]
abbrev dktX1_addHost_3 : List UInt8 := dkwX1_addHost_3 ++ []
def dkwX1_addHost_2 : List UInt8 := [180, 0, 68, 187, 0, 71, 89, 42, 180, 0, 46, 180, 0, 68, 185, 0, 50, 1, 0, 43, 183, 0, 177]
abbrev dktX1_addHost_2 : List UInt8 := dkwX1_addHost_2 ++ dktX1_addHost_3
def dkwX1_addHost_1 : List UInt8 := [180, 0, 68, 185, 0, 50, 1, 0, 7, 162, 0, 7, 4, 167, 0, 4, 3, 184, 0, 87, 42, 180, 0, 46]
abbrev dktX1_addHost_1 : List UInt8 := dkwX1_addHost_1 ++ dktX1_addHost_2
def dkwX1_addHost_0 : List UInt8 := [4, 188, 4, 89, 3, 43, 16, 32, 17, 1, 0, 184, 0, 173, 84, 184, 0, 144, 42, 180, 0, 46]
abbrev dktX1_addHost_0 : List UInt8 := dkwX1_addHost_0 ++ dktX1_addHost_1
theorem dksX1_addHost_0 : cX1_addHost.data.toList.drop 0 = dktX1_addHost_0 := by decide +kernel
theorem dksX1_addHost_1 : cX1_addHost.data.toList.drop 22 = dktX1_addHost_1 := dk_seg dksX1_addHost_0 22 rfl rfl
theorem dksX1_addHost_2 : cX1_addHost.data.toList.drop 46 = dktX1_addHost_2 := dk_seg dksX1_addHost_1 24 rfl rfl
theorem dksX1_addHost_3 : cX1_addHost.data.toList.drop 69 = dktX1_addHost_3 := dk_seg dksX1_addHost_2 23 rfl rfl
theorem dX1_addHost_0 : decode cX1_addHost 0 = .ok (.iconst 1, 1) := dk_4 (dk_at dksX1_addHost_0 0 rfl rfl)
theorem dX1_addHost_1 : decode cX1_addHost 1 = .ok (.newarray .boolean, 2) := dk_188_4 (dk_at dksX1_addHost_0 1 rfl rfl)
theorem dX1_addHost_3 : decode cX1_addHost 3 = .ok (.dup, 1) := dk_89 (dk_at dksX1_addHost_0 3 rfl rfl)
theorem dX1_addHost_4 : decode cX1_addHost 4 = .ok (.iconst 0, 1) := dk_3 (dk_at dksX1_addHost_0 4 rfl rfl)
theorem dX1_addHost_5 : decode cX1_addHost 5 = .ok (.aload_n 1, 1) := dk_43 (dk_at dksX1_addHost_0 5 rfl rfl)
theorem dX1_addHost_6 : decode cX1_addHost 6 = .ok (.bipush 32, 2) := dk_16 32 (dk_at dksX1_addHost_0 6 rfl rfl)
theorem dX1_addHost_8 : decode cX1_addHost 8 = .ok (.sipush 256, 3) := dk_17 1 0 (dk_at dksX1_addHost_0 8 rfl rfl)
theorem dX1_addHost_11 : decode cX1_addHost 11 = .ok (.invokestatic 173, 3) := dk_184 0 173 (dk_at dksX1_addHost_0 11 rfl rfl)
theorem dX1_addHost_14 : decode cX1_addHost 14 = .ok (.bastore, 1) := dk_84 (dk_at dksX1_addHost_0 14 rfl rfl)
theorem dX1_addHost_15 : decode cX1_addHost 15 = .ok (.invokestatic 144, 3) := dk_184 0 144 (dk_at dksX1_addHost_0 15 rfl rfl)
theorem dX1_addHost_18 : decode cX1_addHost 18 = .ok (.aload_n 0, 1) := dk_42 (dk_at dksX1_addHost_0 18 rfl rfl)
theorem dX1_addHost_19 : decode cX1_addHost 19 = .ok (.getfield 46, 3) := dk_180 0 46 (dk_at dksX1_addHost_0 19 rfl rfl)
theorem dX1_addHost_22 : decode cX1_addHost 22 = .ok (.getfield 68, 3) := dk_180 0 68 (dk_at dksX1_addHost_1 0 rfl rfl)
theorem dX1_addHost_25 : decode cX1_addHost 25 = .ok (.invokeinterface 50 1, 5) := by decide +kernel
theorem dX1_addHost_30 : decode cX1_addHost 30 = .ok (.iconst 4, 1) := dk_7 (dk_at dksX1_addHost_1 8 rfl rfl)
theorem dX1_addHost_31 : decode cX1_addHost 31 = .ok (.if_icmp .ge 7, 3) := dk_162 0 7 (dk_at dksX1_addHost_1 9 rfl rfl)
theorem dX1_addHost_34 : decode cX1_addHost 34 = .ok (.iconst 1, 1) := dk_4 (dk_at dksX1_addHost_1 12 rfl rfl)
theorem dX1_addHost_35 : decode cX1_addHost 35 = .ok (.goto 4, 3) := dk_167 0 4 (dk_at dksX1_addHost_1 13 rfl rfl)
theorem dX1_addHost_38 : decode cX1_addHost 38 = .ok (.iconst 0, 1) := dk_3 (dk_at dksX1_addHost_1 16 rfl rfl)
theorem dX1_addHost_39 : decode cX1_addHost 39 = .ok (.invokestatic 87, 3) := dk_184 0 87 (dk_at dksX1_addHost_1 17 rfl rfl)
theorem dX1_addHost_42 : decode cX1_addHost 42 = .ok (.aload_n 0, 1) := dk_42 (dk_at dksX1_addHost_1 20 rfl rfl)
theorem dX1_addHost_43 : decode cX1_addHost 43 = .ok (.getfield 46, 3) := dk_180 0 46 (dk_at dksX1_addHost_1 21 rfl rfl)
theorem dX1_addHost_46 : decode cX1_addHost 46 = .ok (.getfield 68, 3) := dk_180 0 68 (dk_at dksX1_addHost_2 0 rfl rfl)
theorem dX1_addHost_49 : decode cX1_addHost 49 = .ok (.new 71, 3) := dk_187 0 71 (dk_at dksX1_addHost_2 3 rfl rfl)
theorem dX1_addHost_52 : decode cX1_addHost 52 = .ok (.dup, 1) := dk_89 (dk_at dksX1_addHost_2 6 rfl rfl)
theorem dX1_addHost_53 : decode cX1_addHost 53 = .ok (.aload_n 0, 1) := dk_42 (dk_at dksX1_addHost_2 7 rfl rfl)
theorem dX1_addHost_54 : decode cX1_addHost 54 = .ok (.getfield 46, 3) := dk_180 0 46 (dk_at dksX1_addHost_2 8 rfl rfl)
theorem dX1_addHost_57 : decode cX1_addHost 57 = .ok (.getfield 68, 3) := dk_180 0 68 (dk_at dksX1_addHost_2 11 rfl rfl)
theorem dX1_addHost_60 : decode cX1_addHost 60 = .ok (.invokeinterface 50 1, 5) := by decide +kernel
theorem dX1_addHost_65 : decode cX1_addHost 65 = .ok (.aload_n 1, 1) := dk_43 (dk_at dksX1_addHost_2 19 rfl rfl)
theorem dX1_addHost_66 : decode cX1_addHost 66 = .ok (.invokespecial 177, 3) := dk_183 0 177 (dk_at dksX1_addHost_2 20 rfl rfl)
theorem dX1_addHost_69 : decode cX1_addHost 69 = .ok (.invokeinterface 94 2, 5) := by decide +kernel
theorem dX1_addHost_74 : decode cX1_addHost 74 = .ok (.pop, 1) := dk_87 (dk_at dksX1_addHost_3 5 rfl rfl)
theorem dX1_addHost_75 : decode cX1_addHost 75 = .ok (.aload_n 0, 1) := dk_42 (dk_at dksX1_addHost_3 6 rfl rfl)
theorem dX1_addHost_76 : decode cX1_addHost 76 = .ok (.getfield 46, 3) := dk_180 0 46 (dk_at dksX1_addHost_3 7 rfl rfl)
theorem dX1_addHost_79 : decode cX1_addHost 79 = .ok (.getfield 68, 3) := dk_180 0 68 (dk_at dksX1_addHost_3 10 rfl rfl)
theorem dX1_addHost_82 : decode cX1_addHost 82 = .ok (.invokeinterface 50 1, 5) := by decide +kernel
theorem dX1_addHost_87 : decode cX1_addHost 87 = .ok (.iconst 1, 1) := dk_4 (dk_at dksX1_addHost_3 18 rfl rfl)
theorem dX1_addHost_88 : decode cX1_addHost 88 = .ok (.isub, 1) := dk_100 (dk_at dksX1_addHost_3 19 rfl rfl)
theorem dX1_addHost_89 : decode cX1_addHost 89 = .ok (.ireturn, 1) := dk_172 (dk_at dksX1_addHost_3 20 rfl rfl)
abbrev cX1_isNeed : ByteArray := prog_2_method_14_code
def yX1_isNeed : MethodName := ⟨RX1, "isNeed", "(LNeed;II)Z"⟩
def dkwX1_isNeed_1 : List UInt8 := [4, 167, 0, 4, 3, 172]
abbrev dktX1_isNeed_1 : List UInt8 := dkwX1_isNeed_1 ++ []
def dkwX1_isNeed_0 : List UInt8 := [42, 182, 0, 79, 4, 27, 184, 0, 75, 153, 0, 19, 42, 182, 0, 84, 4, 28, 184, 0, 75, 153, 0, 7]
abbrev dktX1_isNeed_0 : List UInt8 := dkwX1_isNeed_0 ++ dktX1_isNeed_1
theorem dksX1_isNeed_0 : cX1_isNeed.data.toList.drop 0 = dktX1_isNeed_0 := by decide +kernel
theorem dksX1_isNeed_1 : cX1_isNeed.data.toList.drop 24 = dktX1_isNeed_1 := dk_seg dksX1_isNeed_0 24 rfl rfl
theorem dX1_isNeed_0 : decode cX1_isNeed 0 = .ok (.aload_n 0, 1) := dk_42 (dk_at dksX1_isNeed_0 0 rfl rfl)
theorem dX1_isNeed_1 : decode cX1_isNeed 1 = .ok (.invokevirtual 79, 3) := dk_182 0 79 (dk_at dksX1_isNeed_0 1 rfl rfl)
theorem dX1_isNeed_4 : decode cX1_isNeed 4 = .ok (.iconst 1, 1) := dk_4 (dk_at dksX1_isNeed_0 4 rfl rfl)
theorem dX1_isNeed_5 : decode cX1_isNeed 5 = .ok (.iload_n 1, 1) := dk_27 (dk_at dksX1_isNeed_0 5 rfl rfl)
theorem dX1_isNeed_6 : decode cX1_isNeed 6 = .ok (.invokestatic 75, 3) := dk_184 0 75 (dk_at dksX1_isNeed_0 6 rfl rfl)
theorem dX1_isNeed_9 : decode cX1_isNeed 9 = .ok (.ifCond .eq 19, 3) := dk_153 0 19 (dk_at dksX1_isNeed_0 9 rfl rfl)
theorem dX1_isNeed_12 : decode cX1_isNeed 12 = .ok (.aload_n 0, 1) := dk_42 (dk_at dksX1_isNeed_0 12 rfl rfl)
theorem dX1_isNeed_13 : decode cX1_isNeed 13 = .ok (.invokevirtual 84, 3) := dk_182 0 84 (dk_at dksX1_isNeed_0 13 rfl rfl)
theorem dX1_isNeed_16 : decode cX1_isNeed 16 = .ok (.iconst 1, 1) := dk_4 (dk_at dksX1_isNeed_0 16 rfl rfl)
theorem dX1_isNeed_17 : decode cX1_isNeed 17 = .ok (.iload_n 2, 1) := dk_28 (dk_at dksX1_isNeed_0 17 rfl rfl)
theorem dX1_isNeed_18 : decode cX1_isNeed 18 = .ok (.invokestatic 75, 3) := dk_184 0 75 (dk_at dksX1_isNeed_0 18 rfl rfl)
theorem dX1_isNeed_21 : decode cX1_isNeed 21 = .ok (.ifCond .eq 7, 3) := dk_153 0 7 (dk_at dksX1_isNeed_0 21 rfl rfl)
theorem dX1_isNeed_24 : decode cX1_isNeed 24 = .ok (.iconst 1, 1) := dk_4 (dk_at dksX1_isNeed_1 0 rfl rfl)
theorem dX1_isNeed_25 : decode cX1_isNeed 25 = .ok (.goto 4, 3) := dk_167 0 4 (dk_at dksX1_isNeed_1 1 rfl rfl)
theorem dX1_isNeed_28 : decode cX1_isNeed 28 = .ok (.iconst 0, 1) := dk_3 (dk_at dksX1_isNeed_1 4 rfl rfl)
theorem dX1_isNeed_29 : decode cX1_isNeed 29 = .ok (.ireturn, 1) := dk_172 (dk_at dksX1_isNeed_1 5 rfl rfl)
abbrev cX1_addWindow : ByteArray := prog_2_method_20_code
def yX1_addWindow : MethodName := ⟨RX1, "addWindow", "(LWindow;)I"⟩
def dkwX1_addWindow_4 : List UInt8 := [100, 172]
abbrev dktX1_addWindow_4 : List UInt8 := dkwX1_addWindow_4 ++ []
def dkwX1_addWindow_3 : List UInt8 := [187, 0, 195, 89, 43, 183, 0, 197, 185, 0, 94, 2, 0, 87, 42, 180, 0, 37, 185, 0, 50, 1, 0, 4]
abbrev dktX1_addWindow_3 : List UInt8 := dkwX1_addWindow_3 ++ dktX1_addWindow_4
def dkwX1_addWindow_2 : List UInt8 := [185, 0, 50, 1, 0, 16, 6, 162, 0, 7, 4, 167, 0, 4, 3, 184, 0, 87, 42, 180, 0, 37]
abbrev dktX1_addWindow_2 : List UInt8 := dkwX1_addWindow_2 ++ dktX1_addWindow_3
def dkwX1_addWindow_1 : List UInt8 := [16, 24, 184, 0, 75, 84, 89, 5, 43, 182, 0, 188, 184, 0, 191, 84, 184, 0, 144, 42, 180, 0, 37]
abbrev dktX1_addWindow_1 : List UInt8 := dkwX1_addWindow_1 ++ dktX1_addWindow_2
def dkwX1_addWindow_0 : List UInt8 := [6, 188, 4, 89, 3, 43, 182, 0, 180, 3, 16, 23, 184, 0, 75, 84, 89, 4, 43, 182, 0, 185, 4]
abbrev dktX1_addWindow_0 : List UInt8 := dkwX1_addWindow_0 ++ dktX1_addWindow_1
theorem dksX1_addWindow_0 : cX1_addWindow.data.toList.drop 0 = dktX1_addWindow_0 := by decide +kernel
theorem dksX1_addWindow_1 : cX1_addWindow.data.toList.drop 23 = dktX1_addWindow_1 := dk_seg dksX1_addWindow_0 23 rfl rfl
theorem dksX1_addWindow_2 : cX1_addWindow.data.toList.drop 46 = dktX1_addWindow_2 := dk_seg dksX1_addWindow_1 23 rfl rfl
theorem dksX1_addWindow_3 : cX1_addWindow.data.toList.drop 68 = dktX1_addWindow_3 := dk_seg dksX1_addWindow_2 22 rfl rfl
theorem dksX1_addWindow_4 : cX1_addWindow.data.toList.drop 92 = dktX1_addWindow_4 := dk_seg dksX1_addWindow_3 24 rfl rfl
theorem dX1_addWindow_0 : decode cX1_addWindow 0 = .ok (.iconst 3, 1) := dk_6 (dk_at dksX1_addWindow_0 0 rfl rfl)
theorem dX1_addWindow_1 : decode cX1_addWindow 1 = .ok (.newarray .boolean, 2) := dk_188_4 (dk_at dksX1_addWindow_0 1 rfl rfl)
theorem dX1_addWindow_3 : decode cX1_addWindow 3 = .ok (.dup, 1) := dk_89 (dk_at dksX1_addWindow_0 3 rfl rfl)
theorem dX1_addWindow_4 : decode cX1_addWindow 4 = .ok (.iconst 0, 1) := dk_3 (dk_at dksX1_addWindow_0 4 rfl rfl)
theorem dX1_addWindow_5 : decode cX1_addWindow 5 = .ok (.aload_n 1, 1) := dk_43 (dk_at dksX1_addWindow_0 5 rfl rfl)
theorem dX1_addWindow_6 : decode cX1_addWindow 6 = .ok (.invokevirtual 180, 3) := dk_182 0 180 (dk_at dksX1_addWindow_0 6 rfl rfl)
theorem dX1_addWindow_9 : decode cX1_addWindow 9 = .ok (.iconst 0, 1) := dk_3 (dk_at dksX1_addWindow_0 9 rfl rfl)
theorem dX1_addWindow_10 : decode cX1_addWindow 10 = .ok (.bipush 23, 2) := dk_16 23 (dk_at dksX1_addWindow_0 10 rfl rfl)
theorem dX1_addWindow_12 : decode cX1_addWindow 12 = .ok (.invokestatic 75, 3) := dk_184 0 75 (dk_at dksX1_addWindow_0 12 rfl rfl)
theorem dX1_addWindow_15 : decode cX1_addWindow 15 = .ok (.bastore, 1) := dk_84 (dk_at dksX1_addWindow_0 15 rfl rfl)
theorem dX1_addWindow_16 : decode cX1_addWindow 16 = .ok (.dup, 1) := dk_89 (dk_at dksX1_addWindow_0 16 rfl rfl)
theorem dX1_addWindow_17 : decode cX1_addWindow 17 = .ok (.iconst 1, 1) := dk_4 (dk_at dksX1_addWindow_0 17 rfl rfl)
theorem dX1_addWindow_18 : decode cX1_addWindow 18 = .ok (.aload_n 1, 1) := dk_43 (dk_at dksX1_addWindow_0 18 rfl rfl)
theorem dX1_addWindow_19 : decode cX1_addWindow 19 = .ok (.invokevirtual 185, 3) := dk_182 0 185 (dk_at dksX1_addWindow_0 19 rfl rfl)
theorem dX1_addWindow_22 : decode cX1_addWindow 22 = .ok (.iconst 1, 1) := dk_4 (dk_at dksX1_addWindow_0 22 rfl rfl)
theorem dX1_addWindow_23 : decode cX1_addWindow 23 = .ok (.bipush 24, 2) := dk_16 24 (dk_at dksX1_addWindow_1 0 rfl rfl)
theorem dX1_addWindow_25 : decode cX1_addWindow 25 = .ok (.invokestatic 75, 3) := dk_184 0 75 (dk_at dksX1_addWindow_1 2 rfl rfl)
theorem dX1_addWindow_28 : decode cX1_addWindow 28 = .ok (.bastore, 1) := dk_84 (dk_at dksX1_addWindow_1 5 rfl rfl)
theorem dX1_addWindow_29 : decode cX1_addWindow 29 = .ok (.dup, 1) := dk_89 (dk_at dksX1_addWindow_1 6 rfl rfl)
theorem dX1_addWindow_30 : decode cX1_addWindow 30 = .ok (.iconst 2, 1) := dk_5 (dk_at dksX1_addWindow_1 7 rfl rfl)
theorem dX1_addWindow_31 : decode cX1_addWindow 31 = .ok (.aload_n 1, 1) := dk_43 (dk_at dksX1_addWindow_1 8 rfl rfl)
theorem dX1_addWindow_32 : decode cX1_addWindow 32 = .ok (.invokevirtual 188, 3) := dk_182 0 188 (dk_at dksX1_addWindow_1 9 rfl rfl)
theorem dX1_addWindow_35 : decode cX1_addWindow 35 = .ok (.invokestatic 191, 3) := dk_184 0 191 (dk_at dksX1_addWindow_1 12 rfl rfl)
theorem dX1_addWindow_38 : decode cX1_addWindow 38 = .ok (.bastore, 1) := dk_84 (dk_at dksX1_addWindow_1 15 rfl rfl)
theorem dX1_addWindow_39 : decode cX1_addWindow 39 = .ok (.invokestatic 144, 3) := dk_184 0 144 (dk_at dksX1_addWindow_1 16 rfl rfl)
theorem dX1_addWindow_42 : decode cX1_addWindow 42 = .ok (.aload_n 0, 1) := dk_42 (dk_at dksX1_addWindow_1 19 rfl rfl)
theorem dX1_addWindow_43 : decode cX1_addWindow 43 = .ok (.getfield 37, 3) := dk_180 0 37 (dk_at dksX1_addWindow_1 20 rfl rfl)
theorem dX1_addWindow_46 : decode cX1_addWindow 46 = .ok (.invokeinterface 50 1, 5) := by decide +kernel
theorem dX1_addWindow_51 : decode cX1_addWindow 51 = .ok (.bipush 6, 2) := dk_16 6 (dk_at dksX1_addWindow_2 5 rfl rfl)
theorem dX1_addWindow_53 : decode cX1_addWindow 53 = .ok (.if_icmp .ge 7, 3) := dk_162 0 7 (dk_at dksX1_addWindow_2 7 rfl rfl)
theorem dX1_addWindow_56 : decode cX1_addWindow 56 = .ok (.iconst 1, 1) := dk_4 (dk_at dksX1_addWindow_2 10 rfl rfl)
theorem dX1_addWindow_57 : decode cX1_addWindow 57 = .ok (.goto 4, 3) := dk_167 0 4 (dk_at dksX1_addWindow_2 11 rfl rfl)
theorem dX1_addWindow_60 : decode cX1_addWindow 60 = .ok (.iconst 0, 1) := dk_3 (dk_at dksX1_addWindow_2 14 rfl rfl)
theorem dX1_addWindow_61 : decode cX1_addWindow 61 = .ok (.invokestatic 87, 3) := dk_184 0 87 (dk_at dksX1_addWindow_2 15 rfl rfl)
theorem dX1_addWindow_64 : decode cX1_addWindow 64 = .ok (.aload_n 0, 1) := dk_42 (dk_at dksX1_addWindow_2 18 rfl rfl)
theorem dX1_addWindow_65 : decode cX1_addWindow 65 = .ok (.getfield 37, 3) := dk_180 0 37 (dk_at dksX1_addWindow_2 19 rfl rfl)
theorem dX1_addWindow_68 : decode cX1_addWindow 68 = .ok (.new 195, 3) := dk_187 0 195 (dk_at dksX1_addWindow_3 0 rfl rfl)
theorem dX1_addWindow_71 : decode cX1_addWindow 71 = .ok (.dup, 1) := dk_89 (dk_at dksX1_addWindow_3 3 rfl rfl)
theorem dX1_addWindow_72 : decode cX1_addWindow 72 = .ok (.aload_n 1, 1) := dk_43 (dk_at dksX1_addWindow_3 4 rfl rfl)
theorem dX1_addWindow_73 : decode cX1_addWindow 73 = .ok (.invokespecial 197, 3) := dk_183 0 197 (dk_at dksX1_addWindow_3 5 rfl rfl)
theorem dX1_addWindow_76 : decode cX1_addWindow 76 = .ok (.invokeinterface 94 2, 5) := by decide +kernel
theorem dX1_addWindow_81 : decode cX1_addWindow 81 = .ok (.pop, 1) := dk_87 (dk_at dksX1_addWindow_3 13 rfl rfl)
theorem dX1_addWindow_82 : decode cX1_addWindow 82 = .ok (.aload_n 0, 1) := dk_42 (dk_at dksX1_addWindow_3 14 rfl rfl)
theorem dX1_addWindow_83 : decode cX1_addWindow 83 = .ok (.getfield 37, 3) := dk_180 0 37 (dk_at dksX1_addWindow_3 15 rfl rfl)
theorem dX1_addWindow_86 : decode cX1_addWindow 86 = .ok (.invokeinterface 50 1, 5) := by decide +kernel
theorem dX1_addWindow_91 : decode cX1_addWindow 91 = .ok (.iconst 1, 1) := dk_4 (dk_at dksX1_addWindow_3 23 rfl rfl)
theorem dX1_addWindow_92 : decode cX1_addWindow 92 = .ok (.isub, 1) := dk_100 (dk_at dksX1_addWindow_4 0 rfl rfl)
theorem dX1_addWindow_93 : decode cX1_addWindow 93 = .ok (.ireturn, 1) := dk_172 (dk_at dksX1_addWindow_4 1 rfl rfl)
abbrev cX1_isTenant : ByteArray := prog_2_method_13_code
def yX1_isTenant : MethodName := ⟨RX1, "isTenant", "(I)Z"⟩
def dkwX1_isTenant_0 : List UInt8 := [26, 3, 6, 184, 0, 75, 172]
abbrev dktX1_isTenant_0 : List UInt8 := dkwX1_isTenant_0 ++ []
theorem dksX1_isTenant_0 : cX1_isTenant.data.toList.drop 0 = dktX1_isTenant_0 := by decide +kernel
theorem dX1_isTenant_0 : decode cX1_isTenant 0 = .ok (.iload_n 0, 1) := dk_26 (dk_at dksX1_isTenant_0 0 rfl rfl)
theorem dX1_isTenant_1 : decode cX1_isTenant 1 = .ok (.iconst 0, 1) := dk_3 (dk_at dksX1_isTenant_0 1 rfl rfl)
theorem dX1_isTenant_2 : decode cX1_isTenant 2 = .ok (.iconst 3, 1) := dk_6 (dk_at dksX1_isTenant_0 2 rfl rfl)
theorem dX1_isTenant_3 : decode cX1_isTenant 3 = .ok (.invokestatic 75, 3) := dk_184 0 75 (dk_at dksX1_isTenant_0 3 rfl rfl)
theorem dX1_isTenant_6 : decode cX1_isTenant 6 = .ok (.ireturn, 1) := dk_172 (dk_at dksX1_isTenant_0 6 rfl rfl)
abbrev cX1_lend : ByteArray := prog_2_method_21_code
def yX1_lend : MethodName := ⟨RX1, "lend", "(II)I"⟩
def dkwX1_lend_2 : List UInt8 := [28, 181, 0, 200, 21, 4, 172]
abbrev dktX1_lend_2 : List UInt8 := dkwX1_lend_2 ++ []
def dkwX1_lend_1 : List UInt8 := [184, 0, 144, 42, 180, 0, 37, 27, 185, 0, 60, 2, 0, 192, 0, 195, 78, 45, 180, 0, 200, 54, 4, 45]
abbrev dktX1_lend_1 : List UInt8 := dkwX1_lend_1 ++ dktX1_lend_2
def dkwX1_lend_0 : List UInt8 := [27, 42, 180, 0, 37, 185, 0, 50, 1, 0, 184, 0, 56, 4, 188, 4, 89, 3, 28, 184, 0, 191, 84]
abbrev dktX1_lend_0 : List UInt8 := dkwX1_lend_0 ++ dktX1_lend_1
theorem dksX1_lend_0 : cX1_lend.data.toList.drop 0 = dktX1_lend_0 := by decide +kernel
theorem dksX1_lend_1 : cX1_lend.data.toList.drop 23 = dktX1_lend_1 := dk_seg dksX1_lend_0 23 rfl rfl
theorem dksX1_lend_2 : cX1_lend.data.toList.drop 47 = dktX1_lend_2 := dk_seg dksX1_lend_1 24 rfl rfl
theorem dX1_lend_0 : decode cX1_lend 0 = .ok (.iload_n 1, 1) := dk_27 (dk_at dksX1_lend_0 0 rfl rfl)
theorem dX1_lend_1 : decode cX1_lend 1 = .ok (.aload_n 0, 1) := dk_42 (dk_at dksX1_lend_0 1 rfl rfl)
theorem dX1_lend_2 : decode cX1_lend 2 = .ok (.getfield 37, 3) := dk_180 0 37 (dk_at dksX1_lend_0 2 rfl rfl)
theorem dX1_lend_5 : decode cX1_lend 5 = .ok (.invokeinterface 50 1, 5) := by decide +kernel
theorem dX1_lend_10 : decode cX1_lend 10 = .ok (.invokestatic 56, 3) := dk_184 0 56 (dk_at dksX1_lend_0 10 rfl rfl)
theorem dX1_lend_13 : decode cX1_lend 13 = .ok (.iconst 1, 1) := dk_4 (dk_at dksX1_lend_0 13 rfl rfl)
theorem dX1_lend_14 : decode cX1_lend 14 = .ok (.newarray .boolean, 2) := dk_188_4 (dk_at dksX1_lend_0 14 rfl rfl)
theorem dX1_lend_16 : decode cX1_lend 16 = .ok (.dup, 1) := dk_89 (dk_at dksX1_lend_0 16 rfl rfl)
theorem dX1_lend_17 : decode cX1_lend 17 = .ok (.iconst 0, 1) := dk_3 (dk_at dksX1_lend_0 17 rfl rfl)
theorem dX1_lend_18 : decode cX1_lend 18 = .ok (.iload_n 2, 1) := dk_28 (dk_at dksX1_lend_0 18 rfl rfl)
theorem dX1_lend_19 : decode cX1_lend 19 = .ok (.invokestatic 191, 3) := dk_184 0 191 (dk_at dksX1_lend_0 19 rfl rfl)
theorem dX1_lend_22 : decode cX1_lend 22 = .ok (.bastore, 1) := dk_84 (dk_at dksX1_lend_0 22 rfl rfl)
theorem dX1_lend_23 : decode cX1_lend 23 = .ok (.invokestatic 144, 3) := dk_184 0 144 (dk_at dksX1_lend_1 0 rfl rfl)
theorem dX1_lend_26 : decode cX1_lend 26 = .ok (.aload_n 0, 1) := dk_42 (dk_at dksX1_lend_1 3 rfl rfl)
theorem dX1_lend_27 : decode cX1_lend 27 = .ok (.getfield 37, 3) := dk_180 0 37 (dk_at dksX1_lend_1 4 rfl rfl)
theorem dX1_lend_30 : decode cX1_lend 30 = .ok (.iload_n 1, 1) := dk_27 (dk_at dksX1_lend_1 7 rfl rfl)
theorem dX1_lend_31 : decode cX1_lend 31 = .ok (.invokeinterface 60 2, 5) := by decide +kernel
theorem dX1_lend_36 : decode cX1_lend 36 = .ok (.checkcast 195, 3) := dk_192 0 195 (dk_at dksX1_lend_1 13 rfl rfl)
theorem dX1_lend_39 : decode cX1_lend 39 = .ok (.astore_n 3, 1) := dk_78 (dk_at dksX1_lend_1 16 rfl rfl)
theorem dX1_lend_40 : decode cX1_lend 40 = .ok (.aload_n 3, 1) := dk_45 (dk_at dksX1_lend_1 17 rfl rfl)
theorem dX1_lend_41 : decode cX1_lend 41 = .ok (.getfield 200, 3) := dk_180 0 200 (dk_at dksX1_lend_1 18 rfl rfl)
theorem dX1_lend_44 : decode cX1_lend 44 = .ok (.istore 4, 2) := dk_54 4 (dk_at dksX1_lend_1 21 rfl rfl)
theorem dX1_lend_46 : decode cX1_lend 46 = .ok (.aload_n 3, 1) := dk_45 (dk_at dksX1_lend_1 23 rfl rfl)
theorem dX1_lend_47 : decode cX1_lend 47 = .ok (.iload_n 2, 1) := dk_28 (dk_at dksX1_lend_2 0 rfl rfl)
theorem dX1_lend_48 : decode cX1_lend 48 = .ok (.putfield 200, 3) := dk_181 0 200 (dk_at dksX1_lend_2 1 rfl rfl)
theorem dX1_lend_51 : decode cX1_lend 51 = .ok (.iload 4, 2) := dk_21 4 (dk_at dksX1_lend_2 4 rfl rfl)
theorem dX1_lend_53 : decode cX1_lend 53 = .ok (.ireturn, 1) := dk_172 (dk_at dksX1_lend_2 6 rfl rfl)
abbrev cX1_setLicence : ByteArray := prog_2_method_22_code
def yX1_setLicence : MethodName := ⟨RX1, "setLicence", "(I)I"⟩
def dkwX1_setLicence_4 : List UInt8 := [182, 0, 211, 132, 2, 1, 132, 3, 255, 167, 255, 194, 28, 172]
abbrev dktX1_setLicence_4 : List UInt8 := dkwX1_setLicence_4 ++ []
def dkwX1_setLicence_3 : List UInt8 := [182, 0, 167, 153, 0, 25, 42, 180, 0, 40, 29, 185, 0, 60, 2, 0, 192, 0, 73, 178, 0, 208]
abbrev dktX1_setLicence_3 : List UInt8 := dkwX1_setLicence_3 ++ dktX1_setLicence_4
def dkwX1_setLicence_2 : List UInt8 := [180, 0, 205, 27, 164, 0, 53, 42, 180, 0, 40, 29, 185, 0, 60, 2, 0, 192, 0, 73, 178, 0, 161]
abbrev dktX1_setLicence_2 : List UInt8 := dkwX1_setLicence_2 ++ dktX1_setLicence_3
def dkwX1_setLicence_1 : List UInt8 := [3, 61, 42, 180, 0, 40, 185, 0, 50, 1, 0, 4, 100, 62, 29, 155, 0, 64, 42, 180, 0, 46]
abbrev dktX1_setLicence_1 : List UInt8 := dkwX1_setLicence_1 ++ dktX1_setLicence_2
def dkwX1_setLicence_0 : List UInt8 := [4, 188, 4, 89, 3, 27, 3, 16, 99, 184, 0, 75, 84, 184, 0, 144, 42, 180, 0, 46, 27, 181, 0, 202]
abbrev dktX1_setLicence_0 : List UInt8 := dkwX1_setLicence_0 ++ dktX1_setLicence_1
theorem dksX1_setLicence_0 : cX1_setLicence.data.toList.drop 0 = dktX1_setLicence_0 := by decide +kernel
theorem dksX1_setLicence_1 : cX1_setLicence.data.toList.drop 24 = dktX1_setLicence_1 := dk_seg dksX1_setLicence_0 24 rfl rfl
theorem dksX1_setLicence_2 : cX1_setLicence.data.toList.drop 46 = dktX1_setLicence_2 := dk_seg dksX1_setLicence_1 22 rfl rfl
theorem dksX1_setLicence_3 : cX1_setLicence.data.toList.drop 69 = dktX1_setLicence_3 := dk_seg dksX1_setLicence_2 23 rfl rfl
theorem dksX1_setLicence_4 : cX1_setLicence.data.toList.drop 91 = dktX1_setLicence_4 := dk_seg dksX1_setLicence_3 22 rfl rfl
theorem dX1_setLicence_0 : decode cX1_setLicence 0 = .ok (.iconst 1, 1) := dk_4 (dk_at dksX1_setLicence_0 0 rfl rfl)
theorem dX1_setLicence_1 : decode cX1_setLicence 1 = .ok (.newarray .boolean, 2) := dk_188_4 (dk_at dksX1_setLicence_0 1 rfl rfl)
theorem dX1_setLicence_3 : decode cX1_setLicence 3 = .ok (.dup, 1) := dk_89 (dk_at dksX1_setLicence_0 3 rfl rfl)
theorem dX1_setLicence_4 : decode cX1_setLicence 4 = .ok (.iconst 0, 1) := dk_3 (dk_at dksX1_setLicence_0 4 rfl rfl)
theorem dX1_setLicence_5 : decode cX1_setLicence 5 = .ok (.iload_n 1, 1) := dk_27 (dk_at dksX1_setLicence_0 5 rfl rfl)
theorem dX1_setLicence_6 : decode cX1_setLicence 6 = .ok (.iconst 0, 1) := dk_3 (dk_at dksX1_setLicence_0 6 rfl rfl)
theorem dX1_setLicence_7 : decode cX1_setLicence 7 = .ok (.bipush 99, 2) := dk_16 99 (dk_at dksX1_setLicence_0 7 rfl rfl)
theorem dX1_setLicence_9 : decode cX1_setLicence 9 = .ok (.invokestatic 75, 3) := dk_184 0 75 (dk_at dksX1_setLicence_0 9 rfl rfl)
theorem dX1_setLicence_12 : decode cX1_setLicence 12 = .ok (.bastore, 1) := dk_84 (dk_at dksX1_setLicence_0 12 rfl rfl)
theorem dX1_setLicence_13 : decode cX1_setLicence 13 = .ok (.invokestatic 144, 3) := dk_184 0 144 (dk_at dksX1_setLicence_0 13 rfl rfl)
theorem dX1_setLicence_16 : decode cX1_setLicence 16 = .ok (.aload_n 0, 1) := dk_42 (dk_at dksX1_setLicence_0 16 rfl rfl)
theorem dX1_setLicence_17 : decode cX1_setLicence 17 = .ok (.getfield 46, 3) := dk_180 0 46 (dk_at dksX1_setLicence_0 17 rfl rfl)
theorem dX1_setLicence_20 : decode cX1_setLicence 20 = .ok (.iload_n 1, 1) := dk_27 (dk_at dksX1_setLicence_0 20 rfl rfl)
theorem dX1_setLicence_21 : decode cX1_setLicence 21 = .ok (.putfield 202, 3) := dk_181 0 202 (dk_at dksX1_setLicence_0 21 rfl rfl)
theorem dX1_setLicence_24 : decode cX1_setLicence 24 = .ok (.iconst 0, 1) := dk_3 (dk_at dksX1_setLicence_1 0 rfl rfl)
theorem dX1_setLicence_25 : decode cX1_setLicence 25 = .ok (.istore_n 2, 1) := dk_61 (dk_at dksX1_setLicence_1 1 rfl rfl)
theorem dX1_setLicence_26 : decode cX1_setLicence 26 = .ok (.aload_n 0, 1) := dk_42 (dk_at dksX1_setLicence_1 2 rfl rfl)
theorem dX1_setLicence_27 : decode cX1_setLicence 27 = .ok (.getfield 40, 3) := dk_180 0 40 (dk_at dksX1_setLicence_1 3 rfl rfl)
theorem dX1_setLicence_30 : decode cX1_setLicence 30 = .ok (.invokeinterface 50 1, 5) := by decide +kernel
theorem dX1_setLicence_35 : decode cX1_setLicence 35 = .ok (.iconst 1, 1) := dk_4 (dk_at dksX1_setLicence_1 11 rfl rfl)
theorem dX1_setLicence_36 : decode cX1_setLicence 36 = .ok (.isub, 1) := dk_100 (dk_at dksX1_setLicence_1 12 rfl rfl)
theorem dX1_setLicence_37 : decode cX1_setLicence 37 = .ok (.istore_n 3, 1) := dk_62 (dk_at dksX1_setLicence_1 13 rfl rfl)
theorem dX1_setLicence_38 : decode cX1_setLicence 38 = .ok (.iload_n 3, 1) := dk_29 (dk_at dksX1_setLicence_1 14 rfl rfl)
theorem dX1_setLicence_39 : decode cX1_setLicence 39 = .ok (.ifCond .lt 64, 3) := dk_155 0 64 (dk_at dksX1_setLicence_1 15 rfl rfl)
theorem dX1_setLicence_42 : decode cX1_setLicence 42 = .ok (.aload_n 0, 1) := dk_42 (dk_at dksX1_setLicence_1 18 rfl rfl)
theorem dX1_setLicence_43 : decode cX1_setLicence 43 = .ok (.getfield 46, 3) := dk_180 0 46 (dk_at dksX1_setLicence_1 19 rfl rfl)
theorem dX1_setLicence_46 : decode cX1_setLicence 46 = .ok (.getfield 205, 3) := dk_180 0 205 (dk_at dksX1_setLicence_2 0 rfl rfl)
theorem dX1_setLicence_49 : decode cX1_setLicence 49 = .ok (.iload_n 1, 1) := dk_27 (dk_at dksX1_setLicence_2 3 rfl rfl)
theorem dX1_setLicence_50 : decode cX1_setLicence 50 = .ok (.if_icmp .le 53, 3) := dk_164 0 53 (dk_at dksX1_setLicence_2 4 rfl rfl)
theorem dX1_setLicence_53 : decode cX1_setLicence 53 = .ok (.aload_n 0, 1) := dk_42 (dk_at dksX1_setLicence_2 7 rfl rfl)
theorem dX1_setLicence_54 : decode cX1_setLicence 54 = .ok (.getfield 40, 3) := dk_180 0 40 (dk_at dksX1_setLicence_2 8 rfl rfl)
theorem dX1_setLicence_57 : decode cX1_setLicence 57 = .ok (.iload_n 3, 1) := dk_29 (dk_at dksX1_setLicence_2 11 rfl rfl)
theorem dX1_setLicence_58 : decode cX1_setLicence 58 = .ok (.invokeinterface 60 2, 5) := by decide +kernel
theorem dX1_setLicence_63 : decode cX1_setLicence 63 = .ok (.checkcast 73, 3) := dk_192 0 73 (dk_at dksX1_setLicence_2 17 rfl rfl)
theorem dX1_setLicence_66 : decode cX1_setLicence 66 = .ok (.getstatic 161, 3) := dk_178 0 161 (dk_at dksX1_setLicence_2 20 rfl rfl)
theorem dX1_setLicence_69 : decode cX1_setLicence 69 = .ok (.invokevirtual 167, 3) := dk_182 0 167 (dk_at dksX1_setLicence_3 0 rfl rfl)
theorem dX1_setLicence_72 : decode cX1_setLicence 72 = .ok (.ifCond .eq 25, 3) := dk_153 0 25 (dk_at dksX1_setLicence_3 3 rfl rfl)
theorem dX1_setLicence_75 : decode cX1_setLicence 75 = .ok (.aload_n 0, 1) := dk_42 (dk_at dksX1_setLicence_3 6 rfl rfl)
theorem dX1_setLicence_76 : decode cX1_setLicence 76 = .ok (.getfield 40, 3) := dk_180 0 40 (dk_at dksX1_setLicence_3 7 rfl rfl)
theorem dX1_setLicence_79 : decode cX1_setLicence 79 = .ok (.iload_n 3, 1) := dk_29 (dk_at dksX1_setLicence_3 10 rfl rfl)
theorem dX1_setLicence_80 : decode cX1_setLicence 80 = .ok (.invokeinterface 60 2, 5) := by decide +kernel
theorem dX1_setLicence_85 : decode cX1_setLicence 85 = .ok (.checkcast 73, 3) := dk_192 0 73 (dk_at dksX1_setLicence_3 16 rfl rfl)
theorem dX1_setLicence_88 : decode cX1_setLicence 88 = .ok (.getstatic 208, 3) := dk_178 0 208 (dk_at dksX1_setLicence_3 19 rfl rfl)
theorem dX1_setLicence_91 : decode cX1_setLicence 91 = .ok (.invokevirtual 211, 3) := dk_182 0 211 (dk_at dksX1_setLicence_4 0 rfl rfl)
theorem dX1_setLicence_94 : decode cX1_setLicence 94 = .ok (.iinc 2 1, 3) := dk_132 2 1 (dk_at dksX1_setLicence_4 3 rfl rfl)
theorem dX1_setLicence_97 : decode cX1_setLicence 97 = .ok (.iinc 3 (-1), 3) := dk_132 3 255 (dk_at dksX1_setLicence_4 6 rfl rfl)
theorem dX1_setLicence_100 : decode cX1_setLicence 100 = .ok (.goto (-62), 3) := dk_167 255 194 (dk_at dksX1_setLicence_4 9 rfl rfl)
theorem dX1_setLicence_103 : decode cX1_setLicence 103 = .ok (.iload_n 2, 1) := dk_28 (dk_at dksX1_setLicence_4 12 rfl rfl)
theorem dX1_setLicence_104 : decode cX1_setLicence 104 = .ok (.ireturn, 1) := dk_172 (dk_at dksX1_setLicence_4 13 rfl rfl)
abbrev cX1_addContainer : ByteArray := prog_2_method_23_code
def yX1_addContainer : MethodName := ⟨RX1, "addContainer", "(IILNeed;)I"⟩
def dkwX1_addContainer_4 : List UInt8 := [185, 0, 50, 1, 0, 4, 100, 172]
abbrev dktX1_addContainer_4 : List UInt8 := dkwX1_addContainer_4 ++ []
def dkwX1_addContainer_3 : List UInt8 := [185, 0, 50, 1, 0, 27, 25, 4, 45, 183, 0, 215, 185, 0, 94, 2, 0, 87, 42, 180, 0, 40]
abbrev dktX1_addContainer_3 : List UInt8 := dkwX1_addContainer_3 ++ dktX1_addContainer_4
def dkwX1_addContainer_2 : List UInt8 := [4, 167, 0, 4, 3, 184, 0, 87, 42, 180, 0, 40, 187, 0, 73, 89, 42, 42, 180, 0, 40]
abbrev dktX1_addContainer_2 : List UInt8 := dkwX1_addContainer_2 ++ dktX1_addContainer_3
def dkwX1_addContainer_1 : List UInt8 := [184, 0, 144, 42, 28, 182, 0, 98, 58, 4, 42, 180, 0, 40, 185, 0, 50, 1, 0, 16, 12, 162, 0, 7]
abbrev dktX1_addContainer_1 : List UInt8 := dkwX1_addContainer_1 ++ dktX1_addContainer_2
def dkwX1_addContainer_0 : List UInt8 := [5, 188, 4, 89, 3, 27, 184, 0, 191, 84, 89, 4, 45, 16, 16, 17, 0, 128, 184, 0, 173, 84]
abbrev dktX1_addContainer_0 : List UInt8 := dkwX1_addContainer_0 ++ dktX1_addContainer_1
theorem dksX1_addContainer_0 : cX1_addContainer.data.toList.drop 0 = dktX1_addContainer_0 := by decide +kernel
theorem dksX1_addContainer_1 : cX1_addContainer.data.toList.drop 22 = dktX1_addContainer_1 := dk_seg dksX1_addContainer_0 22 rfl rfl
theorem dksX1_addContainer_2 : cX1_addContainer.data.toList.drop 46 = dktX1_addContainer_2 := dk_seg dksX1_addContainer_1 24 rfl rfl
theorem dksX1_addContainer_3 : cX1_addContainer.data.toList.drop 67 = dktX1_addContainer_3 := dk_seg dksX1_addContainer_2 21 rfl rfl
theorem dksX1_addContainer_4 : cX1_addContainer.data.toList.drop 89 = dktX1_addContainer_4 := dk_seg dksX1_addContainer_3 22 rfl rfl
theorem dX1_addContainer_0 : decode cX1_addContainer 0 = .ok (.iconst 2, 1) := dk_5 (dk_at dksX1_addContainer_0 0 rfl rfl)
theorem dX1_addContainer_1 : decode cX1_addContainer 1 = .ok (.newarray .boolean, 2) := dk_188_4 (dk_at dksX1_addContainer_0 1 rfl rfl)
theorem dX1_addContainer_3 : decode cX1_addContainer 3 = .ok (.dup, 1) := dk_89 (dk_at dksX1_addContainer_0 3 rfl rfl)
theorem dX1_addContainer_4 : decode cX1_addContainer 4 = .ok (.iconst 0, 1) := dk_3 (dk_at dksX1_addContainer_0 4 rfl rfl)
theorem dX1_addContainer_5 : decode cX1_addContainer 5 = .ok (.iload_n 1, 1) := dk_27 (dk_at dksX1_addContainer_0 5 rfl rfl)
theorem dX1_addContainer_6 : decode cX1_addContainer 6 = .ok (.invokestatic 191, 3) := dk_184 0 191 (dk_at dksX1_addContainer_0 6 rfl rfl)
theorem dX1_addContainer_9 : decode cX1_addContainer 9 = .ok (.bastore, 1) := dk_84 (dk_at dksX1_addContainer_0 9 rfl rfl)
theorem dX1_addContainer_10 : decode cX1_addContainer 10 = .ok (.dup, 1) := dk_89 (dk_at dksX1_addContainer_0 10 rfl rfl)
theorem dX1_addContainer_11 : decode cX1_addContainer 11 = .ok (.iconst 1, 1) := dk_4 (dk_at dksX1_addContainer_0 11 rfl rfl)
theorem dX1_addContainer_12 : decode cX1_addContainer 12 = .ok (.aload_n 3, 1) := dk_45 (dk_at dksX1_addContainer_0 12 rfl rfl)
theorem dX1_addContainer_13 : decode cX1_addContainer 13 = .ok (.bipush 16, 2) := dk_16 16 (dk_at dksX1_addContainer_0 13 rfl rfl)
theorem dX1_addContainer_15 : decode cX1_addContainer 15 = .ok (.sipush 128, 3) := dk_17 0 128 (dk_at dksX1_addContainer_0 15 rfl rfl)
theorem dX1_addContainer_18 : decode cX1_addContainer 18 = .ok (.invokestatic 173, 3) := dk_184 0 173 (dk_at dksX1_addContainer_0 18 rfl rfl)
theorem dX1_addContainer_21 : decode cX1_addContainer 21 = .ok (.bastore, 1) := dk_84 (dk_at dksX1_addContainer_0 21 rfl rfl)
theorem dX1_addContainer_22 : decode cX1_addContainer 22 = .ok (.invokestatic 144, 3) := dk_184 0 144 (dk_at dksX1_addContainer_1 0 rfl rfl)
theorem dX1_addContainer_25 : decode cX1_addContainer 25 = .ok (.aload_n 0, 1) := dk_42 (dk_at dksX1_addContainer_1 3 rfl rfl)
theorem dX1_addContainer_26 : decode cX1_addContainer 26 = .ok (.iload_n 2, 1) := dk_28 (dk_at dksX1_addContainer_1 4 rfl rfl)
theorem dX1_addContainer_27 : decode cX1_addContainer 27 = .ok (.invokevirtual 98, 3) := dk_182 0 98 (dk_at dksX1_addContainer_1 5 rfl rfl)
theorem dX1_addContainer_30 : decode cX1_addContainer 30 = .ok (.astore 4, 2) := dk_58 4 (dk_at dksX1_addContainer_1 8 rfl rfl)
theorem dX1_addContainer_32 : decode cX1_addContainer 32 = .ok (.aload_n 0, 1) := dk_42 (dk_at dksX1_addContainer_1 10 rfl rfl)
theorem dX1_addContainer_33 : decode cX1_addContainer 33 = .ok (.getfield 40, 3) := dk_180 0 40 (dk_at dksX1_addContainer_1 11 rfl rfl)
theorem dX1_addContainer_36 : decode cX1_addContainer 36 = .ok (.invokeinterface 50 1, 5) := by decide +kernel
theorem dX1_addContainer_41 : decode cX1_addContainer 41 = .ok (.bipush 12, 2) := dk_16 12 (dk_at dksX1_addContainer_1 19 rfl rfl)
theorem dX1_addContainer_43 : decode cX1_addContainer 43 = .ok (.if_icmp .ge 7, 3) := dk_162 0 7 (dk_at dksX1_addContainer_1 21 rfl rfl)
theorem dX1_addContainer_46 : decode cX1_addContainer 46 = .ok (.iconst 1, 1) := dk_4 (dk_at dksX1_addContainer_2 0 rfl rfl)
theorem dX1_addContainer_47 : decode cX1_addContainer 47 = .ok (.goto 4, 3) := dk_167 0 4 (dk_at dksX1_addContainer_2 1 rfl rfl)
theorem dX1_addContainer_50 : decode cX1_addContainer 50 = .ok (.iconst 0, 1) := dk_3 (dk_at dksX1_addContainer_2 4 rfl rfl)
theorem dX1_addContainer_51 : decode cX1_addContainer 51 = .ok (.invokestatic 87, 3) := dk_184 0 87 (dk_at dksX1_addContainer_2 5 rfl rfl)
theorem dX1_addContainer_54 : decode cX1_addContainer 54 = .ok (.aload_n 0, 1) := dk_42 (dk_at dksX1_addContainer_2 8 rfl rfl)
theorem dX1_addContainer_55 : decode cX1_addContainer 55 = .ok (.getfield 40, 3) := dk_180 0 40 (dk_at dksX1_addContainer_2 9 rfl rfl)
theorem dX1_addContainer_58 : decode cX1_addContainer 58 = .ok (.new 73, 3) := dk_187 0 73 (dk_at dksX1_addContainer_2 12 rfl rfl)
theorem dX1_addContainer_61 : decode cX1_addContainer 61 = .ok (.dup, 1) := dk_89 (dk_at dksX1_addContainer_2 15 rfl rfl)
theorem dX1_addContainer_62 : decode cX1_addContainer 62 = .ok (.aload_n 0, 1) := dk_42 (dk_at dksX1_addContainer_2 16 rfl rfl)
theorem dX1_addContainer_63 : decode cX1_addContainer 63 = .ok (.aload_n 0, 1) := dk_42 (dk_at dksX1_addContainer_2 17 rfl rfl)
theorem dX1_addContainer_64 : decode cX1_addContainer 64 = .ok (.getfield 40, 3) := dk_180 0 40 (dk_at dksX1_addContainer_2 18 rfl rfl)
theorem dX1_addContainer_67 : decode cX1_addContainer 67 = .ok (.invokeinterface 50 1, 5) := by decide +kernel
theorem dX1_addContainer_72 : decode cX1_addContainer 72 = .ok (.iload_n 1, 1) := dk_27 (dk_at dksX1_addContainer_3 5 rfl rfl)
theorem dX1_addContainer_73 : decode cX1_addContainer 73 = .ok (.aload 4, 2) := dk_25 4 (dk_at dksX1_addContainer_3 6 rfl rfl)
theorem dX1_addContainer_75 : decode cX1_addContainer 75 = .ok (.aload_n 3, 1) := dk_45 (dk_at dksX1_addContainer_3 8 rfl rfl)
theorem dX1_addContainer_76 : decode cX1_addContainer 76 = .ok (.invokespecial 215, 3) := dk_183 0 215 (dk_at dksX1_addContainer_3 9 rfl rfl)
theorem dX1_addContainer_79 : decode cX1_addContainer 79 = .ok (.invokeinterface 94 2, 5) := by decide +kernel
theorem dX1_addContainer_84 : decode cX1_addContainer 84 = .ok (.pop, 1) := dk_87 (dk_at dksX1_addContainer_3 17 rfl rfl)
theorem dX1_addContainer_85 : decode cX1_addContainer 85 = .ok (.aload_n 0, 1) := dk_42 (dk_at dksX1_addContainer_3 18 rfl rfl)
theorem dX1_addContainer_86 : decode cX1_addContainer 86 = .ok (.getfield 40, 3) := dk_180 0 40 (dk_at dksX1_addContainer_3 19 rfl rfl)
theorem dX1_addContainer_89 : decode cX1_addContainer 89 = .ok (.invokeinterface 50 1, 5) := by decide +kernel
theorem dX1_addContainer_94 : decode cX1_addContainer 94 = .ok (.iconst 1, 1) := dk_4 (dk_at dksX1_addContainer_4 5 rfl rfl)
theorem dX1_addContainer_95 : decode cX1_addContainer 95 = .ok (.isub, 1) := dk_100 (dk_at dksX1_addContainer_4 6 rfl rfl)
theorem dX1_addContainer_96 : decode cX1_addContainer 96 = .ok (.ireturn, 1) := dk_172 (dk_at dksX1_addContainer_4 7 rfl rfl)
abbrev cX1_stop : ByteArray := prog_2_method_24_code
def yX1_stop : MethodName := ⟨RX1, "stop", "(I)LState;"⟩
def dkwX1_stop_1 : List UInt8 := [44, 180, 0, 225, 78, 44, 178, 0, 222, 182, 0, 211, 45, 176]
abbrev dktX1_stop_1 : List UInt8 := dkwX1_stop_1 ++ []
def dkwX1_stop_0 : List UInt8 := [42, 27, 182, 0, 218, 77, 44, 178, 0, 222, 182, 0, 167, 154, 0, 7, 4, 167, 0, 4, 3, 184, 0, 87]
abbrev dktX1_stop_0 : List UInt8 := dkwX1_stop_0 ++ dktX1_stop_1
theorem dksX1_stop_0 : cX1_stop.data.toList.drop 0 = dktX1_stop_0 := by decide +kernel
theorem dksX1_stop_1 : cX1_stop.data.toList.drop 24 = dktX1_stop_1 := dk_seg dksX1_stop_0 24 rfl rfl
theorem dX1_stop_0 : decode cX1_stop 0 = .ok (.aload_n 0, 1) := dk_42 (dk_at dksX1_stop_0 0 rfl rfl)
theorem dX1_stop_1 : decode cX1_stop 1 = .ok (.iload_n 1, 1) := dk_27 (dk_at dksX1_stop_0 1 rfl rfl)
theorem dX1_stop_2 : decode cX1_stop 2 = .ok (.invokevirtual 218, 3) := dk_182 0 218 (dk_at dksX1_stop_0 2 rfl rfl)
theorem dX1_stop_5 : decode cX1_stop 5 = .ok (.astore_n 2, 1) := dk_77 (dk_at dksX1_stop_0 5 rfl rfl)
theorem dX1_stop_6 : decode cX1_stop 6 = .ok (.aload_n 2, 1) := dk_44 (dk_at dksX1_stop_0 6 rfl rfl)
theorem dX1_stop_7 : decode cX1_stop 7 = .ok (.getstatic 222, 3) := dk_178 0 222 (dk_at dksX1_stop_0 7 rfl rfl)
theorem dX1_stop_10 : decode cX1_stop 10 = .ok (.invokevirtual 167, 3) := dk_182 0 167 (dk_at dksX1_stop_0 10 rfl rfl)
theorem dX1_stop_13 : decode cX1_stop 13 = .ok (.ifCond .ne 7, 3) := dk_154 0 7 (dk_at dksX1_stop_0 13 rfl rfl)
theorem dX1_stop_16 : decode cX1_stop 16 = .ok (.iconst 1, 1) := dk_4 (dk_at dksX1_stop_0 16 rfl rfl)
theorem dX1_stop_17 : decode cX1_stop 17 = .ok (.goto 4, 3) := dk_167 0 4 (dk_at dksX1_stop_0 17 rfl rfl)
theorem dX1_stop_20 : decode cX1_stop 20 = .ok (.iconst 0, 1) := dk_3 (dk_at dksX1_stop_0 20 rfl rfl)
theorem dX1_stop_21 : decode cX1_stop 21 = .ok (.invokestatic 87, 3) := dk_184 0 87 (dk_at dksX1_stop_0 21 rfl rfl)
theorem dX1_stop_24 : decode cX1_stop 24 = .ok (.aload_n 2, 1) := dk_44 (dk_at dksX1_stop_1 0 rfl rfl)
theorem dX1_stop_25 : decode cX1_stop 25 = .ok (.getfield 225, 3) := dk_180 0 225 (dk_at dksX1_stop_1 1 rfl rfl)
theorem dX1_stop_28 : decode cX1_stop 28 = .ok (.astore_n 3, 1) := dk_78 (dk_at dksX1_stop_1 4 rfl rfl)
theorem dX1_stop_29 : decode cX1_stop 29 = .ok (.aload_n 2, 1) := dk_44 (dk_at dksX1_stop_1 5 rfl rfl)
theorem dX1_stop_30 : decode cX1_stop 30 = .ok (.getstatic 222, 3) := dk_178 0 222 (dk_at dksX1_stop_1 6 rfl rfl)
theorem dX1_stop_33 : decode cX1_stop 33 = .ok (.invokevirtual 211, 3) := dk_182 0 211 (dk_at dksX1_stop_1 9 rfl rfl)
theorem dX1_stop_36 : decode cX1_stop 36 = .ok (.aload_n 3, 1) := dk_45 (dk_at dksX1_stop_1 12 rfl rfl)
theorem dX1_stop_37 : decode cX1_stop 37 = .ok (.areturn, 1) := dk_176 (dk_at dksX1_stop_1 13 rfl rfl)
abbrev cX1_require : ByteArray := prog_2_method_12_code
def yX1_require : MethodName := ⟨RX1, "require", "(I)LCrateYard$Container;"⟩
def dkwX1_require_1 : List UInt8 := [192, 0, 73, 176]
abbrev dktX1_require_1 : List UInt8 := dkwX1_require_1 ++ []
def dkwX1_require_0 : List UInt8 := [27, 42, 180, 0, 40, 185, 0, 50, 1, 0, 184, 0, 56, 42, 180, 0, 40, 27, 185, 0, 60, 2, 0]
abbrev dktX1_require_0 : List UInt8 := dkwX1_require_0 ++ dktX1_require_1
theorem dksX1_require_0 : cX1_require.data.toList.drop 0 = dktX1_require_0 := by decide +kernel
theorem dksX1_require_1 : cX1_require.data.toList.drop 23 = dktX1_require_1 := dk_seg dksX1_require_0 23 rfl rfl
theorem dX1_require_0 : decode cX1_require 0 = .ok (.iload_n 1, 1) := dk_27 (dk_at dksX1_require_0 0 rfl rfl)
theorem dX1_require_1 : decode cX1_require 1 = .ok (.aload_n 0, 1) := dk_42 (dk_at dksX1_require_0 1 rfl rfl)
theorem dX1_require_2 : decode cX1_require 2 = .ok (.getfield 40, 3) := dk_180 0 40 (dk_at dksX1_require_0 2 rfl rfl)
theorem dX1_require_5 : decode cX1_require 5 = .ok (.invokeinterface 50 1, 5) := by decide +kernel
theorem dX1_require_10 : decode cX1_require 10 = .ok (.invokestatic 56, 3) := dk_184 0 56 (dk_at dksX1_require_0 10 rfl rfl)
theorem dX1_require_13 : decode cX1_require 13 = .ok (.aload_n 0, 1) := dk_42 (dk_at dksX1_require_0 13 rfl rfl)
theorem dX1_require_14 : decode cX1_require 14 = .ok (.getfield 40, 3) := dk_180 0 40 (dk_at dksX1_require_0 14 rfl rfl)
theorem dX1_require_17 : decode cX1_require 17 = .ok (.iload_n 1, 1) := dk_27 (dk_at dksX1_require_0 17 rfl rfl)
theorem dX1_require_18 : decode cX1_require 18 = .ok (.invokeinterface 60 2, 5) := by decide +kernel
theorem dX1_require_23 : decode cX1_require 23 = .ok (.checkcast 73, 3) := dk_192 0 73 (dk_at dksX1_require_1 0 rfl rfl)
theorem dX1_require_26 : decode cX1_require 26 = .ok (.areturn, 1) := dk_176 (dk_at dksX1_require_1 3 rfl rfl)
abbrev cX1_fail : ByteArray := prog_2_method_25_code
def yX1_fail : MethodName := ⟨RX1, "fail", "(I)I"⟩
def dkwX1_fail_0 : List UInt8 := [42, 27, 182, 0, 218, 77, 44, 178, 0, 161, 182, 0, 167, 184, 0, 87, 44, 182, 0, 228, 172]
abbrev dktX1_fail_0 : List UInt8 := dkwX1_fail_0 ++ []
theorem dksX1_fail_0 : cX1_fail.data.toList.drop 0 = dktX1_fail_0 := by decide +kernel
theorem dX1_fail_0 : decode cX1_fail 0 = .ok (.aload_n 0, 1) := dk_42 (dk_at dksX1_fail_0 0 rfl rfl)
theorem dX1_fail_1 : decode cX1_fail 1 = .ok (.iload_n 1, 1) := dk_27 (dk_at dksX1_fail_0 1 rfl rfl)
theorem dX1_fail_2 : decode cX1_fail 2 = .ok (.invokevirtual 218, 3) := dk_182 0 218 (dk_at dksX1_fail_0 2 rfl rfl)
theorem dX1_fail_5 : decode cX1_fail 5 = .ok (.astore_n 2, 1) := dk_77 (dk_at dksX1_fail_0 5 rfl rfl)
theorem dX1_fail_6 : decode cX1_fail 6 = .ok (.aload_n 2, 1) := dk_44 (dk_at dksX1_fail_0 6 rfl rfl)
theorem dX1_fail_7 : decode cX1_fail 7 = .ok (.getstatic 161, 3) := dk_178 0 161 (dk_at dksX1_fail_0 7 rfl rfl)
theorem dX1_fail_10 : decode cX1_fail 10 = .ok (.invokevirtual 167, 3) := dk_182 0 167 (dk_at dksX1_fail_0 10 rfl rfl)
theorem dX1_fail_13 : decode cX1_fail 13 = .ok (.invokestatic 87, 3) := dk_184 0 87 (dk_at dksX1_fail_0 13 rfl rfl)
theorem dX1_fail_16 : decode cX1_fail 16 = .ok (.aload_n 2, 1) := dk_44 (dk_at dksX1_fail_0 16 rfl rfl)
theorem dX1_fail_17 : decode cX1_fail 17 = .ok (.invokevirtual 228, 3) := dk_182 0 228 (dk_at dksX1_fail_0 17 rfl rfl)
theorem dX1_fail_20 : decode cX1_fail 20 = .ok (.ireturn, 1) := dk_172 (dk_at dksX1_fail_0 20 rfl rfl)
abbrev cX1_pass : ByteArray := prog_2_method_29_code
def yX1_pass : MethodName := ⟨RX1, "pass", "(I)I"⟩
def dkwX1_pass_2 : List UInt8 := [27, 162, 0, 13, 42, 182, 1, 13, 132, 4, 1, 167, 255, 243, 42, 180, 1, 9, 32, 101, 136, 172]
abbrev dktX1_pass_2 : List UInt8 := dkwX1_pass_2 ++ []
def dkwX1_pass_1 : List UInt8 := [17, 3, 231, 163, 0, 7, 4, 167, 0, 4, 3, 184, 0, 87, 42, 180, 1, 9, 65, 3, 54, 4, 21, 4]
abbrev dktX1_pass_1 : List UInt8 := dkwX1_pass_1 ++ dktX1_pass_2
def dkwX1_pass_0 : List UInt8 := [4, 188, 4, 89, 3, 27, 4, 16, 48, 184, 0, 75, 84, 184, 0, 144, 42, 180, 0, 155, 27, 96]
abbrev dktX1_pass_0 : List UInt8 := dkwX1_pass_0 ++ dktX1_pass_1
theorem dksX1_pass_0 : cX1_pass.data.toList.drop 0 = dktX1_pass_0 := by decide +kernel
theorem dksX1_pass_1 : cX1_pass.data.toList.drop 22 = dktX1_pass_1 := dk_seg dksX1_pass_0 22 rfl rfl
theorem dksX1_pass_2 : cX1_pass.data.toList.drop 46 = dktX1_pass_2 := dk_seg dksX1_pass_1 24 rfl rfl
theorem dX1_pass_0 : decode cX1_pass 0 = .ok (.iconst 1, 1) := dk_4 (dk_at dksX1_pass_0 0 rfl rfl)
theorem dX1_pass_1 : decode cX1_pass 1 = .ok (.newarray .boolean, 2) := dk_188_4 (dk_at dksX1_pass_0 1 rfl rfl)
theorem dX1_pass_3 : decode cX1_pass 3 = .ok (.dup, 1) := dk_89 (dk_at dksX1_pass_0 3 rfl rfl)
theorem dX1_pass_4 : decode cX1_pass 4 = .ok (.iconst 0, 1) := dk_3 (dk_at dksX1_pass_0 4 rfl rfl)
theorem dX1_pass_5 : decode cX1_pass 5 = .ok (.iload_n 1, 1) := dk_27 (dk_at dksX1_pass_0 5 rfl rfl)
theorem dX1_pass_6 : decode cX1_pass 6 = .ok (.iconst 1, 1) := dk_4 (dk_at dksX1_pass_0 6 rfl rfl)
theorem dX1_pass_7 : decode cX1_pass 7 = .ok (.bipush 48, 2) := dk_16 48 (dk_at dksX1_pass_0 7 rfl rfl)
theorem dX1_pass_9 : decode cX1_pass 9 = .ok (.invokestatic 75, 3) := dk_184 0 75 (dk_at dksX1_pass_0 9 rfl rfl)
theorem dX1_pass_12 : decode cX1_pass 12 = .ok (.bastore, 1) := dk_84 (dk_at dksX1_pass_0 12 rfl rfl)
theorem dX1_pass_13 : decode cX1_pass 13 = .ok (.invokestatic 144, 3) := dk_184 0 144 (dk_at dksX1_pass_0 13 rfl rfl)
theorem dX1_pass_16 : decode cX1_pass 16 = .ok (.aload_n 0, 1) := dk_42 (dk_at dksX1_pass_0 16 rfl rfl)
theorem dX1_pass_17 : decode cX1_pass 17 = .ok (.getfield 155, 3) := dk_180 0 155 (dk_at dksX1_pass_0 17 rfl rfl)
theorem dX1_pass_20 : decode cX1_pass 20 = .ok (.iload_n 1, 1) := dk_27 (dk_at dksX1_pass_0 20 rfl rfl)
theorem dX1_pass_21 : decode cX1_pass 21 = .ok (.iadd, 1) := dk_96 (dk_at dksX1_pass_0 21 rfl rfl)
theorem dX1_pass_22 : decode cX1_pass 22 = .ok (.sipush 999, 3) := dk_17 3 231 (dk_at dksX1_pass_1 0 rfl rfl)
theorem dX1_pass_25 : decode cX1_pass 25 = .ok (.if_icmp .gt 7, 3) := dk_163 0 7 (dk_at dksX1_pass_1 3 rfl rfl)
theorem dX1_pass_28 : decode cX1_pass 28 = .ok (.iconst 1, 1) := dk_4 (dk_at dksX1_pass_1 6 rfl rfl)
theorem dX1_pass_29 : decode cX1_pass 29 = .ok (.goto 4, 3) := dk_167 0 4 (dk_at dksX1_pass_1 7 rfl rfl)
theorem dX1_pass_32 : decode cX1_pass 32 = .ok (.iconst 0, 1) := dk_3 (dk_at dksX1_pass_1 10 rfl rfl)
theorem dX1_pass_33 : decode cX1_pass 33 = .ok (.invokestatic 87, 3) := dk_184 0 87 (dk_at dksX1_pass_1 11 rfl rfl)
theorem dX1_pass_36 : decode cX1_pass 36 = .ok (.aload_n 0, 1) := dk_42 (dk_at dksX1_pass_1 14 rfl rfl)
theorem dX1_pass_37 : decode cX1_pass 37 = .ok (.getfield 265, 3) := dk_180 1 9 (dk_at dksX1_pass_1 15 rfl rfl)
theorem dX1_pass_40 : decode cX1_pass 40 = .ok (.lstore_n 2, 1) := dk_65 (dk_at dksX1_pass_1 18 rfl rfl)
theorem dX1_pass_41 : decode cX1_pass 41 = .ok (.iconst 0, 1) := dk_3 (dk_at dksX1_pass_1 19 rfl rfl)
theorem dX1_pass_42 : decode cX1_pass 42 = .ok (.istore 4, 2) := dk_54 4 (dk_at dksX1_pass_1 20 rfl rfl)
theorem dX1_pass_44 : decode cX1_pass 44 = .ok (.iload 4, 2) := dk_21 4 (dk_at dksX1_pass_1 22 rfl rfl)
theorem dX1_pass_46 : decode cX1_pass 46 = .ok (.iload_n 1, 1) := dk_27 (dk_at dksX1_pass_2 0 rfl rfl)
theorem dX1_pass_47 : decode cX1_pass 47 = .ok (.if_icmp .ge 13, 3) := dk_162 0 13 (dk_at dksX1_pass_2 1 rfl rfl)
theorem dX1_pass_50 : decode cX1_pass 50 = .ok (.aload_n 0, 1) := dk_42 (dk_at dksX1_pass_2 4 rfl rfl)
theorem dX1_pass_51 : decode cX1_pass 51 = .ok (.invokevirtual 269, 3) := dk_182 1 13 (dk_at dksX1_pass_2 5 rfl rfl)
theorem dX1_pass_54 : decode cX1_pass 54 = .ok (.iinc 4 1, 3) := dk_132 4 1 (dk_at dksX1_pass_2 8 rfl rfl)
theorem dX1_pass_57 : decode cX1_pass 57 = .ok (.goto (-13), 3) := dk_167 255 243 (dk_at dksX1_pass_2 11 rfl rfl)
theorem dX1_pass_60 : decode cX1_pass 60 = .ok (.aload_n 0, 1) := dk_42 (dk_at dksX1_pass_2 14 rfl rfl)
theorem dX1_pass_61 : decode cX1_pass 61 = .ok (.getfield 265, 3) := dk_180 1 9 (dk_at dksX1_pass_2 15 rfl rfl)
theorem dX1_pass_64 : decode cX1_pass 64 = .ok (.lload_n 2, 1) := dk_32 (dk_at dksX1_pass_2 18 rfl rfl)
theorem dX1_pass_65 : decode cX1_pass 65 = .ok (.lsub, 1) := dk_101 (dk_at dksX1_pass_2 19 rfl rfl)
theorem dX1_pass_66 : decode cX1_pass 66 = .ok (.l2i, 1) := dk_136 (dk_at dksX1_pass_2 20 rfl rfl)
theorem dX1_pass_67 : decode cX1_pass 67 = .ok (.ireturn, 1) := dk_172 (dk_at dksX1_pass_2 21 rfl rfl)
abbrev cX1_tick : ByteArray := prog_2_method_28_code
def yX1_tick : MethodName := ⟨RX1, "tick", "()V"⟩
def dkwX1_tick_4 : List UInt8 := [182, 0, 252, 178, 1, 0, 166, 0, 7, 44, 182, 1, 6, 167, 255, 209, 177]
abbrev dktX1_tick_4 : List UInt8 := dkwX1_tick_4 ++ []
def dkwX1_tick_3 : List UInt8 := [185, 0, 132, 1, 0, 192, 0, 73, 77, 44, 178, 0, 208, 182, 0, 167, 153, 0, 21, 44, 42, 180, 0, 46]
abbrev dktX1_tick_3 : List UInt8 := dkwX1_tick_3 ++ dktX1_tick_4
def dkwX1_tick_2 : List UInt8 := [167, 255, 232, 42, 180, 0, 40, 185, 0, 122, 1, 0, 76, 43, 185, 0, 126, 1, 0, 153, 0, 44, 43]
abbrev dktX1_tick_2 : List UInt8 := dkwX1_tick_2 ++ dktX1_tick_3
def dkwX1_tick_1 : List UInt8 := [185, 0, 126, 1, 0, 153, 0, 21, 43, 185, 0, 132, 1, 0, 192, 0, 73, 77, 42, 44, 182, 0, 248]
abbrev dktX1_tick_1 : List UInt8 := dkwX1_tick_1 ++ dktX1_tick_2
def dkwX1_tick_0 : List UInt8 := [42, 89, 180, 0, 155, 4, 96, 181, 0, 155, 42, 180, 0, 40, 185, 0, 122, 1, 0, 76, 43]
abbrev dktX1_tick_0 : List UInt8 := dkwX1_tick_0 ++ dktX1_tick_1
theorem dksX1_tick_0 : cX1_tick.data.toList.drop 0 = dktX1_tick_0 := by decide +kernel
theorem dksX1_tick_1 : cX1_tick.data.toList.drop 21 = dktX1_tick_1 := dk_seg dksX1_tick_0 21 rfl rfl
theorem dksX1_tick_2 : cX1_tick.data.toList.drop 44 = dktX1_tick_2 := dk_seg dksX1_tick_1 23 rfl rfl
theorem dksX1_tick_3 : cX1_tick.data.toList.drop 67 = dktX1_tick_3 := dk_seg dksX1_tick_2 23 rfl rfl
theorem dksX1_tick_4 : cX1_tick.data.toList.drop 91 = dktX1_tick_4 := dk_seg dksX1_tick_3 24 rfl rfl
theorem dX1_tick_0 : decode cX1_tick 0 = .ok (.aload_n 0, 1) := dk_42 (dk_at dksX1_tick_0 0 rfl rfl)
theorem dX1_tick_1 : decode cX1_tick 1 = .ok (.dup, 1) := dk_89 (dk_at dksX1_tick_0 1 rfl rfl)
theorem dX1_tick_2 : decode cX1_tick 2 = .ok (.getfield 155, 3) := dk_180 0 155 (dk_at dksX1_tick_0 2 rfl rfl)
theorem dX1_tick_5 : decode cX1_tick 5 = .ok (.iconst 1, 1) := dk_4 (dk_at dksX1_tick_0 5 rfl rfl)
theorem dX1_tick_6 : decode cX1_tick 6 = .ok (.iadd, 1) := dk_96 (dk_at dksX1_tick_0 6 rfl rfl)
theorem dX1_tick_7 : decode cX1_tick 7 = .ok (.putfield 155, 3) := dk_181 0 155 (dk_at dksX1_tick_0 7 rfl rfl)
theorem dX1_tick_10 : decode cX1_tick 10 = .ok (.aload_n 0, 1) := dk_42 (dk_at dksX1_tick_0 10 rfl rfl)
theorem dX1_tick_11 : decode cX1_tick 11 = .ok (.getfield 40, 3) := dk_180 0 40 (dk_at dksX1_tick_0 11 rfl rfl)
theorem dX1_tick_14 : decode cX1_tick 14 = .ok (.invokeinterface 122 1, 5) := by decide +kernel
theorem dX1_tick_19 : decode cX1_tick 19 = .ok (.astore_n 1, 1) := dk_76 (dk_at dksX1_tick_0 19 rfl rfl)
theorem dX1_tick_20 : decode cX1_tick 20 = .ok (.aload_n 1, 1) := dk_43 (dk_at dksX1_tick_0 20 rfl rfl)
theorem dX1_tick_21 : decode cX1_tick 21 = .ok (.invokeinterface 126 1, 5) := by decide +kernel
theorem dX1_tick_26 : decode cX1_tick 26 = .ok (.ifCond .eq 21, 3) := dk_153 0 21 (dk_at dksX1_tick_1 5 rfl rfl)
theorem dX1_tick_29 : decode cX1_tick 29 = .ok (.aload_n 1, 1) := dk_43 (dk_at dksX1_tick_1 8 rfl rfl)
theorem dX1_tick_30 : decode cX1_tick 30 = .ok (.invokeinterface 132 1, 5) := by decide +kernel
theorem dX1_tick_35 : decode cX1_tick 35 = .ok (.checkcast 73, 3) := dk_192 0 73 (dk_at dksX1_tick_1 14 rfl rfl)
theorem dX1_tick_38 : decode cX1_tick 38 = .ok (.astore_n 2, 1) := dk_77 (dk_at dksX1_tick_1 17 rfl rfl)
theorem dX1_tick_39 : decode cX1_tick 39 = .ok (.aload_n 0, 1) := dk_42 (dk_at dksX1_tick_1 18 rfl rfl)
theorem dX1_tick_40 : decode cX1_tick 40 = .ok (.aload_n 2, 1) := dk_44 (dk_at dksX1_tick_1 19 rfl rfl)
theorem dX1_tick_41 : decode cX1_tick 41 = .ok (.invokevirtual 248, 3) := dk_182 0 248 (dk_at dksX1_tick_1 20 rfl rfl)
theorem dX1_tick_44 : decode cX1_tick 44 = .ok (.goto (-24), 3) := dk_167 255 232 (dk_at dksX1_tick_2 0 rfl rfl)
theorem dX1_tick_47 : decode cX1_tick 47 = .ok (.aload_n 0, 1) := dk_42 (dk_at dksX1_tick_2 3 rfl rfl)
theorem dX1_tick_48 : decode cX1_tick 48 = .ok (.getfield 40, 3) := dk_180 0 40 (dk_at dksX1_tick_2 4 rfl rfl)
theorem dX1_tick_51 : decode cX1_tick 51 = .ok (.invokeinterface 122 1, 5) := by decide +kernel
theorem dX1_tick_56 : decode cX1_tick 56 = .ok (.astore_n 1, 1) := dk_76 (dk_at dksX1_tick_2 12 rfl rfl)
theorem dX1_tick_57 : decode cX1_tick 57 = .ok (.aload_n 1, 1) := dk_43 (dk_at dksX1_tick_2 13 rfl rfl)
theorem dX1_tick_58 : decode cX1_tick 58 = .ok (.invokeinterface 126 1, 5) := by decide +kernel
theorem dX1_tick_63 : decode cX1_tick 63 = .ok (.ifCond .eq 44, 3) := dk_153 0 44 (dk_at dksX1_tick_2 19 rfl rfl)
theorem dX1_tick_66 : decode cX1_tick 66 = .ok (.aload_n 1, 1) := dk_43 (dk_at dksX1_tick_2 22 rfl rfl)
theorem dX1_tick_67 : decode cX1_tick 67 = .ok (.invokeinterface 132 1, 5) := by decide +kernel
theorem dX1_tick_72 : decode cX1_tick 72 = .ok (.checkcast 73, 3) := dk_192 0 73 (dk_at dksX1_tick_3 5 rfl rfl)
theorem dX1_tick_75 : decode cX1_tick 75 = .ok (.astore_n 2, 1) := dk_77 (dk_at dksX1_tick_3 8 rfl rfl)
theorem dX1_tick_76 : decode cX1_tick 76 = .ok (.aload_n 2, 1) := dk_44 (dk_at dksX1_tick_3 9 rfl rfl)
theorem dX1_tick_77 : decode cX1_tick 77 = .ok (.getstatic 208, 3) := dk_178 0 208 (dk_at dksX1_tick_3 10 rfl rfl)
theorem dX1_tick_80 : decode cX1_tick 80 = .ok (.invokevirtual 167, 3) := dk_182 0 167 (dk_at dksX1_tick_3 13 rfl rfl)
theorem dX1_tick_83 : decode cX1_tick 83 = .ok (.ifCond .eq 21, 3) := dk_153 0 21 (dk_at dksX1_tick_3 16 rfl rfl)
theorem dX1_tick_86 : decode cX1_tick 86 = .ok (.aload_n 2, 1) := dk_44 (dk_at dksX1_tick_3 19 rfl rfl)
theorem dX1_tick_87 : decode cX1_tick 87 = .ok (.aload_n 0, 1) := dk_42 (dk_at dksX1_tick_3 20 rfl rfl)
theorem dX1_tick_88 : decode cX1_tick 88 = .ok (.getfield 46, 3) := dk_180 0 46 (dk_at dksX1_tick_3 21 rfl rfl)
theorem dX1_tick_91 : decode cX1_tick 91 = .ok (.invokevirtual 252, 3) := dk_182 0 252 (dk_at dksX1_tick_4 0 rfl rfl)
theorem dX1_tick_94 : decode cX1_tick 94 = .ok (.getstatic 256, 3) := dk_178 1 0 (dk_at dksX1_tick_4 3 rfl rfl)
theorem dX1_tick_97 : decode cX1_tick 97 = .ok (.if_acmp .ne 7, 3) := dk_166 0 7 (dk_at dksX1_tick_4 6 rfl rfl)
theorem dX1_tick_100 : decode cX1_tick 100 = .ok (.aload_n 2, 1) := dk_44 (dk_at dksX1_tick_4 9 rfl rfl)
theorem dX1_tick_101 : decode cX1_tick 101 = .ok (.invokevirtual 262, 3) := dk_182 1 6 (dk_at dksX1_tick_4 10 rfl rfl)
theorem dX1_tick_104 : decode cX1_tick 104 = .ok (.goto (-47), 3) := dk_167 255 209 (dk_at dksX1_tick_4 13 rfl rfl)
theorem dX1_tick_107 : decode cX1_tick 107 = .ok (.return_, 1) := dk_177 (dk_at dksX1_tick_4 16 rfl rfl)
abbrev cX1_settle : ByteArray := prog_2_method_27_code
def yX1_settle : MethodName := ⟨RX1, "settle", "(LCrateYard$Container;)V"⟩
def dkwX1_settle_3 : List UInt8 := [167, 0, 4, 3, 62, 28, 154, 0, 7, 29, 153, 0, 10, 43, 178, 0, 208, 182, 0, 211, 177]
abbrev dktX1_settle_3 : List UInt8 := dkwX1_settle_3 ++ []
def dkwX1_settle_2 : List UInt8 := [182, 0, 148, 153, 0, 22, 42, 43, 180, 0, 244, 42, 180, 0, 155, 182, 0, 245, 153, 0, 7, 4]
abbrev dktX1_settle_2 : List UInt8 := dkwX1_settle_2 ++ dktX1_settle_3
def dkwX1_settle_1 : List UInt8 := [167, 0, 4, 3, 61, 43, 178, 0, 161, 182, 0, 167, 153, 0, 36, 43, 182, 0, 241, 154, 0, 25, 43]
abbrev dktX1_settle_1 : List UInt8 := dkwX1_settle_1 ++ dktX1_settle_2
def dkwX1_settle_0 : List UInt8 := [43, 178, 0, 235, 182, 0, 167, 153, 0, 18, 43, 180, 0, 238, 42, 180, 0, 155, 160, 0, 7, 4]
abbrev dktX1_settle_0 : List UInt8 := dkwX1_settle_0 ++ dktX1_settle_1
theorem dksX1_settle_0 : cX1_settle.data.toList.drop 0 = dktX1_settle_0 := by decide +kernel
theorem dksX1_settle_1 : cX1_settle.data.toList.drop 22 = dktX1_settle_1 := dk_seg dksX1_settle_0 22 rfl rfl
theorem dksX1_settle_2 : cX1_settle.data.toList.drop 45 = dktX1_settle_2 := dk_seg dksX1_settle_1 23 rfl rfl
theorem dksX1_settle_3 : cX1_settle.data.toList.drop 67 = dktX1_settle_3 := dk_seg dksX1_settle_2 22 rfl rfl
theorem dX1_settle_0 : decode cX1_settle 0 = .ok (.aload_n 1, 1) := dk_43 (dk_at dksX1_settle_0 0 rfl rfl)
theorem dX1_settle_1 : decode cX1_settle 1 = .ok (.getstatic 235, 3) := dk_178 0 235 (dk_at dksX1_settle_0 1 rfl rfl)
theorem dX1_settle_4 : decode cX1_settle 4 = .ok (.invokevirtual 167, 3) := dk_182 0 167 (dk_at dksX1_settle_0 4 rfl rfl)
theorem dX1_settle_7 : decode cX1_settle 7 = .ok (.ifCond .eq 18, 3) := dk_153 0 18 (dk_at dksX1_settle_0 7 rfl rfl)
theorem dX1_settle_10 : decode cX1_settle 10 = .ok (.aload_n 1, 1) := dk_43 (dk_at dksX1_settle_0 10 rfl rfl)
theorem dX1_settle_11 : decode cX1_settle 11 = .ok (.getfield 238, 3) := dk_180 0 238 (dk_at dksX1_settle_0 11 rfl rfl)
theorem dX1_settle_14 : decode cX1_settle 14 = .ok (.aload_n 0, 1) := dk_42 (dk_at dksX1_settle_0 14 rfl rfl)
theorem dX1_settle_15 : decode cX1_settle 15 = .ok (.getfield 155, 3) := dk_180 0 155 (dk_at dksX1_settle_0 15 rfl rfl)
theorem dX1_settle_18 : decode cX1_settle 18 = .ok (.if_icmp .ne 7, 3) := dk_160 0 7 (dk_at dksX1_settle_0 18 rfl rfl)
theorem dX1_settle_21 : decode cX1_settle 21 = .ok (.iconst 1, 1) := dk_4 (dk_at dksX1_settle_0 21 rfl rfl)
theorem dX1_settle_22 : decode cX1_settle 22 = .ok (.goto 4, 3) := dk_167 0 4 (dk_at dksX1_settle_1 0 rfl rfl)
theorem dX1_settle_25 : decode cX1_settle 25 = .ok (.iconst 0, 1) := dk_3 (dk_at dksX1_settle_1 3 rfl rfl)
theorem dX1_settle_26 : decode cX1_settle 26 = .ok (.istore_n 2, 1) := dk_61 (dk_at dksX1_settle_1 4 rfl rfl)
theorem dX1_settle_27 : decode cX1_settle 27 = .ok (.aload_n 1, 1) := dk_43 (dk_at dksX1_settle_1 5 rfl rfl)
theorem dX1_settle_28 : decode cX1_settle 28 = .ok (.getstatic 161, 3) := dk_178 0 161 (dk_at dksX1_settle_1 6 rfl rfl)
theorem dX1_settle_31 : decode cX1_settle 31 = .ok (.invokevirtual 167, 3) := dk_182 0 167 (dk_at dksX1_settle_1 9 rfl rfl)
theorem dX1_settle_34 : decode cX1_settle 34 = .ok (.ifCond .eq 36, 3) := dk_153 0 36 (dk_at dksX1_settle_1 12 rfl rfl)
theorem dX1_settle_37 : decode cX1_settle 37 = .ok (.aload_n 1, 1) := dk_43 (dk_at dksX1_settle_1 15 rfl rfl)
theorem dX1_settle_38 : decode cX1_settle 38 = .ok (.invokevirtual 241, 3) := dk_182 0 241 (dk_at dksX1_settle_1 16 rfl rfl)
theorem dX1_settle_41 : decode cX1_settle 41 = .ok (.ifCond .ne 25, 3) := dk_154 0 25 (dk_at dksX1_settle_1 19 rfl rfl)
theorem dX1_settle_44 : decode cX1_settle 44 = .ok (.aload_n 1, 1) := dk_43 (dk_at dksX1_settle_1 22 rfl rfl)
theorem dX1_settle_45 : decode cX1_settle 45 = .ok (.invokevirtual 148, 3) := dk_182 0 148 (dk_at dksX1_settle_2 0 rfl rfl)
theorem dX1_settle_48 : decode cX1_settle 48 = .ok (.ifCond .eq 22, 3) := dk_153 0 22 (dk_at dksX1_settle_2 3 rfl rfl)
theorem dX1_settle_51 : decode cX1_settle 51 = .ok (.aload_n 0, 1) := dk_42 (dk_at dksX1_settle_2 6 rfl rfl)
theorem dX1_settle_52 : decode cX1_settle 52 = .ok (.aload_n 1, 1) := dk_43 (dk_at dksX1_settle_2 7 rfl rfl)
theorem dX1_settle_53 : decode cX1_settle 53 = .ok (.getfield 244, 3) := dk_180 0 244 (dk_at dksX1_settle_2 8 rfl rfl)
theorem dX1_settle_56 : decode cX1_settle 56 = .ok (.aload_n 0, 1) := dk_42 (dk_at dksX1_settle_2 11 rfl rfl)
theorem dX1_settle_57 : decode cX1_settle 57 = .ok (.getfield 155, 3) := dk_180 0 155 (dk_at dksX1_settle_2 12 rfl rfl)
theorem dX1_settle_60 : decode cX1_settle 60 = .ok (.invokevirtual 245, 3) := dk_182 0 245 (dk_at dksX1_settle_2 15 rfl rfl)
theorem dX1_settle_63 : decode cX1_settle 63 = .ok (.ifCond .eq 7, 3) := dk_153 0 7 (dk_at dksX1_settle_2 18 rfl rfl)
theorem dX1_settle_66 : decode cX1_settle 66 = .ok (.iconst 1, 1) := dk_4 (dk_at dksX1_settle_2 21 rfl rfl)
theorem dX1_settle_67 : decode cX1_settle 67 = .ok (.goto 4, 3) := dk_167 0 4 (dk_at dksX1_settle_3 0 rfl rfl)
theorem dX1_settle_70 : decode cX1_settle 70 = .ok (.iconst 0, 1) := dk_3 (dk_at dksX1_settle_3 3 rfl rfl)
theorem dX1_settle_71 : decode cX1_settle 71 = .ok (.istore_n 3, 1) := dk_62 (dk_at dksX1_settle_3 4 rfl rfl)
theorem dX1_settle_72 : decode cX1_settle 72 = .ok (.iload_n 2, 1) := dk_28 (dk_at dksX1_settle_3 5 rfl rfl)
theorem dX1_settle_73 : decode cX1_settle 73 = .ok (.ifCond .ne 7, 3) := dk_154 0 7 (dk_at dksX1_settle_3 6 rfl rfl)
theorem dX1_settle_76 : decode cX1_settle 76 = .ok (.iload_n 3, 1) := dk_29 (dk_at dksX1_settle_3 9 rfl rfl)
theorem dX1_settle_77 : decode cX1_settle 77 = .ok (.ifCond .eq 10, 3) := dk_153 0 10 (dk_at dksX1_settle_3 10 rfl rfl)
theorem dX1_settle_80 : decode cX1_settle 80 = .ok (.aload_n 1, 1) := dk_43 (dk_at dksX1_settle_3 13 rfl rfl)
theorem dX1_settle_81 : decode cX1_settle 81 = .ok (.getstatic 208, 3) := dk_178 0 208 (dk_at dksX1_settle_3 14 rfl rfl)
theorem dX1_settle_84 : decode cX1_settle 84 = .ok (.invokevirtual 211, 3) := dk_182 0 211 (dk_at dksX1_settle_3 17 rfl rfl)
theorem dX1_settle_87 : decode cX1_settle 87 = .ok (.return_, 1) := dk_177 (dk_at dksX1_settle_3 20 rfl rfl)
abbrev cX1_hasOpen : ByteArray := prog_2_method_26_code
def yX1_hasOpen : MethodName := ⟨RX1, "hasOpen", "(II)Z"⟩
def dkwX1_hasOpen_2 : List UInt8 := [167, 255, 224, 29, 172]
abbrev dktX1_hasOpen_2 : List UInt8 := dkwX1_hasOpen_2 ++ []
def dkwX1_hasOpen_1 : List UInt8 := [25, 4, 185, 0, 132, 1, 0, 192, 0, 195, 58, 5, 29, 25, 5, 27, 28, 182, 0, 231, 128, 62]
abbrev dktX1_hasOpen_1 : List UInt8 := dkwX1_hasOpen_1 ++ dktX1_hasOpen_2
def dkwX1_hasOpen_0 : List UInt8 := [3, 62, 42, 180, 0, 37, 185, 0, 122, 1, 0, 58, 4, 25, 4, 185, 0, 126, 1, 0, 153, 0, 28]
abbrev dktX1_hasOpen_0 : List UInt8 := dkwX1_hasOpen_0 ++ dktX1_hasOpen_1
theorem dksX1_hasOpen_0 : cX1_hasOpen.data.toList.drop 0 = dktX1_hasOpen_0 := by decide +kernel
theorem dksX1_hasOpen_1 : cX1_hasOpen.data.toList.drop 23 = dktX1_hasOpen_1 := dk_seg dksX1_hasOpen_0 23 rfl rfl
theorem dksX1_hasOpen_2 : cX1_hasOpen.data.toList.drop 45 = dktX1_hasOpen_2 := dk_seg dksX1_hasOpen_1 22 rfl rfl
theorem dX1_hasOpen_0 : decode cX1_hasOpen 0 = .ok (.iconst 0, 1) := dk_3 (dk_at dksX1_hasOpen_0 0 rfl rfl)
theorem dX1_hasOpen_1 : decode cX1_hasOpen 1 = .ok (.istore_n 3, 1) := dk_62 (dk_at dksX1_hasOpen_0 1 rfl rfl)
theorem dX1_hasOpen_2 : decode cX1_hasOpen 2 = .ok (.aload_n 0, 1) := dk_42 (dk_at dksX1_hasOpen_0 2 rfl rfl)
theorem dX1_hasOpen_3 : decode cX1_hasOpen 3 = .ok (.getfield 37, 3) := dk_180 0 37 (dk_at dksX1_hasOpen_0 3 rfl rfl)
theorem dX1_hasOpen_6 : decode cX1_hasOpen 6 = .ok (.invokeinterface 122 1, 5) := by decide +kernel
theorem dX1_hasOpen_11 : decode cX1_hasOpen 11 = .ok (.astore 4, 2) := dk_58 4 (dk_at dksX1_hasOpen_0 11 rfl rfl)
theorem dX1_hasOpen_13 : decode cX1_hasOpen 13 = .ok (.aload 4, 2) := dk_25 4 (dk_at dksX1_hasOpen_0 13 rfl rfl)
theorem dX1_hasOpen_15 : decode cX1_hasOpen 15 = .ok (.invokeinterface 126 1, 5) := by decide +kernel
theorem dX1_hasOpen_20 : decode cX1_hasOpen 20 = .ok (.ifCond .eq 28, 3) := dk_153 0 28 (dk_at dksX1_hasOpen_0 20 rfl rfl)
theorem dX1_hasOpen_23 : decode cX1_hasOpen 23 = .ok (.aload 4, 2) := dk_25 4 (dk_at dksX1_hasOpen_1 0 rfl rfl)
theorem dX1_hasOpen_25 : decode cX1_hasOpen 25 = .ok (.invokeinterface 132 1, 5) := by decide +kernel
theorem dX1_hasOpen_30 : decode cX1_hasOpen 30 = .ok (.checkcast 195, 3) := dk_192 0 195 (dk_at dksX1_hasOpen_1 7 rfl rfl)
theorem dX1_hasOpen_33 : decode cX1_hasOpen 33 = .ok (.astore 5, 2) := dk_58 5 (dk_at dksX1_hasOpen_1 10 rfl rfl)
theorem dX1_hasOpen_35 : decode cX1_hasOpen 35 = .ok (.iload_n 3, 1) := dk_29 (dk_at dksX1_hasOpen_1 12 rfl rfl)
theorem dX1_hasOpen_36 : decode cX1_hasOpen 36 = .ok (.aload 5, 2) := dk_25 5 (dk_at dksX1_hasOpen_1 13 rfl rfl)
theorem dX1_hasOpen_38 : decode cX1_hasOpen 38 = .ok (.iload_n 1, 1) := dk_27 (dk_at dksX1_hasOpen_1 15 rfl rfl)
theorem dX1_hasOpen_39 : decode cX1_hasOpen 39 = .ok (.iload_n 2, 1) := dk_28 (dk_at dksX1_hasOpen_1 16 rfl rfl)
theorem dX1_hasOpen_40 : decode cX1_hasOpen 40 = .ok (.invokevirtual 231, 3) := dk_182 0 231 (dk_at dksX1_hasOpen_1 17 rfl rfl)
theorem dX1_hasOpen_43 : decode cX1_hasOpen 43 = .ok (.ior, 1) := dk_128 (dk_at dksX1_hasOpen_1 20 rfl rfl)
theorem dX1_hasOpen_44 : decode cX1_hasOpen 44 = .ok (.istore_n 3, 1) := dk_62 (dk_at dksX1_hasOpen_1 21 rfl rfl)
theorem dX1_hasOpen_45 : decode cX1_hasOpen 45 = .ok (.goto (-32), 3) := dk_167 255 224 (dk_at dksX1_hasOpen_2 0 rfl rfl)
theorem dX1_hasOpen_48 : decode cX1_hasOpen 48 = .ok (.iload_n 3, 1) := dk_29 (dk_at dksX1_hasOpen_2 3 rfl rfl)
theorem dX1_hasOpen_49 : decode cX1_hasOpen 49 = .ok (.ireturn, 1) := dk_172 (dk_at dksX1_hasOpen_2 4 rfl rfl)
abbrev cX1_layersOf : ByteArray := prog_2_method_31_code
def yX1_layersOf : MethodName := ⟨RX1, "layersOf", "(I)I"⟩
def dkwX1_layersOf_0 : List UInt8 := [42, 27, 182, 0, 98, 182, 0, 106, 172]
abbrev dktX1_layersOf_0 : List UInt8 := dkwX1_layersOf_0 ++ []
theorem dksX1_layersOf_0 : cX1_layersOf.data.toList.drop 0 = dktX1_layersOf_0 := by decide +kernel
theorem dX1_layersOf_0 : decode cX1_layersOf 0 = .ok (.aload_n 0, 1) := dk_42 (dk_at dksX1_layersOf_0 0 rfl rfl)
theorem dX1_layersOf_1 : decode cX1_layersOf 1 = .ok (.iload_n 1, 1) := dk_27 (dk_at dksX1_layersOf_0 1 rfl rfl)
theorem dX1_layersOf_2 : decode cX1_layersOf 2 = .ok (.invokevirtual 98, 3) := dk_182 0 98 (dk_at dksX1_layersOf_0 2 rfl rfl)
theorem dX1_layersOf_5 : decode cX1_layersOf 5 = .ok (.invokevirtual 106, 3) := dk_182 0 106 (dk_at dksX1_layersOf_0 5 rfl rfl)
theorem dX1_layersOf_8 : decode cX1_layersOf 8 = .ok (.ireturn, 1) := dk_172 (dk_at dksX1_layersOf_0 8 rfl rfl)
abbrev cX1_uses : ByteArray := prog_2_method_32_code
def yX1_uses : MethodName := ⟨RX1, "uses", "(I)I"⟩
def dkwX1_uses_2 : List UInt8 := [182, 0, 106, 44, 180, 0, 109, 126, 153, 0, 7, 4, 167, 0, 4, 3, 96, 62, 167, 255, 213, 29, 172]
abbrev dktX1_uses_2 : List UInt8 := dkwX1_uses_2 ++ []
def dkwX1_uses_1 : List UInt8 := [185, 0, 126, 1, 0, 153, 0, 39, 25, 4, 185, 0, 132, 1, 0, 192, 0, 66, 58, 5, 29, 25, 5]
abbrev dktX1_uses_1 : List UInt8 := dkwX1_uses_1 ++ dktX1_uses_2
def dkwX1_uses_0 : List UInt8 := [42, 27, 182, 0, 102, 77, 3, 62, 42, 180, 0, 34, 185, 0, 122, 1, 0, 58, 4, 25, 4]
abbrev dktX1_uses_0 : List UInt8 := dkwX1_uses_0 ++ dktX1_uses_1
theorem dksX1_uses_0 : cX1_uses.data.toList.drop 0 = dktX1_uses_0 := by decide +kernel
theorem dksX1_uses_1 : cX1_uses.data.toList.drop 21 = dktX1_uses_1 := dk_seg dksX1_uses_0 21 rfl rfl
theorem dksX1_uses_2 : cX1_uses.data.toList.drop 44 = dktX1_uses_2 := dk_seg dksX1_uses_1 23 rfl rfl
theorem dX1_uses_0 : decode cX1_uses 0 = .ok (.aload_n 0, 1) := dk_42 (dk_at dksX1_uses_0 0 rfl rfl)
theorem dX1_uses_1 : decode cX1_uses 1 = .ok (.iload_n 1, 1) := dk_27 (dk_at dksX1_uses_0 1 rfl rfl)
theorem dX1_uses_2 : decode cX1_uses 2 = .ok (.invokevirtual 102, 3) := dk_182 0 102 (dk_at dksX1_uses_0 2 rfl rfl)
theorem dX1_uses_5 : decode cX1_uses 5 = .ok (.astore_n 2, 1) := dk_77 (dk_at dksX1_uses_0 5 rfl rfl)
theorem dX1_uses_6 : decode cX1_uses 6 = .ok (.iconst 0, 1) := dk_3 (dk_at dksX1_uses_0 6 rfl rfl)
theorem dX1_uses_7 : decode cX1_uses 7 = .ok (.istore_n 3, 1) := dk_62 (dk_at dksX1_uses_0 7 rfl rfl)
theorem dX1_uses_8 : decode cX1_uses 8 = .ok (.aload_n 0, 1) := dk_42 (dk_at dksX1_uses_0 8 rfl rfl)
theorem dX1_uses_9 : decode cX1_uses 9 = .ok (.getfield 34, 3) := dk_180 0 34 (dk_at dksX1_uses_0 9 rfl rfl)
theorem dX1_uses_12 : decode cX1_uses 12 = .ok (.invokeinterface 122 1, 5) := by decide +kernel
theorem dX1_uses_17 : decode cX1_uses 17 = .ok (.astore 4, 2) := dk_58 4 (dk_at dksX1_uses_0 17 rfl rfl)
theorem dX1_uses_19 : decode cX1_uses 19 = .ok (.aload 4, 2) := dk_25 4 (dk_at dksX1_uses_0 19 rfl rfl)
theorem dX1_uses_21 : decode cX1_uses 21 = .ok (.invokeinterface 126 1, 5) := by decide +kernel
theorem dX1_uses_26 : decode cX1_uses 26 = .ok (.ifCond .eq 39, 3) := dk_153 0 39 (dk_at dksX1_uses_1 5 rfl rfl)
theorem dX1_uses_29 : decode cX1_uses 29 = .ok (.aload 4, 2) := dk_25 4 (dk_at dksX1_uses_1 8 rfl rfl)
theorem dX1_uses_31 : decode cX1_uses 31 = .ok (.invokeinterface 132 1, 5) := by decide +kernel
theorem dX1_uses_36 : decode cX1_uses 36 = .ok (.checkcast 66, 3) := dk_192 0 66 (dk_at dksX1_uses_1 15 rfl rfl)
theorem dX1_uses_39 : decode cX1_uses 39 = .ok (.astore 5, 2) := dk_58 5 (dk_at dksX1_uses_1 18 rfl rfl)
theorem dX1_uses_41 : decode cX1_uses 41 = .ok (.iload_n 3, 1) := dk_29 (dk_at dksX1_uses_1 20 rfl rfl)
theorem dX1_uses_42 : decode cX1_uses 42 = .ok (.aload 5, 2) := dk_25 5 (dk_at dksX1_uses_1 21 rfl rfl)
theorem dX1_uses_44 : decode cX1_uses 44 = .ok (.invokevirtual 106, 3) := dk_182 0 106 (dk_at dksX1_uses_2 0 rfl rfl)
theorem dX1_uses_47 : decode cX1_uses 47 = .ok (.aload_n 2, 1) := dk_44 (dk_at dksX1_uses_2 3 rfl rfl)
theorem dX1_uses_48 : decode cX1_uses 48 = .ok (.getfield 109, 3) := dk_180 0 109 (dk_at dksX1_uses_2 4 rfl rfl)
theorem dX1_uses_51 : decode cX1_uses 51 = .ok (.iand, 1) := dk_126 (dk_at dksX1_uses_2 7 rfl rfl)
theorem dX1_uses_52 : decode cX1_uses 52 = .ok (.ifCond .eq 7, 3) := dk_153 0 7 (dk_at dksX1_uses_2 8 rfl rfl)
theorem dX1_uses_55 : decode cX1_uses 55 = .ok (.iconst 1, 1) := dk_4 (dk_at dksX1_uses_2 11 rfl rfl)
theorem dX1_uses_56 : decode cX1_uses 56 = .ok (.goto 4, 3) := dk_167 0 4 (dk_at dksX1_uses_2 12 rfl rfl)
theorem dX1_uses_59 : decode cX1_uses 59 = .ok (.iconst 0, 1) := dk_3 (dk_at dksX1_uses_2 15 rfl rfl)
theorem dX1_uses_60 : decode cX1_uses 60 = .ok (.iadd, 1) := dk_96 (dk_at dksX1_uses_2 16 rfl rfl)
theorem dX1_uses_61 : decode cX1_uses 61 = .ok (.istore_n 3, 1) := dk_62 (dk_at dksX1_uses_2 17 rfl rfl)
theorem dX1_uses_62 : decode cX1_uses 62 = .ok (.goto (-43), 3) := dk_167 255 213 (dk_at dksX1_uses_2 18 rfl rfl)
theorem dX1_uses_65 : decode cX1_uses 65 = .ok (.iload_n 3, 1) := dk_29 (dk_at dksX1_uses_2 21 rfl rfl)
theorem dX1_uses_66 : decode cX1_uses 66 = .ok (.ireturn, 1) := dk_172 (dk_at dksX1_uses_2 22 rfl rfl)
abbrev cX1_isOut : ByteArray := prog_2_method_33_code
def yX1_isOut : MethodName := ⟨RX1, "isOut", "(I)Z"⟩
def dkwX1_isOut_0 : List UInt8 := [42, 27, 182, 0, 102, 42, 180, 0, 155, 182, 1, 16, 172]
abbrev dktX1_isOut_0 : List UInt8 := dkwX1_isOut_0 ++ []
theorem dksX1_isOut_0 : cX1_isOut.data.toList.drop 0 = dktX1_isOut_0 := by decide +kernel
theorem dX1_isOut_0 : decode cX1_isOut 0 = .ok (.aload_n 0, 1) := dk_42 (dk_at dksX1_isOut_0 0 rfl rfl)
theorem dX1_isOut_1 : decode cX1_isOut 1 = .ok (.iload_n 1, 1) := dk_27 (dk_at dksX1_isOut_0 1 rfl rfl)
theorem dX1_isOut_2 : decode cX1_isOut 2 = .ok (.invokevirtual 102, 3) := dk_182 0 102 (dk_at dksX1_isOut_0 2 rfl rfl)
theorem dX1_isOut_5 : decode cX1_isOut 5 = .ok (.aload_n 0, 1) := dk_42 (dk_at dksX1_isOut_0 5 rfl rfl)
theorem dX1_isOut_6 : decode cX1_isOut 6 = .ok (.getfield 155, 3) := dk_180 0 155 (dk_at dksX1_isOut_0 6 rfl rfl)
theorem dX1_isOut_9 : decode cX1_isOut 9 = .ok (.invokevirtual 272, 3) := dk_182 1 16 (dk_at dksX1_isOut_0 9 rfl rfl)
theorem dX1_isOut_12 : decode cX1_isOut 12 = .ok (.ireturn, 1) := dk_172 (dk_at dksX1_isOut_0 12 rfl rfl)
abbrev cX1_stateOf : ByteArray := prog_2_method_34_code
def yX1_stateOf : MethodName := ⟨RX1, "stateOf", "(I)LState;"⟩
def dkwX1_stateOf_0 : List UInt8 := [42, 27, 182, 0, 218, 180, 0, 225, 176]
abbrev dktX1_stateOf_0 : List UInt8 := dkwX1_stateOf_0 ++ []
theorem dksX1_stateOf_0 : cX1_stateOf.data.toList.drop 0 = dktX1_stateOf_0 := by decide +kernel
theorem dX1_stateOf_0 : decode cX1_stateOf 0 = .ok (.aload_n 0, 1) := dk_42 (dk_at dksX1_stateOf_0 0 rfl rfl)
theorem dX1_stateOf_1 : decode cX1_stateOf 1 = .ok (.iload_n 1, 1) := dk_27 (dk_at dksX1_stateOf_0 1 rfl rfl)
theorem dX1_stateOf_2 : decode cX1_stateOf 2 = .ok (.invokevirtual 218, 3) := dk_182 0 218 (dk_at dksX1_stateOf_0 2 rfl rfl)
theorem dX1_stateOf_5 : decode cX1_stateOf 5 = .ok (.getfield 225, 3) := dk_180 0 225 (dk_at dksX1_stateOf_0 5 rfl rfl)
theorem dX1_stateOf_8 : decode cX1_stateOf 8 = .ok (.areturn, 1) := dk_176 (dk_at dksX1_stateOf_0 8 rfl rfl)
abbrev cX1_hostOf : ByteArray := prog_2_method_35_code
def yX1_hostOf : MethodName := ⟨RX1, "hostOf", "(I)I"⟩
def dkwX1_hostOf_0 : List UInt8 := [42, 27, 182, 0, 218, 77, 44, 178, 0, 161, 182, 0, 167, 184, 1, 19, 44, 180, 1, 22, 180, 1, 26, 172]
abbrev dktX1_hostOf_0 : List UInt8 := dkwX1_hostOf_0 ++ []
theorem dksX1_hostOf_0 : cX1_hostOf.data.toList.drop 0 = dktX1_hostOf_0 := by decide +kernel
theorem dX1_hostOf_0 : decode cX1_hostOf 0 = .ok (.aload_n 0, 1) := dk_42 (dk_at dksX1_hostOf_0 0 rfl rfl)
theorem dX1_hostOf_1 : decode cX1_hostOf 1 = .ok (.iload_n 1, 1) := dk_27 (dk_at dksX1_hostOf_0 1 rfl rfl)
theorem dX1_hostOf_2 : decode cX1_hostOf 2 = .ok (.invokevirtual 218, 3) := dk_182 0 218 (dk_at dksX1_hostOf_0 2 rfl rfl)
theorem dX1_hostOf_5 : decode cX1_hostOf 5 = .ok (.astore_n 2, 1) := dk_77 (dk_at dksX1_hostOf_0 5 rfl rfl)
theorem dX1_hostOf_6 : decode cX1_hostOf 6 = .ok (.aload_n 2, 1) := dk_44 (dk_at dksX1_hostOf_0 6 rfl rfl)
theorem dX1_hostOf_7 : decode cX1_hostOf 7 = .ok (.getstatic 161, 3) := dk_178 0 161 (dk_at dksX1_hostOf_0 7 rfl rfl)
theorem dX1_hostOf_10 : decode cX1_hostOf 10 = .ok (.invokevirtual 167, 3) := dk_182 0 167 (dk_at dksX1_hostOf_0 10 rfl rfl)
theorem dX1_hostOf_13 : decode cX1_hostOf 13 = .ok (.invokestatic 275, 3) := dk_184 1 19 (dk_at dksX1_hostOf_0 13 rfl rfl)
theorem dX1_hostOf_16 : decode cX1_hostOf 16 = .ok (.aload_n 2, 1) := dk_44 (dk_at dksX1_hostOf_0 16 rfl rfl)
theorem dX1_hostOf_17 : decode cX1_hostOf 17 = .ok (.getfield 278, 3) := dk_180 1 22 (dk_at dksX1_hostOf_0 17 rfl rfl)
theorem dX1_hostOf_20 : decode cX1_hostOf 20 = .ok (.getfield 282, 3) := dk_180 1 26 (dk_at dksX1_hostOf_0 20 rfl rfl)
theorem dX1_hostOf_23 : decode cX1_hostOf 23 = .ok (.ireturn, 1) := dk_172 (dk_at dksX1_hostOf_0 23 rfl rfl)
abbrev cX1_requireElement : ByteArray := prog_2_method_5_code
def yX1_requireElement : MethodName := ⟨RX1, "requireElement", "(Z)V"⟩
def dkwX1_requireElement_0 : List UInt8 := [26, 154, 0, 11, 187, 0, 13, 89, 183, 0, 15, 191, 177]
abbrev dktX1_requireElement_0 : List UInt8 := dkwX1_requireElement_0 ++ []
theorem dksX1_requireElement_0 : cX1_requireElement.data.toList.drop 0 = dktX1_requireElement_0 := by decide +kernel
theorem dX1_requireElement_0 : decode cX1_requireElement 0 = .ok (.iload_n 0, 1) := dk_26 (dk_at dksX1_requireElement_0 0 rfl rfl)
theorem dX1_requireElement_1 : decode cX1_requireElement 1 = .ok (.ifCond .ne 11, 3) := dk_154 0 11 (dk_at dksX1_requireElement_0 1 rfl rfl)
theorem dX1_requireElement_4 : decode cX1_requireElement 4 = .ok (.new 13, 3) := dk_187 0 13 (dk_at dksX1_requireElement_0 4 rfl rfl)
theorem dX1_requireElement_7 : decode cX1_requireElement 7 = .ok (.dup, 1) := dk_89 (dk_at dksX1_requireElement_0 7 rfl rfl)
theorem dX1_requireElement_8 : decode cX1_requireElement 8 = .ok (.invokespecial 15, 3) := dk_183 0 15 (dk_at dksX1_requireElement_0 8 rfl rfl)
theorem dX1_requireElement_11 : decode cX1_requireElement 11 = .ok (.athrow, 1) := dk_191 (dk_at dksX1_requireElement_0 11 rfl rfl)
theorem dX1_requireElement_12 : decode cX1_requireElement 12 = .ok (.return_, 1) := dk_177 (dk_at dksX1_requireElement_0 12 rfl rfl)
abbrev cX1_barOf : ByteArray := prog_2_method_36_code
def yX1_barOf : MethodName := ⟨RX1, "barOf", "(I)LBar;"⟩
def dkwX1_barOf_1 : List UInt8 := [182, 0, 167, 153, 0, 14, 44, 42, 180, 0, 46, 182, 0, 252, 167, 0, 6, 178, 1, 0, 176]
abbrev dktX1_barOf_1 : List UInt8 := dkwX1_barOf_1 ++ []
def dkwX1_barOf_0 : List UInt8 := [42, 27, 182, 0, 218, 77, 44, 178, 0, 235, 182, 0, 167, 153, 0, 7, 178, 1, 29, 176, 44, 178, 0, 208]
abbrev dktX1_barOf_0 : List UInt8 := dkwX1_barOf_0 ++ dktX1_barOf_1
theorem dksX1_barOf_0 : cX1_barOf.data.toList.drop 0 = dktX1_barOf_0 := by decide +kernel
theorem dksX1_barOf_1 : cX1_barOf.data.toList.drop 24 = dktX1_barOf_1 := dk_seg dksX1_barOf_0 24 rfl rfl
theorem dX1_barOf_0 : decode cX1_barOf 0 = .ok (.aload_n 0, 1) := dk_42 (dk_at dksX1_barOf_0 0 rfl rfl)
theorem dX1_barOf_1 : decode cX1_barOf 1 = .ok (.iload_n 1, 1) := dk_27 (dk_at dksX1_barOf_0 1 rfl rfl)
theorem dX1_barOf_2 : decode cX1_barOf 2 = .ok (.invokevirtual 218, 3) := dk_182 0 218 (dk_at dksX1_barOf_0 2 rfl rfl)
theorem dX1_barOf_5 : decode cX1_barOf 5 = .ok (.astore_n 2, 1) := dk_77 (dk_at dksX1_barOf_0 5 rfl rfl)
theorem dX1_barOf_6 : decode cX1_barOf 6 = .ok (.aload_n 2, 1) := dk_44 (dk_at dksX1_barOf_0 6 rfl rfl)
theorem dX1_barOf_7 : decode cX1_barOf 7 = .ok (.getstatic 235, 3) := dk_178 0 235 (dk_at dksX1_barOf_0 7 rfl rfl)
theorem dX1_barOf_10 : decode cX1_barOf 10 = .ok (.invokevirtual 167, 3) := dk_182 0 167 (dk_at dksX1_barOf_0 10 rfl rfl)
theorem dX1_barOf_13 : decode cX1_barOf 13 = .ok (.ifCond .eq 7, 3) := dk_153 0 7 (dk_at dksX1_barOf_0 13 rfl rfl)
theorem dX1_barOf_16 : decode cX1_barOf 16 = .ok (.getstatic 285, 3) := dk_178 1 29 (dk_at dksX1_barOf_0 16 rfl rfl)
theorem dX1_barOf_19 : decode cX1_barOf 19 = .ok (.areturn, 1) := dk_176 (dk_at dksX1_barOf_0 19 rfl rfl)
theorem dX1_barOf_20 : decode cX1_barOf 20 = .ok (.aload_n 2, 1) := dk_44 (dk_at dksX1_barOf_0 20 rfl rfl)
theorem dX1_barOf_21 : decode cX1_barOf 21 = .ok (.getstatic 208, 3) := dk_178 0 208 (dk_at dksX1_barOf_0 21 rfl rfl)
theorem dX1_barOf_24 : decode cX1_barOf 24 = .ok (.invokevirtual 167, 3) := dk_182 0 167 (dk_at dksX1_barOf_1 0 rfl rfl)
theorem dX1_barOf_27 : decode cX1_barOf 27 = .ok (.ifCond .eq 14, 3) := dk_153 0 14 (dk_at dksX1_barOf_1 3 rfl rfl)
theorem dX1_barOf_30 : decode cX1_barOf 30 = .ok (.aload_n 2, 1) := dk_44 (dk_at dksX1_barOf_1 6 rfl rfl)
theorem dX1_barOf_31 : decode cX1_barOf 31 = .ok (.aload_n 0, 1) := dk_42 (dk_at dksX1_barOf_1 7 rfl rfl)
theorem dX1_barOf_32 : decode cX1_barOf 32 = .ok (.getfield 46, 3) := dk_180 0 46 (dk_at dksX1_barOf_1 8 rfl rfl)
theorem dX1_barOf_35 : decode cX1_barOf 35 = .ok (.invokevirtual 252, 3) := dk_182 0 252 (dk_at dksX1_barOf_1 11 rfl rfl)
theorem dX1_barOf_38 : decode cX1_barOf 38 = .ok (.goto 6, 3) := dk_167 0 6 (dk_at dksX1_barOf_1 14 rfl rfl)
theorem dX1_barOf_41 : decode cX1_barOf 41 = .ok (.getstatic 256, 3) := dk_178 1 0 (dk_at dksX1_barOf_1 17 rfl rfl)
theorem dX1_barOf_44 : decode cX1_barOf 44 = .ok (.areturn, 1) := dk_176 (dk_at dksX1_barOf_1 20 rfl rfl)
abbrev cX1_restsUntil : ByteArray := prog_2_method_37_code
def yX1_restsUntil : MethodName := ⟨RX1, "restsUntil", "(I)I"⟩
def dkwX1_restsUntil_0 : List UInt8 := [42, 27, 182, 0, 218, 77, 44, 178, 0, 235, 182, 0, 167, 184, 1, 19, 44, 180, 0, 238, 172]
abbrev dktX1_restsUntil_0 : List UInt8 := dkwX1_restsUntil_0 ++ []
theorem dksX1_restsUntil_0 : cX1_restsUntil.data.toList.drop 0 = dktX1_restsUntil_0 := by decide +kernel
theorem dX1_restsUntil_0 : decode cX1_restsUntil 0 = .ok (.aload_n 0, 1) := dk_42 (dk_at dksX1_restsUntil_0 0 rfl rfl)
theorem dX1_restsUntil_1 : decode cX1_restsUntil 1 = .ok (.iload_n 1, 1) := dk_27 (dk_at dksX1_restsUntil_0 1 rfl rfl)
theorem dX1_restsUntil_2 : decode cX1_restsUntil 2 = .ok (.invokevirtual 218, 3) := dk_182 0 218 (dk_at dksX1_restsUntil_0 2 rfl rfl)
theorem dX1_restsUntil_5 : decode cX1_restsUntil 5 = .ok (.astore_n 2, 1) := dk_77 (dk_at dksX1_restsUntil_0 5 rfl rfl)
theorem dX1_restsUntil_6 : decode cX1_restsUntil 6 = .ok (.aload_n 2, 1) := dk_44 (dk_at dksX1_restsUntil_0 6 rfl rfl)
theorem dX1_restsUntil_7 : decode cX1_restsUntil 7 = .ok (.getstatic 235, 3) := dk_178 0 235 (dk_at dksX1_restsUntil_0 7 rfl rfl)
theorem dX1_restsUntil_10 : decode cX1_restsUntil 10 = .ok (.invokevirtual 167, 3) := dk_182 0 167 (dk_at dksX1_restsUntil_0 10 rfl rfl)
theorem dX1_restsUntil_13 : decode cX1_restsUntil 13 = .ok (.invokestatic 275, 3) := dk_184 1 19 (dk_at dksX1_restsUntil_0 13 rfl rfl)
theorem dX1_restsUntil_16 : decode cX1_restsUntil 16 = .ok (.aload_n 2, 1) := dk_44 (dk_at dksX1_restsUntil_0 16 rfl rfl)
theorem dX1_restsUntil_17 : decode cX1_restsUntil 17 = .ok (.getfield 238, 3) := dk_180 0 238 (dk_at dksX1_restsUntil_0 17 rfl rfl)
theorem dX1_restsUntil_20 : decode cX1_restsUntil 20 = .ok (.ireturn, 1) := dk_172 (dk_at dksX1_restsUntil_0 20 rfl rfl)
abbrev cX1_layersIn : ByteArray := prog_2_method_38_code
def yX1_layersIn : MethodName := ⟨RX1, "layersIn", "(I)I"⟩
def dkwX1_layersIn_0 : List UInt8 := [42, 27, 182, 0, 218, 77, 44, 178, 0, 161, 182, 0, 167, 184, 1, 19, 44, 180, 0, 171, 172]
abbrev dktX1_layersIn_0 : List UInt8 := dkwX1_layersIn_0 ++ []
theorem dksX1_layersIn_0 : cX1_layersIn.data.toList.drop 0 = dktX1_layersIn_0 := by decide +kernel
theorem dX1_layersIn_0 : decode cX1_layersIn 0 = .ok (.aload_n 0, 1) := dk_42 (dk_at dksX1_layersIn_0 0 rfl rfl)
theorem dX1_layersIn_1 : decode cX1_layersIn 1 = .ok (.iload_n 1, 1) := dk_27 (dk_at dksX1_layersIn_0 1 rfl rfl)
theorem dX1_layersIn_2 : decode cX1_layersIn 2 = .ok (.invokevirtual 218, 3) := dk_182 0 218 (dk_at dksX1_layersIn_0 2 rfl rfl)
theorem dX1_layersIn_5 : decode cX1_layersIn 5 = .ok (.astore_n 2, 1) := dk_77 (dk_at dksX1_layersIn_0 5 rfl rfl)
theorem dX1_layersIn_6 : decode cX1_layersIn 6 = .ok (.aload_n 2, 1) := dk_44 (dk_at dksX1_layersIn_0 6 rfl rfl)
theorem dX1_layersIn_7 : decode cX1_layersIn 7 = .ok (.getstatic 161, 3) := dk_178 0 161 (dk_at dksX1_layersIn_0 7 rfl rfl)
theorem dX1_layersIn_10 : decode cX1_layersIn 10 = .ok (.invokevirtual 167, 3) := dk_182 0 167 (dk_at dksX1_layersIn_0 10 rfl rfl)
theorem dX1_layersIn_13 : decode cX1_layersIn 13 = .ok (.invokestatic 275, 3) := dk_184 1 19 (dk_at dksX1_layersIn_0 13 rfl rfl)
theorem dX1_layersIn_16 : decode cX1_layersIn 16 = .ok (.aload_n 2, 1) := dk_44 (dk_at dksX1_layersIn_0 16 rfl rfl)
theorem dX1_layersIn_17 : decode cX1_layersIn 17 = .ok (.getfield 171, 3) := dk_180 0 171 (dk_at dksX1_layersIn_0 17 rfl rfl)
theorem dX1_layersIn_20 : decode cX1_layersIn 20 = .ok (.ireturn, 1) := dk_172 (dk_at dksX1_layersIn_0 20 rfl rfl)
abbrev cX1_isStale : ByteArray := prog_2_method_39_code
def yX1_isStale : MethodName := ⟨RX1, "isStale", "(I)Z"⟩
def dkwX1_isStale_0 : List UInt8 := [42, 27, 182, 0, 218, 182, 0, 148, 172]
abbrev dktX1_isStale_0 : List UInt8 := dkwX1_isStale_0 ++ []
theorem dksX1_isStale_0 : cX1_isStale.data.toList.drop 0 = dktX1_isStale_0 := by decide +kernel
theorem dX1_isStale_0 : decode cX1_isStale 0 = .ok (.aload_n 0, 1) := dk_42 (dk_at dksX1_isStale_0 0 rfl rfl)
theorem dX1_isStale_1 : decode cX1_isStale 1 = .ok (.iload_n 1, 1) := dk_27 (dk_at dksX1_isStale_0 1 rfl rfl)
theorem dX1_isStale_2 : decode cX1_isStale 2 = .ok (.invokevirtual 218, 3) := dk_182 0 218 (dk_at dksX1_isStale_0 2 rfl rfl)
theorem dX1_isStale_5 : decode cX1_isStale 5 = .ok (.invokevirtual 148, 3) := dk_182 0 148 (dk_at dksX1_isStale_0 5 rfl rfl)
theorem dX1_isStale_8 : decode cX1_isStale 8 = .ok (.ireturn, 1) := dk_172 (dk_at dksX1_isStale_0 8 rfl rfl)
abbrev cX1_isOpen : ByteArray := prog_2_method_40_code
def yX1_isOpen : MethodName := ⟨RX1, "isOpen", "(II)Z"⟩
def dkwX1_isOpen_1 : List UInt8 := [42, 27, 28, 182, 0, 245, 172]
abbrev dktX1_isOpen_1 : List UInt8 := dkwX1_isOpen_1 ++ []
def dkwX1_isOpen_0 : List UInt8 := [5, 188, 4, 89, 3, 27, 184, 0, 191, 84, 89, 4, 28, 3, 17, 3, 231, 184, 0, 75, 84, 184, 0, 144]
abbrev dktX1_isOpen_0 : List UInt8 := dkwX1_isOpen_0 ++ dktX1_isOpen_1
theorem dksX1_isOpen_0 : cX1_isOpen.data.toList.drop 0 = dktX1_isOpen_0 := by decide +kernel
theorem dksX1_isOpen_1 : cX1_isOpen.data.toList.drop 24 = dktX1_isOpen_1 := dk_seg dksX1_isOpen_0 24 rfl rfl
theorem dX1_isOpen_0 : decode cX1_isOpen 0 = .ok (.iconst 2, 1) := dk_5 (dk_at dksX1_isOpen_0 0 rfl rfl)
theorem dX1_isOpen_1 : decode cX1_isOpen 1 = .ok (.newarray .boolean, 2) := dk_188_4 (dk_at dksX1_isOpen_0 1 rfl rfl)
theorem dX1_isOpen_3 : decode cX1_isOpen 3 = .ok (.dup, 1) := dk_89 (dk_at dksX1_isOpen_0 3 rfl rfl)
theorem dX1_isOpen_4 : decode cX1_isOpen 4 = .ok (.iconst 0, 1) := dk_3 (dk_at dksX1_isOpen_0 4 rfl rfl)
theorem dX1_isOpen_5 : decode cX1_isOpen 5 = .ok (.iload_n 1, 1) := dk_27 (dk_at dksX1_isOpen_0 5 rfl rfl)
theorem dX1_isOpen_6 : decode cX1_isOpen 6 = .ok (.invokestatic 191, 3) := dk_184 0 191 (dk_at dksX1_isOpen_0 6 rfl rfl)
theorem dX1_isOpen_9 : decode cX1_isOpen 9 = .ok (.bastore, 1) := dk_84 (dk_at dksX1_isOpen_0 9 rfl rfl)
theorem dX1_isOpen_10 : decode cX1_isOpen 10 = .ok (.dup, 1) := dk_89 (dk_at dksX1_isOpen_0 10 rfl rfl)
theorem dX1_isOpen_11 : decode cX1_isOpen 11 = .ok (.iconst 1, 1) := dk_4 (dk_at dksX1_isOpen_0 11 rfl rfl)
theorem dX1_isOpen_12 : decode cX1_isOpen 12 = .ok (.iload_n 2, 1) := dk_28 (dk_at dksX1_isOpen_0 12 rfl rfl)
theorem dX1_isOpen_13 : decode cX1_isOpen 13 = .ok (.iconst 0, 1) := dk_3 (dk_at dksX1_isOpen_0 13 rfl rfl)
theorem dX1_isOpen_14 : decode cX1_isOpen 14 = .ok (.sipush 999, 3) := dk_17 3 231 (dk_at dksX1_isOpen_0 14 rfl rfl)
theorem dX1_isOpen_17 : decode cX1_isOpen 17 = .ok (.invokestatic 75, 3) := dk_184 0 75 (dk_at dksX1_isOpen_0 17 rfl rfl)
theorem dX1_isOpen_20 : decode cX1_isOpen 20 = .ok (.bastore, 1) := dk_84 (dk_at dksX1_isOpen_0 20 rfl rfl)
theorem dX1_isOpen_21 : decode cX1_isOpen 21 = .ok (.invokestatic 144, 3) := dk_184 0 144 (dk_at dksX1_isOpen_0 21 rfl rfl)
theorem dX1_isOpen_24 : decode cX1_isOpen 24 = .ok (.aload_n 0, 1) := dk_42 (dk_at dksX1_isOpen_1 0 rfl rfl)
theorem dX1_isOpen_25 : decode cX1_isOpen 25 = .ok (.iload_n 1, 1) := dk_27 (dk_at dksX1_isOpen_1 1 rfl rfl)
theorem dX1_isOpen_26 : decode cX1_isOpen 26 = .ok (.iload_n 2, 1) := dk_28 (dk_at dksX1_isOpen_1 2 rfl rfl)
theorem dX1_isOpen_27 : decode cX1_isOpen 27 = .ok (.invokevirtual 245, 3) := dk_182 0 245 (dk_at dksX1_isOpen_1 3 rfl rfl)
theorem dX1_isOpen_30 : decode cX1_isOpen 30 = .ok (.ireturn, 1) := dk_172 (dk_at dksX1_isOpen_1 6 rfl rfl)
abbrev cX1_nextOpen : ByteArray := prog_2_method_41_code
def yX1_nextOpen : MethodName := ⟨RX1, "nextOpen", "(I)I"⟩
def dkwX1_nextOpen_2 : List UInt8 := [28, 42, 180, 0, 155, 16, 24, 96, 163, 0, 7, 4, 167, 0, 4, 3, 184, 1, 19, 28, 172]
abbrev dktX1_nextOpen_2 : List UInt8 := dkwX1_nextOpen_2 ++ []
def dkwX1_nextOpen_1 : List UInt8 := [180, 0, 155, 16, 24, 96, 163, 0, 18, 42, 27, 28, 182, 0, 245, 154, 0, 9, 132, 2, 1, 167, 255, 233]
abbrev dktX1_nextOpen_1 : List UInt8 := dkwX1_nextOpen_1 ++ dktX1_nextOpen_2
def dkwX1_nextOpen_0 : List UInt8 := [4, 188, 4, 89, 3, 27, 184, 0, 191, 84, 184, 0, 144, 42, 180, 0, 155, 4, 96, 61, 28, 42]
abbrev dktX1_nextOpen_0 : List UInt8 := dkwX1_nextOpen_0 ++ dktX1_nextOpen_1
theorem dksX1_nextOpen_0 : cX1_nextOpen.data.toList.drop 0 = dktX1_nextOpen_0 := by decide +kernel
theorem dksX1_nextOpen_1 : cX1_nextOpen.data.toList.drop 22 = dktX1_nextOpen_1 := dk_seg dksX1_nextOpen_0 22 rfl rfl
theorem dksX1_nextOpen_2 : cX1_nextOpen.data.toList.drop 46 = dktX1_nextOpen_2 := dk_seg dksX1_nextOpen_1 24 rfl rfl
theorem dX1_nextOpen_0 : decode cX1_nextOpen 0 = .ok (.iconst 1, 1) := dk_4 (dk_at dksX1_nextOpen_0 0 rfl rfl)
theorem dX1_nextOpen_1 : decode cX1_nextOpen 1 = .ok (.newarray .boolean, 2) := dk_188_4 (dk_at dksX1_nextOpen_0 1 rfl rfl)
theorem dX1_nextOpen_3 : decode cX1_nextOpen 3 = .ok (.dup, 1) := dk_89 (dk_at dksX1_nextOpen_0 3 rfl rfl)
theorem dX1_nextOpen_4 : decode cX1_nextOpen 4 = .ok (.iconst 0, 1) := dk_3 (dk_at dksX1_nextOpen_0 4 rfl rfl)
theorem dX1_nextOpen_5 : decode cX1_nextOpen 5 = .ok (.iload_n 1, 1) := dk_27 (dk_at dksX1_nextOpen_0 5 rfl rfl)
theorem dX1_nextOpen_6 : decode cX1_nextOpen 6 = .ok (.invokestatic 191, 3) := dk_184 0 191 (dk_at dksX1_nextOpen_0 6 rfl rfl)
theorem dX1_nextOpen_9 : decode cX1_nextOpen 9 = .ok (.bastore, 1) := dk_84 (dk_at dksX1_nextOpen_0 9 rfl rfl)
theorem dX1_nextOpen_10 : decode cX1_nextOpen 10 = .ok (.invokestatic 144, 3) := dk_184 0 144 (dk_at dksX1_nextOpen_0 10 rfl rfl)
theorem dX1_nextOpen_13 : decode cX1_nextOpen 13 = .ok (.aload_n 0, 1) := dk_42 (dk_at dksX1_nextOpen_0 13 rfl rfl)
theorem dX1_nextOpen_14 : decode cX1_nextOpen 14 = .ok (.getfield 155, 3) := dk_180 0 155 (dk_at dksX1_nextOpen_0 14 rfl rfl)
theorem dX1_nextOpen_17 : decode cX1_nextOpen 17 = .ok (.iconst 1, 1) := dk_4 (dk_at dksX1_nextOpen_0 17 rfl rfl)
theorem dX1_nextOpen_18 : decode cX1_nextOpen 18 = .ok (.iadd, 1) := dk_96 (dk_at dksX1_nextOpen_0 18 rfl rfl)
theorem dX1_nextOpen_19 : decode cX1_nextOpen 19 = .ok (.istore_n 2, 1) := dk_61 (dk_at dksX1_nextOpen_0 19 rfl rfl)
theorem dX1_nextOpen_20 : decode cX1_nextOpen 20 = .ok (.iload_n 2, 1) := dk_28 (dk_at dksX1_nextOpen_0 20 rfl rfl)
theorem dX1_nextOpen_21 : decode cX1_nextOpen 21 = .ok (.aload_n 0, 1) := dk_42 (dk_at dksX1_nextOpen_0 21 rfl rfl)
theorem dX1_nextOpen_22 : decode cX1_nextOpen 22 = .ok (.getfield 155, 3) := dk_180 0 155 (dk_at dksX1_nextOpen_1 0 rfl rfl)
theorem dX1_nextOpen_25 : decode cX1_nextOpen 25 = .ok (.bipush 24, 2) := dk_16 24 (dk_at dksX1_nextOpen_1 3 rfl rfl)
theorem dX1_nextOpen_27 : decode cX1_nextOpen 27 = .ok (.iadd, 1) := dk_96 (dk_at dksX1_nextOpen_1 5 rfl rfl)
theorem dX1_nextOpen_28 : decode cX1_nextOpen 28 = .ok (.if_icmp .gt 18, 3) := dk_163 0 18 (dk_at dksX1_nextOpen_1 6 rfl rfl)
theorem dX1_nextOpen_31 : decode cX1_nextOpen 31 = .ok (.aload_n 0, 1) := dk_42 (dk_at dksX1_nextOpen_1 9 rfl rfl)
theorem dX1_nextOpen_32 : decode cX1_nextOpen 32 = .ok (.iload_n 1, 1) := dk_27 (dk_at dksX1_nextOpen_1 10 rfl rfl)
theorem dX1_nextOpen_33 : decode cX1_nextOpen 33 = .ok (.iload_n 2, 1) := dk_28 (dk_at dksX1_nextOpen_1 11 rfl rfl)
theorem dX1_nextOpen_34 : decode cX1_nextOpen 34 = .ok (.invokevirtual 245, 3) := dk_182 0 245 (dk_at dksX1_nextOpen_1 12 rfl rfl)
theorem dX1_nextOpen_37 : decode cX1_nextOpen 37 = .ok (.ifCond .ne 9, 3) := dk_154 0 9 (dk_at dksX1_nextOpen_1 15 rfl rfl)
theorem dX1_nextOpen_40 : decode cX1_nextOpen 40 = .ok (.iinc 2 1, 3) := dk_132 2 1 (dk_at dksX1_nextOpen_1 18 rfl rfl)
theorem dX1_nextOpen_43 : decode cX1_nextOpen 43 = .ok (.goto (-23), 3) := dk_167 255 233 (dk_at dksX1_nextOpen_1 21 rfl rfl)
theorem dX1_nextOpen_46 : decode cX1_nextOpen 46 = .ok (.iload_n 2, 1) := dk_28 (dk_at dksX1_nextOpen_2 0 rfl rfl)
theorem dX1_nextOpen_47 : decode cX1_nextOpen 47 = .ok (.aload_n 0, 1) := dk_42 (dk_at dksX1_nextOpen_2 1 rfl rfl)
theorem dX1_nextOpen_48 : decode cX1_nextOpen 48 = .ok (.getfield 155, 3) := dk_180 0 155 (dk_at dksX1_nextOpen_2 2 rfl rfl)
theorem dX1_nextOpen_51 : decode cX1_nextOpen 51 = .ok (.bipush 24, 2) := dk_16 24 (dk_at dksX1_nextOpen_2 5 rfl rfl)
theorem dX1_nextOpen_53 : decode cX1_nextOpen 53 = .ok (.iadd, 1) := dk_96 (dk_at dksX1_nextOpen_2 7 rfl rfl)
theorem dX1_nextOpen_54 : decode cX1_nextOpen 54 = .ok (.if_icmp .gt 7, 3) := dk_163 0 7 (dk_at dksX1_nextOpen_2 8 rfl rfl)
theorem dX1_nextOpen_57 : decode cX1_nextOpen 57 = .ok (.iconst 1, 1) := dk_4 (dk_at dksX1_nextOpen_2 11 rfl rfl)
theorem dX1_nextOpen_58 : decode cX1_nextOpen 58 = .ok (.goto 4, 3) := dk_167 0 4 (dk_at dksX1_nextOpen_2 12 rfl rfl)
theorem dX1_nextOpen_61 : decode cX1_nextOpen 61 = .ok (.iconst 0, 1) := dk_3 (dk_at dksX1_nextOpen_2 15 rfl rfl)
theorem dX1_nextOpen_62 : decode cX1_nextOpen 62 = .ok (.invokestatic 275, 3) := dk_184 1 19 (dk_at dksX1_nextOpen_2 16 rfl rfl)
theorem dX1_nextOpen_65 : decode cX1_nextOpen 65 = .ok (.iload_n 2, 1) := dk_28 (dk_at dksX1_nextOpen_2 19 rfl rfl)
theorem dX1_nextOpen_66 : decode cX1_nextOpen 66 = .ok (.ireturn, 1) := dk_172 (dk_at dksX1_nextOpen_2 20 rfl rfl)
abbrev cX1_freeCores : ByteArray := prog_2_method_42_code
def yX1_freeCores : MethodName := ⟨RX1, "freeCores", "(I)I"⟩
def dkwX1_freeCores_0 : List UInt8 := [42, 27, 182, 1, 32, 77, 44, 180, 1, 36, 172]
abbrev dktX1_freeCores_0 : List UInt8 := dkwX1_freeCores_0 ++ []
theorem dksX1_freeCores_0 : cX1_freeCores.data.toList.drop 0 = dktX1_freeCores_0 := by decide +kernel
theorem dX1_freeCores_0 : decode cX1_freeCores 0 = .ok (.aload_n 0, 1) := dk_42 (dk_at dksX1_freeCores_0 0 rfl rfl)
theorem dX1_freeCores_1 : decode cX1_freeCores 1 = .ok (.iload_n 1, 1) := dk_27 (dk_at dksX1_freeCores_0 1 rfl rfl)
theorem dX1_freeCores_2 : decode cX1_freeCores 2 = .ok (.invokevirtual 288, 3) := dk_182 1 32 (dk_at dksX1_freeCores_0 2 rfl rfl)
theorem dX1_freeCores_5 : decode cX1_freeCores 5 = .ok (.astore_n 2, 1) := dk_77 (dk_at dksX1_freeCores_0 5 rfl rfl)
theorem dX1_freeCores_6 : decode cX1_freeCores 6 = .ok (.aload_n 2, 1) := dk_44 (dk_at dksX1_freeCores_0 6 rfl rfl)
theorem dX1_freeCores_7 : decode cX1_freeCores 7 = .ok (.getfield 292, 3) := dk_180 1 36 (dk_at dksX1_freeCores_0 7 rfl rfl)
theorem dX1_freeCores_10 : decode cX1_freeCores 10 = .ok (.ireturn, 1) := dk_172 (dk_at dksX1_freeCores_0 10 rfl rfl)
abbrev cX1_requireHost : ByteArray := prog_2_method_11_code
def yX1_requireHost : MethodName := ⟨RX1, "requireHost", "(I)LCrateYard$Host;"⟩
def dkwX1_requireHost_1 : List UInt8 := [185, 0, 60, 2, 0, 192, 0, 71, 176]
abbrev dktX1_requireHost_1 : List UInt8 := dkwX1_requireHost_1 ++ []
def dkwX1_requireHost_0 : List UInt8 := [27, 42, 180, 0, 46, 180, 0, 68, 185, 0, 50, 1, 0, 184, 0, 56, 42, 180, 0, 46, 180, 0, 68, 27]
abbrev dktX1_requireHost_0 : List UInt8 := dkwX1_requireHost_0 ++ dktX1_requireHost_1
theorem dksX1_requireHost_0 : cX1_requireHost.data.toList.drop 0 = dktX1_requireHost_0 := by decide +kernel
theorem dksX1_requireHost_1 : cX1_requireHost.data.toList.drop 24 = dktX1_requireHost_1 := dk_seg dksX1_requireHost_0 24 rfl rfl
theorem dX1_requireHost_0 : decode cX1_requireHost 0 = .ok (.iload_n 1, 1) := dk_27 (dk_at dksX1_requireHost_0 0 rfl rfl)
theorem dX1_requireHost_1 : decode cX1_requireHost 1 = .ok (.aload_n 0, 1) := dk_42 (dk_at dksX1_requireHost_0 1 rfl rfl)
theorem dX1_requireHost_2 : decode cX1_requireHost 2 = .ok (.getfield 46, 3) := dk_180 0 46 (dk_at dksX1_requireHost_0 2 rfl rfl)
theorem dX1_requireHost_5 : decode cX1_requireHost 5 = .ok (.getfield 68, 3) := dk_180 0 68 (dk_at dksX1_requireHost_0 5 rfl rfl)
theorem dX1_requireHost_8 : decode cX1_requireHost 8 = .ok (.invokeinterface 50 1, 5) := by decide +kernel
theorem dX1_requireHost_13 : decode cX1_requireHost 13 = .ok (.invokestatic 56, 3) := dk_184 0 56 (dk_at dksX1_requireHost_0 13 rfl rfl)
theorem dX1_requireHost_16 : decode cX1_requireHost 16 = .ok (.aload_n 0, 1) := dk_42 (dk_at dksX1_requireHost_0 16 rfl rfl)
theorem dX1_requireHost_17 : decode cX1_requireHost 17 = .ok (.getfield 46, 3) := dk_180 0 46 (dk_at dksX1_requireHost_0 17 rfl rfl)
theorem dX1_requireHost_20 : decode cX1_requireHost 20 = .ok (.getfield 68, 3) := dk_180 0 68 (dk_at dksX1_requireHost_0 20 rfl rfl)
theorem dX1_requireHost_23 : decode cX1_requireHost 23 = .ok (.iload_n 1, 1) := dk_27 (dk_at dksX1_requireHost_0 23 rfl rfl)
theorem dX1_requireHost_24 : decode cX1_requireHost 24 = .ok (.invokeinterface 60 2, 5) := by decide +kernel
theorem dX1_requireHost_29 : decode cX1_requireHost 29 = .ok (.checkcast 71, 3) := dk_192 0 71 (dk_at dksX1_requireHost_1 5 rfl rfl)
theorem dX1_requireHost_32 : decode cX1_requireHost 32 = .ok (.areturn, 1) := dk_176 (dk_at dksX1_requireHost_1 8 rfl rfl)
abbrev cX1_freeByContainers : ByteArray := prog_2_method_43_code
def yX1_freeByContainers : MethodName := ⟨RX1, "freeByContainers", "(I)I"⟩
def dkwX1_freeByContainers_3 : List UInt8 := [167, 255, 210, 29, 172]
abbrev dktX1_freeByContainers_3 : List UInt8 := dkwX1_freeByContainers_3 ++ []
def dkwX1_freeByContainers_2 : List UInt8 := [29, 25, 5, 180, 1, 22, 44, 166, 0, 14, 25, 5, 180, 1, 44, 182, 0, 79, 167, 0, 4, 3, 100, 62]
abbrev dktX1_freeByContainers_2 : List UInt8 := dkwX1_freeByContainers_2 ++ dktX1_freeByContainers_3
def dkwX1_freeByContainers_1 : List UInt8 := [58, 4, 25, 4, 185, 0, 126, 1, 0, 153, 0, 42, 25, 4, 185, 0, 132, 1, 0, 192, 0, 73, 58, 5]
abbrev dktX1_freeByContainers_1 : List UInt8 := dkwX1_freeByContainers_1 ++ dktX1_freeByContainers_2
def dkwX1_freeByContainers_0 : List UInt8 := [42, 27, 182, 1, 32, 77, 44, 180, 1, 40, 182, 0, 79, 62, 42, 180, 0, 40, 185, 0, 122, 1, 0]
abbrev dktX1_freeByContainers_0 : List UInt8 := dkwX1_freeByContainers_0 ++ dktX1_freeByContainers_1
theorem dksX1_freeByContainers_0 : cX1_freeByContainers.data.toList.drop 0 = dktX1_freeByContainers_0 := by decide +kernel
theorem dksX1_freeByContainers_1 : cX1_freeByContainers.data.toList.drop 23 = dktX1_freeByContainers_1 := dk_seg dksX1_freeByContainers_0 23 rfl rfl
theorem dksX1_freeByContainers_2 : cX1_freeByContainers.data.toList.drop 47 = dktX1_freeByContainers_2 := dk_seg dksX1_freeByContainers_1 24 rfl rfl
theorem dksX1_freeByContainers_3 : cX1_freeByContainers.data.toList.drop 71 = dktX1_freeByContainers_3 := dk_seg dksX1_freeByContainers_2 24 rfl rfl
theorem dX1_freeByContainers_0 : decode cX1_freeByContainers 0 = .ok (.aload_n 0, 1) := dk_42 (dk_at dksX1_freeByContainers_0 0 rfl rfl)
theorem dX1_freeByContainers_1 : decode cX1_freeByContainers 1 = .ok (.iload_n 1, 1) := dk_27 (dk_at dksX1_freeByContainers_0 1 rfl rfl)
theorem dX1_freeByContainers_2 : decode cX1_freeByContainers 2 = .ok (.invokevirtual 288, 3) := dk_182 1 32 (dk_at dksX1_freeByContainers_0 2 rfl rfl)
theorem dX1_freeByContainers_5 : decode cX1_freeByContainers 5 = .ok (.astore_n 2, 1) := dk_77 (dk_at dksX1_freeByContainers_0 5 rfl rfl)
theorem dX1_freeByContainers_6 : decode cX1_freeByContainers 6 = .ok (.aload_n 2, 1) := dk_44 (dk_at dksX1_freeByContainers_0 6 rfl rfl)
theorem dX1_freeByContainers_7 : decode cX1_freeByContainers 7 = .ok (.getfield 296, 3) := dk_180 1 40 (dk_at dksX1_freeByContainers_0 7 rfl rfl)
theorem dX1_freeByContainers_10 : decode cX1_freeByContainers 10 = .ok (.invokevirtual 79, 3) := dk_182 0 79 (dk_at dksX1_freeByContainers_0 10 rfl rfl)
theorem dX1_freeByContainers_13 : decode cX1_freeByContainers 13 = .ok (.istore_n 3, 1) := dk_62 (dk_at dksX1_freeByContainers_0 13 rfl rfl)
theorem dX1_freeByContainers_14 : decode cX1_freeByContainers 14 = .ok (.aload_n 0, 1) := dk_42 (dk_at dksX1_freeByContainers_0 14 rfl rfl)
theorem dX1_freeByContainers_15 : decode cX1_freeByContainers 15 = .ok (.getfield 40, 3) := dk_180 0 40 (dk_at dksX1_freeByContainers_0 15 rfl rfl)
theorem dX1_freeByContainers_18 : decode cX1_freeByContainers 18 = .ok (.invokeinterface 122 1, 5) := by decide +kernel
theorem dX1_freeByContainers_23 : decode cX1_freeByContainers 23 = .ok (.astore 4, 2) := dk_58 4 (dk_at dksX1_freeByContainers_1 0 rfl rfl)
theorem dX1_freeByContainers_25 : decode cX1_freeByContainers 25 = .ok (.aload 4, 2) := dk_25 4 (dk_at dksX1_freeByContainers_1 2 rfl rfl)
theorem dX1_freeByContainers_27 : decode cX1_freeByContainers 27 = .ok (.invokeinterface 126 1, 5) := by decide +kernel
theorem dX1_freeByContainers_32 : decode cX1_freeByContainers 32 = .ok (.ifCond .eq 42, 3) := dk_153 0 42 (dk_at dksX1_freeByContainers_1 9 rfl rfl)
theorem dX1_freeByContainers_35 : decode cX1_freeByContainers 35 = .ok (.aload 4, 2) := dk_25 4 (dk_at dksX1_freeByContainers_1 12 rfl rfl)
theorem dX1_freeByContainers_37 : decode cX1_freeByContainers 37 = .ok (.invokeinterface 132 1, 5) := by decide +kernel
theorem dX1_freeByContainers_42 : decode cX1_freeByContainers 42 = .ok (.checkcast 73, 3) := dk_192 0 73 (dk_at dksX1_freeByContainers_1 19 rfl rfl)
theorem dX1_freeByContainers_45 : decode cX1_freeByContainers 45 = .ok (.astore 5, 2) := dk_58 5 (dk_at dksX1_freeByContainers_1 22 rfl rfl)
theorem dX1_freeByContainers_47 : decode cX1_freeByContainers 47 = .ok (.iload_n 3, 1) := dk_29 (dk_at dksX1_freeByContainers_2 0 rfl rfl)
theorem dX1_freeByContainers_48 : decode cX1_freeByContainers 48 = .ok (.aload 5, 2) := dk_25 5 (dk_at dksX1_freeByContainers_2 1 rfl rfl)
theorem dX1_freeByContainers_50 : decode cX1_freeByContainers 50 = .ok (.getfield 278, 3) := dk_180 1 22 (dk_at dksX1_freeByContainers_2 3 rfl rfl)
theorem dX1_freeByContainers_53 : decode cX1_freeByContainers 53 = .ok (.aload_n 2, 1) := dk_44 (dk_at dksX1_freeByContainers_2 6 rfl rfl)
theorem dX1_freeByContainers_54 : decode cX1_freeByContainers 54 = .ok (.if_acmp .ne 14, 3) := dk_166 0 14 (dk_at dksX1_freeByContainers_2 7 rfl rfl)
theorem dX1_freeByContainers_57 : decode cX1_freeByContainers 57 = .ok (.aload 5, 2) := dk_25 5 (dk_at dksX1_freeByContainers_2 10 rfl rfl)
theorem dX1_freeByContainers_59 : decode cX1_freeByContainers 59 = .ok (.getfield 300, 3) := dk_180 1 44 (dk_at dksX1_freeByContainers_2 12 rfl rfl)
theorem dX1_freeByContainers_62 : decode cX1_freeByContainers 62 = .ok (.invokevirtual 79, 3) := dk_182 0 79 (dk_at dksX1_freeByContainers_2 15 rfl rfl)
theorem dX1_freeByContainers_65 : decode cX1_freeByContainers 65 = .ok (.goto 4, 3) := dk_167 0 4 (dk_at dksX1_freeByContainers_2 18 rfl rfl)
theorem dX1_freeByContainers_68 : decode cX1_freeByContainers 68 = .ok (.iconst 0, 1) := dk_3 (dk_at dksX1_freeByContainers_2 21 rfl rfl)
theorem dX1_freeByContainers_69 : decode cX1_freeByContainers 69 = .ok (.isub, 1) := dk_100 (dk_at dksX1_freeByContainers_2 22 rfl rfl)
theorem dX1_freeByContainers_70 : decode cX1_freeByContainers 70 = .ok (.istore_n 3, 1) := dk_62 (dk_at dksX1_freeByContainers_2 23 rfl rfl)
theorem dX1_freeByContainers_71 : decode cX1_freeByContainers 71 = .ok (.goto (-46), 3) := dk_167 255 210 (dk_at dksX1_freeByContainers_3 0 rfl rfl)
theorem dX1_freeByContainers_74 : decode cX1_freeByContainers 74 = .ok (.iload_n 3, 1) := dk_29 (dk_at dksX1_freeByContainers_3 3 rfl rfl)
theorem dX1_freeByContainers_75 : decode cX1_freeByContainers 75 = .ok (.ireturn, 1) := dk_172 (dk_at dksX1_freeByContainers_3 4 rfl rfl)
abbrev cX1_freeMemory : ByteArray := prog_2_method_44_code
def yX1_freeMemory : MethodName := ⟨RX1, "freeMemory", "(I)I"⟩
def dkwX1_freeMemory_0 : List UInt8 := [42, 27, 182, 1, 32, 77, 44, 180, 1, 47, 172]
abbrev dktX1_freeMemory_0 : List UInt8 := dkwX1_freeMemory_0 ++ []
theorem dksX1_freeMemory_0 : cX1_freeMemory.data.toList.drop 0 = dktX1_freeMemory_0 := by decide +kernel
theorem dX1_freeMemory_0 : decode cX1_freeMemory 0 = .ok (.aload_n 0, 1) := dk_42 (dk_at dksX1_freeMemory_0 0 rfl rfl)
theorem dX1_freeMemory_1 : decode cX1_freeMemory 1 = .ok (.iload_n 1, 1) := dk_27 (dk_at dksX1_freeMemory_0 1 rfl rfl)
theorem dX1_freeMemory_2 : decode cX1_freeMemory 2 = .ok (.invokevirtual 288, 3) := dk_182 1 32 (dk_at dksX1_freeMemory_0 2 rfl rfl)
theorem dX1_freeMemory_5 : decode cX1_freeMemory 5 = .ok (.astore_n 2, 1) := dk_77 (dk_at dksX1_freeMemory_0 5 rfl rfl)
theorem dX1_freeMemory_6 : decode cX1_freeMemory 6 = .ok (.aload_n 2, 1) := dk_44 (dk_at dksX1_freeMemory_0 6 rfl rfl)
theorem dX1_freeMemory_7 : decode cX1_freeMemory 7 = .ok (.getfield 303, 3) := dk_180 1 47 (dk_at dksX1_freeMemory_0 7 rfl rfl)
theorem dX1_freeMemory_10 : decode cX1_freeMemory 10 = .ok (.ireturn, 1) := dk_172 (dk_at dksX1_freeMemory_0 10 rfl rfl)
abbrev cX1_line : ByteArray := prog_2_method_47_code
def yX1_line : MethodName := ⟨RX1, "line", "(I)Ljava/lang/String;"⟩
def dkwX1_line_3 : List UInt8 := [182, 1, 71, 25, 5, 182, 1, 74, 182, 1, 67, 87, 167, 255, 210, 45, 182, 1, 75, 176]
abbrev dktX1_line_3 : List UInt8 := dkwX1_line_3 ++ []
def dkwX1_line_2 : List UInt8 := [185, 0, 132, 1, 0, 192, 0, 73, 58, 5, 25, 5, 180, 1, 22, 44, 166, 0, 18, 45, 16, 32]
abbrev dktX1_line_2 : List UInt8 := dkwX1_line_2 ++ dktX1_line_3
def dkwX1_line_1 : List UInt8 := [180, 0, 40, 185, 0, 122, 1, 0, 58, 4, 25, 4, 185, 0, 126, 1, 0, 153, 0, 42, 25, 4]
abbrev dktX1_line_1 : List UInt8 := dkwX1_line_1 ++ dktX1_line_2
def dkwX1_line_0 : List UInt8 := [42, 27, 182, 1, 32, 77, 187, 1, 60, 89, 183, 1, 62, 78, 45, 44, 182, 1, 63, 182, 1, 67, 87, 42]
abbrev dktX1_line_0 : List UInt8 := dkwX1_line_0 ++ dktX1_line_1
theorem dksX1_line_0 : cX1_line.data.toList.drop 0 = dktX1_line_0 := by decide +kernel
theorem dksX1_line_1 : cX1_line.data.toList.drop 24 = dktX1_line_1 := dk_seg dksX1_line_0 24 rfl rfl
theorem dksX1_line_2 : cX1_line.data.toList.drop 46 = dktX1_line_2 := dk_seg dksX1_line_1 22 rfl rfl
theorem dksX1_line_3 : cX1_line.data.toList.drop 68 = dktX1_line_3 := dk_seg dksX1_line_2 22 rfl rfl
theorem dX1_line_0 : decode cX1_line 0 = .ok (.aload_n 0, 1) := dk_42 (dk_at dksX1_line_0 0 rfl rfl)
theorem dX1_line_1 : decode cX1_line 1 = .ok (.iload_n 1, 1) := dk_27 (dk_at dksX1_line_0 1 rfl rfl)
theorem dX1_line_2 : decode cX1_line 2 = .ok (.invokevirtual 288, 3) := dk_182 1 32 (dk_at dksX1_line_0 2 rfl rfl)
theorem dX1_line_5 : decode cX1_line 5 = .ok (.astore_n 2, 1) := dk_77 (dk_at dksX1_line_0 5 rfl rfl)
theorem dX1_line_6 : decode cX1_line 6 = .ok (.new 316, 3) := dk_187 1 60 (dk_at dksX1_line_0 6 rfl rfl)
theorem dX1_line_9 : decode cX1_line 9 = .ok (.dup, 1) := dk_89 (dk_at dksX1_line_0 9 rfl rfl)
theorem dX1_line_10 : decode cX1_line 10 = .ok (.invokespecial 318, 3) := dk_183 1 62 (dk_at dksX1_line_0 10 rfl rfl)
theorem dX1_line_13 : decode cX1_line 13 = .ok (.astore_n 3, 1) := dk_78 (dk_at dksX1_line_0 13 rfl rfl)
theorem dX1_line_14 : decode cX1_line 14 = .ok (.aload_n 3, 1) := dk_45 (dk_at dksX1_line_0 14 rfl rfl)
theorem dX1_line_15 : decode cX1_line 15 = .ok (.aload_n 2, 1) := dk_44 (dk_at dksX1_line_0 15 rfl rfl)
theorem dX1_line_16 : decode cX1_line 16 = .ok (.invokevirtual 319, 3) := dk_182 1 63 (dk_at dksX1_line_0 16 rfl rfl)
theorem dX1_line_19 : decode cX1_line 19 = .ok (.invokevirtual 323, 3) := dk_182 1 67 (dk_at dksX1_line_0 19 rfl rfl)
theorem dX1_line_22 : decode cX1_line 22 = .ok (.pop, 1) := dk_87 (dk_at dksX1_line_0 22 rfl rfl)
theorem dX1_line_23 : decode cX1_line 23 = .ok (.aload_n 0, 1) := dk_42 (dk_at dksX1_line_0 23 rfl rfl)
theorem dX1_line_24 : decode cX1_line 24 = .ok (.getfield 40, 3) := dk_180 0 40 (dk_at dksX1_line_1 0 rfl rfl)
theorem dX1_line_27 : decode cX1_line 27 = .ok (.invokeinterface 122 1, 5) := by decide +kernel
theorem dX1_line_32 : decode cX1_line 32 = .ok (.astore 4, 2) := dk_58 4 (dk_at dksX1_line_1 8 rfl rfl)
theorem dX1_line_34 : decode cX1_line 34 = .ok (.aload 4, 2) := dk_25 4 (dk_at dksX1_line_1 10 rfl rfl)
theorem dX1_line_36 : decode cX1_line 36 = .ok (.invokeinterface 126 1, 5) := by decide +kernel
theorem dX1_line_41 : decode cX1_line 41 = .ok (.ifCond .eq 42, 3) := dk_153 0 42 (dk_at dksX1_line_1 17 rfl rfl)
theorem dX1_line_44 : decode cX1_line 44 = .ok (.aload 4, 2) := dk_25 4 (dk_at dksX1_line_1 20 rfl rfl)
theorem dX1_line_46 : decode cX1_line 46 = .ok (.invokeinterface 132 1, 5) := by decide +kernel
theorem dX1_line_51 : decode cX1_line 51 = .ok (.checkcast 73, 3) := dk_192 0 73 (dk_at dksX1_line_2 5 rfl rfl)
theorem dX1_line_54 : decode cX1_line 54 = .ok (.astore 5, 2) := dk_58 5 (dk_at dksX1_line_2 8 rfl rfl)
theorem dX1_line_56 : decode cX1_line 56 = .ok (.aload 5, 2) := dk_25 5 (dk_at dksX1_line_2 10 rfl rfl)
theorem dX1_line_58 : decode cX1_line 58 = .ok (.getfield 278, 3) := dk_180 1 22 (dk_at dksX1_line_2 12 rfl rfl)
theorem dX1_line_61 : decode cX1_line 61 = .ok (.aload_n 2, 1) := dk_44 (dk_at dksX1_line_2 15 rfl rfl)
theorem dX1_line_62 : decode cX1_line 62 = .ok (.if_acmp .ne 18, 3) := dk_166 0 18 (dk_at dksX1_line_2 16 rfl rfl)
theorem dX1_line_65 : decode cX1_line 65 = .ok (.aload_n 3, 1) := dk_45 (dk_at dksX1_line_2 19 rfl rfl)
theorem dX1_line_66 : decode cX1_line 66 = .ok (.bipush 32, 2) := dk_16 32 (dk_at dksX1_line_2 20 rfl rfl)
theorem dX1_line_68 : decode cX1_line 68 = .ok (.invokevirtual 327, 3) := dk_182 1 71 (dk_at dksX1_line_3 0 rfl rfl)
theorem dX1_line_71 : decode cX1_line 71 = .ok (.aload 5, 2) := dk_25 5 (dk_at dksX1_line_3 3 rfl rfl)
theorem dX1_line_73 : decode cX1_line 73 = .ok (.invokevirtual 330, 3) := dk_182 1 74 (dk_at dksX1_line_3 5 rfl rfl)
theorem dX1_line_76 : decode cX1_line 76 = .ok (.invokevirtual 323, 3) := dk_182 1 67 (dk_at dksX1_line_3 8 rfl rfl)
theorem dX1_line_79 : decode cX1_line 79 = .ok (.pop, 1) := dk_87 (dk_at dksX1_line_3 11 rfl rfl)
theorem dX1_line_80 : decode cX1_line 80 = .ok (.goto (-46), 3) := dk_167 255 210 (dk_at dksX1_line_3 12 rfl rfl)
theorem dX1_line_83 : decode cX1_line 83 = .ok (.aload_n 3, 1) := dk_45 (dk_at dksX1_line_3 15 rfl rfl)
theorem dX1_line_84 : decode cX1_line 84 = .ok (.invokevirtual 331, 3) := dk_182 1 75 (dk_at dksX1_line_3 16 rfl rfl)
theorem dX1_line_87 : decode cX1_line 87 = .ok (.areturn, 1) := dk_176 (dk_at dksX1_line_3 19 rfl rfl)
abbrev cX1_runningShare : ByteArray := prog_2_method_50_code
def yX1_runningShare : MethodName := ⟨RX1, "runningShare", "()F"⟩
def dkwX1_runningShare_1 : List UInt8 := [178, 0, 161, 182, 1, 76, 134, 27, 134, 110, 174]
abbrev dktX1_runningShare_1 : List UInt8 := dkwX1_runningShare_1 ++ []
def dkwX1_runningShare_0 : List UInt8 := [42, 180, 0, 40, 185, 0, 50, 1, 0, 42, 178, 0, 222, 182, 1, 76, 100, 60, 27, 184, 1, 80, 42]
abbrev dktX1_runningShare_0 : List UInt8 := dkwX1_runningShare_0 ++ dktX1_runningShare_1
theorem dksX1_runningShare_0 : cX1_runningShare.data.toList.drop 0 = dktX1_runningShare_0 := by decide +kernel
theorem dksX1_runningShare_1 : cX1_runningShare.data.toList.drop 23 = dktX1_runningShare_1 := dk_seg dksX1_runningShare_0 23 rfl rfl
theorem dX1_runningShare_0 : decode cX1_runningShare 0 = .ok (.aload_n 0, 1) := dk_42 (dk_at dksX1_runningShare_0 0 rfl rfl)
theorem dX1_runningShare_1 : decode cX1_runningShare 1 = .ok (.getfield 40, 3) := dk_180 0 40 (dk_at dksX1_runningShare_0 1 rfl rfl)
theorem dX1_runningShare_4 : decode cX1_runningShare 4 = .ok (.invokeinterface 50 1, 5) := by decide +kernel
theorem dX1_runningShare_9 : decode cX1_runningShare 9 = .ok (.aload_n 0, 1) := dk_42 (dk_at dksX1_runningShare_0 9 rfl rfl)
theorem dX1_runningShare_10 : decode cX1_runningShare 10 = .ok (.getstatic 222, 3) := dk_178 0 222 (dk_at dksX1_runningShare_0 10 rfl rfl)
theorem dX1_runningShare_13 : decode cX1_runningShare 13 = .ok (.invokevirtual 332, 3) := dk_182 1 76 (dk_at dksX1_runningShare_0 13 rfl rfl)
theorem dX1_runningShare_16 : decode cX1_runningShare 16 = .ok (.isub, 1) := dk_100 (dk_at dksX1_runningShare_0 16 rfl rfl)
theorem dX1_runningShare_17 : decode cX1_runningShare 17 = .ok (.istore_n 1, 1) := dk_60 (dk_at dksX1_runningShare_0 17 rfl rfl)
theorem dX1_runningShare_18 : decode cX1_runningShare 18 = .ok (.iload_n 1, 1) := dk_27 (dk_at dksX1_runningShare_0 18 rfl rfl)
theorem dX1_runningShare_19 : decode cX1_runningShare 19 = .ok (.invokestatic 336, 3) := dk_184 1 80 (dk_at dksX1_runningShare_0 19 rfl rfl)
theorem dX1_runningShare_22 : decode cX1_runningShare 22 = .ok (.aload_n 0, 1) := dk_42 (dk_at dksX1_runningShare_0 22 rfl rfl)
theorem dX1_runningShare_23 : decode cX1_runningShare 23 = .ok (.getstatic 161, 3) := dk_178 0 161 (dk_at dksX1_runningShare_1 0 rfl rfl)
theorem dX1_runningShare_26 : decode cX1_runningShare 26 = .ok (.invokevirtual 332, 3) := dk_182 1 76 (dk_at dksX1_runningShare_1 3 rfl rfl)
theorem dX1_runningShare_29 : decode cX1_runningShare 29 = .ok (.i2f, 1) := dk_134 (dk_at dksX1_runningShare_1 6 rfl rfl)
theorem dX1_runningShare_30 : decode cX1_runningShare 30 = .ok (.iload_n 1, 1) := dk_27 (dk_at dksX1_runningShare_1 7 rfl rfl)
theorem dX1_runningShare_31 : decode cX1_runningShare 31 = .ok (.i2f, 1) := dk_134 (dk_at dksX1_runningShare_1 8 rfl rfl)
theorem dX1_runningShare_32 : decode cX1_runningShare 32 = .ok (.fdiv, 1) := dk_110 (dk_at dksX1_runningShare_1 9 rfl rfl)
theorem dX1_runningShare_33 : decode cX1_runningShare 33 = .ok (.freturn, 1) := dk_174 (dk_at dksX1_runningShare_1 10 rfl rfl)
abbrev cX1_count : ByteArray := prog_2_method_49_code
def yX1_count : MethodName := ⟨RX1, "count", "(LState;)I"⟩
def dkwX1_count_2 : List UInt8 := [3, 96, 61, 167, 255, 219, 28, 172]
abbrev dktX1_count_2 : List UInt8 := dkwX1_count_2 ++ []
def dkwX1_count_1 : List UInt8 := [185, 0, 132, 1, 0, 192, 0, 73, 58, 4, 28, 25, 4, 43, 182, 0, 167, 153, 0, 7, 4, 167, 0, 4]
abbrev dktX1_count_1 : List UInt8 := dkwX1_count_1 ++ dktX1_count_2
def dkwX1_count_0 : List UInt8 := [3, 61, 42, 180, 0, 40, 185, 0, 122, 1, 0, 78, 45, 185, 0, 126, 1, 0, 153, 0, 34, 45]
abbrev dktX1_count_0 : List UInt8 := dkwX1_count_0 ++ dktX1_count_1
theorem dksX1_count_0 : cX1_count.data.toList.drop 0 = dktX1_count_0 := by decide +kernel
theorem dksX1_count_1 : cX1_count.data.toList.drop 22 = dktX1_count_1 := dk_seg dksX1_count_0 22 rfl rfl
theorem dksX1_count_2 : cX1_count.data.toList.drop 46 = dktX1_count_2 := dk_seg dksX1_count_1 24 rfl rfl
theorem dX1_count_0 : decode cX1_count 0 = .ok (.iconst 0, 1) := dk_3 (dk_at dksX1_count_0 0 rfl rfl)
theorem dX1_count_1 : decode cX1_count 1 = .ok (.istore_n 2, 1) := dk_61 (dk_at dksX1_count_0 1 rfl rfl)
theorem dX1_count_2 : decode cX1_count 2 = .ok (.aload_n 0, 1) := dk_42 (dk_at dksX1_count_0 2 rfl rfl)
theorem dX1_count_3 : decode cX1_count 3 = .ok (.getfield 40, 3) := dk_180 0 40 (dk_at dksX1_count_0 3 rfl rfl)
theorem dX1_count_6 : decode cX1_count 6 = .ok (.invokeinterface 122 1, 5) := by decide +kernel
theorem dX1_count_11 : decode cX1_count 11 = .ok (.astore_n 3, 1) := dk_78 (dk_at dksX1_count_0 11 rfl rfl)
theorem dX1_count_12 : decode cX1_count 12 = .ok (.aload_n 3, 1) := dk_45 (dk_at dksX1_count_0 12 rfl rfl)
theorem dX1_count_13 : decode cX1_count 13 = .ok (.invokeinterface 126 1, 5) := by decide +kernel
theorem dX1_count_18 : decode cX1_count 18 = .ok (.ifCond .eq 34, 3) := dk_153 0 34 (dk_at dksX1_count_0 18 rfl rfl)
theorem dX1_count_21 : decode cX1_count 21 = .ok (.aload_n 3, 1) := dk_45 (dk_at dksX1_count_0 21 rfl rfl)
theorem dX1_count_22 : decode cX1_count 22 = .ok (.invokeinterface 132 1, 5) := by decide +kernel
theorem dX1_count_27 : decode cX1_count 27 = .ok (.checkcast 73, 3) := dk_192 0 73 (dk_at dksX1_count_1 5 rfl rfl)
theorem dX1_count_30 : decode cX1_count 30 = .ok (.astore 4, 2) := dk_58 4 (dk_at dksX1_count_1 8 rfl rfl)
theorem dX1_count_32 : decode cX1_count 32 = .ok (.iload_n 2, 1) := dk_28 (dk_at dksX1_count_1 10 rfl rfl)
theorem dX1_count_33 : decode cX1_count 33 = .ok (.aload 4, 2) := dk_25 4 (dk_at dksX1_count_1 11 rfl rfl)
theorem dX1_count_35 : decode cX1_count 35 = .ok (.aload_n 1, 1) := dk_43 (dk_at dksX1_count_1 13 rfl rfl)
theorem dX1_count_36 : decode cX1_count 36 = .ok (.invokevirtual 167, 3) := dk_182 0 167 (dk_at dksX1_count_1 14 rfl rfl)
theorem dX1_count_39 : decode cX1_count 39 = .ok (.ifCond .eq 7, 3) := dk_153 0 7 (dk_at dksX1_count_1 17 rfl rfl)
theorem dX1_count_42 : decode cX1_count 42 = .ok (.iconst 1, 1) := dk_4 (dk_at dksX1_count_1 20 rfl rfl)
theorem dX1_count_43 : decode cX1_count 43 = .ok (.goto 4, 3) := dk_167 0 4 (dk_at dksX1_count_1 21 rfl rfl)
theorem dX1_count_46 : decode cX1_count 46 = .ok (.iconst 0, 1) := dk_3 (dk_at dksX1_count_2 0 rfl rfl)
theorem dX1_count_47 : decode cX1_count 47 = .ok (.iadd, 1) := dk_96 (dk_at dksX1_count_2 1 rfl rfl)
theorem dX1_count_48 : decode cX1_count 48 = .ok (.istore_n 2, 1) := dk_61 (dk_at dksX1_count_2 2 rfl rfl)
theorem dX1_count_49 : decode cX1_count 49 = .ok (.goto (-37), 3) := dk_167 255 219 (dk_at dksX1_count_2 3 rfl rfl)
theorem dX1_count_52 : decode cX1_count 52 = .ok (.iload_n 2, 1) := dk_28 (dk_at dksX1_count_2 6 rfl rfl)
theorem dX1_count_53 : decode cX1_count 53 = .ok (.ireturn, 1) := dk_172 (dk_at dksX1_count_2 7 rfl rfl)
abbrev cX1_requireSome : ByteArray := prog_2_method_7_code
def yX1_requireSome : MethodName := ⟨RX1, "requireSome", "(I)V"⟩
def dkwX1_requireSome_0 : List UInt8 := [26, 154, 0, 11, 187, 0, 19, 89, 183, 0, 21, 191, 177]
abbrev dktX1_requireSome_0 : List UInt8 := dkwX1_requireSome_0 ++ []
theorem dksX1_requireSome_0 : cX1_requireSome.data.toList.drop 0 = dktX1_requireSome_0 := by decide +kernel
theorem dX1_requireSome_0 : decode cX1_requireSome 0 = .ok (.iload_n 0, 1) := dk_26 (dk_at dksX1_requireSome_0 0 rfl rfl)
theorem dX1_requireSome_1 : decode cX1_requireSome 1 = .ok (.ifCond .ne 11, 3) := dk_154 0 11 (dk_at dksX1_requireSome_0 1 rfl rfl)
theorem dX1_requireSome_4 : decode cX1_requireSome 4 = .ok (.new 19, 3) := dk_187 0 19 (dk_at dksX1_requireSome_0 4 rfl rfl)
theorem dX1_requireSome_7 : decode cX1_requireSome 7 = .ok (.dup, 1) := dk_89 (dk_at dksX1_requireSome_0 7 rfl rfl)
theorem dX1_requireSome_8 : decode cX1_requireSome 8 = .ok (.invokespecial 21, 3) := dk_183 0 21 (dk_at dksX1_requireSome_0 8 rfl rfl)
theorem dX1_requireSome_11 : decode cX1_requireSome 11 = .ok (.athrow, 1) := dk_191 (dk_at dksX1_requireSome_0 11 rfl rfl)
theorem dX1_requireSome_12 : decode cX1_requireSome 12 = .ok (.return_, 1) := dk_177 (dk_at dksX1_requireSome_0 12 rfl rfl)
abbrev cX1_meanCores : ByteArray := prog_2_method_51_code
def yX1_meanCores : MethodName := ⟨RX1, "meanCores", "()D"⟩
def dkwX1_meanCores_0 : List UInt8 := [42, 178, 0, 161, 182, 1, 76, 60, 27, 184, 1, 80, 42, 180, 0, 46, 180, 0, 205, 135, 27, 135, 111, 175]
abbrev dktX1_meanCores_0 : List UInt8 := dkwX1_meanCores_0 ++ []
theorem dksX1_meanCores_0 : cX1_meanCores.data.toList.drop 0 = dktX1_meanCores_0 := by decide +kernel
theorem dX1_meanCores_0 : decode cX1_meanCores 0 = .ok (.aload_n 0, 1) := dk_42 (dk_at dksX1_meanCores_0 0 rfl rfl)
theorem dX1_meanCores_1 : decode cX1_meanCores 1 = .ok (.getstatic 161, 3) := dk_178 0 161 (dk_at dksX1_meanCores_0 1 rfl rfl)
theorem dX1_meanCores_4 : decode cX1_meanCores 4 = .ok (.invokevirtual 332, 3) := dk_182 1 76 (dk_at dksX1_meanCores_0 4 rfl rfl)
theorem dX1_meanCores_7 : decode cX1_meanCores 7 = .ok (.istore_n 1, 1) := dk_60 (dk_at dksX1_meanCores_0 7 rfl rfl)
theorem dX1_meanCores_8 : decode cX1_meanCores 8 = .ok (.iload_n 1, 1) := dk_27 (dk_at dksX1_meanCores_0 8 rfl rfl)
theorem dX1_meanCores_9 : decode cX1_meanCores 9 = .ok (.invokestatic 336, 3) := dk_184 1 80 (dk_at dksX1_meanCores_0 9 rfl rfl)
theorem dX1_meanCores_12 : decode cX1_meanCores 12 = .ok (.aload_n 0, 1) := dk_42 (dk_at dksX1_meanCores_0 12 rfl rfl)
theorem dX1_meanCores_13 : decode cX1_meanCores 13 = .ok (.getfield 46, 3) := dk_180 0 46 (dk_at dksX1_meanCores_0 13 rfl rfl)
theorem dX1_meanCores_16 : decode cX1_meanCores 16 = .ok (.getfield 205, 3) := dk_180 0 205 (dk_at dksX1_meanCores_0 16 rfl rfl)
theorem dX1_meanCores_19 : decode cX1_meanCores 19 = .ok (.i2d, 1) := dk_135 (dk_at dksX1_meanCores_0 19 rfl rfl)
theorem dX1_meanCores_20 : decode cX1_meanCores 20 = .ok (.iload_n 1, 1) := dk_27 (dk_at dksX1_meanCores_0 20 rfl rfl)
theorem dX1_meanCores_21 : decode cX1_meanCores 21 = .ok (.i2d, 1) := dk_135 (dk_at dksX1_meanCores_0 21 rfl rfl)
theorem dX1_meanCores_22 : decode cX1_meanCores 22 = .ok (.ddiv, 1) := dk_111 (dk_at dksX1_meanCores_0 22 rfl rfl)
theorem dX1_meanCores_23 : decode cX1_meanCores 23 = .ok (.dreturn, 1) := dk_175 (dk_at dksX1_meanCores_0 23 rfl rfl)
theorem q34 : (Jvm.Cond.initialized "CrateYard") ∈ lw_all := lw_g (lw_at lw_m1 1 rfl) rfl
theorem q76 : (Jvm.Cond.instantiable "CrateYard" (7 : Nat)) ∈ lw_all := lw_g (lw_at lw_m1 43 rfl) rfl
theorem q78 : (Jvm.Cond.instanceMethod ({ cls := "CrateYard", name := "<init>", desc := "()V" } : Jvm.MethodName)) ∈ lw_all := lw_g (lw_at lw_m1 45 rfl) rfl
theorem q79 : (Jvm.Cond.code ({ cls := "CrateYard", name := "<init>", desc := "()V" } : Jvm.MethodName) prog_2_method_8_code (1 : Nat) (Option.none : Option Jvm.ClassFile.FieldType)) ∈ lw_all := lw_g (lw_at lw_m1 46 rfl) rfl
theorem q80 : (Jvm.Cond.methodLink "CrateYard" (22 : Nat) ({ cls := "java/lang/Object", name := "<init>", desc := "()V" } : Jvm.MethodName)) ∈ lw_all := lw_g (lw_at lw_m1 47 rfl) rfl
theorem q83 : (Jvm.Cond.classLink "CrateYard" (25 : Nat) "java/util/ArrayList") ∈ lw_all := lw_g (lw_at lw_m1 50 rfl) rfl
theorem q85 : (Jvm.Cond.methodLink "CrateYard" (27 : Nat) ({ cls := "java/util/ArrayList", name := "<init>", desc := "()V" } : Jvm.MethodName)) ∈ lw_all := lw_g (lw_at lw_m1 52 rfl) rfl
theorem q112 : (Jvm.Cond.classLink "CrateYard" (43 : Nat) "CrateYard$Park") ∈ lw_all := lw_g (lw_at lw_m1 79 rfl) rfl
theorem q114 : (Jvm.Cond.methodLink "CrateYard" (45 : Nat) ({ cls := "CrateYard$Park", name := "<init>", desc := "()V" } : Jvm.MethodName)) ∈ lw_all := lw_g (lw_at lw_m1 81 rfl) rfl
theorem q121 : (Jvm.Cond.fieldLinkNest "CrateYard" (68 : Nat) "CrateYard$Park" "hosts" "Ljava/util/List;" "CrateYard") ∈ lw_tbl := lw_at lw_m1 88 rfl
theorem q123 : (Jvm.Cond.fieldLinkNest "CrateYard" (202 : Nat) "CrateYard$Park" "licensed" "I" "CrateYard") ∈ lw_tbl := lw_at lw_m1 90 rfl
theorem q125 : (Jvm.Cond.fieldLinkNest "CrateYard" (205 : Nat) "CrateYard$Park" "taken" "I" "CrateYard") ∈ lw_tbl := lw_at lw_m1 92 rfl
theorem q134 : (Jvm.Cond.fieldLink "CrateYard" (28 : Nat) "CrateYard" "allLayers" "Ljava/util/List;") ∈ lw_all := lw_g (lw_at lw_m1 101 rfl) rfl
theorem q135 : (Jvm.Cond.fieldLink "CrateYard" (34 : Nat) "CrateYard" "images" "Ljava/util/List;") ∈ lw_all := lw_g (lw_at lw_m1 102 rfl) rfl
theorem q136 : (Jvm.Cond.fieldLink "CrateYard" (37 : Nat) "CrateYard" "windows" "Ljava/util/List;") ∈ lw_all := lw_g (lw_at lw_m1 103 rfl) rfl
theorem q137 : (Jvm.Cond.fieldLink "CrateYard" (40 : Nat) "CrateYard" "containers" "Ljava/util/List;") ∈ lw_all := lw_g (lw_at lw_m1 104 rfl) rfl
theorem q139 : (Jvm.Cond.fieldLink "CrateYard" (46 : Nat) "CrateYard" "park" "LCrateYard$Park;") ∈ lw_all := lw_g (lw_at lw_m1 106 rfl) rfl
theorem q141 : (Jvm.Cond.fieldLink "CrateYard" (155 : Nat) "CrateYard" "hour" "I") ∈ lw_all := lw_g (lw_at lw_m1 108 rfl) rfl
theorem q143 : (Jvm.Cond.fieldLink "CrateYard" (265 : Nat) "CrateYard" "starts" "J") ∈ lw_all := lw_g (lw_at lw_m1 110 rfl) rfl
theorem q144 : (Jvm.Cond.laysFinal "CrateYard" "CrateYard" "allLayers" "Ljava/util/List;") ∈ lw_all := lw_g (lw_at lw_m1 111 rfl) rfl
theorem q145 : (Jvm.Cond.soleField "CrateYard" "allLayers") ∈ lw_all := lw_g (lw_at lw_m1 112 rfl) rfl
theorem q146 : (Jvm.Cond.laysFinal "CrateYard" "CrateYard" "images" "Ljava/util/List;") ∈ lw_all := lw_g (lw_at lw_m1 113 rfl) rfl
theorem q147 : (Jvm.Cond.soleField "CrateYard" "images") ∈ lw_all := lw_g (lw_at lw_m1 114 rfl) rfl
theorem q148 : (Jvm.Cond.laysFinal "CrateYard" "CrateYard" "windows" "Ljava/util/List;") ∈ lw_all := lw_g (lw_at lw_m1 115 rfl) rfl
theorem q149 : (Jvm.Cond.soleField "CrateYard" "windows") ∈ lw_all := lw_g (lw_at lw_m1 116 rfl) rfl
theorem q150 : (Jvm.Cond.laysFinal "CrateYard" "CrateYard" "containers" "Ljava/util/List;") ∈ lw_all := lw_g (lw_at lw_m1 117 rfl) rfl
theorem q151 : (Jvm.Cond.soleField "CrateYard" "containers") ∈ lw_all := lw_g (lw_at lw_m1 118 rfl) rfl
theorem q152 : (Jvm.Cond.laysFinal "CrateYard" "CrateYard" "park" "LCrateYard$Park;") ∈ lw_all := lw_g (lw_at lw_m1 119 rfl) rfl
theorem q153 : (Jvm.Cond.soleField "CrateYard" "park") ∈ lw_all := lw_g (lw_at lw_m1 120 rfl) rfl
theorem q154 : (Jvm.Cond.lays "CrateYard" "CrateYard" "hour" "I") ∈ lw_all := lw_g (lw_at lw_m1 121 rfl) rfl
theorem q155 : (Jvm.Cond.soleField "CrateYard" "hour") ∈ lw_all := lw_g (lw_at lw_m1 122 rfl) rfl
theorem q156 : (Jvm.Cond.lays "CrateYard" "CrateYard" "starts" "J") ∈ lw_all := lw_g (lw_at lw_m1 123 rfl) rfl
theorem q157 : (Jvm.Cond.soleField "CrateYard" "starts") ∈ lw_all := lw_g (lw_at lw_m1 124 rfl) rfl
theorem q158 : (Jvm.Cond.superclass "CrateYard" "java/lang/Object") ∈ lw_all := lw_g (lw_at lw_m1 125 rfl) rfl
theorem q160 : (Jvm.Cond.instanceMethod ({ cls := "CrateYard", name := "now", desc := "()I" } : Jvm.MethodName)) ∈ lw_all := lw_g (lw_at lw_m1 127 rfl) rfl
theorem q161 : (Jvm.Cond.selects "CrateYard" ({ cls := "CrateYard", name := "now", desc := "()I" } : Jvm.MethodName) ({ cls := "CrateYard", name := "now", desc := "()I" } : Jvm.MethodName)) ∈ lw_all := lw_g (lw_at lw_m1 128 rfl) rfl
theorem q162 : (Jvm.Cond.code ({ cls := "CrateYard", name := "now", desc := "()I" } : Jvm.MethodName) prog_2_method_30_code (1 : Nat) (Option.some Jvm.ClassFile.FieldType.int)) ∈ lw_all := lw_g (lw_at lw_m1 129 rfl) rfl
theorem q164 : (Jvm.Cond.instanceMethod ({ cls := "CrateYard", name := "licensed", desc := "()I" } : Jvm.MethodName)) ∈ lw_all := lw_g (lw_at lw_m1 131 rfl) rfl
theorem q165 : (Jvm.Cond.selects "CrateYard" ({ cls := "CrateYard", name := "licensed", desc := "()I" } : Jvm.MethodName) ({ cls := "CrateYard", name := "licensed", desc := "()I" } : Jvm.MethodName)) ∈ lw_all := lw_g (lw_at lw_m1 132 rfl) rfl
theorem q166 : (Jvm.Cond.code ({ cls := "CrateYard", name := "licensed", desc := "()I" } : Jvm.MethodName) prog_2_method_45_code (1 : Nat) (Option.some Jvm.ClassFile.FieldType.int)) ∈ lw_all := lw_g (lw_at lw_m1 133 rfl) rfl
theorem q168 : (Jvm.Cond.instanceMethod ({ cls := "CrateYard", name := "laidAnew", desc := "()I" } : Jvm.MethodName)) ∈ lw_all := lw_g (lw_at lw_m1 135 rfl) rfl
theorem q169 : (Jvm.Cond.selects "CrateYard" ({ cls := "CrateYard", name := "laidAnew", desc := "()I" } : Jvm.MethodName) ({ cls := "CrateYard", name := "laidAnew", desc := "()I" } : Jvm.MethodName)) ∈ lw_all := lw_g (lw_at lw_m1 136 rfl) rfl
theorem q170 : (Jvm.Cond.code ({ cls := "CrateYard", name := "laidAnew", desc := "()I" } : Jvm.MethodName) prog_2_method_46_code (6 : Nat) (Option.some Jvm.ClassFile.FieldType.int)) ∈ lw_all := lw_g (lw_at lw_m1 137 rfl) rfl
theorem q171 : (Jvm.Cond.methodLink "CrateYard" (305 : Nat) ({ cls := "CrateYard$Park", name := "<init>", desc := "(LCrateYard$Park;)V" } : Jvm.MethodName)) ∈ lw_all := lw_g (lw_at lw_m1 138 rfl) rfl
theorem q316 : (Jvm.Cond.fieldLinkNest "CrateYard" (282 : Nat) "CrateYard$Host" "number" "I" "CrateYard") ∈ lw_tbl := lw_at lw_m2 43 rfl
theorem q319 : (Jvm.Cond.fieldLinkNest "CrateYard" (296 : Nat) "CrateYard$Room" "whole" "LNeed;" "CrateYard") ∈ lw_tbl := lw_at lw_m2 46 rfl
theorem q322 : (Jvm.Cond.fieldLinkNest "CrateYard" (292 : Nat) "CrateYard$Room" "cores" "I" "CrateYard") ∈ lw_tbl := lw_at lw_m2 49 rfl
theorem q324 : (Jvm.Cond.fieldLinkNest "CrateYard" (303 : Nat) "CrateYard$Room" "memory" "I" "CrateYard") ∈ lw_tbl := lw_at lw_m2 51 rfl
theorem q372 : (Jvm.Cond.selects "CrateYard" ({ cls := "java/lang/Object", name := "getClass", desc := "()Ljava/lang/Class;" } : Jvm.MethodName) ({ cls := "java/lang/Object", name := "getClass", desc := "()Ljava/lang/Class;" } : Jvm.MethodName)) ∈ lw_all := lw_g (lw_at lw_m2 99 rfl) rfl
theorem q410 : (Jvm.Cond.interfaceEntry "CrateYard" (122 : Nat)) ∈ lw_tbl := lw_at lw_m2 137 rfl
theorem q411 : (Jvm.Cond.methodLink "CrateYard" (122 : Nat) ({ cls := "java/util/List", name := "iterator", desc := "()Ljava/util/Iterator;" } : Jvm.MethodName)) ∈ lw_all := lw_g (lw_at lw_m2 138 rfl) rfl
theorem q412 : (Jvm.Cond.interfaceEntry "CrateYard" (126 : Nat)) ∈ lw_tbl := lw_at lw_m2 139 rfl
theorem q413 : (Jvm.Cond.methodLink "CrateYard" (126 : Nat) ({ cls := "java/util/Iterator", name := "hasNext", desc := "()Z" } : Jvm.MethodName)) ∈ lw_all := lw_g (lw_at lw_m2 140 rfl) rfl
theorem q414 : (Jvm.Cond.interfaceEntry "CrateYard" (132 : Nat)) ∈ lw_tbl := lw_at lw_m2 141 rfl
theorem q415 : (Jvm.Cond.methodLink "CrateYard" (132 : Nat) ({ cls := "java/util/Iterator", name := "next", desc := "()Ljava/lang/Object;" } : Jvm.MethodName)) ∈ lw_all := lw_g (lw_at lw_m2 142 rfl) rfl
theorem q416 : (Jvm.Cond.classLink "CrateYard" (73 : Nat) "CrateYard$Container") ∈ lw_all := lw_g (lw_at lw_m2 143 rfl) rfl
theorem q417 : (Jvm.Cond.fieldLink "CrateYard" (208 : Nat) "State" "WAITING" "LState;") ∈ lw_all := lw_g (lw_at lw_m2 144 rfl) rfl
theorem q419 : (Jvm.Cond.methodLink "CrateYard" (167 : Nat) ({ cls := "CrateYard$Container", name := "is", desc := "(LState;)Z" } : Jvm.MethodName)) ∈ lw_all := lw_g (lw_at lw_m2 146 rfl) rfl
theorem q423 : (Jvm.Cond.fieldLink "CrateYard" (161 : Nat) "State" "RUNNING" "LState;") ∈ lw_all := lw_g (lw_at lw_m2 150 rfl) rfl
theorem q425 : (Jvm.Cond.methodLink "CrateYard" (252 : Nat) ({ cls := "CrateYard$Container", name := "bar", desc := "(LCrateYard$Park;)LBar;" } : Jvm.MethodName)) ∈ lw_all := lw_g (lw_at lw_m2 152 rfl) rfl
theorem q473 : (Jvm.Cond.fieldLink "CrateYard" (256 : Nat) "Bar" "NONE" "LBar;") ∈ lw_all := lw_g (lw_at lw_m2 200 rfl) rfl
theorem q474 : (Jvm.Cond.methodLink "CrateYard" (308 : Nat) ({ cls := "CrateYard$Park", name := "best", desc := "(LNeed;)LCrateYard$Host;" } : Jvm.MethodName)) ∈ lw_all := lw_g (lw_at lw_m2 201 rfl) rfl
theorem q475 : (Jvm.Cond.methodLink "CrateYard" (312 : Nat) ({ cls := "CrateYard$Park", name := "take", desc := "(LCrateYard$Host;LNeed;)V" } : Jvm.MethodName)) ∈ lw_all := lw_g (lw_at lw_m2 202 rfl) rfl
theorem q486 : (Jvm.Cond.instanceMethod ({ cls := "CrateYard", name := "starts", desc := "()J" } : Jvm.MethodName)) ∈ lw_all := lw_g (lw_at lw_m2 213 rfl) rfl
theorem q487 : (Jvm.Cond.selects "CrateYard" ({ cls := "CrateYard", name := "starts", desc := "()J" } : Jvm.MethodName) ({ cls := "CrateYard", name := "starts", desc := "()J" } : Jvm.MethodName)) ∈ lw_all := lw_g (lw_at lw_m2 214 rfl) rfl
theorem q488 : (Jvm.Cond.code ({ cls := "CrateYard", name := "starts", desc := "()J" } : Jvm.MethodName) prog_2_method_48_code (1 : Nat) (Option.some Jvm.ClassFile.FieldType.long)) ∈ lw_all := lw_g (lw_at lw_m2 215 rfl) rfl
theorem q516 : (Jvm.Cond.instanceMethod ({ cls := "CrateYard", name := "addLayer", desc := "()I" } : Jvm.MethodName)) ∈ lw_all := lw_g (lw_at lw_m3 3 rfl) rfl
theorem q517 : (Jvm.Cond.selects "CrateYard" ({ cls := "CrateYard", name := "addLayer", desc := "()I" } : Jvm.MethodName) ({ cls := "CrateYard", name := "addLayer", desc := "()I" } : Jvm.MethodName)) ∈ lw_all := lw_g (lw_at lw_m3 4 rfl) rfl
theorem q518 : (Jvm.Cond.code ({ cls := "CrateYard", name := "addLayer", desc := "()I" } : Jvm.MethodName) prog_2_method_15_code (1 : Nat) (Option.some Jvm.ClassFile.FieldType.int)) ∈ lw_all := lw_g (lw_at lw_m3 5 rfl) rfl
theorem q519 : (Jvm.Cond.interfaceEntry "CrateYard" (50 : Nat)) ∈ lw_tbl := lw_at lw_m3 6 rfl
theorem q520 : (Jvm.Cond.methodLink "CrateYard" (50 : Nat) ({ cls := "java/util/List", name := "size", desc := "()I" } : Jvm.MethodName)) ∈ lw_all := lw_g (lw_at lw_m3 7 rfl) rfl
theorem q528 : (Jvm.Cond.methodLink "CrateYard" (87 : Nat) ({ cls := "CrateYard", name := "requireState", desc := "(Z)V" } : Jvm.MethodName)) ∈ lw_all := lw_g (lw_at lw_m3 15 rfl) rfl
theorem q529 : (Jvm.Cond.static ({ cls := "CrateYard", name := "requireState", desc := "(Z)V" } : Jvm.MethodName)) ∈ lw_all := lw_g (lw_at lw_m3 16 rfl) rfl
theorem q530 : (Jvm.Cond.code ({ cls := "CrateYard", name := "requireState", desc := "(Z)V" } : Jvm.MethodName) prog_2_method_3_code (1 : Nat) (Option.none : Option Jvm.ClassFile.FieldType)) ∈ lw_all := lw_g (lw_at lw_m3 17 rfl) rfl
theorem q531 : (Jvm.Cond.classLink "CrateYard" (7 : Nat) "java/lang/IllegalStateException") ∈ lw_all := lw_g (lw_at lw_m3 18 rfl) rfl
theorem q540 : (Jvm.Cond.methodLink "CrateYard" (9 : Nat) ({ cls := "java/lang/IllegalStateException", name := "<init>", desc := "()V" } : Jvm.MethodName)) ∈ lw_all := lw_g (lw_at lw_m3 27 rfl) rfl
theorem q546 : (Jvm.Cond.classLink "CrateYard" (64 : Nat) "CrateYard$Layer") ∈ lw_all := lw_g (lw_at lw_m3 33 rfl) rfl
theorem q548 : (Jvm.Cond.methodLink "CrateYard" (91 : Nat) ({ cls := "CrateYard$Layer", name := "<init>", desc := "(I)V" } : Jvm.MethodName)) ∈ lw_all := lw_g (lw_at lw_m3 35 rfl) rfl
theorem q555 : (Jvm.Cond.fieldLinkNest "CrateYard" (109 : Nat) "CrateYard$Layer" "bit" "I" "CrateYard") ∈ lw_tbl := lw_at lw_m3 42 rfl
theorem q558 : (Jvm.Cond.fieldLinkNest "CrateYard" (151 : Nat) "CrateYard$Layer" "isWithdrawn" "Z" "CrateYard") ∈ lw_tbl := lw_at lw_m3 45 rfl
theorem q560 : (Jvm.Cond.fieldLinkNest "CrateYard" (158 : Nat) "CrateYard$Layer" "outAt" "I" "CrateYard") ∈ lw_tbl := lw_at lw_m3 47 rfl
theorem q568 : (Jvm.Cond.interfaceEntry "CrateYard" (94 : Nat)) ∈ lw_tbl := lw_at lw_m3 55 rfl
theorem q569 : (Jvm.Cond.methodLink "CrateYard" (94 : Nat) ({ cls := "java/util/List", name := "add", desc := "(Ljava/lang/Object;)Z" } : Jvm.MethodName)) ∈ lw_all := lw_g (lw_at lw_m3 56 rfl) rfl
theorem q608 : (Jvm.Cond.instanceMethod ({ cls := "CrateYard", name := "addImage", desc := "(II)I" } : Jvm.MethodName)) ∈ lw_all := lw_g (lw_at lw_m3 95 rfl) rfl
theorem q609 : (Jvm.Cond.selects "CrateYard" ({ cls := "CrateYard", name := "addImage", desc := "(II)I" } : Jvm.MethodName) ({ cls := "CrateYard", name := "addImage", desc := "(II)I" } : Jvm.MethodName)) ∈ lw_all := lw_g (lw_at lw_m3 96 rfl) rfl
theorem q610 : (Jvm.Cond.code ({ cls := "CrateYard", name := "addImage", desc := "(II)I" } : Jvm.MethodName) prog_2_method_16_code (5 : Nat) (Option.some Jvm.ClassFile.FieldType.int)) ∈ lw_all := lw_g (lw_at lw_m3 97 rfl) rfl
theorem q611 : (Jvm.Cond.methodLink "CrateYard" (98 : Nat) ({ cls := "CrateYard", name := "requireImage", desc := "(I)LCrateYard$Image;" } : Jvm.MethodName)) ∈ lw_all := lw_g (lw_at lw_m3 98 rfl) rfl
theorem q612 : (Jvm.Cond.privateMethod ({ cls := "CrateYard", name := "requireImage", desc := "(I)LCrateYard$Image;" } : Jvm.MethodName)) ∈ lw_tbl := lw_at lw_m3 99 rfl
theorem q613 : (Jvm.Cond.instanceMethod ({ cls := "CrateYard", name := "requireImage", desc := "(I)LCrateYard$Image;" } : Jvm.MethodName)) ∈ lw_all := lw_g (lw_at lw_m3 100 rfl) rfl
theorem q614 : (Jvm.Cond.code ({ cls := "CrateYard", name := "requireImage", desc := "(I)LCrateYard$Image;" } : Jvm.MethodName) prog_2_method_10_code (2 : Nat) (Option.some (Jvm.ClassFile.FieldType.object "CrateYard$Image"))) ∈ lw_all := lw_g (lw_at lw_m3 101 rfl) rfl
theorem q615 : (Jvm.Cond.methodLink "CrateYard" (56 : Nat) ({ cls := "CrateYard", name := "requireIndex", desc := "(II)V" } : Jvm.MethodName)) ∈ lw_all := lw_g (lw_at lw_m3 102 rfl) rfl
theorem q616 : (Jvm.Cond.static ({ cls := "CrateYard", name := "requireIndex", desc := "(II)V" } : Jvm.MethodName)) ∈ lw_all := lw_g (lw_at lw_m3 103 rfl) rfl
theorem q617 : (Jvm.Cond.code ({ cls := "CrateYard", name := "requireIndex", desc := "(II)V" } : Jvm.MethodName) prog_2_method_6_code (2 : Nat) (Option.none : Option Jvm.ClassFile.FieldType)) ∈ lw_all := lw_g (lw_at lw_m3 104 rfl) rfl
theorem q618 : (Jvm.Cond.classLink "CrateYard" (16 : Nat) "java/lang/IndexOutOfBoundsException") ∈ lw_all := lw_g (lw_at lw_m3 105 rfl) rfl
theorem q627 : (Jvm.Cond.methodLink "CrateYard" (18 : Nat) ({ cls := "java/lang/IndexOutOfBoundsException", name := "<init>", desc := "()V" } : Jvm.MethodName)) ∈ lw_all := lw_g (lw_at lw_m3 114 rfl) rfl
theorem q633 : (Jvm.Cond.interfaceEntry "CrateYard" (60 : Nat)) ∈ lw_tbl := lw_at lw_m3 120 rfl
theorem q634 : (Jvm.Cond.methodLink "CrateYard" (60 : Nat) ({ cls := "java/util/List", name := "get", desc := "(I)Ljava/lang/Object;" } : Jvm.MethodName)) ∈ lw_all := lw_g (lw_at lw_m3 121 rfl) rfl
theorem q652 : (Jvm.Cond.classLink "CrateYard" (66 : Nat) "CrateYard$Image") ∈ lw_all := lw_g (lw_at lw_m3 139 rfl) rfl
theorem q653 : (Jvm.Cond.methodLink "CrateYard" (102 : Nat) ({ cls := "CrateYard", name := "requireLayer", desc := "(I)LCrateYard$Layer;" } : Jvm.MethodName)) ∈ lw_all := lw_g (lw_at lw_m3 140 rfl) rfl
theorem q654 : (Jvm.Cond.privateMethod ({ cls := "CrateYard", name := "requireLayer", desc := "(I)LCrateYard$Layer;" } : Jvm.MethodName)) ∈ lw_tbl := lw_at lw_m3 141 rfl
theorem q655 : (Jvm.Cond.instanceMethod ({ cls := "CrateYard", name := "requireLayer", desc := "(I)LCrateYard$Layer;" } : Jvm.MethodName)) ∈ lw_all := lw_g (lw_at lw_m3 142 rfl) rfl
theorem q656 : (Jvm.Cond.code ({ cls := "CrateYard", name := "requireLayer", desc := "(I)LCrateYard$Layer;" } : Jvm.MethodName) prog_2_method_9_code (2 : Nat) (Option.some (Jvm.ClassFile.FieldType.object "CrateYard$Layer"))) ∈ lw_all := lw_g (lw_at lw_m3 143 rfl) rfl
theorem q657 : (Jvm.Cond.methodLink "CrateYard" (106 : Nat) ({ cls := "CrateYard$Image", name := "layers", desc := "()I" } : Jvm.MethodName)) ∈ lw_all := lw_g (lw_at lw_m3 144 rfl) rfl
theorem q658 : (Jvm.Cond.methodLink "CrateYard" (113 : Nat) ({ cls := "CrateYard", name := "requireSupported", desc := "(Z)V" } : Jvm.MethodName)) ∈ lw_all := lw_g (lw_at lw_m3 145 rfl) rfl
theorem q659 : (Jvm.Cond.static ({ cls := "CrateYard", name := "requireSupported", desc := "(Z)V" } : Jvm.MethodName)) ∈ lw_all := lw_g (lw_at lw_m3 146 rfl) rfl
theorem q660 : (Jvm.Cond.code ({ cls := "CrateYard", name := "requireSupported", desc := "(Z)V" } : Jvm.MethodName) prog_2_method_4_code (1 : Nat) (Option.none : Option Jvm.ClassFile.FieldType)) ∈ lw_all := lw_g (lw_at lw_m3 147 rfl) rfl
theorem q661 : (Jvm.Cond.classLink "CrateYard" (10 : Nat) "java/lang/UnsupportedOperationException") ∈ lw_all := lw_g (lw_at lw_m3 148 rfl) rfl
theorem q670 : (Jvm.Cond.methodLink "CrateYard" (12 : Nat) ({ cls := "java/lang/UnsupportedOperationException", name := "<init>", desc := "()V" } : Jvm.MethodName)) ∈ lw_all := lw_g (lw_at lw_m3 157 rfl) rfl
theorem q677 : (Jvm.Cond.methodLink "CrateYard" (116 : Nat) ({ cls := "CrateYard$Image", name := "<init>", desc := "(LCrateYard$Image;LCrateYard$Layer;)V" } : Jvm.MethodName)) ∈ lw_all := lw_g (lw_at lw_m3 164 rfl) rfl
theorem q683 : (Jvm.Cond.fieldLinkNest "CrateYard" (140 : Nat) "CrateYard$Image" "own" "LCrateYard$Layer;" "CrateYard") ∈ lw_tbl := lw_at lw_m3 170 rfl
theorem q694 : (Jvm.Cond.instanceMethod ({ cls := "CrateYard", name := "patch", desc := "(II)I" } : Jvm.MethodName)) ∈ lw_all := lw_g (lw_at lw_m3 181 rfl) rfl
theorem q695 : (Jvm.Cond.selects "CrateYard" ({ cls := "CrateYard", name := "patch", desc := "(II)I" } : Jvm.MethodName) ({ cls := "CrateYard", name := "patch", desc := "(II)I" } : Jvm.MethodName)) ∈ lw_all := lw_g (lw_at lw_m3 182 rfl) rfl
theorem q696 : (Jvm.Cond.code ({ cls := "CrateYard", name := "patch", desc := "(II)I" } : Jvm.MethodName) prog_2_method_17_code (9 : Nat) (Option.some Jvm.ClassFile.FieldType.int)) ∈ lw_all := lw_g (lw_at lw_m3 183 rfl) rfl
theorem q697 : (Jvm.Cond.methodLink "CrateYard" (119 : Nat) ({ cls := "CrateYard$Image", name := "inherited", desc := "()I" } : Jvm.MethodName)) ∈ lw_all := lw_g (lw_at lw_m3 184 rfl) rfl
theorem q698 : (Jvm.Cond.methodLink "CrateYard" (136 : Nat) ({ cls := "CrateYard$Image", name := "comesFrom", desc := "(LCrateYard$Image;)Z" } : Jvm.MethodName)) ∈ lw_all := lw_g (lw_at lw_m3 185 rfl) rfl
theorem q703 : (Jvm.Cond.methodLink "CrateYard" (144 : Nat) ({ cls := "CrateYard", name := "requireArguments", desc := "([Z)V" } : Jvm.MethodName)) ∈ lw_all := lw_g (lw_at lw_m3 190 rfl) rfl
theorem q704 : (Jvm.Cond.static ({ cls := "CrateYard", name := "requireArguments", desc := "([Z)V" } : Jvm.MethodName)) ∈ lw_all := lw_g (lw_at lw_m3 191 rfl) rfl
theorem q705 : (Jvm.Cond.code ({ cls := "CrateYard", name := "requireArguments", desc := "([Z)V" } : Jvm.MethodName) prog_2_method_2_code (5 : Nat) (Option.none : Option Jvm.ClassFile.FieldType)) ∈ lw_all := lw_g (lw_at lw_m3 192 rfl) rfl
theorem q706 : (Jvm.Cond.classLink "CrateYard" (1 : Nat) "java/lang/IllegalArgumentException") ∈ lw_all := lw_g (lw_at lw_m3 193 rfl) rfl
theorem q715 : (Jvm.Cond.methodLink "CrateYard" (3 : Nat) ({ cls := "java/lang/IllegalArgumentException", name := "<init>", desc := "()V" } : Jvm.MethodName)) ∈ lw_all := lw_g (lw_at lw_m3 202 rfl) rfl
theorem q722 : (Jvm.Cond.methodLink "CrateYard" (148 : Nat) ({ cls := "CrateYard$Container", name := "isStale", desc := "()Z" } : Jvm.MethodName)) ∈ lw_all := lw_g (lw_at lw_m3 209 rfl) rfl
theorem q732 : (Jvm.Cond.instanceMethod ({ cls := "CrateYard", name := "withdraw", desc := "(II)I" } : Jvm.MethodName)) ∈ lw_all := lw_g (lw_at lw_m3 219 rfl) rfl
theorem q733 : (Jvm.Cond.selects "CrateYard" ({ cls := "CrateYard", name := "withdraw", desc := "(II)I" } : Jvm.MethodName) ({ cls := "CrateYard", name := "withdraw", desc := "(II)I" } : Jvm.MethodName)) ∈ lw_all := lw_g (lw_at lw_m3 220 rfl) rfl
theorem q734 : (Jvm.Cond.code ({ cls := "CrateYard", name := "withdraw", desc := "(II)I" } : Jvm.MethodName) prog_2_method_18_code (7 : Nat) (Option.some Jvm.ClassFile.FieldType.int)) ∈ lw_all := lw_g (lw_at lw_m3 221 rfl) rfl
theorem q735 : (Jvm.Cond.methodLink "CrateYard" (75 : Nat) ({ cls := "CrateYard", name := "isIn", desc := "(III)Z" } : Jvm.MethodName)) ∈ lw_all := lw_g (lw_at lw_m3 222 rfl) rfl
theorem q736 : (Jvm.Cond.static ({ cls := "CrateYard", name := "isIn", desc := "(III)Z" } : Jvm.MethodName)) ∈ lw_all := lw_g (lw_at lw_m3 223 rfl) rfl
theorem q737 : (Jvm.Cond.code ({ cls := "CrateYard", name := "isIn", desc := "(III)Z" } : Jvm.MethodName) prog_2_method_1_code (3 : Nat) (Option.some Jvm.ClassFile.FieldType.boolean)) ∈ lw_all := lw_g (lw_at lw_m3 224 rfl) rfl
theorem q742 : (Jvm.Cond.instanceMethod ({ cls := "CrateYard", name := "addHost", desc := "(LNeed;)I" } : Jvm.MethodName)) ∈ lw_all := lw_g (lw_at lw_m3 229 rfl) rfl
theorem q743 : (Jvm.Cond.selects "CrateYard" ({ cls := "CrateYard", name := "addHost", desc := "(LNeed;)I" } : Jvm.MethodName) ({ cls := "CrateYard", name := "addHost", desc := "(LNeed;)I" } : Jvm.MethodName)) ∈ lw_all := lw_g (lw_at lw_m3 230 rfl) rfl
theorem q744 : (Jvm.Cond.code ({ cls := "CrateYard", name := "addHost", desc := "(LNeed;)I" } : Jvm.MethodName) prog_2_method_19_code (2 : Nat) (Option.some Jvm.ClassFile.FieldType.int)) ∈ lw_all := lw_g (lw_at lw_m3 231 rfl) rfl
theorem q745 : (Jvm.Cond.methodLink "CrateYard" (173 : Nat) ({ cls := "CrateYard", name := "isNeed", desc := "(LNeed;II)Z" } : Jvm.MethodName)) ∈ lw_all := lw_g (lw_at lw_m3 232 rfl) rfl
theorem q746 : (Jvm.Cond.static ({ cls := "CrateYard", name := "isNeed", desc := "(LNeed;II)Z" } : Jvm.MethodName)) ∈ lw_all := lw_g (lw_at lw_m3 233 rfl) rfl
theorem q747 : (Jvm.Cond.code ({ cls := "CrateYard", name := "isNeed", desc := "(LNeed;II)Z" } : Jvm.MethodName) prog_2_method_14_code (3 : Nat) (Option.some Jvm.ClassFile.FieldType.boolean)) ∈ lw_all := lw_g (lw_at lw_m3 234 rfl) rfl
theorem q748 : (Jvm.Cond.methodLink "CrateYard" (79 : Nat) ({ cls := "Need", name := "cores", desc := "()I" } : Jvm.MethodName)) ∈ lw_all := lw_g (lw_at lw_m3 235 rfl) rfl
theorem q749 : (Jvm.Cond.methodLink "CrateYard" (84 : Nat) ({ cls := "Need", name := "memory", desc := "()I" } : Jvm.MethodName)) ∈ lw_all := lw_g (lw_at lw_m3 236 rfl) rfl
theorem q750 : (Jvm.Cond.classLink "CrateYard" (71 : Nat) "CrateYard$Host") ∈ lw_all := lw_g (lw_at lw_m3 237 rfl) rfl
theorem q751 : (Jvm.Cond.methodLink "CrateYard" (177 : Nat) ({ cls := "CrateYard$Host", name := "<init>", desc := "(ILNeed;)V" } : Jvm.MethodName)) ∈ lw_all := lw_g (lw_at lw_m3 238 rfl) rfl
theorem q756 : (Jvm.Cond.instanceMethod ({ cls := "CrateYard", name := "addWindow", desc := "(LWindow;)I" } : Jvm.MethodName)) ∈ lw_all := lw_g (lw_at lw_m4 3 rfl) rfl
theorem q757 : (Jvm.Cond.selects "CrateYard" ({ cls := "CrateYard", name := "addWindow", desc := "(LWindow;)I" } : Jvm.MethodName) ({ cls := "CrateYard", name := "addWindow", desc := "(LWindow;)I" } : Jvm.MethodName)) ∈ lw_all := lw_g (lw_at lw_m4 4 rfl) rfl
theorem q758 : (Jvm.Cond.code ({ cls := "CrateYard", name := "addWindow", desc := "(LWindow;)I" } : Jvm.MethodName) prog_2_method_20_code (2 : Nat) (Option.some Jvm.ClassFile.FieldType.int)) ∈ lw_all := lw_g (lw_at lw_m4 5 rfl) rfl
theorem q759 : (Jvm.Cond.methodLink "CrateYard" (180 : Nat) ({ cls := "Window", name := "first", desc := "()I" } : Jvm.MethodName)) ∈ lw_all := lw_g (lw_at lw_m4 6 rfl) rfl
theorem q763 : (Jvm.Cond.methodLink "CrateYard" (185 : Nat) ({ cls := "Window", name := "length", desc := "()I" } : Jvm.MethodName)) ∈ lw_all := lw_g (lw_at lw_m4 10 rfl) rfl
theorem q767 : (Jvm.Cond.methodLink "CrateYard" (188 : Nat) ({ cls := "Window", name := "tenant", desc := "()I" } : Jvm.MethodName)) ∈ lw_all := lw_g (lw_at lw_m4 14 rfl) rfl
theorem q771 : (Jvm.Cond.methodLink "CrateYard" (191 : Nat) ({ cls := "CrateYard", name := "isTenant", desc := "(I)Z" } : Jvm.MethodName)) ∈ lw_all := lw_g (lw_at lw_m4 18 rfl) rfl
theorem q772 : (Jvm.Cond.static ({ cls := "CrateYard", name := "isTenant", desc := "(I)Z" } : Jvm.MethodName)) ∈ lw_all := lw_g (lw_at lw_m4 19 rfl) rfl
theorem q773 : (Jvm.Cond.code ({ cls := "CrateYard", name := "isTenant", desc := "(I)Z" } : Jvm.MethodName) prog_2_method_13_code (1 : Nat) (Option.some Jvm.ClassFile.FieldType.boolean)) ∈ lw_all := lw_g (lw_at lw_m4 20 rfl) rfl
theorem q774 : (Jvm.Cond.classLink "CrateYard" (195 : Nat) "CrateYard$Opening") ∈ lw_all := lw_g (lw_at lw_m4 21 rfl) rfl
theorem q776 : (Jvm.Cond.methodLink "CrateYard" (197 : Nat) ({ cls := "CrateYard$Opening", name := "<init>", desc := "(LWindow;)V" } : Jvm.MethodName)) ∈ lw_all := lw_g (lw_at lw_m4 23 rfl) rfl
theorem q783 : (Jvm.Cond.fieldLinkNest "CrateYard" (200 : Nat) "CrateYard$Opening" "tenant" "I" "CrateYard") ∈ lw_tbl := lw_at lw_m4 30 rfl
theorem q793 : (Jvm.Cond.instanceMethod ({ cls := "CrateYard", name := "lend", desc := "(II)I" } : Jvm.MethodName)) ∈ lw_all := lw_g (lw_at lw_m4 40 rfl) rfl
theorem q794 : (Jvm.Cond.selects "CrateYard" ({ cls := "CrateYard", name := "lend", desc := "(II)I" } : Jvm.MethodName) ({ cls := "CrateYard", name := "lend", desc := "(II)I" } : Jvm.MethodName)) ∈ lw_all := lw_g (lw_at lw_m4 41 rfl) rfl
theorem q795 : (Jvm.Cond.code ({ cls := "CrateYard", name := "lend", desc := "(II)I" } : Jvm.MethodName) prog_2_method_21_code (5 : Nat) (Option.some Jvm.ClassFile.FieldType.int)) ∈ lw_all := lw_g (lw_at lw_m4 42 rfl) rfl
theorem q800 : (Jvm.Cond.instanceMethod ({ cls := "CrateYard", name := "setLicence", desc := "(I)I" } : Jvm.MethodName)) ∈ lw_all := lw_g (lw_at lw_m4 47 rfl) rfl
theorem q801 : (Jvm.Cond.selects "CrateYard" ({ cls := "CrateYard", name := "setLicence", desc := "(I)I" } : Jvm.MethodName) ({ cls := "CrateYard", name := "setLicence", desc := "(I)I" } : Jvm.MethodName)) ∈ lw_all := lw_g (lw_at lw_m4 48 rfl) rfl
theorem q802 : (Jvm.Cond.code ({ cls := "CrateYard", name := "setLicence", desc := "(I)I" } : Jvm.MethodName) prog_2_method_22_code (4 : Nat) (Option.some Jvm.ClassFile.FieldType.int)) ∈ lw_all := lw_g (lw_at lw_m4 49 rfl) rfl
theorem q803 : (Jvm.Cond.methodLink "CrateYard" (211 : Nat) ({ cls := "CrateYard$Container", name := "become", desc := "(LState;)V" } : Jvm.MethodName)) ∈ lw_all := lw_g (lw_at lw_m4 50 rfl) rfl
theorem q821 : (Jvm.Cond.instanceMethod ({ cls := "CrateYard", name := "addContainer", desc := "(IILNeed;)I" } : Jvm.MethodName)) ∈ lw_all := lw_g (lw_at lw_m4 68 rfl) rfl
theorem q822 : (Jvm.Cond.selects "CrateYard" ({ cls := "CrateYard", name := "addContainer", desc := "(IILNeed;)I" } : Jvm.MethodName) ({ cls := "CrateYard", name := "addContainer", desc := "(IILNeed;)I" } : Jvm.MethodName)) ∈ lw_all := lw_g (lw_at lw_m4 69 rfl) rfl
theorem q823 : (Jvm.Cond.code ({ cls := "CrateYard", name := "addContainer", desc := "(IILNeed;)I" } : Jvm.MethodName) prog_2_method_23_code (5 : Nat) (Option.some Jvm.ClassFile.FieldType.int)) ∈ lw_all := lw_g (lw_at lw_m4 70 rfl) rfl
theorem q824 : (Jvm.Cond.methodLink "CrateYard" (215 : Nat) ({ cls := "CrateYard$Container", name := "<init>", desc := "(LCrateYard;IILCrateYard$Image;LNeed;)V" } : Jvm.MethodName)) ∈ lw_all := lw_g (lw_at lw_m4 71 rfl) rfl
theorem q831 : (Jvm.Cond.fieldLinkNest "CrateYard" (244 : Nat) "CrateYard$Container" "tenant" "I" "CrateYard") ∈ lw_tbl := lw_at lw_m4 78 rfl
theorem q834 : (Jvm.Cond.fieldLinkNest "CrateYard" (300 : Nat) "CrateYard$Container" "need" "LNeed;" "CrateYard") ∈ lw_tbl := lw_at lw_m4 81 rfl
theorem q836 : (Jvm.Cond.fieldLinkNest "CrateYard" (225 : Nat) "CrateYard$Container" "state" "LState;" "CrateYard") ∈ lw_tbl := lw_at lw_m4 83 rfl
theorem q838 : (Jvm.Cond.fieldLinkNest "CrateYard" (278 : Nat) "CrateYard$Container" "host" "LCrateYard$Host;" "CrateYard") ∈ lw_tbl := lw_at lw_m4 85 rfl
theorem q840 : (Jvm.Cond.fieldLinkNest "CrateYard" (171 : Nat) "CrateYard$Container" "layers" "I" "CrateYard") ∈ lw_tbl := lw_at lw_m4 87 rfl
theorem q844 : (Jvm.Cond.fieldLinkNest "CrateYard" (238 : Nat) "CrateYard$Container" "until" "I" "CrateYard") ∈ lw_tbl := lw_at lw_m4 91 rfl
theorem q873 : (Jvm.Cond.instanceMethod ({ cls := "CrateYard", name := "stop", desc := "(I)LState;" } : Jvm.MethodName)) ∈ lw_all := lw_g (lw_at lw_m4 120 rfl) rfl
theorem q874 : (Jvm.Cond.selects "CrateYard" ({ cls := "CrateYard", name := "stop", desc := "(I)LState;" } : Jvm.MethodName) ({ cls := "CrateYard", name := "stop", desc := "(I)LState;" } : Jvm.MethodName)) ∈ lw_all := lw_g (lw_at lw_m4 121 rfl) rfl
theorem q875 : (Jvm.Cond.code ({ cls := "CrateYard", name := "stop", desc := "(I)LState;" } : Jvm.MethodName) prog_2_method_24_code (4 : Nat) (Option.some (Jvm.ClassFile.FieldType.object "State"))) ∈ lw_all := lw_g (lw_at lw_m4 122 rfl) rfl
theorem q876 : (Jvm.Cond.methodLink "CrateYard" (218 : Nat) ({ cls := "CrateYard", name := "require", desc := "(I)LCrateYard$Container;" } : Jvm.MethodName)) ∈ lw_all := lw_g (lw_at lw_m4 123 rfl) rfl
theorem q877 : (Jvm.Cond.privateMethod ({ cls := "CrateYard", name := "require", desc := "(I)LCrateYard$Container;" } : Jvm.MethodName)) ∈ lw_tbl := lw_at lw_m4 124 rfl
theorem q878 : (Jvm.Cond.instanceMethod ({ cls := "CrateYard", name := "require", desc := "(I)LCrateYard$Container;" } : Jvm.MethodName)) ∈ lw_all := lw_g (lw_at lw_m4 125 rfl) rfl
theorem q879 : (Jvm.Cond.code ({ cls := "CrateYard", name := "require", desc := "(I)LCrateYard$Container;" } : Jvm.MethodName) prog_2_method_12_code (2 : Nat) (Option.some (Jvm.ClassFile.FieldType.object "CrateYard$Container"))) ∈ lw_all := lw_g (lw_at lw_m4 126 rfl) rfl
theorem q880 : (Jvm.Cond.fieldLink "CrateYard" (222 : Nat) "State" "STOPPED" "LState;") ∈ lw_all := lw_g (lw_at lw_m4 127 rfl) rfl
theorem q886 : (Jvm.Cond.instanceMethod ({ cls := "CrateYard", name := "fail", desc := "(I)I" } : Jvm.MethodName)) ∈ lw_all := lw_g (lw_at lw_m4 133 rfl) rfl
theorem q887 : (Jvm.Cond.selects "CrateYard" ({ cls := "CrateYard", name := "fail", desc := "(I)I" } : Jvm.MethodName) ({ cls := "CrateYard", name := "fail", desc := "(I)I" } : Jvm.MethodName)) ∈ lw_all := lw_g (lw_at lw_m4 134 rfl) rfl
theorem q888 : (Jvm.Cond.code ({ cls := "CrateYard", name := "fail", desc := "(I)I" } : Jvm.MethodName) prog_2_method_25_code (3 : Nat) (Option.some Jvm.ClassFile.FieldType.int)) ∈ lw_all := lw_g (lw_at lw_m4 135 rfl) rfl
theorem q889 : (Jvm.Cond.methodLink "CrateYard" (228 : Nat) ({ cls := "CrateYard$Container", name := "fail", desc := "()I" } : Jvm.MethodName)) ∈ lw_all := lw_g (lw_at lw_m4 136 rfl) rfl
theorem q897 : (Jvm.Cond.laysStatic "CrateYard" "RESTS" "[I") ∈ lw_tbl := lw_at lw_m4 144 rfl
theorem q903 : (Jvm.Cond.instanceMethod ({ cls := "CrateYard", name := "pass", desc := "(I)I" } : Jvm.MethodName)) ∈ lw_all := lw_g (lw_at lw_m4 150 rfl) rfl
theorem q904 : (Jvm.Cond.selects "CrateYard" ({ cls := "CrateYard", name := "pass", desc := "(I)I" } : Jvm.MethodName) ({ cls := "CrateYard", name := "pass", desc := "(I)I" } : Jvm.MethodName)) ∈ lw_all := lw_g (lw_at lw_m4 151 rfl) rfl
theorem q905 : (Jvm.Cond.code ({ cls := "CrateYard", name := "pass", desc := "(I)I" } : Jvm.MethodName) prog_2_method_29_code (5 : Nat) (Option.some Jvm.ClassFile.FieldType.int)) ∈ lw_all := lw_g (lw_at lw_m4 152 rfl) rfl
theorem q906 : (Jvm.Cond.methodLink "CrateYard" (269 : Nat) ({ cls := "CrateYard", name := "tick", desc := "()V" } : Jvm.MethodName)) ∈ lw_all := lw_g (lw_at lw_m4 153 rfl) rfl
theorem q907 : (Jvm.Cond.privateMethod ({ cls := "CrateYard", name := "tick", desc := "()V" } : Jvm.MethodName)) ∈ lw_tbl := lw_at lw_m4 154 rfl
theorem q908 : (Jvm.Cond.instanceMethod ({ cls := "CrateYard", name := "tick", desc := "()V" } : Jvm.MethodName)) ∈ lw_all := lw_g (lw_at lw_m4 155 rfl) rfl
theorem q909 : (Jvm.Cond.code ({ cls := "CrateYard", name := "tick", desc := "()V" } : Jvm.MethodName) prog_2_method_28_code (3 : Nat) (Option.none : Option Jvm.ClassFile.FieldType)) ∈ lw_all := lw_g (lw_at lw_m4 156 rfl) rfl
theorem q910 : (Jvm.Cond.methodLink "CrateYard" (248 : Nat) ({ cls := "CrateYard", name := "settle", desc := "(LCrateYard$Container;)V" } : Jvm.MethodName)) ∈ lw_all := lw_g (lw_at lw_m4 157 rfl) rfl
theorem q911 : (Jvm.Cond.privateMethod ({ cls := "CrateYard", name := "settle", desc := "(LCrateYard$Container;)V" } : Jvm.MethodName)) ∈ lw_tbl := lw_at lw_m4 158 rfl
theorem q912 : (Jvm.Cond.instanceMethod ({ cls := "CrateYard", name := "settle", desc := "(LCrateYard$Container;)V" } : Jvm.MethodName)) ∈ lw_all := lw_g (lw_at lw_m4 159 rfl) rfl
theorem q913 : (Jvm.Cond.code ({ cls := "CrateYard", name := "settle", desc := "(LCrateYard$Container;)V" } : Jvm.MethodName) prog_2_method_27_code (4 : Nat) (Option.none : Option Jvm.ClassFile.FieldType)) ∈ lw_all := lw_g (lw_at lw_m4 160 rfl) rfl
theorem q914 : (Jvm.Cond.fieldLink "CrateYard" (235 : Nat) "State" "RESTING" "LState;") ∈ lw_all := lw_g (lw_at lw_m4 161 rfl) rfl
theorem q915 : (Jvm.Cond.methodLink "CrateYard" (241 : Nat) ({ cls := "CrateYard$Container", name := "isOnOut", desc := "()Z" } : Jvm.MethodName)) ∈ lw_all := lw_g (lw_at lw_m4 162 rfl) rfl
theorem q923 : (Jvm.Cond.methodLink "CrateYard" (245 : Nat) ({ cls := "CrateYard", name := "hasOpen", desc := "(II)Z" } : Jvm.MethodName)) ∈ lw_all := lw_g (lw_at lw_m4 170 rfl) rfl
theorem q924 : (Jvm.Cond.privateMethod ({ cls := "CrateYard", name := "hasOpen", desc := "(II)Z" } : Jvm.MethodName)) ∈ lw_tbl := lw_at lw_m4 171 rfl
theorem q925 : (Jvm.Cond.instanceMethod ({ cls := "CrateYard", name := "hasOpen", desc := "(II)Z" } : Jvm.MethodName)) ∈ lw_all := lw_g (lw_at lw_m4 172 rfl) rfl
theorem q926 : (Jvm.Cond.code ({ cls := "CrateYard", name := "hasOpen", desc := "(II)Z" } : Jvm.MethodName) prog_2_method_26_code (6 : Nat) (Option.some Jvm.ClassFile.FieldType.boolean)) ∈ lw_all := lw_g (lw_at lw_m4 173 rfl) rfl
theorem q927 : (Jvm.Cond.methodLink "CrateYard" (231 : Nat) ({ cls := "CrateYard$Opening", name := "isOpen", desc := "(II)Z" } : Jvm.MethodName)) ∈ lw_all := lw_g (lw_at lw_m4 174 rfl) rfl
theorem q933 : (Jvm.Cond.methodLink "CrateYard" (262 : Nat) ({ cls := "CrateYard$Container", name := "start", desc := "()V" } : Jvm.MethodName)) ∈ lw_all := lw_g (lw_at lw_m4 180 rfl) rfl
theorem q942 : (Jvm.Cond.instanceMethod ({ cls := "CrateYard", name := "layersOf", desc := "(I)I" } : Jvm.MethodName)) ∈ lw_all := lw_g (lw_at lw_m4 189 rfl) rfl
theorem q943 : (Jvm.Cond.selects "CrateYard" ({ cls := "CrateYard", name := "layersOf", desc := "(I)I" } : Jvm.MethodName) ({ cls := "CrateYard", name := "layersOf", desc := "(I)I" } : Jvm.MethodName)) ∈ lw_all := lw_g (lw_at lw_m4 190 rfl) rfl
theorem q944 : (Jvm.Cond.code ({ cls := "CrateYard", name := "layersOf", desc := "(I)I" } : Jvm.MethodName) prog_2_method_31_code (2 : Nat) (Option.some Jvm.ClassFile.FieldType.int)) ∈ lw_all := lw_g (lw_at lw_m4 191 rfl) rfl
theorem q949 : (Jvm.Cond.instanceMethod ({ cls := "CrateYard", name := "uses", desc := "(I)I" } : Jvm.MethodName)) ∈ lw_all := lw_g (lw_at lw_m4 196 rfl) rfl
theorem q950 : (Jvm.Cond.selects "CrateYard" ({ cls := "CrateYard", name := "uses", desc := "(I)I" } : Jvm.MethodName) ({ cls := "CrateYard", name := "uses", desc := "(I)I" } : Jvm.MethodName)) ∈ lw_all := lw_g (lw_at lw_m4 197 rfl) rfl
theorem q951 : (Jvm.Cond.code ({ cls := "CrateYard", name := "uses", desc := "(I)I" } : Jvm.MethodName) prog_2_method_32_code (6 : Nat) (Option.some Jvm.ClassFile.FieldType.int)) ∈ lw_all := lw_g (lw_at lw_m4 198 rfl) rfl
theorem q956 : (Jvm.Cond.instanceMethod ({ cls := "CrateYard", name := "isOut", desc := "(I)Z" } : Jvm.MethodName)) ∈ lw_all := lw_g (lw_at lw_m4 203 rfl) rfl
theorem q957 : (Jvm.Cond.selects "CrateYard" ({ cls := "CrateYard", name := "isOut", desc := "(I)Z" } : Jvm.MethodName) ({ cls := "CrateYard", name := "isOut", desc := "(I)Z" } : Jvm.MethodName)) ∈ lw_all := lw_g (lw_at lw_m4 204 rfl) rfl
theorem q958 : (Jvm.Cond.code ({ cls := "CrateYard", name := "isOut", desc := "(I)Z" } : Jvm.MethodName) prog_2_method_33_code (2 : Nat) (Option.some Jvm.ClassFile.FieldType.boolean)) ∈ lw_all := lw_g (lw_at lw_m4 205 rfl) rfl
theorem q959 : (Jvm.Cond.methodLink "CrateYard" (272 : Nat) ({ cls := "CrateYard$Layer", name := "isOut", desc := "(I)Z" } : Jvm.MethodName)) ∈ lw_all := lw_g (lw_at lw_m4 206 rfl) rfl
theorem q964 : (Jvm.Cond.instanceMethod ({ cls := "CrateYard", name := "stateOf", desc := "(I)LState;" } : Jvm.MethodName)) ∈ lw_all := lw_g (lw_at lw_m4 211 rfl) rfl
theorem q965 : (Jvm.Cond.selects "CrateYard" ({ cls := "CrateYard", name := "stateOf", desc := "(I)LState;" } : Jvm.MethodName) ({ cls := "CrateYard", name := "stateOf", desc := "(I)LState;" } : Jvm.MethodName)) ∈ lw_all := lw_g (lw_at lw_m4 212 rfl) rfl
theorem q966 : (Jvm.Cond.code ({ cls := "CrateYard", name := "stateOf", desc := "(I)LState;" } : Jvm.MethodName) prog_2_method_34_code (2 : Nat) (Option.some (Jvm.ClassFile.FieldType.object "State"))) ∈ lw_all := lw_g (lw_at lw_m4 213 rfl) rfl
theorem q972 : (Jvm.Cond.instanceMethod ({ cls := "CrateYard", name := "hostOf", desc := "(I)I" } : Jvm.MethodName)) ∈ lw_all := lw_g (lw_at lw_m4 219 rfl) rfl
theorem q973 : (Jvm.Cond.selects "CrateYard" ({ cls := "CrateYard", name := "hostOf", desc := "(I)I" } : Jvm.MethodName) ({ cls := "CrateYard", name := "hostOf", desc := "(I)I" } : Jvm.MethodName)) ∈ lw_all := lw_g (lw_at lw_m4 220 rfl) rfl
theorem q974 : (Jvm.Cond.code ({ cls := "CrateYard", name := "hostOf", desc := "(I)I" } : Jvm.MethodName) prog_2_method_35_code (3 : Nat) (Option.some Jvm.ClassFile.FieldType.int)) ∈ lw_all := lw_g (lw_at lw_m4 221 rfl) rfl
theorem q975 : (Jvm.Cond.methodLink "CrateYard" (275 : Nat) ({ cls := "CrateYard", name := "requireElement", desc := "(Z)V" } : Jvm.MethodName)) ∈ lw_all := lw_g (lw_at lw_m4 222 rfl) rfl
theorem q976 : (Jvm.Cond.static ({ cls := "CrateYard", name := "requireElement", desc := "(Z)V" } : Jvm.MethodName)) ∈ lw_all := lw_g (lw_at lw_m4 223 rfl) rfl
theorem q977 : (Jvm.Cond.code ({ cls := "CrateYard", name := "requireElement", desc := "(Z)V" } : Jvm.MethodName) prog_2_method_5_code (1 : Nat) (Option.none : Option Jvm.ClassFile.FieldType)) ∈ lw_all := lw_g (lw_at lw_m4 224 rfl) rfl
theorem q978 : (Jvm.Cond.classLink "CrateYard" (13 : Nat) "java/util/NoSuchElementException") ∈ lw_all := lw_g (lw_at lw_m4 225 rfl) rfl
theorem q979 : (Jvm.Cond.methodLink "CrateYard" (15 : Nat) ({ cls := "java/util/NoSuchElementException", name := "<init>", desc := "()V" } : Jvm.MethodName)) ∈ lw_all := lw_g (lw_at lw_m4 226 rfl) rfl
theorem q984 : (Jvm.Cond.instanceMethod ({ cls := "CrateYard", name := "barOf", desc := "(I)LBar;" } : Jvm.MethodName)) ∈ lw_all := lw_g (lw_at lw_m4 231 rfl) rfl
theorem q985 : (Jvm.Cond.selects "CrateYard" ({ cls := "CrateYard", name := "barOf", desc := "(I)LBar;" } : Jvm.MethodName) ({ cls := "CrateYard", name := "barOf", desc := "(I)LBar;" } : Jvm.MethodName)) ∈ lw_all := lw_g (lw_at lw_m4 232 rfl) rfl
theorem q986 : (Jvm.Cond.code ({ cls := "CrateYard", name := "barOf", desc := "(I)LBar;" } : Jvm.MethodName) prog_2_method_36_code (3 : Nat) (Option.some (Jvm.ClassFile.FieldType.object "Bar"))) ∈ lw_all := lw_g (lw_at lw_m4 233 rfl) rfl
theorem q987 : (Jvm.Cond.fieldLink "CrateYard" (285 : Nat) "Bar" "REST" "LBar;") ∈ lw_all := lw_g (lw_at lw_m4 234 rfl) rfl
theorem q993 : (Jvm.Cond.instanceMethod ({ cls := "CrateYard", name := "restsUntil", desc := "(I)I" } : Jvm.MethodName)) ∈ lw_all := lw_g (lw_at lw_m5 0 rfl) rfl
theorem q994 : (Jvm.Cond.selects "CrateYard" ({ cls := "CrateYard", name := "restsUntil", desc := "(I)I" } : Jvm.MethodName) ({ cls := "CrateYard", name := "restsUntil", desc := "(I)I" } : Jvm.MethodName)) ∈ lw_all := lw_g (lw_at lw_m5 1 rfl) rfl
theorem q995 : (Jvm.Cond.code ({ cls := "CrateYard", name := "restsUntil", desc := "(I)I" } : Jvm.MethodName) prog_2_method_37_code (3 : Nat) (Option.some Jvm.ClassFile.FieldType.int)) ∈ lw_all := lw_g (lw_at lw_m5 2 rfl) rfl
theorem q1000 : (Jvm.Cond.instanceMethod ({ cls := "CrateYard", name := "layersIn", desc := "(I)I" } : Jvm.MethodName)) ∈ lw_all := lw_g (lw_at lw_m5 7 rfl) rfl
theorem q1001 : (Jvm.Cond.selects "CrateYard" ({ cls := "CrateYard", name := "layersIn", desc := "(I)I" } : Jvm.MethodName) ({ cls := "CrateYard", name := "layersIn", desc := "(I)I" } : Jvm.MethodName)) ∈ lw_all := lw_g (lw_at lw_m5 8 rfl) rfl
theorem q1002 : (Jvm.Cond.code ({ cls := "CrateYard", name := "layersIn", desc := "(I)I" } : Jvm.MethodName) prog_2_method_38_code (3 : Nat) (Option.some Jvm.ClassFile.FieldType.int)) ∈ lw_all := lw_g (lw_at lw_m5 9 rfl) rfl
theorem q1007 : (Jvm.Cond.instanceMethod ({ cls := "CrateYard", name := "isStale", desc := "(I)Z" } : Jvm.MethodName)) ∈ lw_all := lw_g (lw_at lw_m5 14 rfl) rfl
theorem q1008 : (Jvm.Cond.selects "CrateYard" ({ cls := "CrateYard", name := "isStale", desc := "(I)Z" } : Jvm.MethodName) ({ cls := "CrateYard", name := "isStale", desc := "(I)Z" } : Jvm.MethodName)) ∈ lw_all := lw_g (lw_at lw_m5 15 rfl) rfl
theorem q1009 : (Jvm.Cond.code ({ cls := "CrateYard", name := "isStale", desc := "(I)Z" } : Jvm.MethodName) prog_2_method_39_code (2 : Nat) (Option.some Jvm.ClassFile.FieldType.boolean)) ∈ lw_all := lw_g (lw_at lw_m5 16 rfl) rfl
theorem q1014 : (Jvm.Cond.instanceMethod ({ cls := "CrateYard", name := "isOpen", desc := "(II)Z" } : Jvm.MethodName)) ∈ lw_all := lw_g (lw_at lw_m5 21 rfl) rfl
theorem q1015 : (Jvm.Cond.selects "CrateYard" ({ cls := "CrateYard", name := "isOpen", desc := "(II)Z" } : Jvm.MethodName) ({ cls := "CrateYard", name := "isOpen", desc := "(II)Z" } : Jvm.MethodName)) ∈ lw_all := lw_g (lw_at lw_m5 22 rfl) rfl
theorem q1016 : (Jvm.Cond.code ({ cls := "CrateYard", name := "isOpen", desc := "(II)Z" } : Jvm.MethodName) prog_2_method_40_code (3 : Nat) (Option.some Jvm.ClassFile.FieldType.boolean)) ∈ lw_all := lw_g (lw_at lw_m5 23 rfl) rfl
theorem q1021 : (Jvm.Cond.instanceMethod ({ cls := "CrateYard", name := "nextOpen", desc := "(I)I" } : Jvm.MethodName)) ∈ lw_all := lw_g (lw_at lw_m5 28 rfl) rfl
theorem q1022 : (Jvm.Cond.selects "CrateYard" ({ cls := "CrateYard", name := "nextOpen", desc := "(I)I" } : Jvm.MethodName) ({ cls := "CrateYard", name := "nextOpen", desc := "(I)I" } : Jvm.MethodName)) ∈ lw_all := lw_g (lw_at lw_m5 29 rfl) rfl
theorem q1023 : (Jvm.Cond.code ({ cls := "CrateYard", name := "nextOpen", desc := "(I)I" } : Jvm.MethodName) prog_2_method_41_code (3 : Nat) (Option.some Jvm.ClassFile.FieldType.int)) ∈ lw_all := lw_g (lw_at lw_m5 30 rfl) rfl
theorem q1028 : (Jvm.Cond.instanceMethod ({ cls := "CrateYard", name := "freeCores", desc := "(I)I" } : Jvm.MethodName)) ∈ lw_all := lw_g (lw_at lw_m5 35 rfl) rfl
theorem q1029 : (Jvm.Cond.selects "CrateYard" ({ cls := "CrateYard", name := "freeCores", desc := "(I)I" } : Jvm.MethodName) ({ cls := "CrateYard", name := "freeCores", desc := "(I)I" } : Jvm.MethodName)) ∈ lw_all := lw_g (lw_at lw_m5 36 rfl) rfl
theorem q1030 : (Jvm.Cond.code ({ cls := "CrateYard", name := "freeCores", desc := "(I)I" } : Jvm.MethodName) prog_2_method_42_code (3 : Nat) (Option.some Jvm.ClassFile.FieldType.int)) ∈ lw_all := lw_g (lw_at lw_m5 37 rfl) rfl
theorem q1031 : (Jvm.Cond.methodLink "CrateYard" (288 : Nat) ({ cls := "CrateYard", name := "requireHost", desc := "(I)LCrateYard$Host;" } : Jvm.MethodName)) ∈ lw_all := lw_g (lw_at lw_m5 38 rfl) rfl
theorem q1032 : (Jvm.Cond.privateMethod ({ cls := "CrateYard", name := "requireHost", desc := "(I)LCrateYard$Host;" } : Jvm.MethodName)) ∈ lw_tbl := lw_at lw_m5 39 rfl
theorem q1033 : (Jvm.Cond.instanceMethod ({ cls := "CrateYard", name := "requireHost", desc := "(I)LCrateYard$Host;" } : Jvm.MethodName)) ∈ lw_all := lw_g (lw_at lw_m5 40 rfl) rfl
theorem q1034 : (Jvm.Cond.code ({ cls := "CrateYard", name := "requireHost", desc := "(I)LCrateYard$Host;" } : Jvm.MethodName) prog_2_method_11_code (2 : Nat) (Option.some (Jvm.ClassFile.FieldType.object "CrateYard$Host"))) ∈ lw_all := lw_g (lw_at lw_m5 41 rfl) rfl
theorem q1039 : (Jvm.Cond.instanceMethod ({ cls := "CrateYard", name := "freeByContainers", desc := "(I)I" } : Jvm.MethodName)) ∈ lw_all := lw_g (lw_at lw_m5 46 rfl) rfl
theorem q1040 : (Jvm.Cond.selects "CrateYard" ({ cls := "CrateYard", name := "freeByContainers", desc := "(I)I" } : Jvm.MethodName) ({ cls := "CrateYard", name := "freeByContainers", desc := "(I)I" } : Jvm.MethodName)) ∈ lw_all := lw_g (lw_at lw_m5 47 rfl) rfl
theorem q1041 : (Jvm.Cond.code ({ cls := "CrateYard", name := "freeByContainers", desc := "(I)I" } : Jvm.MethodName) prog_2_method_43_code (6 : Nat) (Option.some Jvm.ClassFile.FieldType.int)) ∈ lw_all := lw_g (lw_at lw_m5 48 rfl) rfl
theorem q1046 : (Jvm.Cond.instanceMethod ({ cls := "CrateYard", name := "freeMemory", desc := "(I)I" } : Jvm.MethodName)) ∈ lw_all := lw_g (lw_at lw_m5 53 rfl) rfl
theorem q1047 : (Jvm.Cond.selects "CrateYard" ({ cls := "CrateYard", name := "freeMemory", desc := "(I)I" } : Jvm.MethodName) ({ cls := "CrateYard", name := "freeMemory", desc := "(I)I" } : Jvm.MethodName)) ∈ lw_all := lw_g (lw_at lw_m5 54 rfl) rfl
theorem q1048 : (Jvm.Cond.code ({ cls := "CrateYard", name := "freeMemory", desc := "(I)I" } : Jvm.MethodName) prog_2_method_44_code (3 : Nat) (Option.some Jvm.ClassFile.FieldType.int)) ∈ lw_all := lw_g (lw_at lw_m5 55 rfl) rfl
theorem q1053 : (Jvm.Cond.instanceMethod ({ cls := "CrateYard", name := "line", desc := "(I)Ljava/lang/String;" } : Jvm.MethodName)) ∈ lw_all := lw_g (lw_at lw_m5 60 rfl) rfl
theorem q1054 : (Jvm.Cond.selects "CrateYard" ({ cls := "CrateYard", name := "line", desc := "(I)Ljava/lang/String;" } : Jvm.MethodName) ({ cls := "CrateYard", name := "line", desc := "(I)Ljava/lang/String;" } : Jvm.MethodName)) ∈ lw_all := lw_g (lw_at lw_m5 61 rfl) rfl
theorem q1055 : (Jvm.Cond.code ({ cls := "CrateYard", name := "line", desc := "(I)Ljava/lang/String;" } : Jvm.MethodName) prog_2_method_47_code (6 : Nat) (Option.some (Jvm.ClassFile.FieldType.object "java/lang/String"))) ∈ lw_all := lw_g (lw_at lw_m5 62 rfl) rfl
theorem q1056 : (Jvm.Cond.classLink "CrateYard" (316 : Nat) "java/lang/StringBuilder") ∈ lw_all := lw_g (lw_at lw_m5 63 rfl) rfl
theorem q1058 : (Jvm.Cond.methodLink "CrateYard" (318 : Nat) ({ cls := "java/lang/StringBuilder", name := "<init>", desc := "()V" } : Jvm.MethodName)) ∈ lw_all := lw_g (lw_at lw_m5 65 rfl) rfl
theorem q1087 : (Jvm.Cond.methodLink "CrateYard" (319 : Nat) ({ cls := "CrateYard$Host", name := "toString", desc := "()Ljava/lang/String;" } : Jvm.MethodName)) ∈ lw_all := lw_g (lw_at lw_m5 94 rfl) rfl
theorem q1317 : (Jvm.Cond.methodLink "CrateYard" (323 : Nat) ({ cls := "java/lang/StringBuilder", name := "append", desc := "(Ljava/lang/String;)Ljava/lang/StringBuilder;" } : Jvm.MethodName)) ∈ lw_all := lw_g (lw_at lw_m6 84 rfl) rfl
theorem q1318 : (Jvm.Cond.methodLink "CrateYard" (327 : Nat) ({ cls := "java/lang/StringBuilder", name := "append", desc := "(C)Ljava/lang/StringBuilder;" } : Jvm.MethodName)) ∈ lw_all := lw_g (lw_at lw_m6 85 rfl) rfl
theorem q1319 : (Jvm.Cond.methodLink "CrateYard" (330 : Nat) ({ cls := "CrateYard$Container", name := "toString", desc := "()Ljava/lang/String;" } : Jvm.MethodName)) ∈ lw_all := lw_g (lw_at lw_m6 86 rfl) rfl
theorem q1331 : (Jvm.Cond.methodLink "CrateYard" (331 : Nat) ({ cls := "java/lang/StringBuilder", name := "toString", desc := "()Ljava/lang/String;" } : Jvm.MethodName)) ∈ lw_all := lw_g (lw_at lw_m6 98 rfl) rfl
theorem q1350 : (Jvm.Cond.instanceMethod ({ cls := "CrateYard", name := "runningShare", desc := "()F" } : Jvm.MethodName)) ∈ lw_all := lw_g (lw_at lw_m6 117 rfl) rfl
theorem q1351 : (Jvm.Cond.selects "CrateYard" ({ cls := "CrateYard", name := "runningShare", desc := "()F" } : Jvm.MethodName) ({ cls := "CrateYard", name := "runningShare", desc := "()F" } : Jvm.MethodName)) ∈ lw_all := lw_g (lw_at lw_m6 118 rfl) rfl
theorem q1352 : (Jvm.Cond.code ({ cls := "CrateYard", name := "runningShare", desc := "()F" } : Jvm.MethodName) prog_2_method_50_code (2 : Nat) (Option.some Jvm.ClassFile.FieldType.float)) ∈ lw_all := lw_g (lw_at lw_m6 119 rfl) rfl
theorem q1353 : (Jvm.Cond.methodLink "CrateYard" (332 : Nat) ({ cls := "CrateYard", name := "count", desc := "(LState;)I" } : Jvm.MethodName)) ∈ lw_all := lw_g (lw_at lw_m6 120 rfl) rfl
theorem q1354 : (Jvm.Cond.privateMethod ({ cls := "CrateYard", name := "count", desc := "(LState;)I" } : Jvm.MethodName)) ∈ lw_tbl := lw_at lw_m6 121 rfl
theorem q1355 : (Jvm.Cond.instanceMethod ({ cls := "CrateYard", name := "count", desc := "(LState;)I" } : Jvm.MethodName)) ∈ lw_all := lw_g (lw_at lw_m6 122 rfl) rfl
theorem q1356 : (Jvm.Cond.code ({ cls := "CrateYard", name := "count", desc := "(LState;)I" } : Jvm.MethodName) prog_2_method_49_code (5 : Nat) (Option.some Jvm.ClassFile.FieldType.int)) ∈ lw_all := lw_g (lw_at lw_m6 123 rfl) rfl
theorem q1357 : (Jvm.Cond.methodLink "CrateYard" (336 : Nat) ({ cls := "CrateYard", name := "requireSome", desc := "(I)V" } : Jvm.MethodName)) ∈ lw_all := lw_g (lw_at lw_m6 124 rfl) rfl
theorem q1358 : (Jvm.Cond.static ({ cls := "CrateYard", name := "requireSome", desc := "(I)V" } : Jvm.MethodName)) ∈ lw_all := lw_g (lw_at lw_m6 125 rfl) rfl
theorem q1359 : (Jvm.Cond.code ({ cls := "CrateYard", name := "requireSome", desc := "(I)V" } : Jvm.MethodName) prog_2_method_7_code (1 : Nat) (Option.none : Option Jvm.ClassFile.FieldType)) ∈ lw_all := lw_g (lw_at lw_m6 126 rfl) rfl
theorem q1360 : (Jvm.Cond.classLink "CrateYard" (19 : Nat) "java/lang/ArithmeticException") ∈ lw_all := lw_g (lw_at lw_m6 127 rfl) rfl
theorem q1361 : (Jvm.Cond.methodLink "CrateYard" (21 : Nat) ({ cls := "java/lang/ArithmeticException", name := "<init>", desc := "()V" } : Jvm.MethodName)) ∈ lw_all := lw_g (lw_at lw_m6 128 rfl) rfl
theorem q1369 : (Jvm.Cond.instanceMethod ({ cls := "CrateYard", name := "meanCores", desc := "()D" } : Jvm.MethodName)) ∈ lw_all := lw_g (lw_at lw_m6 136 rfl) rfl
theorem q1370 : (Jvm.Cond.selects "CrateYard" ({ cls := "CrateYard", name := "meanCores", desc := "()D" } : Jvm.MethodName) ({ cls := "CrateYard", name := "meanCores", desc := "()D" } : Jvm.MethodName)) ∈ lw_all := lw_g (lw_at lw_m6 137 rfl) rfl
theorem q1371 : (Jvm.Cond.code ({ cls := "CrateYard", name := "meanCores", desc := "()D" } : Jvm.MethodName) prog_2_method_51_code (2 : Nat) (Option.some Jvm.ClassFile.FieldType.double)) ∈ lw_all := lw_g (lw_at lw_m6 138 rfl) rfl
theorem q1764 : (Jvm.Cond.castable "CrateYard" "java/lang/Object") ∈ lw_tbl := lw_at lw_m8 51 rfl
theorem in_X1 : ∀ w ∈ wsX10, w ∈ lw_all := lw_in wsX10 [144, 146, 148, 150, 152, 154, 156] (by decide +kernel) (by decide +kernel)

/-! Window -/
set_option maxRecDepth 100000
def RX10 : String := "Window"
def TX10 : u_T := fun k => match k with
  | 0 => ("Window", "first", "I", true)
  | 1 => ("Window", "length", "I", true)
  | _ => ("Window", "tenant", "I", true)
def tyX10 : Nat → FieldType := fun k => match k with
  | 0 => .int
  | 1 => .int
  | _ => .int
abbrev wsX100 : List Cond := u_ws RX10 TX10 3
theorem nmX10 : ∀ a, a < 3 → ∀ b, b < 3 → a ≠ b → (TX10 a).2.1 ≠ (TX10 b).2.1 := by decide +kernel
theorem tyX10_ok : ∀ k, k < 3 → parseFieldDescriptor (TX10 k).2.2.1 = some (tyX10 k) := by decide +kernel
abbrev cX10_first : ByteArray := prog_15_method_2_code
def yX10_first : MethodName := ⟨RX10, "first", "()I"⟩
theorem dX10_first_0 : decode cX10_first 0 = .ok (.aload_n 0, 1) := by decide +kernel
theorem dX10_first_1 : decode cX10_first 1 = .ok (.getfield 7, 3) := by decide +kernel
theorem dX10_first_4 : decode cX10_first 4 = .ok (.ireturn, 1) := by decide +kernel
abbrev cX10_length : ByteArray := prog_15_method_3_code
def yX10_length : MethodName := ⟨RX10, "length", "()I"⟩
theorem dX10_length_0 : decode cX10_length 0 = .ok (.aload_n 0, 1) := by decide +kernel
theorem dX10_length_1 : decode cX10_length 1 = .ok (.getfield 13, 3) := by decide +kernel
theorem dX10_length_4 : decode cX10_length 4 = .ok (.ireturn, 1) := by decide +kernel
abbrev cX10_tenant : ByteArray := prog_15_method_4_code
def yX10_tenant : MethodName := ⟨RX10, "tenant", "()I"⟩
theorem dX10_tenant_0 : decode cX10_tenant 0 = .ok (.aload_n 0, 1) := by decide +kernel
theorem dX10_tenant_1 : decode cX10_tenant 1 = .ok (.getfield 16, 3) := by decide +kernel
theorem dX10_tenant_4 : decode cX10_tenant 4 = .ok (.ireturn, 1) := by decide +kernel
abbrev cX10_init : ByteArray := prog_15_method_1_code
def yX10_init : MethodName := ⟨RX10, "<init>", "(III)V"⟩
def dkwX10_init_0 : List UInt8 := [42, 183, 0, 1, 42, 27, 181, 0, 7, 42, 28, 181, 0, 13, 42, 29, 181, 0, 16, 177]
abbrev dktX10_init_0 : List UInt8 := dkwX10_init_0 ++ []
theorem dksX10_init_0 : cX10_init.data.toList.drop 0 = dktX10_init_0 := by decide +kernel
theorem dX10_init_0 : decode cX10_init 0 = .ok (.aload_n 0, 1) := dk_42 (dk_at dksX10_init_0 0 rfl rfl)
theorem dX10_init_1 : decode cX10_init 1 = .ok (.invokespecial 1, 3) := dk_183 0 1 (dk_at dksX10_init_0 1 rfl rfl)
theorem dX10_init_4 : decode cX10_init 4 = .ok (.aload_n 0, 1) := dk_42 (dk_at dksX10_init_0 4 rfl rfl)
theorem dX10_init_5 : decode cX10_init 5 = .ok (.iload_n 1, 1) := dk_27 (dk_at dksX10_init_0 5 rfl rfl)
theorem dX10_init_6 : decode cX10_init 6 = .ok (.putfield 7, 3) := dk_181 0 7 (dk_at dksX10_init_0 6 rfl rfl)
theorem dX10_init_9 : decode cX10_init 9 = .ok (.aload_n 0, 1) := dk_42 (dk_at dksX10_init_0 9 rfl rfl)
theorem dX10_init_10 : decode cX10_init 10 = .ok (.iload_n 2, 1) := dk_28 (dk_at dksX10_init_0 10 rfl rfl)
theorem dX10_init_11 : decode cX10_init 11 = .ok (.putfield 13, 3) := dk_181 0 13 (dk_at dksX10_init_0 11 rfl rfl)
theorem dX10_init_14 : decode cX10_init 14 = .ok (.aload_n 0, 1) := dk_42 (dk_at dksX10_init_0 14 rfl rfl)
theorem dX10_init_15 : decode cX10_init 15 = .ok (.iload_n 3, 1) := dk_29 (dk_at dksX10_init_0 15 rfl rfl)
theorem dX10_init_16 : decode cX10_init 16 = .ok (.putfield 16, 3) := dk_181 0 16 (dk_at dksX10_init_0 16 rfl rfl)
theorem dX10_init_19 : decode cX10_init 19 = .ok (.return_, 1) := dk_177 (dk_at dksX10_init_0 19 rfl rfl)
theorem q65 : (Jvm.Cond.initialized "Window") ∈ lw_all := lw_g (lw_at lw_m1 32 rfl) rfl
theorem q383 : (Jvm.Cond.selects "Window" ({ cls := "java/lang/Object", name := "getClass", desc := "()Ljava/lang/Class;" } : Jvm.MethodName) ({ cls := "java/lang/Object", name := "getClass", desc := "()Ljava/lang/Class;" } : Jvm.MethodName)) ∈ lw_all := lw_g (lw_at lw_m2 110 rfl) rfl
theorem q760 : (Jvm.Cond.instanceMethod ({ cls := "Window", name := "first", desc := "()I" } : Jvm.MethodName)) ∈ lw_all := lw_g (lw_at lw_m4 7 rfl) rfl
theorem q761 : (Jvm.Cond.selects "Window" ({ cls := "Window", name := "first", desc := "()I" } : Jvm.MethodName) ({ cls := "Window", name := "first", desc := "()I" } : Jvm.MethodName)) ∈ lw_all := lw_g (lw_at lw_m4 8 rfl) rfl
theorem q762 : (Jvm.Cond.code ({ cls := "Window", name := "first", desc := "()I" } : Jvm.MethodName) prog_15_method_2_code (1 : Nat) (Option.some Jvm.ClassFile.FieldType.int)) ∈ lw_all := lw_g (lw_at lw_m4 9 rfl) rfl
theorem q764 : (Jvm.Cond.instanceMethod ({ cls := "Window", name := "length", desc := "()I" } : Jvm.MethodName)) ∈ lw_all := lw_g (lw_at lw_m4 11 rfl) rfl
theorem q765 : (Jvm.Cond.selects "Window" ({ cls := "Window", name := "length", desc := "()I" } : Jvm.MethodName) ({ cls := "Window", name := "length", desc := "()I" } : Jvm.MethodName)) ∈ lw_all := lw_g (lw_at lw_m4 12 rfl) rfl
theorem q766 : (Jvm.Cond.code ({ cls := "Window", name := "length", desc := "()I" } : Jvm.MethodName) prog_15_method_3_code (1 : Nat) (Option.some Jvm.ClassFile.FieldType.int)) ∈ lw_all := lw_g (lw_at lw_m4 13 rfl) rfl
theorem q768 : (Jvm.Cond.instanceMethod ({ cls := "Window", name := "tenant", desc := "()I" } : Jvm.MethodName)) ∈ lw_all := lw_g (lw_at lw_m4 15 rfl) rfl
theorem q769 : (Jvm.Cond.selects "Window" ({ cls := "Window", name := "tenant", desc := "()I" } : Jvm.MethodName) ({ cls := "Window", name := "tenant", desc := "()I" } : Jvm.MethodName)) ∈ lw_all := lw_g (lw_at lw_m4 16 rfl) rfl
theorem q770 : (Jvm.Cond.code ({ cls := "Window", name := "tenant", desc := "()I" } : Jvm.MethodName) prog_15_method_4_code (1 : Nat) (Option.some Jvm.ClassFile.FieldType.int)) ∈ lw_all := lw_g (lw_at lw_m4 17 rfl) rfl
theorem q1728 : (Jvm.Cond.instantiable "Window" (3 : Nat)) ∈ lw_all := lw_g (lw_at lw_m8 15 rfl) rfl
theorem q1730 : (Jvm.Cond.instanceMethod ({ cls := "Window", name := "<init>", desc := "(III)V" } : Jvm.MethodName)) ∈ lw_all := lw_g (lw_at lw_m8 17 rfl) rfl
theorem q1731 : (Jvm.Cond.code ({ cls := "Window", name := "<init>", desc := "(III)V" } : Jvm.MethodName) prog_15_method_1_code (4 : Nat) (Option.none : Option Jvm.ClassFile.FieldType)) ∈ lw_all := lw_g (lw_at lw_m8 18 rfl) rfl
theorem q1732 : (Jvm.Cond.methodLink "Window" (1 : Nat) ({ cls := "java/lang/Object", name := "<init>", desc := "()V" } : Jvm.MethodName)) ∈ lw_all := lw_g (lw_at lw_m8 19 rfl) rfl
theorem q1733 : (Jvm.Cond.fieldLink "Window" (7 : Nat) "Window" "first" "I") ∈ lw_all := lw_g (lw_at lw_m8 20 rfl) rfl
theorem q1734 : (Jvm.Cond.fieldLink "Window" (13 : Nat) "Window" "length" "I") ∈ lw_all := lw_g (lw_at lw_m8 21 rfl) rfl
theorem q1735 : (Jvm.Cond.fieldLink "Window" (16 : Nat) "Window" "tenant" "I") ∈ lw_all := lw_g (lw_at lw_m8 22 rfl) rfl
theorem q1736 : (Jvm.Cond.laysFinal "Window" "Window" "first" "I") ∈ lw_all := lw_g (lw_at lw_m8 23 rfl) rfl
theorem q1737 : (Jvm.Cond.soleField "Window" "first") ∈ lw_all := lw_g (lw_at lw_m8 24 rfl) rfl
theorem q1738 : (Jvm.Cond.laysFinal "Window" "Window" "length" "I") ∈ lw_all := lw_g (lw_at lw_m8 25 rfl) rfl
theorem q1739 : (Jvm.Cond.soleField "Window" "length") ∈ lw_all := lw_g (lw_at lw_m8 26 rfl) rfl
theorem q1740 : (Jvm.Cond.laysFinal "Window" "Window" "tenant" "I") ∈ lw_all := lw_g (lw_at lw_m8 27 rfl) rfl
theorem q1741 : (Jvm.Cond.soleField "Window" "tenant") ∈ lw_all := lw_g (lw_at lw_m8 28 rfl) rfl
theorem q1742 : (Jvm.Cond.superclass "Window" "java/lang/Object") ∈ lw_all := lw_g (lw_at lw_m8 29 rfl) rfl
theorem q1781 : (Jvm.Cond.castable "Window" "java/lang/Object") ∈ lw_tbl := lw_at lw_m8 68 rfl
theorem in_X10 : ∀ w ∈ wsX100, w ∈ lw_all := lw_in wsX100 [1736, 1738, 1740] (by decide +kernel) (by decide +kernel)

/-! CrateYard$Opening -/
set_option maxRecDepth 100000
def RX11 : String := "CrateYard$Opening"
def TX11 : u_T := fun k => match k with
  | 0 => ("CrateYard$Opening", "window", "LWindow;", true)
  | _ => ("CrateYard$Opening", "tenant", "I", false)
def tyX11 : Nat → FieldType := fun k => match k with
  | 0 => .object "Window"
  | _ => .int
abbrev wsX110 : List Cond := u_ws RX11 TX11 2
theorem nmX11 : ∀ a, a < 2 → ∀ b, b < 2 → a ≠ b → (TX11 a).2.1 ≠ (TX11 b).2.1 := by decide +kernel
theorem tyX11_ok : ∀ k, k < 2 → parseFieldDescriptor (TX11 k).2.2.1 = some (tyX11 k) := by decide +kernel
abbrev cX11_init : ByteArray := prog_7_method_1_code
def yX11_init : MethodName := ⟨RX11, "<init>", "(LWindow;)V"⟩
def dkwX11_init_0 : List UInt8 := [42, 183, 0, 3, 42, 43, 181, 0, 9, 42, 43, 182, 0, 15, 181, 0, 21, 177]
abbrev dktX11_init_0 : List UInt8 := dkwX11_init_0 ++ []
theorem dksX11_init_0 : cX11_init.data.toList.drop 0 = dktX11_init_0 := by decide +kernel
theorem dX11_init_0 : decode cX11_init 0 = .ok (.aload_n 0, 1) := dk_42 (dk_at dksX11_init_0 0 rfl rfl)
theorem dX11_init_1 : decode cX11_init 1 = .ok (.invokespecial 3, 3) := dk_183 0 3 (dk_at dksX11_init_0 1 rfl rfl)
theorem dX11_init_4 : decode cX11_init 4 = .ok (.aload_n 0, 1) := dk_42 (dk_at dksX11_init_0 4 rfl rfl)
theorem dX11_init_5 : decode cX11_init 5 = .ok (.aload_n 1, 1) := dk_43 (dk_at dksX11_init_0 5 rfl rfl)
theorem dX11_init_6 : decode cX11_init 6 = .ok (.putfield 9, 3) := dk_181 0 9 (dk_at dksX11_init_0 6 rfl rfl)
theorem dX11_init_9 : decode cX11_init 9 = .ok (.aload_n 0, 1) := dk_42 (dk_at dksX11_init_0 9 rfl rfl)
theorem dX11_init_10 : decode cX11_init 10 = .ok (.aload_n 1, 1) := dk_43 (dk_at dksX11_init_0 10 rfl rfl)
theorem dX11_init_11 : decode cX11_init 11 = .ok (.invokevirtual 15, 3) := dk_182 0 15 (dk_at dksX11_init_0 11 rfl rfl)
theorem dX11_init_14 : decode cX11_init 14 = .ok (.putfield 21, 3) := dk_181 0 21 (dk_at dksX11_init_0 14 rfl rfl)
theorem dX11_init_17 : decode cX11_init 17 = .ok (.return_, 1) := dk_177 (dk_at dksX11_init_0 17 rfl rfl)
abbrev cX11_isOpen : ByteArray := prog_7_method_2_code
def yX11_isOpen : MethodName := ⟨RX11, "isOpen", "(II)Z"⟩
def dkwX11_isOpen_1 : List UInt8 := [160, 0, 18, 29, 42, 180, 0, 9, 182, 0, 27, 162, 0, 7, 4, 167, 0, 4, 3, 172]
abbrev dktX11_isOpen_1 : List UInt8 := dkwX11_isOpen_1 ++ []
def dkwX11_isOpen_0 : List UInt8 := [28, 16, 24, 112, 42, 180, 0, 9, 182, 0, 24, 100, 16, 24, 96, 16, 24, 112, 62, 42, 180, 0, 21, 27]
abbrev dktX11_isOpen_0 : List UInt8 := dkwX11_isOpen_0 ++ dktX11_isOpen_1
theorem dksX11_isOpen_0 : cX11_isOpen.data.toList.drop 0 = dktX11_isOpen_0 := by decide +kernel
theorem dksX11_isOpen_1 : cX11_isOpen.data.toList.drop 24 = dktX11_isOpen_1 := dk_seg dksX11_isOpen_0 24 rfl rfl
theorem dX11_isOpen_0 : decode cX11_isOpen 0 = .ok (.iload_n 2, 1) := dk_28 (dk_at dksX11_isOpen_0 0 rfl rfl)
theorem dX11_isOpen_1 : decode cX11_isOpen 1 = .ok (.bipush 24, 2) := dk_16 24 (dk_at dksX11_isOpen_0 1 rfl rfl)
theorem dX11_isOpen_3 : decode cX11_isOpen 3 = .ok (.irem, 1) := dk_112 (dk_at dksX11_isOpen_0 3 rfl rfl)
theorem dX11_isOpen_4 : decode cX11_isOpen 4 = .ok (.aload_n 0, 1) := dk_42 (dk_at dksX11_isOpen_0 4 rfl rfl)
theorem dX11_isOpen_5 : decode cX11_isOpen 5 = .ok (.getfield 9, 3) := dk_180 0 9 (dk_at dksX11_isOpen_0 5 rfl rfl)
theorem dX11_isOpen_8 : decode cX11_isOpen 8 = .ok (.invokevirtual 24, 3) := dk_182 0 24 (dk_at dksX11_isOpen_0 8 rfl rfl)
theorem dX11_isOpen_11 : decode cX11_isOpen 11 = .ok (.isub, 1) := dk_100 (dk_at dksX11_isOpen_0 11 rfl rfl)
theorem dX11_isOpen_12 : decode cX11_isOpen 12 = .ok (.bipush 24, 2) := dk_16 24 (dk_at dksX11_isOpen_0 12 rfl rfl)
theorem dX11_isOpen_14 : decode cX11_isOpen 14 = .ok (.iadd, 1) := dk_96 (dk_at dksX11_isOpen_0 14 rfl rfl)
theorem dX11_isOpen_15 : decode cX11_isOpen 15 = .ok (.bipush 24, 2) := dk_16 24 (dk_at dksX11_isOpen_0 15 rfl rfl)
theorem dX11_isOpen_17 : decode cX11_isOpen 17 = .ok (.irem, 1) := dk_112 (dk_at dksX11_isOpen_0 17 rfl rfl)
theorem dX11_isOpen_18 : decode cX11_isOpen 18 = .ok (.istore_n 3, 1) := dk_62 (dk_at dksX11_isOpen_0 18 rfl rfl)
theorem dX11_isOpen_19 : decode cX11_isOpen 19 = .ok (.aload_n 0, 1) := dk_42 (dk_at dksX11_isOpen_0 19 rfl rfl)
theorem dX11_isOpen_20 : decode cX11_isOpen 20 = .ok (.getfield 21, 3) := dk_180 0 21 (dk_at dksX11_isOpen_0 20 rfl rfl)
theorem dX11_isOpen_23 : decode cX11_isOpen 23 = .ok (.iload_n 1, 1) := dk_27 (dk_at dksX11_isOpen_0 23 rfl rfl)
theorem dX11_isOpen_24 : decode cX11_isOpen 24 = .ok (.if_icmp .ne 18, 3) := dk_160 0 18 (dk_at dksX11_isOpen_1 0 rfl rfl)
theorem dX11_isOpen_27 : decode cX11_isOpen 27 = .ok (.iload_n 3, 1) := dk_29 (dk_at dksX11_isOpen_1 3 rfl rfl)
theorem dX11_isOpen_28 : decode cX11_isOpen 28 = .ok (.aload_n 0, 1) := dk_42 (dk_at dksX11_isOpen_1 4 rfl rfl)
theorem dX11_isOpen_29 : decode cX11_isOpen 29 = .ok (.getfield 9, 3) := dk_180 0 9 (dk_at dksX11_isOpen_1 5 rfl rfl)
theorem dX11_isOpen_32 : decode cX11_isOpen 32 = .ok (.invokevirtual 27, 3) := dk_182 0 27 (dk_at dksX11_isOpen_1 8 rfl rfl)
theorem dX11_isOpen_35 : decode cX11_isOpen 35 = .ok (.if_icmp .ge 7, 3) := dk_162 0 7 (dk_at dksX11_isOpen_1 11 rfl rfl)
theorem dX11_isOpen_38 : decode cX11_isOpen 38 = .ok (.iconst 1, 1) := dk_4 (dk_at dksX11_isOpen_1 14 rfl rfl)
theorem dX11_isOpen_39 : decode cX11_isOpen 39 = .ok (.goto 4, 3) := dk_167 0 4 (dk_at dksX11_isOpen_1 15 rfl rfl)
theorem dX11_isOpen_42 : decode cX11_isOpen 42 = .ok (.iconst 0, 1) := dk_3 (dk_at dksX11_isOpen_1 18 rfl rfl)
theorem dX11_isOpen_43 : decode cX11_isOpen 43 = .ok (.ireturn, 1) := dk_172 (dk_at dksX11_isOpen_1 19 rfl rfl)
theorem q66 : (Jvm.Cond.initialized "CrateYard$Opening") ∈ lw_all := lw_g (lw_at lw_m1 33 rfl) rfl
theorem q377 : (Jvm.Cond.selects "CrateYard$Opening" ({ cls := "java/lang/Object", name := "getClass", desc := "()Ljava/lang/Class;" } : Jvm.MethodName) ({ cls := "java/lang/Object", name := "getClass", desc := "()Ljava/lang/Class;" } : Jvm.MethodName)) ∈ lw_all := lw_g (lw_at lw_m2 104 rfl) rfl
theorem q775 : (Jvm.Cond.instantiable "CrateYard$Opening" (2 : Nat)) ∈ lw_all := lw_g (lw_at lw_m4 22 rfl) rfl
theorem q777 : (Jvm.Cond.instanceMethod ({ cls := "CrateYard$Opening", name := "<init>", desc := "(LWindow;)V" } : Jvm.MethodName)) ∈ lw_all := lw_g (lw_at lw_m4 24 rfl) rfl
theorem q778 : (Jvm.Cond.code ({ cls := "CrateYard$Opening", name := "<init>", desc := "(LWindow;)V" } : Jvm.MethodName) prog_7_method_1_code (2 : Nat) (Option.none : Option Jvm.ClassFile.FieldType)) ∈ lw_all := lw_g (lw_at lw_m4 25 rfl) rfl
theorem q779 : (Jvm.Cond.methodLink "CrateYard$Opening" (3 : Nat) ({ cls := "java/lang/Object", name := "<init>", desc := "()V" } : Jvm.MethodName)) ∈ lw_all := lw_g (lw_at lw_m4 26 rfl) rfl
theorem q780 : (Jvm.Cond.methodLink "CrateYard$Opening" (15 : Nat) ({ cls := "Window", name := "tenant", desc := "()I" } : Jvm.MethodName)) ∈ lw_all := lw_g (lw_at lw_m4 27 rfl) rfl
theorem q781 : (Jvm.Cond.fieldLink "CrateYard$Opening" (9 : Nat) "CrateYard$Opening" "window" "LWindow;") ∈ lw_all := lw_g (lw_at lw_m4 28 rfl) rfl
theorem q782 : (Jvm.Cond.fieldLink "CrateYard$Opening" (21 : Nat) "CrateYard$Opening" "tenant" "I") ∈ lw_all := lw_g (lw_at lw_m4 29 rfl) rfl
theorem q784 : (Jvm.Cond.laysFinal "CrateYard$Opening" "CrateYard$Opening" "window" "LWindow;") ∈ lw_all := lw_g (lw_at lw_m4 31 rfl) rfl
theorem q785 : (Jvm.Cond.soleField "CrateYard$Opening" "window") ∈ lw_all := lw_g (lw_at lw_m4 32 rfl) rfl
theorem q786 : (Jvm.Cond.lays "CrateYard$Opening" "CrateYard$Opening" "tenant" "I") ∈ lw_all := lw_g (lw_at lw_m4 33 rfl) rfl
theorem q787 : (Jvm.Cond.soleField "CrateYard$Opening" "tenant") ∈ lw_all := lw_g (lw_at lw_m4 34 rfl) rfl
theorem q788 : (Jvm.Cond.superclass "CrateYard$Opening" "java/lang/Object") ∈ lw_all := lw_g (lw_at lw_m4 35 rfl) rfl
theorem q928 : (Jvm.Cond.instanceMethod ({ cls := "CrateYard$Opening", name := "isOpen", desc := "(II)Z" } : Jvm.MethodName)) ∈ lw_all := lw_g (lw_at lw_m4 175 rfl) rfl
theorem q929 : (Jvm.Cond.selects "CrateYard$Opening" ({ cls := "CrateYard$Opening", name := "isOpen", desc := "(II)Z" } : Jvm.MethodName) ({ cls := "CrateYard$Opening", name := "isOpen", desc := "(II)Z" } : Jvm.MethodName)) ∈ lw_all := lw_g (lw_at lw_m4 176 rfl) rfl
theorem q930 : (Jvm.Cond.code ({ cls := "CrateYard$Opening", name := "isOpen", desc := "(II)Z" } : Jvm.MethodName) prog_7_method_2_code (4 : Nat) (Option.some Jvm.ClassFile.FieldType.boolean)) ∈ lw_all := lw_g (lw_at lw_m4 177 rfl) rfl
theorem q931 : (Jvm.Cond.methodLink "CrateYard$Opening" (24 : Nat) ({ cls := "Window", name := "first", desc := "()I" } : Jvm.MethodName)) ∈ lw_all := lw_g (lw_at lw_m4 178 rfl) rfl
theorem q932 : (Jvm.Cond.methodLink "CrateYard$Opening" (27 : Nat) ({ cls := "Window", name := "length", desc := "()I" } : Jvm.MethodName)) ∈ lw_all := lw_g (lw_at lw_m4 179 rfl) rfl
theorem q1782 : (Jvm.Cond.castable "CrateYard$Opening" "java/lang/Object") ∈ lw_tbl := lw_at lw_m8 69 rfl
theorem in_X11 : ∀ w ∈ wsX110, w ∈ lw_all := lw_in wsX110 [784, 786] (by decide +kernel) (by decide +kernel)

/-! CrateYard$Container -/
set_option maxRecDepth 100000
def RX12 : String := "CrateYard$Container"
def TX12 : u_T := fun k => match k with
  | 0 => ("CrateYard$Container", "number", "I", true)
  | 1 => ("CrateYard$Container", "tenant", "I", true)
  | 2 => ("CrateYard$Container", "image", "LCrateYard$Image;", true)
  | 3 => ("CrateYard$Container", "need", "LNeed;", true)
  | 4 => ("CrateYard$Container", "state", "LState;", false)
  | 5 => ("CrateYard$Container", "host", "LCrateYard$Host;", false)
  | 6 => ("CrateYard$Container", "layers", "I", false)
  | 7 => ("CrateYard$Container", "startedAt", "I", false)
  | 8 => ("CrateYard$Container", "failures", "I", false)
  | 9 => ("CrateYard$Container", "until", "I", false)
  | _ => ("CrateYard$Container", "this$0", "LCrateYard;", true)
def tyX12 : Nat → FieldType := fun k => match k with
  | 0 => .int
  | 1 => .int
  | 2 => .object "CrateYard$Image"
  | 3 => .object "Need"
  | 4 => .object "State"
  | 5 => .object "CrateYard$Host"
  | 6 => .int
  | 7 => .int
  | 8 => .int
  | 9 => .int
  | _ => .object "CrateYard"
abbrev wsX120 : List Cond := u_ws RX12 TX12 11
theorem nmX12 : ∀ a, a < 11 → ∀ b, b < 11 → a ≠ b → (TX12 a).2.1 ≠ (TX12 b).2.1 := by decide +kernel
theorem tyX12_ok : ∀ k, k < 11 → parseFieldDescriptor (TX12 k).2.2.1 = some (tyX12 k) := by decide +kernel
abbrev cX12_is : ByteArray := prog_3_method_2_code
def yX12_is : MethodName := ⟨RX12, "is", "(LState;)Z"⟩
def dkwX12_is_0 : List UInt8 := [42, 180, 0, 21, 43, 166, 0, 7, 4, 167, 0, 4, 3, 172]
abbrev dktX12_is_0 : List UInt8 := dkwX12_is_0 ++ []
theorem dksX12_is_0 : cX12_is.data.toList.drop 0 = dktX12_is_0 := by decide +kernel
theorem dX12_is_0 : decode cX12_is 0 = .ok (.aload_n 0, 1) := dk_42 (dk_at dksX12_is_0 0 rfl rfl)
theorem dX12_is_1 : decode cX12_is 1 = .ok (.getfield 21, 3) := dk_180 0 21 (dk_at dksX12_is_0 1 rfl rfl)
theorem dX12_is_4 : decode cX12_is 4 = .ok (.aload_n 1, 1) := dk_43 (dk_at dksX12_is_0 4 rfl rfl)
theorem dX12_is_5 : decode cX12_is 5 = .ok (.if_acmp .ne 7, 3) := dk_166 0 7 (dk_at dksX12_is_0 5 rfl rfl)
theorem dX12_is_8 : decode cX12_is 8 = .ok (.iconst 1, 1) := dk_4 (dk_at dksX12_is_0 8 rfl rfl)
theorem dX12_is_9 : decode cX12_is 9 = .ok (.goto 4, 3) := dk_167 0 4 (dk_at dksX12_is_0 9 rfl rfl)
theorem dX12_is_12 : decode cX12_is 12 = .ok (.iconst 0, 1) := dk_3 (dk_at dksX12_is_0 12 rfl rfl)
theorem dX12_is_13 : decode cX12_is 13 = .ok (.ireturn, 1) := dk_172 (dk_at dksX12_is_0 13 rfl rfl)
abbrev cX12_bar : ByteArray := prog_3_method_6_code
def yX12_bar : MethodName := ⟨RX12, "bar", "(LCrateYard$Park;)LBar;"⟩
def dkwX12_bar_2 : List UInt8 := [176]
abbrev dktX12_bar_2 : List UInt8 := dkwX12_bar_2 ++ []
def dkwX12_bar_1 : List UInt8 := [178, 0, 105, 176, 43, 42, 180, 0, 35, 182, 0, 108, 199, 0, 9, 178, 0, 112, 167, 0, 6, 178, 0, 115]
abbrev dktX12_bar_1 : List UInt8 := dkwX12_bar_1 ++ dktX12_bar_2
def dkwX12_bar_0 : List UInt8 := [42, 182, 0, 90, 153, 0, 7, 178, 0, 93, 176, 43, 42, 180, 0, 35, 182, 0, 99, 154, 0, 7]
abbrev dktX12_bar_0 : List UInt8 := dkwX12_bar_0 ++ dktX12_bar_1
theorem dksX12_bar_0 : cX12_bar.data.toList.drop 0 = dktX12_bar_0 := by decide +kernel
theorem dksX12_bar_1 : cX12_bar.data.toList.drop 22 = dktX12_bar_1 := dk_seg dksX12_bar_0 22 rfl rfl
theorem dksX12_bar_2 : cX12_bar.data.toList.drop 46 = dktX12_bar_2 := dk_seg dksX12_bar_1 24 rfl rfl
theorem dX12_bar_0 : decode cX12_bar 0 = .ok (.aload_n 0, 1) := dk_42 (dk_at dksX12_bar_0 0 rfl rfl)
theorem dX12_bar_1 : decode cX12_bar 1 = .ok (.invokevirtual 90, 3) := dk_182 0 90 (dk_at dksX12_bar_0 1 rfl rfl)
theorem dX12_bar_4 : decode cX12_bar 4 = .ok (.ifCond .eq 7, 3) := dk_153 0 7 (dk_at dksX12_bar_0 4 rfl rfl)
theorem dX12_bar_7 : decode cX12_bar 7 = .ok (.getstatic 93, 3) := dk_178 0 93 (dk_at dksX12_bar_0 7 rfl rfl)
theorem dX12_bar_10 : decode cX12_bar 10 = .ok (.areturn, 1) := dk_176 (dk_at dksX12_bar_0 10 rfl rfl)
theorem dX12_bar_11 : decode cX12_bar 11 = .ok (.aload_n 1, 1) := dk_43 (dk_at dksX12_bar_0 11 rfl rfl)
theorem dX12_bar_12 : decode cX12_bar 12 = .ok (.aload_n 0, 1) := dk_42 (dk_at dksX12_bar_0 12 rfl rfl)
theorem dX12_bar_13 : decode cX12_bar 13 = .ok (.getfield 35, 3) := dk_180 0 35 (dk_at dksX12_bar_0 13 rfl rfl)
theorem dX12_bar_16 : decode cX12_bar 16 = .ok (.invokevirtual 99, 3) := dk_182 0 99 (dk_at dksX12_bar_0 16 rfl rfl)
theorem dX12_bar_19 : decode cX12_bar 19 = .ok (.ifCond .ne 7, 3) := dk_154 0 7 (dk_at dksX12_bar_0 19 rfl rfl)
theorem dX12_bar_22 : decode cX12_bar 22 = .ok (.getstatic 105, 3) := dk_178 0 105 (dk_at dksX12_bar_1 0 rfl rfl)
theorem dX12_bar_25 : decode cX12_bar 25 = .ok (.areturn, 1) := dk_176 (dk_at dksX12_bar_1 3 rfl rfl)
theorem dX12_bar_26 : decode cX12_bar 26 = .ok (.aload_n 1, 1) := dk_43 (dk_at dksX12_bar_1 4 rfl rfl)
theorem dX12_bar_27 : decode cX12_bar 27 = .ok (.aload_n 0, 1) := dk_42 (dk_at dksX12_bar_1 5 rfl rfl)
theorem dX12_bar_28 : decode cX12_bar 28 = .ok (.getfield 35, 3) := dk_180 0 35 (dk_at dksX12_bar_1 6 rfl rfl)
theorem dX12_bar_31 : decode cX12_bar 31 = .ok (.invokevirtual 108, 3) := dk_182 0 108 (dk_at dksX12_bar_1 9 rfl rfl)
theorem dX12_bar_34 : decode cX12_bar 34 = .ok (.ifnonnull 9, 3) := dk_199 0 9 (dk_at dksX12_bar_1 12 rfl rfl)
theorem dX12_bar_37 : decode cX12_bar 37 = .ok (.getstatic 112, 3) := dk_178 0 112 (dk_at dksX12_bar_1 15 rfl rfl)
theorem dX12_bar_40 : decode cX12_bar 40 = .ok (.goto 6, 3) := dk_167 0 6 (dk_at dksX12_bar_1 18 rfl rfl)
theorem dX12_bar_43 : decode cX12_bar 43 = .ok (.getstatic 115, 3) := dk_178 0 115 (dk_at dksX12_bar_1 21 rfl rfl)
theorem dX12_bar_46 : decode cX12_bar 46 = .ok (.areturn, 1) := dk_176 (dk_at dksX12_bar_2 0 rfl rfl)
abbrev cX12_isOnWithdrawn : ByteArray := prog_3_method_4_code
def yX12_isOnWithdrawn : MethodName := ⟨RX12, "isOnWithdrawn", "()Z"⟩
def dkwX12_isOnWithdrawn_2 : List UInt8 := [182, 0, 49, 45, 180, 0, 80, 126, 153, 0, 7, 4, 167, 0, 4, 3, 128, 60, 167, 255, 207, 27, 172]
abbrev dktX12_isOnWithdrawn_2 : List UInt8 := dkwX12_isOnWithdrawn_2 ++ []
def dkwX12_isOnWithdrawn_1 : List UInt8 := [44, 185, 0, 70, 1, 0, 192, 0, 74, 78, 27, 45, 180, 0, 76, 153, 0, 22, 42, 180, 0, 31]
abbrev dktX12_isOnWithdrawn_1 : List UInt8 := dkwX12_isOnWithdrawn_1 ++ dktX12_isOnWithdrawn_2
def dkwX12_isOnWithdrawn_0 : List UInt8 := [3, 60, 42, 180, 0, 3, 180, 0, 54, 185, 0, 58, 1, 0, 77, 44, 185, 0, 64, 1, 0, 153, 0, 46]
abbrev dktX12_isOnWithdrawn_0 : List UInt8 := dkwX12_isOnWithdrawn_0 ++ dktX12_isOnWithdrawn_1
theorem dksX12_isOnWithdrawn_0 : cX12_isOnWithdrawn.data.toList.drop 0 = dktX12_isOnWithdrawn_0 := by decide +kernel
theorem dksX12_isOnWithdrawn_1 : cX12_isOnWithdrawn.data.toList.drop 24 = dktX12_isOnWithdrawn_1 := dk_seg dksX12_isOnWithdrawn_0 24 rfl rfl
theorem dksX12_isOnWithdrawn_2 : cX12_isOnWithdrawn.data.toList.drop 46 = dktX12_isOnWithdrawn_2 := dk_seg dksX12_isOnWithdrawn_1 22 rfl rfl
theorem dX12_isOnWithdrawn_0 : decode cX12_isOnWithdrawn 0 = .ok (.iconst 0, 1) := dk_3 (dk_at dksX12_isOnWithdrawn_0 0 rfl rfl)
theorem dX12_isOnWithdrawn_1 : decode cX12_isOnWithdrawn 1 = .ok (.istore_n 1, 1) := dk_60 (dk_at dksX12_isOnWithdrawn_0 1 rfl rfl)
theorem dX12_isOnWithdrawn_2 : decode cX12_isOnWithdrawn 2 = .ok (.aload_n 0, 1) := dk_42 (dk_at dksX12_isOnWithdrawn_0 2 rfl rfl)
theorem dX12_isOnWithdrawn_3 : decode cX12_isOnWithdrawn 3 = .ok (.getfield 3, 3) := dk_180 0 3 (dk_at dksX12_isOnWithdrawn_0 3 rfl rfl)
theorem dX12_isOnWithdrawn_6 : decode cX12_isOnWithdrawn 6 = .ok (.getfield 54, 3) := dk_180 0 54 (dk_at dksX12_isOnWithdrawn_0 6 rfl rfl)
theorem dX12_isOnWithdrawn_9 : decode cX12_isOnWithdrawn 9 = .ok (.invokeinterface 58 1, 5) := by decide +kernel
theorem dX12_isOnWithdrawn_14 : decode cX12_isOnWithdrawn 14 = .ok (.astore_n 2, 1) := dk_77 (dk_at dksX12_isOnWithdrawn_0 14 rfl rfl)
theorem dX12_isOnWithdrawn_15 : decode cX12_isOnWithdrawn 15 = .ok (.aload_n 2, 1) := dk_44 (dk_at dksX12_isOnWithdrawn_0 15 rfl rfl)
theorem dX12_isOnWithdrawn_16 : decode cX12_isOnWithdrawn 16 = .ok (.invokeinterface 64 1, 5) := by decide +kernel
theorem dX12_isOnWithdrawn_21 : decode cX12_isOnWithdrawn 21 = .ok (.ifCond .eq 46, 3) := dk_153 0 46 (dk_at dksX12_isOnWithdrawn_0 21 rfl rfl)
theorem dX12_isOnWithdrawn_24 : decode cX12_isOnWithdrawn 24 = .ok (.aload_n 2, 1) := dk_44 (dk_at dksX12_isOnWithdrawn_1 0 rfl rfl)
theorem dX12_isOnWithdrawn_25 : decode cX12_isOnWithdrawn 25 = .ok (.invokeinterface 70 1, 5) := by decide +kernel
theorem dX12_isOnWithdrawn_30 : decode cX12_isOnWithdrawn 30 = .ok (.checkcast 74, 3) := dk_192 0 74 (dk_at dksX12_isOnWithdrawn_1 6 rfl rfl)
theorem dX12_isOnWithdrawn_33 : decode cX12_isOnWithdrawn 33 = .ok (.astore_n 3, 1) := dk_78 (dk_at dksX12_isOnWithdrawn_1 9 rfl rfl)
theorem dX12_isOnWithdrawn_34 : decode cX12_isOnWithdrawn 34 = .ok (.iload_n 1, 1) := dk_27 (dk_at dksX12_isOnWithdrawn_1 10 rfl rfl)
theorem dX12_isOnWithdrawn_35 : decode cX12_isOnWithdrawn 35 = .ok (.aload_n 3, 1) := dk_45 (dk_at dksX12_isOnWithdrawn_1 11 rfl rfl)
theorem dX12_isOnWithdrawn_36 : decode cX12_isOnWithdrawn 36 = .ok (.getfield 76, 3) := dk_180 0 76 (dk_at dksX12_isOnWithdrawn_1 12 rfl rfl)
theorem dX12_isOnWithdrawn_39 : decode cX12_isOnWithdrawn 39 = .ok (.ifCond .eq 22, 3) := dk_153 0 22 (dk_at dksX12_isOnWithdrawn_1 15 rfl rfl)
theorem dX12_isOnWithdrawn_42 : decode cX12_isOnWithdrawn 42 = .ok (.aload_n 0, 1) := dk_42 (dk_at dksX12_isOnWithdrawn_1 18 rfl rfl)
theorem dX12_isOnWithdrawn_43 : decode cX12_isOnWithdrawn 43 = .ok (.getfield 31, 3) := dk_180 0 31 (dk_at dksX12_isOnWithdrawn_1 19 rfl rfl)
theorem dX12_isOnWithdrawn_46 : decode cX12_isOnWithdrawn 46 = .ok (.invokevirtual 49, 3) := dk_182 0 49 (dk_at dksX12_isOnWithdrawn_2 0 rfl rfl)
theorem dX12_isOnWithdrawn_49 : decode cX12_isOnWithdrawn 49 = .ok (.aload_n 3, 1) := dk_45 (dk_at dksX12_isOnWithdrawn_2 3 rfl rfl)
theorem dX12_isOnWithdrawn_50 : decode cX12_isOnWithdrawn 50 = .ok (.getfield 80, 3) := dk_180 0 80 (dk_at dksX12_isOnWithdrawn_2 4 rfl rfl)
theorem dX12_isOnWithdrawn_53 : decode cX12_isOnWithdrawn 53 = .ok (.iand, 1) := dk_126 (dk_at dksX12_isOnWithdrawn_2 7 rfl rfl)
theorem dX12_isOnWithdrawn_54 : decode cX12_isOnWithdrawn 54 = .ok (.ifCond .eq 7, 3) := dk_153 0 7 (dk_at dksX12_isOnWithdrawn_2 8 rfl rfl)
theorem dX12_isOnWithdrawn_57 : decode cX12_isOnWithdrawn 57 = .ok (.iconst 1, 1) := dk_4 (dk_at dksX12_isOnWithdrawn_2 11 rfl rfl)
theorem dX12_isOnWithdrawn_58 : decode cX12_isOnWithdrawn 58 = .ok (.goto 4, 3) := dk_167 0 4 (dk_at dksX12_isOnWithdrawn_2 12 rfl rfl)
theorem dX12_isOnWithdrawn_61 : decode cX12_isOnWithdrawn 61 = .ok (.iconst 0, 1) := dk_3 (dk_at dksX12_isOnWithdrawn_2 15 rfl rfl)
theorem dX12_isOnWithdrawn_62 : decode cX12_isOnWithdrawn 62 = .ok (.ior, 1) := dk_128 (dk_at dksX12_isOnWithdrawn_2 16 rfl rfl)
theorem dX12_isOnWithdrawn_63 : decode cX12_isOnWithdrawn 63 = .ok (.istore_n 1, 1) := dk_60 (dk_at dksX12_isOnWithdrawn_2 17 rfl rfl)
theorem dX12_isOnWithdrawn_64 : decode cX12_isOnWithdrawn 64 = .ok (.goto (-49), 3) := dk_167 255 207 (dk_at dksX12_isOnWithdrawn_2 18 rfl rfl)
theorem dX12_isOnWithdrawn_67 : decode cX12_isOnWithdrawn 67 = .ok (.iload_n 1, 1) := dk_27 (dk_at dksX12_isOnWithdrawn_2 21 rfl rfl)
theorem dX12_isOnWithdrawn_68 : decode cX12_isOnWithdrawn 68 = .ok (.ireturn, 1) := dk_172 (dk_at dksX12_isOnWithdrawn_2 22 rfl rfl)
abbrev cX12_isStale : ByteArray := prog_3_method_3_code
def yX12_isStale : MethodName := ⟨RX12, "isStale", "()Z"⟩
def dkwX12_isStale_1 : List UInt8 := [153, 0, 7, 4, 167, 0, 4, 3, 172]
abbrev dktX12_isStale_1 : List UInt8 := dkwX12_isStale_1 ++ []
def dkwX12_isStale_0 : List UInt8 := [42, 178, 0, 39, 182, 0, 42, 153, 0, 24, 42, 180, 0, 46, 42, 180, 0, 31, 182, 0, 49, 2, 130, 126]
abbrev dktX12_isStale_0 : List UInt8 := dkwX12_isStale_0 ++ dktX12_isStale_1
theorem dksX12_isStale_0 : cX12_isStale.data.toList.drop 0 = dktX12_isStale_0 := by decide +kernel
theorem dksX12_isStale_1 : cX12_isStale.data.toList.drop 24 = dktX12_isStale_1 := dk_seg dksX12_isStale_0 24 rfl rfl
theorem dX12_isStale_0 : decode cX12_isStale 0 = .ok (.aload_n 0, 1) := dk_42 (dk_at dksX12_isStale_0 0 rfl rfl)
theorem dX12_isStale_1 : decode cX12_isStale 1 = .ok (.getstatic 39, 3) := dk_178 0 39 (dk_at dksX12_isStale_0 1 rfl rfl)
theorem dX12_isStale_4 : decode cX12_isStale 4 = .ok (.invokevirtual 42, 3) := dk_182 0 42 (dk_at dksX12_isStale_0 4 rfl rfl)
theorem dX12_isStale_7 : decode cX12_isStale 7 = .ok (.ifCond .eq 24, 3) := dk_153 0 24 (dk_at dksX12_isStale_0 7 rfl rfl)
theorem dX12_isStale_10 : decode cX12_isStale 10 = .ok (.aload_n 0, 1) := dk_42 (dk_at dksX12_isStale_0 10 rfl rfl)
theorem dX12_isStale_11 : decode cX12_isStale 11 = .ok (.getfield 46, 3) := dk_180 0 46 (dk_at dksX12_isStale_0 11 rfl rfl)
theorem dX12_isStale_14 : decode cX12_isStale 14 = .ok (.aload_n 0, 1) := dk_42 (dk_at dksX12_isStale_0 14 rfl rfl)
theorem dX12_isStale_15 : decode cX12_isStale 15 = .ok (.getfield 31, 3) := dk_180 0 31 (dk_at dksX12_isStale_0 15 rfl rfl)
theorem dX12_isStale_18 : decode cX12_isStale 18 = .ok (.invokevirtual 49, 3) := dk_182 0 49 (dk_at dksX12_isStale_0 18 rfl rfl)
theorem dX12_isStale_21 : decode cX12_isStale 21 = .ok (.iconst (-1), 1) := dk_2 (dk_at dksX12_isStale_0 21 rfl rfl)
theorem dX12_isStale_22 : decode cX12_isStale 22 = .ok (.ixor, 1) := dk_130 (dk_at dksX12_isStale_0 22 rfl rfl)
theorem dX12_isStale_23 : decode cX12_isStale 23 = .ok (.iand, 1) := dk_126 (dk_at dksX12_isStale_0 23 rfl rfl)
theorem dX12_isStale_24 : decode cX12_isStale 24 = .ok (.ifCond .eq 7, 3) := dk_153 0 7 (dk_at dksX12_isStale_1 0 rfl rfl)
theorem dX12_isStale_27 : decode cX12_isStale 27 = .ok (.iconst 1, 1) := dk_4 (dk_at dksX12_isStale_1 3 rfl rfl)
theorem dX12_isStale_28 : decode cX12_isStale 28 = .ok (.goto 4, 3) := dk_167 0 4 (dk_at dksX12_isStale_1 4 rfl rfl)
theorem dX12_isStale_31 : decode cX12_isStale 31 = .ok (.iconst 0, 1) := dk_3 (dk_at dksX12_isStale_1 7 rfl rfl)
theorem dX12_isStale_32 : decode cX12_isStale 32 = .ok (.ireturn, 1) := dk_172 (dk_at dksX12_isStale_1 8 rfl rfl)
abbrev cX12_become : ByteArray := prog_3_method_8_code
def yX12_become : MethodName := ⟨RX12, "become", "(LState;)V"⟩
def dkwX12_become_2 : List UInt8 := [3, 167, 0, 7, 42, 180, 0, 140, 181, 0, 140, 42, 1, 181, 0, 122, 42, 43, 181, 0, 21, 177]
abbrev dktX12_become_2 : List UInt8 := dkwX12_become_2 ++ []
def dkwX12_become_1 : List UInt8 := [180, 0, 35, 182, 0, 137, 42, 42, 180, 0, 3, 180, 0, 83, 42, 180, 0, 130, 100, 16, 8, 161, 0, 7]
abbrev dktX12_become_1 : List UInt8 := dkwX12_become_1 ++ dktX12_become_2
def dkwX12_become_0 : List UInt8 := [42, 178, 0, 39, 182, 0, 42, 153, 0, 55, 42, 180, 0, 3, 180, 0, 118, 42, 180, 0, 122, 42]
abbrev dktX12_become_0 : List UInt8 := dkwX12_become_0 ++ dktX12_become_1
theorem dksX12_become_0 : cX12_become.data.toList.drop 0 = dktX12_become_0 := by decide +kernel
theorem dksX12_become_1 : cX12_become.data.toList.drop 22 = dktX12_become_1 := dk_seg dksX12_become_0 22 rfl rfl
theorem dksX12_become_2 : cX12_become.data.toList.drop 46 = dktX12_become_2 := dk_seg dksX12_become_1 24 rfl rfl
theorem dX12_become_0 : decode cX12_become 0 = .ok (.aload_n 0, 1) := dk_42 (dk_at dksX12_become_0 0 rfl rfl)
theorem dX12_become_1 : decode cX12_become 1 = .ok (.getstatic 39, 3) := dk_178 0 39 (dk_at dksX12_become_0 1 rfl rfl)
theorem dX12_become_4 : decode cX12_become 4 = .ok (.invokevirtual 42, 3) := dk_182 0 42 (dk_at dksX12_become_0 4 rfl rfl)
theorem dX12_become_7 : decode cX12_become 7 = .ok (.ifCond .eq 55, 3) := dk_153 0 55 (dk_at dksX12_become_0 7 rfl rfl)
theorem dX12_become_10 : decode cX12_become 10 = .ok (.aload_n 0, 1) := dk_42 (dk_at dksX12_become_0 10 rfl rfl)
theorem dX12_become_11 : decode cX12_become 11 = .ok (.getfield 3, 3) := dk_180 0 3 (dk_at dksX12_become_0 11 rfl rfl)
theorem dX12_become_14 : decode cX12_become 14 = .ok (.getfield 118, 3) := dk_180 0 118 (dk_at dksX12_become_0 14 rfl rfl)
theorem dX12_become_17 : decode cX12_become 17 = .ok (.aload_n 0, 1) := dk_42 (dk_at dksX12_become_0 17 rfl rfl)
theorem dX12_become_18 : decode cX12_become 18 = .ok (.getfield 122, 3) := dk_180 0 122 (dk_at dksX12_become_0 18 rfl rfl)
theorem dX12_become_21 : decode cX12_become 21 = .ok (.aload_n 0, 1) := dk_42 (dk_at dksX12_become_0 21 rfl rfl)
theorem dX12_become_22 : decode cX12_become 22 = .ok (.getfield 35, 3) := dk_180 0 35 (dk_at dksX12_become_1 0 rfl rfl)
theorem dX12_become_25 : decode cX12_become 25 = .ok (.invokevirtual 137, 3) := dk_182 0 137 (dk_at dksX12_become_1 3 rfl rfl)
theorem dX12_become_28 : decode cX12_become 28 = .ok (.aload_n 0, 1) := dk_42 (dk_at dksX12_become_1 6 rfl rfl)
theorem dX12_become_29 : decode cX12_become 29 = .ok (.aload_n 0, 1) := dk_42 (dk_at dksX12_become_1 7 rfl rfl)
theorem dX12_become_30 : decode cX12_become 30 = .ok (.getfield 3, 3) := dk_180 0 3 (dk_at dksX12_become_1 8 rfl rfl)
theorem dX12_become_33 : decode cX12_become 33 = .ok (.getfield 83, 3) := dk_180 0 83 (dk_at dksX12_become_1 11 rfl rfl)
theorem dX12_become_36 : decode cX12_become 36 = .ok (.aload_n 0, 1) := dk_42 (dk_at dksX12_become_1 14 rfl rfl)
theorem dX12_become_37 : decode cX12_become 37 = .ok (.getfield 130, 3) := dk_180 0 130 (dk_at dksX12_become_1 15 rfl rfl)
theorem dX12_become_40 : decode cX12_become 40 = .ok (.isub, 1) := dk_100 (dk_at dksX12_become_1 18 rfl rfl)
theorem dX12_become_41 : decode cX12_become 41 = .ok (.bipush 8, 2) := dk_16 8 (dk_at dksX12_become_1 19 rfl rfl)
theorem dX12_become_43 : decode cX12_become 43 = .ok (.if_icmp .lt 7, 3) := dk_161 0 7 (dk_at dksX12_become_1 21 rfl rfl)
theorem dX12_become_46 : decode cX12_become 46 = .ok (.iconst 0, 1) := dk_3 (dk_at dksX12_become_2 0 rfl rfl)
theorem dX12_become_47 : decode cX12_become 47 = .ok (.goto 7, 3) := dk_167 0 7 (dk_at dksX12_become_2 1 rfl rfl)
theorem dX12_become_50 : decode cX12_become 50 = .ok (.aload_n 0, 1) := dk_42 (dk_at dksX12_become_2 4 rfl rfl)
theorem dX12_become_51 : decode cX12_become 51 = .ok (.getfield 140, 3) := dk_180 0 140 (dk_at dksX12_become_2 5 rfl rfl)
theorem dX12_become_54 : decode cX12_become 54 = .ok (.putfield 140, 3) := dk_181 0 140 (dk_at dksX12_become_2 8 rfl rfl)
theorem dX12_become_57 : decode cX12_become 57 = .ok (.aload_n 0, 1) := dk_42 (dk_at dksX12_become_2 11 rfl rfl)
theorem dX12_become_58 : decode cX12_become 58 = .ok (.aconst_null, 1) := dk_1 (dk_at dksX12_become_2 12 rfl rfl)
theorem dX12_become_59 : decode cX12_become 59 = .ok (.putfield 122, 3) := dk_181 0 122 (dk_at dksX12_become_2 13 rfl rfl)
theorem dX12_become_62 : decode cX12_become 62 = .ok (.aload_n 0, 1) := dk_42 (dk_at dksX12_become_2 16 rfl rfl)
theorem dX12_become_63 : decode cX12_become 63 = .ok (.aload_n 1, 1) := dk_43 (dk_at dksX12_become_2 17 rfl rfl)
theorem dX12_become_64 : decode cX12_become 64 = .ok (.putfield 21, 3) := dk_181 0 21 (dk_at dksX12_become_2 18 rfl rfl)
theorem dX12_become_67 : decode cX12_become 67 = .ok (.return_, 1) := dk_177 (dk_at dksX12_become_2 21 rfl rfl)
abbrev cX12_init : ByteArray := prog_3_method_1_code
def yX12_init : MethodName := ⟨RX12, "<init>", "(LCrateYard;IILCrateYard$Image;LNeed;)V"⟩
def dkwX12_init_1 : List UInt8 := [181, 0, 28, 42, 25, 4, 181, 0, 31, 42, 25, 5, 181, 0, 35, 177]
abbrev dktX12_init_1 : List UInt8 := dkwX12_init_1 ++ []
def dkwX12_init_0 : List UInt8 := [42, 43, 181, 0, 3, 42, 183, 0, 9, 42, 178, 0, 15, 181, 0, 21, 42, 28, 181, 0, 24, 42, 29]
abbrev dktX12_init_0 : List UInt8 := dkwX12_init_0 ++ dktX12_init_1
theorem dksX12_init_0 : cX12_init.data.toList.drop 0 = dktX12_init_0 := by decide +kernel
theorem dksX12_init_1 : cX12_init.data.toList.drop 23 = dktX12_init_1 := dk_seg dksX12_init_0 23 rfl rfl
theorem dX12_init_0 : decode cX12_init 0 = .ok (.aload_n 0, 1) := dk_42 (dk_at dksX12_init_0 0 rfl rfl)
theorem dX12_init_1 : decode cX12_init 1 = .ok (.aload_n 1, 1) := dk_43 (dk_at dksX12_init_0 1 rfl rfl)
theorem dX12_init_2 : decode cX12_init 2 = .ok (.putfield 3, 3) := dk_181 0 3 (dk_at dksX12_init_0 2 rfl rfl)
theorem dX12_init_5 : decode cX12_init 5 = .ok (.aload_n 0, 1) := dk_42 (dk_at dksX12_init_0 5 rfl rfl)
theorem dX12_init_6 : decode cX12_init 6 = .ok (.invokespecial 9, 3) := dk_183 0 9 (dk_at dksX12_init_0 6 rfl rfl)
theorem dX12_init_9 : decode cX12_init 9 = .ok (.aload_n 0, 1) := dk_42 (dk_at dksX12_init_0 9 rfl rfl)
theorem dX12_init_10 : decode cX12_init 10 = .ok (.getstatic 15, 3) := dk_178 0 15 (dk_at dksX12_init_0 10 rfl rfl)
theorem dX12_init_13 : decode cX12_init 13 = .ok (.putfield 21, 3) := dk_181 0 21 (dk_at dksX12_init_0 13 rfl rfl)
theorem dX12_init_16 : decode cX12_init 16 = .ok (.aload_n 0, 1) := dk_42 (dk_at dksX12_init_0 16 rfl rfl)
theorem dX12_init_17 : decode cX12_init 17 = .ok (.iload_n 2, 1) := dk_28 (dk_at dksX12_init_0 17 rfl rfl)
theorem dX12_init_18 : decode cX12_init 18 = .ok (.putfield 24, 3) := dk_181 0 24 (dk_at dksX12_init_0 18 rfl rfl)
theorem dX12_init_21 : decode cX12_init 21 = .ok (.aload_n 0, 1) := dk_42 (dk_at dksX12_init_0 21 rfl rfl)
theorem dX12_init_22 : decode cX12_init 22 = .ok (.iload_n 3, 1) := dk_29 (dk_at dksX12_init_0 22 rfl rfl)
theorem dX12_init_23 : decode cX12_init 23 = .ok (.putfield 28, 3) := dk_181 0 28 (dk_at dksX12_init_1 0 rfl rfl)
theorem dX12_init_26 : decode cX12_init 26 = .ok (.aload_n 0, 1) := dk_42 (dk_at dksX12_init_1 3 rfl rfl)
theorem dX12_init_27 : decode cX12_init 27 = .ok (.aload 4, 2) := dk_25 4 (dk_at dksX12_init_1 4 rfl rfl)
theorem dX12_init_29 : decode cX12_init 29 = .ok (.putfield 31, 3) := dk_181 0 31 (dk_at dksX12_init_1 6 rfl rfl)
theorem dX12_init_32 : decode cX12_init 32 = .ok (.aload_n 0, 1) := dk_42 (dk_at dksX12_init_1 9 rfl rfl)
theorem dX12_init_33 : decode cX12_init 33 = .ok (.aload 5, 2) := dk_25 5 (dk_at dksX12_init_1 10 rfl rfl)
theorem dX12_init_35 : decode cX12_init 35 = .ok (.putfield 35, 3) := dk_181 0 35 (dk_at dksX12_init_1 12 rfl rfl)
theorem dX12_init_38 : decode cX12_init 38 = .ok (.return_, 1) := dk_177 (dk_at dksX12_init_1 15 rfl rfl)
abbrev cX12_fail : ByteArray := prog_3_method_9_code
def yX12_fail : MethodName := ⟨RX12, "fail", "()I"⟩
def dkwX12_fail_2 : List UInt8 := [27, 172]
abbrev dktX12_fail_2 : List UInt8 := dkwX12_fail_2 ++ []
def dkwX12_fail_1 : List UInt8 := [60, 42, 89, 180, 0, 140, 4, 96, 181, 0, 140, 42, 42, 180, 0, 3, 180, 0, 83, 27, 96, 181, 0, 160]
abbrev dktX12_fail_1 : List UInt8 := dkwX12_fail_1 ++ dktX12_fail_2
def dkwX12_fail_0 : List UInt8 := [42, 178, 0, 143, 182, 0, 146, 178, 0, 150, 42, 180, 0, 140, 178, 0, 150, 190, 4, 100, 184, 0, 154, 46]
abbrev dktX12_fail_0 : List UInt8 := dkwX12_fail_0 ++ dktX12_fail_1
theorem dksX12_fail_0 : cX12_fail.data.toList.drop 0 = dktX12_fail_0 := by decide +kernel
theorem dksX12_fail_1 : cX12_fail.data.toList.drop 24 = dktX12_fail_1 := dk_seg dksX12_fail_0 24 rfl rfl
theorem dksX12_fail_2 : cX12_fail.data.toList.drop 48 = dktX12_fail_2 := dk_seg dksX12_fail_1 24 rfl rfl
theorem dX12_fail_0 : decode cX12_fail 0 = .ok (.aload_n 0, 1) := dk_42 (dk_at dksX12_fail_0 0 rfl rfl)
theorem dX12_fail_1 : decode cX12_fail 1 = .ok (.getstatic 143, 3) := dk_178 0 143 (dk_at dksX12_fail_0 1 rfl rfl)
theorem dX12_fail_4 : decode cX12_fail 4 = .ok (.invokevirtual 146, 3) := dk_182 0 146 (dk_at dksX12_fail_0 4 rfl rfl)
theorem dX12_fail_7 : decode cX12_fail 7 = .ok (.getstatic 150, 3) := dk_178 0 150 (dk_at dksX12_fail_0 7 rfl rfl)
theorem dX12_fail_10 : decode cX12_fail 10 = .ok (.aload_n 0, 1) := dk_42 (dk_at dksX12_fail_0 10 rfl rfl)
theorem dX12_fail_11 : decode cX12_fail 11 = .ok (.getfield 140, 3) := dk_180 0 140 (dk_at dksX12_fail_0 11 rfl rfl)
theorem dX12_fail_14 : decode cX12_fail 14 = .ok (.getstatic 150, 3) := dk_178 0 150 (dk_at dksX12_fail_0 14 rfl rfl)
theorem dX12_fail_17 : decode cX12_fail 17 = .ok (.arraylength, 1) := dk_190 (dk_at dksX12_fail_0 17 rfl rfl)
theorem dX12_fail_18 : decode cX12_fail 18 = .ok (.iconst 1, 1) := dk_4 (dk_at dksX12_fail_0 18 rfl rfl)
theorem dX12_fail_19 : decode cX12_fail 19 = .ok (.isub, 1) := dk_100 (dk_at dksX12_fail_0 19 rfl rfl)
theorem dX12_fail_20 : decode cX12_fail 20 = .ok (.invokestatic 154, 3) := dk_184 0 154 (dk_at dksX12_fail_0 20 rfl rfl)
theorem dX12_fail_23 : decode cX12_fail 23 = .ok (.iaload, 1) := dk_46 (dk_at dksX12_fail_0 23 rfl rfl)
theorem dX12_fail_24 : decode cX12_fail 24 = .ok (.istore_n 1, 1) := dk_60 (dk_at dksX12_fail_1 0 rfl rfl)
theorem dX12_fail_25 : decode cX12_fail 25 = .ok (.aload_n 0, 1) := dk_42 (dk_at dksX12_fail_1 1 rfl rfl)
theorem dX12_fail_26 : decode cX12_fail 26 = .ok (.dup, 1) := dk_89 (dk_at dksX12_fail_1 2 rfl rfl)
theorem dX12_fail_27 : decode cX12_fail 27 = .ok (.getfield 140, 3) := dk_180 0 140 (dk_at dksX12_fail_1 3 rfl rfl)
theorem dX12_fail_30 : decode cX12_fail 30 = .ok (.iconst 1, 1) := dk_4 (dk_at dksX12_fail_1 6 rfl rfl)
theorem dX12_fail_31 : decode cX12_fail 31 = .ok (.iadd, 1) := dk_96 (dk_at dksX12_fail_1 7 rfl rfl)
theorem dX12_fail_32 : decode cX12_fail 32 = .ok (.putfield 140, 3) := dk_181 0 140 (dk_at dksX12_fail_1 8 rfl rfl)
theorem dX12_fail_35 : decode cX12_fail 35 = .ok (.aload_n 0, 1) := dk_42 (dk_at dksX12_fail_1 11 rfl rfl)
theorem dX12_fail_36 : decode cX12_fail 36 = .ok (.aload_n 0, 1) := dk_42 (dk_at dksX12_fail_1 12 rfl rfl)
theorem dX12_fail_37 : decode cX12_fail 37 = .ok (.getfield 3, 3) := dk_180 0 3 (dk_at dksX12_fail_1 13 rfl rfl)
theorem dX12_fail_40 : decode cX12_fail 40 = .ok (.getfield 83, 3) := dk_180 0 83 (dk_at dksX12_fail_1 16 rfl rfl)
theorem dX12_fail_43 : decode cX12_fail 43 = .ok (.iload_n 1, 1) := dk_27 (dk_at dksX12_fail_1 19 rfl rfl)
theorem dX12_fail_44 : decode cX12_fail 44 = .ok (.iadd, 1) := dk_96 (dk_at dksX12_fail_1 20 rfl rfl)
theorem dX12_fail_45 : decode cX12_fail 45 = .ok (.putfield 160, 3) := dk_181 0 160 (dk_at dksX12_fail_1 21 rfl rfl)
theorem dX12_fail_48 : decode cX12_fail 48 = .ok (.iload_n 1, 1) := dk_27 (dk_at dksX12_fail_2 0 rfl rfl)
theorem dX12_fail_49 : decode cX12_fail 49 = .ok (.ireturn, 1) := dk_172 (dk_at dksX12_fail_2 1 rfl rfl)
abbrev cX12_isOnOut : ByteArray := prog_3_method_5_code
def yX12_isOnOut : MethodName := ⟨RX12, "isOnOut", "()Z"⟩
def dkwX12_isOnOut_3 : List UInt8 := [167, 255, 203, 27, 172]
abbrev dktX12_isOnOut_3 : List UInt8 := dkwX12_isOnOut_3 ++ []
def dkwX12_isOnOut_2 : List UInt8 := [153, 0, 19, 42, 180, 0, 46, 45, 180, 0, 80, 126, 153, 0, 7, 4, 167, 0, 4, 3, 128, 60]
abbrev dktX12_isOnOut_2 : List UInt8 := dkwX12_isOnOut_2 ++ dktX12_isOnOut_3
def dkwX12_isOnOut_1 : List UInt8 := [44, 185, 0, 70, 1, 0, 192, 0, 74, 78, 27, 45, 42, 180, 0, 3, 180, 0, 83, 182, 0, 86]
abbrev dktX12_isOnOut_1 : List UInt8 := dkwX12_isOnOut_1 ++ dktX12_isOnOut_2
def dkwX12_isOnOut_0 : List UInt8 := [3, 60, 42, 180, 0, 3, 180, 0, 54, 185, 0, 58, 1, 0, 77, 44, 185, 0, 64, 1, 0, 153, 0, 50]
abbrev dktX12_isOnOut_0 : List UInt8 := dkwX12_isOnOut_0 ++ dktX12_isOnOut_1
theorem dksX12_isOnOut_0 : cX12_isOnOut.data.toList.drop 0 = dktX12_isOnOut_0 := by decide +kernel
theorem dksX12_isOnOut_1 : cX12_isOnOut.data.toList.drop 24 = dktX12_isOnOut_1 := dk_seg dksX12_isOnOut_0 24 rfl rfl
theorem dksX12_isOnOut_2 : cX12_isOnOut.data.toList.drop 46 = dktX12_isOnOut_2 := dk_seg dksX12_isOnOut_1 22 rfl rfl
theorem dksX12_isOnOut_3 : cX12_isOnOut.data.toList.drop 68 = dktX12_isOnOut_3 := dk_seg dksX12_isOnOut_2 22 rfl rfl
theorem dX12_isOnOut_0 : decode cX12_isOnOut 0 = .ok (.iconst 0, 1) := dk_3 (dk_at dksX12_isOnOut_0 0 rfl rfl)
theorem dX12_isOnOut_1 : decode cX12_isOnOut 1 = .ok (.istore_n 1, 1) := dk_60 (dk_at dksX12_isOnOut_0 1 rfl rfl)
theorem dX12_isOnOut_2 : decode cX12_isOnOut 2 = .ok (.aload_n 0, 1) := dk_42 (dk_at dksX12_isOnOut_0 2 rfl rfl)
theorem dX12_isOnOut_3 : decode cX12_isOnOut 3 = .ok (.getfield 3, 3) := dk_180 0 3 (dk_at dksX12_isOnOut_0 3 rfl rfl)
theorem dX12_isOnOut_6 : decode cX12_isOnOut 6 = .ok (.getfield 54, 3) := dk_180 0 54 (dk_at dksX12_isOnOut_0 6 rfl rfl)
theorem dX12_isOnOut_9 : decode cX12_isOnOut 9 = .ok (.invokeinterface 58 1, 5) := by decide +kernel
theorem dX12_isOnOut_14 : decode cX12_isOnOut 14 = .ok (.astore_n 2, 1) := dk_77 (dk_at dksX12_isOnOut_0 14 rfl rfl)
theorem dX12_isOnOut_15 : decode cX12_isOnOut 15 = .ok (.aload_n 2, 1) := dk_44 (dk_at dksX12_isOnOut_0 15 rfl rfl)
theorem dX12_isOnOut_16 : decode cX12_isOnOut 16 = .ok (.invokeinterface 64 1, 5) := by decide +kernel
theorem dX12_isOnOut_21 : decode cX12_isOnOut 21 = .ok (.ifCond .eq 50, 3) := dk_153 0 50 (dk_at dksX12_isOnOut_0 21 rfl rfl)
theorem dX12_isOnOut_24 : decode cX12_isOnOut 24 = .ok (.aload_n 2, 1) := dk_44 (dk_at dksX12_isOnOut_1 0 rfl rfl)
theorem dX12_isOnOut_25 : decode cX12_isOnOut 25 = .ok (.invokeinterface 70 1, 5) := by decide +kernel
theorem dX12_isOnOut_30 : decode cX12_isOnOut 30 = .ok (.checkcast 74, 3) := dk_192 0 74 (dk_at dksX12_isOnOut_1 6 rfl rfl)
theorem dX12_isOnOut_33 : decode cX12_isOnOut 33 = .ok (.astore_n 3, 1) := dk_78 (dk_at dksX12_isOnOut_1 9 rfl rfl)
theorem dX12_isOnOut_34 : decode cX12_isOnOut 34 = .ok (.iload_n 1, 1) := dk_27 (dk_at dksX12_isOnOut_1 10 rfl rfl)
theorem dX12_isOnOut_35 : decode cX12_isOnOut 35 = .ok (.aload_n 3, 1) := dk_45 (dk_at dksX12_isOnOut_1 11 rfl rfl)
theorem dX12_isOnOut_36 : decode cX12_isOnOut 36 = .ok (.aload_n 0, 1) := dk_42 (dk_at dksX12_isOnOut_1 12 rfl rfl)
theorem dX12_isOnOut_37 : decode cX12_isOnOut 37 = .ok (.getfield 3, 3) := dk_180 0 3 (dk_at dksX12_isOnOut_1 13 rfl rfl)
theorem dX12_isOnOut_40 : decode cX12_isOnOut 40 = .ok (.getfield 83, 3) := dk_180 0 83 (dk_at dksX12_isOnOut_1 16 rfl rfl)
theorem dX12_isOnOut_43 : decode cX12_isOnOut 43 = .ok (.invokevirtual 86, 3) := dk_182 0 86 (dk_at dksX12_isOnOut_1 19 rfl rfl)
theorem dX12_isOnOut_46 : decode cX12_isOnOut 46 = .ok (.ifCond .eq 19, 3) := dk_153 0 19 (dk_at dksX12_isOnOut_2 0 rfl rfl)
theorem dX12_isOnOut_49 : decode cX12_isOnOut 49 = .ok (.aload_n 0, 1) := dk_42 (dk_at dksX12_isOnOut_2 3 rfl rfl)
theorem dX12_isOnOut_50 : decode cX12_isOnOut 50 = .ok (.getfield 46, 3) := dk_180 0 46 (dk_at dksX12_isOnOut_2 4 rfl rfl)
theorem dX12_isOnOut_53 : decode cX12_isOnOut 53 = .ok (.aload_n 3, 1) := dk_45 (dk_at dksX12_isOnOut_2 7 rfl rfl)
theorem dX12_isOnOut_54 : decode cX12_isOnOut 54 = .ok (.getfield 80, 3) := dk_180 0 80 (dk_at dksX12_isOnOut_2 8 rfl rfl)
theorem dX12_isOnOut_57 : decode cX12_isOnOut 57 = .ok (.iand, 1) := dk_126 (dk_at dksX12_isOnOut_2 11 rfl rfl)
theorem dX12_isOnOut_58 : decode cX12_isOnOut 58 = .ok (.ifCond .eq 7, 3) := dk_153 0 7 (dk_at dksX12_isOnOut_2 12 rfl rfl)
theorem dX12_isOnOut_61 : decode cX12_isOnOut 61 = .ok (.iconst 1, 1) := dk_4 (dk_at dksX12_isOnOut_2 15 rfl rfl)
theorem dX12_isOnOut_62 : decode cX12_isOnOut 62 = .ok (.goto 4, 3) := dk_167 0 4 (dk_at dksX12_isOnOut_2 16 rfl rfl)
theorem dX12_isOnOut_65 : decode cX12_isOnOut 65 = .ok (.iconst 0, 1) := dk_3 (dk_at dksX12_isOnOut_2 19 rfl rfl)
theorem dX12_isOnOut_66 : decode cX12_isOnOut 66 = .ok (.ior, 1) := dk_128 (dk_at dksX12_isOnOut_2 20 rfl rfl)
theorem dX12_isOnOut_67 : decode cX12_isOnOut 67 = .ok (.istore_n 1, 1) := dk_60 (dk_at dksX12_isOnOut_2 21 rfl rfl)
theorem dX12_isOnOut_68 : decode cX12_isOnOut 68 = .ok (.goto (-53), 3) := dk_167 255 203 (dk_at dksX12_isOnOut_3 0 rfl rfl)
theorem dX12_isOnOut_71 : decode cX12_isOnOut 71 = .ok (.iload_n 1, 1) := dk_27 (dk_at dksX12_isOnOut_3 3 rfl rfl)
theorem dX12_isOnOut_72 : decode cX12_isOnOut 72 = .ok (.ireturn, 1) := dk_172 (dk_at dksX12_isOnOut_3 4 rfl rfl)
abbrev cX12_start : ByteArray := prog_3_method_7_code
def yX12_start : MethodName := ⟨RX12, "start", "()V"⟩
def dkwX12_start_3 : List UInt8 := [180, 0, 3, 89, 180, 0, 133, 10, 97, 181, 0, 133, 177]
abbrev dktX12_start_3 : List UInt8 := dkwX12_start_3 ++ []
def dkwX12_start_2 : List UInt8 := [181, 0, 46, 42, 42, 180, 0, 3, 180, 0, 83, 181, 0, 130, 42, 178, 0, 39, 181, 0, 21, 42]
abbrev dktX12_start_2 : List UInt8 := dkwX12_start_2 ++ dktX12_start_3
def dkwX12_start_1 : List UInt8 := [180, 0, 118, 42, 180, 0, 122, 42, 180, 0, 35, 182, 0, 126, 42, 42, 180, 0, 31, 182, 0, 49]
abbrev dktX12_start_1 : List UInt8 := dkwX12_start_1 ++ dktX12_start_2
def dkwX12_start_0 : List UInt8 := [42, 42, 180, 0, 3, 180, 0, 118, 42, 180, 0, 35, 182, 0, 108, 181, 0, 122, 42, 180, 0, 3]
abbrev dktX12_start_0 : List UInt8 := dkwX12_start_0 ++ dktX12_start_1
theorem dksX12_start_0 : cX12_start.data.toList.drop 0 = dktX12_start_0 := by decide +kernel
theorem dksX12_start_1 : cX12_start.data.toList.drop 22 = dktX12_start_1 := dk_seg dksX12_start_0 22 rfl rfl
theorem dksX12_start_2 : cX12_start.data.toList.drop 44 = dktX12_start_2 := dk_seg dksX12_start_1 22 rfl rfl
theorem dksX12_start_3 : cX12_start.data.toList.drop 66 = dktX12_start_3 := dk_seg dksX12_start_2 22 rfl rfl
theorem dX12_start_0 : decode cX12_start 0 = .ok (.aload_n 0, 1) := dk_42 (dk_at dksX12_start_0 0 rfl rfl)
theorem dX12_start_1 : decode cX12_start 1 = .ok (.aload_n 0, 1) := dk_42 (dk_at dksX12_start_0 1 rfl rfl)
theorem dX12_start_2 : decode cX12_start 2 = .ok (.getfield 3, 3) := dk_180 0 3 (dk_at dksX12_start_0 2 rfl rfl)
theorem dX12_start_5 : decode cX12_start 5 = .ok (.getfield 118, 3) := dk_180 0 118 (dk_at dksX12_start_0 5 rfl rfl)
theorem dX12_start_8 : decode cX12_start 8 = .ok (.aload_n 0, 1) := dk_42 (dk_at dksX12_start_0 8 rfl rfl)
theorem dX12_start_9 : decode cX12_start 9 = .ok (.getfield 35, 3) := dk_180 0 35 (dk_at dksX12_start_0 9 rfl rfl)
theorem dX12_start_12 : decode cX12_start 12 = .ok (.invokevirtual 108, 3) := dk_182 0 108 (dk_at dksX12_start_0 12 rfl rfl)
theorem dX12_start_15 : decode cX12_start 15 = .ok (.putfield 122, 3) := dk_181 0 122 (dk_at dksX12_start_0 15 rfl rfl)
theorem dX12_start_18 : decode cX12_start 18 = .ok (.aload_n 0, 1) := dk_42 (dk_at dksX12_start_0 18 rfl rfl)
theorem dX12_start_19 : decode cX12_start 19 = .ok (.getfield 3, 3) := dk_180 0 3 (dk_at dksX12_start_0 19 rfl rfl)
theorem dX12_start_22 : decode cX12_start 22 = .ok (.getfield 118, 3) := dk_180 0 118 (dk_at dksX12_start_1 0 rfl rfl)
theorem dX12_start_25 : decode cX12_start 25 = .ok (.aload_n 0, 1) := dk_42 (dk_at dksX12_start_1 3 rfl rfl)
theorem dX12_start_26 : decode cX12_start 26 = .ok (.getfield 122, 3) := dk_180 0 122 (dk_at dksX12_start_1 4 rfl rfl)
theorem dX12_start_29 : decode cX12_start 29 = .ok (.aload_n 0, 1) := dk_42 (dk_at dksX12_start_1 7 rfl rfl)
theorem dX12_start_30 : decode cX12_start 30 = .ok (.getfield 35, 3) := dk_180 0 35 (dk_at dksX12_start_1 8 rfl rfl)
theorem dX12_start_33 : decode cX12_start 33 = .ok (.invokevirtual 126, 3) := dk_182 0 126 (dk_at dksX12_start_1 11 rfl rfl)
theorem dX12_start_36 : decode cX12_start 36 = .ok (.aload_n 0, 1) := dk_42 (dk_at dksX12_start_1 14 rfl rfl)
theorem dX12_start_37 : decode cX12_start 37 = .ok (.aload_n 0, 1) := dk_42 (dk_at dksX12_start_1 15 rfl rfl)
theorem dX12_start_38 : decode cX12_start 38 = .ok (.getfield 31, 3) := dk_180 0 31 (dk_at dksX12_start_1 16 rfl rfl)
theorem dX12_start_41 : decode cX12_start 41 = .ok (.invokevirtual 49, 3) := dk_182 0 49 (dk_at dksX12_start_1 19 rfl rfl)
theorem dX12_start_44 : decode cX12_start 44 = .ok (.putfield 46, 3) := dk_181 0 46 (dk_at dksX12_start_2 0 rfl rfl)
theorem dX12_start_47 : decode cX12_start 47 = .ok (.aload_n 0, 1) := dk_42 (dk_at dksX12_start_2 3 rfl rfl)
theorem dX12_start_48 : decode cX12_start 48 = .ok (.aload_n 0, 1) := dk_42 (dk_at dksX12_start_2 4 rfl rfl)
theorem dX12_start_49 : decode cX12_start 49 = .ok (.getfield 3, 3) := dk_180 0 3 (dk_at dksX12_start_2 5 rfl rfl)
theorem dX12_start_52 : decode cX12_start 52 = .ok (.getfield 83, 3) := dk_180 0 83 (dk_at dksX12_start_2 8 rfl rfl)
theorem dX12_start_55 : decode cX12_start 55 = .ok (.putfield 130, 3) := dk_181 0 130 (dk_at dksX12_start_2 11 rfl rfl)
theorem dX12_start_58 : decode cX12_start 58 = .ok (.aload_n 0, 1) := dk_42 (dk_at dksX12_start_2 14 rfl rfl)
theorem dX12_start_59 : decode cX12_start 59 = .ok (.getstatic 39, 3) := dk_178 0 39 (dk_at dksX12_start_2 15 rfl rfl)
theorem dX12_start_62 : decode cX12_start 62 = .ok (.putfield 21, 3) := dk_181 0 21 (dk_at dksX12_start_2 18 rfl rfl)
theorem dX12_start_65 : decode cX12_start 65 = .ok (.aload_n 0, 1) := dk_42 (dk_at dksX12_start_2 21 rfl rfl)
theorem dX12_start_66 : decode cX12_start 66 = .ok (.getfield 3, 3) := dk_180 0 3 (dk_at dksX12_start_3 0 rfl rfl)
theorem dX12_start_69 : decode cX12_start 69 = .ok (.dup, 1) := dk_89 (dk_at dksX12_start_3 3 rfl rfl)
theorem dX12_start_70 : decode cX12_start 70 = .ok (.getfield 133, 3) := dk_180 0 133 (dk_at dksX12_start_3 4 rfl rfl)
theorem dX12_start_73 : decode cX12_start 73 = .ok (.lconst 1, 1) := dk_10 (dk_at dksX12_start_3 7 rfl rfl)
theorem dX12_start_74 : decode cX12_start 74 = .ok (.ladd, 1) := dk_97 (dk_at dksX12_start_3 8 rfl rfl)
theorem dX12_start_75 : decode cX12_start 75 = .ok (.putfield 133, 3) := dk_181 0 133 (dk_at dksX12_start_3 9 rfl rfl)
theorem dX12_start_78 : decode cX12_start 78 = .ok (.return_, 1) := dk_177 (dk_at dksX12_start_3 12 rfl rfl)
abbrev cX12_toString : ByteArray := prog_3_method_10_code
def yX12_toString : MethodName := ⟨RX12, "toString", "()Ljava/lang/String;"⟩
def dkwX12_toString_1 : List UInt8 := [18, 173, 167, 0, 5, 18, 175, 182, 0, 177, 182, 0, 180, 176]
abbrev dktX12_toString_1 : List UInt8 := dkwX12_toString_1 ++ []
def dkwX12_toString_0 : List UInt8 := [187, 0, 163, 89, 183, 0, 165, 76, 43, 42, 180, 0, 24, 182, 0, 166, 42, 182, 0, 170, 153, 0, 8]
abbrev dktX12_toString_0 : List UInt8 := dkwX12_toString_0 ++ dktX12_toString_1
theorem dksX12_toString_0 : cX12_toString.data.toList.drop 0 = dktX12_toString_0 := by decide +kernel
theorem dksX12_toString_1 : cX12_toString.data.toList.drop 23 = dktX12_toString_1 := dk_seg dksX12_toString_0 23 rfl rfl
theorem dX12_toString_0 : decode cX12_toString 0 = .ok (.new 163, 3) := dk_187 0 163 (dk_at dksX12_toString_0 0 rfl rfl)
theorem dX12_toString_3 : decode cX12_toString 3 = .ok (.dup, 1) := dk_89 (dk_at dksX12_toString_0 3 rfl rfl)
theorem dX12_toString_4 : decode cX12_toString 4 = .ok (.invokespecial 165, 3) := dk_183 0 165 (dk_at dksX12_toString_0 4 rfl rfl)
theorem dX12_toString_7 : decode cX12_toString 7 = .ok (.astore_n 1, 1) := dk_76 (dk_at dksX12_toString_0 7 rfl rfl)
theorem dX12_toString_8 : decode cX12_toString 8 = .ok (.aload_n 1, 1) := dk_43 (dk_at dksX12_toString_0 8 rfl rfl)
theorem dX12_toString_9 : decode cX12_toString 9 = .ok (.aload_n 0, 1) := dk_42 (dk_at dksX12_toString_0 9 rfl rfl)
theorem dX12_toString_10 : decode cX12_toString 10 = .ok (.getfield 24, 3) := dk_180 0 24 (dk_at dksX12_toString_0 10 rfl rfl)
theorem dX12_toString_13 : decode cX12_toString 13 = .ok (.invokevirtual 166, 3) := dk_182 0 166 (dk_at dksX12_toString_0 13 rfl rfl)
theorem dX12_toString_16 : decode cX12_toString 16 = .ok (.aload_n 0, 1) := dk_42 (dk_at dksX12_toString_0 16 rfl rfl)
theorem dX12_toString_17 : decode cX12_toString 17 = .ok (.invokevirtual 170, 3) := dk_182 0 170 (dk_at dksX12_toString_0 17 rfl rfl)
theorem dX12_toString_20 : decode cX12_toString 20 = .ok (.ifCond .eq 8, 3) := dk_153 0 8 (dk_at dksX12_toString_0 20 rfl rfl)
theorem dX12_toString_23 : decode cX12_toString 23 = .ok (.ldc 173, 2) := dk_18 173 (dk_at dksX12_toString_1 0 rfl rfl)
theorem dX12_toString_25 : decode cX12_toString 25 = .ok (.goto 5, 3) := dk_167 0 5 (dk_at dksX12_toString_1 2 rfl rfl)
theorem dX12_toString_28 : decode cX12_toString 28 = .ok (.ldc 175, 2) := dk_18 175 (dk_at dksX12_toString_1 5 rfl rfl)
theorem dX12_toString_30 : decode cX12_toString 30 = .ok (.invokevirtual 177, 3) := dk_182 0 177 (dk_at dksX12_toString_1 7 rfl rfl)
theorem dX12_toString_33 : decode cX12_toString 33 = .ok (.invokevirtual 180, 3) := dk_182 0 180 (dk_at dksX12_toString_1 10 rfl rfl)
theorem dX12_toString_36 : decode cX12_toString 36 = .ok (.areturn, 1) := dk_176 (dk_at dksX12_toString_1 13 rfl rfl)
theorem q67 : (Jvm.Cond.initialized "CrateYard$Container") ∈ lw_all := lw_g (lw_at lw_m1 34 rfl) rfl
theorem q133 : (Jvm.Cond.fieldLinkNest "CrateYard$Container" (54 : Nat) "CrateYard" "allLayers" "Ljava/util/List;" "CrateYard") ∈ lw_tbl := lw_at lw_m1 100 rfl
theorem q138 : (Jvm.Cond.fieldLinkNest "CrateYard$Container" (118 : Nat) "CrateYard" "park" "LCrateYard$Park;" "CrateYard") ∈ lw_tbl := lw_at lw_m1 105 rfl
theorem q140 : (Jvm.Cond.fieldLinkNest "CrateYard$Container" (83 : Nat) "CrateYard" "hour" "I" "CrateYard") ∈ lw_tbl := lw_at lw_m1 107 rfl
theorem q142 : (Jvm.Cond.fieldLinkNest "CrateYard$Container" (133 : Nat) "CrateYard" "starts" "J" "CrateYard") ∈ lw_tbl := lw_at lw_m1 109 rfl
theorem q373 : (Jvm.Cond.selects "CrateYard$Container" ({ cls := "java/lang/Object", name := "getClass", desc := "()Ljava/lang/Class;" } : Jvm.MethodName) ({ cls := "java/lang/Object", name := "getClass", desc := "()Ljava/lang/Class;" } : Jvm.MethodName)) ∈ lw_all := lw_g (lw_at lw_m2 100 rfl) rfl
theorem q420 : (Jvm.Cond.instanceMethod ({ cls := "CrateYard$Container", name := "is", desc := "(LState;)Z" } : Jvm.MethodName)) ∈ lw_all := lw_g (lw_at lw_m2 147 rfl) rfl
theorem q421 : (Jvm.Cond.selects "CrateYard$Container" ({ cls := "CrateYard$Container", name := "is", desc := "(LState;)Z" } : Jvm.MethodName) ({ cls := "CrateYard$Container", name := "is", desc := "(LState;)Z" } : Jvm.MethodName)) ∈ lw_all := lw_g (lw_at lw_m2 148 rfl) rfl
theorem q422 : (Jvm.Cond.code ({ cls := "CrateYard$Container", name := "is", desc := "(LState;)Z" } : Jvm.MethodName) prog_3_method_2_code (2 : Nat) (Option.some Jvm.ClassFile.FieldType.boolean)) ∈ lw_all := lw_g (lw_at lw_m2 149 rfl) rfl
theorem q426 : (Jvm.Cond.instanceMethod ({ cls := "CrateYard$Container", name := "bar", desc := "(LCrateYard$Park;)LBar;" } : Jvm.MethodName)) ∈ lw_all := lw_g (lw_at lw_m2 153 rfl) rfl
theorem q427 : (Jvm.Cond.selects "CrateYard$Container" ({ cls := "CrateYard$Container", name := "bar", desc := "(LCrateYard$Park;)LBar;" } : Jvm.MethodName) ({ cls := "CrateYard$Container", name := "bar", desc := "(LCrateYard$Park;)LBar;" } : Jvm.MethodName)) ∈ lw_all := lw_g (lw_at lw_m2 154 rfl) rfl
theorem q428 : (Jvm.Cond.code ({ cls := "CrateYard$Container", name := "bar", desc := "(LCrateYard$Park;)LBar;" } : Jvm.MethodName) prog_3_method_6_code (2 : Nat) (Option.some (Jvm.ClassFile.FieldType.object "Bar"))) ∈ lw_all := lw_g (lw_at lw_m2 155 rfl) rfl
theorem q429 : (Jvm.Cond.methodLink "CrateYard$Container" (90 : Nat) ({ cls := "CrateYard$Container", name := "isOnWithdrawn", desc := "()Z" } : Jvm.MethodName)) ∈ lw_all := lw_g (lw_at lw_m2 156 rfl) rfl
theorem q430 : (Jvm.Cond.privateMethod ({ cls := "CrateYard$Container", name := "isOnWithdrawn", desc := "()Z" } : Jvm.MethodName)) ∈ lw_tbl := lw_at lw_m2 157 rfl
theorem q431 : (Jvm.Cond.instanceMethod ({ cls := "CrateYard$Container", name := "isOnWithdrawn", desc := "()Z" } : Jvm.MethodName)) ∈ lw_all := lw_g (lw_at lw_m2 158 rfl) rfl
theorem q432 : (Jvm.Cond.instantiable "CrateYard$Container" (11 : Nat)) ∈ lw_all := lw_g (lw_at lw_m2 159 rfl) rfl
theorem q433 : (Jvm.Cond.code ({ cls := "CrateYard$Container", name := "isOnWithdrawn", desc := "()Z" } : Jvm.MethodName) prog_3_method_4_code (4 : Nat) (Option.some Jvm.ClassFile.FieldType.boolean)) ∈ lw_all := lw_g (lw_at lw_m2 160 rfl) rfl
theorem q434 : (Jvm.Cond.interfaceEntry "CrateYard$Container" (58 : Nat)) ∈ lw_tbl := lw_at lw_m2 161 rfl
theorem q435 : (Jvm.Cond.methodLink "CrateYard$Container" (58 : Nat) ({ cls := "java/util/List", name := "iterator", desc := "()Ljava/util/Iterator;" } : Jvm.MethodName)) ∈ lw_all := lw_g (lw_at lw_m2 162 rfl) rfl
theorem q436 : (Jvm.Cond.interfaceEntry "CrateYard$Container" (64 : Nat)) ∈ lw_tbl := lw_at lw_m2 163 rfl
theorem q437 : (Jvm.Cond.methodLink "CrateYard$Container" (64 : Nat) ({ cls := "java/util/Iterator", name := "hasNext", desc := "()Z" } : Jvm.MethodName)) ∈ lw_all := lw_g (lw_at lw_m2 164 rfl) rfl
theorem q438 : (Jvm.Cond.interfaceEntry "CrateYard$Container" (70 : Nat)) ∈ lw_tbl := lw_at lw_m2 165 rfl
theorem q439 : (Jvm.Cond.methodLink "CrateYard$Container" (70 : Nat) ({ cls := "java/util/Iterator", name := "next", desc := "()Ljava/lang/Object;" } : Jvm.MethodName)) ∈ lw_all := lw_g (lw_at lw_m2 166 rfl) rfl
theorem q440 : (Jvm.Cond.classLink "CrateYard$Container" (74 : Nat) "CrateYard$Layer") ∈ lw_all := lw_g (lw_at lw_m2 167 rfl) rfl
theorem q441 : (Jvm.Cond.methodLink "CrateYard$Container" (49 : Nat) ({ cls := "CrateYard$Image", name := "layers", desc := "()I" } : Jvm.MethodName)) ∈ lw_all := lw_g (lw_at lw_m2 168 rfl) rfl
theorem q450 : (Jvm.Cond.fieldLink "CrateYard$Container" (93 : Nat) "Bar" "WITHDRAWN" "LBar;") ∈ lw_all := lw_g (lw_at lw_m2 177 rfl) rfl
theorem q452 : (Jvm.Cond.methodLink "CrateYard$Container" (99 : Nat) ({ cls := "CrateYard$Park", name := "isLicensed", desc := "(LNeed;)Z" } : Jvm.MethodName)) ∈ lw_all := lw_g (lw_at lw_m2 179 rfl) rfl
theorem q457 : (Jvm.Cond.fieldLink "CrateYard$Container" (105 : Nat) "Bar" "LICENCE" "LBar;") ∈ lw_all := lw_g (lw_at lw_m2 184 rfl) rfl
theorem q459 : (Jvm.Cond.methodLink "CrateYard$Container" (108 : Nat) ({ cls := "CrateYard$Park", name := "best", desc := "(LNeed;)LCrateYard$Host;" } : Jvm.MethodName)) ∈ lw_all := lw_g (lw_at lw_m2 186 rfl) rfl
theorem q469 : (Jvm.Cond.fieldLink "CrateYard$Container" (112 : Nat) "Bar" "ROOM" "LBar;") ∈ lw_all := lw_g (lw_at lw_m2 196 rfl) rfl
theorem q471 : (Jvm.Cond.fieldLink "CrateYard$Container" (115 : Nat) "Bar" "NONE" "LBar;") ∈ lw_all := lw_g (lw_at lw_m2 198 rfl) rfl
theorem q554 : (Jvm.Cond.fieldLinkNest "CrateYard$Container" (80 : Nat) "CrateYard$Layer" "bit" "I" "CrateYard") ∈ lw_tbl := lw_at lw_m3 41 rfl
theorem q557 : (Jvm.Cond.fieldLinkNest "CrateYard$Container" (76 : Nat) "CrateYard$Layer" "isWithdrawn" "Z" "CrateYard") ∈ lw_tbl := lw_at lw_m3 44 rfl
theorem q723 : (Jvm.Cond.instanceMethod ({ cls := "CrateYard$Container", name := "isStale", desc := "()Z" } : Jvm.MethodName)) ∈ lw_all := lw_g (lw_at lw_m3 210 rfl) rfl
theorem q724 : (Jvm.Cond.selects "CrateYard$Container" ({ cls := "CrateYard$Container", name := "isStale", desc := "()Z" } : Jvm.MethodName) ({ cls := "CrateYard$Container", name := "isStale", desc := "()Z" } : Jvm.MethodName)) ∈ lw_all := lw_g (lw_at lw_m3 211 rfl) rfl
theorem q725 : (Jvm.Cond.code ({ cls := "CrateYard$Container", name := "isStale", desc := "()Z" } : Jvm.MethodName) prog_3_method_3_code (1 : Nat) (Option.some Jvm.ClassFile.FieldType.boolean)) ∈ lw_all := lw_g (lw_at lw_m3 212 rfl) rfl
theorem q726 : (Jvm.Cond.fieldLink "CrateYard$Container" (39 : Nat) "State" "RUNNING" "LState;") ∈ lw_all := lw_g (lw_at lw_m3 213 rfl) rfl
theorem q727 : (Jvm.Cond.methodLink "CrateYard$Container" (42 : Nat) ({ cls := "CrateYard$Container", name := "is", desc := "(LState;)Z" } : Jvm.MethodName)) ∈ lw_all := lw_g (lw_at lw_m3 214 rfl) rfl
theorem q804 : (Jvm.Cond.instanceMethod ({ cls := "CrateYard$Container", name := "become", desc := "(LState;)V" } : Jvm.MethodName)) ∈ lw_all := lw_g (lw_at lw_m4 51 rfl) rfl
theorem q805 : (Jvm.Cond.selects "CrateYard$Container" ({ cls := "CrateYard$Container", name := "become", desc := "(LState;)V" } : Jvm.MethodName) ({ cls := "CrateYard$Container", name := "become", desc := "(LState;)V" } : Jvm.MethodName)) ∈ lw_all := lw_g (lw_at lw_m4 52 rfl) rfl
theorem q806 : (Jvm.Cond.code ({ cls := "CrateYard$Container", name := "become", desc := "(LState;)V" } : Jvm.MethodName) prog_3_method_8_code (2 : Nat) (Option.none : Option Jvm.ClassFile.FieldType)) ∈ lw_all := lw_g (lw_at lw_m4 53 rfl) rfl
theorem q807 : (Jvm.Cond.methodLink "CrateYard$Container" (137 : Nat) ({ cls := "CrateYard$Park", name := "give", desc := "(LCrateYard$Host;LNeed;)V" } : Jvm.MethodName)) ∈ lw_all := lw_g (lw_at lw_m4 54 rfl) rfl
theorem q825 : (Jvm.Cond.instanceMethod ({ cls := "CrateYard$Container", name := "<init>", desc := "(LCrateYard;IILCrateYard$Image;LNeed;)V" } : Jvm.MethodName)) ∈ lw_all := lw_g (lw_at lw_m4 72 rfl) rfl
theorem q826 : (Jvm.Cond.code ({ cls := "CrateYard$Container", name := "<init>", desc := "(LCrateYard;IILCrateYard$Image;LNeed;)V" } : Jvm.MethodName) prog_3_method_1_code (6 : Nat) (Option.none : Option Jvm.ClassFile.FieldType)) ∈ lw_all := lw_g (lw_at lw_m4 73 rfl) rfl
theorem q827 : (Jvm.Cond.methodLink "CrateYard$Container" (9 : Nat) ({ cls := "java/lang/Object", name := "<init>", desc := "()V" } : Jvm.MethodName)) ∈ lw_all := lw_g (lw_at lw_m4 74 rfl) rfl
theorem q828 : (Jvm.Cond.fieldLink "CrateYard$Container" (15 : Nat) "State" "WAITING" "LState;") ∈ lw_all := lw_g (lw_at lw_m4 75 rfl) rfl
theorem q829 : (Jvm.Cond.fieldLink "CrateYard$Container" (24 : Nat) "CrateYard$Container" "number" "I") ∈ lw_all := lw_g (lw_at lw_m4 76 rfl) rfl
theorem q830 : (Jvm.Cond.fieldLink "CrateYard$Container" (28 : Nat) "CrateYard$Container" "tenant" "I") ∈ lw_all := lw_g (lw_at lw_m4 77 rfl) rfl
theorem q832 : (Jvm.Cond.fieldLink "CrateYard$Container" (31 : Nat) "CrateYard$Container" "image" "LCrateYard$Image;") ∈ lw_all := lw_g (lw_at lw_m4 79 rfl) rfl
theorem q833 : (Jvm.Cond.fieldLink "CrateYard$Container" (35 : Nat) "CrateYard$Container" "need" "LNeed;") ∈ lw_all := lw_g (lw_at lw_m4 80 rfl) rfl
theorem q835 : (Jvm.Cond.fieldLink "CrateYard$Container" (21 : Nat) "CrateYard$Container" "state" "LState;") ∈ lw_all := lw_g (lw_at lw_m4 82 rfl) rfl
theorem q837 : (Jvm.Cond.fieldLink "CrateYard$Container" (122 : Nat) "CrateYard$Container" "host" "LCrateYard$Host;") ∈ lw_all := lw_g (lw_at lw_m4 84 rfl) rfl
theorem q839 : (Jvm.Cond.fieldLink "CrateYard$Container" (46 : Nat) "CrateYard$Container" "layers" "I") ∈ lw_all := lw_g (lw_at lw_m4 86 rfl) rfl
theorem q841 : (Jvm.Cond.fieldLink "CrateYard$Container" (130 : Nat) "CrateYard$Container" "startedAt" "I") ∈ lw_all := lw_g (lw_at lw_m4 88 rfl) rfl
theorem q842 : (Jvm.Cond.fieldLink "CrateYard$Container" (140 : Nat) "CrateYard$Container" "failures" "I") ∈ lw_all := lw_g (lw_at lw_m4 89 rfl) rfl
theorem q843 : (Jvm.Cond.fieldLink "CrateYard$Container" (160 : Nat) "CrateYard$Container" "until" "I") ∈ lw_all := lw_g (lw_at lw_m4 90 rfl) rfl
theorem q845 : (Jvm.Cond.fieldLink "CrateYard$Container" (3 : Nat) "CrateYard$Container" "this$0" "LCrateYard;") ∈ lw_all := lw_g (lw_at lw_m4 92 rfl) rfl
theorem q846 : (Jvm.Cond.laysFinal "CrateYard$Container" "CrateYard$Container" "number" "I") ∈ lw_all := lw_g (lw_at lw_m4 93 rfl) rfl
theorem q847 : (Jvm.Cond.soleField "CrateYard$Container" "number") ∈ lw_all := lw_g (lw_at lw_m4 94 rfl) rfl
theorem q848 : (Jvm.Cond.laysFinal "CrateYard$Container" "CrateYard$Container" "tenant" "I") ∈ lw_all := lw_g (lw_at lw_m4 95 rfl) rfl
theorem q849 : (Jvm.Cond.soleField "CrateYard$Container" "tenant") ∈ lw_all := lw_g (lw_at lw_m4 96 rfl) rfl
theorem q850 : (Jvm.Cond.laysFinal "CrateYard$Container" "CrateYard$Container" "image" "LCrateYard$Image;") ∈ lw_all := lw_g (lw_at lw_m4 97 rfl) rfl
theorem q851 : (Jvm.Cond.soleField "CrateYard$Container" "image") ∈ lw_all := lw_g (lw_at lw_m4 98 rfl) rfl
theorem q852 : (Jvm.Cond.laysFinal "CrateYard$Container" "CrateYard$Container" "need" "LNeed;") ∈ lw_all := lw_g (lw_at lw_m4 99 rfl) rfl
theorem q853 : (Jvm.Cond.soleField "CrateYard$Container" "need") ∈ lw_all := lw_g (lw_at lw_m4 100 rfl) rfl
theorem q854 : (Jvm.Cond.lays "CrateYard$Container" "CrateYard$Container" "state" "LState;") ∈ lw_all := lw_g (lw_at lw_m4 101 rfl) rfl
theorem q855 : (Jvm.Cond.soleField "CrateYard$Container" "state") ∈ lw_all := lw_g (lw_at lw_m4 102 rfl) rfl
theorem q856 : (Jvm.Cond.lays "CrateYard$Container" "CrateYard$Container" "host" "LCrateYard$Host;") ∈ lw_all := lw_g (lw_at lw_m4 103 rfl) rfl
theorem q857 : (Jvm.Cond.soleField "CrateYard$Container" "host") ∈ lw_all := lw_g (lw_at lw_m4 104 rfl) rfl
theorem q858 : (Jvm.Cond.lays "CrateYard$Container" "CrateYard$Container" "layers" "I") ∈ lw_all := lw_g (lw_at lw_m4 105 rfl) rfl
theorem q859 : (Jvm.Cond.soleField "CrateYard$Container" "layers") ∈ lw_all := lw_g (lw_at lw_m4 106 rfl) rfl
theorem q860 : (Jvm.Cond.lays "CrateYard$Container" "CrateYard$Container" "startedAt" "I") ∈ lw_all := lw_g (lw_at lw_m4 107 rfl) rfl
theorem q861 : (Jvm.Cond.soleField "CrateYard$Container" "startedAt") ∈ lw_all := lw_g (lw_at lw_m4 108 rfl) rfl
theorem q862 : (Jvm.Cond.lays "CrateYard$Container" "CrateYard$Container" "failures" "I") ∈ lw_all := lw_g (lw_at lw_m4 109 rfl) rfl
theorem q863 : (Jvm.Cond.soleField "CrateYard$Container" "failures") ∈ lw_all := lw_g (lw_at lw_m4 110 rfl) rfl
theorem q864 : (Jvm.Cond.lays "CrateYard$Container" "CrateYard$Container" "until" "I") ∈ lw_all := lw_g (lw_at lw_m4 111 rfl) rfl
theorem q865 : (Jvm.Cond.soleField "CrateYard$Container" "until") ∈ lw_all := lw_g (lw_at lw_m4 112 rfl) rfl
theorem q866 : (Jvm.Cond.laysFinal "CrateYard$Container" "CrateYard$Container" "this$0" "LCrateYard;") ∈ lw_all := lw_g (lw_at lw_m4 113 rfl) rfl
theorem q867 : (Jvm.Cond.soleField "CrateYard$Container" "this$0") ∈ lw_all := lw_g (lw_at lw_m4 114 rfl) rfl
theorem q868 : (Jvm.Cond.superclass "CrateYard$Container" "java/lang/Object") ∈ lw_all := lw_g (lw_at lw_m4 115 rfl) rfl
theorem q890 : (Jvm.Cond.instanceMethod ({ cls := "CrateYard$Container", name := "fail", desc := "()I" } : Jvm.MethodName)) ∈ lw_all := lw_g (lw_at lw_m4 137 rfl) rfl
theorem q891 : (Jvm.Cond.selects "CrateYard$Container" ({ cls := "CrateYard$Container", name := "fail", desc := "()I" } : Jvm.MethodName) ({ cls := "CrateYard$Container", name := "fail", desc := "()I" } : Jvm.MethodName)) ∈ lw_all := lw_g (lw_at lw_m4 138 rfl) rfl
theorem q892 : (Jvm.Cond.code ({ cls := "CrateYard$Container", name := "fail", desc := "()I" } : Jvm.MethodName) prog_3_method_9_code (2 : Nat) (Option.some Jvm.ClassFile.FieldType.int)) ∈ lw_all := lw_g (lw_at lw_m4 139 rfl) rfl
theorem q893 : (Jvm.Cond.fieldLink "CrateYard$Container" (143 : Nat) "State" "RESTING" "LState;") ∈ lw_all := lw_g (lw_at lw_m4 140 rfl) rfl
theorem q895 : (Jvm.Cond.methodLink "CrateYard$Container" (146 : Nat) ({ cls := "CrateYard$Container", name := "become", desc := "(LState;)V" } : Jvm.MethodName)) ∈ lw_all := lw_g (lw_at lw_m4 142 rfl) rfl
theorem q896 : (Jvm.Cond.fieldLinkNest "CrateYard$Container" (150 : Nat) "CrateYard" "RESTS" "[I" "CrateYard") ∈ lw_tbl := lw_at lw_m4 143 rfl
theorem q898 : (Jvm.Cond.methodLink "CrateYard$Container" (154 : Nat) ({ cls := "java/lang/Math", name := "min", desc := "(II)I" } : Jvm.MethodName)) ∈ lw_all := lw_g (lw_at lw_m4 145 rfl) rfl
theorem q916 : (Jvm.Cond.instanceMethod ({ cls := "CrateYard$Container", name := "isOnOut", desc := "()Z" } : Jvm.MethodName)) ∈ lw_all := lw_g (lw_at lw_m4 163 rfl) rfl
theorem q917 : (Jvm.Cond.selects "CrateYard$Container" ({ cls := "CrateYard$Container", name := "isOnOut", desc := "()Z" } : Jvm.MethodName) ({ cls := "CrateYard$Container", name := "isOnOut", desc := "()Z" } : Jvm.MethodName)) ∈ lw_all := lw_g (lw_at lw_m4 164 rfl) rfl
theorem q918 : (Jvm.Cond.code ({ cls := "CrateYard$Container", name := "isOnOut", desc := "()Z" } : Jvm.MethodName) prog_3_method_5_code (4 : Nat) (Option.some Jvm.ClassFile.FieldType.boolean)) ∈ lw_all := lw_g (lw_at lw_m4 165 rfl) rfl
theorem q919 : (Jvm.Cond.methodLink "CrateYard$Container" (86 : Nat) ({ cls := "CrateYard$Layer", name := "isOut", desc := "(I)Z" } : Jvm.MethodName)) ∈ lw_all := lw_g (lw_at lw_m4 166 rfl) rfl
theorem q934 : (Jvm.Cond.instanceMethod ({ cls := "CrateYard$Container", name := "start", desc := "()V" } : Jvm.MethodName)) ∈ lw_all := lw_g (lw_at lw_m4 181 rfl) rfl
theorem q935 : (Jvm.Cond.selects "CrateYard$Container" ({ cls := "CrateYard$Container", name := "start", desc := "()V" } : Jvm.MethodName) ({ cls := "CrateYard$Container", name := "start", desc := "()V" } : Jvm.MethodName)) ∈ lw_all := lw_g (lw_at lw_m4 182 rfl) rfl
theorem q936 : (Jvm.Cond.code ({ cls := "CrateYard$Container", name := "start", desc := "()V" } : Jvm.MethodName) prog_3_method_7_code (1 : Nat) (Option.none : Option Jvm.ClassFile.FieldType)) ∈ lw_all := lw_g (lw_at lw_m4 183 rfl) rfl
theorem q937 : (Jvm.Cond.methodLink "CrateYard$Container" (126 : Nat) ({ cls := "CrateYard$Park", name := "take", desc := "(LCrateYard$Host;LNeed;)V" } : Jvm.MethodName)) ∈ lw_all := lw_g (lw_at lw_m4 184 rfl) rfl
theorem q1320 : (Jvm.Cond.instanceMethod ({ cls := "CrateYard$Container", name := "toString", desc := "()Ljava/lang/String;" } : Jvm.MethodName)) ∈ lw_all := lw_g (lw_at lw_m6 87 rfl) rfl
theorem q1321 : (Jvm.Cond.selects "CrateYard$Container" ({ cls := "CrateYard$Container", name := "toString", desc := "()Ljava/lang/String;" } : Jvm.MethodName) ({ cls := "CrateYard$Container", name := "toString", desc := "()Ljava/lang/String;" } : Jvm.MethodName)) ∈ lw_all := lw_g (lw_at lw_m6 88 rfl) rfl
theorem q1322 : (Jvm.Cond.code ({ cls := "CrateYard$Container", name := "toString", desc := "()Ljava/lang/String;" } : Jvm.MethodName) prog_3_method_10_code (2 : Nat) (Option.some (Jvm.ClassFile.FieldType.object "java/lang/String"))) ∈ lw_all := lw_g (lw_at lw_m6 89 rfl) rfl
theorem q1323 : (Jvm.Cond.classLink "CrateYard$Container" (163 : Nat) "java/lang/StringBuilder") ∈ lw_all := lw_g (lw_at lw_m6 90 rfl) rfl
theorem q1324 : (Jvm.Cond.methodLink "CrateYard$Container" (165 : Nat) ({ cls := "java/lang/StringBuilder", name := "<init>", desc := "()V" } : Jvm.MethodName)) ∈ lw_all := lw_g (lw_at lw_m6 91 rfl) rfl
theorem q1325 : (Jvm.Cond.methodLink "CrateYard$Container" (166 : Nat) ({ cls := "java/lang/StringBuilder", name := "append", desc := "(I)Ljava/lang/StringBuilder;" } : Jvm.MethodName)) ∈ lw_all := lw_g (lw_at lw_m6 92 rfl) rfl
theorem q1326 : (Jvm.Cond.methodLink "CrateYard$Container" (170 : Nat) ({ cls := "CrateYard$Container", name := "isStale", desc := "()Z" } : Jvm.MethodName)) ∈ lw_all := lw_g (lw_at lw_m6 93 rfl) rfl
theorem q1327 : (Jvm.Cond.stringRef "CrateYard$Container" (173 : Nat) "!") ∈ lw_tbl := lw_at lw_m6 94 rfl
theorem q1328 : (Jvm.Cond.stringRef "CrateYard$Container" (175 : Nat) "") ∈ lw_tbl := lw_at lw_m6 95 rfl
theorem q1329 : (Jvm.Cond.methodLink "CrateYard$Container" (177 : Nat) ({ cls := "java/lang/StringBuilder", name := "append", desc := "(Ljava/lang/String;)Ljava/lang/StringBuilder;" } : Jvm.MethodName)) ∈ lw_all := lw_g (lw_at lw_m6 96 rfl) rfl
theorem q1330 : (Jvm.Cond.methodLink "CrateYard$Container" (180 : Nat) ({ cls := "java/lang/StringBuilder", name := "toString", desc := "()Ljava/lang/String;" } : Jvm.MethodName)) ∈ lw_all := lw_g (lw_at lw_m6 97 rfl) rfl
theorem q1783 : (Jvm.Cond.castable "CrateYard$Container" "java/lang/Object") ∈ lw_tbl := lw_at lw_m8 70 rfl
theorem in_X12 : ∀ w ∈ wsX120, w ∈ lw_all := lw_in wsX120 [846, 848, 850, 852, 854, 856, 858, 860, 862, 864, 866] (by decide +kernel) (by decide +kernel)

/-! CrateYard$Park -/
set_option maxRecDepth 100000
def RX2 : String := "CrateYard$Park"
def TX2 : u_T := fun k => match k with
  | 0 => ("CrateYard$Park", "hosts", "Ljava/util/List;", true)
  | 1 => ("CrateYard$Park", "licensed", "I", false)
  | _ => ("CrateYard$Park", "taken", "I", false)
def tyX2 : Nat → FieldType := fun k => match k with
  | 0 => .object "java/util/List"
  | 1 => .int
  | _ => .int
abbrev wsX20 : List Cond := u_ws RX2 TX2 3
theorem nmX2 : ∀ a, a < 3 → ∀ b, b < 3 → a ≠ b → (TX2 a).2.1 ≠ (TX2 b).2.1 := by decide +kernel
theorem tyX2_ok : ∀ k, k < 3 → parseFieldDescriptor (TX2 k).2.2.1 = some (tyX2 k) := by decide +kernel
abbrev cX2_init : ByteArray := prog_8_method_1_code
def yX2_init : MethodName := ⟨RX2, "<init>", "()V"⟩
def dkwX2_init_0 : List UInt8 := [42, 183, 0, 1, 42, 187, 0, 7, 89, 183, 0, 9, 181, 0, 10, 42, 16, 16, 181, 0, 16, 177]
abbrev dktX2_init_0 : List UInt8 := dkwX2_init_0 ++ []
theorem dksX2_init_0 : cX2_init.data.toList.drop 0 = dktX2_init_0 := by decide +kernel
theorem dX2_init_0 : decode cX2_init 0 = .ok (.aload_n 0, 1) := dk_42 (dk_at dksX2_init_0 0 rfl rfl)
theorem dX2_init_1 : decode cX2_init 1 = .ok (.invokespecial 1, 3) := dk_183 0 1 (dk_at dksX2_init_0 1 rfl rfl)
theorem dX2_init_4 : decode cX2_init 4 = .ok (.aload_n 0, 1) := dk_42 (dk_at dksX2_init_0 4 rfl rfl)
theorem dX2_init_5 : decode cX2_init 5 = .ok (.new 7, 3) := dk_187 0 7 (dk_at dksX2_init_0 5 rfl rfl)
theorem dX2_init_8 : decode cX2_init 8 = .ok (.dup, 1) := dk_89 (dk_at dksX2_init_0 8 rfl rfl)
theorem dX2_init_9 : decode cX2_init 9 = .ok (.invokespecial 9, 3) := dk_183 0 9 (dk_at dksX2_init_0 9 rfl rfl)
theorem dX2_init_12 : decode cX2_init 12 = .ok (.putfield 10, 3) := dk_181 0 10 (dk_at dksX2_init_0 12 rfl rfl)
theorem dX2_init_15 : decode cX2_init 15 = .ok (.aload_n 0, 1) := dk_42 (dk_at dksX2_init_0 15 rfl rfl)
theorem dX2_init_16 : decode cX2_init 16 = .ok (.bipush 16, 2) := dk_16 16 (dk_at dksX2_init_0 16 rfl rfl)
theorem dX2_init_18 : decode cX2_init 18 = .ok (.putfield 16, 3) := dk_181 0 16 (dk_at dksX2_init_0 18 rfl rfl)
theorem dX2_init_21 : decode cX2_init 21 = .ok (.return_, 1) := dk_177 (dk_at dksX2_init_0 21 rfl rfl)
abbrev cX2_init_2 : ByteArray := prog_8_method_2_code
def yX2_init_2 : MethodName := ⟨RX2, "<init>", "(LCrateYard$Park;)V"⟩
def dkwX2_init_2_2 : List UInt8 := [187, 0, 37, 89, 45, 183, 0, 39, 185, 0, 42, 2, 0, 87, 167, 255, 219, 177]
abbrev dktX2_init_2_2 : List UInt8 := dkwX2_init_2_2 ++ []
def dkwX2_init_2_1 : List UInt8 := [185, 0, 27, 1, 0, 153, 0, 34, 44, 185, 0, 33, 1, 0, 192, 0, 37, 78, 42, 180, 0, 10]
abbrev dktX2_init_2_1 : List UInt8 := dkwX2_init_2_1 ++ dktX2_init_2_2
def dkwX2_init_2_0 : List UInt8 := [42, 183, 0, 20, 42, 43, 180, 0, 16, 181, 0, 16, 43, 180, 0, 10, 185, 0, 21, 1, 0, 77, 44]
abbrev dktX2_init_2_0 : List UInt8 := dkwX2_init_2_0 ++ dktX2_init_2_1
theorem dksX2_init_2_0 : cX2_init_2.data.toList.drop 0 = dktX2_init_2_0 := by decide +kernel
theorem dksX2_init_2_1 : cX2_init_2.data.toList.drop 23 = dktX2_init_2_1 := dk_seg dksX2_init_2_0 23 rfl rfl
theorem dksX2_init_2_2 : cX2_init_2.data.toList.drop 45 = dktX2_init_2_2 := dk_seg dksX2_init_2_1 22 rfl rfl
theorem dX2_init_2_0 : decode cX2_init_2 0 = .ok (.aload_n 0, 1) := dk_42 (dk_at dksX2_init_2_0 0 rfl rfl)
theorem dX2_init_2_1 : decode cX2_init_2 1 = .ok (.invokespecial 20, 3) := dk_183 0 20 (dk_at dksX2_init_2_0 1 rfl rfl)
theorem dX2_init_2_4 : decode cX2_init_2 4 = .ok (.aload_n 0, 1) := dk_42 (dk_at dksX2_init_2_0 4 rfl rfl)
theorem dX2_init_2_5 : decode cX2_init_2 5 = .ok (.aload_n 1, 1) := dk_43 (dk_at dksX2_init_2_0 5 rfl rfl)
theorem dX2_init_2_6 : decode cX2_init_2 6 = .ok (.getfield 16, 3) := dk_180 0 16 (dk_at dksX2_init_2_0 6 rfl rfl)
theorem dX2_init_2_9 : decode cX2_init_2 9 = .ok (.putfield 16, 3) := dk_181 0 16 (dk_at dksX2_init_2_0 9 rfl rfl)
theorem dX2_init_2_12 : decode cX2_init_2 12 = .ok (.aload_n 1, 1) := dk_43 (dk_at dksX2_init_2_0 12 rfl rfl)
theorem dX2_init_2_13 : decode cX2_init_2 13 = .ok (.getfield 10, 3) := dk_180 0 10 (dk_at dksX2_init_2_0 13 rfl rfl)
theorem dX2_init_2_16 : decode cX2_init_2 16 = .ok (.invokeinterface 21 1, 5) := by decide +kernel
theorem dX2_init_2_21 : decode cX2_init_2 21 = .ok (.astore_n 2, 1) := dk_77 (dk_at dksX2_init_2_0 21 rfl rfl)
theorem dX2_init_2_22 : decode cX2_init_2 22 = .ok (.aload_n 2, 1) := dk_44 (dk_at dksX2_init_2_0 22 rfl rfl)
theorem dX2_init_2_23 : decode cX2_init_2 23 = .ok (.invokeinterface 27 1, 5) := by decide +kernel
theorem dX2_init_2_28 : decode cX2_init_2 28 = .ok (.ifCond .eq 34, 3) := dk_153 0 34 (dk_at dksX2_init_2_1 5 rfl rfl)
theorem dX2_init_2_31 : decode cX2_init_2 31 = .ok (.aload_n 2, 1) := dk_44 (dk_at dksX2_init_2_1 8 rfl rfl)
theorem dX2_init_2_32 : decode cX2_init_2 32 = .ok (.invokeinterface 33 1, 5) := by decide +kernel
theorem dX2_init_2_37 : decode cX2_init_2 37 = .ok (.checkcast 37, 3) := dk_192 0 37 (dk_at dksX2_init_2_1 14 rfl rfl)
theorem dX2_init_2_40 : decode cX2_init_2 40 = .ok (.astore_n 3, 1) := dk_78 (dk_at dksX2_init_2_1 17 rfl rfl)
theorem dX2_init_2_41 : decode cX2_init_2 41 = .ok (.aload_n 0, 1) := dk_42 (dk_at dksX2_init_2_1 18 rfl rfl)
theorem dX2_init_2_42 : decode cX2_init_2 42 = .ok (.getfield 10, 3) := dk_180 0 10 (dk_at dksX2_init_2_1 19 rfl rfl)
theorem dX2_init_2_45 : decode cX2_init_2 45 = .ok (.new 37, 3) := dk_187 0 37 (dk_at dksX2_init_2_2 0 rfl rfl)
theorem dX2_init_2_48 : decode cX2_init_2 48 = .ok (.dup, 1) := dk_89 (dk_at dksX2_init_2_2 3 rfl rfl)
theorem dX2_init_2_49 : decode cX2_init_2 49 = .ok (.aload_n 3, 1) := dk_45 (dk_at dksX2_init_2_2 4 rfl rfl)
theorem dX2_init_2_50 : decode cX2_init_2 50 = .ok (.invokespecial 39, 3) := dk_183 0 39 (dk_at dksX2_init_2_2 5 rfl rfl)
theorem dX2_init_2_53 : decode cX2_init_2 53 = .ok (.invokeinterface 42 2, 5) := by decide +kernel
theorem dX2_init_2_58 : decode cX2_init_2 58 = .ok (.pop, 1) := dk_87 (dk_at dksX2_init_2_2 13 rfl rfl)
theorem dX2_init_2_59 : decode cX2_init_2 59 = .ok (.goto (-37), 3) := dk_167 255 219 (dk_at dksX2_init_2_2 14 rfl rfl)
theorem dX2_init_2_62 : decode cX2_init_2 62 = .ok (.return_, 1) := dk_177 (dk_at dksX2_init_2_2 17 rfl rfl)
abbrev cX2_isLicensed : ByteArray := prog_8_method_3_code
def yX2_isLicensed : MethodName := ⟨RX2, "isLicensed", "(LNeed;)Z"⟩
def dkwX2_isLicensed_0 : List UInt8 := [42, 180, 0, 46, 43, 182, 0, 49, 96, 42, 180, 0, 16, 163, 0, 7, 4, 167, 0, 4, 3, 172]
abbrev dktX2_isLicensed_0 : List UInt8 := dkwX2_isLicensed_0 ++ []
theorem dksX2_isLicensed_0 : cX2_isLicensed.data.toList.drop 0 = dktX2_isLicensed_0 := by decide +kernel
theorem dX2_isLicensed_0 : decode cX2_isLicensed 0 = .ok (.aload_n 0, 1) := dk_42 (dk_at dksX2_isLicensed_0 0 rfl rfl)
theorem dX2_isLicensed_1 : decode cX2_isLicensed 1 = .ok (.getfield 46, 3) := dk_180 0 46 (dk_at dksX2_isLicensed_0 1 rfl rfl)
theorem dX2_isLicensed_4 : decode cX2_isLicensed 4 = .ok (.aload_n 1, 1) := dk_43 (dk_at dksX2_isLicensed_0 4 rfl rfl)
theorem dX2_isLicensed_5 : decode cX2_isLicensed 5 = .ok (.invokevirtual 49, 3) := dk_182 0 49 (dk_at dksX2_isLicensed_0 5 rfl rfl)
theorem dX2_isLicensed_8 : decode cX2_isLicensed 8 = .ok (.iadd, 1) := dk_96 (dk_at dksX2_isLicensed_0 8 rfl rfl)
theorem dX2_isLicensed_9 : decode cX2_isLicensed 9 = .ok (.aload_n 0, 1) := dk_42 (dk_at dksX2_isLicensed_0 9 rfl rfl)
theorem dX2_isLicensed_10 : decode cX2_isLicensed 10 = .ok (.getfield 16, 3) := dk_180 0 16 (dk_at dksX2_isLicensed_0 10 rfl rfl)
theorem dX2_isLicensed_13 : decode cX2_isLicensed 13 = .ok (.if_icmp .gt 7, 3) := dk_163 0 7 (dk_at dksX2_isLicensed_0 13 rfl rfl)
theorem dX2_isLicensed_16 : decode cX2_isLicensed 16 = .ok (.iconst 1, 1) := dk_4 (dk_at dksX2_isLicensed_0 16 rfl rfl)
theorem dX2_isLicensed_17 : decode cX2_isLicensed 17 = .ok (.goto 4, 3) := dk_167 0 4 (dk_at dksX2_isLicensed_0 17 rfl rfl)
theorem dX2_isLicensed_20 : decode cX2_isLicensed 20 = .ok (.iconst 0, 1) := dk_3 (dk_at dksX2_isLicensed_0 20 rfl rfl)
theorem dX2_isLicensed_21 : decode cX2_isLicensed 21 = .ok (.ireturn, 1) := dk_172 (dk_at dksX2_isLicensed_0 21 rfl rfl)
abbrev cX2_best : ByteArray := prog_8_method_4_code
def yX2_best : MethodName := ⟨RX2, "best", "(LNeed;)LCrateYard$Host;"⟩
def dkwX2_best_3 : List UInt8 := [25, 4, 167, 0, 4, 44, 77, 167, 255, 192, 44, 176]
abbrev dktX2_best_3 : List UInt8 := dkwX2_best_3 ++ []
def dkwX2_best_2 : List UInt8 := [25, 4, 180, 0, 59, 44, 180, 0, 59, 162, 0, 7, 4, 167, 0, 4, 3, 54, 5, 21, 5, 153, 0, 8]
abbrev dktX2_best_2 : List UInt8 := dkwX2_best_2 ++ dktX2_best_3
def dkwX2_best_1 : List UInt8 := [185, 0, 33, 1, 0, 192, 0, 37, 58, 4, 25, 4, 43, 182, 0, 55, 153, 0, 23, 44, 198, 0, 15]
abbrev dktX2_best_1 : List UInt8 := dkwX2_best_1 ++ dktX2_best_2
def dkwX2_best_0 : List UInt8 := [1, 77, 42, 180, 0, 10, 185, 0, 21, 1, 0, 78, 45, 185, 0, 27, 1, 0, 153, 0, 61, 45]
abbrev dktX2_best_0 : List UInt8 := dkwX2_best_0 ++ dktX2_best_1
theorem dksX2_best_0 : cX2_best.data.toList.drop 0 = dktX2_best_0 := by decide +kernel
theorem dksX2_best_1 : cX2_best.data.toList.drop 22 = dktX2_best_1 := dk_seg dksX2_best_0 22 rfl rfl
theorem dksX2_best_2 : cX2_best.data.toList.drop 45 = dktX2_best_2 := dk_seg dksX2_best_1 23 rfl rfl
theorem dksX2_best_3 : cX2_best.data.toList.drop 69 = dktX2_best_3 := dk_seg dksX2_best_2 24 rfl rfl
theorem dX2_best_0 : decode cX2_best 0 = .ok (.aconst_null, 1) := dk_1 (dk_at dksX2_best_0 0 rfl rfl)
theorem dX2_best_1 : decode cX2_best 1 = .ok (.astore_n 2, 1) := dk_77 (dk_at dksX2_best_0 1 rfl rfl)
theorem dX2_best_2 : decode cX2_best 2 = .ok (.aload_n 0, 1) := dk_42 (dk_at dksX2_best_0 2 rfl rfl)
theorem dX2_best_3 : decode cX2_best 3 = .ok (.getfield 10, 3) := dk_180 0 10 (dk_at dksX2_best_0 3 rfl rfl)
theorem dX2_best_6 : decode cX2_best 6 = .ok (.invokeinterface 21 1, 5) := by decide +kernel
theorem dX2_best_11 : decode cX2_best 11 = .ok (.astore_n 3, 1) := dk_78 (dk_at dksX2_best_0 11 rfl rfl)
theorem dX2_best_12 : decode cX2_best 12 = .ok (.aload_n 3, 1) := dk_45 (dk_at dksX2_best_0 12 rfl rfl)
theorem dX2_best_13 : decode cX2_best 13 = .ok (.invokeinterface 27 1, 5) := by decide +kernel
theorem dX2_best_18 : decode cX2_best 18 = .ok (.ifCond .eq 61, 3) := dk_153 0 61 (dk_at dksX2_best_0 18 rfl rfl)
theorem dX2_best_21 : decode cX2_best 21 = .ok (.aload_n 3, 1) := dk_45 (dk_at dksX2_best_0 21 rfl rfl)
theorem dX2_best_22 : decode cX2_best 22 = .ok (.invokeinterface 33 1, 5) := by decide +kernel
theorem dX2_best_27 : decode cX2_best 27 = .ok (.checkcast 37, 3) := dk_192 0 37 (dk_at dksX2_best_1 5 rfl rfl)
theorem dX2_best_30 : decode cX2_best 30 = .ok (.astore 4, 2) := dk_58 4 (dk_at dksX2_best_1 8 rfl rfl)
theorem dX2_best_32 : decode cX2_best 32 = .ok (.aload 4, 2) := dk_25 4 (dk_at dksX2_best_1 10 rfl rfl)
theorem dX2_best_34 : decode cX2_best 34 = .ok (.aload_n 1, 1) := dk_43 (dk_at dksX2_best_1 12 rfl rfl)
theorem dX2_best_35 : decode cX2_best 35 = .ok (.invokevirtual 55, 3) := dk_182 0 55 (dk_at dksX2_best_1 13 rfl rfl)
theorem dX2_best_38 : decode cX2_best 38 = .ok (.ifCond .eq 23, 3) := dk_153 0 23 (dk_at dksX2_best_1 16 rfl rfl)
theorem dX2_best_41 : decode cX2_best 41 = .ok (.aload_n 2, 1) := dk_44 (dk_at dksX2_best_1 19 rfl rfl)
theorem dX2_best_42 : decode cX2_best 42 = .ok (.ifnull 15, 3) := dk_198 0 15 (dk_at dksX2_best_1 20 rfl rfl)
theorem dX2_best_45 : decode cX2_best 45 = .ok (.aload 4, 2) := dk_25 4 (dk_at dksX2_best_2 0 rfl rfl)
theorem dX2_best_47 : decode cX2_best 47 = .ok (.getfield 59, 3) := dk_180 0 59 (dk_at dksX2_best_2 2 rfl rfl)
theorem dX2_best_50 : decode cX2_best 50 = .ok (.aload_n 2, 1) := dk_44 (dk_at dksX2_best_2 5 rfl rfl)
theorem dX2_best_51 : decode cX2_best 51 = .ok (.getfield 59, 3) := dk_180 0 59 (dk_at dksX2_best_2 6 rfl rfl)
theorem dX2_best_54 : decode cX2_best 54 = .ok (.if_icmp .ge 7, 3) := dk_162 0 7 (dk_at dksX2_best_2 9 rfl rfl)
theorem dX2_best_57 : decode cX2_best 57 = .ok (.iconst 1, 1) := dk_4 (dk_at dksX2_best_2 12 rfl rfl)
theorem dX2_best_58 : decode cX2_best 58 = .ok (.goto 4, 3) := dk_167 0 4 (dk_at dksX2_best_2 13 rfl rfl)
theorem dX2_best_61 : decode cX2_best 61 = .ok (.iconst 0, 1) := dk_3 (dk_at dksX2_best_2 16 rfl rfl)
theorem dX2_best_62 : decode cX2_best 62 = .ok (.istore 5, 2) := dk_54 5 (dk_at dksX2_best_2 17 rfl rfl)
theorem dX2_best_64 : decode cX2_best 64 = .ok (.iload 5, 2) := dk_21 5 (dk_at dksX2_best_2 19 rfl rfl)
theorem dX2_best_66 : decode cX2_best 66 = .ok (.ifCond .eq 8, 3) := dk_153 0 8 (dk_at dksX2_best_2 21 rfl rfl)
theorem dX2_best_69 : decode cX2_best 69 = .ok (.aload 4, 2) := dk_25 4 (dk_at dksX2_best_3 0 rfl rfl)
theorem dX2_best_71 : decode cX2_best 71 = .ok (.goto 4, 3) := dk_167 0 4 (dk_at dksX2_best_3 2 rfl rfl)
theorem dX2_best_74 : decode cX2_best 74 = .ok (.aload_n 2, 1) := dk_44 (dk_at dksX2_best_3 5 rfl rfl)
theorem dX2_best_75 : decode cX2_best 75 = .ok (.astore_n 2, 1) := dk_77 (dk_at dksX2_best_3 6 rfl rfl)
theorem dX2_best_76 : decode cX2_best 76 = .ok (.goto (-64), 3) := dk_167 255 192 (dk_at dksX2_best_3 7 rfl rfl)
theorem dX2_best_79 : decode cX2_best 79 = .ok (.aload_n 2, 1) := dk_44 (dk_at dksX2_best_3 10 rfl rfl)
theorem dX2_best_80 : decode cX2_best 80 = .ok (.areturn, 1) := dk_176 (dk_at dksX2_best_3 11 rfl rfl)
abbrev cX2_take : ByteArray := prog_8_method_5_code
def yX2_take : MethodName := ⟨RX2, "take", "(LCrateYard$Host;LNeed;)V"⟩
def dkwX2_take_0 : List UInt8 := [43, 44, 182, 0, 63, 42, 89, 180, 0, 46, 44, 182, 0, 49, 96, 181, 0, 46, 177]
abbrev dktX2_take_0 : List UInt8 := dkwX2_take_0 ++ []
theorem dksX2_take_0 : cX2_take.data.toList.drop 0 = dktX2_take_0 := by decide +kernel
theorem dX2_take_0 : decode cX2_take 0 = .ok (.aload_n 1, 1) := dk_43 (dk_at dksX2_take_0 0 rfl rfl)
theorem dX2_take_1 : decode cX2_take 1 = .ok (.aload_n 2, 1) := dk_44 (dk_at dksX2_take_0 1 rfl rfl)
theorem dX2_take_2 : decode cX2_take 2 = .ok (.invokevirtual 63, 3) := dk_182 0 63 (dk_at dksX2_take_0 2 rfl rfl)
theorem dX2_take_5 : decode cX2_take 5 = .ok (.aload_n 0, 1) := dk_42 (dk_at dksX2_take_0 5 rfl rfl)
theorem dX2_take_6 : decode cX2_take 6 = .ok (.dup, 1) := dk_89 (dk_at dksX2_take_0 6 rfl rfl)
theorem dX2_take_7 : decode cX2_take 7 = .ok (.getfield 46, 3) := dk_180 0 46 (dk_at dksX2_take_0 7 rfl rfl)
theorem dX2_take_10 : decode cX2_take 10 = .ok (.aload_n 2, 1) := dk_44 (dk_at dksX2_take_0 10 rfl rfl)
theorem dX2_take_11 : decode cX2_take 11 = .ok (.invokevirtual 49, 3) := dk_182 0 49 (dk_at dksX2_take_0 11 rfl rfl)
theorem dX2_take_14 : decode cX2_take 14 = .ok (.iadd, 1) := dk_96 (dk_at dksX2_take_0 14 rfl rfl)
theorem dX2_take_15 : decode cX2_take 15 = .ok (.putfield 46, 3) := dk_181 0 46 (dk_at dksX2_take_0 15 rfl rfl)
theorem dX2_take_18 : decode cX2_take 18 = .ok (.return_, 1) := dk_177 (dk_at dksX2_take_0 18 rfl rfl)
abbrev cX2_give : ByteArray := prog_8_method_6_code
def yX2_give : MethodName := ⟨RX2, "give", "(LCrateYard$Host;LNeed;)V"⟩
def dkwX2_give_0 : List UInt8 := [43, 44, 182, 0, 67, 42, 89, 180, 0, 46, 44, 182, 0, 49, 100, 181, 0, 46, 177]
abbrev dktX2_give_0 : List UInt8 := dkwX2_give_0 ++ []
theorem dksX2_give_0 : cX2_give.data.toList.drop 0 = dktX2_give_0 := by decide +kernel
theorem dX2_give_0 : decode cX2_give 0 = .ok (.aload_n 1, 1) := dk_43 (dk_at dksX2_give_0 0 rfl rfl)
theorem dX2_give_1 : decode cX2_give 1 = .ok (.aload_n 2, 1) := dk_44 (dk_at dksX2_give_0 1 rfl rfl)
theorem dX2_give_2 : decode cX2_give 2 = .ok (.invokevirtual 67, 3) := dk_182 0 67 (dk_at dksX2_give_0 2 rfl rfl)
theorem dX2_give_5 : decode cX2_give 5 = .ok (.aload_n 0, 1) := dk_42 (dk_at dksX2_give_0 5 rfl rfl)
theorem dX2_give_6 : decode cX2_give 6 = .ok (.dup, 1) := dk_89 (dk_at dksX2_give_0 6 rfl rfl)
theorem dX2_give_7 : decode cX2_give 7 = .ok (.getfield 46, 3) := dk_180 0 46 (dk_at dksX2_give_0 7 rfl rfl)
theorem dX2_give_10 : decode cX2_give 10 = .ok (.aload_n 2, 1) := dk_44 (dk_at dksX2_give_0 10 rfl rfl)
theorem dX2_give_11 : decode cX2_give 11 = .ok (.invokevirtual 49, 3) := dk_182 0 49 (dk_at dksX2_give_0 11 rfl rfl)
theorem dX2_give_14 : decode cX2_give 14 = .ok (.isub, 1) := dk_100 (dk_at dksX2_give_0 14 rfl rfl)
theorem dX2_give_15 : decode cX2_give 15 = .ok (.putfield 46, 3) := dk_181 0 46 (dk_at dksX2_give_0 15 rfl rfl)
theorem dX2_give_18 : decode cX2_give 18 = .ok (.return_, 1) := dk_177 (dk_at dksX2_give_0 18 rfl rfl)
theorem q38 : (Jvm.Cond.initialized "CrateYard$Park") ∈ lw_all := lw_g (lw_at lw_m1 5 rfl) rfl
theorem q113 : (Jvm.Cond.instantiable "CrateYard$Park" (3 : Nat)) ∈ lw_all := lw_g (lw_at lw_m1 80 rfl) rfl
theorem q115 : (Jvm.Cond.instanceMethod ({ cls := "CrateYard$Park", name := "<init>", desc := "()V" } : Jvm.MethodName)) ∈ lw_all := lw_g (lw_at lw_m1 82 rfl) rfl
theorem q116 : (Jvm.Cond.code ({ cls := "CrateYard$Park", name := "<init>", desc := "()V" } : Jvm.MethodName) prog_8_method_1_code (1 : Nat) (Option.none : Option Jvm.ClassFile.FieldType)) ∈ lw_all := lw_g (lw_at lw_m1 83 rfl) rfl
theorem q117 : (Jvm.Cond.methodLink "CrateYard$Park" (1 : Nat) ({ cls := "java/lang/Object", name := "<init>", desc := "()V" } : Jvm.MethodName)) ∈ lw_all := lw_g (lw_at lw_m1 84 rfl) rfl
theorem q118 : (Jvm.Cond.classLink "CrateYard$Park" (7 : Nat) "java/util/ArrayList") ∈ lw_all := lw_g (lw_at lw_m1 85 rfl) rfl
theorem q119 : (Jvm.Cond.methodLink "CrateYard$Park" (9 : Nat) ({ cls := "java/util/ArrayList", name := "<init>", desc := "()V" } : Jvm.MethodName)) ∈ lw_all := lw_g (lw_at lw_m1 86 rfl) rfl
theorem q120 : (Jvm.Cond.fieldLink "CrateYard$Park" (10 : Nat) "CrateYard$Park" "hosts" "Ljava/util/List;") ∈ lw_all := lw_g (lw_at lw_m1 87 rfl) rfl
theorem q122 : (Jvm.Cond.fieldLink "CrateYard$Park" (16 : Nat) "CrateYard$Park" "licensed" "I") ∈ lw_all := lw_g (lw_at lw_m1 89 rfl) rfl
theorem q124 : (Jvm.Cond.fieldLink "CrateYard$Park" (46 : Nat) "CrateYard$Park" "taken" "I") ∈ lw_all := lw_g (lw_at lw_m1 91 rfl) rfl
theorem q126 : (Jvm.Cond.laysFinal "CrateYard$Park" "CrateYard$Park" "hosts" "Ljava/util/List;") ∈ lw_all := lw_g (lw_at lw_m1 93 rfl) rfl
theorem q127 : (Jvm.Cond.soleField "CrateYard$Park" "hosts") ∈ lw_all := lw_g (lw_at lw_m1 94 rfl) rfl
theorem q128 : (Jvm.Cond.lays "CrateYard$Park" "CrateYard$Park" "licensed" "I") ∈ lw_all := lw_g (lw_at lw_m1 95 rfl) rfl
theorem q129 : (Jvm.Cond.soleField "CrateYard$Park" "licensed") ∈ lw_all := lw_g (lw_at lw_m1 96 rfl) rfl
theorem q130 : (Jvm.Cond.lays "CrateYard$Park" "CrateYard$Park" "taken" "I") ∈ lw_all := lw_g (lw_at lw_m1 97 rfl) rfl
theorem q131 : (Jvm.Cond.soleField "CrateYard$Park" "taken") ∈ lw_all := lw_g (lw_at lw_m1 98 rfl) rfl
theorem q132 : (Jvm.Cond.superclass "CrateYard$Park" "java/lang/Object") ∈ lw_all := lw_g (lw_at lw_m1 99 rfl) rfl
theorem q172 : (Jvm.Cond.instanceMethod ({ cls := "CrateYard$Park", name := "<init>", desc := "(LCrateYard$Park;)V" } : Jvm.MethodName)) ∈ lw_all := lw_g (lw_at lw_m1 139 rfl) rfl
theorem q173 : (Jvm.Cond.code ({ cls := "CrateYard$Park", name := "<init>", desc := "(LCrateYard$Park;)V" } : Jvm.MethodName) prog_8_method_2_code (4 : Nat) (Option.none : Option Jvm.ClassFile.FieldType)) ∈ lw_all := lw_g (lw_at lw_m1 140 rfl) rfl
theorem q174 : (Jvm.Cond.methodLink "CrateYard$Park" (20 : Nat) ({ cls := "CrateYard$Park", name := "<init>", desc := "()V" } : Jvm.MethodName)) ∈ lw_all := lw_g (lw_at lw_m1 141 rfl) rfl
theorem q175 : (Jvm.Cond.interfaceEntry "CrateYard$Park" (21 : Nat)) ∈ lw_tbl := lw_at lw_m1 142 rfl
theorem q176 : (Jvm.Cond.methodLink "CrateYard$Park" (21 : Nat) ({ cls := "java/util/List", name := "iterator", desc := "()Ljava/util/Iterator;" } : Jvm.MethodName)) ∈ lw_all := lw_g (lw_at lw_m1 143 rfl) rfl
theorem q204 : (Jvm.Cond.interfaceEntry "CrateYard$Park" (27 : Nat)) ∈ lw_tbl := lw_at lw_m1 171 rfl
theorem q205 : (Jvm.Cond.methodLink "CrateYard$Park" (27 : Nat) ({ cls := "java/util/Iterator", name := "hasNext", desc := "()Z" } : Jvm.MethodName)) ∈ lw_all := lw_g (lw_at lw_m1 172 rfl) rfl
theorem q214 : (Jvm.Cond.interfaceEntry "CrateYard$Park" (33 : Nat)) ∈ lw_tbl := lw_at lw_m1 181 rfl
theorem q215 : (Jvm.Cond.methodLink "CrateYard$Park" (33 : Nat) ({ cls := "java/util/Iterator", name := "next", desc := "()Ljava/lang/Object;" } : Jvm.MethodName)) ∈ lw_all := lw_g (lw_at lw_m1 182 rfl) rfl
theorem q295 : (Jvm.Cond.classLink "CrateYard$Park" (37 : Nat) "CrateYard$Host") ∈ lw_all := lw_g (lw_at lw_m2 22 rfl) rfl
theorem q297 : (Jvm.Cond.methodLink "CrateYard$Park" (39 : Nat) ({ cls := "CrateYard$Host", name := "<init>", desc := "(LCrateYard$Host;)V" } : Jvm.MethodName)) ∈ lw_all := lw_g (lw_at lw_m2 24 rfl) rfl
theorem q321 : (Jvm.Cond.fieldLinkNest "CrateYard$Park" (59 : Nat) "CrateYard$Room" "cores" "I" "CrateYard") ∈ lw_tbl := lw_at lw_m2 48 rfl
theorem q334 : (Jvm.Cond.interfaceEntry "CrateYard$Park" (42 : Nat)) ∈ lw_tbl := lw_at lw_m2 61 rfl
theorem q335 : (Jvm.Cond.methodLink "CrateYard$Park" (42 : Nat) ({ cls := "java/util/List", name := "add", desc := "(Ljava/lang/Object;)Z" } : Jvm.MethodName)) ∈ lw_all := lw_g (lw_at lw_m2 62 rfl) rfl
theorem q378 : (Jvm.Cond.selects "CrateYard$Park" ({ cls := "java/lang/Object", name := "getClass", desc := "()Ljava/lang/Class;" } : Jvm.MethodName) ({ cls := "java/lang/Object", name := "getClass", desc := "()Ljava/lang/Class;" } : Jvm.MethodName)) ∈ lw_all := lw_g (lw_at lw_m2 105 rfl) rfl
theorem q453 : (Jvm.Cond.instanceMethod ({ cls := "CrateYard$Park", name := "isLicensed", desc := "(LNeed;)Z" } : Jvm.MethodName)) ∈ lw_all := lw_g (lw_at lw_m2 180 rfl) rfl
theorem q454 : (Jvm.Cond.selects "CrateYard$Park" ({ cls := "CrateYard$Park", name := "isLicensed", desc := "(LNeed;)Z" } : Jvm.MethodName) ({ cls := "CrateYard$Park", name := "isLicensed", desc := "(LNeed;)Z" } : Jvm.MethodName)) ∈ lw_all := lw_g (lw_at lw_m2 181 rfl) rfl
theorem q455 : (Jvm.Cond.code ({ cls := "CrateYard$Park", name := "isLicensed", desc := "(LNeed;)Z" } : Jvm.MethodName) prog_8_method_3_code (2 : Nat) (Option.some Jvm.ClassFile.FieldType.boolean)) ∈ lw_all := lw_g (lw_at lw_m2 182 rfl) rfl
theorem q456 : (Jvm.Cond.methodLink "CrateYard$Park" (49 : Nat) ({ cls := "Need", name := "cores", desc := "()I" } : Jvm.MethodName)) ∈ lw_all := lw_g (lw_at lw_m2 183 rfl) rfl
theorem q460 : (Jvm.Cond.instanceMethod ({ cls := "CrateYard$Park", name := "best", desc := "(LNeed;)LCrateYard$Host;" } : Jvm.MethodName)) ∈ lw_all := lw_g (lw_at lw_m2 187 rfl) rfl
theorem q461 : (Jvm.Cond.selects "CrateYard$Park" ({ cls := "CrateYard$Park", name := "best", desc := "(LNeed;)LCrateYard$Host;" } : Jvm.MethodName) ({ cls := "CrateYard$Park", name := "best", desc := "(LNeed;)LCrateYard$Host;" } : Jvm.MethodName)) ∈ lw_all := lw_g (lw_at lw_m2 188 rfl) rfl
theorem q462 : (Jvm.Cond.code ({ cls := "CrateYard$Park", name := "best", desc := "(LNeed;)LCrateYard$Host;" } : Jvm.MethodName) prog_8_method_4_code (6 : Nat) (Option.some (Jvm.ClassFile.FieldType.object "CrateYard$Host"))) ∈ lw_all := lw_g (lw_at lw_m2 189 rfl) rfl
theorem q463 : (Jvm.Cond.methodLink "CrateYard$Park" (55 : Nat) ({ cls := "CrateYard$Host", name := "fits", desc := "(LNeed;)Z" } : Jvm.MethodName)) ∈ lw_all := lw_g (lw_at lw_m2 190 rfl) rfl
theorem q476 : (Jvm.Cond.instanceMethod ({ cls := "CrateYard$Park", name := "take", desc := "(LCrateYard$Host;LNeed;)V" } : Jvm.MethodName)) ∈ lw_all := lw_g (lw_at lw_m2 203 rfl) rfl
theorem q477 : (Jvm.Cond.selects "CrateYard$Park" ({ cls := "CrateYard$Park", name := "take", desc := "(LCrateYard$Host;LNeed;)V" } : Jvm.MethodName) ({ cls := "CrateYard$Park", name := "take", desc := "(LCrateYard$Host;LNeed;)V" } : Jvm.MethodName)) ∈ lw_all := lw_g (lw_at lw_m2 204 rfl) rfl
theorem q478 : (Jvm.Cond.code ({ cls := "CrateYard$Park", name := "take", desc := "(LCrateYard$Host;LNeed;)V" } : Jvm.MethodName) prog_8_method_5_code (3 : Nat) (Option.none : Option Jvm.ClassFile.FieldType)) ∈ lw_all := lw_g (lw_at lw_m2 205 rfl) rfl
theorem q479 : (Jvm.Cond.methodLink "CrateYard$Park" (63 : Nat) ({ cls := "CrateYard$Host", name := "take", desc := "(LNeed;)V" } : Jvm.MethodName)) ∈ lw_all := lw_g (lw_at lw_m2 206 rfl) rfl
theorem q808 : (Jvm.Cond.instanceMethod ({ cls := "CrateYard$Park", name := "give", desc := "(LCrateYard$Host;LNeed;)V" } : Jvm.MethodName)) ∈ lw_all := lw_g (lw_at lw_m4 55 rfl) rfl
theorem q809 : (Jvm.Cond.selects "CrateYard$Park" ({ cls := "CrateYard$Park", name := "give", desc := "(LCrateYard$Host;LNeed;)V" } : Jvm.MethodName) ({ cls := "CrateYard$Park", name := "give", desc := "(LCrateYard$Host;LNeed;)V" } : Jvm.MethodName)) ∈ lw_all := lw_g (lw_at lw_m4 56 rfl) rfl
theorem q810 : (Jvm.Cond.code ({ cls := "CrateYard$Park", name := "give", desc := "(LCrateYard$Host;LNeed;)V" } : Jvm.MethodName) prog_8_method_6_code (3 : Nat) (Option.none : Option Jvm.ClassFile.FieldType)) ∈ lw_all := lw_g (lw_at lw_m4 57 rfl) rfl
theorem q811 : (Jvm.Cond.methodLink "CrateYard$Park" (67 : Nat) ({ cls := "CrateYard$Host", name := "give", desc := "(LNeed;)V" } : Jvm.MethodName)) ∈ lw_all := lw_g (lw_at lw_m4 58 rfl) rfl
theorem q1766 : (Jvm.Cond.castable "CrateYard$Park" "java/lang/Object") ∈ lw_tbl := lw_at lw_m8 53 rfl
theorem in_X2 : ∀ w ∈ wsX20, w ∈ lw_all := lw_in wsX20 [126, 128, 130] (by decide +kernel) (by decide +kernel)

/-! CrateYardLaw$Out -/
set_option maxRecDepth 100000
def RX4 : String := "CrateYardLaw$Out"
def TX4 : u_T := fun k => match k with
  | 0 => ("CrateYardLaw$Out", "n", "J", false)
  | 1 => ("CrateYardLaw$Out", "d", "D", false)
  | 2 => ("CrateYardLaw$Out", "s", "Ljava/lang/String;", false)
  | 3 => ("CrateYardLaw$Out", "theState", "LState;", false)
  | _ => ("CrateYardLaw$Out", "theBar", "LBar;", false)
def tyX4 : Nat → FieldType := fun k => match k with
  | 0 => .long
  | 1 => .double
  | 2 => .object "java/lang/String"
  | 3 => .object "State"
  | _ => .object "Bar"
abbrev wsX40 : List Cond := u_ws RX4 TX4 5
theorem nmX4 : ∀ a, a < 5 → ∀ b, b < 5 → a ≠ b → (TX4 a).2.1 ≠ (TX4 b).2.1 := by decide +kernel
theorem tyX4_ok : ∀ k, k < 5 → parseFieldDescriptor (TX4 k).2.2.1 = some (tyX4 k) := by decide +kernel
abbrev cX4_init : ByteArray := prog_11_method_1_code
def yX4_init : MethodName := ⟨RX4, "<init>", "()V"⟩
theorem dX4_init_0 : decode cX4_init 0 = .ok (.aload_n 0, 1) := by decide +kernel
theorem dX4_init_1 : decode cX4_init 1 = .ok (.invokespecial 1, 3) := by decide +kernel
theorem dX4_init_4 : decode cX4_init 4 = .ok (.return_, 1) := by decide +kernel
theorem q40 : (Jvm.Cond.initialized "CrateYardLaw$Out") ∈ lw_all := lw_g (lw_at lw_m1 7 rfl) rfl
theorem q379 : (Jvm.Cond.selects "CrateYardLaw$Out" ({ cls := "java/lang/Object", name := "getClass", desc := "()Ljava/lang/Class;" } : Jvm.MethodName) ({ cls := "java/lang/Object", name := "getClass", desc := "()Ljava/lang/Class;" } : Jvm.MethodName)) ∈ lw_all := lw_g (lw_at lw_m2 106 rfl) rfl
theorem q490 : (Jvm.Cond.instantiable "CrateYardLaw$Out" (5 : Nat)) ∈ lw_all := lw_g (lw_at lw_m2 217 rfl) rfl
theorem q492 : (Jvm.Cond.instanceMethod ({ cls := "CrateYardLaw$Out", name := "<init>", desc := "()V" } : Jvm.MethodName)) ∈ lw_all := lw_g (lw_at lw_m2 219 rfl) rfl
theorem q493 : (Jvm.Cond.code ({ cls := "CrateYardLaw$Out", name := "<init>", desc := "()V" } : Jvm.MethodName) prog_11_method_1_code (1 : Nat) (Option.none : Option Jvm.ClassFile.FieldType)) ∈ lw_all := lw_g (lw_at lw_m2 220 rfl) rfl
theorem q494 : (Jvm.Cond.methodLink "CrateYardLaw$Out" (1 : Nat) ({ cls := "java/lang/Object", name := "<init>", desc := "()V" } : Jvm.MethodName)) ∈ lw_all := lw_g (lw_at lw_m2 221 rfl) rfl
theorem q500 : (Jvm.Cond.lays "CrateYardLaw$Out" "CrateYardLaw$Out" "n" "J") ∈ lw_all := lw_g (lw_at lw_m2 227 rfl) rfl
theorem q501 : (Jvm.Cond.soleField "CrateYardLaw$Out" "n") ∈ lw_all := lw_g (lw_at lw_m2 228 rfl) rfl
theorem q502 : (Jvm.Cond.lays "CrateYardLaw$Out" "CrateYardLaw$Out" "d" "D") ∈ lw_all := lw_g (lw_at lw_m2 229 rfl) rfl
theorem q503 : (Jvm.Cond.soleField "CrateYardLaw$Out" "d") ∈ lw_all := lw_g (lw_at lw_m2 230 rfl) rfl
theorem q504 : (Jvm.Cond.lays "CrateYardLaw$Out" "CrateYardLaw$Out" "s" "Ljava/lang/String;") ∈ lw_all := lw_g (lw_at lw_m2 231 rfl) rfl
theorem q505 : (Jvm.Cond.soleField "CrateYardLaw$Out" "s") ∈ lw_all := lw_g (lw_at lw_m2 232 rfl) rfl
theorem q506 : (Jvm.Cond.lays "CrateYardLaw$Out" "CrateYardLaw$Out" "theState" "LState;") ∈ lw_all := lw_g (lw_at lw_m2 233 rfl) rfl
theorem q507 : (Jvm.Cond.soleField "CrateYardLaw$Out" "theState") ∈ lw_all := lw_g (lw_at lw_m2 234 rfl) rfl
theorem q508 : (Jvm.Cond.lays "CrateYardLaw$Out" "CrateYardLaw$Out" "theBar" "LBar;") ∈ lw_all := lw_g (lw_at lw_m2 235 rfl) rfl
theorem q509 : (Jvm.Cond.soleField "CrateYardLaw$Out" "theBar") ∈ lw_all := lw_g (lw_at lw_m2 236 rfl) rfl
theorem q510 : (Jvm.Cond.superclass "CrateYardLaw$Out" "java/lang/Object") ∈ lw_all := lw_g (lw_at lw_m2 237 rfl) rfl
theorem q1768 : (Jvm.Cond.castable "CrateYardLaw$Out" "java/lang/Object") ∈ lw_tbl := lw_at lw_m8 55 rfl
theorem in_X4 : ∀ w ∈ wsX40, w ∈ lw_all := lw_in wsX40 [500, 502, 504, 506, 508] (by decide +kernel) (by decide +kernel)

/-! CrateYard$Layer -/
set_option maxRecDepth 100000
def RX5 : String := "CrateYard$Layer"
def TX5 : u_T := fun k => match k with
  | 0 => ("CrateYard$Layer", "bit", "I", true)
  | 1 => ("CrateYard$Layer", "isWithdrawn", "Z", false)
  | _ => ("CrateYard$Layer", "outAt", "I", false)
def tyX5 : Nat → FieldType := fun k => match k with
  | 0 => .int
  | 1 => .boolean
  | _ => .int
abbrev wsX50 : List Cond := u_ws RX5 TX5 3
theorem nmX5 : ∀ a, a < 3 → ∀ b, b < 3 → a ≠ b → (TX5 a).2.1 ≠ (TX5 b).2.1 := by decide +kernel
theorem tyX5_ok : ∀ k, k < 3 → parseFieldDescriptor (TX5 k).2.2.1 = some (tyX5 k) := by decide +kernel
abbrev cX5_init : ByteArray := prog_6_method_1_code
def yX5_init : MethodName := ⟨RX5, "<init>", "(I)V"⟩
def dkwX5_init_0 : List UInt8 := [42, 183, 0, 1, 42, 4, 27, 120, 181, 0, 7, 177]
abbrev dktX5_init_0 : List UInt8 := dkwX5_init_0 ++ []
theorem dksX5_init_0 : cX5_init.data.toList.drop 0 = dktX5_init_0 := by decide +kernel
theorem dX5_init_0 : decode cX5_init 0 = .ok (.aload_n 0, 1) := dk_42 (dk_at dksX5_init_0 0 rfl rfl)
theorem dX5_init_1 : decode cX5_init 1 = .ok (.invokespecial 1, 3) := dk_183 0 1 (dk_at dksX5_init_0 1 rfl rfl)
theorem dX5_init_4 : decode cX5_init 4 = .ok (.aload_n 0, 1) := dk_42 (dk_at dksX5_init_0 4 rfl rfl)
theorem dX5_init_5 : decode cX5_init 5 = .ok (.iconst 1, 1) := dk_4 (dk_at dksX5_init_0 5 rfl rfl)
theorem dX5_init_6 : decode cX5_init 6 = .ok (.iload_n 1, 1) := dk_27 (dk_at dksX5_init_0 6 rfl rfl)
theorem dX5_init_7 : decode cX5_init 7 = .ok (.ishl, 1) := dk_120 (dk_at dksX5_init_0 7 rfl rfl)
theorem dX5_init_8 : decode cX5_init 8 = .ok (.putfield 7, 3) := dk_181 0 7 (dk_at dksX5_init_0 8 rfl rfl)
theorem dX5_init_11 : decode cX5_init 11 = .ok (.return_, 1) := dk_177 (dk_at dksX5_init_0 11 rfl rfl)
abbrev cX5_isOut : ByteArray := prog_6_method_2_code
def yX5_isOut : MethodName := ⟨RX5, "isOut", "(I)Z"⟩
def dkwX5_isOut_0 : List UInt8 := [42, 180, 0, 13, 153, 0, 15, 27, 42, 180, 0, 17, 161, 0, 7, 4, 167, 0, 4, 3, 172]
abbrev dktX5_isOut_0 : List UInt8 := dkwX5_isOut_0 ++ []
theorem dksX5_isOut_0 : cX5_isOut.data.toList.drop 0 = dktX5_isOut_0 := by decide +kernel
theorem dX5_isOut_0 : decode cX5_isOut 0 = .ok (.aload_n 0, 1) := dk_42 (dk_at dksX5_isOut_0 0 rfl rfl)
theorem dX5_isOut_1 : decode cX5_isOut 1 = .ok (.getfield 13, 3) := dk_180 0 13 (dk_at dksX5_isOut_0 1 rfl rfl)
theorem dX5_isOut_4 : decode cX5_isOut 4 = .ok (.ifCond .eq 15, 3) := dk_153 0 15 (dk_at dksX5_isOut_0 4 rfl rfl)
theorem dX5_isOut_7 : decode cX5_isOut 7 = .ok (.iload_n 1, 1) := dk_27 (dk_at dksX5_isOut_0 7 rfl rfl)
theorem dX5_isOut_8 : decode cX5_isOut 8 = .ok (.aload_n 0, 1) := dk_42 (dk_at dksX5_isOut_0 8 rfl rfl)
theorem dX5_isOut_9 : decode cX5_isOut 9 = .ok (.getfield 17, 3) := dk_180 0 17 (dk_at dksX5_isOut_0 9 rfl rfl)
theorem dX5_isOut_12 : decode cX5_isOut 12 = .ok (.if_icmp .lt 7, 3) := dk_161 0 7 (dk_at dksX5_isOut_0 12 rfl rfl)
theorem dX5_isOut_15 : decode cX5_isOut 15 = .ok (.iconst 1, 1) := dk_4 (dk_at dksX5_isOut_0 15 rfl rfl)
theorem dX5_isOut_16 : decode cX5_isOut 16 = .ok (.goto 4, 3) := dk_167 0 4 (dk_at dksX5_isOut_0 16 rfl rfl)
theorem dX5_isOut_19 : decode cX5_isOut 19 = .ok (.iconst 0, 1) := dk_3 (dk_at dksX5_isOut_0 19 rfl rfl)
theorem dX5_isOut_20 : decode cX5_isOut 20 = .ok (.ireturn, 1) := dk_172 (dk_at dksX5_isOut_0 20 rfl rfl)
theorem q45 : (Jvm.Cond.initialized "CrateYard$Layer") ∈ lw_all := lw_g (lw_at lw_m1 12 rfl) rfl
theorem q376 : (Jvm.Cond.selects "CrateYard$Layer" ({ cls := "java/lang/Object", name := "getClass", desc := "()Ljava/lang/Class;" } : Jvm.MethodName) ({ cls := "java/lang/Object", name := "getClass", desc := "()Ljava/lang/Class;" } : Jvm.MethodName)) ∈ lw_all := lw_g (lw_at lw_m2 103 rfl) rfl
theorem q547 : (Jvm.Cond.instantiable "CrateYard$Layer" (3 : Nat)) ∈ lw_all := lw_g (lw_at lw_m3 34 rfl) rfl
theorem q549 : (Jvm.Cond.instanceMethod ({ cls := "CrateYard$Layer", name := "<init>", desc := "(I)V" } : Jvm.MethodName)) ∈ lw_all := lw_g (lw_at lw_m3 36 rfl) rfl
theorem q550 : (Jvm.Cond.code ({ cls := "CrateYard$Layer", name := "<init>", desc := "(I)V" } : Jvm.MethodName) prog_6_method_1_code (2 : Nat) (Option.none : Option Jvm.ClassFile.FieldType)) ∈ lw_all := lw_g (lw_at lw_m3 37 rfl) rfl
theorem q551 : (Jvm.Cond.methodLink "CrateYard$Layer" (1 : Nat) ({ cls := "java/lang/Object", name := "<init>", desc := "()V" } : Jvm.MethodName)) ∈ lw_all := lw_g (lw_at lw_m3 38 rfl) rfl
theorem q552 : (Jvm.Cond.fieldLink "CrateYard$Layer" (7 : Nat) "CrateYard$Layer" "bit" "I") ∈ lw_all := lw_g (lw_at lw_m3 39 rfl) rfl
theorem q556 : (Jvm.Cond.fieldLink "CrateYard$Layer" (13 : Nat) "CrateYard$Layer" "isWithdrawn" "Z") ∈ lw_all := lw_g (lw_at lw_m3 43 rfl) rfl
theorem q559 : (Jvm.Cond.fieldLink "CrateYard$Layer" (17 : Nat) "CrateYard$Layer" "outAt" "I") ∈ lw_all := lw_g (lw_at lw_m3 46 rfl) rfl
theorem q561 : (Jvm.Cond.laysFinal "CrateYard$Layer" "CrateYard$Layer" "bit" "I") ∈ lw_all := lw_g (lw_at lw_m3 48 rfl) rfl
theorem q562 : (Jvm.Cond.soleField "CrateYard$Layer" "bit") ∈ lw_all := lw_g (lw_at lw_m3 49 rfl) rfl
theorem q563 : (Jvm.Cond.lays "CrateYard$Layer" "CrateYard$Layer" "isWithdrawn" "Z") ∈ lw_all := lw_g (lw_at lw_m3 50 rfl) rfl
theorem q564 : (Jvm.Cond.soleField "CrateYard$Layer" "isWithdrawn") ∈ lw_all := lw_g (lw_at lw_m3 51 rfl) rfl
theorem q565 : (Jvm.Cond.lays "CrateYard$Layer" "CrateYard$Layer" "outAt" "I") ∈ lw_all := lw_g (lw_at lw_m3 52 rfl) rfl
theorem q566 : (Jvm.Cond.soleField "CrateYard$Layer" "outAt") ∈ lw_all := lw_g (lw_at lw_m3 53 rfl) rfl
theorem q567 : (Jvm.Cond.superclass "CrateYard$Layer" "java/lang/Object") ∈ lw_all := lw_g (lw_at lw_m3 54 rfl) rfl
theorem q920 : (Jvm.Cond.instanceMethod ({ cls := "CrateYard$Layer", name := "isOut", desc := "(I)Z" } : Jvm.MethodName)) ∈ lw_all := lw_g (lw_at lw_m4 167 rfl) rfl
theorem q921 : (Jvm.Cond.selects "CrateYard$Layer" ({ cls := "CrateYard$Layer", name := "isOut", desc := "(I)Z" } : Jvm.MethodName) ({ cls := "CrateYard$Layer", name := "isOut", desc := "(I)Z" } : Jvm.MethodName)) ∈ lw_all := lw_g (lw_at lw_m4 168 rfl) rfl
theorem q922 : (Jvm.Cond.code ({ cls := "CrateYard$Layer", name := "isOut", desc := "(I)Z" } : Jvm.MethodName) prog_6_method_2_code (2 : Nat) (Option.some Jvm.ClassFile.FieldType.boolean)) ∈ lw_all := lw_g (lw_at lw_m4 169 rfl) rfl
theorem q1770 : (Jvm.Cond.castable "CrateYard$Layer" "java/lang/Object") ∈ lw_tbl := lw_at lw_m8 57 rfl
theorem in_X5 : ∀ w ∈ wsX50, w ∈ lw_all := lw_in wsX50 [561, 563, 565] (by decide +kernel) (by decide +kernel)

/-! CrateYard$Image -/
set_option maxRecDepth 100000
def RX6 : String := "CrateYard$Image"
def TX6 : u_T := fun k => match k with
  | 0 => ("CrateYard$Image", "parent", "LCrateYard$Image;", true)
  | _ => ("CrateYard$Image", "own", "LCrateYard$Layer;", false)
def tyX6 : Nat → FieldType := fun k => match k with
  | 0 => .object "CrateYard$Image"
  | _ => .object "CrateYard$Layer"
abbrev wsX60 : List Cond := u_ws RX6 TX6 2
theorem nmX6 : ∀ a, a < 2 → ∀ b, b < 2 → a ≠ b → (TX6 a).2.1 ≠ (TX6 b).2.1 := by decide +kernel
theorem tyX6_ok : ∀ k, k < 2 → parseFieldDescriptor (TX6 k).2.2.1 = some (tyX6 k) := by decide +kernel
abbrev cX6_layers : ByteArray := prog_5_method_3_code
def yX6_layers : MethodName := ⟨RX6, "layers", "()I"⟩
def dkwX6_layers_0 : List UInt8 := [42, 180, 0, 13, 180, 0, 21, 42, 182, 0, 27, 128, 172]
abbrev dktX6_layers_0 : List UInt8 := dkwX6_layers_0 ++ []
theorem dksX6_layers_0 : cX6_layers.data.toList.drop 0 = dktX6_layers_0 := by decide +kernel
theorem dX6_layers_0 : decode cX6_layers 0 = .ok (.aload_n 0, 1) := dk_42 (dk_at dksX6_layers_0 0 rfl rfl)
theorem dX6_layers_1 : decode cX6_layers 1 = .ok (.getfield 13, 3) := dk_180 0 13 (dk_at dksX6_layers_0 1 rfl rfl)
theorem dX6_layers_4 : decode cX6_layers 4 = .ok (.getfield 21, 3) := dk_180 0 21 (dk_at dksX6_layers_0 4 rfl rfl)
theorem dX6_layers_7 : decode cX6_layers 7 = .ok (.aload_n 0, 1) := dk_42 (dk_at dksX6_layers_0 7 rfl rfl)
theorem dX6_layers_8 : decode cX6_layers 8 = .ok (.invokevirtual 27, 3) := dk_182 0 27 (dk_at dksX6_layers_0 8 rfl rfl)
theorem dX6_layers_11 : decode cX6_layers 11 = .ok (.ior, 1) := dk_128 (dk_at dksX6_layers_0 11 rfl rfl)
theorem dX6_layers_12 : decode cX6_layers 12 = .ok (.ireturn, 1) := dk_172 (dk_at dksX6_layers_0 12 rfl rfl)
abbrev cX6_inherited : ByteArray := prog_5_method_2_code
def yX6_inherited : MethodName := ⟨RX6, "inherited", "()I"⟩
def dkwX6_inherited_0 : List UInt8 := [42, 180, 0, 7, 199, 0, 7, 3, 167, 0, 10, 42, 180, 0, 7, 182, 0, 17, 172]
abbrev dktX6_inherited_0 : List UInt8 := dkwX6_inherited_0 ++ []
theorem dksX6_inherited_0 : cX6_inherited.data.toList.drop 0 = dktX6_inherited_0 := by decide +kernel
theorem dX6_inherited_0 : decode cX6_inherited 0 = .ok (.aload_n 0, 1) := dk_42 (dk_at dksX6_inherited_0 0 rfl rfl)
theorem dX6_inherited_1 : decode cX6_inherited 1 = .ok (.getfield 7, 3) := dk_180 0 7 (dk_at dksX6_inherited_0 1 rfl rfl)
theorem dX6_inherited_4 : decode cX6_inherited 4 = .ok (.ifnonnull 7, 3) := dk_199 0 7 (dk_at dksX6_inherited_0 4 rfl rfl)
theorem dX6_inherited_7 : decode cX6_inherited 7 = .ok (.iconst 0, 1) := dk_3 (dk_at dksX6_inherited_0 7 rfl rfl)
theorem dX6_inherited_8 : decode cX6_inherited 8 = .ok (.goto 10, 3) := dk_167 0 10 (dk_at dksX6_inherited_0 8 rfl rfl)
theorem dX6_inherited_11 : decode cX6_inherited 11 = .ok (.aload_n 0, 1) := dk_42 (dk_at dksX6_inherited_0 11 rfl rfl)
theorem dX6_inherited_12 : decode cX6_inherited 12 = .ok (.getfield 7, 3) := dk_180 0 7 (dk_at dksX6_inherited_0 12 rfl rfl)
theorem dX6_inherited_15 : decode cX6_inherited 15 = .ok (.invokevirtual 17, 3) := dk_182 0 17 (dk_at dksX6_inherited_0 15 rfl rfl)
theorem dX6_inherited_18 : decode cX6_inherited 18 = .ok (.ireturn, 1) := dk_172 (dk_at dksX6_inherited_0 18 rfl rfl)
abbrev cX6_init : ByteArray := prog_5_method_1_code
def yX6_init : MethodName := ⟨RX6, "<init>", "(LCrateYard$Image;LCrateYard$Layer;)V"⟩
def dkwX6_init_0 : List UInt8 := [42, 183, 0, 1, 42, 43, 181, 0, 7, 42, 44, 181, 0, 13, 177]
abbrev dktX6_init_0 : List UInt8 := dkwX6_init_0 ++ []
theorem dksX6_init_0 : cX6_init.data.toList.drop 0 = dktX6_init_0 := by decide +kernel
theorem dX6_init_0 : decode cX6_init 0 = .ok (.aload_n 0, 1) := dk_42 (dk_at dksX6_init_0 0 rfl rfl)
theorem dX6_init_1 : decode cX6_init 1 = .ok (.invokespecial 1, 3) := dk_183 0 1 (dk_at dksX6_init_0 1 rfl rfl)
theorem dX6_init_4 : decode cX6_init 4 = .ok (.aload_n 0, 1) := dk_42 (dk_at dksX6_init_0 4 rfl rfl)
theorem dX6_init_5 : decode cX6_init 5 = .ok (.aload_n 1, 1) := dk_43 (dk_at dksX6_init_0 5 rfl rfl)
theorem dX6_init_6 : decode cX6_init 6 = .ok (.putfield 7, 3) := dk_181 0 7 (dk_at dksX6_init_0 6 rfl rfl)
theorem dX6_init_9 : decode cX6_init 9 = .ok (.aload_n 0, 1) := dk_42 (dk_at dksX6_init_0 9 rfl rfl)
theorem dX6_init_10 : decode cX6_init 10 = .ok (.aload_n 2, 1) := dk_44 (dk_at dksX6_init_0 10 rfl rfl)
theorem dX6_init_11 : decode cX6_init 11 = .ok (.putfield 13, 3) := dk_181 0 13 (dk_at dksX6_init_0 11 rfl rfl)
theorem dX6_init_14 : decode cX6_init 14 = .ok (.return_, 1) := dk_177 (dk_at dksX6_init_0 14 rfl rfl)
abbrev cX6_comesFrom : ByteArray := prog_5_method_4_code
def yX6_comesFrom : MethodName := ⟨RX6, "comesFrom", "(LCrateYard$Image;)Z"⟩
def dkwX6_comesFrom_1 : List UInt8 := [167, 0, 4, 3, 172]
abbrev dktX6_comesFrom_1 : List UInt8 := dkwX6_comesFrom_1 ++ []
def dkwX6_comesFrom_0 : List UInt8 := [42, 43, 165, 0, 21, 42, 180, 0, 7, 198, 0, 18, 42, 180, 0, 7, 43, 182, 0, 30, 153, 0, 7, 4]
abbrev dktX6_comesFrom_0 : List UInt8 := dkwX6_comesFrom_0 ++ dktX6_comesFrom_1
theorem dksX6_comesFrom_0 : cX6_comesFrom.data.toList.drop 0 = dktX6_comesFrom_0 := by decide +kernel
theorem dksX6_comesFrom_1 : cX6_comesFrom.data.toList.drop 24 = dktX6_comesFrom_1 := dk_seg dksX6_comesFrom_0 24 rfl rfl
theorem dX6_comesFrom_0 : decode cX6_comesFrom 0 = .ok (.aload_n 0, 1) := dk_42 (dk_at dksX6_comesFrom_0 0 rfl rfl)
theorem dX6_comesFrom_1 : decode cX6_comesFrom 1 = .ok (.aload_n 1, 1) := dk_43 (dk_at dksX6_comesFrom_0 1 rfl rfl)
theorem dX6_comesFrom_2 : decode cX6_comesFrom 2 = .ok (.if_acmp .eq 21, 3) := dk_165 0 21 (dk_at dksX6_comesFrom_0 2 rfl rfl)
theorem dX6_comesFrom_5 : decode cX6_comesFrom 5 = .ok (.aload_n 0, 1) := dk_42 (dk_at dksX6_comesFrom_0 5 rfl rfl)
theorem dX6_comesFrom_6 : decode cX6_comesFrom 6 = .ok (.getfield 7, 3) := dk_180 0 7 (dk_at dksX6_comesFrom_0 6 rfl rfl)
theorem dX6_comesFrom_9 : decode cX6_comesFrom 9 = .ok (.ifnull 18, 3) := dk_198 0 18 (dk_at dksX6_comesFrom_0 9 rfl rfl)
theorem dX6_comesFrom_12 : decode cX6_comesFrom 12 = .ok (.aload_n 0, 1) := dk_42 (dk_at dksX6_comesFrom_0 12 rfl rfl)
theorem dX6_comesFrom_13 : decode cX6_comesFrom 13 = .ok (.getfield 7, 3) := dk_180 0 7 (dk_at dksX6_comesFrom_0 13 rfl rfl)
theorem dX6_comesFrom_16 : decode cX6_comesFrom 16 = .ok (.aload_n 1, 1) := dk_43 (dk_at dksX6_comesFrom_0 16 rfl rfl)
theorem dX6_comesFrom_17 : decode cX6_comesFrom 17 = .ok (.invokevirtual 30, 3) := dk_182 0 30 (dk_at dksX6_comesFrom_0 17 rfl rfl)
theorem dX6_comesFrom_20 : decode cX6_comesFrom 20 = .ok (.ifCond .eq 7, 3) := dk_153 0 7 (dk_at dksX6_comesFrom_0 20 rfl rfl)
theorem dX6_comesFrom_23 : decode cX6_comesFrom 23 = .ok (.iconst 1, 1) := dk_4 (dk_at dksX6_comesFrom_0 23 rfl rfl)
theorem dX6_comesFrom_24 : decode cX6_comesFrom 24 = .ok (.goto 4, 3) := dk_167 0 4 (dk_at dksX6_comesFrom_1 0 rfl rfl)
theorem dX6_comesFrom_27 : decode cX6_comesFrom 27 = .ok (.iconst 0, 1) := dk_3 (dk_at dksX6_comesFrom_1 3 rfl rfl)
theorem dX6_comesFrom_28 : decode cX6_comesFrom 28 = .ok (.ireturn, 1) := dk_172 (dk_at dksX6_comesFrom_1 4 rfl rfl)
theorem q56 : (Jvm.Cond.initialized "CrateYard$Image") ∈ lw_all := lw_g (lw_at lw_m1 23 rfl) rfl
theorem q375 : (Jvm.Cond.selects "CrateYard$Image" ({ cls := "java/lang/Object", name := "getClass", desc := "()Ljava/lang/Class;" } : Jvm.MethodName) ({ cls := "java/lang/Object", name := "getClass", desc := "()Ljava/lang/Class;" } : Jvm.MethodName)) ∈ lw_all := lw_g (lw_at lw_m2 102 rfl) rfl
theorem q442 : (Jvm.Cond.instanceMethod ({ cls := "CrateYard$Image", name := "layers", desc := "()I" } : Jvm.MethodName)) ∈ lw_all := lw_g (lw_at lw_m2 169 rfl) rfl
theorem q443 : (Jvm.Cond.selects "CrateYard$Image" ({ cls := "CrateYard$Image", name := "layers", desc := "()I" } : Jvm.MethodName) ({ cls := "CrateYard$Image", name := "layers", desc := "()I" } : Jvm.MethodName)) ∈ lw_all := lw_g (lw_at lw_m2 170 rfl) rfl
theorem q444 : (Jvm.Cond.code ({ cls := "CrateYard$Image", name := "layers", desc := "()I" } : Jvm.MethodName) prog_5_method_3_code (1 : Nat) (Option.some Jvm.ClassFile.FieldType.int)) ∈ lw_all := lw_g (lw_at lw_m2 171 rfl) rfl
theorem q445 : (Jvm.Cond.methodLink "CrateYard$Image" (27 : Nat) ({ cls := "CrateYard$Image", name := "inherited", desc := "()I" } : Jvm.MethodName)) ∈ lw_all := lw_g (lw_at lw_m2 172 rfl) rfl
theorem q446 : (Jvm.Cond.instanceMethod ({ cls := "CrateYard$Image", name := "inherited", desc := "()I" } : Jvm.MethodName)) ∈ lw_all := lw_g (lw_at lw_m2 173 rfl) rfl
theorem q447 : (Jvm.Cond.selects "CrateYard$Image" ({ cls := "CrateYard$Image", name := "inherited", desc := "()I" } : Jvm.MethodName) ({ cls := "CrateYard$Image", name := "inherited", desc := "()I" } : Jvm.MethodName)) ∈ lw_all := lw_g (lw_at lw_m2 174 rfl) rfl
theorem q448 : (Jvm.Cond.code ({ cls := "CrateYard$Image", name := "inherited", desc := "()I" } : Jvm.MethodName) prog_5_method_2_code (1 : Nat) (Option.some Jvm.ClassFile.FieldType.int)) ∈ lw_all := lw_g (lw_at lw_m2 175 rfl) rfl
theorem q449 : (Jvm.Cond.methodLink "CrateYard$Image" (17 : Nat) ({ cls := "CrateYard$Image", name := "layers", desc := "()I" } : Jvm.MethodName)) ∈ lw_all := lw_g (lw_at lw_m2 176 rfl) rfl
theorem q553 : (Jvm.Cond.fieldLinkNest "CrateYard$Image" (21 : Nat) "CrateYard$Layer" "bit" "I" "CrateYard") ∈ lw_tbl := lw_at lw_m3 40 rfl
theorem q676 : (Jvm.Cond.instantiable "CrateYard$Image" (2 : Nat)) ∈ lw_all := lw_g (lw_at lw_m3 163 rfl) rfl
theorem q678 : (Jvm.Cond.instanceMethod ({ cls := "CrateYard$Image", name := "<init>", desc := "(LCrateYard$Image;LCrateYard$Layer;)V" } : Jvm.MethodName)) ∈ lw_all := lw_g (lw_at lw_m3 165 rfl) rfl
theorem q679 : (Jvm.Cond.code ({ cls := "CrateYard$Image", name := "<init>", desc := "(LCrateYard$Image;LCrateYard$Layer;)V" } : Jvm.MethodName) prog_5_method_1_code (3 : Nat) (Option.none : Option Jvm.ClassFile.FieldType)) ∈ lw_all := lw_g (lw_at lw_m3 166 rfl) rfl
theorem q680 : (Jvm.Cond.methodLink "CrateYard$Image" (1 : Nat) ({ cls := "java/lang/Object", name := "<init>", desc := "()V" } : Jvm.MethodName)) ∈ lw_all := lw_g (lw_at lw_m3 167 rfl) rfl
theorem q681 : (Jvm.Cond.fieldLink "CrateYard$Image" (7 : Nat) "CrateYard$Image" "parent" "LCrateYard$Image;") ∈ lw_all := lw_g (lw_at lw_m3 168 rfl) rfl
theorem q682 : (Jvm.Cond.fieldLink "CrateYard$Image" (13 : Nat) "CrateYard$Image" "own" "LCrateYard$Layer;") ∈ lw_all := lw_g (lw_at lw_m3 169 rfl) rfl
theorem q684 : (Jvm.Cond.laysFinal "CrateYard$Image" "CrateYard$Image" "parent" "LCrateYard$Image;") ∈ lw_all := lw_g (lw_at lw_m3 171 rfl) rfl
theorem q685 : (Jvm.Cond.soleField "CrateYard$Image" "parent") ∈ lw_all := lw_g (lw_at lw_m3 172 rfl) rfl
theorem q686 : (Jvm.Cond.lays "CrateYard$Image" "CrateYard$Image" "own" "LCrateYard$Layer;") ∈ lw_all := lw_g (lw_at lw_m3 173 rfl) rfl
theorem q687 : (Jvm.Cond.soleField "CrateYard$Image" "own") ∈ lw_all := lw_g (lw_at lw_m3 174 rfl) rfl
theorem q688 : (Jvm.Cond.superclass "CrateYard$Image" "java/lang/Object") ∈ lw_all := lw_g (lw_at lw_m3 175 rfl) rfl
theorem q699 : (Jvm.Cond.instanceMethod ({ cls := "CrateYard$Image", name := "comesFrom", desc := "(LCrateYard$Image;)Z" } : Jvm.MethodName)) ∈ lw_all := lw_g (lw_at lw_m3 186 rfl) rfl
theorem q700 : (Jvm.Cond.selects "CrateYard$Image" ({ cls := "CrateYard$Image", name := "comesFrom", desc := "(LCrateYard$Image;)Z" } : Jvm.MethodName) ({ cls := "CrateYard$Image", name := "comesFrom", desc := "(LCrateYard$Image;)Z" } : Jvm.MethodName)) ∈ lw_all := lw_g (lw_at lw_m3 187 rfl) rfl
theorem q701 : (Jvm.Cond.code ({ cls := "CrateYard$Image", name := "comesFrom", desc := "(LCrateYard$Image;)Z" } : Jvm.MethodName) prog_5_method_4_code (2 : Nat) (Option.some Jvm.ClassFile.FieldType.boolean)) ∈ lw_all := lw_g (lw_at lw_m3 188 rfl) rfl
theorem q702 : (Jvm.Cond.methodLink "CrateYard$Image" (30 : Nat) ({ cls := "CrateYard$Image", name := "comesFrom", desc := "(LCrateYard$Image;)Z" } : Jvm.MethodName)) ∈ lw_all := lw_g (lw_at lw_m3 189 rfl) rfl
theorem q1774 : (Jvm.Cond.castable "CrateYard$Image" "java/lang/Object") ∈ lw_tbl := lw_at lw_m8 61 rfl
theorem in_X6 : ∀ w ∈ wsX60, w ∈ lw_all := lw_in wsX60 [684, 686] (by decide +kernel) (by decide +kernel)

/-! Need -/
set_option maxRecDepth 100000
def RX7 : String := "Need"
def TX7 : u_T := fun k => match k with
  | 0 => ("Need", "cores", "I", true)
  | _ => ("Need", "memory", "I", true)
def tyX7 : Nat → FieldType := fun k => match k with
  | 0 => .int
  | _ => .int
abbrev wsX70 : List Cond := u_ws RX7 TX7 2
theorem nmX7 : ∀ a, a < 2 → ∀ b, b < 2 → a ≠ b → (TX7 a).2.1 ≠ (TX7 b).2.1 := by decide +kernel
theorem tyX7_ok : ∀ k, k < 2 → parseFieldDescriptor (TX7 k).2.2.1 = some (tyX7 k) := by decide +kernel
abbrev cX7_cores : ByteArray := prog_13_method_2_code
def yX7_cores : MethodName := ⟨RX7, "cores", "()I"⟩
theorem dX7_cores_0 : decode cX7_cores 0 = .ok (.aload_n 0, 1) := by decide +kernel
theorem dX7_cores_1 : decode cX7_cores 1 = .ok (.getfield 7, 3) := by decide +kernel
theorem dX7_cores_4 : decode cX7_cores 4 = .ok (.ireturn, 1) := by decide +kernel
abbrev cX7_memory : ByteArray := prog_13_method_3_code
def yX7_memory : MethodName := ⟨RX7, "memory", "()I"⟩
theorem dX7_memory_0 : decode cX7_memory 0 = .ok (.aload_n 0, 1) := by decide +kernel
theorem dX7_memory_1 : decode cX7_memory 1 = .ok (.getfield 13, 3) := by decide +kernel
theorem dX7_memory_4 : decode cX7_memory 4 = .ok (.ireturn, 1) := by decide +kernel
abbrev cX7_init : ByteArray := prog_13_method_1_code
def yX7_init : MethodName := ⟨RX7, "<init>", "(II)V"⟩
def dkwX7_init_0 : List UInt8 := [42, 183, 0, 1, 42, 27, 181, 0, 7, 42, 28, 181, 0, 13, 177]
abbrev dktX7_init_0 : List UInt8 := dkwX7_init_0 ++ []
theorem dksX7_init_0 : cX7_init.data.toList.drop 0 = dktX7_init_0 := by decide +kernel
theorem dX7_init_0 : decode cX7_init 0 = .ok (.aload_n 0, 1) := dk_42 (dk_at dksX7_init_0 0 rfl rfl)
theorem dX7_init_1 : decode cX7_init 1 = .ok (.invokespecial 1, 3) := dk_183 0 1 (dk_at dksX7_init_0 1 rfl rfl)
theorem dX7_init_4 : decode cX7_init 4 = .ok (.aload_n 0, 1) := dk_42 (dk_at dksX7_init_0 4 rfl rfl)
theorem dX7_init_5 : decode cX7_init 5 = .ok (.iload_n 1, 1) := dk_27 (dk_at dksX7_init_0 5 rfl rfl)
theorem dX7_init_6 : decode cX7_init 6 = .ok (.putfield 7, 3) := dk_181 0 7 (dk_at dksX7_init_0 6 rfl rfl)
theorem dX7_init_9 : decode cX7_init 9 = .ok (.aload_n 0, 1) := dk_42 (dk_at dksX7_init_0 9 rfl rfl)
theorem dX7_init_10 : decode cX7_init 10 = .ok (.iload_n 2, 1) := dk_28 (dk_at dksX7_init_0 10 rfl rfl)
theorem dX7_init_11 : decode cX7_init 11 = .ok (.putfield 13, 3) := dk_181 0 13 (dk_at dksX7_init_0 11 rfl rfl)
theorem dX7_init_14 : decode cX7_init 14 = .ok (.return_, 1) := dk_177 (dk_at dksX7_init_0 14 rfl rfl)
theorem q62 : (Jvm.Cond.initialized "Need") ∈ lw_all := lw_g (lw_at lw_m1 29 rfl) rfl
theorem q308 : (Jvm.Cond.instanceMethod ({ cls := "Need", name := "cores", desc := "()I" } : Jvm.MethodName)) ∈ lw_all := lw_g (lw_at lw_m2 35 rfl) rfl
theorem q309 : (Jvm.Cond.selects "Need" ({ cls := "Need", name := "cores", desc := "()I" } : Jvm.MethodName) ({ cls := "Need", name := "cores", desc := "()I" } : Jvm.MethodName)) ∈ lw_all := lw_g (lw_at lw_m2 36 rfl) rfl
theorem q310 : (Jvm.Cond.code ({ cls := "Need", name := "cores", desc := "()I" } : Jvm.MethodName) prog_13_method_2_code (1 : Nat) (Option.some Jvm.ClassFile.FieldType.int)) ∈ lw_all := lw_g (lw_at lw_m2 37 rfl) rfl
theorem q312 : (Jvm.Cond.instanceMethod ({ cls := "Need", name := "memory", desc := "()I" } : Jvm.MethodName)) ∈ lw_all := lw_g (lw_at lw_m2 39 rfl) rfl
theorem q313 : (Jvm.Cond.selects "Need" ({ cls := "Need", name := "memory", desc := "()I" } : Jvm.MethodName) ({ cls := "Need", name := "memory", desc := "()I" } : Jvm.MethodName)) ∈ lw_all := lw_g (lw_at lw_m2 40 rfl) rfl
theorem q314 : (Jvm.Cond.code ({ cls := "Need", name := "memory", desc := "()I" } : Jvm.MethodName) prog_13_method_3_code (1 : Nat) (Option.some Jvm.ClassFile.FieldType.int)) ∈ lw_all := lw_g (lw_at lw_m2 41 rfl) rfl
theorem q381 : (Jvm.Cond.selects "Need" ({ cls := "java/lang/Object", name := "getClass", desc := "()Ljava/lang/Class;" } : Jvm.MethodName) ({ cls := "java/lang/Object", name := "getClass", desc := "()Ljava/lang/Class;" } : Jvm.MethodName)) ∈ lw_all := lw_g (lw_at lw_m2 108 rfl) rfl
theorem q1715 : (Jvm.Cond.instantiable "Need" (2 : Nat)) ∈ lw_all := lw_g (lw_at lw_m8 2 rfl) rfl
theorem q1717 : (Jvm.Cond.instanceMethod ({ cls := "Need", name := "<init>", desc := "(II)V" } : Jvm.MethodName)) ∈ lw_all := lw_g (lw_at lw_m8 4 rfl) rfl
theorem q1718 : (Jvm.Cond.code ({ cls := "Need", name := "<init>", desc := "(II)V" } : Jvm.MethodName) prog_13_method_1_code (3 : Nat) (Option.none : Option Jvm.ClassFile.FieldType)) ∈ lw_all := lw_g (lw_at lw_m8 5 rfl) rfl
theorem q1719 : (Jvm.Cond.methodLink "Need" (1 : Nat) ({ cls := "java/lang/Object", name := "<init>", desc := "()V" } : Jvm.MethodName)) ∈ lw_all := lw_g (lw_at lw_m8 6 rfl) rfl
theorem q1720 : (Jvm.Cond.fieldLink "Need" (7 : Nat) "Need" "cores" "I") ∈ lw_all := lw_g (lw_at lw_m8 7 rfl) rfl
theorem q1721 : (Jvm.Cond.fieldLink "Need" (13 : Nat) "Need" "memory" "I") ∈ lw_all := lw_g (lw_at lw_m8 8 rfl) rfl
theorem q1722 : (Jvm.Cond.laysFinal "Need" "Need" "cores" "I") ∈ lw_all := lw_g (lw_at lw_m8 9 rfl) rfl
theorem q1723 : (Jvm.Cond.soleField "Need" "cores") ∈ lw_all := lw_g (lw_at lw_m8 10 rfl) rfl
theorem q1724 : (Jvm.Cond.laysFinal "Need" "Need" "memory" "I") ∈ lw_all := lw_g (lw_at lw_m8 11 rfl) rfl
theorem q1725 : (Jvm.Cond.soleField "Need" "memory") ∈ lw_all := lw_g (lw_at lw_m8 12 rfl) rfl
theorem q1726 : (Jvm.Cond.superclass "Need" "java/lang/Object") ∈ lw_all := lw_g (lw_at lw_m8 13 rfl) rfl
theorem q1779 : (Jvm.Cond.castable "Need" "java/lang/Object") ∈ lw_tbl := lw_at lw_m8 66 rfl
theorem in_X7 : ∀ w ∈ wsX70, w ∈ lw_all := lw_in wsX70 [1722, 1724] (by decide +kernel) (by decide +kernel)

/-! CrateYard$Room -/
set_option maxRecDepth 100000
def RX8 : String := "CrateYard$Room"
abbrev cX8_init : ByteArray := prog_9_method_1_code
def yX8_init : MethodName := ⟨RX8, "<init>", "(LNeed;)V"⟩
def dkwX8_init_1 : List UInt8 := [181, 0, 25, 177]
abbrev dktX8_init_1 : List UInt8 := dkwX8_init_1 ++ []
def dkwX8_init_0 : List UInt8 := [42, 183, 0, 1, 42, 43, 181, 0, 7, 42, 43, 182, 0, 13, 181, 0, 19, 42, 43, 182, 0, 22]
abbrev dktX8_init_0 : List UInt8 := dkwX8_init_0 ++ dktX8_init_1
theorem dksX8_init_0 : cX8_init.data.toList.drop 0 = dktX8_init_0 := by decide +kernel
theorem dksX8_init_1 : cX8_init.data.toList.drop 22 = dktX8_init_1 := dk_seg dksX8_init_0 22 rfl rfl
theorem dX8_init_0 : decode cX8_init 0 = .ok (.aload_n 0, 1) := dk_42 (dk_at dksX8_init_0 0 rfl rfl)
theorem dX8_init_1 : decode cX8_init 1 = .ok (.invokespecial 1, 3) := dk_183 0 1 (dk_at dksX8_init_0 1 rfl rfl)
theorem dX8_init_4 : decode cX8_init 4 = .ok (.aload_n 0, 1) := dk_42 (dk_at dksX8_init_0 4 rfl rfl)
theorem dX8_init_5 : decode cX8_init 5 = .ok (.aload_n 1, 1) := dk_43 (dk_at dksX8_init_0 5 rfl rfl)
theorem dX8_init_6 : decode cX8_init 6 = .ok (.putfield 7, 3) := dk_181 0 7 (dk_at dksX8_init_0 6 rfl rfl)
theorem dX8_init_9 : decode cX8_init 9 = .ok (.aload_n 0, 1) := dk_42 (dk_at dksX8_init_0 9 rfl rfl)
theorem dX8_init_10 : decode cX8_init 10 = .ok (.aload_n 1, 1) := dk_43 (dk_at dksX8_init_0 10 rfl rfl)
theorem dX8_init_11 : decode cX8_init 11 = .ok (.invokevirtual 13, 3) := dk_182 0 13 (dk_at dksX8_init_0 11 rfl rfl)
theorem dX8_init_14 : decode cX8_init 14 = .ok (.putfield 19, 3) := dk_181 0 19 (dk_at dksX8_init_0 14 rfl rfl)
theorem dX8_init_17 : decode cX8_init 17 = .ok (.aload_n 0, 1) := dk_42 (dk_at dksX8_init_0 17 rfl rfl)
theorem dX8_init_18 : decode cX8_init 18 = .ok (.aload_n 1, 1) := dk_43 (dk_at dksX8_init_0 18 rfl rfl)
theorem dX8_init_19 : decode cX8_init 19 = .ok (.invokevirtual 22, 3) := dk_182 0 22 (dk_at dksX8_init_0 19 rfl rfl)
theorem dX8_init_22 : decode cX8_init 22 = .ok (.putfield 25, 3) := dk_181 0 25 (dk_at dksX8_init_1 0 rfl rfl)
theorem dX8_init_25 : decode cX8_init 25 = .ok (.return_, 1) := dk_177 (dk_at dksX8_init_1 3 rfl rfl)
abbrev cX8_fits : ByteArray := prog_9_method_2_code
def yX8_fits : MethodName := ⟨RX8, "fits", "(LNeed;)Z"⟩
def dkwX8_fits_1 : List UInt8 := [167, 0, 4, 3, 172]
abbrev dktX8_fits_1 : List UInt8 := dkwX8_fits_1 ++ []
def dkwX8_fits_0 : List UInt8 := [43, 182, 0, 13, 42, 180, 0, 19, 163, 0, 18, 43, 182, 0, 22, 42, 180, 0, 25, 163, 0, 7, 4]
abbrev dktX8_fits_0 : List UInt8 := dkwX8_fits_0 ++ dktX8_fits_1
theorem dksX8_fits_0 : cX8_fits.data.toList.drop 0 = dktX8_fits_0 := by decide +kernel
theorem dksX8_fits_1 : cX8_fits.data.toList.drop 23 = dktX8_fits_1 := dk_seg dksX8_fits_0 23 rfl rfl
theorem dX8_fits_0 : decode cX8_fits 0 = .ok (.aload_n 1, 1) := dk_43 (dk_at dksX8_fits_0 0 rfl rfl)
theorem dX8_fits_1 : decode cX8_fits 1 = .ok (.invokevirtual 13, 3) := dk_182 0 13 (dk_at dksX8_fits_0 1 rfl rfl)
theorem dX8_fits_4 : decode cX8_fits 4 = .ok (.aload_n 0, 1) := dk_42 (dk_at dksX8_fits_0 4 rfl rfl)
theorem dX8_fits_5 : decode cX8_fits 5 = .ok (.getfield 19, 3) := dk_180 0 19 (dk_at dksX8_fits_0 5 rfl rfl)
theorem dX8_fits_8 : decode cX8_fits 8 = .ok (.if_icmp .gt 18, 3) := dk_163 0 18 (dk_at dksX8_fits_0 8 rfl rfl)
theorem dX8_fits_11 : decode cX8_fits 11 = .ok (.aload_n 1, 1) := dk_43 (dk_at dksX8_fits_0 11 rfl rfl)
theorem dX8_fits_12 : decode cX8_fits 12 = .ok (.invokevirtual 22, 3) := dk_182 0 22 (dk_at dksX8_fits_0 12 rfl rfl)
theorem dX8_fits_15 : decode cX8_fits 15 = .ok (.aload_n 0, 1) := dk_42 (dk_at dksX8_fits_0 15 rfl rfl)
theorem dX8_fits_16 : decode cX8_fits 16 = .ok (.getfield 25, 3) := dk_180 0 25 (dk_at dksX8_fits_0 16 rfl rfl)
theorem dX8_fits_19 : decode cX8_fits 19 = .ok (.if_icmp .gt 7, 3) := dk_163 0 7 (dk_at dksX8_fits_0 19 rfl rfl)
theorem dX8_fits_22 : decode cX8_fits 22 = .ok (.iconst 1, 1) := dk_4 (dk_at dksX8_fits_0 22 rfl rfl)
theorem dX8_fits_23 : decode cX8_fits 23 = .ok (.goto 4, 3) := dk_167 0 4 (dk_at dksX8_fits_1 0 rfl rfl)
theorem dX8_fits_26 : decode cX8_fits 26 = .ok (.iconst 0, 1) := dk_3 (dk_at dksX8_fits_1 3 rfl rfl)
theorem dX8_fits_27 : decode cX8_fits 27 = .ok (.ireturn, 1) := dk_172 (dk_at dksX8_fits_1 4 rfl rfl)
abbrev cX8_take : ByteArray := prog_9_method_3_code
def yX8_take : MethodName := ⟨RX8, "take", "(LNeed;)V"⟩
def dkwX8_take_1 : List UInt8 := [181, 0, 25, 177]
abbrev dktX8_take_1 : List UInt8 := dkwX8_take_1 ++ []
def dkwX8_take_0 : List UInt8 := [42, 89, 180, 0, 19, 43, 182, 0, 13, 100, 181, 0, 19, 42, 89, 180, 0, 25, 43, 182, 0, 22, 100]
abbrev dktX8_take_0 : List UInt8 := dkwX8_take_0 ++ dktX8_take_1
theorem dksX8_take_0 : cX8_take.data.toList.drop 0 = dktX8_take_0 := by decide +kernel
theorem dksX8_take_1 : cX8_take.data.toList.drop 23 = dktX8_take_1 := dk_seg dksX8_take_0 23 rfl rfl
theorem dX8_take_0 : decode cX8_take 0 = .ok (.aload_n 0, 1) := dk_42 (dk_at dksX8_take_0 0 rfl rfl)
theorem dX8_take_1 : decode cX8_take 1 = .ok (.dup, 1) := dk_89 (dk_at dksX8_take_0 1 rfl rfl)
theorem dX8_take_2 : decode cX8_take 2 = .ok (.getfield 19, 3) := dk_180 0 19 (dk_at dksX8_take_0 2 rfl rfl)
theorem dX8_take_5 : decode cX8_take 5 = .ok (.aload_n 1, 1) := dk_43 (dk_at dksX8_take_0 5 rfl rfl)
theorem dX8_take_6 : decode cX8_take 6 = .ok (.invokevirtual 13, 3) := dk_182 0 13 (dk_at dksX8_take_0 6 rfl rfl)
theorem dX8_take_9 : decode cX8_take 9 = .ok (.isub, 1) := dk_100 (dk_at dksX8_take_0 9 rfl rfl)
theorem dX8_take_10 : decode cX8_take 10 = .ok (.putfield 19, 3) := dk_181 0 19 (dk_at dksX8_take_0 10 rfl rfl)
theorem dX8_take_13 : decode cX8_take 13 = .ok (.aload_n 0, 1) := dk_42 (dk_at dksX8_take_0 13 rfl rfl)
theorem dX8_take_14 : decode cX8_take 14 = .ok (.dup, 1) := dk_89 (dk_at dksX8_take_0 14 rfl rfl)
theorem dX8_take_15 : decode cX8_take 15 = .ok (.getfield 25, 3) := dk_180 0 25 (dk_at dksX8_take_0 15 rfl rfl)
theorem dX8_take_18 : decode cX8_take 18 = .ok (.aload_n 1, 1) := dk_43 (dk_at dksX8_take_0 18 rfl rfl)
theorem dX8_take_19 : decode cX8_take 19 = .ok (.invokevirtual 22, 3) := dk_182 0 22 (dk_at dksX8_take_0 19 rfl rfl)
theorem dX8_take_22 : decode cX8_take 22 = .ok (.isub, 1) := dk_100 (dk_at dksX8_take_0 22 rfl rfl)
theorem dX8_take_23 : decode cX8_take 23 = .ok (.putfield 25, 3) := dk_181 0 25 (dk_at dksX8_take_1 0 rfl rfl)
theorem dX8_take_26 : decode cX8_take 26 = .ok (.return_, 1) := dk_177 (dk_at dksX8_take_1 3 rfl rfl)
abbrev cX8_give : ByteArray := prog_9_method_4_code
def yX8_give : MethodName := ⟨RX8, "give", "(LNeed;)V"⟩
def dkwX8_give_1 : List UInt8 := [181, 0, 25, 177]
abbrev dktX8_give_1 : List UInt8 := dkwX8_give_1 ++ []
def dkwX8_give_0 : List UInt8 := [42, 89, 180, 0, 19, 43, 182, 0, 13, 96, 181, 0, 19, 42, 89, 180, 0, 25, 43, 182, 0, 22, 96]
abbrev dktX8_give_0 : List UInt8 := dkwX8_give_0 ++ dktX8_give_1
theorem dksX8_give_0 : cX8_give.data.toList.drop 0 = dktX8_give_0 := by decide +kernel
theorem dksX8_give_1 : cX8_give.data.toList.drop 23 = dktX8_give_1 := dk_seg dksX8_give_0 23 rfl rfl
theorem dX8_give_0 : decode cX8_give 0 = .ok (.aload_n 0, 1) := dk_42 (dk_at dksX8_give_0 0 rfl rfl)
theorem dX8_give_1 : decode cX8_give 1 = .ok (.dup, 1) := dk_89 (dk_at dksX8_give_0 1 rfl rfl)
theorem dX8_give_2 : decode cX8_give 2 = .ok (.getfield 19, 3) := dk_180 0 19 (dk_at dksX8_give_0 2 rfl rfl)
theorem dX8_give_5 : decode cX8_give 5 = .ok (.aload_n 1, 1) := dk_43 (dk_at dksX8_give_0 5 rfl rfl)
theorem dX8_give_6 : decode cX8_give 6 = .ok (.invokevirtual 13, 3) := dk_182 0 13 (dk_at dksX8_give_0 6 rfl rfl)
theorem dX8_give_9 : decode cX8_give 9 = .ok (.iadd, 1) := dk_96 (dk_at dksX8_give_0 9 rfl rfl)
theorem dX8_give_10 : decode cX8_give 10 = .ok (.putfield 19, 3) := dk_181 0 19 (dk_at dksX8_give_0 10 rfl rfl)
theorem dX8_give_13 : decode cX8_give 13 = .ok (.aload_n 0, 1) := dk_42 (dk_at dksX8_give_0 13 rfl rfl)
theorem dX8_give_14 : decode cX8_give 14 = .ok (.dup, 1) := dk_89 (dk_at dksX8_give_0 14 rfl rfl)
theorem dX8_give_15 : decode cX8_give 15 = .ok (.getfield 25, 3) := dk_180 0 25 (dk_at dksX8_give_0 15 rfl rfl)
theorem dX8_give_18 : decode cX8_give 18 = .ok (.aload_n 1, 1) := dk_43 (dk_at dksX8_give_0 18 rfl rfl)
theorem dX8_give_19 : decode cX8_give 19 = .ok (.invokevirtual 22, 3) := dk_182 0 22 (dk_at dksX8_give_0 19 rfl rfl)
theorem dX8_give_22 : decode cX8_give 22 = .ok (.iadd, 1) := dk_96 (dk_at dksX8_give_0 22 rfl rfl)
theorem dX8_give_23 : decode cX8_give 23 = .ok (.putfield 25, 3) := dk_181 0 25 (dk_at dksX8_give_1 0 rfl rfl)
theorem dX8_give_26 : decode cX8_give 26 = .ok (.return_, 1) := dk_177 (dk_at dksX8_give_1 3 rfl rfl)
abbrev cX8_toString : ByteArray := prog_9_method_5_code
def yX8_toString : MethodName := ⟨RX8, "toString", "()Ljava/lang/String;"⟩
def dkwX8_toString_1 : List UInt8 := [180, 0, 25, 182, 0, 30, 182, 0, 37, 176]
abbrev dktX8_toString_1 : List UInt8 := dkwX8_toString_1 ++ []
def dkwX8_toString_0 : List UInt8 := [187, 0, 27, 89, 183, 0, 29, 76, 43, 42, 180, 0, 19, 182, 0, 30, 16, 47, 182, 0, 34, 42]
abbrev dktX8_toString_0 : List UInt8 := dkwX8_toString_0 ++ dktX8_toString_1
theorem dksX8_toString_0 : cX8_toString.data.toList.drop 0 = dktX8_toString_0 := by decide +kernel
theorem dksX8_toString_1 : cX8_toString.data.toList.drop 22 = dktX8_toString_1 := dk_seg dksX8_toString_0 22 rfl rfl
theorem dX8_toString_0 : decode cX8_toString 0 = .ok (.new 27, 3) := dk_187 0 27 (dk_at dksX8_toString_0 0 rfl rfl)
theorem dX8_toString_3 : decode cX8_toString 3 = .ok (.dup, 1) := dk_89 (dk_at dksX8_toString_0 3 rfl rfl)
theorem dX8_toString_4 : decode cX8_toString 4 = .ok (.invokespecial 29, 3) := dk_183 0 29 (dk_at dksX8_toString_0 4 rfl rfl)
theorem dX8_toString_7 : decode cX8_toString 7 = .ok (.astore_n 1, 1) := dk_76 (dk_at dksX8_toString_0 7 rfl rfl)
theorem dX8_toString_8 : decode cX8_toString 8 = .ok (.aload_n 1, 1) := dk_43 (dk_at dksX8_toString_0 8 rfl rfl)
theorem dX8_toString_9 : decode cX8_toString 9 = .ok (.aload_n 0, 1) := dk_42 (dk_at dksX8_toString_0 9 rfl rfl)
theorem dX8_toString_10 : decode cX8_toString 10 = .ok (.getfield 19, 3) := dk_180 0 19 (dk_at dksX8_toString_0 10 rfl rfl)
theorem dX8_toString_13 : decode cX8_toString 13 = .ok (.invokevirtual 30, 3) := dk_182 0 30 (dk_at dksX8_toString_0 13 rfl rfl)
theorem dX8_toString_16 : decode cX8_toString 16 = .ok (.bipush 47, 2) := dk_16 47 (dk_at dksX8_toString_0 16 rfl rfl)
theorem dX8_toString_18 : decode cX8_toString 18 = .ok (.invokevirtual 34, 3) := dk_182 0 34 (dk_at dksX8_toString_0 18 rfl rfl)
theorem dX8_toString_21 : decode cX8_toString 21 = .ok (.aload_n 0, 1) := dk_42 (dk_at dksX8_toString_0 21 rfl rfl)
theorem dX8_toString_22 : decode cX8_toString 22 = .ok (.getfield 25, 3) := dk_180 0 25 (dk_at dksX8_toString_1 0 rfl rfl)
theorem dX8_toString_25 : decode cX8_toString 25 = .ok (.invokevirtual 30, 3) := dk_182 0 30 (dk_at dksX8_toString_1 3 rfl rfl)
theorem dX8_toString_28 : decode cX8_toString 28 = .ok (.invokevirtual 37, 3) := dk_182 0 37 (dk_at dksX8_toString_1 6 rfl rfl)
theorem dX8_toString_31 : decode cX8_toString 31 = .ok (.areturn, 1) := dk_176 (dk_at dksX8_toString_1 9 rfl rfl)
theorem q63 : (Jvm.Cond.initialized "CrateYard$Room") ∈ lw_all := lw_g (lw_at lw_m1 30 rfl) rfl
theorem q304 : (Jvm.Cond.instanceMethod ({ cls := "CrateYard$Room", name := "<init>", desc := "(LNeed;)V" } : Jvm.MethodName)) ∈ lw_all := lw_g (lw_at lw_m2 31 rfl) rfl
theorem q305 : (Jvm.Cond.code ({ cls := "CrateYard$Room", name := "<init>", desc := "(LNeed;)V" } : Jvm.MethodName) prog_9_method_1_code (2 : Nat) (Option.none : Option Jvm.ClassFile.FieldType)) ∈ lw_all := lw_g (lw_at lw_m2 32 rfl) rfl
theorem q306 : (Jvm.Cond.methodLink "CrateYard$Room" (1 : Nat) ({ cls := "java/lang/Object", name := "<init>", desc := "()V" } : Jvm.MethodName)) ∈ lw_all := lw_g (lw_at lw_m2 33 rfl) rfl
theorem q307 : (Jvm.Cond.methodLink "CrateYard$Room" (13 : Nat) ({ cls := "Need", name := "cores", desc := "()I" } : Jvm.MethodName)) ∈ lw_all := lw_g (lw_at lw_m2 34 rfl) rfl
theorem q311 : (Jvm.Cond.methodLink "CrateYard$Room" (22 : Nat) ({ cls := "Need", name := "memory", desc := "()I" } : Jvm.MethodName)) ∈ lw_all := lw_g (lw_at lw_m2 38 rfl) rfl
theorem q317 : (Jvm.Cond.fieldLink "CrateYard$Room" (7 : Nat) "CrateYard$Room" "whole" "LNeed;") ∈ lw_all := lw_g (lw_at lw_m2 44 rfl) rfl
theorem q320 : (Jvm.Cond.fieldLink "CrateYard$Room" (19 : Nat) "CrateYard$Room" "cores" "I") ∈ lw_all := lw_g (lw_at lw_m2 47 rfl) rfl
theorem q323 : (Jvm.Cond.fieldLink "CrateYard$Room" (25 : Nat) "CrateYard$Room" "memory" "I") ∈ lw_all := lw_g (lw_at lw_m2 50 rfl) rfl
theorem q328 : (Jvm.Cond.soleField "CrateYard$Room" "whole") ∈ lw_all := lw_g (lw_at lw_m2 55 rfl) rfl
theorem q330 : (Jvm.Cond.soleField "CrateYard$Room" "cores") ∈ lw_all := lw_g (lw_at lw_m2 57 rfl) rfl
theorem q332 : (Jvm.Cond.soleField "CrateYard$Room" "memory") ∈ lw_all := lw_g (lw_at lw_m2 59 rfl) rfl
theorem q465 : (Jvm.Cond.declares ({ cls := "CrateYard$Room", name := "fits", desc := "(LNeed;)Z" } : Jvm.MethodName)) ∈ lw_tbl := lw_at lw_m2 192 rfl
theorem q467 : (Jvm.Cond.instanceMethod ({ cls := "CrateYard$Room", name := "fits", desc := "(LNeed;)Z" } : Jvm.MethodName)) ∈ lw_all := lw_g (lw_at lw_m2 194 rfl) rfl
theorem q468 : (Jvm.Cond.code ({ cls := "CrateYard$Room", name := "fits", desc := "(LNeed;)Z" } : Jvm.MethodName) prog_9_method_2_code (2 : Nat) (Option.some Jvm.ClassFile.FieldType.boolean)) ∈ lw_all := lw_g (lw_at lw_m2 195 rfl) rfl
theorem q481 : (Jvm.Cond.declares ({ cls := "CrateYard$Room", name := "take", desc := "(LNeed;)V" } : Jvm.MethodName)) ∈ lw_tbl := lw_at lw_m2 208 rfl
theorem q483 : (Jvm.Cond.instanceMethod ({ cls := "CrateYard$Room", name := "take", desc := "(LNeed;)V" } : Jvm.MethodName)) ∈ lw_all := lw_g (lw_at lw_m2 210 rfl) rfl
theorem q484 : (Jvm.Cond.code ({ cls := "CrateYard$Room", name := "take", desc := "(LNeed;)V" } : Jvm.MethodName) prog_9_method_3_code (2 : Nat) (Option.none : Option Jvm.ClassFile.FieldType)) ∈ lw_all := lw_g (lw_at lw_m2 211 rfl) rfl
theorem q813 : (Jvm.Cond.declares ({ cls := "CrateYard$Room", name := "give", desc := "(LNeed;)V" } : Jvm.MethodName)) ∈ lw_tbl := lw_at lw_m4 60 rfl
theorem q815 : (Jvm.Cond.instanceMethod ({ cls := "CrateYard$Room", name := "give", desc := "(LNeed;)V" } : Jvm.MethodName)) ∈ lw_all := lw_g (lw_at lw_m4 62 rfl) rfl
theorem q816 : (Jvm.Cond.code ({ cls := "CrateYard$Room", name := "give", desc := "(LNeed;)V" } : Jvm.MethodName) prog_9_method_4_code (2 : Nat) (Option.none : Option Jvm.ClassFile.FieldType)) ∈ lw_all := lw_g (lw_at lw_m4 63 rfl) rfl
theorem q1206 : (Jvm.Cond.instanceMethod ({ cls := "CrateYard$Room", name := "toString", desc := "()Ljava/lang/String;" } : Jvm.MethodName)) ∈ lw_all := lw_g (lw_at lw_m5 213 rfl) rfl
theorem q1207 : (Jvm.Cond.code ({ cls := "CrateYard$Room", name := "toString", desc := "()Ljava/lang/String;" } : Jvm.MethodName) prog_9_method_5_code (2 : Nat) (Option.some (Jvm.ClassFile.FieldType.object "java/lang/String"))) ∈ lw_all := lw_g (lw_at lw_m5 214 rfl) rfl
theorem q1208 : (Jvm.Cond.classLink "CrateYard$Room" (27 : Nat) "java/lang/StringBuilder") ∈ lw_all := lw_g (lw_at lw_m5 215 rfl) rfl
theorem q1209 : (Jvm.Cond.methodLink "CrateYard$Room" (29 : Nat) ({ cls := "java/lang/StringBuilder", name := "<init>", desc := "()V" } : Jvm.MethodName)) ∈ lw_all := lw_g (lw_at lw_m5 216 rfl) rfl
theorem q1210 : (Jvm.Cond.methodLink "CrateYard$Room" (30 : Nat) ({ cls := "java/lang/StringBuilder", name := "append", desc := "(I)Ljava/lang/StringBuilder;" } : Jvm.MethodName)) ∈ lw_all := lw_g (lw_at lw_m5 217 rfl) rfl
theorem q1211 : (Jvm.Cond.methodLink "CrateYard$Room" (34 : Nat) ({ cls := "java/lang/StringBuilder", name := "append", desc := "(C)Ljava/lang/StringBuilder;" } : Jvm.MethodName)) ∈ lw_all := lw_g (lw_at lw_m5 218 rfl) rfl
theorem q1212 : (Jvm.Cond.methodLink "CrateYard$Room" (37 : Nat) ({ cls := "java/lang/StringBuilder", name := "toString", desc := "()Ljava/lang/String;" } : Jvm.MethodName)) ∈ lw_all := lw_g (lw_at lw_m5 219 rfl) rfl
theorem q1757 : (Jvm.Cond.sameMethod "CrateYard$Room" "CrateYard$Room" "toString" "()Ljava/lang/String;") ∈ lw_all := lw_g (lw_at lw_m8 44 rfl) rfl

/-! CrateYard$Host -/
set_option maxRecDepth 100000
def RX9 : String := "CrateYard$Host"
def TX9 : u_T := fun k => match k with
  | 0 => ("CrateYard$Room", "whole", "LNeed;", true)
  | 1 => ("CrateYard$Room", "cores", "I", false)
  | 2 => ("CrateYard$Room", "memory", "I", false)
  | _ => ("CrateYard$Host", "number", "I", true)
def tyX9 : Nat → FieldType := fun k => match k with
  | 0 => .object "Need"
  | 1 => .int
  | 2 => .int
  | _ => .int
abbrev wsX90 : List Cond := u_ws RX9 TX9 4
theorem nmX9 : ∀ a, a < 4 → ∀ b, b < 4 → a ≠ b → (TX9 a).2.1 ≠ (TX9 b).2.1 := by decide +kernel
theorem tyX9_ok : ∀ k, k < 4 → parseFieldDescriptor (TX9 k).2.2.1 = some (tyX9 k) := by decide +kernel
abbrev cX9_init : ByteArray := prog_4_method_2_code
def yX9_init : MethodName := ⟨RX9, "<init>", "(LCrateYard$Host;)V"⟩
def dkwX9_init_0 : List UInt8 := [42, 43, 180, 0, 7, 43, 180, 0, 13, 183, 0, 17, 177]
abbrev dktX9_init_0 : List UInt8 := dkwX9_init_0 ++ []
theorem dksX9_init_0 : cX9_init.data.toList.drop 0 = dktX9_init_0 := by decide +kernel
theorem dX9_init_0 : decode cX9_init 0 = .ok (.aload_n 0, 1) := dk_42 (dk_at dksX9_init_0 0 rfl rfl)
theorem dX9_init_1 : decode cX9_init 1 = .ok (.aload_n 1, 1) := dk_43 (dk_at dksX9_init_0 1 rfl rfl)
theorem dX9_init_2 : decode cX9_init 2 = .ok (.getfield 7, 3) := dk_180 0 7 (dk_at dksX9_init_0 2 rfl rfl)
theorem dX9_init_5 : decode cX9_init 5 = .ok (.aload_n 1, 1) := dk_43 (dk_at dksX9_init_0 5 rfl rfl)
theorem dX9_init_6 : decode cX9_init 6 = .ok (.getfield 13, 3) := dk_180 0 13 (dk_at dksX9_init_0 6 rfl rfl)
theorem dX9_init_9 : decode cX9_init 9 = .ok (.invokespecial 17, 3) := dk_183 0 17 (dk_at dksX9_init_0 9 rfl rfl)
theorem dX9_init_12 : decode cX9_init 12 = .ok (.return_, 1) := dk_177 (dk_at dksX9_init_0 12 rfl rfl)
abbrev cX9_init_2 : ByteArray := prog_4_method_1_code
def yX9_init_2 : MethodName := ⟨RX9, "<init>", "(ILNeed;)V"⟩
def dkwX9_init_2_0 : List UInt8 := [42, 44, 183, 0, 1, 42, 27, 181, 0, 7, 177]
abbrev dktX9_init_2_0 : List UInt8 := dkwX9_init_2_0 ++ []
theorem dksX9_init_2_0 : cX9_init_2.data.toList.drop 0 = dktX9_init_2_0 := by decide +kernel
theorem dX9_init_2_0 : decode cX9_init_2 0 = .ok (.aload_n 0, 1) := dk_42 (dk_at dksX9_init_2_0 0 rfl rfl)
theorem dX9_init_2_1 : decode cX9_init_2 1 = .ok (.aload_n 2, 1) := dk_44 (dk_at dksX9_init_2_0 1 rfl rfl)
theorem dX9_init_2_2 : decode cX9_init_2 2 = .ok (.invokespecial 1, 3) := dk_183 0 1 (dk_at dksX9_init_2_0 2 rfl rfl)
theorem dX9_init_2_5 : decode cX9_init_2 5 = .ok (.aload_n 0, 1) := dk_42 (dk_at dksX9_init_2_0 5 rfl rfl)
theorem dX9_init_2_6 : decode cX9_init_2 6 = .ok (.iload_n 1, 1) := dk_27 (dk_at dksX9_init_2_0 6 rfl rfl)
theorem dX9_init_2_7 : decode cX9_init_2 7 = .ok (.putfield 7, 3) := dk_181 0 7 (dk_at dksX9_init_2_0 7 rfl rfl)
theorem dX9_init_2_10 : decode cX9_init_2 10 = .ok (.return_, 1) := dk_177 (dk_at dksX9_init_2_0 10 rfl rfl)
abbrev cX9_toString : ByteArray := prog_4_method_3_code
def yX9_toString : MethodName := ⟨RX9, "toString", "()Ljava/lang/String;"⟩
def dkwX9_toString_1 : List UInt8 := [182, 0, 25, 42, 183, 0, 32, 182, 0, 36, 182, 0, 39, 176]
abbrev dktX9_toString_1 : List UInt8 := dkwX9_toString_1 ++ []
def dkwX9_toString_0 : List UInt8 := [187, 0, 20, 89, 183, 0, 22, 76, 43, 16, 104, 182, 0, 25, 42, 180, 0, 7, 182, 0, 29, 16, 58]
abbrev dktX9_toString_0 : List UInt8 := dkwX9_toString_0 ++ dktX9_toString_1
theorem dksX9_toString_0 : cX9_toString.data.toList.drop 0 = dktX9_toString_0 := by decide +kernel
theorem dksX9_toString_1 : cX9_toString.data.toList.drop 23 = dktX9_toString_1 := dk_seg dksX9_toString_0 23 rfl rfl
theorem dX9_toString_0 : decode cX9_toString 0 = .ok (.new 20, 3) := dk_187 0 20 (dk_at dksX9_toString_0 0 rfl rfl)
theorem dX9_toString_3 : decode cX9_toString 3 = .ok (.dup, 1) := dk_89 (dk_at dksX9_toString_0 3 rfl rfl)
theorem dX9_toString_4 : decode cX9_toString 4 = .ok (.invokespecial 22, 3) := dk_183 0 22 (dk_at dksX9_toString_0 4 rfl rfl)
theorem dX9_toString_7 : decode cX9_toString 7 = .ok (.astore_n 1, 1) := dk_76 (dk_at dksX9_toString_0 7 rfl rfl)
theorem dX9_toString_8 : decode cX9_toString 8 = .ok (.aload_n 1, 1) := dk_43 (dk_at dksX9_toString_0 8 rfl rfl)
theorem dX9_toString_9 : decode cX9_toString 9 = .ok (.bipush 104, 2) := dk_16 104 (dk_at dksX9_toString_0 9 rfl rfl)
theorem dX9_toString_11 : decode cX9_toString 11 = .ok (.invokevirtual 25, 3) := dk_182 0 25 (dk_at dksX9_toString_0 11 rfl rfl)
theorem dX9_toString_14 : decode cX9_toString 14 = .ok (.aload_n 0, 1) := dk_42 (dk_at dksX9_toString_0 14 rfl rfl)
theorem dX9_toString_15 : decode cX9_toString 15 = .ok (.getfield 7, 3) := dk_180 0 7 (dk_at dksX9_toString_0 15 rfl rfl)
theorem dX9_toString_18 : decode cX9_toString 18 = .ok (.invokevirtual 29, 3) := dk_182 0 29 (dk_at dksX9_toString_0 18 rfl rfl)
theorem dX9_toString_21 : decode cX9_toString 21 = .ok (.bipush 58, 2) := dk_16 58 (dk_at dksX9_toString_0 21 rfl rfl)
theorem dX9_toString_23 : decode cX9_toString 23 = .ok (.invokevirtual 25, 3) := dk_182 0 25 (dk_at dksX9_toString_1 0 rfl rfl)
theorem dX9_toString_26 : decode cX9_toString 26 = .ok (.aload_n 0, 1) := dk_42 (dk_at dksX9_toString_1 3 rfl rfl)
theorem dX9_toString_27 : decode cX9_toString 27 = .ok (.invokespecial 32, 3) := dk_183 0 32 (dk_at dksX9_toString_1 4 rfl rfl)
theorem dX9_toString_30 : decode cX9_toString 30 = .ok (.invokevirtual 36, 3) := dk_182 0 36 (dk_at dksX9_toString_1 7 rfl rfl)
theorem dX9_toString_33 : decode cX9_toString 33 = .ok (.invokevirtual 39, 3) := dk_182 0 39 (dk_at dksX9_toString_1 10 rfl rfl)
theorem dX9_toString_36 : decode cX9_toString 36 = .ok (.areturn, 1) := dk_176 (dk_at dksX9_toString_1 13 rfl rfl)
theorem q64 : (Jvm.Cond.initialized "CrateYard$Host") ∈ lw_all := lw_g (lw_at lw_m1 31 rfl) rfl
theorem q296 : (Jvm.Cond.instantiable "CrateYard$Host" (4 : Nat)) ∈ lw_all := lw_g (lw_at lw_m2 23 rfl) rfl
theorem q298 : (Jvm.Cond.instanceMethod ({ cls := "CrateYard$Host", name := "<init>", desc := "(LCrateYard$Host;)V" } : Jvm.MethodName)) ∈ lw_all := lw_g (lw_at lw_m2 25 rfl) rfl
theorem q299 : (Jvm.Cond.code ({ cls := "CrateYard$Host", name := "<init>", desc := "(LCrateYard$Host;)V" } : Jvm.MethodName) prog_4_method_2_code (2 : Nat) (Option.none : Option Jvm.ClassFile.FieldType)) ∈ lw_all := lw_g (lw_at lw_m2 26 rfl) rfl
theorem q300 : (Jvm.Cond.methodLink "CrateYard$Host" (17 : Nat) ({ cls := "CrateYard$Host", name := "<init>", desc := "(ILNeed;)V" } : Jvm.MethodName)) ∈ lw_all := lw_g (lw_at lw_m2 27 rfl) rfl
theorem q301 : (Jvm.Cond.instanceMethod ({ cls := "CrateYard$Host", name := "<init>", desc := "(ILNeed;)V" } : Jvm.MethodName)) ∈ lw_all := lw_g (lw_at lw_m2 28 rfl) rfl
theorem q302 : (Jvm.Cond.code ({ cls := "CrateYard$Host", name := "<init>", desc := "(ILNeed;)V" } : Jvm.MethodName) prog_4_method_1_code (3 : Nat) (Option.none : Option Jvm.ClassFile.FieldType)) ∈ lw_all := lw_g (lw_at lw_m2 29 rfl) rfl
theorem q303 : (Jvm.Cond.methodLink "CrateYard$Host" (1 : Nat) ({ cls := "CrateYard$Room", name := "<init>", desc := "(LNeed;)V" } : Jvm.MethodName)) ∈ lw_all := lw_g (lw_at lw_m2 30 rfl) rfl
theorem q315 : (Jvm.Cond.fieldLink "CrateYard$Host" (7 : Nat) "CrateYard$Host" "number" "I") ∈ lw_all := lw_g (lw_at lw_m2 42 rfl) rfl
theorem q318 : (Jvm.Cond.fieldLinkNest "CrateYard$Host" (13 : Nat) "CrateYard$Room" "whole" "LNeed;" "CrateYard") ∈ lw_tbl := lw_at lw_m2 45 rfl
theorem q325 : (Jvm.Cond.laysFinal "CrateYard$Host" "CrateYard$Host" "number" "I") ∈ lw_all := lw_g (lw_at lw_m2 52 rfl) rfl
theorem q326 : (Jvm.Cond.soleField "CrateYard$Host" "number") ∈ lw_all := lw_g (lw_at lw_m2 53 rfl) rfl
theorem q327 : (Jvm.Cond.laysFinal "CrateYard$Host" "CrateYard$Room" "whole" "LNeed;") ∈ lw_all := lw_g (lw_at lw_m2 54 rfl) rfl
theorem q329 : (Jvm.Cond.lays "CrateYard$Host" "CrateYard$Room" "cores" "I") ∈ lw_all := lw_g (lw_at lw_m2 56 rfl) rfl
theorem q331 : (Jvm.Cond.lays "CrateYard$Host" "CrateYard$Room" "memory" "I") ∈ lw_all := lw_g (lw_at lw_m2 58 rfl) rfl
theorem q333 : (Jvm.Cond.superclass "CrateYard$Host" "CrateYard$Room") ∈ lw_all := lw_g (lw_at lw_m2 60 rfl) rfl
theorem q374 : (Jvm.Cond.selects "CrateYard$Host" ({ cls := "java/lang/Object", name := "getClass", desc := "()Ljava/lang/Class;" } : Jvm.MethodName) ({ cls := "java/lang/Object", name := "getClass", desc := "()Ljava/lang/Class;" } : Jvm.MethodName)) ∈ lw_all := lw_g (lw_at lw_m2 101 rfl) rfl
theorem q464 : (Jvm.Cond.sameMethod "CrateYard$Host" "CrateYard$Room" "fits" "(LNeed;)Z") ∈ lw_all := lw_g (lw_at lw_m2 191 rfl) rfl
theorem q466 : (Jvm.Cond.selects "CrateYard$Host" ({ cls := "CrateYard$Host", name := "fits", desc := "(LNeed;)Z" } : Jvm.MethodName) ({ cls := "CrateYard$Room", name := "fits", desc := "(LNeed;)Z" } : Jvm.MethodName)) ∈ lw_all := lw_g (lw_at lw_m2 193 rfl) rfl
theorem q480 : (Jvm.Cond.sameMethod "CrateYard$Host" "CrateYard$Room" "take" "(LNeed;)V") ∈ lw_all := lw_g (lw_at lw_m2 207 rfl) rfl
theorem q482 : (Jvm.Cond.selects "CrateYard$Host" ({ cls := "CrateYard$Host", name := "take", desc := "(LNeed;)V" } : Jvm.MethodName) ({ cls := "CrateYard$Room", name := "take", desc := "(LNeed;)V" } : Jvm.MethodName)) ∈ lw_all := lw_g (lw_at lw_m2 209 rfl) rfl
theorem q812 : (Jvm.Cond.sameMethod "CrateYard$Host" "CrateYard$Room" "give" "(LNeed;)V") ∈ lw_all := lw_g (lw_at lw_m4 59 rfl) rfl
theorem q814 : (Jvm.Cond.selects "CrateYard$Host" ({ cls := "CrateYard$Host", name := "give", desc := "(LNeed;)V" } : Jvm.MethodName) ({ cls := "CrateYard$Room", name := "give", desc := "(LNeed;)V" } : Jvm.MethodName)) ∈ lw_all := lw_g (lw_at lw_m4 61 rfl) rfl
theorem q1088 : (Jvm.Cond.instanceMethod ({ cls := "CrateYard$Host", name := "toString", desc := "()Ljava/lang/String;" } : Jvm.MethodName)) ∈ lw_all := lw_g (lw_at lw_m5 95 rfl) rfl
theorem q1089 : (Jvm.Cond.selects "CrateYard$Host" ({ cls := "CrateYard$Host", name := "toString", desc := "()Ljava/lang/String;" } : Jvm.MethodName) ({ cls := "CrateYard$Host", name := "toString", desc := "()Ljava/lang/String;" } : Jvm.MethodName)) ∈ lw_all := lw_g (lw_at lw_m5 96 rfl) rfl
theorem q1090 : (Jvm.Cond.code ({ cls := "CrateYard$Host", name := "toString", desc := "()Ljava/lang/String;" } : Jvm.MethodName) prog_4_method_3_code (2 : Nat) (Option.some (Jvm.ClassFile.FieldType.object "java/lang/String"))) ∈ lw_all := lw_g (lw_at lw_m5 97 rfl) rfl
theorem q1091 : (Jvm.Cond.classLink "CrateYard$Host" (20 : Nat) "java/lang/StringBuilder") ∈ lw_all := lw_g (lw_at lw_m5 98 rfl) rfl
theorem q1092 : (Jvm.Cond.methodLink "CrateYard$Host" (22 : Nat) ({ cls := "java/lang/StringBuilder", name := "<init>", desc := "()V" } : Jvm.MethodName)) ∈ lw_all := lw_g (lw_at lw_m5 99 rfl) rfl
theorem q1093 : (Jvm.Cond.methodLink "CrateYard$Host" (25 : Nat) ({ cls := "java/lang/StringBuilder", name := "append", desc := "(C)Ljava/lang/StringBuilder;" } : Jvm.MethodName)) ∈ lw_all := lw_g (lw_at lw_m5 100 rfl) rfl
theorem q1171 : (Jvm.Cond.methodLink "CrateYard$Host" (29 : Nat) ({ cls := "java/lang/StringBuilder", name := "append", desc := "(I)Ljava/lang/StringBuilder;" } : Jvm.MethodName)) ∈ lw_all := lw_g (lw_at lw_m5 178 rfl) rfl
theorem q1205 : (Jvm.Cond.methodLink "CrateYard$Host" (32 : Nat) ({ cls := "CrateYard$Room", name := "toString", desc := "()Ljava/lang/String;" } : Jvm.MethodName)) ∈ lw_all := lw_g (lw_at lw_m5 212 rfl) rfl
theorem q1315 : (Jvm.Cond.methodLink "CrateYard$Host" (36 : Nat) ({ cls := "java/lang/StringBuilder", name := "append", desc := "(Ljava/lang/String;)Ljava/lang/StringBuilder;" } : Jvm.MethodName)) ∈ lw_all := lw_g (lw_at lw_m6 82 rfl) rfl
theorem q1316 : (Jvm.Cond.methodLink "CrateYard$Host" (39 : Nat) ({ cls := "java/lang/StringBuilder", name := "toString", desc := "()Ljava/lang/String;" } : Jvm.MethodName)) ∈ lw_all := lw_g (lw_at lw_m6 83 rfl) rfl
theorem q1780 : (Jvm.Cond.castable "CrateYard$Host" "java/lang/Object") ∈ lw_tbl := lw_at lw_m8 67 rfl
theorem in_X9 : ∀ w ∈ wsX90, w ∈ lw_all := lw_in wsX90 [327, 329, 331, 325] (by decide +kernel) (by decide +kernel)
