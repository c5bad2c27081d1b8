/-! LinkResolverModel -/
set_option maxRecDepth 100000
def RX2 : String := "LinkResolverModel"
def TX2 : u_T := fun k => match k with
  | 0 => ("LinkResolverModel", "thrown", "I", false)
  | 1 => ("LinkResolverModel", "today", "I", false)
  | 2 => ("LinkResolverModel", "titles", "I", false)
  | 3 => ("LinkResolverModel", "packages", "I", false)
  | 4 => ("LinkResolverModel", "firstYears", "[I", true)
  | 5 => ("LinkResolverModel", "volumes", "[I", true)
  | 6 => ("LinkResolverModel", "costs", "[I", true)
  | 7 => ("LinkResolverModel", "versions", "[I", true)
  | 8 => ("LinkResolverModel", "groups", "[I", true)
  | 9 => ("LinkResolverModel", "keeps", "[Z", true)
  | 10 => ("LinkResolverModel", "breaks", "[I", true)
  | 11 => ("LinkResolverModel", "changes", "I", false)
  | 12 => ("LinkResolverModel", "ofWhat", "[I", true)
  | 13 => ("LinkResolverModel", "days", "[I", true)
  | 14 => ("LinkResolverModel", "isOn", "[Z", true)
  | 15 => ("LinkResolverModel", "firsts", "[I", true)
  | 16 => ("LinkResolverModel", "lasts", "[I", true)
  | _ => ("LinkResolverModel", "walls", "[I", true)
def tyX2 : Nat → FieldType := fun k => match k with
  | 0 => .int
  | 1 => .int
  | 2 => .int
  | 3 => .int
  | 4 => .array .int
  | 5 => .array .int
  | 6 => .array .int
  | 7 => .array .int
  | 8 => .array .int
  | 9 => .array .boolean
  | 10 => .array .int
  | 11 => .int
  | 12 => .array .int
  | 13 => .array .int
  | 14 => .array .boolean
  | 15 => .array .int
  | 16 => .array .int
  | _ => .array .int
abbrev wsX20 : List Cond := u_ws RX2 TX2 18
set_option maxRecDepth 100000 in
theorem nmX2 : ∀ a, a < 18 → ∀ b, b < 18 → a ≠ b → (TX2 a).2.1 ≠ (TX2 b).2.1 := by decide +kernel
set_option maxRecDepth 100000 in
theorem tyX2_ok : ∀ k, k < 18 → parseFieldDescriptor (TX2 k).2.2.1 = some (tyX2 k) := by decide +kernel
abbrev cX2_init : ByteArray := prog_7_method_1_code
def yX2_init : MethodName := ⟨RX2, "<init>", "()V"⟩
def dkwX2_init_4 : List UInt8 := [181, 0, 41, 42, 17, 16, 0, 188, 10, 181, 0, 44, 42, 17, 16, 0, 188, 10, 181, 0, 47, 177]
abbrev dktX2_init_4 : List UInt8 := dkwX2_init_4 ++ []
def dkwX2_init_3 : List UInt8 := [17, 16, 0, 188, 10, 181, 0, 35, 42, 17, 16, 0, 188, 4, 181, 0, 38, 42, 17, 16, 0, 188, 10]
abbrev dktX2_init_3 : List UInt8 := dkwX2_init_3 ++ dktX2_init_4
def dkwX2_init_2 : List UInt8 := [188, 4, 181, 0, 25, 42, 17, 0, 200, 188, 10, 181, 0, 29, 42, 17, 16, 0, 188, 10, 181, 0, 32, 42]
abbrev dktX2_init_2 : List UInt8 := dkwX2_init_2 ++ dktX2_init_3
def dkwX2_init_1 : List UInt8 := [188, 10, 181, 0, 16, 42, 16, 10, 188, 10, 181, 0, 19, 42, 16, 10, 188, 10, 181, 0, 22, 42, 16, 10]
abbrev dktX2_init_1 : List UInt8 := dkwX2_init_1 ++ dktX2_init_2
def dkwX2_init_0 : List UInt8 := [42, 183, 0, 1, 42, 16, 20, 188, 10, 181, 0, 7, 42, 16, 20, 188, 10, 181, 0, 13, 42, 16, 10]
abbrev dktX2_init_0 : List UInt8 := dkwX2_init_0 ++ dktX2_init_1
theorem dksX2_init_0 : cX2_init.data.toList.drop 0 = dktX2_init_0 := by decide +kernel
theorem dksX2_init_1 : cX2_init.data.toList.drop 23 = dktX2_init_1 := dk_seg dksX2_init_0 23 rfl rfl
theorem dksX2_init_2 : cX2_init.data.toList.drop 47 = dktX2_init_2 := dk_seg dksX2_init_1 24 rfl rfl
theorem dksX2_init_3 : cX2_init.data.toList.drop 71 = dktX2_init_3 := dk_seg dksX2_init_2 24 rfl rfl
theorem dksX2_init_4 : cX2_init.data.toList.drop 94 = dktX2_init_4 := dk_seg dksX2_init_3 23 rfl rfl
theorem dX2_init_0 : decode cX2_init 0 = .ok (.aload_n 0, 1) := dk_42 (dk_at dksX2_init_0 0 rfl rfl)
theorem dX2_init_1 : decode cX2_init 1 = .ok (.invokespecial 1, 3) := dk_183 0 1 (dk_at dksX2_init_0 1 rfl rfl)
theorem dX2_init_4 : decode cX2_init 4 = .ok (.aload_n 0, 1) := dk_42 (dk_at dksX2_init_0 4 rfl rfl)
theorem dX2_init_5 : decode cX2_init 5 = .ok (.bipush 20, 2) := dk_16 20 (dk_at dksX2_init_0 5 rfl rfl)
theorem dX2_init_7 : decode cX2_init 7 = .ok (.newarray .int, 2) := dk_188_10 (dk_at dksX2_init_0 7 rfl rfl)
theorem dX2_init_9 : decode cX2_init 9 = .ok (.putfield 7, 3) := dk_181 0 7 (dk_at dksX2_init_0 9 rfl rfl)
theorem dX2_init_12 : decode cX2_init 12 = .ok (.aload_n 0, 1) := dk_42 (dk_at dksX2_init_0 12 rfl rfl)
theorem dX2_init_13 : decode cX2_init 13 = .ok (.bipush 20, 2) := dk_16 20 (dk_at dksX2_init_0 13 rfl rfl)
theorem dX2_init_15 : decode cX2_init 15 = .ok (.newarray .int, 2) := dk_188_10 (dk_at dksX2_init_0 15 rfl rfl)
theorem dX2_init_17 : decode cX2_init 17 = .ok (.putfield 13, 3) := dk_181 0 13 (dk_at dksX2_init_0 17 rfl rfl)
theorem dX2_init_20 : decode cX2_init 20 = .ok (.aload_n 0, 1) := dk_42 (dk_at dksX2_init_0 20 rfl rfl)
theorem dX2_init_21 : decode cX2_init 21 = .ok (.bipush 10, 2) := dk_16 10 (dk_at dksX2_init_0 21 rfl rfl)
theorem dX2_init_23 : decode cX2_init 23 = .ok (.newarray .int, 2) := dk_188_10 (dk_at dksX2_init_1 0 rfl rfl)
theorem dX2_init_25 : decode cX2_init 25 = .ok (.putfield 16, 3) := dk_181 0 16 (dk_at dksX2_init_1 2 rfl rfl)
theorem dX2_init_28 : decode cX2_init 28 = .ok (.aload_n 0, 1) := dk_42 (dk_at dksX2_init_1 5 rfl rfl)
theorem dX2_init_29 : decode cX2_init 29 = .ok (.bipush 10, 2) := dk_16 10 (dk_at dksX2_init_1 6 rfl rfl)
theorem dX2_init_31 : decode cX2_init 31 = .ok (.newarray .int, 2) := dk_188_10 (dk_at dksX2_init_1 8 rfl rfl)
theorem dX2_init_33 : decode cX2_init 33 = .ok (.putfield 19, 3) := dk_181 0 19 (dk_at dksX2_init_1 10 rfl rfl)
theorem dX2_init_36 : decode cX2_init 36 = .ok (.aload_n 0, 1) := dk_42 (dk_at dksX2_init_1 13 rfl rfl)
theorem dX2_init_37 : decode cX2_init 37 = .ok (.bipush 10, 2) := dk_16 10 (dk_at dksX2_init_1 14 rfl rfl)
theorem dX2_init_39 : decode cX2_init 39 = .ok (.newarray .int, 2) := dk_188_10 (dk_at dksX2_init_1 16 rfl rfl)
theorem dX2_init_41 : decode cX2_init 41 = .ok (.putfield 22, 3) := dk_181 0 22 (dk_at dksX2_init_1 18 rfl rfl)
theorem dX2_init_44 : decode cX2_init 44 = .ok (.aload_n 0, 1) := dk_42 (dk_at dksX2_init_1 21 rfl rfl)
theorem dX2_init_45 : decode cX2_init 45 = .ok (.bipush 10, 2) := dk_16 10 (dk_at dksX2_init_1 22 rfl rfl)
theorem dX2_init_47 : decode cX2_init 47 = .ok (.newarray .boolean, 2) := dk_188_4 (dk_at dksX2_init_2 0 rfl rfl)
theorem dX2_init_49 : decode cX2_init 49 = .ok (.putfield 25, 3) := dk_181 0 25 (dk_at dksX2_init_2 2 rfl rfl)
theorem dX2_init_52 : decode cX2_init 52 = .ok (.aload_n 0, 1) := dk_42 (dk_at dksX2_init_2 5 rfl rfl)
theorem dX2_init_53 : decode cX2_init 53 = .ok (.sipush 200, 3) := dk_17 0 200 (dk_at dksX2_init_2 6 rfl rfl)
theorem dX2_init_56 : decode cX2_init 56 = .ok (.newarray .int, 2) := dk_188_10 (dk_at dksX2_init_2 9 rfl rfl)
theorem dX2_init_58 : decode cX2_init 58 = .ok (.putfield 29, 3) := dk_181 0 29 (dk_at dksX2_init_2 11 rfl rfl)
theorem dX2_init_61 : decode cX2_init 61 = .ok (.aload_n 0, 1) := dk_42 (dk_at dksX2_init_2 14 rfl rfl)
theorem dX2_init_62 : decode cX2_init 62 = .ok (.sipush 4096, 3) := dk_17 16 0 (dk_at dksX2_init_2 15 rfl rfl)
theorem dX2_init_65 : decode cX2_init 65 = .ok (.newarray .int, 2) := dk_188_10 (dk_at dksX2_init_2 18 rfl rfl)
theorem dX2_init_67 : decode cX2_init 67 = .ok (.putfield 32, 3) := dk_181 0 32 (dk_at dksX2_init_2 20 rfl rfl)
theorem dX2_init_70 : decode cX2_init 70 = .ok (.aload_n 0, 1) := dk_42 (dk_at dksX2_init_2 23 rfl rfl)
theorem dX2_init_71 : decode cX2_init 71 = .ok (.sipush 4096, 3) := dk_17 16 0 (dk_at dksX2_init_3 0 rfl rfl)
theorem dX2_init_74 : decode cX2_init 74 = .ok (.newarray .int, 2) := dk_188_10 (dk_at dksX2_init_3 3 rfl rfl)
theorem dX2_init_76 : decode cX2_init 76 = .ok (.putfield 35, 3) := dk_181 0 35 (dk_at dksX2_init_3 5 rfl rfl)
theorem dX2_init_79 : decode cX2_init 79 = .ok (.aload_n 0, 1) := dk_42 (dk_at dksX2_init_3 8 rfl rfl)
theorem dX2_init_80 : decode cX2_init 80 = .ok (.sipush 4096, 3) := dk_17 16 0 (dk_at dksX2_init_3 9 rfl rfl)
theorem dX2_init_83 : decode cX2_init 83 = .ok (.newarray .boolean, 2) := dk_188_4 (dk_at dksX2_init_3 12 rfl rfl)
theorem dX2_init_85 : decode cX2_init 85 = .ok (.putfield 38, 3) := dk_181 0 38 (dk_at dksX2_init_3 14 rfl rfl)
theorem dX2_init_88 : decode cX2_init 88 = .ok (.aload_n 0, 1) := dk_42 (dk_at dksX2_init_3 17 rfl rfl)
theorem dX2_init_89 : decode cX2_init 89 = .ok (.sipush 4096, 3) := dk_17 16 0 (dk_at dksX2_init_3 18 rfl rfl)
theorem dX2_init_92 : decode cX2_init 92 = .ok (.newarray .int, 2) := dk_188_10 (dk_at dksX2_init_3 21 rfl rfl)
theorem dX2_init_94 : decode cX2_init 94 = .ok (.putfield 41, 3) := dk_181 0 41 (dk_at dksX2_init_4 0 rfl rfl)
theorem dX2_init_97 : decode cX2_init 97 = .ok (.aload_n 0, 1) := dk_42 (dk_at dksX2_init_4 3 rfl rfl)
theorem dX2_init_98 : decode cX2_init 98 = .ok (.sipush 4096, 3) := dk_17 16 0 (dk_at dksX2_init_4 4 rfl rfl)
theorem dX2_init_101 : decode cX2_init 101 = .ok (.newarray .int, 2) := dk_188_10 (dk_at dksX2_init_4 7 rfl rfl)
theorem dX2_init_103 : decode cX2_init 103 = .ok (.putfield 44, 3) := dk_181 0 44 (dk_at dksX2_init_4 9 rfl rfl)
theorem dX2_init_106 : decode cX2_init 106 = .ok (.aload_n 0, 1) := dk_42 (dk_at dksX2_init_4 12 rfl rfl)
theorem dX2_init_107 : decode cX2_init 107 = .ok (.sipush 4096, 3) := dk_17 16 0 (dk_at dksX2_init_4 13 rfl rfl)
theorem dX2_init_110 : decode cX2_init 110 = .ok (.newarray .int, 2) := dk_188_10 (dk_at dksX2_init_4 16 rfl rfl)
theorem dX2_init_112 : decode cX2_init 112 = .ok (.putfield 47, 3) := dk_181 0 47 (dk_at dksX2_init_4 18 rfl rfl)
theorem dX2_init_115 : decode cX2_init 115 = .ok (.return_, 1) := dk_177 (dk_at dksX2_init_4 21 rfl rfl)
abbrev cX2_thrown : ByteArray := prog_7_method_2_code
def yX2_thrown : MethodName := ⟨RX2, "thrown", "()I"⟩
theorem dX2_thrown_0 : decode cX2_thrown 0 = .ok (.aload_n 0, 1) := by decide +kernel
theorem dX2_thrown_1 : decode cX2_thrown 1 = .ok (.getfield 50, 3) := by decide +kernel
theorem dX2_thrown_4 : decode cX2_thrown 4 = .ok (.ireturn, 1) := by decide +kernel
abbrev cX2_addTitle : ByteArray := prog_7_method_7_code
def yX2_addTitle : MethodName := ⟨RX2, "addTitle", "(II)I"⟩
def dkwX2_addTitle_3 : List UInt8 := [4, 96, 181, 0, 54, 42, 180, 0, 54, 4, 100, 172]
abbrev dktX2_addTitle_3 : List UInt8 := dkwX2_addTitle_3 ++ []
def dkwX2_addTitle_2 : List UInt8 := [180, 0, 7, 42, 180, 0, 54, 27, 79, 42, 180, 0, 13, 42, 180, 0, 54, 28, 79, 42, 89, 180, 0, 54]
abbrev dktX2_addTitle_2 : List UInt8 := dkwX2_addTitle_2 ++ dktX2_addTitle_3
def dkwX2_addTitle_1 : List UInt8 := [42, 180, 0, 54, 16, 20, 160, 0, 7, 5, 167, 0, 4, 3, 182, 0, 64, 154, 0, 5, 3, 172, 42]
abbrev dktX2_addTitle_1 : List UInt8 := dkwX2_addTitle_1 ++ dktX2_addTitle_2
def dkwX2_addTitle_0 : List UInt8 := [42, 27, 3, 16, 55, 184, 0, 60, 153, 0, 12, 28, 4, 7, 184, 0, 60, 154, 0, 7, 4, 167, 0, 17]
abbrev dktX2_addTitle_0 : List UInt8 := dkwX2_addTitle_0 ++ dktX2_addTitle_1
theorem dksX2_addTitle_0 : cX2_addTitle.data.toList.drop 0 = dktX2_addTitle_0 := by decide +kernel
theorem dksX2_addTitle_1 : cX2_addTitle.data.toList.drop 24 = dktX2_addTitle_1 := dk_seg dksX2_addTitle_0 24 rfl rfl
theorem dksX2_addTitle_2 : cX2_addTitle.data.toList.drop 47 = dktX2_addTitle_2 := dk_seg dksX2_addTitle_1 23 rfl rfl
theorem dksX2_addTitle_3 : cX2_addTitle.data.toList.drop 71 = dktX2_addTitle_3 := dk_seg dksX2_addTitle_2 24 rfl rfl
theorem dX2_addTitle_0 : decode cX2_addTitle 0 = .ok (.aload_n 0, 1) := dk_42 (dk_at dksX2_addTitle_0 0 rfl rfl)
theorem dX2_addTitle_1 : decode cX2_addTitle 1 = .ok (.iload_n 1, 1) := dk_27 (dk_at dksX2_addTitle_0 1 rfl rfl)
theorem dX2_addTitle_2 : decode cX2_addTitle 2 = .ok (.iconst 0, 1) := dk_3 (dk_at dksX2_addTitle_0 2 rfl rfl)
theorem dX2_addTitle_3 : decode cX2_addTitle 3 = .ok (.bipush 55, 2) := dk_16 55 (dk_at dksX2_addTitle_0 3 rfl rfl)
theorem dX2_addTitle_5 : decode cX2_addTitle 5 = .ok (.invokestatic 60, 3) := dk_184 0 60 (dk_at dksX2_addTitle_0 5 rfl rfl)
theorem dX2_addTitle_8 : decode cX2_addTitle 8 = .ok (.ifCond .eq 12, 3) := dk_153 0 12 (dk_at dksX2_addTitle_0 8 rfl rfl)
theorem dX2_addTitle_11 : decode cX2_addTitle 11 = .ok (.iload_n 2, 1) := dk_28 (dk_at dksX2_addTitle_0 11 rfl rfl)
theorem dX2_addTitle_12 : decode cX2_addTitle 12 = .ok (.iconst 1, 1) := dk_4 (dk_at dksX2_addTitle_0 12 rfl rfl)
theorem dX2_addTitle_13 : decode cX2_addTitle 13 = .ok (.iconst 4, 1) := dk_7 (dk_at dksX2_addTitle_0 13 rfl rfl)
theorem dX2_addTitle_14 : decode cX2_addTitle 14 = .ok (.invokestatic 60, 3) := dk_184 0 60 (dk_at dksX2_addTitle_0 14 rfl rfl)
theorem dX2_addTitle_17 : decode cX2_addTitle 17 = .ok (.ifCond .ne 7, 3) := dk_154 0 7 (dk_at dksX2_addTitle_0 17 rfl rfl)
theorem dX2_addTitle_20 : decode cX2_addTitle 20 = .ok (.iconst 1, 1) := dk_4 (dk_at dksX2_addTitle_0 20 rfl rfl)
theorem dX2_addTitle_21 : decode cX2_addTitle 21 = .ok (.goto 17, 3) := dk_167 0 17 (dk_at dksX2_addTitle_0 21 rfl rfl)
theorem dX2_addTitle_24 : decode cX2_addTitle 24 = .ok (.aload_n 0, 1) := dk_42 (dk_at dksX2_addTitle_1 0 rfl rfl)
theorem dX2_addTitle_25 : decode cX2_addTitle 25 = .ok (.getfield 54, 3) := dk_180 0 54 (dk_at dksX2_addTitle_1 1 rfl rfl)
theorem dX2_addTitle_28 : decode cX2_addTitle 28 = .ok (.bipush 20, 2) := dk_16 20 (dk_at dksX2_addTitle_1 4 rfl rfl)
theorem dX2_addTitle_30 : decode cX2_addTitle 30 = .ok (.if_icmp .ne 7, 3) := dk_160 0 7 (dk_at dksX2_addTitle_1 6 rfl rfl)
theorem dX2_addTitle_33 : decode cX2_addTitle 33 = .ok (.iconst 2, 1) := dk_5 (dk_at dksX2_addTitle_1 9 rfl rfl)
theorem dX2_addTitle_34 : decode cX2_addTitle 34 = .ok (.goto 4, 3) := dk_167 0 4 (dk_at dksX2_addTitle_1 10 rfl rfl)
theorem dX2_addTitle_37 : decode cX2_addTitle 37 = .ok (.iconst 0, 1) := dk_3 (dk_at dksX2_addTitle_1 13 rfl rfl)
theorem dX2_addTitle_38 : decode cX2_addTitle 38 = .ok (.invokevirtual 64, 3) := dk_182 0 64 (dk_at dksX2_addTitle_1 14 rfl rfl)
theorem dX2_addTitle_41 : decode cX2_addTitle 41 = .ok (.ifCond .ne 5, 3) := dk_154 0 5 (dk_at dksX2_addTitle_1 17 rfl rfl)
theorem dX2_addTitle_44 : decode cX2_addTitle 44 = .ok (.iconst 0, 1) := dk_3 (dk_at dksX2_addTitle_1 20 rfl rfl)
theorem dX2_addTitle_45 : decode cX2_addTitle 45 = .ok (.ireturn, 1) := dk_172 (dk_at dksX2_addTitle_1 21 rfl rfl)
theorem dX2_addTitle_46 : decode cX2_addTitle 46 = .ok (.aload_n 0, 1) := dk_42 (dk_at dksX2_addTitle_1 22 rfl rfl)
theorem dX2_addTitle_47 : decode cX2_addTitle 47 = .ok (.getfield 7, 3) := dk_180 0 7 (dk_at dksX2_addTitle_2 0 rfl rfl)
theorem dX2_addTitle_50 : decode cX2_addTitle 50 = .ok (.aload_n 0, 1) := dk_42 (dk_at dksX2_addTitle_2 3 rfl rfl)
theorem dX2_addTitle_51 : decode cX2_addTitle 51 = .ok (.getfield 54, 3) := dk_180 0 54 (dk_at dksX2_addTitle_2 4 rfl rfl)
theorem dX2_addTitle_54 : decode cX2_addTitle 54 = .ok (.iload_n 1, 1) := dk_27 (dk_at dksX2_addTitle_2 7 rfl rfl)
theorem dX2_addTitle_55 : decode cX2_addTitle 55 = .ok (.iastore, 1) := dk_79 (dk_at dksX2_addTitle_2 8 rfl rfl)
theorem dX2_addTitle_56 : decode cX2_addTitle 56 = .ok (.aload_n 0, 1) := dk_42 (dk_at dksX2_addTitle_2 9 rfl rfl)
theorem dX2_addTitle_57 : decode cX2_addTitle 57 = .ok (.getfield 13, 3) := dk_180 0 13 (dk_at dksX2_addTitle_2 10 rfl rfl)
theorem dX2_addTitle_60 : decode cX2_addTitle 60 = .ok (.aload_n 0, 1) := dk_42 (dk_at dksX2_addTitle_2 13 rfl rfl)
theorem dX2_addTitle_61 : decode cX2_addTitle 61 = .ok (.getfield 54, 3) := dk_180 0 54 (dk_at dksX2_addTitle_2 14 rfl rfl)
theorem dX2_addTitle_64 : decode cX2_addTitle 64 = .ok (.iload_n 2, 1) := dk_28 (dk_at dksX2_addTitle_2 17 rfl rfl)
theorem dX2_addTitle_65 : decode cX2_addTitle 65 = .ok (.iastore, 1) := dk_79 (dk_at dksX2_addTitle_2 18 rfl rfl)
theorem dX2_addTitle_66 : decode cX2_addTitle 66 = .ok (.aload_n 0, 1) := dk_42 (dk_at dksX2_addTitle_2 19 rfl rfl)
theorem dX2_addTitle_67 : decode cX2_addTitle 67 = .ok (.dup, 1) := dk_89 (dk_at dksX2_addTitle_2 20 rfl rfl)
theorem dX2_addTitle_68 : decode cX2_addTitle 68 = .ok (.getfield 54, 3) := dk_180 0 54 (dk_at dksX2_addTitle_2 21 rfl rfl)
theorem dX2_addTitle_71 : decode cX2_addTitle 71 = .ok (.iconst 1, 1) := dk_4 (dk_at dksX2_addTitle_3 0 rfl rfl)
theorem dX2_addTitle_72 : decode cX2_addTitle 72 = .ok (.iadd, 1) := dk_96 (dk_at dksX2_addTitle_3 1 rfl rfl)
theorem dX2_addTitle_73 : decode cX2_addTitle 73 = .ok (.putfield 54, 3) := dk_181 0 54 (dk_at dksX2_addTitle_3 2 rfl rfl)
theorem dX2_addTitle_76 : decode cX2_addTitle 76 = .ok (.aload_n 0, 1) := dk_42 (dk_at dksX2_addTitle_3 5 rfl rfl)
theorem dX2_addTitle_77 : decode cX2_addTitle 77 = .ok (.getfield 54, 3) := dk_180 0 54 (dk_at dksX2_addTitle_3 6 rfl rfl)
theorem dX2_addTitle_80 : decode cX2_addTitle 80 = .ok (.iconst 1, 1) := dk_4 (dk_at dksX2_addTitle_3 9 rfl rfl)
theorem dX2_addTitle_81 : decode cX2_addTitle 81 = .ok (.isub, 1) := dk_100 (dk_at dksX2_addTitle_3 10 rfl rfl)
theorem dX2_addTitle_82 : decode cX2_addTitle 82 = .ok (.ireturn, 1) := dk_172 (dk_at dksX2_addTitle_3 11 rfl rfl)
abbrev cX2_isBetween : ByteArray := prog_7_method_4_code
def yX2_isBetween : MethodName := ⟨RX2, "isBetween", "(III)Z"⟩
def dkwX2_isBetween_0 : List UInt8 := [26, 27, 161, 0, 12, 26, 28, 163, 0, 7, 4, 167, 0, 4, 3, 172]
abbrev dktX2_isBetween_0 : List UInt8 := dkwX2_isBetween_0 ++ []
theorem dksX2_isBetween_0 : cX2_isBetween.data.toList.drop 0 = dktX2_isBetween_0 := by decide +kernel
theorem dX2_isBetween_0 : decode cX2_isBetween 0 = .ok (.iload_n 0, 1) := dk_26 (dk_at dksX2_isBetween_0 0 rfl rfl)
theorem dX2_isBetween_1 : decode cX2_isBetween 1 = .ok (.iload_n 1, 1) := dk_27 (dk_at dksX2_isBetween_0 1 rfl rfl)
theorem dX2_isBetween_2 : decode cX2_isBetween 2 = .ok (.if_icmp .lt 12, 3) := dk_161 0 12 (dk_at dksX2_isBetween_0 2 rfl rfl)
theorem dX2_isBetween_5 : decode cX2_isBetween 5 = .ok (.iload_n 0, 1) := dk_26 (dk_at dksX2_isBetween_0 5 rfl rfl)
theorem dX2_isBetween_6 : decode cX2_isBetween 6 = .ok (.iload_n 2, 1) := dk_28 (dk_at dksX2_isBetween_0 6 rfl rfl)
theorem dX2_isBetween_7 : decode cX2_isBetween 7 = .ok (.if_icmp .gt 7, 3) := dk_163 0 7 (dk_at dksX2_isBetween_0 7 rfl rfl)
theorem dX2_isBetween_10 : decode cX2_isBetween 10 = .ok (.iconst 1, 1) := dk_4 (dk_at dksX2_isBetween_0 10 rfl rfl)
theorem dX2_isBetween_11 : decode cX2_isBetween 11 = .ok (.goto 4, 3) := dk_167 0 4 (dk_at dksX2_isBetween_0 11 rfl rfl)
theorem dX2_isBetween_14 : decode cX2_isBetween 14 = .ok (.iconst 0, 1) := dk_3 (dk_at dksX2_isBetween_0 14 rfl rfl)
theorem dX2_isBetween_15 : decode cX2_isBetween 15 = .ok (.ireturn, 1) := dk_172 (dk_at dksX2_isBetween_0 15 rfl rfl)
abbrev cX2_holds : ByteArray := prog_7_method_3_code
def yX2_holds : MethodName := ⟨RX2, "holds", "(I)Z"⟩
def dkwX2_holds_0 : List UInt8 := [42, 27, 181, 0, 50, 27, 154, 0, 7, 4, 167, 0, 4, 3, 172]
abbrev dktX2_holds_0 : List UInt8 := dkwX2_holds_0 ++ []
theorem dksX2_holds_0 : cX2_holds.data.toList.drop 0 = dktX2_holds_0 := by decide +kernel
theorem dX2_holds_0 : decode cX2_holds 0 = .ok (.aload_n 0, 1) := dk_42 (dk_at dksX2_holds_0 0 rfl rfl)
theorem dX2_holds_1 : decode cX2_holds 1 = .ok (.iload_n 1, 1) := dk_27 (dk_at dksX2_holds_0 1 rfl rfl)
theorem dX2_holds_2 : decode cX2_holds 2 = .ok (.putfield 50, 3) := dk_181 0 50 (dk_at dksX2_holds_0 2 rfl rfl)
theorem dX2_holds_5 : decode cX2_holds 5 = .ok (.iload_n 1, 1) := dk_27 (dk_at dksX2_holds_0 5 rfl rfl)
theorem dX2_holds_6 : decode cX2_holds 6 = .ok (.ifCond .ne 7, 3) := dk_154 0 7 (dk_at dksX2_holds_0 6 rfl rfl)
theorem dX2_holds_9 : decode cX2_holds 9 = .ok (.iconst 1, 1) := dk_4 (dk_at dksX2_holds_0 9 rfl rfl)
theorem dX2_holds_10 : decode cX2_holds 10 = .ok (.goto 4, 3) := dk_167 0 4 (dk_at dksX2_holds_0 10 rfl rfl)
theorem dX2_holds_13 : decode cX2_holds 13 = .ok (.iconst 0, 1) := dk_3 (dk_at dksX2_holds_0 13 rfl rfl)
theorem dX2_holds_14 : decode cX2_holds 14 = .ok (.ireturn, 1) := dk_172 (dk_at dksX2_holds_0 14 rfl rfl)
abbrev cX2_yearOf : ByteArray := prog_7_method_8_code
def yX2_yearOf : MethodName := ⟨RX2, "yearOf", "(II)I"⟩
def dkwX2_yearOf_3 : List UInt8 := [96, 172]
abbrev dktX2_yearOf_3 : List UInt8 := dkwX2_yearOf_3 ++ []
def dkwX2_yearOf_2 : List UInt8 := [182, 0, 64, 154, 0, 5, 3, 172, 42, 180, 0, 7, 27, 46, 28, 4, 100, 42, 180, 0, 13, 27, 46, 108]
abbrev dktX2_yearOf_2 : List UInt8 := dkwX2_yearOf_2 ++ dktX2_yearOf_3
def dkwX2_yearOf_1 : List UInt8 := [180, 0, 13, 27, 46, 108, 16, 55, 42, 180, 0, 7, 27, 46, 100, 164, 0, 7, 5, 167, 0, 4, 3]
abbrev dktX2_yearOf_1 : List UInt8 := dkwX2_yearOf_1 ++ dktX2_yearOf_2
def dkwX2_yearOf_0 : List UInt8 := [42, 27, 182, 0, 68, 62, 42, 29, 154, 0, 7, 4, 167, 0, 35, 28, 4, 161, 0, 25, 28, 4, 100, 42]
abbrev dktX2_yearOf_0 : List UInt8 := dkwX2_yearOf_0 ++ dktX2_yearOf_1
theorem dksX2_yearOf_0 : cX2_yearOf.data.toList.drop 0 = dktX2_yearOf_0 := by decide +kernel
theorem dksX2_yearOf_1 : cX2_yearOf.data.toList.drop 24 = dktX2_yearOf_1 := dk_seg dksX2_yearOf_0 24 rfl rfl
theorem dksX2_yearOf_2 : cX2_yearOf.data.toList.drop 47 = dktX2_yearOf_2 := dk_seg dksX2_yearOf_1 23 rfl rfl
theorem dksX2_yearOf_3 : cX2_yearOf.data.toList.drop 71 = dktX2_yearOf_3 := dk_seg dksX2_yearOf_2 24 rfl rfl
theorem dX2_yearOf_0 : decode cX2_yearOf 0 = .ok (.aload_n 0, 1) := dk_42 (dk_at dksX2_yearOf_0 0 rfl rfl)
theorem dX2_yearOf_1 : decode cX2_yearOf 1 = .ok (.iload_n 1, 1) := dk_27 (dk_at dksX2_yearOf_0 1 rfl rfl)
theorem dX2_yearOf_2 : decode cX2_yearOf 2 = .ok (.invokevirtual 68, 3) := dk_182 0 68 (dk_at dksX2_yearOf_0 2 rfl rfl)
theorem dX2_yearOf_5 : decode cX2_yearOf 5 = .ok (.istore_n 3, 1) := dk_62 (dk_at dksX2_yearOf_0 5 rfl rfl)
theorem dX2_yearOf_6 : decode cX2_yearOf 6 = .ok (.aload_n 0, 1) := dk_42 (dk_at dksX2_yearOf_0 6 rfl rfl)
theorem dX2_yearOf_7 : decode cX2_yearOf 7 = .ok (.iload_n 3, 1) := dk_29 (dk_at dksX2_yearOf_0 7 rfl rfl)
theorem dX2_yearOf_8 : decode cX2_yearOf 8 = .ok (.ifCond .ne 7, 3) := dk_154 0 7 (dk_at dksX2_yearOf_0 8 rfl rfl)
theorem dX2_yearOf_11 : decode cX2_yearOf 11 = .ok (.iconst 1, 1) := dk_4 (dk_at dksX2_yearOf_0 11 rfl rfl)
theorem dX2_yearOf_12 : decode cX2_yearOf 12 = .ok (.goto 35, 3) := dk_167 0 35 (dk_at dksX2_yearOf_0 12 rfl rfl)
theorem dX2_yearOf_15 : decode cX2_yearOf 15 = .ok (.iload_n 2, 1) := dk_28 (dk_at dksX2_yearOf_0 15 rfl rfl)
theorem dX2_yearOf_16 : decode cX2_yearOf 16 = .ok (.iconst 1, 1) := dk_4 (dk_at dksX2_yearOf_0 16 rfl rfl)
theorem dX2_yearOf_17 : decode cX2_yearOf 17 = .ok (.if_icmp .lt 25, 3) := dk_161 0 25 (dk_at dksX2_yearOf_0 17 rfl rfl)
theorem dX2_yearOf_20 : decode cX2_yearOf 20 = .ok (.iload_n 2, 1) := dk_28 (dk_at dksX2_yearOf_0 20 rfl rfl)
theorem dX2_yearOf_21 : decode cX2_yearOf 21 = .ok (.iconst 1, 1) := dk_4 (dk_at dksX2_yearOf_0 21 rfl rfl)
theorem dX2_yearOf_22 : decode cX2_yearOf 22 = .ok (.isub, 1) := dk_100 (dk_at dksX2_yearOf_0 22 rfl rfl)
theorem dX2_yearOf_23 : decode cX2_yearOf 23 = .ok (.aload_n 0, 1) := dk_42 (dk_at dksX2_yearOf_0 23 rfl rfl)
theorem dX2_yearOf_24 : decode cX2_yearOf 24 = .ok (.getfield 13, 3) := dk_180 0 13 (dk_at dksX2_yearOf_1 0 rfl rfl)
theorem dX2_yearOf_27 : decode cX2_yearOf 27 = .ok (.iload_n 1, 1) := dk_27 (dk_at dksX2_yearOf_1 3 rfl rfl)
theorem dX2_yearOf_28 : decode cX2_yearOf 28 = .ok (.iaload, 1) := dk_46 (dk_at dksX2_yearOf_1 4 rfl rfl)
theorem dX2_yearOf_29 : decode cX2_yearOf 29 = .ok (.idiv, 1) := dk_108 (dk_at dksX2_yearOf_1 5 rfl rfl)
theorem dX2_yearOf_30 : decode cX2_yearOf 30 = .ok (.bipush 55, 2) := dk_16 55 (dk_at dksX2_yearOf_1 6 rfl rfl)
theorem dX2_yearOf_32 : decode cX2_yearOf 32 = .ok (.aload_n 0, 1) := dk_42 (dk_at dksX2_yearOf_1 8 rfl rfl)
theorem dX2_yearOf_33 : decode cX2_yearOf 33 = .ok (.getfield 7, 3) := dk_180 0 7 (dk_at dksX2_yearOf_1 9 rfl rfl)
theorem dX2_yearOf_36 : decode cX2_yearOf 36 = .ok (.iload_n 1, 1) := dk_27 (dk_at dksX2_yearOf_1 12 rfl rfl)
theorem dX2_yearOf_37 : decode cX2_yearOf 37 = .ok (.iaload, 1) := dk_46 (dk_at dksX2_yearOf_1 13 rfl rfl)
theorem dX2_yearOf_38 : decode cX2_yearOf 38 = .ok (.isub, 1) := dk_100 (dk_at dksX2_yearOf_1 14 rfl rfl)
theorem dX2_yearOf_39 : decode cX2_yearOf 39 = .ok (.if_icmp .le 7, 3) := dk_164 0 7 (dk_at dksX2_yearOf_1 15 rfl rfl)
theorem dX2_yearOf_42 : decode cX2_yearOf 42 = .ok (.iconst 2, 1) := dk_5 (dk_at dksX2_yearOf_1 18 rfl rfl)
theorem dX2_yearOf_43 : decode cX2_yearOf 43 = .ok (.goto 4, 3) := dk_167 0 4 (dk_at dksX2_yearOf_1 19 rfl rfl)
theorem dX2_yearOf_46 : decode cX2_yearOf 46 = .ok (.iconst 0, 1) := dk_3 (dk_at dksX2_yearOf_1 22 rfl rfl)
theorem dX2_yearOf_47 : decode cX2_yearOf 47 = .ok (.invokevirtual 64, 3) := dk_182 0 64 (dk_at dksX2_yearOf_2 0 rfl rfl)
theorem dX2_yearOf_50 : decode cX2_yearOf 50 = .ok (.ifCond .ne 5, 3) := dk_154 0 5 (dk_at dksX2_yearOf_2 3 rfl rfl)
theorem dX2_yearOf_53 : decode cX2_yearOf 53 = .ok (.iconst 0, 1) := dk_3 (dk_at dksX2_yearOf_2 6 rfl rfl)
theorem dX2_yearOf_54 : decode cX2_yearOf 54 = .ok (.ireturn, 1) := dk_172 (dk_at dksX2_yearOf_2 7 rfl rfl)
theorem dX2_yearOf_55 : decode cX2_yearOf 55 = .ok (.aload_n 0, 1) := dk_42 (dk_at dksX2_yearOf_2 8 rfl rfl)
theorem dX2_yearOf_56 : decode cX2_yearOf 56 = .ok (.getfield 7, 3) := dk_180 0 7 (dk_at dksX2_yearOf_2 9 rfl rfl)
theorem dX2_yearOf_59 : decode cX2_yearOf 59 = .ok (.iload_n 1, 1) := dk_27 (dk_at dksX2_yearOf_2 12 rfl rfl)
theorem dX2_yearOf_60 : decode cX2_yearOf 60 = .ok (.iaload, 1) := dk_46 (dk_at dksX2_yearOf_2 13 rfl rfl)
theorem dX2_yearOf_61 : decode cX2_yearOf 61 = .ok (.iload_n 2, 1) := dk_28 (dk_at dksX2_yearOf_2 14 rfl rfl)
theorem dX2_yearOf_62 : decode cX2_yearOf 62 = .ok (.iconst 1, 1) := dk_4 (dk_at dksX2_yearOf_2 15 rfl rfl)
theorem dX2_yearOf_63 : decode cX2_yearOf 63 = .ok (.isub, 1) := dk_100 (dk_at dksX2_yearOf_2 16 rfl rfl)
theorem dX2_yearOf_64 : decode cX2_yearOf 64 = .ok (.aload_n 0, 1) := dk_42 (dk_at dksX2_yearOf_2 17 rfl rfl)
theorem dX2_yearOf_65 : decode cX2_yearOf 65 = .ok (.getfield 13, 3) := dk_180 0 13 (dk_at dksX2_yearOf_2 18 rfl rfl)
theorem dX2_yearOf_68 : decode cX2_yearOf 68 = .ok (.iload_n 1, 1) := dk_27 (dk_at dksX2_yearOf_2 21 rfl rfl)
theorem dX2_yearOf_69 : decode cX2_yearOf 69 = .ok (.iaload, 1) := dk_46 (dk_at dksX2_yearOf_2 22 rfl rfl)
theorem dX2_yearOf_70 : decode cX2_yearOf 70 = .ok (.idiv, 1) := dk_108 (dk_at dksX2_yearOf_2 23 rfl rfl)
theorem dX2_yearOf_71 : decode cX2_yearOf 71 = .ok (.iadd, 1) := dk_96 (dk_at dksX2_yearOf_3 0 rfl rfl)
theorem dX2_yearOf_72 : decode cX2_yearOf 72 = .ok (.ireturn, 1) := dk_172 (dk_at dksX2_yearOf_3 1 rfl rfl)
abbrev cX2_isTitle : ByteArray := prog_7_method_5_code
def yX2_isTitle : MethodName := ⟨RX2, "isTitle", "(I)Z"⟩
def dkwX2_isTitle_0 : List UInt8 := [27, 155, 0, 15, 27, 42, 180, 0, 54, 162, 0, 7, 4, 167, 0, 4, 3, 172]
abbrev dktX2_isTitle_0 : List UInt8 := dkwX2_isTitle_0 ++ []
theorem dksX2_isTitle_0 : cX2_isTitle.data.toList.drop 0 = dktX2_isTitle_0 := by decide +kernel
theorem dX2_isTitle_0 : decode cX2_isTitle 0 = .ok (.iload_n 1, 1) := dk_27 (dk_at dksX2_isTitle_0 0 rfl rfl)
theorem dX2_isTitle_1 : decode cX2_isTitle 1 = .ok (.ifCond .lt 15, 3) := dk_155 0 15 (dk_at dksX2_isTitle_0 1 rfl rfl)
theorem dX2_isTitle_4 : decode cX2_isTitle 4 = .ok (.iload_n 1, 1) := dk_27 (dk_at dksX2_isTitle_0 4 rfl rfl)
theorem dX2_isTitle_5 : decode cX2_isTitle 5 = .ok (.aload_n 0, 1) := dk_42 (dk_at dksX2_isTitle_0 5 rfl rfl)
theorem dX2_isTitle_6 : decode cX2_isTitle 6 = .ok (.getfield 54, 3) := dk_180 0 54 (dk_at dksX2_isTitle_0 6 rfl rfl)
theorem dX2_isTitle_9 : decode cX2_isTitle 9 = .ok (.if_icmp .ge 7, 3) := dk_162 0 7 (dk_at dksX2_isTitle_0 9 rfl rfl)
theorem dX2_isTitle_12 : decode cX2_isTitle 12 = .ok (.iconst 1, 1) := dk_4 (dk_at dksX2_isTitle_0 12 rfl rfl)
theorem dX2_isTitle_13 : decode cX2_isTitle 13 = .ok (.goto 4, 3) := dk_167 0 4 (dk_at dksX2_isTitle_0 13 rfl rfl)
theorem dX2_isTitle_16 : decode cX2_isTitle 16 = .ok (.iconst 0, 1) := dk_3 (dk_at dksX2_isTitle_0 16 rfl rfl)
theorem dX2_isTitle_17 : decode cX2_isTitle 17 = .ok (.ireturn, 1) := dk_172 (dk_at dksX2_isTitle_0 17 rfl rfl)
abbrev cX2_volumeOf : ByteArray := prog_7_method_9_code
def yX2_volumeOf : MethodName := ⟨RX2, "volumeOf", "(II)I"⟩
def dkwX2_volumeOf_2 : List UInt8 := [27, 46, 100, 42, 180, 0, 13, 27, 46, 104, 4, 96, 172]
abbrev dktX2_volumeOf_2 : List UInt8 := dkwX2_volumeOf_2 ++ []
def dkwX2_volumeOf_1 : List UInt8 := [184, 0, 60, 153, 0, 7, 3, 167, 0, 4, 5, 182, 0, 64, 154, 0, 5, 3, 172, 28, 42, 180, 0, 7]
abbrev dktX2_volumeOf_1 : List UInt8 := dkwX2_volumeOf_1 ++ dktX2_volumeOf_2
def dkwX2_volumeOf_0 : List UInt8 := [42, 27, 182, 0, 68, 62, 42, 29, 154, 0, 7, 4, 167, 0, 23, 28, 42, 180, 0, 7, 27, 46, 16, 55]
abbrev dktX2_volumeOf_0 : List UInt8 := dkwX2_volumeOf_0 ++ dktX2_volumeOf_1
theorem dksX2_volumeOf_0 : cX2_volumeOf.data.toList.drop 0 = dktX2_volumeOf_0 := by decide +kernel
theorem dksX2_volumeOf_1 : cX2_volumeOf.data.toList.drop 24 = dktX2_volumeOf_1 := dk_seg dksX2_volumeOf_0 24 rfl rfl
theorem dksX2_volumeOf_2 : cX2_volumeOf.data.toList.drop 48 = dktX2_volumeOf_2 := dk_seg dksX2_volumeOf_1 24 rfl rfl
theorem dX2_volumeOf_0 : decode cX2_volumeOf 0 = .ok (.aload_n 0, 1) := dk_42 (dk_at dksX2_volumeOf_0 0 rfl rfl)
theorem dX2_volumeOf_1 : decode cX2_volumeOf 1 = .ok (.iload_n 1, 1) := dk_27 (dk_at dksX2_volumeOf_0 1 rfl rfl)
theorem dX2_volumeOf_2 : decode cX2_volumeOf 2 = .ok (.invokevirtual 68, 3) := dk_182 0 68 (dk_at dksX2_volumeOf_0 2 rfl rfl)
theorem dX2_volumeOf_5 : decode cX2_volumeOf 5 = .ok (.istore_n 3, 1) := dk_62 (dk_at dksX2_volumeOf_0 5 rfl rfl)
theorem dX2_volumeOf_6 : decode cX2_volumeOf 6 = .ok (.aload_n 0, 1) := dk_42 (dk_at dksX2_volumeOf_0 6 rfl rfl)
theorem dX2_volumeOf_7 : decode cX2_volumeOf 7 = .ok (.iload_n 3, 1) := dk_29 (dk_at dksX2_volumeOf_0 7 rfl rfl)
theorem dX2_volumeOf_8 : decode cX2_volumeOf 8 = .ok (.ifCond .ne 7, 3) := dk_154 0 7 (dk_at dksX2_volumeOf_0 8 rfl rfl)
theorem dX2_volumeOf_11 : decode cX2_volumeOf 11 = .ok (.iconst 1, 1) := dk_4 (dk_at dksX2_volumeOf_0 11 rfl rfl)
theorem dX2_volumeOf_12 : decode cX2_volumeOf 12 = .ok (.goto 23, 3) := dk_167 0 23 (dk_at dksX2_volumeOf_0 12 rfl rfl)
theorem dX2_volumeOf_15 : decode cX2_volumeOf 15 = .ok (.iload_n 2, 1) := dk_28 (dk_at dksX2_volumeOf_0 15 rfl rfl)
theorem dX2_volumeOf_16 : decode cX2_volumeOf 16 = .ok (.aload_n 0, 1) := dk_42 (dk_at dksX2_volumeOf_0 16 rfl rfl)
theorem dX2_volumeOf_17 : decode cX2_volumeOf 17 = .ok (.getfield 7, 3) := dk_180 0 7 (dk_at dksX2_volumeOf_0 17 rfl rfl)
theorem dX2_volumeOf_20 : decode cX2_volumeOf 20 = .ok (.iload_n 1, 1) := dk_27 (dk_at dksX2_volumeOf_0 20 rfl rfl)
theorem dX2_volumeOf_21 : decode cX2_volumeOf 21 = .ok (.iaload, 1) := dk_46 (dk_at dksX2_volumeOf_0 21 rfl rfl)
theorem dX2_volumeOf_22 : decode cX2_volumeOf 22 = .ok (.bipush 55, 2) := dk_16 55 (dk_at dksX2_volumeOf_0 22 rfl rfl)
theorem dX2_volumeOf_24 : decode cX2_volumeOf 24 = .ok (.invokestatic 60, 3) := dk_184 0 60 (dk_at dksX2_volumeOf_1 0 rfl rfl)
theorem dX2_volumeOf_27 : decode cX2_volumeOf 27 = .ok (.ifCond .eq 7, 3) := dk_153 0 7 (dk_at dksX2_volumeOf_1 3 rfl rfl)
theorem dX2_volumeOf_30 : decode cX2_volumeOf 30 = .ok (.iconst 0, 1) := dk_3 (dk_at dksX2_volumeOf_1 6 rfl rfl)
theorem dX2_volumeOf_31 : decode cX2_volumeOf 31 = .ok (.goto 4, 3) := dk_167 0 4 (dk_at dksX2_volumeOf_1 7 rfl rfl)
theorem dX2_volumeOf_34 : decode cX2_volumeOf 34 = .ok (.iconst 2, 1) := dk_5 (dk_at dksX2_volumeOf_1 10 rfl rfl)
theorem dX2_volumeOf_35 : decode cX2_volumeOf 35 = .ok (.invokevirtual 64, 3) := dk_182 0 64 (dk_at dksX2_volumeOf_1 11 rfl rfl)
theorem dX2_volumeOf_38 : decode cX2_volumeOf 38 = .ok (.ifCond .ne 5, 3) := dk_154 0 5 (dk_at dksX2_volumeOf_1 14 rfl rfl)
theorem dX2_volumeOf_41 : decode cX2_volumeOf 41 = .ok (.iconst 0, 1) := dk_3 (dk_at dksX2_volumeOf_1 17 rfl rfl)
theorem dX2_volumeOf_42 : decode cX2_volumeOf 42 = .ok (.ireturn, 1) := dk_172 (dk_at dksX2_volumeOf_1 18 rfl rfl)
theorem dX2_volumeOf_43 : decode cX2_volumeOf 43 = .ok (.iload_n 2, 1) := dk_28 (dk_at dksX2_volumeOf_1 19 rfl rfl)
theorem dX2_volumeOf_44 : decode cX2_volumeOf 44 = .ok (.aload_n 0, 1) := dk_42 (dk_at dksX2_volumeOf_1 20 rfl rfl)
theorem dX2_volumeOf_45 : decode cX2_volumeOf 45 = .ok (.getfield 7, 3) := dk_180 0 7 (dk_at dksX2_volumeOf_1 21 rfl rfl)
theorem dX2_volumeOf_48 : decode cX2_volumeOf 48 = .ok (.iload_n 1, 1) := dk_27 (dk_at dksX2_volumeOf_2 0 rfl rfl)
theorem dX2_volumeOf_49 : decode cX2_volumeOf 49 = .ok (.iaload, 1) := dk_46 (dk_at dksX2_volumeOf_2 1 rfl rfl)
theorem dX2_volumeOf_50 : decode cX2_volumeOf 50 = .ok (.isub, 1) := dk_100 (dk_at dksX2_volumeOf_2 2 rfl rfl)
theorem dX2_volumeOf_51 : decode cX2_volumeOf 51 = .ok (.aload_n 0, 1) := dk_42 (dk_at dksX2_volumeOf_2 3 rfl rfl)
theorem dX2_volumeOf_52 : decode cX2_volumeOf 52 = .ok (.getfield 13, 3) := dk_180 0 13 (dk_at dksX2_volumeOf_2 4 rfl rfl)
theorem dX2_volumeOf_55 : decode cX2_volumeOf 55 = .ok (.iload_n 1, 1) := dk_27 (dk_at dksX2_volumeOf_2 7 rfl rfl)
theorem dX2_volumeOf_56 : decode cX2_volumeOf 56 = .ok (.iaload, 1) := dk_46 (dk_at dksX2_volumeOf_2 8 rfl rfl)
theorem dX2_volumeOf_57 : decode cX2_volumeOf 57 = .ok (.imul, 1) := dk_104 (dk_at dksX2_volumeOf_2 9 rfl rfl)
theorem dX2_volumeOf_58 : decode cX2_volumeOf 58 = .ok (.iconst 1, 1) := dk_4 (dk_at dksX2_volumeOf_2 10 rfl rfl)
theorem dX2_volumeOf_59 : decode cX2_volumeOf 59 = .ok (.iadd, 1) := dk_96 (dk_at dksX2_volumeOf_2 11 rfl rfl)
theorem dX2_volumeOf_60 : decode cX2_volumeOf 60 = .ok (.ireturn, 1) := dk_172 (dk_at dksX2_volumeOf_2 12 rfl rfl)
abbrev cX2_addPackage : ByteArray := prog_7_method_10_code
def yX2_addPackage : MethodName := ⟨RX2, "addPackage", "(IIII)I"⟩
def dkwX2_addPackage_6 : List UInt8 := [180, 0, 57, 4, 100, 172]
abbrev dktX2_addPackage_6 : List UInt8 := dkwX2_addPackage_6 ++ []
def dkwX2_addPackage_5 : List UInt8 := [21, 4, 4, 160, 0, 7, 4, 167, 0, 4, 3, 84, 42, 89, 180, 0, 57, 4, 96, 181, 0, 57, 42]
abbrev dktX2_addPackage_5 : List UInt8 := dkwX2_addPackage_5 ++ dktX2_addPackage_6
def dkwX2_addPackage_4 : List UInt8 := [180, 0, 57, 28, 79, 42, 180, 0, 22, 42, 180, 0, 57, 29, 79, 42, 180, 0, 25, 42, 180, 0, 57]
abbrev dktX2_addPackage_4 : List UInt8 := dkwX2_addPackage_4 ++ dktX2_addPackage_5
def dkwX2_addPackage_3 : List UInt8 := [182, 0, 64, 154, 0, 5, 3, 172, 42, 180, 0, 16, 42, 180, 0, 57, 27, 79, 42, 180, 0, 19, 42]
abbrev dktX2_addPackage_3 : List UInt8 := dkwX2_addPackage_3 ++ dktX2_addPackage_4
def dkwX2_addPackage_2 : List UInt8 := [21, 5, 154, 0, 7, 4, 167, 0, 17, 42, 180, 0, 57, 16, 10, 160, 0, 7, 5, 167, 0, 4, 3]
abbrev dktX2_addPackage_2 : List UInt8 := dkwX2_addPackage_2 ++ dktX2_addPackage_3
def dkwX2_addPackage_1 : List UInt8 := [184, 0, 60, 153, 0, 17, 21, 4, 3, 4, 184, 0, 60, 153, 0, 7, 4, 167, 0, 4, 3, 54, 5, 42]
abbrev dktX2_addPackage_1 : List UInt8 := dkwX2_addPackage_1 ++ dktX2_addPackage_2
def dkwX2_addPackage_0 : List UInt8 := [27, 3, 17, 3, 232, 184, 0, 60, 153, 0, 36, 28, 3, 5, 184, 0, 60, 153, 0, 27, 29, 3, 16, 15]
abbrev dktX2_addPackage_0 : List UInt8 := dkwX2_addPackage_0 ++ dktX2_addPackage_1
theorem dksX2_addPackage_0 : cX2_addPackage.data.toList.drop 0 = dktX2_addPackage_0 := by decide +kernel
theorem dksX2_addPackage_1 : cX2_addPackage.data.toList.drop 24 = dktX2_addPackage_1 := dk_seg dksX2_addPackage_0 24 rfl rfl
theorem dksX2_addPackage_2 : cX2_addPackage.data.toList.drop 48 = dktX2_addPackage_2 := dk_seg dksX2_addPackage_1 24 rfl rfl
theorem dksX2_addPackage_3 : cX2_addPackage.data.toList.drop 71 = dktX2_addPackage_3 := dk_seg dksX2_addPackage_2 23 rfl rfl
theorem dksX2_addPackage_4 : cX2_addPackage.data.toList.drop 94 = dktX2_addPackage_4 := dk_seg dksX2_addPackage_3 23 rfl rfl
theorem dksX2_addPackage_5 : cX2_addPackage.data.toList.drop 117 = dktX2_addPackage_5 := dk_seg dksX2_addPackage_4 23 rfl rfl
theorem dksX2_addPackage_6 : cX2_addPackage.data.toList.drop 140 = dktX2_addPackage_6 := dk_seg dksX2_addPackage_5 23 rfl rfl
theorem dX2_addPackage_0 : decode cX2_addPackage 0 = .ok (.iload_n 1, 1) := dk_27 (dk_at dksX2_addPackage_0 0 rfl rfl)
theorem dX2_addPackage_1 : decode cX2_addPackage 1 = .ok (.iconst 0, 1) := dk_3 (dk_at dksX2_addPackage_0 1 rfl rfl)
theorem dX2_addPackage_2 : decode cX2_addPackage 2 = .ok (.sipush 1000, 3) := dk_17 3 232 (dk_at dksX2_addPackage_0 2 rfl rfl)
theorem dX2_addPackage_5 : decode cX2_addPackage 5 = .ok (.invokestatic 60, 3) := dk_184 0 60 (dk_at dksX2_addPackage_0 5 rfl rfl)
theorem dX2_addPackage_8 : decode cX2_addPackage 8 = .ok (.ifCond .eq 36, 3) := dk_153 0 36 (dk_at dksX2_addPackage_0 8 rfl rfl)
theorem dX2_addPackage_11 : decode cX2_addPackage 11 = .ok (.iload_n 2, 1) := dk_28 (dk_at dksX2_addPackage_0 11 rfl rfl)
theorem dX2_addPackage_12 : decode cX2_addPackage 12 = .ok (.iconst 0, 1) := dk_3 (dk_at dksX2_addPackage_0 12 rfl rfl)
theorem dX2_addPackage_13 : decode cX2_addPackage 13 = .ok (.iconst 2, 1) := dk_5 (dk_at dksX2_addPackage_0 13 rfl rfl)
theorem dX2_addPackage_14 : decode cX2_addPackage 14 = .ok (.invokestatic 60, 3) := dk_184 0 60 (dk_at dksX2_addPackage_0 14 rfl rfl)
theorem dX2_addPackage_17 : decode cX2_addPackage 17 = .ok (.ifCond .eq 27, 3) := dk_153 0 27 (dk_at dksX2_addPackage_0 17 rfl rfl)
theorem dX2_addPackage_20 : decode cX2_addPackage 20 = .ok (.iload_n 3, 1) := dk_29 (dk_at dksX2_addPackage_0 20 rfl rfl)
theorem dX2_addPackage_21 : decode cX2_addPackage 21 = .ok (.iconst 0, 1) := dk_3 (dk_at dksX2_addPackage_0 21 rfl rfl)
theorem dX2_addPackage_22 : decode cX2_addPackage 22 = .ok (.bipush 15, 2) := dk_16 15 (dk_at dksX2_addPackage_0 22 rfl rfl)
theorem dX2_addPackage_24 : decode cX2_addPackage 24 = .ok (.invokestatic 60, 3) := dk_184 0 60 (dk_at dksX2_addPackage_1 0 rfl rfl)
theorem dX2_addPackage_27 : decode cX2_addPackage 27 = .ok (.ifCond .eq 17, 3) := dk_153 0 17 (dk_at dksX2_addPackage_1 3 rfl rfl)
theorem dX2_addPackage_30 : decode cX2_addPackage 30 = .ok (.iload 4, 2) := dk_21 4 (dk_at dksX2_addPackage_1 6 rfl rfl)
theorem dX2_addPackage_32 : decode cX2_addPackage 32 = .ok (.iconst 0, 1) := dk_3 (dk_at dksX2_addPackage_1 8 rfl rfl)
theorem dX2_addPackage_33 : decode cX2_addPackage 33 = .ok (.iconst 1, 1) := dk_4 (dk_at dksX2_addPackage_1 9 rfl rfl)
theorem dX2_addPackage_34 : decode cX2_addPackage 34 = .ok (.invokestatic 60, 3) := dk_184 0 60 (dk_at dksX2_addPackage_1 10 rfl rfl)
theorem dX2_addPackage_37 : decode cX2_addPackage 37 = .ok (.ifCond .eq 7, 3) := dk_153 0 7 (dk_at dksX2_addPackage_1 13 rfl rfl)
theorem dX2_addPackage_40 : decode cX2_addPackage 40 = .ok (.iconst 1, 1) := dk_4 (dk_at dksX2_addPackage_1 16 rfl rfl)
theorem dX2_addPackage_41 : decode cX2_addPackage 41 = .ok (.goto 4, 3) := dk_167 0 4 (dk_at dksX2_addPackage_1 17 rfl rfl)
theorem dX2_addPackage_44 : decode cX2_addPackage 44 = .ok (.iconst 0, 1) := dk_3 (dk_at dksX2_addPackage_1 20 rfl rfl)
theorem dX2_addPackage_45 : decode cX2_addPackage 45 = .ok (.istore 5, 2) := dk_54 5 (dk_at dksX2_addPackage_1 21 rfl rfl)
theorem dX2_addPackage_47 : decode cX2_addPackage 47 = .ok (.aload_n 0, 1) := dk_42 (dk_at dksX2_addPackage_1 23 rfl rfl)
theorem dX2_addPackage_48 : decode cX2_addPackage 48 = .ok (.iload 5, 2) := dk_21 5 (dk_at dksX2_addPackage_2 0 rfl rfl)
theorem dX2_addPackage_50 : decode cX2_addPackage 50 = .ok (.ifCond .ne 7, 3) := dk_154 0 7 (dk_at dksX2_addPackage_2 2 rfl rfl)
theorem dX2_addPackage_53 : decode cX2_addPackage 53 = .ok (.iconst 1, 1) := dk_4 (dk_at dksX2_addPackage_2 5 rfl rfl)
theorem dX2_addPackage_54 : decode cX2_addPackage 54 = .ok (.goto 17, 3) := dk_167 0 17 (dk_at dksX2_addPackage_2 6 rfl rfl)
theorem dX2_addPackage_57 : decode cX2_addPackage 57 = .ok (.aload_n 0, 1) := dk_42 (dk_at dksX2_addPackage_2 9 rfl rfl)
theorem dX2_addPackage_58 : decode cX2_addPackage 58 = .ok (.getfield 57, 3) := dk_180 0 57 (dk_at dksX2_addPackage_2 10 rfl rfl)
theorem dX2_addPackage_61 : decode cX2_addPackage 61 = .ok (.bipush 10, 2) := dk_16 10 (dk_at dksX2_addPackage_2 13 rfl rfl)
theorem dX2_addPackage_63 : decode cX2_addPackage 63 = .ok (.if_icmp .ne 7, 3) := dk_160 0 7 (dk_at dksX2_addPackage_2 15 rfl rfl)
theorem dX2_addPackage_66 : decode cX2_addPackage 66 = .ok (.iconst 2, 1) := dk_5 (dk_at dksX2_addPackage_2 18 rfl rfl)
theorem dX2_addPackage_67 : decode cX2_addPackage 67 = .ok (.goto 4, 3) := dk_167 0 4 (dk_at dksX2_addPackage_2 19 rfl rfl)
theorem dX2_addPackage_70 : decode cX2_addPackage 70 = .ok (.iconst 0, 1) := dk_3 (dk_at dksX2_addPackage_2 22 rfl rfl)
theorem dX2_addPackage_71 : decode cX2_addPackage 71 = .ok (.invokevirtual 64, 3) := dk_182 0 64 (dk_at dksX2_addPackage_3 0 rfl rfl)
theorem dX2_addPackage_74 : decode cX2_addPackage 74 = .ok (.ifCond .ne 5, 3) := dk_154 0 5 (dk_at dksX2_addPackage_3 3 rfl rfl)
theorem dX2_addPackage_77 : decode cX2_addPackage 77 = .ok (.iconst 0, 1) := dk_3 (dk_at dksX2_addPackage_3 6 rfl rfl)
theorem dX2_addPackage_78 : decode cX2_addPackage 78 = .ok (.ireturn, 1) := dk_172 (dk_at dksX2_addPackage_3 7 rfl rfl)
theorem dX2_addPackage_79 : decode cX2_addPackage 79 = .ok (.aload_n 0, 1) := dk_42 (dk_at dksX2_addPackage_3 8 rfl rfl)
theorem dX2_addPackage_80 : decode cX2_addPackage 80 = .ok (.getfield 16, 3) := dk_180 0 16 (dk_at dksX2_addPackage_3 9 rfl rfl)
theorem dX2_addPackage_83 : decode cX2_addPackage 83 = .ok (.aload_n 0, 1) := dk_42 (dk_at dksX2_addPackage_3 12 rfl rfl)
theorem dX2_addPackage_84 : decode cX2_addPackage 84 = .ok (.getfield 57, 3) := dk_180 0 57 (dk_at dksX2_addPackage_3 13 rfl rfl)
theorem dX2_addPackage_87 : decode cX2_addPackage 87 = .ok (.iload_n 1, 1) := dk_27 (dk_at dksX2_addPackage_3 16 rfl rfl)
theorem dX2_addPackage_88 : decode cX2_addPackage 88 = .ok (.iastore, 1) := dk_79 (dk_at dksX2_addPackage_3 17 rfl rfl)
theorem dX2_addPackage_89 : decode cX2_addPackage 89 = .ok (.aload_n 0, 1) := dk_42 (dk_at dksX2_addPackage_3 18 rfl rfl)
theorem dX2_addPackage_90 : decode cX2_addPackage 90 = .ok (.getfield 19, 3) := dk_180 0 19 (dk_at dksX2_addPackage_3 19 rfl rfl)
theorem dX2_addPackage_93 : decode cX2_addPackage 93 = .ok (.aload_n 0, 1) := dk_42 (dk_at dksX2_addPackage_3 22 rfl rfl)
theorem dX2_addPackage_94 : decode cX2_addPackage 94 = .ok (.getfield 57, 3) := dk_180 0 57 (dk_at dksX2_addPackage_4 0 rfl rfl)
theorem dX2_addPackage_97 : decode cX2_addPackage 97 = .ok (.iload_n 2, 1) := dk_28 (dk_at dksX2_addPackage_4 3 rfl rfl)
theorem dX2_addPackage_98 : decode cX2_addPackage 98 = .ok (.iastore, 1) := dk_79 (dk_at dksX2_addPackage_4 4 rfl rfl)
theorem dX2_addPackage_99 : decode cX2_addPackage 99 = .ok (.aload_n 0, 1) := dk_42 (dk_at dksX2_addPackage_4 5 rfl rfl)
theorem dX2_addPackage_100 : decode cX2_addPackage 100 = .ok (.getfield 22, 3) := dk_180 0 22 (dk_at dksX2_addPackage_4 6 rfl rfl)
theorem dX2_addPackage_103 : decode cX2_addPackage 103 = .ok (.aload_n 0, 1) := dk_42 (dk_at dksX2_addPackage_4 9 rfl rfl)
theorem dX2_addPackage_104 : decode cX2_addPackage 104 = .ok (.getfield 57, 3) := dk_180 0 57 (dk_at dksX2_addPackage_4 10 rfl rfl)
theorem dX2_addPackage_107 : decode cX2_addPackage 107 = .ok (.iload_n 3, 1) := dk_29 (dk_at dksX2_addPackage_4 13 rfl rfl)
theorem dX2_addPackage_108 : decode cX2_addPackage 108 = .ok (.iastore, 1) := dk_79 (dk_at dksX2_addPackage_4 14 rfl rfl)
theorem dX2_addPackage_109 : decode cX2_addPackage 109 = .ok (.aload_n 0, 1) := dk_42 (dk_at dksX2_addPackage_4 15 rfl rfl)
theorem dX2_addPackage_110 : decode cX2_addPackage 110 = .ok (.getfield 25, 3) := dk_180 0 25 (dk_at dksX2_addPackage_4 16 rfl rfl)
theorem dX2_addPackage_113 : decode cX2_addPackage 113 = .ok (.aload_n 0, 1) := dk_42 (dk_at dksX2_addPackage_4 19 rfl rfl)
theorem dX2_addPackage_114 : decode cX2_addPackage 114 = .ok (.getfield 57, 3) := dk_180 0 57 (dk_at dksX2_addPackage_4 20 rfl rfl)
theorem dX2_addPackage_117 : decode cX2_addPackage 117 = .ok (.iload 4, 2) := dk_21 4 (dk_at dksX2_addPackage_5 0 rfl rfl)
theorem dX2_addPackage_119 : decode cX2_addPackage 119 = .ok (.iconst 1, 1) := dk_4 (dk_at dksX2_addPackage_5 2 rfl rfl)
theorem dX2_addPackage_120 : decode cX2_addPackage 120 = .ok (.if_icmp .ne 7, 3) := dk_160 0 7 (dk_at dksX2_addPackage_5 3 rfl rfl)
theorem dX2_addPackage_123 : decode cX2_addPackage 123 = .ok (.iconst 1, 1) := dk_4 (dk_at dksX2_addPackage_5 6 rfl rfl)
theorem dX2_addPackage_124 : decode cX2_addPackage 124 = .ok (.goto 4, 3) := dk_167 0 4 (dk_at dksX2_addPackage_5 7 rfl rfl)
theorem dX2_addPackage_127 : decode cX2_addPackage 127 = .ok (.iconst 0, 1) := dk_3 (dk_at dksX2_addPackage_5 10 rfl rfl)
theorem dX2_addPackage_128 : decode cX2_addPackage 128 = .ok (.bastore, 1) := dk_84 (dk_at dksX2_addPackage_5 11 rfl rfl)
theorem dX2_addPackage_129 : decode cX2_addPackage 129 = .ok (.aload_n 0, 1) := dk_42 (dk_at dksX2_addPackage_5 12 rfl rfl)
theorem dX2_addPackage_130 : decode cX2_addPackage 130 = .ok (.dup, 1) := dk_89 (dk_at dksX2_addPackage_5 13 rfl rfl)
theorem dX2_addPackage_131 : decode cX2_addPackage 131 = .ok (.getfield 57, 3) := dk_180 0 57 (dk_at dksX2_addPackage_5 14 rfl rfl)
theorem dX2_addPackage_134 : decode cX2_addPackage 134 = .ok (.iconst 1, 1) := dk_4 (dk_at dksX2_addPackage_5 17 rfl rfl)
theorem dX2_addPackage_135 : decode cX2_addPackage 135 = .ok (.iadd, 1) := dk_96 (dk_at dksX2_addPackage_5 18 rfl rfl)
theorem dX2_addPackage_136 : decode cX2_addPackage 136 = .ok (.putfield 57, 3) := dk_181 0 57 (dk_at dksX2_addPackage_5 19 rfl rfl)
theorem dX2_addPackage_139 : decode cX2_addPackage 139 = .ok (.aload_n 0, 1) := dk_42 (dk_at dksX2_addPackage_5 22 rfl rfl)
theorem dX2_addPackage_140 : decode cX2_addPackage 140 = .ok (.getfield 57, 3) := dk_180 0 57 (dk_at dksX2_addPackage_6 0 rfl rfl)
theorem dX2_addPackage_143 : decode cX2_addPackage 143 = .ok (.iconst 1, 1) := dk_4 (dk_at dksX2_addPackage_6 3 rfl rfl)
theorem dX2_addPackage_144 : decode cX2_addPackage 144 = .ok (.isub, 1) := dk_100 (dk_at dksX2_addPackage_6 4 rfl rfl)
theorem dX2_addPackage_145 : decode cX2_addPackage 145 = .ok (.ireturn, 1) := dk_172 (dk_at dksX2_addPackage_6 5 rfl rfl)
abbrev cX2_subscribe : ByteArray := prog_7_method_15_code
def yX2_subscribe : MethodName := ⟨RX2, "subscribe", "(IZ)Z"⟩
def dkwX2_subscribe_1 : List UInt8 := [184, 0, 84, 28, 3, 3, 3, 182, 0, 88, 153, 0, 7, 4, 167, 0, 4, 3, 172]
abbrev dktX2_subscribe_1 : List UInt8 := dkwX2_subscribe_1 ++ []
def dkwX2_subscribe_0 : List UInt8 := [42, 42, 27, 182, 0, 81, 153, 0, 7, 3, 167, 0, 4, 4, 182, 0, 64, 153, 0, 22, 42, 27]
abbrev dktX2_subscribe_0 : List UInt8 := dkwX2_subscribe_0 ++ dktX2_subscribe_1
theorem dksX2_subscribe_0 : cX2_subscribe.data.toList.drop 0 = dktX2_subscribe_0 := by decide +kernel
theorem dksX2_subscribe_1 : cX2_subscribe.data.toList.drop 22 = dktX2_subscribe_1 := dk_seg dksX2_subscribe_0 22 rfl rfl
theorem dX2_subscribe_0 : decode cX2_subscribe 0 = .ok (.aload_n 0, 1) := dk_42 (dk_at dksX2_subscribe_0 0 rfl rfl)
theorem dX2_subscribe_1 : decode cX2_subscribe 1 = .ok (.aload_n 0, 1) := dk_42 (dk_at dksX2_subscribe_0 1 rfl rfl)
theorem dX2_subscribe_2 : decode cX2_subscribe 2 = .ok (.iload_n 1, 1) := dk_27 (dk_at dksX2_subscribe_0 2 rfl rfl)
theorem dX2_subscribe_3 : decode cX2_subscribe 3 = .ok (.invokevirtual 81, 3) := dk_182 0 81 (dk_at dksX2_subscribe_0 3 rfl rfl)
theorem dX2_subscribe_6 : decode cX2_subscribe 6 = .ok (.ifCond .eq 7, 3) := dk_153 0 7 (dk_at dksX2_subscribe_0 6 rfl rfl)
theorem dX2_subscribe_9 : decode cX2_subscribe 9 = .ok (.iconst 0, 1) := dk_3 (dk_at dksX2_subscribe_0 9 rfl rfl)
theorem dX2_subscribe_10 : decode cX2_subscribe 10 = .ok (.goto 4, 3) := dk_167 0 4 (dk_at dksX2_subscribe_0 10 rfl rfl)
theorem dX2_subscribe_13 : decode cX2_subscribe 13 = .ok (.iconst 1, 1) := dk_4 (dk_at dksX2_subscribe_0 13 rfl rfl)
theorem dX2_subscribe_14 : decode cX2_subscribe 14 = .ok (.invokevirtual 64, 3) := dk_182 0 64 (dk_at dksX2_subscribe_0 14 rfl rfl)
theorem dX2_subscribe_17 : decode cX2_subscribe 17 = .ok (.ifCond .eq 22, 3) := dk_153 0 22 (dk_at dksX2_subscribe_0 17 rfl rfl)
theorem dX2_subscribe_20 : decode cX2_subscribe 20 = .ok (.aload_n 0, 1) := dk_42 (dk_at dksX2_subscribe_0 20 rfl rfl)
theorem dX2_subscribe_21 : decode cX2_subscribe 21 = .ok (.iload_n 1, 1) := dk_27 (dk_at dksX2_subscribe_0 21 rfl rfl)
theorem dX2_subscribe_22 : decode cX2_subscribe 22 = .ok (.invokestatic 84, 3) := dk_184 0 84 (dk_at dksX2_subscribe_1 0 rfl rfl)
theorem dX2_subscribe_25 : decode cX2_subscribe 25 = .ok (.iload_n 2, 1) := dk_28 (dk_at dksX2_subscribe_1 3 rfl rfl)
theorem dX2_subscribe_26 : decode cX2_subscribe 26 = .ok (.iconst 0, 1) := dk_3 (dk_at dksX2_subscribe_1 4 rfl rfl)
theorem dX2_subscribe_27 : decode cX2_subscribe 27 = .ok (.iconst 0, 1) := dk_3 (dk_at dksX2_subscribe_1 5 rfl rfl)
theorem dX2_subscribe_28 : decode cX2_subscribe 28 = .ok (.iconst 0, 1) := dk_3 (dk_at dksX2_subscribe_1 6 rfl rfl)
theorem dX2_subscribe_29 : decode cX2_subscribe 29 = .ok (.invokevirtual 88, 3) := dk_182 0 88 (dk_at dksX2_subscribe_1 7 rfl rfl)
theorem dX2_subscribe_32 : decode cX2_subscribe 32 = .ok (.ifCond .eq 7, 3) := dk_153 0 7 (dk_at dksX2_subscribe_1 10 rfl rfl)
theorem dX2_subscribe_35 : decode cX2_subscribe 35 = .ok (.iconst 1, 1) := dk_4 (dk_at dksX2_subscribe_1 13 rfl rfl)
theorem dX2_subscribe_36 : decode cX2_subscribe 36 = .ok (.goto 4, 3) := dk_167 0 4 (dk_at dksX2_subscribe_1 14 rfl rfl)
theorem dX2_subscribe_39 : decode cX2_subscribe 39 = .ok (.iconst 0, 1) := dk_3 (dk_at dksX2_subscribe_1 17 rfl rfl)
theorem dX2_subscribe_40 : decode cX2_subscribe 40 = .ok (.ireturn, 1) := dk_172 (dk_at dksX2_subscribe_1 18 rfl rfl)
abbrev cX2_isPackage : ByteArray := prog_7_method_6_code
def yX2_isPackage : MethodName := ⟨RX2, "isPackage", "(I)Z"⟩
def dkwX2_isPackage_0 : List UInt8 := [27, 155, 0, 15, 27, 42, 180, 0, 57, 162, 0, 7, 4, 167, 0, 4, 3, 172]
abbrev dktX2_isPackage_0 : List UInt8 := dkwX2_isPackage_0 ++ []
theorem dksX2_isPackage_0 : cX2_isPackage.data.toList.drop 0 = dktX2_isPackage_0 := by decide +kernel
theorem dX2_isPackage_0 : decode cX2_isPackage 0 = .ok (.iload_n 1, 1) := dk_27 (dk_at dksX2_isPackage_0 0 rfl rfl)
theorem dX2_isPackage_1 : decode cX2_isPackage 1 = .ok (.ifCond .lt 15, 3) := dk_155 0 15 (dk_at dksX2_isPackage_0 1 rfl rfl)
theorem dX2_isPackage_4 : decode cX2_isPackage 4 = .ok (.iload_n 1, 1) := dk_27 (dk_at dksX2_isPackage_0 4 rfl rfl)
theorem dX2_isPackage_5 : decode cX2_isPackage 5 = .ok (.aload_n 0, 1) := dk_42 (dk_at dksX2_isPackage_0 5 rfl rfl)
theorem dX2_isPackage_6 : decode cX2_isPackage 6 = .ok (.getfield 57, 3) := dk_180 0 57 (dk_at dksX2_isPackage_0 6 rfl rfl)
theorem dX2_isPackage_9 : decode cX2_isPackage 9 = .ok (.if_icmp .ge 7, 3) := dk_162 0 7 (dk_at dksX2_isPackage_0 9 rfl rfl)
theorem dX2_isPackage_12 : decode cX2_isPackage 12 = .ok (.iconst 1, 1) := dk_4 (dk_at dksX2_isPackage_0 12 rfl rfl)
theorem dX2_isPackage_13 : decode cX2_isPackage 13 = .ok (.goto 4, 3) := dk_167 0 4 (dk_at dksX2_isPackage_0 13 rfl rfl)
theorem dX2_isPackage_16 : decode cX2_isPackage 16 = .ok (.iconst 0, 1) := dk_3 (dk_at dksX2_isPackage_0 16 rfl rfl)
theorem dX2_isPackage_17 : decode cX2_isPackage 17 = .ok (.ireturn, 1) := dk_172 (dk_at dksX2_isPackage_0 17 rfl rfl)
abbrev cX2_subscription : ByteArray := prog_7_method_14_code
def yX2_subscription : MethodName := ⟨RX2, "subscription", "(I)I"⟩
def dkwX2_subscription_0 : List UInt8 := [16, 21, 26, 104, 16, 20, 96, 172]
abbrev dktX2_subscription_0 : List UInt8 := dkwX2_subscription_0 ++ []
theorem dksX2_subscription_0 : cX2_subscription.data.toList.drop 0 = dktX2_subscription_0 := by decide +kernel
theorem dX2_subscription_0 : decode cX2_subscription 0 = .ok (.bipush 21, 2) := dk_16 21 (dk_at dksX2_subscription_0 0 rfl rfl)
theorem dX2_subscription_2 : decode cX2_subscription 2 = .ok (.iload_n 0, 1) := dk_26 (dk_at dksX2_subscription_0 2 rfl rfl)
theorem dX2_subscription_3 : decode cX2_subscription 3 = .ok (.imul, 1) := dk_104 (dk_at dksX2_subscription_0 3 rfl rfl)
theorem dX2_subscription_4 : decode cX2_subscription 4 = .ok (.bipush 20, 2) := dk_16 20 (dk_at dksX2_subscription_0 4 rfl rfl)
theorem dX2_subscription_6 : decode cX2_subscription 6 = .ok (.iadd, 1) := dk_96 (dk_at dksX2_subscription_0 6 rfl rfl)
theorem dX2_subscription_7 : decode cX2_subscription 7 = .ok (.ireturn, 1) := dk_172 (dk_at dksX2_subscription_0 7 rfl rfl)
abbrev cX2_notes : ByteArray := prog_7_method_13_code
def yX2_notes : MethodName := ⟨RX2, "notes", "(IZIII)Z"⟩
def dkwX2_notes_6 : List UInt8 := [172]
abbrev dktX2_notes_6 : List UInt8 := dkwX2_notes_6 ++ []
def dkwX2_notes_5 : List UInt8 := [21, 8, 29, 79, 42, 180, 0, 44, 21, 8, 21, 4, 79, 42, 180, 0, 47, 21, 8, 21, 5, 79, 21, 7]
abbrev dktX2_notes_5 : List UInt8 := dkwX2_notes_5 ++ dktX2_notes_6
def dkwX2_notes_4 : List UInt8 := [42, 180, 0, 35, 21, 8, 42, 180, 0, 78, 79, 42, 180, 0, 38, 21, 8, 28, 84, 42, 180, 0, 41]
abbrev dktX2_notes_4 : List UInt8 := dkwX2_notes_4 ++ dktX2_notes_5
def dkwX2_notes_3 : List UInt8 := [42, 180, 0, 71, 160, 0, 7, 4, 167, 0, 4, 3, 96, 181, 0, 71, 42, 180, 0, 32, 21, 8, 27, 79]
abbrev dktX2_notes_3 : List UInt8 := dkwX2_notes_3 ++ dktX2_notes_4
def dkwX2_notes_2 : List UInt8 := [180, 0, 78, 160, 0, 8, 21, 6, 167, 0, 7, 42, 180, 0, 71, 54, 8, 42, 89, 180, 0, 71, 21, 8]
abbrev dktX2_notes_2 : List UInt8 := dkwX2_notes_2 ++ dktX2_notes_3
def dkwX2_notes_1 : List UInt8 := [153, 0, 7, 4, 167, 0, 4, 3, 54, 7, 21, 6, 2, 159, 0, 22, 42, 180, 0, 35, 21, 6, 46, 42]
abbrev dktX2_notes_1 : List UInt8 := dkwX2_notes_1 ++ dktX2_notes_2
def dkwX2_notes_0 : List UInt8 := [42, 27, 42, 180, 0, 78, 182, 0, 74, 54, 6, 21, 6, 2, 159, 0, 17, 42, 180, 0, 38, 21, 6, 51]
abbrev dktX2_notes_0 : List UInt8 := dkwX2_notes_0 ++ dktX2_notes_1
theorem dksX2_notes_0 : cX2_notes.data.toList.drop 0 = dktX2_notes_0 := by decide +kernel
theorem dksX2_notes_1 : cX2_notes.data.toList.drop 24 = dktX2_notes_1 := dk_seg dksX2_notes_0 24 rfl rfl
theorem dksX2_notes_2 : cX2_notes.data.toList.drop 48 = dktX2_notes_2 := dk_seg dksX2_notes_1 24 rfl rfl
theorem dksX2_notes_3 : cX2_notes.data.toList.drop 72 = dktX2_notes_3 := dk_seg dksX2_notes_2 24 rfl rfl
theorem dksX2_notes_4 : cX2_notes.data.toList.drop 96 = dktX2_notes_4 := dk_seg dksX2_notes_3 24 rfl rfl
theorem dksX2_notes_5 : cX2_notes.data.toList.drop 119 = dktX2_notes_5 := dk_seg dksX2_notes_4 23 rfl rfl
theorem dksX2_notes_6 : cX2_notes.data.toList.drop 143 = dktX2_notes_6 := dk_seg dksX2_notes_5 24 rfl rfl
theorem dX2_notes_0 : decode cX2_notes 0 = .ok (.aload_n 0, 1) := dk_42 (dk_at dksX2_notes_0 0 rfl rfl)
theorem dX2_notes_1 : decode cX2_notes 1 = .ok (.iload_n 1, 1) := dk_27 (dk_at dksX2_notes_0 1 rfl rfl)
theorem dX2_notes_2 : decode cX2_notes 2 = .ok (.aload_n 0, 1) := dk_42 (dk_at dksX2_notes_0 2 rfl rfl)
theorem dX2_notes_3 : decode cX2_notes 3 = .ok (.getfield 78, 3) := dk_180 0 78 (dk_at dksX2_notes_0 3 rfl rfl)
theorem dX2_notes_6 : decode cX2_notes 6 = .ok (.invokevirtual 74, 3) := dk_182 0 74 (dk_at dksX2_notes_0 6 rfl rfl)
theorem dX2_notes_9 : decode cX2_notes 9 = .ok (.istore 6, 2) := dk_54 6 (dk_at dksX2_notes_0 9 rfl rfl)
theorem dX2_notes_11 : decode cX2_notes 11 = .ok (.iload 6, 2) := dk_21 6 (dk_at dksX2_notes_0 11 rfl rfl)
theorem dX2_notes_13 : decode cX2_notes 13 = .ok (.iconst (-1), 1) := dk_2 (dk_at dksX2_notes_0 13 rfl rfl)
theorem dX2_notes_14 : decode cX2_notes 14 = .ok (.if_icmp .eq 17, 3) := dk_159 0 17 (dk_at dksX2_notes_0 14 rfl rfl)
theorem dX2_notes_17 : decode cX2_notes 17 = .ok (.aload_n 0, 1) := dk_42 (dk_at dksX2_notes_0 17 rfl rfl)
theorem dX2_notes_18 : decode cX2_notes 18 = .ok (.getfield 38, 3) := dk_180 0 38 (dk_at dksX2_notes_0 18 rfl rfl)
theorem dX2_notes_21 : decode cX2_notes 21 = .ok (.iload 6, 2) := dk_21 6 (dk_at dksX2_notes_0 21 rfl rfl)
theorem dX2_notes_23 : decode cX2_notes 23 = .ok (.baload, 1) := dk_51 (dk_at dksX2_notes_0 23 rfl rfl)
theorem dX2_notes_24 : decode cX2_notes 24 = .ok (.ifCond .eq 7, 3) := dk_153 0 7 (dk_at dksX2_notes_1 0 rfl rfl)
theorem dX2_notes_27 : decode cX2_notes 27 = .ok (.iconst 1, 1) := dk_4 (dk_at dksX2_notes_1 3 rfl rfl)
theorem dX2_notes_28 : decode cX2_notes 28 = .ok (.goto 4, 3) := dk_167 0 4 (dk_at dksX2_notes_1 4 rfl rfl)
theorem dX2_notes_31 : decode cX2_notes 31 = .ok (.iconst 0, 1) := dk_3 (dk_at dksX2_notes_1 7 rfl rfl)
theorem dX2_notes_32 : decode cX2_notes 32 = .ok (.istore 7, 2) := dk_54 7 (dk_at dksX2_notes_1 8 rfl rfl)
theorem dX2_notes_34 : decode cX2_notes 34 = .ok (.iload 6, 2) := dk_21 6 (dk_at dksX2_notes_1 10 rfl rfl)
theorem dX2_notes_36 : decode cX2_notes 36 = .ok (.iconst (-1), 1) := dk_2 (dk_at dksX2_notes_1 12 rfl rfl)
theorem dX2_notes_37 : decode cX2_notes 37 = .ok (.if_icmp .eq 22, 3) := dk_159 0 22 (dk_at dksX2_notes_1 13 rfl rfl)
theorem dX2_notes_40 : decode cX2_notes 40 = .ok (.aload_n 0, 1) := dk_42 (dk_at dksX2_notes_1 16 rfl rfl)
theorem dX2_notes_41 : decode cX2_notes 41 = .ok (.getfield 35, 3) := dk_180 0 35 (dk_at dksX2_notes_1 17 rfl rfl)
theorem dX2_notes_44 : decode cX2_notes 44 = .ok (.iload 6, 2) := dk_21 6 (dk_at dksX2_notes_1 20 rfl rfl)
theorem dX2_notes_46 : decode cX2_notes 46 = .ok (.iaload, 1) := dk_46 (dk_at dksX2_notes_1 22 rfl rfl)
theorem dX2_notes_47 : decode cX2_notes 47 = .ok (.aload_n 0, 1) := dk_42 (dk_at dksX2_notes_1 23 rfl rfl)
theorem dX2_notes_48 : decode cX2_notes 48 = .ok (.getfield 78, 3) := dk_180 0 78 (dk_at dksX2_notes_2 0 rfl rfl)
theorem dX2_notes_51 : decode cX2_notes 51 = .ok (.if_icmp .ne 8, 3) := dk_160 0 8 (dk_at dksX2_notes_2 3 rfl rfl)
theorem dX2_notes_54 : decode cX2_notes 54 = .ok (.iload 6, 2) := dk_21 6 (dk_at dksX2_notes_2 6 rfl rfl)
theorem dX2_notes_56 : decode cX2_notes 56 = .ok (.goto 7, 3) := dk_167 0 7 (dk_at dksX2_notes_2 8 rfl rfl)
theorem dX2_notes_59 : decode cX2_notes 59 = .ok (.aload_n 0, 1) := dk_42 (dk_at dksX2_notes_2 11 rfl rfl)
theorem dX2_notes_60 : decode cX2_notes 60 = .ok (.getfield 71, 3) := dk_180 0 71 (dk_at dksX2_notes_2 12 rfl rfl)
theorem dX2_notes_63 : decode cX2_notes 63 = .ok (.istore 8, 2) := dk_54 8 (dk_at dksX2_notes_2 15 rfl rfl)
theorem dX2_notes_65 : decode cX2_notes 65 = .ok (.aload_n 0, 1) := dk_42 (dk_at dksX2_notes_2 17 rfl rfl)
theorem dX2_notes_66 : decode cX2_notes 66 = .ok (.dup, 1) := dk_89 (dk_at dksX2_notes_2 18 rfl rfl)
theorem dX2_notes_67 : decode cX2_notes 67 = .ok (.getfield 71, 3) := dk_180 0 71 (dk_at dksX2_notes_2 19 rfl rfl)
theorem dX2_notes_70 : decode cX2_notes 70 = .ok (.iload 8, 2) := dk_21 8 (dk_at dksX2_notes_2 22 rfl rfl)
theorem dX2_notes_72 : decode cX2_notes 72 = .ok (.aload_n 0, 1) := dk_42 (dk_at dksX2_notes_3 0 rfl rfl)
theorem dX2_notes_73 : decode cX2_notes 73 = .ok (.getfield 71, 3) := dk_180 0 71 (dk_at dksX2_notes_3 1 rfl rfl)
theorem dX2_notes_76 : decode cX2_notes 76 = .ok (.if_icmp .ne 7, 3) := dk_160 0 7 (dk_at dksX2_notes_3 4 rfl rfl)
theorem dX2_notes_79 : decode cX2_notes 79 = .ok (.iconst 1, 1) := dk_4 (dk_at dksX2_notes_3 7 rfl rfl)
theorem dX2_notes_80 : decode cX2_notes 80 = .ok (.goto 4, 3) := dk_167 0 4 (dk_at dksX2_notes_3 8 rfl rfl)
theorem dX2_notes_83 : decode cX2_notes 83 = .ok (.iconst 0, 1) := dk_3 (dk_at dksX2_notes_3 11 rfl rfl)
theorem dX2_notes_84 : decode cX2_notes 84 = .ok (.iadd, 1) := dk_96 (dk_at dksX2_notes_3 12 rfl rfl)
theorem dX2_notes_85 : decode cX2_notes 85 = .ok (.putfield 71, 3) := dk_181 0 71 (dk_at dksX2_notes_3 13 rfl rfl)
theorem dX2_notes_88 : decode cX2_notes 88 = .ok (.aload_n 0, 1) := dk_42 (dk_at dksX2_notes_3 16 rfl rfl)
theorem dX2_notes_89 : decode cX2_notes 89 = .ok (.getfield 32, 3) := dk_180 0 32 (dk_at dksX2_notes_3 17 rfl rfl)
theorem dX2_notes_92 : decode cX2_notes 92 = .ok (.iload 8, 2) := dk_21 8 (dk_at dksX2_notes_3 20 rfl rfl)
theorem dX2_notes_94 : decode cX2_notes 94 = .ok (.iload_n 1, 1) := dk_27 (dk_at dksX2_notes_3 22 rfl rfl)
theorem dX2_notes_95 : decode cX2_notes 95 = .ok (.iastore, 1) := dk_79 (dk_at dksX2_notes_3 23 rfl rfl)
theorem dX2_notes_96 : decode cX2_notes 96 = .ok (.aload_n 0, 1) := dk_42 (dk_at dksX2_notes_4 0 rfl rfl)
theorem dX2_notes_97 : decode cX2_notes 97 = .ok (.getfield 35, 3) := dk_180 0 35 (dk_at dksX2_notes_4 1 rfl rfl)
theorem dX2_notes_100 : decode cX2_notes 100 = .ok (.iload 8, 2) := dk_21 8 (dk_at dksX2_notes_4 4 rfl rfl)
theorem dX2_notes_102 : decode cX2_notes 102 = .ok (.aload_n 0, 1) := dk_42 (dk_at dksX2_notes_4 6 rfl rfl)
theorem dX2_notes_103 : decode cX2_notes 103 = .ok (.getfield 78, 3) := dk_180 0 78 (dk_at dksX2_notes_4 7 rfl rfl)
theorem dX2_notes_106 : decode cX2_notes 106 = .ok (.iastore, 1) := dk_79 (dk_at dksX2_notes_4 10 rfl rfl)
theorem dX2_notes_107 : decode cX2_notes 107 = .ok (.aload_n 0, 1) := dk_42 (dk_at dksX2_notes_4 11 rfl rfl)
theorem dX2_notes_108 : decode cX2_notes 108 = .ok (.getfield 38, 3) := dk_180 0 38 (dk_at dksX2_notes_4 12 rfl rfl)
theorem dX2_notes_111 : decode cX2_notes 111 = .ok (.iload 8, 2) := dk_21 8 (dk_at dksX2_notes_4 15 rfl rfl)
theorem dX2_notes_113 : decode cX2_notes 113 = .ok (.iload_n 2, 1) := dk_28 (dk_at dksX2_notes_4 17 rfl rfl)
theorem dX2_notes_114 : decode cX2_notes 114 = .ok (.bastore, 1) := dk_84 (dk_at dksX2_notes_4 18 rfl rfl)
theorem dX2_notes_115 : decode cX2_notes 115 = .ok (.aload_n 0, 1) := dk_42 (dk_at dksX2_notes_4 19 rfl rfl)
theorem dX2_notes_116 : decode cX2_notes 116 = .ok (.getfield 41, 3) := dk_180 0 41 (dk_at dksX2_notes_4 20 rfl rfl)
theorem dX2_notes_119 : decode cX2_notes 119 = .ok (.iload 8, 2) := dk_21 8 (dk_at dksX2_notes_5 0 rfl rfl)
theorem dX2_notes_121 : decode cX2_notes 121 = .ok (.iload_n 3, 1) := dk_29 (dk_at dksX2_notes_5 2 rfl rfl)
theorem dX2_notes_122 : decode cX2_notes 122 = .ok (.iastore, 1) := dk_79 (dk_at dksX2_notes_5 3 rfl rfl)
theorem dX2_notes_123 : decode cX2_notes 123 = .ok (.aload_n 0, 1) := dk_42 (dk_at dksX2_notes_5 4 rfl rfl)
theorem dX2_notes_124 : decode cX2_notes 124 = .ok (.getfield 44, 3) := dk_180 0 44 (dk_at dksX2_notes_5 5 rfl rfl)
theorem dX2_notes_127 : decode cX2_notes 127 = .ok (.iload 8, 2) := dk_21 8 (dk_at dksX2_notes_5 8 rfl rfl)
theorem dX2_notes_129 : decode cX2_notes 129 = .ok (.iload 4, 2) := dk_21 4 (dk_at dksX2_notes_5 10 rfl rfl)
theorem dX2_notes_131 : decode cX2_notes 131 = .ok (.iastore, 1) := dk_79 (dk_at dksX2_notes_5 12 rfl rfl)
theorem dX2_notes_132 : decode cX2_notes 132 = .ok (.aload_n 0, 1) := dk_42 (dk_at dksX2_notes_5 13 rfl rfl)
theorem dX2_notes_133 : decode cX2_notes 133 = .ok (.getfield 47, 3) := dk_180 0 47 (dk_at dksX2_notes_5 14 rfl rfl)
theorem dX2_notes_136 : decode cX2_notes 136 = .ok (.iload 8, 2) := dk_21 8 (dk_at dksX2_notes_5 17 rfl rfl)
theorem dX2_notes_138 : decode cX2_notes 138 = .ok (.iload 5, 2) := dk_21 5 (dk_at dksX2_notes_5 19 rfl rfl)
theorem dX2_notes_140 : decode cX2_notes 140 = .ok (.iastore, 1) := dk_79 (dk_at dksX2_notes_5 21 rfl rfl)
theorem dX2_notes_141 : decode cX2_notes 141 = .ok (.iload 7, 2) := dk_21 7 (dk_at dksX2_notes_5 22 rfl rfl)
theorem dX2_notes_143 : decode cX2_notes 143 = .ok (.ireturn, 1) := dk_172 (dk_at dksX2_notes_6 0 rfl rfl)
abbrev cX2_changeOn : ByteArray := prog_7_method_11_code
def yX2_changeOn : MethodName := ⟨RX2, "changeOn", "(II)I"⟩
def dkwX2_changeOn_1 : List UInt8 := [180, 0, 35, 29, 46, 28, 164, 0, 9, 132, 3, 255, 167, 255, 229, 29, 172]
abbrev dktX2_changeOn_1 : List UInt8 := dkwX2_changeOn_1 ++ []
def dkwX2_changeOn_0 : List UInt8 := [42, 180, 0, 71, 4, 100, 62, 29, 155, 0, 29, 42, 180, 0, 32, 29, 46, 27, 160, 0, 13, 42]
abbrev dktX2_changeOn_0 : List UInt8 := dkwX2_changeOn_0 ++ dktX2_changeOn_1
theorem dksX2_changeOn_0 : cX2_changeOn.data.toList.drop 0 = dktX2_changeOn_0 := by decide +kernel
theorem dksX2_changeOn_1 : cX2_changeOn.data.toList.drop 22 = dktX2_changeOn_1 := dk_seg dksX2_changeOn_0 22 rfl rfl
theorem dX2_changeOn_0 : decode cX2_changeOn 0 = .ok (.aload_n 0, 1) := dk_42 (dk_at dksX2_changeOn_0 0 rfl rfl)
theorem dX2_changeOn_1 : decode cX2_changeOn 1 = .ok (.getfield 71, 3) := dk_180 0 71 (dk_at dksX2_changeOn_0 1 rfl rfl)
theorem dX2_changeOn_4 : decode cX2_changeOn 4 = .ok (.iconst 1, 1) := dk_4 (dk_at dksX2_changeOn_0 4 rfl rfl)
theorem dX2_changeOn_5 : decode cX2_changeOn 5 = .ok (.isub, 1) := dk_100 (dk_at dksX2_changeOn_0 5 rfl rfl)
theorem dX2_changeOn_6 : decode cX2_changeOn 6 = .ok (.istore_n 3, 1) := dk_62 (dk_at dksX2_changeOn_0 6 rfl rfl)
theorem dX2_changeOn_7 : decode cX2_changeOn 7 = .ok (.iload_n 3, 1) := dk_29 (dk_at dksX2_changeOn_0 7 rfl rfl)
theorem dX2_changeOn_8 : decode cX2_changeOn 8 = .ok (.ifCond .lt 29, 3) := dk_155 0 29 (dk_at dksX2_changeOn_0 8 rfl rfl)
theorem dX2_changeOn_11 : decode cX2_changeOn 11 = .ok (.aload_n 0, 1) := dk_42 (dk_at dksX2_changeOn_0 11 rfl rfl)
theorem dX2_changeOn_12 : decode cX2_changeOn 12 = .ok (.getfield 32, 3) := dk_180 0 32 (dk_at dksX2_changeOn_0 12 rfl rfl)
theorem dX2_changeOn_15 : decode cX2_changeOn 15 = .ok (.iload_n 3, 1) := dk_29 (dk_at dksX2_changeOn_0 15 rfl rfl)
theorem dX2_changeOn_16 : decode cX2_changeOn 16 = .ok (.iaload, 1) := dk_46 (dk_at dksX2_changeOn_0 16 rfl rfl)
theorem dX2_changeOn_17 : decode cX2_changeOn 17 = .ok (.iload_n 1, 1) := dk_27 (dk_at dksX2_changeOn_0 17 rfl rfl)
theorem dX2_changeOn_18 : decode cX2_changeOn 18 = .ok (.if_icmp .ne 13, 3) := dk_160 0 13 (dk_at dksX2_changeOn_0 18 rfl rfl)
theorem dX2_changeOn_21 : decode cX2_changeOn 21 = .ok (.aload_n 0, 1) := dk_42 (dk_at dksX2_changeOn_0 21 rfl rfl)
theorem dX2_changeOn_22 : decode cX2_changeOn 22 = .ok (.getfield 35, 3) := dk_180 0 35 (dk_at dksX2_changeOn_1 0 rfl rfl)
theorem dX2_changeOn_25 : decode cX2_changeOn 25 = .ok (.iload_n 3, 1) := dk_29 (dk_at dksX2_changeOn_1 3 rfl rfl)
theorem dX2_changeOn_26 : decode cX2_changeOn 26 = .ok (.iaload, 1) := dk_46 (dk_at dksX2_changeOn_1 4 rfl rfl)
theorem dX2_changeOn_27 : decode cX2_changeOn 27 = .ok (.iload_n 2, 1) := dk_28 (dk_at dksX2_changeOn_1 5 rfl rfl)
theorem dX2_changeOn_28 : decode cX2_changeOn 28 = .ok (.if_icmp .le 9, 3) := dk_164 0 9 (dk_at dksX2_changeOn_1 6 rfl rfl)
theorem dX2_changeOn_31 : decode cX2_changeOn 31 = .ok (.iinc 3 (-1), 3) := dk_132 3 255 (dk_at dksX2_changeOn_1 9 rfl rfl)
theorem dX2_changeOn_34 : decode cX2_changeOn 34 = .ok (.goto (-27), 3) := dk_167 255 229 (dk_at dksX2_changeOn_1 12 rfl rfl)
theorem dX2_changeOn_37 : decode cX2_changeOn 37 = .ok (.iload_n 3, 1) := dk_29 (dk_at dksX2_changeOn_1 15 rfl rfl)
theorem dX2_changeOn_38 : decode cX2_changeOn 38 = .ok (.ireturn, 1) := dk_172 (dk_at dksX2_changeOn_1 16 rfl rfl)
abbrev cX2_come : ByteArray := prog_7_method_16_code
def yX2_come : MethodName := ⟨RX2, "come", "(IIIII)Z"⟩
def dkwX2_come_4 : List UInt8 := [28, 96, 4, 29, 21, 4, 21, 5, 182, 0, 88, 153, 0, 7, 4, 167, 0, 4, 3, 172]
abbrev dktX2_come_4 : List UInt8 := dkwX2_come_4 ++ []
def dkwX2_come_3 : List UInt8 := [167, 0, 13, 21, 7, 153, 0, 7, 3, 167, 0, 4, 5, 182, 0, 64, 153, 0, 26, 42, 16, 21, 27, 104]
abbrev dktX2_come_3 : List UInt8 := dkwX2_come_3 ++ dktX2_come_4
def dkwX2_come_2 : List UInt8 := [16, 20, 184, 0, 60, 153, 0, 7, 4, 167, 0, 4, 3, 54, 7, 42, 21, 6, 154, 0, 7, 4]
abbrev dktX2_come_2 : List UInt8 := dkwX2_come_2 ++ dktX2_come_3
def dkwX2_come_1 : List UInt8 := [3, 16, 55, 184, 0, 60, 153, 0, 29, 21, 4, 29, 16, 55, 184, 0, 60, 153, 0, 18, 21, 5, 3]
abbrev dktX2_come_1 : List UInt8 := dkwX2_come_1 ++ dktX2_come_2
def dkwX2_come_0 : List UInt8 := [42, 27, 182, 0, 81, 153, 0, 15, 42, 28, 182, 0, 68, 153, 0, 7, 4, 167, 0, 4, 3, 54, 6, 29]
abbrev dktX2_come_0 : List UInt8 := dkwX2_come_0 ++ dktX2_come_1
theorem dksX2_come_0 : cX2_come.data.toList.drop 0 = dktX2_come_0 := by decide +kernel
theorem dksX2_come_1 : cX2_come.data.toList.drop 24 = dktX2_come_1 := dk_seg dksX2_come_0 24 rfl rfl
theorem dksX2_come_2 : cX2_come.data.toList.drop 47 = dktX2_come_2 := dk_seg dksX2_come_1 23 rfl rfl
theorem dksX2_come_3 : cX2_come.data.toList.drop 69 = dktX2_come_3 := dk_seg dksX2_come_2 22 rfl rfl
theorem dksX2_come_4 : cX2_come.data.toList.drop 93 = dktX2_come_4 := dk_seg dksX2_come_3 24 rfl rfl
theorem dX2_come_0 : decode cX2_come 0 = .ok (.aload_n 0, 1) := dk_42 (dk_at dksX2_come_0 0 rfl rfl)
theorem dX2_come_1 : decode cX2_come 1 = .ok (.iload_n 1, 1) := dk_27 (dk_at dksX2_come_0 1 rfl rfl)
theorem dX2_come_2 : decode cX2_come 2 = .ok (.invokevirtual 81, 3) := dk_182 0 81 (dk_at dksX2_come_0 2 rfl rfl)
theorem dX2_come_5 : decode cX2_come 5 = .ok (.ifCond .eq 15, 3) := dk_153 0 15 (dk_at dksX2_come_0 5 rfl rfl)
theorem dX2_come_8 : decode cX2_come 8 = .ok (.aload_n 0, 1) := dk_42 (dk_at dksX2_come_0 8 rfl rfl)
theorem dX2_come_9 : decode cX2_come 9 = .ok (.iload_n 2, 1) := dk_28 (dk_at dksX2_come_0 9 rfl rfl)
theorem dX2_come_10 : decode cX2_come 10 = .ok (.invokevirtual 68, 3) := dk_182 0 68 (dk_at dksX2_come_0 10 rfl rfl)
theorem dX2_come_13 : decode cX2_come 13 = .ok (.ifCond .eq 7, 3) := dk_153 0 7 (dk_at dksX2_come_0 13 rfl rfl)
theorem dX2_come_16 : decode cX2_come 16 = .ok (.iconst 1, 1) := dk_4 (dk_at dksX2_come_0 16 rfl rfl)
theorem dX2_come_17 : decode cX2_come 17 = .ok (.goto 4, 3) := dk_167 0 4 (dk_at dksX2_come_0 17 rfl rfl)
theorem dX2_come_20 : decode cX2_come 20 = .ok (.iconst 0, 1) := dk_3 (dk_at dksX2_come_0 20 rfl rfl)
theorem dX2_come_21 : decode cX2_come 21 = .ok (.istore 6, 2) := dk_54 6 (dk_at dksX2_come_0 21 rfl rfl)
theorem dX2_come_23 : decode cX2_come 23 = .ok (.iload_n 3, 1) := dk_29 (dk_at dksX2_come_0 23 rfl rfl)
theorem dX2_come_24 : decode cX2_come 24 = .ok (.iconst 0, 1) := dk_3 (dk_at dksX2_come_1 0 rfl rfl)
theorem dX2_come_25 : decode cX2_come 25 = .ok (.bipush 55, 2) := dk_16 55 (dk_at dksX2_come_1 1 rfl rfl)
theorem dX2_come_27 : decode cX2_come 27 = .ok (.invokestatic 60, 3) := dk_184 0 60 (dk_at dksX2_come_1 3 rfl rfl)
theorem dX2_come_30 : decode cX2_come 30 = .ok (.ifCond .eq 29, 3) := dk_153 0 29 (dk_at dksX2_come_1 6 rfl rfl)
theorem dX2_come_33 : decode cX2_come 33 = .ok (.iload 4, 2) := dk_21 4 (dk_at dksX2_come_1 9 rfl rfl)
theorem dX2_come_35 : decode cX2_come 35 = .ok (.iload_n 3, 1) := dk_29 (dk_at dksX2_come_1 11 rfl rfl)
theorem dX2_come_36 : decode cX2_come 36 = .ok (.bipush 55, 2) := dk_16 55 (dk_at dksX2_come_1 12 rfl rfl)
theorem dX2_come_38 : decode cX2_come 38 = .ok (.invokestatic 60, 3) := dk_184 0 60 (dk_at dksX2_come_1 14 rfl rfl)
theorem dX2_come_41 : decode cX2_come 41 = .ok (.ifCond .eq 18, 3) := dk_153 0 18 (dk_at dksX2_come_1 17 rfl rfl)
theorem dX2_come_44 : decode cX2_come 44 = .ok (.iload 5, 2) := dk_21 5 (dk_at dksX2_come_1 20 rfl rfl)
theorem dX2_come_46 : decode cX2_come 46 = .ok (.iconst 0, 1) := dk_3 (dk_at dksX2_come_1 22 rfl rfl)
theorem dX2_come_47 : decode cX2_come 47 = .ok (.bipush 20, 2) := dk_16 20 (dk_at dksX2_come_2 0 rfl rfl)
theorem dX2_come_49 : decode cX2_come 49 = .ok (.invokestatic 60, 3) := dk_184 0 60 (dk_at dksX2_come_2 2 rfl rfl)
theorem dX2_come_52 : decode cX2_come 52 = .ok (.ifCond .eq 7, 3) := dk_153 0 7 (dk_at dksX2_come_2 5 rfl rfl)
theorem dX2_come_55 : decode cX2_come 55 = .ok (.iconst 1, 1) := dk_4 (dk_at dksX2_come_2 8 rfl rfl)
theorem dX2_come_56 : decode cX2_come 56 = .ok (.goto 4, 3) := dk_167 0 4 (dk_at dksX2_come_2 9 rfl rfl)
theorem dX2_come_59 : decode cX2_come 59 = .ok (.iconst 0, 1) := dk_3 (dk_at dksX2_come_2 12 rfl rfl)
theorem dX2_come_60 : decode cX2_come 60 = .ok (.istore 7, 2) := dk_54 7 (dk_at dksX2_come_2 13 rfl rfl)
theorem dX2_come_62 : decode cX2_come 62 = .ok (.aload_n 0, 1) := dk_42 (dk_at dksX2_come_2 15 rfl rfl)
theorem dX2_come_63 : decode cX2_come 63 = .ok (.iload 6, 2) := dk_21 6 (dk_at dksX2_come_2 16 rfl rfl)
theorem dX2_come_65 : decode cX2_come 65 = .ok (.ifCond .ne 7, 3) := dk_154 0 7 (dk_at dksX2_come_2 18 rfl rfl)
theorem dX2_come_68 : decode cX2_come 68 = .ok (.iconst 1, 1) := dk_4 (dk_at dksX2_come_2 21 rfl rfl)
theorem dX2_come_69 : decode cX2_come 69 = .ok (.goto 13, 3) := dk_167 0 13 (dk_at dksX2_come_3 0 rfl rfl)
theorem dX2_come_72 : decode cX2_come 72 = .ok (.iload 7, 2) := dk_21 7 (dk_at dksX2_come_3 3 rfl rfl)
theorem dX2_come_74 : decode cX2_come 74 = .ok (.ifCond .eq 7, 3) := dk_153 0 7 (dk_at dksX2_come_3 5 rfl rfl)
theorem dX2_come_77 : decode cX2_come 77 = .ok (.iconst 0, 1) := dk_3 (dk_at dksX2_come_3 8 rfl rfl)
theorem dX2_come_78 : decode cX2_come 78 = .ok (.goto 4, 3) := dk_167 0 4 (dk_at dksX2_come_3 9 rfl rfl)
theorem dX2_come_81 : decode cX2_come 81 = .ok (.iconst 2, 1) := dk_5 (dk_at dksX2_come_3 12 rfl rfl)
theorem dX2_come_82 : decode cX2_come 82 = .ok (.invokevirtual 64, 3) := dk_182 0 64 (dk_at dksX2_come_3 13 rfl rfl)
theorem dX2_come_85 : decode cX2_come 85 = .ok (.ifCond .eq 26, 3) := dk_153 0 26 (dk_at dksX2_come_3 16 rfl rfl)
theorem dX2_come_88 : decode cX2_come 88 = .ok (.aload_n 0, 1) := dk_42 (dk_at dksX2_come_3 19 rfl rfl)
theorem dX2_come_89 : decode cX2_come 89 = .ok (.bipush 21, 2) := dk_16 21 (dk_at dksX2_come_3 20 rfl rfl)
theorem dX2_come_91 : decode cX2_come 91 = .ok (.iload_n 1, 1) := dk_27 (dk_at dksX2_come_3 22 rfl rfl)
theorem dX2_come_92 : decode cX2_come 92 = .ok (.imul, 1) := dk_104 (dk_at dksX2_come_3 23 rfl rfl)
theorem dX2_come_93 : decode cX2_come 93 = .ok (.iload_n 2, 1) := dk_28 (dk_at dksX2_come_4 0 rfl rfl)
theorem dX2_come_94 : decode cX2_come 94 = .ok (.iadd, 1) := dk_96 (dk_at dksX2_come_4 1 rfl rfl)
theorem dX2_come_95 : decode cX2_come 95 = .ok (.iconst 1, 1) := dk_4 (dk_at dksX2_come_4 2 rfl rfl)
theorem dX2_come_96 : decode cX2_come 96 = .ok (.iload_n 3, 1) := dk_29 (dk_at dksX2_come_4 3 rfl rfl)
theorem dX2_come_97 : decode cX2_come 97 = .ok (.iload 4, 2) := dk_21 4 (dk_at dksX2_come_4 4 rfl rfl)
theorem dX2_come_99 : decode cX2_come 99 = .ok (.iload 5, 2) := dk_21 5 (dk_at dksX2_come_4 6 rfl rfl)
theorem dX2_come_101 : decode cX2_come 101 = .ok (.invokevirtual 88, 3) := dk_182 0 88 (dk_at dksX2_come_4 8 rfl rfl)
theorem dX2_come_104 : decode cX2_come 104 = .ok (.ifCond .eq 7, 3) := dk_153 0 7 (dk_at dksX2_come_4 11 rfl rfl)
theorem dX2_come_107 : decode cX2_come 107 = .ok (.iconst 1, 1) := dk_4 (dk_at dksX2_come_4 14 rfl rfl)
theorem dX2_come_108 : decode cX2_come 108 = .ok (.goto 4, 3) := dk_167 0 4 (dk_at dksX2_come_4 15 rfl rfl)
theorem dX2_come_111 : decode cX2_come 111 = .ok (.iconst 0, 1) := dk_3 (dk_at dksX2_come_4 18 rfl rfl)
theorem dX2_come_112 : decode cX2_come 112 = .ok (.ireturn, 1) := dk_172 (dk_at dksX2_come_4 19 rfl rfl)
abbrev cX2_go : ByteArray := prog_7_method_17_code
def yX2_go : MethodName := ⟨RX2, "go", "(II)V"⟩
def dkwX2_go_3 : List UInt8 := [182, 0, 88, 54, 4, 177]
abbrev dktX2_go_3 : List UInt8 := dkwX2_go_3 ++ []
def dkwX2_go_2 : List UInt8 := [3, 167, 0, 4, 5, 182, 0, 64, 153, 0, 19, 42, 16, 21, 27, 104, 28, 96, 3, 3, 3, 3]
abbrev dktX2_go_2 : List UInt8 := dkwX2_go_2 ++ dktX2_go_3
def dkwX2_go_1 : List UInt8 := [154, 0, 7, 4, 167, 0, 25, 42, 16, 21, 27, 104, 28, 96, 42, 180, 0, 78, 182, 0, 92, 153, 0, 7]
abbrev dktX2_go_1 : List UInt8 := dkwX2_go_1 ++ dktX2_go_2
def dkwX2_go_0 : List UInt8 := [42, 27, 182, 0, 81, 153, 0, 15, 42, 28, 182, 0, 68, 153, 0, 7, 4, 167, 0, 4, 3, 62, 42, 29]
abbrev dktX2_go_0 : List UInt8 := dkwX2_go_0 ++ dktX2_go_1
theorem dksX2_go_0 : cX2_go.data.toList.drop 0 = dktX2_go_0 := by decide +kernel
theorem dksX2_go_1 : cX2_go.data.toList.drop 24 = dktX2_go_1 := dk_seg dksX2_go_0 24 rfl rfl
theorem dksX2_go_2 : cX2_go.data.toList.drop 48 = dktX2_go_2 := dk_seg dksX2_go_1 24 rfl rfl
theorem dksX2_go_3 : cX2_go.data.toList.drop 70 = dktX2_go_3 := dk_seg dksX2_go_2 22 rfl rfl
theorem dX2_go_0 : decode cX2_go 0 = .ok (.aload_n 0, 1) := dk_42 (dk_at dksX2_go_0 0 rfl rfl)
theorem dX2_go_1 : decode cX2_go 1 = .ok (.iload_n 1, 1) := dk_27 (dk_at dksX2_go_0 1 rfl rfl)
theorem dX2_go_2 : decode cX2_go 2 = .ok (.invokevirtual 81, 3) := dk_182 0 81 (dk_at dksX2_go_0 2 rfl rfl)
theorem dX2_go_5 : decode cX2_go 5 = .ok (.ifCond .eq 15, 3) := dk_153 0 15 (dk_at dksX2_go_0 5 rfl rfl)
theorem dX2_go_8 : decode cX2_go 8 = .ok (.aload_n 0, 1) := dk_42 (dk_at dksX2_go_0 8 rfl rfl)
theorem dX2_go_9 : decode cX2_go 9 = .ok (.iload_n 2, 1) := dk_28 (dk_at dksX2_go_0 9 rfl rfl)
theorem dX2_go_10 : decode cX2_go 10 = .ok (.invokevirtual 68, 3) := dk_182 0 68 (dk_at dksX2_go_0 10 rfl rfl)
theorem dX2_go_13 : decode cX2_go 13 = .ok (.ifCond .eq 7, 3) := dk_153 0 7 (dk_at dksX2_go_0 13 rfl rfl)
theorem dX2_go_16 : decode cX2_go 16 = .ok (.iconst 1, 1) := dk_4 (dk_at dksX2_go_0 16 rfl rfl)
theorem dX2_go_17 : decode cX2_go 17 = .ok (.goto 4, 3) := dk_167 0 4 (dk_at dksX2_go_0 17 rfl rfl)
theorem dX2_go_20 : decode cX2_go 20 = .ok (.iconst 0, 1) := dk_3 (dk_at dksX2_go_0 20 rfl rfl)
theorem dX2_go_21 : decode cX2_go 21 = .ok (.istore_n 3, 1) := dk_62 (dk_at dksX2_go_0 21 rfl rfl)
theorem dX2_go_22 : decode cX2_go 22 = .ok (.aload_n 0, 1) := dk_42 (dk_at dksX2_go_0 22 rfl rfl)
theorem dX2_go_23 : decode cX2_go 23 = .ok (.iload_n 3, 1) := dk_29 (dk_at dksX2_go_0 23 rfl rfl)
theorem dX2_go_24 : decode cX2_go 24 = .ok (.ifCond .ne 7, 3) := dk_154 0 7 (dk_at dksX2_go_1 0 rfl rfl)
theorem dX2_go_27 : decode cX2_go 27 = .ok (.iconst 1, 1) := dk_4 (dk_at dksX2_go_1 3 rfl rfl)
theorem dX2_go_28 : decode cX2_go 28 = .ok (.goto 25, 3) := dk_167 0 25 (dk_at dksX2_go_1 4 rfl rfl)
theorem dX2_go_31 : decode cX2_go 31 = .ok (.aload_n 0, 1) := dk_42 (dk_at dksX2_go_1 7 rfl rfl)
theorem dX2_go_32 : decode cX2_go 32 = .ok (.bipush 21, 2) := dk_16 21 (dk_at dksX2_go_1 8 rfl rfl)
theorem dX2_go_34 : decode cX2_go 34 = .ok (.iload_n 1, 1) := dk_27 (dk_at dksX2_go_1 10 rfl rfl)
theorem dX2_go_35 : decode cX2_go 35 = .ok (.imul, 1) := dk_104 (dk_at dksX2_go_1 11 rfl rfl)
theorem dX2_go_36 : decode cX2_go 36 = .ok (.iload_n 2, 1) := dk_28 (dk_at dksX2_go_1 12 rfl rfl)
theorem dX2_go_37 : decode cX2_go 37 = .ok (.iadd, 1) := dk_96 (dk_at dksX2_go_1 13 rfl rfl)
theorem dX2_go_38 : decode cX2_go 38 = .ok (.aload_n 0, 1) := dk_42 (dk_at dksX2_go_1 14 rfl rfl)
theorem dX2_go_39 : decode cX2_go 39 = .ok (.getfield 78, 3) := dk_180 0 78 (dk_at dksX2_go_1 15 rfl rfl)
theorem dX2_go_42 : decode cX2_go 42 = .ok (.invokevirtual 92, 3) := dk_182 0 92 (dk_at dksX2_go_1 18 rfl rfl)
theorem dX2_go_45 : decode cX2_go 45 = .ok (.ifCond .eq 7, 3) := dk_153 0 7 (dk_at dksX2_go_1 21 rfl rfl)
theorem dX2_go_48 : decode cX2_go 48 = .ok (.iconst 0, 1) := dk_3 (dk_at dksX2_go_2 0 rfl rfl)
theorem dX2_go_49 : decode cX2_go 49 = .ok (.goto 4, 3) := dk_167 0 4 (dk_at dksX2_go_2 1 rfl rfl)
theorem dX2_go_52 : decode cX2_go 52 = .ok (.iconst 2, 1) := dk_5 (dk_at dksX2_go_2 4 rfl rfl)
theorem dX2_go_53 : decode cX2_go 53 = .ok (.invokevirtual 64, 3) := dk_182 0 64 (dk_at dksX2_go_2 5 rfl rfl)
theorem dX2_go_56 : decode cX2_go 56 = .ok (.ifCond .eq 19, 3) := dk_153 0 19 (dk_at dksX2_go_2 8 rfl rfl)
theorem dX2_go_59 : decode cX2_go 59 = .ok (.aload_n 0, 1) := dk_42 (dk_at dksX2_go_2 11 rfl rfl)
theorem dX2_go_60 : decode cX2_go 60 = .ok (.bipush 21, 2) := dk_16 21 (dk_at dksX2_go_2 12 rfl rfl)
theorem dX2_go_62 : decode cX2_go 62 = .ok (.iload_n 1, 1) := dk_27 (dk_at dksX2_go_2 14 rfl rfl)
theorem dX2_go_63 : decode cX2_go 63 = .ok (.imul, 1) := dk_104 (dk_at dksX2_go_2 15 rfl rfl)
theorem dX2_go_64 : decode cX2_go 64 = .ok (.iload_n 2, 1) := dk_28 (dk_at dksX2_go_2 16 rfl rfl)
theorem dX2_go_65 : decode cX2_go 65 = .ok (.iadd, 1) := dk_96 (dk_at dksX2_go_2 17 rfl rfl)
theorem dX2_go_66 : decode cX2_go 66 = .ok (.iconst 0, 1) := dk_3 (dk_at dksX2_go_2 18 rfl rfl)
theorem dX2_go_67 : decode cX2_go 67 = .ok (.iconst 0, 1) := dk_3 (dk_at dksX2_go_2 19 rfl rfl)
theorem dX2_go_68 : decode cX2_go 68 = .ok (.iconst 0, 1) := dk_3 (dk_at dksX2_go_2 20 rfl rfl)
theorem dX2_go_69 : decode cX2_go 69 = .ok (.iconst 0, 1) := dk_3 (dk_at dksX2_go_2 21 rfl rfl)
theorem dX2_go_70 : decode cX2_go 70 = .ok (.invokevirtual 88, 3) := dk_182 0 88 (dk_at dksX2_go_3 0 rfl rfl)
theorem dX2_go_73 : decode cX2_go 73 = .ok (.istore 4, 2) := dk_54 4 (dk_at dksX2_go_3 3 rfl rfl)
theorem dX2_go_75 : decode cX2_go 75 = .ok (.return_, 1) := dk_177 (dk_at dksX2_go_3 5 rfl rfl)
abbrev cX2_isSo : ByteArray := prog_7_method_12_code
def yX2_isSo : MethodName := ⟨RX2, "isSo", "(II)Z"⟩
def dkwX2_isSo_1 : List UInt8 := [167, 0, 4, 3, 172]
abbrev dktX2_isSo_1 : List UInt8 := dkwX2_isSo_1 ++ []
def dkwX2_isSo_0 : List UInt8 := [42, 27, 28, 182, 0, 74, 62, 29, 2, 159, 0, 16, 42, 180, 0, 38, 29, 51, 153, 0, 7, 4]
abbrev dktX2_isSo_0 : List UInt8 := dkwX2_isSo_0 ++ dktX2_isSo_1
theorem dksX2_isSo_0 : cX2_isSo.data.toList.drop 0 = dktX2_isSo_0 := by decide +kernel
theorem dksX2_isSo_1 : cX2_isSo.data.toList.drop 22 = dktX2_isSo_1 := dk_seg dksX2_isSo_0 22 rfl rfl
theorem dX2_isSo_0 : decode cX2_isSo 0 = .ok (.aload_n 0, 1) := dk_42 (dk_at dksX2_isSo_0 0 rfl rfl)
theorem dX2_isSo_1 : decode cX2_isSo 1 = .ok (.iload_n 1, 1) := dk_27 (dk_at dksX2_isSo_0 1 rfl rfl)
theorem dX2_isSo_2 : decode cX2_isSo 2 = .ok (.iload_n 2, 1) := dk_28 (dk_at dksX2_isSo_0 2 rfl rfl)
theorem dX2_isSo_3 : decode cX2_isSo 3 = .ok (.invokevirtual 74, 3) := dk_182 0 74 (dk_at dksX2_isSo_0 3 rfl rfl)
theorem dX2_isSo_6 : decode cX2_isSo 6 = .ok (.istore_n 3, 1) := dk_62 (dk_at dksX2_isSo_0 6 rfl rfl)
theorem dX2_isSo_7 : decode cX2_isSo 7 = .ok (.iload_n 3, 1) := dk_29 (dk_at dksX2_isSo_0 7 rfl rfl)
theorem dX2_isSo_8 : decode cX2_isSo 8 = .ok (.iconst (-1), 1) := dk_2 (dk_at dksX2_isSo_0 8 rfl rfl)
theorem dX2_isSo_9 : decode cX2_isSo 9 = .ok (.if_icmp .eq 16, 3) := dk_159 0 16 (dk_at dksX2_isSo_0 9 rfl rfl)
theorem dX2_isSo_12 : decode cX2_isSo 12 = .ok (.aload_n 0, 1) := dk_42 (dk_at dksX2_isSo_0 12 rfl rfl)
theorem dX2_isSo_13 : decode cX2_isSo 13 = .ok (.getfield 38, 3) := dk_180 0 38 (dk_at dksX2_isSo_0 13 rfl rfl)
theorem dX2_isSo_16 : decode cX2_isSo 16 = .ok (.iload_n 3, 1) := dk_29 (dk_at dksX2_isSo_0 16 rfl rfl)
theorem dX2_isSo_17 : decode cX2_isSo 17 = .ok (.baload, 1) := dk_51 (dk_at dksX2_isSo_0 17 rfl rfl)
theorem dX2_isSo_18 : decode cX2_isSo 18 = .ok (.ifCond .eq 7, 3) := dk_153 0 7 (dk_at dksX2_isSo_0 18 rfl rfl)
theorem dX2_isSo_21 : decode cX2_isSo 21 = .ok (.iconst 1, 1) := dk_4 (dk_at dksX2_isSo_0 21 rfl rfl)
theorem dX2_isSo_22 : decode cX2_isSo 22 = .ok (.goto 4, 3) := dk_167 0 4 (dk_at dksX2_isSo_1 0 rfl rfl)
theorem dX2_isSo_25 : decode cX2_isSo 25 = .ok (.iconst 0, 1) := dk_3 (dk_at dksX2_isSo_1 3 rfl rfl)
theorem dX2_isSo_26 : decode cX2_isSo 26 = .ok (.ireturn, 1) := dk_172 (dk_at dksX2_isSo_1 4 rfl rfl)
abbrev cX2_pass : ByteArray := prog_7_method_18_code
def yX2_pass : MethodName := ⟨RX2, "pass", "(I)I"⟩
def dkwX2_pass_2 : List UInt8 := [27, 96, 181, 0, 78, 42, 180, 0, 78, 172]
abbrev dktX2_pass_2 : List UInt8 := dkwX2_pass_2 ++ []
def dkwX2_pass_1 : List UInt8 := [17, 78, 32, 164, 0, 7, 5, 167, 0, 4, 3, 182, 0, 64, 154, 0, 5, 3, 172, 42, 89, 180, 0, 78]
abbrev dktX2_pass_1 : List UInt8 := dkwX2_pass_1 ++ dktX2_pass_2
def dkwX2_pass_0 : List UInt8 := [42, 27, 4, 17, 78, 32, 184, 0, 60, 154, 0, 7, 4, 167, 0, 20, 42, 180, 0, 78, 27, 96]
abbrev dktX2_pass_0 : List UInt8 := dkwX2_pass_0 ++ dktX2_pass_1
theorem dksX2_pass_0 : cX2_pass.data.toList.drop 0 = dktX2_pass_0 := by decide +kernel
theorem dksX2_pass_1 : cX2_pass.data.toList.drop 22 = dktX2_pass_1 := dk_seg dksX2_pass_0 22 rfl rfl
theorem dksX2_pass_2 : cX2_pass.data.toList.drop 46 = dktX2_pass_2 := dk_seg dksX2_pass_1 24 rfl rfl
theorem dX2_pass_0 : decode cX2_pass 0 = .ok (.aload_n 0, 1) := dk_42 (dk_at dksX2_pass_0 0 rfl rfl)
theorem dX2_pass_1 : decode cX2_pass 1 = .ok (.iload_n 1, 1) := dk_27 (dk_at dksX2_pass_0 1 rfl rfl)
theorem dX2_pass_2 : decode cX2_pass 2 = .ok (.iconst 1, 1) := dk_4 (dk_at dksX2_pass_0 2 rfl rfl)
theorem dX2_pass_3 : decode cX2_pass 3 = .ok (.sipush 20000, 3) := dk_17 78 32 (dk_at dksX2_pass_0 3 rfl rfl)
theorem dX2_pass_6 : decode cX2_pass 6 = .ok (.invokestatic 60, 3) := dk_184 0 60 (dk_at dksX2_pass_0 6 rfl rfl)
theorem dX2_pass_9 : decode cX2_pass 9 = .ok (.ifCond .ne 7, 3) := dk_154 0 7 (dk_at dksX2_pass_0 9 rfl rfl)
theorem dX2_pass_12 : decode cX2_pass 12 = .ok (.iconst 1, 1) := dk_4 (dk_at dksX2_pass_0 12 rfl rfl)
theorem dX2_pass_13 : decode cX2_pass 13 = .ok (.goto 20, 3) := dk_167 0 20 (dk_at dksX2_pass_0 13 rfl rfl)
theorem dX2_pass_16 : decode cX2_pass 16 = .ok (.aload_n 0, 1) := dk_42 (dk_at dksX2_pass_0 16 rfl rfl)
theorem dX2_pass_17 : decode cX2_pass 17 = .ok (.getfield 78, 3) := dk_180 0 78 (dk_at dksX2_pass_0 17 rfl rfl)
theorem dX2_pass_20 : decode cX2_pass 20 = .ok (.iload_n 1, 1) := dk_27 (dk_at dksX2_pass_0 20 rfl rfl)
theorem dX2_pass_21 : decode cX2_pass 21 = .ok (.iadd, 1) := dk_96 (dk_at dksX2_pass_0 21 rfl rfl)
theorem dX2_pass_22 : decode cX2_pass 22 = .ok (.sipush 20000, 3) := dk_17 78 32 (dk_at dksX2_pass_1 0 rfl rfl)
theorem dX2_pass_25 : decode cX2_pass 25 = .ok (.if_icmp .le 7, 3) := dk_164 0 7 (dk_at dksX2_pass_1 3 rfl rfl)
theorem dX2_pass_28 : decode cX2_pass 28 = .ok (.iconst 2, 1) := dk_5 (dk_at dksX2_pass_1 6 rfl rfl)
theorem dX2_pass_29 : decode cX2_pass 29 = .ok (.goto 4, 3) := dk_167 0 4 (dk_at dksX2_pass_1 7 rfl rfl)
theorem dX2_pass_32 : decode cX2_pass 32 = .ok (.iconst 0, 1) := dk_3 (dk_at dksX2_pass_1 10 rfl rfl)
theorem dX2_pass_33 : decode cX2_pass 33 = .ok (.invokevirtual 64, 3) := dk_182 0 64 (dk_at dksX2_pass_1 11 rfl rfl)
theorem dX2_pass_36 : decode cX2_pass 36 = .ok (.ifCond .ne 5, 3) := dk_154 0 5 (dk_at dksX2_pass_1 14 rfl rfl)
theorem dX2_pass_39 : decode cX2_pass 39 = .ok (.iconst 0, 1) := dk_3 (dk_at dksX2_pass_1 17 rfl rfl)
theorem dX2_pass_40 : decode cX2_pass 40 = .ok (.ireturn, 1) := dk_172 (dk_at dksX2_pass_1 18 rfl rfl)
theorem dX2_pass_41 : decode cX2_pass 41 = .ok (.aload_n 0, 1) := dk_42 (dk_at dksX2_pass_1 19 rfl rfl)
theorem dX2_pass_42 : decode cX2_pass 42 = .ok (.dup, 1) := dk_89 (dk_at dksX2_pass_1 20 rfl rfl)
theorem dX2_pass_43 : decode cX2_pass 43 = .ok (.getfield 78, 3) := dk_180 0 78 (dk_at dksX2_pass_1 21 rfl rfl)
theorem dX2_pass_46 : decode cX2_pass 46 = .ok (.iload_n 1, 1) := dk_27 (dk_at dksX2_pass_2 0 rfl rfl)
theorem dX2_pass_47 : decode cX2_pass 47 = .ok (.iadd, 1) := dk_96 (dk_at dksX2_pass_2 1 rfl rfl)
theorem dX2_pass_48 : decode cX2_pass 48 = .ok (.putfield 78, 3) := dk_181 0 78 (dk_at dksX2_pass_2 2 rfl rfl)
theorem dX2_pass_51 : decode cX2_pass 51 = .ok (.aload_n 0, 1) := dk_42 (dk_at dksX2_pass_2 5 rfl rfl)
theorem dX2_pass_52 : decode cX2_pass 52 = .ok (.getfield 78, 3) := dk_180 0 78 (dk_at dksX2_pass_2 6 rfl rfl)
theorem dX2_pass_55 : decode cX2_pass 55 = .ok (.ireturn, 1) := dk_172 (dk_at dksX2_pass_2 9 rfl rfl)
abbrev cX2_today : ByteArray := prog_7_method_19_code
def yX2_today : MethodName := ⟨RX2, "today", "()I"⟩
def dkwX2_today_0 : List UInt8 := [42, 3, 181, 0, 50, 42, 180, 0, 78, 172]
abbrev dktX2_today_0 : List UInt8 := dkwX2_today_0 ++ []
theorem dksX2_today_0 : cX2_today.data.toList.drop 0 = dktX2_today_0 := by decide +kernel
theorem dX2_today_0 : decode cX2_today 0 = .ok (.aload_n 0, 1) := dk_42 (dk_at dksX2_today_0 0 rfl rfl)
theorem dX2_today_1 : decode cX2_today 1 = .ok (.iconst 0, 1) := dk_3 (dk_at dksX2_today_0 1 rfl rfl)
theorem dX2_today_2 : decode cX2_today 2 = .ok (.putfield 50, 3) := dk_181 0 50 (dk_at dksX2_today_0 2 rfl rfl)
theorem dX2_today_5 : decode cX2_today 5 = .ok (.aload_n 0, 1) := dk_42 (dk_at dksX2_today_0 5 rfl rfl)
theorem dX2_today_6 : decode cX2_today 6 = .ok (.getfield 78, 3) := dk_180 0 78 (dk_at dksX2_today_0 6 rfl rfl)
theorem dX2_today_9 : decode cX2_today 9 = .ok (.ireturn, 1) := dk_172 (dk_at dksX2_today_0 9 rfl rfl)
abbrev cX2_isSubscribed : ByteArray := prog_7_method_20_code
def yX2_isSubscribed : MethodName := ⟨RX2, "isSubscribed", "(II)Z"⟩
def dkwX2_isSubscribed_2 : List UInt8 := [153, 0, 7, 4, 167, 0, 4, 3, 172]
abbrev dktX2_isSubscribed_2 : List UInt8 := dkwX2_isSubscribed_2 ++ []
def dkwX2_isSubscribed_1 : List UInt8 := [153, 0, 7, 3, 167, 0, 4, 5, 182, 0, 64, 153, 0, 19, 42, 27, 184, 0, 84, 28, 182, 0, 92]
abbrev dktX2_isSubscribed_1 : List UInt8 := dkwX2_isSubscribed_1 ++ dktX2_isSubscribed_2
def dkwX2_isSubscribed_0 : List UInt8 := [42, 42, 27, 182, 0, 81, 154, 0, 7, 4, 167, 0, 20, 28, 3, 42, 180, 0, 78, 184, 0, 60]
abbrev dktX2_isSubscribed_0 : List UInt8 := dkwX2_isSubscribed_0 ++ dktX2_isSubscribed_1
theorem dksX2_isSubscribed_0 : cX2_isSubscribed.data.toList.drop 0 = dktX2_isSubscribed_0 := by decide +kernel
theorem dksX2_isSubscribed_1 : cX2_isSubscribed.data.toList.drop 22 = dktX2_isSubscribed_1 := dk_seg dksX2_isSubscribed_0 22 rfl rfl
theorem dksX2_isSubscribed_2 : cX2_isSubscribed.data.toList.drop 45 = dktX2_isSubscribed_2 := dk_seg dksX2_isSubscribed_1 23 rfl rfl
theorem dX2_isSubscribed_0 : decode cX2_isSubscribed 0 = .ok (.aload_n 0, 1) := dk_42 (dk_at dksX2_isSubscribed_0 0 rfl rfl)
theorem dX2_isSubscribed_1 : decode cX2_isSubscribed 1 = .ok (.aload_n 0, 1) := dk_42 (dk_at dksX2_isSubscribed_0 1 rfl rfl)
theorem dX2_isSubscribed_2 : decode cX2_isSubscribed 2 = .ok (.iload_n 1, 1) := dk_27 (dk_at dksX2_isSubscribed_0 2 rfl rfl)
theorem dX2_isSubscribed_3 : decode cX2_isSubscribed 3 = .ok (.invokevirtual 81, 3) := dk_182 0 81 (dk_at dksX2_isSubscribed_0 3 rfl rfl)
theorem dX2_isSubscribed_6 : decode cX2_isSubscribed 6 = .ok (.ifCond .ne 7, 3) := dk_154 0 7 (dk_at dksX2_isSubscribed_0 6 rfl rfl)
theorem dX2_isSubscribed_9 : decode cX2_isSubscribed 9 = .ok (.iconst 1, 1) := dk_4 (dk_at dksX2_isSubscribed_0 9 rfl rfl)
theorem dX2_isSubscribed_10 : decode cX2_isSubscribed 10 = .ok (.goto 20, 3) := dk_167 0 20 (dk_at dksX2_isSubscribed_0 10 rfl rfl)
theorem dX2_isSubscribed_13 : decode cX2_isSubscribed 13 = .ok (.iload_n 2, 1) := dk_28 (dk_at dksX2_isSubscribed_0 13 rfl rfl)
theorem dX2_isSubscribed_14 : decode cX2_isSubscribed 14 = .ok (.iconst 0, 1) := dk_3 (dk_at dksX2_isSubscribed_0 14 rfl rfl)
theorem dX2_isSubscribed_15 : decode cX2_isSubscribed 15 = .ok (.aload_n 0, 1) := dk_42 (dk_at dksX2_isSubscribed_0 15 rfl rfl)
theorem dX2_isSubscribed_16 : decode cX2_isSubscribed 16 = .ok (.getfield 78, 3) := dk_180 0 78 (dk_at dksX2_isSubscribed_0 16 rfl rfl)
theorem dX2_isSubscribed_19 : decode cX2_isSubscribed 19 = .ok (.invokestatic 60, 3) := dk_184 0 60 (dk_at dksX2_isSubscribed_0 19 rfl rfl)
theorem dX2_isSubscribed_22 : decode cX2_isSubscribed 22 = .ok (.ifCond .eq 7, 3) := dk_153 0 7 (dk_at dksX2_isSubscribed_1 0 rfl rfl)
theorem dX2_isSubscribed_25 : decode cX2_isSubscribed 25 = .ok (.iconst 0, 1) := dk_3 (dk_at dksX2_isSubscribed_1 3 rfl rfl)
theorem dX2_isSubscribed_26 : decode cX2_isSubscribed 26 = .ok (.goto 4, 3) := dk_167 0 4 (dk_at dksX2_isSubscribed_1 4 rfl rfl)
theorem dX2_isSubscribed_29 : decode cX2_isSubscribed 29 = .ok (.iconst 2, 1) := dk_5 (dk_at dksX2_isSubscribed_1 7 rfl rfl)
theorem dX2_isSubscribed_30 : decode cX2_isSubscribed 30 = .ok (.invokevirtual 64, 3) := dk_182 0 64 (dk_at dksX2_isSubscribed_1 8 rfl rfl)
theorem dX2_isSubscribed_33 : decode cX2_isSubscribed 33 = .ok (.ifCond .eq 19, 3) := dk_153 0 19 (dk_at dksX2_isSubscribed_1 11 rfl rfl)
theorem dX2_isSubscribed_36 : decode cX2_isSubscribed 36 = .ok (.aload_n 0, 1) := dk_42 (dk_at dksX2_isSubscribed_1 14 rfl rfl)
theorem dX2_isSubscribed_37 : decode cX2_isSubscribed 37 = .ok (.iload_n 1, 1) := dk_27 (dk_at dksX2_isSubscribed_1 15 rfl rfl)
theorem dX2_isSubscribed_38 : decode cX2_isSubscribed 38 = .ok (.invokestatic 84, 3) := dk_184 0 84 (dk_at dksX2_isSubscribed_1 16 rfl rfl)
theorem dX2_isSubscribed_41 : decode cX2_isSubscribed 41 = .ok (.iload_n 2, 1) := dk_28 (dk_at dksX2_isSubscribed_1 19 rfl rfl)
theorem dX2_isSubscribed_42 : decode cX2_isSubscribed 42 = .ok (.invokevirtual 92, 3) := dk_182 0 92 (dk_at dksX2_isSubscribed_1 20 rfl rfl)
theorem dX2_isSubscribed_45 : decode cX2_isSubscribed 45 = .ok (.ifCond .eq 7, 3) := dk_153 0 7 (dk_at dksX2_isSubscribed_2 0 rfl rfl)
theorem dX2_isSubscribed_48 : decode cX2_isSubscribed 48 = .ok (.iconst 1, 1) := dk_4 (dk_at dksX2_isSubscribed_2 3 rfl rfl)
theorem dX2_isSubscribed_49 : decode cX2_isSubscribed 49 = .ok (.goto 4, 3) := dk_167 0 4 (dk_at dksX2_isSubscribed_2 4 rfl rfl)
theorem dX2_isSubscribed_52 : decode cX2_isSubscribed 52 = .ok (.iconst 0, 1) := dk_3 (dk_at dksX2_isSubscribed_2 7 rfl rfl)
theorem dX2_isSubscribed_53 : decode cX2_isSubscribed 53 = .ok (.ireturn, 1) := dk_172 (dk_at dksX2_isSubscribed_2 8 rfl rfl)
abbrev cX2_isIn : ByteArray := prog_7_method_21_code
def yX2_isIn : MethodName := ⟨RX2, "isIn", "(III)Z"⟩
def dkwX2_isIn_2 : List UInt8 := [104, 28, 96, 29, 182, 0, 92, 153, 0, 7, 4, 167, 0, 4, 3, 172]
abbrev dktX2_isIn_2 : List UInt8 := dkwX2_isIn_2 ++ []
def dkwX2_isIn_1 : List UInt8 := [180, 0, 78, 184, 0, 60, 153, 0, 7, 3, 167, 0, 4, 5, 182, 0, 64, 153, 0, 21, 42, 16, 21, 27]
abbrev dktX2_isIn_1 : List UInt8 := dkwX2_isIn_1 ++ dktX2_isIn_2
def dkwX2_isIn_0 : List UInt8 := [42, 42, 27, 182, 0, 81, 153, 0, 11, 42, 28, 182, 0, 68, 154, 0, 7, 4, 167, 0, 20, 29, 3, 42]
abbrev dktX2_isIn_0 : List UInt8 := dkwX2_isIn_0 ++ dktX2_isIn_1
theorem dksX2_isIn_0 : cX2_isIn.data.toList.drop 0 = dktX2_isIn_0 := by decide +kernel
theorem dksX2_isIn_1 : cX2_isIn.data.toList.drop 24 = dktX2_isIn_1 := dk_seg dksX2_isIn_0 24 rfl rfl
theorem dksX2_isIn_2 : cX2_isIn.data.toList.drop 48 = dktX2_isIn_2 := dk_seg dksX2_isIn_1 24 rfl rfl
theorem dX2_isIn_0 : decode cX2_isIn 0 = .ok (.aload_n 0, 1) := dk_42 (dk_at dksX2_isIn_0 0 rfl rfl)
theorem dX2_isIn_1 : decode cX2_isIn 1 = .ok (.aload_n 0, 1) := dk_42 (dk_at dksX2_isIn_0 1 rfl rfl)
theorem dX2_isIn_2 : decode cX2_isIn 2 = .ok (.iload_n 1, 1) := dk_27 (dk_at dksX2_isIn_0 2 rfl rfl)
theorem dX2_isIn_3 : decode cX2_isIn 3 = .ok (.invokevirtual 81, 3) := dk_182 0 81 (dk_at dksX2_isIn_0 3 rfl rfl)
theorem dX2_isIn_6 : decode cX2_isIn 6 = .ok (.ifCond .eq 11, 3) := dk_153 0 11 (dk_at dksX2_isIn_0 6 rfl rfl)
theorem dX2_isIn_9 : decode cX2_isIn 9 = .ok (.aload_n 0, 1) := dk_42 (dk_at dksX2_isIn_0 9 rfl rfl)
theorem dX2_isIn_10 : decode cX2_isIn 10 = .ok (.iload_n 2, 1) := dk_28 (dk_at dksX2_isIn_0 10 rfl rfl)
theorem dX2_isIn_11 : decode cX2_isIn 11 = .ok (.invokevirtual 68, 3) := dk_182 0 68 (dk_at dksX2_isIn_0 11 rfl rfl)
theorem dX2_isIn_14 : decode cX2_isIn 14 = .ok (.ifCond .ne 7, 3) := dk_154 0 7 (dk_at dksX2_isIn_0 14 rfl rfl)
theorem dX2_isIn_17 : decode cX2_isIn 17 = .ok (.iconst 1, 1) := dk_4 (dk_at dksX2_isIn_0 17 rfl rfl)
theorem dX2_isIn_18 : decode cX2_isIn 18 = .ok (.goto 20, 3) := dk_167 0 20 (dk_at dksX2_isIn_0 18 rfl rfl)
theorem dX2_isIn_21 : decode cX2_isIn 21 = .ok (.iload_n 3, 1) := dk_29 (dk_at dksX2_isIn_0 21 rfl rfl)
theorem dX2_isIn_22 : decode cX2_isIn 22 = .ok (.iconst 0, 1) := dk_3 (dk_at dksX2_isIn_0 22 rfl rfl)
theorem dX2_isIn_23 : decode cX2_isIn 23 = .ok (.aload_n 0, 1) := dk_42 (dk_at dksX2_isIn_0 23 rfl rfl)
theorem dX2_isIn_24 : decode cX2_isIn 24 = .ok (.getfield 78, 3) := dk_180 0 78 (dk_at dksX2_isIn_1 0 rfl rfl)
theorem dX2_isIn_27 : decode cX2_isIn 27 = .ok (.invokestatic 60, 3) := dk_184 0 60 (dk_at dksX2_isIn_1 3 rfl rfl)
theorem dX2_isIn_30 : decode cX2_isIn 30 = .ok (.ifCond .eq 7, 3) := dk_153 0 7 (dk_at dksX2_isIn_1 6 rfl rfl)
theorem dX2_isIn_33 : decode cX2_isIn 33 = .ok (.iconst 0, 1) := dk_3 (dk_at dksX2_isIn_1 9 rfl rfl)
theorem dX2_isIn_34 : decode cX2_isIn 34 = .ok (.goto 4, 3) := dk_167 0 4 (dk_at dksX2_isIn_1 10 rfl rfl)
theorem dX2_isIn_37 : decode cX2_isIn 37 = .ok (.iconst 2, 1) := dk_5 (dk_at dksX2_isIn_1 13 rfl rfl)
theorem dX2_isIn_38 : decode cX2_isIn 38 = .ok (.invokevirtual 64, 3) := dk_182 0 64 (dk_at dksX2_isIn_1 14 rfl rfl)
theorem dX2_isIn_41 : decode cX2_isIn 41 = .ok (.ifCond .eq 21, 3) := dk_153 0 21 (dk_at dksX2_isIn_1 17 rfl rfl)
theorem dX2_isIn_44 : decode cX2_isIn 44 = .ok (.aload_n 0, 1) := dk_42 (dk_at dksX2_isIn_1 20 rfl rfl)
theorem dX2_isIn_45 : decode cX2_isIn 45 = .ok (.bipush 21, 2) := dk_16 21 (dk_at dksX2_isIn_1 21 rfl rfl)
theorem dX2_isIn_47 : decode cX2_isIn 47 = .ok (.iload_n 1, 1) := dk_27 (dk_at dksX2_isIn_1 23 rfl rfl)
theorem dX2_isIn_48 : decode cX2_isIn 48 = .ok (.imul, 1) := dk_104 (dk_at dksX2_isIn_2 0 rfl rfl)
theorem dX2_isIn_49 : decode cX2_isIn 49 = .ok (.iload_n 2, 1) := dk_28 (dk_at dksX2_isIn_2 1 rfl rfl)
theorem dX2_isIn_50 : decode cX2_isIn 50 = .ok (.iadd, 1) := dk_96 (dk_at dksX2_isIn_2 2 rfl rfl)
theorem dX2_isIn_51 : decode cX2_isIn 51 = .ok (.iload_n 3, 1) := dk_29 (dk_at dksX2_isIn_2 3 rfl rfl)
theorem dX2_isIn_52 : decode cX2_isIn 52 = .ok (.invokevirtual 92, 3) := dk_182 0 92 (dk_at dksX2_isIn_2 4 rfl rfl)
theorem dX2_isIn_55 : decode cX2_isIn 55 = .ok (.ifCond .eq 7, 3) := dk_153 0 7 (dk_at dksX2_isIn_2 7 rfl rfl)
theorem dX2_isIn_58 : decode cX2_isIn 58 = .ok (.iconst 1, 1) := dk_4 (dk_at dksX2_isIn_2 10 rfl rfl)
theorem dX2_isIn_59 : decode cX2_isIn 59 = .ok (.goto 4, 3) := dk_167 0 4 (dk_at dksX2_isIn_2 11 rfl rfl)
theorem dX2_isIn_62 : decode cX2_isIn 62 = .ok (.iconst 0, 1) := dk_3 (dk_at dksX2_isIn_2 14 rfl rfl)
theorem dX2_isIn_63 : decode cX2_isIn 63 = .ok (.ireturn, 1) := dk_172 (dk_at dksX2_isIn_2 15 rfl rfl)
abbrev cX2_report : ByteArray := prog_7_method_22_code
def yX2_report : MethodName := ⟨RX2, "report", "(II)I"⟩
def dkwX2_report_2 : List UInt8 := [180, 0, 29, 16, 20, 27, 104, 28, 96, 46, 172]
abbrev dktX2_report_2 : List UInt8 := dkwX2_report_2 ++ []
def dkwX2_report_1 : List UInt8 := [182, 0, 64, 154, 0, 5, 3, 172, 42, 180, 0, 29, 16, 20, 27, 104, 28, 96, 92, 46, 4, 96, 79, 42]
abbrev dktX2_report_1 : List UInt8 := dkwX2_report_1 ++ dktX2_report_2
def dkwX2_report_0 : List UInt8 := [42, 42, 27, 182, 0, 81, 153, 0, 15, 42, 28, 182, 0, 68, 153, 0, 7, 3, 167, 0, 4, 4]
abbrev dktX2_report_0 : List UInt8 := dkwX2_report_0 ++ dktX2_report_1
theorem dksX2_report_0 : cX2_report.data.toList.drop 0 = dktX2_report_0 := by decide +kernel
theorem dksX2_report_1 : cX2_report.data.toList.drop 22 = dktX2_report_1 := dk_seg dksX2_report_0 22 rfl rfl
theorem dksX2_report_2 : cX2_report.data.toList.drop 46 = dktX2_report_2 := dk_seg dksX2_report_1 24 rfl rfl
theorem dX2_report_0 : decode cX2_report 0 = .ok (.aload_n 0, 1) := dk_42 (dk_at dksX2_report_0 0 rfl rfl)
theorem dX2_report_1 : decode cX2_report 1 = .ok (.aload_n 0, 1) := dk_42 (dk_at dksX2_report_0 1 rfl rfl)
theorem dX2_report_2 : decode cX2_report 2 = .ok (.iload_n 1, 1) := dk_27 (dk_at dksX2_report_0 2 rfl rfl)
theorem dX2_report_3 : decode cX2_report 3 = .ok (.invokevirtual 81, 3) := dk_182 0 81 (dk_at dksX2_report_0 3 rfl rfl)
theorem dX2_report_6 : decode cX2_report 6 = .ok (.ifCond .eq 15, 3) := dk_153 0 15 (dk_at dksX2_report_0 6 rfl rfl)
theorem dX2_report_9 : decode cX2_report 9 = .ok (.aload_n 0, 1) := dk_42 (dk_at dksX2_report_0 9 rfl rfl)
theorem dX2_report_10 : decode cX2_report 10 = .ok (.iload_n 2, 1) := dk_28 (dk_at dksX2_report_0 10 rfl rfl)
theorem dX2_report_11 : decode cX2_report 11 = .ok (.invokevirtual 68, 3) := dk_182 0 68 (dk_at dksX2_report_0 11 rfl rfl)
theorem dX2_report_14 : decode cX2_report 14 = .ok (.ifCond .eq 7, 3) := dk_153 0 7 (dk_at dksX2_report_0 14 rfl rfl)
theorem dX2_report_17 : decode cX2_report 17 = .ok (.iconst 0, 1) := dk_3 (dk_at dksX2_report_0 17 rfl rfl)
theorem dX2_report_18 : decode cX2_report 18 = .ok (.goto 4, 3) := dk_167 0 4 (dk_at dksX2_report_0 18 rfl rfl)
theorem dX2_report_21 : decode cX2_report 21 = .ok (.iconst 1, 1) := dk_4 (dk_at dksX2_report_0 21 rfl rfl)
theorem dX2_report_22 : decode cX2_report 22 = .ok (.invokevirtual 64, 3) := dk_182 0 64 (dk_at dksX2_report_1 0 rfl rfl)
theorem dX2_report_25 : decode cX2_report 25 = .ok (.ifCond .ne 5, 3) := dk_154 0 5 (dk_at dksX2_report_1 3 rfl rfl)
theorem dX2_report_28 : decode cX2_report 28 = .ok (.iconst 0, 1) := dk_3 (dk_at dksX2_report_1 6 rfl rfl)
theorem dX2_report_29 : decode cX2_report 29 = .ok (.ireturn, 1) := dk_172 (dk_at dksX2_report_1 7 rfl rfl)
theorem dX2_report_30 : decode cX2_report 30 = .ok (.aload_n 0, 1) := dk_42 (dk_at dksX2_report_1 8 rfl rfl)
theorem dX2_report_31 : decode cX2_report 31 = .ok (.getfield 29, 3) := dk_180 0 29 (dk_at dksX2_report_1 9 rfl rfl)
theorem dX2_report_34 : decode cX2_report 34 = .ok (.bipush 20, 2) := dk_16 20 (dk_at dksX2_report_1 12 rfl rfl)
theorem dX2_report_36 : decode cX2_report 36 = .ok (.iload_n 1, 1) := dk_27 (dk_at dksX2_report_1 14 rfl rfl)
theorem dX2_report_37 : decode cX2_report 37 = .ok (.imul, 1) := dk_104 (dk_at dksX2_report_1 15 rfl rfl)
theorem dX2_report_38 : decode cX2_report 38 = .ok (.iload_n 2, 1) := dk_28 (dk_at dksX2_report_1 16 rfl rfl)
theorem dX2_report_39 : decode cX2_report 39 = .ok (.iadd, 1) := dk_96 (dk_at dksX2_report_1 17 rfl rfl)
theorem dX2_report_40 : decode cX2_report 40 = .ok (.dup2, 1) := dk_92 (dk_at dksX2_report_1 18 rfl rfl)
theorem dX2_report_41 : decode cX2_report 41 = .ok (.iaload, 1) := dk_46 (dk_at dksX2_report_1 19 rfl rfl)
theorem dX2_report_42 : decode cX2_report 42 = .ok (.iconst 1, 1) := dk_4 (dk_at dksX2_report_1 20 rfl rfl)
theorem dX2_report_43 : decode cX2_report 43 = .ok (.iadd, 1) := dk_96 (dk_at dksX2_report_1 21 rfl rfl)
theorem dX2_report_44 : decode cX2_report 44 = .ok (.iastore, 1) := dk_79 (dk_at dksX2_report_1 22 rfl rfl)
theorem dX2_report_45 : decode cX2_report 45 = .ok (.aload_n 0, 1) := dk_42 (dk_at dksX2_report_1 23 rfl rfl)
theorem dX2_report_46 : decode cX2_report 46 = .ok (.getfield 29, 3) := dk_180 0 29 (dk_at dksX2_report_2 0 rfl rfl)
theorem dX2_report_49 : decode cX2_report 49 = .ok (.bipush 20, 2) := dk_16 20 (dk_at dksX2_report_2 3 rfl rfl)
theorem dX2_report_51 : decode cX2_report 51 = .ok (.iload_n 1, 1) := dk_27 (dk_at dksX2_report_2 5 rfl rfl)
theorem dX2_report_52 : decode cX2_report 52 = .ok (.imul, 1) := dk_104 (dk_at dksX2_report_2 6 rfl rfl)
theorem dX2_report_53 : decode cX2_report 53 = .ok (.iload_n 2, 1) := dk_28 (dk_at dksX2_report_2 7 rfl rfl)
theorem dX2_report_54 : decode cX2_report 54 = .ok (.iadd, 1) := dk_96 (dk_at dksX2_report_2 8 rfl rfl)
theorem dX2_report_55 : decode cX2_report 55 = .ok (.iaload, 1) := dk_46 (dk_at dksX2_report_2 9 rfl rfl)
theorem dX2_report_56 : decode cX2_report 56 = .ok (.ireturn, 1) := dk_172 (dk_at dksX2_report_2 10 rfl rfl)
abbrev cX2_mend : ByteArray := prog_7_method_23_code
def yX2_mend : MethodName := ⟨RX2, "mend", "(II)I"⟩
def dkwX2_mend_2 : List UInt8 := [16, 20, 27, 104, 28, 96, 3, 79, 29, 172]
abbrev dktX2_mend_2 : List UInt8 := dkwX2_mend_2 ++ []
def dkwX2_mend_1 : List UInt8 := [182, 0, 64, 154, 0, 5, 3, 172, 42, 180, 0, 29, 16, 20, 27, 104, 28, 96, 46, 62, 42, 180, 0, 29]
abbrev dktX2_mend_1 : List UInt8 := dkwX2_mend_1 ++ dktX2_mend_2
def dkwX2_mend_0 : List UInt8 := [42, 42, 27, 182, 0, 81, 153, 0, 15, 42, 28, 182, 0, 68, 153, 0, 7, 3, 167, 0, 4, 4]
abbrev dktX2_mend_0 : List UInt8 := dkwX2_mend_0 ++ dktX2_mend_1
theorem dksX2_mend_0 : cX2_mend.data.toList.drop 0 = dktX2_mend_0 := by decide +kernel
theorem dksX2_mend_1 : cX2_mend.data.toList.drop 22 = dktX2_mend_1 := dk_seg dksX2_mend_0 22 rfl rfl
theorem dksX2_mend_2 : cX2_mend.data.toList.drop 46 = dktX2_mend_2 := dk_seg dksX2_mend_1 24 rfl rfl
theorem dX2_mend_0 : decode cX2_mend 0 = .ok (.aload_n 0, 1) := dk_42 (dk_at dksX2_mend_0 0 rfl rfl)
theorem dX2_mend_1 : decode cX2_mend 1 = .ok (.aload_n 0, 1) := dk_42 (dk_at dksX2_mend_0 1 rfl rfl)
theorem dX2_mend_2 : decode cX2_mend 2 = .ok (.iload_n 1, 1) := dk_27 (dk_at dksX2_mend_0 2 rfl rfl)
theorem dX2_mend_3 : decode cX2_mend 3 = .ok (.invokevirtual 81, 3) := dk_182 0 81 (dk_at dksX2_mend_0 3 rfl rfl)
theorem dX2_mend_6 : decode cX2_mend 6 = .ok (.ifCond .eq 15, 3) := dk_153 0 15 (dk_at dksX2_mend_0 6 rfl rfl)
theorem dX2_mend_9 : decode cX2_mend 9 = .ok (.aload_n 0, 1) := dk_42 (dk_at dksX2_mend_0 9 rfl rfl)
theorem dX2_mend_10 : decode cX2_mend 10 = .ok (.iload_n 2, 1) := dk_28 (dk_at dksX2_mend_0 10 rfl rfl)
theorem dX2_mend_11 : decode cX2_mend 11 = .ok (.invokevirtual 68, 3) := dk_182 0 68 (dk_at dksX2_mend_0 11 rfl rfl)
theorem dX2_mend_14 : decode cX2_mend 14 = .ok (.ifCond .eq 7, 3) := dk_153 0 7 (dk_at dksX2_mend_0 14 rfl rfl)
theorem dX2_mend_17 : decode cX2_mend 17 = .ok (.iconst 0, 1) := dk_3 (dk_at dksX2_mend_0 17 rfl rfl)
theorem dX2_mend_18 : decode cX2_mend 18 = .ok (.goto 4, 3) := dk_167 0 4 (dk_at dksX2_mend_0 18 rfl rfl)
theorem dX2_mend_21 : decode cX2_mend 21 = .ok (.iconst 1, 1) := dk_4 (dk_at dksX2_mend_0 21 rfl rfl)
theorem dX2_mend_22 : decode cX2_mend 22 = .ok (.invokevirtual 64, 3) := dk_182 0 64 (dk_at dksX2_mend_1 0 rfl rfl)
theorem dX2_mend_25 : decode cX2_mend 25 = .ok (.ifCond .ne 5, 3) := dk_154 0 5 (dk_at dksX2_mend_1 3 rfl rfl)
theorem dX2_mend_28 : decode cX2_mend 28 = .ok (.iconst 0, 1) := dk_3 (dk_at dksX2_mend_1 6 rfl rfl)
theorem dX2_mend_29 : decode cX2_mend 29 = .ok (.ireturn, 1) := dk_172 (dk_at dksX2_mend_1 7 rfl rfl)
theorem dX2_mend_30 : decode cX2_mend 30 = .ok (.aload_n 0, 1) := dk_42 (dk_at dksX2_mend_1 8 rfl rfl)
theorem dX2_mend_31 : decode cX2_mend 31 = .ok (.getfield 29, 3) := dk_180 0 29 (dk_at dksX2_mend_1 9 rfl rfl)
theorem dX2_mend_34 : decode cX2_mend 34 = .ok (.bipush 20, 2) := dk_16 20 (dk_at dksX2_mend_1 12 rfl rfl)
theorem dX2_mend_36 : decode cX2_mend 36 = .ok (.iload_n 1, 1) := dk_27 (dk_at dksX2_mend_1 14 rfl rfl)
theorem dX2_mend_37 : decode cX2_mend 37 = .ok (.imul, 1) := dk_104 (dk_at dksX2_mend_1 15 rfl rfl)
theorem dX2_mend_38 : decode cX2_mend 38 = .ok (.iload_n 2, 1) := dk_28 (dk_at dksX2_mend_1 16 rfl rfl)
theorem dX2_mend_39 : decode cX2_mend 39 = .ok (.iadd, 1) := dk_96 (dk_at dksX2_mend_1 17 rfl rfl)
theorem dX2_mend_40 : decode cX2_mend 40 = .ok (.iaload, 1) := dk_46 (dk_at dksX2_mend_1 18 rfl rfl)
theorem dX2_mend_41 : decode cX2_mend 41 = .ok (.istore_n 3, 1) := dk_62 (dk_at dksX2_mend_1 19 rfl rfl)
theorem dX2_mend_42 : decode cX2_mend 42 = .ok (.aload_n 0, 1) := dk_42 (dk_at dksX2_mend_1 20 rfl rfl)
theorem dX2_mend_43 : decode cX2_mend 43 = .ok (.getfield 29, 3) := dk_180 0 29 (dk_at dksX2_mend_1 21 rfl rfl)
theorem dX2_mend_46 : decode cX2_mend 46 = .ok (.bipush 20, 2) := dk_16 20 (dk_at dksX2_mend_2 0 rfl rfl)
theorem dX2_mend_48 : decode cX2_mend 48 = .ok (.iload_n 1, 1) := dk_27 (dk_at dksX2_mend_2 2 rfl rfl)
theorem dX2_mend_49 : decode cX2_mend 49 = .ok (.imul, 1) := dk_104 (dk_at dksX2_mend_2 3 rfl rfl)
theorem dX2_mend_50 : decode cX2_mend 50 = .ok (.iload_n 2, 1) := dk_28 (dk_at dksX2_mend_2 4 rfl rfl)
theorem dX2_mend_51 : decode cX2_mend 51 = .ok (.iadd, 1) := dk_96 (dk_at dksX2_mend_2 5 rfl rfl)
theorem dX2_mend_52 : decode cX2_mend 52 = .ok (.iconst 0, 1) := dk_3 (dk_at dksX2_mend_2 6 rfl rfl)
theorem dX2_mend_53 : decode cX2_mend 53 = .ok (.iastore, 1) := dk_79 (dk_at dksX2_mend_2 7 rfl rfl)
theorem dX2_mend_54 : decode cX2_mend 54 = .ok (.iload_n 3, 1) := dk_29 (dk_at dksX2_mend_2 8 rfl rfl)
theorem dX2_mend_55 : decode cX2_mend 55 = .ok (.ireturn, 1) := dk_172 (dk_at dksX2_mend_2 9 rfl rfl)
abbrev cX2_covers : ByteArray := prog_7_method_29_code
def yX2_covers : MethodName := ⟨RX2, "covers", "(IIIII)Z"⟩
def dkwX2_covers_3 : List UInt8 := [21, 5, 182, 0, 110, 153, 0, 7, 4, 167, 0, 4, 3, 172]
abbrev dktX2_covers_3 : List UInt8 := dkwX2_covers_3 ++ []
def dkwX2_covers_2 : List UInt8 := [167, 0, 4, 5, 182, 0, 64, 153, 0, 29, 42, 27, 21, 4, 182, 0, 107, 153, 0, 19, 42, 27, 28, 29]
abbrev dktX2_covers_2 : List UInt8 := dkwX2_covers_2 ++ dktX2_covers_3
def dkwX2_covers_1 : List UInt8 := [21, 6, 154, 0, 7, 4, 167, 0, 20, 42, 29, 21, 4, 21, 5, 182, 0, 104, 153, 0, 7, 3]
abbrev dktX2_covers_1 : List UInt8 := dkwX2_covers_1 ++ dktX2_covers_2
def dkwX2_covers_0 : List UInt8 := [42, 27, 182, 0, 81, 153, 0, 15, 42, 28, 182, 0, 68, 153, 0, 7, 4, 167, 0, 4, 3, 54, 6, 42]
abbrev dktX2_covers_0 : List UInt8 := dkwX2_covers_0 ++ dktX2_covers_1
theorem dksX2_covers_0 : cX2_covers.data.toList.drop 0 = dktX2_covers_0 := by decide +kernel
theorem dksX2_covers_1 : cX2_covers.data.toList.drop 24 = dktX2_covers_1 := dk_seg dksX2_covers_0 24 rfl rfl
theorem dksX2_covers_2 : cX2_covers.data.toList.drop 46 = dktX2_covers_2 := dk_seg dksX2_covers_1 22 rfl rfl
theorem dksX2_covers_3 : cX2_covers.data.toList.drop 70 = dktX2_covers_3 := dk_seg dksX2_covers_2 24 rfl rfl
theorem dX2_covers_0 : decode cX2_covers 0 = .ok (.aload_n 0, 1) := dk_42 (dk_at dksX2_covers_0 0 rfl rfl)
theorem dX2_covers_1 : decode cX2_covers 1 = .ok (.iload_n 1, 1) := dk_27 (dk_at dksX2_covers_0 1 rfl rfl)
theorem dX2_covers_2 : decode cX2_covers 2 = .ok (.invokevirtual 81, 3) := dk_182 0 81 (dk_at dksX2_covers_0 2 rfl rfl)
theorem dX2_covers_5 : decode cX2_covers 5 = .ok (.ifCond .eq 15, 3) := dk_153 0 15 (dk_at dksX2_covers_0 5 rfl rfl)
theorem dX2_covers_8 : decode cX2_covers 8 = .ok (.aload_n 0, 1) := dk_42 (dk_at dksX2_covers_0 8 rfl rfl)
theorem dX2_covers_9 : decode cX2_covers 9 = .ok (.iload_n 2, 1) := dk_28 (dk_at dksX2_covers_0 9 rfl rfl)
theorem dX2_covers_10 : decode cX2_covers 10 = .ok (.invokevirtual 68, 3) := dk_182 0 68 (dk_at dksX2_covers_0 10 rfl rfl)
theorem dX2_covers_13 : decode cX2_covers 13 = .ok (.ifCond .eq 7, 3) := dk_153 0 7 (dk_at dksX2_covers_0 13 rfl rfl)
theorem dX2_covers_16 : decode cX2_covers 16 = .ok (.iconst 1, 1) := dk_4 (dk_at dksX2_covers_0 16 rfl rfl)
theorem dX2_covers_17 : decode cX2_covers 17 = .ok (.goto 4, 3) := dk_167 0 4 (dk_at dksX2_covers_0 17 rfl rfl)
theorem dX2_covers_20 : decode cX2_covers 20 = .ok (.iconst 0, 1) := dk_3 (dk_at dksX2_covers_0 20 rfl rfl)
theorem dX2_covers_21 : decode cX2_covers 21 = .ok (.istore 6, 2) := dk_54 6 (dk_at dksX2_covers_0 21 rfl rfl)
theorem dX2_covers_23 : decode cX2_covers 23 = .ok (.aload_n 0, 1) := dk_42 (dk_at dksX2_covers_0 23 rfl rfl)
theorem dX2_covers_24 : decode cX2_covers 24 = .ok (.iload 6, 2) := dk_21 6 (dk_at dksX2_covers_1 0 rfl rfl)
theorem dX2_covers_26 : decode cX2_covers 26 = .ok (.ifCond .ne 7, 3) := dk_154 0 7 (dk_at dksX2_covers_1 2 rfl rfl)
theorem dX2_covers_29 : decode cX2_covers 29 = .ok (.iconst 1, 1) := dk_4 (dk_at dksX2_covers_1 5 rfl rfl)
theorem dX2_covers_30 : decode cX2_covers 30 = .ok (.goto 20, 3) := dk_167 0 20 (dk_at dksX2_covers_1 6 rfl rfl)
theorem dX2_covers_33 : decode cX2_covers 33 = .ok (.aload_n 0, 1) := dk_42 (dk_at dksX2_covers_1 9 rfl rfl)
theorem dX2_covers_34 : decode cX2_covers 34 = .ok (.iload_n 3, 1) := dk_29 (dk_at dksX2_covers_1 10 rfl rfl)
theorem dX2_covers_35 : decode cX2_covers 35 = .ok (.iload 4, 2) := dk_21 4 (dk_at dksX2_covers_1 11 rfl rfl)
theorem dX2_covers_37 : decode cX2_covers 37 = .ok (.iload 5, 2) := dk_21 5 (dk_at dksX2_covers_1 13 rfl rfl)
theorem dX2_covers_39 : decode cX2_covers 39 = .ok (.invokevirtual 104, 3) := dk_182 0 104 (dk_at dksX2_covers_1 15 rfl rfl)
theorem dX2_covers_42 : decode cX2_covers 42 = .ok (.ifCond .eq 7, 3) := dk_153 0 7 (dk_at dksX2_covers_1 18 rfl rfl)
theorem dX2_covers_45 : decode cX2_covers 45 = .ok (.iconst 0, 1) := dk_3 (dk_at dksX2_covers_1 21 rfl rfl)
theorem dX2_covers_46 : decode cX2_covers 46 = .ok (.goto 4, 3) := dk_167 0 4 (dk_at dksX2_covers_2 0 rfl rfl)
theorem dX2_covers_49 : decode cX2_covers 49 = .ok (.iconst 2, 1) := dk_5 (dk_at dksX2_covers_2 3 rfl rfl)
theorem dX2_covers_50 : decode cX2_covers 50 = .ok (.invokevirtual 64, 3) := dk_182 0 64 (dk_at dksX2_covers_2 4 rfl rfl)
theorem dX2_covers_53 : decode cX2_covers 53 = .ok (.ifCond .eq 29, 3) := dk_153 0 29 (dk_at dksX2_covers_2 7 rfl rfl)
theorem dX2_covers_56 : decode cX2_covers 56 = .ok (.aload_n 0, 1) := dk_42 (dk_at dksX2_covers_2 10 rfl rfl)
theorem dX2_covers_57 : decode cX2_covers 57 = .ok (.iload_n 1, 1) := dk_27 (dk_at dksX2_covers_2 11 rfl rfl)
theorem dX2_covers_58 : decode cX2_covers 58 = .ok (.iload 4, 2) := dk_21 4 (dk_at dksX2_covers_2 12 rfl rfl)
theorem dX2_covers_60 : decode cX2_covers 60 = .ok (.invokevirtual 107, 3) := dk_182 0 107 (dk_at dksX2_covers_2 14 rfl rfl)
theorem dX2_covers_63 : decode cX2_covers 63 = .ok (.ifCond .eq 19, 3) := dk_153 0 19 (dk_at dksX2_covers_2 17 rfl rfl)
theorem dX2_covers_66 : decode cX2_covers 66 = .ok (.aload_n 0, 1) := dk_42 (dk_at dksX2_covers_2 20 rfl rfl)
theorem dX2_covers_67 : decode cX2_covers 67 = .ok (.iload_n 1, 1) := dk_27 (dk_at dksX2_covers_2 21 rfl rfl)
theorem dX2_covers_68 : decode cX2_covers 68 = .ok (.iload_n 2, 1) := dk_28 (dk_at dksX2_covers_2 22 rfl rfl)
theorem dX2_covers_69 : decode cX2_covers 69 = .ok (.iload_n 3, 1) := dk_29 (dk_at dksX2_covers_2 23 rfl rfl)
theorem dX2_covers_70 : decode cX2_covers 70 = .ok (.iload 5, 2) := dk_21 5 (dk_at dksX2_covers_3 0 rfl rfl)
theorem dX2_covers_72 : decode cX2_covers 72 = .ok (.invokevirtual 110, 3) := dk_182 0 110 (dk_at dksX2_covers_3 2 rfl rfl)
theorem dX2_covers_75 : decode cX2_covers 75 = .ok (.ifCond .eq 7, 3) := dk_153 0 7 (dk_at dksX2_covers_3 5 rfl rfl)
theorem dX2_covers_78 : decode cX2_covers 78 = .ok (.iconst 1, 1) := dk_4 (dk_at dksX2_covers_3 8 rfl rfl)
theorem dX2_covers_79 : decode cX2_covers 79 = .ok (.goto 4, 3) := dk_167 0 4 (dk_at dksX2_covers_3 9 rfl rfl)
theorem dX2_covers_82 : decode cX2_covers 82 = .ok (.iconst 0, 1) := dk_3 (dk_at dksX2_covers_3 12 rfl rfl)
theorem dX2_covers_83 : decode cX2_covers 83 = .ok (.ireturn, 1) := dk_172 (dk_at dksX2_covers_3 13 rfl rfl)
abbrev cX2_isAsked : ByteArray := prog_7_method_28_code
def yX2_isAsked : MethodName := ⟨RX2, "isAsked", "(III)Z"⟩
def dkwX2_isAsked_1 : List UInt8 := [180, 0, 78, 184, 0, 60, 153, 0, 7, 4, 167, 0, 4, 3, 172]
abbrev dktX2_isAsked_1 : List UInt8 := dkwX2_isAsked_1 ++ []
def dkwX2_isAsked_0 : List UInt8 := [27, 3, 16, 55, 184, 0, 60, 153, 0, 28, 28, 3, 6, 184, 0, 60, 153, 0, 19, 29, 3, 42]
abbrev dktX2_isAsked_0 : List UInt8 := dkwX2_isAsked_0 ++ dktX2_isAsked_1
theorem dksX2_isAsked_0 : cX2_isAsked.data.toList.drop 0 = dktX2_isAsked_0 := by decide +kernel
theorem dksX2_isAsked_1 : cX2_isAsked.data.toList.drop 22 = dktX2_isAsked_1 := dk_seg dksX2_isAsked_0 22 rfl rfl
theorem dX2_isAsked_0 : decode cX2_isAsked 0 = .ok (.iload_n 1, 1) := dk_27 (dk_at dksX2_isAsked_0 0 rfl rfl)
theorem dX2_isAsked_1 : decode cX2_isAsked 1 = .ok (.iconst 0, 1) := dk_3 (dk_at dksX2_isAsked_0 1 rfl rfl)
theorem dX2_isAsked_2 : decode cX2_isAsked 2 = .ok (.bipush 55, 2) := dk_16 55 (dk_at dksX2_isAsked_0 2 rfl rfl)
theorem dX2_isAsked_4 : decode cX2_isAsked 4 = .ok (.invokestatic 60, 3) := dk_184 0 60 (dk_at dksX2_isAsked_0 4 rfl rfl)
theorem dX2_isAsked_7 : decode cX2_isAsked 7 = .ok (.ifCond .eq 28, 3) := dk_153 0 28 (dk_at dksX2_isAsked_0 7 rfl rfl)
theorem dX2_isAsked_10 : decode cX2_isAsked 10 = .ok (.iload_n 2, 1) := dk_28 (dk_at dksX2_isAsked_0 10 rfl rfl)
theorem dX2_isAsked_11 : decode cX2_isAsked 11 = .ok (.iconst 0, 1) := dk_3 (dk_at dksX2_isAsked_0 11 rfl rfl)
theorem dX2_isAsked_12 : decode cX2_isAsked 12 = .ok (.iconst 3, 1) := dk_6 (dk_at dksX2_isAsked_0 12 rfl rfl)
theorem dX2_isAsked_13 : decode cX2_isAsked 13 = .ok (.invokestatic 60, 3) := dk_184 0 60 (dk_at dksX2_isAsked_0 13 rfl rfl)
theorem dX2_isAsked_16 : decode cX2_isAsked 16 = .ok (.ifCond .eq 19, 3) := dk_153 0 19 (dk_at dksX2_isAsked_0 16 rfl rfl)
theorem dX2_isAsked_19 : decode cX2_isAsked 19 = .ok (.iload_n 3, 1) := dk_29 (dk_at dksX2_isAsked_0 19 rfl rfl)
theorem dX2_isAsked_20 : decode cX2_isAsked 20 = .ok (.iconst 0, 1) := dk_3 (dk_at dksX2_isAsked_0 20 rfl rfl)
theorem dX2_isAsked_21 : decode cX2_isAsked 21 = .ok (.aload_n 0, 1) := dk_42 (dk_at dksX2_isAsked_0 21 rfl rfl)
theorem dX2_isAsked_22 : decode cX2_isAsked 22 = .ok (.getfield 78, 3) := dk_180 0 78 (dk_at dksX2_isAsked_1 0 rfl rfl)
theorem dX2_isAsked_25 : decode cX2_isAsked 25 = .ok (.invokestatic 60, 3) := dk_184 0 60 (dk_at dksX2_isAsked_1 3 rfl rfl)
theorem dX2_isAsked_28 : decode cX2_isAsked 28 = .ok (.ifCond .eq 7, 3) := dk_153 0 7 (dk_at dksX2_isAsked_1 6 rfl rfl)
theorem dX2_isAsked_31 : decode cX2_isAsked 31 = .ok (.iconst 1, 1) := dk_4 (dk_at dksX2_isAsked_1 9 rfl rfl)
theorem dX2_isAsked_32 : decode cX2_isAsked 32 = .ok (.goto 4, 3) := dk_167 0 4 (dk_at dksX2_isAsked_1 10 rfl rfl)
theorem dX2_isAsked_35 : decode cX2_isAsked 35 = .ok (.iconst 0, 1) := dk_3 (dk_at dksX2_isAsked_1 13 rfl rfl)
theorem dX2_isAsked_36 : decode cX2_isAsked 36 = .ok (.ireturn, 1) := dk_172 (dk_at dksX2_isAsked_1 14 rfl rfl)
abbrev cX2_lets : ByteArray := prog_7_method_27_code
def yX2_lets : MethodName := ⟨RX2, "lets", "(II)Z"⟩
def dkwX2_lets_0 : List UInt8 := [42, 180, 0, 22, 27, 46, 28, 122, 4, 126, 4, 160, 0, 7, 4, 167, 0, 4, 3, 172]
abbrev dktX2_lets_0 : List UInt8 := dkwX2_lets_0 ++ []
theorem dksX2_lets_0 : cX2_lets.data.toList.drop 0 = dktX2_lets_0 := by decide +kernel
theorem dX2_lets_0 : decode cX2_lets 0 = .ok (.aload_n 0, 1) := dk_42 (dk_at dksX2_lets_0 0 rfl rfl)
theorem dX2_lets_1 : decode cX2_lets 1 = .ok (.getfield 22, 3) := dk_180 0 22 (dk_at dksX2_lets_0 1 rfl rfl)
theorem dX2_lets_4 : decode cX2_lets 4 = .ok (.iload_n 1, 1) := dk_27 (dk_at dksX2_lets_0 4 rfl rfl)
theorem dX2_lets_5 : decode cX2_lets 5 = .ok (.iaload, 1) := dk_46 (dk_at dksX2_lets_0 5 rfl rfl)
theorem dX2_lets_6 : decode cX2_lets 6 = .ok (.iload_n 2, 1) := dk_28 (dk_at dksX2_lets_0 6 rfl rfl)
theorem dX2_lets_7 : decode cX2_lets 7 = .ok (.ishr, 1) := dk_122 (dk_at dksX2_lets_0 7 rfl rfl)
theorem dX2_lets_8 : decode cX2_lets 8 = .ok (.iconst 1, 1) := dk_4 (dk_at dksX2_lets_0 8 rfl rfl)
theorem dX2_lets_9 : decode cX2_lets 9 = .ok (.iand, 1) := dk_126 (dk_at dksX2_lets_0 9 rfl rfl)
theorem dX2_lets_10 : decode cX2_lets 10 = .ok (.iconst 1, 1) := dk_4 (dk_at dksX2_lets_0 10 rfl rfl)
theorem dX2_lets_11 : decode cX2_lets 11 = .ok (.if_icmp .ne 7, 3) := dk_160 0 7 (dk_at dksX2_lets_0 11 rfl rfl)
theorem dX2_lets_14 : decode cX2_lets 14 = .ok (.iconst 1, 1) := dk_4 (dk_at dksX2_lets_0 14 rfl rfl)
theorem dX2_lets_15 : decode cX2_lets 15 = .ok (.goto 4, 3) := dk_167 0 4 (dk_at dksX2_lets_0 15 rfl rfl)
theorem dX2_lets_18 : decode cX2_lets 18 = .ok (.iconst 0, 1) := dk_3 (dk_at dksX2_lets_0 18 rfl rfl)
theorem dX2_lets_19 : decode cX2_lets 19 = .ok (.ireturn, 1) := dk_172 (dk_at dksX2_lets_0 19 rfl rfl)
abbrev cX2_isCovered : ByteArray := prog_7_method_26_code
def yX2_isCovered : MethodName := ⟨RX2, "isCovered", "(IIII)Z"⟩
def dkwX2_isCovered_1 : List UInt8 := [153, 0, 7, 4, 167, 0, 4, 3, 172]
abbrev dktX2_isCovered_1 : List UInt8 := dkwX2_isCovered_1 ++ []
def dkwX2_isCovered_0 : List UInt8 := [42, 27, 28, 29, 21, 4, 21, 4, 182, 0, 96, 154, 0, 15, 42, 27, 28, 29, 21, 4, 182, 0, 100]
abbrev dktX2_isCovered_0 : List UInt8 := dkwX2_isCovered_0 ++ dktX2_isCovered_1
theorem dksX2_isCovered_0 : cX2_isCovered.data.toList.drop 0 = dktX2_isCovered_0 := by decide +kernel
theorem dksX2_isCovered_1 : cX2_isCovered.data.toList.drop 23 = dktX2_isCovered_1 := dk_seg dksX2_isCovered_0 23 rfl rfl
theorem dX2_isCovered_0 : decode cX2_isCovered 0 = .ok (.aload_n 0, 1) := dk_42 (dk_at dksX2_isCovered_0 0 rfl rfl)
theorem dX2_isCovered_1 : decode cX2_isCovered 1 = .ok (.iload_n 1, 1) := dk_27 (dk_at dksX2_isCovered_0 1 rfl rfl)
theorem dX2_isCovered_2 : decode cX2_isCovered 2 = .ok (.iload_n 2, 1) := dk_28 (dk_at dksX2_isCovered_0 2 rfl rfl)
theorem dX2_isCovered_3 : decode cX2_isCovered 3 = .ok (.iload_n 3, 1) := dk_29 (dk_at dksX2_isCovered_0 3 rfl rfl)
theorem dX2_isCovered_4 : decode cX2_isCovered 4 = .ok (.iload 4, 2) := dk_21 4 (dk_at dksX2_isCovered_0 4 rfl rfl)
theorem dX2_isCovered_6 : decode cX2_isCovered 6 = .ok (.iload 4, 2) := dk_21 4 (dk_at dksX2_isCovered_0 6 rfl rfl)
theorem dX2_isCovered_8 : decode cX2_isCovered 8 = .ok (.invokevirtual 96, 3) := dk_182 0 96 (dk_at dksX2_isCovered_0 8 rfl rfl)
theorem dX2_isCovered_11 : decode cX2_isCovered 11 = .ok (.ifCond .ne 15, 3) := dk_154 0 15 (dk_at dksX2_isCovered_0 11 rfl rfl)
theorem dX2_isCovered_14 : decode cX2_isCovered 14 = .ok (.aload_n 0, 1) := dk_42 (dk_at dksX2_isCovered_0 14 rfl rfl)
theorem dX2_isCovered_15 : decode cX2_isCovered 15 = .ok (.iload_n 1, 1) := dk_27 (dk_at dksX2_isCovered_0 15 rfl rfl)
theorem dX2_isCovered_16 : decode cX2_isCovered 16 = .ok (.iload_n 2, 1) := dk_28 (dk_at dksX2_isCovered_0 16 rfl rfl)
theorem dX2_isCovered_17 : decode cX2_isCovered 17 = .ok (.iload_n 3, 1) := dk_29 (dk_at dksX2_isCovered_0 17 rfl rfl)
theorem dX2_isCovered_18 : decode cX2_isCovered 18 = .ok (.iload 4, 2) := dk_21 4 (dk_at dksX2_isCovered_0 18 rfl rfl)
theorem dX2_isCovered_20 : decode cX2_isCovered 20 = .ok (.invokevirtual 100, 3) := dk_182 0 100 (dk_at dksX2_isCovered_0 20 rfl rfl)
theorem dX2_isCovered_23 : decode cX2_isCovered 23 = .ok (.ifCond .eq 7, 3) := dk_153 0 7 (dk_at dksX2_isCovered_1 0 rfl rfl)
theorem dX2_isCovered_26 : decode cX2_isCovered 26 = .ok (.iconst 1, 1) := dk_4 (dk_at dksX2_isCovered_1 3 rfl rfl)
theorem dX2_isCovered_27 : decode cX2_isCovered 27 = .ok (.goto 4, 3) := dk_167 0 4 (dk_at dksX2_isCovered_1 4 rfl rfl)
theorem dX2_isCovered_30 : decode cX2_isCovered 30 = .ok (.iconst 0, 1) := dk_3 (dk_at dksX2_isCovered_1 7 rfl rfl)
theorem dX2_isCovered_31 : decode cX2_isCovered 31 = .ok (.ireturn, 1) := dk_172 (dk_at dksX2_isCovered_1 8 rfl rfl)
abbrev cX2_has : ByteArray := prog_7_method_24_code
def yX2_has : MethodName := ⟨RX2, "has", "(IIIII)Z"⟩
def dkwX2_has_4 : List UInt8 := [4, 167, 0, 4, 3, 172]
abbrev dktX2_has_4 : List UInt8 := dkwX2_has_4 ++ []
def dkwX2_has_3 : List UInt8 := [167, 0, 4, 3, 54, 7, 21, 7, 153, 0, 20, 42, 27, 184, 0, 84, 21, 4, 182, 0, 92, 153, 0, 7]
abbrev dktX2_has_3 : List UInt8 := dkwX2_has_3 ++ dktX2_has_4
def dkwX2_has_2 : List UInt8 := [153, 0, 25, 29, 21, 5, 17, 1, 104, 108, 42, 180, 0, 47, 21, 6, 46, 100, 163, 0, 7, 4]
abbrev dktX2_has_2 : List UInt8 := dkwX2_has_2 ++ dktX2_has_3
def dkwX2_has_1 : List UInt8 := [21, 6, 51, 153, 0, 46, 29, 42, 180, 0, 41, 21, 6, 46, 42, 180, 0, 44, 21, 6, 46, 184, 0, 60]
abbrev dktX2_has_1 : List UInt8 := dkwX2_has_1 ++ dktX2_has_2
def dkwX2_has_0 : List UInt8 := [42, 16, 21, 27, 104, 28, 96, 21, 4, 182, 0, 74, 54, 6, 21, 6, 2, 159, 0, 56, 42, 180, 0, 38]
abbrev dktX2_has_0 : List UInt8 := dkwX2_has_0 ++ dktX2_has_1
theorem dksX2_has_0 : cX2_has.data.toList.drop 0 = dktX2_has_0 := by decide +kernel
theorem dksX2_has_1 : cX2_has.data.toList.drop 24 = dktX2_has_1 := dk_seg dksX2_has_0 24 rfl rfl
theorem dksX2_has_2 : cX2_has.data.toList.drop 48 = dktX2_has_2 := dk_seg dksX2_has_1 24 rfl rfl
theorem dksX2_has_3 : cX2_has.data.toList.drop 70 = dktX2_has_3 := dk_seg dksX2_has_2 22 rfl rfl
theorem dksX2_has_4 : cX2_has.data.toList.drop 94 = dktX2_has_4 := dk_seg dksX2_has_3 24 rfl rfl
theorem dX2_has_0 : decode cX2_has 0 = .ok (.aload_n 0, 1) := dk_42 (dk_at dksX2_has_0 0 rfl rfl)
theorem dX2_has_1 : decode cX2_has 1 = .ok (.bipush 21, 2) := dk_16 21 (dk_at dksX2_has_0 1 rfl rfl)
theorem dX2_has_3 : decode cX2_has 3 = .ok (.iload_n 1, 1) := dk_27 (dk_at dksX2_has_0 3 rfl rfl)
theorem dX2_has_4 : decode cX2_has 4 = .ok (.imul, 1) := dk_104 (dk_at dksX2_has_0 4 rfl rfl)
theorem dX2_has_5 : decode cX2_has 5 = .ok (.iload_n 2, 1) := dk_28 (dk_at dksX2_has_0 5 rfl rfl)
theorem dX2_has_6 : decode cX2_has 6 = .ok (.iadd, 1) := dk_96 (dk_at dksX2_has_0 6 rfl rfl)
theorem dX2_has_7 : decode cX2_has 7 = .ok (.iload 4, 2) := dk_21 4 (dk_at dksX2_has_0 7 rfl rfl)
theorem dX2_has_9 : decode cX2_has 9 = .ok (.invokevirtual 74, 3) := dk_182 0 74 (dk_at dksX2_has_0 9 rfl rfl)
theorem dX2_has_12 : decode cX2_has 12 = .ok (.istore 6, 2) := dk_54 6 (dk_at dksX2_has_0 12 rfl rfl)
theorem dX2_has_14 : decode cX2_has 14 = .ok (.iload 6, 2) := dk_21 6 (dk_at dksX2_has_0 14 rfl rfl)
theorem dX2_has_16 : decode cX2_has 16 = .ok (.iconst (-1), 1) := dk_2 (dk_at dksX2_has_0 16 rfl rfl)
theorem dX2_has_17 : decode cX2_has 17 = .ok (.if_icmp .eq 56, 3) := dk_159 0 56 (dk_at dksX2_has_0 17 rfl rfl)
theorem dX2_has_20 : decode cX2_has 20 = .ok (.aload_n 0, 1) := dk_42 (dk_at dksX2_has_0 20 rfl rfl)
theorem dX2_has_21 : decode cX2_has 21 = .ok (.getfield 38, 3) := dk_180 0 38 (dk_at dksX2_has_0 21 rfl rfl)
theorem dX2_has_24 : decode cX2_has 24 = .ok (.iload 6, 2) := dk_21 6 (dk_at dksX2_has_1 0 rfl rfl)
theorem dX2_has_26 : decode cX2_has 26 = .ok (.baload, 1) := dk_51 (dk_at dksX2_has_1 2 rfl rfl)
theorem dX2_has_27 : decode cX2_has 27 = .ok (.ifCond .eq 46, 3) := dk_153 0 46 (dk_at dksX2_has_1 3 rfl rfl)
theorem dX2_has_30 : decode cX2_has 30 = .ok (.iload_n 3, 1) := dk_29 (dk_at dksX2_has_1 6 rfl rfl)
theorem dX2_has_31 : decode cX2_has 31 = .ok (.aload_n 0, 1) := dk_42 (dk_at dksX2_has_1 7 rfl rfl)
theorem dX2_has_32 : decode cX2_has 32 = .ok (.getfield 41, 3) := dk_180 0 41 (dk_at dksX2_has_1 8 rfl rfl)
theorem dX2_has_35 : decode cX2_has 35 = .ok (.iload 6, 2) := dk_21 6 (dk_at dksX2_has_1 11 rfl rfl)
theorem dX2_has_37 : decode cX2_has 37 = .ok (.iaload, 1) := dk_46 (dk_at dksX2_has_1 13 rfl rfl)
theorem dX2_has_38 : decode cX2_has 38 = .ok (.aload_n 0, 1) := dk_42 (dk_at dksX2_has_1 14 rfl rfl)
theorem dX2_has_39 : decode cX2_has 39 = .ok (.getfield 44, 3) := dk_180 0 44 (dk_at dksX2_has_1 15 rfl rfl)
theorem dX2_has_42 : decode cX2_has 42 = .ok (.iload 6, 2) := dk_21 6 (dk_at dksX2_has_1 18 rfl rfl)
theorem dX2_has_44 : decode cX2_has 44 = .ok (.iaload, 1) := dk_46 (dk_at dksX2_has_1 20 rfl rfl)
theorem dX2_has_45 : decode cX2_has 45 = .ok (.invokestatic 60, 3) := dk_184 0 60 (dk_at dksX2_has_1 21 rfl rfl)
theorem dX2_has_48 : decode cX2_has 48 = .ok (.ifCond .eq 25, 3) := dk_153 0 25 (dk_at dksX2_has_2 0 rfl rfl)
theorem dX2_has_51 : decode cX2_has 51 = .ok (.iload_n 3, 1) := dk_29 (dk_at dksX2_has_2 3 rfl rfl)
theorem dX2_has_52 : decode cX2_has 52 = .ok (.iload 5, 2) := dk_21 5 (dk_at dksX2_has_2 4 rfl rfl)
theorem dX2_has_54 : decode cX2_has 54 = .ok (.sipush 360, 3) := dk_17 1 104 (dk_at dksX2_has_2 6 rfl rfl)
theorem dX2_has_57 : decode cX2_has 57 = .ok (.idiv, 1) := dk_108 (dk_at dksX2_has_2 9 rfl rfl)
theorem dX2_has_58 : decode cX2_has 58 = .ok (.aload_n 0, 1) := dk_42 (dk_at dksX2_has_2 10 rfl rfl)
theorem dX2_has_59 : decode cX2_has 59 = .ok (.getfield 47, 3) := dk_180 0 47 (dk_at dksX2_has_2 11 rfl rfl)
theorem dX2_has_62 : decode cX2_has 62 = .ok (.iload 6, 2) := dk_21 6 (dk_at dksX2_has_2 14 rfl rfl)
theorem dX2_has_64 : decode cX2_has 64 = .ok (.iaload, 1) := dk_46 (dk_at dksX2_has_2 16 rfl rfl)
theorem dX2_has_65 : decode cX2_has 65 = .ok (.isub, 1) := dk_100 (dk_at dksX2_has_2 17 rfl rfl)
theorem dX2_has_66 : decode cX2_has 66 = .ok (.if_icmp .gt 7, 3) := dk_163 0 7 (dk_at dksX2_has_2 18 rfl rfl)
theorem dX2_has_69 : decode cX2_has 69 = .ok (.iconst 1, 1) := dk_4 (dk_at dksX2_has_2 21 rfl rfl)
theorem dX2_has_70 : decode cX2_has 70 = .ok (.goto 4, 3) := dk_167 0 4 (dk_at dksX2_has_3 0 rfl rfl)
theorem dX2_has_73 : decode cX2_has 73 = .ok (.iconst 0, 1) := dk_3 (dk_at dksX2_has_3 3 rfl rfl)
theorem dX2_has_74 : decode cX2_has 74 = .ok (.istore 7, 2) := dk_54 7 (dk_at dksX2_has_3 4 rfl rfl)
theorem dX2_has_76 : decode cX2_has 76 = .ok (.iload 7, 2) := dk_21 7 (dk_at dksX2_has_3 6 rfl rfl)
theorem dX2_has_78 : decode cX2_has 78 = .ok (.ifCond .eq 20, 3) := dk_153 0 20 (dk_at dksX2_has_3 8 rfl rfl)
theorem dX2_has_81 : decode cX2_has 81 = .ok (.aload_n 0, 1) := dk_42 (dk_at dksX2_has_3 11 rfl rfl)
theorem dX2_has_82 : decode cX2_has 82 = .ok (.iload_n 1, 1) := dk_27 (dk_at dksX2_has_3 12 rfl rfl)
theorem dX2_has_83 : decode cX2_has 83 = .ok (.invokestatic 84, 3) := dk_184 0 84 (dk_at dksX2_has_3 13 rfl rfl)
theorem dX2_has_86 : decode cX2_has 86 = .ok (.iload 4, 2) := dk_21 4 (dk_at dksX2_has_3 16 rfl rfl)
theorem dX2_has_88 : decode cX2_has 88 = .ok (.invokevirtual 92, 3) := dk_182 0 92 (dk_at dksX2_has_3 18 rfl rfl)
theorem dX2_has_91 : decode cX2_has 91 = .ok (.ifCond .eq 7, 3) := dk_153 0 7 (dk_at dksX2_has_3 21 rfl rfl)
theorem dX2_has_94 : decode cX2_has 94 = .ok (.iconst 1, 1) := dk_4 (dk_at dksX2_has_4 0 rfl rfl)
theorem dX2_has_95 : decode cX2_has 95 = .ok (.goto 4, 3) := dk_167 0 4 (dk_at dksX2_has_4 1 rfl rfl)
theorem dX2_has_98 : decode cX2_has 98 = .ok (.iconst 0, 1) := dk_3 (dk_at dksX2_has_4 4 rfl rfl)
theorem dX2_has_99 : decode cX2_has 99 = .ok (.ireturn, 1) := dk_172 (dk_at dksX2_has_4 5 rfl rfl)
abbrev cX2_isKept : ByteArray := prog_7_method_25_code
def yX2_isKept : MethodName := ⟨RX2, "isKept", "(IIII)Z"⟩
def dkwX2_isKept_2 : List UInt8 := [172]
abbrev dktX2_isKept_2 : List UInt8 := dkwX2_isKept_2 ++ []
def dkwX2_isKept_1 : List UInt8 := [21, 4, 162, 0, 21, 42, 27, 28, 29, 21, 5, 21, 4, 182, 0, 96, 153, 0, 7, 4, 167, 0, 4, 3]
abbrev dktX2_isKept_1 : List UInt8 := dkwX2_isKept_1 ++ dktX2_isKept_2
def dkwX2_isKept_0 : List UInt8 := [17, 1, 104, 29, 104, 17, 1, 104, 96, 4, 100, 54, 5, 42, 180, 0, 25, 27, 51, 153, 0, 28, 21, 5]
abbrev dktX2_isKept_0 : List UInt8 := dkwX2_isKept_0 ++ dktX2_isKept_1
theorem dksX2_isKept_0 : cX2_isKept.data.toList.drop 0 = dktX2_isKept_0 := by decide +kernel
theorem dksX2_isKept_1 : cX2_isKept.data.toList.drop 24 = dktX2_isKept_1 := dk_seg dksX2_isKept_0 24 rfl rfl
theorem dksX2_isKept_2 : cX2_isKept.data.toList.drop 48 = dktX2_isKept_2 := dk_seg dksX2_isKept_1 24 rfl rfl
theorem dX2_isKept_0 : decode cX2_isKept 0 = .ok (.sipush 360, 3) := dk_17 1 104 (dk_at dksX2_isKept_0 0 rfl rfl)
theorem dX2_isKept_3 : decode cX2_isKept 3 = .ok (.iload_n 3, 1) := dk_29 (dk_at dksX2_isKept_0 3 rfl rfl)
theorem dX2_isKept_4 : decode cX2_isKept 4 = .ok (.imul, 1) := dk_104 (dk_at dksX2_isKept_0 4 rfl rfl)
theorem dX2_isKept_5 : decode cX2_isKept 5 = .ok (.sipush 360, 3) := dk_17 1 104 (dk_at dksX2_isKept_0 5 rfl rfl)
theorem dX2_isKept_8 : decode cX2_isKept 8 = .ok (.iadd, 1) := dk_96 (dk_at dksX2_isKept_0 8 rfl rfl)
theorem dX2_isKept_9 : decode cX2_isKept 9 = .ok (.iconst 1, 1) := dk_4 (dk_at dksX2_isKept_0 9 rfl rfl)
theorem dX2_isKept_10 : decode cX2_isKept 10 = .ok (.isub, 1) := dk_100 (dk_at dksX2_isKept_0 10 rfl rfl)
theorem dX2_isKept_11 : decode cX2_isKept 11 = .ok (.istore 5, 2) := dk_54 5 (dk_at dksX2_isKept_0 11 rfl rfl)
theorem dX2_isKept_13 : decode cX2_isKept 13 = .ok (.aload_n 0, 1) := dk_42 (dk_at dksX2_isKept_0 13 rfl rfl)
theorem dX2_isKept_14 : decode cX2_isKept 14 = .ok (.getfield 25, 3) := dk_180 0 25 (dk_at dksX2_isKept_0 14 rfl rfl)
theorem dX2_isKept_17 : decode cX2_isKept 17 = .ok (.iload_n 1, 1) := dk_27 (dk_at dksX2_isKept_0 17 rfl rfl)
theorem dX2_isKept_18 : decode cX2_isKept 18 = .ok (.baload, 1) := dk_51 (dk_at dksX2_isKept_0 18 rfl rfl)
theorem dX2_isKept_19 : decode cX2_isKept 19 = .ok (.ifCond .eq 28, 3) := dk_153 0 28 (dk_at dksX2_isKept_0 19 rfl rfl)
theorem dX2_isKept_22 : decode cX2_isKept 22 = .ok (.iload 5, 2) := dk_21 5 (dk_at dksX2_isKept_0 22 rfl rfl)
theorem dX2_isKept_24 : decode cX2_isKept 24 = .ok (.iload 4, 2) := dk_21 4 (dk_at dksX2_isKept_1 0 rfl rfl)
theorem dX2_isKept_26 : decode cX2_isKept 26 = .ok (.if_icmp .ge 21, 3) := dk_162 0 21 (dk_at dksX2_isKept_1 2 rfl rfl)
theorem dX2_isKept_29 : decode cX2_isKept 29 = .ok (.aload_n 0, 1) := dk_42 (dk_at dksX2_isKept_1 5 rfl rfl)
theorem dX2_isKept_30 : decode cX2_isKept 30 = .ok (.iload_n 1, 1) := dk_27 (dk_at dksX2_isKept_1 6 rfl rfl)
theorem dX2_isKept_31 : decode cX2_isKept 31 = .ok (.iload_n 2, 1) := dk_28 (dk_at dksX2_isKept_1 7 rfl rfl)
theorem dX2_isKept_32 : decode cX2_isKept 32 = .ok (.iload_n 3, 1) := dk_29 (dk_at dksX2_isKept_1 8 rfl rfl)
theorem dX2_isKept_33 : decode cX2_isKept 33 = .ok (.iload 5, 2) := dk_21 5 (dk_at dksX2_isKept_1 9 rfl rfl)
theorem dX2_isKept_35 : decode cX2_isKept 35 = .ok (.iload 4, 2) := dk_21 4 (dk_at dksX2_isKept_1 11 rfl rfl)
theorem dX2_isKept_37 : decode cX2_isKept 37 = .ok (.invokevirtual 96, 3) := dk_182 0 96 (dk_at dksX2_isKept_1 13 rfl rfl)
theorem dX2_isKept_40 : decode cX2_isKept 40 = .ok (.ifCond .eq 7, 3) := dk_153 0 7 (dk_at dksX2_isKept_1 16 rfl rfl)
theorem dX2_isKept_43 : decode cX2_isKept 43 = .ok (.iconst 1, 1) := dk_4 (dk_at dksX2_isKept_1 19 rfl rfl)
theorem dX2_isKept_44 : decode cX2_isKept 44 = .ok (.goto 4, 3) := dk_167 0 4 (dk_at dksX2_isKept_1 20 rfl rfl)
theorem dX2_isKept_47 : decode cX2_isKept 47 = .ok (.iconst 0, 1) := dk_3 (dk_at dksX2_isKept_1 23 rfl rfl)
theorem dX2_isKept_48 : decode cX2_isKept 48 = .ok (.ireturn, 1) := dk_172 (dk_at dksX2_isKept_2 0 rfl rfl)
abbrev cX2_ways : ByteArray := prog_7_method_31_code
def yX2_ways : MethodName := ⟨RX2, "ways", "(IIII)I"⟩
def dkwX2_ways_2 : List UInt8 := [172]
abbrev dktX2_ways_2 : List UInt8 := dkwX2_ways_2 ++ []
def dkwX2_ways_1 : List UInt8 := [3, 167, 0, 4, 5, 182, 0, 64, 153, 0, 15, 42, 27, 28, 29, 21, 4, 182, 0, 113, 167, 0, 4, 3]
abbrev dktX2_ways_1 : List UInt8 := dkwX2_ways_1 ++ dktX2_ways_2
def dkwX2_ways_0 : List UInt8 := [42, 42, 27, 182, 0, 68, 154, 0, 7, 4, 167, 0, 19, 42, 28, 29, 21, 4, 182, 0, 104, 153, 0, 7]
abbrev dktX2_ways_0 : List UInt8 := dkwX2_ways_0 ++ dktX2_ways_1
theorem dksX2_ways_0 : cX2_ways.data.toList.drop 0 = dktX2_ways_0 := by decide +kernel
theorem dksX2_ways_1 : cX2_ways.data.toList.drop 24 = dktX2_ways_1 := dk_seg dksX2_ways_0 24 rfl rfl
theorem dksX2_ways_2 : cX2_ways.data.toList.drop 48 = dktX2_ways_2 := dk_seg dksX2_ways_1 24 rfl rfl
theorem dX2_ways_0 : decode cX2_ways 0 = .ok (.aload_n 0, 1) := dk_42 (dk_at dksX2_ways_0 0 rfl rfl)
theorem dX2_ways_1 : decode cX2_ways 1 = .ok (.aload_n 0, 1) := dk_42 (dk_at dksX2_ways_0 1 rfl rfl)
theorem dX2_ways_2 : decode cX2_ways 2 = .ok (.iload_n 1, 1) := dk_27 (dk_at dksX2_ways_0 2 rfl rfl)
theorem dX2_ways_3 : decode cX2_ways 3 = .ok (.invokevirtual 68, 3) := dk_182 0 68 (dk_at dksX2_ways_0 3 rfl rfl)
theorem dX2_ways_6 : decode cX2_ways 6 = .ok (.ifCond .ne 7, 3) := dk_154 0 7 (dk_at dksX2_ways_0 6 rfl rfl)
theorem dX2_ways_9 : decode cX2_ways 9 = .ok (.iconst 1, 1) := dk_4 (dk_at dksX2_ways_0 9 rfl rfl)
theorem dX2_ways_10 : decode cX2_ways 10 = .ok (.goto 19, 3) := dk_167 0 19 (dk_at dksX2_ways_0 10 rfl rfl)
theorem dX2_ways_13 : decode cX2_ways 13 = .ok (.aload_n 0, 1) := dk_42 (dk_at dksX2_ways_0 13 rfl rfl)
theorem dX2_ways_14 : decode cX2_ways 14 = .ok (.iload_n 2, 1) := dk_28 (dk_at dksX2_ways_0 14 rfl rfl)
theorem dX2_ways_15 : decode cX2_ways 15 = .ok (.iload_n 3, 1) := dk_29 (dk_at dksX2_ways_0 15 rfl rfl)
theorem dX2_ways_16 : decode cX2_ways 16 = .ok (.iload 4, 2) := dk_21 4 (dk_at dksX2_ways_0 16 rfl rfl)
theorem dX2_ways_18 : decode cX2_ways 18 = .ok (.invokevirtual 104, 3) := dk_182 0 104 (dk_at dksX2_ways_0 18 rfl rfl)
theorem dX2_ways_21 : decode cX2_ways 21 = .ok (.ifCond .eq 7, 3) := dk_153 0 7 (dk_at dksX2_ways_0 21 rfl rfl)
theorem dX2_ways_24 : decode cX2_ways 24 = .ok (.iconst 0, 1) := dk_3 (dk_at dksX2_ways_1 0 rfl rfl)
theorem dX2_ways_25 : decode cX2_ways 25 = .ok (.goto 4, 3) := dk_167 0 4 (dk_at dksX2_ways_1 1 rfl rfl)
theorem dX2_ways_28 : decode cX2_ways 28 = .ok (.iconst 2, 1) := dk_5 (dk_at dksX2_ways_1 4 rfl rfl)
theorem dX2_ways_29 : decode cX2_ways 29 = .ok (.invokevirtual 64, 3) := dk_182 0 64 (dk_at dksX2_ways_1 5 rfl rfl)
theorem dX2_ways_32 : decode cX2_ways 32 = .ok (.ifCond .eq 15, 3) := dk_153 0 15 (dk_at dksX2_ways_1 8 rfl rfl)
theorem dX2_ways_35 : decode cX2_ways 35 = .ok (.aload_n 0, 1) := dk_42 (dk_at dksX2_ways_1 11 rfl rfl)
theorem dX2_ways_36 : decode cX2_ways 36 = .ok (.iload_n 1, 1) := dk_27 (dk_at dksX2_ways_1 12 rfl rfl)
theorem dX2_ways_37 : decode cX2_ways 37 = .ok (.iload_n 2, 1) := dk_28 (dk_at dksX2_ways_1 13 rfl rfl)
theorem dX2_ways_38 : decode cX2_ways 38 = .ok (.iload_n 3, 1) := dk_29 (dk_at dksX2_ways_1 14 rfl rfl)
theorem dX2_ways_39 : decode cX2_ways 39 = .ok (.iload 4, 2) := dk_21 4 (dk_at dksX2_ways_1 15 rfl rfl)
theorem dX2_ways_41 : decode cX2_ways 41 = .ok (.invokevirtual 113, 3) := dk_182 0 113 (dk_at dksX2_ways_1 17 rfl rfl)
theorem dX2_ways_44 : decode cX2_ways 44 = .ok (.goto 4, 3) := dk_167 0 4 (dk_at dksX2_ways_1 20 rfl rfl)
theorem dX2_ways_47 : decode cX2_ways 47 = .ok (.iconst 0, 1) := dk_3 (dk_at dksX2_ways_1 23 rfl rfl)
theorem dX2_ways_48 : decode cX2_ways 48 = .ok (.ireturn, 1) := dk_172 (dk_at dksX2_ways_2 0 rfl rfl)
abbrev cX2_waysTo : ByteArray := prog_7_method_30_code
def yX2_waysTo : MethodName := ⟨RX2, "waysTo", "(IIII)I"⟩
def dkwX2_waysTo_2 : List UInt8 := [132, 6, 1, 167, 255, 211, 21, 5, 172]
abbrev dktX2_waysTo_2 : List UInt8 := dkwX2_waysTo_2 ++ []
def dkwX2_waysTo_1 : List UInt8 := [153, 0, 20, 42, 21, 6, 27, 28, 21, 4, 182, 0, 110, 153, 0, 7, 4, 167, 0, 4, 3, 96, 54, 5]
abbrev dktX2_waysTo_1 : List UInt8 := dkwX2_waysTo_1 ++ dktX2_waysTo_2
def dkwX2_waysTo_0 : List UInt8 := [3, 54, 5, 3, 54, 6, 21, 6, 42, 180, 0, 57, 162, 0, 42, 21, 5, 42, 21, 6, 29, 182, 0, 107]
abbrev dktX2_waysTo_0 : List UInt8 := dkwX2_waysTo_0 ++ dktX2_waysTo_1
theorem dksX2_waysTo_0 : cX2_waysTo.data.toList.drop 0 = dktX2_waysTo_0 := by decide +kernel
theorem dksX2_waysTo_1 : cX2_waysTo.data.toList.drop 24 = dktX2_waysTo_1 := dk_seg dksX2_waysTo_0 24 rfl rfl
theorem dksX2_waysTo_2 : cX2_waysTo.data.toList.drop 48 = dktX2_waysTo_2 := dk_seg dksX2_waysTo_1 24 rfl rfl
theorem dX2_waysTo_0 : decode cX2_waysTo 0 = .ok (.iconst 0, 1) := dk_3 (dk_at dksX2_waysTo_0 0 rfl rfl)
theorem dX2_waysTo_1 : decode cX2_waysTo 1 = .ok (.istore 5, 2) := dk_54 5 (dk_at dksX2_waysTo_0 1 rfl rfl)
theorem dX2_waysTo_3 : decode cX2_waysTo 3 = .ok (.iconst 0, 1) := dk_3 (dk_at dksX2_waysTo_0 3 rfl rfl)
theorem dX2_waysTo_4 : decode cX2_waysTo 4 = .ok (.istore 6, 2) := dk_54 6 (dk_at dksX2_waysTo_0 4 rfl rfl)
theorem dX2_waysTo_6 : decode cX2_waysTo 6 = .ok (.iload 6, 2) := dk_21 6 (dk_at dksX2_waysTo_0 6 rfl rfl)
theorem dX2_waysTo_8 : decode cX2_waysTo 8 = .ok (.aload_n 0, 1) := dk_42 (dk_at dksX2_waysTo_0 8 rfl rfl)
theorem dX2_waysTo_9 : decode cX2_waysTo 9 = .ok (.getfield 57, 3) := dk_180 0 57 (dk_at dksX2_waysTo_0 9 rfl rfl)
theorem dX2_waysTo_12 : decode cX2_waysTo 12 = .ok (.if_icmp .ge 42, 3) := dk_162 0 42 (dk_at dksX2_waysTo_0 12 rfl rfl)
theorem dX2_waysTo_15 : decode cX2_waysTo 15 = .ok (.iload 5, 2) := dk_21 5 (dk_at dksX2_waysTo_0 15 rfl rfl)
theorem dX2_waysTo_17 : decode cX2_waysTo 17 = .ok (.aload_n 0, 1) := dk_42 (dk_at dksX2_waysTo_0 17 rfl rfl)
theorem dX2_waysTo_18 : decode cX2_waysTo 18 = .ok (.iload 6, 2) := dk_21 6 (dk_at dksX2_waysTo_0 18 rfl rfl)
theorem dX2_waysTo_20 : decode cX2_waysTo 20 = .ok (.iload_n 3, 1) := dk_29 (dk_at dksX2_waysTo_0 20 rfl rfl)
theorem dX2_waysTo_21 : decode cX2_waysTo 21 = .ok (.invokevirtual 107, 3) := dk_182 0 107 (dk_at dksX2_waysTo_0 21 rfl rfl)
theorem dX2_waysTo_24 : decode cX2_waysTo 24 = .ok (.ifCond .eq 20, 3) := dk_153 0 20 (dk_at dksX2_waysTo_1 0 rfl rfl)
theorem dX2_waysTo_27 : decode cX2_waysTo 27 = .ok (.aload_n 0, 1) := dk_42 (dk_at dksX2_waysTo_1 3 rfl rfl)
theorem dX2_waysTo_28 : decode cX2_waysTo 28 = .ok (.iload 6, 2) := dk_21 6 (dk_at dksX2_waysTo_1 4 rfl rfl)
theorem dX2_waysTo_30 : decode cX2_waysTo 30 = .ok (.iload_n 1, 1) := dk_27 (dk_at dksX2_waysTo_1 6 rfl rfl)
theorem dX2_waysTo_31 : decode cX2_waysTo 31 = .ok (.iload_n 2, 1) := dk_28 (dk_at dksX2_waysTo_1 7 rfl rfl)
theorem dX2_waysTo_32 : decode cX2_waysTo 32 = .ok (.iload 4, 2) := dk_21 4 (dk_at dksX2_waysTo_1 8 rfl rfl)
theorem dX2_waysTo_34 : decode cX2_waysTo 34 = .ok (.invokevirtual 110, 3) := dk_182 0 110 (dk_at dksX2_waysTo_1 10 rfl rfl)
theorem dX2_waysTo_37 : decode cX2_waysTo 37 = .ok (.ifCond .eq 7, 3) := dk_153 0 7 (dk_at dksX2_waysTo_1 13 rfl rfl)
theorem dX2_waysTo_40 : decode cX2_waysTo 40 = .ok (.iconst 1, 1) := dk_4 (dk_at dksX2_waysTo_1 16 rfl rfl)
theorem dX2_waysTo_41 : decode cX2_waysTo 41 = .ok (.goto 4, 3) := dk_167 0 4 (dk_at dksX2_waysTo_1 17 rfl rfl)
theorem dX2_waysTo_44 : decode cX2_waysTo 44 = .ok (.iconst 0, 1) := dk_3 (dk_at dksX2_waysTo_1 20 rfl rfl)
theorem dX2_waysTo_45 : decode cX2_waysTo 45 = .ok (.iadd, 1) := dk_96 (dk_at dksX2_waysTo_1 21 rfl rfl)
theorem dX2_waysTo_46 : decode cX2_waysTo 46 = .ok (.istore 5, 2) := dk_54 5 (dk_at dksX2_waysTo_1 22 rfl rfl)
theorem dX2_waysTo_48 : decode cX2_waysTo 48 = .ok (.iinc 6 1, 3) := dk_132 6 1 (dk_at dksX2_waysTo_2 0 rfl rfl)
theorem dX2_waysTo_51 : decode cX2_waysTo 51 = .ok (.goto (-45), 3) := dk_167 255 211 (dk_at dksX2_waysTo_2 3 rfl rfl)
theorem dX2_waysTo_54 : decode cX2_waysTo 54 = .ok (.iload 5, 2) := dk_21 5 (dk_at dksX2_waysTo_2 6 rfl rfl)
theorem dX2_waysTo_56 : decode cX2_waysTo 56 = .ok (.ireturn, 1) := dk_172 (dk_at dksX2_waysTo_2 8 rfl rfl)
abbrev cX2_wayAt : ByteArray := prog_7_method_33_code
def yX2_wayAt : MethodName := ⟨RX2, "wayAt", "(IIIII)I"⟩
def dkwX2_wayAt_9 : List UInt8 := [21, 8, 172]
abbrev dktX2_wayAt_9 : List UInt8 := dkwX2_wayAt_9 ++ []
def dkwX2_wayAt_8 : List UInt8 := [29, 21, 5, 182, 0, 110, 153, 0, 8, 21, 9, 167, 0, 5, 21, 8, 54, 8, 132, 9, 1, 167, 255, 131]
abbrev dktX2_wayAt_8 : List UInt8 := dkwX2_wayAt_8 ++ dktX2_wayAt_9
def dkwX2_wayAt_7 : List UInt8 := [167, 255, 191, 21, 10, 27, 160, 0, 32, 42, 21, 9, 21, 4, 182, 0, 107, 153, 0, 21, 42, 21, 9, 28]
abbrev dktX2_wayAt_7 : List UInt8 := dkwX2_wayAt_7 ++ dktX2_wayAt_8
def dkwX2_wayAt_6 : List UInt8 := [21, 11, 28, 29, 21, 5, 182, 0, 110, 153, 0, 7, 4, 167, 0, 4, 3, 96, 54, 10, 132, 11, 1]
abbrev dktX2_wayAt_6 : List UInt8 := dkwX2_wayAt_6 ++ dktX2_wayAt_7
def dkwX2_wayAt_5 : List UInt8 := [21, 11, 21, 9, 28, 182, 0, 117, 153, 0, 31, 42, 21, 11, 21, 4, 182, 0, 107, 153, 0, 20, 42]
abbrev dktX2_wayAt_5 : List UInt8 := dkwX2_wayAt_5 ++ dktX2_wayAt_6
def dkwX2_wayAt_4 : List UInt8 := [54, 10, 3, 54, 11, 21, 11, 42, 180, 0, 57, 162, 0, 62, 21, 10, 21, 11, 21, 9, 159, 0, 43, 42]
abbrev dktX2_wayAt_4 : List UInt8 := dkwX2_wayAt_4 ++ dktX2_wayAt_5
def dkwX2_wayAt_3 : List UInt8 := [182, 0, 64, 154, 0, 5, 3, 172, 2, 54, 8, 3, 54, 9, 21, 9, 42, 180, 0, 57, 162, 0, 122, 3]
abbrev dktX2_wayAt_3 : List UInt8 := dkwX2_wayAt_3 ++ dktX2_wayAt_4
def dkwX2_wayAt_2 : List UInt8 := [54, 7, 42, 21, 6, 154, 0, 7, 4, 167, 0, 13, 21, 7, 153, 0, 7, 3, 167, 0, 4, 5]
abbrev dktX2_wayAt_2 : List UInt8 := dkwX2_wayAt_2 ++ dktX2_wayAt_3
def dkwX2_wayAt_1 : List UInt8 := [27, 155, 0, 21, 27, 42, 28, 29, 21, 4, 21, 5, 182, 0, 113, 162, 0, 7, 4, 167, 0, 4, 3]
abbrev dktX2_wayAt_1 : List UInt8 := dkwX2_wayAt_1 ++ dktX2_wayAt_2
def dkwX2_wayAt_0 : List UInt8 := [42, 29, 21, 4, 21, 5, 182, 0, 104, 54, 6, 21, 6, 153, 0, 33, 42, 28, 182, 0, 68, 153, 0, 25]
abbrev dktX2_wayAt_0 : List UInt8 := dkwX2_wayAt_0 ++ dktX2_wayAt_1
theorem dksX2_wayAt_0 : cX2_wayAt.data.toList.drop 0 = dktX2_wayAt_0 := by decide +kernel
theorem dksX2_wayAt_1 : cX2_wayAt.data.toList.drop 24 = dktX2_wayAt_1 := dk_seg dksX2_wayAt_0 24 rfl rfl
theorem dksX2_wayAt_2 : cX2_wayAt.data.toList.drop 47 = dktX2_wayAt_2 := dk_seg dksX2_wayAt_1 23 rfl rfl
theorem dksX2_wayAt_3 : cX2_wayAt.data.toList.drop 69 = dktX2_wayAt_3 := dk_seg dksX2_wayAt_2 22 rfl rfl
theorem dksX2_wayAt_4 : cX2_wayAt.data.toList.drop 93 = dktX2_wayAt_4 := dk_seg dksX2_wayAt_3 24 rfl rfl
theorem dksX2_wayAt_5 : cX2_wayAt.data.toList.drop 117 = dktX2_wayAt_5 := dk_seg dksX2_wayAt_4 24 rfl rfl
theorem dksX2_wayAt_6 : cX2_wayAt.data.toList.drop 140 = dktX2_wayAt_6 := dk_seg dksX2_wayAt_5 23 rfl rfl
theorem dksX2_wayAt_7 : cX2_wayAt.data.toList.drop 163 = dktX2_wayAt_7 := dk_seg dksX2_wayAt_6 23 rfl rfl
theorem dksX2_wayAt_8 : cX2_wayAt.data.toList.drop 187 = dktX2_wayAt_8 := dk_seg dksX2_wayAt_7 24 rfl rfl
theorem dksX2_wayAt_9 : cX2_wayAt.data.toList.drop 211 = dktX2_wayAt_9 := dk_seg dksX2_wayAt_8 24 rfl rfl
theorem dX2_wayAt_0 : decode cX2_wayAt 0 = .ok (.aload_n 0, 1) := dk_42 (dk_at dksX2_wayAt_0 0 rfl rfl)
theorem dX2_wayAt_1 : decode cX2_wayAt 1 = .ok (.iload_n 3, 1) := dk_29 (dk_at dksX2_wayAt_0 1 rfl rfl)
theorem dX2_wayAt_2 : decode cX2_wayAt 2 = .ok (.iload 4, 2) := dk_21 4 (dk_at dksX2_wayAt_0 2 rfl rfl)
theorem dX2_wayAt_4 : decode cX2_wayAt 4 = .ok (.iload 5, 2) := dk_21 5 (dk_at dksX2_wayAt_0 4 rfl rfl)
theorem dX2_wayAt_6 : decode cX2_wayAt 6 = .ok (.invokevirtual 104, 3) := dk_182 0 104 (dk_at dksX2_wayAt_0 6 rfl rfl)
theorem dX2_wayAt_9 : decode cX2_wayAt 9 = .ok (.istore 6, 2) := dk_54 6 (dk_at dksX2_wayAt_0 9 rfl rfl)
theorem dX2_wayAt_11 : decode cX2_wayAt 11 = .ok (.iload 6, 2) := dk_21 6 (dk_at dksX2_wayAt_0 11 rfl rfl)
theorem dX2_wayAt_13 : decode cX2_wayAt 13 = .ok (.ifCond .eq 33, 3) := dk_153 0 33 (dk_at dksX2_wayAt_0 13 rfl rfl)
theorem dX2_wayAt_16 : decode cX2_wayAt 16 = .ok (.aload_n 0, 1) := dk_42 (dk_at dksX2_wayAt_0 16 rfl rfl)
theorem dX2_wayAt_17 : decode cX2_wayAt 17 = .ok (.iload_n 2, 1) := dk_28 (dk_at dksX2_wayAt_0 17 rfl rfl)
theorem dX2_wayAt_18 : decode cX2_wayAt 18 = .ok (.invokevirtual 68, 3) := dk_182 0 68 (dk_at dksX2_wayAt_0 18 rfl rfl)
theorem dX2_wayAt_21 : decode cX2_wayAt 21 = .ok (.ifCond .eq 25, 3) := dk_153 0 25 (dk_at dksX2_wayAt_0 21 rfl rfl)
theorem dX2_wayAt_24 : decode cX2_wayAt 24 = .ok (.iload_n 1, 1) := dk_27 (dk_at dksX2_wayAt_1 0 rfl rfl)
theorem dX2_wayAt_25 : decode cX2_wayAt 25 = .ok (.ifCond .lt 21, 3) := dk_155 0 21 (dk_at dksX2_wayAt_1 1 rfl rfl)
theorem dX2_wayAt_28 : decode cX2_wayAt 28 = .ok (.iload_n 1, 1) := dk_27 (dk_at dksX2_wayAt_1 4 rfl rfl)
theorem dX2_wayAt_29 : decode cX2_wayAt 29 = .ok (.aload_n 0, 1) := dk_42 (dk_at dksX2_wayAt_1 5 rfl rfl)
theorem dX2_wayAt_30 : decode cX2_wayAt 30 = .ok (.iload_n 2, 1) := dk_28 (dk_at dksX2_wayAt_1 6 rfl rfl)
theorem dX2_wayAt_31 : decode cX2_wayAt 31 = .ok (.iload_n 3, 1) := dk_29 (dk_at dksX2_wayAt_1 7 rfl rfl)
theorem dX2_wayAt_32 : decode cX2_wayAt 32 = .ok (.iload 4, 2) := dk_21 4 (dk_at dksX2_wayAt_1 8 rfl rfl)
theorem dX2_wayAt_34 : decode cX2_wayAt 34 = .ok (.iload 5, 2) := dk_21 5 (dk_at dksX2_wayAt_1 10 rfl rfl)
theorem dX2_wayAt_36 : decode cX2_wayAt 36 = .ok (.invokevirtual 113, 3) := dk_182 0 113 (dk_at dksX2_wayAt_1 12 rfl rfl)
theorem dX2_wayAt_39 : decode cX2_wayAt 39 = .ok (.if_icmp .ge 7, 3) := dk_162 0 7 (dk_at dksX2_wayAt_1 15 rfl rfl)
theorem dX2_wayAt_42 : decode cX2_wayAt 42 = .ok (.iconst 1, 1) := dk_4 (dk_at dksX2_wayAt_1 18 rfl rfl)
theorem dX2_wayAt_43 : decode cX2_wayAt 43 = .ok (.goto 4, 3) := dk_167 0 4 (dk_at dksX2_wayAt_1 19 rfl rfl)
theorem dX2_wayAt_46 : decode cX2_wayAt 46 = .ok (.iconst 0, 1) := dk_3 (dk_at dksX2_wayAt_1 22 rfl rfl)
theorem dX2_wayAt_47 : decode cX2_wayAt 47 = .ok (.istore 7, 2) := dk_54 7 (dk_at dksX2_wayAt_2 0 rfl rfl)
theorem dX2_wayAt_49 : decode cX2_wayAt 49 = .ok (.aload_n 0, 1) := dk_42 (dk_at dksX2_wayAt_2 2 rfl rfl)
theorem dX2_wayAt_50 : decode cX2_wayAt 50 = .ok (.iload 6, 2) := dk_21 6 (dk_at dksX2_wayAt_2 3 rfl rfl)
theorem dX2_wayAt_52 : decode cX2_wayAt 52 = .ok (.ifCond .ne 7, 3) := dk_154 0 7 (dk_at dksX2_wayAt_2 5 rfl rfl)
theorem dX2_wayAt_55 : decode cX2_wayAt 55 = .ok (.iconst 1, 1) := dk_4 (dk_at dksX2_wayAt_2 8 rfl rfl)
theorem dX2_wayAt_56 : decode cX2_wayAt 56 = .ok (.goto 13, 3) := dk_167 0 13 (dk_at dksX2_wayAt_2 9 rfl rfl)
theorem dX2_wayAt_59 : decode cX2_wayAt 59 = .ok (.iload 7, 2) := dk_21 7 (dk_at dksX2_wayAt_2 12 rfl rfl)
theorem dX2_wayAt_61 : decode cX2_wayAt 61 = .ok (.ifCond .eq 7, 3) := dk_153 0 7 (dk_at dksX2_wayAt_2 14 rfl rfl)
theorem dX2_wayAt_64 : decode cX2_wayAt 64 = .ok (.iconst 0, 1) := dk_3 (dk_at dksX2_wayAt_2 17 rfl rfl)
theorem dX2_wayAt_65 : decode cX2_wayAt 65 = .ok (.goto 4, 3) := dk_167 0 4 (dk_at dksX2_wayAt_2 18 rfl rfl)
theorem dX2_wayAt_68 : decode cX2_wayAt 68 = .ok (.iconst 2, 1) := dk_5 (dk_at dksX2_wayAt_2 21 rfl rfl)
theorem dX2_wayAt_69 : decode cX2_wayAt 69 = .ok (.invokevirtual 64, 3) := dk_182 0 64 (dk_at dksX2_wayAt_3 0 rfl rfl)
theorem dX2_wayAt_72 : decode cX2_wayAt 72 = .ok (.ifCond .ne 5, 3) := dk_154 0 5 (dk_at dksX2_wayAt_3 3 rfl rfl)
theorem dX2_wayAt_75 : decode cX2_wayAt 75 = .ok (.iconst 0, 1) := dk_3 (dk_at dksX2_wayAt_3 6 rfl rfl)
theorem dX2_wayAt_76 : decode cX2_wayAt 76 = .ok (.ireturn, 1) := dk_172 (dk_at dksX2_wayAt_3 7 rfl rfl)
theorem dX2_wayAt_77 : decode cX2_wayAt 77 = .ok (.iconst (-1), 1) := dk_2 (dk_at dksX2_wayAt_3 8 rfl rfl)
theorem dX2_wayAt_78 : decode cX2_wayAt 78 = .ok (.istore 8, 2) := dk_54 8 (dk_at dksX2_wayAt_3 9 rfl rfl)
theorem dX2_wayAt_80 : decode cX2_wayAt 80 = .ok (.iconst 0, 1) := dk_3 (dk_at dksX2_wayAt_3 11 rfl rfl)
theorem dX2_wayAt_81 : decode cX2_wayAt 81 = .ok (.istore 9, 2) := dk_54 9 (dk_at dksX2_wayAt_3 12 rfl rfl)
theorem dX2_wayAt_83 : decode cX2_wayAt 83 = .ok (.iload 9, 2) := dk_21 9 (dk_at dksX2_wayAt_3 14 rfl rfl)
theorem dX2_wayAt_85 : decode cX2_wayAt 85 = .ok (.aload_n 0, 1) := dk_42 (dk_at dksX2_wayAt_3 16 rfl rfl)
theorem dX2_wayAt_86 : decode cX2_wayAt 86 = .ok (.getfield 57, 3) := dk_180 0 57 (dk_at dksX2_wayAt_3 17 rfl rfl)
theorem dX2_wayAt_89 : decode cX2_wayAt 89 = .ok (.if_icmp .ge 122, 3) := dk_162 0 122 (dk_at dksX2_wayAt_3 20 rfl rfl)
theorem dX2_wayAt_92 : decode cX2_wayAt 92 = .ok (.iconst 0, 1) := dk_3 (dk_at dksX2_wayAt_3 23 rfl rfl)
theorem dX2_wayAt_93 : decode cX2_wayAt 93 = .ok (.istore 10, 2) := dk_54 10 (dk_at dksX2_wayAt_4 0 rfl rfl)
theorem dX2_wayAt_95 : decode cX2_wayAt 95 = .ok (.iconst 0, 1) := dk_3 (dk_at dksX2_wayAt_4 2 rfl rfl)
theorem dX2_wayAt_96 : decode cX2_wayAt 96 = .ok (.istore 11, 2) := dk_54 11 (dk_at dksX2_wayAt_4 3 rfl rfl)
theorem dX2_wayAt_98 : decode cX2_wayAt 98 = .ok (.iload 11, 2) := dk_21 11 (dk_at dksX2_wayAt_4 5 rfl rfl)
theorem dX2_wayAt_100 : decode cX2_wayAt 100 = .ok (.aload_n 0, 1) := dk_42 (dk_at dksX2_wayAt_4 7 rfl rfl)
theorem dX2_wayAt_101 : decode cX2_wayAt 101 = .ok (.getfield 57, 3) := dk_180 0 57 (dk_at dksX2_wayAt_4 8 rfl rfl)
theorem dX2_wayAt_104 : decode cX2_wayAt 104 = .ok (.if_icmp .ge 62, 3) := dk_162 0 62 (dk_at dksX2_wayAt_4 11 rfl rfl)
theorem dX2_wayAt_107 : decode cX2_wayAt 107 = .ok (.iload 10, 2) := dk_21 10 (dk_at dksX2_wayAt_4 14 rfl rfl)
theorem dX2_wayAt_109 : decode cX2_wayAt 109 = .ok (.iload 11, 2) := dk_21 11 (dk_at dksX2_wayAt_4 16 rfl rfl)
theorem dX2_wayAt_111 : decode cX2_wayAt 111 = .ok (.iload 9, 2) := dk_21 9 (dk_at dksX2_wayAt_4 18 rfl rfl)
theorem dX2_wayAt_113 : decode cX2_wayAt 113 = .ok (.if_icmp .eq 43, 3) := dk_159 0 43 (dk_at dksX2_wayAt_4 20 rfl rfl)
theorem dX2_wayAt_116 : decode cX2_wayAt 116 = .ok (.aload_n 0, 1) := dk_42 (dk_at dksX2_wayAt_4 23 rfl rfl)
theorem dX2_wayAt_117 : decode cX2_wayAt 117 = .ok (.iload 11, 2) := dk_21 11 (dk_at dksX2_wayAt_5 0 rfl rfl)
theorem dX2_wayAt_119 : decode cX2_wayAt 119 = .ok (.iload 9, 2) := dk_21 9 (dk_at dksX2_wayAt_5 2 rfl rfl)
theorem dX2_wayAt_121 : decode cX2_wayAt 121 = .ok (.iload_n 2, 1) := dk_28 (dk_at dksX2_wayAt_5 4 rfl rfl)
theorem dX2_wayAt_122 : decode cX2_wayAt 122 = .ok (.invokevirtual 117, 3) := dk_182 0 117 (dk_at dksX2_wayAt_5 5 rfl rfl)
theorem dX2_wayAt_125 : decode cX2_wayAt 125 = .ok (.ifCond .eq 31, 3) := dk_153 0 31 (dk_at dksX2_wayAt_5 8 rfl rfl)
theorem dX2_wayAt_128 : decode cX2_wayAt 128 = .ok (.aload_n 0, 1) := dk_42 (dk_at dksX2_wayAt_5 11 rfl rfl)
theorem dX2_wayAt_129 : decode cX2_wayAt 129 = .ok (.iload 11, 2) := dk_21 11 (dk_at dksX2_wayAt_5 12 rfl rfl)
theorem dX2_wayAt_131 : decode cX2_wayAt 131 = .ok (.iload 4, 2) := dk_21 4 (dk_at dksX2_wayAt_5 14 rfl rfl)
theorem dX2_wayAt_133 : decode cX2_wayAt 133 = .ok (.invokevirtual 107, 3) := dk_182 0 107 (dk_at dksX2_wayAt_5 16 rfl rfl)
theorem dX2_wayAt_136 : decode cX2_wayAt 136 = .ok (.ifCond .eq 20, 3) := dk_153 0 20 (dk_at dksX2_wayAt_5 19 rfl rfl)
theorem dX2_wayAt_139 : decode cX2_wayAt 139 = .ok (.aload_n 0, 1) := dk_42 (dk_at dksX2_wayAt_5 22 rfl rfl)
theorem dX2_wayAt_140 : decode cX2_wayAt 140 = .ok (.iload 11, 2) := dk_21 11 (dk_at dksX2_wayAt_6 0 rfl rfl)
theorem dX2_wayAt_142 : decode cX2_wayAt 142 = .ok (.iload_n 2, 1) := dk_28 (dk_at dksX2_wayAt_6 2 rfl rfl)
theorem dX2_wayAt_143 : decode cX2_wayAt 143 = .ok (.iload_n 3, 1) := dk_29 (dk_at dksX2_wayAt_6 3 rfl rfl)
theorem dX2_wayAt_144 : decode cX2_wayAt 144 = .ok (.iload 5, 2) := dk_21 5 (dk_at dksX2_wayAt_6 4 rfl rfl)
theorem dX2_wayAt_146 : decode cX2_wayAt 146 = .ok (.invokevirtual 110, 3) := dk_182 0 110 (dk_at dksX2_wayAt_6 6 rfl rfl)
theorem dX2_wayAt_149 : decode cX2_wayAt 149 = .ok (.ifCond .eq 7, 3) := dk_153 0 7 (dk_at dksX2_wayAt_6 9 rfl rfl)
theorem dX2_wayAt_152 : decode cX2_wayAt 152 = .ok (.iconst 1, 1) := dk_4 (dk_at dksX2_wayAt_6 12 rfl rfl)
theorem dX2_wayAt_153 : decode cX2_wayAt 153 = .ok (.goto 4, 3) := dk_167 0 4 (dk_at dksX2_wayAt_6 13 rfl rfl)
theorem dX2_wayAt_156 : decode cX2_wayAt 156 = .ok (.iconst 0, 1) := dk_3 (dk_at dksX2_wayAt_6 16 rfl rfl)
theorem dX2_wayAt_157 : decode cX2_wayAt 157 = .ok (.iadd, 1) := dk_96 (dk_at dksX2_wayAt_6 17 rfl rfl)
theorem dX2_wayAt_158 : decode cX2_wayAt 158 = .ok (.istore 10, 2) := dk_54 10 (dk_at dksX2_wayAt_6 18 rfl rfl)
theorem dX2_wayAt_160 : decode cX2_wayAt 160 = .ok (.iinc 11 1, 3) := dk_132 11 1 (dk_at dksX2_wayAt_6 20 rfl rfl)
theorem dX2_wayAt_163 : decode cX2_wayAt 163 = .ok (.goto (-65), 3) := dk_167 255 191 (dk_at dksX2_wayAt_7 0 rfl rfl)
theorem dX2_wayAt_166 : decode cX2_wayAt 166 = .ok (.iload 10, 2) := dk_21 10 (dk_at dksX2_wayAt_7 3 rfl rfl)
theorem dX2_wayAt_168 : decode cX2_wayAt 168 = .ok (.iload_n 1, 1) := dk_27 (dk_at dksX2_wayAt_7 5 rfl rfl)
theorem dX2_wayAt_169 : decode cX2_wayAt 169 = .ok (.if_icmp .ne 32, 3) := dk_160 0 32 (dk_at dksX2_wayAt_7 6 rfl rfl)
theorem dX2_wayAt_172 : decode cX2_wayAt 172 = .ok (.aload_n 0, 1) := dk_42 (dk_at dksX2_wayAt_7 9 rfl rfl)
theorem dX2_wayAt_173 : decode cX2_wayAt 173 = .ok (.iload 9, 2) := dk_21 9 (dk_at dksX2_wayAt_7 10 rfl rfl)
theorem dX2_wayAt_175 : decode cX2_wayAt 175 = .ok (.iload 4, 2) := dk_21 4 (dk_at dksX2_wayAt_7 12 rfl rfl)
theorem dX2_wayAt_177 : decode cX2_wayAt 177 = .ok (.invokevirtual 107, 3) := dk_182 0 107 (dk_at dksX2_wayAt_7 14 rfl rfl)
theorem dX2_wayAt_180 : decode cX2_wayAt 180 = .ok (.ifCond .eq 21, 3) := dk_153 0 21 (dk_at dksX2_wayAt_7 17 rfl rfl)
theorem dX2_wayAt_183 : decode cX2_wayAt 183 = .ok (.aload_n 0, 1) := dk_42 (dk_at dksX2_wayAt_7 20 rfl rfl)
theorem dX2_wayAt_184 : decode cX2_wayAt 184 = .ok (.iload 9, 2) := dk_21 9 (dk_at dksX2_wayAt_7 21 rfl rfl)
theorem dX2_wayAt_186 : decode cX2_wayAt 186 = .ok (.iload_n 2, 1) := dk_28 (dk_at dksX2_wayAt_7 23 rfl rfl)
theorem dX2_wayAt_187 : decode cX2_wayAt 187 = .ok (.iload_n 3, 1) := dk_29 (dk_at dksX2_wayAt_8 0 rfl rfl)
theorem dX2_wayAt_188 : decode cX2_wayAt 188 = .ok (.iload 5, 2) := dk_21 5 (dk_at dksX2_wayAt_8 1 rfl rfl)
theorem dX2_wayAt_190 : decode cX2_wayAt 190 = .ok (.invokevirtual 110, 3) := dk_182 0 110 (dk_at dksX2_wayAt_8 3 rfl rfl)
theorem dX2_wayAt_193 : decode cX2_wayAt 193 = .ok (.ifCond .eq 8, 3) := dk_153 0 8 (dk_at dksX2_wayAt_8 6 rfl rfl)
theorem dX2_wayAt_196 : decode cX2_wayAt 196 = .ok (.iload 9, 2) := dk_21 9 (dk_at dksX2_wayAt_8 9 rfl rfl)
theorem dX2_wayAt_198 : decode cX2_wayAt 198 = .ok (.goto 5, 3) := dk_167 0 5 (dk_at dksX2_wayAt_8 11 rfl rfl)
theorem dX2_wayAt_201 : decode cX2_wayAt 201 = .ok (.iload 8, 2) := dk_21 8 (dk_at dksX2_wayAt_8 14 rfl rfl)
theorem dX2_wayAt_203 : decode cX2_wayAt 203 = .ok (.istore 8, 2) := dk_54 8 (dk_at dksX2_wayAt_8 16 rfl rfl)
theorem dX2_wayAt_205 : decode cX2_wayAt 205 = .ok (.iinc 9 1, 3) := dk_132 9 1 (dk_at dksX2_wayAt_8 18 rfl rfl)
theorem dX2_wayAt_208 : decode cX2_wayAt 208 = .ok (.goto (-125), 3) := dk_167 255 131 (dk_at dksX2_wayAt_8 21 rfl rfl)
theorem dX2_wayAt_211 : decode cX2_wayAt 211 = .ok (.iload 8, 2) := dk_21 8 (dk_at dksX2_wayAt_9 0 rfl rfl)
theorem dX2_wayAt_213 : decode cX2_wayAt 213 = .ok (.ireturn, 1) := dk_172 (dk_at dksX2_wayAt_9 2 rfl rfl)
abbrev cX2_isAhead : ByteArray := prog_7_method_32_code
def yX2_isAhead : MethodName := ⟨RX2, "isAhead", "(III)Z"⟩
def dkwX2_isAhead_5 : List UInt8 := [160, 0, 12, 27, 28, 162, 0, 7, 4, 167, 0, 4, 3, 172]
abbrev dktX2_isAhead_5 : List UInt8 := dkwX2_isAhead_5 ++ []
def dkwX2_isAhead_4 : List UInt8 := [27, 46, 42, 180, 0, 19, 28, 46, 161, 0, 23, 42, 180, 0, 19, 27, 46, 42, 180, 0, 19, 28, 46]
abbrev dktX2_isAhead_4 : List UInt8 := dkwX2_isAhead_4 ++ dktX2_isAhead_5
def dkwX2_isAhead_3 : List UInt8 := [180, 0, 16, 27, 46, 42, 180, 0, 16, 28, 46, 162, 0, 7, 4, 167, 0, 4, 3, 172, 42, 180, 0, 19]
abbrev dktX2_isAhead_3 : List UInt8 := dkwX2_isAhead_3 ++ dktX2_isAhead_4
def dkwX2_isAhead_2 : List UInt8 := [21, 5, 159, 0, 6, 21, 5, 172, 42, 180, 0, 16, 27, 46, 42, 180, 0, 16, 28, 46, 159, 0, 24, 42]
abbrev dktX2_isAhead_2 : List UInt8 := dkwX2_isAhead_2 ++ dktX2_isAhead_3
def dkwX2_isAhead_1 : List UInt8 := [180, 0, 29, 16, 20, 28, 104, 29, 96, 46, 4, 164, 0, 7, 4, 167, 0, 4, 3, 54, 5, 21, 4]
abbrev dktX2_isAhead_1 : List UInt8 := dkwX2_isAhead_1 ++ dktX2_isAhead_2
def dkwX2_isAhead_0 : List UInt8 := [42, 180, 0, 29, 16, 20, 27, 104, 29, 96, 46, 4, 164, 0, 7, 4, 167, 0, 4, 3, 54, 4, 42]
abbrev dktX2_isAhead_0 : List UInt8 := dkwX2_isAhead_0 ++ dktX2_isAhead_1
theorem dksX2_isAhead_0 : cX2_isAhead.data.toList.drop 0 = dktX2_isAhead_0 := by decide +kernel
theorem dksX2_isAhead_1 : cX2_isAhead.data.toList.drop 23 = dktX2_isAhead_1 := dk_seg dksX2_isAhead_0 23 rfl rfl
theorem dksX2_isAhead_2 : cX2_isAhead.data.toList.drop 46 = dktX2_isAhead_2 := dk_seg dksX2_isAhead_1 23 rfl rfl
theorem dksX2_isAhead_3 : cX2_isAhead.data.toList.drop 70 = dktX2_isAhead_3 := dk_seg dksX2_isAhead_2 24 rfl rfl
theorem dksX2_isAhead_4 : cX2_isAhead.data.toList.drop 94 = dktX2_isAhead_4 := dk_seg dksX2_isAhead_3 24 rfl rfl
theorem dksX2_isAhead_5 : cX2_isAhead.data.toList.drop 117 = dktX2_isAhead_5 := dk_seg dksX2_isAhead_4 23 rfl rfl
theorem dX2_isAhead_0 : decode cX2_isAhead 0 = .ok (.aload_n 0, 1) := dk_42 (dk_at dksX2_isAhead_0 0 rfl rfl)
theorem dX2_isAhead_1 : decode cX2_isAhead 1 = .ok (.getfield 29, 3) := dk_180 0 29 (dk_at dksX2_isAhead_0 1 rfl rfl)
theorem dX2_isAhead_4 : decode cX2_isAhead 4 = .ok (.bipush 20, 2) := dk_16 20 (dk_at dksX2_isAhead_0 4 rfl rfl)
theorem dX2_isAhead_6 : decode cX2_isAhead 6 = .ok (.iload_n 1, 1) := dk_27 (dk_at dksX2_isAhead_0 6 rfl rfl)
theorem dX2_isAhead_7 : decode cX2_isAhead 7 = .ok (.imul, 1) := dk_104 (dk_at dksX2_isAhead_0 7 rfl rfl)
theorem dX2_isAhead_8 : decode cX2_isAhead 8 = .ok (.iload_n 3, 1) := dk_29 (dk_at dksX2_isAhead_0 8 rfl rfl)
theorem dX2_isAhead_9 : decode cX2_isAhead 9 = .ok (.iadd, 1) := dk_96 (dk_at dksX2_isAhead_0 9 rfl rfl)
theorem dX2_isAhead_10 : decode cX2_isAhead 10 = .ok (.iaload, 1) := dk_46 (dk_at dksX2_isAhead_0 10 rfl rfl)
theorem dX2_isAhead_11 : decode cX2_isAhead 11 = .ok (.iconst 1, 1) := dk_4 (dk_at dksX2_isAhead_0 11 rfl rfl)
theorem dX2_isAhead_12 : decode cX2_isAhead 12 = .ok (.if_icmp .le 7, 3) := dk_164 0 7 (dk_at dksX2_isAhead_0 12 rfl rfl)
theorem dX2_isAhead_15 : decode cX2_isAhead 15 = .ok (.iconst 1, 1) := dk_4 (dk_at dksX2_isAhead_0 15 rfl rfl)
theorem dX2_isAhead_16 : decode cX2_isAhead 16 = .ok (.goto 4, 3) := dk_167 0 4 (dk_at dksX2_isAhead_0 16 rfl rfl)
theorem dX2_isAhead_19 : decode cX2_isAhead 19 = .ok (.iconst 0, 1) := dk_3 (dk_at dksX2_isAhead_0 19 rfl rfl)
theorem dX2_isAhead_20 : decode cX2_isAhead 20 = .ok (.istore 4, 2) := dk_54 4 (dk_at dksX2_isAhead_0 20 rfl rfl)
theorem dX2_isAhead_22 : decode cX2_isAhead 22 = .ok (.aload_n 0, 1) := dk_42 (dk_at dksX2_isAhead_0 22 rfl rfl)
theorem dX2_isAhead_23 : decode cX2_isAhead 23 = .ok (.getfield 29, 3) := dk_180 0 29 (dk_at dksX2_isAhead_1 0 rfl rfl)
theorem dX2_isAhead_26 : decode cX2_isAhead 26 = .ok (.bipush 20, 2) := dk_16 20 (dk_at dksX2_isAhead_1 3 rfl rfl)
theorem dX2_isAhead_28 : decode cX2_isAhead 28 = .ok (.iload_n 2, 1) := dk_28 (dk_at dksX2_isAhead_1 5 rfl rfl)
theorem dX2_isAhead_29 : decode cX2_isAhead 29 = .ok (.imul, 1) := dk_104 (dk_at dksX2_isAhead_1 6 rfl rfl)
theorem dX2_isAhead_30 : decode cX2_isAhead 30 = .ok (.iload_n 3, 1) := dk_29 (dk_at dksX2_isAhead_1 7 rfl rfl)
theorem dX2_isAhead_31 : decode cX2_isAhead 31 = .ok (.iadd, 1) := dk_96 (dk_at dksX2_isAhead_1 8 rfl rfl)
theorem dX2_isAhead_32 : decode cX2_isAhead 32 = .ok (.iaload, 1) := dk_46 (dk_at dksX2_isAhead_1 9 rfl rfl)
theorem dX2_isAhead_33 : decode cX2_isAhead 33 = .ok (.iconst 1, 1) := dk_4 (dk_at dksX2_isAhead_1 10 rfl rfl)
theorem dX2_isAhead_34 : decode cX2_isAhead 34 = .ok (.if_icmp .le 7, 3) := dk_164 0 7 (dk_at dksX2_isAhead_1 11 rfl rfl)
theorem dX2_isAhead_37 : decode cX2_isAhead 37 = .ok (.iconst 1, 1) := dk_4 (dk_at dksX2_isAhead_1 14 rfl rfl)
theorem dX2_isAhead_38 : decode cX2_isAhead 38 = .ok (.goto 4, 3) := dk_167 0 4 (dk_at dksX2_isAhead_1 15 rfl rfl)
theorem dX2_isAhead_41 : decode cX2_isAhead 41 = .ok (.iconst 0, 1) := dk_3 (dk_at dksX2_isAhead_1 18 rfl rfl)
theorem dX2_isAhead_42 : decode cX2_isAhead 42 = .ok (.istore 5, 2) := dk_54 5 (dk_at dksX2_isAhead_1 19 rfl rfl)
theorem dX2_isAhead_44 : decode cX2_isAhead 44 = .ok (.iload 4, 2) := dk_21 4 (dk_at dksX2_isAhead_1 21 rfl rfl)
theorem dX2_isAhead_46 : decode cX2_isAhead 46 = .ok (.iload 5, 2) := dk_21 5 (dk_at dksX2_isAhead_2 0 rfl rfl)
theorem dX2_isAhead_48 : decode cX2_isAhead 48 = .ok (.if_icmp .eq 6, 3) := dk_159 0 6 (dk_at dksX2_isAhead_2 2 rfl rfl)
theorem dX2_isAhead_51 : decode cX2_isAhead 51 = .ok (.iload 5, 2) := dk_21 5 (dk_at dksX2_isAhead_2 5 rfl rfl)
theorem dX2_isAhead_53 : decode cX2_isAhead 53 = .ok (.ireturn, 1) := dk_172 (dk_at dksX2_isAhead_2 7 rfl rfl)
theorem dX2_isAhead_54 : decode cX2_isAhead 54 = .ok (.aload_n 0, 1) := dk_42 (dk_at dksX2_isAhead_2 8 rfl rfl)
theorem dX2_isAhead_55 : decode cX2_isAhead 55 = .ok (.getfield 16, 3) := dk_180 0 16 (dk_at dksX2_isAhead_2 9 rfl rfl)
theorem dX2_isAhead_58 : decode cX2_isAhead 58 = .ok (.iload_n 1, 1) := dk_27 (dk_at dksX2_isAhead_2 12 rfl rfl)
theorem dX2_isAhead_59 : decode cX2_isAhead 59 = .ok (.iaload, 1) := dk_46 (dk_at dksX2_isAhead_2 13 rfl rfl)
theorem dX2_isAhead_60 : decode cX2_isAhead 60 = .ok (.aload_n 0, 1) := dk_42 (dk_at dksX2_isAhead_2 14 rfl rfl)
theorem dX2_isAhead_61 : decode cX2_isAhead 61 = .ok (.getfield 16, 3) := dk_180 0 16 (dk_at dksX2_isAhead_2 15 rfl rfl)
theorem dX2_isAhead_64 : decode cX2_isAhead 64 = .ok (.iload_n 2, 1) := dk_28 (dk_at dksX2_isAhead_2 18 rfl rfl)
theorem dX2_isAhead_65 : decode cX2_isAhead 65 = .ok (.iaload, 1) := dk_46 (dk_at dksX2_isAhead_2 19 rfl rfl)
theorem dX2_isAhead_66 : decode cX2_isAhead 66 = .ok (.if_icmp .eq 24, 3) := dk_159 0 24 (dk_at dksX2_isAhead_2 20 rfl rfl)
theorem dX2_isAhead_69 : decode cX2_isAhead 69 = .ok (.aload_n 0, 1) := dk_42 (dk_at dksX2_isAhead_2 23 rfl rfl)
theorem dX2_isAhead_70 : decode cX2_isAhead 70 = .ok (.getfield 16, 3) := dk_180 0 16 (dk_at dksX2_isAhead_3 0 rfl rfl)
theorem dX2_isAhead_73 : decode cX2_isAhead 73 = .ok (.iload_n 1, 1) := dk_27 (dk_at dksX2_isAhead_3 3 rfl rfl)
theorem dX2_isAhead_74 : decode cX2_isAhead 74 = .ok (.iaload, 1) := dk_46 (dk_at dksX2_isAhead_3 4 rfl rfl)
theorem dX2_isAhead_75 : decode cX2_isAhead 75 = .ok (.aload_n 0, 1) := dk_42 (dk_at dksX2_isAhead_3 5 rfl rfl)
theorem dX2_isAhead_76 : decode cX2_isAhead 76 = .ok (.getfield 16, 3) := dk_180 0 16 (dk_at dksX2_isAhead_3 6 rfl rfl)
theorem dX2_isAhead_79 : decode cX2_isAhead 79 = .ok (.iload_n 2, 1) := dk_28 (dk_at dksX2_isAhead_3 9 rfl rfl)
theorem dX2_isAhead_80 : decode cX2_isAhead 80 = .ok (.iaload, 1) := dk_46 (dk_at dksX2_isAhead_3 10 rfl rfl)
theorem dX2_isAhead_81 : decode cX2_isAhead 81 = .ok (.if_icmp .ge 7, 3) := dk_162 0 7 (dk_at dksX2_isAhead_3 11 rfl rfl)
theorem dX2_isAhead_84 : decode cX2_isAhead 84 = .ok (.iconst 1, 1) := dk_4 (dk_at dksX2_isAhead_3 14 rfl rfl)
theorem dX2_isAhead_85 : decode cX2_isAhead 85 = .ok (.goto 4, 3) := dk_167 0 4 (dk_at dksX2_isAhead_3 15 rfl rfl)
theorem dX2_isAhead_88 : decode cX2_isAhead 88 = .ok (.iconst 0, 1) := dk_3 (dk_at dksX2_isAhead_3 18 rfl rfl)
theorem dX2_isAhead_89 : decode cX2_isAhead 89 = .ok (.ireturn, 1) := dk_172 (dk_at dksX2_isAhead_3 19 rfl rfl)
theorem dX2_isAhead_90 : decode cX2_isAhead 90 = .ok (.aload_n 0, 1) := dk_42 (dk_at dksX2_isAhead_3 20 rfl rfl)
theorem dX2_isAhead_91 : decode cX2_isAhead 91 = .ok (.getfield 19, 3) := dk_180 0 19 (dk_at dksX2_isAhead_3 21 rfl rfl)
theorem dX2_isAhead_94 : decode cX2_isAhead 94 = .ok (.iload_n 1, 1) := dk_27 (dk_at dksX2_isAhead_4 0 rfl rfl)
theorem dX2_isAhead_95 : decode cX2_isAhead 95 = .ok (.iaload, 1) := dk_46 (dk_at dksX2_isAhead_4 1 rfl rfl)
theorem dX2_isAhead_96 : decode cX2_isAhead 96 = .ok (.aload_n 0, 1) := dk_42 (dk_at dksX2_isAhead_4 2 rfl rfl)
theorem dX2_isAhead_97 : decode cX2_isAhead 97 = .ok (.getfield 19, 3) := dk_180 0 19 (dk_at dksX2_isAhead_4 3 rfl rfl)
theorem dX2_isAhead_100 : decode cX2_isAhead 100 = .ok (.iload_n 2, 1) := dk_28 (dk_at dksX2_isAhead_4 6 rfl rfl)
theorem dX2_isAhead_101 : decode cX2_isAhead 101 = .ok (.iaload, 1) := dk_46 (dk_at dksX2_isAhead_4 7 rfl rfl)
theorem dX2_isAhead_102 : decode cX2_isAhead 102 = .ok (.if_icmp .lt 23, 3) := dk_161 0 23 (dk_at dksX2_isAhead_4 8 rfl rfl)
theorem dX2_isAhead_105 : decode cX2_isAhead 105 = .ok (.aload_n 0, 1) := dk_42 (dk_at dksX2_isAhead_4 11 rfl rfl)
theorem dX2_isAhead_106 : decode cX2_isAhead 106 = .ok (.getfield 19, 3) := dk_180 0 19 (dk_at dksX2_isAhead_4 12 rfl rfl)
theorem dX2_isAhead_109 : decode cX2_isAhead 109 = .ok (.iload_n 1, 1) := dk_27 (dk_at dksX2_isAhead_4 15 rfl rfl)
theorem dX2_isAhead_110 : decode cX2_isAhead 110 = .ok (.iaload, 1) := dk_46 (dk_at dksX2_isAhead_4 16 rfl rfl)
theorem dX2_isAhead_111 : decode cX2_isAhead 111 = .ok (.aload_n 0, 1) := dk_42 (dk_at dksX2_isAhead_4 17 rfl rfl)
theorem dX2_isAhead_112 : decode cX2_isAhead 112 = .ok (.getfield 19, 3) := dk_180 0 19 (dk_at dksX2_isAhead_4 18 rfl rfl)
theorem dX2_isAhead_115 : decode cX2_isAhead 115 = .ok (.iload_n 2, 1) := dk_28 (dk_at dksX2_isAhead_4 21 rfl rfl)
theorem dX2_isAhead_116 : decode cX2_isAhead 116 = .ok (.iaload, 1) := dk_46 (dk_at dksX2_isAhead_4 22 rfl rfl)
theorem dX2_isAhead_117 : decode cX2_isAhead 117 = .ok (.if_icmp .ne 12, 3) := dk_160 0 12 (dk_at dksX2_isAhead_5 0 rfl rfl)
theorem dX2_isAhead_120 : decode cX2_isAhead 120 = .ok (.iload_n 1, 1) := dk_27 (dk_at dksX2_isAhead_5 3 rfl rfl)
theorem dX2_isAhead_121 : decode cX2_isAhead 121 = .ok (.iload_n 2, 1) := dk_28 (dk_at dksX2_isAhead_5 4 rfl rfl)
theorem dX2_isAhead_122 : decode cX2_isAhead 122 = .ok (.if_icmp .ge 7, 3) := dk_162 0 7 (dk_at dksX2_isAhead_5 5 rfl rfl)
theorem dX2_isAhead_125 : decode cX2_isAhead 125 = .ok (.iconst 1, 1) := dk_4 (dk_at dksX2_isAhead_5 8 rfl rfl)
theorem dX2_isAhead_126 : decode cX2_isAhead 126 = .ok (.goto 4, 3) := dk_167 0 4 (dk_at dksX2_isAhead_5 9 rfl rfl)
theorem dX2_isAhead_129 : decode cX2_isAhead 129 = .ok (.iconst 0, 1) := dk_3 (dk_at dksX2_isAhead_5 12 rfl rfl)
theorem dX2_isAhead_130 : decode cX2_isAhead 130 = .ok (.ireturn, 1) := dk_172 (dk_at dksX2_isAhead_5 13 rfl rfl)
abbrev cX2_gap : ByteArray := prog_7_method_35_code
def yX2_gap : MethodName := ⟨RX2, "gap", "(II)I"⟩
def dkwX2_gap_2 : List UInt8 := [154, 0, 8, 21, 4, 167, 0, 4, 29, 62, 132, 4, 255, 167, 255, 220, 29, 172]
abbrev dktX2_gap_2 : List UInt8 := dkwX2_gap_2 ++ []
def dkwX2_gap_1 : List UInt8 := [21, 4, 42, 180, 0, 7, 27, 46, 161, 0, 31, 42, 27, 21, 4, 28, 42, 180, 0, 78, 182, 0, 113]
abbrev dktX2_gap_1 : List UInt8 := dkwX2_gap_1 ++ dktX2_gap_2
def dkwX2_gap_0 : List UInt8 := [42, 27, 28, 182, 0, 120, 154, 0, 5, 3, 172, 2, 62, 42, 180, 0, 78, 17, 1, 104, 108, 54, 4]
abbrev dktX2_gap_0 : List UInt8 := dkwX2_gap_0 ++ dktX2_gap_1
theorem dksX2_gap_0 : cX2_gap.data.toList.drop 0 = dktX2_gap_0 := by decide +kernel
theorem dksX2_gap_1 : cX2_gap.data.toList.drop 23 = dktX2_gap_1 := dk_seg dksX2_gap_0 23 rfl rfl
theorem dksX2_gap_2 : cX2_gap.data.toList.drop 46 = dktX2_gap_2 := dk_seg dksX2_gap_1 23 rfl rfl
theorem dX2_gap_0 : decode cX2_gap 0 = .ok (.aload_n 0, 1) := dk_42 (dk_at dksX2_gap_0 0 rfl rfl)
theorem dX2_gap_1 : decode cX2_gap 1 = .ok (.iload_n 1, 1) := dk_27 (dk_at dksX2_gap_0 1 rfl rfl)
theorem dX2_gap_2 : decode cX2_gap 2 = .ok (.iload_n 2, 1) := dk_28 (dk_at dksX2_gap_0 2 rfl rfl)
theorem dX2_gap_3 : decode cX2_gap 3 = .ok (.invokevirtual 120, 3) := dk_182 0 120 (dk_at dksX2_gap_0 3 rfl rfl)
theorem dX2_gap_6 : decode cX2_gap 6 = .ok (.ifCond .ne 5, 3) := dk_154 0 5 (dk_at dksX2_gap_0 6 rfl rfl)
theorem dX2_gap_9 : decode cX2_gap 9 = .ok (.iconst 0, 1) := dk_3 (dk_at dksX2_gap_0 9 rfl rfl)
theorem dX2_gap_10 : decode cX2_gap 10 = .ok (.ireturn, 1) := dk_172 (dk_at dksX2_gap_0 10 rfl rfl)
theorem dX2_gap_11 : decode cX2_gap 11 = .ok (.iconst (-1), 1) := dk_2 (dk_at dksX2_gap_0 11 rfl rfl)
theorem dX2_gap_12 : decode cX2_gap 12 = .ok (.istore_n 3, 1) := dk_62 (dk_at dksX2_gap_0 12 rfl rfl)
theorem dX2_gap_13 : decode cX2_gap 13 = .ok (.aload_n 0, 1) := dk_42 (dk_at dksX2_gap_0 13 rfl rfl)
theorem dX2_gap_14 : decode cX2_gap 14 = .ok (.getfield 78, 3) := dk_180 0 78 (dk_at dksX2_gap_0 14 rfl rfl)
theorem dX2_gap_17 : decode cX2_gap 17 = .ok (.sipush 360, 3) := dk_17 1 104 (dk_at dksX2_gap_0 17 rfl rfl)
theorem dX2_gap_20 : decode cX2_gap 20 = .ok (.idiv, 1) := dk_108 (dk_at dksX2_gap_0 20 rfl rfl)
theorem dX2_gap_21 : decode cX2_gap 21 = .ok (.istore 4, 2) := dk_54 4 (dk_at dksX2_gap_0 21 rfl rfl)
theorem dX2_gap_23 : decode cX2_gap 23 = .ok (.iload 4, 2) := dk_21 4 (dk_at dksX2_gap_1 0 rfl rfl)
theorem dX2_gap_25 : decode cX2_gap 25 = .ok (.aload_n 0, 1) := dk_42 (dk_at dksX2_gap_1 2 rfl rfl)
theorem dX2_gap_26 : decode cX2_gap 26 = .ok (.getfield 7, 3) := dk_180 0 7 (dk_at dksX2_gap_1 3 rfl rfl)
theorem dX2_gap_29 : decode cX2_gap 29 = .ok (.iload_n 1, 1) := dk_27 (dk_at dksX2_gap_1 6 rfl rfl)
theorem dX2_gap_30 : decode cX2_gap 30 = .ok (.iaload, 1) := dk_46 (dk_at dksX2_gap_1 7 rfl rfl)
theorem dX2_gap_31 : decode cX2_gap 31 = .ok (.if_icmp .lt 31, 3) := dk_161 0 31 (dk_at dksX2_gap_1 8 rfl rfl)
theorem dX2_gap_34 : decode cX2_gap 34 = .ok (.aload_n 0, 1) := dk_42 (dk_at dksX2_gap_1 11 rfl rfl)
theorem dX2_gap_35 : decode cX2_gap 35 = .ok (.iload_n 1, 1) := dk_27 (dk_at dksX2_gap_1 12 rfl rfl)
theorem dX2_gap_36 : decode cX2_gap 36 = .ok (.iload 4, 2) := dk_21 4 (dk_at dksX2_gap_1 13 rfl rfl)
theorem dX2_gap_38 : decode cX2_gap 38 = .ok (.iload_n 2, 1) := dk_28 (dk_at dksX2_gap_1 15 rfl rfl)
theorem dX2_gap_39 : decode cX2_gap 39 = .ok (.aload_n 0, 1) := dk_42 (dk_at dksX2_gap_1 16 rfl rfl)
theorem dX2_gap_40 : decode cX2_gap 40 = .ok (.getfield 78, 3) := dk_180 0 78 (dk_at dksX2_gap_1 17 rfl rfl)
theorem dX2_gap_43 : decode cX2_gap 43 = .ok (.invokevirtual 113, 3) := dk_182 0 113 (dk_at dksX2_gap_1 20 rfl rfl)
theorem dX2_gap_46 : decode cX2_gap 46 = .ok (.ifCond .ne 8, 3) := dk_154 0 8 (dk_at dksX2_gap_2 0 rfl rfl)
theorem dX2_gap_49 : decode cX2_gap 49 = .ok (.iload 4, 2) := dk_21 4 (dk_at dksX2_gap_2 3 rfl rfl)
theorem dX2_gap_51 : decode cX2_gap 51 = .ok (.goto 4, 3) := dk_167 0 4 (dk_at dksX2_gap_2 5 rfl rfl)
theorem dX2_gap_54 : decode cX2_gap 54 = .ok (.iload_n 3, 1) := dk_29 (dk_at dksX2_gap_2 8 rfl rfl)
theorem dX2_gap_55 : decode cX2_gap 55 = .ok (.istore_n 3, 1) := dk_62 (dk_at dksX2_gap_2 9 rfl rfl)
theorem dX2_gap_56 : decode cX2_gap 56 = .ok (.iinc 4 (-1), 3) := dk_132 4 255 (dk_at dksX2_gap_2 10 rfl rfl)
theorem dX2_gap_59 : decode cX2_gap 59 = .ok (.goto (-36), 3) := dk_167 255 220 (dk_at dksX2_gap_2 13 rfl rfl)
theorem dX2_gap_62 : decode cX2_gap 62 = .ok (.iload_n 3, 1) := dk_29 (dk_at dksX2_gap_2 16 rfl rfl)
theorem dX2_gap_63 : decode cX2_gap 63 = .ok (.ireturn, 1) := dk_172 (dk_at dksX2_gap_2 17 rfl rfl)
abbrev cX2_isOfTitle : ByteArray := prog_7_method_34_code
def yX2_isOfTitle : MethodName := ⟨RX2, "isOfTitle", "(II)Z"⟩
def dkwX2_isOfTitle_1 : List UInt8 := [167, 0, 4, 5, 182, 0, 64, 172]
abbrev dktX2_isOfTitle_1 : List UInt8 := dkwX2_isOfTitle_1 ++ []
def dkwX2_isOfTitle_0 : List UInt8 := [42, 42, 27, 182, 0, 68, 154, 0, 7, 4, 167, 0, 17, 28, 3, 6, 184, 0, 60, 153, 0, 7, 3]
abbrev dktX2_isOfTitle_0 : List UInt8 := dkwX2_isOfTitle_0 ++ dktX2_isOfTitle_1
theorem dksX2_isOfTitle_0 : cX2_isOfTitle.data.toList.drop 0 = dktX2_isOfTitle_0 := by decide +kernel
theorem dksX2_isOfTitle_1 : cX2_isOfTitle.data.toList.drop 23 = dktX2_isOfTitle_1 := dk_seg dksX2_isOfTitle_0 23 rfl rfl
theorem dX2_isOfTitle_0 : decode cX2_isOfTitle 0 = .ok (.aload_n 0, 1) := dk_42 (dk_at dksX2_isOfTitle_0 0 rfl rfl)
theorem dX2_isOfTitle_1 : decode cX2_isOfTitle 1 = .ok (.aload_n 0, 1) := dk_42 (dk_at dksX2_isOfTitle_0 1 rfl rfl)
theorem dX2_isOfTitle_2 : decode cX2_isOfTitle 2 = .ok (.iload_n 1, 1) := dk_27 (dk_at dksX2_isOfTitle_0 2 rfl rfl)
theorem dX2_isOfTitle_3 : decode cX2_isOfTitle 3 = .ok (.invokevirtual 68, 3) := dk_182 0 68 (dk_at dksX2_isOfTitle_0 3 rfl rfl)
theorem dX2_isOfTitle_6 : decode cX2_isOfTitle 6 = .ok (.ifCond .ne 7, 3) := dk_154 0 7 (dk_at dksX2_isOfTitle_0 6 rfl rfl)
theorem dX2_isOfTitle_9 : decode cX2_isOfTitle 9 = .ok (.iconst 1, 1) := dk_4 (dk_at dksX2_isOfTitle_0 9 rfl rfl)
theorem dX2_isOfTitle_10 : decode cX2_isOfTitle 10 = .ok (.goto 17, 3) := dk_167 0 17 (dk_at dksX2_isOfTitle_0 10 rfl rfl)
theorem dX2_isOfTitle_13 : decode cX2_isOfTitle 13 = .ok (.iload_n 2, 1) := dk_28 (dk_at dksX2_isOfTitle_0 13 rfl rfl)
theorem dX2_isOfTitle_14 : decode cX2_isOfTitle 14 = .ok (.iconst 0, 1) := dk_3 (dk_at dksX2_isOfTitle_0 14 rfl rfl)
theorem dX2_isOfTitle_15 : decode cX2_isOfTitle 15 = .ok (.iconst 3, 1) := dk_6 (dk_at dksX2_isOfTitle_0 15 rfl rfl)
theorem dX2_isOfTitle_16 : decode cX2_isOfTitle 16 = .ok (.invokestatic 60, 3) := dk_184 0 60 (dk_at dksX2_isOfTitle_0 16 rfl rfl)
theorem dX2_isOfTitle_19 : decode cX2_isOfTitle 19 = .ok (.ifCond .eq 7, 3) := dk_153 0 7 (dk_at dksX2_isOfTitle_0 19 rfl rfl)
theorem dX2_isOfTitle_22 : decode cX2_isOfTitle 22 = .ok (.iconst 0, 1) := dk_3 (dk_at dksX2_isOfTitle_0 22 rfl rfl)
theorem dX2_isOfTitle_23 : decode cX2_isOfTitle 23 = .ok (.goto 4, 3) := dk_167 0 4 (dk_at dksX2_isOfTitle_1 0 rfl rfl)
theorem dX2_isOfTitle_26 : decode cX2_isOfTitle 26 = .ok (.iconst 2, 1) := dk_5 (dk_at dksX2_isOfTitle_1 3 rfl rfl)
theorem dX2_isOfTitle_27 : decode cX2_isOfTitle 27 = .ok (.invokevirtual 64, 3) := dk_182 0 64 (dk_at dksX2_isOfTitle_1 4 rfl rfl)
theorem dX2_isOfTitle_30 : decode cX2_isOfTitle 30 = .ok (.ireturn, 1) := dk_172 (dk_at dksX2_isOfTitle_1 7 rfl rfl)
abbrev cX2_doubles : ByteArray := prog_7_method_36_code
def yX2_doubles : MethodName := ⟨RX2, "doubles", "(II)I"⟩
def dkwX2_doubles_2 : List UInt8 := [164, 0, 7, 4, 167, 0, 4, 3, 96, 62, 132, 4, 1, 167, 255, 216, 29, 172]
abbrev dktX2_doubles_2 : List UInt8 := dkwX2_doubles_2 ++ []
def dkwX2_doubles_1 : List UInt8 := [180, 0, 78, 17, 1, 104, 108, 163, 0, 33, 29, 42, 27, 21, 4, 28, 42, 180, 0, 78, 182, 0, 113, 4]
abbrev dktX2_doubles_1 : List UInt8 := dkwX2_doubles_1 ++ dktX2_doubles_2
def dkwX2_doubles_0 : List UInt8 := [42, 27, 28, 182, 0, 120, 154, 0, 5, 3, 172, 3, 62, 42, 180, 0, 7, 27, 46, 54, 4, 21, 4, 42]
abbrev dktX2_doubles_0 : List UInt8 := dkwX2_doubles_0 ++ dktX2_doubles_1
theorem dksX2_doubles_0 : cX2_doubles.data.toList.drop 0 = dktX2_doubles_0 := by decide +kernel
theorem dksX2_doubles_1 : cX2_doubles.data.toList.drop 24 = dktX2_doubles_1 := dk_seg dksX2_doubles_0 24 rfl rfl
theorem dksX2_doubles_2 : cX2_doubles.data.toList.drop 48 = dktX2_doubles_2 := dk_seg dksX2_doubles_1 24 rfl rfl
theorem dX2_doubles_0 : decode cX2_doubles 0 = .ok (.aload_n 0, 1) := dk_42 (dk_at dksX2_doubles_0 0 rfl rfl)
theorem dX2_doubles_1 : decode cX2_doubles 1 = .ok (.iload_n 1, 1) := dk_27 (dk_at dksX2_doubles_0 1 rfl rfl)
theorem dX2_doubles_2 : decode cX2_doubles 2 = .ok (.iload_n 2, 1) := dk_28 (dk_at dksX2_doubles_0 2 rfl rfl)
theorem dX2_doubles_3 : decode cX2_doubles 3 = .ok (.invokevirtual 120, 3) := dk_182 0 120 (dk_at dksX2_doubles_0 3 rfl rfl)
theorem dX2_doubles_6 : decode cX2_doubles 6 = .ok (.ifCond .ne 5, 3) := dk_154 0 5 (dk_at dksX2_doubles_0 6 rfl rfl)
theorem dX2_doubles_9 : decode cX2_doubles 9 = .ok (.iconst 0, 1) := dk_3 (dk_at dksX2_doubles_0 9 rfl rfl)
theorem dX2_doubles_10 : decode cX2_doubles 10 = .ok (.ireturn, 1) := dk_172 (dk_at dksX2_doubles_0 10 rfl rfl)
theorem dX2_doubles_11 : decode cX2_doubles 11 = .ok (.iconst 0, 1) := dk_3 (dk_at dksX2_doubles_0 11 rfl rfl)
theorem dX2_doubles_12 : decode cX2_doubles 12 = .ok (.istore_n 3, 1) := dk_62 (dk_at dksX2_doubles_0 12 rfl rfl)
theorem dX2_doubles_13 : decode cX2_doubles 13 = .ok (.aload_n 0, 1) := dk_42 (dk_at dksX2_doubles_0 13 rfl rfl)
theorem dX2_doubles_14 : decode cX2_doubles 14 = .ok (.getfield 7, 3) := dk_180 0 7 (dk_at dksX2_doubles_0 14 rfl rfl)
theorem dX2_doubles_17 : decode cX2_doubles 17 = .ok (.iload_n 1, 1) := dk_27 (dk_at dksX2_doubles_0 17 rfl rfl)
theorem dX2_doubles_18 : decode cX2_doubles 18 = .ok (.iaload, 1) := dk_46 (dk_at dksX2_doubles_0 18 rfl rfl)
theorem dX2_doubles_19 : decode cX2_doubles 19 = .ok (.istore 4, 2) := dk_54 4 (dk_at dksX2_doubles_0 19 rfl rfl)
theorem dX2_doubles_21 : decode cX2_doubles 21 = .ok (.iload 4, 2) := dk_21 4 (dk_at dksX2_doubles_0 21 rfl rfl)
theorem dX2_doubles_23 : decode cX2_doubles 23 = .ok (.aload_n 0, 1) := dk_42 (dk_at dksX2_doubles_0 23 rfl rfl)
theorem dX2_doubles_24 : decode cX2_doubles 24 = .ok (.getfield 78, 3) := dk_180 0 78 (dk_at dksX2_doubles_1 0 rfl rfl)
theorem dX2_doubles_27 : decode cX2_doubles 27 = .ok (.sipush 360, 3) := dk_17 1 104 (dk_at dksX2_doubles_1 3 rfl rfl)
theorem dX2_doubles_30 : decode cX2_doubles 30 = .ok (.idiv, 1) := dk_108 (dk_at dksX2_doubles_1 6 rfl rfl)
theorem dX2_doubles_31 : decode cX2_doubles 31 = .ok (.if_icmp .gt 33, 3) := dk_163 0 33 (dk_at dksX2_doubles_1 7 rfl rfl)
theorem dX2_doubles_34 : decode cX2_doubles 34 = .ok (.iload_n 3, 1) := dk_29 (dk_at dksX2_doubles_1 10 rfl rfl)
theorem dX2_doubles_35 : decode cX2_doubles 35 = .ok (.aload_n 0, 1) := dk_42 (dk_at dksX2_doubles_1 11 rfl rfl)
theorem dX2_doubles_36 : decode cX2_doubles 36 = .ok (.iload_n 1, 1) := dk_27 (dk_at dksX2_doubles_1 12 rfl rfl)
theorem dX2_doubles_37 : decode cX2_doubles 37 = .ok (.iload 4, 2) := dk_21 4 (dk_at dksX2_doubles_1 13 rfl rfl)
theorem dX2_doubles_39 : decode cX2_doubles 39 = .ok (.iload_n 2, 1) := dk_28 (dk_at dksX2_doubles_1 15 rfl rfl)
theorem dX2_doubles_40 : decode cX2_doubles 40 = .ok (.aload_n 0, 1) := dk_42 (dk_at dksX2_doubles_1 16 rfl rfl)
theorem dX2_doubles_41 : decode cX2_doubles 41 = .ok (.getfield 78, 3) := dk_180 0 78 (dk_at dksX2_doubles_1 17 rfl rfl)
theorem dX2_doubles_44 : decode cX2_doubles 44 = .ok (.invokevirtual 113, 3) := dk_182 0 113 (dk_at dksX2_doubles_1 20 rfl rfl)
theorem dX2_doubles_47 : decode cX2_doubles 47 = .ok (.iconst 1, 1) := dk_4 (dk_at dksX2_doubles_1 23 rfl rfl)
theorem dX2_doubles_48 : decode cX2_doubles 48 = .ok (.if_icmp .le 7, 3) := dk_164 0 7 (dk_at dksX2_doubles_2 0 rfl rfl)
theorem dX2_doubles_51 : decode cX2_doubles 51 = .ok (.iconst 1, 1) := dk_4 (dk_at dksX2_doubles_2 3 rfl rfl)
theorem dX2_doubles_52 : decode cX2_doubles 52 = .ok (.goto 4, 3) := dk_167 0 4 (dk_at dksX2_doubles_2 4 rfl rfl)
theorem dX2_doubles_55 : decode cX2_doubles 55 = .ok (.iconst 0, 1) := dk_3 (dk_at dksX2_doubles_2 7 rfl rfl)
theorem dX2_doubles_56 : decode cX2_doubles 56 = .ok (.iadd, 1) := dk_96 (dk_at dksX2_doubles_2 8 rfl rfl)
theorem dX2_doubles_57 : decode cX2_doubles 57 = .ok (.istore_n 3, 1) := dk_62 (dk_at dksX2_doubles_2 9 rfl rfl)
theorem dX2_doubles_58 : decode cX2_doubles 58 = .ok (.iinc 4 1, 3) := dk_132 4 1 (dk_at dksX2_doubles_2 10 rfl rfl)
theorem dX2_doubles_61 : decode cX2_doubles 61 = .ok (.goto (-40), 3) := dk_167 255 216 (dk_at dksX2_doubles_2 13 rfl rfl)
theorem dX2_doubles_64 : decode cX2_doubles 64 = .ok (.iload_n 3, 1) := dk_29 (dk_at dksX2_doubles_2 16 rfl rfl)
theorem dX2_doubles_65 : decode cX2_doubles 65 = .ok (.ireturn, 1) := dk_172 (dk_at dksX2_doubles_2 17 rfl rfl)
abbrev cX2_isNeedless : ByteArray := prog_7_method_38_code
def yX2_isNeedless : MethodName := ⟨RX2, "isNeedless", "(I)Z"⟩
def dkwX2_isNeedless_6 : List UInt8 := [132, 3, 1, 167, 255, 138, 28, 172]
abbrev dktX2_isNeedless_6 : List UInt8 := dkwX2_isNeedless_6 ++ []
def dkwX2_isNeedless_5 : List UInt8 := [21, 4, 182, 0, 123, 2, 130, 126, 154, 0, 7, 4, 167, 0, 4, 3, 61, 132, 4, 1, 167, 255, 164]
abbrev dktX2_isNeedless_5 : List UInt8 := dkwX2_isNeedless_5 ++ dktX2_isNeedless_6
def dkwX2_isNeedless_4 : List UInt8 := [154, 0, 7, 4, 167, 0, 4, 3, 54, 5, 21, 5, 153, 0, 23, 42, 180, 0, 22, 27, 46, 42, 27, 29]
abbrev dktX2_isNeedless_4 : List UInt8 := dkwX2_isNeedless_4 ++ dktX2_isNeedless_5
def dkwX2_isNeedless_3 : List UInt8 := [42, 180, 0, 78, 182, 0, 96, 153, 0, 22, 42, 27, 29, 21, 4, 42, 180, 0, 78, 182, 0, 100]
abbrev dktX2_isNeedless_3 : List UInt8 := dkwX2_isNeedless_3 ++ dktX2_isNeedless_4
def dkwX2_isNeedless_2 : List UInt8 := [42, 180, 0, 78, 17, 1, 104, 108, 163, 0, 85, 28, 153, 0, 81, 42, 27, 29, 21, 4, 42, 180, 0, 78]
abbrev dktX2_isNeedless_2 : List UInt8 := dkwX2_isNeedless_2 ++ dktX2_isNeedless_3
def dkwX2_isNeedless_1 : List UInt8 := [3, 62, 29, 42, 180, 0, 54, 162, 0, 116, 28, 153, 0, 112, 42, 180, 0, 7, 29, 46, 54, 4, 21, 4]
abbrev dktX2_isNeedless_1 : List UInt8 := dkwX2_isNeedless_1 ++ dktX2_isNeedless_2
def dkwX2_isNeedless_0 : List UInt8 := [42, 42, 27, 182, 0, 81, 153, 0, 7, 3, 167, 0, 4, 4, 182, 0, 64, 154, 0, 5, 3, 172, 4, 61]
abbrev dktX2_isNeedless_0 : List UInt8 := dkwX2_isNeedless_0 ++ dktX2_isNeedless_1
theorem dksX2_isNeedless_0 : cX2_isNeedless.data.toList.drop 0 = dktX2_isNeedless_0 := by decide +kernel
theorem dksX2_isNeedless_1 : cX2_isNeedless.data.toList.drop 24 = dktX2_isNeedless_1 := dk_seg dksX2_isNeedless_0 24 rfl rfl
theorem dksX2_isNeedless_2 : cX2_isNeedless.data.toList.drop 48 = dktX2_isNeedless_2 := dk_seg dksX2_isNeedless_1 24 rfl rfl
theorem dksX2_isNeedless_3 : cX2_isNeedless.data.toList.drop 72 = dktX2_isNeedless_3 := dk_seg dksX2_isNeedless_2 24 rfl rfl
theorem dksX2_isNeedless_4 : cX2_isNeedless.data.toList.drop 94 = dktX2_isNeedless_4 := dk_seg dksX2_isNeedless_3 22 rfl rfl
theorem dksX2_isNeedless_5 : cX2_isNeedless.data.toList.drop 118 = dktX2_isNeedless_5 := dk_seg dksX2_isNeedless_4 24 rfl rfl
theorem dksX2_isNeedless_6 : cX2_isNeedless.data.toList.drop 141 = dktX2_isNeedless_6 := dk_seg dksX2_isNeedless_5 23 rfl rfl
theorem dX2_isNeedless_0 : decode cX2_isNeedless 0 = .ok (.aload_n 0, 1) := dk_42 (dk_at dksX2_isNeedless_0 0 rfl rfl)
theorem dX2_isNeedless_1 : decode cX2_isNeedless 1 = .ok (.aload_n 0, 1) := dk_42 (dk_at dksX2_isNeedless_0 1 rfl rfl)
theorem dX2_isNeedless_2 : decode cX2_isNeedless 2 = .ok (.iload_n 1, 1) := dk_27 (dk_at dksX2_isNeedless_0 2 rfl rfl)
theorem dX2_isNeedless_3 : decode cX2_isNeedless 3 = .ok (.invokevirtual 81, 3) := dk_182 0 81 (dk_at dksX2_isNeedless_0 3 rfl rfl)
theorem dX2_isNeedless_6 : decode cX2_isNeedless 6 = .ok (.ifCond .eq 7, 3) := dk_153 0 7 (dk_at dksX2_isNeedless_0 6 rfl rfl)
theorem dX2_isNeedless_9 : decode cX2_isNeedless 9 = .ok (.iconst 0, 1) := dk_3 (dk_at dksX2_isNeedless_0 9 rfl rfl)
theorem dX2_isNeedless_10 : decode cX2_isNeedless 10 = .ok (.goto 4, 3) := dk_167 0 4 (dk_at dksX2_isNeedless_0 10 rfl rfl)
theorem dX2_isNeedless_13 : decode cX2_isNeedless 13 = .ok (.iconst 1, 1) := dk_4 (dk_at dksX2_isNeedless_0 13 rfl rfl)
theorem dX2_isNeedless_14 : decode cX2_isNeedless 14 = .ok (.invokevirtual 64, 3) := dk_182 0 64 (dk_at dksX2_isNeedless_0 14 rfl rfl)
theorem dX2_isNeedless_17 : decode cX2_isNeedless 17 = .ok (.ifCond .ne 5, 3) := dk_154 0 5 (dk_at dksX2_isNeedless_0 17 rfl rfl)
theorem dX2_isNeedless_20 : decode cX2_isNeedless 20 = .ok (.iconst 0, 1) := dk_3 (dk_at dksX2_isNeedless_0 20 rfl rfl)
theorem dX2_isNeedless_21 : decode cX2_isNeedless 21 = .ok (.ireturn, 1) := dk_172 (dk_at dksX2_isNeedless_0 21 rfl rfl)
theorem dX2_isNeedless_22 : decode cX2_isNeedless 22 = .ok (.iconst 1, 1) := dk_4 (dk_at dksX2_isNeedless_0 22 rfl rfl)
theorem dX2_isNeedless_23 : decode cX2_isNeedless 23 = .ok (.istore_n 2, 1) := dk_61 (dk_at dksX2_isNeedless_0 23 rfl rfl)
theorem dX2_isNeedless_24 : decode cX2_isNeedless 24 = .ok (.iconst 0, 1) := dk_3 (dk_at dksX2_isNeedless_1 0 rfl rfl)
theorem dX2_isNeedless_25 : decode cX2_isNeedless 25 = .ok (.istore_n 3, 1) := dk_62 (dk_at dksX2_isNeedless_1 1 rfl rfl)
theorem dX2_isNeedless_26 : decode cX2_isNeedless 26 = .ok (.iload_n 3, 1) := dk_29 (dk_at dksX2_isNeedless_1 2 rfl rfl)
theorem dX2_isNeedless_27 : decode cX2_isNeedless 27 = .ok (.aload_n 0, 1) := dk_42 (dk_at dksX2_isNeedless_1 3 rfl rfl)
theorem dX2_isNeedless_28 : decode cX2_isNeedless 28 = .ok (.getfield 54, 3) := dk_180 0 54 (dk_at dksX2_isNeedless_1 4 rfl rfl)
theorem dX2_isNeedless_31 : decode cX2_isNeedless 31 = .ok (.if_icmp .ge 116, 3) := dk_162 0 116 (dk_at dksX2_isNeedless_1 7 rfl rfl)
theorem dX2_isNeedless_34 : decode cX2_isNeedless 34 = .ok (.iload_n 2, 1) := dk_28 (dk_at dksX2_isNeedless_1 10 rfl rfl)
theorem dX2_isNeedless_35 : decode cX2_isNeedless 35 = .ok (.ifCond .eq 112, 3) := dk_153 0 112 (dk_at dksX2_isNeedless_1 11 rfl rfl)
theorem dX2_isNeedless_38 : decode cX2_isNeedless 38 = .ok (.aload_n 0, 1) := dk_42 (dk_at dksX2_isNeedless_1 14 rfl rfl)
theorem dX2_isNeedless_39 : decode cX2_isNeedless 39 = .ok (.getfield 7, 3) := dk_180 0 7 (dk_at dksX2_isNeedless_1 15 rfl rfl)
theorem dX2_isNeedless_42 : decode cX2_isNeedless 42 = .ok (.iload_n 3, 1) := dk_29 (dk_at dksX2_isNeedless_1 18 rfl rfl)
theorem dX2_isNeedless_43 : decode cX2_isNeedless 43 = .ok (.iaload, 1) := dk_46 (dk_at dksX2_isNeedless_1 19 rfl rfl)
theorem dX2_isNeedless_44 : decode cX2_isNeedless 44 = .ok (.istore 4, 2) := dk_54 4 (dk_at dksX2_isNeedless_1 20 rfl rfl)
theorem dX2_isNeedless_46 : decode cX2_isNeedless 46 = .ok (.iload 4, 2) := dk_21 4 (dk_at dksX2_isNeedless_1 22 rfl rfl)
theorem dX2_isNeedless_48 : decode cX2_isNeedless 48 = .ok (.aload_n 0, 1) := dk_42 (dk_at dksX2_isNeedless_2 0 rfl rfl)
theorem dX2_isNeedless_49 : decode cX2_isNeedless 49 = .ok (.getfield 78, 3) := dk_180 0 78 (dk_at dksX2_isNeedless_2 1 rfl rfl)
theorem dX2_isNeedless_52 : decode cX2_isNeedless 52 = .ok (.sipush 360, 3) := dk_17 1 104 (dk_at dksX2_isNeedless_2 4 rfl rfl)
theorem dX2_isNeedless_55 : decode cX2_isNeedless 55 = .ok (.idiv, 1) := dk_108 (dk_at dksX2_isNeedless_2 7 rfl rfl)
theorem dX2_isNeedless_56 : decode cX2_isNeedless 56 = .ok (.if_icmp .gt 85, 3) := dk_163 0 85 (dk_at dksX2_isNeedless_2 8 rfl rfl)
theorem dX2_isNeedless_59 : decode cX2_isNeedless 59 = .ok (.iload_n 2, 1) := dk_28 (dk_at dksX2_isNeedless_2 11 rfl rfl)
theorem dX2_isNeedless_60 : decode cX2_isNeedless 60 = .ok (.ifCond .eq 81, 3) := dk_153 0 81 (dk_at dksX2_isNeedless_2 12 rfl rfl)
theorem dX2_isNeedless_63 : decode cX2_isNeedless 63 = .ok (.aload_n 0, 1) := dk_42 (dk_at dksX2_isNeedless_2 15 rfl rfl)
theorem dX2_isNeedless_64 : decode cX2_isNeedless 64 = .ok (.iload_n 1, 1) := dk_27 (dk_at dksX2_isNeedless_2 16 rfl rfl)
theorem dX2_isNeedless_65 : decode cX2_isNeedless 65 = .ok (.iload_n 3, 1) := dk_29 (dk_at dksX2_isNeedless_2 17 rfl rfl)
theorem dX2_isNeedless_66 : decode cX2_isNeedless 66 = .ok (.iload 4, 2) := dk_21 4 (dk_at dksX2_isNeedless_2 18 rfl rfl)
theorem dX2_isNeedless_68 : decode cX2_isNeedless 68 = .ok (.aload_n 0, 1) := dk_42 (dk_at dksX2_isNeedless_2 20 rfl rfl)
theorem dX2_isNeedless_69 : decode cX2_isNeedless 69 = .ok (.getfield 78, 3) := dk_180 0 78 (dk_at dksX2_isNeedless_2 21 rfl rfl)
theorem dX2_isNeedless_72 : decode cX2_isNeedless 72 = .ok (.aload_n 0, 1) := dk_42 (dk_at dksX2_isNeedless_3 0 rfl rfl)
theorem dX2_isNeedless_73 : decode cX2_isNeedless 73 = .ok (.getfield 78, 3) := dk_180 0 78 (dk_at dksX2_isNeedless_3 1 rfl rfl)
theorem dX2_isNeedless_76 : decode cX2_isNeedless 76 = .ok (.invokevirtual 96, 3) := dk_182 0 96 (dk_at dksX2_isNeedless_3 4 rfl rfl)
theorem dX2_isNeedless_79 : decode cX2_isNeedless 79 = .ok (.ifCond .eq 22, 3) := dk_153 0 22 (dk_at dksX2_isNeedless_3 7 rfl rfl)
theorem dX2_isNeedless_82 : decode cX2_isNeedless 82 = .ok (.aload_n 0, 1) := dk_42 (dk_at dksX2_isNeedless_3 10 rfl rfl)
theorem dX2_isNeedless_83 : decode cX2_isNeedless 83 = .ok (.iload_n 1, 1) := dk_27 (dk_at dksX2_isNeedless_3 11 rfl rfl)
theorem dX2_isNeedless_84 : decode cX2_isNeedless 84 = .ok (.iload_n 3, 1) := dk_29 (dk_at dksX2_isNeedless_3 12 rfl rfl)
theorem dX2_isNeedless_85 : decode cX2_isNeedless 85 = .ok (.iload 4, 2) := dk_21 4 (dk_at dksX2_isNeedless_3 13 rfl rfl)
theorem dX2_isNeedless_87 : decode cX2_isNeedless 87 = .ok (.aload_n 0, 1) := dk_42 (dk_at dksX2_isNeedless_3 15 rfl rfl)
theorem dX2_isNeedless_88 : decode cX2_isNeedless 88 = .ok (.getfield 78, 3) := dk_180 0 78 (dk_at dksX2_isNeedless_3 16 rfl rfl)
theorem dX2_isNeedless_91 : decode cX2_isNeedless 91 = .ok (.invokevirtual 100, 3) := dk_182 0 100 (dk_at dksX2_isNeedless_3 19 rfl rfl)
theorem dX2_isNeedless_94 : decode cX2_isNeedless 94 = .ok (.ifCond .ne 7, 3) := dk_154 0 7 (dk_at dksX2_isNeedless_4 0 rfl rfl)
theorem dX2_isNeedless_97 : decode cX2_isNeedless 97 = .ok (.iconst 1, 1) := dk_4 (dk_at dksX2_isNeedless_4 3 rfl rfl)
theorem dX2_isNeedless_98 : decode cX2_isNeedless 98 = .ok (.goto 4, 3) := dk_167 0 4 (dk_at dksX2_isNeedless_4 4 rfl rfl)
theorem dX2_isNeedless_101 : decode cX2_isNeedless 101 = .ok (.iconst 0, 1) := dk_3 (dk_at dksX2_isNeedless_4 7 rfl rfl)
theorem dX2_isNeedless_102 : decode cX2_isNeedless 102 = .ok (.istore 5, 2) := dk_54 5 (dk_at dksX2_isNeedless_4 8 rfl rfl)
theorem dX2_isNeedless_104 : decode cX2_isNeedless 104 = .ok (.iload 5, 2) := dk_21 5 (dk_at dksX2_isNeedless_4 10 rfl rfl)
theorem dX2_isNeedless_106 : decode cX2_isNeedless 106 = .ok (.ifCond .eq 23, 3) := dk_153 0 23 (dk_at dksX2_isNeedless_4 12 rfl rfl)
theorem dX2_isNeedless_109 : decode cX2_isNeedless 109 = .ok (.aload_n 0, 1) := dk_42 (dk_at dksX2_isNeedless_4 15 rfl rfl)
theorem dX2_isNeedless_110 : decode cX2_isNeedless 110 = .ok (.getfield 22, 3) := dk_180 0 22 (dk_at dksX2_isNeedless_4 16 rfl rfl)
theorem dX2_isNeedless_113 : decode cX2_isNeedless 113 = .ok (.iload_n 1, 1) := dk_27 (dk_at dksX2_isNeedless_4 19 rfl rfl)
theorem dX2_isNeedless_114 : decode cX2_isNeedless 114 = .ok (.iaload, 1) := dk_46 (dk_at dksX2_isNeedless_4 20 rfl rfl)
theorem dX2_isNeedless_115 : decode cX2_isNeedless 115 = .ok (.aload_n 0, 1) := dk_42 (dk_at dksX2_isNeedless_4 21 rfl rfl)
theorem dX2_isNeedless_116 : decode cX2_isNeedless 116 = .ok (.iload_n 1, 1) := dk_27 (dk_at dksX2_isNeedless_4 22 rfl rfl)
theorem dX2_isNeedless_117 : decode cX2_isNeedless 117 = .ok (.iload_n 3, 1) := dk_29 (dk_at dksX2_isNeedless_4 23 rfl rfl)
theorem dX2_isNeedless_118 : decode cX2_isNeedless 118 = .ok (.iload 4, 2) := dk_21 4 (dk_at dksX2_isNeedless_5 0 rfl rfl)
theorem dX2_isNeedless_120 : decode cX2_isNeedless 120 = .ok (.invokevirtual 123, 3) := dk_182 0 123 (dk_at dksX2_isNeedless_5 2 rfl rfl)
theorem dX2_isNeedless_123 : decode cX2_isNeedless 123 = .ok (.iconst (-1), 1) := dk_2 (dk_at dksX2_isNeedless_5 5 rfl rfl)
theorem dX2_isNeedless_124 : decode cX2_isNeedless 124 = .ok (.ixor, 1) := dk_130 (dk_at dksX2_isNeedless_5 6 rfl rfl)
theorem dX2_isNeedless_125 : decode cX2_isNeedless 125 = .ok (.iand, 1) := dk_126 (dk_at dksX2_isNeedless_5 7 rfl rfl)
theorem dX2_isNeedless_126 : decode cX2_isNeedless 126 = .ok (.ifCond .ne 7, 3) := dk_154 0 7 (dk_at dksX2_isNeedless_5 8 rfl rfl)
theorem dX2_isNeedless_129 : decode cX2_isNeedless 129 = .ok (.iconst 1, 1) := dk_4 (dk_at dksX2_isNeedless_5 11 rfl rfl)
theorem dX2_isNeedless_130 : decode cX2_isNeedless 130 = .ok (.goto 4, 3) := dk_167 0 4 (dk_at dksX2_isNeedless_5 12 rfl rfl)
theorem dX2_isNeedless_133 : decode cX2_isNeedless 133 = .ok (.iconst 0, 1) := dk_3 (dk_at dksX2_isNeedless_5 15 rfl rfl)
theorem dX2_isNeedless_134 : decode cX2_isNeedless 134 = .ok (.istore_n 2, 1) := dk_61 (dk_at dksX2_isNeedless_5 16 rfl rfl)
theorem dX2_isNeedless_135 : decode cX2_isNeedless 135 = .ok (.iinc 4 1, 3) := dk_132 4 1 (dk_at dksX2_isNeedless_5 17 rfl rfl)
theorem dX2_isNeedless_138 : decode cX2_isNeedless 138 = .ok (.goto (-92), 3) := dk_167 255 164 (dk_at dksX2_isNeedless_5 20 rfl rfl)
theorem dX2_isNeedless_141 : decode cX2_isNeedless 141 = .ok (.iinc 3 1, 3) := dk_132 3 1 (dk_at dksX2_isNeedless_6 0 rfl rfl)
theorem dX2_isNeedless_144 : decode cX2_isNeedless 144 = .ok (.goto (-118), 3) := dk_167 255 138 (dk_at dksX2_isNeedless_6 3 rfl rfl)
theorem dX2_isNeedless_147 : decode cX2_isNeedless 147 = .ok (.iload_n 2, 1) := dk_28 (dk_at dksX2_isNeedless_6 6 rfl rfl)
theorem dX2_isNeedless_148 : decode cX2_isNeedless 148 = .ok (.ireturn, 1) := dk_172 (dk_at dksX2_isNeedless_6 7 rfl rfl)
abbrev cX2_othersFor : ByteArray := prog_7_method_37_code
def yX2_othersFor : MethodName := ⟨RX2, "othersFor", "(III)I"⟩
def dkwX2_othersFor_2 : List UInt8 := [3, 128, 54, 4, 132, 5, 1, 167, 255, 207, 21, 4, 172]
abbrev dktX2_othersFor_2 : List UInt8 := dkwX2_othersFor_2 ++ []
def dkwX2_othersFor_1 : List UInt8 := [21, 5, 28, 29, 42, 180, 0, 78, 182, 0, 110, 153, 0, 13, 42, 180, 0, 22, 21, 5, 46, 167, 0, 4]
abbrev dktX2_othersFor_1 : List UInt8 := dkwX2_othersFor_1 ++ dktX2_othersFor_2
def dkwX2_othersFor_0 : List UInt8 := [3, 54, 4, 3, 54, 5, 21, 5, 42, 180, 0, 57, 162, 0, 46, 21, 4, 21, 5, 27, 159, 0, 28, 42]
abbrev dktX2_othersFor_0 : List UInt8 := dkwX2_othersFor_0 ++ dktX2_othersFor_1
theorem dksX2_othersFor_0 : cX2_othersFor.data.toList.drop 0 = dktX2_othersFor_0 := by decide +kernel
theorem dksX2_othersFor_1 : cX2_othersFor.data.toList.drop 24 = dktX2_othersFor_1 := dk_seg dksX2_othersFor_0 24 rfl rfl
theorem dksX2_othersFor_2 : cX2_othersFor.data.toList.drop 48 = dktX2_othersFor_2 := dk_seg dksX2_othersFor_1 24 rfl rfl
theorem dX2_othersFor_0 : decode cX2_othersFor 0 = .ok (.iconst 0, 1) := dk_3 (dk_at dksX2_othersFor_0 0 rfl rfl)
theorem dX2_othersFor_1 : decode cX2_othersFor 1 = .ok (.istore 4, 2) := dk_54 4 (dk_at dksX2_othersFor_0 1 rfl rfl)
theorem dX2_othersFor_3 : decode cX2_othersFor 3 = .ok (.iconst 0, 1) := dk_3 (dk_at dksX2_othersFor_0 3 rfl rfl)
theorem dX2_othersFor_4 : decode cX2_othersFor 4 = .ok (.istore 5, 2) := dk_54 5 (dk_at dksX2_othersFor_0 4 rfl rfl)
theorem dX2_othersFor_6 : decode cX2_othersFor 6 = .ok (.iload 5, 2) := dk_21 5 (dk_at dksX2_othersFor_0 6 rfl rfl)
theorem dX2_othersFor_8 : decode cX2_othersFor 8 = .ok (.aload_n 0, 1) := dk_42 (dk_at dksX2_othersFor_0 8 rfl rfl)
theorem dX2_othersFor_9 : decode cX2_othersFor 9 = .ok (.getfield 57, 3) := dk_180 0 57 (dk_at dksX2_othersFor_0 9 rfl rfl)
theorem dX2_othersFor_12 : decode cX2_othersFor 12 = .ok (.if_icmp .ge 46, 3) := dk_162 0 46 (dk_at dksX2_othersFor_0 12 rfl rfl)
theorem dX2_othersFor_15 : decode cX2_othersFor 15 = .ok (.iload 4, 2) := dk_21 4 (dk_at dksX2_othersFor_0 15 rfl rfl)
theorem dX2_othersFor_17 : decode cX2_othersFor 17 = .ok (.iload 5, 2) := dk_21 5 (dk_at dksX2_othersFor_0 17 rfl rfl)
theorem dX2_othersFor_19 : decode cX2_othersFor 19 = .ok (.iload_n 1, 1) := dk_27 (dk_at dksX2_othersFor_0 19 rfl rfl)
theorem dX2_othersFor_20 : decode cX2_othersFor 20 = .ok (.if_icmp .eq 28, 3) := dk_159 0 28 (dk_at dksX2_othersFor_0 20 rfl rfl)
theorem dX2_othersFor_23 : decode cX2_othersFor 23 = .ok (.aload_n 0, 1) := dk_42 (dk_at dksX2_othersFor_0 23 rfl rfl)
theorem dX2_othersFor_24 : decode cX2_othersFor 24 = .ok (.iload 5, 2) := dk_21 5 (dk_at dksX2_othersFor_1 0 rfl rfl)
theorem dX2_othersFor_26 : decode cX2_othersFor 26 = .ok (.iload_n 2, 1) := dk_28 (dk_at dksX2_othersFor_1 2 rfl rfl)
theorem dX2_othersFor_27 : decode cX2_othersFor 27 = .ok (.iload_n 3, 1) := dk_29 (dk_at dksX2_othersFor_1 3 rfl rfl)
theorem dX2_othersFor_28 : decode cX2_othersFor 28 = .ok (.aload_n 0, 1) := dk_42 (dk_at dksX2_othersFor_1 4 rfl rfl)
theorem dX2_othersFor_29 : decode cX2_othersFor 29 = .ok (.getfield 78, 3) := dk_180 0 78 (dk_at dksX2_othersFor_1 5 rfl rfl)
theorem dX2_othersFor_32 : decode cX2_othersFor 32 = .ok (.invokevirtual 110, 3) := dk_182 0 110 (dk_at dksX2_othersFor_1 8 rfl rfl)
theorem dX2_othersFor_35 : decode cX2_othersFor 35 = .ok (.ifCond .eq 13, 3) := dk_153 0 13 (dk_at dksX2_othersFor_1 11 rfl rfl)
theorem dX2_othersFor_38 : decode cX2_othersFor 38 = .ok (.aload_n 0, 1) := dk_42 (dk_at dksX2_othersFor_1 14 rfl rfl)
theorem dX2_othersFor_39 : decode cX2_othersFor 39 = .ok (.getfield 22, 3) := dk_180 0 22 (dk_at dksX2_othersFor_1 15 rfl rfl)
theorem dX2_othersFor_42 : decode cX2_othersFor 42 = .ok (.iload 5, 2) := dk_21 5 (dk_at dksX2_othersFor_1 18 rfl rfl)
theorem dX2_othersFor_44 : decode cX2_othersFor 44 = .ok (.iaload, 1) := dk_46 (dk_at dksX2_othersFor_1 20 rfl rfl)
theorem dX2_othersFor_45 : decode cX2_othersFor 45 = .ok (.goto 4, 3) := dk_167 0 4 (dk_at dksX2_othersFor_1 21 rfl rfl)
theorem dX2_othersFor_48 : decode cX2_othersFor 48 = .ok (.iconst 0, 1) := dk_3 (dk_at dksX2_othersFor_2 0 rfl rfl)
theorem dX2_othersFor_49 : decode cX2_othersFor 49 = .ok (.ior, 1) := dk_128 (dk_at dksX2_othersFor_2 1 rfl rfl)
theorem dX2_othersFor_50 : decode cX2_othersFor 50 = .ok (.istore 4, 2) := dk_54 4 (dk_at dksX2_othersFor_2 2 rfl rfl)
theorem dX2_othersFor_52 : decode cX2_othersFor 52 = .ok (.iinc 5 1, 3) := dk_132 5 1 (dk_at dksX2_othersFor_2 4 rfl rfl)
theorem dX2_othersFor_55 : decode cX2_othersFor 55 = .ok (.goto (-49), 3) := dk_167 255 207 (dk_at dksX2_othersFor_2 7 rfl rfl)
theorem dX2_othersFor_58 : decode cX2_othersFor 58 = .ok (.iload 4, 2) := dk_21 4 (dk_at dksX2_othersFor_2 10 rfl rfl)
theorem dX2_othersFor_60 : decode cX2_othersFor 60 = .ok (.ireturn, 1) := dk_172 (dk_at dksX2_othersFor_2 12 rfl rfl)
theorem q33 : (Jvm.Cond.initialized "LinkResolverModel") ∈ lw_all := lw_g (lw_at lw_m1 5 rfl) rfl
theorem q264 : (Jvm.Cond.selects "LinkResolverModel" ({ cls := "java/lang/Object", name := "getClass", desc := "()Ljava/lang/Class;" } : Jvm.MethodName) ({ cls := "java/lang/Object", name := "getClass", desc := "()Ljava/lang/Class;" } : Jvm.MethodName)) ∈ lw_all := lw_g (lw_at lw_m1 236 rfl) rfl
theorem q659 : (Jvm.Cond.instantiable "LinkResolverModel" (18 : Nat)) ∈ lw_all := lw_g (lw_at lw_m3 151 rfl) rfl
theorem q661 : (Jvm.Cond.instanceMethod ({ cls := "LinkResolverModel", name := "<init>", desc := "()V" } : Jvm.MethodName)) ∈ lw_all := lw_g (lw_at lw_m3 153 rfl) rfl
theorem q662 : (Jvm.Cond.code ({ cls := "LinkResolverModel", name := "<init>", desc := "()V" } : Jvm.MethodName) prog_7_method_1_code (1 : Nat) (Option.none : Option Jvm.ClassFile.FieldType)) ∈ lw_all := lw_g (lw_at lw_m3 154 rfl) rfl
theorem q663 : (Jvm.Cond.methodLink "LinkResolverModel" (1 : Nat) ({ cls := "java/lang/Object", name := "<init>", desc := "()V" } : Jvm.MethodName)) ∈ lw_all := lw_g (lw_at lw_m3 155 rfl) rfl
theorem q664 : (Jvm.Cond.fieldLink "LinkResolverModel" (50 : Nat) "LinkResolverModel" "thrown" "I") ∈ lw_all := lw_g (lw_at lw_m3 156 rfl) rfl
theorem q665 : (Jvm.Cond.fieldLink "LinkResolverModel" (78 : Nat) "LinkResolverModel" "today" "I") ∈ lw_all := lw_g (lw_at lw_m3 157 rfl) rfl
theorem q666 : (Jvm.Cond.fieldLink "LinkResolverModel" (54 : Nat) "LinkResolverModel" "titles" "I") ∈ lw_all := lw_g (lw_at lw_m3 158 rfl) rfl
theorem q667 : (Jvm.Cond.fieldLink "LinkResolverModel" (57 : Nat) "LinkResolverModel" "packages" "I") ∈ lw_all := lw_g (lw_at lw_m3 159 rfl) rfl
theorem q668 : (Jvm.Cond.fieldLink "LinkResolverModel" (7 : Nat) "LinkResolverModel" "firstYears" "[I") ∈ lw_all := lw_g (lw_at lw_m3 160 rfl) rfl
theorem q669 : (Jvm.Cond.fieldLink "LinkResolverModel" (13 : Nat) "LinkResolverModel" "volumes" "[I") ∈ lw_all := lw_g (lw_at lw_m3 161 rfl) rfl
theorem q670 : (Jvm.Cond.fieldLink "LinkResolverModel" (16 : Nat) "LinkResolverModel" "costs" "[I") ∈ lw_all := lw_g (lw_at lw_m3 162 rfl) rfl
theorem q671 : (Jvm.Cond.fieldLink "LinkResolverModel" (19 : Nat) "LinkResolverModel" "versions" "[I") ∈ lw_all := lw_g (lw_at lw_m3 163 rfl) rfl
theorem q672 : (Jvm.Cond.fieldLink "LinkResolverModel" (22 : Nat) "LinkResolverModel" "groups" "[I") ∈ lw_all := lw_g (lw_at lw_m3 164 rfl) rfl
theorem q673 : (Jvm.Cond.fieldLink "LinkResolverModel" (25 : Nat) "LinkResolverModel" "keeps" "[Z") ∈ lw_all := lw_g (lw_at lw_m3 165 rfl) rfl
theorem q674 : (Jvm.Cond.fieldLink "LinkResolverModel" (29 : Nat) "LinkResolverModel" "breaks" "[I") ∈ lw_all := lw_g (lw_at lw_m3 166 rfl) rfl
theorem q675 : (Jvm.Cond.fieldLink "LinkResolverModel" (71 : Nat) "LinkResolverModel" "changes" "I") ∈ lw_all := lw_g (lw_at lw_m3 167 rfl) rfl
theorem q676 : (Jvm.Cond.fieldLink "LinkResolverModel" (32 : Nat) "LinkResolverModel" "ofWhat" "[I") ∈ lw_all := lw_g (lw_at lw_m3 168 rfl) rfl
theorem q677 : (Jvm.Cond.fieldLink "LinkResolverModel" (35 : Nat) "LinkResolverModel" "days" "[I") ∈ lw_all := lw_g (lw_at lw_m3 169 rfl) rfl
theorem q678 : (Jvm.Cond.fieldLink "LinkResolverModel" (38 : Nat) "LinkResolverModel" "isOn" "[Z") ∈ lw_all := lw_g (lw_at lw_m3 170 rfl) rfl
theorem q679 : (Jvm.Cond.fieldLink "LinkResolverModel" (41 : Nat) "LinkResolverModel" "firsts" "[I") ∈ lw_all := lw_g (lw_at lw_m3 171 rfl) rfl
theorem q680 : (Jvm.Cond.fieldLink "LinkResolverModel" (44 : Nat) "LinkResolverModel" "lasts" "[I") ∈ lw_all := lw_g (lw_at lw_m3 172 rfl) rfl
theorem q681 : (Jvm.Cond.fieldLink "LinkResolverModel" (47 : Nat) "LinkResolverModel" "walls" "[I") ∈ lw_all := lw_g (lw_at lw_m3 173 rfl) rfl
theorem q682 : (Jvm.Cond.lays "LinkResolverModel" "LinkResolverModel" "thrown" "I") ∈ lw_all := lw_g (lw_at lw_m3 174 rfl) rfl
theorem q683 : (Jvm.Cond.soleField "LinkResolverModel" "thrown") ∈ lw_all := lw_g (lw_at lw_m3 175 rfl) rfl
theorem q684 : (Jvm.Cond.lays "LinkResolverModel" "LinkResolverModel" "today" "I") ∈ lw_all := lw_g (lw_at lw_m3 176 rfl) rfl
theorem q685 : (Jvm.Cond.soleField "LinkResolverModel" "today") ∈ lw_all := lw_g (lw_at lw_m3 177 rfl) rfl
theorem q686 : (Jvm.Cond.lays "LinkResolverModel" "LinkResolverModel" "titles" "I") ∈ lw_all := lw_g (lw_at lw_m3 178 rfl) rfl
theorem q687 : (Jvm.Cond.soleField "LinkResolverModel" "titles") ∈ lw_all := lw_g (lw_at lw_m3 179 rfl) rfl
theorem q688 : (Jvm.Cond.lays "LinkResolverModel" "LinkResolverModel" "packages" "I") ∈ lw_all := lw_g (lw_at lw_m3 180 rfl) rfl
theorem q689 : (Jvm.Cond.soleField "LinkResolverModel" "packages") ∈ lw_all := lw_g (lw_at lw_m3 181 rfl) rfl
theorem q690 : (Jvm.Cond.laysFinal "LinkResolverModel" "LinkResolverModel" "firstYears" "[I") ∈ lw_all := lw_g (lw_at lw_m3 182 rfl) rfl
theorem q691 : (Jvm.Cond.soleField "LinkResolverModel" "firstYears") ∈ lw_all := lw_g (lw_at lw_m3 183 rfl) rfl
theorem q692 : (Jvm.Cond.laysFinal "LinkResolverModel" "LinkResolverModel" "volumes" "[I") ∈ lw_all := lw_g (lw_at lw_m3 184 rfl) rfl
theorem q693 : (Jvm.Cond.soleField "LinkResolverModel" "volumes") ∈ lw_all := lw_g (lw_at lw_m3 185 rfl) rfl
theorem q694 : (Jvm.Cond.laysFinal "LinkResolverModel" "LinkResolverModel" "costs" "[I") ∈ lw_all := lw_g (lw_at lw_m3 186 rfl) rfl
theorem q695 : (Jvm.Cond.soleField "LinkResolverModel" "costs") ∈ lw_all := lw_g (lw_at lw_m3 187 rfl) rfl
theorem q696 : (Jvm.Cond.laysFinal "LinkResolverModel" "LinkResolverModel" "versions" "[I") ∈ lw_all := lw_g (lw_at lw_m3 188 rfl) rfl
theorem q697 : (Jvm.Cond.soleField "LinkResolverModel" "versions") ∈ lw_all := lw_g (lw_at lw_m3 189 rfl) rfl
theorem q698 : (Jvm.Cond.laysFinal "LinkResolverModel" "LinkResolverModel" "groups" "[I") ∈ lw_all := lw_g (lw_at lw_m3 190 rfl) rfl
theorem q699 : (Jvm.Cond.soleField "LinkResolverModel" "groups") ∈ lw_all := lw_g (lw_at lw_m3 191 rfl) rfl
theorem q700 : (Jvm.Cond.laysFinal "LinkResolverModel" "LinkResolverModel" "keeps" "[Z") ∈ lw_all := lw_g (lw_at lw_m3 192 rfl) rfl
theorem q701 : (Jvm.Cond.soleField "LinkResolverModel" "keeps") ∈ lw_all := lw_g (lw_at lw_m3 193 rfl) rfl
theorem q702 : (Jvm.Cond.laysFinal "LinkResolverModel" "LinkResolverModel" "breaks" "[I") ∈ lw_all := lw_g (lw_at lw_m3 194 rfl) rfl
theorem q703 : (Jvm.Cond.soleField "LinkResolverModel" "breaks") ∈ lw_all := lw_g (lw_at lw_m3 195 rfl) rfl
theorem q704 : (Jvm.Cond.lays "LinkResolverModel" "LinkResolverModel" "changes" "I") ∈ lw_all := lw_g (lw_at lw_m3 196 rfl) rfl
theorem q705 : (Jvm.Cond.soleField "LinkResolverModel" "changes") ∈ lw_all := lw_g (lw_at lw_m3 197 rfl) rfl
theorem q706 : (Jvm.Cond.laysFinal "LinkResolverModel" "LinkResolverModel" "ofWhat" "[I") ∈ lw_all := lw_g (lw_at lw_m3 198 rfl) rfl
theorem q707 : (Jvm.Cond.soleField "LinkResolverModel" "ofWhat") ∈ lw_all := lw_g (lw_at lw_m3 199 rfl) rfl
theorem q708 : (Jvm.Cond.laysFinal "LinkResolverModel" "LinkResolverModel" "days" "[I") ∈ lw_all := lw_g (lw_at lw_m3 200 rfl) rfl
theorem q709 : (Jvm.Cond.soleField "LinkResolverModel" "days") ∈ lw_all := lw_g (lw_at lw_m3 201 rfl) rfl
theorem q710 : (Jvm.Cond.laysFinal "LinkResolverModel" "LinkResolverModel" "isOn" "[Z") ∈ lw_all := lw_g (lw_at lw_m3 202 rfl) rfl
theorem q711 : (Jvm.Cond.soleField "LinkResolverModel" "isOn") ∈ lw_all := lw_g (lw_at lw_m3 203 rfl) rfl
theorem q712 : (Jvm.Cond.laysFinal "LinkResolverModel" "LinkResolverModel" "firsts" "[I") ∈ lw_all := lw_g (lw_at lw_m3 204 rfl) rfl
theorem q713 : (Jvm.Cond.soleField "LinkResolverModel" "firsts") ∈ lw_all := lw_g (lw_at lw_m3 205 rfl) rfl
theorem q714 : (Jvm.Cond.laysFinal "LinkResolverModel" "LinkResolverModel" "lasts" "[I") ∈ lw_all := lw_g (lw_at lw_m3 206 rfl) rfl
theorem q715 : (Jvm.Cond.soleField "LinkResolverModel" "lasts") ∈ lw_all := lw_g (lw_at lw_m3 207 rfl) rfl
theorem q716 : (Jvm.Cond.laysFinal "LinkResolverModel" "LinkResolverModel" "walls" "[I") ∈ lw_all := lw_g (lw_at lw_m3 208 rfl) rfl
theorem q717 : (Jvm.Cond.soleField "LinkResolverModel" "walls") ∈ lw_all := lw_g (lw_at lw_m3 209 rfl) rfl
theorem q718 : (Jvm.Cond.superclass "LinkResolverModel" "java/lang/Object") ∈ lw_all := lw_g (lw_at lw_m3 210 rfl) rfl
theorem q721 : (Jvm.Cond.instanceMethod ({ cls := "LinkResolverModel", name := "thrown", desc := "()I" } : Jvm.MethodName)) ∈ lw_all := lw_g (lw_at lw_m3 213 rfl) rfl
theorem q722 : (Jvm.Cond.selects "LinkResolverModel" ({ cls := "LinkResolverModel", name := "thrown", desc := "()I" } : Jvm.MethodName) ({ cls := "LinkResolverModel", name := "thrown", desc := "()I" } : Jvm.MethodName)) ∈ lw_all := lw_g (lw_at lw_m3 214 rfl) rfl
theorem q723 : (Jvm.Cond.code ({ cls := "LinkResolverModel", name := "thrown", desc := "()I" } : Jvm.MethodName) prog_7_method_2_code (1 : Nat) (Option.some Jvm.ClassFile.FieldType.int)) ∈ lw_all := lw_g (lw_at lw_m3 215 rfl) rfl
theorem q725 : (Jvm.Cond.instanceMethod ({ cls := "LinkResolverModel", name := "addTitle", desc := "(II)I" } : Jvm.MethodName)) ∈ lw_all := lw_g (lw_at lw_m3 217 rfl) rfl
theorem q726 : (Jvm.Cond.selects "LinkResolverModel" ({ cls := "LinkResolverModel", name := "addTitle", desc := "(II)I" } : Jvm.MethodName) ({ cls := "LinkResolverModel", name := "addTitle", desc := "(II)I" } : Jvm.MethodName)) ∈ lw_all := lw_g (lw_at lw_m3 218 rfl) rfl
theorem q727 : (Jvm.Cond.code ({ cls := "LinkResolverModel", name := "addTitle", desc := "(II)I" } : Jvm.MethodName) prog_7_method_7_code (3 : Nat) (Option.some Jvm.ClassFile.FieldType.int)) ∈ lw_all := lw_g (lw_at lw_m3 219 rfl) rfl
theorem q728 : (Jvm.Cond.methodLink "LinkResolverModel" (60 : Nat) ({ cls := "LinkResolverModel", name := "isBetween", desc := "(III)Z" } : Jvm.MethodName)) ∈ lw_all := lw_g (lw_at lw_m3 220 rfl) rfl
theorem q729 : (Jvm.Cond.static ({ cls := "LinkResolverModel", name := "isBetween", desc := "(III)Z" } : Jvm.MethodName)) ∈ lw_all := lw_g (lw_at lw_m3 221 rfl) rfl
theorem q730 : (Jvm.Cond.code ({ cls := "LinkResolverModel", name := "isBetween", desc := "(III)Z" } : Jvm.MethodName) prog_7_method_4_code (3 : Nat) (Option.some Jvm.ClassFile.FieldType.boolean)) ∈ lw_all := lw_g (lw_at lw_m3 222 rfl) rfl
theorem q731 : (Jvm.Cond.methodLink "LinkResolverModel" (64 : Nat) ({ cls := "LinkResolverModel", name := "holds", desc := "(I)Z" } : Jvm.MethodName)) ∈ lw_all := lw_g (lw_at lw_m3 223 rfl) rfl
theorem q732 : (Jvm.Cond.privateMethod ({ cls := "LinkResolverModel", name := "holds", desc := "(I)Z" } : Jvm.MethodName)) ∈ lw_tbl := lw_at lw_m3 224 rfl
theorem q733 : (Jvm.Cond.instanceMethod ({ cls := "LinkResolverModel", name := "holds", desc := "(I)Z" } : Jvm.MethodName)) ∈ lw_all := lw_g (lw_at lw_m3 225 rfl) rfl
theorem q734 : (Jvm.Cond.code ({ cls := "LinkResolverModel", name := "holds", desc := "(I)Z" } : Jvm.MethodName) prog_7_method_3_code (2 : Nat) (Option.some Jvm.ClassFile.FieldType.boolean)) ∈ lw_all := lw_g (lw_at lw_m3 226 rfl) rfl
theorem q736 : (Jvm.Cond.instanceMethod ({ cls := "LinkResolverModel", name := "yearOf", desc := "(II)I" } : Jvm.MethodName)) ∈ lw_all := lw_g (lw_at lw_m3 228 rfl) rfl
theorem q737 : (Jvm.Cond.selects "LinkResolverModel" ({ cls := "LinkResolverModel", name := "yearOf", desc := "(II)I" } : Jvm.MethodName) ({ cls := "LinkResolverModel", name := "yearOf", desc := "(II)I" } : Jvm.MethodName)) ∈ lw_all := lw_g (lw_at lw_m3 229 rfl) rfl
theorem q738 : (Jvm.Cond.code ({ cls := "LinkResolverModel", name := "yearOf", desc := "(II)I" } : Jvm.MethodName) prog_7_method_8_code (4 : Nat) (Option.some Jvm.ClassFile.FieldType.int)) ∈ lw_all := lw_g (lw_at lw_m3 230 rfl) rfl
theorem q739 : (Jvm.Cond.methodLink "LinkResolverModel" (68 : Nat) ({ cls := "LinkResolverModel", name := "isTitle", desc := "(I)Z" } : Jvm.MethodName)) ∈ lw_all := lw_g (lw_at lw_m3 231 rfl) rfl
theorem q740 : (Jvm.Cond.privateMethod ({ cls := "LinkResolverModel", name := "isTitle", desc := "(I)Z" } : Jvm.MethodName)) ∈ lw_tbl := lw_at lw_m3 232 rfl
theorem q741 : (Jvm.Cond.instanceMethod ({ cls := "LinkResolverModel", name := "isTitle", desc := "(I)Z" } : Jvm.MethodName)) ∈ lw_all := lw_g (lw_at lw_m3 233 rfl) rfl
theorem q742 : (Jvm.Cond.code ({ cls := "LinkResolverModel", name := "isTitle", desc := "(I)Z" } : Jvm.MethodName) prog_7_method_5_code (2 : Nat) (Option.some Jvm.ClassFile.FieldType.boolean)) ∈ lw_all := lw_g (lw_at lw_m3 234 rfl) rfl
theorem q744 : (Jvm.Cond.instanceMethod ({ cls := "LinkResolverModel", name := "volumeOf", desc := "(II)I" } : Jvm.MethodName)) ∈ lw_all := lw_g (lw_at lw_m3 236 rfl) rfl
theorem q745 : (Jvm.Cond.selects "LinkResolverModel" ({ cls := "LinkResolverModel", name := "volumeOf", desc := "(II)I" } : Jvm.MethodName) ({ cls := "LinkResolverModel", name := "volumeOf", desc := "(II)I" } : Jvm.MethodName)) ∈ lw_all := lw_g (lw_at lw_m3 237 rfl) rfl
theorem q746 : (Jvm.Cond.code ({ cls := "LinkResolverModel", name := "volumeOf", desc := "(II)I" } : Jvm.MethodName) prog_7_method_9_code (4 : Nat) (Option.some Jvm.ClassFile.FieldType.int)) ∈ lw_all := lw_g (lw_at lw_m3 238 rfl) rfl
theorem q748 : (Jvm.Cond.instanceMethod ({ cls := "LinkResolverModel", name := "addPackage", desc := "(IIII)I" } : Jvm.MethodName)) ∈ lw_all := lw_g (lw_at lw_m4 0 rfl) rfl
theorem q749 : (Jvm.Cond.selects "LinkResolverModel" ({ cls := "LinkResolverModel", name := "addPackage", desc := "(IIII)I" } : Jvm.MethodName) ({ cls := "LinkResolverModel", name := "addPackage", desc := "(IIII)I" } : Jvm.MethodName)) ∈ lw_all := lw_g (lw_at lw_m4 1 rfl) rfl
theorem q750 : (Jvm.Cond.code ({ cls := "LinkResolverModel", name := "addPackage", desc := "(IIII)I" } : Jvm.MethodName) prog_7_method_10_code (6 : Nat) (Option.some Jvm.ClassFile.FieldType.int)) ∈ lw_all := lw_g (lw_at lw_m4 2 rfl) rfl
theorem q752 : (Jvm.Cond.instanceMethod ({ cls := "LinkResolverModel", name := "subscribe", desc := "(IZ)Z" } : Jvm.MethodName)) ∈ lw_all := lw_g (lw_at lw_m4 4 rfl) rfl
theorem q753 : (Jvm.Cond.selects "LinkResolverModel" ({ cls := "LinkResolverModel", name := "subscribe", desc := "(IZ)Z" } : Jvm.MethodName) ({ cls := "LinkResolverModel", name := "subscribe", desc := "(IZ)Z" } : Jvm.MethodName)) ∈ lw_all := lw_g (lw_at lw_m4 5 rfl) rfl
theorem q754 : (Jvm.Cond.code ({ cls := "LinkResolverModel", name := "subscribe", desc := "(IZ)Z" } : Jvm.MethodName) prog_7_method_15_code (3 : Nat) (Option.some Jvm.ClassFile.FieldType.boolean)) ∈ lw_all := lw_g (lw_at lw_m4 6 rfl) rfl
theorem q755 : (Jvm.Cond.methodLink "LinkResolverModel" (81 : Nat) ({ cls := "LinkResolverModel", name := "isPackage", desc := "(I)Z" } : Jvm.MethodName)) ∈ lw_all := lw_g (lw_at lw_m4 7 rfl) rfl
theorem q756 : (Jvm.Cond.privateMethod ({ cls := "LinkResolverModel", name := "isPackage", desc := "(I)Z" } : Jvm.MethodName)) ∈ lw_tbl := lw_at lw_m4 8 rfl
theorem q757 : (Jvm.Cond.instanceMethod ({ cls := "LinkResolverModel", name := "isPackage", desc := "(I)Z" } : Jvm.MethodName)) ∈ lw_all := lw_g (lw_at lw_m4 9 rfl) rfl
theorem q758 : (Jvm.Cond.code ({ cls := "LinkResolverModel", name := "isPackage", desc := "(I)Z" } : Jvm.MethodName) prog_7_method_6_code (2 : Nat) (Option.some Jvm.ClassFile.FieldType.boolean)) ∈ lw_all := lw_g (lw_at lw_m4 10 rfl) rfl
theorem q759 : (Jvm.Cond.methodLink "LinkResolverModel" (84 : Nat) ({ cls := "LinkResolverModel", name := "subscription", desc := "(I)I" } : Jvm.MethodName)) ∈ lw_all := lw_g (lw_at lw_m4 11 rfl) rfl
theorem q760 : (Jvm.Cond.static ({ cls := "LinkResolverModel", name := "subscription", desc := "(I)I" } : Jvm.MethodName)) ∈ lw_all := lw_g (lw_at lw_m4 12 rfl) rfl
theorem q761 : (Jvm.Cond.code ({ cls := "LinkResolverModel", name := "subscription", desc := "(I)I" } : Jvm.MethodName) prog_7_method_14_code (1 : Nat) (Option.some Jvm.ClassFile.FieldType.int)) ∈ lw_all := lw_g (lw_at lw_m4 13 rfl) rfl
theorem q762 : (Jvm.Cond.methodLink "LinkResolverModel" (88 : Nat) ({ cls := "LinkResolverModel", name := "notes", desc := "(IZIII)Z" } : Jvm.MethodName)) ∈ lw_all := lw_g (lw_at lw_m4 14 rfl) rfl
theorem q763 : (Jvm.Cond.privateMethod ({ cls := "LinkResolverModel", name := "notes", desc := "(IZIII)Z" } : Jvm.MethodName)) ∈ lw_tbl := lw_at lw_m4 15 rfl
theorem q764 : (Jvm.Cond.instanceMethod ({ cls := "LinkResolverModel", name := "notes", desc := "(IZIII)Z" } : Jvm.MethodName)) ∈ lw_all := lw_g (lw_at lw_m4 16 rfl) rfl
theorem q765 : (Jvm.Cond.code ({ cls := "LinkResolverModel", name := "notes", desc := "(IZIII)Z" } : Jvm.MethodName) prog_7_method_13_code (9 : Nat) (Option.some Jvm.ClassFile.FieldType.boolean)) ∈ lw_all := lw_g (lw_at lw_m4 17 rfl) rfl
theorem q766 : (Jvm.Cond.methodLink "LinkResolverModel" (74 : Nat) ({ cls := "LinkResolverModel", name := "changeOn", desc := "(II)I" } : Jvm.MethodName)) ∈ lw_all := lw_g (lw_at lw_m4 18 rfl) rfl
theorem q767 : (Jvm.Cond.privateMethod ({ cls := "LinkResolverModel", name := "changeOn", desc := "(II)I" } : Jvm.MethodName)) ∈ lw_tbl := lw_at lw_m4 19 rfl
theorem q768 : (Jvm.Cond.instanceMethod ({ cls := "LinkResolverModel", name := "changeOn", desc := "(II)I" } : Jvm.MethodName)) ∈ lw_all := lw_g (lw_at lw_m4 20 rfl) rfl
theorem q769 : (Jvm.Cond.code ({ cls := "LinkResolverModel", name := "changeOn", desc := "(II)I" } : Jvm.MethodName) prog_7_method_11_code (4 : Nat) (Option.some Jvm.ClassFile.FieldType.int)) ∈ lw_all := lw_g (lw_at lw_m4 21 rfl) rfl
theorem q771 : (Jvm.Cond.instanceMethod ({ cls := "LinkResolverModel", name := "come", desc := "(IIIII)Z" } : Jvm.MethodName)) ∈ lw_all := lw_g (lw_at lw_m4 23 rfl) rfl
theorem q772 : (Jvm.Cond.selects "LinkResolverModel" ({ cls := "LinkResolverModel", name := "come", desc := "(IIIII)Z" } : Jvm.MethodName) ({ cls := "LinkResolverModel", name := "come", desc := "(IIIII)Z" } : Jvm.MethodName)) ∈ lw_all := lw_g (lw_at lw_m4 24 rfl) rfl
theorem q773 : (Jvm.Cond.code ({ cls := "LinkResolverModel", name := "come", desc := "(IIIII)Z" } : Jvm.MethodName) prog_7_method_16_code (8 : Nat) (Option.some Jvm.ClassFile.FieldType.boolean)) ∈ lw_all := lw_g (lw_at lw_m4 25 rfl) rfl
theorem q775 : (Jvm.Cond.instanceMethod ({ cls := "LinkResolverModel", name := "go", desc := "(II)V" } : Jvm.MethodName)) ∈ lw_all := lw_g (lw_at lw_m4 27 rfl) rfl
theorem q776 : (Jvm.Cond.selects "LinkResolverModel" ({ cls := "LinkResolverModel", name := "go", desc := "(II)V" } : Jvm.MethodName) ({ cls := "LinkResolverModel", name := "go", desc := "(II)V" } : Jvm.MethodName)) ∈ lw_all := lw_g (lw_at lw_m4 28 rfl) rfl
theorem q777 : (Jvm.Cond.code ({ cls := "LinkResolverModel", name := "go", desc := "(II)V" } : Jvm.MethodName) prog_7_method_17_code (5 : Nat) (Option.none : Option Jvm.ClassFile.FieldType)) ∈ lw_all := lw_g (lw_at lw_m4 29 rfl) rfl
theorem q778 : (Jvm.Cond.methodLink "LinkResolverModel" (92 : Nat) ({ cls := "LinkResolverModel", name := "isSo", desc := "(II)Z" } : Jvm.MethodName)) ∈ lw_all := lw_g (lw_at lw_m4 30 rfl) rfl
theorem q779 : (Jvm.Cond.privateMethod ({ cls := "LinkResolverModel", name := "isSo", desc := "(II)Z" } : Jvm.MethodName)) ∈ lw_tbl := lw_at lw_m4 31 rfl
theorem q780 : (Jvm.Cond.instanceMethod ({ cls := "LinkResolverModel", name := "isSo", desc := "(II)Z" } : Jvm.MethodName)) ∈ lw_all := lw_g (lw_at lw_m4 32 rfl) rfl
theorem q781 : (Jvm.Cond.code ({ cls := "LinkResolverModel", name := "isSo", desc := "(II)Z" } : Jvm.MethodName) prog_7_method_12_code (4 : Nat) (Option.some Jvm.ClassFile.FieldType.boolean)) ∈ lw_all := lw_g (lw_at lw_m4 33 rfl) rfl
theorem q783 : (Jvm.Cond.instanceMethod ({ cls := "LinkResolverModel", name := "pass", desc := "(I)I" } : Jvm.MethodName)) ∈ lw_all := lw_g (lw_at lw_m4 35 rfl) rfl
theorem q784 : (Jvm.Cond.selects "LinkResolverModel" ({ cls := "LinkResolverModel", name := "pass", desc := "(I)I" } : Jvm.MethodName) ({ cls := "LinkResolverModel", name := "pass", desc := "(I)I" } : Jvm.MethodName)) ∈ lw_all := lw_g (lw_at lw_m4 36 rfl) rfl
theorem q785 : (Jvm.Cond.code ({ cls := "LinkResolverModel", name := "pass", desc := "(I)I" } : Jvm.MethodName) prog_7_method_18_code (2 : Nat) (Option.some Jvm.ClassFile.FieldType.int)) ∈ lw_all := lw_g (lw_at lw_m4 37 rfl) rfl
theorem q787 : (Jvm.Cond.instanceMethod ({ cls := "LinkResolverModel", name := "today", desc := "()I" } : Jvm.MethodName)) ∈ lw_all := lw_g (lw_at lw_m4 39 rfl) rfl
theorem q788 : (Jvm.Cond.selects "LinkResolverModel" ({ cls := "LinkResolverModel", name := "today", desc := "()I" } : Jvm.MethodName) ({ cls := "LinkResolverModel", name := "today", desc := "()I" } : Jvm.MethodName)) ∈ lw_all := lw_g (lw_at lw_m4 40 rfl) rfl
theorem q789 : (Jvm.Cond.code ({ cls := "LinkResolverModel", name := "today", desc := "()I" } : Jvm.MethodName) prog_7_method_19_code (1 : Nat) (Option.some Jvm.ClassFile.FieldType.int)) ∈ lw_all := lw_g (lw_at lw_m4 41 rfl) rfl
theorem q791 : (Jvm.Cond.instanceMethod ({ cls := "LinkResolverModel", name := "isSubscribed", desc := "(II)Z" } : Jvm.MethodName)) ∈ lw_all := lw_g (lw_at lw_m4 43 rfl) rfl
theorem q792 : (Jvm.Cond.selects "LinkResolverModel" ({ cls := "LinkResolverModel", name := "isSubscribed", desc := "(II)Z" } : Jvm.MethodName) ({ cls := "LinkResolverModel", name := "isSubscribed", desc := "(II)Z" } : Jvm.MethodName)) ∈ lw_all := lw_g (lw_at lw_m4 44 rfl) rfl
theorem q793 : (Jvm.Cond.code ({ cls := "LinkResolverModel", name := "isSubscribed", desc := "(II)Z" } : Jvm.MethodName) prog_7_method_20_code (3 : Nat) (Option.some Jvm.ClassFile.FieldType.boolean)) ∈ lw_all := lw_g (lw_at lw_m4 45 rfl) rfl
theorem q795 : (Jvm.Cond.instanceMethod ({ cls := "LinkResolverModel", name := "isIn", desc := "(III)Z" } : Jvm.MethodName)) ∈ lw_all := lw_g (lw_at lw_m4 47 rfl) rfl
theorem q796 : (Jvm.Cond.selects "LinkResolverModel" ({ cls := "LinkResolverModel", name := "isIn", desc := "(III)Z" } : Jvm.MethodName) ({ cls := "LinkResolverModel", name := "isIn", desc := "(III)Z" } : Jvm.MethodName)) ∈ lw_all := lw_g (lw_at lw_m4 48 rfl) rfl
theorem q797 : (Jvm.Cond.code ({ cls := "LinkResolverModel", name := "isIn", desc := "(III)Z" } : Jvm.MethodName) prog_7_method_21_code (4 : Nat) (Option.some Jvm.ClassFile.FieldType.boolean)) ∈ lw_all := lw_g (lw_at lw_m4 49 rfl) rfl
theorem q799 : (Jvm.Cond.instanceMethod ({ cls := "LinkResolverModel", name := "report", desc := "(II)I" } : Jvm.MethodName)) ∈ lw_all := lw_g (lw_at lw_m4 51 rfl) rfl
theorem q800 : (Jvm.Cond.selects "LinkResolverModel" ({ cls := "LinkResolverModel", name := "report", desc := "(II)I" } : Jvm.MethodName) ({ cls := "LinkResolverModel", name := "report", desc := "(II)I" } : Jvm.MethodName)) ∈ lw_all := lw_g (lw_at lw_m4 52 rfl) rfl
theorem q801 : (Jvm.Cond.code ({ cls := "LinkResolverModel", name := "report", desc := "(II)I" } : Jvm.MethodName) prog_7_method_22_code (3 : Nat) (Option.some Jvm.ClassFile.FieldType.int)) ∈ lw_all := lw_g (lw_at lw_m4 53 rfl) rfl
theorem q803 : (Jvm.Cond.instanceMethod ({ cls := "LinkResolverModel", name := "mend", desc := "(II)I" } : Jvm.MethodName)) ∈ lw_all := lw_g (lw_at lw_m4 55 rfl) rfl
theorem q804 : (Jvm.Cond.selects "LinkResolverModel" ({ cls := "LinkResolverModel", name := "mend", desc := "(II)I" } : Jvm.MethodName) ({ cls := "LinkResolverModel", name := "mend", desc := "(II)I" } : Jvm.MethodName)) ∈ lw_all := lw_g (lw_at lw_m4 56 rfl) rfl
theorem q805 : (Jvm.Cond.code ({ cls := "LinkResolverModel", name := "mend", desc := "(II)I" } : Jvm.MethodName) prog_7_method_23_code (4 : Nat) (Option.some Jvm.ClassFile.FieldType.int)) ∈ lw_all := lw_g (lw_at lw_m4 57 rfl) rfl
theorem q807 : (Jvm.Cond.instanceMethod ({ cls := "LinkResolverModel", name := "covers", desc := "(IIIII)Z" } : Jvm.MethodName)) ∈ lw_all := lw_g (lw_at lw_m4 59 rfl) rfl
theorem q808 : (Jvm.Cond.selects "LinkResolverModel" ({ cls := "LinkResolverModel", name := "covers", desc := "(IIIII)Z" } : Jvm.MethodName) ({ cls := "LinkResolverModel", name := "covers", desc := "(IIIII)Z" } : Jvm.MethodName)) ∈ lw_all := lw_g (lw_at lw_m4 60 rfl) rfl
theorem q809 : (Jvm.Cond.code ({ cls := "LinkResolverModel", name := "covers", desc := "(IIIII)Z" } : Jvm.MethodName) prog_7_method_29_code (7 : Nat) (Option.some Jvm.ClassFile.FieldType.boolean)) ∈ lw_all := lw_g (lw_at lw_m4 61 rfl) rfl
theorem q810 : (Jvm.Cond.methodLink "LinkResolverModel" (104 : Nat) ({ cls := "LinkResolverModel", name := "isAsked", desc := "(III)Z" } : Jvm.MethodName)) ∈ lw_all := lw_g (lw_at lw_m4 62 rfl) rfl
theorem q811 : (Jvm.Cond.privateMethod ({ cls := "LinkResolverModel", name := "isAsked", desc := "(III)Z" } : Jvm.MethodName)) ∈ lw_tbl := lw_at lw_m4 63 rfl
theorem q812 : (Jvm.Cond.instanceMethod ({ cls := "LinkResolverModel", name := "isAsked", desc := "(III)Z" } : Jvm.MethodName)) ∈ lw_all := lw_g (lw_at lw_m4 64 rfl) rfl
theorem q813 : (Jvm.Cond.code ({ cls := "LinkResolverModel", name := "isAsked", desc := "(III)Z" } : Jvm.MethodName) prog_7_method_28_code (4 : Nat) (Option.some Jvm.ClassFile.FieldType.boolean)) ∈ lw_all := lw_g (lw_at lw_m4 65 rfl) rfl
theorem q814 : (Jvm.Cond.methodLink "LinkResolverModel" (107 : Nat) ({ cls := "LinkResolverModel", name := "lets", desc := "(II)Z" } : Jvm.MethodName)) ∈ lw_all := lw_g (lw_at lw_m4 66 rfl) rfl
theorem q815 : (Jvm.Cond.privateMethod ({ cls := "LinkResolverModel", name := "lets", desc := "(II)Z" } : Jvm.MethodName)) ∈ lw_tbl := lw_at lw_m4 67 rfl
theorem q816 : (Jvm.Cond.instanceMethod ({ cls := "LinkResolverModel", name := "lets", desc := "(II)Z" } : Jvm.MethodName)) ∈ lw_all := lw_g (lw_at lw_m4 68 rfl) rfl
theorem q817 : (Jvm.Cond.code ({ cls := "LinkResolverModel", name := "lets", desc := "(II)Z" } : Jvm.MethodName) prog_7_method_27_code (3 : Nat) (Option.some Jvm.ClassFile.FieldType.boolean)) ∈ lw_all := lw_g (lw_at lw_m4 69 rfl) rfl
theorem q818 : (Jvm.Cond.methodLink "LinkResolverModel" (110 : Nat) ({ cls := "LinkResolverModel", name := "isCovered", desc := "(IIII)Z" } : Jvm.MethodName)) ∈ lw_all := lw_g (lw_at lw_m4 70 rfl) rfl
theorem q819 : (Jvm.Cond.privateMethod ({ cls := "LinkResolverModel", name := "isCovered", desc := "(IIII)Z" } : Jvm.MethodName)) ∈ lw_tbl := lw_at lw_m4 71 rfl
theorem q820 : (Jvm.Cond.instanceMethod ({ cls := "LinkResolverModel", name := "isCovered", desc := "(IIII)Z" } : Jvm.MethodName)) ∈ lw_all := lw_g (lw_at lw_m4 72 rfl) rfl
theorem q821 : (Jvm.Cond.code ({ cls := "LinkResolverModel", name := "isCovered", desc := "(IIII)Z" } : Jvm.MethodName) prog_7_method_26_code (5 : Nat) (Option.some Jvm.ClassFile.FieldType.boolean)) ∈ lw_all := lw_g (lw_at lw_m4 73 rfl) rfl
theorem q822 : (Jvm.Cond.methodLink "LinkResolverModel" (96 : Nat) ({ cls := "LinkResolverModel", name := "has", desc := "(IIIII)Z" } : Jvm.MethodName)) ∈ lw_all := lw_g (lw_at lw_m4 74 rfl) rfl
theorem q823 : (Jvm.Cond.privateMethod ({ cls := "LinkResolverModel", name := "has", desc := "(IIIII)Z" } : Jvm.MethodName)) ∈ lw_tbl := lw_at lw_m4 75 rfl
theorem q824 : (Jvm.Cond.instanceMethod ({ cls := "LinkResolverModel", name := "has", desc := "(IIIII)Z" } : Jvm.MethodName)) ∈ lw_all := lw_g (lw_at lw_m4 76 rfl) rfl
theorem q825 : (Jvm.Cond.code ({ cls := "LinkResolverModel", name := "has", desc := "(IIIII)Z" } : Jvm.MethodName) prog_7_method_24_code (8 : Nat) (Option.some Jvm.ClassFile.FieldType.boolean)) ∈ lw_all := lw_g (lw_at lw_m4 77 rfl) rfl
theorem q826 : (Jvm.Cond.methodLink "LinkResolverModel" (100 : Nat) ({ cls := "LinkResolverModel", name := "isKept", desc := "(IIII)Z" } : Jvm.MethodName)) ∈ lw_all := lw_g (lw_at lw_m4 78 rfl) rfl
theorem q827 : (Jvm.Cond.privateMethod ({ cls := "LinkResolverModel", name := "isKept", desc := "(IIII)Z" } : Jvm.MethodName)) ∈ lw_tbl := lw_at lw_m4 79 rfl
theorem q828 : (Jvm.Cond.instanceMethod ({ cls := "LinkResolverModel", name := "isKept", desc := "(IIII)Z" } : Jvm.MethodName)) ∈ lw_all := lw_g (lw_at lw_m4 80 rfl) rfl
theorem q829 : (Jvm.Cond.code ({ cls := "LinkResolverModel", name := "isKept", desc := "(IIII)Z" } : Jvm.MethodName) prog_7_method_25_code (6 : Nat) (Option.some Jvm.ClassFile.FieldType.boolean)) ∈ lw_all := lw_g (lw_at lw_m4 81 rfl) rfl
theorem q831 : (Jvm.Cond.instanceMethod ({ cls := "LinkResolverModel", name := "ways", desc := "(IIII)I" } : Jvm.MethodName)) ∈ lw_all := lw_g (lw_at lw_m4 83 rfl) rfl
theorem q832 : (Jvm.Cond.selects "LinkResolverModel" ({ cls := "LinkResolverModel", name := "ways", desc := "(IIII)I" } : Jvm.MethodName) ({ cls := "LinkResolverModel", name := "ways", desc := "(IIII)I" } : Jvm.MethodName)) ∈ lw_all := lw_g (lw_at lw_m4 84 rfl) rfl
theorem q833 : (Jvm.Cond.code ({ cls := "LinkResolverModel", name := "ways", desc := "(IIII)I" } : Jvm.MethodName) prog_7_method_31_code (5 : Nat) (Option.some Jvm.ClassFile.FieldType.int)) ∈ lw_all := lw_g (lw_at lw_m4 85 rfl) rfl
theorem q834 : (Jvm.Cond.methodLink "LinkResolverModel" (113 : Nat) ({ cls := "LinkResolverModel", name := "waysTo", desc := "(IIII)I" } : Jvm.MethodName)) ∈ lw_all := lw_g (lw_at lw_m4 86 rfl) rfl
theorem q835 : (Jvm.Cond.privateMethod ({ cls := "LinkResolverModel", name := "waysTo", desc := "(IIII)I" } : Jvm.MethodName)) ∈ lw_tbl := lw_at lw_m4 87 rfl
theorem q836 : (Jvm.Cond.instanceMethod ({ cls := "LinkResolverModel", name := "waysTo", desc := "(IIII)I" } : Jvm.MethodName)) ∈ lw_all := lw_g (lw_at lw_m4 88 rfl) rfl
theorem q837 : (Jvm.Cond.code ({ cls := "LinkResolverModel", name := "waysTo", desc := "(IIII)I" } : Jvm.MethodName) prog_7_method_30_code (7 : Nat) (Option.some Jvm.ClassFile.FieldType.int)) ∈ lw_all := lw_g (lw_at lw_m4 89 rfl) rfl
theorem q839 : (Jvm.Cond.instanceMethod ({ cls := "LinkResolverModel", name := "wayAt", desc := "(IIIII)I" } : Jvm.MethodName)) ∈ lw_all := lw_g (lw_at lw_m4 91 rfl) rfl
theorem q840 : (Jvm.Cond.selects "LinkResolverModel" ({ cls := "LinkResolverModel", name := "wayAt", desc := "(IIIII)I" } : Jvm.MethodName) ({ cls := "LinkResolverModel", name := "wayAt", desc := "(IIIII)I" } : Jvm.MethodName)) ∈ lw_all := lw_g (lw_at lw_m4 92 rfl) rfl
theorem q841 : (Jvm.Cond.code ({ cls := "LinkResolverModel", name := "wayAt", desc := "(IIIII)I" } : Jvm.MethodName) prog_7_method_33_code (12 : Nat) (Option.some Jvm.ClassFile.FieldType.int)) ∈ lw_all := lw_g (lw_at lw_m4 93 rfl) rfl
theorem q842 : (Jvm.Cond.methodLink "LinkResolverModel" (117 : Nat) ({ cls := "LinkResolverModel", name := "isAhead", desc := "(III)Z" } : Jvm.MethodName)) ∈ lw_all := lw_g (lw_at lw_m4 94 rfl) rfl
theorem q843 : (Jvm.Cond.privateMethod ({ cls := "LinkResolverModel", name := "isAhead", desc := "(III)Z" } : Jvm.MethodName)) ∈ lw_tbl := lw_at lw_m4 95 rfl
theorem q844 : (Jvm.Cond.instanceMethod ({ cls := "LinkResolverModel", name := "isAhead", desc := "(III)Z" } : Jvm.MethodName)) ∈ lw_all := lw_g (lw_at lw_m4 96 rfl) rfl
theorem q845 : (Jvm.Cond.code ({ cls := "LinkResolverModel", name := "isAhead", desc := "(III)Z" } : Jvm.MethodName) prog_7_method_32_code (6 : Nat) (Option.some Jvm.ClassFile.FieldType.boolean)) ∈ lw_all := lw_g (lw_at lw_m4 97 rfl) rfl
theorem q847 : (Jvm.Cond.instanceMethod ({ cls := "LinkResolverModel", name := "gap", desc := "(II)I" } : Jvm.MethodName)) ∈ lw_all := lw_g (lw_at lw_m4 99 rfl) rfl
theorem q848 : (Jvm.Cond.selects "LinkResolverModel" ({ cls := "LinkResolverModel", name := "gap", desc := "(II)I" } : Jvm.MethodName) ({ cls := "LinkResolverModel", name := "gap", desc := "(II)I" } : Jvm.MethodName)) ∈ lw_all := lw_g (lw_at lw_m4 100 rfl) rfl
theorem q849 : (Jvm.Cond.code ({ cls := "LinkResolverModel", name := "gap", desc := "(II)I" } : Jvm.MethodName) prog_7_method_35_code (5 : Nat) (Option.some Jvm.ClassFile.FieldType.int)) ∈ lw_all := lw_g (lw_at lw_m4 101 rfl) rfl
theorem q850 : (Jvm.Cond.methodLink "LinkResolverModel" (120 : Nat) ({ cls := "LinkResolverModel", name := "isOfTitle", desc := "(II)Z" } : Jvm.MethodName)) ∈ lw_all := lw_g (lw_at lw_m4 102 rfl) rfl
theorem q851 : (Jvm.Cond.privateMethod ({ cls := "LinkResolverModel", name := "isOfTitle", desc := "(II)Z" } : Jvm.MethodName)) ∈ lw_tbl := lw_at lw_m4 103 rfl
theorem q852 : (Jvm.Cond.instanceMethod ({ cls := "LinkResolverModel", name := "isOfTitle", desc := "(II)Z" } : Jvm.MethodName)) ∈ lw_all := lw_g (lw_at lw_m4 104 rfl) rfl
theorem q853 : (Jvm.Cond.code ({ cls := "LinkResolverModel", name := "isOfTitle", desc := "(II)Z" } : Jvm.MethodName) prog_7_method_34_code (3 : Nat) (Option.some Jvm.ClassFile.FieldType.boolean)) ∈ lw_all := lw_g (lw_at lw_m4 105 rfl) rfl
theorem q855 : (Jvm.Cond.instanceMethod ({ cls := "LinkResolverModel", name := "doubles", desc := "(II)I" } : Jvm.MethodName)) ∈ lw_all := lw_g (lw_at lw_m4 107 rfl) rfl
theorem q856 : (Jvm.Cond.selects "LinkResolverModel" ({ cls := "LinkResolverModel", name := "doubles", desc := "(II)I" } : Jvm.MethodName) ({ cls := "LinkResolverModel", name := "doubles", desc := "(II)I" } : Jvm.MethodName)) ∈ lw_all := lw_g (lw_at lw_m4 108 rfl) rfl
theorem q857 : (Jvm.Cond.code ({ cls := "LinkResolverModel", name := "doubles", desc := "(II)I" } : Jvm.MethodName) prog_7_method_36_code (5 : Nat) (Option.some Jvm.ClassFile.FieldType.int)) ∈ lw_all := lw_g (lw_at lw_m4 109 rfl) rfl
theorem q859 : (Jvm.Cond.instanceMethod ({ cls := "LinkResolverModel", name := "isNeedless", desc := "(I)Z" } : Jvm.MethodName)) ∈ lw_all := lw_g (lw_at lw_m4 111 rfl) rfl
theorem q860 : (Jvm.Cond.selects "LinkResolverModel" ({ cls := "LinkResolverModel", name := "isNeedless", desc := "(I)Z" } : Jvm.MethodName) ({ cls := "LinkResolverModel", name := "isNeedless", desc := "(I)Z" } : Jvm.MethodName)) ∈ lw_all := lw_g (lw_at lw_m4 112 rfl) rfl
theorem q861 : (Jvm.Cond.code ({ cls := "LinkResolverModel", name := "isNeedless", desc := "(I)Z" } : Jvm.MethodName) prog_7_method_38_code (6 : Nat) (Option.some Jvm.ClassFile.FieldType.boolean)) ∈ lw_all := lw_g (lw_at lw_m4 113 rfl) rfl
theorem q862 : (Jvm.Cond.methodLink "LinkResolverModel" (123 : Nat) ({ cls := "LinkResolverModel", name := "othersFor", desc := "(III)I" } : Jvm.MethodName)) ∈ lw_all := lw_g (lw_at lw_m4 114 rfl) rfl
theorem q863 : (Jvm.Cond.privateMethod ({ cls := "LinkResolverModel", name := "othersFor", desc := "(III)I" } : Jvm.MethodName)) ∈ lw_tbl := lw_at lw_m4 115 rfl
theorem q864 : (Jvm.Cond.instanceMethod ({ cls := "LinkResolverModel", name := "othersFor", desc := "(III)I" } : Jvm.MethodName)) ∈ lw_all := lw_g (lw_at lw_m4 116 rfl) rfl
theorem q865 : (Jvm.Cond.code ({ cls := "LinkResolverModel", name := "othersFor", desc := "(III)I" } : Jvm.MethodName) prog_7_method_37_code (6 : Nat) (Option.some Jvm.ClassFile.FieldType.int)) ∈ lw_all := lw_g (lw_at lw_m4 117 rfl) rfl
theorem q872 : (Jvm.Cond.castable "LinkResolverModel" "java/lang/Object") ∈ lw_tbl := lw_at lw_m4 124 rfl
theorem in_X2 : ∀ w ∈ wsX20, w ∈ lw_all := lw_in wsX20 [682, 684, 686, 688, 690, 692, 694, 696, 698, 700, 702, 704, 706, 708, 710, 712, 714, 716] (by decide +kernel) (by decide +kernel)
/-! LinkResolverLaw -/
set_option maxRecDepth 100000
def RX0 : String := "LinkResolverLaw"
abbrev cX0_addTitle : ByteArray := method_3_code
def yX0_addTitle : MethodName := ⟨RX0, "addTitle", "(LLinkResolver;II[J)I"⟩
def dkwX0_addTitle_0 : List UInt8 := [45, 3, 42, 27, 28, 182, 0, 7, 133, 80, 167, 0, 11, 58, 4, 4, 172, 58, 4, 5, 172, 3, 172]
abbrev dktX0_addTitle_0 : List UInt8 := dkwX0_addTitle_0 ++ []
theorem dksX0_addTitle_0 : cX0_addTitle.data.toList.drop 0 = dktX0_addTitle_0 := by decide +kernel
theorem dX0_addTitle_0 : decode cX0_addTitle 0 = .ok (.aload_n 3, 1) := dk_45 (dk_at dksX0_addTitle_0 0 rfl rfl)
theorem dX0_addTitle_1 : decode cX0_addTitle 1 = .ok (.iconst 0, 1) := dk_3 (dk_at dksX0_addTitle_0 1 rfl rfl)
theorem dX0_addTitle_2 : decode cX0_addTitle 2 = .ok (.aload_n 0, 1) := dk_42 (dk_at dksX0_addTitle_0 2 rfl rfl)
theorem dX0_addTitle_3 : decode cX0_addTitle 3 = .ok (.iload_n 1, 1) := dk_27 (dk_at dksX0_addTitle_0 3 rfl rfl)
theorem dX0_addTitle_4 : decode cX0_addTitle 4 = .ok (.iload_n 2, 1) := dk_28 (dk_at dksX0_addTitle_0 4 rfl rfl)
theorem dX0_addTitle_5 : decode cX0_addTitle 5 = .ok (.invokevirtual 7, 3) := dk_182 0 7 (dk_at dksX0_addTitle_0 5 rfl rfl)
theorem dX0_addTitle_8 : decode cX0_addTitle 8 = .ok (.i2l, 1) := dk_133 (dk_at dksX0_addTitle_0 8 rfl rfl)
theorem dX0_addTitle_9 : decode cX0_addTitle 9 = .ok (.lastore, 1) := dk_80 (dk_at dksX0_addTitle_0 9 rfl rfl)
theorem dX0_addTitle_10 : decode cX0_addTitle 10 = .ok (.goto 11, 3) := dk_167 0 11 (dk_at dksX0_addTitle_0 10 rfl rfl)
theorem dX0_addTitle_13 : decode cX0_addTitle 13 = .ok (.astore 4, 2) := dk_58 4 (dk_at dksX0_addTitle_0 13 rfl rfl)
theorem dX0_addTitle_15 : decode cX0_addTitle 15 = .ok (.iconst 1, 1) := dk_4 (dk_at dksX0_addTitle_0 15 rfl rfl)
theorem dX0_addTitle_16 : decode cX0_addTitle 16 = .ok (.ireturn, 1) := dk_172 (dk_at dksX0_addTitle_0 16 rfl rfl)
theorem dX0_addTitle_17 : decode cX0_addTitle 17 = .ok (.astore 4, 2) := dk_58 4 (dk_at dksX0_addTitle_0 17 rfl rfl)
theorem dX0_addTitle_19 : decode cX0_addTitle 19 = .ok (.iconst 2, 1) := dk_5 (dk_at dksX0_addTitle_0 19 rfl rfl)
theorem dX0_addTitle_20 : decode cX0_addTitle 20 = .ok (.ireturn, 1) := dk_172 (dk_at dksX0_addTitle_0 20 rfl rfl)
theorem dX0_addTitle_21 : decode cX0_addTitle 21 = .ok (.iconst 0, 1) := dk_3 (dk_at dksX0_addTitle_0 21 rfl rfl)
theorem dX0_addTitle_22 : decode cX0_addTitle 22 = .ok (.ireturn, 1) := dk_172 (dk_at dksX0_addTitle_0 22 rfl rfl)
abbrev cX0_yearOf : ByteArray := method_4_code
def yX0_yearOf : MethodName := ⟨RX0, "yearOf", "(LLinkResolver;II[J)I"⟩
def dkwX0_yearOf_0 : List UInt8 := [45, 3, 42, 27, 28, 182, 0, 17, 133, 80, 167, 0, 11, 58, 4, 4, 172, 58, 4, 5, 172, 3, 172]
abbrev dktX0_yearOf_0 : List UInt8 := dkwX0_yearOf_0 ++ []
theorem dksX0_yearOf_0 : cX0_yearOf.data.toList.drop 0 = dktX0_yearOf_0 := by decide +kernel
theorem dX0_yearOf_0 : decode cX0_yearOf 0 = .ok (.aload_n 3, 1) := dk_45 (dk_at dksX0_yearOf_0 0 rfl rfl)
theorem dX0_yearOf_1 : decode cX0_yearOf 1 = .ok (.iconst 0, 1) := dk_3 (dk_at dksX0_yearOf_0 1 rfl rfl)
theorem dX0_yearOf_2 : decode cX0_yearOf 2 = .ok (.aload_n 0, 1) := dk_42 (dk_at dksX0_yearOf_0 2 rfl rfl)
theorem dX0_yearOf_3 : decode cX0_yearOf 3 = .ok (.iload_n 1, 1) := dk_27 (dk_at dksX0_yearOf_0 3 rfl rfl)
theorem dX0_yearOf_4 : decode cX0_yearOf 4 = .ok (.iload_n 2, 1) := dk_28 (dk_at dksX0_yearOf_0 4 rfl rfl)
theorem dX0_yearOf_5 : decode cX0_yearOf 5 = .ok (.invokevirtual 17, 3) := dk_182 0 17 (dk_at dksX0_yearOf_0 5 rfl rfl)
theorem dX0_yearOf_8 : decode cX0_yearOf 8 = .ok (.i2l, 1) := dk_133 (dk_at dksX0_yearOf_0 8 rfl rfl)
theorem dX0_yearOf_9 : decode cX0_yearOf 9 = .ok (.lastore, 1) := dk_80 (dk_at dksX0_yearOf_0 9 rfl rfl)
theorem dX0_yearOf_10 : decode cX0_yearOf 10 = .ok (.goto 11, 3) := dk_167 0 11 (dk_at dksX0_yearOf_0 10 rfl rfl)
theorem dX0_yearOf_13 : decode cX0_yearOf 13 = .ok (.astore 4, 2) := dk_58 4 (dk_at dksX0_yearOf_0 13 rfl rfl)
theorem dX0_yearOf_15 : decode cX0_yearOf 15 = .ok (.iconst 1, 1) := dk_4 (dk_at dksX0_yearOf_0 15 rfl rfl)
theorem dX0_yearOf_16 : decode cX0_yearOf 16 = .ok (.ireturn, 1) := dk_172 (dk_at dksX0_yearOf_0 16 rfl rfl)
theorem dX0_yearOf_17 : decode cX0_yearOf 17 = .ok (.astore 4, 2) := dk_58 4 (dk_at dksX0_yearOf_0 17 rfl rfl)
theorem dX0_yearOf_19 : decode cX0_yearOf 19 = .ok (.iconst 2, 1) := dk_5 (dk_at dksX0_yearOf_0 19 rfl rfl)
theorem dX0_yearOf_20 : decode cX0_yearOf 20 = .ok (.ireturn, 1) := dk_172 (dk_at dksX0_yearOf_0 20 rfl rfl)
theorem dX0_yearOf_21 : decode cX0_yearOf 21 = .ok (.iconst 0, 1) := dk_3 (dk_at dksX0_yearOf_0 21 rfl rfl)
theorem dX0_yearOf_22 : decode cX0_yearOf 22 = .ok (.ireturn, 1) := dk_172 (dk_at dksX0_yearOf_0 22 rfl rfl)
abbrev cX0_volumeOf : ByteArray := method_5_code
def yX0_volumeOf : MethodName := ⟨RX0, "volumeOf", "(LLinkResolver;II[J)I"⟩
def dkwX0_volumeOf_0 : List UInt8 := [45, 3, 42, 27, 28, 182, 0, 22, 133, 80, 167, 0, 11, 58, 4, 4, 172, 58, 4, 5, 172, 3, 172]
abbrev dktX0_volumeOf_0 : List UInt8 := dkwX0_volumeOf_0 ++ []
theorem dksX0_volumeOf_0 : cX0_volumeOf.data.toList.drop 0 = dktX0_volumeOf_0 := by decide +kernel
theorem dX0_volumeOf_0 : decode cX0_volumeOf 0 = .ok (.aload_n 3, 1) := dk_45 (dk_at dksX0_volumeOf_0 0 rfl rfl)
theorem dX0_volumeOf_1 : decode cX0_volumeOf 1 = .ok (.iconst 0, 1) := dk_3 (dk_at dksX0_volumeOf_0 1 rfl rfl)
theorem dX0_volumeOf_2 : decode cX0_volumeOf 2 = .ok (.aload_n 0, 1) := dk_42 (dk_at dksX0_volumeOf_0 2 rfl rfl)
theorem dX0_volumeOf_3 : decode cX0_volumeOf 3 = .ok (.iload_n 1, 1) := dk_27 (dk_at dksX0_volumeOf_0 3 rfl rfl)
theorem dX0_volumeOf_4 : decode cX0_volumeOf 4 = .ok (.iload_n 2, 1) := dk_28 (dk_at dksX0_volumeOf_0 4 rfl rfl)
theorem dX0_volumeOf_5 : decode cX0_volumeOf 5 = .ok (.invokevirtual 22, 3) := dk_182 0 22 (dk_at dksX0_volumeOf_0 5 rfl rfl)
theorem dX0_volumeOf_8 : decode cX0_volumeOf 8 = .ok (.i2l, 1) := dk_133 (dk_at dksX0_volumeOf_0 8 rfl rfl)
theorem dX0_volumeOf_9 : decode cX0_volumeOf 9 = .ok (.lastore, 1) := dk_80 (dk_at dksX0_volumeOf_0 9 rfl rfl)
theorem dX0_volumeOf_10 : decode cX0_volumeOf 10 = .ok (.goto 11, 3) := dk_167 0 11 (dk_at dksX0_volumeOf_0 10 rfl rfl)
theorem dX0_volumeOf_13 : decode cX0_volumeOf 13 = .ok (.astore 4, 2) := dk_58 4 (dk_at dksX0_volumeOf_0 13 rfl rfl)
theorem dX0_volumeOf_15 : decode cX0_volumeOf 15 = .ok (.iconst 1, 1) := dk_4 (dk_at dksX0_volumeOf_0 15 rfl rfl)
theorem dX0_volumeOf_16 : decode cX0_volumeOf 16 = .ok (.ireturn, 1) := dk_172 (dk_at dksX0_volumeOf_0 16 rfl rfl)
theorem dX0_volumeOf_17 : decode cX0_volumeOf 17 = .ok (.astore 4, 2) := dk_58 4 (dk_at dksX0_volumeOf_0 17 rfl rfl)
theorem dX0_volumeOf_19 : decode cX0_volumeOf 19 = .ok (.iconst 2, 1) := dk_5 (dk_at dksX0_volumeOf_0 19 rfl rfl)
theorem dX0_volumeOf_20 : decode cX0_volumeOf 20 = .ok (.ireturn, 1) := dk_172 (dk_at dksX0_volumeOf_0 20 rfl rfl)
theorem dX0_volumeOf_21 : decode cX0_volumeOf 21 = .ok (.iconst 0, 1) := dk_3 (dk_at dksX0_volumeOf_0 21 rfl rfl)
theorem dX0_volumeOf_22 : decode cX0_volumeOf 22 = .ok (.ireturn, 1) := dk_172 (dk_at dksX0_volumeOf_0 22 rfl rfl)
abbrev cX0_addPackage : ByteArray := method_6_code
def yX0_addPackage : MethodName := ⟨RX0, "addPackage", "(LLinkResolver;IIII[J)I"⟩
def dkwX0_addPackage_1 : List UInt8 := [172, 3, 172]
abbrev dktX0_addPackage_1 : List UInt8 := dkwX0_addPackage_1 ++ []
def dkwX0_addPackage_0 : List UInt8 := [25, 5, 3, 42, 27, 28, 29, 21, 4, 182, 0, 25, 133, 80, 167, 0, 11, 58, 6, 4, 172, 58, 6, 5]
abbrev dktX0_addPackage_0 : List UInt8 := dkwX0_addPackage_0 ++ dktX0_addPackage_1
theorem dksX0_addPackage_0 : cX0_addPackage.data.toList.drop 0 = dktX0_addPackage_0 := by decide +kernel
theorem dksX0_addPackage_1 : cX0_addPackage.data.toList.drop 24 = dktX0_addPackage_1 := dk_seg dksX0_addPackage_0 24 rfl rfl
theorem dX0_addPackage_0 : decode cX0_addPackage 0 = .ok (.aload 5, 2) := dk_25 5 (dk_at dksX0_addPackage_0 0 rfl rfl)
theorem dX0_addPackage_2 : decode cX0_addPackage 2 = .ok (.iconst 0, 1) := dk_3 (dk_at dksX0_addPackage_0 2 rfl rfl)
theorem dX0_addPackage_3 : decode cX0_addPackage 3 = .ok (.aload_n 0, 1) := dk_42 (dk_at dksX0_addPackage_0 3 rfl rfl)
theorem dX0_addPackage_4 : decode cX0_addPackage 4 = .ok (.iload_n 1, 1) := dk_27 (dk_at dksX0_addPackage_0 4 rfl rfl)
theorem dX0_addPackage_5 : decode cX0_addPackage 5 = .ok (.iload_n 2, 1) := dk_28 (dk_at dksX0_addPackage_0 5 rfl rfl)
theorem dX0_addPackage_6 : decode cX0_addPackage 6 = .ok (.iload_n 3, 1) := dk_29 (dk_at dksX0_addPackage_0 6 rfl rfl)
theorem dX0_addPackage_7 : decode cX0_addPackage 7 = .ok (.iload 4, 2) := dk_21 4 (dk_at dksX0_addPackage_0 7 rfl rfl)
theorem dX0_addPackage_9 : decode cX0_addPackage 9 = .ok (.invokevirtual 25, 3) := dk_182 0 25 (dk_at dksX0_addPackage_0 9 rfl rfl)
theorem dX0_addPackage_12 : decode cX0_addPackage 12 = .ok (.i2l, 1) := dk_133 (dk_at dksX0_addPackage_0 12 rfl rfl)
theorem dX0_addPackage_13 : decode cX0_addPackage 13 = .ok (.lastore, 1) := dk_80 (dk_at dksX0_addPackage_0 13 rfl rfl)
theorem dX0_addPackage_14 : decode cX0_addPackage 14 = .ok (.goto 11, 3) := dk_167 0 11 (dk_at dksX0_addPackage_0 14 rfl rfl)
theorem dX0_addPackage_17 : decode cX0_addPackage 17 = .ok (.astore 6, 2) := dk_58 6 (dk_at dksX0_addPackage_0 17 rfl rfl)
theorem dX0_addPackage_19 : decode cX0_addPackage 19 = .ok (.iconst 1, 1) := dk_4 (dk_at dksX0_addPackage_0 19 rfl rfl)
theorem dX0_addPackage_20 : decode cX0_addPackage 20 = .ok (.ireturn, 1) := dk_172 (dk_at dksX0_addPackage_0 20 rfl rfl)
theorem dX0_addPackage_21 : decode cX0_addPackage 21 = .ok (.astore 6, 2) := dk_58 6 (dk_at dksX0_addPackage_0 21 rfl rfl)
theorem dX0_addPackage_23 : decode cX0_addPackage 23 = .ok (.iconst 2, 1) := dk_5 (dk_at dksX0_addPackage_0 23 rfl rfl)
theorem dX0_addPackage_24 : decode cX0_addPackage 24 = .ok (.ireturn, 1) := dk_172 (dk_at dksX0_addPackage_1 0 rfl rfl)
theorem dX0_addPackage_25 : decode cX0_addPackage 25 = .ok (.iconst 0, 1) := dk_3 (dk_at dksX0_addPackage_1 1 rfl rfl)
theorem dX0_addPackage_26 : decode cX0_addPackage 26 = .ok (.ireturn, 1) := dk_172 (dk_at dksX0_addPackage_1 2 rfl rfl)
abbrev cX0_subscribe : ByteArray := method_7_code
def yX0_subscribe : MethodName := ⟨RX0, "subscribe", "(LLinkResolver;IZ[J)I"⟩
def dkwX0_subscribe_1 : List UInt8 := [3, 172]
abbrev dktX0_subscribe_1 : List UInt8 := dkwX0_subscribe_1 ++ []
def dkwX0_subscribe_0 : List UInt8 := [45, 3, 42, 27, 28, 182, 0, 29, 153, 0, 7, 10, 167, 0, 4, 9, 80, 167, 0, 7, 58, 4, 4, 172]
abbrev dktX0_subscribe_0 : List UInt8 := dkwX0_subscribe_0 ++ dktX0_subscribe_1
theorem dksX0_subscribe_0 : cX0_subscribe.data.toList.drop 0 = dktX0_subscribe_0 := by decide +kernel
theorem dksX0_subscribe_1 : cX0_subscribe.data.toList.drop 24 = dktX0_subscribe_1 := dk_seg dksX0_subscribe_0 24 rfl rfl
theorem dX0_subscribe_0 : decode cX0_subscribe 0 = .ok (.aload_n 3, 1) := dk_45 (dk_at dksX0_subscribe_0 0 rfl rfl)
theorem dX0_subscribe_1 : decode cX0_subscribe 1 = .ok (.iconst 0, 1) := dk_3 (dk_at dksX0_subscribe_0 1 rfl rfl)
theorem dX0_subscribe_2 : decode cX0_subscribe 2 = .ok (.aload_n 0, 1) := dk_42 (dk_at dksX0_subscribe_0 2 rfl rfl)
theorem dX0_subscribe_3 : decode cX0_subscribe 3 = .ok (.iload_n 1, 1) := dk_27 (dk_at dksX0_subscribe_0 3 rfl rfl)
theorem dX0_subscribe_4 : decode cX0_subscribe 4 = .ok (.iload_n 2, 1) := dk_28 (dk_at dksX0_subscribe_0 4 rfl rfl)
theorem dX0_subscribe_5 : decode cX0_subscribe 5 = .ok (.invokevirtual 29, 3) := dk_182 0 29 (dk_at dksX0_subscribe_0 5 rfl rfl)
theorem dX0_subscribe_8 : decode cX0_subscribe 8 = .ok (.ifCond .eq 7, 3) := dk_153 0 7 (dk_at dksX0_subscribe_0 8 rfl rfl)
theorem dX0_subscribe_11 : decode cX0_subscribe 11 = .ok (.lconst 1, 1) := dk_10 (dk_at dksX0_subscribe_0 11 rfl rfl)
theorem dX0_subscribe_12 : decode cX0_subscribe 12 = .ok (.goto 4, 3) := dk_167 0 4 (dk_at dksX0_subscribe_0 12 rfl rfl)
theorem dX0_subscribe_15 : decode cX0_subscribe 15 = .ok (.lconst 0, 1) := dk_9 (dk_at dksX0_subscribe_0 15 rfl rfl)
theorem dX0_subscribe_16 : decode cX0_subscribe 16 = .ok (.lastore, 1) := dk_80 (dk_at dksX0_subscribe_0 16 rfl rfl)
theorem dX0_subscribe_17 : decode cX0_subscribe 17 = .ok (.goto 7, 3) := dk_167 0 7 (dk_at dksX0_subscribe_0 17 rfl rfl)
theorem dX0_subscribe_20 : decode cX0_subscribe 20 = .ok (.astore 4, 2) := dk_58 4 (dk_at dksX0_subscribe_0 20 rfl rfl)
theorem dX0_subscribe_22 : decode cX0_subscribe 22 = .ok (.iconst 1, 1) := dk_4 (dk_at dksX0_subscribe_0 22 rfl rfl)
theorem dX0_subscribe_23 : decode cX0_subscribe 23 = .ok (.ireturn, 1) := dk_172 (dk_at dksX0_subscribe_0 23 rfl rfl)
theorem dX0_subscribe_24 : decode cX0_subscribe 24 = .ok (.iconst 0, 1) := dk_3 (dk_at dksX0_subscribe_1 0 rfl rfl)
theorem dX0_subscribe_25 : decode cX0_subscribe 25 = .ok (.ireturn, 1) := dk_172 (dk_at dksX0_subscribe_1 1 rfl rfl)
abbrev cX0_come : ByteArray := method_8_code
def yX0_come : MethodName := ⟨RX0, "come", "(LLinkResolver;IIIII[J)I"⟩
def dkwX0_come_1 : List UInt8 := [167, 0, 11, 58, 7, 4, 172, 58, 7, 5, 172, 3, 172]
abbrev dktX0_come_1 : List UInt8 := dkwX0_come_1 ++ []
def dkwX0_come_0 : List UInt8 := [25, 6, 3, 42, 27, 28, 29, 21, 4, 21, 5, 182, 0, 33, 153, 0, 7, 10, 167, 0, 4, 9, 80]
abbrev dktX0_come_0 : List UInt8 := dkwX0_come_0 ++ dktX0_come_1
theorem dksX0_come_0 : cX0_come.data.toList.drop 0 = dktX0_come_0 := by decide +kernel
theorem dksX0_come_1 : cX0_come.data.toList.drop 23 = dktX0_come_1 := dk_seg dksX0_come_0 23 rfl rfl
theorem dX0_come_0 : decode cX0_come 0 = .ok (.aload 6, 2) := dk_25 6 (dk_at dksX0_come_0 0 rfl rfl)
theorem dX0_come_2 : decode cX0_come 2 = .ok (.iconst 0, 1) := dk_3 (dk_at dksX0_come_0 2 rfl rfl)
theorem dX0_come_3 : decode cX0_come 3 = .ok (.aload_n 0, 1) := dk_42 (dk_at dksX0_come_0 3 rfl rfl)
theorem dX0_come_4 : decode cX0_come 4 = .ok (.iload_n 1, 1) := dk_27 (dk_at dksX0_come_0 4 rfl rfl)
theorem dX0_come_5 : decode cX0_come 5 = .ok (.iload_n 2, 1) := dk_28 (dk_at dksX0_come_0 5 rfl rfl)
theorem dX0_come_6 : decode cX0_come 6 = .ok (.iload_n 3, 1) := dk_29 (dk_at dksX0_come_0 6 rfl rfl)
theorem dX0_come_7 : decode cX0_come 7 = .ok (.iload 4, 2) := dk_21 4 (dk_at dksX0_come_0 7 rfl rfl)
theorem dX0_come_9 : decode cX0_come 9 = .ok (.iload 5, 2) := dk_21 5 (dk_at dksX0_come_0 9 rfl rfl)
theorem dX0_come_11 : decode cX0_come 11 = .ok (.invokevirtual 33, 3) := dk_182 0 33 (dk_at dksX0_come_0 11 rfl rfl)
theorem dX0_come_14 : decode cX0_come 14 = .ok (.ifCond .eq 7, 3) := dk_153 0 7 (dk_at dksX0_come_0 14 rfl rfl)
theorem dX0_come_17 : decode cX0_come 17 = .ok (.lconst 1, 1) := dk_10 (dk_at dksX0_come_0 17 rfl rfl)
theorem dX0_come_18 : decode cX0_come 18 = .ok (.goto 4, 3) := dk_167 0 4 (dk_at dksX0_come_0 18 rfl rfl)
theorem dX0_come_21 : decode cX0_come 21 = .ok (.lconst 0, 1) := dk_9 (dk_at dksX0_come_0 21 rfl rfl)
theorem dX0_come_22 : decode cX0_come 22 = .ok (.lastore, 1) := dk_80 (dk_at dksX0_come_0 22 rfl rfl)
theorem dX0_come_23 : decode cX0_come 23 = .ok (.goto 11, 3) := dk_167 0 11 (dk_at dksX0_come_1 0 rfl rfl)
theorem dX0_come_26 : decode cX0_come 26 = .ok (.astore 7, 2) := dk_58 7 (dk_at dksX0_come_1 3 rfl rfl)
theorem dX0_come_28 : decode cX0_come 28 = .ok (.iconst 1, 1) := dk_4 (dk_at dksX0_come_1 5 rfl rfl)
theorem dX0_come_29 : decode cX0_come 29 = .ok (.ireturn, 1) := dk_172 (dk_at dksX0_come_1 6 rfl rfl)
theorem dX0_come_30 : decode cX0_come 30 = .ok (.astore 7, 2) := dk_58 7 (dk_at dksX0_come_1 7 rfl rfl)
theorem dX0_come_32 : decode cX0_come 32 = .ok (.iconst 2, 1) := dk_5 (dk_at dksX0_come_1 9 rfl rfl)
theorem dX0_come_33 : decode cX0_come 33 = .ok (.ireturn, 1) := dk_172 (dk_at dksX0_come_1 10 rfl rfl)
theorem dX0_come_34 : decode cX0_come 34 = .ok (.iconst 0, 1) := dk_3 (dk_at dksX0_come_1 11 rfl rfl)
theorem dX0_come_35 : decode cX0_come 35 = .ok (.ireturn, 1) := dk_172 (dk_at dksX0_come_1 12 rfl rfl)
abbrev cX0_go : ByteArray := method_9_code
def yX0_go : MethodName := ⟨RX0, "go", "(LLinkResolver;II)I"⟩
def dkwX0_go_0 : List UInt8 := [42, 27, 28, 182, 0, 37, 167, 0, 9, 78, 4, 172, 78, 5, 172, 3, 172]
abbrev dktX0_go_0 : List UInt8 := dkwX0_go_0 ++ []
theorem dksX0_go_0 : cX0_go.data.toList.drop 0 = dktX0_go_0 := by decide +kernel
theorem dX0_go_0 : decode cX0_go 0 = .ok (.aload_n 0, 1) := dk_42 (dk_at dksX0_go_0 0 rfl rfl)
theorem dX0_go_1 : decode cX0_go 1 = .ok (.iload_n 1, 1) := dk_27 (dk_at dksX0_go_0 1 rfl rfl)
theorem dX0_go_2 : decode cX0_go 2 = .ok (.iload_n 2, 1) := dk_28 (dk_at dksX0_go_0 2 rfl rfl)
theorem dX0_go_3 : decode cX0_go 3 = .ok (.invokevirtual 37, 3) := dk_182 0 37 (dk_at dksX0_go_0 3 rfl rfl)
theorem dX0_go_6 : decode cX0_go 6 = .ok (.goto 9, 3) := dk_167 0 9 (dk_at dksX0_go_0 6 rfl rfl)
theorem dX0_go_9 : decode cX0_go 9 = .ok (.astore_n 3, 1) := dk_78 (dk_at dksX0_go_0 9 rfl rfl)
theorem dX0_go_10 : decode cX0_go 10 = .ok (.iconst 1, 1) := dk_4 (dk_at dksX0_go_0 10 rfl rfl)
theorem dX0_go_11 : decode cX0_go 11 = .ok (.ireturn, 1) := dk_172 (dk_at dksX0_go_0 11 rfl rfl)
theorem dX0_go_12 : decode cX0_go 12 = .ok (.astore_n 3, 1) := dk_78 (dk_at dksX0_go_0 12 rfl rfl)
theorem dX0_go_13 : decode cX0_go 13 = .ok (.iconst 2, 1) := dk_5 (dk_at dksX0_go_0 13 rfl rfl)
theorem dX0_go_14 : decode cX0_go 14 = .ok (.ireturn, 1) := dk_172 (dk_at dksX0_go_0 14 rfl rfl)
theorem dX0_go_15 : decode cX0_go 15 = .ok (.iconst 0, 1) := dk_3 (dk_at dksX0_go_0 15 rfl rfl)
theorem dX0_go_16 : decode cX0_go 16 = .ok (.ireturn, 1) := dk_172 (dk_at dksX0_go_0 16 rfl rfl)
abbrev cX0_pass : ByteArray := method_10_code
def yX0_pass : MethodName := ⟨RX0, "pass", "(LLinkResolver;I[J)I"⟩
def dkwX0_pass_0 : List UInt8 := [44, 3, 42, 27, 182, 0, 41, 133, 80, 167, 0, 9, 78, 4, 172, 78, 5, 172, 3, 172]
abbrev dktX0_pass_0 : List UInt8 := dkwX0_pass_0 ++ []
theorem dksX0_pass_0 : cX0_pass.data.toList.drop 0 = dktX0_pass_0 := by decide +kernel
theorem dX0_pass_0 : decode cX0_pass 0 = .ok (.aload_n 2, 1) := dk_44 (dk_at dksX0_pass_0 0 rfl rfl)
theorem dX0_pass_1 : decode cX0_pass 1 = .ok (.iconst 0, 1) := dk_3 (dk_at dksX0_pass_0 1 rfl rfl)
theorem dX0_pass_2 : decode cX0_pass 2 = .ok (.aload_n 0, 1) := dk_42 (dk_at dksX0_pass_0 2 rfl rfl)
theorem dX0_pass_3 : decode cX0_pass 3 = .ok (.iload_n 1, 1) := dk_27 (dk_at dksX0_pass_0 3 rfl rfl)
theorem dX0_pass_4 : decode cX0_pass 4 = .ok (.invokevirtual 41, 3) := dk_182 0 41 (dk_at dksX0_pass_0 4 rfl rfl)
theorem dX0_pass_7 : decode cX0_pass 7 = .ok (.i2l, 1) := dk_133 (dk_at dksX0_pass_0 7 rfl rfl)
theorem dX0_pass_8 : decode cX0_pass 8 = .ok (.lastore, 1) := dk_80 (dk_at dksX0_pass_0 8 rfl rfl)
theorem dX0_pass_9 : decode cX0_pass 9 = .ok (.goto 9, 3) := dk_167 0 9 (dk_at dksX0_pass_0 9 rfl rfl)
theorem dX0_pass_12 : decode cX0_pass 12 = .ok (.astore_n 3, 1) := dk_78 (dk_at dksX0_pass_0 12 rfl rfl)
theorem dX0_pass_13 : decode cX0_pass 13 = .ok (.iconst 1, 1) := dk_4 (dk_at dksX0_pass_0 13 rfl rfl)
theorem dX0_pass_14 : decode cX0_pass 14 = .ok (.ireturn, 1) := dk_172 (dk_at dksX0_pass_0 14 rfl rfl)
theorem dX0_pass_15 : decode cX0_pass 15 = .ok (.astore_n 3, 1) := dk_78 (dk_at dksX0_pass_0 15 rfl rfl)
theorem dX0_pass_16 : decode cX0_pass 16 = .ok (.iconst 2, 1) := dk_5 (dk_at dksX0_pass_0 16 rfl rfl)
theorem dX0_pass_17 : decode cX0_pass 17 = .ok (.ireturn, 1) := dk_172 (dk_at dksX0_pass_0 17 rfl rfl)
theorem dX0_pass_18 : decode cX0_pass 18 = .ok (.iconst 0, 1) := dk_3 (dk_at dksX0_pass_0 18 rfl rfl)
theorem dX0_pass_19 : decode cX0_pass 19 = .ok (.ireturn, 1) := dk_172 (dk_at dksX0_pass_0 19 rfl rfl)
abbrev cX0_isSubscribed : ByteArray := method_11_code
def yX0_isSubscribed : MethodName := ⟨RX0, "isSubscribed", "(LLinkResolver;II[J)I"⟩
def dkwX0_isSubscribed_1 : List UInt8 := [58, 4, 5, 172, 3, 172]
abbrev dktX0_isSubscribed_1 : List UInt8 := dkwX0_isSubscribed_1 ++ []
def dkwX0_isSubscribed_0 : List UInt8 := [45, 3, 42, 27, 28, 182, 0, 45, 153, 0, 7, 10, 167, 0, 4, 9, 80, 167, 0, 11, 58, 4, 4, 172]
abbrev dktX0_isSubscribed_0 : List UInt8 := dkwX0_isSubscribed_0 ++ dktX0_isSubscribed_1
theorem dksX0_isSubscribed_0 : cX0_isSubscribed.data.toList.drop 0 = dktX0_isSubscribed_0 := by decide +kernel
theorem dksX0_isSubscribed_1 : cX0_isSubscribed.data.toList.drop 24 = dktX0_isSubscribed_1 := dk_seg dksX0_isSubscribed_0 24 rfl rfl
theorem dX0_isSubscribed_0 : decode cX0_isSubscribed 0 = .ok (.aload_n 3, 1) := dk_45 (dk_at dksX0_isSubscribed_0 0 rfl rfl)
theorem dX0_isSubscribed_1 : decode cX0_isSubscribed 1 = .ok (.iconst 0, 1) := dk_3 (dk_at dksX0_isSubscribed_0 1 rfl rfl)
theorem dX0_isSubscribed_2 : decode cX0_isSubscribed 2 = .ok (.aload_n 0, 1) := dk_42 (dk_at dksX0_isSubscribed_0 2 rfl rfl)
theorem dX0_isSubscribed_3 : decode cX0_isSubscribed 3 = .ok (.iload_n 1, 1) := dk_27 (dk_at dksX0_isSubscribed_0 3 rfl rfl)
theorem dX0_isSubscribed_4 : decode cX0_isSubscribed 4 = .ok (.iload_n 2, 1) := dk_28 (dk_at dksX0_isSubscribed_0 4 rfl rfl)
theorem dX0_isSubscribed_5 : decode cX0_isSubscribed 5 = .ok (.invokevirtual 45, 3) := dk_182 0 45 (dk_at dksX0_isSubscribed_0 5 rfl rfl)
theorem dX0_isSubscribed_8 : decode cX0_isSubscribed 8 = .ok (.ifCond .eq 7, 3) := dk_153 0 7 (dk_at dksX0_isSubscribed_0 8 rfl rfl)
theorem dX0_isSubscribed_11 : decode cX0_isSubscribed 11 = .ok (.lconst 1, 1) := dk_10 (dk_at dksX0_isSubscribed_0 11 rfl rfl)
theorem dX0_isSubscribed_12 : decode cX0_isSubscribed 12 = .ok (.goto 4, 3) := dk_167 0 4 (dk_at dksX0_isSubscribed_0 12 rfl rfl)
theorem dX0_isSubscribed_15 : decode cX0_isSubscribed 15 = .ok (.lconst 0, 1) := dk_9 (dk_at dksX0_isSubscribed_0 15 rfl rfl)
theorem dX0_isSubscribed_16 : decode cX0_isSubscribed 16 = .ok (.lastore, 1) := dk_80 (dk_at dksX0_isSubscribed_0 16 rfl rfl)
theorem dX0_isSubscribed_17 : decode cX0_isSubscribed 17 = .ok (.goto 11, 3) := dk_167 0 11 (dk_at dksX0_isSubscribed_0 17 rfl rfl)
theorem dX0_isSubscribed_20 : decode cX0_isSubscribed 20 = .ok (.astore 4, 2) := dk_58 4 (dk_at dksX0_isSubscribed_0 20 rfl rfl)
theorem dX0_isSubscribed_22 : decode cX0_isSubscribed 22 = .ok (.iconst 1, 1) := dk_4 (dk_at dksX0_isSubscribed_0 22 rfl rfl)
theorem dX0_isSubscribed_23 : decode cX0_isSubscribed 23 = .ok (.ireturn, 1) := dk_172 (dk_at dksX0_isSubscribed_0 23 rfl rfl)
theorem dX0_isSubscribed_24 : decode cX0_isSubscribed 24 = .ok (.astore 4, 2) := dk_58 4 (dk_at dksX0_isSubscribed_1 0 rfl rfl)
theorem dX0_isSubscribed_26 : decode cX0_isSubscribed 26 = .ok (.iconst 2, 1) := dk_5 (dk_at dksX0_isSubscribed_1 2 rfl rfl)
theorem dX0_isSubscribed_27 : decode cX0_isSubscribed 27 = .ok (.ireturn, 1) := dk_172 (dk_at dksX0_isSubscribed_1 3 rfl rfl)
theorem dX0_isSubscribed_28 : decode cX0_isSubscribed 28 = .ok (.iconst 0, 1) := dk_3 (dk_at dksX0_isSubscribed_1 4 rfl rfl)
theorem dX0_isSubscribed_29 : decode cX0_isSubscribed 29 = .ok (.ireturn, 1) := dk_172 (dk_at dksX0_isSubscribed_1 5 rfl rfl)
abbrev cX0_isIn : ByteArray := method_12_code
def yX0_isIn : MethodName := ⟨RX0, "isIn", "(LLinkResolver;III[J)I"⟩
def dkwX0_isIn_1 : List UInt8 := [4, 172, 58, 5, 5, 172, 3, 172]
abbrev dktX0_isIn_1 : List UInt8 := dkwX0_isIn_1 ++ []
def dkwX0_isIn_0 : List UInt8 := [25, 4, 3, 42, 27, 28, 29, 182, 0, 49, 153, 0, 7, 10, 167, 0, 4, 9, 80, 167, 0, 11, 58, 5]
abbrev dktX0_isIn_0 : List UInt8 := dkwX0_isIn_0 ++ dktX0_isIn_1
theorem dksX0_isIn_0 : cX0_isIn.data.toList.drop 0 = dktX0_isIn_0 := by decide +kernel
theorem dksX0_isIn_1 : cX0_isIn.data.toList.drop 24 = dktX0_isIn_1 := dk_seg dksX0_isIn_0 24 rfl rfl
theorem dX0_isIn_0 : decode cX0_isIn 0 = .ok (.aload 4, 2) := dk_25 4 (dk_at dksX0_isIn_0 0 rfl rfl)
theorem dX0_isIn_2 : decode cX0_isIn 2 = .ok (.iconst 0, 1) := dk_3 (dk_at dksX0_isIn_0 2 rfl rfl)
theorem dX0_isIn_3 : decode cX0_isIn 3 = .ok (.aload_n 0, 1) := dk_42 (dk_at dksX0_isIn_0 3 rfl rfl)
theorem dX0_isIn_4 : decode cX0_isIn 4 = .ok (.iload_n 1, 1) := dk_27 (dk_at dksX0_isIn_0 4 rfl rfl)
theorem dX0_isIn_5 : decode cX0_isIn 5 = .ok (.iload_n 2, 1) := dk_28 (dk_at dksX0_isIn_0 5 rfl rfl)
theorem dX0_isIn_6 : decode cX0_isIn 6 = .ok (.iload_n 3, 1) := dk_29 (dk_at dksX0_isIn_0 6 rfl rfl)
theorem dX0_isIn_7 : decode cX0_isIn 7 = .ok (.invokevirtual 49, 3) := dk_182 0 49 (dk_at dksX0_isIn_0 7 rfl rfl)
theorem dX0_isIn_10 : decode cX0_isIn 10 = .ok (.ifCond .eq 7, 3) := dk_153 0 7 (dk_at dksX0_isIn_0 10 rfl rfl)
theorem dX0_isIn_13 : decode cX0_isIn 13 = .ok (.lconst 1, 1) := dk_10 (dk_at dksX0_isIn_0 13 rfl rfl)
theorem dX0_isIn_14 : decode cX0_isIn 14 = .ok (.goto 4, 3) := dk_167 0 4 (dk_at dksX0_isIn_0 14 rfl rfl)
theorem dX0_isIn_17 : decode cX0_isIn 17 = .ok (.lconst 0, 1) := dk_9 (dk_at dksX0_isIn_0 17 rfl rfl)
theorem dX0_isIn_18 : decode cX0_isIn 18 = .ok (.lastore, 1) := dk_80 (dk_at dksX0_isIn_0 18 rfl rfl)
theorem dX0_isIn_19 : decode cX0_isIn 19 = .ok (.goto 11, 3) := dk_167 0 11 (dk_at dksX0_isIn_0 19 rfl rfl)
theorem dX0_isIn_22 : decode cX0_isIn 22 = .ok (.astore 5, 2) := dk_58 5 (dk_at dksX0_isIn_0 22 rfl rfl)
theorem dX0_isIn_24 : decode cX0_isIn 24 = .ok (.iconst 1, 1) := dk_4 (dk_at dksX0_isIn_1 0 rfl rfl)
theorem dX0_isIn_25 : decode cX0_isIn 25 = .ok (.ireturn, 1) := dk_172 (dk_at dksX0_isIn_1 1 rfl rfl)
theorem dX0_isIn_26 : decode cX0_isIn 26 = .ok (.astore 5, 2) := dk_58 5 (dk_at dksX0_isIn_1 2 rfl rfl)
theorem dX0_isIn_28 : decode cX0_isIn 28 = .ok (.iconst 2, 1) := dk_5 (dk_at dksX0_isIn_1 4 rfl rfl)
theorem dX0_isIn_29 : decode cX0_isIn 29 = .ok (.ireturn, 1) := dk_172 (dk_at dksX0_isIn_1 5 rfl rfl)
theorem dX0_isIn_30 : decode cX0_isIn 30 = .ok (.iconst 0, 1) := dk_3 (dk_at dksX0_isIn_1 6 rfl rfl)
theorem dX0_isIn_31 : decode cX0_isIn 31 = .ok (.ireturn, 1) := dk_172 (dk_at dksX0_isIn_1 7 rfl rfl)
abbrev cX0_report : ByteArray := method_13_code
def yX0_report : MethodName := ⟨RX0, "report", "(LLinkResolver;II[J)I"⟩
def dkwX0_report_0 : List UInt8 := [45, 3, 42, 27, 28, 182, 0, 53, 133, 80, 167, 0, 7, 58, 4, 4, 172, 3, 172]
abbrev dktX0_report_0 : List UInt8 := dkwX0_report_0 ++ []
theorem dksX0_report_0 : cX0_report.data.toList.drop 0 = dktX0_report_0 := by decide +kernel
theorem dX0_report_0 : decode cX0_report 0 = .ok (.aload_n 3, 1) := dk_45 (dk_at dksX0_report_0 0 rfl rfl)
theorem dX0_report_1 : decode cX0_report 1 = .ok (.iconst 0, 1) := dk_3 (dk_at dksX0_report_0 1 rfl rfl)
theorem dX0_report_2 : decode cX0_report 2 = .ok (.aload_n 0, 1) := dk_42 (dk_at dksX0_report_0 2 rfl rfl)
theorem dX0_report_3 : decode cX0_report 3 = .ok (.iload_n 1, 1) := dk_27 (dk_at dksX0_report_0 3 rfl rfl)
theorem dX0_report_4 : decode cX0_report 4 = .ok (.iload_n 2, 1) := dk_28 (dk_at dksX0_report_0 4 rfl rfl)
theorem dX0_report_5 : decode cX0_report 5 = .ok (.invokevirtual 53, 3) := dk_182 0 53 (dk_at dksX0_report_0 5 rfl rfl)
theorem dX0_report_8 : decode cX0_report 8 = .ok (.i2l, 1) := dk_133 (dk_at dksX0_report_0 8 rfl rfl)
theorem dX0_report_9 : decode cX0_report 9 = .ok (.lastore, 1) := dk_80 (dk_at dksX0_report_0 9 rfl rfl)
theorem dX0_report_10 : decode cX0_report 10 = .ok (.goto 7, 3) := dk_167 0 7 (dk_at dksX0_report_0 10 rfl rfl)
theorem dX0_report_13 : decode cX0_report 13 = .ok (.astore 4, 2) := dk_58 4 (dk_at dksX0_report_0 13 rfl rfl)
theorem dX0_report_15 : decode cX0_report 15 = .ok (.iconst 1, 1) := dk_4 (dk_at dksX0_report_0 15 rfl rfl)
theorem dX0_report_16 : decode cX0_report 16 = .ok (.ireturn, 1) := dk_172 (dk_at dksX0_report_0 16 rfl rfl)
theorem dX0_report_17 : decode cX0_report 17 = .ok (.iconst 0, 1) := dk_3 (dk_at dksX0_report_0 17 rfl rfl)
theorem dX0_report_18 : decode cX0_report 18 = .ok (.ireturn, 1) := dk_172 (dk_at dksX0_report_0 18 rfl rfl)
abbrev cX0_mend : ByteArray := method_14_code
def yX0_mend : MethodName := ⟨RX0, "mend", "(LLinkResolver;II[J)I"⟩
def dkwX0_mend_0 : List UInt8 := [45, 3, 42, 27, 28, 182, 0, 56, 133, 80, 167, 0, 7, 58, 4, 4, 172, 3, 172]
abbrev dktX0_mend_0 : List UInt8 := dkwX0_mend_0 ++ []
theorem dksX0_mend_0 : cX0_mend.data.toList.drop 0 = dktX0_mend_0 := by decide +kernel
theorem dX0_mend_0 : decode cX0_mend 0 = .ok (.aload_n 3, 1) := dk_45 (dk_at dksX0_mend_0 0 rfl rfl)
theorem dX0_mend_1 : decode cX0_mend 1 = .ok (.iconst 0, 1) := dk_3 (dk_at dksX0_mend_0 1 rfl rfl)
theorem dX0_mend_2 : decode cX0_mend 2 = .ok (.aload_n 0, 1) := dk_42 (dk_at dksX0_mend_0 2 rfl rfl)
theorem dX0_mend_3 : decode cX0_mend 3 = .ok (.iload_n 1, 1) := dk_27 (dk_at dksX0_mend_0 3 rfl rfl)
theorem dX0_mend_4 : decode cX0_mend 4 = .ok (.iload_n 2, 1) := dk_28 (dk_at dksX0_mend_0 4 rfl rfl)
theorem dX0_mend_5 : decode cX0_mend 5 = .ok (.invokevirtual 56, 3) := dk_182 0 56 (dk_at dksX0_mend_0 5 rfl rfl)
theorem dX0_mend_8 : decode cX0_mend 8 = .ok (.i2l, 1) := dk_133 (dk_at dksX0_mend_0 8 rfl rfl)
theorem dX0_mend_9 : decode cX0_mend 9 = .ok (.lastore, 1) := dk_80 (dk_at dksX0_mend_0 9 rfl rfl)
theorem dX0_mend_10 : decode cX0_mend 10 = .ok (.goto 7, 3) := dk_167 0 7 (dk_at dksX0_mend_0 10 rfl rfl)
theorem dX0_mend_13 : decode cX0_mend 13 = .ok (.astore 4, 2) := dk_58 4 (dk_at dksX0_mend_0 13 rfl rfl)
theorem dX0_mend_15 : decode cX0_mend 15 = .ok (.iconst 1, 1) := dk_4 (dk_at dksX0_mend_0 15 rfl rfl)
theorem dX0_mend_16 : decode cX0_mend 16 = .ok (.ireturn, 1) := dk_172 (dk_at dksX0_mend_0 16 rfl rfl)
theorem dX0_mend_17 : decode cX0_mend 17 = .ok (.iconst 0, 1) := dk_3 (dk_at dksX0_mend_0 17 rfl rfl)
theorem dX0_mend_18 : decode cX0_mend 18 = .ok (.ireturn, 1) := dk_172 (dk_at dksX0_mend_0 18 rfl rfl)
abbrev cX0_covers : ByteArray := method_15_code
def yX0_covers : MethodName := ⟨RX0, "covers", "(LLinkResolver;IIIII[J)I"⟩
def dkwX0_covers_1 : List UInt8 := [167, 0, 11, 58, 7, 4, 172, 58, 7, 5, 172, 3, 172]
abbrev dktX0_covers_1 : List UInt8 := dkwX0_covers_1 ++ []
def dkwX0_covers_0 : List UInt8 := [25, 6, 3, 42, 27, 28, 29, 21, 4, 21, 5, 182, 0, 59, 153, 0, 7, 10, 167, 0, 4, 9, 80]
abbrev dktX0_covers_0 : List UInt8 := dkwX0_covers_0 ++ dktX0_covers_1
theorem dksX0_covers_0 : cX0_covers.data.toList.drop 0 = dktX0_covers_0 := by decide +kernel
theorem dksX0_covers_1 : cX0_covers.data.toList.drop 23 = dktX0_covers_1 := dk_seg dksX0_covers_0 23 rfl rfl
theorem dX0_covers_0 : decode cX0_covers 0 = .ok (.aload 6, 2) := dk_25 6 (dk_at dksX0_covers_0 0 rfl rfl)
theorem dX0_covers_2 : decode cX0_covers 2 = .ok (.iconst 0, 1) := dk_3 (dk_at dksX0_covers_0 2 rfl rfl)
theorem dX0_covers_3 : decode cX0_covers 3 = .ok (.aload_n 0, 1) := dk_42 (dk_at dksX0_covers_0 3 rfl rfl)
theorem dX0_covers_4 : decode cX0_covers 4 = .ok (.iload_n 1, 1) := dk_27 (dk_at dksX0_covers_0 4 rfl rfl)
theorem dX0_covers_5 : decode cX0_covers 5 = .ok (.iload_n 2, 1) := dk_28 (dk_at dksX0_covers_0 5 rfl rfl)
theorem dX0_covers_6 : decode cX0_covers 6 = .ok (.iload_n 3, 1) := dk_29 (dk_at dksX0_covers_0 6 rfl rfl)
theorem dX0_covers_7 : decode cX0_covers 7 = .ok (.iload 4, 2) := dk_21 4 (dk_at dksX0_covers_0 7 rfl rfl)
theorem dX0_covers_9 : decode cX0_covers 9 = .ok (.iload 5, 2) := dk_21 5 (dk_at dksX0_covers_0 9 rfl rfl)
theorem dX0_covers_11 : decode cX0_covers 11 = .ok (.invokevirtual 59, 3) := dk_182 0 59 (dk_at dksX0_covers_0 11 rfl rfl)
theorem dX0_covers_14 : decode cX0_covers 14 = .ok (.ifCond .eq 7, 3) := dk_153 0 7 (dk_at dksX0_covers_0 14 rfl rfl)
theorem dX0_covers_17 : decode cX0_covers 17 = .ok (.lconst 1, 1) := dk_10 (dk_at dksX0_covers_0 17 rfl rfl)
theorem dX0_covers_18 : decode cX0_covers 18 = .ok (.goto 4, 3) := dk_167 0 4 (dk_at dksX0_covers_0 18 rfl rfl)
theorem dX0_covers_21 : decode cX0_covers 21 = .ok (.lconst 0, 1) := dk_9 (dk_at dksX0_covers_0 21 rfl rfl)
theorem dX0_covers_22 : decode cX0_covers 22 = .ok (.lastore, 1) := dk_80 (dk_at dksX0_covers_0 22 rfl rfl)
theorem dX0_covers_23 : decode cX0_covers 23 = .ok (.goto 11, 3) := dk_167 0 11 (dk_at dksX0_covers_1 0 rfl rfl)
theorem dX0_covers_26 : decode cX0_covers 26 = .ok (.astore 7, 2) := dk_58 7 (dk_at dksX0_covers_1 3 rfl rfl)
theorem dX0_covers_28 : decode cX0_covers 28 = .ok (.iconst 1, 1) := dk_4 (dk_at dksX0_covers_1 5 rfl rfl)
theorem dX0_covers_29 : decode cX0_covers 29 = .ok (.ireturn, 1) := dk_172 (dk_at dksX0_covers_1 6 rfl rfl)
theorem dX0_covers_30 : decode cX0_covers 30 = .ok (.astore 7, 2) := dk_58 7 (dk_at dksX0_covers_1 7 rfl rfl)
theorem dX0_covers_32 : decode cX0_covers 32 = .ok (.iconst 2, 1) := dk_5 (dk_at dksX0_covers_1 9 rfl rfl)
theorem dX0_covers_33 : decode cX0_covers 33 = .ok (.ireturn, 1) := dk_172 (dk_at dksX0_covers_1 10 rfl rfl)
theorem dX0_covers_34 : decode cX0_covers 34 = .ok (.iconst 0, 1) := dk_3 (dk_at dksX0_covers_1 11 rfl rfl)
theorem dX0_covers_35 : decode cX0_covers 35 = .ok (.ireturn, 1) := dk_172 (dk_at dksX0_covers_1 12 rfl rfl)
abbrev cX0_ways : ByteArray := method_16_code
def yX0_ways : MethodName := ⟨RX0, "ways", "(LLinkResolver;IIII[J)I"⟩
def dkwX0_ways_1 : List UInt8 := [172, 3, 172]
abbrev dktX0_ways_1 : List UInt8 := dkwX0_ways_1 ++ []
def dkwX0_ways_0 : List UInt8 := [25, 5, 3, 42, 27, 28, 29, 21, 4, 182, 0, 62, 133, 80, 167, 0, 11, 58, 6, 4, 172, 58, 6, 5]
abbrev dktX0_ways_0 : List UInt8 := dkwX0_ways_0 ++ dktX0_ways_1
theorem dksX0_ways_0 : cX0_ways.data.toList.drop 0 = dktX0_ways_0 := by decide +kernel
theorem dksX0_ways_1 : cX0_ways.data.toList.drop 24 = dktX0_ways_1 := dk_seg dksX0_ways_0 24 rfl rfl
theorem dX0_ways_0 : decode cX0_ways 0 = .ok (.aload 5, 2) := dk_25 5 (dk_at dksX0_ways_0 0 rfl rfl)
theorem dX0_ways_2 : decode cX0_ways 2 = .ok (.iconst 0, 1) := dk_3 (dk_at dksX0_ways_0 2 rfl rfl)
theorem dX0_ways_3 : decode cX0_ways 3 = .ok (.aload_n 0, 1) := dk_42 (dk_at dksX0_ways_0 3 rfl rfl)
theorem dX0_ways_4 : decode cX0_ways 4 = .ok (.iload_n 1, 1) := dk_27 (dk_at dksX0_ways_0 4 rfl rfl)
theorem dX0_ways_5 : decode cX0_ways 5 = .ok (.iload_n 2, 1) := dk_28 (dk_at dksX0_ways_0 5 rfl rfl)
theorem dX0_ways_6 : decode cX0_ways 6 = .ok (.iload_n 3, 1) := dk_29 (dk_at dksX0_ways_0 6 rfl rfl)
theorem dX0_ways_7 : decode cX0_ways 7 = .ok (.iload 4, 2) := dk_21 4 (dk_at dksX0_ways_0 7 rfl rfl)
theorem dX0_ways_9 : decode cX0_ways 9 = .ok (.invokevirtual 62, 3) := dk_182 0 62 (dk_at dksX0_ways_0 9 rfl rfl)
theorem dX0_ways_12 : decode cX0_ways 12 = .ok (.i2l, 1) := dk_133 (dk_at dksX0_ways_0 12 rfl rfl)
theorem dX0_ways_13 : decode cX0_ways 13 = .ok (.lastore, 1) := dk_80 (dk_at dksX0_ways_0 13 rfl rfl)
theorem dX0_ways_14 : decode cX0_ways 14 = .ok (.goto 11, 3) := dk_167 0 11 (dk_at dksX0_ways_0 14 rfl rfl)
theorem dX0_ways_17 : decode cX0_ways 17 = .ok (.astore 6, 2) := dk_58 6 (dk_at dksX0_ways_0 17 rfl rfl)
theorem dX0_ways_19 : decode cX0_ways 19 = .ok (.iconst 1, 1) := dk_4 (dk_at dksX0_ways_0 19 rfl rfl)
theorem dX0_ways_20 : decode cX0_ways 20 = .ok (.ireturn, 1) := dk_172 (dk_at dksX0_ways_0 20 rfl rfl)
theorem dX0_ways_21 : decode cX0_ways 21 = .ok (.astore 6, 2) := dk_58 6 (dk_at dksX0_ways_0 21 rfl rfl)
theorem dX0_ways_23 : decode cX0_ways 23 = .ok (.iconst 2, 1) := dk_5 (dk_at dksX0_ways_0 23 rfl rfl)
theorem dX0_ways_24 : decode cX0_ways 24 = .ok (.ireturn, 1) := dk_172 (dk_at dksX0_ways_1 0 rfl rfl)
theorem dX0_ways_25 : decode cX0_ways 25 = .ok (.iconst 0, 1) := dk_3 (dk_at dksX0_ways_1 1 rfl rfl)
theorem dX0_ways_26 : decode cX0_ways 26 = .ok (.ireturn, 1) := dk_172 (dk_at dksX0_ways_1 2 rfl rfl)
abbrev cX0_wayAt : ByteArray := method_17_code
def yX0_wayAt : MethodName := ⟨RX0, "wayAt", "(LLinkResolver;IIIII[J)I"⟩
def dkwX0_wayAt_1 : List UInt8 := [58, 7, 5, 172, 3, 172]
abbrev dktX0_wayAt_1 : List UInt8 := dkwX0_wayAt_1 ++ []
def dkwX0_wayAt_0 : List UInt8 := [25, 6, 3, 42, 27, 28, 29, 21, 4, 21, 5, 182, 0, 65, 133, 80, 167, 0, 11, 58, 7, 4, 172]
abbrev dktX0_wayAt_0 : List UInt8 := dkwX0_wayAt_0 ++ dktX0_wayAt_1
theorem dksX0_wayAt_0 : cX0_wayAt.data.toList.drop 0 = dktX0_wayAt_0 := by decide +kernel
theorem dksX0_wayAt_1 : cX0_wayAt.data.toList.drop 23 = dktX0_wayAt_1 := dk_seg dksX0_wayAt_0 23 rfl rfl
theorem dX0_wayAt_0 : decode cX0_wayAt 0 = .ok (.aload 6, 2) := dk_25 6 (dk_at dksX0_wayAt_0 0 rfl rfl)
theorem dX0_wayAt_2 : decode cX0_wayAt 2 = .ok (.iconst 0, 1) := dk_3 (dk_at dksX0_wayAt_0 2 rfl rfl)
theorem dX0_wayAt_3 : decode cX0_wayAt 3 = .ok (.aload_n 0, 1) := dk_42 (dk_at dksX0_wayAt_0 3 rfl rfl)
theorem dX0_wayAt_4 : decode cX0_wayAt 4 = .ok (.iload_n 1, 1) := dk_27 (dk_at dksX0_wayAt_0 4 rfl rfl)
theorem dX0_wayAt_5 : decode cX0_wayAt 5 = .ok (.iload_n 2, 1) := dk_28 (dk_at dksX0_wayAt_0 5 rfl rfl)
theorem dX0_wayAt_6 : decode cX0_wayAt 6 = .ok (.iload_n 3, 1) := dk_29 (dk_at dksX0_wayAt_0 6 rfl rfl)
theorem dX0_wayAt_7 : decode cX0_wayAt 7 = .ok (.iload 4, 2) := dk_21 4 (dk_at dksX0_wayAt_0 7 rfl rfl)
theorem dX0_wayAt_9 : decode cX0_wayAt 9 = .ok (.iload 5, 2) := dk_21 5 (dk_at dksX0_wayAt_0 9 rfl rfl)
theorem dX0_wayAt_11 : decode cX0_wayAt 11 = .ok (.invokevirtual 65, 3) := dk_182 0 65 (dk_at dksX0_wayAt_0 11 rfl rfl)
theorem dX0_wayAt_14 : decode cX0_wayAt 14 = .ok (.i2l, 1) := dk_133 (dk_at dksX0_wayAt_0 14 rfl rfl)
theorem dX0_wayAt_15 : decode cX0_wayAt 15 = .ok (.lastore, 1) := dk_80 (dk_at dksX0_wayAt_0 15 rfl rfl)
theorem dX0_wayAt_16 : decode cX0_wayAt 16 = .ok (.goto 11, 3) := dk_167 0 11 (dk_at dksX0_wayAt_0 16 rfl rfl)
theorem dX0_wayAt_19 : decode cX0_wayAt 19 = .ok (.astore 7, 2) := dk_58 7 (dk_at dksX0_wayAt_0 19 rfl rfl)
theorem dX0_wayAt_21 : decode cX0_wayAt 21 = .ok (.iconst 1, 1) := dk_4 (dk_at dksX0_wayAt_0 21 rfl rfl)
theorem dX0_wayAt_22 : decode cX0_wayAt 22 = .ok (.ireturn, 1) := dk_172 (dk_at dksX0_wayAt_0 22 rfl rfl)
theorem dX0_wayAt_23 : decode cX0_wayAt 23 = .ok (.astore 7, 2) := dk_58 7 (dk_at dksX0_wayAt_1 0 rfl rfl)
theorem dX0_wayAt_25 : decode cX0_wayAt 25 = .ok (.iconst 2, 1) := dk_5 (dk_at dksX0_wayAt_1 2 rfl rfl)
theorem dX0_wayAt_26 : decode cX0_wayAt 26 = .ok (.ireturn, 1) := dk_172 (dk_at dksX0_wayAt_1 3 rfl rfl)
theorem dX0_wayAt_27 : decode cX0_wayAt 27 = .ok (.iconst 0, 1) := dk_3 (dk_at dksX0_wayAt_1 4 rfl rfl)
theorem dX0_wayAt_28 : decode cX0_wayAt 28 = .ok (.ireturn, 1) := dk_172 (dk_at dksX0_wayAt_1 5 rfl rfl)
abbrev cX0_gap : ByteArray := method_18_code
def yX0_gap : MethodName := ⟨RX0, "gap", "(LLinkResolver;II[J)I"⟩
def dkwX0_gap_0 : List UInt8 := [45, 3, 42, 27, 28, 182, 0, 69, 133, 80, 167, 0, 11, 58, 4, 4, 172, 58, 4, 5, 172, 3, 172]
abbrev dktX0_gap_0 : List UInt8 := dkwX0_gap_0 ++ []
theorem dksX0_gap_0 : cX0_gap.data.toList.drop 0 = dktX0_gap_0 := by decide +kernel
theorem dX0_gap_0 : decode cX0_gap 0 = .ok (.aload_n 3, 1) := dk_45 (dk_at dksX0_gap_0 0 rfl rfl)
theorem dX0_gap_1 : decode cX0_gap 1 = .ok (.iconst 0, 1) := dk_3 (dk_at dksX0_gap_0 1 rfl rfl)
theorem dX0_gap_2 : decode cX0_gap 2 = .ok (.aload_n 0, 1) := dk_42 (dk_at dksX0_gap_0 2 rfl rfl)
theorem dX0_gap_3 : decode cX0_gap 3 = .ok (.iload_n 1, 1) := dk_27 (dk_at dksX0_gap_0 3 rfl rfl)
theorem dX0_gap_4 : decode cX0_gap 4 = .ok (.iload_n 2, 1) := dk_28 (dk_at dksX0_gap_0 4 rfl rfl)
theorem dX0_gap_5 : decode cX0_gap 5 = .ok (.invokevirtual 69, 3) := dk_182 0 69 (dk_at dksX0_gap_0 5 rfl rfl)
theorem dX0_gap_8 : decode cX0_gap 8 = .ok (.i2l, 1) := dk_133 (dk_at dksX0_gap_0 8 rfl rfl)
theorem dX0_gap_9 : decode cX0_gap 9 = .ok (.lastore, 1) := dk_80 (dk_at dksX0_gap_0 9 rfl rfl)
theorem dX0_gap_10 : decode cX0_gap 10 = .ok (.goto 11, 3) := dk_167 0 11 (dk_at dksX0_gap_0 10 rfl rfl)
theorem dX0_gap_13 : decode cX0_gap 13 = .ok (.astore 4, 2) := dk_58 4 (dk_at dksX0_gap_0 13 rfl rfl)
theorem dX0_gap_15 : decode cX0_gap 15 = .ok (.iconst 1, 1) := dk_4 (dk_at dksX0_gap_0 15 rfl rfl)
theorem dX0_gap_16 : decode cX0_gap 16 = .ok (.ireturn, 1) := dk_172 (dk_at dksX0_gap_0 16 rfl rfl)
theorem dX0_gap_17 : decode cX0_gap 17 = .ok (.astore 4, 2) := dk_58 4 (dk_at dksX0_gap_0 17 rfl rfl)
theorem dX0_gap_19 : decode cX0_gap 19 = .ok (.iconst 2, 1) := dk_5 (dk_at dksX0_gap_0 19 rfl rfl)
theorem dX0_gap_20 : decode cX0_gap 20 = .ok (.ireturn, 1) := dk_172 (dk_at dksX0_gap_0 20 rfl rfl)
theorem dX0_gap_21 : decode cX0_gap 21 = .ok (.iconst 0, 1) := dk_3 (dk_at dksX0_gap_0 21 rfl rfl)
theorem dX0_gap_22 : decode cX0_gap 22 = .ok (.ireturn, 1) := dk_172 (dk_at dksX0_gap_0 22 rfl rfl)
abbrev cX0_doubles : ByteArray := method_19_code
def yX0_doubles : MethodName := ⟨RX0, "doubles", "(LLinkResolver;II[J)I"⟩
def dkwX0_doubles_0 : List UInt8 := [45, 3, 42, 27, 28, 182, 0, 72, 133, 80, 167, 0, 11, 58, 4, 4, 172, 58, 4, 5, 172, 3, 172]
abbrev dktX0_doubles_0 : List UInt8 := dkwX0_doubles_0 ++ []
theorem dksX0_doubles_0 : cX0_doubles.data.toList.drop 0 = dktX0_doubles_0 := by decide +kernel
theorem dX0_doubles_0 : decode cX0_doubles 0 = .ok (.aload_n 3, 1) := dk_45 (dk_at dksX0_doubles_0 0 rfl rfl)
theorem dX0_doubles_1 : decode cX0_doubles 1 = .ok (.iconst 0, 1) := dk_3 (dk_at dksX0_doubles_0 1 rfl rfl)
theorem dX0_doubles_2 : decode cX0_doubles 2 = .ok (.aload_n 0, 1) := dk_42 (dk_at dksX0_doubles_0 2 rfl rfl)
theorem dX0_doubles_3 : decode cX0_doubles 3 = .ok (.iload_n 1, 1) := dk_27 (dk_at dksX0_doubles_0 3 rfl rfl)
theorem dX0_doubles_4 : decode cX0_doubles 4 = .ok (.iload_n 2, 1) := dk_28 (dk_at dksX0_doubles_0 4 rfl rfl)
theorem dX0_doubles_5 : decode cX0_doubles 5 = .ok (.invokevirtual 72, 3) := dk_182 0 72 (dk_at dksX0_doubles_0 5 rfl rfl)
theorem dX0_doubles_8 : decode cX0_doubles 8 = .ok (.i2l, 1) := dk_133 (dk_at dksX0_doubles_0 8 rfl rfl)
theorem dX0_doubles_9 : decode cX0_doubles 9 = .ok (.lastore, 1) := dk_80 (dk_at dksX0_doubles_0 9 rfl rfl)
theorem dX0_doubles_10 : decode cX0_doubles 10 = .ok (.goto 11, 3) := dk_167 0 11 (dk_at dksX0_doubles_0 10 rfl rfl)
theorem dX0_doubles_13 : decode cX0_doubles 13 = .ok (.astore 4, 2) := dk_58 4 (dk_at dksX0_doubles_0 13 rfl rfl)
theorem dX0_doubles_15 : decode cX0_doubles 15 = .ok (.iconst 1, 1) := dk_4 (dk_at dksX0_doubles_0 15 rfl rfl)
theorem dX0_doubles_16 : decode cX0_doubles 16 = .ok (.ireturn, 1) := dk_172 (dk_at dksX0_doubles_0 16 rfl rfl)
theorem dX0_doubles_17 : decode cX0_doubles 17 = .ok (.astore 4, 2) := dk_58 4 (dk_at dksX0_doubles_0 17 rfl rfl)
theorem dX0_doubles_19 : decode cX0_doubles 19 = .ok (.iconst 2, 1) := dk_5 (dk_at dksX0_doubles_0 19 rfl rfl)
theorem dX0_doubles_20 : decode cX0_doubles 20 = .ok (.ireturn, 1) := dk_172 (dk_at dksX0_doubles_0 20 rfl rfl)
theorem dX0_doubles_21 : decode cX0_doubles 21 = .ok (.iconst 0, 1) := dk_3 (dk_at dksX0_doubles_0 21 rfl rfl)
theorem dX0_doubles_22 : decode cX0_doubles 22 = .ok (.ireturn, 1) := dk_172 (dk_at dksX0_doubles_0 22 rfl rfl)
abbrev cX0_isNeedless : ByteArray := method_20_code
def yX0_isNeedless : MethodName := ⟨RX0, "isNeedless", "(LLinkResolver;I[J)I"⟩
def dkwX0_isNeedless_0 : List UInt8 := [44, 3, 42, 27, 182, 0, 75, 153, 0, 7, 10, 167, 0, 4, 9, 80, 167, 0, 6, 78, 4, 172, 3, 172]
abbrev dktX0_isNeedless_0 : List UInt8 := dkwX0_isNeedless_0 ++ []
theorem dksX0_isNeedless_0 : cX0_isNeedless.data.toList.drop 0 = dktX0_isNeedless_0 := by decide +kernel
theorem dX0_isNeedless_0 : decode cX0_isNeedless 0 = .ok (.aload_n 2, 1) := dk_44 (dk_at dksX0_isNeedless_0 0 rfl rfl)
theorem dX0_isNeedless_1 : decode cX0_isNeedless 1 = .ok (.iconst 0, 1) := dk_3 (dk_at dksX0_isNeedless_0 1 rfl rfl)
theorem dX0_isNeedless_2 : decode cX0_isNeedless 2 = .ok (.aload_n 0, 1) := dk_42 (dk_at dksX0_isNeedless_0 2 rfl rfl)
theorem dX0_isNeedless_3 : decode cX0_isNeedless 3 = .ok (.iload_n 1, 1) := dk_27 (dk_at dksX0_isNeedless_0 3 rfl rfl)
theorem dX0_isNeedless_4 : decode cX0_isNeedless 4 = .ok (.invokevirtual 75, 3) := dk_182 0 75 (dk_at dksX0_isNeedless_0 4 rfl rfl)
theorem dX0_isNeedless_7 : decode cX0_isNeedless 7 = .ok (.ifCond .eq 7, 3) := dk_153 0 7 (dk_at dksX0_isNeedless_0 7 rfl rfl)
theorem dX0_isNeedless_10 : decode cX0_isNeedless 10 = .ok (.lconst 1, 1) := dk_10 (dk_at dksX0_isNeedless_0 10 rfl rfl)
theorem dX0_isNeedless_11 : decode cX0_isNeedless 11 = .ok (.goto 4, 3) := dk_167 0 4 (dk_at dksX0_isNeedless_0 11 rfl rfl)
theorem dX0_isNeedless_14 : decode cX0_isNeedless 14 = .ok (.lconst 0, 1) := dk_9 (dk_at dksX0_isNeedless_0 14 rfl rfl)
theorem dX0_isNeedless_15 : decode cX0_isNeedless 15 = .ok (.lastore, 1) := dk_80 (dk_at dksX0_isNeedless_0 15 rfl rfl)
theorem dX0_isNeedless_16 : decode cX0_isNeedless 16 = .ok (.goto 6, 3) := dk_167 0 6 (dk_at dksX0_isNeedless_0 16 rfl rfl)
theorem dX0_isNeedless_19 : decode cX0_isNeedless 19 = .ok (.astore_n 3, 1) := dk_78 (dk_at dksX0_isNeedless_0 19 rfl rfl)
theorem dX0_isNeedless_20 : decode cX0_isNeedless 20 = .ok (.iconst 1, 1) := dk_4 (dk_at dksX0_isNeedless_0 20 rfl rfl)
theorem dX0_isNeedless_21 : decode cX0_isNeedless 21 = .ok (.ireturn, 1) := dk_172 (dk_at dksX0_isNeedless_0 21 rfl rfl)
theorem dX0_isNeedless_22 : decode cX0_isNeedless 22 = .ok (.iconst 0, 1) := dk_3 (dk_at dksX0_isNeedless_0 22 rfl rfl)
theorem dX0_isNeedless_23 : decode cX0_isNeedless 23 = .ok (.ireturn, 1) := dk_172 (dk_at dksX0_isNeedless_0 23 rfl rfl)
theorem q28 : (Jvm.Cond.initialized "LinkResolverLaw") ∈ lw_all := lw_g (lw_at lw_m1 0 rfl) rfl
theorem q53 : (Jvm.Cond.classLink "LinkResolverLaw" (8 : Nat) "LinkResolver") ∈ lw_all := lw_g (lw_at lw_m1 25 rfl) rfl
theorem q55 : (Jvm.Cond.methodLink "LinkResolverLaw" (79 : Nat) ({ cls := "LinkResolver", name := "<init>", desc := "()V" } : Jvm.MethodName)) ∈ lw_all := lw_g (lw_at lw_m1 27 rfl) rfl
theorem q97 : (Jvm.Cond.methodLink "LinkResolverLaw" (119 : Nat) ({ cls := "LinkResolver", name := "today", desc := "()I" } : Jvm.MethodName)) ∈ lw_all := lw_g (lw_at lw_m1 69 rfl) rfl
theorem q101 : (Jvm.Cond.methodLink "LinkResolverLaw" (83 : Nat) ({ cls := "LinkResolverLaw", name := "addTitle", desc := "(LLinkResolver;II[J)I" } : Jvm.MethodName)) ∈ lw_all := lw_g (lw_at lw_m1 73 rfl) rfl
theorem q102 : (Jvm.Cond.static ({ cls := "LinkResolverLaw", name := "addTitle", desc := "(LLinkResolver;II[J)I" } : Jvm.MethodName)) ∈ lw_all := lw_g (lw_at lw_m1 74 rfl) rfl
theorem q103 : (Jvm.Cond.codeWith ({ cls := "LinkResolverLaw", name := "addTitle", desc := "(LLinkResolver;II[J)I" } : Jvm.MethodName) method_3_code (5 : Nat) (Option.some Jvm.ClassFile.FieldType.int) [((0 : Nat), (10 : Nat), (13 : Nat), (13 : Nat)), ((0 : Nat), (10 : Nat), (17 : Nat), (15 : Nat))]) ∈ lw_all := lw_g (lw_at lw_m1 75 rfl) rfl
theorem q104 : (Jvm.Cond.classLink "LinkResolverLaw" (13 : Nat) "java/lang/IllegalArgumentException") ∈ lw_all := lw_g (lw_at lw_m1 76 rfl) rfl
theorem q105 : (Jvm.Cond.classLink "LinkResolverLaw" (15 : Nat) "java/lang/IllegalStateException") ∈ lw_all := lw_g (lw_at lw_m1 77 rfl) rfl
theorem q106 : (Jvm.Cond.methodLink "LinkResolverLaw" (7 : Nat) ({ cls := "LinkResolver", name := "addTitle", desc := "(II)I" } : Jvm.MethodName)) ∈ lw_all := lw_g (lw_at lw_m1 78 rfl) rfl
theorem q285 : (Jvm.Cond.methodLink "LinkResolverLaw" (93 : Nat) ({ cls := "LinkResolverLaw", name := "yearOf", desc := "(LLinkResolver;II[J)I" } : Jvm.MethodName)) ∈ lw_all := lw_g (lw_at lw_m2 17 rfl) rfl
theorem q286 : (Jvm.Cond.static ({ cls := "LinkResolverLaw", name := "yearOf", desc := "(LLinkResolver;II[J)I" } : Jvm.MethodName)) ∈ lw_all := lw_g (lw_at lw_m2 18 rfl) rfl
theorem q287 : (Jvm.Cond.codeWith ({ cls := "LinkResolverLaw", name := "yearOf", desc := "(LLinkResolver;II[J)I" } : Jvm.MethodName) method_4_code (5 : Nat) (Option.some Jvm.ClassFile.FieldType.int) [((0 : Nat), (10 : Nat), (13 : Nat), (20 : Nat)), ((0 : Nat), (10 : Nat), (17 : Nat), (13 : Nat))]) ∈ lw_all := lw_g (lw_at lw_m2 19 rfl) rfl
theorem q288 : (Jvm.Cond.classLink "LinkResolverLaw" (20 : Nat) "java/lang/IndexOutOfBoundsException") ∈ lw_all := lw_g (lw_at lw_m2 20 rfl) rfl
theorem q321 : (Jvm.Cond.methodLink "LinkResolverLaw" (17 : Nat) ({ cls := "LinkResolver", name := "yearOf", desc := "(II)I" } : Jvm.MethodName)) ∈ lw_all := lw_g (lw_at lw_m2 53 rfl) rfl
theorem q374 : (Jvm.Cond.methodLink "LinkResolverLaw" (96 : Nat) ({ cls := "LinkResolverLaw", name := "volumeOf", desc := "(LLinkResolver;II[J)I" } : Jvm.MethodName)) ∈ lw_all := lw_g (lw_at lw_m2 106 rfl) rfl
theorem q375 : (Jvm.Cond.static ({ cls := "LinkResolverLaw", name := "volumeOf", desc := "(LLinkResolver;II[J)I" } : Jvm.MethodName)) ∈ lw_all := lw_g (lw_at lw_m2 107 rfl) rfl
theorem q376 : (Jvm.Cond.codeWith ({ cls := "LinkResolverLaw", name := "volumeOf", desc := "(LLinkResolver;II[J)I" } : Jvm.MethodName) method_5_code (5 : Nat) (Option.some Jvm.ClassFile.FieldType.int) [((0 : Nat), (10 : Nat), (13 : Nat), (20 : Nat)), ((0 : Nat), (10 : Nat), (17 : Nat), (13 : Nat))]) ∈ lw_all := lw_g (lw_at lw_m2 108 rfl) rfl
theorem q377 : (Jvm.Cond.methodLink "LinkResolverLaw" (22 : Nat) ({ cls := "LinkResolver", name := "volumeOf", desc := "(II)I" } : Jvm.MethodName)) ∈ lw_all := lw_g (lw_at lw_m2 109 rfl) rfl
theorem q381 : (Jvm.Cond.methodLink "LinkResolverLaw" (99 : Nat) ({ cls := "LinkResolverLaw", name := "addPackage", desc := "(LLinkResolver;IIII[J)I" } : Jvm.MethodName)) ∈ lw_all := lw_g (lw_at lw_m2 113 rfl) rfl
theorem q382 : (Jvm.Cond.static ({ cls := "LinkResolverLaw", name := "addPackage", desc := "(LLinkResolver;IIII[J)I" } : Jvm.MethodName)) ∈ lw_all := lw_g (lw_at lw_m2 114 rfl) rfl
theorem q383 : (Jvm.Cond.codeWith ({ cls := "LinkResolverLaw", name := "addPackage", desc := "(LLinkResolver;IIII[J)I" } : Jvm.MethodName) method_6_code (7 : Nat) (Option.some Jvm.ClassFile.FieldType.int) [((0 : Nat), (14 : Nat), (17 : Nat), (13 : Nat)), ((0 : Nat), (14 : Nat), (21 : Nat), (15 : Nat))]) ∈ lw_all := lw_g (lw_at lw_m2 115 rfl) rfl
theorem q384 : (Jvm.Cond.methodLink "LinkResolverLaw" (25 : Nat) ({ cls := "LinkResolver", name := "addPackage", desc := "(IIII)I" } : Jvm.MethodName)) ∈ lw_all := lw_g (lw_at lw_m2 116 rfl) rfl
theorem q427 : (Jvm.Cond.methodLink "LinkResolverLaw" (103 : Nat) ({ cls := "LinkResolverLaw", name := "subscribe", desc := "(LLinkResolver;IZ[J)I" } : Jvm.MethodName)) ∈ lw_all := lw_g (lw_at lw_m2 159 rfl) rfl
theorem q428 : (Jvm.Cond.static ({ cls := "LinkResolverLaw", name := "subscribe", desc := "(LLinkResolver;IZ[J)I" } : Jvm.MethodName)) ∈ lw_all := lw_g (lw_at lw_m2 160 rfl) rfl
theorem q429 : (Jvm.Cond.codeWith ({ cls := "LinkResolverLaw", name := "subscribe", desc := "(LLinkResolver;IZ[J)I" } : Jvm.MethodName) method_7_code (5 : Nat) (Option.some Jvm.ClassFile.FieldType.int) [((0 : Nat), (17 : Nat), (20 : Nat), (20 : Nat))]) ∈ lw_all := lw_g (lw_at lw_m2 161 rfl) rfl
theorem q430 : (Jvm.Cond.methodLink "LinkResolverLaw" (29 : Nat) ({ cls := "LinkResolver", name := "subscribe", desc := "(IZ)Z" } : Jvm.MethodName)) ∈ lw_all := lw_g (lw_at lw_m2 162 rfl) rfl
theorem q468 : (Jvm.Cond.methodLink "LinkResolverLaw" (107 : Nat) ({ cls := "LinkResolverLaw", name := "come", desc := "(LLinkResolver;IIIII[J)I" } : Jvm.MethodName)) ∈ lw_all := lw_g (lw_at lw_m2 200 rfl) rfl
theorem q469 : (Jvm.Cond.static ({ cls := "LinkResolverLaw", name := "come", desc := "(LLinkResolver;IIIII[J)I" } : Jvm.MethodName)) ∈ lw_all := lw_g (lw_at lw_m2 201 rfl) rfl
theorem q470 : (Jvm.Cond.codeWith ({ cls := "LinkResolverLaw", name := "come", desc := "(LLinkResolver;IIIII[J)I" } : Jvm.MethodName) method_8_code (8 : Nat) (Option.some Jvm.ClassFile.FieldType.int) [((0 : Nat), (23 : Nat), (26 : Nat), (20 : Nat)), ((0 : Nat), (23 : Nat), (30 : Nat), (13 : Nat))]) ∈ lw_all := lw_g (lw_at lw_m2 202 rfl) rfl
theorem q471 : (Jvm.Cond.methodLink "LinkResolverLaw" (33 : Nat) ({ cls := "LinkResolver", name := "come", desc := "(IIIII)Z" } : Jvm.MethodName)) ∈ lw_all := lw_g (lw_at lw_m2 203 rfl) rfl
theorem q520 : (Jvm.Cond.methodLink "LinkResolverLaw" (111 : Nat) ({ cls := "LinkResolverLaw", name := "go", desc := "(LLinkResolver;II)I" } : Jvm.MethodName)) ∈ lw_all := lw_g (lw_at lw_m3 12 rfl) rfl
theorem q521 : (Jvm.Cond.static ({ cls := "LinkResolverLaw", name := "go", desc := "(LLinkResolver;II)I" } : Jvm.MethodName)) ∈ lw_all := lw_g (lw_at lw_m3 13 rfl) rfl
theorem q522 : (Jvm.Cond.codeWith ({ cls := "LinkResolverLaw", name := "go", desc := "(LLinkResolver;II)I" } : Jvm.MethodName) method_9_code (4 : Nat) (Option.some Jvm.ClassFile.FieldType.int) [((0 : Nat), (6 : Nat), (9 : Nat), (20 : Nat)), ((0 : Nat), (6 : Nat), (12 : Nat), (15 : Nat))]) ∈ lw_all := lw_g (lw_at lw_m3 14 rfl) rfl
theorem q523 : (Jvm.Cond.methodLink "LinkResolverLaw" (37 : Nat) ({ cls := "LinkResolver", name := "go", desc := "(II)V" } : Jvm.MethodName)) ∈ lw_all := lw_g (lw_at lw_m3 15 rfl) rfl
theorem q527 : (Jvm.Cond.methodLink "LinkResolverLaw" (115 : Nat) ({ cls := "LinkResolverLaw", name := "pass", desc := "(LLinkResolver;I[J)I" } : Jvm.MethodName)) ∈ lw_all := lw_g (lw_at lw_m3 19 rfl) rfl
theorem q528 : (Jvm.Cond.static ({ cls := "LinkResolverLaw", name := "pass", desc := "(LLinkResolver;I[J)I" } : Jvm.MethodName)) ∈ lw_all := lw_g (lw_at lw_m3 20 rfl) rfl
theorem q529 : (Jvm.Cond.codeWith ({ cls := "LinkResolverLaw", name := "pass", desc := "(LLinkResolver;I[J)I" } : Jvm.MethodName) method_10_code (4 : Nat) (Option.some Jvm.ClassFile.FieldType.int) [((0 : Nat), (9 : Nat), (12 : Nat), (13 : Nat)), ((0 : Nat), (9 : Nat), (15 : Nat), (15 : Nat))]) ∈ lw_all := lw_g (lw_at lw_m3 21 rfl) rfl
theorem q530 : (Jvm.Cond.methodLink "LinkResolverLaw" (41 : Nat) ({ cls := "LinkResolver", name := "pass", desc := "(I)I" } : Jvm.MethodName)) ∈ lw_all := lw_g (lw_at lw_m3 22 rfl) rfl
theorem q534 : (Jvm.Cond.methodLink "LinkResolverLaw" (123 : Nat) ({ cls := "LinkResolverLaw", name := "isSubscribed", desc := "(LLinkResolver;II[J)I" } : Jvm.MethodName)) ∈ lw_all := lw_g (lw_at lw_m3 26 rfl) rfl
theorem q535 : (Jvm.Cond.static ({ cls := "LinkResolverLaw", name := "isSubscribed", desc := "(LLinkResolver;II[J)I" } : Jvm.MethodName)) ∈ lw_all := lw_g (lw_at lw_m3 27 rfl) rfl
theorem q536 : (Jvm.Cond.codeWith ({ cls := "LinkResolverLaw", name := "isSubscribed", desc := "(LLinkResolver;II[J)I" } : Jvm.MethodName) method_11_code (5 : Nat) (Option.some Jvm.ClassFile.FieldType.int) [((0 : Nat), (17 : Nat), (20 : Nat), (20 : Nat)), ((0 : Nat), (17 : Nat), (24 : Nat), (13 : Nat))]) ∈ lw_all := lw_g (lw_at lw_m3 28 rfl) rfl
theorem q537 : (Jvm.Cond.methodLink "LinkResolverLaw" (45 : Nat) ({ cls := "LinkResolver", name := "isSubscribed", desc := "(II)Z" } : Jvm.MethodName)) ∈ lw_all := lw_g (lw_at lw_m3 29 rfl) rfl
theorem q541 : (Jvm.Cond.methodLink "LinkResolverLaw" (126 : Nat) ({ cls := "LinkResolverLaw", name := "isIn", desc := "(LLinkResolver;III[J)I" } : Jvm.MethodName)) ∈ lw_all := lw_g (lw_at lw_m3 33 rfl) rfl
theorem q542 : (Jvm.Cond.static ({ cls := "LinkResolverLaw", name := "isIn", desc := "(LLinkResolver;III[J)I" } : Jvm.MethodName)) ∈ lw_all := lw_g (lw_at lw_m3 34 rfl) rfl
theorem q543 : (Jvm.Cond.codeWith ({ cls := "LinkResolverLaw", name := "isIn", desc := "(LLinkResolver;III[J)I" } : Jvm.MethodName) method_12_code (6 : Nat) (Option.some Jvm.ClassFile.FieldType.int) [((0 : Nat), (19 : Nat), (22 : Nat), (20 : Nat)), ((0 : Nat), (19 : Nat), (26 : Nat), (13 : Nat))]) ∈ lw_all := lw_g (lw_at lw_m3 35 rfl) rfl
theorem q544 : (Jvm.Cond.methodLink "LinkResolverLaw" (49 : Nat) ({ cls := "LinkResolver", name := "isIn", desc := "(III)Z" } : Jvm.MethodName)) ∈ lw_all := lw_g (lw_at lw_m3 36 rfl) rfl
theorem q548 : (Jvm.Cond.methodLink "LinkResolverLaw" (130 : Nat) ({ cls := "LinkResolverLaw", name := "report", desc := "(LLinkResolver;II[J)I" } : Jvm.MethodName)) ∈ lw_all := lw_g (lw_at lw_m3 40 rfl) rfl
theorem q549 : (Jvm.Cond.static ({ cls := "LinkResolverLaw", name := "report", desc := "(LLinkResolver;II[J)I" } : Jvm.MethodName)) ∈ lw_all := lw_g (lw_at lw_m3 41 rfl) rfl
theorem q550 : (Jvm.Cond.codeWith ({ cls := "LinkResolverLaw", name := "report", desc := "(LLinkResolver;II[J)I" } : Jvm.MethodName) method_13_code (5 : Nat) (Option.some Jvm.ClassFile.FieldType.int) [((0 : Nat), (10 : Nat), (13 : Nat), (20 : Nat))]) ∈ lw_all := lw_g (lw_at lw_m3 42 rfl) rfl
theorem q551 : (Jvm.Cond.methodLink "LinkResolverLaw" (53 : Nat) ({ cls := "LinkResolver", name := "report", desc := "(II)I" } : Jvm.MethodName)) ∈ lw_all := lw_g (lw_at lw_m3 43 rfl) rfl
theorem q555 : (Jvm.Cond.methodLink "LinkResolverLaw" (133 : Nat) ({ cls := "LinkResolverLaw", name := "mend", desc := "(LLinkResolver;II[J)I" } : Jvm.MethodName)) ∈ lw_all := lw_g (lw_at lw_m3 47 rfl) rfl
theorem q556 : (Jvm.Cond.static ({ cls := "LinkResolverLaw", name := "mend", desc := "(LLinkResolver;II[J)I" } : Jvm.MethodName)) ∈ lw_all := lw_g (lw_at lw_m3 48 rfl) rfl
theorem q557 : (Jvm.Cond.codeWith ({ cls := "LinkResolverLaw", name := "mend", desc := "(LLinkResolver;II[J)I" } : Jvm.MethodName) method_14_code (5 : Nat) (Option.some Jvm.ClassFile.FieldType.int) [((0 : Nat), (10 : Nat), (13 : Nat), (20 : Nat))]) ∈ lw_all := lw_g (lw_at lw_m3 49 rfl) rfl
theorem q558 : (Jvm.Cond.methodLink "LinkResolverLaw" (56 : Nat) ({ cls := "LinkResolver", name := "mend", desc := "(II)I" } : Jvm.MethodName)) ∈ lw_all := lw_g (lw_at lw_m3 50 rfl) rfl
theorem q562 : (Jvm.Cond.methodLink "LinkResolverLaw" (136 : Nat) ({ cls := "LinkResolverLaw", name := "covers", desc := "(LLinkResolver;IIIII[J)I" } : Jvm.MethodName)) ∈ lw_all := lw_g (lw_at lw_m3 54 rfl) rfl
theorem q563 : (Jvm.Cond.static ({ cls := "LinkResolverLaw", name := "covers", desc := "(LLinkResolver;IIIII[J)I" } : Jvm.MethodName)) ∈ lw_all := lw_g (lw_at lw_m3 55 rfl) rfl
theorem q564 : (Jvm.Cond.codeWith ({ cls := "LinkResolverLaw", name := "covers", desc := "(LLinkResolver;IIIII[J)I" } : Jvm.MethodName) method_15_code (8 : Nat) (Option.some Jvm.ClassFile.FieldType.int) [((0 : Nat), (23 : Nat), (26 : Nat), (20 : Nat)), ((0 : Nat), (23 : Nat), (30 : Nat), (13 : Nat))]) ∈ lw_all := lw_g (lw_at lw_m3 56 rfl) rfl
theorem q565 : (Jvm.Cond.methodLink "LinkResolverLaw" (59 : Nat) ({ cls := "LinkResolver", name := "covers", desc := "(IIIII)Z" } : Jvm.MethodName)) ∈ lw_all := lw_g (lw_at lw_m3 57 rfl) rfl
theorem q601 : (Jvm.Cond.methodLink "LinkResolverLaw" (139 : Nat) ({ cls := "LinkResolverLaw", name := "ways", desc := "(LLinkResolver;IIII[J)I" } : Jvm.MethodName)) ∈ lw_all := lw_g (lw_at lw_m3 93 rfl) rfl
theorem q602 : (Jvm.Cond.static ({ cls := "LinkResolverLaw", name := "ways", desc := "(LLinkResolver;IIII[J)I" } : Jvm.MethodName)) ∈ lw_all := lw_g (lw_at lw_m3 94 rfl) rfl
theorem q603 : (Jvm.Cond.codeWith ({ cls := "LinkResolverLaw", name := "ways", desc := "(LLinkResolver;IIII[J)I" } : Jvm.MethodName) method_16_code (7 : Nat) (Option.some Jvm.ClassFile.FieldType.int) [((0 : Nat), (14 : Nat), (17 : Nat), (20 : Nat)), ((0 : Nat), (14 : Nat), (21 : Nat), (13 : Nat))]) ∈ lw_all := lw_g (lw_at lw_m3 95 rfl) rfl
theorem q604 : (Jvm.Cond.methodLink "LinkResolverLaw" (62 : Nat) ({ cls := "LinkResolver", name := "ways", desc := "(IIII)I" } : Jvm.MethodName)) ∈ lw_all := lw_g (lw_at lw_m3 96 rfl) rfl
theorem q612 : (Jvm.Cond.methodLink "LinkResolverLaw" (142 : Nat) ({ cls := "LinkResolverLaw", name := "wayAt", desc := "(LLinkResolver;IIIII[J)I" } : Jvm.MethodName)) ∈ lw_all := lw_g (lw_at lw_m3 104 rfl) rfl
theorem q613 : (Jvm.Cond.static ({ cls := "LinkResolverLaw", name := "wayAt", desc := "(LLinkResolver;IIIII[J)I" } : Jvm.MethodName)) ∈ lw_all := lw_g (lw_at lw_m3 105 rfl) rfl
theorem q614 : (Jvm.Cond.codeWith ({ cls := "LinkResolverLaw", name := "wayAt", desc := "(LLinkResolver;IIIII[J)I" } : Jvm.MethodName) method_17_code (8 : Nat) (Option.some Jvm.ClassFile.FieldType.int) [((0 : Nat), (16 : Nat), (19 : Nat), (13 : Nat)), ((0 : Nat), (16 : Nat), (23 : Nat), (20 : Nat))]) ∈ lw_all := lw_g (lw_at lw_m3 106 rfl) rfl
theorem q615 : (Jvm.Cond.methodLink "LinkResolverLaw" (65 : Nat) ({ cls := "LinkResolver", name := "wayAt", desc := "(IIIII)I" } : Jvm.MethodName)) ∈ lw_all := lw_g (lw_at lw_m3 107 rfl) rfl
theorem q627 : (Jvm.Cond.methodLink "LinkResolverLaw" (145 : Nat) ({ cls := "LinkResolverLaw", name := "gap", desc := "(LLinkResolver;II[J)I" } : Jvm.MethodName)) ∈ lw_all := lw_g (lw_at lw_m3 119 rfl) rfl
theorem q628 : (Jvm.Cond.static ({ cls := "LinkResolverLaw", name := "gap", desc := "(LLinkResolver;II[J)I" } : Jvm.MethodName)) ∈ lw_all := lw_g (lw_at lw_m3 120 rfl) rfl
theorem q629 : (Jvm.Cond.codeWith ({ cls := "LinkResolverLaw", name := "gap", desc := "(LLinkResolver;II[J)I" } : Jvm.MethodName) method_18_code (5 : Nat) (Option.some Jvm.ClassFile.FieldType.int) [((0 : Nat), (10 : Nat), (13 : Nat), (20 : Nat)), ((0 : Nat), (10 : Nat), (17 : Nat), (13 : Nat))]) ∈ lw_all := lw_g (lw_at lw_m3 121 rfl) rfl
theorem q630 : (Jvm.Cond.methodLink "LinkResolverLaw" (69 : Nat) ({ cls := "LinkResolver", name := "gap", desc := "(II)I" } : Jvm.MethodName)) ∈ lw_all := lw_g (lw_at lw_m3 122 rfl) rfl
theorem q639 : (Jvm.Cond.methodLink "LinkResolverLaw" (148 : Nat) ({ cls := "LinkResolverLaw", name := "doubles", desc := "(LLinkResolver;II[J)I" } : Jvm.MethodName)) ∈ lw_all := lw_g (lw_at lw_m3 131 rfl) rfl
theorem q640 : (Jvm.Cond.static ({ cls := "LinkResolverLaw", name := "doubles", desc := "(LLinkResolver;II[J)I" } : Jvm.MethodName)) ∈ lw_all := lw_g (lw_at lw_m3 132 rfl) rfl
theorem q641 : (Jvm.Cond.codeWith ({ cls := "LinkResolverLaw", name := "doubles", desc := "(LLinkResolver;II[J)I" } : Jvm.MethodName) method_19_code (5 : Nat) (Option.some Jvm.ClassFile.FieldType.int) [((0 : Nat), (10 : Nat), (13 : Nat), (20 : Nat)), ((0 : Nat), (10 : Nat), (17 : Nat), (13 : Nat))]) ∈ lw_all := lw_g (lw_at lw_m3 133 rfl) rfl
theorem q642 : (Jvm.Cond.methodLink "LinkResolverLaw" (72 : Nat) ({ cls := "LinkResolver", name := "doubles", desc := "(II)I" } : Jvm.MethodName)) ∈ lw_all := lw_g (lw_at lw_m3 134 rfl) rfl
theorem q646 : (Jvm.Cond.methodLink "LinkResolverLaw" (151 : Nat) ({ cls := "LinkResolverLaw", name := "isNeedless", desc := "(LLinkResolver;I[J)I" } : Jvm.MethodName)) ∈ lw_all := lw_g (lw_at lw_m3 138 rfl) rfl
theorem q647 : (Jvm.Cond.static ({ cls := "LinkResolverLaw", name := "isNeedless", desc := "(LLinkResolver;I[J)I" } : Jvm.MethodName)) ∈ lw_all := lw_g (lw_at lw_m3 139 rfl) rfl
theorem q648 : (Jvm.Cond.codeWith ({ cls := "LinkResolverLaw", name := "isNeedless", desc := "(LLinkResolver;I[J)I" } : Jvm.MethodName) method_20_code (4 : Nat) (Option.some Jvm.ClassFile.FieldType.int) [((0 : Nat), (16 : Nat), (19 : Nat), (20 : Nat))]) ∈ lw_all := lw_g (lw_at lw_m3 140 rfl) rfl
theorem q649 : (Jvm.Cond.methodLink "LinkResolverLaw" (75 : Nat) ({ cls := "LinkResolver", name := "isNeedless", desc := "(I)Z" } : Jvm.MethodName)) ∈ lw_all := lw_g (lw_at lw_m3 141 rfl) rfl
theorem q658 : (Jvm.Cond.classLink "LinkResolverLaw" (80 : Nat) "LinkResolverModel") ∈ lw_all := lw_g (lw_at lw_m3 150 rfl) rfl
theorem q660 : (Jvm.Cond.methodLink "LinkResolverLaw" (82 : Nat) ({ cls := "LinkResolverModel", name := "<init>", desc := "()V" } : Jvm.MethodName)) ∈ lw_all := lw_g (lw_at lw_m3 152 rfl) rfl
theorem q720 : (Jvm.Cond.methodLink "LinkResolverLaw" (89 : Nat) ({ cls := "LinkResolverModel", name := "thrown", desc := "()I" } : Jvm.MethodName)) ∈ lw_all := lw_g (lw_at lw_m3 212 rfl) rfl
theorem q724 : (Jvm.Cond.methodLink "LinkResolverLaw" (88 : Nat) ({ cls := "LinkResolverModel", name := "addTitle", desc := "(II)I" } : Jvm.MethodName)) ∈ lw_all := lw_g (lw_at lw_m3 216 rfl) rfl
theorem q735 : (Jvm.Cond.methodLink "LinkResolverLaw" (95 : Nat) ({ cls := "LinkResolverModel", name := "yearOf", desc := "(II)I" } : Jvm.MethodName)) ∈ lw_all := lw_g (lw_at lw_m3 227 rfl) rfl
theorem q743 : (Jvm.Cond.methodLink "LinkResolverLaw" (98 : Nat) ({ cls := "LinkResolverModel", name := "volumeOf", desc := "(II)I" } : Jvm.MethodName)) ∈ lw_all := lw_g (lw_at lw_m3 235 rfl) rfl
theorem q747 : (Jvm.Cond.methodLink "LinkResolverLaw" (102 : Nat) ({ cls := "LinkResolverModel", name := "addPackage", desc := "(IIII)I" } : Jvm.MethodName)) ∈ lw_all := lw_g (lw_at lw_m3 239 rfl) rfl
theorem q751 : (Jvm.Cond.methodLink "LinkResolverLaw" (106 : Nat) ({ cls := "LinkResolverModel", name := "subscribe", desc := "(IZ)Z" } : Jvm.MethodName)) ∈ lw_all := lw_g (lw_at lw_m4 3 rfl) rfl
theorem q770 : (Jvm.Cond.methodLink "LinkResolverLaw" (110 : Nat) ({ cls := "LinkResolverModel", name := "come", desc := "(IIIII)Z" } : Jvm.MethodName)) ∈ lw_all := lw_g (lw_at lw_m4 22 rfl) rfl
theorem q774 : (Jvm.Cond.methodLink "LinkResolverLaw" (114 : Nat) ({ cls := "LinkResolverModel", name := "go", desc := "(II)V" } : Jvm.MethodName)) ∈ lw_all := lw_g (lw_at lw_m4 26 rfl) rfl
theorem q782 : (Jvm.Cond.methodLink "LinkResolverLaw" (118 : Nat) ({ cls := "LinkResolverModel", name := "pass", desc := "(I)I" } : Jvm.MethodName)) ∈ lw_all := lw_g (lw_at lw_m4 34 rfl) rfl
theorem q786 : (Jvm.Cond.methodLink "LinkResolverLaw" (122 : Nat) ({ cls := "LinkResolverModel", name := "today", desc := "()I" } : Jvm.MethodName)) ∈ lw_all := lw_g (lw_at lw_m4 38 rfl) rfl
theorem q790 : (Jvm.Cond.methodLink "LinkResolverLaw" (125 : Nat) ({ cls := "LinkResolverModel", name := "isSubscribed", desc := "(II)Z" } : Jvm.MethodName)) ∈ lw_all := lw_g (lw_at lw_m4 42 rfl) rfl
theorem q794 : (Jvm.Cond.methodLink "LinkResolverLaw" (129 : Nat) ({ cls := "LinkResolverModel", name := "isIn", desc := "(III)Z" } : Jvm.MethodName)) ∈ lw_all := lw_g (lw_at lw_m4 46 rfl) rfl
theorem q798 : (Jvm.Cond.methodLink "LinkResolverLaw" (132 : Nat) ({ cls := "LinkResolverModel", name := "report", desc := "(II)I" } : Jvm.MethodName)) ∈ lw_all := lw_g (lw_at lw_m4 50 rfl) rfl
theorem q802 : (Jvm.Cond.methodLink "LinkResolverLaw" (135 : Nat) ({ cls := "LinkResolverModel", name := "mend", desc := "(II)I" } : Jvm.MethodName)) ∈ lw_all := lw_g (lw_at lw_m4 54 rfl) rfl
theorem q806 : (Jvm.Cond.methodLink "LinkResolverLaw" (138 : Nat) ({ cls := "LinkResolverModel", name := "covers", desc := "(IIIII)Z" } : Jvm.MethodName)) ∈ lw_all := lw_g (lw_at lw_m4 58 rfl) rfl
theorem q830 : (Jvm.Cond.methodLink "LinkResolverLaw" (141 : Nat) ({ cls := "LinkResolverModel", name := "ways", desc := "(IIII)I" } : Jvm.MethodName)) ∈ lw_all := lw_g (lw_at lw_m4 82 rfl) rfl
theorem q838 : (Jvm.Cond.methodLink "LinkResolverLaw" (144 : Nat) ({ cls := "LinkResolverModel", name := "wayAt", desc := "(IIIII)I" } : Jvm.MethodName)) ∈ lw_all := lw_g (lw_at lw_m4 90 rfl) rfl
theorem q846 : (Jvm.Cond.methodLink "LinkResolverLaw" (147 : Nat) ({ cls := "LinkResolverModel", name := "gap", desc := "(II)I" } : Jvm.MethodName)) ∈ lw_all := lw_g (lw_at lw_m4 98 rfl) rfl
theorem q854 : (Jvm.Cond.methodLink "LinkResolverLaw" (150 : Nat) ({ cls := "LinkResolverModel", name := "doubles", desc := "(II)I" } : Jvm.MethodName)) ∈ lw_all := lw_g (lw_at lw_m4 106 rfl) rfl
theorem q858 : (Jvm.Cond.methodLink "LinkResolverLaw" (153 : Nat) ({ cls := "LinkResolverModel", name := "isNeedless", desc := "(I)Z" } : Jvm.MethodName)) ∈ lw_all := lw_g (lw_at lw_m4 110 rfl) rfl
