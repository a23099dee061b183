/-! CrowdedBinsModel -/
set_option maxRecDepth 100000
def RX5 : String := "CrowdedBinsModel"
def TX5 : u_T := fun k => match k with
  | 0 => ("CrowdedBinsModel", "s", "[I", true)
  | 1 => ("CrowdedBinsModel", "past", "[I", true)
  | 2 => ("CrowdedBinsModel", "kept", "[I", true)
  | 3 => ("CrowdedBinsModel", "known", "I", false)
  | 4 => ("CrowdedBinsModel", "refused", "[I", true)
  | 5 => ("CrowdedBinsModel", "changes", "I", false)
  | 6 => ("CrowdedBinsModel", "text", "[I", true)
  | 7 => ("CrowdedBinsModel", "typed", "I", false)
  | 8 => ("CrowdedBinsModel", "at", "I", false)
  | 9 => ("CrowdedBinsModel", "way", "[I", true)
  | 10 => ("CrowdedBinsModel", "nextKey", "[I", true)
  | 11 => ("CrowdedBinsModel", "lastKey", "[I", true)
  | 12 => ("CrowdedBinsModel", "knows", "[I", true)
  | 13 => ("CrowdedBinsModel", "held", "[I", true)
  | 14 => ("CrowdedBinsModel", "many", "I", false)
  | 15 => ("CrowdedBinsModel", "walk", "[I", true)
  | 16 => ("CrowdedBinsModel", "rootOver", "I", false)
  | 17 => ("CrowdedBinsModel", "from", "I", false)
  | 18 => ("CrowdedBinsModel", "to", "I", false)
  | _ => ("CrowdedBinsModel", "told", "I", false)
def tyX5 : Nat → FieldType := fun k => match k with
  | 0 => .array .int
  | 1 => .array .int
  | 2 => .array .int
  | 3 => .int
  | 4 => .array .int
  | 5 => .int
  | 6 => .array .int
  | 7 => .int
  | 8 => .int
  | 9 => .array .int
  | 10 => .array .int
  | 11 => .array .int
  | 12 => .array .int
  | 13 => .array .int
  | 14 => .int
  | 15 => .array .int
  | 16 => .int
  | 17 => .int
  | 18 => .int
  | _ => .int
abbrev wsX50 : List Cond := u_ws RX5 TX5 20
set_option maxRecDepth 100000 in
theorem nmX5 : ∀ a, a < 20 → ∀ b, b < 20 → a ≠ b → (TX5 a).2.1 ≠ (TX5 b).2.1 := by decide +kernel
set_option maxRecDepth 100000 in
theorem tyX5_ok : ∀ k, k < 20 → parseFieldDescriptor (TX5 k).2.2.1 = some (tyX5 k) := by decide +kernel
abbrev cX5_init : ByteArray := prog_15_method_1_code
def yX5_init : MethodName := ⟨RX5, "<init>", "()V"⟩
def dkwX5_init_5 : List UInt8 := [132, 1, 1, 167, 255, 241, 177]
abbrev dktX5_init_5 : List UInt8 := dkwX5_init_5 ++ []
def dkwX5_init_4 : List UInt8 := [16, 8, 79, 42, 180, 0, 7, 5, 4, 79, 3, 60, 27, 6, 162, 0, 16, 42, 180, 0, 25, 27, 2, 79]
abbrev dktX5_init_4 : List UInt8 := dkwX5_init_4 ++ dktX5_init_5
def dkwX5_init_3 : List UInt8 := [181, 0, 34, 42, 16, 50, 188, 10, 181, 0, 37, 42, 16, 50, 188, 10, 181, 0, 40, 42, 180, 0, 7, 4]
abbrev dktX5_init_3 : List UInt8 := dkwX5_init_3 ++ dktX5_init_4
def dkwX5_init_2 : List UInt8 := [6, 188, 10, 181, 0, 25, 42, 6, 188, 10, 181, 0, 28, 42, 6, 188, 10, 181, 0, 31, 42, 6, 188, 10]
abbrev dktX5_init_2 : List UInt8 := dkwX5_init_2 ++ dktX5_init_3
def dkwX5_init_1 : List UInt8 := [17, 0, 218, 188, 10, 181, 0, 16, 42, 8, 188, 10, 181, 0, 19, 42, 16, 120, 188, 10, 181, 0, 22, 42]
abbrev dktX5_init_1 : List UInt8 := dkwX5_init_1 ++ dktX5_init_2
def dkwX5_init_0 : List UInt8 := [42, 183, 0, 1, 42, 17, 0, 218, 188, 10, 181, 0, 7, 42, 17, 5, 28, 188, 10, 181, 0, 13, 42]
abbrev dktX5_init_0 : List UInt8 := dkwX5_init_0 ++ dktX5_init_1
theorem dksX5_init_0 : cX5_init.data.toList.drop 0 = dktX5_init_0 := by decide +kernel
theorem dksX5_init_1 : cX5_init.data.toList.drop 23 = dktX5_init_1 := dk_seg dksX5_init_0 23 rfl rfl
theorem dksX5_init_2 : cX5_init.data.toList.drop 47 = dktX5_init_2 := dk_seg dksX5_init_1 24 rfl rfl
theorem dksX5_init_3 : cX5_init.data.toList.drop 71 = dktX5_init_3 := dk_seg dksX5_init_2 24 rfl rfl
theorem dksX5_init_4 : cX5_init.data.toList.drop 95 = dktX5_init_4 := dk_seg dksX5_init_3 24 rfl rfl
theorem dksX5_init_5 : cX5_init.data.toList.drop 119 = dktX5_init_5 := dk_seg dksX5_init_4 24 rfl rfl
theorem dX5_init_0 : decode cX5_init 0 = .ok (.aload_n 0, 1) := dk_42 (dk_at dksX5_init_0 0 rfl rfl)
theorem dX5_init_1 : decode cX5_init 1 = .ok (.invokespecial 1, 3) := dk_183 0 1 (dk_at dksX5_init_0 1 rfl rfl)
theorem dX5_init_4 : decode cX5_init 4 = .ok (.aload_n 0, 1) := dk_42 (dk_at dksX5_init_0 4 rfl rfl)
theorem dX5_init_5 : decode cX5_init 5 = .ok (.sipush 218, 3) := dk_17 0 218 (dk_at dksX5_init_0 5 rfl rfl)
theorem dX5_init_8 : decode cX5_init 8 = .ok (.newarray .int, 2) := dk_188_10 (dk_at dksX5_init_0 8 rfl rfl)
theorem dX5_init_10 : decode cX5_init 10 = .ok (.putfield 7, 3) := dk_181 0 7 (dk_at dksX5_init_0 10 rfl rfl)
theorem dX5_init_13 : decode cX5_init 13 = .ok (.aload_n 0, 1) := dk_42 (dk_at dksX5_init_0 13 rfl rfl)
theorem dX5_init_14 : decode cX5_init 14 = .ok (.sipush 1308, 3) := dk_17 5 28 (dk_at dksX5_init_0 14 rfl rfl)
theorem dX5_init_17 : decode cX5_init 17 = .ok (.newarray .int, 2) := dk_188_10 (dk_at dksX5_init_0 17 rfl rfl)
theorem dX5_init_19 : decode cX5_init 19 = .ok (.putfield 13, 3) := dk_181 0 13 (dk_at dksX5_init_0 19 rfl rfl)
theorem dX5_init_22 : decode cX5_init 22 = .ok (.aload_n 0, 1) := dk_42 (dk_at dksX5_init_0 22 rfl rfl)
theorem dX5_init_23 : decode cX5_init 23 = .ok (.sipush 218, 3) := dk_17 0 218 (dk_at dksX5_init_1 0 rfl rfl)
theorem dX5_init_26 : decode cX5_init 26 = .ok (.newarray .int, 2) := dk_188_10 (dk_at dksX5_init_1 3 rfl rfl)
theorem dX5_init_28 : decode cX5_init 28 = .ok (.putfield 16, 3) := dk_181 0 16 (dk_at dksX5_init_1 5 rfl rfl)
theorem dX5_init_31 : decode cX5_init 31 = .ok (.aload_n 0, 1) := dk_42 (dk_at dksX5_init_1 8 rfl rfl)
theorem dX5_init_32 : decode cX5_init 32 = .ok (.iconst 5, 1) := dk_8 (dk_at dksX5_init_1 9 rfl rfl)
theorem dX5_init_33 : decode cX5_init 33 = .ok (.newarray .int, 2) := dk_188_10 (dk_at dksX5_init_1 10 rfl rfl)
theorem dX5_init_35 : decode cX5_init 35 = .ok (.putfield 19, 3) := dk_181 0 19 (dk_at dksX5_init_1 12 rfl rfl)
theorem dX5_init_38 : decode cX5_init 38 = .ok (.aload_n 0, 1) := dk_42 (dk_at dksX5_init_1 15 rfl rfl)
theorem dX5_init_39 : decode cX5_init 39 = .ok (.bipush 120, 2) := dk_16 120 (dk_at dksX5_init_1 16 rfl rfl)
theorem dX5_init_41 : decode cX5_init 41 = .ok (.newarray .int, 2) := dk_188_10 (dk_at dksX5_init_1 18 rfl rfl)
theorem dX5_init_43 : decode cX5_init 43 = .ok (.putfield 22, 3) := dk_181 0 22 (dk_at dksX5_init_1 20 rfl rfl)
theorem dX5_init_46 : decode cX5_init 46 = .ok (.aload_n 0, 1) := dk_42 (dk_at dksX5_init_1 23 rfl rfl)
theorem dX5_init_47 : decode cX5_init 47 = .ok (.iconst 3, 1) := dk_6 (dk_at dksX5_init_2 0 rfl rfl)
theorem dX5_init_48 : decode cX5_init 48 = .ok (.newarray .int, 2) := dk_188_10 (dk_at dksX5_init_2 1 rfl rfl)
theorem dX5_init_50 : decode cX5_init 50 = .ok (.putfield 25, 3) := dk_181 0 25 (dk_at dksX5_init_2 3 rfl rfl)
theorem dX5_init_53 : decode cX5_init 53 = .ok (.aload_n 0, 1) := dk_42 (dk_at dksX5_init_2 6 rfl rfl)
theorem dX5_init_54 : decode cX5_init 54 = .ok (.iconst 3, 1) := dk_6 (dk_at dksX5_init_2 7 rfl rfl)
theorem dX5_init_55 : decode cX5_init 55 = .ok (.newarray .int, 2) := dk_188_10 (dk_at dksX5_init_2 8 rfl rfl)
theorem dX5_init_57 : decode cX5_init 57 = .ok (.putfield 28, 3) := dk_181 0 28 (dk_at dksX5_init_2 10 rfl rfl)
theorem dX5_init_60 : decode cX5_init 60 = .ok (.aload_n 0, 1) := dk_42 (dk_at dksX5_init_2 13 rfl rfl)
theorem dX5_init_61 : decode cX5_init 61 = .ok (.iconst 3, 1) := dk_6 (dk_at dksX5_init_2 14 rfl rfl)
theorem dX5_init_62 : decode cX5_init 62 = .ok (.newarray .int, 2) := dk_188_10 (dk_at dksX5_init_2 15 rfl rfl)
theorem dX5_init_64 : decode cX5_init 64 = .ok (.putfield 31, 3) := dk_181 0 31 (dk_at dksX5_init_2 17 rfl rfl)
theorem dX5_init_67 : decode cX5_init 67 = .ok (.aload_n 0, 1) := dk_42 (dk_at dksX5_init_2 20 rfl rfl)
theorem dX5_init_68 : decode cX5_init 68 = .ok (.iconst 3, 1) := dk_6 (dk_at dksX5_init_2 21 rfl rfl)
theorem dX5_init_69 : decode cX5_init 69 = .ok (.newarray .int, 2) := dk_188_10 (dk_at dksX5_init_2 22 rfl rfl)
theorem dX5_init_71 : decode cX5_init 71 = .ok (.putfield 34, 3) := dk_181 0 34 (dk_at dksX5_init_3 0 rfl rfl)
theorem dX5_init_74 : decode cX5_init 74 = .ok (.aload_n 0, 1) := dk_42 (dk_at dksX5_init_3 3 rfl rfl)
theorem dX5_init_75 : decode cX5_init 75 = .ok (.bipush 50, 2) := dk_16 50 (dk_at dksX5_init_3 4 rfl rfl)
theorem dX5_init_77 : decode cX5_init 77 = .ok (.newarray .int, 2) := dk_188_10 (dk_at dksX5_init_3 6 rfl rfl)
theorem dX5_init_79 : decode cX5_init 79 = .ok (.putfield 37, 3) := dk_181 0 37 (dk_at dksX5_init_3 8 rfl rfl)
theorem dX5_init_82 : decode cX5_init 82 = .ok (.aload_n 0, 1) := dk_42 (dk_at dksX5_init_3 11 rfl rfl)
theorem dX5_init_83 : decode cX5_init 83 = .ok (.bipush 50, 2) := dk_16 50 (dk_at dksX5_init_3 12 rfl rfl)
theorem dX5_init_85 : decode cX5_init 85 = .ok (.newarray .int, 2) := dk_188_10 (dk_at dksX5_init_3 14 rfl rfl)
theorem dX5_init_87 : decode cX5_init 87 = .ok (.putfield 40, 3) := dk_181 0 40 (dk_at dksX5_init_3 16 rfl rfl)
theorem dX5_init_90 : decode cX5_init 90 = .ok (.aload_n 0, 1) := dk_42 (dk_at dksX5_init_3 19 rfl rfl)
theorem dX5_init_91 : decode cX5_init 91 = .ok (.getfield 7, 3) := dk_180 0 7 (dk_at dksX5_init_3 20 rfl rfl)
theorem dX5_init_94 : decode cX5_init 94 = .ok (.iconst 1, 1) := dk_4 (dk_at dksX5_init_3 23 rfl rfl)
theorem dX5_init_95 : decode cX5_init 95 = .ok (.bipush 8, 2) := dk_16 8 (dk_at dksX5_init_4 0 rfl rfl)
theorem dX5_init_97 : decode cX5_init 97 = .ok (.iastore, 1) := dk_79 (dk_at dksX5_init_4 2 rfl rfl)
theorem dX5_init_98 : decode cX5_init 98 = .ok (.aload_n 0, 1) := dk_42 (dk_at dksX5_init_4 3 rfl rfl)
theorem dX5_init_99 : decode cX5_init 99 = .ok (.getfield 7, 3) := dk_180 0 7 (dk_at dksX5_init_4 4 rfl rfl)
theorem dX5_init_102 : decode cX5_init 102 = .ok (.iconst 2, 1) := dk_5 (dk_at dksX5_init_4 7 rfl rfl)
theorem dX5_init_103 : decode cX5_init 103 = .ok (.iconst 1, 1) := dk_4 (dk_at dksX5_init_4 8 rfl rfl)
theorem dX5_init_104 : decode cX5_init 104 = .ok (.iastore, 1) := dk_79 (dk_at dksX5_init_4 9 rfl rfl)
theorem dX5_init_105 : decode cX5_init 105 = .ok (.iconst 0, 1) := dk_3 (dk_at dksX5_init_4 10 rfl rfl)
theorem dX5_init_106 : decode cX5_init 106 = .ok (.istore_n 1, 1) := dk_60 (dk_at dksX5_init_4 11 rfl rfl)
theorem dX5_init_107 : decode cX5_init 107 = .ok (.iload_n 1, 1) := dk_27 (dk_at dksX5_init_4 12 rfl rfl)
theorem dX5_init_108 : decode cX5_init 108 = .ok (.iconst 3, 1) := dk_6 (dk_at dksX5_init_4 13 rfl rfl)
theorem dX5_init_109 : decode cX5_init 109 = .ok (.if_icmp .ge 16, 3) := dk_162 0 16 (dk_at dksX5_init_4 14 rfl rfl)
theorem dX5_init_112 : decode cX5_init 112 = .ok (.aload_n 0, 1) := dk_42 (dk_at dksX5_init_4 17 rfl rfl)
theorem dX5_init_113 : decode cX5_init 113 = .ok (.getfield 25, 3) := dk_180 0 25 (dk_at dksX5_init_4 18 rfl rfl)
theorem dX5_init_116 : decode cX5_init 116 = .ok (.iload_n 1, 1) := dk_27 (dk_at dksX5_init_4 21 rfl rfl)
theorem dX5_init_117 : decode cX5_init 117 = .ok (.iconst (-1), 1) := dk_2 (dk_at dksX5_init_4 22 rfl rfl)
theorem dX5_init_118 : decode cX5_init 118 = .ok (.iastore, 1) := dk_79 (dk_at dksX5_init_4 23 rfl rfl)
theorem dX5_init_119 : decode cX5_init 119 = .ok (.iinc 1 1, 3) := dk_132 1 1 (dk_at dksX5_init_5 0 rfl rfl)
theorem dX5_init_122 : decode cX5_init 122 = .ok (.goto (-15), 3) := dk_167 255 241 (dk_at dksX5_init_5 3 rfl rfl)
theorem dX5_init_125 : decode cX5_init 125 = .ok (.return_, 1) := dk_177 (dk_at dksX5_init_5 6 rfl rfl)
abbrev cX5_put : ByteArray := prog_15_method_31_code
def yX5_put : MethodName := ⟨RX5, "put", "(II)I"⟩
def dkwX5_put_1 : List UInt8 := [182, 0, 149, 62, 42, 182, 0, 152, 29, 172]
abbrev dktX5_put_1 : List UInt8 := dkwX5_put_1 ++ []
def dkwX5_put_0 : List UInt8 := [42, 27, 28, 182, 0, 140, 154, 0, 10, 42, 27, 28, 182, 0, 143, 172, 42, 182, 0, 146, 42, 27, 28]
abbrev dktX5_put_0 : List UInt8 := dkwX5_put_0 ++ dktX5_put_1
theorem dksX5_put_0 : cX5_put.data.toList.drop 0 = dktX5_put_0 := by decide +kernel
theorem dksX5_put_1 : cX5_put.data.toList.drop 23 = dktX5_put_1 := dk_seg dksX5_put_0 23 rfl rfl
theorem dX5_put_0 : decode cX5_put 0 = .ok (.aload_n 0, 1) := dk_42 (dk_at dksX5_put_0 0 rfl rfl)
theorem dX5_put_1 : decode cX5_put 1 = .ok (.iload_n 1, 1) := dk_27 (dk_at dksX5_put_0 1 rfl rfl)
theorem dX5_put_2 : decode cX5_put 2 = .ok (.iload_n 2, 1) := dk_28 (dk_at dksX5_put_0 2 rfl rfl)
theorem dX5_put_3 : decode cX5_put 3 = .ok (.invokevirtual 140, 3) := dk_182 0 140 (dk_at dksX5_put_0 3 rfl rfl)
theorem dX5_put_6 : decode cX5_put 6 = .ok (.ifCond .ne 10, 3) := dk_154 0 10 (dk_at dksX5_put_0 6 rfl rfl)
theorem dX5_put_9 : decode cX5_put 9 = .ok (.aload_n 0, 1) := dk_42 (dk_at dksX5_put_0 9 rfl rfl)
theorem dX5_put_10 : decode cX5_put 10 = .ok (.iload_n 1, 1) := dk_27 (dk_at dksX5_put_0 10 rfl rfl)
theorem dX5_put_11 : decode cX5_put 11 = .ok (.iload_n 2, 1) := dk_28 (dk_at dksX5_put_0 11 rfl rfl)
theorem dX5_put_12 : decode cX5_put 12 = .ok (.invokevirtual 143, 3) := dk_182 0 143 (dk_at dksX5_put_0 12 rfl rfl)
theorem dX5_put_15 : decode cX5_put 15 = .ok (.ireturn, 1) := dk_172 (dk_at dksX5_put_0 15 rfl rfl)
theorem dX5_put_16 : decode cX5_put 16 = .ok (.aload_n 0, 1) := dk_42 (dk_at dksX5_put_0 16 rfl rfl)
theorem dX5_put_17 : decode cX5_put 17 = .ok (.invokevirtual 146, 3) := dk_182 0 146 (dk_at dksX5_put_0 17 rfl rfl)
theorem dX5_put_20 : decode cX5_put 20 = .ok (.aload_n 0, 1) := dk_42 (dk_at dksX5_put_0 20 rfl rfl)
theorem dX5_put_21 : decode cX5_put 21 = .ok (.iload_n 1, 1) := dk_27 (dk_at dksX5_put_0 21 rfl rfl)
theorem dX5_put_22 : decode cX5_put 22 = .ok (.iload_n 2, 1) := dk_28 (dk_at dksX5_put_0 22 rfl rfl)
theorem dX5_put_23 : decode cX5_put 23 = .ok (.invokevirtual 149, 3) := dk_182 0 149 (dk_at dksX5_put_1 0 rfl rfl)
theorem dX5_put_26 : decode cX5_put 26 = .ok (.istore_n 3, 1) := dk_62 (dk_at dksX5_put_1 3 rfl rfl)
theorem dX5_put_27 : decode cX5_put 27 = .ok (.aload_n 0, 1) := dk_42 (dk_at dksX5_put_1 4 rfl rfl)
theorem dX5_put_28 : decode cX5_put 28 = .ok (.invokevirtual 152, 3) := dk_182 0 152 (dk_at dksX5_put_1 5 rfl rfl)
theorem dX5_put_31 : decode cX5_put 31 = .ok (.iload_n 3, 1) := dk_29 (dk_at dksX5_put_1 8 rfl rfl)
theorem dX5_put_32 : decode cX5_put 32 = .ok (.ireturn, 1) := dk_172 (dk_at dksX5_put_1 9 rfl rfl)
abbrev cX5_mayPut : ByteArray := prog_15_method_29_code
def yX5_mayPut : MethodName := ⟨RX5, "mayPut", "(II)Z"⟩
def dkwX5_mayPut_1 : List UInt8 := [160, 0, 10, 42, 182, 0, 133, 154, 0, 7, 4, 167, 0, 4, 3, 172]
abbrev dktX5_mayPut_1 : List UInt8 := dkwX5_mayPut_1 ++ []
def dkwX5_mayPut_0 : List UInt8 := [27, 184, 0, 130, 153, 0, 34, 28, 3, 17, 39, 15, 184, 0, 44, 153, 0, 23, 42, 27, 182, 0, 121, 2]
abbrev dktX5_mayPut_0 : List UInt8 := dkwX5_mayPut_0 ++ dktX5_mayPut_1
theorem dksX5_mayPut_0 : cX5_mayPut.data.toList.drop 0 = dktX5_mayPut_0 := by decide +kernel
theorem dksX5_mayPut_1 : cX5_mayPut.data.toList.drop 24 = dktX5_mayPut_1 := dk_seg dksX5_mayPut_0 24 rfl rfl
theorem dX5_mayPut_0 : decode cX5_mayPut 0 = .ok (.iload_n 1, 1) := dk_27 (dk_at dksX5_mayPut_0 0 rfl rfl)
theorem dX5_mayPut_1 : decode cX5_mayPut 1 = .ok (.invokestatic 130, 3) := dk_184 0 130 (dk_at dksX5_mayPut_0 1 rfl rfl)
theorem dX5_mayPut_4 : decode cX5_mayPut 4 = .ok (.ifCond .eq 34, 3) := dk_153 0 34 (dk_at dksX5_mayPut_0 4 rfl rfl)
theorem dX5_mayPut_7 : decode cX5_mayPut 7 = .ok (.iload_n 2, 1) := dk_28 (dk_at dksX5_mayPut_0 7 rfl rfl)
theorem dX5_mayPut_8 : decode cX5_mayPut 8 = .ok (.iconst 0, 1) := dk_3 (dk_at dksX5_mayPut_0 8 rfl rfl)
theorem dX5_mayPut_9 : decode cX5_mayPut 9 = .ok (.sipush 9999, 3) := dk_17 39 15 (dk_at dksX5_mayPut_0 9 rfl rfl)
theorem dX5_mayPut_12 : decode cX5_mayPut 12 = .ok (.invokestatic 44, 3) := dk_184 0 44 (dk_at dksX5_mayPut_0 12 rfl rfl)
theorem dX5_mayPut_15 : decode cX5_mayPut 15 = .ok (.ifCond .eq 23, 3) := dk_153 0 23 (dk_at dksX5_mayPut_0 15 rfl rfl)
theorem dX5_mayPut_18 : decode cX5_mayPut 18 = .ok (.aload_n 0, 1) := dk_42 (dk_at dksX5_mayPut_0 18 rfl rfl)
theorem dX5_mayPut_19 : decode cX5_mayPut 19 = .ok (.iload_n 1, 1) := dk_27 (dk_at dksX5_mayPut_0 19 rfl rfl)
theorem dX5_mayPut_20 : decode cX5_mayPut 20 = .ok (.invokevirtual 121, 3) := dk_182 0 121 (dk_at dksX5_mayPut_0 20 rfl rfl)
theorem dX5_mayPut_23 : decode cX5_mayPut 23 = .ok (.iconst (-1), 1) := dk_2 (dk_at dksX5_mayPut_0 23 rfl rfl)
theorem dX5_mayPut_24 : decode cX5_mayPut 24 = .ok (.if_icmp .ne 10, 3) := dk_160 0 10 (dk_at dksX5_mayPut_1 0 rfl rfl)
theorem dX5_mayPut_27 : decode cX5_mayPut 27 = .ok (.aload_n 0, 1) := dk_42 (dk_at dksX5_mayPut_1 3 rfl rfl)
theorem dX5_mayPut_28 : decode cX5_mayPut 28 = .ok (.invokevirtual 133, 3) := dk_182 0 133 (dk_at dksX5_mayPut_1 4 rfl rfl)
theorem dX5_mayPut_31 : decode cX5_mayPut 31 = .ok (.ifCond .ne 7, 3) := dk_154 0 7 (dk_at dksX5_mayPut_1 7 rfl rfl)
theorem dX5_mayPut_34 : decode cX5_mayPut 34 = .ok (.iconst 1, 1) := dk_4 (dk_at dksX5_mayPut_1 10 rfl rfl)
theorem dX5_mayPut_35 : decode cX5_mayPut 35 = .ok (.goto 4, 3) := dk_167 0 4 (dk_at dksX5_mayPut_1 11 rfl rfl)
theorem dX5_mayPut_38 : decode cX5_mayPut 38 = .ok (.iconst 0, 1) := dk_3 (dk_at dksX5_mayPut_1 14 rfl rfl)
theorem dX5_mayPut_39 : decode cX5_mayPut 39 = .ok (.ireturn, 1) := dk_172 (dk_at dksX5_mayPut_1 15 rfl rfl)
abbrev cX5_isKey : ByteArray := prog_15_method_4_code
def yX5_isKey : MethodName := ⟨RX5, "isKey", "(I)Z"⟩
def dkwX5_isKey_0 : List UInt8 := [26, 3, 18, 43, 184, 0, 44, 172]
abbrev dktX5_isKey_0 : List UInt8 := dkwX5_isKey_0 ++ []
theorem dksX5_isKey_0 : cX5_isKey.data.toList.drop 0 = dktX5_isKey_0 := by decide +kernel
theorem dX5_isKey_0 : decode cX5_isKey 0 = .ok (.iload_n 0, 1) := dk_26 (dk_at dksX5_isKey_0 0 rfl rfl)
theorem dX5_isKey_1 : decode cX5_isKey 1 = .ok (.iconst 0, 1) := dk_3 (dk_at dksX5_isKey_0 1 rfl rfl)
theorem dX5_isKey_2 : decode cX5_isKey 2 = .ok (.ldc 43, 2) := dk_18 43 (dk_at dksX5_isKey_0 2 rfl rfl)
theorem dX5_isKey_4 : decode cX5_isKey 4 = .ok (.invokestatic 44, 3) := dk_184 0 44 (dk_at dksX5_isKey_0 4 rfl rfl)
theorem dX5_isKey_7 : decode cX5_isKey 7 = .ok (.ireturn, 1) := dk_172 (dk_at dksX5_isKey_0 7 rfl rfl)
abbrev cX5_in : ByteArray := prog_15_method_2_code
def yX5_in : MethodName := ⟨RX5, "in", "(III)Z"⟩
def dkwX5_in_0 : List UInt8 := [26, 27, 161, 0, 12, 26, 28, 163, 0, 7, 4, 167, 0, 4, 3, 172]
abbrev dktX5_in_0 : List UInt8 := dkwX5_in_0 ++ []
theorem dksX5_in_0 : cX5_in.data.toList.drop 0 = dktX5_in_0 := by decide +kernel
theorem dX5_in_0 : decode cX5_in 0 = .ok (.iload_n 0, 1) := dk_26 (dk_at dksX5_in_0 0 rfl rfl)
theorem dX5_in_1 : decode cX5_in 1 = .ok (.iload_n 1, 1) := dk_27 (dk_at dksX5_in_0 1 rfl rfl)
theorem dX5_in_2 : decode cX5_in 2 = .ok (.if_icmp .lt 12, 3) := dk_161 0 12 (dk_at dksX5_in_0 2 rfl rfl)
theorem dX5_in_5 : decode cX5_in 5 = .ok (.iload_n 0, 1) := dk_26 (dk_at dksX5_in_0 5 rfl rfl)
theorem dX5_in_6 : decode cX5_in 6 = .ok (.iload_n 2, 1) := dk_28 (dk_at dksX5_in_0 6 rfl rfl)
theorem dX5_in_7 : decode cX5_in 7 = .ok (.if_icmp .gt 7, 3) := dk_163 0 7 (dk_at dksX5_in_0 7 rfl rfl)
theorem dX5_in_10 : decode cX5_in 10 = .ok (.iconst 1, 1) := dk_4 (dk_at dksX5_in_0 10 rfl rfl)
theorem dX5_in_11 : decode cX5_in 11 = .ok (.goto 4, 3) := dk_167 0 4 (dk_at dksX5_in_0 11 rfl rfl)
theorem dX5_in_14 : decode cX5_in 14 = .ok (.iconst 0, 1) := dk_3 (dk_at dksX5_in_0 14 rfl rfl)
theorem dX5_in_15 : decode cX5_in 15 = .ok (.ireturn, 1) := dk_172 (dk_at dksX5_in_0 15 rfl rfl)
abbrev cX5_placeOf : ByteArray := prog_15_method_9_code
def yX5_placeOf : MethodName := ⟨RX5, "placeOf", "(I)I"⟩
def dkwX5_placeOf_1 : List UInt8 := [160, 0, 7, 29, 167, 0, 4, 28, 61, 132, 3, 1, 167, 255, 224, 28, 172]
abbrev dktX5_placeOf_1 : List UInt8 := dkwX5_placeOf_1 ++ []
def dkwX5_placeOf_0 : List UInt8 := [2, 61, 3, 62, 29, 42, 180, 0, 7, 3, 46, 162, 0, 28, 42, 180, 0, 7, 16, 7, 29, 96, 46, 27]
abbrev dktX5_placeOf_0 : List UInt8 := dkwX5_placeOf_0 ++ dktX5_placeOf_1
theorem dksX5_placeOf_0 : cX5_placeOf.data.toList.drop 0 = dktX5_placeOf_0 := by decide +kernel
theorem dksX5_placeOf_1 : cX5_placeOf.data.toList.drop 24 = dktX5_placeOf_1 := dk_seg dksX5_placeOf_0 24 rfl rfl
theorem dX5_placeOf_0 : decode cX5_placeOf 0 = .ok (.iconst (-1), 1) := dk_2 (dk_at dksX5_placeOf_0 0 rfl rfl)
theorem dX5_placeOf_1 : decode cX5_placeOf 1 = .ok (.istore_n 2, 1) := dk_61 (dk_at dksX5_placeOf_0 1 rfl rfl)
theorem dX5_placeOf_2 : decode cX5_placeOf 2 = .ok (.iconst 0, 1) := dk_3 (dk_at dksX5_placeOf_0 2 rfl rfl)
theorem dX5_placeOf_3 : decode cX5_placeOf 3 = .ok (.istore_n 3, 1) := dk_62 (dk_at dksX5_placeOf_0 3 rfl rfl)
theorem dX5_placeOf_4 : decode cX5_placeOf 4 = .ok (.iload_n 3, 1) := dk_29 (dk_at dksX5_placeOf_0 4 rfl rfl)
theorem dX5_placeOf_5 : decode cX5_placeOf 5 = .ok (.aload_n 0, 1) := dk_42 (dk_at dksX5_placeOf_0 5 rfl rfl)
theorem dX5_placeOf_6 : decode cX5_placeOf 6 = .ok (.getfield 7, 3) := dk_180 0 7 (dk_at dksX5_placeOf_0 6 rfl rfl)
theorem dX5_placeOf_9 : decode cX5_placeOf 9 = .ok (.iconst 0, 1) := dk_3 (dk_at dksX5_placeOf_0 9 rfl rfl)
theorem dX5_placeOf_10 : decode cX5_placeOf 10 = .ok (.iaload, 1) := dk_46 (dk_at dksX5_placeOf_0 10 rfl rfl)
theorem dX5_placeOf_11 : decode cX5_placeOf 11 = .ok (.if_icmp .ge 28, 3) := dk_162 0 28 (dk_at dksX5_placeOf_0 11 rfl rfl)
theorem dX5_placeOf_14 : decode cX5_placeOf 14 = .ok (.aload_n 0, 1) := dk_42 (dk_at dksX5_placeOf_0 14 rfl rfl)
theorem dX5_placeOf_15 : decode cX5_placeOf 15 = .ok (.getfield 7, 3) := dk_180 0 7 (dk_at dksX5_placeOf_0 15 rfl rfl)
theorem dX5_placeOf_18 : decode cX5_placeOf 18 = .ok (.bipush 7, 2) := dk_16 7 (dk_at dksX5_placeOf_0 18 rfl rfl)
theorem dX5_placeOf_20 : decode cX5_placeOf 20 = .ok (.iload_n 3, 1) := dk_29 (dk_at dksX5_placeOf_0 20 rfl rfl)
theorem dX5_placeOf_21 : decode cX5_placeOf 21 = .ok (.iadd, 1) := dk_96 (dk_at dksX5_placeOf_0 21 rfl rfl)
theorem dX5_placeOf_22 : decode cX5_placeOf 22 = .ok (.iaload, 1) := dk_46 (dk_at dksX5_placeOf_0 22 rfl rfl)
theorem dX5_placeOf_23 : decode cX5_placeOf 23 = .ok (.iload_n 1, 1) := dk_27 (dk_at dksX5_placeOf_0 23 rfl rfl)
theorem dX5_placeOf_24 : decode cX5_placeOf 24 = .ok (.if_icmp .ne 7, 3) := dk_160 0 7 (dk_at dksX5_placeOf_1 0 rfl rfl)
theorem dX5_placeOf_27 : decode cX5_placeOf 27 = .ok (.iload_n 3, 1) := dk_29 (dk_at dksX5_placeOf_1 3 rfl rfl)
theorem dX5_placeOf_28 : decode cX5_placeOf 28 = .ok (.goto 4, 3) := dk_167 0 4 (dk_at dksX5_placeOf_1 4 rfl rfl)
theorem dX5_placeOf_31 : decode cX5_placeOf 31 = .ok (.iload_n 2, 1) := dk_28 (dk_at dksX5_placeOf_1 7 rfl rfl)
theorem dX5_placeOf_32 : decode cX5_placeOf 32 = .ok (.istore_n 2, 1) := dk_61 (dk_at dksX5_placeOf_1 8 rfl rfl)
theorem dX5_placeOf_33 : decode cX5_placeOf 33 = .ok (.iinc 3 1, 3) := dk_132 3 1 (dk_at dksX5_placeOf_1 9 rfl rfl)
theorem dX5_placeOf_36 : decode cX5_placeOf 36 = .ok (.goto (-32), 3) := dk_167 255 224 (dk_at dksX5_placeOf_1 12 rfl rfl)
theorem dX5_placeOf_39 : decode cX5_placeOf 39 = .ok (.iload_n 2, 1) := dk_28 (dk_at dksX5_placeOf_1 15 rfl rfl)
theorem dX5_placeOf_40 : decode cX5_placeOf 40 = .ok (.ireturn, 1) := dk_172 (dk_at dksX5_placeOf_1 16 rfl rfl)
abbrev cX5_isFull : ByteArray := prog_15_method_26_code
def yX5_isFull : MethodName := ⟨RX5, "isFull", "()Z"⟩
def dkwX5_isFull_1 : List UInt8 := [3, 172]
abbrev dktX5_isFull_1 : List UInt8 := dkwX5_isFull_1 ++ []
def dkwX5_isFull_0 : List UInt8 := [42, 180, 0, 7, 3, 46, 16, 48, 160, 0, 16, 42, 180, 0, 7, 8, 46, 154, 0, 7, 4, 167, 0, 4]
abbrev dktX5_isFull_0 : List UInt8 := dkwX5_isFull_0 ++ dktX5_isFull_1
theorem dksX5_isFull_0 : cX5_isFull.data.toList.drop 0 = dktX5_isFull_0 := by decide +kernel
theorem dksX5_isFull_1 : cX5_isFull.data.toList.drop 24 = dktX5_isFull_1 := dk_seg dksX5_isFull_0 24 rfl rfl
theorem dX5_isFull_0 : decode cX5_isFull 0 = .ok (.aload_n 0, 1) := dk_42 (dk_at dksX5_isFull_0 0 rfl rfl)
theorem dX5_isFull_1 : decode cX5_isFull 1 = .ok (.getfield 7, 3) := dk_180 0 7 (dk_at dksX5_isFull_0 1 rfl rfl)
theorem dX5_isFull_4 : decode cX5_isFull 4 = .ok (.iconst 0, 1) := dk_3 (dk_at dksX5_isFull_0 4 rfl rfl)
theorem dX5_isFull_5 : decode cX5_isFull 5 = .ok (.iaload, 1) := dk_46 (dk_at dksX5_isFull_0 5 rfl rfl)
theorem dX5_isFull_6 : decode cX5_isFull 6 = .ok (.bipush 48, 2) := dk_16 48 (dk_at dksX5_isFull_0 6 rfl rfl)
theorem dX5_isFull_8 : decode cX5_isFull 8 = .ok (.if_icmp .ne 16, 3) := dk_160 0 16 (dk_at dksX5_isFull_0 8 rfl rfl)
theorem dX5_isFull_11 : decode cX5_isFull 11 = .ok (.aload_n 0, 1) := dk_42 (dk_at dksX5_isFull_0 11 rfl rfl)
theorem dX5_isFull_12 : decode cX5_isFull 12 = .ok (.getfield 7, 3) := dk_180 0 7 (dk_at dksX5_isFull_0 12 rfl rfl)
theorem dX5_isFull_15 : decode cX5_isFull 15 = .ok (.iconst 5, 1) := dk_8 (dk_at dksX5_isFull_0 15 rfl rfl)
theorem dX5_isFull_16 : decode cX5_isFull 16 = .ok (.iaload, 1) := dk_46 (dk_at dksX5_isFull_0 16 rfl rfl)
theorem dX5_isFull_17 : decode cX5_isFull 17 = .ok (.ifCond .ne 7, 3) := dk_154 0 7 (dk_at dksX5_isFull_0 17 rfl rfl)
theorem dX5_isFull_20 : decode cX5_isFull 20 = .ok (.iconst 1, 1) := dk_4 (dk_at dksX5_isFull_0 20 rfl rfl)
theorem dX5_isFull_21 : decode cX5_isFull 21 = .ok (.goto 4, 3) := dk_167 0 4 (dk_at dksX5_isFull_0 21 rfl rfl)
theorem dX5_isFull_24 : decode cX5_isFull 24 = .ok (.iconst 0, 1) := dk_3 (dk_at dksX5_isFull_1 0 rfl rfl)
theorem dX5_isFull_25 : decode cX5_isFull 25 = .ok (.ireturn, 1) := dk_172 (dk_at dksX5_isFull_1 1 rfl rfl)
abbrev cX5_putRefused : ByteArray := prog_15_method_30_code
def yX5_putRefused : MethodName := ⟨RX5, "putRefused", "(II)I"⟩
def dkwX5_putRefused_1 : List UInt8 := [16, 254, 182, 0, 137, 172]
abbrev dktX5_putRefused_1 : List UInt8 := dkwX5_putRefused_1 ++ []
def dkwX5_putRefused_0 : List UInt8 := [42, 27, 184, 0, 130, 153, 0, 19, 28, 3, 17, 39, 15, 184, 0, 44, 153, 0, 8, 16, 252, 167, 0, 5]
abbrev dktX5_putRefused_0 : List UInt8 := dkwX5_putRefused_0 ++ dktX5_putRefused_1
theorem dksX5_putRefused_0 : cX5_putRefused.data.toList.drop 0 = dktX5_putRefused_0 := by decide +kernel
theorem dksX5_putRefused_1 : cX5_putRefused.data.toList.drop 24 = dktX5_putRefused_1 := dk_seg dksX5_putRefused_0 24 rfl rfl
theorem dX5_putRefused_0 : decode cX5_putRefused 0 = .ok (.aload_n 0, 1) := dk_42 (dk_at dksX5_putRefused_0 0 rfl rfl)
theorem dX5_putRefused_1 : decode cX5_putRefused 1 = .ok (.iload_n 1, 1) := dk_27 (dk_at dksX5_putRefused_0 1 rfl rfl)
theorem dX5_putRefused_2 : decode cX5_putRefused 2 = .ok (.invokestatic 130, 3) := dk_184 0 130 (dk_at dksX5_putRefused_0 2 rfl rfl)
theorem dX5_putRefused_5 : decode cX5_putRefused 5 = .ok (.ifCond .eq 19, 3) := dk_153 0 19 (dk_at dksX5_putRefused_0 5 rfl rfl)
theorem dX5_putRefused_8 : decode cX5_putRefused 8 = .ok (.iload_n 2, 1) := dk_28 (dk_at dksX5_putRefused_0 8 rfl rfl)
theorem dX5_putRefused_9 : decode cX5_putRefused 9 = .ok (.iconst 0, 1) := dk_3 (dk_at dksX5_putRefused_0 9 rfl rfl)
theorem dX5_putRefused_10 : decode cX5_putRefused 10 = .ok (.sipush 9999, 3) := dk_17 39 15 (dk_at dksX5_putRefused_0 10 rfl rfl)
theorem dX5_putRefused_13 : decode cX5_putRefused 13 = .ok (.invokestatic 44, 3) := dk_184 0 44 (dk_at dksX5_putRefused_0 13 rfl rfl)
theorem dX5_putRefused_16 : decode cX5_putRefused 16 = .ok (.ifCond .eq 8, 3) := dk_153 0 8 (dk_at dksX5_putRefused_0 16 rfl rfl)
theorem dX5_putRefused_19 : decode cX5_putRefused 19 = .ok (.bipush (-4), 2) := dk_16 252 (dk_at dksX5_putRefused_0 19 rfl rfl)
theorem dX5_putRefused_21 : decode cX5_putRefused 21 = .ok (.goto 5, 3) := dk_167 0 5 (dk_at dksX5_putRefused_0 21 rfl rfl)
theorem dX5_putRefused_24 : decode cX5_putRefused 24 = .ok (.bipush (-2), 2) := dk_16 254 (dk_at dksX5_putRefused_1 0 rfl rfl)
theorem dX5_putRefused_26 : decode cX5_putRefused 26 = .ok (.invokevirtual 137, 3) := dk_182 0 137 (dk_at dksX5_putRefused_1 2 rfl rfl)
theorem dX5_putRefused_29 : decode cX5_putRefused 29 = .ok (.ireturn, 1) := dk_172 (dk_at dksX5_putRefused_1 5 rfl rfl)
abbrev cX5_refuses : ByteArray := prog_15_method_3_code
def yX5_refuses : MethodName := ⟨RX5, "refuses", "(I)I"⟩
def dkwX5_refuses_0 : List UInt8 := [42, 180, 0, 19, 16, 254, 27, 100, 92, 46, 4, 96, 79, 27, 172]
abbrev dktX5_refuses_0 : List UInt8 := dkwX5_refuses_0 ++ []
theorem dksX5_refuses_0 : cX5_refuses.data.toList.drop 0 = dktX5_refuses_0 := by decide +kernel
theorem dX5_refuses_0 : decode cX5_refuses 0 = .ok (.aload_n 0, 1) := dk_42 (dk_at dksX5_refuses_0 0 rfl rfl)
theorem dX5_refuses_1 : decode cX5_refuses 1 = .ok (.getfield 19, 3) := dk_180 0 19 (dk_at dksX5_refuses_0 1 rfl rfl)
theorem dX5_refuses_4 : decode cX5_refuses 4 = .ok (.bipush (-2), 2) := dk_16 254 (dk_at dksX5_refuses_0 4 rfl rfl)
theorem dX5_refuses_6 : decode cX5_refuses 6 = .ok (.iload_n 1, 1) := dk_27 (dk_at dksX5_refuses_0 6 rfl rfl)
theorem dX5_refuses_7 : decode cX5_refuses 7 = .ok (.isub, 1) := dk_100 (dk_at dksX5_refuses_0 7 rfl rfl)
theorem dX5_refuses_8 : decode cX5_refuses 8 = .ok (.dup2, 1) := dk_92 (dk_at dksX5_refuses_0 8 rfl rfl)
theorem dX5_refuses_9 : decode cX5_refuses 9 = .ok (.iaload, 1) := dk_46 (dk_at dksX5_refuses_0 9 rfl rfl)
theorem dX5_refuses_10 : decode cX5_refuses 10 = .ok (.iconst 1, 1) := dk_4 (dk_at dksX5_refuses_0 10 rfl rfl)
theorem dX5_refuses_11 : decode cX5_refuses 11 = .ok (.iadd, 1) := dk_96 (dk_at dksX5_refuses_0 11 rfl rfl)
theorem dX5_refuses_12 : decode cX5_refuses 12 = .ok (.iastore, 1) := dk_79 (dk_at dksX5_refuses_0 12 rfl rfl)
theorem dX5_refuses_13 : decode cX5_refuses 13 = .ok (.iload_n 1, 1) := dk_27 (dk_at dksX5_refuses_0 13 rfl rfl)
theorem dX5_refuses_14 : decode cX5_refuses 14 = .ok (.ireturn, 1) := dk_172 (dk_at dksX5_refuses_0 14 rfl rfl)
abbrev cX5_aside : ByteArray := prog_15_method_5_code
def yX5_aside : MethodName := ⟨RX5, "aside", "()V"⟩
def dkwX5_aside_1 : List UInt8 := [167, 255, 234, 177]
abbrev dktX5_aside_1 : List UInt8 := dkwX5_aside_1 ++ []
def dkwX5_aside_0 : List UInt8 := [3, 60, 27, 17, 0, 218, 162, 0, 21, 42, 180, 0, 16, 27, 42, 180, 0, 7, 27, 46, 79, 132, 1, 1]
abbrev dktX5_aside_0 : List UInt8 := dkwX5_aside_0 ++ dktX5_aside_1
theorem dksX5_aside_0 : cX5_aside.data.toList.drop 0 = dktX5_aside_0 := by decide +kernel
theorem dksX5_aside_1 : cX5_aside.data.toList.drop 24 = dktX5_aside_1 := dk_seg dksX5_aside_0 24 rfl rfl
theorem dX5_aside_0 : decode cX5_aside 0 = .ok (.iconst 0, 1) := dk_3 (dk_at dksX5_aside_0 0 rfl rfl)
theorem dX5_aside_1 : decode cX5_aside 1 = .ok (.istore_n 1, 1) := dk_60 (dk_at dksX5_aside_0 1 rfl rfl)
theorem dX5_aside_2 : decode cX5_aside 2 = .ok (.iload_n 1, 1) := dk_27 (dk_at dksX5_aside_0 2 rfl rfl)
theorem dX5_aside_3 : decode cX5_aside 3 = .ok (.sipush 218, 3) := dk_17 0 218 (dk_at dksX5_aside_0 3 rfl rfl)
theorem dX5_aside_6 : decode cX5_aside 6 = .ok (.if_icmp .ge 21, 3) := dk_162 0 21 (dk_at dksX5_aside_0 6 rfl rfl)
theorem dX5_aside_9 : decode cX5_aside 9 = .ok (.aload_n 0, 1) := dk_42 (dk_at dksX5_aside_0 9 rfl rfl)
theorem dX5_aside_10 : decode cX5_aside 10 = .ok (.getfield 16, 3) := dk_180 0 16 (dk_at dksX5_aside_0 10 rfl rfl)
theorem dX5_aside_13 : decode cX5_aside 13 = .ok (.iload_n 1, 1) := dk_27 (dk_at dksX5_aside_0 13 rfl rfl)
theorem dX5_aside_14 : decode cX5_aside 14 = .ok (.aload_n 0, 1) := dk_42 (dk_at dksX5_aside_0 14 rfl rfl)
theorem dX5_aside_15 : decode cX5_aside 15 = .ok (.getfield 7, 3) := dk_180 0 7 (dk_at dksX5_aside_0 15 rfl rfl)
theorem dX5_aside_18 : decode cX5_aside 18 = .ok (.iload_n 1, 1) := dk_27 (dk_at dksX5_aside_0 18 rfl rfl)
theorem dX5_aside_19 : decode cX5_aside 19 = .ok (.iaload, 1) := dk_46 (dk_at dksX5_aside_0 19 rfl rfl)
theorem dX5_aside_20 : decode cX5_aside 20 = .ok (.iastore, 1) := dk_79 (dk_at dksX5_aside_0 20 rfl rfl)
theorem dX5_aside_21 : decode cX5_aside 21 = .ok (.iinc 1 1, 3) := dk_132 1 1 (dk_at dksX5_aside_0 21 rfl rfl)
theorem dX5_aside_24 : decode cX5_aside 24 = .ok (.goto (-22), 3) := dk_167 255 234 (dk_at dksX5_aside_1 0 rfl rfl)
theorem dX5_aside_27 : decode cX5_aside 27 = .ok (.return_, 1) := dk_177 (dk_at dksX5_aside_1 3 rfl rfl)
abbrev cX5_putsNow : ByteArray := prog_15_method_28_code
def yX5_putsNow : MethodName := ⟨RX5, "putsNow", "(II)I"⟩
def dkwX5_putsNow_2 : List UInt8 := [160, 0, 8, 42, 29, 182, 0, 127, 21, 4, 172]
abbrev dktX5_putsNow_2 : List UInt8 := dkwX5_putsNow_2 ++ []
def dkwX5_putsNow_1 : List UInt8 := [16, 56, 29, 96, 46, 54, 4, 42, 180, 0, 7, 16, 56, 29, 96, 28, 79, 42, 180, 0, 7, 7, 46, 4]
abbrev dktX5_putsNow_1 : List UInt8 := dkwX5_putsNow_1 ++ dktX5_putsNow_2
def dkwX5_putsNow_0 : List UInt8 := [42, 27, 182, 0, 121, 62, 29, 2, 160, 0, 11, 42, 27, 28, 182, 0, 124, 2, 172, 42, 180, 0, 7]
abbrev dktX5_putsNow_0 : List UInt8 := dkwX5_putsNow_0 ++ dktX5_putsNow_1
theorem dksX5_putsNow_0 : cX5_putsNow.data.toList.drop 0 = dktX5_putsNow_0 := by decide +kernel
theorem dksX5_putsNow_1 : cX5_putsNow.data.toList.drop 23 = dktX5_putsNow_1 := dk_seg dksX5_putsNow_0 23 rfl rfl
theorem dksX5_putsNow_2 : cX5_putsNow.data.toList.drop 47 = dktX5_putsNow_2 := dk_seg dksX5_putsNow_1 24 rfl rfl
theorem dX5_putsNow_0 : decode cX5_putsNow 0 = .ok (.aload_n 0, 1) := dk_42 (dk_at dksX5_putsNow_0 0 rfl rfl)
theorem dX5_putsNow_1 : decode cX5_putsNow 1 = .ok (.iload_n 1, 1) := dk_27 (dk_at dksX5_putsNow_0 1 rfl rfl)
theorem dX5_putsNow_2 : decode cX5_putsNow 2 = .ok (.invokevirtual 121, 3) := dk_182 0 121 (dk_at dksX5_putsNow_0 2 rfl rfl)
theorem dX5_putsNow_5 : decode cX5_putsNow 5 = .ok (.istore_n 3, 1) := dk_62 (dk_at dksX5_putsNow_0 5 rfl rfl)
theorem dX5_putsNow_6 : decode cX5_putsNow 6 = .ok (.iload_n 3, 1) := dk_29 (dk_at dksX5_putsNow_0 6 rfl rfl)
theorem dX5_putsNow_7 : decode cX5_putsNow 7 = .ok (.iconst (-1), 1) := dk_2 (dk_at dksX5_putsNow_0 7 rfl rfl)
theorem dX5_putsNow_8 : decode cX5_putsNow 8 = .ok (.if_icmp .ne 11, 3) := dk_160 0 11 (dk_at dksX5_putsNow_0 8 rfl rfl)
theorem dX5_putsNow_11 : decode cX5_putsNow 11 = .ok (.aload_n 0, 1) := dk_42 (dk_at dksX5_putsNow_0 11 rfl rfl)
theorem dX5_putsNow_12 : decode cX5_putsNow 12 = .ok (.iload_n 1, 1) := dk_27 (dk_at dksX5_putsNow_0 12 rfl rfl)
theorem dX5_putsNow_13 : decode cX5_putsNow 13 = .ok (.iload_n 2, 1) := dk_28 (dk_at dksX5_putsNow_0 13 rfl rfl)
theorem dX5_putsNow_14 : decode cX5_putsNow 14 = .ok (.invokevirtual 124, 3) := dk_182 0 124 (dk_at dksX5_putsNow_0 14 rfl rfl)
theorem dX5_putsNow_17 : decode cX5_putsNow 17 = .ok (.iconst (-1), 1) := dk_2 (dk_at dksX5_putsNow_0 17 rfl rfl)
theorem dX5_putsNow_18 : decode cX5_putsNow 18 = .ok (.ireturn, 1) := dk_172 (dk_at dksX5_putsNow_0 18 rfl rfl)
theorem dX5_putsNow_19 : decode cX5_putsNow 19 = .ok (.aload_n 0, 1) := dk_42 (dk_at dksX5_putsNow_0 19 rfl rfl)
theorem dX5_putsNow_20 : decode cX5_putsNow 20 = .ok (.getfield 7, 3) := dk_180 0 7 (dk_at dksX5_putsNow_0 20 rfl rfl)
theorem dX5_putsNow_23 : decode cX5_putsNow 23 = .ok (.bipush 56, 2) := dk_16 56 (dk_at dksX5_putsNow_1 0 rfl rfl)
theorem dX5_putsNow_25 : decode cX5_putsNow 25 = .ok (.iload_n 3, 1) := dk_29 (dk_at dksX5_putsNow_1 2 rfl rfl)
theorem dX5_putsNow_26 : decode cX5_putsNow 26 = .ok (.iadd, 1) := dk_96 (dk_at dksX5_putsNow_1 3 rfl rfl)
theorem dX5_putsNow_27 : decode cX5_putsNow 27 = .ok (.iaload, 1) := dk_46 (dk_at dksX5_putsNow_1 4 rfl rfl)
theorem dX5_putsNow_28 : decode cX5_putsNow 28 = .ok (.istore 4, 2) := dk_54 4 (dk_at dksX5_putsNow_1 5 rfl rfl)
theorem dX5_putsNow_30 : decode cX5_putsNow 30 = .ok (.aload_n 0, 1) := dk_42 (dk_at dksX5_putsNow_1 7 rfl rfl)
theorem dX5_putsNow_31 : decode cX5_putsNow 31 = .ok (.getfield 7, 3) := dk_180 0 7 (dk_at dksX5_putsNow_1 8 rfl rfl)
theorem dX5_putsNow_34 : decode cX5_putsNow 34 = .ok (.bipush 56, 2) := dk_16 56 (dk_at dksX5_putsNow_1 11 rfl rfl)
theorem dX5_putsNow_36 : decode cX5_putsNow 36 = .ok (.iload_n 3, 1) := dk_29 (dk_at dksX5_putsNow_1 13 rfl rfl)
theorem dX5_putsNow_37 : decode cX5_putsNow 37 = .ok (.iadd, 1) := dk_96 (dk_at dksX5_putsNow_1 14 rfl rfl)
theorem dX5_putsNow_38 : decode cX5_putsNow 38 = .ok (.iload_n 2, 1) := dk_28 (dk_at dksX5_putsNow_1 15 rfl rfl)
theorem dX5_putsNow_39 : decode cX5_putsNow 39 = .ok (.iastore, 1) := dk_79 (dk_at dksX5_putsNow_1 16 rfl rfl)
theorem dX5_putsNow_40 : decode cX5_putsNow 40 = .ok (.aload_n 0, 1) := dk_42 (dk_at dksX5_putsNow_1 17 rfl rfl)
theorem dX5_putsNow_41 : decode cX5_putsNow 41 = .ok (.getfield 7, 3) := dk_180 0 7 (dk_at dksX5_putsNow_1 18 rfl rfl)
theorem dX5_putsNow_44 : decode cX5_putsNow 44 = .ok (.iconst 4, 1) := dk_7 (dk_at dksX5_putsNow_1 21 rfl rfl)
theorem dX5_putsNow_45 : decode cX5_putsNow 45 = .ok (.iaload, 1) := dk_46 (dk_at dksX5_putsNow_1 22 rfl rfl)
theorem dX5_putsNow_46 : decode cX5_putsNow 46 = .ok (.iconst 1, 1) := dk_4 (dk_at dksX5_putsNow_1 23 rfl rfl)
theorem dX5_putsNow_47 : decode cX5_putsNow 47 = .ok (.if_icmp .ne 8, 3) := dk_160 0 8 (dk_at dksX5_putsNow_2 0 rfl rfl)
theorem dX5_putsNow_50 : decode cX5_putsNow 50 = .ok (.aload_n 0, 1) := dk_42 (dk_at dksX5_putsNow_2 3 rfl rfl)
theorem dX5_putsNow_51 : decode cX5_putsNow 51 = .ok (.iload_n 3, 1) := dk_29 (dk_at dksX5_putsNow_2 4 rfl rfl)
theorem dX5_putsNow_52 : decode cX5_putsNow 52 = .ok (.invokevirtual 127, 3) := dk_182 0 127 (dk_at dksX5_putsNow_2 5 rfl rfl)
theorem dX5_putsNow_55 : decode cX5_putsNow 55 = .ok (.iload 4, 2) := dk_21 4 (dk_at dksX5_putsNow_2 8 rfl rfl)
theorem dX5_putsNow_57 : decode cX5_putsNow 57 = .ok (.ireturn, 1) := dk_172 (dk_at dksX5_putsNow_2 10 rfl rfl)
abbrev cX5_comes : ByteArray := prog_15_method_22_code
def yX5_comes : MethodName := ⟨RX5, "comes", "(II)V"⟩
def dkwX5_comes_4 : List UInt8 := [158, 0, 23, 42, 180, 0, 7, 3, 46, 42, 180, 0, 7, 8, 46, 164, 0, 8, 42, 3, 182, 0, 115, 177]
abbrev dktX5_comes_4 : List UInt8 := dkwX5_comes_4 ++ []
def dkwX5_comes_3 : List UInt8 := [181, 0, 108, 42, 42, 27, 182, 0, 61, 42, 180, 0, 7, 3, 46, 182, 0, 111, 42, 180, 0, 7, 8, 46]
abbrev dktX5_comes_3 : List UInt8 := dkwX5_comes_3 ++ dktX5_comes_4
def dkwX5_comes_2 : List UInt8 := [16, 6, 92, 46, 4, 96, 79, 42, 180, 0, 7, 3, 92, 46, 4, 96, 79, 42, 89, 180, 0, 108, 4, 96]
abbrev dktX5_comes_2 : List UInt8 := dkwX5_comes_2 ++ dktX5_comes_3
def dkwX5_comes_1 : List UInt8 := [96, 28, 79, 42, 180, 0, 7, 16, 105, 29, 96, 42, 180, 0, 7, 16, 6, 46, 79, 42, 180, 0, 7]
abbrev dktX5_comes_1 : List UInt8 := dkwX5_comes_1 ++ dktX5_comes_2
def dkwX5_comes_0 : List UInt8 := [42, 180, 0, 7, 3, 46, 62, 42, 180, 0, 7, 16, 7, 29, 96, 27, 79, 42, 180, 0, 7, 16, 56, 29]
abbrev dktX5_comes_0 : List UInt8 := dkwX5_comes_0 ++ dktX5_comes_1
theorem dksX5_comes_0 : cX5_comes.data.toList.drop 0 = dktX5_comes_0 := by decide +kernel
theorem dksX5_comes_1 : cX5_comes.data.toList.drop 24 = dktX5_comes_1 := dk_seg dksX5_comes_0 24 rfl rfl
theorem dksX5_comes_2 : cX5_comes.data.toList.drop 47 = dktX5_comes_2 := dk_seg dksX5_comes_1 23 rfl rfl
theorem dksX5_comes_3 : cX5_comes.data.toList.drop 71 = dktX5_comes_3 := dk_seg dksX5_comes_2 24 rfl rfl
theorem dksX5_comes_4 : cX5_comes.data.toList.drop 95 = dktX5_comes_4 := dk_seg dksX5_comes_3 24 rfl rfl
theorem dX5_comes_0 : decode cX5_comes 0 = .ok (.aload_n 0, 1) := dk_42 (dk_at dksX5_comes_0 0 rfl rfl)
theorem dX5_comes_1 : decode cX5_comes 1 = .ok (.getfield 7, 3) := dk_180 0 7 (dk_at dksX5_comes_0 1 rfl rfl)
theorem dX5_comes_4 : decode cX5_comes 4 = .ok (.iconst 0, 1) := dk_3 (dk_at dksX5_comes_0 4 rfl rfl)
theorem dX5_comes_5 : decode cX5_comes 5 = .ok (.iaload, 1) := dk_46 (dk_at dksX5_comes_0 5 rfl rfl)
theorem dX5_comes_6 : decode cX5_comes 6 = .ok (.istore_n 3, 1) := dk_62 (dk_at dksX5_comes_0 6 rfl rfl)
theorem dX5_comes_7 : decode cX5_comes 7 = .ok (.aload_n 0, 1) := dk_42 (dk_at dksX5_comes_0 7 rfl rfl)
theorem dX5_comes_8 : decode cX5_comes 8 = .ok (.getfield 7, 3) := dk_180 0 7 (dk_at dksX5_comes_0 8 rfl rfl)
theorem dX5_comes_11 : decode cX5_comes 11 = .ok (.bipush 7, 2) := dk_16 7 (dk_at dksX5_comes_0 11 rfl rfl)
theorem dX5_comes_13 : decode cX5_comes 13 = .ok (.iload_n 3, 1) := dk_29 (dk_at dksX5_comes_0 13 rfl rfl)
theorem dX5_comes_14 : decode cX5_comes 14 = .ok (.iadd, 1) := dk_96 (dk_at dksX5_comes_0 14 rfl rfl)
theorem dX5_comes_15 : decode cX5_comes 15 = .ok (.iload_n 1, 1) := dk_27 (dk_at dksX5_comes_0 15 rfl rfl)
theorem dX5_comes_16 : decode cX5_comes 16 = .ok (.iastore, 1) := dk_79 (dk_at dksX5_comes_0 16 rfl rfl)
theorem dX5_comes_17 : decode cX5_comes 17 = .ok (.aload_n 0, 1) := dk_42 (dk_at dksX5_comes_0 17 rfl rfl)
theorem dX5_comes_18 : decode cX5_comes 18 = .ok (.getfield 7, 3) := dk_180 0 7 (dk_at dksX5_comes_0 18 rfl rfl)
theorem dX5_comes_21 : decode cX5_comes 21 = .ok (.bipush 56, 2) := dk_16 56 (dk_at dksX5_comes_0 21 rfl rfl)
theorem dX5_comes_23 : decode cX5_comes 23 = .ok (.iload_n 3, 1) := dk_29 (dk_at dksX5_comes_0 23 rfl rfl)
theorem dX5_comes_24 : decode cX5_comes 24 = .ok (.iadd, 1) := dk_96 (dk_at dksX5_comes_1 0 rfl rfl)
theorem dX5_comes_25 : decode cX5_comes 25 = .ok (.iload_n 2, 1) := dk_28 (dk_at dksX5_comes_1 1 rfl rfl)
theorem dX5_comes_26 : decode cX5_comes 26 = .ok (.iastore, 1) := dk_79 (dk_at dksX5_comes_1 2 rfl rfl)
theorem dX5_comes_27 : decode cX5_comes 27 = .ok (.aload_n 0, 1) := dk_42 (dk_at dksX5_comes_1 3 rfl rfl)
theorem dX5_comes_28 : decode cX5_comes 28 = .ok (.getfield 7, 3) := dk_180 0 7 (dk_at dksX5_comes_1 4 rfl rfl)
theorem dX5_comes_31 : decode cX5_comes 31 = .ok (.bipush 105, 2) := dk_16 105 (dk_at dksX5_comes_1 7 rfl rfl)
theorem dX5_comes_33 : decode cX5_comes 33 = .ok (.iload_n 3, 1) := dk_29 (dk_at dksX5_comes_1 9 rfl rfl)
theorem dX5_comes_34 : decode cX5_comes 34 = .ok (.iadd, 1) := dk_96 (dk_at dksX5_comes_1 10 rfl rfl)
theorem dX5_comes_35 : decode cX5_comes 35 = .ok (.aload_n 0, 1) := dk_42 (dk_at dksX5_comes_1 11 rfl rfl)
theorem dX5_comes_36 : decode cX5_comes 36 = .ok (.getfield 7, 3) := dk_180 0 7 (dk_at dksX5_comes_1 12 rfl rfl)
theorem dX5_comes_39 : decode cX5_comes 39 = .ok (.bipush 6, 2) := dk_16 6 (dk_at dksX5_comes_1 15 rfl rfl)
theorem dX5_comes_41 : decode cX5_comes 41 = .ok (.iaload, 1) := dk_46 (dk_at dksX5_comes_1 17 rfl rfl)
theorem dX5_comes_42 : decode cX5_comes 42 = .ok (.iastore, 1) := dk_79 (dk_at dksX5_comes_1 18 rfl rfl)
theorem dX5_comes_43 : decode cX5_comes 43 = .ok (.aload_n 0, 1) := dk_42 (dk_at dksX5_comes_1 19 rfl rfl)
theorem dX5_comes_44 : decode cX5_comes 44 = .ok (.getfield 7, 3) := dk_180 0 7 (dk_at dksX5_comes_1 20 rfl rfl)
theorem dX5_comes_47 : decode cX5_comes 47 = .ok (.bipush 6, 2) := dk_16 6 (dk_at dksX5_comes_2 0 rfl rfl)
theorem dX5_comes_49 : decode cX5_comes 49 = .ok (.dup2, 1) := dk_92 (dk_at dksX5_comes_2 2 rfl rfl)
theorem dX5_comes_50 : decode cX5_comes 50 = .ok (.iaload, 1) := dk_46 (dk_at dksX5_comes_2 3 rfl rfl)
theorem dX5_comes_51 : decode cX5_comes 51 = .ok (.iconst 1, 1) := dk_4 (dk_at dksX5_comes_2 4 rfl rfl)
theorem dX5_comes_52 : decode cX5_comes 52 = .ok (.iadd, 1) := dk_96 (dk_at dksX5_comes_2 5 rfl rfl)
theorem dX5_comes_53 : decode cX5_comes 53 = .ok (.iastore, 1) := dk_79 (dk_at dksX5_comes_2 6 rfl rfl)
theorem dX5_comes_54 : decode cX5_comes 54 = .ok (.aload_n 0, 1) := dk_42 (dk_at dksX5_comes_2 7 rfl rfl)
theorem dX5_comes_55 : decode cX5_comes 55 = .ok (.getfield 7, 3) := dk_180 0 7 (dk_at dksX5_comes_2 8 rfl rfl)
theorem dX5_comes_58 : decode cX5_comes 58 = .ok (.iconst 0, 1) := dk_3 (dk_at dksX5_comes_2 11 rfl rfl)
theorem dX5_comes_59 : decode cX5_comes 59 = .ok (.dup2, 1) := dk_92 (dk_at dksX5_comes_2 12 rfl rfl)
theorem dX5_comes_60 : decode cX5_comes 60 = .ok (.iaload, 1) := dk_46 (dk_at dksX5_comes_2 13 rfl rfl)
theorem dX5_comes_61 : decode cX5_comes 61 = .ok (.iconst 1, 1) := dk_4 (dk_at dksX5_comes_2 14 rfl rfl)
theorem dX5_comes_62 : decode cX5_comes 62 = .ok (.iadd, 1) := dk_96 (dk_at dksX5_comes_2 15 rfl rfl)
theorem dX5_comes_63 : decode cX5_comes 63 = .ok (.iastore, 1) := dk_79 (dk_at dksX5_comes_2 16 rfl rfl)
theorem dX5_comes_64 : decode cX5_comes 64 = .ok (.aload_n 0, 1) := dk_42 (dk_at dksX5_comes_2 17 rfl rfl)
theorem dX5_comes_65 : decode cX5_comes 65 = .ok (.dup, 1) := dk_89 (dk_at dksX5_comes_2 18 rfl rfl)
theorem dX5_comes_66 : decode cX5_comes 66 = .ok (.getfield 108, 3) := dk_180 0 108 (dk_at dksX5_comes_2 19 rfl rfl)
theorem dX5_comes_69 : decode cX5_comes 69 = .ok (.iconst 1, 1) := dk_4 (dk_at dksX5_comes_2 22 rfl rfl)
theorem dX5_comes_70 : decode cX5_comes 70 = .ok (.iadd, 1) := dk_96 (dk_at dksX5_comes_2 23 rfl rfl)
theorem dX5_comes_71 : decode cX5_comes 71 = .ok (.putfield 108, 3) := dk_181 0 108 (dk_at dksX5_comes_3 0 rfl rfl)
theorem dX5_comes_74 : decode cX5_comes 74 = .ok (.aload_n 0, 1) := dk_42 (dk_at dksX5_comes_3 3 rfl rfl)
theorem dX5_comes_75 : decode cX5_comes 75 = .ok (.aload_n 0, 1) := dk_42 (dk_at dksX5_comes_3 4 rfl rfl)
theorem dX5_comes_76 : decode cX5_comes 76 = .ok (.iload_n 1, 1) := dk_27 (dk_at dksX5_comes_3 5 rfl rfl)
theorem dX5_comes_77 : decode cX5_comes 77 = .ok (.invokevirtual 61, 3) := dk_182 0 61 (dk_at dksX5_comes_3 6 rfl rfl)
theorem dX5_comes_80 : decode cX5_comes 80 = .ok (.aload_n 0, 1) := dk_42 (dk_at dksX5_comes_3 9 rfl rfl)
theorem dX5_comes_81 : decode cX5_comes 81 = .ok (.getfield 7, 3) := dk_180 0 7 (dk_at dksX5_comes_3 10 rfl rfl)
theorem dX5_comes_84 : decode cX5_comes 84 = .ok (.iconst 0, 1) := dk_3 (dk_at dksX5_comes_3 13 rfl rfl)
theorem dX5_comes_85 : decode cX5_comes 85 = .ok (.iaload, 1) := dk_46 (dk_at dksX5_comes_3 14 rfl rfl)
theorem dX5_comes_86 : decode cX5_comes 86 = .ok (.invokevirtual 111, 3) := dk_182 0 111 (dk_at dksX5_comes_3 15 rfl rfl)
theorem dX5_comes_89 : decode cX5_comes 89 = .ok (.aload_n 0, 1) := dk_42 (dk_at dksX5_comes_3 18 rfl rfl)
theorem dX5_comes_90 : decode cX5_comes 90 = .ok (.getfield 7, 3) := dk_180 0 7 (dk_at dksX5_comes_3 19 rfl rfl)
theorem dX5_comes_93 : decode cX5_comes 93 = .ok (.iconst 5, 1) := dk_8 (dk_at dksX5_comes_3 22 rfl rfl)
theorem dX5_comes_94 : decode cX5_comes 94 = .ok (.iaload, 1) := dk_46 (dk_at dksX5_comes_3 23 rfl rfl)
theorem dX5_comes_95 : decode cX5_comes 95 = .ok (.ifCond .le 23, 3) := dk_158 0 23 (dk_at dksX5_comes_4 0 rfl rfl)
theorem dX5_comes_98 : decode cX5_comes 98 = .ok (.aload_n 0, 1) := dk_42 (dk_at dksX5_comes_4 3 rfl rfl)
theorem dX5_comes_99 : decode cX5_comes 99 = .ok (.getfield 7, 3) := dk_180 0 7 (dk_at dksX5_comes_4 4 rfl rfl)
theorem dX5_comes_102 : decode cX5_comes 102 = .ok (.iconst 0, 1) := dk_3 (dk_at dksX5_comes_4 7 rfl rfl)
theorem dX5_comes_103 : decode cX5_comes 103 = .ok (.iaload, 1) := dk_46 (dk_at dksX5_comes_4 8 rfl rfl)
theorem dX5_comes_104 : decode cX5_comes 104 = .ok (.aload_n 0, 1) := dk_42 (dk_at dksX5_comes_4 9 rfl rfl)
theorem dX5_comes_105 : decode cX5_comes 105 = .ok (.getfield 7, 3) := dk_180 0 7 (dk_at dksX5_comes_4 10 rfl rfl)
theorem dX5_comes_108 : decode cX5_comes 108 = .ok (.iconst 5, 1) := dk_8 (dk_at dksX5_comes_4 13 rfl rfl)
theorem dX5_comes_109 : decode cX5_comes 109 = .ok (.iaload, 1) := dk_46 (dk_at dksX5_comes_4 14 rfl rfl)
theorem dX5_comes_110 : decode cX5_comes 110 = .ok (.if_icmp .le 8, 3) := dk_164 0 8 (dk_at dksX5_comes_4 15 rfl rfl)
theorem dX5_comes_113 : decode cX5_comes 113 = .ok (.aload_n 0, 1) := dk_42 (dk_at dksX5_comes_4 18 rfl rfl)
theorem dX5_comes_114 : decode cX5_comes 114 = .ok (.iconst 0, 1) := dk_3 (dk_at dksX5_comes_4 19 rfl rfl)
theorem dX5_comes_115 : decode cX5_comes 115 = .ok (.invokevirtual 115, 3) := dk_182 0 115 (dk_at dksX5_comes_4 20 rfl rfl)
theorem dX5_comes_118 : decode cX5_comes 118 = .ok (.return_, 1) := dk_177 (dk_at dksX5_comes_4 23 rfl rfl)
abbrev cX5_binOf : ByteArray := prog_15_method_8_code
def yX5_binOf : MethodName := ⟨RX5, "binOf", "(I)I"⟩
def dkwX5_binOf_0 : List UInt8 := [42, 27, 182, 0, 54, 42, 180, 0, 7, 4, 46, 112, 172]
abbrev dktX5_binOf_0 : List UInt8 := dkwX5_binOf_0 ++ []
theorem dksX5_binOf_0 : cX5_binOf.data.toList.drop 0 = dktX5_binOf_0 := by decide +kernel
theorem dX5_binOf_0 : decode cX5_binOf 0 = .ok (.aload_n 0, 1) := dk_42 (dk_at dksX5_binOf_0 0 rfl rfl)
theorem dX5_binOf_1 : decode cX5_binOf 1 = .ok (.iload_n 1, 1) := dk_27 (dk_at dksX5_binOf_0 1 rfl rfl)
theorem dX5_binOf_2 : decode cX5_binOf 2 = .ok (.invokevirtual 54, 3) := dk_182 0 54 (dk_at dksX5_binOf_0 2 rfl rfl)
theorem dX5_binOf_5 : decode cX5_binOf 5 = .ok (.aload_n 0, 1) := dk_42 (dk_at dksX5_binOf_0 5 rfl rfl)
theorem dX5_binOf_6 : decode cX5_binOf 6 = .ok (.getfield 7, 3) := dk_180 0 7 (dk_at dksX5_binOf_0 6 rfl rfl)
theorem dX5_binOf_9 : decode cX5_binOf 9 = .ok (.iconst 1, 1) := dk_4 (dk_at dksX5_binOf_0 9 rfl rfl)
theorem dX5_binOf_10 : decode cX5_binOf 10 = .ok (.iaload, 1) := dk_46 (dk_at dksX5_binOf_0 10 rfl rfl)
theorem dX5_binOf_11 : decode cX5_binOf 11 = .ok (.irem, 1) := dk_112 (dk_at dksX5_binOf_0 11 rfl rfl)
theorem dX5_binOf_12 : decode cX5_binOf 12 = .ok (.ireturn, 1) := dk_172 (dk_at dksX5_binOf_0 12 rfl rfl)
abbrev cX5_hashOf : ByteArray := prog_15_method_7_code
def yX5_hashOf : MethodName := ⟨RX5, "hashOf", "(I)I"⟩
def dkwX5_hashOf_1 : List UInt8 := [28, 28, 16, 16, 108, 130, 172]
abbrev dktX5_hashOf_1 : List UInt8 := dkwX5_hashOf_1 ++ []
def dkwX5_hashOf_0 : List UInt8 := [27, 133, 42, 180, 0, 7, 5, 46, 133, 105, 42, 180, 0, 7, 6, 46, 133, 97, 20, 0, 52, 113, 136, 61]
abbrev dktX5_hashOf_0 : List UInt8 := dkwX5_hashOf_0 ++ dktX5_hashOf_1
theorem dksX5_hashOf_0 : cX5_hashOf.data.toList.drop 0 = dktX5_hashOf_0 := by decide +kernel
theorem dksX5_hashOf_1 : cX5_hashOf.data.toList.drop 24 = dktX5_hashOf_1 := dk_seg dksX5_hashOf_0 24 rfl rfl
theorem dX5_hashOf_0 : decode cX5_hashOf 0 = .ok (.iload_n 1, 1) := dk_27 (dk_at dksX5_hashOf_0 0 rfl rfl)
theorem dX5_hashOf_1 : decode cX5_hashOf 1 = .ok (.i2l, 1) := dk_133 (dk_at dksX5_hashOf_0 1 rfl rfl)
theorem dX5_hashOf_2 : decode cX5_hashOf 2 = .ok (.aload_n 0, 1) := dk_42 (dk_at dksX5_hashOf_0 2 rfl rfl)
theorem dX5_hashOf_3 : decode cX5_hashOf 3 = .ok (.getfield 7, 3) := dk_180 0 7 (dk_at dksX5_hashOf_0 3 rfl rfl)
theorem dX5_hashOf_6 : decode cX5_hashOf 6 = .ok (.iconst 2, 1) := dk_5 (dk_at dksX5_hashOf_0 6 rfl rfl)
theorem dX5_hashOf_7 : decode cX5_hashOf 7 = .ok (.iaload, 1) := dk_46 (dk_at dksX5_hashOf_0 7 rfl rfl)
theorem dX5_hashOf_8 : decode cX5_hashOf 8 = .ok (.i2l, 1) := dk_133 (dk_at dksX5_hashOf_0 8 rfl rfl)
theorem dX5_hashOf_9 : decode cX5_hashOf 9 = .ok (.lmul, 1) := dk_105 (dk_at dksX5_hashOf_0 9 rfl rfl)
theorem dX5_hashOf_10 : decode cX5_hashOf 10 = .ok (.aload_n 0, 1) := dk_42 (dk_at dksX5_hashOf_0 10 rfl rfl)
theorem dX5_hashOf_11 : decode cX5_hashOf 11 = .ok (.getfield 7, 3) := dk_180 0 7 (dk_at dksX5_hashOf_0 11 rfl rfl)
theorem dX5_hashOf_14 : decode cX5_hashOf 14 = .ok (.iconst 3, 1) := dk_6 (dk_at dksX5_hashOf_0 14 rfl rfl)
theorem dX5_hashOf_15 : decode cX5_hashOf 15 = .ok (.iaload, 1) := dk_46 (dk_at dksX5_hashOf_0 15 rfl rfl)
theorem dX5_hashOf_16 : decode cX5_hashOf 16 = .ok (.i2l, 1) := dk_133 (dk_at dksX5_hashOf_0 16 rfl rfl)
theorem dX5_hashOf_17 : decode cX5_hashOf 17 = .ok (.ladd, 1) := dk_97 (dk_at dksX5_hashOf_0 17 rfl rfl)
theorem dX5_hashOf_18 : decode cX5_hashOf 18 = .ok (.ldc2_w 52, 3) := dk_20 0 52 (dk_at dksX5_hashOf_0 18 rfl rfl)
theorem dX5_hashOf_21 : decode cX5_hashOf 21 = .ok (.lrem, 1) := dk_113 (dk_at dksX5_hashOf_0 21 rfl rfl)
theorem dX5_hashOf_22 : decode cX5_hashOf 22 = .ok (.l2i, 1) := dk_136 (dk_at dksX5_hashOf_0 22 rfl rfl)
theorem dX5_hashOf_23 : decode cX5_hashOf 23 = .ok (.istore_n 2, 1) := dk_61 (dk_at dksX5_hashOf_0 23 rfl rfl)
theorem dX5_hashOf_24 : decode cX5_hashOf 24 = .ok (.iload_n 2, 1) := dk_28 (dk_at dksX5_hashOf_1 0 rfl rfl)
theorem dX5_hashOf_25 : decode cX5_hashOf 25 = .ok (.iload_n 2, 1) := dk_28 (dk_at dksX5_hashOf_1 1 rfl rfl)
theorem dX5_hashOf_26 : decode cX5_hashOf 26 = .ok (.bipush 16, 2) := dk_16 16 (dk_at dksX5_hashOf_1 2 rfl rfl)
theorem dX5_hashOf_28 : decode cX5_hashOf 28 = .ok (.idiv, 1) := dk_108 (dk_at dksX5_hashOf_1 4 rfl rfl)
theorem dX5_hashOf_29 : decode cX5_hashOf 29 = .ok (.ixor, 1) := dk_130 (dk_at dksX5_hashOf_1 5 rfl rfl)
theorem dX5_hashOf_30 : decode cX5_hashOf 30 = .ok (.ireturn, 1) := dk_172 (dk_at dksX5_hashOf_1 6 rfl rfl)
abbrev cX5_fits : ByteArray := prog_15_method_21_code
def yX5_fits : MethodName := ⟨RX5, "fits", "(II)V"⟩
def dkwX5_fits_3 : List UInt8 := [42, 182, 0, 105, 177]
abbrev dktX5_fits_3 : List UInt8 := dkwX5_fits_3 ++ []
def dkwX5_fits_2 : List UInt8 := [28, 104, 6, 42, 180, 0, 7, 4, 46, 104, 164, 0, 18, 42, 180, 0, 7, 4, 46, 16, 64, 162, 0, 7]
abbrev dktX5_fits_2 : List UInt8 := dkwX5_fits_2 ++ dktX5_fits_3
def dkwX5_fits_1 : List UInt8 := [16, 16, 162, 0, 10, 42, 182, 0, 105, 167, 0, 14, 42, 180, 0, 7, 17, 0, 154, 27, 96, 4, 79, 7]
abbrev dktX5_fits_1 : List UInt8 := dkwX5_fits_1 ++ dktX5_fits_2
def dkwX5_fits_0 : List UInt8 := [42, 27, 182, 0, 95, 154, 0, 41, 42, 27, 182, 0, 102, 8, 164, 0, 32, 42, 180, 0, 7, 4, 46]
abbrev dktX5_fits_0 : List UInt8 := dkwX5_fits_0 ++ dktX5_fits_1
theorem dksX5_fits_0 : cX5_fits.data.toList.drop 0 = dktX5_fits_0 := by decide +kernel
theorem dksX5_fits_1 : cX5_fits.data.toList.drop 23 = dktX5_fits_1 := dk_seg dksX5_fits_0 23 rfl rfl
theorem dksX5_fits_2 : cX5_fits.data.toList.drop 47 = dktX5_fits_2 := dk_seg dksX5_fits_1 24 rfl rfl
theorem dksX5_fits_3 : cX5_fits.data.toList.drop 71 = dktX5_fits_3 := dk_seg dksX5_fits_2 24 rfl rfl
theorem dX5_fits_0 : decode cX5_fits 0 = .ok (.aload_n 0, 1) := dk_42 (dk_at dksX5_fits_0 0 rfl rfl)
theorem dX5_fits_1 : decode cX5_fits 1 = .ok (.iload_n 1, 1) := dk_27 (dk_at dksX5_fits_0 1 rfl rfl)
theorem dX5_fits_2 : decode cX5_fits 2 = .ok (.invokevirtual 95, 3) := dk_182 0 95 (dk_at dksX5_fits_0 2 rfl rfl)
theorem dX5_fits_5 : decode cX5_fits 5 = .ok (.ifCond .ne 41, 3) := dk_154 0 41 (dk_at dksX5_fits_0 5 rfl rfl)
theorem dX5_fits_8 : decode cX5_fits 8 = .ok (.aload_n 0, 1) := dk_42 (dk_at dksX5_fits_0 8 rfl rfl)
theorem dX5_fits_9 : decode cX5_fits 9 = .ok (.iload_n 1, 1) := dk_27 (dk_at dksX5_fits_0 9 rfl rfl)
theorem dX5_fits_10 : decode cX5_fits 10 = .ok (.invokevirtual 102, 3) := dk_182 0 102 (dk_at dksX5_fits_0 10 rfl rfl)
theorem dX5_fits_13 : decode cX5_fits 13 = .ok (.iconst 5, 1) := dk_8 (dk_at dksX5_fits_0 13 rfl rfl)
theorem dX5_fits_14 : decode cX5_fits 14 = .ok (.if_icmp .le 32, 3) := dk_164 0 32 (dk_at dksX5_fits_0 14 rfl rfl)
theorem dX5_fits_17 : decode cX5_fits 17 = .ok (.aload_n 0, 1) := dk_42 (dk_at dksX5_fits_0 17 rfl rfl)
theorem dX5_fits_18 : decode cX5_fits 18 = .ok (.getfield 7, 3) := dk_180 0 7 (dk_at dksX5_fits_0 18 rfl rfl)
theorem dX5_fits_21 : decode cX5_fits 21 = .ok (.iconst 1, 1) := dk_4 (dk_at dksX5_fits_0 21 rfl rfl)
theorem dX5_fits_22 : decode cX5_fits 22 = .ok (.iaload, 1) := dk_46 (dk_at dksX5_fits_0 22 rfl rfl)
theorem dX5_fits_23 : decode cX5_fits 23 = .ok (.bipush 16, 2) := dk_16 16 (dk_at dksX5_fits_1 0 rfl rfl)
theorem dX5_fits_25 : decode cX5_fits 25 = .ok (.if_icmp .ge 10, 3) := dk_162 0 10 (dk_at dksX5_fits_1 2 rfl rfl)
theorem dX5_fits_28 : decode cX5_fits 28 = .ok (.aload_n 0, 1) := dk_42 (dk_at dksX5_fits_1 5 rfl rfl)
theorem dX5_fits_29 : decode cX5_fits 29 = .ok (.invokevirtual 105, 3) := dk_182 0 105 (dk_at dksX5_fits_1 6 rfl rfl)
theorem dX5_fits_32 : decode cX5_fits 32 = .ok (.goto 14, 3) := dk_167 0 14 (dk_at dksX5_fits_1 9 rfl rfl)
theorem dX5_fits_35 : decode cX5_fits 35 = .ok (.aload_n 0, 1) := dk_42 (dk_at dksX5_fits_1 12 rfl rfl)
theorem dX5_fits_36 : decode cX5_fits 36 = .ok (.getfield 7, 3) := dk_180 0 7 (dk_at dksX5_fits_1 13 rfl rfl)
theorem dX5_fits_39 : decode cX5_fits 39 = .ok (.sipush 154, 3) := dk_17 0 154 (dk_at dksX5_fits_1 16 rfl rfl)
theorem dX5_fits_42 : decode cX5_fits 42 = .ok (.iload_n 1, 1) := dk_27 (dk_at dksX5_fits_1 19 rfl rfl)
theorem dX5_fits_43 : decode cX5_fits 43 = .ok (.iadd, 1) := dk_96 (dk_at dksX5_fits_1 20 rfl rfl)
theorem dX5_fits_44 : decode cX5_fits 44 = .ok (.iconst 1, 1) := dk_4 (dk_at dksX5_fits_1 21 rfl rfl)
theorem dX5_fits_45 : decode cX5_fits 45 = .ok (.iastore, 1) := dk_79 (dk_at dksX5_fits_1 22 rfl rfl)
theorem dX5_fits_46 : decode cX5_fits 46 = .ok (.iconst 4, 1) := dk_7 (dk_at dksX5_fits_1 23 rfl rfl)
theorem dX5_fits_47 : decode cX5_fits 47 = .ok (.iload_n 2, 1) := dk_28 (dk_at dksX5_fits_2 0 rfl rfl)
theorem dX5_fits_48 : decode cX5_fits 48 = .ok (.imul, 1) := dk_104 (dk_at dksX5_fits_2 1 rfl rfl)
theorem dX5_fits_49 : decode cX5_fits 49 = .ok (.iconst 3, 1) := dk_6 (dk_at dksX5_fits_2 2 rfl rfl)
theorem dX5_fits_50 : decode cX5_fits 50 = .ok (.aload_n 0, 1) := dk_42 (dk_at dksX5_fits_2 3 rfl rfl)
theorem dX5_fits_51 : decode cX5_fits 51 = .ok (.getfield 7, 3) := dk_180 0 7 (dk_at dksX5_fits_2 4 rfl rfl)
theorem dX5_fits_54 : decode cX5_fits 54 = .ok (.iconst 1, 1) := dk_4 (dk_at dksX5_fits_2 7 rfl rfl)
theorem dX5_fits_55 : decode cX5_fits 55 = .ok (.iaload, 1) := dk_46 (dk_at dksX5_fits_2 8 rfl rfl)
theorem dX5_fits_56 : decode cX5_fits 56 = .ok (.imul, 1) := dk_104 (dk_at dksX5_fits_2 9 rfl rfl)
theorem dX5_fits_57 : decode cX5_fits 57 = .ok (.if_icmp .le 18, 3) := dk_164 0 18 (dk_at dksX5_fits_2 10 rfl rfl)
theorem dX5_fits_60 : decode cX5_fits 60 = .ok (.aload_n 0, 1) := dk_42 (dk_at dksX5_fits_2 13 rfl rfl)
theorem dX5_fits_61 : decode cX5_fits 61 = .ok (.getfield 7, 3) := dk_180 0 7 (dk_at dksX5_fits_2 14 rfl rfl)
theorem dX5_fits_64 : decode cX5_fits 64 = .ok (.iconst 1, 1) := dk_4 (dk_at dksX5_fits_2 17 rfl rfl)
theorem dX5_fits_65 : decode cX5_fits 65 = .ok (.iaload, 1) := dk_46 (dk_at dksX5_fits_2 18 rfl rfl)
theorem dX5_fits_66 : decode cX5_fits 66 = .ok (.bipush 64, 2) := dk_16 64 (dk_at dksX5_fits_2 19 rfl rfl)
theorem dX5_fits_68 : decode cX5_fits 68 = .ok (.if_icmp .ge 7, 3) := dk_162 0 7 (dk_at dksX5_fits_2 21 rfl rfl)
theorem dX5_fits_71 : decode cX5_fits 71 = .ok (.aload_n 0, 1) := dk_42 (dk_at dksX5_fits_3 0 rfl rfl)
theorem dX5_fits_72 : decode cX5_fits 72 = .ok (.invokevirtual 105, 3) := dk_182 0 105 (dk_at dksX5_fits_3 1 rfl rfl)
theorem dX5_fits_75 : decode cX5_fits 75 = .ok (.return_, 1) := dk_177 (dk_at dksX5_fits_3 4 rfl rfl)
abbrev cX5_isTree : ByteArray := prog_15_method_17_code
def yX5_isTree : MethodName := ⟨RX5, "isTree", "(I)Z"⟩
def dkwX5_isTree_0 : List UInt8 := [42, 180, 0, 7, 17, 0, 154, 27, 96, 46, 4, 160, 0, 7, 4, 167, 0, 4, 3, 172]
abbrev dktX5_isTree_0 : List UInt8 := dkwX5_isTree_0 ++ []
theorem dksX5_isTree_0 : cX5_isTree.data.toList.drop 0 = dktX5_isTree_0 := by decide +kernel
theorem dX5_isTree_0 : decode cX5_isTree 0 = .ok (.aload_n 0, 1) := dk_42 (dk_at dksX5_isTree_0 0 rfl rfl)
theorem dX5_isTree_1 : decode cX5_isTree 1 = .ok (.getfield 7, 3) := dk_180 0 7 (dk_at dksX5_isTree_0 1 rfl rfl)
theorem dX5_isTree_4 : decode cX5_isTree 4 = .ok (.sipush 154, 3) := dk_17 0 154 (dk_at dksX5_isTree_0 4 rfl rfl)
theorem dX5_isTree_7 : decode cX5_isTree 7 = .ok (.iload_n 1, 1) := dk_27 (dk_at dksX5_isTree_0 7 rfl rfl)
theorem dX5_isTree_8 : decode cX5_isTree 8 = .ok (.iadd, 1) := dk_96 (dk_at dksX5_isTree_0 8 rfl rfl)
theorem dX5_isTree_9 : decode cX5_isTree 9 = .ok (.iaload, 1) := dk_46 (dk_at dksX5_isTree_0 9 rfl rfl)
theorem dX5_isTree_10 : decode cX5_isTree 10 = .ok (.iconst 1, 1) := dk_4 (dk_at dksX5_isTree_0 10 rfl rfl)
theorem dX5_isTree_11 : decode cX5_isTree 11 = .ok (.if_icmp .ne 7, 3) := dk_160 0 7 (dk_at dksX5_isTree_0 11 rfl rfl)
theorem dX5_isTree_14 : decode cX5_isTree 14 = .ok (.iconst 1, 1) := dk_4 (dk_at dksX5_isTree_0 14 rfl rfl)
theorem dX5_isTree_15 : decode cX5_isTree 15 = .ok (.goto 4, 3) := dk_167 0 4 (dk_at dksX5_isTree_0 15 rfl rfl)
theorem dX5_isTree_18 : decode cX5_isTree 18 = .ok (.iconst 0, 1) := dk_3 (dk_at dksX5_isTree_0 18 rfl rfl)
theorem dX5_isTree_19 : decode cX5_isTree 19 = .ok (.ireturn, 1) := dk_172 (dk_at dksX5_isTree_0 19 rfl rfl)
abbrev cX5_manyIn : ByteArray := prog_15_method_19_code
def yX5_manyIn : MethodName := ⟨RX5, "manyIn", "(I)I"⟩
def dkwX5_manyIn_1 : List UInt8 := [46, 182, 0, 61, 27, 160, 0, 7, 4, 167, 0, 4, 3, 96, 61, 132, 3, 1, 167, 255, 218, 28, 172]
abbrev dktX5_manyIn_1 : List UInt8 := dkwX5_manyIn_1 ++ []
def dkwX5_manyIn_0 : List UInt8 := [3, 61, 3, 62, 29, 42, 180, 0, 7, 3, 46, 162, 0, 34, 28, 42, 42, 180, 0, 7, 16, 7, 29, 96]
abbrev dktX5_manyIn_0 : List UInt8 := dkwX5_manyIn_0 ++ dktX5_manyIn_1
theorem dksX5_manyIn_0 : cX5_manyIn.data.toList.drop 0 = dktX5_manyIn_0 := by decide +kernel
theorem dksX5_manyIn_1 : cX5_manyIn.data.toList.drop 24 = dktX5_manyIn_1 := dk_seg dksX5_manyIn_0 24 rfl rfl
theorem dX5_manyIn_0 : decode cX5_manyIn 0 = .ok (.iconst 0, 1) := dk_3 (dk_at dksX5_manyIn_0 0 rfl rfl)
theorem dX5_manyIn_1 : decode cX5_manyIn 1 = .ok (.istore_n 2, 1) := dk_61 (dk_at dksX5_manyIn_0 1 rfl rfl)
theorem dX5_manyIn_2 : decode cX5_manyIn 2 = .ok (.iconst 0, 1) := dk_3 (dk_at dksX5_manyIn_0 2 rfl rfl)
theorem dX5_manyIn_3 : decode cX5_manyIn 3 = .ok (.istore_n 3, 1) := dk_62 (dk_at dksX5_manyIn_0 3 rfl rfl)
theorem dX5_manyIn_4 : decode cX5_manyIn 4 = .ok (.iload_n 3, 1) := dk_29 (dk_at dksX5_manyIn_0 4 rfl rfl)
theorem dX5_manyIn_5 : decode cX5_manyIn 5 = .ok (.aload_n 0, 1) := dk_42 (dk_at dksX5_manyIn_0 5 rfl rfl)
theorem dX5_manyIn_6 : decode cX5_manyIn 6 = .ok (.getfield 7, 3) := dk_180 0 7 (dk_at dksX5_manyIn_0 6 rfl rfl)
theorem dX5_manyIn_9 : decode cX5_manyIn 9 = .ok (.iconst 0, 1) := dk_3 (dk_at dksX5_manyIn_0 9 rfl rfl)
theorem dX5_manyIn_10 : decode cX5_manyIn 10 = .ok (.iaload, 1) := dk_46 (dk_at dksX5_manyIn_0 10 rfl rfl)
theorem dX5_manyIn_11 : decode cX5_manyIn 11 = .ok (.if_icmp .ge 34, 3) := dk_162 0 34 (dk_at dksX5_manyIn_0 11 rfl rfl)
theorem dX5_manyIn_14 : decode cX5_manyIn 14 = .ok (.iload_n 2, 1) := dk_28 (dk_at dksX5_manyIn_0 14 rfl rfl)
theorem dX5_manyIn_15 : decode cX5_manyIn 15 = .ok (.aload_n 0, 1) := dk_42 (dk_at dksX5_manyIn_0 15 rfl rfl)
theorem dX5_manyIn_16 : decode cX5_manyIn 16 = .ok (.aload_n 0, 1) := dk_42 (dk_at dksX5_manyIn_0 16 rfl rfl)
theorem dX5_manyIn_17 : decode cX5_manyIn 17 = .ok (.getfield 7, 3) := dk_180 0 7 (dk_at dksX5_manyIn_0 17 rfl rfl)
theorem dX5_manyIn_20 : decode cX5_manyIn 20 = .ok (.bipush 7, 2) := dk_16 7 (dk_at dksX5_manyIn_0 20 rfl rfl)
theorem dX5_manyIn_22 : decode cX5_manyIn 22 = .ok (.iload_n 3, 1) := dk_29 (dk_at dksX5_manyIn_0 22 rfl rfl)
theorem dX5_manyIn_23 : decode cX5_manyIn 23 = .ok (.iadd, 1) := dk_96 (dk_at dksX5_manyIn_0 23 rfl rfl)
theorem dX5_manyIn_24 : decode cX5_manyIn 24 = .ok (.iaload, 1) := dk_46 (dk_at dksX5_manyIn_1 0 rfl rfl)
theorem dX5_manyIn_25 : decode cX5_manyIn 25 = .ok (.invokevirtual 61, 3) := dk_182 0 61 (dk_at dksX5_manyIn_1 1 rfl rfl)
theorem dX5_manyIn_28 : decode cX5_manyIn 28 = .ok (.iload_n 1, 1) := dk_27 (dk_at dksX5_manyIn_1 4 rfl rfl)
theorem dX5_manyIn_29 : decode cX5_manyIn 29 = .ok (.if_icmp .ne 7, 3) := dk_160 0 7 (dk_at dksX5_manyIn_1 5 rfl rfl)
theorem dX5_manyIn_32 : decode cX5_manyIn 32 = .ok (.iconst 1, 1) := dk_4 (dk_at dksX5_manyIn_1 8 rfl rfl)
theorem dX5_manyIn_33 : decode cX5_manyIn 33 = .ok (.goto 4, 3) := dk_167 0 4 (dk_at dksX5_manyIn_1 9 rfl rfl)
theorem dX5_manyIn_36 : decode cX5_manyIn 36 = .ok (.iconst 0, 1) := dk_3 (dk_at dksX5_manyIn_1 12 rfl rfl)
theorem dX5_manyIn_37 : decode cX5_manyIn 37 = .ok (.iadd, 1) := dk_96 (dk_at dksX5_manyIn_1 13 rfl rfl)
theorem dX5_manyIn_38 : decode cX5_manyIn 38 = .ok (.istore_n 2, 1) := dk_61 (dk_at dksX5_manyIn_1 14 rfl rfl)
theorem dX5_manyIn_39 : decode cX5_manyIn 39 = .ok (.iinc 3 1, 3) := dk_132 3 1 (dk_at dksX5_manyIn_1 15 rfl rfl)
theorem dX5_manyIn_42 : decode cX5_manyIn 42 = .ok (.goto (-38), 3) := dk_167 255 218 (dk_at dksX5_manyIn_1 18 rfl rfl)
theorem dX5_manyIn_45 : decode cX5_manyIn 45 = .ok (.iload_n 2, 1) := dk_28 (dk_at dksX5_manyIn_1 21 rfl rfl)
theorem dX5_manyIn_46 : decode cX5_manyIn 46 = .ok (.ireturn, 1) := dk_172 (dk_at dksX5_manyIn_1 22 rfl rfl)
abbrev cX5_grows : ByteArray := prog_15_method_20_code
def yX5_grows : MethodName := ⟨RX5, "grows", "()V"⟩
def dkwX5_grows_3 : List UInt8 := [42, 27, 28, 96, 182, 0, 102, 5, 164, 0, 7, 4, 167, 0, 4, 3, 79, 132, 2, 1, 167, 255, 182, 177]
abbrev dktX5_grows_3 : List UInt8 := dkwX5_grows_3 ++ []
def dkwX5_grows_2 : List UInt8 := [164, 0, 7, 4, 167, 0, 4, 3, 79, 42, 180, 0, 7, 17, 0, 154, 27, 96, 28, 96, 29, 153, 0, 18]
abbrev dktX5_grows_2 : List UInt8 := dkwX5_grows_2 ++ dktX5_grows_3
def dkwX5_grows_1 : List UInt8 := [28, 182, 0, 95, 62, 42, 180, 0, 7, 17, 0, 154, 28, 96, 29, 153, 0, 16, 42, 28, 182, 0, 102, 5]
abbrev dktX5_grows_1 : List UInt8 := dkwX5_grows_1 ++ dktX5_grows_2
def dkwX5_grows_0 : List UInt8 := [42, 180, 0, 7, 4, 46, 60, 42, 180, 0, 7, 4, 5, 27, 104, 79, 3, 61, 28, 27, 162, 0, 75, 42]
abbrev dktX5_grows_0 : List UInt8 := dkwX5_grows_0 ++ dktX5_grows_1
theorem dksX5_grows_0 : cX5_grows.data.toList.drop 0 = dktX5_grows_0 := by decide +kernel
theorem dksX5_grows_1 : cX5_grows.data.toList.drop 24 = dktX5_grows_1 := dk_seg dksX5_grows_0 24 rfl rfl
theorem dksX5_grows_2 : cX5_grows.data.toList.drop 48 = dktX5_grows_2 := dk_seg dksX5_grows_1 24 rfl rfl
theorem dksX5_grows_3 : cX5_grows.data.toList.drop 72 = dktX5_grows_3 := dk_seg dksX5_grows_2 24 rfl rfl
theorem dX5_grows_0 : decode cX5_grows 0 = .ok (.aload_n 0, 1) := dk_42 (dk_at dksX5_grows_0 0 rfl rfl)
theorem dX5_grows_1 : decode cX5_grows 1 = .ok (.getfield 7, 3) := dk_180 0 7 (dk_at dksX5_grows_0 1 rfl rfl)
theorem dX5_grows_4 : decode cX5_grows 4 = .ok (.iconst 1, 1) := dk_4 (dk_at dksX5_grows_0 4 rfl rfl)
theorem dX5_grows_5 : decode cX5_grows 5 = .ok (.iaload, 1) := dk_46 (dk_at dksX5_grows_0 5 rfl rfl)
theorem dX5_grows_6 : decode cX5_grows 6 = .ok (.istore_n 1, 1) := dk_60 (dk_at dksX5_grows_0 6 rfl rfl)
theorem dX5_grows_7 : decode cX5_grows 7 = .ok (.aload_n 0, 1) := dk_42 (dk_at dksX5_grows_0 7 rfl rfl)
theorem dX5_grows_8 : decode cX5_grows 8 = .ok (.getfield 7, 3) := dk_180 0 7 (dk_at dksX5_grows_0 8 rfl rfl)
theorem dX5_grows_11 : decode cX5_grows 11 = .ok (.iconst 1, 1) := dk_4 (dk_at dksX5_grows_0 11 rfl rfl)
theorem dX5_grows_12 : decode cX5_grows 12 = .ok (.iconst 2, 1) := dk_5 (dk_at dksX5_grows_0 12 rfl rfl)
theorem dX5_grows_13 : decode cX5_grows 13 = .ok (.iload_n 1, 1) := dk_27 (dk_at dksX5_grows_0 13 rfl rfl)
theorem dX5_grows_14 : decode cX5_grows 14 = .ok (.imul, 1) := dk_104 (dk_at dksX5_grows_0 14 rfl rfl)
theorem dX5_grows_15 : decode cX5_grows 15 = .ok (.iastore, 1) := dk_79 (dk_at dksX5_grows_0 15 rfl rfl)
theorem dX5_grows_16 : decode cX5_grows 16 = .ok (.iconst 0, 1) := dk_3 (dk_at dksX5_grows_0 16 rfl rfl)
theorem dX5_grows_17 : decode cX5_grows 17 = .ok (.istore_n 2, 1) := dk_61 (dk_at dksX5_grows_0 17 rfl rfl)
theorem dX5_grows_18 : decode cX5_grows 18 = .ok (.iload_n 2, 1) := dk_28 (dk_at dksX5_grows_0 18 rfl rfl)
theorem dX5_grows_19 : decode cX5_grows 19 = .ok (.iload_n 1, 1) := dk_27 (dk_at dksX5_grows_0 19 rfl rfl)
theorem dX5_grows_20 : decode cX5_grows 20 = .ok (.if_icmp .ge 75, 3) := dk_162 0 75 (dk_at dksX5_grows_0 20 rfl rfl)
theorem dX5_grows_23 : decode cX5_grows 23 = .ok (.aload_n 0, 1) := dk_42 (dk_at dksX5_grows_0 23 rfl rfl)
theorem dX5_grows_24 : decode cX5_grows 24 = .ok (.iload_n 2, 1) := dk_28 (dk_at dksX5_grows_1 0 rfl rfl)
theorem dX5_grows_25 : decode cX5_grows 25 = .ok (.invokevirtual 95, 3) := dk_182 0 95 (dk_at dksX5_grows_1 1 rfl rfl)
theorem dX5_grows_28 : decode cX5_grows 28 = .ok (.istore_n 3, 1) := dk_62 (dk_at dksX5_grows_1 4 rfl rfl)
theorem dX5_grows_29 : decode cX5_grows 29 = .ok (.aload_n 0, 1) := dk_42 (dk_at dksX5_grows_1 5 rfl rfl)
theorem dX5_grows_30 : decode cX5_grows 30 = .ok (.getfield 7, 3) := dk_180 0 7 (dk_at dksX5_grows_1 6 rfl rfl)
theorem dX5_grows_33 : decode cX5_grows 33 = .ok (.sipush 154, 3) := dk_17 0 154 (dk_at dksX5_grows_1 9 rfl rfl)
theorem dX5_grows_36 : decode cX5_grows 36 = .ok (.iload_n 2, 1) := dk_28 (dk_at dksX5_grows_1 12 rfl rfl)
theorem dX5_grows_37 : decode cX5_grows 37 = .ok (.iadd, 1) := dk_96 (dk_at dksX5_grows_1 13 rfl rfl)
theorem dX5_grows_38 : decode cX5_grows 38 = .ok (.iload_n 3, 1) := dk_29 (dk_at dksX5_grows_1 14 rfl rfl)
theorem dX5_grows_39 : decode cX5_grows 39 = .ok (.ifCond .eq 16, 3) := dk_153 0 16 (dk_at dksX5_grows_1 15 rfl rfl)
theorem dX5_grows_42 : decode cX5_grows 42 = .ok (.aload_n 0, 1) := dk_42 (dk_at dksX5_grows_1 18 rfl rfl)
theorem dX5_grows_43 : decode cX5_grows 43 = .ok (.iload_n 2, 1) := dk_28 (dk_at dksX5_grows_1 19 rfl rfl)
theorem dX5_grows_44 : decode cX5_grows 44 = .ok (.invokevirtual 102, 3) := dk_182 0 102 (dk_at dksX5_grows_1 20 rfl rfl)
theorem dX5_grows_47 : decode cX5_grows 47 = .ok (.iconst 2, 1) := dk_5 (dk_at dksX5_grows_1 23 rfl rfl)
theorem dX5_grows_48 : decode cX5_grows 48 = .ok (.if_icmp .le 7, 3) := dk_164 0 7 (dk_at dksX5_grows_2 0 rfl rfl)
theorem dX5_grows_51 : decode cX5_grows 51 = .ok (.iconst 1, 1) := dk_4 (dk_at dksX5_grows_2 3 rfl rfl)
theorem dX5_grows_52 : decode cX5_grows 52 = .ok (.goto 4, 3) := dk_167 0 4 (dk_at dksX5_grows_2 4 rfl rfl)
theorem dX5_grows_55 : decode cX5_grows 55 = .ok (.iconst 0, 1) := dk_3 (dk_at dksX5_grows_2 7 rfl rfl)
theorem dX5_grows_56 : decode cX5_grows 56 = .ok (.iastore, 1) := dk_79 (dk_at dksX5_grows_2 8 rfl rfl)
theorem dX5_grows_57 : decode cX5_grows 57 = .ok (.aload_n 0, 1) := dk_42 (dk_at dksX5_grows_2 9 rfl rfl)
theorem dX5_grows_58 : decode cX5_grows 58 = .ok (.getfield 7, 3) := dk_180 0 7 (dk_at dksX5_grows_2 10 rfl rfl)
theorem dX5_grows_61 : decode cX5_grows 61 = .ok (.sipush 154, 3) := dk_17 0 154 (dk_at dksX5_grows_2 13 rfl rfl)
theorem dX5_grows_64 : decode cX5_grows 64 = .ok (.iload_n 1, 1) := dk_27 (dk_at dksX5_grows_2 16 rfl rfl)
theorem dX5_grows_65 : decode cX5_grows 65 = .ok (.iadd, 1) := dk_96 (dk_at dksX5_grows_2 17 rfl rfl)
theorem dX5_grows_66 : decode cX5_grows 66 = .ok (.iload_n 2, 1) := dk_28 (dk_at dksX5_grows_2 18 rfl rfl)
theorem dX5_grows_67 : decode cX5_grows 67 = .ok (.iadd, 1) := dk_96 (dk_at dksX5_grows_2 19 rfl rfl)
theorem dX5_grows_68 : decode cX5_grows 68 = .ok (.iload_n 3, 1) := dk_29 (dk_at dksX5_grows_2 20 rfl rfl)
theorem dX5_grows_69 : decode cX5_grows 69 = .ok (.ifCond .eq 18, 3) := dk_153 0 18 (dk_at dksX5_grows_2 21 rfl rfl)
theorem dX5_grows_72 : decode cX5_grows 72 = .ok (.aload_n 0, 1) := dk_42 (dk_at dksX5_grows_3 0 rfl rfl)
theorem dX5_grows_73 : decode cX5_grows 73 = .ok (.iload_n 1, 1) := dk_27 (dk_at dksX5_grows_3 1 rfl rfl)
theorem dX5_grows_74 : decode cX5_grows 74 = .ok (.iload_n 2, 1) := dk_28 (dk_at dksX5_grows_3 2 rfl rfl)
theorem dX5_grows_75 : decode cX5_grows 75 = .ok (.iadd, 1) := dk_96 (dk_at dksX5_grows_3 3 rfl rfl)
theorem dX5_grows_76 : decode cX5_grows 76 = .ok (.invokevirtual 102, 3) := dk_182 0 102 (dk_at dksX5_grows_3 4 rfl rfl)
theorem dX5_grows_79 : decode cX5_grows 79 = .ok (.iconst 2, 1) := dk_5 (dk_at dksX5_grows_3 7 rfl rfl)
theorem dX5_grows_80 : decode cX5_grows 80 = .ok (.if_icmp .le 7, 3) := dk_164 0 7 (dk_at dksX5_grows_3 8 rfl rfl)
theorem dX5_grows_83 : decode cX5_grows 83 = .ok (.iconst 1, 1) := dk_4 (dk_at dksX5_grows_3 11 rfl rfl)
theorem dX5_grows_84 : decode cX5_grows 84 = .ok (.goto 4, 3) := dk_167 0 4 (dk_at dksX5_grows_3 12 rfl rfl)
theorem dX5_grows_87 : decode cX5_grows 87 = .ok (.iconst 0, 1) := dk_3 (dk_at dksX5_grows_3 15 rfl rfl)
theorem dX5_grows_88 : decode cX5_grows 88 = .ok (.iastore, 1) := dk_79 (dk_at dksX5_grows_3 16 rfl rfl)
theorem dX5_grows_89 : decode cX5_grows 89 = .ok (.iinc 2 1, 3) := dk_132 2 1 (dk_at dksX5_grows_3 17 rfl rfl)
theorem dX5_grows_92 : decode cX5_grows 92 = .ok (.goto (-74), 3) := dk_167 255 182 (dk_at dksX5_grows_3 20 rfl rfl)
theorem dX5_grows_95 : decode cX5_grows 95 = .ok (.return_, 1) := dk_177 (dk_at dksX5_grows_3 23 rfl rfl)
abbrev cX5_goes : ByteArray := prog_15_method_23_code
def yX5_goes : MethodName := ⟨RX5, "goes", "(I)V"⟩
def dkwX5_goes_6 : List UInt8 := [177]
abbrev dktX5_goes_6 : List UInt8 := dkwX5_goes_6 ++ []
def dkwX5_goes_5 : List UInt8 := [96, 42, 28, 182, 0, 95, 153, 0, 16, 42, 28, 182, 0, 102, 5, 164, 0, 7, 4, 167, 0, 4, 3, 79]
abbrev dktX5_goes_5 : List UInt8 := dkwX5_goes_5 ++ dktX5_goes_6
def dkwX5_goes_4 : List UInt8 := [132, 3, 1, 167, 255, 183, 42, 89, 180, 0, 108, 4, 96, 181, 0, 108, 42, 180, 0, 7, 17, 0, 154, 28]
abbrev dktX5_goes_4 : List UInt8 := dkwX5_goes_4 ++ dktX5_goes_5
def dkwX5_goes_3 : List UInt8 := [4, 96, 46, 79, 42, 180, 0, 7, 16, 105, 29, 96, 42, 180, 0, 7, 16, 105, 29, 96, 4, 96, 46, 79]
abbrev dktX5_goes_3 : List UInt8 := dkwX5_goes_3 ++ dktX5_goes_4
def dkwX5_goes_2 : List UInt8 := [16, 7, 29, 96, 4, 96, 46, 79, 42, 180, 0, 7, 16, 56, 29, 96, 42, 180, 0, 7, 16, 56, 29, 96]
abbrev dktX5_goes_2 : List UInt8 := dkwX5_goes_2 ++ dktX5_goes_3
def dkwX5_goes_1 : List UInt8 := [27, 62, 29, 42, 180, 0, 7, 3, 46, 162, 0, 69, 42, 180, 0, 7, 16, 7, 29, 96, 42, 180, 0, 7]
abbrev dktX5_goes_1 : List UInt8 := dkwX5_goes_1 ++ dktX5_goes_2
def dkwX5_goes_0 : List UInt8 := [42, 42, 180, 0, 7, 16, 7, 27, 96, 46, 182, 0, 61, 61, 42, 180, 0, 7, 3, 92, 46, 4, 100, 79]
abbrev dktX5_goes_0 : List UInt8 := dkwX5_goes_0 ++ dktX5_goes_1
theorem dksX5_goes_0 : cX5_goes.data.toList.drop 0 = dktX5_goes_0 := by decide +kernel
theorem dksX5_goes_1 : cX5_goes.data.toList.drop 24 = dktX5_goes_1 := dk_seg dksX5_goes_0 24 rfl rfl
theorem dksX5_goes_2 : cX5_goes.data.toList.drop 48 = dktX5_goes_2 := dk_seg dksX5_goes_1 24 rfl rfl
theorem dksX5_goes_3 : cX5_goes.data.toList.drop 72 = dktX5_goes_3 := dk_seg dksX5_goes_2 24 rfl rfl
theorem dksX5_goes_4 : cX5_goes.data.toList.drop 96 = dktX5_goes_4 := dk_seg dksX5_goes_3 24 rfl rfl
theorem dksX5_goes_5 : cX5_goes.data.toList.drop 120 = dktX5_goes_5 := dk_seg dksX5_goes_4 24 rfl rfl
theorem dksX5_goes_6 : cX5_goes.data.toList.drop 144 = dktX5_goes_6 := dk_seg dksX5_goes_5 24 rfl rfl
theorem dX5_goes_0 : decode cX5_goes 0 = .ok (.aload_n 0, 1) := dk_42 (dk_at dksX5_goes_0 0 rfl rfl)
theorem dX5_goes_1 : decode cX5_goes 1 = .ok (.aload_n 0, 1) := dk_42 (dk_at dksX5_goes_0 1 rfl rfl)
theorem dX5_goes_2 : decode cX5_goes 2 = .ok (.getfield 7, 3) := dk_180 0 7 (dk_at dksX5_goes_0 2 rfl rfl)
theorem dX5_goes_5 : decode cX5_goes 5 = .ok (.bipush 7, 2) := dk_16 7 (dk_at dksX5_goes_0 5 rfl rfl)
theorem dX5_goes_7 : decode cX5_goes 7 = .ok (.iload_n 1, 1) := dk_27 (dk_at dksX5_goes_0 7 rfl rfl)
theorem dX5_goes_8 : decode cX5_goes 8 = .ok (.iadd, 1) := dk_96 (dk_at dksX5_goes_0 8 rfl rfl)
theorem dX5_goes_9 : decode cX5_goes 9 = .ok (.iaload, 1) := dk_46 (dk_at dksX5_goes_0 9 rfl rfl)
theorem dX5_goes_10 : decode cX5_goes 10 = .ok (.invokevirtual 61, 3) := dk_182 0 61 (dk_at dksX5_goes_0 10 rfl rfl)
theorem dX5_goes_13 : decode cX5_goes 13 = .ok (.istore_n 2, 1) := dk_61 (dk_at dksX5_goes_0 13 rfl rfl)
theorem dX5_goes_14 : decode cX5_goes 14 = .ok (.aload_n 0, 1) := dk_42 (dk_at dksX5_goes_0 14 rfl rfl)
theorem dX5_goes_15 : decode cX5_goes 15 = .ok (.getfield 7, 3) := dk_180 0 7 (dk_at dksX5_goes_0 15 rfl rfl)
theorem dX5_goes_18 : decode cX5_goes 18 = .ok (.iconst 0, 1) := dk_3 (dk_at dksX5_goes_0 18 rfl rfl)
theorem dX5_goes_19 : decode cX5_goes 19 = .ok (.dup2, 1) := dk_92 (dk_at dksX5_goes_0 19 rfl rfl)
theorem dX5_goes_20 : decode cX5_goes 20 = .ok (.iaload, 1) := dk_46 (dk_at dksX5_goes_0 20 rfl rfl)
theorem dX5_goes_21 : decode cX5_goes 21 = .ok (.iconst 1, 1) := dk_4 (dk_at dksX5_goes_0 21 rfl rfl)
theorem dX5_goes_22 : decode cX5_goes 22 = .ok (.isub, 1) := dk_100 (dk_at dksX5_goes_0 22 rfl rfl)
theorem dX5_goes_23 : decode cX5_goes 23 = .ok (.iastore, 1) := dk_79 (dk_at dksX5_goes_0 23 rfl rfl)
theorem dX5_goes_24 : decode cX5_goes 24 = .ok (.iload_n 1, 1) := dk_27 (dk_at dksX5_goes_1 0 rfl rfl)
theorem dX5_goes_25 : decode cX5_goes 25 = .ok (.istore_n 3, 1) := dk_62 (dk_at dksX5_goes_1 1 rfl rfl)
theorem dX5_goes_26 : decode cX5_goes 26 = .ok (.iload_n 3, 1) := dk_29 (dk_at dksX5_goes_1 2 rfl rfl)
theorem dX5_goes_27 : decode cX5_goes 27 = .ok (.aload_n 0, 1) := dk_42 (dk_at dksX5_goes_1 3 rfl rfl)
theorem dX5_goes_28 : decode cX5_goes 28 = .ok (.getfield 7, 3) := dk_180 0 7 (dk_at dksX5_goes_1 4 rfl rfl)
theorem dX5_goes_31 : decode cX5_goes 31 = .ok (.iconst 0, 1) := dk_3 (dk_at dksX5_goes_1 7 rfl rfl)
theorem dX5_goes_32 : decode cX5_goes 32 = .ok (.iaload, 1) := dk_46 (dk_at dksX5_goes_1 8 rfl rfl)
theorem dX5_goes_33 : decode cX5_goes 33 = .ok (.if_icmp .ge 69, 3) := dk_162 0 69 (dk_at dksX5_goes_1 9 rfl rfl)
theorem dX5_goes_36 : decode cX5_goes 36 = .ok (.aload_n 0, 1) := dk_42 (dk_at dksX5_goes_1 12 rfl rfl)
theorem dX5_goes_37 : decode cX5_goes 37 = .ok (.getfield 7, 3) := dk_180 0 7 (dk_at dksX5_goes_1 13 rfl rfl)
theorem dX5_goes_40 : decode cX5_goes 40 = .ok (.bipush 7, 2) := dk_16 7 (dk_at dksX5_goes_1 16 rfl rfl)
theorem dX5_goes_42 : decode cX5_goes 42 = .ok (.iload_n 3, 1) := dk_29 (dk_at dksX5_goes_1 18 rfl rfl)
theorem dX5_goes_43 : decode cX5_goes 43 = .ok (.iadd, 1) := dk_96 (dk_at dksX5_goes_1 19 rfl rfl)
theorem dX5_goes_44 : decode cX5_goes 44 = .ok (.aload_n 0, 1) := dk_42 (dk_at dksX5_goes_1 20 rfl rfl)
theorem dX5_goes_45 : decode cX5_goes 45 = .ok (.getfield 7, 3) := dk_180 0 7 (dk_at dksX5_goes_1 21 rfl rfl)
theorem dX5_goes_48 : decode cX5_goes 48 = .ok (.bipush 7, 2) := dk_16 7 (dk_at dksX5_goes_2 0 rfl rfl)
theorem dX5_goes_50 : decode cX5_goes 50 = .ok (.iload_n 3, 1) := dk_29 (dk_at dksX5_goes_2 2 rfl rfl)
theorem dX5_goes_51 : decode cX5_goes 51 = .ok (.iadd, 1) := dk_96 (dk_at dksX5_goes_2 3 rfl rfl)
theorem dX5_goes_52 : decode cX5_goes 52 = .ok (.iconst 1, 1) := dk_4 (dk_at dksX5_goes_2 4 rfl rfl)
theorem dX5_goes_53 : decode cX5_goes 53 = .ok (.iadd, 1) := dk_96 (dk_at dksX5_goes_2 5 rfl rfl)
theorem dX5_goes_54 : decode cX5_goes 54 = .ok (.iaload, 1) := dk_46 (dk_at dksX5_goes_2 6 rfl rfl)
theorem dX5_goes_55 : decode cX5_goes 55 = .ok (.iastore, 1) := dk_79 (dk_at dksX5_goes_2 7 rfl rfl)
theorem dX5_goes_56 : decode cX5_goes 56 = .ok (.aload_n 0, 1) := dk_42 (dk_at dksX5_goes_2 8 rfl rfl)
theorem dX5_goes_57 : decode cX5_goes 57 = .ok (.getfield 7, 3) := dk_180 0 7 (dk_at dksX5_goes_2 9 rfl rfl)
theorem dX5_goes_60 : decode cX5_goes 60 = .ok (.bipush 56, 2) := dk_16 56 (dk_at dksX5_goes_2 12 rfl rfl)
theorem dX5_goes_62 : decode cX5_goes 62 = .ok (.iload_n 3, 1) := dk_29 (dk_at dksX5_goes_2 14 rfl rfl)
theorem dX5_goes_63 : decode cX5_goes 63 = .ok (.iadd, 1) := dk_96 (dk_at dksX5_goes_2 15 rfl rfl)
theorem dX5_goes_64 : decode cX5_goes 64 = .ok (.aload_n 0, 1) := dk_42 (dk_at dksX5_goes_2 16 rfl rfl)
theorem dX5_goes_65 : decode cX5_goes 65 = .ok (.getfield 7, 3) := dk_180 0 7 (dk_at dksX5_goes_2 17 rfl rfl)
theorem dX5_goes_68 : decode cX5_goes 68 = .ok (.bipush 56, 2) := dk_16 56 (dk_at dksX5_goes_2 20 rfl rfl)
theorem dX5_goes_70 : decode cX5_goes 70 = .ok (.iload_n 3, 1) := dk_29 (dk_at dksX5_goes_2 22 rfl rfl)
theorem dX5_goes_71 : decode cX5_goes 71 = .ok (.iadd, 1) := dk_96 (dk_at dksX5_goes_2 23 rfl rfl)
theorem dX5_goes_72 : decode cX5_goes 72 = .ok (.iconst 1, 1) := dk_4 (dk_at dksX5_goes_3 0 rfl rfl)
theorem dX5_goes_73 : decode cX5_goes 73 = .ok (.iadd, 1) := dk_96 (dk_at dksX5_goes_3 1 rfl rfl)
theorem dX5_goes_74 : decode cX5_goes 74 = .ok (.iaload, 1) := dk_46 (dk_at dksX5_goes_3 2 rfl rfl)
theorem dX5_goes_75 : decode cX5_goes 75 = .ok (.iastore, 1) := dk_79 (dk_at dksX5_goes_3 3 rfl rfl)
theorem dX5_goes_76 : decode cX5_goes 76 = .ok (.aload_n 0, 1) := dk_42 (dk_at dksX5_goes_3 4 rfl rfl)
theorem dX5_goes_77 : decode cX5_goes 77 = .ok (.getfield 7, 3) := dk_180 0 7 (dk_at dksX5_goes_3 5 rfl rfl)
theorem dX5_goes_80 : decode cX5_goes 80 = .ok (.bipush 105, 2) := dk_16 105 (dk_at dksX5_goes_3 8 rfl rfl)
theorem dX5_goes_82 : decode cX5_goes 82 = .ok (.iload_n 3, 1) := dk_29 (dk_at dksX5_goes_3 10 rfl rfl)
theorem dX5_goes_83 : decode cX5_goes 83 = .ok (.iadd, 1) := dk_96 (dk_at dksX5_goes_3 11 rfl rfl)
theorem dX5_goes_84 : decode cX5_goes 84 = .ok (.aload_n 0, 1) := dk_42 (dk_at dksX5_goes_3 12 rfl rfl)
theorem dX5_goes_85 : decode cX5_goes 85 = .ok (.getfield 7, 3) := dk_180 0 7 (dk_at dksX5_goes_3 13 rfl rfl)
theorem dX5_goes_88 : decode cX5_goes 88 = .ok (.bipush 105, 2) := dk_16 105 (dk_at dksX5_goes_3 16 rfl rfl)
theorem dX5_goes_90 : decode cX5_goes 90 = .ok (.iload_n 3, 1) := dk_29 (dk_at dksX5_goes_3 18 rfl rfl)
theorem dX5_goes_91 : decode cX5_goes 91 = .ok (.iadd, 1) := dk_96 (dk_at dksX5_goes_3 19 rfl rfl)
theorem dX5_goes_92 : decode cX5_goes 92 = .ok (.iconst 1, 1) := dk_4 (dk_at dksX5_goes_3 20 rfl rfl)
theorem dX5_goes_93 : decode cX5_goes 93 = .ok (.iadd, 1) := dk_96 (dk_at dksX5_goes_3 21 rfl rfl)
theorem dX5_goes_94 : decode cX5_goes 94 = .ok (.iaload, 1) := dk_46 (dk_at dksX5_goes_3 22 rfl rfl)
theorem dX5_goes_95 : decode cX5_goes 95 = .ok (.iastore, 1) := dk_79 (dk_at dksX5_goes_3 23 rfl rfl)
theorem dX5_goes_96 : decode cX5_goes 96 = .ok (.iinc 3 1, 3) := dk_132 3 1 (dk_at dksX5_goes_4 0 rfl rfl)
theorem dX5_goes_99 : decode cX5_goes 99 = .ok (.goto (-73), 3) := dk_167 255 183 (dk_at dksX5_goes_4 3 rfl rfl)
theorem dX5_goes_102 : decode cX5_goes 102 = .ok (.aload_n 0, 1) := dk_42 (dk_at dksX5_goes_4 6 rfl rfl)
theorem dX5_goes_103 : decode cX5_goes 103 = .ok (.dup, 1) := dk_89 (dk_at dksX5_goes_4 7 rfl rfl)
theorem dX5_goes_104 : decode cX5_goes 104 = .ok (.getfield 108, 3) := dk_180 0 108 (dk_at dksX5_goes_4 8 rfl rfl)
theorem dX5_goes_107 : decode cX5_goes 107 = .ok (.iconst 1, 1) := dk_4 (dk_at dksX5_goes_4 11 rfl rfl)
theorem dX5_goes_108 : decode cX5_goes 108 = .ok (.iadd, 1) := dk_96 (dk_at dksX5_goes_4 12 rfl rfl)
theorem dX5_goes_109 : decode cX5_goes 109 = .ok (.putfield 108, 3) := dk_181 0 108 (dk_at dksX5_goes_4 13 rfl rfl)
theorem dX5_goes_112 : decode cX5_goes 112 = .ok (.aload_n 0, 1) := dk_42 (dk_at dksX5_goes_4 16 rfl rfl)
theorem dX5_goes_113 : decode cX5_goes 113 = .ok (.getfield 7, 3) := dk_180 0 7 (dk_at dksX5_goes_4 17 rfl rfl)
theorem dX5_goes_116 : decode cX5_goes 116 = .ok (.sipush 154, 3) := dk_17 0 154 (dk_at dksX5_goes_4 20 rfl rfl)
theorem dX5_goes_119 : decode cX5_goes 119 = .ok (.iload_n 2, 1) := dk_28 (dk_at dksX5_goes_4 23 rfl rfl)
theorem dX5_goes_120 : decode cX5_goes 120 = .ok (.iadd, 1) := dk_96 (dk_at dksX5_goes_5 0 rfl rfl)
theorem dX5_goes_121 : decode cX5_goes 121 = .ok (.aload_n 0, 1) := dk_42 (dk_at dksX5_goes_5 1 rfl rfl)
theorem dX5_goes_122 : decode cX5_goes 122 = .ok (.iload_n 2, 1) := dk_28 (dk_at dksX5_goes_5 2 rfl rfl)
theorem dX5_goes_123 : decode cX5_goes 123 = .ok (.invokevirtual 95, 3) := dk_182 0 95 (dk_at dksX5_goes_5 3 rfl rfl)
theorem dX5_goes_126 : decode cX5_goes 126 = .ok (.ifCond .eq 16, 3) := dk_153 0 16 (dk_at dksX5_goes_5 6 rfl rfl)
theorem dX5_goes_129 : decode cX5_goes 129 = .ok (.aload_n 0, 1) := dk_42 (dk_at dksX5_goes_5 9 rfl rfl)
theorem dX5_goes_130 : decode cX5_goes 130 = .ok (.iload_n 2, 1) := dk_28 (dk_at dksX5_goes_5 10 rfl rfl)
theorem dX5_goes_131 : decode cX5_goes 131 = .ok (.invokevirtual 102, 3) := dk_182 0 102 (dk_at dksX5_goes_5 11 rfl rfl)
theorem dX5_goes_134 : decode cX5_goes 134 = .ok (.iconst 2, 1) := dk_5 (dk_at dksX5_goes_5 14 rfl rfl)
theorem dX5_goes_135 : decode cX5_goes 135 = .ok (.if_icmp .le 7, 3) := dk_164 0 7 (dk_at dksX5_goes_5 15 rfl rfl)
theorem dX5_goes_138 : decode cX5_goes 138 = .ok (.iconst 1, 1) := dk_4 (dk_at dksX5_goes_5 18 rfl rfl)
theorem dX5_goes_139 : decode cX5_goes 139 = .ok (.goto 4, 3) := dk_167 0 4 (dk_at dksX5_goes_5 19 rfl rfl)
theorem dX5_goes_142 : decode cX5_goes 142 = .ok (.iconst 0, 1) := dk_3 (dk_at dksX5_goes_5 22 rfl rfl)
theorem dX5_goes_143 : decode cX5_goes 143 = .ok (.iastore, 1) := dk_79 (dk_at dksX5_goes_5 23 rfl rfl)
theorem dX5_goes_144 : decode cX5_goes 144 = .ok (.return_, 1) := dk_177 (dk_at dksX5_goes_6 0 rfl rfl)
abbrev cX5_moves : ByteArray := prog_15_method_25_code
def yX5_moves : MethodName := ⟨RX5, "moves", "(I)V"⟩
def dkwX5_moves_7 : List UInt8 := [42, 180, 0, 7, 16, 56, 21, 5, 96, 29, 79, 42, 180, 0, 7, 16, 105, 21, 5, 96, 21, 4, 79, 177]
abbrev dktX5_moves_7 : List UInt8 := dkwX5_moves_7 ++ []
def dkwX5_moves_6 : List UInt8 := [167, 255, 174, 42, 180, 0, 7, 3, 46, 4, 100, 54, 5, 42, 180, 0, 7, 16, 7, 21, 5, 96, 28, 79]
abbrev dktX5_moves_6 : List UInt8 := dkwX5_moves_6 ++ dktX5_moves_7
def dkwX5_moves_5 : List UInt8 := [180, 0, 7, 16, 105, 21, 5, 96, 42, 180, 0, 7, 16, 105, 21, 5, 96, 4, 96, 46, 79, 132, 5, 1]
abbrev dktX5_moves_5 : List UInt8 := dkwX5_moves_5 ++ dktX5_moves_6
def dkwX5_moves_4 : List UInt8 := [180, 0, 7, 16, 56, 21, 5, 96, 42, 180, 0, 7, 16, 56, 21, 5, 96, 4, 96, 46, 79, 42]
abbrev dktX5_moves_4 : List UInt8 := dkwX5_moves_4 ++ dktX5_moves_5
def dkwX5_moves_3 : List UInt8 := [180, 0, 7, 16, 7, 21, 5, 96, 42, 180, 0, 7, 16, 7, 21, 5, 96, 4, 96, 46, 79, 42]
abbrev dktX5_moves_3 : List UInt8 := dkwX5_moves_3 ++ dktX5_moves_4
def dkwX5_moves_2 : List UInt8 := [4, 96, 181, 0, 108, 27, 54, 5, 21, 5, 42, 180, 0, 7, 3, 46, 4, 100, 162, 0, 75, 42]
abbrev dktX5_moves_2 : List UInt8 := dkwX5_moves_2 ++ dktX5_moves_3
def dkwX5_moves_1 : List UInt8 := [16, 105, 27, 96, 46, 54, 4, 42, 89, 180, 0, 108, 42, 27, 182, 0, 118, 153, 0, 7, 3, 167, 0, 4]
abbrev dktX5_moves_1 : List UInt8 := dkwX5_moves_1 ++ dktX5_moves_2
def dkwX5_moves_0 : List UInt8 := [42, 180, 0, 7, 16, 7, 27, 96, 46, 61, 42, 180, 0, 7, 16, 56, 27, 96, 46, 62, 42, 180, 0, 7]
abbrev dktX5_moves_0 : List UInt8 := dkwX5_moves_0 ++ dktX5_moves_1
theorem dksX5_moves_0 : cX5_moves.data.toList.drop 0 = dktX5_moves_0 := by decide +kernel
theorem dksX5_moves_1 : cX5_moves.data.toList.drop 24 = dktX5_moves_1 := dk_seg dksX5_moves_0 24 rfl rfl
theorem dksX5_moves_2 : cX5_moves.data.toList.drop 48 = dktX5_moves_2 := dk_seg dksX5_moves_1 24 rfl rfl
theorem dksX5_moves_3 : cX5_moves.data.toList.drop 70 = dktX5_moves_3 := dk_seg dksX5_moves_2 22 rfl rfl
theorem dksX5_moves_4 : cX5_moves.data.toList.drop 92 = dktX5_moves_4 := dk_seg dksX5_moves_3 22 rfl rfl
theorem dksX5_moves_5 : cX5_moves.data.toList.drop 114 = dktX5_moves_5 := dk_seg dksX5_moves_4 22 rfl rfl
theorem dksX5_moves_6 : cX5_moves.data.toList.drop 138 = dktX5_moves_6 := dk_seg dksX5_moves_5 24 rfl rfl
theorem dksX5_moves_7 : cX5_moves.data.toList.drop 162 = dktX5_moves_7 := dk_seg dksX5_moves_6 24 rfl rfl
theorem dX5_moves_0 : decode cX5_moves 0 = .ok (.aload_n 0, 1) := dk_42 (dk_at dksX5_moves_0 0 rfl rfl)
theorem dX5_moves_1 : decode cX5_moves 1 = .ok (.getfield 7, 3) := dk_180 0 7 (dk_at dksX5_moves_0 1 rfl rfl)
theorem dX5_moves_4 : decode cX5_moves 4 = .ok (.bipush 7, 2) := dk_16 7 (dk_at dksX5_moves_0 4 rfl rfl)
theorem dX5_moves_6 : decode cX5_moves 6 = .ok (.iload_n 1, 1) := dk_27 (dk_at dksX5_moves_0 6 rfl rfl)
theorem dX5_moves_7 : decode cX5_moves 7 = .ok (.iadd, 1) := dk_96 (dk_at dksX5_moves_0 7 rfl rfl)
theorem dX5_moves_8 : decode cX5_moves 8 = .ok (.iaload, 1) := dk_46 (dk_at dksX5_moves_0 8 rfl rfl)
theorem dX5_moves_9 : decode cX5_moves 9 = .ok (.istore_n 2, 1) := dk_61 (dk_at dksX5_moves_0 9 rfl rfl)
theorem dX5_moves_10 : decode cX5_moves 10 = .ok (.aload_n 0, 1) := dk_42 (dk_at dksX5_moves_0 10 rfl rfl)
theorem dX5_moves_11 : decode cX5_moves 11 = .ok (.getfield 7, 3) := dk_180 0 7 (dk_at dksX5_moves_0 11 rfl rfl)
theorem dX5_moves_14 : decode cX5_moves 14 = .ok (.bipush 56, 2) := dk_16 56 (dk_at dksX5_moves_0 14 rfl rfl)
theorem dX5_moves_16 : decode cX5_moves 16 = .ok (.iload_n 1, 1) := dk_27 (dk_at dksX5_moves_0 16 rfl rfl)
theorem dX5_moves_17 : decode cX5_moves 17 = .ok (.iadd, 1) := dk_96 (dk_at dksX5_moves_0 17 rfl rfl)
theorem dX5_moves_18 : decode cX5_moves 18 = .ok (.iaload, 1) := dk_46 (dk_at dksX5_moves_0 18 rfl rfl)
theorem dX5_moves_19 : decode cX5_moves 19 = .ok (.istore_n 3, 1) := dk_62 (dk_at dksX5_moves_0 19 rfl rfl)
theorem dX5_moves_20 : decode cX5_moves 20 = .ok (.aload_n 0, 1) := dk_42 (dk_at dksX5_moves_0 20 rfl rfl)
theorem dX5_moves_21 : decode cX5_moves 21 = .ok (.getfield 7, 3) := dk_180 0 7 (dk_at dksX5_moves_0 21 rfl rfl)
theorem dX5_moves_24 : decode cX5_moves 24 = .ok (.bipush 105, 2) := dk_16 105 (dk_at dksX5_moves_1 0 rfl rfl)
theorem dX5_moves_26 : decode cX5_moves 26 = .ok (.iload_n 1, 1) := dk_27 (dk_at dksX5_moves_1 2 rfl rfl)
theorem dX5_moves_27 : decode cX5_moves 27 = .ok (.iadd, 1) := dk_96 (dk_at dksX5_moves_1 3 rfl rfl)
theorem dX5_moves_28 : decode cX5_moves 28 = .ok (.iaload, 1) := dk_46 (dk_at dksX5_moves_1 4 rfl rfl)
theorem dX5_moves_29 : decode cX5_moves 29 = .ok (.istore 4, 2) := dk_54 4 (dk_at dksX5_moves_1 5 rfl rfl)
theorem dX5_moves_31 : decode cX5_moves 31 = .ok (.aload_n 0, 1) := dk_42 (dk_at dksX5_moves_1 7 rfl rfl)
theorem dX5_moves_32 : decode cX5_moves 32 = .ok (.dup, 1) := dk_89 (dk_at dksX5_moves_1 8 rfl rfl)
theorem dX5_moves_33 : decode cX5_moves 33 = .ok (.getfield 108, 3) := dk_180 0 108 (dk_at dksX5_moves_1 9 rfl rfl)
theorem dX5_moves_36 : decode cX5_moves 36 = .ok (.aload_n 0, 1) := dk_42 (dk_at dksX5_moves_1 12 rfl rfl)
theorem dX5_moves_37 : decode cX5_moves 37 = .ok (.iload_n 1, 1) := dk_27 (dk_at dksX5_moves_1 13 rfl rfl)
theorem dX5_moves_38 : decode cX5_moves 38 = .ok (.invokevirtual 118, 3) := dk_182 0 118 (dk_at dksX5_moves_1 14 rfl rfl)
theorem dX5_moves_41 : decode cX5_moves 41 = .ok (.ifCond .eq 7, 3) := dk_153 0 7 (dk_at dksX5_moves_1 17 rfl rfl)
theorem dX5_moves_44 : decode cX5_moves 44 = .ok (.iconst 0, 1) := dk_3 (dk_at dksX5_moves_1 20 rfl rfl)
theorem dX5_moves_45 : decode cX5_moves 45 = .ok (.goto 4, 3) := dk_167 0 4 (dk_at dksX5_moves_1 21 rfl rfl)
theorem dX5_moves_48 : decode cX5_moves 48 = .ok (.iconst 1, 1) := dk_4 (dk_at dksX5_moves_2 0 rfl rfl)
theorem dX5_moves_49 : decode cX5_moves 49 = .ok (.iadd, 1) := dk_96 (dk_at dksX5_moves_2 1 rfl rfl)
theorem dX5_moves_50 : decode cX5_moves 50 = .ok (.putfield 108, 3) := dk_181 0 108 (dk_at dksX5_moves_2 2 rfl rfl)
theorem dX5_moves_53 : decode cX5_moves 53 = .ok (.iload_n 1, 1) := dk_27 (dk_at dksX5_moves_2 5 rfl rfl)
theorem dX5_moves_54 : decode cX5_moves 54 = .ok (.istore 5, 2) := dk_54 5 (dk_at dksX5_moves_2 6 rfl rfl)
theorem dX5_moves_56 : decode cX5_moves 56 = .ok (.iload 5, 2) := dk_21 5 (dk_at dksX5_moves_2 8 rfl rfl)
theorem dX5_moves_58 : decode cX5_moves 58 = .ok (.aload_n 0, 1) := dk_42 (dk_at dksX5_moves_2 10 rfl rfl)
theorem dX5_moves_59 : decode cX5_moves 59 = .ok (.getfield 7, 3) := dk_180 0 7 (dk_at dksX5_moves_2 11 rfl rfl)
theorem dX5_moves_62 : decode cX5_moves 62 = .ok (.iconst 0, 1) := dk_3 (dk_at dksX5_moves_2 14 rfl rfl)
theorem dX5_moves_63 : decode cX5_moves 63 = .ok (.iaload, 1) := dk_46 (dk_at dksX5_moves_2 15 rfl rfl)
theorem dX5_moves_64 : decode cX5_moves 64 = .ok (.iconst 1, 1) := dk_4 (dk_at dksX5_moves_2 16 rfl rfl)
theorem dX5_moves_65 : decode cX5_moves 65 = .ok (.isub, 1) := dk_100 (dk_at dksX5_moves_2 17 rfl rfl)
theorem dX5_moves_66 : decode cX5_moves 66 = .ok (.if_icmp .ge 75, 3) := dk_162 0 75 (dk_at dksX5_moves_2 18 rfl rfl)
theorem dX5_moves_69 : decode cX5_moves 69 = .ok (.aload_n 0, 1) := dk_42 (dk_at dksX5_moves_2 21 rfl rfl)
theorem dX5_moves_70 : decode cX5_moves 70 = .ok (.getfield 7, 3) := dk_180 0 7 (dk_at dksX5_moves_3 0 rfl rfl)
theorem dX5_moves_73 : decode cX5_moves 73 = .ok (.bipush 7, 2) := dk_16 7 (dk_at dksX5_moves_3 3 rfl rfl)
theorem dX5_moves_75 : decode cX5_moves 75 = .ok (.iload 5, 2) := dk_21 5 (dk_at dksX5_moves_3 5 rfl rfl)
theorem dX5_moves_77 : decode cX5_moves 77 = .ok (.iadd, 1) := dk_96 (dk_at dksX5_moves_3 7 rfl rfl)
theorem dX5_moves_78 : decode cX5_moves 78 = .ok (.aload_n 0, 1) := dk_42 (dk_at dksX5_moves_3 8 rfl rfl)
theorem dX5_moves_79 : decode cX5_moves 79 = .ok (.getfield 7, 3) := dk_180 0 7 (dk_at dksX5_moves_3 9 rfl rfl)
theorem dX5_moves_82 : decode cX5_moves 82 = .ok (.bipush 7, 2) := dk_16 7 (dk_at dksX5_moves_3 12 rfl rfl)
theorem dX5_moves_84 : decode cX5_moves 84 = .ok (.iload 5, 2) := dk_21 5 (dk_at dksX5_moves_3 14 rfl rfl)
theorem dX5_moves_86 : decode cX5_moves 86 = .ok (.iadd, 1) := dk_96 (dk_at dksX5_moves_3 16 rfl rfl)
theorem dX5_moves_87 : decode cX5_moves 87 = .ok (.iconst 1, 1) := dk_4 (dk_at dksX5_moves_3 17 rfl rfl)
theorem dX5_moves_88 : decode cX5_moves 88 = .ok (.iadd, 1) := dk_96 (dk_at dksX5_moves_3 18 rfl rfl)
theorem dX5_moves_89 : decode cX5_moves 89 = .ok (.iaload, 1) := dk_46 (dk_at dksX5_moves_3 19 rfl rfl)
theorem dX5_moves_90 : decode cX5_moves 90 = .ok (.iastore, 1) := dk_79 (dk_at dksX5_moves_3 20 rfl rfl)
theorem dX5_moves_91 : decode cX5_moves 91 = .ok (.aload_n 0, 1) := dk_42 (dk_at dksX5_moves_3 21 rfl rfl)
theorem dX5_moves_92 : decode cX5_moves 92 = .ok (.getfield 7, 3) := dk_180 0 7 (dk_at dksX5_moves_4 0 rfl rfl)
theorem dX5_moves_95 : decode cX5_moves 95 = .ok (.bipush 56, 2) := dk_16 56 (dk_at dksX5_moves_4 3 rfl rfl)
theorem dX5_moves_97 : decode cX5_moves 97 = .ok (.iload 5, 2) := dk_21 5 (dk_at dksX5_moves_4 5 rfl rfl)
theorem dX5_moves_99 : decode cX5_moves 99 = .ok (.iadd, 1) := dk_96 (dk_at dksX5_moves_4 7 rfl rfl)
theorem dX5_moves_100 : decode cX5_moves 100 = .ok (.aload_n 0, 1) := dk_42 (dk_at dksX5_moves_4 8 rfl rfl)
theorem dX5_moves_101 : decode cX5_moves 101 = .ok (.getfield 7, 3) := dk_180 0 7 (dk_at dksX5_moves_4 9 rfl rfl)
theorem dX5_moves_104 : decode cX5_moves 104 = .ok (.bipush 56, 2) := dk_16 56 (dk_at dksX5_moves_4 12 rfl rfl)
theorem dX5_moves_106 : decode cX5_moves 106 = .ok (.iload 5, 2) := dk_21 5 (dk_at dksX5_moves_4 14 rfl rfl)
theorem dX5_moves_108 : decode cX5_moves 108 = .ok (.iadd, 1) := dk_96 (dk_at dksX5_moves_4 16 rfl rfl)
theorem dX5_moves_109 : decode cX5_moves 109 = .ok (.iconst 1, 1) := dk_4 (dk_at dksX5_moves_4 17 rfl rfl)
theorem dX5_moves_110 : decode cX5_moves 110 = .ok (.iadd, 1) := dk_96 (dk_at dksX5_moves_4 18 rfl rfl)
theorem dX5_moves_111 : decode cX5_moves 111 = .ok (.iaload, 1) := dk_46 (dk_at dksX5_moves_4 19 rfl rfl)
theorem dX5_moves_112 : decode cX5_moves 112 = .ok (.iastore, 1) := dk_79 (dk_at dksX5_moves_4 20 rfl rfl)
theorem dX5_moves_113 : decode cX5_moves 113 = .ok (.aload_n 0, 1) := dk_42 (dk_at dksX5_moves_4 21 rfl rfl)
theorem dX5_moves_114 : decode cX5_moves 114 = .ok (.getfield 7, 3) := dk_180 0 7 (dk_at dksX5_moves_5 0 rfl rfl)
theorem dX5_moves_117 : decode cX5_moves 117 = .ok (.bipush 105, 2) := dk_16 105 (dk_at dksX5_moves_5 3 rfl rfl)
theorem dX5_moves_119 : decode cX5_moves 119 = .ok (.iload 5, 2) := dk_21 5 (dk_at dksX5_moves_5 5 rfl rfl)
theorem dX5_moves_121 : decode cX5_moves 121 = .ok (.iadd, 1) := dk_96 (dk_at dksX5_moves_5 7 rfl rfl)
theorem dX5_moves_122 : decode cX5_moves 122 = .ok (.aload_n 0, 1) := dk_42 (dk_at dksX5_moves_5 8 rfl rfl)
theorem dX5_moves_123 : decode cX5_moves 123 = .ok (.getfield 7, 3) := dk_180 0 7 (dk_at dksX5_moves_5 9 rfl rfl)
theorem dX5_moves_126 : decode cX5_moves 126 = .ok (.bipush 105, 2) := dk_16 105 (dk_at dksX5_moves_5 12 rfl rfl)
theorem dX5_moves_128 : decode cX5_moves 128 = .ok (.iload 5, 2) := dk_21 5 (dk_at dksX5_moves_5 14 rfl rfl)
theorem dX5_moves_130 : decode cX5_moves 130 = .ok (.iadd, 1) := dk_96 (dk_at dksX5_moves_5 16 rfl rfl)
theorem dX5_moves_131 : decode cX5_moves 131 = .ok (.iconst 1, 1) := dk_4 (dk_at dksX5_moves_5 17 rfl rfl)
theorem dX5_moves_132 : decode cX5_moves 132 = .ok (.iadd, 1) := dk_96 (dk_at dksX5_moves_5 18 rfl rfl)
theorem dX5_moves_133 : decode cX5_moves 133 = .ok (.iaload, 1) := dk_46 (dk_at dksX5_moves_5 19 rfl rfl)
theorem dX5_moves_134 : decode cX5_moves 134 = .ok (.iastore, 1) := dk_79 (dk_at dksX5_moves_5 20 rfl rfl)
theorem dX5_moves_135 : decode cX5_moves 135 = .ok (.iinc 5 1, 3) := dk_132 5 1 (dk_at dksX5_moves_5 21 rfl rfl)
theorem dX5_moves_138 : decode cX5_moves 138 = .ok (.goto (-82), 3) := dk_167 255 174 (dk_at dksX5_moves_6 0 rfl rfl)
theorem dX5_moves_141 : decode cX5_moves 141 = .ok (.aload_n 0, 1) := dk_42 (dk_at dksX5_moves_6 3 rfl rfl)
theorem dX5_moves_142 : decode cX5_moves 142 = .ok (.getfield 7, 3) := dk_180 0 7 (dk_at dksX5_moves_6 4 rfl rfl)
theorem dX5_moves_145 : decode cX5_moves 145 = .ok (.iconst 0, 1) := dk_3 (dk_at dksX5_moves_6 7 rfl rfl)
theorem dX5_moves_146 : decode cX5_moves 146 = .ok (.iaload, 1) := dk_46 (dk_at dksX5_moves_6 8 rfl rfl)
theorem dX5_moves_147 : decode cX5_moves 147 = .ok (.iconst 1, 1) := dk_4 (dk_at dksX5_moves_6 9 rfl rfl)
theorem dX5_moves_148 : decode cX5_moves 148 = .ok (.isub, 1) := dk_100 (dk_at dksX5_moves_6 10 rfl rfl)
theorem dX5_moves_149 : decode cX5_moves 149 = .ok (.istore 5, 2) := dk_54 5 (dk_at dksX5_moves_6 11 rfl rfl)
theorem dX5_moves_151 : decode cX5_moves 151 = .ok (.aload_n 0, 1) := dk_42 (dk_at dksX5_moves_6 13 rfl rfl)
theorem dX5_moves_152 : decode cX5_moves 152 = .ok (.getfield 7, 3) := dk_180 0 7 (dk_at dksX5_moves_6 14 rfl rfl)
theorem dX5_moves_155 : decode cX5_moves 155 = .ok (.bipush 7, 2) := dk_16 7 (dk_at dksX5_moves_6 17 rfl rfl)
theorem dX5_moves_157 : decode cX5_moves 157 = .ok (.iload 5, 2) := dk_21 5 (dk_at dksX5_moves_6 19 rfl rfl)
theorem dX5_moves_159 : decode cX5_moves 159 = .ok (.iadd, 1) := dk_96 (dk_at dksX5_moves_6 21 rfl rfl)
theorem dX5_moves_160 : decode cX5_moves 160 = .ok (.iload_n 2, 1) := dk_28 (dk_at dksX5_moves_6 22 rfl rfl)
theorem dX5_moves_161 : decode cX5_moves 161 = .ok (.iastore, 1) := dk_79 (dk_at dksX5_moves_6 23 rfl rfl)
theorem dX5_moves_162 : decode cX5_moves 162 = .ok (.aload_n 0, 1) := dk_42 (dk_at dksX5_moves_7 0 rfl rfl)
theorem dX5_moves_163 : decode cX5_moves 163 = .ok (.getfield 7, 3) := dk_180 0 7 (dk_at dksX5_moves_7 1 rfl rfl)
theorem dX5_moves_166 : decode cX5_moves 166 = .ok (.bipush 56, 2) := dk_16 56 (dk_at dksX5_moves_7 4 rfl rfl)
theorem dX5_moves_168 : decode cX5_moves 168 = .ok (.iload 5, 2) := dk_21 5 (dk_at dksX5_moves_7 6 rfl rfl)
theorem dX5_moves_170 : decode cX5_moves 170 = .ok (.iadd, 1) := dk_96 (dk_at dksX5_moves_7 8 rfl rfl)
theorem dX5_moves_171 : decode cX5_moves 171 = .ok (.iload_n 3, 1) := dk_29 (dk_at dksX5_moves_7 9 rfl rfl)
theorem dX5_moves_172 : decode cX5_moves 172 = .ok (.iastore, 1) := dk_79 (dk_at dksX5_moves_7 10 rfl rfl)
theorem dX5_moves_173 : decode cX5_moves 173 = .ok (.aload_n 0, 1) := dk_42 (dk_at dksX5_moves_7 11 rfl rfl)
theorem dX5_moves_174 : decode cX5_moves 174 = .ok (.getfield 7, 3) := dk_180 0 7 (dk_at dksX5_moves_7 12 rfl rfl)
theorem dX5_moves_177 : decode cX5_moves 177 = .ok (.bipush 105, 2) := dk_16 105 (dk_at dksX5_moves_7 15 rfl rfl)
theorem dX5_moves_179 : decode cX5_moves 179 = .ok (.iload 5, 2) := dk_21 5 (dk_at dksX5_moves_7 17 rfl rfl)
theorem dX5_moves_181 : decode cX5_moves 181 = .ok (.iadd, 1) := dk_96 (dk_at dksX5_moves_7 19 rfl rfl)
theorem dX5_moves_182 : decode cX5_moves 182 = .ok (.iload 4, 2) := dk_21 4 (dk_at dksX5_moves_7 20 rfl rfl)
theorem dX5_moves_184 : decode cX5_moves 184 = .ok (.iastore, 1) := dk_79 (dk_at dksX5_moves_7 22 rfl rfl)
theorem dX5_moves_185 : decode cX5_moves 185 = .ok (.return_, 1) := dk_177 (dk_at dksX5_moves_7 23 rfl rfl)
abbrev cX5_isLast : ByteArray := prog_15_method_24_code
def yX5_isLast : MethodName := ⟨RX5, "isLast", "(I)Z"⟩
def dkwX5_isLast_0 : List UInt8 := [27, 42, 180, 0, 7, 3, 46, 4, 100, 160, 0, 7, 4, 167, 0, 4, 3, 172]
abbrev dktX5_isLast_0 : List UInt8 := dkwX5_isLast_0 ++ []
theorem dksX5_isLast_0 : cX5_isLast.data.toList.drop 0 = dktX5_isLast_0 := by decide +kernel
theorem dX5_isLast_0 : decode cX5_isLast 0 = .ok (.iload_n 1, 1) := dk_27 (dk_at dksX5_isLast_0 0 rfl rfl)
theorem dX5_isLast_1 : decode cX5_isLast 1 = .ok (.aload_n 0, 1) := dk_42 (dk_at dksX5_isLast_0 1 rfl rfl)
theorem dX5_isLast_2 : decode cX5_isLast 2 = .ok (.getfield 7, 3) := dk_180 0 7 (dk_at dksX5_isLast_0 2 rfl rfl)
theorem dX5_isLast_5 : decode cX5_isLast 5 = .ok (.iconst 0, 1) := dk_3 (dk_at dksX5_isLast_0 5 rfl rfl)
theorem dX5_isLast_6 : decode cX5_isLast 6 = .ok (.iaload, 1) := dk_46 (dk_at dksX5_isLast_0 6 rfl rfl)
theorem dX5_isLast_7 : decode cX5_isLast 7 = .ok (.iconst 1, 1) := dk_4 (dk_at dksX5_isLast_0 7 rfl rfl)
theorem dX5_isLast_8 : decode cX5_isLast 8 = .ok (.isub, 1) := dk_100 (dk_at dksX5_isLast_0 8 rfl rfl)
theorem dX5_isLast_9 : decode cX5_isLast 9 = .ok (.if_icmp .ne 7, 3) := dk_160 0 7 (dk_at dksX5_isLast_0 9 rfl rfl)
theorem dX5_isLast_12 : decode cX5_isLast 12 = .ok (.iconst 1, 1) := dk_4 (dk_at dksX5_isLast_0 12 rfl rfl)
theorem dX5_isLast_13 : decode cX5_isLast 13 = .ok (.goto 4, 3) := dk_167 0 4 (dk_at dksX5_isLast_0 13 rfl rfl)
theorem dX5_isLast_16 : decode cX5_isLast 16 = .ok (.iconst 0, 1) := dk_3 (dk_at dksX5_isLast_0 16 rfl rfl)
theorem dX5_isLast_17 : decode cX5_isLast 17 = .ok (.ireturn, 1) := dk_172 (dk_at dksX5_isLast_0 17 rfl rfl)
abbrev cX5_keeps : ByteArray := prog_15_method_6_code
def yX5_keeps : MethodName := ⟨RX5, "keeps", "()V"⟩
def dkwX5_keeps_4 : List UInt8 := [181, 0, 48, 177]
abbrev dktX5_keeps_4 : List UInt8 := dkwX5_keeps_4 ++ []
def dkwX5_keeps_3 : List UInt8 := [27, 96, 42, 180, 0, 16, 27, 46, 79, 132, 1, 1, 167, 255, 225, 42, 89, 180, 0, 48, 4, 96]
abbrev dktX5_keeps_3 : List UInt8 := dkwX5_keeps_3 ++ dktX5_keeps_4
def dkwX5_keeps_2 : List UInt8 := [181, 0, 48, 3, 60, 27, 17, 0, 218, 162, 0, 30, 42, 180, 0, 13, 17, 0, 218, 42, 180, 0, 48, 104]
abbrev dktX5_keeps_2 : List UInt8 := dkwX5_keeps_2 ++ dktX5_keeps_3
def dkwX5_keeps_1 : List UInt8 := [180, 0, 13, 27, 17, 0, 218, 96, 46, 79, 132, 1, 1, 167, 255, 230, 42, 89, 180, 0, 48, 4, 100]
abbrev dktX5_keeps_1 : List UInt8 := dkwX5_keeps_1 ++ dktX5_keeps_2
def dkwX5_keeps_0 : List UInt8 := [42, 180, 0, 48, 16, 6, 160, 0, 44, 3, 60, 27, 17, 4, 66, 162, 0, 25, 42, 180, 0, 13, 27, 42]
abbrev dktX5_keeps_0 : List UInt8 := dkwX5_keeps_0 ++ dktX5_keeps_1
theorem dksX5_keeps_0 : cX5_keeps.data.toList.drop 0 = dktX5_keeps_0 := by decide +kernel
theorem dksX5_keeps_1 : cX5_keeps.data.toList.drop 24 = dktX5_keeps_1 := dk_seg dksX5_keeps_0 24 rfl rfl
theorem dksX5_keeps_2 : cX5_keeps.data.toList.drop 47 = dktX5_keeps_2 := dk_seg dksX5_keeps_1 23 rfl rfl
theorem dksX5_keeps_3 : cX5_keeps.data.toList.drop 71 = dktX5_keeps_3 := dk_seg dksX5_keeps_2 24 rfl rfl
theorem dksX5_keeps_4 : cX5_keeps.data.toList.drop 93 = dktX5_keeps_4 := dk_seg dksX5_keeps_3 22 rfl rfl
theorem dX5_keeps_0 : decode cX5_keeps 0 = .ok (.aload_n 0, 1) := dk_42 (dk_at dksX5_keeps_0 0 rfl rfl)
theorem dX5_keeps_1 : decode cX5_keeps 1 = .ok (.getfield 48, 3) := dk_180 0 48 (dk_at dksX5_keeps_0 1 rfl rfl)
theorem dX5_keeps_4 : decode cX5_keeps 4 = .ok (.bipush 6, 2) := dk_16 6 (dk_at dksX5_keeps_0 4 rfl rfl)
theorem dX5_keeps_6 : decode cX5_keeps 6 = .ok (.if_icmp .ne 44, 3) := dk_160 0 44 (dk_at dksX5_keeps_0 6 rfl rfl)
theorem dX5_keeps_9 : decode cX5_keeps 9 = .ok (.iconst 0, 1) := dk_3 (dk_at dksX5_keeps_0 9 rfl rfl)
theorem dX5_keeps_10 : decode cX5_keeps 10 = .ok (.istore_n 1, 1) := dk_60 (dk_at dksX5_keeps_0 10 rfl rfl)
theorem dX5_keeps_11 : decode cX5_keeps 11 = .ok (.iload_n 1, 1) := dk_27 (dk_at dksX5_keeps_0 11 rfl rfl)
theorem dX5_keeps_12 : decode cX5_keeps 12 = .ok (.sipush 1090, 3) := dk_17 4 66 (dk_at dksX5_keeps_0 12 rfl rfl)
theorem dX5_keeps_15 : decode cX5_keeps 15 = .ok (.if_icmp .ge 25, 3) := dk_162 0 25 (dk_at dksX5_keeps_0 15 rfl rfl)
theorem dX5_keeps_18 : decode cX5_keeps 18 = .ok (.aload_n 0, 1) := dk_42 (dk_at dksX5_keeps_0 18 rfl rfl)
theorem dX5_keeps_19 : decode cX5_keeps 19 = .ok (.getfield 13, 3) := dk_180 0 13 (dk_at dksX5_keeps_0 19 rfl rfl)
theorem dX5_keeps_22 : decode cX5_keeps 22 = .ok (.iload_n 1, 1) := dk_27 (dk_at dksX5_keeps_0 22 rfl rfl)
theorem dX5_keeps_23 : decode cX5_keeps 23 = .ok (.aload_n 0, 1) := dk_42 (dk_at dksX5_keeps_0 23 rfl rfl)
theorem dX5_keeps_24 : decode cX5_keeps 24 = .ok (.getfield 13, 3) := dk_180 0 13 (dk_at dksX5_keeps_1 0 rfl rfl)
theorem dX5_keeps_27 : decode cX5_keeps 27 = .ok (.iload_n 1, 1) := dk_27 (dk_at dksX5_keeps_1 3 rfl rfl)
theorem dX5_keeps_28 : decode cX5_keeps 28 = .ok (.sipush 218, 3) := dk_17 0 218 (dk_at dksX5_keeps_1 4 rfl rfl)
theorem dX5_keeps_31 : decode cX5_keeps 31 = .ok (.iadd, 1) := dk_96 (dk_at dksX5_keeps_1 7 rfl rfl)
theorem dX5_keeps_32 : decode cX5_keeps 32 = .ok (.iaload, 1) := dk_46 (dk_at dksX5_keeps_1 8 rfl rfl)
theorem dX5_keeps_33 : decode cX5_keeps 33 = .ok (.iastore, 1) := dk_79 (dk_at dksX5_keeps_1 9 rfl rfl)
theorem dX5_keeps_34 : decode cX5_keeps 34 = .ok (.iinc 1 1, 3) := dk_132 1 1 (dk_at dksX5_keeps_1 10 rfl rfl)
theorem dX5_keeps_37 : decode cX5_keeps 37 = .ok (.goto (-26), 3) := dk_167 255 230 (dk_at dksX5_keeps_1 13 rfl rfl)
theorem dX5_keeps_40 : decode cX5_keeps 40 = .ok (.aload_n 0, 1) := dk_42 (dk_at dksX5_keeps_1 16 rfl rfl)
theorem dX5_keeps_41 : decode cX5_keeps 41 = .ok (.dup, 1) := dk_89 (dk_at dksX5_keeps_1 17 rfl rfl)
theorem dX5_keeps_42 : decode cX5_keeps 42 = .ok (.getfield 48, 3) := dk_180 0 48 (dk_at dksX5_keeps_1 18 rfl rfl)
theorem dX5_keeps_45 : decode cX5_keeps 45 = .ok (.iconst 1, 1) := dk_4 (dk_at dksX5_keeps_1 21 rfl rfl)
theorem dX5_keeps_46 : decode cX5_keeps 46 = .ok (.isub, 1) := dk_100 (dk_at dksX5_keeps_1 22 rfl rfl)
theorem dX5_keeps_47 : decode cX5_keeps 47 = .ok (.putfield 48, 3) := dk_181 0 48 (dk_at dksX5_keeps_2 0 rfl rfl)
theorem dX5_keeps_50 : decode cX5_keeps 50 = .ok (.iconst 0, 1) := dk_3 (dk_at dksX5_keeps_2 3 rfl rfl)
theorem dX5_keeps_51 : decode cX5_keeps 51 = .ok (.istore_n 1, 1) := dk_60 (dk_at dksX5_keeps_2 4 rfl rfl)
theorem dX5_keeps_52 : decode cX5_keeps 52 = .ok (.iload_n 1, 1) := dk_27 (dk_at dksX5_keeps_2 5 rfl rfl)
theorem dX5_keeps_53 : decode cX5_keeps 53 = .ok (.sipush 218, 3) := dk_17 0 218 (dk_at dksX5_keeps_2 6 rfl rfl)
theorem dX5_keeps_56 : decode cX5_keeps 56 = .ok (.if_icmp .ge 30, 3) := dk_162 0 30 (dk_at dksX5_keeps_2 9 rfl rfl)
theorem dX5_keeps_59 : decode cX5_keeps 59 = .ok (.aload_n 0, 1) := dk_42 (dk_at dksX5_keeps_2 12 rfl rfl)
theorem dX5_keeps_60 : decode cX5_keeps 60 = .ok (.getfield 13, 3) := dk_180 0 13 (dk_at dksX5_keeps_2 13 rfl rfl)
theorem dX5_keeps_63 : decode cX5_keeps 63 = .ok (.sipush 218, 3) := dk_17 0 218 (dk_at dksX5_keeps_2 16 rfl rfl)
theorem dX5_keeps_66 : decode cX5_keeps 66 = .ok (.aload_n 0, 1) := dk_42 (dk_at dksX5_keeps_2 19 rfl rfl)
theorem dX5_keeps_67 : decode cX5_keeps 67 = .ok (.getfield 48, 3) := dk_180 0 48 (dk_at dksX5_keeps_2 20 rfl rfl)
theorem dX5_keeps_70 : decode cX5_keeps 70 = .ok (.imul, 1) := dk_104 (dk_at dksX5_keeps_2 23 rfl rfl)
theorem dX5_keeps_71 : decode cX5_keeps 71 = .ok (.iload_n 1, 1) := dk_27 (dk_at dksX5_keeps_3 0 rfl rfl)
theorem dX5_keeps_72 : decode cX5_keeps 72 = .ok (.iadd, 1) := dk_96 (dk_at dksX5_keeps_3 1 rfl rfl)
theorem dX5_keeps_73 : decode cX5_keeps 73 = .ok (.aload_n 0, 1) := dk_42 (dk_at dksX5_keeps_3 2 rfl rfl)
theorem dX5_keeps_74 : decode cX5_keeps 74 = .ok (.getfield 16, 3) := dk_180 0 16 (dk_at dksX5_keeps_3 3 rfl rfl)
theorem dX5_keeps_77 : decode cX5_keeps 77 = .ok (.iload_n 1, 1) := dk_27 (dk_at dksX5_keeps_3 6 rfl rfl)
theorem dX5_keeps_78 : decode cX5_keeps 78 = .ok (.iaload, 1) := dk_46 (dk_at dksX5_keeps_3 7 rfl rfl)
theorem dX5_keeps_79 : decode cX5_keeps 79 = .ok (.iastore, 1) := dk_79 (dk_at dksX5_keeps_3 8 rfl rfl)
theorem dX5_keeps_80 : decode cX5_keeps 80 = .ok (.iinc 1 1, 3) := dk_132 1 1 (dk_at dksX5_keeps_3 9 rfl rfl)
theorem dX5_keeps_83 : decode cX5_keeps 83 = .ok (.goto (-31), 3) := dk_167 255 225 (dk_at dksX5_keeps_3 12 rfl rfl)
theorem dX5_keeps_86 : decode cX5_keeps 86 = .ok (.aload_n 0, 1) := dk_42 (dk_at dksX5_keeps_3 15 rfl rfl)
theorem dX5_keeps_87 : decode cX5_keeps 87 = .ok (.dup, 1) := dk_89 (dk_at dksX5_keeps_3 16 rfl rfl)
theorem dX5_keeps_88 : decode cX5_keeps 88 = .ok (.getfield 48, 3) := dk_180 0 48 (dk_at dksX5_keeps_3 17 rfl rfl)
theorem dX5_keeps_91 : decode cX5_keeps 91 = .ok (.iconst 1, 1) := dk_4 (dk_at dksX5_keeps_3 20 rfl rfl)
theorem dX5_keeps_92 : decode cX5_keeps 92 = .ok (.iadd, 1) := dk_96 (dk_at dksX5_keeps_3 21 rfl rfl)
theorem dX5_keeps_93 : decode cX5_keeps 93 = .ok (.putfield 48, 3) := dk_181 0 48 (dk_at dksX5_keeps_4 0 rfl rfl)
theorem dX5_keeps_96 : decode cX5_keeps 96 = .ok (.return_, 1) := dk_177 (dk_at dksX5_keeps_4 3 rfl rfl)
abbrev cX5_get : ByteArray := prog_15_method_33_code
def yX5_get : MethodName := ⟨RX5, "get", "(I)I"⟩
def dkwX5_get_2 : List UInt8 := [182, 0, 118, 154, 0, 7, 42, 182, 0, 152, 29, 172]
abbrev dktX5_get_2 : List UInt8 := dkwX5_get_2 ++ []
def dkwX5_get_1 : List UInt8 := [42, 27, 182, 0, 155, 62, 28, 2, 159, 0, 25, 42, 180, 0, 7, 7, 46, 4, 160, 0, 15, 42, 28]
abbrev dktX5_get_1 : List UInt8 := dkwX5_get_1 ++ dktX5_get_2
def dkwX5_get_0 : List UInt8 := [27, 184, 0, 130, 154, 0, 10, 42, 16, 254, 182, 0, 137, 172, 42, 27, 182, 0, 121, 61, 42, 182, 0, 146]
abbrev dktX5_get_0 : List UInt8 := dkwX5_get_0 ++ dktX5_get_1
theorem dksX5_get_0 : cX5_get.data.toList.drop 0 = dktX5_get_0 := by decide +kernel
theorem dksX5_get_1 : cX5_get.data.toList.drop 24 = dktX5_get_1 := dk_seg dksX5_get_0 24 rfl rfl
theorem dksX5_get_2 : cX5_get.data.toList.drop 47 = dktX5_get_2 := dk_seg dksX5_get_1 23 rfl rfl
theorem dX5_get_0 : decode cX5_get 0 = .ok (.iload_n 1, 1) := dk_27 (dk_at dksX5_get_0 0 rfl rfl)
theorem dX5_get_1 : decode cX5_get 1 = .ok (.invokestatic 130, 3) := dk_184 0 130 (dk_at dksX5_get_0 1 rfl rfl)
theorem dX5_get_4 : decode cX5_get 4 = .ok (.ifCond .ne 10, 3) := dk_154 0 10 (dk_at dksX5_get_0 4 rfl rfl)
theorem dX5_get_7 : decode cX5_get 7 = .ok (.aload_n 0, 1) := dk_42 (dk_at dksX5_get_0 7 rfl rfl)
theorem dX5_get_8 : decode cX5_get 8 = .ok (.bipush (-2), 2) := dk_16 254 (dk_at dksX5_get_0 8 rfl rfl)
theorem dX5_get_10 : decode cX5_get 10 = .ok (.invokevirtual 137, 3) := dk_182 0 137 (dk_at dksX5_get_0 10 rfl rfl)
theorem dX5_get_13 : decode cX5_get 13 = .ok (.ireturn, 1) := dk_172 (dk_at dksX5_get_0 13 rfl rfl)
theorem dX5_get_14 : decode cX5_get 14 = .ok (.aload_n 0, 1) := dk_42 (dk_at dksX5_get_0 14 rfl rfl)
theorem dX5_get_15 : decode cX5_get 15 = .ok (.iload_n 1, 1) := dk_27 (dk_at dksX5_get_0 15 rfl rfl)
theorem dX5_get_16 : decode cX5_get 16 = .ok (.invokevirtual 121, 3) := dk_182 0 121 (dk_at dksX5_get_0 16 rfl rfl)
theorem dX5_get_19 : decode cX5_get 19 = .ok (.istore_n 2, 1) := dk_61 (dk_at dksX5_get_0 19 rfl rfl)
theorem dX5_get_20 : decode cX5_get 20 = .ok (.aload_n 0, 1) := dk_42 (dk_at dksX5_get_0 20 rfl rfl)
theorem dX5_get_21 : decode cX5_get 21 = .ok (.invokevirtual 146, 3) := dk_182 0 146 (dk_at dksX5_get_0 21 rfl rfl)
theorem dX5_get_24 : decode cX5_get 24 = .ok (.aload_n 0, 1) := dk_42 (dk_at dksX5_get_1 0 rfl rfl)
theorem dX5_get_25 : decode cX5_get 25 = .ok (.iload_n 1, 1) := dk_27 (dk_at dksX5_get_1 1 rfl rfl)
theorem dX5_get_26 : decode cX5_get 26 = .ok (.invokevirtual 155, 3) := dk_182 0 155 (dk_at dksX5_get_1 2 rfl rfl)
theorem dX5_get_29 : decode cX5_get 29 = .ok (.istore_n 3, 1) := dk_62 (dk_at dksX5_get_1 5 rfl rfl)
theorem dX5_get_30 : decode cX5_get 30 = .ok (.iload_n 2, 1) := dk_28 (dk_at dksX5_get_1 6 rfl rfl)
theorem dX5_get_31 : decode cX5_get 31 = .ok (.iconst (-1), 1) := dk_2 (dk_at dksX5_get_1 7 rfl rfl)
theorem dX5_get_32 : decode cX5_get 32 = .ok (.if_icmp .eq 25, 3) := dk_159 0 25 (dk_at dksX5_get_1 8 rfl rfl)
theorem dX5_get_35 : decode cX5_get 35 = .ok (.aload_n 0, 1) := dk_42 (dk_at dksX5_get_1 11 rfl rfl)
theorem dX5_get_36 : decode cX5_get 36 = .ok (.getfield 7, 3) := dk_180 0 7 (dk_at dksX5_get_1 12 rfl rfl)
theorem dX5_get_39 : decode cX5_get 39 = .ok (.iconst 4, 1) := dk_7 (dk_at dksX5_get_1 15 rfl rfl)
theorem dX5_get_40 : decode cX5_get 40 = .ok (.iaload, 1) := dk_46 (dk_at dksX5_get_1 16 rfl rfl)
theorem dX5_get_41 : decode cX5_get 41 = .ok (.iconst 1, 1) := dk_4 (dk_at dksX5_get_1 17 rfl rfl)
theorem dX5_get_42 : decode cX5_get 42 = .ok (.if_icmp .ne 15, 3) := dk_160 0 15 (dk_at dksX5_get_1 18 rfl rfl)
theorem dX5_get_45 : decode cX5_get 45 = .ok (.aload_n 0, 1) := dk_42 (dk_at dksX5_get_1 21 rfl rfl)
theorem dX5_get_46 : decode cX5_get 46 = .ok (.iload_n 2, 1) := dk_28 (dk_at dksX5_get_1 22 rfl rfl)
theorem dX5_get_47 : decode cX5_get 47 = .ok (.invokevirtual 118, 3) := dk_182 0 118 (dk_at dksX5_get_2 0 rfl rfl)
theorem dX5_get_50 : decode cX5_get 50 = .ok (.ifCond .ne 7, 3) := dk_154 0 7 (dk_at dksX5_get_2 3 rfl rfl)
theorem dX5_get_53 : decode cX5_get 53 = .ok (.aload_n 0, 1) := dk_42 (dk_at dksX5_get_2 6 rfl rfl)
theorem dX5_get_54 : decode cX5_get 54 = .ok (.invokevirtual 152, 3) := dk_182 0 152 (dk_at dksX5_get_2 7 rfl rfl)
theorem dX5_get_57 : decode cX5_get 57 = .ok (.iload_n 3, 1) := dk_29 (dk_at dksX5_get_2 10 rfl rfl)
theorem dX5_get_58 : decode cX5_get 58 = .ok (.ireturn, 1) := dk_172 (dk_at dksX5_get_2 11 rfl rfl)
abbrev cX5_getsNow : ByteArray := prog_15_method_32_code
def yX5_getsNow : MethodName := ⟨RX5, "getsNow", "(I)I"⟩
def dkwX5_getsNow_1 : List UInt8 := [180, 0, 7, 7, 46, 4, 160, 0, 8, 42, 28, 182, 0, 127, 29, 172]
abbrev dktX5_getsNow_1 : List UInt8 := dkwX5_getsNow_1 ++ []
def dkwX5_getsNow_0 : List UInt8 := [42, 27, 182, 0, 121, 61, 28, 2, 160, 0, 5, 2, 172, 42, 180, 0, 7, 16, 56, 28, 96, 46, 62, 42]
abbrev dktX5_getsNow_0 : List UInt8 := dkwX5_getsNow_0 ++ dktX5_getsNow_1
theorem dksX5_getsNow_0 : cX5_getsNow.data.toList.drop 0 = dktX5_getsNow_0 := by decide +kernel
theorem dksX5_getsNow_1 : cX5_getsNow.data.toList.drop 24 = dktX5_getsNow_1 := dk_seg dksX5_getsNow_0 24 rfl rfl
theorem dX5_getsNow_0 : decode cX5_getsNow 0 = .ok (.aload_n 0, 1) := dk_42 (dk_at dksX5_getsNow_0 0 rfl rfl)
theorem dX5_getsNow_1 : decode cX5_getsNow 1 = .ok (.iload_n 1, 1) := dk_27 (dk_at dksX5_getsNow_0 1 rfl rfl)
theorem dX5_getsNow_2 : decode cX5_getsNow 2 = .ok (.invokevirtual 121, 3) := dk_182 0 121 (dk_at dksX5_getsNow_0 2 rfl rfl)
theorem dX5_getsNow_5 : decode cX5_getsNow 5 = .ok (.istore_n 2, 1) := dk_61 (dk_at dksX5_getsNow_0 5 rfl rfl)
theorem dX5_getsNow_6 : decode cX5_getsNow 6 = .ok (.iload_n 2, 1) := dk_28 (dk_at dksX5_getsNow_0 6 rfl rfl)
theorem dX5_getsNow_7 : decode cX5_getsNow 7 = .ok (.iconst (-1), 1) := dk_2 (dk_at dksX5_getsNow_0 7 rfl rfl)
theorem dX5_getsNow_8 : decode cX5_getsNow 8 = .ok (.if_icmp .ne 5, 3) := dk_160 0 5 (dk_at dksX5_getsNow_0 8 rfl rfl)
theorem dX5_getsNow_11 : decode cX5_getsNow 11 = .ok (.iconst (-1), 1) := dk_2 (dk_at dksX5_getsNow_0 11 rfl rfl)
theorem dX5_getsNow_12 : decode cX5_getsNow 12 = .ok (.ireturn, 1) := dk_172 (dk_at dksX5_getsNow_0 12 rfl rfl)
theorem dX5_getsNow_13 : decode cX5_getsNow 13 = .ok (.aload_n 0, 1) := dk_42 (dk_at dksX5_getsNow_0 13 rfl rfl)
theorem dX5_getsNow_14 : decode cX5_getsNow 14 = .ok (.getfield 7, 3) := dk_180 0 7 (dk_at dksX5_getsNow_0 14 rfl rfl)
theorem dX5_getsNow_17 : decode cX5_getsNow 17 = .ok (.bipush 56, 2) := dk_16 56 (dk_at dksX5_getsNow_0 17 rfl rfl)
theorem dX5_getsNow_19 : decode cX5_getsNow 19 = .ok (.iload_n 2, 1) := dk_28 (dk_at dksX5_getsNow_0 19 rfl rfl)
theorem dX5_getsNow_20 : decode cX5_getsNow 20 = .ok (.iadd, 1) := dk_96 (dk_at dksX5_getsNow_0 20 rfl rfl)
theorem dX5_getsNow_21 : decode cX5_getsNow 21 = .ok (.iaload, 1) := dk_46 (dk_at dksX5_getsNow_0 21 rfl rfl)
theorem dX5_getsNow_22 : decode cX5_getsNow 22 = .ok (.istore_n 3, 1) := dk_62 (dk_at dksX5_getsNow_0 22 rfl rfl)
theorem dX5_getsNow_23 : decode cX5_getsNow 23 = .ok (.aload_n 0, 1) := dk_42 (dk_at dksX5_getsNow_0 23 rfl rfl)
theorem dX5_getsNow_24 : decode cX5_getsNow 24 = .ok (.getfield 7, 3) := dk_180 0 7 (dk_at dksX5_getsNow_1 0 rfl rfl)
theorem dX5_getsNow_27 : decode cX5_getsNow 27 = .ok (.iconst 4, 1) := dk_7 (dk_at dksX5_getsNow_1 3 rfl rfl)
theorem dX5_getsNow_28 : decode cX5_getsNow 28 = .ok (.iaload, 1) := dk_46 (dk_at dksX5_getsNow_1 4 rfl rfl)
theorem dX5_getsNow_29 : decode cX5_getsNow 29 = .ok (.iconst 1, 1) := dk_4 (dk_at dksX5_getsNow_1 5 rfl rfl)
theorem dX5_getsNow_30 : decode cX5_getsNow 30 = .ok (.if_icmp .ne 8, 3) := dk_160 0 8 (dk_at dksX5_getsNow_1 6 rfl rfl)
theorem dX5_getsNow_33 : decode cX5_getsNow 33 = .ok (.aload_n 0, 1) := dk_42 (dk_at dksX5_getsNow_1 9 rfl rfl)
theorem dX5_getsNow_34 : decode cX5_getsNow 34 = .ok (.iload_n 2, 1) := dk_28 (dk_at dksX5_getsNow_1 10 rfl rfl)
theorem dX5_getsNow_35 : decode cX5_getsNow 35 = .ok (.invokevirtual 127, 3) := dk_182 0 127 (dk_at dksX5_getsNow_1 11 rfl rfl)
theorem dX5_getsNow_38 : decode cX5_getsNow 38 = .ok (.iload_n 3, 1) := dk_29 (dk_at dksX5_getsNow_1 14 rfl rfl)
theorem dX5_getsNow_39 : decode cX5_getsNow 39 = .ok (.ireturn, 1) := dk_172 (dk_at dksX5_getsNow_1 15 rfl rfl)
abbrev cX5_peek : ByteArray := prog_15_method_34_code
def yX5_peek : MethodName := ⟨RX5, "peek", "(I)I"⟩
def dkwX5_peek_1 : List UInt8 := [160, 0, 7, 2, 167, 0, 12, 42, 180, 0, 7, 16, 56, 28, 96, 46, 172]
abbrev dktX5_peek_1 : List UInt8 := dkwX5_peek_1 ++ []
def dkwX5_peek_0 : List UInt8 := [27, 184, 0, 130, 154, 0, 10, 42, 16, 254, 182, 0, 137, 172, 42, 27, 182, 0, 121, 61, 28, 2]
abbrev dktX5_peek_0 : List UInt8 := dkwX5_peek_0 ++ dktX5_peek_1
theorem dksX5_peek_0 : cX5_peek.data.toList.drop 0 = dktX5_peek_0 := by decide +kernel
theorem dksX5_peek_1 : cX5_peek.data.toList.drop 22 = dktX5_peek_1 := dk_seg dksX5_peek_0 22 rfl rfl
theorem dX5_peek_0 : decode cX5_peek 0 = .ok (.iload_n 1, 1) := dk_27 (dk_at dksX5_peek_0 0 rfl rfl)
theorem dX5_peek_1 : decode cX5_peek 1 = .ok (.invokestatic 130, 3) := dk_184 0 130 (dk_at dksX5_peek_0 1 rfl rfl)
theorem dX5_peek_4 : decode cX5_peek 4 = .ok (.ifCond .ne 10, 3) := dk_154 0 10 (dk_at dksX5_peek_0 4 rfl rfl)
theorem dX5_peek_7 : decode cX5_peek 7 = .ok (.aload_n 0, 1) := dk_42 (dk_at dksX5_peek_0 7 rfl rfl)
theorem dX5_peek_8 : decode cX5_peek 8 = .ok (.bipush (-2), 2) := dk_16 254 (dk_at dksX5_peek_0 8 rfl rfl)
theorem dX5_peek_10 : decode cX5_peek 10 = .ok (.invokevirtual 137, 3) := dk_182 0 137 (dk_at dksX5_peek_0 10 rfl rfl)
theorem dX5_peek_13 : decode cX5_peek 13 = .ok (.ireturn, 1) := dk_172 (dk_at dksX5_peek_0 13 rfl rfl)
theorem dX5_peek_14 : decode cX5_peek 14 = .ok (.aload_n 0, 1) := dk_42 (dk_at dksX5_peek_0 14 rfl rfl)
theorem dX5_peek_15 : decode cX5_peek 15 = .ok (.iload_n 1, 1) := dk_27 (dk_at dksX5_peek_0 15 rfl rfl)
theorem dX5_peek_16 : decode cX5_peek 16 = .ok (.invokevirtual 121, 3) := dk_182 0 121 (dk_at dksX5_peek_0 16 rfl rfl)
theorem dX5_peek_19 : decode cX5_peek 19 = .ok (.istore_n 2, 1) := dk_61 (dk_at dksX5_peek_0 19 rfl rfl)
theorem dX5_peek_20 : decode cX5_peek 20 = .ok (.iload_n 2, 1) := dk_28 (dk_at dksX5_peek_0 20 rfl rfl)
theorem dX5_peek_21 : decode cX5_peek 21 = .ok (.iconst (-1), 1) := dk_2 (dk_at dksX5_peek_0 21 rfl rfl)
theorem dX5_peek_22 : decode cX5_peek 22 = .ok (.if_icmp .ne 7, 3) := dk_160 0 7 (dk_at dksX5_peek_1 0 rfl rfl)
theorem dX5_peek_25 : decode cX5_peek 25 = .ok (.iconst (-1), 1) := dk_2 (dk_at dksX5_peek_1 3 rfl rfl)
theorem dX5_peek_26 : decode cX5_peek 26 = .ok (.goto 12, 3) := dk_167 0 12 (dk_at dksX5_peek_1 4 rfl rfl)
theorem dX5_peek_29 : decode cX5_peek 29 = .ok (.aload_n 0, 1) := dk_42 (dk_at dksX5_peek_1 7 rfl rfl)
theorem dX5_peek_30 : decode cX5_peek 30 = .ok (.getfield 7, 3) := dk_180 0 7 (dk_at dksX5_peek_1 8 rfl rfl)
theorem dX5_peek_33 : decode cX5_peek 33 = .ok (.bipush 56, 2) := dk_16 56 (dk_at dksX5_peek_1 11 rfl rfl)
theorem dX5_peek_35 : decode cX5_peek 35 = .ok (.iload_n 2, 1) := dk_28 (dk_at dksX5_peek_1 13 rfl rfl)
theorem dX5_peek_36 : decode cX5_peek 36 = .ok (.iadd, 1) := dk_96 (dk_at dksX5_peek_1 14 rfl rfl)
theorem dX5_peek_37 : decode cX5_peek 37 = .ok (.iaload, 1) := dk_46 (dk_at dksX5_peek_1 15 rfl rfl)
theorem dX5_peek_38 : decode cX5_peek 38 = .ok (.ireturn, 1) := dk_172 (dk_at dksX5_peek_1 16 rfl rfl)
abbrev cX5_remove : ByteArray := prog_15_method_36_code
def yX5_remove : MethodName := ⟨RX5, "remove", "(I)I"⟩
def dkwX5_remove_1 : List UInt8 := [28, 2, 159, 0, 7, 42, 182, 0, 152, 28, 172]
abbrev dktX5_remove_1 : List UInt8 := dkwX5_remove_1 ++ []
def dkwX5_remove_0 : List UInt8 := [27, 184, 0, 130, 154, 0, 10, 42, 16, 254, 182, 0, 137, 172, 42, 182, 0, 146, 42, 27, 182, 0, 158, 61]
abbrev dktX5_remove_0 : List UInt8 := dkwX5_remove_0 ++ dktX5_remove_1
theorem dksX5_remove_0 : cX5_remove.data.toList.drop 0 = dktX5_remove_0 := by decide +kernel
theorem dksX5_remove_1 : cX5_remove.data.toList.drop 24 = dktX5_remove_1 := dk_seg dksX5_remove_0 24 rfl rfl
theorem dX5_remove_0 : decode cX5_remove 0 = .ok (.iload_n 1, 1) := dk_27 (dk_at dksX5_remove_0 0 rfl rfl)
theorem dX5_remove_1 : decode cX5_remove 1 = .ok (.invokestatic 130, 3) := dk_184 0 130 (dk_at dksX5_remove_0 1 rfl rfl)
theorem dX5_remove_4 : decode cX5_remove 4 = .ok (.ifCond .ne 10, 3) := dk_154 0 10 (dk_at dksX5_remove_0 4 rfl rfl)
theorem dX5_remove_7 : decode cX5_remove 7 = .ok (.aload_n 0, 1) := dk_42 (dk_at dksX5_remove_0 7 rfl rfl)
theorem dX5_remove_8 : decode cX5_remove 8 = .ok (.bipush (-2), 2) := dk_16 254 (dk_at dksX5_remove_0 8 rfl rfl)
theorem dX5_remove_10 : decode cX5_remove 10 = .ok (.invokevirtual 137, 3) := dk_182 0 137 (dk_at dksX5_remove_0 10 rfl rfl)
theorem dX5_remove_13 : decode cX5_remove 13 = .ok (.ireturn, 1) := dk_172 (dk_at dksX5_remove_0 13 rfl rfl)
theorem dX5_remove_14 : decode cX5_remove 14 = .ok (.aload_n 0, 1) := dk_42 (dk_at dksX5_remove_0 14 rfl rfl)
theorem dX5_remove_15 : decode cX5_remove 15 = .ok (.invokevirtual 146, 3) := dk_182 0 146 (dk_at dksX5_remove_0 15 rfl rfl)
theorem dX5_remove_18 : decode cX5_remove 18 = .ok (.aload_n 0, 1) := dk_42 (dk_at dksX5_remove_0 18 rfl rfl)
theorem dX5_remove_19 : decode cX5_remove 19 = .ok (.iload_n 1, 1) := dk_27 (dk_at dksX5_remove_0 19 rfl rfl)
theorem dX5_remove_20 : decode cX5_remove 20 = .ok (.invokevirtual 158, 3) := dk_182 0 158 (dk_at dksX5_remove_0 20 rfl rfl)
theorem dX5_remove_23 : decode cX5_remove 23 = .ok (.istore_n 2, 1) := dk_61 (dk_at dksX5_remove_0 23 rfl rfl)
theorem dX5_remove_24 : decode cX5_remove 24 = .ok (.iload_n 2, 1) := dk_28 (dk_at dksX5_remove_1 0 rfl rfl)
theorem dX5_remove_25 : decode cX5_remove 25 = .ok (.iconst (-1), 1) := dk_2 (dk_at dksX5_remove_1 1 rfl rfl)
theorem dX5_remove_26 : decode cX5_remove 26 = .ok (.if_icmp .eq 7, 3) := dk_159 0 7 (dk_at dksX5_remove_1 2 rfl rfl)
theorem dX5_remove_29 : decode cX5_remove 29 = .ok (.aload_n 0, 1) := dk_42 (dk_at dksX5_remove_1 5 rfl rfl)
theorem dX5_remove_30 : decode cX5_remove 30 = .ok (.invokevirtual 152, 3) := dk_182 0 152 (dk_at dksX5_remove_1 6 rfl rfl)
theorem dX5_remove_33 : decode cX5_remove 33 = .ok (.iload_n 2, 1) := dk_28 (dk_at dksX5_remove_1 9 rfl rfl)
theorem dX5_remove_34 : decode cX5_remove 34 = .ok (.ireturn, 1) := dk_172 (dk_at dksX5_remove_1 10 rfl rfl)
abbrev cX5_removesNow : ByteArray := prog_15_method_35_code
def yX5_removesNow : MethodName := ⟨RX5, "removesNow", "(I)I"⟩
def dkwX5_removesNow_1 : List UInt8 := [28, 182, 0, 115, 29, 172]
abbrev dktX5_removesNow_1 : List UInt8 := dkwX5_removesNow_1 ++ []
def dkwX5_removesNow_0 : List UInt8 := [42, 27, 182, 0, 121, 61, 28, 2, 160, 0, 5, 2, 172, 42, 180, 0, 7, 16, 56, 28, 96, 46, 62, 42]
abbrev dktX5_removesNow_0 : List UInt8 := dkwX5_removesNow_0 ++ dktX5_removesNow_1
theorem dksX5_removesNow_0 : cX5_removesNow.data.toList.drop 0 = dktX5_removesNow_0 := by decide +kernel
theorem dksX5_removesNow_1 : cX5_removesNow.data.toList.drop 24 = dktX5_removesNow_1 := dk_seg dksX5_removesNow_0 24 rfl rfl
theorem dX5_removesNow_0 : decode cX5_removesNow 0 = .ok (.aload_n 0, 1) := dk_42 (dk_at dksX5_removesNow_0 0 rfl rfl)
theorem dX5_removesNow_1 : decode cX5_removesNow 1 = .ok (.iload_n 1, 1) := dk_27 (dk_at dksX5_removesNow_0 1 rfl rfl)
theorem dX5_removesNow_2 : decode cX5_removesNow 2 = .ok (.invokevirtual 121, 3) := dk_182 0 121 (dk_at dksX5_removesNow_0 2 rfl rfl)
theorem dX5_removesNow_5 : decode cX5_removesNow 5 = .ok (.istore_n 2, 1) := dk_61 (dk_at dksX5_removesNow_0 5 rfl rfl)
theorem dX5_removesNow_6 : decode cX5_removesNow 6 = .ok (.iload_n 2, 1) := dk_28 (dk_at dksX5_removesNow_0 6 rfl rfl)
theorem dX5_removesNow_7 : decode cX5_removesNow 7 = .ok (.iconst (-1), 1) := dk_2 (dk_at dksX5_removesNow_0 7 rfl rfl)
theorem dX5_removesNow_8 : decode cX5_removesNow 8 = .ok (.if_icmp .ne 5, 3) := dk_160 0 5 (dk_at dksX5_removesNow_0 8 rfl rfl)
theorem dX5_removesNow_11 : decode cX5_removesNow 11 = .ok (.iconst (-1), 1) := dk_2 (dk_at dksX5_removesNow_0 11 rfl rfl)
theorem dX5_removesNow_12 : decode cX5_removesNow 12 = .ok (.ireturn, 1) := dk_172 (dk_at dksX5_removesNow_0 12 rfl rfl)
theorem dX5_removesNow_13 : decode cX5_removesNow 13 = .ok (.aload_n 0, 1) := dk_42 (dk_at dksX5_removesNow_0 13 rfl rfl)
theorem dX5_removesNow_14 : decode cX5_removesNow 14 = .ok (.getfield 7, 3) := dk_180 0 7 (dk_at dksX5_removesNow_0 14 rfl rfl)
theorem dX5_removesNow_17 : decode cX5_removesNow 17 = .ok (.bipush 56, 2) := dk_16 56 (dk_at dksX5_removesNow_0 17 rfl rfl)
theorem dX5_removesNow_19 : decode cX5_removesNow 19 = .ok (.iload_n 2, 1) := dk_28 (dk_at dksX5_removesNow_0 19 rfl rfl)
theorem dX5_removesNow_20 : decode cX5_removesNow 20 = .ok (.iadd, 1) := dk_96 (dk_at dksX5_removesNow_0 20 rfl rfl)
theorem dX5_removesNow_21 : decode cX5_removesNow 21 = .ok (.iaload, 1) := dk_46 (dk_at dksX5_removesNow_0 21 rfl rfl)
theorem dX5_removesNow_22 : decode cX5_removesNow 22 = .ok (.istore_n 3, 1) := dk_62 (dk_at dksX5_removesNow_0 22 rfl rfl)
theorem dX5_removesNow_23 : decode cX5_removesNow 23 = .ok (.aload_n 0, 1) := dk_42 (dk_at dksX5_removesNow_0 23 rfl rfl)
theorem dX5_removesNow_24 : decode cX5_removesNow 24 = .ok (.iload_n 2, 1) := dk_28 (dk_at dksX5_removesNow_1 0 rfl rfl)
theorem dX5_removesNow_25 : decode cX5_removesNow 25 = .ok (.invokevirtual 115, 3) := dk_182 0 115 (dk_at dksX5_removesNow_1 1 rfl rfl)
theorem dX5_removesNow_28 : decode cX5_removesNow 28 = .ok (.iload_n 3, 1) := dk_29 (dk_at dksX5_removesNow_1 4 rfl rfl)
theorem dX5_removesNow_29 : decode cX5_removesNow 29 = .ok (.ireturn, 1) := dk_172 (dk_at dksX5_removesNow_1 5 rfl rfl)
abbrev cX5_adds : ByteArray := prog_15_method_37_code
def yX5_adds : MethodName := ⟨RX5, "adds", "(II)I"⟩
def dkwX5_adds_4 : List UInt8 := [21, 4, 79, 42, 182, 0, 152, 21, 4, 172]
abbrev dktX5_adds_4 : List UInt8 := dkwX5_adds_4 ++ []
def dkwX5_adds_3 : List UInt8 := [54, 4, 29, 2, 160, 0, 12, 42, 27, 28, 182, 0, 124, 167, 0, 14, 42, 180, 0, 7, 16, 56, 29, 96]
abbrev dktX5_adds_3 : List UInt8 := dkwX5_adds_3 ++ dktX5_adds_4
def dkwX5_adds_2 : List UInt8 := [17, 39, 15, 164, 0, 9, 17, 39, 15, 167, 0, 14, 42, 180, 0, 7, 16, 56, 29, 96, 46, 28, 96]
abbrev dktX5_adds_2 : List UInt8 := dkwX5_adds_2 ++ dktX5_adds_3
def dkwX5_adds_1 : List UInt8 := [182, 0, 121, 62, 29, 2, 160, 0, 7, 28, 167, 0, 37, 42, 180, 0, 7, 16, 56, 29, 96, 46, 28, 96]
abbrev dktX5_adds_1 : List UInt8 := dkwX5_adds_1 ++ dktX5_adds_2
def dkwX5_adds_0 : List UInt8 := [42, 27, 28, 182, 0, 140, 154, 0, 10, 42, 27, 28, 182, 0, 143, 172, 42, 182, 0, 146, 42, 27]
abbrev dktX5_adds_0 : List UInt8 := dkwX5_adds_0 ++ dktX5_adds_1
theorem dksX5_adds_0 : cX5_adds.data.toList.drop 0 = dktX5_adds_0 := by decide +kernel
theorem dksX5_adds_1 : cX5_adds.data.toList.drop 22 = dktX5_adds_1 := dk_seg dksX5_adds_0 22 rfl rfl
theorem dksX5_adds_2 : cX5_adds.data.toList.drop 46 = dktX5_adds_2 := dk_seg dksX5_adds_1 24 rfl rfl
theorem dksX5_adds_3 : cX5_adds.data.toList.drop 69 = dktX5_adds_3 := dk_seg dksX5_adds_2 23 rfl rfl
theorem dksX5_adds_4 : cX5_adds.data.toList.drop 93 = dktX5_adds_4 := dk_seg dksX5_adds_3 24 rfl rfl
theorem dX5_adds_0 : decode cX5_adds 0 = .ok (.aload_n 0, 1) := dk_42 (dk_at dksX5_adds_0 0 rfl rfl)
theorem dX5_adds_1 : decode cX5_adds 1 = .ok (.iload_n 1, 1) := dk_27 (dk_at dksX5_adds_0 1 rfl rfl)
theorem dX5_adds_2 : decode cX5_adds 2 = .ok (.iload_n 2, 1) := dk_28 (dk_at dksX5_adds_0 2 rfl rfl)
theorem dX5_adds_3 : decode cX5_adds 3 = .ok (.invokevirtual 140, 3) := dk_182 0 140 (dk_at dksX5_adds_0 3 rfl rfl)
theorem dX5_adds_6 : decode cX5_adds 6 = .ok (.ifCond .ne 10, 3) := dk_154 0 10 (dk_at dksX5_adds_0 6 rfl rfl)
theorem dX5_adds_9 : decode cX5_adds 9 = .ok (.aload_n 0, 1) := dk_42 (dk_at dksX5_adds_0 9 rfl rfl)
theorem dX5_adds_10 : decode cX5_adds 10 = .ok (.iload_n 1, 1) := dk_27 (dk_at dksX5_adds_0 10 rfl rfl)
theorem dX5_adds_11 : decode cX5_adds 11 = .ok (.iload_n 2, 1) := dk_28 (dk_at dksX5_adds_0 11 rfl rfl)
theorem dX5_adds_12 : decode cX5_adds 12 = .ok (.invokevirtual 143, 3) := dk_182 0 143 (dk_at dksX5_adds_0 12 rfl rfl)
theorem dX5_adds_15 : decode cX5_adds 15 = .ok (.ireturn, 1) := dk_172 (dk_at dksX5_adds_0 15 rfl rfl)
theorem dX5_adds_16 : decode cX5_adds 16 = .ok (.aload_n 0, 1) := dk_42 (dk_at dksX5_adds_0 16 rfl rfl)
theorem dX5_adds_17 : decode cX5_adds 17 = .ok (.invokevirtual 146, 3) := dk_182 0 146 (dk_at dksX5_adds_0 17 rfl rfl)
theorem dX5_adds_20 : decode cX5_adds 20 = .ok (.aload_n 0, 1) := dk_42 (dk_at dksX5_adds_0 20 rfl rfl)
theorem dX5_adds_21 : decode cX5_adds 21 = .ok (.iload_n 1, 1) := dk_27 (dk_at dksX5_adds_0 21 rfl rfl)
theorem dX5_adds_22 : decode cX5_adds 22 = .ok (.invokevirtual 121, 3) := dk_182 0 121 (dk_at dksX5_adds_1 0 rfl rfl)
theorem dX5_adds_25 : decode cX5_adds 25 = .ok (.istore_n 3, 1) := dk_62 (dk_at dksX5_adds_1 3 rfl rfl)
theorem dX5_adds_26 : decode cX5_adds 26 = .ok (.iload_n 3, 1) := dk_29 (dk_at dksX5_adds_1 4 rfl rfl)
theorem dX5_adds_27 : decode cX5_adds 27 = .ok (.iconst (-1), 1) := dk_2 (dk_at dksX5_adds_1 5 rfl rfl)
theorem dX5_adds_28 : decode cX5_adds 28 = .ok (.if_icmp .ne 7, 3) := dk_160 0 7 (dk_at dksX5_adds_1 6 rfl rfl)
theorem dX5_adds_31 : decode cX5_adds 31 = .ok (.iload_n 2, 1) := dk_28 (dk_at dksX5_adds_1 9 rfl rfl)
theorem dX5_adds_32 : decode cX5_adds 32 = .ok (.goto 37, 3) := dk_167 0 37 (dk_at dksX5_adds_1 10 rfl rfl)
theorem dX5_adds_35 : decode cX5_adds 35 = .ok (.aload_n 0, 1) := dk_42 (dk_at dksX5_adds_1 13 rfl rfl)
theorem dX5_adds_36 : decode cX5_adds 36 = .ok (.getfield 7, 3) := dk_180 0 7 (dk_at dksX5_adds_1 14 rfl rfl)
theorem dX5_adds_39 : decode cX5_adds 39 = .ok (.bipush 56, 2) := dk_16 56 (dk_at dksX5_adds_1 17 rfl rfl)
theorem dX5_adds_41 : decode cX5_adds 41 = .ok (.iload_n 3, 1) := dk_29 (dk_at dksX5_adds_1 19 rfl rfl)
theorem dX5_adds_42 : decode cX5_adds 42 = .ok (.iadd, 1) := dk_96 (dk_at dksX5_adds_1 20 rfl rfl)
theorem dX5_adds_43 : decode cX5_adds 43 = .ok (.iaload, 1) := dk_46 (dk_at dksX5_adds_1 21 rfl rfl)
theorem dX5_adds_44 : decode cX5_adds 44 = .ok (.iload_n 2, 1) := dk_28 (dk_at dksX5_adds_1 22 rfl rfl)
theorem dX5_adds_45 : decode cX5_adds 45 = .ok (.iadd, 1) := dk_96 (dk_at dksX5_adds_1 23 rfl rfl)
theorem dX5_adds_46 : decode cX5_adds 46 = .ok (.sipush 9999, 3) := dk_17 39 15 (dk_at dksX5_adds_2 0 rfl rfl)
theorem dX5_adds_49 : decode cX5_adds 49 = .ok (.if_icmp .le 9, 3) := dk_164 0 9 (dk_at dksX5_adds_2 3 rfl rfl)
theorem dX5_adds_52 : decode cX5_adds 52 = .ok (.sipush 9999, 3) := dk_17 39 15 (dk_at dksX5_adds_2 6 rfl rfl)
theorem dX5_adds_55 : decode cX5_adds 55 = .ok (.goto 14, 3) := dk_167 0 14 (dk_at dksX5_adds_2 9 rfl rfl)
theorem dX5_adds_58 : decode cX5_adds 58 = .ok (.aload_n 0, 1) := dk_42 (dk_at dksX5_adds_2 12 rfl rfl)
theorem dX5_adds_59 : decode cX5_adds 59 = .ok (.getfield 7, 3) := dk_180 0 7 (dk_at dksX5_adds_2 13 rfl rfl)
theorem dX5_adds_62 : decode cX5_adds 62 = .ok (.bipush 56, 2) := dk_16 56 (dk_at dksX5_adds_2 16 rfl rfl)
theorem dX5_adds_64 : decode cX5_adds 64 = .ok (.iload_n 3, 1) := dk_29 (dk_at dksX5_adds_2 18 rfl rfl)
theorem dX5_adds_65 : decode cX5_adds 65 = .ok (.iadd, 1) := dk_96 (dk_at dksX5_adds_2 19 rfl rfl)
theorem dX5_adds_66 : decode cX5_adds 66 = .ok (.iaload, 1) := dk_46 (dk_at dksX5_adds_2 20 rfl rfl)
theorem dX5_adds_67 : decode cX5_adds 67 = .ok (.iload_n 2, 1) := dk_28 (dk_at dksX5_adds_2 21 rfl rfl)
theorem dX5_adds_68 : decode cX5_adds 68 = .ok (.iadd, 1) := dk_96 (dk_at dksX5_adds_2 22 rfl rfl)
theorem dX5_adds_69 : decode cX5_adds 69 = .ok (.istore 4, 2) := dk_54 4 (dk_at dksX5_adds_3 0 rfl rfl)
theorem dX5_adds_71 : decode cX5_adds 71 = .ok (.iload_n 3, 1) := dk_29 (dk_at dksX5_adds_3 2 rfl rfl)
theorem dX5_adds_72 : decode cX5_adds 72 = .ok (.iconst (-1), 1) := dk_2 (dk_at dksX5_adds_3 3 rfl rfl)
theorem dX5_adds_73 : decode cX5_adds 73 = .ok (.if_icmp .ne 12, 3) := dk_160 0 12 (dk_at dksX5_adds_3 4 rfl rfl)
theorem dX5_adds_76 : decode cX5_adds 76 = .ok (.aload_n 0, 1) := dk_42 (dk_at dksX5_adds_3 7 rfl rfl)
theorem dX5_adds_77 : decode cX5_adds 77 = .ok (.iload_n 1, 1) := dk_27 (dk_at dksX5_adds_3 8 rfl rfl)
theorem dX5_adds_78 : decode cX5_adds 78 = .ok (.iload_n 2, 1) := dk_28 (dk_at dksX5_adds_3 9 rfl rfl)
theorem dX5_adds_79 : decode cX5_adds 79 = .ok (.invokevirtual 124, 3) := dk_182 0 124 (dk_at dksX5_adds_3 10 rfl rfl)
theorem dX5_adds_82 : decode cX5_adds 82 = .ok (.goto 14, 3) := dk_167 0 14 (dk_at dksX5_adds_3 13 rfl rfl)
theorem dX5_adds_85 : decode cX5_adds 85 = .ok (.aload_n 0, 1) := dk_42 (dk_at dksX5_adds_3 16 rfl rfl)
theorem dX5_adds_86 : decode cX5_adds 86 = .ok (.getfield 7, 3) := dk_180 0 7 (dk_at dksX5_adds_3 17 rfl rfl)
theorem dX5_adds_89 : decode cX5_adds 89 = .ok (.bipush 56, 2) := dk_16 56 (dk_at dksX5_adds_3 20 rfl rfl)
theorem dX5_adds_91 : decode cX5_adds 91 = .ok (.iload_n 3, 1) := dk_29 (dk_at dksX5_adds_3 22 rfl rfl)
theorem dX5_adds_92 : decode cX5_adds 92 = .ok (.iadd, 1) := dk_96 (dk_at dksX5_adds_3 23 rfl rfl)
theorem dX5_adds_93 : decode cX5_adds 93 = .ok (.iload 4, 2) := dk_21 4 (dk_at dksX5_adds_4 0 rfl rfl)
theorem dX5_adds_95 : decode cX5_adds 95 = .ok (.iastore, 1) := dk_79 (dk_at dksX5_adds_4 2 rfl rfl)
theorem dX5_adds_96 : decode cX5_adds 96 = .ok (.aload_n 0, 1) := dk_42 (dk_at dksX5_adds_4 3 rfl rfl)
theorem dX5_adds_97 : decode cX5_adds 97 = .ok (.invokevirtual 152, 3) := dk_182 0 152 (dk_at dksX5_adds_4 4 rfl rfl)
theorem dX5_adds_100 : decode cX5_adds 100 = .ok (.iload 4, 2) := dk_21 4 (dk_at dksX5_adds_4 7 rfl rfl)
theorem dX5_adds_102 : decode cX5_adds 102 = .ok (.ireturn, 1) := dk_172 (dk_at dksX5_adds_4 9 rfl rfl)
abbrev cX5_clears : ByteArray := prog_15_method_39_code
def yX5_clears : MethodName := ⟨RX5, "clears", "()I"⟩
def dkwX5_clears_0 : List UInt8 := [42, 182, 0, 146, 42, 182, 0, 164, 60, 27, 158, 0, 7, 42, 182, 0, 152, 27, 172]
abbrev dktX5_clears_0 : List UInt8 := dkwX5_clears_0 ++ []
theorem dksX5_clears_0 : cX5_clears.data.toList.drop 0 = dktX5_clears_0 := by decide +kernel
theorem dX5_clears_0 : decode cX5_clears 0 = .ok (.aload_n 0, 1) := dk_42 (dk_at dksX5_clears_0 0 rfl rfl)
theorem dX5_clears_1 : decode cX5_clears 1 = .ok (.invokevirtual 146, 3) := dk_182 0 146 (dk_at dksX5_clears_0 1 rfl rfl)
theorem dX5_clears_4 : decode cX5_clears 4 = .ok (.aload_n 0, 1) := dk_42 (dk_at dksX5_clears_0 4 rfl rfl)
theorem dX5_clears_5 : decode cX5_clears 5 = .ok (.invokevirtual 164, 3) := dk_182 0 164 (dk_at dksX5_clears_0 5 rfl rfl)
theorem dX5_clears_8 : decode cX5_clears 8 = .ok (.istore_n 1, 1) := dk_60 (dk_at dksX5_clears_0 8 rfl rfl)
theorem dX5_clears_9 : decode cX5_clears 9 = .ok (.iload_n 1, 1) := dk_27 (dk_at dksX5_clears_0 9 rfl rfl)
theorem dX5_clears_10 : decode cX5_clears 10 = .ok (.ifCond .le 7, 3) := dk_158 0 7 (dk_at dksX5_clears_0 10 rfl rfl)
theorem dX5_clears_13 : decode cX5_clears 13 = .ok (.aload_n 0, 1) := dk_42 (dk_at dksX5_clears_0 13 rfl rfl)
theorem dX5_clears_14 : decode cX5_clears 14 = .ok (.invokevirtual 152, 3) := dk_182 0 152 (dk_at dksX5_clears_0 14 rfl rfl)
theorem dX5_clears_17 : decode cX5_clears 17 = .ok (.iload_n 1, 1) := dk_27 (dk_at dksX5_clears_0 17 rfl rfl)
theorem dX5_clears_18 : decode cX5_clears 18 = .ok (.ireturn, 1) := dk_172 (dk_at dksX5_clears_0 18 rfl rfl)
abbrev cX5_clearsNow : ByteArray := prog_15_method_38_code
def yX5_clearsNow : MethodName := ⟨RX5, "clearsNow", "()I"⟩
def dkwX5_clearsNow_1 : List UInt8 := [180, 0, 108, 4, 96, 181, 0, 108, 27, 172]
abbrev dktX5_clearsNow_1 : List UInt8 := dkwX5_clearsNow_1 ++ []
def dkwX5_clearsNow_0 : List UInt8 := [42, 180, 0, 7, 3, 46, 60, 27, 158, 0, 24, 42, 180, 0, 7, 3, 3, 79, 42, 182, 0, 161, 42, 89]
abbrev dktX5_clearsNow_0 : List UInt8 := dkwX5_clearsNow_0 ++ dktX5_clearsNow_1
theorem dksX5_clearsNow_0 : cX5_clearsNow.data.toList.drop 0 = dktX5_clearsNow_0 := by decide +kernel
theorem dksX5_clearsNow_1 : cX5_clearsNow.data.toList.drop 24 = dktX5_clearsNow_1 := dk_seg dksX5_clearsNow_0 24 rfl rfl
theorem dX5_clearsNow_0 : decode cX5_clearsNow 0 = .ok (.aload_n 0, 1) := dk_42 (dk_at dksX5_clearsNow_0 0 rfl rfl)
theorem dX5_clearsNow_1 : decode cX5_clearsNow 1 = .ok (.getfield 7, 3) := dk_180 0 7 (dk_at dksX5_clearsNow_0 1 rfl rfl)
theorem dX5_clearsNow_4 : decode cX5_clearsNow 4 = .ok (.iconst 0, 1) := dk_3 (dk_at dksX5_clearsNow_0 4 rfl rfl)
theorem dX5_clearsNow_5 : decode cX5_clearsNow 5 = .ok (.iaload, 1) := dk_46 (dk_at dksX5_clearsNow_0 5 rfl rfl)
theorem dX5_clearsNow_6 : decode cX5_clearsNow 6 = .ok (.istore_n 1, 1) := dk_60 (dk_at dksX5_clearsNow_0 6 rfl rfl)
theorem dX5_clearsNow_7 : decode cX5_clearsNow 7 = .ok (.iload_n 1, 1) := dk_27 (dk_at dksX5_clearsNow_0 7 rfl rfl)
theorem dX5_clearsNow_8 : decode cX5_clearsNow 8 = .ok (.ifCond .le 24, 3) := dk_158 0 24 (dk_at dksX5_clearsNow_0 8 rfl rfl)
theorem dX5_clearsNow_11 : decode cX5_clearsNow 11 = .ok (.aload_n 0, 1) := dk_42 (dk_at dksX5_clearsNow_0 11 rfl rfl)
theorem dX5_clearsNow_12 : decode cX5_clearsNow 12 = .ok (.getfield 7, 3) := dk_180 0 7 (dk_at dksX5_clearsNow_0 12 rfl rfl)
theorem dX5_clearsNow_15 : decode cX5_clearsNow 15 = .ok (.iconst 0, 1) := dk_3 (dk_at dksX5_clearsNow_0 15 rfl rfl)
theorem dX5_clearsNow_16 : decode cX5_clearsNow 16 = .ok (.iconst 0, 1) := dk_3 (dk_at dksX5_clearsNow_0 16 rfl rfl)
theorem dX5_clearsNow_17 : decode cX5_clearsNow 17 = .ok (.iastore, 1) := dk_79 (dk_at dksX5_clearsNow_0 17 rfl rfl)
theorem dX5_clearsNow_18 : decode cX5_clearsNow 18 = .ok (.aload_n 0, 1) := dk_42 (dk_at dksX5_clearsNow_0 18 rfl rfl)
theorem dX5_clearsNow_19 : decode cX5_clearsNow 19 = .ok (.invokevirtual 161, 3) := dk_182 0 161 (dk_at dksX5_clearsNow_0 19 rfl rfl)
theorem dX5_clearsNow_22 : decode cX5_clearsNow 22 = .ok (.aload_n 0, 1) := dk_42 (dk_at dksX5_clearsNow_0 22 rfl rfl)
theorem dX5_clearsNow_23 : decode cX5_clearsNow 23 = .ok (.dup, 1) := dk_89 (dk_at dksX5_clearsNow_0 23 rfl rfl)
theorem dX5_clearsNow_24 : decode cX5_clearsNow 24 = .ok (.getfield 108, 3) := dk_180 0 108 (dk_at dksX5_clearsNow_1 0 rfl rfl)
theorem dX5_clearsNow_27 : decode cX5_clearsNow 27 = .ok (.iconst 1, 1) := dk_4 (dk_at dksX5_clearsNow_1 3 rfl rfl)
theorem dX5_clearsNow_28 : decode cX5_clearsNow 28 = .ok (.iadd, 1) := dk_96 (dk_at dksX5_clearsNow_1 4 rfl rfl)
theorem dX5_clearsNow_29 : decode cX5_clearsNow 29 = .ok (.putfield 108, 3) := dk_181 0 108 (dk_at dksX5_clearsNow_1 5 rfl rfl)
theorem dX5_clearsNow_32 : decode cX5_clearsNow 32 = .ok (.iload_n 1, 1) := dk_27 (dk_at dksX5_clearsNow_1 8 rfl rfl)
theorem dX5_clearsNow_33 : decode cX5_clearsNow 33 = .ok (.ireturn, 1) := dk_172 (dk_at dksX5_clearsNow_1 9 rfl rfl)
abbrev cX5_empties : ByteArray := prog_15_method_27_code
def yX5_empties : MethodName := ⟨RX5, "empties", "()V"⟩
def dkwX5_empties_1 : List UInt8 := [96, 3, 79, 132, 1, 1, 167, 255, 236, 177]
abbrev dktX5_empties_1 : List UInt8 := dkwX5_empties_1 ++ []
def dkwX5_empties_0 : List UInt8 := [42, 180, 0, 7, 4, 16, 8, 79, 3, 60, 27, 16, 64, 162, 0, 20, 42, 180, 0, 7, 17, 0, 154, 27]
abbrev dktX5_empties_0 : List UInt8 := dkwX5_empties_0 ++ dktX5_empties_1
theorem dksX5_empties_0 : cX5_empties.data.toList.drop 0 = dktX5_empties_0 := by decide +kernel
theorem dksX5_empties_1 : cX5_empties.data.toList.drop 24 = dktX5_empties_1 := dk_seg dksX5_empties_0 24 rfl rfl
theorem dX5_empties_0 : decode cX5_empties 0 = .ok (.aload_n 0, 1) := dk_42 (dk_at dksX5_empties_0 0 rfl rfl)
theorem dX5_empties_1 : decode cX5_empties 1 = .ok (.getfield 7, 3) := dk_180 0 7 (dk_at dksX5_empties_0 1 rfl rfl)
theorem dX5_empties_4 : decode cX5_empties 4 = .ok (.iconst 1, 1) := dk_4 (dk_at dksX5_empties_0 4 rfl rfl)
theorem dX5_empties_5 : decode cX5_empties 5 = .ok (.bipush 8, 2) := dk_16 8 (dk_at dksX5_empties_0 5 rfl rfl)
theorem dX5_empties_7 : decode cX5_empties 7 = .ok (.iastore, 1) := dk_79 (dk_at dksX5_empties_0 7 rfl rfl)
theorem dX5_empties_8 : decode cX5_empties 8 = .ok (.iconst 0, 1) := dk_3 (dk_at dksX5_empties_0 8 rfl rfl)
theorem dX5_empties_9 : decode cX5_empties 9 = .ok (.istore_n 1, 1) := dk_60 (dk_at dksX5_empties_0 9 rfl rfl)
theorem dX5_empties_10 : decode cX5_empties 10 = .ok (.iload_n 1, 1) := dk_27 (dk_at dksX5_empties_0 10 rfl rfl)
theorem dX5_empties_11 : decode cX5_empties 11 = .ok (.bipush 64, 2) := dk_16 64 (dk_at dksX5_empties_0 11 rfl rfl)
theorem dX5_empties_13 : decode cX5_empties 13 = .ok (.if_icmp .ge 20, 3) := dk_162 0 20 (dk_at dksX5_empties_0 13 rfl rfl)
theorem dX5_empties_16 : decode cX5_empties 16 = .ok (.aload_n 0, 1) := dk_42 (dk_at dksX5_empties_0 16 rfl rfl)
theorem dX5_empties_17 : decode cX5_empties 17 = .ok (.getfield 7, 3) := dk_180 0 7 (dk_at dksX5_empties_0 17 rfl rfl)
theorem dX5_empties_20 : decode cX5_empties 20 = .ok (.sipush 154, 3) := dk_17 0 154 (dk_at dksX5_empties_0 20 rfl rfl)
theorem dX5_empties_23 : decode cX5_empties 23 = .ok (.iload_n 1, 1) := dk_27 (dk_at dksX5_empties_0 23 rfl rfl)
theorem dX5_empties_24 : decode cX5_empties 24 = .ok (.iadd, 1) := dk_96 (dk_at dksX5_empties_1 0 rfl rfl)
theorem dX5_empties_25 : decode cX5_empties 25 = .ok (.iconst 0, 1) := dk_3 (dk_at dksX5_empties_1 1 rfl rfl)
theorem dX5_empties_26 : decode cX5_empties 26 = .ok (.iastore, 1) := dk_79 (dk_at dksX5_empties_1 2 rfl rfl)
theorem dX5_empties_27 : decode cX5_empties 27 = .ok (.iinc 1 1, 3) := dk_132 1 1 (dk_at dksX5_empties_1 3 rfl rfl)
theorem dX5_empties_30 : decode cX5_empties 30 = .ok (.goto (-20), 3) := dk_167 255 236 (dk_at dksX5_empties_1 6 rfl rfl)
theorem dX5_empties_33 : decode cX5_empties 33 = .ok (.return_, 1) := dk_177 (dk_at dksX5_empties_1 9 rfl rfl)
abbrev cX5_hashes : ByteArray := prog_15_method_40_code
def yX5_hashes : MethodName := ⟨RX5, "hashes", "(II)I"⟩
def dkwX5_hashes_6 : List UInt8 := [42, 89, 180, 0, 108, 4, 96, 181, 0, 108, 42, 182, 0, 152, 42, 180, 0, 7, 4, 46, 172]
abbrev dktX5_hashes_6 : List UInt8 := dkwX5_hashes_6 ++ []
def dkwX5_hashes_5 : List UInt8 := [16, 7, 21, 4, 96, 46, 182, 0, 61, 42, 180, 0, 7, 3, 46, 182, 0, 111, 132, 4, 1, 167, 255, 185]
abbrev dktX5_hashes_5 : List UInt8 := dkwX5_hashes_5 ++ dktX5_hashes_6
def dkwX5_hashes_4 : List UInt8 := [16, 6, 92, 46, 4, 96, 79, 42, 180, 0, 7, 3, 92, 46, 4, 96, 79, 42, 42, 42, 180, 0, 7]
abbrev dktX5_hashes_4 : List UInt8 := dkwX5_hashes_4 ++ dktX5_hashes_5
def dkwX5_hashes_3 : List UInt8 := [162, 0, 71, 42, 180, 0, 7, 16, 105, 21, 4, 96, 42, 180, 0, 7, 16, 6, 46, 79, 42, 180, 0, 7]
abbrev dktX5_hashes_3 : List UInt8 := dkwX5_hashes_3 ++ dktX5_hashes_4
def dkwX5_hashes_2 : List UInt8 := [42, 182, 0, 161, 42, 180, 0, 7, 3, 46, 62, 42, 180, 0, 7, 3, 3, 79, 3, 54, 4, 21, 4, 29]
abbrev dktX5_hashes_2 : List UInt8 := dkwX5_hashes_2 ++ dktX5_hashes_3
def dkwX5_hashes_1 : List UInt8 := [16, 254, 182, 0, 137, 172, 42, 182, 0, 146, 42, 180, 0, 7, 5, 27, 79, 42, 180, 0, 7, 6, 28, 79]
abbrev dktX5_hashes_1 : List UInt8 := dkwX5_hashes_1 ++ dktX5_hashes_2
def dkwX5_hashes_0 : List UInt8 := [27, 3, 17, 3, 231, 184, 0, 44, 153, 0, 14, 28, 3, 17, 3, 231, 184, 0, 44, 154, 0, 10, 42]
abbrev dktX5_hashes_0 : List UInt8 := dkwX5_hashes_0 ++ dktX5_hashes_1
theorem dksX5_hashes_0 : cX5_hashes.data.toList.drop 0 = dktX5_hashes_0 := by decide +kernel
theorem dksX5_hashes_1 : cX5_hashes.data.toList.drop 23 = dktX5_hashes_1 := dk_seg dksX5_hashes_0 23 rfl rfl
theorem dksX5_hashes_2 : cX5_hashes.data.toList.drop 47 = dktX5_hashes_2 := dk_seg dksX5_hashes_1 24 rfl rfl
theorem dksX5_hashes_3 : cX5_hashes.data.toList.drop 71 = dktX5_hashes_3 := dk_seg dksX5_hashes_2 24 rfl rfl
theorem dksX5_hashes_4 : cX5_hashes.data.toList.drop 95 = dktX5_hashes_4 := dk_seg dksX5_hashes_3 24 rfl rfl
theorem dksX5_hashes_5 : cX5_hashes.data.toList.drop 118 = dktX5_hashes_5 := dk_seg dksX5_hashes_4 23 rfl rfl
theorem dksX5_hashes_6 : cX5_hashes.data.toList.drop 142 = dktX5_hashes_6 := dk_seg dksX5_hashes_5 24 rfl rfl
theorem dX5_hashes_0 : decode cX5_hashes 0 = .ok (.iload_n 1, 1) := dk_27 (dk_at dksX5_hashes_0 0 rfl rfl)
theorem dX5_hashes_1 : decode cX5_hashes 1 = .ok (.iconst 0, 1) := dk_3 (dk_at dksX5_hashes_0 1 rfl rfl)
theorem dX5_hashes_2 : decode cX5_hashes 2 = .ok (.sipush 999, 3) := dk_17 3 231 (dk_at dksX5_hashes_0 2 rfl rfl)
theorem dX5_hashes_5 : decode cX5_hashes 5 = .ok (.invokestatic 44, 3) := dk_184 0 44 (dk_at dksX5_hashes_0 5 rfl rfl)
theorem dX5_hashes_8 : decode cX5_hashes 8 = .ok (.ifCond .eq 14, 3) := dk_153 0 14 (dk_at dksX5_hashes_0 8 rfl rfl)
theorem dX5_hashes_11 : decode cX5_hashes 11 = .ok (.iload_n 2, 1) := dk_28 (dk_at dksX5_hashes_0 11 rfl rfl)
theorem dX5_hashes_12 : decode cX5_hashes 12 = .ok (.iconst 0, 1) := dk_3 (dk_at dksX5_hashes_0 12 rfl rfl)
theorem dX5_hashes_13 : decode cX5_hashes 13 = .ok (.sipush 999, 3) := dk_17 3 231 (dk_at dksX5_hashes_0 13 rfl rfl)
theorem dX5_hashes_16 : decode cX5_hashes 16 = .ok (.invokestatic 44, 3) := dk_184 0 44 (dk_at dksX5_hashes_0 16 rfl rfl)
theorem dX5_hashes_19 : decode cX5_hashes 19 = .ok (.ifCond .ne 10, 3) := dk_154 0 10 (dk_at dksX5_hashes_0 19 rfl rfl)
theorem dX5_hashes_22 : decode cX5_hashes 22 = .ok (.aload_n 0, 1) := dk_42 (dk_at dksX5_hashes_0 22 rfl rfl)
theorem dX5_hashes_23 : decode cX5_hashes 23 = .ok (.bipush (-2), 2) := dk_16 254 (dk_at dksX5_hashes_1 0 rfl rfl)
theorem dX5_hashes_25 : decode cX5_hashes 25 = .ok (.invokevirtual 137, 3) := dk_182 0 137 (dk_at dksX5_hashes_1 2 rfl rfl)
theorem dX5_hashes_28 : decode cX5_hashes 28 = .ok (.ireturn, 1) := dk_172 (dk_at dksX5_hashes_1 5 rfl rfl)
theorem dX5_hashes_29 : decode cX5_hashes 29 = .ok (.aload_n 0, 1) := dk_42 (dk_at dksX5_hashes_1 6 rfl rfl)
theorem dX5_hashes_30 : decode cX5_hashes 30 = .ok (.invokevirtual 146, 3) := dk_182 0 146 (dk_at dksX5_hashes_1 7 rfl rfl)
theorem dX5_hashes_33 : decode cX5_hashes 33 = .ok (.aload_n 0, 1) := dk_42 (dk_at dksX5_hashes_1 10 rfl rfl)
theorem dX5_hashes_34 : decode cX5_hashes 34 = .ok (.getfield 7, 3) := dk_180 0 7 (dk_at dksX5_hashes_1 11 rfl rfl)
theorem dX5_hashes_37 : decode cX5_hashes 37 = .ok (.iconst 2, 1) := dk_5 (dk_at dksX5_hashes_1 14 rfl rfl)
theorem dX5_hashes_38 : decode cX5_hashes 38 = .ok (.iload_n 1, 1) := dk_27 (dk_at dksX5_hashes_1 15 rfl rfl)
theorem dX5_hashes_39 : decode cX5_hashes 39 = .ok (.iastore, 1) := dk_79 (dk_at dksX5_hashes_1 16 rfl rfl)
theorem dX5_hashes_40 : decode cX5_hashes 40 = .ok (.aload_n 0, 1) := dk_42 (dk_at dksX5_hashes_1 17 rfl rfl)
theorem dX5_hashes_41 : decode cX5_hashes 41 = .ok (.getfield 7, 3) := dk_180 0 7 (dk_at dksX5_hashes_1 18 rfl rfl)
theorem dX5_hashes_44 : decode cX5_hashes 44 = .ok (.iconst 3, 1) := dk_6 (dk_at dksX5_hashes_1 21 rfl rfl)
theorem dX5_hashes_45 : decode cX5_hashes 45 = .ok (.iload_n 2, 1) := dk_28 (dk_at dksX5_hashes_1 22 rfl rfl)
theorem dX5_hashes_46 : decode cX5_hashes 46 = .ok (.iastore, 1) := dk_79 (dk_at dksX5_hashes_1 23 rfl rfl)
theorem dX5_hashes_47 : decode cX5_hashes 47 = .ok (.aload_n 0, 1) := dk_42 (dk_at dksX5_hashes_2 0 rfl rfl)
theorem dX5_hashes_48 : decode cX5_hashes 48 = .ok (.invokevirtual 161, 3) := dk_182 0 161 (dk_at dksX5_hashes_2 1 rfl rfl)
theorem dX5_hashes_51 : decode cX5_hashes 51 = .ok (.aload_n 0, 1) := dk_42 (dk_at dksX5_hashes_2 4 rfl rfl)
theorem dX5_hashes_52 : decode cX5_hashes 52 = .ok (.getfield 7, 3) := dk_180 0 7 (dk_at dksX5_hashes_2 5 rfl rfl)
theorem dX5_hashes_55 : decode cX5_hashes 55 = .ok (.iconst 0, 1) := dk_3 (dk_at dksX5_hashes_2 8 rfl rfl)
theorem dX5_hashes_56 : decode cX5_hashes 56 = .ok (.iaload, 1) := dk_46 (dk_at dksX5_hashes_2 9 rfl rfl)
theorem dX5_hashes_57 : decode cX5_hashes 57 = .ok (.istore_n 3, 1) := dk_62 (dk_at dksX5_hashes_2 10 rfl rfl)
theorem dX5_hashes_58 : decode cX5_hashes 58 = .ok (.aload_n 0, 1) := dk_42 (dk_at dksX5_hashes_2 11 rfl rfl)
theorem dX5_hashes_59 : decode cX5_hashes 59 = .ok (.getfield 7, 3) := dk_180 0 7 (dk_at dksX5_hashes_2 12 rfl rfl)
theorem dX5_hashes_62 : decode cX5_hashes 62 = .ok (.iconst 0, 1) := dk_3 (dk_at dksX5_hashes_2 15 rfl rfl)
theorem dX5_hashes_63 : decode cX5_hashes 63 = .ok (.iconst 0, 1) := dk_3 (dk_at dksX5_hashes_2 16 rfl rfl)
theorem dX5_hashes_64 : decode cX5_hashes 64 = .ok (.iastore, 1) := dk_79 (dk_at dksX5_hashes_2 17 rfl rfl)
theorem dX5_hashes_65 : decode cX5_hashes 65 = .ok (.iconst 0, 1) := dk_3 (dk_at dksX5_hashes_2 18 rfl rfl)
theorem dX5_hashes_66 : decode cX5_hashes 66 = .ok (.istore 4, 2) := dk_54 4 (dk_at dksX5_hashes_2 19 rfl rfl)
theorem dX5_hashes_68 : decode cX5_hashes 68 = .ok (.iload 4, 2) := dk_21 4 (dk_at dksX5_hashes_2 21 rfl rfl)
theorem dX5_hashes_70 : decode cX5_hashes 70 = .ok (.iload_n 3, 1) := dk_29 (dk_at dksX5_hashes_2 23 rfl rfl)
theorem dX5_hashes_71 : decode cX5_hashes 71 = .ok (.if_icmp .ge 71, 3) := dk_162 0 71 (dk_at dksX5_hashes_3 0 rfl rfl)
theorem dX5_hashes_74 : decode cX5_hashes 74 = .ok (.aload_n 0, 1) := dk_42 (dk_at dksX5_hashes_3 3 rfl rfl)
theorem dX5_hashes_75 : decode cX5_hashes 75 = .ok (.getfield 7, 3) := dk_180 0 7 (dk_at dksX5_hashes_3 4 rfl rfl)
theorem dX5_hashes_78 : decode cX5_hashes 78 = .ok (.bipush 105, 2) := dk_16 105 (dk_at dksX5_hashes_3 7 rfl rfl)
theorem dX5_hashes_80 : decode cX5_hashes 80 = .ok (.iload 4, 2) := dk_21 4 (dk_at dksX5_hashes_3 9 rfl rfl)
theorem dX5_hashes_82 : decode cX5_hashes 82 = .ok (.iadd, 1) := dk_96 (dk_at dksX5_hashes_3 11 rfl rfl)
theorem dX5_hashes_83 : decode cX5_hashes 83 = .ok (.aload_n 0, 1) := dk_42 (dk_at dksX5_hashes_3 12 rfl rfl)
theorem dX5_hashes_84 : decode cX5_hashes 84 = .ok (.getfield 7, 3) := dk_180 0 7 (dk_at dksX5_hashes_3 13 rfl rfl)
theorem dX5_hashes_87 : decode cX5_hashes 87 = .ok (.bipush 6, 2) := dk_16 6 (dk_at dksX5_hashes_3 16 rfl rfl)
theorem dX5_hashes_89 : decode cX5_hashes 89 = .ok (.iaload, 1) := dk_46 (dk_at dksX5_hashes_3 18 rfl rfl)
theorem dX5_hashes_90 : decode cX5_hashes 90 = .ok (.iastore, 1) := dk_79 (dk_at dksX5_hashes_3 19 rfl rfl)
theorem dX5_hashes_91 : decode cX5_hashes 91 = .ok (.aload_n 0, 1) := dk_42 (dk_at dksX5_hashes_3 20 rfl rfl)
theorem dX5_hashes_92 : decode cX5_hashes 92 = .ok (.getfield 7, 3) := dk_180 0 7 (dk_at dksX5_hashes_3 21 rfl rfl)
theorem dX5_hashes_95 : decode cX5_hashes 95 = .ok (.bipush 6, 2) := dk_16 6 (dk_at dksX5_hashes_4 0 rfl rfl)
theorem dX5_hashes_97 : decode cX5_hashes 97 = .ok (.dup2, 1) := dk_92 (dk_at dksX5_hashes_4 2 rfl rfl)
theorem dX5_hashes_98 : decode cX5_hashes 98 = .ok (.iaload, 1) := dk_46 (dk_at dksX5_hashes_4 3 rfl rfl)
theorem dX5_hashes_99 : decode cX5_hashes 99 = .ok (.iconst 1, 1) := dk_4 (dk_at dksX5_hashes_4 4 rfl rfl)
theorem dX5_hashes_100 : decode cX5_hashes 100 = .ok (.iadd, 1) := dk_96 (dk_at dksX5_hashes_4 5 rfl rfl)
theorem dX5_hashes_101 : decode cX5_hashes 101 = .ok (.iastore, 1) := dk_79 (dk_at dksX5_hashes_4 6 rfl rfl)
theorem dX5_hashes_102 : decode cX5_hashes 102 = .ok (.aload_n 0, 1) := dk_42 (dk_at dksX5_hashes_4 7 rfl rfl)
theorem dX5_hashes_103 : decode cX5_hashes 103 = .ok (.getfield 7, 3) := dk_180 0 7 (dk_at dksX5_hashes_4 8 rfl rfl)
theorem dX5_hashes_106 : decode cX5_hashes 106 = .ok (.iconst 0, 1) := dk_3 (dk_at dksX5_hashes_4 11 rfl rfl)
theorem dX5_hashes_107 : decode cX5_hashes 107 = .ok (.dup2, 1) := dk_92 (dk_at dksX5_hashes_4 12 rfl rfl)
theorem dX5_hashes_108 : decode cX5_hashes 108 = .ok (.iaload, 1) := dk_46 (dk_at dksX5_hashes_4 13 rfl rfl)
theorem dX5_hashes_109 : decode cX5_hashes 109 = .ok (.iconst 1, 1) := dk_4 (dk_at dksX5_hashes_4 14 rfl rfl)
theorem dX5_hashes_110 : decode cX5_hashes 110 = .ok (.iadd, 1) := dk_96 (dk_at dksX5_hashes_4 15 rfl rfl)
theorem dX5_hashes_111 : decode cX5_hashes 111 = .ok (.iastore, 1) := dk_79 (dk_at dksX5_hashes_4 16 rfl rfl)
theorem dX5_hashes_112 : decode cX5_hashes 112 = .ok (.aload_n 0, 1) := dk_42 (dk_at dksX5_hashes_4 17 rfl rfl)
theorem dX5_hashes_113 : decode cX5_hashes 113 = .ok (.aload_n 0, 1) := dk_42 (dk_at dksX5_hashes_4 18 rfl rfl)
theorem dX5_hashes_114 : decode cX5_hashes 114 = .ok (.aload_n 0, 1) := dk_42 (dk_at dksX5_hashes_4 19 rfl rfl)
theorem dX5_hashes_115 : decode cX5_hashes 115 = .ok (.getfield 7, 3) := dk_180 0 7 (dk_at dksX5_hashes_4 20 rfl rfl)
theorem dX5_hashes_118 : decode cX5_hashes 118 = .ok (.bipush 7, 2) := dk_16 7 (dk_at dksX5_hashes_5 0 rfl rfl)
theorem dX5_hashes_120 : decode cX5_hashes 120 = .ok (.iload 4, 2) := dk_21 4 (dk_at dksX5_hashes_5 2 rfl rfl)
theorem dX5_hashes_122 : decode cX5_hashes 122 = .ok (.iadd, 1) := dk_96 (dk_at dksX5_hashes_5 4 rfl rfl)
theorem dX5_hashes_123 : decode cX5_hashes 123 = .ok (.iaload, 1) := dk_46 (dk_at dksX5_hashes_5 5 rfl rfl)
theorem dX5_hashes_124 : decode cX5_hashes 124 = .ok (.invokevirtual 61, 3) := dk_182 0 61 (dk_at dksX5_hashes_5 6 rfl rfl)
theorem dX5_hashes_127 : decode cX5_hashes 127 = .ok (.aload_n 0, 1) := dk_42 (dk_at dksX5_hashes_5 9 rfl rfl)
theorem dX5_hashes_128 : decode cX5_hashes 128 = .ok (.getfield 7, 3) := dk_180 0 7 (dk_at dksX5_hashes_5 10 rfl rfl)
theorem dX5_hashes_131 : decode cX5_hashes 131 = .ok (.iconst 0, 1) := dk_3 (dk_at dksX5_hashes_5 13 rfl rfl)
theorem dX5_hashes_132 : decode cX5_hashes 132 = .ok (.iaload, 1) := dk_46 (dk_at dksX5_hashes_5 14 rfl rfl)
theorem dX5_hashes_133 : decode cX5_hashes 133 = .ok (.invokevirtual 111, 3) := dk_182 0 111 (dk_at dksX5_hashes_5 15 rfl rfl)
theorem dX5_hashes_136 : decode cX5_hashes 136 = .ok (.iinc 4 1, 3) := dk_132 4 1 (dk_at dksX5_hashes_5 18 rfl rfl)
theorem dX5_hashes_139 : decode cX5_hashes 139 = .ok (.goto (-71), 3) := dk_167 255 185 (dk_at dksX5_hashes_5 21 rfl rfl)
theorem dX5_hashes_142 : decode cX5_hashes 142 = .ok (.aload_n 0, 1) := dk_42 (dk_at dksX5_hashes_6 0 rfl rfl)
theorem dX5_hashes_143 : decode cX5_hashes 143 = .ok (.dup, 1) := dk_89 (dk_at dksX5_hashes_6 1 rfl rfl)
theorem dX5_hashes_144 : decode cX5_hashes 144 = .ok (.getfield 108, 3) := dk_180 0 108 (dk_at dksX5_hashes_6 2 rfl rfl)
theorem dX5_hashes_147 : decode cX5_hashes 147 = .ok (.iconst 1, 1) := dk_4 (dk_at dksX5_hashes_6 5 rfl rfl)
theorem dX5_hashes_148 : decode cX5_hashes 148 = .ok (.iadd, 1) := dk_96 (dk_at dksX5_hashes_6 6 rfl rfl)
theorem dX5_hashes_149 : decode cX5_hashes 149 = .ok (.putfield 108, 3) := dk_181 0 108 (dk_at dksX5_hashes_6 7 rfl rfl)
theorem dX5_hashes_152 : decode cX5_hashes 152 = .ok (.aload_n 0, 1) := dk_42 (dk_at dksX5_hashes_6 10 rfl rfl)
theorem dX5_hashes_153 : decode cX5_hashes 153 = .ok (.invokevirtual 152, 3) := dk_182 0 152 (dk_at dksX5_hashes_6 11 rfl rfl)
theorem dX5_hashes_156 : decode cX5_hashes 156 = .ok (.aload_n 0, 1) := dk_42 (dk_at dksX5_hashes_6 14 rfl rfl)
theorem dX5_hashes_157 : decode cX5_hashes 157 = .ok (.getfield 7, 3) := dk_180 0 7 (dk_at dksX5_hashes_6 15 rfl rfl)
theorem dX5_hashes_160 : decode cX5_hashes 160 = .ok (.iconst 1, 1) := dk_4 (dk_at dksX5_hashes_6 18 rfl rfl)
theorem dX5_hashes_161 : decode cX5_hashes 161 = .ok (.iaload, 1) := dk_46 (dk_at dksX5_hashes_6 19 rfl rfl)
theorem dX5_hashes_162 : decode cX5_hashes 162 = .ok (.ireturn, 1) := dk_172 (dk_at dksX5_hashes_6 20 rfl rfl)
abbrev cX5_sets : ByteArray := prog_15_method_41_code
def yX5_sets : MethodName := ⟨RX5, "sets", "(II)I"⟩
def dkwX5_sets_2 : List UInt8 := [180, 0, 7, 7, 27, 96, 28, 79, 42, 182, 0, 152, 29, 172]
abbrev dktX5_sets_2 : List UInt8 := dkwX5_sets_2 ++ []
def dkwX5_sets_1 : List UInt8 := [154, 0, 10, 42, 16, 254, 182, 0, 137, 172, 42, 182, 0, 146, 42, 180, 0, 7, 7, 27, 96, 46, 62, 42]
abbrev dktX5_sets_1 : List UInt8 := dkwX5_sets_1 ++ dktX5_sets_2
def dkwX5_sets_0 : List UInt8 := [27, 3, 4, 184, 0, 44, 153, 0, 21, 28, 3, 27, 154, 0, 7, 4, 167, 0, 5, 16, 48, 184, 0, 44]
abbrev dktX5_sets_0 : List UInt8 := dkwX5_sets_0 ++ dktX5_sets_1
theorem dksX5_sets_0 : cX5_sets.data.toList.drop 0 = dktX5_sets_0 := by decide +kernel
theorem dksX5_sets_1 : cX5_sets.data.toList.drop 24 = dktX5_sets_1 := dk_seg dksX5_sets_0 24 rfl rfl
theorem dksX5_sets_2 : cX5_sets.data.toList.drop 48 = dktX5_sets_2 := dk_seg dksX5_sets_1 24 rfl rfl
theorem dX5_sets_0 : decode cX5_sets 0 = .ok (.iload_n 1, 1) := dk_27 (dk_at dksX5_sets_0 0 rfl rfl)
theorem dX5_sets_1 : decode cX5_sets 1 = .ok (.iconst 0, 1) := dk_3 (dk_at dksX5_sets_0 1 rfl rfl)
theorem dX5_sets_2 : decode cX5_sets 2 = .ok (.iconst 1, 1) := dk_4 (dk_at dksX5_sets_0 2 rfl rfl)
theorem dX5_sets_3 : decode cX5_sets 3 = .ok (.invokestatic 44, 3) := dk_184 0 44 (dk_at dksX5_sets_0 3 rfl rfl)
theorem dX5_sets_6 : decode cX5_sets 6 = .ok (.ifCond .eq 21, 3) := dk_153 0 21 (dk_at dksX5_sets_0 6 rfl rfl)
theorem dX5_sets_9 : decode cX5_sets 9 = .ok (.iload_n 2, 1) := dk_28 (dk_at dksX5_sets_0 9 rfl rfl)
theorem dX5_sets_10 : decode cX5_sets 10 = .ok (.iconst 0, 1) := dk_3 (dk_at dksX5_sets_0 10 rfl rfl)
theorem dX5_sets_11 : decode cX5_sets 11 = .ok (.iload_n 1, 1) := dk_27 (dk_at dksX5_sets_0 11 rfl rfl)
theorem dX5_sets_12 : decode cX5_sets 12 = .ok (.ifCond .ne 7, 3) := dk_154 0 7 (dk_at dksX5_sets_0 12 rfl rfl)
theorem dX5_sets_15 : decode cX5_sets 15 = .ok (.iconst 1, 1) := dk_4 (dk_at dksX5_sets_0 15 rfl rfl)
theorem dX5_sets_16 : decode cX5_sets 16 = .ok (.goto 5, 3) := dk_167 0 5 (dk_at dksX5_sets_0 16 rfl rfl)
theorem dX5_sets_19 : decode cX5_sets 19 = .ok (.bipush 48, 2) := dk_16 48 (dk_at dksX5_sets_0 19 rfl rfl)
theorem dX5_sets_21 : decode cX5_sets 21 = .ok (.invokestatic 44, 3) := dk_184 0 44 (dk_at dksX5_sets_0 21 rfl rfl)
theorem dX5_sets_24 : decode cX5_sets 24 = .ok (.ifCond .ne 10, 3) := dk_154 0 10 (dk_at dksX5_sets_1 0 rfl rfl)
theorem dX5_sets_27 : decode cX5_sets 27 = .ok (.aload_n 0, 1) := dk_42 (dk_at dksX5_sets_1 3 rfl rfl)
theorem dX5_sets_28 : decode cX5_sets 28 = .ok (.bipush (-2), 2) := dk_16 254 (dk_at dksX5_sets_1 4 rfl rfl)
theorem dX5_sets_30 : decode cX5_sets 30 = .ok (.invokevirtual 137, 3) := dk_182 0 137 (dk_at dksX5_sets_1 6 rfl rfl)
theorem dX5_sets_33 : decode cX5_sets 33 = .ok (.ireturn, 1) := dk_172 (dk_at dksX5_sets_1 9 rfl rfl)
theorem dX5_sets_34 : decode cX5_sets 34 = .ok (.aload_n 0, 1) := dk_42 (dk_at dksX5_sets_1 10 rfl rfl)
theorem dX5_sets_35 : decode cX5_sets 35 = .ok (.invokevirtual 146, 3) := dk_182 0 146 (dk_at dksX5_sets_1 11 rfl rfl)
theorem dX5_sets_38 : decode cX5_sets 38 = .ok (.aload_n 0, 1) := dk_42 (dk_at dksX5_sets_1 14 rfl rfl)
theorem dX5_sets_39 : decode cX5_sets 39 = .ok (.getfield 7, 3) := dk_180 0 7 (dk_at dksX5_sets_1 15 rfl rfl)
theorem dX5_sets_42 : decode cX5_sets 42 = .ok (.iconst 4, 1) := dk_7 (dk_at dksX5_sets_1 18 rfl rfl)
theorem dX5_sets_43 : decode cX5_sets 43 = .ok (.iload_n 1, 1) := dk_27 (dk_at dksX5_sets_1 19 rfl rfl)
theorem dX5_sets_44 : decode cX5_sets 44 = .ok (.iadd, 1) := dk_96 (dk_at dksX5_sets_1 20 rfl rfl)
theorem dX5_sets_45 : decode cX5_sets 45 = .ok (.iaload, 1) := dk_46 (dk_at dksX5_sets_1 21 rfl rfl)
theorem dX5_sets_46 : decode cX5_sets 46 = .ok (.istore_n 3, 1) := dk_62 (dk_at dksX5_sets_1 22 rfl rfl)
theorem dX5_sets_47 : decode cX5_sets 47 = .ok (.aload_n 0, 1) := dk_42 (dk_at dksX5_sets_1 23 rfl rfl)
theorem dX5_sets_48 : decode cX5_sets 48 = .ok (.getfield 7, 3) := dk_180 0 7 (dk_at dksX5_sets_2 0 rfl rfl)
theorem dX5_sets_51 : decode cX5_sets 51 = .ok (.iconst 4, 1) := dk_7 (dk_at dksX5_sets_2 3 rfl rfl)
theorem dX5_sets_52 : decode cX5_sets 52 = .ok (.iload_n 1, 1) := dk_27 (dk_at dksX5_sets_2 4 rfl rfl)
theorem dX5_sets_53 : decode cX5_sets 53 = .ok (.iadd, 1) := dk_96 (dk_at dksX5_sets_2 5 rfl rfl)
theorem dX5_sets_54 : decode cX5_sets 54 = .ok (.iload_n 2, 1) := dk_28 (dk_at dksX5_sets_2 6 rfl rfl)
theorem dX5_sets_55 : decode cX5_sets 55 = .ok (.iastore, 1) := dk_79 (dk_at dksX5_sets_2 7 rfl rfl)
theorem dX5_sets_56 : decode cX5_sets 56 = .ok (.aload_n 0, 1) := dk_42 (dk_at dksX5_sets_2 8 rfl rfl)
theorem dX5_sets_57 : decode cX5_sets 57 = .ok (.invokevirtual 152, 3) := dk_182 0 152 (dk_at dksX5_sets_2 9 rfl rfl)
theorem dX5_sets_60 : decode cX5_sets 60 = .ok (.iload_n 3, 1) := dk_29 (dk_at dksX5_sets_2 12 rfl rfl)
theorem dX5_sets_61 : decode cX5_sets 61 = .ok (.ireturn, 1) := dk_172 (dk_at dksX5_sets_2 13 rfl rfl)
abbrev cX5_hash : ByteArray := prog_15_method_42_code
def yX5_hash : MethodName := ⟨RX5, "hash", "(I)I"⟩
def dkwX5_hash_0 : List UInt8 := [27, 184, 0, 130, 153, 0, 11, 42, 27, 182, 0, 54, 167, 0, 9, 42, 16, 254, 182, 0, 137, 172]
abbrev dktX5_hash_0 : List UInt8 := dkwX5_hash_0 ++ []
theorem dksX5_hash_0 : cX5_hash.data.toList.drop 0 = dktX5_hash_0 := by decide +kernel
theorem dX5_hash_0 : decode cX5_hash 0 = .ok (.iload_n 1, 1) := dk_27 (dk_at dksX5_hash_0 0 rfl rfl)
theorem dX5_hash_1 : decode cX5_hash 1 = .ok (.invokestatic 130, 3) := dk_184 0 130 (dk_at dksX5_hash_0 1 rfl rfl)
theorem dX5_hash_4 : decode cX5_hash 4 = .ok (.ifCond .eq 11, 3) := dk_153 0 11 (dk_at dksX5_hash_0 4 rfl rfl)
theorem dX5_hash_7 : decode cX5_hash 7 = .ok (.aload_n 0, 1) := dk_42 (dk_at dksX5_hash_0 7 rfl rfl)
theorem dX5_hash_8 : decode cX5_hash 8 = .ok (.iload_n 1, 1) := dk_27 (dk_at dksX5_hash_0 8 rfl rfl)
theorem dX5_hash_9 : decode cX5_hash 9 = .ok (.invokevirtual 54, 3) := dk_182 0 54 (dk_at dksX5_hash_0 9 rfl rfl)
theorem dX5_hash_12 : decode cX5_hash 12 = .ok (.goto 9, 3) := dk_167 0 9 (dk_at dksX5_hash_0 12 rfl rfl)
theorem dX5_hash_15 : decode cX5_hash 15 = .ok (.aload_n 0, 1) := dk_42 (dk_at dksX5_hash_0 15 rfl rfl)
theorem dX5_hash_16 : decode cX5_hash 16 = .ok (.bipush (-2), 2) := dk_16 254 (dk_at dksX5_hash_0 16 rfl rfl)
theorem dX5_hash_18 : decode cX5_hash 18 = .ok (.invokevirtual 137, 3) := dk_182 0 137 (dk_at dksX5_hash_0 18 rfl rfl)
theorem dX5_hash_21 : decode cX5_hash 21 = .ok (.ireturn, 1) := dk_172 (dk_at dksX5_hash_0 21 rfl rfl)
abbrev cX5_steps : ByteArray := prog_15_method_43_code
def yX5_steps : MethodName := ⟨RX5, "steps", "(I)I"⟩
def dkwX5_steps_0 : List UInt8 := [27, 184, 0, 130, 153, 0, 11, 42, 27, 182, 0, 168, 167, 0, 9, 42, 16, 254, 182, 0, 137, 172]
abbrev dktX5_steps_0 : List UInt8 := dkwX5_steps_0 ++ []
theorem dksX5_steps_0 : cX5_steps.data.toList.drop 0 = dktX5_steps_0 := by decide +kernel
theorem dX5_steps_0 : decode cX5_steps 0 = .ok (.iload_n 1, 1) := dk_27 (dk_at dksX5_steps_0 0 rfl rfl)
theorem dX5_steps_1 : decode cX5_steps 1 = .ok (.invokestatic 130, 3) := dk_184 0 130 (dk_at dksX5_steps_0 1 rfl rfl)
theorem dX5_steps_4 : decode cX5_steps 4 = .ok (.ifCond .eq 11, 3) := dk_153 0 11 (dk_at dksX5_steps_0 4 rfl rfl)
theorem dX5_steps_7 : decode cX5_steps 7 = .ok (.aload_n 0, 1) := dk_42 (dk_at dksX5_steps_0 7 rfl rfl)
theorem dX5_steps_8 : decode cX5_steps 8 = .ok (.iload_n 1, 1) := dk_27 (dk_at dksX5_steps_0 8 rfl rfl)
theorem dX5_steps_9 : decode cX5_steps 9 = .ok (.invokevirtual 168, 3) := dk_182 0 168 (dk_at dksX5_steps_0 9 rfl rfl)
theorem dX5_steps_12 : decode cX5_steps 12 = .ok (.goto 9, 3) := dk_167 0 9 (dk_at dksX5_steps_0 12 rfl rfl)
theorem dX5_steps_15 : decode cX5_steps 15 = .ok (.aload_n 0, 1) := dk_42 (dk_at dksX5_steps_0 15 rfl rfl)
theorem dX5_steps_16 : decode cX5_steps 16 = .ok (.bipush (-2), 2) := dk_16 254 (dk_at dksX5_steps_0 16 rfl rfl)
theorem dX5_steps_18 : decode cX5_steps 18 = .ok (.invokevirtual 137, 3) := dk_182 0 137 (dk_at dksX5_steps_0 18 rfl rfl)
theorem dX5_steps_21 : decode cX5_steps 21 = .ok (.ireturn, 1) := dk_172 (dk_at dksX5_steps_0 21 rfl rfl)
abbrev cX5_stepsTo : ByteArray := prog_15_method_18_code
def yX5_stepsTo : MethodName := ⟨RX5, "stepsTo", "(I)I"⟩
def dkwX5_stepsTo_3 : List UInt8 := [132, 3, 1, 167, 255, 215, 29, 172]
abbrev dktX5_stepsTo_3 : List UInt8 := dkwX5_stepsTo_3 ++ []
def dkwX5_stepsTo_2 : List UInt8 := [180, 0, 7, 16, 7, 42, 180, 0, 37, 29, 46, 96, 46, 27, 159, 0, 7, 4, 167, 0, 4, 3, 54, 4]
abbrev dktX5_stepsTo_2 : List UInt8 := dkwX5_stepsTo_2 ++ dktX5_stepsTo_3
def dkwX5_stepsTo_1 : List UInt8 := [182, 0, 64, 3, 62, 4, 54, 4, 21, 4, 153, 0, 42, 29, 42, 180, 0, 58, 162, 0, 34, 42]
abbrev dktX5_stepsTo_1 : List UInt8 := dkwX5_stepsTo_1 ++ dktX5_stepsTo_2
def dkwX5_stepsTo_0 : List UInt8 := [42, 27, 182, 0, 61, 61, 42, 28, 182, 0, 95, 153, 0, 10, 42, 28, 27, 182, 0, 99, 172, 42, 28]
abbrev dktX5_stepsTo_0 : List UInt8 := dkwX5_stepsTo_0 ++ dktX5_stepsTo_1
theorem dksX5_stepsTo_0 : cX5_stepsTo.data.toList.drop 0 = dktX5_stepsTo_0 := by decide +kernel
theorem dksX5_stepsTo_1 : cX5_stepsTo.data.toList.drop 23 = dktX5_stepsTo_1 := dk_seg dksX5_stepsTo_0 23 rfl rfl
theorem dksX5_stepsTo_2 : cX5_stepsTo.data.toList.drop 45 = dktX5_stepsTo_2 := dk_seg dksX5_stepsTo_1 22 rfl rfl
theorem dksX5_stepsTo_3 : cX5_stepsTo.data.toList.drop 69 = dktX5_stepsTo_3 := dk_seg dksX5_stepsTo_2 24 rfl rfl
theorem dX5_stepsTo_0 : decode cX5_stepsTo 0 = .ok (.aload_n 0, 1) := dk_42 (dk_at dksX5_stepsTo_0 0 rfl rfl)
theorem dX5_stepsTo_1 : decode cX5_stepsTo 1 = .ok (.iload_n 1, 1) := dk_27 (dk_at dksX5_stepsTo_0 1 rfl rfl)
theorem dX5_stepsTo_2 : decode cX5_stepsTo 2 = .ok (.invokevirtual 61, 3) := dk_182 0 61 (dk_at dksX5_stepsTo_0 2 rfl rfl)
theorem dX5_stepsTo_5 : decode cX5_stepsTo 5 = .ok (.istore_n 2, 1) := dk_61 (dk_at dksX5_stepsTo_0 5 rfl rfl)
theorem dX5_stepsTo_6 : decode cX5_stepsTo 6 = .ok (.aload_n 0, 1) := dk_42 (dk_at dksX5_stepsTo_0 6 rfl rfl)
theorem dX5_stepsTo_7 : decode cX5_stepsTo 7 = .ok (.iload_n 2, 1) := dk_28 (dk_at dksX5_stepsTo_0 7 rfl rfl)
theorem dX5_stepsTo_8 : decode cX5_stepsTo 8 = .ok (.invokevirtual 95, 3) := dk_182 0 95 (dk_at dksX5_stepsTo_0 8 rfl rfl)
theorem dX5_stepsTo_11 : decode cX5_stepsTo 11 = .ok (.ifCond .eq 10, 3) := dk_153 0 10 (dk_at dksX5_stepsTo_0 11 rfl rfl)
theorem dX5_stepsTo_14 : decode cX5_stepsTo 14 = .ok (.aload_n 0, 1) := dk_42 (dk_at dksX5_stepsTo_0 14 rfl rfl)
theorem dX5_stepsTo_15 : decode cX5_stepsTo 15 = .ok (.iload_n 2, 1) := dk_28 (dk_at dksX5_stepsTo_0 15 rfl rfl)
theorem dX5_stepsTo_16 : decode cX5_stepsTo 16 = .ok (.iload_n 1, 1) := dk_27 (dk_at dksX5_stepsTo_0 16 rfl rfl)
theorem dX5_stepsTo_17 : decode cX5_stepsTo 17 = .ok (.invokevirtual 99, 3) := dk_182 0 99 (dk_at dksX5_stepsTo_0 17 rfl rfl)
theorem dX5_stepsTo_20 : decode cX5_stepsTo 20 = .ok (.ireturn, 1) := dk_172 (dk_at dksX5_stepsTo_0 20 rfl rfl)
theorem dX5_stepsTo_21 : decode cX5_stepsTo 21 = .ok (.aload_n 0, 1) := dk_42 (dk_at dksX5_stepsTo_0 21 rfl rfl)
theorem dX5_stepsTo_22 : decode cX5_stepsTo 22 = .ok (.iload_n 2, 1) := dk_28 (dk_at dksX5_stepsTo_0 22 rfl rfl)
theorem dX5_stepsTo_23 : decode cX5_stepsTo 23 = .ok (.invokevirtual 64, 3) := dk_182 0 64 (dk_at dksX5_stepsTo_1 0 rfl rfl)
theorem dX5_stepsTo_26 : decode cX5_stepsTo 26 = .ok (.iconst 0, 1) := dk_3 (dk_at dksX5_stepsTo_1 3 rfl rfl)
theorem dX5_stepsTo_27 : decode cX5_stepsTo 27 = .ok (.istore_n 3, 1) := dk_62 (dk_at dksX5_stepsTo_1 4 rfl rfl)
theorem dX5_stepsTo_28 : decode cX5_stepsTo 28 = .ok (.iconst 1, 1) := dk_4 (dk_at dksX5_stepsTo_1 5 rfl rfl)
theorem dX5_stepsTo_29 : decode cX5_stepsTo 29 = .ok (.istore 4, 2) := dk_54 4 (dk_at dksX5_stepsTo_1 6 rfl rfl)
theorem dX5_stepsTo_31 : decode cX5_stepsTo 31 = .ok (.iload 4, 2) := dk_21 4 (dk_at dksX5_stepsTo_1 8 rfl rfl)
theorem dX5_stepsTo_33 : decode cX5_stepsTo 33 = .ok (.ifCond .eq 42, 3) := dk_153 0 42 (dk_at dksX5_stepsTo_1 10 rfl rfl)
theorem dX5_stepsTo_36 : decode cX5_stepsTo 36 = .ok (.iload_n 3, 1) := dk_29 (dk_at dksX5_stepsTo_1 13 rfl rfl)
theorem dX5_stepsTo_37 : decode cX5_stepsTo 37 = .ok (.aload_n 0, 1) := dk_42 (dk_at dksX5_stepsTo_1 14 rfl rfl)
theorem dX5_stepsTo_38 : decode cX5_stepsTo 38 = .ok (.getfield 58, 3) := dk_180 0 58 (dk_at dksX5_stepsTo_1 15 rfl rfl)
theorem dX5_stepsTo_41 : decode cX5_stepsTo 41 = .ok (.if_icmp .ge 34, 3) := dk_162 0 34 (dk_at dksX5_stepsTo_1 18 rfl rfl)
theorem dX5_stepsTo_44 : decode cX5_stepsTo 44 = .ok (.aload_n 0, 1) := dk_42 (dk_at dksX5_stepsTo_1 21 rfl rfl)
theorem dX5_stepsTo_45 : decode cX5_stepsTo 45 = .ok (.getfield 7, 3) := dk_180 0 7 (dk_at dksX5_stepsTo_2 0 rfl rfl)
theorem dX5_stepsTo_48 : decode cX5_stepsTo 48 = .ok (.bipush 7, 2) := dk_16 7 (dk_at dksX5_stepsTo_2 3 rfl rfl)
theorem dX5_stepsTo_50 : decode cX5_stepsTo 50 = .ok (.aload_n 0, 1) := dk_42 (dk_at dksX5_stepsTo_2 5 rfl rfl)
theorem dX5_stepsTo_51 : decode cX5_stepsTo 51 = .ok (.getfield 37, 3) := dk_180 0 37 (dk_at dksX5_stepsTo_2 6 rfl rfl)
theorem dX5_stepsTo_54 : decode cX5_stepsTo 54 = .ok (.iload_n 3, 1) := dk_29 (dk_at dksX5_stepsTo_2 9 rfl rfl)
theorem dX5_stepsTo_55 : decode cX5_stepsTo 55 = .ok (.iaload, 1) := dk_46 (dk_at dksX5_stepsTo_2 10 rfl rfl)
theorem dX5_stepsTo_56 : decode cX5_stepsTo 56 = .ok (.iadd, 1) := dk_96 (dk_at dksX5_stepsTo_2 11 rfl rfl)
theorem dX5_stepsTo_57 : decode cX5_stepsTo 57 = .ok (.iaload, 1) := dk_46 (dk_at dksX5_stepsTo_2 12 rfl rfl)
theorem dX5_stepsTo_58 : decode cX5_stepsTo 58 = .ok (.iload_n 1, 1) := dk_27 (dk_at dksX5_stepsTo_2 13 rfl rfl)
theorem dX5_stepsTo_59 : decode cX5_stepsTo 59 = .ok (.if_icmp .eq 7, 3) := dk_159 0 7 (dk_at dksX5_stepsTo_2 14 rfl rfl)
theorem dX5_stepsTo_62 : decode cX5_stepsTo 62 = .ok (.iconst 1, 1) := dk_4 (dk_at dksX5_stepsTo_2 17 rfl rfl)
theorem dX5_stepsTo_63 : decode cX5_stepsTo 63 = .ok (.goto 4, 3) := dk_167 0 4 (dk_at dksX5_stepsTo_2 18 rfl rfl)
theorem dX5_stepsTo_66 : decode cX5_stepsTo 66 = .ok (.iconst 0, 1) := dk_3 (dk_at dksX5_stepsTo_2 21 rfl rfl)
theorem dX5_stepsTo_67 : decode cX5_stepsTo 67 = .ok (.istore 4, 2) := dk_54 4 (dk_at dksX5_stepsTo_2 22 rfl rfl)
theorem dX5_stepsTo_69 : decode cX5_stepsTo 69 = .ok (.iinc 3 1, 3) := dk_132 3 1 (dk_at dksX5_stepsTo_3 0 rfl rfl)
theorem dX5_stepsTo_72 : decode cX5_stepsTo 72 = .ok (.goto (-41), 3) := dk_167 255 215 (dk_at dksX5_stepsTo_3 3 rfl rfl)
theorem dX5_stepsTo_75 : decode cX5_stepsTo 75 = .ok (.iload_n 3, 1) := dk_29 (dk_at dksX5_stepsTo_3 6 rfl rfl)
theorem dX5_stepsTo_76 : decode cX5_stepsTo 76 = .ok (.ireturn, 1) := dk_172 (dk_at dksX5_stepsTo_3 7 rfl rfl)
abbrev cX5_descends : ByteArray := prog_15_method_16_code
def yX5_descends : MethodName := ⟨RX5, "descends", "(II)I"⟩
def dkwX5_descends_5 : List UInt8 := [181, 0, 82, 42, 42, 180, 0, 82, 42, 180, 0, 85, 182, 0, 91, 54, 4, 167, 255, 162, 29, 172]
abbrev dktX5_descends_5 : List UInt8 := dkwX5_descends_5 ++ []
def dkwX5_descends_4 : List UInt8 := [180, 0, 85, 181, 0, 85, 42, 21, 5, 153, 0, 10, 42, 180, 0, 82, 167, 0, 7, 21, 4, 4, 96]
abbrev dktX5_descends_4 : List UInt8 := dkwX5_descends_4 ++ dktX5_descends_5
def dkwX5_descends_3 : List UInt8 := [180, 0, 40, 21, 4, 46, 182, 0, 68, 54, 5, 42, 21, 5, 153, 0, 8, 21, 4, 167, 0, 7, 42]
abbrev dktX5_descends_3 : List UInt8 := dkwX5_descends_3 ++ dktX5_descends_4
def dkwX5_descends_2 : List UInt8 := [42, 180, 0, 40, 21, 4, 46, 28, 160, 0, 5, 29, 172, 42, 21, 4, 181, 0, 88, 42, 28, 42]
abbrev dktX5_descends_2 : List UInt8 := dkwX5_descends_2 ++ dktX5_descends_3
def dkwX5_descends_1 : List UInt8 := [62, 42, 42, 180, 0, 82, 42, 180, 0, 85, 182, 0, 91, 54, 4, 21, 4, 2, 159, 0, 94, 132, 3, 1]
abbrev dktX5_descends_1 : List UInt8 := dkwX5_descends_1 ++ dktX5_descends_2
def dkwX5_descends_0 : List UInt8 := [42, 27, 182, 0, 79, 42, 3, 181, 0, 82, 42, 42, 180, 0, 58, 181, 0, 85, 42, 2, 181, 0, 88, 3]
abbrev dktX5_descends_0 : List UInt8 := dkwX5_descends_0 ++ dktX5_descends_1
theorem dksX5_descends_0 : cX5_descends.data.toList.drop 0 = dktX5_descends_0 := by decide +kernel
theorem dksX5_descends_1 : cX5_descends.data.toList.drop 24 = dktX5_descends_1 := dk_seg dksX5_descends_0 24 rfl rfl
theorem dksX5_descends_2 : cX5_descends.data.toList.drop 48 = dktX5_descends_2 := dk_seg dksX5_descends_1 24 rfl rfl
theorem dksX5_descends_3 : cX5_descends.data.toList.drop 70 = dktX5_descends_3 := dk_seg dksX5_descends_2 22 rfl rfl
theorem dksX5_descends_4 : cX5_descends.data.toList.drop 93 = dktX5_descends_4 := dk_seg dksX5_descends_3 23 rfl rfl
theorem dksX5_descends_5 : cX5_descends.data.toList.drop 116 = dktX5_descends_5 := dk_seg dksX5_descends_4 23 rfl rfl
theorem dX5_descends_0 : decode cX5_descends 0 = .ok (.aload_n 0, 1) := dk_42 (dk_at dksX5_descends_0 0 rfl rfl)
theorem dX5_descends_1 : decode cX5_descends 1 = .ok (.iload_n 1, 1) := dk_27 (dk_at dksX5_descends_0 1 rfl rfl)
theorem dX5_descends_2 : decode cX5_descends 2 = .ok (.invokevirtual 79, 3) := dk_182 0 79 (dk_at dksX5_descends_0 2 rfl rfl)
theorem dX5_descends_5 : decode cX5_descends 5 = .ok (.aload_n 0, 1) := dk_42 (dk_at dksX5_descends_0 5 rfl rfl)
theorem dX5_descends_6 : decode cX5_descends 6 = .ok (.iconst 0, 1) := dk_3 (dk_at dksX5_descends_0 6 rfl rfl)
theorem dX5_descends_7 : decode cX5_descends 7 = .ok (.putfield 82, 3) := dk_181 0 82 (dk_at dksX5_descends_0 7 rfl rfl)
theorem dX5_descends_10 : decode cX5_descends 10 = .ok (.aload_n 0, 1) := dk_42 (dk_at dksX5_descends_0 10 rfl rfl)
theorem dX5_descends_11 : decode cX5_descends 11 = .ok (.aload_n 0, 1) := dk_42 (dk_at dksX5_descends_0 11 rfl rfl)
theorem dX5_descends_12 : decode cX5_descends 12 = .ok (.getfield 58, 3) := dk_180 0 58 (dk_at dksX5_descends_0 12 rfl rfl)
theorem dX5_descends_15 : decode cX5_descends 15 = .ok (.putfield 85, 3) := dk_181 0 85 (dk_at dksX5_descends_0 15 rfl rfl)
theorem dX5_descends_18 : decode cX5_descends 18 = .ok (.aload_n 0, 1) := dk_42 (dk_at dksX5_descends_0 18 rfl rfl)
theorem dX5_descends_19 : decode cX5_descends 19 = .ok (.iconst (-1), 1) := dk_2 (dk_at dksX5_descends_0 19 rfl rfl)
theorem dX5_descends_20 : decode cX5_descends 20 = .ok (.putfield 88, 3) := dk_181 0 88 (dk_at dksX5_descends_0 20 rfl rfl)
theorem dX5_descends_23 : decode cX5_descends 23 = .ok (.iconst 0, 1) := dk_3 (dk_at dksX5_descends_0 23 rfl rfl)
theorem dX5_descends_24 : decode cX5_descends 24 = .ok (.istore_n 3, 1) := dk_62 (dk_at dksX5_descends_1 0 rfl rfl)
theorem dX5_descends_25 : decode cX5_descends 25 = .ok (.aload_n 0, 1) := dk_42 (dk_at dksX5_descends_1 1 rfl rfl)
theorem dX5_descends_26 : decode cX5_descends 26 = .ok (.aload_n 0, 1) := dk_42 (dk_at dksX5_descends_1 2 rfl rfl)
theorem dX5_descends_27 : decode cX5_descends 27 = .ok (.getfield 82, 3) := dk_180 0 82 (dk_at dksX5_descends_1 3 rfl rfl)
theorem dX5_descends_30 : decode cX5_descends 30 = .ok (.aload_n 0, 1) := dk_42 (dk_at dksX5_descends_1 6 rfl rfl)
theorem dX5_descends_31 : decode cX5_descends 31 = .ok (.getfield 85, 3) := dk_180 0 85 (dk_at dksX5_descends_1 7 rfl rfl)
theorem dX5_descends_34 : decode cX5_descends 34 = .ok (.invokevirtual 91, 3) := dk_182 0 91 (dk_at dksX5_descends_1 10 rfl rfl)
theorem dX5_descends_37 : decode cX5_descends 37 = .ok (.istore 4, 2) := dk_54 4 (dk_at dksX5_descends_1 13 rfl rfl)
theorem dX5_descends_39 : decode cX5_descends 39 = .ok (.iload 4, 2) := dk_21 4 (dk_at dksX5_descends_1 15 rfl rfl)
theorem dX5_descends_41 : decode cX5_descends 41 = .ok (.iconst (-1), 1) := dk_2 (dk_at dksX5_descends_1 17 rfl rfl)
theorem dX5_descends_42 : decode cX5_descends 42 = .ok (.if_icmp .eq 94, 3) := dk_159 0 94 (dk_at dksX5_descends_1 18 rfl rfl)
theorem dX5_descends_45 : decode cX5_descends 45 = .ok (.iinc 3 1, 3) := dk_132 3 1 (dk_at dksX5_descends_1 21 rfl rfl)
theorem dX5_descends_48 : decode cX5_descends 48 = .ok (.aload_n 0, 1) := dk_42 (dk_at dksX5_descends_2 0 rfl rfl)
theorem dX5_descends_49 : decode cX5_descends 49 = .ok (.getfield 40, 3) := dk_180 0 40 (dk_at dksX5_descends_2 1 rfl rfl)
theorem dX5_descends_52 : decode cX5_descends 52 = .ok (.iload 4, 2) := dk_21 4 (dk_at dksX5_descends_2 4 rfl rfl)
theorem dX5_descends_54 : decode cX5_descends 54 = .ok (.iaload, 1) := dk_46 (dk_at dksX5_descends_2 6 rfl rfl)
theorem dX5_descends_55 : decode cX5_descends 55 = .ok (.iload_n 2, 1) := dk_28 (dk_at dksX5_descends_2 7 rfl rfl)
theorem dX5_descends_56 : decode cX5_descends 56 = .ok (.if_icmp .ne 5, 3) := dk_160 0 5 (dk_at dksX5_descends_2 8 rfl rfl)
theorem dX5_descends_59 : decode cX5_descends 59 = .ok (.iload_n 3, 1) := dk_29 (dk_at dksX5_descends_2 11 rfl rfl)
theorem dX5_descends_60 : decode cX5_descends 60 = .ok (.ireturn, 1) := dk_172 (dk_at dksX5_descends_2 12 rfl rfl)
theorem dX5_descends_61 : decode cX5_descends 61 = .ok (.aload_n 0, 1) := dk_42 (dk_at dksX5_descends_2 13 rfl rfl)
theorem dX5_descends_62 : decode cX5_descends 62 = .ok (.iload 4, 2) := dk_21 4 (dk_at dksX5_descends_2 14 rfl rfl)
theorem dX5_descends_64 : decode cX5_descends 64 = .ok (.putfield 88, 3) := dk_181 0 88 (dk_at dksX5_descends_2 16 rfl rfl)
theorem dX5_descends_67 : decode cX5_descends 67 = .ok (.aload_n 0, 1) := dk_42 (dk_at dksX5_descends_2 19 rfl rfl)
theorem dX5_descends_68 : decode cX5_descends 68 = .ok (.iload_n 2, 1) := dk_28 (dk_at dksX5_descends_2 20 rfl rfl)
theorem dX5_descends_69 : decode cX5_descends 69 = .ok (.aload_n 0, 1) := dk_42 (dk_at dksX5_descends_2 21 rfl rfl)
theorem dX5_descends_70 : decode cX5_descends 70 = .ok (.getfield 40, 3) := dk_180 0 40 (dk_at dksX5_descends_3 0 rfl rfl)
theorem dX5_descends_73 : decode cX5_descends 73 = .ok (.iload 4, 2) := dk_21 4 (dk_at dksX5_descends_3 3 rfl rfl)
theorem dX5_descends_75 : decode cX5_descends 75 = .ok (.iaload, 1) := dk_46 (dk_at dksX5_descends_3 5 rfl rfl)
theorem dX5_descends_76 : decode cX5_descends 76 = .ok (.invokevirtual 68, 3) := dk_182 0 68 (dk_at dksX5_descends_3 6 rfl rfl)
theorem dX5_descends_79 : decode cX5_descends 79 = .ok (.istore 5, 2) := dk_54 5 (dk_at dksX5_descends_3 9 rfl rfl)
theorem dX5_descends_81 : decode cX5_descends 81 = .ok (.aload_n 0, 1) := dk_42 (dk_at dksX5_descends_3 11 rfl rfl)
theorem dX5_descends_82 : decode cX5_descends 82 = .ok (.iload 5, 2) := dk_21 5 (dk_at dksX5_descends_3 12 rfl rfl)
theorem dX5_descends_84 : decode cX5_descends 84 = .ok (.ifCond .eq 8, 3) := dk_153 0 8 (dk_at dksX5_descends_3 14 rfl rfl)
theorem dX5_descends_87 : decode cX5_descends 87 = .ok (.iload 4, 2) := dk_21 4 (dk_at dksX5_descends_3 17 rfl rfl)
theorem dX5_descends_89 : decode cX5_descends 89 = .ok (.goto 7, 3) := dk_167 0 7 (dk_at dksX5_descends_3 19 rfl rfl)
theorem dX5_descends_92 : decode cX5_descends 92 = .ok (.aload_n 0, 1) := dk_42 (dk_at dksX5_descends_3 22 rfl rfl)
theorem dX5_descends_93 : decode cX5_descends 93 = .ok (.getfield 85, 3) := dk_180 0 85 (dk_at dksX5_descends_4 0 rfl rfl)
theorem dX5_descends_96 : decode cX5_descends 96 = .ok (.putfield 85, 3) := dk_181 0 85 (dk_at dksX5_descends_4 3 rfl rfl)
theorem dX5_descends_99 : decode cX5_descends 99 = .ok (.aload_n 0, 1) := dk_42 (dk_at dksX5_descends_4 6 rfl rfl)
theorem dX5_descends_100 : decode cX5_descends 100 = .ok (.iload 5, 2) := dk_21 5 (dk_at dksX5_descends_4 7 rfl rfl)
theorem dX5_descends_102 : decode cX5_descends 102 = .ok (.ifCond .eq 10, 3) := dk_153 0 10 (dk_at dksX5_descends_4 9 rfl rfl)
theorem dX5_descends_105 : decode cX5_descends 105 = .ok (.aload_n 0, 1) := dk_42 (dk_at dksX5_descends_4 12 rfl rfl)
theorem dX5_descends_106 : decode cX5_descends 106 = .ok (.getfield 82, 3) := dk_180 0 82 (dk_at dksX5_descends_4 13 rfl rfl)
theorem dX5_descends_109 : decode cX5_descends 109 = .ok (.goto 7, 3) := dk_167 0 7 (dk_at dksX5_descends_4 16 rfl rfl)
theorem dX5_descends_112 : decode cX5_descends 112 = .ok (.iload 4, 2) := dk_21 4 (dk_at dksX5_descends_4 19 rfl rfl)
theorem dX5_descends_114 : decode cX5_descends 114 = .ok (.iconst 1, 1) := dk_4 (dk_at dksX5_descends_4 21 rfl rfl)
theorem dX5_descends_115 : decode cX5_descends 115 = .ok (.iadd, 1) := dk_96 (dk_at dksX5_descends_4 22 rfl rfl)
theorem dX5_descends_116 : decode cX5_descends 116 = .ok (.putfield 82, 3) := dk_181 0 82 (dk_at dksX5_descends_5 0 rfl rfl)
theorem dX5_descends_119 : decode cX5_descends 119 = .ok (.aload_n 0, 1) := dk_42 (dk_at dksX5_descends_5 3 rfl rfl)
theorem dX5_descends_120 : decode cX5_descends 120 = .ok (.aload_n 0, 1) := dk_42 (dk_at dksX5_descends_5 4 rfl rfl)
theorem dX5_descends_121 : decode cX5_descends 121 = .ok (.getfield 82, 3) := dk_180 0 82 (dk_at dksX5_descends_5 5 rfl rfl)
theorem dX5_descends_124 : decode cX5_descends 124 = .ok (.aload_n 0, 1) := dk_42 (dk_at dksX5_descends_5 8 rfl rfl)
theorem dX5_descends_125 : decode cX5_descends 125 = .ok (.getfield 85, 3) := dk_180 0 85 (dk_at dksX5_descends_5 9 rfl rfl)
theorem dX5_descends_128 : decode cX5_descends 128 = .ok (.invokevirtual 91, 3) := dk_182 0 91 (dk_at dksX5_descends_5 12 rfl rfl)
theorem dX5_descends_131 : decode cX5_descends 131 = .ok (.istore 4, 2) := dk_54 4 (dk_at dksX5_descends_5 15 rfl rfl)
theorem dX5_descends_133 : decode cX5_descends 133 = .ok (.goto (-94), 3) := dk_167 255 162 (dk_at dksX5_descends_5 17 rfl rfl)
theorem dX5_descends_136 : decode cX5_descends 136 = .ok (.iload_n 3, 1) := dk_29 (dk_at dksX5_descends_5 20 rfl rfl)
theorem dX5_descends_137 : decode cX5_descends 137 = .ok (.ireturn, 1) := dk_172 (dk_at dksX5_descends_5 21 rfl rfl)
abbrev cX5_inOrder : ByteArray := prog_15_method_12_code
def yX5_inOrder : MethodName := ⟨RX5, "inOrder", "(I)V"⟩
def dkwX5_inOrder_3 : List UInt8 := [79, 132, 4, 255, 167, 255, 215, 42, 180, 0, 40, 21, 4, 29, 79, 132, 2, 1, 167, 255, 175, 177]
abbrev dktX5_inOrder_3 : List UInt8 := dkwX5_inOrder_3 ++ []
def dkwX5_inOrder_2 : List UInt8 := [4, 100, 46, 182, 0, 68, 153, 0, 25, 42, 180, 0, 40, 21, 4, 42, 180, 0, 40, 21, 4, 4, 100, 46]
abbrev dktX5_inOrder_2 : List UInt8 := dkwX5_inOrder_2 ++ dktX5_inOrder_3
def dkwX5_inOrder_1 : List UInt8 := [180, 0, 37, 28, 46, 96, 46, 62, 28, 54, 4, 21, 4, 158, 0, 42, 42, 29, 42, 180, 0, 40, 21, 4]
abbrev dktX5_inOrder_1 : List UInt8 := dkwX5_inOrder_1 ++ dktX5_inOrder_2
def dkwX5_inOrder_0 : List UInt8 := [42, 27, 182, 0, 64, 3, 61, 28, 42, 180, 0, 58, 162, 0, 79, 42, 180, 0, 7, 16, 7, 42]
abbrev dktX5_inOrder_0 : List UInt8 := dkwX5_inOrder_0 ++ dktX5_inOrder_1
theorem dksX5_inOrder_0 : cX5_inOrder.data.toList.drop 0 = dktX5_inOrder_0 := by decide +kernel
theorem dksX5_inOrder_1 : cX5_inOrder.data.toList.drop 22 = dktX5_inOrder_1 := dk_seg dksX5_inOrder_0 22 rfl rfl
theorem dksX5_inOrder_2 : cX5_inOrder.data.toList.drop 46 = dktX5_inOrder_2 := dk_seg dksX5_inOrder_1 24 rfl rfl
theorem dksX5_inOrder_3 : cX5_inOrder.data.toList.drop 70 = dktX5_inOrder_3 := dk_seg dksX5_inOrder_2 24 rfl rfl
theorem dX5_inOrder_0 : decode cX5_inOrder 0 = .ok (.aload_n 0, 1) := dk_42 (dk_at dksX5_inOrder_0 0 rfl rfl)
theorem dX5_inOrder_1 : decode cX5_inOrder 1 = .ok (.iload_n 1, 1) := dk_27 (dk_at dksX5_inOrder_0 1 rfl rfl)
theorem dX5_inOrder_2 : decode cX5_inOrder 2 = .ok (.invokevirtual 64, 3) := dk_182 0 64 (dk_at dksX5_inOrder_0 2 rfl rfl)
theorem dX5_inOrder_5 : decode cX5_inOrder 5 = .ok (.iconst 0, 1) := dk_3 (dk_at dksX5_inOrder_0 5 rfl rfl)
theorem dX5_inOrder_6 : decode cX5_inOrder 6 = .ok (.istore_n 2, 1) := dk_61 (dk_at dksX5_inOrder_0 6 rfl rfl)
theorem dX5_inOrder_7 : decode cX5_inOrder 7 = .ok (.iload_n 2, 1) := dk_28 (dk_at dksX5_inOrder_0 7 rfl rfl)
theorem dX5_inOrder_8 : decode cX5_inOrder 8 = .ok (.aload_n 0, 1) := dk_42 (dk_at dksX5_inOrder_0 8 rfl rfl)
theorem dX5_inOrder_9 : decode cX5_inOrder 9 = .ok (.getfield 58, 3) := dk_180 0 58 (dk_at dksX5_inOrder_0 9 rfl rfl)
theorem dX5_inOrder_12 : decode cX5_inOrder 12 = .ok (.if_icmp .ge 79, 3) := dk_162 0 79 (dk_at dksX5_inOrder_0 12 rfl rfl)
theorem dX5_inOrder_15 : decode cX5_inOrder 15 = .ok (.aload_n 0, 1) := dk_42 (dk_at dksX5_inOrder_0 15 rfl rfl)
theorem dX5_inOrder_16 : decode cX5_inOrder 16 = .ok (.getfield 7, 3) := dk_180 0 7 (dk_at dksX5_inOrder_0 16 rfl rfl)
theorem dX5_inOrder_19 : decode cX5_inOrder 19 = .ok (.bipush 7, 2) := dk_16 7 (dk_at dksX5_inOrder_0 19 rfl rfl)
theorem dX5_inOrder_21 : decode cX5_inOrder 21 = .ok (.aload_n 0, 1) := dk_42 (dk_at dksX5_inOrder_0 21 rfl rfl)
theorem dX5_inOrder_22 : decode cX5_inOrder 22 = .ok (.getfield 37, 3) := dk_180 0 37 (dk_at dksX5_inOrder_1 0 rfl rfl)
theorem dX5_inOrder_25 : decode cX5_inOrder 25 = .ok (.iload_n 2, 1) := dk_28 (dk_at dksX5_inOrder_1 3 rfl rfl)
theorem dX5_inOrder_26 : decode cX5_inOrder 26 = .ok (.iaload, 1) := dk_46 (dk_at dksX5_inOrder_1 4 rfl rfl)
theorem dX5_inOrder_27 : decode cX5_inOrder 27 = .ok (.iadd, 1) := dk_96 (dk_at dksX5_inOrder_1 5 rfl rfl)
theorem dX5_inOrder_28 : decode cX5_inOrder 28 = .ok (.iaload, 1) := dk_46 (dk_at dksX5_inOrder_1 6 rfl rfl)
theorem dX5_inOrder_29 : decode cX5_inOrder 29 = .ok (.istore_n 3, 1) := dk_62 (dk_at dksX5_inOrder_1 7 rfl rfl)
theorem dX5_inOrder_30 : decode cX5_inOrder 30 = .ok (.iload_n 2, 1) := dk_28 (dk_at dksX5_inOrder_1 8 rfl rfl)
theorem dX5_inOrder_31 : decode cX5_inOrder 31 = .ok (.istore 4, 2) := dk_54 4 (dk_at dksX5_inOrder_1 9 rfl rfl)
theorem dX5_inOrder_33 : decode cX5_inOrder 33 = .ok (.iload 4, 2) := dk_21 4 (dk_at dksX5_inOrder_1 11 rfl rfl)
theorem dX5_inOrder_35 : decode cX5_inOrder 35 = .ok (.ifCond .le 42, 3) := dk_158 0 42 (dk_at dksX5_inOrder_1 13 rfl rfl)
theorem dX5_inOrder_38 : decode cX5_inOrder 38 = .ok (.aload_n 0, 1) := dk_42 (dk_at dksX5_inOrder_1 16 rfl rfl)
theorem dX5_inOrder_39 : decode cX5_inOrder 39 = .ok (.iload_n 3, 1) := dk_29 (dk_at dksX5_inOrder_1 17 rfl rfl)
theorem dX5_inOrder_40 : decode cX5_inOrder 40 = .ok (.aload_n 0, 1) := dk_42 (dk_at dksX5_inOrder_1 18 rfl rfl)
theorem dX5_inOrder_41 : decode cX5_inOrder 41 = .ok (.getfield 40, 3) := dk_180 0 40 (dk_at dksX5_inOrder_1 19 rfl rfl)
theorem dX5_inOrder_44 : decode cX5_inOrder 44 = .ok (.iload 4, 2) := dk_21 4 (dk_at dksX5_inOrder_1 22 rfl rfl)
theorem dX5_inOrder_46 : decode cX5_inOrder 46 = .ok (.iconst 1, 1) := dk_4 (dk_at dksX5_inOrder_2 0 rfl rfl)
theorem dX5_inOrder_47 : decode cX5_inOrder 47 = .ok (.isub, 1) := dk_100 (dk_at dksX5_inOrder_2 1 rfl rfl)
theorem dX5_inOrder_48 : decode cX5_inOrder 48 = .ok (.iaload, 1) := dk_46 (dk_at dksX5_inOrder_2 2 rfl rfl)
theorem dX5_inOrder_49 : decode cX5_inOrder 49 = .ok (.invokevirtual 68, 3) := dk_182 0 68 (dk_at dksX5_inOrder_2 3 rfl rfl)
theorem dX5_inOrder_52 : decode cX5_inOrder 52 = .ok (.ifCond .eq 25, 3) := dk_153 0 25 (dk_at dksX5_inOrder_2 6 rfl rfl)
theorem dX5_inOrder_55 : decode cX5_inOrder 55 = .ok (.aload_n 0, 1) := dk_42 (dk_at dksX5_inOrder_2 9 rfl rfl)
theorem dX5_inOrder_56 : decode cX5_inOrder 56 = .ok (.getfield 40, 3) := dk_180 0 40 (dk_at dksX5_inOrder_2 10 rfl rfl)
theorem dX5_inOrder_59 : decode cX5_inOrder 59 = .ok (.iload 4, 2) := dk_21 4 (dk_at dksX5_inOrder_2 13 rfl rfl)
theorem dX5_inOrder_61 : decode cX5_inOrder 61 = .ok (.aload_n 0, 1) := dk_42 (dk_at dksX5_inOrder_2 15 rfl rfl)
theorem dX5_inOrder_62 : decode cX5_inOrder 62 = .ok (.getfield 40, 3) := dk_180 0 40 (dk_at dksX5_inOrder_2 16 rfl rfl)
theorem dX5_inOrder_65 : decode cX5_inOrder 65 = .ok (.iload 4, 2) := dk_21 4 (dk_at dksX5_inOrder_2 19 rfl rfl)
theorem dX5_inOrder_67 : decode cX5_inOrder 67 = .ok (.iconst 1, 1) := dk_4 (dk_at dksX5_inOrder_2 21 rfl rfl)
theorem dX5_inOrder_68 : decode cX5_inOrder 68 = .ok (.isub, 1) := dk_100 (dk_at dksX5_inOrder_2 22 rfl rfl)
theorem dX5_inOrder_69 : decode cX5_inOrder 69 = .ok (.iaload, 1) := dk_46 (dk_at dksX5_inOrder_2 23 rfl rfl)
theorem dX5_inOrder_70 : decode cX5_inOrder 70 = .ok (.iastore, 1) := dk_79 (dk_at dksX5_inOrder_3 0 rfl rfl)
theorem dX5_inOrder_71 : decode cX5_inOrder 71 = .ok (.iinc 4 (-1), 3) := dk_132 4 255 (dk_at dksX5_inOrder_3 1 rfl rfl)
theorem dX5_inOrder_74 : decode cX5_inOrder 74 = .ok (.goto (-41), 3) := dk_167 255 215 (dk_at dksX5_inOrder_3 4 rfl rfl)
theorem dX5_inOrder_77 : decode cX5_inOrder 77 = .ok (.aload_n 0, 1) := dk_42 (dk_at dksX5_inOrder_3 7 rfl rfl)
theorem dX5_inOrder_78 : decode cX5_inOrder 78 = .ok (.getfield 40, 3) := dk_180 0 40 (dk_at dksX5_inOrder_3 8 rfl rfl)
theorem dX5_inOrder_81 : decode cX5_inOrder 81 = .ok (.iload 4, 2) := dk_21 4 (dk_at dksX5_inOrder_3 11 rfl rfl)
theorem dX5_inOrder_83 : decode cX5_inOrder 83 = .ok (.iload_n 3, 1) := dk_29 (dk_at dksX5_inOrder_3 13 rfl rfl)
theorem dX5_inOrder_84 : decode cX5_inOrder 84 = .ok (.iastore, 1) := dk_79 (dk_at dksX5_inOrder_3 14 rfl rfl)
theorem dX5_inOrder_85 : decode cX5_inOrder 85 = .ok (.iinc 2 1, 3) := dk_132 2 1 (dk_at dksX5_inOrder_3 15 rfl rfl)
theorem dX5_inOrder_88 : decode cX5_inOrder 88 = .ok (.goto (-81), 3) := dk_167 255 175 (dk_at dksX5_inOrder_3 18 rfl rfl)
theorem dX5_inOrder_91 : decode cX5_inOrder 91 = .ok (.return_, 1) := dk_177 (dk_at dksX5_inOrder_3 21 rfl rfl)
abbrev cX5_holds : ByteArray := prog_15_method_10_code
def yX5_holds : MethodName := ⟨RX5, "holds", "(I)V"⟩
def dkwX5_holds_4 : List UInt8 := [29, 28, 79, 42, 89, 180, 0, 58, 4, 96, 181, 0, 58, 132, 2, 1, 167, 255, 152, 177]
abbrev dktX5_holds_4 : List UInt8 := dkwX5_holds_4 ++ []
def dkwX5_holds_3 : List UInt8 := [42, 180, 0, 37, 29, 42, 180, 0, 37, 29, 4, 100, 46, 79, 132, 3, 255, 167, 255, 207, 42, 180, 0, 37]
abbrev dktX5_holds_3 : List UInt8 := dkwX5_holds_3 ++ dktX5_holds_4
def dkwX5_holds_2 : List UInt8 := [16, 105, 42, 180, 0, 37, 29, 4, 100, 46, 96, 46, 42, 180, 0, 7, 16, 105, 28, 96, 46, 164, 0, 23]
abbrev dktX5_holds_2 : List UInt8 := dkwX5_holds_2 ++ dktX5_holds_3
def dkwX5_holds_1 : List UInt8 := [28, 96, 46, 182, 0, 61, 27, 160, 0, 77, 42, 180, 0, 58, 62, 29, 158, 0, 51, 42, 180, 0, 7]
abbrev dktX5_holds_1 : List UInt8 := dkwX5_holds_1 ++ dktX5_holds_2
def dkwX5_holds_0 : List UInt8 := [42, 3, 181, 0, 58, 3, 61, 28, 42, 180, 0, 7, 3, 46, 162, 0, 100, 42, 42, 180, 0, 7, 16, 7]
abbrev dktX5_holds_0 : List UInt8 := dkwX5_holds_0 ++ dktX5_holds_1
theorem dksX5_holds_0 : cX5_holds.data.toList.drop 0 = dktX5_holds_0 := by decide +kernel
theorem dksX5_holds_1 : cX5_holds.data.toList.drop 24 = dktX5_holds_1 := dk_seg dksX5_holds_0 24 rfl rfl
theorem dksX5_holds_2 : cX5_holds.data.toList.drop 47 = dktX5_holds_2 := dk_seg dksX5_holds_1 23 rfl rfl
theorem dksX5_holds_3 : cX5_holds.data.toList.drop 71 = dktX5_holds_3 := dk_seg dksX5_holds_2 24 rfl rfl
theorem dksX5_holds_4 : cX5_holds.data.toList.drop 95 = dktX5_holds_4 := dk_seg dksX5_holds_3 24 rfl rfl
theorem dX5_holds_0 : decode cX5_holds 0 = .ok (.aload_n 0, 1) := dk_42 (dk_at dksX5_holds_0 0 rfl rfl)
theorem dX5_holds_1 : decode cX5_holds 1 = .ok (.iconst 0, 1) := dk_3 (dk_at dksX5_holds_0 1 rfl rfl)
theorem dX5_holds_2 : decode cX5_holds 2 = .ok (.putfield 58, 3) := dk_181 0 58 (dk_at dksX5_holds_0 2 rfl rfl)
theorem dX5_holds_5 : decode cX5_holds 5 = .ok (.iconst 0, 1) := dk_3 (dk_at dksX5_holds_0 5 rfl rfl)
theorem dX5_holds_6 : decode cX5_holds 6 = .ok (.istore_n 2, 1) := dk_61 (dk_at dksX5_holds_0 6 rfl rfl)
theorem dX5_holds_7 : decode cX5_holds 7 = .ok (.iload_n 2, 1) := dk_28 (dk_at dksX5_holds_0 7 rfl rfl)
theorem dX5_holds_8 : decode cX5_holds 8 = .ok (.aload_n 0, 1) := dk_42 (dk_at dksX5_holds_0 8 rfl rfl)
theorem dX5_holds_9 : decode cX5_holds 9 = .ok (.getfield 7, 3) := dk_180 0 7 (dk_at dksX5_holds_0 9 rfl rfl)
theorem dX5_holds_12 : decode cX5_holds 12 = .ok (.iconst 0, 1) := dk_3 (dk_at dksX5_holds_0 12 rfl rfl)
theorem dX5_holds_13 : decode cX5_holds 13 = .ok (.iaload, 1) := dk_46 (dk_at dksX5_holds_0 13 rfl rfl)
theorem dX5_holds_14 : decode cX5_holds 14 = .ok (.if_icmp .ge 100, 3) := dk_162 0 100 (dk_at dksX5_holds_0 14 rfl rfl)
theorem dX5_holds_17 : decode cX5_holds 17 = .ok (.aload_n 0, 1) := dk_42 (dk_at dksX5_holds_0 17 rfl rfl)
theorem dX5_holds_18 : decode cX5_holds 18 = .ok (.aload_n 0, 1) := dk_42 (dk_at dksX5_holds_0 18 rfl rfl)
theorem dX5_holds_19 : decode cX5_holds 19 = .ok (.getfield 7, 3) := dk_180 0 7 (dk_at dksX5_holds_0 19 rfl rfl)
theorem dX5_holds_22 : decode cX5_holds 22 = .ok (.bipush 7, 2) := dk_16 7 (dk_at dksX5_holds_0 22 rfl rfl)
theorem dX5_holds_24 : decode cX5_holds 24 = .ok (.iload_n 2, 1) := dk_28 (dk_at dksX5_holds_1 0 rfl rfl)
theorem dX5_holds_25 : decode cX5_holds 25 = .ok (.iadd, 1) := dk_96 (dk_at dksX5_holds_1 1 rfl rfl)
theorem dX5_holds_26 : decode cX5_holds 26 = .ok (.iaload, 1) := dk_46 (dk_at dksX5_holds_1 2 rfl rfl)
theorem dX5_holds_27 : decode cX5_holds 27 = .ok (.invokevirtual 61, 3) := dk_182 0 61 (dk_at dksX5_holds_1 3 rfl rfl)
theorem dX5_holds_30 : decode cX5_holds 30 = .ok (.iload_n 1, 1) := dk_27 (dk_at dksX5_holds_1 6 rfl rfl)
theorem dX5_holds_31 : decode cX5_holds 31 = .ok (.if_icmp .ne 77, 3) := dk_160 0 77 (dk_at dksX5_holds_1 7 rfl rfl)
theorem dX5_holds_34 : decode cX5_holds 34 = .ok (.aload_n 0, 1) := dk_42 (dk_at dksX5_holds_1 10 rfl rfl)
theorem dX5_holds_35 : decode cX5_holds 35 = .ok (.getfield 58, 3) := dk_180 0 58 (dk_at dksX5_holds_1 11 rfl rfl)
theorem dX5_holds_38 : decode cX5_holds 38 = .ok (.istore_n 3, 1) := dk_62 (dk_at dksX5_holds_1 14 rfl rfl)
theorem dX5_holds_39 : decode cX5_holds 39 = .ok (.iload_n 3, 1) := dk_29 (dk_at dksX5_holds_1 15 rfl rfl)
theorem dX5_holds_40 : decode cX5_holds 40 = .ok (.ifCond .le 51, 3) := dk_158 0 51 (dk_at dksX5_holds_1 16 rfl rfl)
theorem dX5_holds_43 : decode cX5_holds 43 = .ok (.aload_n 0, 1) := dk_42 (dk_at dksX5_holds_1 19 rfl rfl)
theorem dX5_holds_44 : decode cX5_holds 44 = .ok (.getfield 7, 3) := dk_180 0 7 (dk_at dksX5_holds_1 20 rfl rfl)
theorem dX5_holds_47 : decode cX5_holds 47 = .ok (.bipush 105, 2) := dk_16 105 (dk_at dksX5_holds_2 0 rfl rfl)
theorem dX5_holds_49 : decode cX5_holds 49 = .ok (.aload_n 0, 1) := dk_42 (dk_at dksX5_holds_2 2 rfl rfl)
theorem dX5_holds_50 : decode cX5_holds 50 = .ok (.getfield 37, 3) := dk_180 0 37 (dk_at dksX5_holds_2 3 rfl rfl)
theorem dX5_holds_53 : decode cX5_holds 53 = .ok (.iload_n 3, 1) := dk_29 (dk_at dksX5_holds_2 6 rfl rfl)
theorem dX5_holds_54 : decode cX5_holds 54 = .ok (.iconst 1, 1) := dk_4 (dk_at dksX5_holds_2 7 rfl rfl)
theorem dX5_holds_55 : decode cX5_holds 55 = .ok (.isub, 1) := dk_100 (dk_at dksX5_holds_2 8 rfl rfl)
theorem dX5_holds_56 : decode cX5_holds 56 = .ok (.iaload, 1) := dk_46 (dk_at dksX5_holds_2 9 rfl rfl)
theorem dX5_holds_57 : decode cX5_holds 57 = .ok (.iadd, 1) := dk_96 (dk_at dksX5_holds_2 10 rfl rfl)
theorem dX5_holds_58 : decode cX5_holds 58 = .ok (.iaload, 1) := dk_46 (dk_at dksX5_holds_2 11 rfl rfl)
theorem dX5_holds_59 : decode cX5_holds 59 = .ok (.aload_n 0, 1) := dk_42 (dk_at dksX5_holds_2 12 rfl rfl)
theorem dX5_holds_60 : decode cX5_holds 60 = .ok (.getfield 7, 3) := dk_180 0 7 (dk_at dksX5_holds_2 13 rfl rfl)
theorem dX5_holds_63 : decode cX5_holds 63 = .ok (.bipush 105, 2) := dk_16 105 (dk_at dksX5_holds_2 16 rfl rfl)
theorem dX5_holds_65 : decode cX5_holds 65 = .ok (.iload_n 2, 1) := dk_28 (dk_at dksX5_holds_2 18 rfl rfl)
theorem dX5_holds_66 : decode cX5_holds 66 = .ok (.iadd, 1) := dk_96 (dk_at dksX5_holds_2 19 rfl rfl)
theorem dX5_holds_67 : decode cX5_holds 67 = .ok (.iaload, 1) := dk_46 (dk_at dksX5_holds_2 20 rfl rfl)
theorem dX5_holds_68 : decode cX5_holds 68 = .ok (.if_icmp .le 23, 3) := dk_164 0 23 (dk_at dksX5_holds_2 21 rfl rfl)
theorem dX5_holds_71 : decode cX5_holds 71 = .ok (.aload_n 0, 1) := dk_42 (dk_at dksX5_holds_3 0 rfl rfl)
theorem dX5_holds_72 : decode cX5_holds 72 = .ok (.getfield 37, 3) := dk_180 0 37 (dk_at dksX5_holds_3 1 rfl rfl)
theorem dX5_holds_75 : decode cX5_holds 75 = .ok (.iload_n 3, 1) := dk_29 (dk_at dksX5_holds_3 4 rfl rfl)
theorem dX5_holds_76 : decode cX5_holds 76 = .ok (.aload_n 0, 1) := dk_42 (dk_at dksX5_holds_3 5 rfl rfl)
theorem dX5_holds_77 : decode cX5_holds 77 = .ok (.getfield 37, 3) := dk_180 0 37 (dk_at dksX5_holds_3 6 rfl rfl)
theorem dX5_holds_80 : decode cX5_holds 80 = .ok (.iload_n 3, 1) := dk_29 (dk_at dksX5_holds_3 9 rfl rfl)
theorem dX5_holds_81 : decode cX5_holds 81 = .ok (.iconst 1, 1) := dk_4 (dk_at dksX5_holds_3 10 rfl rfl)
theorem dX5_holds_82 : decode cX5_holds 82 = .ok (.isub, 1) := dk_100 (dk_at dksX5_holds_3 11 rfl rfl)
theorem dX5_holds_83 : decode cX5_holds 83 = .ok (.iaload, 1) := dk_46 (dk_at dksX5_holds_3 12 rfl rfl)
theorem dX5_holds_84 : decode cX5_holds 84 = .ok (.iastore, 1) := dk_79 (dk_at dksX5_holds_3 13 rfl rfl)
theorem dX5_holds_85 : decode cX5_holds 85 = .ok (.iinc 3 (-1), 3) := dk_132 3 255 (dk_at dksX5_holds_3 14 rfl rfl)
theorem dX5_holds_88 : decode cX5_holds 88 = .ok (.goto (-49), 3) := dk_167 255 207 (dk_at dksX5_holds_3 17 rfl rfl)
theorem dX5_holds_91 : decode cX5_holds 91 = .ok (.aload_n 0, 1) := dk_42 (dk_at dksX5_holds_3 20 rfl rfl)
theorem dX5_holds_92 : decode cX5_holds 92 = .ok (.getfield 37, 3) := dk_180 0 37 (dk_at dksX5_holds_3 21 rfl rfl)
theorem dX5_holds_95 : decode cX5_holds 95 = .ok (.iload_n 3, 1) := dk_29 (dk_at dksX5_holds_4 0 rfl rfl)
theorem dX5_holds_96 : decode cX5_holds 96 = .ok (.iload_n 2, 1) := dk_28 (dk_at dksX5_holds_4 1 rfl rfl)
theorem dX5_holds_97 : decode cX5_holds 97 = .ok (.iastore, 1) := dk_79 (dk_at dksX5_holds_4 2 rfl rfl)
theorem dX5_holds_98 : decode cX5_holds 98 = .ok (.aload_n 0, 1) := dk_42 (dk_at dksX5_holds_4 3 rfl rfl)
theorem dX5_holds_99 : decode cX5_holds 99 = .ok (.dup, 1) := dk_89 (dk_at dksX5_holds_4 4 rfl rfl)
theorem dX5_holds_100 : decode cX5_holds 100 = .ok (.getfield 58, 3) := dk_180 0 58 (dk_at dksX5_holds_4 5 rfl rfl)
theorem dX5_holds_103 : decode cX5_holds 103 = .ok (.iconst 1, 1) := dk_4 (dk_at dksX5_holds_4 8 rfl rfl)
theorem dX5_holds_104 : decode cX5_holds 104 = .ok (.iadd, 1) := dk_96 (dk_at dksX5_holds_4 9 rfl rfl)
theorem dX5_holds_105 : decode cX5_holds 105 = .ok (.putfield 58, 3) := dk_181 0 58 (dk_at dksX5_holds_4 10 rfl rfl)
theorem dX5_holds_108 : decode cX5_holds 108 = .ok (.iinc 2 1, 3) := dk_132 2 1 (dk_at dksX5_holds_4 13 rfl rfl)
theorem dX5_holds_111 : decode cX5_holds 111 = .ok (.goto (-104), 3) := dk_167 255 152 (dk_at dksX5_holds_4 16 rfl rfl)
theorem dX5_holds_114 : decode cX5_holds 114 = .ok (.return_, 1) := dk_177 (dk_at dksX5_holds_4 19 rfl rfl)
abbrev cX5_isAhead : ByteArray := prog_15_method_11_code
def yX5_isAhead : MethodName := ⟨RX5, "isAhead", "(II)Z"⟩
def dkwX5_isAhead_1 : List UInt8 := [160, 0, 12, 27, 28, 162, 0, 7, 4, 167, 0, 4, 3, 172]
abbrev dktX5_isAhead_1 : List UInt8 := dkwX5_isAhead_1 ++ []
def dkwX5_isAhead_0 : List UInt8 := [42, 27, 182, 0, 54, 62, 42, 28, 182, 0, 54, 54, 4, 29, 21, 4, 161, 0, 14, 29, 21, 4]
abbrev dktX5_isAhead_0 : List UInt8 := dkwX5_isAhead_0 ++ dktX5_isAhead_1
theorem dksX5_isAhead_0 : cX5_isAhead.data.toList.drop 0 = dktX5_isAhead_0 := by decide +kernel
theorem dksX5_isAhead_1 : cX5_isAhead.data.toList.drop 22 = dktX5_isAhead_1 := dk_seg dksX5_isAhead_0 22 rfl rfl
theorem dX5_isAhead_0 : decode cX5_isAhead 0 = .ok (.aload_n 0, 1) := dk_42 (dk_at dksX5_isAhead_0 0 rfl rfl)
theorem dX5_isAhead_1 : decode cX5_isAhead 1 = .ok (.iload_n 1, 1) := dk_27 (dk_at dksX5_isAhead_0 1 rfl rfl)
theorem dX5_isAhead_2 : decode cX5_isAhead 2 = .ok (.invokevirtual 54, 3) := dk_182 0 54 (dk_at dksX5_isAhead_0 2 rfl rfl)
theorem dX5_isAhead_5 : decode cX5_isAhead 5 = .ok (.istore_n 3, 1) := dk_62 (dk_at dksX5_isAhead_0 5 rfl rfl)
theorem dX5_isAhead_6 : decode cX5_isAhead 6 = .ok (.aload_n 0, 1) := dk_42 (dk_at dksX5_isAhead_0 6 rfl rfl)
theorem dX5_isAhead_7 : decode cX5_isAhead 7 = .ok (.iload_n 2, 1) := dk_28 (dk_at dksX5_isAhead_0 7 rfl rfl)
theorem dX5_isAhead_8 : decode cX5_isAhead 8 = .ok (.invokevirtual 54, 3) := dk_182 0 54 (dk_at dksX5_isAhead_0 8 rfl rfl)
theorem dX5_isAhead_11 : decode cX5_isAhead 11 = .ok (.istore 4, 2) := dk_54 4 (dk_at dksX5_isAhead_0 11 rfl rfl)
theorem dX5_isAhead_13 : decode cX5_isAhead 13 = .ok (.iload_n 3, 1) := dk_29 (dk_at dksX5_isAhead_0 13 rfl rfl)
theorem dX5_isAhead_14 : decode cX5_isAhead 14 = .ok (.iload 4, 2) := dk_21 4 (dk_at dksX5_isAhead_0 14 rfl rfl)
theorem dX5_isAhead_16 : decode cX5_isAhead 16 = .ok (.if_icmp .lt 14, 3) := dk_161 0 14 (dk_at dksX5_isAhead_0 16 rfl rfl)
theorem dX5_isAhead_19 : decode cX5_isAhead 19 = .ok (.iload_n 3, 1) := dk_29 (dk_at dksX5_isAhead_0 19 rfl rfl)
theorem dX5_isAhead_20 : decode cX5_isAhead 20 = .ok (.iload 4, 2) := dk_21 4 (dk_at dksX5_isAhead_0 20 rfl rfl)
theorem dX5_isAhead_22 : decode cX5_isAhead 22 = .ok (.if_icmp .ne 12, 3) := dk_160 0 12 (dk_at dksX5_isAhead_1 0 rfl rfl)
theorem dX5_isAhead_25 : decode cX5_isAhead 25 = .ok (.iload_n 1, 1) := dk_27 (dk_at dksX5_isAhead_1 3 rfl rfl)
theorem dX5_isAhead_26 : decode cX5_isAhead 26 = .ok (.iload_n 2, 1) := dk_28 (dk_at dksX5_isAhead_1 4 rfl rfl)
theorem dX5_isAhead_27 : decode cX5_isAhead 27 = .ok (.if_icmp .ge 7, 3) := dk_162 0 7 (dk_at dksX5_isAhead_1 5 rfl rfl)
theorem dX5_isAhead_30 : decode cX5_isAhead 30 = .ok (.iconst 1, 1) := dk_4 (dk_at dksX5_isAhead_1 8 rfl rfl)
theorem dX5_isAhead_31 : decode cX5_isAhead 31 = .ok (.goto 4, 3) := dk_167 0 4 (dk_at dksX5_isAhead_1 9 rfl rfl)
theorem dX5_isAhead_34 : decode cX5_isAhead 34 = .ok (.iconst 0, 1) := dk_3 (dk_at dksX5_isAhead_1 12 rfl rfl)
theorem dX5_isAhead_35 : decode cX5_isAhead 35 = .ok (.ireturn, 1) := dk_172 (dk_at dksX5_isAhead_1 13 rfl rfl)
abbrev cX5_rootOf : ByteArray := prog_15_method_14_code
def yX5_rootOf : MethodName := ⟨RX5, "rootOf", "(II)I"⟩
def dkwX5_rootOf_3 : List UInt8 := [46, 162, 0, 8, 21, 4, 167, 0, 4, 29, 62, 132, 4, 1, 167, 255, 187, 29, 172]
abbrev dktX5_rootOf_3 : List UInt8 := dkwX5_rootOf_3 ++ []
def dkwX5_rootOf_2 : List UInt8 := [21, 6, 163, 0, 26, 21, 5, 21, 6, 160, 0, 24, 42, 180, 0, 40, 21, 4, 46, 42, 180, 0, 40, 29]
abbrev dktX5_rootOf_2 : List UInt8 := dkwX5_rootOf_2 ++ dktX5_rootOf_3
def dkwX5_rootOf_1 : List UInt8 := [180, 0, 40, 21, 4, 46, 184, 0, 76, 54, 5, 42, 180, 0, 40, 29, 46, 184, 0, 76, 54, 6, 21, 5]
abbrev dktX5_rootOf_1 : List UInt8 := dkwX5_rootOf_1 ++ dktX5_rootOf_2
def dkwX5_rootOf_0 : List UInt8 := [27, 28, 162, 0, 7, 27, 167, 0, 4, 2, 62, 27, 4, 96, 54, 4, 21, 4, 28, 162, 0, 69, 42]
abbrev dktX5_rootOf_0 : List UInt8 := dkwX5_rootOf_0 ++ dktX5_rootOf_1
theorem dksX5_rootOf_0 : cX5_rootOf.data.toList.drop 0 = dktX5_rootOf_0 := by decide +kernel
theorem dksX5_rootOf_1 : cX5_rootOf.data.toList.drop 23 = dktX5_rootOf_1 := dk_seg dksX5_rootOf_0 23 rfl rfl
theorem dksX5_rootOf_2 : cX5_rootOf.data.toList.drop 47 = dktX5_rootOf_2 := dk_seg dksX5_rootOf_1 24 rfl rfl
theorem dksX5_rootOf_3 : cX5_rootOf.data.toList.drop 71 = dktX5_rootOf_3 := dk_seg dksX5_rootOf_2 24 rfl rfl
theorem dX5_rootOf_0 : decode cX5_rootOf 0 = .ok (.iload_n 1, 1) := dk_27 (dk_at dksX5_rootOf_0 0 rfl rfl)
theorem dX5_rootOf_1 : decode cX5_rootOf 1 = .ok (.iload_n 2, 1) := dk_28 (dk_at dksX5_rootOf_0 1 rfl rfl)
theorem dX5_rootOf_2 : decode cX5_rootOf 2 = .ok (.if_icmp .ge 7, 3) := dk_162 0 7 (dk_at dksX5_rootOf_0 2 rfl rfl)
theorem dX5_rootOf_5 : decode cX5_rootOf 5 = .ok (.iload_n 1, 1) := dk_27 (dk_at dksX5_rootOf_0 5 rfl rfl)
theorem dX5_rootOf_6 : decode cX5_rootOf 6 = .ok (.goto 4, 3) := dk_167 0 4 (dk_at dksX5_rootOf_0 6 rfl rfl)
theorem dX5_rootOf_9 : decode cX5_rootOf 9 = .ok (.iconst (-1), 1) := dk_2 (dk_at dksX5_rootOf_0 9 rfl rfl)
theorem dX5_rootOf_10 : decode cX5_rootOf 10 = .ok (.istore_n 3, 1) := dk_62 (dk_at dksX5_rootOf_0 10 rfl rfl)
theorem dX5_rootOf_11 : decode cX5_rootOf 11 = .ok (.iload_n 1, 1) := dk_27 (dk_at dksX5_rootOf_0 11 rfl rfl)
theorem dX5_rootOf_12 : decode cX5_rootOf 12 = .ok (.iconst 1, 1) := dk_4 (dk_at dksX5_rootOf_0 12 rfl rfl)
theorem dX5_rootOf_13 : decode cX5_rootOf 13 = .ok (.iadd, 1) := dk_96 (dk_at dksX5_rootOf_0 13 rfl rfl)
theorem dX5_rootOf_14 : decode cX5_rootOf 14 = .ok (.istore 4, 2) := dk_54 4 (dk_at dksX5_rootOf_0 14 rfl rfl)
theorem dX5_rootOf_16 : decode cX5_rootOf 16 = .ok (.iload 4, 2) := dk_21 4 (dk_at dksX5_rootOf_0 16 rfl rfl)
theorem dX5_rootOf_18 : decode cX5_rootOf 18 = .ok (.iload_n 2, 1) := dk_28 (dk_at dksX5_rootOf_0 18 rfl rfl)
theorem dX5_rootOf_19 : decode cX5_rootOf 19 = .ok (.if_icmp .ge 69, 3) := dk_162 0 69 (dk_at dksX5_rootOf_0 19 rfl rfl)
theorem dX5_rootOf_22 : decode cX5_rootOf 22 = .ok (.aload_n 0, 1) := dk_42 (dk_at dksX5_rootOf_0 22 rfl rfl)
theorem dX5_rootOf_23 : decode cX5_rootOf 23 = .ok (.getfield 40, 3) := dk_180 0 40 (dk_at dksX5_rootOf_1 0 rfl rfl)
theorem dX5_rootOf_26 : decode cX5_rootOf 26 = .ok (.iload 4, 2) := dk_21 4 (dk_at dksX5_rootOf_1 3 rfl rfl)
theorem dX5_rootOf_28 : decode cX5_rootOf 28 = .ok (.iaload, 1) := dk_46 (dk_at dksX5_rootOf_1 5 rfl rfl)
theorem dX5_rootOf_29 : decode cX5_rootOf 29 = .ok (.invokestatic 76, 3) := dk_184 0 76 (dk_at dksX5_rootOf_1 6 rfl rfl)
theorem dX5_rootOf_32 : decode cX5_rootOf 32 = .ok (.istore 5, 2) := dk_54 5 (dk_at dksX5_rootOf_1 9 rfl rfl)
theorem dX5_rootOf_34 : decode cX5_rootOf 34 = .ok (.aload_n 0, 1) := dk_42 (dk_at dksX5_rootOf_1 11 rfl rfl)
theorem dX5_rootOf_35 : decode cX5_rootOf 35 = .ok (.getfield 40, 3) := dk_180 0 40 (dk_at dksX5_rootOf_1 12 rfl rfl)
theorem dX5_rootOf_38 : decode cX5_rootOf 38 = .ok (.iload_n 3, 1) := dk_29 (dk_at dksX5_rootOf_1 15 rfl rfl)
theorem dX5_rootOf_39 : decode cX5_rootOf 39 = .ok (.iaload, 1) := dk_46 (dk_at dksX5_rootOf_1 16 rfl rfl)
theorem dX5_rootOf_40 : decode cX5_rootOf 40 = .ok (.invokestatic 76, 3) := dk_184 0 76 (dk_at dksX5_rootOf_1 17 rfl rfl)
theorem dX5_rootOf_43 : decode cX5_rootOf 43 = .ok (.istore 6, 2) := dk_54 6 (dk_at dksX5_rootOf_1 20 rfl rfl)
theorem dX5_rootOf_45 : decode cX5_rootOf 45 = .ok (.iload 5, 2) := dk_21 5 (dk_at dksX5_rootOf_1 22 rfl rfl)
theorem dX5_rootOf_47 : decode cX5_rootOf 47 = .ok (.iload 6, 2) := dk_21 6 (dk_at dksX5_rootOf_2 0 rfl rfl)
theorem dX5_rootOf_49 : decode cX5_rootOf 49 = .ok (.if_icmp .gt 26, 3) := dk_163 0 26 (dk_at dksX5_rootOf_2 2 rfl rfl)
theorem dX5_rootOf_52 : decode cX5_rootOf 52 = .ok (.iload 5, 2) := dk_21 5 (dk_at dksX5_rootOf_2 5 rfl rfl)
theorem dX5_rootOf_54 : decode cX5_rootOf 54 = .ok (.iload 6, 2) := dk_21 6 (dk_at dksX5_rootOf_2 7 rfl rfl)
theorem dX5_rootOf_56 : decode cX5_rootOf 56 = .ok (.if_icmp .ne 24, 3) := dk_160 0 24 (dk_at dksX5_rootOf_2 9 rfl rfl)
theorem dX5_rootOf_59 : decode cX5_rootOf 59 = .ok (.aload_n 0, 1) := dk_42 (dk_at dksX5_rootOf_2 12 rfl rfl)
theorem dX5_rootOf_60 : decode cX5_rootOf 60 = .ok (.getfield 40, 3) := dk_180 0 40 (dk_at dksX5_rootOf_2 13 rfl rfl)
theorem dX5_rootOf_63 : decode cX5_rootOf 63 = .ok (.iload 4, 2) := dk_21 4 (dk_at dksX5_rootOf_2 16 rfl rfl)
theorem dX5_rootOf_65 : decode cX5_rootOf 65 = .ok (.iaload, 1) := dk_46 (dk_at dksX5_rootOf_2 18 rfl rfl)
theorem dX5_rootOf_66 : decode cX5_rootOf 66 = .ok (.aload_n 0, 1) := dk_42 (dk_at dksX5_rootOf_2 19 rfl rfl)
theorem dX5_rootOf_67 : decode cX5_rootOf 67 = .ok (.getfield 40, 3) := dk_180 0 40 (dk_at dksX5_rootOf_2 20 rfl rfl)
theorem dX5_rootOf_70 : decode cX5_rootOf 70 = .ok (.iload_n 3, 1) := dk_29 (dk_at dksX5_rootOf_2 23 rfl rfl)
theorem dX5_rootOf_71 : decode cX5_rootOf 71 = .ok (.iaload, 1) := dk_46 (dk_at dksX5_rootOf_3 0 rfl rfl)
theorem dX5_rootOf_72 : decode cX5_rootOf 72 = .ok (.if_icmp .ge 8, 3) := dk_162 0 8 (dk_at dksX5_rootOf_3 1 rfl rfl)
theorem dX5_rootOf_75 : decode cX5_rootOf 75 = .ok (.iload 4, 2) := dk_21 4 (dk_at dksX5_rootOf_3 4 rfl rfl)
theorem dX5_rootOf_77 : decode cX5_rootOf 77 = .ok (.goto 4, 3) := dk_167 0 4 (dk_at dksX5_rootOf_3 6 rfl rfl)
theorem dX5_rootOf_80 : decode cX5_rootOf 80 = .ok (.iload_n 3, 1) := dk_29 (dk_at dksX5_rootOf_3 9 rfl rfl)
theorem dX5_rootOf_81 : decode cX5_rootOf 81 = .ok (.istore_n 3, 1) := dk_62 (dk_at dksX5_rootOf_3 10 rfl rfl)
theorem dX5_rootOf_82 : decode cX5_rootOf 82 = .ok (.iinc 4 1, 3) := dk_132 4 1 (dk_at dksX5_rootOf_3 11 rfl rfl)
theorem dX5_rootOf_85 : decode cX5_rootOf 85 = .ok (.goto (-69), 3) := dk_167 255 187 (dk_at dksX5_rootOf_3 14 rfl rfl)
theorem dX5_rootOf_88 : decode cX5_rootOf 88 = .ok (.iload_n 3, 1) := dk_29 (dk_at dksX5_rootOf_3 17 rfl rfl)
theorem dX5_rootOf_89 : decode cX5_rootOf 89 = .ok (.ireturn, 1) := dk_172 (dk_at dksX5_rootOf_3 18 rfl rfl)
abbrev cX5_priority : ByteArray := prog_15_method_13_code
def yX5_priority : MethodName := ⟨RX5, "priority", "(I)I"⟩
def dkwX5_priority_0 : List UInt8 := [26, 133, 20, 0, 72, 105, 20, 0, 74, 97, 20, 0, 52, 113, 136, 172]
abbrev dktX5_priority_0 : List UInt8 := dkwX5_priority_0 ++ []
theorem dksX5_priority_0 : cX5_priority.data.toList.drop 0 = dktX5_priority_0 := by decide +kernel
theorem dX5_priority_0 : decode cX5_priority 0 = .ok (.iload_n 0, 1) := dk_26 (dk_at dksX5_priority_0 0 rfl rfl)
theorem dX5_priority_1 : decode cX5_priority 1 = .ok (.i2l, 1) := dk_133 (dk_at dksX5_priority_0 1 rfl rfl)
theorem dX5_priority_2 : decode cX5_priority 2 = .ok (.ldc2_w 72, 3) := dk_20 0 72 (dk_at dksX5_priority_0 2 rfl rfl)
theorem dX5_priority_5 : decode cX5_priority 5 = .ok (.lmul, 1) := dk_105 (dk_at dksX5_priority_0 5 rfl rfl)
theorem dX5_priority_6 : decode cX5_priority 6 = .ok (.ldc2_w 74, 3) := dk_20 0 74 (dk_at dksX5_priority_0 6 rfl rfl)
theorem dX5_priority_9 : decode cX5_priority 9 = .ok (.ladd, 1) := dk_97 (dk_at dksX5_priority_0 9 rfl rfl)
theorem dX5_priority_10 : decode cX5_priority 10 = .ok (.ldc2_w 52, 3) := dk_20 0 52 (dk_at dksX5_priority_0 10 rfl rfl)
theorem dX5_priority_13 : decode cX5_priority 13 = .ok (.lrem, 1) := dk_113 (dk_at dksX5_priority_0 13 rfl rfl)
theorem dX5_priority_14 : decode cX5_priority 14 = .ok (.l2i, 1) := dk_136 (dk_at dksX5_priority_0 14 rfl rfl)
theorem dX5_priority_15 : decode cX5_priority 15 = .ok (.ireturn, 1) := dk_172 (dk_at dksX5_priority_0 15 rfl rfl)
abbrev cX5_order : ByteArray := prog_15_method_44_code
def yX5_order : MethodName := ⟨RX5, "order", "(I)I"⟩
def dkwX5_order_1 : List UInt8 := [180, 0, 7, 16, 7, 27, 96, 46, 167, 0, 4, 2, 172]
abbrev dktX5_order_1 : List UInt8 := dkwX5_order_1 ++ []
def dkwX5_order_0 : List UInt8 := [27, 156, 0, 10, 42, 16, 254, 182, 0, 137, 172, 27, 42, 180, 0, 7, 3, 46, 162, 0, 15, 42]
abbrev dktX5_order_0 : List UInt8 := dkwX5_order_0 ++ dktX5_order_1
theorem dksX5_order_0 : cX5_order.data.toList.drop 0 = dktX5_order_0 := by decide +kernel
theorem dksX5_order_1 : cX5_order.data.toList.drop 22 = dktX5_order_1 := dk_seg dksX5_order_0 22 rfl rfl
theorem dX5_order_0 : decode cX5_order 0 = .ok (.iload_n 1, 1) := dk_27 (dk_at dksX5_order_0 0 rfl rfl)
theorem dX5_order_1 : decode cX5_order 1 = .ok (.ifCond .ge 10, 3) := dk_156 0 10 (dk_at dksX5_order_0 1 rfl rfl)
theorem dX5_order_4 : decode cX5_order 4 = .ok (.aload_n 0, 1) := dk_42 (dk_at dksX5_order_0 4 rfl rfl)
theorem dX5_order_5 : decode cX5_order 5 = .ok (.bipush (-2), 2) := dk_16 254 (dk_at dksX5_order_0 5 rfl rfl)
theorem dX5_order_7 : decode cX5_order 7 = .ok (.invokevirtual 137, 3) := dk_182 0 137 (dk_at dksX5_order_0 7 rfl rfl)
theorem dX5_order_10 : decode cX5_order 10 = .ok (.ireturn, 1) := dk_172 (dk_at dksX5_order_0 10 rfl rfl)
theorem dX5_order_11 : decode cX5_order 11 = .ok (.iload_n 1, 1) := dk_27 (dk_at dksX5_order_0 11 rfl rfl)
theorem dX5_order_12 : decode cX5_order 12 = .ok (.aload_n 0, 1) := dk_42 (dk_at dksX5_order_0 12 rfl rfl)
theorem dX5_order_13 : decode cX5_order 13 = .ok (.getfield 7, 3) := dk_180 0 7 (dk_at dksX5_order_0 13 rfl rfl)
theorem dX5_order_16 : decode cX5_order 16 = .ok (.iconst 0, 1) := dk_3 (dk_at dksX5_order_0 16 rfl rfl)
theorem dX5_order_17 : decode cX5_order 17 = .ok (.iaload, 1) := dk_46 (dk_at dksX5_order_0 17 rfl rfl)
theorem dX5_order_18 : decode cX5_order 18 = .ok (.if_icmp .ge 15, 3) := dk_162 0 15 (dk_at dksX5_order_0 18 rfl rfl)
theorem dX5_order_21 : decode cX5_order 21 = .ok (.aload_n 0, 1) := dk_42 (dk_at dksX5_order_0 21 rfl rfl)
theorem dX5_order_22 : decode cX5_order 22 = .ok (.getfield 7, 3) := dk_180 0 7 (dk_at dksX5_order_1 0 rfl rfl)
theorem dX5_order_25 : decode cX5_order 25 = .ok (.bipush 7, 2) := dk_16 7 (dk_at dksX5_order_1 3 rfl rfl)
theorem dX5_order_27 : decode cX5_order 27 = .ok (.iload_n 1, 1) := dk_27 (dk_at dksX5_order_1 5 rfl rfl)
theorem dX5_order_28 : decode cX5_order 28 = .ok (.iadd, 1) := dk_96 (dk_at dksX5_order_1 6 rfl rfl)
theorem dX5_order_29 : decode cX5_order 29 = .ok (.iaload, 1) := dk_46 (dk_at dksX5_order_1 7 rfl rfl)
theorem dX5_order_30 : decode cX5_order 30 = .ok (.goto 4, 3) := dk_167 0 4 (dk_at dksX5_order_1 8 rfl rfl)
theorem dX5_order_33 : decode cX5_order 33 = .ok (.iconst (-1), 1) := dk_2 (dk_at dksX5_order_1 11 rfl rfl)
theorem dX5_order_34 : decode cX5_order 34 = .ok (.ireturn, 1) := dk_172 (dk_at dksX5_order_1 12 rfl rfl)
abbrev cX5_bin : ByteArray := prog_15_method_47_code
def yX5_bin : MethodName := ⟨RX5, "bin", "(II)I"⟩
def dkwX5_bin_1 : List UInt8 := [153, 0, 12, 42, 27, 28, 182, 0, 177, 167, 0, 9, 42, 16, 254, 182, 0, 137, 172]
abbrev dktX5_bin_1 : List UInt8 := dkwX5_bin_1 ++ []
def dkwX5_bin_0 : List UInt8 := [27, 3, 42, 180, 0, 7, 4, 46, 4, 100, 184, 0, 44, 153, 0, 21, 28, 3, 6, 184, 0, 44]
abbrev dktX5_bin_0 : List UInt8 := dkwX5_bin_0 ++ dktX5_bin_1
theorem dksX5_bin_0 : cX5_bin.data.toList.drop 0 = dktX5_bin_0 := by decide +kernel
theorem dksX5_bin_1 : cX5_bin.data.toList.drop 22 = dktX5_bin_1 := dk_seg dksX5_bin_0 22 rfl rfl
theorem dX5_bin_0 : decode cX5_bin 0 = .ok (.iload_n 1, 1) := dk_27 (dk_at dksX5_bin_0 0 rfl rfl)
theorem dX5_bin_1 : decode cX5_bin 1 = .ok (.iconst 0, 1) := dk_3 (dk_at dksX5_bin_0 1 rfl rfl)
theorem dX5_bin_2 : decode cX5_bin 2 = .ok (.aload_n 0, 1) := dk_42 (dk_at dksX5_bin_0 2 rfl rfl)
theorem dX5_bin_3 : decode cX5_bin 3 = .ok (.getfield 7, 3) := dk_180 0 7 (dk_at dksX5_bin_0 3 rfl rfl)
theorem dX5_bin_6 : decode cX5_bin 6 = .ok (.iconst 1, 1) := dk_4 (dk_at dksX5_bin_0 6 rfl rfl)
theorem dX5_bin_7 : decode cX5_bin 7 = .ok (.iaload, 1) := dk_46 (dk_at dksX5_bin_0 7 rfl rfl)
theorem dX5_bin_8 : decode cX5_bin 8 = .ok (.iconst 1, 1) := dk_4 (dk_at dksX5_bin_0 8 rfl rfl)
theorem dX5_bin_9 : decode cX5_bin 9 = .ok (.isub, 1) := dk_100 (dk_at dksX5_bin_0 9 rfl rfl)
theorem dX5_bin_10 : decode cX5_bin 10 = .ok (.invokestatic 44, 3) := dk_184 0 44 (dk_at dksX5_bin_0 10 rfl rfl)
theorem dX5_bin_13 : decode cX5_bin 13 = .ok (.ifCond .eq 21, 3) := dk_153 0 21 (dk_at dksX5_bin_0 13 rfl rfl)
theorem dX5_bin_16 : decode cX5_bin 16 = .ok (.iload_n 2, 1) := dk_28 (dk_at dksX5_bin_0 16 rfl rfl)
theorem dX5_bin_17 : decode cX5_bin 17 = .ok (.iconst 0, 1) := dk_3 (dk_at dksX5_bin_0 17 rfl rfl)
theorem dX5_bin_18 : decode cX5_bin 18 = .ok (.iconst 3, 1) := dk_6 (dk_at dksX5_bin_0 18 rfl rfl)
theorem dX5_bin_19 : decode cX5_bin 19 = .ok (.invokestatic 44, 3) := dk_184 0 44 (dk_at dksX5_bin_0 19 rfl rfl)
theorem dX5_bin_22 : decode cX5_bin 22 = .ok (.ifCond .eq 12, 3) := dk_153 0 12 (dk_at dksX5_bin_1 0 rfl rfl)
theorem dX5_bin_25 : decode cX5_bin 25 = .ok (.aload_n 0, 1) := dk_42 (dk_at dksX5_bin_1 3 rfl rfl)
theorem dX5_bin_26 : decode cX5_bin 26 = .ok (.iload_n 1, 1) := dk_27 (dk_at dksX5_bin_1 4 rfl rfl)
theorem dX5_bin_27 : decode cX5_bin 27 = .ok (.iload_n 2, 1) := dk_28 (dk_at dksX5_bin_1 5 rfl rfl)
theorem dX5_bin_28 : decode cX5_bin 28 = .ok (.invokevirtual 177, 3) := dk_182 0 177 (dk_at dksX5_bin_1 6 rfl rfl)
theorem dX5_bin_31 : decode cX5_bin 31 = .ok (.goto 9, 3) := dk_167 0 9 (dk_at dksX5_bin_1 9 rfl rfl)
theorem dX5_bin_34 : decode cX5_bin 34 = .ok (.aload_n 0, 1) := dk_42 (dk_at dksX5_bin_1 12 rfl rfl)
theorem dX5_bin_35 : decode cX5_bin 35 = .ok (.bipush (-2), 2) := dk_16 254 (dk_at dksX5_bin_1 13 rfl rfl)
theorem dX5_bin_37 : decode cX5_bin 37 = .ok (.invokevirtual 137, 3) := dk_182 0 137 (dk_at dksX5_bin_1 15 rfl rfl)
theorem dX5_bin_40 : decode cX5_bin 40 = .ok (.ireturn, 1) := dk_172 (dk_at dksX5_bin_1 18 rfl rfl)
abbrev cX5_binFact : ByteArray := prog_15_method_46_code
def yX5_binFact : MethodName := ⟨RX5, "binFact", "(II)I"⟩
def dkwX5_binFact_4 : List UInt8 := [42, 27, 182, 0, 95, 153, 0, 11, 42, 27, 182, 0, 174, 167, 0, 4, 3, 172]
abbrev dktX5_binFact_4 : List UInt8 := dkwX5_binFact_4 ++ []
def dkwX5_binFact_3 : List UInt8 := [182, 0, 95, 153, 0, 19, 42, 42, 3, 42, 180, 0, 58, 182, 0, 91, 182, 0, 171, 167, 0, 4, 2, 172]
abbrev dktX5_binFact_3 : List UInt8 := dkwX5_binFact_3 ++ dktX5_binFact_4
def dkwX5_binFact_2 : List UInt8 := [42, 27, 182, 0, 102, 172, 42, 180, 0, 7, 17, 0, 154, 27, 96, 46, 172, 42, 27, 182, 0, 79, 42, 27]
abbrev dktX5_binFact_2 : List UInt8 := dkwX5_binFact_2 ++ dktX5_binFact_3
def dkwX5_binFact_1 : List UInt8 := [170, 0, 0, 0, 0, 0, 75, 0, 0, 0, 0, 0, 0, 0, 2, 0, 0, 0, 27, 0, 0, 0, 33, 0, 0, 0, 44]
abbrev dktX5_binFact_1 : List UInt8 := dkwX5_binFact_1 ++ dktX5_binFact_2
def dkwX5_binFact_0 : List UInt8 := [28]
abbrev dktX5_binFact_0 : List UInt8 := dkwX5_binFact_0 ++ dktX5_binFact_1
theorem dksX5_binFact_0 : cX5_binFact.data.toList.drop 0 = dktX5_binFact_0 := by decide +kernel
theorem dksX5_binFact_1 : cX5_binFact.data.toList.drop 1 = dktX5_binFact_1 := dk_seg dksX5_binFact_0 1 rfl rfl
theorem dksX5_binFact_2 : cX5_binFact.data.toList.drop 28 = dktX5_binFact_2 := dk_seg dksX5_binFact_1 27 rfl rfl
theorem dksX5_binFact_3 : cX5_binFact.data.toList.drop 52 = dktX5_binFact_3 := dk_seg dksX5_binFact_2 24 rfl rfl
theorem dksX5_binFact_4 : cX5_binFact.data.toList.drop 76 = dktX5_binFact_4 := dk_seg dksX5_binFact_3 24 rfl rfl
theorem dX5_binFact_0 : decode cX5_binFact 0 = .ok (.iload_n 2, 1) := dk_28 (dk_at dksX5_binFact_0 0 rfl rfl)
theorem dX5_binFact_1 : decode cX5_binFact 1 = .ok (.tableswitch 75 0 2 #[27, 33, 44], 27) := by decide +kernel
theorem dX5_binFact_28 : decode cX5_binFact 28 = .ok (.aload_n 0, 1) := dk_42 (dk_at dksX5_binFact_2 0 rfl rfl)
theorem dX5_binFact_29 : decode cX5_binFact 29 = .ok (.iload_n 1, 1) := dk_27 (dk_at dksX5_binFact_2 1 rfl rfl)
theorem dX5_binFact_30 : decode cX5_binFact 30 = .ok (.invokevirtual 102, 3) := dk_182 0 102 (dk_at dksX5_binFact_2 2 rfl rfl)
theorem dX5_binFact_33 : decode cX5_binFact 33 = .ok (.ireturn, 1) := dk_172 (dk_at dksX5_binFact_2 5 rfl rfl)
theorem dX5_binFact_34 : decode cX5_binFact 34 = .ok (.aload_n 0, 1) := dk_42 (dk_at dksX5_binFact_2 6 rfl rfl)
theorem dX5_binFact_35 : decode cX5_binFact 35 = .ok (.getfield 7, 3) := dk_180 0 7 (dk_at dksX5_binFact_2 7 rfl rfl)
theorem dX5_binFact_38 : decode cX5_binFact 38 = .ok (.sipush 154, 3) := dk_17 0 154 (dk_at dksX5_binFact_2 10 rfl rfl)
theorem dX5_binFact_41 : decode cX5_binFact 41 = .ok (.iload_n 1, 1) := dk_27 (dk_at dksX5_binFact_2 13 rfl rfl)
theorem dX5_binFact_42 : decode cX5_binFact 42 = .ok (.iadd, 1) := dk_96 (dk_at dksX5_binFact_2 14 rfl rfl)
theorem dX5_binFact_43 : decode cX5_binFact 43 = .ok (.iaload, 1) := dk_46 (dk_at dksX5_binFact_2 15 rfl rfl)
theorem dX5_binFact_44 : decode cX5_binFact 44 = .ok (.ireturn, 1) := dk_172 (dk_at dksX5_binFact_2 16 rfl rfl)
theorem dX5_binFact_45 : decode cX5_binFact 45 = .ok (.aload_n 0, 1) := dk_42 (dk_at dksX5_binFact_2 17 rfl rfl)
theorem dX5_binFact_46 : decode cX5_binFact 46 = .ok (.iload_n 1, 1) := dk_27 (dk_at dksX5_binFact_2 18 rfl rfl)
theorem dX5_binFact_47 : decode cX5_binFact 47 = .ok (.invokevirtual 79, 3) := dk_182 0 79 (dk_at dksX5_binFact_2 19 rfl rfl)
theorem dX5_binFact_50 : decode cX5_binFact 50 = .ok (.aload_n 0, 1) := dk_42 (dk_at dksX5_binFact_2 22 rfl rfl)
theorem dX5_binFact_51 : decode cX5_binFact 51 = .ok (.iload_n 1, 1) := dk_27 (dk_at dksX5_binFact_2 23 rfl rfl)
theorem dX5_binFact_52 : decode cX5_binFact 52 = .ok (.invokevirtual 95, 3) := dk_182 0 95 (dk_at dksX5_binFact_3 0 rfl rfl)
theorem dX5_binFact_55 : decode cX5_binFact 55 = .ok (.ifCond .eq 19, 3) := dk_153 0 19 (dk_at dksX5_binFact_3 3 rfl rfl)
theorem dX5_binFact_58 : decode cX5_binFact 58 = .ok (.aload_n 0, 1) := dk_42 (dk_at dksX5_binFact_3 6 rfl rfl)
theorem dX5_binFact_59 : decode cX5_binFact 59 = .ok (.aload_n 0, 1) := dk_42 (dk_at dksX5_binFact_3 7 rfl rfl)
theorem dX5_binFact_60 : decode cX5_binFact 60 = .ok (.iconst 0, 1) := dk_3 (dk_at dksX5_binFact_3 8 rfl rfl)
theorem dX5_binFact_61 : decode cX5_binFact 61 = .ok (.aload_n 0, 1) := dk_42 (dk_at dksX5_binFact_3 9 rfl rfl)
theorem dX5_binFact_62 : decode cX5_binFact 62 = .ok (.getfield 58, 3) := dk_180 0 58 (dk_at dksX5_binFact_3 10 rfl rfl)
theorem dX5_binFact_65 : decode cX5_binFact 65 = .ok (.invokevirtual 91, 3) := dk_182 0 91 (dk_at dksX5_binFact_3 13 rfl rfl)
theorem dX5_binFact_68 : decode cX5_binFact 68 = .ok (.invokevirtual 171, 3) := dk_182 0 171 (dk_at dksX5_binFact_3 16 rfl rfl)
theorem dX5_binFact_71 : decode cX5_binFact 71 = .ok (.goto 4, 3) := dk_167 0 4 (dk_at dksX5_binFact_3 19 rfl rfl)
theorem dX5_binFact_74 : decode cX5_binFact 74 = .ok (.iconst (-1), 1) := dk_2 (dk_at dksX5_binFact_3 22 rfl rfl)
theorem dX5_binFact_75 : decode cX5_binFact 75 = .ok (.ireturn, 1) := dk_172 (dk_at dksX5_binFact_3 23 rfl rfl)
theorem dX5_binFact_76 : decode cX5_binFact 76 = .ok (.aload_n 0, 1) := dk_42 (dk_at dksX5_binFact_4 0 rfl rfl)
theorem dX5_binFact_77 : decode cX5_binFact 77 = .ok (.iload_n 1, 1) := dk_27 (dk_at dksX5_binFact_4 1 rfl rfl)
theorem dX5_binFact_78 : decode cX5_binFact 78 = .ok (.invokevirtual 95, 3) := dk_182 0 95 (dk_at dksX5_binFact_4 2 rfl rfl)
theorem dX5_binFact_81 : decode cX5_binFact 81 = .ok (.ifCond .eq 11, 3) := dk_153 0 11 (dk_at dksX5_binFact_4 5 rfl rfl)
theorem dX5_binFact_84 : decode cX5_binFact 84 = .ok (.aload_n 0, 1) := dk_42 (dk_at dksX5_binFact_4 8 rfl rfl)
theorem dX5_binFact_85 : decode cX5_binFact 85 = .ok (.iload_n 1, 1) := dk_27 (dk_at dksX5_binFact_4 9 rfl rfl)
theorem dX5_binFact_86 : decode cX5_binFact 86 = .ok (.invokevirtual 174, 3) := dk_182 0 174 (dk_at dksX5_binFact_4 10 rfl rfl)
theorem dX5_binFact_89 : decode cX5_binFact 89 = .ok (.goto 4, 3) := dk_167 0 4 (dk_at dksX5_binFact_4 13 rfl rfl)
theorem dX5_binFact_92 : decode cX5_binFact 92 = .ok (.iconst 0, 1) := dk_3 (dk_at dksX5_binFact_4 16 rfl rfl)
theorem dX5_binFact_93 : decode cX5_binFact 93 = .ok (.ireturn, 1) := dk_172 (dk_at dksX5_binFact_4 17 rfl rfl)
abbrev cX5_keyAt : ByteArray := prog_15_method_15_code
def yX5_keyAt : MethodName := ⟨RX5, "keyAt", "(I)I"⟩
def dkwX5_keyAt_0 : List UInt8 := [27, 2, 160, 0, 7, 2, 167, 0, 9, 42, 180, 0, 40, 27, 46, 172]
abbrev dktX5_keyAt_0 : List UInt8 := dkwX5_keyAt_0 ++ []
theorem dksX5_keyAt_0 : cX5_keyAt.data.toList.drop 0 = dktX5_keyAt_0 := by decide +kernel
theorem dX5_keyAt_0 : decode cX5_keyAt 0 = .ok (.iload_n 1, 1) := dk_27 (dk_at dksX5_keyAt_0 0 rfl rfl)
theorem dX5_keyAt_1 : decode cX5_keyAt 1 = .ok (.iconst (-1), 1) := dk_2 (dk_at dksX5_keyAt_0 1 rfl rfl)
theorem dX5_keyAt_2 : decode cX5_keyAt 2 = .ok (.if_icmp .ne 7, 3) := dk_160 0 7 (dk_at dksX5_keyAt_0 2 rfl rfl)
theorem dX5_keyAt_5 : decode cX5_keyAt 5 = .ok (.iconst (-1), 1) := dk_2 (dk_at dksX5_keyAt_0 5 rfl rfl)
theorem dX5_keyAt_6 : decode cX5_keyAt 6 = .ok (.goto 9, 3) := dk_167 0 9 (dk_at dksX5_keyAt_0 6 rfl rfl)
theorem dX5_keyAt_9 : decode cX5_keyAt 9 = .ok (.aload_n 0, 1) := dk_42 (dk_at dksX5_keyAt_0 9 rfl rfl)
theorem dX5_keyAt_10 : decode cX5_keyAt 10 = .ok (.getfield 40, 3) := dk_180 0 40 (dk_at dksX5_keyAt_0 10 rfl rfl)
theorem dX5_keyAt_13 : decode cX5_keyAt 13 = .ok (.iload_n 1, 1) := dk_27 (dk_at dksX5_keyAt_0 13 rfl rfl)
theorem dX5_keyAt_14 : decode cX5_keyAt 14 = .ok (.iaload, 1) := dk_46 (dk_at dksX5_keyAt_0 14 rfl rfl)
theorem dX5_keyAt_15 : decode cX5_keyAt 15 = .ok (.ireturn, 1) := dk_172 (dk_at dksX5_keyAt_0 15 rfl rfl)
abbrev cX5_deepest : ByteArray := prog_15_method_45_code
def yX5_deepest : MethodName := ⟨RX5, "deepest", "(I)I"⟩
def dkwX5_deepest_2 : List UInt8 := [132, 4, 1, 167, 255, 220, 29, 172]
abbrev dktX5_deepest_2 : List UInt8 := dkwX5_deepest_2 ++ []
def dkwX5_deepest_1 : List UInt8 := [180, 0, 40, 21, 4, 46, 182, 0, 99, 54, 5, 21, 5, 29, 164, 0, 8, 21, 5, 167, 0, 4, 29, 62]
abbrev dktX5_deepest_1 : List UInt8 := dkwX5_deepest_1 ++ dktX5_deepest_2
def dkwX5_deepest_0 : List UInt8 := [42, 27, 182, 0, 79, 42, 180, 0, 58, 61, 3, 62, 3, 54, 4, 21, 4, 28, 162, 0, 36, 42, 27, 42]
abbrev dktX5_deepest_0 : List UInt8 := dkwX5_deepest_0 ++ dktX5_deepest_1
theorem dksX5_deepest_0 : cX5_deepest.data.toList.drop 0 = dktX5_deepest_0 := by decide +kernel
theorem dksX5_deepest_1 : cX5_deepest.data.toList.drop 24 = dktX5_deepest_1 := dk_seg dksX5_deepest_0 24 rfl rfl
theorem dksX5_deepest_2 : cX5_deepest.data.toList.drop 48 = dktX5_deepest_2 := dk_seg dksX5_deepest_1 24 rfl rfl
theorem dX5_deepest_0 : decode cX5_deepest 0 = .ok (.aload_n 0, 1) := dk_42 (dk_at dksX5_deepest_0 0 rfl rfl)
theorem dX5_deepest_1 : decode cX5_deepest 1 = .ok (.iload_n 1, 1) := dk_27 (dk_at dksX5_deepest_0 1 rfl rfl)
theorem dX5_deepest_2 : decode cX5_deepest 2 = .ok (.invokevirtual 79, 3) := dk_182 0 79 (dk_at dksX5_deepest_0 2 rfl rfl)
theorem dX5_deepest_5 : decode cX5_deepest 5 = .ok (.aload_n 0, 1) := dk_42 (dk_at dksX5_deepest_0 5 rfl rfl)
theorem dX5_deepest_6 : decode cX5_deepest 6 = .ok (.getfield 58, 3) := dk_180 0 58 (dk_at dksX5_deepest_0 6 rfl rfl)
theorem dX5_deepest_9 : decode cX5_deepest 9 = .ok (.istore_n 2, 1) := dk_61 (dk_at dksX5_deepest_0 9 rfl rfl)
theorem dX5_deepest_10 : decode cX5_deepest 10 = .ok (.iconst 0, 1) := dk_3 (dk_at dksX5_deepest_0 10 rfl rfl)
theorem dX5_deepest_11 : decode cX5_deepest 11 = .ok (.istore_n 3, 1) := dk_62 (dk_at dksX5_deepest_0 11 rfl rfl)
theorem dX5_deepest_12 : decode cX5_deepest 12 = .ok (.iconst 0, 1) := dk_3 (dk_at dksX5_deepest_0 12 rfl rfl)
theorem dX5_deepest_13 : decode cX5_deepest 13 = .ok (.istore 4, 2) := dk_54 4 (dk_at dksX5_deepest_0 13 rfl rfl)
theorem dX5_deepest_15 : decode cX5_deepest 15 = .ok (.iload 4, 2) := dk_21 4 (dk_at dksX5_deepest_0 15 rfl rfl)
theorem dX5_deepest_17 : decode cX5_deepest 17 = .ok (.iload_n 2, 1) := dk_28 (dk_at dksX5_deepest_0 17 rfl rfl)
theorem dX5_deepest_18 : decode cX5_deepest 18 = .ok (.if_icmp .ge 36, 3) := dk_162 0 36 (dk_at dksX5_deepest_0 18 rfl rfl)
theorem dX5_deepest_21 : decode cX5_deepest 21 = .ok (.aload_n 0, 1) := dk_42 (dk_at dksX5_deepest_0 21 rfl rfl)
theorem dX5_deepest_22 : decode cX5_deepest 22 = .ok (.iload_n 1, 1) := dk_27 (dk_at dksX5_deepest_0 22 rfl rfl)
theorem dX5_deepest_23 : decode cX5_deepest 23 = .ok (.aload_n 0, 1) := dk_42 (dk_at dksX5_deepest_0 23 rfl rfl)
theorem dX5_deepest_24 : decode cX5_deepest 24 = .ok (.getfield 40, 3) := dk_180 0 40 (dk_at dksX5_deepest_1 0 rfl rfl)
theorem dX5_deepest_27 : decode cX5_deepest 27 = .ok (.iload 4, 2) := dk_21 4 (dk_at dksX5_deepest_1 3 rfl rfl)
theorem dX5_deepest_29 : decode cX5_deepest 29 = .ok (.iaload, 1) := dk_46 (dk_at dksX5_deepest_1 5 rfl rfl)
theorem dX5_deepest_30 : decode cX5_deepest 30 = .ok (.invokevirtual 99, 3) := dk_182 0 99 (dk_at dksX5_deepest_1 6 rfl rfl)
theorem dX5_deepest_33 : decode cX5_deepest 33 = .ok (.istore 5, 2) := dk_54 5 (dk_at dksX5_deepest_1 9 rfl rfl)
theorem dX5_deepest_35 : decode cX5_deepest 35 = .ok (.iload 5, 2) := dk_21 5 (dk_at dksX5_deepest_1 11 rfl rfl)
theorem dX5_deepest_37 : decode cX5_deepest 37 = .ok (.iload_n 3, 1) := dk_29 (dk_at dksX5_deepest_1 13 rfl rfl)
theorem dX5_deepest_38 : decode cX5_deepest 38 = .ok (.if_icmp .le 8, 3) := dk_164 0 8 (dk_at dksX5_deepest_1 14 rfl rfl)
theorem dX5_deepest_41 : decode cX5_deepest 41 = .ok (.iload 5, 2) := dk_21 5 (dk_at dksX5_deepest_1 17 rfl rfl)
theorem dX5_deepest_43 : decode cX5_deepest 43 = .ok (.goto 4, 3) := dk_167 0 4 (dk_at dksX5_deepest_1 19 rfl rfl)
theorem dX5_deepest_46 : decode cX5_deepest 46 = .ok (.iload_n 3, 1) := dk_29 (dk_at dksX5_deepest_1 22 rfl rfl)
theorem dX5_deepest_47 : decode cX5_deepest 47 = .ok (.istore_n 3, 1) := dk_62 (dk_at dksX5_deepest_1 23 rfl rfl)
theorem dX5_deepest_48 : decode cX5_deepest 48 = .ok (.iinc 4 1, 3) := dk_132 4 1 (dk_at dksX5_deepest_2 0 rfl rfl)
theorem dX5_deepest_51 : decode cX5_deepest 51 = .ok (.goto (-36), 3) := dk_167 255 220 (dk_at dksX5_deepest_2 3 rfl rfl)
theorem dX5_deepest_54 : decode cX5_deepest 54 = .ok (.iload_n 3, 1) := dk_29 (dk_at dksX5_deepest_2 6 rfl rfl)
theorem dX5_deepest_55 : decode cX5_deepest 55 = .ok (.ireturn, 1) := dk_172 (dk_at dksX5_deepest_2 7 rfl rfl)
abbrev cX5_row : ByteArray := prog_15_method_49_code
def yX5_row : MethodName := ⟨RX5, "row", "(II)I"⟩
def dkwX5_row_1 : List UInt8 := [182, 0, 180, 167, 0, 9, 42, 16, 254, 182, 0, 137, 172]
abbrev dktX5_row_1 : List UInt8 := dkwX5_row_1 ++ []
def dkwX5_row_0 : List UInt8 := [27, 3, 42, 180, 0, 7, 4, 46, 4, 100, 184, 0, 44, 153, 0, 16, 28, 155, 0, 12, 42, 27, 28]
abbrev dktX5_row_0 : List UInt8 := dkwX5_row_0 ++ dktX5_row_1
theorem dksX5_row_0 : cX5_row.data.toList.drop 0 = dktX5_row_0 := by decide +kernel
theorem dksX5_row_1 : cX5_row.data.toList.drop 23 = dktX5_row_1 := dk_seg dksX5_row_0 23 rfl rfl
theorem dX5_row_0 : decode cX5_row 0 = .ok (.iload_n 1, 1) := dk_27 (dk_at dksX5_row_0 0 rfl rfl)
theorem dX5_row_1 : decode cX5_row 1 = .ok (.iconst 0, 1) := dk_3 (dk_at dksX5_row_0 1 rfl rfl)
theorem dX5_row_2 : decode cX5_row 2 = .ok (.aload_n 0, 1) := dk_42 (dk_at dksX5_row_0 2 rfl rfl)
theorem dX5_row_3 : decode cX5_row 3 = .ok (.getfield 7, 3) := dk_180 0 7 (dk_at dksX5_row_0 3 rfl rfl)
theorem dX5_row_6 : decode cX5_row 6 = .ok (.iconst 1, 1) := dk_4 (dk_at dksX5_row_0 6 rfl rfl)
theorem dX5_row_7 : decode cX5_row 7 = .ok (.iaload, 1) := dk_46 (dk_at dksX5_row_0 7 rfl rfl)
theorem dX5_row_8 : decode cX5_row 8 = .ok (.iconst 1, 1) := dk_4 (dk_at dksX5_row_0 8 rfl rfl)
theorem dX5_row_9 : decode cX5_row 9 = .ok (.isub, 1) := dk_100 (dk_at dksX5_row_0 9 rfl rfl)
theorem dX5_row_10 : decode cX5_row 10 = .ok (.invokestatic 44, 3) := dk_184 0 44 (dk_at dksX5_row_0 10 rfl rfl)
theorem dX5_row_13 : decode cX5_row 13 = .ok (.ifCond .eq 16, 3) := dk_153 0 16 (dk_at dksX5_row_0 13 rfl rfl)
theorem dX5_row_16 : decode cX5_row 16 = .ok (.iload_n 2, 1) := dk_28 (dk_at dksX5_row_0 16 rfl rfl)
theorem dX5_row_17 : decode cX5_row 17 = .ok (.ifCond .lt 12, 3) := dk_155 0 12 (dk_at dksX5_row_0 17 rfl rfl)
theorem dX5_row_20 : decode cX5_row 20 = .ok (.aload_n 0, 1) := dk_42 (dk_at dksX5_row_0 20 rfl rfl)
theorem dX5_row_21 : decode cX5_row 21 = .ok (.iload_n 1, 1) := dk_27 (dk_at dksX5_row_0 21 rfl rfl)
theorem dX5_row_22 : decode cX5_row 22 = .ok (.iload_n 2, 1) := dk_28 (dk_at dksX5_row_0 22 rfl rfl)
theorem dX5_row_23 : decode cX5_row 23 = .ok (.invokevirtual 180, 3) := dk_182 0 180 (dk_at dksX5_row_1 0 rfl rfl)
theorem dX5_row_26 : decode cX5_row 26 = .ok (.goto 9, 3) := dk_167 0 9 (dk_at dksX5_row_1 3 rfl rfl)
theorem dX5_row_29 : decode cX5_row 29 = .ok (.aload_n 0, 1) := dk_42 (dk_at dksX5_row_1 6 rfl rfl)
theorem dX5_row_30 : decode cX5_row 30 = .ok (.bipush (-2), 2) := dk_16 254 (dk_at dksX5_row_1 7 rfl rfl)
theorem dX5_row_32 : decode cX5_row 32 = .ok (.invokevirtual 137, 3) := dk_182 0 137 (dk_at dksX5_row_1 9 rfl rfl)
theorem dX5_row_35 : decode cX5_row 35 = .ok (.ireturn, 1) := dk_172 (dk_at dksX5_row_1 12 rfl rfl)
abbrev cX5_rowAt : ByteArray := prog_15_method_48_code
def yX5_rowAt : MethodName := ⟨RX5, "rowAt", "(II)I"⟩
def dkwX5_rowAt_1 : List UInt8 := [46, 96, 46, 167, 0, 4, 2, 172]
abbrev dktX5_rowAt_1 : List UInt8 := dkwX5_rowAt_1 ++ []
def dkwX5_rowAt_0 : List UInt8 := [42, 27, 182, 0, 64, 28, 42, 180, 0, 58, 162, 0, 20, 42, 180, 0, 7, 16, 7, 42, 180, 0, 37, 28]
abbrev dktX5_rowAt_0 : List UInt8 := dkwX5_rowAt_0 ++ dktX5_rowAt_1
theorem dksX5_rowAt_0 : cX5_rowAt.data.toList.drop 0 = dktX5_rowAt_0 := by decide +kernel
theorem dksX5_rowAt_1 : cX5_rowAt.data.toList.drop 24 = dktX5_rowAt_1 := dk_seg dksX5_rowAt_0 24 rfl rfl
theorem dX5_rowAt_0 : decode cX5_rowAt 0 = .ok (.aload_n 0, 1) := dk_42 (dk_at dksX5_rowAt_0 0 rfl rfl)
theorem dX5_rowAt_1 : decode cX5_rowAt 1 = .ok (.iload_n 1, 1) := dk_27 (dk_at dksX5_rowAt_0 1 rfl rfl)
theorem dX5_rowAt_2 : decode cX5_rowAt 2 = .ok (.invokevirtual 64, 3) := dk_182 0 64 (dk_at dksX5_rowAt_0 2 rfl rfl)
theorem dX5_rowAt_5 : decode cX5_rowAt 5 = .ok (.iload_n 2, 1) := dk_28 (dk_at dksX5_rowAt_0 5 rfl rfl)
theorem dX5_rowAt_6 : decode cX5_rowAt 6 = .ok (.aload_n 0, 1) := dk_42 (dk_at dksX5_rowAt_0 6 rfl rfl)
theorem dX5_rowAt_7 : decode cX5_rowAt 7 = .ok (.getfield 58, 3) := dk_180 0 58 (dk_at dksX5_rowAt_0 7 rfl rfl)
theorem dX5_rowAt_10 : decode cX5_rowAt 10 = .ok (.if_icmp .ge 20, 3) := dk_162 0 20 (dk_at dksX5_rowAt_0 10 rfl rfl)
theorem dX5_rowAt_13 : decode cX5_rowAt 13 = .ok (.aload_n 0, 1) := dk_42 (dk_at dksX5_rowAt_0 13 rfl rfl)
theorem dX5_rowAt_14 : decode cX5_rowAt 14 = .ok (.getfield 7, 3) := dk_180 0 7 (dk_at dksX5_rowAt_0 14 rfl rfl)
theorem dX5_rowAt_17 : decode cX5_rowAt 17 = .ok (.bipush 7, 2) := dk_16 7 (dk_at dksX5_rowAt_0 17 rfl rfl)
theorem dX5_rowAt_19 : decode cX5_rowAt 19 = .ok (.aload_n 0, 1) := dk_42 (dk_at dksX5_rowAt_0 19 rfl rfl)
theorem dX5_rowAt_20 : decode cX5_rowAt 20 = .ok (.getfield 37, 3) := dk_180 0 37 (dk_at dksX5_rowAt_0 20 rfl rfl)
theorem dX5_rowAt_23 : decode cX5_rowAt 23 = .ok (.iload_n 2, 1) := dk_28 (dk_at dksX5_rowAt_0 23 rfl rfl)
theorem dX5_rowAt_24 : decode cX5_rowAt 24 = .ok (.iaload, 1) := dk_46 (dk_at dksX5_rowAt_1 0 rfl rfl)
theorem dX5_rowAt_25 : decode cX5_rowAt 25 = .ok (.iadd, 1) := dk_96 (dk_at dksX5_rowAt_1 1 rfl rfl)
theorem dX5_rowAt_26 : decode cX5_rowAt 26 = .ok (.iaload, 1) := dk_46 (dk_at dksX5_rowAt_1 2 rfl rfl)
theorem dX5_rowAt_27 : decode cX5_rowAt 27 = .ok (.goto 4, 3) := dk_167 0 4 (dk_at dksX5_rowAt_1 3 rfl rfl)
theorem dX5_rowAt_30 : decode cX5_rowAt 30 = .ok (.iconst (-1), 1) := dk_2 (dk_at dksX5_rowAt_1 6 rfl rfl)
theorem dX5_rowAt_31 : decode cX5_rowAt 31 = .ok (.ireturn, 1) := dk_172 (dk_at dksX5_rowAt_1 7 rfl rfl)
abbrev cX5_node : ByteArray := prog_15_method_51_code
def yX5_node : MethodName := ⟨RX5, "node", "(II)I"⟩
def dkwX5_node_2 : List UInt8 := [182, 0, 137, 167, 0, 9, 42, 27, 28, 182, 0, 183, 172]
abbrev dktX5_node_2 : List UInt8 := dkwX5_node_2 ++ []
def dkwX5_node_1 : List UInt8 := [27, 182, 0, 121, 2, 159, 0, 15, 42, 42, 27, 182, 0, 61, 182, 0, 95, 154, 0, 12, 42, 16, 253]
abbrev dktX5_node_1 : List UInt8 := dkwX5_node_1 ++ dktX5_node_2
def dkwX5_node_0 : List UInt8 := [27, 184, 0, 130, 153, 0, 12, 28, 3, 6, 184, 0, 44, 154, 0, 10, 42, 16, 254, 182, 0, 137, 172, 42]
abbrev dktX5_node_0 : List UInt8 := dkwX5_node_0 ++ dktX5_node_1
theorem dksX5_node_0 : cX5_node.data.toList.drop 0 = dktX5_node_0 := by decide +kernel
theorem dksX5_node_1 : cX5_node.data.toList.drop 24 = dktX5_node_1 := dk_seg dksX5_node_0 24 rfl rfl
theorem dksX5_node_2 : cX5_node.data.toList.drop 47 = dktX5_node_2 := dk_seg dksX5_node_1 23 rfl rfl
theorem dX5_node_0 : decode cX5_node 0 = .ok (.iload_n 1, 1) := dk_27 (dk_at dksX5_node_0 0 rfl rfl)
theorem dX5_node_1 : decode cX5_node 1 = .ok (.invokestatic 130, 3) := dk_184 0 130 (dk_at dksX5_node_0 1 rfl rfl)
theorem dX5_node_4 : decode cX5_node 4 = .ok (.ifCond .eq 12, 3) := dk_153 0 12 (dk_at dksX5_node_0 4 rfl rfl)
theorem dX5_node_7 : decode cX5_node 7 = .ok (.iload_n 2, 1) := dk_28 (dk_at dksX5_node_0 7 rfl rfl)
theorem dX5_node_8 : decode cX5_node 8 = .ok (.iconst 0, 1) := dk_3 (dk_at dksX5_node_0 8 rfl rfl)
theorem dX5_node_9 : decode cX5_node 9 = .ok (.iconst 3, 1) := dk_6 (dk_at dksX5_node_0 9 rfl rfl)
theorem dX5_node_10 : decode cX5_node 10 = .ok (.invokestatic 44, 3) := dk_184 0 44 (dk_at dksX5_node_0 10 rfl rfl)
theorem dX5_node_13 : decode cX5_node 13 = .ok (.ifCond .ne 10, 3) := dk_154 0 10 (dk_at dksX5_node_0 13 rfl rfl)
theorem dX5_node_16 : decode cX5_node 16 = .ok (.aload_n 0, 1) := dk_42 (dk_at dksX5_node_0 16 rfl rfl)
theorem dX5_node_17 : decode cX5_node 17 = .ok (.bipush (-2), 2) := dk_16 254 (dk_at dksX5_node_0 17 rfl rfl)
theorem dX5_node_19 : decode cX5_node 19 = .ok (.invokevirtual 137, 3) := dk_182 0 137 (dk_at dksX5_node_0 19 rfl rfl)
theorem dX5_node_22 : decode cX5_node 22 = .ok (.ireturn, 1) := dk_172 (dk_at dksX5_node_0 22 rfl rfl)
theorem dX5_node_23 : decode cX5_node 23 = .ok (.aload_n 0, 1) := dk_42 (dk_at dksX5_node_0 23 rfl rfl)
theorem dX5_node_24 : decode cX5_node 24 = .ok (.iload_n 1, 1) := dk_27 (dk_at dksX5_node_1 0 rfl rfl)
theorem dX5_node_25 : decode cX5_node 25 = .ok (.invokevirtual 121, 3) := dk_182 0 121 (dk_at dksX5_node_1 1 rfl rfl)
theorem dX5_node_28 : decode cX5_node 28 = .ok (.iconst (-1), 1) := dk_2 (dk_at dksX5_node_1 4 rfl rfl)
theorem dX5_node_29 : decode cX5_node 29 = .ok (.if_icmp .eq 15, 3) := dk_159 0 15 (dk_at dksX5_node_1 5 rfl rfl)
theorem dX5_node_32 : decode cX5_node 32 = .ok (.aload_n 0, 1) := dk_42 (dk_at dksX5_node_1 8 rfl rfl)
theorem dX5_node_33 : decode cX5_node 33 = .ok (.aload_n 0, 1) := dk_42 (dk_at dksX5_node_1 9 rfl rfl)
theorem dX5_node_34 : decode cX5_node 34 = .ok (.iload_n 1, 1) := dk_27 (dk_at dksX5_node_1 10 rfl rfl)
theorem dX5_node_35 : decode cX5_node 35 = .ok (.invokevirtual 61, 3) := dk_182 0 61 (dk_at dksX5_node_1 11 rfl rfl)
theorem dX5_node_38 : decode cX5_node 38 = .ok (.invokevirtual 95, 3) := dk_182 0 95 (dk_at dksX5_node_1 14 rfl rfl)
theorem dX5_node_41 : decode cX5_node 41 = .ok (.ifCond .ne 12, 3) := dk_154 0 12 (dk_at dksX5_node_1 17 rfl rfl)
theorem dX5_node_44 : decode cX5_node 44 = .ok (.aload_n 0, 1) := dk_42 (dk_at dksX5_node_1 20 rfl rfl)
theorem dX5_node_45 : decode cX5_node 45 = .ok (.bipush (-3), 2) := dk_16 253 (dk_at dksX5_node_1 21 rfl rfl)
theorem dX5_node_47 : decode cX5_node 47 = .ok (.invokevirtual 137, 3) := dk_182 0 137 (dk_at dksX5_node_2 0 rfl rfl)
theorem dX5_node_50 : decode cX5_node 50 = .ok (.goto 9, 3) := dk_167 0 9 (dk_at dksX5_node_2 3 rfl rfl)
theorem dX5_node_53 : decode cX5_node 53 = .ok (.aload_n 0, 1) := dk_42 (dk_at dksX5_node_2 6 rfl rfl)
theorem dX5_node_54 : decode cX5_node 54 = .ok (.iload_n 1, 1) := dk_27 (dk_at dksX5_node_2 7 rfl rfl)
theorem dX5_node_55 : decode cX5_node 55 = .ok (.iload_n 2, 1) := dk_28 (dk_at dksX5_node_2 8 rfl rfl)
theorem dX5_node_56 : decode cX5_node 56 = .ok (.invokevirtual 183, 3) := dk_182 0 183 (dk_at dksX5_node_2 9 rfl rfl)
theorem dX5_node_59 : decode cX5_node 59 = .ok (.ireturn, 1) := dk_172 (dk_at dksX5_node_2 12 rfl rfl)
abbrev cX5_nodeFact : ByteArray := prog_15_method_50_code
def yX5_nodeFact : MethodName := ⟨RX5, "nodeFact", "(II)I"⟩
def dkwX5_nodeFact_3 : List UInt8 := [5, 160, 0, 14, 42, 42, 180, 0, 88, 182, 0, 171, 167, 0, 4, 29, 172]
abbrev dktX5_nodeFact_3 : List UInt8 := dkwX5_nodeFact_3 ++ []
def dkwX5_nodeFact_2 : List UInt8 := [4, 160, 0, 22, 42, 42, 21, 4, 4, 96, 42, 180, 0, 85, 182, 0, 91, 182, 0, 171, 167, 0, 20, 28]
abbrev dktX5_nodeFact_2 : List UInt8 := dkwX5_nodeFact_2 ++ dktX5_nodeFact_3
def dkwX5_nodeFact_1 : List UInt8 := [54, 4, 28, 154, 0, 20, 42, 42, 42, 180, 0, 82, 21, 4, 182, 0, 91, 182, 0, 171, 167, 0, 44, 28]
abbrev dktX5_nodeFact_1 : List UInt8 := dkwX5_nodeFact_1 ++ dktX5_nodeFact_2
def dkwX5_nodeFact_0 : List UInt8 := [42, 42, 27, 182, 0, 61, 27, 182, 0, 99, 62, 42, 42, 180, 0, 82, 42, 180, 0, 85, 182, 0, 91]
abbrev dktX5_nodeFact_0 : List UInt8 := dkwX5_nodeFact_0 ++ dktX5_nodeFact_1
theorem dksX5_nodeFact_0 : cX5_nodeFact.data.toList.drop 0 = dktX5_nodeFact_0 := by decide +kernel
theorem dksX5_nodeFact_1 : cX5_nodeFact.data.toList.drop 23 = dktX5_nodeFact_1 := dk_seg dksX5_nodeFact_0 23 rfl rfl
theorem dksX5_nodeFact_2 : cX5_nodeFact.data.toList.drop 47 = dktX5_nodeFact_2 := dk_seg dksX5_nodeFact_1 24 rfl rfl
theorem dksX5_nodeFact_3 : cX5_nodeFact.data.toList.drop 71 = dktX5_nodeFact_3 := dk_seg dksX5_nodeFact_2 24 rfl rfl
theorem dX5_nodeFact_0 : decode cX5_nodeFact 0 = .ok (.aload_n 0, 1) := dk_42 (dk_at dksX5_nodeFact_0 0 rfl rfl)
theorem dX5_nodeFact_1 : decode cX5_nodeFact 1 = .ok (.aload_n 0, 1) := dk_42 (dk_at dksX5_nodeFact_0 1 rfl rfl)
theorem dX5_nodeFact_2 : decode cX5_nodeFact 2 = .ok (.iload_n 1, 1) := dk_27 (dk_at dksX5_nodeFact_0 2 rfl rfl)
theorem dX5_nodeFact_3 : decode cX5_nodeFact 3 = .ok (.invokevirtual 61, 3) := dk_182 0 61 (dk_at dksX5_nodeFact_0 3 rfl rfl)
theorem dX5_nodeFact_6 : decode cX5_nodeFact 6 = .ok (.iload_n 1, 1) := dk_27 (dk_at dksX5_nodeFact_0 6 rfl rfl)
theorem dX5_nodeFact_7 : decode cX5_nodeFact 7 = .ok (.invokevirtual 99, 3) := dk_182 0 99 (dk_at dksX5_nodeFact_0 7 rfl rfl)
theorem dX5_nodeFact_10 : decode cX5_nodeFact 10 = .ok (.istore_n 3, 1) := dk_62 (dk_at dksX5_nodeFact_0 10 rfl rfl)
theorem dX5_nodeFact_11 : decode cX5_nodeFact 11 = .ok (.aload_n 0, 1) := dk_42 (dk_at dksX5_nodeFact_0 11 rfl rfl)
theorem dX5_nodeFact_12 : decode cX5_nodeFact 12 = .ok (.aload_n 0, 1) := dk_42 (dk_at dksX5_nodeFact_0 12 rfl rfl)
theorem dX5_nodeFact_13 : decode cX5_nodeFact 13 = .ok (.getfield 82, 3) := dk_180 0 82 (dk_at dksX5_nodeFact_0 13 rfl rfl)
theorem dX5_nodeFact_16 : decode cX5_nodeFact 16 = .ok (.aload_n 0, 1) := dk_42 (dk_at dksX5_nodeFact_0 16 rfl rfl)
theorem dX5_nodeFact_17 : decode cX5_nodeFact 17 = .ok (.getfield 85, 3) := dk_180 0 85 (dk_at dksX5_nodeFact_0 17 rfl rfl)
theorem dX5_nodeFact_20 : decode cX5_nodeFact 20 = .ok (.invokevirtual 91, 3) := dk_182 0 91 (dk_at dksX5_nodeFact_0 20 rfl rfl)
theorem dX5_nodeFact_23 : decode cX5_nodeFact 23 = .ok (.istore 4, 2) := dk_54 4 (dk_at dksX5_nodeFact_1 0 rfl rfl)
theorem dX5_nodeFact_25 : decode cX5_nodeFact 25 = .ok (.iload_n 2, 1) := dk_28 (dk_at dksX5_nodeFact_1 2 rfl rfl)
theorem dX5_nodeFact_26 : decode cX5_nodeFact 26 = .ok (.ifCond .ne 20, 3) := dk_154 0 20 (dk_at dksX5_nodeFact_1 3 rfl rfl)
theorem dX5_nodeFact_29 : decode cX5_nodeFact 29 = .ok (.aload_n 0, 1) := dk_42 (dk_at dksX5_nodeFact_1 6 rfl rfl)
theorem dX5_nodeFact_30 : decode cX5_nodeFact 30 = .ok (.aload_n 0, 1) := dk_42 (dk_at dksX5_nodeFact_1 7 rfl rfl)
theorem dX5_nodeFact_31 : decode cX5_nodeFact 31 = .ok (.aload_n 0, 1) := dk_42 (dk_at dksX5_nodeFact_1 8 rfl rfl)
theorem dX5_nodeFact_32 : decode cX5_nodeFact 32 = .ok (.getfield 82, 3) := dk_180 0 82 (dk_at dksX5_nodeFact_1 9 rfl rfl)
theorem dX5_nodeFact_35 : decode cX5_nodeFact 35 = .ok (.iload 4, 2) := dk_21 4 (dk_at dksX5_nodeFact_1 12 rfl rfl)
theorem dX5_nodeFact_37 : decode cX5_nodeFact 37 = .ok (.invokevirtual 91, 3) := dk_182 0 91 (dk_at dksX5_nodeFact_1 14 rfl rfl)
theorem dX5_nodeFact_40 : decode cX5_nodeFact 40 = .ok (.invokevirtual 171, 3) := dk_182 0 171 (dk_at dksX5_nodeFact_1 17 rfl rfl)
theorem dX5_nodeFact_43 : decode cX5_nodeFact 43 = .ok (.goto 44, 3) := dk_167 0 44 (dk_at dksX5_nodeFact_1 20 rfl rfl)
theorem dX5_nodeFact_46 : decode cX5_nodeFact 46 = .ok (.iload_n 2, 1) := dk_28 (dk_at dksX5_nodeFact_1 23 rfl rfl)
theorem dX5_nodeFact_47 : decode cX5_nodeFact 47 = .ok (.iconst 1, 1) := dk_4 (dk_at dksX5_nodeFact_2 0 rfl rfl)
theorem dX5_nodeFact_48 : decode cX5_nodeFact 48 = .ok (.if_icmp .ne 22, 3) := dk_160 0 22 (dk_at dksX5_nodeFact_2 1 rfl rfl)
theorem dX5_nodeFact_51 : decode cX5_nodeFact 51 = .ok (.aload_n 0, 1) := dk_42 (dk_at dksX5_nodeFact_2 4 rfl rfl)
theorem dX5_nodeFact_52 : decode cX5_nodeFact 52 = .ok (.aload_n 0, 1) := dk_42 (dk_at dksX5_nodeFact_2 5 rfl rfl)
theorem dX5_nodeFact_53 : decode cX5_nodeFact 53 = .ok (.iload 4, 2) := dk_21 4 (dk_at dksX5_nodeFact_2 6 rfl rfl)
theorem dX5_nodeFact_55 : decode cX5_nodeFact 55 = .ok (.iconst 1, 1) := dk_4 (dk_at dksX5_nodeFact_2 8 rfl rfl)
theorem dX5_nodeFact_56 : decode cX5_nodeFact 56 = .ok (.iadd, 1) := dk_96 (dk_at dksX5_nodeFact_2 9 rfl rfl)
theorem dX5_nodeFact_57 : decode cX5_nodeFact 57 = .ok (.aload_n 0, 1) := dk_42 (dk_at dksX5_nodeFact_2 10 rfl rfl)
theorem dX5_nodeFact_58 : decode cX5_nodeFact 58 = .ok (.getfield 85, 3) := dk_180 0 85 (dk_at dksX5_nodeFact_2 11 rfl rfl)
theorem dX5_nodeFact_61 : decode cX5_nodeFact 61 = .ok (.invokevirtual 91, 3) := dk_182 0 91 (dk_at dksX5_nodeFact_2 14 rfl rfl)
theorem dX5_nodeFact_64 : decode cX5_nodeFact 64 = .ok (.invokevirtual 171, 3) := dk_182 0 171 (dk_at dksX5_nodeFact_2 17 rfl rfl)
theorem dX5_nodeFact_67 : decode cX5_nodeFact 67 = .ok (.goto 20, 3) := dk_167 0 20 (dk_at dksX5_nodeFact_2 20 rfl rfl)
theorem dX5_nodeFact_70 : decode cX5_nodeFact 70 = .ok (.iload_n 2, 1) := dk_28 (dk_at dksX5_nodeFact_2 23 rfl rfl)
theorem dX5_nodeFact_71 : decode cX5_nodeFact 71 = .ok (.iconst 2, 1) := dk_5 (dk_at dksX5_nodeFact_3 0 rfl rfl)
theorem dX5_nodeFact_72 : decode cX5_nodeFact 72 = .ok (.if_icmp .ne 14, 3) := dk_160 0 14 (dk_at dksX5_nodeFact_3 1 rfl rfl)
theorem dX5_nodeFact_75 : decode cX5_nodeFact 75 = .ok (.aload_n 0, 1) := dk_42 (dk_at dksX5_nodeFact_3 4 rfl rfl)
theorem dX5_nodeFact_76 : decode cX5_nodeFact 76 = .ok (.aload_n 0, 1) := dk_42 (dk_at dksX5_nodeFact_3 5 rfl rfl)
theorem dX5_nodeFact_77 : decode cX5_nodeFact 77 = .ok (.getfield 88, 3) := dk_180 0 88 (dk_at dksX5_nodeFact_3 6 rfl rfl)
theorem dX5_nodeFact_80 : decode cX5_nodeFact 80 = .ok (.invokevirtual 171, 3) := dk_182 0 171 (dk_at dksX5_nodeFact_3 9 rfl rfl)
theorem dX5_nodeFact_83 : decode cX5_nodeFact 83 = .ok (.goto 4, 3) := dk_167 0 4 (dk_at dksX5_nodeFact_3 12 rfl rfl)
theorem dX5_nodeFact_86 : decode cX5_nodeFact 86 = .ok (.iload_n 3, 1) := dk_29 (dk_at dksX5_nodeFact_3 15 rfl rfl)
theorem dX5_nodeFact_87 : decode cX5_nodeFact 87 = .ok (.ireturn, 1) := dk_172 (dk_at dksX5_nodeFact_3 16 rfl rfl)
abbrev cX5_count : ByteArray := prog_15_method_53_code
def yX5_count : MethodName := ⟨RX5, "count", "(I)I"⟩
def dkwX5_count_1 : List UInt8 := [172]
abbrev dktX5_count_1 : List UInt8 := dkwX5_count_1 ++ []
def dkwX5_count_0 : List UInt8 := [27, 3, 16, 7, 184, 0, 44, 153, 0, 11, 42, 27, 182, 0, 186, 167, 0, 9, 42, 16, 254, 182, 0, 137]
abbrev dktX5_count_0 : List UInt8 := dkwX5_count_0 ++ dktX5_count_1
theorem dksX5_count_0 : cX5_count.data.toList.drop 0 = dktX5_count_0 := by decide +kernel
theorem dksX5_count_1 : cX5_count.data.toList.drop 24 = dktX5_count_1 := dk_seg dksX5_count_0 24 rfl rfl
theorem dX5_count_0 : decode cX5_count 0 = .ok (.iload_n 1, 1) := dk_27 (dk_at dksX5_count_0 0 rfl rfl)
theorem dX5_count_1 : decode cX5_count 1 = .ok (.iconst 0, 1) := dk_3 (dk_at dksX5_count_0 1 rfl rfl)
theorem dX5_count_2 : decode cX5_count 2 = .ok (.bipush 7, 2) := dk_16 7 (dk_at dksX5_count_0 2 rfl rfl)
theorem dX5_count_4 : decode cX5_count 4 = .ok (.invokestatic 44, 3) := dk_184 0 44 (dk_at dksX5_count_0 4 rfl rfl)
theorem dX5_count_7 : decode cX5_count 7 = .ok (.ifCond .eq 11, 3) := dk_153 0 11 (dk_at dksX5_count_0 7 rfl rfl)
theorem dX5_count_10 : decode cX5_count 10 = .ok (.aload_n 0, 1) := dk_42 (dk_at dksX5_count_0 10 rfl rfl)
theorem dX5_count_11 : decode cX5_count 11 = .ok (.iload_n 1, 1) := dk_27 (dk_at dksX5_count_0 11 rfl rfl)
theorem dX5_count_12 : decode cX5_count 12 = .ok (.invokevirtual 186, 3) := dk_182 0 186 (dk_at dksX5_count_0 12 rfl rfl)
theorem dX5_count_15 : decode cX5_count 15 = .ok (.goto 9, 3) := dk_167 0 9 (dk_at dksX5_count_0 15 rfl rfl)
theorem dX5_count_18 : decode cX5_count 18 = .ok (.aload_n 0, 1) := dk_42 (dk_at dksX5_count_0 18 rfl rfl)
theorem dX5_count_19 : decode cX5_count 19 = .ok (.bipush (-2), 2) := dk_16 254 (dk_at dksX5_count_0 19 rfl rfl)
theorem dX5_count_21 : decode cX5_count 21 = .ok (.invokevirtual 137, 3) := dk_182 0 137 (dk_at dksX5_count_0 21 rfl rfl)
theorem dX5_count_24 : decode cX5_count 24 = .ok (.ireturn, 1) := dk_172 (dk_at dksX5_count_1 0 rfl rfl)
abbrev cX5_countOf : ByteArray := prog_15_method_52_code
def yX5_countOf : MethodName := ⟨RX5, "countOf", "(I)I"⟩
def dkwX5_countOf_9 : List UInt8 := [21, 5, 172, 42, 180, 0, 108, 172]
abbrev dktX5_countOf_9 : List UInt8 := dkwX5_countOf_9 ++ []
def dkwX5_countOf_8 : List UInt8 := [42, 180, 0, 7, 3, 46, 172, 42, 180, 0, 7, 4, 46, 172, 28, 172, 29, 172, 21, 4, 172, 21, 6, 172]
abbrev dktX5_countOf_8 : List UInt8 := dkwX5_countOf_8 ++ dktX5_countOf_9
def dkwX5_countOf_7 : List UInt8 := [170, 0, 0, 0, 0, 0, 70, 0, 0, 0, 0, 0, 0, 0, 6, 0, 0, 0, 43, 0, 0, 0, 50, 0, 0, 0, 57, 0, 0, 0, 59, 0, 0, 0, 61, 0, 0, 0, 64, 0, 0, 0, 67]
abbrev dktX5_countOf_7 : List UInt8 := dkwX5_countOf_7 ++ dktX5_countOf_8
def dkwX5_countOf_6 : List UInt8 := [182, 0, 168, 96, 54, 6, 132, 7, 1, 167, 255, 218, 27]
abbrev dktX5_countOf_6 : List UInt8 := dkwX5_countOf_6 ++ dktX5_countOf_7
def dkwX5_countOf_5 : List UInt8 := [46, 162, 0, 33, 27, 8, 160, 0, 28, 21, 6, 42, 42, 180, 0, 7, 16, 7, 21, 7, 96, 46]
abbrev dktX5_countOf_5 : List UInt8 := dkwX5_countOf_5 ++ dktX5_countOf_6
def dkwX5_countOf_4 : List UInt8 := [4, 167, 0, 4, 3, 96, 54, 5, 132, 7, 1, 167, 255, 167, 3, 54, 7, 21, 7, 42, 180, 0, 7, 3]
abbrev dktX5_countOf_4 : List UInt8 := dkwX5_countOf_4 ++ dktX5_countOf_5
def dkwX5_countOf_3 : List UInt8 := [62, 21, 9, 21, 4, 164, 0, 8, 21, 9, 167, 0, 5, 21, 4, 54, 4, 21, 5, 21, 8, 154, 0, 7]
abbrev dktX5_countOf_3 : List UInt8 := dkwX5_countOf_3 ++ dktX5_countOf_4
def dkwX5_countOf_2 : List UInt8 := [180, 0, 7, 17, 0, 154, 21, 7, 96, 46, 96, 61, 21, 8, 29, 164, 0, 8, 21, 8, 167, 0, 4, 29]
abbrev dktX5_countOf_2 : List UInt8 := dkwX5_countOf_2 ++ dktX5_countOf_3
def dkwX5_countOf_1 : List UInt8 := [162, 0, 84, 42, 21, 7, 182, 0, 102, 54, 8, 42, 21, 7, 6, 182, 0, 177, 54, 9, 28, 42]
abbrev dktX5_countOf_1 : List UInt8 := dkwX5_countOf_1 ++ dktX5_countOf_2
def dkwX5_countOf_0 : List UInt8 := [3, 61, 3, 62, 3, 54, 4, 3, 54, 5, 3, 54, 6, 3, 54, 7, 21, 7, 42, 180, 0, 7, 4, 46]
abbrev dktX5_countOf_0 : List UInt8 := dkwX5_countOf_0 ++ dktX5_countOf_1
theorem dksX5_countOf_0 : cX5_countOf.data.toList.drop 0 = dktX5_countOf_0 := by decide +kernel
theorem dksX5_countOf_1 : cX5_countOf.data.toList.drop 24 = dktX5_countOf_1 := dk_seg dksX5_countOf_0 24 rfl rfl
theorem dksX5_countOf_2 : cX5_countOf.data.toList.drop 46 = dktX5_countOf_2 := dk_seg dksX5_countOf_1 22 rfl rfl
theorem dksX5_countOf_3 : cX5_countOf.data.toList.drop 70 = dktX5_countOf_3 := dk_seg dksX5_countOf_2 24 rfl rfl
theorem dksX5_countOf_4 : cX5_countOf.data.toList.drop 94 = dktX5_countOf_4 := dk_seg dksX5_countOf_3 24 rfl rfl
theorem dksX5_countOf_5 : cX5_countOf.data.toList.drop 118 = dktX5_countOf_5 := dk_seg dksX5_countOf_4 24 rfl rfl
theorem dksX5_countOf_6 : cX5_countOf.data.toList.drop 140 = dktX5_countOf_6 := dk_seg dksX5_countOf_5 22 rfl rfl
theorem dksX5_countOf_7 : cX5_countOf.data.toList.drop 153 = dktX5_countOf_7 := dk_seg dksX5_countOf_6 13 rfl rfl
theorem dksX5_countOf_8 : cX5_countOf.data.toList.drop 196 = dktX5_countOf_8 := dk_seg dksX5_countOf_7 43 rfl rfl
theorem dksX5_countOf_9 : cX5_countOf.data.toList.drop 220 = dktX5_countOf_9 := dk_seg dksX5_countOf_8 24 rfl rfl
theorem dX5_countOf_0 : decode cX5_countOf 0 = .ok (.iconst 0, 1) := dk_3 (dk_at dksX5_countOf_0 0 rfl rfl)
theorem dX5_countOf_1 : decode cX5_countOf 1 = .ok (.istore_n 2, 1) := dk_61 (dk_at dksX5_countOf_0 1 rfl rfl)
theorem dX5_countOf_2 : decode cX5_countOf 2 = .ok (.iconst 0, 1) := dk_3 (dk_at dksX5_countOf_0 2 rfl rfl)
theorem dX5_countOf_3 : decode cX5_countOf 3 = .ok (.istore_n 3, 1) := dk_62 (dk_at dksX5_countOf_0 3 rfl rfl)
theorem dX5_countOf_4 : decode cX5_countOf 4 = .ok (.iconst 0, 1) := dk_3 (dk_at dksX5_countOf_0 4 rfl rfl)
theorem dX5_countOf_5 : decode cX5_countOf 5 = .ok (.istore 4, 2) := dk_54 4 (dk_at dksX5_countOf_0 5 rfl rfl)
theorem dX5_countOf_7 : decode cX5_countOf 7 = .ok (.iconst 0, 1) := dk_3 (dk_at dksX5_countOf_0 7 rfl rfl)
theorem dX5_countOf_8 : decode cX5_countOf 8 = .ok (.istore 5, 2) := dk_54 5 (dk_at dksX5_countOf_0 8 rfl rfl)
theorem dX5_countOf_10 : decode cX5_countOf 10 = .ok (.iconst 0, 1) := dk_3 (dk_at dksX5_countOf_0 10 rfl rfl)
theorem dX5_countOf_11 : decode cX5_countOf 11 = .ok (.istore 6, 2) := dk_54 6 (dk_at dksX5_countOf_0 11 rfl rfl)
theorem dX5_countOf_13 : decode cX5_countOf 13 = .ok (.iconst 0, 1) := dk_3 (dk_at dksX5_countOf_0 13 rfl rfl)
theorem dX5_countOf_14 : decode cX5_countOf 14 = .ok (.istore 7, 2) := dk_54 7 (dk_at dksX5_countOf_0 14 rfl rfl)
theorem dX5_countOf_16 : decode cX5_countOf 16 = .ok (.iload 7, 2) := dk_21 7 (dk_at dksX5_countOf_0 16 rfl rfl)
theorem dX5_countOf_18 : decode cX5_countOf 18 = .ok (.aload_n 0, 1) := dk_42 (dk_at dksX5_countOf_0 18 rfl rfl)
theorem dX5_countOf_19 : decode cX5_countOf 19 = .ok (.getfield 7, 3) := dk_180 0 7 (dk_at dksX5_countOf_0 19 rfl rfl)
theorem dX5_countOf_22 : decode cX5_countOf 22 = .ok (.iconst 1, 1) := dk_4 (dk_at dksX5_countOf_0 22 rfl rfl)
theorem dX5_countOf_23 : decode cX5_countOf 23 = .ok (.iaload, 1) := dk_46 (dk_at dksX5_countOf_0 23 rfl rfl)
theorem dX5_countOf_24 : decode cX5_countOf 24 = .ok (.if_icmp .ge 84, 3) := dk_162 0 84 (dk_at dksX5_countOf_1 0 rfl rfl)
theorem dX5_countOf_27 : decode cX5_countOf 27 = .ok (.aload_n 0, 1) := dk_42 (dk_at dksX5_countOf_1 3 rfl rfl)
theorem dX5_countOf_28 : decode cX5_countOf 28 = .ok (.iload 7, 2) := dk_21 7 (dk_at dksX5_countOf_1 4 rfl rfl)
theorem dX5_countOf_30 : decode cX5_countOf 30 = .ok (.invokevirtual 102, 3) := dk_182 0 102 (dk_at dksX5_countOf_1 6 rfl rfl)
theorem dX5_countOf_33 : decode cX5_countOf 33 = .ok (.istore 8, 2) := dk_54 8 (dk_at dksX5_countOf_1 9 rfl rfl)
theorem dX5_countOf_35 : decode cX5_countOf 35 = .ok (.aload_n 0, 1) := dk_42 (dk_at dksX5_countOf_1 11 rfl rfl)
theorem dX5_countOf_36 : decode cX5_countOf 36 = .ok (.iload 7, 2) := dk_21 7 (dk_at dksX5_countOf_1 12 rfl rfl)
theorem dX5_countOf_38 : decode cX5_countOf 38 = .ok (.iconst 3, 1) := dk_6 (dk_at dksX5_countOf_1 14 rfl rfl)
theorem dX5_countOf_39 : decode cX5_countOf 39 = .ok (.invokevirtual 177, 3) := dk_182 0 177 (dk_at dksX5_countOf_1 15 rfl rfl)
theorem dX5_countOf_42 : decode cX5_countOf 42 = .ok (.istore 9, 2) := dk_54 9 (dk_at dksX5_countOf_1 18 rfl rfl)
theorem dX5_countOf_44 : decode cX5_countOf 44 = .ok (.iload_n 2, 1) := dk_28 (dk_at dksX5_countOf_1 20 rfl rfl)
theorem dX5_countOf_45 : decode cX5_countOf 45 = .ok (.aload_n 0, 1) := dk_42 (dk_at dksX5_countOf_1 21 rfl rfl)
theorem dX5_countOf_46 : decode cX5_countOf 46 = .ok (.getfield 7, 3) := dk_180 0 7 (dk_at dksX5_countOf_2 0 rfl rfl)
theorem dX5_countOf_49 : decode cX5_countOf 49 = .ok (.sipush 154, 3) := dk_17 0 154 (dk_at dksX5_countOf_2 3 rfl rfl)
theorem dX5_countOf_52 : decode cX5_countOf 52 = .ok (.iload 7, 2) := dk_21 7 (dk_at dksX5_countOf_2 6 rfl rfl)
theorem dX5_countOf_54 : decode cX5_countOf 54 = .ok (.iadd, 1) := dk_96 (dk_at dksX5_countOf_2 8 rfl rfl)
theorem dX5_countOf_55 : decode cX5_countOf 55 = .ok (.iaload, 1) := dk_46 (dk_at dksX5_countOf_2 9 rfl rfl)
theorem dX5_countOf_56 : decode cX5_countOf 56 = .ok (.iadd, 1) := dk_96 (dk_at dksX5_countOf_2 10 rfl rfl)
theorem dX5_countOf_57 : decode cX5_countOf 57 = .ok (.istore_n 2, 1) := dk_61 (dk_at dksX5_countOf_2 11 rfl rfl)
theorem dX5_countOf_58 : decode cX5_countOf 58 = .ok (.iload 8, 2) := dk_21 8 (dk_at dksX5_countOf_2 12 rfl rfl)
theorem dX5_countOf_60 : decode cX5_countOf 60 = .ok (.iload_n 3, 1) := dk_29 (dk_at dksX5_countOf_2 14 rfl rfl)
theorem dX5_countOf_61 : decode cX5_countOf 61 = .ok (.if_icmp .le 8, 3) := dk_164 0 8 (dk_at dksX5_countOf_2 15 rfl rfl)
theorem dX5_countOf_64 : decode cX5_countOf 64 = .ok (.iload 8, 2) := dk_21 8 (dk_at dksX5_countOf_2 18 rfl rfl)
theorem dX5_countOf_66 : decode cX5_countOf 66 = .ok (.goto 4, 3) := dk_167 0 4 (dk_at dksX5_countOf_2 20 rfl rfl)
theorem dX5_countOf_69 : decode cX5_countOf 69 = .ok (.iload_n 3, 1) := dk_29 (dk_at dksX5_countOf_2 23 rfl rfl)
theorem dX5_countOf_70 : decode cX5_countOf 70 = .ok (.istore_n 3, 1) := dk_62 (dk_at dksX5_countOf_3 0 rfl rfl)
theorem dX5_countOf_71 : decode cX5_countOf 71 = .ok (.iload 9, 2) := dk_21 9 (dk_at dksX5_countOf_3 1 rfl rfl)
theorem dX5_countOf_73 : decode cX5_countOf 73 = .ok (.iload 4, 2) := dk_21 4 (dk_at dksX5_countOf_3 3 rfl rfl)
theorem dX5_countOf_75 : decode cX5_countOf 75 = .ok (.if_icmp .le 8, 3) := dk_164 0 8 (dk_at dksX5_countOf_3 5 rfl rfl)
theorem dX5_countOf_78 : decode cX5_countOf 78 = .ok (.iload 9, 2) := dk_21 9 (dk_at dksX5_countOf_3 8 rfl rfl)
theorem dX5_countOf_80 : decode cX5_countOf 80 = .ok (.goto 5, 3) := dk_167 0 5 (dk_at dksX5_countOf_3 10 rfl rfl)
theorem dX5_countOf_83 : decode cX5_countOf 83 = .ok (.iload 4, 2) := dk_21 4 (dk_at dksX5_countOf_3 13 rfl rfl)
theorem dX5_countOf_85 : decode cX5_countOf 85 = .ok (.istore 4, 2) := dk_54 4 (dk_at dksX5_countOf_3 15 rfl rfl)
theorem dX5_countOf_87 : decode cX5_countOf 87 = .ok (.iload 5, 2) := dk_21 5 (dk_at dksX5_countOf_3 17 rfl rfl)
theorem dX5_countOf_89 : decode cX5_countOf 89 = .ok (.iload 8, 2) := dk_21 8 (dk_at dksX5_countOf_3 19 rfl rfl)
theorem dX5_countOf_91 : decode cX5_countOf 91 = .ok (.ifCond .ne 7, 3) := dk_154 0 7 (dk_at dksX5_countOf_3 21 rfl rfl)
theorem dX5_countOf_94 : decode cX5_countOf 94 = .ok (.iconst 1, 1) := dk_4 (dk_at dksX5_countOf_4 0 rfl rfl)
theorem dX5_countOf_95 : decode cX5_countOf 95 = .ok (.goto 4, 3) := dk_167 0 4 (dk_at dksX5_countOf_4 1 rfl rfl)
theorem dX5_countOf_98 : decode cX5_countOf 98 = .ok (.iconst 0, 1) := dk_3 (dk_at dksX5_countOf_4 4 rfl rfl)
theorem dX5_countOf_99 : decode cX5_countOf 99 = .ok (.iadd, 1) := dk_96 (dk_at dksX5_countOf_4 5 rfl rfl)
theorem dX5_countOf_100 : decode cX5_countOf 100 = .ok (.istore 5, 2) := dk_54 5 (dk_at dksX5_countOf_4 6 rfl rfl)
theorem dX5_countOf_102 : decode cX5_countOf 102 = .ok (.iinc 7 1, 3) := dk_132 7 1 (dk_at dksX5_countOf_4 8 rfl rfl)
theorem dX5_countOf_105 : decode cX5_countOf 105 = .ok (.goto (-89), 3) := dk_167 255 167 (dk_at dksX5_countOf_4 11 rfl rfl)
theorem dX5_countOf_108 : decode cX5_countOf 108 = .ok (.iconst 0, 1) := dk_3 (dk_at dksX5_countOf_4 14 rfl rfl)
theorem dX5_countOf_109 : decode cX5_countOf 109 = .ok (.istore 7, 2) := dk_54 7 (dk_at dksX5_countOf_4 15 rfl rfl)
theorem dX5_countOf_111 : decode cX5_countOf 111 = .ok (.iload 7, 2) := dk_21 7 (dk_at dksX5_countOf_4 17 rfl rfl)
theorem dX5_countOf_113 : decode cX5_countOf 113 = .ok (.aload_n 0, 1) := dk_42 (dk_at dksX5_countOf_4 19 rfl rfl)
theorem dX5_countOf_114 : decode cX5_countOf 114 = .ok (.getfield 7, 3) := dk_180 0 7 (dk_at dksX5_countOf_4 20 rfl rfl)
theorem dX5_countOf_117 : decode cX5_countOf 117 = .ok (.iconst 0, 1) := dk_3 (dk_at dksX5_countOf_4 23 rfl rfl)
theorem dX5_countOf_118 : decode cX5_countOf 118 = .ok (.iaload, 1) := dk_46 (dk_at dksX5_countOf_5 0 rfl rfl)
theorem dX5_countOf_119 : decode cX5_countOf 119 = .ok (.if_icmp .ge 33, 3) := dk_162 0 33 (dk_at dksX5_countOf_5 1 rfl rfl)
theorem dX5_countOf_122 : decode cX5_countOf 122 = .ok (.iload_n 1, 1) := dk_27 (dk_at dksX5_countOf_5 4 rfl rfl)
theorem dX5_countOf_123 : decode cX5_countOf 123 = .ok (.iconst 5, 1) := dk_8 (dk_at dksX5_countOf_5 5 rfl rfl)
theorem dX5_countOf_124 : decode cX5_countOf 124 = .ok (.if_icmp .ne 28, 3) := dk_160 0 28 (dk_at dksX5_countOf_5 6 rfl rfl)
theorem dX5_countOf_127 : decode cX5_countOf 127 = .ok (.iload 6, 2) := dk_21 6 (dk_at dksX5_countOf_5 9 rfl rfl)
theorem dX5_countOf_129 : decode cX5_countOf 129 = .ok (.aload_n 0, 1) := dk_42 (dk_at dksX5_countOf_5 11 rfl rfl)
theorem dX5_countOf_130 : decode cX5_countOf 130 = .ok (.aload_n 0, 1) := dk_42 (dk_at dksX5_countOf_5 12 rfl rfl)
theorem dX5_countOf_131 : decode cX5_countOf 131 = .ok (.getfield 7, 3) := dk_180 0 7 (dk_at dksX5_countOf_5 13 rfl rfl)
theorem dX5_countOf_134 : decode cX5_countOf 134 = .ok (.bipush 7, 2) := dk_16 7 (dk_at dksX5_countOf_5 16 rfl rfl)
theorem dX5_countOf_136 : decode cX5_countOf 136 = .ok (.iload 7, 2) := dk_21 7 (dk_at dksX5_countOf_5 18 rfl rfl)
theorem dX5_countOf_138 : decode cX5_countOf 138 = .ok (.iadd, 1) := dk_96 (dk_at dksX5_countOf_5 20 rfl rfl)
theorem dX5_countOf_139 : decode cX5_countOf 139 = .ok (.iaload, 1) := dk_46 (dk_at dksX5_countOf_5 21 rfl rfl)
theorem dX5_countOf_140 : decode cX5_countOf 140 = .ok (.invokevirtual 168, 3) := dk_182 0 168 (dk_at dksX5_countOf_6 0 rfl rfl)
theorem dX5_countOf_143 : decode cX5_countOf 143 = .ok (.iadd, 1) := dk_96 (dk_at dksX5_countOf_6 3 rfl rfl)
theorem dX5_countOf_144 : decode cX5_countOf 144 = .ok (.istore 6, 2) := dk_54 6 (dk_at dksX5_countOf_6 4 rfl rfl)
theorem dX5_countOf_146 : decode cX5_countOf 146 = .ok (.iinc 7 1, 3) := dk_132 7 1 (dk_at dksX5_countOf_6 6 rfl rfl)
theorem dX5_countOf_149 : decode cX5_countOf 149 = .ok (.goto (-38), 3) := dk_167 255 218 (dk_at dksX5_countOf_6 9 rfl rfl)
theorem dX5_countOf_152 : decode cX5_countOf 152 = .ok (.iload_n 1, 1) := dk_27 (dk_at dksX5_countOf_6 12 rfl rfl)
theorem dX5_countOf_153 : decode cX5_countOf 153 = .ok (.tableswitch 70 0 6 #[43, 50, 57, 59, 61, 64, 67], 43) := by decide +kernel
theorem dX5_countOf_196 : decode cX5_countOf 196 = .ok (.aload_n 0, 1) := dk_42 (dk_at dksX5_countOf_8 0 rfl rfl)
theorem dX5_countOf_197 : decode cX5_countOf 197 = .ok (.getfield 7, 3) := dk_180 0 7 (dk_at dksX5_countOf_8 1 rfl rfl)
theorem dX5_countOf_200 : decode cX5_countOf 200 = .ok (.iconst 0, 1) := dk_3 (dk_at dksX5_countOf_8 4 rfl rfl)
theorem dX5_countOf_201 : decode cX5_countOf 201 = .ok (.iaload, 1) := dk_46 (dk_at dksX5_countOf_8 5 rfl rfl)
theorem dX5_countOf_202 : decode cX5_countOf 202 = .ok (.ireturn, 1) := dk_172 (dk_at dksX5_countOf_8 6 rfl rfl)
theorem dX5_countOf_203 : decode cX5_countOf 203 = .ok (.aload_n 0, 1) := dk_42 (dk_at dksX5_countOf_8 7 rfl rfl)
theorem dX5_countOf_204 : decode cX5_countOf 204 = .ok (.getfield 7, 3) := dk_180 0 7 (dk_at dksX5_countOf_8 8 rfl rfl)
theorem dX5_countOf_207 : decode cX5_countOf 207 = .ok (.iconst 1, 1) := dk_4 (dk_at dksX5_countOf_8 11 rfl rfl)
theorem dX5_countOf_208 : decode cX5_countOf 208 = .ok (.iaload, 1) := dk_46 (dk_at dksX5_countOf_8 12 rfl rfl)
theorem dX5_countOf_209 : decode cX5_countOf 209 = .ok (.ireturn, 1) := dk_172 (dk_at dksX5_countOf_8 13 rfl rfl)
theorem dX5_countOf_210 : decode cX5_countOf 210 = .ok (.iload_n 2, 1) := dk_28 (dk_at dksX5_countOf_8 14 rfl rfl)
theorem dX5_countOf_211 : decode cX5_countOf 211 = .ok (.ireturn, 1) := dk_172 (dk_at dksX5_countOf_8 15 rfl rfl)
theorem dX5_countOf_212 : decode cX5_countOf 212 = .ok (.iload_n 3, 1) := dk_29 (dk_at dksX5_countOf_8 16 rfl rfl)
theorem dX5_countOf_213 : decode cX5_countOf 213 = .ok (.ireturn, 1) := dk_172 (dk_at dksX5_countOf_8 17 rfl rfl)
theorem dX5_countOf_214 : decode cX5_countOf 214 = .ok (.iload 4, 2) := dk_21 4 (dk_at dksX5_countOf_8 18 rfl rfl)
theorem dX5_countOf_216 : decode cX5_countOf 216 = .ok (.ireturn, 1) := dk_172 (dk_at dksX5_countOf_8 20 rfl rfl)
theorem dX5_countOf_217 : decode cX5_countOf 217 = .ok (.iload 6, 2) := dk_21 6 (dk_at dksX5_countOf_8 21 rfl rfl)
theorem dX5_countOf_219 : decode cX5_countOf 219 = .ok (.ireturn, 1) := dk_172 (dk_at dksX5_countOf_8 23 rfl rfl)
theorem dX5_countOf_220 : decode cX5_countOf 220 = .ok (.iload 5, 2) := dk_21 5 (dk_at dksX5_countOf_9 0 rfl rfl)
theorem dX5_countOf_222 : decode cX5_countOf 222 = .ok (.ireturn, 1) := dk_172 (dk_at dksX5_countOf_9 2 rfl rfl)
theorem dX5_countOf_223 : decode cX5_countOf 223 = .ok (.aload_n 0, 1) := dk_42 (dk_at dksX5_countOf_9 3 rfl rfl)
theorem dX5_countOf_224 : decode cX5_countOf 224 = .ok (.getfield 108, 3) := dk_180 0 108 (dk_at dksX5_countOf_9 4 rfl rfl)
theorem dX5_countOf_227 : decode cX5_countOf 227 = .ok (.ireturn, 1) := dk_172 (dk_at dksX5_countOf_9 7 rfl rfl)
abbrev cX5_opens : ByteArray := prog_15_method_59_code
def yX5_opens : MethodName := ⟨RX5, "opens", "(II)I"⟩
def dkwX5_opens_2 : List UInt8 := [79, 42, 180, 0, 34, 27, 42, 180, 0, 108, 79, 42, 180, 0, 7, 3, 46, 172]
abbrev dktX5_opens_2 : List UInt8 := dkwX5_opens_2 ++ []
def dkwX5_opens_1 : List UInt8 := [180, 0, 25, 27, 28, 79, 42, 180, 0, 28, 27, 42, 28, 3, 182, 0, 198, 79, 42, 180, 0, 31, 27, 2]
abbrev dktX5_opens_1 : List UInt8 := dkwX5_opens_1 ++ dktX5_opens_2
def dkwX5_opens_0 : List UInt8 := [27, 184, 0, 195, 153, 0, 12, 28, 3, 5, 184, 0, 44, 154, 0, 10, 42, 16, 254, 182, 0, 137, 172, 42]
abbrev dktX5_opens_0 : List UInt8 := dkwX5_opens_0 ++ dktX5_opens_1
theorem dksX5_opens_0 : cX5_opens.data.toList.drop 0 = dktX5_opens_0 := by decide +kernel
theorem dksX5_opens_1 : cX5_opens.data.toList.drop 24 = dktX5_opens_1 := dk_seg dksX5_opens_0 24 rfl rfl
theorem dksX5_opens_2 : cX5_opens.data.toList.drop 48 = dktX5_opens_2 := dk_seg dksX5_opens_1 24 rfl rfl
theorem dX5_opens_0 : decode cX5_opens 0 = .ok (.iload_n 1, 1) := dk_27 (dk_at dksX5_opens_0 0 rfl rfl)
theorem dX5_opens_1 : decode cX5_opens 1 = .ok (.invokestatic 195, 3) := dk_184 0 195 (dk_at dksX5_opens_0 1 rfl rfl)
theorem dX5_opens_4 : decode cX5_opens 4 = .ok (.ifCond .eq 12, 3) := dk_153 0 12 (dk_at dksX5_opens_0 4 rfl rfl)
theorem dX5_opens_7 : decode cX5_opens 7 = .ok (.iload_n 2, 1) := dk_28 (dk_at dksX5_opens_0 7 rfl rfl)
theorem dX5_opens_8 : decode cX5_opens 8 = .ok (.iconst 0, 1) := dk_3 (dk_at dksX5_opens_0 8 rfl rfl)
theorem dX5_opens_9 : decode cX5_opens 9 = .ok (.iconst 2, 1) := dk_5 (dk_at dksX5_opens_0 9 rfl rfl)
theorem dX5_opens_10 : decode cX5_opens 10 = .ok (.invokestatic 44, 3) := dk_184 0 44 (dk_at dksX5_opens_0 10 rfl rfl)
theorem dX5_opens_13 : decode cX5_opens 13 = .ok (.ifCond .ne 10, 3) := dk_154 0 10 (dk_at dksX5_opens_0 13 rfl rfl)
theorem dX5_opens_16 : decode cX5_opens 16 = .ok (.aload_n 0, 1) := dk_42 (dk_at dksX5_opens_0 16 rfl rfl)
theorem dX5_opens_17 : decode cX5_opens 17 = .ok (.bipush (-2), 2) := dk_16 254 (dk_at dksX5_opens_0 17 rfl rfl)
theorem dX5_opens_19 : decode cX5_opens 19 = .ok (.invokevirtual 137, 3) := dk_182 0 137 (dk_at dksX5_opens_0 19 rfl rfl)
theorem dX5_opens_22 : decode cX5_opens 22 = .ok (.ireturn, 1) := dk_172 (dk_at dksX5_opens_0 22 rfl rfl)
theorem dX5_opens_23 : decode cX5_opens 23 = .ok (.aload_n 0, 1) := dk_42 (dk_at dksX5_opens_0 23 rfl rfl)
theorem dX5_opens_24 : decode cX5_opens 24 = .ok (.getfield 25, 3) := dk_180 0 25 (dk_at dksX5_opens_1 0 rfl rfl)
theorem dX5_opens_27 : decode cX5_opens 27 = .ok (.iload_n 1, 1) := dk_27 (dk_at dksX5_opens_1 3 rfl rfl)
theorem dX5_opens_28 : decode cX5_opens 28 = .ok (.iload_n 2, 1) := dk_28 (dk_at dksX5_opens_1 4 rfl rfl)
theorem dX5_opens_29 : decode cX5_opens 29 = .ok (.iastore, 1) := dk_79 (dk_at dksX5_opens_1 5 rfl rfl)
theorem dX5_opens_30 : decode cX5_opens 30 = .ok (.aload_n 0, 1) := dk_42 (dk_at dksX5_opens_1 6 rfl rfl)
theorem dX5_opens_31 : decode cX5_opens 31 = .ok (.getfield 28, 3) := dk_180 0 28 (dk_at dksX5_opens_1 7 rfl rfl)
theorem dX5_opens_34 : decode cX5_opens 34 = .ok (.iload_n 1, 1) := dk_27 (dk_at dksX5_opens_1 10 rfl rfl)
theorem dX5_opens_35 : decode cX5_opens 35 = .ok (.aload_n 0, 1) := dk_42 (dk_at dksX5_opens_1 11 rfl rfl)
theorem dX5_opens_36 : decode cX5_opens 36 = .ok (.iload_n 2, 1) := dk_28 (dk_at dksX5_opens_1 12 rfl rfl)
theorem dX5_opens_37 : decode cX5_opens 37 = .ok (.iconst 0, 1) := dk_3 (dk_at dksX5_opens_1 13 rfl rfl)
theorem dX5_opens_38 : decode cX5_opens 38 = .ok (.invokevirtual 198, 3) := dk_182 0 198 (dk_at dksX5_opens_1 14 rfl rfl)
theorem dX5_opens_41 : decode cX5_opens 41 = .ok (.iastore, 1) := dk_79 (dk_at dksX5_opens_1 17 rfl rfl)
theorem dX5_opens_42 : decode cX5_opens 42 = .ok (.aload_n 0, 1) := dk_42 (dk_at dksX5_opens_1 18 rfl rfl)
theorem dX5_opens_43 : decode cX5_opens 43 = .ok (.getfield 31, 3) := dk_180 0 31 (dk_at dksX5_opens_1 19 rfl rfl)
theorem dX5_opens_46 : decode cX5_opens 46 = .ok (.iload_n 1, 1) := dk_27 (dk_at dksX5_opens_1 22 rfl rfl)
theorem dX5_opens_47 : decode cX5_opens 47 = .ok (.iconst (-1), 1) := dk_2 (dk_at dksX5_opens_1 23 rfl rfl)
theorem dX5_opens_48 : decode cX5_opens 48 = .ok (.iastore, 1) := dk_79 (dk_at dksX5_opens_2 0 rfl rfl)
theorem dX5_opens_49 : decode cX5_opens 49 = .ok (.aload_n 0, 1) := dk_42 (dk_at dksX5_opens_2 1 rfl rfl)
theorem dX5_opens_50 : decode cX5_opens 50 = .ok (.getfield 34, 3) := dk_180 0 34 (dk_at dksX5_opens_2 2 rfl rfl)
theorem dX5_opens_53 : decode cX5_opens 53 = .ok (.iload_n 1, 1) := dk_27 (dk_at dksX5_opens_2 5 rfl rfl)
theorem dX5_opens_54 : decode cX5_opens 54 = .ok (.aload_n 0, 1) := dk_42 (dk_at dksX5_opens_2 6 rfl rfl)
theorem dX5_opens_55 : decode cX5_opens 55 = .ok (.getfield 108, 3) := dk_180 0 108 (dk_at dksX5_opens_2 7 rfl rfl)
theorem dX5_opens_58 : decode cX5_opens 58 = .ok (.iastore, 1) := dk_79 (dk_at dksX5_opens_2 10 rfl rfl)
theorem dX5_opens_59 : decode cX5_opens 59 = .ok (.aload_n 0, 1) := dk_42 (dk_at dksX5_opens_2 11 rfl rfl)
theorem dX5_opens_60 : decode cX5_opens 60 = .ok (.getfield 7, 3) := dk_180 0 7 (dk_at dksX5_opens_2 12 rfl rfl)
theorem dX5_opens_63 : decode cX5_opens 63 = .ok (.iconst 0, 1) := dk_3 (dk_at dksX5_opens_2 15 rfl rfl)
theorem dX5_opens_64 : decode cX5_opens 64 = .ok (.iaload, 1) := dk_46 (dk_at dksX5_opens_2 16 rfl rfl)
theorem dX5_opens_65 : decode cX5_opens 65 = .ok (.ireturn, 1) := dk_172 (dk_at dksX5_opens_2 17 rfl rfl)
abbrev cX5_isCursor : ByteArray := prog_15_method_57_code
def yX5_isCursor : MethodName := ⟨RX5, "isCursor", "(I)Z"⟩
def dkwX5_isCursor_0 : List UInt8 := [26, 3, 5, 184, 0, 44, 172]
abbrev dktX5_isCursor_0 : List UInt8 := dkwX5_isCursor_0 ++ []
theorem dksX5_isCursor_0 : cX5_isCursor.data.toList.drop 0 = dktX5_isCursor_0 := by decide +kernel
theorem dX5_isCursor_0 : decode cX5_isCursor 0 = .ok (.iload_n 0, 1) := dk_26 (dk_at dksX5_isCursor_0 0 rfl rfl)
theorem dX5_isCursor_1 : decode cX5_isCursor 1 = .ok (.iconst 0, 1) := dk_3 (dk_at dksX5_isCursor_0 1 rfl rfl)
theorem dX5_isCursor_2 : decode cX5_isCursor 2 = .ok (.iconst 2, 1) := dk_5 (dk_at dksX5_isCursor_0 2 rfl rfl)
theorem dX5_isCursor_3 : decode cX5_isCursor 3 = .ok (.invokestatic 44, 3) := dk_184 0 44 (dk_at dksX5_isCursor_0 3 rfl rfl)
theorem dX5_isCursor_6 : decode cX5_isCursor 6 = .ok (.ireturn, 1) := dk_172 (dk_at dksX5_isCursor_0 6 rfl rfl)
abbrev cX5_keyOrNone : ByteArray := prog_15_method_56_code
def yX5_keyOrNone : MethodName := ⟨RX5, "keyOrNone", "(II)I"⟩
def dkwX5_keyOrNone_0 : List UInt8 := [28, 42, 180, 0, 7, 3, 46, 162, 0, 12, 42, 27, 28, 182, 0, 189, 167, 0, 4, 2, 172]
abbrev dktX5_keyOrNone_0 : List UInt8 := dkwX5_keyOrNone_0 ++ []
theorem dksX5_keyOrNone_0 : cX5_keyOrNone.data.toList.drop 0 = dktX5_keyOrNone_0 := by decide +kernel
theorem dX5_keyOrNone_0 : decode cX5_keyOrNone 0 = .ok (.iload_n 2, 1) := dk_28 (dk_at dksX5_keyOrNone_0 0 rfl rfl)
theorem dX5_keyOrNone_1 : decode cX5_keyOrNone 1 = .ok (.aload_n 0, 1) := dk_42 (dk_at dksX5_keyOrNone_0 1 rfl rfl)
theorem dX5_keyOrNone_2 : decode cX5_keyOrNone 2 = .ok (.getfield 7, 3) := dk_180 0 7 (dk_at dksX5_keyOrNone_0 2 rfl rfl)
theorem dX5_keyOrNone_5 : decode cX5_keyOrNone 5 = .ok (.iconst 0, 1) := dk_3 (dk_at dksX5_keyOrNone_0 5 rfl rfl)
theorem dX5_keyOrNone_6 : decode cX5_keyOrNone 6 = .ok (.iaload, 1) := dk_46 (dk_at dksX5_keyOrNone_0 6 rfl rfl)
theorem dX5_keyOrNone_7 : decode cX5_keyOrNone 7 = .ok (.if_icmp .ge 12, 3) := dk_162 0 12 (dk_at dksX5_keyOrNone_0 7 rfl rfl)
theorem dX5_keyOrNone_10 : decode cX5_keyOrNone 10 = .ok (.aload_n 0, 1) := dk_42 (dk_at dksX5_keyOrNone_0 10 rfl rfl)
theorem dX5_keyOrNone_11 : decode cX5_keyOrNone 11 = .ok (.iload_n 1, 1) := dk_27 (dk_at dksX5_keyOrNone_0 11 rfl rfl)
theorem dX5_keyOrNone_12 : decode cX5_keyOrNone 12 = .ok (.iload_n 2, 1) := dk_28 (dk_at dksX5_keyOrNone_0 12 rfl rfl)
theorem dX5_keyOrNone_13 : decode cX5_keyOrNone 13 = .ok (.invokevirtual 189, 3) := dk_182 0 189 (dk_at dksX5_keyOrNone_0 13 rfl rfl)
theorem dX5_keyOrNone_16 : decode cX5_keyOrNone 16 = .ok (.goto 4, 3) := dk_167 0 4 (dk_at dksX5_keyOrNone_0 16 rfl rfl)
theorem dX5_keyOrNone_19 : decode cX5_keyOrNone 19 = .ok (.iconst (-1), 1) := dk_2 (dk_at dksX5_keyOrNone_0 19 rfl rfl)
theorem dX5_keyOrNone_20 : decode cX5_keyOrNone 20 = .ok (.ireturn, 1) := dk_172 (dk_at dksX5_keyOrNone_0 20 rfl rfl)
abbrev cX5_keyBy : ByteArray := prog_15_method_54_code
def yX5_keyBy : MethodName := ⟨RX5, "keyBy", "(II)I"⟩
def dkwX5_keyBy_2 : List UInt8 := [42, 21, 4, 182, 0, 102, 100, 62, 132, 4, 1, 167, 255, 234, 42, 21, 4, 29, 182, 0, 180, 172]
abbrev dktX5_keyBy_2 : List UInt8 := dkwX5_keyBy_2 ++ []
def dkwX5_keyBy_1 : List UInt8 := [46, 4, 100, 28, 100, 96, 46, 172, 28, 62, 3, 54, 4, 29, 42, 21, 4, 182, 0, 102, 161, 0, 18, 29]
abbrev dktX5_keyBy_1 : List UInt8 := dkwX5_keyBy_1 ++ dktX5_keyBy_2
def dkwX5_keyBy_0 : List UInt8 := [27, 5, 162, 0, 30, 42, 180, 0, 7, 16, 7, 27, 154, 0, 7, 28, 167, 0, 13, 42, 180, 0, 7, 3]
abbrev dktX5_keyBy_0 : List UInt8 := dkwX5_keyBy_0 ++ dktX5_keyBy_1
theorem dksX5_keyBy_0 : cX5_keyBy.data.toList.drop 0 = dktX5_keyBy_0 := by decide +kernel
theorem dksX5_keyBy_1 : cX5_keyBy.data.toList.drop 24 = dktX5_keyBy_1 := dk_seg dksX5_keyBy_0 24 rfl rfl
theorem dksX5_keyBy_2 : cX5_keyBy.data.toList.drop 48 = dktX5_keyBy_2 := dk_seg dksX5_keyBy_1 24 rfl rfl
theorem dX5_keyBy_0 : decode cX5_keyBy 0 = .ok (.iload_n 1, 1) := dk_27 (dk_at dksX5_keyBy_0 0 rfl rfl)
theorem dX5_keyBy_1 : decode cX5_keyBy 1 = .ok (.iconst 2, 1) := dk_5 (dk_at dksX5_keyBy_0 1 rfl rfl)
theorem dX5_keyBy_2 : decode cX5_keyBy 2 = .ok (.if_icmp .ge 30, 3) := dk_162 0 30 (dk_at dksX5_keyBy_0 2 rfl rfl)
theorem dX5_keyBy_5 : decode cX5_keyBy 5 = .ok (.aload_n 0, 1) := dk_42 (dk_at dksX5_keyBy_0 5 rfl rfl)
theorem dX5_keyBy_6 : decode cX5_keyBy 6 = .ok (.getfield 7, 3) := dk_180 0 7 (dk_at dksX5_keyBy_0 6 rfl rfl)
theorem dX5_keyBy_9 : decode cX5_keyBy 9 = .ok (.bipush 7, 2) := dk_16 7 (dk_at dksX5_keyBy_0 9 rfl rfl)
theorem dX5_keyBy_11 : decode cX5_keyBy 11 = .ok (.iload_n 1, 1) := dk_27 (dk_at dksX5_keyBy_0 11 rfl rfl)
theorem dX5_keyBy_12 : decode cX5_keyBy 12 = .ok (.ifCond .ne 7, 3) := dk_154 0 7 (dk_at dksX5_keyBy_0 12 rfl rfl)
theorem dX5_keyBy_15 : decode cX5_keyBy 15 = .ok (.iload_n 2, 1) := dk_28 (dk_at dksX5_keyBy_0 15 rfl rfl)
theorem dX5_keyBy_16 : decode cX5_keyBy 16 = .ok (.goto 13, 3) := dk_167 0 13 (dk_at dksX5_keyBy_0 16 rfl rfl)
theorem dX5_keyBy_19 : decode cX5_keyBy 19 = .ok (.aload_n 0, 1) := dk_42 (dk_at dksX5_keyBy_0 19 rfl rfl)
theorem dX5_keyBy_20 : decode cX5_keyBy 20 = .ok (.getfield 7, 3) := dk_180 0 7 (dk_at dksX5_keyBy_0 20 rfl rfl)
theorem dX5_keyBy_23 : decode cX5_keyBy 23 = .ok (.iconst 0, 1) := dk_3 (dk_at dksX5_keyBy_0 23 rfl rfl)
theorem dX5_keyBy_24 : decode cX5_keyBy 24 = .ok (.iaload, 1) := dk_46 (dk_at dksX5_keyBy_1 0 rfl rfl)
theorem dX5_keyBy_25 : decode cX5_keyBy 25 = .ok (.iconst 1, 1) := dk_4 (dk_at dksX5_keyBy_1 1 rfl rfl)
theorem dX5_keyBy_26 : decode cX5_keyBy 26 = .ok (.isub, 1) := dk_100 (dk_at dksX5_keyBy_1 2 rfl rfl)
theorem dX5_keyBy_27 : decode cX5_keyBy 27 = .ok (.iload_n 2, 1) := dk_28 (dk_at dksX5_keyBy_1 3 rfl rfl)
theorem dX5_keyBy_28 : decode cX5_keyBy 28 = .ok (.isub, 1) := dk_100 (dk_at dksX5_keyBy_1 4 rfl rfl)
theorem dX5_keyBy_29 : decode cX5_keyBy 29 = .ok (.iadd, 1) := dk_96 (dk_at dksX5_keyBy_1 5 rfl rfl)
theorem dX5_keyBy_30 : decode cX5_keyBy 30 = .ok (.iaload, 1) := dk_46 (dk_at dksX5_keyBy_1 6 rfl rfl)
theorem dX5_keyBy_31 : decode cX5_keyBy 31 = .ok (.ireturn, 1) := dk_172 (dk_at dksX5_keyBy_1 7 rfl rfl)
theorem dX5_keyBy_32 : decode cX5_keyBy 32 = .ok (.iload_n 2, 1) := dk_28 (dk_at dksX5_keyBy_1 8 rfl rfl)
theorem dX5_keyBy_33 : decode cX5_keyBy 33 = .ok (.istore_n 3, 1) := dk_62 (dk_at dksX5_keyBy_1 9 rfl rfl)
theorem dX5_keyBy_34 : decode cX5_keyBy 34 = .ok (.iconst 0, 1) := dk_3 (dk_at dksX5_keyBy_1 10 rfl rfl)
theorem dX5_keyBy_35 : decode cX5_keyBy 35 = .ok (.istore 4, 2) := dk_54 4 (dk_at dksX5_keyBy_1 11 rfl rfl)
theorem dX5_keyBy_37 : decode cX5_keyBy 37 = .ok (.iload_n 3, 1) := dk_29 (dk_at dksX5_keyBy_1 13 rfl rfl)
theorem dX5_keyBy_38 : decode cX5_keyBy 38 = .ok (.aload_n 0, 1) := dk_42 (dk_at dksX5_keyBy_1 14 rfl rfl)
theorem dX5_keyBy_39 : decode cX5_keyBy 39 = .ok (.iload 4, 2) := dk_21 4 (dk_at dksX5_keyBy_1 15 rfl rfl)
theorem dX5_keyBy_41 : decode cX5_keyBy 41 = .ok (.invokevirtual 102, 3) := dk_182 0 102 (dk_at dksX5_keyBy_1 17 rfl rfl)
theorem dX5_keyBy_44 : decode cX5_keyBy 44 = .ok (.if_icmp .lt 18, 3) := dk_161 0 18 (dk_at dksX5_keyBy_1 20 rfl rfl)
theorem dX5_keyBy_47 : decode cX5_keyBy 47 = .ok (.iload_n 3, 1) := dk_29 (dk_at dksX5_keyBy_1 23 rfl rfl)
theorem dX5_keyBy_48 : decode cX5_keyBy 48 = .ok (.aload_n 0, 1) := dk_42 (dk_at dksX5_keyBy_2 0 rfl rfl)
theorem dX5_keyBy_49 : decode cX5_keyBy 49 = .ok (.iload 4, 2) := dk_21 4 (dk_at dksX5_keyBy_2 1 rfl rfl)
theorem dX5_keyBy_51 : decode cX5_keyBy 51 = .ok (.invokevirtual 102, 3) := dk_182 0 102 (dk_at dksX5_keyBy_2 3 rfl rfl)
theorem dX5_keyBy_54 : decode cX5_keyBy 54 = .ok (.isub, 1) := dk_100 (dk_at dksX5_keyBy_2 6 rfl rfl)
theorem dX5_keyBy_55 : decode cX5_keyBy 55 = .ok (.istore_n 3, 1) := dk_62 (dk_at dksX5_keyBy_2 7 rfl rfl)
theorem dX5_keyBy_56 : decode cX5_keyBy 56 = .ok (.iinc 4 1, 3) := dk_132 4 1 (dk_at dksX5_keyBy_2 8 rfl rfl)
theorem dX5_keyBy_59 : decode cX5_keyBy 59 = .ok (.goto (-22), 3) := dk_167 255 234 (dk_at dksX5_keyBy_2 11 rfl rfl)
theorem dX5_keyBy_62 : decode cX5_keyBy 62 = .ok (.aload_n 0, 1) := dk_42 (dk_at dksX5_keyBy_2 14 rfl rfl)
theorem dX5_keyBy_63 : decode cX5_keyBy 63 = .ok (.iload 4, 2) := dk_21 4 (dk_at dksX5_keyBy_2 15 rfl rfl)
theorem dX5_keyBy_65 : decode cX5_keyBy 65 = .ok (.iload_n 3, 1) := dk_29 (dk_at dksX5_keyBy_2 17 rfl rfl)
theorem dX5_keyBy_66 : decode cX5_keyBy 66 = .ok (.invokevirtual 180, 3) := dk_182 0 180 (dk_at dksX5_keyBy_2 18 rfl rfl)
theorem dX5_keyBy_69 : decode cX5_keyBy 69 = .ok (.ireturn, 1) := dk_172 (dk_at dksX5_keyBy_2 21 rfl rfl)
abbrev cX5_next : ByteArray := prog_15_method_61_code
def yX5_next : MethodName := ⟨RX5, "next", "(I)I"⟩
def dkwX5_next_2 : List UInt8 := [42, 180, 0, 25, 27, 46, 29, 182, 0, 192, 4, 96, 182, 0, 198, 79, 29, 172]
abbrev dktX5_next_2 : List UInt8 := dkwX5_next_2 ++ []
def dkwX5_next_1 : List UInt8 := [2, 159, 0, 39, 42, 180, 0, 31, 27, 29, 79, 42, 180, 0, 28, 27, 42, 42, 180, 0, 25, 27, 46, 42]
abbrev dktX5_next_1 : List UInt8 := dkwX5_next_1 ++ dktX5_next_2
def dkwX5_next_0 : List UInt8 := [42, 27, 182, 0, 201, 61, 28, 156, 0, 9, 42, 28, 182, 0, 137, 172, 42, 180, 0, 28, 27, 46, 62, 29]
abbrev dktX5_next_0 : List UInt8 := dkwX5_next_0 ++ dktX5_next_1
theorem dksX5_next_0 : cX5_next.data.toList.drop 0 = dktX5_next_0 := by decide +kernel
theorem dksX5_next_1 : cX5_next.data.toList.drop 24 = dktX5_next_1 := dk_seg dksX5_next_0 24 rfl rfl
theorem dksX5_next_2 : cX5_next.data.toList.drop 48 = dktX5_next_2 := dk_seg dksX5_next_1 24 rfl rfl
theorem dX5_next_0 : decode cX5_next 0 = .ok (.aload_n 0, 1) := dk_42 (dk_at dksX5_next_0 0 rfl rfl)
theorem dX5_next_1 : decode cX5_next 1 = .ok (.iload_n 1, 1) := dk_27 (dk_at dksX5_next_0 1 rfl rfl)
theorem dX5_next_2 : decode cX5_next 2 = .ok (.invokevirtual 201, 3) := dk_182 0 201 (dk_at dksX5_next_0 2 rfl rfl)
theorem dX5_next_5 : decode cX5_next 5 = .ok (.istore_n 2, 1) := dk_61 (dk_at dksX5_next_0 5 rfl rfl)
theorem dX5_next_6 : decode cX5_next 6 = .ok (.iload_n 2, 1) := dk_28 (dk_at dksX5_next_0 6 rfl rfl)
theorem dX5_next_7 : decode cX5_next 7 = .ok (.ifCond .ge 9, 3) := dk_156 0 9 (dk_at dksX5_next_0 7 rfl rfl)
theorem dX5_next_10 : decode cX5_next 10 = .ok (.aload_n 0, 1) := dk_42 (dk_at dksX5_next_0 10 rfl rfl)
theorem dX5_next_11 : decode cX5_next 11 = .ok (.iload_n 2, 1) := dk_28 (dk_at dksX5_next_0 11 rfl rfl)
theorem dX5_next_12 : decode cX5_next 12 = .ok (.invokevirtual 137, 3) := dk_182 0 137 (dk_at dksX5_next_0 12 rfl rfl)
theorem dX5_next_15 : decode cX5_next 15 = .ok (.ireturn, 1) := dk_172 (dk_at dksX5_next_0 15 rfl rfl)
theorem dX5_next_16 : decode cX5_next 16 = .ok (.aload_n 0, 1) := dk_42 (dk_at dksX5_next_0 16 rfl rfl)
theorem dX5_next_17 : decode cX5_next 17 = .ok (.getfield 28, 3) := dk_180 0 28 (dk_at dksX5_next_0 17 rfl rfl)
theorem dX5_next_20 : decode cX5_next 20 = .ok (.iload_n 1, 1) := dk_27 (dk_at dksX5_next_0 20 rfl rfl)
theorem dX5_next_21 : decode cX5_next 21 = .ok (.iaload, 1) := dk_46 (dk_at dksX5_next_0 21 rfl rfl)
theorem dX5_next_22 : decode cX5_next 22 = .ok (.istore_n 3, 1) := dk_62 (dk_at dksX5_next_0 22 rfl rfl)
theorem dX5_next_23 : decode cX5_next 23 = .ok (.iload_n 3, 1) := dk_29 (dk_at dksX5_next_0 23 rfl rfl)
theorem dX5_next_24 : decode cX5_next 24 = .ok (.iconst (-1), 1) := dk_2 (dk_at dksX5_next_1 0 rfl rfl)
theorem dX5_next_25 : decode cX5_next 25 = .ok (.if_icmp .eq 39, 3) := dk_159 0 39 (dk_at dksX5_next_1 1 rfl rfl)
theorem dX5_next_28 : decode cX5_next 28 = .ok (.aload_n 0, 1) := dk_42 (dk_at dksX5_next_1 4 rfl rfl)
theorem dX5_next_29 : decode cX5_next 29 = .ok (.getfield 31, 3) := dk_180 0 31 (dk_at dksX5_next_1 5 rfl rfl)
theorem dX5_next_32 : decode cX5_next 32 = .ok (.iload_n 1, 1) := dk_27 (dk_at dksX5_next_1 8 rfl rfl)
theorem dX5_next_33 : decode cX5_next 33 = .ok (.iload_n 3, 1) := dk_29 (dk_at dksX5_next_1 9 rfl rfl)
theorem dX5_next_34 : decode cX5_next 34 = .ok (.iastore, 1) := dk_79 (dk_at dksX5_next_1 10 rfl rfl)
theorem dX5_next_35 : decode cX5_next 35 = .ok (.aload_n 0, 1) := dk_42 (dk_at dksX5_next_1 11 rfl rfl)
theorem dX5_next_36 : decode cX5_next 36 = .ok (.getfield 28, 3) := dk_180 0 28 (dk_at dksX5_next_1 12 rfl rfl)
theorem dX5_next_39 : decode cX5_next 39 = .ok (.iload_n 1, 1) := dk_27 (dk_at dksX5_next_1 15 rfl rfl)
theorem dX5_next_40 : decode cX5_next 40 = .ok (.aload_n 0, 1) := dk_42 (dk_at dksX5_next_1 16 rfl rfl)
theorem dX5_next_41 : decode cX5_next 41 = .ok (.aload_n 0, 1) := dk_42 (dk_at dksX5_next_1 17 rfl rfl)
theorem dX5_next_42 : decode cX5_next 42 = .ok (.getfield 25, 3) := dk_180 0 25 (dk_at dksX5_next_1 18 rfl rfl)
theorem dX5_next_45 : decode cX5_next 45 = .ok (.iload_n 1, 1) := dk_27 (dk_at dksX5_next_1 21 rfl rfl)
theorem dX5_next_46 : decode cX5_next 46 = .ok (.iaload, 1) := dk_46 (dk_at dksX5_next_1 22 rfl rfl)
theorem dX5_next_47 : decode cX5_next 47 = .ok (.aload_n 0, 1) := dk_42 (dk_at dksX5_next_1 23 rfl rfl)
theorem dX5_next_48 : decode cX5_next 48 = .ok (.aload_n 0, 1) := dk_42 (dk_at dksX5_next_2 0 rfl rfl)
theorem dX5_next_49 : decode cX5_next 49 = .ok (.getfield 25, 3) := dk_180 0 25 (dk_at dksX5_next_2 1 rfl rfl)
theorem dX5_next_52 : decode cX5_next 52 = .ok (.iload_n 1, 1) := dk_27 (dk_at dksX5_next_2 4 rfl rfl)
theorem dX5_next_53 : decode cX5_next 53 = .ok (.iaload, 1) := dk_46 (dk_at dksX5_next_2 5 rfl rfl)
theorem dX5_next_54 : decode cX5_next 54 = .ok (.iload_n 3, 1) := dk_29 (dk_at dksX5_next_2 6 rfl rfl)
theorem dX5_next_55 : decode cX5_next 55 = .ok (.invokevirtual 192, 3) := dk_182 0 192 (dk_at dksX5_next_2 7 rfl rfl)
theorem dX5_next_58 : decode cX5_next 58 = .ok (.iconst 1, 1) := dk_4 (dk_at dksX5_next_2 10 rfl rfl)
theorem dX5_next_59 : decode cX5_next 59 = .ok (.iadd, 1) := dk_96 (dk_at dksX5_next_2 11 rfl rfl)
theorem dX5_next_60 : decode cX5_next 60 = .ok (.invokevirtual 198, 3) := dk_182 0 198 (dk_at dksX5_next_2 12 rfl rfl)
theorem dX5_next_63 : decode cX5_next 63 = .ok (.iastore, 1) := dk_79 (dk_at dksX5_next_2 15 rfl rfl)
theorem dX5_next_64 : decode cX5_next 64 = .ok (.iload_n 3, 1) := dk_29 (dk_at dksX5_next_2 16 rfl rfl)
theorem dX5_next_65 : decode cX5_next 65 = .ok (.ireturn, 1) := dk_172 (dk_at dksX5_next_2 17 rfl rfl)
abbrev cX5_lacks : ByteArray := prog_15_method_60_code
def yX5_lacks : MethodName := ⟨RX5, "lacks", "(I)I"⟩
def dkwX5_lacks_1 : List UInt8 := [167, 0, 22, 42, 180, 0, 34, 27, 46, 42, 180, 0, 108, 159, 0, 8, 16, 250, 167, 0, 4, 3, 172]
abbrev dktX5_lacks_1 : List UInt8 := dkwX5_lacks_1 ++ []
def dkwX5_lacks_0 : List UInt8 := [27, 184, 0, 195, 154, 0, 8, 16, 254, 167, 0, 37, 42, 180, 0, 25, 27, 46, 2, 160, 0, 8, 16, 253]
abbrev dktX5_lacks_0 : List UInt8 := dkwX5_lacks_0 ++ dktX5_lacks_1
theorem dksX5_lacks_0 : cX5_lacks.data.toList.drop 0 = dktX5_lacks_0 := by decide +kernel
theorem dksX5_lacks_1 : cX5_lacks.data.toList.drop 24 = dktX5_lacks_1 := dk_seg dksX5_lacks_0 24 rfl rfl
theorem dX5_lacks_0 : decode cX5_lacks 0 = .ok (.iload_n 1, 1) := dk_27 (dk_at dksX5_lacks_0 0 rfl rfl)
theorem dX5_lacks_1 : decode cX5_lacks 1 = .ok (.invokestatic 195, 3) := dk_184 0 195 (dk_at dksX5_lacks_0 1 rfl rfl)
theorem dX5_lacks_4 : decode cX5_lacks 4 = .ok (.ifCond .ne 8, 3) := dk_154 0 8 (dk_at dksX5_lacks_0 4 rfl rfl)
theorem dX5_lacks_7 : decode cX5_lacks 7 = .ok (.bipush (-2), 2) := dk_16 254 (dk_at dksX5_lacks_0 7 rfl rfl)
theorem dX5_lacks_9 : decode cX5_lacks 9 = .ok (.goto 37, 3) := dk_167 0 37 (dk_at dksX5_lacks_0 9 rfl rfl)
theorem dX5_lacks_12 : decode cX5_lacks 12 = .ok (.aload_n 0, 1) := dk_42 (dk_at dksX5_lacks_0 12 rfl rfl)
theorem dX5_lacks_13 : decode cX5_lacks 13 = .ok (.getfield 25, 3) := dk_180 0 25 (dk_at dksX5_lacks_0 13 rfl rfl)
theorem dX5_lacks_16 : decode cX5_lacks 16 = .ok (.iload_n 1, 1) := dk_27 (dk_at dksX5_lacks_0 16 rfl rfl)
theorem dX5_lacks_17 : decode cX5_lacks 17 = .ok (.iaload, 1) := dk_46 (dk_at dksX5_lacks_0 17 rfl rfl)
theorem dX5_lacks_18 : decode cX5_lacks 18 = .ok (.iconst (-1), 1) := dk_2 (dk_at dksX5_lacks_0 18 rfl rfl)
theorem dX5_lacks_19 : decode cX5_lacks 19 = .ok (.if_icmp .ne 8, 3) := dk_160 0 8 (dk_at dksX5_lacks_0 19 rfl rfl)
theorem dX5_lacks_22 : decode cX5_lacks 22 = .ok (.bipush (-3), 2) := dk_16 253 (dk_at dksX5_lacks_0 22 rfl rfl)
theorem dX5_lacks_24 : decode cX5_lacks 24 = .ok (.goto 22, 3) := dk_167 0 22 (dk_at dksX5_lacks_1 0 rfl rfl)
theorem dX5_lacks_27 : decode cX5_lacks 27 = .ok (.aload_n 0, 1) := dk_42 (dk_at dksX5_lacks_1 3 rfl rfl)
theorem dX5_lacks_28 : decode cX5_lacks 28 = .ok (.getfield 34, 3) := dk_180 0 34 (dk_at dksX5_lacks_1 4 rfl rfl)
theorem dX5_lacks_31 : decode cX5_lacks 31 = .ok (.iload_n 1, 1) := dk_27 (dk_at dksX5_lacks_1 7 rfl rfl)
theorem dX5_lacks_32 : decode cX5_lacks 32 = .ok (.iaload, 1) := dk_46 (dk_at dksX5_lacks_1 8 rfl rfl)
theorem dX5_lacks_33 : decode cX5_lacks 33 = .ok (.aload_n 0, 1) := dk_42 (dk_at dksX5_lacks_1 9 rfl rfl)
theorem dX5_lacks_34 : decode cX5_lacks 34 = .ok (.getfield 108, 3) := dk_180 0 108 (dk_at dksX5_lacks_1 10 rfl rfl)
theorem dX5_lacks_37 : decode cX5_lacks 37 = .ok (.if_icmp .eq 8, 3) := dk_159 0 8 (dk_at dksX5_lacks_1 13 rfl rfl)
theorem dX5_lacks_40 : decode cX5_lacks 40 = .ok (.bipush (-6), 2) := dk_16 250 (dk_at dksX5_lacks_1 16 rfl rfl)
theorem dX5_lacks_42 : decode cX5_lacks 42 = .ok (.goto 4, 3) := dk_167 0 4 (dk_at dksX5_lacks_1 18 rfl rfl)
theorem dX5_lacks_45 : decode cX5_lacks 45 = .ok (.iconst 0, 1) := dk_3 (dk_at dksX5_lacks_1 21 rfl rfl)
theorem dX5_lacks_46 : decode cX5_lacks 46 = .ok (.ireturn, 1) := dk_172 (dk_at dksX5_lacks_1 22 rfl rfl)
abbrev cX5_placeBy : ByteArray := prog_15_method_55_code
def yX5_placeBy : MethodName := ⟨RX5, "placeBy", "(II)I"⟩
def dkwX5_placeBy_1 : List UInt8 := [132, 3, 1, 167, 255, 233, 29, 172]
abbrev dktX5_placeBy_1 : List UInt8 := dkwX5_placeBy_1 ++ []
def dkwX5_placeBy_0 : List UInt8 := [3, 62, 29, 42, 180, 0, 7, 3, 46, 162, 0, 19, 42, 27, 29, 182, 0, 189, 28, 159, 0, 9]
abbrev dktX5_placeBy_0 : List UInt8 := dkwX5_placeBy_0 ++ dktX5_placeBy_1
theorem dksX5_placeBy_0 : cX5_placeBy.data.toList.drop 0 = dktX5_placeBy_0 := by decide +kernel
theorem dksX5_placeBy_1 : cX5_placeBy.data.toList.drop 22 = dktX5_placeBy_1 := dk_seg dksX5_placeBy_0 22 rfl rfl
theorem dX5_placeBy_0 : decode cX5_placeBy 0 = .ok (.iconst 0, 1) := dk_3 (dk_at dksX5_placeBy_0 0 rfl rfl)
theorem dX5_placeBy_1 : decode cX5_placeBy 1 = .ok (.istore_n 3, 1) := dk_62 (dk_at dksX5_placeBy_0 1 rfl rfl)
theorem dX5_placeBy_2 : decode cX5_placeBy 2 = .ok (.iload_n 3, 1) := dk_29 (dk_at dksX5_placeBy_0 2 rfl rfl)
theorem dX5_placeBy_3 : decode cX5_placeBy 3 = .ok (.aload_n 0, 1) := dk_42 (dk_at dksX5_placeBy_0 3 rfl rfl)
theorem dX5_placeBy_4 : decode cX5_placeBy 4 = .ok (.getfield 7, 3) := dk_180 0 7 (dk_at dksX5_placeBy_0 4 rfl rfl)
theorem dX5_placeBy_7 : decode cX5_placeBy 7 = .ok (.iconst 0, 1) := dk_3 (dk_at dksX5_placeBy_0 7 rfl rfl)
theorem dX5_placeBy_8 : decode cX5_placeBy 8 = .ok (.iaload, 1) := dk_46 (dk_at dksX5_placeBy_0 8 rfl rfl)
theorem dX5_placeBy_9 : decode cX5_placeBy 9 = .ok (.if_icmp .ge 19, 3) := dk_162 0 19 (dk_at dksX5_placeBy_0 9 rfl rfl)
theorem dX5_placeBy_12 : decode cX5_placeBy 12 = .ok (.aload_n 0, 1) := dk_42 (dk_at dksX5_placeBy_0 12 rfl rfl)
theorem dX5_placeBy_13 : decode cX5_placeBy 13 = .ok (.iload_n 1, 1) := dk_27 (dk_at dksX5_placeBy_0 13 rfl rfl)
theorem dX5_placeBy_14 : decode cX5_placeBy 14 = .ok (.iload_n 3, 1) := dk_29 (dk_at dksX5_placeBy_0 14 rfl rfl)
theorem dX5_placeBy_15 : decode cX5_placeBy 15 = .ok (.invokevirtual 189, 3) := dk_182 0 189 (dk_at dksX5_placeBy_0 15 rfl rfl)
theorem dX5_placeBy_18 : decode cX5_placeBy 18 = .ok (.iload_n 2, 1) := dk_28 (dk_at dksX5_placeBy_0 18 rfl rfl)
theorem dX5_placeBy_19 : decode cX5_placeBy 19 = .ok (.if_icmp .eq 9, 3) := dk_159 0 9 (dk_at dksX5_placeBy_0 19 rfl rfl)
theorem dX5_placeBy_22 : decode cX5_placeBy 22 = .ok (.iinc 3 1, 3) := dk_132 3 1 (dk_at dksX5_placeBy_1 0 rfl rfl)
theorem dX5_placeBy_25 : decode cX5_placeBy 25 = .ok (.goto (-23), 3) := dk_167 255 233 (dk_at dksX5_placeBy_1 3 rfl rfl)
theorem dX5_placeBy_28 : decode cX5_placeBy 28 = .ok (.iload_n 3, 1) := dk_29 (dk_at dksX5_placeBy_1 6 rfl rfl)
theorem dX5_placeBy_29 : decode cX5_placeBy 29 = .ok (.ireturn, 1) := dk_172 (dk_at dksX5_placeBy_1 7 rfl rfl)
abbrev cX5_removes : ByteArray := prog_15_method_62_code
def yX5_removes : MethodName := ⟨RX5, "removes", "(I)I"⟩
def dkwX5_removes_3 : List UInt8 := [79, 42, 180, 0, 34, 27, 42, 180, 0, 108, 79, 29, 172]
abbrev dktX5_removes_3 : List UInt8 := dkwX5_removes_3 ++ []
def dkwX5_removes_2 : List UInt8 := [182, 0, 146, 42, 42, 180, 0, 31, 27, 46, 182, 0, 158, 62, 42, 182, 0, 152, 42, 180, 0, 31, 27, 2]
abbrev dktX5_removes_2 : List UInt8 := dkwX5_removes_2 ++ dktX5_removes_3
def dkwX5_removes_1 : List UInt8 := [180, 0, 31, 27, 46, 2, 160, 0, 6, 16, 253, 61, 28, 156, 0, 9, 42, 28, 182, 0, 137, 172, 42]
abbrev dktX5_removes_1 : List UInt8 := dkwX5_removes_1 ++ dktX5_removes_2
def dkwX5_removes_0 : List UInt8 := [42, 27, 182, 0, 201, 61, 27, 184, 0, 195, 153, 0, 26, 42, 180, 0, 25, 27, 46, 2, 159, 0, 16, 42]
abbrev dktX5_removes_0 : List UInt8 := dkwX5_removes_0 ++ dktX5_removes_1
theorem dksX5_removes_0 : cX5_removes.data.toList.drop 0 = dktX5_removes_0 := by decide +kernel
theorem dksX5_removes_1 : cX5_removes.data.toList.drop 24 = dktX5_removes_1 := dk_seg dksX5_removes_0 24 rfl rfl
theorem dksX5_removes_2 : cX5_removes.data.toList.drop 47 = dktX5_removes_2 := dk_seg dksX5_removes_1 23 rfl rfl
theorem dksX5_removes_3 : cX5_removes.data.toList.drop 71 = dktX5_removes_3 := dk_seg dksX5_removes_2 24 rfl rfl
theorem dX5_removes_0 : decode cX5_removes 0 = .ok (.aload_n 0, 1) := dk_42 (dk_at dksX5_removes_0 0 rfl rfl)
theorem dX5_removes_1 : decode cX5_removes 1 = .ok (.iload_n 1, 1) := dk_27 (dk_at dksX5_removes_0 1 rfl rfl)
theorem dX5_removes_2 : decode cX5_removes 2 = .ok (.invokevirtual 201, 3) := dk_182 0 201 (dk_at dksX5_removes_0 2 rfl rfl)
theorem dX5_removes_5 : decode cX5_removes 5 = .ok (.istore_n 2, 1) := dk_61 (dk_at dksX5_removes_0 5 rfl rfl)
theorem dX5_removes_6 : decode cX5_removes 6 = .ok (.iload_n 1, 1) := dk_27 (dk_at dksX5_removes_0 6 rfl rfl)
theorem dX5_removes_7 : decode cX5_removes 7 = .ok (.invokestatic 195, 3) := dk_184 0 195 (dk_at dksX5_removes_0 7 rfl rfl)
theorem dX5_removes_10 : decode cX5_removes 10 = .ok (.ifCond .eq 26, 3) := dk_153 0 26 (dk_at dksX5_removes_0 10 rfl rfl)
theorem dX5_removes_13 : decode cX5_removes 13 = .ok (.aload_n 0, 1) := dk_42 (dk_at dksX5_removes_0 13 rfl rfl)
theorem dX5_removes_14 : decode cX5_removes 14 = .ok (.getfield 25, 3) := dk_180 0 25 (dk_at dksX5_removes_0 14 rfl rfl)
theorem dX5_removes_17 : decode cX5_removes 17 = .ok (.iload_n 1, 1) := dk_27 (dk_at dksX5_removes_0 17 rfl rfl)
theorem dX5_removes_18 : decode cX5_removes 18 = .ok (.iaload, 1) := dk_46 (dk_at dksX5_removes_0 18 rfl rfl)
theorem dX5_removes_19 : decode cX5_removes 19 = .ok (.iconst (-1), 1) := dk_2 (dk_at dksX5_removes_0 19 rfl rfl)
theorem dX5_removes_20 : decode cX5_removes 20 = .ok (.if_icmp .eq 16, 3) := dk_159 0 16 (dk_at dksX5_removes_0 20 rfl rfl)
theorem dX5_removes_23 : decode cX5_removes 23 = .ok (.aload_n 0, 1) := dk_42 (dk_at dksX5_removes_0 23 rfl rfl)
theorem dX5_removes_24 : decode cX5_removes 24 = .ok (.getfield 31, 3) := dk_180 0 31 (dk_at dksX5_removes_1 0 rfl rfl)
theorem dX5_removes_27 : decode cX5_removes 27 = .ok (.iload_n 1, 1) := dk_27 (dk_at dksX5_removes_1 3 rfl rfl)
theorem dX5_removes_28 : decode cX5_removes 28 = .ok (.iaload, 1) := dk_46 (dk_at dksX5_removes_1 4 rfl rfl)
theorem dX5_removes_29 : decode cX5_removes 29 = .ok (.iconst (-1), 1) := dk_2 (dk_at dksX5_removes_1 5 rfl rfl)
theorem dX5_removes_30 : decode cX5_removes 30 = .ok (.if_icmp .ne 6, 3) := dk_160 0 6 (dk_at dksX5_removes_1 6 rfl rfl)
theorem dX5_removes_33 : decode cX5_removes 33 = .ok (.bipush (-3), 2) := dk_16 253 (dk_at dksX5_removes_1 9 rfl rfl)
theorem dX5_removes_35 : decode cX5_removes 35 = .ok (.istore_n 2, 1) := dk_61 (dk_at dksX5_removes_1 11 rfl rfl)
theorem dX5_removes_36 : decode cX5_removes 36 = .ok (.iload_n 2, 1) := dk_28 (dk_at dksX5_removes_1 12 rfl rfl)
theorem dX5_removes_37 : decode cX5_removes 37 = .ok (.ifCond .ge 9, 3) := dk_156 0 9 (dk_at dksX5_removes_1 13 rfl rfl)
theorem dX5_removes_40 : decode cX5_removes 40 = .ok (.aload_n 0, 1) := dk_42 (dk_at dksX5_removes_1 16 rfl rfl)
theorem dX5_removes_41 : decode cX5_removes 41 = .ok (.iload_n 2, 1) := dk_28 (dk_at dksX5_removes_1 17 rfl rfl)
theorem dX5_removes_42 : decode cX5_removes 42 = .ok (.invokevirtual 137, 3) := dk_182 0 137 (dk_at dksX5_removes_1 18 rfl rfl)
theorem dX5_removes_45 : decode cX5_removes 45 = .ok (.ireturn, 1) := dk_172 (dk_at dksX5_removes_1 21 rfl rfl)
theorem dX5_removes_46 : decode cX5_removes 46 = .ok (.aload_n 0, 1) := dk_42 (dk_at dksX5_removes_1 22 rfl rfl)
theorem dX5_removes_47 : decode cX5_removes 47 = .ok (.invokevirtual 146, 3) := dk_182 0 146 (dk_at dksX5_removes_2 0 rfl rfl)
theorem dX5_removes_50 : decode cX5_removes 50 = .ok (.aload_n 0, 1) := dk_42 (dk_at dksX5_removes_2 3 rfl rfl)
theorem dX5_removes_51 : decode cX5_removes 51 = .ok (.aload_n 0, 1) := dk_42 (dk_at dksX5_removes_2 4 rfl rfl)
theorem dX5_removes_52 : decode cX5_removes 52 = .ok (.getfield 31, 3) := dk_180 0 31 (dk_at dksX5_removes_2 5 rfl rfl)
theorem dX5_removes_55 : decode cX5_removes 55 = .ok (.iload_n 1, 1) := dk_27 (dk_at dksX5_removes_2 8 rfl rfl)
theorem dX5_removes_56 : decode cX5_removes 56 = .ok (.iaload, 1) := dk_46 (dk_at dksX5_removes_2 9 rfl rfl)
theorem dX5_removes_57 : decode cX5_removes 57 = .ok (.invokevirtual 158, 3) := dk_182 0 158 (dk_at dksX5_removes_2 10 rfl rfl)
theorem dX5_removes_60 : decode cX5_removes 60 = .ok (.istore_n 3, 1) := dk_62 (dk_at dksX5_removes_2 13 rfl rfl)
theorem dX5_removes_61 : decode cX5_removes 61 = .ok (.aload_n 0, 1) := dk_42 (dk_at dksX5_removes_2 14 rfl rfl)
theorem dX5_removes_62 : decode cX5_removes 62 = .ok (.invokevirtual 152, 3) := dk_182 0 152 (dk_at dksX5_removes_2 15 rfl rfl)
theorem dX5_removes_65 : decode cX5_removes 65 = .ok (.aload_n 0, 1) := dk_42 (dk_at dksX5_removes_2 18 rfl rfl)
theorem dX5_removes_66 : decode cX5_removes 66 = .ok (.getfield 31, 3) := dk_180 0 31 (dk_at dksX5_removes_2 19 rfl rfl)
theorem dX5_removes_69 : decode cX5_removes 69 = .ok (.iload_n 1, 1) := dk_27 (dk_at dksX5_removes_2 22 rfl rfl)
theorem dX5_removes_70 : decode cX5_removes 70 = .ok (.iconst (-1), 1) := dk_2 (dk_at dksX5_removes_2 23 rfl rfl)
theorem dX5_removes_71 : decode cX5_removes 71 = .ok (.iastore, 1) := dk_79 (dk_at dksX5_removes_3 0 rfl rfl)
theorem dX5_removes_72 : decode cX5_removes 72 = .ok (.aload_n 0, 1) := dk_42 (dk_at dksX5_removes_3 1 rfl rfl)
theorem dX5_removes_73 : decode cX5_removes 73 = .ok (.getfield 34, 3) := dk_180 0 34 (dk_at dksX5_removes_3 2 rfl rfl)
theorem dX5_removes_76 : decode cX5_removes 76 = .ok (.iload_n 1, 1) := dk_27 (dk_at dksX5_removes_3 5 rfl rfl)
theorem dX5_removes_77 : decode cX5_removes 77 = .ok (.aload_n 0, 1) := dk_42 (dk_at dksX5_removes_3 6 rfl rfl)
theorem dX5_removes_78 : decode cX5_removes 78 = .ok (.getfield 108, 3) := dk_180 0 108 (dk_at dksX5_removes_3 7 rfl rfl)
theorem dX5_removes_81 : decode cX5_removes 81 = .ok (.iastore, 1) := dk_79 (dk_at dksX5_removes_3 10 rfl rfl)
theorem dX5_removes_82 : decode cX5_removes 82 = .ok (.iload_n 3, 1) := dk_29 (dk_at dksX5_removes_3 11 rfl rfl)
theorem dX5_removes_83 : decode cX5_removes 83 = .ok (.ireturn, 1) := dk_172 (dk_at dksX5_removes_3 12 rfl rfl)
abbrev cX5_resumes : ByteArray := prog_15_method_63_code
def yX5_resumes : MethodName := ⟨RX5, "resumes", "(I)I"⟩
def dkwX5_resumes_5 : List UInt8 := [27, 42, 180, 0, 108, 79, 42, 27, 182, 0, 204, 172]
abbrev dktX5_resumes_5 : List UInt8 := dkwX5_resumes_5 ++ []
def dkwX5_resumes_4 : List UInt8 := [42, 180, 0, 31, 27, 29, 153, 0, 12, 42, 180, 0, 31, 27, 46, 167, 0, 4, 2, 79, 42, 180, 0, 34]
abbrev dktX5_resumes_4 : List UInt8 := dkwX5_resumes_4 ++ dktX5_resumes_5
def dkwX5_resumes_3 : List UInt8 := [180, 0, 25, 27, 46, 42, 180, 0, 31, 27, 46, 182, 0, 192, 4, 96, 167, 0, 4, 3, 182, 0, 198, 79]
abbrev dktX5_resumes_3 : List UInt8 := dkwX5_resumes_3 ++ dktX5_resumes_4
def dkwX5_resumes_2 : List UInt8 := [167, 0, 4, 3, 62, 42, 180, 0, 28, 27, 42, 42, 180, 0, 25, 27, 46, 29, 153, 0, 24, 42, 42]
abbrev dktX5_resumes_2 : List UInt8 := dkwX5_resumes_2 ++ dktX5_resumes_3
def dkwX5_resumes_1 : List UInt8 := [180, 0, 31, 27, 46, 2, 159, 0, 21, 42, 42, 180, 0, 31, 27, 46, 182, 0, 121, 2, 159, 0, 7, 4]
abbrev dktX5_resumes_1 : List UInt8 := dkwX5_resumes_1 ++ dktX5_resumes_2
def dkwX5_resumes_0 : List UInt8 := [42, 27, 182, 0, 201, 61, 28, 156, 0, 15, 28, 16, 250, 159, 0, 9, 42, 28, 182, 0, 137, 172, 42]
abbrev dktX5_resumes_0 : List UInt8 := dkwX5_resumes_0 ++ dktX5_resumes_1
theorem dksX5_resumes_0 : cX5_resumes.data.toList.drop 0 = dktX5_resumes_0 := by decide +kernel
theorem dksX5_resumes_1 : cX5_resumes.data.toList.drop 23 = dktX5_resumes_1 := dk_seg dksX5_resumes_0 23 rfl rfl
theorem dksX5_resumes_2 : cX5_resumes.data.toList.drop 47 = dktX5_resumes_2 := dk_seg dksX5_resumes_1 24 rfl rfl
theorem dksX5_resumes_3 : cX5_resumes.data.toList.drop 70 = dktX5_resumes_3 := dk_seg dksX5_resumes_2 23 rfl rfl
theorem dksX5_resumes_4 : cX5_resumes.data.toList.drop 94 = dktX5_resumes_4 := dk_seg dksX5_resumes_3 24 rfl rfl
theorem dksX5_resumes_5 : cX5_resumes.data.toList.drop 118 = dktX5_resumes_5 := dk_seg dksX5_resumes_4 24 rfl rfl
theorem dX5_resumes_0 : decode cX5_resumes 0 = .ok (.aload_n 0, 1) := dk_42 (dk_at dksX5_resumes_0 0 rfl rfl)
theorem dX5_resumes_1 : decode cX5_resumes 1 = .ok (.iload_n 1, 1) := dk_27 (dk_at dksX5_resumes_0 1 rfl rfl)
theorem dX5_resumes_2 : decode cX5_resumes 2 = .ok (.invokevirtual 201, 3) := dk_182 0 201 (dk_at dksX5_resumes_0 2 rfl rfl)
theorem dX5_resumes_5 : decode cX5_resumes 5 = .ok (.istore_n 2, 1) := dk_61 (dk_at dksX5_resumes_0 5 rfl rfl)
theorem dX5_resumes_6 : decode cX5_resumes 6 = .ok (.iload_n 2, 1) := dk_28 (dk_at dksX5_resumes_0 6 rfl rfl)
theorem dX5_resumes_7 : decode cX5_resumes 7 = .ok (.ifCond .ge 15, 3) := dk_156 0 15 (dk_at dksX5_resumes_0 7 rfl rfl)
theorem dX5_resumes_10 : decode cX5_resumes 10 = .ok (.iload_n 2, 1) := dk_28 (dk_at dksX5_resumes_0 10 rfl rfl)
theorem dX5_resumes_11 : decode cX5_resumes 11 = .ok (.bipush (-6), 2) := dk_16 250 (dk_at dksX5_resumes_0 11 rfl rfl)
theorem dX5_resumes_13 : decode cX5_resumes 13 = .ok (.if_icmp .eq 9, 3) := dk_159 0 9 (dk_at dksX5_resumes_0 13 rfl rfl)
theorem dX5_resumes_16 : decode cX5_resumes 16 = .ok (.aload_n 0, 1) := dk_42 (dk_at dksX5_resumes_0 16 rfl rfl)
theorem dX5_resumes_17 : decode cX5_resumes 17 = .ok (.iload_n 2, 1) := dk_28 (dk_at dksX5_resumes_0 17 rfl rfl)
theorem dX5_resumes_18 : decode cX5_resumes 18 = .ok (.invokevirtual 137, 3) := dk_182 0 137 (dk_at dksX5_resumes_0 18 rfl rfl)
theorem dX5_resumes_21 : decode cX5_resumes 21 = .ok (.ireturn, 1) := dk_172 (dk_at dksX5_resumes_0 21 rfl rfl)
theorem dX5_resumes_22 : decode cX5_resumes 22 = .ok (.aload_n 0, 1) := dk_42 (dk_at dksX5_resumes_0 22 rfl rfl)
theorem dX5_resumes_23 : decode cX5_resumes 23 = .ok (.getfield 31, 3) := dk_180 0 31 (dk_at dksX5_resumes_1 0 rfl rfl)
theorem dX5_resumes_26 : decode cX5_resumes 26 = .ok (.iload_n 1, 1) := dk_27 (dk_at dksX5_resumes_1 3 rfl rfl)
theorem dX5_resumes_27 : decode cX5_resumes 27 = .ok (.iaload, 1) := dk_46 (dk_at dksX5_resumes_1 4 rfl rfl)
theorem dX5_resumes_28 : decode cX5_resumes 28 = .ok (.iconst (-1), 1) := dk_2 (dk_at dksX5_resumes_1 5 rfl rfl)
theorem dX5_resumes_29 : decode cX5_resumes 29 = .ok (.if_icmp .eq 21, 3) := dk_159 0 21 (dk_at dksX5_resumes_1 6 rfl rfl)
theorem dX5_resumes_32 : decode cX5_resumes 32 = .ok (.aload_n 0, 1) := dk_42 (dk_at dksX5_resumes_1 9 rfl rfl)
theorem dX5_resumes_33 : decode cX5_resumes 33 = .ok (.aload_n 0, 1) := dk_42 (dk_at dksX5_resumes_1 10 rfl rfl)
theorem dX5_resumes_34 : decode cX5_resumes 34 = .ok (.getfield 31, 3) := dk_180 0 31 (dk_at dksX5_resumes_1 11 rfl rfl)
theorem dX5_resumes_37 : decode cX5_resumes 37 = .ok (.iload_n 1, 1) := dk_27 (dk_at dksX5_resumes_1 14 rfl rfl)
theorem dX5_resumes_38 : decode cX5_resumes 38 = .ok (.iaload, 1) := dk_46 (dk_at dksX5_resumes_1 15 rfl rfl)
theorem dX5_resumes_39 : decode cX5_resumes 39 = .ok (.invokevirtual 121, 3) := dk_182 0 121 (dk_at dksX5_resumes_1 16 rfl rfl)
theorem dX5_resumes_42 : decode cX5_resumes 42 = .ok (.iconst (-1), 1) := dk_2 (dk_at dksX5_resumes_1 19 rfl rfl)
theorem dX5_resumes_43 : decode cX5_resumes 43 = .ok (.if_icmp .eq 7, 3) := dk_159 0 7 (dk_at dksX5_resumes_1 20 rfl rfl)
theorem dX5_resumes_46 : decode cX5_resumes 46 = .ok (.iconst 1, 1) := dk_4 (dk_at dksX5_resumes_1 23 rfl rfl)
theorem dX5_resumes_47 : decode cX5_resumes 47 = .ok (.goto 4, 3) := dk_167 0 4 (dk_at dksX5_resumes_2 0 rfl rfl)
theorem dX5_resumes_50 : decode cX5_resumes 50 = .ok (.iconst 0, 1) := dk_3 (dk_at dksX5_resumes_2 3 rfl rfl)
theorem dX5_resumes_51 : decode cX5_resumes 51 = .ok (.istore_n 3, 1) := dk_62 (dk_at dksX5_resumes_2 4 rfl rfl)
theorem dX5_resumes_52 : decode cX5_resumes 52 = .ok (.aload_n 0, 1) := dk_42 (dk_at dksX5_resumes_2 5 rfl rfl)
theorem dX5_resumes_53 : decode cX5_resumes 53 = .ok (.getfield 28, 3) := dk_180 0 28 (dk_at dksX5_resumes_2 6 rfl rfl)
theorem dX5_resumes_56 : decode cX5_resumes 56 = .ok (.iload_n 1, 1) := dk_27 (dk_at dksX5_resumes_2 9 rfl rfl)
theorem dX5_resumes_57 : decode cX5_resumes 57 = .ok (.aload_n 0, 1) := dk_42 (dk_at dksX5_resumes_2 10 rfl rfl)
theorem dX5_resumes_58 : decode cX5_resumes 58 = .ok (.aload_n 0, 1) := dk_42 (dk_at dksX5_resumes_2 11 rfl rfl)
theorem dX5_resumes_59 : decode cX5_resumes 59 = .ok (.getfield 25, 3) := dk_180 0 25 (dk_at dksX5_resumes_2 12 rfl rfl)
theorem dX5_resumes_62 : decode cX5_resumes 62 = .ok (.iload_n 1, 1) := dk_27 (dk_at dksX5_resumes_2 15 rfl rfl)
theorem dX5_resumes_63 : decode cX5_resumes 63 = .ok (.iaload, 1) := dk_46 (dk_at dksX5_resumes_2 16 rfl rfl)
theorem dX5_resumes_64 : decode cX5_resumes 64 = .ok (.iload_n 3, 1) := dk_29 (dk_at dksX5_resumes_2 17 rfl rfl)
theorem dX5_resumes_65 : decode cX5_resumes 65 = .ok (.ifCond .eq 24, 3) := dk_153 0 24 (dk_at dksX5_resumes_2 18 rfl rfl)
theorem dX5_resumes_68 : decode cX5_resumes 68 = .ok (.aload_n 0, 1) := dk_42 (dk_at dksX5_resumes_2 21 rfl rfl)
theorem dX5_resumes_69 : decode cX5_resumes 69 = .ok (.aload_n 0, 1) := dk_42 (dk_at dksX5_resumes_2 22 rfl rfl)
theorem dX5_resumes_70 : decode cX5_resumes 70 = .ok (.getfield 25, 3) := dk_180 0 25 (dk_at dksX5_resumes_3 0 rfl rfl)
theorem dX5_resumes_73 : decode cX5_resumes 73 = .ok (.iload_n 1, 1) := dk_27 (dk_at dksX5_resumes_3 3 rfl rfl)
theorem dX5_resumes_74 : decode cX5_resumes 74 = .ok (.iaload, 1) := dk_46 (dk_at dksX5_resumes_3 4 rfl rfl)
theorem dX5_resumes_75 : decode cX5_resumes 75 = .ok (.aload_n 0, 1) := dk_42 (dk_at dksX5_resumes_3 5 rfl rfl)
theorem dX5_resumes_76 : decode cX5_resumes 76 = .ok (.getfield 31, 3) := dk_180 0 31 (dk_at dksX5_resumes_3 6 rfl rfl)
theorem dX5_resumes_79 : decode cX5_resumes 79 = .ok (.iload_n 1, 1) := dk_27 (dk_at dksX5_resumes_3 9 rfl rfl)
theorem dX5_resumes_80 : decode cX5_resumes 80 = .ok (.iaload, 1) := dk_46 (dk_at dksX5_resumes_3 10 rfl rfl)
theorem dX5_resumes_81 : decode cX5_resumes 81 = .ok (.invokevirtual 192, 3) := dk_182 0 192 (dk_at dksX5_resumes_3 11 rfl rfl)
theorem dX5_resumes_84 : decode cX5_resumes 84 = .ok (.iconst 1, 1) := dk_4 (dk_at dksX5_resumes_3 14 rfl rfl)
theorem dX5_resumes_85 : decode cX5_resumes 85 = .ok (.iadd, 1) := dk_96 (dk_at dksX5_resumes_3 15 rfl rfl)
theorem dX5_resumes_86 : decode cX5_resumes 86 = .ok (.goto 4, 3) := dk_167 0 4 (dk_at dksX5_resumes_3 16 rfl rfl)
theorem dX5_resumes_89 : decode cX5_resumes 89 = .ok (.iconst 0, 1) := dk_3 (dk_at dksX5_resumes_3 19 rfl rfl)
theorem dX5_resumes_90 : decode cX5_resumes 90 = .ok (.invokevirtual 198, 3) := dk_182 0 198 (dk_at dksX5_resumes_3 20 rfl rfl)
theorem dX5_resumes_93 : decode cX5_resumes 93 = .ok (.iastore, 1) := dk_79 (dk_at dksX5_resumes_3 23 rfl rfl)
theorem dX5_resumes_94 : decode cX5_resumes 94 = .ok (.aload_n 0, 1) := dk_42 (dk_at dksX5_resumes_4 0 rfl rfl)
theorem dX5_resumes_95 : decode cX5_resumes 95 = .ok (.getfield 31, 3) := dk_180 0 31 (dk_at dksX5_resumes_4 1 rfl rfl)
theorem dX5_resumes_98 : decode cX5_resumes 98 = .ok (.iload_n 1, 1) := dk_27 (dk_at dksX5_resumes_4 4 rfl rfl)
theorem dX5_resumes_99 : decode cX5_resumes 99 = .ok (.iload_n 3, 1) := dk_29 (dk_at dksX5_resumes_4 5 rfl rfl)
theorem dX5_resumes_100 : decode cX5_resumes 100 = .ok (.ifCond .eq 12, 3) := dk_153 0 12 (dk_at dksX5_resumes_4 6 rfl rfl)
theorem dX5_resumes_103 : decode cX5_resumes 103 = .ok (.aload_n 0, 1) := dk_42 (dk_at dksX5_resumes_4 9 rfl rfl)
theorem dX5_resumes_104 : decode cX5_resumes 104 = .ok (.getfield 31, 3) := dk_180 0 31 (dk_at dksX5_resumes_4 10 rfl rfl)
theorem dX5_resumes_107 : decode cX5_resumes 107 = .ok (.iload_n 1, 1) := dk_27 (dk_at dksX5_resumes_4 13 rfl rfl)
theorem dX5_resumes_108 : decode cX5_resumes 108 = .ok (.iaload, 1) := dk_46 (dk_at dksX5_resumes_4 14 rfl rfl)
theorem dX5_resumes_109 : decode cX5_resumes 109 = .ok (.goto 4, 3) := dk_167 0 4 (dk_at dksX5_resumes_4 15 rfl rfl)
theorem dX5_resumes_112 : decode cX5_resumes 112 = .ok (.iconst (-1), 1) := dk_2 (dk_at dksX5_resumes_4 18 rfl rfl)
theorem dX5_resumes_113 : decode cX5_resumes 113 = .ok (.iastore, 1) := dk_79 (dk_at dksX5_resumes_4 19 rfl rfl)
theorem dX5_resumes_114 : decode cX5_resumes 114 = .ok (.aload_n 0, 1) := dk_42 (dk_at dksX5_resumes_4 20 rfl rfl)
theorem dX5_resumes_115 : decode cX5_resumes 115 = .ok (.getfield 34, 3) := dk_180 0 34 (dk_at dksX5_resumes_4 21 rfl rfl)
theorem dX5_resumes_118 : decode cX5_resumes 118 = .ok (.iload_n 1, 1) := dk_27 (dk_at dksX5_resumes_5 0 rfl rfl)
theorem dX5_resumes_119 : decode cX5_resumes 119 = .ok (.aload_n 0, 1) := dk_42 (dk_at dksX5_resumes_5 1 rfl rfl)
theorem dX5_resumes_120 : decode cX5_resumes 120 = .ok (.getfield 108, 3) := dk_180 0 108 (dk_at dksX5_resumes_5 2 rfl rfl)
theorem dX5_resumes_123 : decode cX5_resumes 123 = .ok (.iastore, 1) := dk_79 (dk_at dksX5_resumes_5 5 rfl rfl)
theorem dX5_resumes_124 : decode cX5_resumes 124 = .ok (.aload_n 0, 1) := dk_42 (dk_at dksX5_resumes_5 6 rfl rfl)
theorem dX5_resumes_125 : decode cX5_resumes 125 = .ok (.iload_n 1, 1) := dk_27 (dk_at dksX5_resumes_5 7 rfl rfl)
theorem dX5_resumes_126 : decode cX5_resumes 126 = .ok (.invokevirtual 204, 3) := dk_182 0 204 (dk_at dksX5_resumes_5 8 rfl rfl)
theorem dX5_resumes_129 : decode cX5_resumes 129 = .ok (.ireturn, 1) := dk_172 (dk_at dksX5_resumes_5 11 rfl rfl)
abbrev cX5_leftOf : ByteArray := prog_15_method_58_code
def yX5_leftOf : MethodName := ⟨RX5, "leftOf", "(I)I"⟩
def dkwX5_leftOf_1 : List UInt8 := [180, 0, 25, 27, 46, 42, 180, 0, 28, 27, 46, 182, 0, 192, 100, 172]
abbrev dktX5_leftOf_1 : List UInt8 := dkwX5_leftOf_1 ++ []
def dkwX5_leftOf_0 : List UInt8 := [42, 180, 0, 28, 27, 46, 2, 160, 0, 7, 3, 167, 0, 26, 42, 180, 0, 7, 3, 46, 42, 42]
abbrev dktX5_leftOf_0 : List UInt8 := dkwX5_leftOf_0 ++ dktX5_leftOf_1
theorem dksX5_leftOf_0 : cX5_leftOf.data.toList.drop 0 = dktX5_leftOf_0 := by decide +kernel
theorem dksX5_leftOf_1 : cX5_leftOf.data.toList.drop 22 = dktX5_leftOf_1 := dk_seg dksX5_leftOf_0 22 rfl rfl
theorem dX5_leftOf_0 : decode cX5_leftOf 0 = .ok (.aload_n 0, 1) := dk_42 (dk_at dksX5_leftOf_0 0 rfl rfl)
theorem dX5_leftOf_1 : decode cX5_leftOf 1 = .ok (.getfield 28, 3) := dk_180 0 28 (dk_at dksX5_leftOf_0 1 rfl rfl)
theorem dX5_leftOf_4 : decode cX5_leftOf 4 = .ok (.iload_n 1, 1) := dk_27 (dk_at dksX5_leftOf_0 4 rfl rfl)
theorem dX5_leftOf_5 : decode cX5_leftOf 5 = .ok (.iaload, 1) := dk_46 (dk_at dksX5_leftOf_0 5 rfl rfl)
theorem dX5_leftOf_6 : decode cX5_leftOf 6 = .ok (.iconst (-1), 1) := dk_2 (dk_at dksX5_leftOf_0 6 rfl rfl)
theorem dX5_leftOf_7 : decode cX5_leftOf 7 = .ok (.if_icmp .ne 7, 3) := dk_160 0 7 (dk_at dksX5_leftOf_0 7 rfl rfl)
theorem dX5_leftOf_10 : decode cX5_leftOf 10 = .ok (.iconst 0, 1) := dk_3 (dk_at dksX5_leftOf_0 10 rfl rfl)
theorem dX5_leftOf_11 : decode cX5_leftOf 11 = .ok (.goto 26, 3) := dk_167 0 26 (dk_at dksX5_leftOf_0 11 rfl rfl)
theorem dX5_leftOf_14 : decode cX5_leftOf 14 = .ok (.aload_n 0, 1) := dk_42 (dk_at dksX5_leftOf_0 14 rfl rfl)
theorem dX5_leftOf_15 : decode cX5_leftOf 15 = .ok (.getfield 7, 3) := dk_180 0 7 (dk_at dksX5_leftOf_0 15 rfl rfl)
theorem dX5_leftOf_18 : decode cX5_leftOf 18 = .ok (.iconst 0, 1) := dk_3 (dk_at dksX5_leftOf_0 18 rfl rfl)
theorem dX5_leftOf_19 : decode cX5_leftOf 19 = .ok (.iaload, 1) := dk_46 (dk_at dksX5_leftOf_0 19 rfl rfl)
theorem dX5_leftOf_20 : decode cX5_leftOf 20 = .ok (.aload_n 0, 1) := dk_42 (dk_at dksX5_leftOf_0 20 rfl rfl)
theorem dX5_leftOf_21 : decode cX5_leftOf 21 = .ok (.aload_n 0, 1) := dk_42 (dk_at dksX5_leftOf_0 21 rfl rfl)
theorem dX5_leftOf_22 : decode cX5_leftOf 22 = .ok (.getfield 25, 3) := dk_180 0 25 (dk_at dksX5_leftOf_1 0 rfl rfl)
theorem dX5_leftOf_25 : decode cX5_leftOf 25 = .ok (.iload_n 1, 1) := dk_27 (dk_at dksX5_leftOf_1 3 rfl rfl)
theorem dX5_leftOf_26 : decode cX5_leftOf 26 = .ok (.iaload, 1) := dk_46 (dk_at dksX5_leftOf_1 4 rfl rfl)
theorem dX5_leftOf_27 : decode cX5_leftOf 27 = .ok (.aload_n 0, 1) := dk_42 (dk_at dksX5_leftOf_1 5 rfl rfl)
theorem dX5_leftOf_28 : decode cX5_leftOf 28 = .ok (.getfield 28, 3) := dk_180 0 28 (dk_at dksX5_leftOf_1 6 rfl rfl)
theorem dX5_leftOf_31 : decode cX5_leftOf 31 = .ok (.iload_n 1, 1) := dk_27 (dk_at dksX5_leftOf_1 9 rfl rfl)
theorem dX5_leftOf_32 : decode cX5_leftOf 32 = .ok (.iaload, 1) := dk_46 (dk_at dksX5_leftOf_1 10 rfl rfl)
theorem dX5_leftOf_33 : decode cX5_leftOf 33 = .ok (.invokevirtual 192, 3) := dk_182 0 192 (dk_at dksX5_leftOf_1 11 rfl rfl)
theorem dX5_leftOf_36 : decode cX5_leftOf 36 = .ok (.isub, 1) := dk_100 (dk_at dksX5_leftOf_1 14 rfl rfl)
theorem dX5_leftOf_37 : decode cX5_leftOf 37 = .ok (.ireturn, 1) := dk_172 (dk_at dksX5_leftOf_1 15 rfl rfl)
abbrev cX5_left : ByteArray := prog_15_method_64_code
def yX5_left : MethodName := ⟨RX5, "left", "(I)I"⟩
def dkwX5_left_0 : List UInt8 := [42, 27, 182, 0, 201, 61, 28, 156, 0, 11, 42, 28, 182, 0, 137, 167, 0, 8, 42, 27, 182, 0, 204, 172]
abbrev dktX5_left_0 : List UInt8 := dkwX5_left_0 ++ []
theorem dksX5_left_0 : cX5_left.data.toList.drop 0 = dktX5_left_0 := by decide +kernel
theorem dX5_left_0 : decode cX5_left 0 = .ok (.aload_n 0, 1) := dk_42 (dk_at dksX5_left_0 0 rfl rfl)
theorem dX5_left_1 : decode cX5_left 1 = .ok (.iload_n 1, 1) := dk_27 (dk_at dksX5_left_0 1 rfl rfl)
theorem dX5_left_2 : decode cX5_left 2 = .ok (.invokevirtual 201, 3) := dk_182 0 201 (dk_at dksX5_left_0 2 rfl rfl)
theorem dX5_left_5 : decode cX5_left 5 = .ok (.istore_n 2, 1) := dk_61 (dk_at dksX5_left_0 5 rfl rfl)
theorem dX5_left_6 : decode cX5_left 6 = .ok (.iload_n 2, 1) := dk_28 (dk_at dksX5_left_0 6 rfl rfl)
theorem dX5_left_7 : decode cX5_left 7 = .ok (.ifCond .ge 11, 3) := dk_156 0 11 (dk_at dksX5_left_0 7 rfl rfl)
theorem dX5_left_10 : decode cX5_left 10 = .ok (.aload_n 0, 1) := dk_42 (dk_at dksX5_left_0 10 rfl rfl)
theorem dX5_left_11 : decode cX5_left 11 = .ok (.iload_n 2, 1) := dk_28 (dk_at dksX5_left_0 11 rfl rfl)
theorem dX5_left_12 : decode cX5_left 12 = .ok (.invokevirtual 137, 3) := dk_182 0 137 (dk_at dksX5_left_0 12 rfl rfl)
theorem dX5_left_15 : decode cX5_left 15 = .ok (.goto 8, 3) := dk_167 0 8 (dk_at dksX5_left_0 15 rfl rfl)
theorem dX5_left_18 : decode cX5_left 18 = .ok (.aload_n 0, 1) := dk_42 (dk_at dksX5_left_0 18 rfl rfl)
theorem dX5_left_19 : decode cX5_left 19 = .ok (.iload_n 1, 1) := dk_27 (dk_at dksX5_left_0 19 rfl rfl)
theorem dX5_left_20 : decode cX5_left 20 = .ok (.invokevirtual 204, 3) := dk_182 0 204 (dk_at dksX5_left_0 20 rfl rfl)
theorem dX5_left_23 : decode cX5_left 23 = .ok (.ireturn, 1) := dk_172 (dk_at dksX5_left_0 23 rfl rfl)
abbrev cX5_type : ByteArray := prog_15_method_65_code
def yX5_type : MethodName := ⟨RX5, "type", "(I)I"⟩
def dkwX5_type_2 : List UInt8 := [180, 0, 207, 4, 96, 181, 0, 207, 42, 180, 0, 207, 172]
abbrev dktX5_type_2 : List UInt8 := dkwX5_type_2 ++ []
def dkwX5_type_1 : List UInt8 := [160, 0, 10, 42, 16, 252, 182, 0, 137, 172, 42, 180, 0, 22, 42, 180, 0, 207, 27, 79, 42, 89]
abbrev dktX5_type_1 : List UInt8 := dkwX5_type_1 ++ dktX5_type_2
def dkwX5_type_0 : List UInt8 := [27, 3, 16, 127, 184, 0, 44, 154, 0, 10, 42, 16, 254, 182, 0, 137, 172, 42, 180, 0, 207, 16, 120]
abbrev dktX5_type_0 : List UInt8 := dkwX5_type_0 ++ dktX5_type_1
theorem dksX5_type_0 : cX5_type.data.toList.drop 0 = dktX5_type_0 := by decide +kernel
theorem dksX5_type_1 : cX5_type.data.toList.drop 23 = dktX5_type_1 := dk_seg dksX5_type_0 23 rfl rfl
theorem dksX5_type_2 : cX5_type.data.toList.drop 45 = dktX5_type_2 := dk_seg dksX5_type_1 22 rfl rfl
theorem dX5_type_0 : decode cX5_type 0 = .ok (.iload_n 1, 1) := dk_27 (dk_at dksX5_type_0 0 rfl rfl)
theorem dX5_type_1 : decode cX5_type 1 = .ok (.iconst 0, 1) := dk_3 (dk_at dksX5_type_0 1 rfl rfl)
theorem dX5_type_2 : decode cX5_type 2 = .ok (.bipush 127, 2) := dk_16 127 (dk_at dksX5_type_0 2 rfl rfl)
theorem dX5_type_4 : decode cX5_type 4 = .ok (.invokestatic 44, 3) := dk_184 0 44 (dk_at dksX5_type_0 4 rfl rfl)
theorem dX5_type_7 : decode cX5_type 7 = .ok (.ifCond .ne 10, 3) := dk_154 0 10 (dk_at dksX5_type_0 7 rfl rfl)
theorem dX5_type_10 : decode cX5_type 10 = .ok (.aload_n 0, 1) := dk_42 (dk_at dksX5_type_0 10 rfl rfl)
theorem dX5_type_11 : decode cX5_type 11 = .ok (.bipush (-2), 2) := dk_16 254 (dk_at dksX5_type_0 11 rfl rfl)
theorem dX5_type_13 : decode cX5_type 13 = .ok (.invokevirtual 137, 3) := dk_182 0 137 (dk_at dksX5_type_0 13 rfl rfl)
theorem dX5_type_16 : decode cX5_type 16 = .ok (.ireturn, 1) := dk_172 (dk_at dksX5_type_0 16 rfl rfl)
theorem dX5_type_17 : decode cX5_type 17 = .ok (.aload_n 0, 1) := dk_42 (dk_at dksX5_type_0 17 rfl rfl)
theorem dX5_type_18 : decode cX5_type 18 = .ok (.getfield 207, 3) := dk_180 0 207 (dk_at dksX5_type_0 18 rfl rfl)
theorem dX5_type_21 : decode cX5_type 21 = .ok (.bipush 120, 2) := dk_16 120 (dk_at dksX5_type_0 21 rfl rfl)
theorem dX5_type_23 : decode cX5_type 23 = .ok (.if_icmp .ne 10, 3) := dk_160 0 10 (dk_at dksX5_type_1 0 rfl rfl)
theorem dX5_type_26 : decode cX5_type 26 = .ok (.aload_n 0, 1) := dk_42 (dk_at dksX5_type_1 3 rfl rfl)
theorem dX5_type_27 : decode cX5_type 27 = .ok (.bipush (-4), 2) := dk_16 252 (dk_at dksX5_type_1 4 rfl rfl)
theorem dX5_type_29 : decode cX5_type 29 = .ok (.invokevirtual 137, 3) := dk_182 0 137 (dk_at dksX5_type_1 6 rfl rfl)
theorem dX5_type_32 : decode cX5_type 32 = .ok (.ireturn, 1) := dk_172 (dk_at dksX5_type_1 9 rfl rfl)
theorem dX5_type_33 : decode cX5_type 33 = .ok (.aload_n 0, 1) := dk_42 (dk_at dksX5_type_1 10 rfl rfl)
theorem dX5_type_34 : decode cX5_type 34 = .ok (.getfield 22, 3) := dk_180 0 22 (dk_at dksX5_type_1 11 rfl rfl)
theorem dX5_type_37 : decode cX5_type 37 = .ok (.aload_n 0, 1) := dk_42 (dk_at dksX5_type_1 14 rfl rfl)
theorem dX5_type_38 : decode cX5_type 38 = .ok (.getfield 207, 3) := dk_180 0 207 (dk_at dksX5_type_1 15 rfl rfl)
theorem dX5_type_41 : decode cX5_type 41 = .ok (.iload_n 1, 1) := dk_27 (dk_at dksX5_type_1 18 rfl rfl)
theorem dX5_type_42 : decode cX5_type 42 = .ok (.iastore, 1) := dk_79 (dk_at dksX5_type_1 19 rfl rfl)
theorem dX5_type_43 : decode cX5_type 43 = .ok (.aload_n 0, 1) := dk_42 (dk_at dksX5_type_1 20 rfl rfl)
theorem dX5_type_44 : decode cX5_type 44 = .ok (.dup, 1) := dk_89 (dk_at dksX5_type_1 21 rfl rfl)
theorem dX5_type_45 : decode cX5_type 45 = .ok (.getfield 207, 3) := dk_180 0 207 (dk_at dksX5_type_2 0 rfl rfl)
theorem dX5_type_48 : decode cX5_type 48 = .ok (.iconst 1, 1) := dk_4 (dk_at dksX5_type_2 3 rfl rfl)
theorem dX5_type_49 : decode cX5_type 49 = .ok (.iadd, 1) := dk_96 (dk_at dksX5_type_2 4 rfl rfl)
theorem dX5_type_50 : decode cX5_type 50 = .ok (.putfield 207, 3) := dk_181 0 207 (dk_at dksX5_type_2 5 rfl rfl)
theorem dX5_type_53 : decode cX5_type 53 = .ok (.aload_n 0, 1) := dk_42 (dk_at dksX5_type_2 8 rfl rfl)
theorem dX5_type_54 : decode cX5_type 54 = .ok (.getfield 207, 3) := dk_180 0 207 (dk_at dksX5_type_2 9 rfl rfl)
theorem dX5_type_57 : decode cX5_type 57 = .ok (.ireturn, 1) := dk_172 (dk_at dksX5_type_2 12 rfl rfl)
abbrev cX5_clear : ByteArray := prog_15_method_66_code
def yX5_clear : MethodName := ⟨RX5, "clear", "()I"⟩
def dkwX5_clear_0 : List UInt8 := [42, 180, 0, 207, 60, 42, 3, 181, 0, 207, 27, 172]
abbrev dktX5_clear_0 : List UInt8 := dkwX5_clear_0 ++ []
theorem dksX5_clear_0 : cX5_clear.data.toList.drop 0 = dktX5_clear_0 := by decide +kernel
theorem dX5_clear_0 : decode cX5_clear 0 = .ok (.aload_n 0, 1) := dk_42 (dk_at dksX5_clear_0 0 rfl rfl)
theorem dX5_clear_1 : decode cX5_clear 1 = .ok (.getfield 207, 3) := dk_180 0 207 (dk_at dksX5_clear_0 1 rfl rfl)
theorem dX5_clear_4 : decode cX5_clear 4 = .ok (.istore_n 1, 1) := dk_60 (dk_at dksX5_clear_0 4 rfl rfl)
theorem dX5_clear_5 : decode cX5_clear 5 = .ok (.aload_n 0, 1) := dk_42 (dk_at dksX5_clear_0 5 rfl rfl)
theorem dX5_clear_6 : decode cX5_clear 6 = .ok (.iconst 0, 1) := dk_3 (dk_at dksX5_clear_0 6 rfl rfl)
theorem dX5_clear_7 : decode cX5_clear 7 = .ok (.putfield 207, 3) := dk_181 0 207 (dk_at dksX5_clear_0 7 rfl rfl)
theorem dX5_clear_10 : decode cX5_clear 10 = .ok (.iload_n 1, 1) := dk_27 (dk_at dksX5_clear_0 10 rfl rfl)
theorem dX5_clear_11 : decode cX5_clear 11 = .ok (.ireturn, 1) := dk_172 (dk_at dksX5_clear_0 11 rfl rfl)
abbrev cX5_does : ByteArray := prog_15_method_71_code
def yX5_does : MethodName := ⟨RX5, "does", "()I"⟩
def dkwX5_does_2 : List UInt8 := [159, 0, 14, 27, 42, 4, 182, 0, 225, 96, 60, 167, 255, 240, 42, 182, 0, 152, 27, 172]
abbrev dktX5_does_2 : List UInt8 := dkwX5_does_2 ++ []
def dkwX5_does_1 : List UInt8 := [182, 0, 213, 2, 160, 255, 235, 42, 182, 0, 146, 3, 60, 42, 3, 181, 0, 210, 42, 182, 0, 213, 2]
abbrev dktX5_does_1 : List UInt8 := dkwX5_does_1 ++ dktX5_does_2
def dkwX5_does_0 : List UInt8 := [42, 3, 181, 0, 210, 42, 3, 182, 0, 225, 156, 0, 11, 16, 246, 42, 180, 0, 210, 100, 172, 42]
abbrev dktX5_does_0 : List UInt8 := dkwX5_does_0 ++ dktX5_does_1
theorem dksX5_does_0 : cX5_does.data.toList.drop 0 = dktX5_does_0 := by decide +kernel
theorem dksX5_does_1 : cX5_does.data.toList.drop 22 = dktX5_does_1 := dk_seg dksX5_does_0 22 rfl rfl
theorem dksX5_does_2 : cX5_does.data.toList.drop 45 = dktX5_does_2 := dk_seg dksX5_does_1 23 rfl rfl
theorem dX5_does_0 : decode cX5_does 0 = .ok (.aload_n 0, 1) := dk_42 (dk_at dksX5_does_0 0 rfl rfl)
theorem dX5_does_1 : decode cX5_does 1 = .ok (.iconst 0, 1) := dk_3 (dk_at dksX5_does_0 1 rfl rfl)
theorem dX5_does_2 : decode cX5_does 2 = .ok (.putfield 210, 3) := dk_181 0 210 (dk_at dksX5_does_0 2 rfl rfl)
theorem dX5_does_5 : decode cX5_does 5 = .ok (.aload_n 0, 1) := dk_42 (dk_at dksX5_does_0 5 rfl rfl)
theorem dX5_does_6 : decode cX5_does 6 = .ok (.iconst 0, 1) := dk_3 (dk_at dksX5_does_0 6 rfl rfl)
theorem dX5_does_7 : decode cX5_does 7 = .ok (.invokevirtual 225, 3) := dk_182 0 225 (dk_at dksX5_does_0 7 rfl rfl)
theorem dX5_does_10 : decode cX5_does 10 = .ok (.ifCond .ge 11, 3) := dk_156 0 11 (dk_at dksX5_does_0 10 rfl rfl)
theorem dX5_does_13 : decode cX5_does 13 = .ok (.bipush (-10), 2) := dk_16 246 (dk_at dksX5_does_0 13 rfl rfl)
theorem dX5_does_15 : decode cX5_does 15 = .ok (.aload_n 0, 1) := dk_42 (dk_at dksX5_does_0 15 rfl rfl)
theorem dX5_does_16 : decode cX5_does 16 = .ok (.getfield 210, 3) := dk_180 0 210 (dk_at dksX5_does_0 16 rfl rfl)
theorem dX5_does_19 : decode cX5_does 19 = .ok (.isub, 1) := dk_100 (dk_at dksX5_does_0 19 rfl rfl)
theorem dX5_does_20 : decode cX5_does 20 = .ok (.ireturn, 1) := dk_172 (dk_at dksX5_does_0 20 rfl rfl)
theorem dX5_does_21 : decode cX5_does 21 = .ok (.aload_n 0, 1) := dk_42 (dk_at dksX5_does_0 21 rfl rfl)
theorem dX5_does_22 : decode cX5_does 22 = .ok (.invokevirtual 213, 3) := dk_182 0 213 (dk_at dksX5_does_1 0 rfl rfl)
theorem dX5_does_25 : decode cX5_does 25 = .ok (.iconst (-1), 1) := dk_2 (dk_at dksX5_does_1 3 rfl rfl)
theorem dX5_does_26 : decode cX5_does 26 = .ok (.if_icmp .ne (-21), 3) := dk_160 255 235 (dk_at dksX5_does_1 4 rfl rfl)
theorem dX5_does_29 : decode cX5_does 29 = .ok (.aload_n 0, 1) := dk_42 (dk_at dksX5_does_1 7 rfl rfl)
theorem dX5_does_30 : decode cX5_does 30 = .ok (.invokevirtual 146, 3) := dk_182 0 146 (dk_at dksX5_does_1 8 rfl rfl)
theorem dX5_does_33 : decode cX5_does 33 = .ok (.iconst 0, 1) := dk_3 (dk_at dksX5_does_1 11 rfl rfl)
theorem dX5_does_34 : decode cX5_does 34 = .ok (.istore_n 1, 1) := dk_60 (dk_at dksX5_does_1 12 rfl rfl)
theorem dX5_does_35 : decode cX5_does 35 = .ok (.aload_n 0, 1) := dk_42 (dk_at dksX5_does_1 13 rfl rfl)
theorem dX5_does_36 : decode cX5_does 36 = .ok (.iconst 0, 1) := dk_3 (dk_at dksX5_does_1 14 rfl rfl)
theorem dX5_does_37 : decode cX5_does 37 = .ok (.putfield 210, 3) := dk_181 0 210 (dk_at dksX5_does_1 15 rfl rfl)
theorem dX5_does_40 : decode cX5_does 40 = .ok (.aload_n 0, 1) := dk_42 (dk_at dksX5_does_1 18 rfl rfl)
theorem dX5_does_41 : decode cX5_does 41 = .ok (.invokevirtual 213, 3) := dk_182 0 213 (dk_at dksX5_does_1 19 rfl rfl)
theorem dX5_does_44 : decode cX5_does 44 = .ok (.iconst (-1), 1) := dk_2 (dk_at dksX5_does_1 22 rfl rfl)
theorem dX5_does_45 : decode cX5_does 45 = .ok (.if_icmp .eq 14, 3) := dk_159 0 14 (dk_at dksX5_does_2 0 rfl rfl)
theorem dX5_does_48 : decode cX5_does 48 = .ok (.iload_n 1, 1) := dk_27 (dk_at dksX5_does_2 3 rfl rfl)
theorem dX5_does_49 : decode cX5_does 49 = .ok (.aload_n 0, 1) := dk_42 (dk_at dksX5_does_2 4 rfl rfl)
theorem dX5_does_50 : decode cX5_does 50 = .ok (.iconst 1, 1) := dk_4 (dk_at dksX5_does_2 5 rfl rfl)
theorem dX5_does_51 : decode cX5_does 51 = .ok (.invokevirtual 225, 3) := dk_182 0 225 (dk_at dksX5_does_2 6 rfl rfl)
theorem dX5_does_54 : decode cX5_does 54 = .ok (.iadd, 1) := dk_96 (dk_at dksX5_does_2 9 rfl rfl)
theorem dX5_does_55 : decode cX5_does 55 = .ok (.istore_n 1, 1) := dk_60 (dk_at dksX5_does_2 10 rfl rfl)
theorem dX5_does_56 : decode cX5_does 56 = .ok (.goto (-16), 3) := dk_167 255 240 (dk_at dksX5_does_2 11 rfl rfl)
theorem dX5_does_59 : decode cX5_does 59 = .ok (.aload_n 0, 1) := dk_42 (dk_at dksX5_does_2 14 rfl rfl)
theorem dX5_does_60 : decode cX5_does 60 = .ok (.invokevirtual 152, 3) := dk_182 0 152 (dk_at dksX5_does_2 15 rfl rfl)
theorem dX5_does_63 : decode cX5_does 63 = .ok (.iload_n 1, 1) := dk_27 (dk_at dksX5_does_2 18 rfl rfl)
theorem dX5_does_64 : decode cX5_does 64 = .ok (.ireturn, 1) := dk_172 (dk_at dksX5_does_2 19 rfl rfl)
abbrev cX5_work : ByteArray := prog_15_method_70_code
def yX5_work : MethodName := ⟨RX5, "work", "(Z)I"⟩
def dkwX5_work_7 : List UInt8 := [16, 114, 160, 0, 11, 42, 29, 182, 0, 158, 167, 0, 7, 42, 182, 0, 164, 54, 5, 4, 172]
abbrev dktX5_work_7 : List UInt8 := dkwX5_work_7 ++ []
def dkwX5_work_6 : List UInt8 := [21, 4, 182, 0, 149, 167, 0, 35, 28, 16, 103, 160, 0, 11, 42, 29, 182, 0, 155, 167, 0, 21, 28]
abbrev dktX5_work_6 : List UInt8 := dkwX5_work_6 ++ dktX5_work_7
def dkwX5_work_5 : List UInt8 := [160, 0, 15, 42, 29, 21, 4, 182, 0, 140, 154, 0, 5, 3, 172, 28, 16, 112, 160, 0, 13, 42, 29]
abbrev dktX5_work_5 : List UInt8 := dkwX5_work_5 ++ dktX5_work_6
def dkwX5_work_4 : List UInt8 := [159, 0, 5, 2, 172, 42, 89, 180, 0, 210, 4, 96, 181, 0, 210, 27, 153, 0, 19, 28, 16, 112]
abbrev dktX5_work_4 : List UInt8 := dkwX5_work_4 ++ dktX5_work_5
def dkwX5_work_3 : List UInt8 := [160, 0, 18, 42, 182, 0, 222, 154, 0, 5, 2, 172, 42, 180, 0, 216, 54, 4, 42, 182, 0, 213, 16, 59]
abbrev dktX5_work_3 : List UInt8 := dkwX5_work_3 ++ dktX5_work_4
def dkwX5_work_2 : List UInt8 := [16, 99, 159, 0, 17, 42, 182, 0, 222, 154, 0, 5, 2, 172, 42, 180, 0, 216, 62, 28, 16, 112]
abbrev dktX5_work_2 : List UInt8 := dkwX5_work_2 ++ dktX5_work_3
def dkwX5_work_1 : List UInt8 := [16, 99, 159, 0, 5, 2, 172, 42, 89, 180, 0, 210, 4, 96, 181, 0, 210, 3, 62, 3, 54, 4, 28]
abbrev dktX5_work_1 : List UInt8 := dkwX5_work_1 ++ dktX5_work_2
def dkwX5_work_0 : List UInt8 := [42, 182, 0, 213, 61, 28, 16, 112, 159, 0, 23, 28, 16, 103, 159, 0, 17, 28, 16, 114, 159, 0, 11, 28]
abbrev dktX5_work_0 : List UInt8 := dkwX5_work_0 ++ dktX5_work_1
theorem dksX5_work_0 : cX5_work.data.toList.drop 0 = dktX5_work_0 := by decide +kernel
theorem dksX5_work_1 : cX5_work.data.toList.drop 24 = dktX5_work_1 := dk_seg dksX5_work_0 24 rfl rfl
theorem dksX5_work_2 : cX5_work.data.toList.drop 47 = dktX5_work_2 := dk_seg dksX5_work_1 23 rfl rfl
theorem dksX5_work_3 : cX5_work.data.toList.drop 69 = dktX5_work_3 := dk_seg dksX5_work_2 22 rfl rfl
theorem dksX5_work_4 : cX5_work.data.toList.drop 93 = dktX5_work_4 := dk_seg dksX5_work_3 24 rfl rfl
theorem dksX5_work_5 : cX5_work.data.toList.drop 115 = dktX5_work_5 := dk_seg dksX5_work_4 22 rfl rfl
theorem dksX5_work_6 : cX5_work.data.toList.drop 138 = dktX5_work_6 := dk_seg dksX5_work_5 23 rfl rfl
theorem dksX5_work_7 : cX5_work.data.toList.drop 161 = dktX5_work_7 := dk_seg dksX5_work_6 23 rfl rfl
theorem dX5_work_0 : decode cX5_work 0 = .ok (.aload_n 0, 1) := dk_42 (dk_at dksX5_work_0 0 rfl rfl)
theorem dX5_work_1 : decode cX5_work 1 = .ok (.invokevirtual 213, 3) := dk_182 0 213 (dk_at dksX5_work_0 1 rfl rfl)
theorem dX5_work_4 : decode cX5_work 4 = .ok (.istore_n 2, 1) := dk_61 (dk_at dksX5_work_0 4 rfl rfl)
theorem dX5_work_5 : decode cX5_work 5 = .ok (.iload_n 2, 1) := dk_28 (dk_at dksX5_work_0 5 rfl rfl)
theorem dX5_work_6 : decode cX5_work 6 = .ok (.bipush 112, 2) := dk_16 112 (dk_at dksX5_work_0 6 rfl rfl)
theorem dX5_work_8 : decode cX5_work 8 = .ok (.if_icmp .eq 23, 3) := dk_159 0 23 (dk_at dksX5_work_0 8 rfl rfl)
theorem dX5_work_11 : decode cX5_work 11 = .ok (.iload_n 2, 1) := dk_28 (dk_at dksX5_work_0 11 rfl rfl)
theorem dX5_work_12 : decode cX5_work 12 = .ok (.bipush 103, 2) := dk_16 103 (dk_at dksX5_work_0 12 rfl rfl)
theorem dX5_work_14 : decode cX5_work 14 = .ok (.if_icmp .eq 17, 3) := dk_159 0 17 (dk_at dksX5_work_0 14 rfl rfl)
theorem dX5_work_17 : decode cX5_work 17 = .ok (.iload_n 2, 1) := dk_28 (dk_at dksX5_work_0 17 rfl rfl)
theorem dX5_work_18 : decode cX5_work 18 = .ok (.bipush 114, 2) := dk_16 114 (dk_at dksX5_work_0 18 rfl rfl)
theorem dX5_work_20 : decode cX5_work 20 = .ok (.if_icmp .eq 11, 3) := dk_159 0 11 (dk_at dksX5_work_0 20 rfl rfl)
theorem dX5_work_23 : decode cX5_work 23 = .ok (.iload_n 2, 1) := dk_28 (dk_at dksX5_work_0 23 rfl rfl)
theorem dX5_work_24 : decode cX5_work 24 = .ok (.bipush 99, 2) := dk_16 99 (dk_at dksX5_work_1 0 rfl rfl)
theorem dX5_work_26 : decode cX5_work 26 = .ok (.if_icmp .eq 5, 3) := dk_159 0 5 (dk_at dksX5_work_1 2 rfl rfl)
theorem dX5_work_29 : decode cX5_work 29 = .ok (.iconst (-1), 1) := dk_2 (dk_at dksX5_work_1 5 rfl rfl)
theorem dX5_work_30 : decode cX5_work 30 = .ok (.ireturn, 1) := dk_172 (dk_at dksX5_work_1 6 rfl rfl)
theorem dX5_work_31 : decode cX5_work 31 = .ok (.aload_n 0, 1) := dk_42 (dk_at dksX5_work_1 7 rfl rfl)
theorem dX5_work_32 : decode cX5_work 32 = .ok (.dup, 1) := dk_89 (dk_at dksX5_work_1 8 rfl rfl)
theorem dX5_work_33 : decode cX5_work 33 = .ok (.getfield 210, 3) := dk_180 0 210 (dk_at dksX5_work_1 9 rfl rfl)
theorem dX5_work_36 : decode cX5_work 36 = .ok (.iconst 1, 1) := dk_4 (dk_at dksX5_work_1 12 rfl rfl)
theorem dX5_work_37 : decode cX5_work 37 = .ok (.iadd, 1) := dk_96 (dk_at dksX5_work_1 13 rfl rfl)
theorem dX5_work_38 : decode cX5_work 38 = .ok (.putfield 210, 3) := dk_181 0 210 (dk_at dksX5_work_1 14 rfl rfl)
theorem dX5_work_41 : decode cX5_work 41 = .ok (.iconst 0, 1) := dk_3 (dk_at dksX5_work_1 17 rfl rfl)
theorem dX5_work_42 : decode cX5_work 42 = .ok (.istore_n 3, 1) := dk_62 (dk_at dksX5_work_1 18 rfl rfl)
theorem dX5_work_43 : decode cX5_work 43 = .ok (.iconst 0, 1) := dk_3 (dk_at dksX5_work_1 19 rfl rfl)
theorem dX5_work_44 : decode cX5_work 44 = .ok (.istore 4, 2) := dk_54 4 (dk_at dksX5_work_1 20 rfl rfl)
theorem dX5_work_46 : decode cX5_work 46 = .ok (.iload_n 2, 1) := dk_28 (dk_at dksX5_work_1 22 rfl rfl)
theorem dX5_work_47 : decode cX5_work 47 = .ok (.bipush 99, 2) := dk_16 99 (dk_at dksX5_work_2 0 rfl rfl)
theorem dX5_work_49 : decode cX5_work 49 = .ok (.if_icmp .eq 17, 3) := dk_159 0 17 (dk_at dksX5_work_2 2 rfl rfl)
theorem dX5_work_52 : decode cX5_work 52 = .ok (.aload_n 0, 1) := dk_42 (dk_at dksX5_work_2 5 rfl rfl)
theorem dX5_work_53 : decode cX5_work 53 = .ok (.invokevirtual 222, 3) := dk_182 0 222 (dk_at dksX5_work_2 6 rfl rfl)
theorem dX5_work_56 : decode cX5_work 56 = .ok (.ifCond .ne 5, 3) := dk_154 0 5 (dk_at dksX5_work_2 9 rfl rfl)
theorem dX5_work_59 : decode cX5_work 59 = .ok (.iconst (-1), 1) := dk_2 (dk_at dksX5_work_2 12 rfl rfl)
theorem dX5_work_60 : decode cX5_work 60 = .ok (.ireturn, 1) := dk_172 (dk_at dksX5_work_2 13 rfl rfl)
theorem dX5_work_61 : decode cX5_work 61 = .ok (.aload_n 0, 1) := dk_42 (dk_at dksX5_work_2 14 rfl rfl)
theorem dX5_work_62 : decode cX5_work 62 = .ok (.getfield 216, 3) := dk_180 0 216 (dk_at dksX5_work_2 15 rfl rfl)
theorem dX5_work_65 : decode cX5_work 65 = .ok (.istore_n 3, 1) := dk_62 (dk_at dksX5_work_2 18 rfl rfl)
theorem dX5_work_66 : decode cX5_work 66 = .ok (.iload_n 2, 1) := dk_28 (dk_at dksX5_work_2 19 rfl rfl)
theorem dX5_work_67 : decode cX5_work 67 = .ok (.bipush 112, 2) := dk_16 112 (dk_at dksX5_work_2 20 rfl rfl)
theorem dX5_work_69 : decode cX5_work 69 = .ok (.if_icmp .ne 18, 3) := dk_160 0 18 (dk_at dksX5_work_3 0 rfl rfl)
theorem dX5_work_72 : decode cX5_work 72 = .ok (.aload_n 0, 1) := dk_42 (dk_at dksX5_work_3 3 rfl rfl)
theorem dX5_work_73 : decode cX5_work 73 = .ok (.invokevirtual 222, 3) := dk_182 0 222 (dk_at dksX5_work_3 4 rfl rfl)
theorem dX5_work_76 : decode cX5_work 76 = .ok (.ifCond .ne 5, 3) := dk_154 0 5 (dk_at dksX5_work_3 7 rfl rfl)
theorem dX5_work_79 : decode cX5_work 79 = .ok (.iconst (-1), 1) := dk_2 (dk_at dksX5_work_3 10 rfl rfl)
theorem dX5_work_80 : decode cX5_work 80 = .ok (.ireturn, 1) := dk_172 (dk_at dksX5_work_3 11 rfl rfl)
theorem dX5_work_81 : decode cX5_work 81 = .ok (.aload_n 0, 1) := dk_42 (dk_at dksX5_work_3 12 rfl rfl)
theorem dX5_work_82 : decode cX5_work 82 = .ok (.getfield 216, 3) := dk_180 0 216 (dk_at dksX5_work_3 13 rfl rfl)
theorem dX5_work_85 : decode cX5_work 85 = .ok (.istore 4, 2) := dk_54 4 (dk_at dksX5_work_3 16 rfl rfl)
theorem dX5_work_87 : decode cX5_work 87 = .ok (.aload_n 0, 1) := dk_42 (dk_at dksX5_work_3 18 rfl rfl)
theorem dX5_work_88 : decode cX5_work 88 = .ok (.invokevirtual 213, 3) := dk_182 0 213 (dk_at dksX5_work_3 19 rfl rfl)
theorem dX5_work_91 : decode cX5_work 91 = .ok (.bipush 59, 2) := dk_16 59 (dk_at dksX5_work_3 22 rfl rfl)
theorem dX5_work_93 : decode cX5_work 93 = .ok (.if_icmp .eq 5, 3) := dk_159 0 5 (dk_at dksX5_work_4 0 rfl rfl)
theorem dX5_work_96 : decode cX5_work 96 = .ok (.iconst (-1), 1) := dk_2 (dk_at dksX5_work_4 3 rfl rfl)
theorem dX5_work_97 : decode cX5_work 97 = .ok (.ireturn, 1) := dk_172 (dk_at dksX5_work_4 4 rfl rfl)
theorem dX5_work_98 : decode cX5_work 98 = .ok (.aload_n 0, 1) := dk_42 (dk_at dksX5_work_4 5 rfl rfl)
theorem dX5_work_99 : decode cX5_work 99 = .ok (.dup, 1) := dk_89 (dk_at dksX5_work_4 6 rfl rfl)
theorem dX5_work_100 : decode cX5_work 100 = .ok (.getfield 210, 3) := dk_180 0 210 (dk_at dksX5_work_4 7 rfl rfl)
theorem dX5_work_103 : decode cX5_work 103 = .ok (.iconst 1, 1) := dk_4 (dk_at dksX5_work_4 10 rfl rfl)
theorem dX5_work_104 : decode cX5_work 104 = .ok (.iadd, 1) := dk_96 (dk_at dksX5_work_4 11 rfl rfl)
theorem dX5_work_105 : decode cX5_work 105 = .ok (.putfield 210, 3) := dk_181 0 210 (dk_at dksX5_work_4 12 rfl rfl)
theorem dX5_work_108 : decode cX5_work 108 = .ok (.iload_n 1, 1) := dk_27 (dk_at dksX5_work_4 15 rfl rfl)
theorem dX5_work_109 : decode cX5_work 109 = .ok (.ifCond .eq 19, 3) := dk_153 0 19 (dk_at dksX5_work_4 16 rfl rfl)
theorem dX5_work_112 : decode cX5_work 112 = .ok (.iload_n 2, 1) := dk_28 (dk_at dksX5_work_4 19 rfl rfl)
theorem dX5_work_113 : decode cX5_work 113 = .ok (.bipush 112, 2) := dk_16 112 (dk_at dksX5_work_4 20 rfl rfl)
theorem dX5_work_115 : decode cX5_work 115 = .ok (.if_icmp .ne 15, 3) := dk_160 0 15 (dk_at dksX5_work_5 0 rfl rfl)
theorem dX5_work_118 : decode cX5_work 118 = .ok (.aload_n 0, 1) := dk_42 (dk_at dksX5_work_5 3 rfl rfl)
theorem dX5_work_119 : decode cX5_work 119 = .ok (.iload_n 3, 1) := dk_29 (dk_at dksX5_work_5 4 rfl rfl)
theorem dX5_work_120 : decode cX5_work 120 = .ok (.iload 4, 2) := dk_21 4 (dk_at dksX5_work_5 5 rfl rfl)
theorem dX5_work_122 : decode cX5_work 122 = .ok (.invokevirtual 140, 3) := dk_182 0 140 (dk_at dksX5_work_5 7 rfl rfl)
theorem dX5_work_125 : decode cX5_work 125 = .ok (.ifCond .ne 5, 3) := dk_154 0 5 (dk_at dksX5_work_5 10 rfl rfl)
theorem dX5_work_128 : decode cX5_work 128 = .ok (.iconst 0, 1) := dk_3 (dk_at dksX5_work_5 13 rfl rfl)
theorem dX5_work_129 : decode cX5_work 129 = .ok (.ireturn, 1) := dk_172 (dk_at dksX5_work_5 14 rfl rfl)
theorem dX5_work_130 : decode cX5_work 130 = .ok (.iload_n 2, 1) := dk_28 (dk_at dksX5_work_5 15 rfl rfl)
theorem dX5_work_131 : decode cX5_work 131 = .ok (.bipush 112, 2) := dk_16 112 (dk_at dksX5_work_5 16 rfl rfl)
theorem dX5_work_133 : decode cX5_work 133 = .ok (.if_icmp .ne 13, 3) := dk_160 0 13 (dk_at dksX5_work_5 18 rfl rfl)
theorem dX5_work_136 : decode cX5_work 136 = .ok (.aload_n 0, 1) := dk_42 (dk_at dksX5_work_5 21 rfl rfl)
theorem dX5_work_137 : decode cX5_work 137 = .ok (.iload_n 3, 1) := dk_29 (dk_at dksX5_work_5 22 rfl rfl)
theorem dX5_work_138 : decode cX5_work 138 = .ok (.iload 4, 2) := dk_21 4 (dk_at dksX5_work_6 0 rfl rfl)
theorem dX5_work_140 : decode cX5_work 140 = .ok (.invokevirtual 149, 3) := dk_182 0 149 (dk_at dksX5_work_6 2 rfl rfl)
theorem dX5_work_143 : decode cX5_work 143 = .ok (.goto 35, 3) := dk_167 0 35 (dk_at dksX5_work_6 5 rfl rfl)
theorem dX5_work_146 : decode cX5_work 146 = .ok (.iload_n 2, 1) := dk_28 (dk_at dksX5_work_6 8 rfl rfl)
theorem dX5_work_147 : decode cX5_work 147 = .ok (.bipush 103, 2) := dk_16 103 (dk_at dksX5_work_6 9 rfl rfl)
theorem dX5_work_149 : decode cX5_work 149 = .ok (.if_icmp .ne 11, 3) := dk_160 0 11 (dk_at dksX5_work_6 11 rfl rfl)
theorem dX5_work_152 : decode cX5_work 152 = .ok (.aload_n 0, 1) := dk_42 (dk_at dksX5_work_6 14 rfl rfl)
theorem dX5_work_153 : decode cX5_work 153 = .ok (.iload_n 3, 1) := dk_29 (dk_at dksX5_work_6 15 rfl rfl)
theorem dX5_work_154 : decode cX5_work 154 = .ok (.invokevirtual 155, 3) := dk_182 0 155 (dk_at dksX5_work_6 16 rfl rfl)
theorem dX5_work_157 : decode cX5_work 157 = .ok (.goto 21, 3) := dk_167 0 21 (dk_at dksX5_work_6 19 rfl rfl)
theorem dX5_work_160 : decode cX5_work 160 = .ok (.iload_n 2, 1) := dk_28 (dk_at dksX5_work_6 22 rfl rfl)
theorem dX5_work_161 : decode cX5_work 161 = .ok (.bipush 114, 2) := dk_16 114 (dk_at dksX5_work_7 0 rfl rfl)
theorem dX5_work_163 : decode cX5_work 163 = .ok (.if_icmp .ne 11, 3) := dk_160 0 11 (dk_at dksX5_work_7 2 rfl rfl)
theorem dX5_work_166 : decode cX5_work 166 = .ok (.aload_n 0, 1) := dk_42 (dk_at dksX5_work_7 5 rfl rfl)
theorem dX5_work_167 : decode cX5_work 167 = .ok (.iload_n 3, 1) := dk_29 (dk_at dksX5_work_7 6 rfl rfl)
theorem dX5_work_168 : decode cX5_work 168 = .ok (.invokevirtual 158, 3) := dk_182 0 158 (dk_at dksX5_work_7 7 rfl rfl)
theorem dX5_work_171 : decode cX5_work 171 = .ok (.goto 7, 3) := dk_167 0 7 (dk_at dksX5_work_7 10 rfl rfl)
theorem dX5_work_174 : decode cX5_work 174 = .ok (.aload_n 0, 1) := dk_42 (dk_at dksX5_work_7 13 rfl rfl)
theorem dX5_work_175 : decode cX5_work 175 = .ok (.invokevirtual 164, 3) := dk_182 0 164 (dk_at dksX5_work_7 14 rfl rfl)
theorem dX5_work_178 : decode cX5_work 178 = .ok (.istore 5, 2) := dk_54 5 (dk_at dksX5_work_7 17 rfl rfl)
theorem dX5_work_180 : decode cX5_work 180 = .ok (.iconst 1, 1) := dk_4 (dk_at dksX5_work_7 19 rfl rfl)
theorem dX5_work_181 : decode cX5_work 181 = .ok (.ireturn, 1) := dk_172 (dk_at dksX5_work_7 20 rfl rfl)
abbrev cX5_here : ByteArray := prog_15_method_67_code
def yX5_here : MethodName := ⟨RX5, "here", "()I"⟩
def dkwX5_here_2 : List UInt8 := [162, 0, 15, 42, 180, 0, 22, 42, 180, 0, 210, 46, 167, 0, 4, 2, 172]
abbrev dktX5_here_2 : List UInt8 := dkwX5_here_2 ++ []
def dkwX5_here_1 : List UInt8 := [160, 0, 16, 42, 89, 180, 0, 210, 4, 96, 181, 0, 210, 167, 255, 221, 42, 180, 0, 210, 42, 180, 0, 207]
abbrev dktX5_here_1 : List UInt8 := dkwX5_here_1 ++ dktX5_here_2
def dkwX5_here_0 : List UInt8 := [42, 180, 0, 210, 42, 180, 0, 207, 162, 0, 30, 42, 180, 0, 22, 42, 180, 0, 210, 46, 16, 32]
abbrev dktX5_here_0 : List UInt8 := dkwX5_here_0 ++ dktX5_here_1
theorem dksX5_here_0 : cX5_here.data.toList.drop 0 = dktX5_here_0 := by decide +kernel
theorem dksX5_here_1 : cX5_here.data.toList.drop 22 = dktX5_here_1 := dk_seg dksX5_here_0 22 rfl rfl
theorem dksX5_here_2 : cX5_here.data.toList.drop 46 = dktX5_here_2 := dk_seg dksX5_here_1 24 rfl rfl
theorem dX5_here_0 : decode cX5_here 0 = .ok (.aload_n 0, 1) := dk_42 (dk_at dksX5_here_0 0 rfl rfl)
theorem dX5_here_1 : decode cX5_here 1 = .ok (.getfield 210, 3) := dk_180 0 210 (dk_at dksX5_here_0 1 rfl rfl)
theorem dX5_here_4 : decode cX5_here 4 = .ok (.aload_n 0, 1) := dk_42 (dk_at dksX5_here_0 4 rfl rfl)
theorem dX5_here_5 : decode cX5_here 5 = .ok (.getfield 207, 3) := dk_180 0 207 (dk_at dksX5_here_0 5 rfl rfl)
theorem dX5_here_8 : decode cX5_here 8 = .ok (.if_icmp .ge 30, 3) := dk_162 0 30 (dk_at dksX5_here_0 8 rfl rfl)
theorem dX5_here_11 : decode cX5_here 11 = .ok (.aload_n 0, 1) := dk_42 (dk_at dksX5_here_0 11 rfl rfl)
theorem dX5_here_12 : decode cX5_here 12 = .ok (.getfield 22, 3) := dk_180 0 22 (dk_at dksX5_here_0 12 rfl rfl)
theorem dX5_here_15 : decode cX5_here 15 = .ok (.aload_n 0, 1) := dk_42 (dk_at dksX5_here_0 15 rfl rfl)
theorem dX5_here_16 : decode cX5_here 16 = .ok (.getfield 210, 3) := dk_180 0 210 (dk_at dksX5_here_0 16 rfl rfl)
theorem dX5_here_19 : decode cX5_here 19 = .ok (.iaload, 1) := dk_46 (dk_at dksX5_here_0 19 rfl rfl)
theorem dX5_here_20 : decode cX5_here 20 = .ok (.bipush 32, 2) := dk_16 32 (dk_at dksX5_here_0 20 rfl rfl)
theorem dX5_here_22 : decode cX5_here 22 = .ok (.if_icmp .ne 16, 3) := dk_160 0 16 (dk_at dksX5_here_1 0 rfl rfl)
theorem dX5_here_25 : decode cX5_here 25 = .ok (.aload_n 0, 1) := dk_42 (dk_at dksX5_here_1 3 rfl rfl)
theorem dX5_here_26 : decode cX5_here 26 = .ok (.dup, 1) := dk_89 (dk_at dksX5_here_1 4 rfl rfl)
theorem dX5_here_27 : decode cX5_here 27 = .ok (.getfield 210, 3) := dk_180 0 210 (dk_at dksX5_here_1 5 rfl rfl)
theorem dX5_here_30 : decode cX5_here 30 = .ok (.iconst 1, 1) := dk_4 (dk_at dksX5_here_1 8 rfl rfl)
theorem dX5_here_31 : decode cX5_here 31 = .ok (.iadd, 1) := dk_96 (dk_at dksX5_here_1 9 rfl rfl)
theorem dX5_here_32 : decode cX5_here 32 = .ok (.putfield 210, 3) := dk_181 0 210 (dk_at dksX5_here_1 10 rfl rfl)
theorem dX5_here_35 : decode cX5_here 35 = .ok (.goto (-35), 3) := dk_167 255 221 (dk_at dksX5_here_1 13 rfl rfl)
theorem dX5_here_38 : decode cX5_here 38 = .ok (.aload_n 0, 1) := dk_42 (dk_at dksX5_here_1 16 rfl rfl)
theorem dX5_here_39 : decode cX5_here 39 = .ok (.getfield 210, 3) := dk_180 0 210 (dk_at dksX5_here_1 17 rfl rfl)
theorem dX5_here_42 : decode cX5_here 42 = .ok (.aload_n 0, 1) := dk_42 (dk_at dksX5_here_1 20 rfl rfl)
theorem dX5_here_43 : decode cX5_here 43 = .ok (.getfield 207, 3) := dk_180 0 207 (dk_at dksX5_here_1 21 rfl rfl)
theorem dX5_here_46 : decode cX5_here 46 = .ok (.if_icmp .ge 15, 3) := dk_162 0 15 (dk_at dksX5_here_2 0 rfl rfl)
theorem dX5_here_49 : decode cX5_here 49 = .ok (.aload_n 0, 1) := dk_42 (dk_at dksX5_here_2 3 rfl rfl)
theorem dX5_here_50 : decode cX5_here 50 = .ok (.getfield 22, 3) := dk_180 0 22 (dk_at dksX5_here_2 4 rfl rfl)
theorem dX5_here_53 : decode cX5_here 53 = .ok (.aload_n 0, 1) := dk_42 (dk_at dksX5_here_2 7 rfl rfl)
theorem dX5_here_54 : decode cX5_here 54 = .ok (.getfield 210, 3) := dk_180 0 210 (dk_at dksX5_here_2 8 rfl rfl)
theorem dX5_here_57 : decode cX5_here 57 = .ok (.iaload, 1) := dk_46 (dk_at dksX5_here_2 11 rfl rfl)
theorem dX5_here_58 : decode cX5_here 58 = .ok (.goto 4, 3) := dk_167 0 4 (dk_at dksX5_here_2 12 rfl rfl)
theorem dX5_here_61 : decode cX5_here 61 = .ok (.iconst (-1), 1) := dk_2 (dk_at dksX5_here_2 15 rfl rfl)
theorem dX5_here_62 : decode cX5_here 62 = .ok (.ireturn, 1) := dk_172 (dk_at dksX5_here_2 16 rfl rfl)
abbrev cX5_isNumber : ByteArray := prog_15_method_69_code
def yX5_isNumber : MethodName := ⟨RX5, "isNumber", "()Z"⟩
def dkwX5_isNumber_3 : List UInt8 := [182, 0, 219, 154, 0, 7, 4, 167, 0, 4, 3, 172]
abbrev dktX5_isNumber_3 : List UInt8 := dkwX5_isNumber_3 ++ []
def dkwX5_isNumber_2 : List UInt8 := [181, 0, 216, 42, 89, 180, 0, 210, 4, 96, 181, 0, 210, 132, 1, 1, 167, 255, 206, 27, 158, 0, 14, 42]
abbrev dktX5_isNumber_2 : List UInt8 := dkwX5_isNumber_2 ++ dktX5_isNumber_3
def dkwX5_isNumber_1 : List UInt8 := [153, 0, 43, 42, 16, 10, 42, 180, 0, 216, 104, 42, 180, 0, 22, 42, 180, 0, 210, 46, 96, 16, 48, 100]
abbrev dktX5_isNumber_1 : List UInt8 := dkwX5_isNumber_1 ++ dktX5_isNumber_2
def dkwX5_isNumber_0 : List UInt8 := [42, 182, 0, 213, 87, 42, 3, 181, 0, 216, 3, 60, 27, 16, 6, 162, 0, 50, 42, 182, 0, 219]
abbrev dktX5_isNumber_0 : List UInt8 := dkwX5_isNumber_0 ++ dktX5_isNumber_1
theorem dksX5_isNumber_0 : cX5_isNumber.data.toList.drop 0 = dktX5_isNumber_0 := by decide +kernel
theorem dksX5_isNumber_1 : cX5_isNumber.data.toList.drop 22 = dktX5_isNumber_1 := dk_seg dksX5_isNumber_0 22 rfl rfl
theorem dksX5_isNumber_2 : cX5_isNumber.data.toList.drop 46 = dktX5_isNumber_2 := dk_seg dksX5_isNumber_1 24 rfl rfl
theorem dksX5_isNumber_3 : cX5_isNumber.data.toList.drop 70 = dktX5_isNumber_3 := dk_seg dksX5_isNumber_2 24 rfl rfl
theorem dX5_isNumber_0 : decode cX5_isNumber 0 = .ok (.aload_n 0, 1) := dk_42 (dk_at dksX5_isNumber_0 0 rfl rfl)
theorem dX5_isNumber_1 : decode cX5_isNumber 1 = .ok (.invokevirtual 213, 3) := dk_182 0 213 (dk_at dksX5_isNumber_0 1 rfl rfl)
theorem dX5_isNumber_4 : decode cX5_isNumber 4 = .ok (.pop, 1) := dk_87 (dk_at dksX5_isNumber_0 4 rfl rfl)
theorem dX5_isNumber_5 : decode cX5_isNumber 5 = .ok (.aload_n 0, 1) := dk_42 (dk_at dksX5_isNumber_0 5 rfl rfl)
theorem dX5_isNumber_6 : decode cX5_isNumber 6 = .ok (.iconst 0, 1) := dk_3 (dk_at dksX5_isNumber_0 6 rfl rfl)
theorem dX5_isNumber_7 : decode cX5_isNumber 7 = .ok (.putfield 216, 3) := dk_181 0 216 (dk_at dksX5_isNumber_0 7 rfl rfl)
theorem dX5_isNumber_10 : decode cX5_isNumber 10 = .ok (.iconst 0, 1) := dk_3 (dk_at dksX5_isNumber_0 10 rfl rfl)
theorem dX5_isNumber_11 : decode cX5_isNumber 11 = .ok (.istore_n 1, 1) := dk_60 (dk_at dksX5_isNumber_0 11 rfl rfl)
theorem dX5_isNumber_12 : decode cX5_isNumber 12 = .ok (.iload_n 1, 1) := dk_27 (dk_at dksX5_isNumber_0 12 rfl rfl)
theorem dX5_isNumber_13 : decode cX5_isNumber 13 = .ok (.bipush 6, 2) := dk_16 6 (dk_at dksX5_isNumber_0 13 rfl rfl)
theorem dX5_isNumber_15 : decode cX5_isNumber 15 = .ok (.if_icmp .ge 50, 3) := dk_162 0 50 (dk_at dksX5_isNumber_0 15 rfl rfl)
theorem dX5_isNumber_18 : decode cX5_isNumber 18 = .ok (.aload_n 0, 1) := dk_42 (dk_at dksX5_isNumber_0 18 rfl rfl)
theorem dX5_isNumber_19 : decode cX5_isNumber 19 = .ok (.invokevirtual 219, 3) := dk_182 0 219 (dk_at dksX5_isNumber_0 19 rfl rfl)
theorem dX5_isNumber_22 : decode cX5_isNumber 22 = .ok (.ifCond .eq 43, 3) := dk_153 0 43 (dk_at dksX5_isNumber_1 0 rfl rfl)
theorem dX5_isNumber_25 : decode cX5_isNumber 25 = .ok (.aload_n 0, 1) := dk_42 (dk_at dksX5_isNumber_1 3 rfl rfl)
theorem dX5_isNumber_26 : decode cX5_isNumber 26 = .ok (.bipush 10, 2) := dk_16 10 (dk_at dksX5_isNumber_1 4 rfl rfl)
theorem dX5_isNumber_28 : decode cX5_isNumber 28 = .ok (.aload_n 0, 1) := dk_42 (dk_at dksX5_isNumber_1 6 rfl rfl)
theorem dX5_isNumber_29 : decode cX5_isNumber 29 = .ok (.getfield 216, 3) := dk_180 0 216 (dk_at dksX5_isNumber_1 7 rfl rfl)
theorem dX5_isNumber_32 : decode cX5_isNumber 32 = .ok (.imul, 1) := dk_104 (dk_at dksX5_isNumber_1 10 rfl rfl)
theorem dX5_isNumber_33 : decode cX5_isNumber 33 = .ok (.aload_n 0, 1) := dk_42 (dk_at dksX5_isNumber_1 11 rfl rfl)
theorem dX5_isNumber_34 : decode cX5_isNumber 34 = .ok (.getfield 22, 3) := dk_180 0 22 (dk_at dksX5_isNumber_1 12 rfl rfl)
theorem dX5_isNumber_37 : decode cX5_isNumber 37 = .ok (.aload_n 0, 1) := dk_42 (dk_at dksX5_isNumber_1 15 rfl rfl)
theorem dX5_isNumber_38 : decode cX5_isNumber 38 = .ok (.getfield 210, 3) := dk_180 0 210 (dk_at dksX5_isNumber_1 16 rfl rfl)
theorem dX5_isNumber_41 : decode cX5_isNumber 41 = .ok (.iaload, 1) := dk_46 (dk_at dksX5_isNumber_1 19 rfl rfl)
theorem dX5_isNumber_42 : decode cX5_isNumber 42 = .ok (.iadd, 1) := dk_96 (dk_at dksX5_isNumber_1 20 rfl rfl)
theorem dX5_isNumber_43 : decode cX5_isNumber 43 = .ok (.bipush 48, 2) := dk_16 48 (dk_at dksX5_isNumber_1 21 rfl rfl)
theorem dX5_isNumber_45 : decode cX5_isNumber 45 = .ok (.isub, 1) := dk_100 (dk_at dksX5_isNumber_1 23 rfl rfl)
theorem dX5_isNumber_46 : decode cX5_isNumber 46 = .ok (.putfield 216, 3) := dk_181 0 216 (dk_at dksX5_isNumber_2 0 rfl rfl)
theorem dX5_isNumber_49 : decode cX5_isNumber 49 = .ok (.aload_n 0, 1) := dk_42 (dk_at dksX5_isNumber_2 3 rfl rfl)
theorem dX5_isNumber_50 : decode cX5_isNumber 50 = .ok (.dup, 1) := dk_89 (dk_at dksX5_isNumber_2 4 rfl rfl)
theorem dX5_isNumber_51 : decode cX5_isNumber 51 = .ok (.getfield 210, 3) := dk_180 0 210 (dk_at dksX5_isNumber_2 5 rfl rfl)
theorem dX5_isNumber_54 : decode cX5_isNumber 54 = .ok (.iconst 1, 1) := dk_4 (dk_at dksX5_isNumber_2 8 rfl rfl)
theorem dX5_isNumber_55 : decode cX5_isNumber 55 = .ok (.iadd, 1) := dk_96 (dk_at dksX5_isNumber_2 9 rfl rfl)
theorem dX5_isNumber_56 : decode cX5_isNumber 56 = .ok (.putfield 210, 3) := dk_181 0 210 (dk_at dksX5_isNumber_2 10 rfl rfl)
theorem dX5_isNumber_59 : decode cX5_isNumber 59 = .ok (.iinc 1 1, 3) := dk_132 1 1 (dk_at dksX5_isNumber_2 13 rfl rfl)
theorem dX5_isNumber_62 : decode cX5_isNumber 62 = .ok (.goto (-50), 3) := dk_167 255 206 (dk_at dksX5_isNumber_2 16 rfl rfl)
theorem dX5_isNumber_65 : decode cX5_isNumber 65 = .ok (.iload_n 1, 1) := dk_27 (dk_at dksX5_isNumber_2 19 rfl rfl)
theorem dX5_isNumber_66 : decode cX5_isNumber 66 = .ok (.ifCond .le 14, 3) := dk_158 0 14 (dk_at dksX5_isNumber_2 20 rfl rfl)
theorem dX5_isNumber_69 : decode cX5_isNumber 69 = .ok (.aload_n 0, 1) := dk_42 (dk_at dksX5_isNumber_2 23 rfl rfl)
theorem dX5_isNumber_70 : decode cX5_isNumber 70 = .ok (.invokevirtual 219, 3) := dk_182 0 219 (dk_at dksX5_isNumber_3 0 rfl rfl)
theorem dX5_isNumber_73 : decode cX5_isNumber 73 = .ok (.ifCond .ne 7, 3) := dk_154 0 7 (dk_at dksX5_isNumber_3 3 rfl rfl)
theorem dX5_isNumber_76 : decode cX5_isNumber 76 = .ok (.iconst 1, 1) := dk_4 (dk_at dksX5_isNumber_3 6 rfl rfl)
theorem dX5_isNumber_77 : decode cX5_isNumber 77 = .ok (.goto 4, 3) := dk_167 0 4 (dk_at dksX5_isNumber_3 7 rfl rfl)
theorem dX5_isNumber_80 : decode cX5_isNumber 80 = .ok (.iconst 0, 1) := dk_3 (dk_at dksX5_isNumber_3 10 rfl rfl)
theorem dX5_isNumber_81 : decode cX5_isNumber 81 = .ok (.ireturn, 1) := dk_172 (dk_at dksX5_isNumber_3 11 rfl rfl)
abbrev cX5_isFigure : ByteArray := prog_15_method_68_code
def yX5_isFigure : MethodName := ⟨RX5, "isFigure", "()Z"⟩
def dkwX5_isFigure_1 : List UInt8 := [184, 0, 44, 153, 0, 7, 4, 167, 0, 4, 3, 172]
abbrev dktX5_isFigure_1 : List UInt8 := dkwX5_isFigure_1 ++ []
def dkwX5_isFigure_0 : List UInt8 := [42, 180, 0, 210, 42, 180, 0, 207, 162, 0, 26, 42, 180, 0, 22, 42, 180, 0, 210, 46, 16, 48, 16, 57]
abbrev dktX5_isFigure_0 : List UInt8 := dkwX5_isFigure_0 ++ dktX5_isFigure_1
theorem dksX5_isFigure_0 : cX5_isFigure.data.toList.drop 0 = dktX5_isFigure_0 := by decide +kernel
theorem dksX5_isFigure_1 : cX5_isFigure.data.toList.drop 24 = dktX5_isFigure_1 := dk_seg dksX5_isFigure_0 24 rfl rfl
theorem dX5_isFigure_0 : decode cX5_isFigure 0 = .ok (.aload_n 0, 1) := dk_42 (dk_at dksX5_isFigure_0 0 rfl rfl)
theorem dX5_isFigure_1 : decode cX5_isFigure 1 = .ok (.getfield 210, 3) := dk_180 0 210 (dk_at dksX5_isFigure_0 1 rfl rfl)
theorem dX5_isFigure_4 : decode cX5_isFigure 4 = .ok (.aload_n 0, 1) := dk_42 (dk_at dksX5_isFigure_0 4 rfl rfl)
theorem dX5_isFigure_5 : decode cX5_isFigure 5 = .ok (.getfield 207, 3) := dk_180 0 207 (dk_at dksX5_isFigure_0 5 rfl rfl)
theorem dX5_isFigure_8 : decode cX5_isFigure 8 = .ok (.if_icmp .ge 26, 3) := dk_162 0 26 (dk_at dksX5_isFigure_0 8 rfl rfl)
theorem dX5_isFigure_11 : decode cX5_isFigure 11 = .ok (.aload_n 0, 1) := dk_42 (dk_at dksX5_isFigure_0 11 rfl rfl)
theorem dX5_isFigure_12 : decode cX5_isFigure 12 = .ok (.getfield 22, 3) := dk_180 0 22 (dk_at dksX5_isFigure_0 12 rfl rfl)
theorem dX5_isFigure_15 : decode cX5_isFigure 15 = .ok (.aload_n 0, 1) := dk_42 (dk_at dksX5_isFigure_0 15 rfl rfl)
theorem dX5_isFigure_16 : decode cX5_isFigure 16 = .ok (.getfield 210, 3) := dk_180 0 210 (dk_at dksX5_isFigure_0 16 rfl rfl)
theorem dX5_isFigure_19 : decode cX5_isFigure 19 = .ok (.iaload, 1) := dk_46 (dk_at dksX5_isFigure_0 19 rfl rfl)
theorem dX5_isFigure_20 : decode cX5_isFigure 20 = .ok (.bipush 48, 2) := dk_16 48 (dk_at dksX5_isFigure_0 20 rfl rfl)
theorem dX5_isFigure_22 : decode cX5_isFigure 22 = .ok (.bipush 57, 2) := dk_16 57 (dk_at dksX5_isFigure_0 22 rfl rfl)
theorem dX5_isFigure_24 : decode cX5_isFigure 24 = .ok (.invokestatic 44, 3) := dk_184 0 44 (dk_at dksX5_isFigure_1 0 rfl rfl)
theorem dX5_isFigure_27 : decode cX5_isFigure 27 = .ok (.ifCond .eq 7, 3) := dk_153 0 7 (dk_at dksX5_isFigure_1 3 rfl rfl)
theorem dX5_isFigure_30 : decode cX5_isFigure 30 = .ok (.iconst 1, 1) := dk_4 (dk_at dksX5_isFigure_1 6 rfl rfl)
theorem dX5_isFigure_31 : decode cX5_isFigure 31 = .ok (.goto 4, 3) := dk_167 0 4 (dk_at dksX5_isFigure_1 7 rfl rfl)
theorem dX5_isFigure_34 : decode cX5_isFigure 34 = .ok (.iconst 0, 1) := dk_3 (dk_at dksX5_isFigure_1 10 rfl rfl)
theorem dX5_isFigure_35 : decode cX5_isFigure 35 = .ok (.ireturn, 1) := dk_172 (dk_at dksX5_isFigure_1 11 rfl rfl)
abbrev cX5_back : ByteArray := prog_15_method_72_code
def yX5_back : MethodName := ⟨RX5, "back", "()I"⟩
def dkwX5_back_3 : List UInt8 := [42, 180, 0, 48, 172]
abbrev dktX5_back_3 : List UInt8 := dkwX5_back_3 ++ []
def dkwX5_back_2 : List UInt8 := [180, 0, 48, 104, 27, 96, 46, 79, 132, 1, 1, 167, 255, 225, 42, 89, 180, 0, 108, 4, 96, 181, 0, 108]
abbrev dktX5_back_2 : List UInt8 := dkwX5_back_2 ++ dktX5_back_3
def dkwX5_back_1 : List UInt8 := [3, 60, 27, 17, 0, 218, 162, 0, 30, 42, 180, 0, 7, 27, 42, 180, 0, 13, 17, 0, 218, 42]
abbrev dktX5_back_1 : List UInt8 := dkwX5_back_1 ++ dktX5_back_2
def dkwX5_back_0 : List UInt8 := [42, 180, 0, 48, 154, 0, 10, 42, 16, 253, 182, 0, 137, 172, 42, 89, 180, 0, 48, 4, 100, 181, 0, 48]
abbrev dktX5_back_0 : List UInt8 := dkwX5_back_0 ++ dktX5_back_1
theorem dksX5_back_0 : cX5_back.data.toList.drop 0 = dktX5_back_0 := by decide +kernel
theorem dksX5_back_1 : cX5_back.data.toList.drop 24 = dktX5_back_1 := dk_seg dksX5_back_0 24 rfl rfl
theorem dksX5_back_2 : cX5_back.data.toList.drop 46 = dktX5_back_2 := dk_seg dksX5_back_1 22 rfl rfl
theorem dksX5_back_3 : cX5_back.data.toList.drop 70 = dktX5_back_3 := dk_seg dksX5_back_2 24 rfl rfl
theorem dX5_back_0 : decode cX5_back 0 = .ok (.aload_n 0, 1) := dk_42 (dk_at dksX5_back_0 0 rfl rfl)
theorem dX5_back_1 : decode cX5_back 1 = .ok (.getfield 48, 3) := dk_180 0 48 (dk_at dksX5_back_0 1 rfl rfl)
theorem dX5_back_4 : decode cX5_back 4 = .ok (.ifCond .ne 10, 3) := dk_154 0 10 (dk_at dksX5_back_0 4 rfl rfl)
theorem dX5_back_7 : decode cX5_back 7 = .ok (.aload_n 0, 1) := dk_42 (dk_at dksX5_back_0 7 rfl rfl)
theorem dX5_back_8 : decode cX5_back 8 = .ok (.bipush (-3), 2) := dk_16 253 (dk_at dksX5_back_0 8 rfl rfl)
theorem dX5_back_10 : decode cX5_back 10 = .ok (.invokevirtual 137, 3) := dk_182 0 137 (dk_at dksX5_back_0 10 rfl rfl)
theorem dX5_back_13 : decode cX5_back 13 = .ok (.ireturn, 1) := dk_172 (dk_at dksX5_back_0 13 rfl rfl)
theorem dX5_back_14 : decode cX5_back 14 = .ok (.aload_n 0, 1) := dk_42 (dk_at dksX5_back_0 14 rfl rfl)
theorem dX5_back_15 : decode cX5_back 15 = .ok (.dup, 1) := dk_89 (dk_at dksX5_back_0 15 rfl rfl)
theorem dX5_back_16 : decode cX5_back 16 = .ok (.getfield 48, 3) := dk_180 0 48 (dk_at dksX5_back_0 16 rfl rfl)
theorem dX5_back_19 : decode cX5_back 19 = .ok (.iconst 1, 1) := dk_4 (dk_at dksX5_back_0 19 rfl rfl)
theorem dX5_back_20 : decode cX5_back 20 = .ok (.isub, 1) := dk_100 (dk_at dksX5_back_0 20 rfl rfl)
theorem dX5_back_21 : decode cX5_back 21 = .ok (.putfield 48, 3) := dk_181 0 48 (dk_at dksX5_back_0 21 rfl rfl)
theorem dX5_back_24 : decode cX5_back 24 = .ok (.iconst 0, 1) := dk_3 (dk_at dksX5_back_1 0 rfl rfl)
theorem dX5_back_25 : decode cX5_back 25 = .ok (.istore_n 1, 1) := dk_60 (dk_at dksX5_back_1 1 rfl rfl)
theorem dX5_back_26 : decode cX5_back 26 = .ok (.iload_n 1, 1) := dk_27 (dk_at dksX5_back_1 2 rfl rfl)
theorem dX5_back_27 : decode cX5_back 27 = .ok (.sipush 218, 3) := dk_17 0 218 (dk_at dksX5_back_1 3 rfl rfl)
theorem dX5_back_30 : decode cX5_back 30 = .ok (.if_icmp .ge 30, 3) := dk_162 0 30 (dk_at dksX5_back_1 6 rfl rfl)
theorem dX5_back_33 : decode cX5_back 33 = .ok (.aload_n 0, 1) := dk_42 (dk_at dksX5_back_1 9 rfl rfl)
theorem dX5_back_34 : decode cX5_back 34 = .ok (.getfield 7, 3) := dk_180 0 7 (dk_at dksX5_back_1 10 rfl rfl)
theorem dX5_back_37 : decode cX5_back 37 = .ok (.iload_n 1, 1) := dk_27 (dk_at dksX5_back_1 13 rfl rfl)
theorem dX5_back_38 : decode cX5_back 38 = .ok (.aload_n 0, 1) := dk_42 (dk_at dksX5_back_1 14 rfl rfl)
theorem dX5_back_39 : decode cX5_back 39 = .ok (.getfield 13, 3) := dk_180 0 13 (dk_at dksX5_back_1 15 rfl rfl)
theorem dX5_back_42 : decode cX5_back 42 = .ok (.sipush 218, 3) := dk_17 0 218 (dk_at dksX5_back_1 18 rfl rfl)
theorem dX5_back_45 : decode cX5_back 45 = .ok (.aload_n 0, 1) := dk_42 (dk_at dksX5_back_1 21 rfl rfl)
theorem dX5_back_46 : decode cX5_back 46 = .ok (.getfield 48, 3) := dk_180 0 48 (dk_at dksX5_back_2 0 rfl rfl)
theorem dX5_back_49 : decode cX5_back 49 = .ok (.imul, 1) := dk_104 (dk_at dksX5_back_2 3 rfl rfl)
theorem dX5_back_50 : decode cX5_back 50 = .ok (.iload_n 1, 1) := dk_27 (dk_at dksX5_back_2 4 rfl rfl)
theorem dX5_back_51 : decode cX5_back 51 = .ok (.iadd, 1) := dk_96 (dk_at dksX5_back_2 5 rfl rfl)
theorem dX5_back_52 : decode cX5_back 52 = .ok (.iaload, 1) := dk_46 (dk_at dksX5_back_2 6 rfl rfl)
theorem dX5_back_53 : decode cX5_back 53 = .ok (.iastore, 1) := dk_79 (dk_at dksX5_back_2 7 rfl rfl)
theorem dX5_back_54 : decode cX5_back 54 = .ok (.iinc 1 1, 3) := dk_132 1 1 (dk_at dksX5_back_2 8 rfl rfl)
theorem dX5_back_57 : decode cX5_back 57 = .ok (.goto (-31), 3) := dk_167 255 225 (dk_at dksX5_back_2 11 rfl rfl)
theorem dX5_back_60 : decode cX5_back 60 = .ok (.aload_n 0, 1) := dk_42 (dk_at dksX5_back_2 14 rfl rfl)
theorem dX5_back_61 : decode cX5_back 61 = .ok (.dup, 1) := dk_89 (dk_at dksX5_back_2 15 rfl rfl)
theorem dX5_back_62 : decode cX5_back 62 = .ok (.getfield 108, 3) := dk_180 0 108 (dk_at dksX5_back_2 16 rfl rfl)
theorem dX5_back_65 : decode cX5_back 65 = .ok (.iconst 1, 1) := dk_4 (dk_at dksX5_back_2 19 rfl rfl)
theorem dX5_back_66 : decode cX5_back 66 = .ok (.iadd, 1) := dk_96 (dk_at dksX5_back_2 20 rfl rfl)
theorem dX5_back_67 : decode cX5_back 67 = .ok (.putfield 108, 3) := dk_181 0 108 (dk_at dksX5_back_2 21 rfl rfl)
theorem dX5_back_70 : decode cX5_back 70 = .ok (.aload_n 0, 1) := dk_42 (dk_at dksX5_back_3 0 rfl rfl)
theorem dX5_back_71 : decode cX5_back 71 = .ok (.getfield 48, 3) := dk_180 0 48 (dk_at dksX5_back_3 1 rfl rfl)
theorem dX5_back_74 : decode cX5_back 74 = .ok (.ireturn, 1) := dk_172 (dk_at dksX5_back_3 4 rfl rfl)
abbrev cX5_told : ByteArray := prog_15_method_74_code
def yX5_told : MethodName := ⟨RX5, "told", "(I)I"⟩
def dkwX5_told_1 : List UInt8 := [172]
abbrev dktX5_told_1 : List UInt8 := dkwX5_told_1 ++ []
def dkwX5_told_0 : List UInt8 := [27, 3, 16, 10, 184, 0, 44, 153, 0, 11, 42, 27, 182, 0, 229, 167, 0, 9, 42, 16, 254, 182, 0, 137]
abbrev dktX5_told_0 : List UInt8 := dkwX5_told_0 ++ dktX5_told_1
theorem dksX5_told_0 : cX5_told.data.toList.drop 0 = dktX5_told_0 := by decide +kernel
theorem dksX5_told_1 : cX5_told.data.toList.drop 24 = dktX5_told_1 := dk_seg dksX5_told_0 24 rfl rfl
theorem dX5_told_0 : decode cX5_told 0 = .ok (.iload_n 1, 1) := dk_27 (dk_at dksX5_told_0 0 rfl rfl)
theorem dX5_told_1 : decode cX5_told 1 = .ok (.iconst 0, 1) := dk_3 (dk_at dksX5_told_0 1 rfl rfl)
theorem dX5_told_2 : decode cX5_told 2 = .ok (.bipush 10, 2) := dk_16 10 (dk_at dksX5_told_0 2 rfl rfl)
theorem dX5_told_4 : decode cX5_told 4 = .ok (.invokestatic 44, 3) := dk_184 0 44 (dk_at dksX5_told_0 4 rfl rfl)
theorem dX5_told_7 : decode cX5_told 7 = .ok (.ifCond .eq 11, 3) := dk_153 0 11 (dk_at dksX5_told_0 7 rfl rfl)
theorem dX5_told_10 : decode cX5_told 10 = .ok (.aload_n 0, 1) := dk_42 (dk_at dksX5_told_0 10 rfl rfl)
theorem dX5_told_11 : decode cX5_told 11 = .ok (.iload_n 1, 1) := dk_27 (dk_at dksX5_told_0 11 rfl rfl)
theorem dX5_told_12 : decode cX5_told 12 = .ok (.invokevirtual 229, 3) := dk_182 0 229 (dk_at dksX5_told_0 12 rfl rfl)
theorem dX5_told_15 : decode cX5_told 15 = .ok (.goto 9, 3) := dk_167 0 9 (dk_at dksX5_told_0 15 rfl rfl)
theorem dX5_told_18 : decode cX5_told 18 = .ok (.aload_n 0, 1) := dk_42 (dk_at dksX5_told_0 18 rfl rfl)
theorem dX5_told_19 : decode cX5_told 19 = .ok (.bipush (-2), 2) := dk_16 254 (dk_at dksX5_told_0 19 rfl rfl)
theorem dX5_told_21 : decode cX5_told 21 = .ok (.invokevirtual 137, 3) := dk_182 0 137 (dk_at dksX5_told_0 21 rfl rfl)
theorem dX5_told_24 : decode cX5_told 24 = .ok (.ireturn, 1) := dk_172 (dk_at dksX5_told_1 0 rfl rfl)
abbrev cX5_toldOf : ByteArray := prog_15_method_73_code
def yX5_toldOf : MethodName := ⟨RX5, "toldOf", "(I)I"⟩
def dkwX5_toldOf_4 : List UInt8 := [180, 0, 48, 167, 0, 4, 28, 172]
abbrev dktX5_toldOf_4 : List UInt8 := dkwX5_toldOf_4 ++ []
def dkwX5_toldOf_3 : List UInt8 := [167, 0, 30, 27, 16, 8, 160, 0, 10, 42, 180, 0, 207, 167, 0, 17, 27, 16, 9, 160, 0, 10, 42]
abbrev dktX5_toldOf_3 : List UInt8 := dkwX5_toldOf_3 ++ dktX5_toldOf_4
def dkwX5_toldOf_2 : List UInt8 := [128, 61, 132, 3, 1, 167, 255, 228, 27, 16, 8, 162, 0, 16, 42, 180, 0, 7, 5, 27, 96, 7, 100, 46]
abbrev dktX5_toldOf_2 : List UInt8 := dkwX5_toldOf_2 ++ dktX5_toldOf_3
def dkwX5_toldOf_1 : List UInt8 := [62, 29, 6, 162, 0, 29, 28, 42, 180, 0, 25, 29, 46, 2, 160, 0, 7, 3, 167, 0, 6, 4, 29, 120]
abbrev dktX5_toldOf_1 : List UInt8 := dkwX5_toldOf_1 ++ dktX5_toldOf_2
def dkwX5_toldOf_0 : List UInt8 := [27, 7, 162, 0, 19, 42, 180, 0, 19, 27, 6, 160, 0, 7, 7, 167, 0, 4, 27, 46, 172, 3, 61, 3]
abbrev dktX5_toldOf_0 : List UInt8 := dkwX5_toldOf_0 ++ dktX5_toldOf_1
theorem dksX5_toldOf_0 : cX5_toldOf.data.toList.drop 0 = dktX5_toldOf_0 := by decide +kernel
theorem dksX5_toldOf_1 : cX5_toldOf.data.toList.drop 24 = dktX5_toldOf_1 := dk_seg dksX5_toldOf_0 24 rfl rfl
theorem dksX5_toldOf_2 : cX5_toldOf.data.toList.drop 48 = dktX5_toldOf_2 := dk_seg dksX5_toldOf_1 24 rfl rfl
theorem dksX5_toldOf_3 : cX5_toldOf.data.toList.drop 72 = dktX5_toldOf_3 := dk_seg dksX5_toldOf_2 24 rfl rfl
theorem dksX5_toldOf_4 : cX5_toldOf.data.toList.drop 95 = dktX5_toldOf_4 := dk_seg dksX5_toldOf_3 23 rfl rfl
theorem dX5_toldOf_0 : decode cX5_toldOf 0 = .ok (.iload_n 1, 1) := dk_27 (dk_at dksX5_toldOf_0 0 rfl rfl)
theorem dX5_toldOf_1 : decode cX5_toldOf 1 = .ok (.iconst 4, 1) := dk_7 (dk_at dksX5_toldOf_0 1 rfl rfl)
theorem dX5_toldOf_2 : decode cX5_toldOf 2 = .ok (.if_icmp .ge 19, 3) := dk_162 0 19 (dk_at dksX5_toldOf_0 2 rfl rfl)
theorem dX5_toldOf_5 : decode cX5_toldOf 5 = .ok (.aload_n 0, 1) := dk_42 (dk_at dksX5_toldOf_0 5 rfl rfl)
theorem dX5_toldOf_6 : decode cX5_toldOf 6 = .ok (.getfield 19, 3) := dk_180 0 19 (dk_at dksX5_toldOf_0 6 rfl rfl)
theorem dX5_toldOf_9 : decode cX5_toldOf 9 = .ok (.iload_n 1, 1) := dk_27 (dk_at dksX5_toldOf_0 9 rfl rfl)
theorem dX5_toldOf_10 : decode cX5_toldOf 10 = .ok (.iconst 3, 1) := dk_6 (dk_at dksX5_toldOf_0 10 rfl rfl)
theorem dX5_toldOf_11 : decode cX5_toldOf 11 = .ok (.if_icmp .ne 7, 3) := dk_160 0 7 (dk_at dksX5_toldOf_0 11 rfl rfl)
theorem dX5_toldOf_14 : decode cX5_toldOf 14 = .ok (.iconst 4, 1) := dk_7 (dk_at dksX5_toldOf_0 14 rfl rfl)
theorem dX5_toldOf_15 : decode cX5_toldOf 15 = .ok (.goto 4, 3) := dk_167 0 4 (dk_at dksX5_toldOf_0 15 rfl rfl)
theorem dX5_toldOf_18 : decode cX5_toldOf 18 = .ok (.iload_n 1, 1) := dk_27 (dk_at dksX5_toldOf_0 18 rfl rfl)
theorem dX5_toldOf_19 : decode cX5_toldOf 19 = .ok (.iaload, 1) := dk_46 (dk_at dksX5_toldOf_0 19 rfl rfl)
theorem dX5_toldOf_20 : decode cX5_toldOf 20 = .ok (.ireturn, 1) := dk_172 (dk_at dksX5_toldOf_0 20 rfl rfl)
theorem dX5_toldOf_21 : decode cX5_toldOf 21 = .ok (.iconst 0, 1) := dk_3 (dk_at dksX5_toldOf_0 21 rfl rfl)
theorem dX5_toldOf_22 : decode cX5_toldOf 22 = .ok (.istore_n 2, 1) := dk_61 (dk_at dksX5_toldOf_0 22 rfl rfl)
theorem dX5_toldOf_23 : decode cX5_toldOf 23 = .ok (.iconst 0, 1) := dk_3 (dk_at dksX5_toldOf_0 23 rfl rfl)
theorem dX5_toldOf_24 : decode cX5_toldOf 24 = .ok (.istore_n 3, 1) := dk_62 (dk_at dksX5_toldOf_1 0 rfl rfl)
theorem dX5_toldOf_25 : decode cX5_toldOf 25 = .ok (.iload_n 3, 1) := dk_29 (dk_at dksX5_toldOf_1 1 rfl rfl)
theorem dX5_toldOf_26 : decode cX5_toldOf 26 = .ok (.iconst 3, 1) := dk_6 (dk_at dksX5_toldOf_1 2 rfl rfl)
theorem dX5_toldOf_27 : decode cX5_toldOf 27 = .ok (.if_icmp .ge 29, 3) := dk_162 0 29 (dk_at dksX5_toldOf_1 3 rfl rfl)
theorem dX5_toldOf_30 : decode cX5_toldOf 30 = .ok (.iload_n 2, 1) := dk_28 (dk_at dksX5_toldOf_1 6 rfl rfl)
theorem dX5_toldOf_31 : decode cX5_toldOf 31 = .ok (.aload_n 0, 1) := dk_42 (dk_at dksX5_toldOf_1 7 rfl rfl)
theorem dX5_toldOf_32 : decode cX5_toldOf 32 = .ok (.getfield 25, 3) := dk_180 0 25 (dk_at dksX5_toldOf_1 8 rfl rfl)
theorem dX5_toldOf_35 : decode cX5_toldOf 35 = .ok (.iload_n 3, 1) := dk_29 (dk_at dksX5_toldOf_1 11 rfl rfl)
theorem dX5_toldOf_36 : decode cX5_toldOf 36 = .ok (.iaload, 1) := dk_46 (dk_at dksX5_toldOf_1 12 rfl rfl)
theorem dX5_toldOf_37 : decode cX5_toldOf 37 = .ok (.iconst (-1), 1) := dk_2 (dk_at dksX5_toldOf_1 13 rfl rfl)
theorem dX5_toldOf_38 : decode cX5_toldOf 38 = .ok (.if_icmp .ne 7, 3) := dk_160 0 7 (dk_at dksX5_toldOf_1 14 rfl rfl)
theorem dX5_toldOf_41 : decode cX5_toldOf 41 = .ok (.iconst 0, 1) := dk_3 (dk_at dksX5_toldOf_1 17 rfl rfl)
theorem dX5_toldOf_42 : decode cX5_toldOf 42 = .ok (.goto 6, 3) := dk_167 0 6 (dk_at dksX5_toldOf_1 18 rfl rfl)
theorem dX5_toldOf_45 : decode cX5_toldOf 45 = .ok (.iconst 1, 1) := dk_4 (dk_at dksX5_toldOf_1 21 rfl rfl)
theorem dX5_toldOf_46 : decode cX5_toldOf 46 = .ok (.iload_n 3, 1) := dk_29 (dk_at dksX5_toldOf_1 22 rfl rfl)
theorem dX5_toldOf_47 : decode cX5_toldOf 47 = .ok (.ishl, 1) := dk_120 (dk_at dksX5_toldOf_1 23 rfl rfl)
theorem dX5_toldOf_48 : decode cX5_toldOf 48 = .ok (.ior, 1) := dk_128 (dk_at dksX5_toldOf_2 0 rfl rfl)
theorem dX5_toldOf_49 : decode cX5_toldOf 49 = .ok (.istore_n 2, 1) := dk_61 (dk_at dksX5_toldOf_2 1 rfl rfl)
theorem dX5_toldOf_50 : decode cX5_toldOf 50 = .ok (.iinc 3 1, 3) := dk_132 3 1 (dk_at dksX5_toldOf_2 2 rfl rfl)
theorem dX5_toldOf_53 : decode cX5_toldOf 53 = .ok (.goto (-28), 3) := dk_167 255 228 (dk_at dksX5_toldOf_2 5 rfl rfl)
theorem dX5_toldOf_56 : decode cX5_toldOf 56 = .ok (.iload_n 1, 1) := dk_27 (dk_at dksX5_toldOf_2 8 rfl rfl)
theorem dX5_toldOf_57 : decode cX5_toldOf 57 = .ok (.bipush 8, 2) := dk_16 8 (dk_at dksX5_toldOf_2 9 rfl rfl)
theorem dX5_toldOf_59 : decode cX5_toldOf 59 = .ok (.if_icmp .ge 16, 3) := dk_162 0 16 (dk_at dksX5_toldOf_2 11 rfl rfl)
theorem dX5_toldOf_62 : decode cX5_toldOf 62 = .ok (.aload_n 0, 1) := dk_42 (dk_at dksX5_toldOf_2 14 rfl rfl)
theorem dX5_toldOf_63 : decode cX5_toldOf 63 = .ok (.getfield 7, 3) := dk_180 0 7 (dk_at dksX5_toldOf_2 15 rfl rfl)
theorem dX5_toldOf_66 : decode cX5_toldOf 66 = .ok (.iconst 2, 1) := dk_5 (dk_at dksX5_toldOf_2 18 rfl rfl)
theorem dX5_toldOf_67 : decode cX5_toldOf 67 = .ok (.iload_n 1, 1) := dk_27 (dk_at dksX5_toldOf_2 19 rfl rfl)
theorem dX5_toldOf_68 : decode cX5_toldOf 68 = .ok (.iadd, 1) := dk_96 (dk_at dksX5_toldOf_2 20 rfl rfl)
theorem dX5_toldOf_69 : decode cX5_toldOf 69 = .ok (.iconst 4, 1) := dk_7 (dk_at dksX5_toldOf_2 21 rfl rfl)
theorem dX5_toldOf_70 : decode cX5_toldOf 70 = .ok (.isub, 1) := dk_100 (dk_at dksX5_toldOf_2 22 rfl rfl)
theorem dX5_toldOf_71 : decode cX5_toldOf 71 = .ok (.iaload, 1) := dk_46 (dk_at dksX5_toldOf_2 23 rfl rfl)
theorem dX5_toldOf_72 : decode cX5_toldOf 72 = .ok (.goto 30, 3) := dk_167 0 30 (dk_at dksX5_toldOf_3 0 rfl rfl)
theorem dX5_toldOf_75 : decode cX5_toldOf 75 = .ok (.iload_n 1, 1) := dk_27 (dk_at dksX5_toldOf_3 3 rfl rfl)
theorem dX5_toldOf_76 : decode cX5_toldOf 76 = .ok (.bipush 8, 2) := dk_16 8 (dk_at dksX5_toldOf_3 4 rfl rfl)
theorem dX5_toldOf_78 : decode cX5_toldOf 78 = .ok (.if_icmp .ne 10, 3) := dk_160 0 10 (dk_at dksX5_toldOf_3 6 rfl rfl)
theorem dX5_toldOf_81 : decode cX5_toldOf 81 = .ok (.aload_n 0, 1) := dk_42 (dk_at dksX5_toldOf_3 9 rfl rfl)
theorem dX5_toldOf_82 : decode cX5_toldOf 82 = .ok (.getfield 207, 3) := dk_180 0 207 (dk_at dksX5_toldOf_3 10 rfl rfl)
theorem dX5_toldOf_85 : decode cX5_toldOf 85 = .ok (.goto 17, 3) := dk_167 0 17 (dk_at dksX5_toldOf_3 13 rfl rfl)
theorem dX5_toldOf_88 : decode cX5_toldOf 88 = .ok (.iload_n 1, 1) := dk_27 (dk_at dksX5_toldOf_3 16 rfl rfl)
theorem dX5_toldOf_89 : decode cX5_toldOf 89 = .ok (.bipush 9, 2) := dk_16 9 (dk_at dksX5_toldOf_3 17 rfl rfl)
theorem dX5_toldOf_91 : decode cX5_toldOf 91 = .ok (.if_icmp .ne 10, 3) := dk_160 0 10 (dk_at dksX5_toldOf_3 19 rfl rfl)
theorem dX5_toldOf_94 : decode cX5_toldOf 94 = .ok (.aload_n 0, 1) := dk_42 (dk_at dksX5_toldOf_3 22 rfl rfl)
theorem dX5_toldOf_95 : decode cX5_toldOf 95 = .ok (.getfield 48, 3) := dk_180 0 48 (dk_at dksX5_toldOf_4 0 rfl rfl)
theorem dX5_toldOf_98 : decode cX5_toldOf 98 = .ok (.goto 4, 3) := dk_167 0 4 (dk_at dksX5_toldOf_4 3 rfl rfl)
theorem dX5_toldOf_101 : decode cX5_toldOf 101 = .ok (.iload_n 2, 1) := dk_28 (dk_at dksX5_toldOf_4 6 rfl rfl)
theorem dX5_toldOf_102 : decode cX5_toldOf 102 = .ok (.ireturn, 1) := dk_172 (dk_at dksX5_toldOf_4 7 rfl rfl)
abbrev cX5_digest : ByteArray := prog_15_method_75_code
def yX5_digest : MethodName := ⟨RX5, "digest", "()J"⟩
def dkwX5_digest_8 : List UInt8 := [167, 255, 231, 132, 3, 1, 167, 255, 175, 31, 173]
abbrev dktX5_digest_8 : List UInt8 := dkwX5_digest_8 ++ []
def dkwX5_digest_7 : List UInt8 := [21, 4, 162, 0, 24, 20, 0, 234, 31, 105, 42, 29, 21, 5, 182, 0, 180, 133, 97, 64, 132, 5, 1]
abbrev dktX5_digest_7 : List UInt8 := dkwX5_digest_7 ++ dktX5_digest_8
def dkwX5_digest_6 : List UInt8 := [182, 0, 177, 133, 97, 64, 132, 4, 1, 167, 255, 232, 42, 29, 182, 0, 102, 54, 4, 3, 54, 5, 21, 5]
abbrev dktX5_digest_6 : List UInt8 := dkwX5_digest_6 ++ dktX5_digest_7
def dkwX5_digest_5 : List UInt8 := [4, 46, 162, 0, 77, 3, 54, 4, 21, 4, 6, 162, 0, 24, 20, 0, 234, 31, 105, 42, 29, 21, 4]
abbrev dktX5_digest_5 : List UInt8 := dkwX5_digest_5 ++ dktX5_digest_6
def dkwX5_digest_4 : List UInt8 := [180, 0, 7, 16, 56, 29, 96, 46, 133, 97, 64, 132, 3, 1, 167, 255, 209, 3, 62, 29, 42, 180, 0, 7]
abbrev dktX5_digest_4 : List UInt8 := dkwX5_digest_4 ++ dktX5_digest_5
def dkwX5_digest_3 : List UInt8 := [20, 0, 234, 31, 105, 42, 180, 0, 7, 16, 7, 29, 96, 46, 133, 97, 64, 20, 0, 234, 31, 105, 42]
abbrev dktX5_digest_3 : List UInt8 := dkwX5_digest_3 ++ dktX5_digest_4
def dkwX5_digest_2 : List UInt8 := [182, 0, 186, 133, 97, 64, 132, 3, 1, 167, 255, 234, 3, 62, 29, 42, 180, 0, 7, 3, 46, 162, 0, 43]
abbrev dktX5_digest_2 : List UInt8 := dkwX5_digest_2 ++ dktX5_digest_3
def dkwX5_digest_1 : List UInt8 := [64, 132, 3, 1, 167, 255, 234, 3, 62, 29, 16, 8, 162, 0, 22, 20, 0, 234, 31, 105, 42, 29]
abbrev dktX5_digest_1 : List UInt8 := dkwX5_digest_1 ++ dktX5_digest_2
def dkwX5_digest_0 : List UInt8 := [20, 0, 232, 64, 3, 62, 29, 16, 11, 162, 0, 22, 20, 0, 234, 31, 105, 42, 29, 182, 0, 229, 133, 97]
abbrev dktX5_digest_0 : List UInt8 := dkwX5_digest_0 ++ dktX5_digest_1
theorem dksX5_digest_0 : cX5_digest.data.toList.drop 0 = dktX5_digest_0 := by decide +kernel
theorem dksX5_digest_1 : cX5_digest.data.toList.drop 24 = dktX5_digest_1 := dk_seg dksX5_digest_0 24 rfl rfl
theorem dksX5_digest_2 : cX5_digest.data.toList.drop 46 = dktX5_digest_2 := dk_seg dksX5_digest_1 22 rfl rfl
theorem dksX5_digest_3 : cX5_digest.data.toList.drop 70 = dktX5_digest_3 := dk_seg dksX5_digest_2 24 rfl rfl
theorem dksX5_digest_4 : cX5_digest.data.toList.drop 93 = dktX5_digest_4 := dk_seg dksX5_digest_3 23 rfl rfl
theorem dksX5_digest_5 : cX5_digest.data.toList.drop 117 = dktX5_digest_5 := dk_seg dksX5_digest_4 24 rfl rfl
theorem dksX5_digest_6 : cX5_digest.data.toList.drop 140 = dktX5_digest_6 := dk_seg dksX5_digest_5 23 rfl rfl
theorem dksX5_digest_7 : cX5_digest.data.toList.drop 164 = dktX5_digest_7 := dk_seg dksX5_digest_6 24 rfl rfl
theorem dksX5_digest_8 : cX5_digest.data.toList.drop 187 = dktX5_digest_8 := dk_seg dksX5_digest_7 23 rfl rfl
theorem dX5_digest_0 : decode cX5_digest 0 = .ok (.ldc2_w 232, 3) := dk_20 0 232 (dk_at dksX5_digest_0 0 rfl rfl)
theorem dX5_digest_3 : decode cX5_digest 3 = .ok (.lstore_n 1, 1) := dk_64 (dk_at dksX5_digest_0 3 rfl rfl)
theorem dX5_digest_4 : decode cX5_digest 4 = .ok (.iconst 0, 1) := dk_3 (dk_at dksX5_digest_0 4 rfl rfl)
theorem dX5_digest_5 : decode cX5_digest 5 = .ok (.istore_n 3, 1) := dk_62 (dk_at dksX5_digest_0 5 rfl rfl)
theorem dX5_digest_6 : decode cX5_digest 6 = .ok (.iload_n 3, 1) := dk_29 (dk_at dksX5_digest_0 6 rfl rfl)
theorem dX5_digest_7 : decode cX5_digest 7 = .ok (.bipush 11, 2) := dk_16 11 (dk_at dksX5_digest_0 7 rfl rfl)
theorem dX5_digest_9 : decode cX5_digest 9 = .ok (.if_icmp .ge 22, 3) := dk_162 0 22 (dk_at dksX5_digest_0 9 rfl rfl)
theorem dX5_digest_12 : decode cX5_digest 12 = .ok (.ldc2_w 234, 3) := dk_20 0 234 (dk_at dksX5_digest_0 12 rfl rfl)
theorem dX5_digest_15 : decode cX5_digest 15 = .ok (.lload_n 1, 1) := dk_31 (dk_at dksX5_digest_0 15 rfl rfl)
theorem dX5_digest_16 : decode cX5_digest 16 = .ok (.lmul, 1) := dk_105 (dk_at dksX5_digest_0 16 rfl rfl)
theorem dX5_digest_17 : decode cX5_digest 17 = .ok (.aload_n 0, 1) := dk_42 (dk_at dksX5_digest_0 17 rfl rfl)
theorem dX5_digest_18 : decode cX5_digest 18 = .ok (.iload_n 3, 1) := dk_29 (dk_at dksX5_digest_0 18 rfl rfl)
theorem dX5_digest_19 : decode cX5_digest 19 = .ok (.invokevirtual 229, 3) := dk_182 0 229 (dk_at dksX5_digest_0 19 rfl rfl)
theorem dX5_digest_22 : decode cX5_digest 22 = .ok (.i2l, 1) := dk_133 (dk_at dksX5_digest_0 22 rfl rfl)
theorem dX5_digest_23 : decode cX5_digest 23 = .ok (.ladd, 1) := dk_97 (dk_at dksX5_digest_0 23 rfl rfl)
theorem dX5_digest_24 : decode cX5_digest 24 = .ok (.lstore_n 1, 1) := dk_64 (dk_at dksX5_digest_1 0 rfl rfl)
theorem dX5_digest_25 : decode cX5_digest 25 = .ok (.iinc 3 1, 3) := dk_132 3 1 (dk_at dksX5_digest_1 1 rfl rfl)
theorem dX5_digest_28 : decode cX5_digest 28 = .ok (.goto (-22), 3) := dk_167 255 234 (dk_at dksX5_digest_1 4 rfl rfl)
theorem dX5_digest_31 : decode cX5_digest 31 = .ok (.iconst 0, 1) := dk_3 (dk_at dksX5_digest_1 7 rfl rfl)
theorem dX5_digest_32 : decode cX5_digest 32 = .ok (.istore_n 3, 1) := dk_62 (dk_at dksX5_digest_1 8 rfl rfl)
theorem dX5_digest_33 : decode cX5_digest 33 = .ok (.iload_n 3, 1) := dk_29 (dk_at dksX5_digest_1 9 rfl rfl)
theorem dX5_digest_34 : decode cX5_digest 34 = .ok (.bipush 8, 2) := dk_16 8 (dk_at dksX5_digest_1 10 rfl rfl)
theorem dX5_digest_36 : decode cX5_digest 36 = .ok (.if_icmp .ge 22, 3) := dk_162 0 22 (dk_at dksX5_digest_1 12 rfl rfl)
theorem dX5_digest_39 : decode cX5_digest 39 = .ok (.ldc2_w 234, 3) := dk_20 0 234 (dk_at dksX5_digest_1 15 rfl rfl)
theorem dX5_digest_42 : decode cX5_digest 42 = .ok (.lload_n 1, 1) := dk_31 (dk_at dksX5_digest_1 18 rfl rfl)
theorem dX5_digest_43 : decode cX5_digest 43 = .ok (.lmul, 1) := dk_105 (dk_at dksX5_digest_1 19 rfl rfl)
theorem dX5_digest_44 : decode cX5_digest 44 = .ok (.aload_n 0, 1) := dk_42 (dk_at dksX5_digest_1 20 rfl rfl)
theorem dX5_digest_45 : decode cX5_digest 45 = .ok (.iload_n 3, 1) := dk_29 (dk_at dksX5_digest_1 21 rfl rfl)
theorem dX5_digest_46 : decode cX5_digest 46 = .ok (.invokevirtual 186, 3) := dk_182 0 186 (dk_at dksX5_digest_2 0 rfl rfl)
theorem dX5_digest_49 : decode cX5_digest 49 = .ok (.i2l, 1) := dk_133 (dk_at dksX5_digest_2 3 rfl rfl)
theorem dX5_digest_50 : decode cX5_digest 50 = .ok (.ladd, 1) := dk_97 (dk_at dksX5_digest_2 4 rfl rfl)
theorem dX5_digest_51 : decode cX5_digest 51 = .ok (.lstore_n 1, 1) := dk_64 (dk_at dksX5_digest_2 5 rfl rfl)
theorem dX5_digest_52 : decode cX5_digest 52 = .ok (.iinc 3 1, 3) := dk_132 3 1 (dk_at dksX5_digest_2 6 rfl rfl)
theorem dX5_digest_55 : decode cX5_digest 55 = .ok (.goto (-22), 3) := dk_167 255 234 (dk_at dksX5_digest_2 9 rfl rfl)
theorem dX5_digest_58 : decode cX5_digest 58 = .ok (.iconst 0, 1) := dk_3 (dk_at dksX5_digest_2 12 rfl rfl)
theorem dX5_digest_59 : decode cX5_digest 59 = .ok (.istore_n 3, 1) := dk_62 (dk_at dksX5_digest_2 13 rfl rfl)
theorem dX5_digest_60 : decode cX5_digest 60 = .ok (.iload_n 3, 1) := dk_29 (dk_at dksX5_digest_2 14 rfl rfl)
theorem dX5_digest_61 : decode cX5_digest 61 = .ok (.aload_n 0, 1) := dk_42 (dk_at dksX5_digest_2 15 rfl rfl)
theorem dX5_digest_62 : decode cX5_digest 62 = .ok (.getfield 7, 3) := dk_180 0 7 (dk_at dksX5_digest_2 16 rfl rfl)
theorem dX5_digest_65 : decode cX5_digest 65 = .ok (.iconst 0, 1) := dk_3 (dk_at dksX5_digest_2 19 rfl rfl)
theorem dX5_digest_66 : decode cX5_digest 66 = .ok (.iaload, 1) := dk_46 (dk_at dksX5_digest_2 20 rfl rfl)
theorem dX5_digest_67 : decode cX5_digest 67 = .ok (.if_icmp .ge 43, 3) := dk_162 0 43 (dk_at dksX5_digest_2 21 rfl rfl)
theorem dX5_digest_70 : decode cX5_digest 70 = .ok (.ldc2_w 234, 3) := dk_20 0 234 (dk_at dksX5_digest_3 0 rfl rfl)
theorem dX5_digest_73 : decode cX5_digest 73 = .ok (.lload_n 1, 1) := dk_31 (dk_at dksX5_digest_3 3 rfl rfl)
theorem dX5_digest_74 : decode cX5_digest 74 = .ok (.lmul, 1) := dk_105 (dk_at dksX5_digest_3 4 rfl rfl)
theorem dX5_digest_75 : decode cX5_digest 75 = .ok (.aload_n 0, 1) := dk_42 (dk_at dksX5_digest_3 5 rfl rfl)
theorem dX5_digest_76 : decode cX5_digest 76 = .ok (.getfield 7, 3) := dk_180 0 7 (dk_at dksX5_digest_3 6 rfl rfl)
theorem dX5_digest_79 : decode cX5_digest 79 = .ok (.bipush 7, 2) := dk_16 7 (dk_at dksX5_digest_3 9 rfl rfl)
theorem dX5_digest_81 : decode cX5_digest 81 = .ok (.iload_n 3, 1) := dk_29 (dk_at dksX5_digest_3 11 rfl rfl)
theorem dX5_digest_82 : decode cX5_digest 82 = .ok (.iadd, 1) := dk_96 (dk_at dksX5_digest_3 12 rfl rfl)
theorem dX5_digest_83 : decode cX5_digest 83 = .ok (.iaload, 1) := dk_46 (dk_at dksX5_digest_3 13 rfl rfl)
theorem dX5_digest_84 : decode cX5_digest 84 = .ok (.i2l, 1) := dk_133 (dk_at dksX5_digest_3 14 rfl rfl)
theorem dX5_digest_85 : decode cX5_digest 85 = .ok (.ladd, 1) := dk_97 (dk_at dksX5_digest_3 15 rfl rfl)
theorem dX5_digest_86 : decode cX5_digest 86 = .ok (.lstore_n 1, 1) := dk_64 (dk_at dksX5_digest_3 16 rfl rfl)
theorem dX5_digest_87 : decode cX5_digest 87 = .ok (.ldc2_w 234, 3) := dk_20 0 234 (dk_at dksX5_digest_3 17 rfl rfl)
theorem dX5_digest_90 : decode cX5_digest 90 = .ok (.lload_n 1, 1) := dk_31 (dk_at dksX5_digest_3 20 rfl rfl)
theorem dX5_digest_91 : decode cX5_digest 91 = .ok (.lmul, 1) := dk_105 (dk_at dksX5_digest_3 21 rfl rfl)
theorem dX5_digest_92 : decode cX5_digest 92 = .ok (.aload_n 0, 1) := dk_42 (dk_at dksX5_digest_3 22 rfl rfl)
theorem dX5_digest_93 : decode cX5_digest 93 = .ok (.getfield 7, 3) := dk_180 0 7 (dk_at dksX5_digest_4 0 rfl rfl)
theorem dX5_digest_96 : decode cX5_digest 96 = .ok (.bipush 56, 2) := dk_16 56 (dk_at dksX5_digest_4 3 rfl rfl)
theorem dX5_digest_98 : decode cX5_digest 98 = .ok (.iload_n 3, 1) := dk_29 (dk_at dksX5_digest_4 5 rfl rfl)
theorem dX5_digest_99 : decode cX5_digest 99 = .ok (.iadd, 1) := dk_96 (dk_at dksX5_digest_4 6 rfl rfl)
theorem dX5_digest_100 : decode cX5_digest 100 = .ok (.iaload, 1) := dk_46 (dk_at dksX5_digest_4 7 rfl rfl)
theorem dX5_digest_101 : decode cX5_digest 101 = .ok (.i2l, 1) := dk_133 (dk_at dksX5_digest_4 8 rfl rfl)
theorem dX5_digest_102 : decode cX5_digest 102 = .ok (.ladd, 1) := dk_97 (dk_at dksX5_digest_4 9 rfl rfl)
theorem dX5_digest_103 : decode cX5_digest 103 = .ok (.lstore_n 1, 1) := dk_64 (dk_at dksX5_digest_4 10 rfl rfl)
theorem dX5_digest_104 : decode cX5_digest 104 = .ok (.iinc 3 1, 3) := dk_132 3 1 (dk_at dksX5_digest_4 11 rfl rfl)
theorem dX5_digest_107 : decode cX5_digest 107 = .ok (.goto (-47), 3) := dk_167 255 209 (dk_at dksX5_digest_4 14 rfl rfl)
theorem dX5_digest_110 : decode cX5_digest 110 = .ok (.iconst 0, 1) := dk_3 (dk_at dksX5_digest_4 17 rfl rfl)
theorem dX5_digest_111 : decode cX5_digest 111 = .ok (.istore_n 3, 1) := dk_62 (dk_at dksX5_digest_4 18 rfl rfl)
theorem dX5_digest_112 : decode cX5_digest 112 = .ok (.iload_n 3, 1) := dk_29 (dk_at dksX5_digest_4 19 rfl rfl)
theorem dX5_digest_113 : decode cX5_digest 113 = .ok (.aload_n 0, 1) := dk_42 (dk_at dksX5_digest_4 20 rfl rfl)
theorem dX5_digest_114 : decode cX5_digest 114 = .ok (.getfield 7, 3) := dk_180 0 7 (dk_at dksX5_digest_4 21 rfl rfl)
theorem dX5_digest_117 : decode cX5_digest 117 = .ok (.iconst 1, 1) := dk_4 (dk_at dksX5_digest_5 0 rfl rfl)
theorem dX5_digest_118 : decode cX5_digest 118 = .ok (.iaload, 1) := dk_46 (dk_at dksX5_digest_5 1 rfl rfl)
theorem dX5_digest_119 : decode cX5_digest 119 = .ok (.if_icmp .ge 77, 3) := dk_162 0 77 (dk_at dksX5_digest_5 2 rfl rfl)
theorem dX5_digest_122 : decode cX5_digest 122 = .ok (.iconst 0, 1) := dk_3 (dk_at dksX5_digest_5 5 rfl rfl)
theorem dX5_digest_123 : decode cX5_digest 123 = .ok (.istore 4, 2) := dk_54 4 (dk_at dksX5_digest_5 6 rfl rfl)
theorem dX5_digest_125 : decode cX5_digest 125 = .ok (.iload 4, 2) := dk_21 4 (dk_at dksX5_digest_5 8 rfl rfl)
theorem dX5_digest_127 : decode cX5_digest 127 = .ok (.iconst 3, 1) := dk_6 (dk_at dksX5_digest_5 10 rfl rfl)
theorem dX5_digest_128 : decode cX5_digest 128 = .ok (.if_icmp .ge 24, 3) := dk_162 0 24 (dk_at dksX5_digest_5 11 rfl rfl)
theorem dX5_digest_131 : decode cX5_digest 131 = .ok (.ldc2_w 234, 3) := dk_20 0 234 (dk_at dksX5_digest_5 14 rfl rfl)
theorem dX5_digest_134 : decode cX5_digest 134 = .ok (.lload_n 1, 1) := dk_31 (dk_at dksX5_digest_5 17 rfl rfl)
theorem dX5_digest_135 : decode cX5_digest 135 = .ok (.lmul, 1) := dk_105 (dk_at dksX5_digest_5 18 rfl rfl)
theorem dX5_digest_136 : decode cX5_digest 136 = .ok (.aload_n 0, 1) := dk_42 (dk_at dksX5_digest_5 19 rfl rfl)
theorem dX5_digest_137 : decode cX5_digest 137 = .ok (.iload_n 3, 1) := dk_29 (dk_at dksX5_digest_5 20 rfl rfl)
theorem dX5_digest_138 : decode cX5_digest 138 = .ok (.iload 4, 2) := dk_21 4 (dk_at dksX5_digest_5 21 rfl rfl)
theorem dX5_digest_140 : decode cX5_digest 140 = .ok (.invokevirtual 177, 3) := dk_182 0 177 (dk_at dksX5_digest_6 0 rfl rfl)
theorem dX5_digest_143 : decode cX5_digest 143 = .ok (.i2l, 1) := dk_133 (dk_at dksX5_digest_6 3 rfl rfl)
theorem dX5_digest_144 : decode cX5_digest 144 = .ok (.ladd, 1) := dk_97 (dk_at dksX5_digest_6 4 rfl rfl)
theorem dX5_digest_145 : decode cX5_digest 145 = .ok (.lstore_n 1, 1) := dk_64 (dk_at dksX5_digest_6 5 rfl rfl)
theorem dX5_digest_146 : decode cX5_digest 146 = .ok (.iinc 4 1, 3) := dk_132 4 1 (dk_at dksX5_digest_6 6 rfl rfl)
theorem dX5_digest_149 : decode cX5_digest 149 = .ok (.goto (-24), 3) := dk_167 255 232 (dk_at dksX5_digest_6 9 rfl rfl)
theorem dX5_digest_152 : decode cX5_digest 152 = .ok (.aload_n 0, 1) := dk_42 (dk_at dksX5_digest_6 12 rfl rfl)
theorem dX5_digest_153 : decode cX5_digest 153 = .ok (.iload_n 3, 1) := dk_29 (dk_at dksX5_digest_6 13 rfl rfl)
theorem dX5_digest_154 : decode cX5_digest 154 = .ok (.invokevirtual 102, 3) := dk_182 0 102 (dk_at dksX5_digest_6 14 rfl rfl)
theorem dX5_digest_157 : decode cX5_digest 157 = .ok (.istore 4, 2) := dk_54 4 (dk_at dksX5_digest_6 17 rfl rfl)
theorem dX5_digest_159 : decode cX5_digest 159 = .ok (.iconst 0, 1) := dk_3 (dk_at dksX5_digest_6 19 rfl rfl)
theorem dX5_digest_160 : decode cX5_digest 160 = .ok (.istore 5, 2) := dk_54 5 (dk_at dksX5_digest_6 20 rfl rfl)
theorem dX5_digest_162 : decode cX5_digest 162 = .ok (.iload 5, 2) := dk_21 5 (dk_at dksX5_digest_6 22 rfl rfl)
theorem dX5_digest_164 : decode cX5_digest 164 = .ok (.iload 4, 2) := dk_21 4 (dk_at dksX5_digest_7 0 rfl rfl)
theorem dX5_digest_166 : decode cX5_digest 166 = .ok (.if_icmp .ge 24, 3) := dk_162 0 24 (dk_at dksX5_digest_7 2 rfl rfl)
theorem dX5_digest_169 : decode cX5_digest 169 = .ok (.ldc2_w 234, 3) := dk_20 0 234 (dk_at dksX5_digest_7 5 rfl rfl)
theorem dX5_digest_172 : decode cX5_digest 172 = .ok (.lload_n 1, 1) := dk_31 (dk_at dksX5_digest_7 8 rfl rfl)
theorem dX5_digest_173 : decode cX5_digest 173 = .ok (.lmul, 1) := dk_105 (dk_at dksX5_digest_7 9 rfl rfl)
theorem dX5_digest_174 : decode cX5_digest 174 = .ok (.aload_n 0, 1) := dk_42 (dk_at dksX5_digest_7 10 rfl rfl)
theorem dX5_digest_175 : decode cX5_digest 175 = .ok (.iload_n 3, 1) := dk_29 (dk_at dksX5_digest_7 11 rfl rfl)
theorem dX5_digest_176 : decode cX5_digest 176 = .ok (.iload 5, 2) := dk_21 5 (dk_at dksX5_digest_7 12 rfl rfl)
theorem dX5_digest_178 : decode cX5_digest 178 = .ok (.invokevirtual 180, 3) := dk_182 0 180 (dk_at dksX5_digest_7 14 rfl rfl)
theorem dX5_digest_181 : decode cX5_digest 181 = .ok (.i2l, 1) := dk_133 (dk_at dksX5_digest_7 17 rfl rfl)
theorem dX5_digest_182 : decode cX5_digest 182 = .ok (.ladd, 1) := dk_97 (dk_at dksX5_digest_7 18 rfl rfl)
theorem dX5_digest_183 : decode cX5_digest 183 = .ok (.lstore_n 1, 1) := dk_64 (dk_at dksX5_digest_7 19 rfl rfl)
theorem dX5_digest_184 : decode cX5_digest 184 = .ok (.iinc 5 1, 3) := dk_132 5 1 (dk_at dksX5_digest_7 20 rfl rfl)
theorem dX5_digest_187 : decode cX5_digest 187 = .ok (.goto (-25), 3) := dk_167 255 231 (dk_at dksX5_digest_8 0 rfl rfl)
theorem dX5_digest_190 : decode cX5_digest 190 = .ok (.iinc 3 1, 3) := dk_132 3 1 (dk_at dksX5_digest_8 3 rfl rfl)
theorem dX5_digest_193 : decode cX5_digest 193 = .ok (.goto (-81), 3) := dk_167 255 175 (dk_at dksX5_digest_8 6 rfl rfl)
theorem dX5_digest_196 : decode cX5_digest 196 = .ok (.lload_n 1, 1) := dk_31 (dk_at dksX5_digest_8 9 rfl rfl)
theorem dX5_digest_197 : decode cX5_digest 197 = .ok (.lreturn, 1) := dk_173 (dk_at dksX5_digest_8 10 rfl rfl)
theorem q86 : (Jvm.Cond.initialized "CrowdedBinsModel") ∈ lw_all := lw_g (lw_at lw_m1 6 rfl) rfl
theorem q823 : (Jvm.Cond.instantiable "CrowdedBinsModel" (20 : Nat)) ∈ lw_all := lw_g (lw_at lw_m4 23 rfl) rfl
theorem q825 : (Jvm.Cond.instanceMethod ({ cls := "CrowdedBinsModel", name := "<init>", desc := "()V" } : Jvm.MethodName)) ∈ lw_all := lw_g (lw_at lw_m4 25 rfl) rfl
theorem q826 : (Jvm.Cond.code ({ cls := "CrowdedBinsModel", name := "<init>", desc := "()V" } : Jvm.MethodName) prog_15_method_1_code (2 : Nat) (Option.none : Option Jvm.ClassFile.FieldType)) ∈ lw_all := lw_g (lw_at lw_m4 26 rfl) rfl
theorem q827 : (Jvm.Cond.methodLink "CrowdedBinsModel" (1 : Nat) ({ cls := "java/lang/Object", name := "<init>", desc := "()V" } : Jvm.MethodName)) ∈ lw_all := lw_g (lw_at lw_m4 27 rfl) rfl
theorem q828 : (Jvm.Cond.fieldLink "CrowdedBinsModel" (7 : Nat) "CrowdedBinsModel" "s" "[I") ∈ lw_all := lw_g (lw_at lw_m4 28 rfl) rfl
theorem q829 : (Jvm.Cond.fieldLink "CrowdedBinsModel" (13 : Nat) "CrowdedBinsModel" "past" "[I") ∈ lw_all := lw_g (lw_at lw_m4 29 rfl) rfl
theorem q830 : (Jvm.Cond.fieldLink "CrowdedBinsModel" (16 : Nat) "CrowdedBinsModel" "kept" "[I") ∈ lw_all := lw_g (lw_at lw_m4 30 rfl) rfl
theorem q831 : (Jvm.Cond.fieldLink "CrowdedBinsModel" (48 : Nat) "CrowdedBinsModel" "known" "I") ∈ lw_all := lw_g (lw_at lw_m4 31 rfl) rfl
theorem q832 : (Jvm.Cond.fieldLink "CrowdedBinsModel" (19 : Nat) "CrowdedBinsModel" "refused" "[I") ∈ lw_all := lw_g (lw_at lw_m4 32 rfl) rfl
theorem q833 : (Jvm.Cond.fieldLink "CrowdedBinsModel" (108 : Nat) "CrowdedBinsModel" "changes" "I") ∈ lw_all := lw_g (lw_at lw_m4 33 rfl) rfl
theorem q834 : (Jvm.Cond.fieldLink "CrowdedBinsModel" (22 : Nat) "CrowdedBinsModel" "text" "[I") ∈ lw_all := lw_g (lw_at lw_m4 34 rfl) rfl
theorem q835 : (Jvm.Cond.fieldLink "CrowdedBinsModel" (207 : Nat) "CrowdedBinsModel" "typed" "I") ∈ lw_all := lw_g (lw_at lw_m4 35 rfl) rfl
theorem q836 : (Jvm.Cond.fieldLink "CrowdedBinsModel" (210 : Nat) "CrowdedBinsModel" "at" "I") ∈ lw_all := lw_g (lw_at lw_m4 36 rfl) rfl
theorem q837 : (Jvm.Cond.fieldLink "CrowdedBinsModel" (25 : Nat) "CrowdedBinsModel" "way" "[I") ∈ lw_all := lw_g (lw_at lw_m4 37 rfl) rfl
theorem q838 : (Jvm.Cond.fieldLink "CrowdedBinsModel" (28 : Nat) "CrowdedBinsModel" "nextKey" "[I") ∈ lw_all := lw_g (lw_at lw_m4 38 rfl) rfl
theorem q839 : (Jvm.Cond.fieldLink "CrowdedBinsModel" (31 : Nat) "CrowdedBinsModel" "lastKey" "[I") ∈ lw_all := lw_g (lw_at lw_m4 39 rfl) rfl
theorem q840 : (Jvm.Cond.fieldLink "CrowdedBinsModel" (34 : Nat) "CrowdedBinsModel" "knows" "[I") ∈ lw_all := lw_g (lw_at lw_m4 40 rfl) rfl
theorem q841 : (Jvm.Cond.fieldLink "CrowdedBinsModel" (37 : Nat) "CrowdedBinsModel" "held" "[I") ∈ lw_all := lw_g (lw_at lw_m4 41 rfl) rfl
theorem q842 : (Jvm.Cond.fieldLink "CrowdedBinsModel" (58 : Nat) "CrowdedBinsModel" "many" "I") ∈ lw_all := lw_g (lw_at lw_m4 42 rfl) rfl
theorem q843 : (Jvm.Cond.fieldLink "CrowdedBinsModel" (40 : Nat) "CrowdedBinsModel" "walk" "[I") ∈ lw_all := lw_g (lw_at lw_m4 43 rfl) rfl
theorem q844 : (Jvm.Cond.fieldLink "CrowdedBinsModel" (88 : Nat) "CrowdedBinsModel" "rootOver" "I") ∈ lw_all := lw_g (lw_at lw_m4 44 rfl) rfl
theorem q845 : (Jvm.Cond.fieldLink "CrowdedBinsModel" (82 : Nat) "CrowdedBinsModel" "from" "I") ∈ lw_all := lw_g (lw_at lw_m4 45 rfl) rfl
theorem q846 : (Jvm.Cond.fieldLink "CrowdedBinsModel" (85 : Nat) "CrowdedBinsModel" "to" "I") ∈ lw_all := lw_g (lw_at lw_m4 46 rfl) rfl
theorem q847 : (Jvm.Cond.fieldLink "CrowdedBinsModel" (216 : Nat) "CrowdedBinsModel" "told" "I") ∈ lw_all := lw_g (lw_at lw_m4 47 rfl) rfl
theorem q848 : (Jvm.Cond.laysFinal "CrowdedBinsModel" "CrowdedBinsModel" "s" "[I") ∈ lw_all := lw_g (lw_at lw_m4 48 rfl) rfl
theorem q849 : (Jvm.Cond.soleField "CrowdedBinsModel" "s") ∈ lw_all := lw_g (lw_at lw_m4 49 rfl) rfl
theorem q850 : (Jvm.Cond.laysFinal "CrowdedBinsModel" "CrowdedBinsModel" "past" "[I") ∈ lw_all := lw_g (lw_at lw_m4 50 rfl) rfl
theorem q851 : (Jvm.Cond.soleField "CrowdedBinsModel" "past") ∈ lw_all := lw_g (lw_at lw_m4 51 rfl) rfl
theorem q852 : (Jvm.Cond.laysFinal "CrowdedBinsModel" "CrowdedBinsModel" "kept" "[I") ∈ lw_all := lw_g (lw_at lw_m4 52 rfl) rfl
theorem q853 : (Jvm.Cond.soleField "CrowdedBinsModel" "kept") ∈ lw_all := lw_g (lw_at lw_m4 53 rfl) rfl
theorem q854 : (Jvm.Cond.lays "CrowdedBinsModel" "CrowdedBinsModel" "known" "I") ∈ lw_all := lw_g (lw_at lw_m4 54 rfl) rfl
theorem q855 : (Jvm.Cond.soleField "CrowdedBinsModel" "known") ∈ lw_all := lw_g (lw_at lw_m4 55 rfl) rfl
theorem q856 : (Jvm.Cond.laysFinal "CrowdedBinsModel" "CrowdedBinsModel" "refused" "[I") ∈ lw_all := lw_g (lw_at lw_m4 56 rfl) rfl
theorem q857 : (Jvm.Cond.soleField "CrowdedBinsModel" "refused") ∈ lw_all := lw_g (lw_at lw_m4 57 rfl) rfl
theorem q858 : (Jvm.Cond.lays "CrowdedBinsModel" "CrowdedBinsModel" "changes" "I") ∈ lw_all := lw_g (lw_at lw_m4 58 rfl) rfl
theorem q859 : (Jvm.Cond.soleField "CrowdedBinsModel" "changes") ∈ lw_all := lw_g (lw_at lw_m4 59 rfl) rfl
theorem q860 : (Jvm.Cond.laysFinal "CrowdedBinsModel" "CrowdedBinsModel" "text" "[I") ∈ lw_all := lw_g (lw_at lw_m4 60 rfl) rfl
theorem q861 : (Jvm.Cond.soleField "CrowdedBinsModel" "text") ∈ lw_all := lw_g (lw_at lw_m4 61 rfl) rfl
theorem q862 : (Jvm.Cond.lays "CrowdedBinsModel" "CrowdedBinsModel" "typed" "I") ∈ lw_all := lw_g (lw_at lw_m4 62 rfl) rfl
theorem q863 : (Jvm.Cond.soleField "CrowdedBinsModel" "typed") ∈ lw_all := lw_g (lw_at lw_m4 63 rfl) rfl
theorem q864 : (Jvm.Cond.lays "CrowdedBinsModel" "CrowdedBinsModel" "at" "I") ∈ lw_all := lw_g (lw_at lw_m4 64 rfl) rfl
theorem q865 : (Jvm.Cond.soleField "CrowdedBinsModel" "at") ∈ lw_all := lw_g (lw_at lw_m4 65 rfl) rfl
theorem q866 : (Jvm.Cond.laysFinal "CrowdedBinsModel" "CrowdedBinsModel" "way" "[I") ∈ lw_all := lw_g (lw_at lw_m4 66 rfl) rfl
theorem q867 : (Jvm.Cond.soleField "CrowdedBinsModel" "way") ∈ lw_all := lw_g (lw_at lw_m4 67 rfl) rfl
theorem q868 : (Jvm.Cond.laysFinal "CrowdedBinsModel" "CrowdedBinsModel" "nextKey" "[I") ∈ lw_all := lw_g (lw_at lw_m4 68 rfl) rfl
theorem q869 : (Jvm.Cond.soleField "CrowdedBinsModel" "nextKey") ∈ lw_all := lw_g (lw_at lw_m4 69 rfl) rfl
theorem q870 : (Jvm.Cond.laysFinal "CrowdedBinsModel" "CrowdedBinsModel" "lastKey" "[I") ∈ lw_all := lw_g (lw_at lw_m4 70 rfl) rfl
theorem q871 : (Jvm.Cond.soleField "CrowdedBinsModel" "lastKey") ∈ lw_all := lw_g (lw_at lw_m4 71 rfl) rfl
theorem q872 : (Jvm.Cond.laysFinal "CrowdedBinsModel" "CrowdedBinsModel" "knows" "[I") ∈ lw_all := lw_g (lw_at lw_m4 72 rfl) rfl
theorem q873 : (Jvm.Cond.soleField "CrowdedBinsModel" "knows") ∈ lw_all := lw_g (lw_at lw_m4 73 rfl) rfl
theorem q874 : (Jvm.Cond.laysFinal "CrowdedBinsModel" "CrowdedBinsModel" "held" "[I") ∈ lw_all := lw_g (lw_at lw_m4 74 rfl) rfl
theorem q875 : (Jvm.Cond.soleField "CrowdedBinsModel" "held") ∈ lw_all := lw_g (lw_at lw_m4 75 rfl) rfl
theorem q876 : (Jvm.Cond.lays "CrowdedBinsModel" "CrowdedBinsModel" "many" "I") ∈ lw_all := lw_g (lw_at lw_m4 76 rfl) rfl
theorem q877 : (Jvm.Cond.soleField "CrowdedBinsModel" "many") ∈ lw_all := lw_g (lw_at lw_m4 77 rfl) rfl
theorem q878 : (Jvm.Cond.laysFinal "CrowdedBinsModel" "CrowdedBinsModel" "walk" "[I") ∈ lw_all := lw_g (lw_at lw_m4 78 rfl) rfl
theorem q879 : (Jvm.Cond.soleField "CrowdedBinsModel" "walk") ∈ lw_all := lw_g (lw_at lw_m4 79 rfl) rfl
theorem q880 : (Jvm.Cond.lays "CrowdedBinsModel" "CrowdedBinsModel" "rootOver" "I") ∈ lw_all := lw_g (lw_at lw_m4 80 rfl) rfl
theorem q881 : (Jvm.Cond.soleField "CrowdedBinsModel" "rootOver") ∈ lw_all := lw_g (lw_at lw_m4 81 rfl) rfl
theorem q882 : (Jvm.Cond.lays "CrowdedBinsModel" "CrowdedBinsModel" "from" "I") ∈ lw_all := lw_g (lw_at lw_m4 82 rfl) rfl
theorem q883 : (Jvm.Cond.soleField "CrowdedBinsModel" "from") ∈ lw_all := lw_g (lw_at lw_m4 83 rfl) rfl
theorem q884 : (Jvm.Cond.lays "CrowdedBinsModel" "CrowdedBinsModel" "to" "I") ∈ lw_all := lw_g (lw_at lw_m4 84 rfl) rfl
theorem q885 : (Jvm.Cond.soleField "CrowdedBinsModel" "to") ∈ lw_all := lw_g (lw_at lw_m4 85 rfl) rfl
theorem q886 : (Jvm.Cond.lays "CrowdedBinsModel" "CrowdedBinsModel" "told" "I") ∈ lw_all := lw_g (lw_at lw_m4 86 rfl) rfl
theorem q887 : (Jvm.Cond.soleField "CrowdedBinsModel" "told") ∈ lw_all := lw_g (lw_at lw_m4 87 rfl) rfl
theorem q888 : (Jvm.Cond.superclass "CrowdedBinsModel" "java/lang/Object") ∈ lw_all := lw_g (lw_at lw_m4 88 rfl) rfl
theorem q890 : (Jvm.Cond.instanceMethod ({ cls := "CrowdedBinsModel", name := "put", desc := "(II)I" } : Jvm.MethodName)) ∈ lw_all := lw_g (lw_at lw_m4 90 rfl) rfl
theorem q891 : (Jvm.Cond.selects "CrowdedBinsModel" ({ cls := "CrowdedBinsModel", name := "put", desc := "(II)I" } : Jvm.MethodName) ({ cls := "CrowdedBinsModel", name := "put", desc := "(II)I" } : Jvm.MethodName)) ∈ lw_all := lw_g (lw_at lw_m4 91 rfl) rfl
theorem q892 : (Jvm.Cond.code ({ cls := "CrowdedBinsModel", name := "put", desc := "(II)I" } : Jvm.MethodName) prog_15_method_31_code (4 : Nat) (Option.some Jvm.ClassFile.FieldType.int)) ∈ lw_all := lw_g (lw_at lw_m4 92 rfl) rfl
theorem q893 : (Jvm.Cond.methodLink "CrowdedBinsModel" (140 : Nat) ({ cls := "CrowdedBinsModel", name := "mayPut", desc := "(II)Z" } : Jvm.MethodName)) ∈ lw_all := lw_g (lw_at lw_m4 93 rfl) rfl
theorem q894 : (Jvm.Cond.privateMethod ({ cls := "CrowdedBinsModel", name := "mayPut", desc := "(II)Z" } : Jvm.MethodName)) ∈ lw_tbl := lw_at lw_m4 94 rfl
theorem q895 : (Jvm.Cond.instanceMethod ({ cls := "CrowdedBinsModel", name := "mayPut", desc := "(II)Z" } : Jvm.MethodName)) ∈ lw_all := lw_g (lw_at lw_m4 95 rfl) rfl
theorem q896 : (Jvm.Cond.code ({ cls := "CrowdedBinsModel", name := "mayPut", desc := "(II)Z" } : Jvm.MethodName) prog_15_method_29_code (3 : Nat) (Option.some Jvm.ClassFile.FieldType.boolean)) ∈ lw_all := lw_g (lw_at lw_m4 96 rfl) rfl
theorem q897 : (Jvm.Cond.methodLink "CrowdedBinsModel" (130 : Nat) ({ cls := "CrowdedBinsModel", name := "isKey", desc := "(I)Z" } : Jvm.MethodName)) ∈ lw_all := lw_g (lw_at lw_m4 97 rfl) rfl
theorem q898 : (Jvm.Cond.static ({ cls := "CrowdedBinsModel", name := "isKey", desc := "(I)Z" } : Jvm.MethodName)) ∈ lw_all := lw_g (lw_at lw_m4 98 rfl) rfl
theorem q899 : (Jvm.Cond.code ({ cls := "CrowdedBinsModel", name := "isKey", desc := "(I)Z" } : Jvm.MethodName) prog_15_method_4_code (1 : Nat) (Option.some Jvm.ClassFile.FieldType.boolean)) ∈ lw_all := lw_g (lw_at lw_m4 99 rfl) rfl
theorem q900 : (Jvm.Cond.constant "CrowdedBinsModel" (43 : Nat) (999999 : Int32)) ∈ lw_all := lw_g (lw_at lw_m4 100 rfl) rfl
theorem q901 : (Jvm.Cond.methodLink "CrowdedBinsModel" (44 : Nat) ({ cls := "CrowdedBinsModel", name := "in", desc := "(III)Z" } : Jvm.MethodName)) ∈ lw_all := lw_g (lw_at lw_m4 101 rfl) rfl
theorem q902 : (Jvm.Cond.static ({ cls := "CrowdedBinsModel", name := "in", desc := "(III)Z" } : Jvm.MethodName)) ∈ lw_all := lw_g (lw_at lw_m4 102 rfl) rfl
theorem q903 : (Jvm.Cond.code ({ cls := "CrowdedBinsModel", name := "in", desc := "(III)Z" } : Jvm.MethodName) prog_15_method_2_code (3 : Nat) (Option.some Jvm.ClassFile.FieldType.boolean)) ∈ lw_all := lw_g (lw_at lw_m4 103 rfl) rfl
theorem q904 : (Jvm.Cond.methodLink "CrowdedBinsModel" (121 : Nat) ({ cls := "CrowdedBinsModel", name := "placeOf", desc := "(I)I" } : Jvm.MethodName)) ∈ lw_all := lw_g (lw_at lw_m4 104 rfl) rfl
theorem q905 : (Jvm.Cond.privateMethod ({ cls := "CrowdedBinsModel", name := "placeOf", desc := "(I)I" } : Jvm.MethodName)) ∈ lw_tbl := lw_at lw_m4 105 rfl
theorem q906 : (Jvm.Cond.instanceMethod ({ cls := "CrowdedBinsModel", name := "placeOf", desc := "(I)I" } : Jvm.MethodName)) ∈ lw_all := lw_g (lw_at lw_m4 106 rfl) rfl
theorem q907 : (Jvm.Cond.code ({ cls := "CrowdedBinsModel", name := "placeOf", desc := "(I)I" } : Jvm.MethodName) prog_15_method_9_code (4 : Nat) (Option.some Jvm.ClassFile.FieldType.int)) ∈ lw_all := lw_g (lw_at lw_m4 107 rfl) rfl
theorem q908 : (Jvm.Cond.methodLink "CrowdedBinsModel" (133 : Nat) ({ cls := "CrowdedBinsModel", name := "isFull", desc := "()Z" } : Jvm.MethodName)) ∈ lw_all := lw_g (lw_at lw_m4 108 rfl) rfl
theorem q909 : (Jvm.Cond.privateMethod ({ cls := "CrowdedBinsModel", name := "isFull", desc := "()Z" } : Jvm.MethodName)) ∈ lw_tbl := lw_at lw_m4 109 rfl
theorem q910 : (Jvm.Cond.instanceMethod ({ cls := "CrowdedBinsModel", name := "isFull", desc := "()Z" } : Jvm.MethodName)) ∈ lw_all := lw_g (lw_at lw_m4 110 rfl) rfl
theorem q911 : (Jvm.Cond.code ({ cls := "CrowdedBinsModel", name := "isFull", desc := "()Z" } : Jvm.MethodName) prog_15_method_26_code (1 : Nat) (Option.some Jvm.ClassFile.FieldType.boolean)) ∈ lw_all := lw_g (lw_at lw_m4 111 rfl) rfl
theorem q912 : (Jvm.Cond.methodLink "CrowdedBinsModel" (143 : Nat) ({ cls := "CrowdedBinsModel", name := "putRefused", desc := "(II)I" } : Jvm.MethodName)) ∈ lw_all := lw_g (lw_at lw_m4 112 rfl) rfl
theorem q913 : (Jvm.Cond.privateMethod ({ cls := "CrowdedBinsModel", name := "putRefused", desc := "(II)I" } : Jvm.MethodName)) ∈ lw_tbl := lw_at lw_m4 113 rfl
theorem q914 : (Jvm.Cond.instanceMethod ({ cls := "CrowdedBinsModel", name := "putRefused", desc := "(II)I" } : Jvm.MethodName)) ∈ lw_all := lw_g (lw_at lw_m4 114 rfl) rfl
theorem q915 : (Jvm.Cond.code ({ cls := "CrowdedBinsModel", name := "putRefused", desc := "(II)I" } : Jvm.MethodName) prog_15_method_30_code (3 : Nat) (Option.some Jvm.ClassFile.FieldType.int)) ∈ lw_all := lw_g (lw_at lw_m4 115 rfl) rfl
theorem q916 : (Jvm.Cond.methodLink "CrowdedBinsModel" (137 : Nat) ({ cls := "CrowdedBinsModel", name := "refuses", desc := "(I)I" } : Jvm.MethodName)) ∈ lw_all := lw_g (lw_at lw_m4 116 rfl) rfl
theorem q917 : (Jvm.Cond.privateMethod ({ cls := "CrowdedBinsModel", name := "refuses", desc := "(I)I" } : Jvm.MethodName)) ∈ lw_tbl := lw_at lw_m4 117 rfl
theorem q918 : (Jvm.Cond.instanceMethod ({ cls := "CrowdedBinsModel", name := "refuses", desc := "(I)I" } : Jvm.MethodName)) ∈ lw_all := lw_g (lw_at lw_m4 118 rfl) rfl
theorem q919 : (Jvm.Cond.code ({ cls := "CrowdedBinsModel", name := "refuses", desc := "(I)I" } : Jvm.MethodName) prog_15_method_3_code (2 : Nat) (Option.some Jvm.ClassFile.FieldType.int)) ∈ lw_all := lw_g (lw_at lw_m4 119 rfl) rfl
theorem q920 : (Jvm.Cond.methodLink "CrowdedBinsModel" (146 : Nat) ({ cls := "CrowdedBinsModel", name := "aside", desc := "()V" } : Jvm.MethodName)) ∈ lw_all := lw_g (lw_at lw_m4 120 rfl) rfl
theorem q921 : (Jvm.Cond.privateMethod ({ cls := "CrowdedBinsModel", name := "aside", desc := "()V" } : Jvm.MethodName)) ∈ lw_tbl := lw_at lw_m4 121 rfl
theorem q922 : (Jvm.Cond.instanceMethod ({ cls := "CrowdedBinsModel", name := "aside", desc := "()V" } : Jvm.MethodName)) ∈ lw_all := lw_g (lw_at lw_m4 122 rfl) rfl
theorem q923 : (Jvm.Cond.code ({ cls := "CrowdedBinsModel", name := "aside", desc := "()V" } : Jvm.MethodName) prog_15_method_5_code (2 : Nat) (Option.none : Option Jvm.ClassFile.FieldType)) ∈ lw_all := lw_g (lw_at lw_m4 123 rfl) rfl
theorem q924 : (Jvm.Cond.methodLink "CrowdedBinsModel" (149 : Nat) ({ cls := "CrowdedBinsModel", name := "putsNow", desc := "(II)I" } : Jvm.MethodName)) ∈ lw_all := lw_g (lw_at lw_m4 124 rfl) rfl
theorem q925 : (Jvm.Cond.privateMethod ({ cls := "CrowdedBinsModel", name := "putsNow", desc := "(II)I" } : Jvm.MethodName)) ∈ lw_tbl := lw_at lw_m4 125 rfl
theorem q926 : (Jvm.Cond.instanceMethod ({ cls := "CrowdedBinsModel", name := "putsNow", desc := "(II)I" } : Jvm.MethodName)) ∈ lw_all := lw_g (lw_at lw_m4 126 rfl) rfl
theorem q927 : (Jvm.Cond.code ({ cls := "CrowdedBinsModel", name := "putsNow", desc := "(II)I" } : Jvm.MethodName) prog_15_method_28_code (5 : Nat) (Option.some Jvm.ClassFile.FieldType.int)) ∈ lw_all := lw_g (lw_at lw_m4 127 rfl) rfl
theorem q928 : (Jvm.Cond.methodLink "CrowdedBinsModel" (124 : Nat) ({ cls := "CrowdedBinsModel", name := "comes", desc := "(II)V" } : Jvm.MethodName)) ∈ lw_all := lw_g (lw_at lw_m4 128 rfl) rfl
theorem q929 : (Jvm.Cond.privateMethod ({ cls := "CrowdedBinsModel", name := "comes", desc := "(II)V" } : Jvm.MethodName)) ∈ lw_tbl := lw_at lw_m4 129 rfl
theorem q930 : (Jvm.Cond.instanceMethod ({ cls := "CrowdedBinsModel", name := "comes", desc := "(II)V" } : Jvm.MethodName)) ∈ lw_all := lw_g (lw_at lw_m4 130 rfl) rfl
theorem q931 : (Jvm.Cond.code ({ cls := "CrowdedBinsModel", name := "comes", desc := "(II)V" } : Jvm.MethodName) prog_15_method_22_code (4 : Nat) (Option.none : Option Jvm.ClassFile.FieldType)) ∈ lw_all := lw_g (lw_at lw_m4 131 rfl) rfl
theorem q932 : (Jvm.Cond.methodLink "CrowdedBinsModel" (61 : Nat) ({ cls := "CrowdedBinsModel", name := "binOf", desc := "(I)I" } : Jvm.MethodName)) ∈ lw_all := lw_g (lw_at lw_m4 132 rfl) rfl
theorem q933 : (Jvm.Cond.privateMethod ({ cls := "CrowdedBinsModel", name := "binOf", desc := "(I)I" } : Jvm.MethodName)) ∈ lw_tbl := lw_at lw_m4 133 rfl
theorem q934 : (Jvm.Cond.instanceMethod ({ cls := "CrowdedBinsModel", name := "binOf", desc := "(I)I" } : Jvm.MethodName)) ∈ lw_all := lw_g (lw_at lw_m4 134 rfl) rfl
theorem q935 : (Jvm.Cond.code ({ cls := "CrowdedBinsModel", name := "binOf", desc := "(I)I" } : Jvm.MethodName) prog_15_method_8_code (2 : Nat) (Option.some Jvm.ClassFile.FieldType.int)) ∈ lw_all := lw_g (lw_at lw_m4 135 rfl) rfl
theorem q936 : (Jvm.Cond.methodLink "CrowdedBinsModel" (54 : Nat) ({ cls := "CrowdedBinsModel", name := "hashOf", desc := "(I)I" } : Jvm.MethodName)) ∈ lw_all := lw_g (lw_at lw_m4 136 rfl) rfl
theorem q937 : (Jvm.Cond.privateMethod ({ cls := "CrowdedBinsModel", name := "hashOf", desc := "(I)I" } : Jvm.MethodName)) ∈ lw_tbl := lw_at lw_m4 137 rfl
theorem q938 : (Jvm.Cond.instanceMethod ({ cls := "CrowdedBinsModel", name := "hashOf", desc := "(I)I" } : Jvm.MethodName)) ∈ lw_all := lw_g (lw_at lw_m4 138 rfl) rfl
theorem q939 : (Jvm.Cond.code ({ cls := "CrowdedBinsModel", name := "hashOf", desc := "(I)I" } : Jvm.MethodName) prog_15_method_7_code (3 : Nat) (Option.some Jvm.ClassFile.FieldType.int)) ∈ lw_all := lw_g (lw_at lw_m4 139 rfl) rfl
theorem q940 : (Jvm.Cond.constantLong "CrowdedBinsModel" (52 : Nat) (65536 : Int64)) ∈ lw_all := lw_g (lw_at lw_m4 140 rfl) rfl
theorem q941 : (Jvm.Cond.methodLink "CrowdedBinsModel" (111 : Nat) ({ cls := "CrowdedBinsModel", name := "fits", desc := "(II)V" } : Jvm.MethodName)) ∈ lw_all := lw_g (lw_at lw_m4 141 rfl) rfl
theorem q942 : (Jvm.Cond.privateMethod ({ cls := "CrowdedBinsModel", name := "fits", desc := "(II)V" } : Jvm.MethodName)) ∈ lw_tbl := lw_at lw_m4 142 rfl
theorem q943 : (Jvm.Cond.instanceMethod ({ cls := "CrowdedBinsModel", name := "fits", desc := "(II)V" } : Jvm.MethodName)) ∈ lw_all := lw_g (lw_at lw_m4 143 rfl) rfl
theorem q944 : (Jvm.Cond.code ({ cls := "CrowdedBinsModel", name := "fits", desc := "(II)V" } : Jvm.MethodName) prog_15_method_21_code (3 : Nat) (Option.none : Option Jvm.ClassFile.FieldType)) ∈ lw_all := lw_g (lw_at lw_m4 144 rfl) rfl
theorem q945 : (Jvm.Cond.methodLink "CrowdedBinsModel" (95 : Nat) ({ cls := "CrowdedBinsModel", name := "isTree", desc := "(I)Z" } : Jvm.MethodName)) ∈ lw_all := lw_g (lw_at lw_m4 145 rfl) rfl
theorem q946 : (Jvm.Cond.privateMethod ({ cls := "CrowdedBinsModel", name := "isTree", desc := "(I)Z" } : Jvm.MethodName)) ∈ lw_tbl := lw_at lw_m4 146 rfl
theorem q947 : (Jvm.Cond.instanceMethod ({ cls := "CrowdedBinsModel", name := "isTree", desc := "(I)Z" } : Jvm.MethodName)) ∈ lw_all := lw_g (lw_at lw_m4 147 rfl) rfl
theorem q948 : (Jvm.Cond.code ({ cls := "CrowdedBinsModel", name := "isTree", desc := "(I)Z" } : Jvm.MethodName) prog_15_method_17_code (2 : Nat) (Option.some Jvm.ClassFile.FieldType.boolean)) ∈ lw_all := lw_g (lw_at lw_m4 148 rfl) rfl
theorem q949 : (Jvm.Cond.methodLink "CrowdedBinsModel" (102 : Nat) ({ cls := "CrowdedBinsModel", name := "manyIn", desc := "(I)I" } : Jvm.MethodName)) ∈ lw_all := lw_g (lw_at lw_m4 149 rfl) rfl
theorem q950 : (Jvm.Cond.privateMethod ({ cls := "CrowdedBinsModel", name := "manyIn", desc := "(I)I" } : Jvm.MethodName)) ∈ lw_tbl := lw_at lw_m4 150 rfl
theorem q951 : (Jvm.Cond.instanceMethod ({ cls := "CrowdedBinsModel", name := "manyIn", desc := "(I)I" } : Jvm.MethodName)) ∈ lw_all := lw_g (lw_at lw_m4 151 rfl) rfl
theorem q952 : (Jvm.Cond.code ({ cls := "CrowdedBinsModel", name := "manyIn", desc := "(I)I" } : Jvm.MethodName) prog_15_method_19_code (4 : Nat) (Option.some Jvm.ClassFile.FieldType.int)) ∈ lw_all := lw_g (lw_at lw_m4 152 rfl) rfl
theorem q953 : (Jvm.Cond.methodLink "CrowdedBinsModel" (105 : Nat) ({ cls := "CrowdedBinsModel", name := "grows", desc := "()V" } : Jvm.MethodName)) ∈ lw_all := lw_g (lw_at lw_m4 153 rfl) rfl
theorem q954 : (Jvm.Cond.privateMethod ({ cls := "CrowdedBinsModel", name := "grows", desc := "()V" } : Jvm.MethodName)) ∈ lw_tbl := lw_at lw_m4 154 rfl
theorem q955 : (Jvm.Cond.instanceMethod ({ cls := "CrowdedBinsModel", name := "grows", desc := "()V" } : Jvm.MethodName)) ∈ lw_all := lw_g (lw_at lw_m4 155 rfl) rfl
theorem q956 : (Jvm.Cond.code ({ cls := "CrowdedBinsModel", name := "grows", desc := "()V" } : Jvm.MethodName) prog_15_method_20_code (4 : Nat) (Option.none : Option Jvm.ClassFile.FieldType)) ∈ lw_all := lw_g (lw_at lw_m4 156 rfl) rfl
theorem q957 : (Jvm.Cond.methodLink "CrowdedBinsModel" (115 : Nat) ({ cls := "CrowdedBinsModel", name := "goes", desc := "(I)V" } : Jvm.MethodName)) ∈ lw_all := lw_g (lw_at lw_m4 157 rfl) rfl
theorem q958 : (Jvm.Cond.privateMethod ({ cls := "CrowdedBinsModel", name := "goes", desc := "(I)V" } : Jvm.MethodName)) ∈ lw_tbl := lw_at lw_m4 158 rfl
theorem q959 : (Jvm.Cond.instanceMethod ({ cls := "CrowdedBinsModel", name := "goes", desc := "(I)V" } : Jvm.MethodName)) ∈ lw_all := lw_g (lw_at lw_m4 159 rfl) rfl
theorem q960 : (Jvm.Cond.code ({ cls := "CrowdedBinsModel", name := "goes", desc := "(I)V" } : Jvm.MethodName) prog_15_method_23_code (4 : Nat) (Option.none : Option Jvm.ClassFile.FieldType)) ∈ lw_all := lw_g (lw_at lw_m4 160 rfl) rfl
theorem q961 : (Jvm.Cond.methodLink "CrowdedBinsModel" (127 : Nat) ({ cls := "CrowdedBinsModel", name := "moves", desc := "(I)V" } : Jvm.MethodName)) ∈ lw_all := lw_g (lw_at lw_m4 161 rfl) rfl
theorem q962 : (Jvm.Cond.privateMethod ({ cls := "CrowdedBinsModel", name := "moves", desc := "(I)V" } : Jvm.MethodName)) ∈ lw_tbl := lw_at lw_m4 162 rfl
theorem q963 : (Jvm.Cond.instanceMethod ({ cls := "CrowdedBinsModel", name := "moves", desc := "(I)V" } : Jvm.MethodName)) ∈ lw_all := lw_g (lw_at lw_m4 163 rfl) rfl
theorem q964 : (Jvm.Cond.code ({ cls := "CrowdedBinsModel", name := "moves", desc := "(I)V" } : Jvm.MethodName) prog_15_method_25_code (6 : Nat) (Option.none : Option Jvm.ClassFile.FieldType)) ∈ lw_all := lw_g (lw_at lw_m4 164 rfl) rfl
theorem q965 : (Jvm.Cond.methodLink "CrowdedBinsModel" (118 : Nat) ({ cls := "CrowdedBinsModel", name := "isLast", desc := "(I)Z" } : Jvm.MethodName)) ∈ lw_all := lw_g (lw_at lw_m4 165 rfl) rfl
theorem q966 : (Jvm.Cond.privateMethod ({ cls := "CrowdedBinsModel", name := "isLast", desc := "(I)Z" } : Jvm.MethodName)) ∈ lw_tbl := lw_at lw_m4 166 rfl
theorem q967 : (Jvm.Cond.instanceMethod ({ cls := "CrowdedBinsModel", name := "isLast", desc := "(I)Z" } : Jvm.MethodName)) ∈ lw_all := lw_g (lw_at lw_m4 167 rfl) rfl
theorem q968 : (Jvm.Cond.code ({ cls := "CrowdedBinsModel", name := "isLast", desc := "(I)Z" } : Jvm.MethodName) prog_15_method_24_code (2 : Nat) (Option.some Jvm.ClassFile.FieldType.boolean)) ∈ lw_all := lw_g (lw_at lw_m4 168 rfl) rfl
theorem q969 : (Jvm.Cond.methodLink "CrowdedBinsModel" (152 : Nat) ({ cls := "CrowdedBinsModel", name := "keeps", desc := "()V" } : Jvm.MethodName)) ∈ lw_all := lw_g (lw_at lw_m4 169 rfl) rfl
theorem q970 : (Jvm.Cond.privateMethod ({ cls := "CrowdedBinsModel", name := "keeps", desc := "()V" } : Jvm.MethodName)) ∈ lw_tbl := lw_at lw_m4 170 rfl
theorem q971 : (Jvm.Cond.instanceMethod ({ cls := "CrowdedBinsModel", name := "keeps", desc := "()V" } : Jvm.MethodName)) ∈ lw_all := lw_g (lw_at lw_m4 171 rfl) rfl
theorem q972 : (Jvm.Cond.code ({ cls := "CrowdedBinsModel", name := "keeps", desc := "()V" } : Jvm.MethodName) prog_15_method_6_code (2 : Nat) (Option.none : Option Jvm.ClassFile.FieldType)) ∈ lw_all := lw_g (lw_at lw_m4 172 rfl) rfl
theorem q974 : (Jvm.Cond.instanceMethod ({ cls := "CrowdedBinsModel", name := "get", desc := "(I)I" } : Jvm.MethodName)) ∈ lw_all := lw_g (lw_at lw_m4 174 rfl) rfl
theorem q975 : (Jvm.Cond.selects "CrowdedBinsModel" ({ cls := "CrowdedBinsModel", name := "get", desc := "(I)I" } : Jvm.MethodName) ({ cls := "CrowdedBinsModel", name := "get", desc := "(I)I" } : Jvm.MethodName)) ∈ lw_all := lw_g (lw_at lw_m4 175 rfl) rfl
theorem q976 : (Jvm.Cond.code ({ cls := "CrowdedBinsModel", name := "get", desc := "(I)I" } : Jvm.MethodName) prog_15_method_33_code (4 : Nat) (Option.some Jvm.ClassFile.FieldType.int)) ∈ lw_all := lw_g (lw_at lw_m4 176 rfl) rfl
theorem q977 : (Jvm.Cond.methodLink "CrowdedBinsModel" (155 : Nat) ({ cls := "CrowdedBinsModel", name := "getsNow", desc := "(I)I" } : Jvm.MethodName)) ∈ lw_all := lw_g (lw_at lw_m4 177 rfl) rfl
theorem q978 : (Jvm.Cond.privateMethod ({ cls := "CrowdedBinsModel", name := "getsNow", desc := "(I)I" } : Jvm.MethodName)) ∈ lw_tbl := lw_at lw_m4 178 rfl
theorem q979 : (Jvm.Cond.instanceMethod ({ cls := "CrowdedBinsModel", name := "getsNow", desc := "(I)I" } : Jvm.MethodName)) ∈ lw_all := lw_g (lw_at lw_m4 179 rfl) rfl
theorem q980 : (Jvm.Cond.code ({ cls := "CrowdedBinsModel", name := "getsNow", desc := "(I)I" } : Jvm.MethodName) prog_15_method_32_code (4 : Nat) (Option.some Jvm.ClassFile.FieldType.int)) ∈ lw_all := lw_g (lw_at lw_m4 180 rfl) rfl
theorem q982 : (Jvm.Cond.instanceMethod ({ cls := "CrowdedBinsModel", name := "peek", desc := "(I)I" } : Jvm.MethodName)) ∈ lw_all := lw_g (lw_at lw_m4 182 rfl) rfl
theorem q983 : (Jvm.Cond.selects "CrowdedBinsModel" ({ cls := "CrowdedBinsModel", name := "peek", desc := "(I)I" } : Jvm.MethodName) ({ cls := "CrowdedBinsModel", name := "peek", desc := "(I)I" } : Jvm.MethodName)) ∈ lw_all := lw_g (lw_at lw_m4 183 rfl) rfl
theorem q984 : (Jvm.Cond.code ({ cls := "CrowdedBinsModel", name := "peek", desc := "(I)I" } : Jvm.MethodName) prog_15_method_34_code (3 : Nat) (Option.some Jvm.ClassFile.FieldType.int)) ∈ lw_all := lw_g (lw_at lw_m4 184 rfl) rfl
theorem q986 : (Jvm.Cond.instanceMethod ({ cls := "CrowdedBinsModel", name := "remove", desc := "(I)I" } : Jvm.MethodName)) ∈ lw_all := lw_g (lw_at lw_m4 186 rfl) rfl
theorem q987 : (Jvm.Cond.selects "CrowdedBinsModel" ({ cls := "CrowdedBinsModel", name := "remove", desc := "(I)I" } : Jvm.MethodName) ({ cls := "CrowdedBinsModel", name := "remove", desc := "(I)I" } : Jvm.MethodName)) ∈ lw_all := lw_g (lw_at lw_m4 187 rfl) rfl
theorem q988 : (Jvm.Cond.code ({ cls := "CrowdedBinsModel", name := "remove", desc := "(I)I" } : Jvm.MethodName) prog_15_method_36_code (3 : Nat) (Option.some Jvm.ClassFile.FieldType.int)) ∈ lw_all := lw_g (lw_at lw_m4 188 rfl) rfl
theorem q989 : (Jvm.Cond.methodLink "CrowdedBinsModel" (158 : Nat) ({ cls := "CrowdedBinsModel", name := "removesNow", desc := "(I)I" } : Jvm.MethodName)) ∈ lw_all := lw_g (lw_at lw_m4 189 rfl) rfl
theorem q990 : (Jvm.Cond.privateMethod ({ cls := "CrowdedBinsModel", name := "removesNow", desc := "(I)I" } : Jvm.MethodName)) ∈ lw_tbl := lw_at lw_m4 190 rfl
theorem q991 : (Jvm.Cond.instanceMethod ({ cls := "CrowdedBinsModel", name := "removesNow", desc := "(I)I" } : Jvm.MethodName)) ∈ lw_all := lw_g (lw_at lw_m4 191 rfl) rfl
theorem q992 : (Jvm.Cond.code ({ cls := "CrowdedBinsModel", name := "removesNow", desc := "(I)I" } : Jvm.MethodName) prog_15_method_35_code (4 : Nat) (Option.some Jvm.ClassFile.FieldType.int)) ∈ lw_all := lw_g (lw_at lw_m4 192 rfl) rfl
theorem q994 : (Jvm.Cond.instanceMethod ({ cls := "CrowdedBinsModel", name := "adds", desc := "(II)I" } : Jvm.MethodName)) ∈ lw_all := lw_g (lw_at lw_m4 194 rfl) rfl
theorem q995 : (Jvm.Cond.selects "CrowdedBinsModel" ({ cls := "CrowdedBinsModel", name := "adds", desc := "(II)I" } : Jvm.MethodName) ({ cls := "CrowdedBinsModel", name := "adds", desc := "(II)I" } : Jvm.MethodName)) ∈ lw_all := lw_g (lw_at lw_m4 195 rfl) rfl
theorem q996 : (Jvm.Cond.code ({ cls := "CrowdedBinsModel", name := "adds", desc := "(II)I" } : Jvm.MethodName) prog_15_method_37_code (5 : Nat) (Option.some Jvm.ClassFile.FieldType.int)) ∈ lw_all := lw_g (lw_at lw_m4 196 rfl) rfl
theorem q998 : (Jvm.Cond.instanceMethod ({ cls := "CrowdedBinsModel", name := "clears", desc := "()I" } : Jvm.MethodName)) ∈ lw_all := lw_g (lw_at lw_m4 198 rfl) rfl
theorem q999 : (Jvm.Cond.selects "CrowdedBinsModel" ({ cls := "CrowdedBinsModel", name := "clears", desc := "()I" } : Jvm.MethodName) ({ cls := "CrowdedBinsModel", name := "clears", desc := "()I" } : Jvm.MethodName)) ∈ lw_all := lw_g (lw_at lw_m4 199 rfl) rfl
theorem q1000 : (Jvm.Cond.code ({ cls := "CrowdedBinsModel", name := "clears", desc := "()I" } : Jvm.MethodName) prog_15_method_39_code (2 : Nat) (Option.some Jvm.ClassFile.FieldType.int)) ∈ lw_all := lw_g (lw_at lw_m4 200 rfl) rfl
theorem q1001 : (Jvm.Cond.methodLink "CrowdedBinsModel" (164 : Nat) ({ cls := "CrowdedBinsModel", name := "clearsNow", desc := "()I" } : Jvm.MethodName)) ∈ lw_all := lw_g (lw_at lw_m4 201 rfl) rfl
theorem q1002 : (Jvm.Cond.privateMethod ({ cls := "CrowdedBinsModel", name := "clearsNow", desc := "()I" } : Jvm.MethodName)) ∈ lw_tbl := lw_at lw_m4 202 rfl
theorem q1003 : (Jvm.Cond.instanceMethod ({ cls := "CrowdedBinsModel", name := "clearsNow", desc := "()I" } : Jvm.MethodName)) ∈ lw_all := lw_g (lw_at lw_m4 203 rfl) rfl
theorem q1004 : (Jvm.Cond.code ({ cls := "CrowdedBinsModel", name := "clearsNow", desc := "()I" } : Jvm.MethodName) prog_15_method_38_code (2 : Nat) (Option.some Jvm.ClassFile.FieldType.int)) ∈ lw_all := lw_g (lw_at lw_m4 204 rfl) rfl
theorem q1005 : (Jvm.Cond.methodLink "CrowdedBinsModel" (161 : Nat) ({ cls := "CrowdedBinsModel", name := "empties", desc := "()V" } : Jvm.MethodName)) ∈ lw_all := lw_g (lw_at lw_m4 205 rfl) rfl
theorem q1006 : (Jvm.Cond.privateMethod ({ cls := "CrowdedBinsModel", name := "empties", desc := "()V" } : Jvm.MethodName)) ∈ lw_tbl := lw_at lw_m4 206 rfl
theorem q1007 : (Jvm.Cond.instanceMethod ({ cls := "CrowdedBinsModel", name := "empties", desc := "()V" } : Jvm.MethodName)) ∈ lw_all := lw_g (lw_at lw_m4 207 rfl) rfl
theorem q1008 : (Jvm.Cond.code ({ cls := "CrowdedBinsModel", name := "empties", desc := "()V" } : Jvm.MethodName) prog_15_method_27_code (2 : Nat) (Option.none : Option Jvm.ClassFile.FieldType)) ∈ lw_all := lw_g (lw_at lw_m4 208 rfl) rfl
theorem q1010 : (Jvm.Cond.instanceMethod ({ cls := "CrowdedBinsModel", name := "hashes", desc := "(II)I" } : Jvm.MethodName)) ∈ lw_all := lw_g (lw_at lw_m4 210 rfl) rfl
theorem q1011 : (Jvm.Cond.selects "CrowdedBinsModel" ({ cls := "CrowdedBinsModel", name := "hashes", desc := "(II)I" } : Jvm.MethodName) ({ cls := "CrowdedBinsModel", name := "hashes", desc := "(II)I" } : Jvm.MethodName)) ∈ lw_all := lw_g (lw_at lw_m4 211 rfl) rfl
theorem q1012 : (Jvm.Cond.code ({ cls := "CrowdedBinsModel", name := "hashes", desc := "(II)I" } : Jvm.MethodName) prog_15_method_40_code (5 : Nat) (Option.some Jvm.ClassFile.FieldType.int)) ∈ lw_all := lw_g (lw_at lw_m4 212 rfl) rfl
theorem q1014 : (Jvm.Cond.instanceMethod ({ cls := "CrowdedBinsModel", name := "sets", desc := "(II)I" } : Jvm.MethodName)) ∈ lw_all := lw_g (lw_at lw_m4 214 rfl) rfl
theorem q1015 : (Jvm.Cond.selects "CrowdedBinsModel" ({ cls := "CrowdedBinsModel", name := "sets", desc := "(II)I" } : Jvm.MethodName) ({ cls := "CrowdedBinsModel", name := "sets", desc := "(II)I" } : Jvm.MethodName)) ∈ lw_all := lw_g (lw_at lw_m4 215 rfl) rfl
theorem q1016 : (Jvm.Cond.code ({ cls := "CrowdedBinsModel", name := "sets", desc := "(II)I" } : Jvm.MethodName) prog_15_method_41_code (4 : Nat) (Option.some Jvm.ClassFile.FieldType.int)) ∈ lw_all := lw_g (lw_at lw_m4 216 rfl) rfl
theorem q1018 : (Jvm.Cond.instanceMethod ({ cls := "CrowdedBinsModel", name := "hash", desc := "(I)I" } : Jvm.MethodName)) ∈ lw_all := lw_g (lw_at lw_m4 218 rfl) rfl
theorem q1019 : (Jvm.Cond.selects "CrowdedBinsModel" ({ cls := "CrowdedBinsModel", name := "hash", desc := "(I)I" } : Jvm.MethodName) ({ cls := "CrowdedBinsModel", name := "hash", desc := "(I)I" } : Jvm.MethodName)) ∈ lw_all := lw_g (lw_at lw_m4 219 rfl) rfl
theorem q1020 : (Jvm.Cond.code ({ cls := "CrowdedBinsModel", name := "hash", desc := "(I)I" } : Jvm.MethodName) prog_15_method_42_code (2 : Nat) (Option.some Jvm.ClassFile.FieldType.int)) ∈ lw_all := lw_g (lw_at lw_m4 220 rfl) rfl
theorem q1022 : (Jvm.Cond.instanceMethod ({ cls := "CrowdedBinsModel", name := "steps", desc := "(I)I" } : Jvm.MethodName)) ∈ lw_all := lw_g (lw_at lw_m4 222 rfl) rfl
theorem q1023 : (Jvm.Cond.selects "CrowdedBinsModel" ({ cls := "CrowdedBinsModel", name := "steps", desc := "(I)I" } : Jvm.MethodName) ({ cls := "CrowdedBinsModel", name := "steps", desc := "(I)I" } : Jvm.MethodName)) ∈ lw_all := lw_g (lw_at lw_m4 223 rfl) rfl
theorem q1024 : (Jvm.Cond.code ({ cls := "CrowdedBinsModel", name := "steps", desc := "(I)I" } : Jvm.MethodName) prog_15_method_43_code (2 : Nat) (Option.some Jvm.ClassFile.FieldType.int)) ∈ lw_all := lw_g (lw_at lw_m4 224 rfl) rfl
theorem q1025 : (Jvm.Cond.methodLink "CrowdedBinsModel" (168 : Nat) ({ cls := "CrowdedBinsModel", name := "stepsTo", desc := "(I)I" } : Jvm.MethodName)) ∈ lw_all := lw_g (lw_at lw_m4 225 rfl) rfl
theorem q1026 : (Jvm.Cond.privateMethod ({ cls := "CrowdedBinsModel", name := "stepsTo", desc := "(I)I" } : Jvm.MethodName)) ∈ lw_tbl := lw_at lw_m4 226 rfl
theorem q1027 : (Jvm.Cond.instanceMethod ({ cls := "CrowdedBinsModel", name := "stepsTo", desc := "(I)I" } : Jvm.MethodName)) ∈ lw_all := lw_g (lw_at lw_m4 227 rfl) rfl
theorem q1028 : (Jvm.Cond.code ({ cls := "CrowdedBinsModel", name := "stepsTo", desc := "(I)I" } : Jvm.MethodName) prog_15_method_18_code (5 : Nat) (Option.some Jvm.ClassFile.FieldType.int)) ∈ lw_all := lw_g (lw_at lw_m4 228 rfl) rfl
theorem q1029 : (Jvm.Cond.methodLink "CrowdedBinsModel" (99 : Nat) ({ cls := "CrowdedBinsModel", name := "descends", desc := "(II)I" } : Jvm.MethodName)) ∈ lw_all := lw_g (lw_at lw_m4 229 rfl) rfl
theorem q1030 : (Jvm.Cond.privateMethod ({ cls := "CrowdedBinsModel", name := "descends", desc := "(II)I" } : Jvm.MethodName)) ∈ lw_tbl := lw_at lw_m4 230 rfl
theorem q1031 : (Jvm.Cond.instanceMethod ({ cls := "CrowdedBinsModel", name := "descends", desc := "(II)I" } : Jvm.MethodName)) ∈ lw_all := lw_g (lw_at lw_m4 231 rfl) rfl
theorem q1032 : (Jvm.Cond.code ({ cls := "CrowdedBinsModel", name := "descends", desc := "(II)I" } : Jvm.MethodName) prog_15_method_16_code (6 : Nat) (Option.some Jvm.ClassFile.FieldType.int)) ∈ lw_all := lw_g (lw_at lw_m4 232 rfl) rfl
theorem q1033 : (Jvm.Cond.methodLink "CrowdedBinsModel" (79 : Nat) ({ cls := "CrowdedBinsModel", name := "inOrder", desc := "(I)V" } : Jvm.MethodName)) ∈ lw_all := lw_g (lw_at lw_m4 233 rfl) rfl
theorem q1034 : (Jvm.Cond.privateMethod ({ cls := "CrowdedBinsModel", name := "inOrder", desc := "(I)V" } : Jvm.MethodName)) ∈ lw_tbl := lw_at lw_m4 234 rfl
theorem q1035 : (Jvm.Cond.instanceMethod ({ cls := "CrowdedBinsModel", name := "inOrder", desc := "(I)V" } : Jvm.MethodName)) ∈ lw_all := lw_g (lw_at lw_m4 235 rfl) rfl
theorem q1036 : (Jvm.Cond.code ({ cls := "CrowdedBinsModel", name := "inOrder", desc := "(I)V" } : Jvm.MethodName) prog_15_method_12_code (5 : Nat) (Option.none : Option Jvm.ClassFile.FieldType)) ∈ lw_all := lw_g (lw_at lw_m4 236 rfl) rfl
theorem q1037 : (Jvm.Cond.methodLink "CrowdedBinsModel" (64 : Nat) ({ cls := "CrowdedBinsModel", name := "holds", desc := "(I)V" } : Jvm.MethodName)) ∈ lw_all := lw_g (lw_at lw_m4 237 rfl) rfl
theorem q1038 : (Jvm.Cond.privateMethod ({ cls := "CrowdedBinsModel", name := "holds", desc := "(I)V" } : Jvm.MethodName)) ∈ lw_tbl := lw_at lw_m4 238 rfl
theorem q1039 : (Jvm.Cond.instanceMethod ({ cls := "CrowdedBinsModel", name := "holds", desc := "(I)V" } : Jvm.MethodName)) ∈ lw_all := lw_g (lw_at lw_m4 239 rfl) rfl
theorem q1040 : (Jvm.Cond.code ({ cls := "CrowdedBinsModel", name := "holds", desc := "(I)V" } : Jvm.MethodName) prog_15_method_10_code (4 : Nat) (Option.none : Option Jvm.ClassFile.FieldType)) ∈ lw_all := lw_g (lw_at lw_m5 0 rfl) rfl
theorem q1041 : (Jvm.Cond.methodLink "CrowdedBinsModel" (68 : Nat) ({ cls := "CrowdedBinsModel", name := "isAhead", desc := "(II)Z" } : Jvm.MethodName)) ∈ lw_all := lw_g (lw_at lw_m5 1 rfl) rfl
theorem q1042 : (Jvm.Cond.privateMethod ({ cls := "CrowdedBinsModel", name := "isAhead", desc := "(II)Z" } : Jvm.MethodName)) ∈ lw_tbl := lw_at lw_m5 2 rfl
theorem q1043 : (Jvm.Cond.instanceMethod ({ cls := "CrowdedBinsModel", name := "isAhead", desc := "(II)Z" } : Jvm.MethodName)) ∈ lw_all := lw_g (lw_at lw_m5 3 rfl) rfl
theorem q1044 : (Jvm.Cond.code ({ cls := "CrowdedBinsModel", name := "isAhead", desc := "(II)Z" } : Jvm.MethodName) prog_15_method_11_code (5 : Nat) (Option.some Jvm.ClassFile.FieldType.boolean)) ∈ lw_all := lw_g (lw_at lw_m5 4 rfl) rfl
theorem q1045 : (Jvm.Cond.methodLink "CrowdedBinsModel" (91 : Nat) ({ cls := "CrowdedBinsModel", name := "rootOf", desc := "(II)I" } : Jvm.MethodName)) ∈ lw_all := lw_g (lw_at lw_m5 5 rfl) rfl
theorem q1046 : (Jvm.Cond.privateMethod ({ cls := "CrowdedBinsModel", name := "rootOf", desc := "(II)I" } : Jvm.MethodName)) ∈ lw_tbl := lw_at lw_m5 6 rfl
theorem q1047 : (Jvm.Cond.instanceMethod ({ cls := "CrowdedBinsModel", name := "rootOf", desc := "(II)I" } : Jvm.MethodName)) ∈ lw_all := lw_g (lw_at lw_m5 7 rfl) rfl
theorem q1048 : (Jvm.Cond.code ({ cls := "CrowdedBinsModel", name := "rootOf", desc := "(II)I" } : Jvm.MethodName) prog_15_method_14_code (7 : Nat) (Option.some Jvm.ClassFile.FieldType.int)) ∈ lw_all := lw_g (lw_at lw_m5 8 rfl) rfl
theorem q1049 : (Jvm.Cond.methodLink "CrowdedBinsModel" (76 : Nat) ({ cls := "CrowdedBinsModel", name := "priority", desc := "(I)I" } : Jvm.MethodName)) ∈ lw_all := lw_g (lw_at lw_m5 9 rfl) rfl
theorem q1050 : (Jvm.Cond.static ({ cls := "CrowdedBinsModel", name := "priority", desc := "(I)I" } : Jvm.MethodName)) ∈ lw_all := lw_g (lw_at lw_m5 10 rfl) rfl
theorem q1051 : (Jvm.Cond.code ({ cls := "CrowdedBinsModel", name := "priority", desc := "(I)I" } : Jvm.MethodName) prog_15_method_13_code (1 : Nat) (Option.some Jvm.ClassFile.FieldType.int)) ∈ lw_all := lw_g (lw_at lw_m5 11 rfl) rfl
theorem q1052 : (Jvm.Cond.constantLong "CrowdedBinsModel" (72 : Nat) (40503 : Int64)) ∈ lw_all := lw_g (lw_at lw_m5 12 rfl) rfl
theorem q1053 : (Jvm.Cond.constantLong "CrowdedBinsModel" (74 : Nat) (12345 : Int64)) ∈ lw_all := lw_g (lw_at lw_m5 13 rfl) rfl
theorem q1055 : (Jvm.Cond.instanceMethod ({ cls := "CrowdedBinsModel", name := "order", desc := "(I)I" } : Jvm.MethodName)) ∈ lw_all := lw_g (lw_at lw_m5 15 rfl) rfl
theorem q1056 : (Jvm.Cond.selects "CrowdedBinsModel" ({ cls := "CrowdedBinsModel", name := "order", desc := "(I)I" } : Jvm.MethodName) ({ cls := "CrowdedBinsModel", name := "order", desc := "(I)I" } : Jvm.MethodName)) ∈ lw_all := lw_g (lw_at lw_m5 16 rfl) rfl
theorem q1057 : (Jvm.Cond.code ({ cls := "CrowdedBinsModel", name := "order", desc := "(I)I" } : Jvm.MethodName) prog_15_method_44_code (2 : Nat) (Option.some Jvm.ClassFile.FieldType.int)) ∈ lw_all := lw_g (lw_at lw_m5 17 rfl) rfl
theorem q1059 : (Jvm.Cond.instanceMethod ({ cls := "CrowdedBinsModel", name := "bin", desc := "(II)I" } : Jvm.MethodName)) ∈ lw_all := lw_g (lw_at lw_m5 19 rfl) rfl
theorem q1060 : (Jvm.Cond.selects "CrowdedBinsModel" ({ cls := "CrowdedBinsModel", name := "bin", desc := "(II)I" } : Jvm.MethodName) ({ cls := "CrowdedBinsModel", name := "bin", desc := "(II)I" } : Jvm.MethodName)) ∈ lw_all := lw_g (lw_at lw_m5 20 rfl) rfl
theorem q1061 : (Jvm.Cond.code ({ cls := "CrowdedBinsModel", name := "bin", desc := "(II)I" } : Jvm.MethodName) prog_15_method_47_code (3 : Nat) (Option.some Jvm.ClassFile.FieldType.int)) ∈ lw_all := lw_g (lw_at lw_m5 21 rfl) rfl
theorem q1062 : (Jvm.Cond.methodLink "CrowdedBinsModel" (177 : Nat) ({ cls := "CrowdedBinsModel", name := "binFact", desc := "(II)I" } : Jvm.MethodName)) ∈ lw_all := lw_g (lw_at lw_m5 22 rfl) rfl
theorem q1063 : (Jvm.Cond.privateMethod ({ cls := "CrowdedBinsModel", name := "binFact", desc := "(II)I" } : Jvm.MethodName)) ∈ lw_tbl := lw_at lw_m5 23 rfl
theorem q1064 : (Jvm.Cond.instanceMethod ({ cls := "CrowdedBinsModel", name := "binFact", desc := "(II)I" } : Jvm.MethodName)) ∈ lw_all := lw_g (lw_at lw_m5 24 rfl) rfl
theorem q1065 : (Jvm.Cond.code ({ cls := "CrowdedBinsModel", name := "binFact", desc := "(II)I" } : Jvm.MethodName) prog_15_method_46_code (3 : Nat) (Option.some Jvm.ClassFile.FieldType.int)) ∈ lw_all := lw_g (lw_at lw_m5 25 rfl) rfl
theorem q1066 : (Jvm.Cond.methodLink "CrowdedBinsModel" (171 : Nat) ({ cls := "CrowdedBinsModel", name := "keyAt", desc := "(I)I" } : Jvm.MethodName)) ∈ lw_all := lw_g (lw_at lw_m5 26 rfl) rfl
theorem q1067 : (Jvm.Cond.privateMethod ({ cls := "CrowdedBinsModel", name := "keyAt", desc := "(I)I" } : Jvm.MethodName)) ∈ lw_tbl := lw_at lw_m5 27 rfl
theorem q1068 : (Jvm.Cond.instanceMethod ({ cls := "CrowdedBinsModel", name := "keyAt", desc := "(I)I" } : Jvm.MethodName)) ∈ lw_all := lw_g (lw_at lw_m5 28 rfl) rfl
theorem q1069 : (Jvm.Cond.code ({ cls := "CrowdedBinsModel", name := "keyAt", desc := "(I)I" } : Jvm.MethodName) prog_15_method_15_code (2 : Nat) (Option.some Jvm.ClassFile.FieldType.int)) ∈ lw_all := lw_g (lw_at lw_m5 29 rfl) rfl
theorem q1070 : (Jvm.Cond.methodLink "CrowdedBinsModel" (174 : Nat) ({ cls := "CrowdedBinsModel", name := "deepest", desc := "(I)I" } : Jvm.MethodName)) ∈ lw_all := lw_g (lw_at lw_m5 30 rfl) rfl
theorem q1071 : (Jvm.Cond.privateMethod ({ cls := "CrowdedBinsModel", name := "deepest", desc := "(I)I" } : Jvm.MethodName)) ∈ lw_tbl := lw_at lw_m5 31 rfl
theorem q1072 : (Jvm.Cond.instanceMethod ({ cls := "CrowdedBinsModel", name := "deepest", desc := "(I)I" } : Jvm.MethodName)) ∈ lw_all := lw_g (lw_at lw_m5 32 rfl) rfl
theorem q1073 : (Jvm.Cond.code ({ cls := "CrowdedBinsModel", name := "deepest", desc := "(I)I" } : Jvm.MethodName) prog_15_method_45_code (6 : Nat) (Option.some Jvm.ClassFile.FieldType.int)) ∈ lw_all := lw_g (lw_at lw_m5 33 rfl) rfl
theorem q1075 : (Jvm.Cond.instanceMethod ({ cls := "CrowdedBinsModel", name := "row", desc := "(II)I" } : Jvm.MethodName)) ∈ lw_all := lw_g (lw_at lw_m5 35 rfl) rfl
theorem q1076 : (Jvm.Cond.selects "CrowdedBinsModel" ({ cls := "CrowdedBinsModel", name := "row", desc := "(II)I" } : Jvm.MethodName) ({ cls := "CrowdedBinsModel", name := "row", desc := "(II)I" } : Jvm.MethodName)) ∈ lw_all := lw_g (lw_at lw_m5 36 rfl) rfl
theorem q1077 : (Jvm.Cond.code ({ cls := "CrowdedBinsModel", name := "row", desc := "(II)I" } : Jvm.MethodName) prog_15_method_49_code (3 : Nat) (Option.some Jvm.ClassFile.FieldType.int)) ∈ lw_all := lw_g (lw_at lw_m5 37 rfl) rfl
theorem q1078 : (Jvm.Cond.methodLink "CrowdedBinsModel" (180 : Nat) ({ cls := "CrowdedBinsModel", name := "rowAt", desc := "(II)I" } : Jvm.MethodName)) ∈ lw_all := lw_g (lw_at lw_m5 38 rfl) rfl
theorem q1079 : (Jvm.Cond.privateMethod ({ cls := "CrowdedBinsModel", name := "rowAt", desc := "(II)I" } : Jvm.MethodName)) ∈ lw_tbl := lw_at lw_m5 39 rfl
theorem q1080 : (Jvm.Cond.instanceMethod ({ cls := "CrowdedBinsModel", name := "rowAt", desc := "(II)I" } : Jvm.MethodName)) ∈ lw_all := lw_g (lw_at lw_m5 40 rfl) rfl
theorem q1081 : (Jvm.Cond.code ({ cls := "CrowdedBinsModel", name := "rowAt", desc := "(II)I" } : Jvm.MethodName) prog_15_method_48_code (3 : Nat) (Option.some Jvm.ClassFile.FieldType.int)) ∈ lw_all := lw_g (lw_at lw_m5 41 rfl) rfl
theorem q1083 : (Jvm.Cond.instanceMethod ({ cls := "CrowdedBinsModel", name := "node", desc := "(II)I" } : Jvm.MethodName)) ∈ lw_all := lw_g (lw_at lw_m5 43 rfl) rfl
theorem q1084 : (Jvm.Cond.selects "CrowdedBinsModel" ({ cls := "CrowdedBinsModel", name := "node", desc := "(II)I" } : Jvm.MethodName) ({ cls := "CrowdedBinsModel", name := "node", desc := "(II)I" } : Jvm.MethodName)) ∈ lw_all := lw_g (lw_at lw_m5 44 rfl) rfl
theorem q1085 : (Jvm.Cond.code ({ cls := "CrowdedBinsModel", name := "node", desc := "(II)I" } : Jvm.MethodName) prog_15_method_51_code (3 : Nat) (Option.some Jvm.ClassFile.FieldType.int)) ∈ lw_all := lw_g (lw_at lw_m5 45 rfl) rfl
theorem q1086 : (Jvm.Cond.methodLink "CrowdedBinsModel" (183 : Nat) ({ cls := "CrowdedBinsModel", name := "nodeFact", desc := "(II)I" } : Jvm.MethodName)) ∈ lw_all := lw_g (lw_at lw_m5 46 rfl) rfl
theorem q1087 : (Jvm.Cond.privateMethod ({ cls := "CrowdedBinsModel", name := "nodeFact", desc := "(II)I" } : Jvm.MethodName)) ∈ lw_tbl := lw_at lw_m5 47 rfl
theorem q1088 : (Jvm.Cond.instanceMethod ({ cls := "CrowdedBinsModel", name := "nodeFact", desc := "(II)I" } : Jvm.MethodName)) ∈ lw_all := lw_g (lw_at lw_m5 48 rfl) rfl
theorem q1089 : (Jvm.Cond.code ({ cls := "CrowdedBinsModel", name := "nodeFact", desc := "(II)I" } : Jvm.MethodName) prog_15_method_50_code (5 : Nat) (Option.some Jvm.ClassFile.FieldType.int)) ∈ lw_all := lw_g (lw_at lw_m5 49 rfl) rfl
theorem q1091 : (Jvm.Cond.instanceMethod ({ cls := "CrowdedBinsModel", name := "count", desc := "(I)I" } : Jvm.MethodName)) ∈ lw_all := lw_g (lw_at lw_m5 51 rfl) rfl
theorem q1092 : (Jvm.Cond.selects "CrowdedBinsModel" ({ cls := "CrowdedBinsModel", name := "count", desc := "(I)I" } : Jvm.MethodName) ({ cls := "CrowdedBinsModel", name := "count", desc := "(I)I" } : Jvm.MethodName)) ∈ lw_all := lw_g (lw_at lw_m5 52 rfl) rfl
theorem q1093 : (Jvm.Cond.code ({ cls := "CrowdedBinsModel", name := "count", desc := "(I)I" } : Jvm.MethodName) prog_15_method_53_code (2 : Nat) (Option.some Jvm.ClassFile.FieldType.int)) ∈ lw_all := lw_g (lw_at lw_m5 53 rfl) rfl
theorem q1094 : (Jvm.Cond.methodLink "CrowdedBinsModel" (186 : Nat) ({ cls := "CrowdedBinsModel", name := "countOf", desc := "(I)I" } : Jvm.MethodName)) ∈ lw_all := lw_g (lw_at lw_m5 54 rfl) rfl
theorem q1095 : (Jvm.Cond.privateMethod ({ cls := "CrowdedBinsModel", name := "countOf", desc := "(I)I" } : Jvm.MethodName)) ∈ lw_tbl := lw_at lw_m5 55 rfl
theorem q1096 : (Jvm.Cond.instanceMethod ({ cls := "CrowdedBinsModel", name := "countOf", desc := "(I)I" } : Jvm.MethodName)) ∈ lw_all := lw_g (lw_at lw_m5 56 rfl) rfl
theorem q1097 : (Jvm.Cond.code ({ cls := "CrowdedBinsModel", name := "countOf", desc := "(I)I" } : Jvm.MethodName) prog_15_method_52_code (10 : Nat) (Option.some Jvm.ClassFile.FieldType.int)) ∈ lw_all := lw_g (lw_at lw_m5 57 rfl) rfl
theorem q1099 : (Jvm.Cond.instanceMethod ({ cls := "CrowdedBinsModel", name := "opens", desc := "(II)I" } : Jvm.MethodName)) ∈ lw_all := lw_g (lw_at lw_m5 59 rfl) rfl
theorem q1100 : (Jvm.Cond.selects "CrowdedBinsModel" ({ cls := "CrowdedBinsModel", name := "opens", desc := "(II)I" } : Jvm.MethodName) ({ cls := "CrowdedBinsModel", name := "opens", desc := "(II)I" } : Jvm.MethodName)) ∈ lw_all := lw_g (lw_at lw_m5 60 rfl) rfl
theorem q1101 : (Jvm.Cond.code ({ cls := "CrowdedBinsModel", name := "opens", desc := "(II)I" } : Jvm.MethodName) prog_15_method_59_code (3 : Nat) (Option.some Jvm.ClassFile.FieldType.int)) ∈ lw_all := lw_g (lw_at lw_m5 61 rfl) rfl
theorem q1102 : (Jvm.Cond.methodLink "CrowdedBinsModel" (195 : Nat) ({ cls := "CrowdedBinsModel", name := "isCursor", desc := "(I)Z" } : Jvm.MethodName)) ∈ lw_all := lw_g (lw_at lw_m5 62 rfl) rfl
theorem q1103 : (Jvm.Cond.static ({ cls := "CrowdedBinsModel", name := "isCursor", desc := "(I)Z" } : Jvm.MethodName)) ∈ lw_all := lw_g (lw_at lw_m5 63 rfl) rfl
theorem q1104 : (Jvm.Cond.code ({ cls := "CrowdedBinsModel", name := "isCursor", desc := "(I)Z" } : Jvm.MethodName) prog_15_method_57_code (1 : Nat) (Option.some Jvm.ClassFile.FieldType.boolean)) ∈ lw_all := lw_g (lw_at lw_m5 64 rfl) rfl
theorem q1105 : (Jvm.Cond.methodLink "CrowdedBinsModel" (198 : Nat) ({ cls := "CrowdedBinsModel", name := "keyOrNone", desc := "(II)I" } : Jvm.MethodName)) ∈ lw_all := lw_g (lw_at lw_m5 65 rfl) rfl
theorem q1106 : (Jvm.Cond.privateMethod ({ cls := "CrowdedBinsModel", name := "keyOrNone", desc := "(II)I" } : Jvm.MethodName)) ∈ lw_tbl := lw_at lw_m5 66 rfl
theorem q1107 : (Jvm.Cond.instanceMethod ({ cls := "CrowdedBinsModel", name := "keyOrNone", desc := "(II)I" } : Jvm.MethodName)) ∈ lw_all := lw_g (lw_at lw_m5 67 rfl) rfl
theorem q1108 : (Jvm.Cond.code ({ cls := "CrowdedBinsModel", name := "keyOrNone", desc := "(II)I" } : Jvm.MethodName) prog_15_method_56_code (3 : Nat) (Option.some Jvm.ClassFile.FieldType.int)) ∈ lw_all := lw_g (lw_at lw_m5 68 rfl) rfl
theorem q1109 : (Jvm.Cond.methodLink "CrowdedBinsModel" (189 : Nat) ({ cls := "CrowdedBinsModel", name := "keyBy", desc := "(II)I" } : Jvm.MethodName)) ∈ lw_all := lw_g (lw_at lw_m5 69 rfl) rfl
theorem q1110 : (Jvm.Cond.privateMethod ({ cls := "CrowdedBinsModel", name := "keyBy", desc := "(II)I" } : Jvm.MethodName)) ∈ lw_tbl := lw_at lw_m5 70 rfl
theorem q1111 : (Jvm.Cond.instanceMethod ({ cls := "CrowdedBinsModel", name := "keyBy", desc := "(II)I" } : Jvm.MethodName)) ∈ lw_all := lw_g (lw_at lw_m5 71 rfl) rfl
theorem q1112 : (Jvm.Cond.code ({ cls := "CrowdedBinsModel", name := "keyBy", desc := "(II)I" } : Jvm.MethodName) prog_15_method_54_code (5 : Nat) (Option.some Jvm.ClassFile.FieldType.int)) ∈ lw_all := lw_g (lw_at lw_m5 72 rfl) rfl
theorem q1114 : (Jvm.Cond.instanceMethod ({ cls := "CrowdedBinsModel", name := "next", desc := "(I)I" } : Jvm.MethodName)) ∈ lw_all := lw_g (lw_at lw_m5 74 rfl) rfl
theorem q1115 : (Jvm.Cond.selects "CrowdedBinsModel" ({ cls := "CrowdedBinsModel", name := "next", desc := "(I)I" } : Jvm.MethodName) ({ cls := "CrowdedBinsModel", name := "next", desc := "(I)I" } : Jvm.MethodName)) ∈ lw_all := lw_g (lw_at lw_m5 75 rfl) rfl
theorem q1116 : (Jvm.Cond.code ({ cls := "CrowdedBinsModel", name := "next", desc := "(I)I" } : Jvm.MethodName) prog_15_method_61_code (4 : Nat) (Option.some Jvm.ClassFile.FieldType.int)) ∈ lw_all := lw_g (lw_at lw_m5 76 rfl) rfl
theorem q1117 : (Jvm.Cond.methodLink "CrowdedBinsModel" (201 : Nat) ({ cls := "CrowdedBinsModel", name := "lacks", desc := "(I)I" } : Jvm.MethodName)) ∈ lw_all := lw_g (lw_at lw_m5 77 rfl) rfl
theorem q1118 : (Jvm.Cond.privateMethod ({ cls := "CrowdedBinsModel", name := "lacks", desc := "(I)I" } : Jvm.MethodName)) ∈ lw_tbl := lw_at lw_m5 78 rfl
theorem q1119 : (Jvm.Cond.instanceMethod ({ cls := "CrowdedBinsModel", name := "lacks", desc := "(I)I" } : Jvm.MethodName)) ∈ lw_all := lw_g (lw_at lw_m5 79 rfl) rfl
theorem q1120 : (Jvm.Cond.code ({ cls := "CrowdedBinsModel", name := "lacks", desc := "(I)I" } : Jvm.MethodName) prog_15_method_60_code (2 : Nat) (Option.some Jvm.ClassFile.FieldType.int)) ∈ lw_all := lw_g (lw_at lw_m5 80 rfl) rfl
theorem q1121 : (Jvm.Cond.methodLink "CrowdedBinsModel" (192 : Nat) ({ cls := "CrowdedBinsModel", name := "placeBy", desc := "(II)I" } : Jvm.MethodName)) ∈ lw_all := lw_g (lw_at lw_m5 81 rfl) rfl
theorem q1122 : (Jvm.Cond.privateMethod ({ cls := "CrowdedBinsModel", name := "placeBy", desc := "(II)I" } : Jvm.MethodName)) ∈ lw_tbl := lw_at lw_m5 82 rfl
theorem q1123 : (Jvm.Cond.instanceMethod ({ cls := "CrowdedBinsModel", name := "placeBy", desc := "(II)I" } : Jvm.MethodName)) ∈ lw_all := lw_g (lw_at lw_m5 83 rfl) rfl
theorem q1124 : (Jvm.Cond.code ({ cls := "CrowdedBinsModel", name := "placeBy", desc := "(II)I" } : Jvm.MethodName) prog_15_method_55_code (4 : Nat) (Option.some Jvm.ClassFile.FieldType.int)) ∈ lw_all := lw_g (lw_at lw_m5 84 rfl) rfl
theorem q1126 : (Jvm.Cond.instanceMethod ({ cls := "CrowdedBinsModel", name := "removes", desc := "(I)I" } : Jvm.MethodName)) ∈ lw_all := lw_g (lw_at lw_m5 86 rfl) rfl
theorem q1127 : (Jvm.Cond.selects "CrowdedBinsModel" ({ cls := "CrowdedBinsModel", name := "removes", desc := "(I)I" } : Jvm.MethodName) ({ cls := "CrowdedBinsModel", name := "removes", desc := "(I)I" } : Jvm.MethodName)) ∈ lw_all := lw_g (lw_at lw_m5 87 rfl) rfl
theorem q1128 : (Jvm.Cond.code ({ cls := "CrowdedBinsModel", name := "removes", desc := "(I)I" } : Jvm.MethodName) prog_15_method_62_code (4 : Nat) (Option.some Jvm.ClassFile.FieldType.int)) ∈ lw_all := lw_g (lw_at lw_m5 88 rfl) rfl
theorem q1130 : (Jvm.Cond.instanceMethod ({ cls := "CrowdedBinsModel", name := "resumes", desc := "(I)I" } : Jvm.MethodName)) ∈ lw_all := lw_g (lw_at lw_m5 90 rfl) rfl
theorem q1131 : (Jvm.Cond.selects "CrowdedBinsModel" ({ cls := "CrowdedBinsModel", name := "resumes", desc := "(I)I" } : Jvm.MethodName) ({ cls := "CrowdedBinsModel", name := "resumes", desc := "(I)I" } : Jvm.MethodName)) ∈ lw_all := lw_g (lw_at lw_m5 91 rfl) rfl
theorem q1132 : (Jvm.Cond.code ({ cls := "CrowdedBinsModel", name := "resumes", desc := "(I)I" } : Jvm.MethodName) prog_15_method_63_code (4 : Nat) (Option.some Jvm.ClassFile.FieldType.int)) ∈ lw_all := lw_g (lw_at lw_m5 92 rfl) rfl
theorem q1133 : (Jvm.Cond.methodLink "CrowdedBinsModel" (204 : Nat) ({ cls := "CrowdedBinsModel", name := "leftOf", desc := "(I)I" } : Jvm.MethodName)) ∈ lw_all := lw_g (lw_at lw_m5 93 rfl) rfl
theorem q1134 : (Jvm.Cond.privateMethod ({ cls := "CrowdedBinsModel", name := "leftOf", desc := "(I)I" } : Jvm.MethodName)) ∈ lw_tbl := lw_at lw_m5 94 rfl
theorem q1135 : (Jvm.Cond.instanceMethod ({ cls := "CrowdedBinsModel", name := "leftOf", desc := "(I)I" } : Jvm.MethodName)) ∈ lw_all := lw_g (lw_at lw_m5 95 rfl) rfl
theorem q1136 : (Jvm.Cond.code ({ cls := "CrowdedBinsModel", name := "leftOf", desc := "(I)I" } : Jvm.MethodName) prog_15_method_58_code (2 : Nat) (Option.some Jvm.ClassFile.FieldType.int)) ∈ lw_all := lw_g (lw_at lw_m5 96 rfl) rfl
theorem q1138 : (Jvm.Cond.instanceMethod ({ cls := "CrowdedBinsModel", name := "left", desc := "(I)I" } : Jvm.MethodName)) ∈ lw_all := lw_g (lw_at lw_m5 98 rfl) rfl
theorem q1139 : (Jvm.Cond.selects "CrowdedBinsModel" ({ cls := "CrowdedBinsModel", name := "left", desc := "(I)I" } : Jvm.MethodName) ({ cls := "CrowdedBinsModel", name := "left", desc := "(I)I" } : Jvm.MethodName)) ∈ lw_all := lw_g (lw_at lw_m5 99 rfl) rfl
theorem q1140 : (Jvm.Cond.code ({ cls := "CrowdedBinsModel", name := "left", desc := "(I)I" } : Jvm.MethodName) prog_15_method_64_code (3 : Nat) (Option.some Jvm.ClassFile.FieldType.int)) ∈ lw_all := lw_g (lw_at lw_m5 100 rfl) rfl
theorem q1142 : (Jvm.Cond.instanceMethod ({ cls := "CrowdedBinsModel", name := "type", desc := "(I)I" } : Jvm.MethodName)) ∈ lw_all := lw_g (lw_at lw_m5 102 rfl) rfl
theorem q1143 : (Jvm.Cond.selects "CrowdedBinsModel" ({ cls := "CrowdedBinsModel", name := "type", desc := "(I)I" } : Jvm.MethodName) ({ cls := "CrowdedBinsModel", name := "type", desc := "(I)I" } : Jvm.MethodName)) ∈ lw_all := lw_g (lw_at lw_m5 103 rfl) rfl
theorem q1144 : (Jvm.Cond.code ({ cls := "CrowdedBinsModel", name := "type", desc := "(I)I" } : Jvm.MethodName) prog_15_method_65_code (2 : Nat) (Option.some Jvm.ClassFile.FieldType.int)) ∈ lw_all := lw_g (lw_at lw_m5 104 rfl) rfl
theorem q1146 : (Jvm.Cond.instanceMethod ({ cls := "CrowdedBinsModel", name := "clear", desc := "()I" } : Jvm.MethodName)) ∈ lw_all := lw_g (lw_at lw_m5 106 rfl) rfl
theorem q1147 : (Jvm.Cond.selects "CrowdedBinsModel" ({ cls := "CrowdedBinsModel", name := "clear", desc := "()I" } : Jvm.MethodName) ({ cls := "CrowdedBinsModel", name := "clear", desc := "()I" } : Jvm.MethodName)) ∈ lw_all := lw_g (lw_at lw_m5 107 rfl) rfl
theorem q1148 : (Jvm.Cond.code ({ cls := "CrowdedBinsModel", name := "clear", desc := "()I" } : Jvm.MethodName) prog_15_method_66_code (2 : Nat) (Option.some Jvm.ClassFile.FieldType.int)) ∈ lw_all := lw_g (lw_at lw_m5 108 rfl) rfl
theorem q1150 : (Jvm.Cond.instanceMethod ({ cls := "CrowdedBinsModel", name := "does", desc := "()I" } : Jvm.MethodName)) ∈ lw_all := lw_g (lw_at lw_m5 110 rfl) rfl
theorem q1151 : (Jvm.Cond.selects "CrowdedBinsModel" ({ cls := "CrowdedBinsModel", name := "does", desc := "()I" } : Jvm.MethodName) ({ cls := "CrowdedBinsModel", name := "does", desc := "()I" } : Jvm.MethodName)) ∈ lw_all := lw_g (lw_at lw_m5 111 rfl) rfl
theorem q1152 : (Jvm.Cond.code ({ cls := "CrowdedBinsModel", name := "does", desc := "()I" } : Jvm.MethodName) prog_15_method_71_code (2 : Nat) (Option.some Jvm.ClassFile.FieldType.int)) ∈ lw_all := lw_g (lw_at lw_m5 112 rfl) rfl
theorem q1153 : (Jvm.Cond.methodLink "CrowdedBinsModel" (225 : Nat) ({ cls := "CrowdedBinsModel", name := "work", desc := "(Z)I" } : Jvm.MethodName)) ∈ lw_all := lw_g (lw_at lw_m5 113 rfl) rfl
theorem q1154 : (Jvm.Cond.privateMethod ({ cls := "CrowdedBinsModel", name := "work", desc := "(Z)I" } : Jvm.MethodName)) ∈ lw_tbl := lw_at lw_m5 114 rfl
theorem q1155 : (Jvm.Cond.instanceMethod ({ cls := "CrowdedBinsModel", name := "work", desc := "(Z)I" } : Jvm.MethodName)) ∈ lw_all := lw_g (lw_at lw_m5 115 rfl) rfl
theorem q1156 : (Jvm.Cond.code ({ cls := "CrowdedBinsModel", name := "work", desc := "(Z)I" } : Jvm.MethodName) prog_15_method_70_code (6 : Nat) (Option.some Jvm.ClassFile.FieldType.int)) ∈ lw_all := lw_g (lw_at lw_m5 116 rfl) rfl
theorem q1157 : (Jvm.Cond.methodLink "CrowdedBinsModel" (213 : Nat) ({ cls := "CrowdedBinsModel", name := "here", desc := "()I" } : Jvm.MethodName)) ∈ lw_all := lw_g (lw_at lw_m5 117 rfl) rfl
theorem q1158 : (Jvm.Cond.privateMethod ({ cls := "CrowdedBinsModel", name := "here", desc := "()I" } : Jvm.MethodName)) ∈ lw_tbl := lw_at lw_m5 118 rfl
theorem q1159 : (Jvm.Cond.instanceMethod ({ cls := "CrowdedBinsModel", name := "here", desc := "()I" } : Jvm.MethodName)) ∈ lw_all := lw_g (lw_at lw_m5 119 rfl) rfl
theorem q1160 : (Jvm.Cond.code ({ cls := "CrowdedBinsModel", name := "here", desc := "()I" } : Jvm.MethodName) prog_15_method_67_code (1 : Nat) (Option.some Jvm.ClassFile.FieldType.int)) ∈ lw_all := lw_g (lw_at lw_m5 120 rfl) rfl
theorem q1161 : (Jvm.Cond.methodLink "CrowdedBinsModel" (222 : Nat) ({ cls := "CrowdedBinsModel", name := "isNumber", desc := "()Z" } : Jvm.MethodName)) ∈ lw_all := lw_g (lw_at lw_m5 121 rfl) rfl
theorem q1162 : (Jvm.Cond.privateMethod ({ cls := "CrowdedBinsModel", name := "isNumber", desc := "()Z" } : Jvm.MethodName)) ∈ lw_tbl := lw_at lw_m5 122 rfl
theorem q1163 : (Jvm.Cond.instanceMethod ({ cls := "CrowdedBinsModel", name := "isNumber", desc := "()Z" } : Jvm.MethodName)) ∈ lw_all := lw_g (lw_at lw_m5 123 rfl) rfl
theorem q1164 : (Jvm.Cond.code ({ cls := "CrowdedBinsModel", name := "isNumber", desc := "()Z" } : Jvm.MethodName) prog_15_method_69_code (2 : Nat) (Option.some Jvm.ClassFile.FieldType.boolean)) ∈ lw_all := lw_g (lw_at lw_m5 124 rfl) rfl
theorem q1165 : (Jvm.Cond.methodLink "CrowdedBinsModel" (219 : Nat) ({ cls := "CrowdedBinsModel", name := "isFigure", desc := "()Z" } : Jvm.MethodName)) ∈ lw_all := lw_g (lw_at lw_m5 125 rfl) rfl
theorem q1166 : (Jvm.Cond.privateMethod ({ cls := "CrowdedBinsModel", name := "isFigure", desc := "()Z" } : Jvm.MethodName)) ∈ lw_tbl := lw_at lw_m5 126 rfl
theorem q1167 : (Jvm.Cond.instanceMethod ({ cls := "CrowdedBinsModel", name := "isFigure", desc := "()Z" } : Jvm.MethodName)) ∈ lw_all := lw_g (lw_at lw_m5 127 rfl) rfl
theorem q1168 : (Jvm.Cond.code ({ cls := "CrowdedBinsModel", name := "isFigure", desc := "()Z" } : Jvm.MethodName) prog_15_method_68_code (1 : Nat) (Option.some Jvm.ClassFile.FieldType.boolean)) ∈ lw_all := lw_g (lw_at lw_m5 128 rfl) rfl
theorem q1170 : (Jvm.Cond.instanceMethod ({ cls := "CrowdedBinsModel", name := "back", desc := "()I" } : Jvm.MethodName)) ∈ lw_all := lw_g (lw_at lw_m5 130 rfl) rfl
theorem q1171 : (Jvm.Cond.selects "CrowdedBinsModel" ({ cls := "CrowdedBinsModel", name := "back", desc := "()I" } : Jvm.MethodName) ({ cls := "CrowdedBinsModel", name := "back", desc := "()I" } : Jvm.MethodName)) ∈ lw_all := lw_g (lw_at lw_m5 131 rfl) rfl
theorem q1172 : (Jvm.Cond.code ({ cls := "CrowdedBinsModel", name := "back", desc := "()I" } : Jvm.MethodName) prog_15_method_72_code (2 : Nat) (Option.some Jvm.ClassFile.FieldType.int)) ∈ lw_all := lw_g (lw_at lw_m5 132 rfl) rfl
theorem q1174 : (Jvm.Cond.instanceMethod ({ cls := "CrowdedBinsModel", name := "told", desc := "(I)I" } : Jvm.MethodName)) ∈ lw_all := lw_g (lw_at lw_m5 134 rfl) rfl
theorem q1175 : (Jvm.Cond.selects "CrowdedBinsModel" ({ cls := "CrowdedBinsModel", name := "told", desc := "(I)I" } : Jvm.MethodName) ({ cls := "CrowdedBinsModel", name := "told", desc := "(I)I" } : Jvm.MethodName)) ∈ lw_all := lw_g (lw_at lw_m5 135 rfl) rfl
theorem q1176 : (Jvm.Cond.code ({ cls := "CrowdedBinsModel", name := "told", desc := "(I)I" } : Jvm.MethodName) prog_15_method_74_code (2 : Nat) (Option.some Jvm.ClassFile.FieldType.int)) ∈ lw_all := lw_g (lw_at lw_m5 136 rfl) rfl
theorem q1177 : (Jvm.Cond.methodLink "CrowdedBinsModel" (229 : Nat) ({ cls := "CrowdedBinsModel", name := "toldOf", desc := "(I)I" } : Jvm.MethodName)) ∈ lw_all := lw_g (lw_at lw_m5 137 rfl) rfl
theorem q1178 : (Jvm.Cond.privateMethod ({ cls := "CrowdedBinsModel", name := "toldOf", desc := "(I)I" } : Jvm.MethodName)) ∈ lw_tbl := lw_at lw_m5 138 rfl
theorem q1179 : (Jvm.Cond.instanceMethod ({ cls := "CrowdedBinsModel", name := "toldOf", desc := "(I)I" } : Jvm.MethodName)) ∈ lw_all := lw_g (lw_at lw_m5 139 rfl) rfl
theorem q1180 : (Jvm.Cond.code ({ cls := "CrowdedBinsModel", name := "toldOf", desc := "(I)I" } : Jvm.MethodName) prog_15_method_73_code (4 : Nat) (Option.some Jvm.ClassFile.FieldType.int)) ∈ lw_all := lw_g (lw_at lw_m5 140 rfl) rfl
theorem q1182 : (Jvm.Cond.instanceMethod ({ cls := "CrowdedBinsModel", name := "digest", desc := "()J" } : Jvm.MethodName)) ∈ lw_all := lw_g (lw_at lw_m5 142 rfl) rfl
theorem q1183 : (Jvm.Cond.selects "CrowdedBinsModel" ({ cls := "CrowdedBinsModel", name := "digest", desc := "()J" } : Jvm.MethodName) ({ cls := "CrowdedBinsModel", name := "digest", desc := "()J" } : Jvm.MethodName)) ∈ lw_all := lw_g (lw_at lw_m5 143 rfl) rfl
theorem q1184 : (Jvm.Cond.code ({ cls := "CrowdedBinsModel", name := "digest", desc := "()J" } : Jvm.MethodName) prog_15_method_75_code (6 : Nat) (Option.some Jvm.ClassFile.FieldType.long)) ∈ lw_all := lw_g (lw_at lw_m5 144 rfl) rfl
theorem q1185 : (Jvm.Cond.constantLong "CrowdedBinsModel" (232 : Nat) (1842 : Int64)) ∈ lw_all := lw_g (lw_at lw_m5 145 rfl) rfl
theorem q1186 : (Jvm.Cond.constantLong "CrowdedBinsModel" (234 : Nat) (31 : Int64)) ∈ lw_all := lw_g (lw_at lw_m5 146 rfl) rfl
theorem in_X5 : ∀ w ∈ wsX50, w ∈ lw_all := lw_in wsX50 [848, 850, 852, 854, 856, 858, 860, 862, 864, 866, 868, 870, 872, 874, 876, 878, 880, 882, 884, 886] (by decide +kernel) (by decide +kernel)
