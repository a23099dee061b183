/-! CrowdedBins -/
set_option maxRecDepth 100000
def RX0 : String := "CrowdedBins"
def TX0 : u_T := fun k => match k with
  | 0 => ("CrowdedBins", "bins", "[LCrowdedBins$Bin;", true)
  | 1 => ("CrowdedBins", "wide", "I", false)
  | 2 => ("CrowdedBins", "first", "LCrowdedBins$Entry;", false)
  | 3 => ("CrowdedBins", "last", "LCrowdedBins$Entry;", false)
  | 4 => ("CrowdedBins", "size", "I", false)
  | 5 => ("CrowdedBins", "times", "I", false)
  | 6 => ("CrowdedBins", "plus", "I", false)
  | 7 => ("CrowdedBins", "access", "I", false)
  | 8 => ("CrowdedBins", "limit", "I", false)
  | 9 => ("CrowdedBins", "changes", "I", false)
  | 10 => ("CrowdedBins", "cursors", "[LCrowdedBins$Cursor;", true)
  | 11 => ("CrowdedBins", "past", "[LCrowdedBins$State;", true)
  | 12 => ("CrowdedBins", "many", "I", false)
  | 13 => ("CrowdedBins", "quiet", "Z", false)
  | 14 => ("CrowdedBins", "text", "[B", true)
  | 15 => ("CrowdedBins", "typed", "I", false)
  | 16 => ("CrowdedBins", "refused", "[I", true)
  | 17 => ("CrowdedBins", "counts", "[I", true)
  | _ => ("CrowdedBins", "reader", "LCrowdedBins$Reader;", true)
def tyX0 : Nat → FieldType := fun k => match k with
  | 0 => .array (.object "CrowdedBins$Bin")
  | 1 => .int
  | 2 => .object "CrowdedBins$Entry"
  | 3 => .object "CrowdedBins$Entry"
  | 4 => .int
  | 5 => .int
  | 6 => .int
  | 7 => .int
  | 8 => .int
  | 9 => .int
  | 10 => .array (.object "CrowdedBins$Cursor")
  | 11 => .array (.object "CrowdedBins$State")
  | 12 => .int
  | 13 => .boolean
  | 14 => .array .byte
  | 15 => .int
  | 16 => .array .int
  | 17 => .array .int
  | _ => .object "CrowdedBins$Reader"
abbrev wsX00 : List Cond := u_ws RX0 TX0 19
set_option maxRecDepth 100000 in
theorem nmX0 : ∀ a, a < 19 → ∀ b, b < 19 → a ≠ b → (TX0 a).2.1 ≠ (TX0 b).2.1 := by decide +kernel
set_option maxRecDepth 100000 in
theorem tyX0_ok : ∀ k, k < 19 → parseFieldDescriptor (TX0 k).2.2.1 = some (tyX0 k) := by decide +kernel
abbrev cX0_init : ByteArray := prog_1_method_3_code
def yX0_init : MethodName := ⟨RX0, "<init>", "()V"⟩
def dkwX0_init_3 : List UInt8 := [182, 0, 55, 177]
abbrev dktX0_init_3 : List UInt8 := dkwX0_init_3 ++ []
def dkwX0_init_2 : List UInt8 := [181, 0, 39, 42, 7, 188, 10, 181, 0, 43, 42, 187, 0, 46, 89, 42, 183, 0, 48, 181, 0, 51, 42]
abbrev dktX0_init_2 : List UInt8 := dkwX0_init_2 ++ dktX0_init_3
def dkwX0_init_1 : List UInt8 := [181, 0, 26, 42, 16, 6, 189, 0, 29, 181, 0, 31, 42, 16, 120, 188, 8, 181, 0, 35, 42, 7, 188, 10]
abbrev dktX0_init_1 : List UInt8 := dkwX0_init_1 ++ dktX0_init_2
def dkwX0_init_0 : List UInt8 := [42, 183, 0, 9, 42, 16, 64, 189, 0, 12, 181, 0, 14, 42, 4, 181, 0, 18, 42, 184, 0, 22]
abbrev dktX0_init_0 : List UInt8 := dkwX0_init_0 ++ dktX0_init_1
theorem dksX0_init_0 : cX0_init.data.toList.drop 0 = dktX0_init_0 := by decide +kernel
theorem dksX0_init_1 : cX0_init.data.toList.drop 22 = dktX0_init_1 := dk_seg dksX0_init_0 22 rfl rfl
theorem dksX0_init_2 : cX0_init.data.toList.drop 46 = dktX0_init_2 := dk_seg dksX0_init_1 24 rfl rfl
theorem dksX0_init_3 : cX0_init.data.toList.drop 69 = dktX0_init_3 := dk_seg dksX0_init_2 23 rfl rfl
theorem dX0_init_0 : decode cX0_init 0 = .ok (.aload_n 0, 1) := dk_42 (dk_at dksX0_init_0 0 rfl rfl)
theorem dX0_init_1 : decode cX0_init 1 = .ok (.invokespecial 9, 3) := dk_183 0 9 (dk_at dksX0_init_0 1 rfl rfl)
theorem dX0_init_4 : decode cX0_init 4 = .ok (.aload_n 0, 1) := dk_42 (dk_at dksX0_init_0 4 rfl rfl)
theorem dX0_init_5 : decode cX0_init 5 = .ok (.bipush 64, 2) := dk_16 64 (dk_at dksX0_init_0 5 rfl rfl)
theorem dX0_init_7 : decode cX0_init 7 = .ok (.anewarray 12, 3) := dk_189 0 12 (dk_at dksX0_init_0 7 rfl rfl)
theorem dX0_init_10 : decode cX0_init 10 = .ok (.putfield 14, 3) := dk_181 0 14 (dk_at dksX0_init_0 10 rfl rfl)
theorem dX0_init_13 : decode cX0_init 13 = .ok (.aload_n 0, 1) := dk_42 (dk_at dksX0_init_0 13 rfl rfl)
theorem dX0_init_14 : decode cX0_init 14 = .ok (.iconst 1, 1) := dk_4 (dk_at dksX0_init_0 14 rfl rfl)
theorem dX0_init_15 : decode cX0_init 15 = .ok (.putfield 18, 3) := dk_181 0 18 (dk_at dksX0_init_0 15 rfl rfl)
theorem dX0_init_18 : decode cX0_init 18 = .ok (.aload_n 0, 1) := dk_42 (dk_at dksX0_init_0 18 rfl rfl)
theorem dX0_init_19 : decode cX0_init 19 = .ok (.invokestatic 22, 3) := dk_184 0 22 (dk_at dksX0_init_0 19 rfl rfl)
theorem dX0_init_22 : decode cX0_init 22 = .ok (.putfield 26, 3) := dk_181 0 26 (dk_at dksX0_init_1 0 rfl rfl)
theorem dX0_init_25 : decode cX0_init 25 = .ok (.aload_n 0, 1) := dk_42 (dk_at dksX0_init_1 3 rfl rfl)
theorem dX0_init_26 : decode cX0_init 26 = .ok (.bipush 6, 2) := dk_16 6 (dk_at dksX0_init_1 4 rfl rfl)
theorem dX0_init_28 : decode cX0_init 28 = .ok (.anewarray 29, 3) := dk_189 0 29 (dk_at dksX0_init_1 6 rfl rfl)
theorem dX0_init_31 : decode cX0_init 31 = .ok (.putfield 31, 3) := dk_181 0 31 (dk_at dksX0_init_1 9 rfl rfl)
theorem dX0_init_34 : decode cX0_init 34 = .ok (.aload_n 0, 1) := dk_42 (dk_at dksX0_init_1 12 rfl rfl)
theorem dX0_init_35 : decode cX0_init 35 = .ok (.bipush 120, 2) := dk_16 120 (dk_at dksX0_init_1 13 rfl rfl)
theorem dX0_init_37 : decode cX0_init 37 = .ok (.newarray .byte, 2) := dk_188_8 (dk_at dksX0_init_1 15 rfl rfl)
theorem dX0_init_39 : decode cX0_init 39 = .ok (.putfield 35, 3) := dk_181 0 35 (dk_at dksX0_init_1 17 rfl rfl)
theorem dX0_init_42 : decode cX0_init 42 = .ok (.aload_n 0, 1) := dk_42 (dk_at dksX0_init_1 20 rfl rfl)
theorem dX0_init_43 : decode cX0_init 43 = .ok (.iconst 4, 1) := dk_7 (dk_at dksX0_init_1 21 rfl rfl)
theorem dX0_init_44 : decode cX0_init 44 = .ok (.newarray .int, 2) := dk_188_10 (dk_at dksX0_init_1 22 rfl rfl)
theorem dX0_init_46 : decode cX0_init 46 = .ok (.putfield 39, 3) := dk_181 0 39 (dk_at dksX0_init_2 0 rfl rfl)
theorem dX0_init_49 : decode cX0_init 49 = .ok (.aload_n 0, 1) := dk_42 (dk_at dksX0_init_2 3 rfl rfl)
theorem dX0_init_50 : decode cX0_init 50 = .ok (.iconst 4, 1) := dk_7 (dk_at dksX0_init_2 4 rfl rfl)
theorem dX0_init_51 : decode cX0_init 51 = .ok (.newarray .int, 2) := dk_188_10 (dk_at dksX0_init_2 5 rfl rfl)
theorem dX0_init_53 : decode cX0_init 53 = .ok (.putfield 43, 3) := dk_181 0 43 (dk_at dksX0_init_2 7 rfl rfl)
theorem dX0_init_56 : decode cX0_init 56 = .ok (.aload_n 0, 1) := dk_42 (dk_at dksX0_init_2 10 rfl rfl)
theorem dX0_init_57 : decode cX0_init 57 = .ok (.new 46, 3) := dk_187 0 46 (dk_at dksX0_init_2 11 rfl rfl)
theorem dX0_init_60 : decode cX0_init 60 = .ok (.dup, 1) := dk_89 (dk_at dksX0_init_2 14 rfl rfl)
theorem dX0_init_61 : decode cX0_init 61 = .ok (.aload_n 0, 1) := dk_42 (dk_at dksX0_init_2 15 rfl rfl)
theorem dX0_init_62 : decode cX0_init 62 = .ok (.invokespecial 48, 3) := dk_183 0 48 (dk_at dksX0_init_2 16 rfl rfl)
theorem dX0_init_65 : decode cX0_init 65 = .ok (.putfield 51, 3) := dk_181 0 51 (dk_at dksX0_init_2 19 rfl rfl)
theorem dX0_init_68 : decode cX0_init 68 = .ok (.aload_n 0, 1) := dk_42 (dk_at dksX0_init_2 22 rfl rfl)
theorem dX0_init_69 : decode cX0_init 69 = .ok (.invokevirtual 55, 3) := dk_182 0 55 (dk_at dksX0_init_3 0 rfl rfl)
theorem dX0_init_72 : decode cX0_init 72 = .ok (.return_, 1) := dk_177 (dk_at dksX0_init_3 3 rfl rfl)
abbrev cX0_cursors : ByteArray := prog_1_method_2_code
def yX0_cursors : MethodName := ⟨RX0, "cursors", "()[LCrowdedBins$Cursor;"⟩
def dkwX0_cursors_1 : List UInt8 := [132, 1, 1, 167, 255, 238, 42, 176]
abbrev dktX0_cursors_1 : List UInt8 := dkwX0_cursors_1 ++ []
def dkwX0_cursors_0 : List UInt8 := [6, 189, 0, 3, 75, 3, 60, 27, 6, 162, 0, 19, 42, 27, 187, 0, 3, 89, 183, 0, 5, 83]
abbrev dktX0_cursors_0 : List UInt8 := dkwX0_cursors_0 ++ dktX0_cursors_1
theorem dksX0_cursors_0 : cX0_cursors.data.toList.drop 0 = dktX0_cursors_0 := by decide +kernel
theorem dksX0_cursors_1 : cX0_cursors.data.toList.drop 22 = dktX0_cursors_1 := dk_seg dksX0_cursors_0 22 rfl rfl
theorem dX0_cursors_0 : decode cX0_cursors 0 = .ok (.iconst 3, 1) := dk_6 (dk_at dksX0_cursors_0 0 rfl rfl)
theorem dX0_cursors_1 : decode cX0_cursors 1 = .ok (.anewarray 3, 3) := dk_189 0 3 (dk_at dksX0_cursors_0 1 rfl rfl)
theorem dX0_cursors_4 : decode cX0_cursors 4 = .ok (.astore_n 0, 1) := dk_75 (dk_at dksX0_cursors_0 4 rfl rfl)
theorem dX0_cursors_5 : decode cX0_cursors 5 = .ok (.iconst 0, 1) := dk_3 (dk_at dksX0_cursors_0 5 rfl rfl)
theorem dX0_cursors_6 : decode cX0_cursors 6 = .ok (.istore_n 1, 1) := dk_60 (dk_at dksX0_cursors_0 6 rfl rfl)
theorem dX0_cursors_7 : decode cX0_cursors 7 = .ok (.iload_n 1, 1) := dk_27 (dk_at dksX0_cursors_0 7 rfl rfl)
theorem dX0_cursors_8 : decode cX0_cursors 8 = .ok (.iconst 3, 1) := dk_6 (dk_at dksX0_cursors_0 8 rfl rfl)
theorem dX0_cursors_9 : decode cX0_cursors 9 = .ok (.if_icmp .ge 19, 3) := dk_162 0 19 (dk_at dksX0_cursors_0 9 rfl rfl)
theorem dX0_cursors_12 : decode cX0_cursors 12 = .ok (.aload_n 0, 1) := dk_42 (dk_at dksX0_cursors_0 12 rfl rfl)
theorem dX0_cursors_13 : decode cX0_cursors 13 = .ok (.iload_n 1, 1) := dk_27 (dk_at dksX0_cursors_0 13 rfl rfl)
theorem dX0_cursors_14 : decode cX0_cursors 14 = .ok (.new 3, 3) := dk_187 0 3 (dk_at dksX0_cursors_0 14 rfl rfl)
theorem dX0_cursors_17 : decode cX0_cursors 17 = .ok (.dup, 1) := dk_89 (dk_at dksX0_cursors_0 17 rfl rfl)
theorem dX0_cursors_18 : decode cX0_cursors 18 = .ok (.invokespecial 5, 3) := dk_183 0 5 (dk_at dksX0_cursors_0 18 rfl rfl)
theorem dX0_cursors_21 : decode cX0_cursors 21 = .ok (.aastore, 1) := dk_83 (dk_at dksX0_cursors_0 21 rfl rfl)
theorem dX0_cursors_22 : decode cX0_cursors 22 = .ok (.iinc 1 1, 3) := dk_132 1 1 (dk_at dksX0_cursors_1 0 rfl rfl)
theorem dX0_cursors_25 : decode cX0_cursors 25 = .ok (.goto (-18), 3) := dk_167 255 238 (dk_at dksX0_cursors_1 3 rfl rfl)
theorem dX0_cursors_28 : decode cX0_cursors 28 = .ok (.aload_n 0, 1) := dk_42 (dk_at dksX0_cursors_1 6 rfl rfl)
theorem dX0_cursors_29 : decode cX0_cursors 29 = .ok (.areturn, 1) := dk_176 (dk_at dksX0_cursors_1 7 rfl rfl)
abbrev cX0_empties : ByteArray := prog_1_method_8_code
def yX0_empties : MethodName := ⟨RX0, "empties", "()V"⟩
def dkwX0_empties_1 : List UInt8 := [162, 0, 13, 187, 0, 65, 89, 183, 0, 67, 167, 0, 4, 1, 83, 132, 1, 1, 167, 255, 222, 177]
abbrev dktX0_empties_1 : List UInt8 := dkwX0_empties_1 ++ []
def dkwX0_empties_0 : List UInt8 := [42, 16, 8, 181, 0, 62, 3, 60, 27, 16, 64, 162, 0, 34, 42, 180, 0, 14, 27, 27, 42, 180, 0, 62]
abbrev dktX0_empties_0 : List UInt8 := dkwX0_empties_0 ++ dktX0_empties_1
theorem dksX0_empties_0 : cX0_empties.data.toList.drop 0 = dktX0_empties_0 := by decide +kernel
theorem dksX0_empties_1 : cX0_empties.data.toList.drop 24 = dktX0_empties_1 := dk_seg dksX0_empties_0 24 rfl rfl
theorem dX0_empties_0 : decode cX0_empties 0 = .ok (.aload_n 0, 1) := dk_42 (dk_at dksX0_empties_0 0 rfl rfl)
theorem dX0_empties_1 : decode cX0_empties 1 = .ok (.bipush 8, 2) := dk_16 8 (dk_at dksX0_empties_0 1 rfl rfl)
theorem dX0_empties_3 : decode cX0_empties 3 = .ok (.putfield 62, 3) := dk_181 0 62 (dk_at dksX0_empties_0 3 rfl rfl)
theorem dX0_empties_6 : decode cX0_empties 6 = .ok (.iconst 0, 1) := dk_3 (dk_at dksX0_empties_0 6 rfl rfl)
theorem dX0_empties_7 : decode cX0_empties 7 = .ok (.istore_n 1, 1) := dk_60 (dk_at dksX0_empties_0 7 rfl rfl)
theorem dX0_empties_8 : decode cX0_empties 8 = .ok (.iload_n 1, 1) := dk_27 (dk_at dksX0_empties_0 8 rfl rfl)
theorem dX0_empties_9 : decode cX0_empties 9 = .ok (.bipush 64, 2) := dk_16 64 (dk_at dksX0_empties_0 9 rfl rfl)
theorem dX0_empties_11 : decode cX0_empties 11 = .ok (.if_icmp .ge 34, 3) := dk_162 0 34 (dk_at dksX0_empties_0 11 rfl rfl)
theorem dX0_empties_14 : decode cX0_empties 14 = .ok (.aload_n 0, 1) := dk_42 (dk_at dksX0_empties_0 14 rfl rfl)
theorem dX0_empties_15 : decode cX0_empties 15 = .ok (.getfield 14, 3) := dk_180 0 14 (dk_at dksX0_empties_0 15 rfl rfl)
theorem dX0_empties_18 : decode cX0_empties 18 = .ok (.iload_n 1, 1) := dk_27 (dk_at dksX0_empties_0 18 rfl rfl)
theorem dX0_empties_19 : decode cX0_empties 19 = .ok (.iload_n 1, 1) := dk_27 (dk_at dksX0_empties_0 19 rfl rfl)
theorem dX0_empties_20 : decode cX0_empties 20 = .ok (.aload_n 0, 1) := dk_42 (dk_at dksX0_empties_0 20 rfl rfl)
theorem dX0_empties_21 : decode cX0_empties 21 = .ok (.getfield 62, 3) := dk_180 0 62 (dk_at dksX0_empties_0 21 rfl rfl)
theorem dX0_empties_24 : decode cX0_empties 24 = .ok (.if_icmp .ge 13, 3) := dk_162 0 13 (dk_at dksX0_empties_1 0 rfl rfl)
theorem dX0_empties_27 : decode cX0_empties 27 = .ok (.new 65, 3) := dk_187 0 65 (dk_at dksX0_empties_1 3 rfl rfl)
theorem dX0_empties_30 : decode cX0_empties 30 = .ok (.dup, 1) := dk_89 (dk_at dksX0_empties_1 6 rfl rfl)
theorem dX0_empties_31 : decode cX0_empties 31 = .ok (.invokespecial 67, 3) := dk_183 0 67 (dk_at dksX0_empties_1 7 rfl rfl)
theorem dX0_empties_34 : decode cX0_empties 34 = .ok (.goto 4, 3) := dk_167 0 4 (dk_at dksX0_empties_1 10 rfl rfl)
theorem dX0_empties_37 : decode cX0_empties 37 = .ok (.aconst_null, 1) := dk_1 (dk_at dksX0_empties_1 13 rfl rfl)
theorem dX0_empties_38 : decode cX0_empties 38 = .ok (.aastore, 1) := dk_83 (dk_at dksX0_empties_1 14 rfl rfl)
theorem dX0_empties_39 : decode cX0_empties 39 = .ok (.iinc 1 1, 3) := dk_132 1 1 (dk_at dksX0_empties_1 15 rfl rfl)
theorem dX0_empties_42 : decode cX0_empties 42 = .ok (.goto (-34), 3) := dk_167 255 222 (dk_at dksX0_empties_1 18 rfl rfl)
theorem dX0_empties_45 : decode cX0_empties 45 = .ok (.return_, 1) := dk_177 (dk_at dksX0_empties_1 21 rfl rfl)
abbrev cX0_put : ByteArray := prog_1_method_30_code
def yX0_put : MethodName := ⟨RX0, "put", "(II)I"⟩
def dkwX0_put_3 : List UInt8 := [45, 182, 0, 243, 21, 4, 172]
abbrev dktX0_put_3 : List UInt8 := dkwX0_put_3 ++ []
def dkwX0_put_2 : List UInt8 := [45, 199, 0, 11, 42, 27, 28, 182, 0, 240, 2, 172, 45, 180, 0, 201, 54, 4, 45, 28, 181, 0, 201, 42]
abbrev dktX0_put_2 : List UInt8 := dkwX0_put_2 ++ dktX0_put_3
def dkwX0_put_1 : List UInt8 := [78, 45, 199, 0, 18, 42, 182, 0, 233, 153, 0, 11, 42, 5, 16, 252, 182, 0, 58, 172, 42, 182, 0, 237]
abbrev dktX0_put_1 : List UInt8 := dkwX0_put_1 ++ dktX0_put_2
def dkwX0_put_0 : List UInt8 := [27, 184, 0, 220, 153, 0, 10, 28, 184, 0, 224, 154, 0, 8, 42, 182, 0, 227, 172, 42, 27, 182, 0, 230]
abbrev dktX0_put_0 : List UInt8 := dkwX0_put_0 ++ dktX0_put_1
theorem dksX0_put_0 : cX0_put.data.toList.drop 0 = dktX0_put_0 := by decide +kernel
theorem dksX0_put_1 : cX0_put.data.toList.drop 24 = dktX0_put_1 := dk_seg dksX0_put_0 24 rfl rfl
theorem dksX0_put_2 : cX0_put.data.toList.drop 48 = dktX0_put_2 := dk_seg dksX0_put_1 24 rfl rfl
theorem dksX0_put_3 : cX0_put.data.toList.drop 72 = dktX0_put_3 := dk_seg dksX0_put_2 24 rfl rfl
theorem dX0_put_0 : decode cX0_put 0 = .ok (.iload_n 1, 1) := dk_27 (dk_at dksX0_put_0 0 rfl rfl)
theorem dX0_put_1 : decode cX0_put 1 = .ok (.invokestatic 220, 3) := dk_184 0 220 (dk_at dksX0_put_0 1 rfl rfl)
theorem dX0_put_4 : decode cX0_put 4 = .ok (.ifCond .eq 10, 3) := dk_153 0 10 (dk_at dksX0_put_0 4 rfl rfl)
theorem dX0_put_7 : decode cX0_put 7 = .ok (.iload_n 2, 1) := dk_28 (dk_at dksX0_put_0 7 rfl rfl)
theorem dX0_put_8 : decode cX0_put 8 = .ok (.invokestatic 224, 3) := dk_184 0 224 (dk_at dksX0_put_0 8 rfl rfl)
theorem dX0_put_11 : decode cX0_put 11 = .ok (.ifCond .ne 8, 3) := dk_154 0 8 (dk_at dksX0_put_0 11 rfl rfl)
theorem dX0_put_14 : decode cX0_put 14 = .ok (.aload_n 0, 1) := dk_42 (dk_at dksX0_put_0 14 rfl rfl)
theorem dX0_put_15 : decode cX0_put 15 = .ok (.invokevirtual 227, 3) := dk_182 0 227 (dk_at dksX0_put_0 15 rfl rfl)
theorem dX0_put_18 : decode cX0_put 18 = .ok (.ireturn, 1) := dk_172 (dk_at dksX0_put_0 18 rfl rfl)
theorem dX0_put_19 : decode cX0_put 19 = .ok (.aload_n 0, 1) := dk_42 (dk_at dksX0_put_0 19 rfl rfl)
theorem dX0_put_20 : decode cX0_put 20 = .ok (.iload_n 1, 1) := dk_27 (dk_at dksX0_put_0 20 rfl rfl)
theorem dX0_put_21 : decode cX0_put 21 = .ok (.invokevirtual 230, 3) := dk_182 0 230 (dk_at dksX0_put_0 21 rfl rfl)
theorem dX0_put_24 : decode cX0_put 24 = .ok (.astore_n 3, 1) := dk_78 (dk_at dksX0_put_1 0 rfl rfl)
theorem dX0_put_25 : decode cX0_put 25 = .ok (.aload_n 3, 1) := dk_45 (dk_at dksX0_put_1 1 rfl rfl)
theorem dX0_put_26 : decode cX0_put 26 = .ok (.ifnonnull 18, 3) := dk_199 0 18 (dk_at dksX0_put_1 2 rfl rfl)
theorem dX0_put_29 : decode cX0_put 29 = .ok (.aload_n 0, 1) := dk_42 (dk_at dksX0_put_1 5 rfl rfl)
theorem dX0_put_30 : decode cX0_put 30 = .ok (.invokevirtual 233, 3) := dk_182 0 233 (dk_at dksX0_put_1 6 rfl rfl)
theorem dX0_put_33 : decode cX0_put 33 = .ok (.ifCond .eq 11, 3) := dk_153 0 11 (dk_at dksX0_put_1 9 rfl rfl)
theorem dX0_put_36 : decode cX0_put 36 = .ok (.aload_n 0, 1) := dk_42 (dk_at dksX0_put_1 12 rfl rfl)
theorem dX0_put_37 : decode cX0_put 37 = .ok (.iconst 2, 1) := dk_5 (dk_at dksX0_put_1 13 rfl rfl)
theorem dX0_put_38 : decode cX0_put 38 = .ok (.bipush (-4), 2) := dk_16 252 (dk_at dksX0_put_1 14 rfl rfl)
theorem dX0_put_40 : decode cX0_put 40 = .ok (.invokevirtual 58, 3) := dk_182 0 58 (dk_at dksX0_put_1 16 rfl rfl)
theorem dX0_put_43 : decode cX0_put 43 = .ok (.ireturn, 1) := dk_172 (dk_at dksX0_put_1 19 rfl rfl)
theorem dX0_put_44 : decode cX0_put 44 = .ok (.aload_n 0, 1) := dk_42 (dk_at dksX0_put_1 20 rfl rfl)
theorem dX0_put_45 : decode cX0_put 45 = .ok (.invokevirtual 237, 3) := dk_182 0 237 (dk_at dksX0_put_1 21 rfl rfl)
theorem dX0_put_48 : decode cX0_put 48 = .ok (.aload_n 3, 1) := dk_45 (dk_at dksX0_put_2 0 rfl rfl)
theorem dX0_put_49 : decode cX0_put 49 = .ok (.ifnonnull 11, 3) := dk_199 0 11 (dk_at dksX0_put_2 1 rfl rfl)
theorem dX0_put_52 : decode cX0_put 52 = .ok (.aload_n 0, 1) := dk_42 (dk_at dksX0_put_2 4 rfl rfl)
theorem dX0_put_53 : decode cX0_put 53 = .ok (.iload_n 1, 1) := dk_27 (dk_at dksX0_put_2 5 rfl rfl)
theorem dX0_put_54 : decode cX0_put 54 = .ok (.iload_n 2, 1) := dk_28 (dk_at dksX0_put_2 6 rfl rfl)
theorem dX0_put_55 : decode cX0_put 55 = .ok (.invokevirtual 240, 3) := dk_182 0 240 (dk_at dksX0_put_2 7 rfl rfl)
theorem dX0_put_58 : decode cX0_put 58 = .ok (.iconst (-1), 1) := dk_2 (dk_at dksX0_put_2 10 rfl rfl)
theorem dX0_put_59 : decode cX0_put 59 = .ok (.ireturn, 1) := dk_172 (dk_at dksX0_put_2 11 rfl rfl)
theorem dX0_put_60 : decode cX0_put 60 = .ok (.aload_n 3, 1) := dk_45 (dk_at dksX0_put_2 12 rfl rfl)
theorem dX0_put_61 : decode cX0_put 61 = .ok (.getfield 201, 3) := dk_180 0 201 (dk_at dksX0_put_2 13 rfl rfl)
theorem dX0_put_64 : decode cX0_put 64 = .ok (.istore 4, 2) := dk_54 4 (dk_at dksX0_put_2 16 rfl rfl)
theorem dX0_put_66 : decode cX0_put 66 = .ok (.aload_n 3, 1) := dk_45 (dk_at dksX0_put_2 18 rfl rfl)
theorem dX0_put_67 : decode cX0_put 67 = .ok (.iload_n 2, 1) := dk_28 (dk_at dksX0_put_2 19 rfl rfl)
theorem dX0_put_68 : decode cX0_put 68 = .ok (.putfield 201, 3) := dk_181 0 201 (dk_at dksX0_put_2 20 rfl rfl)
theorem dX0_put_71 : decode cX0_put 71 = .ok (.aload_n 0, 1) := dk_42 (dk_at dksX0_put_2 23 rfl rfl)
theorem dX0_put_72 : decode cX0_put 72 = .ok (.aload_n 3, 1) := dk_45 (dk_at dksX0_put_3 0 rfl rfl)
theorem dX0_put_73 : decode cX0_put 73 = .ok (.invokevirtual 243, 3) := dk_182 0 243 (dk_at dksX0_put_3 1 rfl rfl)
theorem dX0_put_76 : decode cX0_put 76 = .ok (.iload 4, 2) := dk_21 4 (dk_at dksX0_put_3 4 rfl rfl)
theorem dX0_put_78 : decode cX0_put 78 = .ok (.ireturn, 1) := dk_172 (dk_at dksX0_put_3 6 rfl rfl)
abbrev cX0_isKey : ByteArray := prog_1_method_27_code
def yX0_isKey : MethodName := ⟨RX0, "isKey", "(I)Z"⟩
def dkwX0_isKey_0 : List UInt8 := [26, 133, 9, 20, 0, 212, 184, 0, 214, 172]
abbrev dktX0_isKey_0 : List UInt8 := dkwX0_isKey_0 ++ []
theorem dksX0_isKey_0 : cX0_isKey.data.toList.drop 0 = dktX0_isKey_0 := by decide +kernel
theorem dX0_isKey_0 : decode cX0_isKey 0 = .ok (.iload_n 0, 1) := dk_26 (dk_at dksX0_isKey_0 0 rfl rfl)
theorem dX0_isKey_1 : decode cX0_isKey 1 = .ok (.i2l, 1) := dk_133 (dk_at dksX0_isKey_0 1 rfl rfl)
theorem dX0_isKey_2 : decode cX0_isKey 2 = .ok (.lconst 0, 1) := dk_9 (dk_at dksX0_isKey_0 2 rfl rfl)
theorem dX0_isKey_3 : decode cX0_isKey 3 = .ok (.ldc2_w 212, 3) := dk_20 0 212 (dk_at dksX0_isKey_0 3 rfl rfl)
theorem dX0_isKey_6 : decode cX0_isKey 6 = .ok (.invokestatic 214, 3) := dk_184 0 214 (dk_at dksX0_isKey_0 6 rfl rfl)
theorem dX0_isKey_9 : decode cX0_isKey 9 = .ok (.ireturn, 1) := dk_172 (dk_at dksX0_isKey_0 9 rfl rfl)
abbrev cX0_in : ByteArray := prog_1_method_1_code
def yX0_in : MethodName := ⟨RX0, "in", "(JJJ)Z"⟩
def dkwX0_in_0 : List UInt8 := [30, 32, 148, 155, 0, 14, 30, 22, 4, 148, 157, 0, 7, 4, 167, 0, 4, 3, 172]
abbrev dktX0_in_0 : List UInt8 := dkwX0_in_0 ++ []
theorem dksX0_in_0 : cX0_in.data.toList.drop 0 = dktX0_in_0 := by decide +kernel
theorem dX0_in_0 : decode cX0_in 0 = .ok (.lload_n 0, 1) := dk_30 (dk_at dksX0_in_0 0 rfl rfl)
theorem dX0_in_1 : decode cX0_in 1 = .ok (.lload_n 2, 1) := dk_32 (dk_at dksX0_in_0 1 rfl rfl)
theorem dX0_in_2 : decode cX0_in 2 = .ok (.lcmp, 1) := dk_148 (dk_at dksX0_in_0 2 rfl rfl)
theorem dX0_in_3 : decode cX0_in 3 = .ok (.ifCond .lt 14, 3) := dk_155 0 14 (dk_at dksX0_in_0 3 rfl rfl)
theorem dX0_in_6 : decode cX0_in 6 = .ok (.lload_n 0, 1) := dk_30 (dk_at dksX0_in_0 6 rfl rfl)
theorem dX0_in_7 : decode cX0_in 7 = .ok (.lload 4, 2) := dk_22 4 (dk_at dksX0_in_0 7 rfl rfl)
theorem dX0_in_9 : decode cX0_in 9 = .ok (.lcmp, 1) := dk_148 (dk_at dksX0_in_0 9 rfl rfl)
theorem dX0_in_10 : decode cX0_in 10 = .ok (.ifCond .gt 7, 3) := dk_157 0 7 (dk_at dksX0_in_0 10 rfl rfl)
theorem dX0_in_13 : decode cX0_in 13 = .ok (.iconst 1, 1) := dk_4 (dk_at dksX0_in_0 13 rfl rfl)
theorem dX0_in_14 : decode cX0_in 14 = .ok (.goto 4, 3) := dk_167 0 4 (dk_at dksX0_in_0 14 rfl rfl)
theorem dX0_in_17 : decode cX0_in 17 = .ok (.iconst 0, 1) := dk_3 (dk_at dksX0_in_0 17 rfl rfl)
theorem dX0_in_18 : decode cX0_in 18 = .ok (.ireturn, 1) := dk_172 (dk_at dksX0_in_0 18 rfl rfl)
abbrev cX0_isValue : ByteArray := prog_1_method_28_code
def yX0_isValue : MethodName := ⟨RX0, "isValue", "(I)Z"⟩
def dkwX0_isValue_0 : List UInt8 := [26, 133, 9, 20, 0, 218, 184, 0, 214, 172]
abbrev dktX0_isValue_0 : List UInt8 := dkwX0_isValue_0 ++ []
theorem dksX0_isValue_0 : cX0_isValue.data.toList.drop 0 = dktX0_isValue_0 := by decide +kernel
theorem dX0_isValue_0 : decode cX0_isValue 0 = .ok (.iload_n 0, 1) := dk_26 (dk_at dksX0_isValue_0 0 rfl rfl)
theorem dX0_isValue_1 : decode cX0_isValue 1 = .ok (.i2l, 1) := dk_133 (dk_at dksX0_isValue_0 1 rfl rfl)
theorem dX0_isValue_2 : decode cX0_isValue 2 = .ok (.lconst 0, 1) := dk_9 (dk_at dksX0_isValue_0 2 rfl rfl)
theorem dX0_isValue_3 : decode cX0_isValue 3 = .ok (.ldc2_w 218, 3) := dk_20 0 218 (dk_at dksX0_isValue_0 3 rfl rfl)
theorem dX0_isValue_6 : decode cX0_isValue 6 = .ok (.invokestatic 214, 3) := dk_184 0 214 (dk_at dksX0_isValue_0 6 rfl rfl)
theorem dX0_isValue_9 : decode cX0_isValue 9 = .ok (.ireturn, 1) := dk_172 (dk_at dksX0_isValue_0 9 rfl rfl)
abbrev cX0_bad : ByteArray := prog_1_method_5_code
def yX0_bad : MethodName := ⟨RX0, "bad", "()I"⟩
def dkwX0_bad_0 : List UInt8 := [42, 3, 16, 254, 182, 0, 58, 172]
abbrev dktX0_bad_0 : List UInt8 := dkwX0_bad_0 ++ []
theorem dksX0_bad_0 : cX0_bad.data.toList.drop 0 = dktX0_bad_0 := by decide +kernel
theorem dX0_bad_0 : decode cX0_bad 0 = .ok (.aload_n 0, 1) := dk_42 (dk_at dksX0_bad_0 0 rfl rfl)
theorem dX0_bad_1 : decode cX0_bad 1 = .ok (.iconst 0, 1) := dk_3 (dk_at dksX0_bad_0 1 rfl rfl)
theorem dX0_bad_2 : decode cX0_bad 2 = .ok (.bipush (-2), 2) := dk_16 254 (dk_at dksX0_bad_0 2 rfl rfl)
theorem dX0_bad_4 : decode cX0_bad 4 = .ok (.invokevirtual 58, 3) := dk_182 0 58 (dk_at dksX0_bad_0 4 rfl rfl)
theorem dX0_bad_7 : decode cX0_bad 7 = .ok (.ireturn, 1) := dk_172 (dk_at dksX0_bad_0 7 rfl rfl)
abbrev cX0_refuses : ByteArray := prog_1_method_4_code
def yX0_refuses : MethodName := ⟨RX0, "refuses", "(II)I"⟩
def dkwX0_refuses_0 : List UInt8 := [42, 180, 0, 39, 27, 92, 46, 4, 96, 79, 28, 172]
abbrev dktX0_refuses_0 : List UInt8 := dkwX0_refuses_0 ++ []
theorem dksX0_refuses_0 : cX0_refuses.data.toList.drop 0 = dktX0_refuses_0 := by decide +kernel
theorem dX0_refuses_0 : decode cX0_refuses 0 = .ok (.aload_n 0, 1) := dk_42 (dk_at dksX0_refuses_0 0 rfl rfl)
theorem dX0_refuses_1 : decode cX0_refuses 1 = .ok (.getfield 39, 3) := dk_180 0 39 (dk_at dksX0_refuses_0 1 rfl rfl)
theorem dX0_refuses_4 : decode cX0_refuses 4 = .ok (.iload_n 1, 1) := dk_27 (dk_at dksX0_refuses_0 4 rfl rfl)
theorem dX0_refuses_5 : decode cX0_refuses 5 = .ok (.dup2, 1) := dk_92 (dk_at dksX0_refuses_0 5 rfl rfl)
theorem dX0_refuses_6 : decode cX0_refuses 6 = .ok (.iaload, 1) := dk_46 (dk_at dksX0_refuses_0 6 rfl rfl)
theorem dX0_refuses_7 : decode cX0_refuses 7 = .ok (.iconst 1, 1) := dk_4 (dk_at dksX0_refuses_0 7 rfl rfl)
theorem dX0_refuses_8 : decode cX0_refuses 8 = .ok (.iadd, 1) := dk_96 (dk_at dksX0_refuses_0 8 rfl rfl)
theorem dX0_refuses_9 : decode cX0_refuses 9 = .ok (.iastore, 1) := dk_79 (dk_at dksX0_refuses_0 9 rfl rfl)
theorem dX0_refuses_10 : decode cX0_refuses 10 = .ok (.iload_n 2, 1) := dk_28 (dk_at dksX0_refuses_0 10 rfl rfl)
theorem dX0_refuses_11 : decode cX0_refuses 11 = .ok (.ireturn, 1) := dk_172 (dk_at dksX0_refuses_0 11 rfl rfl)
abbrev cX0_found : ByteArray := prog_1_method_12_code
def yX0_found : MethodName := ⟨RX0, "found", "(I)LCrowdedBins$Entry;"⟩
def dkwX0_found_0 : List UInt8 := [42, 27, 182, 0, 80, 42, 27, 182, 0, 73, 27, 182, 0, 84, 176]
abbrev dktX0_found_0 : List UInt8 := dkwX0_found_0 ++ []
theorem dksX0_found_0 : cX0_found.data.toList.drop 0 = dktX0_found_0 := by decide +kernel
theorem dX0_found_0 : decode cX0_found 0 = .ok (.aload_n 0, 1) := dk_42 (dk_at dksX0_found_0 0 rfl rfl)
theorem dX0_found_1 : decode cX0_found 1 = .ok (.iload_n 1, 1) := dk_27 (dk_at dksX0_found_0 1 rfl rfl)
theorem dX0_found_2 : decode cX0_found 2 = .ok (.invokevirtual 80, 3) := dk_182 0 80 (dk_at dksX0_found_0 2 rfl rfl)
theorem dX0_found_5 : decode cX0_found 5 = .ok (.aload_n 0, 1) := dk_42 (dk_at dksX0_found_0 5 rfl rfl)
theorem dX0_found_6 : decode cX0_found 6 = .ok (.iload_n 1, 1) := dk_27 (dk_at dksX0_found_0 6 rfl rfl)
theorem dX0_found_7 : decode cX0_found 7 = .ok (.invokevirtual 73, 3) := dk_182 0 73 (dk_at dksX0_found_0 7 rfl rfl)
theorem dX0_found_10 : decode cX0_found 10 = .ok (.iload_n 1, 1) := dk_27 (dk_at dksX0_found_0 10 rfl rfl)
theorem dX0_found_11 : decode cX0_found 11 = .ok (.invokevirtual 84, 3) := dk_182 0 84 (dk_at dksX0_found_0 11 rfl rfl)
theorem dX0_found_14 : decode cX0_found 14 = .ok (.areturn, 1) := dk_176 (dk_at dksX0_found_0 14 rfl rfl)
abbrev cX0_binWith : ByteArray := prog_1_method_11_code
def yX0_binWith : MethodName := ⟨RX0, "binWith", "(I)LCrowdedBins$Bin;"⟩
def dkwX0_binWith_0 : List UInt8 := [42, 180, 0, 14, 42, 42, 27, 182, 0, 73, 182, 0, 77, 50, 176]
abbrev dktX0_binWith_0 : List UInt8 := dkwX0_binWith_0 ++ []
theorem dksX0_binWith_0 : cX0_binWith.data.toList.drop 0 = dktX0_binWith_0 := by decide +kernel
theorem dX0_binWith_0 : decode cX0_binWith 0 = .ok (.aload_n 0, 1) := dk_42 (dk_at dksX0_binWith_0 0 rfl rfl)
theorem dX0_binWith_1 : decode cX0_binWith 1 = .ok (.getfield 14, 3) := dk_180 0 14 (dk_at dksX0_binWith_0 1 rfl rfl)
theorem dX0_binWith_4 : decode cX0_binWith 4 = .ok (.aload_n 0, 1) := dk_42 (dk_at dksX0_binWith_0 4 rfl rfl)
theorem dX0_binWith_5 : decode cX0_binWith 5 = .ok (.aload_n 0, 1) := dk_42 (dk_at dksX0_binWith_0 5 rfl rfl)
theorem dX0_binWith_6 : decode cX0_binWith 6 = .ok (.iload_n 1, 1) := dk_27 (dk_at dksX0_binWith_0 6 rfl rfl)
theorem dX0_binWith_7 : decode cX0_binWith 7 = .ok (.invokevirtual 73, 3) := dk_182 0 73 (dk_at dksX0_binWith_0 7 rfl rfl)
theorem dX0_binWith_10 : decode cX0_binWith 10 = .ok (.invokevirtual 77, 3) := dk_182 0 77 (dk_at dksX0_binWith_0 10 rfl rfl)
theorem dX0_binWith_13 : decode cX0_binWith 13 = .ok (.aaload, 1) := dk_50 (dk_at dksX0_binWith_0 13 rfl rfl)
theorem dX0_binWith_14 : decode cX0_binWith 14 = .ok (.areturn, 1) := dk_176 (dk_at dksX0_binWith_0 14 rfl rfl)
abbrev cX0_hashOf : ByteArray := prog_1_method_9_code
def yX0_hashOf : MethodName := ⟨RX0, "hashOf", "(I)I"⟩
def dkwX0_hashOf_1 : List UInt8 := [130, 172]
abbrev dktX0_hashOf_1 : List UInt8 := dkwX0_hashOf_1 ++ []
def dkwX0_hashOf_0 : List UInt8 := [27, 133, 42, 180, 0, 18, 133, 105, 42, 180, 0, 68, 133, 97, 20, 0, 71, 127, 136, 61, 28, 28, 7, 122]
abbrev dktX0_hashOf_0 : List UInt8 := dkwX0_hashOf_0 ++ dktX0_hashOf_1
theorem dksX0_hashOf_0 : cX0_hashOf.data.toList.drop 0 = dktX0_hashOf_0 := by decide +kernel
theorem dksX0_hashOf_1 : cX0_hashOf.data.toList.drop 24 = dktX0_hashOf_1 := dk_seg dksX0_hashOf_0 24 rfl rfl
theorem dX0_hashOf_0 : decode cX0_hashOf 0 = .ok (.iload_n 1, 1) := dk_27 (dk_at dksX0_hashOf_0 0 rfl rfl)
theorem dX0_hashOf_1 : decode cX0_hashOf 1 = .ok (.i2l, 1) := dk_133 (dk_at dksX0_hashOf_0 1 rfl rfl)
theorem dX0_hashOf_2 : decode cX0_hashOf 2 = .ok (.aload_n 0, 1) := dk_42 (dk_at dksX0_hashOf_0 2 rfl rfl)
theorem dX0_hashOf_3 : decode cX0_hashOf 3 = .ok (.getfield 18, 3) := dk_180 0 18 (dk_at dksX0_hashOf_0 3 rfl rfl)
theorem dX0_hashOf_6 : decode cX0_hashOf 6 = .ok (.i2l, 1) := dk_133 (dk_at dksX0_hashOf_0 6 rfl rfl)
theorem dX0_hashOf_7 : decode cX0_hashOf 7 = .ok (.lmul, 1) := dk_105 (dk_at dksX0_hashOf_0 7 rfl rfl)
theorem dX0_hashOf_8 : decode cX0_hashOf 8 = .ok (.aload_n 0, 1) := dk_42 (dk_at dksX0_hashOf_0 8 rfl rfl)
theorem dX0_hashOf_9 : decode cX0_hashOf 9 = .ok (.getfield 68, 3) := dk_180 0 68 (dk_at dksX0_hashOf_0 9 rfl rfl)
theorem dX0_hashOf_12 : decode cX0_hashOf 12 = .ok (.i2l, 1) := dk_133 (dk_at dksX0_hashOf_0 12 rfl rfl)
theorem dX0_hashOf_13 : decode cX0_hashOf 13 = .ok (.ladd, 1) := dk_97 (dk_at dksX0_hashOf_0 13 rfl rfl)
theorem dX0_hashOf_14 : decode cX0_hashOf 14 = .ok (.ldc2_w 71, 3) := dk_20 0 71 (dk_at dksX0_hashOf_0 14 rfl rfl)
theorem dX0_hashOf_17 : decode cX0_hashOf 17 = .ok (.land, 1) := dk_127 (dk_at dksX0_hashOf_0 17 rfl rfl)
theorem dX0_hashOf_18 : decode cX0_hashOf 18 = .ok (.l2i, 1) := dk_136 (dk_at dksX0_hashOf_0 18 rfl rfl)
theorem dX0_hashOf_19 : decode cX0_hashOf 19 = .ok (.istore_n 2, 1) := dk_61 (dk_at dksX0_hashOf_0 19 rfl rfl)
theorem dX0_hashOf_20 : decode cX0_hashOf 20 = .ok (.iload_n 2, 1) := dk_28 (dk_at dksX0_hashOf_0 20 rfl rfl)
theorem dX0_hashOf_21 : decode cX0_hashOf 21 = .ok (.iload_n 2, 1) := dk_28 (dk_at dksX0_hashOf_0 21 rfl rfl)
theorem dX0_hashOf_22 : decode cX0_hashOf 22 = .ok (.iconst 4, 1) := dk_7 (dk_at dksX0_hashOf_0 22 rfl rfl)
theorem dX0_hashOf_23 : decode cX0_hashOf 23 = .ok (.ishr, 1) := dk_122 (dk_at dksX0_hashOf_0 23 rfl rfl)
theorem dX0_hashOf_24 : decode cX0_hashOf 24 = .ok (.ixor, 1) := dk_130 (dk_at dksX0_hashOf_1 0 rfl rfl)
theorem dX0_hashOf_25 : decode cX0_hashOf 25 = .ok (.ireturn, 1) := dk_172 (dk_at dksX0_hashOf_1 1 rfl rfl)
abbrev cX0_binOf : ByteArray := prog_1_method_10_code
def yX0_binOf : MethodName := ⟨RX0, "binOf", "(I)I"⟩
def dkwX0_binOf_0 : List UInt8 := [27, 42, 180, 0, 62, 4, 100, 126, 172]
abbrev dktX0_binOf_0 : List UInt8 := dkwX0_binOf_0 ++ []
theorem dksX0_binOf_0 : cX0_binOf.data.toList.drop 0 = dktX0_binOf_0 := by decide +kernel
theorem dX0_binOf_0 : decode cX0_binOf 0 = .ok (.iload_n 1, 1) := dk_27 (dk_at dksX0_binOf_0 0 rfl rfl)
theorem dX0_binOf_1 : decode cX0_binOf 1 = .ok (.aload_n 0, 1) := dk_42 (dk_at dksX0_binOf_0 1 rfl rfl)
theorem dX0_binOf_2 : decode cX0_binOf 2 = .ok (.getfield 62, 3) := dk_180 0 62 (dk_at dksX0_binOf_0 2 rfl rfl)
theorem dX0_binOf_5 : decode cX0_binOf 5 = .ok (.iconst 1, 1) := dk_4 (dk_at dksX0_binOf_0 5 rfl rfl)
theorem dX0_binOf_6 : decode cX0_binOf 6 = .ok (.isub, 1) := dk_100 (dk_at dksX0_binOf_0 6 rfl rfl)
theorem dX0_binOf_7 : decode cX0_binOf 7 = .ok (.iand, 1) := dk_126 (dk_at dksX0_binOf_0 7 rfl rfl)
theorem dX0_binOf_8 : decode cX0_binOf 8 = .ok (.ireturn, 1) := dk_172 (dk_at dksX0_binOf_0 8 rfl rfl)
abbrev cX0_isFull : ByteArray := prog_1_method_29_code
def yX0_isFull : MethodName := ⟨RX0, "isFull", "()Z"⟩
def dkwX0_isFull_0 : List UInt8 := [42, 180, 0, 142, 16, 48, 160, 0, 14, 42, 180, 0, 166, 154, 0, 7, 4, 167, 0, 4, 3, 172]
abbrev dktX0_isFull_0 : List UInt8 := dkwX0_isFull_0 ++ []
theorem dksX0_isFull_0 : cX0_isFull.data.toList.drop 0 = dktX0_isFull_0 := by decide +kernel
theorem dX0_isFull_0 : decode cX0_isFull 0 = .ok (.aload_n 0, 1) := dk_42 (dk_at dksX0_isFull_0 0 rfl rfl)
theorem dX0_isFull_1 : decode cX0_isFull 1 = .ok (.getfield 142, 3) := dk_180 0 142 (dk_at dksX0_isFull_0 1 rfl rfl)
theorem dX0_isFull_4 : decode cX0_isFull 4 = .ok (.bipush 48, 2) := dk_16 48 (dk_at dksX0_isFull_0 4 rfl rfl)
theorem dX0_isFull_6 : decode cX0_isFull 6 = .ok (.if_icmp .ne 14, 3) := dk_160 0 14 (dk_at dksX0_isFull_0 6 rfl rfl)
theorem dX0_isFull_9 : decode cX0_isFull 9 = .ok (.aload_n 0, 1) := dk_42 (dk_at dksX0_isFull_0 9 rfl rfl)
theorem dX0_isFull_10 : decode cX0_isFull 10 = .ok (.getfield 166, 3) := dk_180 0 166 (dk_at dksX0_isFull_0 10 rfl rfl)
theorem dX0_isFull_13 : decode cX0_isFull 13 = .ok (.ifCond .ne 7, 3) := dk_154 0 7 (dk_at dksX0_isFull_0 13 rfl rfl)
theorem dX0_isFull_16 : decode cX0_isFull 16 = .ok (.iconst 1, 1) := dk_4 (dk_at dksX0_isFull_0 16 rfl rfl)
theorem dX0_isFull_17 : decode cX0_isFull 17 = .ok (.goto 4, 3) := dk_167 0 4 (dk_at dksX0_isFull_0 17 rfl rfl)
theorem dX0_isFull_20 : decode cX0_isFull 20 = .ok (.iconst 0, 1) := dk_3 (dk_at dksX0_isFull_0 20 rfl rfl)
theorem dX0_isFull_21 : decode cX0_isFull 21 = .ok (.ireturn, 1) := dk_172 (dk_at dksX0_isFull_0 21 rfl rfl)
abbrev cX0_leaves : ByteArray := prog_1_method_23_code
def yX0_leaves : MethodName := ⟨RX0, "leaves", "()V"⟩
def dkwX0_leaves_3 : List UInt8 := [180, 0, 176, 4, 96, 181, 0, 176, 177]
abbrev dktX0_leaves_3 : List UInt8 := dkwX0_leaves_3 ++ []
def dkwX0_leaves_2 : List UInt8 := [89, 180, 0, 176, 4, 100, 181, 0, 176, 42, 180, 0, 31, 42, 180, 0, 176, 42, 182, 0, 179, 83, 42, 89]
abbrev dktX0_leaves_2 : List UInt8 := dkwX0_leaves_2 ++ dktX0_leaves_3
def dkwX0_leaves_1 : List UInt8 := [162, 0, 23, 42, 180, 0, 31, 27, 4, 100, 42, 180, 0, 31, 27, 50, 83, 132, 1, 1, 167, 255, 233, 42]
abbrev dktX0_leaves_1 : List UInt8 := dkwX0_leaves_1 ++ dktX0_leaves_2
def dkwX0_leaves_0 : List UInt8 := [42, 180, 0, 172, 153, 0, 4, 177, 42, 180, 0, 176, 16, 6, 160, 0, 41, 4, 60, 27, 16, 6]
abbrev dktX0_leaves_0 : List UInt8 := dkwX0_leaves_0 ++ dktX0_leaves_1
theorem dksX0_leaves_0 : cX0_leaves.data.toList.drop 0 = dktX0_leaves_0 := by decide +kernel
theorem dksX0_leaves_1 : cX0_leaves.data.toList.drop 22 = dktX0_leaves_1 := dk_seg dksX0_leaves_0 22 rfl rfl
theorem dksX0_leaves_2 : cX0_leaves.data.toList.drop 46 = dktX0_leaves_2 := dk_seg dksX0_leaves_1 24 rfl rfl
theorem dksX0_leaves_3 : cX0_leaves.data.toList.drop 70 = dktX0_leaves_3 := dk_seg dksX0_leaves_2 24 rfl rfl
theorem dX0_leaves_0 : decode cX0_leaves 0 = .ok (.aload_n 0, 1) := dk_42 (dk_at dksX0_leaves_0 0 rfl rfl)
theorem dX0_leaves_1 : decode cX0_leaves 1 = .ok (.getfield 172, 3) := dk_180 0 172 (dk_at dksX0_leaves_0 1 rfl rfl)
theorem dX0_leaves_4 : decode cX0_leaves 4 = .ok (.ifCond .eq 4, 3) := dk_153 0 4 (dk_at dksX0_leaves_0 4 rfl rfl)
theorem dX0_leaves_7 : decode cX0_leaves 7 = .ok (.return_, 1) := dk_177 (dk_at dksX0_leaves_0 7 rfl rfl)
theorem dX0_leaves_8 : decode cX0_leaves 8 = .ok (.aload_n 0, 1) := dk_42 (dk_at dksX0_leaves_0 8 rfl rfl)
theorem dX0_leaves_9 : decode cX0_leaves 9 = .ok (.getfield 176, 3) := dk_180 0 176 (dk_at dksX0_leaves_0 9 rfl rfl)
theorem dX0_leaves_12 : decode cX0_leaves 12 = .ok (.bipush 6, 2) := dk_16 6 (dk_at dksX0_leaves_0 12 rfl rfl)
theorem dX0_leaves_14 : decode cX0_leaves 14 = .ok (.if_icmp .ne 41, 3) := dk_160 0 41 (dk_at dksX0_leaves_0 14 rfl rfl)
theorem dX0_leaves_17 : decode cX0_leaves 17 = .ok (.iconst 1, 1) := dk_4 (dk_at dksX0_leaves_0 17 rfl rfl)
theorem dX0_leaves_18 : decode cX0_leaves 18 = .ok (.istore_n 1, 1) := dk_60 (dk_at dksX0_leaves_0 18 rfl rfl)
theorem dX0_leaves_19 : decode cX0_leaves 19 = .ok (.iload_n 1, 1) := dk_27 (dk_at dksX0_leaves_0 19 rfl rfl)
theorem dX0_leaves_20 : decode cX0_leaves 20 = .ok (.bipush 6, 2) := dk_16 6 (dk_at dksX0_leaves_0 20 rfl rfl)
theorem dX0_leaves_22 : decode cX0_leaves 22 = .ok (.if_icmp .ge 23, 3) := dk_162 0 23 (dk_at dksX0_leaves_1 0 rfl rfl)
theorem dX0_leaves_25 : decode cX0_leaves 25 = .ok (.aload_n 0, 1) := dk_42 (dk_at dksX0_leaves_1 3 rfl rfl)
theorem dX0_leaves_26 : decode cX0_leaves 26 = .ok (.getfield 31, 3) := dk_180 0 31 (dk_at dksX0_leaves_1 4 rfl rfl)
theorem dX0_leaves_29 : decode cX0_leaves 29 = .ok (.iload_n 1, 1) := dk_27 (dk_at dksX0_leaves_1 7 rfl rfl)
theorem dX0_leaves_30 : decode cX0_leaves 30 = .ok (.iconst 1, 1) := dk_4 (dk_at dksX0_leaves_1 8 rfl rfl)
theorem dX0_leaves_31 : decode cX0_leaves 31 = .ok (.isub, 1) := dk_100 (dk_at dksX0_leaves_1 9 rfl rfl)
theorem dX0_leaves_32 : decode cX0_leaves 32 = .ok (.aload_n 0, 1) := dk_42 (dk_at dksX0_leaves_1 10 rfl rfl)
theorem dX0_leaves_33 : decode cX0_leaves 33 = .ok (.getfield 31, 3) := dk_180 0 31 (dk_at dksX0_leaves_1 11 rfl rfl)
theorem dX0_leaves_36 : decode cX0_leaves 36 = .ok (.iload_n 1, 1) := dk_27 (dk_at dksX0_leaves_1 14 rfl rfl)
theorem dX0_leaves_37 : decode cX0_leaves 37 = .ok (.aaload, 1) := dk_50 (dk_at dksX0_leaves_1 15 rfl rfl)
theorem dX0_leaves_38 : decode cX0_leaves 38 = .ok (.aastore, 1) := dk_83 (dk_at dksX0_leaves_1 16 rfl rfl)
theorem dX0_leaves_39 : decode cX0_leaves 39 = .ok (.iinc 1 1, 3) := dk_132 1 1 (dk_at dksX0_leaves_1 17 rfl rfl)
theorem dX0_leaves_42 : decode cX0_leaves 42 = .ok (.goto (-23), 3) := dk_167 255 233 (dk_at dksX0_leaves_1 20 rfl rfl)
theorem dX0_leaves_45 : decode cX0_leaves 45 = .ok (.aload_n 0, 1) := dk_42 (dk_at dksX0_leaves_1 23 rfl rfl)
theorem dX0_leaves_46 : decode cX0_leaves 46 = .ok (.dup, 1) := dk_89 (dk_at dksX0_leaves_2 0 rfl rfl)
theorem dX0_leaves_47 : decode cX0_leaves 47 = .ok (.getfield 176, 3) := dk_180 0 176 (dk_at dksX0_leaves_2 1 rfl rfl)
theorem dX0_leaves_50 : decode cX0_leaves 50 = .ok (.iconst 1, 1) := dk_4 (dk_at dksX0_leaves_2 4 rfl rfl)
theorem dX0_leaves_51 : decode cX0_leaves 51 = .ok (.isub, 1) := dk_100 (dk_at dksX0_leaves_2 5 rfl rfl)
theorem dX0_leaves_52 : decode cX0_leaves 52 = .ok (.putfield 176, 3) := dk_181 0 176 (dk_at dksX0_leaves_2 6 rfl rfl)
theorem dX0_leaves_55 : decode cX0_leaves 55 = .ok (.aload_n 0, 1) := dk_42 (dk_at dksX0_leaves_2 9 rfl rfl)
theorem dX0_leaves_56 : decode cX0_leaves 56 = .ok (.getfield 31, 3) := dk_180 0 31 (dk_at dksX0_leaves_2 10 rfl rfl)
theorem dX0_leaves_59 : decode cX0_leaves 59 = .ok (.aload_n 0, 1) := dk_42 (dk_at dksX0_leaves_2 13 rfl rfl)
theorem dX0_leaves_60 : decode cX0_leaves 60 = .ok (.getfield 176, 3) := dk_180 0 176 (dk_at dksX0_leaves_2 14 rfl rfl)
theorem dX0_leaves_63 : decode cX0_leaves 63 = .ok (.aload_n 0, 1) := dk_42 (dk_at dksX0_leaves_2 17 rfl rfl)
theorem dX0_leaves_64 : decode cX0_leaves 64 = .ok (.invokevirtual 179, 3) := dk_182 0 179 (dk_at dksX0_leaves_2 18 rfl rfl)
theorem dX0_leaves_67 : decode cX0_leaves 67 = .ok (.aastore, 1) := dk_83 (dk_at dksX0_leaves_2 21 rfl rfl)
theorem dX0_leaves_68 : decode cX0_leaves 68 = .ok (.aload_n 0, 1) := dk_42 (dk_at dksX0_leaves_2 22 rfl rfl)
theorem dX0_leaves_69 : decode cX0_leaves 69 = .ok (.dup, 1) := dk_89 (dk_at dksX0_leaves_2 23 rfl rfl)
theorem dX0_leaves_70 : decode cX0_leaves 70 = .ok (.getfield 176, 3) := dk_180 0 176 (dk_at dksX0_leaves_3 0 rfl rfl)
theorem dX0_leaves_73 : decode cX0_leaves 73 = .ok (.iconst 1, 1) := dk_4 (dk_at dksX0_leaves_3 3 rfl rfl)
theorem dX0_leaves_74 : decode cX0_leaves 74 = .ok (.iadd, 1) := dk_96 (dk_at dksX0_leaves_3 4 rfl rfl)
theorem dX0_leaves_75 : decode cX0_leaves 75 = .ok (.putfield 176, 3) := dk_181 0 176 (dk_at dksX0_leaves_3 5 rfl rfl)
theorem dX0_leaves_78 : decode cX0_leaves 78 = .ok (.return_, 1) := dk_177 (dk_at dksX0_leaves_3 8 rfl rfl)
abbrev cX0_state : ByteArray := prog_1_method_24_code
def yX0_state : MethodName := ⟨RX0, "state", "()LCrowdedBins$State;"⟩
def dkwX0_state_9 : List UInt8 := [42, 180, 0, 166, 181, 0, 207, 43, 176]
abbrev dktX0_state_9 : List UInt8 := dkwX0_state_9 ++ []
def dkwX0_state_8 : List UInt8 := [42, 180, 0, 18, 181, 0, 204, 43, 42, 180, 0, 68, 181, 0, 205, 43, 42, 180, 0, 144, 181, 0, 206, 43]
abbrev dktX0_state_8 : List UInt8 := dkwX0_state_8 ++ dktX0_state_9
def dkwX0_state_7 : List UInt8 := [180, 0, 120, 79, 132, 2, 1, 25, 4, 180, 0, 99, 58, 4, 167, 255, 230, 132, 3, 1, 167, 255, 175, 43]
abbrev dktX0_state_7 : List UInt8 := dkwX0_state_7 ++ dktX0_state_8
def dkwX0_state_6 : List UInt8 := [42, 180, 0, 14, 29, 50, 182, 0, 95, 58, 4, 25, 4, 198, 0, 27, 43, 180, 0, 191, 28, 25, 4]
abbrev dktX0_state_6 : List UInt8 := dkwX0_state_6 ++ dktX0_state_7
def dkwX0_state_5 : List UInt8 := [180, 0, 14, 29, 50, 182, 0, 124, 79, 43, 180, 0, 197, 29, 42, 180, 0, 14, 29, 50, 193, 0, 88, 84]
abbrev dktX0_state_5 : List UInt8 := dkwX0_state_5 ++ dktX0_state_6
def dkwX0_state_4 : List UInt8 := [78, 167, 255, 222, 3, 61, 3, 62, 29, 42, 180, 0, 62, 162, 0, 79, 43, 180, 0, 194, 29, 42]
abbrev dktX0_state_4 : List UInt8 := dkwX0_state_4 ++ dktX0_state_5
def dkwX0_state_3 : List UInt8 := [45, 180, 0, 120, 79, 43, 180, 0, 188, 28, 4, 96, 45, 180, 0, 201, 79, 132, 2, 2, 45, 180, 0, 137]
abbrev dktX0_state_3 : List UInt8 := dkwX0_state_3 ++ dktX0_state_4
def dkwX0_state_2 : List UInt8 := [180, 0, 62, 188, 4, 181, 0, 197, 3, 61, 42, 180, 0, 140, 78, 45, 198, 0, 36, 43, 180, 0, 188, 28]
abbrev dktX0_state_2 : List UInt8 := dkwX0_state_2 ++ dktX0_state_3
def dkwX0_state_1 : List UInt8 := [180, 0, 142, 184, 0, 184, 181, 0, 191, 43, 42, 180, 0, 62, 184, 0, 184, 181, 0, 194, 43, 42]
abbrev dktX0_state_1 : List UInt8 := dkwX0_state_1 ++ dktX0_state_2
def dkwX0_state_0 : List UInt8 := [187, 0, 29, 89, 183, 0, 183, 76, 43, 5, 42, 180, 0, 142, 104, 184, 0, 184, 181, 0, 188, 43, 42]
abbrev dktX0_state_0 : List UInt8 := dkwX0_state_0 ++ dktX0_state_1
theorem dksX0_state_0 : cX0_state.data.toList.drop 0 = dktX0_state_0 := by decide +kernel
theorem dksX0_state_1 : cX0_state.data.toList.drop 23 = dktX0_state_1 := dk_seg dksX0_state_0 23 rfl rfl
theorem dksX0_state_2 : cX0_state.data.toList.drop 45 = dktX0_state_2 := dk_seg dksX0_state_1 22 rfl rfl
theorem dksX0_state_3 : cX0_state.data.toList.drop 69 = dktX0_state_3 := dk_seg dksX0_state_2 24 rfl rfl
theorem dksX0_state_4 : cX0_state.data.toList.drop 93 = dktX0_state_4 := dk_seg dksX0_state_3 24 rfl rfl
theorem dksX0_state_5 : cX0_state.data.toList.drop 115 = dktX0_state_5 := dk_seg dksX0_state_4 22 rfl rfl
theorem dksX0_state_6 : cX0_state.data.toList.drop 139 = dktX0_state_6 := dk_seg dksX0_state_5 24 rfl rfl
theorem dksX0_state_7 : cX0_state.data.toList.drop 162 = dktX0_state_7 := dk_seg dksX0_state_6 23 rfl rfl
theorem dksX0_state_8 : cX0_state.data.toList.drop 186 = dktX0_state_8 := dk_seg dksX0_state_7 24 rfl rfl
theorem dksX0_state_9 : cX0_state.data.toList.drop 210 = dktX0_state_9 := dk_seg dksX0_state_8 24 rfl rfl
theorem dX0_state_0 : decode cX0_state 0 = .ok (.new 29, 3) := dk_187 0 29 (dk_at dksX0_state_0 0 rfl rfl)
theorem dX0_state_3 : decode cX0_state 3 = .ok (.dup, 1) := dk_89 (dk_at dksX0_state_0 3 rfl rfl)
theorem dX0_state_4 : decode cX0_state 4 = .ok (.invokespecial 183, 3) := dk_183 0 183 (dk_at dksX0_state_0 4 rfl rfl)
theorem dX0_state_7 : decode cX0_state 7 = .ok (.astore_n 1, 1) := dk_76 (dk_at dksX0_state_0 7 rfl rfl)
theorem dX0_state_8 : decode cX0_state 8 = .ok (.aload_n 1, 1) := dk_43 (dk_at dksX0_state_0 8 rfl rfl)
theorem dX0_state_9 : decode cX0_state 9 = .ok (.iconst 2, 1) := dk_5 (dk_at dksX0_state_0 9 rfl rfl)
theorem dX0_state_10 : decode cX0_state 10 = .ok (.aload_n 0, 1) := dk_42 (dk_at dksX0_state_0 10 rfl rfl)
theorem dX0_state_11 : decode cX0_state 11 = .ok (.getfield 142, 3) := dk_180 0 142 (dk_at dksX0_state_0 11 rfl rfl)
theorem dX0_state_14 : decode cX0_state 14 = .ok (.imul, 1) := dk_104 (dk_at dksX0_state_0 14 rfl rfl)
theorem dX0_state_15 : decode cX0_state 15 = .ok (.invokestatic 184, 3) := dk_184 0 184 (dk_at dksX0_state_0 15 rfl rfl)
theorem dX0_state_18 : decode cX0_state 18 = .ok (.putfield 188, 3) := dk_181 0 188 (dk_at dksX0_state_0 18 rfl rfl)
theorem dX0_state_21 : decode cX0_state 21 = .ok (.aload_n 1, 1) := dk_43 (dk_at dksX0_state_0 21 rfl rfl)
theorem dX0_state_22 : decode cX0_state 22 = .ok (.aload_n 0, 1) := dk_42 (dk_at dksX0_state_0 22 rfl rfl)
theorem dX0_state_23 : decode cX0_state 23 = .ok (.getfield 142, 3) := dk_180 0 142 (dk_at dksX0_state_1 0 rfl rfl)
theorem dX0_state_26 : decode cX0_state 26 = .ok (.invokestatic 184, 3) := dk_184 0 184 (dk_at dksX0_state_1 3 rfl rfl)
theorem dX0_state_29 : decode cX0_state 29 = .ok (.putfield 191, 3) := dk_181 0 191 (dk_at dksX0_state_1 6 rfl rfl)
theorem dX0_state_32 : decode cX0_state 32 = .ok (.aload_n 1, 1) := dk_43 (dk_at dksX0_state_1 9 rfl rfl)
theorem dX0_state_33 : decode cX0_state 33 = .ok (.aload_n 0, 1) := dk_42 (dk_at dksX0_state_1 10 rfl rfl)
theorem dX0_state_34 : decode cX0_state 34 = .ok (.getfield 62, 3) := dk_180 0 62 (dk_at dksX0_state_1 11 rfl rfl)
theorem dX0_state_37 : decode cX0_state 37 = .ok (.invokestatic 184, 3) := dk_184 0 184 (dk_at dksX0_state_1 14 rfl rfl)
theorem dX0_state_40 : decode cX0_state 40 = .ok (.putfield 194, 3) := dk_181 0 194 (dk_at dksX0_state_1 17 rfl rfl)
theorem dX0_state_43 : decode cX0_state 43 = .ok (.aload_n 1, 1) := dk_43 (dk_at dksX0_state_1 20 rfl rfl)
theorem dX0_state_44 : decode cX0_state 44 = .ok (.aload_n 0, 1) := dk_42 (dk_at dksX0_state_1 21 rfl rfl)
theorem dX0_state_45 : decode cX0_state 45 = .ok (.getfield 62, 3) := dk_180 0 62 (dk_at dksX0_state_2 0 rfl rfl)
theorem dX0_state_48 : decode cX0_state 48 = .ok (.newarray .boolean, 2) := dk_188_4 (dk_at dksX0_state_2 3 rfl rfl)
theorem dX0_state_50 : decode cX0_state 50 = .ok (.putfield 197, 3) := dk_181 0 197 (dk_at dksX0_state_2 5 rfl rfl)
theorem dX0_state_53 : decode cX0_state 53 = .ok (.iconst 0, 1) := dk_3 (dk_at dksX0_state_2 8 rfl rfl)
theorem dX0_state_54 : decode cX0_state 54 = .ok (.istore_n 2, 1) := dk_61 (dk_at dksX0_state_2 9 rfl rfl)
theorem dX0_state_55 : decode cX0_state 55 = .ok (.aload_n 0, 1) := dk_42 (dk_at dksX0_state_2 10 rfl rfl)
theorem dX0_state_56 : decode cX0_state 56 = .ok (.getfield 140, 3) := dk_180 0 140 (dk_at dksX0_state_2 11 rfl rfl)
theorem dX0_state_59 : decode cX0_state 59 = .ok (.astore_n 3, 1) := dk_78 (dk_at dksX0_state_2 14 rfl rfl)
theorem dX0_state_60 : decode cX0_state 60 = .ok (.aload_n 3, 1) := dk_45 (dk_at dksX0_state_2 15 rfl rfl)
theorem dX0_state_61 : decode cX0_state 61 = .ok (.ifnull 36, 3) := dk_198 0 36 (dk_at dksX0_state_2 16 rfl rfl)
theorem dX0_state_64 : decode cX0_state 64 = .ok (.aload_n 1, 1) := dk_43 (dk_at dksX0_state_2 19 rfl rfl)
theorem dX0_state_65 : decode cX0_state 65 = .ok (.getfield 188, 3) := dk_180 0 188 (dk_at dksX0_state_2 20 rfl rfl)
theorem dX0_state_68 : decode cX0_state 68 = .ok (.iload_n 2, 1) := dk_28 (dk_at dksX0_state_2 23 rfl rfl)
theorem dX0_state_69 : decode cX0_state 69 = .ok (.aload_n 3, 1) := dk_45 (dk_at dksX0_state_3 0 rfl rfl)
theorem dX0_state_70 : decode cX0_state 70 = .ok (.getfield 120, 3) := dk_180 0 120 (dk_at dksX0_state_3 1 rfl rfl)
theorem dX0_state_73 : decode cX0_state 73 = .ok (.iastore, 1) := dk_79 (dk_at dksX0_state_3 4 rfl rfl)
theorem dX0_state_74 : decode cX0_state 74 = .ok (.aload_n 1, 1) := dk_43 (dk_at dksX0_state_3 5 rfl rfl)
theorem dX0_state_75 : decode cX0_state 75 = .ok (.getfield 188, 3) := dk_180 0 188 (dk_at dksX0_state_3 6 rfl rfl)
theorem dX0_state_78 : decode cX0_state 78 = .ok (.iload_n 2, 1) := dk_28 (dk_at dksX0_state_3 9 rfl rfl)
theorem dX0_state_79 : decode cX0_state 79 = .ok (.iconst 1, 1) := dk_4 (dk_at dksX0_state_3 10 rfl rfl)
theorem dX0_state_80 : decode cX0_state 80 = .ok (.iadd, 1) := dk_96 (dk_at dksX0_state_3 11 rfl rfl)
theorem dX0_state_81 : decode cX0_state 81 = .ok (.aload_n 3, 1) := dk_45 (dk_at dksX0_state_3 12 rfl rfl)
theorem dX0_state_82 : decode cX0_state 82 = .ok (.getfield 201, 3) := dk_180 0 201 (dk_at dksX0_state_3 13 rfl rfl)
theorem dX0_state_85 : decode cX0_state 85 = .ok (.iastore, 1) := dk_79 (dk_at dksX0_state_3 16 rfl rfl)
theorem dX0_state_86 : decode cX0_state 86 = .ok (.iinc 2 2, 3) := dk_132 2 2 (dk_at dksX0_state_3 17 rfl rfl)
theorem dX0_state_89 : decode cX0_state 89 = .ok (.aload_n 3, 1) := dk_45 (dk_at dksX0_state_3 20 rfl rfl)
theorem dX0_state_90 : decode cX0_state 90 = .ok (.getfield 137, 3) := dk_180 0 137 (dk_at dksX0_state_3 21 rfl rfl)
theorem dX0_state_93 : decode cX0_state 93 = .ok (.astore_n 3, 1) := dk_78 (dk_at dksX0_state_4 0 rfl rfl)
theorem dX0_state_94 : decode cX0_state 94 = .ok (.goto (-34), 3) := dk_167 255 222 (dk_at dksX0_state_4 1 rfl rfl)
theorem dX0_state_97 : decode cX0_state 97 = .ok (.iconst 0, 1) := dk_3 (dk_at dksX0_state_4 4 rfl rfl)
theorem dX0_state_98 : decode cX0_state 98 = .ok (.istore_n 2, 1) := dk_61 (dk_at dksX0_state_4 5 rfl rfl)
theorem dX0_state_99 : decode cX0_state 99 = .ok (.iconst 0, 1) := dk_3 (dk_at dksX0_state_4 6 rfl rfl)
theorem dX0_state_100 : decode cX0_state 100 = .ok (.istore_n 3, 1) := dk_62 (dk_at dksX0_state_4 7 rfl rfl)
theorem dX0_state_101 : decode cX0_state 101 = .ok (.iload_n 3, 1) := dk_29 (dk_at dksX0_state_4 8 rfl rfl)
theorem dX0_state_102 : decode cX0_state 102 = .ok (.aload_n 0, 1) := dk_42 (dk_at dksX0_state_4 9 rfl rfl)
theorem dX0_state_103 : decode cX0_state 103 = .ok (.getfield 62, 3) := dk_180 0 62 (dk_at dksX0_state_4 10 rfl rfl)
theorem dX0_state_106 : decode cX0_state 106 = .ok (.if_icmp .ge 79, 3) := dk_162 0 79 (dk_at dksX0_state_4 13 rfl rfl)
theorem dX0_state_109 : decode cX0_state 109 = .ok (.aload_n 1, 1) := dk_43 (dk_at dksX0_state_4 16 rfl rfl)
theorem dX0_state_110 : decode cX0_state 110 = .ok (.getfield 194, 3) := dk_180 0 194 (dk_at dksX0_state_4 17 rfl rfl)
theorem dX0_state_113 : decode cX0_state 113 = .ok (.iload_n 3, 1) := dk_29 (dk_at dksX0_state_4 20 rfl rfl)
theorem dX0_state_114 : decode cX0_state 114 = .ok (.aload_n 0, 1) := dk_42 (dk_at dksX0_state_4 21 rfl rfl)
theorem dX0_state_115 : decode cX0_state 115 = .ok (.getfield 14, 3) := dk_180 0 14 (dk_at dksX0_state_5 0 rfl rfl)
theorem dX0_state_118 : decode cX0_state 118 = .ok (.iload_n 3, 1) := dk_29 (dk_at dksX0_state_5 3 rfl rfl)
theorem dX0_state_119 : decode cX0_state 119 = .ok (.aaload, 1) := dk_50 (dk_at dksX0_state_5 4 rfl rfl)
theorem dX0_state_120 : decode cX0_state 120 = .ok (.invokevirtual 124, 3) := dk_182 0 124 (dk_at dksX0_state_5 5 rfl rfl)
theorem dX0_state_123 : decode cX0_state 123 = .ok (.iastore, 1) := dk_79 (dk_at dksX0_state_5 8 rfl rfl)
theorem dX0_state_124 : decode cX0_state 124 = .ok (.aload_n 1, 1) := dk_43 (dk_at dksX0_state_5 9 rfl rfl)
theorem dX0_state_125 : decode cX0_state 125 = .ok (.getfield 197, 3) := dk_180 0 197 (dk_at dksX0_state_5 10 rfl rfl)
theorem dX0_state_128 : decode cX0_state 128 = .ok (.iload_n 3, 1) := dk_29 (dk_at dksX0_state_5 13 rfl rfl)
theorem dX0_state_129 : decode cX0_state 129 = .ok (.aload_n 0, 1) := dk_42 (dk_at dksX0_state_5 14 rfl rfl)
theorem dX0_state_130 : decode cX0_state 130 = .ok (.getfield 14, 3) := dk_180 0 14 (dk_at dksX0_state_5 15 rfl rfl)
theorem dX0_state_133 : decode cX0_state 133 = .ok (.iload_n 3, 1) := dk_29 (dk_at dksX0_state_5 18 rfl rfl)
theorem dX0_state_134 : decode cX0_state 134 = .ok (.aaload, 1) := dk_50 (dk_at dksX0_state_5 19 rfl rfl)
theorem dX0_state_135 : decode cX0_state 135 = .ok (.instanceof 88, 3) := dk_193 0 88 (dk_at dksX0_state_5 20 rfl rfl)
theorem dX0_state_138 : decode cX0_state 138 = .ok (.bastore, 1) := dk_84 (dk_at dksX0_state_5 23 rfl rfl)
theorem dX0_state_139 : decode cX0_state 139 = .ok (.aload_n 0, 1) := dk_42 (dk_at dksX0_state_6 0 rfl rfl)
theorem dX0_state_140 : decode cX0_state 140 = .ok (.getfield 14, 3) := dk_180 0 14 (dk_at dksX0_state_6 1 rfl rfl)
theorem dX0_state_143 : decode cX0_state 143 = .ok (.iload_n 3, 1) := dk_29 (dk_at dksX0_state_6 4 rfl rfl)
theorem dX0_state_144 : decode cX0_state 144 = .ok (.aaload, 1) := dk_50 (dk_at dksX0_state_6 5 rfl rfl)
theorem dX0_state_145 : decode cX0_state 145 = .ok (.invokevirtual 95, 3) := dk_182 0 95 (dk_at dksX0_state_6 6 rfl rfl)
theorem dX0_state_148 : decode cX0_state 148 = .ok (.astore 4, 2) := dk_58 4 (dk_at dksX0_state_6 9 rfl rfl)
theorem dX0_state_150 : decode cX0_state 150 = .ok (.aload 4, 2) := dk_25 4 (dk_at dksX0_state_6 11 rfl rfl)
theorem dX0_state_152 : decode cX0_state 152 = .ok (.ifnull 27, 3) := dk_198 0 27 (dk_at dksX0_state_6 13 rfl rfl)
theorem dX0_state_155 : decode cX0_state 155 = .ok (.aload_n 1, 1) := dk_43 (dk_at dksX0_state_6 16 rfl rfl)
theorem dX0_state_156 : decode cX0_state 156 = .ok (.getfield 191, 3) := dk_180 0 191 (dk_at dksX0_state_6 17 rfl rfl)
theorem dX0_state_159 : decode cX0_state 159 = .ok (.iload_n 2, 1) := dk_28 (dk_at dksX0_state_6 20 rfl rfl)
theorem dX0_state_160 : decode cX0_state 160 = .ok (.aload 4, 2) := dk_25 4 (dk_at dksX0_state_6 21 rfl rfl)
theorem dX0_state_162 : decode cX0_state 162 = .ok (.getfield 120, 3) := dk_180 0 120 (dk_at dksX0_state_7 0 rfl rfl)
theorem dX0_state_165 : decode cX0_state 165 = .ok (.iastore, 1) := dk_79 (dk_at dksX0_state_7 3 rfl rfl)
theorem dX0_state_166 : decode cX0_state 166 = .ok (.iinc 2 1, 3) := dk_132 2 1 (dk_at dksX0_state_7 4 rfl rfl)
theorem dX0_state_169 : decode cX0_state 169 = .ok (.aload 4, 2) := dk_25 4 (dk_at dksX0_state_7 7 rfl rfl)
theorem dX0_state_171 : decode cX0_state 171 = .ok (.getfield 99, 3) := dk_180 0 99 (dk_at dksX0_state_7 9 rfl rfl)
theorem dX0_state_174 : decode cX0_state 174 = .ok (.astore 4, 2) := dk_58 4 (dk_at dksX0_state_7 12 rfl rfl)
theorem dX0_state_176 : decode cX0_state 176 = .ok (.goto (-26), 3) := dk_167 255 230 (dk_at dksX0_state_7 14 rfl rfl)
theorem dX0_state_179 : decode cX0_state 179 = .ok (.iinc 3 1, 3) := dk_132 3 1 (dk_at dksX0_state_7 17 rfl rfl)
theorem dX0_state_182 : decode cX0_state 182 = .ok (.goto (-81), 3) := dk_167 255 175 (dk_at dksX0_state_7 20 rfl rfl)
theorem dX0_state_185 : decode cX0_state 185 = .ok (.aload_n 1, 1) := dk_43 (dk_at dksX0_state_7 23 rfl rfl)
theorem dX0_state_186 : decode cX0_state 186 = .ok (.aload_n 0, 1) := dk_42 (dk_at dksX0_state_8 0 rfl rfl)
theorem dX0_state_187 : decode cX0_state 187 = .ok (.getfield 18, 3) := dk_180 0 18 (dk_at dksX0_state_8 1 rfl rfl)
theorem dX0_state_190 : decode cX0_state 190 = .ok (.putfield 204, 3) := dk_181 0 204 (dk_at dksX0_state_8 4 rfl rfl)
theorem dX0_state_193 : decode cX0_state 193 = .ok (.aload_n 1, 1) := dk_43 (dk_at dksX0_state_8 7 rfl rfl)
theorem dX0_state_194 : decode cX0_state 194 = .ok (.aload_n 0, 1) := dk_42 (dk_at dksX0_state_8 8 rfl rfl)
theorem dX0_state_195 : decode cX0_state 195 = .ok (.getfield 68, 3) := dk_180 0 68 (dk_at dksX0_state_8 9 rfl rfl)
theorem dX0_state_198 : decode cX0_state 198 = .ok (.putfield 205, 3) := dk_181 0 205 (dk_at dksX0_state_8 12 rfl rfl)
theorem dX0_state_201 : decode cX0_state 201 = .ok (.aload_n 1, 1) := dk_43 (dk_at dksX0_state_8 15 rfl rfl)
theorem dX0_state_202 : decode cX0_state 202 = .ok (.aload_n 0, 1) := dk_42 (dk_at dksX0_state_8 16 rfl rfl)
theorem dX0_state_203 : decode cX0_state 203 = .ok (.getfield 144, 3) := dk_180 0 144 (dk_at dksX0_state_8 17 rfl rfl)
theorem dX0_state_206 : decode cX0_state 206 = .ok (.putfield 206, 3) := dk_181 0 206 (dk_at dksX0_state_8 20 rfl rfl)
theorem dX0_state_209 : decode cX0_state 209 = .ok (.aload_n 1, 1) := dk_43 (dk_at dksX0_state_8 23 rfl rfl)
theorem dX0_state_210 : decode cX0_state 210 = .ok (.aload_n 0, 1) := dk_42 (dk_at dksX0_state_9 0 rfl rfl)
theorem dX0_state_211 : decode cX0_state 211 = .ok (.getfield 166, 3) := dk_180 0 166 (dk_at dksX0_state_9 1 rfl rfl)
theorem dX0_state_214 : decode cX0_state 214 = .ok (.putfield 207, 3) := dk_181 0 207 (dk_at dksX0_state_9 4 rfl rfl)
theorem dX0_state_217 : decode cX0_state 217 = .ok (.aload_n 1, 1) := dk_43 (dk_at dksX0_state_9 7 rfl rfl)
theorem dX0_state_218 : decode cX0_state 218 = .ok (.areturn, 1) := dk_176 (dk_at dksX0_state_9 8 rfl rfl)
abbrev cX0_sized : ByteArray := prog_1_method_22_code
def yX0_sized : MethodName := ⟨RX0, "sized", "(I)[I"⟩
theorem dX0_sized_0 : decode cX0_sized 0 = .ok (.iload_n 0, 1) := by decide +kernel
theorem dX0_sized_1 : decode cX0_sized 1 = .ok (.newarray .int, 2) := by decide +kernel
theorem dX0_sized_3 : decode cX0_sized 3 = .ok (.areturn, 1) := by decide +kernel
abbrev cX0_comesNew : ByteArray := prog_1_method_21_code
def yX0_comesNew : MethodName := ⟨RX0, "comesNew", "(II)V"⟩
def dkwX0_comesNew_2 : List UInt8 := [180, 0, 166, 164, 0, 11, 42, 42, 180, 0, 140, 182, 0, 169, 177]
abbrev dktX0_comesNew_2 : List UInt8 := dkwX0_comesNew_2 ++ []
def dkwX0_comesNew_1 : List UInt8 := [42, 89, 180, 0, 153, 4, 96, 181, 0, 153, 42, 180, 0, 166, 158, 0, 22, 42, 180, 0, 142, 42]
abbrev dktX0_comesNew_1 : List UInt8 := dkwX0_comesNew_1 ++ dktX0_comesNew_2
def dkwX0_comesNew_0 : List UInt8 := [187, 0, 100, 89, 27, 28, 183, 0, 159, 78, 42, 45, 182, 0, 150, 42, 45, 42, 180, 0, 142, 182, 0, 162]
abbrev dktX0_comesNew_0 : List UInt8 := dkwX0_comesNew_0 ++ dktX0_comesNew_1
theorem dksX0_comesNew_0 : cX0_comesNew.data.toList.drop 0 = dktX0_comesNew_0 := by decide +kernel
theorem dksX0_comesNew_1 : cX0_comesNew.data.toList.drop 24 = dktX0_comesNew_1 := dk_seg dksX0_comesNew_0 24 rfl rfl
theorem dksX0_comesNew_2 : cX0_comesNew.data.toList.drop 46 = dktX0_comesNew_2 := dk_seg dksX0_comesNew_1 22 rfl rfl
theorem dX0_comesNew_0 : decode cX0_comesNew 0 = .ok (.new 100, 3) := dk_187 0 100 (dk_at dksX0_comesNew_0 0 rfl rfl)
theorem dX0_comesNew_3 : decode cX0_comesNew 3 = .ok (.dup, 1) := dk_89 (dk_at dksX0_comesNew_0 3 rfl rfl)
theorem dX0_comesNew_4 : decode cX0_comesNew 4 = .ok (.iload_n 1, 1) := dk_27 (dk_at dksX0_comesNew_0 4 rfl rfl)
theorem dX0_comesNew_5 : decode cX0_comesNew 5 = .ok (.iload_n 2, 1) := dk_28 (dk_at dksX0_comesNew_0 5 rfl rfl)
theorem dX0_comesNew_6 : decode cX0_comesNew 6 = .ok (.invokespecial 159, 3) := dk_183 0 159 (dk_at dksX0_comesNew_0 6 rfl rfl)
theorem dX0_comesNew_9 : decode cX0_comesNew 9 = .ok (.astore_n 3, 1) := dk_78 (dk_at dksX0_comesNew_0 9 rfl rfl)
theorem dX0_comesNew_10 : decode cX0_comesNew 10 = .ok (.aload_n 0, 1) := dk_42 (dk_at dksX0_comesNew_0 10 rfl rfl)
theorem dX0_comesNew_11 : decode cX0_comesNew 11 = .ok (.aload_n 3, 1) := dk_45 (dk_at dksX0_comesNew_0 11 rfl rfl)
theorem dX0_comesNew_12 : decode cX0_comesNew 12 = .ok (.invokevirtual 150, 3) := dk_182 0 150 (dk_at dksX0_comesNew_0 12 rfl rfl)
theorem dX0_comesNew_15 : decode cX0_comesNew 15 = .ok (.aload_n 0, 1) := dk_42 (dk_at dksX0_comesNew_0 15 rfl rfl)
theorem dX0_comesNew_16 : decode cX0_comesNew 16 = .ok (.aload_n 3, 1) := dk_45 (dk_at dksX0_comesNew_0 16 rfl rfl)
theorem dX0_comesNew_17 : decode cX0_comesNew 17 = .ok (.aload_n 0, 1) := dk_42 (dk_at dksX0_comesNew_0 17 rfl rfl)
theorem dX0_comesNew_18 : decode cX0_comesNew 18 = .ok (.getfield 142, 3) := dk_180 0 142 (dk_at dksX0_comesNew_0 18 rfl rfl)
theorem dX0_comesNew_21 : decode cX0_comesNew 21 = .ok (.invokevirtual 162, 3) := dk_182 0 162 (dk_at dksX0_comesNew_0 21 rfl rfl)
theorem dX0_comesNew_24 : decode cX0_comesNew 24 = .ok (.aload_n 0, 1) := dk_42 (dk_at dksX0_comesNew_1 0 rfl rfl)
theorem dX0_comesNew_25 : decode cX0_comesNew 25 = .ok (.dup, 1) := dk_89 (dk_at dksX0_comesNew_1 1 rfl rfl)
theorem dX0_comesNew_26 : decode cX0_comesNew 26 = .ok (.getfield 153, 3) := dk_180 0 153 (dk_at dksX0_comesNew_1 2 rfl rfl)
theorem dX0_comesNew_29 : decode cX0_comesNew 29 = .ok (.iconst 1, 1) := dk_4 (dk_at dksX0_comesNew_1 5 rfl rfl)
theorem dX0_comesNew_30 : decode cX0_comesNew 30 = .ok (.iadd, 1) := dk_96 (dk_at dksX0_comesNew_1 6 rfl rfl)
theorem dX0_comesNew_31 : decode cX0_comesNew 31 = .ok (.putfield 153, 3) := dk_181 0 153 (dk_at dksX0_comesNew_1 7 rfl rfl)
theorem dX0_comesNew_34 : decode cX0_comesNew 34 = .ok (.aload_n 0, 1) := dk_42 (dk_at dksX0_comesNew_1 10 rfl rfl)
theorem dX0_comesNew_35 : decode cX0_comesNew 35 = .ok (.getfield 166, 3) := dk_180 0 166 (dk_at dksX0_comesNew_1 11 rfl rfl)
theorem dX0_comesNew_38 : decode cX0_comesNew 38 = .ok (.ifCond .le 22, 3) := dk_158 0 22 (dk_at dksX0_comesNew_1 14 rfl rfl)
theorem dX0_comesNew_41 : decode cX0_comesNew 41 = .ok (.aload_n 0, 1) := dk_42 (dk_at dksX0_comesNew_1 17 rfl rfl)
theorem dX0_comesNew_42 : decode cX0_comesNew 42 = .ok (.getfield 142, 3) := dk_180 0 142 (dk_at dksX0_comesNew_1 18 rfl rfl)
theorem dX0_comesNew_45 : decode cX0_comesNew 45 = .ok (.aload_n 0, 1) := dk_42 (dk_at dksX0_comesNew_1 21 rfl rfl)
theorem dX0_comesNew_46 : decode cX0_comesNew 46 = .ok (.getfield 166, 3) := dk_180 0 166 (dk_at dksX0_comesNew_2 0 rfl rfl)
theorem dX0_comesNew_49 : decode cX0_comesNew 49 = .ok (.if_icmp .le 11, 3) := dk_164 0 11 (dk_at dksX0_comesNew_2 3 rfl rfl)
theorem dX0_comesNew_52 : decode cX0_comesNew 52 = .ok (.aload_n 0, 1) := dk_42 (dk_at dksX0_comesNew_2 6 rfl rfl)
theorem dX0_comesNew_53 : decode cX0_comesNew 53 = .ok (.aload_n 0, 1) := dk_42 (dk_at dksX0_comesNew_2 7 rfl rfl)
theorem dX0_comesNew_54 : decode cX0_comesNew 54 = .ok (.getfield 140, 3) := dk_180 0 140 (dk_at dksX0_comesNew_2 8 rfl rfl)
theorem dX0_comesNew_57 : decode cX0_comesNew 57 = .ok (.invokevirtual 169, 3) := dk_182 0 169 (dk_at dksX0_comesNew_2 11 rfl rfl)
theorem dX0_comesNew_60 : decode cX0_comesNew 60 = .ok (.return_, 1) := dk_177 (dk_at dksX0_comesNew_2 14 rfl rfl)
abbrev cX0_links : ByteArray := prog_1_method_17_code
def yX0_links : MethodName := ⟨RX0, "links", "(LCrowdedBins$Entry;)V"⟩
def dkwX0_links_2 : List UInt8 := [4, 96, 181, 0, 142, 177]
abbrev dktX0_links_2 : List UInt8 := dkwX0_links_2 ++ []
def dkwX0_links_1 : List UInt8 := [181, 0, 140, 167, 0, 11, 42, 180, 0, 131, 43, 181, 0, 137, 42, 43, 181, 0, 131, 42, 89, 180, 0, 142]
abbrev dktX0_links_1 : List UInt8 := dkwX0_links_1 ++ dktX0_links_2
def dkwX0_links_0 : List UInt8 := [43, 42, 180, 0, 131, 181, 0, 134, 43, 1, 181, 0, 137, 42, 180, 0, 131, 199, 0, 11, 42, 43]
abbrev dktX0_links_0 : List UInt8 := dkwX0_links_0 ++ dktX0_links_1
theorem dksX0_links_0 : cX0_links.data.toList.drop 0 = dktX0_links_0 := by decide +kernel
theorem dksX0_links_1 : cX0_links.data.toList.drop 22 = dktX0_links_1 := dk_seg dksX0_links_0 22 rfl rfl
theorem dksX0_links_2 : cX0_links.data.toList.drop 46 = dktX0_links_2 := dk_seg dksX0_links_1 24 rfl rfl
theorem dX0_links_0 : decode cX0_links 0 = .ok (.aload_n 1, 1) := dk_43 (dk_at dksX0_links_0 0 rfl rfl)
theorem dX0_links_1 : decode cX0_links 1 = .ok (.aload_n 0, 1) := dk_42 (dk_at dksX0_links_0 1 rfl rfl)
theorem dX0_links_2 : decode cX0_links 2 = .ok (.getfield 131, 3) := dk_180 0 131 (dk_at dksX0_links_0 2 rfl rfl)
theorem dX0_links_5 : decode cX0_links 5 = .ok (.putfield 134, 3) := dk_181 0 134 (dk_at dksX0_links_0 5 rfl rfl)
theorem dX0_links_8 : decode cX0_links 8 = .ok (.aload_n 1, 1) := dk_43 (dk_at dksX0_links_0 8 rfl rfl)
theorem dX0_links_9 : decode cX0_links 9 = .ok (.aconst_null, 1) := dk_1 (dk_at dksX0_links_0 9 rfl rfl)
theorem dX0_links_10 : decode cX0_links 10 = .ok (.putfield 137, 3) := dk_181 0 137 (dk_at dksX0_links_0 10 rfl rfl)
theorem dX0_links_13 : decode cX0_links 13 = .ok (.aload_n 0, 1) := dk_42 (dk_at dksX0_links_0 13 rfl rfl)
theorem dX0_links_14 : decode cX0_links 14 = .ok (.getfield 131, 3) := dk_180 0 131 (dk_at dksX0_links_0 14 rfl rfl)
theorem dX0_links_17 : decode cX0_links 17 = .ok (.ifnonnull 11, 3) := dk_199 0 11 (dk_at dksX0_links_0 17 rfl rfl)
theorem dX0_links_20 : decode cX0_links 20 = .ok (.aload_n 0, 1) := dk_42 (dk_at dksX0_links_0 20 rfl rfl)
theorem dX0_links_21 : decode cX0_links 21 = .ok (.aload_n 1, 1) := dk_43 (dk_at dksX0_links_0 21 rfl rfl)
theorem dX0_links_22 : decode cX0_links 22 = .ok (.putfield 140, 3) := dk_181 0 140 (dk_at dksX0_links_1 0 rfl rfl)
theorem dX0_links_25 : decode cX0_links 25 = .ok (.goto 11, 3) := dk_167 0 11 (dk_at dksX0_links_1 3 rfl rfl)
theorem dX0_links_28 : decode cX0_links 28 = .ok (.aload_n 0, 1) := dk_42 (dk_at dksX0_links_1 6 rfl rfl)
theorem dX0_links_29 : decode cX0_links 29 = .ok (.getfield 131, 3) := dk_180 0 131 (dk_at dksX0_links_1 7 rfl rfl)
theorem dX0_links_32 : decode cX0_links 32 = .ok (.aload_n 1, 1) := dk_43 (dk_at dksX0_links_1 10 rfl rfl)
theorem dX0_links_33 : decode cX0_links 33 = .ok (.putfield 137, 3) := dk_181 0 137 (dk_at dksX0_links_1 11 rfl rfl)
theorem dX0_links_36 : decode cX0_links 36 = .ok (.aload_n 0, 1) := dk_42 (dk_at dksX0_links_1 14 rfl rfl)
theorem dX0_links_37 : decode cX0_links 37 = .ok (.aload_n 1, 1) := dk_43 (dk_at dksX0_links_1 15 rfl rfl)
theorem dX0_links_38 : decode cX0_links 38 = .ok (.putfield 131, 3) := dk_181 0 131 (dk_at dksX0_links_1 16 rfl rfl)
theorem dX0_links_41 : decode cX0_links 41 = .ok (.aload_n 0, 1) := dk_42 (dk_at dksX0_links_1 19 rfl rfl)
theorem dX0_links_42 : decode cX0_links 42 = .ok (.dup, 1) := dk_89 (dk_at dksX0_links_1 20 rfl rfl)
theorem dX0_links_43 : decode cX0_links 43 = .ok (.getfield 142, 3) := dk_180 0 142 (dk_at dksX0_links_1 21 rfl rfl)
theorem dX0_links_46 : decode cX0_links 46 = .ok (.iconst 1, 1) := dk_4 (dk_at dksX0_links_2 0 rfl rfl)
theorem dX0_links_47 : decode cX0_links 47 = .ok (.iadd, 1) := dk_96 (dk_at dksX0_links_2 1 rfl rfl)
theorem dX0_links_48 : decode cX0_links 48 = .ok (.putfield 142, 3) := dk_181 0 142 (dk_at dksX0_links_2 2 rfl rfl)
theorem dX0_links_51 : decode cX0_links 51 = .ok (.return_, 1) := dk_177 (dk_at dksX0_links_2 5 rfl rfl)
abbrev cX0_comesIn : ByteArray := prog_1_method_15_code
def yX0_comesIn : MethodName := ⟨RX0, "comesIn", "(LCrowdedBins$Entry;I)V"⟩
def dkwX0_comesIn_4 : List UInt8 := [180, 0, 62, 7, 108, 6, 104, 164, 0, 16, 42, 180, 0, 62, 16, 64, 162, 0, 7, 42, 182, 0, 125, 177]
abbrev dktX0_comesIn_4 : List UInt8 := dkwX0_comesIn_4 ++ []
def dkwX0_comesIn_3 : List UInt8 := [182, 0, 125, 167, 0, 19, 42, 180, 0, 14, 29, 42, 180, 0, 14, 29, 50, 4, 184, 0, 116, 83, 28, 42]
abbrev dktX0_comesIn_3 : List UInt8 := dkwX0_comesIn_3 ++ dktX0_comesIn_4
def dkwX0_comesIn_2 : List UInt8 := [180, 0, 14, 29, 50, 182, 0, 124, 8, 164, 0, 35, 42, 180, 0, 62, 16, 16, 162, 0, 10, 42]
abbrev dktX0_comesIn_2 : List UInt8 := dkwX0_comesIn_2 ++ dktX0_comesIn_3
def dkwX0_comesIn_1 : List UInt8 := [180, 0, 14, 29, 50, 43, 182, 0, 123, 42, 180, 0, 14, 29, 50, 193, 0, 65, 153, 0, 48, 42]
abbrev dktX0_comesIn_1 : List UInt8 := dkwX0_comesIn_1 ++ dktX0_comesIn_2
def dkwX0_comesIn_0 : List UInt8 := [43, 42, 43, 180, 0, 120, 182, 0, 73, 181, 0, 105, 42, 43, 180, 0, 105, 182, 0, 77, 62, 42]
abbrev dktX0_comesIn_0 : List UInt8 := dkwX0_comesIn_0 ++ dktX0_comesIn_1
theorem dksX0_comesIn_0 : cX0_comesIn.data.toList.drop 0 = dktX0_comesIn_0 := by decide +kernel
theorem dksX0_comesIn_1 : cX0_comesIn.data.toList.drop 22 = dktX0_comesIn_1 := dk_seg dksX0_comesIn_0 22 rfl rfl
theorem dksX0_comesIn_2 : cX0_comesIn.data.toList.drop 44 = dktX0_comesIn_2 := dk_seg dksX0_comesIn_1 22 rfl rfl
theorem dksX0_comesIn_3 : cX0_comesIn.data.toList.drop 66 = dktX0_comesIn_3 := dk_seg dksX0_comesIn_2 22 rfl rfl
theorem dksX0_comesIn_4 : cX0_comesIn.data.toList.drop 90 = dktX0_comesIn_4 := dk_seg dksX0_comesIn_3 24 rfl rfl
theorem dX0_comesIn_0 : decode cX0_comesIn 0 = .ok (.aload_n 1, 1) := dk_43 (dk_at dksX0_comesIn_0 0 rfl rfl)
theorem dX0_comesIn_1 : decode cX0_comesIn 1 = .ok (.aload_n 0, 1) := dk_42 (dk_at dksX0_comesIn_0 1 rfl rfl)
theorem dX0_comesIn_2 : decode cX0_comesIn 2 = .ok (.aload_n 1, 1) := dk_43 (dk_at dksX0_comesIn_0 2 rfl rfl)
theorem dX0_comesIn_3 : decode cX0_comesIn 3 = .ok (.getfield 120, 3) := dk_180 0 120 (dk_at dksX0_comesIn_0 3 rfl rfl)
theorem dX0_comesIn_6 : decode cX0_comesIn 6 = .ok (.invokevirtual 73, 3) := dk_182 0 73 (dk_at dksX0_comesIn_0 6 rfl rfl)
theorem dX0_comesIn_9 : decode cX0_comesIn 9 = .ok (.putfield 105, 3) := dk_181 0 105 (dk_at dksX0_comesIn_0 9 rfl rfl)
theorem dX0_comesIn_12 : decode cX0_comesIn 12 = .ok (.aload_n 0, 1) := dk_42 (dk_at dksX0_comesIn_0 12 rfl rfl)
theorem dX0_comesIn_13 : decode cX0_comesIn 13 = .ok (.aload_n 1, 1) := dk_43 (dk_at dksX0_comesIn_0 13 rfl rfl)
theorem dX0_comesIn_14 : decode cX0_comesIn 14 = .ok (.getfield 105, 3) := dk_180 0 105 (dk_at dksX0_comesIn_0 14 rfl rfl)
theorem dX0_comesIn_17 : decode cX0_comesIn 17 = .ok (.invokevirtual 77, 3) := dk_182 0 77 (dk_at dksX0_comesIn_0 17 rfl rfl)
theorem dX0_comesIn_20 : decode cX0_comesIn 20 = .ok (.istore_n 3, 1) := dk_62 (dk_at dksX0_comesIn_0 20 rfl rfl)
theorem dX0_comesIn_21 : decode cX0_comesIn 21 = .ok (.aload_n 0, 1) := dk_42 (dk_at dksX0_comesIn_0 21 rfl rfl)
theorem dX0_comesIn_22 : decode cX0_comesIn 22 = .ok (.getfield 14, 3) := dk_180 0 14 (dk_at dksX0_comesIn_1 0 rfl rfl)
theorem dX0_comesIn_25 : decode cX0_comesIn 25 = .ok (.iload_n 3, 1) := dk_29 (dk_at dksX0_comesIn_1 3 rfl rfl)
theorem dX0_comesIn_26 : decode cX0_comesIn 26 = .ok (.aaload, 1) := dk_50 (dk_at dksX0_comesIn_1 4 rfl rfl)
theorem dX0_comesIn_27 : decode cX0_comesIn 27 = .ok (.aload_n 1, 1) := dk_43 (dk_at dksX0_comesIn_1 5 rfl rfl)
theorem dX0_comesIn_28 : decode cX0_comesIn 28 = .ok (.invokevirtual 123, 3) := dk_182 0 123 (dk_at dksX0_comesIn_1 6 rfl rfl)
theorem dX0_comesIn_31 : decode cX0_comesIn 31 = .ok (.aload_n 0, 1) := dk_42 (dk_at dksX0_comesIn_1 9 rfl rfl)
theorem dX0_comesIn_32 : decode cX0_comesIn 32 = .ok (.getfield 14, 3) := dk_180 0 14 (dk_at dksX0_comesIn_1 10 rfl rfl)
theorem dX0_comesIn_35 : decode cX0_comesIn 35 = .ok (.iload_n 3, 1) := dk_29 (dk_at dksX0_comesIn_1 13 rfl rfl)
theorem dX0_comesIn_36 : decode cX0_comesIn 36 = .ok (.aaload, 1) := dk_50 (dk_at dksX0_comesIn_1 14 rfl rfl)
theorem dX0_comesIn_37 : decode cX0_comesIn 37 = .ok (.instanceof 65, 3) := dk_193 0 65 (dk_at dksX0_comesIn_1 15 rfl rfl)
theorem dX0_comesIn_40 : decode cX0_comesIn 40 = .ok (.ifCond .eq 48, 3) := dk_153 0 48 (dk_at dksX0_comesIn_1 18 rfl rfl)
theorem dX0_comesIn_43 : decode cX0_comesIn 43 = .ok (.aload_n 0, 1) := dk_42 (dk_at dksX0_comesIn_1 21 rfl rfl)
theorem dX0_comesIn_44 : decode cX0_comesIn 44 = .ok (.getfield 14, 3) := dk_180 0 14 (dk_at dksX0_comesIn_2 0 rfl rfl)
theorem dX0_comesIn_47 : decode cX0_comesIn 47 = .ok (.iload_n 3, 1) := dk_29 (dk_at dksX0_comesIn_2 3 rfl rfl)
theorem dX0_comesIn_48 : decode cX0_comesIn 48 = .ok (.aaload, 1) := dk_50 (dk_at dksX0_comesIn_2 4 rfl rfl)
theorem dX0_comesIn_49 : decode cX0_comesIn 49 = .ok (.invokevirtual 124, 3) := dk_182 0 124 (dk_at dksX0_comesIn_2 5 rfl rfl)
theorem dX0_comesIn_52 : decode cX0_comesIn 52 = .ok (.iconst 5, 1) := dk_8 (dk_at dksX0_comesIn_2 8 rfl rfl)
theorem dX0_comesIn_53 : decode cX0_comesIn 53 = .ok (.if_icmp .le 35, 3) := dk_164 0 35 (dk_at dksX0_comesIn_2 9 rfl rfl)
theorem dX0_comesIn_56 : decode cX0_comesIn 56 = .ok (.aload_n 0, 1) := dk_42 (dk_at dksX0_comesIn_2 12 rfl rfl)
theorem dX0_comesIn_57 : decode cX0_comesIn 57 = .ok (.getfield 62, 3) := dk_180 0 62 (dk_at dksX0_comesIn_2 13 rfl rfl)
theorem dX0_comesIn_60 : decode cX0_comesIn 60 = .ok (.bipush 16, 2) := dk_16 16 (dk_at dksX0_comesIn_2 16 rfl rfl)
theorem dX0_comesIn_62 : decode cX0_comesIn 62 = .ok (.if_icmp .ge 10, 3) := dk_162 0 10 (dk_at dksX0_comesIn_2 18 rfl rfl)
theorem dX0_comesIn_65 : decode cX0_comesIn 65 = .ok (.aload_n 0, 1) := dk_42 (dk_at dksX0_comesIn_2 21 rfl rfl)
theorem dX0_comesIn_66 : decode cX0_comesIn 66 = .ok (.invokevirtual 125, 3) := dk_182 0 125 (dk_at dksX0_comesIn_3 0 rfl rfl)
theorem dX0_comesIn_69 : decode cX0_comesIn 69 = .ok (.goto 19, 3) := dk_167 0 19 (dk_at dksX0_comesIn_3 3 rfl rfl)
theorem dX0_comesIn_72 : decode cX0_comesIn 72 = .ok (.aload_n 0, 1) := dk_42 (dk_at dksX0_comesIn_3 6 rfl rfl)
theorem dX0_comesIn_73 : decode cX0_comesIn 73 = .ok (.getfield 14, 3) := dk_180 0 14 (dk_at dksX0_comesIn_3 7 rfl rfl)
theorem dX0_comesIn_76 : decode cX0_comesIn 76 = .ok (.iload_n 3, 1) := dk_29 (dk_at dksX0_comesIn_3 10 rfl rfl)
theorem dX0_comesIn_77 : decode cX0_comesIn 77 = .ok (.aload_n 0, 1) := dk_42 (dk_at dksX0_comesIn_3 11 rfl rfl)
theorem dX0_comesIn_78 : decode cX0_comesIn 78 = .ok (.getfield 14, 3) := dk_180 0 14 (dk_at dksX0_comesIn_3 12 rfl rfl)
theorem dX0_comesIn_81 : decode cX0_comesIn 81 = .ok (.iload_n 3, 1) := dk_29 (dk_at dksX0_comesIn_3 15 rfl rfl)
theorem dX0_comesIn_82 : decode cX0_comesIn 82 = .ok (.aaload, 1) := dk_50 (dk_at dksX0_comesIn_3 16 rfl rfl)
theorem dX0_comesIn_83 : decode cX0_comesIn 83 = .ok (.iconst 1, 1) := dk_4 (dk_at dksX0_comesIn_3 17 rfl rfl)
theorem dX0_comesIn_84 : decode cX0_comesIn 84 = .ok (.invokestatic 116, 3) := dk_184 0 116 (dk_at dksX0_comesIn_3 18 rfl rfl)
theorem dX0_comesIn_87 : decode cX0_comesIn 87 = .ok (.aastore, 1) := dk_83 (dk_at dksX0_comesIn_3 21 rfl rfl)
theorem dX0_comesIn_88 : decode cX0_comesIn 88 = .ok (.iload_n 2, 1) := dk_28 (dk_at dksX0_comesIn_3 22 rfl rfl)
theorem dX0_comesIn_89 : decode cX0_comesIn 89 = .ok (.aload_n 0, 1) := dk_42 (dk_at dksX0_comesIn_3 23 rfl rfl)
theorem dX0_comesIn_90 : decode cX0_comesIn 90 = .ok (.getfield 62, 3) := dk_180 0 62 (dk_at dksX0_comesIn_4 0 rfl rfl)
theorem dX0_comesIn_93 : decode cX0_comesIn 93 = .ok (.iconst 4, 1) := dk_7 (dk_at dksX0_comesIn_4 3 rfl rfl)
theorem dX0_comesIn_94 : decode cX0_comesIn 94 = .ok (.idiv, 1) := dk_108 (dk_at dksX0_comesIn_4 4 rfl rfl)
theorem dX0_comesIn_95 : decode cX0_comesIn 95 = .ok (.iconst 3, 1) := dk_6 (dk_at dksX0_comesIn_4 5 rfl rfl)
theorem dX0_comesIn_96 : decode cX0_comesIn 96 = .ok (.imul, 1) := dk_104 (dk_at dksX0_comesIn_4 6 rfl rfl)
theorem dX0_comesIn_97 : decode cX0_comesIn 97 = .ok (.if_icmp .le 16, 3) := dk_164 0 16 (dk_at dksX0_comesIn_4 7 rfl rfl)
theorem dX0_comesIn_100 : decode cX0_comesIn 100 = .ok (.aload_n 0, 1) := dk_42 (dk_at dksX0_comesIn_4 10 rfl rfl)
theorem dX0_comesIn_101 : decode cX0_comesIn 101 = .ok (.getfield 62, 3) := dk_180 0 62 (dk_at dksX0_comesIn_4 11 rfl rfl)
theorem dX0_comesIn_104 : decode cX0_comesIn 104 = .ok (.bipush 64, 2) := dk_16 64 (dk_at dksX0_comesIn_4 14 rfl rfl)
theorem dX0_comesIn_106 : decode cX0_comesIn 106 = .ok (.if_icmp .ge 7, 3) := dk_162 0 7 (dk_at dksX0_comesIn_4 16 rfl rfl)
theorem dX0_comesIn_109 : decode cX0_comesIn 109 = .ok (.aload_n 0, 1) := dk_42 (dk_at dksX0_comesIn_4 19 rfl rfl)
theorem dX0_comesIn_110 : decode cX0_comesIn 110 = .ok (.invokevirtual 125, 3) := dk_182 0 125 (dk_at dksX0_comesIn_4 20 rfl rfl)
theorem dX0_comesIn_113 : decode cX0_comesIn 113 = .ok (.return_, 1) := dk_177 (dk_at dksX0_comesIn_4 23 rfl rfl)
abbrev cX0_grows : ByteArray := prog_1_method_14_code
def yX0_grows : MethodName := ⟨RX0, "grows", "()V"⟩
def dkwX0_grows_7 : List UInt8 := [184, 0, 116, 167, 0, 5, 25, 6, 83, 132, 2, 1, 167, 255, 98, 177]
abbrev dktX0_grows_7 : List UInt8 := dkwX0_grows_7 ++ []
def dkwX0_grows_6 : List UInt8 := [180, 0, 14, 28, 27, 96, 21, 4, 153, 0, 21, 25, 6, 182, 0, 112, 5, 164, 0, 12, 25, 6, 4]
abbrev dktX0_grows_6 : List UInt8 := dkwX0_grows_6 ++ dktX0_grows_7
def dkwX0_grows_5 : List UInt8 := [25, 5, 182, 0, 112, 5, 164, 0, 12, 25, 5, 4, 184, 0, 116, 167, 0, 5, 25, 5, 83, 42]
abbrev dktX0_grows_5 : List UInt8 := dkwX0_grows_5 ++ dktX0_grows_6
def dkwX0_grows_4 : List UInt8 := [25, 6, 25, 7, 182, 0, 108, 25, 8, 58, 7, 167, 255, 210, 42, 180, 0, 14, 28, 21, 4, 153, 0, 21]
abbrev dktX0_grows_4 : List UInt8 := dkwX0_grows_4 ++ dktX0_grows_5
def dkwX0_grows_3 : List UInt8 := [42, 25, 7, 180, 0, 105, 182, 0, 77, 28, 160, 0, 13, 25, 5, 25, 7, 182, 0, 108, 167, 0, 10]
abbrev dktX0_grows_3 : List UInt8 := dkwX0_grows_3 ++ dktX0_grows_4
def dkwX0_grows_2 : List UInt8 := [89, 183, 0, 67, 58, 6, 45, 182, 0, 95, 58, 7, 25, 7, 198, 0, 47, 25, 7, 180, 0, 99, 58, 8]
abbrev dktX0_grows_2 : List UInt8 := dkwX0_grows_2 ++ dktX0_grows_3
def dkwX0_grows_1 : List UInt8 := [180, 0, 14, 28, 50, 78, 45, 193, 0, 88, 54, 4, 187, 0, 65, 89, 183, 0, 67, 58, 5, 187, 0, 65]
abbrev dktX0_grows_1 : List UInt8 := dkwX0_grows_1 ++ dktX0_grows_2
def dkwX0_grows_0 : List UInt8 := [42, 180, 0, 62, 60, 42, 89, 180, 0, 62, 5, 104, 181, 0, 62, 3, 61, 28, 27, 162, 0, 159, 42]
abbrev dktX0_grows_0 : List UInt8 := dkwX0_grows_0 ++ dktX0_grows_1
theorem dksX0_grows_0 : cX0_grows.data.toList.drop 0 = dktX0_grows_0 := by decide +kernel
theorem dksX0_grows_1 : cX0_grows.data.toList.drop 23 = dktX0_grows_1 := dk_seg dksX0_grows_0 23 rfl rfl
theorem dksX0_grows_2 : cX0_grows.data.toList.drop 47 = dktX0_grows_2 := dk_seg dksX0_grows_1 24 rfl rfl
theorem dksX0_grows_3 : cX0_grows.data.toList.drop 71 = dktX0_grows_3 := dk_seg dksX0_grows_2 24 rfl rfl
theorem dksX0_grows_4 : cX0_grows.data.toList.drop 94 = dktX0_grows_4 := dk_seg dksX0_grows_3 23 rfl rfl
theorem dksX0_grows_5 : cX0_grows.data.toList.drop 118 = dktX0_grows_5 := dk_seg dksX0_grows_4 24 rfl rfl
theorem dksX0_grows_6 : cX0_grows.data.toList.drop 140 = dktX0_grows_6 := dk_seg dksX0_grows_5 22 rfl rfl
theorem dksX0_grows_7 : cX0_grows.data.toList.drop 163 = dktX0_grows_7 := dk_seg dksX0_grows_6 23 rfl rfl
theorem dX0_grows_0 : decode cX0_grows 0 = .ok (.aload_n 0, 1) := dk_42 (dk_at dksX0_grows_0 0 rfl rfl)
theorem dX0_grows_1 : decode cX0_grows 1 = .ok (.getfield 62, 3) := dk_180 0 62 (dk_at dksX0_grows_0 1 rfl rfl)
theorem dX0_grows_4 : decode cX0_grows 4 = .ok (.istore_n 1, 1) := dk_60 (dk_at dksX0_grows_0 4 rfl rfl)
theorem dX0_grows_5 : decode cX0_grows 5 = .ok (.aload_n 0, 1) := dk_42 (dk_at dksX0_grows_0 5 rfl rfl)
theorem dX0_grows_6 : decode cX0_grows 6 = .ok (.dup, 1) := dk_89 (dk_at dksX0_grows_0 6 rfl rfl)
theorem dX0_grows_7 : decode cX0_grows 7 = .ok (.getfield 62, 3) := dk_180 0 62 (dk_at dksX0_grows_0 7 rfl rfl)
theorem dX0_grows_10 : decode cX0_grows 10 = .ok (.iconst 2, 1) := dk_5 (dk_at dksX0_grows_0 10 rfl rfl)
theorem dX0_grows_11 : decode cX0_grows 11 = .ok (.imul, 1) := dk_104 (dk_at dksX0_grows_0 11 rfl rfl)
theorem dX0_grows_12 : decode cX0_grows 12 = .ok (.putfield 62, 3) := dk_181 0 62 (dk_at dksX0_grows_0 12 rfl rfl)
theorem dX0_grows_15 : decode cX0_grows 15 = .ok (.iconst 0, 1) := dk_3 (dk_at dksX0_grows_0 15 rfl rfl)
theorem dX0_grows_16 : decode cX0_grows 16 = .ok (.istore_n 2, 1) := dk_61 (dk_at dksX0_grows_0 16 rfl rfl)
theorem dX0_grows_17 : decode cX0_grows 17 = .ok (.iload_n 2, 1) := dk_28 (dk_at dksX0_grows_0 17 rfl rfl)
theorem dX0_grows_18 : decode cX0_grows 18 = .ok (.iload_n 1, 1) := dk_27 (dk_at dksX0_grows_0 18 rfl rfl)
theorem dX0_grows_19 : decode cX0_grows 19 = .ok (.if_icmp .ge 159, 3) := dk_162 0 159 (dk_at dksX0_grows_0 19 rfl rfl)
theorem dX0_grows_22 : decode cX0_grows 22 = .ok (.aload_n 0, 1) := dk_42 (dk_at dksX0_grows_0 22 rfl rfl)
theorem dX0_grows_23 : decode cX0_grows 23 = .ok (.getfield 14, 3) := dk_180 0 14 (dk_at dksX0_grows_1 0 rfl rfl)
theorem dX0_grows_26 : decode cX0_grows 26 = .ok (.iload_n 2, 1) := dk_28 (dk_at dksX0_grows_1 3 rfl rfl)
theorem dX0_grows_27 : decode cX0_grows 27 = .ok (.aaload, 1) := dk_50 (dk_at dksX0_grows_1 4 rfl rfl)
theorem dX0_grows_28 : decode cX0_grows 28 = .ok (.astore_n 3, 1) := dk_78 (dk_at dksX0_grows_1 5 rfl rfl)
theorem dX0_grows_29 : decode cX0_grows 29 = .ok (.aload_n 3, 1) := dk_45 (dk_at dksX0_grows_1 6 rfl rfl)
theorem dX0_grows_30 : decode cX0_grows 30 = .ok (.instanceof 88, 3) := dk_193 0 88 (dk_at dksX0_grows_1 7 rfl rfl)
theorem dX0_grows_33 : decode cX0_grows 33 = .ok (.istore 4, 2) := dk_54 4 (dk_at dksX0_grows_1 10 rfl rfl)
theorem dX0_grows_35 : decode cX0_grows 35 = .ok (.new 65, 3) := dk_187 0 65 (dk_at dksX0_grows_1 12 rfl rfl)
theorem dX0_grows_38 : decode cX0_grows 38 = .ok (.dup, 1) := dk_89 (dk_at dksX0_grows_1 15 rfl rfl)
theorem dX0_grows_39 : decode cX0_grows 39 = .ok (.invokespecial 67, 3) := dk_183 0 67 (dk_at dksX0_grows_1 16 rfl rfl)
theorem dX0_grows_42 : decode cX0_grows 42 = .ok (.astore 5, 2) := dk_58 5 (dk_at dksX0_grows_1 19 rfl rfl)
theorem dX0_grows_44 : decode cX0_grows 44 = .ok (.new 65, 3) := dk_187 0 65 (dk_at dksX0_grows_1 21 rfl rfl)
theorem dX0_grows_47 : decode cX0_grows 47 = .ok (.dup, 1) := dk_89 (dk_at dksX0_grows_2 0 rfl rfl)
theorem dX0_grows_48 : decode cX0_grows 48 = .ok (.invokespecial 67, 3) := dk_183 0 67 (dk_at dksX0_grows_2 1 rfl rfl)
theorem dX0_grows_51 : decode cX0_grows 51 = .ok (.astore 6, 2) := dk_58 6 (dk_at dksX0_grows_2 4 rfl rfl)
theorem dX0_grows_53 : decode cX0_grows 53 = .ok (.aload_n 3, 1) := dk_45 (dk_at dksX0_grows_2 6 rfl rfl)
theorem dX0_grows_54 : decode cX0_grows 54 = .ok (.invokevirtual 95, 3) := dk_182 0 95 (dk_at dksX0_grows_2 7 rfl rfl)
theorem dX0_grows_57 : decode cX0_grows 57 = .ok (.astore 7, 2) := dk_58 7 (dk_at dksX0_grows_2 10 rfl rfl)
theorem dX0_grows_59 : decode cX0_grows 59 = .ok (.aload 7, 2) := dk_25 7 (dk_at dksX0_grows_2 12 rfl rfl)
theorem dX0_grows_61 : decode cX0_grows 61 = .ok (.ifnull 47, 3) := dk_198 0 47 (dk_at dksX0_grows_2 14 rfl rfl)
theorem dX0_grows_64 : decode cX0_grows 64 = .ok (.aload 7, 2) := dk_25 7 (dk_at dksX0_grows_2 17 rfl rfl)
theorem dX0_grows_66 : decode cX0_grows 66 = .ok (.getfield 99, 3) := dk_180 0 99 (dk_at dksX0_grows_2 19 rfl rfl)
theorem dX0_grows_69 : decode cX0_grows 69 = .ok (.astore 8, 2) := dk_58 8 (dk_at dksX0_grows_2 22 rfl rfl)
theorem dX0_grows_71 : decode cX0_grows 71 = .ok (.aload_n 0, 1) := dk_42 (dk_at dksX0_grows_3 0 rfl rfl)
theorem dX0_grows_72 : decode cX0_grows 72 = .ok (.aload 7, 2) := dk_25 7 (dk_at dksX0_grows_3 1 rfl rfl)
theorem dX0_grows_74 : decode cX0_grows 74 = .ok (.getfield 105, 3) := dk_180 0 105 (dk_at dksX0_grows_3 3 rfl rfl)
theorem dX0_grows_77 : decode cX0_grows 77 = .ok (.invokevirtual 77, 3) := dk_182 0 77 (dk_at dksX0_grows_3 6 rfl rfl)
theorem dX0_grows_80 : decode cX0_grows 80 = .ok (.iload_n 2, 1) := dk_28 (dk_at dksX0_grows_3 9 rfl rfl)
theorem dX0_grows_81 : decode cX0_grows 81 = .ok (.if_icmp .ne 13, 3) := dk_160 0 13 (dk_at dksX0_grows_3 10 rfl rfl)
theorem dX0_grows_84 : decode cX0_grows 84 = .ok (.aload 5, 2) := dk_25 5 (dk_at dksX0_grows_3 13 rfl rfl)
theorem dX0_grows_86 : decode cX0_grows 86 = .ok (.aload 7, 2) := dk_25 7 (dk_at dksX0_grows_3 15 rfl rfl)
theorem dX0_grows_88 : decode cX0_grows 88 = .ok (.invokevirtual 108, 3) := dk_182 0 108 (dk_at dksX0_grows_3 17 rfl rfl)
theorem dX0_grows_91 : decode cX0_grows 91 = .ok (.goto 10, 3) := dk_167 0 10 (dk_at dksX0_grows_3 20 rfl rfl)
theorem dX0_grows_94 : decode cX0_grows 94 = .ok (.aload 6, 2) := dk_25 6 (dk_at dksX0_grows_4 0 rfl rfl)
theorem dX0_grows_96 : decode cX0_grows 96 = .ok (.aload 7, 2) := dk_25 7 (dk_at dksX0_grows_4 2 rfl rfl)
theorem dX0_grows_98 : decode cX0_grows 98 = .ok (.invokevirtual 108, 3) := dk_182 0 108 (dk_at dksX0_grows_4 4 rfl rfl)
theorem dX0_grows_101 : decode cX0_grows 101 = .ok (.aload 8, 2) := dk_25 8 (dk_at dksX0_grows_4 7 rfl rfl)
theorem dX0_grows_103 : decode cX0_grows 103 = .ok (.astore 7, 2) := dk_58 7 (dk_at dksX0_grows_4 9 rfl rfl)
theorem dX0_grows_105 : decode cX0_grows 105 = .ok (.goto (-46), 3) := dk_167 255 210 (dk_at dksX0_grows_4 11 rfl rfl)
theorem dX0_grows_108 : decode cX0_grows 108 = .ok (.aload_n 0, 1) := dk_42 (dk_at dksX0_grows_4 14 rfl rfl)
theorem dX0_grows_109 : decode cX0_grows 109 = .ok (.getfield 14, 3) := dk_180 0 14 (dk_at dksX0_grows_4 15 rfl rfl)
theorem dX0_grows_112 : decode cX0_grows 112 = .ok (.iload_n 2, 1) := dk_28 (dk_at dksX0_grows_4 18 rfl rfl)
theorem dX0_grows_113 : decode cX0_grows 113 = .ok (.iload 4, 2) := dk_21 4 (dk_at dksX0_grows_4 19 rfl rfl)
theorem dX0_grows_115 : decode cX0_grows 115 = .ok (.ifCond .eq 21, 3) := dk_153 0 21 (dk_at dksX0_grows_4 21 rfl rfl)
theorem dX0_grows_118 : decode cX0_grows 118 = .ok (.aload 5, 2) := dk_25 5 (dk_at dksX0_grows_5 0 rfl rfl)
theorem dX0_grows_120 : decode cX0_grows 120 = .ok (.invokevirtual 112, 3) := dk_182 0 112 (dk_at dksX0_grows_5 2 rfl rfl)
theorem dX0_grows_123 : decode cX0_grows 123 = .ok (.iconst 2, 1) := dk_5 (dk_at dksX0_grows_5 5 rfl rfl)
theorem dX0_grows_124 : decode cX0_grows 124 = .ok (.if_icmp .le 12, 3) := dk_164 0 12 (dk_at dksX0_grows_5 6 rfl rfl)
theorem dX0_grows_127 : decode cX0_grows 127 = .ok (.aload 5, 2) := dk_25 5 (dk_at dksX0_grows_5 9 rfl rfl)
theorem dX0_grows_129 : decode cX0_grows 129 = .ok (.iconst 1, 1) := dk_4 (dk_at dksX0_grows_5 11 rfl rfl)
theorem dX0_grows_130 : decode cX0_grows 130 = .ok (.invokestatic 116, 3) := dk_184 0 116 (dk_at dksX0_grows_5 12 rfl rfl)
theorem dX0_grows_133 : decode cX0_grows 133 = .ok (.goto 5, 3) := dk_167 0 5 (dk_at dksX0_grows_5 15 rfl rfl)
theorem dX0_grows_136 : decode cX0_grows 136 = .ok (.aload 5, 2) := dk_25 5 (dk_at dksX0_grows_5 18 rfl rfl)
theorem dX0_grows_138 : decode cX0_grows 138 = .ok (.aastore, 1) := dk_83 (dk_at dksX0_grows_5 20 rfl rfl)
theorem dX0_grows_139 : decode cX0_grows 139 = .ok (.aload_n 0, 1) := dk_42 (dk_at dksX0_grows_5 21 rfl rfl)
theorem dX0_grows_140 : decode cX0_grows 140 = .ok (.getfield 14, 3) := dk_180 0 14 (dk_at dksX0_grows_6 0 rfl rfl)
theorem dX0_grows_143 : decode cX0_grows 143 = .ok (.iload_n 2, 1) := dk_28 (dk_at dksX0_grows_6 3 rfl rfl)
theorem dX0_grows_144 : decode cX0_grows 144 = .ok (.iload_n 1, 1) := dk_27 (dk_at dksX0_grows_6 4 rfl rfl)
theorem dX0_grows_145 : decode cX0_grows 145 = .ok (.iadd, 1) := dk_96 (dk_at dksX0_grows_6 5 rfl rfl)
theorem dX0_grows_146 : decode cX0_grows 146 = .ok (.iload 4, 2) := dk_21 4 (dk_at dksX0_grows_6 6 rfl rfl)
theorem dX0_grows_148 : decode cX0_grows 148 = .ok (.ifCond .eq 21, 3) := dk_153 0 21 (dk_at dksX0_grows_6 8 rfl rfl)
theorem dX0_grows_151 : decode cX0_grows 151 = .ok (.aload 6, 2) := dk_25 6 (dk_at dksX0_grows_6 11 rfl rfl)
theorem dX0_grows_153 : decode cX0_grows 153 = .ok (.invokevirtual 112, 3) := dk_182 0 112 (dk_at dksX0_grows_6 13 rfl rfl)
theorem dX0_grows_156 : decode cX0_grows 156 = .ok (.iconst 2, 1) := dk_5 (dk_at dksX0_grows_6 16 rfl rfl)
theorem dX0_grows_157 : decode cX0_grows 157 = .ok (.if_icmp .le 12, 3) := dk_164 0 12 (dk_at dksX0_grows_6 17 rfl rfl)
theorem dX0_grows_160 : decode cX0_grows 160 = .ok (.aload 6, 2) := dk_25 6 (dk_at dksX0_grows_6 20 rfl rfl)
theorem dX0_grows_162 : decode cX0_grows 162 = .ok (.iconst 1, 1) := dk_4 (dk_at dksX0_grows_6 22 rfl rfl)
theorem dX0_grows_163 : decode cX0_grows 163 = .ok (.invokestatic 116, 3) := dk_184 0 116 (dk_at dksX0_grows_7 0 rfl rfl)
theorem dX0_grows_166 : decode cX0_grows 166 = .ok (.goto 5, 3) := dk_167 0 5 (dk_at dksX0_grows_7 3 rfl rfl)
theorem dX0_grows_169 : decode cX0_grows 169 = .ok (.aload 6, 2) := dk_25 6 (dk_at dksX0_grows_7 6 rfl rfl)
theorem dX0_grows_171 : decode cX0_grows 171 = .ok (.aastore, 1) := dk_83 (dk_at dksX0_grows_7 8 rfl rfl)
theorem dX0_grows_172 : decode cX0_grows 172 = .ok (.iinc 2 1, 3) := dk_132 2 1 (dk_at dksX0_grows_7 9 rfl rfl)
theorem dX0_grows_175 : decode cX0_grows 175 = .ok (.goto (-158), 3) := dk_167 255 98 (dk_at dksX0_grows_7 12 rfl rfl)
theorem dX0_grows_178 : decode cX0_grows 178 = .ok (.return_, 1) := dk_177 (dk_at dksX0_grows_7 15 rfl rfl)
abbrev cX0_as : ByteArray := prog_1_method_13_code
def yX0_as : MethodName := ⟨RX0, "as", "(LCrowdedBins$Bin;Z)LCrowdedBins$Bin;"⟩
def dkwX0_as_1 : List UInt8 := [182, 0, 91, 44, 176]
abbrev dktX0_as_1 : List UInt8 := dkwX0_as_1 ++ []
def dkwX0_as_0 : List UInt8 := [27, 153, 0, 13, 187, 0, 88, 89, 183, 0, 90, 167, 0, 10, 187, 0, 65, 89, 183, 0, 67, 77, 44, 42]
abbrev dktX0_as_0 : List UInt8 := dkwX0_as_0 ++ dktX0_as_1
theorem dksX0_as_0 : cX0_as.data.toList.drop 0 = dktX0_as_0 := by decide +kernel
theorem dksX0_as_1 : cX0_as.data.toList.drop 24 = dktX0_as_1 := dk_seg dksX0_as_0 24 rfl rfl
theorem dX0_as_0 : decode cX0_as 0 = .ok (.iload_n 1, 1) := dk_27 (dk_at dksX0_as_0 0 rfl rfl)
theorem dX0_as_1 : decode cX0_as 1 = .ok (.ifCond .eq 13, 3) := dk_153 0 13 (dk_at dksX0_as_0 1 rfl rfl)
theorem dX0_as_4 : decode cX0_as 4 = .ok (.new 88, 3) := dk_187 0 88 (dk_at dksX0_as_0 4 rfl rfl)
theorem dX0_as_7 : decode cX0_as 7 = .ok (.dup, 1) := dk_89 (dk_at dksX0_as_0 7 rfl rfl)
theorem dX0_as_8 : decode cX0_as 8 = .ok (.invokespecial 90, 3) := dk_183 0 90 (dk_at dksX0_as_0 8 rfl rfl)
theorem dX0_as_11 : decode cX0_as 11 = .ok (.goto 10, 3) := dk_167 0 10 (dk_at dksX0_as_0 11 rfl rfl)
theorem dX0_as_14 : decode cX0_as 14 = .ok (.new 65, 3) := dk_187 0 65 (dk_at dksX0_as_0 14 rfl rfl)
theorem dX0_as_17 : decode cX0_as 17 = .ok (.dup, 1) := dk_89 (dk_at dksX0_as_0 17 rfl rfl)
theorem dX0_as_18 : decode cX0_as 18 = .ok (.invokespecial 67, 3) := dk_183 0 67 (dk_at dksX0_as_0 18 rfl rfl)
theorem dX0_as_21 : decode cX0_as 21 = .ok (.astore_n 2, 1) := dk_77 (dk_at dksX0_as_0 21 rfl rfl)
theorem dX0_as_22 : decode cX0_as 22 = .ok (.aload_n 2, 1) := dk_44 (dk_at dksX0_as_0 22 rfl rfl)
theorem dX0_as_23 : decode cX0_as 23 = .ok (.aload_n 0, 1) := dk_42 (dk_at dksX0_as_0 23 rfl rfl)
theorem dX0_as_24 : decode cX0_as 24 = .ok (.invokevirtual 91, 3) := dk_182 0 91 (dk_at dksX0_as_1 0 rfl rfl)
theorem dX0_as_27 : decode cX0_as 27 = .ok (.aload_n 2, 1) := dk_44 (dk_at dksX0_as_1 3 rfl rfl)
theorem dX0_as_28 : decode cX0_as 28 = .ok (.areturn, 1) := dk_176 (dk_at dksX0_as_1 4 rfl rfl)
abbrev cX0_leavesOne : ByteArray := prog_1_method_20_code
def yX0_leavesOne : MethodName := ⟨RX0, "leavesOne", "(LCrowdedBins$Entry;)V"⟩
def dkwX0_leavesOne_0 : List UInt8 := [42, 43, 182, 0, 147, 42, 43, 182, 0, 156, 42, 89, 180, 0, 153, 4, 96, 181, 0, 153, 177]
abbrev dktX0_leavesOne_0 : List UInt8 := dkwX0_leavesOne_0 ++ []
theorem dksX0_leavesOne_0 : cX0_leavesOne.data.toList.drop 0 = dktX0_leavesOne_0 := by decide +kernel
theorem dX0_leavesOne_0 : decode cX0_leavesOne 0 = .ok (.aload_n 0, 1) := dk_42 (dk_at dksX0_leavesOne_0 0 rfl rfl)
theorem dX0_leavesOne_1 : decode cX0_leavesOne 1 = .ok (.aload_n 1, 1) := dk_43 (dk_at dksX0_leavesOne_0 1 rfl rfl)
theorem dX0_leavesOne_2 : decode cX0_leavesOne 2 = .ok (.invokevirtual 147, 3) := dk_182 0 147 (dk_at dksX0_leavesOne_0 2 rfl rfl)
theorem dX0_leavesOne_5 : decode cX0_leavesOne 5 = .ok (.aload_n 0, 1) := dk_42 (dk_at dksX0_leavesOne_0 5 rfl rfl)
theorem dX0_leavesOne_6 : decode cX0_leavesOne 6 = .ok (.aload_n 1, 1) := dk_43 (dk_at dksX0_leavesOne_0 6 rfl rfl)
theorem dX0_leavesOne_7 : decode cX0_leavesOne 7 = .ok (.invokevirtual 156, 3) := dk_182 0 156 (dk_at dksX0_leavesOne_0 7 rfl rfl)
theorem dX0_leavesOne_10 : decode cX0_leavesOne 10 = .ok (.aload_n 0, 1) := dk_42 (dk_at dksX0_leavesOne_0 10 rfl rfl)
theorem dX0_leavesOne_11 : decode cX0_leavesOne 11 = .ok (.dup, 1) := dk_89 (dk_at dksX0_leavesOne_0 11 rfl rfl)
theorem dX0_leavesOne_12 : decode cX0_leavesOne 12 = .ok (.getfield 153, 3) := dk_180 0 153 (dk_at dksX0_leavesOne_0 12 rfl rfl)
theorem dX0_leavesOne_15 : decode cX0_leavesOne 15 = .ok (.iconst 1, 1) := dk_4 (dk_at dksX0_leavesOne_0 15 rfl rfl)
theorem dX0_leavesOne_16 : decode cX0_leavesOne 16 = .ok (.iadd, 1) := dk_96 (dk_at dksX0_leavesOne_0 16 rfl rfl)
theorem dX0_leavesOne_17 : decode cX0_leavesOne 17 = .ok (.putfield 153, 3) := dk_181 0 153 (dk_at dksX0_leavesOne_0 17 rfl rfl)
theorem dX0_leavesOne_20 : decode cX0_leavesOne 20 = .ok (.return_, 1) := dk_177 (dk_at dksX0_leavesOne_0 20 rfl rfl)
abbrev cX0_unlinks : ByteArray := prog_1_method_18_code
def yX0_unlinks : MethodName := ⟨RX0, "unlinks", "(LCrowdedBins$Entry;)V"⟩
def dkwX0_unlinks_2 : List UInt8 := [43, 180, 0, 137, 43, 180, 0, 134, 181, 0, 134, 42, 89, 180, 0, 142, 4, 100, 181, 0, 142, 177]
abbrev dktX0_unlinks_2 : List UInt8 := dkwX0_unlinks_2 ++ []
def dkwX0_unlinks_1 : List UInt8 := [180, 0, 137, 181, 0, 137, 43, 180, 0, 137, 199, 0, 14, 42, 43, 180, 0, 134, 181, 0, 131, 167, 0, 14]
abbrev dktX0_unlinks_1 : List UInt8 := dkwX0_unlinks_1 ++ dktX0_unlinks_2
def dkwX0_unlinks_0 : List UInt8 := [43, 180, 0, 134, 199, 0, 14, 42, 43, 180, 0, 137, 181, 0, 140, 167, 0, 14, 43, 180, 0, 134, 43]
abbrev dktX0_unlinks_0 : List UInt8 := dkwX0_unlinks_0 ++ dktX0_unlinks_1
theorem dksX0_unlinks_0 : cX0_unlinks.data.toList.drop 0 = dktX0_unlinks_0 := by decide +kernel
theorem dksX0_unlinks_1 : cX0_unlinks.data.toList.drop 23 = dktX0_unlinks_1 := dk_seg dksX0_unlinks_0 23 rfl rfl
theorem dksX0_unlinks_2 : cX0_unlinks.data.toList.drop 47 = dktX0_unlinks_2 := dk_seg dksX0_unlinks_1 24 rfl rfl
theorem dX0_unlinks_0 : decode cX0_unlinks 0 = .ok (.aload_n 1, 1) := dk_43 (dk_at dksX0_unlinks_0 0 rfl rfl)
theorem dX0_unlinks_1 : decode cX0_unlinks 1 = .ok (.getfield 134, 3) := dk_180 0 134 (dk_at dksX0_unlinks_0 1 rfl rfl)
theorem dX0_unlinks_4 : decode cX0_unlinks 4 = .ok (.ifnonnull 14, 3) := dk_199 0 14 (dk_at dksX0_unlinks_0 4 rfl rfl)
theorem dX0_unlinks_7 : decode cX0_unlinks 7 = .ok (.aload_n 0, 1) := dk_42 (dk_at dksX0_unlinks_0 7 rfl rfl)
theorem dX0_unlinks_8 : decode cX0_unlinks 8 = .ok (.aload_n 1, 1) := dk_43 (dk_at dksX0_unlinks_0 8 rfl rfl)
theorem dX0_unlinks_9 : decode cX0_unlinks 9 = .ok (.getfield 137, 3) := dk_180 0 137 (dk_at dksX0_unlinks_0 9 rfl rfl)
theorem dX0_unlinks_12 : decode cX0_unlinks 12 = .ok (.putfield 140, 3) := dk_181 0 140 (dk_at dksX0_unlinks_0 12 rfl rfl)
theorem dX0_unlinks_15 : decode cX0_unlinks 15 = .ok (.goto 14, 3) := dk_167 0 14 (dk_at dksX0_unlinks_0 15 rfl rfl)
theorem dX0_unlinks_18 : decode cX0_unlinks 18 = .ok (.aload_n 1, 1) := dk_43 (dk_at dksX0_unlinks_0 18 rfl rfl)
theorem dX0_unlinks_19 : decode cX0_unlinks 19 = .ok (.getfield 134, 3) := dk_180 0 134 (dk_at dksX0_unlinks_0 19 rfl rfl)
theorem dX0_unlinks_22 : decode cX0_unlinks 22 = .ok (.aload_n 1, 1) := dk_43 (dk_at dksX0_unlinks_0 22 rfl rfl)
theorem dX0_unlinks_23 : decode cX0_unlinks 23 = .ok (.getfield 137, 3) := dk_180 0 137 (dk_at dksX0_unlinks_1 0 rfl rfl)
theorem dX0_unlinks_26 : decode cX0_unlinks 26 = .ok (.putfield 137, 3) := dk_181 0 137 (dk_at dksX0_unlinks_1 3 rfl rfl)
theorem dX0_unlinks_29 : decode cX0_unlinks 29 = .ok (.aload_n 1, 1) := dk_43 (dk_at dksX0_unlinks_1 6 rfl rfl)
theorem dX0_unlinks_30 : decode cX0_unlinks 30 = .ok (.getfield 137, 3) := dk_180 0 137 (dk_at dksX0_unlinks_1 7 rfl rfl)
theorem dX0_unlinks_33 : decode cX0_unlinks 33 = .ok (.ifnonnull 14, 3) := dk_199 0 14 (dk_at dksX0_unlinks_1 10 rfl rfl)
theorem dX0_unlinks_36 : decode cX0_unlinks 36 = .ok (.aload_n 0, 1) := dk_42 (dk_at dksX0_unlinks_1 13 rfl rfl)
theorem dX0_unlinks_37 : decode cX0_unlinks 37 = .ok (.aload_n 1, 1) := dk_43 (dk_at dksX0_unlinks_1 14 rfl rfl)
theorem dX0_unlinks_38 : decode cX0_unlinks 38 = .ok (.getfield 134, 3) := dk_180 0 134 (dk_at dksX0_unlinks_1 15 rfl rfl)
theorem dX0_unlinks_41 : decode cX0_unlinks 41 = .ok (.putfield 131, 3) := dk_181 0 131 (dk_at dksX0_unlinks_1 18 rfl rfl)
theorem dX0_unlinks_44 : decode cX0_unlinks 44 = .ok (.goto 14, 3) := dk_167 0 14 (dk_at dksX0_unlinks_1 21 rfl rfl)
theorem dX0_unlinks_47 : decode cX0_unlinks 47 = .ok (.aload_n 1, 1) := dk_43 (dk_at dksX0_unlinks_2 0 rfl rfl)
theorem dX0_unlinks_48 : decode cX0_unlinks 48 = .ok (.getfield 137, 3) := dk_180 0 137 (dk_at dksX0_unlinks_2 1 rfl rfl)
theorem dX0_unlinks_51 : decode cX0_unlinks 51 = .ok (.aload_n 1, 1) := dk_43 (dk_at dksX0_unlinks_2 4 rfl rfl)
theorem dX0_unlinks_52 : decode cX0_unlinks 52 = .ok (.getfield 134, 3) := dk_180 0 134 (dk_at dksX0_unlinks_2 5 rfl rfl)
theorem dX0_unlinks_55 : decode cX0_unlinks 55 = .ok (.putfield 134, 3) := dk_181 0 134 (dk_at dksX0_unlinks_2 8 rfl rfl)
theorem dX0_unlinks_58 : decode cX0_unlinks 58 = .ok (.aload_n 0, 1) := dk_42 (dk_at dksX0_unlinks_2 11 rfl rfl)
theorem dX0_unlinks_59 : decode cX0_unlinks 59 = .ok (.dup, 1) := dk_89 (dk_at dksX0_unlinks_2 12 rfl rfl)
theorem dX0_unlinks_60 : decode cX0_unlinks 60 = .ok (.getfield 142, 3) := dk_180 0 142 (dk_at dksX0_unlinks_2 13 rfl rfl)
theorem dX0_unlinks_63 : decode cX0_unlinks 63 = .ok (.iconst 1, 1) := dk_4 (dk_at dksX0_unlinks_2 16 rfl rfl)
theorem dX0_unlinks_64 : decode cX0_unlinks 64 = .ok (.isub, 1) := dk_100 (dk_at dksX0_unlinks_2 17 rfl rfl)
theorem dX0_unlinks_65 : decode cX0_unlinks 65 = .ok (.putfield 142, 3) := dk_181 0 142 (dk_at dksX0_unlinks_2 18 rfl rfl)
theorem dX0_unlinks_68 : decode cX0_unlinks 68 = .ok (.return_, 1) := dk_177 (dk_at dksX0_unlinks_2 21 rfl rfl)
abbrev cX0_goesOut : ByteArray := prog_1_method_16_code
def yX0_goesOut : MethodName := ⟨RX0, "goesOut", "(LCrowdedBins$Entry;)V"⟩
def dkwX0_goesOut_2 : List UInt8 := [28, 42, 180, 0, 14, 28, 50, 3, 184, 0, 116, 83, 177]
abbrev dktX0_goesOut_2 : List UInt8 := dkwX0_goesOut_2 ++ []
def dkwX0_goesOut_1 : List UInt8 := [50, 193, 0, 88, 153, 0, 32, 42, 180, 0, 14, 28, 50, 182, 0, 124, 5, 163, 0, 19, 42, 180, 0, 14]
abbrev dktX0_goesOut_1 : List UInt8 := dkwX0_goesOut_1 ++ dktX0_goesOut_2
def dkwX0_goesOut_0 : List UInt8 := [42, 43, 180, 0, 105, 182, 0, 77, 61, 42, 180, 0, 14, 28, 50, 43, 182, 0, 128, 42, 180, 0, 14, 28]
abbrev dktX0_goesOut_0 : List UInt8 := dkwX0_goesOut_0 ++ dktX0_goesOut_1
theorem dksX0_goesOut_0 : cX0_goesOut.data.toList.drop 0 = dktX0_goesOut_0 := by decide +kernel
theorem dksX0_goesOut_1 : cX0_goesOut.data.toList.drop 24 = dktX0_goesOut_1 := dk_seg dksX0_goesOut_0 24 rfl rfl
theorem dksX0_goesOut_2 : cX0_goesOut.data.toList.drop 48 = dktX0_goesOut_2 := dk_seg dksX0_goesOut_1 24 rfl rfl
theorem dX0_goesOut_0 : decode cX0_goesOut 0 = .ok (.aload_n 0, 1) := dk_42 (dk_at dksX0_goesOut_0 0 rfl rfl)
theorem dX0_goesOut_1 : decode cX0_goesOut 1 = .ok (.aload_n 1, 1) := dk_43 (dk_at dksX0_goesOut_0 1 rfl rfl)
theorem dX0_goesOut_2 : decode cX0_goesOut 2 = .ok (.getfield 105, 3) := dk_180 0 105 (dk_at dksX0_goesOut_0 2 rfl rfl)
theorem dX0_goesOut_5 : decode cX0_goesOut 5 = .ok (.invokevirtual 77, 3) := dk_182 0 77 (dk_at dksX0_goesOut_0 5 rfl rfl)
theorem dX0_goesOut_8 : decode cX0_goesOut 8 = .ok (.istore_n 2, 1) := dk_61 (dk_at dksX0_goesOut_0 8 rfl rfl)
theorem dX0_goesOut_9 : decode cX0_goesOut 9 = .ok (.aload_n 0, 1) := dk_42 (dk_at dksX0_goesOut_0 9 rfl rfl)
theorem dX0_goesOut_10 : decode cX0_goesOut 10 = .ok (.getfield 14, 3) := dk_180 0 14 (dk_at dksX0_goesOut_0 10 rfl rfl)
theorem dX0_goesOut_13 : decode cX0_goesOut 13 = .ok (.iload_n 2, 1) := dk_28 (dk_at dksX0_goesOut_0 13 rfl rfl)
theorem dX0_goesOut_14 : decode cX0_goesOut 14 = .ok (.aaload, 1) := dk_50 (dk_at dksX0_goesOut_0 14 rfl rfl)
theorem dX0_goesOut_15 : decode cX0_goesOut 15 = .ok (.aload_n 1, 1) := dk_43 (dk_at dksX0_goesOut_0 15 rfl rfl)
theorem dX0_goesOut_16 : decode cX0_goesOut 16 = .ok (.invokevirtual 128, 3) := dk_182 0 128 (dk_at dksX0_goesOut_0 16 rfl rfl)
theorem dX0_goesOut_19 : decode cX0_goesOut 19 = .ok (.aload_n 0, 1) := dk_42 (dk_at dksX0_goesOut_0 19 rfl rfl)
theorem dX0_goesOut_20 : decode cX0_goesOut 20 = .ok (.getfield 14, 3) := dk_180 0 14 (dk_at dksX0_goesOut_0 20 rfl rfl)
theorem dX0_goesOut_23 : decode cX0_goesOut 23 = .ok (.iload_n 2, 1) := dk_28 (dk_at dksX0_goesOut_0 23 rfl rfl)
theorem dX0_goesOut_24 : decode cX0_goesOut 24 = .ok (.aaload, 1) := dk_50 (dk_at dksX0_goesOut_1 0 rfl rfl)
theorem dX0_goesOut_25 : decode cX0_goesOut 25 = .ok (.instanceof 88, 3) := dk_193 0 88 (dk_at dksX0_goesOut_1 1 rfl rfl)
theorem dX0_goesOut_28 : decode cX0_goesOut 28 = .ok (.ifCond .eq 32, 3) := dk_153 0 32 (dk_at dksX0_goesOut_1 4 rfl rfl)
theorem dX0_goesOut_31 : decode cX0_goesOut 31 = .ok (.aload_n 0, 1) := dk_42 (dk_at dksX0_goesOut_1 7 rfl rfl)
theorem dX0_goesOut_32 : decode cX0_goesOut 32 = .ok (.getfield 14, 3) := dk_180 0 14 (dk_at dksX0_goesOut_1 8 rfl rfl)
theorem dX0_goesOut_35 : decode cX0_goesOut 35 = .ok (.iload_n 2, 1) := dk_28 (dk_at dksX0_goesOut_1 11 rfl rfl)
theorem dX0_goesOut_36 : decode cX0_goesOut 36 = .ok (.aaload, 1) := dk_50 (dk_at dksX0_goesOut_1 12 rfl rfl)
theorem dX0_goesOut_37 : decode cX0_goesOut 37 = .ok (.invokevirtual 124, 3) := dk_182 0 124 (dk_at dksX0_goesOut_1 13 rfl rfl)
theorem dX0_goesOut_40 : decode cX0_goesOut 40 = .ok (.iconst 2, 1) := dk_5 (dk_at dksX0_goesOut_1 16 rfl rfl)
theorem dX0_goesOut_41 : decode cX0_goesOut 41 = .ok (.if_icmp .gt 19, 3) := dk_163 0 19 (dk_at dksX0_goesOut_1 17 rfl rfl)
theorem dX0_goesOut_44 : decode cX0_goesOut 44 = .ok (.aload_n 0, 1) := dk_42 (dk_at dksX0_goesOut_1 20 rfl rfl)
theorem dX0_goesOut_45 : decode cX0_goesOut 45 = .ok (.getfield 14, 3) := dk_180 0 14 (dk_at dksX0_goesOut_1 21 rfl rfl)
theorem dX0_goesOut_48 : decode cX0_goesOut 48 = .ok (.iload_n 2, 1) := dk_28 (dk_at dksX0_goesOut_2 0 rfl rfl)
theorem dX0_goesOut_49 : decode cX0_goesOut 49 = .ok (.aload_n 0, 1) := dk_42 (dk_at dksX0_goesOut_2 1 rfl rfl)
theorem dX0_goesOut_50 : decode cX0_goesOut 50 = .ok (.getfield 14, 3) := dk_180 0 14 (dk_at dksX0_goesOut_2 2 rfl rfl)
theorem dX0_goesOut_53 : decode cX0_goesOut 53 = .ok (.iload_n 2, 1) := dk_28 (dk_at dksX0_goesOut_2 5 rfl rfl)
theorem dX0_goesOut_54 : decode cX0_goesOut 54 = .ok (.aaload, 1) := dk_50 (dk_at dksX0_goesOut_2 6 rfl rfl)
theorem dX0_goesOut_55 : decode cX0_goesOut 55 = .ok (.iconst 0, 1) := dk_3 (dk_at dksX0_goesOut_2 7 rfl rfl)
theorem dX0_goesOut_56 : decode cX0_goesOut 56 = .ok (.invokestatic 116, 3) := dk_184 0 116 (dk_at dksX0_goesOut_2 8 rfl rfl)
theorem dX0_goesOut_59 : decode cX0_goesOut 59 = .ok (.aastore, 1) := dk_83 (dk_at dksX0_goesOut_2 11 rfl rfl)
theorem dX0_goesOut_60 : decode cX0_goesOut 60 = .ok (.return_, 1) := dk_177 (dk_at dksX0_goesOut_2 12 rfl rfl)
abbrev cX0_moves : ByteArray := prog_1_method_19_code
def yX0_moves : MethodName := ⟨RX0, "moves", "(LCrowdedBins$Entry;)V"⟩
def dkwX0_moves_1 : List UInt8 := [182, 0, 150, 42, 89, 180, 0, 153, 4, 96, 181, 0, 153, 177]
abbrev dktX0_moves_1 : List UInt8 := dkwX0_moves_1 ++ []
def dkwX0_moves_0 : List UInt8 := [42, 180, 0, 144, 4, 160, 0, 31, 43, 42, 180, 0, 131, 165, 0, 23, 42, 43, 182, 0, 147, 42, 43]
abbrev dktX0_moves_0 : List UInt8 := dkwX0_moves_0 ++ dktX0_moves_1
theorem dksX0_moves_0 : cX0_moves.data.toList.drop 0 = dktX0_moves_0 := by decide +kernel
theorem dksX0_moves_1 : cX0_moves.data.toList.drop 23 = dktX0_moves_1 := dk_seg dksX0_moves_0 23 rfl rfl
theorem dX0_moves_0 : decode cX0_moves 0 = .ok (.aload_n 0, 1) := dk_42 (dk_at dksX0_moves_0 0 rfl rfl)
theorem dX0_moves_1 : decode cX0_moves 1 = .ok (.getfield 144, 3) := dk_180 0 144 (dk_at dksX0_moves_0 1 rfl rfl)
theorem dX0_moves_4 : decode cX0_moves 4 = .ok (.iconst 1, 1) := dk_4 (dk_at dksX0_moves_0 4 rfl rfl)
theorem dX0_moves_5 : decode cX0_moves 5 = .ok (.if_icmp .ne 31, 3) := dk_160 0 31 (dk_at dksX0_moves_0 5 rfl rfl)
theorem dX0_moves_8 : decode cX0_moves 8 = .ok (.aload_n 1, 1) := dk_43 (dk_at dksX0_moves_0 8 rfl rfl)
theorem dX0_moves_9 : decode cX0_moves 9 = .ok (.aload_n 0, 1) := dk_42 (dk_at dksX0_moves_0 9 rfl rfl)
theorem dX0_moves_10 : decode cX0_moves 10 = .ok (.getfield 131, 3) := dk_180 0 131 (dk_at dksX0_moves_0 10 rfl rfl)
theorem dX0_moves_13 : decode cX0_moves 13 = .ok (.if_acmp .eq 23, 3) := dk_165 0 23 (dk_at dksX0_moves_0 13 rfl rfl)
theorem dX0_moves_16 : decode cX0_moves 16 = .ok (.aload_n 0, 1) := dk_42 (dk_at dksX0_moves_0 16 rfl rfl)
theorem dX0_moves_17 : decode cX0_moves 17 = .ok (.aload_n 1, 1) := dk_43 (dk_at dksX0_moves_0 17 rfl rfl)
theorem dX0_moves_18 : decode cX0_moves 18 = .ok (.invokevirtual 147, 3) := dk_182 0 147 (dk_at dksX0_moves_0 18 rfl rfl)
theorem dX0_moves_21 : decode cX0_moves 21 = .ok (.aload_n 0, 1) := dk_42 (dk_at dksX0_moves_0 21 rfl rfl)
theorem dX0_moves_22 : decode cX0_moves 22 = .ok (.aload_n 1, 1) := dk_43 (dk_at dksX0_moves_0 22 rfl rfl)
theorem dX0_moves_23 : decode cX0_moves 23 = .ok (.invokevirtual 150, 3) := dk_182 0 150 (dk_at dksX0_moves_1 0 rfl rfl)
theorem dX0_moves_26 : decode cX0_moves 26 = .ok (.aload_n 0, 1) := dk_42 (dk_at dksX0_moves_1 3 rfl rfl)
theorem dX0_moves_27 : decode cX0_moves 27 = .ok (.dup, 1) := dk_89 (dk_at dksX0_moves_1 4 rfl rfl)
theorem dX0_moves_28 : decode cX0_moves 28 = .ok (.getfield 153, 3) := dk_180 0 153 (dk_at dksX0_moves_1 5 rfl rfl)
theorem dX0_moves_31 : decode cX0_moves 31 = .ok (.iconst 1, 1) := dk_4 (dk_at dksX0_moves_1 8 rfl rfl)
theorem dX0_moves_32 : decode cX0_moves 32 = .ok (.iadd, 1) := dk_96 (dk_at dksX0_moves_1 9 rfl rfl)
theorem dX0_moves_33 : decode cX0_moves 33 = .ok (.putfield 153, 3) := dk_181 0 153 (dk_at dksX0_moves_1 10 rfl rfl)
theorem dX0_moves_36 : decode cX0_moves 36 = .ok (.return_, 1) := dk_177 (dk_at dksX0_moves_1 13 rfl rfl)
abbrev cX0_get : ByteArray := prog_1_method_31_code
def yX0_get : MethodName := ⟨RX0, "get", "(I)I"⟩
def dkwX0_get_2 : List UInt8 := [182, 0, 243, 44, 180, 0, 201, 172]
abbrev dktX0_get_2 : List UInt8 := dkwX0_get_2 ++ []
def dkwX0_get_1 : List UInt8 := [42, 180, 0, 144, 4, 160, 0, 20, 44, 42, 180, 0, 131, 165, 0, 12, 42, 182, 0, 237, 42, 44]
abbrev dktX0_get_1 : List UInt8 := dkwX0_get_1 ++ dktX0_get_2
def dkwX0_get_0 : List UInt8 := [27, 184, 0, 220, 154, 0, 8, 42, 182, 0, 227, 172, 42, 27, 182, 0, 230, 77, 44, 199, 0, 5, 2, 172]
abbrev dktX0_get_0 : List UInt8 := dkwX0_get_0 ++ dktX0_get_1
theorem dksX0_get_0 : cX0_get.data.toList.drop 0 = dktX0_get_0 := by decide +kernel
theorem dksX0_get_1 : cX0_get.data.toList.drop 24 = dktX0_get_1 := dk_seg dksX0_get_0 24 rfl rfl
theorem dksX0_get_2 : cX0_get.data.toList.drop 46 = dktX0_get_2 := dk_seg dksX0_get_1 22 rfl rfl
theorem dX0_get_0 : decode cX0_get 0 = .ok (.iload_n 1, 1) := dk_27 (dk_at dksX0_get_0 0 rfl rfl)
theorem dX0_get_1 : decode cX0_get 1 = .ok (.invokestatic 220, 3) := dk_184 0 220 (dk_at dksX0_get_0 1 rfl rfl)
theorem dX0_get_4 : decode cX0_get 4 = .ok (.ifCond .ne 8, 3) := dk_154 0 8 (dk_at dksX0_get_0 4 rfl rfl)
theorem dX0_get_7 : decode cX0_get 7 = .ok (.aload_n 0, 1) := dk_42 (dk_at dksX0_get_0 7 rfl rfl)
theorem dX0_get_8 : decode cX0_get 8 = .ok (.invokevirtual 227, 3) := dk_182 0 227 (dk_at dksX0_get_0 8 rfl rfl)
theorem dX0_get_11 : decode cX0_get 11 = .ok (.ireturn, 1) := dk_172 (dk_at dksX0_get_0 11 rfl rfl)
theorem dX0_get_12 : decode cX0_get 12 = .ok (.aload_n 0, 1) := dk_42 (dk_at dksX0_get_0 12 rfl rfl)
theorem dX0_get_13 : decode cX0_get 13 = .ok (.iload_n 1, 1) := dk_27 (dk_at dksX0_get_0 13 rfl rfl)
theorem dX0_get_14 : decode cX0_get 14 = .ok (.invokevirtual 230, 3) := dk_182 0 230 (dk_at dksX0_get_0 14 rfl rfl)
theorem dX0_get_17 : decode cX0_get 17 = .ok (.astore_n 2, 1) := dk_77 (dk_at dksX0_get_0 17 rfl rfl)
theorem dX0_get_18 : decode cX0_get 18 = .ok (.aload_n 2, 1) := dk_44 (dk_at dksX0_get_0 18 rfl rfl)
theorem dX0_get_19 : decode cX0_get 19 = .ok (.ifnonnull 5, 3) := dk_199 0 5 (dk_at dksX0_get_0 19 rfl rfl)
theorem dX0_get_22 : decode cX0_get 22 = .ok (.iconst (-1), 1) := dk_2 (dk_at dksX0_get_0 22 rfl rfl)
theorem dX0_get_23 : decode cX0_get 23 = .ok (.ireturn, 1) := dk_172 (dk_at dksX0_get_0 23 rfl rfl)
theorem dX0_get_24 : decode cX0_get 24 = .ok (.aload_n 0, 1) := dk_42 (dk_at dksX0_get_1 0 rfl rfl)
theorem dX0_get_25 : decode cX0_get 25 = .ok (.getfield 144, 3) := dk_180 0 144 (dk_at dksX0_get_1 1 rfl rfl)
theorem dX0_get_28 : decode cX0_get 28 = .ok (.iconst 1, 1) := dk_4 (dk_at dksX0_get_1 4 rfl rfl)
theorem dX0_get_29 : decode cX0_get 29 = .ok (.if_icmp .ne 20, 3) := dk_160 0 20 (dk_at dksX0_get_1 5 rfl rfl)
theorem dX0_get_32 : decode cX0_get 32 = .ok (.aload_n 2, 1) := dk_44 (dk_at dksX0_get_1 8 rfl rfl)
theorem dX0_get_33 : decode cX0_get 33 = .ok (.aload_n 0, 1) := dk_42 (dk_at dksX0_get_1 9 rfl rfl)
theorem dX0_get_34 : decode cX0_get 34 = .ok (.getfield 131, 3) := dk_180 0 131 (dk_at dksX0_get_1 10 rfl rfl)
theorem dX0_get_37 : decode cX0_get 37 = .ok (.if_acmp .eq 12, 3) := dk_165 0 12 (dk_at dksX0_get_1 13 rfl rfl)
theorem dX0_get_40 : decode cX0_get 40 = .ok (.aload_n 0, 1) := dk_42 (dk_at dksX0_get_1 16 rfl rfl)
theorem dX0_get_41 : decode cX0_get 41 = .ok (.invokevirtual 237, 3) := dk_182 0 237 (dk_at dksX0_get_1 17 rfl rfl)
theorem dX0_get_44 : decode cX0_get 44 = .ok (.aload_n 0, 1) := dk_42 (dk_at dksX0_get_1 20 rfl rfl)
theorem dX0_get_45 : decode cX0_get 45 = .ok (.aload_n 2, 1) := dk_44 (dk_at dksX0_get_1 21 rfl rfl)
theorem dX0_get_46 : decode cX0_get 46 = .ok (.invokevirtual 243, 3) := dk_182 0 243 (dk_at dksX0_get_2 0 rfl rfl)
theorem dX0_get_49 : decode cX0_get 49 = .ok (.aload_n 2, 1) := dk_44 (dk_at dksX0_get_2 3 rfl rfl)
theorem dX0_get_50 : decode cX0_get 50 = .ok (.getfield 201, 3) := dk_180 0 201 (dk_at dksX0_get_2 4 rfl rfl)
theorem dX0_get_53 : decode cX0_get 53 = .ok (.ireturn, 1) := dk_172 (dk_at dksX0_get_2 7 rfl rfl)
abbrev cX0_peek : ByteArray := prog_1_method_32_code
def yX0_peek : MethodName := ⟨RX0, "peek", "(I)I"⟩
def dkwX0_peek_1 : List UInt8 := [167, 0, 7, 44, 180, 0, 201, 172]
abbrev dktX0_peek_1 : List UInt8 := dkwX0_peek_1 ++ []
def dkwX0_peek_0 : List UInt8 := [27, 184, 0, 220, 154, 0, 8, 42, 182, 0, 227, 172, 42, 27, 182, 0, 230, 77, 44, 199, 0, 7, 2]
abbrev dktX0_peek_0 : List UInt8 := dkwX0_peek_0 ++ dktX0_peek_1
theorem dksX0_peek_0 : cX0_peek.data.toList.drop 0 = dktX0_peek_0 := by decide +kernel
theorem dksX0_peek_1 : cX0_peek.data.toList.drop 23 = dktX0_peek_1 := dk_seg dksX0_peek_0 23 rfl rfl
theorem dX0_peek_0 : decode cX0_peek 0 = .ok (.iload_n 1, 1) := dk_27 (dk_at dksX0_peek_0 0 rfl rfl)
theorem dX0_peek_1 : decode cX0_peek 1 = .ok (.invokestatic 220, 3) := dk_184 0 220 (dk_at dksX0_peek_0 1 rfl rfl)
theorem dX0_peek_4 : decode cX0_peek 4 = .ok (.ifCond .ne 8, 3) := dk_154 0 8 (dk_at dksX0_peek_0 4 rfl rfl)
theorem dX0_peek_7 : decode cX0_peek 7 = .ok (.aload_n 0, 1) := dk_42 (dk_at dksX0_peek_0 7 rfl rfl)
theorem dX0_peek_8 : decode cX0_peek 8 = .ok (.invokevirtual 227, 3) := dk_182 0 227 (dk_at dksX0_peek_0 8 rfl rfl)
theorem dX0_peek_11 : decode cX0_peek 11 = .ok (.ireturn, 1) := dk_172 (dk_at dksX0_peek_0 11 rfl rfl)
theorem dX0_peek_12 : decode cX0_peek 12 = .ok (.aload_n 0, 1) := dk_42 (dk_at dksX0_peek_0 12 rfl rfl)
theorem dX0_peek_13 : decode cX0_peek 13 = .ok (.iload_n 1, 1) := dk_27 (dk_at dksX0_peek_0 13 rfl rfl)
theorem dX0_peek_14 : decode cX0_peek 14 = .ok (.invokevirtual 230, 3) := dk_182 0 230 (dk_at dksX0_peek_0 14 rfl rfl)
theorem dX0_peek_17 : decode cX0_peek 17 = .ok (.astore_n 2, 1) := dk_77 (dk_at dksX0_peek_0 17 rfl rfl)
theorem dX0_peek_18 : decode cX0_peek 18 = .ok (.aload_n 2, 1) := dk_44 (dk_at dksX0_peek_0 18 rfl rfl)
theorem dX0_peek_19 : decode cX0_peek 19 = .ok (.ifnonnull 7, 3) := dk_199 0 7 (dk_at dksX0_peek_0 19 rfl rfl)
theorem dX0_peek_22 : decode cX0_peek 22 = .ok (.iconst (-1), 1) := dk_2 (dk_at dksX0_peek_0 22 rfl rfl)
theorem dX0_peek_23 : decode cX0_peek 23 = .ok (.goto 7, 3) := dk_167 0 7 (dk_at dksX0_peek_1 0 rfl rfl)
theorem dX0_peek_26 : decode cX0_peek 26 = .ok (.aload_n 2, 1) := dk_44 (dk_at dksX0_peek_1 3 rfl rfl)
theorem dX0_peek_27 : decode cX0_peek 27 = .ok (.getfield 201, 3) := dk_180 0 201 (dk_at dksX0_peek_1 4 rfl rfl)
theorem dX0_peek_30 : decode cX0_peek 30 = .ok (.ireturn, 1) := dk_172 (dk_at dksX0_peek_1 7 rfl rfl)
abbrev cX0_remove : ByteArray := prog_1_method_33_code
def yX0_remove : MethodName := ⟨RX0, "remove", "(I)I"⟩
def dkwX0_remove_1 : List UInt8 := [42, 182, 0, 237, 42, 44, 182, 0, 169, 44, 180, 0, 201, 172]
abbrev dktX0_remove_1 : List UInt8 := dkwX0_remove_1 ++ []
def dkwX0_remove_0 : List UInt8 := [27, 184, 0, 220, 154, 0, 8, 42, 182, 0, 227, 172, 42, 27, 182, 0, 230, 77, 44, 199, 0, 5, 2, 172]
abbrev dktX0_remove_0 : List UInt8 := dkwX0_remove_0 ++ dktX0_remove_1
theorem dksX0_remove_0 : cX0_remove.data.toList.drop 0 = dktX0_remove_0 := by decide +kernel
theorem dksX0_remove_1 : cX0_remove.data.toList.drop 24 = dktX0_remove_1 := dk_seg dksX0_remove_0 24 rfl rfl
theorem dX0_remove_0 : decode cX0_remove 0 = .ok (.iload_n 1, 1) := dk_27 (dk_at dksX0_remove_0 0 rfl rfl)
theorem dX0_remove_1 : decode cX0_remove 1 = .ok (.invokestatic 220, 3) := dk_184 0 220 (dk_at dksX0_remove_0 1 rfl rfl)
theorem dX0_remove_4 : decode cX0_remove 4 = .ok (.ifCond .ne 8, 3) := dk_154 0 8 (dk_at dksX0_remove_0 4 rfl rfl)
theorem dX0_remove_7 : decode cX0_remove 7 = .ok (.aload_n 0, 1) := dk_42 (dk_at dksX0_remove_0 7 rfl rfl)
theorem dX0_remove_8 : decode cX0_remove 8 = .ok (.invokevirtual 227, 3) := dk_182 0 227 (dk_at dksX0_remove_0 8 rfl rfl)
theorem dX0_remove_11 : decode cX0_remove 11 = .ok (.ireturn, 1) := dk_172 (dk_at dksX0_remove_0 11 rfl rfl)
theorem dX0_remove_12 : decode cX0_remove 12 = .ok (.aload_n 0, 1) := dk_42 (dk_at dksX0_remove_0 12 rfl rfl)
theorem dX0_remove_13 : decode cX0_remove 13 = .ok (.iload_n 1, 1) := dk_27 (dk_at dksX0_remove_0 13 rfl rfl)
theorem dX0_remove_14 : decode cX0_remove 14 = .ok (.invokevirtual 230, 3) := dk_182 0 230 (dk_at dksX0_remove_0 14 rfl rfl)
theorem dX0_remove_17 : decode cX0_remove 17 = .ok (.astore_n 2, 1) := dk_77 (dk_at dksX0_remove_0 17 rfl rfl)
theorem dX0_remove_18 : decode cX0_remove 18 = .ok (.aload_n 2, 1) := dk_44 (dk_at dksX0_remove_0 18 rfl rfl)
theorem dX0_remove_19 : decode cX0_remove 19 = .ok (.ifnonnull 5, 3) := dk_199 0 5 (dk_at dksX0_remove_0 19 rfl rfl)
theorem dX0_remove_22 : decode cX0_remove 22 = .ok (.iconst (-1), 1) := dk_2 (dk_at dksX0_remove_0 22 rfl rfl)
theorem dX0_remove_23 : decode cX0_remove 23 = .ok (.ireturn, 1) := dk_172 (dk_at dksX0_remove_0 23 rfl rfl)
theorem dX0_remove_24 : decode cX0_remove 24 = .ok (.aload_n 0, 1) := dk_42 (dk_at dksX0_remove_1 0 rfl rfl)
theorem dX0_remove_25 : decode cX0_remove 25 = .ok (.invokevirtual 237, 3) := dk_182 0 237 (dk_at dksX0_remove_1 1 rfl rfl)
theorem dX0_remove_28 : decode cX0_remove 28 = .ok (.aload_n 0, 1) := dk_42 (dk_at dksX0_remove_1 4 rfl rfl)
theorem dX0_remove_29 : decode cX0_remove 29 = .ok (.aload_n 2, 1) := dk_44 (dk_at dksX0_remove_1 5 rfl rfl)
theorem dX0_remove_30 : decode cX0_remove 30 = .ok (.invokevirtual 169, 3) := dk_182 0 169 (dk_at dksX0_remove_1 6 rfl rfl)
theorem dX0_remove_33 : decode cX0_remove 33 = .ok (.aload_n 2, 1) := dk_44 (dk_at dksX0_remove_1 9 rfl rfl)
theorem dX0_remove_34 : decode cX0_remove 34 = .ok (.getfield 201, 3) := dk_180 0 201 (dk_at dksX0_remove_1 10 rfl rfl)
theorem dX0_remove_37 : decode cX0_remove 37 = .ok (.ireturn, 1) := dk_172 (dk_at dksX0_remove_1 13 rfl rfl)
abbrev cX0_adds : ByteArray := prog_1_method_34_code
def yX0_adds : MethodName := ⟨RX0, "adds", "(II)I"⟩
def dkwX0_adds_3 : List UInt8 := [184, 0, 246, 181, 0, 201, 45, 180, 0, 201, 172]
abbrev dktX0_adds_3 : List UInt8 := dkwX0_adds_3 ++ []
def dkwX0_adds_2 : List UInt8 := [45, 199, 0, 11, 42, 27, 28, 182, 0, 240, 28, 172, 45, 17, 39, 15, 45, 180, 0, 201, 28, 96]
abbrev dktX0_adds_2 : List UInt8 := dkwX0_adds_2 ++ dktX0_adds_3
def dkwX0_adds_1 : List UInt8 := [78, 45, 199, 0, 18, 42, 182, 0, 233, 153, 0, 11, 42, 5, 16, 252, 182, 0, 58, 172, 42, 182, 0, 237]
abbrev dktX0_adds_1 : List UInt8 := dkwX0_adds_1 ++ dktX0_adds_2
def dkwX0_adds_0 : List UInt8 := [27, 184, 0, 220, 153, 0, 10, 28, 184, 0, 224, 154, 0, 8, 42, 182, 0, 227, 172, 42, 27, 182, 0, 230]
abbrev dktX0_adds_0 : List UInt8 := dkwX0_adds_0 ++ dktX0_adds_1
theorem dksX0_adds_0 : cX0_adds.data.toList.drop 0 = dktX0_adds_0 := by decide +kernel
theorem dksX0_adds_1 : cX0_adds.data.toList.drop 24 = dktX0_adds_1 := dk_seg dksX0_adds_0 24 rfl rfl
theorem dksX0_adds_2 : cX0_adds.data.toList.drop 48 = dktX0_adds_2 := dk_seg dksX0_adds_1 24 rfl rfl
theorem dksX0_adds_3 : cX0_adds.data.toList.drop 70 = dktX0_adds_3 := dk_seg dksX0_adds_2 22 rfl rfl
theorem dX0_adds_0 : decode cX0_adds 0 = .ok (.iload_n 1, 1) := dk_27 (dk_at dksX0_adds_0 0 rfl rfl)
theorem dX0_adds_1 : decode cX0_adds 1 = .ok (.invokestatic 220, 3) := dk_184 0 220 (dk_at dksX0_adds_0 1 rfl rfl)
theorem dX0_adds_4 : decode cX0_adds 4 = .ok (.ifCond .eq 10, 3) := dk_153 0 10 (dk_at dksX0_adds_0 4 rfl rfl)
theorem dX0_adds_7 : decode cX0_adds 7 = .ok (.iload_n 2, 1) := dk_28 (dk_at dksX0_adds_0 7 rfl rfl)
theorem dX0_adds_8 : decode cX0_adds 8 = .ok (.invokestatic 224, 3) := dk_184 0 224 (dk_at dksX0_adds_0 8 rfl rfl)
theorem dX0_adds_11 : decode cX0_adds 11 = .ok (.ifCond .ne 8, 3) := dk_154 0 8 (dk_at dksX0_adds_0 11 rfl rfl)
theorem dX0_adds_14 : decode cX0_adds 14 = .ok (.aload_n 0, 1) := dk_42 (dk_at dksX0_adds_0 14 rfl rfl)
theorem dX0_adds_15 : decode cX0_adds 15 = .ok (.invokevirtual 227, 3) := dk_182 0 227 (dk_at dksX0_adds_0 15 rfl rfl)
theorem dX0_adds_18 : decode cX0_adds 18 = .ok (.ireturn, 1) := dk_172 (dk_at dksX0_adds_0 18 rfl rfl)
theorem dX0_adds_19 : decode cX0_adds 19 = .ok (.aload_n 0, 1) := dk_42 (dk_at dksX0_adds_0 19 rfl rfl)
theorem dX0_adds_20 : decode cX0_adds 20 = .ok (.iload_n 1, 1) := dk_27 (dk_at dksX0_adds_0 20 rfl rfl)
theorem dX0_adds_21 : decode cX0_adds 21 = .ok (.invokevirtual 230, 3) := dk_182 0 230 (dk_at dksX0_adds_0 21 rfl rfl)
theorem dX0_adds_24 : decode cX0_adds 24 = .ok (.astore_n 3, 1) := dk_78 (dk_at dksX0_adds_1 0 rfl rfl)
theorem dX0_adds_25 : decode cX0_adds 25 = .ok (.aload_n 3, 1) := dk_45 (dk_at dksX0_adds_1 1 rfl rfl)
theorem dX0_adds_26 : decode cX0_adds 26 = .ok (.ifnonnull 18, 3) := dk_199 0 18 (dk_at dksX0_adds_1 2 rfl rfl)
theorem dX0_adds_29 : decode cX0_adds 29 = .ok (.aload_n 0, 1) := dk_42 (dk_at dksX0_adds_1 5 rfl rfl)
theorem dX0_adds_30 : decode cX0_adds 30 = .ok (.invokevirtual 233, 3) := dk_182 0 233 (dk_at dksX0_adds_1 6 rfl rfl)
theorem dX0_adds_33 : decode cX0_adds 33 = .ok (.ifCond .eq 11, 3) := dk_153 0 11 (dk_at dksX0_adds_1 9 rfl rfl)
theorem dX0_adds_36 : decode cX0_adds 36 = .ok (.aload_n 0, 1) := dk_42 (dk_at dksX0_adds_1 12 rfl rfl)
theorem dX0_adds_37 : decode cX0_adds 37 = .ok (.iconst 2, 1) := dk_5 (dk_at dksX0_adds_1 13 rfl rfl)
theorem dX0_adds_38 : decode cX0_adds 38 = .ok (.bipush (-4), 2) := dk_16 252 (dk_at dksX0_adds_1 14 rfl rfl)
theorem dX0_adds_40 : decode cX0_adds 40 = .ok (.invokevirtual 58, 3) := dk_182 0 58 (dk_at dksX0_adds_1 16 rfl rfl)
theorem dX0_adds_43 : decode cX0_adds 43 = .ok (.ireturn, 1) := dk_172 (dk_at dksX0_adds_1 19 rfl rfl)
theorem dX0_adds_44 : decode cX0_adds 44 = .ok (.aload_n 0, 1) := dk_42 (dk_at dksX0_adds_1 20 rfl rfl)
theorem dX0_adds_45 : decode cX0_adds 45 = .ok (.invokevirtual 237, 3) := dk_182 0 237 (dk_at dksX0_adds_1 21 rfl rfl)
theorem dX0_adds_48 : decode cX0_adds 48 = .ok (.aload_n 3, 1) := dk_45 (dk_at dksX0_adds_2 0 rfl rfl)
theorem dX0_adds_49 : decode cX0_adds 49 = .ok (.ifnonnull 11, 3) := dk_199 0 11 (dk_at dksX0_adds_2 1 rfl rfl)
theorem dX0_adds_52 : decode cX0_adds 52 = .ok (.aload_n 0, 1) := dk_42 (dk_at dksX0_adds_2 4 rfl rfl)
theorem dX0_adds_53 : decode cX0_adds 53 = .ok (.iload_n 1, 1) := dk_27 (dk_at dksX0_adds_2 5 rfl rfl)
theorem dX0_adds_54 : decode cX0_adds 54 = .ok (.iload_n 2, 1) := dk_28 (dk_at dksX0_adds_2 6 rfl rfl)
theorem dX0_adds_55 : decode cX0_adds 55 = .ok (.invokevirtual 240, 3) := dk_182 0 240 (dk_at dksX0_adds_2 7 rfl rfl)
theorem dX0_adds_58 : decode cX0_adds 58 = .ok (.iload_n 2, 1) := dk_28 (dk_at dksX0_adds_2 10 rfl rfl)
theorem dX0_adds_59 : decode cX0_adds 59 = .ok (.ireturn, 1) := dk_172 (dk_at dksX0_adds_2 11 rfl rfl)
theorem dX0_adds_60 : decode cX0_adds 60 = .ok (.aload_n 3, 1) := dk_45 (dk_at dksX0_adds_2 12 rfl rfl)
theorem dX0_adds_61 : decode cX0_adds 61 = .ok (.sipush 9999, 3) := dk_17 39 15 (dk_at dksX0_adds_2 13 rfl rfl)
theorem dX0_adds_64 : decode cX0_adds 64 = .ok (.aload_n 3, 1) := dk_45 (dk_at dksX0_adds_2 16 rfl rfl)
theorem dX0_adds_65 : decode cX0_adds 65 = .ok (.getfield 201, 3) := dk_180 0 201 (dk_at dksX0_adds_2 17 rfl rfl)
theorem dX0_adds_68 : decode cX0_adds 68 = .ok (.iload_n 2, 1) := dk_28 (dk_at dksX0_adds_2 20 rfl rfl)
theorem dX0_adds_69 : decode cX0_adds 69 = .ok (.iadd, 1) := dk_96 (dk_at dksX0_adds_2 21 rfl rfl)
theorem dX0_adds_70 : decode cX0_adds 70 = .ok (.invokestatic 246, 3) := dk_184 0 246 (dk_at dksX0_adds_3 0 rfl rfl)
theorem dX0_adds_73 : decode cX0_adds 73 = .ok (.putfield 201, 3) := dk_181 0 201 (dk_at dksX0_adds_3 3 rfl rfl)
theorem dX0_adds_76 : decode cX0_adds 76 = .ok (.aload_n 3, 1) := dk_45 (dk_at dksX0_adds_3 6 rfl rfl)
theorem dX0_adds_77 : decode cX0_adds 77 = .ok (.getfield 201, 3) := dk_180 0 201 (dk_at dksX0_adds_3 7 rfl rfl)
theorem dX0_adds_80 : decode cX0_adds 80 = .ok (.ireturn, 1) := dk_172 (dk_at dksX0_adds_3 10 rfl rfl)
abbrev cX0_clears : ByteArray := prog_1_method_35_code
def yX0_clears : MethodName := ⟨RX0, "clears", "()I"⟩
def dkwX0_clears_1 : List UInt8 := [3, 181, 0, 142, 42, 182, 0, 55, 42, 89, 180, 0, 153, 4, 96, 181, 0, 153, 27, 172]
abbrev dktX0_clears_1 : List UInt8 := dkwX0_clears_1 ++ []
def dkwX0_clears_0 : List UInt8 := [42, 180, 0, 142, 60, 27, 158, 0, 36, 42, 182, 0, 237, 42, 1, 181, 0, 140, 42, 1, 181, 0, 131, 42]
abbrev dktX0_clears_0 : List UInt8 := dkwX0_clears_0 ++ dktX0_clears_1
theorem dksX0_clears_0 : cX0_clears.data.toList.drop 0 = dktX0_clears_0 := by decide +kernel
theorem dksX0_clears_1 : cX0_clears.data.toList.drop 24 = dktX0_clears_1 := dk_seg dksX0_clears_0 24 rfl rfl
theorem dX0_clears_0 : decode cX0_clears 0 = .ok (.aload_n 0, 1) := dk_42 (dk_at dksX0_clears_0 0 rfl rfl)
theorem dX0_clears_1 : decode cX0_clears 1 = .ok (.getfield 142, 3) := dk_180 0 142 (dk_at dksX0_clears_0 1 rfl rfl)
theorem dX0_clears_4 : decode cX0_clears 4 = .ok (.istore_n 1, 1) := dk_60 (dk_at dksX0_clears_0 4 rfl rfl)
theorem dX0_clears_5 : decode cX0_clears 5 = .ok (.iload_n 1, 1) := dk_27 (dk_at dksX0_clears_0 5 rfl rfl)
theorem dX0_clears_6 : decode cX0_clears 6 = .ok (.ifCond .le 36, 3) := dk_158 0 36 (dk_at dksX0_clears_0 6 rfl rfl)
theorem dX0_clears_9 : decode cX0_clears 9 = .ok (.aload_n 0, 1) := dk_42 (dk_at dksX0_clears_0 9 rfl rfl)
theorem dX0_clears_10 : decode cX0_clears 10 = .ok (.invokevirtual 237, 3) := dk_182 0 237 (dk_at dksX0_clears_0 10 rfl rfl)
theorem dX0_clears_13 : decode cX0_clears 13 = .ok (.aload_n 0, 1) := dk_42 (dk_at dksX0_clears_0 13 rfl rfl)
theorem dX0_clears_14 : decode cX0_clears 14 = .ok (.aconst_null, 1) := dk_1 (dk_at dksX0_clears_0 14 rfl rfl)
theorem dX0_clears_15 : decode cX0_clears 15 = .ok (.putfield 140, 3) := dk_181 0 140 (dk_at dksX0_clears_0 15 rfl rfl)
theorem dX0_clears_18 : decode cX0_clears 18 = .ok (.aload_n 0, 1) := dk_42 (dk_at dksX0_clears_0 18 rfl rfl)
theorem dX0_clears_19 : decode cX0_clears 19 = .ok (.aconst_null, 1) := dk_1 (dk_at dksX0_clears_0 19 rfl rfl)
theorem dX0_clears_20 : decode cX0_clears 20 = .ok (.putfield 131, 3) := dk_181 0 131 (dk_at dksX0_clears_0 20 rfl rfl)
theorem dX0_clears_23 : decode cX0_clears 23 = .ok (.aload_n 0, 1) := dk_42 (dk_at dksX0_clears_0 23 rfl rfl)
theorem dX0_clears_24 : decode cX0_clears 24 = .ok (.iconst 0, 1) := dk_3 (dk_at dksX0_clears_1 0 rfl rfl)
theorem dX0_clears_25 : decode cX0_clears 25 = .ok (.putfield 142, 3) := dk_181 0 142 (dk_at dksX0_clears_1 1 rfl rfl)
theorem dX0_clears_28 : decode cX0_clears 28 = .ok (.aload_n 0, 1) := dk_42 (dk_at dksX0_clears_1 4 rfl rfl)
theorem dX0_clears_29 : decode cX0_clears 29 = .ok (.invokevirtual 55, 3) := dk_182 0 55 (dk_at dksX0_clears_1 5 rfl rfl)
theorem dX0_clears_32 : decode cX0_clears 32 = .ok (.aload_n 0, 1) := dk_42 (dk_at dksX0_clears_1 8 rfl rfl)
theorem dX0_clears_33 : decode cX0_clears 33 = .ok (.dup, 1) := dk_89 (dk_at dksX0_clears_1 9 rfl rfl)
theorem dX0_clears_34 : decode cX0_clears 34 = .ok (.getfield 153, 3) := dk_180 0 153 (dk_at dksX0_clears_1 10 rfl rfl)
theorem dX0_clears_37 : decode cX0_clears 37 = .ok (.iconst 1, 1) := dk_4 (dk_at dksX0_clears_1 13 rfl rfl)
theorem dX0_clears_38 : decode cX0_clears 38 = .ok (.iadd, 1) := dk_96 (dk_at dksX0_clears_1 14 rfl rfl)
theorem dX0_clears_39 : decode cX0_clears 39 = .ok (.putfield 153, 3) := dk_181 0 153 (dk_at dksX0_clears_1 15 rfl rfl)
theorem dX0_clears_42 : decode cX0_clears 42 = .ok (.iload_n 1, 1) := dk_27 (dk_at dksX0_clears_1 18 rfl rfl)
theorem dX0_clears_43 : decode cX0_clears 43 = .ok (.ireturn, 1) := dk_172 (dk_at dksX0_clears_1 19 rfl rfl)
abbrev cX0_hashes : ByteArray := prog_1_method_36_code
def yX0_hashes : MethodName := ⟨RX0, "hashes", "(II)I"⟩
def dkwX0_hashes_3 : List UInt8 := [180, 0, 137, 58, 4, 167, 255, 234, 42, 89, 180, 0, 153, 4, 96, 181, 0, 153, 42, 180, 0, 62, 172]
abbrev dktX0_hashes_3 : List UInt8 := dkwX0_hashes_3 ++ []
def dkwX0_hashes_2 : List UInt8 := [62, 42, 180, 0, 140, 58, 4, 25, 4, 198, 0, 23, 132, 3, 1, 42, 25, 4, 29, 182, 0, 162, 25, 4]
abbrev dktX0_hashes_2 : List UInt8 := dkwX0_hashes_2 ++ dktX0_hashes_3
def dkwX0_hashes_1 : List UInt8 := [42, 182, 0, 227, 172, 42, 182, 0, 237, 42, 27, 181, 0, 18, 42, 28, 181, 0, 68, 42, 182, 0, 55, 3]
abbrev dktX0_hashes_1 : List UInt8 := dkwX0_hashes_1 ++ dktX0_hashes_2
def dkwX0_hashes_0 : List UInt8 := [27, 133, 9, 20, 0, 251, 184, 0, 214, 153, 0, 15, 28, 133, 9, 20, 0, 251, 184, 0, 214, 154, 0, 8]
abbrev dktX0_hashes_0 : List UInt8 := dkwX0_hashes_0 ++ dktX0_hashes_1
theorem dksX0_hashes_0 : cX0_hashes.data.toList.drop 0 = dktX0_hashes_0 := by decide +kernel
theorem dksX0_hashes_1 : cX0_hashes.data.toList.drop 24 = dktX0_hashes_1 := dk_seg dksX0_hashes_0 24 rfl rfl
theorem dksX0_hashes_2 : cX0_hashes.data.toList.drop 48 = dktX0_hashes_2 := dk_seg dksX0_hashes_1 24 rfl rfl
theorem dksX0_hashes_3 : cX0_hashes.data.toList.drop 72 = dktX0_hashes_3 := dk_seg dksX0_hashes_2 24 rfl rfl
theorem dX0_hashes_0 : decode cX0_hashes 0 = .ok (.iload_n 1, 1) := dk_27 (dk_at dksX0_hashes_0 0 rfl rfl)
theorem dX0_hashes_1 : decode cX0_hashes 1 = .ok (.i2l, 1) := dk_133 (dk_at dksX0_hashes_0 1 rfl rfl)
theorem dX0_hashes_2 : decode cX0_hashes 2 = .ok (.lconst 0, 1) := dk_9 (dk_at dksX0_hashes_0 2 rfl rfl)
theorem dX0_hashes_3 : decode cX0_hashes 3 = .ok (.ldc2_w 251, 3) := dk_20 0 251 (dk_at dksX0_hashes_0 3 rfl rfl)
theorem dX0_hashes_6 : decode cX0_hashes 6 = .ok (.invokestatic 214, 3) := dk_184 0 214 (dk_at dksX0_hashes_0 6 rfl rfl)
theorem dX0_hashes_9 : decode cX0_hashes 9 = .ok (.ifCond .eq 15, 3) := dk_153 0 15 (dk_at dksX0_hashes_0 9 rfl rfl)
theorem dX0_hashes_12 : decode cX0_hashes 12 = .ok (.iload_n 2, 1) := dk_28 (dk_at dksX0_hashes_0 12 rfl rfl)
theorem dX0_hashes_13 : decode cX0_hashes 13 = .ok (.i2l, 1) := dk_133 (dk_at dksX0_hashes_0 13 rfl rfl)
theorem dX0_hashes_14 : decode cX0_hashes 14 = .ok (.lconst 0, 1) := dk_9 (dk_at dksX0_hashes_0 14 rfl rfl)
theorem dX0_hashes_15 : decode cX0_hashes 15 = .ok (.ldc2_w 251, 3) := dk_20 0 251 (dk_at dksX0_hashes_0 15 rfl rfl)
theorem dX0_hashes_18 : decode cX0_hashes 18 = .ok (.invokestatic 214, 3) := dk_184 0 214 (dk_at dksX0_hashes_0 18 rfl rfl)
theorem dX0_hashes_21 : decode cX0_hashes 21 = .ok (.ifCond .ne 8, 3) := dk_154 0 8 (dk_at dksX0_hashes_0 21 rfl rfl)
theorem dX0_hashes_24 : decode cX0_hashes 24 = .ok (.aload_n 0, 1) := dk_42 (dk_at dksX0_hashes_1 0 rfl rfl)
theorem dX0_hashes_25 : decode cX0_hashes 25 = .ok (.invokevirtual 227, 3) := dk_182 0 227 (dk_at dksX0_hashes_1 1 rfl rfl)
theorem dX0_hashes_28 : decode cX0_hashes 28 = .ok (.ireturn, 1) := dk_172 (dk_at dksX0_hashes_1 4 rfl rfl)
theorem dX0_hashes_29 : decode cX0_hashes 29 = .ok (.aload_n 0, 1) := dk_42 (dk_at dksX0_hashes_1 5 rfl rfl)
theorem dX0_hashes_30 : decode cX0_hashes 30 = .ok (.invokevirtual 237, 3) := dk_182 0 237 (dk_at dksX0_hashes_1 6 rfl rfl)
theorem dX0_hashes_33 : decode cX0_hashes 33 = .ok (.aload_n 0, 1) := dk_42 (dk_at dksX0_hashes_1 9 rfl rfl)
theorem dX0_hashes_34 : decode cX0_hashes 34 = .ok (.iload_n 1, 1) := dk_27 (dk_at dksX0_hashes_1 10 rfl rfl)
theorem dX0_hashes_35 : decode cX0_hashes 35 = .ok (.putfield 18, 3) := dk_181 0 18 (dk_at dksX0_hashes_1 11 rfl rfl)
theorem dX0_hashes_38 : decode cX0_hashes 38 = .ok (.aload_n 0, 1) := dk_42 (dk_at dksX0_hashes_1 14 rfl rfl)
theorem dX0_hashes_39 : decode cX0_hashes 39 = .ok (.iload_n 2, 1) := dk_28 (dk_at dksX0_hashes_1 15 rfl rfl)
theorem dX0_hashes_40 : decode cX0_hashes 40 = .ok (.putfield 68, 3) := dk_181 0 68 (dk_at dksX0_hashes_1 16 rfl rfl)
theorem dX0_hashes_43 : decode cX0_hashes 43 = .ok (.aload_n 0, 1) := dk_42 (dk_at dksX0_hashes_1 19 rfl rfl)
theorem dX0_hashes_44 : decode cX0_hashes 44 = .ok (.invokevirtual 55, 3) := dk_182 0 55 (dk_at dksX0_hashes_1 20 rfl rfl)
theorem dX0_hashes_47 : decode cX0_hashes 47 = .ok (.iconst 0, 1) := dk_3 (dk_at dksX0_hashes_1 23 rfl rfl)
theorem dX0_hashes_48 : decode cX0_hashes 48 = .ok (.istore_n 3, 1) := dk_62 (dk_at dksX0_hashes_2 0 rfl rfl)
theorem dX0_hashes_49 : decode cX0_hashes 49 = .ok (.aload_n 0, 1) := dk_42 (dk_at dksX0_hashes_2 1 rfl rfl)
theorem dX0_hashes_50 : decode cX0_hashes 50 = .ok (.getfield 140, 3) := dk_180 0 140 (dk_at dksX0_hashes_2 2 rfl rfl)
theorem dX0_hashes_53 : decode cX0_hashes 53 = .ok (.astore 4, 2) := dk_58 4 (dk_at dksX0_hashes_2 5 rfl rfl)
theorem dX0_hashes_55 : decode cX0_hashes 55 = .ok (.aload 4, 2) := dk_25 4 (dk_at dksX0_hashes_2 7 rfl rfl)
theorem dX0_hashes_57 : decode cX0_hashes 57 = .ok (.ifnull 23, 3) := dk_198 0 23 (dk_at dksX0_hashes_2 9 rfl rfl)
theorem dX0_hashes_60 : decode cX0_hashes 60 = .ok (.iinc 3 1, 3) := dk_132 3 1 (dk_at dksX0_hashes_2 12 rfl rfl)
theorem dX0_hashes_63 : decode cX0_hashes 63 = .ok (.aload_n 0, 1) := dk_42 (dk_at dksX0_hashes_2 15 rfl rfl)
theorem dX0_hashes_64 : decode cX0_hashes 64 = .ok (.aload 4, 2) := dk_25 4 (dk_at dksX0_hashes_2 16 rfl rfl)
theorem dX0_hashes_66 : decode cX0_hashes 66 = .ok (.iload_n 3, 1) := dk_29 (dk_at dksX0_hashes_2 18 rfl rfl)
theorem dX0_hashes_67 : decode cX0_hashes 67 = .ok (.invokevirtual 162, 3) := dk_182 0 162 (dk_at dksX0_hashes_2 19 rfl rfl)
theorem dX0_hashes_70 : decode cX0_hashes 70 = .ok (.aload 4, 2) := dk_25 4 (dk_at dksX0_hashes_2 22 rfl rfl)
theorem dX0_hashes_72 : decode cX0_hashes 72 = .ok (.getfield 137, 3) := dk_180 0 137 (dk_at dksX0_hashes_3 0 rfl rfl)
theorem dX0_hashes_75 : decode cX0_hashes 75 = .ok (.astore 4, 2) := dk_58 4 (dk_at dksX0_hashes_3 3 rfl rfl)
theorem dX0_hashes_77 : decode cX0_hashes 77 = .ok (.goto (-22), 3) := dk_167 255 234 (dk_at dksX0_hashes_3 5 rfl rfl)
theorem dX0_hashes_80 : decode cX0_hashes 80 = .ok (.aload_n 0, 1) := dk_42 (dk_at dksX0_hashes_3 8 rfl rfl)
theorem dX0_hashes_81 : decode cX0_hashes 81 = .ok (.dup, 1) := dk_89 (dk_at dksX0_hashes_3 9 rfl rfl)
theorem dX0_hashes_82 : decode cX0_hashes 82 = .ok (.getfield 153, 3) := dk_180 0 153 (dk_at dksX0_hashes_3 10 rfl rfl)
theorem dX0_hashes_85 : decode cX0_hashes 85 = .ok (.iconst 1, 1) := dk_4 (dk_at dksX0_hashes_3 13 rfl rfl)
theorem dX0_hashes_86 : decode cX0_hashes 86 = .ok (.iadd, 1) := dk_96 (dk_at dksX0_hashes_3 14 rfl rfl)
theorem dX0_hashes_87 : decode cX0_hashes 87 = .ok (.putfield 153, 3) := dk_181 0 153 (dk_at dksX0_hashes_3 15 rfl rfl)
theorem dX0_hashes_90 : decode cX0_hashes 90 = .ok (.aload_n 0, 1) := dk_42 (dk_at dksX0_hashes_3 18 rfl rfl)
theorem dX0_hashes_91 : decode cX0_hashes 91 = .ok (.getfield 62, 3) := dk_180 0 62 (dk_at dksX0_hashes_3 19 rfl rfl)
theorem dX0_hashes_94 : decode cX0_hashes 94 = .ok (.ireturn, 1) := dk_172 (dk_at dksX0_hashes_3 22 rfl rfl)
abbrev cX0_sets : ByteArray := prog_1_method_37_code
def yX0_sets : MethodName := ⟨RX0, "sets", "(II)I"⟩
def dkwX0_sets_3 : List UInt8 := [42, 27, 4, 160, 0, 7, 28, 167, 0, 7, 42, 180, 0, 166, 181, 0, 166, 29, 172]
abbrev dktX0_sets_3 : List UInt8 := dkwX0_sets_3 ++ []
def dkwX0_sets_2 : List UInt8 := [167, 0, 7, 42, 180, 0, 166, 62, 42, 27, 154, 0, 7, 28, 167, 0, 7, 42, 180, 0, 144, 181, 0, 144]
abbrev dktX0_sets_2 : List UInt8 := dkwX0_sets_2 ++ dktX0_sets_3
def dkwX0_sets_1 : List UInt8 := [184, 0, 214, 154, 0, 8, 42, 182, 0, 227, 172, 42, 182, 0, 237, 27, 154, 0, 10, 42, 180, 0, 144]
abbrev dktX0_sets_1 : List UInt8 := dkwX0_sets_1 ++ dktX0_sets_2
def dkwX0_sets_0 : List UInt8 := [27, 133, 9, 10, 184, 0, 214, 153, 0, 23, 28, 133, 9, 27, 154, 0, 7, 10, 167, 0, 6, 20, 0, 253]
abbrev dktX0_sets_0 : List UInt8 := dkwX0_sets_0 ++ dktX0_sets_1
theorem dksX0_sets_0 : cX0_sets.data.toList.drop 0 = dktX0_sets_0 := by decide +kernel
theorem dksX0_sets_1 : cX0_sets.data.toList.drop 24 = dktX0_sets_1 := dk_seg dksX0_sets_0 24 rfl rfl
theorem dksX0_sets_2 : cX0_sets.data.toList.drop 47 = dktX0_sets_2 := dk_seg dksX0_sets_1 23 rfl rfl
theorem dksX0_sets_3 : cX0_sets.data.toList.drop 71 = dktX0_sets_3 := dk_seg dksX0_sets_2 24 rfl rfl
theorem dX0_sets_0 : decode cX0_sets 0 = .ok (.iload_n 1, 1) := dk_27 (dk_at dksX0_sets_0 0 rfl rfl)
theorem dX0_sets_1 : decode cX0_sets 1 = .ok (.i2l, 1) := dk_133 (dk_at dksX0_sets_0 1 rfl rfl)
theorem dX0_sets_2 : decode cX0_sets 2 = .ok (.lconst 0, 1) := dk_9 (dk_at dksX0_sets_0 2 rfl rfl)
theorem dX0_sets_3 : decode cX0_sets 3 = .ok (.lconst 1, 1) := dk_10 (dk_at dksX0_sets_0 3 rfl rfl)
theorem dX0_sets_4 : decode cX0_sets 4 = .ok (.invokestatic 214, 3) := dk_184 0 214 (dk_at dksX0_sets_0 4 rfl rfl)
theorem dX0_sets_7 : decode cX0_sets 7 = .ok (.ifCond .eq 23, 3) := dk_153 0 23 (dk_at dksX0_sets_0 7 rfl rfl)
theorem dX0_sets_10 : decode cX0_sets 10 = .ok (.iload_n 2, 1) := dk_28 (dk_at dksX0_sets_0 10 rfl rfl)
theorem dX0_sets_11 : decode cX0_sets 11 = .ok (.i2l, 1) := dk_133 (dk_at dksX0_sets_0 11 rfl rfl)
theorem dX0_sets_12 : decode cX0_sets 12 = .ok (.lconst 0, 1) := dk_9 (dk_at dksX0_sets_0 12 rfl rfl)
theorem dX0_sets_13 : decode cX0_sets 13 = .ok (.iload_n 1, 1) := dk_27 (dk_at dksX0_sets_0 13 rfl rfl)
theorem dX0_sets_14 : decode cX0_sets 14 = .ok (.ifCond .ne 7, 3) := dk_154 0 7 (dk_at dksX0_sets_0 14 rfl rfl)
theorem dX0_sets_17 : decode cX0_sets 17 = .ok (.lconst 1, 1) := dk_10 (dk_at dksX0_sets_0 17 rfl rfl)
theorem dX0_sets_18 : decode cX0_sets 18 = .ok (.goto 6, 3) := dk_167 0 6 (dk_at dksX0_sets_0 18 rfl rfl)
theorem dX0_sets_21 : decode cX0_sets 21 = .ok (.ldc2_w 253, 3) := dk_20 0 253 (dk_at dksX0_sets_0 21 rfl rfl)
theorem dX0_sets_24 : decode cX0_sets 24 = .ok (.invokestatic 214, 3) := dk_184 0 214 (dk_at dksX0_sets_1 0 rfl rfl)
theorem dX0_sets_27 : decode cX0_sets 27 = .ok (.ifCond .ne 8, 3) := dk_154 0 8 (dk_at dksX0_sets_1 3 rfl rfl)
theorem dX0_sets_30 : decode cX0_sets 30 = .ok (.aload_n 0, 1) := dk_42 (dk_at dksX0_sets_1 6 rfl rfl)
theorem dX0_sets_31 : decode cX0_sets 31 = .ok (.invokevirtual 227, 3) := dk_182 0 227 (dk_at dksX0_sets_1 7 rfl rfl)
theorem dX0_sets_34 : decode cX0_sets 34 = .ok (.ireturn, 1) := dk_172 (dk_at dksX0_sets_1 10 rfl rfl)
theorem dX0_sets_35 : decode cX0_sets 35 = .ok (.aload_n 0, 1) := dk_42 (dk_at dksX0_sets_1 11 rfl rfl)
theorem dX0_sets_36 : decode cX0_sets 36 = .ok (.invokevirtual 237, 3) := dk_182 0 237 (dk_at dksX0_sets_1 12 rfl rfl)
theorem dX0_sets_39 : decode cX0_sets 39 = .ok (.iload_n 1, 1) := dk_27 (dk_at dksX0_sets_1 15 rfl rfl)
theorem dX0_sets_40 : decode cX0_sets 40 = .ok (.ifCond .ne 10, 3) := dk_154 0 10 (dk_at dksX0_sets_1 16 rfl rfl)
theorem dX0_sets_43 : decode cX0_sets 43 = .ok (.aload_n 0, 1) := dk_42 (dk_at dksX0_sets_1 19 rfl rfl)
theorem dX0_sets_44 : decode cX0_sets 44 = .ok (.getfield 144, 3) := dk_180 0 144 (dk_at dksX0_sets_1 20 rfl rfl)
theorem dX0_sets_47 : decode cX0_sets 47 = .ok (.goto 7, 3) := dk_167 0 7 (dk_at dksX0_sets_2 0 rfl rfl)
theorem dX0_sets_50 : decode cX0_sets 50 = .ok (.aload_n 0, 1) := dk_42 (dk_at dksX0_sets_2 3 rfl rfl)
theorem dX0_sets_51 : decode cX0_sets 51 = .ok (.getfield 166, 3) := dk_180 0 166 (dk_at dksX0_sets_2 4 rfl rfl)
theorem dX0_sets_54 : decode cX0_sets 54 = .ok (.istore_n 3, 1) := dk_62 (dk_at dksX0_sets_2 7 rfl rfl)
theorem dX0_sets_55 : decode cX0_sets 55 = .ok (.aload_n 0, 1) := dk_42 (dk_at dksX0_sets_2 8 rfl rfl)
theorem dX0_sets_56 : decode cX0_sets 56 = .ok (.iload_n 1, 1) := dk_27 (dk_at dksX0_sets_2 9 rfl rfl)
theorem dX0_sets_57 : decode cX0_sets 57 = .ok (.ifCond .ne 7, 3) := dk_154 0 7 (dk_at dksX0_sets_2 10 rfl rfl)
theorem dX0_sets_60 : decode cX0_sets 60 = .ok (.iload_n 2, 1) := dk_28 (dk_at dksX0_sets_2 13 rfl rfl)
theorem dX0_sets_61 : decode cX0_sets 61 = .ok (.goto 7, 3) := dk_167 0 7 (dk_at dksX0_sets_2 14 rfl rfl)
theorem dX0_sets_64 : decode cX0_sets 64 = .ok (.aload_n 0, 1) := dk_42 (dk_at dksX0_sets_2 17 rfl rfl)
theorem dX0_sets_65 : decode cX0_sets 65 = .ok (.getfield 144, 3) := dk_180 0 144 (dk_at dksX0_sets_2 18 rfl rfl)
theorem dX0_sets_68 : decode cX0_sets 68 = .ok (.putfield 144, 3) := dk_181 0 144 (dk_at dksX0_sets_2 21 rfl rfl)
theorem dX0_sets_71 : decode cX0_sets 71 = .ok (.aload_n 0, 1) := dk_42 (dk_at dksX0_sets_3 0 rfl rfl)
theorem dX0_sets_72 : decode cX0_sets 72 = .ok (.iload_n 1, 1) := dk_27 (dk_at dksX0_sets_3 1 rfl rfl)
theorem dX0_sets_73 : decode cX0_sets 73 = .ok (.iconst 1, 1) := dk_4 (dk_at dksX0_sets_3 2 rfl rfl)
theorem dX0_sets_74 : decode cX0_sets 74 = .ok (.if_icmp .ne 7, 3) := dk_160 0 7 (dk_at dksX0_sets_3 3 rfl rfl)
theorem dX0_sets_77 : decode cX0_sets 77 = .ok (.iload_n 2, 1) := dk_28 (dk_at dksX0_sets_3 6 rfl rfl)
theorem dX0_sets_78 : decode cX0_sets 78 = .ok (.goto 7, 3) := dk_167 0 7 (dk_at dksX0_sets_3 7 rfl rfl)
theorem dX0_sets_81 : decode cX0_sets 81 = .ok (.aload_n 0, 1) := dk_42 (dk_at dksX0_sets_3 10 rfl rfl)
theorem dX0_sets_82 : decode cX0_sets 82 = .ok (.getfield 166, 3) := dk_180 0 166 (dk_at dksX0_sets_3 11 rfl rfl)
theorem dX0_sets_85 : decode cX0_sets 85 = .ok (.putfield 166, 3) := dk_181 0 166 (dk_at dksX0_sets_3 14 rfl rfl)
theorem dX0_sets_88 : decode cX0_sets 88 = .ok (.iload_n 3, 1) := dk_29 (dk_at dksX0_sets_3 17 rfl rfl)
theorem dX0_sets_89 : decode cX0_sets 89 = .ok (.ireturn, 1) := dk_172 (dk_at dksX0_sets_3 18 rfl rfl)
abbrev cX0_hash : ByteArray := prog_1_method_38_code
def yX0_hash : MethodName := ⟨RX0, "hash", "(I)I"⟩
def dkwX0_hash_0 : List UInt8 := [27, 184, 0, 220, 153, 0, 11, 42, 27, 182, 0, 73, 167, 0, 7, 42, 182, 0, 227, 172]
abbrev dktX0_hash_0 : List UInt8 := dkwX0_hash_0 ++ []
theorem dksX0_hash_0 : cX0_hash.data.toList.drop 0 = dktX0_hash_0 := by decide +kernel
theorem dX0_hash_0 : decode cX0_hash 0 = .ok (.iload_n 1, 1) := dk_27 (dk_at dksX0_hash_0 0 rfl rfl)
theorem dX0_hash_1 : decode cX0_hash 1 = .ok (.invokestatic 220, 3) := dk_184 0 220 (dk_at dksX0_hash_0 1 rfl rfl)
theorem dX0_hash_4 : decode cX0_hash 4 = .ok (.ifCond .eq 11, 3) := dk_153 0 11 (dk_at dksX0_hash_0 4 rfl rfl)
theorem dX0_hash_7 : decode cX0_hash 7 = .ok (.aload_n 0, 1) := dk_42 (dk_at dksX0_hash_0 7 rfl rfl)
theorem dX0_hash_8 : decode cX0_hash 8 = .ok (.iload_n 1, 1) := dk_27 (dk_at dksX0_hash_0 8 rfl rfl)
theorem dX0_hash_9 : decode cX0_hash 9 = .ok (.invokevirtual 73, 3) := dk_182 0 73 (dk_at dksX0_hash_0 9 rfl rfl)
theorem dX0_hash_12 : decode cX0_hash 12 = .ok (.goto 7, 3) := dk_167 0 7 (dk_at dksX0_hash_0 12 rfl rfl)
theorem dX0_hash_15 : decode cX0_hash 15 = .ok (.aload_n 0, 1) := dk_42 (dk_at dksX0_hash_0 15 rfl rfl)
theorem dX0_hash_16 : decode cX0_hash 16 = .ok (.invokevirtual 227, 3) := dk_182 0 227 (dk_at dksX0_hash_0 16 rfl rfl)
theorem dX0_hash_19 : decode cX0_hash 19 = .ok (.ireturn, 1) := dk_172 (dk_at dksX0_hash_0 19 rfl rfl)
abbrev cX0_steps : ByteArray := prog_1_method_39_code
def yX0_steps : MethodName := ⟨RX0, "steps", "(I)I"⟩
def dkwX0_steps_1 : List UInt8 := [42, 182, 0, 227, 172]
abbrev dktX0_steps_1 : List UInt8 := dkwX0_steps_1 ++ []
def dkwX0_steps_0 : List UInt8 := [27, 184, 0, 220, 153, 0, 20, 42, 27, 182, 0, 80, 42, 27, 182, 0, 73, 27, 182, 0, 255, 167, 0, 7]
abbrev dktX0_steps_0 : List UInt8 := dkwX0_steps_0 ++ dktX0_steps_1
theorem dksX0_steps_0 : cX0_steps.data.toList.drop 0 = dktX0_steps_0 := by decide +kernel
theorem dksX0_steps_1 : cX0_steps.data.toList.drop 24 = dktX0_steps_1 := dk_seg dksX0_steps_0 24 rfl rfl
theorem dX0_steps_0 : decode cX0_steps 0 = .ok (.iload_n 1, 1) := dk_27 (dk_at dksX0_steps_0 0 rfl rfl)
theorem dX0_steps_1 : decode cX0_steps 1 = .ok (.invokestatic 220, 3) := dk_184 0 220 (dk_at dksX0_steps_0 1 rfl rfl)
theorem dX0_steps_4 : decode cX0_steps 4 = .ok (.ifCond .eq 20, 3) := dk_153 0 20 (dk_at dksX0_steps_0 4 rfl rfl)
theorem dX0_steps_7 : decode cX0_steps 7 = .ok (.aload_n 0, 1) := dk_42 (dk_at dksX0_steps_0 7 rfl rfl)
theorem dX0_steps_8 : decode cX0_steps 8 = .ok (.iload_n 1, 1) := dk_27 (dk_at dksX0_steps_0 8 rfl rfl)
theorem dX0_steps_9 : decode cX0_steps 9 = .ok (.invokevirtual 80, 3) := dk_182 0 80 (dk_at dksX0_steps_0 9 rfl rfl)
theorem dX0_steps_12 : decode cX0_steps 12 = .ok (.aload_n 0, 1) := dk_42 (dk_at dksX0_steps_0 12 rfl rfl)
theorem dX0_steps_13 : decode cX0_steps 13 = .ok (.iload_n 1, 1) := dk_27 (dk_at dksX0_steps_0 13 rfl rfl)
theorem dX0_steps_14 : decode cX0_steps 14 = .ok (.invokevirtual 73, 3) := dk_182 0 73 (dk_at dksX0_steps_0 14 rfl rfl)
theorem dX0_steps_17 : decode cX0_steps 17 = .ok (.iload_n 1, 1) := dk_27 (dk_at dksX0_steps_0 17 rfl rfl)
theorem dX0_steps_18 : decode cX0_steps 18 = .ok (.invokevirtual 255, 3) := dk_182 0 255 (dk_at dksX0_steps_0 18 rfl rfl)
theorem dX0_steps_21 : decode cX0_steps 21 = .ok (.goto 7, 3) := dk_167 0 7 (dk_at dksX0_steps_0 21 rfl rfl)
theorem dX0_steps_24 : decode cX0_steps 24 = .ok (.aload_n 0, 1) := dk_42 (dk_at dksX0_steps_1 0 rfl rfl)
theorem dX0_steps_25 : decode cX0_steps 25 = .ok (.invokevirtual 227, 3) := dk_182 0 227 (dk_at dksX0_steps_1 1 rfl rfl)
theorem dX0_steps_28 : decode cX0_steps 28 = .ok (.ireturn, 1) := dk_172 (dk_at dksX0_steps_1 4 rfl rfl)
abbrev cX0_order : ByteArray := prog_1_method_40_code
def yX0_order : MethodName := ⟨RX0, "order", "(I)I"⟩
def dkwX0_order_2 : List UInt8 := [180, 0, 120, 172]
abbrev dktX0_order_2 : List UInt8 := dkwX0_order_2 ++ []
def dkwX0_order_1 : List UInt8 := [198, 0, 14, 44, 180, 0, 137, 77, 132, 3, 1, 167, 255, 239, 44, 199, 0, 7, 2, 167, 0, 7, 44]
abbrev dktX0_order_1 : List UInt8 := dkwX0_order_1 ++ dktX0_order_2
def dkwX0_order_0 : List UInt8 := [27, 156, 0, 8, 42, 182, 0, 227, 172, 42, 180, 0, 140, 77, 3, 62, 29, 27, 162, 0, 18, 44]
abbrev dktX0_order_0 : List UInt8 := dkwX0_order_0 ++ dktX0_order_1
theorem dksX0_order_0 : cX0_order.data.toList.drop 0 = dktX0_order_0 := by decide +kernel
theorem dksX0_order_1 : cX0_order.data.toList.drop 22 = dktX0_order_1 := dk_seg dksX0_order_0 22 rfl rfl
theorem dksX0_order_2 : cX0_order.data.toList.drop 45 = dktX0_order_2 := dk_seg dksX0_order_1 23 rfl rfl
theorem dX0_order_0 : decode cX0_order 0 = .ok (.iload_n 1, 1) := dk_27 (dk_at dksX0_order_0 0 rfl rfl)
theorem dX0_order_1 : decode cX0_order 1 = .ok (.ifCond .ge 8, 3) := dk_156 0 8 (dk_at dksX0_order_0 1 rfl rfl)
theorem dX0_order_4 : decode cX0_order 4 = .ok (.aload_n 0, 1) := dk_42 (dk_at dksX0_order_0 4 rfl rfl)
theorem dX0_order_5 : decode cX0_order 5 = .ok (.invokevirtual 227, 3) := dk_182 0 227 (dk_at dksX0_order_0 5 rfl rfl)
theorem dX0_order_8 : decode cX0_order 8 = .ok (.ireturn, 1) := dk_172 (dk_at dksX0_order_0 8 rfl rfl)
theorem dX0_order_9 : decode cX0_order 9 = .ok (.aload_n 0, 1) := dk_42 (dk_at dksX0_order_0 9 rfl rfl)
theorem dX0_order_10 : decode cX0_order 10 = .ok (.getfield 140, 3) := dk_180 0 140 (dk_at dksX0_order_0 10 rfl rfl)
theorem dX0_order_13 : decode cX0_order 13 = .ok (.astore_n 2, 1) := dk_77 (dk_at dksX0_order_0 13 rfl rfl)
theorem dX0_order_14 : decode cX0_order 14 = .ok (.iconst 0, 1) := dk_3 (dk_at dksX0_order_0 14 rfl rfl)
theorem dX0_order_15 : decode cX0_order 15 = .ok (.istore_n 3, 1) := dk_62 (dk_at dksX0_order_0 15 rfl rfl)
theorem dX0_order_16 : decode cX0_order 16 = .ok (.iload_n 3, 1) := dk_29 (dk_at dksX0_order_0 16 rfl rfl)
theorem dX0_order_17 : decode cX0_order 17 = .ok (.iload_n 1, 1) := dk_27 (dk_at dksX0_order_0 17 rfl rfl)
theorem dX0_order_18 : decode cX0_order 18 = .ok (.if_icmp .ge 18, 3) := dk_162 0 18 (dk_at dksX0_order_0 18 rfl rfl)
theorem dX0_order_21 : decode cX0_order 21 = .ok (.aload_n 2, 1) := dk_44 (dk_at dksX0_order_0 21 rfl rfl)
theorem dX0_order_22 : decode cX0_order 22 = .ok (.ifnull 14, 3) := dk_198 0 14 (dk_at dksX0_order_1 0 rfl rfl)
theorem dX0_order_25 : decode cX0_order 25 = .ok (.aload_n 2, 1) := dk_44 (dk_at dksX0_order_1 3 rfl rfl)
theorem dX0_order_26 : decode cX0_order 26 = .ok (.getfield 137, 3) := dk_180 0 137 (dk_at dksX0_order_1 4 rfl rfl)
theorem dX0_order_29 : decode cX0_order 29 = .ok (.astore_n 2, 1) := dk_77 (dk_at dksX0_order_1 7 rfl rfl)
theorem dX0_order_30 : decode cX0_order 30 = .ok (.iinc 3 1, 3) := dk_132 3 1 (dk_at dksX0_order_1 8 rfl rfl)
theorem dX0_order_33 : decode cX0_order 33 = .ok (.goto (-17), 3) := dk_167 255 239 (dk_at dksX0_order_1 11 rfl rfl)
theorem dX0_order_36 : decode cX0_order 36 = .ok (.aload_n 2, 1) := dk_44 (dk_at dksX0_order_1 14 rfl rfl)
theorem dX0_order_37 : decode cX0_order 37 = .ok (.ifnonnull 7, 3) := dk_199 0 7 (dk_at dksX0_order_1 15 rfl rfl)
theorem dX0_order_40 : decode cX0_order 40 = .ok (.iconst (-1), 1) := dk_2 (dk_at dksX0_order_1 18 rfl rfl)
theorem dX0_order_41 : decode cX0_order 41 = .ok (.goto 7, 3) := dk_167 0 7 (dk_at dksX0_order_1 19 rfl rfl)
theorem dX0_order_44 : decode cX0_order 44 = .ok (.aload_n 2, 1) := dk_44 (dk_at dksX0_order_1 22 rfl rfl)
theorem dX0_order_45 : decode cX0_order 45 = .ok (.getfield 120, 3) := dk_180 0 120 (dk_at dksX0_order_2 0 rfl rfl)
theorem dX0_order_48 : decode cX0_order 48 = .ok (.ireturn, 1) := dk_172 (dk_at dksX0_order_2 3 rfl rfl)
abbrev cX0_bin : ByteArray := prog_1_method_43_code
def yX0_bin : MethodName := ⟨RX0, "bin", "(II)I"⟩
def dkwX0_bin_1 : List UInt8 := [180, 0, 14, 27, 50, 28, 182, 1, 13, 167, 0, 7, 42, 182, 0, 227, 172]
abbrev dktX0_bin_1 : List UInt8 := dkwX0_bin_1 ++ []
def dkwX0_bin_0 : List UInt8 := [42, 27, 182, 1, 8, 153, 0, 29, 28, 133, 9, 20, 1, 11, 184, 0, 214, 153, 0, 17, 42, 42]
abbrev dktX0_bin_0 : List UInt8 := dkwX0_bin_0 ++ dktX0_bin_1
theorem dksX0_bin_0 : cX0_bin.data.toList.drop 0 = dktX0_bin_0 := by decide +kernel
theorem dksX0_bin_1 : cX0_bin.data.toList.drop 22 = dktX0_bin_1 := dk_seg dksX0_bin_0 22 rfl rfl
theorem dX0_bin_0 : decode cX0_bin 0 = .ok (.aload_n 0, 1) := dk_42 (dk_at dksX0_bin_0 0 rfl rfl)
theorem dX0_bin_1 : decode cX0_bin 1 = .ok (.iload_n 1, 1) := dk_27 (dk_at dksX0_bin_0 1 rfl rfl)
theorem dX0_bin_2 : decode cX0_bin 2 = .ok (.invokevirtual 264, 3) := dk_182 1 8 (dk_at dksX0_bin_0 2 rfl rfl)
theorem dX0_bin_5 : decode cX0_bin 5 = .ok (.ifCond .eq 29, 3) := dk_153 0 29 (dk_at dksX0_bin_0 5 rfl rfl)
theorem dX0_bin_8 : decode cX0_bin 8 = .ok (.iload_n 2, 1) := dk_28 (dk_at dksX0_bin_0 8 rfl rfl)
theorem dX0_bin_9 : decode cX0_bin 9 = .ok (.i2l, 1) := dk_133 (dk_at dksX0_bin_0 9 rfl rfl)
theorem dX0_bin_10 : decode cX0_bin 10 = .ok (.lconst 0, 1) := dk_9 (dk_at dksX0_bin_0 10 rfl rfl)
theorem dX0_bin_11 : decode cX0_bin 11 = .ok (.ldc2_w 267, 3) := dk_20 1 11 (dk_at dksX0_bin_0 11 rfl rfl)
theorem dX0_bin_14 : decode cX0_bin 14 = .ok (.invokestatic 214, 3) := dk_184 0 214 (dk_at dksX0_bin_0 14 rfl rfl)
theorem dX0_bin_17 : decode cX0_bin 17 = .ok (.ifCond .eq 17, 3) := dk_153 0 17 (dk_at dksX0_bin_0 17 rfl rfl)
theorem dX0_bin_20 : decode cX0_bin 20 = .ok (.aload_n 0, 1) := dk_42 (dk_at dksX0_bin_0 20 rfl rfl)
theorem dX0_bin_21 : decode cX0_bin 21 = .ok (.aload_n 0, 1) := dk_42 (dk_at dksX0_bin_0 21 rfl rfl)
theorem dX0_bin_22 : decode cX0_bin 22 = .ok (.getfield 14, 3) := dk_180 0 14 (dk_at dksX0_bin_1 0 rfl rfl)
theorem dX0_bin_25 : decode cX0_bin 25 = .ok (.iload_n 1, 1) := dk_27 (dk_at dksX0_bin_1 3 rfl rfl)
theorem dX0_bin_26 : decode cX0_bin 26 = .ok (.aaload, 1) := dk_50 (dk_at dksX0_bin_1 4 rfl rfl)
theorem dX0_bin_27 : decode cX0_bin 27 = .ok (.iload_n 2, 1) := dk_28 (dk_at dksX0_bin_1 5 rfl rfl)
theorem dX0_bin_28 : decode cX0_bin 28 = .ok (.invokevirtual 269, 3) := dk_182 1 13 (dk_at dksX0_bin_1 6 rfl rfl)
theorem dX0_bin_31 : decode cX0_bin 31 = .ok (.goto 7, 3) := dk_167 0 7 (dk_at dksX0_bin_1 9 rfl rfl)
theorem dX0_bin_34 : decode cX0_bin 34 = .ok (.aload_n 0, 1) := dk_42 (dk_at dksX0_bin_1 12 rfl rfl)
theorem dX0_bin_35 : decode cX0_bin 35 = .ok (.invokevirtual 227, 3) := dk_182 0 227 (dk_at dksX0_bin_1 13 rfl rfl)
theorem dX0_bin_38 : decode cX0_bin 38 = .ok (.ireturn, 1) := dk_172 (dk_at dksX0_bin_1 16 rfl rfl)
abbrev cX0_isBin : ByteArray := prog_1_method_41_code
def yX0_isBin : MethodName := ⟨RX0, "isBin", "(I)Z"⟩
def dkwX0_isBin_0 : List UInt8 := [27, 133, 9, 42, 180, 0, 62, 4, 100, 133, 184, 0, 214, 172]
abbrev dktX0_isBin_0 : List UInt8 := dkwX0_isBin_0 ++ []
theorem dksX0_isBin_0 : cX0_isBin.data.toList.drop 0 = dktX0_isBin_0 := by decide +kernel
theorem dX0_isBin_0 : decode cX0_isBin 0 = .ok (.iload_n 1, 1) := dk_27 (dk_at dksX0_isBin_0 0 rfl rfl)
theorem dX0_isBin_1 : decode cX0_isBin 1 = .ok (.i2l, 1) := dk_133 (dk_at dksX0_isBin_0 1 rfl rfl)
theorem dX0_isBin_2 : decode cX0_isBin 2 = .ok (.lconst 0, 1) := dk_9 (dk_at dksX0_isBin_0 2 rfl rfl)
theorem dX0_isBin_3 : decode cX0_isBin 3 = .ok (.aload_n 0, 1) := dk_42 (dk_at dksX0_isBin_0 3 rfl rfl)
theorem dX0_isBin_4 : decode cX0_isBin 4 = .ok (.getfield 62, 3) := dk_180 0 62 (dk_at dksX0_isBin_0 4 rfl rfl)
theorem dX0_isBin_7 : decode cX0_isBin 7 = .ok (.iconst 1, 1) := dk_4 (dk_at dksX0_isBin_0 7 rfl rfl)
theorem dX0_isBin_8 : decode cX0_isBin 8 = .ok (.isub, 1) := dk_100 (dk_at dksX0_isBin_0 8 rfl rfl)
theorem dX0_isBin_9 : decode cX0_isBin 9 = .ok (.i2l, 1) := dk_133 (dk_at dksX0_isBin_0 9 rfl rfl)
theorem dX0_isBin_10 : decode cX0_isBin 10 = .ok (.invokestatic 214, 3) := dk_184 0 214 (dk_at dksX0_isBin_0 10 rfl rfl)
theorem dX0_isBin_13 : decode cX0_isBin 13 = .ok (.ireturn, 1) := dk_172 (dk_at dksX0_isBin_0 13 rfl rfl)
abbrev cX0_about : ByteArray := prog_1_method_42_code
def yX0_about : MethodName := ⟨RX0, "about", "(LCrowdedBins$Bin;I)I"⟩
def dkwX0_about_3 : List UInt8 := [199, 0, 7, 2, 167, 0, 10, 43, 182, 1, 2, 180, 0, 120, 172, 43, 182, 1, 5, 172]
abbrev dktX0_about_3 : List UInt8 := dkwX0_about_3 ++ []
def dkwX0_about_2 : List UInt8 := [43, 182, 0, 124, 172, 43, 193, 0, 88, 153, 0, 7, 4, 167, 0, 4, 3, 172, 43, 182, 1, 2]
abbrev dktX0_about_2 : List UInt8 := dkwX0_about_2 ++ dktX0_about_3
def dkwX0_about_1 : List UInt8 := [170, 0, 0, 0, 0, 0, 64, 0, 0, 0, 0, 0, 0, 0, 2, 0, 0, 0, 27, 0, 0, 0, 32, 0, 0, 0, 45]
abbrev dktX0_about_1 : List UInt8 := dkwX0_about_1 ++ dktX0_about_2
def dkwX0_about_0 : List UInt8 := [28]
abbrev dktX0_about_0 : List UInt8 := dkwX0_about_0 ++ dktX0_about_1
theorem dksX0_about_0 : cX0_about.data.toList.drop 0 = dktX0_about_0 := by decide +kernel
theorem dksX0_about_1 : cX0_about.data.toList.drop 1 = dktX0_about_1 := dk_seg dksX0_about_0 1 rfl rfl
theorem dksX0_about_2 : cX0_about.data.toList.drop 28 = dktX0_about_2 := dk_seg dksX0_about_1 27 rfl rfl
theorem dksX0_about_3 : cX0_about.data.toList.drop 50 = dktX0_about_3 := dk_seg dksX0_about_2 22 rfl rfl
theorem dX0_about_0 : decode cX0_about 0 = .ok (.iload_n 2, 1) := dk_28 (dk_at dksX0_about_0 0 rfl rfl)
theorem dX0_about_1 : decode cX0_about 1 = .ok (.tableswitch 64 0 2 #[27, 32, 45], 27) := by decide +kernel
theorem dX0_about_28 : decode cX0_about 28 = .ok (.aload_n 1, 1) := dk_43 (dk_at dksX0_about_2 0 rfl rfl)
theorem dX0_about_29 : decode cX0_about 29 = .ok (.invokevirtual 124, 3) := dk_182 0 124 (dk_at dksX0_about_2 1 rfl rfl)
theorem dX0_about_32 : decode cX0_about 32 = .ok (.ireturn, 1) := dk_172 (dk_at dksX0_about_2 4 rfl rfl)
theorem dX0_about_33 : decode cX0_about 33 = .ok (.aload_n 1, 1) := dk_43 (dk_at dksX0_about_2 5 rfl rfl)
theorem dX0_about_34 : decode cX0_about 34 = .ok (.instanceof 88, 3) := dk_193 0 88 (dk_at dksX0_about_2 6 rfl rfl)
theorem dX0_about_37 : decode cX0_about 37 = .ok (.ifCond .eq 7, 3) := dk_153 0 7 (dk_at dksX0_about_2 9 rfl rfl)
theorem dX0_about_40 : decode cX0_about 40 = .ok (.iconst 1, 1) := dk_4 (dk_at dksX0_about_2 12 rfl rfl)
theorem dX0_about_41 : decode cX0_about 41 = .ok (.goto 4, 3) := dk_167 0 4 (dk_at dksX0_about_2 13 rfl rfl)
theorem dX0_about_44 : decode cX0_about 44 = .ok (.iconst 0, 1) := dk_3 (dk_at dksX0_about_2 16 rfl rfl)
theorem dX0_about_45 : decode cX0_about 45 = .ok (.ireturn, 1) := dk_172 (dk_at dksX0_about_2 17 rfl rfl)
theorem dX0_about_46 : decode cX0_about 46 = .ok (.aload_n 1, 1) := dk_43 (dk_at dksX0_about_2 18 rfl rfl)
theorem dX0_about_47 : decode cX0_about 47 = .ok (.invokevirtual 258, 3) := dk_182 1 2 (dk_at dksX0_about_2 19 rfl rfl)
theorem dX0_about_50 : decode cX0_about 50 = .ok (.ifnonnull 7, 3) := dk_199 0 7 (dk_at dksX0_about_3 0 rfl rfl)
theorem dX0_about_53 : decode cX0_about 53 = .ok (.iconst (-1), 1) := dk_2 (dk_at dksX0_about_3 3 rfl rfl)
theorem dX0_about_54 : decode cX0_about 54 = .ok (.goto 10, 3) := dk_167 0 10 (dk_at dksX0_about_3 4 rfl rfl)
theorem dX0_about_57 : decode cX0_about 57 = .ok (.aload_n 1, 1) := dk_43 (dk_at dksX0_about_3 7 rfl rfl)
theorem dX0_about_58 : decode cX0_about 58 = .ok (.invokevirtual 258, 3) := dk_182 1 2 (dk_at dksX0_about_3 8 rfl rfl)
theorem dX0_about_61 : decode cX0_about 61 = .ok (.getfield 120, 3) := dk_180 0 120 (dk_at dksX0_about_3 11 rfl rfl)
theorem dX0_about_64 : decode cX0_about 64 = .ok (.ireturn, 1) := dk_172 (dk_at dksX0_about_3 14 rfl rfl)
theorem dX0_about_65 : decode cX0_about 65 = .ok (.aload_n 1, 1) := dk_43 (dk_at dksX0_about_3 15 rfl rfl)
theorem dX0_about_66 : decode cX0_about 66 = .ok (.invokevirtual 261, 3) := dk_182 1 5 (dk_at dksX0_about_3 16 rfl rfl)
theorem dX0_about_69 : decode cX0_about 69 = .ok (.ireturn, 1) := dk_172 (dk_at dksX0_about_3 19 rfl rfl)
abbrev cX0_row : ByteArray := prog_1_method_44_code
def yX0_row : MethodName := ⟨RX0, "row", "(II)I"⟩
def dkwX0_row_2 : List UInt8 := [132, 4, 1, 167, 255, 238, 45, 199, 0, 7, 2, 167, 0, 7, 45, 180, 0, 120, 172]
abbrev dktX0_row_2 : List UInt8 := dkwX0_row_2 ++ []
def dkwX0_row_1 : List UInt8 := [182, 0, 95, 78, 3, 54, 4, 21, 4, 28, 162, 0, 18, 45, 198, 0, 14, 45, 180, 0, 99, 78]
abbrev dktX0_row_1 : List UInt8 := dkwX0_row_1 ++ dktX0_row_2
def dkwX0_row_0 : List UInt8 := [42, 27, 182, 1, 8, 153, 0, 7, 28, 156, 0, 8, 42, 182, 0, 227, 172, 42, 180, 0, 14, 27, 50]
abbrev dktX0_row_0 : List UInt8 := dkwX0_row_0 ++ dktX0_row_1
theorem dksX0_row_0 : cX0_row.data.toList.drop 0 = dktX0_row_0 := by decide +kernel
theorem dksX0_row_1 : cX0_row.data.toList.drop 23 = dktX0_row_1 := dk_seg dksX0_row_0 23 rfl rfl
theorem dksX0_row_2 : cX0_row.data.toList.drop 45 = dktX0_row_2 := dk_seg dksX0_row_1 22 rfl rfl
theorem dX0_row_0 : decode cX0_row 0 = .ok (.aload_n 0, 1) := dk_42 (dk_at dksX0_row_0 0 rfl rfl)
theorem dX0_row_1 : decode cX0_row 1 = .ok (.iload_n 1, 1) := dk_27 (dk_at dksX0_row_0 1 rfl rfl)
theorem dX0_row_2 : decode cX0_row 2 = .ok (.invokevirtual 264, 3) := dk_182 1 8 (dk_at dksX0_row_0 2 rfl rfl)
theorem dX0_row_5 : decode cX0_row 5 = .ok (.ifCond .eq 7, 3) := dk_153 0 7 (dk_at dksX0_row_0 5 rfl rfl)
theorem dX0_row_8 : decode cX0_row 8 = .ok (.iload_n 2, 1) := dk_28 (dk_at dksX0_row_0 8 rfl rfl)
theorem dX0_row_9 : decode cX0_row 9 = .ok (.ifCond .ge 8, 3) := dk_156 0 8 (dk_at dksX0_row_0 9 rfl rfl)
theorem dX0_row_12 : decode cX0_row 12 = .ok (.aload_n 0, 1) := dk_42 (dk_at dksX0_row_0 12 rfl rfl)
theorem dX0_row_13 : decode cX0_row 13 = .ok (.invokevirtual 227, 3) := dk_182 0 227 (dk_at dksX0_row_0 13 rfl rfl)
theorem dX0_row_16 : decode cX0_row 16 = .ok (.ireturn, 1) := dk_172 (dk_at dksX0_row_0 16 rfl rfl)
theorem dX0_row_17 : decode cX0_row 17 = .ok (.aload_n 0, 1) := dk_42 (dk_at dksX0_row_0 17 rfl rfl)
theorem dX0_row_18 : decode cX0_row 18 = .ok (.getfield 14, 3) := dk_180 0 14 (dk_at dksX0_row_0 18 rfl rfl)
theorem dX0_row_21 : decode cX0_row 21 = .ok (.iload_n 1, 1) := dk_27 (dk_at dksX0_row_0 21 rfl rfl)
theorem dX0_row_22 : decode cX0_row 22 = .ok (.aaload, 1) := dk_50 (dk_at dksX0_row_0 22 rfl rfl)
theorem dX0_row_23 : decode cX0_row 23 = .ok (.invokevirtual 95, 3) := dk_182 0 95 (dk_at dksX0_row_1 0 rfl rfl)
theorem dX0_row_26 : decode cX0_row 26 = .ok (.astore_n 3, 1) := dk_78 (dk_at dksX0_row_1 3 rfl rfl)
theorem dX0_row_27 : decode cX0_row 27 = .ok (.iconst 0, 1) := dk_3 (dk_at dksX0_row_1 4 rfl rfl)
theorem dX0_row_28 : decode cX0_row 28 = .ok (.istore 4, 2) := dk_54 4 (dk_at dksX0_row_1 5 rfl rfl)
theorem dX0_row_30 : decode cX0_row 30 = .ok (.iload 4, 2) := dk_21 4 (dk_at dksX0_row_1 7 rfl rfl)
theorem dX0_row_32 : decode cX0_row 32 = .ok (.iload_n 2, 1) := dk_28 (dk_at dksX0_row_1 9 rfl rfl)
theorem dX0_row_33 : decode cX0_row 33 = .ok (.if_icmp .ge 18, 3) := dk_162 0 18 (dk_at dksX0_row_1 10 rfl rfl)
theorem dX0_row_36 : decode cX0_row 36 = .ok (.aload_n 3, 1) := dk_45 (dk_at dksX0_row_1 13 rfl rfl)
theorem dX0_row_37 : decode cX0_row 37 = .ok (.ifnull 14, 3) := dk_198 0 14 (dk_at dksX0_row_1 14 rfl rfl)
theorem dX0_row_40 : decode cX0_row 40 = .ok (.aload_n 3, 1) := dk_45 (dk_at dksX0_row_1 17 rfl rfl)
theorem dX0_row_41 : decode cX0_row 41 = .ok (.getfield 99, 3) := dk_180 0 99 (dk_at dksX0_row_1 18 rfl rfl)
theorem dX0_row_44 : decode cX0_row 44 = .ok (.astore_n 3, 1) := dk_78 (dk_at dksX0_row_1 21 rfl rfl)
theorem dX0_row_45 : decode cX0_row 45 = .ok (.iinc 4 1, 3) := dk_132 4 1 (dk_at dksX0_row_2 0 rfl rfl)
theorem dX0_row_48 : decode cX0_row 48 = .ok (.goto (-18), 3) := dk_167 255 238 (dk_at dksX0_row_2 3 rfl rfl)
theorem dX0_row_51 : decode cX0_row 51 = .ok (.aload_n 3, 1) := dk_45 (dk_at dksX0_row_2 6 rfl rfl)
theorem dX0_row_52 : decode cX0_row 52 = .ok (.ifnonnull 7, 3) := dk_199 0 7 (dk_at dksX0_row_2 7 rfl rfl)
theorem dX0_row_55 : decode cX0_row 55 = .ok (.iconst (-1), 1) := dk_2 (dk_at dksX0_row_2 10 rfl rfl)
theorem dX0_row_56 : decode cX0_row 56 = .ok (.goto 7, 3) := dk_167 0 7 (dk_at dksX0_row_2 11 rfl rfl)
theorem dX0_row_59 : decode cX0_row 59 = .ok (.aload_n 3, 1) := dk_45 (dk_at dksX0_row_2 14 rfl rfl)
theorem dX0_row_60 : decode cX0_row 60 = .ok (.getfield 120, 3) := dk_180 0 120 (dk_at dksX0_row_2 15 rfl rfl)
theorem dX0_row_63 : decode cX0_row 63 = .ok (.ireturn, 1) := dk_172 (dk_at dksX0_row_2 18 rfl rfl)
abbrev cX0_node : ByteArray := prog_1_method_47_code
def yX0_node : MethodName := ⟨RX0, "node", "(II)I"⟩
def dkwX0_node_2 : List UInt8 := [153, 0, 14, 42, 45, 25, 4, 28, 182, 1, 30, 167, 0, 7, 42, 182, 1, 34, 172]
abbrev dktX0_node_2 : List UInt8 := dkwX0_node_2 ++ []
def dkwX0_node_1 : List UInt8 := [42, 27, 182, 0, 80, 78, 42, 27, 182, 0, 230, 58, 4, 25, 4, 198, 0, 21, 45, 193, 0, 88]
abbrev dktX0_node_1 : List UInt8 := dkwX0_node_1 ++ dktX0_node_2
def dkwX0_node_0 : List UInt8 := [27, 184, 0, 220, 153, 0, 15, 28, 133, 9, 20, 1, 11, 184, 0, 214, 154, 0, 8, 42, 182, 0, 227, 172]
abbrev dktX0_node_0 : List UInt8 := dkwX0_node_0 ++ dktX0_node_1
theorem dksX0_node_0 : cX0_node.data.toList.drop 0 = dktX0_node_0 := by decide +kernel
theorem dksX0_node_1 : cX0_node.data.toList.drop 24 = dktX0_node_1 := dk_seg dksX0_node_0 24 rfl rfl
theorem dksX0_node_2 : cX0_node.data.toList.drop 46 = dktX0_node_2 := dk_seg dksX0_node_1 22 rfl rfl
theorem dX0_node_0 : decode cX0_node 0 = .ok (.iload_n 1, 1) := dk_27 (dk_at dksX0_node_0 0 rfl rfl)
theorem dX0_node_1 : decode cX0_node 1 = .ok (.invokestatic 220, 3) := dk_184 0 220 (dk_at dksX0_node_0 1 rfl rfl)
theorem dX0_node_4 : decode cX0_node 4 = .ok (.ifCond .eq 15, 3) := dk_153 0 15 (dk_at dksX0_node_0 4 rfl rfl)
theorem dX0_node_7 : decode cX0_node 7 = .ok (.iload_n 2, 1) := dk_28 (dk_at dksX0_node_0 7 rfl rfl)
theorem dX0_node_8 : decode cX0_node 8 = .ok (.i2l, 1) := dk_133 (dk_at dksX0_node_0 8 rfl rfl)
theorem dX0_node_9 : decode cX0_node 9 = .ok (.lconst 0, 1) := dk_9 (dk_at dksX0_node_0 9 rfl rfl)
theorem dX0_node_10 : decode cX0_node 10 = .ok (.ldc2_w 267, 3) := dk_20 1 11 (dk_at dksX0_node_0 10 rfl rfl)
theorem dX0_node_13 : decode cX0_node 13 = .ok (.invokestatic 214, 3) := dk_184 0 214 (dk_at dksX0_node_0 13 rfl rfl)
theorem dX0_node_16 : decode cX0_node 16 = .ok (.ifCond .ne 8, 3) := dk_154 0 8 (dk_at dksX0_node_0 16 rfl rfl)
theorem dX0_node_19 : decode cX0_node 19 = .ok (.aload_n 0, 1) := dk_42 (dk_at dksX0_node_0 19 rfl rfl)
theorem dX0_node_20 : decode cX0_node 20 = .ok (.invokevirtual 227, 3) := dk_182 0 227 (dk_at dksX0_node_0 20 rfl rfl)
theorem dX0_node_23 : decode cX0_node 23 = .ok (.ireturn, 1) := dk_172 (dk_at dksX0_node_0 23 rfl rfl)
theorem dX0_node_24 : decode cX0_node 24 = .ok (.aload_n 0, 1) := dk_42 (dk_at dksX0_node_1 0 rfl rfl)
theorem dX0_node_25 : decode cX0_node 25 = .ok (.iload_n 1, 1) := dk_27 (dk_at dksX0_node_1 1 rfl rfl)
theorem dX0_node_26 : decode cX0_node 26 = .ok (.invokevirtual 80, 3) := dk_182 0 80 (dk_at dksX0_node_1 2 rfl rfl)
theorem dX0_node_29 : decode cX0_node 29 = .ok (.astore_n 3, 1) := dk_78 (dk_at dksX0_node_1 5 rfl rfl)
theorem dX0_node_30 : decode cX0_node 30 = .ok (.aload_n 0, 1) := dk_42 (dk_at dksX0_node_1 6 rfl rfl)
theorem dX0_node_31 : decode cX0_node 31 = .ok (.iload_n 1, 1) := dk_27 (dk_at dksX0_node_1 7 rfl rfl)
theorem dX0_node_32 : decode cX0_node 32 = .ok (.invokevirtual 230, 3) := dk_182 0 230 (dk_at dksX0_node_1 8 rfl rfl)
theorem dX0_node_35 : decode cX0_node 35 = .ok (.astore 4, 2) := dk_58 4 (dk_at dksX0_node_1 11 rfl rfl)
theorem dX0_node_37 : decode cX0_node 37 = .ok (.aload 4, 2) := dk_25 4 (dk_at dksX0_node_1 13 rfl rfl)
theorem dX0_node_39 : decode cX0_node 39 = .ok (.ifnull 21, 3) := dk_198 0 21 (dk_at dksX0_node_1 15 rfl rfl)
theorem dX0_node_42 : decode cX0_node 42 = .ok (.aload_n 3, 1) := dk_45 (dk_at dksX0_node_1 18 rfl rfl)
theorem dX0_node_43 : decode cX0_node 43 = .ok (.instanceof 88, 3) := dk_193 0 88 (dk_at dksX0_node_1 19 rfl rfl)
theorem dX0_node_46 : decode cX0_node 46 = .ok (.ifCond .eq 14, 3) := dk_153 0 14 (dk_at dksX0_node_2 0 rfl rfl)
theorem dX0_node_49 : decode cX0_node 49 = .ok (.aload_n 0, 1) := dk_42 (dk_at dksX0_node_2 3 rfl rfl)
theorem dX0_node_50 : decode cX0_node 50 = .ok (.aload_n 3, 1) := dk_45 (dk_at dksX0_node_2 4 rfl rfl)
theorem dX0_node_51 : decode cX0_node 51 = .ok (.aload 4, 2) := dk_25 4 (dk_at dksX0_node_2 5 rfl rfl)
theorem dX0_node_53 : decode cX0_node 53 = .ok (.iload_n 2, 1) := dk_28 (dk_at dksX0_node_2 7 rfl rfl)
theorem dX0_node_54 : decode cX0_node 54 = .ok (.invokevirtual 286, 3) := dk_182 1 30 (dk_at dksX0_node_2 8 rfl rfl)
theorem dX0_node_57 : decode cX0_node 57 = .ok (.goto 7, 3) := dk_167 0 7 (dk_at dksX0_node_2 11 rfl rfl)
theorem dX0_node_60 : decode cX0_node 60 = .ok (.aload_n 0, 1) := dk_42 (dk_at dksX0_node_2 14 rfl rfl)
theorem dX0_node_61 : decode cX0_node 61 = .ok (.invokevirtual 290, 3) := dk_182 1 34 (dk_at dksX0_node_2 15 rfl rfl)
theorem dX0_node_64 : decode cX0_node 64 = .ok (.ireturn, 1) := dk_172 (dk_at dksX0_node_2 18 rfl rfl)
abbrev cX0_nodeOf : ByteArray := prog_1_method_46_code
def yX0_nodeOf : MethodName := ⟨RX0, "nodeOf", "(LCrowdedBins$Bin;LCrowdedBins$Entry;I)I"⟩
def dkwX0_nodeOf_4 : List UInt8 := [25, 4, 184, 1, 26, 167, 0, 5, 21, 5, 172]
abbrev dktX0_nodeOf_4 : List UInt8 := dkwX0_nodeOf_4 ++ []
def dkwX0_nodeOf_3 : List UInt8 := [167, 0, 33, 29, 4, 160, 0, 13, 44, 180, 1, 23, 184, 1, 26, 167, 0, 18, 29, 5, 160, 0, 11]
abbrev dktX0_nodeOf_3 : List UInt8 := dkwX0_nodeOf_3 ++ dktX0_nodeOf_4
def dkwX0_nodeOf_2 : List UInt8 := [180, 1, 23, 58, 6, 132, 5, 1, 167, 255, 212, 29, 154, 0, 13, 44, 180, 1, 20, 184, 1, 26]
abbrev dktX0_nodeOf_2 : List UInt8 := dkwX0_nodeOf_2 ++ dktX0_nodeOf_3
def dkwX0_nodeOf_1 : List UInt8 := [44, 180, 0, 105, 44, 180, 0, 120, 182, 1, 17, 156, 0, 11, 25, 6, 180, 1, 20, 167, 0, 8, 25, 6]
abbrev dktX0_nodeOf_1 : List UInt8 := dkwX0_nodeOf_1 ++ dktX0_nodeOf_2
def dkwX0_nodeOf_0 : List UInt8 := [1, 58, 4, 4, 54, 5, 43, 182, 1, 2, 58, 6, 25, 6, 44, 165, 0, 44, 25, 6, 58, 4, 25, 6]
abbrev dktX0_nodeOf_0 : List UInt8 := dkwX0_nodeOf_0 ++ dktX0_nodeOf_1
theorem dksX0_nodeOf_0 : cX0_nodeOf.data.toList.drop 0 = dktX0_nodeOf_0 := by decide +kernel
theorem dksX0_nodeOf_1 : cX0_nodeOf.data.toList.drop 24 = dktX0_nodeOf_1 := dk_seg dksX0_nodeOf_0 24 rfl rfl
theorem dksX0_nodeOf_2 : cX0_nodeOf.data.toList.drop 48 = dktX0_nodeOf_2 := dk_seg dksX0_nodeOf_1 24 rfl rfl
theorem dksX0_nodeOf_3 : cX0_nodeOf.data.toList.drop 70 = dktX0_nodeOf_3 := dk_seg dksX0_nodeOf_2 22 rfl rfl
theorem dksX0_nodeOf_4 : cX0_nodeOf.data.toList.drop 93 = dktX0_nodeOf_4 := dk_seg dksX0_nodeOf_3 23 rfl rfl
theorem dX0_nodeOf_0 : decode cX0_nodeOf 0 = .ok (.aconst_null, 1) := dk_1 (dk_at dksX0_nodeOf_0 0 rfl rfl)
theorem dX0_nodeOf_1 : decode cX0_nodeOf 1 = .ok (.astore 4, 2) := dk_58 4 (dk_at dksX0_nodeOf_0 1 rfl rfl)
theorem dX0_nodeOf_3 : decode cX0_nodeOf 3 = .ok (.iconst 1, 1) := dk_4 (dk_at dksX0_nodeOf_0 3 rfl rfl)
theorem dX0_nodeOf_4 : decode cX0_nodeOf 4 = .ok (.istore 5, 2) := dk_54 5 (dk_at dksX0_nodeOf_0 4 rfl rfl)
theorem dX0_nodeOf_6 : decode cX0_nodeOf 6 = .ok (.aload_n 1, 1) := dk_43 (dk_at dksX0_nodeOf_0 6 rfl rfl)
theorem dX0_nodeOf_7 : decode cX0_nodeOf 7 = .ok (.invokevirtual 258, 3) := dk_182 1 2 (dk_at dksX0_nodeOf_0 7 rfl rfl)
theorem dX0_nodeOf_10 : decode cX0_nodeOf 10 = .ok (.astore 6, 2) := dk_58 6 (dk_at dksX0_nodeOf_0 10 rfl rfl)
theorem dX0_nodeOf_12 : decode cX0_nodeOf 12 = .ok (.aload 6, 2) := dk_25 6 (dk_at dksX0_nodeOf_0 12 rfl rfl)
theorem dX0_nodeOf_14 : decode cX0_nodeOf 14 = .ok (.aload_n 2, 1) := dk_44 (dk_at dksX0_nodeOf_0 14 rfl rfl)
theorem dX0_nodeOf_15 : decode cX0_nodeOf 15 = .ok (.if_acmp .eq 44, 3) := dk_165 0 44 (dk_at dksX0_nodeOf_0 15 rfl rfl)
theorem dX0_nodeOf_18 : decode cX0_nodeOf 18 = .ok (.aload 6, 2) := dk_25 6 (dk_at dksX0_nodeOf_0 18 rfl rfl)
theorem dX0_nodeOf_20 : decode cX0_nodeOf 20 = .ok (.astore 4, 2) := dk_58 4 (dk_at dksX0_nodeOf_0 20 rfl rfl)
theorem dX0_nodeOf_22 : decode cX0_nodeOf 22 = .ok (.aload 6, 2) := dk_25 6 (dk_at dksX0_nodeOf_0 22 rfl rfl)
theorem dX0_nodeOf_24 : decode cX0_nodeOf 24 = .ok (.aload_n 2, 1) := dk_44 (dk_at dksX0_nodeOf_1 0 rfl rfl)
theorem dX0_nodeOf_25 : decode cX0_nodeOf 25 = .ok (.getfield 105, 3) := dk_180 0 105 (dk_at dksX0_nodeOf_1 1 rfl rfl)
theorem dX0_nodeOf_28 : decode cX0_nodeOf 28 = .ok (.aload_n 2, 1) := dk_44 (dk_at dksX0_nodeOf_1 4 rfl rfl)
theorem dX0_nodeOf_29 : decode cX0_nodeOf 29 = .ok (.getfield 120, 3) := dk_180 0 120 (dk_at dksX0_nodeOf_1 5 rfl rfl)
theorem dX0_nodeOf_32 : decode cX0_nodeOf 32 = .ok (.invokevirtual 273, 3) := dk_182 1 17 (dk_at dksX0_nodeOf_1 8 rfl rfl)
theorem dX0_nodeOf_35 : decode cX0_nodeOf 35 = .ok (.ifCond .ge 11, 3) := dk_156 0 11 (dk_at dksX0_nodeOf_1 11 rfl rfl)
theorem dX0_nodeOf_38 : decode cX0_nodeOf 38 = .ok (.aload 6, 2) := dk_25 6 (dk_at dksX0_nodeOf_1 14 rfl rfl)
theorem dX0_nodeOf_40 : decode cX0_nodeOf 40 = .ok (.getfield 276, 3) := dk_180 1 20 (dk_at dksX0_nodeOf_1 16 rfl rfl)
theorem dX0_nodeOf_43 : decode cX0_nodeOf 43 = .ok (.goto 8, 3) := dk_167 0 8 (dk_at dksX0_nodeOf_1 19 rfl rfl)
theorem dX0_nodeOf_46 : decode cX0_nodeOf 46 = .ok (.aload 6, 2) := dk_25 6 (dk_at dksX0_nodeOf_1 22 rfl rfl)
theorem dX0_nodeOf_48 : decode cX0_nodeOf 48 = .ok (.getfield 279, 3) := dk_180 1 23 (dk_at dksX0_nodeOf_2 0 rfl rfl)
theorem dX0_nodeOf_51 : decode cX0_nodeOf 51 = .ok (.astore 6, 2) := dk_58 6 (dk_at dksX0_nodeOf_2 3 rfl rfl)
theorem dX0_nodeOf_53 : decode cX0_nodeOf 53 = .ok (.iinc 5 1, 3) := dk_132 5 1 (dk_at dksX0_nodeOf_2 5 rfl rfl)
theorem dX0_nodeOf_56 : decode cX0_nodeOf 56 = .ok (.goto (-44), 3) := dk_167 255 212 (dk_at dksX0_nodeOf_2 8 rfl rfl)
theorem dX0_nodeOf_59 : decode cX0_nodeOf 59 = .ok (.iload_n 3, 1) := dk_29 (dk_at dksX0_nodeOf_2 11 rfl rfl)
theorem dX0_nodeOf_60 : decode cX0_nodeOf 60 = .ok (.ifCond .ne 13, 3) := dk_154 0 13 (dk_at dksX0_nodeOf_2 12 rfl rfl)
theorem dX0_nodeOf_63 : decode cX0_nodeOf 63 = .ok (.aload_n 2, 1) := dk_44 (dk_at dksX0_nodeOf_2 15 rfl rfl)
theorem dX0_nodeOf_64 : decode cX0_nodeOf 64 = .ok (.getfield 276, 3) := dk_180 1 20 (dk_at dksX0_nodeOf_2 16 rfl rfl)
theorem dX0_nodeOf_67 : decode cX0_nodeOf 67 = .ok (.invokestatic 282, 3) := dk_184 1 26 (dk_at dksX0_nodeOf_2 19 rfl rfl)
theorem dX0_nodeOf_70 : decode cX0_nodeOf 70 = .ok (.goto 33, 3) := dk_167 0 33 (dk_at dksX0_nodeOf_3 0 rfl rfl)
theorem dX0_nodeOf_73 : decode cX0_nodeOf 73 = .ok (.iload_n 3, 1) := dk_29 (dk_at dksX0_nodeOf_3 3 rfl rfl)
theorem dX0_nodeOf_74 : decode cX0_nodeOf 74 = .ok (.iconst 1, 1) := dk_4 (dk_at dksX0_nodeOf_3 4 rfl rfl)
theorem dX0_nodeOf_75 : decode cX0_nodeOf 75 = .ok (.if_icmp .ne 13, 3) := dk_160 0 13 (dk_at dksX0_nodeOf_3 5 rfl rfl)
theorem dX0_nodeOf_78 : decode cX0_nodeOf 78 = .ok (.aload_n 2, 1) := dk_44 (dk_at dksX0_nodeOf_3 8 rfl rfl)
theorem dX0_nodeOf_79 : decode cX0_nodeOf 79 = .ok (.getfield 279, 3) := dk_180 1 23 (dk_at dksX0_nodeOf_3 9 rfl rfl)
theorem dX0_nodeOf_82 : decode cX0_nodeOf 82 = .ok (.invokestatic 282, 3) := dk_184 1 26 (dk_at dksX0_nodeOf_3 12 rfl rfl)
theorem dX0_nodeOf_85 : decode cX0_nodeOf 85 = .ok (.goto 18, 3) := dk_167 0 18 (dk_at dksX0_nodeOf_3 15 rfl rfl)
theorem dX0_nodeOf_88 : decode cX0_nodeOf 88 = .ok (.iload_n 3, 1) := dk_29 (dk_at dksX0_nodeOf_3 18 rfl rfl)
theorem dX0_nodeOf_89 : decode cX0_nodeOf 89 = .ok (.iconst 2, 1) := dk_5 (dk_at dksX0_nodeOf_3 19 rfl rfl)
theorem dX0_nodeOf_90 : decode cX0_nodeOf 90 = .ok (.if_icmp .ne 11, 3) := dk_160 0 11 (dk_at dksX0_nodeOf_3 20 rfl rfl)
theorem dX0_nodeOf_93 : decode cX0_nodeOf 93 = .ok (.aload 4, 2) := dk_25 4 (dk_at dksX0_nodeOf_4 0 rfl rfl)
theorem dX0_nodeOf_95 : decode cX0_nodeOf 95 = .ok (.invokestatic 282, 3) := dk_184 1 26 (dk_at dksX0_nodeOf_4 2 rfl rfl)
theorem dX0_nodeOf_98 : decode cX0_nodeOf 98 = .ok (.goto 5, 3) := dk_167 0 5 (dk_at dksX0_nodeOf_4 5 rfl rfl)
theorem dX0_nodeOf_101 : decode cX0_nodeOf 101 = .ok (.iload 5, 2) := dk_21 5 (dk_at dksX0_nodeOf_4 8 rfl rfl)
theorem dX0_nodeOf_103 : decode cX0_nodeOf 103 = .ok (.ireturn, 1) := dk_172 (dk_at dksX0_nodeOf_4 10 rfl rfl)
abbrev cX0_keyOf : ByteArray := prog_1_method_45_code
def yX0_keyOf : MethodName := ⟨RX0, "keyOf", "(LCrowdedBins$Entry;)I"⟩
def dkwX0_keyOf_0 : List UInt8 := [42, 199, 0, 7, 2, 167, 0, 7, 42, 180, 0, 120, 172]
abbrev dktX0_keyOf_0 : List UInt8 := dkwX0_keyOf_0 ++ []
theorem dksX0_keyOf_0 : cX0_keyOf.data.toList.drop 0 = dktX0_keyOf_0 := by decide +kernel
theorem dX0_keyOf_0 : decode cX0_keyOf 0 = .ok (.aload_n 0, 1) := dk_42 (dk_at dksX0_keyOf_0 0 rfl rfl)
theorem dX0_keyOf_1 : decode cX0_keyOf 1 = .ok (.ifnonnull 7, 3) := dk_199 0 7 (dk_at dksX0_keyOf_0 1 rfl rfl)
theorem dX0_keyOf_4 : decode cX0_keyOf 4 = .ok (.iconst (-1), 1) := dk_2 (dk_at dksX0_keyOf_0 4 rfl rfl)
theorem dX0_keyOf_5 : decode cX0_keyOf 5 = .ok (.goto 7, 3) := dk_167 0 7 (dk_at dksX0_keyOf_0 5 rfl rfl)
theorem dX0_keyOf_8 : decode cX0_keyOf 8 = .ok (.aload_n 0, 1) := dk_42 (dk_at dksX0_keyOf_0 8 rfl rfl)
theorem dX0_keyOf_9 : decode cX0_keyOf 9 = .ok (.getfield 120, 3) := dk_180 0 120 (dk_at dksX0_keyOf_0 9 rfl rfl)
theorem dX0_keyOf_12 : decode cX0_keyOf 12 = .ok (.ireturn, 1) := dk_172 (dk_at dksX0_keyOf_0 12 rfl rfl)
abbrev cX0_no : ByteArray := prog_1_method_6_code
def yX0_no : MethodName := ⟨RX0, "no", "()I"⟩
def dkwX0_no_0 : List UInt8 := [42, 4, 16, 253, 182, 0, 58, 172]
abbrev dktX0_no_0 : List UInt8 := dkwX0_no_0 ++ []
theorem dksX0_no_0 : cX0_no.data.toList.drop 0 = dktX0_no_0 := by decide +kernel
theorem dX0_no_0 : decode cX0_no 0 = .ok (.aload_n 0, 1) := dk_42 (dk_at dksX0_no_0 0 rfl rfl)
theorem dX0_no_1 : decode cX0_no 1 = .ok (.iconst 1, 1) := dk_4 (dk_at dksX0_no_0 1 rfl rfl)
theorem dX0_no_2 : decode cX0_no 2 = .ok (.bipush (-3), 2) := dk_16 253 (dk_at dksX0_no_0 2 rfl rfl)
theorem dX0_no_4 : decode cX0_no 4 = .ok (.invokevirtual 58, 3) := dk_182 0 58 (dk_at dksX0_no_0 4 rfl rfl)
theorem dX0_no_7 : decode cX0_no 7 = .ok (.ireturn, 1) := dk_172 (dk_at dksX0_no_0 7 rfl rfl)
abbrev cX0_count : ByteArray := prog_1_method_49_code
def yX0_count : MethodName := ⟨RX0, "count", "(I)I"⟩
def dkwX0_count_1 : List UInt8 := [172]
abbrev dktX0_count_1 : List UInt8 := dkwX0_count_1 ++ []
def dkwX0_count_0 : List UInt8 := [27, 133, 9, 20, 1, 40, 184, 0, 214, 153, 0, 11, 42, 27, 182, 1, 42, 167, 0, 7, 42, 182, 0, 227]
abbrev dktX0_count_0 : List UInt8 := dkwX0_count_0 ++ dktX0_count_1
theorem dksX0_count_0 : cX0_count.data.toList.drop 0 = dktX0_count_0 := by decide +kernel
theorem dksX0_count_1 : cX0_count.data.toList.drop 24 = dktX0_count_1 := dk_seg dksX0_count_0 24 rfl rfl
theorem dX0_count_0 : decode cX0_count 0 = .ok (.iload_n 1, 1) := dk_27 (dk_at dksX0_count_0 0 rfl rfl)
theorem dX0_count_1 : decode cX0_count 1 = .ok (.i2l, 1) := dk_133 (dk_at dksX0_count_0 1 rfl rfl)
theorem dX0_count_2 : decode cX0_count 2 = .ok (.lconst 0, 1) := dk_9 (dk_at dksX0_count_0 2 rfl rfl)
theorem dX0_count_3 : decode cX0_count 3 = .ok (.ldc2_w 296, 3) := dk_20 1 40 (dk_at dksX0_count_0 3 rfl rfl)
theorem dX0_count_6 : decode cX0_count 6 = .ok (.invokestatic 214, 3) := dk_184 0 214 (dk_at dksX0_count_0 6 rfl rfl)
theorem dX0_count_9 : decode cX0_count 9 = .ok (.ifCond .eq 11, 3) := dk_153 0 11 (dk_at dksX0_count_0 9 rfl rfl)
theorem dX0_count_12 : decode cX0_count 12 = .ok (.aload_n 0, 1) := dk_42 (dk_at dksX0_count_0 12 rfl rfl)
theorem dX0_count_13 : decode cX0_count 13 = .ok (.iload_n 1, 1) := dk_27 (dk_at dksX0_count_0 13 rfl rfl)
theorem dX0_count_14 : decode cX0_count 14 = .ok (.invokevirtual 298, 3) := dk_182 1 42 (dk_at dksX0_count_0 14 rfl rfl)
theorem dX0_count_17 : decode cX0_count 17 = .ok (.goto 7, 3) := dk_167 0 7 (dk_at dksX0_count_0 17 rfl rfl)
theorem dX0_count_20 : decode cX0_count 20 = .ok (.aload_n 0, 1) := dk_42 (dk_at dksX0_count_0 20 rfl rfl)
theorem dX0_count_21 : decode cX0_count 21 = .ok (.invokevirtual 227, 3) := dk_182 0 227 (dk_at dksX0_count_0 21 rfl rfl)
theorem dX0_count_24 : decode cX0_count 24 = .ok (.ireturn, 1) := dk_172 (dk_at dksX0_count_1 0 rfl rfl)
abbrev cX0_counted : ByteArray := prog_1_method_48_code
def yX0_counted : MethodName := ⟨RX0, "counted", "(I)I"⟩
def dkwX0_counted_9 : List UInt8 := [180, 0, 153, 172]
abbrev dktX0_counted_9 : List UInt8 := dkwX0_counted_9 ++ []
def dkwX0_counted_8 : List UInt8 := [42, 180, 0, 142, 172, 42, 180, 0, 62, 172, 28, 172, 29, 172, 21, 4, 172, 21, 5, 172, 21, 6, 172, 42]
abbrev dktX0_counted_8 : List UInt8 := dkwX0_counted_8 ++ dktX0_counted_9
def dkwX0_counted_7 : List UInt8 := [170, 0, 0, 0, 0, 0, 0, 67, 0, 0, 0, 0, 0, 0, 0, 6, 0, 0, 0, 44, 0, 0, 0, 49, 0, 0, 0, 54, 0, 0, 0, 56, 0, 0, 0, 58, 0, 0, 0, 61, 0, 0, 0, 64]
abbrev dktX0_counted_7 : List UInt8 := dkwX0_counted_7 ++ dktX0_counted_8
def dkwX0_counted_6 : List UInt8 := [132, 7, 1, 167, 255, 132, 27]
abbrev dktX0_counted_6 : List UInt8 := dkwX0_counted_6 ++ dktX0_counted_7
def dkwX0_counted_5 : List UInt8 := [180, 0, 105, 25, 9, 180, 0, 120, 182, 0, 255, 96, 54, 5, 25, 9, 180, 0, 99, 58, 9, 167, 255, 219]
abbrev dktX0_counted_5 : List UInt8 := dkwX0_counted_5 ++ dktX0_counted_6
def dkwX0_counted_4 : List UInt8 := [25, 8, 182, 0, 95, 58, 9, 25, 9, 198, 0, 38, 27, 8, 160, 0, 33, 21, 5, 25, 8, 25, 9]
abbrev dktX0_counted_4 : List UInt8 := dkwX0_counted_4 ++ dktX0_counted_5
def dkwX0_counted_3 : List UInt8 := [184, 1, 37, 54, 4, 21, 6, 25, 8, 182, 0, 124, 154, 0, 7, 4, 167, 0, 4, 3, 96, 54, 6]
abbrev dktX0_counted_3 : List UInt8 := dkwX0_counted_3 ++ dktX0_counted_4
def dkwX0_counted_2 : List UInt8 := [167, 0, 4, 3, 96, 61, 29, 25, 8, 182, 0, 124, 184, 1, 37, 62, 21, 4, 25, 8, 182, 1, 5]
abbrev dktX0_counted_2 : List UInt8 := dkwX0_counted_2 ++ dktX0_counted_3
def dkwX0_counted_1 : List UInt8 := [162, 0, 121, 42, 180, 0, 14, 21, 7, 50, 58, 8, 28, 25, 8, 193, 0, 88, 153, 0, 7, 4]
abbrev dktX0_counted_1 : List UInt8 := dkwX0_counted_1 ++ dktX0_counted_2
def dkwX0_counted_0 : List UInt8 := [3, 61, 3, 62, 3, 54, 4, 3, 54, 5, 3, 54, 6, 3, 54, 7, 21, 7, 42, 180, 0, 62]
abbrev dktX0_counted_0 : List UInt8 := dkwX0_counted_0 ++ dktX0_counted_1
theorem dksX0_counted_0 : cX0_counted.data.toList.drop 0 = dktX0_counted_0 := by decide +kernel
theorem dksX0_counted_1 : cX0_counted.data.toList.drop 22 = dktX0_counted_1 := dk_seg dksX0_counted_0 22 rfl rfl
theorem dksX0_counted_2 : cX0_counted.data.toList.drop 44 = dktX0_counted_2 := dk_seg dksX0_counted_1 22 rfl rfl
theorem dksX0_counted_3 : cX0_counted.data.toList.drop 67 = dktX0_counted_3 := dk_seg dksX0_counted_2 23 rfl rfl
theorem dksX0_counted_4 : cX0_counted.data.toList.drop 90 = dktX0_counted_4 := dk_seg dksX0_counted_3 23 rfl rfl
theorem dksX0_counted_5 : cX0_counted.data.toList.drop 113 = dktX0_counted_5 := dk_seg dksX0_counted_4 23 rfl rfl
theorem dksX0_counted_6 : cX0_counted.data.toList.drop 137 = dktX0_counted_6 := dk_seg dksX0_counted_5 24 rfl rfl
theorem dksX0_counted_7 : cX0_counted.data.toList.drop 144 = dktX0_counted_7 := dk_seg dksX0_counted_6 7 rfl rfl
theorem dksX0_counted_8 : cX0_counted.data.toList.drop 188 = dktX0_counted_8 := dk_seg dksX0_counted_7 44 rfl rfl
theorem dksX0_counted_9 : cX0_counted.data.toList.drop 212 = dktX0_counted_9 := dk_seg dksX0_counted_8 24 rfl rfl
theorem dX0_counted_0 : decode cX0_counted 0 = .ok (.iconst 0, 1) := dk_3 (dk_at dksX0_counted_0 0 rfl rfl)
theorem dX0_counted_1 : decode cX0_counted 1 = .ok (.istore_n 2, 1) := dk_61 (dk_at dksX0_counted_0 1 rfl rfl)
theorem dX0_counted_2 : decode cX0_counted 2 = .ok (.iconst 0, 1) := dk_3 (dk_at dksX0_counted_0 2 rfl rfl)
theorem dX0_counted_3 : decode cX0_counted 3 = .ok (.istore_n 3, 1) := dk_62 (dk_at dksX0_counted_0 3 rfl rfl)
theorem dX0_counted_4 : decode cX0_counted 4 = .ok (.iconst 0, 1) := dk_3 (dk_at dksX0_counted_0 4 rfl rfl)
theorem dX0_counted_5 : decode cX0_counted 5 = .ok (.istore 4, 2) := dk_54 4 (dk_at dksX0_counted_0 5 rfl rfl)
theorem dX0_counted_7 : decode cX0_counted 7 = .ok (.iconst 0, 1) := dk_3 (dk_at dksX0_counted_0 7 rfl rfl)
theorem dX0_counted_8 : decode cX0_counted 8 = .ok (.istore 5, 2) := dk_54 5 (dk_at dksX0_counted_0 8 rfl rfl)
theorem dX0_counted_10 : decode cX0_counted 10 = .ok (.iconst 0, 1) := dk_3 (dk_at dksX0_counted_0 10 rfl rfl)
theorem dX0_counted_11 : decode cX0_counted 11 = .ok (.istore 6, 2) := dk_54 6 (dk_at dksX0_counted_0 11 rfl rfl)
theorem dX0_counted_13 : decode cX0_counted 13 = .ok (.iconst 0, 1) := dk_3 (dk_at dksX0_counted_0 13 rfl rfl)
theorem dX0_counted_14 : decode cX0_counted 14 = .ok (.istore 7, 2) := dk_54 7 (dk_at dksX0_counted_0 14 rfl rfl)
theorem dX0_counted_16 : decode cX0_counted 16 = .ok (.iload 7, 2) := dk_21 7 (dk_at dksX0_counted_0 16 rfl rfl)
theorem dX0_counted_18 : decode cX0_counted 18 = .ok (.aload_n 0, 1) := dk_42 (dk_at dksX0_counted_0 18 rfl rfl)
theorem dX0_counted_19 : decode cX0_counted 19 = .ok (.getfield 62, 3) := dk_180 0 62 (dk_at dksX0_counted_0 19 rfl rfl)
theorem dX0_counted_22 : decode cX0_counted 22 = .ok (.if_icmp .ge 121, 3) := dk_162 0 121 (dk_at dksX0_counted_1 0 rfl rfl)
theorem dX0_counted_25 : decode cX0_counted 25 = .ok (.aload_n 0, 1) := dk_42 (dk_at dksX0_counted_1 3 rfl rfl)
theorem dX0_counted_26 : decode cX0_counted 26 = .ok (.getfield 14, 3) := dk_180 0 14 (dk_at dksX0_counted_1 4 rfl rfl)
theorem dX0_counted_29 : decode cX0_counted 29 = .ok (.iload 7, 2) := dk_21 7 (dk_at dksX0_counted_1 7 rfl rfl)
theorem dX0_counted_31 : decode cX0_counted 31 = .ok (.aaload, 1) := dk_50 (dk_at dksX0_counted_1 9 rfl rfl)
theorem dX0_counted_32 : decode cX0_counted 32 = .ok (.astore 8, 2) := dk_58 8 (dk_at dksX0_counted_1 10 rfl rfl)
theorem dX0_counted_34 : decode cX0_counted 34 = .ok (.iload_n 2, 1) := dk_28 (dk_at dksX0_counted_1 12 rfl rfl)
theorem dX0_counted_35 : decode cX0_counted 35 = .ok (.aload 8, 2) := dk_25 8 (dk_at dksX0_counted_1 13 rfl rfl)
theorem dX0_counted_37 : decode cX0_counted 37 = .ok (.instanceof 88, 3) := dk_193 0 88 (dk_at dksX0_counted_1 15 rfl rfl)
theorem dX0_counted_40 : decode cX0_counted 40 = .ok (.ifCond .eq 7, 3) := dk_153 0 7 (dk_at dksX0_counted_1 18 rfl rfl)
theorem dX0_counted_43 : decode cX0_counted 43 = .ok (.iconst 1, 1) := dk_4 (dk_at dksX0_counted_1 21 rfl rfl)
theorem dX0_counted_44 : decode cX0_counted 44 = .ok (.goto 4, 3) := dk_167 0 4 (dk_at dksX0_counted_2 0 rfl rfl)
theorem dX0_counted_47 : decode cX0_counted 47 = .ok (.iconst 0, 1) := dk_3 (dk_at dksX0_counted_2 3 rfl rfl)
theorem dX0_counted_48 : decode cX0_counted 48 = .ok (.iadd, 1) := dk_96 (dk_at dksX0_counted_2 4 rfl rfl)
theorem dX0_counted_49 : decode cX0_counted 49 = .ok (.istore_n 2, 1) := dk_61 (dk_at dksX0_counted_2 5 rfl rfl)
theorem dX0_counted_50 : decode cX0_counted 50 = .ok (.iload_n 3, 1) := dk_29 (dk_at dksX0_counted_2 6 rfl rfl)
theorem dX0_counted_51 : decode cX0_counted 51 = .ok (.aload 8, 2) := dk_25 8 (dk_at dksX0_counted_2 7 rfl rfl)
theorem dX0_counted_53 : decode cX0_counted 53 = .ok (.invokevirtual 124, 3) := dk_182 0 124 (dk_at dksX0_counted_2 9 rfl rfl)
theorem dX0_counted_56 : decode cX0_counted 56 = .ok (.invokestatic 293, 3) := dk_184 1 37 (dk_at dksX0_counted_2 12 rfl rfl)
theorem dX0_counted_59 : decode cX0_counted 59 = .ok (.istore_n 3, 1) := dk_62 (dk_at dksX0_counted_2 15 rfl rfl)
theorem dX0_counted_60 : decode cX0_counted 60 = .ok (.iload 4, 2) := dk_21 4 (dk_at dksX0_counted_2 16 rfl rfl)
theorem dX0_counted_62 : decode cX0_counted 62 = .ok (.aload 8, 2) := dk_25 8 (dk_at dksX0_counted_2 18 rfl rfl)
theorem dX0_counted_64 : decode cX0_counted 64 = .ok (.invokevirtual 261, 3) := dk_182 1 5 (dk_at dksX0_counted_2 20 rfl rfl)
theorem dX0_counted_67 : decode cX0_counted 67 = .ok (.invokestatic 293, 3) := dk_184 1 37 (dk_at dksX0_counted_3 0 rfl rfl)
theorem dX0_counted_70 : decode cX0_counted 70 = .ok (.istore 4, 2) := dk_54 4 (dk_at dksX0_counted_3 3 rfl rfl)
theorem dX0_counted_72 : decode cX0_counted 72 = .ok (.iload 6, 2) := dk_21 6 (dk_at dksX0_counted_3 5 rfl rfl)
theorem dX0_counted_74 : decode cX0_counted 74 = .ok (.aload 8, 2) := dk_25 8 (dk_at dksX0_counted_3 7 rfl rfl)
theorem dX0_counted_76 : decode cX0_counted 76 = .ok (.invokevirtual 124, 3) := dk_182 0 124 (dk_at dksX0_counted_3 9 rfl rfl)
theorem dX0_counted_79 : decode cX0_counted 79 = .ok (.ifCond .ne 7, 3) := dk_154 0 7 (dk_at dksX0_counted_3 12 rfl rfl)
theorem dX0_counted_82 : decode cX0_counted 82 = .ok (.iconst 1, 1) := dk_4 (dk_at dksX0_counted_3 15 rfl rfl)
theorem dX0_counted_83 : decode cX0_counted 83 = .ok (.goto 4, 3) := dk_167 0 4 (dk_at dksX0_counted_3 16 rfl rfl)
theorem dX0_counted_86 : decode cX0_counted 86 = .ok (.iconst 0, 1) := dk_3 (dk_at dksX0_counted_3 19 rfl rfl)
theorem dX0_counted_87 : decode cX0_counted 87 = .ok (.iadd, 1) := dk_96 (dk_at dksX0_counted_3 20 rfl rfl)
theorem dX0_counted_88 : decode cX0_counted 88 = .ok (.istore 6, 2) := dk_54 6 (dk_at dksX0_counted_3 21 rfl rfl)
theorem dX0_counted_90 : decode cX0_counted 90 = .ok (.aload 8, 2) := dk_25 8 (dk_at dksX0_counted_4 0 rfl rfl)
theorem dX0_counted_92 : decode cX0_counted 92 = .ok (.invokevirtual 95, 3) := dk_182 0 95 (dk_at dksX0_counted_4 2 rfl rfl)
theorem dX0_counted_95 : decode cX0_counted 95 = .ok (.astore 9, 2) := dk_58 9 (dk_at dksX0_counted_4 5 rfl rfl)
theorem dX0_counted_97 : decode cX0_counted 97 = .ok (.aload 9, 2) := dk_25 9 (dk_at dksX0_counted_4 7 rfl rfl)
theorem dX0_counted_99 : decode cX0_counted 99 = .ok (.ifnull 38, 3) := dk_198 0 38 (dk_at dksX0_counted_4 9 rfl rfl)
theorem dX0_counted_102 : decode cX0_counted 102 = .ok (.iload_n 1, 1) := dk_27 (dk_at dksX0_counted_4 12 rfl rfl)
theorem dX0_counted_103 : decode cX0_counted 103 = .ok (.iconst 5, 1) := dk_8 (dk_at dksX0_counted_4 13 rfl rfl)
theorem dX0_counted_104 : decode cX0_counted 104 = .ok (.if_icmp .ne 33, 3) := dk_160 0 33 (dk_at dksX0_counted_4 14 rfl rfl)
theorem dX0_counted_107 : decode cX0_counted 107 = .ok (.iload 5, 2) := dk_21 5 (dk_at dksX0_counted_4 17 rfl rfl)
theorem dX0_counted_109 : decode cX0_counted 109 = .ok (.aload 8, 2) := dk_25 8 (dk_at dksX0_counted_4 19 rfl rfl)
theorem dX0_counted_111 : decode cX0_counted 111 = .ok (.aload 9, 2) := dk_25 9 (dk_at dksX0_counted_4 21 rfl rfl)
theorem dX0_counted_113 : decode cX0_counted 113 = .ok (.getfield 105, 3) := dk_180 0 105 (dk_at dksX0_counted_5 0 rfl rfl)
theorem dX0_counted_116 : decode cX0_counted 116 = .ok (.aload 9, 2) := dk_25 9 (dk_at dksX0_counted_5 3 rfl rfl)
theorem dX0_counted_118 : decode cX0_counted 118 = .ok (.getfield 120, 3) := dk_180 0 120 (dk_at dksX0_counted_5 5 rfl rfl)
theorem dX0_counted_121 : decode cX0_counted 121 = .ok (.invokevirtual 255, 3) := dk_182 0 255 (dk_at dksX0_counted_5 8 rfl rfl)
theorem dX0_counted_124 : decode cX0_counted 124 = .ok (.iadd, 1) := dk_96 (dk_at dksX0_counted_5 11 rfl rfl)
theorem dX0_counted_125 : decode cX0_counted 125 = .ok (.istore 5, 2) := dk_54 5 (dk_at dksX0_counted_5 12 rfl rfl)
theorem dX0_counted_127 : decode cX0_counted 127 = .ok (.aload 9, 2) := dk_25 9 (dk_at dksX0_counted_5 14 rfl rfl)
theorem dX0_counted_129 : decode cX0_counted 129 = .ok (.getfield 99, 3) := dk_180 0 99 (dk_at dksX0_counted_5 16 rfl rfl)
theorem dX0_counted_132 : decode cX0_counted 132 = .ok (.astore 9, 2) := dk_58 9 (dk_at dksX0_counted_5 19 rfl rfl)
theorem dX0_counted_134 : decode cX0_counted 134 = .ok (.goto (-37), 3) := dk_167 255 219 (dk_at dksX0_counted_5 21 rfl rfl)
theorem dX0_counted_137 : decode cX0_counted 137 = .ok (.iinc 7 1, 3) := dk_132 7 1 (dk_at dksX0_counted_6 0 rfl rfl)
theorem dX0_counted_140 : decode cX0_counted 140 = .ok (.goto (-124), 3) := dk_167 255 132 (dk_at dksX0_counted_6 3 rfl rfl)
theorem dX0_counted_143 : decode cX0_counted 143 = .ok (.iload_n 1, 1) := dk_27 (dk_at dksX0_counted_6 6 rfl rfl)
theorem dX0_counted_144 : decode cX0_counted 144 = .ok (.tableswitch 67 0 6 #[44, 49, 54, 56, 58, 61, 64], 44) := by decide +kernel
theorem dX0_counted_188 : decode cX0_counted 188 = .ok (.aload_n 0, 1) := dk_42 (dk_at dksX0_counted_8 0 rfl rfl)
theorem dX0_counted_189 : decode cX0_counted 189 = .ok (.getfield 142, 3) := dk_180 0 142 (dk_at dksX0_counted_8 1 rfl rfl)
theorem dX0_counted_192 : decode cX0_counted 192 = .ok (.ireturn, 1) := dk_172 (dk_at dksX0_counted_8 4 rfl rfl)
theorem dX0_counted_193 : decode cX0_counted 193 = .ok (.aload_n 0, 1) := dk_42 (dk_at dksX0_counted_8 5 rfl rfl)
theorem dX0_counted_194 : decode cX0_counted 194 = .ok (.getfield 62, 3) := dk_180 0 62 (dk_at dksX0_counted_8 6 rfl rfl)
theorem dX0_counted_197 : decode cX0_counted 197 = .ok (.ireturn, 1) := dk_172 (dk_at dksX0_counted_8 9 rfl rfl)
theorem dX0_counted_198 : decode cX0_counted 198 = .ok (.iload_n 2, 1) := dk_28 (dk_at dksX0_counted_8 10 rfl rfl)
theorem dX0_counted_199 : decode cX0_counted 199 = .ok (.ireturn, 1) := dk_172 (dk_at dksX0_counted_8 11 rfl rfl)
theorem dX0_counted_200 : decode cX0_counted 200 = .ok (.iload_n 3, 1) := dk_29 (dk_at dksX0_counted_8 12 rfl rfl)
theorem dX0_counted_201 : decode cX0_counted 201 = .ok (.ireturn, 1) := dk_172 (dk_at dksX0_counted_8 13 rfl rfl)
theorem dX0_counted_202 : decode cX0_counted 202 = .ok (.iload 4, 2) := dk_21 4 (dk_at dksX0_counted_8 14 rfl rfl)
theorem dX0_counted_204 : decode cX0_counted 204 = .ok (.ireturn, 1) := dk_172 (dk_at dksX0_counted_8 16 rfl rfl)
theorem dX0_counted_205 : decode cX0_counted 205 = .ok (.iload 5, 2) := dk_21 5 (dk_at dksX0_counted_8 17 rfl rfl)
theorem dX0_counted_207 : decode cX0_counted 207 = .ok (.ireturn, 1) := dk_172 (dk_at dksX0_counted_8 19 rfl rfl)
theorem dX0_counted_208 : decode cX0_counted 208 = .ok (.iload 6, 2) := dk_21 6 (dk_at dksX0_counted_8 20 rfl rfl)
theorem dX0_counted_210 : decode cX0_counted 210 = .ok (.ireturn, 1) := dk_172 (dk_at dksX0_counted_8 22 rfl rfl)
theorem dX0_counted_211 : decode cX0_counted 211 = .ok (.aload_n 0, 1) := dk_42 (dk_at dksX0_counted_8 23 rfl rfl)
theorem dX0_counted_212 : decode cX0_counted 212 = .ok (.getfield 153, 3) := dk_180 0 153 (dk_at dksX0_counted_9 0 rfl rfl)
theorem dX0_counted_215 : decode cX0_counted 215 = .ok (.ireturn, 1) := dk_172 (dk_at dksX0_counted_9 3 rfl rfl)
abbrev cX0_opens : ByteArray := prog_1_method_52_code
def yX0_opens : MethodName := ⟨RX0, "opens", "(II)I"⟩
def dkwX0_opens_3 : List UInt8 := [180, 0, 142, 172]
abbrev dktX0_opens_3 : List UInt8 := dkwX0_opens_3 ++ []
def dkwX0_opens_2 : List UInt8 := [180, 1, 47, 42, 182, 1, 58, 181, 1, 63, 45, 2, 181, 1, 66, 45, 42, 180, 0, 153, 181, 1, 68, 42]
abbrev dktX0_opens_2 : List UInt8 := dkwX0_opens_2 ++ dktX0_opens_3
def dkwX0_opens_1 : List UInt8 := [182, 0, 227, 172, 42, 180, 0, 26, 27, 50, 78, 45, 178, 1, 54, 28, 50, 181, 1, 47, 45, 45]
abbrev dktX0_opens_1 : List UInt8 := dkwX0_opens_1 ++ dktX0_opens_2
def dkwX0_opens_0 : List UInt8 := [27, 184, 1, 51, 153, 0, 19, 28, 133, 9, 178, 1, 54, 190, 4, 100, 133, 184, 0, 214, 154, 0, 8, 42]
abbrev dktX0_opens_0 : List UInt8 := dkwX0_opens_0 ++ dktX0_opens_1
theorem dksX0_opens_0 : cX0_opens.data.toList.drop 0 = dktX0_opens_0 := by decide +kernel
theorem dksX0_opens_1 : cX0_opens.data.toList.drop 24 = dktX0_opens_1 := dk_seg dksX0_opens_0 24 rfl rfl
theorem dksX0_opens_2 : cX0_opens.data.toList.drop 46 = dktX0_opens_2 := dk_seg dksX0_opens_1 22 rfl rfl
theorem dksX0_opens_3 : cX0_opens.data.toList.drop 70 = dktX0_opens_3 := dk_seg dksX0_opens_2 24 rfl rfl
theorem dX0_opens_0 : decode cX0_opens 0 = .ok (.iload_n 1, 1) := dk_27 (dk_at dksX0_opens_0 0 rfl rfl)
theorem dX0_opens_1 : decode cX0_opens 1 = .ok (.invokestatic 307, 3) := dk_184 1 51 (dk_at dksX0_opens_0 1 rfl rfl)
theorem dX0_opens_4 : decode cX0_opens 4 = .ok (.ifCond .eq 19, 3) := dk_153 0 19 (dk_at dksX0_opens_0 4 rfl rfl)
theorem dX0_opens_7 : decode cX0_opens 7 = .ok (.iload_n 2, 1) := dk_28 (dk_at dksX0_opens_0 7 rfl rfl)
theorem dX0_opens_8 : decode cX0_opens 8 = .ok (.i2l, 1) := dk_133 (dk_at dksX0_opens_0 8 rfl rfl)
theorem dX0_opens_9 : decode cX0_opens 9 = .ok (.lconst 0, 1) := dk_9 (dk_at dksX0_opens_0 9 rfl rfl)
theorem dX0_opens_10 : decode cX0_opens 10 = .ok (.getstatic 310, 3) := dk_178 1 54 (dk_at dksX0_opens_0 10 rfl rfl)
theorem dX0_opens_13 : decode cX0_opens 13 = .ok (.arraylength, 1) := dk_190 (dk_at dksX0_opens_0 13 rfl rfl)
theorem dX0_opens_14 : decode cX0_opens 14 = .ok (.iconst 1, 1) := dk_4 (dk_at dksX0_opens_0 14 rfl rfl)
theorem dX0_opens_15 : decode cX0_opens 15 = .ok (.isub, 1) := dk_100 (dk_at dksX0_opens_0 15 rfl rfl)
theorem dX0_opens_16 : decode cX0_opens 16 = .ok (.i2l, 1) := dk_133 (dk_at dksX0_opens_0 16 rfl rfl)
theorem dX0_opens_17 : decode cX0_opens 17 = .ok (.invokestatic 214, 3) := dk_184 0 214 (dk_at dksX0_opens_0 17 rfl rfl)
theorem dX0_opens_20 : decode cX0_opens 20 = .ok (.ifCond .ne 8, 3) := dk_154 0 8 (dk_at dksX0_opens_0 20 rfl rfl)
theorem dX0_opens_23 : decode cX0_opens 23 = .ok (.aload_n 0, 1) := dk_42 (dk_at dksX0_opens_0 23 rfl rfl)
theorem dX0_opens_24 : decode cX0_opens 24 = .ok (.invokevirtual 227, 3) := dk_182 0 227 (dk_at dksX0_opens_1 0 rfl rfl)
theorem dX0_opens_27 : decode cX0_opens 27 = .ok (.ireturn, 1) := dk_172 (dk_at dksX0_opens_1 3 rfl rfl)
theorem dX0_opens_28 : decode cX0_opens 28 = .ok (.aload_n 0, 1) := dk_42 (dk_at dksX0_opens_1 4 rfl rfl)
theorem dX0_opens_29 : decode cX0_opens 29 = .ok (.getfield 26, 3) := dk_180 0 26 (dk_at dksX0_opens_1 5 rfl rfl)
theorem dX0_opens_32 : decode cX0_opens 32 = .ok (.iload_n 1, 1) := dk_27 (dk_at dksX0_opens_1 8 rfl rfl)
theorem dX0_opens_33 : decode cX0_opens 33 = .ok (.aaload, 1) := dk_50 (dk_at dksX0_opens_1 9 rfl rfl)
theorem dX0_opens_34 : decode cX0_opens 34 = .ok (.astore_n 3, 1) := dk_78 (dk_at dksX0_opens_1 10 rfl rfl)
theorem dX0_opens_35 : decode cX0_opens 35 = .ok (.aload_n 3, 1) := dk_45 (dk_at dksX0_opens_1 11 rfl rfl)
theorem dX0_opens_36 : decode cX0_opens 36 = .ok (.getstatic 310, 3) := dk_178 1 54 (dk_at dksX0_opens_1 12 rfl rfl)
theorem dX0_opens_39 : decode cX0_opens 39 = .ok (.iload_n 2, 1) := dk_28 (dk_at dksX0_opens_1 15 rfl rfl)
theorem dX0_opens_40 : decode cX0_opens 40 = .ok (.aaload, 1) := dk_50 (dk_at dksX0_opens_1 16 rfl rfl)
theorem dX0_opens_41 : decode cX0_opens 41 = .ok (.putfield 303, 3) := dk_181 1 47 (dk_at dksX0_opens_1 17 rfl rfl)
theorem dX0_opens_44 : decode cX0_opens 44 = .ok (.aload_n 3, 1) := dk_45 (dk_at dksX0_opens_1 20 rfl rfl)
theorem dX0_opens_45 : decode cX0_opens 45 = .ok (.aload_n 3, 1) := dk_45 (dk_at dksX0_opens_1 21 rfl rfl)
theorem dX0_opens_46 : decode cX0_opens 46 = .ok (.getfield 303, 3) := dk_180 1 47 (dk_at dksX0_opens_2 0 rfl rfl)
theorem dX0_opens_49 : decode cX0_opens 49 = .ok (.aload_n 0, 1) := dk_42 (dk_at dksX0_opens_2 3 rfl rfl)
theorem dX0_opens_50 : decode cX0_opens 50 = .ok (.invokevirtual 314, 3) := dk_182 1 58 (dk_at dksX0_opens_2 4 rfl rfl)
theorem dX0_opens_53 : decode cX0_opens 53 = .ok (.putfield 319, 3) := dk_181 1 63 (dk_at dksX0_opens_2 7 rfl rfl)
theorem dX0_opens_56 : decode cX0_opens 56 = .ok (.aload_n 3, 1) := dk_45 (dk_at dksX0_opens_2 10 rfl rfl)
theorem dX0_opens_57 : decode cX0_opens 57 = .ok (.iconst (-1), 1) := dk_2 (dk_at dksX0_opens_2 11 rfl rfl)
theorem dX0_opens_58 : decode cX0_opens 58 = .ok (.putfield 322, 3) := dk_181 1 66 (dk_at dksX0_opens_2 12 rfl rfl)
theorem dX0_opens_61 : decode cX0_opens 61 = .ok (.aload_n 3, 1) := dk_45 (dk_at dksX0_opens_2 15 rfl rfl)
theorem dX0_opens_62 : decode cX0_opens 62 = .ok (.aload_n 0, 1) := dk_42 (dk_at dksX0_opens_2 16 rfl rfl)
theorem dX0_opens_63 : decode cX0_opens 63 = .ok (.getfield 153, 3) := dk_180 0 153 (dk_at dksX0_opens_2 17 rfl rfl)
theorem dX0_opens_66 : decode cX0_opens 66 = .ok (.putfield 324, 3) := dk_181 1 68 (dk_at dksX0_opens_2 20 rfl rfl)
theorem dX0_opens_69 : decode cX0_opens 69 = .ok (.aload_n 0, 1) := dk_42 (dk_at dksX0_opens_2 23 rfl rfl)
theorem dX0_opens_70 : decode cX0_opens 70 = .ok (.getfield 142, 3) := dk_180 0 142 (dk_at dksX0_opens_3 0 rfl rfl)
theorem dX0_opens_73 : decode cX0_opens 73 = .ok (.ireturn, 1) := dk_172 (dk_at dksX0_opens_3 3 rfl rfl)
abbrev cX0_isCursor : ByteArray := prog_1_method_50_code
def yX0_isCursor : MethodName := ⟨RX0, "isCursor", "(I)Z"⟩
def dkwX0_isCursor_0 : List UInt8 := [26, 133, 9, 20, 1, 45, 184, 0, 214, 172]
abbrev dktX0_isCursor_0 : List UInt8 := dkwX0_isCursor_0 ++ []
theorem dksX0_isCursor_0 : cX0_isCursor.data.toList.drop 0 = dktX0_isCursor_0 := by decide +kernel
theorem dX0_isCursor_0 : decode cX0_isCursor 0 = .ok (.iload_n 0, 1) := dk_26 (dk_at dksX0_isCursor_0 0 rfl rfl)
theorem dX0_isCursor_1 : decode cX0_isCursor 1 = .ok (.i2l, 1) := dk_133 (dk_at dksX0_isCursor_0 1 rfl rfl)
theorem dX0_isCursor_2 : decode cX0_isCursor 2 = .ok (.lconst 0, 1) := dk_9 (dk_at dksX0_isCursor_0 2 rfl rfl)
theorem dX0_isCursor_3 : decode cX0_isCursor 3 = .ok (.ldc2_w 301, 3) := dk_20 1 45 (dk_at dksX0_isCursor_0 3 rfl rfl)
theorem dX0_isCursor_6 : decode cX0_isCursor 6 = .ok (.invokestatic 214, 3) := dk_184 0 214 (dk_at dksX0_isCursor_0 6 rfl rfl)
theorem dX0_isCursor_9 : decode cX0_isCursor 9 = .ok (.ireturn, 1) := dk_172 (dk_at dksX0_isCursor_0 9 rfl rfl)
abbrev cX0_next : ByteArray := prog_1_method_53_code
def yX0_next : MethodName := ⟨RX0, "next", "(I)I"⟩
def dkwX0_next_3 : List UInt8 := [180, 1, 47, 42, 44, 180, 1, 63, 182, 1, 77, 181, 1, 63, 44, 180, 1, 66, 172]
abbrev dktX0_next_3 : List UInt8 := dkwX0_next_3 ++ []
def dkwX0_next_2 : List UInt8 := [44, 180, 1, 63, 199, 0, 5, 2, 172, 44, 44, 180, 1, 63, 180, 0, 120, 181, 1, 66, 44, 44]
abbrev dktX0_next_2 : List UInt8 := dkwX0_next_2 ++ dktX0_next_3
def dkwX0_next_1 : List UInt8 := [172, 42, 180, 0, 26, 27, 50, 77, 44, 180, 1, 68, 42, 180, 0, 153, 159, 0, 8, 42, 182, 1, 74, 172]
abbrev dktX0_next_1 : List UInt8 := dkwX0_next_1 ++ dktX0_next_2
def dkwX0_next_0 : List UInt8 := [27, 184, 1, 51, 154, 0, 8, 42, 182, 0, 227, 172, 42, 27, 182, 1, 71, 154, 0, 8, 42, 182, 1, 34]
abbrev dktX0_next_0 : List UInt8 := dkwX0_next_0 ++ dktX0_next_1
theorem dksX0_next_0 : cX0_next.data.toList.drop 0 = dktX0_next_0 := by decide +kernel
theorem dksX0_next_1 : cX0_next.data.toList.drop 24 = dktX0_next_1 := dk_seg dksX0_next_0 24 rfl rfl
theorem dksX0_next_2 : cX0_next.data.toList.drop 48 = dktX0_next_2 := dk_seg dksX0_next_1 24 rfl rfl
theorem dksX0_next_3 : cX0_next.data.toList.drop 70 = dktX0_next_3 := dk_seg dksX0_next_2 22 rfl rfl
theorem dX0_next_0 : decode cX0_next 0 = .ok (.iload_n 1, 1) := dk_27 (dk_at dksX0_next_0 0 rfl rfl)
theorem dX0_next_1 : decode cX0_next 1 = .ok (.invokestatic 307, 3) := dk_184 1 51 (dk_at dksX0_next_0 1 rfl rfl)
theorem dX0_next_4 : decode cX0_next 4 = .ok (.ifCond .ne 8, 3) := dk_154 0 8 (dk_at dksX0_next_0 4 rfl rfl)
theorem dX0_next_7 : decode cX0_next 7 = .ok (.aload_n 0, 1) := dk_42 (dk_at dksX0_next_0 7 rfl rfl)
theorem dX0_next_8 : decode cX0_next 8 = .ok (.invokevirtual 227, 3) := dk_182 0 227 (dk_at dksX0_next_0 8 rfl rfl)
theorem dX0_next_11 : decode cX0_next 11 = .ok (.ireturn, 1) := dk_172 (dk_at dksX0_next_0 11 rfl rfl)
theorem dX0_next_12 : decode cX0_next 12 = .ok (.aload_n 0, 1) := dk_42 (dk_at dksX0_next_0 12 rfl rfl)
theorem dX0_next_13 : decode cX0_next 13 = .ok (.iload_n 1, 1) := dk_27 (dk_at dksX0_next_0 13 rfl rfl)
theorem dX0_next_14 : decode cX0_next 14 = .ok (.invokevirtual 327, 3) := dk_182 1 71 (dk_at dksX0_next_0 14 rfl rfl)
theorem dX0_next_17 : decode cX0_next 17 = .ok (.ifCond .ne 8, 3) := dk_154 0 8 (dk_at dksX0_next_0 17 rfl rfl)
theorem dX0_next_20 : decode cX0_next 20 = .ok (.aload_n 0, 1) := dk_42 (dk_at dksX0_next_0 20 rfl rfl)
theorem dX0_next_21 : decode cX0_next 21 = .ok (.invokevirtual 290, 3) := dk_182 1 34 (dk_at dksX0_next_0 21 rfl rfl)
theorem dX0_next_24 : decode cX0_next 24 = .ok (.ireturn, 1) := dk_172 (dk_at dksX0_next_1 0 rfl rfl)
theorem dX0_next_25 : decode cX0_next 25 = .ok (.aload_n 0, 1) := dk_42 (dk_at dksX0_next_1 1 rfl rfl)
theorem dX0_next_26 : decode cX0_next 26 = .ok (.getfield 26, 3) := dk_180 0 26 (dk_at dksX0_next_1 2 rfl rfl)
theorem dX0_next_29 : decode cX0_next 29 = .ok (.iload_n 1, 1) := dk_27 (dk_at dksX0_next_1 5 rfl rfl)
theorem dX0_next_30 : decode cX0_next 30 = .ok (.aaload, 1) := dk_50 (dk_at dksX0_next_1 6 rfl rfl)
theorem dX0_next_31 : decode cX0_next 31 = .ok (.astore_n 2, 1) := dk_77 (dk_at dksX0_next_1 7 rfl rfl)
theorem dX0_next_32 : decode cX0_next 32 = .ok (.aload_n 2, 1) := dk_44 (dk_at dksX0_next_1 8 rfl rfl)
theorem dX0_next_33 : decode cX0_next 33 = .ok (.getfield 324, 3) := dk_180 1 68 (dk_at dksX0_next_1 9 rfl rfl)
theorem dX0_next_36 : decode cX0_next 36 = .ok (.aload_n 0, 1) := dk_42 (dk_at dksX0_next_1 12 rfl rfl)
theorem dX0_next_37 : decode cX0_next 37 = .ok (.getfield 153, 3) := dk_180 0 153 (dk_at dksX0_next_1 13 rfl rfl)
theorem dX0_next_40 : decode cX0_next 40 = .ok (.if_icmp .eq 8, 3) := dk_159 0 8 (dk_at dksX0_next_1 16 rfl rfl)
theorem dX0_next_43 : decode cX0_next 43 = .ok (.aload_n 0, 1) := dk_42 (dk_at dksX0_next_1 19 rfl rfl)
theorem dX0_next_44 : decode cX0_next 44 = .ok (.invokevirtual 330, 3) := dk_182 1 74 (dk_at dksX0_next_1 20 rfl rfl)
theorem dX0_next_47 : decode cX0_next 47 = .ok (.ireturn, 1) := dk_172 (dk_at dksX0_next_1 23 rfl rfl)
theorem dX0_next_48 : decode cX0_next 48 = .ok (.aload_n 2, 1) := dk_44 (dk_at dksX0_next_2 0 rfl rfl)
theorem dX0_next_49 : decode cX0_next 49 = .ok (.getfield 319, 3) := dk_180 1 63 (dk_at dksX0_next_2 1 rfl rfl)
theorem dX0_next_52 : decode cX0_next 52 = .ok (.ifnonnull 5, 3) := dk_199 0 5 (dk_at dksX0_next_2 4 rfl rfl)
theorem dX0_next_55 : decode cX0_next 55 = .ok (.iconst (-1), 1) := dk_2 (dk_at dksX0_next_2 7 rfl rfl)
theorem dX0_next_56 : decode cX0_next 56 = .ok (.ireturn, 1) := dk_172 (dk_at dksX0_next_2 8 rfl rfl)
theorem dX0_next_57 : decode cX0_next 57 = .ok (.aload_n 2, 1) := dk_44 (dk_at dksX0_next_2 9 rfl rfl)
theorem dX0_next_58 : decode cX0_next 58 = .ok (.aload_n 2, 1) := dk_44 (dk_at dksX0_next_2 10 rfl rfl)
theorem dX0_next_59 : decode cX0_next 59 = .ok (.getfield 319, 3) := dk_180 1 63 (dk_at dksX0_next_2 11 rfl rfl)
theorem dX0_next_62 : decode cX0_next 62 = .ok (.getfield 120, 3) := dk_180 0 120 (dk_at dksX0_next_2 14 rfl rfl)
theorem dX0_next_65 : decode cX0_next 65 = .ok (.putfield 322, 3) := dk_181 1 66 (dk_at dksX0_next_2 17 rfl rfl)
theorem dX0_next_68 : decode cX0_next 68 = .ok (.aload_n 2, 1) := dk_44 (dk_at dksX0_next_2 20 rfl rfl)
theorem dX0_next_69 : decode cX0_next 69 = .ok (.aload_n 2, 1) := dk_44 (dk_at dksX0_next_2 21 rfl rfl)
theorem dX0_next_70 : decode cX0_next 70 = .ok (.getfield 303, 3) := dk_180 1 47 (dk_at dksX0_next_3 0 rfl rfl)
theorem dX0_next_73 : decode cX0_next 73 = .ok (.aload_n 0, 1) := dk_42 (dk_at dksX0_next_3 3 rfl rfl)
theorem dX0_next_74 : decode cX0_next 74 = .ok (.aload_n 2, 1) := dk_44 (dk_at dksX0_next_3 4 rfl rfl)
theorem dX0_next_75 : decode cX0_next 75 = .ok (.getfield 319, 3) := dk_180 1 63 (dk_at dksX0_next_3 5 rfl rfl)
theorem dX0_next_78 : decode cX0_next 78 = .ok (.invokevirtual 333, 3) := dk_182 1 77 (dk_at dksX0_next_3 8 rfl rfl)
theorem dX0_next_81 : decode cX0_next 81 = .ok (.putfield 319, 3) := dk_181 1 63 (dk_at dksX0_next_3 11 rfl rfl)
theorem dX0_next_84 : decode cX0_next 84 = .ok (.aload_n 2, 1) := dk_44 (dk_at dksX0_next_3 14 rfl rfl)
theorem dX0_next_85 : decode cX0_next 85 = .ok (.getfield 322, 3) := dk_180 1 66 (dk_at dksX0_next_3 15 rfl rfl)
theorem dX0_next_88 : decode cX0_next 88 = .ok (.ireturn, 1) := dk_172 (dk_at dksX0_next_3 18 rfl rfl)
abbrev cX0_isOpen : ByteArray := prog_1_method_51_code
def yX0_isOpen : MethodName := ⟨RX0, "isOpen", "(I)Z"⟩
def dkwX0_isOpen_0 : List UInt8 := [42, 180, 0, 26, 27, 50, 180, 1, 47, 198, 0, 7, 4, 167, 0, 4, 3, 172]
abbrev dktX0_isOpen_0 : List UInt8 := dkwX0_isOpen_0 ++ []
theorem dksX0_isOpen_0 : cX0_isOpen.data.toList.drop 0 = dktX0_isOpen_0 := by decide +kernel
theorem dX0_isOpen_0 : decode cX0_isOpen 0 = .ok (.aload_n 0, 1) := dk_42 (dk_at dksX0_isOpen_0 0 rfl rfl)
theorem dX0_isOpen_1 : decode cX0_isOpen 1 = .ok (.getfield 26, 3) := dk_180 0 26 (dk_at dksX0_isOpen_0 1 rfl rfl)
theorem dX0_isOpen_4 : decode cX0_isOpen 4 = .ok (.iload_n 1, 1) := dk_27 (dk_at dksX0_isOpen_0 4 rfl rfl)
theorem dX0_isOpen_5 : decode cX0_isOpen 5 = .ok (.aaload, 1) := dk_50 (dk_at dksX0_isOpen_0 5 rfl rfl)
theorem dX0_isOpen_6 : decode cX0_isOpen 6 = .ok (.getfield 303, 3) := dk_180 1 47 (dk_at dksX0_isOpen_0 6 rfl rfl)
theorem dX0_isOpen_9 : decode cX0_isOpen 9 = .ok (.ifnull 7, 3) := dk_198 0 7 (dk_at dksX0_isOpen_0 9 rfl rfl)
theorem dX0_isOpen_12 : decode cX0_isOpen 12 = .ok (.iconst 1, 1) := dk_4 (dk_at dksX0_isOpen_0 12 rfl rfl)
theorem dX0_isOpen_13 : decode cX0_isOpen 13 = .ok (.goto 4, 3) := dk_167 0 4 (dk_at dksX0_isOpen_0 13 rfl rfl)
theorem dX0_isOpen_16 : decode cX0_isOpen 16 = .ok (.iconst 0, 1) := dk_3 (dk_at dksX0_isOpen_0 16 rfl rfl)
theorem dX0_isOpen_17 : decode cX0_isOpen 17 = .ok (.ireturn, 1) := dk_172 (dk_at dksX0_isOpen_0 17 rfl rfl)
abbrev cX0_late : ByteArray := prog_1_method_7_code
def yX0_late : MethodName := ⟨RX0, "late", "()I"⟩
def dkwX0_late_0 : List UInt8 := [42, 6, 16, 250, 182, 0, 58, 172]
abbrev dktX0_late_0 : List UInt8 := dkwX0_late_0 ++ []
theorem dksX0_late_0 : cX0_late.data.toList.drop 0 = dktX0_late_0 := by decide +kernel
theorem dX0_late_0 : decode cX0_late 0 = .ok (.aload_n 0, 1) := dk_42 (dk_at dksX0_late_0 0 rfl rfl)
theorem dX0_late_1 : decode cX0_late 1 = .ok (.iconst 3, 1) := dk_6 (dk_at dksX0_late_0 1 rfl rfl)
theorem dX0_late_2 : decode cX0_late 2 = .ok (.bipush (-6), 2) := dk_16 250 (dk_at dksX0_late_0 2 rfl rfl)
theorem dX0_late_4 : decode cX0_late 4 = .ok (.invokevirtual 58, 3) := dk_182 0 58 (dk_at dksX0_late_0 4 rfl rfl)
theorem dX0_late_7 : decode cX0_late 7 = .ok (.ireturn, 1) := dk_172 (dk_at dksX0_late_0 7 rfl rfl)
abbrev cX0_removes : ByteArray := prog_1_method_54_code
def yX0_removes : MethodName := ⟨RX0, "removes", "(I)I"⟩
def dkwX0_removes_4 : List UInt8 := [180, 0, 201, 172]
abbrev dktX0_removes_4 : List UInt8 := dkwX0_removes_4 ++ []
def dkwX0_removes_3 : List UInt8 := [182, 0, 230, 78, 42, 45, 182, 0, 169, 44, 2, 181, 1, 66, 44, 42, 180, 0, 153, 181, 1, 68, 45]
abbrev dktX0_removes_3 : List UInt8 := dkwX0_removes_3 ++ dktX0_removes_4
def dkwX0_removes_2 : List UInt8 := [180, 1, 68, 42, 180, 0, 153, 159, 0, 8, 42, 182, 1, 74, 172, 42, 182, 0, 237, 42, 44, 180, 1, 66]
abbrev dktX0_removes_2 : List UInt8 := dkwX0_removes_2 ++ dktX0_removes_3
def dkwX0_removes_1 : List UInt8 := [27, 50, 180, 1, 66, 2, 160, 0, 8, 42, 182, 1, 34, 172, 42, 180, 0, 26, 27, 50, 77, 44]
abbrev dktX0_removes_1 : List UInt8 := dkwX0_removes_1 ++ dktX0_removes_2
def dkwX0_removes_0 : List UInt8 := [27, 184, 1, 51, 154, 0, 8, 42, 182, 0, 227, 172, 42, 27, 182, 1, 71, 153, 0, 16, 42, 180, 0, 26]
abbrev dktX0_removes_0 : List UInt8 := dkwX0_removes_0 ++ dktX0_removes_1
theorem dksX0_removes_0 : cX0_removes.data.toList.drop 0 = dktX0_removes_0 := by decide +kernel
theorem dksX0_removes_1 : cX0_removes.data.toList.drop 24 = dktX0_removes_1 := dk_seg dksX0_removes_0 24 rfl rfl
theorem dksX0_removes_2 : cX0_removes.data.toList.drop 46 = dktX0_removes_2 := dk_seg dksX0_removes_1 22 rfl rfl
theorem dksX0_removes_3 : cX0_removes.data.toList.drop 70 = dktX0_removes_3 := dk_seg dksX0_removes_2 24 rfl rfl
theorem dksX0_removes_4 : cX0_removes.data.toList.drop 93 = dktX0_removes_4 := dk_seg dksX0_removes_3 23 rfl rfl
theorem dX0_removes_0 : decode cX0_removes 0 = .ok (.iload_n 1, 1) := dk_27 (dk_at dksX0_removes_0 0 rfl rfl)
theorem dX0_removes_1 : decode cX0_removes 1 = .ok (.invokestatic 307, 3) := dk_184 1 51 (dk_at dksX0_removes_0 1 rfl rfl)
theorem dX0_removes_4 : decode cX0_removes 4 = .ok (.ifCond .ne 8, 3) := dk_154 0 8 (dk_at dksX0_removes_0 4 rfl rfl)
theorem dX0_removes_7 : decode cX0_removes 7 = .ok (.aload_n 0, 1) := dk_42 (dk_at dksX0_removes_0 7 rfl rfl)
theorem dX0_removes_8 : decode cX0_removes 8 = .ok (.invokevirtual 227, 3) := dk_182 0 227 (dk_at dksX0_removes_0 8 rfl rfl)
theorem dX0_removes_11 : decode cX0_removes 11 = .ok (.ireturn, 1) := dk_172 (dk_at dksX0_removes_0 11 rfl rfl)
theorem dX0_removes_12 : decode cX0_removes 12 = .ok (.aload_n 0, 1) := dk_42 (dk_at dksX0_removes_0 12 rfl rfl)
theorem dX0_removes_13 : decode cX0_removes 13 = .ok (.iload_n 1, 1) := dk_27 (dk_at dksX0_removes_0 13 rfl rfl)
theorem dX0_removes_14 : decode cX0_removes 14 = .ok (.invokevirtual 327, 3) := dk_182 1 71 (dk_at dksX0_removes_0 14 rfl rfl)
theorem dX0_removes_17 : decode cX0_removes 17 = .ok (.ifCond .eq 16, 3) := dk_153 0 16 (dk_at dksX0_removes_0 17 rfl rfl)
theorem dX0_removes_20 : decode cX0_removes 20 = .ok (.aload_n 0, 1) := dk_42 (dk_at dksX0_removes_0 20 rfl rfl)
theorem dX0_removes_21 : decode cX0_removes 21 = .ok (.getfield 26, 3) := dk_180 0 26 (dk_at dksX0_removes_0 21 rfl rfl)
theorem dX0_removes_24 : decode cX0_removes 24 = .ok (.iload_n 1, 1) := dk_27 (dk_at dksX0_removes_1 0 rfl rfl)
theorem dX0_removes_25 : decode cX0_removes 25 = .ok (.aaload, 1) := dk_50 (dk_at dksX0_removes_1 1 rfl rfl)
theorem dX0_removes_26 : decode cX0_removes 26 = .ok (.getfield 322, 3) := dk_180 1 66 (dk_at dksX0_removes_1 2 rfl rfl)
theorem dX0_removes_29 : decode cX0_removes 29 = .ok (.iconst (-1), 1) := dk_2 (dk_at dksX0_removes_1 5 rfl rfl)
theorem dX0_removes_30 : decode cX0_removes 30 = .ok (.if_icmp .ne 8, 3) := dk_160 0 8 (dk_at dksX0_removes_1 6 rfl rfl)
theorem dX0_removes_33 : decode cX0_removes 33 = .ok (.aload_n 0, 1) := dk_42 (dk_at dksX0_removes_1 9 rfl rfl)
theorem dX0_removes_34 : decode cX0_removes 34 = .ok (.invokevirtual 290, 3) := dk_182 1 34 (dk_at dksX0_removes_1 10 rfl rfl)
theorem dX0_removes_37 : decode cX0_removes 37 = .ok (.ireturn, 1) := dk_172 (dk_at dksX0_removes_1 13 rfl rfl)
theorem dX0_removes_38 : decode cX0_removes 38 = .ok (.aload_n 0, 1) := dk_42 (dk_at dksX0_removes_1 14 rfl rfl)
theorem dX0_removes_39 : decode cX0_removes 39 = .ok (.getfield 26, 3) := dk_180 0 26 (dk_at dksX0_removes_1 15 rfl rfl)
theorem dX0_removes_42 : decode cX0_removes 42 = .ok (.iload_n 1, 1) := dk_27 (dk_at dksX0_removes_1 18 rfl rfl)
theorem dX0_removes_43 : decode cX0_removes 43 = .ok (.aaload, 1) := dk_50 (dk_at dksX0_removes_1 19 rfl rfl)
theorem dX0_removes_44 : decode cX0_removes 44 = .ok (.astore_n 2, 1) := dk_77 (dk_at dksX0_removes_1 20 rfl rfl)
theorem dX0_removes_45 : decode cX0_removes 45 = .ok (.aload_n 2, 1) := dk_44 (dk_at dksX0_removes_1 21 rfl rfl)
theorem dX0_removes_46 : decode cX0_removes 46 = .ok (.getfield 324, 3) := dk_180 1 68 (dk_at dksX0_removes_2 0 rfl rfl)
theorem dX0_removes_49 : decode cX0_removes 49 = .ok (.aload_n 0, 1) := dk_42 (dk_at dksX0_removes_2 3 rfl rfl)
theorem dX0_removes_50 : decode cX0_removes 50 = .ok (.getfield 153, 3) := dk_180 0 153 (dk_at dksX0_removes_2 4 rfl rfl)
theorem dX0_removes_53 : decode cX0_removes 53 = .ok (.if_icmp .eq 8, 3) := dk_159 0 8 (dk_at dksX0_removes_2 7 rfl rfl)
theorem dX0_removes_56 : decode cX0_removes 56 = .ok (.aload_n 0, 1) := dk_42 (dk_at dksX0_removes_2 10 rfl rfl)
theorem dX0_removes_57 : decode cX0_removes 57 = .ok (.invokevirtual 330, 3) := dk_182 1 74 (dk_at dksX0_removes_2 11 rfl rfl)
theorem dX0_removes_60 : decode cX0_removes 60 = .ok (.ireturn, 1) := dk_172 (dk_at dksX0_removes_2 14 rfl rfl)
theorem dX0_removes_61 : decode cX0_removes 61 = .ok (.aload_n 0, 1) := dk_42 (dk_at dksX0_removes_2 15 rfl rfl)
theorem dX0_removes_62 : decode cX0_removes 62 = .ok (.invokevirtual 237, 3) := dk_182 0 237 (dk_at dksX0_removes_2 16 rfl rfl)
theorem dX0_removes_65 : decode cX0_removes 65 = .ok (.aload_n 0, 1) := dk_42 (dk_at dksX0_removes_2 19 rfl rfl)
theorem dX0_removes_66 : decode cX0_removes 66 = .ok (.aload_n 2, 1) := dk_44 (dk_at dksX0_removes_2 20 rfl rfl)
theorem dX0_removes_67 : decode cX0_removes 67 = .ok (.getfield 322, 3) := dk_180 1 66 (dk_at dksX0_removes_2 21 rfl rfl)
theorem dX0_removes_70 : decode cX0_removes 70 = .ok (.invokevirtual 230, 3) := dk_182 0 230 (dk_at dksX0_removes_3 0 rfl rfl)
theorem dX0_removes_73 : decode cX0_removes 73 = .ok (.astore_n 3, 1) := dk_78 (dk_at dksX0_removes_3 3 rfl rfl)
theorem dX0_removes_74 : decode cX0_removes 74 = .ok (.aload_n 0, 1) := dk_42 (dk_at dksX0_removes_3 4 rfl rfl)
theorem dX0_removes_75 : decode cX0_removes 75 = .ok (.aload_n 3, 1) := dk_45 (dk_at dksX0_removes_3 5 rfl rfl)
theorem dX0_removes_76 : decode cX0_removes 76 = .ok (.invokevirtual 169, 3) := dk_182 0 169 (dk_at dksX0_removes_3 6 rfl rfl)
theorem dX0_removes_79 : decode cX0_removes 79 = .ok (.aload_n 2, 1) := dk_44 (dk_at dksX0_removes_3 9 rfl rfl)
theorem dX0_removes_80 : decode cX0_removes 80 = .ok (.iconst (-1), 1) := dk_2 (dk_at dksX0_removes_3 10 rfl rfl)
theorem dX0_removes_81 : decode cX0_removes 81 = .ok (.putfield 322, 3) := dk_181 1 66 (dk_at dksX0_removes_3 11 rfl rfl)
theorem dX0_removes_84 : decode cX0_removes 84 = .ok (.aload_n 2, 1) := dk_44 (dk_at dksX0_removes_3 14 rfl rfl)
theorem dX0_removes_85 : decode cX0_removes 85 = .ok (.aload_n 0, 1) := dk_42 (dk_at dksX0_removes_3 15 rfl rfl)
theorem dX0_removes_86 : decode cX0_removes 86 = .ok (.getfield 153, 3) := dk_180 0 153 (dk_at dksX0_removes_3 16 rfl rfl)
theorem dX0_removes_89 : decode cX0_removes 89 = .ok (.putfield 324, 3) := dk_181 1 68 (dk_at dksX0_removes_3 19 rfl rfl)
theorem dX0_removes_92 : decode cX0_removes 92 = .ok (.aload_n 3, 1) := dk_45 (dk_at dksX0_removes_3 22 rfl rfl)
theorem dX0_removes_93 : decode cX0_removes 93 = .ok (.getfield 201, 3) := dk_180 0 201 (dk_at dksX0_removes_4 0 rfl rfl)
theorem dX0_removes_96 : decode cX0_removes 96 = .ok (.ireturn, 1) := dk_172 (dk_at dksX0_removes_4 3 rfl rfl)
abbrev cX0_resumes : ByteArray := prog_1_method_56_code
def yX0_resumes : MethodName := ⟨RX0, "resumes", "(I)I"⟩
def dkwX0_resumes_4 : List UInt8 := [181, 1, 68, 42, 44, 182, 1, 80, 172]
abbrev dktX0_resumes_4 : List UInt8 := dkwX0_resumes_4 ++ []
def dkwX0_resumes_3 : List UInt8 := [180, 1, 47, 42, 45, 182, 1, 77, 181, 1, 63, 44, 45, 184, 1, 26, 181, 1, 66, 44, 42, 180, 0, 153]
abbrev dktX0_resumes_3 : List UInt8 := dkwX0_resumes_3 ++ dktX0_resumes_4
def dkwX0_resumes_2 : List UInt8 := [180, 1, 66, 182, 0, 230, 78, 44, 45, 199, 0, 14, 44, 180, 1, 47, 42, 182, 1, 58, 167, 0, 12, 44]
abbrev dktX0_resumes_2 : List UInt8 := dkwX0_resumes_2 ++ dktX0_resumes_3
def dkwX0_resumes_1 : List UInt8 := [172, 42, 180, 0, 26, 27, 50, 77, 44, 180, 1, 66, 2, 160, 0, 7, 1, 167, 0, 11, 42, 44]
abbrev dktX0_resumes_1 : List UInt8 := dkwX0_resumes_1 ++ dktX0_resumes_2
def dkwX0_resumes_0 : List UInt8 := [27, 184, 1, 51, 154, 0, 8, 42, 182, 0, 227, 172, 42, 27, 182, 1, 71, 154, 0, 8, 42, 182, 1, 34]
abbrev dktX0_resumes_0 : List UInt8 := dkwX0_resumes_0 ++ dktX0_resumes_1
theorem dksX0_resumes_0 : cX0_resumes.data.toList.drop 0 = dktX0_resumes_0 := by decide +kernel
theorem dksX0_resumes_1 : cX0_resumes.data.toList.drop 24 = dktX0_resumes_1 := dk_seg dksX0_resumes_0 24 rfl rfl
theorem dksX0_resumes_2 : cX0_resumes.data.toList.drop 46 = dktX0_resumes_2 := dk_seg dksX0_resumes_1 22 rfl rfl
theorem dksX0_resumes_3 : cX0_resumes.data.toList.drop 70 = dktX0_resumes_3 := dk_seg dksX0_resumes_2 24 rfl rfl
theorem dksX0_resumes_4 : cX0_resumes.data.toList.drop 94 = dktX0_resumes_4 := dk_seg dksX0_resumes_3 24 rfl rfl
theorem dX0_resumes_0 : decode cX0_resumes 0 = .ok (.iload_n 1, 1) := dk_27 (dk_at dksX0_resumes_0 0 rfl rfl)
theorem dX0_resumes_1 : decode cX0_resumes 1 = .ok (.invokestatic 307, 3) := dk_184 1 51 (dk_at dksX0_resumes_0 1 rfl rfl)
theorem dX0_resumes_4 : decode cX0_resumes 4 = .ok (.ifCond .ne 8, 3) := dk_154 0 8 (dk_at dksX0_resumes_0 4 rfl rfl)
theorem dX0_resumes_7 : decode cX0_resumes 7 = .ok (.aload_n 0, 1) := dk_42 (dk_at dksX0_resumes_0 7 rfl rfl)
theorem dX0_resumes_8 : decode cX0_resumes 8 = .ok (.invokevirtual 227, 3) := dk_182 0 227 (dk_at dksX0_resumes_0 8 rfl rfl)
theorem dX0_resumes_11 : decode cX0_resumes 11 = .ok (.ireturn, 1) := dk_172 (dk_at dksX0_resumes_0 11 rfl rfl)
theorem dX0_resumes_12 : decode cX0_resumes 12 = .ok (.aload_n 0, 1) := dk_42 (dk_at dksX0_resumes_0 12 rfl rfl)
theorem dX0_resumes_13 : decode cX0_resumes 13 = .ok (.iload_n 1, 1) := dk_27 (dk_at dksX0_resumes_0 13 rfl rfl)
theorem dX0_resumes_14 : decode cX0_resumes 14 = .ok (.invokevirtual 327, 3) := dk_182 1 71 (dk_at dksX0_resumes_0 14 rfl rfl)
theorem dX0_resumes_17 : decode cX0_resumes 17 = .ok (.ifCond .ne 8, 3) := dk_154 0 8 (dk_at dksX0_resumes_0 17 rfl rfl)
theorem dX0_resumes_20 : decode cX0_resumes 20 = .ok (.aload_n 0, 1) := dk_42 (dk_at dksX0_resumes_0 20 rfl rfl)
theorem dX0_resumes_21 : decode cX0_resumes 21 = .ok (.invokevirtual 290, 3) := dk_182 1 34 (dk_at dksX0_resumes_0 21 rfl rfl)
theorem dX0_resumes_24 : decode cX0_resumes 24 = .ok (.ireturn, 1) := dk_172 (dk_at dksX0_resumes_1 0 rfl rfl)
theorem dX0_resumes_25 : decode cX0_resumes 25 = .ok (.aload_n 0, 1) := dk_42 (dk_at dksX0_resumes_1 1 rfl rfl)
theorem dX0_resumes_26 : decode cX0_resumes 26 = .ok (.getfield 26, 3) := dk_180 0 26 (dk_at dksX0_resumes_1 2 rfl rfl)
theorem dX0_resumes_29 : decode cX0_resumes 29 = .ok (.iload_n 1, 1) := dk_27 (dk_at dksX0_resumes_1 5 rfl rfl)
theorem dX0_resumes_30 : decode cX0_resumes 30 = .ok (.aaload, 1) := dk_50 (dk_at dksX0_resumes_1 6 rfl rfl)
theorem dX0_resumes_31 : decode cX0_resumes 31 = .ok (.astore_n 2, 1) := dk_77 (dk_at dksX0_resumes_1 7 rfl rfl)
theorem dX0_resumes_32 : decode cX0_resumes 32 = .ok (.aload_n 2, 1) := dk_44 (dk_at dksX0_resumes_1 8 rfl rfl)
theorem dX0_resumes_33 : decode cX0_resumes 33 = .ok (.getfield 322, 3) := dk_180 1 66 (dk_at dksX0_resumes_1 9 rfl rfl)
theorem dX0_resumes_36 : decode cX0_resumes 36 = .ok (.iconst (-1), 1) := dk_2 (dk_at dksX0_resumes_1 12 rfl rfl)
theorem dX0_resumes_37 : decode cX0_resumes 37 = .ok (.if_icmp .ne 7, 3) := dk_160 0 7 (dk_at dksX0_resumes_1 13 rfl rfl)
theorem dX0_resumes_40 : decode cX0_resumes 40 = .ok (.aconst_null, 1) := dk_1 (dk_at dksX0_resumes_1 16 rfl rfl)
theorem dX0_resumes_41 : decode cX0_resumes 41 = .ok (.goto 11, 3) := dk_167 0 11 (dk_at dksX0_resumes_1 17 rfl rfl)
theorem dX0_resumes_44 : decode cX0_resumes 44 = .ok (.aload_n 0, 1) := dk_42 (dk_at dksX0_resumes_1 20 rfl rfl)
theorem dX0_resumes_45 : decode cX0_resumes 45 = .ok (.aload_n 2, 1) := dk_44 (dk_at dksX0_resumes_1 21 rfl rfl)
theorem dX0_resumes_46 : decode cX0_resumes 46 = .ok (.getfield 322, 3) := dk_180 1 66 (dk_at dksX0_resumes_2 0 rfl rfl)
theorem dX0_resumes_49 : decode cX0_resumes 49 = .ok (.invokevirtual 230, 3) := dk_182 0 230 (dk_at dksX0_resumes_2 3 rfl rfl)
theorem dX0_resumes_52 : decode cX0_resumes 52 = .ok (.astore_n 3, 1) := dk_78 (dk_at dksX0_resumes_2 6 rfl rfl)
theorem dX0_resumes_53 : decode cX0_resumes 53 = .ok (.aload_n 2, 1) := dk_44 (dk_at dksX0_resumes_2 7 rfl rfl)
theorem dX0_resumes_54 : decode cX0_resumes 54 = .ok (.aload_n 3, 1) := dk_45 (dk_at dksX0_resumes_2 8 rfl rfl)
theorem dX0_resumes_55 : decode cX0_resumes 55 = .ok (.ifnonnull 14, 3) := dk_199 0 14 (dk_at dksX0_resumes_2 9 rfl rfl)
theorem dX0_resumes_58 : decode cX0_resumes 58 = .ok (.aload_n 2, 1) := dk_44 (dk_at dksX0_resumes_2 12 rfl rfl)
theorem dX0_resumes_59 : decode cX0_resumes 59 = .ok (.getfield 303, 3) := dk_180 1 47 (dk_at dksX0_resumes_2 13 rfl rfl)
theorem dX0_resumes_62 : decode cX0_resumes 62 = .ok (.aload_n 0, 1) := dk_42 (dk_at dksX0_resumes_2 16 rfl rfl)
theorem dX0_resumes_63 : decode cX0_resumes 63 = .ok (.invokevirtual 314, 3) := dk_182 1 58 (dk_at dksX0_resumes_2 17 rfl rfl)
theorem dX0_resumes_66 : decode cX0_resumes 66 = .ok (.goto 12, 3) := dk_167 0 12 (dk_at dksX0_resumes_2 20 rfl rfl)
theorem dX0_resumes_69 : decode cX0_resumes 69 = .ok (.aload_n 2, 1) := dk_44 (dk_at dksX0_resumes_2 23 rfl rfl)
theorem dX0_resumes_70 : decode cX0_resumes 70 = .ok (.getfield 303, 3) := dk_180 1 47 (dk_at dksX0_resumes_3 0 rfl rfl)
theorem dX0_resumes_73 : decode cX0_resumes 73 = .ok (.aload_n 0, 1) := dk_42 (dk_at dksX0_resumes_3 3 rfl rfl)
theorem dX0_resumes_74 : decode cX0_resumes 74 = .ok (.aload_n 3, 1) := dk_45 (dk_at dksX0_resumes_3 4 rfl rfl)
theorem dX0_resumes_75 : decode cX0_resumes 75 = .ok (.invokevirtual 333, 3) := dk_182 1 77 (dk_at dksX0_resumes_3 5 rfl rfl)
theorem dX0_resumes_78 : decode cX0_resumes 78 = .ok (.putfield 319, 3) := dk_181 1 63 (dk_at dksX0_resumes_3 8 rfl rfl)
theorem dX0_resumes_81 : decode cX0_resumes 81 = .ok (.aload_n 2, 1) := dk_44 (dk_at dksX0_resumes_3 11 rfl rfl)
theorem dX0_resumes_82 : decode cX0_resumes 82 = .ok (.aload_n 3, 1) := dk_45 (dk_at dksX0_resumes_3 12 rfl rfl)
theorem dX0_resumes_83 : decode cX0_resumes 83 = .ok (.invokestatic 282, 3) := dk_184 1 26 (dk_at dksX0_resumes_3 13 rfl rfl)
theorem dX0_resumes_86 : decode cX0_resumes 86 = .ok (.putfield 322, 3) := dk_181 1 66 (dk_at dksX0_resumes_3 16 rfl rfl)
theorem dX0_resumes_89 : decode cX0_resumes 89 = .ok (.aload_n 2, 1) := dk_44 (dk_at dksX0_resumes_3 19 rfl rfl)
theorem dX0_resumes_90 : decode cX0_resumes 90 = .ok (.aload_n 0, 1) := dk_42 (dk_at dksX0_resumes_3 20 rfl rfl)
theorem dX0_resumes_91 : decode cX0_resumes 91 = .ok (.getfield 153, 3) := dk_180 0 153 (dk_at dksX0_resumes_3 21 rfl rfl)
theorem dX0_resumes_94 : decode cX0_resumes 94 = .ok (.putfield 324, 3) := dk_181 1 68 (dk_at dksX0_resumes_4 0 rfl rfl)
theorem dX0_resumes_97 : decode cX0_resumes 97 = .ok (.aload_n 0, 1) := dk_42 (dk_at dksX0_resumes_4 3 rfl rfl)
theorem dX0_resumes_98 : decode cX0_resumes 98 = .ok (.aload_n 2, 1) := dk_44 (dk_at dksX0_resumes_4 4 rfl rfl)
theorem dX0_resumes_99 : decode cX0_resumes 99 = .ok (.invokevirtual 336, 3) := dk_182 1 80 (dk_at dksX0_resumes_4 5 rfl rfl)
theorem dX0_resumes_102 : decode cX0_resumes 102 = .ok (.ireturn, 1) := dk_172 (dk_at dksX0_resumes_4 8 rfl rfl)
abbrev cX0_yet : ByteArray := prog_1_method_55_code
def yX0_yet : MethodName := ⟨RX0, "yet", "(LCrowdedBins$Cursor;)I"⟩
def dkwX0_yet_1 : List UInt8 := [167, 255, 239, 28, 172]
abbrev dktX0_yet_1 : List UInt8 := dkwX0_yet_1 ++ []
def dkwX0_yet_0 : List UInt8 := [3, 61, 43, 180, 1, 63, 78, 45, 198, 0, 19, 132, 2, 1, 43, 180, 1, 47, 42, 45, 182, 1, 77, 78]
abbrev dktX0_yet_0 : List UInt8 := dkwX0_yet_0 ++ dktX0_yet_1
theorem dksX0_yet_0 : cX0_yet.data.toList.drop 0 = dktX0_yet_0 := by decide +kernel
theorem dksX0_yet_1 : cX0_yet.data.toList.drop 24 = dktX0_yet_1 := dk_seg dksX0_yet_0 24 rfl rfl
theorem dX0_yet_0 : decode cX0_yet 0 = .ok (.iconst 0, 1) := dk_3 (dk_at dksX0_yet_0 0 rfl rfl)
theorem dX0_yet_1 : decode cX0_yet 1 = .ok (.istore_n 2, 1) := dk_61 (dk_at dksX0_yet_0 1 rfl rfl)
theorem dX0_yet_2 : decode cX0_yet 2 = .ok (.aload_n 1, 1) := dk_43 (dk_at dksX0_yet_0 2 rfl rfl)
theorem dX0_yet_3 : decode cX0_yet 3 = .ok (.getfield 319, 3) := dk_180 1 63 (dk_at dksX0_yet_0 3 rfl rfl)
theorem dX0_yet_6 : decode cX0_yet 6 = .ok (.astore_n 3, 1) := dk_78 (dk_at dksX0_yet_0 6 rfl rfl)
theorem dX0_yet_7 : decode cX0_yet 7 = .ok (.aload_n 3, 1) := dk_45 (dk_at dksX0_yet_0 7 rfl rfl)
theorem dX0_yet_8 : decode cX0_yet 8 = .ok (.ifnull 19, 3) := dk_198 0 19 (dk_at dksX0_yet_0 8 rfl rfl)
theorem dX0_yet_11 : decode cX0_yet 11 = .ok (.iinc 2 1, 3) := dk_132 2 1 (dk_at dksX0_yet_0 11 rfl rfl)
theorem dX0_yet_14 : decode cX0_yet 14 = .ok (.aload_n 1, 1) := dk_43 (dk_at dksX0_yet_0 14 rfl rfl)
theorem dX0_yet_15 : decode cX0_yet 15 = .ok (.getfield 303, 3) := dk_180 1 47 (dk_at dksX0_yet_0 15 rfl rfl)
theorem dX0_yet_18 : decode cX0_yet 18 = .ok (.aload_n 0, 1) := dk_42 (dk_at dksX0_yet_0 18 rfl rfl)
theorem dX0_yet_19 : decode cX0_yet 19 = .ok (.aload_n 3, 1) := dk_45 (dk_at dksX0_yet_0 19 rfl rfl)
theorem dX0_yet_20 : decode cX0_yet 20 = .ok (.invokevirtual 333, 3) := dk_182 1 77 (dk_at dksX0_yet_0 20 rfl rfl)
theorem dX0_yet_23 : decode cX0_yet 23 = .ok (.astore_n 3, 1) := dk_78 (dk_at dksX0_yet_0 23 rfl rfl)
theorem dX0_yet_24 : decode cX0_yet 24 = .ok (.goto (-17), 3) := dk_167 255 239 (dk_at dksX0_yet_1 0 rfl rfl)
theorem dX0_yet_27 : decode cX0_yet 27 = .ok (.iload_n 2, 1) := dk_28 (dk_at dksX0_yet_1 3 rfl rfl)
theorem dX0_yet_28 : decode cX0_yet 28 = .ok (.ireturn, 1) := dk_172 (dk_at dksX0_yet_1 4 rfl rfl)
abbrev cX0_left : ByteArray := prog_1_method_57_code
def yX0_left : MethodName := ⟨RX0, "left", "(I)I"⟩
def dkwX0_left_2 : List UInt8 := [42, 42, 180, 0, 26, 27, 50, 182, 1, 80, 172]
abbrev dktX0_left_2 : List UInt8 := dkwX0_left_2 ++ []
def dkwX0_left_1 : List UInt8 := [172, 42, 180, 0, 26, 27, 50, 180, 1, 68, 42, 180, 0, 153, 159, 0, 10, 42, 182, 1, 74, 167, 0, 13]
abbrev dktX0_left_1 : List UInt8 := dkwX0_left_1 ++ dktX0_left_2
def dkwX0_left_0 : List UInt8 := [27, 184, 1, 51, 154, 0, 8, 42, 182, 0, 227, 172, 42, 27, 182, 1, 71, 154, 0, 8, 42, 182, 1, 34]
abbrev dktX0_left_0 : List UInt8 := dkwX0_left_0 ++ dktX0_left_1
theorem dksX0_left_0 : cX0_left.data.toList.drop 0 = dktX0_left_0 := by decide +kernel
theorem dksX0_left_1 : cX0_left.data.toList.drop 24 = dktX0_left_1 := dk_seg dksX0_left_0 24 rfl rfl
theorem dksX0_left_2 : cX0_left.data.toList.drop 48 = dktX0_left_2 := dk_seg dksX0_left_1 24 rfl rfl
theorem dX0_left_0 : decode cX0_left 0 = .ok (.iload_n 1, 1) := dk_27 (dk_at dksX0_left_0 0 rfl rfl)
theorem dX0_left_1 : decode cX0_left 1 = .ok (.invokestatic 307, 3) := dk_184 1 51 (dk_at dksX0_left_0 1 rfl rfl)
theorem dX0_left_4 : decode cX0_left 4 = .ok (.ifCond .ne 8, 3) := dk_154 0 8 (dk_at dksX0_left_0 4 rfl rfl)
theorem dX0_left_7 : decode cX0_left 7 = .ok (.aload_n 0, 1) := dk_42 (dk_at dksX0_left_0 7 rfl rfl)
theorem dX0_left_8 : decode cX0_left 8 = .ok (.invokevirtual 227, 3) := dk_182 0 227 (dk_at dksX0_left_0 8 rfl rfl)
theorem dX0_left_11 : decode cX0_left 11 = .ok (.ireturn, 1) := dk_172 (dk_at dksX0_left_0 11 rfl rfl)
theorem dX0_left_12 : decode cX0_left 12 = .ok (.aload_n 0, 1) := dk_42 (dk_at dksX0_left_0 12 rfl rfl)
theorem dX0_left_13 : decode cX0_left 13 = .ok (.iload_n 1, 1) := dk_27 (dk_at dksX0_left_0 13 rfl rfl)
theorem dX0_left_14 : decode cX0_left 14 = .ok (.invokevirtual 327, 3) := dk_182 1 71 (dk_at dksX0_left_0 14 rfl rfl)
theorem dX0_left_17 : decode cX0_left 17 = .ok (.ifCond .ne 8, 3) := dk_154 0 8 (dk_at dksX0_left_0 17 rfl rfl)
theorem dX0_left_20 : decode cX0_left 20 = .ok (.aload_n 0, 1) := dk_42 (dk_at dksX0_left_0 20 rfl rfl)
theorem dX0_left_21 : decode cX0_left 21 = .ok (.invokevirtual 290, 3) := dk_182 1 34 (dk_at dksX0_left_0 21 rfl rfl)
theorem dX0_left_24 : decode cX0_left 24 = .ok (.ireturn, 1) := dk_172 (dk_at dksX0_left_1 0 rfl rfl)
theorem dX0_left_25 : decode cX0_left 25 = .ok (.aload_n 0, 1) := dk_42 (dk_at dksX0_left_1 1 rfl rfl)
theorem dX0_left_26 : decode cX0_left 26 = .ok (.getfield 26, 3) := dk_180 0 26 (dk_at dksX0_left_1 2 rfl rfl)
theorem dX0_left_29 : decode cX0_left 29 = .ok (.iload_n 1, 1) := dk_27 (dk_at dksX0_left_1 5 rfl rfl)
theorem dX0_left_30 : decode cX0_left 30 = .ok (.aaload, 1) := dk_50 (dk_at dksX0_left_1 6 rfl rfl)
theorem dX0_left_31 : decode cX0_left 31 = .ok (.getfield 324, 3) := dk_180 1 68 (dk_at dksX0_left_1 7 rfl rfl)
theorem dX0_left_34 : decode cX0_left 34 = .ok (.aload_n 0, 1) := dk_42 (dk_at dksX0_left_1 10 rfl rfl)
theorem dX0_left_35 : decode cX0_left 35 = .ok (.getfield 153, 3) := dk_180 0 153 (dk_at dksX0_left_1 11 rfl rfl)
theorem dX0_left_38 : decode cX0_left 38 = .ok (.if_icmp .eq 10, 3) := dk_159 0 10 (dk_at dksX0_left_1 14 rfl rfl)
theorem dX0_left_41 : decode cX0_left 41 = .ok (.aload_n 0, 1) := dk_42 (dk_at dksX0_left_1 17 rfl rfl)
theorem dX0_left_42 : decode cX0_left 42 = .ok (.invokevirtual 330, 3) := dk_182 1 74 (dk_at dksX0_left_1 18 rfl rfl)
theorem dX0_left_45 : decode cX0_left 45 = .ok (.goto 13, 3) := dk_167 0 13 (dk_at dksX0_left_1 21 rfl rfl)
theorem dX0_left_48 : decode cX0_left 48 = .ok (.aload_n 0, 1) := dk_42 (dk_at dksX0_left_2 0 rfl rfl)
theorem dX0_left_49 : decode cX0_left 49 = .ok (.aload_n 0, 1) := dk_42 (dk_at dksX0_left_2 1 rfl rfl)
theorem dX0_left_50 : decode cX0_left 50 = .ok (.getfield 26, 3) := dk_180 0 26 (dk_at dksX0_left_2 2 rfl rfl)
theorem dX0_left_53 : decode cX0_left 53 = .ok (.iload_n 1, 1) := dk_27 (dk_at dksX0_left_2 5 rfl rfl)
theorem dX0_left_54 : decode cX0_left 54 = .ok (.aaload, 1) := dk_50 (dk_at dksX0_left_2 6 rfl rfl)
theorem dX0_left_55 : decode cX0_left 55 = .ok (.invokevirtual 336, 3) := dk_182 1 80 (dk_at dksX0_left_2 7 rfl rfl)
theorem dX0_left_58 : decode cX0_left 58 = .ok (.ireturn, 1) := dk_172 (dk_at dksX0_left_2 10 rfl rfl)
abbrev cX0_type : ByteArray := prog_1_method_58_code
def yX0_type : MethodName := ⟨RX0, "type", "(I)I"⟩
def dkwX0_type_2 : List UInt8 := [180, 1, 86, 4, 96, 181, 1, 86, 42, 180, 1, 86, 172]
abbrev dktX0_type_2 : List UInt8 := dkwX0_type_2 ++ []
def dkwX0_type_1 : List UInt8 := [160, 0, 11, 42, 5, 16, 252, 182, 0, 58, 172, 42, 180, 0, 35, 42, 180, 1, 86, 27, 145, 84, 42, 89]
abbrev dktX0_type_1 : List UInt8 := dkwX0_type_1 ++ dktX0_type_2
def dkwX0_type_0 : List UInt8 := [27, 133, 9, 20, 1, 84, 184, 0, 214, 154, 0, 8, 42, 182, 0, 227, 172, 42, 180, 1, 86, 16, 120]
abbrev dktX0_type_0 : List UInt8 := dkwX0_type_0 ++ dktX0_type_1
theorem dksX0_type_0 : cX0_type.data.toList.drop 0 = dktX0_type_0 := by decide +kernel
theorem dksX0_type_1 : cX0_type.data.toList.drop 23 = dktX0_type_1 := dk_seg dksX0_type_0 23 rfl rfl
theorem dksX0_type_2 : cX0_type.data.toList.drop 47 = dktX0_type_2 := dk_seg dksX0_type_1 24 rfl rfl
theorem dX0_type_0 : decode cX0_type 0 = .ok (.iload_n 1, 1) := dk_27 (dk_at dksX0_type_0 0 rfl rfl)
theorem dX0_type_1 : decode cX0_type 1 = .ok (.i2l, 1) := dk_133 (dk_at dksX0_type_0 1 rfl rfl)
theorem dX0_type_2 : decode cX0_type 2 = .ok (.lconst 0, 1) := dk_9 (dk_at dksX0_type_0 2 rfl rfl)
theorem dX0_type_3 : decode cX0_type 3 = .ok (.ldc2_w 340, 3) := dk_20 1 84 (dk_at dksX0_type_0 3 rfl rfl)
theorem dX0_type_6 : decode cX0_type 6 = .ok (.invokestatic 214, 3) := dk_184 0 214 (dk_at dksX0_type_0 6 rfl rfl)
theorem dX0_type_9 : decode cX0_type 9 = .ok (.ifCond .ne 8, 3) := dk_154 0 8 (dk_at dksX0_type_0 9 rfl rfl)
theorem dX0_type_12 : decode cX0_type 12 = .ok (.aload_n 0, 1) := dk_42 (dk_at dksX0_type_0 12 rfl rfl)
theorem dX0_type_13 : decode cX0_type 13 = .ok (.invokevirtual 227, 3) := dk_182 0 227 (dk_at dksX0_type_0 13 rfl rfl)
theorem dX0_type_16 : decode cX0_type 16 = .ok (.ireturn, 1) := dk_172 (dk_at dksX0_type_0 16 rfl rfl)
theorem dX0_type_17 : decode cX0_type 17 = .ok (.aload_n 0, 1) := dk_42 (dk_at dksX0_type_0 17 rfl rfl)
theorem dX0_type_18 : decode cX0_type 18 = .ok (.getfield 342, 3) := dk_180 1 86 (dk_at dksX0_type_0 18 rfl rfl)
theorem dX0_type_21 : decode cX0_type 21 = .ok (.bipush 120, 2) := dk_16 120 (dk_at dksX0_type_0 21 rfl rfl)
theorem dX0_type_23 : decode cX0_type 23 = .ok (.if_icmp .ne 11, 3) := dk_160 0 11 (dk_at dksX0_type_1 0 rfl rfl)
theorem dX0_type_26 : decode cX0_type 26 = .ok (.aload_n 0, 1) := dk_42 (dk_at dksX0_type_1 3 rfl rfl)
theorem dX0_type_27 : decode cX0_type 27 = .ok (.iconst 2, 1) := dk_5 (dk_at dksX0_type_1 4 rfl rfl)
theorem dX0_type_28 : decode cX0_type 28 = .ok (.bipush (-4), 2) := dk_16 252 (dk_at dksX0_type_1 5 rfl rfl)
theorem dX0_type_30 : decode cX0_type 30 = .ok (.invokevirtual 58, 3) := dk_182 0 58 (dk_at dksX0_type_1 7 rfl rfl)
theorem dX0_type_33 : decode cX0_type 33 = .ok (.ireturn, 1) := dk_172 (dk_at dksX0_type_1 10 rfl rfl)
theorem dX0_type_34 : decode cX0_type 34 = .ok (.aload_n 0, 1) := dk_42 (dk_at dksX0_type_1 11 rfl rfl)
theorem dX0_type_35 : decode cX0_type 35 = .ok (.getfield 35, 3) := dk_180 0 35 (dk_at dksX0_type_1 12 rfl rfl)
theorem dX0_type_38 : decode cX0_type 38 = .ok (.aload_n 0, 1) := dk_42 (dk_at dksX0_type_1 15 rfl rfl)
theorem dX0_type_39 : decode cX0_type 39 = .ok (.getfield 342, 3) := dk_180 1 86 (dk_at dksX0_type_1 16 rfl rfl)
theorem dX0_type_42 : decode cX0_type 42 = .ok (.iload_n 1, 1) := dk_27 (dk_at dksX0_type_1 19 rfl rfl)
theorem dX0_type_43 : decode cX0_type 43 = .ok (.i2b, 1) := dk_145 (dk_at dksX0_type_1 20 rfl rfl)
theorem dX0_type_44 : decode cX0_type 44 = .ok (.bastore, 1) := dk_84 (dk_at dksX0_type_1 21 rfl rfl)
theorem dX0_type_45 : decode cX0_type 45 = .ok (.aload_n 0, 1) := dk_42 (dk_at dksX0_type_1 22 rfl rfl)
theorem dX0_type_46 : decode cX0_type 46 = .ok (.dup, 1) := dk_89 (dk_at dksX0_type_1 23 rfl rfl)
theorem dX0_type_47 : decode cX0_type 47 = .ok (.getfield 342, 3) := dk_180 1 86 (dk_at dksX0_type_2 0 rfl rfl)
theorem dX0_type_50 : decode cX0_type 50 = .ok (.iconst 1, 1) := dk_4 (dk_at dksX0_type_2 3 rfl rfl)
theorem dX0_type_51 : decode cX0_type 51 = .ok (.iadd, 1) := dk_96 (dk_at dksX0_type_2 4 rfl rfl)
theorem dX0_type_52 : decode cX0_type 52 = .ok (.putfield 342, 3) := dk_181 1 86 (dk_at dksX0_type_2 5 rfl rfl)
theorem dX0_type_55 : decode cX0_type 55 = .ok (.aload_n 0, 1) := dk_42 (dk_at dksX0_type_2 8 rfl rfl)
theorem dX0_type_56 : decode cX0_type 56 = .ok (.getfield 342, 3) := dk_180 1 86 (dk_at dksX0_type_2 9 rfl rfl)
theorem dX0_type_59 : decode cX0_type 59 = .ok (.ireturn, 1) := dk_172 (dk_at dksX0_type_2 12 rfl rfl)
abbrev cX0_clear : ByteArray := prog_1_method_59_code
def yX0_clear : MethodName := ⟨RX0, "clear", "()I"⟩
def dkwX0_clear_0 : List UInt8 := [42, 180, 1, 86, 60, 42, 3, 181, 1, 86, 27, 172]
abbrev dktX0_clear_0 : List UInt8 := dkwX0_clear_0 ++ []
theorem dksX0_clear_0 : cX0_clear.data.toList.drop 0 = dktX0_clear_0 := by decide +kernel
theorem dX0_clear_0 : decode cX0_clear 0 = .ok (.aload_n 0, 1) := dk_42 (dk_at dksX0_clear_0 0 rfl rfl)
theorem dX0_clear_1 : decode cX0_clear 1 = .ok (.getfield 342, 3) := dk_180 1 86 (dk_at dksX0_clear_0 1 rfl rfl)
theorem dX0_clear_4 : decode cX0_clear 4 = .ok (.istore_n 1, 1) := dk_60 (dk_at dksX0_clear_0 4 rfl rfl)
theorem dX0_clear_5 : decode cX0_clear 5 = .ok (.aload_n 0, 1) := dk_42 (dk_at dksX0_clear_0 5 rfl rfl)
theorem dX0_clear_6 : decode cX0_clear 6 = .ok (.iconst 0, 1) := dk_3 (dk_at dksX0_clear_0 6 rfl rfl)
theorem dX0_clear_7 : decode cX0_clear 7 = .ok (.putfield 342, 3) := dk_181 1 86 (dk_at dksX0_clear_0 7 rfl rfl)
theorem dX0_clear_10 : decode cX0_clear 10 = .ok (.iload_n 1, 1) := dk_27 (dk_at dksX0_clear_0 10 rfl rfl)
theorem dX0_clear_11 : decode cX0_clear 11 = .ok (.ireturn, 1) := dk_172 (dk_at dksX0_clear_0 11 rfl rfl)
abbrev cX0_does : ByteArray := prog_1_method_60_code
def yX0_does : MethodName := ⟨RX0, "does", "()I"⟩
def dkwX0_does_5 : List UInt8 := [3, 42, 180, 0, 43, 190, 184, 1, 89, 45, 191]
abbrev dktX0_does_5 : List UInt8 := dkwX0_does_5 ++ []
def dkwX0_does_4 : List UInt8 := [180, 0, 43, 190, 184, 1, 89, 28, 172, 78, 42, 3, 181, 0, 172, 42, 180, 0, 43, 3, 42, 180, 0, 39]
abbrev dktX0_does_4 : List UInt8 := dkwX0_does_4 ++ dktX0_does_5
def dkwX0_does_3 : List UInt8 := [16, 246, 43, 180, 1, 101, 100, 61, 42, 3, 181, 0, 172, 42, 180, 0, 43, 3, 42, 180, 0, 39, 3, 42]
abbrev dktX0_does_3 : List UInt8 := dkwX0_does_3 ++ dktX0_does_4
def dkwX0_does_2 : List UInt8 := [181, 0, 172, 42, 180, 0, 43, 3, 42, 180, 0, 39, 3, 42, 180, 0, 43, 190, 184, 1, 89, 28, 172, 76]
abbrev dktX0_does_2 : List UInt8 := dkwX0_does_2 ++ dktX0_does_3
def dkwX0_does_1 : List UInt8 := [182, 1, 95, 60, 42, 182, 0, 237, 42, 4, 181, 0, 172, 42, 180, 0, 51, 4, 182, 1, 95, 61, 42, 3]
abbrev dktX0_does_1 : List UInt8 := dkwX0_does_1 ++ dktX0_does_2
def dkwX0_does_0 : List UInt8 := [42, 180, 0, 39, 3, 42, 180, 0, 43, 3, 42, 180, 0, 43, 190, 184, 1, 89, 42, 180, 0, 51, 3]
abbrev dktX0_does_0 : List UInt8 := dkwX0_does_0 ++ dktX0_does_1
theorem dksX0_does_0 : cX0_does.data.toList.drop 0 = dktX0_does_0 := by decide +kernel
theorem dksX0_does_1 : cX0_does.data.toList.drop 23 = dktX0_does_1 := dk_seg dksX0_does_0 23 rfl rfl
theorem dksX0_does_2 : cX0_does.data.toList.drop 47 = dktX0_does_2 := dk_seg dksX0_does_1 24 rfl rfl
theorem dksX0_does_3 : cX0_does.data.toList.drop 71 = dktX0_does_3 := dk_seg dksX0_does_2 24 rfl rfl
theorem dksX0_does_4 : cX0_does.data.toList.drop 95 = dktX0_does_4 := dk_seg dksX0_does_3 24 rfl rfl
theorem dksX0_does_5 : cX0_does.data.toList.drop 119 = dktX0_does_5 := dk_seg dksX0_does_4 24 rfl rfl
theorem dX0_does_0 : decode cX0_does 0 = .ok (.aload_n 0, 1) := dk_42 (dk_at dksX0_does_0 0 rfl rfl)
theorem dX0_does_1 : decode cX0_does 1 = .ok (.getfield 39, 3) := dk_180 0 39 (dk_at dksX0_does_0 1 rfl rfl)
theorem dX0_does_4 : decode cX0_does 4 = .ok (.iconst 0, 1) := dk_3 (dk_at dksX0_does_0 4 rfl rfl)
theorem dX0_does_5 : decode cX0_does 5 = .ok (.aload_n 0, 1) := dk_42 (dk_at dksX0_does_0 5 rfl rfl)
theorem dX0_does_6 : decode cX0_does 6 = .ok (.getfield 43, 3) := dk_180 0 43 (dk_at dksX0_does_0 6 rfl rfl)
theorem dX0_does_9 : decode cX0_does 9 = .ok (.iconst 0, 1) := dk_3 (dk_at dksX0_does_0 9 rfl rfl)
theorem dX0_does_10 : decode cX0_does 10 = .ok (.aload_n 0, 1) := dk_42 (dk_at dksX0_does_0 10 rfl rfl)
theorem dX0_does_11 : decode cX0_does 11 = .ok (.getfield 43, 3) := dk_180 0 43 (dk_at dksX0_does_0 11 rfl rfl)
theorem dX0_does_14 : decode cX0_does 14 = .ok (.arraylength, 1) := dk_190 (dk_at dksX0_does_0 14 rfl rfl)
theorem dX0_does_15 : decode cX0_does 15 = .ok (.invokestatic 345, 3) := dk_184 1 89 (dk_at dksX0_does_0 15 rfl rfl)
theorem dX0_does_18 : decode cX0_does 18 = .ok (.aload_n 0, 1) := dk_42 (dk_at dksX0_does_0 18 rfl rfl)
theorem dX0_does_19 : decode cX0_does 19 = .ok (.getfield 51, 3) := dk_180 0 51 (dk_at dksX0_does_0 19 rfl rfl)
theorem dX0_does_22 : decode cX0_does 22 = .ok (.iconst 0, 1) := dk_3 (dk_at dksX0_does_0 22 rfl rfl)
theorem dX0_does_23 : decode cX0_does 23 = .ok (.invokevirtual 351, 3) := dk_182 1 95 (dk_at dksX0_does_1 0 rfl rfl)
theorem dX0_does_26 : decode cX0_does 26 = .ok (.istore_n 1, 1) := dk_60 (dk_at dksX0_does_1 3 rfl rfl)
theorem dX0_does_27 : decode cX0_does 27 = .ok (.aload_n 0, 1) := dk_42 (dk_at dksX0_does_1 4 rfl rfl)
theorem dX0_does_28 : decode cX0_does 28 = .ok (.invokevirtual 237, 3) := dk_182 0 237 (dk_at dksX0_does_1 5 rfl rfl)
theorem dX0_does_31 : decode cX0_does 31 = .ok (.aload_n 0, 1) := dk_42 (dk_at dksX0_does_1 8 rfl rfl)
theorem dX0_does_32 : decode cX0_does 32 = .ok (.iconst 1, 1) := dk_4 (dk_at dksX0_does_1 9 rfl rfl)
theorem dX0_does_33 : decode cX0_does 33 = .ok (.putfield 172, 3) := dk_181 0 172 (dk_at dksX0_does_1 10 rfl rfl)
theorem dX0_does_36 : decode cX0_does 36 = .ok (.aload_n 0, 1) := dk_42 (dk_at dksX0_does_1 13 rfl rfl)
theorem dX0_does_37 : decode cX0_does 37 = .ok (.getfield 51, 3) := dk_180 0 51 (dk_at dksX0_does_1 14 rfl rfl)
theorem dX0_does_40 : decode cX0_does 40 = .ok (.iconst 1, 1) := dk_4 (dk_at dksX0_does_1 17 rfl rfl)
theorem dX0_does_41 : decode cX0_does 41 = .ok (.invokevirtual 351, 3) := dk_182 1 95 (dk_at dksX0_does_1 18 rfl rfl)
theorem dX0_does_44 : decode cX0_does 44 = .ok (.istore_n 2, 1) := dk_61 (dk_at dksX0_does_1 21 rfl rfl)
theorem dX0_does_45 : decode cX0_does 45 = .ok (.aload_n 0, 1) := dk_42 (dk_at dksX0_does_1 22 rfl rfl)
theorem dX0_does_46 : decode cX0_does 46 = .ok (.iconst 0, 1) := dk_3 (dk_at dksX0_does_1 23 rfl rfl)
theorem dX0_does_47 : decode cX0_does 47 = .ok (.putfield 172, 3) := dk_181 0 172 (dk_at dksX0_does_2 0 rfl rfl)
theorem dX0_does_50 : decode cX0_does 50 = .ok (.aload_n 0, 1) := dk_42 (dk_at dksX0_does_2 3 rfl rfl)
theorem dX0_does_51 : decode cX0_does 51 = .ok (.getfield 43, 3) := dk_180 0 43 (dk_at dksX0_does_2 4 rfl rfl)
theorem dX0_does_54 : decode cX0_does 54 = .ok (.iconst 0, 1) := dk_3 (dk_at dksX0_does_2 7 rfl rfl)
theorem dX0_does_55 : decode cX0_does 55 = .ok (.aload_n 0, 1) := dk_42 (dk_at dksX0_does_2 8 rfl rfl)
theorem dX0_does_56 : decode cX0_does 56 = .ok (.getfield 39, 3) := dk_180 0 39 (dk_at dksX0_does_2 9 rfl rfl)
theorem dX0_does_59 : decode cX0_does 59 = .ok (.iconst 0, 1) := dk_3 (dk_at dksX0_does_2 12 rfl rfl)
theorem dX0_does_60 : decode cX0_does 60 = .ok (.aload_n 0, 1) := dk_42 (dk_at dksX0_does_2 13 rfl rfl)
theorem dX0_does_61 : decode cX0_does 61 = .ok (.getfield 43, 3) := dk_180 0 43 (dk_at dksX0_does_2 14 rfl rfl)
theorem dX0_does_64 : decode cX0_does 64 = .ok (.arraylength, 1) := dk_190 (dk_at dksX0_does_2 17 rfl rfl)
theorem dX0_does_65 : decode cX0_does 65 = .ok (.invokestatic 345, 3) := dk_184 1 89 (dk_at dksX0_does_2 18 rfl rfl)
theorem dX0_does_68 : decode cX0_does 68 = .ok (.iload_n 2, 1) := dk_28 (dk_at dksX0_does_2 21 rfl rfl)
theorem dX0_does_69 : decode cX0_does 69 = .ok (.ireturn, 1) := dk_172 (dk_at dksX0_does_2 22 rfl rfl)
theorem dX0_does_70 : decode cX0_does 70 = .ok (.astore_n 1, 1) := dk_76 (dk_at dksX0_does_2 23 rfl rfl)
theorem dX0_does_71 : decode cX0_does 71 = .ok (.bipush (-10), 2) := dk_16 246 (dk_at dksX0_does_3 0 rfl rfl)
theorem dX0_does_73 : decode cX0_does 73 = .ok (.aload_n 1, 1) := dk_43 (dk_at dksX0_does_3 2 rfl rfl)
theorem dX0_does_74 : decode cX0_does 74 = .ok (.getfield 357, 3) := dk_180 1 101 (dk_at dksX0_does_3 3 rfl rfl)
theorem dX0_does_77 : decode cX0_does 77 = .ok (.isub, 1) := dk_100 (dk_at dksX0_does_3 6 rfl rfl)
theorem dX0_does_78 : decode cX0_does 78 = .ok (.istore_n 2, 1) := dk_61 (dk_at dksX0_does_3 7 rfl rfl)
theorem dX0_does_79 : decode cX0_does 79 = .ok (.aload_n 0, 1) := dk_42 (dk_at dksX0_does_3 8 rfl rfl)
theorem dX0_does_80 : decode cX0_does 80 = .ok (.iconst 0, 1) := dk_3 (dk_at dksX0_does_3 9 rfl rfl)
theorem dX0_does_81 : decode cX0_does 81 = .ok (.putfield 172, 3) := dk_181 0 172 (dk_at dksX0_does_3 10 rfl rfl)
theorem dX0_does_84 : decode cX0_does 84 = .ok (.aload_n 0, 1) := dk_42 (dk_at dksX0_does_3 13 rfl rfl)
theorem dX0_does_85 : decode cX0_does 85 = .ok (.getfield 43, 3) := dk_180 0 43 (dk_at dksX0_does_3 14 rfl rfl)
theorem dX0_does_88 : decode cX0_does 88 = .ok (.iconst 0, 1) := dk_3 (dk_at dksX0_does_3 17 rfl rfl)
theorem dX0_does_89 : decode cX0_does 89 = .ok (.aload_n 0, 1) := dk_42 (dk_at dksX0_does_3 18 rfl rfl)
theorem dX0_does_90 : decode cX0_does 90 = .ok (.getfield 39, 3) := dk_180 0 39 (dk_at dksX0_does_3 19 rfl rfl)
theorem dX0_does_93 : decode cX0_does 93 = .ok (.iconst 0, 1) := dk_3 (dk_at dksX0_does_3 22 rfl rfl)
theorem dX0_does_94 : decode cX0_does 94 = .ok (.aload_n 0, 1) := dk_42 (dk_at dksX0_does_3 23 rfl rfl)
theorem dX0_does_95 : decode cX0_does 95 = .ok (.getfield 43, 3) := dk_180 0 43 (dk_at dksX0_does_4 0 rfl rfl)
theorem dX0_does_98 : decode cX0_does 98 = .ok (.arraylength, 1) := dk_190 (dk_at dksX0_does_4 3 rfl rfl)
theorem dX0_does_99 : decode cX0_does 99 = .ok (.invokestatic 345, 3) := dk_184 1 89 (dk_at dksX0_does_4 4 rfl rfl)
theorem dX0_does_102 : decode cX0_does 102 = .ok (.iload_n 2, 1) := dk_28 (dk_at dksX0_does_4 7 rfl rfl)
theorem dX0_does_103 : decode cX0_does 103 = .ok (.ireturn, 1) := dk_172 (dk_at dksX0_does_4 8 rfl rfl)
theorem dX0_does_104 : decode cX0_does 104 = .ok (.astore_n 3, 1) := dk_78 (dk_at dksX0_does_4 9 rfl rfl)
theorem dX0_does_105 : decode cX0_does 105 = .ok (.aload_n 0, 1) := dk_42 (dk_at dksX0_does_4 10 rfl rfl)
theorem dX0_does_106 : decode cX0_does 106 = .ok (.iconst 0, 1) := dk_3 (dk_at dksX0_does_4 11 rfl rfl)
theorem dX0_does_107 : decode cX0_does 107 = .ok (.putfield 172, 3) := dk_181 0 172 (dk_at dksX0_does_4 12 rfl rfl)
theorem dX0_does_110 : decode cX0_does 110 = .ok (.aload_n 0, 1) := dk_42 (dk_at dksX0_does_4 15 rfl rfl)
theorem dX0_does_111 : decode cX0_does 111 = .ok (.getfield 43, 3) := dk_180 0 43 (dk_at dksX0_does_4 16 rfl rfl)
theorem dX0_does_114 : decode cX0_does 114 = .ok (.iconst 0, 1) := dk_3 (dk_at dksX0_does_4 19 rfl rfl)
theorem dX0_does_115 : decode cX0_does 115 = .ok (.aload_n 0, 1) := dk_42 (dk_at dksX0_does_4 20 rfl rfl)
theorem dX0_does_116 : decode cX0_does 116 = .ok (.getfield 39, 3) := dk_180 0 39 (dk_at dksX0_does_4 21 rfl rfl)
theorem dX0_does_119 : decode cX0_does 119 = .ok (.iconst 0, 1) := dk_3 (dk_at dksX0_does_5 0 rfl rfl)
theorem dX0_does_120 : decode cX0_does 120 = .ok (.aload_n 0, 1) := dk_42 (dk_at dksX0_does_5 1 rfl rfl)
theorem dX0_does_121 : decode cX0_does 121 = .ok (.getfield 43, 3) := dk_180 0 43 (dk_at dksX0_does_5 2 rfl rfl)
theorem dX0_does_124 : decode cX0_does 124 = .ok (.arraylength, 1) := dk_190 (dk_at dksX0_does_5 5 rfl rfl)
theorem dX0_does_125 : decode cX0_does 125 = .ok (.invokestatic 345, 3) := dk_184 1 89 (dk_at dksX0_does_5 6 rfl rfl)
theorem dX0_does_128 : decode cX0_does 128 = .ok (.aload_n 3, 1) := dk_45 (dk_at dksX0_does_5 9 rfl rfl)
theorem dX0_does_129 : decode cX0_does 129 = .ok (.athrow, 1) := dk_191 (dk_at dksX0_does_5 10 rfl rfl)
abbrev cX0_back : ByteArray := prog_1_method_61_code
def yX0_back : MethodName := ⟨RX0, "back", "()I"⟩
def dkwX0_back_2 : List UInt8 := [180, 0, 176, 172]
abbrev dktX0_back_2 : List UInt8 := dkwX0_back_2 ++ []
def dkwX0_back_1 : List UInt8 := [180, 0, 31, 42, 180, 0, 176, 50, 182, 1, 103, 42, 89, 180, 0, 153, 4, 96, 181, 0, 153, 42]
abbrev dktX0_back_1 : List UInt8 := dkwX0_back_1 ++ dktX0_back_2
def dkwX0_back_0 : List UInt8 := [42, 180, 0, 176, 154, 0, 8, 42, 182, 1, 34, 172, 42, 89, 180, 0, 176, 4, 100, 181, 0, 176, 42, 42]
abbrev dktX0_back_0 : List UInt8 := dkwX0_back_0 ++ dktX0_back_1
theorem dksX0_back_0 : cX0_back.data.toList.drop 0 = dktX0_back_0 := by decide +kernel
theorem dksX0_back_1 : cX0_back.data.toList.drop 24 = dktX0_back_1 := dk_seg dksX0_back_0 24 rfl rfl
theorem dksX0_back_2 : cX0_back.data.toList.drop 46 = dktX0_back_2 := dk_seg dksX0_back_1 22 rfl rfl
theorem dX0_back_0 : decode cX0_back 0 = .ok (.aload_n 0, 1) := dk_42 (dk_at dksX0_back_0 0 rfl rfl)
theorem dX0_back_1 : decode cX0_back 1 = .ok (.getfield 176, 3) := dk_180 0 176 (dk_at dksX0_back_0 1 rfl rfl)
theorem dX0_back_4 : decode cX0_back 4 = .ok (.ifCond .ne 8, 3) := dk_154 0 8 (dk_at dksX0_back_0 4 rfl rfl)
theorem dX0_back_7 : decode cX0_back 7 = .ok (.aload_n 0, 1) := dk_42 (dk_at dksX0_back_0 7 rfl rfl)
theorem dX0_back_8 : decode cX0_back 8 = .ok (.invokevirtual 290, 3) := dk_182 1 34 (dk_at dksX0_back_0 8 rfl rfl)
theorem dX0_back_11 : decode cX0_back 11 = .ok (.ireturn, 1) := dk_172 (dk_at dksX0_back_0 11 rfl rfl)
theorem dX0_back_12 : decode cX0_back 12 = .ok (.aload_n 0, 1) := dk_42 (dk_at dksX0_back_0 12 rfl rfl)
theorem dX0_back_13 : decode cX0_back 13 = .ok (.dup, 1) := dk_89 (dk_at dksX0_back_0 13 rfl rfl)
theorem dX0_back_14 : decode cX0_back 14 = .ok (.getfield 176, 3) := dk_180 0 176 (dk_at dksX0_back_0 14 rfl rfl)
theorem dX0_back_17 : decode cX0_back 17 = .ok (.iconst 1, 1) := dk_4 (dk_at dksX0_back_0 17 rfl rfl)
theorem dX0_back_18 : decode cX0_back 18 = .ok (.isub, 1) := dk_100 (dk_at dksX0_back_0 18 rfl rfl)
theorem dX0_back_19 : decode cX0_back 19 = .ok (.putfield 176, 3) := dk_181 0 176 (dk_at dksX0_back_0 19 rfl rfl)
theorem dX0_back_22 : decode cX0_back 22 = .ok (.aload_n 0, 1) := dk_42 (dk_at dksX0_back_0 22 rfl rfl)
theorem dX0_back_23 : decode cX0_back 23 = .ok (.aload_n 0, 1) := dk_42 (dk_at dksX0_back_0 23 rfl rfl)
theorem dX0_back_24 : decode cX0_back 24 = .ok (.getfield 31, 3) := dk_180 0 31 (dk_at dksX0_back_1 0 rfl rfl)
theorem dX0_back_27 : decode cX0_back 27 = .ok (.aload_n 0, 1) := dk_42 (dk_at dksX0_back_1 3 rfl rfl)
theorem dX0_back_28 : decode cX0_back 28 = .ok (.getfield 176, 3) := dk_180 0 176 (dk_at dksX0_back_1 4 rfl rfl)
theorem dX0_back_31 : decode cX0_back 31 = .ok (.aaload, 1) := dk_50 (dk_at dksX0_back_1 7 rfl rfl)
theorem dX0_back_32 : decode cX0_back 32 = .ok (.invokevirtual 359, 3) := dk_182 1 103 (dk_at dksX0_back_1 8 rfl rfl)
theorem dX0_back_35 : decode cX0_back 35 = .ok (.aload_n 0, 1) := dk_42 (dk_at dksX0_back_1 11 rfl rfl)
theorem dX0_back_36 : decode cX0_back 36 = .ok (.dup, 1) := dk_89 (dk_at dksX0_back_1 12 rfl rfl)
theorem dX0_back_37 : decode cX0_back 37 = .ok (.getfield 153, 3) := dk_180 0 153 (dk_at dksX0_back_1 13 rfl rfl)
theorem dX0_back_40 : decode cX0_back 40 = .ok (.iconst 1, 1) := dk_4 (dk_at dksX0_back_1 16 rfl rfl)
theorem dX0_back_41 : decode cX0_back 41 = .ok (.iadd, 1) := dk_96 (dk_at dksX0_back_1 17 rfl rfl)
theorem dX0_back_42 : decode cX0_back 42 = .ok (.putfield 153, 3) := dk_181 0 153 (dk_at dksX0_back_1 18 rfl rfl)
theorem dX0_back_45 : decode cX0_back 45 = .ok (.aload_n 0, 1) := dk_42 (dk_at dksX0_back_1 21 rfl rfl)
theorem dX0_back_46 : decode cX0_back 46 = .ok (.getfield 176, 3) := dk_180 0 176 (dk_at dksX0_back_2 0 rfl rfl)
theorem dX0_back_49 : decode cX0_back 49 = .ok (.ireturn, 1) := dk_172 (dk_at dksX0_back_2 3 rfl rfl)
abbrev cX0_takes : ByteArray := prog_1_method_25_code
def yX0_takes : MethodName := ⟨RX0, "takes", "(LCrowdedBins$State;)V"⟩
def dkwX0_takes_9 : List UInt8 := [132, 2, 1, 132, 4, 1, 167, 255, 212, 132, 3, 1, 167, 255, 153, 177]
abbrev dktX0_takes_9 : List UInt8 := dkwX0_takes_9 ++ []
def dkwX0_takes_8 : List UInt8 := [162, 0, 31, 42, 180, 0, 14, 29, 50, 42, 43, 180, 0, 191, 28, 46, 182, 0, 208, 182, 0, 123]
abbrev dktX0_takes_8 : List UInt8 := dkwX0_takes_8 ++ dktX0_takes_9
def dkwX0_takes_7 : List UInt8 := [183, 0, 67, 83, 3, 54, 4, 29, 42, 180, 0, 62, 162, 0, 42, 21, 4, 43, 180, 0, 194, 29, 46]
abbrev dktX0_takes_7 : List UInt8 := dkwX0_takes_7 ++ dktX0_takes_8
def dkwX0_takes_6 : List UInt8 := [180, 0, 197, 29, 51, 153, 0, 13, 187, 0, 88, 89, 183, 0, 90, 167, 0, 10, 187, 0, 65, 89]
abbrev dktX0_takes_6 : List UInt8 := dkwX0_takes_6 ++ dktX0_takes_7
def dkwX0_takes_5 : List UInt8 := [16, 64, 162, 0, 103, 42, 180, 0, 14, 29, 29, 42, 180, 0, 62, 161, 0, 7, 1, 167, 0, 29, 43]
abbrev dktX0_takes_5 : List UInt8 := dkwX0_takes_5 ++ dktX0_takes_6
def dkwX0_takes_4 : List UInt8 := [182, 0, 150, 132, 2, 2, 167, 255, 205, 42, 43, 180, 0, 194, 190, 181, 0, 62, 3, 61, 3, 62, 29]
abbrev dktX0_takes_4 : List UInt8 := dkwX0_takes_4 ++ dktX0_takes_5
def dkwX0_takes_3 : List UInt8 := [28, 4, 96, 46, 183, 0, 159, 78, 45, 42, 45, 180, 0, 120, 182, 0, 73, 181, 0, 105, 42, 45]
abbrev dktX0_takes_3 : List UInt8 := dkwX0_takes_3 ++ dktX0_takes_4
def dkwX0_takes_2 : List UInt8 := [61, 28, 43, 180, 0, 188, 190, 162, 0, 48, 187, 0, 100, 89, 43, 180, 0, 188, 28, 46, 43, 180, 0, 188]
abbrev dktX0_takes_2 : List UInt8 := dkwX0_takes_2 ++ dktX0_takes_3
def dkwX0_takes_1 : List UInt8 := [42, 43, 180, 0, 207, 181, 0, 166, 42, 1, 181, 0, 140, 42, 1, 181, 0, 131, 42, 3, 181, 0, 142, 3]
abbrev dktX0_takes_1 : List UInt8 := dkwX0_takes_1 ++ dktX0_takes_2
def dkwX0_takes_0 : List UInt8 := [42, 43, 180, 0, 204, 181, 0, 18, 42, 43, 180, 0, 205, 181, 0, 68, 42, 43, 180, 0, 206, 181, 0, 144]
abbrev dktX0_takes_0 : List UInt8 := dkwX0_takes_0 ++ dktX0_takes_1
theorem dksX0_takes_0 : cX0_takes.data.toList.drop 0 = dktX0_takes_0 := by decide +kernel
theorem dksX0_takes_1 : cX0_takes.data.toList.drop 24 = dktX0_takes_1 := dk_seg dksX0_takes_0 24 rfl rfl
theorem dksX0_takes_2 : cX0_takes.data.toList.drop 48 = dktX0_takes_2 := dk_seg dksX0_takes_1 24 rfl rfl
theorem dksX0_takes_3 : cX0_takes.data.toList.drop 72 = dktX0_takes_3 := dk_seg dksX0_takes_2 24 rfl rfl
theorem dksX0_takes_4 : cX0_takes.data.toList.drop 94 = dktX0_takes_4 := dk_seg dksX0_takes_3 22 rfl rfl
theorem dksX0_takes_5 : cX0_takes.data.toList.drop 117 = dktX0_takes_5 := dk_seg dksX0_takes_4 23 rfl rfl
theorem dksX0_takes_6 : cX0_takes.data.toList.drop 140 = dktX0_takes_6 := dk_seg dksX0_takes_5 23 rfl rfl
theorem dksX0_takes_7 : cX0_takes.data.toList.drop 162 = dktX0_takes_7 := dk_seg dksX0_takes_6 22 rfl rfl
theorem dksX0_takes_8 : cX0_takes.data.toList.drop 185 = dktX0_takes_8 := dk_seg dksX0_takes_7 23 rfl rfl
theorem dksX0_takes_9 : cX0_takes.data.toList.drop 207 = dktX0_takes_9 := dk_seg dksX0_takes_8 22 rfl rfl
theorem dX0_takes_0 : decode cX0_takes 0 = .ok (.aload_n 0, 1) := dk_42 (dk_at dksX0_takes_0 0 rfl rfl)
theorem dX0_takes_1 : decode cX0_takes 1 = .ok (.aload_n 1, 1) := dk_43 (dk_at dksX0_takes_0 1 rfl rfl)
theorem dX0_takes_2 : decode cX0_takes 2 = .ok (.getfield 204, 3) := dk_180 0 204 (dk_at dksX0_takes_0 2 rfl rfl)
theorem dX0_takes_5 : decode cX0_takes 5 = .ok (.putfield 18, 3) := dk_181 0 18 (dk_at dksX0_takes_0 5 rfl rfl)
theorem dX0_takes_8 : decode cX0_takes 8 = .ok (.aload_n 0, 1) := dk_42 (dk_at dksX0_takes_0 8 rfl rfl)
theorem dX0_takes_9 : decode cX0_takes 9 = .ok (.aload_n 1, 1) := dk_43 (dk_at dksX0_takes_0 9 rfl rfl)
theorem dX0_takes_10 : decode cX0_takes 10 = .ok (.getfield 205, 3) := dk_180 0 205 (dk_at dksX0_takes_0 10 rfl rfl)
theorem dX0_takes_13 : decode cX0_takes 13 = .ok (.putfield 68, 3) := dk_181 0 68 (dk_at dksX0_takes_0 13 rfl rfl)
theorem dX0_takes_16 : decode cX0_takes 16 = .ok (.aload_n 0, 1) := dk_42 (dk_at dksX0_takes_0 16 rfl rfl)
theorem dX0_takes_17 : decode cX0_takes 17 = .ok (.aload_n 1, 1) := dk_43 (dk_at dksX0_takes_0 17 rfl rfl)
theorem dX0_takes_18 : decode cX0_takes 18 = .ok (.getfield 206, 3) := dk_180 0 206 (dk_at dksX0_takes_0 18 rfl rfl)
theorem dX0_takes_21 : decode cX0_takes 21 = .ok (.putfield 144, 3) := dk_181 0 144 (dk_at dksX0_takes_0 21 rfl rfl)
theorem dX0_takes_24 : decode cX0_takes 24 = .ok (.aload_n 0, 1) := dk_42 (dk_at dksX0_takes_1 0 rfl rfl)
theorem dX0_takes_25 : decode cX0_takes 25 = .ok (.aload_n 1, 1) := dk_43 (dk_at dksX0_takes_1 1 rfl rfl)
theorem dX0_takes_26 : decode cX0_takes 26 = .ok (.getfield 207, 3) := dk_180 0 207 (dk_at dksX0_takes_1 2 rfl rfl)
theorem dX0_takes_29 : decode cX0_takes 29 = .ok (.putfield 166, 3) := dk_181 0 166 (dk_at dksX0_takes_1 5 rfl rfl)
theorem dX0_takes_32 : decode cX0_takes 32 = .ok (.aload_n 0, 1) := dk_42 (dk_at dksX0_takes_1 8 rfl rfl)
theorem dX0_takes_33 : decode cX0_takes 33 = .ok (.aconst_null, 1) := dk_1 (dk_at dksX0_takes_1 9 rfl rfl)
theorem dX0_takes_34 : decode cX0_takes 34 = .ok (.putfield 140, 3) := dk_181 0 140 (dk_at dksX0_takes_1 10 rfl rfl)
theorem dX0_takes_37 : decode cX0_takes 37 = .ok (.aload_n 0, 1) := dk_42 (dk_at dksX0_takes_1 13 rfl rfl)
theorem dX0_takes_38 : decode cX0_takes 38 = .ok (.aconst_null, 1) := dk_1 (dk_at dksX0_takes_1 14 rfl rfl)
theorem dX0_takes_39 : decode cX0_takes 39 = .ok (.putfield 131, 3) := dk_181 0 131 (dk_at dksX0_takes_1 15 rfl rfl)
theorem dX0_takes_42 : decode cX0_takes 42 = .ok (.aload_n 0, 1) := dk_42 (dk_at dksX0_takes_1 18 rfl rfl)
theorem dX0_takes_43 : decode cX0_takes 43 = .ok (.iconst 0, 1) := dk_3 (dk_at dksX0_takes_1 19 rfl rfl)
theorem dX0_takes_44 : decode cX0_takes 44 = .ok (.putfield 142, 3) := dk_181 0 142 (dk_at dksX0_takes_1 20 rfl rfl)
theorem dX0_takes_47 : decode cX0_takes 47 = .ok (.iconst 0, 1) := dk_3 (dk_at dksX0_takes_1 23 rfl rfl)
theorem dX0_takes_48 : decode cX0_takes 48 = .ok (.istore_n 2, 1) := dk_61 (dk_at dksX0_takes_2 0 rfl rfl)
theorem dX0_takes_49 : decode cX0_takes 49 = .ok (.iload_n 2, 1) := dk_28 (dk_at dksX0_takes_2 1 rfl rfl)
theorem dX0_takes_50 : decode cX0_takes 50 = .ok (.aload_n 1, 1) := dk_43 (dk_at dksX0_takes_2 2 rfl rfl)
theorem dX0_takes_51 : decode cX0_takes 51 = .ok (.getfield 188, 3) := dk_180 0 188 (dk_at dksX0_takes_2 3 rfl rfl)
theorem dX0_takes_54 : decode cX0_takes 54 = .ok (.arraylength, 1) := dk_190 (dk_at dksX0_takes_2 6 rfl rfl)
theorem dX0_takes_55 : decode cX0_takes 55 = .ok (.if_icmp .ge 48, 3) := dk_162 0 48 (dk_at dksX0_takes_2 7 rfl rfl)
theorem dX0_takes_58 : decode cX0_takes 58 = .ok (.new 100, 3) := dk_187 0 100 (dk_at dksX0_takes_2 10 rfl rfl)
theorem dX0_takes_61 : decode cX0_takes 61 = .ok (.dup, 1) := dk_89 (dk_at dksX0_takes_2 13 rfl rfl)
theorem dX0_takes_62 : decode cX0_takes 62 = .ok (.aload_n 1, 1) := dk_43 (dk_at dksX0_takes_2 14 rfl rfl)
theorem dX0_takes_63 : decode cX0_takes 63 = .ok (.getfield 188, 3) := dk_180 0 188 (dk_at dksX0_takes_2 15 rfl rfl)
theorem dX0_takes_66 : decode cX0_takes 66 = .ok (.iload_n 2, 1) := dk_28 (dk_at dksX0_takes_2 18 rfl rfl)
theorem dX0_takes_67 : decode cX0_takes 67 = .ok (.iaload, 1) := dk_46 (dk_at dksX0_takes_2 19 rfl rfl)
theorem dX0_takes_68 : decode cX0_takes 68 = .ok (.aload_n 1, 1) := dk_43 (dk_at dksX0_takes_2 20 rfl rfl)
theorem dX0_takes_69 : decode cX0_takes 69 = .ok (.getfield 188, 3) := dk_180 0 188 (dk_at dksX0_takes_2 21 rfl rfl)
theorem dX0_takes_72 : decode cX0_takes 72 = .ok (.iload_n 2, 1) := dk_28 (dk_at dksX0_takes_3 0 rfl rfl)
theorem dX0_takes_73 : decode cX0_takes 73 = .ok (.iconst 1, 1) := dk_4 (dk_at dksX0_takes_3 1 rfl rfl)
theorem dX0_takes_74 : decode cX0_takes 74 = .ok (.iadd, 1) := dk_96 (dk_at dksX0_takes_3 2 rfl rfl)
theorem dX0_takes_75 : decode cX0_takes 75 = .ok (.iaload, 1) := dk_46 (dk_at dksX0_takes_3 3 rfl rfl)
theorem dX0_takes_76 : decode cX0_takes 76 = .ok (.invokespecial 159, 3) := dk_183 0 159 (dk_at dksX0_takes_3 4 rfl rfl)
theorem dX0_takes_79 : decode cX0_takes 79 = .ok (.astore_n 3, 1) := dk_78 (dk_at dksX0_takes_3 7 rfl rfl)
theorem dX0_takes_80 : decode cX0_takes 80 = .ok (.aload_n 3, 1) := dk_45 (dk_at dksX0_takes_3 8 rfl rfl)
theorem dX0_takes_81 : decode cX0_takes 81 = .ok (.aload_n 0, 1) := dk_42 (dk_at dksX0_takes_3 9 rfl rfl)
theorem dX0_takes_82 : decode cX0_takes 82 = .ok (.aload_n 3, 1) := dk_45 (dk_at dksX0_takes_3 10 rfl rfl)
theorem dX0_takes_83 : decode cX0_takes 83 = .ok (.getfield 120, 3) := dk_180 0 120 (dk_at dksX0_takes_3 11 rfl rfl)
theorem dX0_takes_86 : decode cX0_takes 86 = .ok (.invokevirtual 73, 3) := dk_182 0 73 (dk_at dksX0_takes_3 14 rfl rfl)
theorem dX0_takes_89 : decode cX0_takes 89 = .ok (.putfield 105, 3) := dk_181 0 105 (dk_at dksX0_takes_3 17 rfl rfl)
theorem dX0_takes_92 : decode cX0_takes 92 = .ok (.aload_n 0, 1) := dk_42 (dk_at dksX0_takes_3 20 rfl rfl)
theorem dX0_takes_93 : decode cX0_takes 93 = .ok (.aload_n 3, 1) := dk_45 (dk_at dksX0_takes_3 21 rfl rfl)
theorem dX0_takes_94 : decode cX0_takes 94 = .ok (.invokevirtual 150, 3) := dk_182 0 150 (dk_at dksX0_takes_4 0 rfl rfl)
theorem dX0_takes_97 : decode cX0_takes 97 = .ok (.iinc 2 2, 3) := dk_132 2 2 (dk_at dksX0_takes_4 3 rfl rfl)
theorem dX0_takes_100 : decode cX0_takes 100 = .ok (.goto (-51), 3) := dk_167 255 205 (dk_at dksX0_takes_4 6 rfl rfl)
theorem dX0_takes_103 : decode cX0_takes 103 = .ok (.aload_n 0, 1) := dk_42 (dk_at dksX0_takes_4 9 rfl rfl)
theorem dX0_takes_104 : decode cX0_takes 104 = .ok (.aload_n 1, 1) := dk_43 (dk_at dksX0_takes_4 10 rfl rfl)
theorem dX0_takes_105 : decode cX0_takes 105 = .ok (.getfield 194, 3) := dk_180 0 194 (dk_at dksX0_takes_4 11 rfl rfl)
theorem dX0_takes_108 : decode cX0_takes 108 = .ok (.arraylength, 1) := dk_190 (dk_at dksX0_takes_4 14 rfl rfl)
theorem dX0_takes_109 : decode cX0_takes 109 = .ok (.putfield 62, 3) := dk_181 0 62 (dk_at dksX0_takes_4 15 rfl rfl)
theorem dX0_takes_112 : decode cX0_takes 112 = .ok (.iconst 0, 1) := dk_3 (dk_at dksX0_takes_4 18 rfl rfl)
theorem dX0_takes_113 : decode cX0_takes 113 = .ok (.istore_n 2, 1) := dk_61 (dk_at dksX0_takes_4 19 rfl rfl)
theorem dX0_takes_114 : decode cX0_takes 114 = .ok (.iconst 0, 1) := dk_3 (dk_at dksX0_takes_4 20 rfl rfl)
theorem dX0_takes_115 : decode cX0_takes 115 = .ok (.istore_n 3, 1) := dk_62 (dk_at dksX0_takes_4 21 rfl rfl)
theorem dX0_takes_116 : decode cX0_takes 116 = .ok (.iload_n 3, 1) := dk_29 (dk_at dksX0_takes_4 22 rfl rfl)
theorem dX0_takes_117 : decode cX0_takes 117 = .ok (.bipush 64, 2) := dk_16 64 (dk_at dksX0_takes_5 0 rfl rfl)
theorem dX0_takes_119 : decode cX0_takes 119 = .ok (.if_icmp .ge 103, 3) := dk_162 0 103 (dk_at dksX0_takes_5 2 rfl rfl)
theorem dX0_takes_122 : decode cX0_takes 122 = .ok (.aload_n 0, 1) := dk_42 (dk_at dksX0_takes_5 5 rfl rfl)
theorem dX0_takes_123 : decode cX0_takes 123 = .ok (.getfield 14, 3) := dk_180 0 14 (dk_at dksX0_takes_5 6 rfl rfl)
theorem dX0_takes_126 : decode cX0_takes 126 = .ok (.iload_n 3, 1) := dk_29 (dk_at dksX0_takes_5 9 rfl rfl)
theorem dX0_takes_127 : decode cX0_takes 127 = .ok (.iload_n 3, 1) := dk_29 (dk_at dksX0_takes_5 10 rfl rfl)
theorem dX0_takes_128 : decode cX0_takes 128 = .ok (.aload_n 0, 1) := dk_42 (dk_at dksX0_takes_5 11 rfl rfl)
theorem dX0_takes_129 : decode cX0_takes 129 = .ok (.getfield 62, 3) := dk_180 0 62 (dk_at dksX0_takes_5 12 rfl rfl)
theorem dX0_takes_132 : decode cX0_takes 132 = .ok (.if_icmp .lt 7, 3) := dk_161 0 7 (dk_at dksX0_takes_5 15 rfl rfl)
theorem dX0_takes_135 : decode cX0_takes 135 = .ok (.aconst_null, 1) := dk_1 (dk_at dksX0_takes_5 18 rfl rfl)
theorem dX0_takes_136 : decode cX0_takes 136 = .ok (.goto 29, 3) := dk_167 0 29 (dk_at dksX0_takes_5 19 rfl rfl)
theorem dX0_takes_139 : decode cX0_takes 139 = .ok (.aload_n 1, 1) := dk_43 (dk_at dksX0_takes_5 22 rfl rfl)
theorem dX0_takes_140 : decode cX0_takes 140 = .ok (.getfield 197, 3) := dk_180 0 197 (dk_at dksX0_takes_6 0 rfl rfl)
theorem dX0_takes_143 : decode cX0_takes 143 = .ok (.iload_n 3, 1) := dk_29 (dk_at dksX0_takes_6 3 rfl rfl)
theorem dX0_takes_144 : decode cX0_takes 144 = .ok (.baload, 1) := dk_51 (dk_at dksX0_takes_6 4 rfl rfl)
theorem dX0_takes_145 : decode cX0_takes 145 = .ok (.ifCond .eq 13, 3) := dk_153 0 13 (dk_at dksX0_takes_6 5 rfl rfl)
theorem dX0_takes_148 : decode cX0_takes 148 = .ok (.new 88, 3) := dk_187 0 88 (dk_at dksX0_takes_6 8 rfl rfl)
theorem dX0_takes_151 : decode cX0_takes 151 = .ok (.dup, 1) := dk_89 (dk_at dksX0_takes_6 11 rfl rfl)
theorem dX0_takes_152 : decode cX0_takes 152 = .ok (.invokespecial 90, 3) := dk_183 0 90 (dk_at dksX0_takes_6 12 rfl rfl)
theorem dX0_takes_155 : decode cX0_takes 155 = .ok (.goto 10, 3) := dk_167 0 10 (dk_at dksX0_takes_6 15 rfl rfl)
theorem dX0_takes_158 : decode cX0_takes 158 = .ok (.new 65, 3) := dk_187 0 65 (dk_at dksX0_takes_6 18 rfl rfl)
theorem dX0_takes_161 : decode cX0_takes 161 = .ok (.dup, 1) := dk_89 (dk_at dksX0_takes_6 21 rfl rfl)
theorem dX0_takes_162 : decode cX0_takes 162 = .ok (.invokespecial 67, 3) := dk_183 0 67 (dk_at dksX0_takes_7 0 rfl rfl)
theorem dX0_takes_165 : decode cX0_takes 165 = .ok (.aastore, 1) := dk_83 (dk_at dksX0_takes_7 3 rfl rfl)
theorem dX0_takes_166 : decode cX0_takes 166 = .ok (.iconst 0, 1) := dk_3 (dk_at dksX0_takes_7 4 rfl rfl)
theorem dX0_takes_167 : decode cX0_takes 167 = .ok (.istore 4, 2) := dk_54 4 (dk_at dksX0_takes_7 5 rfl rfl)
theorem dX0_takes_169 : decode cX0_takes 169 = .ok (.iload_n 3, 1) := dk_29 (dk_at dksX0_takes_7 7 rfl rfl)
theorem dX0_takes_170 : decode cX0_takes 170 = .ok (.aload_n 0, 1) := dk_42 (dk_at dksX0_takes_7 8 rfl rfl)
theorem dX0_takes_171 : decode cX0_takes 171 = .ok (.getfield 62, 3) := dk_180 0 62 (dk_at dksX0_takes_7 9 rfl rfl)
theorem dX0_takes_174 : decode cX0_takes 174 = .ok (.if_icmp .ge 42, 3) := dk_162 0 42 (dk_at dksX0_takes_7 12 rfl rfl)
theorem dX0_takes_177 : decode cX0_takes 177 = .ok (.iload 4, 2) := dk_21 4 (dk_at dksX0_takes_7 15 rfl rfl)
theorem dX0_takes_179 : decode cX0_takes 179 = .ok (.aload_n 1, 1) := dk_43 (dk_at dksX0_takes_7 17 rfl rfl)
theorem dX0_takes_180 : decode cX0_takes 180 = .ok (.getfield 194, 3) := dk_180 0 194 (dk_at dksX0_takes_7 18 rfl rfl)
theorem dX0_takes_183 : decode cX0_takes 183 = .ok (.iload_n 3, 1) := dk_29 (dk_at dksX0_takes_7 21 rfl rfl)
theorem dX0_takes_184 : decode cX0_takes 184 = .ok (.iaload, 1) := dk_46 (dk_at dksX0_takes_7 22 rfl rfl)
theorem dX0_takes_185 : decode cX0_takes 185 = .ok (.if_icmp .ge 31, 3) := dk_162 0 31 (dk_at dksX0_takes_8 0 rfl rfl)
theorem dX0_takes_188 : decode cX0_takes 188 = .ok (.aload_n 0, 1) := dk_42 (dk_at dksX0_takes_8 3 rfl rfl)
theorem dX0_takes_189 : decode cX0_takes 189 = .ok (.getfield 14, 3) := dk_180 0 14 (dk_at dksX0_takes_8 4 rfl rfl)
theorem dX0_takes_192 : decode cX0_takes 192 = .ok (.iload_n 3, 1) := dk_29 (dk_at dksX0_takes_8 7 rfl rfl)
theorem dX0_takes_193 : decode cX0_takes 193 = .ok (.aaload, 1) := dk_50 (dk_at dksX0_takes_8 8 rfl rfl)
theorem dX0_takes_194 : decode cX0_takes 194 = .ok (.aload_n 0, 1) := dk_42 (dk_at dksX0_takes_8 9 rfl rfl)
theorem dX0_takes_195 : decode cX0_takes 195 = .ok (.aload_n 1, 1) := dk_43 (dk_at dksX0_takes_8 10 rfl rfl)
theorem dX0_takes_196 : decode cX0_takes 196 = .ok (.getfield 191, 3) := dk_180 0 191 (dk_at dksX0_takes_8 11 rfl rfl)
theorem dX0_takes_199 : decode cX0_takes 199 = .ok (.iload_n 2, 1) := dk_28 (dk_at dksX0_takes_8 14 rfl rfl)
theorem dX0_takes_200 : decode cX0_takes 200 = .ok (.iaload, 1) := dk_46 (dk_at dksX0_takes_8 15 rfl rfl)
theorem dX0_takes_201 : decode cX0_takes 201 = .ok (.invokevirtual 208, 3) := dk_182 0 208 (dk_at dksX0_takes_8 16 rfl rfl)
theorem dX0_takes_204 : decode cX0_takes 204 = .ok (.invokevirtual 123, 3) := dk_182 0 123 (dk_at dksX0_takes_8 19 rfl rfl)
theorem dX0_takes_207 : decode cX0_takes 207 = .ok (.iinc 2 1, 3) := dk_132 2 1 (dk_at dksX0_takes_9 0 rfl rfl)
theorem dX0_takes_210 : decode cX0_takes 210 = .ok (.iinc 4 1, 3) := dk_132 4 1 (dk_at dksX0_takes_9 3 rfl rfl)
theorem dX0_takes_213 : decode cX0_takes 213 = .ok (.goto (-44), 3) := dk_167 255 212 (dk_at dksX0_takes_9 6 rfl rfl)
theorem dX0_takes_216 : decode cX0_takes 216 = .ok (.iinc 3 1, 3) := dk_132 3 1 (dk_at dksX0_takes_9 9 rfl rfl)
theorem dX0_takes_219 : decode cX0_takes 219 = .ok (.goto (-103), 3) := dk_167 255 153 (dk_at dksX0_takes_9 12 rfl rfl)
theorem dX0_takes_222 : decode cX0_takes 222 = .ok (.return_, 1) := dk_177 (dk_at dksX0_takes_9 15 rfl rfl)
abbrev cX0_ordered : ByteArray := prog_1_method_26_code
def yX0_ordered : MethodName := ⟨RX0, "ordered", "(I)LCrowdedBins$Entry;"⟩
def dkwX0_ordered_0 : List UInt8 := [42, 180, 0, 140, 77, 44, 180, 0, 120, 27, 159, 0, 11, 44, 180, 0, 137, 77, 167, 255, 243, 44, 176]
abbrev dktX0_ordered_0 : List UInt8 := dkwX0_ordered_0 ++ []
theorem dksX0_ordered_0 : cX0_ordered.data.toList.drop 0 = dktX0_ordered_0 := by decide +kernel
theorem dX0_ordered_0 : decode cX0_ordered 0 = .ok (.aload_n 0, 1) := dk_42 (dk_at dksX0_ordered_0 0 rfl rfl)
theorem dX0_ordered_1 : decode cX0_ordered 1 = .ok (.getfield 140, 3) := dk_180 0 140 (dk_at dksX0_ordered_0 1 rfl rfl)
theorem dX0_ordered_4 : decode cX0_ordered 4 = .ok (.astore_n 2, 1) := dk_77 (dk_at dksX0_ordered_0 4 rfl rfl)
theorem dX0_ordered_5 : decode cX0_ordered 5 = .ok (.aload_n 2, 1) := dk_44 (dk_at dksX0_ordered_0 5 rfl rfl)
theorem dX0_ordered_6 : decode cX0_ordered 6 = .ok (.getfield 120, 3) := dk_180 0 120 (dk_at dksX0_ordered_0 6 rfl rfl)
theorem dX0_ordered_9 : decode cX0_ordered 9 = .ok (.iload_n 1, 1) := dk_27 (dk_at dksX0_ordered_0 9 rfl rfl)
theorem dX0_ordered_10 : decode cX0_ordered 10 = .ok (.if_icmp .eq 11, 3) := dk_159 0 11 (dk_at dksX0_ordered_0 10 rfl rfl)
theorem dX0_ordered_13 : decode cX0_ordered 13 = .ok (.aload_n 2, 1) := dk_44 (dk_at dksX0_ordered_0 13 rfl rfl)
theorem dX0_ordered_14 : decode cX0_ordered 14 = .ok (.getfield 137, 3) := dk_180 0 137 (dk_at dksX0_ordered_0 14 rfl rfl)
theorem dX0_ordered_17 : decode cX0_ordered 17 = .ok (.astore_n 2, 1) := dk_77 (dk_at dksX0_ordered_0 17 rfl rfl)
theorem dX0_ordered_18 : decode cX0_ordered 18 = .ok (.goto (-13), 3) := dk_167 255 243 (dk_at dksX0_ordered_0 18 rfl rfl)
theorem dX0_ordered_21 : decode cX0_ordered 21 = .ok (.aload_n 2, 1) := dk_44 (dk_at dksX0_ordered_0 21 rfl rfl)
theorem dX0_ordered_22 : decode cX0_ordered 22 = .ok (.areturn, 1) := dk_176 (dk_at dksX0_ordered_0 22 rfl rfl)
abbrev cX0_told : ByteArray := prog_1_method_64_code
def yX0_told : MethodName := ⟨RX0, "told", "(I)I"⟩
def dkwX0_told_1 : List UInt8 := [172]
abbrev dktX0_told_1 : List UInt8 := dkwX0_told_1 ++ []
def dkwX0_told_0 : List UInt8 := [27, 133, 9, 20, 1, 109, 184, 0, 214, 153, 0, 11, 42, 27, 182, 1, 111, 167, 0, 7, 42, 182, 0, 227]
abbrev dktX0_told_0 : List UInt8 := dkwX0_told_0 ++ dktX0_told_1
theorem dksX0_told_0 : cX0_told.data.toList.drop 0 = dktX0_told_0 := by decide +kernel
theorem dksX0_told_1 : cX0_told.data.toList.drop 24 = dktX0_told_1 := dk_seg dksX0_told_0 24 rfl rfl
theorem dX0_told_0 : decode cX0_told 0 = .ok (.iload_n 1, 1) := dk_27 (dk_at dksX0_told_0 0 rfl rfl)
theorem dX0_told_1 : decode cX0_told 1 = .ok (.i2l, 1) := dk_133 (dk_at dksX0_told_0 1 rfl rfl)
theorem dX0_told_2 : decode cX0_told 2 = .ok (.lconst 0, 1) := dk_9 (dk_at dksX0_told_0 2 rfl rfl)
theorem dX0_told_3 : decode cX0_told 3 = .ok (.ldc2_w 365, 3) := dk_20 1 109 (dk_at dksX0_told_0 3 rfl rfl)
theorem dX0_told_6 : decode cX0_told 6 = .ok (.invokestatic 214, 3) := dk_184 0 214 (dk_at dksX0_told_0 6 rfl rfl)
theorem dX0_told_9 : decode cX0_told 9 = .ok (.ifCond .eq 11, 3) := dk_153 0 11 (dk_at dksX0_told_0 9 rfl rfl)
theorem dX0_told_12 : decode cX0_told 12 = .ok (.aload_n 0, 1) := dk_42 (dk_at dksX0_told_0 12 rfl rfl)
theorem dX0_told_13 : decode cX0_told 13 = .ok (.iload_n 1, 1) := dk_27 (dk_at dksX0_told_0 13 rfl rfl)
theorem dX0_told_14 : decode cX0_told 14 = .ok (.invokevirtual 367, 3) := dk_182 1 111 (dk_at dksX0_told_0 14 rfl rfl)
theorem dX0_told_17 : decode cX0_told 17 = .ok (.goto 7, 3) := dk_167 0 7 (dk_at dksX0_told_0 17 rfl rfl)
theorem dX0_told_20 : decode cX0_told 20 = .ok (.aload_n 0, 1) := dk_42 (dk_at dksX0_told_0 20 rfl rfl)
theorem dX0_told_21 : decode cX0_told 21 = .ok (.invokevirtual 227, 3) := dk_182 0 227 (dk_at dksX0_told_0 21 rfl rfl)
theorem dX0_told_24 : decode cX0_told 24 = .ok (.ireturn, 1) := dk_172 (dk_at dksX0_told_1 0 rfl rfl)
abbrev cX0_toldOf : ByteArray := prog_1_method_63_code
def yX0_toldOf : MethodName := ⟨RX0, "toldOf", "(I)I"⟩
def dkwX0_toldOf_3 : List UInt8 := [180, 0, 166, 172, 42, 180, 1, 86, 172, 42, 180, 0, 176, 172, 42, 182, 1, 106, 172]
abbrev dktX0_toldOf_3 : List UInt8 := dkwX0_toldOf_3 ++ []
def dkwX0_toldOf_2 : List UInt8 := [42, 180, 0, 39, 27, 46, 172, 42, 180, 0, 18, 172, 42, 180, 0, 68, 172, 42, 180, 0, 144, 172, 42]
abbrev dktX0_toldOf_2 : List UInt8 := dkwX0_toldOf_2 ++ dktX0_toldOf_3
def dkwX0_toldOf_1 : List UInt8 := [170, 0, 0, 0, 0, 0, 92, 0, 0, 0, 0, 0, 0, 0, 9, 0, 0, 0, 55, 0, 0, 0, 55, 0, 0, 0, 55, 0, 0, 0, 55, 0, 0, 0, 62, 0, 0, 0, 67, 0, 0, 0, 72, 0, 0, 0, 77, 0, 0, 0, 82, 0, 0, 0, 87]
abbrev dktX0_toldOf_1 : List UInt8 := dkwX0_toldOf_1 ++ dktX0_toldOf_2
def dkwX0_toldOf_0 : List UInt8 := [27]
abbrev dktX0_toldOf_0 : List UInt8 := dkwX0_toldOf_0 ++ dktX0_toldOf_1
theorem dksX0_toldOf_0 : cX0_toldOf.data.toList.drop 0 = dktX0_toldOf_0 := by decide +kernel
theorem dksX0_toldOf_1 : cX0_toldOf.data.toList.drop 1 = dktX0_toldOf_1 := dk_seg dksX0_toldOf_0 1 rfl rfl
theorem dksX0_toldOf_2 : cX0_toldOf.data.toList.drop 56 = dktX0_toldOf_2 := dk_seg dksX0_toldOf_1 55 rfl rfl
theorem dksX0_toldOf_3 : cX0_toldOf.data.toList.drop 79 = dktX0_toldOf_3 := dk_seg dksX0_toldOf_2 23 rfl rfl
theorem dX0_toldOf_0 : decode cX0_toldOf 0 = .ok (.iload_n 1, 1) := dk_27 (dk_at dksX0_toldOf_0 0 rfl rfl)
theorem dX0_toldOf_1 : decode cX0_toldOf 1 = .ok (.tableswitch 92 0 9 #[55, 55, 55, 55, 62, 67, 72, 77, 82, 87], 55) := by decide +kernel
theorem dX0_toldOf_56 : decode cX0_toldOf 56 = .ok (.aload_n 0, 1) := dk_42 (dk_at dksX0_toldOf_2 0 rfl rfl)
theorem dX0_toldOf_57 : decode cX0_toldOf 57 = .ok (.getfield 39, 3) := dk_180 0 39 (dk_at dksX0_toldOf_2 1 rfl rfl)
theorem dX0_toldOf_60 : decode cX0_toldOf 60 = .ok (.iload_n 1, 1) := dk_27 (dk_at dksX0_toldOf_2 4 rfl rfl)
theorem dX0_toldOf_61 : decode cX0_toldOf 61 = .ok (.iaload, 1) := dk_46 (dk_at dksX0_toldOf_2 5 rfl rfl)
theorem dX0_toldOf_62 : decode cX0_toldOf 62 = .ok (.ireturn, 1) := dk_172 (dk_at dksX0_toldOf_2 6 rfl rfl)
theorem dX0_toldOf_63 : decode cX0_toldOf 63 = .ok (.aload_n 0, 1) := dk_42 (dk_at dksX0_toldOf_2 7 rfl rfl)
theorem dX0_toldOf_64 : decode cX0_toldOf 64 = .ok (.getfield 18, 3) := dk_180 0 18 (dk_at dksX0_toldOf_2 8 rfl rfl)
theorem dX0_toldOf_67 : decode cX0_toldOf 67 = .ok (.ireturn, 1) := dk_172 (dk_at dksX0_toldOf_2 11 rfl rfl)
theorem dX0_toldOf_68 : decode cX0_toldOf 68 = .ok (.aload_n 0, 1) := dk_42 (dk_at dksX0_toldOf_2 12 rfl rfl)
theorem dX0_toldOf_69 : decode cX0_toldOf 69 = .ok (.getfield 68, 3) := dk_180 0 68 (dk_at dksX0_toldOf_2 13 rfl rfl)
theorem dX0_toldOf_72 : decode cX0_toldOf 72 = .ok (.ireturn, 1) := dk_172 (dk_at dksX0_toldOf_2 16 rfl rfl)
theorem dX0_toldOf_73 : decode cX0_toldOf 73 = .ok (.aload_n 0, 1) := dk_42 (dk_at dksX0_toldOf_2 17 rfl rfl)
theorem dX0_toldOf_74 : decode cX0_toldOf 74 = .ok (.getfield 144, 3) := dk_180 0 144 (dk_at dksX0_toldOf_2 18 rfl rfl)
theorem dX0_toldOf_77 : decode cX0_toldOf 77 = .ok (.ireturn, 1) := dk_172 (dk_at dksX0_toldOf_2 21 rfl rfl)
theorem dX0_toldOf_78 : decode cX0_toldOf 78 = .ok (.aload_n 0, 1) := dk_42 (dk_at dksX0_toldOf_2 22 rfl rfl)
theorem dX0_toldOf_79 : decode cX0_toldOf 79 = .ok (.getfield 166, 3) := dk_180 0 166 (dk_at dksX0_toldOf_3 0 rfl rfl)
theorem dX0_toldOf_82 : decode cX0_toldOf 82 = .ok (.ireturn, 1) := dk_172 (dk_at dksX0_toldOf_3 3 rfl rfl)
theorem dX0_toldOf_83 : decode cX0_toldOf 83 = .ok (.aload_n 0, 1) := dk_42 (dk_at dksX0_toldOf_3 4 rfl rfl)
theorem dX0_toldOf_84 : decode cX0_toldOf 84 = .ok (.getfield 342, 3) := dk_180 1 86 (dk_at dksX0_toldOf_3 5 rfl rfl)
theorem dX0_toldOf_87 : decode cX0_toldOf 87 = .ok (.ireturn, 1) := dk_172 (dk_at dksX0_toldOf_3 8 rfl rfl)
theorem dX0_toldOf_88 : decode cX0_toldOf 88 = .ok (.aload_n 0, 1) := dk_42 (dk_at dksX0_toldOf_3 9 rfl rfl)
theorem dX0_toldOf_89 : decode cX0_toldOf 89 = .ok (.getfield 176, 3) := dk_180 0 176 (dk_at dksX0_toldOf_3 10 rfl rfl)
theorem dX0_toldOf_92 : decode cX0_toldOf 92 = .ok (.ireturn, 1) := dk_172 (dk_at dksX0_toldOf_3 13 rfl rfl)
theorem dX0_toldOf_93 : decode cX0_toldOf 93 = .ok (.aload_n 0, 1) := dk_42 (dk_at dksX0_toldOf_3 14 rfl rfl)
theorem dX0_toldOf_94 : decode cX0_toldOf 94 = .ok (.invokevirtual 362, 3) := dk_182 1 106 (dk_at dksX0_toldOf_3 15 rfl rfl)
theorem dX0_toldOf_97 : decode cX0_toldOf 97 = .ok (.ireturn, 1) := dk_172 (dk_at dksX0_toldOf_3 18 rfl rfl)
abbrev cX0_openSet : ByteArray := prog_1_method_62_code
def yX0_openSet : MethodName := ⟨RX0, "openSet", "()I"⟩
def dkwX0_openSet_1 : List UInt8 := [3, 128, 60, 132, 2, 1, 167, 255, 230, 27, 172]
abbrev dktX0_openSet_1 : List UInt8 := dkwX0_openSet_1 ++ []
def dkwX0_openSet_0 : List UInt8 := [3, 60, 3, 61, 28, 6, 162, 0, 27, 27, 42, 28, 182, 1, 71, 153, 0, 9, 4, 28, 120, 167, 0, 4]
abbrev dktX0_openSet_0 : List UInt8 := dkwX0_openSet_0 ++ dktX0_openSet_1
theorem dksX0_openSet_0 : cX0_openSet.data.toList.drop 0 = dktX0_openSet_0 := by decide +kernel
theorem dksX0_openSet_1 : cX0_openSet.data.toList.drop 24 = dktX0_openSet_1 := dk_seg dksX0_openSet_0 24 rfl rfl
theorem dX0_openSet_0 : decode cX0_openSet 0 = .ok (.iconst 0, 1) := dk_3 (dk_at dksX0_openSet_0 0 rfl rfl)
theorem dX0_openSet_1 : decode cX0_openSet 1 = .ok (.istore_n 1, 1) := dk_60 (dk_at dksX0_openSet_0 1 rfl rfl)
theorem dX0_openSet_2 : decode cX0_openSet 2 = .ok (.iconst 0, 1) := dk_3 (dk_at dksX0_openSet_0 2 rfl rfl)
theorem dX0_openSet_3 : decode cX0_openSet 3 = .ok (.istore_n 2, 1) := dk_61 (dk_at dksX0_openSet_0 3 rfl rfl)
theorem dX0_openSet_4 : decode cX0_openSet 4 = .ok (.iload_n 2, 1) := dk_28 (dk_at dksX0_openSet_0 4 rfl rfl)
theorem dX0_openSet_5 : decode cX0_openSet 5 = .ok (.iconst 3, 1) := dk_6 (dk_at dksX0_openSet_0 5 rfl rfl)
theorem dX0_openSet_6 : decode cX0_openSet 6 = .ok (.if_icmp .ge 27, 3) := dk_162 0 27 (dk_at dksX0_openSet_0 6 rfl rfl)
theorem dX0_openSet_9 : decode cX0_openSet 9 = .ok (.iload_n 1, 1) := dk_27 (dk_at dksX0_openSet_0 9 rfl rfl)
theorem dX0_openSet_10 : decode cX0_openSet 10 = .ok (.aload_n 0, 1) := dk_42 (dk_at dksX0_openSet_0 10 rfl rfl)
theorem dX0_openSet_11 : decode cX0_openSet 11 = .ok (.iload_n 2, 1) := dk_28 (dk_at dksX0_openSet_0 11 rfl rfl)
theorem dX0_openSet_12 : decode cX0_openSet 12 = .ok (.invokevirtual 327, 3) := dk_182 1 71 (dk_at dksX0_openSet_0 12 rfl rfl)
theorem dX0_openSet_15 : decode cX0_openSet 15 = .ok (.ifCond .eq 9, 3) := dk_153 0 9 (dk_at dksX0_openSet_0 15 rfl rfl)
theorem dX0_openSet_18 : decode cX0_openSet 18 = .ok (.iconst 1, 1) := dk_4 (dk_at dksX0_openSet_0 18 rfl rfl)
theorem dX0_openSet_19 : decode cX0_openSet 19 = .ok (.iload_n 2, 1) := dk_28 (dk_at dksX0_openSet_0 19 rfl rfl)
theorem dX0_openSet_20 : decode cX0_openSet 20 = .ok (.ishl, 1) := dk_120 (dk_at dksX0_openSet_0 20 rfl rfl)
theorem dX0_openSet_21 : decode cX0_openSet 21 = .ok (.goto 4, 3) := dk_167 0 4 (dk_at dksX0_openSet_0 21 rfl rfl)
theorem dX0_openSet_24 : decode cX0_openSet 24 = .ok (.iconst 0, 1) := dk_3 (dk_at dksX0_openSet_1 0 rfl rfl)
theorem dX0_openSet_25 : decode cX0_openSet 25 = .ok (.ior, 1) := dk_128 (dk_at dksX0_openSet_1 1 rfl rfl)
theorem dX0_openSet_26 : decode cX0_openSet 26 = .ok (.istore_n 1, 1) := dk_60 (dk_at dksX0_openSet_1 2 rfl rfl)
theorem dX0_openSet_27 : decode cX0_openSet 27 = .ok (.iinc 2 1, 3) := dk_132 2 1 (dk_at dksX0_openSet_1 3 rfl rfl)
theorem dX0_openSet_30 : decode cX0_openSet 30 = .ok (.goto (-26), 3) := dk_167 255 230 (dk_at dksX0_openSet_1 6 rfl rfl)
theorem dX0_openSet_33 : decode cX0_openSet 33 = .ok (.iload_n 1, 1) := dk_27 (dk_at dksX0_openSet_1 9 rfl rfl)
theorem dX0_openSet_34 : decode cX0_openSet 34 = .ok (.ireturn, 1) := dk_172 (dk_at dksX0_openSet_1 10 rfl rfl)
abbrev cX0_digest : ByteArray := prog_1_method_65_code
def yX0_digest : MethodName := ⟨RX0, "digest", "()J"⟩
def dkwX0_digest_8 : List UInt8 := [31, 173]
abbrev dktX0_digest_8 : List UInt8 := dkwX0_digest_8 ++ []
def dkwX0_digest_7 : List UInt8 := [25, 4, 180, 0, 120, 133, 97, 64, 25, 4, 180, 0, 99, 58, 4, 167, 255, 231, 132, 3, 1, 167, 255, 171]
abbrev dktX0_digest_7 : List UInt8 := dkwX0_digest_7 ++ dktX0_digest_8
def dkwX0_digest_6 : List UInt8 := [167, 255, 227, 42, 180, 0, 14, 29, 50, 182, 0, 95, 58, 4, 25, 4, 198, 0, 26, 20, 1, 116, 31, 105]
abbrev dktX0_digest_6 : List UInt8 := dkwX0_digest_6 ++ dktX0_digest_7
def dkwX0_digest_5 : List UInt8 := [20, 1, 116, 31, 105, 42, 42, 180, 0, 14, 29, 50, 21, 4, 182, 1, 13, 133, 97, 64, 132, 4, 1]
abbrev dktX0_digest_5 : List UInt8 := dkwX0_digest_5 ++ dktX0_digest_6
def dkwX0_digest_4 : List UInt8 := [167, 255, 225, 3, 62, 29, 42, 180, 0, 62, 162, 0, 83, 3, 54, 4, 21, 4, 6, 162, 0, 29]
abbrev dktX0_digest_4 : List UInt8 := dkwX0_digest_4 ++ dktX0_digest_5
def dkwX0_digest_3 : List UInt8 := [20, 1, 116, 31, 105, 45, 180, 0, 120, 133, 97, 105, 45, 180, 0, 201, 133, 97, 64, 45, 180, 0, 137, 78]
abbrev dktX0_digest_3 : List UInt8 := dkwX0_digest_3 ++ dktX0_digest_4
def dkwX0_digest_2 : List UInt8 := [182, 1, 42, 133, 97, 64, 132, 3, 1, 167, 255, 234, 42, 180, 0, 140, 78, 45, 198, 0, 33, 20, 1, 116]
abbrev dktX0_digest_2 : List UInt8 := dkwX0_digest_2 ++ dktX0_digest_3
def dkwX0_digest_1 : List UInt8 := [64, 132, 3, 1, 167, 255, 234, 3, 62, 29, 16, 8, 162, 0, 22, 20, 1, 116, 31, 105, 42, 29]
abbrev dktX0_digest_1 : List UInt8 := dkwX0_digest_1 ++ dktX0_digest_2
def dkwX0_digest_0 : List UInt8 := [20, 1, 114, 64, 3, 62, 29, 16, 11, 162, 0, 22, 20, 1, 116, 31, 105, 42, 29, 182, 1, 111, 133, 97]
abbrev dktX0_digest_0 : List UInt8 := dkwX0_digest_0 ++ dktX0_digest_1
theorem dksX0_digest_0 : cX0_digest.data.toList.drop 0 = dktX0_digest_0 := by decide +kernel
theorem dksX0_digest_1 : cX0_digest.data.toList.drop 24 = dktX0_digest_1 := dk_seg dksX0_digest_0 24 rfl rfl
theorem dksX0_digest_2 : cX0_digest.data.toList.drop 46 = dktX0_digest_2 := dk_seg dksX0_digest_1 22 rfl rfl
theorem dksX0_digest_3 : cX0_digest.data.toList.drop 70 = dktX0_digest_3 := dk_seg dksX0_digest_2 24 rfl rfl
theorem dksX0_digest_4 : cX0_digest.data.toList.drop 94 = dktX0_digest_4 := dk_seg dksX0_digest_3 24 rfl rfl
theorem dksX0_digest_5 : cX0_digest.data.toList.drop 116 = dktX0_digest_5 := dk_seg dksX0_digest_4 22 rfl rfl
theorem dksX0_digest_6 : cX0_digest.data.toList.drop 139 = dktX0_digest_6 := dk_seg dksX0_digest_5 23 rfl rfl
theorem dksX0_digest_7 : cX0_digest.data.toList.drop 163 = dktX0_digest_7 := dk_seg dksX0_digest_6 24 rfl rfl
theorem dksX0_digest_8 : cX0_digest.data.toList.drop 187 = dktX0_digest_8 := dk_seg dksX0_digest_7 24 rfl rfl
theorem dX0_digest_0 : decode cX0_digest 0 = .ok (.ldc2_w 370, 3) := dk_20 1 114 (dk_at dksX0_digest_0 0 rfl rfl)
theorem dX0_digest_3 : decode cX0_digest 3 = .ok (.lstore_n 1, 1) := dk_64 (dk_at dksX0_digest_0 3 rfl rfl)
theorem dX0_digest_4 : decode cX0_digest 4 = .ok (.iconst 0, 1) := dk_3 (dk_at dksX0_digest_0 4 rfl rfl)
theorem dX0_digest_5 : decode cX0_digest 5 = .ok (.istore_n 3, 1) := dk_62 (dk_at dksX0_digest_0 5 rfl rfl)
theorem dX0_digest_6 : decode cX0_digest 6 = .ok (.iload_n 3, 1) := dk_29 (dk_at dksX0_digest_0 6 rfl rfl)
theorem dX0_digest_7 : decode cX0_digest 7 = .ok (.bipush 11, 2) := dk_16 11 (dk_at dksX0_digest_0 7 rfl rfl)
theorem dX0_digest_9 : decode cX0_digest 9 = .ok (.if_icmp .ge 22, 3) := dk_162 0 22 (dk_at dksX0_digest_0 9 rfl rfl)
theorem dX0_digest_12 : decode cX0_digest 12 = .ok (.ldc2_w 372, 3) := dk_20 1 116 (dk_at dksX0_digest_0 12 rfl rfl)
theorem dX0_digest_15 : decode cX0_digest 15 = .ok (.lload_n 1, 1) := dk_31 (dk_at dksX0_digest_0 15 rfl rfl)
theorem dX0_digest_16 : decode cX0_digest 16 = .ok (.lmul, 1) := dk_105 (dk_at dksX0_digest_0 16 rfl rfl)
theorem dX0_digest_17 : decode cX0_digest 17 = .ok (.aload_n 0, 1) := dk_42 (dk_at dksX0_digest_0 17 rfl rfl)
theorem dX0_digest_18 : decode cX0_digest 18 = .ok (.iload_n 3, 1) := dk_29 (dk_at dksX0_digest_0 18 rfl rfl)
theorem dX0_digest_19 : decode cX0_digest 19 = .ok (.invokevirtual 367, 3) := dk_182 1 111 (dk_at dksX0_digest_0 19 rfl rfl)
theorem dX0_digest_22 : decode cX0_digest 22 = .ok (.i2l, 1) := dk_133 (dk_at dksX0_digest_0 22 rfl rfl)
theorem dX0_digest_23 : decode cX0_digest 23 = .ok (.ladd, 1) := dk_97 (dk_at dksX0_digest_0 23 rfl rfl)
theorem dX0_digest_24 : decode cX0_digest 24 = .ok (.lstore_n 1, 1) := dk_64 (dk_at dksX0_digest_1 0 rfl rfl)
theorem dX0_digest_25 : decode cX0_digest 25 = .ok (.iinc 3 1, 3) := dk_132 3 1 (dk_at dksX0_digest_1 1 rfl rfl)
theorem dX0_digest_28 : decode cX0_digest 28 = .ok (.goto (-22), 3) := dk_167 255 234 (dk_at dksX0_digest_1 4 rfl rfl)
theorem dX0_digest_31 : decode cX0_digest 31 = .ok (.iconst 0, 1) := dk_3 (dk_at dksX0_digest_1 7 rfl rfl)
theorem dX0_digest_32 : decode cX0_digest 32 = .ok (.istore_n 3, 1) := dk_62 (dk_at dksX0_digest_1 8 rfl rfl)
theorem dX0_digest_33 : decode cX0_digest 33 = .ok (.iload_n 3, 1) := dk_29 (dk_at dksX0_digest_1 9 rfl rfl)
theorem dX0_digest_34 : decode cX0_digest 34 = .ok (.bipush 8, 2) := dk_16 8 (dk_at dksX0_digest_1 10 rfl rfl)
theorem dX0_digest_36 : decode cX0_digest 36 = .ok (.if_icmp .ge 22, 3) := dk_162 0 22 (dk_at dksX0_digest_1 12 rfl rfl)
theorem dX0_digest_39 : decode cX0_digest 39 = .ok (.ldc2_w 372, 3) := dk_20 1 116 (dk_at dksX0_digest_1 15 rfl rfl)
theorem dX0_digest_42 : decode cX0_digest 42 = .ok (.lload_n 1, 1) := dk_31 (dk_at dksX0_digest_1 18 rfl rfl)
theorem dX0_digest_43 : decode cX0_digest 43 = .ok (.lmul, 1) := dk_105 (dk_at dksX0_digest_1 19 rfl rfl)
theorem dX0_digest_44 : decode cX0_digest 44 = .ok (.aload_n 0, 1) := dk_42 (dk_at dksX0_digest_1 20 rfl rfl)
theorem dX0_digest_45 : decode cX0_digest 45 = .ok (.iload_n 3, 1) := dk_29 (dk_at dksX0_digest_1 21 rfl rfl)
theorem dX0_digest_46 : decode cX0_digest 46 = .ok (.invokevirtual 298, 3) := dk_182 1 42 (dk_at dksX0_digest_2 0 rfl rfl)
theorem dX0_digest_49 : decode cX0_digest 49 = .ok (.i2l, 1) := dk_133 (dk_at dksX0_digest_2 3 rfl rfl)
theorem dX0_digest_50 : decode cX0_digest 50 = .ok (.ladd, 1) := dk_97 (dk_at dksX0_digest_2 4 rfl rfl)
theorem dX0_digest_51 : decode cX0_digest 51 = .ok (.lstore_n 1, 1) := dk_64 (dk_at dksX0_digest_2 5 rfl rfl)
theorem dX0_digest_52 : decode cX0_digest 52 = .ok (.iinc 3 1, 3) := dk_132 3 1 (dk_at dksX0_digest_2 6 rfl rfl)
theorem dX0_digest_55 : decode cX0_digest 55 = .ok (.goto (-22), 3) := dk_167 255 234 (dk_at dksX0_digest_2 9 rfl rfl)
theorem dX0_digest_58 : decode cX0_digest 58 = .ok (.aload_n 0, 1) := dk_42 (dk_at dksX0_digest_2 12 rfl rfl)
theorem dX0_digest_59 : decode cX0_digest 59 = .ok (.getfield 140, 3) := dk_180 0 140 (dk_at dksX0_digest_2 13 rfl rfl)
theorem dX0_digest_62 : decode cX0_digest 62 = .ok (.astore_n 3, 1) := dk_78 (dk_at dksX0_digest_2 16 rfl rfl)
theorem dX0_digest_63 : decode cX0_digest 63 = .ok (.aload_n 3, 1) := dk_45 (dk_at dksX0_digest_2 17 rfl rfl)
theorem dX0_digest_64 : decode cX0_digest 64 = .ok (.ifnull 33, 3) := dk_198 0 33 (dk_at dksX0_digest_2 18 rfl rfl)
theorem dX0_digest_67 : decode cX0_digest 67 = .ok (.ldc2_w 372, 3) := dk_20 1 116 (dk_at dksX0_digest_2 21 rfl rfl)
theorem dX0_digest_70 : decode cX0_digest 70 = .ok (.ldc2_w 372, 3) := dk_20 1 116 (dk_at dksX0_digest_3 0 rfl rfl)
theorem dX0_digest_73 : decode cX0_digest 73 = .ok (.lload_n 1, 1) := dk_31 (dk_at dksX0_digest_3 3 rfl rfl)
theorem dX0_digest_74 : decode cX0_digest 74 = .ok (.lmul, 1) := dk_105 (dk_at dksX0_digest_3 4 rfl rfl)
theorem dX0_digest_75 : decode cX0_digest 75 = .ok (.aload_n 3, 1) := dk_45 (dk_at dksX0_digest_3 5 rfl rfl)
theorem dX0_digest_76 : decode cX0_digest 76 = .ok (.getfield 120, 3) := dk_180 0 120 (dk_at dksX0_digest_3 6 rfl rfl)
theorem dX0_digest_79 : decode cX0_digest 79 = .ok (.i2l, 1) := dk_133 (dk_at dksX0_digest_3 9 rfl rfl)
theorem dX0_digest_80 : decode cX0_digest 80 = .ok (.ladd, 1) := dk_97 (dk_at dksX0_digest_3 10 rfl rfl)
theorem dX0_digest_81 : decode cX0_digest 81 = .ok (.lmul, 1) := dk_105 (dk_at dksX0_digest_3 11 rfl rfl)
theorem dX0_digest_82 : decode cX0_digest 82 = .ok (.aload_n 3, 1) := dk_45 (dk_at dksX0_digest_3 12 rfl rfl)
theorem dX0_digest_83 : decode cX0_digest 83 = .ok (.getfield 201, 3) := dk_180 0 201 (dk_at dksX0_digest_3 13 rfl rfl)
theorem dX0_digest_86 : decode cX0_digest 86 = .ok (.i2l, 1) := dk_133 (dk_at dksX0_digest_3 16 rfl rfl)
theorem dX0_digest_87 : decode cX0_digest 87 = .ok (.ladd, 1) := dk_97 (dk_at dksX0_digest_3 17 rfl rfl)
theorem dX0_digest_88 : decode cX0_digest 88 = .ok (.lstore_n 1, 1) := dk_64 (dk_at dksX0_digest_3 18 rfl rfl)
theorem dX0_digest_89 : decode cX0_digest 89 = .ok (.aload_n 3, 1) := dk_45 (dk_at dksX0_digest_3 19 rfl rfl)
theorem dX0_digest_90 : decode cX0_digest 90 = .ok (.getfield 137, 3) := dk_180 0 137 (dk_at dksX0_digest_3 20 rfl rfl)
theorem dX0_digest_93 : decode cX0_digest 93 = .ok (.astore_n 3, 1) := dk_78 (dk_at dksX0_digest_3 23 rfl rfl)
theorem dX0_digest_94 : decode cX0_digest 94 = .ok (.goto (-31), 3) := dk_167 255 225 (dk_at dksX0_digest_4 0 rfl rfl)
theorem dX0_digest_97 : decode cX0_digest 97 = .ok (.iconst 0, 1) := dk_3 (dk_at dksX0_digest_4 3 rfl rfl)
theorem dX0_digest_98 : decode cX0_digest 98 = .ok (.istore_n 3, 1) := dk_62 (dk_at dksX0_digest_4 4 rfl rfl)
theorem dX0_digest_99 : decode cX0_digest 99 = .ok (.iload_n 3, 1) := dk_29 (dk_at dksX0_digest_4 5 rfl rfl)
theorem dX0_digest_100 : decode cX0_digest 100 = .ok (.aload_n 0, 1) := dk_42 (dk_at dksX0_digest_4 6 rfl rfl)
theorem dX0_digest_101 : decode cX0_digest 101 = .ok (.getfield 62, 3) := dk_180 0 62 (dk_at dksX0_digest_4 7 rfl rfl)
theorem dX0_digest_104 : decode cX0_digest 104 = .ok (.if_icmp .ge 83, 3) := dk_162 0 83 (dk_at dksX0_digest_4 10 rfl rfl)
theorem dX0_digest_107 : decode cX0_digest 107 = .ok (.iconst 0, 1) := dk_3 (dk_at dksX0_digest_4 13 rfl rfl)
theorem dX0_digest_108 : decode cX0_digest 108 = .ok (.istore 4, 2) := dk_54 4 (dk_at dksX0_digest_4 14 rfl rfl)
theorem dX0_digest_110 : decode cX0_digest 110 = .ok (.iload 4, 2) := dk_21 4 (dk_at dksX0_digest_4 16 rfl rfl)
theorem dX0_digest_112 : decode cX0_digest 112 = .ok (.iconst 3, 1) := dk_6 (dk_at dksX0_digest_4 18 rfl rfl)
theorem dX0_digest_113 : decode cX0_digest 113 = .ok (.if_icmp .ge 29, 3) := dk_162 0 29 (dk_at dksX0_digest_4 19 rfl rfl)
theorem dX0_digest_116 : decode cX0_digest 116 = .ok (.ldc2_w 372, 3) := dk_20 1 116 (dk_at dksX0_digest_5 0 rfl rfl)
theorem dX0_digest_119 : decode cX0_digest 119 = .ok (.lload_n 1, 1) := dk_31 (dk_at dksX0_digest_5 3 rfl rfl)
theorem dX0_digest_120 : decode cX0_digest 120 = .ok (.lmul, 1) := dk_105 (dk_at dksX0_digest_5 4 rfl rfl)
theorem dX0_digest_121 : decode cX0_digest 121 = .ok (.aload_n 0, 1) := dk_42 (dk_at dksX0_digest_5 5 rfl rfl)
theorem dX0_digest_122 : decode cX0_digest 122 = .ok (.aload_n 0, 1) := dk_42 (dk_at dksX0_digest_5 6 rfl rfl)
theorem dX0_digest_123 : decode cX0_digest 123 = .ok (.getfield 14, 3) := dk_180 0 14 (dk_at dksX0_digest_5 7 rfl rfl)
theorem dX0_digest_126 : decode cX0_digest 126 = .ok (.iload_n 3, 1) := dk_29 (dk_at dksX0_digest_5 10 rfl rfl)
theorem dX0_digest_127 : decode cX0_digest 127 = .ok (.aaload, 1) := dk_50 (dk_at dksX0_digest_5 11 rfl rfl)
theorem dX0_digest_128 : decode cX0_digest 128 = .ok (.iload 4, 2) := dk_21 4 (dk_at dksX0_digest_5 12 rfl rfl)
theorem dX0_digest_130 : decode cX0_digest 130 = .ok (.invokevirtual 269, 3) := dk_182 1 13 (dk_at dksX0_digest_5 14 rfl rfl)
theorem dX0_digest_133 : decode cX0_digest 133 = .ok (.i2l, 1) := dk_133 (dk_at dksX0_digest_5 17 rfl rfl)
theorem dX0_digest_134 : decode cX0_digest 134 = .ok (.ladd, 1) := dk_97 (dk_at dksX0_digest_5 18 rfl rfl)
theorem dX0_digest_135 : decode cX0_digest 135 = .ok (.lstore_n 1, 1) := dk_64 (dk_at dksX0_digest_5 19 rfl rfl)
theorem dX0_digest_136 : decode cX0_digest 136 = .ok (.iinc 4 1, 3) := dk_132 4 1 (dk_at dksX0_digest_5 20 rfl rfl)
theorem dX0_digest_139 : decode cX0_digest 139 = .ok (.goto (-29), 3) := dk_167 255 227 (dk_at dksX0_digest_6 0 rfl rfl)
theorem dX0_digest_142 : decode cX0_digest 142 = .ok (.aload_n 0, 1) := dk_42 (dk_at dksX0_digest_6 3 rfl rfl)
theorem dX0_digest_143 : decode cX0_digest 143 = .ok (.getfield 14, 3) := dk_180 0 14 (dk_at dksX0_digest_6 4 rfl rfl)
theorem dX0_digest_146 : decode cX0_digest 146 = .ok (.iload_n 3, 1) := dk_29 (dk_at dksX0_digest_6 7 rfl rfl)
theorem dX0_digest_147 : decode cX0_digest 147 = .ok (.aaload, 1) := dk_50 (dk_at dksX0_digest_6 8 rfl rfl)
theorem dX0_digest_148 : decode cX0_digest 148 = .ok (.invokevirtual 95, 3) := dk_182 0 95 (dk_at dksX0_digest_6 9 rfl rfl)
theorem dX0_digest_151 : decode cX0_digest 151 = .ok (.astore 4, 2) := dk_58 4 (dk_at dksX0_digest_6 12 rfl rfl)
theorem dX0_digest_153 : decode cX0_digest 153 = .ok (.aload 4, 2) := dk_25 4 (dk_at dksX0_digest_6 14 rfl rfl)
theorem dX0_digest_155 : decode cX0_digest 155 = .ok (.ifnull 26, 3) := dk_198 0 26 (dk_at dksX0_digest_6 16 rfl rfl)
theorem dX0_digest_158 : decode cX0_digest 158 = .ok (.ldc2_w 372, 3) := dk_20 1 116 (dk_at dksX0_digest_6 19 rfl rfl)
theorem dX0_digest_161 : decode cX0_digest 161 = .ok (.lload_n 1, 1) := dk_31 (dk_at dksX0_digest_6 22 rfl rfl)
theorem dX0_digest_162 : decode cX0_digest 162 = .ok (.lmul, 1) := dk_105 (dk_at dksX0_digest_6 23 rfl rfl)
theorem dX0_digest_163 : decode cX0_digest 163 = .ok (.aload 4, 2) := dk_25 4 (dk_at dksX0_digest_7 0 rfl rfl)
theorem dX0_digest_165 : decode cX0_digest 165 = .ok (.getfield 120, 3) := dk_180 0 120 (dk_at dksX0_digest_7 2 rfl rfl)
theorem dX0_digest_168 : decode cX0_digest 168 = .ok (.i2l, 1) := dk_133 (dk_at dksX0_digest_7 5 rfl rfl)
theorem dX0_digest_169 : decode cX0_digest 169 = .ok (.ladd, 1) := dk_97 (dk_at dksX0_digest_7 6 rfl rfl)
theorem dX0_digest_170 : decode cX0_digest 170 = .ok (.lstore_n 1, 1) := dk_64 (dk_at dksX0_digest_7 7 rfl rfl)
theorem dX0_digest_171 : decode cX0_digest 171 = .ok (.aload 4, 2) := dk_25 4 (dk_at dksX0_digest_7 8 rfl rfl)
theorem dX0_digest_173 : decode cX0_digest 173 = .ok (.getfield 99, 3) := dk_180 0 99 (dk_at dksX0_digest_7 10 rfl rfl)
theorem dX0_digest_176 : decode cX0_digest 176 = .ok (.astore 4, 2) := dk_58 4 (dk_at dksX0_digest_7 13 rfl rfl)
theorem dX0_digest_178 : decode cX0_digest 178 = .ok (.goto (-25), 3) := dk_167 255 231 (dk_at dksX0_digest_7 15 rfl rfl)
theorem dX0_digest_181 : decode cX0_digest 181 = .ok (.iinc 3 1, 3) := dk_132 3 1 (dk_at dksX0_digest_7 18 rfl rfl)
theorem dX0_digest_184 : decode cX0_digest 184 = .ok (.goto (-85), 3) := dk_167 255 171 (dk_at dksX0_digest_7 21 rfl rfl)
theorem dX0_digest_187 : decode cX0_digest 187 = .ok (.lload_n 1, 1) := dk_31 (dk_at dksX0_digest_8 0 rfl rfl)
theorem dX0_digest_188 : decode cX0_digest 188 = .ok (.lreturn, 1) := dk_173 (dk_at dksX0_digest_8 1 rfl rfl)
theorem q81 : (Jvm.Cond.initialized "CrowdedBins") ∈ lw_all := lw_g (lw_at lw_m1 1 rfl) rfl
theorem q96 : (Jvm.Cond.instantiable "CrowdedBins" (19 : Nat)) ∈ lw_all := lw_g (lw_at lw_m1 16 rfl) rfl
theorem q98 : (Jvm.Cond.instanceMethod ({ cls := "CrowdedBins", name := "<init>", desc := "()V" } : Jvm.MethodName)) ∈ lw_all := lw_g (lw_at lw_m1 18 rfl) rfl
theorem q99 : (Jvm.Cond.code ({ cls := "CrowdedBins", name := "<init>", desc := "()V" } : Jvm.MethodName) prog_1_method_3_code (1 : Nat) (Option.none : Option Jvm.ClassFile.FieldType)) ∈ lw_all := lw_g (lw_at lw_m1 19 rfl) rfl
theorem q100 : (Jvm.Cond.methodLink "CrowdedBins" (9 : Nat) ({ cls := "java/lang/Object", name := "<init>", desc := "()V" } : Jvm.MethodName)) ∈ lw_all := lw_g (lw_at lw_m1 20 rfl) rfl
theorem q103 : (Jvm.Cond.classLink "CrowdedBins" (12 : Nat) "CrowdedBins$Bin") ∈ lw_all := lw_g (lw_at lw_m1 23 rfl) rfl
theorem q105 : (Jvm.Cond.methodLink "CrowdedBins" (22 : Nat) ({ cls := "CrowdedBins", name := "cursors", desc := "()[LCrowdedBins$Cursor;" } : Jvm.MethodName)) ∈ lw_all := lw_g (lw_at lw_m1 25 rfl) rfl
theorem q106 : (Jvm.Cond.static ({ cls := "CrowdedBins", name := "cursors", desc := "()[LCrowdedBins$Cursor;" } : Jvm.MethodName)) ∈ lw_all := lw_g (lw_at lw_m1 26 rfl) rfl
theorem q107 : (Jvm.Cond.code ({ cls := "CrowdedBins", name := "cursors", desc := "()[LCrowdedBins$Cursor;" } : Jvm.MethodName) prog_1_method_2_code (2 : Nat) (Option.some (Jvm.ClassFile.FieldType.array (Jvm.ClassFile.FieldType.object "CrowdedBins$Cursor")))) ∈ lw_all := lw_g (lw_at lw_m1 27 rfl) rfl
theorem q108 : (Jvm.Cond.classLink "CrowdedBins" (3 : Nat) "CrowdedBins$Cursor") ∈ lw_all := lw_g (lw_at lw_m1 28 rfl) rfl
theorem q111 : (Jvm.Cond.methodLinkNest "CrowdedBins" (5 : Nat) ({ cls := "CrowdedBins$Cursor", name := "<init>", desc := "()V" } : Jvm.MethodName) "CrowdedBins") ∈ lw_tbl := lw_at lw_m1 31 rfl
theorem q115 : (Jvm.Cond.fieldLinkNest "CrowdedBins" (303 : Nat) "CrowdedBins$Cursor" "way" "LCrowdedBins$Way;" "CrowdedBins") ∈ lw_tbl := lw_at lw_m1 35 rfl
theorem q116 : (Jvm.Cond.fieldLinkNest "CrowdedBins" (319 : Nat) "CrowdedBins$Cursor" "next" "LCrowdedBins$Entry;" "CrowdedBins") ∈ lw_tbl := lw_at lw_m1 36 rfl
theorem q118 : (Jvm.Cond.fieldLinkNest "CrowdedBins" (322 : Nat) "CrowdedBins$Cursor" "last" "I" "CrowdedBins") ∈ lw_tbl := lw_at lw_m1 38 rfl
theorem q119 : (Jvm.Cond.fieldLinkNest "CrowdedBins" (324 : Nat) "CrowdedBins$Cursor" "known" "I" "CrowdedBins") ∈ lw_tbl := lw_at lw_m1 39 rfl
theorem q129 : (Jvm.Cond.classLink "CrowdedBins" (29 : Nat) "CrowdedBins$State") ∈ lw_all := lw_g (lw_at lw_m1 49 rfl) rfl
theorem q131 : (Jvm.Cond.classLink "CrowdedBins" (46 : Nat) "CrowdedBins$Reader") ∈ lw_all := lw_g (lw_at lw_m1 51 rfl) rfl
theorem q133 : (Jvm.Cond.methodLinkNest "CrowdedBins" (48 : Nat) ({ cls := "CrowdedBins$Reader", name := "<init>", desc := "(LCrowdedBins;)V" } : Jvm.MethodName) "CrowdedBins") ∈ lw_tbl := lw_at lw_m1 53 rfl
theorem q146 : (Jvm.Cond.methodLink "CrowdedBins" (55 : Nat) ({ cls := "CrowdedBins", name := "empties", desc := "()V" } : Jvm.MethodName)) ∈ lw_all := lw_g (lw_at lw_m1 66 rfl) rfl
theorem q147 : (Jvm.Cond.privateMethod ({ cls := "CrowdedBins", name := "empties", desc := "()V" } : Jvm.MethodName)) ∈ lw_tbl := lw_at lw_m1 67 rfl
theorem q148 : (Jvm.Cond.instanceMethod ({ cls := "CrowdedBins", name := "empties", desc := "()V" } : Jvm.MethodName)) ∈ lw_all := lw_g (lw_at lw_m1 68 rfl) rfl
theorem q149 : (Jvm.Cond.code ({ cls := "CrowdedBins", name := "empties", desc := "()V" } : Jvm.MethodName) prog_1_method_8_code (2 : Nat) (Option.none : Option Jvm.ClassFile.FieldType)) ∈ lw_all := lw_g (lw_at lw_m1 69 rfl) rfl
theorem q150 : (Jvm.Cond.classLink "CrowdedBins" (65 : Nat) "CrowdedBins$List") ∈ lw_all := lw_g (lw_at lw_m1 70 rfl) rfl
theorem q152 : (Jvm.Cond.methodLinkNest "CrowdedBins" (67 : Nat) ({ cls := "CrowdedBins$List", name := "<init>", desc := "()V" } : Jvm.MethodName) "CrowdedBins") ∈ lw_tbl := lw_at lw_m1 72 rfl
theorem q169 : (Jvm.Cond.fieldLink "CrowdedBins" (14 : Nat) "CrowdedBins" "bins" "[LCrowdedBins$Bin;") ∈ lw_all := lw_g (lw_at lw_m1 89 rfl) rfl
theorem q172 : (Jvm.Cond.fieldLink "CrowdedBins" (62 : Nat) "CrowdedBins" "wide" "I") ∈ lw_all := lw_g (lw_at lw_m1 92 rfl) rfl
theorem q174 : (Jvm.Cond.fieldLink "CrowdedBins" (140 : Nat) "CrowdedBins" "first" "LCrowdedBins$Entry;") ∈ lw_all := lw_g (lw_at lw_m1 94 rfl) rfl
theorem q176 : (Jvm.Cond.fieldLink "CrowdedBins" (131 : Nat) "CrowdedBins" "last" "LCrowdedBins$Entry;") ∈ lw_all := lw_g (lw_at lw_m1 96 rfl) rfl
theorem q177 : (Jvm.Cond.fieldLink "CrowdedBins" (142 : Nat) "CrowdedBins" "size" "I") ∈ lw_all := lw_g (lw_at lw_m1 97 rfl) rfl
theorem q178 : (Jvm.Cond.fieldLink "CrowdedBins" (18 : Nat) "CrowdedBins" "times" "I") ∈ lw_all := lw_g (lw_at lw_m1 98 rfl) rfl
theorem q179 : (Jvm.Cond.fieldLink "CrowdedBins" (68 : Nat) "CrowdedBins" "plus" "I") ∈ lw_all := lw_g (lw_at lw_m1 99 rfl) rfl
theorem q180 : (Jvm.Cond.fieldLink "CrowdedBins" (144 : Nat) "CrowdedBins" "access" "I") ∈ lw_all := lw_g (lw_at lw_m1 100 rfl) rfl
theorem q181 : (Jvm.Cond.fieldLink "CrowdedBins" (166 : Nat) "CrowdedBins" "limit" "I") ∈ lw_all := lw_g (lw_at lw_m1 101 rfl) rfl
theorem q182 : (Jvm.Cond.fieldLink "CrowdedBins" (153 : Nat) "CrowdedBins" "changes" "I") ∈ lw_all := lw_g (lw_at lw_m1 102 rfl) rfl
theorem q183 : (Jvm.Cond.fieldLink "CrowdedBins" (26 : Nat) "CrowdedBins" "cursors" "[LCrowdedBins$Cursor;") ∈ lw_all := lw_g (lw_at lw_m1 103 rfl) rfl
theorem q184 : (Jvm.Cond.fieldLink "CrowdedBins" (31 : Nat) "CrowdedBins" "past" "[LCrowdedBins$State;") ∈ lw_all := lw_g (lw_at lw_m1 104 rfl) rfl
theorem q185 : (Jvm.Cond.fieldLink "CrowdedBins" (176 : Nat) "CrowdedBins" "many" "I") ∈ lw_all := lw_g (lw_at lw_m1 105 rfl) rfl
theorem q186 : (Jvm.Cond.fieldLink "CrowdedBins" (172 : Nat) "CrowdedBins" "quiet" "Z") ∈ lw_all := lw_g (lw_at lw_m1 106 rfl) rfl
theorem q188 : (Jvm.Cond.fieldLink "CrowdedBins" (35 : Nat) "CrowdedBins" "text" "[B") ∈ lw_all := lw_g (lw_at lw_m1 108 rfl) rfl
theorem q190 : (Jvm.Cond.fieldLink "CrowdedBins" (342 : Nat) "CrowdedBins" "typed" "I") ∈ lw_all := lw_g (lw_at lw_m1 110 rfl) rfl
theorem q191 : (Jvm.Cond.fieldLink "CrowdedBins" (39 : Nat) "CrowdedBins" "refused" "[I") ∈ lw_all := lw_g (lw_at lw_m1 111 rfl) rfl
theorem q192 : (Jvm.Cond.fieldLink "CrowdedBins" (43 : Nat) "CrowdedBins" "counts" "[I") ∈ lw_all := lw_g (lw_at lw_m1 112 rfl) rfl
theorem q193 : (Jvm.Cond.fieldLink "CrowdedBins" (51 : Nat) "CrowdedBins" "reader" "LCrowdedBins$Reader;") ∈ lw_all := lw_g (lw_at lw_m1 113 rfl) rfl
theorem q194 : (Jvm.Cond.laysFinal "CrowdedBins" "CrowdedBins" "bins" "[LCrowdedBins$Bin;") ∈ lw_all := lw_g (lw_at lw_m1 114 rfl) rfl
theorem q195 : (Jvm.Cond.soleField "CrowdedBins" "bins") ∈ lw_all := lw_g (lw_at lw_m1 115 rfl) rfl
theorem q196 : (Jvm.Cond.lays "CrowdedBins" "CrowdedBins" "wide" "I") ∈ lw_all := lw_g (lw_at lw_m1 116 rfl) rfl
theorem q197 : (Jvm.Cond.soleField "CrowdedBins" "wide") ∈ lw_all := lw_g (lw_at lw_m1 117 rfl) rfl
theorem q198 : (Jvm.Cond.lays "CrowdedBins" "CrowdedBins" "first" "LCrowdedBins$Entry;") ∈ lw_all := lw_g (lw_at lw_m1 118 rfl) rfl
theorem q199 : (Jvm.Cond.soleField "CrowdedBins" "first") ∈ lw_all := lw_g (lw_at lw_m1 119 rfl) rfl
theorem q200 : (Jvm.Cond.lays "CrowdedBins" "CrowdedBins" "last" "LCrowdedBins$Entry;") ∈ lw_all := lw_g (lw_at lw_m1 120 rfl) rfl
theorem q201 : (Jvm.Cond.soleField "CrowdedBins" "last") ∈ lw_all := lw_g (lw_at lw_m1 121 rfl) rfl
theorem q202 : (Jvm.Cond.lays "CrowdedBins" "CrowdedBins" "size" "I") ∈ lw_all := lw_g (lw_at lw_m1 122 rfl) rfl
theorem q203 : (Jvm.Cond.soleField "CrowdedBins" "size") ∈ lw_all := lw_g (lw_at lw_m1 123 rfl) rfl
theorem q204 : (Jvm.Cond.lays "CrowdedBins" "CrowdedBins" "times" "I") ∈ lw_all := lw_g (lw_at lw_m1 124 rfl) rfl
theorem q205 : (Jvm.Cond.soleField "CrowdedBins" "times") ∈ lw_all := lw_g (lw_at lw_m1 125 rfl) rfl
theorem q206 : (Jvm.Cond.lays "CrowdedBins" "CrowdedBins" "plus" "I") ∈ lw_all := lw_g (lw_at lw_m1 126 rfl) rfl
theorem q207 : (Jvm.Cond.soleField "CrowdedBins" "plus") ∈ lw_all := lw_g (lw_at lw_m1 127 rfl) rfl
theorem q208 : (Jvm.Cond.lays "CrowdedBins" "CrowdedBins" "access" "I") ∈ lw_all := lw_g (lw_at lw_m1 128 rfl) rfl
theorem q209 : (Jvm.Cond.soleField "CrowdedBins" "access") ∈ lw_all := lw_g (lw_at lw_m1 129 rfl) rfl
theorem q210 : (Jvm.Cond.lays "CrowdedBins" "CrowdedBins" "limit" "I") ∈ lw_all := lw_g (lw_at lw_m1 130 rfl) rfl
theorem q211 : (Jvm.Cond.soleField "CrowdedBins" "limit") ∈ lw_all := lw_g (lw_at lw_m1 131 rfl) rfl
theorem q212 : (Jvm.Cond.lays "CrowdedBins" "CrowdedBins" "changes" "I") ∈ lw_all := lw_g (lw_at lw_m1 132 rfl) rfl
theorem q213 : (Jvm.Cond.soleField "CrowdedBins" "changes") ∈ lw_all := lw_g (lw_at lw_m1 133 rfl) rfl
theorem q214 : (Jvm.Cond.laysFinal "CrowdedBins" "CrowdedBins" "cursors" "[LCrowdedBins$Cursor;") ∈ lw_all := lw_g (lw_at lw_m1 134 rfl) rfl
theorem q215 : (Jvm.Cond.soleField "CrowdedBins" "cursors") ∈ lw_all := lw_g (lw_at lw_m1 135 rfl) rfl
theorem q216 : (Jvm.Cond.laysFinal "CrowdedBins" "CrowdedBins" "past" "[LCrowdedBins$State;") ∈ lw_all := lw_g (lw_at lw_m1 136 rfl) rfl
theorem q217 : (Jvm.Cond.soleField "CrowdedBins" "past") ∈ lw_all := lw_g (lw_at lw_m1 137 rfl) rfl
theorem q218 : (Jvm.Cond.lays "CrowdedBins" "CrowdedBins" "many" "I") ∈ lw_all := lw_g (lw_at lw_m1 138 rfl) rfl
theorem q219 : (Jvm.Cond.soleField "CrowdedBins" "many") ∈ lw_all := lw_g (lw_at lw_m1 139 rfl) rfl
theorem q220 : (Jvm.Cond.lays "CrowdedBins" "CrowdedBins" "quiet" "Z") ∈ lw_all := lw_g (lw_at lw_m1 140 rfl) rfl
theorem q221 : (Jvm.Cond.soleField "CrowdedBins" "quiet") ∈ lw_all := lw_g (lw_at lw_m1 141 rfl) rfl
theorem q222 : (Jvm.Cond.laysFinal "CrowdedBins" "CrowdedBins" "text" "[B") ∈ lw_all := lw_g (lw_at lw_m1 142 rfl) rfl
theorem q223 : (Jvm.Cond.soleField "CrowdedBins" "text") ∈ lw_all := lw_g (lw_at lw_m1 143 rfl) rfl
theorem q224 : (Jvm.Cond.lays "CrowdedBins" "CrowdedBins" "typed" "I") ∈ lw_all := lw_g (lw_at lw_m1 144 rfl) rfl
theorem q225 : (Jvm.Cond.soleField "CrowdedBins" "typed") ∈ lw_all := lw_g (lw_at lw_m1 145 rfl) rfl
theorem q226 : (Jvm.Cond.laysFinal "CrowdedBins" "CrowdedBins" "refused" "[I") ∈ lw_all := lw_g (lw_at lw_m1 146 rfl) rfl
theorem q227 : (Jvm.Cond.soleField "CrowdedBins" "refused") ∈ lw_all := lw_g (lw_at lw_m1 147 rfl) rfl
theorem q228 : (Jvm.Cond.laysFinal "CrowdedBins" "CrowdedBins" "counts" "[I") ∈ lw_all := lw_g (lw_at lw_m1 148 rfl) rfl
theorem q229 : (Jvm.Cond.soleField "CrowdedBins" "counts") ∈ lw_all := lw_g (lw_at lw_m1 149 rfl) rfl
theorem q230 : (Jvm.Cond.laysFinal "CrowdedBins" "CrowdedBins" "reader" "LCrowdedBins$Reader;") ∈ lw_all := lw_g (lw_at lw_m1 150 rfl) rfl
theorem q231 : (Jvm.Cond.soleField "CrowdedBins" "reader") ∈ lw_all := lw_g (lw_at lw_m1 151 rfl) rfl
theorem q232 : (Jvm.Cond.superclass "CrowdedBins" "java/lang/Object") ∈ lw_all := lw_g (lw_at lw_m1 152 rfl) rfl
theorem q234 : (Jvm.Cond.instanceMethod ({ cls := "CrowdedBins", name := "put", desc := "(II)I" } : Jvm.MethodName)) ∈ lw_all := lw_g (lw_at lw_m1 154 rfl) rfl
theorem q235 : (Jvm.Cond.selects "CrowdedBins" ({ cls := "CrowdedBins", name := "put", desc := "(II)I" } : Jvm.MethodName) ({ cls := "CrowdedBins", name := "put", desc := "(II)I" } : Jvm.MethodName)) ∈ lw_all := lw_g (lw_at lw_m1 155 rfl) rfl
theorem q236 : (Jvm.Cond.code ({ cls := "CrowdedBins", name := "put", desc := "(II)I" } : Jvm.MethodName) prog_1_method_30_code (5 : Nat) (Option.some Jvm.ClassFile.FieldType.int)) ∈ lw_all := lw_g (lw_at lw_m1 156 rfl) rfl
theorem q237 : (Jvm.Cond.methodLink "CrowdedBins" (220 : Nat) ({ cls := "CrowdedBins", name := "isKey", desc := "(I)Z" } : Jvm.MethodName)) ∈ lw_all := lw_g (lw_at lw_m1 157 rfl) rfl
theorem q238 : (Jvm.Cond.static ({ cls := "CrowdedBins", name := "isKey", desc := "(I)Z" } : Jvm.MethodName)) ∈ lw_all := lw_g (lw_at lw_m1 158 rfl) rfl
theorem q239 : (Jvm.Cond.code ({ cls := "CrowdedBins", name := "isKey", desc := "(I)Z" } : Jvm.MethodName) prog_1_method_27_code (1 : Nat) (Option.some Jvm.ClassFile.FieldType.boolean)) ∈ lw_all := lw_g (lw_at lw_m1 159 rfl) rfl
theorem q240 : (Jvm.Cond.constantLong "CrowdedBins" (212 : Nat) (999999 : Int64)) ∈ lw_all := lw_g (lw_at lw_m1 160 rfl) rfl
theorem q241 : (Jvm.Cond.methodLink "CrowdedBins" (214 : Nat) ({ cls := "CrowdedBins", name := "in", desc := "(JJJ)Z" } : Jvm.MethodName)) ∈ lw_all := lw_g (lw_at lw_m1 161 rfl) rfl
theorem q242 : (Jvm.Cond.static ({ cls := "CrowdedBins", name := "in", desc := "(JJJ)Z" } : Jvm.MethodName)) ∈ lw_all := lw_g (lw_at lw_m1 162 rfl) rfl
theorem q243 : (Jvm.Cond.code ({ cls := "CrowdedBins", name := "in", desc := "(JJJ)Z" } : Jvm.MethodName) prog_1_method_1_code (6 : Nat) (Option.some Jvm.ClassFile.FieldType.boolean)) ∈ lw_all := lw_g (lw_at lw_m1 163 rfl) rfl
theorem q244 : (Jvm.Cond.methodLink "CrowdedBins" (224 : Nat) ({ cls := "CrowdedBins", name := "isValue", desc := "(I)Z" } : Jvm.MethodName)) ∈ lw_all := lw_g (lw_at lw_m1 164 rfl) rfl
theorem q245 : (Jvm.Cond.static ({ cls := "CrowdedBins", name := "isValue", desc := "(I)Z" } : Jvm.MethodName)) ∈ lw_all := lw_g (lw_at lw_m1 165 rfl) rfl
theorem q246 : (Jvm.Cond.code ({ cls := "CrowdedBins", name := "isValue", desc := "(I)Z" } : Jvm.MethodName) prog_1_method_28_code (1 : Nat) (Option.some Jvm.ClassFile.FieldType.boolean)) ∈ lw_all := lw_g (lw_at lw_m1 166 rfl) rfl
theorem q247 : (Jvm.Cond.constantLong "CrowdedBins" (218 : Nat) (9999 : Int64)) ∈ lw_all := lw_g (lw_at lw_m1 167 rfl) rfl
theorem q248 : (Jvm.Cond.methodLink "CrowdedBins" (227 : Nat) ({ cls := "CrowdedBins", name := "bad", desc := "()I" } : Jvm.MethodName)) ∈ lw_all := lw_g (lw_at lw_m1 168 rfl) rfl
theorem q249 : (Jvm.Cond.privateMethod ({ cls := "CrowdedBins", name := "bad", desc := "()I" } : Jvm.MethodName)) ∈ lw_tbl := lw_at lw_m1 169 rfl
theorem q250 : (Jvm.Cond.instanceMethod ({ cls := "CrowdedBins", name := "bad", desc := "()I" } : Jvm.MethodName)) ∈ lw_all := lw_g (lw_at lw_m1 170 rfl) rfl
theorem q251 : (Jvm.Cond.code ({ cls := "CrowdedBins", name := "bad", desc := "()I" } : Jvm.MethodName) prog_1_method_5_code (1 : Nat) (Option.some Jvm.ClassFile.FieldType.int)) ∈ lw_all := lw_g (lw_at lw_m1 171 rfl) rfl
theorem q252 : (Jvm.Cond.methodLink "CrowdedBins" (58 : Nat) ({ cls := "CrowdedBins", name := "refuses", desc := "(II)I" } : Jvm.MethodName)) ∈ lw_all := lw_g (lw_at lw_m1 172 rfl) rfl
theorem q253 : (Jvm.Cond.privateMethod ({ cls := "CrowdedBins", name := "refuses", desc := "(II)I" } : Jvm.MethodName)) ∈ lw_tbl := lw_at lw_m1 173 rfl
theorem q254 : (Jvm.Cond.instanceMethod ({ cls := "CrowdedBins", name := "refuses", desc := "(II)I" } : Jvm.MethodName)) ∈ lw_all := lw_g (lw_at lw_m1 174 rfl) rfl
theorem q255 : (Jvm.Cond.code ({ cls := "CrowdedBins", name := "refuses", desc := "(II)I" } : Jvm.MethodName) prog_1_method_4_code (3 : Nat) (Option.some Jvm.ClassFile.FieldType.int)) ∈ lw_all := lw_g (lw_at lw_m1 175 rfl) rfl
theorem q256 : (Jvm.Cond.methodLink "CrowdedBins" (230 : Nat) ({ cls := "CrowdedBins", name := "found", desc := "(I)LCrowdedBins$Entry;" } : Jvm.MethodName)) ∈ lw_all := lw_g (lw_at lw_m1 176 rfl) rfl
theorem q257 : (Jvm.Cond.privateMethod ({ cls := "CrowdedBins", name := "found", desc := "(I)LCrowdedBins$Entry;" } : Jvm.MethodName)) ∈ lw_tbl := lw_at lw_m1 177 rfl
theorem q258 : (Jvm.Cond.instanceMethod ({ cls := "CrowdedBins", name := "found", desc := "(I)LCrowdedBins$Entry;" } : Jvm.MethodName)) ∈ lw_all := lw_g (lw_at lw_m1 178 rfl) rfl
theorem q259 : (Jvm.Cond.code ({ cls := "CrowdedBins", name := "found", desc := "(I)LCrowdedBins$Entry;" } : Jvm.MethodName) prog_1_method_12_code (2 : Nat) (Option.some (Jvm.ClassFile.FieldType.object "CrowdedBins$Entry"))) ∈ lw_all := lw_g (lw_at lw_m1 179 rfl) rfl
theorem q260 : (Jvm.Cond.methodLink "CrowdedBins" (80 : Nat) ({ cls := "CrowdedBins", name := "binWith", desc := "(I)LCrowdedBins$Bin;" } : Jvm.MethodName)) ∈ lw_all := lw_g (lw_at lw_m1 180 rfl) rfl
theorem q261 : (Jvm.Cond.privateMethod ({ cls := "CrowdedBins", name := "binWith", desc := "(I)LCrowdedBins$Bin;" } : Jvm.MethodName)) ∈ lw_tbl := lw_at lw_m1 181 rfl
theorem q262 : (Jvm.Cond.instanceMethod ({ cls := "CrowdedBins", name := "binWith", desc := "(I)LCrowdedBins$Bin;" } : Jvm.MethodName)) ∈ lw_all := lw_g (lw_at lw_m1 182 rfl) rfl
theorem q263 : (Jvm.Cond.code ({ cls := "CrowdedBins", name := "binWith", desc := "(I)LCrowdedBins$Bin;" } : Jvm.MethodName) prog_1_method_11_code (2 : Nat) (Option.some (Jvm.ClassFile.FieldType.object "CrowdedBins$Bin"))) ∈ lw_all := lw_g (lw_at lw_m1 183 rfl) rfl
theorem q264 : (Jvm.Cond.methodLink "CrowdedBins" (73 : Nat) ({ cls := "CrowdedBins", name := "hashOf", desc := "(I)I" } : Jvm.MethodName)) ∈ lw_all := lw_g (lw_at lw_m1 184 rfl) rfl
theorem q265 : (Jvm.Cond.privateMethod ({ cls := "CrowdedBins", name := "hashOf", desc := "(I)I" } : Jvm.MethodName)) ∈ lw_tbl := lw_at lw_m1 185 rfl
theorem q266 : (Jvm.Cond.instanceMethod ({ cls := "CrowdedBins", name := "hashOf", desc := "(I)I" } : Jvm.MethodName)) ∈ lw_all := lw_g (lw_at lw_m1 186 rfl) rfl
theorem q267 : (Jvm.Cond.code ({ cls := "CrowdedBins", name := "hashOf", desc := "(I)I" } : Jvm.MethodName) prog_1_method_9_code (3 : Nat) (Option.some Jvm.ClassFile.FieldType.int)) ∈ lw_all := lw_g (lw_at lw_m1 187 rfl) rfl
theorem q268 : (Jvm.Cond.constantLong "CrowdedBins" (71 : Nat) (65535 : Int64)) ∈ lw_all := lw_g (lw_at lw_m1 188 rfl) rfl
theorem q269 : (Jvm.Cond.methodLink "CrowdedBins" (77 : Nat) ({ cls := "CrowdedBins", name := "binOf", desc := "(I)I" } : Jvm.MethodName)) ∈ lw_all := lw_g (lw_at lw_m1 189 rfl) rfl
theorem q270 : (Jvm.Cond.privateMethod ({ cls := "CrowdedBins", name := "binOf", desc := "(I)I" } : Jvm.MethodName)) ∈ lw_tbl := lw_at lw_m1 190 rfl
theorem q271 : (Jvm.Cond.instanceMethod ({ cls := "CrowdedBins", name := "binOf", desc := "(I)I" } : Jvm.MethodName)) ∈ lw_all := lw_g (lw_at lw_m1 191 rfl) rfl
theorem q272 : (Jvm.Cond.code ({ cls := "CrowdedBins", name := "binOf", desc := "(I)I" } : Jvm.MethodName) prog_1_method_10_code (2 : Nat) (Option.some Jvm.ClassFile.FieldType.int)) ∈ lw_all := lw_g (lw_at lw_m1 192 rfl) rfl
theorem q273 : (Jvm.Cond.methodLink "CrowdedBins" (84 : Nat) ({ cls := "CrowdedBins$Bin", name := "finds", desc := "(II)LCrowdedBins$Entry;" } : Jvm.MethodName)) ∈ lw_all := lw_g (lw_at lw_m1 193 rfl) rfl
theorem q292 : (Jvm.Cond.methodLink "CrowdedBins" (233 : Nat) ({ cls := "CrowdedBins", name := "isFull", desc := "()Z" } : Jvm.MethodName)) ∈ lw_all := lw_g (lw_at lw_m1 212 rfl) rfl
theorem q293 : (Jvm.Cond.privateMethod ({ cls := "CrowdedBins", name := "isFull", desc := "()Z" } : Jvm.MethodName)) ∈ lw_tbl := lw_at lw_m1 213 rfl
theorem q294 : (Jvm.Cond.instanceMethod ({ cls := "CrowdedBins", name := "isFull", desc := "()Z" } : Jvm.MethodName)) ∈ lw_all := lw_g (lw_at lw_m1 214 rfl) rfl
theorem q295 : (Jvm.Cond.code ({ cls := "CrowdedBins", name := "isFull", desc := "()Z" } : Jvm.MethodName) prog_1_method_29_code (1 : Nat) (Option.some Jvm.ClassFile.FieldType.boolean)) ∈ lw_all := lw_g (lw_at lw_m1 215 rfl) rfl
theorem q296 : (Jvm.Cond.methodLink "CrowdedBins" (237 : Nat) ({ cls := "CrowdedBins", name := "leaves", desc := "()V" } : Jvm.MethodName)) ∈ lw_all := lw_g (lw_at lw_m1 216 rfl) rfl
theorem q297 : (Jvm.Cond.privateMethod ({ cls := "CrowdedBins", name := "leaves", desc := "()V" } : Jvm.MethodName)) ∈ lw_tbl := lw_at lw_m1 217 rfl
theorem q298 : (Jvm.Cond.instanceMethod ({ cls := "CrowdedBins", name := "leaves", desc := "()V" } : Jvm.MethodName)) ∈ lw_all := lw_g (lw_at lw_m1 218 rfl) rfl
theorem q299 : (Jvm.Cond.code ({ cls := "CrowdedBins", name := "leaves", desc := "()V" } : Jvm.MethodName) prog_1_method_23_code (2 : Nat) (Option.none : Option Jvm.ClassFile.FieldType)) ∈ lw_all := lw_g (lw_at lw_m1 219 rfl) rfl
theorem q300 : (Jvm.Cond.methodLink "CrowdedBins" (179 : Nat) ({ cls := "CrowdedBins", name := "state", desc := "()LCrowdedBins$State;" } : Jvm.MethodName)) ∈ lw_all := lw_g (lw_at lw_m1 220 rfl) rfl
theorem q301 : (Jvm.Cond.privateMethod ({ cls := "CrowdedBins", name := "state", desc := "()LCrowdedBins$State;" } : Jvm.MethodName)) ∈ lw_tbl := lw_at lw_m1 221 rfl
theorem q302 : (Jvm.Cond.instanceMethod ({ cls := "CrowdedBins", name := "state", desc := "()LCrowdedBins$State;" } : Jvm.MethodName)) ∈ lw_all := lw_g (lw_at lw_m1 222 rfl) rfl
theorem q303 : (Jvm.Cond.code ({ cls := "CrowdedBins", name := "state", desc := "()LCrowdedBins$State;" } : Jvm.MethodName) prog_1_method_24_code (5 : Nat) (Option.some (Jvm.ClassFile.FieldType.object "CrowdedBins$State"))) ∈ lw_all := lw_g (lw_at lw_m1 223 rfl) rfl
theorem q305 : (Jvm.Cond.methodLinkNest "CrowdedBins" (183 : Nat) ({ cls := "CrowdedBins$State", name := "<init>", desc := "()V" } : Jvm.MethodName) "CrowdedBins") ∈ lw_tbl := lw_at lw_m1 225 rfl
theorem q309 : (Jvm.Cond.fieldLinkNest "CrowdedBins" (188 : Nat) "CrowdedBins$State" "order" "[I" "CrowdedBins") ∈ lw_tbl := lw_at lw_m1 229 rfl
theorem q310 : (Jvm.Cond.fieldLinkNest "CrowdedBins" (191 : Nat) "CrowdedBins$State" "rows" "[I" "CrowdedBins") ∈ lw_tbl := lw_at lw_m1 230 rfl
theorem q311 : (Jvm.Cond.fieldLinkNest "CrowdedBins" (194 : Nat) "CrowdedBins$State" "sizes" "[I" "CrowdedBins") ∈ lw_tbl := lw_at lw_m1 231 rfl
theorem q312 : (Jvm.Cond.fieldLinkNest "CrowdedBins" (197 : Nat) "CrowdedBins$State" "trees" "[Z" "CrowdedBins") ∈ lw_tbl := lw_at lw_m1 232 rfl
theorem q313 : (Jvm.Cond.fieldLinkNest "CrowdedBins" (204 : Nat) "CrowdedBins$State" "times" "I" "CrowdedBins") ∈ lw_tbl := lw_at lw_m1 233 rfl
theorem q314 : (Jvm.Cond.fieldLinkNest "CrowdedBins" (205 : Nat) "CrowdedBins$State" "plus" "I" "CrowdedBins") ∈ lw_tbl := lw_at lw_m1 234 rfl
theorem q315 : (Jvm.Cond.fieldLinkNest "CrowdedBins" (206 : Nat) "CrowdedBins$State" "access" "I" "CrowdedBins") ∈ lw_tbl := lw_at lw_m1 235 rfl
theorem q316 : (Jvm.Cond.fieldLinkNest "CrowdedBins" (207 : Nat) "CrowdedBins$State" "limit" "I" "CrowdedBins") ∈ lw_tbl := lw_at lw_m1 236 rfl
theorem q334 : (Jvm.Cond.methodLink "CrowdedBins" (184 : Nat) ({ cls := "CrowdedBins", name := "sized", desc := "(I)[I" } : Jvm.MethodName)) ∈ lw_all := lw_g (lw_at lw_m2 14 rfl) rfl
theorem q335 : (Jvm.Cond.static ({ cls := "CrowdedBins", name := "sized", desc := "(I)[I" } : Jvm.MethodName)) ∈ lw_all := lw_g (lw_at lw_m2 15 rfl) rfl
theorem q336 : (Jvm.Cond.code ({ cls := "CrowdedBins", name := "sized", desc := "(I)[I" } : Jvm.MethodName) prog_1_method_22_code (1 : Nat) (Option.some (Jvm.ClassFile.FieldType.array Jvm.ClassFile.FieldType.int))) ∈ lw_all := lw_g (lw_at lw_m2 16 rfl) rfl
theorem q337 : (Jvm.Cond.methodLink "CrowdedBins" (124 : Nat) ({ cls := "CrowdedBins$Bin", name := "size", desc := "()I" } : Jvm.MethodName)) ∈ lw_all := lw_g (lw_at lw_m2 17 rfl) rfl
theorem q343 : (Jvm.Cond.classLink "CrowdedBins" (88 : Nat) "CrowdedBins$Tree") ∈ lw_all := lw_g (lw_at lw_m2 23 rfl) rfl
theorem q344 : (Jvm.Cond.methodLink "CrowdedBins" (95 : Nat) ({ cls := "CrowdedBins$Bin", name := "first", desc := "()LCrowdedBins$Entry;" } : Jvm.MethodName)) ∈ lw_all := lw_g (lw_at lw_m2 24 rfl) rfl
theorem q345 : (Jvm.Cond.methodLink "CrowdedBins" (240 : Nat) ({ cls := "CrowdedBins", name := "comesNew", desc := "(II)V" } : Jvm.MethodName)) ∈ lw_all := lw_g (lw_at lw_m2 25 rfl) rfl
theorem q346 : (Jvm.Cond.privateMethod ({ cls := "CrowdedBins", name := "comesNew", desc := "(II)V" } : Jvm.MethodName)) ∈ lw_tbl := lw_at lw_m2 26 rfl
theorem q347 : (Jvm.Cond.instanceMethod ({ cls := "CrowdedBins", name := "comesNew", desc := "(II)V" } : Jvm.MethodName)) ∈ lw_all := lw_g (lw_at lw_m2 27 rfl) rfl
theorem q348 : (Jvm.Cond.code ({ cls := "CrowdedBins", name := "comesNew", desc := "(II)V" } : Jvm.MethodName) prog_1_method_21_code (4 : Nat) (Option.none : Option Jvm.ClassFile.FieldType)) ∈ lw_all := lw_g (lw_at lw_m2 28 rfl) rfl
theorem q349 : (Jvm.Cond.classLink "CrowdedBins" (100 : Nat) "CrowdedBins$Entry") ∈ lw_all := lw_g (lw_at lw_m2 29 rfl) rfl
theorem q351 : (Jvm.Cond.methodLink "CrowdedBins" (159 : Nat) ({ cls := "CrowdedBins$Entry", name := "<init>", desc := "(II)V" } : Jvm.MethodName)) ∈ lw_all := lw_g (lw_at lw_m2 31 rfl) rfl
theorem q361 : (Jvm.Cond.fieldLinkNest "CrowdedBins" (120 : Nat) "CrowdedBins$Entry" "key" "I" "CrowdedBins") ∈ lw_tbl := lw_at lw_m2 41 rfl
theorem q363 : (Jvm.Cond.fieldLinkNest "CrowdedBins" (201 : Nat) "CrowdedBins$Entry" "value" "I" "CrowdedBins") ∈ lw_tbl := lw_at lw_m2 43 rfl
theorem q368 : (Jvm.Cond.fieldLinkNest "CrowdedBins" (105 : Nat) "CrowdedBins$Entry" "hash" "I" "CrowdedBins") ∈ lw_tbl := lw_at lw_m2 48 rfl
theorem q370 : (Jvm.Cond.fieldLinkNest "CrowdedBins" (134 : Nat) "CrowdedBins$Entry" "before" "LCrowdedBins$Entry;" "CrowdedBins") ∈ lw_tbl := lw_at lw_m2 50 rfl
theorem q372 : (Jvm.Cond.fieldLinkNest "CrowdedBins" (137 : Nat) "CrowdedBins$Entry" "after" "LCrowdedBins$Entry;" "CrowdedBins") ∈ lw_tbl := lw_at lw_m2 52 rfl
theorem q377 : (Jvm.Cond.fieldLinkNest "CrowdedBins" (99 : Nat) "CrowdedBins$Entry" "behind" "LCrowdedBins$Entry;" "CrowdedBins") ∈ lw_tbl := lw_at lw_m2 57 rfl
theorem q379 : (Jvm.Cond.fieldLinkNest "CrowdedBins" (276 : Nat) "CrowdedBins$Entry" "left" "LCrowdedBins$Entry;" "CrowdedBins") ∈ lw_tbl := lw_at lw_m2 59 rfl
theorem q381 : (Jvm.Cond.fieldLinkNest "CrowdedBins" (279 : Nat) "CrowdedBins$Entry" "right" "LCrowdedBins$Entry;" "CrowdedBins") ∈ lw_tbl := lw_at lw_m2 61 rfl
theorem q404 : (Jvm.Cond.methodLink "CrowdedBins" (150 : Nat) ({ cls := "CrowdedBins", name := "links", desc := "(LCrowdedBins$Entry;)V" } : Jvm.MethodName)) ∈ lw_all := lw_g (lw_at lw_m2 84 rfl) rfl
theorem q405 : (Jvm.Cond.privateMethod ({ cls := "CrowdedBins", name := "links", desc := "(LCrowdedBins$Entry;)V" } : Jvm.MethodName)) ∈ lw_tbl := lw_at lw_m2 85 rfl
theorem q406 : (Jvm.Cond.instanceMethod ({ cls := "CrowdedBins", name := "links", desc := "(LCrowdedBins$Entry;)V" } : Jvm.MethodName)) ∈ lw_all := lw_g (lw_at lw_m2 86 rfl) rfl
theorem q407 : (Jvm.Cond.code ({ cls := "CrowdedBins", name := "links", desc := "(LCrowdedBins$Entry;)V" } : Jvm.MethodName) prog_1_method_17_code (2 : Nat) (Option.none : Option Jvm.ClassFile.FieldType)) ∈ lw_all := lw_g (lw_at lw_m2 87 rfl) rfl
theorem q408 : (Jvm.Cond.methodLink "CrowdedBins" (162 : Nat) ({ cls := "CrowdedBins", name := "comesIn", desc := "(LCrowdedBins$Entry;I)V" } : Jvm.MethodName)) ∈ lw_all := lw_g (lw_at lw_m2 88 rfl) rfl
theorem q409 : (Jvm.Cond.privateMethod ({ cls := "CrowdedBins", name := "comesIn", desc := "(LCrowdedBins$Entry;I)V" } : Jvm.MethodName)) ∈ lw_tbl := lw_at lw_m2 89 rfl
theorem q410 : (Jvm.Cond.instanceMethod ({ cls := "CrowdedBins", name := "comesIn", desc := "(LCrowdedBins$Entry;I)V" } : Jvm.MethodName)) ∈ lw_all := lw_g (lw_at lw_m2 90 rfl) rfl
theorem q411 : (Jvm.Cond.code ({ cls := "CrowdedBins", name := "comesIn", desc := "(LCrowdedBins$Entry;I)V" } : Jvm.MethodName) prog_1_method_15_code (4 : Nat) (Option.none : Option Jvm.ClassFile.FieldType)) ∈ lw_all := lw_g (lw_at lw_m2 91 rfl) rfl
theorem q412 : (Jvm.Cond.methodLink "CrowdedBins" (123 : Nat) ({ cls := "CrowdedBins$Bin", name := "comes", desc := "(LCrowdedBins$Entry;)V" } : Jvm.MethodName)) ∈ lw_all := lw_g (lw_at lw_m2 92 rfl) rfl
theorem q432 : (Jvm.Cond.methodLink "CrowdedBins" (125 : Nat) ({ cls := "CrowdedBins", name := "grows", desc := "()V" } : Jvm.MethodName)) ∈ lw_all := lw_g (lw_at lw_m2 112 rfl) rfl
theorem q433 : (Jvm.Cond.privateMethod ({ cls := "CrowdedBins", name := "grows", desc := "()V" } : Jvm.MethodName)) ∈ lw_tbl := lw_at lw_m2 113 rfl
theorem q434 : (Jvm.Cond.instanceMethod ({ cls := "CrowdedBins", name := "grows", desc := "()V" } : Jvm.MethodName)) ∈ lw_all := lw_g (lw_at lw_m2 114 rfl) rfl
theorem q435 : (Jvm.Cond.code ({ cls := "CrowdedBins", name := "grows", desc := "()V" } : Jvm.MethodName) prog_1_method_14_code (9 : Nat) (Option.none : Option Jvm.ClassFile.FieldType)) ∈ lw_all := lw_g (lw_at lw_m2 115 rfl) rfl
theorem q436 : (Jvm.Cond.methodLink "CrowdedBins" (108 : Nat) ({ cls := "CrowdedBins$List", name := "comes", desc := "(LCrowdedBins$Entry;)V" } : Jvm.MethodName)) ∈ lw_all := lw_g (lw_at lw_m2 116 rfl) rfl
theorem q440 : (Jvm.Cond.methodLink "CrowdedBins" (112 : Nat) ({ cls := "CrowdedBins$List", name := "size", desc := "()I" } : Jvm.MethodName)) ∈ lw_all := lw_g (lw_at lw_m2 120 rfl) rfl
theorem q444 : (Jvm.Cond.methodLink "CrowdedBins" (116 : Nat) ({ cls := "CrowdedBins", name := "as", desc := "(LCrowdedBins$Bin;Z)LCrowdedBins$Bin;" } : Jvm.MethodName)) ∈ lw_all := lw_g (lw_at lw_m2 124 rfl) rfl
theorem q445 : (Jvm.Cond.static ({ cls := "CrowdedBins", name := "as", desc := "(LCrowdedBins$Bin;Z)LCrowdedBins$Bin;" } : Jvm.MethodName)) ∈ lw_all := lw_g (lw_at lw_m2 125 rfl) rfl
theorem q446 : (Jvm.Cond.code ({ cls := "CrowdedBins", name := "as", desc := "(LCrowdedBins$Bin;Z)LCrowdedBins$Bin;" } : Jvm.MethodName) prog_1_method_13_code (3 : Nat) (Option.some (Jvm.ClassFile.FieldType.object "CrowdedBins$Bin"))) ∈ lw_all := lw_g (lw_at lw_m2 126 rfl) rfl
theorem q448 : (Jvm.Cond.methodLinkNest "CrowdedBins" (90 : Nat) ({ cls := "CrowdedBins$Tree", name := "<init>", desc := "()V" } : Jvm.MethodName) "CrowdedBins") ∈ lw_tbl := lw_at lw_m2 128 rfl
theorem q458 : (Jvm.Cond.methodLink "CrowdedBins" (91 : Nat) ({ cls := "CrowdedBins$Bin", name := "takes", desc := "(LCrowdedBins$Bin;)V" } : Jvm.MethodName)) ∈ lw_all := lw_g (lw_at lw_m2 138 rfl) rfl
theorem q465 : (Jvm.Cond.methodLink "CrowdedBins" (169 : Nat) ({ cls := "CrowdedBins", name := "leavesOne", desc := "(LCrowdedBins$Entry;)V" } : Jvm.MethodName)) ∈ lw_all := lw_g (lw_at lw_m2 145 rfl) rfl
theorem q466 : (Jvm.Cond.privateMethod ({ cls := "CrowdedBins", name := "leavesOne", desc := "(LCrowdedBins$Entry;)V" } : Jvm.MethodName)) ∈ lw_tbl := lw_at lw_m2 146 rfl
theorem q467 : (Jvm.Cond.instanceMethod ({ cls := "CrowdedBins", name := "leavesOne", desc := "(LCrowdedBins$Entry;)V" } : Jvm.MethodName)) ∈ lw_all := lw_g (lw_at lw_m2 147 rfl) rfl
theorem q468 : (Jvm.Cond.code ({ cls := "CrowdedBins", name := "leavesOne", desc := "(LCrowdedBins$Entry;)V" } : Jvm.MethodName) prog_1_method_20_code (2 : Nat) (Option.none : Option Jvm.ClassFile.FieldType)) ∈ lw_all := lw_g (lw_at lw_m2 148 rfl) rfl
theorem q469 : (Jvm.Cond.methodLink "CrowdedBins" (147 : Nat) ({ cls := "CrowdedBins", name := "unlinks", desc := "(LCrowdedBins$Entry;)V" } : Jvm.MethodName)) ∈ lw_all := lw_g (lw_at lw_m2 149 rfl) rfl
theorem q470 : (Jvm.Cond.privateMethod ({ cls := "CrowdedBins", name := "unlinks", desc := "(LCrowdedBins$Entry;)V" } : Jvm.MethodName)) ∈ lw_tbl := lw_at lw_m2 150 rfl
theorem q471 : (Jvm.Cond.instanceMethod ({ cls := "CrowdedBins", name := "unlinks", desc := "(LCrowdedBins$Entry;)V" } : Jvm.MethodName)) ∈ lw_all := lw_g (lw_at lw_m2 151 rfl) rfl
theorem q472 : (Jvm.Cond.code ({ cls := "CrowdedBins", name := "unlinks", desc := "(LCrowdedBins$Entry;)V" } : Jvm.MethodName) prog_1_method_18_code (2 : Nat) (Option.none : Option Jvm.ClassFile.FieldType)) ∈ lw_all := lw_g (lw_at lw_m2 152 rfl) rfl
theorem q473 : (Jvm.Cond.methodLink "CrowdedBins" (156 : Nat) ({ cls := "CrowdedBins", name := "goesOut", desc := "(LCrowdedBins$Entry;)V" } : Jvm.MethodName)) ∈ lw_all := lw_g (lw_at lw_m2 153 rfl) rfl
theorem q474 : (Jvm.Cond.privateMethod ({ cls := "CrowdedBins", name := "goesOut", desc := "(LCrowdedBins$Entry;)V" } : Jvm.MethodName)) ∈ lw_tbl := lw_at lw_m2 154 rfl
theorem q475 : (Jvm.Cond.instanceMethod ({ cls := "CrowdedBins", name := "goesOut", desc := "(LCrowdedBins$Entry;)V" } : Jvm.MethodName)) ∈ lw_all := lw_g (lw_at lw_m2 155 rfl) rfl
theorem q476 : (Jvm.Cond.code ({ cls := "CrowdedBins", name := "goesOut", desc := "(LCrowdedBins$Entry;)V" } : Jvm.MethodName) prog_1_method_16_code (3 : Nat) (Option.none : Option Jvm.ClassFile.FieldType)) ∈ lw_all := lw_g (lw_at lw_m2 156 rfl) rfl
theorem q477 : (Jvm.Cond.methodLink "CrowdedBins" (128 : Nat) ({ cls := "CrowdedBins$Bin", name := "goes", desc := "(LCrowdedBins$Entry;)V" } : Jvm.MethodName)) ∈ lw_all := lw_g (lw_at lw_m2 157 rfl) rfl
theorem q492 : (Jvm.Cond.methodLink "CrowdedBins" (243 : Nat) ({ cls := "CrowdedBins", name := "moves", desc := "(LCrowdedBins$Entry;)V" } : Jvm.MethodName)) ∈ lw_all := lw_g (lw_at lw_m2 172 rfl) rfl
theorem q493 : (Jvm.Cond.privateMethod ({ cls := "CrowdedBins", name := "moves", desc := "(LCrowdedBins$Entry;)V" } : Jvm.MethodName)) ∈ lw_tbl := lw_at lw_m2 173 rfl
theorem q494 : (Jvm.Cond.instanceMethod ({ cls := "CrowdedBins", name := "moves", desc := "(LCrowdedBins$Entry;)V" } : Jvm.MethodName)) ∈ lw_all := lw_g (lw_at lw_m2 174 rfl) rfl
theorem q495 : (Jvm.Cond.code ({ cls := "CrowdedBins", name := "moves", desc := "(LCrowdedBins$Entry;)V" } : Jvm.MethodName) prog_1_method_19_code (2 : Nat) (Option.none : Option Jvm.ClassFile.FieldType)) ∈ lw_all := lw_g (lw_at lw_m2 175 rfl) rfl
theorem q497 : (Jvm.Cond.instanceMethod ({ cls := "CrowdedBins", name := "get", desc := "(I)I" } : Jvm.MethodName)) ∈ lw_all := lw_g (lw_at lw_m2 177 rfl) rfl
theorem q498 : (Jvm.Cond.selects "CrowdedBins" ({ cls := "CrowdedBins", name := "get", desc := "(I)I" } : Jvm.MethodName) ({ cls := "CrowdedBins", name := "get", desc := "(I)I" } : Jvm.MethodName)) ∈ lw_all := lw_g (lw_at lw_m2 178 rfl) rfl
theorem q499 : (Jvm.Cond.code ({ cls := "CrowdedBins", name := "get", desc := "(I)I" } : Jvm.MethodName) prog_1_method_31_code (3 : Nat) (Option.some Jvm.ClassFile.FieldType.int)) ∈ lw_all := lw_g (lw_at lw_m2 179 rfl) rfl
theorem q501 : (Jvm.Cond.instanceMethod ({ cls := "CrowdedBins", name := "peek", desc := "(I)I" } : Jvm.MethodName)) ∈ lw_all := lw_g (lw_at lw_m2 181 rfl) rfl
theorem q502 : (Jvm.Cond.selects "CrowdedBins" ({ cls := "CrowdedBins", name := "peek", desc := "(I)I" } : Jvm.MethodName) ({ cls := "CrowdedBins", name := "peek", desc := "(I)I" } : Jvm.MethodName)) ∈ lw_all := lw_g (lw_at lw_m2 182 rfl) rfl
theorem q503 : (Jvm.Cond.code ({ cls := "CrowdedBins", name := "peek", desc := "(I)I" } : Jvm.MethodName) prog_1_method_32_code (3 : Nat) (Option.some Jvm.ClassFile.FieldType.int)) ∈ lw_all := lw_g (lw_at lw_m2 183 rfl) rfl
theorem q505 : (Jvm.Cond.instanceMethod ({ cls := "CrowdedBins", name := "remove", desc := "(I)I" } : Jvm.MethodName)) ∈ lw_all := lw_g (lw_at lw_m2 185 rfl) rfl
theorem q506 : (Jvm.Cond.selects "CrowdedBins" ({ cls := "CrowdedBins", name := "remove", desc := "(I)I" } : Jvm.MethodName) ({ cls := "CrowdedBins", name := "remove", desc := "(I)I" } : Jvm.MethodName)) ∈ lw_all := lw_g (lw_at lw_m2 186 rfl) rfl
theorem q507 : (Jvm.Cond.code ({ cls := "CrowdedBins", name := "remove", desc := "(I)I" } : Jvm.MethodName) prog_1_method_33_code (3 : Nat) (Option.some Jvm.ClassFile.FieldType.int)) ∈ lw_all := lw_g (lw_at lw_m2 187 rfl) rfl
theorem q509 : (Jvm.Cond.instanceMethod ({ cls := "CrowdedBins", name := "adds", desc := "(II)I" } : Jvm.MethodName)) ∈ lw_all := lw_g (lw_at lw_m2 189 rfl) rfl
theorem q510 : (Jvm.Cond.selects "CrowdedBins" ({ cls := "CrowdedBins", name := "adds", desc := "(II)I" } : Jvm.MethodName) ({ cls := "CrowdedBins", name := "adds", desc := "(II)I" } : Jvm.MethodName)) ∈ lw_all := lw_g (lw_at lw_m2 190 rfl) rfl
theorem q511 : (Jvm.Cond.code ({ cls := "CrowdedBins", name := "adds", desc := "(II)I" } : Jvm.MethodName) prog_1_method_34_code (4 : Nat) (Option.some Jvm.ClassFile.FieldType.int)) ∈ lw_all := lw_g (lw_at lw_m2 191 rfl) rfl
theorem q512 : (Jvm.Cond.methodLink "CrowdedBins" (246 : Nat) ({ cls := "java/lang/Math", name := "min", desc := "(II)I" } : Jvm.MethodName)) ∈ lw_all := lw_g (lw_at lw_m2 192 rfl) rfl
theorem q516 : (Jvm.Cond.instanceMethod ({ cls := "CrowdedBins", name := "clears", desc := "()I" } : Jvm.MethodName)) ∈ lw_all := lw_g (lw_at lw_m2 196 rfl) rfl
theorem q517 : (Jvm.Cond.selects "CrowdedBins" ({ cls := "CrowdedBins", name := "clears", desc := "()I" } : Jvm.MethodName) ({ cls := "CrowdedBins", name := "clears", desc := "()I" } : Jvm.MethodName)) ∈ lw_all := lw_g (lw_at lw_m2 197 rfl) rfl
theorem q518 : (Jvm.Cond.code ({ cls := "CrowdedBins", name := "clears", desc := "()I" } : Jvm.MethodName) prog_1_method_35_code (2 : Nat) (Option.some Jvm.ClassFile.FieldType.int)) ∈ lw_all := lw_g (lw_at lw_m2 198 rfl) rfl
theorem q520 : (Jvm.Cond.instanceMethod ({ cls := "CrowdedBins", name := "hashes", desc := "(II)I" } : Jvm.MethodName)) ∈ lw_all := lw_g (lw_at lw_m2 200 rfl) rfl
theorem q521 : (Jvm.Cond.selects "CrowdedBins" ({ cls := "CrowdedBins", name := "hashes", desc := "(II)I" } : Jvm.MethodName) ({ cls := "CrowdedBins", name := "hashes", desc := "(II)I" } : Jvm.MethodName)) ∈ lw_all := lw_g (lw_at lw_m2 201 rfl) rfl
theorem q522 : (Jvm.Cond.code ({ cls := "CrowdedBins", name := "hashes", desc := "(II)I" } : Jvm.MethodName) prog_1_method_36_code (5 : Nat) (Option.some Jvm.ClassFile.FieldType.int)) ∈ lw_all := lw_g (lw_at lw_m2 202 rfl) rfl
theorem q523 : (Jvm.Cond.constantLong "CrowdedBins" (251 : Nat) (999 : Int64)) ∈ lw_all := lw_g (lw_at lw_m2 203 rfl) rfl
theorem q525 : (Jvm.Cond.instanceMethod ({ cls := "CrowdedBins", name := "sets", desc := "(II)I" } : Jvm.MethodName)) ∈ lw_all := lw_g (lw_at lw_m2 205 rfl) rfl
theorem q526 : (Jvm.Cond.selects "CrowdedBins" ({ cls := "CrowdedBins", name := "sets", desc := "(II)I" } : Jvm.MethodName) ({ cls := "CrowdedBins", name := "sets", desc := "(II)I" } : Jvm.MethodName)) ∈ lw_all := lw_g (lw_at lw_m2 206 rfl) rfl
theorem q527 : (Jvm.Cond.code ({ cls := "CrowdedBins", name := "sets", desc := "(II)I" } : Jvm.MethodName) prog_1_method_37_code (4 : Nat) (Option.some Jvm.ClassFile.FieldType.int)) ∈ lw_all := lw_g (lw_at lw_m2 207 rfl) rfl
theorem q528 : (Jvm.Cond.constantLong "CrowdedBins" (253 : Nat) (48 : Int64)) ∈ lw_all := lw_g (lw_at lw_m2 208 rfl) rfl
theorem q530 : (Jvm.Cond.instanceMethod ({ cls := "CrowdedBins", name := "hash", desc := "(I)I" } : Jvm.MethodName)) ∈ lw_all := lw_g (lw_at lw_m2 210 rfl) rfl
theorem q531 : (Jvm.Cond.selects "CrowdedBins" ({ cls := "CrowdedBins", name := "hash", desc := "(I)I" } : Jvm.MethodName) ({ cls := "CrowdedBins", name := "hash", desc := "(I)I" } : Jvm.MethodName)) ∈ lw_all := lw_g (lw_at lw_m2 211 rfl) rfl
theorem q532 : (Jvm.Cond.code ({ cls := "CrowdedBins", name := "hash", desc := "(I)I" } : Jvm.MethodName) prog_1_method_38_code (2 : Nat) (Option.some Jvm.ClassFile.FieldType.int)) ∈ lw_all := lw_g (lw_at lw_m2 212 rfl) rfl
theorem q534 : (Jvm.Cond.instanceMethod ({ cls := "CrowdedBins", name := "steps", desc := "(I)I" } : Jvm.MethodName)) ∈ lw_all := lw_g (lw_at lw_m2 214 rfl) rfl
theorem q535 : (Jvm.Cond.selects "CrowdedBins" ({ cls := "CrowdedBins", name := "steps", desc := "(I)I" } : Jvm.MethodName) ({ cls := "CrowdedBins", name := "steps", desc := "(I)I" } : Jvm.MethodName)) ∈ lw_all := lw_g (lw_at lw_m2 215 rfl) rfl
theorem q536 : (Jvm.Cond.code ({ cls := "CrowdedBins", name := "steps", desc := "(I)I" } : Jvm.MethodName) prog_1_method_39_code (2 : Nat) (Option.some Jvm.ClassFile.FieldType.int)) ∈ lw_all := lw_g (lw_at lw_m2 216 rfl) rfl
theorem q537 : (Jvm.Cond.methodLink "CrowdedBins" (255 : Nat) ({ cls := "CrowdedBins$Bin", name := "steps", desc := "(II)I" } : Jvm.MethodName)) ∈ lw_all := lw_g (lw_at lw_m2 217 rfl) rfl
theorem q547 : (Jvm.Cond.instanceMethod ({ cls := "CrowdedBins", name := "order", desc := "(I)I" } : Jvm.MethodName)) ∈ lw_all := lw_g (lw_at lw_m2 227 rfl) rfl
theorem q548 : (Jvm.Cond.selects "CrowdedBins" ({ cls := "CrowdedBins", name := "order", desc := "(I)I" } : Jvm.MethodName) ({ cls := "CrowdedBins", name := "order", desc := "(I)I" } : Jvm.MethodName)) ∈ lw_all := lw_g (lw_at lw_m2 228 rfl) rfl
theorem q549 : (Jvm.Cond.code ({ cls := "CrowdedBins", name := "order", desc := "(I)I" } : Jvm.MethodName) prog_1_method_40_code (4 : Nat) (Option.some Jvm.ClassFile.FieldType.int)) ∈ lw_all := lw_g (lw_at lw_m2 229 rfl) rfl
theorem q551 : (Jvm.Cond.instanceMethod ({ cls := "CrowdedBins", name := "bin", desc := "(II)I" } : Jvm.MethodName)) ∈ lw_all := lw_g (lw_at lw_m2 231 rfl) rfl
theorem q552 : (Jvm.Cond.selects "CrowdedBins" ({ cls := "CrowdedBins", name := "bin", desc := "(II)I" } : Jvm.MethodName) ({ cls := "CrowdedBins", name := "bin", desc := "(II)I" } : Jvm.MethodName)) ∈ lw_all := lw_g (lw_at lw_m2 232 rfl) rfl
theorem q553 : (Jvm.Cond.code ({ cls := "CrowdedBins", name := "bin", desc := "(II)I" } : Jvm.MethodName) prog_1_method_43_code (3 : Nat) (Option.some Jvm.ClassFile.FieldType.int)) ∈ lw_all := lw_g (lw_at lw_m2 233 rfl) rfl
theorem q554 : (Jvm.Cond.methodLink "CrowdedBins" (264 : Nat) ({ cls := "CrowdedBins", name := "isBin", desc := "(I)Z" } : Jvm.MethodName)) ∈ lw_all := lw_g (lw_at lw_m2 234 rfl) rfl
theorem q555 : (Jvm.Cond.privateMethod ({ cls := "CrowdedBins", name := "isBin", desc := "(I)Z" } : Jvm.MethodName)) ∈ lw_tbl := lw_at lw_m2 235 rfl
theorem q556 : (Jvm.Cond.instanceMethod ({ cls := "CrowdedBins", name := "isBin", desc := "(I)Z" } : Jvm.MethodName)) ∈ lw_all := lw_g (lw_at lw_m2 236 rfl) rfl
theorem q557 : (Jvm.Cond.code ({ cls := "CrowdedBins", name := "isBin", desc := "(I)Z" } : Jvm.MethodName) prog_1_method_41_code (2 : Nat) (Option.some Jvm.ClassFile.FieldType.boolean)) ∈ lw_all := lw_g (lw_at lw_m2 237 rfl) rfl
theorem q558 : (Jvm.Cond.constantLong "CrowdedBins" (267 : Nat) (3 : Int64)) ∈ lw_all := lw_g (lw_at lw_m2 238 rfl) rfl
theorem q559 : (Jvm.Cond.methodLink "CrowdedBins" (269 : Nat) ({ cls := "CrowdedBins", name := "about", desc := "(LCrowdedBins$Bin;I)I" } : Jvm.MethodName)) ∈ lw_all := lw_g (lw_at lw_m2 239 rfl) rfl
theorem q560 : (Jvm.Cond.privateMethod ({ cls := "CrowdedBins", name := "about", desc := "(LCrowdedBins$Bin;I)I" } : Jvm.MethodName)) ∈ lw_tbl := lw_at lw_m3 0 rfl
theorem q561 : (Jvm.Cond.instanceMethod ({ cls := "CrowdedBins", name := "about", desc := "(LCrowdedBins$Bin;I)I" } : Jvm.MethodName)) ∈ lw_all := lw_g (lw_at lw_m3 1 rfl) rfl
theorem q562 : (Jvm.Cond.code ({ cls := "CrowdedBins", name := "about", desc := "(LCrowdedBins$Bin;I)I" } : Jvm.MethodName) prog_1_method_42_code (3 : Nat) (Option.some Jvm.ClassFile.FieldType.int)) ∈ lw_all := lw_g (lw_at lw_m3 2 rfl) rfl
theorem q563 : (Jvm.Cond.methodLink "CrowdedBins" (258 : Nat) ({ cls := "CrowdedBins$Bin", name := "root", desc := "()LCrowdedBins$Entry;" } : Jvm.MethodName)) ∈ lw_all := lw_g (lw_at lw_m3 3 rfl) rfl
theorem q571 : (Jvm.Cond.methodLink "CrowdedBins" (261 : Nat) ({ cls := "CrowdedBins$Bin", name := "levels", desc := "()I" } : Jvm.MethodName)) ∈ lw_all := lw_g (lw_at lw_m3 11 rfl) rfl
theorem q586 : (Jvm.Cond.instanceMethod ({ cls := "CrowdedBins", name := "row", desc := "(II)I" } : Jvm.MethodName)) ∈ lw_all := lw_g (lw_at lw_m3 26 rfl) rfl
theorem q587 : (Jvm.Cond.selects "CrowdedBins" ({ cls := "CrowdedBins", name := "row", desc := "(II)I" } : Jvm.MethodName) ({ cls := "CrowdedBins", name := "row", desc := "(II)I" } : Jvm.MethodName)) ∈ lw_all := lw_g (lw_at lw_m3 27 rfl) rfl
theorem q588 : (Jvm.Cond.code ({ cls := "CrowdedBins", name := "row", desc := "(II)I" } : Jvm.MethodName) prog_1_method_44_code (5 : Nat) (Option.some Jvm.ClassFile.FieldType.int)) ∈ lw_all := lw_g (lw_at lw_m3 28 rfl) rfl
theorem q590 : (Jvm.Cond.instanceMethod ({ cls := "CrowdedBins", name := "node", desc := "(II)I" } : Jvm.MethodName)) ∈ lw_all := lw_g (lw_at lw_m3 30 rfl) rfl
theorem q591 : (Jvm.Cond.selects "CrowdedBins" ({ cls := "CrowdedBins", name := "node", desc := "(II)I" } : Jvm.MethodName) ({ cls := "CrowdedBins", name := "node", desc := "(II)I" } : Jvm.MethodName)) ∈ lw_all := lw_g (lw_at lw_m3 31 rfl) rfl
theorem q592 : (Jvm.Cond.code ({ cls := "CrowdedBins", name := "node", desc := "(II)I" } : Jvm.MethodName) prog_1_method_47_code (5 : Nat) (Option.some Jvm.ClassFile.FieldType.int)) ∈ lw_all := lw_g (lw_at lw_m3 32 rfl) rfl
theorem q593 : (Jvm.Cond.methodLink "CrowdedBins" (286 : Nat) ({ cls := "CrowdedBins", name := "nodeOf", desc := "(LCrowdedBins$Bin;LCrowdedBins$Entry;I)I" } : Jvm.MethodName)) ∈ lw_all := lw_g (lw_at lw_m3 33 rfl) rfl
theorem q594 : (Jvm.Cond.privateMethod ({ cls := "CrowdedBins", name := "nodeOf", desc := "(LCrowdedBins$Bin;LCrowdedBins$Entry;I)I" } : Jvm.MethodName)) ∈ lw_tbl := lw_at lw_m3 34 rfl
theorem q595 : (Jvm.Cond.instanceMethod ({ cls := "CrowdedBins", name := "nodeOf", desc := "(LCrowdedBins$Bin;LCrowdedBins$Entry;I)I" } : Jvm.MethodName)) ∈ lw_all := lw_g (lw_at lw_m3 35 rfl) rfl
theorem q596 : (Jvm.Cond.code ({ cls := "CrowdedBins", name := "nodeOf", desc := "(LCrowdedBins$Bin;LCrowdedBins$Entry;I)I" } : Jvm.MethodName) prog_1_method_46_code (7 : Nat) (Option.some Jvm.ClassFile.FieldType.int)) ∈ lw_all := lw_g (lw_at lw_m3 36 rfl) rfl
theorem q597 : (Jvm.Cond.methodLink "CrowdedBins" (273 : Nat) ({ cls := "CrowdedBins$Entry", name := "place", desc := "(II)I" } : Jvm.MethodName)) ∈ lw_all := lw_g (lw_at lw_m3 37 rfl) rfl
theorem q598 : (Jvm.Cond.methodLink "CrowdedBins" (282 : Nat) ({ cls := "CrowdedBins", name := "keyOf", desc := "(LCrowdedBins$Entry;)I" } : Jvm.MethodName)) ∈ lw_all := lw_g (lw_at lw_m3 38 rfl) rfl
theorem q599 : (Jvm.Cond.static ({ cls := "CrowdedBins", name := "keyOf", desc := "(LCrowdedBins$Entry;)I" } : Jvm.MethodName)) ∈ lw_all := lw_g (lw_at lw_m3 39 rfl) rfl
theorem q600 : (Jvm.Cond.code ({ cls := "CrowdedBins", name := "keyOf", desc := "(LCrowdedBins$Entry;)I" } : Jvm.MethodName) prog_1_method_45_code (1 : Nat) (Option.some Jvm.ClassFile.FieldType.int)) ∈ lw_all := lw_g (lw_at lw_m3 40 rfl) rfl
theorem q601 : (Jvm.Cond.methodLink "CrowdedBins" (290 : Nat) ({ cls := "CrowdedBins", name := "no", desc := "()I" } : Jvm.MethodName)) ∈ lw_all := lw_g (lw_at lw_m3 41 rfl) rfl
theorem q602 : (Jvm.Cond.privateMethod ({ cls := "CrowdedBins", name := "no", desc := "()I" } : Jvm.MethodName)) ∈ lw_tbl := lw_at lw_m3 42 rfl
theorem q603 : (Jvm.Cond.instanceMethod ({ cls := "CrowdedBins", name := "no", desc := "()I" } : Jvm.MethodName)) ∈ lw_all := lw_g (lw_at lw_m3 43 rfl) rfl
theorem q604 : (Jvm.Cond.code ({ cls := "CrowdedBins", name := "no", desc := "()I" } : Jvm.MethodName) prog_1_method_6_code (1 : Nat) (Option.some Jvm.ClassFile.FieldType.int)) ∈ lw_all := lw_g (lw_at lw_m3 44 rfl) rfl
theorem q606 : (Jvm.Cond.instanceMethod ({ cls := "CrowdedBins", name := "count", desc := "(I)I" } : Jvm.MethodName)) ∈ lw_all := lw_g (lw_at lw_m3 46 rfl) rfl
theorem q607 : (Jvm.Cond.selects "CrowdedBins" ({ cls := "CrowdedBins", name := "count", desc := "(I)I" } : Jvm.MethodName) ({ cls := "CrowdedBins", name := "count", desc := "(I)I" } : Jvm.MethodName)) ∈ lw_all := lw_g (lw_at lw_m3 47 rfl) rfl
theorem q608 : (Jvm.Cond.code ({ cls := "CrowdedBins", name := "count", desc := "(I)I" } : Jvm.MethodName) prog_1_method_49_code (2 : Nat) (Option.some Jvm.ClassFile.FieldType.int)) ∈ lw_all := lw_g (lw_at lw_m3 48 rfl) rfl
theorem q609 : (Jvm.Cond.constantLong "CrowdedBins" (296 : Nat) (7 : Int64)) ∈ lw_all := lw_g (lw_at lw_m3 49 rfl) rfl
theorem q610 : (Jvm.Cond.methodLink "CrowdedBins" (298 : Nat) ({ cls := "CrowdedBins", name := "counted", desc := "(I)I" } : Jvm.MethodName)) ∈ lw_all := lw_g (lw_at lw_m3 50 rfl) rfl
theorem q611 : (Jvm.Cond.privateMethod ({ cls := "CrowdedBins", name := "counted", desc := "(I)I" } : Jvm.MethodName)) ∈ lw_tbl := lw_at lw_m3 51 rfl
theorem q612 : (Jvm.Cond.instanceMethod ({ cls := "CrowdedBins", name := "counted", desc := "(I)I" } : Jvm.MethodName)) ∈ lw_all := lw_g (lw_at lw_m3 52 rfl) rfl
theorem q613 : (Jvm.Cond.code ({ cls := "CrowdedBins", name := "counted", desc := "(I)I" } : Jvm.MethodName) prog_1_method_48_code (10 : Nat) (Option.some Jvm.ClassFile.FieldType.int)) ∈ lw_all := lw_g (lw_at lw_m3 53 rfl) rfl
theorem q614 : (Jvm.Cond.methodLink "CrowdedBins" (293 : Nat) ({ cls := "java/lang/Math", name := "max", desc := "(II)I" } : Jvm.MethodName)) ∈ lw_all := lw_g (lw_at lw_m3 54 rfl) rfl
theorem q616 : (Jvm.Cond.instanceMethod ({ cls := "CrowdedBins", name := "opens", desc := "(II)I" } : Jvm.MethodName)) ∈ lw_all := lw_g (lw_at lw_m3 56 rfl) rfl
theorem q617 : (Jvm.Cond.selects "CrowdedBins" ({ cls := "CrowdedBins", name := "opens", desc := "(II)I" } : Jvm.MethodName) ({ cls := "CrowdedBins", name := "opens", desc := "(II)I" } : Jvm.MethodName)) ∈ lw_all := lw_g (lw_at lw_m3 57 rfl) rfl
theorem q618 : (Jvm.Cond.code ({ cls := "CrowdedBins", name := "opens", desc := "(II)I" } : Jvm.MethodName) prog_1_method_52_code (4 : Nat) (Option.some Jvm.ClassFile.FieldType.int)) ∈ lw_all := lw_g (lw_at lw_m3 58 rfl) rfl
theorem q619 : (Jvm.Cond.methodLink "CrowdedBins" (307 : Nat) ({ cls := "CrowdedBins", name := "isCursor", desc := "(I)Z" } : Jvm.MethodName)) ∈ lw_all := lw_g (lw_at lw_m3 59 rfl) rfl
theorem q620 : (Jvm.Cond.static ({ cls := "CrowdedBins", name := "isCursor", desc := "(I)Z" } : Jvm.MethodName)) ∈ lw_all := lw_g (lw_at lw_m3 60 rfl) rfl
theorem q621 : (Jvm.Cond.code ({ cls := "CrowdedBins", name := "isCursor", desc := "(I)Z" } : Jvm.MethodName) prog_1_method_50_code (1 : Nat) (Option.some Jvm.ClassFile.FieldType.boolean)) ∈ lw_all := lw_g (lw_at lw_m3 61 rfl) rfl
theorem q622 : (Jvm.Cond.constantLong "CrowdedBins" (301 : Nat) (2 : Int64)) ∈ lw_all := lw_g (lw_at lw_m3 62 rfl) rfl
theorem q623 : (Jvm.Cond.fieldLink "CrowdedBins" (310 : Nat) "CrowdedBins" "WAYS" "[LCrowdedBins$Way;") ∈ lw_all := lw_g (lw_at lw_m3 63 rfl) rfl
theorem q624 : (Jvm.Cond.laysStatic "CrowdedBins" "WAYS" "[LCrowdedBins$Way;") ∈ lw_tbl := lw_at lw_m3 64 rfl
theorem q625 : (Jvm.Cond.methodLink "CrowdedBins" (314 : Nat) ({ cls := "CrowdedBins$Way", name := "first", desc := "(LCrowdedBins;)LCrowdedBins$Entry;" } : Jvm.MethodName)) ∈ lw_all := lw_g (lw_at lw_m3 65 rfl) rfl
theorem q644 : (Jvm.Cond.instanceMethod ({ cls := "CrowdedBins", name := "next", desc := "(I)I" } : Jvm.MethodName)) ∈ lw_all := lw_g (lw_at lw_m3 84 rfl) rfl
theorem q645 : (Jvm.Cond.selects "CrowdedBins" ({ cls := "CrowdedBins", name := "next", desc := "(I)I" } : Jvm.MethodName) ({ cls := "CrowdedBins", name := "next", desc := "(I)I" } : Jvm.MethodName)) ∈ lw_all := lw_g (lw_at lw_m3 85 rfl) rfl
theorem q646 : (Jvm.Cond.code ({ cls := "CrowdedBins", name := "next", desc := "(I)I" } : Jvm.MethodName) prog_1_method_53_code (3 : Nat) (Option.some Jvm.ClassFile.FieldType.int)) ∈ lw_all := lw_g (lw_at lw_m3 86 rfl) rfl
theorem q647 : (Jvm.Cond.methodLink "CrowdedBins" (327 : Nat) ({ cls := "CrowdedBins", name := "isOpen", desc := "(I)Z" } : Jvm.MethodName)) ∈ lw_all := lw_g (lw_at lw_m3 87 rfl) rfl
theorem q648 : (Jvm.Cond.privateMethod ({ cls := "CrowdedBins", name := "isOpen", desc := "(I)Z" } : Jvm.MethodName)) ∈ lw_tbl := lw_at lw_m3 88 rfl
theorem q649 : (Jvm.Cond.instanceMethod ({ cls := "CrowdedBins", name := "isOpen", desc := "(I)Z" } : Jvm.MethodName)) ∈ lw_all := lw_g (lw_at lw_m3 89 rfl) rfl
theorem q650 : (Jvm.Cond.code ({ cls := "CrowdedBins", name := "isOpen", desc := "(I)Z" } : Jvm.MethodName) prog_1_method_51_code (2 : Nat) (Option.some Jvm.ClassFile.FieldType.boolean)) ∈ lw_all := lw_g (lw_at lw_m3 90 rfl) rfl
theorem q651 : (Jvm.Cond.methodLink "CrowdedBins" (330 : Nat) ({ cls := "CrowdedBins", name := "late", desc := "()I" } : Jvm.MethodName)) ∈ lw_all := lw_g (lw_at lw_m3 91 rfl) rfl
theorem q652 : (Jvm.Cond.privateMethod ({ cls := "CrowdedBins", name := "late", desc := "()I" } : Jvm.MethodName)) ∈ lw_tbl := lw_at lw_m3 92 rfl
theorem q653 : (Jvm.Cond.instanceMethod ({ cls := "CrowdedBins", name := "late", desc := "()I" } : Jvm.MethodName)) ∈ lw_all := lw_g (lw_at lw_m3 93 rfl) rfl
theorem q654 : (Jvm.Cond.code ({ cls := "CrowdedBins", name := "late", desc := "()I" } : Jvm.MethodName) prog_1_method_7_code (1 : Nat) (Option.some Jvm.ClassFile.FieldType.int)) ∈ lw_all := lw_g (lw_at lw_m3 94 rfl) rfl
theorem q655 : (Jvm.Cond.methodLink "CrowdedBins" (333 : Nat) ({ cls := "CrowdedBins$Way", name := "next", desc := "(LCrowdedBins;LCrowdedBins$Entry;)LCrowdedBins$Entry;" } : Jvm.MethodName)) ∈ lw_all := lw_g (lw_at lw_m3 95 rfl) rfl
theorem q669 : (Jvm.Cond.instanceMethod ({ cls := "CrowdedBins", name := "removes", desc := "(I)I" } : Jvm.MethodName)) ∈ lw_all := lw_g (lw_at lw_m3 109 rfl) rfl
theorem q670 : (Jvm.Cond.selects "CrowdedBins" ({ cls := "CrowdedBins", name := "removes", desc := "(I)I" } : Jvm.MethodName) ({ cls := "CrowdedBins", name := "removes", desc := "(I)I" } : Jvm.MethodName)) ∈ lw_all := lw_g (lw_at lw_m3 110 rfl) rfl
theorem q671 : (Jvm.Cond.code ({ cls := "CrowdedBins", name := "removes", desc := "(I)I" } : Jvm.MethodName) prog_1_method_54_code (4 : Nat) (Option.some Jvm.ClassFile.FieldType.int)) ∈ lw_all := lw_g (lw_at lw_m3 111 rfl) rfl
theorem q673 : (Jvm.Cond.instanceMethod ({ cls := "CrowdedBins", name := "resumes", desc := "(I)I" } : Jvm.MethodName)) ∈ lw_all := lw_g (lw_at lw_m3 113 rfl) rfl
theorem q674 : (Jvm.Cond.selects "CrowdedBins" ({ cls := "CrowdedBins", name := "resumes", desc := "(I)I" } : Jvm.MethodName) ({ cls := "CrowdedBins", name := "resumes", desc := "(I)I" } : Jvm.MethodName)) ∈ lw_all := lw_g (lw_at lw_m3 114 rfl) rfl
theorem q675 : (Jvm.Cond.code ({ cls := "CrowdedBins", name := "resumes", desc := "(I)I" } : Jvm.MethodName) prog_1_method_56_code (4 : Nat) (Option.some Jvm.ClassFile.FieldType.int)) ∈ lw_all := lw_g (lw_at lw_m3 115 rfl) rfl
theorem q676 : (Jvm.Cond.methodLink "CrowdedBins" (336 : Nat) ({ cls := "CrowdedBins", name := "yet", desc := "(LCrowdedBins$Cursor;)I" } : Jvm.MethodName)) ∈ lw_all := lw_g (lw_at lw_m3 116 rfl) rfl
theorem q677 : (Jvm.Cond.privateMethod ({ cls := "CrowdedBins", name := "yet", desc := "(LCrowdedBins$Cursor;)I" } : Jvm.MethodName)) ∈ lw_tbl := lw_at lw_m3 117 rfl
theorem q678 : (Jvm.Cond.instanceMethod ({ cls := "CrowdedBins", name := "yet", desc := "(LCrowdedBins$Cursor;)I" } : Jvm.MethodName)) ∈ lw_all := lw_g (lw_at lw_m3 118 rfl) rfl
theorem q679 : (Jvm.Cond.code ({ cls := "CrowdedBins", name := "yet", desc := "(LCrowdedBins$Cursor;)I" } : Jvm.MethodName) prog_1_method_55_code (4 : Nat) (Option.some Jvm.ClassFile.FieldType.int)) ∈ lw_all := lw_g (lw_at lw_m3 119 rfl) rfl
theorem q681 : (Jvm.Cond.instanceMethod ({ cls := "CrowdedBins", name := "left", desc := "(I)I" } : Jvm.MethodName)) ∈ lw_all := lw_g (lw_at lw_m3 121 rfl) rfl
theorem q682 : (Jvm.Cond.selects "CrowdedBins" ({ cls := "CrowdedBins", name := "left", desc := "(I)I" } : Jvm.MethodName) ({ cls := "CrowdedBins", name := "left", desc := "(I)I" } : Jvm.MethodName)) ∈ lw_all := lw_g (lw_at lw_m3 122 rfl) rfl
theorem q683 : (Jvm.Cond.code ({ cls := "CrowdedBins", name := "left", desc := "(I)I" } : Jvm.MethodName) prog_1_method_57_code (2 : Nat) (Option.some Jvm.ClassFile.FieldType.int)) ∈ lw_all := lw_g (lw_at lw_m3 123 rfl) rfl
theorem q685 : (Jvm.Cond.instanceMethod ({ cls := "CrowdedBins", name := "type", desc := "(I)I" } : Jvm.MethodName)) ∈ lw_all := lw_g (lw_at lw_m3 125 rfl) rfl
theorem q686 : (Jvm.Cond.selects "CrowdedBins" ({ cls := "CrowdedBins", name := "type", desc := "(I)I" } : Jvm.MethodName) ({ cls := "CrowdedBins", name := "type", desc := "(I)I" } : Jvm.MethodName)) ∈ lw_all := lw_g (lw_at lw_m3 126 rfl) rfl
theorem q687 : (Jvm.Cond.code ({ cls := "CrowdedBins", name := "type", desc := "(I)I" } : Jvm.MethodName) prog_1_method_58_code (2 : Nat) (Option.some Jvm.ClassFile.FieldType.int)) ∈ lw_all := lw_g (lw_at lw_m3 127 rfl) rfl
theorem q688 : (Jvm.Cond.constantLong "CrowdedBins" (340 : Nat) (127 : Int64)) ∈ lw_all := lw_g (lw_at lw_m3 128 rfl) rfl
theorem q690 : (Jvm.Cond.instanceMethod ({ cls := "CrowdedBins", name := "clear", desc := "()I" } : Jvm.MethodName)) ∈ lw_all := lw_g (lw_at lw_m3 130 rfl) rfl
theorem q691 : (Jvm.Cond.selects "CrowdedBins" ({ cls := "CrowdedBins", name := "clear", desc := "()I" } : Jvm.MethodName) ({ cls := "CrowdedBins", name := "clear", desc := "()I" } : Jvm.MethodName)) ∈ lw_all := lw_g (lw_at lw_m3 131 rfl) rfl
theorem q692 : (Jvm.Cond.code ({ cls := "CrowdedBins", name := "clear", desc := "()I" } : Jvm.MethodName) prog_1_method_59_code (2 : Nat) (Option.some Jvm.ClassFile.FieldType.int)) ∈ lw_all := lw_g (lw_at lw_m3 132 rfl) rfl
theorem q694 : (Jvm.Cond.instanceMethod ({ cls := "CrowdedBins", name := "does", desc := "()I" } : Jvm.MethodName)) ∈ lw_all := lw_g (lw_at lw_m3 134 rfl) rfl
theorem q695 : (Jvm.Cond.selects "CrowdedBins" ({ cls := "CrowdedBins", name := "does", desc := "()I" } : Jvm.MethodName) ({ cls := "CrowdedBins", name := "does", desc := "()I" } : Jvm.MethodName)) ∈ lw_all := lw_g (lw_at lw_m3 135 rfl) rfl
theorem q696 : (Jvm.Cond.codeWith ({ cls := "CrowdedBins", name := "does", desc := "()I" } : Jvm.MethodName) prog_1_method_60_code (4 : Nat) (Option.some Jvm.ClassFile.FieldType.int) [((18 : Nat), (45 : Nat), (70 : Nat), (355 : Nat)), ((18 : Nat), (45 : Nat), (104 : Nat), (0 : Nat)), ((70 : Nat), (79 : Nat), (104 : Nat), (0 : Nat))]) ∈ lw_all := lw_g (lw_at lw_m3 136 rfl) rfl
theorem q697 : (Jvm.Cond.classLink "CrowdedBins" (355 : Nat) "CrowdedBins$Fault") ∈ lw_all := lw_g (lw_at lw_m3 137 rfl) rfl
theorem q698 : (Jvm.Cond.methodLink "CrowdedBins" (345 : Nat) ({ cls := "java/lang/System", name := "arraycopy", desc := "(Ljava/lang/Object;ILjava/lang/Object;II)V" } : Jvm.MethodName)) ∈ lw_all := lw_g (lw_at lw_m3 138 rfl) rfl
theorem q701 : (Jvm.Cond.methodLink "CrowdedBins" (351 : Nat) ({ cls := "CrowdedBins$Reader", name := "reads", desc := "(Z)I" } : Jvm.MethodName)) ∈ lw_all := lw_g (lw_at lw_m3 141 rfl) rfl
theorem q760 : (Jvm.Cond.fieldLinkNest "CrowdedBins" (357 : Nat) "CrowdedBins$Fault" "place" "I" "CrowdedBins") ∈ lw_tbl := lw_at lw_m3 200 rfl
theorem q792 : (Jvm.Cond.instanceMethod ({ cls := "CrowdedBins", name := "back", desc := "()I" } : Jvm.MethodName)) ∈ lw_all := lw_g (lw_at lw_m3 232 rfl) rfl
theorem q793 : (Jvm.Cond.selects "CrowdedBins" ({ cls := "CrowdedBins", name := "back", desc := "()I" } : Jvm.MethodName) ({ cls := "CrowdedBins", name := "back", desc := "()I" } : Jvm.MethodName)) ∈ lw_all := lw_g (lw_at lw_m3 233 rfl) rfl
theorem q794 : (Jvm.Cond.code ({ cls := "CrowdedBins", name := "back", desc := "()I" } : Jvm.MethodName) prog_1_method_61_code (1 : Nat) (Option.some Jvm.ClassFile.FieldType.int)) ∈ lw_all := lw_g (lw_at lw_m3 234 rfl) rfl
theorem q795 : (Jvm.Cond.methodLink "CrowdedBins" (359 : Nat) ({ cls := "CrowdedBins", name := "takes", desc := "(LCrowdedBins$State;)V" } : Jvm.MethodName)) ∈ lw_all := lw_g (lw_at lw_m3 235 rfl) rfl
theorem q796 : (Jvm.Cond.privateMethod ({ cls := "CrowdedBins", name := "takes", desc := "(LCrowdedBins$State;)V" } : Jvm.MethodName)) ∈ lw_tbl := lw_at lw_m3 236 rfl
theorem q797 : (Jvm.Cond.instanceMethod ({ cls := "CrowdedBins", name := "takes", desc := "(LCrowdedBins$State;)V" } : Jvm.MethodName)) ∈ lw_all := lw_g (lw_at lw_m3 237 rfl) rfl
theorem q798 : (Jvm.Cond.code ({ cls := "CrowdedBins", name := "takes", desc := "(LCrowdedBins$State;)V" } : Jvm.MethodName) prog_1_method_25_code (5 : Nat) (Option.none : Option Jvm.ClassFile.FieldType)) ∈ lw_all := lw_g (lw_at lw_m3 238 rfl) rfl
theorem q799 : (Jvm.Cond.methodLink "CrowdedBins" (208 : Nat) ({ cls := "CrowdedBins", name := "ordered", desc := "(I)LCrowdedBins$Entry;" } : Jvm.MethodName)) ∈ lw_all := lw_g (lw_at lw_m3 239 rfl) rfl
theorem q800 : (Jvm.Cond.privateMethod ({ cls := "CrowdedBins", name := "ordered", desc := "(I)LCrowdedBins$Entry;" } : Jvm.MethodName)) ∈ lw_tbl := lw_at lw_m4 0 rfl
theorem q801 : (Jvm.Cond.instanceMethod ({ cls := "CrowdedBins", name := "ordered", desc := "(I)LCrowdedBins$Entry;" } : Jvm.MethodName)) ∈ lw_all := lw_g (lw_at lw_m4 1 rfl) rfl
theorem q802 : (Jvm.Cond.code ({ cls := "CrowdedBins", name := "ordered", desc := "(I)LCrowdedBins$Entry;" } : Jvm.MethodName) prog_1_method_26_code (3 : Nat) (Option.some (Jvm.ClassFile.FieldType.object "CrowdedBins$Entry"))) ∈ lw_all := lw_g (lw_at lw_m4 2 rfl) rfl
theorem q804 : (Jvm.Cond.instanceMethod ({ cls := "CrowdedBins", name := "told", desc := "(I)I" } : Jvm.MethodName)) ∈ lw_all := lw_g (lw_at lw_m4 4 rfl) rfl
theorem q805 : (Jvm.Cond.selects "CrowdedBins" ({ cls := "CrowdedBins", name := "told", desc := "(I)I" } : Jvm.MethodName) ({ cls := "CrowdedBins", name := "told", desc := "(I)I" } : Jvm.MethodName)) ∈ lw_all := lw_g (lw_at lw_m4 5 rfl) rfl
theorem q806 : (Jvm.Cond.code ({ cls := "CrowdedBins", name := "told", desc := "(I)I" } : Jvm.MethodName) prog_1_method_64_code (2 : Nat) (Option.some Jvm.ClassFile.FieldType.int)) ∈ lw_all := lw_g (lw_at lw_m4 6 rfl) rfl
theorem q807 : (Jvm.Cond.constantLong "CrowdedBins" (365 : Nat) (10 : Int64)) ∈ lw_all := lw_g (lw_at lw_m4 7 rfl) rfl
theorem q808 : (Jvm.Cond.methodLink "CrowdedBins" (367 : Nat) ({ cls := "CrowdedBins", name := "toldOf", desc := "(I)I" } : Jvm.MethodName)) ∈ lw_all := lw_g (lw_at lw_m4 8 rfl) rfl
theorem q809 : (Jvm.Cond.privateMethod ({ cls := "CrowdedBins", name := "toldOf", desc := "(I)I" } : Jvm.MethodName)) ∈ lw_tbl := lw_at lw_m4 9 rfl
theorem q810 : (Jvm.Cond.instanceMethod ({ cls := "CrowdedBins", name := "toldOf", desc := "(I)I" } : Jvm.MethodName)) ∈ lw_all := lw_g (lw_at lw_m4 10 rfl) rfl
theorem q811 : (Jvm.Cond.code ({ cls := "CrowdedBins", name := "toldOf", desc := "(I)I" } : Jvm.MethodName) prog_1_method_63_code (2 : Nat) (Option.some Jvm.ClassFile.FieldType.int)) ∈ lw_all := lw_g (lw_at lw_m4 11 rfl) rfl
theorem q812 : (Jvm.Cond.methodLink "CrowdedBins" (362 : Nat) ({ cls := "CrowdedBins", name := "openSet", desc := "()I" } : Jvm.MethodName)) ∈ lw_all := lw_g (lw_at lw_m4 12 rfl) rfl
theorem q813 : (Jvm.Cond.privateMethod ({ cls := "CrowdedBins", name := "openSet", desc := "()I" } : Jvm.MethodName)) ∈ lw_tbl := lw_at lw_m4 13 rfl
theorem q814 : (Jvm.Cond.instanceMethod ({ cls := "CrowdedBins", name := "openSet", desc := "()I" } : Jvm.MethodName)) ∈ lw_all := lw_g (lw_at lw_m4 14 rfl) rfl
theorem q815 : (Jvm.Cond.code ({ cls := "CrowdedBins", name := "openSet", desc := "()I" } : Jvm.MethodName) prog_1_method_62_code (3 : Nat) (Option.some Jvm.ClassFile.FieldType.int)) ∈ lw_all := lw_g (lw_at lw_m4 15 rfl) rfl
theorem q817 : (Jvm.Cond.instanceMethod ({ cls := "CrowdedBins", name := "digest", desc := "()J" } : Jvm.MethodName)) ∈ lw_all := lw_g (lw_at lw_m4 17 rfl) rfl
theorem q818 : (Jvm.Cond.selects "CrowdedBins" ({ cls := "CrowdedBins", name := "digest", desc := "()J" } : Jvm.MethodName) ({ cls := "CrowdedBins", name := "digest", desc := "()J" } : Jvm.MethodName)) ∈ lw_all := lw_g (lw_at lw_m4 18 rfl) rfl
theorem q819 : (Jvm.Cond.code ({ cls := "CrowdedBins", name := "digest", desc := "()J" } : Jvm.MethodName) prog_1_method_65_code (5 : Nat) (Option.some Jvm.ClassFile.FieldType.long)) ∈ lw_all := lw_g (lw_at lw_m4 19 rfl) rfl
theorem q820 : (Jvm.Cond.constantLong "CrowdedBins" (370 : Nat) (1842 : Int64)) ∈ lw_all := lw_g (lw_at lw_m4 20 rfl) rfl
theorem q821 : (Jvm.Cond.constantLong "CrowdedBins" (372 : Nat) (31 : Int64)) ∈ lw_all := lw_g (lw_at lw_m4 21 rfl) rfl
theorem in_X0 : ∀ w ∈ wsX00, w ∈ lw_all := lw_in wsX00 [194, 196, 198, 200, 202, 204, 206, 208, 210, 212, 214, 216, 218, 220, 222, 224, 226, 228, 230] (by decide +kernel) (by decide +kernel)
