/-! CrowdedBins$Entry -/
set_option maxRecDepth 100000
def RX7 : String := "CrowdedBins$Entry"
def TX7 : u_T := fun k => match k with
  | 0 => ("CrowdedBins$Entry", "key", "I", true)
  | 1 => ("CrowdedBins$Entry", "value", "I", false)
  | 2 => ("CrowdedBins$Entry", "priority", "I", true)
  | 3 => ("CrowdedBins$Entry", "hash", "I", false)
  | 4 => ("CrowdedBins$Entry", "before", "LCrowdedBins$Entry;", false)
  | 5 => ("CrowdedBins$Entry", "after", "LCrowdedBins$Entry;", false)
  | 6 => ("CrowdedBins$Entry", "ahead", "LCrowdedBins$Entry;", false)
  | 7 => ("CrowdedBins$Entry", "behind", "LCrowdedBins$Entry;", false)
  | 8 => ("CrowdedBins$Entry", "left", "LCrowdedBins$Entry;", false)
  | _ => ("CrowdedBins$Entry", "right", "LCrowdedBins$Entry;", false)
def tyX7 : Nat → FieldType := fun k => match k with
  | 0 => .int
  | 1 => .int
  | 2 => .int
  | 3 => .int
  | 4 => .object "CrowdedBins$Entry"
  | 5 => .object "CrowdedBins$Entry"
  | 6 => .object "CrowdedBins$Entry"
  | 7 => .object "CrowdedBins$Entry"
  | 8 => .object "CrowdedBins$Entry"
  | _ => .object "CrowdedBins$Entry"
abbrev wsX70 : List Cond := u_ws RX7 TX7 10
theorem nmX7 : ∀ a, a < 10 → ∀ b, b < 10 → a ≠ b → (TX7 a).2.1 ≠ (TX7 b).2.1 := by decide +kernel
theorem tyX7_ok : ∀ k, k < 10 → parseFieldDescriptor (TX7 k).2.2.1 = some (tyX7 k) := by decide +kernel
abbrev cX7_place : ByteArray := prog_4_method_2_code
def yX7_place : MethodName := ⟨RX7, "place", "(II)I"⟩
def dkwX7_place_0 : List UInt8 := [27, 42, 180, 0, 27, 159, 0, 12, 27, 42, 180, 0, 27, 100, 167, 0, 9, 28, 42, 180, 0, 9, 100, 172]
abbrev dktX7_place_0 : List UInt8 := dkwX7_place_0 ++ []
theorem dksX7_place_0 : cX7_place.data.toList.drop 0 = dktX7_place_0 := by decide +kernel
theorem dX7_place_0 : decode cX7_place 0 = .ok (.iload_n 1, 1) := dk_27 (dk_at dksX7_place_0 0 rfl rfl)
theorem dX7_place_1 : decode cX7_place 1 = .ok (.aload_n 0, 1) := dk_42 (dk_at dksX7_place_0 1 rfl rfl)
theorem dX7_place_2 : decode cX7_place 2 = .ok (.getfield 27, 3) := dk_180 0 27 (dk_at dksX7_place_0 2 rfl rfl)
theorem dX7_place_5 : decode cX7_place 5 = .ok (.if_icmp .eq 12, 3) := dk_159 0 12 (dk_at dksX7_place_0 5 rfl rfl)
theorem dX7_place_8 : decode cX7_place 8 = .ok (.iload_n 1, 1) := dk_27 (dk_at dksX7_place_0 8 rfl rfl)
theorem dX7_place_9 : decode cX7_place 9 = .ok (.aload_n 0, 1) := dk_42 (dk_at dksX7_place_0 9 rfl rfl)
theorem dX7_place_10 : decode cX7_place 10 = .ok (.getfield 27, 3) := dk_180 0 27 (dk_at dksX7_place_0 10 rfl rfl)
theorem dX7_place_13 : decode cX7_place 13 = .ok (.isub, 1) := dk_100 (dk_at dksX7_place_0 13 rfl rfl)
theorem dX7_place_14 : decode cX7_place 14 = .ok (.goto 9, 3) := dk_167 0 9 (dk_at dksX7_place_0 14 rfl rfl)
theorem dX7_place_17 : decode cX7_place 17 = .ok (.iload_n 2, 1) := dk_28 (dk_at dksX7_place_0 17 rfl rfl)
theorem dX7_place_18 : decode cX7_place 18 = .ok (.aload_n 0, 1) := dk_42 (dk_at dksX7_place_0 18 rfl rfl)
theorem dX7_place_19 : decode cX7_place 19 = .ok (.getfield 9, 3) := dk_180 0 9 (dk_at dksX7_place_0 19 rfl rfl)
theorem dX7_place_22 : decode cX7_place 22 = .ok (.isub, 1) := dk_100 (dk_at dksX7_place_0 22 rfl rfl)
theorem dX7_place_23 : decode cX7_place 23 = .ok (.ireturn, 1) := dk_172 (dk_at dksX7_place_0 23 rfl rfl)
abbrev cX7_init : ByteArray := prog_4_method_1_code
def yX7_init : MethodName := ⟨RX7, "<init>", "(II)V"⟩
def dkwX7_init_1 : List UInt8 := [97, 20, 0, 22, 127, 136, 181, 0, 24, 177]
abbrev dktX7_init_1 : List UInt8 := dkwX7_init_1 ++ []
def dkwX7_init_0 : List UInt8 := [42, 183, 0, 3, 42, 27, 181, 0, 9, 42, 28, 181, 0, 15, 42, 27, 133, 20, 0, 18, 105, 20, 0, 20]
abbrev dktX7_init_0 : List UInt8 := dkwX7_init_0 ++ dktX7_init_1
theorem dksX7_init_0 : cX7_init.data.toList.drop 0 = dktX7_init_0 := by decide +kernel
theorem dksX7_init_1 : cX7_init.data.toList.drop 24 = dktX7_init_1 := dk_seg dksX7_init_0 24 rfl rfl
theorem dX7_init_0 : decode cX7_init 0 = .ok (.aload_n 0, 1) := dk_42 (dk_at dksX7_init_0 0 rfl rfl)
theorem dX7_init_1 : decode cX7_init 1 = .ok (.invokespecial 3, 3) := dk_183 0 3 (dk_at dksX7_init_0 1 rfl rfl)
theorem dX7_init_4 : decode cX7_init 4 = .ok (.aload_n 0, 1) := dk_42 (dk_at dksX7_init_0 4 rfl rfl)
theorem dX7_init_5 : decode cX7_init 5 = .ok (.iload_n 1, 1) := dk_27 (dk_at dksX7_init_0 5 rfl rfl)
theorem dX7_init_6 : decode cX7_init 6 = .ok (.putfield 9, 3) := dk_181 0 9 (dk_at dksX7_init_0 6 rfl rfl)
theorem dX7_init_9 : decode cX7_init 9 = .ok (.aload_n 0, 1) := dk_42 (dk_at dksX7_init_0 9 rfl rfl)
theorem dX7_init_10 : decode cX7_init 10 = .ok (.iload_n 2, 1) := dk_28 (dk_at dksX7_init_0 10 rfl rfl)
theorem dX7_init_11 : decode cX7_init 11 = .ok (.putfield 15, 3) := dk_181 0 15 (dk_at dksX7_init_0 11 rfl rfl)
theorem dX7_init_14 : decode cX7_init 14 = .ok (.aload_n 0, 1) := dk_42 (dk_at dksX7_init_0 14 rfl rfl)
theorem dX7_init_15 : decode cX7_init 15 = .ok (.iload_n 1, 1) := dk_27 (dk_at dksX7_init_0 15 rfl rfl)
theorem dX7_init_16 : decode cX7_init 16 = .ok (.i2l, 1) := dk_133 (dk_at dksX7_init_0 16 rfl rfl)
theorem dX7_init_17 : decode cX7_init 17 = .ok (.ldc2_w 18, 3) := dk_20 0 18 (dk_at dksX7_init_0 17 rfl rfl)
theorem dX7_init_20 : decode cX7_init 20 = .ok (.lmul, 1) := dk_105 (dk_at dksX7_init_0 20 rfl rfl)
theorem dX7_init_21 : decode cX7_init 21 = .ok (.ldc2_w 20, 3) := dk_20 0 20 (dk_at dksX7_init_0 21 rfl rfl)
theorem dX7_init_24 : decode cX7_init 24 = .ok (.ladd, 1) := dk_97 (dk_at dksX7_init_1 0 rfl rfl)
theorem dX7_init_25 : decode cX7_init 25 = .ok (.ldc2_w 22, 3) := dk_20 0 22 (dk_at dksX7_init_1 1 rfl rfl)
theorem dX7_init_28 : decode cX7_init 28 = .ok (.land, 1) := dk_127 (dk_at dksX7_init_1 4 rfl rfl)
theorem dX7_init_29 : decode cX7_init 29 = .ok (.l2i, 1) := dk_136 (dk_at dksX7_init_1 5 rfl rfl)
theorem dX7_init_30 : decode cX7_init 30 = .ok (.putfield 24, 3) := dk_181 0 24 (dk_at dksX7_init_1 6 rfl rfl)
theorem dX7_init_33 : decode cX7_init 33 = .ok (.return_, 1) := dk_177 (dk_at dksX7_init_1 9 rfl rfl)
abbrev cX7_isAbove : ByteArray := prog_4_method_3_code
def yX7_isAbove : MethodName := ⟨RX7, "isAbove", "(LCrowdedBins$Entry;)Z"⟩
def dkwX7_isAbove_2 : List UInt8 := [162, 0, 7, 4, 167, 0, 4, 3, 172]
abbrev dktX7_isAbove_2 : List UInt8 := dkwX7_isAbove_2 ++ []
def dkwX7_isAbove_1 : List UInt8 := [180, 0, 24, 164, 0, 7, 4, 167, 0, 23, 3, 167, 0, 19, 42, 180, 0, 9, 43, 180, 0, 9]
abbrev dktX7_isAbove_1 : List UInt8 := dkwX7_isAbove_1 ++ dktX7_isAbove_2
def dkwX7_isAbove_0 : List UInt8 := [43, 198, 0, 14, 42, 180, 0, 24, 43, 180, 0, 24, 159, 0, 26, 43, 198, 0, 14, 42, 180, 0, 24, 43]
abbrev dktX7_isAbove_0 : List UInt8 := dkwX7_isAbove_0 ++ dktX7_isAbove_1
theorem dksX7_isAbove_0 : cX7_isAbove.data.toList.drop 0 = dktX7_isAbove_0 := by decide +kernel
theorem dksX7_isAbove_1 : cX7_isAbove.data.toList.drop 24 = dktX7_isAbove_1 := dk_seg dksX7_isAbove_0 24 rfl rfl
theorem dksX7_isAbove_2 : cX7_isAbove.data.toList.drop 46 = dktX7_isAbove_2 := dk_seg dksX7_isAbove_1 22 rfl rfl
theorem dX7_isAbove_0 : decode cX7_isAbove 0 = .ok (.aload_n 1, 1) := dk_43 (dk_at dksX7_isAbove_0 0 rfl rfl)
theorem dX7_isAbove_1 : decode cX7_isAbove 1 = .ok (.ifnull 14, 3) := dk_198 0 14 (dk_at dksX7_isAbove_0 1 rfl rfl)
theorem dX7_isAbove_4 : decode cX7_isAbove 4 = .ok (.aload_n 0, 1) := dk_42 (dk_at dksX7_isAbove_0 4 rfl rfl)
theorem dX7_isAbove_5 : decode cX7_isAbove 5 = .ok (.getfield 24, 3) := dk_180 0 24 (dk_at dksX7_isAbove_0 5 rfl rfl)
theorem dX7_isAbove_8 : decode cX7_isAbove 8 = .ok (.aload_n 1, 1) := dk_43 (dk_at dksX7_isAbove_0 8 rfl rfl)
theorem dX7_isAbove_9 : decode cX7_isAbove 9 = .ok (.getfield 24, 3) := dk_180 0 24 (dk_at dksX7_isAbove_0 9 rfl rfl)
theorem dX7_isAbove_12 : decode cX7_isAbove 12 = .ok (.if_icmp .eq 26, 3) := dk_159 0 26 (dk_at dksX7_isAbove_0 12 rfl rfl)
theorem dX7_isAbove_15 : decode cX7_isAbove 15 = .ok (.aload_n 1, 1) := dk_43 (dk_at dksX7_isAbove_0 15 rfl rfl)
theorem dX7_isAbove_16 : decode cX7_isAbove 16 = .ok (.ifnull 14, 3) := dk_198 0 14 (dk_at dksX7_isAbove_0 16 rfl rfl)
theorem dX7_isAbove_19 : decode cX7_isAbove 19 = .ok (.aload_n 0, 1) := dk_42 (dk_at dksX7_isAbove_0 19 rfl rfl)
theorem dX7_isAbove_20 : decode cX7_isAbove 20 = .ok (.getfield 24, 3) := dk_180 0 24 (dk_at dksX7_isAbove_0 20 rfl rfl)
theorem dX7_isAbove_23 : decode cX7_isAbove 23 = .ok (.aload_n 1, 1) := dk_43 (dk_at dksX7_isAbove_0 23 rfl rfl)
theorem dX7_isAbove_24 : decode cX7_isAbove 24 = .ok (.getfield 24, 3) := dk_180 0 24 (dk_at dksX7_isAbove_1 0 rfl rfl)
theorem dX7_isAbove_27 : decode cX7_isAbove 27 = .ok (.if_icmp .le 7, 3) := dk_164 0 7 (dk_at dksX7_isAbove_1 3 rfl rfl)
theorem dX7_isAbove_30 : decode cX7_isAbove 30 = .ok (.iconst 1, 1) := dk_4 (dk_at dksX7_isAbove_1 6 rfl rfl)
theorem dX7_isAbove_31 : decode cX7_isAbove 31 = .ok (.goto 23, 3) := dk_167 0 23 (dk_at dksX7_isAbove_1 7 rfl rfl)
theorem dX7_isAbove_34 : decode cX7_isAbove 34 = .ok (.iconst 0, 1) := dk_3 (dk_at dksX7_isAbove_1 10 rfl rfl)
theorem dX7_isAbove_35 : decode cX7_isAbove 35 = .ok (.goto 19, 3) := dk_167 0 19 (dk_at dksX7_isAbove_1 11 rfl rfl)
theorem dX7_isAbove_38 : decode cX7_isAbove 38 = .ok (.aload_n 0, 1) := dk_42 (dk_at dksX7_isAbove_1 14 rfl rfl)
theorem dX7_isAbove_39 : decode cX7_isAbove 39 = .ok (.getfield 9, 3) := dk_180 0 9 (dk_at dksX7_isAbove_1 15 rfl rfl)
theorem dX7_isAbove_42 : decode cX7_isAbove 42 = .ok (.aload_n 1, 1) := dk_43 (dk_at dksX7_isAbove_1 18 rfl rfl)
theorem dX7_isAbove_43 : decode cX7_isAbove 43 = .ok (.getfield 9, 3) := dk_180 0 9 (dk_at dksX7_isAbove_1 19 rfl rfl)
theorem dX7_isAbove_46 : decode cX7_isAbove 46 = .ok (.if_icmp .ge 7, 3) := dk_162 0 7 (dk_at dksX7_isAbove_2 0 rfl rfl)
theorem dX7_isAbove_49 : decode cX7_isAbove 49 = .ok (.iconst 1, 1) := dk_4 (dk_at dksX7_isAbove_2 3 rfl rfl)
theorem dX7_isAbove_50 : decode cX7_isAbove 50 = .ok (.goto 4, 3) := dk_167 0 4 (dk_at dksX7_isAbove_2 4 rfl rfl)
theorem dX7_isAbove_53 : decode cX7_isAbove 53 = .ok (.iconst 0, 1) := dk_3 (dk_at dksX7_isAbove_2 7 rfl rfl)
theorem dX7_isAbove_54 : decode cX7_isAbove 54 = .ok (.ireturn, 1) := dk_172 (dk_at dksX7_isAbove_2 8 rfl rfl)
theorem q88 : (Jvm.Cond.initialized "CrowdedBins$Entry") ∈ lw_all := lw_g (lw_at lw_m1 8 rfl) rfl
theorem q289 : (Jvm.Cond.instanceMethod ({ cls := "CrowdedBins$Entry", name := "place", desc := "(II)I" } : Jvm.MethodName)) ∈ lw_all := lw_g (lw_at lw_m1 209 rfl) rfl
theorem q290 : (Jvm.Cond.selects "CrowdedBins$Entry" ({ cls := "CrowdedBins$Entry", name := "place", desc := "(II)I" } : Jvm.MethodName) ({ cls := "CrowdedBins$Entry", name := "place", desc := "(II)I" } : Jvm.MethodName)) ∈ lw_all := lw_g (lw_at lw_m1 210 rfl) rfl
theorem q291 : (Jvm.Cond.code ({ cls := "CrowdedBins$Entry", name := "place", desc := "(II)I" } : Jvm.MethodName) prog_4_method_2_code (3 : Nat) (Option.some Jvm.ClassFile.FieldType.int)) ∈ lw_all := lw_g (lw_at lw_m1 211 rfl) rfl
theorem q350 : (Jvm.Cond.instantiable "CrowdedBins$Entry" (10 : Nat)) ∈ lw_all := lw_g (lw_at lw_m2 30 rfl) rfl
theorem q352 : (Jvm.Cond.instanceMethod ({ cls := "CrowdedBins$Entry", name := "<init>", desc := "(II)V" } : Jvm.MethodName)) ∈ lw_all := lw_g (lw_at lw_m2 32 rfl) rfl
theorem q353 : (Jvm.Cond.code ({ cls := "CrowdedBins$Entry", name := "<init>", desc := "(II)V" } : Jvm.MethodName) prog_4_method_1_code (3 : Nat) (Option.none : Option Jvm.ClassFile.FieldType)) ∈ lw_all := lw_g (lw_at lw_m2 33 rfl) rfl
theorem q354 : (Jvm.Cond.methodLink "CrowdedBins$Entry" (3 : Nat) ({ cls := "java/lang/Object", name := "<init>", desc := "()V" } : Jvm.MethodName)) ∈ lw_all := lw_g (lw_at lw_m2 34 rfl) rfl
theorem q355 : (Jvm.Cond.constantLong "CrowdedBins$Entry" (18 : Nat) (40503 : Int64)) ∈ lw_all := lw_g (lw_at lw_m2 35 rfl) rfl
theorem q356 : (Jvm.Cond.constantLong "CrowdedBins$Entry" (20 : Nat) (12345 : Int64)) ∈ lw_all := lw_g (lw_at lw_m2 36 rfl) rfl
theorem q357 : (Jvm.Cond.constantLong "CrowdedBins$Entry" (22 : Nat) (65535 : Int64)) ∈ lw_all := lw_g (lw_at lw_m2 37 rfl) rfl
theorem q358 : (Jvm.Cond.fieldLink "CrowdedBins$Entry" (9 : Nat) "CrowdedBins$Entry" "key" "I") ∈ lw_all := lw_g (lw_at lw_m2 38 rfl) rfl
theorem q362 : (Jvm.Cond.fieldLink "CrowdedBins$Entry" (15 : Nat) "CrowdedBins$Entry" "value" "I") ∈ lw_all := lw_g (lw_at lw_m2 42 rfl) rfl
theorem q364 : (Jvm.Cond.fieldLink "CrowdedBins$Entry" (24 : Nat) "CrowdedBins$Entry" "priority" "I") ∈ lw_all := lw_g (lw_at lw_m2 44 rfl) rfl
theorem q365 : (Jvm.Cond.fieldLink "CrowdedBins$Entry" (27 : Nat) "CrowdedBins$Entry" "hash" "I") ∈ lw_all := lw_g (lw_at lw_m2 45 rfl) rfl
theorem q382 : (Jvm.Cond.laysFinal "CrowdedBins$Entry" "CrowdedBins$Entry" "key" "I") ∈ lw_all := lw_g (lw_at lw_m2 62 rfl) rfl
theorem q383 : (Jvm.Cond.soleField "CrowdedBins$Entry" "key") ∈ lw_all := lw_g (lw_at lw_m2 63 rfl) rfl
theorem q384 : (Jvm.Cond.lays "CrowdedBins$Entry" "CrowdedBins$Entry" "value" "I") ∈ lw_all := lw_g (lw_at lw_m2 64 rfl) rfl
theorem q385 : (Jvm.Cond.soleField "CrowdedBins$Entry" "value") ∈ lw_all := lw_g (lw_at lw_m2 65 rfl) rfl
theorem q386 : (Jvm.Cond.laysFinal "CrowdedBins$Entry" "CrowdedBins$Entry" "priority" "I") ∈ lw_all := lw_g (lw_at lw_m2 66 rfl) rfl
theorem q387 : (Jvm.Cond.soleField "CrowdedBins$Entry" "priority") ∈ lw_all := lw_g (lw_at lw_m2 67 rfl) rfl
theorem q388 : (Jvm.Cond.lays "CrowdedBins$Entry" "CrowdedBins$Entry" "hash" "I") ∈ lw_all := lw_g (lw_at lw_m2 68 rfl) rfl
theorem q389 : (Jvm.Cond.soleField "CrowdedBins$Entry" "hash") ∈ lw_all := lw_g (lw_at lw_m2 69 rfl) rfl
theorem q390 : (Jvm.Cond.lays "CrowdedBins$Entry" "CrowdedBins$Entry" "before" "LCrowdedBins$Entry;") ∈ lw_all := lw_g (lw_at lw_m2 70 rfl) rfl
theorem q391 : (Jvm.Cond.soleField "CrowdedBins$Entry" "before") ∈ lw_all := lw_g (lw_at lw_m2 71 rfl) rfl
theorem q392 : (Jvm.Cond.lays "CrowdedBins$Entry" "CrowdedBins$Entry" "after" "LCrowdedBins$Entry;") ∈ lw_all := lw_g (lw_at lw_m2 72 rfl) rfl
theorem q393 : (Jvm.Cond.soleField "CrowdedBins$Entry" "after") ∈ lw_all := lw_g (lw_at lw_m2 73 rfl) rfl
theorem q394 : (Jvm.Cond.lays "CrowdedBins$Entry" "CrowdedBins$Entry" "ahead" "LCrowdedBins$Entry;") ∈ lw_all := lw_g (lw_at lw_m2 74 rfl) rfl
theorem q395 : (Jvm.Cond.soleField "CrowdedBins$Entry" "ahead") ∈ lw_all := lw_g (lw_at lw_m2 75 rfl) rfl
theorem q396 : (Jvm.Cond.lays "CrowdedBins$Entry" "CrowdedBins$Entry" "behind" "LCrowdedBins$Entry;") ∈ lw_all := lw_g (lw_at lw_m2 76 rfl) rfl
theorem q397 : (Jvm.Cond.soleField "CrowdedBins$Entry" "behind") ∈ lw_all := lw_g (lw_at lw_m2 77 rfl) rfl
theorem q398 : (Jvm.Cond.lays "CrowdedBins$Entry" "CrowdedBins$Entry" "left" "LCrowdedBins$Entry;") ∈ lw_all := lw_g (lw_at lw_m2 78 rfl) rfl
theorem q399 : (Jvm.Cond.soleField "CrowdedBins$Entry" "left") ∈ lw_all := lw_g (lw_at lw_m2 79 rfl) rfl
theorem q400 : (Jvm.Cond.lays "CrowdedBins$Entry" "CrowdedBins$Entry" "right" "LCrowdedBins$Entry;") ∈ lw_all := lw_g (lw_at lw_m2 80 rfl) rfl
theorem q401 : (Jvm.Cond.soleField "CrowdedBins$Entry" "right") ∈ lw_all := lw_g (lw_at lw_m2 81 rfl) rfl
theorem q402 : (Jvm.Cond.superclass "CrowdedBins$Entry" "java/lang/Object") ∈ lw_all := lw_g (lw_at lw_m2 82 rfl) rfl
theorem q425 : (Jvm.Cond.instanceMethod ({ cls := "CrowdedBins$Entry", name := "isAbove", desc := "(LCrowdedBins$Entry;)Z" } : Jvm.MethodName)) ∈ lw_all := lw_g (lw_at lw_m2 105 rfl) rfl
theorem q426 : (Jvm.Cond.selects "CrowdedBins$Entry" ({ cls := "CrowdedBins$Entry", name := "isAbove", desc := "(LCrowdedBins$Entry;)Z" } : Jvm.MethodName) ({ cls := "CrowdedBins$Entry", name := "isAbove", desc := "(LCrowdedBins$Entry;)Z" } : Jvm.MethodName)) ∈ lw_all := lw_g (lw_at lw_m2 106 rfl) rfl
theorem q427 : (Jvm.Cond.code ({ cls := "CrowdedBins$Entry", name := "isAbove", desc := "(LCrowdedBins$Entry;)Z" } : Jvm.MethodName) prog_4_method_3_code (2 : Nat) (Option.some Jvm.ClassFile.FieldType.boolean)) ∈ lw_all := lw_g (lw_at lw_m2 107 rfl) rfl
theorem in_X7 : ∀ w ∈ wsX70, w ∈ lw_all := lw_in wsX70 [382, 384, 386, 388, 390, 392, 394, 396, 398, 400] (by decide +kernel) (by decide +kernel)

/-! CrowdedBins$Bin -/
set_option maxRecDepth 100000
def RX3 : String := "CrowdedBins$Bin"
abbrev cX3_init : ByteArray := prog_2_method_1_code
def yX3_init : MethodName := ⟨RX3, "<init>", "()V"⟩
theorem dX3_init_0 : decode cX3_init 0 = .ok (.aload_n 0, 1) := by decide +kernel
theorem dX3_init_1 : decode cX3_init 1 = .ok (.invokespecial 1, 3) := by decide +kernel
theorem dX3_init_4 : decode cX3_init 4 = .ok (.return_, 1) := by decide +kernel
abbrev cX3_first : ByteArray := prog_2_method_5_code
def yX3_first : MethodName := ⟨RX3, "first", "()LCrowdedBins$Entry;"⟩
theorem dX3_first_0 : decode cX3_first 0 = .ok (.aload_n 0, 1) := by decide +kernel
theorem dX3_first_1 : decode cX3_first 1 = .ok (.getfield 21, 3) := by decide +kernel
theorem dX3_first_4 : decode cX3_first 4 = .ok (.areturn, 1) := by decide +kernel
abbrev cX3_size : ByteArray := prog_2_method_6_code
def yX3_size : MethodName := ⟨RX3, "size", "()I"⟩
theorem dX3_size_0 : decode cX3_size 0 = .ok (.aload_n 0, 1) := by decide +kernel
theorem dX3_size_1 : decode cX3_size 1 = .ok (.getfield 24, 3) := by decide +kernel
theorem dX3_size_4 : decode cX3_size 4 = .ok (.ireturn, 1) := by decide +kernel
abbrev cX3_comes : ByteArray := prog_2_method_2_code
def yX3_comes : MethodName := ⟨RX3, "comes", "(LCrowdedBins$Entry;)V"⟩
def dkwX3_comes_2 : List UInt8 := [4, 96, 181, 0, 24, 177]
abbrev dktX3_comes_2 : List UInt8 := dkwX3_comes_2 ++ []
def dkwX3_comes_1 : List UInt8 := [181, 0, 21, 167, 0, 11, 42, 180, 0, 7, 43, 181, 0, 18, 42, 43, 181, 0, 7, 42, 89, 180, 0, 24]
abbrev dktX3_comes_1 : List UInt8 := dkwX3_comes_1 ++ dktX3_comes_2
def dkwX3_comes_0 : List UInt8 := [43, 42, 180, 0, 7, 181, 0, 13, 43, 1, 181, 0, 18, 42, 180, 0, 7, 199, 0, 11, 42, 43]
abbrev dktX3_comes_0 : List UInt8 := dkwX3_comes_0 ++ dktX3_comes_1
theorem dksX3_comes_0 : cX3_comes.data.toList.drop 0 = dktX3_comes_0 := by decide +kernel
theorem dksX3_comes_1 : cX3_comes.data.toList.drop 22 = dktX3_comes_1 := dk_seg dksX3_comes_0 22 rfl rfl
theorem dksX3_comes_2 : cX3_comes.data.toList.drop 46 = dktX3_comes_2 := dk_seg dksX3_comes_1 24 rfl rfl
theorem dX3_comes_0 : decode cX3_comes 0 = .ok (.aload_n 1, 1) := dk_43 (dk_at dksX3_comes_0 0 rfl rfl)
theorem dX3_comes_1 : decode cX3_comes 1 = .ok (.aload_n 0, 1) := dk_42 (dk_at dksX3_comes_0 1 rfl rfl)
theorem dX3_comes_2 : decode cX3_comes 2 = .ok (.getfield 7, 3) := dk_180 0 7 (dk_at dksX3_comes_0 2 rfl rfl)
theorem dX3_comes_5 : decode cX3_comes 5 = .ok (.putfield 13, 3) := dk_181 0 13 (dk_at dksX3_comes_0 5 rfl rfl)
theorem dX3_comes_8 : decode cX3_comes 8 = .ok (.aload_n 1, 1) := dk_43 (dk_at dksX3_comes_0 8 rfl rfl)
theorem dX3_comes_9 : decode cX3_comes 9 = .ok (.aconst_null, 1) := dk_1 (dk_at dksX3_comes_0 9 rfl rfl)
theorem dX3_comes_10 : decode cX3_comes 10 = .ok (.putfield 18, 3) := dk_181 0 18 (dk_at dksX3_comes_0 10 rfl rfl)
theorem dX3_comes_13 : decode cX3_comes 13 = .ok (.aload_n 0, 1) := dk_42 (dk_at dksX3_comes_0 13 rfl rfl)
theorem dX3_comes_14 : decode cX3_comes 14 = .ok (.getfield 7, 3) := dk_180 0 7 (dk_at dksX3_comes_0 14 rfl rfl)
theorem dX3_comes_17 : decode cX3_comes 17 = .ok (.ifnonnull 11, 3) := dk_199 0 11 (dk_at dksX3_comes_0 17 rfl rfl)
theorem dX3_comes_20 : decode cX3_comes 20 = .ok (.aload_n 0, 1) := dk_42 (dk_at dksX3_comes_0 20 rfl rfl)
theorem dX3_comes_21 : decode cX3_comes 21 = .ok (.aload_n 1, 1) := dk_43 (dk_at dksX3_comes_0 21 rfl rfl)
theorem dX3_comes_22 : decode cX3_comes 22 = .ok (.putfield 21, 3) := dk_181 0 21 (dk_at dksX3_comes_1 0 rfl rfl)
theorem dX3_comes_25 : decode cX3_comes 25 = .ok (.goto 11, 3) := dk_167 0 11 (dk_at dksX3_comes_1 3 rfl rfl)
theorem dX3_comes_28 : decode cX3_comes 28 = .ok (.aload_n 0, 1) := dk_42 (dk_at dksX3_comes_1 6 rfl rfl)
theorem dX3_comes_29 : decode cX3_comes 29 = .ok (.getfield 7, 3) := dk_180 0 7 (dk_at dksX3_comes_1 7 rfl rfl)
theorem dX3_comes_32 : decode cX3_comes 32 = .ok (.aload_n 1, 1) := dk_43 (dk_at dksX3_comes_1 10 rfl rfl)
theorem dX3_comes_33 : decode cX3_comes 33 = .ok (.putfield 18, 3) := dk_181 0 18 (dk_at dksX3_comes_1 11 rfl rfl)
theorem dX3_comes_36 : decode cX3_comes 36 = .ok (.aload_n 0, 1) := dk_42 (dk_at dksX3_comes_1 14 rfl rfl)
theorem dX3_comes_37 : decode cX3_comes 37 = .ok (.aload_n 1, 1) := dk_43 (dk_at dksX3_comes_1 15 rfl rfl)
theorem dX3_comes_38 : decode cX3_comes 38 = .ok (.putfield 7, 3) := dk_181 0 7 (dk_at dksX3_comes_1 16 rfl rfl)
theorem dX3_comes_41 : decode cX3_comes 41 = .ok (.aload_n 0, 1) := dk_42 (dk_at dksX3_comes_1 19 rfl rfl)
theorem dX3_comes_42 : decode cX3_comes 42 = .ok (.dup, 1) := dk_89 (dk_at dksX3_comes_1 20 rfl rfl)
theorem dX3_comes_43 : decode cX3_comes 43 = .ok (.getfield 24, 3) := dk_180 0 24 (dk_at dksX3_comes_1 21 rfl rfl)
theorem dX3_comes_46 : decode cX3_comes 46 = .ok (.iconst 1, 1) := dk_4 (dk_at dksX3_comes_2 0 rfl rfl)
theorem dX3_comes_47 : decode cX3_comes 47 = .ok (.iadd, 1) := dk_96 (dk_at dksX3_comes_2 1 rfl rfl)
theorem dX3_comes_48 : decode cX3_comes 48 = .ok (.putfield 24, 3) := dk_181 0 24 (dk_at dksX3_comes_2 2 rfl rfl)
theorem dX3_comes_51 : decode cX3_comes 51 = .ok (.return_, 1) := dk_177 (dk_at dksX3_comes_2 5 rfl rfl)
abbrev cX3_takes : ByteArray := prog_2_method_4_code
def yX3_takes : MethodName := ⟨RX3, "takes", "(LCrowdedBins$Bin;)V"⟩
def dkwX3_takes_1 : List UInt8 := [177]
abbrev dktX3_takes_1 : List UInt8 := dkwX3_takes_1 ++ []
def dkwX3_takes_0 : List UInt8 := [43, 180, 0, 21, 77, 44, 198, 0, 18, 44, 180, 0, 18, 78, 42, 44, 182, 0, 28, 45, 77, 167, 255, 240]
abbrev dktX3_takes_0 : List UInt8 := dkwX3_takes_0 ++ dktX3_takes_1
theorem dksX3_takes_0 : cX3_takes.data.toList.drop 0 = dktX3_takes_0 := by decide +kernel
theorem dksX3_takes_1 : cX3_takes.data.toList.drop 24 = dktX3_takes_1 := dk_seg dksX3_takes_0 24 rfl rfl
theorem dX3_takes_0 : decode cX3_takes 0 = .ok (.aload_n 1, 1) := dk_43 (dk_at dksX3_takes_0 0 rfl rfl)
theorem dX3_takes_1 : decode cX3_takes 1 = .ok (.getfield 21, 3) := dk_180 0 21 (dk_at dksX3_takes_0 1 rfl rfl)
theorem dX3_takes_4 : decode cX3_takes 4 = .ok (.astore_n 2, 1) := dk_77 (dk_at dksX3_takes_0 4 rfl rfl)
theorem dX3_takes_5 : decode cX3_takes 5 = .ok (.aload_n 2, 1) := dk_44 (dk_at dksX3_takes_0 5 rfl rfl)
theorem dX3_takes_6 : decode cX3_takes 6 = .ok (.ifnull 18, 3) := dk_198 0 18 (dk_at dksX3_takes_0 6 rfl rfl)
theorem dX3_takes_9 : decode cX3_takes 9 = .ok (.aload_n 2, 1) := dk_44 (dk_at dksX3_takes_0 9 rfl rfl)
theorem dX3_takes_10 : decode cX3_takes 10 = .ok (.getfield 18, 3) := dk_180 0 18 (dk_at dksX3_takes_0 10 rfl rfl)
theorem dX3_takes_13 : decode cX3_takes 13 = .ok (.astore_n 3, 1) := dk_78 (dk_at dksX3_takes_0 13 rfl rfl)
theorem dX3_takes_14 : decode cX3_takes 14 = .ok (.aload_n 0, 1) := dk_42 (dk_at dksX3_takes_0 14 rfl rfl)
theorem dX3_takes_15 : decode cX3_takes 15 = .ok (.aload_n 2, 1) := dk_44 (dk_at dksX3_takes_0 15 rfl rfl)
theorem dX3_takes_16 : decode cX3_takes 16 = .ok (.invokevirtual 28, 3) := dk_182 0 28 (dk_at dksX3_takes_0 16 rfl rfl)
theorem dX3_takes_19 : decode cX3_takes 19 = .ok (.aload_n 3, 1) := dk_45 (dk_at dksX3_takes_0 19 rfl rfl)
theorem dX3_takes_20 : decode cX3_takes 20 = .ok (.astore_n 2, 1) := dk_77 (dk_at dksX3_takes_0 20 rfl rfl)
theorem dX3_takes_21 : decode cX3_takes 21 = .ok (.goto (-16), 3) := dk_167 255 240 (dk_at dksX3_takes_0 21 rfl rfl)
theorem dX3_takes_24 : decode cX3_takes 24 = .ok (.return_, 1) := dk_177 (dk_at dksX3_takes_1 0 rfl rfl)
abbrev cX3_goes : ByteArray := prog_2_method_3_code
def yX3_goes : MethodName := ⟨RX3, "goes", "(LCrowdedBins$Entry;)V"⟩
def dkwX3_goes_2 : List UInt8 := [43, 180, 0, 18, 43, 180, 0, 13, 181, 0, 13, 42, 89, 180, 0, 24, 4, 100, 181, 0, 24, 177]
abbrev dktX3_goes_2 : List UInt8 := dkwX3_goes_2 ++ []
def dkwX3_goes_1 : List UInt8 := [180, 0, 18, 181, 0, 18, 43, 180, 0, 18, 199, 0, 14, 42, 43, 180, 0, 13, 181, 0, 7, 167, 0, 14]
abbrev dktX3_goes_1 : List UInt8 := dkwX3_goes_1 ++ dktX3_goes_2
def dkwX3_goes_0 : List UInt8 := [43, 180, 0, 13, 199, 0, 14, 42, 43, 180, 0, 18, 181, 0, 21, 167, 0, 14, 43, 180, 0, 13, 43]
abbrev dktX3_goes_0 : List UInt8 := dkwX3_goes_0 ++ dktX3_goes_1
theorem dksX3_goes_0 : cX3_goes.data.toList.drop 0 = dktX3_goes_0 := by decide +kernel
theorem dksX3_goes_1 : cX3_goes.data.toList.drop 23 = dktX3_goes_1 := dk_seg dksX3_goes_0 23 rfl rfl
theorem dksX3_goes_2 : cX3_goes.data.toList.drop 47 = dktX3_goes_2 := dk_seg dksX3_goes_1 24 rfl rfl
theorem dX3_goes_0 : decode cX3_goes 0 = .ok (.aload_n 1, 1) := dk_43 (dk_at dksX3_goes_0 0 rfl rfl)
theorem dX3_goes_1 : decode cX3_goes 1 = .ok (.getfield 13, 3) := dk_180 0 13 (dk_at dksX3_goes_0 1 rfl rfl)
theorem dX3_goes_4 : decode cX3_goes 4 = .ok (.ifnonnull 14, 3) := dk_199 0 14 (dk_at dksX3_goes_0 4 rfl rfl)
theorem dX3_goes_7 : decode cX3_goes 7 = .ok (.aload_n 0, 1) := dk_42 (dk_at dksX3_goes_0 7 rfl rfl)
theorem dX3_goes_8 : decode cX3_goes 8 = .ok (.aload_n 1, 1) := dk_43 (dk_at dksX3_goes_0 8 rfl rfl)
theorem dX3_goes_9 : decode cX3_goes 9 = .ok (.getfield 18, 3) := dk_180 0 18 (dk_at dksX3_goes_0 9 rfl rfl)
theorem dX3_goes_12 : decode cX3_goes 12 = .ok (.putfield 21, 3) := dk_181 0 21 (dk_at dksX3_goes_0 12 rfl rfl)
theorem dX3_goes_15 : decode cX3_goes 15 = .ok (.goto 14, 3) := dk_167 0 14 (dk_at dksX3_goes_0 15 rfl rfl)
theorem dX3_goes_18 : decode cX3_goes 18 = .ok (.aload_n 1, 1) := dk_43 (dk_at dksX3_goes_0 18 rfl rfl)
theorem dX3_goes_19 : decode cX3_goes 19 = .ok (.getfield 13, 3) := dk_180 0 13 (dk_at dksX3_goes_0 19 rfl rfl)
theorem dX3_goes_22 : decode cX3_goes 22 = .ok (.aload_n 1, 1) := dk_43 (dk_at dksX3_goes_0 22 rfl rfl)
theorem dX3_goes_23 : decode cX3_goes 23 = .ok (.getfield 18, 3) := dk_180 0 18 (dk_at dksX3_goes_1 0 rfl rfl)
theorem dX3_goes_26 : decode cX3_goes 26 = .ok (.putfield 18, 3) := dk_181 0 18 (dk_at dksX3_goes_1 3 rfl rfl)
theorem dX3_goes_29 : decode cX3_goes 29 = .ok (.aload_n 1, 1) := dk_43 (dk_at dksX3_goes_1 6 rfl rfl)
theorem dX3_goes_30 : decode cX3_goes 30 = .ok (.getfield 18, 3) := dk_180 0 18 (dk_at dksX3_goes_1 7 rfl rfl)
theorem dX3_goes_33 : decode cX3_goes 33 = .ok (.ifnonnull 14, 3) := dk_199 0 14 (dk_at dksX3_goes_1 10 rfl rfl)
theorem dX3_goes_36 : decode cX3_goes 36 = .ok (.aload_n 0, 1) := dk_42 (dk_at dksX3_goes_1 13 rfl rfl)
theorem dX3_goes_37 : decode cX3_goes 37 = .ok (.aload_n 1, 1) := dk_43 (dk_at dksX3_goes_1 14 rfl rfl)
theorem dX3_goes_38 : decode cX3_goes 38 = .ok (.getfield 13, 3) := dk_180 0 13 (dk_at dksX3_goes_1 15 rfl rfl)
theorem dX3_goes_41 : decode cX3_goes 41 = .ok (.putfield 7, 3) := dk_181 0 7 (dk_at dksX3_goes_1 18 rfl rfl)
theorem dX3_goes_44 : decode cX3_goes 44 = .ok (.goto 14, 3) := dk_167 0 14 (dk_at dksX3_goes_1 21 rfl rfl)
theorem dX3_goes_47 : decode cX3_goes 47 = .ok (.aload_n 1, 1) := dk_43 (dk_at dksX3_goes_2 0 rfl rfl)
theorem dX3_goes_48 : decode cX3_goes 48 = .ok (.getfield 18, 3) := dk_180 0 18 (dk_at dksX3_goes_2 1 rfl rfl)
theorem dX3_goes_51 : decode cX3_goes 51 = .ok (.aload_n 1, 1) := dk_43 (dk_at dksX3_goes_2 4 rfl rfl)
theorem dX3_goes_52 : decode cX3_goes 52 = .ok (.getfield 13, 3) := dk_180 0 13 (dk_at dksX3_goes_2 5 rfl rfl)
theorem dX3_goes_55 : decode cX3_goes 55 = .ok (.putfield 13, 3) := dk_181 0 13 (dk_at dksX3_goes_2 8 rfl rfl)
theorem dX3_goes_58 : decode cX3_goes 58 = .ok (.aload_n 0, 1) := dk_42 (dk_at dksX3_goes_2 11 rfl rfl)
theorem dX3_goes_59 : decode cX3_goes 59 = .ok (.dup, 1) := dk_89 (dk_at dksX3_goes_2 12 rfl rfl)
theorem dX3_goes_60 : decode cX3_goes 60 = .ok (.getfield 24, 3) := dk_180 0 24 (dk_at dksX3_goes_2 13 rfl rfl)
theorem dX3_goes_63 : decode cX3_goes 63 = .ok (.iconst 1, 1) := dk_4 (dk_at dksX3_goes_2 16 rfl rfl)
theorem dX3_goes_64 : decode cX3_goes 64 = .ok (.isub, 1) := dk_100 (dk_at dksX3_goes_2 17 rfl rfl)
theorem dX3_goes_65 : decode cX3_goes 65 = .ok (.putfield 24, 3) := dk_181 0 24 (dk_at dksX3_goes_2 18 rfl rfl)
theorem dX3_goes_68 : decode cX3_goes 68 = .ok (.return_, 1) := dk_177 (dk_at dksX3_goes_2 21 rfl rfl)
abbrev cX3_root : ByteArray := prog_2_method_9_code
def yX3_root : MethodName := ⟨RX3, "root", "()LCrowdedBins$Entry;"⟩
theorem dX3_root_0 : decode cX3_root 0 = .ok (.aconst_null, 1) := by decide +kernel
theorem dX3_root_1 : decode cX3_root 1 = .ok (.areturn, 1) := by decide +kernel
abbrev cX3_levels : ByteArray := prog_2_method_10_code
def yX3_levels : MethodName := ⟨RX3, "levels", "()I"⟩
theorem dX3_levels_0 : decode cX3_levels 0 = .ok (.iconst 0, 1) := by decide +kernel
theorem dX3_levels_1 : decode cX3_levels 1 = .ok (.ireturn, 1) := by decide +kernel
theorem q84 : (Jvm.Cond.initialized "CrowdedBins$Bin") ∈ lw_all := lw_g (lw_at lw_m1 4 rfl) rfl
theorem q156 : (Jvm.Cond.instanceMethod ({ cls := "CrowdedBins$Bin", name := "<init>", desc := "()V" } : Jvm.MethodName)) ∈ lw_all := lw_g (lw_at lw_m1 76 rfl) rfl
theorem q157 : (Jvm.Cond.code ({ cls := "CrowdedBins$Bin", name := "<init>", desc := "()V" } : Jvm.MethodName) prog_2_method_1_code (1 : Nat) (Option.none : Option Jvm.ClassFile.FieldType)) ∈ lw_all := lw_g (lw_at lw_m1 77 rfl) rfl
theorem q158 : (Jvm.Cond.methodLink "CrowdedBins$Bin" (1 : Nat) ({ cls := "java/lang/Object", name := "<init>", desc := "()V" } : Jvm.MethodName)) ∈ lw_all := lw_g (lw_at lw_m1 78 rfl) rfl
theorem q159 : (Jvm.Cond.fieldLink "CrowdedBins$Bin" (21 : Nat) "CrowdedBins$Bin" "first" "LCrowdedBins$Entry;") ∈ lw_all := lw_g (lw_at lw_m1 79 rfl) rfl
theorem q160 : (Jvm.Cond.fieldLink "CrowdedBins$Bin" (7 : Nat) "CrowdedBins$Bin" "last" "LCrowdedBins$Entry;") ∈ lw_all := lw_g (lw_at lw_m1 80 rfl) rfl
theorem q161 : (Jvm.Cond.fieldLink "CrowdedBins$Bin" (24 : Nat) "CrowdedBins$Bin" "many" "I") ∈ lw_all := lw_g (lw_at lw_m1 81 rfl) rfl
theorem q163 : (Jvm.Cond.soleField "CrowdedBins$Bin" "first") ∈ lw_all := lw_g (lw_at lw_m1 83 rfl) rfl
theorem q165 : (Jvm.Cond.soleField "CrowdedBins$Bin" "last") ∈ lw_all := lw_g (lw_at lw_m1 85 rfl) rfl
theorem q167 : (Jvm.Cond.soleField "CrowdedBins$Bin" "many") ∈ lw_all := lw_g (lw_at lw_m1 87 rfl) rfl
theorem q274 : (Jvm.Cond.declares ({ cls := "CrowdedBins$Bin", name := "finds", desc := "(II)LCrowdedBins$Entry;" } : Jvm.MethodName)) ∈ lw_tbl := lw_at lw_m1 194 rfl
theorem q275 : (Jvm.Cond.sameMethod "CrowdedBins$Bin" "CrowdedBins$Bin" "finds" "(II)LCrowdedBins$Entry;") ∈ lw_all := lw_g (lw_at lw_m1 195 rfl) rfl
theorem q281 : (Jvm.Cond.declares ({ cls := "CrowdedBins$Bin", name := "first", desc := "()LCrowdedBins$Entry;" } : Jvm.MethodName)) ∈ lw_tbl := lw_at lw_m1 201 rfl
theorem q283 : (Jvm.Cond.instanceMethod ({ cls := "CrowdedBins$Bin", name := "first", desc := "()LCrowdedBins$Entry;" } : Jvm.MethodName)) ∈ lw_all := lw_g (lw_at lw_m1 203 rfl) rfl
theorem q284 : (Jvm.Cond.code ({ cls := "CrowdedBins$Bin", name := "first", desc := "()LCrowdedBins$Entry;" } : Jvm.MethodName) prog_2_method_5_code (1 : Nat) (Option.some (Jvm.ClassFile.FieldType.object "CrowdedBins$Entry"))) ∈ lw_all := lw_g (lw_at lw_m1 204 rfl) rfl
theorem q338 : (Jvm.Cond.instanceMethod ({ cls := "CrowdedBins$Bin", name := "size", desc := "()I" } : Jvm.MethodName)) ∈ lw_all := lw_g (lw_at lw_m2 18 rfl) rfl
theorem q339 : (Jvm.Cond.sameMethod "CrowdedBins$Bin" "CrowdedBins$Bin" "size" "()I") ∈ lw_all := lw_g (lw_at lw_m2 19 rfl) rfl
theorem q342 : (Jvm.Cond.code ({ cls := "CrowdedBins$Bin", name := "size", desc := "()I" } : Jvm.MethodName) prog_2_method_6_code (1 : Nat) (Option.some Jvm.ClassFile.FieldType.int)) ∈ lw_all := lw_g (lw_at lw_m2 22 rfl) rfl
theorem q373 : (Jvm.Cond.fieldLinkNest "CrowdedBins$Bin" (13 : Nat) "CrowdedBins$Entry" "ahead" "LCrowdedBins$Entry;" "CrowdedBins") ∈ lw_tbl := lw_at lw_m2 53 rfl
theorem q374 : (Jvm.Cond.fieldLinkNest "CrowdedBins$Bin" (18 : Nat) "CrowdedBins$Entry" "behind" "LCrowdedBins$Entry;" "CrowdedBins") ∈ lw_tbl := lw_at lw_m2 54 rfl
theorem q413 : (Jvm.Cond.instanceMethod ({ cls := "CrowdedBins$Bin", name := "comes", desc := "(LCrowdedBins$Entry;)V" } : Jvm.MethodName)) ∈ lw_all := lw_g (lw_at lw_m2 93 rfl) rfl
theorem q414 : (Jvm.Cond.sameMethod "CrowdedBins$Bin" "CrowdedBins$Bin" "comes" "(LCrowdedBins$Entry;)V") ∈ lw_all := lw_g (lw_at lw_m2 94 rfl) rfl
theorem q431 : (Jvm.Cond.code ({ cls := "CrowdedBins$Bin", name := "comes", desc := "(LCrowdedBins$Entry;)V" } : Jvm.MethodName) prog_2_method_2_code (2 : Nat) (Option.none : Option Jvm.ClassFile.FieldType)) ∈ lw_all := lw_g (lw_at lw_m2 111 rfl) rfl
theorem q438 : (Jvm.Cond.declares ({ cls := "CrowdedBins$Bin", name := "comes", desc := "(LCrowdedBins$Entry;)V" } : Jvm.MethodName)) ∈ lw_tbl := lw_at lw_m2 118 rfl
theorem q442 : (Jvm.Cond.declares ({ cls := "CrowdedBins$Bin", name := "size", desc := "()I" } : Jvm.MethodName)) ∈ lw_tbl := lw_at lw_m2 122 rfl
theorem q459 : (Jvm.Cond.instanceMethod ({ cls := "CrowdedBins$Bin", name := "takes", desc := "(LCrowdedBins$Bin;)V" } : Jvm.MethodName)) ∈ lw_all := lw_g (lw_at lw_m2 139 rfl) rfl
theorem q460 : (Jvm.Cond.sameMethod "CrowdedBins$Bin" "CrowdedBins$Bin" "takes" "(LCrowdedBins$Bin;)V") ∈ lw_all := lw_g (lw_at lw_m2 140 rfl) rfl
theorem q463 : (Jvm.Cond.code ({ cls := "CrowdedBins$Bin", name := "takes", desc := "(LCrowdedBins$Bin;)V" } : Jvm.MethodName) prog_2_method_4_code (4 : Nat) (Option.none : Option Jvm.ClassFile.FieldType)) ∈ lw_all := lw_g (lw_at lw_m2 143 rfl) rfl
theorem q464 : (Jvm.Cond.methodLink "CrowdedBins$Bin" (28 : Nat) ({ cls := "CrowdedBins$Bin", name := "comes", desc := "(LCrowdedBins$Entry;)V" } : Jvm.MethodName)) ∈ lw_all := lw_g (lw_at lw_m2 144 rfl) rfl
theorem q478 : (Jvm.Cond.instanceMethod ({ cls := "CrowdedBins$Bin", name := "goes", desc := "(LCrowdedBins$Entry;)V" } : Jvm.MethodName)) ∈ lw_all := lw_g (lw_at lw_m2 158 rfl) rfl
theorem q479 : (Jvm.Cond.sameMethod "CrowdedBins$Bin" "CrowdedBins$Bin" "goes" "(LCrowdedBins$Entry;)V") ∈ lw_all := lw_g (lw_at lw_m2 159 rfl) rfl
theorem q491 : (Jvm.Cond.code ({ cls := "CrowdedBins$Bin", name := "goes", desc := "(LCrowdedBins$Entry;)V" } : Jvm.MethodName) prog_2_method_3_code (2 : Nat) (Option.none : Option Jvm.ClassFile.FieldType)) ∈ lw_all := lw_g (lw_at lw_m2 171 rfl) rfl
theorem q538 : (Jvm.Cond.declares ({ cls := "CrowdedBins$Bin", name := "steps", desc := "(II)I" } : Jvm.MethodName)) ∈ lw_tbl := lw_at lw_m2 218 rfl
theorem q539 : (Jvm.Cond.sameMethod "CrowdedBins$Bin" "CrowdedBins$Bin" "steps" "(II)I") ∈ lw_all := lw_g (lw_at lw_m2 219 rfl) rfl
theorem q564 : (Jvm.Cond.instanceMethod ({ cls := "CrowdedBins$Bin", name := "root", desc := "()LCrowdedBins$Entry;" } : Jvm.MethodName)) ∈ lw_all := lw_g (lw_at lw_m3 4 rfl) rfl
theorem q565 : (Jvm.Cond.sameMethod "CrowdedBins$Bin" "CrowdedBins$Bin" "root" "()LCrowdedBins$Entry;") ∈ lw_all := lw_g (lw_at lw_m3 5 rfl) rfl
theorem q570 : (Jvm.Cond.code ({ cls := "CrowdedBins$Bin", name := "root", desc := "()LCrowdedBins$Entry;" } : Jvm.MethodName) prog_2_method_9_code (1 : Nat) (Option.some (Jvm.ClassFile.FieldType.object "CrowdedBins$Entry"))) ∈ lw_all := lw_g (lw_at lw_m3 10 rfl) rfl
theorem q572 : (Jvm.Cond.instanceMethod ({ cls := "CrowdedBins$Bin", name := "levels", desc := "()I" } : Jvm.MethodName)) ∈ lw_all := lw_g (lw_at lw_m3 12 rfl) rfl
theorem q573 : (Jvm.Cond.sameMethod "CrowdedBins$Bin" "CrowdedBins$Bin" "levels" "()I") ∈ lw_all := lw_g (lw_at lw_m3 13 rfl) rfl
theorem q584 : (Jvm.Cond.code ({ cls := "CrowdedBins$Bin", name := "levels", desc := "()I" } : Jvm.MethodName) prog_2_method_10_code (1 : Nat) (Option.some Jvm.ClassFile.FieldType.int)) ∈ lw_all := lw_g (lw_at lw_m3 24 rfl) rfl
theorem q1187 : (Jvm.Cond.sameMethod "CrowdedBins$Bin" "CrowdedBins$Bin" "first" "()LCrowdedBins$Entry;") ∈ lw_all := lw_g (lw_at lw_m5 147 rfl) rfl

/-! CrowdedBins$List -/
set_option maxRecDepth 100000
def RX4 : String := "CrowdedBins$List"
def TX4 : u_T := fun k => match k with
  | 0 => ("CrowdedBins$Bin", "first", "LCrowdedBins$Entry;", false)
  | 1 => ("CrowdedBins$Bin", "last", "LCrowdedBins$Entry;", false)
  | _ => ("CrowdedBins$Bin", "many", "I", false)
def tyX4 : Nat → FieldType := fun k => match k with
  | 0 => .object "CrowdedBins$Entry"
  | 1 => .object "CrowdedBins$Entry"
  | _ => .int
abbrev wsX40 : List Cond := u_ws RX4 TX4 3
theorem nmX4 : ∀ a, a < 3 → ∀ b, b < 3 → a ≠ b → (TX4 a).2.1 ≠ (TX4 b).2.1 := by decide +kernel
theorem tyX4_ok : ∀ k, k < 3 → parseFieldDescriptor (TX4 k).2.2.1 = some (tyX4 k) := by decide +kernel
abbrev cX4_init : ByteArray := prog_6_method_1_code
def yX4_init : MethodName := ⟨RX4, "<init>", "()V"⟩
theorem dX4_init_0 : decode cX4_init 0 = .ok (.aload_n 0, 1) := by decide +kernel
theorem dX4_init_1 : decode cX4_init 1 = .ok (.invokespecial 1, 3) := by decide +kernel
theorem dX4_init_4 : decode cX4_init 4 = .ok (.return_, 1) := by decide +kernel
abbrev cX4_finds : ByteArray := prog_6_method_2_code
def yX4_finds : MethodName := ⟨RX4, "finds", "(II)LCrowdedBins$Entry;"⟩
def dkwX4_finds_1 : List UInt8 := [167, 255, 239, 45, 176]
abbrev dktX4_finds_1 : List UInt8 := dkwX4_finds_1 ++ []
def dkwX4_finds_0 : List UInt8 := [42, 182, 0, 7, 78, 45, 198, 0, 19, 45, 180, 0, 13, 28, 159, 0, 11, 45, 180, 0, 19, 78]
abbrev dktX4_finds_0 : List UInt8 := dkwX4_finds_0 ++ dktX4_finds_1
theorem dksX4_finds_0 : cX4_finds.data.toList.drop 0 = dktX4_finds_0 := by decide +kernel
theorem dksX4_finds_1 : cX4_finds.data.toList.drop 22 = dktX4_finds_1 := dk_seg dksX4_finds_0 22 rfl rfl
theorem dX4_finds_0 : decode cX4_finds 0 = .ok (.aload_n 0, 1) := dk_42 (dk_at dksX4_finds_0 0 rfl rfl)
theorem dX4_finds_1 : decode cX4_finds 1 = .ok (.invokevirtual 7, 3) := dk_182 0 7 (dk_at dksX4_finds_0 1 rfl rfl)
theorem dX4_finds_4 : decode cX4_finds 4 = .ok (.astore_n 3, 1) := dk_78 (dk_at dksX4_finds_0 4 rfl rfl)
theorem dX4_finds_5 : decode cX4_finds 5 = .ok (.aload_n 3, 1) := dk_45 (dk_at dksX4_finds_0 5 rfl rfl)
theorem dX4_finds_6 : decode cX4_finds 6 = .ok (.ifnull 19, 3) := dk_198 0 19 (dk_at dksX4_finds_0 6 rfl rfl)
theorem dX4_finds_9 : decode cX4_finds 9 = .ok (.aload_n 3, 1) := dk_45 (dk_at dksX4_finds_0 9 rfl rfl)
theorem dX4_finds_10 : decode cX4_finds 10 = .ok (.getfield 13, 3) := dk_180 0 13 (dk_at dksX4_finds_0 10 rfl rfl)
theorem dX4_finds_13 : decode cX4_finds 13 = .ok (.iload_n 2, 1) := dk_28 (dk_at dksX4_finds_0 13 rfl rfl)
theorem dX4_finds_14 : decode cX4_finds 14 = .ok (.if_icmp .eq 11, 3) := dk_159 0 11 (dk_at dksX4_finds_0 14 rfl rfl)
theorem dX4_finds_17 : decode cX4_finds 17 = .ok (.aload_n 3, 1) := dk_45 (dk_at dksX4_finds_0 17 rfl rfl)
theorem dX4_finds_18 : decode cX4_finds 18 = .ok (.getfield 19, 3) := dk_180 0 19 (dk_at dksX4_finds_0 18 rfl rfl)
theorem dX4_finds_21 : decode cX4_finds 21 = .ok (.astore_n 3, 1) := dk_78 (dk_at dksX4_finds_0 21 rfl rfl)
theorem dX4_finds_22 : decode cX4_finds 22 = .ok (.goto (-17), 3) := dk_167 255 239 (dk_at dksX4_finds_1 0 rfl rfl)
theorem dX4_finds_25 : decode cX4_finds 25 = .ok (.aload_n 3, 1) := dk_45 (dk_at dksX4_finds_1 3 rfl rfl)
theorem dX4_finds_26 : decode cX4_finds 26 = .ok (.areturn, 1) := dk_176 (dk_at dksX4_finds_1 4 rfl rfl)
abbrev cX4_steps : ByteArray := prog_6_method_3_code
def yX4_steps : MethodName := ⟨RX4, "steps", "(II)I"⟩
def dkwX4_steps_1 : List UInt8 := [160, 0, 7, 1, 167, 0, 8, 25, 4, 180, 0, 19, 58, 4, 167, 255, 228, 29, 172]
abbrev dktX4_steps_1 : List UInt8 := dkwX4_steps_1 ++ []
def dkwX4_steps_0 : List UInt8 := [3, 62, 42, 182, 0, 7, 58, 4, 25, 4, 198, 0, 29, 132, 3, 1, 25, 4, 180, 0, 13, 28]
abbrev dktX4_steps_0 : List UInt8 := dkwX4_steps_0 ++ dktX4_steps_1
theorem dksX4_steps_0 : cX4_steps.data.toList.drop 0 = dktX4_steps_0 := by decide +kernel
theorem dksX4_steps_1 : cX4_steps.data.toList.drop 22 = dktX4_steps_1 := dk_seg dksX4_steps_0 22 rfl rfl
theorem dX4_steps_0 : decode cX4_steps 0 = .ok (.iconst 0, 1) := dk_3 (dk_at dksX4_steps_0 0 rfl rfl)
theorem dX4_steps_1 : decode cX4_steps 1 = .ok (.istore_n 3, 1) := dk_62 (dk_at dksX4_steps_0 1 rfl rfl)
theorem dX4_steps_2 : decode cX4_steps 2 = .ok (.aload_n 0, 1) := dk_42 (dk_at dksX4_steps_0 2 rfl rfl)
theorem dX4_steps_3 : decode cX4_steps 3 = .ok (.invokevirtual 7, 3) := dk_182 0 7 (dk_at dksX4_steps_0 3 rfl rfl)
theorem dX4_steps_6 : decode cX4_steps 6 = .ok (.astore 4, 2) := dk_58 4 (dk_at dksX4_steps_0 6 rfl rfl)
theorem dX4_steps_8 : decode cX4_steps 8 = .ok (.aload 4, 2) := dk_25 4 (dk_at dksX4_steps_0 8 rfl rfl)
theorem dX4_steps_10 : decode cX4_steps 10 = .ok (.ifnull 29, 3) := dk_198 0 29 (dk_at dksX4_steps_0 10 rfl rfl)
theorem dX4_steps_13 : decode cX4_steps 13 = .ok (.iinc 3 1, 3) := dk_132 3 1 (dk_at dksX4_steps_0 13 rfl rfl)
theorem dX4_steps_16 : decode cX4_steps 16 = .ok (.aload 4, 2) := dk_25 4 (dk_at dksX4_steps_0 16 rfl rfl)
theorem dX4_steps_18 : decode cX4_steps 18 = .ok (.getfield 13, 3) := dk_180 0 13 (dk_at dksX4_steps_0 18 rfl rfl)
theorem dX4_steps_21 : decode cX4_steps 21 = .ok (.iload_n 2, 1) := dk_28 (dk_at dksX4_steps_0 21 rfl rfl)
theorem dX4_steps_22 : decode cX4_steps 22 = .ok (.if_icmp .ne 7, 3) := dk_160 0 7 (dk_at dksX4_steps_1 0 rfl rfl)
theorem dX4_steps_25 : decode cX4_steps 25 = .ok (.aconst_null, 1) := dk_1 (dk_at dksX4_steps_1 3 rfl rfl)
theorem dX4_steps_26 : decode cX4_steps 26 = .ok (.goto 8, 3) := dk_167 0 8 (dk_at dksX4_steps_1 4 rfl rfl)
theorem dX4_steps_29 : decode cX4_steps 29 = .ok (.aload 4, 2) := dk_25 4 (dk_at dksX4_steps_1 7 rfl rfl)
theorem dX4_steps_31 : decode cX4_steps 31 = .ok (.getfield 19, 3) := dk_180 0 19 (dk_at dksX4_steps_1 9 rfl rfl)
theorem dX4_steps_34 : decode cX4_steps 34 = .ok (.astore 4, 2) := dk_58 4 (dk_at dksX4_steps_1 12 rfl rfl)
theorem dX4_steps_36 : decode cX4_steps 36 = .ok (.goto (-28), 3) := dk_167 255 228 (dk_at dksX4_steps_1 14 rfl rfl)
theorem dX4_steps_39 : decode cX4_steps 39 = .ok (.iload_n 3, 1) := dk_29 (dk_at dksX4_steps_1 17 rfl rfl)
theorem dX4_steps_40 : decode cX4_steps 40 = .ok (.ireturn, 1) := dk_172 (dk_at dksX4_steps_1 18 rfl rfl)
theorem q85 : (Jvm.Cond.initialized "CrowdedBins$List") ∈ lw_all := lw_g (lw_at lw_m1 5 rfl) rfl
theorem q151 : (Jvm.Cond.instantiable "CrowdedBins$List" (3 : Nat)) ∈ lw_all := lw_g (lw_at lw_m1 71 rfl) rfl
theorem q153 : (Jvm.Cond.instanceMethod ({ cls := "CrowdedBins$List", name := "<init>", desc := "()V" } : Jvm.MethodName)) ∈ lw_all := lw_g (lw_at lw_m1 73 rfl) rfl
theorem q154 : (Jvm.Cond.code ({ cls := "CrowdedBins$List", name := "<init>", desc := "()V" } : Jvm.MethodName) prog_6_method_1_code (1 : Nat) (Option.none : Option Jvm.ClassFile.FieldType)) ∈ lw_all := lw_g (lw_at lw_m1 74 rfl) rfl
theorem q155 : (Jvm.Cond.methodLinkNest "CrowdedBins$List" (1 : Nat) ({ cls := "CrowdedBins$Bin", name := "<init>", desc := "()V" } : Jvm.MethodName) "CrowdedBins") ∈ lw_tbl := lw_at lw_m1 75 rfl
theorem q162 : (Jvm.Cond.lays "CrowdedBins$List" "CrowdedBins$Bin" "first" "LCrowdedBins$Entry;") ∈ lw_all := lw_g (lw_at lw_m1 82 rfl) rfl
theorem q164 : (Jvm.Cond.lays "CrowdedBins$List" "CrowdedBins$Bin" "last" "LCrowdedBins$Entry;") ∈ lw_all := lw_g (lw_at lw_m1 84 rfl) rfl
theorem q166 : (Jvm.Cond.lays "CrowdedBins$List" "CrowdedBins$Bin" "many" "I") ∈ lw_all := lw_g (lw_at lw_m1 86 rfl) rfl
theorem q168 : (Jvm.Cond.superclass "CrowdedBins$List" "CrowdedBins$Bin") ∈ lw_all := lw_g (lw_at lw_m1 88 rfl) rfl
theorem q276 : (Jvm.Cond.selects "CrowdedBins$List" ({ cls := "CrowdedBins$Bin", name := "finds", desc := "(II)LCrowdedBins$Entry;" } : Jvm.MethodName) ({ cls := "CrowdedBins$List", name := "finds", desc := "(II)LCrowdedBins$Entry;" } : Jvm.MethodName)) ∈ lw_all := lw_g (lw_at lw_m1 196 rfl) rfl
theorem q277 : (Jvm.Cond.instanceMethod ({ cls := "CrowdedBins$List", name := "finds", desc := "(II)LCrowdedBins$Entry;" } : Jvm.MethodName)) ∈ lw_all := lw_g (lw_at lw_m1 197 rfl) rfl
theorem q278 : (Jvm.Cond.code ({ cls := "CrowdedBins$List", name := "finds", desc := "(II)LCrowdedBins$Entry;" } : Jvm.MethodName) prog_6_method_2_code (4 : Nat) (Option.some (Jvm.ClassFile.FieldType.object "CrowdedBins$Entry"))) ∈ lw_all := lw_g (lw_at lw_m1 198 rfl) rfl
theorem q279 : (Jvm.Cond.methodLink "CrowdedBins$List" (7 : Nat) ({ cls := "CrowdedBins$List", name := "first", desc := "()LCrowdedBins$Entry;" } : Jvm.MethodName)) ∈ lw_all := lw_g (lw_at lw_m1 199 rfl) rfl
theorem q280 : (Jvm.Cond.sameMethod "CrowdedBins$List" "CrowdedBins$Bin" "first" "()LCrowdedBins$Entry;") ∈ lw_all := lw_g (lw_at lw_m1 200 rfl) rfl
theorem q282 : (Jvm.Cond.selects "CrowdedBins$List" ({ cls := "CrowdedBins$List", name := "first", desc := "()LCrowdedBins$Entry;" } : Jvm.MethodName) ({ cls := "CrowdedBins$Bin", name := "first", desc := "()LCrowdedBins$Entry;" } : Jvm.MethodName)) ∈ lw_all := lw_g (lw_at lw_m1 202 rfl) rfl
theorem q340 : (Jvm.Cond.selects "CrowdedBins$List" ({ cls := "CrowdedBins$Bin", name := "size", desc := "()I" } : Jvm.MethodName) ({ cls := "CrowdedBins$Bin", name := "size", desc := "()I" } : Jvm.MethodName)) ∈ lw_all := lw_g (lw_at lw_m2 20 rfl) rfl
theorem q359 : (Jvm.Cond.fieldLinkNest "CrowdedBins$List" (13 : Nat) "CrowdedBins$Entry" "key" "I" "CrowdedBins") ∈ lw_tbl := lw_at lw_m2 39 rfl
theorem q375 : (Jvm.Cond.fieldLinkNest "CrowdedBins$List" (19 : Nat) "CrowdedBins$Entry" "behind" "LCrowdedBins$Entry;" "CrowdedBins") ∈ lw_tbl := lw_at lw_m2 55 rfl
theorem q415 : (Jvm.Cond.selects "CrowdedBins$List" ({ cls := "CrowdedBins$Bin", name := "comes", desc := "(LCrowdedBins$Entry;)V" } : Jvm.MethodName) ({ cls := "CrowdedBins$Bin", name := "comes", desc := "(LCrowdedBins$Entry;)V" } : Jvm.MethodName)) ∈ lw_all := lw_g (lw_at lw_m2 95 rfl) rfl
theorem q437 : (Jvm.Cond.sameMethod "CrowdedBins$List" "CrowdedBins$Bin" "comes" "(LCrowdedBins$Entry;)V") ∈ lw_all := lw_g (lw_at lw_m2 117 rfl) rfl
theorem q439 : (Jvm.Cond.selects "CrowdedBins$List" ({ cls := "CrowdedBins$List", name := "comes", desc := "(LCrowdedBins$Entry;)V" } : Jvm.MethodName) ({ cls := "CrowdedBins$Bin", name := "comes", desc := "(LCrowdedBins$Entry;)V" } : Jvm.MethodName)) ∈ lw_all := lw_g (lw_at lw_m2 119 rfl) rfl
theorem q441 : (Jvm.Cond.sameMethod "CrowdedBins$List" "CrowdedBins$Bin" "size" "()I") ∈ lw_all := lw_g (lw_at lw_m2 121 rfl) rfl
theorem q443 : (Jvm.Cond.selects "CrowdedBins$List" ({ cls := "CrowdedBins$List", name := "size", desc := "()I" } : Jvm.MethodName) ({ cls := "CrowdedBins$Bin", name := "size", desc := "()I" } : Jvm.MethodName)) ∈ lw_all := lw_g (lw_at lw_m2 123 rfl) rfl
theorem q461 : (Jvm.Cond.selects "CrowdedBins$List" ({ cls := "CrowdedBins$Bin", name := "takes", desc := "(LCrowdedBins$Bin;)V" } : Jvm.MethodName) ({ cls := "CrowdedBins$Bin", name := "takes", desc := "(LCrowdedBins$Bin;)V" } : Jvm.MethodName)) ∈ lw_all := lw_g (lw_at lw_m2 141 rfl) rfl
theorem q480 : (Jvm.Cond.selects "CrowdedBins$List" ({ cls := "CrowdedBins$Bin", name := "goes", desc := "(LCrowdedBins$Entry;)V" } : Jvm.MethodName) ({ cls := "CrowdedBins$Bin", name := "goes", desc := "(LCrowdedBins$Entry;)V" } : Jvm.MethodName)) ∈ lw_all := lw_g (lw_at lw_m2 160 rfl) rfl
theorem q540 : (Jvm.Cond.selects "CrowdedBins$List" ({ cls := "CrowdedBins$Bin", name := "steps", desc := "(II)I" } : Jvm.MethodName) ({ cls := "CrowdedBins$List", name := "steps", desc := "(II)I" } : Jvm.MethodName)) ∈ lw_all := lw_g (lw_at lw_m2 220 rfl) rfl
theorem q541 : (Jvm.Cond.instanceMethod ({ cls := "CrowdedBins$List", name := "steps", desc := "(II)I" } : Jvm.MethodName)) ∈ lw_all := lw_g (lw_at lw_m2 221 rfl) rfl
theorem q542 : (Jvm.Cond.code ({ cls := "CrowdedBins$List", name := "steps", desc := "(II)I" } : Jvm.MethodName) prog_6_method_3_code (5 : Nat) (Option.some Jvm.ClassFile.FieldType.int)) ∈ lw_all := lw_g (lw_at lw_m2 222 rfl) rfl
theorem q566 : (Jvm.Cond.selects "CrowdedBins$List" ({ cls := "CrowdedBins$Bin", name := "root", desc := "()LCrowdedBins$Entry;" } : Jvm.MethodName) ({ cls := "CrowdedBins$Bin", name := "root", desc := "()LCrowdedBins$Entry;" } : Jvm.MethodName)) ∈ lw_all := lw_g (lw_at lw_m3 6 rfl) rfl
theorem q574 : (Jvm.Cond.selects "CrowdedBins$List" ({ cls := "CrowdedBins$Bin", name := "levels", desc := "()I" } : Jvm.MethodName) ({ cls := "CrowdedBins$Bin", name := "levels", desc := "()I" } : Jvm.MethodName)) ∈ lw_all := lw_g (lw_at lw_m3 14 rfl) rfl
theorem q1188 : (Jvm.Cond.selects "CrowdedBins$List" ({ cls := "CrowdedBins$Bin", name := "first", desc := "()LCrowdedBins$Entry;" } : Jvm.MethodName) ({ cls := "CrowdedBins$Bin", name := "first", desc := "()LCrowdedBins$Entry;" } : Jvm.MethodName)) ∈ lw_all := lw_g (lw_at lw_m5 148 rfl) rfl
theorem q1191 : (Jvm.Cond.castable "CrowdedBins$List" "CrowdedBins$Bin") ∈ lw_tbl := lw_at lw_m5 151 rfl
theorem in_X4 : ∀ w ∈ wsX40, w ∈ lw_all := lw_in wsX40 [162, 164, 166] (by decide +kernel) (by decide +kernel)

/-! CrowdedBins$Tree -/
set_option maxRecDepth 100000
def RX8 : String := "CrowdedBins$Tree"
def TX8 : u_T := fun k => match k with
  | 0 => ("CrowdedBins$Bin", "first", "LCrowdedBins$Entry;", false)
  | 1 => ("CrowdedBins$Bin", "last", "LCrowdedBins$Entry;", false)
  | 2 => ("CrowdedBins$Bin", "many", "I", false)
  | _ => ("CrowdedBins$Tree", "root", "LCrowdedBins$Entry;", false)
def tyX8 : Nat → FieldType := fun k => match k with
  | 0 => .object "CrowdedBins$Entry"
  | 1 => .object "CrowdedBins$Entry"
  | 2 => .int
  | _ => .object "CrowdedBins$Entry"
abbrev wsX80 : List Cond := u_ws RX8 TX8 4
theorem nmX8 : ∀ a, a < 4 → ∀ b, b < 4 → a ≠ b → (TX8 a).2.1 ≠ (TX8 b).2.1 := by decide +kernel
theorem tyX8_ok : ∀ k, k < 4 → parseFieldDescriptor (TX8 k).2.2.1 = some (tyX8 k) := by decide +kernel
abbrev cX8_finds : ByteArray := prog_9_method_8_code
def yX8_finds : MethodName := ⟨RX8, "finds", "(II)LCrowdedBins$Entry;"⟩
def dkwX8_finds_1 : List UInt8 := [156, 0, 10, 45, 180, 0, 48, 167, 0, 7, 45, 180, 0, 51, 78, 167, 255, 223, 45, 176]
abbrev dktX8_finds_1 : List UInt8 := dkwX8_finds_1 ++ []
def dkwX8_finds_0 : List UInt8 := [42, 180, 0, 11, 78, 45, 198, 0, 35, 45, 180, 0, 41, 28, 159, 0, 27, 45, 27, 28, 182, 0, 44]
abbrev dktX8_finds_0 : List UInt8 := dkwX8_finds_0 ++ dktX8_finds_1
theorem dksX8_finds_0 : cX8_finds.data.toList.drop 0 = dktX8_finds_0 := by decide +kernel
theorem dksX8_finds_1 : cX8_finds.data.toList.drop 23 = dktX8_finds_1 := dk_seg dksX8_finds_0 23 rfl rfl
theorem dX8_finds_0 : decode cX8_finds 0 = .ok (.aload_n 0, 1) := dk_42 (dk_at dksX8_finds_0 0 rfl rfl)
theorem dX8_finds_1 : decode cX8_finds 1 = .ok (.getfield 11, 3) := dk_180 0 11 (dk_at dksX8_finds_0 1 rfl rfl)
theorem dX8_finds_4 : decode cX8_finds 4 = .ok (.astore_n 3, 1) := dk_78 (dk_at dksX8_finds_0 4 rfl rfl)
theorem dX8_finds_5 : decode cX8_finds 5 = .ok (.aload_n 3, 1) := dk_45 (dk_at dksX8_finds_0 5 rfl rfl)
theorem dX8_finds_6 : decode cX8_finds 6 = .ok (.ifnull 35, 3) := dk_198 0 35 (dk_at dksX8_finds_0 6 rfl rfl)
theorem dX8_finds_9 : decode cX8_finds 9 = .ok (.aload_n 3, 1) := dk_45 (dk_at dksX8_finds_0 9 rfl rfl)
theorem dX8_finds_10 : decode cX8_finds 10 = .ok (.getfield 41, 3) := dk_180 0 41 (dk_at dksX8_finds_0 10 rfl rfl)
theorem dX8_finds_13 : decode cX8_finds 13 = .ok (.iload_n 2, 1) := dk_28 (dk_at dksX8_finds_0 13 rfl rfl)
theorem dX8_finds_14 : decode cX8_finds 14 = .ok (.if_icmp .eq 27, 3) := dk_159 0 27 (dk_at dksX8_finds_0 14 rfl rfl)
theorem dX8_finds_17 : decode cX8_finds 17 = .ok (.aload_n 3, 1) := dk_45 (dk_at dksX8_finds_0 17 rfl rfl)
theorem dX8_finds_18 : decode cX8_finds 18 = .ok (.iload_n 1, 1) := dk_27 (dk_at dksX8_finds_0 18 rfl rfl)
theorem dX8_finds_19 : decode cX8_finds 19 = .ok (.iload_n 2, 1) := dk_28 (dk_at dksX8_finds_0 19 rfl rfl)
theorem dX8_finds_20 : decode cX8_finds 20 = .ok (.invokevirtual 44, 3) := dk_182 0 44 (dk_at dksX8_finds_0 20 rfl rfl)
theorem dX8_finds_23 : decode cX8_finds 23 = .ok (.ifCond .ge 10, 3) := dk_156 0 10 (dk_at dksX8_finds_1 0 rfl rfl)
theorem dX8_finds_26 : decode cX8_finds 26 = .ok (.aload_n 3, 1) := dk_45 (dk_at dksX8_finds_1 3 rfl rfl)
theorem dX8_finds_27 : decode cX8_finds 27 = .ok (.getfield 48, 3) := dk_180 0 48 (dk_at dksX8_finds_1 4 rfl rfl)
theorem dX8_finds_30 : decode cX8_finds 30 = .ok (.goto 7, 3) := dk_167 0 7 (dk_at dksX8_finds_1 7 rfl rfl)
theorem dX8_finds_33 : decode cX8_finds 33 = .ok (.aload_n 3, 1) := dk_45 (dk_at dksX8_finds_1 10 rfl rfl)
theorem dX8_finds_34 : decode cX8_finds 34 = .ok (.getfield 51, 3) := dk_180 0 51 (dk_at dksX8_finds_1 11 rfl rfl)
theorem dX8_finds_37 : decode cX8_finds 37 = .ok (.astore_n 3, 1) := dk_78 (dk_at dksX8_finds_1 14 rfl rfl)
theorem dX8_finds_38 : decode cX8_finds 38 = .ok (.goto (-33), 3) := dk_167 255 223 (dk_at dksX8_finds_1 15 rfl rfl)
theorem dX8_finds_41 : decode cX8_finds 41 = .ok (.aload_n 3, 1) := dk_45 (dk_at dksX8_finds_1 18 rfl rfl)
theorem dX8_finds_42 : decode cX8_finds 42 = .ok (.areturn, 1) := dk_176 (dk_at dksX8_finds_1 19 rfl rfl)
abbrev cX8_comes : ByteArray := prog_9_method_2_code
def yX8_comes : MethodName := ⟨RX8, "comes", "(LCrowdedBins$Entry;)V"⟩
def dkwX8_comes_0 : List UInt8 := [42, 43, 183, 0, 7, 42, 42, 180, 0, 11, 43, 184, 0, 17, 181, 0, 11, 177]
abbrev dktX8_comes_0 : List UInt8 := dkwX8_comes_0 ++ []
theorem dksX8_comes_0 : cX8_comes.data.toList.drop 0 = dktX8_comes_0 := by decide +kernel
theorem dX8_comes_0 : decode cX8_comes 0 = .ok (.aload_n 0, 1) := dk_42 (dk_at dksX8_comes_0 0 rfl rfl)
theorem dX8_comes_1 : decode cX8_comes 1 = .ok (.aload_n 1, 1) := dk_43 (dk_at dksX8_comes_0 1 rfl rfl)
theorem dX8_comes_2 : decode cX8_comes 2 = .ok (.invokespecial 7, 3) := dk_183 0 7 (dk_at dksX8_comes_0 2 rfl rfl)
theorem dX8_comes_5 : decode cX8_comes 5 = .ok (.aload_n 0, 1) := dk_42 (dk_at dksX8_comes_0 5 rfl rfl)
theorem dX8_comes_6 : decode cX8_comes 6 = .ok (.aload_n 0, 1) := dk_42 (dk_at dksX8_comes_0 6 rfl rfl)
theorem dX8_comes_7 : decode cX8_comes 7 = .ok (.getfield 11, 3) := dk_180 0 11 (dk_at dksX8_comes_0 7 rfl rfl)
theorem dX8_comes_10 : decode cX8_comes 10 = .ok (.aload_n 1, 1) := dk_43 (dk_at dksX8_comes_0 10 rfl rfl)
theorem dX8_comes_11 : decode cX8_comes 11 = .ok (.invokestatic 17, 3) := dk_184 0 17 (dk_at dksX8_comes_0 11 rfl rfl)
theorem dX8_comes_14 : decode cX8_comes 14 = .ok (.putfield 11, 3) := dk_181 0 11 (dk_at dksX8_comes_0 14 rfl rfl)
theorem dX8_comes_17 : decode cX8_comes 17 = .ok (.return_, 1) := dk_177 (dk_at dksX8_comes_0 17 rfl rfl)
abbrev cX8_with : ByteArray := prog_9_method_4_code
def yX8_with : MethodName := ⟨RX8, "with", "(LCrowdedBins$Entry;LCrowdedBins$Entry;)LCrowdedBins$Entry;"⟩
def dkwX8_with_2 : List UInt8 := [180, 0, 51, 43, 184, 0, 17, 181, 0, 51, 42, 176]
abbrev dktX8_with_2 : List UInt8 := dkwX8_with_2 ++ []
def dkwX8_with_1 : List UInt8 := [182, 0, 44, 156, 0, 18, 42, 42, 180, 0, 48, 43, 184, 0, 17, 181, 0, 48, 167, 0, 15, 42, 42]
abbrev dktX8_with_1 : List UInt8 := dkwX8_with_1 ++ dktX8_with_2
def dkwX8_with_0 : List UInt8 := [43, 42, 182, 0, 27, 153, 0, 10, 42, 43, 184, 0, 33, 43, 176, 42, 43, 180, 0, 37, 43, 180, 0, 41]
abbrev dktX8_with_0 : List UInt8 := dkwX8_with_0 ++ dktX8_with_1
theorem dksX8_with_0 : cX8_with.data.toList.drop 0 = dktX8_with_0 := by decide +kernel
theorem dksX8_with_1 : cX8_with.data.toList.drop 24 = dktX8_with_1 := dk_seg dksX8_with_0 24 rfl rfl
theorem dksX8_with_2 : cX8_with.data.toList.drop 47 = dktX8_with_2 := dk_seg dksX8_with_1 23 rfl rfl
theorem dX8_with_0 : decode cX8_with 0 = .ok (.aload_n 1, 1) := dk_43 (dk_at dksX8_with_0 0 rfl rfl)
theorem dX8_with_1 : decode cX8_with 1 = .ok (.aload_n 0, 1) := dk_42 (dk_at dksX8_with_0 1 rfl rfl)
theorem dX8_with_2 : decode cX8_with 2 = .ok (.invokevirtual 27, 3) := dk_182 0 27 (dk_at dksX8_with_0 2 rfl rfl)
theorem dX8_with_5 : decode cX8_with 5 = .ok (.ifCond .eq 10, 3) := dk_153 0 10 (dk_at dksX8_with_0 5 rfl rfl)
theorem dX8_with_8 : decode cX8_with 8 = .ok (.aload_n 0, 1) := dk_42 (dk_at dksX8_with_0 8 rfl rfl)
theorem dX8_with_9 : decode cX8_with 9 = .ok (.aload_n 1, 1) := dk_43 (dk_at dksX8_with_0 9 rfl rfl)
theorem dX8_with_10 : decode cX8_with 10 = .ok (.invokestatic 33, 3) := dk_184 0 33 (dk_at dksX8_with_0 10 rfl rfl)
theorem dX8_with_13 : decode cX8_with 13 = .ok (.aload_n 1, 1) := dk_43 (dk_at dksX8_with_0 13 rfl rfl)
theorem dX8_with_14 : decode cX8_with 14 = .ok (.areturn, 1) := dk_176 (dk_at dksX8_with_0 14 rfl rfl)
theorem dX8_with_15 : decode cX8_with 15 = .ok (.aload_n 0, 1) := dk_42 (dk_at dksX8_with_0 15 rfl rfl)
theorem dX8_with_16 : decode cX8_with 16 = .ok (.aload_n 1, 1) := dk_43 (dk_at dksX8_with_0 16 rfl rfl)
theorem dX8_with_17 : decode cX8_with 17 = .ok (.getfield 37, 3) := dk_180 0 37 (dk_at dksX8_with_0 17 rfl rfl)
theorem dX8_with_20 : decode cX8_with 20 = .ok (.aload_n 1, 1) := dk_43 (dk_at dksX8_with_0 20 rfl rfl)
theorem dX8_with_21 : decode cX8_with 21 = .ok (.getfield 41, 3) := dk_180 0 41 (dk_at dksX8_with_0 21 rfl rfl)
theorem dX8_with_24 : decode cX8_with 24 = .ok (.invokevirtual 44, 3) := dk_182 0 44 (dk_at dksX8_with_1 0 rfl rfl)
theorem dX8_with_27 : decode cX8_with 27 = .ok (.ifCond .ge 18, 3) := dk_156 0 18 (dk_at dksX8_with_1 3 rfl rfl)
theorem dX8_with_30 : decode cX8_with 30 = .ok (.aload_n 0, 1) := dk_42 (dk_at dksX8_with_1 6 rfl rfl)
theorem dX8_with_31 : decode cX8_with 31 = .ok (.aload_n 0, 1) := dk_42 (dk_at dksX8_with_1 7 rfl rfl)
theorem dX8_with_32 : decode cX8_with 32 = .ok (.getfield 48, 3) := dk_180 0 48 (dk_at dksX8_with_1 8 rfl rfl)
theorem dX8_with_35 : decode cX8_with 35 = .ok (.aload_n 1, 1) := dk_43 (dk_at dksX8_with_1 11 rfl rfl)
theorem dX8_with_36 : decode cX8_with 36 = .ok (.invokestatic 17, 3) := dk_184 0 17 (dk_at dksX8_with_1 12 rfl rfl)
theorem dX8_with_39 : decode cX8_with 39 = .ok (.putfield 48, 3) := dk_181 0 48 (dk_at dksX8_with_1 15 rfl rfl)
theorem dX8_with_42 : decode cX8_with 42 = .ok (.goto 15, 3) := dk_167 0 15 (dk_at dksX8_with_1 18 rfl rfl)
theorem dX8_with_45 : decode cX8_with 45 = .ok (.aload_n 0, 1) := dk_42 (dk_at dksX8_with_1 21 rfl rfl)
theorem dX8_with_46 : decode cX8_with 46 = .ok (.aload_n 0, 1) := dk_42 (dk_at dksX8_with_1 22 rfl rfl)
theorem dX8_with_47 : decode cX8_with 47 = .ok (.getfield 51, 3) := dk_180 0 51 (dk_at dksX8_with_2 0 rfl rfl)
theorem dX8_with_50 : decode cX8_with 50 = .ok (.aload_n 1, 1) := dk_43 (dk_at dksX8_with_2 3 rfl rfl)
theorem dX8_with_51 : decode cX8_with 51 = .ok (.invokestatic 17, 3) := dk_184 0 17 (dk_at dksX8_with_2 4 rfl rfl)
theorem dX8_with_54 : decode cX8_with 54 = .ok (.putfield 51, 3) := dk_181 0 51 (dk_at dksX8_with_2 7 rfl rfl)
theorem dX8_with_57 : decode cX8_with 57 = .ok (.aload_n 0, 1) := dk_42 (dk_at dksX8_with_2 10 rfl rfl)
theorem dX8_with_58 : decode cX8_with 58 = .ok (.areturn, 1) := dk_176 (dk_at dksX8_with_2 11 rfl rfl)
abbrev cX8_splits : ByteArray := prog_9_method_5_code
def yX8_splits : MethodName := ⟨RX8, "splits", "(LCrowdedBins$Entry;LCrowdedBins$Entry;)V"⟩
def dkwX8_splits_3 : List UInt8 := [181, 0, 51, 43, 42, 181, 0, 48, 177]
abbrev dktX8_splits_3 : List UInt8 := dkwX8_splits_3 ++ []
def dkwX8_splits_2 : List UInt8 := [181, 0, 48, 43, 42, 181, 0, 51, 167, 0, 24, 42, 180, 0, 51, 43, 184, 0, 33, 42, 43, 180, 0, 48]
abbrev dktX8_splits_2 : List UInt8 := dkwX8_splits_2 ++ dktX8_splits_3
def dkwX8_splits_1 : List UInt8 := [180, 0, 41, 182, 0, 44, 156, 0, 27, 42, 180, 0, 48, 43, 184, 0, 33, 42, 43, 180, 0, 51]
abbrev dktX8_splits_1 : List UInt8 := dkwX8_splits_1 ++ dktX8_splits_2
def dkwX8_splits_0 : List UInt8 := [42, 199, 0, 16, 43, 1, 181, 0, 48, 43, 1, 181, 0, 51, 167, 0, 63, 42, 43, 180, 0, 37, 43]
abbrev dktX8_splits_0 : List UInt8 := dkwX8_splits_0 ++ dktX8_splits_1
theorem dksX8_splits_0 : cX8_splits.data.toList.drop 0 = dktX8_splits_0 := by decide +kernel
theorem dksX8_splits_1 : cX8_splits.data.toList.drop 23 = dktX8_splits_1 := dk_seg dksX8_splits_0 23 rfl rfl
theorem dksX8_splits_2 : cX8_splits.data.toList.drop 45 = dktX8_splits_2 := dk_seg dksX8_splits_1 22 rfl rfl
theorem dksX8_splits_3 : cX8_splits.data.toList.drop 69 = dktX8_splits_3 := dk_seg dksX8_splits_2 24 rfl rfl
theorem dX8_splits_0 : decode cX8_splits 0 = .ok (.aload_n 0, 1) := dk_42 (dk_at dksX8_splits_0 0 rfl rfl)
theorem dX8_splits_1 : decode cX8_splits 1 = .ok (.ifnonnull 16, 3) := dk_199 0 16 (dk_at dksX8_splits_0 1 rfl rfl)
theorem dX8_splits_4 : decode cX8_splits 4 = .ok (.aload_n 1, 1) := dk_43 (dk_at dksX8_splits_0 4 rfl rfl)
theorem dX8_splits_5 : decode cX8_splits 5 = .ok (.aconst_null, 1) := dk_1 (dk_at dksX8_splits_0 5 rfl rfl)
theorem dX8_splits_6 : decode cX8_splits 6 = .ok (.putfield 48, 3) := dk_181 0 48 (dk_at dksX8_splits_0 6 rfl rfl)
theorem dX8_splits_9 : decode cX8_splits 9 = .ok (.aload_n 1, 1) := dk_43 (dk_at dksX8_splits_0 9 rfl rfl)
theorem dX8_splits_10 : decode cX8_splits 10 = .ok (.aconst_null, 1) := dk_1 (dk_at dksX8_splits_0 10 rfl rfl)
theorem dX8_splits_11 : decode cX8_splits 11 = .ok (.putfield 51, 3) := dk_181 0 51 (dk_at dksX8_splits_0 11 rfl rfl)
theorem dX8_splits_14 : decode cX8_splits 14 = .ok (.goto 63, 3) := dk_167 0 63 (dk_at dksX8_splits_0 14 rfl rfl)
theorem dX8_splits_17 : decode cX8_splits 17 = .ok (.aload_n 0, 1) := dk_42 (dk_at dksX8_splits_0 17 rfl rfl)
theorem dX8_splits_18 : decode cX8_splits 18 = .ok (.aload_n 1, 1) := dk_43 (dk_at dksX8_splits_0 18 rfl rfl)
theorem dX8_splits_19 : decode cX8_splits 19 = .ok (.getfield 37, 3) := dk_180 0 37 (dk_at dksX8_splits_0 19 rfl rfl)
theorem dX8_splits_22 : decode cX8_splits 22 = .ok (.aload_n 1, 1) := dk_43 (dk_at dksX8_splits_0 22 rfl rfl)
theorem dX8_splits_23 : decode cX8_splits 23 = .ok (.getfield 41, 3) := dk_180 0 41 (dk_at dksX8_splits_1 0 rfl rfl)
theorem dX8_splits_26 : decode cX8_splits 26 = .ok (.invokevirtual 44, 3) := dk_182 0 44 (dk_at dksX8_splits_1 3 rfl rfl)
theorem dX8_splits_29 : decode cX8_splits 29 = .ok (.ifCond .ge 27, 3) := dk_156 0 27 (dk_at dksX8_splits_1 6 rfl rfl)
theorem dX8_splits_32 : decode cX8_splits 32 = .ok (.aload_n 0, 1) := dk_42 (dk_at dksX8_splits_1 9 rfl rfl)
theorem dX8_splits_33 : decode cX8_splits 33 = .ok (.getfield 48, 3) := dk_180 0 48 (dk_at dksX8_splits_1 10 rfl rfl)
theorem dX8_splits_36 : decode cX8_splits 36 = .ok (.aload_n 1, 1) := dk_43 (dk_at dksX8_splits_1 13 rfl rfl)
theorem dX8_splits_37 : decode cX8_splits 37 = .ok (.invokestatic 33, 3) := dk_184 0 33 (dk_at dksX8_splits_1 14 rfl rfl)
theorem dX8_splits_40 : decode cX8_splits 40 = .ok (.aload_n 0, 1) := dk_42 (dk_at dksX8_splits_1 17 rfl rfl)
theorem dX8_splits_41 : decode cX8_splits 41 = .ok (.aload_n 1, 1) := dk_43 (dk_at dksX8_splits_1 18 rfl rfl)
theorem dX8_splits_42 : decode cX8_splits 42 = .ok (.getfield 51, 3) := dk_180 0 51 (dk_at dksX8_splits_1 19 rfl rfl)
theorem dX8_splits_45 : decode cX8_splits 45 = .ok (.putfield 48, 3) := dk_181 0 48 (dk_at dksX8_splits_2 0 rfl rfl)
theorem dX8_splits_48 : decode cX8_splits 48 = .ok (.aload_n 1, 1) := dk_43 (dk_at dksX8_splits_2 3 rfl rfl)
theorem dX8_splits_49 : decode cX8_splits 49 = .ok (.aload_n 0, 1) := dk_42 (dk_at dksX8_splits_2 4 rfl rfl)
theorem dX8_splits_50 : decode cX8_splits 50 = .ok (.putfield 51, 3) := dk_181 0 51 (dk_at dksX8_splits_2 5 rfl rfl)
theorem dX8_splits_53 : decode cX8_splits 53 = .ok (.goto 24, 3) := dk_167 0 24 (dk_at dksX8_splits_2 8 rfl rfl)
theorem dX8_splits_56 : decode cX8_splits 56 = .ok (.aload_n 0, 1) := dk_42 (dk_at dksX8_splits_2 11 rfl rfl)
theorem dX8_splits_57 : decode cX8_splits 57 = .ok (.getfield 51, 3) := dk_180 0 51 (dk_at dksX8_splits_2 12 rfl rfl)
theorem dX8_splits_60 : decode cX8_splits 60 = .ok (.aload_n 1, 1) := dk_43 (dk_at dksX8_splits_2 15 rfl rfl)
theorem dX8_splits_61 : decode cX8_splits 61 = .ok (.invokestatic 33, 3) := dk_184 0 33 (dk_at dksX8_splits_2 16 rfl rfl)
theorem dX8_splits_64 : decode cX8_splits 64 = .ok (.aload_n 0, 1) := dk_42 (dk_at dksX8_splits_2 19 rfl rfl)
theorem dX8_splits_65 : decode cX8_splits 65 = .ok (.aload_n 1, 1) := dk_43 (dk_at dksX8_splits_2 20 rfl rfl)
theorem dX8_splits_66 : decode cX8_splits 66 = .ok (.getfield 48, 3) := dk_180 0 48 (dk_at dksX8_splits_2 21 rfl rfl)
theorem dX8_splits_69 : decode cX8_splits 69 = .ok (.putfield 51, 3) := dk_181 0 51 (dk_at dksX8_splits_3 0 rfl rfl)
theorem dX8_splits_72 : decode cX8_splits 72 = .ok (.aload_n 1, 1) := dk_43 (dk_at dksX8_splits_3 3 rfl rfl)
theorem dX8_splits_73 : decode cX8_splits 73 = .ok (.aload_n 0, 1) := dk_42 (dk_at dksX8_splits_3 4 rfl rfl)
theorem dX8_splits_74 : decode cX8_splits 74 = .ok (.putfield 48, 3) := dk_181 0 48 (dk_at dksX8_splits_3 5 rfl rfl)
theorem dX8_splits_77 : decode cX8_splits 77 = .ok (.return_, 1) := dk_177 (dk_at dksX8_splits_3 8 rfl rfl)
abbrev cX8_init : ByteArray := prog_9_method_1_code
def yX8_init : MethodName := ⟨RX8, "<init>", "()V"⟩
theorem dX8_init_0 : decode cX8_init 0 = .ok (.aload_n 0, 1) := by decide +kernel
theorem dX8_init_1 : decode cX8_init 1 = .ok (.invokespecial 1, 3) := by decide +kernel
theorem dX8_init_4 : decode cX8_init 4 = .ok (.return_, 1) := by decide +kernel
abbrev cX8_goes : ByteArray := prog_9_method_3_code
def yX8_goes : MethodName := ⟨RX8, "goes", "(LCrowdedBins$Entry;)V"⟩
def dkwX8_goes_0 : List UInt8 := [42, 43, 183, 0, 21, 42, 42, 180, 0, 11, 43, 184, 0, 24, 181, 0, 11, 177]
abbrev dktX8_goes_0 : List UInt8 := dkwX8_goes_0 ++ []
theorem dksX8_goes_0 : cX8_goes.data.toList.drop 0 = dktX8_goes_0 := by decide +kernel
theorem dX8_goes_0 : decode cX8_goes 0 = .ok (.aload_n 0, 1) := dk_42 (dk_at dksX8_goes_0 0 rfl rfl)
theorem dX8_goes_1 : decode cX8_goes 1 = .ok (.aload_n 1, 1) := dk_43 (dk_at dksX8_goes_0 1 rfl rfl)
theorem dX8_goes_2 : decode cX8_goes 2 = .ok (.invokespecial 21, 3) := dk_183 0 21 (dk_at dksX8_goes_0 2 rfl rfl)
theorem dX8_goes_5 : decode cX8_goes 5 = .ok (.aload_n 0, 1) := dk_42 (dk_at dksX8_goes_0 5 rfl rfl)
theorem dX8_goes_6 : decode cX8_goes 6 = .ok (.aload_n 0, 1) := dk_42 (dk_at dksX8_goes_0 6 rfl rfl)
theorem dX8_goes_7 : decode cX8_goes 7 = .ok (.getfield 11, 3) := dk_180 0 11 (dk_at dksX8_goes_0 7 rfl rfl)
theorem dX8_goes_10 : decode cX8_goes 10 = .ok (.aload_n 1, 1) := dk_43 (dk_at dksX8_goes_0 10 rfl rfl)
theorem dX8_goes_11 : decode cX8_goes 11 = .ok (.invokestatic 24, 3) := dk_184 0 24 (dk_at dksX8_goes_0 11 rfl rfl)
theorem dX8_goes_14 : decode cX8_goes 14 = .ok (.putfield 11, 3) := dk_181 0 11 (dk_at dksX8_goes_0 14 rfl rfl)
theorem dX8_goes_17 : decode cX8_goes 17 = .ok (.return_, 1) := dk_177 (dk_at dksX8_goes_0 17 rfl rfl)
abbrev cX8_without : ByteArray := prog_9_method_6_code
def yX8_without : MethodName := ⟨RX8, "without", "(LCrowdedBins$Entry;LCrowdedBins$Entry;)LCrowdedBins$Entry;"⟩
def dkwX8_without_2 : List UInt8 := [42, 42, 180, 0, 51, 43, 184, 0, 24, 181, 0, 51, 42, 176]
abbrev dktX8_without_2 : List UInt8 := dkwX8_without_2 ++ []
def dkwX8_without_1 : List UInt8 := [180, 0, 41, 182, 0, 44, 156, 0, 18, 42, 42, 180, 0, 48, 43, 184, 0, 24, 181, 0, 48, 167, 0, 15]
abbrev dktX8_without_1 : List UInt8 := dkwX8_without_1 ++ dktX8_without_2
def dkwX8_without_0 : List UInt8 := [42, 43, 166, 0, 15, 43, 180, 0, 48, 43, 180, 0, 51, 184, 0, 54, 176, 42, 43, 180, 0, 37, 43]
abbrev dktX8_without_0 : List UInt8 := dkwX8_without_0 ++ dktX8_without_1
theorem dksX8_without_0 : cX8_without.data.toList.drop 0 = dktX8_without_0 := by decide +kernel
theorem dksX8_without_1 : cX8_without.data.toList.drop 23 = dktX8_without_1 := dk_seg dksX8_without_0 23 rfl rfl
theorem dksX8_without_2 : cX8_without.data.toList.drop 47 = dktX8_without_2 := dk_seg dksX8_without_1 24 rfl rfl
theorem dX8_without_0 : decode cX8_without 0 = .ok (.aload_n 0, 1) := dk_42 (dk_at dksX8_without_0 0 rfl rfl)
theorem dX8_without_1 : decode cX8_without 1 = .ok (.aload_n 1, 1) := dk_43 (dk_at dksX8_without_0 1 rfl rfl)
theorem dX8_without_2 : decode cX8_without 2 = .ok (.if_acmp .ne 15, 3) := dk_166 0 15 (dk_at dksX8_without_0 2 rfl rfl)
theorem dX8_without_5 : decode cX8_without 5 = .ok (.aload_n 1, 1) := dk_43 (dk_at dksX8_without_0 5 rfl rfl)
theorem dX8_without_6 : decode cX8_without 6 = .ok (.getfield 48, 3) := dk_180 0 48 (dk_at dksX8_without_0 6 rfl rfl)
theorem dX8_without_9 : decode cX8_without 9 = .ok (.aload_n 1, 1) := dk_43 (dk_at dksX8_without_0 9 rfl rfl)
theorem dX8_without_10 : decode cX8_without 10 = .ok (.getfield 51, 3) := dk_180 0 51 (dk_at dksX8_without_0 10 rfl rfl)
theorem dX8_without_13 : decode cX8_without 13 = .ok (.invokestatic 54, 3) := dk_184 0 54 (dk_at dksX8_without_0 13 rfl rfl)
theorem dX8_without_16 : decode cX8_without 16 = .ok (.areturn, 1) := dk_176 (dk_at dksX8_without_0 16 rfl rfl)
theorem dX8_without_17 : decode cX8_without 17 = .ok (.aload_n 0, 1) := dk_42 (dk_at dksX8_without_0 17 rfl rfl)
theorem dX8_without_18 : decode cX8_without 18 = .ok (.aload_n 1, 1) := dk_43 (dk_at dksX8_without_0 18 rfl rfl)
theorem dX8_without_19 : decode cX8_without 19 = .ok (.getfield 37, 3) := dk_180 0 37 (dk_at dksX8_without_0 19 rfl rfl)
theorem dX8_without_22 : decode cX8_without 22 = .ok (.aload_n 1, 1) := dk_43 (dk_at dksX8_without_0 22 rfl rfl)
theorem dX8_without_23 : decode cX8_without 23 = .ok (.getfield 41, 3) := dk_180 0 41 (dk_at dksX8_without_1 0 rfl rfl)
theorem dX8_without_26 : decode cX8_without 26 = .ok (.invokevirtual 44, 3) := dk_182 0 44 (dk_at dksX8_without_1 3 rfl rfl)
theorem dX8_without_29 : decode cX8_without 29 = .ok (.ifCond .ge 18, 3) := dk_156 0 18 (dk_at dksX8_without_1 6 rfl rfl)
theorem dX8_without_32 : decode cX8_without 32 = .ok (.aload_n 0, 1) := dk_42 (dk_at dksX8_without_1 9 rfl rfl)
theorem dX8_without_33 : decode cX8_without 33 = .ok (.aload_n 0, 1) := dk_42 (dk_at dksX8_without_1 10 rfl rfl)
theorem dX8_without_34 : decode cX8_without 34 = .ok (.getfield 48, 3) := dk_180 0 48 (dk_at dksX8_without_1 11 rfl rfl)
theorem dX8_without_37 : decode cX8_without 37 = .ok (.aload_n 1, 1) := dk_43 (dk_at dksX8_without_1 14 rfl rfl)
theorem dX8_without_38 : decode cX8_without 38 = .ok (.invokestatic 24, 3) := dk_184 0 24 (dk_at dksX8_without_1 15 rfl rfl)
theorem dX8_without_41 : decode cX8_without 41 = .ok (.putfield 48, 3) := dk_181 0 48 (dk_at dksX8_without_1 18 rfl rfl)
theorem dX8_without_44 : decode cX8_without 44 = .ok (.goto 15, 3) := dk_167 0 15 (dk_at dksX8_without_1 21 rfl rfl)
theorem dX8_without_47 : decode cX8_without 47 = .ok (.aload_n 0, 1) := dk_42 (dk_at dksX8_without_2 0 rfl rfl)
theorem dX8_without_48 : decode cX8_without 48 = .ok (.aload_n 0, 1) := dk_42 (dk_at dksX8_without_2 1 rfl rfl)
theorem dX8_without_49 : decode cX8_without 49 = .ok (.getfield 51, 3) := dk_180 0 51 (dk_at dksX8_without_2 2 rfl rfl)
theorem dX8_without_52 : decode cX8_without 52 = .ok (.aload_n 1, 1) := dk_43 (dk_at dksX8_without_2 5 rfl rfl)
theorem dX8_without_53 : decode cX8_without 53 = .ok (.invokestatic 24, 3) := dk_184 0 24 (dk_at dksX8_without_2 6 rfl rfl)
theorem dX8_without_56 : decode cX8_without 56 = .ok (.putfield 51, 3) := dk_181 0 51 (dk_at dksX8_without_2 9 rfl rfl)
theorem dX8_without_59 : decode cX8_without 59 = .ok (.aload_n 0, 1) := dk_42 (dk_at dksX8_without_2 12 rfl rfl)
theorem dX8_without_60 : decode cX8_without 60 = .ok (.areturn, 1) := dk_176 (dk_at dksX8_without_2 13 rfl rfl)
abbrev cX8_joined : ByteArray := prog_9_method_7_code
def yX8_joined : MethodName := ⟨RX8, "joined", "(LCrowdedBins$Entry;LCrowdedBins$Entry;)LCrowdedBins$Entry;"⟩
def dkwX8_joined_2 : List UInt8 := [184, 0, 54, 181, 0, 48, 43, 176]
abbrev dktX8_joined_2 : List UInt8 := dkwX8_joined_2 ++ []
def dkwX8_joined_1 : List UInt8 := [153, 0, 17, 42, 42, 180, 0, 51, 43, 184, 0, 54, 181, 0, 51, 42, 176, 43, 42, 43, 180, 0, 48]
abbrev dktX8_joined_1 : List UInt8 := dkwX8_joined_1 ++ dktX8_joined_2
def dkwX8_joined_0 : List UInt8 := [42, 198, 0, 7, 43, 199, 0, 13, 42, 199, 0, 7, 43, 167, 0, 4, 42, 176, 42, 43, 182, 0, 27]
abbrev dktX8_joined_0 : List UInt8 := dkwX8_joined_0 ++ dktX8_joined_1
theorem dksX8_joined_0 : cX8_joined.data.toList.drop 0 = dktX8_joined_0 := by decide +kernel
theorem dksX8_joined_1 : cX8_joined.data.toList.drop 23 = dktX8_joined_1 := dk_seg dksX8_joined_0 23 rfl rfl
theorem dksX8_joined_2 : cX8_joined.data.toList.drop 46 = dktX8_joined_2 := dk_seg dksX8_joined_1 23 rfl rfl
theorem dX8_joined_0 : decode cX8_joined 0 = .ok (.aload_n 0, 1) := dk_42 (dk_at dksX8_joined_0 0 rfl rfl)
theorem dX8_joined_1 : decode cX8_joined 1 = .ok (.ifnull 7, 3) := dk_198 0 7 (dk_at dksX8_joined_0 1 rfl rfl)
theorem dX8_joined_4 : decode cX8_joined 4 = .ok (.aload_n 1, 1) := dk_43 (dk_at dksX8_joined_0 4 rfl rfl)
theorem dX8_joined_5 : decode cX8_joined 5 = .ok (.ifnonnull 13, 3) := dk_199 0 13 (dk_at dksX8_joined_0 5 rfl rfl)
theorem dX8_joined_8 : decode cX8_joined 8 = .ok (.aload_n 0, 1) := dk_42 (dk_at dksX8_joined_0 8 rfl rfl)
theorem dX8_joined_9 : decode cX8_joined 9 = .ok (.ifnonnull 7, 3) := dk_199 0 7 (dk_at dksX8_joined_0 9 rfl rfl)
theorem dX8_joined_12 : decode cX8_joined 12 = .ok (.aload_n 1, 1) := dk_43 (dk_at dksX8_joined_0 12 rfl rfl)
theorem dX8_joined_13 : decode cX8_joined 13 = .ok (.goto 4, 3) := dk_167 0 4 (dk_at dksX8_joined_0 13 rfl rfl)
theorem dX8_joined_16 : decode cX8_joined 16 = .ok (.aload_n 0, 1) := dk_42 (dk_at dksX8_joined_0 16 rfl rfl)
theorem dX8_joined_17 : decode cX8_joined 17 = .ok (.areturn, 1) := dk_176 (dk_at dksX8_joined_0 17 rfl rfl)
theorem dX8_joined_18 : decode cX8_joined 18 = .ok (.aload_n 0, 1) := dk_42 (dk_at dksX8_joined_0 18 rfl rfl)
theorem dX8_joined_19 : decode cX8_joined 19 = .ok (.aload_n 1, 1) := dk_43 (dk_at dksX8_joined_0 19 rfl rfl)
theorem dX8_joined_20 : decode cX8_joined 20 = .ok (.invokevirtual 27, 3) := dk_182 0 27 (dk_at dksX8_joined_0 20 rfl rfl)
theorem dX8_joined_23 : decode cX8_joined 23 = .ok (.ifCond .eq 17, 3) := dk_153 0 17 (dk_at dksX8_joined_1 0 rfl rfl)
theorem dX8_joined_26 : decode cX8_joined 26 = .ok (.aload_n 0, 1) := dk_42 (dk_at dksX8_joined_1 3 rfl rfl)
theorem dX8_joined_27 : decode cX8_joined 27 = .ok (.aload_n 0, 1) := dk_42 (dk_at dksX8_joined_1 4 rfl rfl)
theorem dX8_joined_28 : decode cX8_joined 28 = .ok (.getfield 51, 3) := dk_180 0 51 (dk_at dksX8_joined_1 5 rfl rfl)
theorem dX8_joined_31 : decode cX8_joined 31 = .ok (.aload_n 1, 1) := dk_43 (dk_at dksX8_joined_1 8 rfl rfl)
theorem dX8_joined_32 : decode cX8_joined 32 = .ok (.invokestatic 54, 3) := dk_184 0 54 (dk_at dksX8_joined_1 9 rfl rfl)
theorem dX8_joined_35 : decode cX8_joined 35 = .ok (.putfield 51, 3) := dk_181 0 51 (dk_at dksX8_joined_1 12 rfl rfl)
theorem dX8_joined_38 : decode cX8_joined 38 = .ok (.aload_n 0, 1) := dk_42 (dk_at dksX8_joined_1 15 rfl rfl)
theorem dX8_joined_39 : decode cX8_joined 39 = .ok (.areturn, 1) := dk_176 (dk_at dksX8_joined_1 16 rfl rfl)
theorem dX8_joined_40 : decode cX8_joined 40 = .ok (.aload_n 1, 1) := dk_43 (dk_at dksX8_joined_1 17 rfl rfl)
theorem dX8_joined_41 : decode cX8_joined 41 = .ok (.aload_n 0, 1) := dk_42 (dk_at dksX8_joined_1 18 rfl rfl)
theorem dX8_joined_42 : decode cX8_joined 42 = .ok (.aload_n 1, 1) := dk_43 (dk_at dksX8_joined_1 19 rfl rfl)
theorem dX8_joined_43 : decode cX8_joined 43 = .ok (.getfield 48, 3) := dk_180 0 48 (dk_at dksX8_joined_1 20 rfl rfl)
theorem dX8_joined_46 : decode cX8_joined 46 = .ok (.invokestatic 54, 3) := dk_184 0 54 (dk_at dksX8_joined_2 0 rfl rfl)
theorem dX8_joined_49 : decode cX8_joined 49 = .ok (.putfield 48, 3) := dk_181 0 48 (dk_at dksX8_joined_2 3 rfl rfl)
theorem dX8_joined_52 : decode cX8_joined 52 = .ok (.aload_n 1, 1) := dk_43 (dk_at dksX8_joined_2 6 rfl rfl)
theorem dX8_joined_53 : decode cX8_joined 53 = .ok (.areturn, 1) := dk_176 (dk_at dksX8_joined_2 7 rfl rfl)
abbrev cX8_steps : ByteArray := prog_9_method_9_code
def yX8_steps : MethodName := ⟨RX8, "steps", "(II)I"⟩
def dkwX8_steps_2 : List UInt8 := [167, 0, 8, 25, 4, 180, 0, 51, 58, 4, 167, 255, 210, 29, 172]
abbrev dktX8_steps_2 : List UInt8 := dkwX8_steps_2 ++ []
def dkwX8_steps_1 : List UInt8 := [160, 0, 7, 1, 167, 0, 26, 25, 4, 27, 28, 182, 0, 44, 156, 0, 11, 25, 4, 180, 0, 48]
abbrev dktX8_steps_1 : List UInt8 := dkwX8_steps_1 ++ dktX8_steps_2
def dkwX8_steps_0 : List UInt8 := [3, 62, 42, 180, 0, 11, 58, 4, 25, 4, 198, 0, 47, 132, 3, 1, 25, 4, 180, 0, 41, 28]
abbrev dktX8_steps_0 : List UInt8 := dkwX8_steps_0 ++ dktX8_steps_1
theorem dksX8_steps_0 : cX8_steps.data.toList.drop 0 = dktX8_steps_0 := by decide +kernel
theorem dksX8_steps_1 : cX8_steps.data.toList.drop 22 = dktX8_steps_1 := dk_seg dksX8_steps_0 22 rfl rfl
theorem dksX8_steps_2 : cX8_steps.data.toList.drop 44 = dktX8_steps_2 := dk_seg dksX8_steps_1 22 rfl rfl
theorem dX8_steps_0 : decode cX8_steps 0 = .ok (.iconst 0, 1) := dk_3 (dk_at dksX8_steps_0 0 rfl rfl)
theorem dX8_steps_1 : decode cX8_steps 1 = .ok (.istore_n 3, 1) := dk_62 (dk_at dksX8_steps_0 1 rfl rfl)
theorem dX8_steps_2 : decode cX8_steps 2 = .ok (.aload_n 0, 1) := dk_42 (dk_at dksX8_steps_0 2 rfl rfl)
theorem dX8_steps_3 : decode cX8_steps 3 = .ok (.getfield 11, 3) := dk_180 0 11 (dk_at dksX8_steps_0 3 rfl rfl)
theorem dX8_steps_6 : decode cX8_steps 6 = .ok (.astore 4, 2) := dk_58 4 (dk_at dksX8_steps_0 6 rfl rfl)
theorem dX8_steps_8 : decode cX8_steps 8 = .ok (.aload 4, 2) := dk_25 4 (dk_at dksX8_steps_0 8 rfl rfl)
theorem dX8_steps_10 : decode cX8_steps 10 = .ok (.ifnull 47, 3) := dk_198 0 47 (dk_at dksX8_steps_0 10 rfl rfl)
theorem dX8_steps_13 : decode cX8_steps 13 = .ok (.iinc 3 1, 3) := dk_132 3 1 (dk_at dksX8_steps_0 13 rfl rfl)
theorem dX8_steps_16 : decode cX8_steps 16 = .ok (.aload 4, 2) := dk_25 4 (dk_at dksX8_steps_0 16 rfl rfl)
theorem dX8_steps_18 : decode cX8_steps 18 = .ok (.getfield 41, 3) := dk_180 0 41 (dk_at dksX8_steps_0 18 rfl rfl)
theorem dX8_steps_21 : decode cX8_steps 21 = .ok (.iload_n 2, 1) := dk_28 (dk_at dksX8_steps_0 21 rfl rfl)
theorem dX8_steps_22 : decode cX8_steps 22 = .ok (.if_icmp .ne 7, 3) := dk_160 0 7 (dk_at dksX8_steps_1 0 rfl rfl)
theorem dX8_steps_25 : decode cX8_steps 25 = .ok (.aconst_null, 1) := dk_1 (dk_at dksX8_steps_1 3 rfl rfl)
theorem dX8_steps_26 : decode cX8_steps 26 = .ok (.goto 26, 3) := dk_167 0 26 (dk_at dksX8_steps_1 4 rfl rfl)
theorem dX8_steps_29 : decode cX8_steps 29 = .ok (.aload 4, 2) := dk_25 4 (dk_at dksX8_steps_1 7 rfl rfl)
theorem dX8_steps_31 : decode cX8_steps 31 = .ok (.iload_n 1, 1) := dk_27 (dk_at dksX8_steps_1 9 rfl rfl)
theorem dX8_steps_32 : decode cX8_steps 32 = .ok (.iload_n 2, 1) := dk_28 (dk_at dksX8_steps_1 10 rfl rfl)
theorem dX8_steps_33 : decode cX8_steps 33 = .ok (.invokevirtual 44, 3) := dk_182 0 44 (dk_at dksX8_steps_1 11 rfl rfl)
theorem dX8_steps_36 : decode cX8_steps 36 = .ok (.ifCond .ge 11, 3) := dk_156 0 11 (dk_at dksX8_steps_1 14 rfl rfl)
theorem dX8_steps_39 : decode cX8_steps 39 = .ok (.aload 4, 2) := dk_25 4 (dk_at dksX8_steps_1 17 rfl rfl)
theorem dX8_steps_41 : decode cX8_steps 41 = .ok (.getfield 48, 3) := dk_180 0 48 (dk_at dksX8_steps_1 19 rfl rfl)
theorem dX8_steps_44 : decode cX8_steps 44 = .ok (.goto 8, 3) := dk_167 0 8 (dk_at dksX8_steps_2 0 rfl rfl)
theorem dX8_steps_47 : decode cX8_steps 47 = .ok (.aload 4, 2) := dk_25 4 (dk_at dksX8_steps_2 3 rfl rfl)
theorem dX8_steps_49 : decode cX8_steps 49 = .ok (.getfield 51, 3) := dk_180 0 51 (dk_at dksX8_steps_2 5 rfl rfl)
theorem dX8_steps_52 : decode cX8_steps 52 = .ok (.astore 4, 2) := dk_58 4 (dk_at dksX8_steps_2 8 rfl rfl)
theorem dX8_steps_54 : decode cX8_steps 54 = .ok (.goto (-46), 3) := dk_167 255 210 (dk_at dksX8_steps_2 10 rfl rfl)
theorem dX8_steps_57 : decode cX8_steps 57 = .ok (.iload_n 3, 1) := dk_29 (dk_at dksX8_steps_2 13 rfl rfl)
theorem dX8_steps_58 : decode cX8_steps 58 = .ok (.ireturn, 1) := dk_172 (dk_at dksX8_steps_2 14 rfl rfl)
abbrev cX8_root : ByteArray := prog_9_method_10_code
def yX8_root : MethodName := ⟨RX8, "root", "()LCrowdedBins$Entry;"⟩
theorem dX8_root_0 : decode cX8_root 0 = .ok (.aload_n 0, 1) := by decide +kernel
theorem dX8_root_1 : decode cX8_root 1 = .ok (.getfield 11, 3) := by decide +kernel
theorem dX8_root_4 : decode cX8_root 4 = .ok (.areturn, 1) := by decide +kernel
abbrev cX8_levels : ByteArray := prog_9_method_11_code
def yX8_levels : MethodName := ⟨RX8, "levels", "()I"⟩
def dkwX8_levels_0 : List UInt8 := [42, 180, 0, 11, 184, 0, 57, 172]
abbrev dktX8_levels_0 : List UInt8 := dkwX8_levels_0 ++ []
theorem dksX8_levels_0 : cX8_levels.data.toList.drop 0 = dktX8_levels_0 := by decide +kernel
theorem dX8_levels_0 : decode cX8_levels 0 = .ok (.aload_n 0, 1) := dk_42 (dk_at dksX8_levels_0 0 rfl rfl)
theorem dX8_levels_1 : decode cX8_levels 1 = .ok (.getfield 11, 3) := dk_180 0 11 (dk_at dksX8_levels_0 1 rfl rfl)
theorem dX8_levels_4 : decode cX8_levels 4 = .ok (.invokestatic 57, 3) := dk_184 0 57 (dk_at dksX8_levels_0 4 rfl rfl)
theorem dX8_levels_7 : decode cX8_levels 7 = .ok (.ireturn, 1) := dk_172 (dk_at dksX8_levels_0 7 rfl rfl)
abbrev cX8_levels_2 : ByteArray := prog_9_method_12_code
def yX8_levels_2 : MethodName := ⟨RX8, "levels", "(LCrowdedBins$Entry;)I"⟩
def dkwX8_levels_2_1 : List UInt8 := [184, 0, 61, 96, 172]
abbrev dktX8_levels_2_1 : List UInt8 := dkwX8_levels_2_1 ++ []
def dkwX8_levels_2_0 : List UInt8 := [42, 199, 0, 7, 3, 167, 0, 22, 4, 42, 180, 0, 48, 184, 0, 57, 42, 180, 0, 51, 184, 0, 57]
abbrev dktX8_levels_2_0 : List UInt8 := dkwX8_levels_2_0 ++ dktX8_levels_2_1
theorem dksX8_levels_2_0 : cX8_levels_2.data.toList.drop 0 = dktX8_levels_2_0 := by decide +kernel
theorem dksX8_levels_2_1 : cX8_levels_2.data.toList.drop 23 = dktX8_levels_2_1 := dk_seg dksX8_levels_2_0 23 rfl rfl
theorem dX8_levels_2_0 : decode cX8_levels_2 0 = .ok (.aload_n 0, 1) := dk_42 (dk_at dksX8_levels_2_0 0 rfl rfl)
theorem dX8_levels_2_1 : decode cX8_levels_2 1 = .ok (.ifnonnull 7, 3) := dk_199 0 7 (dk_at dksX8_levels_2_0 1 rfl rfl)
theorem dX8_levels_2_4 : decode cX8_levels_2 4 = .ok (.iconst 0, 1) := dk_3 (dk_at dksX8_levels_2_0 4 rfl rfl)
theorem dX8_levels_2_5 : decode cX8_levels_2 5 = .ok (.goto 22, 3) := dk_167 0 22 (dk_at dksX8_levels_2_0 5 rfl rfl)
theorem dX8_levels_2_8 : decode cX8_levels_2 8 = .ok (.iconst 1, 1) := dk_4 (dk_at dksX8_levels_2_0 8 rfl rfl)
theorem dX8_levels_2_9 : decode cX8_levels_2 9 = .ok (.aload_n 0, 1) := dk_42 (dk_at dksX8_levels_2_0 9 rfl rfl)
theorem dX8_levels_2_10 : decode cX8_levels_2 10 = .ok (.getfield 48, 3) := dk_180 0 48 (dk_at dksX8_levels_2_0 10 rfl rfl)
theorem dX8_levels_2_13 : decode cX8_levels_2 13 = .ok (.invokestatic 57, 3) := dk_184 0 57 (dk_at dksX8_levels_2_0 13 rfl rfl)
theorem dX8_levels_2_16 : decode cX8_levels_2 16 = .ok (.aload_n 0, 1) := dk_42 (dk_at dksX8_levels_2_0 16 rfl rfl)
theorem dX8_levels_2_17 : decode cX8_levels_2 17 = .ok (.getfield 51, 3) := dk_180 0 51 (dk_at dksX8_levels_2_0 17 rfl rfl)
theorem dX8_levels_2_20 : decode cX8_levels_2 20 = .ok (.invokestatic 57, 3) := dk_184 0 57 (dk_at dksX8_levels_2_0 20 rfl rfl)
theorem dX8_levels_2_23 : decode cX8_levels_2 23 = .ok (.invokestatic 61, 3) := dk_184 0 61 (dk_at dksX8_levels_2_1 0 rfl rfl)
theorem dX8_levels_2_26 : decode cX8_levels_2 26 = .ok (.iadd, 1) := dk_96 (dk_at dksX8_levels_2_1 3 rfl rfl)
theorem dX8_levels_2_27 : decode cX8_levels_2 27 = .ok (.ireturn, 1) := dk_172 (dk_at dksX8_levels_2_1 4 rfl rfl)
theorem q89 : (Jvm.Cond.initialized "CrowdedBins$Tree") ∈ lw_all := lw_g (lw_at lw_m1 9 rfl) rfl
theorem q285 : (Jvm.Cond.selects "CrowdedBins$Tree" ({ cls := "CrowdedBins$Bin", name := "finds", desc := "(II)LCrowdedBins$Entry;" } : Jvm.MethodName) ({ cls := "CrowdedBins$Tree", name := "finds", desc := "(II)LCrowdedBins$Entry;" } : Jvm.MethodName)) ∈ lw_all := lw_g (lw_at lw_m1 205 rfl) rfl
theorem q286 : (Jvm.Cond.instanceMethod ({ cls := "CrowdedBins$Tree", name := "finds", desc := "(II)LCrowdedBins$Entry;" } : Jvm.MethodName)) ∈ lw_all := lw_g (lw_at lw_m1 206 rfl) rfl
theorem q287 : (Jvm.Cond.code ({ cls := "CrowdedBins$Tree", name := "finds", desc := "(II)LCrowdedBins$Entry;" } : Jvm.MethodName) prog_9_method_8_code (4 : Nat) (Option.some (Jvm.ClassFile.FieldType.object "CrowdedBins$Entry"))) ∈ lw_all := lw_g (lw_at lw_m1 207 rfl) rfl
theorem q288 : (Jvm.Cond.methodLink "CrowdedBins$Tree" (44 : Nat) ({ cls := "CrowdedBins$Entry", name := "place", desc := "(II)I" } : Jvm.MethodName)) ∈ lw_all := lw_g (lw_at lw_m1 208 rfl) rfl
theorem q341 : (Jvm.Cond.selects "CrowdedBins$Tree" ({ cls := "CrowdedBins$Bin", name := "size", desc := "()I" } : Jvm.MethodName) ({ cls := "CrowdedBins$Bin", name := "size", desc := "()I" } : Jvm.MethodName)) ∈ lw_all := lw_g (lw_at lw_m2 21 rfl) rfl
theorem q360 : (Jvm.Cond.fieldLinkNest "CrowdedBins$Tree" (41 : Nat) "CrowdedBins$Entry" "key" "I" "CrowdedBins") ∈ lw_tbl := lw_at lw_m2 40 rfl
theorem q367 : (Jvm.Cond.fieldLinkNest "CrowdedBins$Tree" (37 : Nat) "CrowdedBins$Entry" "hash" "I" "CrowdedBins") ∈ lw_tbl := lw_at lw_m2 47 rfl
theorem q378 : (Jvm.Cond.fieldLinkNest "CrowdedBins$Tree" (48 : Nat) "CrowdedBins$Entry" "left" "LCrowdedBins$Entry;" "CrowdedBins") ∈ lw_tbl := lw_at lw_m2 58 rfl
theorem q380 : (Jvm.Cond.fieldLinkNest "CrowdedBins$Tree" (51 : Nat) "CrowdedBins$Entry" "right" "LCrowdedBins$Entry;" "CrowdedBins") ∈ lw_tbl := lw_at lw_m2 60 rfl
theorem q416 : (Jvm.Cond.selects "CrowdedBins$Tree" ({ cls := "CrowdedBins$Bin", name := "comes", desc := "(LCrowdedBins$Entry;)V" } : Jvm.MethodName) ({ cls := "CrowdedBins$Tree", name := "comes", desc := "(LCrowdedBins$Entry;)V" } : Jvm.MethodName)) ∈ lw_all := lw_g (lw_at lw_m2 96 rfl) rfl
theorem q417 : (Jvm.Cond.instanceMethod ({ cls := "CrowdedBins$Tree", name := "comes", desc := "(LCrowdedBins$Entry;)V" } : Jvm.MethodName)) ∈ lw_all := lw_g (lw_at lw_m2 97 rfl) rfl
theorem q418 : (Jvm.Cond.code ({ cls := "CrowdedBins$Tree", name := "comes", desc := "(LCrowdedBins$Entry;)V" } : Jvm.MethodName) prog_9_method_2_code (2 : Nat) (Option.none : Option Jvm.ClassFile.FieldType)) ∈ lw_all := lw_g (lw_at lw_m2 98 rfl) rfl
theorem q419 : (Jvm.Cond.methodLink "CrowdedBins$Tree" (7 : Nat) ({ cls := "CrowdedBins$Bin", name := "comes", desc := "(LCrowdedBins$Entry;)V" } : Jvm.MethodName)) ∈ lw_all := lw_g (lw_at lw_m2 99 rfl) rfl
theorem q420 : (Jvm.Cond.superclass "CrowdedBins$Tree" "CrowdedBins$Bin") ∈ lw_all := lw_g (lw_at lw_m2 100 rfl) rfl
theorem q421 : (Jvm.Cond.methodLink "CrowdedBins$Tree" (17 : Nat) ({ cls := "CrowdedBins$Tree", name := "with", desc := "(LCrowdedBins$Entry;LCrowdedBins$Entry;)LCrowdedBins$Entry;" } : Jvm.MethodName)) ∈ lw_all := lw_g (lw_at lw_m2 101 rfl) rfl
theorem q422 : (Jvm.Cond.static ({ cls := "CrowdedBins$Tree", name := "with", desc := "(LCrowdedBins$Entry;LCrowdedBins$Entry;)LCrowdedBins$Entry;" } : Jvm.MethodName)) ∈ lw_all := lw_g (lw_at lw_m2 102 rfl) rfl
theorem q423 : (Jvm.Cond.code ({ cls := "CrowdedBins$Tree", name := "with", desc := "(LCrowdedBins$Entry;LCrowdedBins$Entry;)LCrowdedBins$Entry;" } : Jvm.MethodName) prog_9_method_4_code (2 : Nat) (Option.some (Jvm.ClassFile.FieldType.object "CrowdedBins$Entry"))) ∈ lw_all := lw_g (lw_at lw_m2 103 rfl) rfl
theorem q424 : (Jvm.Cond.methodLink "CrowdedBins$Tree" (27 : Nat) ({ cls := "CrowdedBins$Entry", name := "isAbove", desc := "(LCrowdedBins$Entry;)Z" } : Jvm.MethodName)) ∈ lw_all := lw_g (lw_at lw_m2 104 rfl) rfl
theorem q428 : (Jvm.Cond.methodLink "CrowdedBins$Tree" (33 : Nat) ({ cls := "CrowdedBins$Tree", name := "splits", desc := "(LCrowdedBins$Entry;LCrowdedBins$Entry;)V" } : Jvm.MethodName)) ∈ lw_all := lw_g (lw_at lw_m2 108 rfl) rfl
theorem q429 : (Jvm.Cond.static ({ cls := "CrowdedBins$Tree", name := "splits", desc := "(LCrowdedBins$Entry;LCrowdedBins$Entry;)V" } : Jvm.MethodName)) ∈ lw_all := lw_g (lw_at lw_m2 109 rfl) rfl
theorem q430 : (Jvm.Cond.code ({ cls := "CrowdedBins$Tree", name := "splits", desc := "(LCrowdedBins$Entry;LCrowdedBins$Entry;)V" } : Jvm.MethodName) prog_9_method_5_code (2 : Nat) (Option.none : Option Jvm.ClassFile.FieldType)) ∈ lw_all := lw_g (lw_at lw_m2 110 rfl) rfl
theorem q447 : (Jvm.Cond.instantiable "CrowdedBins$Tree" (4 : Nat)) ∈ lw_all := lw_g (lw_at lw_m2 127 rfl) rfl
theorem q449 : (Jvm.Cond.instanceMethod ({ cls := "CrowdedBins$Tree", name := "<init>", desc := "()V" } : Jvm.MethodName)) ∈ lw_all := lw_g (lw_at lw_m2 129 rfl) rfl
theorem q450 : (Jvm.Cond.code ({ cls := "CrowdedBins$Tree", name := "<init>", desc := "()V" } : Jvm.MethodName) prog_9_method_1_code (1 : Nat) (Option.none : Option Jvm.ClassFile.FieldType)) ∈ lw_all := lw_g (lw_at lw_m2 130 rfl) rfl
theorem q451 : (Jvm.Cond.methodLinkNest "CrowdedBins$Tree" (1 : Nat) ({ cls := "CrowdedBins$Bin", name := "<init>", desc := "()V" } : Jvm.MethodName) "CrowdedBins") ∈ lw_tbl := lw_at lw_m2 131 rfl
theorem q452 : (Jvm.Cond.fieldLink "CrowdedBins$Tree" (11 : Nat) "CrowdedBins$Tree" "root" "LCrowdedBins$Entry;") ∈ lw_all := lw_g (lw_at lw_m2 132 rfl) rfl
theorem q453 : (Jvm.Cond.lays "CrowdedBins$Tree" "CrowdedBins$Tree" "root" "LCrowdedBins$Entry;") ∈ lw_all := lw_g (lw_at lw_m2 133 rfl) rfl
theorem q454 : (Jvm.Cond.soleField "CrowdedBins$Tree" "root") ∈ lw_all := lw_g (lw_at lw_m2 134 rfl) rfl
theorem q455 : (Jvm.Cond.lays "CrowdedBins$Tree" "CrowdedBins$Bin" "first" "LCrowdedBins$Entry;") ∈ lw_all := lw_g (lw_at lw_m2 135 rfl) rfl
theorem q456 : (Jvm.Cond.lays "CrowdedBins$Tree" "CrowdedBins$Bin" "last" "LCrowdedBins$Entry;") ∈ lw_all := lw_g (lw_at lw_m2 136 rfl) rfl
theorem q457 : (Jvm.Cond.lays "CrowdedBins$Tree" "CrowdedBins$Bin" "many" "I") ∈ lw_all := lw_g (lw_at lw_m2 137 rfl) rfl
theorem q462 : (Jvm.Cond.selects "CrowdedBins$Tree" ({ cls := "CrowdedBins$Bin", name := "takes", desc := "(LCrowdedBins$Bin;)V" } : Jvm.MethodName) ({ cls := "CrowdedBins$Bin", name := "takes", desc := "(LCrowdedBins$Bin;)V" } : Jvm.MethodName)) ∈ lw_all := lw_g (lw_at lw_m2 142 rfl) rfl
theorem q481 : (Jvm.Cond.selects "CrowdedBins$Tree" ({ cls := "CrowdedBins$Bin", name := "goes", desc := "(LCrowdedBins$Entry;)V" } : Jvm.MethodName) ({ cls := "CrowdedBins$Tree", name := "goes", desc := "(LCrowdedBins$Entry;)V" } : Jvm.MethodName)) ∈ lw_all := lw_g (lw_at lw_m2 161 rfl) rfl
theorem q482 : (Jvm.Cond.instanceMethod ({ cls := "CrowdedBins$Tree", name := "goes", desc := "(LCrowdedBins$Entry;)V" } : Jvm.MethodName)) ∈ lw_all := lw_g (lw_at lw_m2 162 rfl) rfl
theorem q483 : (Jvm.Cond.code ({ cls := "CrowdedBins$Tree", name := "goes", desc := "(LCrowdedBins$Entry;)V" } : Jvm.MethodName) prog_9_method_3_code (2 : Nat) (Option.none : Option Jvm.ClassFile.FieldType)) ∈ lw_all := lw_g (lw_at lw_m2 163 rfl) rfl
theorem q484 : (Jvm.Cond.methodLink "CrowdedBins$Tree" (21 : Nat) ({ cls := "CrowdedBins$Bin", name := "goes", desc := "(LCrowdedBins$Entry;)V" } : Jvm.MethodName)) ∈ lw_all := lw_g (lw_at lw_m2 164 rfl) rfl
theorem q485 : (Jvm.Cond.methodLink "CrowdedBins$Tree" (24 : Nat) ({ cls := "CrowdedBins$Tree", name := "without", desc := "(LCrowdedBins$Entry;LCrowdedBins$Entry;)LCrowdedBins$Entry;" } : Jvm.MethodName)) ∈ lw_all := lw_g (lw_at lw_m2 165 rfl) rfl
theorem q486 : (Jvm.Cond.static ({ cls := "CrowdedBins$Tree", name := "without", desc := "(LCrowdedBins$Entry;LCrowdedBins$Entry;)LCrowdedBins$Entry;" } : Jvm.MethodName)) ∈ lw_all := lw_g (lw_at lw_m2 166 rfl) rfl
theorem q487 : (Jvm.Cond.code ({ cls := "CrowdedBins$Tree", name := "without", desc := "(LCrowdedBins$Entry;LCrowdedBins$Entry;)LCrowdedBins$Entry;" } : Jvm.MethodName) prog_9_method_6_code (2 : Nat) (Option.some (Jvm.ClassFile.FieldType.object "CrowdedBins$Entry"))) ∈ lw_all := lw_g (lw_at lw_m2 167 rfl) rfl
theorem q488 : (Jvm.Cond.methodLink "CrowdedBins$Tree" (54 : Nat) ({ cls := "CrowdedBins$Tree", name := "joined", desc := "(LCrowdedBins$Entry;LCrowdedBins$Entry;)LCrowdedBins$Entry;" } : Jvm.MethodName)) ∈ lw_all := lw_g (lw_at lw_m2 168 rfl) rfl
theorem q489 : (Jvm.Cond.static ({ cls := "CrowdedBins$Tree", name := "joined", desc := "(LCrowdedBins$Entry;LCrowdedBins$Entry;)LCrowdedBins$Entry;" } : Jvm.MethodName)) ∈ lw_all := lw_g (lw_at lw_m2 169 rfl) rfl
theorem q490 : (Jvm.Cond.code ({ cls := "CrowdedBins$Tree", name := "joined", desc := "(LCrowdedBins$Entry;LCrowdedBins$Entry;)LCrowdedBins$Entry;" } : Jvm.MethodName) prog_9_method_7_code (2 : Nat) (Option.some (Jvm.ClassFile.FieldType.object "CrowdedBins$Entry"))) ∈ lw_all := lw_g (lw_at lw_m2 170 rfl) rfl
theorem q543 : (Jvm.Cond.selects "CrowdedBins$Tree" ({ cls := "CrowdedBins$Bin", name := "steps", desc := "(II)I" } : Jvm.MethodName) ({ cls := "CrowdedBins$Tree", name := "steps", desc := "(II)I" } : Jvm.MethodName)) ∈ lw_all := lw_g (lw_at lw_m2 223 rfl) rfl
theorem q544 : (Jvm.Cond.instanceMethod ({ cls := "CrowdedBins$Tree", name := "steps", desc := "(II)I" } : Jvm.MethodName)) ∈ lw_all := lw_g (lw_at lw_m2 224 rfl) rfl
theorem q545 : (Jvm.Cond.code ({ cls := "CrowdedBins$Tree", name := "steps", desc := "(II)I" } : Jvm.MethodName) prog_9_method_9_code (5 : Nat) (Option.some Jvm.ClassFile.FieldType.int)) ∈ lw_all := lw_g (lw_at lw_m2 225 rfl) rfl
theorem q567 : (Jvm.Cond.selects "CrowdedBins$Tree" ({ cls := "CrowdedBins$Bin", name := "root", desc := "()LCrowdedBins$Entry;" } : Jvm.MethodName) ({ cls := "CrowdedBins$Tree", name := "root", desc := "()LCrowdedBins$Entry;" } : Jvm.MethodName)) ∈ lw_all := lw_g (lw_at lw_m3 7 rfl) rfl
theorem q568 : (Jvm.Cond.instanceMethod ({ cls := "CrowdedBins$Tree", name := "root", desc := "()LCrowdedBins$Entry;" } : Jvm.MethodName)) ∈ lw_all := lw_g (lw_at lw_m3 8 rfl) rfl
theorem q569 : (Jvm.Cond.code ({ cls := "CrowdedBins$Tree", name := "root", desc := "()LCrowdedBins$Entry;" } : Jvm.MethodName) prog_9_method_10_code (1 : Nat) (Option.some (Jvm.ClassFile.FieldType.object "CrowdedBins$Entry"))) ∈ lw_all := lw_g (lw_at lw_m3 9 rfl) rfl
theorem q575 : (Jvm.Cond.selects "CrowdedBins$Tree" ({ cls := "CrowdedBins$Bin", name := "levels", desc := "()I" } : Jvm.MethodName) ({ cls := "CrowdedBins$Tree", name := "levels", desc := "()I" } : Jvm.MethodName)) ∈ lw_all := lw_g (lw_at lw_m3 15 rfl) rfl
theorem q576 : (Jvm.Cond.instanceMethod ({ cls := "CrowdedBins$Tree", name := "levels", desc := "()I" } : Jvm.MethodName)) ∈ lw_all := lw_g (lw_at lw_m3 16 rfl) rfl
theorem q577 : (Jvm.Cond.code ({ cls := "CrowdedBins$Tree", name := "levels", desc := "()I" } : Jvm.MethodName) prog_9_method_11_code (1 : Nat) (Option.some Jvm.ClassFile.FieldType.int)) ∈ lw_all := lw_g (lw_at lw_m3 17 rfl) rfl
theorem q578 : (Jvm.Cond.methodLink "CrowdedBins$Tree" (57 : Nat) ({ cls := "CrowdedBins$Tree", name := "levels", desc := "(LCrowdedBins$Entry;)I" } : Jvm.MethodName)) ∈ lw_all := lw_g (lw_at lw_m3 18 rfl) rfl
theorem q579 : (Jvm.Cond.static ({ cls := "CrowdedBins$Tree", name := "levels", desc := "(LCrowdedBins$Entry;)I" } : Jvm.MethodName)) ∈ lw_all := lw_g (lw_at lw_m3 19 rfl) rfl
theorem q580 : (Jvm.Cond.code ({ cls := "CrowdedBins$Tree", name := "levels", desc := "(LCrowdedBins$Entry;)I" } : Jvm.MethodName) prog_9_method_12_code (1 : Nat) (Option.some Jvm.ClassFile.FieldType.int)) ∈ lw_all := lw_g (lw_at lw_m3 20 rfl) rfl
theorem q581 : (Jvm.Cond.methodLink "CrowdedBins$Tree" (61 : Nat) ({ cls := "java/lang/Math", name := "max", desc := "(II)I" } : Jvm.MethodName)) ∈ lw_all := lw_g (lw_at lw_m3 21 rfl) rfl
theorem q1189 : (Jvm.Cond.selects "CrowdedBins$Tree" ({ cls := "CrowdedBins$Bin", name := "first", desc := "()LCrowdedBins$Entry;" } : Jvm.MethodName) ({ cls := "CrowdedBins$Bin", name := "first", desc := "()LCrowdedBins$Entry;" } : Jvm.MethodName)) ∈ lw_all := lw_g (lw_at lw_m5 149 rfl) rfl
theorem q1192 : (Jvm.Cond.castable "CrowdedBins$Tree" "CrowdedBins$Bin") ∈ lw_tbl := lw_at lw_m5 152 rfl
theorem in_X8 : ∀ w ∈ wsX80, w ∈ lw_all := lw_in wsX80 [455, 456, 457, 453] (by decide +kernel) (by decide +kernel)

/-! CrowdedBins$Cursor -/
set_option maxRecDepth 100000
def RX1 : String := "CrowdedBins$Cursor"
def TX1 : u_T := fun k => match k with
  | 0 => ("CrowdedBins$Cursor", "way", "LCrowdedBins$Way;", false)
  | 1 => ("CrowdedBins$Cursor", "next", "LCrowdedBins$Entry;", false)
  | 2 => ("CrowdedBins$Cursor", "last", "I", false)
  | _ => ("CrowdedBins$Cursor", "known", "I", false)
def tyX1 : Nat → FieldType := fun k => match k with
  | 0 => .object "CrowdedBins$Way"
  | 1 => .object "CrowdedBins$Entry"
  | 2 => .int
  | _ => .int
abbrev wsX10 : List Cond := u_ws RX1 TX1 4
theorem nmX1 : ∀ a, a < 4 → ∀ b, b < 4 → a ≠ b → (TX1 a).2.1 ≠ (TX1 b).2.1 := by decide +kernel
theorem tyX1_ok : ∀ k, k < 4 → parseFieldDescriptor (TX1 k).2.2.1 = some (tyX1 k) := by decide +kernel
abbrev cX1_init : ByteArray := prog_3_method_1_code
def yX1_init : MethodName := ⟨RX1, "<init>", "()V"⟩
def dkwX1_init_0 : List UInt8 := [42, 183, 0, 3, 42, 2, 181, 0, 9, 177]
abbrev dktX1_init_0 : List UInt8 := dkwX1_init_0 ++ []
theorem dksX1_init_0 : cX1_init.data.toList.drop 0 = dktX1_init_0 := by decide +kernel
theorem dX1_init_0 : decode cX1_init 0 = .ok (.aload_n 0, 1) := dk_42 (dk_at dksX1_init_0 0 rfl rfl)
theorem dX1_init_1 : decode cX1_init 1 = .ok (.invokespecial 3, 3) := dk_183 0 3 (dk_at dksX1_init_0 1 rfl rfl)
theorem dX1_init_4 : decode cX1_init 4 = .ok (.aload_n 0, 1) := dk_42 (dk_at dksX1_init_0 4 rfl rfl)
theorem dX1_init_5 : decode cX1_init 5 = .ok (.iconst (-1), 1) := dk_2 (dk_at dksX1_init_0 5 rfl rfl)
theorem dX1_init_6 : decode cX1_init 6 = .ok (.putfield 9, 3) := dk_181 0 9 (dk_at dksX1_init_0 6 rfl rfl)
theorem dX1_init_9 : decode cX1_init 9 = .ok (.return_, 1) := dk_177 (dk_at dksX1_init_0 9 rfl rfl)
theorem q82 : (Jvm.Cond.initialized "CrowdedBins$Cursor") ∈ lw_all := lw_g (lw_at lw_m1 2 rfl) rfl
theorem q110 : (Jvm.Cond.instantiable "CrowdedBins$Cursor" (4 : Nat)) ∈ lw_all := lw_g (lw_at lw_m1 30 rfl) rfl
theorem q112 : (Jvm.Cond.instanceMethod ({ cls := "CrowdedBins$Cursor", name := "<init>", desc := "()V" } : Jvm.MethodName)) ∈ lw_all := lw_g (lw_at lw_m1 32 rfl) rfl
theorem q113 : (Jvm.Cond.code ({ cls := "CrowdedBins$Cursor", name := "<init>", desc := "()V" } : Jvm.MethodName) prog_3_method_1_code (1 : Nat) (Option.none : Option Jvm.ClassFile.FieldType)) ∈ lw_all := lw_g (lw_at lw_m1 33 rfl) rfl
theorem q114 : (Jvm.Cond.methodLink "CrowdedBins$Cursor" (3 : Nat) ({ cls := "java/lang/Object", name := "<init>", desc := "()V" } : Jvm.MethodName)) ∈ lw_all := lw_g (lw_at lw_m1 34 rfl) rfl
theorem q117 : (Jvm.Cond.fieldLink "CrowdedBins$Cursor" (9 : Nat) "CrowdedBins$Cursor" "last" "I") ∈ lw_all := lw_g (lw_at lw_m1 37 rfl) rfl
theorem q120 : (Jvm.Cond.lays "CrowdedBins$Cursor" "CrowdedBins$Cursor" "way" "LCrowdedBins$Way;") ∈ lw_all := lw_g (lw_at lw_m1 40 rfl) rfl
theorem q121 : (Jvm.Cond.soleField "CrowdedBins$Cursor" "way") ∈ lw_all := lw_g (lw_at lw_m1 41 rfl) rfl
theorem q122 : (Jvm.Cond.lays "CrowdedBins$Cursor" "CrowdedBins$Cursor" "next" "LCrowdedBins$Entry;") ∈ lw_all := lw_g (lw_at lw_m1 42 rfl) rfl
theorem q123 : (Jvm.Cond.soleField "CrowdedBins$Cursor" "next") ∈ lw_all := lw_g (lw_at lw_m1 43 rfl) rfl
theorem q124 : (Jvm.Cond.lays "CrowdedBins$Cursor" "CrowdedBins$Cursor" "last" "I") ∈ lw_all := lw_g (lw_at lw_m1 44 rfl) rfl
theorem q125 : (Jvm.Cond.soleField "CrowdedBins$Cursor" "last") ∈ lw_all := lw_g (lw_at lw_m1 45 rfl) rfl
theorem q126 : (Jvm.Cond.lays "CrowdedBins$Cursor" "CrowdedBins$Cursor" "known" "I") ∈ lw_all := lw_g (lw_at lw_m1 46 rfl) rfl
theorem q127 : (Jvm.Cond.soleField "CrowdedBins$Cursor" "known") ∈ lw_all := lw_g (lw_at lw_m1 47 rfl) rfl
theorem q128 : (Jvm.Cond.superclass "CrowdedBins$Cursor" "java/lang/Object") ∈ lw_all := lw_g (lw_at lw_m1 48 rfl) rfl
theorem in_X1 : ∀ w ∈ wsX10, w ∈ lw_all := lw_in wsX10 [120, 122, 124, 126] (by decide +kernel) (by decide +kernel)

/-! CrowdedBins$State -/
set_option maxRecDepth 100000
def RX6 : String := "CrowdedBins$State"
def TX6 : u_T := fun k => match k with
  | 0 => ("CrowdedBins$State", "order", "[I", false)
  | 1 => ("CrowdedBins$State", "rows", "[I", false)
  | 2 => ("CrowdedBins$State", "sizes", "[I", false)
  | 3 => ("CrowdedBins$State", "trees", "[Z", false)
  | 4 => ("CrowdedBins$State", "times", "I", false)
  | 5 => ("CrowdedBins$State", "plus", "I", false)
  | 6 => ("CrowdedBins$State", "access", "I", false)
  | _ => ("CrowdedBins$State", "limit", "I", false)
def tyX6 : Nat → FieldType := fun k => match k with
  | 0 => .array .int
  | 1 => .array .int
  | 2 => .array .int
  | 3 => .array .boolean
  | 4 => .int
  | 5 => .int
  | 6 => .int
  | _ => .int
abbrev wsX60 : List Cond := u_ws RX6 TX6 8
theorem nmX6 : ∀ a, a < 8 → ∀ b, b < 8 → a ≠ b → (TX6 a).2.1 ≠ (TX6 b).2.1 := by decide +kernel
theorem tyX6_ok : ∀ k, k < 8 → parseFieldDescriptor (TX6 k).2.2.1 = some (tyX6 k) := by decide +kernel
abbrev cX6_init : ByteArray := prog_8_method_1_code
def yX6_init : MethodName := ⟨RX6, "<init>", "()V"⟩
theorem dX6_init_0 : decode cX6_init 0 = .ok (.aload_n 0, 1) := by decide +kernel
theorem dX6_init_1 : decode cX6_init 1 = .ok (.invokespecial 1, 3) := by decide +kernel
theorem dX6_init_4 : decode cX6_init 4 = .ok (.return_, 1) := by decide +kernel
theorem q87 : (Jvm.Cond.initialized "CrowdedBins$State") ∈ lw_all := lw_g (lw_at lw_m1 7 rfl) rfl
theorem q304 : (Jvm.Cond.instantiable "CrowdedBins$State" (8 : Nat)) ∈ lw_all := lw_g (lw_at lw_m1 224 rfl) rfl
theorem q306 : (Jvm.Cond.instanceMethod ({ cls := "CrowdedBins$State", name := "<init>", desc := "()V" } : Jvm.MethodName)) ∈ lw_all := lw_g (lw_at lw_m1 226 rfl) rfl
theorem q307 : (Jvm.Cond.code ({ cls := "CrowdedBins$State", name := "<init>", desc := "()V" } : Jvm.MethodName) prog_8_method_1_code (1 : Nat) (Option.none : Option Jvm.ClassFile.FieldType)) ∈ lw_all := lw_g (lw_at lw_m1 227 rfl) rfl
theorem q308 : (Jvm.Cond.methodLink "CrowdedBins$State" (1 : Nat) ({ cls := "java/lang/Object", name := "<init>", desc := "()V" } : Jvm.MethodName)) ∈ lw_all := lw_g (lw_at lw_m1 228 rfl) rfl
theorem q317 : (Jvm.Cond.lays "CrowdedBins$State" "CrowdedBins$State" "order" "[I") ∈ lw_all := lw_g (lw_at lw_m1 237 rfl) rfl
theorem q318 : (Jvm.Cond.soleField "CrowdedBins$State" "order") ∈ lw_all := lw_g (lw_at lw_m1 238 rfl) rfl
theorem q319 : (Jvm.Cond.lays "CrowdedBins$State" "CrowdedBins$State" "rows" "[I") ∈ lw_all := lw_g (lw_at lw_m1 239 rfl) rfl
theorem q320 : (Jvm.Cond.soleField "CrowdedBins$State" "rows") ∈ lw_all := lw_g (lw_at lw_m2 0 rfl) rfl
theorem q321 : (Jvm.Cond.lays "CrowdedBins$State" "CrowdedBins$State" "sizes" "[I") ∈ lw_all := lw_g (lw_at lw_m2 1 rfl) rfl
theorem q322 : (Jvm.Cond.soleField "CrowdedBins$State" "sizes") ∈ lw_all := lw_g (lw_at lw_m2 2 rfl) rfl
theorem q323 : (Jvm.Cond.lays "CrowdedBins$State" "CrowdedBins$State" "trees" "[Z") ∈ lw_all := lw_g (lw_at lw_m2 3 rfl) rfl
theorem q324 : (Jvm.Cond.soleField "CrowdedBins$State" "trees") ∈ lw_all := lw_g (lw_at lw_m2 4 rfl) rfl
theorem q325 : (Jvm.Cond.lays "CrowdedBins$State" "CrowdedBins$State" "times" "I") ∈ lw_all := lw_g (lw_at lw_m2 5 rfl) rfl
theorem q326 : (Jvm.Cond.soleField "CrowdedBins$State" "times") ∈ lw_all := lw_g (lw_at lw_m2 6 rfl) rfl
theorem q327 : (Jvm.Cond.lays "CrowdedBins$State" "CrowdedBins$State" "plus" "I") ∈ lw_all := lw_g (lw_at lw_m2 7 rfl) rfl
theorem q328 : (Jvm.Cond.soleField "CrowdedBins$State" "plus") ∈ lw_all := lw_g (lw_at lw_m2 8 rfl) rfl
theorem q329 : (Jvm.Cond.lays "CrowdedBins$State" "CrowdedBins$State" "access" "I") ∈ lw_all := lw_g (lw_at lw_m2 9 rfl) rfl
theorem q330 : (Jvm.Cond.soleField "CrowdedBins$State" "access") ∈ lw_all := lw_g (lw_at lw_m2 10 rfl) rfl
theorem q331 : (Jvm.Cond.lays "CrowdedBins$State" "CrowdedBins$State" "limit" "I") ∈ lw_all := lw_g (lw_at lw_m2 11 rfl) rfl
theorem q332 : (Jvm.Cond.soleField "CrowdedBins$State" "limit") ∈ lw_all := lw_g (lw_at lw_m2 12 rfl) rfl
theorem q333 : (Jvm.Cond.superclass "CrowdedBins$State" "java/lang/Object") ∈ lw_all := lw_g (lw_at lw_m2 13 rfl) rfl
theorem in_X6 : ∀ w ∈ wsX60, w ∈ lw_all := lw_in wsX60 [317, 319, 321, 323, 325, 327, 329, 331] (by decide +kernel) (by decide +kernel)

/-! CrowdedBins$Reader -/
set_option maxRecDepth 100000
def RX2 : String := "CrowdedBins$Reader"
def TX2 : u_T := fun k => match k with
  | 0 => ("CrowdedBins$Reader", "at", "I", false)
  | _ => ("CrowdedBins$Reader", "this$0", "LCrowdedBins;", true)
def tyX2 : Nat → FieldType := fun k => match k with
  | 0 => .int
  | _ => .object "CrowdedBins"
abbrev wsX20 : List Cond := u_ws RX2 TX2 2
theorem nmX2 : ∀ a, a < 2 → ∀ b, b < 2 → a ≠ b → (TX2 a).2.1 ≠ (TX2 b).2.1 := by decide +kernel
theorem tyX2_ok : ∀ k, k < 2 → parseFieldDescriptor (TX2 k).2.2.1 = some (tyX2 k) := by decide +kernel
abbrev cX2_init : ByteArray := prog_7_method_1_code
def yX2_init : MethodName := ⟨RX2, "<init>", "(LCrowdedBins;)V"⟩
def dkwX2_init_0 : List UInt8 := [42, 43, 181, 0, 3, 42, 183, 0, 9, 177]
abbrev dktX2_init_0 : List UInt8 := dkwX2_init_0 ++ []
theorem dksX2_init_0 : cX2_init.data.toList.drop 0 = dktX2_init_0 := by decide +kernel
theorem dX2_init_0 : decode cX2_init 0 = .ok (.aload_n 0, 1) := dk_42 (dk_at dksX2_init_0 0 rfl rfl)
theorem dX2_init_1 : decode cX2_init 1 = .ok (.aload_n 1, 1) := dk_43 (dk_at dksX2_init_0 1 rfl rfl)
theorem dX2_init_2 : decode cX2_init 2 = .ok (.putfield 3, 3) := dk_181 0 3 (dk_at dksX2_init_0 2 rfl rfl)
theorem dX2_init_5 : decode cX2_init 5 = .ok (.aload_n 0, 1) := dk_42 (dk_at dksX2_init_0 5 rfl rfl)
theorem dX2_init_6 : decode cX2_init 6 = .ok (.invokespecial 9, 3) := dk_183 0 9 (dk_at dksX2_init_0 6 rfl rfl)
theorem dX2_init_9 : decode cX2_init 9 = .ok (.return_, 1) := dk_177 (dk_at dksX2_init_0 9 rfl rfl)
abbrev cX2_reads : ByteArray := prog_7_method_6_code
def yX2_reads : MethodName := ⟨RX2, "reads", "(Z)I"⟩
def dkwX2_reads_1 : List UInt8 := [96, 61, 42, 182, 0, 34, 2, 160, 255, 232, 28, 172]
abbrev dktX2_reads_1 : List UInt8 := dkwX2_reads_1 ++ []
def dkwX2_reads_0 : List UInt8 := [42, 3, 181, 0, 15, 3, 61, 42, 27, 182, 0, 64, 62, 28, 29, 2, 162, 0, 7, 3, 167, 0, 4, 4]
abbrev dktX2_reads_0 : List UInt8 := dkwX2_reads_0 ++ dktX2_reads_1
theorem dksX2_reads_0 : cX2_reads.data.toList.drop 0 = dktX2_reads_0 := by decide +kernel
theorem dksX2_reads_1 : cX2_reads.data.toList.drop 24 = dktX2_reads_1 := dk_seg dksX2_reads_0 24 rfl rfl
theorem dX2_reads_0 : decode cX2_reads 0 = .ok (.aload_n 0, 1) := dk_42 (dk_at dksX2_reads_0 0 rfl rfl)
theorem dX2_reads_1 : decode cX2_reads 1 = .ok (.iconst 0, 1) := dk_3 (dk_at dksX2_reads_0 1 rfl rfl)
theorem dX2_reads_2 : decode cX2_reads 2 = .ok (.putfield 15, 3) := dk_181 0 15 (dk_at dksX2_reads_0 2 rfl rfl)
theorem dX2_reads_5 : decode cX2_reads 5 = .ok (.iconst 0, 1) := dk_3 (dk_at dksX2_reads_0 5 rfl rfl)
theorem dX2_reads_6 : decode cX2_reads 6 = .ok (.istore_n 2, 1) := dk_61 (dk_at dksX2_reads_0 6 rfl rfl)
theorem dX2_reads_7 : decode cX2_reads 7 = .ok (.aload_n 0, 1) := dk_42 (dk_at dksX2_reads_0 7 rfl rfl)
theorem dX2_reads_8 : decode cX2_reads 8 = .ok (.iload_n 1, 1) := dk_27 (dk_at dksX2_reads_0 8 rfl rfl)
theorem dX2_reads_9 : decode cX2_reads 9 = .ok (.invokevirtual 64, 3) := dk_182 0 64 (dk_at dksX2_reads_0 9 rfl rfl)
theorem dX2_reads_12 : decode cX2_reads 12 = .ok (.istore_n 3, 1) := dk_62 (dk_at dksX2_reads_0 12 rfl rfl)
theorem dX2_reads_13 : decode cX2_reads 13 = .ok (.iload_n 2, 1) := dk_28 (dk_at dksX2_reads_0 13 rfl rfl)
theorem dX2_reads_14 : decode cX2_reads 14 = .ok (.iload_n 3, 1) := dk_29 (dk_at dksX2_reads_0 14 rfl rfl)
theorem dX2_reads_15 : decode cX2_reads 15 = .ok (.iconst (-1), 1) := dk_2 (dk_at dksX2_reads_0 15 rfl rfl)
theorem dX2_reads_16 : decode cX2_reads 16 = .ok (.if_icmp .ge 7, 3) := dk_162 0 7 (dk_at dksX2_reads_0 16 rfl rfl)
theorem dX2_reads_19 : decode cX2_reads 19 = .ok (.iconst 0, 1) := dk_3 (dk_at dksX2_reads_0 19 rfl rfl)
theorem dX2_reads_20 : decode cX2_reads 20 = .ok (.goto 4, 3) := dk_167 0 4 (dk_at dksX2_reads_0 20 rfl rfl)
theorem dX2_reads_23 : decode cX2_reads 23 = .ok (.iconst 1, 1) := dk_4 (dk_at dksX2_reads_0 23 rfl rfl)
theorem dX2_reads_24 : decode cX2_reads 24 = .ok (.iadd, 1) := dk_96 (dk_at dksX2_reads_1 0 rfl rfl)
theorem dX2_reads_25 : decode cX2_reads 25 = .ok (.istore_n 2, 1) := dk_61 (dk_at dksX2_reads_1 1 rfl rfl)
theorem dX2_reads_26 : decode cX2_reads 26 = .ok (.aload_n 0, 1) := dk_42 (dk_at dksX2_reads_1 2 rfl rfl)
theorem dX2_reads_27 : decode cX2_reads 27 = .ok (.invokevirtual 34, 3) := dk_182 0 34 (dk_at dksX2_reads_1 3 rfl rfl)
theorem dX2_reads_30 : decode cX2_reads 30 = .ok (.iconst (-1), 1) := dk_2 (dk_at dksX2_reads_1 6 rfl rfl)
theorem dX2_reads_31 : decode cX2_reads 31 = .ok (.if_icmp .ne (-24), 3) := dk_160 255 232 (dk_at dksX2_reads_1 7 rfl rfl)
theorem dX2_reads_34 : decode cX2_reads 34 = .ok (.iload_n 2, 1) := dk_28 (dk_at dksX2_reads_1 10 rfl rfl)
theorem dX2_reads_35 : decode cX2_reads 35 = .ok (.ireturn, 1) := dk_172 (dk_at dksX2_reads_1 11 rfl rfl)
abbrev cX2_order : ByteArray := prog_7_method_5_code
def yX2_order : MethodName := ⟨RX2, "order", "(Z)I"⟩
def dkwX2_order_7 : List UInt8 := [182, 0, 58, 167, 0, 10, 42, 180, 0, 3, 182, 0, 61, 172]
abbrev dktX2_order_7 : List UInt8 := dkwX2_order_7 ++ []
def dkwX2_order_6 : List UInt8 := [42, 180, 0, 3, 29, 182, 0, 54, 167, 0, 27, 28, 16, 114, 160, 0, 14, 42, 180, 0, 3, 29]
abbrev dktX2_order_6 : List UInt8 := dkwX2_order_6 ++ dktX2_order_7
def dkwX2_order_5 : List UInt8 := [16, 112, 160, 0, 16, 42, 180, 0, 3, 29, 21, 4, 182, 0, 50, 167, 0, 44, 28, 16, 103, 160, 0, 14]
abbrev dktX2_order_5 : List UInt8 := dkwX2_order_5 ++ dktX2_order_6
def dkwX2_order_4 : List UInt8 := [180, 0, 15, 183, 0, 44, 191, 42, 89, 180, 0, 15, 4, 96, 181, 0, 15, 27, 154, 0, 5, 3, 172, 28]
abbrev dktX2_order_4 : List UInt8 := dkwX2_order_4 ++ dktX2_order_5
def dkwX2_order_3 : List UInt8 := [42, 182, 0, 47, 167, 0, 4, 3, 54, 4, 42, 182, 0, 34, 16, 59, 159, 0, 15, 187, 0, 42, 89, 42]
abbrev dktX2_order_3 : List UInt8 := dkwX2_order_3 ++ dktX2_order_4
def dkwX2_order_2 : List UInt8 := [181, 0, 15, 28, 16, 99, 160, 0, 7, 3, 167, 0, 7, 42, 182, 0, 47, 62, 28, 16, 112, 160, 0, 10]
abbrev dktX2_order_2 : List UInt8 := dkwX2_order_2 ++ dktX2_order_3
def dkwX2_order_1 : List UInt8 := [16, 99, 159, 0, 15, 187, 0, 42, 89, 42, 180, 0, 15, 183, 0, 44, 191, 42, 89, 180, 0, 15, 4, 96]
abbrev dktX2_order_1 : List UInt8 := dkwX2_order_1 ++ dktX2_order_2
def dkwX2_order_0 : List UInt8 := [42, 182, 0, 34, 61, 28, 16, 112, 159, 0, 33, 28, 16, 103, 159, 0, 27, 28, 16, 114, 159, 0, 21, 28]
abbrev dktX2_order_0 : List UInt8 := dkwX2_order_0 ++ dktX2_order_1
theorem dksX2_order_0 : cX2_order.data.toList.drop 0 = dktX2_order_0 := by decide +kernel
theorem dksX2_order_1 : cX2_order.data.toList.drop 24 = dktX2_order_1 := dk_seg dksX2_order_0 24 rfl rfl
theorem dksX2_order_2 : cX2_order.data.toList.drop 48 = dktX2_order_2 := dk_seg dksX2_order_1 24 rfl rfl
theorem dksX2_order_3 : cX2_order.data.toList.drop 72 = dktX2_order_3 := dk_seg dksX2_order_2 24 rfl rfl
theorem dksX2_order_4 : cX2_order.data.toList.drop 96 = dktX2_order_4 := dk_seg dksX2_order_3 24 rfl rfl
theorem dksX2_order_5 : cX2_order.data.toList.drop 120 = dktX2_order_5 := dk_seg dksX2_order_4 24 rfl rfl
theorem dksX2_order_6 : cX2_order.data.toList.drop 144 = dktX2_order_6 := dk_seg dksX2_order_5 24 rfl rfl
theorem dksX2_order_7 : cX2_order.data.toList.drop 166 = dktX2_order_7 := dk_seg dksX2_order_6 22 rfl rfl
theorem dX2_order_0 : decode cX2_order 0 = .ok (.aload_n 0, 1) := dk_42 (dk_at dksX2_order_0 0 rfl rfl)
theorem dX2_order_1 : decode cX2_order 1 = .ok (.invokevirtual 34, 3) := dk_182 0 34 (dk_at dksX2_order_0 1 rfl rfl)
theorem dX2_order_4 : decode cX2_order 4 = .ok (.istore_n 2, 1) := dk_61 (dk_at dksX2_order_0 4 rfl rfl)
theorem dX2_order_5 : decode cX2_order 5 = .ok (.iload_n 2, 1) := dk_28 (dk_at dksX2_order_0 5 rfl rfl)
theorem dX2_order_6 : decode cX2_order 6 = .ok (.bipush 112, 2) := dk_16 112 (dk_at dksX2_order_0 6 rfl rfl)
theorem dX2_order_8 : decode cX2_order 8 = .ok (.if_icmp .eq 33, 3) := dk_159 0 33 (dk_at dksX2_order_0 8 rfl rfl)
theorem dX2_order_11 : decode cX2_order 11 = .ok (.iload_n 2, 1) := dk_28 (dk_at dksX2_order_0 11 rfl rfl)
theorem dX2_order_12 : decode cX2_order 12 = .ok (.bipush 103, 2) := dk_16 103 (dk_at dksX2_order_0 12 rfl rfl)
theorem dX2_order_14 : decode cX2_order 14 = .ok (.if_icmp .eq 27, 3) := dk_159 0 27 (dk_at dksX2_order_0 14 rfl rfl)
theorem dX2_order_17 : decode cX2_order 17 = .ok (.iload_n 2, 1) := dk_28 (dk_at dksX2_order_0 17 rfl rfl)
theorem dX2_order_18 : decode cX2_order 18 = .ok (.bipush 114, 2) := dk_16 114 (dk_at dksX2_order_0 18 rfl rfl)
theorem dX2_order_20 : decode cX2_order 20 = .ok (.if_icmp .eq 21, 3) := dk_159 0 21 (dk_at dksX2_order_0 20 rfl rfl)
theorem dX2_order_23 : decode cX2_order 23 = .ok (.iload_n 2, 1) := dk_28 (dk_at dksX2_order_0 23 rfl rfl)
theorem dX2_order_24 : decode cX2_order 24 = .ok (.bipush 99, 2) := dk_16 99 (dk_at dksX2_order_1 0 rfl rfl)
theorem dX2_order_26 : decode cX2_order 26 = .ok (.if_icmp .eq 15, 3) := dk_159 0 15 (dk_at dksX2_order_1 2 rfl rfl)
theorem dX2_order_29 : decode cX2_order 29 = .ok (.new 42, 3) := dk_187 0 42 (dk_at dksX2_order_1 5 rfl rfl)
theorem dX2_order_32 : decode cX2_order 32 = .ok (.dup, 1) := dk_89 (dk_at dksX2_order_1 8 rfl rfl)
theorem dX2_order_33 : decode cX2_order 33 = .ok (.aload_n 0, 1) := dk_42 (dk_at dksX2_order_1 9 rfl rfl)
theorem dX2_order_34 : decode cX2_order 34 = .ok (.getfield 15, 3) := dk_180 0 15 (dk_at dksX2_order_1 10 rfl rfl)
theorem dX2_order_37 : decode cX2_order 37 = .ok (.invokespecial 44, 3) := dk_183 0 44 (dk_at dksX2_order_1 13 rfl rfl)
theorem dX2_order_40 : decode cX2_order 40 = .ok (.athrow, 1) := dk_191 (dk_at dksX2_order_1 16 rfl rfl)
theorem dX2_order_41 : decode cX2_order 41 = .ok (.aload_n 0, 1) := dk_42 (dk_at dksX2_order_1 17 rfl rfl)
theorem dX2_order_42 : decode cX2_order 42 = .ok (.dup, 1) := dk_89 (dk_at dksX2_order_1 18 rfl rfl)
theorem dX2_order_43 : decode cX2_order 43 = .ok (.getfield 15, 3) := dk_180 0 15 (dk_at dksX2_order_1 19 rfl rfl)
theorem dX2_order_46 : decode cX2_order 46 = .ok (.iconst 1, 1) := dk_4 (dk_at dksX2_order_1 22 rfl rfl)
theorem dX2_order_47 : decode cX2_order 47 = .ok (.iadd, 1) := dk_96 (dk_at dksX2_order_1 23 rfl rfl)
theorem dX2_order_48 : decode cX2_order 48 = .ok (.putfield 15, 3) := dk_181 0 15 (dk_at dksX2_order_2 0 rfl rfl)
theorem dX2_order_51 : decode cX2_order 51 = .ok (.iload_n 2, 1) := dk_28 (dk_at dksX2_order_2 3 rfl rfl)
theorem dX2_order_52 : decode cX2_order 52 = .ok (.bipush 99, 2) := dk_16 99 (dk_at dksX2_order_2 4 rfl rfl)
theorem dX2_order_54 : decode cX2_order 54 = .ok (.if_icmp .ne 7, 3) := dk_160 0 7 (dk_at dksX2_order_2 6 rfl rfl)
theorem dX2_order_57 : decode cX2_order 57 = .ok (.iconst 0, 1) := dk_3 (dk_at dksX2_order_2 9 rfl rfl)
theorem dX2_order_58 : decode cX2_order 58 = .ok (.goto 7, 3) := dk_167 0 7 (dk_at dksX2_order_2 10 rfl rfl)
theorem dX2_order_61 : decode cX2_order 61 = .ok (.aload_n 0, 1) := dk_42 (dk_at dksX2_order_2 13 rfl rfl)
theorem dX2_order_62 : decode cX2_order 62 = .ok (.invokevirtual 47, 3) := dk_182 0 47 (dk_at dksX2_order_2 14 rfl rfl)
theorem dX2_order_65 : decode cX2_order 65 = .ok (.istore_n 3, 1) := dk_62 (dk_at dksX2_order_2 17 rfl rfl)
theorem dX2_order_66 : decode cX2_order 66 = .ok (.iload_n 2, 1) := dk_28 (dk_at dksX2_order_2 18 rfl rfl)
theorem dX2_order_67 : decode cX2_order 67 = .ok (.bipush 112, 2) := dk_16 112 (dk_at dksX2_order_2 19 rfl rfl)
theorem dX2_order_69 : decode cX2_order 69 = .ok (.if_icmp .ne 10, 3) := dk_160 0 10 (dk_at dksX2_order_2 21 rfl rfl)
theorem dX2_order_72 : decode cX2_order 72 = .ok (.aload_n 0, 1) := dk_42 (dk_at dksX2_order_3 0 rfl rfl)
theorem dX2_order_73 : decode cX2_order 73 = .ok (.invokevirtual 47, 3) := dk_182 0 47 (dk_at dksX2_order_3 1 rfl rfl)
theorem dX2_order_76 : decode cX2_order 76 = .ok (.goto 4, 3) := dk_167 0 4 (dk_at dksX2_order_3 4 rfl rfl)
theorem dX2_order_79 : decode cX2_order 79 = .ok (.iconst 0, 1) := dk_3 (dk_at dksX2_order_3 7 rfl rfl)
theorem dX2_order_80 : decode cX2_order 80 = .ok (.istore 4, 2) := dk_54 4 (dk_at dksX2_order_3 8 rfl rfl)
theorem dX2_order_82 : decode cX2_order 82 = .ok (.aload_n 0, 1) := dk_42 (dk_at dksX2_order_3 10 rfl rfl)
theorem dX2_order_83 : decode cX2_order 83 = .ok (.invokevirtual 34, 3) := dk_182 0 34 (dk_at dksX2_order_3 11 rfl rfl)
theorem dX2_order_86 : decode cX2_order 86 = .ok (.bipush 59, 2) := dk_16 59 (dk_at dksX2_order_3 14 rfl rfl)
theorem dX2_order_88 : decode cX2_order 88 = .ok (.if_icmp .eq 15, 3) := dk_159 0 15 (dk_at dksX2_order_3 16 rfl rfl)
theorem dX2_order_91 : decode cX2_order 91 = .ok (.new 42, 3) := dk_187 0 42 (dk_at dksX2_order_3 19 rfl rfl)
theorem dX2_order_94 : decode cX2_order 94 = .ok (.dup, 1) := dk_89 (dk_at dksX2_order_3 22 rfl rfl)
theorem dX2_order_95 : decode cX2_order 95 = .ok (.aload_n 0, 1) := dk_42 (dk_at dksX2_order_3 23 rfl rfl)
theorem dX2_order_96 : decode cX2_order 96 = .ok (.getfield 15, 3) := dk_180 0 15 (dk_at dksX2_order_4 0 rfl rfl)
theorem dX2_order_99 : decode cX2_order 99 = .ok (.invokespecial 44, 3) := dk_183 0 44 (dk_at dksX2_order_4 3 rfl rfl)
theorem dX2_order_102 : decode cX2_order 102 = .ok (.athrow, 1) := dk_191 (dk_at dksX2_order_4 6 rfl rfl)
theorem dX2_order_103 : decode cX2_order 103 = .ok (.aload_n 0, 1) := dk_42 (dk_at dksX2_order_4 7 rfl rfl)
theorem dX2_order_104 : decode cX2_order 104 = .ok (.dup, 1) := dk_89 (dk_at dksX2_order_4 8 rfl rfl)
theorem dX2_order_105 : decode cX2_order 105 = .ok (.getfield 15, 3) := dk_180 0 15 (dk_at dksX2_order_4 9 rfl rfl)
theorem dX2_order_108 : decode cX2_order 108 = .ok (.iconst 1, 1) := dk_4 (dk_at dksX2_order_4 12 rfl rfl)
theorem dX2_order_109 : decode cX2_order 109 = .ok (.iadd, 1) := dk_96 (dk_at dksX2_order_4 13 rfl rfl)
theorem dX2_order_110 : decode cX2_order 110 = .ok (.putfield 15, 3) := dk_181 0 15 (dk_at dksX2_order_4 14 rfl rfl)
theorem dX2_order_113 : decode cX2_order 113 = .ok (.iload_n 1, 1) := dk_27 (dk_at dksX2_order_4 17 rfl rfl)
theorem dX2_order_114 : decode cX2_order 114 = .ok (.ifCond .ne 5, 3) := dk_154 0 5 (dk_at dksX2_order_4 18 rfl rfl)
theorem dX2_order_117 : decode cX2_order 117 = .ok (.iconst 0, 1) := dk_3 (dk_at dksX2_order_4 21 rfl rfl)
theorem dX2_order_118 : decode cX2_order 118 = .ok (.ireturn, 1) := dk_172 (dk_at dksX2_order_4 22 rfl rfl)
theorem dX2_order_119 : decode cX2_order 119 = .ok (.iload_n 2, 1) := dk_28 (dk_at dksX2_order_4 23 rfl rfl)
theorem dX2_order_120 : decode cX2_order 120 = .ok (.bipush 112, 2) := dk_16 112 (dk_at dksX2_order_5 0 rfl rfl)
theorem dX2_order_122 : decode cX2_order 122 = .ok (.if_icmp .ne 16, 3) := dk_160 0 16 (dk_at dksX2_order_5 2 rfl rfl)
theorem dX2_order_125 : decode cX2_order 125 = .ok (.aload_n 0, 1) := dk_42 (dk_at dksX2_order_5 5 rfl rfl)
theorem dX2_order_126 : decode cX2_order 126 = .ok (.getfield 3, 3) := dk_180 0 3 (dk_at dksX2_order_5 6 rfl rfl)
theorem dX2_order_129 : decode cX2_order 129 = .ok (.iload_n 3, 1) := dk_29 (dk_at dksX2_order_5 9 rfl rfl)
theorem dX2_order_130 : decode cX2_order 130 = .ok (.iload 4, 2) := dk_21 4 (dk_at dksX2_order_5 10 rfl rfl)
theorem dX2_order_132 : decode cX2_order 132 = .ok (.invokevirtual 50, 3) := dk_182 0 50 (dk_at dksX2_order_5 12 rfl rfl)
theorem dX2_order_135 : decode cX2_order 135 = .ok (.goto 44, 3) := dk_167 0 44 (dk_at dksX2_order_5 15 rfl rfl)
theorem dX2_order_138 : decode cX2_order 138 = .ok (.iload_n 2, 1) := dk_28 (dk_at dksX2_order_5 18 rfl rfl)
theorem dX2_order_139 : decode cX2_order 139 = .ok (.bipush 103, 2) := dk_16 103 (dk_at dksX2_order_5 19 rfl rfl)
theorem dX2_order_141 : decode cX2_order 141 = .ok (.if_icmp .ne 14, 3) := dk_160 0 14 (dk_at dksX2_order_5 21 rfl rfl)
theorem dX2_order_144 : decode cX2_order 144 = .ok (.aload_n 0, 1) := dk_42 (dk_at dksX2_order_6 0 rfl rfl)
theorem dX2_order_145 : decode cX2_order 145 = .ok (.getfield 3, 3) := dk_180 0 3 (dk_at dksX2_order_6 1 rfl rfl)
theorem dX2_order_148 : decode cX2_order 148 = .ok (.iload_n 3, 1) := dk_29 (dk_at dksX2_order_6 4 rfl rfl)
theorem dX2_order_149 : decode cX2_order 149 = .ok (.invokevirtual 54, 3) := dk_182 0 54 (dk_at dksX2_order_6 5 rfl rfl)
theorem dX2_order_152 : decode cX2_order 152 = .ok (.goto 27, 3) := dk_167 0 27 (dk_at dksX2_order_6 8 rfl rfl)
theorem dX2_order_155 : decode cX2_order 155 = .ok (.iload_n 2, 1) := dk_28 (dk_at dksX2_order_6 11 rfl rfl)
theorem dX2_order_156 : decode cX2_order 156 = .ok (.bipush 114, 2) := dk_16 114 (dk_at dksX2_order_6 12 rfl rfl)
theorem dX2_order_158 : decode cX2_order 158 = .ok (.if_icmp .ne 14, 3) := dk_160 0 14 (dk_at dksX2_order_6 14 rfl rfl)
theorem dX2_order_161 : decode cX2_order 161 = .ok (.aload_n 0, 1) := dk_42 (dk_at dksX2_order_6 17 rfl rfl)
theorem dX2_order_162 : decode cX2_order 162 = .ok (.getfield 3, 3) := dk_180 0 3 (dk_at dksX2_order_6 18 rfl rfl)
theorem dX2_order_165 : decode cX2_order 165 = .ok (.iload_n 3, 1) := dk_29 (dk_at dksX2_order_6 21 rfl rfl)
theorem dX2_order_166 : decode cX2_order 166 = .ok (.invokevirtual 58, 3) := dk_182 0 58 (dk_at dksX2_order_7 0 rfl rfl)
theorem dX2_order_169 : decode cX2_order 169 = .ok (.goto 10, 3) := dk_167 0 10 (dk_at dksX2_order_7 3 rfl rfl)
theorem dX2_order_172 : decode cX2_order 172 = .ok (.aload_n 0, 1) := dk_42 (dk_at dksX2_order_7 6 rfl rfl)
theorem dX2_order_173 : decode cX2_order 173 = .ok (.getfield 3, 3) := dk_180 0 3 (dk_at dksX2_order_7 7 rfl rfl)
theorem dX2_order_176 : decode cX2_order 176 = .ok (.invokevirtual 61, 3) := dk_182 0 61 (dk_at dksX2_order_7 10 rfl rfl)
theorem dX2_order_179 : decode cX2_order 179 = .ok (.ireturn, 1) := dk_172 (dk_at dksX2_order_7 13 rfl rfl)
abbrev cX2_here : ByteArray := prog_7_method_2_code
def yX2_here : MethodName := ⟨RX2, "here", "()I"⟩
def dkwX2_here_3 : List UInt8 := [51, 167, 0, 4, 2, 172]
abbrev dktX2_here_3 : List UInt8 := dkwX2_here_3 ++ []
def dkwX2_here_2 : List UInt8 := [180, 0, 15, 42, 180, 0, 3, 180, 0, 19, 162, 0, 18, 42, 180, 0, 3, 180, 0, 22, 42, 180, 0, 15]
abbrev dktX2_here_2 : List UInt8 := dkwX2_here_2 ++ dktX2_here_3
def dkwX2_here_1 : List UInt8 := [180, 0, 15, 51, 16, 32, 160, 0, 16, 42, 89, 180, 0, 15, 4, 96, 181, 0, 15, 167, 255, 215, 42]
abbrev dktX2_here_1 : List UInt8 := dkwX2_here_1 ++ dktX2_here_2
def dkwX2_here_0 : List UInt8 := [42, 180, 0, 15, 42, 180, 0, 3, 180, 0, 19, 162, 0, 33, 42, 180, 0, 3, 180, 0, 22, 42]
abbrev dktX2_here_0 : List UInt8 := dkwX2_here_0 ++ dktX2_here_1
theorem dksX2_here_0 : cX2_here.data.toList.drop 0 = dktX2_here_0 := by decide +kernel
theorem dksX2_here_1 : cX2_here.data.toList.drop 22 = dktX2_here_1 := dk_seg dksX2_here_0 22 rfl rfl
theorem dksX2_here_2 : cX2_here.data.toList.drop 45 = dktX2_here_2 := dk_seg dksX2_here_1 23 rfl rfl
theorem dksX2_here_3 : cX2_here.data.toList.drop 69 = dktX2_here_3 := dk_seg dksX2_here_2 24 rfl rfl
theorem dX2_here_0 : decode cX2_here 0 = .ok (.aload_n 0, 1) := dk_42 (dk_at dksX2_here_0 0 rfl rfl)
theorem dX2_here_1 : decode cX2_here 1 = .ok (.getfield 15, 3) := dk_180 0 15 (dk_at dksX2_here_0 1 rfl rfl)
theorem dX2_here_4 : decode cX2_here 4 = .ok (.aload_n 0, 1) := dk_42 (dk_at dksX2_here_0 4 rfl rfl)
theorem dX2_here_5 : decode cX2_here 5 = .ok (.getfield 3, 3) := dk_180 0 3 (dk_at dksX2_here_0 5 rfl rfl)
theorem dX2_here_8 : decode cX2_here 8 = .ok (.getfield 19, 3) := dk_180 0 19 (dk_at dksX2_here_0 8 rfl rfl)
theorem dX2_here_11 : decode cX2_here 11 = .ok (.if_icmp .ge 33, 3) := dk_162 0 33 (dk_at dksX2_here_0 11 rfl rfl)
theorem dX2_here_14 : decode cX2_here 14 = .ok (.aload_n 0, 1) := dk_42 (dk_at dksX2_here_0 14 rfl rfl)
theorem dX2_here_15 : decode cX2_here 15 = .ok (.getfield 3, 3) := dk_180 0 3 (dk_at dksX2_here_0 15 rfl rfl)
theorem dX2_here_18 : decode cX2_here 18 = .ok (.getfield 22, 3) := dk_180 0 22 (dk_at dksX2_here_0 18 rfl rfl)
theorem dX2_here_21 : decode cX2_here 21 = .ok (.aload_n 0, 1) := dk_42 (dk_at dksX2_here_0 21 rfl rfl)
theorem dX2_here_22 : decode cX2_here 22 = .ok (.getfield 15, 3) := dk_180 0 15 (dk_at dksX2_here_1 0 rfl rfl)
theorem dX2_here_25 : decode cX2_here 25 = .ok (.baload, 1) := dk_51 (dk_at dksX2_here_1 3 rfl rfl)
theorem dX2_here_26 : decode cX2_here 26 = .ok (.bipush 32, 2) := dk_16 32 (dk_at dksX2_here_1 4 rfl rfl)
theorem dX2_here_28 : decode cX2_here 28 = .ok (.if_icmp .ne 16, 3) := dk_160 0 16 (dk_at dksX2_here_1 6 rfl rfl)
theorem dX2_here_31 : decode cX2_here 31 = .ok (.aload_n 0, 1) := dk_42 (dk_at dksX2_here_1 9 rfl rfl)
theorem dX2_here_32 : decode cX2_here 32 = .ok (.dup, 1) := dk_89 (dk_at dksX2_here_1 10 rfl rfl)
theorem dX2_here_33 : decode cX2_here 33 = .ok (.getfield 15, 3) := dk_180 0 15 (dk_at dksX2_here_1 11 rfl rfl)
theorem dX2_here_36 : decode cX2_here 36 = .ok (.iconst 1, 1) := dk_4 (dk_at dksX2_here_1 14 rfl rfl)
theorem dX2_here_37 : decode cX2_here 37 = .ok (.iadd, 1) := dk_96 (dk_at dksX2_here_1 15 rfl rfl)
theorem dX2_here_38 : decode cX2_here 38 = .ok (.putfield 15, 3) := dk_181 0 15 (dk_at dksX2_here_1 16 rfl rfl)
theorem dX2_here_41 : decode cX2_here 41 = .ok (.goto (-41), 3) := dk_167 255 215 (dk_at dksX2_here_1 19 rfl rfl)
theorem dX2_here_44 : decode cX2_here 44 = .ok (.aload_n 0, 1) := dk_42 (dk_at dksX2_here_1 22 rfl rfl)
theorem dX2_here_45 : decode cX2_here 45 = .ok (.getfield 15, 3) := dk_180 0 15 (dk_at dksX2_here_2 0 rfl rfl)
theorem dX2_here_48 : decode cX2_here 48 = .ok (.aload_n 0, 1) := dk_42 (dk_at dksX2_here_2 3 rfl rfl)
theorem dX2_here_49 : decode cX2_here 49 = .ok (.getfield 3, 3) := dk_180 0 3 (dk_at dksX2_here_2 4 rfl rfl)
theorem dX2_here_52 : decode cX2_here 52 = .ok (.getfield 19, 3) := dk_180 0 19 (dk_at dksX2_here_2 7 rfl rfl)
theorem dX2_here_55 : decode cX2_here 55 = .ok (.if_icmp .ge 18, 3) := dk_162 0 18 (dk_at dksX2_here_2 10 rfl rfl)
theorem dX2_here_58 : decode cX2_here 58 = .ok (.aload_n 0, 1) := dk_42 (dk_at dksX2_here_2 13 rfl rfl)
theorem dX2_here_59 : decode cX2_here 59 = .ok (.getfield 3, 3) := dk_180 0 3 (dk_at dksX2_here_2 14 rfl rfl)
theorem dX2_here_62 : decode cX2_here 62 = .ok (.getfield 22, 3) := dk_180 0 22 (dk_at dksX2_here_2 17 rfl rfl)
theorem dX2_here_65 : decode cX2_here 65 = .ok (.aload_n 0, 1) := dk_42 (dk_at dksX2_here_2 20 rfl rfl)
theorem dX2_here_66 : decode cX2_here 66 = .ok (.getfield 15, 3) := dk_180 0 15 (dk_at dksX2_here_2 21 rfl rfl)
theorem dX2_here_69 : decode cX2_here 69 = .ok (.baload, 1) := dk_51 (dk_at dksX2_here_3 0 rfl rfl)
theorem dX2_here_70 : decode cX2_here 70 = .ok (.goto 4, 3) := dk_167 0 4 (dk_at dksX2_here_3 1 rfl rfl)
theorem dX2_here_73 : decode cX2_here 73 = .ok (.iconst (-1), 1) := dk_2 (dk_at dksX2_here_3 4 rfl rfl)
theorem dX2_here_74 : decode cX2_here 74 = .ok (.ireturn, 1) := dk_172 (dk_at dksX2_here_3 5 rfl rfl)
abbrev cX2_number : ByteArray := prog_7_method_4_code
def yX2_number : MethodName := ⟨RX2, "number", "()I"⟩
def dkwX2_number_3 : List UInt8 := [153, 0, 15, 187, 0, 42, 89, 42, 180, 0, 15, 183, 0, 44, 191, 28, 172]
abbrev dktX2_number_3 : List UInt8 := dkwX2_number_3 ++ []
def dkwX2_number_2 : List UInt8 := [4, 96, 181, 0, 15, 132, 3, 1, 167, 255, 209, 27, 2, 159, 0, 14, 29, 153, 0, 10, 42, 182, 0, 38]
abbrev dktX2_number_2 : List UInt8 := dkwX2_number_2 ++ dktX2_number_3
def dkwX2_number_1 : List UInt8 := [28, 104, 42, 180, 0, 3, 180, 0, 22, 42, 180, 0, 15, 51, 96, 16, 48, 100, 61, 42, 89, 180, 0, 15]
abbrev dktX2_number_1 : List UInt8 := dkwX2_number_1 ++ dktX2_number_2
def dkwX2_number_0 : List UInt8 := [42, 182, 0, 34, 60, 3, 61, 3, 62, 42, 182, 0, 38, 153, 0, 46, 29, 16, 6, 162, 0, 40, 16, 10]
abbrev dktX2_number_0 : List UInt8 := dkwX2_number_0 ++ dktX2_number_1
theorem dksX2_number_0 : cX2_number.data.toList.drop 0 = dktX2_number_0 := by decide +kernel
theorem dksX2_number_1 : cX2_number.data.toList.drop 24 = dktX2_number_1 := dk_seg dksX2_number_0 24 rfl rfl
theorem dksX2_number_2 : cX2_number.data.toList.drop 48 = dktX2_number_2 := dk_seg dksX2_number_1 24 rfl rfl
theorem dksX2_number_3 : cX2_number.data.toList.drop 72 = dktX2_number_3 := dk_seg dksX2_number_2 24 rfl rfl
theorem dX2_number_0 : decode cX2_number 0 = .ok (.aload_n 0, 1) := dk_42 (dk_at dksX2_number_0 0 rfl rfl)
theorem dX2_number_1 : decode cX2_number 1 = .ok (.invokevirtual 34, 3) := dk_182 0 34 (dk_at dksX2_number_0 1 rfl rfl)
theorem dX2_number_4 : decode cX2_number 4 = .ok (.istore_n 1, 1) := dk_60 (dk_at dksX2_number_0 4 rfl rfl)
theorem dX2_number_5 : decode cX2_number 5 = .ok (.iconst 0, 1) := dk_3 (dk_at dksX2_number_0 5 rfl rfl)
theorem dX2_number_6 : decode cX2_number 6 = .ok (.istore_n 2, 1) := dk_61 (dk_at dksX2_number_0 6 rfl rfl)
theorem dX2_number_7 : decode cX2_number 7 = .ok (.iconst 0, 1) := dk_3 (dk_at dksX2_number_0 7 rfl rfl)
theorem dX2_number_8 : decode cX2_number 8 = .ok (.istore_n 3, 1) := dk_62 (dk_at dksX2_number_0 8 rfl rfl)
theorem dX2_number_9 : decode cX2_number 9 = .ok (.aload_n 0, 1) := dk_42 (dk_at dksX2_number_0 9 rfl rfl)
theorem dX2_number_10 : decode cX2_number 10 = .ok (.invokevirtual 38, 3) := dk_182 0 38 (dk_at dksX2_number_0 10 rfl rfl)
theorem dX2_number_13 : decode cX2_number 13 = .ok (.ifCond .eq 46, 3) := dk_153 0 46 (dk_at dksX2_number_0 13 rfl rfl)
theorem dX2_number_16 : decode cX2_number 16 = .ok (.iload_n 3, 1) := dk_29 (dk_at dksX2_number_0 16 rfl rfl)
theorem dX2_number_17 : decode cX2_number 17 = .ok (.bipush 6, 2) := dk_16 6 (dk_at dksX2_number_0 17 rfl rfl)
theorem dX2_number_19 : decode cX2_number 19 = .ok (.if_icmp .ge 40, 3) := dk_162 0 40 (dk_at dksX2_number_0 19 rfl rfl)
theorem dX2_number_22 : decode cX2_number 22 = .ok (.bipush 10, 2) := dk_16 10 (dk_at dksX2_number_0 22 rfl rfl)
theorem dX2_number_24 : decode cX2_number 24 = .ok (.iload_n 2, 1) := dk_28 (dk_at dksX2_number_1 0 rfl rfl)
theorem dX2_number_25 : decode cX2_number 25 = .ok (.imul, 1) := dk_104 (dk_at dksX2_number_1 1 rfl rfl)
theorem dX2_number_26 : decode cX2_number 26 = .ok (.aload_n 0, 1) := dk_42 (dk_at dksX2_number_1 2 rfl rfl)
theorem dX2_number_27 : decode cX2_number 27 = .ok (.getfield 3, 3) := dk_180 0 3 (dk_at dksX2_number_1 3 rfl rfl)
theorem dX2_number_30 : decode cX2_number 30 = .ok (.getfield 22, 3) := dk_180 0 22 (dk_at dksX2_number_1 6 rfl rfl)
theorem dX2_number_33 : decode cX2_number 33 = .ok (.aload_n 0, 1) := dk_42 (dk_at dksX2_number_1 9 rfl rfl)
theorem dX2_number_34 : decode cX2_number 34 = .ok (.getfield 15, 3) := dk_180 0 15 (dk_at dksX2_number_1 10 rfl rfl)
theorem dX2_number_37 : decode cX2_number 37 = .ok (.baload, 1) := dk_51 (dk_at dksX2_number_1 13 rfl rfl)
theorem dX2_number_38 : decode cX2_number 38 = .ok (.iadd, 1) := dk_96 (dk_at dksX2_number_1 14 rfl rfl)
theorem dX2_number_39 : decode cX2_number 39 = .ok (.bipush 48, 2) := dk_16 48 (dk_at dksX2_number_1 15 rfl rfl)
theorem dX2_number_41 : decode cX2_number 41 = .ok (.isub, 1) := dk_100 (dk_at dksX2_number_1 17 rfl rfl)
theorem dX2_number_42 : decode cX2_number 42 = .ok (.istore_n 2, 1) := dk_61 (dk_at dksX2_number_1 18 rfl rfl)
theorem dX2_number_43 : decode cX2_number 43 = .ok (.aload_n 0, 1) := dk_42 (dk_at dksX2_number_1 19 rfl rfl)
theorem dX2_number_44 : decode cX2_number 44 = .ok (.dup, 1) := dk_89 (dk_at dksX2_number_1 20 rfl rfl)
theorem dX2_number_45 : decode cX2_number 45 = .ok (.getfield 15, 3) := dk_180 0 15 (dk_at dksX2_number_1 21 rfl rfl)
theorem dX2_number_48 : decode cX2_number 48 = .ok (.iconst 1, 1) := dk_4 (dk_at dksX2_number_2 0 rfl rfl)
theorem dX2_number_49 : decode cX2_number 49 = .ok (.iadd, 1) := dk_96 (dk_at dksX2_number_2 1 rfl rfl)
theorem dX2_number_50 : decode cX2_number 50 = .ok (.putfield 15, 3) := dk_181 0 15 (dk_at dksX2_number_2 2 rfl rfl)
theorem dX2_number_53 : decode cX2_number 53 = .ok (.iinc 3 1, 3) := dk_132 3 1 (dk_at dksX2_number_2 5 rfl rfl)
theorem dX2_number_56 : decode cX2_number 56 = .ok (.goto (-47), 3) := dk_167 255 209 (dk_at dksX2_number_2 8 rfl rfl)
theorem dX2_number_59 : decode cX2_number 59 = .ok (.iload_n 1, 1) := dk_27 (dk_at dksX2_number_2 11 rfl rfl)
theorem dX2_number_60 : decode cX2_number 60 = .ok (.iconst (-1), 1) := dk_2 (dk_at dksX2_number_2 12 rfl rfl)
theorem dX2_number_61 : decode cX2_number 61 = .ok (.if_icmp .eq 14, 3) := dk_159 0 14 (dk_at dksX2_number_2 13 rfl rfl)
theorem dX2_number_64 : decode cX2_number 64 = .ok (.iload_n 3, 1) := dk_29 (dk_at dksX2_number_2 16 rfl rfl)
theorem dX2_number_65 : decode cX2_number 65 = .ok (.ifCond .eq 10, 3) := dk_153 0 10 (dk_at dksX2_number_2 17 rfl rfl)
theorem dX2_number_68 : decode cX2_number 68 = .ok (.aload_n 0, 1) := dk_42 (dk_at dksX2_number_2 20 rfl rfl)
theorem dX2_number_69 : decode cX2_number 69 = .ok (.invokevirtual 38, 3) := dk_182 0 38 (dk_at dksX2_number_2 21 rfl rfl)
theorem dX2_number_72 : decode cX2_number 72 = .ok (.ifCond .eq 15, 3) := dk_153 0 15 (dk_at dksX2_number_3 0 rfl rfl)
theorem dX2_number_75 : decode cX2_number 75 = .ok (.new 42, 3) := dk_187 0 42 (dk_at dksX2_number_3 3 rfl rfl)
theorem dX2_number_78 : decode cX2_number 78 = .ok (.dup, 1) := dk_89 (dk_at dksX2_number_3 6 rfl rfl)
theorem dX2_number_79 : decode cX2_number 79 = .ok (.aload_n 0, 1) := dk_42 (dk_at dksX2_number_3 7 rfl rfl)
theorem dX2_number_80 : decode cX2_number 80 = .ok (.getfield 15, 3) := dk_180 0 15 (dk_at dksX2_number_3 8 rfl rfl)
theorem dX2_number_83 : decode cX2_number 83 = .ok (.invokespecial 44, 3) := dk_183 0 44 (dk_at dksX2_number_3 11 rfl rfl)
theorem dX2_number_86 : decode cX2_number 86 = .ok (.athrow, 1) := dk_191 (dk_at dksX2_number_3 14 rfl rfl)
theorem dX2_number_87 : decode cX2_number 87 = .ok (.iload_n 2, 1) := dk_28 (dk_at dksX2_number_3 15 rfl rfl)
theorem dX2_number_88 : decode cX2_number 88 = .ok (.ireturn, 1) := dk_172 (dk_at dksX2_number_3 16 rfl rfl)
abbrev cX2_isFigure : ByteArray := prog_7_method_3_code
def yX2_isFigure : MethodName := ⟨RX2, "isFigure", "()Z"⟩
def dkwX2_isFigure_1 : List UInt8 := [180, 0, 15, 51, 133, 20, 0, 26, 20, 0, 28, 184, 0, 30, 153, 0, 7, 4, 167, 0, 4, 3, 172]
abbrev dktX2_isFigure_1 : List UInt8 := dkwX2_isFigure_1 ++ []
def dkwX2_isFigure_0 : List UInt8 := [42, 180, 0, 15, 42, 180, 0, 3, 180, 0, 19, 162, 0, 32, 42, 180, 0, 3, 180, 0, 22, 42]
abbrev dktX2_isFigure_0 : List UInt8 := dkwX2_isFigure_0 ++ dktX2_isFigure_1
theorem dksX2_isFigure_0 : cX2_isFigure.data.toList.drop 0 = dktX2_isFigure_0 := by decide +kernel
theorem dksX2_isFigure_1 : cX2_isFigure.data.toList.drop 22 = dktX2_isFigure_1 := dk_seg dksX2_isFigure_0 22 rfl rfl
theorem dX2_isFigure_0 : decode cX2_isFigure 0 = .ok (.aload_n 0, 1) := dk_42 (dk_at dksX2_isFigure_0 0 rfl rfl)
theorem dX2_isFigure_1 : decode cX2_isFigure 1 = .ok (.getfield 15, 3) := dk_180 0 15 (dk_at dksX2_isFigure_0 1 rfl rfl)
theorem dX2_isFigure_4 : decode cX2_isFigure 4 = .ok (.aload_n 0, 1) := dk_42 (dk_at dksX2_isFigure_0 4 rfl rfl)
theorem dX2_isFigure_5 : decode cX2_isFigure 5 = .ok (.getfield 3, 3) := dk_180 0 3 (dk_at dksX2_isFigure_0 5 rfl rfl)
theorem dX2_isFigure_8 : decode cX2_isFigure 8 = .ok (.getfield 19, 3) := dk_180 0 19 (dk_at dksX2_isFigure_0 8 rfl rfl)
theorem dX2_isFigure_11 : decode cX2_isFigure 11 = .ok (.if_icmp .ge 32, 3) := dk_162 0 32 (dk_at dksX2_isFigure_0 11 rfl rfl)
theorem dX2_isFigure_14 : decode cX2_isFigure 14 = .ok (.aload_n 0, 1) := dk_42 (dk_at dksX2_isFigure_0 14 rfl rfl)
theorem dX2_isFigure_15 : decode cX2_isFigure 15 = .ok (.getfield 3, 3) := dk_180 0 3 (dk_at dksX2_isFigure_0 15 rfl rfl)
theorem dX2_isFigure_18 : decode cX2_isFigure 18 = .ok (.getfield 22, 3) := dk_180 0 22 (dk_at dksX2_isFigure_0 18 rfl rfl)
theorem dX2_isFigure_21 : decode cX2_isFigure 21 = .ok (.aload_n 0, 1) := dk_42 (dk_at dksX2_isFigure_0 21 rfl rfl)
theorem dX2_isFigure_22 : decode cX2_isFigure 22 = .ok (.getfield 15, 3) := dk_180 0 15 (dk_at dksX2_isFigure_1 0 rfl rfl)
theorem dX2_isFigure_25 : decode cX2_isFigure 25 = .ok (.baload, 1) := dk_51 (dk_at dksX2_isFigure_1 3 rfl rfl)
theorem dX2_isFigure_26 : decode cX2_isFigure 26 = .ok (.i2l, 1) := dk_133 (dk_at dksX2_isFigure_1 4 rfl rfl)
theorem dX2_isFigure_27 : decode cX2_isFigure 27 = .ok (.ldc2_w 26, 3) := dk_20 0 26 (dk_at dksX2_isFigure_1 5 rfl rfl)
theorem dX2_isFigure_30 : decode cX2_isFigure 30 = .ok (.ldc2_w 28, 3) := dk_20 0 28 (dk_at dksX2_isFigure_1 8 rfl rfl)
theorem dX2_isFigure_33 : decode cX2_isFigure 33 = .ok (.invokestatic 30, 3) := dk_184 0 30 (dk_at dksX2_isFigure_1 11 rfl rfl)
theorem dX2_isFigure_36 : decode cX2_isFigure 36 = .ok (.ifCond .eq 7, 3) := dk_153 0 7 (dk_at dksX2_isFigure_1 14 rfl rfl)
theorem dX2_isFigure_39 : decode cX2_isFigure 39 = .ok (.iconst 1, 1) := dk_4 (dk_at dksX2_isFigure_1 17 rfl rfl)
theorem dX2_isFigure_40 : decode cX2_isFigure 40 = .ok (.goto 4, 3) := dk_167 0 4 (dk_at dksX2_isFigure_1 18 rfl rfl)
theorem dX2_isFigure_43 : decode cX2_isFigure 43 = .ok (.iconst 0, 1) := dk_3 (dk_at dksX2_isFigure_1 21 rfl rfl)
theorem dX2_isFigure_44 : decode cX2_isFigure 44 = .ok (.ireturn, 1) := dk_172 (dk_at dksX2_isFigure_1 22 rfl rfl)
theorem q83 : (Jvm.Cond.initialized "CrowdedBins$Reader") ∈ lw_all := lw_g (lw_at lw_m1 3 rfl) rfl
theorem q132 : (Jvm.Cond.instantiable "CrowdedBins$Reader" (2 : Nat)) ∈ lw_all := lw_g (lw_at lw_m1 52 rfl) rfl
theorem q134 : (Jvm.Cond.instanceMethod ({ cls := "CrowdedBins$Reader", name := "<init>", desc := "(LCrowdedBins;)V" } : Jvm.MethodName)) ∈ lw_all := lw_g (lw_at lw_m1 54 rfl) rfl
theorem q135 : (Jvm.Cond.code ({ cls := "CrowdedBins$Reader", name := "<init>", desc := "(LCrowdedBins;)V" } : Jvm.MethodName) prog_7_method_1_code (2 : Nat) (Option.none : Option Jvm.ClassFile.FieldType)) ∈ lw_all := lw_g (lw_at lw_m1 55 rfl) rfl
theorem q136 : (Jvm.Cond.methodLink "CrowdedBins$Reader" (9 : Nat) ({ cls := "java/lang/Object", name := "<init>", desc := "()V" } : Jvm.MethodName)) ∈ lw_all := lw_g (lw_at lw_m1 56 rfl) rfl
theorem q137 : (Jvm.Cond.fieldLink "CrowdedBins$Reader" (15 : Nat) "CrowdedBins$Reader" "at" "I") ∈ lw_all := lw_g (lw_at lw_m1 57 rfl) rfl
theorem q138 : (Jvm.Cond.fieldLink "CrowdedBins$Reader" (3 : Nat) "CrowdedBins$Reader" "this$0" "LCrowdedBins;") ∈ lw_all := lw_g (lw_at lw_m1 58 rfl) rfl
theorem q139 : (Jvm.Cond.lays "CrowdedBins$Reader" "CrowdedBins$Reader" "at" "I") ∈ lw_all := lw_g (lw_at lw_m1 59 rfl) rfl
theorem q140 : (Jvm.Cond.soleField "CrowdedBins$Reader" "at") ∈ lw_all := lw_g (lw_at lw_m1 60 rfl) rfl
theorem q141 : (Jvm.Cond.laysFinal "CrowdedBins$Reader" "CrowdedBins$Reader" "this$0" "LCrowdedBins;") ∈ lw_all := lw_g (lw_at lw_m1 61 rfl) rfl
theorem q142 : (Jvm.Cond.soleField "CrowdedBins$Reader" "this$0") ∈ lw_all := lw_g (lw_at lw_m1 62 rfl) rfl
theorem q143 : (Jvm.Cond.superclass "CrowdedBins$Reader" "java/lang/Object") ∈ lw_all := lw_g (lw_at lw_m1 63 rfl) rfl
theorem q187 : (Jvm.Cond.fieldLinkNest "CrowdedBins$Reader" (22 : Nat) "CrowdedBins" "text" "[B" "CrowdedBins") ∈ lw_tbl := lw_at lw_m1 107 rfl
theorem q189 : (Jvm.Cond.fieldLinkNest "CrowdedBins$Reader" (19 : Nat) "CrowdedBins" "typed" "I" "CrowdedBins") ∈ lw_tbl := lw_at lw_m1 109 rfl
theorem q702 : (Jvm.Cond.instanceMethod ({ cls := "CrowdedBins$Reader", name := "reads", desc := "(Z)I" } : Jvm.MethodName)) ∈ lw_all := lw_g (lw_at lw_m3 142 rfl) rfl
theorem q703 : (Jvm.Cond.selects "CrowdedBins$Reader" ({ cls := "CrowdedBins$Reader", name := "reads", desc := "(Z)I" } : Jvm.MethodName) ({ cls := "CrowdedBins$Reader", name := "reads", desc := "(Z)I" } : Jvm.MethodName)) ∈ lw_all := lw_g (lw_at lw_m3 143 rfl) rfl
theorem q704 : (Jvm.Cond.code ({ cls := "CrowdedBins$Reader", name := "reads", desc := "(Z)I" } : Jvm.MethodName) prog_7_method_6_code (4 : Nat) (Option.some Jvm.ClassFile.FieldType.int)) ∈ lw_all := lw_g (lw_at lw_m3 144 rfl) rfl
theorem q705 : (Jvm.Cond.methodLink "CrowdedBins$Reader" (64 : Nat) ({ cls := "CrowdedBins$Reader", name := "order", desc := "(Z)I" } : Jvm.MethodName)) ∈ lw_all := lw_g (lw_at lw_m3 145 rfl) rfl
theorem q706 : (Jvm.Cond.privateMethod ({ cls := "CrowdedBins$Reader", name := "order", desc := "(Z)I" } : Jvm.MethodName)) ∈ lw_tbl := lw_at lw_m3 146 rfl
theorem q707 : (Jvm.Cond.instanceMethod ({ cls := "CrowdedBins$Reader", name := "order", desc := "(Z)I" } : Jvm.MethodName)) ∈ lw_all := lw_g (lw_at lw_m3 147 rfl) rfl
theorem q708 : (Jvm.Cond.code ({ cls := "CrowdedBins$Reader", name := "order", desc := "(Z)I" } : Jvm.MethodName) prog_7_method_5_code (5 : Nat) (Option.some Jvm.ClassFile.FieldType.int)) ∈ lw_all := lw_g (lw_at lw_m3 148 rfl) rfl
theorem q709 : (Jvm.Cond.methodLink "CrowdedBins$Reader" (34 : Nat) ({ cls := "CrowdedBins$Reader", name := "here", desc := "()I" } : Jvm.MethodName)) ∈ lw_all := lw_g (lw_at lw_m3 149 rfl) rfl
theorem q710 : (Jvm.Cond.privateMethod ({ cls := "CrowdedBins$Reader", name := "here", desc := "()I" } : Jvm.MethodName)) ∈ lw_tbl := lw_at lw_m3 150 rfl
theorem q711 : (Jvm.Cond.instanceMethod ({ cls := "CrowdedBins$Reader", name := "here", desc := "()I" } : Jvm.MethodName)) ∈ lw_all := lw_g (lw_at lw_m3 151 rfl) rfl
theorem q712 : (Jvm.Cond.code ({ cls := "CrowdedBins$Reader", name := "here", desc := "()I" } : Jvm.MethodName) prog_7_method_2_code (1 : Nat) (Option.some Jvm.ClassFile.FieldType.int)) ∈ lw_all := lw_g (lw_at lw_m3 152 rfl) rfl
theorem q713 : (Jvm.Cond.classLink "CrowdedBins$Reader" (42 : Nat) "CrowdedBins$Fault") ∈ lw_all := lw_g (lw_at lw_m3 153 rfl) rfl
theorem q750 : (Jvm.Cond.methodLink "CrowdedBins$Reader" (44 : Nat) ({ cls := "CrowdedBins$Fault", name := "<init>", desc := "(I)V" } : Jvm.MethodName)) ∈ lw_all := lw_g (lw_at lw_m3 190 rfl) rfl
theorem q776 : (Jvm.Cond.methodLink "CrowdedBins$Reader" (47 : Nat) ({ cls := "CrowdedBins$Reader", name := "number", desc := "()I" } : Jvm.MethodName)) ∈ lw_all := lw_g (lw_at lw_m3 216 rfl) rfl
theorem q777 : (Jvm.Cond.privateMethod ({ cls := "CrowdedBins$Reader", name := "number", desc := "()I" } : Jvm.MethodName)) ∈ lw_tbl := lw_at lw_m3 217 rfl
theorem q778 : (Jvm.Cond.instanceMethod ({ cls := "CrowdedBins$Reader", name := "number", desc := "()I" } : Jvm.MethodName)) ∈ lw_all := lw_g (lw_at lw_m3 218 rfl) rfl
theorem q779 : (Jvm.Cond.code ({ cls := "CrowdedBins$Reader", name := "number", desc := "()I" } : Jvm.MethodName) prog_7_method_4_code (4 : Nat) (Option.some Jvm.ClassFile.FieldType.int)) ∈ lw_all := lw_g (lw_at lw_m3 219 rfl) rfl
theorem q780 : (Jvm.Cond.methodLink "CrowdedBins$Reader" (38 : Nat) ({ cls := "CrowdedBins$Reader", name := "isFigure", desc := "()Z" } : Jvm.MethodName)) ∈ lw_all := lw_g (lw_at lw_m3 220 rfl) rfl
theorem q781 : (Jvm.Cond.privateMethod ({ cls := "CrowdedBins$Reader", name := "isFigure", desc := "()Z" } : Jvm.MethodName)) ∈ lw_tbl := lw_at lw_m3 221 rfl
theorem q782 : (Jvm.Cond.instanceMethod ({ cls := "CrowdedBins$Reader", name := "isFigure", desc := "()Z" } : Jvm.MethodName)) ∈ lw_all := lw_g (lw_at lw_m3 222 rfl) rfl
theorem q783 : (Jvm.Cond.code ({ cls := "CrowdedBins$Reader", name := "isFigure", desc := "()Z" } : Jvm.MethodName) prog_7_method_3_code (1 : Nat) (Option.some Jvm.ClassFile.FieldType.boolean)) ∈ lw_all := lw_g (lw_at lw_m3 223 rfl) rfl
theorem q784 : (Jvm.Cond.constantLong "CrowdedBins$Reader" (26 : Nat) (48 : Int64)) ∈ lw_all := lw_g (lw_at lw_m3 224 rfl) rfl
theorem q785 : (Jvm.Cond.constantLong "CrowdedBins$Reader" (28 : Nat) (57 : Int64)) ∈ lw_all := lw_g (lw_at lw_m3 225 rfl) rfl
theorem q786 : (Jvm.Cond.methodLinkNest "CrowdedBins$Reader" (30 : Nat) ({ cls := "CrowdedBins", name := "in", desc := "(JJJ)Z" } : Jvm.MethodName) "CrowdedBins") ∈ lw_tbl := lw_at lw_m3 226 rfl
theorem q787 : (Jvm.Cond.methodLink "CrowdedBins$Reader" (50 : Nat) ({ cls := "CrowdedBins", name := "put", desc := "(II)I" } : Jvm.MethodName)) ∈ lw_all := lw_g (lw_at lw_m3 227 rfl) rfl
theorem q788 : (Jvm.Cond.methodLink "CrowdedBins$Reader" (54 : Nat) ({ cls := "CrowdedBins", name := "get", desc := "(I)I" } : Jvm.MethodName)) ∈ lw_all := lw_g (lw_at lw_m3 228 rfl) rfl
theorem q789 : (Jvm.Cond.methodLink "CrowdedBins$Reader" (58 : Nat) ({ cls := "CrowdedBins", name := "remove", desc := "(I)I" } : Jvm.MethodName)) ∈ lw_all := lw_g (lw_at lw_m3 229 rfl) rfl
theorem q790 : (Jvm.Cond.methodLink "CrowdedBins$Reader" (61 : Nat) ({ cls := "CrowdedBins", name := "clears", desc := "()I" } : Jvm.MethodName)) ∈ lw_all := lw_g (lw_at lw_m3 230 rfl) rfl
theorem in_X2 : ∀ w ∈ wsX20, w ∈ lw_all := lw_in wsX20 [139, 141] (by decide +kernel) (by decide +kernel)

/-! CrowdedBins$Fault -/
set_option maxRecDepth 100000
def RX9 : String := "CrowdedBins$Fault"
def TX9 : u_T := fun k => match k with
  | 0 => ("java/lang/Throwable", "cause", "Ljava/lang/Throwable;", false)
  | 1 => ("java/lang/Throwable", "stackTrace", "[Ljava/lang/StackTraceElement;", false)
  | 2 => ("java/lang/Throwable", "suppressedExceptions", "Ljava/util/List;", false)
  | 3 => ("java/lang/Throwable", "detailMessage", "Ljava/lang/String;", false)
  | 4 => ("java/lang/Throwable", "backtrace", "Ljava/lang/Object;", false)
  | 5 => ("java/lang/Throwable", "depth", "I", false)
  | _ => ("CrowdedBins$Fault", "place", "I", true)
def tyX9 : Nat → FieldType := fun k => match k with
  | 0 => .object "java/lang/Throwable"
  | 1 => .array (.object "java/lang/StackTraceElement")
  | 2 => .object "java/util/List"
  | 3 => .object "java/lang/String"
  | 4 => .object "java/lang/Object"
  | 5 => .int
  | _ => .int
abbrev wsX90 : List Cond := u_ws RX9 TX9 7
theorem nmX9 : ∀ a, a < 7 → ∀ b, b < 7 → a ≠ b → (TX9 a).2.1 ≠ (TX9 b).2.1 := by decide +kernel
theorem tyX9_ok : ∀ k, k < 7 → parseFieldDescriptor (TX9 k).2.2.1 = some (tyX9 k) := by decide +kernel
abbrev cX9_init : ByteArray := prog_5_method_1_code
def yX9_init : MethodName := ⟨RX9, "<init>", "(I)V"⟩
def dkwX9_init_0 : List UInt8 := [42, 1, 1, 3, 3, 183, 0, 1, 42, 27, 181, 0, 7, 177]
abbrev dktX9_init_0 : List UInt8 := dkwX9_init_0 ++ []
theorem dksX9_init_0 : cX9_init.data.toList.drop 0 = dktX9_init_0 := by decide +kernel
theorem dX9_init_0 : decode cX9_init 0 = .ok (.aload_n 0, 1) := dk_42 (dk_at dksX9_init_0 0 rfl rfl)
theorem dX9_init_1 : decode cX9_init 1 = .ok (.aconst_null, 1) := dk_1 (dk_at dksX9_init_0 1 rfl rfl)
theorem dX9_init_2 : decode cX9_init 2 = .ok (.aconst_null, 1) := dk_1 (dk_at dksX9_init_0 2 rfl rfl)
theorem dX9_init_3 : decode cX9_init 3 = .ok (.iconst 0, 1) := dk_3 (dk_at dksX9_init_0 3 rfl rfl)
theorem dX9_init_4 : decode cX9_init 4 = .ok (.iconst 0, 1) := dk_3 (dk_at dksX9_init_0 4 rfl rfl)
theorem dX9_init_5 : decode cX9_init 5 = .ok (.invokespecial 1, 3) := dk_183 0 1 (dk_at dksX9_init_0 5 rfl rfl)
theorem dX9_init_8 : decode cX9_init 8 = .ok (.aload_n 0, 1) := dk_42 (dk_at dksX9_init_0 8 rfl rfl)
theorem dX9_init_9 : decode cX9_init 9 = .ok (.iload_n 1, 1) := dk_27 (dk_at dksX9_init_0 9 rfl rfl)
theorem dX9_init_10 : decode cX9_init 10 = .ok (.putfield 7, 3) := dk_181 0 7 (dk_at dksX9_init_0 10 rfl rfl)
theorem dX9_init_13 : decode cX9_init 13 = .ok (.return_, 1) := dk_177 (dk_at dksX9_init_0 13 rfl rfl)
theorem q94 : (Jvm.Cond.initialized "CrowdedBins$Fault") ∈ lw_all := lw_g (lw_at lw_m1 14 rfl) rfl
theorem q714 : (Jvm.Cond.instantiable "CrowdedBins$Fault" (7 : Nat)) ∈ lw_all := lw_g (lw_at lw_m3 154 rfl) rfl
theorem q715 : (Jvm.Cond.castable "CrowdedBins$Fault" "CrowdedBins$Fault") ∈ lw_tbl := lw_at lw_m3 155 rfl
theorem q720 : (Jvm.Cond.selects "CrowdedBins$Fault" ({ cls := "java/lang/Throwable", name := "fillInStackTrace", desc := "(I)Ljava/lang/Throwable;" } : Jvm.MethodName) ({ cls := "java/lang/Throwable", name := "fillInStackTrace", desc := "(I)Ljava/lang/Throwable;" } : Jvm.MethodName)) ∈ lw_all := lw_g (lw_at lw_m3 160 rfl) rfl
theorem q721 : (Jvm.Cond.selects "CrowdedBins$Fault" ({ cls := "java/lang/Throwable", name := "fillInStackTrace", desc := "()Ljava/lang/Throwable;" } : Jvm.MethodName) ({ cls := "java/lang/Throwable", name := "fillInStackTrace", desc := "()Ljava/lang/Throwable;" } : Jvm.MethodName)) ∈ lw_all := lw_g (lw_at lw_m3 161 rfl) rfl
theorem q722 : (Jvm.Cond.lays "CrowdedBins$Fault" "java/lang/Throwable" "cause" "Ljava/lang/Throwable;") ∈ lw_all := lw_g (lw_at lw_m3 162 rfl) rfl
theorem q724 : (Jvm.Cond.lays "CrowdedBins$Fault" "java/lang/Throwable" "stackTrace" "[Ljava/lang/StackTraceElement;") ∈ lw_all := lw_g (lw_at lw_m3 164 rfl) rfl
theorem q726 : (Jvm.Cond.lays "CrowdedBins$Fault" "java/lang/Throwable" "suppressedExceptions" "Ljava/util/List;") ∈ lw_all := lw_g (lw_at lw_m3 166 rfl) rfl
theorem q728 : (Jvm.Cond.lays "CrowdedBins$Fault" "java/lang/Throwable" "detailMessage" "Ljava/lang/String;") ∈ lw_all := lw_g (lw_at lw_m3 168 rfl) rfl
theorem q730 : (Jvm.Cond.lays "CrowdedBins$Fault" "java/lang/Throwable" "backtrace" "Ljava/lang/Object;") ∈ lw_all := lw_g (lw_at lw_m3 170 rfl) rfl
theorem q751 : (Jvm.Cond.instanceMethod ({ cls := "CrowdedBins$Fault", name := "<init>", desc := "(I)V" } : Jvm.MethodName)) ∈ lw_all := lw_g (lw_at lw_m3 191 rfl) rfl
theorem q752 : (Jvm.Cond.code ({ cls := "CrowdedBins$Fault", name := "<init>", desc := "(I)V" } : Jvm.MethodName) prog_5_method_1_code (2 : Nat) (Option.none : Option Jvm.ClassFile.FieldType)) ∈ lw_all := lw_g (lw_at lw_m3 192 rfl) rfl
theorem q753 : (Jvm.Cond.methodLink "CrowdedBins$Fault" (1 : Nat) ({ cls := "java/lang/Exception", name := "<init>", desc := "(Ljava/lang/String;Ljava/lang/Throwable;ZZ)V" } : Jvm.MethodName)) ∈ lw_all := lw_g (lw_at lw_m3 193 rfl) rfl
theorem q759 : (Jvm.Cond.fieldLink "CrowdedBins$Fault" (7 : Nat) "CrowdedBins$Fault" "place" "I") ∈ lw_all := lw_g (lw_at lw_m3 199 rfl) rfl
theorem q766 : (Jvm.Cond.laysFinal "CrowdedBins$Fault" "CrowdedBins$Fault" "place" "I") ∈ lw_all := lw_g (lw_at lw_m3 206 rfl) rfl
theorem q767 : (Jvm.Cond.soleField "CrowdedBins$Fault" "place") ∈ lw_all := lw_g (lw_at lw_m3 207 rfl) rfl
theorem q772 : (Jvm.Cond.lays "CrowdedBins$Fault" "java/lang/Throwable" "depth" "I") ∈ lw_all := lw_g (lw_at lw_m3 212 rfl) rfl
theorem q775 : (Jvm.Cond.superclass "CrowdedBins$Fault" "java/lang/Exception") ∈ lw_all := lw_g (lw_at lw_m3 215 rfl) rfl
theorem in_X9 : ∀ w ∈ wsX90, w ∈ lw_all := lw_in wsX90 [722, 724, 726, 728, 730, 772, 766] (by decide +kernel) (by decide +kernel)

/-! CrowdedBins$Way$3 -/
set_option maxRecDepth 100000
def RX10 : String := "CrowdedBins$Way$3"
abbrev cX10_first : ByteArray := prog_13_method_2_code
def yX10_first : MethodName := ⟨RX10, "first", "(LCrowdedBins;)LCrowdedBins$Entry;"⟩
def dkwX10_first_0 : List UInt8 := [42, 43, 3, 182, 0, 7, 176]
abbrev dktX10_first_0 : List UInt8 := dkwX10_first_0 ++ []
theorem dksX10_first_0 : cX10_first.data.toList.drop 0 = dktX10_first_0 := by decide +kernel
theorem dX10_first_0 : decode cX10_first 0 = .ok (.aload_n 0, 1) := dk_42 (dk_at dksX10_first_0 0 rfl rfl)
theorem dX10_first_1 : decode cX10_first 1 = .ok (.aload_n 1, 1) := dk_43 (dk_at dksX10_first_0 1 rfl rfl)
theorem dX10_first_2 : decode cX10_first 2 = .ok (.iconst 0, 1) := dk_3 (dk_at dksX10_first_0 2 rfl rfl)
theorem dX10_first_3 : decode cX10_first 3 = .ok (.invokevirtual 7, 3) := dk_182 0 7 (dk_at dksX10_first_0 3 rfl rfl)
theorem dX10_first_6 : decode cX10_first 6 = .ok (.areturn, 1) := dk_176 (dk_at dksX10_first_0 6 rfl rfl)
abbrev cX10_from : ByteArray := prog_13_method_4_code
def yX10_from : MethodName := ⟨RX10, "from", "(LCrowdedBins;I)LCrowdedBins$Entry;"⟩
def dkwX10_from_1 : List UInt8 := [50, 182, 0, 36, 78, 132, 4, 1, 167, 255, 229, 45, 176]
abbrev dktX10_from_1 : List UInt8 := dkwX10_from_1 ++ []
def dkwX10_from_0 : List UInt8 := [1, 78, 28, 54, 4, 21, 4, 43, 180, 0, 29, 162, 0, 24, 45, 199, 0, 20, 43, 180, 0, 32, 21, 4]
abbrev dktX10_from_0 : List UInt8 := dkwX10_from_0 ++ dktX10_from_1
theorem dksX10_from_0 : cX10_from.data.toList.drop 0 = dktX10_from_0 := by decide +kernel
theorem dksX10_from_1 : cX10_from.data.toList.drop 24 = dktX10_from_1 := dk_seg dksX10_from_0 24 rfl rfl
theorem dX10_from_0 : decode cX10_from 0 = .ok (.aconst_null, 1) := dk_1 (dk_at dksX10_from_0 0 rfl rfl)
theorem dX10_from_1 : decode cX10_from 1 = .ok (.astore_n 3, 1) := dk_78 (dk_at dksX10_from_0 1 rfl rfl)
theorem dX10_from_2 : decode cX10_from 2 = .ok (.iload_n 2, 1) := dk_28 (dk_at dksX10_from_0 2 rfl rfl)
theorem dX10_from_3 : decode cX10_from 3 = .ok (.istore 4, 2) := dk_54 4 (dk_at dksX10_from_0 3 rfl rfl)
theorem dX10_from_5 : decode cX10_from 5 = .ok (.iload 4, 2) := dk_21 4 (dk_at dksX10_from_0 5 rfl rfl)
theorem dX10_from_7 : decode cX10_from 7 = .ok (.aload_n 1, 1) := dk_43 (dk_at dksX10_from_0 7 rfl rfl)
theorem dX10_from_8 : decode cX10_from 8 = .ok (.getfield 29, 3) := dk_180 0 29 (dk_at dksX10_from_0 8 rfl rfl)
theorem dX10_from_11 : decode cX10_from 11 = .ok (.if_icmp .ge 24, 3) := dk_162 0 24 (dk_at dksX10_from_0 11 rfl rfl)
theorem dX10_from_14 : decode cX10_from 14 = .ok (.aload_n 3, 1) := dk_45 (dk_at dksX10_from_0 14 rfl rfl)
theorem dX10_from_15 : decode cX10_from 15 = .ok (.ifnonnull 20, 3) := dk_199 0 20 (dk_at dksX10_from_0 15 rfl rfl)
theorem dX10_from_18 : decode cX10_from 18 = .ok (.aload_n 1, 1) := dk_43 (dk_at dksX10_from_0 18 rfl rfl)
theorem dX10_from_19 : decode cX10_from 19 = .ok (.getfield 32, 3) := dk_180 0 32 (dk_at dksX10_from_0 19 rfl rfl)
theorem dX10_from_22 : decode cX10_from 22 = .ok (.iload 4, 2) := dk_21 4 (dk_at dksX10_from_0 22 rfl rfl)
theorem dX10_from_24 : decode cX10_from 24 = .ok (.aaload, 1) := dk_50 (dk_at dksX10_from_1 0 rfl rfl)
theorem dX10_from_25 : decode cX10_from 25 = .ok (.invokevirtual 36, 3) := dk_182 0 36 (dk_at dksX10_from_1 1 rfl rfl)
theorem dX10_from_28 : decode cX10_from 28 = .ok (.astore_n 3, 1) := dk_78 (dk_at dksX10_from_1 4 rfl rfl)
theorem dX10_from_29 : decode cX10_from 29 = .ok (.iinc 4 1, 3) := dk_132 4 1 (dk_at dksX10_from_1 5 rfl rfl)
theorem dX10_from_32 : decode cX10_from 32 = .ok (.goto (-27), 3) := dk_167 255 229 (dk_at dksX10_from_1 8 rfl rfl)
theorem dX10_from_35 : decode cX10_from 35 = .ok (.aload_n 3, 1) := dk_45 (dk_at dksX10_from_1 11 rfl rfl)
theorem dX10_from_36 : decode cX10_from 36 = .ok (.areturn, 1) := dk_176 (dk_at dksX10_from_1 12 rfl rfl)
abbrev cX10_next : ByteArray := prog_13_method_3_code
def yX10_next : MethodName := ⟨RX10, "next", "(LCrowdedBins;LCrowdedBins$Entry;)LCrowdedBins$Entry;"⟩
def dkwX10_next_1 : List UInt8 := [4, 96, 182, 0, 7, 176]
abbrev dktX10_next_1 : List UInt8 := dkwX10_next_1 ++ []
def dkwX10_next_0 : List UInt8 := [44, 180, 0, 13, 198, 0, 10, 44, 180, 0, 13, 167, 0, 18, 42, 43, 43, 44, 180, 0, 19, 182, 0, 23]
abbrev dktX10_next_0 : List UInt8 := dkwX10_next_0 ++ dktX10_next_1
theorem dksX10_next_0 : cX10_next.data.toList.drop 0 = dktX10_next_0 := by decide +kernel
theorem dksX10_next_1 : cX10_next.data.toList.drop 24 = dktX10_next_1 := dk_seg dksX10_next_0 24 rfl rfl
theorem dX10_next_0 : decode cX10_next 0 = .ok (.aload_n 2, 1) := dk_44 (dk_at dksX10_next_0 0 rfl rfl)
theorem dX10_next_1 : decode cX10_next 1 = .ok (.getfield 13, 3) := dk_180 0 13 (dk_at dksX10_next_0 1 rfl rfl)
theorem dX10_next_4 : decode cX10_next 4 = .ok (.ifnull 10, 3) := dk_198 0 10 (dk_at dksX10_next_0 4 rfl rfl)
theorem dX10_next_7 : decode cX10_next 7 = .ok (.aload_n 2, 1) := dk_44 (dk_at dksX10_next_0 7 rfl rfl)
theorem dX10_next_8 : decode cX10_next 8 = .ok (.getfield 13, 3) := dk_180 0 13 (dk_at dksX10_next_0 8 rfl rfl)
theorem dX10_next_11 : decode cX10_next 11 = .ok (.goto 18, 3) := dk_167 0 18 (dk_at dksX10_next_0 11 rfl rfl)
theorem dX10_next_14 : decode cX10_next 14 = .ok (.aload_n 0, 1) := dk_42 (dk_at dksX10_next_0 14 rfl rfl)
theorem dX10_next_15 : decode cX10_next 15 = .ok (.aload_n 1, 1) := dk_43 (dk_at dksX10_next_0 15 rfl rfl)
theorem dX10_next_16 : decode cX10_next 16 = .ok (.aload_n 1, 1) := dk_43 (dk_at dksX10_next_0 16 rfl rfl)
theorem dX10_next_17 : decode cX10_next 17 = .ok (.aload_n 2, 1) := dk_44 (dk_at dksX10_next_0 17 rfl rfl)
theorem dX10_next_18 : decode cX10_next 18 = .ok (.getfield 19, 3) := dk_180 0 19 (dk_at dksX10_next_0 18 rfl rfl)
theorem dX10_next_21 : decode cX10_next 21 = .ok (.invokevirtual 23, 3) := dk_182 0 23 (dk_at dksX10_next_0 21 rfl rfl)
theorem dX10_next_24 : decode cX10_next 24 = .ok (.iconst 1, 1) := dk_4 (dk_at dksX10_next_1 0 rfl rfl)
theorem dX10_next_25 : decode cX10_next 25 = .ok (.iadd, 1) := dk_96 (dk_at dksX10_next_1 1 rfl rfl)
theorem dX10_next_26 : decode cX10_next 26 = .ok (.invokevirtual 7, 3) := dk_182 0 7 (dk_at dksX10_next_1 2 rfl rfl)
theorem dX10_next_29 : decode cX10_next 29 = .ok (.areturn, 1) := dk_176 (dk_at dksX10_next_1 5 rfl rfl)
theorem q170 : (Jvm.Cond.fieldLinkNest "CrowdedBins$Way$3" (32 : Nat) "CrowdedBins" "bins" "[LCrowdedBins$Bin;" "CrowdedBins") ∈ lw_tbl := lw_at lw_m1 90 rfl
theorem q171 : (Jvm.Cond.fieldLinkNest "CrowdedBins$Way$3" (29 : Nat) "CrowdedBins" "wide" "I" "CrowdedBins") ∈ lw_tbl := lw_at lw_m1 91 rfl
theorem q366 : (Jvm.Cond.fieldLinkNest "CrowdedBins$Way$3" (19 : Nat) "CrowdedBins$Entry" "hash" "I" "CrowdedBins") ∈ lw_tbl := lw_at lw_m2 46 rfl
theorem q376 : (Jvm.Cond.fieldLinkNest "CrowdedBins$Way$3" (13 : Nat) "CrowdedBins$Entry" "behind" "LCrowdedBins$Entry;" "CrowdedBins") ∈ lw_tbl := lw_at lw_m2 56 rfl
theorem q634 : (Jvm.Cond.selects "CrowdedBins$Way$3" ({ cls := "CrowdedBins$Way", name := "first", desc := "(LCrowdedBins;)LCrowdedBins$Entry;" } : Jvm.MethodName) ({ cls := "CrowdedBins$Way$3", name := "first", desc := "(LCrowdedBins;)LCrowdedBins$Entry;" } : Jvm.MethodName)) ∈ lw_all := lw_g (lw_at lw_m3 74 rfl) rfl
theorem q635 : (Jvm.Cond.instanceMethod ({ cls := "CrowdedBins$Way$3", name := "first", desc := "(LCrowdedBins;)LCrowdedBins$Entry;" } : Jvm.MethodName)) ∈ lw_all := lw_g (lw_at lw_m3 75 rfl) rfl
theorem q636 : (Jvm.Cond.code ({ cls := "CrowdedBins$Way$3", name := "first", desc := "(LCrowdedBins;)LCrowdedBins$Entry;" } : Jvm.MethodName) prog_13_method_2_code (2 : Nat) (Option.some (Jvm.ClassFile.FieldType.object "CrowdedBins$Entry"))) ∈ lw_all := lw_g (lw_at lw_m3 76 rfl) rfl
theorem q637 : (Jvm.Cond.methodLink "CrowdedBins$Way$3" (7 : Nat) ({ cls := "CrowdedBins$Way$3", name := "from", desc := "(LCrowdedBins;I)LCrowdedBins$Entry;" } : Jvm.MethodName)) ∈ lw_all := lw_g (lw_at lw_m3 77 rfl) rfl
theorem q638 : (Jvm.Cond.privateMethod ({ cls := "CrowdedBins$Way$3", name := "from", desc := "(LCrowdedBins;I)LCrowdedBins$Entry;" } : Jvm.MethodName)) ∈ lw_tbl := lw_at lw_m3 78 rfl
theorem q639 : (Jvm.Cond.instanceMethod ({ cls := "CrowdedBins$Way$3", name := "from", desc := "(LCrowdedBins;I)LCrowdedBins$Entry;" } : Jvm.MethodName)) ∈ lw_all := lw_g (lw_at lw_m3 79 rfl) rfl
theorem q640 : (Jvm.Cond.instantiable "CrowdedBins$Way$3" (3 : Nat)) ∈ lw_all := lw_g (lw_at lw_m3 80 rfl) rfl
theorem q641 : (Jvm.Cond.code ({ cls := "CrowdedBins$Way$3", name := "from", desc := "(LCrowdedBins;I)LCrowdedBins$Entry;" } : Jvm.MethodName) prog_13_method_4_code (5 : Nat) (Option.some (Jvm.ClassFile.FieldType.object "CrowdedBins$Entry"))) ∈ lw_all := lw_g (lw_at lw_m3 81 rfl) rfl
theorem q642 : (Jvm.Cond.methodLink "CrowdedBins$Way$3" (36 : Nat) ({ cls := "CrowdedBins$Bin", name := "first", desc := "()LCrowdedBins$Entry;" } : Jvm.MethodName)) ∈ lw_all := lw_g (lw_at lw_m3 82 rfl) rfl
theorem q664 : (Jvm.Cond.selects "CrowdedBins$Way$3" ({ cls := "CrowdedBins$Way", name := "next", desc := "(LCrowdedBins;LCrowdedBins$Entry;)LCrowdedBins$Entry;" } : Jvm.MethodName) ({ cls := "CrowdedBins$Way$3", name := "next", desc := "(LCrowdedBins;LCrowdedBins$Entry;)LCrowdedBins$Entry;" } : Jvm.MethodName)) ∈ lw_all := lw_g (lw_at lw_m3 104 rfl) rfl
theorem q665 : (Jvm.Cond.instanceMethod ({ cls := "CrowdedBins$Way$3", name := "next", desc := "(LCrowdedBins;LCrowdedBins$Entry;)LCrowdedBins$Entry;" } : Jvm.MethodName)) ∈ lw_all := lw_g (lw_at lw_m3 105 rfl) rfl
theorem q666 : (Jvm.Cond.code ({ cls := "CrowdedBins$Way$3", name := "next", desc := "(LCrowdedBins;LCrowdedBins$Entry;)LCrowdedBins$Entry;" } : Jvm.MethodName) prog_13_method_3_code (3 : Nat) (Option.some (Jvm.ClassFile.FieldType.object "CrowdedBins$Entry"))) ∈ lw_all := lw_g (lw_at lw_m3 106 rfl) rfl
theorem q667 : (Jvm.Cond.methodLinkNest "CrowdedBins$Way$3" (23 : Nat) ({ cls := "CrowdedBins", name := "binOf", desc := "(I)I" } : Jvm.MethodName) "CrowdedBins") ∈ lw_tbl := lw_at lw_m3 107 rfl

/-! CrowdedBins$Way$1 -/
set_option maxRecDepth 100000
def RX11 : String := "CrowdedBins$Way$1"
abbrev cX11_first : ByteArray := prog_11_method_2_code
def yX11_first : MethodName := ⟨RX11, "first", "(LCrowdedBins;)LCrowdedBins$Entry;"⟩
theorem dX11_first_0 : decode cX11_first 0 = .ok (.aload_n 1, 1) := by decide +kernel
theorem dX11_first_1 : decode cX11_first 1 = .ok (.getfield 7, 3) := by decide +kernel
theorem dX11_first_4 : decode cX11_first 4 = .ok (.areturn, 1) := by decide +kernel
abbrev cX11_next : ByteArray := prog_11_method_3_code
def yX11_next : MethodName := ⟨RX11, "next", "(LCrowdedBins;LCrowdedBins$Entry;)LCrowdedBins$Entry;"⟩
theorem dX11_next_0 : decode cX11_next 0 = .ok (.aload_n 2, 1) := by decide +kernel
theorem dX11_next_1 : decode cX11_next 1 = .ok (.getfield 13, 3) := by decide +kernel
theorem dX11_next_4 : decode cX11_next 4 = .ok (.areturn, 1) := by decide +kernel
theorem q173 : (Jvm.Cond.fieldLinkNest "CrowdedBins$Way$1" (7 : Nat) "CrowdedBins" "first" "LCrowdedBins$Entry;" "CrowdedBins") ∈ lw_tbl := lw_at lw_m1 93 rfl
theorem q371 : (Jvm.Cond.fieldLinkNest "CrowdedBins$Way$1" (13 : Nat) "CrowdedBins$Entry" "after" "LCrowdedBins$Entry;" "CrowdedBins") ∈ lw_tbl := lw_at lw_m2 51 rfl
theorem q628 : (Jvm.Cond.selects "CrowdedBins$Way$1" ({ cls := "CrowdedBins$Way", name := "first", desc := "(LCrowdedBins;)LCrowdedBins$Entry;" } : Jvm.MethodName) ({ cls := "CrowdedBins$Way$1", name := "first", desc := "(LCrowdedBins;)LCrowdedBins$Entry;" } : Jvm.MethodName)) ∈ lw_all := lw_g (lw_at lw_m3 68 rfl) rfl
theorem q629 : (Jvm.Cond.instanceMethod ({ cls := "CrowdedBins$Way$1", name := "first", desc := "(LCrowdedBins;)LCrowdedBins$Entry;" } : Jvm.MethodName)) ∈ lw_all := lw_g (lw_at lw_m3 69 rfl) rfl
theorem q630 : (Jvm.Cond.code ({ cls := "CrowdedBins$Way$1", name := "first", desc := "(LCrowdedBins;)LCrowdedBins$Entry;" } : Jvm.MethodName) prog_11_method_2_code (2 : Nat) (Option.some (Jvm.ClassFile.FieldType.object "CrowdedBins$Entry"))) ∈ lw_all := lw_g (lw_at lw_m3 70 rfl) rfl
theorem q658 : (Jvm.Cond.selects "CrowdedBins$Way$1" ({ cls := "CrowdedBins$Way", name := "next", desc := "(LCrowdedBins;LCrowdedBins$Entry;)LCrowdedBins$Entry;" } : Jvm.MethodName) ({ cls := "CrowdedBins$Way$1", name := "next", desc := "(LCrowdedBins;LCrowdedBins$Entry;)LCrowdedBins$Entry;" } : Jvm.MethodName)) ∈ lw_all := lw_g (lw_at lw_m3 98 rfl) rfl
theorem q659 : (Jvm.Cond.instanceMethod ({ cls := "CrowdedBins$Way$1", name := "next", desc := "(LCrowdedBins;LCrowdedBins$Entry;)LCrowdedBins$Entry;" } : Jvm.MethodName)) ∈ lw_all := lw_g (lw_at lw_m3 99 rfl) rfl
theorem q660 : (Jvm.Cond.code ({ cls := "CrowdedBins$Way$1", name := "next", desc := "(LCrowdedBins;LCrowdedBins$Entry;)LCrowdedBins$Entry;" } : Jvm.MethodName) prog_11_method_3_code (3 : Nat) (Option.some (Jvm.ClassFile.FieldType.object "CrowdedBins$Entry"))) ∈ lw_all := lw_g (lw_at lw_m3 100 rfl) rfl

/-! CrowdedBins$Way$2 -/
set_option maxRecDepth 100000
def RX12 : String := "CrowdedBins$Way$2"
abbrev cX12_first : ByteArray := prog_12_method_2_code
def yX12_first : MethodName := ⟨RX12, "first", "(LCrowdedBins;)LCrowdedBins$Entry;"⟩
theorem dX12_first_0 : decode cX12_first 0 = .ok (.aload_n 1, 1) := by decide +kernel
theorem dX12_first_1 : decode cX12_first 1 = .ok (.getfield 7, 3) := by decide +kernel
theorem dX12_first_4 : decode cX12_first 4 = .ok (.areturn, 1) := by decide +kernel
abbrev cX12_next : ByteArray := prog_12_method_3_code
def yX12_next : MethodName := ⟨RX12, "next", "(LCrowdedBins;LCrowdedBins$Entry;)LCrowdedBins$Entry;"⟩
theorem dX12_next_0 : decode cX12_next 0 = .ok (.aload_n 2, 1) := by decide +kernel
theorem dX12_next_1 : decode cX12_next 1 = .ok (.getfield 13, 3) := by decide +kernel
theorem dX12_next_4 : decode cX12_next 4 = .ok (.areturn, 1) := by decide +kernel
theorem q175 : (Jvm.Cond.fieldLinkNest "CrowdedBins$Way$2" (7 : Nat) "CrowdedBins" "last" "LCrowdedBins$Entry;" "CrowdedBins") ∈ lw_tbl := lw_at lw_m1 95 rfl
theorem q369 : (Jvm.Cond.fieldLinkNest "CrowdedBins$Way$2" (13 : Nat) "CrowdedBins$Entry" "before" "LCrowdedBins$Entry;" "CrowdedBins") ∈ lw_tbl := lw_at lw_m2 49 rfl
theorem q631 : (Jvm.Cond.selects "CrowdedBins$Way$2" ({ cls := "CrowdedBins$Way", name := "first", desc := "(LCrowdedBins;)LCrowdedBins$Entry;" } : Jvm.MethodName) ({ cls := "CrowdedBins$Way$2", name := "first", desc := "(LCrowdedBins;)LCrowdedBins$Entry;" } : Jvm.MethodName)) ∈ lw_all := lw_g (lw_at lw_m3 71 rfl) rfl
theorem q632 : (Jvm.Cond.instanceMethod ({ cls := "CrowdedBins$Way$2", name := "first", desc := "(LCrowdedBins;)LCrowdedBins$Entry;" } : Jvm.MethodName)) ∈ lw_all := lw_g (lw_at lw_m3 72 rfl) rfl
theorem q633 : (Jvm.Cond.code ({ cls := "CrowdedBins$Way$2", name := "first", desc := "(LCrowdedBins;)LCrowdedBins$Entry;" } : Jvm.MethodName) prog_12_method_2_code (2 : Nat) (Option.some (Jvm.ClassFile.FieldType.object "CrowdedBins$Entry"))) ∈ lw_all := lw_g (lw_at lw_m3 73 rfl) rfl
theorem q661 : (Jvm.Cond.selects "CrowdedBins$Way$2" ({ cls := "CrowdedBins$Way", name := "next", desc := "(LCrowdedBins;LCrowdedBins$Entry;)LCrowdedBins$Entry;" } : Jvm.MethodName) ({ cls := "CrowdedBins$Way$2", name := "next", desc := "(LCrowdedBins;LCrowdedBins$Entry;)LCrowdedBins$Entry;" } : Jvm.MethodName)) ∈ lw_all := lw_g (lw_at lw_m3 101 rfl) rfl
theorem q662 : (Jvm.Cond.instanceMethod ({ cls := "CrowdedBins$Way$2", name := "next", desc := "(LCrowdedBins;LCrowdedBins$Entry;)LCrowdedBins$Entry;" } : Jvm.MethodName)) ∈ lw_all := lw_g (lw_at lw_m3 102 rfl) rfl
theorem q663 : (Jvm.Cond.code ({ cls := "CrowdedBins$Way$2", name := "next", desc := "(LCrowdedBins;LCrowdedBins$Entry;)LCrowdedBins$Entry;" } : Jvm.MethodName) prog_12_method_3_code (3 : Nat) (Option.some (Jvm.ClassFile.FieldType.object "CrowdedBins$Entry"))) ∈ lw_all := lw_g (lw_at lw_m3 103 rfl) rfl

/-! java/lang/Math -/
set_option maxRecDepth 100000
def RJ0 : String := "java/lang/Math"
abbrev cJ0_min : ByteArray := prog_18_method_69_code
def yJ0_min : MethodName := ⟨RJ0, "min", "(II)I"⟩
def dkwJ0_min_0 : List UInt8 := [26, 27, 163, 0, 7, 26, 167, 0, 4, 27, 172]
abbrev dktJ0_min_0 : List UInt8 := dkwJ0_min_0 ++ []
theorem dksJ0_min_0 : cJ0_min.data.toList.drop 0 = dktJ0_min_0 := by decide +kernel
theorem dJ0_min_0 : decode cJ0_min 0 = .ok (.iload_n 0, 1) := dk_26 (dk_at dksJ0_min_0 0 rfl rfl)
theorem dJ0_min_1 : decode cJ0_min 1 = .ok (.iload_n 1, 1) := dk_27 (dk_at dksJ0_min_0 1 rfl rfl)
theorem dJ0_min_2 : decode cJ0_min 2 = .ok (.if_icmp .gt 7, 3) := dk_163 0 7 (dk_at dksJ0_min_0 2 rfl rfl)
theorem dJ0_min_5 : decode cJ0_min 5 = .ok (.iload_n 0, 1) := dk_26 (dk_at dksJ0_min_0 5 rfl rfl)
theorem dJ0_min_6 : decode cJ0_min 6 = .ok (.goto 4, 3) := dk_167 0 4 (dk_at dksJ0_min_0 6 rfl rfl)
theorem dJ0_min_9 : decode cJ0_min 9 = .ok (.iload_n 1, 1) := dk_27 (dk_at dksJ0_min_0 9 rfl rfl)
theorem dJ0_min_10 : decode cJ0_min 10 = .ok (.ireturn, 1) := dk_172 (dk_at dksJ0_min_0 10 rfl rfl)
abbrev cJ0_max : ByteArray := prog_18_method_65_code
def yJ0_max : MethodName := ⟨RJ0, "max", "(II)I"⟩
def dkwJ0_max_0 : List UInt8 := [26, 27, 161, 0, 7, 26, 167, 0, 4, 27, 172]
abbrev dktJ0_max_0 : List UInt8 := dkwJ0_max_0 ++ []
theorem dksJ0_max_0 : cJ0_max.data.toList.drop 0 = dktJ0_max_0 := by decide +kernel
theorem dJ0_max_0 : decode cJ0_max 0 = .ok (.iload_n 0, 1) := dk_26 (dk_at dksJ0_max_0 0 rfl rfl)
theorem dJ0_max_1 : decode cJ0_max 1 = .ok (.iload_n 1, 1) := dk_27 (dk_at dksJ0_max_0 1 rfl rfl)
theorem dJ0_max_2 : decode cJ0_max 2 = .ok (.if_icmp .lt 7, 3) := dk_161 0 7 (dk_at dksJ0_max_0 2 rfl rfl)
theorem dJ0_max_5 : decode cJ0_max 5 = .ok (.iload_n 0, 1) := dk_26 (dk_at dksJ0_max_0 5 rfl rfl)
theorem dJ0_max_6 : decode cJ0_max 6 = .ok (.goto 4, 3) := dk_167 0 4 (dk_at dksJ0_max_0 6 rfl rfl)
theorem dJ0_max_9 : decode cJ0_max 9 = .ok (.iload_n 1, 1) := dk_27 (dk_at dksJ0_max_0 9 rfl rfl)
theorem dJ0_max_10 : decode cJ0_max 10 = .ok (.ireturn, 1) := dk_172 (dk_at dksJ0_max_0 10 rfl rfl)
theorem q90 : (Jvm.Cond.initialized "java/lang/Math") ∈ lw_all := lw_g (lw_at lw_m1 10 rfl) rfl
theorem q513 : (Jvm.Cond.static ({ cls := "java/lang/Math", name := "min", desc := "(II)I" } : Jvm.MethodName)) ∈ lw_all := lw_g (lw_at lw_m2 193 rfl) rfl
theorem q514 : (Jvm.Cond.code ({ cls := "java/lang/Math", name := "min", desc := "(II)I" } : Jvm.MethodName) prog_18_method_69_code (2 : Nat) (Option.some Jvm.ClassFile.FieldType.int)) ∈ lw_all := lw_g (lw_at lw_m2 194 rfl) rfl
theorem q582 : (Jvm.Cond.static ({ cls := "java/lang/Math", name := "max", desc := "(II)I" } : Jvm.MethodName)) ∈ lw_all := lw_g (lw_at lw_m3 22 rfl) rfl
theorem q583 : (Jvm.Cond.code ({ cls := "java/lang/Math", name := "max", desc := "(II)I" } : Jvm.MethodName) prog_18_method_65_code (2 : Nat) (Option.some Jvm.ClassFile.FieldType.int)) ∈ lw_all := lw_g (lw_at lw_m3 23 rfl) rfl

/-! java/lang/Throwable -/
set_option maxRecDepth 100000
def RJ1 : String := "java/lang/Throwable"
def TJ1 : u_T := fun k => match k with
  | 0 => ("java/lang/Throwable", "cause", "Ljava/lang/Throwable;", false)
  | 1 => ("java/lang/Throwable", "stackTrace", "[Ljava/lang/StackTraceElement;", false)
  | 2 => ("java/lang/Throwable", "suppressedExceptions", "Ljava/util/List;", false)
  | 3 => ("java/lang/Throwable", "detailMessage", "Ljava/lang/String;", false)
  | _ => ("java/lang/Throwable", "backtrace", "Ljava/lang/Object;", false)
def tyJ1 : Nat → FieldType := fun k => match k with
  | 0 => .object "java/lang/Throwable"
  | 1 => .array (.object "java/lang/StackTraceElement")
  | 2 => .object "java/util/List"
  | 3 => .object "java/lang/String"
  | _ => .object "java/lang/Object"
abbrev wsJ10 : List Cond := u_ws RJ1 TJ1 5
theorem nmJ1 : ∀ a, a < 5 → ∀ b, b < 5 → a ≠ b → (TJ1 a).2.1 ≠ (TJ1 b).2.1 := by decide +kernel
theorem tyJ1_ok : ∀ k, k < 5 → parseFieldDescriptor (TJ1 k).2.2.1 = some (tyJ1 k) := by decide +kernel
abbrev cJ1_init : ByteArray := prog_20_method_1_code
def yJ1_init : MethodName := ⟨RJ1, "<init>", "()V"⟩
def dkwJ1_init_1 : List UInt8 := [182, 0, 27, 87, 177]
abbrev dktJ1_init_1 : List UInt8 := dkwJ1_init_1 ++ []
def dkwJ1_init_0 : List UInt8 := [42, 183, 0, 1, 42, 42, 181, 0, 7, 42, 178, 0, 13, 181, 0, 17, 42, 178, 0, 20, 181, 0, 24, 42]
abbrev dktJ1_init_0 : List UInt8 := dkwJ1_init_0 ++ dktJ1_init_1
theorem dksJ1_init_0 : cJ1_init.data.toList.drop 0 = dktJ1_init_0 := by decide +kernel
theorem dksJ1_init_1 : cJ1_init.data.toList.drop 24 = dktJ1_init_1 := dk_seg dksJ1_init_0 24 rfl rfl
theorem dJ1_init_0 : decode cJ1_init 0 = .ok (.aload_n 0, 1) := dk_42 (dk_at dksJ1_init_0 0 rfl rfl)
theorem dJ1_init_1 : decode cJ1_init 1 = .ok (.invokespecial 1, 3) := dk_183 0 1 (dk_at dksJ1_init_0 1 rfl rfl)
theorem dJ1_init_4 : decode cJ1_init 4 = .ok (.aload_n 0, 1) := dk_42 (dk_at dksJ1_init_0 4 rfl rfl)
theorem dJ1_init_5 : decode cJ1_init 5 = .ok (.aload_n 0, 1) := dk_42 (dk_at dksJ1_init_0 5 rfl rfl)
theorem dJ1_init_6 : decode cJ1_init 6 = .ok (.putfield 7, 3) := dk_181 0 7 (dk_at dksJ1_init_0 6 rfl rfl)
theorem dJ1_init_9 : decode cJ1_init 9 = .ok (.aload_n 0, 1) := dk_42 (dk_at dksJ1_init_0 9 rfl rfl)
theorem dJ1_init_10 : decode cJ1_init 10 = .ok (.getstatic 13, 3) := dk_178 0 13 (dk_at dksJ1_init_0 10 rfl rfl)
theorem dJ1_init_13 : decode cJ1_init 13 = .ok (.putfield 17, 3) := dk_181 0 17 (dk_at dksJ1_init_0 13 rfl rfl)
theorem dJ1_init_16 : decode cJ1_init 16 = .ok (.aload_n 0, 1) := dk_42 (dk_at dksJ1_init_0 16 rfl rfl)
theorem dJ1_init_17 : decode cJ1_init 17 = .ok (.getstatic 20, 3) := dk_178 0 20 (dk_at dksJ1_init_0 17 rfl rfl)
theorem dJ1_init_20 : decode cJ1_init 20 = .ok (.putfield 24, 3) := dk_181 0 24 (dk_at dksJ1_init_0 20 rfl rfl)
theorem dJ1_init_23 : decode cJ1_init 23 = .ok (.aload_n 0, 1) := dk_42 (dk_at dksJ1_init_0 23 rfl rfl)
theorem dJ1_init_24 : decode cJ1_init 24 = .ok (.invokevirtual 27, 3) := dk_182 0 27 (dk_at dksJ1_init_1 0 rfl rfl)
theorem dJ1_init_27 : decode cJ1_init 27 = .ok (.pop, 1) := dk_87 (dk_at dksJ1_init_1 3 rfl rfl)
theorem dJ1_init_28 : decode cJ1_init 28 = .ok (.return_, 1) := dk_177 (dk_at dksJ1_init_1 4 rfl rfl)
abbrev cJ1_init_2 : ByteArray := prog_20_method_5_code
def yJ1_init_2 : MethodName := ⟨RJ1, "<init>", "(Ljava/lang/String;Ljava/lang/Throwable;ZZ)V"⟩
def dkwJ1_init_2_2 : List UInt8 := [44, 181, 0, 7, 29, 154, 0, 8, 42, 1, 181, 0, 24, 177]
abbrev dktJ1_init_2_2 : List UInt8 := dkwJ1_init_2_2 ++ []
def dkwJ1_init_2_1 : List UInt8 := [21, 4, 153, 0, 11, 42, 182, 0, 27, 87, 167, 0, 8, 42, 1, 181, 0, 17, 42, 43, 181, 0, 31, 42]
abbrev dktJ1_init_2_1 : List UInt8 := dkwJ1_init_2_1 ++ dktJ1_init_2_2
def dkwJ1_init_2_0 : List UInt8 := [42, 183, 0, 1, 42, 42, 181, 0, 7, 42, 178, 0, 13, 181, 0, 17, 42, 178, 0, 20, 181, 0, 24]
abbrev dktJ1_init_2_0 : List UInt8 := dkwJ1_init_2_0 ++ dktJ1_init_2_1
theorem dksJ1_init_2_0 : cJ1_init_2.data.toList.drop 0 = dktJ1_init_2_0 := by decide +kernel
theorem dksJ1_init_2_1 : cJ1_init_2.data.toList.drop 23 = dktJ1_init_2_1 := dk_seg dksJ1_init_2_0 23 rfl rfl
theorem dksJ1_init_2_2 : cJ1_init_2.data.toList.drop 47 = dktJ1_init_2_2 := dk_seg dksJ1_init_2_1 24 rfl rfl
theorem dJ1_init_2_0 : decode cJ1_init_2 0 = .ok (.aload_n 0, 1) := dk_42 (dk_at dksJ1_init_2_0 0 rfl rfl)
theorem dJ1_init_2_1 : decode cJ1_init_2 1 = .ok (.invokespecial 1, 3) := dk_183 0 1 (dk_at dksJ1_init_2_0 1 rfl rfl)
theorem dJ1_init_2_4 : decode cJ1_init_2 4 = .ok (.aload_n 0, 1) := dk_42 (dk_at dksJ1_init_2_0 4 rfl rfl)
theorem dJ1_init_2_5 : decode cJ1_init_2 5 = .ok (.aload_n 0, 1) := dk_42 (dk_at dksJ1_init_2_0 5 rfl rfl)
theorem dJ1_init_2_6 : decode cJ1_init_2 6 = .ok (.putfield 7, 3) := dk_181 0 7 (dk_at dksJ1_init_2_0 6 rfl rfl)
theorem dJ1_init_2_9 : decode cJ1_init_2 9 = .ok (.aload_n 0, 1) := dk_42 (dk_at dksJ1_init_2_0 9 rfl rfl)
theorem dJ1_init_2_10 : decode cJ1_init_2 10 = .ok (.getstatic 13, 3) := dk_178 0 13 (dk_at dksJ1_init_2_0 10 rfl rfl)
theorem dJ1_init_2_13 : decode cJ1_init_2 13 = .ok (.putfield 17, 3) := dk_181 0 17 (dk_at dksJ1_init_2_0 13 rfl rfl)
theorem dJ1_init_2_16 : decode cJ1_init_2 16 = .ok (.aload_n 0, 1) := dk_42 (dk_at dksJ1_init_2_0 16 rfl rfl)
theorem dJ1_init_2_17 : decode cJ1_init_2 17 = .ok (.getstatic 20, 3) := dk_178 0 20 (dk_at dksJ1_init_2_0 17 rfl rfl)
theorem dJ1_init_2_20 : decode cJ1_init_2 20 = .ok (.putfield 24, 3) := dk_181 0 24 (dk_at dksJ1_init_2_0 20 rfl rfl)
theorem dJ1_init_2_23 : decode cJ1_init_2 23 = .ok (.iload 4, 2) := dk_21 4 (dk_at dksJ1_init_2_1 0 rfl rfl)
theorem dJ1_init_2_25 : decode cJ1_init_2 25 = .ok (.ifCond .eq 11, 3) := dk_153 0 11 (dk_at dksJ1_init_2_1 2 rfl rfl)
theorem dJ1_init_2_28 : decode cJ1_init_2 28 = .ok (.aload_n 0, 1) := dk_42 (dk_at dksJ1_init_2_1 5 rfl rfl)
theorem dJ1_init_2_29 : decode cJ1_init_2 29 = .ok (.invokevirtual 27, 3) := dk_182 0 27 (dk_at dksJ1_init_2_1 6 rfl rfl)
theorem dJ1_init_2_32 : decode cJ1_init_2 32 = .ok (.pop, 1) := dk_87 (dk_at dksJ1_init_2_1 9 rfl rfl)
theorem dJ1_init_2_33 : decode cJ1_init_2 33 = .ok (.goto 8, 3) := dk_167 0 8 (dk_at dksJ1_init_2_1 10 rfl rfl)
theorem dJ1_init_2_36 : decode cJ1_init_2 36 = .ok (.aload_n 0, 1) := dk_42 (dk_at dksJ1_init_2_1 13 rfl rfl)
theorem dJ1_init_2_37 : decode cJ1_init_2 37 = .ok (.aconst_null, 1) := dk_1 (dk_at dksJ1_init_2_1 14 rfl rfl)
theorem dJ1_init_2_38 : decode cJ1_init_2 38 = .ok (.putfield 17, 3) := dk_181 0 17 (dk_at dksJ1_init_2_1 15 rfl rfl)
theorem dJ1_init_2_41 : decode cJ1_init_2 41 = .ok (.aload_n 0, 1) := dk_42 (dk_at dksJ1_init_2_1 18 rfl rfl)
theorem dJ1_init_2_42 : decode cJ1_init_2 42 = .ok (.aload_n 1, 1) := dk_43 (dk_at dksJ1_init_2_1 19 rfl rfl)
theorem dJ1_init_2_43 : decode cJ1_init_2 43 = .ok (.putfield 31, 3) := dk_181 0 31 (dk_at dksJ1_init_2_1 20 rfl rfl)
theorem dJ1_init_2_46 : decode cJ1_init_2 46 = .ok (.aload_n 0, 1) := dk_42 (dk_at dksJ1_init_2_1 23 rfl rfl)
theorem dJ1_init_2_47 : decode cJ1_init_2 47 = .ok (.aload_n 2, 1) := dk_44 (dk_at dksJ1_init_2_2 0 rfl rfl)
theorem dJ1_init_2_48 : decode cJ1_init_2 48 = .ok (.putfield 7, 3) := dk_181 0 7 (dk_at dksJ1_init_2_2 1 rfl rfl)
theorem dJ1_init_2_51 : decode cJ1_init_2 51 = .ok (.iload_n 3, 1) := dk_29 (dk_at dksJ1_init_2_2 4 rfl rfl)
theorem dJ1_init_2_52 : decode cJ1_init_2 52 = .ok (.ifCond .ne 8, 3) := dk_154 0 8 (dk_at dksJ1_init_2_2 5 rfl rfl)
theorem dJ1_init_2_55 : decode cJ1_init_2 55 = .ok (.aload_n 0, 1) := dk_42 (dk_at dksJ1_init_2_2 8 rfl rfl)
theorem dJ1_init_2_56 : decode cJ1_init_2 56 = .ok (.aconst_null, 1) := dk_1 (dk_at dksJ1_init_2_2 9 rfl rfl)
theorem dJ1_init_2_57 : decode cJ1_init_2 57 = .ok (.putfield 24, 3) := dk_181 0 24 (dk_at dksJ1_init_2_2 10 rfl rfl)
theorem dJ1_init_2_60 : decode cJ1_init_2 60 = .ok (.return_, 1) := dk_177 (dk_at dksJ1_init_2_2 13 rfl rfl)
theorem q92 : (Jvm.Cond.initialized "java/lang/Throwable") ∈ lw_all := lw_g (lw_at lw_m1 12 rfl) rfl
theorem q718 : (Jvm.Cond.declares ({ cls := "java/lang/Throwable", name := "<init>", desc := "()V" } : Jvm.MethodName)) ∈ lw_tbl := lw_at lw_m3 158 rfl
theorem q719 : (Jvm.Cond.declares ({ cls := "java/lang/Throwable", name := "<init>", desc := "(Ljava/lang/String;)V" } : Jvm.MethodName)) ∈ lw_tbl := lw_at lw_m3 159 rfl
theorem q723 : (Jvm.Cond.lays "java/lang/Throwable" "java/lang/Throwable" "cause" "Ljava/lang/Throwable;") ∈ lw_all := lw_g (lw_at lw_m3 163 rfl) rfl
theorem q725 : (Jvm.Cond.lays "java/lang/Throwable" "java/lang/Throwable" "stackTrace" "[Ljava/lang/StackTraceElement;") ∈ lw_all := lw_g (lw_at lw_m3 165 rfl) rfl
theorem q727 : (Jvm.Cond.lays "java/lang/Throwable" "java/lang/Throwable" "suppressedExceptions" "Ljava/util/List;") ∈ lw_all := lw_g (lw_at lw_m3 167 rfl) rfl
theorem q729 : (Jvm.Cond.lays "java/lang/Throwable" "java/lang/Throwable" "detailMessage" "Ljava/lang/String;") ∈ lw_all := lw_g (lw_at lw_m3 169 rfl) rfl
theorem q731 : (Jvm.Cond.lays "java/lang/Throwable" "java/lang/Throwable" "backtrace" "Ljava/lang/Object;") ∈ lw_all := lw_g (lw_at lw_m3 171 rfl) rfl
theorem q732 : (Jvm.Cond.fieldLink "java/lang/Throwable" (198 : Nat) "java/lang/Throwable" "backtrace" "Ljava/lang/Object;") ∈ lw_all := lw_g (lw_at lw_m3 172 rfl) rfl
theorem q733 : (Jvm.Cond.superclass "java/lang/Throwable" "java/lang/Object") ∈ lw_all := lw_g (lw_at lw_m3 173 rfl) rfl
theorem q734 : (Jvm.Cond.instanceMethod ({ cls := "java/lang/Throwable", name := "<init>", desc := "()V" } : Jvm.MethodName)) ∈ lw_all := lw_g (lw_at lw_m3 174 rfl) rfl
theorem q735 : (Jvm.Cond.code ({ cls := "java/lang/Throwable", name := "<init>", desc := "()V" } : Jvm.MethodName) prog_20_method_1_code (1 : Nat) (Option.none : Option Jvm.ClassFile.FieldType)) ∈ lw_all := lw_g (lw_at lw_m3 175 rfl) rfl
theorem q736 : (Jvm.Cond.methodLink "java/lang/Throwable" (1 : Nat) ({ cls := "java/lang/Object", name := "<init>", desc := "()V" } : Jvm.MethodName)) ∈ lw_all := lw_g (lw_at lw_m3 176 rfl) rfl
theorem q737 : (Jvm.Cond.fieldLink "java/lang/Throwable" (13 : Nat) "java/lang/Throwable" "UNASSIGNED_STACK" "[Ljava/lang/StackTraceElement;") ∈ lw_all := lw_g (lw_at lw_m3 177 rfl) rfl
theorem q738 : (Jvm.Cond.laysStatic "java/lang/Throwable" "UNASSIGNED_STACK" "[Ljava/lang/StackTraceElement;") ∈ lw_tbl := lw_at lw_m3 178 rfl
theorem q739 : (Jvm.Cond.fieldLink "java/lang/Throwable" (20 : Nat) "java/lang/Throwable" "SUPPRESSED_SENTINEL" "Ljava/util/List;") ∈ lw_all := lw_g (lw_at lw_m3 179 rfl) rfl
theorem q740 : (Jvm.Cond.laysStatic "java/lang/Throwable" "SUPPRESSED_SENTINEL" "Ljava/util/List;") ∈ lw_tbl := lw_at lw_m3 180 rfl
theorem q741 : (Jvm.Cond.methodLink "java/lang/Throwable" (27 : Nat) ({ cls := "java/lang/Throwable", name := "fillInStackTrace", desc := "()Ljava/lang/Throwable;" } : Jvm.MethodName)) ∈ lw_all := lw_g (lw_at lw_m3 181 rfl) rfl
theorem q742 : (Jvm.Cond.instanceMethod ({ cls := "java/lang/Throwable", name := "fillInStackTrace", desc := "()Ljava/lang/Throwable;" } : Jvm.MethodName)) ∈ lw_all := lw_g (lw_at lw_m3 182 rfl) rfl
theorem q743 : (Jvm.Cond.sameMethod "java/lang/Throwable" "java/lang/Throwable" "fillInStackTrace" "()Ljava/lang/Throwable;") ∈ lw_all := lw_g (lw_at lw_m3 183 rfl) rfl
theorem q744 : (Jvm.Cond.codeSync ({ cls := "java/lang/Throwable", name := "fillInStackTrace", desc := "()Ljava/lang/Throwable;" } : Jvm.MethodName) prog_20_method_18_code (1 : Nat) (Option.some (Jvm.ClassFile.FieldType.object "java/lang/Throwable"))) ∈ lw_all := lw_g (lw_at lw_m3 184 rfl) rfl
theorem q745 : (Jvm.Cond.methodLink "java/lang/Throwable" (202 : Nat) ({ cls := "java/lang/Throwable", name := "fillInStackTrace", desc := "(I)Ljava/lang/Throwable;" } : Jvm.MethodName)) ∈ lw_all := lw_g (lw_at lw_m3 185 rfl) rfl
theorem q746 : (Jvm.Cond.privateMethod ({ cls := "java/lang/Throwable", name := "fillInStackTrace", desc := "(I)Ljava/lang/Throwable;" } : Jvm.MethodName)) ∈ lw_tbl := lw_at lw_m3 186 rfl
theorem q747 : (Jvm.Cond.instanceMethod ({ cls := "java/lang/Throwable", name := "fillInStackTrace", desc := "(I)Ljava/lang/Throwable;" } : Jvm.MethodName)) ∈ lw_all := lw_g (lw_at lw_m3 187 rfl) rfl
theorem q748 : (Jvm.Cond.instantiable "java/lang/Throwable" (6 : Nat)) ∈ lw_all := lw_g (lw_at lw_m3 188 rfl) rfl
theorem q749 : (Jvm.Cond.native ({ cls := "java/lang/Throwable", name := "fillInStackTrace", desc := "(I)Ljava/lang/Throwable;" } : Jvm.MethodName)) ∈ lw_all := lw_g (lw_at lw_m3 189 rfl) rfl
theorem q757 : (Jvm.Cond.instanceMethod ({ cls := "java/lang/Throwable", name := "<init>", desc := "(Ljava/lang/String;Ljava/lang/Throwable;ZZ)V" } : Jvm.MethodName)) ∈ lw_all := lw_g (lw_at lw_m3 197 rfl) rfl
theorem q758 : (Jvm.Cond.code ({ cls := "java/lang/Throwable", name := "<init>", desc := "(Ljava/lang/String;Ljava/lang/Throwable;ZZ)V" } : Jvm.MethodName) prog_20_method_5_code (5 : Nat) (Option.none : Option Jvm.ClassFile.FieldType)) ∈ lw_all := lw_g (lw_at lw_m3 198 rfl) rfl
theorem q761 : (Jvm.Cond.fieldLink "java/lang/Throwable" (198 : Nat) "java/lang/Throwable" "backtrace" "Ljava/lang/Object;") ∈ lw_all := lw_g (lw_at lw_m3 201 rfl) rfl
theorem q762 : (Jvm.Cond.fieldLink "java/lang/Throwable" (31 : Nat) "java/lang/Throwable" "detailMessage" "Ljava/lang/String;") ∈ lw_all := lw_g (lw_at lw_m3 202 rfl) rfl
theorem q763 : (Jvm.Cond.fieldLink "java/lang/Throwable" (7 : Nat) "java/lang/Throwable" "cause" "Ljava/lang/Throwable;") ∈ lw_all := lw_g (lw_at lw_m3 203 rfl) rfl
theorem q764 : (Jvm.Cond.fieldLink "java/lang/Throwable" (17 : Nat) "java/lang/Throwable" "stackTrace" "[Ljava/lang/StackTraceElement;") ∈ lw_all := lw_g (lw_at lw_m3 204 rfl) rfl
theorem q765 : (Jvm.Cond.fieldLink "java/lang/Throwable" (24 : Nat) "java/lang/Throwable" "suppressedExceptions" "Ljava/util/List;") ∈ lw_all := lw_g (lw_at lw_m3 205 rfl) rfl
theorem q768 : (Jvm.Cond.soleField "java/lang/Throwable" "backtrace") ∈ lw_all := lw_g (lw_at lw_m3 208 rfl) rfl
theorem q769 : (Jvm.Cond.soleField "java/lang/Throwable" "detailMessage") ∈ lw_all := lw_g (lw_at lw_m3 209 rfl) rfl
theorem q770 : (Jvm.Cond.soleField "java/lang/Throwable" "cause") ∈ lw_all := lw_g (lw_at lw_m3 210 rfl) rfl
theorem q771 : (Jvm.Cond.soleField "java/lang/Throwable" "stackTrace") ∈ lw_all := lw_g (lw_at lw_m3 211 rfl) rfl
theorem q773 : (Jvm.Cond.soleField "java/lang/Throwable" "depth") ∈ lw_all := lw_g (lw_at lw_m3 213 rfl) rfl
theorem q774 : (Jvm.Cond.soleField "java/lang/Throwable" "suppressedExceptions") ∈ lw_all := lw_g (lw_at lw_m3 214 rfl) rfl
theorem q1190 : (Jvm.Cond.sameMethod "java/lang/Throwable" "java/lang/Throwable" "fillInStackTrace" "(I)Ljava/lang/Throwable;") ∈ lw_all := lw_g (lw_at lw_m5 150 rfl) rfl
theorem in_J1 : ∀ w ∈ wsJ10, w ∈ lw_all := lw_in wsJ10 [723, 725, 727, 729, 731] (by decide +kernel) (by decide +kernel)

/-! java/lang/Exception -/
set_option maxRecDepth 100000
def RJ2 : String := "java/lang/Exception"
abbrev cJ2_init : ByteArray := prog_17_method_5_code
def yJ2_init : MethodName := ⟨RJ2, "<init>", "(Ljava/lang/String;Ljava/lang/Throwable;ZZ)V"⟩
def dkwJ2_init_0 : List UInt8 := [42, 43, 44, 29, 21, 4, 183, 0, 16, 177]
abbrev dktJ2_init_0 : List UInt8 := dkwJ2_init_0 ++ []
theorem dksJ2_init_0 : cJ2_init.data.toList.drop 0 = dktJ2_init_0 := by decide +kernel
theorem dJ2_init_0 : decode cJ2_init 0 = .ok (.aload_n 0, 1) := dk_42 (dk_at dksJ2_init_0 0 rfl rfl)
theorem dJ2_init_1 : decode cJ2_init 1 = .ok (.aload_n 1, 1) := dk_43 (dk_at dksJ2_init_0 1 rfl rfl)
theorem dJ2_init_2 : decode cJ2_init 2 = .ok (.aload_n 2, 1) := dk_44 (dk_at dksJ2_init_0 2 rfl rfl)
theorem dJ2_init_3 : decode cJ2_init 3 = .ok (.iload_n 3, 1) := dk_29 (dk_at dksJ2_init_0 3 rfl rfl)
theorem dJ2_init_4 : decode cJ2_init 4 = .ok (.iload 4, 2) := dk_21 4 (dk_at dksJ2_init_0 4 rfl rfl)
theorem dJ2_init_6 : decode cJ2_init 6 = .ok (.invokespecial 16, 3) := dk_183 0 16 (dk_at dksJ2_init_0 6 rfl rfl)
theorem dJ2_init_9 : decode cJ2_init 9 = .ok (.return_, 1) := dk_177 (dk_at dksJ2_init_0 9 rfl rfl)
theorem q93 : (Jvm.Cond.initialized "java/lang/Exception") ∈ lw_all := lw_g (lw_at lw_m1 13 rfl) rfl
theorem q716 : (Jvm.Cond.declares ({ cls := "java/lang/Exception", name := "<init>", desc := "()V" } : Jvm.MethodName)) ∈ lw_tbl := lw_at lw_m3 156 rfl
theorem q717 : (Jvm.Cond.declares ({ cls := "java/lang/Exception", name := "<init>", desc := "(Ljava/lang/String;)V" } : Jvm.MethodName)) ∈ lw_tbl := lw_at lw_m3 157 rfl
theorem q754 : (Jvm.Cond.instanceMethod ({ cls := "java/lang/Exception", name := "<init>", desc := "(Ljava/lang/String;Ljava/lang/Throwable;ZZ)V" } : Jvm.MethodName)) ∈ lw_all := lw_g (lw_at lw_m3 194 rfl) rfl
theorem q755 : (Jvm.Cond.code ({ cls := "java/lang/Exception", name := "<init>", desc := "(Ljava/lang/String;Ljava/lang/Throwable;ZZ)V" } : Jvm.MethodName) prog_17_method_5_code (5 : Nat) (Option.none : Option Jvm.ClassFile.FieldType)) ∈ lw_all := lw_g (lw_at lw_m3 195 rfl) rfl
theorem q756 : (Jvm.Cond.methodLink "java/lang/Exception" (16 : Nat) ({ cls := "java/lang/Throwable", name := "<init>", desc := "(Ljava/lang/String;Ljava/lang/Throwable;ZZ)V" } : Jvm.MethodName)) ∈ lw_all := lw_g (lw_at lw_m3 196 rfl) rfl

/-! java/lang/Object -/
set_option maxRecDepth 100000
def RJ3 : String := "java/lang/Object"
abbrev cJ3_init : ByteArray := object_method_1_code
def yJ3_init : MethodName := ⟨RJ3, "<init>", "()V"⟩
theorem dJ3_init_0 : decode cJ3_init 0 = .ok (.return_, 1) := by decide +kernel
theorem q101 : (Jvm.Cond.instanceMethod ({ cls := "java/lang/Object", name := "<init>", desc := "()V" } : Jvm.MethodName)) ∈ lw_all := lw_g (lw_at lw_m1 21 rfl) rfl
theorem q102 : (Jvm.Cond.code ({ cls := "java/lang/Object", name := "<init>", desc := "()V" } : Jvm.MethodName) object_method_1_code (1 : Nat) (Option.none : Option Jvm.ClassFile.FieldType)) ∈ lw_all := lw_g (lw_at lw_m1 22 rfl) rfl

theorem q104 : (Jvm.Cond.arrayOver (Jvm.ClassFile.FieldType.object "CrowdedBins$Bin")) ∈ lw_tbl := lw_at lw_m1 24 rfl
set_option maxRecDepth 100000
theorem q109 : (Jvm.Cond.arrayOver (Jvm.ClassFile.FieldType.object "CrowdedBins$Cursor")) ∈ lw_tbl := lw_at lw_m1 29 rfl
theorem q130 : (Jvm.Cond.arrayOver (Jvm.ClassFile.FieldType.object "CrowdedBins$State")) ∈ lw_tbl := lw_at lw_m1 50 rfl
theorem q144 : (Jvm.Cond.arrayClass Jvm.ClassFile.FieldType.byte) ∈ lw_all := lw_g (lw_at lw_m1 64 rfl) rfl
theorem q145 : (Jvm.Cond.arrayClass Jvm.ClassFile.FieldType.int) ∈ lw_all := lw_g (lw_at lw_m1 65 rfl) rfl
theorem q403 : (Jvm.Cond.arrayClass Jvm.ClassFile.FieldType.boolean) ∈ lw_all := lw_g (lw_at lw_m2 83 rfl) rfl

theorem q80 : (Jvm.Cond.initialized "CrowdedBinsLaw") ∈ lw_all := lw_g (lw_at lw_m1 0 rfl) rfl
set_option maxRecDepth 100000
theorem q95 : (Jvm.Cond.classLink "CrowdedBinsLaw" (7 : Nat) "CrowdedBins") ∈ lw_all := lw_g (lw_at lw_m1 15 rfl) rfl
theorem q97 : (Jvm.Cond.methodLink "CrowdedBinsLaw" (9 : Nat) ({ cls := "CrowdedBins", name := "<init>", desc := "()V" } : Jvm.MethodName)) ∈ lw_all := lw_g (lw_at lw_m1 17 rfl) rfl
theorem q233 : (Jvm.Cond.methodLink "CrowdedBinsLaw" (13 : Nat) ({ cls := "CrowdedBins", name := "put", desc := "(II)I" } : Jvm.MethodName)) ∈ lw_all := lw_g (lw_at lw_m1 153 rfl) rfl
theorem q496 : (Jvm.Cond.methodLink "CrowdedBinsLaw" (18 : Nat) ({ cls := "CrowdedBins", name := "get", desc := "(I)I" } : Jvm.MethodName)) ∈ lw_all := lw_g (lw_at lw_m2 176 rfl) rfl
theorem q500 : (Jvm.Cond.methodLink "CrowdedBinsLaw" (23 : Nat) ({ cls := "CrowdedBins", name := "peek", desc := "(I)I" } : Jvm.MethodName)) ∈ lw_all := lw_g (lw_at lw_m2 180 rfl) rfl
theorem q504 : (Jvm.Cond.methodLink "CrowdedBinsLaw" (27 : Nat) ({ cls := "CrowdedBins", name := "remove", desc := "(I)I" } : Jvm.MethodName)) ∈ lw_all := lw_g (lw_at lw_m2 184 rfl) rfl
theorem q508 : (Jvm.Cond.methodLink "CrowdedBinsLaw" (31 : Nat) ({ cls := "CrowdedBins", name := "adds", desc := "(II)I" } : Jvm.MethodName)) ∈ lw_all := lw_g (lw_at lw_m2 188 rfl) rfl
theorem q515 : (Jvm.Cond.methodLink "CrowdedBinsLaw" (35 : Nat) ({ cls := "CrowdedBins", name := "clears", desc := "()I" } : Jvm.MethodName)) ∈ lw_all := lw_g (lw_at lw_m2 195 rfl) rfl
theorem q519 : (Jvm.Cond.methodLink "CrowdedBinsLaw" (40 : Nat) ({ cls := "CrowdedBins", name := "hashes", desc := "(II)I" } : Jvm.MethodName)) ∈ lw_all := lw_g (lw_at lw_m2 199 rfl) rfl
theorem q524 : (Jvm.Cond.methodLink "CrowdedBinsLaw" (44 : Nat) ({ cls := "CrowdedBins", name := "sets", desc := "(II)I" } : Jvm.MethodName)) ∈ lw_all := lw_g (lw_at lw_m2 204 rfl) rfl
theorem q529 : (Jvm.Cond.methodLink "CrowdedBinsLaw" (48 : Nat) ({ cls := "CrowdedBins", name := "hash", desc := "(I)I" } : Jvm.MethodName)) ∈ lw_all := lw_g (lw_at lw_m2 209 rfl) rfl
theorem q533 : (Jvm.Cond.methodLink "CrowdedBinsLaw" (52 : Nat) ({ cls := "CrowdedBins", name := "steps", desc := "(I)I" } : Jvm.MethodName)) ∈ lw_all := lw_g (lw_at lw_m2 213 rfl) rfl
theorem q546 : (Jvm.Cond.methodLink "CrowdedBinsLaw" (56 : Nat) ({ cls := "CrowdedBins", name := "order", desc := "(I)I" } : Jvm.MethodName)) ∈ lw_all := lw_g (lw_at lw_m2 226 rfl) rfl
theorem q550 : (Jvm.Cond.methodLink "CrowdedBinsLaw" (60 : Nat) ({ cls := "CrowdedBins", name := "bin", desc := "(II)I" } : Jvm.MethodName)) ∈ lw_all := lw_g (lw_at lw_m2 230 rfl) rfl
theorem q585 : (Jvm.Cond.methodLink "CrowdedBinsLaw" (64 : Nat) ({ cls := "CrowdedBins", name := "row", desc := "(II)I" } : Jvm.MethodName)) ∈ lw_all := lw_g (lw_at lw_m3 25 rfl) rfl
theorem q589 : (Jvm.Cond.methodLink "CrowdedBinsLaw" (68 : Nat) ({ cls := "CrowdedBins", name := "node", desc := "(II)I" } : Jvm.MethodName)) ∈ lw_all := lw_g (lw_at lw_m3 29 rfl) rfl
theorem q605 : (Jvm.Cond.methodLink "CrowdedBinsLaw" (72 : Nat) ({ cls := "CrowdedBins", name := "count", desc := "(I)I" } : Jvm.MethodName)) ∈ lw_all := lw_g (lw_at lw_m3 45 rfl) rfl
theorem q615 : (Jvm.Cond.methodLink "CrowdedBinsLaw" (76 : Nat) ({ cls := "CrowdedBins", name := "opens", desc := "(II)I" } : Jvm.MethodName)) ∈ lw_all := lw_g (lw_at lw_m3 55 rfl) rfl
theorem q643 : (Jvm.Cond.methodLink "CrowdedBinsLaw" (80 : Nat) ({ cls := "CrowdedBins", name := "next", desc := "(I)I" } : Jvm.MethodName)) ∈ lw_all := lw_g (lw_at lw_m3 83 rfl) rfl
theorem q668 : (Jvm.Cond.methodLink "CrowdedBinsLaw" (84 : Nat) ({ cls := "CrowdedBins", name := "removes", desc := "(I)I" } : Jvm.MethodName)) ∈ lw_all := lw_g (lw_at lw_m3 108 rfl) rfl
theorem q672 : (Jvm.Cond.methodLink "CrowdedBinsLaw" (88 : Nat) ({ cls := "CrowdedBins", name := "resumes", desc := "(I)I" } : Jvm.MethodName)) ∈ lw_all := lw_g (lw_at lw_m3 112 rfl) rfl
theorem q680 : (Jvm.Cond.methodLink "CrowdedBinsLaw" (92 : Nat) ({ cls := "CrowdedBins", name := "left", desc := "(I)I" } : Jvm.MethodName)) ∈ lw_all := lw_g (lw_at lw_m3 120 rfl) rfl
theorem q684 : (Jvm.Cond.methodLink "CrowdedBinsLaw" (96 : Nat) ({ cls := "CrowdedBins", name := "type", desc := "(I)I" } : Jvm.MethodName)) ∈ lw_all := lw_g (lw_at lw_m3 124 rfl) rfl
theorem q689 : (Jvm.Cond.methodLink "CrowdedBinsLaw" (100 : Nat) ({ cls := "CrowdedBins", name := "clear", desc := "()I" } : Jvm.MethodName)) ∈ lw_all := lw_g (lw_at lw_m3 129 rfl) rfl
theorem q693 : (Jvm.Cond.methodLink "CrowdedBinsLaw" (104 : Nat) ({ cls := "CrowdedBins", name := "does", desc := "()I" } : Jvm.MethodName)) ∈ lw_all := lw_g (lw_at lw_m3 133 rfl) rfl
theorem q791 : (Jvm.Cond.methodLink "CrowdedBinsLaw" (108 : Nat) ({ cls := "CrowdedBins", name := "back", desc := "()I" } : Jvm.MethodName)) ∈ lw_all := lw_g (lw_at lw_m3 231 rfl) rfl
theorem q803 : (Jvm.Cond.methodLink "CrowdedBinsLaw" (112 : Nat) ({ cls := "CrowdedBins", name := "told", desc := "(I)I" } : Jvm.MethodName)) ∈ lw_all := lw_g (lw_at lw_m4 3 rfl) rfl
theorem q816 : (Jvm.Cond.methodLink "CrowdedBinsLaw" (116 : Nat) ({ cls := "CrowdedBins", name := "digest", desc := "()J" } : Jvm.MethodName)) ∈ lw_all := lw_g (lw_at lw_m4 16 rfl) rfl
theorem q822 : (Jvm.Cond.classLink "CrowdedBinsLaw" (10 : Nat) "CrowdedBinsModel") ∈ lw_all := lw_g (lw_at lw_m4 22 rfl) rfl
theorem q824 : (Jvm.Cond.methodLink "CrowdedBinsLaw" (12 : Nat) ({ cls := "CrowdedBinsModel", name := "<init>", desc := "()V" } : Jvm.MethodName)) ∈ lw_all := lw_g (lw_at lw_m4 24 rfl) rfl
theorem q889 : (Jvm.Cond.methodLink "CrowdedBinsLaw" (17 : Nat) ({ cls := "CrowdedBinsModel", name := "put", desc := "(II)I" } : Jvm.MethodName)) ∈ lw_all := lw_g (lw_at lw_m4 89 rfl) rfl
theorem q973 : (Jvm.Cond.methodLink "CrowdedBinsLaw" (22 : Nat) ({ cls := "CrowdedBinsModel", name := "get", desc := "(I)I" } : Jvm.MethodName)) ∈ lw_all := lw_g (lw_at lw_m4 173 rfl) rfl
theorem q981 : (Jvm.Cond.methodLink "CrowdedBinsLaw" (26 : Nat) ({ cls := "CrowdedBinsModel", name := "peek", desc := "(I)I" } : Jvm.MethodName)) ∈ lw_all := lw_g (lw_at lw_m4 181 rfl) rfl
theorem q985 : (Jvm.Cond.methodLink "CrowdedBinsLaw" (30 : Nat) ({ cls := "CrowdedBinsModel", name := "remove", desc := "(I)I" } : Jvm.MethodName)) ∈ lw_all := lw_g (lw_at lw_m4 185 rfl) rfl
theorem q993 : (Jvm.Cond.methodLink "CrowdedBinsLaw" (34 : Nat) ({ cls := "CrowdedBinsModel", name := "adds", desc := "(II)I" } : Jvm.MethodName)) ∈ lw_all := lw_g (lw_at lw_m4 193 rfl) rfl
theorem q997 : (Jvm.Cond.methodLink "CrowdedBinsLaw" (39 : Nat) ({ cls := "CrowdedBinsModel", name := "clears", desc := "()I" } : Jvm.MethodName)) ∈ lw_all := lw_g (lw_at lw_m4 197 rfl) rfl
theorem q1009 : (Jvm.Cond.methodLink "CrowdedBinsLaw" (43 : Nat) ({ cls := "CrowdedBinsModel", name := "hashes", desc := "(II)I" } : Jvm.MethodName)) ∈ lw_all := lw_g (lw_at lw_m4 209 rfl) rfl
theorem q1013 : (Jvm.Cond.methodLink "CrowdedBinsLaw" (47 : Nat) ({ cls := "CrowdedBinsModel", name := "sets", desc := "(II)I" } : Jvm.MethodName)) ∈ lw_all := lw_g (lw_at lw_m4 213 rfl) rfl
theorem q1017 : (Jvm.Cond.methodLink "CrowdedBinsLaw" (51 : Nat) ({ cls := "CrowdedBinsModel", name := "hash", desc := "(I)I" } : Jvm.MethodName)) ∈ lw_all := lw_g (lw_at lw_m4 217 rfl) rfl
theorem q1021 : (Jvm.Cond.methodLink "CrowdedBinsLaw" (55 : Nat) ({ cls := "CrowdedBinsModel", name := "steps", desc := "(I)I" } : Jvm.MethodName)) ∈ lw_all := lw_g (lw_at lw_m4 221 rfl) rfl
theorem q1054 : (Jvm.Cond.methodLink "CrowdedBinsLaw" (59 : Nat) ({ cls := "CrowdedBinsModel", name := "order", desc := "(I)I" } : Jvm.MethodName)) ∈ lw_all := lw_g (lw_at lw_m5 14 rfl) rfl
theorem q1058 : (Jvm.Cond.methodLink "CrowdedBinsLaw" (63 : Nat) ({ cls := "CrowdedBinsModel", name := "bin", desc := "(II)I" } : Jvm.MethodName)) ∈ lw_all := lw_g (lw_at lw_m5 18 rfl) rfl
theorem q1074 : (Jvm.Cond.methodLink "CrowdedBinsLaw" (67 : Nat) ({ cls := "CrowdedBinsModel", name := "row", desc := "(II)I" } : Jvm.MethodName)) ∈ lw_all := lw_g (lw_at lw_m5 34 rfl) rfl
theorem q1082 : (Jvm.Cond.methodLink "CrowdedBinsLaw" (71 : Nat) ({ cls := "CrowdedBinsModel", name := "node", desc := "(II)I" } : Jvm.MethodName)) ∈ lw_all := lw_g (lw_at lw_m5 42 rfl) rfl
theorem q1090 : (Jvm.Cond.methodLink "CrowdedBinsLaw" (75 : Nat) ({ cls := "CrowdedBinsModel", name := "count", desc := "(I)I" } : Jvm.MethodName)) ∈ lw_all := lw_g (lw_at lw_m5 50 rfl) rfl
theorem q1098 : (Jvm.Cond.methodLink "CrowdedBinsLaw" (79 : Nat) ({ cls := "CrowdedBinsModel", name := "opens", desc := "(II)I" } : Jvm.MethodName)) ∈ lw_all := lw_g (lw_at lw_m5 58 rfl) rfl
theorem q1113 : (Jvm.Cond.methodLink "CrowdedBinsLaw" (83 : Nat) ({ cls := "CrowdedBinsModel", name := "next", desc := "(I)I" } : Jvm.MethodName)) ∈ lw_all := lw_g (lw_at lw_m5 73 rfl) rfl
theorem q1125 : (Jvm.Cond.methodLink "CrowdedBinsLaw" (87 : Nat) ({ cls := "CrowdedBinsModel", name := "removes", desc := "(I)I" } : Jvm.MethodName)) ∈ lw_all := lw_g (lw_at lw_m5 85 rfl) rfl
theorem q1129 : (Jvm.Cond.methodLink "CrowdedBinsLaw" (91 : Nat) ({ cls := "CrowdedBinsModel", name := "resumes", desc := "(I)I" } : Jvm.MethodName)) ∈ lw_all := lw_g (lw_at lw_m5 89 rfl) rfl
theorem q1137 : (Jvm.Cond.methodLink "CrowdedBinsLaw" (95 : Nat) ({ cls := "CrowdedBinsModel", name := "left", desc := "(I)I" } : Jvm.MethodName)) ∈ lw_all := lw_g (lw_at lw_m5 97 rfl) rfl
theorem q1141 : (Jvm.Cond.methodLink "CrowdedBinsLaw" (99 : Nat) ({ cls := "CrowdedBinsModel", name := "type", desc := "(I)I" } : Jvm.MethodName)) ∈ lw_all := lw_g (lw_at lw_m5 101 rfl) rfl
theorem q1145 : (Jvm.Cond.methodLink "CrowdedBinsLaw" (103 : Nat) ({ cls := "CrowdedBinsModel", name := "clear", desc := "()I" } : Jvm.MethodName)) ∈ lw_all := lw_g (lw_at lw_m5 105 rfl) rfl
theorem q1149 : (Jvm.Cond.methodLink "CrowdedBinsLaw" (107 : Nat) ({ cls := "CrowdedBinsModel", name := "does", desc := "()I" } : Jvm.MethodName)) ∈ lw_all := lw_g (lw_at lw_m5 109 rfl) rfl
theorem q1169 : (Jvm.Cond.methodLink "CrowdedBinsLaw" (111 : Nat) ({ cls := "CrowdedBinsModel", name := "back", desc := "()I" } : Jvm.MethodName)) ∈ lw_all := lw_g (lw_at lw_m5 129 rfl) rfl
theorem q1173 : (Jvm.Cond.methodLink "CrowdedBinsLaw" (115 : Nat) ({ cls := "CrowdedBinsModel", name := "told", desc := "(I)I" } : Jvm.MethodName)) ∈ lw_all := lw_g (lw_at lw_m5 133 rfl) rfl
theorem q1181 : (Jvm.Cond.methodLink "CrowdedBinsLaw" (120 : Nat) ({ cls := "CrowdedBinsModel", name := "digest", desc := "()J" } : Jvm.MethodName)) ∈ lw_all := lw_g (lw_at lw_m5 141 rfl) rfl

theorem q626 : (Jvm.Cond.declares ({ cls := "CrowdedBins$Way", name := "first", desc := "(LCrowdedBins;)LCrowdedBins$Entry;" } : Jvm.MethodName)) ∈ lw_tbl := lw_at lw_m3 66 rfl
set_option maxRecDepth 100000
theorem q627 : (Jvm.Cond.sameMethod "CrowdedBins$Way" "CrowdedBins$Way" "first" "(LCrowdedBins;)LCrowdedBins$Entry;") ∈ lw_all := lw_g (lw_at lw_m3 67 rfl) rfl
theorem q656 : (Jvm.Cond.declares ({ cls := "CrowdedBins$Way", name := "next", desc := "(LCrowdedBins;LCrowdedBins$Entry;)LCrowdedBins$Entry;" } : Jvm.MethodName)) ∈ lw_tbl := lw_at lw_m3 96 rfl
theorem q657 : (Jvm.Cond.sameMethod "CrowdedBins$Way" "CrowdedBins$Way" "next" "(LCrowdedBins;LCrowdedBins$Entry;)LCrowdedBins$Entry;") ∈ lw_all := lw_g (lw_at lw_m3 97 rfl) rfl
theorem q1193 : (Jvm.Cond.laysStatic "CrowdedBins$Way" "ORDER" "LCrowdedBins$Way;") ∈ lw_tbl := lw_at lw_m5 153 rfl
theorem q1194 : (Jvm.Cond.laysStatic "CrowdedBins$Way" "BACKWARDS" "LCrowdedBins$Way;") ∈ lw_tbl := lw_at lw_m5 154 rfl
theorem q1195 : (Jvm.Cond.laysStatic "CrowdedBins$Way" "TABLE" "LCrowdedBins$Way;") ∈ lw_tbl := lw_at lw_m5 155 rfl

theorem q91 : (Jvm.Cond.initialized "java/lang/System") ∈ lw_all := lw_g (lw_at lw_m1 11 rfl) rfl
set_option maxRecDepth 100000
theorem q699 : (Jvm.Cond.static ({ cls := "java/lang/System", name := "arraycopy", desc := "(Ljava/lang/Object;ILjava/lang/Object;II)V" } : Jvm.MethodName)) ∈ lw_all := lw_g (lw_at lw_m3 139 rfl) rfl
theorem q700 : (Jvm.Cond.native ({ cls := "java/lang/System", name := "arraycopy", desc := "(Ljava/lang/Object;ILjava/lang/Object;II)V" } : Jvm.MethodName)) ∈ lw_all := lw_g (lw_at lw_m3 140 rfl) rfl
