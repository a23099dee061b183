/-! THE CLASS: leaves of the main class -/
set_option maxRecDepth 10000
theorem lN_and16 {a : Nat} (h : a < 2 ^ 63) : lN a &&& lN 65535 = lN (a % 65536) := by
  apply Int64.toBitVec_inj.1
  show BitVec.ofNat 64 a &&& BitVec.ofNat 64 65535 = BitVec.ofNat 64 (a % 65536)
  apply BitVec.eq_of_toNat_eq
  rw [BitVec.toNat_and, BitVec.toNat_ofNat, BitVec.toNat_ofNat, BitVec.toNat_ofNat, Nat.mod_eq_of_lt (show a < 2 ^ 64 by omega), Nat.mod_eq_of_lt (show 65535 < 2 ^ 64 by decide), Nat.mod_eq_of_lt (show a % 65536 < 2 ^ 64 by omega)]
  exact Nat.and_two_pow_sub_one_eq_mod a 16
theorem l_le {x y : Int32} : x.toInt64 ≤ y.toInt64 ↔ x ≤ y := by
  rw [Int64.le_iff_toInt_le, Int32.le_iff_toInt_le, Int32.toInt_toInt64, Int32.toInt_toInt64]
theorem pw_and {n j : Nat} (h : n < 2 ^ 31) (hj : j ≤ 30) : nI n &&& (nI (2 ^ j) - nI 1) = nI (n % 2 ^ j) := by
  have h1 : 1 ≤ 2 ^ j := Nat.one_le_two_pow
  have h2 : 2 ^ j ≤ 2 ^ 30 := Nat.pow_le_pow_right (by decide) hj
  refine pk_andN (by omega) j ?_
  show (BitVec.ofNat 32 (2 ^ j) - BitVec.ofNat 32 1).toNat = _
  rw [BitVec.toNat_sub, BitVec.toNat_ofNat, BitVec.toNat_ofNat, Nat.mod_eq_of_lt (show 2 ^ j < 2 ^ 32 by omega)]
  omega
section T49
variable {D : Dx} {o : Nat} {d : Nat}
theorem cx_in (σ : Sg) (v a b : Int64) : Ct (wX D) yX0_in cX0_in 6 (some .boolean) [.long v, .long a, .long b] σ (PE (some (.int (bI (decide (a ≤ v) && decide (v ≤ b))))) σ) d 0 0 := by
  refine Ct.of KXok (by decide) (Nat.le_of_ble_eq_true rfl) rfl fun Y C hQ hNm => ?_
  refine z_ll0 (q := 1) C dX0_in_0 rfl ?_
  refine z_ll2 (q := 2) C dX0_in_1 rfl ?_
  refine z_lcmp (q := 3) C dX0_in_2 rfl ?_
  refine z_if_lt (tgt := 17) (q := 6) C dX0_in_3 (by decide) rfl (fun c3 => ?_) (fun c3 => ?_)
  skip
  · refine z_iconst (q := 18) (v := nI 0) C dX0_in_17 rfl (by decide) ?_
    refine z_zret C hQ dX0_in_18 (by omega) (by omega) (by first | rfl | exact bI_nar _) ?_
    refine ⟨?_, rfl⟩
    first | (rw [decide_eq_false (fun h => absurd ((lg_cmp_lt _ _).mp c3) (Int64.not_lt.mpr h))]; rfl; done) | (rw [decide_eq_false (fun h => absurd ((lg_cmp_gt _ _).mp c10) (Int64.not_lt.mpr h)), Bool.and_false]; rfl; done) | (rw [decide_eq_true (Int64.not_lt.mp (fun h => c3 ((lg_cmp_lt _ _).mpr h))), decide_eq_true (Int64.not_lt.mp (fun h => c10 ((lg_cmp_gt _ _).mpr h)))]; rfl; done)
  · refine z_ll0 (q := 7) C dX0_in_6 rfl ?_
    refine z_ll4 (q := 9) C dX0_in_7 rfl ?_
    refine z_lcmp (q := 10) C dX0_in_9 rfl ?_
    refine z_if_gt (tgt := 17) (q := 13) C dX0_in_10 (by decide) rfl (fun c10 => ?_) (fun c10 => ?_)
    · refine z_iconst (q := 18) (v := nI 0) C dX0_in_17 rfl (by decide) ?_
      refine z_zret C hQ dX0_in_18 (by omega) (by omega) (by first | rfl | exact bI_nar _) ?_
      refine ⟨?_, rfl⟩
      first | (rw [decide_eq_false (fun h => absurd ((lg_cmp_lt _ _).mp c3) (Int64.not_lt.mpr h))]; rfl; done) | (rw [decide_eq_false (fun h => absurd ((lg_cmp_gt _ _).mp c10) (Int64.not_lt.mpr h)), Bool.and_false]; rfl; done) | (rw [decide_eq_true (Int64.not_lt.mp (fun h => c3 ((lg_cmp_lt _ _).mpr h))), decide_eq_true (Int64.not_lt.mp (fun h => c10 ((lg_cmp_gt _ _).mpr h)))]; rfl; done)
    · refine z_iconst (q := 14) (v := nI 1) C dX0_in_13 rfl (by decide) ?_
      refine z_goto (tgt := 18) C dX0_in_14 (by decide) ?_
      refine z_zret C hQ dX0_in_18 (by omega) (by omega) (by first | rfl | exact bI_nar _) ?_
      refine ⟨?_, rfl⟩
      first | (rw [decide_eq_false (fun h => absurd ((lg_cmp_lt _ _).mp c3) (Int64.not_lt.mpr h))]; rfl; done) | (rw [decide_eq_false (fun h => absurd ((lg_cmp_gt _ _).mp c10) (Int64.not_lt.mpr h)), Bool.and_false]; rfl; done) | (rw [decide_eq_true (Int64.not_lt.mp (fun h => c3 ((lg_cmp_lt _ _).mpr h))), decide_eq_true (Int64.not_lt.mp (fun h => c10 ((lg_cmp_gt _ _).mpr h)))]; rfl; done)
theorem in_B {v a b : Int32} : (decide (a.toInt64 ≤ v.toInt64) && decide (v.toInt64 ≤ b.toInt64)) = inB v a b := by
  unfold inB
  rw [decide_eq_decide.mpr l_le, decide_eq_decide.mpr l_le]
theorem cx_isKey (σ : Sg) (v : Int32) : Ct (wX D) yX0_isKey cX0_isKey 1 (some .boolean) [.int v] σ (PE (some (.int (bI (inB v (nI 0) (nI 999999))))) σ) (d + 1) 0 0 := by
  refine Ct.of KXok (by decide) (Nat.le_of_ble_eq_true rfl) rfl fun Y C hQ hNm => ?_
  refine z_il0 (q := 1) C dX0_isKey_0 rfl ?_
  refine z_i2l (q := 2) C dX0_isKey_1 rfl ?_
  refine z_lconst (q := 3) (v := 0) C dX0_isKey_2 rfl rfl ?_
  refine z_ldc2 (q := 6) C dX0_isKey_3 rfl q240 ?_
  refine xc_X0_214 (q := 9) C (cx_in (d := d) σ _ _ _) dX0_isKey_6 rfl rfl rfl (Nat.le_of_ble_eq_true rfl) (by first | decide | omega) (by omega) (by omega) (kkE ?_)
  refine z_zret C hQ dX0_isKey_9 (by omega) (by omega) (by first | rfl | exact bI_nar _) ?_
  exact ⟨by rw [← in_B]; rfl, rfl⟩
theorem cx_isValue (σ : Sg) (v : Int32) : Ct (wX D) yX0_isValue cX0_isValue 1 (some .boolean) [.int v] σ (PE (some (.int (bI (inB v (nI 0) (nI 9999))))) σ) (d + 1) 0 0 := by
  refine Ct.of KXok (by decide) (Nat.le_of_ble_eq_true rfl) rfl fun Y C hQ hNm => ?_
  refine z_il0 (q := 1) C dX0_isValue_0 rfl ?_
  refine z_i2l (q := 2) C dX0_isValue_1 rfl ?_
  refine z_lconst (q := 3) (v := 0) C dX0_isValue_2 rfl rfl ?_
  refine z_ldc2 (q := 6) C dX0_isValue_3 rfl q247 ?_
  refine xc_X0_214 (q := 9) C (cx_in (d := d) σ _ _ _) dX0_isValue_6 rfl rfl rfl (Nat.le_of_ble_eq_true rfl) (by first | decide | omega) (by omega) (by omega) (kkE ?_)
  refine z_zret C hQ dX0_isValue_9 (by omega) (by omega) (by first | rfl | exact bI_nar _) ?_
  exact ⟨by rw [← in_B]; rfl, rfl⟩
theorem cx_isCursor (σ : Sg) (v : Int32) : Ct (wX D) yX0_isCursor cX0_isCursor 1 (some .boolean) [.int v] σ (PE (some (.int (bI (inB v (nI 0) (nI 2))))) σ) (d + 1) 0 0 := by
  refine Ct.of KXok (by decide) (Nat.le_of_ble_eq_true rfl) rfl fun Y C hQ hNm => ?_
  refine z_il0 (q := 1) C dX0_isCursor_0 rfl ?_
  refine z_i2l (q := 2) C dX0_isCursor_1 rfl ?_
  refine z_lconst (q := 3) (v := 0) C dX0_isCursor_2 rfl rfl ?_
  refine z_ldc2 (q := 6) C dX0_isCursor_3 rfl q622 ?_
  refine xc_X0_214 (q := 9) C (cx_in (d := d) σ _ _ _) dX0_isCursor_6 rfl rfl rfl (Nat.le_of_ble_eq_true rfl) (by first | decide | omega) (by omega) (by omega) (kkE ?_)
  refine z_zret C hQ dX0_isCursor_9 (by omega) (by omega) (by first | rfl | exact bI_nar _) ?_
  exact ⟨by rw [← in_B]; rfl, rfl⟩
theorem cx_hashOf {σ : Sg} {t p : Nat} (ho : kd σ o = 1) (e1 : fi σ 5 o = nI t) (e2 : fi σ 6 o = nI p) (h2 : t ≤ 999) (h3 : p ≤ 999) (k : Nat) (hk : k ≤ 999999) : Ct (wX D) yX0_hashOf cX0_hashOf 3 (some .int) [.ref o, .int (nI k)] σ (PE (some (.int (nI (hsh t p k)))) σ) d 0 0 := by
  have hb : k * t ≤ 999999 * 999 := Nat.mul_le_mul hk h2
  refine Ct.of KXok (by decide) (Nat.le_of_ble_eq_true rfl) rfl fun Y C hQ hNm => ?_
  refine z_il1 (q := 1) C dX0_hashOf_0 rfl ?_
  refine z_i2l (q := 2) C dX0_hashOf_1 rfl ?_
  first | refine z_al0 (q := 3) C dX0_hashOf_2 rfl ?_ | refine z_al0q (q := 3) C dX0_hashOf_2 rfl ?_ | refine z_al0u (q := 3) C dX0_hashOf_2 rfl ?_
  refine xg_X0_18 (q := 6) C (by first | exact ho | exact hk | exact hb | exact he | assumption) dX0_hashOf_3 rfl ?_
  rw [e1]
  refine z_i2l (q := 7) C dX0_hashOf_6 rfl ?_
  refine z_lmul (q := 8) C dX0_hashOf_7 rfl ?_
  first | refine z_al0 (q := 9) C dX0_hashOf_8 rfl ?_ | refine z_al0q (q := 9) C dX0_hashOf_8 rfl ?_ | refine z_al0u (q := 9) C dX0_hashOf_8 rfl ?_
  refine xg_X0_68 (q := 12) C (by first | exact ho | exact hk | exact hb | exact he | assumption) dX0_hashOf_9 rfl ?_
  rw [e2]
  refine z_i2l (q := 13) C dX0_hashOf_12 rfl ?_
  refine z_ladd (q := 14) C dX0_hashOf_13 rfl ?_
  refine z_ldc2 (q := 17) C dX0_hashOf_14 rfl q268 ?_
  refine z_land (q := 18) C dX0_hashOf_17 rfl ?_
  rw [nI_l (by omega), nI_l (by omega), nI_l (by omega), lN_mul, lN_add, show (65535 : Int64) = lN 65535 from rfl, lN_and16 (by omega)]
  refine z_l2i (q := 19) C dX0_hashOf_18 rfl ?_
  rw [lN_i]
  refine z_is2 (q := 20) C dX0_hashOf_19 rfl (by first | exact loC_i | exact loC_r | exact loC_n | exact loC_q | exact loC_u) ?_
  refine z_il2 (q := 21) C dX0_hashOf_20 rfl ?_
  refine z_il2 (q := 22) C dX0_hashOf_21 rfl ?_
  refine z_iconst (q := 23) (v := nI 4) C dX0_hashOf_22 rfl (by decide) ?_
  refine z_ishr (q := 24) C dX0_hashOf_23 rfl ?_
  rw [pk_shrN (by omega) (nI 4 &&& 31) 4 (by decide)]
  refine z_ixor (q := 25) C dX0_hashOf_24 rfl ?_
  rw [nx_xor]
  refine z_iret C hQ dX0_hashOf_25 (by omega) (by omega) ?_
  exact ⟨rfl, rfl⟩
theorem cx_binOf {σ : Sg} {j : Nat} (ho : kd σ o = 1) (e1 : fi σ 1 o = nI (2 ^ j)) (hj : j ≤ 6) (h : Nat) (hh : h < 65536) : Ct (wX D) yX0_binOf cX0_binOf 2 (some .int) [.ref o, .int (nI h)] σ (PE (some (.int (nI (h % 2 ^ j)))) σ) d 0 0 := by
  refine Ct.of KXok (by decide) (Nat.le_of_ble_eq_true rfl) rfl fun Y C hQ hNm => ?_
  refine z_il1 (q := 1) C dX0_binOf_0 rfl ?_
  first | refine z_al0 (q := 2) C dX0_binOf_1 rfl ?_ | refine z_al0q (q := 2) C dX0_binOf_1 rfl ?_ | refine z_al0u (q := 2) C dX0_binOf_1 rfl ?_
  refine xg_X0_62 (q := 5) C (by first | exact ho | exact hk | exact hb | exact he | assumption) dX0_binOf_2 rfl ?_
  rw [e1]
  refine z_iconst (q := 6) (v := nI 1) C dX0_binOf_5 rfl (by decide) ?_
  refine z_isub (q := 7) C dX0_binOf_6 rfl ?_
  refine z_iand (q := 8) C dX0_binOf_7 rfl ?_
  rw [pw_and (by omega) (by omega)]
  refine z_iret C hQ dX0_binOf_8 (by omega) (by omega) ?_
  exact ⟨rfl, rfl⟩
theorem cx_keyOf0 (σ : Sg) : Ct (wX D) yX0_keyOf cX0_keyOf 1 (some .int) [.null] σ (PE (some (.int (-1))) σ) d 0 0 := by
  refine Ct.of KXok (by decide) (Nat.le_of_ble_eq_true rfl) rfl fun Y C hQ hNm => ?_
  first | refine z_al0 (q := 1) C dX0_keyOf_0 rfl ?_ | refine z_al0q (q := 1) C dX0_keyOf_0 rfl ?_ | refine z_al0u (q := 1) C dX0_keyOf_0 rfl ?_
  refine z_ifnonnull_u (q := 4) C dX0_keyOf_1 rfl ?_
  refine z_iconst (q := 5) (v := -1) C dX0_keyOf_4 rfl (by decide) ?_
  refine z_goto (tgt := 12) C dX0_keyOf_5 (by decide) ?_
  refine z_iret C hQ dX0_keyOf_12 (by omega) (by omega) ?_
  exact ⟨rfl, rfl⟩
theorem cx_keyOf {σ : Sg} {a k : Nat} (hk : kd σ a = 2) (e1 : fi σ 20 a = nI k) : Ct (wX D) yX0_keyOf cX0_keyOf 1 (some .int) [.ref a] σ (PE (some (.int (nI k))) σ) d 0 0 := by
  refine Ct.of KXok (by decide) (Nat.le_of_ble_eq_true rfl) rfl fun Y C hQ hNm => ?_
  first | refine z_al0 (q := 1) C dX0_keyOf_0 rfl ?_ | refine z_al0q (q := 1) C dX0_keyOf_0 rfl ?_ | refine z_al0u (q := 1) C dX0_keyOf_0 rfl ?_
  refine z_ifnonnull_r (tgt := 8) C dX0_keyOf_1 (by decide) ?_
  first | refine z_al0 (q := 9) C dX0_keyOf_8 rfl ?_ | refine z_al0q (q := 9) C dX0_keyOf_8 rfl ?_ | refine z_al0u (q := 9) C dX0_keyOf_8 rfl ?_
  refine xg_X0_120 (q := 12) C (by first | exact ho | exact hk | exact hb | exact he | assumption) dX0_keyOf_9 rfl ?_
  rw [e1]
  refine z_iret C hQ dX0_keyOf_12 (by omega) (by omega) ?_
  exact ⟨rfl, rfl⟩
theorem cx_refuses {σ : Sg} {r i : Nat} {v : Int32} (ho : kd σ o = 1) (e1 : fr σ 16 o = some r) (hk : kd σ r = 11) (hl : ln σ r = 4) (hi : i < 4) : Ct (wX D) yX0_refuses cX0_refuses 3 (some .int) [.ref o, .int (nI i), .int v] σ (PE (some (.int v)) (sA r i (ai σ r i + nI 1) σ)) d 0 0 := by
  refine Ct.of KXok (by decide) (Nat.le_of_ble_eq_true rfl) rfl fun Y C hQ hNm => ?_
  first | refine z_al0 (q := 1) C dX0_refuses_0 rfl ?_ | refine z_al0q (q := 1) C dX0_refuses_0 rfl ?_ | refine z_al0u (q := 1) C dX0_refuses_0 rfl ?_
  first | refine xr_X0_39 (q := 4) C (by first | exact ho | exact hk | exact hb | exact he | assumption) (by assumption) dX0_refuses_1 rfl ?_ | refine xn_X0_39 (q := 4) C (by first | exact ho | exact hk | exact hb | exact he | assumption) (by assumption) dX0_refuses_1 rfl ?_ | refine xg_X0_39 (q := 4) C (by first | exact ho | exact hk | exact hb | exact he | assumption) dX0_refuses_1 rfl ?_
  refine z_il1 (q := 5) C dX0_refuses_4 rfl ?_
  refine z_dup2 (q := 6) C dX0_refuses_5 rfl rfl rfl ?_
  refine x_iald (q := 7) C (by first | exact ho | exact hk | exact hb | exact he | assumption) (by rw [hl]; exact hi) (by omega) dX0_refuses_6 rfl ?_
  refine z_iconst (q := 8) (v := nI 1) C dX0_refuses_7 rfl (by decide) ?_
  first | refine z_iaddN (q := 9) C dX0_refuses_8 rfl ?_ | refine z_iadd (q := 9) C dX0_refuses_8 rfl ?_
  refine x_iast (q := 10) C (by first | exact ho | exact hk | exact hb | exact he | assumption) (by rw [hl]; exact hi) (by omega) dX0_refuses_9 rfl ?_
  refine z_il2 (q := 11) C dX0_refuses_10 rfl ?_
  refine z_iret C hQ dX0_refuses_11 (by omega) (by omega) ?_
  exact ⟨rfl, rfl⟩
theorem cx_bad {σ : Sg} {r : Nat} (ho : kd σ o = 1) (e1 : fr σ 16 o = some r) (hk : kd σ r = 11) (hl : ln σ r = 4) : Ct (wX D) yX0_bad cX0_bad 1 (some .int) [.ref o] σ (PE (some (.int (-2))) (sA r 0 (ai σ r 0 + nI 1) σ)) (d + 1) 0 0 := by
  refine Ct.of KXok (by decide) (Nat.le_of_ble_eq_true rfl) rfl fun Y C hQ hNm => ?_
  first | refine z_al0 (q := 1) C dX0_bad_0 rfl ?_ | refine z_al0q (q := 1) C dX0_bad_0 rfl ?_ | refine z_al0u (q := 1) C dX0_bad_0 rfl ?_
  refine z_iconst (q := 2) (v := nI 0) C dX0_bad_1 rfl (by decide) ?_
  refine z_bipush (q := 4) (v := -2) C dX0_bad_2 rfl (by decide) ?_
  refine xc_X0_58 (q := 7) C (cx_refuses (d := d) ho e1 hk hl (by decide)) (by first | exact ho | exact hk | exact hb | exact he | assumption | exact Or.inl (by assumption) | exact Or.inr (by assumption)) dX0_bad_4 rfl rfl rfl (Nat.le_of_ble_eq_true rfl) (by first | decide | omega) (by omega) (by omega) (kkE ?_)
  refine z_iret C hQ dX0_bad_7 (by omega) (by omega) ?_
  exact ⟨rfl, rfl⟩
theorem cx_no {σ : Sg} {r : Nat} (ho : kd σ o = 1) (e1 : fr σ 16 o = some r) (hk : kd σ r = 11) (hl : ln σ r = 4) : Ct (wX D) yX0_no cX0_no 1 (some .int) [.ref o] σ (PE (some (.int (-3))) (sA r 1 (ai σ r 1 + nI 1) σ)) (d + 1) 0 0 := by
  refine Ct.of KXok (by decide) (Nat.le_of_ble_eq_true rfl) rfl fun Y C hQ hNm => ?_
  first | refine z_al0 (q := 1) C dX0_no_0 rfl ?_ | refine z_al0q (q := 1) C dX0_no_0 rfl ?_ | refine z_al0u (q := 1) C dX0_no_0 rfl ?_
  refine z_iconst (q := 2) (v := nI 1) C dX0_no_1 rfl (by decide) ?_
  refine z_bipush (q := 4) (v := -3) C dX0_no_2 rfl (by decide) ?_
  refine xc_X0_58 (q := 7) C (cx_refuses (d := d) ho e1 hk hl (by decide)) (by first | exact ho | exact hk | exact hb | exact he | assumption | exact Or.inl (by assumption) | exact Or.inr (by assumption)) dX0_no_4 rfl rfl rfl (Nat.le_of_ble_eq_true rfl) (by first | decide | omega) (by omega) (by omega) (kkE ?_)
  refine z_iret C hQ dX0_no_7 (by omega) (by omega) ?_
  exact ⟨rfl, rfl⟩
theorem cx_late {σ : Sg} {r : Nat} (ho : kd σ o = 1) (e1 : fr σ 16 o = some r) (hk : kd σ r = 11) (hl : ln σ r = 4) : Ct (wX D) yX0_late cX0_late 1 (some .int) [.ref o] σ (PE (some (.int (-6))) (sA r 3 (ai σ r 3 + nI 1) σ)) (d + 1) 0 0 := by
  refine Ct.of KXok (by decide) (Nat.le_of_ble_eq_true rfl) rfl fun Y C hQ hNm => ?_
  first | refine z_al0 (q := 1) C dX0_late_0 rfl ?_ | refine z_al0q (q := 1) C dX0_late_0 rfl ?_ | refine z_al0u (q := 1) C dX0_late_0 rfl ?_
  refine z_iconst (q := 2) (v := nI 3) C dX0_late_1 rfl (by decide) ?_
  refine z_bipush (q := 4) (v := -6) C dX0_late_2 rfl (by decide) ?_
  refine xc_X0_58 (q := 7) C (cx_refuses (d := d) ho e1 hk hl (by decide)) (by first | exact ho | exact hk | exact hb | exact he | assumption | exact Or.inl (by assumption) | exact Or.inr (by assumption)) dX0_late_4 rfl rfl rfl (Nat.le_of_ble_eq_true rfl) (by first | decide | omega) (by omega) (by omega) (kkE ?_)
  refine z_iret C hQ dX0_late_7 (by omega) (by omega) ?_
  exact ⟨rfl, rfl⟩
end T49
