/-! the twin's methods, leaves -/
section T21
variable {D : Dt} {o : Nat} {ad : Nat → Nat}
theorem ct_in (τ : Tw) (v lo hi : Int32) : Ct (wT D o ad) yX5_in cX5_in 3 (some .boolean) [.int v, .int lo, .int hi] τ (PE (some (.int (bI (inB v lo hi)))) τ) 0 0 0 := by
  refine Ct.of KTok (by decide) (Nat.le_of_ble_eq_true rfl) rfl fun Y C hQ hNm => ?_
  refine z_il0 (q := 1) C dX5_in_0 rfl ?_
  refine z_il1 (q := 2) C dX5_in_1 rfl ?_
  refine z_icmp_lt (tgt := 14) (q := 5) C dX5_in_2 (by decide) rfl (fun c2 => ?_) (fun c2 => ?_)
  · refine z_iconst (q := 15) (v := nI 0) C dX5_in_14 rfl (by decide) ?_
    refine z_zret C hQ dX5_in_15 (Nat.le_refl _) (Nat.le_refl _) (by first | rfl | exact bI_nar _) ?_
    refine ⟨?_, rfl⟩
    first | (rw [show inB v lo hi = true from by simp [inB, Int32.not_lt.mp c2, Int32.not_lt.mp c7]]; rfl; done) | (rw [show inB v lo hi = false from by simp only [inB, Bool.and_eq_false_iff, decide_eq_false_iff_not]; first | exact Or.inl (Int32.not_le.mpr c2) | exact Or.inr (Int32.not_le.mpr c7)]; rfl)
  · refine z_il0 (q := 6) C dX5_in_5 rfl ?_
    refine z_il2 (q := 7) C dX5_in_6 rfl ?_
    refine z_icmp_gt (tgt := 14) (q := 10) C dX5_in_7 (by decide) rfl (fun c7 => ?_) (fun c7 => ?_)
    · refine z_iconst (q := 15) (v := nI 0) C dX5_in_14 rfl (by decide) ?_
      refine z_zret C hQ dX5_in_15 (Nat.le_refl _) (Nat.le_refl _) (by first | rfl | exact bI_nar _) ?_
      refine ⟨?_, rfl⟩
      first | (rw [show inB v lo hi = true from by simp [inB, Int32.not_lt.mp c2, Int32.not_lt.mp c7]]; rfl; done) | (rw [show inB v lo hi = false from by simp only [inB, Bool.and_eq_false_iff, decide_eq_false_iff_not]; first | exact Or.inl (Int32.not_le.mpr c2) | exact Or.inr (Int32.not_le.mpr c7)]; rfl)
    · refine z_iconst (q := 11) (v := nI 1) C dX5_in_10 rfl (by decide) ?_
      refine z_goto (tgt := 15) C dX5_in_11 (by decide) ?_
      refine z_zret C hQ dX5_in_15 (Nat.le_refl _) (Nat.le_refl _) (by first | rfl | exact bI_nar _) ?_
      refine ⟨?_, rfl⟩
      first | (rw [show inB v lo hi = true from by simp [inB, Int32.not_lt.mp c2, Int32.not_lt.mp c7]]; rfl; done) | (rw [show inB v lo hi = false from by simp only [inB, Bool.and_eq_false_iff, decide_eq_false_iff_not]; first | exact Or.inl (Int32.not_le.mpr c2) | exact Or.inr (Int32.not_le.mpr c7)]; rfl)
theorem ct_isKey (τ : Tw) (v : Int32) : Ct (wT D o ad) yX5_isKey cX5_isKey 1 (some .boolean) [.int v] τ (PE (some (.int (bI (inB v (nI 0) (nI 999999))))) τ) 1 0 0 := by
  refine Ct.of KTok (by decide) (Nat.le_of_ble_eq_true rfl) rfl fun Y C hQ hNm => ?_
  refine z_il0 (q := 1) C dX5_isKey_0 rfl ?_
  refine z_iconst (q := 2) (v := nI 0) C dX5_isKey_1 rfl (by decide) ?_
  refine z_ldc (q := 4) C dX5_isKey_2 rfl q900 ?_
  refine z_callSe (q := 7) C (ct_in τ v (nI 0) 999999) g_X5_44 dX5_isKey_4 rfl rfl rfl (Nat.le_of_ble_eq_true rfl) (by first | decide | omega) (Nat.le_refl _) (Nat.le_refl _) ?_
  refine z_zret C hQ dX5_isKey_7 (Nat.le_refl _) (Nat.le_refl _) (by first | rfl | exact bI_nar _) ?_
  exact ⟨rfl, rfl⟩
theorem ct_isCursor (τ : Tw) (v : Int32) : Ct (wT D o ad) yX5_isCursor cX5_isCursor 1 (some .boolean) [.int v] τ (PE (some (.int (bI (inB v (nI 0) (nI 2))))) τ) 1 0 0 := by
  refine Ct.of KTok (by decide) (Nat.le_of_ble_eq_true rfl) rfl fun Y C hQ hNm => ?_
  refine z_il0 (q := 1) C dX5_isCursor_0 rfl ?_
  refine z_iconst (q := 2) (v := nI 0) C dX5_isCursor_1 rfl (by decide) ?_
  refine z_iconst (q := 3) (v := nI 2) C dX5_isCursor_2 rfl (by decide) ?_
  refine z_callSe (q := 6) C (ct_in τ v (nI 0) (nI 2)) g_X5_44 dX5_isCursor_3 rfl rfl rfl (Nat.le_of_ble_eq_true rfl) (by first | decide | omega) (Nat.le_refl _) (Nat.le_refl _) ?_
  refine z_zret C hQ dX5_isCursor_6 (Nat.le_refl _) (Nat.le_refl _) (by first | rfl | exact bI_nar _) ?_
  exact ⟨rfl, rfl⟩
theorem ct_refuses (τ : Tw) (a : Int32) (j : Nat) (hj : j < 5) (ha : (-2 : Int32) - a = nI j) : Ct (wT D o ad) yX5_refuses cX5_refuses 2 (some .int) [.ref o, .int a] τ (PE (some (.int a)) (sE 4 j (τ.2 4 j + nI 1) τ)) 0 0 0 := by
  refine Ct.of KTok (by decide) (Nat.le_of_ble_eq_true rfl) rfl fun Y C hQ hNm => ?_
  refine z_al0 (q := 1) C dX5_refuses_0 rfl ?_
  refine tg_19 (q := 4) C dX5_refuses_1 rfl ?_
  refine z_bipush (q := 6) (v := -2) C dX5_refuses_4 rfl (by decide) ?_
  refine z_il1 (q := 7) C dX5_refuses_6 rfl ?_
  refine z_isub (q := 8) C dX5_refuses_7 rfl ?_
  rw [ha]
  refine z_dup2 (q := 9) C dX5_refuses_8 rfl rfl rfl ?_
  refine ta_ld4 (q := 10) C dX5_refuses_9 rfl (by omega) ?_
  refine z_iconst (q := 11) (v := nI 1) C dX5_refuses_10 rfl (by decide) ?_
  first | refine z_iaddN (q := 12) C dX5_refuses_11 rfl ?_ | refine z_iadd (q := 12) C dX5_refuses_11 rfl ?_
  refine ta_st4 (q := 13) C dX5_refuses_12 rfl (by omega) ?_
  refine z_il1 (q := 14) C dX5_refuses_13 rfl ?_
  refine z_iret C hQ dX5_refuses_14 (Nat.le_refl _) (Nat.le_refl _) ?_
  exact ⟨rfl, rfl⟩
/-- the last of the first n places of f that holds x -/
def lastAt (f : Nat → Int32) (x : Int32) : Nat → Int32
  | 0 => -1
  | n + 1 => if f n = x then nI n else lastAt f x n
theorem ct_placeOf (τ : Tw) (key : Int32) (n : Nat) (hn : n ≤ 49) (h0 : τ.2 0 0 = nI n) : Ct (wT D o ad) yX5_placeOf cX5_placeOf 4 (some .int) [.ref o, .int key] τ (PE (some (.int (lastAt (fun e => τ.2 0 (7 + e)) key n))) τ) 0 0 0 := by
  refine Ct.of KTok (by decide) (Nat.le_of_ble_eq_true rfl) rfl fun Y C hQ hNm => ?_
  refine z_iconst (q := 1) (v := -1) C dX5_placeOf_0 rfl (by decide) ?_
  refine z_is2 (q := 2) C dX5_placeOf_1 rfl (by first | exact loC_i | exact loC_r | exact loC_n | exact loC_q | exact loC_u) ?_
  refine z_iconst (q := 3) (v := nI 0) C dX5_placeOf_2 rfl (by decide) ?_
  refine z_is3 (q := 4) C dX5_placeOf_3 rfl (by first | exact loC_i | exact loC_r | exact loC_n | exact loC_q | exact loC_u) ?_
  have loop : ∀ m e, e + m = n → Zj (wT D o ad) Y τ 0 0 4 [some (.ref o), some (.int key), some (.int (lastAt (fun e => τ.2 0 (7 + e)) key e)), some (.int (nI e))] [] := by
    intro m
    induction m with
    | zero =>
      intro e he
      have he : e = n := he
      subst he
      refine z_il3 (q := 5) C dX5_placeOf_4 rfl ?_
      refine z_al0 (q := 6) C dX5_placeOf_5 rfl ?_
      refine tg_7 (q := 9) C dX5_placeOf_6 rfl ?_
      refine z_iconst (q := 10) (v := nI 0) C dX5_placeOf_9 rfl (by decide) ?_
      refine ta_ld0 (q := 11) C dX5_placeOf_10 rfl (by omega) ?_
      rw [h0]
      first | refine z_icmp_geN (tgt := 39) (q := 14) C dX5_placeOf_11 (by decide) rfl (by omega) (by omega) (fun c11 => ?_) (fun c11 => ?_) | refine z_icmp_ge (tgt := 39) (q := 14) C dX5_placeOf_11 (by decide) rfl (fun c11 => ?_) (fun c11 => ?_)
      · refine z_il2 (q := 40) C dX5_placeOf_39 rfl ?_
        refine z_iret C hQ dX5_placeOf_40 (Nat.le_refl _) (Nat.le_refl _) ?_
        exact ⟨rfl, rfl⟩
      · exact absurd c11 (by omega)
    | succ m ih =>
      intro e he
      refine z_il3 (q := 5) C dX5_placeOf_4 rfl ?_
      refine z_al0 (q := 6) C dX5_placeOf_5 rfl ?_
      refine tg_7 (q := 9) C dX5_placeOf_6 rfl ?_
      refine z_iconst (q := 10) (v := nI 0) C dX5_placeOf_9 rfl (by decide) ?_
      refine ta_ld0 (q := 11) C dX5_placeOf_10 rfl (by omega) ?_
      rw [h0]
      first | refine z_icmp_geN (tgt := 39) (q := 14) C dX5_placeOf_11 (by decide) rfl (by omega) (by omega) (fun c11 => ?_) (fun c11 => ?_) | refine z_icmp_ge (tgt := 39) (q := 14) C dX5_placeOf_11 (by decide) rfl (fun c11 => ?_) (fun c11 => ?_)
      · exact absurd c11 (by omega)
      · refine z_al0 (q := 15) C dX5_placeOf_14 rfl ?_
        refine tg_7 (q := 18) C dX5_placeOf_15 rfl ?_
        refine z_bipush (q := 20) (v := nI 7) C dX5_placeOf_18 rfl (by decide) ?_
        refine z_il3 (q := 21) C dX5_placeOf_20 rfl ?_
        first | refine z_iaddN (q := 22) C dX5_placeOf_21 rfl ?_ | refine z_iadd (q := 22) C dX5_placeOf_21 rfl ?_
        refine ta_ld0 (q := 23) C dX5_placeOf_22 rfl (by omega) ?_
        refine z_il1 (q := 24) C dX5_placeOf_23 rfl ?_
        refine z_icmp_ne (tgt := 31) (q := 27) C dX5_placeOf_24 (by decide) rfl (fun c24 => ?_) (fun c24 => ?_)
        · refine z_il2 (q := 32) C dX5_placeOf_31 rfl ?_
          refine z_is2 (q := 33) C dX5_placeOf_32 rfl (by first | exact loC_i | exact loC_r | exact loC_n | exact loC_q | exact loC_u) ?_
          first | refine z_iinc3N (q := 36) C dX5_placeOf_33 rfl (by first | exact loC_i | exact loC_r | exact loC_n | exact loC_q | exact loC_u) ?_ | refine z_iinc3 (q := 36) C dX5_placeOf_33 rfl rfl (by first | exact loC_i | exact loC_r | exact loC_n | exact loC_q | exact loC_u) ?_
          refine z_goto (tgt := 4) C dX5_placeOf_36 (by decide) ?_
          have := ih (e + 1) (by omega)
          rw [show lastAt (fun e => τ.2 0 (7 + e)) key (e + 1) = lastAt (fun e => τ.2 0 (7 + e)) key e from if_neg c24] at this
          exact this
        · refine z_il3 (q := 28) C dX5_placeOf_27 rfl ?_
          refine z_goto (tgt := 32) C dX5_placeOf_28 (by decide) ?_
          refine z_is2 (q := 33) C dX5_placeOf_32 rfl (by first | exact loC_i | exact loC_r | exact loC_n | exact loC_q | exact loC_u) ?_
          first | refine z_iinc3N (q := 36) C dX5_placeOf_33 rfl (by first | exact loC_i | exact loC_r | exact loC_n | exact loC_q | exact loC_u) ?_ | refine z_iinc3 (q := 36) C dX5_placeOf_33 rfl rfl (by first | exact loC_i | exact loC_r | exact loC_n | exact loC_q | exact loC_u) ?_
          refine z_goto (tgt := 4) C dX5_placeOf_36 (by decide) ?_
          have := ih (e + 1) (by omega)
          rw [show lastAt (fun e => τ.2 0 (7 + e)) key (e + 1) = nI e from if_pos c24] at this
          exact this
  exact loop n 0 (by omega)
theorem ct_hashOf {N : Nat} {c : Co} (τ : Tw) (hT : TC N (τ.2 0) c) (k : Nat) (hk : k ≤ 999999) : Ct (wT D o ad) yX5_hashOf cX5_hashOf 3 (some .int) [.ref o, .int (nI k)] τ (PE (some (.int (nI (k_h c k)))) τ) 0 0 0 := by
  refine Ct.of KTok (by decide) (Nat.le_of_ble_eq_true rfl) rfl fun Y C hQ hNm => ?_
  have h2 : k_n c 2 ≤ 999 := hT.1.2.2.2.2.2.1
  have h3 : k_n c 3 ≤ 999 := hT.1.2.2.2.2.2.2.1
  have hb : k * k_n c 2 ≤ 999999 * 999 := Nat.mul_le_mul hk h2
  refine z_il1 (q := 1) C dX5_hashOf_0 rfl ?_
  refine z_i2l (q := 2) C dX5_hashOf_1 rfl ?_
  refine z_al0 (q := 3) C dX5_hashOf_2 rfl ?_
  refine tg_7 (q := 6) C dX5_hashOf_3 rfl ?_
  refine z_iconst (q := 7) (v := nI 2) C dX5_hashOf_6 rfl (by decide) ?_
  refine ta_ld0 (q := 8) C dX5_hashOf_7 rfl (by omega) ?_
  rw [hT.an (by omega) (by omega)]
  refine z_i2l (q := 9) C dX5_hashOf_8 rfl ?_
  refine z_lmul (q := 10) C dX5_hashOf_9 rfl ?_
  refine z_al0 (q := 11) C dX5_hashOf_10 rfl ?_
  refine tg_7 (q := 14) C dX5_hashOf_11 rfl ?_
  refine z_iconst (q := 15) (v := nI 3) C dX5_hashOf_14 rfl (by decide) ?_
  refine ta_ld0 (q := 16) C dX5_hashOf_15 rfl (by omega) ?_
  rw [hT.an (by omega) (by omega)]
  refine z_i2l (q := 17) C dX5_hashOf_16 rfl ?_
  refine z_ladd (q := 18) C dX5_hashOf_17 rfl ?_
  refine z_ldc2 (q := 21) C dX5_hashOf_18 rfl q940 ?_
  refine z_lrem (q := 22) C dX5_hashOf_21 rfl (by decide) ?_
  rw [nI_l (by omega), nI_l (by omega), nI_l (by omega), lN_mul, lN_add, show (65536 : Int64) = lN 65536 from rfl, pk_lRem (by omega) (by omega) (by omega)]
  refine z_l2i (q := 23) C dX5_hashOf_22 rfl ?_
  rw [lN_i]
  refine z_is2 (q := 24) C dX5_hashOf_23 rfl (by first | exact loC_i | exact loC_r | exact loC_n | exact loC_q | exact loC_u) ?_
  refine z_il2 (q := 25) C dX5_hashOf_24 rfl ?_
  refine z_il2 (q := 26) C dX5_hashOf_25 rfl ?_
  refine z_bipush (q := 28) (v := nI 16) C dX5_hashOf_26 rfl (by decide) ?_
  refine z_idiv (q := 29) C dX5_hashOf_28 rfl (by decide) ?_
  rw [show (nI 16) = nI 16 from rfl]
  rw [pk_div (by omega) (by omega) (by omega)]
  refine z_ixor (q := 30) C dX5_hashOf_29 rfl ?_
  rw [nx_xor]
  refine z_iret C hQ dX5_hashOf_30 (Nat.le_refl _) (Nat.le_refl _) ?_
  exact ⟨rfl, rfl⟩
theorem ct_binOf {N : Nat} {c : Co} (τ : Tw) (hT : TC N (τ.2 0) c) (k : Nat) (hk : k ≤ 999999) : Ct (wT D o ad) yX5_binOf cX5_binOf 2 (some .int) [.ref o, .int (nI k)] τ (PE (some (.int (nI (k_b c k)))) τ) 1 0 0 := by
  refine Ct.of KTok (by decide) (Nat.le_of_ble_eq_true rfl) rfl fun Y C hQ hNm => ?_
  have hw := hT.w
  have hh := k_h_lt c k
  refine z_al0 (q := 1) C dX5_binOf_0 rfl ?_
  refine z_il1 (q := 2) C dX5_binOf_1 rfl ?_
  refine z_callVe (q := 5) C (ct_hashOf τ hT k hk) g_X5_54 rcT dX5_binOf_2 rfl rfl rfl (Nat.le_of_ble_eq_true rfl) (by first | decide | omega) (Nat.le_refl _) (Nat.le_refl _) ?_
  refine z_al0 (q := 6) C dX5_binOf_5 rfl ?_
  refine tg_7 (q := 9) C dX5_binOf_6 rfl ?_
  refine z_iconst (q := 10) (v := nI 1) C dX5_binOf_9 rfl (by decide) ?_
  refine ta_ld0 (q := 11) C dX5_binOf_10 rfl (by omega) ?_
  rw [hT.an (by omega) (by omega)]
  refine z_irem (q := 12) C dX5_binOf_11 rfl (fun z => nI_ne0 (by omega) (by omega) z) ?_
  rw [pk_rem (by omega) (by omega) (by omega)]
  refine z_iret C hQ dX5_binOf_12 (Nat.le_refl _) (Nat.le_refl _) ?_
  exact ⟨rfl, rfl⟩
theorem ct_isTree {N : Nat} {c : Co} (τ : Tw) (hT : TC N (τ.2 0) c) (b : Nat) (hb : b < 64) : Ct (wT D o ad) yX5_isTree cX5_isTree 2 (some .boolean) [.ref o, .int (nI b)] τ (PE (some (.int (bI (k_tr c b)))) τ) 0 0 0 := by
  refine Ct.of KTok (by decide) (Nat.le_of_ble_eq_true rfl) rfl fun Y C hQ hNm => ?_
  refine z_al0 (q := 1) C dX5_isTree_0 rfl ?_
  refine tg_7 (q := 4) C dX5_isTree_1 rfl ?_
  refine z_sipush (q := 7) (v := nI 154) C dX5_isTree_4 rfl (by decide) ?_
  refine z_il1 (q := 8) C dX5_isTree_7 rfl ?_
  first | refine z_iaddN (q := 9) C dX5_isTree_8 rfl ?_ | refine z_iadd (q := 9) C dX5_isTree_8 rfl ?_
  refine ta_ld0 (q := 10) C dX5_isTree_9 rfl (by omega) ?_
  rw [hT.tree hb]
  cases hz : k_tr c b with
  | true =>
    refine z_iconst (q := 11) (v := nI 1) C dX5_isTree_10 rfl (by decide) ?_
    refine z_icmp_ne (tgt := 18) (q := 14) C dX5_isTree_11 (by decide) rfl (fun c11 => ?_) (fun c11 => ?_)
    · exact absurd rfl c11
    · refine z_iconst (q := 15) (v := nI 1) C dX5_isTree_14 rfl (by decide) ?_
      refine z_goto (tgt := 19) C dX5_isTree_15 (by decide) ?_
      refine z_zret C hQ dX5_isTree_19 (Nat.le_refl _) (Nat.le_refl _) (by first | rfl | exact bI_nar _) ?_
      exact ⟨by rw [hz]; rfl, rfl⟩
  | false =>
    refine z_iconst (q := 11) (v := nI 1) C dX5_isTree_10 rfl (by decide) ?_
    refine z_icmp_ne (tgt := 18) (q := 14) C dX5_isTree_11 (by decide) rfl (fun c11 => ?_) (fun c11 => ?_)
    · refine z_iconst (q := 19) (v := nI 0) C dX5_isTree_18 rfl (by decide) ?_
      refine z_zret C hQ dX5_isTree_19 (Nat.le_refl _) (Nat.le_refl _) (by first | rfl | exact bI_nar _) ?_
      exact ⟨by rw [hz]; rfl, rfl⟩
    · exact absurd c11 (by decide)
theorem ct_manyIn {N : Nat} {c : Co} (τ : Tw) (hT : TC N (τ.2 0) c) (b : Nat) (hb : b < 2 ^ 31) : Ct (wT D o ad) yX5_manyIn cX5_manyIn 4 (some .int) [.ref o, .int (nI b)] τ (PE (some (.int (nI (k_mi c b)))) τ) 2 0 0 := by
  refine Ct.of KTok (by decide) (Nat.le_of_ble_eq_true rfl) rfl fun Y C hQ hNm => ?_
  have hl := hT.len
  have hw := hT.w
  refine z_iconst (q := 1) (v := nI 0) C dX5_manyIn_0 rfl (by decide) ?_
  refine z_is2 (q := 2) C dX5_manyIn_1 rfl (by first | exact loC_i | exact loC_r | exact loC_n | exact loC_q | exact loC_u) ?_
  refine z_iconst (q := 3) (v := nI 0) C dX5_manyIn_2 rfl (by decide) ?_
  refine z_is3 (q := 4) C dX5_manyIn_3 rfl (by first | exact loC_i | exact loC_r | exact loC_n | exact loC_q | exact loC_u) ?_
  have loop : ∀ m e, e + m = (k_es c).length → Zj (wT D o ad) Y τ 0 0 4 [some (.ref o), some (.int (nI b)), some (.int (nI (((k_es c).take e).countP (fun e => k_b c e.1 == b)))), some (.int (nI e))] [] := by
    intro m
    induction m with
    | zero =>
      intro e he
      have he : e = (k_es c).length := he
      subst he
      refine z_il3 (q := 5) C dX5_manyIn_4 rfl ?_
      refine z_al0 (q := 6) C dX5_manyIn_5 rfl ?_
      refine tg_7 (q := 9) C dX5_manyIn_6 rfl ?_
      refine z_iconst (q := 10) (v := nI 0) C dX5_manyIn_9 rfl (by decide) ?_
      refine ta_ld0 (q := 11) C dX5_manyIn_10 rfl (by omega) ?_
      rw [hT.a0]
      first | refine z_icmp_geN (tgt := 45) (q := 14) C dX5_manyIn_11 (by decide) rfl (by omega) (by omega) (fun c11 => ?_) (fun c11 => ?_) | refine z_icmp_ge (tgt := 45) (q := 14) C dX5_manyIn_11 (by decide) rfl (fun c11 => ?_) (fun c11 => ?_)
      · refine z_il2 (q := 46) C dX5_manyIn_45 rfl ?_
        refine z_iret C hQ dX5_manyIn_46 (Nat.le_refl _) (Nat.le_refl _) ?_
        refine ⟨?_, rfl⟩
        rw [k_mi_cnt hT.1, List.take_length]
      · exact absurd c11 (by omega)
    | succ m ih =>
      intro e he
      obtain ⟨x, hx⟩ := at_lt (show e < (k_es c).length by omega)
      have hk := hT.key hx
      have hkb := k_b_lt hT.1 x.1
      have ih := ih (e + 1) (by omega)
      rw [cnt_take _ _ hx] at ih
      refine z_il3 (q := 5) C dX5_manyIn_4 rfl ?_
      refine z_al0 (q := 6) C dX5_manyIn_5 rfl ?_
      refine tg_7 (q := 9) C dX5_manyIn_6 rfl ?_
      refine z_iconst (q := 10) (v := nI 0) C dX5_manyIn_9 rfl (by decide) ?_
      refine ta_ld0 (q := 11) C dX5_manyIn_10 rfl (by omega) ?_
      rw [hT.a0]
      first | refine z_icmp_geN (tgt := 45) (q := 14) C dX5_manyIn_11 (by decide) rfl (by omega) (by omega) (fun c11 => ?_) (fun c11 => ?_) | refine z_icmp_ge (tgt := 45) (q := 14) C dX5_manyIn_11 (by decide) rfl (fun c11 => ?_) (fun c11 => ?_)
      · exact absurd c11 (by omega)
      · refine z_il2 (q := 15) C dX5_manyIn_14 rfl ?_
        refine z_al0 (q := 16) C dX5_manyIn_15 rfl ?_
        refine z_al0 (q := 17) C dX5_manyIn_16 rfl ?_
        refine tg_7 (q := 20) C dX5_manyIn_17 rfl ?_
        refine z_bipush (q := 22) (v := nI 7) C dX5_manyIn_20 rfl (by decide) ?_
        refine z_il3 (q := 23) C dX5_manyIn_22 rfl ?_
        first | refine z_iaddN (q := 24) C dX5_manyIn_23 rfl ?_ | refine z_iadd (q := 24) C dX5_manyIn_23 rfl ?_
        refine ta_ld0 (q := 25) C dX5_manyIn_24 rfl (by omega) ?_
        rw [hk.1]
        refine z_callVe (q := 28) C (ct_binOf τ hT x.1 hk.2) g_X5_61 rcT dX5_manyIn_25 rfl rfl rfl (Nat.le_of_ble_eq_true rfl) (by first | decide | omega) (Nat.le_refl _) (Nat.le_refl _) ?_
        refine z_il1 (q := 29) C dX5_manyIn_28 rfl ?_
        first | refine z_icmp_neN (tgt := 36) (q := 32) C dX5_manyIn_29 (by decide) rfl (by omega) (by omega) (fun c29 => ?_) (fun c29 => ?_) | refine z_icmp_ne (tgt := 36) (q := 32) C dX5_manyIn_29 (by decide) rfl (fun c29 => ?_) (fun c29 => ?_)
        · refine z_iconst (q := 37) (v := nI 0) C dX5_manyIn_36 rfl (by decide) ?_
          first | refine z_iaddN (q := 38) C dX5_manyIn_37 rfl ?_ | refine z_iadd (q := 38) C dX5_manyIn_37 rfl ?_
          refine z_is2 (q := 39) C dX5_manyIn_38 rfl (by first | exact loC_i | exact loC_r | exact loC_n | exact loC_q | exact loC_u) ?_
          first | refine z_iinc3N (q := 42) C dX5_manyIn_39 rfl (by first | exact loC_i | exact loC_r | exact loC_n | exact loC_q | exact loC_u) ?_ | refine z_iinc3 (q := 42) C dX5_manyIn_39 rfl rfl (by first | exact loC_i | exact loC_r | exact loC_n | exact loC_q | exact loC_u) ?_
          refine z_goto (tgt := 4) C dX5_manyIn_42 (by decide) ?_
          first | (rw [if_neg (by simpa using c29)] at ih; exact ih) | (rw [if_pos (by simpa using c29)] at ih; exact ih)
        · refine z_iconst (q := 33) (v := nI 1) C dX5_manyIn_32 rfl (by decide) ?_
          refine z_goto (tgt := 37) C dX5_manyIn_33 (by decide) ?_
          first | refine z_iaddN (q := 38) C dX5_manyIn_37 rfl ?_ | refine z_iadd (q := 38) C dX5_manyIn_37 rfl ?_
          refine z_is2 (q := 39) C dX5_manyIn_38 rfl (by first | exact loC_i | exact loC_r | exact loC_n | exact loC_q | exact loC_u) ?_
          first | refine z_iinc3N (q := 42) C dX5_manyIn_39 rfl (by first | exact loC_i | exact loC_r | exact loC_n | exact loC_q | exact loC_u) ?_ | refine z_iinc3 (q := 42) C dX5_manyIn_39 rfl rfl (by first | exact loC_i | exact loC_r | exact loC_n | exact loC_q | exact loC_u) ?_
          refine z_goto (tgt := 4) C dX5_manyIn_42 (by decide) ?_
          first | (rw [if_neg (by simpa using c29)] at ih; exact ih) | (rw [if_pos (by simpa using c29)] at ih; exact ih)
  exact loop _ 0 (Nat.zero_add _)
theorem ct_isLast {N : Nat} {c : Co} (τ : Tw) (hT : TC N (τ.2 0) c) (e : Nat) (he : e < (k_es c).length) : Ct (wT D o ad) yX5_isLast cX5_isLast 2 (some .boolean) [.ref o, .int (nI e)] τ (PE (some (.int (bI (decide (e + 1 = (k_es c).length))))) τ) 0 0 0 := by
  refine Ct.of KTok (by decide) (Nat.le_of_ble_eq_true rfl) rfl fun Y C hQ hNm => ?_
  have hl := hT.len
  refine z_il1 (q := 1) C dX5_isLast_0 rfl ?_
  refine z_al0 (q := 2) C dX5_isLast_1 rfl ?_
  refine tg_7 (q := 5) C dX5_isLast_2 rfl ?_
  refine z_iconst (q := 6) (v := nI 0) C dX5_isLast_5 rfl (by decide) ?_
  refine ta_ld0 (q := 7) C dX5_isLast_6 rfl (by omega) ?_
  rw [hT.a0]
  refine z_iconst (q := 8) (v := nI 1) C dX5_isLast_7 rfl (by decide) ?_
  refine z_isubN (q := 9) C dX5_isLast_8 rfl (by omega) ?_
  first | refine z_icmp_neN (tgt := 16) (q := 12) C dX5_isLast_9 (by decide) rfl (by omega) (by omega) (fun c9 => ?_) (fun c9 => ?_) | refine z_icmp_ne (tgt := 16) (q := 12) C dX5_isLast_9 (by decide) rfl (fun c9 => ?_) (fun c9 => ?_)
  · refine z_iconst (q := 17) (v := nI 0) C dX5_isLast_16 rfl (by decide) ?_
    refine z_zret C hQ dX5_isLast_17 (Nat.le_refl _) (Nat.le_refl _) (by first | rfl | exact bI_nar _) ?_
    refine ⟨?_, rfl⟩
    first | (rw [decide_eq_true (by omega)]; rfl; done) | (rw [decide_eq_false (by omega)]; rfl)
  · refine z_iconst (q := 13) (v := nI 1) C dX5_isLast_12 rfl (by decide) ?_
    refine z_goto (tgt := 17) C dX5_isLast_13 (by decide) ?_
    refine z_zret C hQ dX5_isLast_17 (Nat.le_refl _) (Nat.le_refl _) (by first | rfl | exact bI_nar _) ?_
    refine ⟨?_, rfl⟩
    first | (rw [decide_eq_true (by omega)]; rfl; done) | (rw [decide_eq_false (by omega)]; rfl)
theorem ct_isFull {N : Nat} {c : Co} (τ : Tw) (hT : TC N (τ.2 0) c) : Ct (wT D o ad) yX5_isFull cX5_isFull 1 (some .boolean) [.ref o] τ (PE (some (.int (bI (decide ((k_es c).length = 48) && decide (k_n c 5 = 0))))) τ) 0 0 0 := by
  refine Ct.of KTok (by decide) (Nat.le_of_ble_eq_true rfl) rfl fun Y C hQ hNm => ?_
  have hl := hT.len
  have h5 : k_n c 5 ≤ 48 := hT.1.2.2.2.2.2.2.2.2.1
  have e5 : ∀ z : nI (k_n c 5) = 0, k_n c 5 = 0 := fun z => (nI_eq (by omega) (by omega)).mp (z.trans nI_0.symm)
  refine z_al0 (q := 1) C dX5_isFull_0 rfl ?_
  refine tg_7 (q := 4) C dX5_isFull_1 rfl ?_
  refine z_iconst (q := 5) (v := nI 0) C dX5_isFull_4 rfl (by decide) ?_
  skip
  refine ta_ld0 (q := 6) C dX5_isFull_5 rfl (by omega) ?_
  rw [hT.a0]
  refine z_bipush (q := 8) (v := nI 48) C dX5_isFull_6 rfl (by decide) ?_
  first | refine z_icmp_neN (tgt := 24) (q := 11) C dX5_isFull_8 (by decide) rfl (by omega) (by omega) (fun c8 => ?_) (fun c8 => ?_) | refine z_icmp_ne (tgt := 24) (q := 11) C dX5_isFull_8 (by decide) rfl (fun c8 => ?_) (fun c8 => ?_)
  · refine z_iconst (q := 25) (v := nI 0) C dX5_isFull_24 rfl (by decide) ?_
    refine z_zret C hQ dX5_isFull_25 (Nat.le_refl _) (Nat.le_refl _) (by first | rfl | exact bI_nar _) ?_
    refine ⟨?_, rfl⟩
    first | (rw [decide_eq_false c8]; rfl; done) | (rw [decide_eq_true c8, decide_eq_false (fun z => c17 (by rw [z]; rfl))]; rfl; done) | (rw [decide_eq_true c8, decide_eq_true (e5 c17)]; rfl)
  · refine z_al0 (q := 12) C dX5_isFull_11 rfl ?_
    refine tg_7 (q := 15) C dX5_isFull_12 rfl ?_
    refine z_iconst (q := 16) (v := nI 5) C dX5_isFull_15 rfl (by decide) ?_
    refine ta_ld0 (q := 17) C dX5_isFull_16 rfl (by omega) ?_
    rw [hT.an (by omega) (by omega)]
    first | refine z_if_neB (tgt := 24) (q := 20) C dX5_isFull_17 (by decide) rfl (fun c17 => ?_) (fun c17 => ?_) | refine z_if_ne (tgt := 24) (q := 20) C dX5_isFull_17 (by decide) rfl (fun c17 => ?_) (fun c17 => ?_)
    · refine z_iconst (q := 25) (v := nI 0) C dX5_isFull_24 rfl (by decide) ?_
      refine z_zret C hQ dX5_isFull_25 (Nat.le_refl _) (Nat.le_refl _) (by first | rfl | exact bI_nar _) ?_
      refine ⟨?_, rfl⟩
      first | (rw [decide_eq_false c8]; rfl; done) | (rw [decide_eq_true c8, decide_eq_false (fun z => c17 (by rw [z]; rfl))]; rfl; done) | (rw [decide_eq_true c8, decide_eq_true (e5 c17)]; rfl)
    · refine z_iconst (q := 21) (v := nI 1) C dX5_isFull_20 rfl (by decide) ?_
      refine z_goto (tgt := 25) C dX5_isFull_21 (by decide) ?_
      refine z_zret C hQ dX5_isFull_25 (Nat.le_refl _) (Nat.le_refl _) (by first | rfl | exact bI_nar _) ?_
      refine ⟨?_, rfl⟩
      first | (rw [decide_eq_false c8]; rfl; done) | (rw [decide_eq_true c8, decide_eq_false (fun z => c17 (by rw [z]; rfl))]; rfl; done) | (rw [decide_eq_true c8, decide_eq_true (e5 c17)]; rfl)
theorem ct_priority (τ : Tw) (k : Nat) (hk : k ≤ 999999) : Ct (wT D o ad) yX5_priority cX5_priority 1 (some .int) [.int (nI k)] τ (PE (some (.int (nI (prio k)))) τ) 0 0 0 := by
  refine Ct.of KTok (by decide) (Nat.le_of_ble_eq_true rfl) rfl fun Y C hQ hNm => ?_
  refine z_il0 (q := 1) C dX5_priority_0 rfl ?_
  refine z_i2l (q := 2) C dX5_priority_1 rfl ?_
  refine z_ldc2 (q := 5) C dX5_priority_2 rfl q1052 ?_
  refine z_lmul (q := 6) C dX5_priority_5 rfl ?_
  refine z_ldc2 (q := 9) C dX5_priority_6 rfl q1053 ?_
  refine z_ladd (q := 10) C dX5_priority_9 rfl ?_
  refine z_ldc2 (q := 13) C dX5_priority_10 rfl q940 ?_
  refine z_lrem (q := 14) C dX5_priority_13 rfl (by decide) ?_
  rw [nI_l (by omega), show (40503 : Int64) = lN 40503 from rfl, show (12345 : Int64) = lN 12345 from rfl, lN_mul, lN_add, show (65536 : Int64) = lN 65536 from rfl, pk_lRem (by omega) (by omega) (by omega)]
  refine z_l2i (q := 15) C dX5_priority_14 rfl ?_
  rw [lN_i]
  refine z_iret C hQ dX5_priority_15 (Nat.le_refl _) (Nat.le_refl _) ?_
  exact ⟨rfl, rfl⟩
theorem ct_isAhead {N : Nat} {c : Co} (τ : Tw) (hT : TC N (τ.2 0) c) (x y : Nat) (hx : x ≤ 999999) (hy : y ≤ 999999) : Ct (wT D o ad) yX5_isAhead cX5_isAhead 5 (some .boolean) [.ref o, .int (nI x), .int (nI y)] τ (PE (some (.int (bI (ahd c x y)))) τ) 1 0 0 := by
  refine Ct.of KTok (by decide) (Nat.le_of_ble_eq_true rfl) rfl fun Y C hQ hNm => ?_
  have h1 := k_h_lt c x
  have h2 := k_h_lt c y
  refine z_al0 (q := 1) C dX5_isAhead_0 rfl ?_
  refine z_il1 (q := 2) C dX5_isAhead_1 rfl ?_
  refine z_callVe (q := 5) C (ct_hashOf τ hT x hx) g_X5_54 rcT dX5_isAhead_2 rfl rfl rfl (Nat.le_of_ble_eq_true rfl) (by first | decide | omega) (Nat.le_refl _) (Nat.le_refl _) ?_
  refine z_is3 (q := 6) C dX5_isAhead_5 rfl (by first | exact loC_i | exact loC_r | exact loC_n | exact loC_q | exact loC_u) ?_
  refine z_al0 (q := 7) C dX5_isAhead_6 rfl ?_
  refine z_il2 (q := 8) C dX5_isAhead_7 rfl ?_
  refine z_callVe (q := 11) C (ct_hashOf τ hT y hy) g_X5_54 rcT dX5_isAhead_8 rfl rfl rfl (Nat.le_of_ble_eq_true rfl) (by first | decide | omega) (Nat.le_refl _) (Nat.le_refl _) ?_
  refine z_is4 (q := 13) C dX5_isAhead_11 rfl (by first | exact loC_i | exact loC_r | exact loC_n | exact loC_q | exact loC_u) ?_
  refine z_il3 (q := 14) C dX5_isAhead_13 rfl ?_
  refine z_il4 (q := 16) C dX5_isAhead_14 rfl ?_
  first | refine z_icmp_ltN (tgt := 30) (q := 19) C dX5_isAhead_16 (by decide) rfl (by omega) (by omega) (fun c16 => ?_) (fun c16 => ?_) | refine z_icmp_lt (tgt := 30) (q := 19) C dX5_isAhead_16 (by decide) rfl (fun c16 => ?_) (fun c16 => ?_)
  · refine z_iconst (q := 31) (v := nI 1) C dX5_isAhead_30 rfl (by decide) ?_
    refine z_goto (tgt := 35) C dX5_isAhead_31 (by decide) ?_
    refine z_zret C hQ dX5_isAhead_35 (Nat.le_refl _) (Nat.le_refl _) (by first | rfl | exact bI_nar _) ?_
    refine ⟨?_, rfl⟩
    unfold ahd
    first | (rw [decide_eq_true c16]; rfl; done) | (rw [decide_eq_false (by omega), decide_eq_false c22]; rfl; done) | (rw [decide_eq_false (by omega), decide_eq_true c22, decide_eq_false (by omega)]; rfl; done) | (rw [decide_eq_false (by omega), decide_eq_true c22, decide_eq_true c27]; rfl)
  · refine z_il3 (q := 20) C dX5_isAhead_19 rfl ?_
    refine z_il4 (q := 22) C dX5_isAhead_20 rfl ?_
    first | refine z_icmp_neN (tgt := 34) (q := 25) C dX5_isAhead_22 (by decide) rfl (by omega) (by omega) (fun c22 => ?_) (fun c22 => ?_) | refine z_icmp_ne (tgt := 34) (q := 25) C dX5_isAhead_22 (by decide) rfl (fun c22 => ?_) (fun c22 => ?_)
    · refine z_iconst (q := 35) (v := nI 0) C dX5_isAhead_34 rfl (by decide) ?_
      refine z_zret C hQ dX5_isAhead_35 (Nat.le_refl _) (Nat.le_refl _) (by first | rfl | exact bI_nar _) ?_
      refine ⟨?_, rfl⟩
      unfold ahd
      first | (rw [decide_eq_true c16]; rfl; done) | (rw [decide_eq_false (by omega), decide_eq_false c22]; rfl; done) | (rw [decide_eq_false (by omega), decide_eq_true c22, decide_eq_false (by omega)]; rfl; done) | (rw [decide_eq_false (by omega), decide_eq_true c22, decide_eq_true c27]; rfl)
    · refine z_il1 (q := 26) C dX5_isAhead_25 rfl ?_
      refine z_il2 (q := 27) C dX5_isAhead_26 rfl ?_
      first | refine z_icmp_geN (tgt := 34) (q := 30) C dX5_isAhead_27 (by decide) rfl (by omega) (by omega) (fun c27 => ?_) (fun c27 => ?_) | refine z_icmp_ge (tgt := 34) (q := 30) C dX5_isAhead_27 (by decide) rfl (fun c27 => ?_) (fun c27 => ?_)
      · refine z_iconst (q := 35) (v := nI 0) C dX5_isAhead_34 rfl (by decide) ?_
        refine z_zret C hQ dX5_isAhead_35 (Nat.le_refl _) (Nat.le_refl _) (by first | rfl | exact bI_nar _) ?_
        refine ⟨?_, rfl⟩
        unfold ahd
        first | (rw [decide_eq_true c16]; rfl; done) | (rw [decide_eq_false (by omega), decide_eq_false c22]; rfl; done) | (rw [decide_eq_false (by omega), decide_eq_true c22, decide_eq_false (by omega)]; rfl; done) | (rw [decide_eq_false (by omega), decide_eq_true c22, decide_eq_true c27]; rfl)
      · refine z_iconst (q := 31) (v := nI 1) C dX5_isAhead_30 rfl (by decide) ?_
        refine z_goto (tgt := 35) C dX5_isAhead_31 (by decide) ?_
        refine z_zret C hQ dX5_isAhead_35 (Nat.le_refl _) (Nat.le_refl _) (by first | rfl | exact bI_nar _) ?_
        refine ⟨?_, rfl⟩
        unfold ahd
        first | (rw [decide_eq_true c16]; rfl; done) | (rw [decide_eq_false (by omega), decide_eq_false c22]; rfl; done) | (rw [decide_eq_false (by omega), decide_eq_true c22, decide_eq_false (by omega)]; rfl; done) | (rw [decide_eq_false (by omega), decide_eq_true c22, decide_eq_true c27]; rfl)
end T21
