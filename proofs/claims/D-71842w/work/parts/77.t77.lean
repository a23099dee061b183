/-! THE CLASS: steps, bin, row, count -/
set_option maxRecDepth 10000
section T77
variable {D : Dx} {ad p : Nat → Nat} {σ : Sg} {α : Al} {N : Nat} {d : Nat} {o bs : Nat} {B : Nat → Nat} {c : Co}
theorem row49 (hI : CI c) (b : Nat) : (k_row c b).length ≤ 49 := Nat.le_trans (k_mi_le hI b) hI.2.2.2.1
theorem RW.t3 {hs : Nat → Nat} {b : Nat} {L : List Nat} {t : Bool} (hw : RW ad hs σ b L t) (h3 : kd σ b = 3) : t = false := by
  have := hw.1
  cases t
  · rfl
  · rw [h3] at this; cases this
theorem RW.t4 {hs : Nat → Nat} {b : Nat} {L : List Nat} {t : Bool} (hw : RW ad hs σ b L t) (h4 : kd σ b = 4) : t = true := by
  have := hw.1
  cases t
  · rw [h4] at this; cases this
  · rfl
theorem cx_stp3 (hX : XB ad o bs σ B c) (hI : CI c) {k : Nat} (hk : k ≤ 999999) (h3 : kd σ (B (k_b c k)) = 3) : Ct (wX D) yX4_steps cX4_steps 5 (some .int) [.ref (B (k_b c k)), .int (nI (k_h c k)), .int (nI k)] σ (PE (some (.int (nI (k_steps c k)))) σ) (d + 1) 0 0 := by
  have hw := (hX.2.1.1 _ (k_b_lt hI k)).2.2
  have := cx_steps3 (D := D) (d := d) (y := nI (k_h c k)) hw (hX.row _) hk (row49 hI _) h3
  unfold k_steps
  rw [if_neg (by rw [hw.t3 h3]; decide)]
  exact this
theorem cx_stp4 (hX : XB ad o bs σ B c) (hI : CI c) {k : Nat} (hk : k ≤ 999999) (h4 : kd σ (B (k_b c k)) = 4) : Ct (wX D) yX8_steps cX8_steps 5 (some .int) [.ref (B (k_b c k)), .int (nI (k_h c k)), .int (nI k)] σ (PE (some (.int (nI (k_steps c k)))) σ) (d + 1) 0 0 := by
  have hw := (hX.2.1.1 _ (k_b_lt hI k)).2.2
  have := cx_steps4 (D := D) (d := d) hI hw (hX.row _) hk h4
  unfold k_steps
  rw [if_pos (hw.t4 h4)]
  exact this
theorem cx_lev3 (hX : XB ad o bs σ B c) {b : Nat} (hb : b < k_n c 1) (h3 : kd σ (B b) = 3) : Ct (wX D) yX3_levels cX3_levels 1 (some .int) [.ref (B b)] σ (PE (some (.int (nI (k_lev c b)))) σ) d 0 0 := by
  have hw := (hX.2.1.1 _ hb).2.2
  unfold k_lev
  rw [if_neg (by rw [hw.t3 h3]; decide)]
  exact cx_levelsB
theorem cx_lev4 (hX : XB ad o bs σ B c) (hI : CI c) {b : Nat} (hb : b < k_n c 1) (h4 : kd σ (B b) = 4) : Ct (wX D) yX8_levels cX8_levels 1 (some .int) [.ref (B b)] σ (PE (some (.int (nI (k_lev c b)))) σ) 60 0 0 := by
  have hw := (hX.2.1.1 _ hb).2.2
  unfold k_lev
  rw [if_pos (hw.t4 h4)]
  exact cx_levels4 hI hw (hX.row _) h4
theorem cx_rt3 (hX : XB ad o bs σ B c) {b : Nat} (hb : b < k_n c 1) (h3 : kd σ (B b) = 3) : Ct (wX D) yX3_root cX3_root 1 (some (.object "CrowdedBins$Entry")) [.ref (B b)] σ (PE (some (va_rf ((k_root c b).map ad))) σ) d 0 0 := by
  have hw := (hX.2.1.1 _ hb).2.2
  unfold k_root
  rw [if_neg (by rw [hw.t3 h3]; decide)]
  exact cx_rootB
theorem cx_rt4 (hX : XB ad o bs σ B c) (hI : CI c) {b : Nat} (hb : b < k_n c 1) (h4 : kd σ (B b) = 4) : Ct (wX D) yX8_root cX8_root 1 (some (.object "CrowdedBins$Entry")) [.ref (B b)] σ (PE (some (va_rf ((k_root c b).map ad))) σ) d 0 0 := by
  have hw := (hX.2.1.1 _ hb).2.2
  have ht := hw.t4 h4
  have := cx_rootT (D := D) (d := d) h4
  rw [ht] at hw
  rw [(hw.ti hI).root] at this
  unfold k_root
  rw [if_pos ht, Option.map_map]
  exact this
theorem root_mem (hI : CI c) {b k : Nat} (h : k_root c b = some k) : k ∈ k_cs c := by
  unfold k_root at h
  split at h
  · cases e : k_rt (k_srt c b) 0 (k_srt c b).length with
    | none => rw [e] at h; cases h
    | some r =>
      rw [e] at h
      have := k_rt_in e
      cases h
      exact (k_b_row ((k_srt_perm hI b).mem_iff.mp (getD_mem this.2))).1
  · cases h
theorem cx_steps (h : XA false D p σ α) (hA : AI N α) (k : Int32) : Ct (wX D) yX0_steps cX0_steps 2 (some .int) [.ref (p 0), .int k] σ (PI (fun r σ' => r = (a_steps α k).1 ∧ XA false D p σ' (a_steps α k).2)) 64 300 1500 := by
  obtain ⟨ad, B, hX, hq, hC, hU, hP, h9, hR⟩ := h.num
  have ho := hX.1.1
  obtain ⟨r16, k5, l5⟩ := hX.2.2.2.2.1
  have hI := hA.1
  refine Ct.of KXok (by decide) (Nat.le_of_ble_eq_true rfl) rfl fun Y C hQ hNm => ?_
  cases hi : isK k with
  | false =>
    have e1 : a_steps α k = (-2, a_rfs α 0) := if_neg (by rw [hi]; decide)
    rw [e1] at hQ
    have hb := h.rfs hA (i := 0) (by decide)
    refine z_il1 (q := 1) C dX0_steps_0 rfl ?_
    refine xc_X0_220 (q := 4) C (cx_isKey (d := 0) σ k) dX0_steps_1 rfl rfl rfl (Nat.le_of_ble_eq_true rfl) (by first | decide | omega) (by omega) (by omega) (kkE ?_)
    first | refine z_if_eqB (tgt := 24) (q := 7) C dX0_steps_4 (by decide) rfl (fun c4 => ?_) (fun c4 => ?_) | refine z_if_eq (tgt := 24) (q := 7) C dX0_steps_4 (by decide) rfl (fun c4 => ?_) (fun c4 => ?_)
    · first | refine z_al0 (q := 25) C dX0_steps_24 rfl ?_ | refine z_al0q (q := 25) C dX0_steps_24 rfl ?_ | refine z_al0u (q := 25) C dX0_steps_24 rfl ?_
      refine xc_X0_227 (q := 28) C (cx_bad (d := 0) ho r16 k5 l5) (by first | exact ho | exact hk | exact hb | exact he | assumption | exact Or.inl (by assumption) | exact Or.inr (by assumption)) dX0_steps_25 rfl rfl rfl (Nat.le_of_ble_eq_true rfl) (by first | decide | omega) (by omega) (by omega) (kkE ?_)
      refine z_iret C hQ dX0_steps_28 (by omega) (by omega) ?_
      exact ⟨_, rfl, rfl, hb⟩
    · exact absurd hi (by rw [show isK k = true from c4]; decide)
  | true =>
    obtain ⟨ek, hk⟩ := isK_of hi
    have e0 : a_steps α k = (nI (k_steps (a_c α) (kN k)), α) := if_pos hi
    rw [e0] at hQ
    generalize kN k = kn at *
    subst ek
    have hk34 := (hC.2.1.2.1.1 _ (k_b_lt hI kn)).2.2.k34
    refine z_il1 (q := 1) C dX0_steps_0 rfl ?_
    refine xc_X0_220 (q := 4) C (cx_isKey (d := 0) σ _) dX0_steps_1 rfl rfl rfl (Nat.le_of_ble_eq_true rfl) (by first | decide | omega) (by omega) (by omega) (kkE ?_)
    first | refine z_if_eqB (tgt := 24) (q := 7) C dX0_steps_4 (by decide) rfl (fun c4 => ?_) (fun c4 => ?_) | refine z_if_eq (tgt := 24) (q := 7) C dX0_steps_4 (by decide) rfl (fun c4 => ?_) (fun c4 => ?_)
    · exact absurd hi (by rw [show isK (nI kn) = false from c4]; decide)
    · first | refine z_al0 (q := 8) C dX0_steps_7 rfl ?_ | refine z_al0q (q := 8) C dX0_steps_7 rfl ?_ | refine z_al0u (q := 8) C dX0_steps_7 rfl ?_
      refine z_il1 (q := 9) C dX0_steps_8 rfl ?_
      refine xc_X0_80 (q := 12) C (cx_binWith (d := 0) hX.1 hC.2.1 hI hk) (by first | exact ho | exact hk | exact hb | exact he | assumption | exact Or.inl (by assumption) | exact Or.inr (by assumption)) dX0_steps_9 rfl rfl rfl (Nat.le_of_ble_eq_true rfl) (by first | decide | omega) (by omega) (by omega) (kkE ?_)
      first | refine z_al0 (q := 13) C dX0_steps_12 rfl ?_ | refine z_al0q (q := 13) C dX0_steps_12 rfl ?_ | refine z_al0u (q := 13) C dX0_steps_12 rfl ?_
      refine z_il1 (q := 14) C dX0_steps_13 rfl ?_
      refine xc_X0_73 (q := 17) C (cx_hashOf (d := 0) ho hC.2.1.2.2.2.2.1 hC.2.1.2.2.2.2.2 hI.2.2.2.2.2.1 hI.2.2.2.2.2.2.1 kn hk) (by first | exact ho | exact hk | exact hb | exact he | assumption | exact Or.inl (by assumption) | exact Or.inr (by assumption)) dX0_steps_14 rfl rfl rfl (Nat.le_of_ble_eq_true rfl) (by first | decide | omega) (by omega) (by omega) (kkE ?_)
      refine z_il1 (q := 18) C dX0_steps_17 rfl ?_
      refine xc_X0_255 (q := 21) C (fun h => cx_stp3 (d := 0) hC.2.1 hI hk h) (fun h => cx_stp4 (d := 0) hC.2.1 hI hk h) (by exact hk34) dX0_steps_18 rfl rfl rfl (Nat.le_of_ble_eq_true rfl) (by first | decide | omega) (by omega) (by omega) (kkE ?_)
      refine z_goto (tgt := 28) C dX0_steps_21 (by decide) ?_
      refine z_iret C hQ dX0_steps_28 (by omega) (by omega) ?_
      exact ⟨_, rfl, rfl, h⟩
theorem cx_about (hM : MO o bs σ) (hX : XB ad o bs σ B c) (hI : CI c) {b w : Nat} (hb : b < k_n c 1) (hw3 : w ≤ 3) : Ct (wX D) yX0_about cX0_about 3 (some .int) [.ref o, .ref (B b), .int (nI w)] σ (PE (some (.int (k_bf c b w))) σ) 61 0 0 := by
  have hw := (hX.2.1.1 _ hb).2.2
  have hk34 := hw.k34
  have h42 := hw.2.1
  refine Ct.of KXok (by decide) (Nat.le_of_ble_eq_true rfl) rfl fun Y C hQ hNm => ?_
  rcases (show w = 0 ∨ w = 1 ∨ w = 2 ∨ w = 3 by omega) with rfl | rfl | rfl | rfl
  · refine z_il2 (q := 1) C dX0_about_0 rfl ?_
    refine z_tswI (tgt := 28) C dX0_about_1 (by decide) (by decide) rfl (by decide) ?_
    first | refine z_al1 (q := 29) C dX0_about_28 rfl ?_ | refine z_al1q (q := 29) C dX0_about_28 rfl ?_ | refine z_al1u (q := 29) C dX0_about_28 rfl ?_
    refine xc_X0_124 (q := 32) C (fun _ => cx_size (d := 0) hk34) (fun _ => cx_size (d := 0) hk34) (by exact hk34) dX0_about_29 rfl rfl rfl (Nat.le_of_ble_eq_true rfl) (by first | decide | omega) (by omega) (by omega) (kkE ?_)
    rw [h42]
    refine z_iret C hQ dX0_about_32 (by omega) (by omega) ?_
    exact ⟨rfl, rfl⟩
  · have hk := hw.1
    have hbf : k_bf c b 1 = bI (k_tr c b) := rfl
    rw [hbf] at hQ
    cases ht : k_tr c b with
    | true =>
      rw [ht] at hQ hk
      refine z_il2 (q := 1) C dX0_about_0 rfl ?_
      refine z_tswI (tgt := 33) C dX0_about_1 (by decide) (by decide) rfl (by decide) ?_
      first | refine z_al1 (q := 34) C dX0_about_33 rfl ?_ | refine z_al1q (q := 34) C dX0_about_33 rfl ?_ | refine z_al1u (q := 34) C dX0_about_33 rfl ?_
      refine x_isT (q := 37) C (t := true) hk q343 dX0_about_34 rfl ?_
      first | refine z_if_eqB (tgt := 44) (q := 40) C dX0_about_37 (by decide) rfl (fun c37 => ?_) (fun c37 => ?_) | refine z_if_eq (tgt := 44) (q := 40) C dX0_about_37 (by decide) rfl (fun c37 => ?_) (fun c37 => ?_)
      · cases c37
      · refine z_iconst (q := 41) (v := nI 1) C dX0_about_40 rfl (by decide) ?_
        refine z_goto (tgt := 45) C dX0_about_41 (by decide) ?_
        refine z_iret C hQ dX0_about_45 (by omega) (by omega) ?_
        exact ⟨rfl, rfl⟩
    | false =>
      rw [ht] at hQ hk
      refine z_il2 (q := 1) C dX0_about_0 rfl ?_
      refine z_tswI (tgt := 33) C dX0_about_1 (by decide) (by decide) rfl (by decide) ?_
      first | refine z_al1 (q := 34) C dX0_about_33 rfl ?_ | refine z_al1q (q := 34) C dX0_about_33 rfl ?_ | refine z_al1u (q := 34) C dX0_about_33 rfl ?_
      refine x_isT (q := 37) C (t := false) hk q343 dX0_about_34 rfl ?_
      first | refine z_if_eqB (tgt := 44) (q := 40) C dX0_about_37 (by decide) rfl (fun c37 => ?_) (fun c37 => ?_) | refine z_if_eq (tgt := 44) (q := 40) C dX0_about_37 (by decide) rfl (fun c37 => ?_) (fun c37 => ?_)
      · refine z_iconst (q := 45) (v := nI 0) C dX0_about_44 rfl (by decide) ?_
        refine z_iret C hQ dX0_about_45 (by omega) (by omega) ?_
        exact ⟨rfl, rfl⟩
      · cases c37
  · have hbf : k_bf c b 2 = oI (k_root c b) := rfl
    rw [hbf] at hQ
    have c3 : kd σ (B b) = 3 → _ := fun h => cx_rt3 (D := D) (d := 0) hX hb h
    have c4 : kd σ (B b) = 4 → _ := fun h => cx_rt4 (D := D) (d := 0) hX hI hb h
    cases hr : k_root c b with
    | none =>
      rw [hr] at hQ c3 c4
      refine z_il2 (q := 1) C dX0_about_0 rfl ?_
      refine z_tswI (tgt := 46) C dX0_about_1 (by decide) (by decide) rfl (by decide) ?_
      first | refine z_al1 (q := 47) C dX0_about_46 rfl ?_ | refine z_al1q (q := 47) C dX0_about_46 rfl ?_ | refine z_al1u (q := 47) C dX0_about_46 rfl ?_
      refine xc_X0_258 (q := 50) C c3 c4 (by exact hk34) dX0_about_47 rfl rfl rfl (Nat.le_of_ble_eq_true rfl) (by first | decide | omega) (by omega) (by omega) (kkE ?_)
      show Zj _ _ _ _ _ _ _ [Value.null]
      refine z_ifnonnull_u (q := 53) C dX0_about_50 rfl ?_
      refine z_iconst (q := 54) (v := -1) C dX0_about_53 rfl (by decide) ?_
      refine z_goto (tgt := 64) C dX0_about_54 (by decide) ?_
      refine z_iret C hQ dX0_about_64 (by omega) (by omega) ?_
      exact ⟨rfl, rfl⟩
    | some k =>
      rw [hr] at hQ c3 c4
      obtain ⟨hkd, e20, -⟩ := hX.1 k (root_mem hI hr)
      refine z_il2 (q := 1) C dX0_about_0 rfl ?_
      refine z_tswI (tgt := 46) C dX0_about_1 (by decide) (by decide) rfl (by decide) ?_
      first | refine z_al1 (q := 47) C dX0_about_46 rfl ?_ | refine z_al1q (q := 47) C dX0_about_46 rfl ?_ | refine z_al1u (q := 47) C dX0_about_46 rfl ?_
      refine xc_X0_258 (q := 50) C c3 c4 (by exact hk34) dX0_about_47 rfl rfl rfl (Nat.le_of_ble_eq_true rfl) (by first | decide | omega) (by omega) (by omega) (kkE ?_)
      show Zj _ _ _ _ _ _ _ [Value.ref (ad k)]
      refine z_ifnonnull_r (tgt := 57) C dX0_about_50 (by decide) ?_
      first | refine z_al1 (q := 58) C dX0_about_57 rfl ?_ | refine z_al1q (q := 58) C dX0_about_57 rfl ?_ | refine z_al1u (q := 58) C dX0_about_57 rfl ?_
      refine xc_X0_258 (q := 61) C c3 c4 (by exact hk34) dX0_about_58 rfl rfl rfl (Nat.le_of_ble_eq_true rfl) (by first | decide | omega) (by omega) (by omega) (kkE ?_)
      show Zj _ _ _ _ _ _ _ [Value.ref (ad k)]
      refine xg_X0_120 (q := 64) C (by exact hkd) dX0_about_61 rfl ?_
      rw [e20]
      refine z_iret C hQ dX0_about_64 (by omega) (by omega) ?_
      exact ⟨rfl, rfl⟩
  · have hbf : k_bf c b 3 = nI (k_lev c b) := rfl
    rw [hbf] at hQ
    refine z_il2 (q := 1) C dX0_about_0 rfl ?_
    refine z_tswO (tgt := 65) C dX0_about_1 (by decide) (by decide) ?_
    first | refine z_al1 (q := 66) C dX0_about_65 rfl ?_ | refine z_al1q (q := 66) C dX0_about_65 rfl ?_ | refine z_al1u (q := 66) C dX0_about_65 rfl ?_
    refine xc_X0_261 (q := 69) C (fun h => cx_lev3 (d := 60) hX hb h) (fun h => cx_lev4 hX hI hb h) (by exact hk34) dX0_about_66 rfl rfl rfl (Nat.le_of_ble_eq_true rfl) (by first | decide | omega) (by omega) (by omega) (kkE ?_)
    refine z_iret C hQ dX0_about_69 (by omega) (by omega) ?_
    exact ⟨rfl, rfl⟩
theorem cx_isBin (ho : kd σ o = 1) (hX : XB ad o bs σ B c) (hI : CI c) (b : Int32) : Ct (wX D) yX0_isBin cX0_isBin 2 (some .boolean) [.ref o, .int b] σ (PE (some (.int (bI (inB b (nI 0) (nI (k_n c 1 - 1)))))) σ) (d + 1) 0 0 := by
  have e1 := hX.2.2.2.1
  have hw := hI.w
  refine Ct.of KXok (by decide) (Nat.le_of_ble_eq_true rfl) rfl fun Y C hQ hNm => ?_
  refine z_il1 (q := 1) C dX0_isBin_0 rfl ?_
  refine z_i2l (q := 2) C dX0_isBin_1 rfl ?_
  refine z_lconst (q := 3) (v := 0) C dX0_isBin_2 rfl rfl ?_
  first | refine z_al0 (q := 4) C dX0_isBin_3 rfl ?_ | refine z_al0q (q := 4) C dX0_isBin_3 rfl ?_ | refine z_al0u (q := 4) C dX0_isBin_3 rfl ?_
  refine xg_X0_62 (q := 7) C (by first | exact ho | exact hk | exact hb | exact he | assumption) dX0_isBin_4 rfl ?_
  rw [e1]
  refine z_iconst (q := 8) (v := nI 1) C dX0_isBin_7 rfl (by decide) ?_
  refine z_isubN (q := 9) C dX0_isBin_8 rfl (by omega) ?_
  refine z_i2l (q := 10) C dX0_isBin_9 rfl ?_
  refine xc_X0_214 (q := 13) C (cx_inB (d := d) σ b (nI 0) (nI (k_n c 1 - 1))) dX0_isBin_10 rfl rfl rfl (Nat.le_of_ble_eq_true rfl) (by first | decide | omega) (by omega) (by omega) (kkE ?_)
  refine z_zret C hQ dX0_isBin_13 (by omega) (by omega) (by first | rfl | exact bI_nar _) ?_
  exact ⟨rfl, rfl⟩
theorem cx_bin (h : XA false D p σ α) (hA : AI N α) (b w : Int32) : Ct (wX D) yX0_bin cX0_bin 3 (some .int) [.ref (p 0), .int b, .int w] σ (PI (fun r σ' => r = (a_bin α b w).1 ∧ XA false D p σ' (a_bin α b w).2)) 64 300 1500 := by
  obtain ⟨ad, B, hX, hq, hC, hU, hP, h9, hR⟩ := h.num
  obtain ⟨ho, h0, hbk, hln⟩ := hX.1
  obtain ⟨r16, k5, l5⟩ := hX.2.2.2.2.1
  have hI := hA.1
  have hw8 := hI.w
  refine Ct.of KXok (by decide) (Nat.le_of_ble_eq_true rfl) rfl fun Y C hQ hNm => ?_
  cases hi : (inB b (nI 0) (nI (k_n (a_c α) 1 - 1)) && inB w (nI 0) (nI 3)) with
  | false =>
    have e1 : a_bin α b w = (-2, a_rfs α 0) := if_neg (by rw [hi]; decide)
    rw [e1] at hQ
    have hb := h.rfs hA (i := 0) (by decide)
    first | refine z_al0 (q := 1) C dX0_bin_0 rfl ?_ | refine z_al0q (q := 1) C dX0_bin_0 rfl ?_ | refine z_al0u (q := 1) C dX0_bin_0 rfl ?_
    refine z_il1 (q := 2) C dX0_bin_1 rfl ?_
    refine xc_X0_264 (q := 5) C (cx_isBin (d := 0) ho hC.2.1 hI b) (by first | exact ho | exact hk | exact hb | exact he | assumption | exact Or.inl (by assumption) | exact Or.inr (by assumption)) dX0_bin_2 rfl rfl rfl (Nat.le_of_ble_eq_true rfl) (by first | decide | omega) (by omega) (by omega) (kkE ?_)
    first | refine z_if_eqB (tgt := 34) (q := 8) C dX0_bin_5 (by decide) rfl (fun c5 => ?_) (fun c5 => ?_) | refine z_if_eq (tgt := 34) (q := 8) C dX0_bin_5 (by decide) rfl (fun c5 => ?_) (fun c5 => ?_)
    · first | refine z_al0 (q := 35) C dX0_bin_34 rfl ?_ | refine z_al0q (q := 35) C dX0_bin_34 rfl ?_ | refine z_al0u (q := 35) C dX0_bin_34 rfl ?_
      refine xc_X0_227 (q := 38) C (cx_bad (d := 0) ho r16 k5 l5) (by first | exact ho | exact hk | exact hb | exact he | assumption | exact Or.inl (by assumption) | exact Or.inr (by assumption)) dX0_bin_35 rfl rfl rfl (Nat.le_of_ble_eq_true rfl) (by first | decide | omega) (by omega) (by omega) (kkE ?_)
      refine z_iret C hQ dX0_bin_38 (by omega) (by omega) ?_
      exact ⟨_, rfl, rfl, hb⟩
    · refine z_il2 (q := 9) C dX0_bin_8 rfl ?_
      refine z_i2l (q := 10) C dX0_bin_9 rfl ?_
      refine z_lconst (q := 11) (v := 0) C dX0_bin_10 rfl rfl ?_
      refine z_ldc2 (q := 14) C dX0_bin_11 rfl q558 ?_
      refine xc_X0_214 (q := 17) C (cx_inB (d := 0) σ w (nI 0) (nI 3)) dX0_bin_14 rfl rfl rfl (Nat.le_of_ble_eq_true rfl) (by first | decide | omega) (by omega) (by omega) (kkE ?_)
      first | refine z_if_eqB (tgt := 34) (q := 20) C dX0_bin_17 (by decide) rfl (fun c17 => ?_) (fun c17 => ?_) | refine z_if_eq (tgt := 34) (q := 20) C dX0_bin_17 (by decide) rfl (fun c17 => ?_) (fun c17 => ?_)
      · first | refine z_al0 (q := 35) C dX0_bin_34 rfl ?_ | refine z_al0q (q := 35) C dX0_bin_34 rfl ?_ | refine z_al0u (q := 35) C dX0_bin_34 rfl ?_
        refine xc_X0_227 (q := 38) C (cx_bad (d := 0) ho r16 k5 l5) (by first | exact ho | exact hk | exact hb | exact he | assumption | exact Or.inl (by assumption) | exact Or.inr (by assumption)) dX0_bin_35 rfl rfl rfl (Nat.le_of_ble_eq_true rfl) (by first | decide | omega) (by omega) (by omega) (kkE ?_)
        refine z_iret C hQ dX0_bin_38 (by omega) (by omega) ?_
        exact ⟨_, rfl, rfl, hb⟩
      · rw [c5, c17] at hi; cases hi
  | true =>
    obtain ⟨g1, g2⟩ := Bool.and_eq_true_iff.mp hi
    obtain ⟨eb, hb⟩ := in_of (by omega) g1
    obtain ⟨ew, hw⟩ := in_of (by decide) g2
    have e0 : a_bin α b w = (k_bf (a_c α) (kN b) (kN w), α) := if_pos hi
    rw [e0] at hQ
    generalize kN b = bn at *
    generalize kN w = wn at *
    subst eb
    subst ew
    have hab := (hC.2.1.2.1.1 bn (by omega)).2.1
    first | refine z_al0 (q := 1) C dX0_bin_0 rfl ?_ | refine z_al0q (q := 1) C dX0_bin_0 rfl ?_ | refine z_al0u (q := 1) C dX0_bin_0 rfl ?_
    refine z_il1 (q := 2) C dX0_bin_1 rfl ?_
    refine xc_X0_264 (q := 5) C (cx_isBin (d := 0) ho hC.2.1 hI _) (by first | exact ho | exact hk | exact hb | exact he | assumption | exact Or.inl (by assumption) | exact Or.inr (by assumption)) dX0_bin_2 rfl rfl rfl (Nat.le_of_ble_eq_true rfl) (by first | decide | omega) (by omega) (by omega) (kkE ?_)
    first | refine z_if_eqB (tgt := 34) (q := 8) C dX0_bin_5 (by decide) rfl (fun c5 => ?_) (fun c5 => ?_) | refine z_if_eq (tgt := 34) (q := 8) C dX0_bin_5 (by decide) rfl (fun c5 => ?_) (fun c5 => ?_)
    · rw [g1] at c5; cases c5
    · refine z_il2 (q := 9) C dX0_bin_8 rfl ?_
      refine z_i2l (q := 10) C dX0_bin_9 rfl ?_
      refine z_lconst (q := 11) (v := 0) C dX0_bin_10 rfl rfl ?_
      refine z_ldc2 (q := 14) C dX0_bin_11 rfl q558 ?_
      refine xc_X0_214 (q := 17) C (cx_inB (d := 0) σ _ (nI 0) (nI 3)) dX0_bin_14 rfl rfl rfl (Nat.le_of_ble_eq_true rfl) (by first | decide | omega) (by omega) (by omega) (kkE ?_)
      first | refine z_if_eqB (tgt := 34) (q := 20) C dX0_bin_17 (by decide) rfl (fun c17 => ?_) (fun c17 => ?_) | refine z_if_eq (tgt := 34) (q := 20) C dX0_bin_17 (by decide) rfl (fun c17 => ?_) (fun c17 => ?_)
      · rw [g2] at c17; cases c17
      · first | refine z_al0 (q := 21) C dX0_bin_20 rfl ?_ | refine z_al0q (q := 21) C dX0_bin_20 rfl ?_ | refine z_al0u (q := 21) C dX0_bin_20 rfl ?_
        first | refine z_al0 (q := 22) C dX0_bin_21 rfl ?_ | refine z_al0q (q := 22) C dX0_bin_21 rfl ?_ | refine z_al0u (q := 22) C dX0_bin_21 rfl ?_
        first | refine xr_X0_14 (q := 25) C (by first | exact ho | exact hk | exact hb | exact he | assumption) (by assumption) dX0_bin_22 rfl ?_ | refine xn_X0_14 (q := 25) C (by first | exact ho | exact hk | exact hb | exact he | assumption) (by assumption) dX0_bin_22 rfl ?_ | refine xg_X0_14 (q := 25) C (by first | exact ho | exact hk | exact hb | exact he | assumption) dX0_bin_22 rfl ?_
        refine z_il1 (q := 26) C dX0_bin_25 rfl ?_
        refine x_aald (q := 27) C 3 (by decide) (by decide) (by assumption) (by rw [hln]; omega) (by omega) dX0_bin_26 rfl ?_
        rw [hab]
        refine z_il2 (q := 28) C dX0_bin_27 rfl ?_
        refine xc_X0_269 (q := 31) C (cx_about hX.1 hC.2.1 hI (show bn < k_n (a_c α) 1 by omega) hw) (by first | exact ho | exact hk | exact hb | exact he | assumption | exact Or.inl (by assumption) | exact Or.inr (by assumption)) dX0_bin_28 rfl rfl rfl (Nat.le_of_ble_eq_true rfl) (by first | decide | omega) (by omega) (by omega) (kkE ?_)
        refine z_goto (tgt := 38) C dX0_bin_31 (by decide) ?_
        refine z_iret C hQ dX0_bin_38 (by omega) (by omega) ?_
        exact ⟨_, rfl, rfl, h⟩
set_option maxHeartbeats 1000000 in
theorem cx_row (h : XA false D p σ α) (hA : AI N α) (b i : Int32) : Ct (wX D) yX0_row cX0_row 5 (some .int) [.ref (p 0), .int b, .int i] σ (PI (fun r σ' => r = (a_row α b i).1 ∧ XA false D p σ' (a_row α b i).2)) 64 300 1500 := by
  obtain ⟨ad, B, hX, hq, hC, hU, hP, h9, hR⟩ := h.num
  obtain ⟨ho, h0, hbk, hln⟩ := hX.1
  obtain ⟨r16, k5, l5⟩ := hX.2.2.2.2.1
  have hI := hA.1
  have hw8 := hI.w
  refine Ct.of KXok (by decide) (Nat.le_of_ble_eq_true rfl) rfl fun Y C hQ hNm => ?_
  by_cases hi : inB b (nI 0) (nI (k_n (a_c α) 1 - 1)) = true ∧ ¬ i < 0
  · have e0 : a_row α b i = (oI ((k_row (a_c α) (kN b))[kN i]?), α) := if_pos hi
    rw [e0] at hQ
    obtain ⟨eb, hb⟩ := in_of (by omega) hi.1
    obtain ⟨n, hn31, rfl⟩ := nI_of hi.2
    rw [show kN (nI n) = n from nI_clamp hn31] at hQ
    generalize kN b = bn at *
    subst eb
    obtain ⟨-, hab, hrw⟩ := hC.2.1.2.1.1 bn (by omega)
    have hk34 := hrw.k34
    have hEN := hC.2.1.row bn
    have fin : ∀ (x4 : Option Value) (r : Option Nat), (r = ((k_row (a_c α) bn)[n]?).map ad) → Zj (wX D) Y σ 0 0 51 [some (.ref (p 0)), some (.int (nI bn)), some (.int (nI n)), some (va_rf r), x4] [] := by
      intro x4 r hr
      cases e : (k_row (a_c α) bn)[n]? with
      | none =>
        rw [e] at hr hQ
        subst hr
        show Zj _ _ _ _ _ _ [some (.ref (p 0)), some (.int (nI bn)), some (.int (nI n)), some .null, x4] []
        first | refine z_al3 (q := 52) C dX0_row_51 rfl ?_ | refine z_al3q (q := 52) C dX0_row_51 rfl ?_ | refine z_al3u (q := 52) C dX0_row_51 rfl ?_
        refine z_ifnonnull_u (q := 55) C dX0_row_52 rfl ?_
        refine z_iconst (q := 56) (v := -1) C dX0_row_55 rfl (by decide) ?_
        refine z_goto (tgt := 63) C dX0_row_56 (by decide) ?_
        refine z_iret C hQ dX0_row_63 (by omega) (by omega) ?_
        exact ⟨_, rfl, rfl, h⟩
      | some k =>
        rw [e] at hr hQ
        subst hr
        obtain ⟨hkd, e20, -⟩ := hEN k (List.mem_of_getElem? e)
        show Zj _ _ _ _ _ _ [some (.ref (p 0)), some (.int (nI bn)), some (.int (nI n)), some (.ref (ad k)), x4] []
        first | refine z_al3 (q := 52) C dX0_row_51 rfl ?_ | refine z_al3q (q := 52) C dX0_row_51 rfl ?_ | refine z_al3u (q := 52) C dX0_row_51 rfl ?_
        refine z_ifnonnull_r (tgt := 59) C dX0_row_52 (by decide) ?_
        first | refine z_al3 (q := 60) C dX0_row_59 rfl ?_ | refine z_al3q (q := 60) C dX0_row_59 rfl ?_ | refine z_al3u (q := 60) C dX0_row_59 rfl ?_
        refine xg_X0_120 (q := 63) C (by exact hkd) dX0_row_60 rfl ?_
        rw [e20]
        refine z_iret C hQ dX0_row_63 (by omega) (by omega) ?_
        exact ⟨_, rfl, rfl, h⟩
    have loop : ∀ (R : List Nat) (j : Nat) (r : Option Nat), (k_row (a_c α) bn).drop j = R → j ≤ n → CH ad (fr σ 27) R r → Zj (wX D) Y σ 0 0 30 [some (.ref (p 0)), some (.int (nI bn)), some (.int (nI n)), some (va_rf r), some (.int (nI j))] [] := by
      intro R
      induction R with
      | nil =>
        intro j r hd hj hc
        have hc : r = none := hc
        subst hc
        have hjl : (k_row (a_c α) bn).length ≤ j := by simpa using hd
        have hg := fin (some (.int (nI j))) none (by rw [List.getElem?_eq_none (by omega)]; rfl)
        refine z_il4 (q := 32) C dX0_row_30 rfl ?_
        refine z_il2 (q := 33) C dX0_row_32 rfl ?_
        refine z_icmp_geN (tgt := 51) (q := 36) C dX0_row_33 (by decide) rfl (by omega) (by omega) (fun c33 => ?_) (fun c33 => ?_)
        · exact hg
        · show Zj _ _ _ _ _ _ [some (.ref (p 0)), some (.int (nI bn)), some (.int (nI n)), some .null, some (.int (nI j))] []
          first | refine z_al3 (q := 37) C dX0_row_36 rfl ?_ | refine z_al3q (q := 37) C dX0_row_36 rfl ?_ | refine z_al3u (q := 37) C dX0_row_36 rfl ?_
          refine z_ifnull_u (tgt := 51) C dX0_row_37 (by decide) ?_
          exact hg
      | cons k R ih =>
        intro j r hd hj hc
        obtain ⟨rfl, hc⟩ := hc
        obtain ⟨hn1, hn2, hn3⟩ := drop_hd hd
        refine z_il4 (q := 32) C dX0_row_30 rfl ?_
        refine z_il2 (q := 33) C dX0_row_32 rfl ?_
        refine z_icmp_geN (tgt := 51) (q := 36) C dX0_row_33 (by decide) rfl (by omega) (by omega) (fun c33 => ?_) (fun c33 => ?_)
        · exact fin _ _ (by rw [show n = j by omega, hn1]; rfl)
        · have hkd := (hEN k (List.mem_of_getElem? hn1)).1
          have hg := ih (j + 1) (fr σ 27 (ad k)) hn3 (by omega) hc
          show Zj _ _ _ _ _ _ [some (.ref (p 0)), some (.int (nI bn)), some (.int (nI n)), some (.ref (ad k)), some (.int (nI j))] []
          first | refine z_al3 (q := 37) C dX0_row_36 rfl ?_ | refine z_al3q (q := 37) C dX0_row_36 rfl ?_ | refine z_al3u (q := 37) C dX0_row_36 rfl ?_
          refine z_ifnull_r (q := 40) C dX0_row_37 rfl ?_
          first | refine z_al3 (q := 41) C dX0_row_40 rfl ?_ | refine z_al3q (q := 41) C dX0_row_40 rfl ?_ | refine z_al3u (q := 41) C dX0_row_40 rfl ?_
          refine xg_X0_99 (q := 44) C (by exact hkd) dX0_row_41 rfl ?_
          first | refine z_as3 (q := 45) C dX0_row_44 rfl (by first | exact loC_i | exact loC_r | exact loC_n | exact loC_q | exact loC_u) ?_ | refine z_as3q (q := 45) C dX0_row_44 rfl (by first | exact loC_i | exact loC_r | exact loC_n | exact loC_q | exact loC_u) ?_ | refine z_asu3 (q := 45) C dX0_row_44 rfl (by first | exact loC_i | exact loC_r | exact loC_n | exact loC_q | exact loC_u) ?_
          first | refine z_iinc4N (q := 48) C dX0_row_45 rfl (by first | exact loC_i | exact loC_r | exact loC_n | exact loC_q | exact loC_u) ?_ | refine z_iinc4 (q := 48) C dX0_row_45 rfl rfl (by first | exact loC_i | exact loC_r | exact loC_n | exact loC_q | exact loC_u) ?_
          refine z_goto (tgt := 30) C dX0_row_48 (by decide) ?_
          exact hg
    first | refine z_al0 (q := 1) C dX0_row_0 rfl ?_ | refine z_al0q (q := 1) C dX0_row_0 rfl ?_ | refine z_al0u (q := 1) C dX0_row_0 rfl ?_
    refine z_il1 (q := 2) C dX0_row_1 rfl ?_
    refine xc_X0_264 (q := 5) C (cx_isBin (d := 0) ho hC.2.1 hI _) (by first | exact ho | exact hk | exact hb | exact he | assumption | exact Or.inl (by assumption) | exact Or.inr (by assumption)) dX0_row_2 rfl rfl rfl (Nat.le_of_ble_eq_true rfl) (by first | decide | omega) (by omega) (by omega) (kkE ?_)
    refine z_if_eqB (tgt := 12) (q := 8) C dX0_row_5 (by decide) rfl (fun c5 => by rw [hi.1] at c5; cases c5) (fun c5 => ?_)
    refine z_il2 (q := 9) C dX0_row_8 rfl ?_
    refine z_if_ge (tgt := 17) (q := 12) C dX0_row_9 (by decide) rfl (fun c9 => ?_) (fun c9 => absurd (Int32.not_le.mp c9) hi.2)
    first | refine z_al0 (q := 18) C dX0_row_17 rfl ?_ | refine z_al0q (q := 18) C dX0_row_17 rfl ?_ | refine z_al0u (q := 18) C dX0_row_17 rfl ?_
    first | refine xr_X0_14 (q := 21) C (by first | exact ho | exact hk | exact hb | exact he | assumption) (by assumption) dX0_row_18 rfl ?_ | refine xn_X0_14 (q := 21) C (by first | exact ho | exact hk | exact hb | exact he | assumption) (by assumption) dX0_row_18 rfl ?_ | refine xg_X0_14 (q := 21) C (by first | exact ho | exact hk | exact hb | exact he | assumption) dX0_row_18 rfl ?_
    refine z_il1 (q := 22) C dX0_row_21 rfl ?_
    refine x_aald (q := 23) C 3 (by decide) (by decide) (by assumption) (by rw [hln]; omega) (by omega) dX0_row_22 rfl ?_
    rw [hab]
    refine xc_X0_95 (q := 26) C (fun _ => cx_first (d := 0) hk34) (fun _ => cx_first (d := 0) hk34) (by exact hk34) dX0_row_23 rfl rfl rfl (Nat.le_of_ble_eq_true rfl) (by first | decide | omega) (by omega) (by omega) (kkE ?_)
    first | refine z_as3 (q := 27) C dX0_row_26 rfl (by first | exact loC_i | exact loC_r | exact loC_n | exact loC_q | exact loC_u) ?_ | refine z_as3q (q := 27) C dX0_row_26 rfl (by first | exact loC_i | exact loC_r | exact loC_n | exact loC_q | exact loC_u) ?_ | refine z_asu3 (q := 27) C dX0_row_26 rfl (by first | exact loC_i | exact loC_r | exact loC_n | exact loC_q | exact loC_u) ?_
    refine z_iconst (q := 28) (v := nI 0) C dX0_row_27 rfl (by decide) ?_
    refine z_is4 (q := 30) C dX0_row_28 rfl (by first | exact loC_i | exact loC_r | exact loC_n | exact loC_q | exact loC_u) ?_
    exact loop _ 0 _ rfl (by omega) hrw.2.2.1.ch
  · have e1 : a_row α b i = (-2, a_rfs α 0) := if_neg hi
    rw [e1] at hQ
    have hb := h.rfs hA (i := 0) (by decide)
    first | refine z_al0 (q := 1) C dX0_row_0 rfl ?_ | refine z_al0q (q := 1) C dX0_row_0 rfl ?_ | refine z_al0u (q := 1) C dX0_row_0 rfl ?_
    refine z_il1 (q := 2) C dX0_row_1 rfl ?_
    refine xc_X0_264 (q := 5) C (cx_isBin (d := 0) ho hC.2.1 hI b) (by first | exact ho | exact hk | exact hb | exact he | assumption | exact Or.inl (by assumption) | exact Or.inr (by assumption)) dX0_row_2 rfl rfl rfl (Nat.le_of_ble_eq_true rfl) (by first | decide | omega) (by omega) (by omega) (kkE ?_)
    first | refine z_if_eqB (tgt := 12) (q := 8) C dX0_row_5 (by decide) rfl (fun c5 => ?_) (fun c5 => ?_) | refine z_if_eq (tgt := 12) (q := 8) C dX0_row_5 (by decide) rfl (fun c5 => ?_) (fun c5 => ?_)
    · first | refine z_al0 (q := 13) C dX0_row_12 rfl ?_ | refine z_al0q (q := 13) C dX0_row_12 rfl ?_ | refine z_al0u (q := 13) C dX0_row_12 rfl ?_
      refine xc_X0_227 (q := 16) C (cx_bad (d := 0) ho r16 k5 l5) (by first | exact ho | exact hk | exact hb | exact he | assumption | exact Or.inl (by assumption) | exact Or.inr (by assumption)) dX0_row_13 rfl rfl rfl (Nat.le_of_ble_eq_true rfl) (by first | decide | omega) (by omega) (by omega) (kkE ?_)
      refine z_iret C hQ dX0_row_16 (by omega) (by omega) ?_
      exact ⟨_, rfl, rfl, hb⟩
    · refine z_il2 (q := 9) C dX0_row_8 rfl ?_
      refine z_if_ge (tgt := 17) (q := 12) C dX0_row_9 (by decide) rfl (fun c9 => ?_) (fun c9 => ?_)
      · exact absurd ⟨c5, Int32.not_lt.mpr c9⟩ hi
      · first | refine z_al0 (q := 13) C dX0_row_12 rfl ?_ | refine z_al0q (q := 13) C dX0_row_12 rfl ?_ | refine z_al0u (q := 13) C dX0_row_12 rfl ?_
        refine xc_X0_227 (q := 16) C (cx_bad (d := 0) ho r16 k5 l5) (by first | exact ho | exact hk | exact hb | exact he | assumption | exact Or.inl (by assumption) | exact Or.inr (by assumption)) dX0_row_13 rfl rfl rfl (Nat.le_of_ble_eq_true rfl) (by first | decide | omega) (by omega) (by omega) (kkE ?_)
        refine z_iret C hQ dX0_row_16 (by omega) (by omega) ?_
        exact ⟨_, rfl, rfl, hb⟩
end T77
