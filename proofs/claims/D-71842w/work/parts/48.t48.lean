/-! THE CLASS: leaves -/
set_option maxRecDepth 10000
section KK
variable {S : Type} {w : Wd S} {Y : Fz} {k n q : Nat} {lo : Lo} {rest : List Value}
theorem kkI {p : Int32 → S → Prop} (g : ∀ x σ', p x σ' → Zj w Y σ' k n q lo (.int x :: rest)) : ∀ v σ', PI p v σ' → Zj w Y σ' k n q lo (v.toList ++ rest) := fun v σ' h => by obtain ⟨x, rfl, h⟩ := h; exact g x σ' h
theorem kkQ {p : Option Nat → S → Prop} (g : ∀ x σ', p x σ' → Zj w Y σ' k n q lo (va_rf x :: rest)) : ∀ v σ', PQ p v σ' → Zj w Y σ' k n q lo (v.toList ++ rest) := fun v σ' h => by obtain ⟨x, rfl, h⟩ := h; exact g x σ' h
theorem kkV {p : S → Prop} (g : ∀ σ', p σ' → Zj w Y σ' k n q lo rest) : ∀ v σ', PV p v σ' → Zj w Y σ' k n q lo (v.toList ++ rest) := fun v σ' h => by obtain ⟨rfl, h⟩ := h; exact g σ' h
theorem kkE {x : Value} {σ1 : S} (g : Zj w Y σ1 k n q lo (x :: rest)) : ∀ v σ', PE (some x) σ1 v σ' → Zj w Y σ' k n q lo (v.toList ++ rest) := fun v σ' h => by obtain ⟨rfl, rfl⟩ := h; exact g
theorem kkN {σ1 : S} (g : Zj w Y σ1 k n q lo rest) : ∀ v σ', PE none σ1 v σ' → Zj w Y σ' k n q lo (v.toList ++ rest) := fun v σ' h => by obtain ⟨rfl, rfl⟩ := h; exact g
end KK
theorem nI_sub_lt {a b : Nat} (ha : a < 2 ^ 31) (hb : b < 2 ^ 31) : nI a - nI b < 0 ↔ a < b := by
  have h1 := nI_toInt ha
  have h2 := nI_toInt hb
  rw [Int32.lt_iff_toInt_lt, Int32.toInt_sub, h1, h2, Int.bmod_eq_of_le (by omega) (by omega)]
  show (a : Int) - (b : Int) < 0 ↔ _
  omega
theorem abv_iff {x y : Nat} : abv x y = true ↔ prio y < prio x ∨ prio x = prio y ∧ x < y := by simp [abv]
theorem abv_t {x y : Nat} (h : prio y < prio x ∨ prio x = prio y ∧ x < y) : abv x y = true := abv_iff.mpr h
theorem abv_f {x y : Nat} (h : ¬ (prio y < prio x ∨ prio x = prio y ∧ x < y)) : abv x y = false := by
  cases e : abv x y
  · rfl
  · exact absurd (abv_iff.mp e) h
theorem cx_place {D : Dx} {σ : Sg} {a h ke h' k' : Nat} (hk : kd σ a = 2) (e1 : fi σ 23 a = nI h) (e2 : fi σ 20 a = nI ke) (b1 : h < 65536) (b2 : h' < 65536) (b3 : ke < 2 ^ 31) (b4 : k' < 2 ^ 31) {d : Nat} :
    Ct (wX D) yX7_place cX7_place 3 (some .int) [.ref a, .int (nI h'), .int (nI k')] σ (PI (fun x σ' => σ' = σ ∧ (x < 0 ↔ h' < h ∨ h' = h ∧ k' < ke))) d 0 0 := by
  refine Ct.of KXok (by decide) (Nat.le_of_ble_eq_true rfl) rfl fun Y C hQ hNm => ?_
  refine z_il1 (q := 1) C dX7_place_0 rfl ?_
  first | refine z_al0 (q := 2) C dX7_place_1 rfl ?_ | refine z_al0q (q := 2) C dX7_place_1 rfl ?_ | refine z_al0u (q := 2) C dX7_place_1 rfl ?_
  refine xg_X7_27 (q := 5) C (by first | exact ho | exact hk | exact hb | exact he | assumption) dX7_place_2 rfl ?_
  rw [e1]
  first | refine z_icmp_eqN (tgt := 17) (q := 8) C dX7_place_5 (by decide) rfl (by omega) (by omega) (fun c5 => ?_) (fun c5 => ?_) | refine z_icmp_eq (tgt := 17) (q := 8) C dX7_place_5 (by decide) rfl (fun c5 => ?_) (fun c5 => ?_)
  · refine z_il2 (q := 18) C dX7_place_17 rfl ?_
    first | refine z_al0 (q := 19) C dX7_place_18 rfl ?_ | refine z_al0q (q := 19) C dX7_place_18 rfl ?_ | refine z_al0u (q := 19) C dX7_place_18 rfl ?_
    refine xg_X7_9 (q := 22) C (by first | exact ho | exact hk | exact hb | exact he | assumption) dX7_place_19 rfl ?_
    rw [e2]
    refine z_isub (q := 23) C dX7_place_22 rfl ?_
    refine z_iret C hQ dX7_place_23 (by omega) (by omega) ?_
    refine ⟨_, rfl, rfl, ?_⟩
    first | (rw [nI_sub_lt (by omega) (by omega)]; omega)
  · refine z_il1 (q := 9) C dX7_place_8 rfl ?_
    first | refine z_al0 (q := 10) C dX7_place_9 rfl ?_ | refine z_al0q (q := 10) C dX7_place_9 rfl ?_ | refine z_al0u (q := 10) C dX7_place_9 rfl ?_
    refine xg_X7_27 (q := 13) C (by first | exact ho | exact hk | exact hb | exact he | assumption) dX7_place_10 rfl ?_
    rw [e1]
    refine z_isub (q := 14) C dX7_place_13 rfl ?_
    refine z_goto (tgt := 23) C dX7_place_14 (by decide) ?_
    refine z_iret C hQ dX7_place_23 (by omega) (by omega) ?_
    refine ⟨_, rfl, rfl, ?_⟩
    first | (rw [nI_sub_lt (by omega) (by omega)]; omega)
theorem cx_above0 {D : Dx} {σ : Sg} {a : Nat} (hk : kd σ a = 2) {d : Nat} :
    Ct (wX D) yX7_isAbove cX7_isAbove 2 (some .boolean) [.ref a, .null] σ (PE (some (.int (bI true))) σ) d 0 0 := by
  refine Ct.of KXok (by decide) (Nat.le_of_ble_eq_true rfl) rfl fun Y C hQ hNm => ?_
  first | refine z_al1 (q := 1) C dX7_isAbove_0 rfl ?_ | refine z_al1q (q := 1) C dX7_isAbove_0 rfl ?_ | refine z_al1u (q := 1) C dX7_isAbove_0 rfl ?_
  refine z_ifnull_u (tgt := 15) C dX7_isAbove_1 (by decide) ?_
  first | refine z_al1 (q := 16) C dX7_isAbove_15 rfl ?_ | refine z_al1q (q := 16) C dX7_isAbove_15 rfl ?_ | refine z_al1u (q := 16) C dX7_isAbove_15 rfl ?_
  refine z_ifnull_u (tgt := 30) C dX7_isAbove_16 (by decide) ?_
  refine z_iconst (q := 31) (v := nI 1) C dX7_isAbove_30 rfl (by decide) ?_
  refine z_goto (tgt := 54) C dX7_isAbove_31 (by decide) ?_
  refine z_zret C hQ dX7_isAbove_54 (by omega) (by omega) (by first | rfl | exact bI_nar _) ?_
  exact ⟨rfl, rfl⟩
theorem cx_above {D : Dx} {σ : Sg} {a b ka kb : Nat} (hk : kd σ a = 2) (hb : kd σ b = 2) (e1 : fi σ 22 a = nI (prio ka)) (e2 : fi σ 22 b = nI (prio kb)) (e3 : fi σ 20 a = nI ka) (e4 : fi σ 20 b = nI kb) (b3 : ka < 2 ^ 31) (b4 : kb < 2 ^ 31) {d : Nat} :
    Ct (wX D) yX7_isAbove cX7_isAbove 2 (some .boolean) [.ref a, .ref b] σ (PE (some (.int (bI (abv ka kb)))) σ) d 0 0 := by
  have p1 := prio_lt ka
  have p2 := prio_lt kb
  refine Ct.of KXok (by decide) (Nat.le_of_ble_eq_true rfl) rfl fun Y C hQ hNm => ?_
  first | refine z_al1 (q := 1) C dX7_isAbove_0 rfl ?_ | refine z_al1q (q := 1) C dX7_isAbove_0 rfl ?_ | refine z_al1u (q := 1) C dX7_isAbove_0 rfl ?_
  refine z_ifnull_r (q := 4) C dX7_isAbove_1 rfl ?_
  first | refine z_al0 (q := 5) C dX7_isAbove_4 rfl ?_ | refine z_al0q (q := 5) C dX7_isAbove_4 rfl ?_ | refine z_al0u (q := 5) C dX7_isAbove_4 rfl ?_
  refine xg_X7_24 (q := 8) C (by first | exact ho | exact hk | exact hb | exact he | assumption) dX7_isAbove_5 rfl ?_
  rw [e1]
  first | refine z_al1 (q := 9) C dX7_isAbove_8 rfl ?_ | refine z_al1q (q := 9) C dX7_isAbove_8 rfl ?_ | refine z_al1u (q := 9) C dX7_isAbove_8 rfl ?_
  refine xg_X7_24 (q := 12) C (by first | exact ho | exact hk | exact hb | exact he | assumption) dX7_isAbove_9 rfl ?_
  rw [e2]
  first | refine z_icmp_eqN (tgt := 38) (q := 15) C dX7_isAbove_12 (by decide) rfl (by omega) (by omega) (fun c12 => ?_) (fun c12 => ?_) | refine z_icmp_eq (tgt := 38) (q := 15) C dX7_isAbove_12 (by decide) rfl (fun c12 => ?_) (fun c12 => ?_)
  · first | refine z_al0 (q := 39) C dX7_isAbove_38 rfl ?_ | refine z_al0q (q := 39) C dX7_isAbove_38 rfl ?_ | refine z_al0u (q := 39) C dX7_isAbove_38 rfl ?_
    refine xg_X7_9 (q := 42) C (by first | exact ho | exact hk | exact hb | exact he | assumption) dX7_isAbove_39 rfl ?_
    rw [e3]
    first | refine z_al1 (q := 43) C dX7_isAbove_42 rfl ?_ | refine z_al1q (q := 43) C dX7_isAbove_42 rfl ?_ | refine z_al1u (q := 43) C dX7_isAbove_42 rfl ?_
    refine xg_X7_9 (q := 46) C (by first | exact ho | exact hk | exact hb | exact he | assumption) dX7_isAbove_43 rfl ?_
    rw [e4]
    first | refine z_icmp_geN (tgt := 53) (q := 49) C dX7_isAbove_46 (by decide) rfl (by omega) (by omega) (fun c46 => ?_) (fun c46 => ?_) | refine z_icmp_ge (tgt := 53) (q := 49) C dX7_isAbove_46 (by decide) rfl (fun c46 => ?_) (fun c46 => ?_)
    · refine z_iconst (q := 54) (v := nI 0) C dX7_isAbove_53 rfl (by decide) ?_
      refine z_zret C hQ dX7_isAbove_54 (by omega) (by omega) (by first | rfl | exact bI_nar _) ?_
      exact ⟨by first | (rw [abv_t (by omega)]; rfl) | (rw [abv_f (by omega)]; rfl), rfl⟩
    · refine z_iconst (q := 50) (v := nI 1) C dX7_isAbove_49 rfl (by decide) ?_
      refine z_goto (tgt := 54) C dX7_isAbove_50 (by decide) ?_
      refine z_zret C hQ dX7_isAbove_54 (by omega) (by omega) (by first | rfl | exact bI_nar _) ?_
      exact ⟨by first | (rw [abv_t (by omega)]; rfl) | (rw [abv_f (by omega)]; rfl), rfl⟩
  · first | refine z_al1 (q := 16) C dX7_isAbove_15 rfl ?_ | refine z_al1q (q := 16) C dX7_isAbove_15 rfl ?_ | refine z_al1u (q := 16) C dX7_isAbove_15 rfl ?_
    refine z_ifnull_r (q := 19) C dX7_isAbove_16 rfl ?_
    first | refine z_al0 (q := 20) C dX7_isAbove_19 rfl ?_ | refine z_al0q (q := 20) C dX7_isAbove_19 rfl ?_ | refine z_al0u (q := 20) C dX7_isAbove_19 rfl ?_
    refine xg_X7_24 (q := 23) C (by first | exact ho | exact hk | exact hb | exact he | assumption) dX7_isAbove_20 rfl ?_
    rw [e1]
    first | refine z_al1 (q := 24) C dX7_isAbove_23 rfl ?_ | refine z_al1q (q := 24) C dX7_isAbove_23 rfl ?_ | refine z_al1u (q := 24) C dX7_isAbove_23 rfl ?_
    refine xg_X7_24 (q := 27) C (by first | exact ho | exact hk | exact hb | exact he | assumption) dX7_isAbove_24 rfl ?_
    rw [e2]
    first | refine z_icmp_leN (tgt := 34) (q := 30) C dX7_isAbove_27 (by decide) rfl (by omega) (by omega) (fun c27 => ?_) (fun c27 => ?_) | refine z_icmp_le (tgt := 34) (q := 30) C dX7_isAbove_27 (by decide) rfl (fun c27 => ?_) (fun c27 => ?_)
    · refine z_iconst (q := 35) (v := nI 0) C dX7_isAbove_34 rfl (by decide) ?_
      refine z_goto (tgt := 54) C dX7_isAbove_35 (by decide) ?_
      refine z_zret C hQ dX7_isAbove_54 (by omega) (by omega) (by first | rfl | exact bI_nar _) ?_
      exact ⟨by first | (rw [abv_t (by omega)]; rfl) | (rw [abv_f (by omega)]; rfl), rfl⟩
    · refine z_iconst (q := 31) (v := nI 1) C dX7_isAbove_30 rfl (by decide) ?_
      refine z_goto (tgt := 54) C dX7_isAbove_31 (by decide) ?_
      refine z_zret C hQ dX7_isAbove_54 (by omega) (by omega) (by first | rfl | exact bI_nar _) ?_
      exact ⟨by first | (rw [abv_t (by omega)]; rfl) | (rw [abv_f (by omega)]; rfl), rfl⟩
