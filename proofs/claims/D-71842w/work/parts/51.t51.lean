/-! THE CLASS: an entry goes out of a row -/
set_option maxRecDepth 10000
section T51
variable {D : Dx} {o : Nat} {d : Nat}
theorem cx_goesB {σ : Sg} {b a : Nat} (hb : kd σ b = 3 ∨ kd σ b = 4) (he : kd σ a = 2) (h2 : ∀ p, fr σ 26 a = some p → kd σ p = 2) (h3 : ∀ q, fr (delS1 26 27 40 b a σ) 27 a = some q → kd σ q = 2) : Ct (wX D) yX3_goes cX3_goes 2 none [.ref b, .ref a] σ (PE none (delS 26 27 40 41 42 b a σ)) d 0 0 := by
  refine Ct.of KXok (by decide) (Nat.le_of_ble_eq_true rfl) rfl fun Y C hQ hNm => ?_
  have ph : ∀ σ1 : Sg, kd σ1 = kd σ → fi σ1 = fi σ → (∀ q, fr σ1 27 a = some q → kd σ q = 2) → delS 26 27 40 41 42 b a σ = sI 42 b (fi σ 42 b - nI 1) (delS2 26 27 41 b a σ1) → Zj (wX D) Y σ1 0 0 29 [some (.ref b), some (.ref a)] [] := by
    intro σ1 ek ef h3 hz
    have hb1 : kd σ1 b = 3 ∨ kd σ1 b = 4 := by rw [ek]; exact hb
    have he1 : kd σ1 a = 2 := by rw [ek]; exact he
    cases hn : fr σ1 27 a with
    | none =>
      first | refine z_al1 (q := 30) C dX3_goes_29 rfl ?_ | refine z_al1q (q := 30) C dX3_goes_29 rfl ?_ | refine z_al1u (q := 30) C dX3_goes_29 rfl ?_
      first | refine xr_X3_18 (q := 33) C (by exact he1) (by exact hn) dX3_goes_30 rfl ?_ | refine xn_X3_18 (q := 33) C (by exact he1) (by exact hn) dX3_goes_30 rfl ?_
      refine z_ifnonnull_u (q := 36) C dX3_goes_33 rfl ?_
      first | refine z_al0 (q := 37) C dX3_goes_36 rfl ?_ | refine z_al0q (q := 37) C dX3_goes_36 rfl ?_ | refine z_al0u (q := 37) C dX3_goes_36 rfl ?_
      first | refine z_al1 (q := 38) C dX3_goes_37 rfl ?_ | refine z_al1q (q := 38) C dX3_goes_37 rfl ?_ | refine z_al1u (q := 38) C dX3_goes_37 rfl ?_
      refine xg_X3_13 (q := 41) C (by exact he1) dX3_goes_38 rfl ?_
      first | refine xpr_X3_7 (q := 44) C (by exact hb1) dX3_goes_41 rfl ?_ | refine xpn_X3_7 (q := 44) C (by exact hb1) dX3_goes_41 rfl ?_ | refine xp_X3_7 (q := 44) C (by exact hb1) dX3_goes_41 rfl ?_
      refine z_goto (tgt := 58) C dX3_goes_44 (by decide) ?_
      first | refine z_al0 (q := 59) C dX3_goes_58 rfl ?_ | refine z_al0q (q := 59) C dX3_goes_58 rfl ?_ | refine z_al0u (q := 59) C dX3_goes_58 rfl ?_
      refine z_dup (q := 60) C dX3_goes_59 rfl rfl ?_
      refine xg_X3_24 (q := 63) C (by exact hb1) dX3_goes_60 rfl ?_
      refine z_iconst (q := 64) (v := nI 1) C dX3_goes_63 rfl (by decide) ?_
      refine z_isub (q := 65) C dX3_goes_64 rfl ?_
      refine xp_X3_24 (q := 68) C (by exact hb1) dX3_goes_65 rfl ?_
      refine z_vret C hQ dX3_goes_68 (by omega) (by omega) ?_
      exact ⟨rfl, by rw [hz]; unfold delS2; rw [hn, ← ef]; rfl⟩
    | some q =>
      have hq : kd σ1 q = 2 := by rw [ek]; exact h3 q hn
      first | refine z_al1 (q := 30) C dX3_goes_29 rfl ?_ | refine z_al1q (q := 30) C dX3_goes_29 rfl ?_ | refine z_al1u (q := 30) C dX3_goes_29 rfl ?_
      first | refine xr_X3_18 (q := 33) C (by exact he1) (by exact hn) dX3_goes_30 rfl ?_ | refine xn_X3_18 (q := 33) C (by exact he1) (by exact hn) dX3_goes_30 rfl ?_
      refine z_ifnonnull_r (tgt := 47) C dX3_goes_33 (by decide) ?_
      first | refine z_al1 (q := 48) C dX3_goes_47 rfl ?_ | refine z_al1q (q := 48) C dX3_goes_47 rfl ?_ | refine z_al1u (q := 48) C dX3_goes_47 rfl ?_
      first | refine xr_X3_18 (q := 51) C (by exact he1) (by exact hn) dX3_goes_48 rfl ?_ | refine xn_X3_18 (q := 51) C (by exact he1) (by exact hn) dX3_goes_48 rfl ?_
      first | refine z_al1 (q := 52) C dX3_goes_51 rfl ?_ | refine z_al1q (q := 52) C dX3_goes_51 rfl ?_ | refine z_al1u (q := 52) C dX3_goes_51 rfl ?_
      refine xg_X3_13 (q := 55) C (by exact he1) dX3_goes_52 rfl ?_
      first | refine xpr_X3_13 (q := 58) C (by exact hq) dX3_goes_55 rfl ?_ | refine xpn_X3_13 (q := 58) C (by exact hq) dX3_goes_55 rfl ?_ | refine xp_X3_13 (q := 58) C (by exact hq) dX3_goes_55 rfl ?_
      first | refine z_al0 (q := 59) C dX3_goes_58 rfl ?_ | refine z_al0q (q := 59) C dX3_goes_58 rfl ?_ | refine z_al0u (q := 59) C dX3_goes_58 rfl ?_
      refine z_dup (q := 60) C dX3_goes_59 rfl rfl ?_
      refine xg_X3_24 (q := 63) C (by exact hb1) dX3_goes_60 rfl ?_
      refine z_iconst (q := 64) (v := nI 1) C dX3_goes_63 rfl (by decide) ?_
      refine z_isub (q := 65) C dX3_goes_64 rfl ?_
      refine xp_X3_24 (q := 68) C (by exact hb1) dX3_goes_65 rfl ?_
      refine z_vret C hQ dX3_goes_68 (by omega) (by omega) ?_
      exact ⟨rfl, by rw [hz]; unfold delS2; rw [hn, ← ef]; rfl⟩
  cases hp : fr σ 26 a with
  | none =>
    have ed : delS1 26 27 40 b a σ = sR 40 b (fr σ 27 a) σ := by unfold delS1; rw [hp]
    rw [ed] at h3
    first | refine z_al1 (q := 1) C dX3_goes_0 rfl ?_ | refine z_al1q (q := 1) C dX3_goes_0 rfl ?_ | refine z_al1u (q := 1) C dX3_goes_0 rfl ?_
    first | refine xr_X3_13 (q := 4) C (by first | exact ho | exact hk | exact hb | exact he | assumption) (by exact hp) dX3_goes_1 rfl ?_ | refine xn_X3_13 (q := 4) C (by first | exact ho | exact hk | exact hb | exact he | assumption) (by exact hp) dX3_goes_1 rfl ?_
    refine z_ifnonnull_u (q := 7) C dX3_goes_4 rfl ?_
    first | refine z_al0 (q := 8) C dX3_goes_7 rfl ?_ | refine z_al0q (q := 8) C dX3_goes_7 rfl ?_ | refine z_al0u (q := 8) C dX3_goes_7 rfl ?_
    first | refine z_al1 (q := 9) C dX3_goes_8 rfl ?_ | refine z_al1q (q := 9) C dX3_goes_8 rfl ?_ | refine z_al1u (q := 9) C dX3_goes_8 rfl ?_
    refine xg_X3_18 (q := 12) C (by first | exact ho | exact hk | exact hb | exact he | assumption) dX3_goes_9 rfl ?_
    first | refine xpr_X3_21 (q := 15) C (by first | exact ho | exact hk | exact hb | exact he | assumption) dX3_goes_12 rfl ?_ | refine xpn_X3_21 (q := 15) C (by first | exact ho | exact hk | exact hb | exact he | assumption) dX3_goes_12 rfl ?_ | refine xp_X3_21 (q := 15) C (by first | exact ho | exact hk | exact hb | exact he | assumption) dX3_goes_12 rfl ?_
    refine z_goto (tgt := 29) C dX3_goes_15 (by decide) ?_
    exact ph _ rfl rfl h3 (by unfold delS; rw [ed])
  | some p =>
    have ed : delS1 26 27 40 b a σ = sR 27 p (fr σ 27 a) σ := by unfold delS1; rw [hp]
    rw [ed] at h3
    have hpk := h2 p hp
    first | refine z_al1 (q := 1) C dX3_goes_0 rfl ?_ | refine z_al1q (q := 1) C dX3_goes_0 rfl ?_ | refine z_al1u (q := 1) C dX3_goes_0 rfl ?_
    first | refine xr_X3_13 (q := 4) C (by first | exact ho | exact hk | exact hb | exact he | assumption) (by exact hp) dX3_goes_1 rfl ?_ | refine xn_X3_13 (q := 4) C (by first | exact ho | exact hk | exact hb | exact he | assumption) (by exact hp) dX3_goes_1 rfl ?_
    refine z_ifnonnull_r (tgt := 18) C dX3_goes_4 (by decide) ?_
    first | refine z_al1 (q := 19) C dX3_goes_18 rfl ?_ | refine z_al1q (q := 19) C dX3_goes_18 rfl ?_ | refine z_al1u (q := 19) C dX3_goes_18 rfl ?_
    first | refine xr_X3_13 (q := 22) C (by first | exact ho | exact hk | exact hb | exact he | assumption) (by exact hp) dX3_goes_19 rfl ?_ | refine xn_X3_13 (q := 22) C (by first | exact ho | exact hk | exact hb | exact he | assumption) (by exact hp) dX3_goes_19 rfl ?_
    first | refine z_al1 (q := 23) C dX3_goes_22 rfl ?_ | refine z_al1q (q := 23) C dX3_goes_22 rfl ?_ | refine z_al1u (q := 23) C dX3_goes_22 rfl ?_
    refine xg_X3_18 (q := 26) C (by first | exact ho | exact hk | exact hb | exact he | assumption) dX3_goes_23 rfl ?_
    first | refine xpr_X3_18 (q := 29) C (by exact hpk) dX3_goes_26 rfl ?_ | refine xpn_X3_18 (q := 29) C (by exact hpk) dX3_goes_26 rfl ?_ | refine xp_X3_18 (q := 29) C (by exact hpk) dX3_goes_26 rfl ?_
    exact ph _ rfl rfl h3 (by unfold delS; rw [ed])
theorem cx_unlinks {σ : Sg} {b a : Nat} (hb : kd σ b = 1) (he : kd σ a = 2) (h2 : ∀ p, fr σ 24 a = some p → kd σ p = 2) (h3 : ∀ q, fr (delS1 24 25 2 b a σ) 25 a = some q → kd σ q = 2) : Ct (wX D) yX0_unlinks cX0_unlinks 2 none [.ref b, .ref a] σ (PE none (delS 24 25 2 3 4 b a σ)) d 0 0 := by
  refine Ct.of KXok (by decide) (Nat.le_of_ble_eq_true rfl) rfl fun Y C hQ hNm => ?_
  have ph : ∀ σ1 : Sg, kd σ1 = kd σ → fi σ1 = fi σ → (∀ q, fr σ1 25 a = some q → kd σ q = 2) → delS 24 25 2 3 4 b a σ = sI 4 b (fi σ 4 b - nI 1) (delS2 24 25 3 b a σ1) → Zj (wX D) Y σ1 0 0 29 [some (.ref b), some (.ref a)] [] := by
    intro σ1 ek ef h3 hz
    have hb1 : kd σ1 b = 1 := by rw [ek]; exact hb
    have he1 : kd σ1 a = 2 := by rw [ek]; exact he
    cases hn : fr σ1 25 a with
    | none =>
      first | refine z_al1 (q := 30) C dX0_unlinks_29 rfl ?_ | refine z_al1q (q := 30) C dX0_unlinks_29 rfl ?_ | refine z_al1u (q := 30) C dX0_unlinks_29 rfl ?_
      first | refine xr_X0_137 (q := 33) C (by exact he1) (by exact hn) dX0_unlinks_30 rfl ?_ | refine xn_X0_137 (q := 33) C (by exact he1) (by exact hn) dX0_unlinks_30 rfl ?_
      refine z_ifnonnull_u (q := 36) C dX0_unlinks_33 rfl ?_
      first | refine z_al0 (q := 37) C dX0_unlinks_36 rfl ?_ | refine z_al0q (q := 37) C dX0_unlinks_36 rfl ?_ | refine z_al0u (q := 37) C dX0_unlinks_36 rfl ?_
      first | refine z_al1 (q := 38) C dX0_unlinks_37 rfl ?_ | refine z_al1q (q := 38) C dX0_unlinks_37 rfl ?_ | refine z_al1u (q := 38) C dX0_unlinks_37 rfl ?_
      refine xg_X0_134 (q := 41) C (by exact he1) dX0_unlinks_38 rfl ?_
      first | refine xpr_X0_131 (q := 44) C (by exact hb1) dX0_unlinks_41 rfl ?_ | refine xpn_X0_131 (q := 44) C (by exact hb1) dX0_unlinks_41 rfl ?_ | refine xp_X0_131 (q := 44) C (by exact hb1) dX0_unlinks_41 rfl ?_
      refine z_goto (tgt := 58) C dX0_unlinks_44 (by decide) ?_
      first | refine z_al0 (q := 59) C dX0_unlinks_58 rfl ?_ | refine z_al0q (q := 59) C dX0_unlinks_58 rfl ?_ | refine z_al0u (q := 59) C dX0_unlinks_58 rfl ?_
      refine z_dup (q := 60) C dX0_unlinks_59 rfl rfl ?_
      refine xg_X0_142 (q := 63) C (by exact hb1) dX0_unlinks_60 rfl ?_
      refine z_iconst (q := 64) (v := nI 1) C dX0_unlinks_63 rfl (by decide) ?_
      refine z_isub (q := 65) C dX0_unlinks_64 rfl ?_
      refine xp_X0_142 (q := 68) C (by exact hb1) dX0_unlinks_65 rfl ?_
      refine z_vret C hQ dX0_unlinks_68 (by omega) (by omega) ?_
      exact ⟨rfl, by rw [hz]; unfold delS2; rw [hn, ← ef]; rfl⟩
    | some q =>
      have hq : kd σ1 q = 2 := by rw [ek]; exact h3 q hn
      first | refine z_al1 (q := 30) C dX0_unlinks_29 rfl ?_ | refine z_al1q (q := 30) C dX0_unlinks_29 rfl ?_ | refine z_al1u (q := 30) C dX0_unlinks_29 rfl ?_
      first | refine xr_X0_137 (q := 33) C (by exact he1) (by exact hn) dX0_unlinks_30 rfl ?_ | refine xn_X0_137 (q := 33) C (by exact he1) (by exact hn) dX0_unlinks_30 rfl ?_
      refine z_ifnonnull_r (tgt := 47) C dX0_unlinks_33 (by decide) ?_
      first | refine z_al1 (q := 48) C dX0_unlinks_47 rfl ?_ | refine z_al1q (q := 48) C dX0_unlinks_47 rfl ?_ | refine z_al1u (q := 48) C dX0_unlinks_47 rfl ?_
      first | refine xr_X0_137 (q := 51) C (by exact he1) (by exact hn) dX0_unlinks_48 rfl ?_ | refine xn_X0_137 (q := 51) C (by exact he1) (by exact hn) dX0_unlinks_48 rfl ?_
      first | refine z_al1 (q := 52) C dX0_unlinks_51 rfl ?_ | refine z_al1q (q := 52) C dX0_unlinks_51 rfl ?_ | refine z_al1u (q := 52) C dX0_unlinks_51 rfl ?_
      refine xg_X0_134 (q := 55) C (by exact he1) dX0_unlinks_52 rfl ?_
      first | refine xpr_X0_134 (q := 58) C (by exact hq) dX0_unlinks_55 rfl ?_ | refine xpn_X0_134 (q := 58) C (by exact hq) dX0_unlinks_55 rfl ?_ | refine xp_X0_134 (q := 58) C (by exact hq) dX0_unlinks_55 rfl ?_
      first | refine z_al0 (q := 59) C dX0_unlinks_58 rfl ?_ | refine z_al0q (q := 59) C dX0_unlinks_58 rfl ?_ | refine z_al0u (q := 59) C dX0_unlinks_58 rfl ?_
      refine z_dup (q := 60) C dX0_unlinks_59 rfl rfl ?_
      refine xg_X0_142 (q := 63) C (by exact hb1) dX0_unlinks_60 rfl ?_
      refine z_iconst (q := 64) (v := nI 1) C dX0_unlinks_63 rfl (by decide) ?_
      refine z_isub (q := 65) C dX0_unlinks_64 rfl ?_
      refine xp_X0_142 (q := 68) C (by exact hb1) dX0_unlinks_65 rfl ?_
      refine z_vret C hQ dX0_unlinks_68 (by omega) (by omega) ?_
      exact ⟨rfl, by rw [hz]; unfold delS2; rw [hn, ← ef]; rfl⟩
  cases hp : fr σ 24 a with
  | none =>
    have ed : delS1 24 25 2 b a σ = sR 2 b (fr σ 25 a) σ := by unfold delS1; rw [hp]
    rw [ed] at h3
    first | refine z_al1 (q := 1) C dX0_unlinks_0 rfl ?_ | refine z_al1q (q := 1) C dX0_unlinks_0 rfl ?_ | refine z_al1u (q := 1) C dX0_unlinks_0 rfl ?_
    first | refine xr_X0_134 (q := 4) C (by first | exact ho | exact hk | exact hb | exact he | assumption) (by exact hp) dX0_unlinks_1 rfl ?_ | refine xn_X0_134 (q := 4) C (by first | exact ho | exact hk | exact hb | exact he | assumption) (by exact hp) dX0_unlinks_1 rfl ?_
    refine z_ifnonnull_u (q := 7) C dX0_unlinks_4 rfl ?_
    first | refine z_al0 (q := 8) C dX0_unlinks_7 rfl ?_ | refine z_al0q (q := 8) C dX0_unlinks_7 rfl ?_ | refine z_al0u (q := 8) C dX0_unlinks_7 rfl ?_
    first | refine z_al1 (q := 9) C dX0_unlinks_8 rfl ?_ | refine z_al1q (q := 9) C dX0_unlinks_8 rfl ?_ | refine z_al1u (q := 9) C dX0_unlinks_8 rfl ?_
    refine xg_X0_137 (q := 12) C (by first | exact ho | exact hk | exact hb | exact he | assumption) dX0_unlinks_9 rfl ?_
    first | refine xpr_X0_140 (q := 15) C (by first | exact ho | exact hk | exact hb | exact he | assumption) dX0_unlinks_12 rfl ?_ | refine xpn_X0_140 (q := 15) C (by first | exact ho | exact hk | exact hb | exact he | assumption) dX0_unlinks_12 rfl ?_ | refine xp_X0_140 (q := 15) C (by first | exact ho | exact hk | exact hb | exact he | assumption) dX0_unlinks_12 rfl ?_
    refine z_goto (tgt := 29) C dX0_unlinks_15 (by decide) ?_
    exact ph _ rfl rfl h3 (by unfold delS; rw [ed])
  | some p =>
    have ed : delS1 24 25 2 b a σ = sR 25 p (fr σ 25 a) σ := by unfold delS1; rw [hp]
    rw [ed] at h3
    have hpk := h2 p hp
    first | refine z_al1 (q := 1) C dX0_unlinks_0 rfl ?_ | refine z_al1q (q := 1) C dX0_unlinks_0 rfl ?_ | refine z_al1u (q := 1) C dX0_unlinks_0 rfl ?_
    first | refine xr_X0_134 (q := 4) C (by first | exact ho | exact hk | exact hb | exact he | assumption) (by exact hp) dX0_unlinks_1 rfl ?_ | refine xn_X0_134 (q := 4) C (by first | exact ho | exact hk | exact hb | exact he | assumption) (by exact hp) dX0_unlinks_1 rfl ?_
    refine z_ifnonnull_r (tgt := 18) C dX0_unlinks_4 (by decide) ?_
    first | refine z_al1 (q := 19) C dX0_unlinks_18 rfl ?_ | refine z_al1q (q := 19) C dX0_unlinks_18 rfl ?_ | refine z_al1u (q := 19) C dX0_unlinks_18 rfl ?_
    first | refine xr_X0_134 (q := 22) C (by first | exact ho | exact hk | exact hb | exact he | assumption) (by exact hp) dX0_unlinks_19 rfl ?_ | refine xn_X0_134 (q := 22) C (by first | exact ho | exact hk | exact hb | exact he | assumption) (by exact hp) dX0_unlinks_19 rfl ?_
    first | refine z_al1 (q := 23) C dX0_unlinks_22 rfl ?_ | refine z_al1q (q := 23) C dX0_unlinks_22 rfl ?_ | refine z_al1u (q := 23) C dX0_unlinks_22 rfl ?_
    refine xg_X0_137 (q := 26) C (by first | exact ho | exact hk | exact hb | exact he | assumption) dX0_unlinks_23 rfl ?_
    first | refine xpr_X0_137 (q := 29) C (by exact hpk) dX0_unlinks_26 rfl ?_ | refine xpn_X0_137 (q := 29) C (by exact hpk) dX0_unlinks_26 rfl ?_ | refine xp_X0_137 (q := 29) C (by exact hpk) dX0_unlinks_26 rfl ?_
    exact ph _ rfl rfl h3 (by unfold delS; rw [ed])
end T51
