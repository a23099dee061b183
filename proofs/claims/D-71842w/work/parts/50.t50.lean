/-! THE CLASS: rows linked both ways: what is done to the cells -/
set_option maxRecDepth 10000
/-- e comes behind all: fields gp (ahead) gn (behind) of entries, gf (first) gl (last) gm (many) of the holder -/
def appS (gp gn gf gl gm B a : Nat) (σ : Sg) : Sg := sI gm B (fi σ gm B + nI 1) (sR gl B (some a) (match fr σ gl B with
  | none => sR gf B (some a) (sR gn a none (sR gp a (fr σ gl B) σ))
  | some l => sR gn l (some a) (sR gn a none (sR gp a (fr σ gl B) σ))))
def delS1 (gp gn gf B a : Nat) (σ : Sg) : Sg := match fr σ gp a with
  | none => sR gf B (fr σ gn a) σ
  | some p => sR gn p (fr σ gn a) σ
def delS2 (gp gn gl B a : Nat) (σ : Sg) : Sg := match fr σ gn a with
  | none => sR gl B (fr σ gp a) σ
  | some q => sR gp q (fr σ gp a) σ
def delS (gp gn gf gl gm B a : Nat) (σ : Sg) : Sg := sI gm B (fi σ gm B - nI 1) (delS2 gp gn gl B a (delS1 gp gn gf B a σ))
section T50
variable {D : Dx} {o : Nat} {d : Nat}
theorem cx_comesB {σ : Sg} {b a : Nat} (hb : kd σ b = 3 ∨ kd σ b = 4) (he : kd σ a = 2) (h2 : ∀ l, fr σ 41 b = some l → kd σ l = 2) : Ct (wX D) yX3_comes cX3_comes 2 none [.ref b, .ref a] σ (PE none (appS 26 27 40 41 42 b a σ)) d 0 0 := by
  refine Ct.of KXok (by decide) (Nat.le_of_ble_eq_true rfl) rfl fun Y C hQ hNm => ?_
  cases hl : fr σ 41 b with
  | none =>
    first | refine z_al1 (q := 1) C dX3_comes_0 rfl ?_ | refine z_al1q (q := 1) C dX3_comes_0 rfl ?_ | refine z_al1u (q := 1) C dX3_comes_0 rfl ?_
    first | refine z_al0 (q := 2) C dX3_comes_1 rfl ?_ | refine z_al0q (q := 2) C dX3_comes_1 rfl ?_ | refine z_al0u (q := 2) C dX3_comes_1 rfl ?_
    first | refine xr_X3_7 (q := 5) C (by first | exact ho | exact hk | exact hb | exact he | assumption) (by exact hl) dX3_comes_2 rfl ?_ | refine xn_X3_7 (q := 5) C (by first | exact ho | exact hk | exact hb | exact he | assumption) (by exact hl) dX3_comes_2 rfl ?_
    first | refine xpr_X3_13 (q := 8) C (by first | exact ho | exact hk | exact hb | exact he | assumption) dX3_comes_5 rfl ?_ | refine xpn_X3_13 (q := 8) C (by first | exact ho | exact hk | exact hb | exact he | assumption) dX3_comes_5 rfl ?_ | refine xp_X3_13 (q := 8) C (by first | exact ho | exact hk | exact hb | exact he | assumption) dX3_comes_5 rfl ?_
    first | refine z_al1 (q := 9) C dX3_comes_8 rfl ?_ | refine z_al1q (q := 9) C dX3_comes_8 rfl ?_ | refine z_al1u (q := 9) C dX3_comes_8 rfl ?_
    refine z_null (q := 10) C dX3_comes_9 rfl ?_
    first | refine xpr_X3_18 (q := 13) C (by first | exact ho | exact hk | exact hb | exact he | assumption) dX3_comes_10 rfl ?_ | refine xpn_X3_18 (q := 13) C (by first | exact ho | exact hk | exact hb | exact he | assumption) dX3_comes_10 rfl ?_ | refine xp_X3_18 (q := 13) C (by first | exact ho | exact hk | exact hb | exact he | assumption) dX3_comes_10 rfl ?_
    first | refine z_al0 (q := 14) C dX3_comes_13 rfl ?_ | refine z_al0q (q := 14) C dX3_comes_13 rfl ?_ | refine z_al0u (q := 14) C dX3_comes_13 rfl ?_
    first | refine xr_X3_7 (q := 17) C (by first | exact ho | exact hk | exact hb | exact he | assumption) (by exact hl) dX3_comes_14 rfl ?_ | refine xn_X3_7 (q := 17) C (by first | exact ho | exact hk | exact hb | exact he | assumption) (by exact hl) dX3_comes_14 rfl ?_
    refine z_ifnonnull_u (q := 20) C dX3_comes_17 rfl ?_
    first | refine z_al0 (q := 21) C dX3_comes_20 rfl ?_ | refine z_al0q (q := 21) C dX3_comes_20 rfl ?_ | refine z_al0u (q := 21) C dX3_comes_20 rfl ?_
    first | refine z_al1 (q := 22) C dX3_comes_21 rfl ?_ | refine z_al1q (q := 22) C dX3_comes_21 rfl ?_ | refine z_al1u (q := 22) C dX3_comes_21 rfl ?_
    first | refine xpr_X3_21 (q := 25) C (by first | exact ho | exact hk | exact hb | exact he | assumption) dX3_comes_22 rfl ?_ | refine xpn_X3_21 (q := 25) C (by first | exact ho | exact hk | exact hb | exact he | assumption) dX3_comes_22 rfl ?_ | refine xp_X3_21 (q := 25) C (by first | exact ho | exact hk | exact hb | exact he | assumption) dX3_comes_22 rfl ?_
    refine z_goto (tgt := 36) C dX3_comes_25 (by decide) ?_
    first | refine z_al0 (q := 37) C dX3_comes_36 rfl ?_ | refine z_al0q (q := 37) C dX3_comes_36 rfl ?_ | refine z_al0u (q := 37) C dX3_comes_36 rfl ?_
    first | refine z_al1 (q := 38) C dX3_comes_37 rfl ?_ | refine z_al1q (q := 38) C dX3_comes_37 rfl ?_ | refine z_al1u (q := 38) C dX3_comes_37 rfl ?_
    first | refine xpr_X3_7 (q := 41) C (by first | exact ho | exact hk | exact hb | exact he | assumption) dX3_comes_38 rfl ?_ | refine xpn_X3_7 (q := 41) C (by first | exact ho | exact hk | exact hb | exact he | assumption) dX3_comes_38 rfl ?_ | refine xp_X3_7 (q := 41) C (by first | exact ho | exact hk | exact hb | exact he | assumption) dX3_comes_38 rfl ?_
    first | refine z_al0 (q := 42) C dX3_comes_41 rfl ?_ | refine z_al0q (q := 42) C dX3_comes_41 rfl ?_ | refine z_al0u (q := 42) C dX3_comes_41 rfl ?_
    refine z_dup (q := 43) C dX3_comes_42 rfl rfl ?_
    refine xg_X3_24 (q := 46) C (by first | exact ho | exact hk | exact hb | exact he | assumption) dX3_comes_43 rfl ?_
    refine z_iconst (q := 47) (v := nI 1) C dX3_comes_46 rfl (by decide) ?_
    first | refine z_iaddN (q := 48) C dX3_comes_47 rfl ?_ | refine z_iadd (q := 48) C dX3_comes_47 rfl ?_
    refine xp_X3_24 (q := 51) C (by first | exact ho | exact hk | exact hb | exact he | assumption) dX3_comes_48 rfl ?_
    refine z_vret C hQ dX3_comes_51 (by omega) (by omega) ?_
    exact ⟨rfl, by unfold appS; rw [hl]; rfl⟩
  | some l =>
    have hL := h2 l hl
    first | refine z_al1 (q := 1) C dX3_comes_0 rfl ?_ | refine z_al1q (q := 1) C dX3_comes_0 rfl ?_ | refine z_al1u (q := 1) C dX3_comes_0 rfl ?_
    first | refine z_al0 (q := 2) C dX3_comes_1 rfl ?_ | refine z_al0q (q := 2) C dX3_comes_1 rfl ?_ | refine z_al0u (q := 2) C dX3_comes_1 rfl ?_
    first | refine xr_X3_7 (q := 5) C (by first | exact ho | exact hk | exact hb | exact he | assumption) (by exact hl) dX3_comes_2 rfl ?_ | refine xn_X3_7 (q := 5) C (by first | exact ho | exact hk | exact hb | exact he | assumption) (by exact hl) dX3_comes_2 rfl ?_
    first | refine xpr_X3_13 (q := 8) C (by first | exact ho | exact hk | exact hb | exact he | assumption) dX3_comes_5 rfl ?_ | refine xpn_X3_13 (q := 8) C (by first | exact ho | exact hk | exact hb | exact he | assumption) dX3_comes_5 rfl ?_ | refine xp_X3_13 (q := 8) C (by first | exact ho | exact hk | exact hb | exact he | assumption) dX3_comes_5 rfl ?_
    first | refine z_al1 (q := 9) C dX3_comes_8 rfl ?_ | refine z_al1q (q := 9) C dX3_comes_8 rfl ?_ | refine z_al1u (q := 9) C dX3_comes_8 rfl ?_
    refine z_null (q := 10) C dX3_comes_9 rfl ?_
    first | refine xpr_X3_18 (q := 13) C (by first | exact ho | exact hk | exact hb | exact he | assumption) dX3_comes_10 rfl ?_ | refine xpn_X3_18 (q := 13) C (by first | exact ho | exact hk | exact hb | exact he | assumption) dX3_comes_10 rfl ?_ | refine xp_X3_18 (q := 13) C (by first | exact ho | exact hk | exact hb | exact he | assumption) dX3_comes_10 rfl ?_
    first | refine z_al0 (q := 14) C dX3_comes_13 rfl ?_ | refine z_al0q (q := 14) C dX3_comes_13 rfl ?_ | refine z_al0u (q := 14) C dX3_comes_13 rfl ?_
    first | refine xr_X3_7 (q := 17) C (by first | exact ho | exact hk | exact hb | exact he | assumption) (by exact hl) dX3_comes_14 rfl ?_ | refine xn_X3_7 (q := 17) C (by first | exact ho | exact hk | exact hb | exact he | assumption) (by exact hl) dX3_comes_14 rfl ?_
    refine z_ifnonnull_r (tgt := 28) C dX3_comes_17 (by decide) ?_
    first | refine z_al0 (q := 29) C dX3_comes_28 rfl ?_ | refine z_al0q (q := 29) C dX3_comes_28 rfl ?_ | refine z_al0u (q := 29) C dX3_comes_28 rfl ?_
    first | refine xr_X3_7 (q := 32) C (by first | exact ho | exact hk | exact hb | exact he | assumption) (by exact hl) dX3_comes_29 rfl ?_ | refine xn_X3_7 (q := 32) C (by first | exact ho | exact hk | exact hb | exact he | assumption) (by exact hl) dX3_comes_29 rfl ?_
    first | refine z_al1 (q := 33) C dX3_comes_32 rfl ?_ | refine z_al1q (q := 33) C dX3_comes_32 rfl ?_ | refine z_al1u (q := 33) C dX3_comes_32 rfl ?_
    first | refine xpr_X3_18 (q := 36) C (by exact hL) dX3_comes_33 rfl ?_ | refine xpn_X3_18 (q := 36) C (by exact hL) dX3_comes_33 rfl ?_ | refine xp_X3_18 (q := 36) C (by exact hL) dX3_comes_33 rfl ?_
    first | refine z_al0 (q := 37) C dX3_comes_36 rfl ?_ | refine z_al0q (q := 37) C dX3_comes_36 rfl ?_ | refine z_al0u (q := 37) C dX3_comes_36 rfl ?_
    first | refine z_al1 (q := 38) C dX3_comes_37 rfl ?_ | refine z_al1q (q := 38) C dX3_comes_37 rfl ?_ | refine z_al1u (q := 38) C dX3_comes_37 rfl ?_
    first | refine xpr_X3_7 (q := 41) C (by first | exact ho | exact hk | exact hb | exact he | assumption) dX3_comes_38 rfl ?_ | refine xpn_X3_7 (q := 41) C (by first | exact ho | exact hk | exact hb | exact he | assumption) dX3_comes_38 rfl ?_ | refine xp_X3_7 (q := 41) C (by first | exact ho | exact hk | exact hb | exact he | assumption) dX3_comes_38 rfl ?_
    first | refine z_al0 (q := 42) C dX3_comes_41 rfl ?_ | refine z_al0q (q := 42) C dX3_comes_41 rfl ?_ | refine z_al0u (q := 42) C dX3_comes_41 rfl ?_
    refine z_dup (q := 43) C dX3_comes_42 rfl rfl ?_
    refine xg_X3_24 (q := 46) C (by first | exact ho | exact hk | exact hb | exact he | assumption) dX3_comes_43 rfl ?_
    refine z_iconst (q := 47) (v := nI 1) C dX3_comes_46 rfl (by decide) ?_
    first | refine z_iaddN (q := 48) C dX3_comes_47 rfl ?_ | refine z_iadd (q := 48) C dX3_comes_47 rfl ?_
    refine xp_X3_24 (q := 51) C (by first | exact ho | exact hk | exact hb | exact he | assumption) dX3_comes_48 rfl ?_
    refine z_vret C hQ dX3_comes_51 (by omega) (by omega) ?_
    exact ⟨rfl, by unfold appS; rw [hl]; rfl⟩
theorem cx_links {σ : Sg} {b a : Nat} (hb : kd σ b = 1) (he : kd σ a = 2) (h2 : ∀ l, fr σ 3 b = some l → kd σ l = 2) : Ct (wX D) yX0_links cX0_links 2 none [.ref b, .ref a] σ (PE none (appS 24 25 2 3 4 b a σ)) d 0 0 := by
  refine Ct.of KXok (by decide) (Nat.le_of_ble_eq_true rfl) rfl fun Y C hQ hNm => ?_
  cases hl : fr σ 3 b with
  | none =>
    first | refine z_al1 (q := 1) C dX0_links_0 rfl ?_ | refine z_al1q (q := 1) C dX0_links_0 rfl ?_ | refine z_al1u (q := 1) C dX0_links_0 rfl ?_
    first | refine z_al0 (q := 2) C dX0_links_1 rfl ?_ | refine z_al0q (q := 2) C dX0_links_1 rfl ?_ | refine z_al0u (q := 2) C dX0_links_1 rfl ?_
    first | refine xr_X0_131 (q := 5) C (by first | exact ho | exact hk | exact hb | exact he | assumption) (by exact hl) dX0_links_2 rfl ?_ | refine xn_X0_131 (q := 5) C (by first | exact ho | exact hk | exact hb | exact he | assumption) (by exact hl) dX0_links_2 rfl ?_
    first | refine xpr_X0_134 (q := 8) C (by first | exact ho | exact hk | exact hb | exact he | assumption) dX0_links_5 rfl ?_ | refine xpn_X0_134 (q := 8) C (by first | exact ho | exact hk | exact hb | exact he | assumption) dX0_links_5 rfl ?_ | refine xp_X0_134 (q := 8) C (by first | exact ho | exact hk | exact hb | exact he | assumption) dX0_links_5 rfl ?_
    first | refine z_al1 (q := 9) C dX0_links_8 rfl ?_ | refine z_al1q (q := 9) C dX0_links_8 rfl ?_ | refine z_al1u (q := 9) C dX0_links_8 rfl ?_
    refine z_null (q := 10) C dX0_links_9 rfl ?_
    first | refine xpr_X0_137 (q := 13) C (by first | exact ho | exact hk | exact hb | exact he | assumption) dX0_links_10 rfl ?_ | refine xpn_X0_137 (q := 13) C (by first | exact ho | exact hk | exact hb | exact he | assumption) dX0_links_10 rfl ?_ | refine xp_X0_137 (q := 13) C (by first | exact ho | exact hk | exact hb | exact he | assumption) dX0_links_10 rfl ?_
    first | refine z_al0 (q := 14) C dX0_links_13 rfl ?_ | refine z_al0q (q := 14) C dX0_links_13 rfl ?_ | refine z_al0u (q := 14) C dX0_links_13 rfl ?_
    first | refine xr_X0_131 (q := 17) C (by first | exact ho | exact hk | exact hb | exact he | assumption) (by exact hl) dX0_links_14 rfl ?_ | refine xn_X0_131 (q := 17) C (by first | exact ho | exact hk | exact hb | exact he | assumption) (by exact hl) dX0_links_14 rfl ?_
    refine z_ifnonnull_u (q := 20) C dX0_links_17 rfl ?_
    first | refine z_al0 (q := 21) C dX0_links_20 rfl ?_ | refine z_al0q (q := 21) C dX0_links_20 rfl ?_ | refine z_al0u (q := 21) C dX0_links_20 rfl ?_
    first | refine z_al1 (q := 22) C dX0_links_21 rfl ?_ | refine z_al1q (q := 22) C dX0_links_21 rfl ?_ | refine z_al1u (q := 22) C dX0_links_21 rfl ?_
    first | refine xpr_X0_140 (q := 25) C (by first | exact ho | exact hk | exact hb | exact he | assumption) dX0_links_22 rfl ?_ | refine xpn_X0_140 (q := 25) C (by first | exact ho | exact hk | exact hb | exact he | assumption) dX0_links_22 rfl ?_ | refine xp_X0_140 (q := 25) C (by first | exact ho | exact hk | exact hb | exact he | assumption) dX0_links_22 rfl ?_
    refine z_goto (tgt := 36) C dX0_links_25 (by decide) ?_
    first | refine z_al0 (q := 37) C dX0_links_36 rfl ?_ | refine z_al0q (q := 37) C dX0_links_36 rfl ?_ | refine z_al0u (q := 37) C dX0_links_36 rfl ?_
    first | refine z_al1 (q := 38) C dX0_links_37 rfl ?_ | refine z_al1q (q := 38) C dX0_links_37 rfl ?_ | refine z_al1u (q := 38) C dX0_links_37 rfl ?_
    first | refine xpr_X0_131 (q := 41) C (by first | exact ho | exact hk | exact hb | exact he | assumption) dX0_links_38 rfl ?_ | refine xpn_X0_131 (q := 41) C (by first | exact ho | exact hk | exact hb | exact he | assumption) dX0_links_38 rfl ?_ | refine xp_X0_131 (q := 41) C (by first | exact ho | exact hk | exact hb | exact he | assumption) dX0_links_38 rfl ?_
    first | refine z_al0 (q := 42) C dX0_links_41 rfl ?_ | refine z_al0q (q := 42) C dX0_links_41 rfl ?_ | refine z_al0u (q := 42) C dX0_links_41 rfl ?_
    refine z_dup (q := 43) C dX0_links_42 rfl rfl ?_
    refine xg_X0_142 (q := 46) C (by first | exact ho | exact hk | exact hb | exact he | assumption) dX0_links_43 rfl ?_
    refine z_iconst (q := 47) (v := nI 1) C dX0_links_46 rfl (by decide) ?_
    first | refine z_iaddN (q := 48) C dX0_links_47 rfl ?_ | refine z_iadd (q := 48) C dX0_links_47 rfl ?_
    refine xp_X0_142 (q := 51) C (by first | exact ho | exact hk | exact hb | exact he | assumption) dX0_links_48 rfl ?_
    refine z_vret C hQ dX0_links_51 (by omega) (by omega) ?_
    exact ⟨rfl, by unfold appS; rw [hl]; rfl⟩
  | some l =>
    have hL := h2 l hl
    first | refine z_al1 (q := 1) C dX0_links_0 rfl ?_ | refine z_al1q (q := 1) C dX0_links_0 rfl ?_ | refine z_al1u (q := 1) C dX0_links_0 rfl ?_
    first | refine z_al0 (q := 2) C dX0_links_1 rfl ?_ | refine z_al0q (q := 2) C dX0_links_1 rfl ?_ | refine z_al0u (q := 2) C dX0_links_1 rfl ?_
    first | refine xr_X0_131 (q := 5) C (by first | exact ho | exact hk | exact hb | exact he | assumption) (by exact hl) dX0_links_2 rfl ?_ | refine xn_X0_131 (q := 5) C (by first | exact ho | exact hk | exact hb | exact he | assumption) (by exact hl) dX0_links_2 rfl ?_
    first | refine xpr_X0_134 (q := 8) C (by first | exact ho | exact hk | exact hb | exact he | assumption) dX0_links_5 rfl ?_ | refine xpn_X0_134 (q := 8) C (by first | exact ho | exact hk | exact hb | exact he | assumption) dX0_links_5 rfl ?_ | refine xp_X0_134 (q := 8) C (by first | exact ho | exact hk | exact hb | exact he | assumption) dX0_links_5 rfl ?_
    first | refine z_al1 (q := 9) C dX0_links_8 rfl ?_ | refine z_al1q (q := 9) C dX0_links_8 rfl ?_ | refine z_al1u (q := 9) C dX0_links_8 rfl ?_
    refine z_null (q := 10) C dX0_links_9 rfl ?_
    first | refine xpr_X0_137 (q := 13) C (by first | exact ho | exact hk | exact hb | exact he | assumption) dX0_links_10 rfl ?_ | refine xpn_X0_137 (q := 13) C (by first | exact ho | exact hk | exact hb | exact he | assumption) dX0_links_10 rfl ?_ | refine xp_X0_137 (q := 13) C (by first | exact ho | exact hk | exact hb | exact he | assumption) dX0_links_10 rfl ?_
    first | refine z_al0 (q := 14) C dX0_links_13 rfl ?_ | refine z_al0q (q := 14) C dX0_links_13 rfl ?_ | refine z_al0u (q := 14) C dX0_links_13 rfl ?_
    first | refine xr_X0_131 (q := 17) C (by first | exact ho | exact hk | exact hb | exact he | assumption) (by exact hl) dX0_links_14 rfl ?_ | refine xn_X0_131 (q := 17) C (by first | exact ho | exact hk | exact hb | exact he | assumption) (by exact hl) dX0_links_14 rfl ?_
    refine z_ifnonnull_r (tgt := 28) C dX0_links_17 (by decide) ?_
    first | refine z_al0 (q := 29) C dX0_links_28 rfl ?_ | refine z_al0q (q := 29) C dX0_links_28 rfl ?_ | refine z_al0u (q := 29) C dX0_links_28 rfl ?_
    first | refine xr_X0_131 (q := 32) C (by first | exact ho | exact hk | exact hb | exact he | assumption) (by exact hl) dX0_links_29 rfl ?_ | refine xn_X0_131 (q := 32) C (by first | exact ho | exact hk | exact hb | exact he | assumption) (by exact hl) dX0_links_29 rfl ?_
    first | refine z_al1 (q := 33) C dX0_links_32 rfl ?_ | refine z_al1q (q := 33) C dX0_links_32 rfl ?_ | refine z_al1u (q := 33) C dX0_links_32 rfl ?_
    first | refine xpr_X0_137 (q := 36) C (by exact hL) dX0_links_33 rfl ?_ | refine xpn_X0_137 (q := 36) C (by exact hL) dX0_links_33 rfl ?_ | refine xp_X0_137 (q := 36) C (by exact hL) dX0_links_33 rfl ?_
    first | refine z_al0 (q := 37) C dX0_links_36 rfl ?_ | refine z_al0q (q := 37) C dX0_links_36 rfl ?_ | refine z_al0u (q := 37) C dX0_links_36 rfl ?_
    first | refine z_al1 (q := 38) C dX0_links_37 rfl ?_ | refine z_al1q (q := 38) C dX0_links_37 rfl ?_ | refine z_al1u (q := 38) C dX0_links_37 rfl ?_
    first | refine xpr_X0_131 (q := 41) C (by first | exact ho | exact hk | exact hb | exact he | assumption) dX0_links_38 rfl ?_ | refine xpn_X0_131 (q := 41) C (by first | exact ho | exact hk | exact hb | exact he | assumption) dX0_links_38 rfl ?_ | refine xp_X0_131 (q := 41) C (by first | exact ho | exact hk | exact hb | exact he | assumption) dX0_links_38 rfl ?_
    first | refine z_al0 (q := 42) C dX0_links_41 rfl ?_ | refine z_al0q (q := 42) C dX0_links_41 rfl ?_ | refine z_al0u (q := 42) C dX0_links_41 rfl ?_
    refine z_dup (q := 43) C dX0_links_42 rfl rfl ?_
    refine xg_X0_142 (q := 46) C (by first | exact ho | exact hk | exact hb | exact he | assumption) dX0_links_43 rfl ?_
    refine z_iconst (q := 47) (v := nI 1) C dX0_links_46 rfl (by decide) ?_
    first | refine z_iaddN (q := 48) C dX0_links_47 rfl ?_ | refine z_iadd (q := 48) C dX0_links_47 rfl ?_
    refine xp_X0_142 (q := 51) C (by first | exact ho | exact hk | exact hb | exact he | assumption) dX0_links_48 rfl ?_
    refine z_vret C hQ dX0_links_51 (by omega) (by omega) ?_
    exact ⟨rfl, by unfold appS; rw [hl]; rfl⟩
theorem cx_first {σ : Sg} {b : Nat} (hb : kd σ b = 3 ∨ kd σ b = 4) : Ct (wX D) yX3_first cX3_first 1 (some (.object "CrowdedBins$Entry")) [.ref b] σ (PE (some (va_rf (fr σ 40 b))) σ) d 0 0 := by
  refine Ct.of KXok (by decide) (Nat.le_of_ble_eq_true rfl) rfl fun Y C hQ hNm => ?_
  first | refine z_al0 (q := 1) C dX3_first_0 rfl ?_ | refine z_al0q (q := 1) C dX3_first_0 rfl ?_ | refine z_al0u (q := 1) C dX3_first_0 rfl ?_
  refine xg_X3_21 (q := 4) C (by first | exact ho | exact hk | exact hb | exact he | assumption) dX3_first_1 rfl ?_
  first | refine z_aret C hQ (Or.inl ⟨_, rfl⟩) dX3_first_4 (by omega) (by omega) ?_ | refine z_aret (r := some _) C hQ (Or.inl ⟨_, rfl⟩) dX3_first_4 (by omega) (by omega) ?_ | refine z_aret (r := none) C hQ (Or.inl ⟨_, rfl⟩) dX3_first_4 (by omega) (by omega) ?_
  exact ⟨rfl, rfl⟩
theorem cx_size {σ : Sg} {b : Nat} (hb : kd σ b = 3 ∨ kd σ b = 4) : Ct (wX D) yX3_size cX3_size 1 (some .int) [.ref b] σ (PE (some (.int (fi σ 42 b))) σ) d 0 0 := by
  refine Ct.of KXok (by decide) (Nat.le_of_ble_eq_true rfl) rfl fun Y C hQ hNm => ?_
  first | refine z_al0 (q := 1) C dX3_size_0 rfl ?_ | refine z_al0q (q := 1) C dX3_size_0 rfl ?_ | refine z_al0u (q := 1) C dX3_size_0 rfl ?_
  refine xg_X3_24 (q := 4) C (by first | exact ho | exact hk | exact hb | exact he | assumption) dX3_size_1 rfl ?_
  refine z_iret C hQ dX3_size_4 (by omega) (by omega) ?_
  exact ⟨rfl, rfl⟩
theorem cx_rootB {σ : Sg} {b : Nat} : Ct (wX D) yX3_root cX3_root 1 (some (.object "CrowdedBins$Entry")) [.ref b] σ (PE (some .null) σ) d 0 0 := by
  refine Ct.of KXok (by decide) (Nat.le_of_ble_eq_true rfl) rfl fun Y C hQ hNm => ?_
  refine z_null (q := 1) C dX3_root_0 rfl ?_
  refine z_aret (r := none) C hQ (Or.inl ⟨_, rfl⟩) dX3_root_1 (by omega) (by omega) ?_
  exact ⟨rfl, rfl⟩
theorem cx_levelsB {σ : Sg} {b : Nat} : Ct (wX D) yX3_levels cX3_levels 1 (some .int) [.ref b] σ (PE (some (.int (nI 0))) σ) d 0 0 := by
  refine Ct.of KXok (by decide) (Nat.le_of_ble_eq_true rfl) rfl fun Y C hQ hNm => ?_
  refine z_iconst (q := 1) (v := nI 0) C dX3_levels_0 rfl (by decide) ?_
  refine z_iret C hQ dX3_levels_1 (by omega) (by omega) ?_
  exact ⟨rfl, rfl⟩
theorem cx_rootT {σ : Sg} {b : Nat} (hb : kd σ b = 4) : Ct (wX D) yX8_root cX8_root 1 (some (.object "CrowdedBins$Entry")) [.ref b] σ (PE (some (va_rf (fr σ 60 b))) σ) d 0 0 := by
  refine Ct.of KXok (by decide) (Nat.le_of_ble_eq_true rfl) rfl fun Y C hQ hNm => ?_
  first | refine z_al0 (q := 1) C dX8_root_0 rfl ?_ | refine z_al0q (q := 1) C dX8_root_0 rfl ?_ | refine z_al0u (q := 1) C dX8_root_0 rfl ?_
  refine xg_X8_11 (q := 4) C (by first | exact ho | exact hk | exact hb | exact he | assumption) dX8_root_1 rfl ?_
  first | refine z_aret C hQ (Or.inl ⟨_, rfl⟩) dX8_root_4 (by omega) (by omega) ?_ | refine z_aret (r := some _) C hQ (Or.inl ⟨_, rfl⟩) dX8_root_4 (by omega) (by omega) ?_ | refine z_aret (r := none) C hQ (Or.inl ⟨_, rfl⟩) dX8_root_4 (by omega) (by omega) ?_
  exact ⟨rfl, rfl⟩
theorem cx_initB {σ : Sg} {b : Nat} : Ct (wX D) yX3_init cX3_init 1 none [.ref b] σ (PE none σ) d 0 0 := by
  refine Ct.of KXok (by decide) (Nat.le_of_ble_eq_true rfl) rfl fun Y C hQ hNm => ?_
  first | refine z_al0 (q := 1) C dX3_init_0 rfl ?_ | refine z_al0q (q := 1) C dX3_init_0 rfl ?_ | refine z_al0u (q := 1) C dX3_init_0 rfl ?_
  refine z_objInit (q := 4) C dX3_init_1 rfl q158 (Nat.le_of_ble_eq_true rfl) ?_
  refine z_vret C hQ dX3_init_4 (by omega) (by omega) ?_
  exact ⟨rfl, rfl⟩
theorem cx_initL {σ : Sg} {b : Nat} : Ct (wX D) yX4_init cX4_init 1 none [.ref b] σ (PE none σ) (d + 1) 0 0 := by
  refine Ct.of KXok (by decide) (Nat.le_of_ble_eq_true rfl) rfl fun Y C hQ hNm => ?_
  first | refine z_al0 (q := 1) C dX4_init_0 rfl ?_ | refine z_al0q (q := 1) C dX4_init_0 rfl ?_ | refine z_al0u (q := 1) C dX4_init_0 rfl ?_
  refine xc_X4_1 (q := 4) C (cx_initB (d := d)) dX4_init_1 rfl rfl rfl (Nat.le_of_ble_eq_true rfl) (by first | decide | omega) (by omega) (by omega) (kkN ?_)
  refine z_vret C hQ dX4_init_4 (by omega) (by omega) ?_
  exact ⟨rfl, rfl⟩
theorem cx_initT {σ : Sg} {b : Nat} : Ct (wX D) yX8_init cX8_init 1 none [.ref b] σ (PE none σ) (d + 1) 0 0 := by
  refine Ct.of KXok (by decide) (Nat.le_of_ble_eq_true rfl) rfl fun Y C hQ hNm => ?_
  first | refine z_al0 (q := 1) C dX8_init_0 rfl ?_ | refine z_al0q (q := 1) C dX8_init_0 rfl ?_ | refine z_al0u (q := 1) C dX8_init_0 rfl ?_
  refine xc_X8_1 (q := 4) C (cx_initB (d := d)) dX8_init_1 rfl rfl rfl (Nat.le_of_ble_eq_true rfl) (by first | decide | omega) (by omega) (by omega) (kkN ?_)
  refine z_vret C hQ dX8_init_4 (by omega) (by omega) ?_
  exact ⟨rfl, rfl⟩
theorem cx_initS {σ : Sg} {b : Nat} : Ct (wX D) yX6_init cX6_init 1 none [.ref b] σ (PE none σ) d 0 0 := by
  refine Ct.of KXok (by decide) (Nat.le_of_ble_eq_true rfl) rfl fun Y C hQ hNm => ?_
  first | refine z_al0 (q := 1) C dX6_init_0 rfl ?_ | refine z_al0q (q := 1) C dX6_init_0 rfl ?_ | refine z_al0u (q := 1) C dX6_init_0 rfl ?_
  refine z_objInit (q := 4) C dX6_init_1 rfl q308 (Nat.le_of_ble_eq_true rfl) ?_
  refine z_vret C hQ dX6_init_4 (by omega) (by omega) ?_
  exact ⟨rfl, rfl⟩
end T50
