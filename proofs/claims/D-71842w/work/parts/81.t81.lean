/-! THE CLASS: cursors -/
set_option maxRecDepth 10000
def FU (cu : Nat) (σ σ' : Sg) : Prop := FR (fun g x => (g = 82 ∨ g = 83) ∧ x = cu) (fun g x => (g = 80 ∨ g = 81) ∧ x = cu) (fun _ => False) σ σ'
theorem FU.fg {cu : Nat} {σ σ' : Sg} (h : FU cu σ σ') : FG [82, 83] [80, 81] [] σ σ' := FR.mono h (fun g _ _ z => by simp; exact z.1) (fun g _ _ z => by simp; exact z.1) (fun _ _ z => z.elim)
section X81
variable {D : Dx} {p ad : Nat → Nat} {σ σ' : Sg} {B : Nat → Nat} {α : Al} {N : Nat} {d : Nat}
theorem XA.cur (hX : FX p σ) (hq : fi σ 13 (p 0) = bI false) (hC : XC ad (p 0) (p 1) σ B (a_c α)) (hU : XU D p ad σ (k_ks (a_c α)) (a_ch α) (a_cu α)) (hP : XP p σ (a_ps α)) (h9 : fi σ 9 (p 0) = nI (a_ch α)) (hR : XR p σ (a_rf α) (a_tx α)) {cn w : Nat} {u : Cu} (hcn : cn < 3) (hF : FU (p (8 + cn)) σ σ') (hu1 : u.1 = some w) (u80 : fr σ' 80 (p (8 + cn)) = some (D.2.2.2 w)) (u82 : fi σ' 82 (p (8 + cn)) = oI u.2.2.1) (u83 : fi σ' 83 (p (8 + cn)) = nI u.2.2.2)
    (u81 : u.2.2.2 = a_ch α → fr σ' 81 (p (8 + cn)) = u.2.1.map ad ∧ (∀ k, u.2.1 = some k → k ∈ k_ks (a_c α) ∧ u.2.2.1 ≠ some k) ∧ ∀ k, u.2.2.1 = some k → k ∈ k_ks (a_c α)) : XA false D p σ' (a_cur α cn u) := by
  have hG := hF.fg
  refine ⟨hX.keep hG (by simp) (by simp), by rw [hG.gi (by have := hX.1.1; omega) (by simp)]; exact hq, ⟨ad, B, hC.keep hX.1 hG (by simp) (by simp) (by simp), fun i hi => ?_⟩, hP.keep hX hG (by simp) (by simp) (by simp) (by simp), by rw [hG.gi (by have := hX.1.1; omega) (by simp)]; exact h9, hR.keep hX hG (by simp) (by simp) (by simp) (by simp)⟩
  by_cases e : i = cn
  · subst e
    have eu : a_cu (a_cur α i u) i = u := if_pos rfl
    rw [eu]
    refine ⟨fun z => (by rw [hu1] at z; cases z), fun w' hw' => ?_⟩
    rw [hu1] at hw'
    cases hw'
    exact ⟨u80, u82, u83, u81⟩
  · have eu : a_cu (a_cur α cn u) i = a_cu α i := if_neg e
    rw [eu]
    have hne : p (8 + i) ≠ p (8 + cn) := fun z => e (hX.2.2.2.2.2.2.2.2.2 i cn hi hcn z)
    have hn : kd σ (p (8 + i)) ≠ 0 := by have := (hX.2.2.2.2.2.2.2.1 i hi).2; omega
    rw [hF.2.1 82 _ hn (fun z => hne z.2), hF.2.1 83 _ hn (fun z => hne z.2), hF.2.2.1 80 _ hn (fun z => hne z.2), hF.2.2.1 81 _ hn (fun z => hne z.2)]
    exact hU i hi
theorem a_lk_b {c : Int32} (h : inB c (nI 0) (nI 2) = false) : a_lk α c = -2 := if_neg (by rw [h]; decide)
theorem a_lk_n {cn : Nat} (hc : inB (nI cn) (nI 0) (nI 2) = true) (hk : kN (nI cn) = cn) (h : (a_cu α cn).1 = none) : a_lk α (nI cn) = -3 := by
  unfold a_lk
  rw [if_pos hc, hk, if_pos h]
theorem a_lk_s {cn w : Nat} (hc : inB (nI cn) (nI 0) (nI 2) = true) (hk : kN (nI cn) = cn) (h : (a_cu α cn).1 = some w) : a_lk α (nI cn) = if (a_cu α cn).2.2.2 = a_ch α then nI 0 else -6 := by
  unfold a_lk
  rw [if_pos hc, hk, if_neg (by rw [h]; simp)]
theorem cur_of {c : Int32} (h : inB c (nI 0) (nI 2) = true) : ∃ cn, cn < 3 ∧ c = nI cn ∧ kN (nI cn) = cn := by
  obtain ⟨ec, hc⟩ := in_of (by decide) h
  exact ⟨kN c, by omega, ec, by rw [← ec]⟩
set_option maxHeartbeats 1000000 in
theorem cx_opens (h : XA false D p σ α) (hA : AI N α) (c w : Int32) : Ct (wX D) yX0_opens cX0_opens 4 (some .int) [.ref (p 0), .int c, .int w] σ (PI (fun r σ' => r = (a_opens α c w).1 ∧ XA false D p σ' (a_opens α c w).2)) 64 300 1500 := by
  obtain ⟨ad, B, hX, hq, hC, hU, hP, h9, hR⟩ := h.num
  have ho := hX.1.1
  obtain ⟨r16, k5, l5⟩ := hX.2.2.2.2.1
  obtain ⟨r10, k2, l2⟩ := hX.2.1
  have hI := hA.1
  refine Ct.of KXok (by decide) (Nat.le_of_ble_eq_true rfl) rfl fun Y C hQ hNm => ?_
  cases hi : (inB c (nI 0) (nI 2) && inB w (nI 0) (nI 2)) with
  | false =>
    have e1 : a_opens α c w = (-2, a_rfs α 0) := if_neg (by rw [hi]; decide)
    rw [e1] at hQ
    have hb := h.rfs hA (i := 0) (by decide)
    refine z_il1 (q := 1) C dX0_opens_0 rfl ?_
    refine xc_X0_307 (q := 4) C (cx_isCursor (d := 0) σ c) dX0_opens_1 rfl rfl rfl (Nat.le_of_ble_eq_true rfl) (by first | decide | omega) (by omega) (by omega) (kkE ?_)
    first | refine z_if_eqB (tgt := 23) (q := 7) C dX0_opens_4 (by decide) rfl (fun c4 => ?_) (fun c4 => ?_) | refine z_if_eq (tgt := 23) (q := 7) C dX0_opens_4 (by decide) rfl (fun c4 => ?_) (fun c4 => ?_)
    · first | refine z_al0 (q := 24) C dX0_opens_23 rfl ?_ | refine z_al0q (q := 24) C dX0_opens_23 rfl ?_ | refine z_al0u (q := 24) C dX0_opens_23 rfl ?_
      refine xc_X0_227 (q := 27) C (cx_bad (d := 0) ho r16 k5 l5) (by first | exact ho | exact hk | exact hb | exact he | assumption | exact Or.inl (by assumption) | exact Or.inr (by assumption)) dX0_opens_24 rfl rfl rfl (Nat.le_of_ble_eq_true rfl) (by first | decide | omega) (by omega) (by omega) (kkE ?_)
      refine z_iret C hQ dX0_opens_27 (by omega) (by omega) ?_
      exact ⟨_, rfl, rfl, hb⟩
    · refine z_il2 (q := 8) C dX0_opens_7 rfl ?_
      refine z_i2l (q := 9) C dX0_opens_8 rfl ?_
      refine z_lconst (q := 10) (v := 0) C dX0_opens_9 rfl rfl ?_
      refine x_ways (q := 13) C dX0_opens_10 rfl ?_
      first | refine x_wlen (q := 14) C dX0_opens_13 rfl ?_ | refine x_alen (q := 14) C (by assumption) dX0_opens_13 rfl ?_
      refine z_iconst (q := 15) (v := nI 1) C dX0_opens_14 rfl (by decide) ?_
      refine z_isubN (q := 16) C dX0_opens_15 rfl (by omega) ?_
      refine z_i2l (q := 17) C dX0_opens_16 rfl ?_
      refine xc_X0_214 (q := 20) C (cx_inB (d := 0) σ w (nI 0) (nI 2)) dX0_opens_17 rfl rfl rfl (Nat.le_of_ble_eq_true rfl) (by first | decide | omega) (by omega) (by omega) (kkE ?_)
      first | refine z_if_neB (tgt := 28) (q := 23) C dX0_opens_20 (by decide) rfl (fun c20 => ?_) (fun c20 => ?_) | refine z_if_ne (tgt := 28) (q := 23) C dX0_opens_20 (by decide) rfl (fun c20 => ?_) (fun c20 => ?_)
      · rw [c4, c20] at hi; cases hi
      · first | refine z_al0 (q := 24) C dX0_opens_23 rfl ?_ | refine z_al0q (q := 24) C dX0_opens_23 rfl ?_ | refine z_al0u (q := 24) C dX0_opens_23 rfl ?_
        refine xc_X0_227 (q := 27) C (cx_bad (d := 0) ho r16 k5 l5) (by first | exact ho | exact hk | exact hb | exact he | assumption | exact Or.inl (by assumption) | exact Or.inr (by assumption)) dX0_opens_24 rfl rfl rfl (Nat.le_of_ble_eq_true rfl) (by first | decide | omega) (by omega) (by omega) (kkE ?_)
        refine z_iret C hQ dX0_opens_27 (by omega) (by omega) ?_
        exact ⟨_, rfl, rfl, hb⟩
  | true =>
    obtain ⟨g1, g2⟩ := Bool.and_eq_true_iff.mp hi
    obtain ⟨cn, hcn, rfl, hkc⟩ := cur_of g1
    obtain ⟨wn, hwn, rfl, hkw⟩ := cur_of g2
    have e1 : a_opens α (nI cn) (nI wn) = (nI (k_es (a_c α)).length, a_cur α cn (some wn, (k_by (a_c α) wn)[0]?, none, a_ch α)) := by
      unfold a_opens
      rw [if_pos hi, hkc, hkw]
    rw [e1] at hQ
    obtain ⟨har, hkcu⟩ := hX.2.2.2.2.2.2.2.1 cn hcn
    have hoc : p (8 + cn) ≠ p 0 := fun z => by rw [z, ho] at hkcu; cases hkcu
    have hF1 : FU (p (8 + cn)) σ (sR 80 (p (8 + cn)) (some (D.2.2.2 wn)) σ) := FR.rf.wR (fun _ => ⟨Or.inl rfl, rfl⟩)
    have hC1 := hC.keep hX.1 hF1.fg (by simp) (by simp) (by simp)
    have hX1 := hX.keep hF1.fg (by simp) (by simp)
    have h80 : fr (sR 80 (p (8 + cn)) (some (D.2.2.2 wn)) σ) 80 (p (8 + cn)) = some (D.2.2.2 wn) := by rw [fr_sR, if_pos ⟨rfl, rfl⟩]
    have e4 := hC.1.2.1
    refine z_il1 (q := 1) C dX0_opens_0 rfl ?_
    refine xc_X0_307 (q := 4) C (cx_isCursor (d := 0) σ _) dX0_opens_1 rfl rfl rfl (Nat.le_of_ble_eq_true rfl) (by first | decide | omega) (by omega) (by omega) (kkE ?_)
    refine z_if_eqB (tgt := 23) (q := 7) C dX0_opens_4 (by decide) rfl (fun c4 => by rw [g1] at c4; cases c4) (fun c4 => ?_)
    refine z_il2 (q := 8) C dX0_opens_7 rfl ?_
    refine z_i2l (q := 9) C dX0_opens_8 rfl ?_
    refine z_lconst (q := 10) (v := 0) C dX0_opens_9 rfl rfl ?_
    refine x_ways (q := 13) C dX0_opens_10 rfl ?_
    first | refine x_wlen (q := 14) C dX0_opens_13 rfl ?_ | refine x_alen (q := 14) C (by assumption) dX0_opens_13 rfl ?_
    refine z_iconst (q := 15) (v := nI 1) C dX0_opens_14 rfl (by decide) ?_
    refine z_isubN (q := 16) C dX0_opens_15 rfl (by omega) ?_
    refine z_i2l (q := 17) C dX0_opens_16 rfl ?_
    refine xc_X0_214 (q := 20) C (cx_inB (d := 0) σ _ (nI 0) (nI 2)) dX0_opens_17 rfl rfl rfl (Nat.le_of_ble_eq_true rfl) (by first | decide | omega) (by omega) (by omega) (kkE ?_)
    refine z_if_neB (tgt := 28) (q := 23) C dX0_opens_20 (by decide) rfl (fun c20 => ?_) (fun c20 => by rw [g2] at c20; cases c20)
    first | refine z_al0 (q := 29) C dX0_opens_28 rfl ?_ | refine z_al0q (q := 29) C dX0_opens_28 rfl ?_ | refine z_al0u (q := 29) C dX0_opens_28 rfl ?_
    first | refine xr_X0_26 (q := 32) C (by first | exact ho | exact hk | exact hb | exact he | assumption) (by assumption) dX0_opens_29 rfl ?_ | refine xn_X0_26 (q := 32) C (by first | exact ho | exact hk | exact hb | exact he | assumption) (by assumption) dX0_opens_29 rfl ?_ | refine xg_X0_26 (q := 32) C (by first | exact ho | exact hk | exact hb | exact he | assumption) dX0_opens_29 rfl ?_
    refine z_il1 (q := 33) C dX0_opens_32 rfl ?_
    refine x_aald (q := 34) C 4 (by decide) (by decide) (by assumption) (by rw [l2]; omega) (by omega) dX0_opens_33 rfl ?_
    rw [har]
    first | refine z_as3 (q := 35) C dX0_opens_34 rfl (by first | exact loC_i | exact loC_r | exact loC_n | exact loC_q | exact loC_u) ?_ | refine z_as3q (q := 35) C dX0_opens_34 rfl (by first | exact loC_i | exact loC_r | exact loC_n | exact loC_q | exact loC_u) ?_ | refine z_asu3 (q := 35) C dX0_opens_34 rfl (by first | exact loC_i | exact loC_r | exact loC_n | exact loC_q | exact loC_u) ?_
    first | refine z_al3 (q := 36) C dX0_opens_35 rfl ?_ | refine z_al3q (q := 36) C dX0_opens_35 rfl ?_ | refine z_al3u (q := 36) C dX0_opens_35 rfl ?_
    refine x_ways (q := 39) C dX0_opens_36 rfl ?_
    refine z_il2 (q := 40) C dX0_opens_39 rfl ?_
    refine x_wald (q := 41) C hwn dX0_opens_40 rfl ?_
    first | refine xpr_X0_303 (q := 44) C (by exact hkcu) dX0_opens_41 rfl ?_ | refine xpn_X0_303 (q := 44) C (by exact hkcu) dX0_opens_41 rfl ?_ | refine xp_X0_303 (q := 44) C (by exact hkcu) dX0_opens_41 rfl ?_
    first | refine z_al3 (q := 45) C dX0_opens_44 rfl ?_ | refine z_al3q (q := 45) C dX0_opens_44 rfl ?_ | refine z_al3u (q := 45) C dX0_opens_44 rfl ?_
    first | refine z_al3 (q := 46) C dX0_opens_45 rfl ?_ | refine z_al3q (q := 46) C dX0_opens_45 rfl ?_ | refine z_al3u (q := 46) C dX0_opens_45 rfl ?_
    first | refine xr_X0_303 (q := 49) C (by exact hkcu) h80 dX0_opens_46 rfl ?_ | refine xn_X0_303 (q := 49) C (by exact hkcu) h80 dX0_opens_46 rfl ?_
    first | refine z_al0 (q := 50) C dX0_opens_49 rfl ?_ | refine z_al0q (q := 50) C dX0_opens_49 rfl ?_ | refine z_al0u (q := 50) C dX0_opens_49 rfl ?_
    refine x_wfirst (q := 53) C hwn hX1.1 hC1 hI dX0_opens_50 rfl (Nat.le_of_ble_eq_true rfl) (by omega) (by omega) (by omega) ?_
    first | refine xpr_X0_319 (q := 56) C (by exact hkcu) dX0_opens_53 rfl ?_ | refine xpn_X0_319 (q := 56) C (by exact hkcu) dX0_opens_53 rfl ?_ | refine xp_X0_319 (q := 56) C (by exact hkcu) dX0_opens_53 rfl ?_
    first | refine z_al3 (q := 57) C dX0_opens_56 rfl ?_ | refine z_al3q (q := 57) C dX0_opens_56 rfl ?_ | refine z_al3u (q := 57) C dX0_opens_56 rfl ?_
    refine z_iconst (q := 58) (v := -1) C dX0_opens_57 rfl (by decide) ?_
    refine xp_X0_322 (q := 61) C (by exact hkcu) dX0_opens_58 rfl ?_
    first | refine z_al3 (q := 62) C dX0_opens_61 rfl ?_ | refine z_al3q (q := 62) C dX0_opens_61 rfl ?_ | refine z_al3u (q := 62) C dX0_opens_61 rfl ?_
    first | refine z_al0 (q := 63) C dX0_opens_62 rfl ?_ | refine z_al0q (q := 63) C dX0_opens_62 rfl ?_ | refine z_al0u (q := 63) C dX0_opens_62 rfl ?_
    refine xg_X0_153 (q := 66) C (by exact ho) dX0_opens_63 rfl ?_
    rw [show fi (sI 82 (p (8 + cn)) (-1) (sR 81 (p (8 + cn)) (((k_by (a_c α) wn)[0]?).map ad) (sR 80 (p (8 + cn)) (some (D.2.2.2 wn)) σ))) 9 (p 0) = nI (a_ch α) from by rw [fi_sI, if_neg (fun z => by cases z.1)]; exact h9]
    refine xp_X0_324 (q := 69) C (by exact hkcu) dX0_opens_66 rfl ?_
    first | refine z_al0 (q := 70) C dX0_opens_69 rfl ?_ | refine z_al0q (q := 70) C dX0_opens_69 rfl ?_ | refine z_al0u (q := 70) C dX0_opens_69 rfl ?_
    refine xg_X0_142 (q := 73) C (by exact ho) dX0_opens_70 rfl ?_
    rw [show fi (sI 83 (p (8 + cn)) (nI (a_ch α)) (sI 82 (p (8 + cn)) (-1) (sR 81 (p (8 + cn)) (((k_by (a_c α) wn)[0]?).map ad) (sR 80 (p (8 + cn)) (some (D.2.2.2 wn)) σ)))) 4 (p 0) = nI (k_es (a_c α)).length from by rw [fi_sI, if_neg (fun z => by cases z.1), fi_sI, if_neg (fun z => by cases z.1)]; exact e4]
    refine z_iret C hQ dX0_opens_73 (by omega) (by omega) ?_
    refine ⟨_, rfl, rfl, XA.cur hX hq hC hU hP h9 hR hcn (((FR.wR hF1 (fun _ => ⟨Or.inr rfl, rfl⟩)).wI (fun _ => ⟨Or.inl rfl, rfl⟩)).wI (fun _ => ⟨Or.inr rfl, rfl⟩)) rfl ?_ ?_ ?_ (fun _ => ⟨?_, fun k hk => ⟨k_by_mem hI hk, by simp⟩, fun k hk => by cases hk⟩)⟩
    · rw [fr_sI, fr_sI, fr_sR, if_neg (fun z => by cases z.1)]; exact h80
    · rw [fi_sI, if_neg (fun z => by cases z.1), fi_sI, if_pos ⟨rfl, rfl⟩]; rfl
    · rw [fi_sI, if_pos ⟨rfl, rfl⟩]
    · rw [fr_sI, fr_sI, fr_sR, if_pos ⟨rfl, rfl⟩]
set_option maxHeartbeats 1000000 in
theorem cx_next (h : XA false D p σ α) (hA : AI N α) (c : Int32) : Ct (wX D) yX0_next cX0_next 3 (some .int) [.ref (p 0), .int c] σ (PI (fun r σ' => r = (a_next α c).1 ∧ XA false D p σ' (a_next α c).2)) 64 300 1500 := by
  obtain ⟨ad, B, hX, hq, hC, hU, hP, h9, hR⟩ := h.num
  have ho := hX.1.1
  obtain ⟨r16, k5, l5⟩ := hX.2.2.2.2.1
  obtain ⟨r10, k2, l2⟩ := hX.2.1
  have hI := hA.1
  refine Ct.of KXok (by decide) (Nat.le_of_ble_eq_true rfl) rfl fun Y C hQ hNm => ?_
  cases hi : inB c (nI 0) (nI 2) with
  | false =>
    have e1 : a_next α c = a_ref α (-2) := by unfold a_next; rw [a_lk_b hi, if_neg (by decide)]
    rw [e1] at hQ
    have hb := h.rfs hA (i := 0) (by decide)
    refine z_il1 (q := 1) C dX0_next_0 rfl ?_
    refine xc_X0_307 (q := 4) C (cx_isCursor (d := 0) σ c) dX0_next_1 rfl rfl rfl (Nat.le_of_ble_eq_true rfl) (by first | decide | omega) (by omega) (by omega) (kkE ?_)
    first | refine z_if_neB (tgt := 12) (q := 7) C dX0_next_4 (by decide) rfl (fun c4 => ?_) (fun c4 => ?_) | refine z_if_ne (tgt := 12) (q := 7) C dX0_next_4 (by decide) rfl (fun c4 => ?_) (fun c4 => ?_)
    · rw [hi] at c4; cases c4
    · first | refine z_al0 (q := 8) C dX0_next_7 rfl ?_ | refine z_al0q (q := 8) C dX0_next_7 rfl ?_ | refine z_al0u (q := 8) C dX0_next_7 rfl ?_
      refine xc_X0_227 (q := 11) C (cx_bad (d := 0) ho r16 k5 l5) (by first | exact ho | exact hk | exact hb | exact he | assumption | exact Or.inl (by assumption) | exact Or.inr (by assumption)) dX0_next_8 rfl rfl rfl (Nat.le_of_ble_eq_true rfl) (by first | decide | omega) (by omega) (by omega) (kkE ?_)
      refine z_iret C hQ dX0_next_11 (by omega) (by omega) ?_
      exact ⟨_, rfl, rfl, hb⟩
  | true =>
    obtain ⟨cn, hcn, rfl, hkc⟩ := cur_of hi
    have hop := cx_isOpen (D := D) (d := 0) h hcn
    obtain ⟨har, hkcu⟩ := hX.2.2.2.2.2.2.2.1 cn hcn
    obtain ⟨u0, u1⟩ := hU cn hcn
    obtain ⟨aw, anx, alast, akn⟩ := hA.2.2.2.2.2.2.2 cn hcn
    cases hw : (a_cu α cn).1 with
    | none =>
      have e1 : a_next α (nI cn) = a_ref α (-3) := by unfold a_next; rw [a_lk_n hi hkc hw, if_neg (by decide)]
      rw [e1] at hQ
      rw [hw] at hop
      have hb := h.rfs hA (i := 1) (by decide)
      refine z_il1 (q := 1) C dX0_next_0 rfl ?_
      refine xc_X0_307 (q := 4) C (cx_isCursor (d := 0) σ _) dX0_next_1 rfl rfl rfl (Nat.le_of_ble_eq_true rfl) (by first | decide | omega) (by omega) (by omega) (kkE ?_)
      first | refine z_if_neB (tgt := 12) (q := 7) C dX0_next_4 (by decide) rfl (fun c4 => ?_) (fun c4 => ?_) | refine z_if_ne (tgt := 12) (q := 7) C dX0_next_4 (by decide) rfl (fun c4 => ?_) (fun c4 => ?_)
      · first | refine z_al0 (q := 13) C dX0_next_12 rfl ?_ | refine z_al0q (q := 13) C dX0_next_12 rfl ?_ | refine z_al0u (q := 13) C dX0_next_12 rfl ?_
        refine z_il1 (q := 14) C dX0_next_13 rfl ?_
        refine xc_X0_327 (q := 17) C hop (by first | exact ho | exact hk | exact hb | exact he | assumption | exact Or.inl (by assumption) | exact Or.inr (by assumption)) dX0_next_14 rfl rfl rfl (Nat.le_of_ble_eq_true rfl) (by first | decide | omega) (by omega) (by omega) (kkE ?_)
        first | refine z_if_neB (tgt := 25) (q := 20) C dX0_next_17 (by decide) rfl (fun c17 => ?_) (fun c17 => ?_) | refine z_if_ne (tgt := 25) (q := 20) C dX0_next_17 (by decide) rfl (fun c17 => ?_) (fun c17 => ?_)
        · cases c17
        · first | refine z_al0 (q := 21) C dX0_next_20 rfl ?_ | refine z_al0q (q := 21) C dX0_next_20 rfl ?_ | refine z_al0u (q := 21) C dX0_next_20 rfl ?_
          refine xc_X0_290 (q := 24) C (cx_no (d := 0) ho r16 k5 l5) (by first | exact ho | exact hk | exact hb | exact he | assumption | exact Or.inl (by assumption) | exact Or.inr (by assumption)) dX0_next_21 rfl rfl rfl (Nat.le_of_ble_eq_true rfl) (by first | decide | omega) (by omega) (by omega) (kkE ?_)
          refine z_iret C hQ dX0_next_24 (by omega) (by omega) ?_
          exact ⟨_, rfl, rfl, hb⟩
      · rw [hi] at c4; cases c4
    | some w =>
      have hw3 := aw w hw
      obtain ⟨h80, h82, h83, h81⟩ := u1 w hw
      have hlk := a_lk_s hi hkc hw
      rw [hw] at hop
      have hch := hA.2.2.2.1
      have hNb := hA.2.2.2.2.1
      refine z_il1 (q := 1) C dX0_next_0 rfl ?_
      refine xc_X0_307 (q := 4) C (cx_isCursor (d := 0) σ _) dX0_next_1 rfl rfl rfl (Nat.le_of_ble_eq_true rfl) (by first | decide | omega) (by omega) (by omega) (kkE ?_)
      refine z_if_neB (tgt := 12) (q := 7) C dX0_next_4 (by decide) rfl (fun c4 => ?_) (fun c4 => by rw [hi] at c4; cases c4)
      first | refine z_al0 (q := 13) C dX0_next_12 rfl ?_ | refine z_al0q (q := 13) C dX0_next_12 rfl ?_ | refine z_al0u (q := 13) C dX0_next_12 rfl ?_
      refine z_il1 (q := 14) C dX0_next_13 rfl ?_
      refine xc_X0_327 (q := 17) C hop (by first | exact ho | exact hk | exact hb | exact he | assumption | exact Or.inl (by assumption) | exact Or.inr (by assumption)) dX0_next_14 rfl rfl rfl (Nat.le_of_ble_eq_true rfl) (by first | decide | omega) (by omega) (by omega) (kkE ?_)
      refine z_if_neB (tgt := 25) (q := 20) C dX0_next_17 (by decide) rfl (fun c17 => ?_) (fun c17 => by cases c17)
      first | refine z_al0 (q := 26) C dX0_next_25 rfl ?_ | refine z_al0q (q := 26) C dX0_next_25 rfl ?_ | refine z_al0u (q := 26) C dX0_next_25 rfl ?_
      first | refine xr_X0_26 (q := 29) C (by first | exact ho | exact hk | exact hb | exact he | assumption) (by assumption) dX0_next_26 rfl ?_ | refine xn_X0_26 (q := 29) C (by first | exact ho | exact hk | exact hb | exact he | assumption) (by assumption) dX0_next_26 rfl ?_ | refine xg_X0_26 (q := 29) C (by first | exact ho | exact hk | exact hb | exact he | assumption) dX0_next_26 rfl ?_
      refine z_il1 (q := 30) C dX0_next_29 rfl ?_
      refine x_aald (q := 31) C 4 (by decide) (by decide) (by assumption) (by rw [l2]; omega) (by omega) dX0_next_30 rfl ?_
      rw [har]
      first | refine z_as2 (q := 32) C dX0_next_31 rfl (by first | exact loC_i | exact loC_r | exact loC_n | exact loC_q | exact loC_u) ?_ | refine z_as2q (q := 32) C dX0_next_31 rfl (by first | exact loC_i | exact loC_r | exact loC_n | exact loC_q | exact loC_u) ?_ | refine z_asu2 (q := 32) C dX0_next_31 rfl (by first | exact loC_i | exact loC_r | exact loC_n | exact loC_q | exact loC_u) ?_
      first | refine z_al2 (q := 33) C dX0_next_32 rfl ?_ | refine z_al2q (q := 33) C dX0_next_32 rfl ?_ | refine z_al2u (q := 33) C dX0_next_32 rfl ?_
      refine xg_X0_324 (q := 36) C (by exact hkcu) dX0_next_33 rfl ?_
      rw [h83]
      first | refine z_al0 (q := 37) C dX0_next_36 rfl ?_ | refine z_al0q (q := 37) C dX0_next_36 rfl ?_ | refine z_al0u (q := 37) C dX0_next_36 rfl ?_
      refine xg_X0_153 (q := 40) C (by exact ho) dX0_next_37 rfl ?_
      rw [h9]
      refine z_icmp_eqN (tgt := 48) (q := 43) C dX0_next_40 (by decide) rfl (by omega) (by omega) (fun c40 => ?_) (fun c40 => ?_)
      · obtain ⟨g81, gn, gl⟩ := h81 c40
        rw [if_pos c40] at hlk
        cases hnx : (a_cu α cn).2.1 with
        | none =>
          have e1 : a_next α (nI cn) = (-1, α) := by unfold a_next; rw [if_pos hlk, hkc, hnx]
          rw [e1] at hQ
          rw [hnx] at g81
          have g81 : fr σ 81 (p (8 + cn)) = none := g81
          first | refine z_al2 (q := 49) C dX0_next_48 rfl ?_ | refine z_al2q (q := 49) C dX0_next_48 rfl ?_ | refine z_al2u (q := 49) C dX0_next_48 rfl ?_
          first | refine xr_X0_319 (q := 52) C (by exact hkcu) g81 dX0_next_49 rfl ?_ | refine xn_X0_319 (q := 52) C (by exact hkcu) g81 dX0_next_49 rfl ?_
          refine z_ifnonnull_u (q := 55) C dX0_next_52 rfl ?_
          refine z_iconst (q := 56) (v := -1) C dX0_next_55 rfl (by decide) ?_
          refine z_iret C hQ dX0_next_56 (by omega) (by omega) ?_
          exact ⟨_, rfl, rfl, h⟩
        | some k =>
          have e1 : a_next α (nI cn) = (nI k, a_cur α cn (some w, (k_by (a_c α) w)[k_at (a_c α) w k + 1]?, some k, (a_cu α cn).2.2.2)) := by
            unfold a_next
            rw [if_pos hlk, hkc, hnx]
            simp only [hw]
            rfl
          rw [e1] at hQ
          rw [hnx] at g81
          have g81 : fr σ 81 (p (8 + cn)) = some (ad k) := g81
          have hkm := (gn k hnx).1
          have hat := k_by_at (w := w) hI hkm
          have hkc' : k ∈ k_cs (a_c α) := hI.2.2.1.mem_iff.mpr hkm
          obtain ⟨hkd, e20, -⟩ := hC.2.1.1 k hkc'
          have hF1 : FU (p (8 + cn)) σ (sI 82 (p (8 + cn)) (nI k) σ) := FR.rf.wI (fun _ => ⟨Or.inl rfl, rfl⟩)
          have hC1 := hC.keep hX.1 hF1.fg (by simp) (by simp) (by simp)
          have hX1 := hX.keep hF1.fg (by simp) (by simp)
          have h82' : fi (sR 81 (p (8 + cn)) (((k_by (a_c α) w)[k_at (a_c α) w k + 1]?).map ad) (sI 82 (p (8 + cn)) (nI k) σ)) 82 (p (8 + cn)) = nI k := by rw [fi_sR, fi_sI, if_pos ⟨rfl, rfl⟩]
          first | refine z_al2 (q := 49) C dX0_next_48 rfl ?_ | refine z_al2q (q := 49) C dX0_next_48 rfl ?_ | refine z_al2u (q := 49) C dX0_next_48 rfl ?_
          first | refine xr_X0_319 (q := 52) C (by exact hkcu) g81 dX0_next_49 rfl ?_ | refine xn_X0_319 (q := 52) C (by exact hkcu) g81 dX0_next_49 rfl ?_
          refine z_ifnonnull_r (tgt := 57) C dX0_next_52 (by decide) ?_
          first | refine z_al2 (q := 58) C dX0_next_57 rfl ?_ | refine z_al2q (q := 58) C dX0_next_57 rfl ?_ | refine z_al2u (q := 58) C dX0_next_57 rfl ?_
          first | refine z_al2 (q := 59) C dX0_next_58 rfl ?_ | refine z_al2q (q := 59) C dX0_next_58 rfl ?_ | refine z_al2u (q := 59) C dX0_next_58 rfl ?_
          first | refine xr_X0_319 (q := 62) C (by exact hkcu) g81 dX0_next_59 rfl ?_ | refine xn_X0_319 (q := 62) C (by exact hkcu) g81 dX0_next_59 rfl ?_
          refine xg_X0_120 (q := 65) C (by exact hkd) dX0_next_62 rfl ?_
          rw [e20]
          refine xp_X0_322 (q := 68) C (by exact hkcu) dX0_next_65 rfl ?_
          first | refine z_al2 (q := 69) C dX0_next_68 rfl ?_ | refine z_al2q (q := 69) C dX0_next_68 rfl ?_ | refine z_al2u (q := 69) C dX0_next_68 rfl ?_
          first | refine z_al2 (q := 70) C dX0_next_69 rfl ?_ | refine z_al2q (q := 70) C dX0_next_69 rfl ?_ | refine z_al2u (q := 70) C dX0_next_69 rfl ?_
          first | refine xr_X0_303 (q := 73) C (by exact hkcu) (by exact h80) dX0_next_70 rfl ?_ | refine xn_X0_303 (q := 73) C (by exact hkcu) (by exact h80) dX0_next_70 rfl ?_
          first | refine z_al0 (q := 74) C dX0_next_73 rfl ?_ | refine z_al0q (q := 74) C dX0_next_73 rfl ?_ | refine z_al0u (q := 74) C dX0_next_73 rfl ?_
          first | refine z_al2 (q := 75) C dX0_next_74 rfl ?_ | refine z_al2q (q := 75) C dX0_next_74 rfl ?_ | refine z_al2u (q := 75) C dX0_next_74 rfl ?_
          first | refine xr_X0_319 (q := 78) C (by exact hkcu) (by exact g81) dX0_next_75 rfl ?_ | refine xn_X0_319 (q := 78) C (by exact hkcu) (by exact g81) dX0_next_75 rfl ?_
          refine x_wnext (q := 81) C hw3 hX1.1 hC1 hI hat dX0_next_78 rfl (Nat.le_of_ble_eq_true rfl) (by omega) (by omega) (by omega) ?_
          first | refine xpr_X0_319 (q := 84) C (by exact hkcu) dX0_next_81 rfl ?_ | refine xpn_X0_319 (q := 84) C (by exact hkcu) dX0_next_81 rfl ?_ | refine xp_X0_319 (q := 84) C (by exact hkcu) dX0_next_81 rfl ?_
          first | refine z_al2 (q := 85) C dX0_next_84 rfl ?_ | refine z_al2q (q := 85) C dX0_next_84 rfl ?_ | refine z_al2u (q := 85) C dX0_next_84 rfl ?_
          refine xg_X0_322 (q := 88) C (by exact hkcu) dX0_next_85 rfl ?_
          rw [h82']
          refine z_iret C hQ dX0_next_88 (by omega) (by omega) ?_
          refine ⟨_, rfl, rfl, XA.cur hX hq hC hU hP h9 hR hcn (FR.wR hF1 (fun _ => ⟨Or.inr rfl, rfl⟩)) rfl ?_ ?_ ?_ (fun _ => ⟨?_, fun k' hk' => ⟨k_by_mem hI hk', fun z => ?_⟩, fun k' hk' => ?_⟩)⟩
          · rw [fr_sR, if_neg (fun z => by cases z.1)]; exact h80
          · exact h82'
          · rw [fi_sR, fi_sI, if_neg (fun z => by cases z.1)]; exact h83
          · rw [fr_sR, if_pos ⟨rfl, rfl⟩]
          · have z : some k = some k' := z
            cases z
            have := k_at_ix hI hk'
            omega
          · have hk' : some k = some k' := hk'
            cases hk'
            exact hkm
      · rw [if_neg c40] at hlk
        have e1 : a_next α (nI cn) = a_ref α (-6) := by unfold a_next; rw [hlk, if_neg (by decide)]
        rw [e1] at hQ
        have hb := h.rfs hA (i := 3) (by decide)
        first | refine z_al0 (q := 44) C dX0_next_43 rfl ?_ | refine z_al0q (q := 44) C dX0_next_43 rfl ?_ | refine z_al0u (q := 44) C dX0_next_43 rfl ?_
        refine xc_X0_330 (q := 47) C (cx_late (d := 0) ho r16 k5 l5) (by first | exact ho | exact hk | exact hb | exact he | assumption | exact Or.inl (by assumption) | exact Or.inr (by assumption)) dX0_next_44 rfl rfl rfl (Nat.le_of_ble_eq_true rfl) (by first | decide | omega) (by omega) (by omega) (kkE ?_)
        refine z_iret C hQ dX0_next_47 (by omega) (by omega) ?_
        exact ⟨_, rfl, rfl, hb⟩
set_option maxHeartbeats 1000000 in
theorem cx_left (h : XA false D p σ α) (hA : AI N α) (c : Int32) : Ct (wX D) yX0_left cX0_left 2 (some .int) [.ref (p 0), .int c] σ (PI (fun r σ' => r = (a_left α c).1 ∧ XA false D p σ' (a_left α c).2)) 64 300 1500 := by
  obtain ⟨ad, B, hX, hq, hC, hU, hP, h9, hR⟩ := h.num
  have ho := hX.1.1
  obtain ⟨r16, k5, l5⟩ := hX.2.2.2.2.1
  obtain ⟨r10, k2, l2⟩ := hX.2.1
  have hI := hA.1
  refine Ct.of KXok (by decide) (Nat.le_of_ble_eq_true rfl) rfl fun Y C hQ hNm => ?_
  cases hi : inB c (nI 0) (nI 2) with
  | false =>
    have e1 : a_left α c = a_ref α (-2) := by unfold a_left; rw [a_lk_b hi, if_neg (by decide)]
    rw [e1] at hQ
    have hb := h.rfs hA (i := 0) (by decide)
    refine z_il1 (q := 1) C dX0_left_0 rfl ?_
    refine xc_X0_307 (q := 4) C (cx_isCursor (d := 0) σ c) dX0_left_1 rfl rfl rfl (Nat.le_of_ble_eq_true rfl) (by first | decide | omega) (by omega) (by omega) (kkE ?_)
    first | refine z_if_neB (tgt := 12) (q := 7) C dX0_left_4 (by decide) rfl (fun c4 => ?_) (fun c4 => ?_) | refine z_if_ne (tgt := 12) (q := 7) C dX0_left_4 (by decide) rfl (fun c4 => ?_) (fun c4 => ?_)
    · rw [hi] at c4; cases c4
    · first | refine z_al0 (q := 8) C dX0_left_7 rfl ?_ | refine z_al0q (q := 8) C dX0_left_7 rfl ?_ | refine z_al0u (q := 8) C dX0_left_7 rfl ?_
      refine xc_X0_227 (q := 11) C (cx_bad (d := 0) ho r16 k5 l5) (by first | exact ho | exact hk | exact hb | exact he | assumption | exact Or.inl (by assumption) | exact Or.inr (by assumption)) dX0_left_8 rfl rfl rfl (Nat.le_of_ble_eq_true rfl) (by first | decide | omega) (by omega) (by omega) (kkE ?_)
      refine z_iret C hQ dX0_left_11 (by omega) (by omega) ?_
      exact ⟨_, rfl, rfl, hb⟩
  | true =>
    obtain ⟨cn, hcn, rfl, hkc⟩ := cur_of hi
    have hop := cx_isOpen (D := D) (d := 0) h hcn
    obtain ⟨har, hkcu⟩ := hX.2.2.2.2.2.2.2.1 cn hcn
    obtain ⟨u0, u1⟩ := hU cn hcn
    obtain ⟨aw, anx, alast, akn⟩ := hA.2.2.2.2.2.2.2 cn hcn
    cases hw : (a_cu α cn).1 with
    | none =>
      have e1 : a_left α (nI cn) = a_ref α (-3) := by unfold a_left; rw [a_lk_n hi hkc hw, if_neg (by decide)]
      rw [e1] at hQ
      rw [hw] at hop
      have hb := h.rfs hA (i := 1) (by decide)
      refine z_il1 (q := 1) C dX0_left_0 rfl ?_
      refine xc_X0_307 (q := 4) C (cx_isCursor (d := 0) σ _) dX0_left_1 rfl rfl rfl (Nat.le_of_ble_eq_true rfl) (by first | decide | omega) (by omega) (by omega) (kkE ?_)
      first | refine z_if_neB (tgt := 12) (q := 7) C dX0_left_4 (by decide) rfl (fun c4 => ?_) (fun c4 => ?_) | refine z_if_ne (tgt := 12) (q := 7) C dX0_left_4 (by decide) rfl (fun c4 => ?_) (fun c4 => ?_)
      · first | refine z_al0 (q := 13) C dX0_left_12 rfl ?_ | refine z_al0q (q := 13) C dX0_left_12 rfl ?_ | refine z_al0u (q := 13) C dX0_left_12 rfl ?_
        refine z_il1 (q := 14) C dX0_left_13 rfl ?_
        refine xc_X0_327 (q := 17) C hop (by first | exact ho | exact hk | exact hb | exact he | assumption | exact Or.inl (by assumption) | exact Or.inr (by assumption)) dX0_left_14 rfl rfl rfl (Nat.le_of_ble_eq_true rfl) (by first | decide | omega) (by omega) (by omega) (kkE ?_)
        first | refine z_if_neB (tgt := 25) (q := 20) C dX0_left_17 (by decide) rfl (fun c17 => ?_) (fun c17 => ?_) | refine z_if_ne (tgt := 25) (q := 20) C dX0_left_17 (by decide) rfl (fun c17 => ?_) (fun c17 => ?_)
        · cases c17
        · first | refine z_al0 (q := 21) C dX0_left_20 rfl ?_ | refine z_al0q (q := 21) C dX0_left_20 rfl ?_ | refine z_al0u (q := 21) C dX0_left_20 rfl ?_
          refine xc_X0_290 (q := 24) C (cx_no (d := 0) ho r16 k5 l5) (by first | exact ho | exact hk | exact hb | exact he | assumption | exact Or.inl (by assumption) | exact Or.inr (by assumption)) dX0_left_21 rfl rfl rfl (Nat.le_of_ble_eq_true rfl) (by first | decide | omega) (by omega) (by omega) (kkE ?_)
          refine z_iret C hQ dX0_left_24 (by omega) (by omega) ?_
          exact ⟨_, rfl, rfl, hb⟩
      · rw [hi] at c4; cases c4
    | some w =>
      have hw3 := aw w hw
      obtain ⟨h80, h82, h83, h81⟩ := u1 w hw
      have hlk := a_lk_s hi hkc hw
      rw [hw] at hop
      have hch := hA.2.2.2.1
      have hNb := hA.2.2.2.2.1
      refine z_il1 (q := 1) C dX0_left_0 rfl ?_
      refine xc_X0_307 (q := 4) C (cx_isCursor (d := 0) σ _) dX0_left_1 rfl rfl rfl (Nat.le_of_ble_eq_true rfl) (by first | decide | omega) (by omega) (by omega) (kkE ?_)
      refine z_if_neB (tgt := 12) (q := 7) C dX0_left_4 (by decide) rfl (fun c4 => ?_) (fun c4 => by rw [hi] at c4; cases c4)
      first | refine z_al0 (q := 13) C dX0_left_12 rfl ?_ | refine z_al0q (q := 13) C dX0_left_12 rfl ?_ | refine z_al0u (q := 13) C dX0_left_12 rfl ?_
      refine z_il1 (q := 14) C dX0_left_13 rfl ?_
      refine xc_X0_327 (q := 17) C hop (by first | exact ho | exact hk | exact hb | exact he | assumption | exact Or.inl (by assumption) | exact Or.inr (by assumption)) dX0_left_14 rfl rfl rfl (Nat.le_of_ble_eq_true rfl) (by first | decide | omega) (by omega) (by omega) (kkE ?_)
      refine z_if_neB (tgt := 25) (q := 20) C dX0_left_17 (by decide) rfl (fun c17 => ?_) (fun c17 => by cases c17)
      first | refine z_al0 (q := 26) C dX0_left_25 rfl ?_ | refine z_al0q (q := 26) C dX0_left_25 rfl ?_ | refine z_al0u (q := 26) C dX0_left_25 rfl ?_
      first | refine xr_X0_26 (q := 29) C (by first | exact ho | exact hk | exact hb | exact he | assumption) (by assumption) dX0_left_26 rfl ?_ | refine xn_X0_26 (q := 29) C (by first | exact ho | exact hk | exact hb | exact he | assumption) (by assumption) dX0_left_26 rfl ?_ | refine xg_X0_26 (q := 29) C (by first | exact ho | exact hk | exact hb | exact he | assumption) dX0_left_26 rfl ?_
      refine z_il1 (q := 30) C dX0_left_29 rfl ?_
      refine x_aald (q := 31) C 4 (by decide) (by decide) (by assumption) (by rw [l2]; omega) (by omega) dX0_left_30 rfl ?_
      rw [har]
      refine xg_X0_324 (q := 34) C (by exact hkcu) dX0_left_31 rfl ?_
      rw [h83]
      first | refine z_al0 (q := 35) C dX0_left_34 rfl ?_ | refine z_al0q (q := 35) C dX0_left_34 rfl ?_ | refine z_al0u (q := 35) C dX0_left_34 rfl ?_
      refine xg_X0_153 (q := 38) C (by exact ho) dX0_left_35 rfl ?_
      rw [h9]
      refine z_icmp_eqN (tgt := 48) (q := 41) C dX0_left_38 (by decide) rfl (by omega) (by omega) (fun c38 => ?_) (fun c38 => ?_)
      · obtain ⟨g81, gn, gl⟩ := h81 c38
        rw [if_pos c38] at hlk
        have e1 : a_left α (nI cn) = (nI (k_lf (a_c α) (a_cu α cn)), α) := by unfold a_left; rw [if_pos hlk, hkc]
        rw [e1] at hQ
        first | refine z_al0 (q := 49) C dX0_left_48 rfl ?_ | refine z_al0q (q := 49) C dX0_left_48 rfl ?_ | refine z_al0u (q := 49) C dX0_left_48 rfl ?_
        first | refine z_al0 (q := 50) C dX0_left_49 rfl ?_ | refine z_al0q (q := 50) C dX0_left_49 rfl ?_ | refine z_al0u (q := 50) C dX0_left_49 rfl ?_
        first | refine xr_X0_26 (q := 53) C (by first | exact ho | exact hk | exact hb | exact he | assumption) (by assumption) dX0_left_50 rfl ?_ | refine xn_X0_26 (q := 53) C (by first | exact ho | exact hk | exact hb | exact he | assumption) (by assumption) dX0_left_50 rfl ?_ | refine xg_X0_26 (q := 53) C (by first | exact ho | exact hk | exact hb | exact he | assumption) dX0_left_50 rfl ?_
        refine z_il1 (q := 54) C dX0_left_53 rfl ?_
        refine x_aald (q := 55) C 4 (by decide) (by decide) (by assumption) (by rw [l2]; omega) (by omega) dX0_left_54 rfl ?_
        rw [har]
        refine xc_X0_336 (q := 58) C (cx_yet (wo := (a_cu α cn).1) (u3 := (a_cu α cn).2.2) hX.1 hC hI hw3 hkcu h80 g81 (fun k hk => (gn k hk).1) hw) (by first | exact ho | exact hk | exact hb | exact he | assumption | exact Or.inl (by assumption) | exact Or.inr (by assumption)) dX0_left_55 rfl rfl rfl (Nat.le_of_ble_eq_true rfl) (by first | decide | omega) (by omega) (by omega) (kkE ?_)
        refine z_iret C hQ dX0_left_58 (by omega) (by omega) ?_
        exact ⟨_, rfl, rfl, h⟩
      · rw [if_neg c38] at hlk
        have e1 : a_left α (nI cn) = a_ref α (-6) := by unfold a_left; rw [hlk, if_neg (by decide)]
        rw [e1] at hQ
        have hb := h.rfs hA (i := 3) (by decide)
        first | refine z_al0 (q := 42) C dX0_left_41 rfl ?_ | refine z_al0q (q := 42) C dX0_left_41 rfl ?_ | refine z_al0u (q := 42) C dX0_left_41 rfl ?_
        refine xc_X0_330 (q := 45) C (cx_late (d := 0) ho r16 k5 l5) (by first | exact ho | exact hk | exact hb | exact he | assumption | exact Or.inl (by assumption) | exact Or.inr (by assumption)) dX0_left_42 rfl rfl rfl (Nat.le_of_ble_eq_true rfl) (by first | decide | omega) (by omega) (by omega) (kkE ?_)
        refine z_goto (tgt := 58) C dX0_left_45 (by decide) ?_
        refine z_iret C hQ dX0_left_58 (by omega) (by omega) ?_
        exact ⟨_, rfl, rfl, hb⟩
end X81
