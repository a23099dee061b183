/-! THE CLASS: resumes, removes -/
set_option maxRecDepth 10000
section X82
variable {D : Dx} {p : Nat → Nat} {σ : Sg} {α : Al} {N : Nat} {d : Nat}
set_option maxHeartbeats 1000000 in
theorem cx_resumes (h : XA false D p σ α) (hA : AI N α) (c : Int32) : Ct (wX D) yX0_resumes cX0_resumes 4 (some .int) [.ref (p 0), .int c] σ (PI (fun r σ' => r = (a_resumes α c).1 ∧ XA false D p σ' (a_resumes α c).2)) 64 300 1500 := by
  obtain ⟨ad, B, hX, hq, hC, hU, hP, h9, hR⟩ := h.num
  have ho := hX.1.1
  obtain ⟨r16, k5, l5⟩ := hX.2.2.2.2.1
  obtain ⟨r10, k2, l2⟩ := hX.2.1
  have hI := hA.1
  refine Ct.of KXok (by decide) (Nat.le_of_ble_eq_true rfl) rfl fun Y C hQ hNm => ?_
  cases hi : inB c (nI 0) (nI 2) with
  | false =>
    have e1 : a_resumes α c = a_ref α (-2) := by unfold a_resumes; rw [a_lk_b hi, if_neg (by decide)]
    rw [e1] at hQ
    have hb := h.rfs hA (i := 0) (by decide)
    refine z_il1 (q := 1) C dX0_resumes_0 rfl ?_
    refine xc_X0_307 (q := 4) C (cx_isCursor (d := 0) σ c) dX0_resumes_1 rfl rfl rfl (Nat.le_of_ble_eq_true rfl) (by first | decide | omega) (by omega) (by omega) (kkE ?_)
    first | refine z_if_neB (tgt := 12) (q := 7) C dX0_resumes_4 (by decide) rfl (fun c4 => ?_) (fun c4 => ?_) | refine z_if_ne (tgt := 12) (q := 7) C dX0_resumes_4 (by decide) rfl (fun c4 => ?_) (fun c4 => ?_)
    · rw [hi] at c4; cases c4
    · first | refine z_al0 (q := 8) C dX0_resumes_7 rfl ?_ | refine z_al0q (q := 8) C dX0_resumes_7 rfl ?_ | refine z_al0u (q := 8) C dX0_resumes_7 rfl ?_
      refine xc_X0_227 (q := 11) C (cx_bad (d := 0) ho r16 k5 l5) (by first | exact ho | exact hk | exact hb | exact he | assumption | exact Or.inl (by assumption) | exact Or.inr (by assumption)) dX0_resumes_8 rfl rfl rfl (Nat.le_of_ble_eq_true rfl) (by first | decide | omega) (by omega) (by omega) (kkE ?_)
      refine z_iret C hQ dX0_resumes_11 (by omega) (by omega) ?_
      exact ⟨_, rfl, rfl, hb⟩
  | true =>
    obtain ⟨cn, hcn, rfl, hkc⟩ := cur_of hi
    have hop := cx_isOpen (D := D) (d := 0) h hcn
    obtain ⟨har, hkcu⟩ := hX.2.2.2.2.2.2.2.1 cn hcn
    obtain ⟨u0, u1⟩ := hU cn hcn
    obtain ⟨aw, anx, alast, akn⟩ := hA.2.2.2.2.2.2.2 cn hcn
    cases hw : (a_cu α cn).1 with
    | none =>
      have e1 : a_resumes α (nI cn) = a_ref α (-3) := by unfold a_resumes; rw [a_lk_n hi hkc hw, if_neg (by decide)]
      rw [e1] at hQ
      rw [hw] at hop
      have hb := h.rfs hA (i := 1) (by decide)
      refine z_il1 (q := 1) C dX0_resumes_0 rfl ?_
      refine xc_X0_307 (q := 4) C (cx_isCursor (d := 0) σ _) dX0_resumes_1 rfl rfl rfl (Nat.le_of_ble_eq_true rfl) (by first | decide | omega) (by omega) (by omega) (kkE ?_)
      first | refine z_if_neB (tgt := 12) (q := 7) C dX0_resumes_4 (by decide) rfl (fun c4 => ?_) (fun c4 => ?_) | refine z_if_ne (tgt := 12) (q := 7) C dX0_resumes_4 (by decide) rfl (fun c4 => ?_) (fun c4 => ?_)
      · first | refine z_al0 (q := 13) C dX0_resumes_12 rfl ?_ | refine z_al0q (q := 13) C dX0_resumes_12 rfl ?_ | refine z_al0u (q := 13) C dX0_resumes_12 rfl ?_
        refine z_il1 (q := 14) C dX0_resumes_13 rfl ?_
        refine xc_X0_327 (q := 17) C hop (by first | exact ho | exact hk | exact hb | exact he | assumption | exact Or.inl (by assumption) | exact Or.inr (by assumption)) dX0_resumes_14 rfl rfl rfl (Nat.le_of_ble_eq_true rfl) (by first | decide | omega) (by omega) (by omega) (kkE ?_)
        first | refine z_if_neB (tgt := 25) (q := 20) C dX0_resumes_17 (by decide) rfl (fun c17 => ?_) (fun c17 => ?_) | refine z_if_ne (tgt := 25) (q := 20) C dX0_resumes_17 (by decide) rfl (fun c17 => ?_) (fun c17 => ?_)
        · cases c17
        · first | refine z_al0 (q := 21) C dX0_resumes_20 rfl ?_ | refine z_al0q (q := 21) C dX0_resumes_20 rfl ?_ | refine z_al0u (q := 21) C dX0_resumes_20 rfl ?_
          refine xc_X0_290 (q := 24) C (cx_no (d := 0) ho r16 k5 l5) (by first | exact ho | exact hk | exact hb | exact he | assumption | exact Or.inl (by assumption) | exact Or.inr (by assumption)) dX0_resumes_21 rfl rfl rfl (Nat.le_of_ble_eq_true rfl) (by first | decide | omega) (by omega) (by omega) (kkE ?_)
          refine z_iret C hQ dX0_resumes_24 (by omega) (by omega) ?_
          exact ⟨_, rfl, rfl, hb⟩
      · rw [hi] at c4; cases c4
    | some w =>
      have hw3 := aw w hw
      obtain ⟨h80, h82, h83, h81⟩ := u1 w hw
      have hlk := a_lk_s hi hkc hw
      rw [hw] at hop
      have e1 : a_resumes α (nI cn) = (nI (k_lf (a_c α) (k_res (a_c α) (a_ch α) (a_cu α cn))), a_cur α cn (k_res (a_c α) (a_ch α) (a_cu α cn))) := by
        unfold a_resumes
        rw [if_pos (by rw [hlk]; split <;> simp), hkc]
      rw [e1] at hQ
      have fin : ∀ nx x : Option Nat, k_res (a_c α) (a_ch α) (a_cu α cn) = (some w, nx, x, a_ch α) → (∀ k, nx = some k → k ∈ k_ks (a_c α) ∧ x ≠ some k) → (∀ k, x = some k → k ∈ k_ks (a_c α)) → Zj (wX D) Y σ 0 0 78 [some (.ref (p 0)), some (.int (nI cn)), some (.ref (p (8 + cn))), some (va_rf (x.map ad))] [va_rf (nx.map ad), .ref (p (8 + cn))] := by
        intro nx x hres hnx hx
        rw [hres] at hQ
        have hF1 : FU (p (8 + cn)) σ (sR 81 (p (8 + cn)) (nx.map ad) σ) := FR.rf.wR (fun _ => ⟨Or.inr rfl, rfl⟩)
        have hF3 : FU (p (8 + cn)) σ (sI 83 (p (8 + cn)) (nI (a_ch α)) (sI 82 (p (8 + cn)) (oI x) (sR 81 (p (8 + cn)) (nx.map ad) σ))) := (FR.wI hF1 (fun _ => ⟨Or.inl rfl, rfl⟩)).wI (fun _ => ⟨Or.inr rfl, rfl⟩)
        have hko := cx_keyOfM (D := D) (d := 0) (σ := sR 81 (p (8 + cn)) (nx.map ad) σ) (ad := ad) (x := x) rfl (fun k hk => by
          have := hC.2.1.1 k (hI.2.2.1.mem_iff.mpr (hx k hk))
          exact ⟨this.1, this.2.1⟩)
        have hX3 := hX.keep hF3.fg (by simp) (by simp)
        have hC3 := hC.keep hX.1 hF3.fg (by simp) (by simp) (by simp)
        have g80 : fr (sI 83 (p (8 + cn)) (nI (a_ch α)) (sI 82 (p (8 + cn)) (oI x) (sR 81 (p (8 + cn)) (nx.map ad) σ))) 80 (p (8 + cn)) = some (D.2.2.2 w) := by
          rw [fr_sI, fr_sI, fr_sR, if_neg (fun z => by cases z.1)]; exact h80
        have g81 : fr (sI 83 (p (8 + cn)) (nI (a_ch α)) (sI 82 (p (8 + cn)) (oI x) (sR 81 (p (8 + cn)) (nx.map ad) σ))) 81 (p (8 + cn)) = nx.map ad := by
          rw [fr_sI, fr_sI, fr_sR, if_pos ⟨rfl, rfl⟩]
        first | refine xpr_X0_319 (q := 81) C (by exact hkcu) dX0_resumes_78 rfl ?_ | refine xpn_X0_319 (q := 81) C (by exact hkcu) dX0_resumes_78 rfl ?_ | refine xp_X0_319 (q := 81) C (by exact hkcu) dX0_resumes_78 rfl ?_
        first | refine z_al2 (q := 82) C dX0_resumes_81 rfl ?_ | refine z_al2q (q := 82) C dX0_resumes_81 rfl ?_ | refine z_al2u (q := 82) C dX0_resumes_81 rfl ?_
        first | refine z_al3 (q := 83) C dX0_resumes_82 rfl ?_ | refine z_al3q (q := 83) C dX0_resumes_82 rfl ?_ | refine z_al3u (q := 83) C dX0_resumes_82 rfl ?_
        refine xc_X0_282 (q := 86) C hko dX0_resumes_83 rfl rfl rfl (Nat.le_of_ble_eq_true rfl) (by first | decide | omega) (by omega) (by omega) (kkE ?_)
        refine xp_X0_322 (q := 89) C (by exact hkcu) dX0_resumes_86 rfl ?_
        first | refine z_al2 (q := 90) C dX0_resumes_89 rfl ?_ | refine z_al2q (q := 90) C dX0_resumes_89 rfl ?_ | refine z_al2u (q := 90) C dX0_resumes_89 rfl ?_
        first | refine z_al0 (q := 91) C dX0_resumes_90 rfl ?_ | refine z_al0q (q := 91) C dX0_resumes_90 rfl ?_ | refine z_al0u (q := 91) C dX0_resumes_90 rfl ?_
        refine xg_X0_153 (q := 94) C (by exact ho) dX0_resumes_91 rfl ?_
        rw [show fi (sI 82 (p (8 + cn)) (oI x) (sR 81 (p (8 + cn)) (nx.map ad) σ)) 9 (p 0) = nI (a_ch α) from by rw [fi_sI, if_neg (fun z => by cases z.1)]; exact h9]
        refine xp_X0_324 (q := 97) C (by exact hkcu) dX0_resumes_94 rfl ?_
        first | refine z_al0 (q := 98) C dX0_resumes_97 rfl ?_ | refine z_al0q (q := 98) C dX0_resumes_97 rfl ?_ | refine z_al0u (q := 98) C dX0_resumes_97 rfl ?_
        first | refine z_al2 (q := 99) C dX0_resumes_98 rfl ?_ | refine z_al2q (q := 99) C dX0_resumes_98 rfl ?_ | refine z_al2u (q := 99) C dX0_resumes_98 rfl ?_
        refine xc_X0_336 (q := 102) C (cx_yet (wo := some w) (u3 := (x, a_ch α)) hX3.1 hC3 hI hw3 hkcu g80 g81 (fun k hk => (hnx k hk).1) rfl) (by exact ho) dX0_resumes_99 rfl rfl rfl (Nat.le_of_ble_eq_true rfl) (by first | decide | omega) (by omega) (by omega) (kkE ?_)
        refine z_iret C hQ dX0_resumes_102 (by omega) (by omega) ?_
        refine ⟨_, rfl, rfl, XA.cur hX hq hC hU hP h9 hR hcn hF3 rfl g80 ?_ ?_ (fun _ => ⟨g81, hnx, hx⟩)⟩
        · rw [fi_sI, if_neg (fun z => by cases z.1), fi_sI, if_pos ⟨rfl, rfl⟩]
        · rw [fi_sI, if_pos ⟨rfl, rfl⟩]
      have finN : k_is (a_c α) (a_cu α cn) = none → Zj (wX D) Y σ 0 0 53 [some (.ref (p 0)), some (.int (nI cn)), some (.ref (p (8 + cn))), some .null] [] := by
        intro his
        have hg := fin ((k_by (a_c α) w)[0]?) none (by unfold k_res; rw [his, hw]; rfl) (fun k hk => ⟨k_by_mem hI hk, by simp⟩) (fun k hk => by cases hk)
        first | refine z_al2 (q := 54) C dX0_resumes_53 rfl ?_ | refine z_al2q (q := 54) C dX0_resumes_53 rfl ?_ | refine z_al2u (q := 54) C dX0_resumes_53 rfl ?_
        first | refine z_al3 (q := 55) C dX0_resumes_54 rfl ?_ | refine z_al3q (q := 55) C dX0_resumes_54 rfl ?_ | refine z_al3u (q := 55) C dX0_resumes_54 rfl ?_
        refine z_ifnonnull_u (q := 58) C dX0_resumes_55 rfl ?_
        first | refine z_al2 (q := 59) C dX0_resumes_58 rfl ?_ | refine z_al2q (q := 59) C dX0_resumes_58 rfl ?_ | refine z_al2u (q := 59) C dX0_resumes_58 rfl ?_
        first | refine xr_X0_303 (q := 62) C (by exact hkcu) h80 dX0_resumes_59 rfl ?_ | refine xn_X0_303 (q := 62) C (by exact hkcu) h80 dX0_resumes_59 rfl ?_
        first | refine z_al0 (q := 63) C dX0_resumes_62 rfl ?_ | refine z_al0q (q := 63) C dX0_resumes_62 rfl ?_ | refine z_al0u (q := 63) C dX0_resumes_62 rfl ?_
        refine x_wfirst (q := 66) C hw3 hX.1 hC hI dX0_resumes_63 rfl (Nat.le_of_ble_eq_true rfl) (by omega) (by omega) (by omega) ?_
        refine z_goto (tgt := 78) C dX0_resumes_66 (by decide) ?_
        exact hg
      refine z_il1 (q := 1) C dX0_resumes_0 rfl ?_
      refine xc_X0_307 (q := 4) C (cx_isCursor (d := 0) σ _) dX0_resumes_1 rfl rfl rfl (Nat.le_of_ble_eq_true rfl) (by first | decide | omega) (by omega) (by omega) (kkE ?_)
      refine z_if_neB (tgt := 12) (q := 7) C dX0_resumes_4 (by decide) rfl (fun c4 => ?_) (fun c4 => by rw [hi] at c4; cases c4)
      first | refine z_al0 (q := 13) C dX0_resumes_12 rfl ?_ | refine z_al0q (q := 13) C dX0_resumes_12 rfl ?_ | refine z_al0u (q := 13) C dX0_resumes_12 rfl ?_
      refine z_il1 (q := 14) C dX0_resumes_13 rfl ?_
      refine xc_X0_327 (q := 17) C hop (by first | exact ho | exact hk | exact hb | exact he | assumption | exact Or.inl (by assumption) | exact Or.inr (by assumption)) dX0_resumes_14 rfl rfl rfl (Nat.le_of_ble_eq_true rfl) (by first | decide | omega) (by omega) (by omega) (kkE ?_)
      refine z_if_neB (tgt := 25) (q := 20) C dX0_resumes_17 (by decide) rfl (fun c17 => ?_) (fun c17 => by cases c17)
      cases hl : (a_cu α cn).2.2.1 with
      | none =>
        have his : k_is (a_c α) (a_cu α cn) = none := by unfold k_is; rw [hl]
        rw [hl] at h82
        have h82 : fi σ 82 (p (8 + cn)) = -1 := h82
        have hg := finN his
        first | refine z_al0 (q := 26) C dX0_resumes_25 rfl ?_ | refine z_al0q (q := 26) C dX0_resumes_25 rfl ?_ | refine z_al0u (q := 26) C dX0_resumes_25 rfl ?_
        first | refine xr_X0_26 (q := 29) C (by first | exact ho | exact hk | exact hb | exact he | assumption) (by assumption) dX0_resumes_26 rfl ?_ | refine xn_X0_26 (q := 29) C (by first | exact ho | exact hk | exact hb | exact he | assumption) (by assumption) dX0_resumes_26 rfl ?_ | refine xg_X0_26 (q := 29) C (by first | exact ho | exact hk | exact hb | exact he | assumption) dX0_resumes_26 rfl ?_
        refine z_il1 (q := 30) C dX0_resumes_29 rfl ?_
        refine x_aald (q := 31) C 4 (by decide) (by decide) (by assumption) (by rw [l2]; omega) (by omega) dX0_resumes_30 rfl ?_
        rw [har]
        first | refine z_as2 (q := 32) C dX0_resumes_31 rfl (by first | exact loC_i | exact loC_r | exact loC_n | exact loC_q | exact loC_u) ?_ | refine z_as2q (q := 32) C dX0_resumes_31 rfl (by first | exact loC_i | exact loC_r | exact loC_n | exact loC_q | exact loC_u) ?_ | refine z_asu2 (q := 32) C dX0_resumes_31 rfl (by first | exact loC_i | exact loC_r | exact loC_n | exact loC_q | exact loC_u) ?_
        first | refine z_al2 (q := 33) C dX0_resumes_32 rfl ?_ | refine z_al2q (q := 33) C dX0_resumes_32 rfl ?_ | refine z_al2u (q := 33) C dX0_resumes_32 rfl ?_
        refine xg_X0_322 (q := 36) C (by exact hkcu) dX0_resumes_33 rfl ?_
        rw [h82]
        refine z_iconst (q := 37) (v := -1) C dX0_resumes_36 rfl (by decide) ?_
        refine z_icmp_ne (tgt := 44) (q := 40) C dX0_resumes_37 (by decide) rfl (fun c37 => absurd rfl c37) (fun c37 => ?_)
        refine z_null (q := 41) C dX0_resumes_40 rfl ?_
        refine z_goto (tgt := 52) C dX0_resumes_41 (by decide) ?_
        first | refine z_as3 (q := 53) C dX0_resumes_52 rfl (by first | exact loC_i | exact loC_r | exact loC_n | exact loC_q | exact loC_u) ?_ | refine z_as3q (q := 53) C dX0_resumes_52 rfl (by first | exact loC_i | exact loC_r | exact loC_n | exact loC_q | exact loC_u) ?_ | refine z_asu3 (q := 53) C dX0_resumes_52 rfl (by first | exact loC_i | exact loC_r | exact loC_n | exact loC_q | exact loC_u) ?_
        exact hg
      | some k =>
        have hk9 := alast k hl
        rw [hl] at h82
        have h82 : fi σ 82 (p (8 + cn)) = nI k := h82
        first | refine z_al0 (q := 26) C dX0_resumes_25 rfl ?_ | refine z_al0q (q := 26) C dX0_resumes_25 rfl ?_ | refine z_al0u (q := 26) C dX0_resumes_25 rfl ?_
        first | refine xr_X0_26 (q := 29) C (by first | exact ho | exact hk | exact hb | exact he | assumption) (by assumption) dX0_resumes_26 rfl ?_ | refine xn_X0_26 (q := 29) C (by first | exact ho | exact hk | exact hb | exact he | assumption) (by assumption) dX0_resumes_26 rfl ?_ | refine xg_X0_26 (q := 29) C (by first | exact ho | exact hk | exact hb | exact he | assumption) dX0_resumes_26 rfl ?_
        refine z_il1 (q := 30) C dX0_resumes_29 rfl ?_
        refine x_aald (q := 31) C 4 (by decide) (by decide) (by assumption) (by rw [l2]; omega) (by omega) dX0_resumes_30 rfl ?_
        rw [har]
        first | refine z_as2 (q := 32) C dX0_resumes_31 rfl (by first | exact loC_i | exact loC_r | exact loC_n | exact loC_q | exact loC_u) ?_ | refine z_as2q (q := 32) C dX0_resumes_31 rfl (by first | exact loC_i | exact loC_r | exact loC_n | exact loC_q | exact loC_u) ?_ | refine z_asu2 (q := 32) C dX0_resumes_31 rfl (by first | exact loC_i | exact loC_r | exact loC_n | exact loC_q | exact loC_u) ?_
        first | refine z_al2 (q := 33) C dX0_resumes_32 rfl ?_ | refine z_al2q (q := 33) C dX0_resumes_32 rfl ?_ | refine z_al2u (q := 33) C dX0_resumes_32 rfl ?_
        refine xg_X0_322 (q := 36) C (by exact hkcu) dX0_resumes_33 rfl ?_
        rw [h82]
        refine z_iconst (q := 37) (v := -1) C dX0_resumes_36 rfl (by decide) ?_
        refine z_icmp_ne (tgt := 44) (q := 40) C dX0_resumes_37 (by decide) rfl (fun c37 => ?_) (fun c37 => absurd c37 (nI_nm1 (by omega)))
        cases hp : k_pl (a_c α) k with
        | none =>
          have his : k_is (a_c α) (a_cu α cn) = none := by unfold k_is; rw [hl]; simp only; rw [if_pos hp]
          have hg := finN his
          have hfd := cx_foundN (D := D) (d := 0) hX.1 hC.2.1 hI hk9 hp
          first | refine z_al0 (q := 45) C dX0_resumes_44 rfl ?_ | refine z_al0q (q := 45) C dX0_resumes_44 rfl ?_ | refine z_al0u (q := 45) C dX0_resumes_44 rfl ?_
          first | refine z_al2 (q := 46) C dX0_resumes_45 rfl ?_ | refine z_al2q (q := 46) C dX0_resumes_45 rfl ?_ | refine z_al2u (q := 46) C dX0_resumes_45 rfl ?_
          refine xg_X0_322 (q := 49) C (by exact hkcu) dX0_resumes_46 rfl ?_
          rw [h82]
          refine xc_X0_230 (q := 52) C hfd (by first | exact ho | exact hk | exact hb | exact he | assumption | exact Or.inl (by assumption) | exact Or.inr (by assumption)) dX0_resumes_49 rfl rfl rfl (Nat.le_of_ble_eq_true rfl) (by first | decide | omega) (by omega) (by omega) (kkE ?_)
          first | refine z_as3 (q := 53) C dX0_resumes_52 rfl (by first | exact loC_i | exact loC_r | exact loC_n | exact loC_q | exact loC_u) ?_ | refine z_as3q (q := 53) C dX0_resumes_52 rfl (by first | exact loC_i | exact loC_r | exact loC_n | exact loC_q | exact loC_u) ?_ | refine z_asu3 (q := 53) C dX0_resumes_52 rfl (by first | exact loC_i | exact loC_r | exact loC_n | exact loC_q | exact loC_u) ?_
          exact hg
        | some e =>
          have his : k_is (a_c α) (a_cu α cn) = some k := by unfold k_is; rw [hl]; simp only; rw [if_neg (by rw [hp]; simp)]
          obtain ⟨he, hes, hke⟩ := k_pl_some hp
          have hkm : k ∈ k_ks (a_c α) := by rw [← hke]; exact kAt_mem he
          have hat := k_by_at (w := w) hI hkm
          have hfd := cx_foundS (D := D) (d := 0) hX.1 hC.2.1 hI hk9 hp
          rw [hke] at hfd
          have hg := fin ((k_by (a_c α) w)[k_at (a_c α) w k + 1]?) (some k) (by unfold k_res; rw [his, hw]; rfl) (fun k' hk' => ⟨k_by_mem hI hk', fun z => by
            cases z
            have := k_at_ix hI hk'
            omega⟩) (fun k' hk' => by cases hk'; exact hkm)
          first | refine z_al0 (q := 45) C dX0_resumes_44 rfl ?_ | refine z_al0q (q := 45) C dX0_resumes_44 rfl ?_ | refine z_al0u (q := 45) C dX0_resumes_44 rfl ?_
          first | refine z_al2 (q := 46) C dX0_resumes_45 rfl ?_ | refine z_al2q (q := 46) C dX0_resumes_45 rfl ?_ | refine z_al2u (q := 46) C dX0_resumes_45 rfl ?_
          refine xg_X0_322 (q := 49) C (by exact hkcu) dX0_resumes_46 rfl ?_
          rw [h82]
          refine xc_X0_230 (q := 52) C hfd (by first | exact ho | exact hk | exact hb | exact he | assumption | exact Or.inl (by assumption) | exact Or.inr (by assumption)) dX0_resumes_49 rfl rfl rfl (Nat.le_of_ble_eq_true rfl) (by first | decide | omega) (by omega) (by omega) (kkE ?_)
          first | refine z_as3 (q := 53) C dX0_resumes_52 rfl (by first | exact loC_i | exact loC_r | exact loC_n | exact loC_q | exact loC_u) ?_ | refine z_as3q (q := 53) C dX0_resumes_52 rfl (by first | exact loC_i | exact loC_r | exact loC_n | exact loC_q | exact loC_u) ?_ | refine z_asu3 (q := 53) C dX0_resumes_52 rfl (by first | exact loC_i | exact loC_r | exact loC_n | exact loC_q | exact loC_u) ?_
          first | refine z_al2 (q := 54) C dX0_resumes_53 rfl ?_ | refine z_al2q (q := 54) C dX0_resumes_53 rfl ?_ | refine z_al2u (q := 54) C dX0_resumes_53 rfl ?_
          first | refine z_al3 (q := 55) C dX0_resumes_54 rfl ?_ | refine z_al3q (q := 55) C dX0_resumes_54 rfl ?_ | refine z_al3u (q := 55) C dX0_resumes_54 rfl ?_
          refine z_ifnonnull_r (tgt := 69) C dX0_resumes_55 (by decide) ?_
          first | refine z_al2 (q := 70) C dX0_resumes_69 rfl ?_ | refine z_al2q (q := 70) C dX0_resumes_69 rfl ?_ | refine z_al2u (q := 70) C dX0_resumes_69 rfl ?_
          first | refine xr_X0_303 (q := 73) C (by exact hkcu) h80 dX0_resumes_70 rfl ?_ | refine xn_X0_303 (q := 73) C (by exact hkcu) h80 dX0_resumes_70 rfl ?_
          first | refine z_al0 (q := 74) C dX0_resumes_73 rfl ?_ | refine z_al0q (q := 74) C dX0_resumes_73 rfl ?_ | refine z_al0u (q := 74) C dX0_resumes_73 rfl ?_
          first | refine z_al3 (q := 75) C dX0_resumes_74 rfl ?_ | refine z_al3q (q := 75) C dX0_resumes_74 rfl ?_ | refine z_al3u (q := 75) C dX0_resumes_74 rfl ?_
          refine x_wnext (q := 78) C hw3 hX.1 hC hI hat dX0_resumes_75 rfl (Nat.le_of_ble_eq_true rfl) (by omega) (by omega) (by omega) ?_
          exact hg
set_option maxHeartbeats 1000000 in
theorem cx_removes (h : XA false D p σ α) (hA : AI N α) (c : Int32) : Ct (wX D) yX0_removes cX0_removes 4 (some .int) [.ref (p 0), .int c] σ (PI (fun r σ' => r = (a_removes α c).1 ∧ XA false D p σ' (a_removes α c).2)) 64 300 1500 := by
  obtain ⟨ad, B, hX, hq, hC, hU, hP, h9, hR⟩ := h.num
  have hM := hX.1
  have ho := hX.1.1
  have hs := hX.sep
  obtain ⟨r16, k5, l5⟩ := hX.2.2.2.2.1
  obtain ⟨r10, k2, l2⟩ := hX.2.1
  have hI := hA.1
  refine Ct.of KXok (by decide) (Nat.le_of_ble_eq_true rfl) rfl fun Y C hQ hNm => ?_
  cases hi : inB c (nI 0) (nI 2) with
  | false =>
    have e1 : a_removes α c = a_ref α (-2) := by unfold a_removes; rw [hi, if_neg (by simp), a_lk_b hi, if_neg (by decide)]
    rw [e1] at hQ
    have hb := h.rfs hA (i := 0) (by decide)
    refine z_il1 (q := 1) C dX0_removes_0 rfl ?_
    refine xc_X0_307 (q := 4) C (cx_isCursor (d := 0) σ c) dX0_removes_1 rfl rfl rfl (Nat.le_of_ble_eq_true rfl) (by first | decide | omega) (by omega) (by omega) (kkE ?_)
    first | refine z_if_neB (tgt := 12) (q := 7) C dX0_removes_4 (by decide) rfl (fun c4 => ?_) (fun c4 => ?_) | refine z_if_ne (tgt := 12) (q := 7) C dX0_removes_4 (by decide) rfl (fun c4 => ?_) (fun c4 => ?_)
    · rw [hi] at c4; cases c4
    · first | refine z_al0 (q := 8) C dX0_removes_7 rfl ?_ | refine z_al0q (q := 8) C dX0_removes_7 rfl ?_ | refine z_al0u (q := 8) C dX0_removes_7 rfl ?_
      refine xc_X0_227 (q := 11) C (cx_bad (d := 0) ho r16 k5 l5) (by first | exact ho | exact hk | exact hb | exact he | assumption | exact Or.inl (by assumption) | exact Or.inr (by assumption)) dX0_removes_8 rfl rfl rfl (Nat.le_of_ble_eq_true rfl) (by first | decide | omega) (by omega) (by omega) (kkE ?_)
      refine z_iret C hQ dX0_removes_11 (by omega) (by omega) ?_
      exact ⟨_, rfl, rfl, hb⟩
  | true =>
    obtain ⟨cn, hcn, rfl, hkc⟩ := cur_of hi
    have hop := cx_isOpen (D := D) (d := 0) h hcn
    obtain ⟨har, hkcu⟩ := hX.2.2.2.2.2.2.2.1 cn hcn
    obtain ⟨u0, u1⟩ := hU cn hcn
    obtain ⟨aw, anx, alast, akn⟩ := hA.2.2.2.2.2.2.2 cn hcn
    have hb1 := h.rfs hA (i := 1) (by decide)
    cases hw : (a_cu α cn).1 with
    | none =>
      have e1 : a_removes α (nI cn) = a_ref α (-3) := by unfold a_removes; rw [hkc, hw, if_neg (by simp), a_lk_n hi hkc hw, if_neg (by decide)]
      rw [e1] at hQ
      rw [hw] at hop
      refine z_il1 (q := 1) C dX0_removes_0 rfl ?_
      refine xc_X0_307 (q := 4) C (cx_isCursor (d := 0) σ _) dX0_removes_1 rfl rfl rfl (Nat.le_of_ble_eq_true rfl) (by first | decide | omega) (by omega) (by omega) (kkE ?_)
      first | refine z_if_neB (tgt := 12) (q := 7) C dX0_removes_4 (by decide) rfl (fun c4 => ?_) (fun c4 => ?_) | refine z_if_ne (tgt := 12) (q := 7) C dX0_removes_4 (by decide) rfl (fun c4 => ?_) (fun c4 => ?_)
      · first | refine z_al0 (q := 13) C dX0_removes_12 rfl ?_ | refine z_al0q (q := 13) C dX0_removes_12 rfl ?_ | refine z_al0u (q := 13) C dX0_removes_12 rfl ?_
        refine z_il1 (q := 14) C dX0_removes_13 rfl ?_
        refine xc_X0_327 (q := 17) C hop (by first | exact ho | exact hk | exact hb | exact he | assumption | exact Or.inl (by assumption) | exact Or.inr (by assumption)) dX0_removes_14 rfl rfl rfl (Nat.le_of_ble_eq_true rfl) (by first | decide | omega) (by omega) (by omega) (kkE ?_)
        first | refine z_if_eqB (tgt := 33) (q := 20) C dX0_removes_17 (by decide) rfl (fun c17 => ?_) (fun c17 => ?_) | refine z_if_eq (tgt := 33) (q := 20) C dX0_removes_17 (by decide) rfl (fun c17 => ?_) (fun c17 => ?_)
        · first | refine z_al0 (q := 34) C dX0_removes_33 rfl ?_ | refine z_al0q (q := 34) C dX0_removes_33 rfl ?_ | refine z_al0u (q := 34) C dX0_removes_33 rfl ?_
          refine xc_X0_290 (q := 37) C (cx_no (d := 0) ho r16 k5 l5) (by first | exact ho | exact hk | exact hb | exact he | assumption | exact Or.inl (by assumption) | exact Or.inr (by assumption)) dX0_removes_34 rfl rfl rfl (Nat.le_of_ble_eq_true rfl) (by first | decide | omega) (by omega) (by omega) (kkE ?_)
          refine z_iret C hQ dX0_removes_37 (by omega) (by omega) ?_
          exact ⟨_, rfl, rfl, hb1⟩
        · cases c17
      · rw [hi] at c4; cases c4
    | some w =>
      have hw3 := aw w hw
      obtain ⟨h80, h82, h83, h81⟩ := u1 w hw
      have hlk := a_lk_s hi hkc hw
      rw [hw] at hop
      have hch := hA.2.2.2.1
      have hNb := hA.2.2.2.2.1
      refine z_il1 (q := 1) C dX0_removes_0 rfl ?_
      refine xc_X0_307 (q := 4) C (cx_isCursor (d := 0) σ _) dX0_removes_1 rfl rfl rfl (Nat.le_of_ble_eq_true rfl) (by first | decide | omega) (by omega) (by omega) (kkE ?_)
      refine z_if_neB (tgt := 12) (q := 7) C dX0_removes_4 (by decide) rfl (fun c4 => ?_) (fun c4 => by rw [hi] at c4; cases c4)
      first | refine z_al0 (q := 13) C dX0_removes_12 rfl ?_ | refine z_al0q (q := 13) C dX0_removes_12 rfl ?_ | refine z_al0u (q := 13) C dX0_removes_12 rfl ?_
      refine z_il1 (q := 14) C dX0_removes_13 rfl ?_
      refine xc_X0_327 (q := 17) C hop (by first | exact ho | exact hk | exact hb | exact he | assumption | exact Or.inl (by assumption) | exact Or.inr (by assumption)) dX0_removes_14 rfl rfl rfl (Nat.le_of_ble_eq_true rfl) (by first | decide | omega) (by omega) (by omega) (kkE ?_)
      refine z_if_eqB (tgt := 33) (q := 20) C dX0_removes_17 (by decide) rfl (fun c17 => by cases c17) (fun c17 => ?_)
      cases hl : (a_cu α cn).2.2.1 with
      | none =>
        have e1 : a_removes α (nI cn) = a_ref α (-3) := by unfold a_removes; rw [hkc, hi, hw, hl, if_pos (by rfl)]
        rw [e1] at hQ
        rw [hl] at h82
        have h82 : fi σ 82 (p (8 + cn)) = -1 := h82
        first | refine z_al0 (q := 21) C dX0_removes_20 rfl ?_ | refine z_al0q (q := 21) C dX0_removes_20 rfl ?_ | refine z_al0u (q := 21) C dX0_removes_20 rfl ?_
        first | refine xr_X0_26 (q := 24) C (by first | exact ho | exact hk | exact hb | exact he | assumption) (by assumption) dX0_removes_21 rfl ?_ | refine xn_X0_26 (q := 24) C (by first | exact ho | exact hk | exact hb | exact he | assumption) (by assumption) dX0_removes_21 rfl ?_ | refine xg_X0_26 (q := 24) C (by first | exact ho | exact hk | exact hb | exact he | assumption) dX0_removes_21 rfl ?_
        refine z_il1 (q := 25) C dX0_removes_24 rfl ?_
        refine x_aald (q := 26) C 4 (by decide) (by decide) (by assumption) (by rw [l2]; omega) (by omega) dX0_removes_25 rfl ?_
        rw [har]
        refine xg_X0_322 (q := 29) C (by exact hkcu) dX0_removes_26 rfl ?_
        rw [h82]
        refine z_iconst (q := 30) (v := -1) C dX0_removes_29 rfl (by decide) ?_
        refine z_icmp_ne (tgt := 38) (q := 33) C dX0_removes_30 (by decide) rfl (fun c30 => absurd rfl c30) (fun c30 => ?_)
        first | refine z_al0 (q := 34) C dX0_removes_33 rfl ?_ | refine z_al0q (q := 34) C dX0_removes_33 rfl ?_ | refine z_al0u (q := 34) C dX0_removes_33 rfl ?_
        refine xc_X0_290 (q := 37) C (cx_no (d := 0) ho r16 k5 l5) (by first | exact ho | exact hk | exact hb | exact he | assumption | exact Or.inl (by assumption) | exact Or.inr (by assumption)) dX0_removes_34 rfl rfl rfl (Nat.le_of_ble_eq_true rfl) (by first | decide | omega) (by omega) (by omega) (kkE ?_)
        refine z_iret C hQ dX0_removes_37 (by omega) (by omega) ?_
        exact ⟨_, rfl, rfl, hb1⟩
      | some k =>
        have hk9 := alast k hl
        have e0 : a_removes α (nI cn) = if a_lk α (nI cn) = nI 0 then (oI (k_rem (a_c α) k).1, a_cur (a_lv α (k_rem (a_c α) k).2.1 (k_rem (a_c α) k).2.2) cn (some w, (a_cu α cn).2.1, none, a_ch α + (k_rem (a_c α) k).2.2)) else a_ref α (a_lk α (nI cn)) := by
          unfold a_removes
          rw [hkc, hi, hw, hl, if_neg (by simp)]
        rw [e0] at hQ
        rw [hl] at h82
        have h82 : fi σ 82 (p (8 + cn)) = nI k := h82
        first | refine z_al0 (q := 21) C dX0_removes_20 rfl ?_ | refine z_al0q (q := 21) C dX0_removes_20 rfl ?_ | refine z_al0u (q := 21) C dX0_removes_20 rfl ?_
        first | refine xr_X0_26 (q := 24) C (by first | exact ho | exact hk | exact hb | exact he | assumption) (by assumption) dX0_removes_21 rfl ?_ | refine xn_X0_26 (q := 24) C (by first | exact ho | exact hk | exact hb | exact he | assumption) (by assumption) dX0_removes_21 rfl ?_ | refine xg_X0_26 (q := 24) C (by first | exact ho | exact hk | exact hb | exact he | assumption) dX0_removes_21 rfl ?_
        refine z_il1 (q := 25) C dX0_removes_24 rfl ?_
        refine x_aald (q := 26) C 4 (by decide) (by decide) (by assumption) (by rw [l2]; omega) (by omega) dX0_removes_25 rfl ?_
        rw [har]
        refine xg_X0_322 (q := 29) C (by exact hkcu) dX0_removes_26 rfl ?_
        rw [h82]
        refine z_iconst (q := 30) (v := -1) C dX0_removes_29 rfl (by decide) ?_
        refine z_icmp_ne (tgt := 38) (q := 33) C dX0_removes_30 (by decide) rfl (fun c30 => ?_) (fun c30 => absurd c30 (nI_nm1 (by omega)))
        first | refine z_al0 (q := 39) C dX0_removes_38 rfl ?_ | refine z_al0q (q := 39) C dX0_removes_38 rfl ?_ | refine z_al0u (q := 39) C dX0_removes_38 rfl ?_
        first | refine xr_X0_26 (q := 42) C (by first | exact ho | exact hk | exact hb | exact he | assumption) (by assumption) dX0_removes_39 rfl ?_ | refine xn_X0_26 (q := 42) C (by first | exact ho | exact hk | exact hb | exact he | assumption) (by assumption) dX0_removes_39 rfl ?_ | refine xg_X0_26 (q := 42) C (by first | exact ho | exact hk | exact hb | exact he | assumption) dX0_removes_39 rfl ?_
        refine z_il1 (q := 43) C dX0_removes_42 rfl ?_
        refine x_aald (q := 44) C 4 (by decide) (by decide) (by assumption) (by rw [l2]; omega) (by omega) dX0_removes_43 rfl ?_
        rw [har]
        first | refine z_as2 (q := 45) C dX0_removes_44 rfl (by first | exact loC_i | exact loC_r | exact loC_n | exact loC_q | exact loC_u) ?_ | refine z_as2q (q := 45) C dX0_removes_44 rfl (by first | exact loC_i | exact loC_r | exact loC_n | exact loC_q | exact loC_u) ?_ | refine z_asu2 (q := 45) C dX0_removes_44 rfl (by first | exact loC_i | exact loC_r | exact loC_n | exact loC_q | exact loC_u) ?_
        first | refine z_al2 (q := 46) C dX0_removes_45 rfl ?_ | refine z_al2q (q := 46) C dX0_removes_45 rfl ?_ | refine z_al2u (q := 46) C dX0_removes_45 rfl ?_
        refine xg_X0_324 (q := 49) C (by exact hkcu) dX0_removes_46 rfl ?_
        rw [h83]
        first | refine z_al0 (q := 50) C dX0_removes_49 rfl ?_ | refine z_al0q (q := 50) C dX0_removes_49 rfl ?_ | refine z_al0u (q := 50) C dX0_removes_49 rfl ?_
        refine xg_X0_153 (q := 53) C (by exact ho) dX0_removes_50 rfl ?_
        rw [h9]
        refine z_icmp_eqN (tgt := 61) (q := 56) C dX0_removes_53 (by decide) rfl (by omega) (by omega) (fun c53 => ?_) (fun c53 => ?_)
        · obtain ⟨g81, gn, gl⟩ := h81 c53
          rw [if_pos c53] at hlk
          rw [if_pos hlk] at hQ
          have hkm := gl k hl
          cases hp : k_pl (a_c α) k with
          | none => exact absurd hkm (k_pl_none hp)
          | some e =>
            obtain ⟨he, hes, hke⟩ := k_pl_some hp
            have hg : k_rem (a_c α) k = (some (vAt (a_c α) e), k_go (a_c α) e, 1) := by unfold k_rem; rw [hp]
            rw [hg] at hQ
            have hEC := hC.1.2.2 _ (List.mem_of_getElem? hes)
            rw [← hke] at hEC
            have hkd : kd σ (ad (kAt (a_c α) e)) = 2 := hEC.1
            have e21 : fi σ 21 (ad (kAt (a_c α) e)) = nI (vAt (a_c α) e) := hEC.2.2.1
            first | refine z_al0 (q := 62) C dX0_removes_61 rfl ?_ | refine z_al0q (q := 62) C dX0_removes_61 rfl ?_ | refine z_al0u (q := 62) C dX0_removes_61 rfl ?_
            refine xc_X0_237 (q := 65) C (cx_lv hX hC hI hP hq) (by first | exact ho | exact hk | exact hb | exact he | assumption | exact Or.inl (by assumption) | exact Or.inr (by assumption)) dX0_removes_62 rfl rfl rfl (Nat.le_of_ble_eq_true rfl) (by first | decide | omega) (by omega) (by omega) (kkV fun σ62 h62 => ?_)
            obtain ⟨hP1, hF1⟩ := h62
            have hX1 := hX.keep hF1 (by simp) (by simp; exact hs.2.1.symm)
            have hC1 := hC.keep hM hF1 (by simp) (by simp) (by simp; exact hs.1.symm)
            have hkcu1 : kd σ62 (p (8 + cn)) = 5 := hF1.ek hkcu
            have h821 : fi σ62 82 (p (8 + cn)) = nI k := by rw [hF1.gi (by omega) (by simp)]; exact h82
            have hfd := cx_foundS (D := D) (d := 0) hX1.1 hC1.2.1 hI hk9 hp
            first | refine z_al0 (q := 66) C dX0_removes_65 rfl ?_ | refine z_al0q (q := 66) C dX0_removes_65 rfl ?_ | refine z_al0u (q := 66) C dX0_removes_65 rfl ?_
            first | refine z_al2 (q := 67) C dX0_removes_66 rfl ?_ | refine z_al2q (q := 67) C dX0_removes_66 rfl ?_ | refine z_al2u (q := 67) C dX0_removes_66 rfl ?_
            refine xg_X0_322 (q := 70) C (by exact hkcu1) dX0_removes_67 rfl ?_
            rw [h821]
            refine xc_X0_230 (q := 73) C hfd (by exact hX1.1.1) dX0_removes_70 rfl rfl rfl (Nat.le_of_ble_eq_true rfl) (by first | decide | omega) (by omega) (by omega) (kkE ?_)
            first | refine z_as3 (q := 74) C dX0_removes_73 rfl (by first | exact loC_i | exact loC_r | exact loC_n | exact loC_q | exact loC_u) ?_ | refine z_as3q (q := 74) C dX0_removes_73 rfl (by first | exact loC_i | exact loC_r | exact loC_n | exact loC_q | exact loC_u) ?_ | refine z_asu3 (q := 74) C dX0_removes_73 rfl (by first | exact loC_i | exact loC_r | exact loC_n | exact loC_q | exact loC_u) ?_
            first | refine z_al0 (q := 75) C dX0_removes_74 rfl ?_ | refine z_al0q (q := 75) C dX0_removes_74 rfl ?_ | refine z_al0u (q := 75) C dX0_removes_74 rfl ?_
            first | refine z_al3 (q := 76) C dX0_removes_75 rfl ?_ | refine z_al3q (q := 76) C dX0_removes_75 rfl ?_ | refine z_al3u (q := 76) C dX0_removes_75 rfl ?_
            refine xc_X0_169 (q := 79) C (cx_leavesOne hX1.1 hC1 hI he) (by exact hX1.1.1) dX0_removes_76 rfl rfl rfl (Nat.le_of_ble_eq_true rfl) (by first | decide | omega) (by omega) (by omega) (kkV fun σ76 h76 => ?_)
            obtain ⟨⟨B3, hC3⟩, h93, hF3⟩ := h76
            have hX3 := hX1.keep hF3 (by simp) (by simp; exact hs.2.2.2.2.2.1.symm)
            have ho3 := hX3.1.1
            have hkcu3 : kd σ76 (p (8 + cn)) = 5 := hF3.ek hkcu1
            have hFF : FG [4, 9, 12, 42] [2, 3, 24, 25, 26, 27, 28, 29, 40, 41, 60] [p 1, p 3] σ σ76 := (hF1.up (by simp) (by simp) (by simp)).tr (hF3.up (by simp) (by simp) (by simp))
            have h93' : fi σ76 9 (p 0) = nI (a_ch α + 1) := by rw [h93, hF1.gi (by omega) (by simp), h9, nI_add]
            have hq3 : fi σ76 13 (p 0) = bI false := by rw [hFF.gi (by omega) (by simp)]; exact hq
            have hP3 := hP1.keep hX1 hF3 (by simp) (by simp) (by simp; exact hs.1) (by simp)
            have hR3 := hR.keep hX hFF (by simp) (by simp; exact ⟨hs.2.2.2.2.2.2.1.symm, hs.2.2.1.symm⟩) (by simp; exact ⟨hs.2.2.2.2.2.2.2.1.symm, hs.2.2.2.1.symm⟩) (by simp; exact ⟨hs.2.2.2.2.2.2.2.2.1.symm, hs.2.2.2.2.1.symm⟩)
            have hU3 : XU D p ad σ76 (k_ks (k_go (a_c α) e)) (a_ch α + 1) (a_cu α) := hU.go hX hFF (by simp) (by simp) (fun i hi => (hA.2.2.2.2.2.2.2 i hi).2.2.2) (Or.inl (by omega))
            have hkd3 : kd σ76 (ad (kAt (a_c α) e)) = 2 := hFF.ek hkd
            have e213 : fi σ76 21 (ad (kAt (a_c α) e)) = nI (vAt (a_c α) e) := by rw [hFF.gi (by omega) (by simp)]; exact e21
            have hFu : FU (p (8 + cn)) σ76 (sI 83 (p (8 + cn)) (nI (a_ch α + 1)) (sI 82 (p (8 + cn)) (-1) σ76)) := (FR.rf.wI (fun _ => ⟨Or.inl rfl, rfl⟩)).wI (fun _ => ⟨Or.inr rfl, rfl⟩)
            first | refine z_al2 (q := 80) C dX0_removes_79 rfl ?_ | refine z_al2q (q := 80) C dX0_removes_79 rfl ?_ | refine z_al2u (q := 80) C dX0_removes_79 rfl ?_
            refine z_iconst (q := 81) (v := -1) C dX0_removes_80 rfl (by decide) ?_
            refine xp_X0_322 (q := 84) C (by exact hkcu3) dX0_removes_81 rfl ?_
            first | refine z_al2 (q := 85) C dX0_removes_84 rfl ?_ | refine z_al2q (q := 85) C dX0_removes_84 rfl ?_ | refine z_al2u (q := 85) C dX0_removes_84 rfl ?_
            first | refine z_al0 (q := 86) C dX0_removes_85 rfl ?_ | refine z_al0q (q := 86) C dX0_removes_85 rfl ?_ | refine z_al0u (q := 86) C dX0_removes_85 rfl ?_
            refine xg_X0_153 (q := 89) C (by exact ho3) dX0_removes_86 rfl ?_
            rw [show fi (sI 82 (p (8 + cn)) (-1) σ76) 9 (p 0) = nI (a_ch α + 1) from by rw [fi_sI, if_neg (fun z => by cases z.1)]; exact h93']
            refine xp_X0_324 (q := 92) C (by exact hkcu3) dX0_removes_89 rfl ?_
            first | refine z_al3 (q := 93) C dX0_removes_92 rfl ?_ | refine z_al3q (q := 93) C dX0_removes_92 rfl ?_ | refine z_al3u (q := 93) C dX0_removes_92 rfl ?_
            refine xg_X0_201 (q := 96) C (by exact hkd3) dX0_removes_93 rfl ?_
            rw [show fi (sI 83 (p (8 + cn)) (nI (a_ch α + 1)) (sI 82 (p (8 + cn)) (-1) σ76)) 21 (ad (kAt (a_c α) e)) = nI (vAt (a_c α) e) from by rw [fi_sI, if_neg (fun z => by cases z.1), fi_sI, if_neg (fun z => by cases z.1)]; exact e213]
            refine z_iret C hQ dX0_removes_96 (by omega) (by omega) ?_
            refine ⟨_, rfl, rfl, XA.cur (α := a_lv α (k_go (a_c α) e) 1) (B := B3) hX3 hq3 hC3 hU3 hP3 h93' hR3 hcn hFu rfl ?_ ?_ ?_ (fun _ => ⟨?_, fun k' hk' => ⟨?_, by simp⟩, fun k' hk' => by cases hk'⟩)⟩
            · rw [fr_sI, fr_sI, hFF.gr (by omega) (by simp)]; exact h80
            · rw [fi_sI, if_neg (fun z => by cases z.1), fi_sI, if_pos ⟨rfl, rfl⟩]; rfl
            · rw [fi_sI, if_pos ⟨rfl, rfl⟩]
            · rw [fr_sI, fr_sI, hFF.gr (by omega) (by simp)]; exact g81
            · have hk' : (a_cu α cn).2.1 = some k' := hk'
              obtain ⟨h1, h2⟩ := gn k' hk'
              have hper := (k_del_perm he).mem_iff.mp h1
              rcases List.mem_cons.mp hper with z | z
              · exact absurd (by rw [hl, z, hke]) h2
              · exact z
        · rw [if_neg c53] at hlk
          rw [hlk, if_neg (by decide)] at hQ
          have hb := h.rfs hA (i := 3) (by decide)
          first | refine z_al0 (q := 57) C dX0_removes_56 rfl ?_ | refine z_al0q (q := 57) C dX0_removes_56 rfl ?_ | refine z_al0u (q := 57) C dX0_removes_56 rfl ?_
          refine xc_X0_330 (q := 60) C (cx_late (d := 0) ho r16 k5 l5) (by first | exact ho | exact hk | exact hb | exact he | assumption | exact Or.inl (by assumption) | exact Or.inr (by assumption)) dX0_removes_57 rfl rfl rfl (Nat.le_of_ble_eq_true rfl) (by first | decide | omega) (by omega) (by omega) (kkE ?_)
          refine z_iret C hQ dX0_removes_60 (by omega) (by omega) ?_
          exact ⟨_, rfl, rfl, hb⟩
end X82
