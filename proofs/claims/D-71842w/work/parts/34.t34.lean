/-! the twin: opens, next, left, resumes, removes -/
theorem TA.w3 {N : Nat} {τ : Tw} {α : Al} (h : TA N τ α) {i w : Nat} (hi : i < 3) (hw : (a_cu α i).1 = some w) : w < 3 := (h.2.2.2.2.2 i hi).2.1 w hw
/-- what a cursor that may be asked is -/
theorem lk_ok {α : Al} {c : Int32} (h : a_lk α c = nI 0 ∨ a_lk α c = -6) : ∃ cn w, c = nI cn ∧ cn < 3 ∧ kN c = cn ∧ (a_cu α cn).1 = some w ∧ inB c (nI 0) (nI 2) = true := by
  unfold a_lk at h
  split at h
  · rename_i hi
    obtain ⟨ec, hc⟩ := in_of (by decide) hi
    cases hw : (a_cu α (kN c)).1 with
    | none =>
      rw [if_pos hw] at h
      rcases h with h | h <;> exact absurd h (by decide)
    | some w => exact ⟨kN c, w, ec, by omega, rfl, hw, hi⟩
  · rcases h with h | h <;> exact absurd h (by decide)
theorem lk_cases (α : Al) (c : Int32) : a_lk α c = nI 0 ∨ a_lk α c = -2 ∨ a_lk α c = -3 ∨ a_lk α c = -6 := by
  unfold a_lk
  split
  · split
    · exact Or.inr (Or.inr (Or.inl rfl))
    · split
      · exact Or.inl rfl
      · exact Or.inr (Or.inr (Or.inr rfl))
  · exact Or.inr (Or.inl rfl)
theorem lk_known {α : Al} {cn : Nat} (h : a_lk α (nI cn) = nI 0) (hc : cn < 3) : (a_cu α cn).2.2.2 = a_ch α := by
  unfold a_lk at h
  rw [show kN (nI cn) = cn from nI_clamp (by omega)] at h
  split at h
  · split at h
    · exact absurd h (by decide)
    · split at h
      · assumption
      · exact absurd h (by decide)
  · exact absurd h (by decide)
theorem Ct.weak {S : Type} {w : Wd S} {y : MethodName} {cc : ByteArray} {nL : Nat} {ret : Option FieldType} {av : List Value} {σ : S} {P P' : Option Value → S → Prop} {d mc ms : Nat} (h : Ct w y cc nL ret av σ P d mc ms) (hp : ∀ v σ', P v σ' → P' v σ') : Ct w y cc nL ret av σ P' d mc ms := by
  intro l sz p e ha hf hc s m args below h1 h2 h3 h4
  obtain ⟨n, o, q1, q2, q3, ⟨⟨v, σ', g1, g2, g3⟩, g4⟩, q5⟩ := h l sz p e ha hf hc s m args below h1 h2 h3 h4
  exact ⟨n, o, q1, q2, q3, ⟨⟨v, σ', g1, hp v σ' g2, g3⟩, g4⟩, q5⟩
section T34
variable {D : Dt} {o : Nat} {ad : Nat → Nat}
/-- a refusal by its number -/
theorem ct_refusesR {N : Nat} {α : Al} (τ : Tw) (hA : TA N τ α) (r : Int32) (hr : r = -2 ∨ r = -3 ∨ r = -6) : Ct (wT D o ad) yX5_refuses cX5_refuses 2 (some .int) [.ref o, .int r] τ (PI (fun x τ' => x = (a_ref α r).1 ∧ TA N τ' (a_ref α r).2)) 0 0 0 := by
  rcases hr with rfl | rfl | rfl
  · exact (ct_refuses τ (-2) 0 (by decide) (by decide)).weak (fun v σ' h => ⟨-2, h.1, rfl, by rw [h.2]; exact hA.rfs (i := 0) (by decide)⟩)
  · exact (ct_refuses τ (-3) 1 (by decide) (by decide)).weak (fun v σ' h => ⟨-3, h.1, rfl, by rw [h.2]; exact hA.rfs (i := 1) (by decide)⟩)
  · exact (ct_refuses τ (-6) 4 (by decide) (by decide)).weak (fun v σ' h => ⟨-6, h.1, rfl, by rw [h.2]; exact hA.rfs (i := 3) (by decide)⟩)
set_option maxHeartbeats 1000000 in
theorem ct_opens {N : Nat} {α : Al} (τ : Tw) (hA : TA N τ α) (c w : Int32) (hN : N + 200 ≤ 1000000) : Ct (wT D o ad) yX5_opens cX5_opens 3 (some .int) [.ref o, .int c, .int w] τ (PI (fun r τ' => r = (a_opens α c w).1 ∧ TA (N + 200) τ' (a_opens α c w).2)) 8 0 0 := by
  refine Ct.of KTok (by decide) (Nat.le_of_ble_eq_true rfl) rfl fun Y C hQ hNm => ?_
  have hlen := hA.1.2
  cases hi : (inB c (nI 0) (nI 2) && inB w (nI 0) (nI 2)) with
  | false =>
    have e1 : a_opens α c w = (-2, a_rfs α 0) := if_neg (by rw [hi]; decide)
    rw [e1] at hQ
    refine z_il1 (q := 1) C dX5_opens_0 rfl ?_
    refine z_callSe (q := 4) C (ct_isCursor τ c) g_X5_195 dX5_opens_1 rfl rfl rfl (Nat.le_of_ble_eq_true rfl) (by first | decide | omega) (Nat.le_refl _) (Nat.le_refl _) ?_
    first | refine z_if_eqB (tgt := 16) (q := 7) C dX5_opens_4 (by decide) rfl (fun c4 => ?_) (fun c4 => ?_) | refine z_if_eq (tgt := 16) (q := 7) C dX5_opens_4 (by decide) rfl (fun c4 => ?_) (fun c4 => ?_)
    · refine z_al0 (q := 17) C dX5_opens_16 rfl ?_
      refine z_bipush (q := 19) (v := -2) C dX5_opens_17 rfl (by decide) ?_
      refine z_callVe (q := 22) C (ct_refuses τ (-2) 0 (by decide) (by decide)) g_X5_137 rcT dX5_opens_19 rfl rfl rfl (Nat.le_of_ble_eq_true rfl) (by first | decide | omega) (Nat.le_refl _) (Nat.le_refl _) ?_
      refine z_iret C hQ dX5_opens_22 (Nat.le_refl _) (Nat.le_refl _) ?_
      exact ⟨_, rfl, rfl, (hA.rfs (i := 0) (by decide)).mono (by omega) hN⟩
    · refine z_il2 (q := 8) C dX5_opens_7 rfl ?_
      refine z_iconst (q := 9) (v := nI 0) C dX5_opens_8 rfl (by decide) ?_
      refine z_iconst (q := 10) (v := nI 2) C dX5_opens_9 rfl (by decide) ?_
      refine z_callSe (q := 13) C (ct_in τ w (nI 0) (nI 2)) g_X5_44 dX5_opens_10 rfl rfl rfl (Nat.le_of_ble_eq_true rfl) (by first | decide | omega) (Nat.le_refl _) (Nat.le_refl _) ?_
      first | refine z_if_neB (tgt := 23) (q := 16) C dX5_opens_13 (by decide) rfl (fun c13 => ?_) (fun c13 => ?_) | refine z_if_ne (tgt := 23) (q := 16) C dX5_opens_13 (by decide) rfl (fun c13 => ?_) (fun c13 => ?_)
      · rw [c4, c13] at hi; cases hi
      · refine z_al0 (q := 17) C dX5_opens_16 rfl ?_
        refine z_bipush (q := 19) (v := -2) C dX5_opens_17 rfl (by decide) ?_
        refine z_callVe (q := 22) C (ct_refuses τ (-2) 0 (by decide) (by decide)) g_X5_137 rcT dX5_opens_19 rfl rfl rfl (Nat.le_of_ble_eq_true rfl) (by first | decide | omega) (Nat.le_refl _) (Nat.le_refl _) ?_
        refine z_iret C hQ dX5_opens_22 (Nat.le_refl _) (Nat.le_refl _) ?_
        exact ⟨_, rfl, rfl, (hA.rfs (i := 0) (by decide)).mono (by omega) hN⟩
  | true =>
    obtain ⟨g1, g2⟩ := Bool.and_eq_true_iff.mp hi
    obtain ⟨ec, hc⟩ := in_of (by decide) g1
    obtain ⟨ew, hw⟩ := in_of (by decide) g2
    have e0 : a_opens α c w = (nI (k_es (a_c α)).length, a_cur α (kN c) (some (kN w), (k_by (a_c α) (kN w))[0]?, none, a_ch α)) := if_pos hi
    rw [e0] at hQ
    generalize kN c = cn at *
    generalize kN w = wn at *
    subst ec
    subst ew
    have hTs : TC N ((sE 9 cn (nI wn) τ).2 0) (a_c α) := by rw [sE_o (by decide)]; exact hA.1.1
    refine z_il1 (q := 1) C dX5_opens_0 rfl ?_
    refine z_callSe (q := 4) C (ct_isCursor τ (nI cn)) g_X5_195 dX5_opens_1 rfl rfl rfl (Nat.le_of_ble_eq_true rfl) (by first | decide | omega) (Nat.le_refl _) (Nat.le_refl _) ?_
    first | refine z_if_eqB (tgt := 16) (q := 7) C dX5_opens_4 (by decide) rfl (fun c4 => ?_) (fun c4 => ?_) | refine z_if_eq (tgt := 16) (q := 7) C dX5_opens_4 (by decide) rfl (fun c4 => ?_) (fun c4 => ?_)
    · rw [g1] at c4; cases c4
    refine z_il2 (q := 8) C dX5_opens_7 rfl ?_
    refine z_iconst (q := 9) (v := nI 0) C dX5_opens_8 rfl (by decide) ?_
    refine z_iconst (q := 10) (v := nI 2) C dX5_opens_9 rfl (by decide) ?_
    refine z_callSe (q := 13) C (ct_in τ (nI wn) (nI 0) (nI 2)) g_X5_44 dX5_opens_10 rfl rfl rfl (Nat.le_of_ble_eq_true rfl) (by first | decide | omega) (Nat.le_refl _) (Nat.le_refl _) ?_
    first | refine z_if_neB (tgt := 23) (q := 16) C dX5_opens_13 (by decide) rfl (fun c13 => ?_) (fun c13 => ?_) | refine z_if_ne (tgt := 23) (q := 16) C dX5_opens_13 (by decide) rfl (fun c13 => ?_) (fun c13 => ?_)
    · refine z_al0 (q := 24) C dX5_opens_23 rfl ?_
      refine tg_25 (q := 27) C dX5_opens_24 rfl ?_
      refine z_il1 (q := 28) C dX5_opens_27 rfl ?_
      refine z_il2 (q := 29) C dX5_opens_28 rfl ?_
      refine ta_st9 (q := 30) C dX5_opens_29 rfl (by omega) ?_
      refine z_al0 (q := 31) C dX5_opens_30 rfl ?_
      refine tg_28 (q := 34) C dX5_opens_31 rfl ?_
      refine z_il1 (q := 35) C dX5_opens_34 rfl ?_
      refine z_al0 (q := 36) C dX5_opens_35 rfl ?_
      refine z_il2 (q := 37) C dX5_opens_36 rfl ?_
      refine z_iconst (q := 38) (v := nI 0) C dX5_opens_37 rfl (by decide) ?_
      refine z_callVi (q := 41) C (ct_keyOrNone _ (by exact hTs) wn 0 (by omega) (by decide)) g_X5_198 rcT dX5_opens_38 rfl rfl rfl (Nat.le_of_ble_eq_true rfl) (by first | decide | omega) (Nat.le_refl _) (Nat.le_refl _) (fun r38 τ38 h38 => ?_)
      refine ta_st10 (q := 42) C dX5_opens_41 rfl (by omega) ?_
      obtain ⟨hF, rfl⟩ := h38
      have h0 : τ38.2 0 0 = nI (k_es (a_c α)).length := by rw [hF.2 0 (by decide)]; exact hTs.a0
      have h5 : τ38.1 5 = nI (a_ch α) := by rw [hF.1 5 (by decide)]; exact hA.2.2.2.1.1
      have hF' : TF [8, 14, 16, 17, 18, 19] [2, 9, 10, 11, 12, 13, 15] τ τ38 := (TF.rf.sE (by decide) _ _).tr (hF.up (by decide) (by decide))
      have o9 : ∀ i, τ38.2 9 i = (sE 9 cn (nI wn) τ).2 9 i := fun i => by rw [hF.2 9 (by decide)]
      have o10 : ∀ i, τ38.2 10 i = τ.2 10 i := fun i => by rw [hF.2 10 (by decide), sE_o (by decide)]
      have o11 : ∀ i, τ38.2 11 i = τ.2 11 i := fun i => by rw [hF.2 11 (by decide), sE_o (by decide)]
      have o12 : ∀ i, τ38.2 12 i = τ.2 12 i := fun i => by rw [hF.2 12 (by decide), sE_o (by decide)]
      refine z_al0 (q := 43) C dX5_opens_42 rfl ?_
      refine tg_31 (q := 46) C dX5_opens_43 rfl ?_
      refine z_il1 (q := 47) C dX5_opens_46 rfl ?_
      refine z_iconst (q := 48) (v := -1) C dX5_opens_47 rfl (by decide) ?_
      refine ta_st11 (q := 49) C dX5_opens_48 rfl (by omega) ?_
      refine z_al0 (q := 50) C dX5_opens_49 rfl ?_
      refine tg_34 (q := 53) C dX5_opens_50 rfl ?_
      refine z_il1 (q := 54) C dX5_opens_53 rfl ?_
      refine z_al0 (q := 55) C dX5_opens_54 rfl ?_
      refine tg_108 (q := 58) C dX5_opens_55 rfl ?_
      rw [show (sE 11 cn (-1) (sE 10 cn (oI (k_by (a_c α) wn)[0]?) τ38)).1 5 = nI (a_ch α) from h5]
      refine ta_st12 (q := 59) C dX5_opens_58 rfl (by omega) ?_
      refine z_al0 (q := 60) C dX5_opens_59 rfl ?_
      refine tg_7 (q := 63) C dX5_opens_60 rfl ?_
      refine z_iconst (q := 64) (v := nI 0) C dX5_opens_63 rfl (by decide) ?_
      refine ta_ld0 (q := 65) C dX5_opens_64 rfl (by omega) ?_
      rw [show (sE 12 cn (nI (a_ch α)) (sE 11 cn (-1) (sE 10 cn (oI (k_by (a_c α) wn)[0]?) τ38))).2 0 0 = nI (k_es (a_c α)).length from h0]
      refine z_iret C hQ dX5_opens_65 (Nat.le_refl _) (Nat.le_refl _) ?_
      refine ⟨_, rfl, rfl, hA.cur (((hF'.sE (by decide) _ _).sE (by decide) _ _).sE (by decide) _ _) (by omega) hN (show cn < 3 by omega) (fun i hi _ => ?_) ?_ ?_ ?_ ?_ ?_⟩
      · rw [sE_o (by decide), sE_o (by decide), sE_o (by decide), sE_o (by decide), sE_o (by decide), sE_n hi, sE_o (by decide), sE_n hi, sE_o (by decide), sE_n hi, sE_o (by decide), sE_o (by decide), o9, o10, o11, o12, sE_n hi]; exact ⟨rfl, rfl, rfl, rfl⟩
      · rw [sE_o (by decide), sE_o (by decide), sE_o (by decide), o9, sE_s]; rfl
      · rw [sE_o (by decide), sE_o (by decide), sE_s]
      · rw [sE_o (by decide), sE_s]; rfl
      · rw [sE_s]
      · exact ⟨fun x hx => (by cases hx; omega), fun k hk => k_by_le hA.1.1.1 (List.mem_of_getElem? hk), fun k hk => (by cases hk), Nat.le_refl _⟩
    · rw [g2] at c13; cases c13
set_option maxHeartbeats 1000000 in
theorem ct_leftOf {N : Nat} {α : Al} (τ : Tw) (hA : TA N τ α) (cn w : Nat) (hc : cn < 3) (hw : (a_cu α cn).1 = some w) : Ct (wT D o ad) yX5_leftOf cX5_leftOf 2 (some .int) [.ref o, .int (nI cn)] τ (PI (fun r τ' => TF [14, 16, 17, 18] [13, 15] τ τ' ∧ r = nI (k_lf (a_c α) (a_cu α cn)))) 6 0 0 := by
  refine Ct.of KTok (by decide) (Nat.le_of_ble_eq_true rfl) rfl fun Y C hQ hNm => ?_
  have hlen := hA.1.2
  obtain ⟨⟨g9, g10, g11, g12⟩, gw, gn, -, gk⟩ := hA.2.2.2.2.2 cn hc
  have hw3 := gw w hw
  rw [hw] at g9
  have g9 : τ.2 9 cn = nI w := g9
  cases hn : (a_cu α cn).2.1 with
  | none =>
    have e1 : k_lf (a_c α) (a_cu α cn) = 0 := by unfold k_lf; rw [hn]
    rw [e1] at hQ
    rw [hn] at g10
    refine z_al0 (q := 1) C dX5_leftOf_0 rfl ?_
    refine tg_28 (q := 4) C dX5_leftOf_1 rfl ?_
    refine z_il1 (q := 5) C dX5_leftOf_4 rfl ?_
    refine ta_ld10 (q := 6) C dX5_leftOf_5 rfl (by omega) ?_
    rw [g10]
    refine z_iconst (q := 7) (v := -1) C dX5_leftOf_6 rfl (by decide) ?_
    refine z_icmp_ne (tgt := 14) (q := 10) C dX5_leftOf_7 (by decide) rfl (fun c7 => ?_) (fun c7 => ?_)
    · exact absurd rfl c7
    · refine z_iconst (q := 11) (v := nI 0) C dX5_leftOf_10 rfl (by decide) ?_
      refine z_goto (tgt := 37) C dX5_leftOf_11 (by decide) ?_
      refine z_iret C hQ dX5_leftOf_37 (Nat.le_refl _) (Nat.le_refl _) ?_
      exact ⟨_, rfl, TF.rf, rfl⟩
  | some k =>
    have hk := gn k hn
    have e1 : k_lf (a_c α) (a_cu α cn) = (k_es (a_c α)).length - k_at (a_c α) w k := by unfold k_lf; rw [hn, hw]; rfl
    rw [e1] at hQ
    rw [hn] at g10
    have g10 : τ.2 10 cn = nI k := g10
    have hat : k_at (a_c α) w k ≤ (k_es (a_c α)).length := by rw [← k_by_len hA.1.1.1 w]; exact findIdx_le _ _
    refine z_al0 (q := 1) C dX5_leftOf_0 rfl ?_
    refine tg_28 (q := 4) C dX5_leftOf_1 rfl ?_
    refine z_il1 (q := 5) C dX5_leftOf_4 rfl ?_
    refine ta_ld10 (q := 6) C dX5_leftOf_5 rfl (by omega) ?_
    rw [g10]
    refine z_iconst (q := 7) (v := -1) C dX5_leftOf_6 rfl (by decide) ?_
    refine z_icmp_ne (tgt := 14) (q := 10) C dX5_leftOf_7 (by decide) rfl (fun c7 => ?_) (fun c7 => ?_)
    · refine z_al0 (q := 15) C dX5_leftOf_14 rfl ?_
      refine tg_7 (q := 18) C dX5_leftOf_15 rfl ?_
      refine z_iconst (q := 19) (v := nI 0) C dX5_leftOf_18 rfl (by decide) ?_
      refine ta_ld0 (q := 20) C dX5_leftOf_19 rfl (by omega) ?_
      rw [hA.1.1.a0]
      refine z_al0 (q := 21) C dX5_leftOf_20 rfl ?_
      refine z_al0 (q := 22) C dX5_leftOf_21 rfl ?_
      refine tg_25 (q := 25) C dX5_leftOf_22 rfl ?_
      refine z_il1 (q := 26) C dX5_leftOf_25 rfl ?_
      refine ta_ld9 (q := 27) C dX5_leftOf_26 rfl (by omega) ?_
      rw [g9]
      refine z_al0 (q := 28) C dX5_leftOf_27 rfl ?_
      refine tg_28 (q := 31) C dX5_leftOf_28 rfl ?_
      refine z_il1 (q := 32) C dX5_leftOf_31 rfl ?_
      refine ta_ld10 (q := 33) C dX5_leftOf_32 rfl (by omega) ?_
      rw [g10]
      refine z_callVi (q := 36) C (ct_placeBy τ hA.1.1 w k hw3 hk) g_X5_192 rcT dX5_leftOf_33 rfl rfl rfl (Nat.le_of_ble_eq_true rfl) (by first | decide | omega) (Nat.le_refl _) (Nat.le_refl _) (fun r33 τ33 h33 => ?_)
      obtain ⟨hF, rfl⟩ := h33
      refine z_isubN (q := 37) C dX5_leftOf_36 rfl hat ?_
      refine z_iret C hQ dX5_leftOf_37 (Nat.le_refl _) (Nat.le_refl _) ?_
      exact ⟨_, rfl, hF, rfl⟩
    · exact absurd c7 (nI_nm1 (by omega))
set_option maxHeartbeats 1000000 in
theorem ct_left {N : Nat} {α : Al} (τ : Tw) (hA : TA N τ α) (c : Int32) (hN : N + 200 ≤ 1000000) : Ct (wT D o ad) yX5_left cX5_left 3 (some .int) [.ref o, .int c] τ (PI (fun r τ' => r = (a_left α c).1 ∧ TA (N + 200) τ' (a_left α c).2)) 8 0 0 := by
  refine Ct.of KTok (by decide) (Nat.le_of_ble_eq_true rfl) rfl fun Y C hQ hNm => ?_
  by_cases h0 : a_lk α c = nI 0
  · have e1 : a_left α c = (nI (k_lf (a_c α) (a_cu α (kN c))), α) := if_pos h0
    rw [e1] at hQ
    obtain ⟨cn, w, rfl, hcn, ek, hw, hin⟩ := lk_ok (Or.inl h0)
    rw [ek] at hQ
    refine z_al0 (q := 1) C dX5_left_0 rfl ?_
    refine z_il1 (q := 2) C dX5_left_1 rfl ?_
    refine z_callVe (q := 5) C (ct_lacks τ hA (nI cn) (nI 0) h0) g_X5_201 rcT dX5_left_2 rfl rfl rfl (Nat.le_of_ble_eq_true rfl) (by first | decide | omega) (Nat.le_refl _) (Nat.le_refl _) ?_
    refine z_is2 (q := 6) C dX5_left_5 rfl (by first | exact loC_i | exact loC_r | exact loC_n | exact loC_q | exact loC_u) ?_
    refine z_il2 (q := 7) C dX5_left_6 rfl ?_
    refine z_if_ge (tgt := 18) (q := 10) C dX5_left_7 (by decide) rfl (fun c7 => ?_) (fun c7 => ?_)
    · refine z_al0 (q := 19) C dX5_left_18 rfl ?_
      refine z_il1 (q := 20) C dX5_left_19 rfl ?_
      refine z_callVi (q := 23) C (ct_leftOf τ hA cn w hcn hw) g_X5_204 rcT dX5_left_20 rfl rfl rfl (Nat.le_of_ble_eq_true rfl) (by first | decide | omega) (Nat.le_refl _) (Nat.le_refl _) (fun r20 τ20 h20 => ?_)
      refine z_iret C hQ dX5_left_23 (Nat.le_refl _) (Nat.le_refl _) ?_
      exact ⟨_, rfl, h20.2, hA.read h20.1 hN⟩
    · exact absurd (show (0 : Int32) ≤ nI 0 from by decide) c7
  · have e1 : a_left α c = a_ref α (a_lk α c) := if_neg h0
    rw [e1] at hQ
    have hl := (lk_cases α c).resolve_left h0
    generalize hr : a_lk α c = r at *
    have hneg : ¬ 0 ≤ r := by rcases hl with rfl | rfl | rfl <;> decide
    refine z_al0 (q := 1) C dX5_left_0 rfl ?_
    refine z_il1 (q := 2) C dX5_left_1 rfl ?_
    refine z_callVe (q := 5) C (ct_lacks τ hA c r hr) g_X5_201 rcT dX5_left_2 rfl rfl rfl (Nat.le_of_ble_eq_true rfl) (by first | decide | omega) (Nat.le_refl _) (Nat.le_refl _) ?_
    refine z_is2 (q := 6) C dX5_left_5 rfl (by first | exact loC_i | exact loC_r | exact loC_n | exact loC_q | exact loC_u) ?_
    refine z_il2 (q := 7) C dX5_left_6 rfl ?_
    refine z_if_ge (tgt := 18) (q := 10) C dX5_left_7 (by decide) rfl (fun c7 => ?_) (fun c7 => ?_)
    · exact absurd c7 hneg
    · refine z_al0 (q := 11) C dX5_left_10 rfl ?_
      refine z_il2 (q := 12) C dX5_left_11 rfl ?_
      refine z_callVi (q := 15) C (ct_refusesR τ hA r hl) g_X5_137 rcT dX5_left_12 rfl rfl rfl (Nat.le_of_ble_eq_true rfl) (by first | decide | omega) (Nat.le_refl _) (Nat.le_refl _) (fun r12 τ12 h12 => ?_)
      refine z_goto (tgt := 23) C dX5_left_15 (by decide) ?_
      refine z_iret C hQ dX5_left_23 (Nat.le_refl _) (Nat.le_refl _) ?_
      exact ⟨_, rfl, h12.1, h12.2.mono (by omega) hN⟩
set_option maxHeartbeats 1000000 in
theorem ct_next {N : Nat} {α : Al} (τ : Tw) (hA : TA N τ α) (c : Int32) (hN : N + 200 ≤ 1000000) : Ct (wT D o ad) yX5_next cX5_next 4 (some .int) [.ref o, .int c] τ (PI (fun r τ' => r = (a_next α c).1 ∧ TA (N + 200) τ' (a_next α c).2)) 8 0 0 := by
  refine Ct.of KTok (by decide) (Nat.le_of_ble_eq_true rfl) rfl fun Y C hQ hNm => ?_
  by_cases h0 : a_lk α c = nI 0
  · obtain ⟨cn, w, rfl, hcn, ek, hw, hin⟩ := lk_ok (Or.inl h0)
    obtain ⟨⟨g9, g10, g11, g12⟩, gw, gn, gl, gk⟩ := hA.2.2.2.2.2 cn hcn
    have hw3 := gw w hw
    rw [hw] at g9
    have g9 : τ.2 9 cn = nI w := g9
    have hlen := hA.1.2
    unfold a_next at hQ
    rw [if_pos h0, ek] at hQ
    cases hn : (a_cu α cn).2.1 with
    | none =>
      rw [hn] at hQ g10
      refine z_al0 (q := 1) C dX5_next_0 rfl ?_
      refine z_il1 (q := 2) C dX5_next_1 rfl ?_
      refine z_callVe (q := 5) C (ct_lacks τ hA (nI cn) (nI 0) h0) g_X5_201 rcT dX5_next_2 rfl rfl rfl (Nat.le_of_ble_eq_true rfl) (by first | decide | omega) (Nat.le_refl _) (Nat.le_refl _) ?_
      refine z_is2 (q := 6) C dX5_next_5 rfl (by first | exact loC_i | exact loC_r | exact loC_n | exact loC_q | exact loC_u) ?_
      refine z_il2 (q := 7) C dX5_next_6 rfl ?_
      refine z_if_ge (tgt := 16) (q := 10) C dX5_next_7 (by decide) rfl (fun c7 => ?_) (fun c7 => ?_)
      · refine z_al0 (q := 17) C dX5_next_16 rfl ?_
        refine tg_28 (q := 20) C dX5_next_17 rfl ?_
        refine z_il1 (q := 21) C dX5_next_20 rfl ?_
        refine ta_ld10 (q := 22) C dX5_next_21 rfl (by omega) ?_
        rw [g10]
        refine z_is3 (q := 23) C dX5_next_22 rfl (by first | exact loC_i | exact loC_r | exact loC_n | exact loC_q | exact loC_u) ?_
        refine z_il3 (q := 24) C dX5_next_23 rfl ?_
        refine z_iconst (q := 25) (v := -1) C dX5_next_24 rfl (by decide) ?_
        refine z_icmp_eq (tgt := 64) (q := 28) C dX5_next_25 (by decide) rfl (fun c25 => ?_) (fun c25 => ?_)
        · refine z_il3 (q := 65) C dX5_next_64 rfl ?_
          refine z_iret C hQ dX5_next_65 (Nat.le_refl _) (Nat.le_refl _) ?_
          exact ⟨_, rfl, rfl, hA.mono (by omega) hN⟩
        · exact absurd rfl c25
      · exact absurd (show (0 : Int32) ≤ nI 0 from by decide) c7
    | some k =>
      have hk := gn k hn
      rw [hn, hw] at hQ
      rw [hn] at g10
      have g10 : τ.2 10 cn = nI k := g10
      have hat : k_at (a_c α) w k ≤ (k_es (a_c α)).length := by rw [← k_by_len hA.1.1.1 w]; exact findIdx_le _ _
      have hT1 : TC N ((sE 11 cn (nI k) τ).2 0) (a_c α) := by rw [sE_o (by decide)]; exact hA.1.1
      have h91 : (sE 11 cn (nI k) τ).2 9 cn = nI w := by rw [sE_o (by decide)]; exact g9
      refine z_al0 (q := 1) C dX5_next_0 rfl ?_
      refine z_il1 (q := 2) C dX5_next_1 rfl ?_
      refine z_callVe (q := 5) C (ct_lacks τ hA (nI cn) (nI 0) h0) g_X5_201 rcT dX5_next_2 rfl rfl rfl (Nat.le_of_ble_eq_true rfl) (by first | decide | omega) (Nat.le_refl _) (Nat.le_refl _) ?_
      refine z_is2 (q := 6) C dX5_next_5 rfl (by first | exact loC_i | exact loC_r | exact loC_n | exact loC_q | exact loC_u) ?_
      refine z_il2 (q := 7) C dX5_next_6 rfl ?_
      refine z_if_ge (tgt := 16) (q := 10) C dX5_next_7 (by decide) rfl (fun c7 => ?_) (fun c7 => ?_)
      · refine z_al0 (q := 17) C dX5_next_16 rfl ?_
        refine tg_28 (q := 20) C dX5_next_17 rfl ?_
        refine z_il1 (q := 21) C dX5_next_20 rfl ?_
        refine ta_ld10 (q := 22) C dX5_next_21 rfl (by omega) ?_
        rw [g10]
        refine z_is3 (q := 23) C dX5_next_22 rfl (by first | exact loC_i | exact loC_r | exact loC_n | exact loC_q | exact loC_u) ?_
        refine z_il3 (q := 24) C dX5_next_23 rfl ?_
        refine z_iconst (q := 25) (v := -1) C dX5_next_24 rfl (by decide) ?_
        refine z_icmp_eq (tgt := 64) (q := 28) C dX5_next_25 (by decide) rfl (fun c25 => ?_) (fun c25 => ?_)
        · exact absurd c25 (nI_nm1 (by omega))
        refine z_al0 (q := 29) C dX5_next_28 rfl ?_
        refine tg_31 (q := 32) C dX5_next_29 rfl ?_
        refine z_il1 (q := 33) C dX5_next_32 rfl ?_
        refine z_il3 (q := 34) C dX5_next_33 rfl ?_
        refine ta_st11 (q := 35) C dX5_next_34 rfl (by omega) ?_
        refine z_al0 (q := 36) C dX5_next_35 rfl ?_
        refine tg_28 (q := 39) C dX5_next_36 rfl ?_
        refine z_il1 (q := 40) C dX5_next_39 rfl ?_
        refine z_al0 (q := 41) C dX5_next_40 rfl ?_
        refine z_al0 (q := 42) C dX5_next_41 rfl ?_
        refine tg_25 (q := 45) C dX5_next_42 rfl ?_
        refine z_il1 (q := 46) C dX5_next_45 rfl ?_
        refine ta_ld9 (q := 47) C dX5_next_46 rfl (by omega) ?_
        rw [h91]
        refine z_al0 (q := 48) C dX5_next_47 rfl ?_
        refine z_al0 (q := 49) C dX5_next_48 rfl ?_
        refine tg_25 (q := 52) C dX5_next_49 rfl ?_
        refine z_il1 (q := 53) C dX5_next_52 rfl ?_
        refine ta_ld9 (q := 54) C dX5_next_53 rfl (by omega) ?_
        rw [h91]
        refine z_il3 (q := 55) C dX5_next_54 rfl ?_
        refine z_callVi (q := 58) C (ct_placeBy _ (by exact hT1) w k hw3 hk) g_X5_192 rcT dX5_next_55 rfl rfl rfl (Nat.le_of_ble_eq_true rfl) (by first | decide | omega) (Nat.le_refl _) (Nat.le_refl _) (fun r55 τ55 h55 => ?_)
        obtain ⟨hF, rfl⟩ := h55
        refine z_iconst (q := 59) (v := nI 1) C dX5_next_58 rfl (by decide) ?_
        first | refine z_iaddN (q := 60) C dX5_next_59 rfl ?_ | refine z_iadd (q := 60) C dX5_next_59 rfl ?_
        refine z_callVi (q := 63) C (ct_keyOrNone τ55 ((hF.2 0 (by decide)).symm ▸ hT1) w (k_at (a_c α) w k + 1) hw3 (by omega)) g_X5_198 rcT dX5_next_60 rfl rfl rfl (Nat.le_of_ble_eq_true rfl) (by first | decide | omega) (Nat.le_refl _) (Nat.le_refl _) (fun r60 τ60 h60 => ?_)
        obtain ⟨hF2, rfl⟩ := h60
        have hF' : TF [8, 14, 16, 17, 18, 19] [2, 9, 10, 11, 12, 13, 15] τ τ60 := ((TF.rf.sE (by decide) _ _).tr (hF.up (by decide) (by decide))).tr (hF2.up (by decide) (by decide))
        have o9 : ∀ i, τ60.2 9 i = τ.2 9 i := fun i => by rw [hF2.2 9 (by decide), hF.2 9 (by decide), sE_o (by decide)]
        have o10 : ∀ i, τ60.2 10 i = τ.2 10 i := fun i => by rw [hF2.2 10 (by decide), hF.2 10 (by decide), sE_o (by decide)]
        have o11 : ∀ i, τ60.2 11 i = (sE 11 cn (nI k) τ).2 11 i := fun i => by rw [hF2.2 11 (by decide), hF.2 11 (by decide)]
        have o12 : ∀ i, τ60.2 12 i = τ.2 12 i := fun i => by rw [hF2.2 12 (by decide), hF.2 12 (by decide), sE_o (by decide)]
        refine ta_st10 (q := 64) C dX5_next_63 rfl (by omega) ?_
        refine z_il3 (q := 65) C dX5_next_64 rfl ?_
        refine z_iret C hQ dX5_next_65 (Nat.le_refl _) (Nat.le_refl _) ?_
        refine ⟨_, rfl, rfl, hA.cur (hF'.sE (by decide) _ _) (by omega) hN hcn (fun i hi _ => ?_) ?_ ?_ ?_ ?_ ?_⟩
        · rw [sE_o (by decide), sE_n hi, sE_o (by decide), sE_o (by decide), o9, o10, o11, o12, sE_n hi]; exact ⟨rfl, rfl, rfl, rfl⟩
        · rw [sE_o (by decide), o9, g9]; rfl
        · rw [sE_s]; rfl
        · rw [sE_o (by decide), o11, sE_s]; rfl
        · rw [sE_o (by decide), o12, g12]
        · exact ⟨fun x hx => (by cases hx; exact hw3), fun y hy => k_by_le hA.1.1.1 (List.mem_of_getElem? hy), fun y hy => (by cases hy; exact hk), gk⟩
      · exact absurd (show (0 : Int32) ≤ nI 0 from by decide) c7
  · have e1 : a_next α c = a_ref α (a_lk α c) := if_neg h0
    rw [e1] at hQ
    have hl := (lk_cases α c).resolve_left h0
    generalize hr : a_lk α c = r at *
    have hneg : ¬ 0 ≤ r := by rcases hl with rfl | rfl | rfl <;> decide
    refine z_al0 (q := 1) C dX5_next_0 rfl ?_
    refine z_il1 (q := 2) C dX5_next_1 rfl ?_
    refine z_callVe (q := 5) C (ct_lacks τ hA c r hr) g_X5_201 rcT dX5_next_2 rfl rfl rfl (Nat.le_of_ble_eq_true rfl) (by first | decide | omega) (Nat.le_refl _) (Nat.le_refl _) ?_
    refine z_is2 (q := 6) C dX5_next_5 rfl (by first | exact loC_i | exact loC_r | exact loC_n | exact loC_q | exact loC_u) ?_
    refine z_il2 (q := 7) C dX5_next_6 rfl ?_
    refine z_if_ge (tgt := 16) (q := 10) C dX5_next_7 (by decide) rfl (fun c7 => ?_) (fun c7 => ?_)
    · exact absurd c7 hneg
    · refine z_al0 (q := 11) C dX5_next_10 rfl ?_
      refine z_il2 (q := 12) C dX5_next_11 rfl ?_
      refine z_callVi (q := 15) C (ct_refusesR τ hA r hl) g_X5_137 rcT dX5_next_12 rfl rfl rfl (Nat.le_of_ble_eq_true rfl) (by first | decide | omega) (Nat.le_refl _) (Nat.le_refl _) (fun r12 τ12 h12 => ?_)
      refine z_iret C hQ dX5_next_15 (Nat.le_refl _) (Nat.le_refl _) ?_
      exact ⟨_, rfl, h12.1, h12.2.mono (by omega) hN⟩
end T34
