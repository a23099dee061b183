/-! the twin: texts typed, states taken back, what is told, the digest -/
def a_txt (α : Al) (tx : List Nat) : Al := (a_c α, a_ps α, a_rf α, a_ch α, tx, a_cu α)
def a_type (α : Al) (c : Int32) : Int32 × Al := if inB c (nI 0) (nI 127) = true then (if (a_tx α).length = 120 then (-4, a_rfs α 2) else (nI ((a_tx α).length + 1), a_txt α (a_tx α ++ [kN c]))) else (-2, a_rfs α 0)
def a_clear (α : Al) : Int32 × Al := (nI (a_tx α).length, a_txt α [])
def a_back (α : Al) : Int32 × Al := match (a_ps α).getLast? with
  | none => (-3, a_rfs α 1)
  | some c => (nI ((a_ps α).length - 1), (c, (a_ps α).dropLast, a_rf α, a_ch α + 1, a_tx α, a_cu α))
/-- which cursors are open -/
def opn (cu : Nat → Cu) : Nat → Int32
  | 0 => nI 0
  | n + 1 => opn cu n ||| (if (cu n).1 = none then nI 0 else nI 1 <<< (nI n &&& 31))
def a_tof (α : Al) (w : Nat) : Int32 := if w < 4 then a_rf α w else if w < 8 then nI (k_n (a_c α) (2 + w - 4)) else if w = 8 then nI (a_tx α).length else if w = 9 then nI (a_ps α).length else opn (a_cu α) 3
def a_told (α : Al) (w : Int32) : Int32 × Al := if inB w (nI 0) (nI 10) = true then (a_tof α (kN w), α) else (-2, a_rfs α 0)
def itN (g : Nat → Int64 → Int64) (h : Int64) : Nat → Int64
  | 0 => h
  | n + 1 => g n (itN g h n)
def dg1 (α : Al) : Int64 := itN (fun w h => 31 * h + (a_tof α w).toInt64) 1842 11
def dg2 (α : Al) : Int64 := itN (fun w h => 31 * h + (k_cnt (a_c α) (a_ch α) w).toInt64) (dg1 α) 8
def dg3 (α : Al) : Int64 := itN (fun e h => 31 * (31 * h + (nI (kAt (a_c α) e)).toInt64) + (nI (vAt (a_c α) e)).toInt64) (dg2 α) (k_es (a_c α)).length
def dgb (c : Co) (b : Nat) (h : Int64) : Int64 := itN (fun i h => 31 * h + (nI ((k_row c b).getD i 0)).toInt64) (itN (fun w h => 31 * h + (k_bf c b w).toInt64) h 3) (k_mi c b)
def a_dig (α : Al) : Int64 := itN (dgb (a_c α)) (dg3 α) (k_n (a_c α) 1)
def PL {S : Type} (p : Int64 → S → Prop) : Option Value → S → Prop := fun v σ' => ∃ x : Int64, v = some (.long x) ∧ p x σ'
section TXs
variable {N M : Nat} {τ τ' : Tw} {α : Al}
theorem TA.txt (h : TA N τ α) (hF : TF [7, 8, 19] [2, 6] τ τ') (hNM : N ≤ M) (hM : M ≤ 1000000) {tx : List Nat} (h5 : T5 τ' tx) : TA M τ' (a_txt α tx) :=
  ⟨⟨by rw [hF.2 0 (by decide)]; exact h.1.1.mono hNM hM, h.1.2⟩, ⟨by rw [hF.1 3 (by decide)]; exact h.2.1.1, h.2.1.2.1, by rw [hF.2 1 (by decide)]; exact h.2.1.2.2.1.mono hNM hM, h.2.1.2.2.2⟩, by unfold T3; rw [hF.2 4 (by decide)]; exact h.2.2.1, ⟨by rw [hF.1 5 (by decide)]; exact h.2.2.2.1.1, Nat.le_trans h.2.2.2.1.2 hNM⟩, h5, h.2.2.2.2.2.keep (hF.2 9 (by decide)) (hF.2 10 (by decide)) (hF.2 11 (by decide)) (hF.2 12 (by decide))⟩
end TXs
section T36
variable {D : Dt} {o : Nat} {ad : Nat → Nat}
set_option maxHeartbeats 1000000 in
theorem ct_type {N : Nat} {α : Al} (τ : Tw) (hA : TA N τ α) (c : Int32) (hN : N + 200 ≤ 1000000) : Ct (wT D o ad) yX5_type cX5_type 2 (some .int) [.ref o, .int c] τ (PI (fun r τ' => r = (a_type α c).1 ∧ TA (N + 200) τ' (a_type α c).2)) 8 0 0 := by
  refine Ct.of KTok (by decide) (Nat.le_of_ble_eq_true rfl) rfl fun Y C hQ hNm => ?_
  obtain ⟨h7, hl, hX, hx⟩ := hA.2.2.2.2.1
  cases hi : inB c (nI 0) (nI 127) with
  | false =>
    have e1 : a_type α c = (-2, a_rfs α 0) := if_neg (by rw [hi]; decide)
    rw [e1] at hQ
    refine z_il1 (q := 1) C dX5_type_0 rfl ?_
    refine z_iconst (q := 2) (v := nI 0) C dX5_type_1 rfl (by decide) ?_
    refine z_bipush (q := 4) (v := nI 127) C dX5_type_2 rfl (by decide) ?_
    refine z_callSe (q := 7) C (ct_in τ c (nI 0) (nI 127)) g_X5_44 dX5_type_4 rfl rfl rfl (Nat.le_of_ble_eq_true rfl) (by first | decide | omega) (Nat.le_refl _) (Nat.le_refl _) ?_
    first | refine z_if_neB (tgt := 17) (q := 10) C dX5_type_7 (by decide) rfl (fun c7 => ?_) (fun c7 => ?_) | refine z_if_ne (tgt := 17) (q := 10) C dX5_type_7 (by decide) rfl (fun c7 => ?_) (fun c7 => ?_)
    · rw [hi] at c7; cases c7
    · refine z_al0 (q := 11) C dX5_type_10 rfl ?_
      refine z_bipush (q := 13) (v := -2) C dX5_type_11 rfl (by decide) ?_
      refine z_callVe (q := 16) C (ct_refuses τ (-2) 0 (by decide) (by decide)) g_X5_137 rcT dX5_type_13 rfl rfl rfl (Nat.le_of_ble_eq_true rfl) (by first | decide | omega) (Nat.le_refl _) (Nat.le_refl _) ?_
      refine z_iret C hQ dX5_type_16 (Nat.le_refl _) (Nat.le_refl _) ?_
      exact ⟨_, rfl, rfl, (hA.rfs (i := 0) (by decide)).mono (by omega) hN⟩
  | true =>
    obtain ⟨ec, hc⟩ := in_of (by decide) hi
    have e0 : a_type α c = if (a_tx α).length = 120 then (-4, a_rfs α 2) else (nI ((a_tx α).length + 1), a_txt α (a_tx α ++ [kN c])) := if_pos hi
    rw [e0] at hQ
    generalize kN c = cn at *
    subst ec
    by_cases hz : (a_tx α).length = 120
    · rw [if_pos hz] at hQ
      refine z_il1 (q := 1) C dX5_type_0 rfl ?_
      refine z_iconst (q := 2) (v := nI 0) C dX5_type_1 rfl (by decide) ?_
      refine z_bipush (q := 4) (v := nI 127) C dX5_type_2 rfl (by decide) ?_
      refine z_callSe (q := 7) C (ct_in τ (nI cn) (nI 0) (nI 127)) g_X5_44 dX5_type_4 rfl rfl rfl (Nat.le_of_ble_eq_true rfl) (by first | decide | omega) (Nat.le_refl _) (Nat.le_refl _) ?_
      first | refine z_if_neB (tgt := 17) (q := 10) C dX5_type_7 (by decide) rfl (fun c7 => ?_) (fun c7 => ?_) | refine z_if_ne (tgt := 17) (q := 10) C dX5_type_7 (by decide) rfl (fun c7 => ?_) (fun c7 => ?_)
      · refine z_al0 (q := 18) C dX5_type_17 rfl ?_
        refine tg_207 (q := 21) C dX5_type_18 rfl ?_
        rw [h7]
        refine z_bipush (q := 23) (v := nI 120) C dX5_type_21 rfl (by decide) ?_
        first | refine z_icmp_neN (tgt := 33) (q := 26) C dX5_type_23 (by decide) rfl (by omega) (by omega) (fun c23 => ?_) (fun c23 => ?_) | refine z_icmp_ne (tgt := 33) (q := 26) C dX5_type_23 (by decide) rfl (fun c23 => ?_) (fun c23 => ?_)
        · exact absurd c23 (by omega)
        · refine z_al0 (q := 27) C dX5_type_26 rfl ?_
          refine z_bipush (q := 29) (v := -4) C dX5_type_27 rfl (by decide) ?_
          refine z_callVe (q := 32) C (ct_refuses τ (-4) 2 (by decide) (by decide)) g_X5_137 rcT dX5_type_29 rfl rfl rfl (Nat.le_of_ble_eq_true rfl) (by first | decide | omega) (Nat.le_refl _) (Nat.le_refl _) ?_
          refine z_iret C hQ dX5_type_32 (Nat.le_refl _) (Nat.le_refl _) ?_
          exact ⟨_, rfl, rfl, (hA.rfs (i := 2) (by decide)).mono (by omega) hN⟩
      · rw [hi] at c7; cases c7
    · rw [if_neg hz] at hQ
      have hT5 : T5 (sF 7 (nI ((a_tx α).length + 1)) (sE 6 (a_tx α).length (nI cn) τ)) (a_tx α ++ [cn]) := by
        refine ⟨by rw [sF_s]; congr 1; simp, by simp; omega, ?_, fun x hx' => ?_⟩
        · rw [sF_a, sE_j]
          exact AR.put (l2 := []) cn hX AR.nil
        · rcases List.mem_append.mp hx' with g | g
          · exact hx x g
          · rw [List.mem_singleton.mp g]; exact hc
      refine z_il1 (q := 1) C dX5_type_0 rfl ?_
      refine z_iconst (q := 2) (v := nI 0) C dX5_type_1 rfl (by decide) ?_
      refine z_bipush (q := 4) (v := nI 127) C dX5_type_2 rfl (by decide) ?_
      refine z_callSe (q := 7) C (ct_in τ (nI cn) (nI 0) (nI 127)) g_X5_44 dX5_type_4 rfl rfl rfl (Nat.le_of_ble_eq_true rfl) (by first | decide | omega) (Nat.le_refl _) (Nat.le_refl _) ?_
      first | refine z_if_neB (tgt := 17) (q := 10) C dX5_type_7 (by decide) rfl (fun c7 => ?_) (fun c7 => ?_) | refine z_if_ne (tgt := 17) (q := 10) C dX5_type_7 (by decide) rfl (fun c7 => ?_) (fun c7 => ?_)
      · refine z_al0 (q := 18) C dX5_type_17 rfl ?_
        refine tg_207 (q := 21) C dX5_type_18 rfl ?_
        rw [h7]
        refine z_bipush (q := 23) (v := nI 120) C dX5_type_21 rfl (by decide) ?_
        first | refine z_icmp_neN (tgt := 33) (q := 26) C dX5_type_23 (by decide) rfl (by omega) (by omega) (fun c23 => ?_) (fun c23 => ?_) | refine z_icmp_ne (tgt := 33) (q := 26) C dX5_type_23 (by decide) rfl (fun c23 => ?_) (fun c23 => ?_)
        · refine z_al0 (q := 34) C dX5_type_33 rfl ?_
          refine tg_22 (q := 37) C dX5_type_34 rfl ?_
          refine z_al0 (q := 38) C dX5_type_37 rfl ?_
          refine tg_207 (q := 41) C dX5_type_38 rfl ?_
          rw [h7]
          refine z_il1 (q := 42) C dX5_type_41 rfl ?_
          refine ta_st6 (q := 43) C dX5_type_42 rfl (by omega) ?_
          refine z_al0 (q := 44) C dX5_type_43 rfl ?_
          refine z_dup (q := 45) C dX5_type_44 rfl rfl ?_
          refine tg_207 (q := 48) C dX5_type_45 rfl ?_
          rw [show (sE 6 (a_tx α).length (nI cn) τ).1 7 = _ from h7]
          refine z_iconst (q := 49) (v := nI 1) C dX5_type_48 rfl (by decide) ?_
          first | refine z_iaddN (q := 50) C dX5_type_49 rfl ?_ | refine z_iadd (q := 50) C dX5_type_49 rfl ?_
          refine tp_207 (q := 53) C dX5_type_50 rfl ?_
          refine z_al0 (q := 54) C dX5_type_53 rfl ?_
          refine tg_207 (q := 57) C dX5_type_54 rfl ?_
          rw [show (sF 7 (nI ((a_tx α).length + 1)) (sE 6 (a_tx α).length (nI cn) τ)).1 7 = nI ((a_tx α).length + 1) from sF_s]
          refine z_iret C hQ dX5_type_57 (Nat.le_refl _) (Nat.le_refl _) ?_
          exact ⟨_, rfl, rfl, hA.txt ((TF.rf.sE (by decide) _ _).sF (by decide) _) (by omega) hN hT5⟩
        · exact absurd c23 (by omega)
      · rw [hi] at c7; cases c7
set_option maxHeartbeats 1000000 in
theorem ct_clear {N : Nat} {α : Al} (τ : Tw) (hA : TA N τ α) (hN : N + 200 ≤ 1000000) : Ct (wT D o ad) yX5_clear cX5_clear 2 (some .int) [.ref o] τ (PI (fun r τ' => r = (a_clear α).1 ∧ TA (N + 200) τ' (a_clear α).2)) 8 0 0 := by
  refine Ct.of KTok (by decide) (Nat.le_of_ble_eq_true rfl) rfl fun Y C hQ hNm => ?_
  obtain ⟨h7, hl, hX, hx⟩ := hA.2.2.2.2.1
  refine z_al0 (q := 1) C dX5_clear_0 rfl ?_
  refine tg_207 (q := 4) C dX5_clear_1 rfl ?_
  rw [h7]
  refine z_is1 (q := 5) C dX5_clear_4 rfl (by first | exact loC_i | exact loC_r | exact loC_n | exact loC_q | exact loC_u) ?_
  refine z_al0 (q := 6) C dX5_clear_5 rfl ?_
  refine z_iconst (q := 7) (v := nI 0) C dX5_clear_6 rfl (by decide) ?_
  refine tp_207 (q := 10) C dX5_clear_7 rfl ?_
  refine z_il1 (q := 11) C dX5_clear_10 rfl ?_
  refine z_iret C hQ dX5_clear_11 (Nat.le_refl _) (Nat.le_refl _) ?_
  exact ⟨_, rfl, rfl, hA.txt (TF.rf.sF (by decide) _) (by omega) hN ⟨by rw [sF_s]; rfl, Nat.zero_le _, AR.nil, fun x hx => absurd hx List.not_mem_nil⟩⟩
set_option maxHeartbeats 1000000 in
theorem ct_back {N : Nat} {α : Al} (τ : Tw) (hA : TA N τ α) (hN : N + 200 ≤ 1000000) : Ct (wT D o ad) yX5_back cX5_back 2 (some .int) [.ref o] τ (PI (fun r τ' => r = (a_back α).1 ∧ TA (N + 200) τ' (a_back α).2)) 8 0 0 := by
  refine Ct.of KTok (by decide) (Nat.le_of_ble_eq_true rfl) rfl fun Y C hQ hNm => ?_
  obtain ⟨h3, hl, hP, hP48⟩ := hA.2.1
  cases hg : (a_ps α).getLast? with
  | none =>
    have hz : a_ps α = [] := List.getLast?_eq_none_iff.mp hg
    have e1 : a_back α = (-3, a_rfs α 1) := by unfold a_back; rw [hg]
    rw [e1] at hQ
    rw [hz] at h3
    refine z_al0 (q := 1) C dX5_back_0 rfl ?_
    refine tg_48 (q := 4) C dX5_back_1 rfl ?_
    rw [h3]
    first | refine z_if_neB (tgt := 14) (q := 7) C dX5_back_4 (by decide) rfl (fun c4 => ?_) (fun c4 => ?_) | refine z_if_ne (tgt := 14) (q := 7) C dX5_back_4 (by decide) rfl (fun c4 => ?_) (fun c4 => ?_)
    · exact absurd rfl c4
    · refine z_al0 (q := 8) C dX5_back_7 rfl ?_
      refine z_bipush (q := 10) (v := -3) C dX5_back_8 rfl (by decide) ?_
      refine z_callVe (q := 13) C (ct_refuses τ (-3) 1 (by decide) (by decide)) g_X5_137 rcT dX5_back_10 rfl rfl rfl (Nat.le_of_ble_eq_true rfl) (by first | decide | omega) (Nat.le_refl _) (Nat.le_refl _) ?_
      refine z_iret C hQ dX5_back_13 (Nat.le_refl _) (Nat.le_refl _) ?_
      exact ⟨_, rfl, rfl, (hA.rfs (i := 1) (by decide)).mono (by omega) hN⟩
  | some c =>
    have e1 : a_back α = (nI ((a_ps α).length - 1), (c, (a_ps α).dropLast, a_rf α, a_ch α + 1, a_tx α, a_cu α)) := by unfold a_back; rw [hg]
    rw [e1] at hQ
    have hne : 0 < (a_ps α).length := by
      cases hz : a_ps α with
      | nil => rw [hz] at hg; cases hg
      | cons x t => simp
    have hlast : (a_ps α)[(a_ps α).length - 1]? = some c := by rw [← List.getLast?_eq_getElem?]; exact hg
    have hTl := hP _ _ hlast
    have hc48 := hP48 c (List.mem_of_getElem? hlast)
    have h4 := hA.2.2.2.1
    have loop : ∀ m k, k + m = 218 → ∀ τ1 : Tw, TF [3] [0] τ τ1 → τ1.1 3 = nI ((a_ps α).length - 1) → (∀ i, i < k → τ1.2 0 i = τ.2 1 (218 * ((a_ps α).length - 1) + i)) → Zj (wT D o ad) Y τ1 0 0 26 [some (.ref o), some (.int (nI k))] [] := by
      intro m
      induction m with
      | zero =>
        intro k hk τ1 hF h31 h0
        have hk : k = 218 := hk
        subst hk
        have hT1 : TC N (τ1.2 0) c := hTl.cong h0
        have e5 : τ1.1 5 = τ.1 5 := hF.1 5 (by decide)
        refine z_il1 (q := 27) C dX5_back_26 rfl ?_
        refine z_sipush (q := 30) (v := nI 218) C dX5_back_27 rfl (by decide) ?_
        first | refine z_icmp_geN (tgt := 60) (q := 33) C dX5_back_30 (by decide) rfl (by omega) (by omega) (fun c30 => ?_) (fun c30 => ?_) | refine z_icmp_ge (tgt := 60) (q := 33) C dX5_back_30 (by decide) rfl (fun c30 => ?_) (fun c30 => ?_)
        · refine z_al0 (q := 61) C dX5_back_60 rfl ?_
          refine z_dup (q := 62) C dX5_back_61 rfl rfl ?_
          refine tg_108 (q := 65) C dX5_back_62 rfl ?_
          refine z_iconst (q := 66) (v := nI 1) C dX5_back_65 rfl (by decide) ?_
          first | refine z_iaddN (q := 67) C dX5_back_66 rfl ?_ | refine z_iadd (q := 67) C dX5_back_66 rfl ?_
          refine tp_108 (q := 70) C dX5_back_67 rfl ?_
          refine z_al0 (q := 71) C dX5_back_70 rfl ?_
          refine tg_48 (q := 74) C dX5_back_71 rfl ?_
          rw [show (sF 5 (τ1.1 5 + nI 1) τ1).1 3 = _ from h31]
          refine z_iret C hQ dX5_back_74 (Nat.le_refl _) (Nat.le_refl _) ?_
          refine ⟨_, rfl, rfl, ⟨hT1.mono (by omega) hN, hc48⟩, ⟨?_, ?_, ?_, ?_⟩, ?_, ⟨?_, ?_⟩, ?_, ?_⟩
          · show τ1.1 3 = _; rw [h31, List.length_dropLast]
          · rw [List.length_dropLast]; omega
          · intro j c' hj
            show TC _ (fun i => τ1.2 1 _) c'
            rw [hF.2 1 (by decide)]
            have hj2 : j < (a_ps α).length - 1 := by have := (List.getElem?_eq_some_iff.mp hj).1; rw [List.length_dropLast] at this; exact this
            rw [List.getElem?_dropLast, if_pos hj2] at hj
            exact (hP j c' hj).mono (by omega) hN
          · exact fun x hx => hP48 x ((List.dropLast_sublist _).mem hx)
          · unfold T3; show ∀ i, i < 4 → τ1.2 4 _ = _; rw [hF.2 4 (by decide)]; exact hA.2.2.1
          · rw [sF_s, e5, h4.1, nI_add]
          · have := h4.2; show a_ch α + 1 ≤ _; omega
          · unfold T5; show τ1.1 7 = _ ∧ _ ∧ AR (τ1.2 6) 0 _ ∧ _; rw [hF.1 7 (by decide), hF.2 6 (by decide)]; exact hA.2.2.2.2.1
          · exact (hA.2.2.2.2.2.keep (τ' := sF 5 (τ1.1 5 + nI 1) τ1) (hF.2 9 (by decide)) (hF.2 10 (by decide)) (hF.2 11 (by decide)) (hF.2 12 (by decide))).mono (Nat.le_add_right _ _)
        · exact absurd c30 (by omega)
      | succ m ih =>
        intro k hk τ1 hF h31 h0
        have e1 : τ1.2 1 = τ.2 1 := hF.2 1 (by decide)
        refine z_il1 (q := 27) C dX5_back_26 rfl ?_
        refine z_sipush (q := 30) (v := nI 218) C dX5_back_27 rfl (by decide) ?_
        first | refine z_icmp_geN (tgt := 60) (q := 33) C dX5_back_30 (by decide) rfl (by omega) (by omega) (fun c30 => ?_) (fun c30 => ?_) | refine z_icmp_ge (tgt := 60) (q := 33) C dX5_back_30 (by decide) rfl (fun c30 => ?_) (fun c30 => ?_)
        · exact absurd c30 (by omega)
        · refine z_al0 (q := 34) C dX5_back_33 rfl ?_
          refine tg_7 (q := 37) C dX5_back_34 rfl ?_
          refine z_il1 (q := 38) C dX5_back_37 rfl ?_
          refine z_al0 (q := 39) C dX5_back_38 rfl ?_
          refine tg_13 (q := 42) C dX5_back_39 rfl ?_
          refine z_sipush (q := 45) (v := nI 218) C dX5_back_42 rfl (by decide) ?_
          refine z_al0 (q := 46) C dX5_back_45 rfl ?_
          refine tg_48 (q := 49) C dX5_back_46 rfl ?_
          rw [h31]
          first | refine z_imulN (q := 50) C dX5_back_49 rfl ?_ | refine z_imul (q := 50) C dX5_back_49 rfl ?_
          refine z_il1 (q := 51) C dX5_back_50 rfl ?_
          first | refine z_iaddN (q := 52) C dX5_back_51 rfl ?_ | refine z_iadd (q := 52) C dX5_back_51 rfl ?_
          refine ta_ld1 (q := 53) C dX5_back_52 rfl (by omega) ?_
          rw [e1]
          refine ta_st0 (q := 54) C dX5_back_53 rfl (by omega) ?_
          first | refine z_iinc1N (q := 57) C dX5_back_54 rfl (by first | exact loC_i | exact loC_r | exact loC_n | exact loC_q | exact loC_u) ?_ | refine z_iinc1 (q := 57) C dX5_back_54 rfl rfl (by first | exact loC_i | exact loC_r | exact loC_n | exact loC_q | exact loC_u) ?_
          refine z_goto (tgt := 26) C dX5_back_57 (by decide) ?_
          refine ih (k + 1) (by omega) _ (hF.sE (by decide) _ _) h31 (fun i hi => ?_)
          by_cases q : i = k
          · rw [q, sE_s]
          · rw [sE_n q]; exact h0 i (by omega)
    refine z_al0 (q := 1) C dX5_back_0 rfl ?_
    refine tg_48 (q := 4) C dX5_back_1 rfl ?_
    rw [h3]
    first | refine z_if_neB (tgt := 14) (q := 7) C dX5_back_4 (by decide) rfl (fun c4 => ?_) (fun c4 => ?_) | refine z_if_ne (tgt := 14) (q := 7) C dX5_back_4 (by decide) rfl (fun c4 => ?_) (fun c4 => ?_)
    · refine z_al0 (q := 15) C dX5_back_14 rfl ?_
      refine z_dup (q := 16) C dX5_back_15 rfl rfl ?_
      refine tg_48 (q := 19) C dX5_back_16 rfl ?_
      rw [h3]
      refine z_iconst (q := 20) (v := nI 1) C dX5_back_19 rfl (by decide) ?_
      refine z_isubN (q := 21) C dX5_back_20 rfl (by omega) ?_
      refine tp_48 (q := 24) C dX5_back_21 rfl ?_
      refine z_iconst (q := 25) (v := nI 0) C dX5_back_24 rfl (by decide) ?_
      refine z_is1 (q := 26) C dX5_back_25 rfl (by first | exact loC_i | exact loC_r | exact loC_n | exact loC_q | exact loC_u) ?_
      exact loop 218 0 (by omega) _ (TF.rf.sF (by decide) _) sF_s (fun i hi => absurd hi (by omega))
    · exact absurd c4 (nI_ne0 hne (by omega))
set_option maxHeartbeats 1000000 in
theorem ct_toldOf {N : Nat} {α : Al} (τ : Tw) (hA : TA N τ α) (w : Nat) (hw : w ≤ 10) : Ct (wT D o ad) yX5_toldOf cX5_toldOf 4 (some .int) [.ref o, .int (nI w)] τ (PE (some (.int (a_tof α w))) τ) 1 0 0 := by
  refine Ct.of KTok (by decide) (Nat.le_of_ble_eq_true rfl) rfl fun Y C hQ hNm => ?_
  obtain ⟨h3, -⟩ := hA.2.1
  obtain ⟨h7, -⟩ := hA.2.2.2.2.1
  have hT3 := hA.2.2.1
  by_cases h4 : w < 4
  · have e1 : a_tof α w = a_rf α w := if_pos h4
    rw [e1] at hQ
    by_cases hz : w = 3
    · subst hz
      refine z_il1 (q := 1) C dX5_toldOf_0 rfl ?_
      refine z_iconst (q := 2) (v := nI 4) C dX5_toldOf_1 rfl (by decide) ?_
      first | refine z_icmp_geN (tgt := 21) (q := 5) C dX5_toldOf_2 (by decide) rfl (by omega) (by omega) (fun c2 => ?_) (fun c2 => ?_) | refine z_icmp_ge (tgt := 21) (q := 5) C dX5_toldOf_2 (by decide) rfl (fun c2 => ?_) (fun c2 => ?_)
      · exact absurd c2 (by omega)
      · refine z_al0 (q := 6) C dX5_toldOf_5 rfl ?_
        refine tg_19 (q := 9) C dX5_toldOf_6 rfl ?_
        refine z_il1 (q := 10) C dX5_toldOf_9 rfl ?_
        refine z_iconst (q := 11) (v := nI 3) C dX5_toldOf_10 rfl (by decide) ?_
        first | refine z_icmp_neN (tgt := 18) (q := 14) C dX5_toldOf_11 (by decide) rfl (by omega) (by omega) (fun c11 => ?_) (fun c11 => ?_) | refine z_icmp_ne (tgt := 18) (q := 14) C dX5_toldOf_11 (by decide) rfl (fun c11 => ?_) (fun c11 => ?_)
        · exact absurd c11 (by omega)
        · refine z_iconst (q := 15) (v := nI 4) C dX5_toldOf_14 rfl (by decide) ?_
          refine z_goto (tgt := 19) C dX5_toldOf_15 (by decide) ?_
          refine ta_ld4 (q := 20) C dX5_toldOf_19 rfl (by omega) ?_
          rw [show τ.2 4 4 = a_rf α 3 from hT3 3 (by decide)]
          refine z_iret C hQ dX5_toldOf_20 (Nat.le_refl _) (Nat.le_refl _) ?_
          exact ⟨rfl, rfl⟩
    · have : ixR w = w := if_neg hz
      refine z_il1 (q := 1) C dX5_toldOf_0 rfl ?_
      refine z_iconst (q := 2) (v := nI 4) C dX5_toldOf_1 rfl (by decide) ?_
      first | refine z_icmp_geN (tgt := 21) (q := 5) C dX5_toldOf_2 (by decide) rfl (by omega) (by omega) (fun c2 => ?_) (fun c2 => ?_) | refine z_icmp_ge (tgt := 21) (q := 5) C dX5_toldOf_2 (by decide) rfl (fun c2 => ?_) (fun c2 => ?_)
      · exact absurd c2 (by omega)
      · refine z_al0 (q := 6) C dX5_toldOf_5 rfl ?_
        refine tg_19 (q := 9) C dX5_toldOf_6 rfl ?_
        refine z_il1 (q := 10) C dX5_toldOf_9 rfl ?_
        refine z_iconst (q := 11) (v := nI 3) C dX5_toldOf_10 rfl (by decide) ?_
        first | refine z_icmp_neN (tgt := 18) (q := 14) C dX5_toldOf_11 (by decide) rfl (by omega) (by omega) (fun c11 => ?_) (fun c11 => ?_) | refine z_icmp_ne (tgt := 18) (q := 14) C dX5_toldOf_11 (by decide) rfl (fun c11 => ?_) (fun c11 => ?_)
        · refine z_il1 (q := 19) C dX5_toldOf_18 rfl ?_
          refine ta_ld4 (q := 20) C dX5_toldOf_19 rfl (by omega) ?_
          rw [show τ.2 4 w = a_rf α w from by have := hT3 w h4; rwa [show ixR w = w from if_neg hz] at this]
          refine z_iret C hQ dX5_toldOf_20 (Nat.le_refl _) (Nat.le_refl _) ?_
          exact ⟨rfl, rfl⟩
        · exact absurd c11 (by omega)
  · have tail : Zj (wT D o ad) Y τ 0 0 56 [some (.ref o), some (.int (nI w)), some (.int (opn (a_cu α) 3)), some (.int (nI 3))] [] := by
      have e1 : a_tof α w = if w < 8 then nI (k_n (a_c α) (2 + w - 4)) else if w = 8 then nI (a_tx α).length else if w = 9 then nI (a_ps α).length else opn (a_cu α) 3 := if_neg h4
      rw [e1] at hQ
      by_cases h8 : w < 8
      · rw [if_pos h8] at hQ
        refine z_il1 (q := 57) C dX5_toldOf_56 rfl ?_
        refine z_bipush (q := 59) (v := nI 8) C dX5_toldOf_57 rfl (by decide) ?_
        first | refine z_icmp_geN (tgt := 75) (q := 62) C dX5_toldOf_59 (by decide) rfl (by omega) (by omega) (fun c59 => ?_) (fun c59 => ?_) | refine z_icmp_ge (tgt := 75) (q := 62) C dX5_toldOf_59 (by decide) rfl (fun c59 => ?_) (fun c59 => ?_)
        · exact absurd c59 (by omega)
        · refine z_al0 (q := 63) C dX5_toldOf_62 rfl ?_
          refine tg_7 (q := 66) C dX5_toldOf_63 rfl ?_
          refine z_iconst (q := 67) (v := nI 2) C dX5_toldOf_66 rfl (by decide) ?_
          refine z_il1 (q := 68) C dX5_toldOf_67 rfl ?_
          first | refine z_iaddN (q := 69) C dX5_toldOf_68 rfl ?_ | refine z_iadd (q := 69) C dX5_toldOf_68 rfl ?_
          refine z_iconst (q := 70) (v := nI 4) C dX5_toldOf_69 rfl (by decide) ?_
          refine z_isubN (q := 71) C dX5_toldOf_70 rfl (by omega) ?_
          refine ta_ld0 (q := 72) C dX5_toldOf_71 rfl (by omega) ?_
          rw [hA.1.1.an (show 1 ≤ 2 + w - 4 by omega) (by omega)]
          refine z_goto (tgt := 102) C dX5_toldOf_72 (by decide) ?_
          refine z_iret C hQ dX5_toldOf_102 (Nat.le_refl _) (Nat.le_refl _) ?_
          exact ⟨rfl, rfl⟩
      · rw [if_neg h8] at hQ
        by_cases h8' : w = 8
        · rw [if_pos h8'] at hQ
          refine z_il1 (q := 57) C dX5_toldOf_56 rfl ?_
          refine z_bipush (q := 59) (v := nI 8) C dX5_toldOf_57 rfl (by decide) ?_
          first | refine z_icmp_geN (tgt := 75) (q := 62) C dX5_toldOf_59 (by decide) rfl (by omega) (by omega) (fun c59 => ?_) (fun c59 => ?_) | refine z_icmp_ge (tgt := 75) (q := 62) C dX5_toldOf_59 (by decide) rfl (fun c59 => ?_) (fun c59 => ?_)
          · refine z_il1 (q := 76) C dX5_toldOf_75 rfl ?_
            refine z_bipush (q := 78) (v := nI 8) C dX5_toldOf_76 rfl (by decide) ?_
            first | refine z_icmp_neN (tgt := 88) (q := 81) C dX5_toldOf_78 (by decide) rfl (by omega) (by omega) (fun c78 => ?_) (fun c78 => ?_) | refine z_icmp_ne (tgt := 88) (q := 81) C dX5_toldOf_78 (by decide) rfl (fun c78 => ?_) (fun c78 => ?_)
            · exact absurd c78 (by omega)
            · refine z_al0 (q := 82) C dX5_toldOf_81 rfl ?_
              refine tg_207 (q := 85) C dX5_toldOf_82 rfl ?_
              rw [h7]
              refine z_goto (tgt := 102) C dX5_toldOf_85 (by decide) ?_
              refine z_iret C hQ dX5_toldOf_102 (Nat.le_refl _) (Nat.le_refl _) ?_
              exact ⟨rfl, rfl⟩
          · exact absurd c59 (by omega)
        · rw [if_neg h8'] at hQ
          by_cases h9 : w = 9
          · rw [if_pos h9] at hQ
            refine z_il1 (q := 57) C dX5_toldOf_56 rfl ?_
            refine z_bipush (q := 59) (v := nI 8) C dX5_toldOf_57 rfl (by decide) ?_
            first | refine z_icmp_geN (tgt := 75) (q := 62) C dX5_toldOf_59 (by decide) rfl (by omega) (by omega) (fun c59 => ?_) (fun c59 => ?_) | refine z_icmp_ge (tgt := 75) (q := 62) C dX5_toldOf_59 (by decide) rfl (fun c59 => ?_) (fun c59 => ?_)
            · refine z_il1 (q := 76) C dX5_toldOf_75 rfl ?_
              refine z_bipush (q := 78) (v := nI 8) C dX5_toldOf_76 rfl (by decide) ?_
              first | refine z_icmp_neN (tgt := 88) (q := 81) C dX5_toldOf_78 (by decide) rfl (by omega) (by omega) (fun c78 => ?_) (fun c78 => ?_) | refine z_icmp_ne (tgt := 88) (q := 81) C dX5_toldOf_78 (by decide) rfl (fun c78 => ?_) (fun c78 => ?_)
              · refine z_il1 (q := 89) C dX5_toldOf_88 rfl ?_
                refine z_bipush (q := 91) (v := nI 9) C dX5_toldOf_89 rfl (by decide) ?_
                first | refine z_icmp_neN (tgt := 101) (q := 94) C dX5_toldOf_91 (by decide) rfl (by omega) (by omega) (fun c91 => ?_) (fun c91 => ?_) | refine z_icmp_ne (tgt := 101) (q := 94) C dX5_toldOf_91 (by decide) rfl (fun c91 => ?_) (fun c91 => ?_)
                · exact absurd c91 (by omega)
                · refine z_al0 (q := 95) C dX5_toldOf_94 rfl ?_
                  refine tg_48 (q := 98) C dX5_toldOf_95 rfl ?_
                  rw [h3]
                  refine z_goto (tgt := 102) C dX5_toldOf_98 (by decide) ?_
                  refine z_iret C hQ dX5_toldOf_102 (Nat.le_refl _) (Nat.le_refl _) ?_
                  exact ⟨rfl, rfl⟩
              · exact absurd c78 (by omega)
            · exact absurd c59 (by omega)
          · rw [if_neg h9] at hQ
            refine z_il1 (q := 57) C dX5_toldOf_56 rfl ?_
            refine z_bipush (q := 59) (v := nI 8) C dX5_toldOf_57 rfl (by decide) ?_
            first | refine z_icmp_geN (tgt := 75) (q := 62) C dX5_toldOf_59 (by decide) rfl (by omega) (by omega) (fun c59 => ?_) (fun c59 => ?_) | refine z_icmp_ge (tgt := 75) (q := 62) C dX5_toldOf_59 (by decide) rfl (fun c59 => ?_) (fun c59 => ?_)
            · refine z_il1 (q := 76) C dX5_toldOf_75 rfl ?_
              refine z_bipush (q := 78) (v := nI 8) C dX5_toldOf_76 rfl (by decide) ?_
              first | refine z_icmp_neN (tgt := 88) (q := 81) C dX5_toldOf_78 (by decide) rfl (by omega) (by omega) (fun c78 => ?_) (fun c78 => ?_) | refine z_icmp_ne (tgt := 88) (q := 81) C dX5_toldOf_78 (by decide) rfl (fun c78 => ?_) (fun c78 => ?_)
              · refine z_il1 (q := 89) C dX5_toldOf_88 rfl ?_
                refine z_bipush (q := 91) (v := nI 9) C dX5_toldOf_89 rfl (by decide) ?_
                first | refine z_icmp_neN (tgt := 101) (q := 94) C dX5_toldOf_91 (by decide) rfl (by omega) (by omega) (fun c91 => ?_) (fun c91 => ?_) | refine z_icmp_ne (tgt := 101) (q := 94) C dX5_toldOf_91 (by decide) rfl (fun c91 => ?_) (fun c91 => ?_)
                · refine z_il2 (q := 102) C dX5_toldOf_101 rfl ?_
                  refine z_iret C hQ dX5_toldOf_102 (Nat.le_refl _) (Nat.le_refl _) ?_
                  exact ⟨rfl, rfl⟩
                · exact absurd c91 (by omega)
              · exact absurd c78 (by omega)
            · exact absurd c59 (by omega)
    have loop : ∀ m i, i + m = 3 → Zj (wT D o ad) Y τ 0 0 25 [some (.ref o), some (.int (nI w)), some (.int (opn (a_cu α) i)), some (.int (nI i))] [] := by
      intro m
      induction m with
      | zero =>
        intro i hi
        have hi : i = 3 := hi
        subst hi
        refine z_il3 (q := 26) C dX5_toldOf_25 rfl ?_
        refine z_iconst (q := 27) (v := nI 3) C dX5_toldOf_26 rfl (by decide) ?_
        first | refine z_icmp_geN (tgt := 56) (q := 30) C dX5_toldOf_27 (by decide) rfl (by omega) (by omega) (fun c27 => ?_) (fun c27 => ?_) | refine z_icmp_ge (tgt := 56) (q := 30) C dX5_toldOf_27 (by decide) rfl (fun c27 => ?_) (fun c27 => ?_)
        · exact tail
        · exact absurd c27 (by omega)
      | succ m ih =>
        intro i hi
        have ih := ih (i + 1) (by omega)
        obtain ⟨⟨g9, -⟩, gw, -⟩ := hA.2.2.2.2.2 i (by omega)
        have hst : opn (a_cu α) (i + 1) = opn (a_cu α) i ||| (if (a_cu α i).1 = none then nI 0 else nI 1 <<< (nI i &&& 31)) := rfl
        rw [hst] at ih
        cases hz : (a_cu α i).1 with
        | none =>
          rw [if_pos hz] at ih
          rw [hz] at g9
          refine z_il3 (q := 26) C dX5_toldOf_25 rfl ?_
          refine z_iconst (q := 27) (v := nI 3) C dX5_toldOf_26 rfl (by decide) ?_
          first | refine z_icmp_geN (tgt := 56) (q := 30) C dX5_toldOf_27 (by decide) rfl (by omega) (by omega) (fun c27 => ?_) (fun c27 => ?_) | refine z_icmp_ge (tgt := 56) (q := 30) C dX5_toldOf_27 (by decide) rfl (fun c27 => ?_) (fun c27 => ?_)
          · exact absurd c27 (by omega)
          · refine z_il2 (q := 31) C dX5_toldOf_30 rfl ?_
            refine z_al0 (q := 32) C dX5_toldOf_31 rfl ?_
            refine tg_25 (q := 35) C dX5_toldOf_32 rfl ?_
            refine z_il3 (q := 36) C dX5_toldOf_35 rfl ?_
            refine ta_ld9 (q := 37) C dX5_toldOf_36 rfl (by omega) ?_
            rw [g9]
            refine z_iconst (q := 38) (v := -1) C dX5_toldOf_37 rfl (by decide) ?_
            refine z_icmp_ne (tgt := 45) (q := 41) C dX5_toldOf_38 (by decide) rfl (fun c38 => ?_) (fun c38 => ?_)
            · exact absurd rfl c38
            · refine z_iconst (q := 42) (v := nI 0) C dX5_toldOf_41 rfl (by decide) ?_
              refine z_goto (tgt := 48) C dX5_toldOf_42 (by decide) ?_
              refine z_ior (q := 49) C dX5_toldOf_48 rfl ?_
              refine z_is2 (q := 50) C dX5_toldOf_49 rfl (by first | exact loC_i | exact loC_r | exact loC_n | exact loC_q | exact loC_u) ?_
              first | refine z_iinc3N (q := 53) C dX5_toldOf_50 rfl (by first | exact loC_i | exact loC_r | exact loC_n | exact loC_q | exact loC_u) ?_ | refine z_iinc3 (q := 53) C dX5_toldOf_50 rfl rfl (by first | exact loC_i | exact loC_r | exact loC_n | exact loC_q | exact loC_u) ?_
              refine z_goto (tgt := 25) C dX5_toldOf_53 (by decide) ?_
              exact ih
        | some x =>
          rw [if_neg (by rw [hz]; simp)] at ih
          have hx3 := gw x hz
          rw [hz] at g9
          have g9 : τ.2 9 i = nI x := g9
          refine z_il3 (q := 26) C dX5_toldOf_25 rfl ?_
          refine z_iconst (q := 27) (v := nI 3) C dX5_toldOf_26 rfl (by decide) ?_
          first | refine z_icmp_geN (tgt := 56) (q := 30) C dX5_toldOf_27 (by decide) rfl (by omega) (by omega) (fun c27 => ?_) (fun c27 => ?_) | refine z_icmp_ge (tgt := 56) (q := 30) C dX5_toldOf_27 (by decide) rfl (fun c27 => ?_) (fun c27 => ?_)
          · exact absurd c27 (by omega)
          · refine z_il2 (q := 31) C dX5_toldOf_30 rfl ?_
            refine z_al0 (q := 32) C dX5_toldOf_31 rfl ?_
            refine tg_25 (q := 35) C dX5_toldOf_32 rfl ?_
            refine z_il3 (q := 36) C dX5_toldOf_35 rfl ?_
            refine ta_ld9 (q := 37) C dX5_toldOf_36 rfl (by omega) ?_
            rw [g9]
            refine z_iconst (q := 38) (v := -1) C dX5_toldOf_37 rfl (by decide) ?_
            refine z_icmp_ne (tgt := 45) (q := 41) C dX5_toldOf_38 (by decide) rfl (fun c38 => ?_) (fun c38 => ?_)
            · refine z_iconst (q := 46) (v := nI 1) C dX5_toldOf_45 rfl (by decide) ?_
              refine z_il3 (q := 47) C dX5_toldOf_46 rfl ?_
              refine z_ishl (q := 48) C dX5_toldOf_47 rfl ?_
              refine z_ior (q := 49) C dX5_toldOf_48 rfl ?_
              refine z_is2 (q := 50) C dX5_toldOf_49 rfl (by first | exact loC_i | exact loC_r | exact loC_n | exact loC_q | exact loC_u) ?_
              first | refine z_iinc3N (q := 53) C dX5_toldOf_50 rfl (by first | exact loC_i | exact loC_r | exact loC_n | exact loC_q | exact loC_u) ?_ | refine z_iinc3 (q := 53) C dX5_toldOf_50 rfl rfl (by first | exact loC_i | exact loC_r | exact loC_n | exact loC_q | exact loC_u) ?_
              refine z_goto (tgt := 25) C dX5_toldOf_53 (by decide) ?_
              exact ih
            · exact absurd c38 (nI_nm1 (by omega))
    refine z_il1 (q := 1) C dX5_toldOf_0 rfl ?_
    refine z_iconst (q := 2) (v := nI 4) C dX5_toldOf_1 rfl (by decide) ?_
    first | refine z_icmp_geN (tgt := 21) (q := 5) C dX5_toldOf_2 (by decide) rfl (by omega) (by omega) (fun c2 => ?_) (fun c2 => ?_) | refine z_icmp_ge (tgt := 21) (q := 5) C dX5_toldOf_2 (by decide) rfl (fun c2 => ?_) (fun c2 => ?_)
    · refine z_iconst (q := 22) (v := nI 0) C dX5_toldOf_21 rfl (by decide) ?_
      refine z_is2 (q := 23) C dX5_toldOf_22 rfl (by first | exact loC_i | exact loC_r | exact loC_n | exact loC_q | exact loC_u) ?_
      refine z_iconst (q := 24) (v := nI 0) C dX5_toldOf_23 rfl (by decide) ?_
      refine z_is3 (q := 25) C dX5_toldOf_24 rfl (by first | exact loC_i | exact loC_r | exact loC_n | exact loC_q | exact loC_u) ?_
      exact loop 3 0 (by omega)
    · exact absurd c2 (by omega)
set_option maxHeartbeats 1000000 in
theorem ct_told {N : Nat} {α : Al} (τ : Tw) (hA : TA N τ α) (w : Int32) (hN : N + 200 ≤ 1000000) : Ct (wT D o ad) yX5_told cX5_told 2 (some .int) [.ref o, .int w] τ (PI (fun r τ' => r = (a_told α w).1 ∧ TA (N + 200) τ' (a_told α w).2)) 8 0 0 := by
  refine Ct.of KTok (by decide) (Nat.le_of_ble_eq_true rfl) rfl fun Y C hQ hNm => ?_
  cases hi : inB w (nI 0) (nI 10) with
  | false =>
    have e1 : a_told α w = (-2, a_rfs α 0) := if_neg (by rw [hi]; decide)
    rw [e1] at hQ
    refine z_il1 (q := 1) C dX5_told_0 rfl ?_
    refine z_iconst (q := 2) (v := nI 0) C dX5_told_1 rfl (by decide) ?_
    refine z_bipush (q := 4) (v := nI 10) C dX5_told_2 rfl (by decide) ?_
    refine z_callSe (q := 7) C (ct_in τ w (nI 0) (nI 10)) g_X5_44 dX5_told_4 rfl rfl rfl (Nat.le_of_ble_eq_true rfl) (by first | decide | omega) (Nat.le_refl _) (Nat.le_refl _) ?_
    first | refine z_if_eqB (tgt := 18) (q := 10) C dX5_told_7 (by decide) rfl (fun c7 => ?_) (fun c7 => ?_) | refine z_if_eq (tgt := 18) (q := 10) C dX5_told_7 (by decide) rfl (fun c7 => ?_) (fun c7 => ?_)
    · refine z_al0 (q := 19) C dX5_told_18 rfl ?_
      refine z_bipush (q := 21) (v := -2) C dX5_told_19 rfl (by decide) ?_
      refine z_callVe (q := 24) C (ct_refuses τ (-2) 0 (by decide) (by decide)) g_X5_137 rcT dX5_told_21 rfl rfl rfl (Nat.le_of_ble_eq_true rfl) (by first | decide | omega) (Nat.le_refl _) (Nat.le_refl _) ?_
      refine z_iret C hQ dX5_told_24 (Nat.le_refl _) (Nat.le_refl _) ?_
      exact ⟨_, rfl, rfl, (hA.rfs (i := 0) (by decide)).mono (by omega) hN⟩
    · rw [hi] at c7; cases c7
  | true =>
    obtain ⟨ew, hw⟩ := in_of (by decide) hi
    have e0 : a_told α w = (a_tof α (kN w), α) := if_pos hi
    rw [e0] at hQ
    generalize kN w = wn at *
    subst ew
    refine z_il1 (q := 1) C dX5_told_0 rfl ?_
    refine z_iconst (q := 2) (v := nI 0) C dX5_told_1 rfl (by decide) ?_
    refine z_bipush (q := 4) (v := nI 10) C dX5_told_2 rfl (by decide) ?_
    refine z_callSe (q := 7) C (ct_in τ (nI wn) (nI 0) (nI 10)) g_X5_44 dX5_told_4 rfl rfl rfl (Nat.le_of_ble_eq_true rfl) (by first | decide | omega) (Nat.le_refl _) (Nat.le_refl _) ?_
    first | refine z_if_eqB (tgt := 18) (q := 10) C dX5_told_7 (by decide) rfl (fun c7 => ?_) (fun c7 => ?_) | refine z_if_eq (tgt := 18) (q := 10) C dX5_told_7 (by decide) rfl (fun c7 => ?_) (fun c7 => ?_)
    · rw [hi] at c7; cases c7
    · refine z_al0 (q := 11) C dX5_told_10 rfl ?_
      refine z_il1 (q := 12) C dX5_told_11 rfl ?_
      refine z_callVe (q := 15) C (ct_toldOf τ hA wn hw) g_X5_229 rcT dX5_told_12 rfl rfl rfl (Nat.le_of_ble_eq_true rfl) (by first | decide | omega) (Nat.le_refl _) (Nat.le_refl _) ?_
      refine z_goto (tgt := 24) C dX5_told_15 (by decide) ?_
      refine z_iret C hQ dX5_told_24 (Nat.le_refl _) (Nat.le_refl _) ?_
      exact ⟨_, rfl, rfl, hA.mono (by omega) hN⟩
theorem TA.keepR {N : Nat} {τ τ' : Tw} {α : Al} (h : TA N τ α) (hF : TF [14, 16, 17, 18] [13, 15] τ τ') : TA N τ' α :=
  h.set (δ := 0) (hF.up (by decide) (by decide)) ((hF.2 0 (by decide)).symm ▸ h.1.1) h.1.2 (by rw [hF.1 5 (by decide)]; exact (Int32.add_zero _).symm) (by omega)
set_option maxHeartbeats 2000000 in
theorem ct_digest {N : Nat} {α : Al} (τ : Tw) (hA : TA N τ α) (hN : N + 200 ≤ 1000000) : Ct (wT D o ad) yX5_digest cX5_digest 6 (some .long) [.ref o] τ (PL (fun r τ' => r = a_dig α ∧ TA (N + 200) τ' α)) 8 0 0 := by
  refine Ct.of KTok (by decide) (Nat.le_of_ble_eq_true rfl) rfl fun Y C hQ hNm => ?_
  have hlen := hA.1.2
  have hw8 := hA.1.1.w
  have loop4 : ∀ m b, b + m = k_n (a_c α) 1 → ∀ (τ1 : Tw) (x4 x5 : Option Value), loC x4 → loC x5 → TF [14, 16, 17, 18] [13, 15] τ τ1 → Zj (wT D o ad) Y τ1 0 0 112 [some (.ref o), some (.long (itN (dgb (a_c α)) (dg3 α) b)), none, some (.int (nI b)), x4, x5] [] := by
    intro m
    induction m with
    | zero =>
      intro b hb τ1 x4 x5 g4 g5 hF
      have hb : b = k_n (a_c α) 1 := hb
      subst hb
      have hA1 := hA.keepR hF
      refine z_il3 (q := 113) C dX5_digest_112 rfl ?_
      refine z_al0 (q := 114) C dX5_digest_113 rfl ?_
      refine tg_7 (q := 117) C dX5_digest_114 rfl ?_
      refine z_iconst (q := 118) (v := nI 1) C dX5_digest_117 rfl (by decide) ?_
      refine ta_ld0 (q := 119) C dX5_digest_118 rfl (by omega) ?_
      rw [hA1.1.1.an (by omega) (by omega)]
      first | refine z_icmp_geN (tgt := 196) (q := 122) C dX5_digest_119 (by decide) rfl (by omega) (by omega) (fun c119 => ?_) (fun c119 => ?_) | refine z_icmp_ge (tgt := 196) (q := 122) C dX5_digest_119 (by decide) rfl (fun c119 => ?_) (fun c119 => ?_)
      · refine z_ll1 (q := 197) C dX5_digest_196 rfl ?_
        refine z_lret C hQ dX5_digest_197 (Nat.le_refl _) (Nat.le_refl _) ?_
        exact ⟨_, rfl, rfl, hA.read hF hN⟩
      · exact absurd c119 (by omega)
    | succ m ih =>
      intro b hb τ1 x4 x5 g4 g5 hF
      have hA1 := hA.keepR hF
      have hmi : k_mi (a_c α) b ≤ 49 := Nat.le_trans (k_mi_le hA.1.1.1 b) (by omega)
      generalize hh : itN (dgb (a_c α)) (dg3 α) b = h
      have hst : itN (dgb (a_c α)) (dg3 α) (b + 1) = dgb (a_c α) b h := by rw [← hh]; rfl
      have ih := ih (b + 1) (by omega)
      rw [hst] at ih
      have rows : ∀ m i, i + m = k_mi (a_c α) b → ∀ τ2 : Tw, TF [14, 16, 17, 18] [13, 15] τ τ2 → Zj (wT D o ad) Y τ2 0 0 162 [some (.ref o), some (.long (itN (fun i h => 31 * h + (nI ((k_row (a_c α) b).getD i 0)).toInt64) (itN (fun w h => 31 * h + (k_bf (a_c α) b w).toInt64) h 3) i)), none, some (.int (nI b)), some (.int (nI (k_mi (a_c α) b))), some (.int (nI i))] [] := by
        intro m
        induction m with
        | zero =>
          intro i hi τ2 hF2
          have hi : i = k_mi (a_c α) b := hi
          subst hi
          refine z_il5 (q := 164) C dX5_digest_162 rfl ?_
          refine z_il4 (q := 166) C dX5_digest_164 rfl ?_
          first | refine z_icmp_geN (tgt := 190) (q := 169) C dX5_digest_166 (by decide) rfl (by omega) (by omega) (fun c166 => ?_) (fun c166 => ?_) | refine z_icmp_ge (tgt := 190) (q := 169) C dX5_digest_166 (by decide) rfl (fun c166 => ?_) (fun c166 => ?_)
          · first | refine z_iinc3N (q := 193) C dX5_digest_190 rfl (by first | exact loC_i | exact loC_r | exact loC_n | exact loC_q | exact loC_u) ?_ | refine z_iinc3 (q := 193) C dX5_digest_190 rfl rfl (by first | exact loC_i | exact loC_r | exact loC_n | exact loC_q | exact loC_u) ?_
            refine z_goto (tgt := 112) C dX5_digest_193 (by decide) ?_
            exact ih τ2 _ _ loC_i loC_i hF2
          · exact absurd c166 (by omega)
        | succ m ihm =>
          intro i hi τ2 hF2
          have hA2 := hA.keepR hF2
          have hr : (k_row (a_c α) b)[i]? = some ((k_row (a_c α) b).getD i 0) := getD_of (show i < (k_row (a_c α) b).length by show i < k_mi (a_c α) b; omega)
          refine z_il5 (q := 164) C dX5_digest_162 rfl ?_
          refine z_il4 (q := 166) C dX5_digest_164 rfl ?_
          first | refine z_icmp_geN (tgt := 190) (q := 169) C dX5_digest_166 (by decide) rfl (by omega) (by omega) (fun c166 => ?_) (fun c166 => ?_) | refine z_icmp_ge (tgt := 190) (q := 169) C dX5_digest_166 (by decide) rfl (fun c166 => ?_) (fun c166 => ?_)
          · exact absurd c166 (by omega)
          · refine z_ldc2 (q := 172) C dX5_digest_169 rfl q1186 ?_
            refine z_ll1 (q := 173) C dX5_digest_172 rfl ?_
            refine z_lmul (q := 174) C dX5_digest_173 rfl ?_
            refine z_al0 (q := 175) C dX5_digest_174 rfl ?_
            refine z_il3 (q := 176) C dX5_digest_175 rfl ?_
            refine z_il5 (q := 178) C dX5_digest_176 rfl ?_
            refine z_callVi (q := 181) C (ct_rowAt τ2 hA2.1.1 b i (by omega) (by omega)) g_X5_180 rcT dX5_digest_178 rfl rfl rfl (Nat.le_of_ble_eq_true rfl) (by first | decide | omega) (Nat.le_refl _) (Nat.le_refl _) (fun r178 τ178 h178 => ?_)
            obtain ⟨hF3, hr3⟩ := h178
            rw [hr] at hr3
            have hr3 : r178 = nI ((k_row (a_c α) b).getD i 0) := hr3
            subst hr3
            refine z_i2l (q := 182) C dX5_digest_181 rfl ?_
            refine z_ladd (q := 183) C dX5_digest_182 rfl ?_
            refine z_ls1 (q := 184) C dX5_digest_183 rfl (by first | exact loC_i | exact loC_r | exact loC_n | exact loC_q | exact loC_u) ?_
            first | refine z_iinc5N (q := 187) C dX5_digest_184 rfl (by first | exact loC_i | exact loC_r | exact loC_n | exact loC_q | exact loC_u) ?_ | refine z_iinc5 (q := 187) C dX5_digest_184 rfl rfl (by first | exact loC_i | exact loC_r | exact loC_n | exact loC_q | exact loC_u) ?_
            refine z_goto (tgt := 162) C dX5_digest_187 (by decide) ?_
            exact ihm (i + 1) (by omega) τ178 (hF2.tr hF3)
      have facts : ∀ m w, w + m = 3 → ∀ τ2 : Tw, TF [14, 16, 17, 18] [13, 15] τ τ2 → Zj (wT D o ad) Y τ2 0 0 125 [some (.ref o), some (.long (itN (fun w h => 31 * h + (k_bf (a_c α) b w).toInt64) h w)), none, some (.int (nI b)), some (.int (nI w)), x5] [] := by
        intro m
        induction m with
        | zero =>
          intro w hw τ2 hF2
          have hw : w = 3 := hw
          subst hw
          have hA2 := hA.keepR hF2
          refine z_il4 (q := 127) C dX5_digest_125 rfl ?_
          refine z_iconst (q := 128) (v := nI 3) C dX5_digest_127 rfl (by decide) ?_
          first | refine z_icmp_geN (tgt := 152) (q := 131) C dX5_digest_128 (by decide) rfl (by omega) (by omega) (fun c128 => ?_) (fun c128 => ?_) | refine z_icmp_ge (tgt := 152) (q := 131) C dX5_digest_128 (by decide) rfl (fun c128 => ?_) (fun c128 => ?_)
          · refine z_al0 (q := 153) C dX5_digest_152 rfl ?_
            refine z_il3 (q := 154) C dX5_digest_153 rfl ?_
            refine z_callVe (q := 157) C (ct_manyIn τ2 hA2.1.1 b (by omega)) g_X5_102 rcT dX5_digest_154 rfl rfl rfl (Nat.le_of_ble_eq_true rfl) (by first | decide | omega) (Nat.le_refl _) (Nat.le_refl _) ?_
            refine z_is4 (q := 159) C dX5_digest_157 rfl (by first | exact loC_i | exact loC_r | exact loC_n | exact loC_q | exact loC_u) ?_
            refine z_iconst (q := 160) (v := nI 0) C dX5_digest_159 rfl (by decide) ?_
            refine z_is5 (q := 162) C dX5_digest_160 rfl (by first | exact loC_i | exact loC_r | exact loC_n | exact loC_q | exact loC_u) ?_
            exact rows _ 0 (Nat.zero_add _) τ2 hF2
          · exact absurd c128 (by omega)
        | succ m ihm =>
          intro w hw τ2 hF2
          have hA2 := hA.keepR hF2
          refine z_il4 (q := 127) C dX5_digest_125 rfl ?_
          refine z_iconst (q := 128) (v := nI 3) C dX5_digest_127 rfl (by decide) ?_
          first | refine z_icmp_geN (tgt := 152) (q := 131) C dX5_digest_128 (by decide) rfl (by omega) (by omega) (fun c128 => ?_) (fun c128 => ?_) | refine z_icmp_ge (tgt := 152) (q := 131) C dX5_digest_128 (by decide) rfl (fun c128 => ?_) (fun c128 => ?_)
          · exact absurd c128 (by omega)
          · refine z_ldc2 (q := 134) C dX5_digest_131 rfl q1186 ?_
            refine z_ll1 (q := 135) C dX5_digest_134 rfl ?_
            refine z_lmul (q := 136) C dX5_digest_135 rfl ?_
            refine z_al0 (q := 137) C dX5_digest_136 rfl ?_
            refine z_il3 (q := 138) C dX5_digest_137 rfl ?_
            refine z_il4 (q := 140) C dX5_digest_138 rfl ?_
            refine z_callVi (q := 143) C (ct_binFact τ2 hA2.1.1 b w (by omega) (by omega)) g_X5_177 rcT dX5_digest_140 rfl rfl rfl (Nat.le_of_ble_eq_true rfl) (by first | decide | omega) (Nat.le_refl _) (Nat.le_refl _) (fun r140 τ140 h140 => ?_)
            obtain ⟨hF3, rfl⟩ := h140
            refine z_i2l (q := 144) C dX5_digest_143 rfl ?_
            refine z_ladd (q := 145) C dX5_digest_144 rfl ?_
            refine z_ls1 (q := 146) C dX5_digest_145 rfl (by first | exact loC_i | exact loC_r | exact loC_n | exact loC_q | exact loC_u) ?_
            first | refine z_iinc4N (q := 149) C dX5_digest_146 rfl (by first | exact loC_i | exact loC_r | exact loC_n | exact loC_q | exact loC_u) ?_ | refine z_iinc4 (q := 149) C dX5_digest_146 rfl rfl (by first | exact loC_i | exact loC_r | exact loC_n | exact loC_q | exact loC_u) ?_
            refine z_goto (tgt := 125) C dX5_digest_149 (by decide) ?_
            exact ihm (w + 1) (by omega) τ140 (hF2.tr hF3)
      refine z_il3 (q := 113) C dX5_digest_112 rfl ?_
      refine z_al0 (q := 114) C dX5_digest_113 rfl ?_
      refine tg_7 (q := 117) C dX5_digest_114 rfl ?_
      refine z_iconst (q := 118) (v := nI 1) C dX5_digest_117 rfl (by decide) ?_
      refine ta_ld0 (q := 119) C dX5_digest_118 rfl (by omega) ?_
      rw [hA1.1.1.an (by omega) (by omega)]
      first | refine z_icmp_geN (tgt := 196) (q := 122) C dX5_digest_119 (by decide) rfl (by omega) (by omega) (fun c119 => ?_) (fun c119 => ?_) | refine z_icmp_ge (tgt := 196) (q := 122) C dX5_digest_119 (by decide) rfl (fun c119 => ?_) (fun c119 => ?_)
      · exact absurd c119 (by omega)
      · refine z_iconst (q := 123) (v := nI 0) C dX5_digest_122 rfl (by decide) ?_
        refine z_is4 (q := 125) C dX5_digest_123 rfl (by first | exact loC_i | exact loC_r | exact loC_n | exact loC_q | exact loC_u) ?_
        exact facts 3 0 (by omega) τ1 hF
  have loop3 : ∀ m e, e + m = (k_es (a_c α)).length → ∀ (τ1 : Tw), TF [14, 16, 17, 18] [13, 15] τ τ1 → Zj (wT D o ad) Y τ1 0 0 60 [some (.ref o), some (.long (itN (fun e h => 31 * (31 * h + (nI (kAt (a_c α) e)).toInt64) + (nI (vAt (a_c α) e)).toInt64) (dg2 α) e)), none, some (.int (nI e)), none, none] [] := by
    intro m
    induction m with
    | zero =>
      intro e he τ1 hF
      have he : e = (k_es (a_c α)).length := he
      subst he
      have hA1 := hA.keepR hF
      refine z_il3 (q := 61) C dX5_digest_60 rfl ?_
      refine z_al0 (q := 62) C dX5_digest_61 rfl ?_
      refine tg_7 (q := 65) C dX5_digest_62 rfl ?_
      refine z_iconst (q := 66) (v := nI 0) C dX5_digest_65 rfl (by decide) ?_
      refine ta_ld0 (q := 67) C dX5_digest_66 rfl (by omega) ?_
      rw [hA1.1.1.a0]
      first | refine z_icmp_geN (tgt := 110) (q := 70) C dX5_digest_67 (by decide) rfl (by omega) (by omega) (fun c67 => ?_) (fun c67 => ?_) | refine z_icmp_ge (tgt := 110) (q := 70) C dX5_digest_67 (by decide) rfl (fun c67 => ?_) (fun c67 => ?_)
      · refine z_iconst (q := 111) (v := nI 0) C dX5_digest_110 rfl (by decide) ?_
        refine z_is3 (q := 112) C dX5_digest_111 rfl (by first | exact loC_i | exact loC_r | exact loC_n | exact loC_q | exact loC_u) ?_
        exact loop4 _ 0 (Nat.zero_add _) τ1 _ _ loC_n loC_n hF
      · exact absurd c67 (by omega)
    | succ m ih =>
      intro e he τ1 hF
      have hA1 := hA.keepR hF
      obtain ⟨x, hx⟩ := at_lt (show e < (k_es (a_c α)).length by omega)
      have hk := (hA1.1.1.key hx).1
      have hv := (hA1.1.1.val hx).1
      rw [← kAt_of hx] at hk
      rw [← vAt_of hx] at hv
      refine z_il3 (q := 61) C dX5_digest_60 rfl ?_
      refine z_al0 (q := 62) C dX5_digest_61 rfl ?_
      refine tg_7 (q := 65) C dX5_digest_62 rfl ?_
      refine z_iconst (q := 66) (v := nI 0) C dX5_digest_65 rfl (by decide) ?_
      refine ta_ld0 (q := 67) C dX5_digest_66 rfl (by omega) ?_
      rw [hA1.1.1.a0]
      first | refine z_icmp_geN (tgt := 110) (q := 70) C dX5_digest_67 (by decide) rfl (by omega) (by omega) (fun c67 => ?_) (fun c67 => ?_) | refine z_icmp_ge (tgt := 110) (q := 70) C dX5_digest_67 (by decide) rfl (fun c67 => ?_) (fun c67 => ?_)
      · exact absurd c67 (by omega)
      · refine z_ldc2 (q := 73) C dX5_digest_70 rfl q1186 ?_
        refine z_ll1 (q := 74) C dX5_digest_73 rfl ?_
        refine z_lmul (q := 75) C dX5_digest_74 rfl ?_
        refine z_al0 (q := 76) C dX5_digest_75 rfl ?_
        refine tg_7 (q := 79) C dX5_digest_76 rfl ?_
        refine z_bipush (q := 81) (v := nI 7) C dX5_digest_79 rfl (by decide) ?_
        refine z_il3 (q := 82) C dX5_digest_81 rfl ?_
        first | refine z_iaddN (q := 83) C dX5_digest_82 rfl ?_ | refine z_iadd (q := 83) C dX5_digest_82 rfl ?_
        refine ta_ld0 (q := 84) C dX5_digest_83 rfl (by omega) ?_
        rw [hk]
        refine z_i2l (q := 85) C dX5_digest_84 rfl ?_
        refine z_ladd (q := 86) C dX5_digest_85 rfl ?_
        refine z_ls1 (q := 87) C dX5_digest_86 rfl (by first | exact loC_i | exact loC_r | exact loC_n | exact loC_q | exact loC_u) ?_
        refine z_ldc2 (q := 90) C dX5_digest_87 rfl q1186 ?_
        refine z_ll1 (q := 91) C dX5_digest_90 rfl ?_
        refine z_lmul (q := 92) C dX5_digest_91 rfl ?_
        refine z_al0 (q := 93) C dX5_digest_92 rfl ?_
        refine tg_7 (q := 96) C dX5_digest_93 rfl ?_
        refine z_bipush (q := 98) (v := nI 56) C dX5_digest_96 rfl (by decide) ?_
        refine z_il3 (q := 99) C dX5_digest_98 rfl ?_
        first | refine z_iaddN (q := 100) C dX5_digest_99 rfl ?_ | refine z_iadd (q := 100) C dX5_digest_99 rfl ?_
        refine ta_ld0 (q := 101) C dX5_digest_100 rfl (by omega) ?_
        rw [hv]
        refine z_i2l (q := 102) C dX5_digest_101 rfl ?_
        refine z_ladd (q := 103) C dX5_digest_102 rfl ?_
        refine z_ls1 (q := 104) C dX5_digest_103 rfl (by first | exact loC_i | exact loC_r | exact loC_n | exact loC_q | exact loC_u) ?_
        first | refine z_iinc3N (q := 107) C dX5_digest_104 rfl (by first | exact loC_i | exact loC_r | exact loC_n | exact loC_q | exact loC_u) ?_ | refine z_iinc3 (q := 107) C dX5_digest_104 rfl rfl (by first | exact loC_i | exact loC_r | exact loC_n | exact loC_q | exact loC_u) ?_
        refine z_goto (tgt := 60) C dX5_digest_107 (by decide) ?_
        exact ih (e + 1) (by omega) τ1 hF
  have loop2 : ∀ m w, w + m = 8 → ∀ (τ1 : Tw), TF [14, 16, 17, 18] [13, 15] τ τ1 → Zj (wT D o ad) Y τ1 0 0 33 [some (.ref o), some (.long (itN (fun w h => 31 * h + (k_cnt (a_c α) (a_ch α) w).toInt64) (dg1 α) w)), none, some (.int (nI w)), none, none] [] := by
    intro m
    induction m with
    | zero =>
      intro w hw τ1 hF
      have hw : w = 8 := hw
      subst hw
      refine z_il3 (q := 34) C dX5_digest_33 rfl ?_
      refine z_bipush (q := 36) (v := nI 8) C dX5_digest_34 rfl (by decide) ?_
      first | refine z_icmp_geN (tgt := 58) (q := 39) C dX5_digest_36 (by decide) rfl (by omega) (by omega) (fun c36 => ?_) (fun c36 => ?_) | refine z_icmp_ge (tgt := 58) (q := 39) C dX5_digest_36 (by decide) rfl (fun c36 => ?_) (fun c36 => ?_)
      · refine z_iconst (q := 59) (v := nI 0) C dX5_digest_58 rfl (by decide) ?_
        refine z_is3 (q := 60) C dX5_digest_59 rfl (by first | exact loC_i | exact loC_r | exact loC_n | exact loC_q | exact loC_u) ?_
        exact loop3 _ 0 (Nat.zero_add _) τ1 hF
      · exact absurd c36 (by omega)
    | succ m ih =>
      intro w hw τ1 hF
      have hA1 := hA.keepR hF
      refine z_il3 (q := 34) C dX5_digest_33 rfl ?_
      refine z_bipush (q := 36) (v := nI 8) C dX5_digest_34 rfl (by decide) ?_
      first | refine z_icmp_geN (tgt := 58) (q := 39) C dX5_digest_36 (by decide) rfl (by omega) (by omega) (fun c36 => ?_) (fun c36 => ?_) | refine z_icmp_ge (tgt := 58) (q := 39) C dX5_digest_36 (by decide) rfl (fun c36 => ?_) (fun c36 => ?_)
      · exact absurd c36 (by omega)
      · refine z_ldc2 (q := 42) C dX5_digest_39 rfl q1186 ?_
        refine z_ll1 (q := 43) C dX5_digest_42 rfl ?_
        refine z_lmul (q := 44) C dX5_digest_43 rfl ?_
        refine z_al0 (q := 45) C dX5_digest_44 rfl ?_
        refine z_il3 (q := 46) C dX5_digest_45 rfl ?_
        refine z_callVi (q := 49) C (ct_countOf τ1 hA1.1.1 (a_ch α) hA1.2.2.2.1.1 w (by omega)) g_X5_186 rcT dX5_digest_46 rfl rfl rfl (Nat.le_of_ble_eq_true rfl) (by first | decide | omega) (Nat.le_refl _) (Nat.le_refl _) (fun r46 τ46 h46 => ?_)
        obtain ⟨hF2, rfl⟩ := h46
        refine z_i2l (q := 50) C dX5_digest_49 rfl ?_
        refine z_ladd (q := 51) C dX5_digest_50 rfl ?_
        refine z_ls1 (q := 52) C dX5_digest_51 rfl (by first | exact loC_i | exact loC_r | exact loC_n | exact loC_q | exact loC_u) ?_
        first | refine z_iinc3N (q := 55) C dX5_digest_52 rfl (by first | exact loC_i | exact loC_r | exact loC_n | exact loC_q | exact loC_u) ?_ | refine z_iinc3 (q := 55) C dX5_digest_52 rfl rfl (by first | exact loC_i | exact loC_r | exact loC_n | exact loC_q | exact loC_u) ?_
        refine z_goto (tgt := 33) C dX5_digest_55 (by decide) ?_
        exact ih (w + 1) (by omega) τ46 (hF.tr hF2)
  have loop1 : ∀ m w, w + m = 11 → Zj (wT D o ad) Y τ 0 0 6 [some (.ref o), some (.long (itN (fun w h => 31 * h + (a_tof α w).toInt64) 1842 w)), none, some (.int (nI w)), none, none] [] := by
    intro m
    induction m with
    | zero =>
      intro w hw
      have hw : w = 11 := hw
      subst hw
      refine z_il3 (q := 7) C dX5_digest_6 rfl ?_
      refine z_bipush (q := 9) (v := nI 11) C dX5_digest_7 rfl (by decide) ?_
      first | refine z_icmp_geN (tgt := 31) (q := 12) C dX5_digest_9 (by decide) rfl (by omega) (by omega) (fun c9 => ?_) (fun c9 => ?_) | refine z_icmp_ge (tgt := 31) (q := 12) C dX5_digest_9 (by decide) rfl (fun c9 => ?_) (fun c9 => ?_)
      · refine z_iconst (q := 32) (v := nI 0) C dX5_digest_31 rfl (by decide) ?_
        refine z_is3 (q := 33) C dX5_digest_32 rfl (by first | exact loC_i | exact loC_r | exact loC_n | exact loC_q | exact loC_u) ?_
        exact loop2 8 0 (by omega) τ TF.rf
      · exact absurd c9 (by omega)
    | succ m ih =>
      intro w hw
      refine z_il3 (q := 7) C dX5_digest_6 rfl ?_
      refine z_bipush (q := 9) (v := nI 11) C dX5_digest_7 rfl (by decide) ?_
      first | refine z_icmp_geN (tgt := 31) (q := 12) C dX5_digest_9 (by decide) rfl (by omega) (by omega) (fun c9 => ?_) (fun c9 => ?_) | refine z_icmp_ge (tgt := 31) (q := 12) C dX5_digest_9 (by decide) rfl (fun c9 => ?_) (fun c9 => ?_)
      · exact absurd c9 (by omega)
      · refine z_ldc2 (q := 15) C dX5_digest_12 rfl q1186 ?_
        refine z_ll1 (q := 16) C dX5_digest_15 rfl ?_
        refine z_lmul (q := 17) C dX5_digest_16 rfl ?_
        refine z_al0 (q := 18) C dX5_digest_17 rfl ?_
        refine z_il3 (q := 19) C dX5_digest_18 rfl ?_
        refine z_callVe (q := 22) C (ct_toldOf τ hA w (by omega)) g_X5_229 rcT dX5_digest_19 rfl rfl rfl (Nat.le_of_ble_eq_true rfl) (by first | decide | omega) (Nat.le_refl _) (Nat.le_refl _) ?_
        refine z_i2l (q := 23) C dX5_digest_22 rfl ?_
        refine z_ladd (q := 24) C dX5_digest_23 rfl ?_
        refine z_ls1 (q := 25) C dX5_digest_24 rfl (by first | exact loC_i | exact loC_r | exact loC_n | exact loC_q | exact loC_u) ?_
        first | refine z_iinc3N (q := 28) C dX5_digest_25 rfl (by first | exact loC_i | exact loC_r | exact loC_n | exact loC_q | exact loC_u) ?_ | refine z_iinc3 (q := 28) C dX5_digest_25 rfl rfl (by first | exact loC_i | exact loC_r | exact loC_n | exact loC_q | exact loC_u) ?_
        refine z_goto (tgt := 6) C dX5_digest_28 (by decide) ?_
        exact ih (w + 1) (by omega)
  refine z_ldc2 (q := 3) C dX5_digest_0 rfl q1185 ?_
  refine z_ls1 (q := 4) C dX5_digest_3 rfl (by first | exact loC_i | exact loC_r | exact loC_n | exact loC_q | exact loC_u) ?_
  refine z_iconst (q := 5) (v := nI 0) C dX5_digest_4 rfl (by decide) ?_
  refine z_is3 (q := 6) C dX5_digest_5 rfl (by first | exact loC_i | exact loC_r | exact loC_n | exact loC_q | exact loC_u) ?_
  exact loop1 11 0 (by omega)
end T36
