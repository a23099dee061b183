/-! the twin: resumes, removes -/
section T35
variable {D : Dt} {o : Nat} {ad : Nat → Nat}
theorem oI_nm {r : Option Nat} {k : Nat} (h : r = some k) (hk : k ≤ 999999) : ¬ oI r = -1 := by
  rw [h]
  exact nI_nm1 (by omega)
set_option maxHeartbeats 2000000 in
theorem ct_resumes {N : Nat} {α : Al} (τ : Tw) (hA : TA N τ α) (c : Int32) (hN : N + 200 ≤ 1000000) : Ct (wT D o ad) yX5_resumes cX5_resumes 4 (some .int) [.ref o, .int c] τ (PI (fun r τ' => r = (a_resumes α c).1 ∧ TA (N + 200) τ' (a_resumes α c).2)) 8 0 0 := by
  refine Ct.of KTok (by decide) (Nat.le_of_ble_eq_true rfl) rfl fun Y C hQ hNm => ?_
  by_cases h0 : a_lk α c = nI 0 ∨ a_lk α c = -6
  · obtain ⟨cn, w, rfl, hcn, ek, hw, hin⟩ := lk_ok h0
    obtain ⟨⟨g9, g10, g11, g12⟩, gw, gn, gl, gk⟩ := hA.2.2.2.2.2 cn hcn
    have hw3 := gw w hw
    rw [hw] at g9
    have g9 : τ.2 9 cn = nI w := g9
    have hlen := hA.1.2
    have e1 : a_resumes α (nI cn) = (nI (k_lf (a_c α) (k_res (a_c α) (a_ch α) (a_cu α cn))), a_cur α cn (k_res (a_c α) (a_ch α) (a_cu α cn))) := by unfold a_resumes; rw [if_pos h0, ek]
    rw [e1] at hQ
    have his : ∀ k, k_is (a_c α) (a_cu α cn) = some k → k ≤ 999999 ∧ (a_cu α cn).2.2.1 = some k := fun k hk => by
      unfold k_is at hk
      cases hz : (a_cu α cn).2.2.1 with
      | none => rw [hz] at hk; cases hk
      | some j =>
        rw [hz] at hk
        have hk : (if k_pl (a_c α) j = none then none else some j) = some k := hk
        split at hk
        · cases hk
        · cases hk
          exact ⟨gl _ hz, rfl⟩
    -- from where the flag is known
    have tail : ∀ (b : Bool) (x2 : Int32), b = (k_is (a_c α) (a_cu α cn)).isSome → Zj (wT D o ad) Y τ 0 0 52 [some (.ref o), some (.int (nI cn)), some (.int x2), some (.int (bI b))] [] := by
      intro b x2 hb
      have fin : ∀ (τ1 : Tw) (nx : Option Nat), nx = (k_res (a_c α) (a_ch α) (a_cu α cn)).2.1 → TF [14, 16, 17, 18] [13, 15] τ τ1 → Zj (wT D o ad) Y (sE 10 cn (oI nx) τ1) 0 0 94 [some (.ref o), some (.int (nI cn)), some (.int x2), some (.int (bI b))] [] := by
        intro τ1 nx hnx hF
        have o9 : ∀ i, τ1.2 9 i = τ.2 9 i := fun i => by rw [hF.2 9 (by decide)]
        have o10 : ∀ i, τ1.2 10 i = τ.2 10 i := fun i => by rw [hF.2 10 (by decide)]
        have o11 : ∀ i, τ1.2 11 i = τ.2 11 i := fun i => by rw [hF.2 11 (by decide)]
        have o12 : ∀ i, τ1.2 12 i = τ.2 12 i := fun i => by rw [hF.2 12 (by decide)]
        have h5 : τ1.1 5 = nI (a_ch α) := by rw [hF.1 5 (by decide)]; exact hA.2.2.2.1.1
        have hF' : TF [8, 14, 16, 17, 18, 19] [2, 9, 10, 11, 12, 13, 15] τ τ1 := hF.up (by decide) (by decide)
        have hnl : ∀ k, nx = some k → k ≤ 999999 := fun k hk => by
          rw [hnx] at hk
          unfold k_res at hk
          simp only at hk
          split at hk <;> exact k_by_le hA.1.1.1 (List.mem_of_getElem? hk)
        have fin2 : Zj (wT D o ad) Y (sE 11 cn (oI (k_is (a_c α) (a_cu α cn))) (sE 10 cn (oI nx) τ1)) 0 0 114 [some (.ref o), some (.int (nI cn)), some (.int x2), some (.int (bI b))] [] := by
          refine z_al0 (q := 115) C dX5_resumes_114 rfl ?_
          refine tg_34 (q := 118) C dX5_resumes_115 rfl ?_
          refine z_il1 (q := 119) C dX5_resumes_118 rfl ?_
          refine z_al0 (q := 120) C dX5_resumes_119 rfl ?_
          refine tg_108 (q := 123) C dX5_resumes_120 rfl ?_
          rw [show (sE 11 cn (oI (k_is (a_c α) (a_cu α cn))) (sE 10 cn (oI nx) τ1)).1 5 = nI (a_ch α) from h5]
          refine ta_st12 (q := 124) C dX5_resumes_123 rfl (by omega) ?_
          have hA2 : TA (N + 200) (sE 12 cn (nI (a_ch α)) (sE 11 cn (oI (k_is (a_c α) (a_cu α cn))) (sE 10 cn (oI nx) τ1))) (a_cur α cn (k_res (a_c α) (a_ch α) (a_cu α cn))) := by
            refine hA.cur (((hF'.sE (by decide) _ _).sE (by decide) _ _).sE (by decide) _ _) (by omega) hN hcn (fun i hi _ => ?_) ?_ ?_ ?_ ?_ ?_
            · rw [sE_o (by decide), sE_o (by decide), sE_o (by decide), sE_o (by decide), sE_o (by decide), sE_n hi, sE_o (by decide), sE_n hi, sE_o (by decide), sE_n hi, sE_o (by decide), sE_o (by decide), o9, o10, o11, o12]
              exact ⟨rfl, rfl, rfl, rfl⟩
            · rw [sE_o (by decide), sE_o (by decide), sE_o (by decide), o9, g9]
              show _ = oI (a_cu α cn).1
              rw [hw]
              rfl
            · rw [sE_o (by decide), sE_o (by decide), sE_s, hnx]
            · rw [sE_o (by decide), sE_s]
              rfl
            · rw [sE_s]
              rfl
            · exact ⟨gw, fun k hk => hnl k (hnx.trans hk), fun k hk => (his k hk).1, Nat.le_refl _⟩
          have hcu : a_cu (a_cur α cn (k_res (a_c α) (a_ch α) (a_cu α cn))) cn = k_res (a_c α) (a_ch α) (a_cu α cn) := if_pos rfl
          refine z_al0 (q := 125) C dX5_resumes_124 rfl ?_
          refine z_il1 (q := 126) C dX5_resumes_125 rfl ?_
          refine z_callVi (q := 129) C (ct_leftOf _ hA2 cn w hcn (by rw [hcu]; exact hw)) g_X5_204 rcT dX5_resumes_126 rfl rfl rfl (Nat.le_of_ble_eq_true rfl) (by first | decide | omega) (Nat.le_refl _) (Nat.le_refl _) (fun r126 τ126 h126 => ?_)
          refine z_iret C hQ dX5_resumes_129 (Nat.le_refl _) (Nat.le_refl _) ?_
          exact ⟨_, rfl, by rw [h126.2, hcu]; rfl, by have := hA2.set (M := N + 200) (δ := 0) (h126.1.up (by decide) (by decide)) ((h126.1.2 0 (by decide)).symm ▸ hA2.1.1) hA2.1.2 (by rw [h126.1.1 5 (by decide)]; exact (Int32.add_zero _).symm) (by omega); exact this⟩
        cases b with
        | true =>
          cases hz : k_is (a_c α) (a_cu α cn) with
          | none => rw [hz] at hb; cases hb
          | some k =>
            rw [hz] at fin2
            have gk2 := his k hz
            have h11 : (sE 10 cn (oI nx) τ1).2 11 cn = oI (some k) := by rw [sE_o (by decide), o11, g11, gk2.2]
            refine z_al0 (q := 95) C dX5_resumes_94 rfl ?_
            refine tg_31 (q := 98) C dX5_resumes_95 rfl ?_
            refine z_il1 (q := 99) C dX5_resumes_98 rfl ?_
            refine z_il3 (q := 100) C dX5_resumes_99 rfl ?_
            first | refine z_if_eqB (tgt := 112) (q := 103) C dX5_resumes_100 (by decide) rfl (fun c100 => ?_) (fun c100 => ?_) | refine z_if_eq (tgt := 112) (q := 103) C dX5_resumes_100 (by decide) rfl (fun c100 => ?_) (fun c100 => ?_)
            · cases c100
            · refine z_al0 (q := 104) C dX5_resumes_103 rfl ?_
              refine tg_31 (q := 107) C dX5_resumes_104 rfl ?_
              refine z_il1 (q := 108) C dX5_resumes_107 rfl ?_
              refine ta_ld11 (q := 109) C dX5_resumes_108 rfl (by omega) ?_
              rw [h11]
              refine z_goto (tgt := 113) C dX5_resumes_109 (by decide) ?_
              refine ta_st11 (q := 114) C dX5_resumes_113 rfl (by omega) ?_
              exact fin2
        | false =>
          cases hz : k_is (a_c α) (a_cu α cn) with
          | none =>
            rw [hz] at fin2
            refine z_al0 (q := 95) C dX5_resumes_94 rfl ?_
            refine tg_31 (q := 98) C dX5_resumes_95 rfl ?_
            refine z_il1 (q := 99) C dX5_resumes_98 rfl ?_
            refine z_il3 (q := 100) C dX5_resumes_99 rfl ?_
            first | refine z_if_eqB (tgt := 112) (q := 103) C dX5_resumes_100 (by decide) rfl (fun c100 => ?_) (fun c100 => ?_) | refine z_if_eq (tgt := 112) (q := 103) C dX5_resumes_100 (by decide) rfl (fun c100 => ?_) (fun c100 => ?_)
            · refine z_iconst (q := 113) (v := -1) C dX5_resumes_112 rfl (by decide) ?_
              refine ta_st11 (q := 114) C dX5_resumes_113 rfl (by omega) ?_
              exact fin2
            · cases c100
          | some k => rw [hz] at hb; cases hb
      cases b with
      | true =>
        cases hz : k_is (a_c α) (a_cu α cn) with
        | none => rw [hz] at hb; cases hb
        | some k =>
          have gk2 := his k hz
          have h11 : τ.2 11 cn = nI k := by rw [g11, gk2.2]; rfl
          have hat : k_at (a_c α) w k ≤ (k_es (a_c α)).length := by rw [← k_by_len hA.1.1.1 w]; exact findIdx_le _ _
          have hnx : (k_by (a_c α) w)[k_at (a_c α) w k + 1]? = (k_res (a_c α) (a_ch α) (a_cu α cn)).2.1 := by unfold k_res; simp only [hz, hw]; rfl
          refine z_al0 (q := 53) C dX5_resumes_52 rfl ?_
          refine tg_28 (q := 56) C dX5_resumes_53 rfl ?_
          refine z_il1 (q := 57) C dX5_resumes_56 rfl ?_
          refine z_al0 (q := 58) C dX5_resumes_57 rfl ?_
          refine z_al0 (q := 59) C dX5_resumes_58 rfl ?_
          refine tg_25 (q := 62) C dX5_resumes_59 rfl ?_
          refine z_il1 (q := 63) C dX5_resumes_62 rfl ?_
          refine ta_ld9 (q := 64) C dX5_resumes_63 rfl (by omega) ?_
          rw [g9]
          refine z_il3 (q := 65) C dX5_resumes_64 rfl ?_
          first | refine z_if_eqB (tgt := 89) (q := 68) C dX5_resumes_65 (by decide) rfl (fun c65 => ?_) (fun c65 => ?_) | refine z_if_eq (tgt := 89) (q := 68) C dX5_resumes_65 (by decide) rfl (fun c65 => ?_) (fun c65 => ?_)
          · cases c65
          refine z_al0 (q := 69) C dX5_resumes_68 rfl ?_
          refine z_al0 (q := 70) C dX5_resumes_69 rfl ?_
          refine tg_25 (q := 73) C dX5_resumes_70 rfl ?_
          refine z_il1 (q := 74) C dX5_resumes_73 rfl ?_
          refine ta_ld9 (q := 75) C dX5_resumes_74 rfl (by omega) ?_
          rw [g9]
          refine z_al0 (q := 76) C dX5_resumes_75 rfl ?_
          refine tg_31 (q := 79) C dX5_resumes_76 rfl ?_
          refine z_il1 (q := 80) C dX5_resumes_79 rfl ?_
          refine ta_ld11 (q := 81) C dX5_resumes_80 rfl (by omega) ?_
          rw [h11]
          refine z_callVi (q := 84) C (ct_placeBy τ hA.1.1 w k hw3 gk2.1) g_X5_192 rcT dX5_resumes_81 rfl rfl rfl (Nat.le_of_ble_eq_true rfl) (by first | decide | omega) (Nat.le_refl _) (Nat.le_refl _) (fun r81 τ81 h81 => ?_)
          obtain ⟨hF1, rfl⟩ := h81
          refine z_iconst (q := 85) (v := nI 1) C dX5_resumes_84 rfl (by decide) ?_
          first | refine z_iaddN (q := 86) C dX5_resumes_85 rfl ?_ | refine z_iadd (q := 86) C dX5_resumes_85 rfl ?_
          refine z_goto (tgt := 90) C dX5_resumes_86 (by decide) ?_
          refine z_callVi (q := 93) C (ct_keyOrNone τ81 ((hF1.2 0 (by decide)).symm ▸ hA.1.1) w (k_at (a_c α) w k + 1) hw3 (by omega)) g_X5_198 rcT dX5_resumes_90 rfl rfl rfl (Nat.le_of_ble_eq_true rfl) (by first | decide | omega) (Nat.le_refl _) (Nat.le_refl _) (fun r90 τ90 h90 => ?_)
          obtain ⟨hF2, rfl⟩ := h90
          refine ta_st10 (q := 94) C dX5_resumes_93 rfl (by omega) ?_
          exact fin τ90 _ hnx (hF1.tr hF2)
      | false =>
        cases hz : k_is (a_c α) (a_cu α cn) with
        | none =>
          have hnx : (k_by (a_c α) w)[0]? = (k_res (a_c α) (a_ch α) (a_cu α cn)).2.1 := by unfold k_res; simp only [hz, hw]; rfl
          refine z_al0 (q := 53) C dX5_resumes_52 rfl ?_
          refine tg_28 (q := 56) C dX5_resumes_53 rfl ?_
          refine z_il1 (q := 57) C dX5_resumes_56 rfl ?_
          refine z_al0 (q := 58) C dX5_resumes_57 rfl ?_
          refine z_al0 (q := 59) C dX5_resumes_58 rfl ?_
          refine tg_25 (q := 62) C dX5_resumes_59 rfl ?_
          refine z_il1 (q := 63) C dX5_resumes_62 rfl ?_
          refine ta_ld9 (q := 64) C dX5_resumes_63 rfl (by omega) ?_
          rw [g9]
          refine z_il3 (q := 65) C dX5_resumes_64 rfl ?_
          first | refine z_if_eqB (tgt := 89) (q := 68) C dX5_resumes_65 (by decide) rfl (fun c65 => ?_) (fun c65 => ?_) | refine z_if_eq (tgt := 89) (q := 68) C dX5_resumes_65 (by decide) rfl (fun c65 => ?_) (fun c65 => ?_)
          · refine z_iconst (q := 90) (v := nI 0) C dX5_resumes_89 rfl (by decide) ?_
            refine z_callVi (q := 93) C (ct_keyOrNone τ hA.1.1 w 0 hw3 (by decide)) g_X5_198 rcT dX5_resumes_90 rfl rfl rfl (Nat.le_of_ble_eq_true rfl) (by first | decide | omega) (Nat.le_refl _) (Nat.le_refl _) (fun r90 τ90 h90 => ?_)
            obtain ⟨hF2, rfl⟩ := h90
            refine ta_st10 (q := 94) C dX5_resumes_93 rfl (by omega) ?_
            exact fin τ90 _ hnx hF2
          · cases c65
        | some k => rw [hz] at hb; cases hb
    have start : ∀ x2 : Int32, Zj (wT D o ad) Y τ 0 0 22 [some (.ref o), some (.int (nI cn)), some (.int x2), none] [] := by
      intro x2
      cases hz : (a_cu α cn).2.2.1 with
      | none =>
        have e2 : k_is (a_c α) (a_cu α cn) = none := by unfold k_is; rw [hz]
        rw [hz] at g11
        refine z_al0 (q := 23) C dX5_resumes_22 rfl ?_
        refine tg_31 (q := 26) C dX5_resumes_23 rfl ?_
        refine z_il1 (q := 27) C dX5_resumes_26 rfl ?_
        refine ta_ld11 (q := 28) C dX5_resumes_27 rfl (by omega) ?_
        rw [g11]
        refine z_iconst (q := 29) (v := -1) C dX5_resumes_28 rfl (by decide) ?_
        refine z_icmp_eq (tgt := 50) (q := 32) C dX5_resumes_29 (by decide) rfl (fun c29 => ?_) (fun c29 => ?_)
        · refine z_iconst (q := 51) (v := nI 0) C dX5_resumes_50 rfl (by decide) ?_
          refine z_is3 (q := 52) C dX5_resumes_51 rfl (by first | exact loC_i | exact loC_r | exact loC_n | exact loC_q | exact loC_u) ?_
          exact tail false x2 (by rw [e2]; rfl)
        · exact absurd rfl c29
      | some k =>
        have hk := gl k hz
        rw [hz] at g11
        have g11 : τ.2 11 cn = nI k := g11
        cases hp : k_pl (a_c α) k with
        | none =>
          have e2 : k_is (a_c α) (a_cu α cn) = none := by unfold k_is; rw [hz]; simp only [hp, if_true]
          refine z_al0 (q := 23) C dX5_resumes_22 rfl ?_
          refine tg_31 (q := 26) C dX5_resumes_23 rfl ?_
          refine z_il1 (q := 27) C dX5_resumes_26 rfl ?_
          refine ta_ld11 (q := 28) C dX5_resumes_27 rfl (by omega) ?_
          rw [g11]
          refine z_iconst (q := 29) (v := -1) C dX5_resumes_28 rfl (by decide) ?_
          refine z_icmp_eq (tgt := 50) (q := 32) C dX5_resumes_29 (by decide) rfl (fun c29 => ?_) (fun c29 => ?_)
          · exact absurd c29 (nI_nm1 (by omega))
          · refine z_al0 (q := 33) C dX5_resumes_32 rfl ?_
            refine z_al0 (q := 34) C dX5_resumes_33 rfl ?_
            refine tg_31 (q := 37) C dX5_resumes_34 rfl ?_
            refine z_il1 (q := 38) C dX5_resumes_37 rfl ?_
            refine ta_ld11 (q := 39) C dX5_resumes_38 rfl (by omega) ?_
            rw [g11]
            refine z_callVe (q := 42) C (ct_placeN τ hA.1.1 k (by omega) hp) g_X5_121 rcT dX5_resumes_39 rfl rfl rfl (Nat.le_of_ble_eq_true rfl) (by first | decide | omega) (Nat.le_refl _) (Nat.le_refl _) ?_
            refine z_iconst (q := 43) (v := -1) C dX5_resumes_42 rfl (by decide) ?_
            refine z_icmp_eq (tgt := 50) (q := 46) C dX5_resumes_43 (by decide) rfl (fun c43 => ?_) (fun c43 => ?_)
            · refine z_iconst (q := 51) (v := nI 0) C dX5_resumes_50 rfl (by decide) ?_
              refine z_is3 (q := 52) C dX5_resumes_51 rfl (by first | exact loC_i | exact loC_r | exact loC_n | exact loC_q | exact loC_u) ?_
              exact tail false x2 (by rw [e2]; rfl)
            · exact absurd rfl c43
        | some e =>
          have e2 : k_is (a_c α) (a_cu α cn) = some k := by unfold k_is; rw [hz]; simp only [hp]; rfl
          obtain ⟨h1, -⟩ := k_pl_some hp
          refine z_al0 (q := 23) C dX5_resumes_22 rfl ?_
          refine tg_31 (q := 26) C dX5_resumes_23 rfl ?_
          refine z_il1 (q := 27) C dX5_resumes_26 rfl ?_
          refine ta_ld11 (q := 28) C dX5_resumes_27 rfl (by omega) ?_
          rw [g11]
          refine z_iconst (q := 29) (v := -1) C dX5_resumes_28 rfl (by decide) ?_
          refine z_icmp_eq (tgt := 50) (q := 32) C dX5_resumes_29 (by decide) rfl (fun c29 => ?_) (fun c29 => ?_)
          · exact absurd c29 (nI_nm1 (by omega))
          · refine z_al0 (q := 33) C dX5_resumes_32 rfl ?_
            refine z_al0 (q := 34) C dX5_resumes_33 rfl ?_
            refine tg_31 (q := 37) C dX5_resumes_34 rfl ?_
            refine z_il1 (q := 38) C dX5_resumes_37 rfl ?_
            refine ta_ld11 (q := 39) C dX5_resumes_38 rfl (by omega) ?_
            rw [g11]
            refine z_callVe (q := 42) C (ct_placeS τ hA.1.1 k e (by omega) hp) g_X5_121 rcT dX5_resumes_39 rfl rfl rfl (Nat.le_of_ble_eq_true rfl) (by first | decide | omega) (Nat.le_refl _) (Nat.le_refl _) ?_
            refine z_iconst (q := 43) (v := -1) C dX5_resumes_42 rfl (by decide) ?_
            refine z_icmp_eq (tgt := 50) (q := 46) C dX5_resumes_43 (by decide) rfl (fun c43 => ?_) (fun c43 => ?_)
            · exact absurd c43 (nI_nm1 (by omega))
            · refine z_iconst (q := 47) (v := nI 1) C dX5_resumes_46 rfl (by decide) ?_
              refine z_goto (tgt := 51) C dX5_resumes_47 (by decide) ?_
              refine z_is3 (q := 52) C dX5_resumes_51 rfl (by first | exact loC_i | exact loC_r | exact loC_n | exact loC_q | exact loC_u) ?_
              exact tail true x2 (by rw [e2]; rfl)
    rcases h0 with h0 | h0
    · refine z_al0 (q := 1) C dX5_resumes_0 rfl ?_
      refine z_il1 (q := 2) C dX5_resumes_1 rfl ?_
      refine z_callVe (q := 5) C (ct_lacks τ hA (nI cn) (nI 0) h0) g_X5_201 rcT dX5_resumes_2 rfl rfl rfl (Nat.le_of_ble_eq_true rfl) (by first | decide | omega) (Nat.le_refl _) (Nat.le_refl _) ?_
      refine z_is2 (q := 6) C dX5_resumes_5 rfl (by first | exact loC_i | exact loC_r | exact loC_n | exact loC_q | exact loC_u) ?_
      refine z_il2 (q := 7) C dX5_resumes_6 rfl ?_
      refine z_if_ge (tgt := 22) (q := 10) C dX5_resumes_7 (by decide) rfl (fun c7 => ?_) (fun c7 => ?_)
      · exact start _
      · exact absurd (show (0 : Int32) ≤ nI 0 from by decide) c7
    · refine z_al0 (q := 1) C dX5_resumes_0 rfl ?_
      refine z_il1 (q := 2) C dX5_resumes_1 rfl ?_
      refine z_callVe (q := 5) C (ct_lacks τ hA (nI cn) (-6) h0) g_X5_201 rcT dX5_resumes_2 rfl rfl rfl (Nat.le_of_ble_eq_true rfl) (by first | decide | omega) (Nat.le_refl _) (Nat.le_refl _) ?_
      refine z_is2 (q := 6) C dX5_resumes_5 rfl (by first | exact loC_i | exact loC_r | exact loC_n | exact loC_q | exact loC_u) ?_
      refine z_il2 (q := 7) C dX5_resumes_6 rfl ?_
      refine z_if_ge (tgt := 22) (q := 10) C dX5_resumes_7 (by decide) rfl (fun c7 => ?_) (fun c7 => ?_)
      · exact absurd c7 (by decide)
      · refine z_il2 (q := 11) C dX5_resumes_10 rfl ?_
        refine z_bipush (q := 13) (v := -6) C dX5_resumes_11 rfl (by decide) ?_
        refine z_icmp_eq (tgt := 22) (q := 16) C dX5_resumes_13 (by decide) rfl (fun c13 => ?_) (fun c13 => ?_)
        · exact start _
        · exact absurd rfl c13
  · have e1 : a_resumes α c = a_ref α (a_lk α c) := if_neg h0
    rw [e1] at hQ
    have hl : a_lk α c = -2 ∨ a_lk α c = -3 := by
      rcases lk_cases α c with h | h | h | h
      · exact absurd (Or.inl h) h0
      · exact Or.inl h
      · exact Or.inr h
      · exact absurd (Or.inr h) h0
    generalize hr : a_lk α c = r at *
    have hneg : ¬ 0 ≤ r := by rcases hl with rfl | rfl <;> decide
    have h6 : ¬ r = -6 := by rcases hl with rfl | rfl <;> decide
    refine z_al0 (q := 1) C dX5_resumes_0 rfl ?_
    refine z_il1 (q := 2) C dX5_resumes_1 rfl ?_
    refine z_callVe (q := 5) C (ct_lacks τ hA c r hr) g_X5_201 rcT dX5_resumes_2 rfl rfl rfl (Nat.le_of_ble_eq_true rfl) (by first | decide | omega) (Nat.le_refl _) (Nat.le_refl _) ?_
    refine z_is2 (q := 6) C dX5_resumes_5 rfl (by first | exact loC_i | exact loC_r | exact loC_n | exact loC_q | exact loC_u) ?_
    refine z_il2 (q := 7) C dX5_resumes_6 rfl ?_
    refine z_if_ge (tgt := 22) (q := 10) C dX5_resumes_7 (by decide) rfl (fun c7 => ?_) (fun c7 => ?_)
    · exact absurd c7 hneg
    · refine z_il2 (q := 11) C dX5_resumes_10 rfl ?_
      refine z_bipush (q := 13) (v := -6) C dX5_resumes_11 rfl (by decide) ?_
      refine z_icmp_eq (tgt := 22) (q := 16) C dX5_resumes_13 (by decide) rfl (fun c13 => ?_) (fun c13 => ?_)
      · exact absurd c13 h6
      · refine z_al0 (q := 17) C dX5_resumes_16 rfl ?_
        refine z_il2 (q := 18) C dX5_resumes_17 rfl ?_
        refine z_callVi (q := 21) C (ct_refusesR τ hA r (hl.elim Or.inl (fun z => Or.inr (Or.inl z)))) g_X5_137 rcT dX5_resumes_18 rfl rfl rfl (Nat.le_of_ble_eq_true rfl) (by first | decide | omega) (Nat.le_refl _) (Nat.le_refl _) (fun r18 τ18 h18 => ?_)
        refine z_iret C hQ dX5_resumes_21 (Nat.le_refl _) (Nat.le_refl _) ?_
        exact ⟨_, rfl, h18.1, h18.2.mono (by omega) hN⟩
set_option maxHeartbeats 2000000 in
theorem ct_removes {N : Nat} {α : Al} (τ : Tw) (hA : TA N τ α) (c : Int32) (hN : N + 200 ≤ 1000000) : Ct (wT D o ad) yX5_removes cX5_removes 4 (some .int) [.ref o, .int c] τ (PI (fun r τ' => r = (a_removes α c).1 ∧ TA (N + 200) τ' (a_removes α c).2)) 8 0 0 := by
  refine Ct.of KTok (by decide) (Nat.le_of_ble_eq_true rfl) rfl fun Y C hQ hNm => ?_
  have hlen := hA.1.2
  have ref : ∀ (r : Int32), (r = -2 ∨ r = -3 ∨ r = -6) → a_removes α c = a_ref α r → Zj (wT D o ad) Y τ 0 0 36 [some (.ref o), some (.int c), some (.int r), none] [] := by
    intro r hr he
    rw [he] at hQ
    have hneg : ¬ 0 ≤ r := by rcases hr with rfl | rfl | rfl <;> decide
    refine z_il2 (q := 37) C dX5_removes_36 rfl ?_
    refine z_if_ge (tgt := 46) (q := 40) C dX5_removes_37 (by decide) rfl (fun c37 => ?_) (fun c37 => ?_)
    · exact absurd c37 hneg
    · refine z_al0 (q := 41) C dX5_removes_40 rfl ?_
      refine z_il2 (q := 42) C dX5_removes_41 rfl ?_
      refine z_callVi (q := 45) C (ct_refusesR τ hA r hr) g_X5_137 rcT dX5_removes_42 rfl rfl rfl (Nat.le_of_ble_eq_true rfl) (by first | decide | omega) (Nat.le_refl _) (Nat.le_refl _) (fun r42 τ42 h42 => ?_)
      refine z_iret C hQ dX5_removes_45 (Nat.le_refl _) (Nat.le_refl _) ?_
      exact ⟨_, rfl, h42.1, h42.2.mono (by omega) hN⟩
  cases hi : inB c (nI 0) (nI 2) with
  | false =>
    have e1 : a_lk α c = -2 := by unfold a_lk; rw [if_neg (by rw [hi]; decide)]
    have e2 : a_removes α c = a_ref α (-2) := by unfold a_removes; rw [if_neg (by rw [hi]; simp), e1, if_neg (by decide)]
    refine z_al0 (q := 1) C dX5_removes_0 rfl ?_
    refine z_il1 (q := 2) C dX5_removes_1 rfl ?_
    refine z_callVe (q := 5) C (ct_lacks τ hA c (-2) e1) g_X5_201 rcT dX5_removes_2 rfl rfl rfl (Nat.le_of_ble_eq_true rfl) (by first | decide | omega) (Nat.le_refl _) (Nat.le_refl _) ?_
    refine z_is2 (q := 6) C dX5_removes_5 rfl (by first | exact loC_i | exact loC_r | exact loC_n | exact loC_q | exact loC_u) ?_
    refine z_il1 (q := 7) C dX5_removes_6 rfl ?_
    refine z_callSe (q := 10) C (ct_isCursor τ c) g_X5_195 dX5_removes_7 rfl rfl rfl (Nat.le_of_ble_eq_true rfl) (by first | decide | omega) (Nat.le_refl _) (Nat.le_refl _) ?_
    first | refine z_if_eqB (tgt := 36) (q := 13) C dX5_removes_10 (by decide) rfl (fun c10 => ?_) (fun c10 => ?_) | refine z_if_eq (tgt := 36) (q := 13) C dX5_removes_10 (by decide) rfl (fun c10 => ?_) (fun c10 => ?_)
    · exact ref (-2) (Or.inl rfl) e2
    · rw [hi] at c10; cases c10
  | true =>
    obtain ⟨ec, hc⟩ := in_of (by decide) hi
    obtain ⟨cn, hcn⟩ : ∃ cn, cn = kN c := ⟨_, rfl⟩
    rw [← hcn] at ec hc
    obtain ⟨⟨g9, g10, g11, g12⟩, gw, gn, gl, gk⟩ := hA.2.2.2.2.2 cn (by omega)
    subst ec
    rw [show kN (nI cn) = cn from nI_clamp (by omega)] at hcn
    have ek : kN (nI cn) = cn := nI_clamp (by omega)
    cases hw : (a_cu α cn).1 with
    | none =>
      have e1 : a_lk α (nI cn) = -3 := by unfold a_lk; rw [if_pos hi, ek, if_pos hw]
      have e2 : a_removes α (nI cn) = a_ref α (-3) := by unfold a_removes; rw [ek, hw, e1, if_neg (by simp), if_neg (by decide)]
      rw [hw] at g9
      refine z_al0 (q := 1) C dX5_removes_0 rfl ?_
      refine z_il1 (q := 2) C dX5_removes_1 rfl ?_
      refine z_callVe (q := 5) C (ct_lacks τ hA (nI cn) (-3) e1) g_X5_201 rcT dX5_removes_2 rfl rfl rfl (Nat.le_of_ble_eq_true rfl) (by first | decide | omega) (Nat.le_refl _) (Nat.le_refl _) ?_
      refine z_is2 (q := 6) C dX5_removes_5 rfl (by first | exact loC_i | exact loC_r | exact loC_n | exact loC_q | exact loC_u) ?_
      refine z_il1 (q := 7) C dX5_removes_6 rfl ?_
      refine z_callSe (q := 10) C (ct_isCursor τ (nI cn)) g_X5_195 dX5_removes_7 rfl rfl rfl (Nat.le_of_ble_eq_true rfl) (by first | decide | omega) (Nat.le_refl _) (Nat.le_refl _) ?_
      first | refine z_if_eqB (tgt := 36) (q := 13) C dX5_removes_10 (by decide) rfl (fun c10 => ?_) (fun c10 => ?_) | refine z_if_eq (tgt := 36) (q := 13) C dX5_removes_10 (by decide) rfl (fun c10 => ?_) (fun c10 => ?_)
      · rw [hi] at c10; cases c10
      · refine z_al0 (q := 14) C dX5_removes_13 rfl ?_
        refine tg_25 (q := 17) C dX5_removes_14 rfl ?_
        refine z_il1 (q := 18) C dX5_removes_17 rfl ?_
        refine ta_ld9 (q := 19) C dX5_removes_18 rfl (by omega) ?_
        rw [g9]
        refine z_iconst (q := 20) (v := -1) C dX5_removes_19 rfl (by decide) ?_
        refine z_icmp_eq (tgt := 36) (q := 23) C dX5_removes_20 (by decide) rfl (fun c20 => ?_) (fun c20 => ?_)
        · exact ref (-3) (Or.inr (Or.inl rfl)) e2
        · exact absurd rfl c20
    | some w =>
      have hw3 := gw w hw
      rw [hw] at g9
      have g9 : τ.2 9 cn = nI w := g9
      cases hz : (a_cu α cn).2.2.1 with
      | none =>
        have e2 : a_removes α (nI cn) = a_ref α (-3) := by unfold a_removes; rw [ek, hw, hz, hi, if_pos (by rfl)]
        rw [hz] at g11
        refine z_al0 (q := 1) C dX5_removes_0 rfl ?_
        refine z_il1 (q := 2) C dX5_removes_1 rfl ?_
        refine z_callVe (q := 5) C (ct_lacks τ hA (nI cn) _ rfl) g_X5_201 rcT dX5_removes_2 rfl rfl rfl (Nat.le_of_ble_eq_true rfl) (by first | decide | omega) (Nat.le_refl _) (Nat.le_refl _) ?_
        refine z_is2 (q := 6) C dX5_removes_5 rfl (by first | exact loC_i | exact loC_r | exact loC_n | exact loC_q | exact loC_u) ?_
        refine z_il1 (q := 7) C dX5_removes_6 rfl ?_
        refine z_callSe (q := 10) C (ct_isCursor τ (nI cn)) g_X5_195 dX5_removes_7 rfl rfl rfl (Nat.le_of_ble_eq_true rfl) (by first | decide | omega) (Nat.le_refl _) (Nat.le_refl _) ?_
        first | refine z_if_eqB (tgt := 36) (q := 13) C dX5_removes_10 (by decide) rfl (fun c10 => ?_) (fun c10 => ?_) | refine z_if_eq (tgt := 36) (q := 13) C dX5_removes_10 (by decide) rfl (fun c10 => ?_) (fun c10 => ?_)
        · rw [hi] at c10; cases c10
        · refine z_al0 (q := 14) C dX5_removes_13 rfl ?_
          refine tg_25 (q := 17) C dX5_removes_14 rfl ?_
          refine z_il1 (q := 18) C dX5_removes_17 rfl ?_
          refine ta_ld9 (q := 19) C dX5_removes_18 rfl (by omega) ?_
          rw [g9]
          refine z_iconst (q := 20) (v := -1) C dX5_removes_19 rfl (by decide) ?_
          refine z_icmp_eq (tgt := 36) (q := 23) C dX5_removes_20 (by decide) rfl (fun c20 => ?_) (fun c20 => ?_)
          · exact absurd c20 (nI_nm1 (by omega))
          · refine z_al0 (q := 24) C dX5_removes_23 rfl ?_
            refine tg_31 (q := 27) C dX5_removes_24 rfl ?_
            refine z_il1 (q := 28) C dX5_removes_27 rfl ?_
            refine ta_ld11 (q := 29) C dX5_removes_28 rfl (by omega) ?_
            rw [g11]
            refine z_iconst (q := 30) (v := -1) C dX5_removes_29 rfl (by decide) ?_
            refine z_icmp_ne (tgt := 36) (q := 33) C dX5_removes_30 (by decide) rfl (fun c30 => ?_) (fun c30 => ?_)
            · exact absurd rfl c30
            · refine z_bipush (q := 35) (v := -3) C dX5_removes_33 rfl (by decide) ?_
              refine z_is2 (q := 36) C dX5_removes_35 rfl (by first | exact loC_i | exact loC_r | exact loC_n | exact loC_q | exact loC_u) ?_
              exact ref (-3) (Or.inr (Or.inl rfl)) e2
      | some k =>
        have hk := gl k hz
        rw [hz] at g11
        have g11 : τ.2 11 cn = nI k := g11
        by_cases h0 : a_lk α (nI cn) = nI 0
        · have e2 : a_removes α (nI cn) = (oI (k_rem (a_c α) k).1, a_cur (a_lv α (k_rem (a_c α) k).2.1 (k_rem (a_c α) k).2.2) cn ((a_cu α cn).1, (a_cu α cn).2.1, none, a_ch α + (k_rem (a_c α) k).2.2)) := by unfold a_removes; rw [ek, if_neg (by rw [hz]; simp), if_pos h0, hz]
          rw [e2] at hQ
          have hkn := lk_known h0 (by omega)
          have hδ : (k_rem (a_c α) k).2.2 ≤ 1 := by
            unfold k_rem
            split
            · exact Nat.zero_le _
            · exact Nat.le_refl _
          have hle : (k_es (k_rem (a_c α) k).2.1).length ≤ 48 := by
            unfold k_rem
            split
            · exact hlen
            · rename_i e he
              show (k_es (k_go (a_c α) e)).length ≤ 48
              rw [k_go_len (k_pl_some he).1]
              omega
          refine z_al0 (q := 1) C dX5_removes_0 rfl ?_
          refine z_il1 (q := 2) C dX5_removes_1 rfl ?_
          refine z_callVe (q := 5) C (ct_lacks τ hA (nI cn) (nI 0) h0) g_X5_201 rcT dX5_removes_2 rfl rfl rfl (Nat.le_of_ble_eq_true rfl) (by first | decide | omega) (Nat.le_refl _) (Nat.le_refl _) ?_
          refine z_is2 (q := 6) C dX5_removes_5 rfl (by first | exact loC_i | exact loC_r | exact loC_n | exact loC_q | exact loC_u) ?_
          refine z_il1 (q := 7) C dX5_removes_6 rfl ?_
          refine z_callSe (q := 10) C (ct_isCursor τ (nI cn)) g_X5_195 dX5_removes_7 rfl rfl rfl (Nat.le_of_ble_eq_true rfl) (by first | decide | omega) (Nat.le_refl _) (Nat.le_refl _) ?_
          first | refine z_if_eqB (tgt := 36) (q := 13) C dX5_removes_10 (by decide) rfl (fun c10 => ?_) (fun c10 => ?_) | refine z_if_eq (tgt := 36) (q := 13) C dX5_removes_10 (by decide) rfl (fun c10 => ?_) (fun c10 => ?_)
          · rw [hi] at c10; cases c10
          refine z_al0 (q := 14) C dX5_removes_13 rfl ?_
          refine tg_25 (q := 17) C dX5_removes_14 rfl ?_
          refine z_il1 (q := 18) C dX5_removes_17 rfl ?_
          refine ta_ld9 (q := 19) C dX5_removes_18 rfl (by omega) ?_
          rw [g9]
          refine z_iconst (q := 20) (v := -1) C dX5_removes_19 rfl (by decide) ?_
          refine z_icmp_eq (tgt := 36) (q := 23) C dX5_removes_20 (by decide) rfl (fun c20 => ?_) (fun c20 => ?_)
          · exact absurd c20 (nI_nm1 (by omega))
          refine z_al0 (q := 24) C dX5_removes_23 rfl ?_
          refine tg_31 (q := 27) C dX5_removes_24 rfl ?_
          refine z_il1 (q := 28) C dX5_removes_27 rfl ?_
          refine ta_ld11 (q := 29) C dX5_removes_28 rfl (by omega) ?_
          rw [g11]
          refine z_iconst (q := 30) (v := -1) C dX5_removes_29 rfl (by decide) ?_
          refine z_icmp_ne (tgt := 36) (q := 33) C dX5_removes_30 (by decide) rfl (fun c30 => ?_) (fun c30 => ?_)
          · refine z_il2 (q := 37) C dX5_removes_36 rfl ?_
            refine z_if_ge (tgt := 46) (q := 40) C dX5_removes_37 (by decide) rfl (fun c37 => ?_) (fun c37 => ?_)
            · refine z_al0 (q := 47) C dX5_removes_46 rfl ?_
              refine z_callVv (q := 50) C (ct_aside τ) g_X5_146 rcT dX5_removes_47 rfl rfl rfl (Nat.le_of_ble_eq_true rfl) (by first | decide | omega) (Nat.le_refl _) (Nat.le_refl _) (fun τ47 h47 => ?_)
              have e10 : τ47.2 0 = τ.2 0 := h47.1.2 0 (by decide)
              have h11' : τ47.2 11 cn = nI k := by rw [h47.1.2 11 (by decide)]; exact g11
              refine z_al0 (q := 51) C dX5_removes_50 rfl ?_
              refine z_al0 (q := 52) C dX5_removes_51 rfl ?_
              refine tg_31 (q := 55) C dX5_removes_52 rfl ?_
              refine z_il1 (q := 56) C dX5_removes_55 rfl ?_
              refine ta_ld11 (q := 57) C dX5_removes_56 rfl (by omega) ?_
              rw [h11']
              refine z_callVi (q := 60) C (ct_removesNow τ47 (e10 ▸ hA.1.1) k hk) g_X5_158 rcT dX5_removes_57 rfl rfl rfl (Nat.le_of_ble_eq_true rfl) (by first | decide | omega) (Nat.le_refl _) (Nat.le_refl _) (fun r57 τ57 h57 => ?_)
              refine z_is3 (q := 61) C dX5_removes_60 rfl (by first | exact loC_i | exact loC_r | exact loC_n | exact loC_q | exact loC_u) ?_
              obtain ⟨hF2, hr, h5, hTc⟩ := h57
              rw [h47.1.1 5 (by decide)] at h5
              have hF : TF [5, 8, 14, 16, 17, 18, 19] [0, 2, 13, 15] τ τ57 := (h47.1.up (by decide) (by decide)).tr (hF2.up (by decide) (by decide))
              have hkp := hA.keepP hF (M := N + 200) (by omega) hN (fun i hi => by rw [hF2.2 2 (by decide)]; exact h47.2 i hi)
              refine z_al0 (q := 62) C dX5_removes_61 rfl ?_
              refine z_callVv (q := 65) C (ct_keeps τ57 (a_ps α) hkp.1 hkp.2.1 hkp.2.2.1 hkp.2.2.2) g_X5_152 rcT dX5_removes_62 rfl rfl rfl (Nat.le_of_ble_eq_true rfl) (by first | decide | omega) (Nat.le_refl _) (Nat.le_refl _) (fun τ62 h62 => ?_)
              have hA2 := hA.lv hF (hTc.mono (by omega) hN) hle h5 (by omega) h62
              have h5' : τ62.1 5 = nI (a_ch α + (k_rem (a_c α) k).2.2) := hA2.2.2.2.1.1
              obtain ⟨⟨q9, q10, q11, q12⟩, qr⟩ := hA2.2.2.2.2.2 cn (by omega)
              refine z_al0 (q := 66) C dX5_removes_65 rfl ?_
              refine tg_31 (q := 69) C dX5_removes_66 rfl ?_
              refine z_il1 (q := 70) C dX5_removes_69 rfl ?_
              refine z_iconst (q := 71) (v := -1) C dX5_removes_70 rfl (by decide) ?_
              refine ta_st11 (q := 72) C dX5_removes_71 rfl (by omega) ?_
              refine z_al0 (q := 73) C dX5_removes_72 rfl ?_
              refine tg_34 (q := 76) C dX5_removes_73 rfl ?_
              refine z_il1 (q := 77) C dX5_removes_76 rfl ?_
              refine z_al0 (q := 78) C dX5_removes_77 rfl ?_
              refine tg_108 (q := 81) C dX5_removes_78 rfl ?_
              rw [show (sE 11 cn (-1) τ62).1 5 = _ from h5']
              refine ta_st12 (q := 82) C dX5_removes_81 rfl (by omega) ?_
              refine z_il3 (q := 83) C dX5_removes_82 rfl ?_
              refine z_iret C hQ dX5_removes_83 (Nat.le_refl _) (Nat.le_refl _) ?_
              refine ⟨_, rfl, hr, hA2.cur ((TF.rf.sE (by decide) _ _).sE (by decide) _ _) (Nat.le_refl _) hN (show cn < 3 by omega) (fun i hi _ => ?_) ?_ ?_ ?_ ?_ ?_⟩
              · rw [sE_o (by decide), sE_o (by decide), sE_o (by decide), sE_o (by decide), sE_o (by decide), sE_n hi, sE_n hi, sE_o (by decide)]; exact ⟨rfl, rfl, rfl, rfl⟩
              · rw [sE_o (by decide), sE_o (by decide)]; exact q9
              · rw [sE_o (by decide), sE_o (by decide)]; exact q10
              · rw [sE_o (by decide), sE_s]; rfl
              · rw [sE_s]
              · exact ⟨qr.1, qr.2.1, fun y hy => (by cases hy), Nat.le_refl _⟩
            · exact absurd (show (0 : Int32) ≤ nI 0 from by decide) c37
          · exact absurd c30 (nI_nm1 (by omega))
        · have hl := (lk_cases α (nI cn)).resolve_left h0
          have e2 : a_removes α (nI cn) = a_ref α (a_lk α (nI cn)) := by unfold a_removes; rw [ek, if_neg (by rw [hz]; simp), if_neg h0]
          refine z_al0 (q := 1) C dX5_removes_0 rfl ?_
          refine z_il1 (q := 2) C dX5_removes_1 rfl ?_
          refine z_callVe (q := 5) C (ct_lacks τ hA (nI cn) _ rfl) g_X5_201 rcT dX5_removes_2 rfl rfl rfl (Nat.le_of_ble_eq_true rfl) (by first | decide | omega) (Nat.le_refl _) (Nat.le_refl _) ?_
          refine z_is2 (q := 6) C dX5_removes_5 rfl (by first | exact loC_i | exact loC_r | exact loC_n | exact loC_q | exact loC_u) ?_
          refine z_il1 (q := 7) C dX5_removes_6 rfl ?_
          refine z_callSe (q := 10) C (ct_isCursor τ (nI cn)) g_X5_195 dX5_removes_7 rfl rfl rfl (Nat.le_of_ble_eq_true rfl) (by first | decide | omega) (Nat.le_refl _) (Nat.le_refl _) ?_
          first | refine z_if_eqB (tgt := 36) (q := 13) C dX5_removes_10 (by decide) rfl (fun c10 => ?_) (fun c10 => ?_) | refine z_if_eq (tgt := 36) (q := 13) C dX5_removes_10 (by decide) rfl (fun c10 => ?_) (fun c10 => ?_)
          · rw [hi] at c10; cases c10
          · refine z_al0 (q := 14) C dX5_removes_13 rfl ?_
            refine tg_25 (q := 17) C dX5_removes_14 rfl ?_
            refine z_il1 (q := 18) C dX5_removes_17 rfl ?_
            refine ta_ld9 (q := 19) C dX5_removes_18 rfl (by omega) ?_
            rw [g9]
            refine z_iconst (q := 20) (v := -1) C dX5_removes_19 rfl (by decide) ?_
            refine z_icmp_eq (tgt := 36) (q := 23) C dX5_removes_20 (by decide) rfl (fun c20 => ?_) (fun c20 => ?_)
            · exact absurd c20 (nI_nm1 (by omega))
            · refine z_al0 (q := 24) C dX5_removes_23 rfl ?_
              refine tg_31 (q := 27) C dX5_removes_24 rfl ?_
              refine z_il1 (q := 28) C dX5_removes_27 rfl ?_
              refine ta_ld11 (q := 29) C dX5_removes_28 rfl (by omega) ?_
              rw [g11]
              refine z_iconst (q := 30) (v := -1) C dX5_removes_29 rfl (by decide) ?_
              refine z_icmp_ne (tgt := 36) (q := 33) C dX5_removes_30 (by decide) rfl (fun c30 => ?_) (fun c30 => ?_)
              · exact ref _ hl e2
              · exact absurd c30 (nI_nm1 (by omega))
end T35
