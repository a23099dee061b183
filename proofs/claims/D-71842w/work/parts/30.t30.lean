/-! the twin: adds, hashes, sets, hash, steps, order -/
def a_hash (α : Al) (k : Int32) : Int32 × Al := if isK k = true then (nI (k_h (a_c α) (kN k)), α) else (-2, a_rfs α 0)
def a_steps (α : Al) (k : Int32) : Int32 × Al := if isK k = true then (nI (k_steps (a_c α) (kN k)), α) else (-2, a_rfs α 0)
def a_order (α : Al) (i : Int32) : Int32 × Al := if i < 0 then (-2, a_rfs α 0) else (oI ((k_ks (a_c α))[kN i]?), α)
theorem upd_same {a : Nat → Int32} {j : Nat} {x : Int32} (h : a j = x) : upd a j x = a := by
  funext i
  by_cases q : i = j
  · subst q
    rw [pk_us, h]
  · exact pk_un q
theorem fold_es : ∀ (l : List (Nat × Nat)) (c : Co), k_es (l.foldl k_h1 c) = k_es c ++ l ∧ k_cs (l.foldl k_h1 c) = k_cs c ++ l.map (·.1) ∧ ∀ i, i ≠ 1 → k_n (l.foldl k_h1 c) i = k_n c i
  | [], c => ⟨(List.append_nil _).symm, (List.append_nil _).symm, fun _ _ => rfl⟩
  | x :: t, c => by
    have h := fold_es t (k_h1 c x)
    have ho := k_fit_o (c := k_add c x.1 x.2) (b := k_b c x.1) (all := (k_es c).length + 1)
    rw [List.foldl_cons]
    refine ⟨?_, ?_, fun i hi => ?_⟩
    · rw [h.1, show k_es (k_h1 c x) = k_es c ++ [x] from ho.1, List.append_assoc]
      rfl
    · rw [h.2.1, show k_cs (k_h1 c x) = k_cs c ++ [x.1] from ho.2.1, List.append_assoc]
      rfl
    · rw [h.2.2 i hi]
      exact ho.2.2 i hi
theorem CI.n2 {c : Co} (h : CI c) {v : Nat} (hv : v ≤ 999) : CI (setN c 2 v) := ⟨h.1, h.2.1, h.2.2.1, h.2.2.2.1, h.2.2.2.2.1, hv, h.2.2.2.2.2.2.1, h.2.2.2.2.2.2.2.1, h.2.2.2.2.2.2.2.2.1, h.2.2.2.2.2.2.2.2.2⟩
theorem CI.n3 {c : Co} (h : CI c) {v : Nat} (hv : v ≤ 999) : CI (setN c 3 v) := ⟨h.1, h.2.1, h.2.2.1, h.2.2.2.1, h.2.2.2.2.1, h.2.2.2.2.2.1, hv, h.2.2.2.2.2.2.2.1, h.2.2.2.2.2.2.2.2.1, h.2.2.2.2.2.2.2.2.2⟩
theorem CI.n4 {c : Co} (h : CI c) {v : Nat} (hv : v ≤ 1) : CI (setN c 4 v) := ⟨h.1, h.2.1, h.2.2.1, h.2.2.2.1, h.2.2.2.2.1, h.2.2.2.2.2.1, h.2.2.2.2.2.2.1, hv, h.2.2.2.2.2.2.2.2.1, h.2.2.2.2.2.2.2.2.2⟩
theorem CI.n5 {c : Co} (h : CI c) {v : Nat} (hv : v ≤ 48) : CI (setN c 5 v) := ⟨h.1, h.2.1, h.2.2.1, h.2.2.2.1, h.2.2.2.2.1, h.2.2.2.2.2.1, h.2.2.2.2.2.2.1, h.2.2.2.2.2.2.2.1, hv, h.2.2.2.2.2.2.2.2.2⟩
theorem k_addv_len {c : Co} {k v : Nat} (hc : CI c) (hl : (k_es c).length ≤ 48) (hm : k_may c k = true) : (k_es (k_addv c k v).2.1).length ≤ 48 := by
  unfold k_addv
  cases hp : k_pl c k with
  | none =>
    refine k_come_len hc hl ?_
    unfold k_may at hm
    rw [hp] at hm
    simpa using hm
  | some e =>
    show (k_es (k_val c e _)).length ≤ 48
    rw [k_val_len]; exact hl
section T30
variable {D : Dt} {o : Nat} {ad : Nat → Nat}
set_option maxHeartbeats 1000000 in
theorem ct_adds {N : Nat} {α : Al} (τ : Tw) (hA : TA N τ α) (k v : Int32) (hN : N + 200 ≤ 1000000) : Ct (wT D o ad) yX5_adds cX5_adds 5 (some .int) [.ref o, .int k, .int v] τ (PI (fun r τ' => r = (a_adds α k v).1 ∧ TA (N + 200) τ' (a_adds α k v).2)) 7 0 0 := by
  refine Ct.of KTok (by decide) (Nat.le_of_ble_eq_true rfl) rfl fun Y C hQ hNm => ?_
  cases hi : (isK k && isV v) with
  | false =>
    have e1 : a_adds α k v = (-2, a_rfs α 0) := if_neg (by rw [hi]; decide)
    rw [e1] at hQ
    refine z_al0 (q := 1) C dX5_adds_0 rfl ?_
    refine z_il1 (q := 2) C dX5_adds_1 rfl ?_
    refine z_il2 (q := 3) C dX5_adds_2 rfl ?_
    refine z_callVe (q := 6) C (ct_mayPut0 τ k v hi) g_X5_140 rcT dX5_adds_3 rfl rfl rfl (Nat.le_of_ble_eq_true rfl) (by first | decide | omega) (Nat.le_refl _) (Nat.le_refl _) ?_
    first | refine z_if_neB (tgt := 16) (q := 9) C dX5_adds_6 (by decide) rfl (fun c6 => ?_) (fun c6 => ?_) | refine z_if_ne (tgt := 16) (q := 9) C dX5_adds_6 (by decide) rfl (fun c6 => ?_) (fun c6 => ?_)
    · cases c6
    · refine z_al0 (q := 10) C dX5_adds_9 rfl ?_
      refine z_il1 (q := 11) C dX5_adds_10 rfl ?_
      refine z_il2 (q := 12) C dX5_adds_11 rfl ?_
      refine z_callVi (q := 15) C (ct_putRefused τ hA k v false hi) g_X5_143 rcT dX5_adds_12 rfl rfl rfl (Nat.le_of_ble_eq_true rfl) (by first | decide | omega) (Nat.le_refl _) (Nat.le_refl _) (fun r12 τ12 h12 => ?_)
      refine z_iret C hQ dX5_adds_15 (Nat.le_refl _) (Nat.le_refl _) ?_
      exact ⟨_, rfl, h12.1, h12.2.mono (by omega) hN⟩
  | true =>
    obtain ⟨g1, g2⟩ := Bool.and_eq_true_iff.mp hi
    obtain ⟨ek, hk⟩ := isK_of g1
    obtain ⟨ev, hv⟩ := isV_of g2
    have e0 : a_adds α k v = if k_may (a_c α) (kN k) = true then (nI (k_addv (a_c α) (kN k) (kN v)).1, a_lv α (k_addv (a_c α) (kN k) (kN v)).2.1 (k_addv (a_c α) (kN k) (kN v)).2.2) else (-4, a_rfs α 2) := if_pos hi
    rw [e0] at hQ
    generalize kN k = kn at *
    generalize kN v = vn at *
    subst ek
    subst ev
    cases hm : k_may (a_c α) kn with
    | false =>
      rw [if_neg (by rw [hm]; decide)] at hQ
      refine z_al0 (q := 1) C dX5_adds_0 rfl ?_
      refine z_il1 (q := 2) C dX5_adds_1 rfl ?_
      refine z_il2 (q := 3) C dX5_adds_2 rfl ?_
      refine z_callVe (q := 6) C (ct_mayPut τ hA.1.1 kn vn hk hv) g_X5_140 rcT dX5_adds_3 rfl rfl rfl (Nat.le_of_ble_eq_true rfl) (by first | decide | omega) (Nat.le_refl _) (Nat.le_refl _) ?_
      first | refine z_if_neB (tgt := 16) (q := 9) C dX5_adds_6 (by decide) rfl (fun c6 => ?_) (fun c6 => ?_) | refine z_if_ne (tgt := 16) (q := 9) C dX5_adds_6 (by decide) rfl (fun c6 => ?_) (fun c6 => ?_)
      · rw [hm] at c6; cases c6
      · refine z_al0 (q := 10) C dX5_adds_9 rfl ?_
        refine z_il1 (q := 11) C dX5_adds_10 rfl ?_
        refine z_il2 (q := 12) C dX5_adds_11 rfl ?_
        refine z_callVi (q := 15) C (ct_putRefused τ hA (nI kn) (nI vn) true hi) g_X5_143 rcT dX5_adds_12 rfl rfl rfl (Nat.le_of_ble_eq_true rfl) (by first | decide | omega) (Nat.le_refl _) (Nat.le_refl _) (fun r12 τ12 h12 => ?_)
        refine z_iret C hQ dX5_adds_15 (Nat.le_refl _) (Nat.le_refl _) ?_
        exact ⟨_, rfl, h12.1, h12.2.mono (by omega) hN⟩
    | true =>
      rw [if_pos hm] at hQ
      have hle := k_addv_len (v := vn) hA.1.1.1 hA.1.2 hm
      have hlen := hA.1.2
      refine z_al0 (q := 1) C dX5_adds_0 rfl ?_
      refine z_il1 (q := 2) C dX5_adds_1 rfl ?_
      refine z_il2 (q := 3) C dX5_adds_2 rfl ?_
      refine z_callVe (q := 6) C (ct_mayPut τ hA.1.1 kn vn hk hv) g_X5_140 rcT dX5_adds_3 rfl rfl rfl (Nat.le_of_ble_eq_true rfl) (by first | decide | omega) (Nat.le_refl _) (Nat.le_refl _) ?_
      first | refine z_if_neB (tgt := 16) (q := 9) C dX5_adds_6 (by decide) rfl (fun c6 => ?_) (fun c6 => ?_) | refine z_if_ne (tgt := 16) (q := 9) C dX5_adds_6 (by decide) rfl (fun c6 => ?_) (fun c6 => ?_)
      · refine z_al0 (q := 17) C dX5_adds_16 rfl ?_
        refine z_callVv (q := 20) C (ct_aside τ) g_X5_146 rcT dX5_adds_17 rfl rfl rfl (Nat.le_of_ble_eq_true rfl) (by first | decide | omega) (Nat.le_refl _) (Nat.le_refl _) (fun τ17 h17 => ?_)
        have hF1 := h17.1
        have e10 : τ17.2 0 = τ.2 0 := hF1.2 0 (by decide)
        have hT1 : TC N (τ17.2 0) (a_c α) := e10 ▸ hA.1.1
        have fin : ∀ (c' : Co) (δ x : Nat) (τ2 : Tw), k_addv (a_c α) kn vn = (x, c', δ) → δ ≤ 2 → TF [5] [0] τ17 τ2 → τ2.1 5 = τ17.1 5 + nI δ → TC (N + 1) (τ2.2 0) c' → Zj (wT D o ad) Y τ2 0 0 96 [some (.ref o), some (.int (nI kn)), some (.int (nI vn)), some (.int (oI (k_pl (a_c α) kn))), some (.int (nI x))] [] := by
          intro c' δ x τ2 hadd hδ hF2 h5 hTc
          have hF : TF [5, 8, 14, 16, 17, 18, 19] [0, 2, 13, 15] τ τ2 := (hF1.up (by decide) (by decide)).tr (hF2.up (by decide) (by decide))
          have hkp := hA.keepP hF (M := N + 200) (by omega) hN (fun i hi => by rw [hF2.2 2 (by decide)]; exact h17.2 i hi)
          rw [hadd] at hQ hle
          refine z_al0 (q := 97) C dX5_adds_96 rfl ?_
          refine z_callVv (q := 100) C (ct_keeps τ2 (a_ps α) hkp.1 hkp.2.1 hkp.2.2.1 hkp.2.2.2) g_X5_152 rcT dX5_adds_97 rfl rfl rfl (Nat.le_of_ble_eq_true rfl) (by first | decide | omega) (Nat.le_refl _) (Nat.le_refl _) (fun τ97 h97 => ?_)
          refine z_il4 (q := 102) C dX5_adds_100 rfl ?_
          refine z_iret C hQ dX5_adds_102 (Nat.le_refl _) (Nat.le_refl _) ?_
          exact ⟨_, rfl, rfl, hA.lv (δ := δ) hF (hTc.mono (by omega) hN) hle (by rw [h5, hF1.1 5 (by decide)]) (by omega) h97⟩
        cases hp : k_pl (a_c α) kn with
        | none =>
          rw [hp] at fin
          have ea : k_addv (a_c α) kn vn = (vn, k_come (a_c α) kn vn, if 0 < k_n (a_c α) 5 ∧ k_n (a_c α) 5 < (k_es (a_c α)).length + 1 then 2 else 1) := by unfold k_addv; rw [hp]
          refine z_al0 (q := 21) C dX5_adds_20 rfl ?_
          refine z_il1 (q := 22) C dX5_adds_21 rfl ?_
          refine z_callVe (q := 25) C (ct_placeN τ17 hT1 kn (by omega) hp) g_X5_121 rcT dX5_adds_22 rfl rfl rfl (Nat.le_of_ble_eq_true rfl) (by first | decide | omega) (Nat.le_refl _) (Nat.le_refl _) ?_
          refine z_is3 (q := 26) C dX5_adds_25 rfl (by first | exact loC_i | exact loC_r | exact loC_n | exact loC_q | exact loC_u) ?_
          refine z_il3 (q := 27) C dX5_adds_26 rfl ?_
          refine z_iconst (q := 28) (v := -1) C dX5_adds_27 rfl (by decide) ?_
          refine z_icmp_ne (tgt := 35) (q := 31) C dX5_adds_28 (by decide) rfl (fun c28 => ?_) (fun c28 => ?_)
          · exact absurd rfl c28
          · refine z_il2 (q := 32) C dX5_adds_31 rfl ?_
            refine z_goto (tgt := 69) C dX5_adds_32 (by decide) ?_
            refine z_is4 (q := 71) C dX5_adds_69 rfl (by first | exact loC_i | exact loC_r | exact loC_n | exact loC_q | exact loC_u) ?_
            refine z_il3 (q := 72) C dX5_adds_71 rfl ?_
            refine z_iconst (q := 73) (v := -1) C dX5_adds_72 rfl (by decide) ?_
            refine z_icmp_ne (tgt := 85) (q := 76) C dX5_adds_73 (by decide) rfl (fun c73 => ?_) (fun c73 => ?_)
            · exact absurd rfl c73
            · refine z_al0 (q := 77) C dX5_adds_76 rfl ?_
              refine z_il1 (q := 78) C dX5_adds_77 rfl ?_
              refine z_il2 (q := 79) C dX5_adds_78 rfl ?_
              refine z_callVv (q := 82) C (ct_comes τ17 hT1 kn vn hk hv (k_pl_none hp) hlen (by omega)) g_X5_124 rcT dX5_adds_79 rfl rfl rfl (Nat.le_of_ble_eq_true rfl) (by first | decide | omega) (Nat.le_refl _) (Nat.le_refl _) (fun τ79 h79 => ?_)
              refine z_goto (tgt := 96) C dX5_adds_82 (by decide) ?_
              exact fin _ _ _ _ ea (by split <;> omega) h79.1 h79.2.1 h79.2.2
        | some e =>
          rw [hp] at fin
          obtain ⟨h1, h2, h3⟩ := k_pl_some hp
          have hvv := hT1.val h2
          have hvl : vAt (a_c α) e ≤ 9999 := hvv.2
          have ea : k_addv (a_c α) kn vn = (if 9999 < vAt (a_c α) e + vn then 9999 else vAt (a_c α) e + vn, k_val (a_c α) e (if 9999 < vAt (a_c α) e + vn then 9999 else vAt (a_c α) e + vn), 0) := by unfold k_addv; rw [hp]
          refine z_al0 (q := 21) C dX5_adds_20 rfl ?_
          refine z_il1 (q := 22) C dX5_adds_21 rfl ?_
          refine z_callVe (q := 25) C (ct_placeS τ17 hT1 kn e (by omega) hp) g_X5_121 rcT dX5_adds_22 rfl rfl rfl (Nat.le_of_ble_eq_true rfl) (by first | decide | omega) (Nat.le_refl _) (Nat.le_refl _) ?_
          refine z_is3 (q := 26) C dX5_adds_25 rfl (by first | exact loC_i | exact loC_r | exact loC_n | exact loC_q | exact loC_u) ?_
          refine z_il3 (q := 27) C dX5_adds_26 rfl ?_
          refine z_iconst (q := 28) (v := -1) C dX5_adds_27 rfl (by decide) ?_
          refine z_icmp_ne (tgt := 35) (q := 31) C dX5_adds_28 (by decide) rfl (fun c28 => ?_) (fun c28 => ?_)
          · refine z_al0 (q := 36) C dX5_adds_35 rfl ?_
            refine tg_7 (q := 39) C dX5_adds_36 rfl ?_
            refine z_bipush (q := 41) (v := nI 56) C dX5_adds_39 rfl (by decide) ?_
            refine z_il3 (q := 42) C dX5_adds_41 rfl ?_
            first | refine z_iaddN (q := 43) C dX5_adds_42 rfl ?_ | refine z_iadd (q := 43) C dX5_adds_42 rfl ?_
            refine ta_ld0 (q := 44) C dX5_adds_43 rfl (by omega) ?_
            rw [hvv.1]
            refine z_il2 (q := 45) C dX5_adds_44 rfl ?_
            first | refine z_iaddN (q := 46) C dX5_adds_45 rfl ?_ | refine z_iadd (q := 46) C dX5_adds_45 rfl ?_
            refine z_sipush (q := 49) (v := nI 9999) C dX5_adds_46 rfl (by decide) ?_
            first | refine z_icmp_leN (tgt := 58) (q := 52) C dX5_adds_49 (by decide) rfl (by omega) (by omega) (fun c49 => ?_) (fun c49 => ?_) | refine z_icmp_le (tgt := 58) (q := 52) C dX5_adds_49 (by decide) rfl (fun c49 => ?_) (fun c49 => ?_)
            · refine z_al0 (q := 59) C dX5_adds_58 rfl ?_
              refine tg_7 (q := 62) C dX5_adds_59 rfl ?_
              refine z_bipush (q := 64) (v := nI 56) C dX5_adds_62 rfl (by decide) ?_
              refine z_il3 (q := 65) C dX5_adds_64 rfl ?_
              first | refine z_iaddN (q := 66) C dX5_adds_65 rfl ?_ | refine z_iadd (q := 66) C dX5_adds_65 rfl ?_
              refine ta_ld0 (q := 67) C dX5_adds_66 rfl (by omega) ?_
              rw [hvv.1]
              refine z_il2 (q := 68) C dX5_adds_67 rfl ?_
              first | refine z_iaddN (q := 69) C dX5_adds_68 rfl ?_ | refine z_iadd (q := 69) C dX5_adds_68 rfl ?_
              refine z_is4 (q := 71) C dX5_adds_69 rfl (by first | exact loC_i | exact loC_r | exact loC_n | exact loC_q | exact loC_u) ?_
              refine z_il3 (q := 72) C dX5_adds_71 rfl ?_
              refine z_iconst (q := 73) (v := -1) C dX5_adds_72 rfl (by decide) ?_
              refine z_icmp_ne (tgt := 85) (q := 76) C dX5_adds_73 (by decide) rfl (fun c73 => ?_) (fun c73 => ?_)
              · refine z_al0 (q := 86) C dX5_adds_85 rfl ?_
                refine tg_7 (q := 89) C dX5_adds_86 rfl ?_
                refine z_bipush (q := 91) (v := nI 56) C dX5_adds_89 rfl (by decide) ?_
                refine z_il3 (q := 92) C dX5_adds_91 rfl ?_
                first | refine z_iaddN (q := 93) C dX5_adds_92 rfl ?_ | refine z_iadd (q := 93) C dX5_adds_92 rfl ?_
                refine z_il4 (q := 95) C dX5_adds_93 rfl ?_
                refine ta_st0 (q := 96) C dX5_adds_95 rfl (by omega) ?_
                first | (rw [if_pos (by omega)] at ea; exact fin _ _ _ _ ea (by omega) (TF.rf.sE (by decide) _ _) (Int32.add_zero _).symm ((by rw [sE_j]; exact hT1.setv h1 (by omega) : TC N _ _).mono (by omega) (by omega))) | (rw [if_neg (by omega)] at ea; exact fin _ _ _ _ ea (by omega) (TF.rf.sE (by decide) _ _) (Int32.add_zero _).symm ((by rw [sE_j]; exact hT1.setv h1 (by omega) : TC N _ _).mono (by omega) (by omega)))
              · exact absurd c73 (nI_nm1 (by omega))
            · refine z_sipush (q := 55) (v := nI 9999) C dX5_adds_52 rfl (by decide) ?_
              refine z_goto (tgt := 69) C dX5_adds_55 (by decide) ?_
              refine z_is4 (q := 71) C dX5_adds_69 rfl (by first | exact loC_i | exact loC_r | exact loC_n | exact loC_q | exact loC_u) ?_
              refine z_il3 (q := 72) C dX5_adds_71 rfl ?_
              refine z_iconst (q := 73) (v := -1) C dX5_adds_72 rfl (by decide) ?_
              refine z_icmp_ne (tgt := 85) (q := 76) C dX5_adds_73 (by decide) rfl (fun c73 => ?_) (fun c73 => ?_)
              · refine z_al0 (q := 86) C dX5_adds_85 rfl ?_
                refine tg_7 (q := 89) C dX5_adds_86 rfl ?_
                refine z_bipush (q := 91) (v := nI 56) C dX5_adds_89 rfl (by decide) ?_
                refine z_il3 (q := 92) C dX5_adds_91 rfl ?_
                first | refine z_iaddN (q := 93) C dX5_adds_92 rfl ?_ | refine z_iadd (q := 93) C dX5_adds_92 rfl ?_
                refine z_il4 (q := 95) C dX5_adds_93 rfl ?_
                refine ta_st0 (q := 96) C dX5_adds_95 rfl (by omega) ?_
                first | (rw [if_pos (by omega)] at ea; exact fin _ _ _ _ ea (by omega) (TF.rf.sE (by decide) _ _) (Int32.add_zero _).symm ((by rw [sE_j]; exact hT1.setv h1 (by omega) : TC N _ _).mono (by omega) (by omega))) | (rw [if_neg (by omega)] at ea; exact fin _ _ _ _ ea (by omega) (TF.rf.sE (by decide) _ _) (Int32.add_zero _).symm ((by rw [sE_j]; exact hT1.setv h1 (by omega) : TC N _ _).mono (by omega) (by omega)))
              · exact absurd c73 (nI_nm1 (by omega))
          · exact absurd c28 (nI_nm1 (by omega))
      · rw [hm] at c6; cases c6
set_option maxHeartbeats 1000000 in
theorem ct_sets {N : Nat} {α : Al} (τ : Tw) (hA : TA N τ α) (w v : Int32) (hN : N + 200 ≤ 1000000) : Ct (wT D o ad) yX5_sets cX5_sets 4 (some .int) [.ref o, .int w, .int v] τ (PI (fun r τ' => r = (a_sets α w v).1 ∧ TA (N + 200) τ' (a_sets α w v).2)) 7 0 0 := by
  refine Ct.of KTok (by decide) (Nat.le_of_ble_eq_true rfl) rfl fun Y C hQ hNm => ?_
  cases hi : inB w (nI 0) (nI 1) with
  | false =>
    have e1 : a_sets α w v = (-2, a_rfs α 0) := if_neg (by rw [hi]; simp)
    rw [e1] at hQ
    refine z_il1 (q := 1) C dX5_sets_0 rfl ?_
    refine z_iconst (q := 2) (v := nI 0) C dX5_sets_1 rfl (by decide) ?_
    refine z_iconst (q := 3) (v := nI 1) C dX5_sets_2 rfl (by decide) ?_
    refine z_callSe (q := 6) C (ct_in τ w (nI 0) (nI 1)) g_X5_44 dX5_sets_3 rfl rfl rfl (Nat.le_of_ble_eq_true rfl) (by first | decide | omega) (Nat.le_refl _) (Nat.le_refl _) ?_
    first | refine z_if_eqB (tgt := 27) (q := 9) C dX5_sets_6 (by decide) rfl (fun c6 => ?_) (fun c6 => ?_) | refine z_if_eq (tgt := 27) (q := 9) C dX5_sets_6 (by decide) rfl (fun c6 => ?_) (fun c6 => ?_)
    · refine z_al0 (q := 28) C dX5_sets_27 rfl ?_
      refine z_bipush (q := 30) (v := -2) C dX5_sets_28 rfl (by decide) ?_
      refine z_callVe (q := 33) C (ct_refuses τ (-2) 0 (by decide) (by decide)) g_X5_137 rcT dX5_sets_30 rfl rfl rfl (Nat.le_of_ble_eq_true rfl) (by first | decide | omega) (Nat.le_refl _) (Nat.le_refl _) ?_
      refine z_iret C hQ dX5_sets_33 (Nat.le_refl _) (Nat.le_refl _) ?_
      exact ⟨_, rfl, rfl, (hA.rfs (i := 0) (by decide)).mono (by omega) hN⟩
    · rw [hi] at c6; cases c6
  | true =>
    obtain ⟨ew, hw⟩ := in_of (by decide) hi
    have hlen := hA.1.2
    have fin : ∀ wn vn : Nat, wn ≤ 1 → w = nI wn → v = nI vn → CI (setN (a_c α) (4 + wn) vn) → a_sets α w v = (nI (k_n (a_c α) (4 + wn)), a_lv α (setN (a_c α) (4 + wn) vn) 0) → Zj (wT D o ad) Y τ 0 0 34 [some (.ref o), some (.int w), some (.int v), none] [] := by
      intro wn vn hwn e1 e2 hci ea
      rw [ea] at hQ
      subst e1
      subst e2
      refine z_al0 (q := 35) C dX5_sets_34 rfl ?_
      refine z_callVv (q := 38) C (ct_aside τ) g_X5_146 rcT dX5_sets_35 rfl rfl rfl (Nat.le_of_ble_eq_true rfl) (by first | decide | omega) (Nat.le_refl _) (Nat.le_refl _) (fun τ35 h35 => ?_)
      have e10 : τ35.2 0 = τ.2 0 := h35.1.2 0 (by decide)
      have hT1 : TC N (τ35.2 0) (a_c α) := e10 ▸ hA.1.1
      have hF : TF [5, 8, 14, 16, 17, 18, 19] [0, 2, 13, 15] τ (sE 0 (4 + wn) (nI vn) τ35) := (h35.1.up (by decide) (by decide)).sE (by decide) _ _
      have hkp := hA.keepP hF (M := N + 200) (by omega) hN (fun i hi => by rw [sE_o (by decide)]; exact h35.2 i hi)
      have hTc : TC N ((sE 0 (4 + wn) (nI vn) τ35).2 0) (setN (a_c α) (4 + wn) vn) := by rw [sE_j]; exact hT1.num (by omega) (by omega) hci
      refine z_al0 (q := 39) C dX5_sets_38 rfl ?_
      refine tg_7 (q := 42) C dX5_sets_39 rfl ?_
      refine z_iconst (q := 43) (v := nI 4) C dX5_sets_42 rfl (by decide) ?_
      refine z_il1 (q := 44) C dX5_sets_43 rfl ?_
      first | refine z_iaddN (q := 45) C dX5_sets_44 rfl ?_ | refine z_iadd (q := 45) C dX5_sets_44 rfl ?_
      refine ta_ld0 (q := 46) C dX5_sets_45 rfl (by omega) ?_
      rw [hT1.an (show 1 ≤ 4 + wn by omega) (by omega)]
      refine z_is3 (q := 47) C dX5_sets_46 rfl (by first | exact loC_i | exact loC_r | exact loC_n | exact loC_q | exact loC_u) ?_
      refine z_al0 (q := 48) C dX5_sets_47 rfl ?_
      refine tg_7 (q := 51) C dX5_sets_48 rfl ?_
      refine z_iconst (q := 52) (v := nI 4) C dX5_sets_51 rfl (by decide) ?_
      refine z_il1 (q := 53) C dX5_sets_52 rfl ?_
      first | refine z_iaddN (q := 54) C dX5_sets_53 rfl ?_ | refine z_iadd (q := 54) C dX5_sets_53 rfl ?_
      refine z_il2 (q := 55) C dX5_sets_54 rfl ?_
      refine ta_st0 (q := 56) C dX5_sets_55 rfl (by omega) ?_
      refine z_al0 (q := 57) C dX5_sets_56 rfl ?_
      refine z_callVv (q := 60) C (ct_keeps _ (a_ps α) hkp.1 hkp.2.1 hkp.2.2.1 hkp.2.2.2) g_X5_152 rcT dX5_sets_57 rfl rfl rfl (Nat.le_of_ble_eq_true rfl) (by first | decide | omega) (Nat.le_refl _) (Nat.le_refl _) (fun τ57 h57 => ?_)
      refine z_il3 (q := 61) C dX5_sets_60 rfl ?_
      refine z_iret C hQ dX5_sets_61 (Nat.le_refl _) (Nat.le_refl _) ?_
      exact ⟨_, rfl, rfl, hA.lv (δ := 0) hF (hTc.mono (by omega) hN) hlen (by rw [sE_f, h35.1.1 5 (by decide)]; exact (Int32.add_zero _).symm) (by omega) h57⟩
    cases hj : inB v (nI 0) (if w = 0 then nI 1 else nI 48) with
    | false =>
      have e1 : a_sets α w v = (-2, a_rfs α 0) := if_neg (by rw [hi, hj]; decide)
      rw [e1] at hQ
      refine z_il1 (q := 1) C dX5_sets_0 rfl ?_
      refine z_iconst (q := 2) (v := nI 0) C dX5_sets_1 rfl (by decide) ?_
      refine z_iconst (q := 3) (v := nI 1) C dX5_sets_2 rfl (by decide) ?_
      refine z_callSe (q := 6) C (ct_in τ w (nI 0) (nI 1)) g_X5_44 dX5_sets_3 rfl rfl rfl (Nat.le_of_ble_eq_true rfl) (by first | decide | omega) (Nat.le_refl _) (Nat.le_refl _) ?_
      first | refine z_if_eqB (tgt := 27) (q := 9) C dX5_sets_6 (by decide) rfl (fun c6 => ?_) (fun c6 => ?_) | refine z_if_eq (tgt := 27) (q := 9) C dX5_sets_6 (by decide) rfl (fun c6 => ?_) (fun c6 => ?_)
      · rw [hi] at c6; cases c6
      · refine z_il2 (q := 10) C dX5_sets_9 rfl ?_
        refine z_iconst (q := 11) (v := nI 0) C dX5_sets_10 rfl (by decide) ?_
        refine z_il1 (q := 12) C dX5_sets_11 rfl ?_
        first | refine z_if_neB (tgt := 19) (q := 15) C dX5_sets_12 (by decide) rfl (fun c12 => ?_) (fun c12 => ?_) | refine z_if_ne (tgt := 19) (q := 15) C dX5_sets_12 (by decide) rfl (fun c12 => ?_) (fun c12 => ?_)
        · refine z_bipush (q := 21) (v := nI 48) C dX5_sets_19 rfl (by decide) ?_
          refine z_callSe (q := 24) C (ct_in τ v (nI 0) _) g_X5_44 dX5_sets_21 rfl rfl rfl (Nat.le_of_ble_eq_true rfl) (by first | decide | omega) (Nat.le_refl _) (Nat.le_refl _) ?_
          first | refine z_if_neB (tgt := 34) (q := 27) C dX5_sets_24 (by decide) rfl (fun c24 => ?_) (fun c24 => ?_) | refine z_if_ne (tgt := 34) (q := 27) C dX5_sets_24 (by decide) rfl (fun c24 => ?_) (fun c24 => ?_)
          · first | (rw [if_pos c12] at hj; rw [hj] at c24; cases c24) | (rw [if_neg c12] at hj; rw [hj] at c24; cases c24)
          · refine z_al0 (q := 28) C dX5_sets_27 rfl ?_
            refine z_bipush (q := 30) (v := -2) C dX5_sets_28 rfl (by decide) ?_
            refine z_callVe (q := 33) C (ct_refuses τ (-2) 0 (by decide) (by decide)) g_X5_137 rcT dX5_sets_30 rfl rfl rfl (Nat.le_of_ble_eq_true rfl) (by first | decide | omega) (Nat.le_refl _) (Nat.le_refl _) ?_
            refine z_iret C hQ dX5_sets_33 (Nat.le_refl _) (Nat.le_refl _) ?_
            exact ⟨_, rfl, rfl, (hA.rfs (i := 0) (by decide)).mono (by omega) hN⟩
        · refine z_iconst (q := 16) (v := nI 1) C dX5_sets_15 rfl (by decide) ?_
          refine z_goto (tgt := 21) C dX5_sets_16 (by decide) ?_
          refine z_callSe (q := 24) C (ct_in τ v (nI 0) _) g_X5_44 dX5_sets_21 rfl rfl rfl (Nat.le_of_ble_eq_true rfl) (by first | decide | omega) (Nat.le_refl _) (Nat.le_refl _) ?_
          first | refine z_if_neB (tgt := 34) (q := 27) C dX5_sets_24 (by decide) rfl (fun c24 => ?_) (fun c24 => ?_) | refine z_if_ne (tgt := 34) (q := 27) C dX5_sets_24 (by decide) rfl (fun c24 => ?_) (fun c24 => ?_)
          · first | (rw [if_pos c12] at hj; rw [hj] at c24; cases c24) | (rw [if_neg c12] at hj; rw [hj] at c24; cases c24)
          · refine z_al0 (q := 28) C dX5_sets_27 rfl ?_
            refine z_bipush (q := 30) (v := -2) C dX5_sets_28 rfl (by decide) ?_
            refine z_callVe (q := 33) C (ct_refuses τ (-2) 0 (by decide) (by decide)) g_X5_137 rcT dX5_sets_30 rfl rfl rfl (Nat.le_of_ble_eq_true rfl) (by first | decide | omega) (Nat.le_refl _) (Nat.le_refl _) ?_
            refine z_iret C hQ dX5_sets_33 (Nat.le_refl _) (Nat.le_refl _) ?_
            exact ⟨_, rfl, rfl, (hA.rfs (i := 0) (by decide)).mono (by omega) hN⟩
    | true =>
      have ea : a_sets α w v = (nI (k_n (a_c α) (4 + kN w)), a_lv α (setN (a_c α) (4 + kN w) (kN v)) 0) := if_pos (by rw [hi, hj]; rfl)
      rcases (show kN w = 0 ∨ kN w = 1 by omega) with q | q
      · rw [q] at ew ea
        have ew : w = 0 := ew
        rw [if_pos ew] at hj
        obtain ⟨ev, hv⟩ := in_of (by decide) hj
        refine z_il1 (q := 1) C dX5_sets_0 rfl ?_
        refine z_iconst (q := 2) (v := nI 0) C dX5_sets_1 rfl (by decide) ?_
        refine z_iconst (q := 3) (v := nI 1) C dX5_sets_2 rfl (by decide) ?_
        refine z_callSe (q := 6) C (ct_in τ w (nI 0) (nI 1)) g_X5_44 dX5_sets_3 rfl rfl rfl (Nat.le_of_ble_eq_true rfl) (by first | decide | omega) (Nat.le_refl _) (Nat.le_refl _) ?_
        first | refine z_if_eqB (tgt := 27) (q := 9) C dX5_sets_6 (by decide) rfl (fun c6 => ?_) (fun c6 => ?_) | refine z_if_eq (tgt := 27) (q := 9) C dX5_sets_6 (by decide) rfl (fun c6 => ?_) (fun c6 => ?_)
        · rw [hi] at c6; cases c6
        · refine z_il2 (q := 10) C dX5_sets_9 rfl ?_
          refine z_iconst (q := 11) (v := nI 0) C dX5_sets_10 rfl (by decide) ?_
          refine z_il1 (q := 12) C dX5_sets_11 rfl ?_
          first | refine z_if_neB (tgt := 19) (q := 15) C dX5_sets_12 (by decide) rfl (fun c12 => ?_) (fun c12 => ?_) | refine z_if_ne (tgt := 19) (q := 15) C dX5_sets_12 (by decide) rfl (fun c12 => ?_) (fun c12 => ?_)
          · exact absurd ew c12
          · refine z_iconst (q := 16) (v := nI 1) C dX5_sets_15 rfl (by decide) ?_
            refine z_goto (tgt := 21) C dX5_sets_16 (by decide) ?_
            refine z_callSe (q := 24) C (ct_in τ v (nI 0) _) g_X5_44 dX5_sets_21 rfl rfl rfl (Nat.le_of_ble_eq_true rfl) (by first | decide | omega) (Nat.le_refl _) (Nat.le_refl _) ?_
            first | refine z_if_neB (tgt := 34) (q := 27) C dX5_sets_24 (by decide) rfl (fun c24 => ?_) (fun c24 => ?_) | refine z_if_ne (tgt := 34) (q := 27) C dX5_sets_24 (by decide) rfl (fun c24 => ?_) (fun c24 => ?_)
            · exact fin 0 (kN v) (by omega) ew ev (hA.1.1.1.n4 hv) ea
            · rw [hj] at c24; cases c24
      · rw [q] at ew ea
        have ew0 : ¬ w = 0 := by rw [ew]; decide
        rw [if_neg ew0] at hj
        obtain ⟨ev, hv⟩ := in_of (by decide) hj
        refine z_il1 (q := 1) C dX5_sets_0 rfl ?_
        refine z_iconst (q := 2) (v := nI 0) C dX5_sets_1 rfl (by decide) ?_
        refine z_iconst (q := 3) (v := nI 1) C dX5_sets_2 rfl (by decide) ?_
        refine z_callSe (q := 6) C (ct_in τ w (nI 0) (nI 1)) g_X5_44 dX5_sets_3 rfl rfl rfl (Nat.le_of_ble_eq_true rfl) (by first | decide | omega) (Nat.le_refl _) (Nat.le_refl _) ?_
        first | refine z_if_eqB (tgt := 27) (q := 9) C dX5_sets_6 (by decide) rfl (fun c6 => ?_) (fun c6 => ?_) | refine z_if_eq (tgt := 27) (q := 9) C dX5_sets_6 (by decide) rfl (fun c6 => ?_) (fun c6 => ?_)
        · rw [hi] at c6; cases c6
        · refine z_il2 (q := 10) C dX5_sets_9 rfl ?_
          refine z_iconst (q := 11) (v := nI 0) C dX5_sets_10 rfl (by decide) ?_
          refine z_il1 (q := 12) C dX5_sets_11 rfl ?_
          first | refine z_if_neB (tgt := 19) (q := 15) C dX5_sets_12 (by decide) rfl (fun c12 => ?_) (fun c12 => ?_) | refine z_if_ne (tgt := 19) (q := 15) C dX5_sets_12 (by decide) rfl (fun c12 => ?_) (fun c12 => ?_)
          · refine z_bipush (q := 21) (v := nI 48) C dX5_sets_19 rfl (by decide) ?_
            refine z_callSe (q := 24) C (ct_in τ v (nI 0) _) g_X5_44 dX5_sets_21 rfl rfl rfl (Nat.le_of_ble_eq_true rfl) (by first | decide | omega) (Nat.le_refl _) (Nat.le_refl _) ?_
            first | refine z_if_neB (tgt := 34) (q := 27) C dX5_sets_24 (by decide) rfl (fun c24 => ?_) (fun c24 => ?_) | refine z_if_ne (tgt := 34) (q := 27) C dX5_sets_24 (by decide) rfl (fun c24 => ?_) (fun c24 => ?_)
            · exact fin 1 (kN v) (by omega) ew ev (hA.1.1.1.n5 hv) ea
            · rw [hj] at c24; cases c24
          · exact absurd c12 ew0
set_option maxHeartbeats 1000000 in
theorem ct_hash {N : Nat} {α : Al} (τ : Tw) (hA : TA N τ α) (k : Int32) (hN : N + 200 ≤ 1000000) : Ct (wT D o ad) yX5_hash cX5_hash 2 (some .int) [.ref o, .int k] τ (PI (fun r τ' => r = (a_hash α k).1 ∧ TA (N + 200) τ' (a_hash α k).2)) 7 0 0 := by
  refine Ct.of KTok (by decide) (Nat.le_of_ble_eq_true rfl) rfl fun Y C hQ hNm => ?_
  cases hi : isK k with
  | false =>
    have e1 : a_hash α k = (-2, a_rfs α 0) := if_neg (by rw [hi]; decide)
    rw [e1] at hQ
    refine z_il1 (q := 1) C dX5_hash_0 rfl ?_
    refine z_callSe (q := 4) C (ct_isKey τ k) g_X5_130 dX5_hash_1 rfl rfl rfl (Nat.le_of_ble_eq_true rfl) (by first | decide | omega) (Nat.le_refl _) (Nat.le_refl _) ?_
    first | refine z_if_eqB (tgt := 15) (q := 7) C dX5_hash_4 (by decide) rfl (fun c4 => ?_) (fun c4 => ?_) | refine z_if_eq (tgt := 15) (q := 7) C dX5_hash_4 (by decide) rfl (fun c4 => ?_) (fun c4 => ?_)
    · refine z_al0 (q := 16) C dX5_hash_15 rfl ?_
      refine z_bipush (q := 18) (v := -2) C dX5_hash_16 rfl (by decide) ?_
      refine z_callVe (q := 21) C (ct_refuses τ (-2) 0 (by decide) (by decide)) g_X5_137 rcT dX5_hash_18 rfl rfl rfl (Nat.le_of_ble_eq_true rfl) (by first | decide | omega) (Nat.le_refl _) (Nat.le_refl _) ?_
      refine z_iret C hQ dX5_hash_21 (Nat.le_refl _) (Nat.le_refl _) ?_
      exact ⟨_, rfl, rfl, (hA.rfs (i := 0) (by decide)).mono (by omega) hN⟩
    · rw [show inB k _ _ = false from hi] at c4; cases c4
  | true =>
    obtain ⟨ek, hk⟩ := isK_of hi
    have e0 : a_hash α k = (nI (k_h (a_c α) (kN k)), α) := if_pos hi
    rw [e0] at hQ
    generalize kN k = kn at *
    subst ek
    refine z_il1 (q := 1) C dX5_hash_0 rfl ?_
    refine z_callSe (q := 4) C (ct_isKey τ (nI kn)) g_X5_130 dX5_hash_1 rfl rfl rfl (Nat.le_of_ble_eq_true rfl) (by first | decide | omega) (Nat.le_refl _) (Nat.le_refl _) ?_
    first | refine z_if_eqB (tgt := 15) (q := 7) C dX5_hash_4 (by decide) rfl (fun c4 => ?_) (fun c4 => ?_) | refine z_if_eq (tgt := 15) (q := 7) C dX5_hash_4 (by decide) rfl (fun c4 => ?_) (fun c4 => ?_)
    · rw [show inB (nI kn) _ _ = true from hi] at c4; cases c4
    · refine z_al0 (q := 8) C dX5_hash_7 rfl ?_
      refine z_il1 (q := 9) C dX5_hash_8 rfl ?_
      refine z_callVe (q := 12) C (ct_hashOf τ hA.1.1 kn hk) g_X5_54 rcT dX5_hash_9 rfl rfl rfl (Nat.le_of_ble_eq_true rfl) (by first | decide | omega) (Nat.le_refl _) (Nat.le_refl _) ?_
      refine z_goto (tgt := 21) C dX5_hash_12 (by decide) ?_
      refine z_iret C hQ dX5_hash_21 (Nat.le_refl _) (Nat.le_refl _) ?_
      exact ⟨_, rfl, rfl, hA.mono (by omega) hN⟩
set_option maxHeartbeats 1000000 in
theorem ct_steps {N : Nat} {α : Al} (τ : Tw) (hA : TA N τ α) (k : Int32) (hN : N + 200 ≤ 1000000) : Ct (wT D o ad) yX5_steps cX5_steps 2 (some .int) [.ref o, .int k] τ (PI (fun r τ' => r = (a_steps α k).1 ∧ TA (N + 200) τ' (a_steps α k).2)) 7 0 0 := by
  refine Ct.of KTok (by decide) (Nat.le_of_ble_eq_true rfl) rfl fun Y C hQ hNm => ?_
  cases hi : isK k with
  | false =>
    have e1 : a_steps α k = (-2, a_rfs α 0) := if_neg (by rw [hi]; decide)
    rw [e1] at hQ
    refine z_il1 (q := 1) C dX5_steps_0 rfl ?_
    refine z_callSe (q := 4) C (ct_isKey τ k) g_X5_130 dX5_steps_1 rfl rfl rfl (Nat.le_of_ble_eq_true rfl) (by first | decide | omega) (Nat.le_refl _) (Nat.le_refl _) ?_
    first | refine z_if_eqB (tgt := 15) (q := 7) C dX5_steps_4 (by decide) rfl (fun c4 => ?_) (fun c4 => ?_) | refine z_if_eq (tgt := 15) (q := 7) C dX5_steps_4 (by decide) rfl (fun c4 => ?_) (fun c4 => ?_)
    · refine z_al0 (q := 16) C dX5_steps_15 rfl ?_
      refine z_bipush (q := 18) (v := -2) C dX5_steps_16 rfl (by decide) ?_
      refine z_callVe (q := 21) C (ct_refuses τ (-2) 0 (by decide) (by decide)) g_X5_137 rcT dX5_steps_18 rfl rfl rfl (Nat.le_of_ble_eq_true rfl) (by first | decide | omega) (Nat.le_refl _) (Nat.le_refl _) ?_
      refine z_iret C hQ dX5_steps_21 (Nat.le_refl _) (Nat.le_refl _) ?_
      exact ⟨_, rfl, rfl, (hA.rfs (i := 0) (by decide)).mono (by omega) hN⟩
    · rw [show inB k _ _ = false from hi] at c4; cases c4
  | true =>
    obtain ⟨ek, hk⟩ := isK_of hi
    have e0 : a_steps α k = (nI (k_steps (a_c α) (kN k)), α) := if_pos hi
    rw [e0] at hQ
    generalize kN k = kn at *
    subst ek
    refine z_il1 (q := 1) C dX5_steps_0 rfl ?_
    refine z_callSe (q := 4) C (ct_isKey τ (nI kn)) g_X5_130 dX5_steps_1 rfl rfl rfl (Nat.le_of_ble_eq_true rfl) (by first | decide | omega) (Nat.le_refl _) (Nat.le_refl _) ?_
    first | refine z_if_eqB (tgt := 15) (q := 7) C dX5_steps_4 (by decide) rfl (fun c4 => ?_) (fun c4 => ?_) | refine z_if_eq (tgt := 15) (q := 7) C dX5_steps_4 (by decide) rfl (fun c4 => ?_) (fun c4 => ?_)
    · rw [show inB (nI kn) _ _ = true from hi] at c4; cases c4
    · refine z_al0 (q := 8) C dX5_steps_7 rfl ?_
      refine z_il1 (q := 9) C dX5_steps_8 rfl ?_
      refine z_callVi (q := 12) C (ct_stepsTo τ hA.1.1 kn hk) g_X5_168 rcT dX5_steps_9 rfl rfl rfl (Nat.le_of_ble_eq_true rfl) (by first | decide | omega) (Nat.le_refl _) (Nat.le_refl _) (fun r9 τ9 h9 => ?_)
      refine z_goto (tgt := 21) C dX5_steps_12 (by decide) ?_
      refine z_iret C hQ dX5_steps_21 (Nat.le_refl _) (Nat.le_refl _) ?_
      exact ⟨_, rfl, h9.2, hA.set (δ := 0) (h9.1.up (by decide) (by decide)) ((h9.1.2 0 (by decide)).symm ▸ hA.1.1.mono (show N ≤ N + 200 by omega) hN) hA.1.2 (by rw [h9.1.1 5 (by decide)]; exact (Int32.add_zero _).symm) (by omega)⟩
set_option maxHeartbeats 1000000 in
theorem ct_order {N : Nat} {α : Al} (τ : Tw) (hA : TA N τ α) (i : Int32) (hN : N + 200 ≤ 1000000) : Ct (wT D o ad) yX5_order cX5_order 2 (some .int) [.ref o, .int i] τ (PI (fun r τ' => r = (a_order α i).1 ∧ TA (N + 200) τ' (a_order α i).2)) 7 0 0 := by
  refine Ct.of KTok (by decide) (Nat.le_of_ble_eq_true rfl) rfl fun Y C hQ hNm => ?_
  have hlen := hA.1.2
  by_cases hi : i < 0
  · have e1 : a_order α i = (-2, a_rfs α 0) := if_pos hi
    rw [e1] at hQ
    refine z_il1 (q := 1) C dX5_order_0 rfl ?_
    refine z_if_ge (tgt := 11) (q := 4) C dX5_order_1 (by decide) rfl (fun c1 => ?_) (fun c1 => ?_)
    · exact absurd hi (Int32.not_lt.mpr c1)
    · refine z_al0 (q := 5) C dX5_order_4 rfl ?_
      refine z_bipush (q := 7) (v := -2) C dX5_order_5 rfl (by decide) ?_
      refine z_callVe (q := 10) C (ct_refuses τ (-2) 0 (by decide) (by decide)) g_X5_137 rcT dX5_order_7 rfl rfl rfl (Nat.le_of_ble_eq_true rfl) (by first | decide | omega) (Nat.le_refl _) (Nat.le_refl _) ?_
      refine z_iret C hQ dX5_order_10 (Nat.le_refl _) (Nat.le_refl _) ?_
      exact ⟨_, rfl, rfl, (hA.rfs (i := 0) (by decide)).mono (by omega) hN⟩
  · have e1 : a_order α i = (oI ((k_ks (a_c α))[kN i]?), α) := if_neg hi
    rw [e1] at hQ
    obtain ⟨j, hj, rfl⟩ := nI_of hi
    rw [show kN (nI j) = j from nI_clamp hj] at hQ
    by_cases hjl : j < (k_es (a_c α)).length
    · obtain ⟨x, hx⟩ := at_lt hjl
      have hk := hA.1.1.key hx
      have ek : (k_ks (a_c α))[j]? = some x.1 := by unfold k_ks; rw [List.getElem?_map, hx]; rfl
      rw [ek] at hQ
      refine z_il1 (q := 1) C dX5_order_0 rfl ?_
      refine z_if_ge (tgt := 11) (q := 4) C dX5_order_1 (by decide) rfl (fun c1 => ?_) (fun c1 => ?_)
      · refine z_il1 (q := 12) C dX5_order_11 rfl ?_
        refine z_al0 (q := 13) C dX5_order_12 rfl ?_
        refine tg_7 (q := 16) C dX5_order_13 rfl ?_
        refine z_iconst (q := 17) (v := nI 0) C dX5_order_16 rfl (by decide) ?_
        refine ta_ld0 (q := 18) C dX5_order_17 rfl (by omega) ?_
        rw [hA.1.1.a0]
        first | refine z_icmp_geN (tgt := 33) (q := 21) C dX5_order_18 (by decide) rfl (by omega) (by omega) (fun c18 => ?_) (fun c18 => ?_) | refine z_icmp_ge (tgt := 33) (q := 21) C dX5_order_18 (by decide) rfl (fun c18 => ?_) (fun c18 => ?_)
        · exact absurd c18 (by omega)
        · refine z_al0 (q := 22) C dX5_order_21 rfl ?_
          refine tg_7 (q := 25) C dX5_order_22 rfl ?_
          refine z_bipush (q := 27) (v := nI 7) C dX5_order_25 rfl (by decide) ?_
          refine z_il1 (q := 28) C dX5_order_27 rfl ?_
          first | refine z_iaddN (q := 29) C dX5_order_28 rfl ?_ | refine z_iadd (q := 29) C dX5_order_28 rfl ?_
          refine ta_ld0 (q := 30) C dX5_order_29 rfl (by omega) ?_
          rw [hk.1]
          refine z_goto (tgt := 34) C dX5_order_30 (by decide) ?_
          refine z_iret C hQ dX5_order_34 (Nat.le_refl _) (Nat.le_refl _) ?_
          exact ⟨_, rfl, rfl, hA.mono (by omega) hN⟩
      · exact absurd (Int32.not_le.mp c1) hi
    · have ek : (k_ks (a_c α))[j]? = none := List.getElem?_eq_none (by rw [k_len]; omega)
      rw [ek] at hQ
      refine z_il1 (q := 1) C dX5_order_0 rfl ?_
      refine z_if_ge (tgt := 11) (q := 4) C dX5_order_1 (by decide) rfl (fun c1 => ?_) (fun c1 => ?_)
      · refine z_il1 (q := 12) C dX5_order_11 rfl ?_
        refine z_al0 (q := 13) C dX5_order_12 rfl ?_
        refine tg_7 (q := 16) C dX5_order_13 rfl ?_
        refine z_iconst (q := 17) (v := nI 0) C dX5_order_16 rfl (by decide) ?_
        refine ta_ld0 (q := 18) C dX5_order_17 rfl (by omega) ?_
        rw [hA.1.1.a0]
        first | refine z_icmp_geN (tgt := 33) (q := 21) C dX5_order_18 (by decide) rfl (by omega) (by omega) (fun c18 => ?_) (fun c18 => ?_) | refine z_icmp_ge (tgt := 33) (q := 21) C dX5_order_18 (by decide) rfl (fun c18 => ?_) (fun c18 => ?_)
        · refine z_iconst (q := 34) (v := -1) C dX5_order_33 rfl (by decide) ?_
          refine z_iret C hQ dX5_order_34 (Nat.le_refl _) (Nat.le_refl _) ?_
          exact ⟨_, rfl, rfl, hA.mono (by omega) hN⟩
        · exact absurd c18 (by omega)
      · exact absurd (Int32.not_le.mp c1) hi
set_option maxHeartbeats 2000000 in
theorem ct_hashes {N : Nat} {α : Al} (τ : Tw) (hA : TA N τ α) (t p : Int32) (hN : N + 200 ≤ 1000000) : Ct (wT D o ad) yX5_hashes cX5_hashes 5 (some .int) [.ref o, .int t, .int p] τ (PI (fun r τ' => r = (a_hashes α t p).1 ∧ TA (N + 200) τ' (a_hashes α t p).2)) 7 0 0 := by
  refine Ct.of KTok (by decide) (Nat.le_of_ble_eq_true rfl) rfl fun Y C hQ hNm => ?_
  cases hi : (inB t (nI 0) (nI 999) && inB p (nI 0) (nI 999)) with
  | false =>
    have e1 : a_hashes α t p = (-2, a_rfs α 0) := if_neg (by rw [hi]; decide)
    rw [e1] at hQ
    refine z_il1 (q := 1) C dX5_hashes_0 rfl ?_
    refine z_iconst (q := 2) (v := nI 0) C dX5_hashes_1 rfl (by decide) ?_
    refine z_sipush (q := 5) (v := nI 999) C dX5_hashes_2 rfl (by decide) ?_
    refine z_callSe (q := 8) C (ct_in τ t (nI 0) (nI 999)) g_X5_44 dX5_hashes_5 rfl rfl rfl (Nat.le_of_ble_eq_true rfl) (by first | decide | omega) (Nat.le_refl _) (Nat.le_refl _) ?_
    first | refine z_if_eqB (tgt := 22) (q := 11) C dX5_hashes_8 (by decide) rfl (fun c8 => ?_) (fun c8 => ?_) | refine z_if_eq (tgt := 22) (q := 11) C dX5_hashes_8 (by decide) rfl (fun c8 => ?_) (fun c8 => ?_)
    · refine z_al0 (q := 23) C dX5_hashes_22 rfl ?_
      refine z_bipush (q := 25) (v := -2) C dX5_hashes_23 rfl (by decide) ?_
      refine z_callVe (q := 28) C (ct_refuses τ (-2) 0 (by decide) (by decide)) g_X5_137 rcT dX5_hashes_25 rfl rfl rfl (Nat.le_of_ble_eq_true rfl) (by first | decide | omega) (Nat.le_refl _) (Nat.le_refl _) ?_
      refine z_iret C hQ dX5_hashes_28 (Nat.le_refl _) (Nat.le_refl _) ?_
      exact ⟨_, rfl, rfl, (hA.rfs (i := 0) (by decide)).mono (by omega) hN⟩
    · refine z_il2 (q := 12) C dX5_hashes_11 rfl ?_
      refine z_iconst (q := 13) (v := nI 0) C dX5_hashes_12 rfl (by decide) ?_
      refine z_sipush (q := 16) (v := nI 999) C dX5_hashes_13 rfl (by decide) ?_
      refine z_callSe (q := 19) C (ct_in τ p (nI 0) (nI 999)) g_X5_44 dX5_hashes_16 rfl rfl rfl (Nat.le_of_ble_eq_true rfl) (by first | decide | omega) (Nat.le_refl _) (Nat.le_refl _) ?_
      first | refine z_if_neB (tgt := 29) (q := 22) C dX5_hashes_19 (by decide) rfl (fun c19 => ?_) (fun c19 => ?_) | refine z_if_ne (tgt := 29) (q := 22) C dX5_hashes_19 (by decide) rfl (fun c19 => ?_) (fun c19 => ?_)
      · rw [c8, c19] at hi; cases hi
      · refine z_al0 (q := 23) C dX5_hashes_22 rfl ?_
        refine z_bipush (q := 25) (v := -2) C dX5_hashes_23 rfl (by decide) ?_
        refine z_callVe (q := 28) C (ct_refuses τ (-2) 0 (by decide) (by decide)) g_X5_137 rcT dX5_hashes_25 rfl rfl rfl (Nat.le_of_ble_eq_true rfl) (by first | decide | omega) (Nat.le_refl _) (Nat.le_refl _) ?_
        refine z_iret C hQ dX5_hashes_28 (Nat.le_refl _) (Nat.le_refl _) ?_
        exact ⟨_, rfl, rfl, (hA.rfs (i := 0) (by decide)).mono (by omega) hN⟩
  | true =>
    obtain ⟨g1, g2⟩ := Bool.and_eq_true_iff.mp hi
    obtain ⟨et, ht⟩ := in_of (by decide) g1
    obtain ⟨ep, hp⟩ := in_of (by decide) g2
    have e0 : a_hashes α t p = (nI (k_n (k_hash (a_c α) (kN t) (kN p)) 1), a_lv α (k_hash (a_c α) (kN t) (kN p)) 1) := if_pos hi
    rw [e0] at hQ
    generalize kN t = tn at *
    generalize kN p = pn at *
    subst et
    subst ep
    generalize hc : a_c α = c at *
    have hT := hA.1.1
    rw [hc] at hT
    have hlen : (k_es c).length ≤ 48 := by rw [← hc]; exact hA.1.2
    refine z_il1 (q := 1) C dX5_hashes_0 rfl ?_
    refine z_iconst (q := 2) (v := nI 0) C dX5_hashes_1 rfl (by decide) ?_
    refine z_sipush (q := 5) (v := nI 999) C dX5_hashes_2 rfl (by decide) ?_
    refine z_callSe (q := 8) C (ct_in τ (nI tn) (nI 0) (nI 999)) g_X5_44 dX5_hashes_5 rfl rfl rfl (Nat.le_of_ble_eq_true rfl) (by first | decide | omega) (Nat.le_refl _) (Nat.le_refl _) ?_
    first | refine z_if_eqB (tgt := 22) (q := 11) C dX5_hashes_8 (by decide) rfl (fun c8 => ?_) (fun c8 => ?_) | refine z_if_eq (tgt := 22) (q := 11) C dX5_hashes_8 (by decide) rfl (fun c8 => ?_) (fun c8 => ?_)
    · rw [g1] at c8; cases c8
    refine z_il2 (q := 12) C dX5_hashes_11 rfl ?_
    refine z_iconst (q := 13) (v := nI 0) C dX5_hashes_12 rfl (by decide) ?_
    refine z_sipush (q := 16) (v := nI 999) C dX5_hashes_13 rfl (by decide) ?_
    refine z_callSe (q := 19) C (ct_in τ (nI pn) (nI 0) (nI 999)) g_X5_44 dX5_hashes_16 rfl rfl rfl (Nat.le_of_ble_eq_true rfl) (by first | decide | omega) (Nat.le_refl _) (Nat.le_refl _) ?_
    first | refine z_if_neB (tgt := 29) (q := 22) C dX5_hashes_19 (by decide) rfl (fun c19 => ?_) (fun c19 => ?_) | refine z_if_ne (tgt := 29) (q := 22) C dX5_hashes_19 (by decide) rfl (fun c19 => ?_) (fun c19 => ?_)
    · refine z_al0 (q := 30) C dX5_hashes_29 rfl ?_
      refine z_callVv (q := 33) C (ct_aside τ) g_X5_146 rcT dX5_hashes_30 rfl rfl rfl (Nat.le_of_ble_eq_true rfl) (by first | decide | omega) (Nat.le_refl _) (Nat.le_refl _) (fun τ30 h30 => ?_)
      have e10 : τ30.2 0 = τ.2 0 := h30.1.2 0 (by decide)
      have hT1 : TC N (τ30.2 0) c := e10 ▸ hT
      have hT2 : TC N ((sE 0 3 (nI pn) (sE 0 2 (nI tn) τ30)).2 0) (setN (setN c 2 tn) 3 pn) := by
        rw [sE_j, sE_j]
        exact (hT1.num (i := 2) (by omega) (by omega) (hT1.1.n2 ht)).num (i := 3) (by omega) (by omega) ((hT1.1.n2 ht).n3 hp)
      refine z_al0 (q := 34) C dX5_hashes_33 rfl ?_
      refine tg_7 (q := 37) C dX5_hashes_34 rfl ?_
      refine z_iconst (q := 38) (v := nI 2) C dX5_hashes_37 rfl (by decide) ?_
      refine z_il1 (q := 39) C dX5_hashes_38 rfl ?_
      refine ta_st0 (q := 40) C dX5_hashes_39 rfl (by omega) ?_
      refine z_al0 (q := 41) C dX5_hashes_40 rfl ?_
      refine tg_7 (q := 44) C dX5_hashes_41 rfl ?_
      refine z_iconst (q := 45) (v := nI 3) C dX5_hashes_44 rfl (by decide) ?_
      refine z_il2 (q := 46) C dX5_hashes_45 rfl ?_
      refine ta_st0 (q := 47) C dX5_hashes_46 rfl (by omega) ?_
      refine z_al0 (q := 48) C dX5_hashes_47 rfl ?_
      refine z_callVv (q := 51) C (ct_empties _ hT2) g_X5_161 rcT dX5_hashes_48 rfl rfl rfl (Nat.le_of_ble_eq_true rfl) (by first | decide | omega) (Nat.le_refl _) (Nat.le_refl _) (fun τ48 h48 => ?_)
      obtain ⟨hF3, hT3, hO3⟩ := h48
      have h30' : τ48.2 0 0 = nI (k_es c).length := hT3.a0
      refine z_al0 (q := 52) C dX5_hashes_51 rfl ?_
      refine tg_7 (q := 55) C dX5_hashes_52 rfl ?_
      refine z_iconst (q := 56) (v := nI 0) C dX5_hashes_55 rfl (by decide) ?_
      refine ta_ld0 (q := 57) C dX5_hashes_56 rfl (by omega) ?_
      rw [h30']
      refine z_is3 (q := 58) C dX5_hashes_57 rfl (by first | exact loC_i | exact loC_r | exact loC_n | exact loC_q | exact loC_u) ?_
      refine z_al0 (q := 59) C dX5_hashes_58 rfl ?_
      refine tg_7 (q := 62) C dX5_hashes_59 rfl ?_
      refine z_iconst (q := 63) (v := nI 0) C dX5_hashes_62 rfl (by decide) ?_
      refine z_iconst (q := 64) (v := nI 0) C dX5_hashes_63 rfl (by decide) ?_
      refine ta_st0 (q := 65) C dX5_hashes_64 rfl (by omega) ?_
      refine z_iconst (q := 66) (v := nI 0) C dX5_hashes_65 rfl (by decide) ?_
      refine z_is4 (q := 68) C dX5_hashes_66 rfl (by first | exact loC_i | exact loC_r | exact loC_n | exact loC_q | exact loC_u) ?_
      have hT4 : TC N ((sE 0 0 (nI 0) τ48).2 0) (k_h0 c tn pn) := hT3.clr sE_s (fun i hi => sE_n hi)
      have hF4 : TF [] [0, 2] τ (sE 0 0 (nI 0) τ48) := (((h30.1.up (by decide) (by decide)).sE (by decide) _ _).sE (by decide) _ _ |>.tr (hF3.up (by decide) (by decide))).sE (by decide) _ _
      have hO4 : ∀ (i : Nat) (x : Nat × Nat), (k_es c)[i]? = some x → (sE 0 0 (nI 0) τ48).2 0 (7 + i) = nI x.1 ∧ (sE 0 0 (nI 0) τ48).2 0 (56 + i) = nI x.2 := by
        intro i x hx
        have hil := (List.getElem?_eq_some_iff.mp hx).1
        rw [sE_n (by omega), sE_n (by omega), hO3 _ (by omega) (by omega), hO3 _ (by omega) (by omega), sE_n (by omega), sE_n (by omega), sE_n (by omega), sE_n (by omega)]
        exact ⟨(hT1.key hx).1, (hT1.val hx).1⟩
      have hK4 : ∀ i, i < 218 → (sE 0 0 (nI 0) τ48).2 2 i = τ.2 0 i := by
        intro i hi
        rw [sE_o (by decide), hF3.2 2 (by decide), sE_o (by decide), sE_o (by decide)]
        exact h30.2 i hi
      generalize sE 0 0 (nI 0) τ48 = τ4 at hT4 hF4 hO4 hK4 ⊢
      have loop : ∀ m e, e + m = (k_es c).length → ∀ τ1 : Tw, TF [] [0, 2] τ τ1 → (∀ i, i < 218 → τ1.2 2 i = τ.2 0 i) → TC (N + e) (τ1.2 0) (((k_es c).take e).foldl k_h1 (k_h0 c tn pn)) → (∀ (i : Nat) (x : Nat × Nat), (k_es c)[i]? = some x → τ1.2 0 (7 + i) = nI x.1 ∧ τ1.2 0 (56 + i) = nI x.2) → Zj (wT D o ad) Y τ1 0 0 68 [some (.ref o), some (.int (nI tn)), some (.int (nI pn)), some (.int (nI (k_es c).length)), some (.int (nI e))] [] := by
        intro m
        induction m with
        | zero =>
          intro e he τ1 hF hK hTe hO
          have he : e = (k_es c).length := he
          subst he
          rw [List.take_length] at hTe
          have hF' : TF [5, 8, 14, 16, 17, 18, 19] [0, 2, 13, 15] τ (sF 5 (τ1.1 5 + nI 1) τ1) := (hF.up (by decide) (by decide)).sF (by decide) _
          have hkp := hA.keepP hF' (M := N + 200) (by omega) hN hK
          have hTe' : TC (N + 200) ((sF 5 (τ1.1 5 + nI 1) τ1).2 0) (k_hash c tn pn) := hTe.mono (by omega) hN
          have hle : (k_es (k_hash c tn pn)).length ≤ 48 := by
            unfold k_hash
            rw [(fold_es _ _).1]
            exact hlen
          refine z_il4 (q := 70) C dX5_hashes_68 rfl ?_
          refine z_il3 (q := 71) C dX5_hashes_70 rfl ?_
          first | refine z_icmp_geN (tgt := 142) (q := 74) C dX5_hashes_71 (by decide) rfl (by omega) (by omega) (fun c71 => ?_) (fun c71 => ?_) | refine z_icmp_ge (tgt := 142) (q := 74) C dX5_hashes_71 (by decide) rfl (fun c71 => ?_) (fun c71 => ?_)
          · refine z_al0 (q := 143) C dX5_hashes_142 rfl ?_
            refine z_dup (q := 144) C dX5_hashes_143 rfl rfl ?_
            refine tg_108 (q := 147) C dX5_hashes_144 rfl ?_
            refine z_iconst (q := 148) (v := nI 1) C dX5_hashes_147 rfl (by decide) ?_
            first | refine z_iaddN (q := 149) C dX5_hashes_148 rfl ?_ | refine z_iadd (q := 149) C dX5_hashes_148 rfl ?_
            refine tp_108 (q := 152) C dX5_hashes_149 rfl ?_
            refine z_al0 (q := 153) C dX5_hashes_152 rfl ?_
            refine z_callVv (q := 156) C (ct_keeps _ (a_ps α) hkp.1 hkp.2.1 hkp.2.2.1 hkp.2.2.2) g_X5_152 rcT dX5_hashes_153 rfl rfl rfl (Nat.le_of_ble_eq_true rfl) (by first | decide | omega) (Nat.le_refl _) (Nat.le_refl _) (fun τ153 h153 => ?_)
            refine z_al0 (q := 157) C dX5_hashes_156 rfl ?_
            refine tg_7 (q := 160) C dX5_hashes_157 rfl ?_
            refine z_iconst (q := 161) (v := nI 1) C dX5_hashes_160 rfl (by decide) ?_
            refine ta_ld0 (q := 162) C dX5_hashes_161 rfl (by omega) ?_
            rw [show τ153.2 0 1 = nI (k_n (k_hash c tn pn) 1) from by rw [h153.1.2 0 (by decide)]; exact hTe'.an (by omega) (by omega)]
            refine z_iret C hQ dX5_hashes_162 (Nat.le_refl _) (Nat.le_refl _) ?_
            exact ⟨_, rfl, rfl, hA.lv hF' hTe' hle (by rw [sF_s, hF.1 5 (by decide)]) (by omega) h153⟩
          · exact absurd c71 (by omega)
        | succ m ih =>
          intro e he τ1 hF hK hTe hO
          obtain ⟨x, hx⟩ := at_lt (show e < (k_es c).length by omega)
          have hkx := hT.key hx
          have hvx := hT.val hx
          generalize hce : ((k_es c).take e).foldl k_h1 (k_h0 c tn pn) = ce at hTe
          have hes : k_es ce = (k_es c).take e := by rw [← hce, (fold_es _ _).1]; rfl
          have hel : (k_es ce).length = e := by rw [hes, List.length_take]; omega
          have hnk : x.1 ∉ k_ks ce := by
            unfold k_ks
            rw [hes]
            intro z
            obtain ⟨y, hy, hyx⟩ := List.mem_map.mp z
            obtain ⟨j, hj⟩ := List.getElem?_of_mem hy
            have hje : j < e := by
              have := (List.getElem?_eq_some_iff.mp hj).1
              rw [List.length_take] at this
              omega
            rw [List.getElem?_take, if_pos hje] at hj
            have a1 : (k_ks c)[j]? = some x.1 := by unfold k_ks; rw [List.getElem?_map, hj, ← hyx]; rfl
            have a2 : (k_ks c)[e]? = some x.1 := by unfold k_ks; rw [List.getElem?_map, hx]; rfl
            have := (List.getElem?_inj (List.getElem?_eq_some_iff.mp a1).1 hT.1.1).mp (a1.trans a2.symm)
            omega
          have hTa := hTe.add hkx.2 hvx.2 hnk (by omega) (by omega)
          rw [hel, upd_same (hO e x hx).1, upd_same (hO e x hx).2] at hTa
          have hT5 : TC (N + e + 1) ((sE 0 0 (nI (e + 1)) (sE 0 6 (τ1.2 0 6 + nI 1) (sE 0 (105 + e) (τ1.2 0 6) τ1))).2 0) (k_add ce x.1 x.2) := by
            rw [sE_j, sE_j, sE_j]
            exact hTa
          have hw := hTe.w
          have hkb := k_b_lt hTe.1 x.1
          refine z_il4 (q := 70) C dX5_hashes_68 rfl ?_
          refine z_il3 (q := 71) C dX5_hashes_70 rfl ?_
          first | refine z_icmp_geN (tgt := 142) (q := 74) C dX5_hashes_71 (by decide) rfl (by omega) (by omega) (fun c71 => ?_) (fun c71 => ?_) | refine z_icmp_ge (tgt := 142) (q := 74) C dX5_hashes_71 (by decide) rfl (fun c71 => ?_) (fun c71 => ?_)
          · exact absurd c71 (by omega)
          refine z_al0 (q := 75) C dX5_hashes_74 rfl ?_
          refine tg_7 (q := 78) C dX5_hashes_75 rfl ?_
          refine z_bipush (q := 80) (v := nI 105) C dX5_hashes_78 rfl (by decide) ?_
          refine z_il4 (q := 82) C dX5_hashes_80 rfl ?_
          first | refine z_iaddN (q := 83) C dX5_hashes_82 rfl ?_ | refine z_iadd (q := 83) C dX5_hashes_82 rfl ?_
          refine z_al0 (q := 84) C dX5_hashes_83 rfl ?_
          refine tg_7 (q := 87) C dX5_hashes_84 rfl ?_
          refine z_bipush (q := 89) (v := nI 6) C dX5_hashes_87 rfl (by decide) ?_
          refine ta_ld0 (q := 90) C dX5_hashes_89 rfl (by omega) ?_
          refine ta_st0 (q := 91) C dX5_hashes_90 rfl (by omega) ?_
          refine z_al0 (q := 92) C dX5_hashes_91 rfl ?_
          refine tg_7 (q := 95) C dX5_hashes_92 rfl ?_
          refine z_bipush (q := 97) (v := nI 6) C dX5_hashes_95 rfl (by decide) ?_
          refine z_dup2 (q := 98) C dX5_hashes_97 rfl rfl rfl ?_
          refine ta_ld0 (q := 99) C dX5_hashes_98 rfl (by omega) ?_
          rw [show (sE 0 (105 + e) (τ1.2 0 6) τ1).2 0 6 = τ1.2 0 6 from sE_n (by omega)]
          refine z_iconst (q := 100) (v := nI 1) C dX5_hashes_99 rfl (by decide) ?_
          first | refine z_iaddN (q := 101) C dX5_hashes_100 rfl ?_ | refine z_iadd (q := 101) C dX5_hashes_100 rfl ?_
          refine ta_st0 (q := 102) C dX5_hashes_101 rfl (by omega) ?_
          refine z_al0 (q := 103) C dX5_hashes_102 rfl ?_
          refine tg_7 (q := 106) C dX5_hashes_103 rfl ?_
          refine z_iconst (q := 107) (v := nI 0) C dX5_hashes_106 rfl (by decide) ?_
          refine z_dup2 (q := 108) C dX5_hashes_107 rfl rfl rfl ?_
          refine ta_ld0 (q := 109) C dX5_hashes_108 rfl (by omega) ?_
          rw [show (sE 0 6 (τ1.2 0 6 + nI 1) (sE 0 (105 + e) (τ1.2 0 6) τ1)).2 0 0 = nI e from by rw [sE_n (by omega), sE_n (by omega), hTe.a0, hel]]
          refine z_iconst (q := 110) (v := nI 1) C dX5_hashes_109 rfl (by decide) ?_
          first | refine z_iaddN (q := 111) C dX5_hashes_110 rfl ?_ | refine z_iadd (q := 111) C dX5_hashes_110 rfl ?_
          refine ta_st0 (q := 112) C dX5_hashes_111 rfl (by omega) ?_
          have hO5 : ∀ (i : Nat) (x : Nat × Nat), (k_es c)[i]? = some x → (sE 0 0 (nI (e + 1)) (sE 0 6 (τ1.2 0 6 + nI 1) (sE 0 (105 + e) (τ1.2 0 6) τ1))).2 0 (7 + i) = nI x.1 ∧ (sE 0 0 (nI (e + 1)) (sE 0 6 (τ1.2 0 6 + nI 1) (sE 0 (105 + e) (τ1.2 0 6) τ1))).2 0 (56 + i) = nI x.2 := by
            intro i y hy
            have hil := (List.getElem?_eq_some_iff.mp hy).1
            rw [sE_n (by omega), sE_n (by omega), sE_n (by omega), sE_n (by omega), sE_n (by omega), sE_n (by omega)]
            exact hO i y hy
          have hF5 : TF [] [0, 2] τ (sE 0 0 (nI (e + 1)) (sE 0 6 (τ1.2 0 6 + nI 1) (sE 0 (105 + e) (τ1.2 0 6) τ1))) := ((hF.sE (by decide) _ _).sE (by decide) _ _).sE (by decide) _ _
          have hK5 : ∀ i, i < 218 → (sE 0 0 (nI (e + 1)) (sE 0 6 (τ1.2 0 6 + nI 1) (sE 0 (105 + e) (τ1.2 0 6) τ1))).2 2 i = τ.2 0 i := fun i hi => by rw [sE_o (by decide), sE_o (by decide), sE_o (by decide)]; exact hK i hi
          generalize sE 0 0 (nI (e + 1)) (sE 0 6 (τ1.2 0 6 + nI 1) (sE 0 (105 + e) (τ1.2 0 6) τ1)) = τ5 at hT5 hO5 hF5 hK5 ⊢
          have h50 : τ5.2 0 0 = nI (e + 1) := by rw [hT5.a0, k_add_len, hel]
          refine z_al0 (q := 113) C dX5_hashes_112 rfl ?_
          refine z_al0 (q := 114) C dX5_hashes_113 rfl ?_
          refine z_al0 (q := 115) C dX5_hashes_114 rfl ?_
          refine tg_7 (q := 118) C dX5_hashes_115 rfl ?_
          refine z_bipush (q := 120) (v := nI 7) C dX5_hashes_118 rfl (by decide) ?_
          refine z_il4 (q := 122) C dX5_hashes_120 rfl ?_
          first | refine z_iaddN (q := 123) C dX5_hashes_122 rfl ?_ | refine z_iadd (q := 123) C dX5_hashes_122 rfl ?_
          refine ta_ld0 (q := 124) C dX5_hashes_123 rfl (by omega) ?_
          rw [(hO5 e x hx).1]
          refine z_callVe (q := 127) C (ct_binOf τ5 hT5 x.1 hkx.2) g_X5_61 rcT dX5_hashes_124 rfl rfl rfl (Nat.le_of_ble_eq_true rfl) (by first | decide | omega) (Nat.le_refl _) (Nat.le_refl _) ?_
          refine z_al0 (q := 128) C dX5_hashes_127 rfl ?_
          refine tg_7 (q := 131) C dX5_hashes_128 rfl ?_
          refine z_iconst (q := 132) (v := nI 0) C dX5_hashes_131 rfl (by decide) ?_
          refine ta_ld0 (q := 133) C dX5_hashes_132 rfl (by omega) ?_
          rw [h50]
          refine z_callVv (q := 136) C (ct_fits τ5 hT5 (k_b ce x.1) (e + 1) hkb (by omega)) g_X5_111 rcT dX5_hashes_133 rfl rfl rfl (Nat.le_of_ble_eq_true rfl) (by first | decide | omega) (Nat.le_refl _) (Nat.le_refl _) (fun τ133 h133 => ?_)
          first | refine z_iinc4N (q := 139) C dX5_hashes_136 rfl (by first | exact loC_i | exact loC_r | exact loC_n | exact loC_q | exact loC_u) ?_ | refine z_iinc4 (q := 139) C dX5_hashes_136 rfl rfl (by first | exact loC_i | exact loC_r | exact loC_n | exact loC_q | exact loC_u) ?_
          refine z_goto (tgt := 68) C dX5_hashes_139 (by decide) ?_
          obtain ⟨hF6, hT6, hO6⟩ := h133
          refine ih (e + 1) (by omega) τ133 (hF5.tr (hF6.up (by decide) (by decide))) (fun i hi => by rw [hF6.2 2 (by decide)]; exact hK5 i hi) ?_ (fun i y hy => ?_)
          · have e3 : ((k_es c).take (e + 1)).foldl k_h1 (k_h0 c tn pn) = k_h1 ce x := by
              rw [List.take_add_one, hx, List.foldl_append, hce]
              rfl
            rw [e3]
            unfold k_h1
            rw [hel]
            exact hT6
          · have hil := (List.getElem?_eq_some_iff.mp hy).1
            rw [hO6 _ (by omega) (by omega), hO6 _ (by omega) (by omega)]
            exact hO5 i y hy
      exact loop _ 0 (Nat.zero_add _) τ4 hF4 hK4 hT4 hO4
    · rw [g2] at c19; cases c19
end T30
