/-! the twin: down a tree; steps to a key -/
/-- down to a key from the root of i .. j: how many steps, the part where it ends, the root over it -/
def dsc (c : Co) (L : List Nat) (key : Nat) : Nat → Nat → Nat → Option Nat → Nat → Nat × Nat × Nat × Option Nat
  | 0, i, j, ov, n => (n, i, j, ov)
  | f + 1, i, j, ov, n => match k_rt L i j with
    | none => (n, i, j, ov)
    | some r => if L.getD r 0 = key then (n + 1, i, j, ov) else if ahd c key (L.getD r 0) = true then dsc c L key f i r (some r) (n + 1) else dsc c L key f (r + 1) j (some r) (n + 1)
def k_dsc (c : Co) (b key : Nat) : Nat × Nat × Nat × Option Nat := dsc c (k_srt c b) key (k_srt c b).length 0 (k_srt c b).length none 0
def stl (key : Nat) : List Nat → Nat
  | [] => 0
  | x :: t => if x = key then 1 else 1 + stl key t
def k_steps (c : Co) (key : Nat) : Nat := if k_tr c (k_b c key) = true then (k_dsc c (k_b c key) key).1 else stl key (k_row c (k_b c key))
theorem k_srt_le {c : Co} (h : CI c) {b : Nat} : (k_srt c b).length ≤ 49 ∧ ∀ x ∈ k_srt c b, x ≤ 999999 := ⟨by rw [k_srt_len h]; exact Nat.le_trans (k_mi_le h b) h.2.2.2.1, fun x hx => k_row_le h ((k_srt_perm h b).mem_iff.mp hx)⟩
section T24
variable {D : Dt} {o : Nat} {ad : Nat → Nat}
set_option maxHeartbeats 1000000 in
theorem ct_descends {N : Nat} {c : Co} (τ : Tw) (hT : TC N (τ.2 0) c) (b key : Nat) (hb : b < 2 ^ 31) (hkey : key ≤ 999999) : Ct (wT D o ad) yX5_descends cX5_descends 6 (some .int) [.ref o, .int (nI b), .int (nI key)] τ (PI (fun r τ' => TF [14, 16, 17, 18] [13, 15] τ τ' ∧ r = nI (k_dsc c b key).1 ∧ τ'.1 17 = nI (k_dsc c b key).2.1 ∧ τ'.1 18 = nI (k_dsc c b key).2.2.1 ∧ τ'.1 16 = oI (k_dsc c b key).2.2.2 ∧ τ'.1 14 = nI (k_srt c b).length ∧ AR (τ'.2 15) 0 (k_srt c b))) 4 0 0 := by
  refine Ct.of KTok (by decide) (Nat.le_of_ble_eq_true rfl) rfl fun Y C hQ hNm => ?_
  obtain ⟨hlen, hle⟩ := k_srt_le hT.1 (b := b)
  unfold k_dsc at *
  generalize hLe : k_srt c b = L at *
  have loop : ∀ f i j ov n (τ1 : Tw) (x5 : Option Value), j - i ≤ f → i ≤ j → j ≤ L.length → loC x5 → TF [14, 16, 17, 18] [13, 15] τ τ1 → τ1.1 17 = nI i → τ1.1 18 = nI j → τ1.1 16 = oI ov → τ1.1 14 = nI L.length → AR (τ1.2 15) 0 L → dsc c L key f i j ov n = dsc c L key L.length 0 L.length none 0 → Zj (wT D o ad) Y τ1 0 0 39 [some (.ref o), some (.int (nI b)), some (.int (nI key)), some (.int (nI n)), some (.int (oI (k_rt L i j))), x5] [] := by
    intro f
    induction f with
    | zero =>
      intro i j ov n τ1 x5 hf hij hj hx5 hF h17 h18 h16 h14 hA hd
      have hz : k_rt L i j = none := if_neg (by omega)
      rw [hz]
      have hd : (n, i, j, ov) = dsc c L key L.length 0 L.length none 0 := hd
      refine z_il4 (q := 41) C dX5_descends_39 rfl ?_
      show Zj _ _ _ _ _ _ _ [Value.int (-1)]
      refine z_iconst (q := 42) (v := -1) C dX5_descends_41 rfl (by decide) ?_
      refine z_icmp_eq (tgt := 136) (q := 45) C dX5_descends_42 (by decide) rfl (fun c42 => ?_) (fun c42 => ?_)
      · refine z_il3 (q := 137) C dX5_descends_136 rfl ?_
        refine z_iret C hQ dX5_descends_137 (Nat.le_refl _) (Nat.le_refl _) ?_
        rw [← hd]; exact ⟨_, rfl, hF, rfl, h17, h18, h16, h14, hA⟩
      · exact absurd rfl c42
    | succ f ih =>
      intro i j ov n τ1 x5 hf hij hj hx5 hF h17 h18 h16 h14 hA hd
      cases hz : k_rt L i j with
      | none =>
        have hd : (match k_rt L i j with
          | none => (n, i, j, ov)
          | some r => if L.getD r 0 = key then (n + 1, i, j, ov) else if ahd c key (L.getD r 0) = true then dsc c L key f i r (some r) (n + 1) else dsc c L key f (r + 1) j (some r) (n + 1)) = dsc c L key L.length 0 L.length none 0 := hd
        rw [hz] at hd
        have hd : (n, i, j, ov) = dsc c L key L.length 0 L.length none 0 := hd
        refine z_il4 (q := 41) C dX5_descends_39 rfl ?_
        show Zj _ _ _ _ _ _ _ [Value.int (-1)]
        refine z_iconst (q := 42) (v := -1) C dX5_descends_41 rfl (by decide) ?_
        refine z_icmp_eq (tgt := 136) (q := 45) C dX5_descends_42 (by decide) rfl (fun c42 => ?_) (fun c42 => ?_)
        · refine z_il3 (q := 137) C dX5_descends_136 rfl ?_
          refine z_iret C hQ dX5_descends_137 (Nat.le_refl _) (Nat.le_refl _) ?_
          rw [← hd]; exact ⟨_, rfl, hF, rfl, h17, h18, h16, h14, hA⟩
        · exact absurd rfl c42
      | some r =>
        have hd : (match k_rt L i j with
          | none => (n, i, j, ov)
          | some r => if L.getD r 0 = key then (n + 1, i, j, ov) else if ahd c key (L.getD r 0) = true then dsc c L key f i r (some r) (n + 1) else dsc c L key f (r + 1) j (some r) (n + 1)) = dsc c L key L.length 0 L.length none 0 := hd
        rw [hz] at hd
        have hd : (if L.getD r 0 = key then (n + 1, i, j, ov) else if ahd c key (L.getD r 0) = true then dsc c L key f i r (some r) (n + 1) else dsc c L key f (r + 1) j (some r) (n + 1)) = dsc c L key L.length 0 L.length none 0 := hd
        have hr := k_rt_in hz
        have hx := hA.at (show r < L.length by omega)
        have hxl := hle _ (getD_mem (show r < L.length by omega))
        have e0 : τ1.2 0 = τ.2 0 := hF.2 0 (by decide)
        refine z_il4 (q := 41) C dX5_descends_39 rfl ?_
        show Zj _ _ _ _ _ _ _ [Value.int (nI r)]
        refine z_iconst (q := 42) (v := -1) C dX5_descends_41 rfl (by decide) ?_
        refine z_icmp_eq (tgt := 136) (q := 45) C dX5_descends_42 (by decide) rfl (fun c42 => ?_) (fun c42 => ?_)
        · exact absurd c42 (nI_nm1 (by omega))
        first | refine z_iinc3N (q := 48) C dX5_descends_45 rfl (by first | exact loC_i | exact loC_r | exact loC_n | exact loC_q | exact loC_u) ?_ | refine z_iinc3 (q := 48) C dX5_descends_45 rfl rfl (by first | exact loC_i | exact loC_r | exact loC_n | exact loC_q | exact loC_u) ?_
        refine z_al0 (q := 49) C dX5_descends_48 rfl ?_
        refine tg_40 (q := 52) C dX5_descends_49 rfl ?_
        refine z_il4 (q := 54) C dX5_descends_52 rfl ?_
        show Zj _ _ _ _ _ _ _ [Value.int (nI r), Value.ref (ad 15)]
        refine ta_ld15 (q := 55) C dX5_descends_54 rfl (by omega) ?_
        rw [hx]
        refine z_il2 (q := 56) C dX5_descends_55 rfl ?_
        first | refine z_icmp_neN (tgt := 61) (q := 59) C dX5_descends_56 (by decide) rfl (by omega) (by omega) (fun c56 => ?_) (fun c56 => ?_) | refine z_icmp_ne (tgt := 61) (q := 59) C dX5_descends_56 (by decide) rfl (fun c56 => ?_) (fun c56 => ?_)
        · rw [if_neg c56] at hd
          refine z_al0 (q := 62) C dX5_descends_61 rfl ?_
          refine z_il4 (q := 64) C dX5_descends_62 rfl ?_
          refine tp_88 (q := 67) C dX5_descends_64 rfl ?_
          refine z_al0 (q := 68) C dX5_descends_67 rfl ?_
          refine z_il2 (q := 69) C dX5_descends_68 rfl ?_
          refine z_al0 (q := 70) C dX5_descends_69 rfl ?_
          refine tg_40 (q := 73) C dX5_descends_70 rfl ?_
          refine z_il4 (q := 75) C dX5_descends_73 rfl ?_
          show Zj _ _ _ _ _ _ _ (Value.int (nI r) :: Value.ref (ad 15) :: _)
          refine ta_ld15 (q := 76) C dX5_descends_75 rfl (by omega) ?_
          rw [show (sF 16 (oI (some r)) τ1).2 15 r = nI (L.getD r 0) from hx]
          refine z_callVe (q := 79) C (ct_isAhead (sF 16 (oI (some r)) τ1) (e0 ▸ hT) key _ hkey hxl) g_X5_68 rcT dX5_descends_76 rfl rfl rfl (Nat.le_of_ble_eq_true rfl) (by first | decide | omega) (Nat.le_refl _) (Nat.le_refl _) ?_
          refine z_is5 (q := 81) C dX5_descends_79 rfl (by first | exact loC_i | exact loC_r | exact loC_n | exact loC_q | exact loC_u) ?_
          cases ha : ahd c key (L.getD r 0) with
          | true =>
            rw [if_pos ha] at hd
            refine z_al0 (q := 82) C dX5_descends_81 rfl ?_
            refine z_il5 (q := 84) C dX5_descends_82 rfl ?_
            first | refine z_if_eqB (tgt := 92) (q := 87) C dX5_descends_84 (by decide) rfl (fun c84 => ?_) (fun c84 => ?_) | refine z_if_eq (tgt := 92) (q := 87) C dX5_descends_84 (by decide) rfl (fun c84 => ?_) (fun c84 => ?_)
            · cases c84
            · refine z_il4 (q := 89) C dX5_descends_87 rfl ?_
              show Zj _ _ _ _ _ _ _ [Value.int (nI r), Value.ref o]
              refine z_goto (tgt := 96) C dX5_descends_89 (by decide) ?_
              refine tp_85 (q := 99) C dX5_descends_96 rfl ?_
              refine z_al0 (q := 100) C dX5_descends_99 rfl ?_
              refine z_il5 (q := 102) C dX5_descends_100 rfl ?_
              first | refine z_if_eqB (tgt := 112) (q := 105) C dX5_descends_102 (by decide) rfl (fun c102 => ?_) (fun c102 => ?_) | refine z_if_eq (tgt := 112) (q := 105) C dX5_descends_102 (by decide) rfl (fun c102 => ?_) (fun c102 => ?_)
              · cases c102
              · refine z_al0 (q := 106) C dX5_descends_105 rfl ?_
                refine tg_82 (q := 109) C dX5_descends_106 rfl ?_
                rw [show (sF 18 (nI r) (sF 16 (oI (some r)) τ1)).1 17 = nI i from h17]
                refine z_goto (tgt := 116) C dX5_descends_109 (by decide) ?_
                refine tp_82 (q := 119) C dX5_descends_116 rfl ?_
                refine z_al0 (q := 120) C dX5_descends_119 rfl ?_
                refine z_al0 (q := 121) C dX5_descends_120 rfl ?_
                refine tg_82 (q := 124) C dX5_descends_121 rfl ?_
                rw [show (sF 17 (nI i) (sF 18 (nI r) (sF 16 (oI (some r)) τ1))).1 17 = nI i from rfl]
                refine z_al0 (q := 125) C dX5_descends_124 rfl ?_
                refine tg_85 (q := 128) C dX5_descends_125 rfl ?_
                rw [show (sF 17 (nI i) (sF 18 (nI r) (sF 16 (oI (some r)) τ1))).1 18 = nI r from rfl]
                refine z_callVe (q := 131) C (ct_rootOf _ L (by exact hA) hle hlen i r (by omega) (by omega)) g_X5_91 rcT dX5_descends_128 rfl rfl rfl (Nat.le_of_ble_eq_true rfl) (by first | decide | omega) (Nat.le_refl _) (Nat.le_refl _) ?_
                refine z_is4 (q := 133) C dX5_descends_131 rfl (by first | exact loC_i | exact loC_r | exact loC_n | exact loC_q | exact loC_u) ?_
                refine z_goto (tgt := 39) C dX5_descends_133 (by decide) ?_
                exact ih i r (some r) (n + 1) _ _ (by omega) (by omega) (by omega) loC_i (((hF.sF (by decide) _).sF (by decide) _).sF (by decide) _) rfl rfl rfl h14 hA hd
          | false =>
            rw [if_neg (by rw [ha]; decide)] at hd
            refine z_al0 (q := 82) C dX5_descends_81 rfl ?_
            refine z_il5 (q := 84) C dX5_descends_82 rfl ?_
            first | refine z_if_eqB (tgt := 92) (q := 87) C dX5_descends_84 (by decide) rfl (fun c84 => ?_) (fun c84 => ?_) | refine z_if_eq (tgt := 92) (q := 87) C dX5_descends_84 (by decide) rfl (fun c84 => ?_) (fun c84 => ?_)
            · refine z_al0 (q := 93) C dX5_descends_92 rfl ?_
              refine tg_85 (q := 96) C dX5_descends_93 rfl ?_
              rw [show (sF 16 (oI (some r)) τ1).1 18 = nI j from h18]
              refine tp_85 (q := 99) C dX5_descends_96 rfl ?_
              refine z_al0 (q := 100) C dX5_descends_99 rfl ?_
              refine z_il5 (q := 102) C dX5_descends_100 rfl ?_
              first | refine z_if_eqB (tgt := 112) (q := 105) C dX5_descends_102 (by decide) rfl (fun c102 => ?_) (fun c102 => ?_) | refine z_if_eq (tgt := 112) (q := 105) C dX5_descends_102 (by decide) rfl (fun c102 => ?_) (fun c102 => ?_)
              · refine z_il4 (q := 114) C dX5_descends_112 rfl ?_
                show Zj _ _ _ _ _ _ _ [Value.int (nI r), Value.ref o]
                refine z_iconst (q := 115) (v := nI 1) C dX5_descends_114 rfl (by decide) ?_
                first | refine z_iaddN (q := 116) C dX5_descends_115 rfl ?_ | refine z_iadd (q := 116) C dX5_descends_115 rfl ?_
                refine tp_82 (q := 119) C dX5_descends_116 rfl ?_
                refine z_al0 (q := 120) C dX5_descends_119 rfl ?_
                refine z_al0 (q := 121) C dX5_descends_120 rfl ?_
                refine tg_82 (q := 124) C dX5_descends_121 rfl ?_
                rw [show (sF 17 (nI (r + 1)) (sF 18 (nI j) (sF 16 (oI (some r)) τ1))).1 17 = nI (r + 1) from rfl]
                refine z_al0 (q := 125) C dX5_descends_124 rfl ?_
                refine tg_85 (q := 128) C dX5_descends_125 rfl ?_
                rw [show (sF 17 (nI (r + 1)) (sF 18 (nI j) (sF 16 (oI (some r)) τ1))).1 18 = nI j from rfl]
                refine z_callVe (q := 131) C (ct_rootOf _ L (by exact hA) hle hlen (r + 1) j (by omega) (by omega)) g_X5_91 rcT dX5_descends_128 rfl rfl rfl (Nat.le_of_ble_eq_true rfl) (by first | decide | omega) (Nat.le_refl _) (Nat.le_refl _) ?_
                refine z_is4 (q := 133) C dX5_descends_131 rfl (by first | exact loC_i | exact loC_r | exact loC_n | exact loC_q | exact loC_u) ?_
                refine z_goto (tgt := 39) C dX5_descends_133 (by decide) ?_
                exact ih (r + 1) j (some r) (n + 1) _ _ (by omega) (by omega) (by omega) loC_i (((hF.sF (by decide) _).sF (by decide) _).sF (by decide) _) rfl rfl rfl h14 hA hd
              · cases c102
            · cases c84
        · rw [if_pos c56] at hd
          refine z_il3 (q := 60) C dX5_descends_59 rfl ?_
          refine z_iret C hQ dX5_descends_60 (Nat.le_refl _) (Nat.le_refl _) ?_
          rw [← hd]
          exact ⟨_, rfl, hF, rfl, h17, h18, h16, h14, hA⟩
  refine z_al0 (q := 1) C dX5_descends_0 rfl ?_
  refine z_il1 (q := 2) C dX5_descends_1 rfl ?_
  refine z_callVv (q := 5) C (ct_inOrder τ hT b hb) g_X5_79 rcT dX5_descends_2 rfl rfl rfl (Nat.le_of_ble_eq_true rfl) (by first | decide | omega) (Nat.le_refl _) (Nat.le_refl _) (fun τ2 h2 => ?_)
  obtain ⟨hF, h14, hA⟩ := h2
  rw [hLe] at h14 hA
  refine z_al0 (q := 6) C dX5_descends_5 rfl ?_
  refine z_iconst (q := 7) (v := nI 0) C dX5_descends_6 rfl (by decide) ?_
  refine tp_82 (q := 10) C dX5_descends_7 rfl ?_
  refine z_al0 (q := 11) C dX5_descends_10 rfl ?_
  refine z_al0 (q := 12) C dX5_descends_11 rfl ?_
  refine tg_58 (q := 15) C dX5_descends_12 rfl ?_
  rw [show (sF 17 (nI 0) τ2).1 14 = nI L.length from h14]
  refine tp_85 (q := 18) C dX5_descends_15 rfl ?_
  refine z_al0 (q := 19) C dX5_descends_18 rfl ?_
  refine z_iconst (q := 20) (v := -1) C dX5_descends_19 rfl (by decide) ?_
  refine tp_88 (q := 23) C dX5_descends_20 rfl ?_
  refine z_iconst (q := 24) (v := nI 0) C dX5_descends_23 rfl (by decide) ?_
  refine z_is3 (q := 25) C dX5_descends_24 rfl (by first | exact loC_i | exact loC_r | exact loC_n | exact loC_q | exact loC_u) ?_
  refine z_al0 (q := 26) C dX5_descends_25 rfl ?_
  refine z_al0 (q := 27) C dX5_descends_26 rfl ?_
  refine tg_82 (q := 30) C dX5_descends_27 rfl ?_
  rw [show (sF 16 (-1) (sF 18 (nI L.length) (sF 17 (nI 0) τ2))).1 17 = nI 0 from rfl]
  refine z_al0 (q := 31) C dX5_descends_30 rfl ?_
  refine tg_85 (q := 34) C dX5_descends_31 rfl ?_
  rw [show (sF 16 (-1) (sF 18 (nI L.length) (sF 17 (nI 0) τ2))).1 18 = nI L.length from rfl]
  refine z_callVe (q := 37) C (ct_rootOf _ L (by exact hA) hle hlen 0 L.length (by omega) (by omega)) g_X5_91 rcT dX5_descends_34 rfl rfl rfl (Nat.le_of_ble_eq_true rfl) (by first | decide | omega) (Nat.le_refl _) (Nat.le_refl _) ?_
  refine z_is4 (q := 39) C dX5_descends_37 rfl (by first | exact loC_i | exact loC_r | exact loC_n | exact loC_q | exact loC_u) ?_
  exact loop L.length 0 L.length none 0 _ _ (by omega) (by omega) (by omega) loC_n ((((hF.up (by decide) (by decide)).sF (by decide) _).sF (by decide) _).sF (by decide) _) rfl rfl rfl h14 hA rfl
set_option maxHeartbeats 1000000 in
theorem ct_stepsTo {N : Nat} {c : Co} (τ : Tw) (hT : TC N (τ.2 0) c) (key : Nat) (hkey : key ≤ 999999) : Ct (wT D o ad) yX5_stepsTo cX5_stepsTo 5 (some .int) [.ref o, .int (nI key)] τ (PI (fun r τ' => TF [14, 16, 17, 18] [13, 15] τ τ' ∧ r = nI (k_steps c key))) 5 0 0 := by
  refine Ct.of KTok (by decide) (Nat.le_of_ble_eq_true rfl) rfl fun Y C hQ hNm => ?_
  have hw := hT.w
  have hb := k_b_lt hT.1 key
  have hlen := hT.len
  have hmi : (k_row c (k_b c key)).length ≤ _ := k_mi_le hT.1 (k_b c key)
  refine z_al0 (q := 1) C dX5_stepsTo_0 rfl ?_
  refine z_il1 (q := 2) C dX5_stepsTo_1 rfl ?_
  refine z_callVe (q := 5) C (ct_binOf τ hT key hkey) g_X5_61 rcT dX5_stepsTo_2 rfl rfl rfl (Nat.le_of_ble_eq_true rfl) (by first | decide | omega) (Nat.le_refl _) (Nat.le_refl _) ?_
  refine z_is2 (q := 6) C dX5_stepsTo_5 rfl (by first | exact loC_i | exact loC_r | exact loC_n | exact loC_q | exact loC_u) ?_
  refine z_al0 (q := 7) C dX5_stepsTo_6 rfl ?_
  refine z_il2 (q := 8) C dX5_stepsTo_7 rfl ?_
  refine z_callVe (q := 11) C (ct_isTree τ hT (k_b c key) (by omega)) g_X5_95 rcT dX5_stepsTo_8 rfl rfl rfl (Nat.le_of_ble_eq_true rfl) (by first | decide | omega) (Nat.le_refl _) (Nat.le_refl _) ?_
  first | refine z_if_eqB (tgt := 21) (q := 14) C dX5_stepsTo_11 (by decide) rfl (fun c11 => ?_) (fun c11 => ?_) | refine z_if_eq (tgt := 21) (q := 14) C dX5_stepsTo_11 (by decide) rfl (fun c11 => ?_) (fun c11 => ?_)
  · have hst : k_steps c key = stl key (k_row c (k_b c key)) := if_neg (by rw [c11]; decide)
    refine z_al0 (q := 22) C dX5_stepsTo_21 rfl ?_
    refine z_il2 (q := 23) C dX5_stepsTo_22 rfl ?_
    refine z_callVv (q := 26) C (ct_holds τ hT (k_b c key) (by omega)) g_X5_64 rcT dX5_stepsTo_23 rfl rfl rfl (Nat.le_of_ble_eq_true rfl) (by first | decide | omega) (Nat.le_refl _) (Nat.le_refl _) (fun τ23 h23 => ?_)
    obtain ⟨hF, l, h14, hA, hlt, hmap⟩ := h23
    refine z_iconst (q := 27) (v := nI 0) C dX5_stepsTo_26 rfl (by decide) ?_
    refine z_is3 (q := 28) C dX5_stepsTo_27 rfl (by first | exact loC_i | exact loC_r | exact loC_n | exact loC_q | exact loC_u) ?_
    refine z_iconst (q := 29) (v := nI 1) C dX5_stepsTo_28 rfl (by decide) ?_
    refine z_is4 (q := 31) C dX5_stepsTo_29 rfl (by first | exact loC_i | exact loC_r | exact loC_n | exact loC_q | exact loC_u) ?_
    have hll : l.length = (k_row c (k_b c key)).length := by rw [← hmap, List.length_map]
    have hF' : TF [14, 16, 17, 18] [13, 15] τ τ23 := hF.up (by decide) (by decide)
    have e0 : τ23.2 0 = τ.2 0 := hF.2 0 (by decide)
    have loop : ∀ m n, n + m = l.length → n + stl key ((k_row c (k_b c key)).drop n) = stl key (k_row c (k_b c key)) → Zj (wT D o ad) Y τ23 0 0 31 [some (.ref o), some (.int (nI key)), some (.int (nI (k_b c key))), some (.int (nI n)), some (.int (bI true))] [] := by
      intro m
      induction m with
      | zero =>
        intro n hn hs
        have hn : n = l.length := hn
        rw [hn, hll, List.drop_length] at hs
        have hs : (k_row c (k_b c key)).length = stl key (k_row c (k_b c key)) := hs
        refine z_il4 (q := 33) C dX5_stepsTo_31 rfl ?_
        first | refine z_if_eqB (tgt := 75) (q := 36) C dX5_stepsTo_33 (by decide) rfl (fun c33 => ?_) (fun c33 => ?_) | refine z_if_eq (tgt := 75) (q := 36) C dX5_stepsTo_33 (by decide) rfl (fun c33 => ?_) (fun c33 => ?_)
        · cases c33
        · refine z_il3 (q := 37) C dX5_stepsTo_36 rfl ?_
          refine z_al0 (q := 38) C dX5_stepsTo_37 rfl ?_
          refine tg_58 (q := 41) C dX5_stepsTo_38 rfl ?_
          rw [h14]
          first | refine z_icmp_geN (tgt := 75) (q := 44) C dX5_stepsTo_41 (by decide) rfl (by omega) (by omega) (fun c41 => ?_) (fun c41 => ?_) | refine z_icmp_ge (tgt := 75) (q := 44) C dX5_stepsTo_41 (by decide) rfl (fun c41 => ?_) (fun c41 => ?_)
          · refine z_il3 (q := 76) C dX5_stepsTo_75 rfl ?_
            refine z_iret C hQ dX5_stepsTo_76 (Nat.le_refl _) (Nat.le_refl _) ?_
            exact ⟨_, rfl, hF', by rw [hst, ← hs, hn, hll]⟩
          · exact absurd c41 (by omega)
      | succ m ih =>
        intro n hn hs
        obtain ⟨i, hi⟩ := at_lt (show n < l.length by omega)
        obtain ⟨x, hx⟩ := at_lt (hlt i (List.mem_of_getElem? hi))
        have hil := hlt i (List.mem_of_getElem? hi)
        have hk : (k_row c (k_b c key))[n]? = some x.1 := by rw [← hmap, List.getElem?_map, hi, ← kAt_of hx]; rfl
        have hkk := hT.key hx
        have h13 : τ23.2 13 n = nI i := by
          have := hA _ _ hi
          rwa [Nat.zero_add] at this
        have hdr : (k_row c (k_b c key)).drop n = x.1 :: (k_row c (k_b c key)).drop (n + 1) := by
          obtain ⟨h1, h2⟩ := List.getElem?_eq_some_iff.mp hk
          rw [List.drop_eq_getElem_cons h1, h2]
        rw [hdr] at hs
        have hs : n + (if x.1 = key then 1 else 1 + stl key ((k_row c (k_b c key)).drop (n + 1))) = stl key (k_row c (k_b c key)) := hs
        refine z_il4 (q := 33) C dX5_stepsTo_31 rfl ?_
        first | refine z_if_eqB (tgt := 75) (q := 36) C dX5_stepsTo_33 (by decide) rfl (fun c33 => ?_) (fun c33 => ?_) | refine z_if_eq (tgt := 75) (q := 36) C dX5_stepsTo_33 (by decide) rfl (fun c33 => ?_) (fun c33 => ?_)
        · cases c33
        refine z_il3 (q := 37) C dX5_stepsTo_36 rfl ?_
        refine z_al0 (q := 38) C dX5_stepsTo_37 rfl ?_
        refine tg_58 (q := 41) C dX5_stepsTo_38 rfl ?_
        rw [h14]
        first | refine z_icmp_geN (tgt := 75) (q := 44) C dX5_stepsTo_41 (by decide) rfl (by omega) (by omega) (fun c41 => ?_) (fun c41 => ?_) | refine z_icmp_ge (tgt := 75) (q := 44) C dX5_stepsTo_41 (by decide) rfl (fun c41 => ?_) (fun c41 => ?_)
        · exact absurd c41 (by omega)
        refine z_al0 (q := 45) C dX5_stepsTo_44 rfl ?_
        refine tg_7 (q := 48) C dX5_stepsTo_45 rfl ?_
        refine z_bipush (q := 50) (v := nI 7) C dX5_stepsTo_48 rfl (by decide) ?_
        refine z_al0 (q := 51) C dX5_stepsTo_50 rfl ?_
        refine tg_37 (q := 54) C dX5_stepsTo_51 rfl ?_
        refine z_il3 (q := 55) C dX5_stepsTo_54 rfl ?_
        refine ta_ld13 (q := 56) C dX5_stepsTo_55 rfl (by omega) ?_
        rw [h13]
        first | refine z_iaddN (q := 57) C dX5_stepsTo_56 rfl ?_ | refine z_iadd (q := 57) C dX5_stepsTo_56 rfl ?_
        refine ta_ld0 (q := 58) C dX5_stepsTo_57 rfl (by omega) ?_
        rw [e0]
        rw [hkk.1]
        refine z_il1 (q := 59) C dX5_stepsTo_58 rfl ?_
        first | refine z_icmp_eqN (tgt := 66) (q := 62) C dX5_stepsTo_59 (by decide) rfl (by omega) (by omega) (fun c59 => ?_) (fun c59 => ?_) | refine z_icmp_eq (tgt := 66) (q := 62) C dX5_stepsTo_59 (by decide) rfl (fun c59 => ?_) (fun c59 => ?_)
        · rw [if_pos c59] at hs
          refine z_iconst (q := 67) (v := nI 0) C dX5_stepsTo_66 rfl (by decide) ?_
          refine z_is4 (q := 69) C dX5_stepsTo_67 rfl (by first | exact loC_i | exact loC_r | exact loC_n | exact loC_q | exact loC_u) ?_
          first | refine z_iinc3N (q := 72) C dX5_stepsTo_69 rfl (by first | exact loC_i | exact loC_r | exact loC_n | exact loC_q | exact loC_u) ?_ | refine z_iinc3 (q := 72) C dX5_stepsTo_69 rfl rfl (by first | exact loC_i | exact loC_r | exact loC_n | exact loC_q | exact loC_u) ?_
          refine z_goto (tgt := 31) C dX5_stepsTo_72 (by decide) ?_
          refine z_il4 (q := 33) C dX5_stepsTo_31 rfl ?_
          first | refine z_if_eqB (tgt := 75) (q := 36) C dX5_stepsTo_33 (by decide) rfl (fun c33 => ?_) (fun c33 => ?_) | refine z_if_eq (tgt := 75) (q := 36) C dX5_stepsTo_33 (by decide) rfl (fun c33 => ?_) (fun c33 => ?_)
          skip
          · refine z_il3 (q := 76) C dX5_stepsTo_75 rfl ?_
            refine z_iret C hQ dX5_stepsTo_76 (Nat.le_refl _) (Nat.le_refl _) ?_
            exact ⟨_, rfl, hF', by rw [hst, ← hs]⟩
          · exact absurd rfl c33
        · rw [if_neg c59] at hs
          refine z_iconst (q := 63) (v := nI 1) C dX5_stepsTo_62 rfl (by decide) ?_
          refine z_goto (tgt := 67) C dX5_stepsTo_63 (by decide) ?_
          refine z_is4 (q := 69) C dX5_stepsTo_67 rfl (by first | exact loC_i | exact loC_r | exact loC_n | exact loC_q | exact loC_u) ?_
          first | refine z_iinc3N (q := 72) C dX5_stepsTo_69 rfl (by first | exact loC_i | exact loC_r | exact loC_n | exact loC_q | exact loC_u) ?_ | refine z_iinc3 (q := 72) C dX5_stepsTo_69 rfl rfl (by first | exact loC_i | exact loC_r | exact loC_n | exact loC_q | exact loC_u) ?_
          refine z_goto (tgt := 31) C dX5_stepsTo_72 (by decide) ?_
          exact ih (n + 1) (by omega) (by omega)
    exact loop _ 0 (Nat.zero_add _) (by rw [List.drop_zero, Nat.zero_add])
  · have hst : k_steps c key = (k_dsc c (k_b c key) key).1 := if_pos c11
    refine z_al0 (q := 15) C dX5_stepsTo_14 rfl ?_
    refine z_il2 (q := 16) C dX5_stepsTo_15 rfl ?_
    refine z_il1 (q := 17) C dX5_stepsTo_16 rfl ?_
    refine z_callVi (q := 20) C (ct_descends τ hT (k_b c key) key (by omega) hkey) g_X5_99 rcT dX5_stepsTo_17 rfl rfl rfl (Nat.le_of_ble_eq_true rfl) (by first | decide | omega) (Nat.le_refl _) (Nat.le_refl _) (fun r17 τ17 h17 => ?_)
    refine z_iret C hQ dX5_stepsTo_20 (Nat.le_refl _) (Nat.le_refl _) ?_
    exact ⟨_, rfl, h17.1, by rw [hst]; exact h17.2.1⟩
end T24
