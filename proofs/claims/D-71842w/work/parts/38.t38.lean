/-! the twin: orders of work done -/
section T38
variable {D : Dt} {o : Nat} {ad : Nat → Nat}
theorem oI_ne {r : Option Nat} {k : Nat} (hr : ∀ n, r = some n → n ≤ 127) (hk : k ≤ 127) (h : ¬ r = some k) : ¬ oI r = nI k := by
  cases r with
  | none =>
    intro z
    exact nI_nm1 (show k < 2 ^ 31 by omega) z.symm
  | some n =>
    intro z
    have := hr n rfl
    have : n = k := (nI_eq (by omega) (by omega)).mp z
    exact h (by rw [this])
set_option maxHeartbeats 2000000 in
theorem work_parse {Y : Fz} {d : Nat} {Post : Option Value → Tw → Prop} (C : Cx (wT D o ad) Y cX5_work RX5 (some .int) d 0 0) (hQ : Qx (wT D o ad) Y Post 0 0) (hd : 3 < d) (τ : Tw) (tx : List Nat) (h5 : T5 τ tx) (i : Nat) (hi : i ≤ tx.length) (h8 : τ.1 8 = nI i) (b : Int32)
    (hfail : ∀ τ1 : Tw, TF [8, 19] [] τ τ1 → (ord tx i).1 = none → τ1.1 8 = nI (ord tx i).2 → Post (some (.int (-1))) τ1)
    (hok : ∀ (τ1 : Tw) (ch k v a : Nat), TF [8, 19] [] τ τ1 → ord tx i = (some (ch, k, v), a) → τ1.1 8 = nI a → Zj (wT D o ad) Y τ1 0 0 108 [some (.ref o), some (.int b), some (.int (nI ch)), some (.int (nI k)), some (.int (nI v)), none] []) : Zj (wT D o ad) Y τ 0 0 0 [some (.ref o), some (.int b), none, none, none, none] [] := by
  obtain ⟨h7, hl, hX, hx⟩ := id h5
  have keep : ∀ τ1 : Tw, TF [8, 19] [] τ τ1 → T5 τ1 tx := fun τ1 hF => by unfold T5; rw [hF.1 7 (by decide), hF.2 6 (by decide)]; exact h5
  have hch : ∀ (j n : Nat), tx[j]? = some n → n ≤ 127 := fun j n h => hx n (List.mem_of_getElem? h)
  have hs := sk_in hi
  have st4 : ∀ (τ1 : Tw) (ch k v j : Nat), TF [8, 19] [] τ τ1 → τ1.1 8 = nI j → j ≤ tx.length → ord tx i = ord4 tx ch k v j → Zj (wT D o ad) Y τ1 0 0 87 [some (.ref o), some (.int b), some (.int (nI ch)), some (.int (nI k)), some (.int (nI v)), none] [] := by
    intro τ1 ch k v j hF g8 hj ho
    have hsj := sk_in hj
    unfold ord4 at ho
    by_cases q : tx[sk tx j]? = some 59
    · rw [if_pos q] at ho
      refine z_al0 (q := 88) C dX5_work_87 rfl ?_
      refine z_callVe (q := 91) C (ct_here τ1 tx (keep τ1 hF) j hj g8) g_X5_213 rcT dX5_work_88 rfl rfl rfl (Nat.le_of_ble_eq_true rfl) (by first | decide | omega) (Nat.le_refl _) (Nat.le_refl _) ?_
      rw [q]
      refine z_bipush (q := 93) (v := nI 59) C dX5_work_91 rfl (by decide) ?_
      refine z_icmp_eq (tgt := 98) (q := 96) C dX5_work_93 (by decide) rfl (fun c93 => ?_) (fun c93 => ?_)
      · refine z_al0 (q := 99) C dX5_work_98 rfl ?_
        refine z_dup (q := 100) C dX5_work_99 rfl rfl ?_
        refine tg_210 (q := 103) C dX5_work_100 rfl ?_
        rw [show (sF 8 (nI (sk tx j)) τ1).1 8 = nI (sk tx j) from sF_s]
        refine z_iconst (q := 104) (v := nI 1) C dX5_work_103 rfl (by decide) ?_
        first | refine z_iaddN (q := 105) C dX5_work_104 rfl ?_ | refine z_iadd (q := 105) C dX5_work_104 rfl ?_
        refine tp_210 (q := 108) C dX5_work_105 rfl ?_
        exact hok _ ch k v _ ((hF.sF (by decide) _).sF (by decide) _) ho sF_s
      · exact absurd rfl c93
    · rw [if_neg q] at ho
      have hne := oI_ne (hch (sk tx j)) (show 59 ≤ 127 by omega) q
      refine z_al0 (q := 88) C dX5_work_87 rfl ?_
      refine z_callVe (q := 91) C (ct_here τ1 tx (keep τ1 hF) j hj g8) g_X5_213 rcT dX5_work_88 rfl rfl rfl (Nat.le_of_ble_eq_true rfl) (by first | decide | omega) (Nat.le_refl _) (Nat.le_refl _) ?_
      refine z_bipush (q := 93) (v := nI 59) C dX5_work_91 rfl (by decide) ?_
      refine z_icmp_eq (tgt := 98) (q := 96) C dX5_work_93 (by decide) rfl (fun c93 => ?_) (fun c93 => ?_)
      · exact absurd c93 hne
      · refine z_iconst (q := 97) (v := -1) C dX5_work_96 rfl (by decide) ?_
        refine z_iret C hQ dX5_work_97 (Nat.le_refl _) (Nat.le_refl _) ?_
        exact hfail _ (hF.sF (by decide) _) (by rw [ho]) (by rw [ho, sF_s])
  have st3 : ∀ (τ1 : Tw) (ch k j : Nat), ch ≤ 127 → TF [8, 19] [] τ τ1 → τ1.1 8 = nI j → j ≤ tx.length → ord tx i = ord3 tx ch k j → Zj (wT D o ad) Y τ1 0 0 66 [some (.ref o), some (.int b), some (.int (nI ch)), some (.int (nI k)), some (.int (nI 0)), none] [] := by
    intro τ1 ch k j hc hF g8 hj ho
    unfold ord3 at ho
    by_cases q : ch = 112
    · rw [if_pos q] at ho
      have hn := num_in hj
      refine z_il2 (q := 67) C dX5_work_66 rfl ?_
      refine z_bipush (q := 69) (v := nI 112) C dX5_work_67 rfl (by decide) ?_
      first | refine z_icmp_neN (tgt := 87) (q := 72) C dX5_work_69 (by decide) rfl (by omega) (by omega) (fun c69 => ?_) (fun c69 => ?_) | refine z_icmp_ne (tgt := 87) (q := 72) C dX5_work_69 (by decide) rfl (fun c69 => ?_) (fun c69 => ?_)
      · exact absurd q c69
      refine z_al0 (q := 73) C dX5_work_72 rfl ?_
      refine z_callVi (q := 76) C (ct_isNumber τ1 tx (keep τ1 hF) j hj g8) g_X5_222 rcT dX5_work_73 rfl rfl rfl (Nat.le_of_ble_eq_true rfl) (by first | decide | omega) (Nat.le_refl _) (Nat.le_refl _) (fun r73 τ73 h73 => ?_)
      obtain ⟨hF2, rfl, e8, e19⟩ := h73
      cases hb : (num tx j).1 with
      | true =>
        rw [if_pos hb] at ho
        first | refine z_if_neB (tgt := 81) (q := 79) C dX5_work_76 (by decide) rfl (fun c76 => ?_) (fun c76 => ?_) | refine z_if_ne (tgt := 81) (q := 79) C dX5_work_76 (by decide) rfl (fun c76 => ?_) (fun c76 => ?_)
        · refine z_al0 (q := 82) C dX5_work_81 rfl ?_
          refine tg_216 (q := 85) C dX5_work_82 rfl ?_
          rw [e19]
          refine z_is4 (q := 87) C dX5_work_85 rfl (by first | exact loC_i | exact loC_r | exact loC_n | exact loC_q | exact loC_u) ?_
          exact st4 τ73 ch k _ _ (hF.tr hF2) e8 hn.2.1 ho
        · cases c76
      | false =>
        rw [if_neg (by rw [hb]; decide)] at ho
        first | refine z_if_neB (tgt := 81) (q := 79) C dX5_work_76 (by decide) rfl (fun c76 => ?_) (fun c76 => ?_) | refine z_if_ne (tgt := 81) (q := 79) C dX5_work_76 (by decide) rfl (fun c76 => ?_) (fun c76 => ?_)
        · cases c76
        · refine z_iconst (q := 80) (v := -1) C dX5_work_79 rfl (by decide) ?_
          refine z_iret C hQ dX5_work_80 (Nat.le_refl _) (Nat.le_refl _) ?_
          exact hfail _ (hF.tr hF2) (by rw [ho]) (by rw [ho]; exact e8)
    · rw [if_neg q] at ho
      refine z_il2 (q := 67) C dX5_work_66 rfl ?_
      refine z_bipush (q := 69) (v := nI 112) C dX5_work_67 rfl (by decide) ?_
      first | refine z_icmp_neN (tgt := 87) (q := 72) C dX5_work_69 (by decide) rfl (by omega) (by omega) (fun c69 => ?_) (fun c69 => ?_) | refine z_icmp_ne (tgt := 87) (q := 72) C dX5_work_69 (by decide) rfl (fun c69 => ?_) (fun c69 => ?_)
      · exact st4 τ1 ch k 0 j hF g8 hj ho
      · exact absurd c69 q
  have st2 : ∀ (τ1 : Tw) (ch j : Nat), ch ≤ 127 → TF [8, 19] [] τ τ1 → τ1.1 8 = nI j → j ≤ tx.length → ord tx i = ord2 tx ch j → Zj (wT D o ad) Y τ1 0 0 46 [some (.ref o), some (.int b), some (.int (nI ch)), some (.int (nI 0)), some (.int (nI 0)), none] [] := by
    intro τ1 ch j hc hF g8 hj ho
    unfold ord2 at ho
    by_cases q : ch = 99
    · rw [if_pos q] at ho
      have ho3 : ord tx i = ord3 tx ch 0 j := by unfold ord3; rw [if_neg (by omega)]; exact ho
      refine z_il2 (q := 47) C dX5_work_46 rfl ?_
      refine z_bipush (q := 49) (v := nI 99) C dX5_work_47 rfl (by decide) ?_
      first | refine z_icmp_eqN (tgt := 66) (q := 52) C dX5_work_49 (by decide) rfl (by omega) (by omega) (fun c49 => ?_) (fun c49 => ?_) | refine z_icmp_eq (tgt := 66) (q := 52) C dX5_work_49 (by decide) rfl (fun c49 => ?_) (fun c49 => ?_)
      · exact st3 τ1 ch 0 j hc hF g8 hj ho3
      · exact absurd q c49
    · rw [if_neg q] at ho
      have hn := num_in hj
      refine z_il2 (q := 47) C dX5_work_46 rfl ?_
      refine z_bipush (q := 49) (v := nI 99) C dX5_work_47 rfl (by decide) ?_
      first | refine z_icmp_eqN (tgt := 66) (q := 52) C dX5_work_49 (by decide) rfl (by omega) (by omega) (fun c49 => ?_) (fun c49 => ?_) | refine z_icmp_eq (tgt := 66) (q := 52) C dX5_work_49 (by decide) rfl (fun c49 => ?_) (fun c49 => ?_)
      · exact absurd c49 q
      refine z_al0 (q := 53) C dX5_work_52 rfl ?_
      refine z_callVi (q := 56) C (ct_isNumber τ1 tx (keep τ1 hF) j hj g8) g_X5_222 rcT dX5_work_53 rfl rfl rfl (Nat.le_of_ble_eq_true rfl) (by first | decide | omega) (Nat.le_refl _) (Nat.le_refl _) (fun r53 τ53 h53 => ?_)
      obtain ⟨hF2, rfl, e8, e19⟩ := h53
      cases hb : (num tx j).1 with
      | true =>
        rw [if_pos hb] at ho
        first | refine z_if_neB (tgt := 61) (q := 59) C dX5_work_56 (by decide) rfl (fun c56 => ?_) (fun c56 => ?_) | refine z_if_ne (tgt := 61) (q := 59) C dX5_work_56 (by decide) rfl (fun c56 => ?_) (fun c56 => ?_)
        · refine z_al0 (q := 62) C dX5_work_61 rfl ?_
          refine tg_216 (q := 65) C dX5_work_62 rfl ?_
          rw [e19]
          refine z_is3 (q := 66) C dX5_work_65 rfl (by first | exact loC_i | exact loC_r | exact loC_n | exact loC_q | exact loC_u) ?_
          exact st3 τ53 ch _ _ hc (hF.tr hF2) e8 hn.2.1 ho
        · cases c56
      | false =>
        rw [if_neg (by rw [hb]; decide)] at ho
        first | refine z_if_neB (tgt := 61) (q := 59) C dX5_work_56 (by decide) rfl (fun c56 => ?_) (fun c56 => ?_) | refine z_if_ne (tgt := 61) (q := 59) C dX5_work_56 (by decide) rfl (fun c56 => ?_) (fun c56 => ?_)
        · cases c56
        · refine z_iconst (q := 60) (v := -1) C dX5_work_59 rfl (by decide) ?_
          refine z_iret C hQ dX5_work_60 (Nat.le_refl _) (Nat.le_refl _) ?_
          exact hfail _ (hF.tr hF2) (by rw [ho]) (by rw [ho]; exact e8)
  cases hc : tx[sk tx i]? with
  | none =>
    have ho : ord tx i = (none, sk tx i) := by unfold ord; rw [hc]
    refine z_al0 (q := 1) C dX5_work_0 rfl ?_
    refine z_callVe (q := 4) C (ct_here τ tx h5 i hi h8) g_X5_213 rcT dX5_work_1 rfl rfl rfl (Nat.le_of_ble_eq_true rfl) (by first | decide | omega) (Nat.le_refl _) (Nat.le_refl _) ?_
    rw [hc]
    refine z_is2 (q := 5) C dX5_work_4 rfl (by first | exact loC_i | exact loC_r | exact loC_n | exact loC_q | exact loC_u) ?_
    refine z_il2 (q := 6) C dX5_work_5 rfl ?_
    refine z_bipush (q := 8) (v := nI 112) C dX5_work_6 rfl (by decide) ?_
    refine z_icmp_eq (tgt := 31) (q := 11) C dX5_work_8 (by decide) rfl (fun c8 => ?_) (fun c8 => ?_)
    · exact absurd c8 (by decide)
    · refine z_il2 (q := 12) C dX5_work_11 rfl ?_
      refine z_bipush (q := 14) (v := nI 103) C dX5_work_12 rfl (by decide) ?_
      refine z_icmp_eq (tgt := 31) (q := 17) C dX5_work_14 (by decide) rfl (fun c14 => ?_) (fun c14 => ?_)
      · exact absurd c14 (by decide)
      · refine z_il2 (q := 18) C dX5_work_17 rfl ?_
        refine z_bipush (q := 20) (v := nI 114) C dX5_work_18 rfl (by decide) ?_
        refine z_icmp_eq (tgt := 31) (q := 23) C dX5_work_20 (by decide) rfl (fun c20 => ?_) (fun c20 => ?_)
        · exact absurd c20 (by decide)
        · refine z_il2 (q := 24) C dX5_work_23 rfl ?_
          refine z_bipush (q := 26) (v := nI 99) C dX5_work_24 rfl (by decide) ?_
          refine z_icmp_eq (tgt := 31) (q := 29) C dX5_work_26 (by decide) rfl (fun c26 => ?_) (fun c26 => ?_)
          · exact absurd c26 (by decide)
          · refine z_iconst (q := 30) (v := -1) C dX5_work_29 rfl (by decide) ?_
            refine z_iret C hQ dX5_work_30 (Nat.le_refl _) (Nat.le_refl _) ?_
            exact hfail _ (TF.rf.sF (by decide) _) (by rw [ho]) (by rw [ho, sF_s])
  | some ch =>
    have hcl := hch _ _ hc
    have hil := (List.getElem?_eq_some_iff.mp hc).1
    have ho : ord tx i = if ch = 112 ∨ ch = 103 ∨ ch = 114 ∨ ch = 99 then ord2 tx ch (sk tx i + 1) else (none, sk tx i) := by unfold ord; rw [hc]
    have go : (ch = 112 ∨ ch = 103 ∨ ch = 114 ∨ ch = 99) → Zj (wT D o ad) Y (sF 8 (nI (sk tx i)) τ) 0 0 31 [some (.ref o), some (.int b), some (.int (nI ch)), none, none, none] [] := by
      intro q
      rw [if_pos q] at ho
      refine z_al0 (q := 32) C dX5_work_31 rfl ?_
      refine z_dup (q := 33) C dX5_work_32 rfl rfl ?_
      refine tg_210 (q := 36) C dX5_work_33 rfl ?_
      rw [show (sF 8 (nI (sk tx i)) τ).1 8 = nI (sk tx i) from sF_s]
      refine z_iconst (q := 37) (v := nI 1) C dX5_work_36 rfl (by decide) ?_
      first | refine z_iaddN (q := 38) C dX5_work_37 rfl ?_ | refine z_iadd (q := 38) C dX5_work_37 rfl ?_
      refine tp_210 (q := 41) C dX5_work_38 rfl ?_
      refine z_iconst (q := 42) (v := nI 0) C dX5_work_41 rfl (by decide) ?_
      refine z_is3 (q := 43) C dX5_work_42 rfl (by first | exact loC_i | exact loC_r | exact loC_n | exact loC_q | exact loC_u) ?_
      refine z_iconst (q := 44) (v := nI 0) C dX5_work_43 rfl (by decide) ?_
      refine z_is4 (q := 46) C dX5_work_44 rfl (by first | exact loC_i | exact loC_r | exact loC_n | exact loC_q | exact loC_u) ?_
      exact st2 _ ch (sk tx i + 1) hcl ((TF.rf.sF (by decide) _).sF (by decide) _) sF_s (by omega) ho
    refine z_al0 (q := 1) C dX5_work_0 rfl ?_
    refine z_callVe (q := 4) C (ct_here τ tx h5 i hi h8) g_X5_213 rcT dX5_work_1 rfl rfl rfl (Nat.le_of_ble_eq_true rfl) (by first | decide | omega) (Nat.le_refl _) (Nat.le_refl _) ?_
    rw [hc]
    show Zj _ _ _ _ _ _ _ [Value.int (nI ch)]
    refine z_is2 (q := 5) C dX5_work_4 rfl (by first | exact loC_i | exact loC_r | exact loC_n | exact loC_q | exact loC_u) ?_
    refine z_il2 (q := 6) C dX5_work_5 rfl ?_
    refine z_bipush (q := 8) (v := nI 112) C dX5_work_6 rfl (by decide) ?_
    first | refine z_icmp_eqN (tgt := 31) (q := 11) C dX5_work_8 (by decide) rfl (by omega) (by omega) (fun c8 => ?_) (fun c8 => ?_) | refine z_icmp_eq (tgt := 31) (q := 11) C dX5_work_8 (by decide) rfl (fun c8 => ?_) (fun c8 => ?_)
    · exact go (by omega)
    · refine z_il2 (q := 12) C dX5_work_11 rfl ?_
      refine z_bipush (q := 14) (v := nI 103) C dX5_work_12 rfl (by decide) ?_
      first | refine z_icmp_eqN (tgt := 31) (q := 17) C dX5_work_14 (by decide) rfl (by omega) (by omega) (fun c14 => ?_) (fun c14 => ?_) | refine z_icmp_eq (tgt := 31) (q := 17) C dX5_work_14 (by decide) rfl (fun c14 => ?_) (fun c14 => ?_)
      · exact go (by omega)
      · refine z_il2 (q := 18) C dX5_work_17 rfl ?_
        refine z_bipush (q := 20) (v := nI 114) C dX5_work_18 rfl (by decide) ?_
        first | refine z_icmp_eqN (tgt := 31) (q := 23) C dX5_work_20 (by decide) rfl (by omega) (by omega) (fun c20 => ?_) (fun c20 => ?_) | refine z_icmp_eq (tgt := 31) (q := 23) C dX5_work_20 (by decide) rfl (fun c20 => ?_) (fun c20 => ?_)
        · exact go (by omega)
        · refine z_il2 (q := 24) C dX5_work_23 rfl ?_
          refine z_bipush (q := 26) (v := nI 99) C dX5_work_24 rfl (by decide) ?_
          first | refine z_icmp_eqN (tgt := 31) (q := 29) C dX5_work_26 (by decide) rfl (by omega) (by omega) (fun c26 => ?_) (fun c26 => ?_) | refine z_icmp_eq (tgt := 31) (q := 29) C dX5_work_26 (by decide) rfl (fun c26 => ?_) (fun c26 => ?_)
          · exact go (by omega)
          · refine z_iconst (q := 30) (v := -1) C dX5_work_29 rfl (by decide) ?_
            refine z_iret C hQ dX5_work_30 (Nat.le_refl _) (Nat.le_refl _) ?_
            exact hfail _ (TF.rf.sF (by decide) _) (by rw [ho, if_neg (by omega)]) (by rw [ho, if_neg (by omega), sF_s])
set_option maxHeartbeats 1000000 in
theorem ct_workF (τ : Tw) (tx : List Nat) (h5 : T5 τ tx) (i : Nat) (hi : i ≤ tx.length) (h8 : τ.1 8 = nI i) : Ct (wT D o ad) yX5_work cX5_work 6 (some .int) [.ref o, .int (nI 0)] τ (PI (fun r τ' => TF [8, 19] [] τ τ' ∧ τ'.1 8 = nI (ord tx i).2 ∧ r = if (ord tx i).1 = none then -1 else nI 0)) 6 0 0 := by
  refine Ct.of KTok (by decide) (Nat.le_of_ble_eq_true rfl) rfl fun Y C hQ hNm => ?_
  refine work_parse C hQ (by decide) τ tx h5 i hi h8 (nI 0) (fun τ1 hF hn g8 => ⟨_, rfl, hF, g8, by rw [if_pos hn]⟩) (fun τ1 ch k v a hF ho g8 => ?_)
  refine z_il1 (q := 109) C dX5_work_108 rfl ?_
  first | refine z_if_eqB (tgt := 128) (q := 112) C dX5_work_109 (by decide) rfl (fun c109 => ?_) (fun c109 => ?_) | refine z_if_eq (tgt := 128) (q := 112) C dX5_work_109 (by decide) rfl (fun c109 => ?_) (fun c109 => ?_)
  · refine z_iconst (q := 129) (v := nI 0) C dX5_work_128 rfl (by decide) ?_
    refine z_iret C hQ dX5_work_129 (Nat.le_refl _) (Nat.le_refl _) ?_
    exact ⟨_, rfl, hF, by rw [ho]; exact g8, by rw [ho]; rfl⟩
  · exact absurd rfl c109
set_option maxHeartbeats 1000000 in
theorem ct_workT {N : Nat} {c : Co} (τ : Tw) (hT : TC N (τ.2 0) c) (hl : (k_es c).length ≤ 48) (hN : N + 1 ≤ 1000000) (tx : List Nat) (h5 : T5 τ tx) (i : Nat) (hi : i ≤ tx.length) (h8 : τ.1 8 = nI i) (x : Cm) (a : Nat) (hx : ord tx i = (some x, a)) : Ct (wT D o ad) yX5_work cX5_work 6 (some .int) [.ref o, .int (nI 1)] τ (PI (fun r τ' => TF [5, 8, 19] [0] τ τ' ∧ τ'.1 8 = nI a ∧ r = nI (k_do c x).1 ∧ τ'.1 5 = τ.1 5 + nI (k_do c x).2.2 ∧ TC (N + 1) (τ'.2 0) (k_do c x).2.1)) 7 0 0 := by
  refine Ct.of KTok (by decide) (Nat.le_of_ble_eq_true rfl) rfl fun Y C hQ hNm => ?_
  refine work_parse C hQ (by decide) τ tx h5 i hi h8 (nI 1) (fun τ1 hF hn g8 => absurd hn (by rw [hx]; simp)) (fun τ1 ch k v a' hF ho g8 => ?_)
  rw [hx] at ho
  cases ho
  have hin := ord_in hi hx
  have hk : k ≤ 999999 := hin.2.2.1
  have hv6 : v ≤ 999999 := hin.2.2.2
  have hT1 : TC N (τ1.2 0) c := (hF.2 0 (by decide)).symm ▸ hT
  have e5 : τ1.1 5 = τ.1 5 := hF.1 5 (by decide)
  have hF' : TF [5, 8, 19] [0] τ τ1 := hF.up (by decide) (by decide)
  have hch : ch = 112 ∨ ch = 103 ∨ ch = 114 ∨ ch = 99 := by
    unfold ord at hx
    split at hx
    · cases hx
    · split at hx
      · rename_i c' _ q
        have : ch = c' := by
          unfold ord2 at hx
          split at hx
          · unfold ord4 at hx; split at hx <;> cases hx; rfl
          · split at hx
            · unfold ord3 at hx
              split at hx
              · split at hx
                · unfold ord4 at hx; split at hx <;> cases hx; rfl
                · cases hx
              · unfold ord4 at hx; split at hx <;> cases hx; rfl
            · cases hx
        rw [this]; exact q
      · cases hx
  rcases hch with rfl | rfl | rfl | rfl
  · by_cases hv : v ≤ 9999
    · cases hm : k_may c k with
      | false =>
        have ed : k_do c (112, k, v) = (0, c, 0) := by unfold k_do; rw [if_pos rfl, if_neg (by rw [hm]; simp)]
        rw [ed] at hQ
        refine z_il1 (q := 109) C dX5_work_108 rfl ?_
        first | refine z_if_eqB (tgt := 128) (q := 112) C dX5_work_109 (by decide) rfl (fun c109 => ?_) (fun c109 => ?_) | refine z_if_eq (tgt := 128) (q := 112) C dX5_work_109 (by decide) rfl (fun c109 => ?_) (fun c109 => ?_)
        · exact absurd c109 (by decide)
        · refine z_il2 (q := 113) C dX5_work_112 rfl ?_
          refine z_bipush (q := 115) (v := nI 112) C dX5_work_113 rfl (by decide) ?_
          first | refine z_icmp_neN (tgt := 130) (q := 118) C dX5_work_115 (by decide) rfl (by omega) (by omega) (fun c115 => ?_) (fun c115 => ?_) | refine z_icmp_ne (tgt := 130) (q := 118) C dX5_work_115 (by decide) rfl (fun c115 => ?_) (fun c115 => ?_)
          · exact absurd c115 (by omega)
          · refine z_al0 (q := 119) C dX5_work_118 rfl ?_
            refine z_il3 (q := 120) C dX5_work_119 rfl ?_
            refine z_il4 (q := 122) C dX5_work_120 rfl ?_
            refine z_callVe (q := 125) C (ct_mayPut τ1 hT1 k v hk hv) g_X5_140 rcT dX5_work_122 rfl rfl rfl (Nat.le_of_ble_eq_true rfl) (by first | decide | omega) (Nat.le_refl _) (Nat.le_refl _) ?_
            first | refine z_if_neB (tgt := 130) (q := 128) C dX5_work_125 (by decide) rfl (fun c125 => ?_) (fun c125 => ?_) | refine z_if_ne (tgt := 130) (q := 128) C dX5_work_125 (by decide) rfl (fun c125 => ?_) (fun c125 => ?_)
            · rw [hm] at c125; cases c125
            · refine z_iconst (q := 129) (v := nI 0) C dX5_work_128 rfl (by decide) ?_
              refine z_iret C hQ dX5_work_129 (Nat.le_refl _) (Nat.le_refl _) ?_
              exact ⟨_, rfl, hF', g8, rfl, by rw [e5]; exact (Int32.add_zero _).symm, hT1.mono (by omega) hN⟩
      | true =>
        have ed : k_do c (112, k, v) = (1, (k_put c k v).2.1, (k_put c k v).2.2) := by unfold k_do; rw [if_pos rfl, if_pos (by rw [hm, decide_eq_true hv]; rfl)]
        rw [ed] at hQ
        refine z_il1 (q := 109) C dX5_work_108 rfl ?_
        first | refine z_if_eqB (tgt := 128) (q := 112) C dX5_work_109 (by decide) rfl (fun c109 => ?_) (fun c109 => ?_) | refine z_if_eq (tgt := 128) (q := 112) C dX5_work_109 (by decide) rfl (fun c109 => ?_) (fun c109 => ?_)
        · exact absurd c109 (by decide)
        · refine z_il2 (q := 113) C dX5_work_112 rfl ?_
          refine z_bipush (q := 115) (v := nI 112) C dX5_work_113 rfl (by decide) ?_
          first | refine z_icmp_neN (tgt := 130) (q := 118) C dX5_work_115 (by decide) rfl (by omega) (by omega) (fun c115 => ?_) (fun c115 => ?_) | refine z_icmp_ne (tgt := 130) (q := 118) C dX5_work_115 (by decide) rfl (fun c115 => ?_) (fun c115 => ?_)
          · exact absurd c115 (by omega)
          · refine z_al0 (q := 119) C dX5_work_118 rfl ?_
            refine z_il3 (q := 120) C dX5_work_119 rfl ?_
            refine z_il4 (q := 122) C dX5_work_120 rfl ?_
            refine z_callVe (q := 125) C (ct_mayPut τ1 hT1 k v hk hv) g_X5_140 rcT dX5_work_122 rfl rfl rfl (Nat.le_of_ble_eq_true rfl) (by first | decide | omega) (Nat.le_refl _) (Nat.le_refl _) ?_
            first | refine z_if_neB (tgt := 130) (q := 128) C dX5_work_125 (by decide) rfl (fun c125 => ?_) (fun c125 => ?_) | refine z_if_ne (tgt := 130) (q := 128) C dX5_work_125 (by decide) rfl (fun c125 => ?_) (fun c125 => ?_)
            · refine z_il2 (q := 131) C dX5_work_130 rfl ?_
              refine z_bipush (q := 133) (v := nI 112) C dX5_work_131 rfl (by decide) ?_
              first | refine z_icmp_neN (tgt := 146) (q := 136) C dX5_work_133 (by decide) rfl (by omega) (by omega) (fun c133 => ?_) (fun c133 => ?_) | refine z_icmp_ne (tgt := 146) (q := 136) C dX5_work_133 (by decide) rfl (fun c133 => ?_) (fun c133 => ?_)
              · exact absurd c133 (by omega)
              · refine z_al0 (q := 137) C dX5_work_136 rfl ?_
                refine z_il3 (q := 138) C dX5_work_137 rfl ?_
                refine z_il4 (q := 140) C dX5_work_138 rfl ?_
                refine z_callVi (q := 143) C (ct_putsNow τ1 hT1 k v hk hv hl hN) g_X5_149 rcT dX5_work_140 rfl rfl rfl (Nat.le_of_ble_eq_true rfl) (by first | decide | omega) (Nat.le_refl _) (Nat.le_refl _) (fun r140 τ140 h140 => ?_)
                refine z_goto (tgt := 178) C dX5_work_143 (by decide) ?_
                refine z_is5 (q := 180) C dX5_work_178 rfl (by first | exact loC_i | exact loC_r | exact loC_n | exact loC_q | exact loC_u) ?_
                refine z_iconst (q := 181) (v := nI 1) C dX5_work_180 rfl (by decide) ?_
                refine z_iret C hQ dX5_work_181 (Nat.le_refl _) (Nat.le_refl _) ?_
                exact ⟨_, rfl, hF'.tr (h140.1.up (by decide) (by decide)), by rw [h140.1.1 8 (by decide)]; exact g8, rfl, by rw [h140.2.2.1, e5], h140.2.2.2⟩
            · rw [hm] at c125; cases c125
    · have ed : k_do c (112, k, v) = (0, c, 0) := by unfold k_do; rw [if_pos rfl, if_neg (by rw [decide_eq_false hv]; simp)]
      rw [ed] at hQ
      have hb : (inB (nI k) (nI 0) (nI 999999) && inB (nI v) (nI 0) (nI 9999)) = false := by rw [inB_nI (show v < 2 ^ 31 by omega) (by decide), decide_eq_false hv, Bool.and_false]
      refine z_il1 (q := 109) C dX5_work_108 rfl ?_
      first | refine z_if_eqB (tgt := 128) (q := 112) C dX5_work_109 (by decide) rfl (fun c109 => ?_) (fun c109 => ?_) | refine z_if_eq (tgt := 128) (q := 112) C dX5_work_109 (by decide) rfl (fun c109 => ?_) (fun c109 => ?_)
      · exact absurd c109 (by decide)
      · refine z_il2 (q := 113) C dX5_work_112 rfl ?_
        refine z_bipush (q := 115) (v := nI 112) C dX5_work_113 rfl (by decide) ?_
        first | refine z_icmp_neN (tgt := 130) (q := 118) C dX5_work_115 (by decide) rfl (by omega) (by omega) (fun c115 => ?_) (fun c115 => ?_) | refine z_icmp_ne (tgt := 130) (q := 118) C dX5_work_115 (by decide) rfl (fun c115 => ?_) (fun c115 => ?_)
        · exact absurd c115 (by omega)
        · refine z_al0 (q := 119) C dX5_work_118 rfl ?_
          refine z_il3 (q := 120) C dX5_work_119 rfl ?_
          refine z_il4 (q := 122) C dX5_work_120 rfl ?_
          refine z_callVe (q := 125) C (ct_mayPut0 τ1 (nI k) (nI v) hb) g_X5_140 rcT dX5_work_122 rfl rfl rfl (Nat.le_of_ble_eq_true rfl) (by first | decide | omega) (Nat.le_refl _) (Nat.le_refl _) ?_
          first | refine z_if_neB (tgt := 130) (q := 128) C dX5_work_125 (by decide) rfl (fun c125 => ?_) (fun c125 => ?_) | refine z_if_ne (tgt := 130) (q := 128) C dX5_work_125 (by decide) rfl (fun c125 => ?_) (fun c125 => ?_)
          · cases c125
          · refine z_iconst (q := 129) (v := nI 0) C dX5_work_128 rfl (by decide) ?_
            refine z_iret C hQ dX5_work_129 (Nat.le_refl _) (Nat.le_refl _) ?_
            exact ⟨_, rfl, hF', g8, rfl, by rw [e5]; exact (Int32.add_zero _).symm, hT1.mono (by omega) hN⟩
  · have ed : k_do c (103, k, v) = (1, (k_get c k).2.1, (k_get c k).2.2) := rfl
    rw [ed] at hQ
    refine z_il1 (q := 109) C dX5_work_108 rfl ?_
    first | refine z_if_eqB (tgt := 128) (q := 112) C dX5_work_109 (by decide) rfl (fun c109 => ?_) (fun c109 => ?_) | refine z_if_eq (tgt := 128) (q := 112) C dX5_work_109 (by decide) rfl (fun c109 => ?_) (fun c109 => ?_)
    · exact absurd c109 (by decide)
    · refine z_il2 (q := 113) C dX5_work_112 rfl ?_
      refine z_bipush (q := 115) (v := nI 112) C dX5_work_113 rfl (by decide) ?_
      first | refine z_icmp_neN (tgt := 130) (q := 118) C dX5_work_115 (by decide) rfl (by omega) (by omega) (fun c115 => ?_) (fun c115 => ?_) | refine z_icmp_ne (tgt := 130) (q := 118) C dX5_work_115 (by decide) rfl (fun c115 => ?_) (fun c115 => ?_)
      · refine z_il2 (q := 131) C dX5_work_130 rfl ?_
        refine z_bipush (q := 133) (v := nI 112) C dX5_work_131 rfl (by decide) ?_
        first | refine z_icmp_neN (tgt := 146) (q := 136) C dX5_work_133 (by decide) rfl (by omega) (by omega) (fun c133 => ?_) (fun c133 => ?_) | refine z_icmp_ne (tgt := 146) (q := 136) C dX5_work_133 (by decide) rfl (fun c133 => ?_) (fun c133 => ?_)
        · refine z_il2 (q := 147) C dX5_work_146 rfl ?_
          refine z_bipush (q := 149) (v := nI 103) C dX5_work_147 rfl (by decide) ?_
          first | refine z_icmp_neN (tgt := 160) (q := 152) C dX5_work_149 (by decide) rfl (by omega) (by omega) (fun c149 => ?_) (fun c149 => ?_) | refine z_icmp_ne (tgt := 160) (q := 152) C dX5_work_149 (by decide) rfl (fun c149 => ?_) (fun c149 => ?_)
          · exact absurd c149 (by omega)
          · refine z_al0 (q := 153) C dX5_work_152 rfl ?_
            refine z_il3 (q := 154) C dX5_work_153 rfl ?_
            refine z_callVi (q := 157) C (ct_getsNow τ1 hT1 k hk) g_X5_155 rcT dX5_work_154 rfl rfl rfl (Nat.le_of_ble_eq_true rfl) (by first | decide | omega) (Nat.le_refl _) (Nat.le_refl _) (fun r154 τ154 h154 => ?_)
            refine z_goto (tgt := 178) C dX5_work_157 (by decide) ?_
            refine z_is5 (q := 180) C dX5_work_178 rfl (by first | exact loC_i | exact loC_r | exact loC_n | exact loC_q | exact loC_u) ?_
            refine z_iconst (q := 181) (v := nI 1) C dX5_work_180 rfl (by decide) ?_
            refine z_iret C hQ dX5_work_181 (Nat.le_refl _) (Nat.le_refl _) ?_
            exact ⟨_, rfl, hF'.tr (h154.1.up (by decide) (by decide)), by rw [h154.1.1 8 (by decide)]; exact g8, rfl, by rw [h154.2.2.1, e5], h154.2.2.2.mono (by omega) hN⟩
        · exact absurd c133 (by omega)
      · exact absurd c115 (by omega)
  · have ed : k_do c (114, k, v) = (1, (k_rem c k).2.1, (k_rem c k).2.2) := rfl
    rw [ed] at hQ
    refine z_il1 (q := 109) C dX5_work_108 rfl ?_
    first | refine z_if_eqB (tgt := 128) (q := 112) C dX5_work_109 (by decide) rfl (fun c109 => ?_) (fun c109 => ?_) | refine z_if_eq (tgt := 128) (q := 112) C dX5_work_109 (by decide) rfl (fun c109 => ?_) (fun c109 => ?_)
    · exact absurd c109 (by decide)
    · refine z_il2 (q := 113) C dX5_work_112 rfl ?_
      refine z_bipush (q := 115) (v := nI 112) C dX5_work_113 rfl (by decide) ?_
      first | refine z_icmp_neN (tgt := 130) (q := 118) C dX5_work_115 (by decide) rfl (by omega) (by omega) (fun c115 => ?_) (fun c115 => ?_) | refine z_icmp_ne (tgt := 130) (q := 118) C dX5_work_115 (by decide) rfl (fun c115 => ?_) (fun c115 => ?_)
      · refine z_il2 (q := 131) C dX5_work_130 rfl ?_
        refine z_bipush (q := 133) (v := nI 112) C dX5_work_131 rfl (by decide) ?_
        first | refine z_icmp_neN (tgt := 146) (q := 136) C dX5_work_133 (by decide) rfl (by omega) (by omega) (fun c133 => ?_) (fun c133 => ?_) | refine z_icmp_ne (tgt := 146) (q := 136) C dX5_work_133 (by decide) rfl (fun c133 => ?_) (fun c133 => ?_)
        · refine z_il2 (q := 147) C dX5_work_146 rfl ?_
          refine z_bipush (q := 149) (v := nI 103) C dX5_work_147 rfl (by decide) ?_
          first | refine z_icmp_neN (tgt := 160) (q := 152) C dX5_work_149 (by decide) rfl (by omega) (by omega) (fun c149 => ?_) (fun c149 => ?_) | refine z_icmp_ne (tgt := 160) (q := 152) C dX5_work_149 (by decide) rfl (fun c149 => ?_) (fun c149 => ?_)
          · refine z_il2 (q := 161) C dX5_work_160 rfl ?_
            refine z_bipush (q := 163) (v := nI 114) C dX5_work_161 rfl (by decide) ?_
            first | refine z_icmp_neN (tgt := 174) (q := 166) C dX5_work_163 (by decide) rfl (by omega) (by omega) (fun c163 => ?_) (fun c163 => ?_) | refine z_icmp_ne (tgt := 174) (q := 166) C dX5_work_163 (by decide) rfl (fun c163 => ?_) (fun c163 => ?_)
            · exact absurd c163 (by omega)
            · refine z_al0 (q := 167) C dX5_work_166 rfl ?_
              refine z_il3 (q := 168) C dX5_work_167 rfl ?_
              refine z_callVi (q := 171) C (ct_removesNow τ1 hT1 k hk) g_X5_158 rcT dX5_work_168 rfl rfl rfl (Nat.le_of_ble_eq_true rfl) (by first | decide | omega) (Nat.le_refl _) (Nat.le_refl _) (fun r168 τ168 h168 => ?_)
              refine z_goto (tgt := 178) C dX5_work_171 (by decide) ?_
              refine z_is5 (q := 180) C dX5_work_178 rfl (by first | exact loC_i | exact loC_r | exact loC_n | exact loC_q | exact loC_u) ?_
              refine z_iconst (q := 181) (v := nI 1) C dX5_work_180 rfl (by decide) ?_
              refine z_iret C hQ dX5_work_181 (Nat.le_refl _) (Nat.le_refl _) ?_
              exact ⟨_, rfl, hF'.tr (h168.1.up (by decide) (by decide)), by rw [h168.1.1 8 (by decide)]; exact g8, rfl, by rw [h168.2.2.1, e5], h168.2.2.2.mono (by omega) hN⟩
          · exact absurd c149 (by omega)
        · exact absurd c133 (by omega)
      · exact absurd c115 (by omega)
  · have ed : k_do c (99, k, v) = (1, k_clr c, if 0 < (k_es c).length then 1 else 0) := rfl
    rw [ed] at hQ
    refine z_il1 (q := 109) C dX5_work_108 rfl ?_
    first | refine z_if_eqB (tgt := 128) (q := 112) C dX5_work_109 (by decide) rfl (fun c109 => ?_) (fun c109 => ?_) | refine z_if_eq (tgt := 128) (q := 112) C dX5_work_109 (by decide) rfl (fun c109 => ?_) (fun c109 => ?_)
    · exact absurd c109 (by decide)
    · refine z_il2 (q := 113) C dX5_work_112 rfl ?_
      refine z_bipush (q := 115) (v := nI 112) C dX5_work_113 rfl (by decide) ?_
      first | refine z_icmp_neN (tgt := 130) (q := 118) C dX5_work_115 (by decide) rfl (by omega) (by omega) (fun c115 => ?_) (fun c115 => ?_) | refine z_icmp_ne (tgt := 130) (q := 118) C dX5_work_115 (by decide) rfl (fun c115 => ?_) (fun c115 => ?_)
      · refine z_il2 (q := 131) C dX5_work_130 rfl ?_
        refine z_bipush (q := 133) (v := nI 112) C dX5_work_131 rfl (by decide) ?_
        first | refine z_icmp_neN (tgt := 146) (q := 136) C dX5_work_133 (by decide) rfl (by omega) (by omega) (fun c133 => ?_) (fun c133 => ?_) | refine z_icmp_ne (tgt := 146) (q := 136) C dX5_work_133 (by decide) rfl (fun c133 => ?_) (fun c133 => ?_)
        · refine z_il2 (q := 147) C dX5_work_146 rfl ?_
          refine z_bipush (q := 149) (v := nI 103) C dX5_work_147 rfl (by decide) ?_
          first | refine z_icmp_neN (tgt := 160) (q := 152) C dX5_work_149 (by decide) rfl (by omega) (by omega) (fun c149 => ?_) (fun c149 => ?_) | refine z_icmp_ne (tgt := 160) (q := 152) C dX5_work_149 (by decide) rfl (fun c149 => ?_) (fun c149 => ?_)
          · refine z_il2 (q := 161) C dX5_work_160 rfl ?_
            refine z_bipush (q := 163) (v := nI 114) C dX5_work_161 rfl (by decide) ?_
            first | refine z_icmp_neN (tgt := 174) (q := 166) C dX5_work_163 (by decide) rfl (by omega) (by omega) (fun c163 => ?_) (fun c163 => ?_) | refine z_icmp_ne (tgt := 174) (q := 166) C dX5_work_163 (by decide) rfl (fun c163 => ?_) (fun c163 => ?_)
            · refine z_al0 (q := 175) C dX5_work_174 rfl ?_
              refine z_callVi (q := 178) C (ct_clearsNow τ1 hT1) g_X5_164 rcT dX5_work_175 rfl rfl rfl (Nat.le_of_ble_eq_true rfl) (by first | decide | omega) (Nat.le_refl _) (Nat.le_refl _) (fun r175 τ175 h175 => ?_)
              refine z_is5 (q := 180) C dX5_work_178 rfl (by first | exact loC_i | exact loC_r | exact loC_n | exact loC_q | exact loC_u) ?_
              refine z_iconst (q := 181) (v := nI 1) C dX5_work_180 rfl (by decide) ?_
              refine z_iret C hQ dX5_work_181 (Nat.le_refl _) (Nat.le_refl _) ?_
              exact ⟨_, rfl, hF'.tr (h175.1.up (by decide) (by decide)), by rw [h175.1.1 8 (by decide)]; exact g8, rfl, by rw [h175.2.2.1, e5], h175.2.2.2.mono (by omega) hN⟩
            · exact absurd c163 (by omega)
          · exact absurd c149 (by omega)
        · exact absurd c133 (by omega)
      · exact absurd c115 (by omega)
theorem k_do_len {c : Co} (hc : CI c) (hl : (k_es c).length ≤ 48) (x : Cm) : (k_es (k_do c x).2.1).length ≤ 48 ∧ (k_do c x).2.2 ≤ 2 := by
  unfold k_do
  split
  · split
    · rename_i q
      have hm : k_may c x.2.1 = true := (Bool.and_eq_true_iff.mp q).2
      refine ⟨k_may_len hc hl hm, ?_⟩
      show (k_put c x.2.1 x.2.2).2.2 ≤ 2
      unfold k_put
      split
      · show (if _ then 2 else 1) ≤ 2
        split <;> omega
      · show (if _ then (if _ then 0 else 1) else 0) ≤ 2
        split
        · split <;> omega
        · omega
    · exact ⟨hl, Nat.zero_le _⟩
  · split
    · constructor
      · show (k_es (k_get c x.2.1).2.1).length ≤ 48
        unfold k_get
        split
        · exact hl
        · rename_i e he
          show (k_es (if _ then k_mov c e else c)).length ≤ 48
          split
          · rw [k_mov_len (k_pl_some he).1]; exact hl
          · exact hl
      · show (k_get c x.2.1).2.2 ≤ 2
        unfold k_get
        split
        · exact Nat.zero_le _
        · show (if _ then (if _ then 0 else 1) else 0) ≤ 2
          split
          · split <;> omega
          · omega
    · split
      · constructor
        · show (k_es (k_rem c x.2.1).2.1).length ≤ 48
          unfold k_rem
          split
          · exact hl
          · rename_i e he
            show (k_es (k_go c e)).length ≤ 48
            rw [k_go_len (k_pl_some he).1]; omega
        · show (k_rem c x.2.1).2.2 ≤ 2
          unfold k_rem
          split
          · exact Nat.zero_le _
          · show 1 ≤ 2
            omega
      · constructor
        · show (k_es (k_clr c)).length ≤ 48
          unfold k_clr
          split
          · exact Nat.zero_le _
          · exact hl
        · show (if _ then 1 else 0) ≤ 2
          split <;> omega
set_option maxHeartbeats 2000000 in
theorem ct_does {N : Nat} {α : Al} (τ : Tw) (hA : TA N τ α) (hN : N + 200 ≤ 1000000) : Ct (wT D o ad) yX5_does cX5_does 2 (some .int) [.ref o] τ (PI (fun r τ' => r = (a_does α).1 ∧ TA (N + 200) τ' (a_does α).2)) 8 0 0 := by
  refine Ct.of KTok (by decide) (Nat.le_of_ble_eq_true rfl) rfl fun Y C hQ hNm => ?_
  have h5 := hA.2.2.2.2.1
  generalize htx : a_tx α = tx at *
  have hl120 : tx.length ≤ 120 := h5.2.1
  have keep : ∀ τ1 : Tw, TF [8, 19] [] τ τ1 → T5 τ1 tx := fun τ1 hF => by unfold T5; rw [hF.1 7 (by decide), hF.2 6 (by decide)]; exact h5
  -- the second reading
  have runs : ∀ l0 : List Cm, pso tx (tx.length + 1) 0 = .inr l0 → ∀ τ1 : Tw, TF [8, 19] [] τ τ1 → Zj (wT D o ad) Y τ1 0 0 29 [some (.ref o), none] [] := by
    intro l0 hl0 τ1 hF1
    have ea : a_does α = (nI (k_run l0 0 (a_c α) 0).1, a_lv α (k_run l0 0 (a_c α) 0).2.1 (k_run l0 0 (a_c α) 0).2.2) := by unfold a_does; rw [htx, hl0]
    rw [ea] at hQ
    have hlen0 := pso_len _ 0 l0 (Nat.zero_le _) hl0
    refine z_al0 (q := 30) C dX5_does_29 rfl ?_
    refine z_callVv (q := 33) C (ct_aside τ1) g_X5_146 rcT dX5_does_30 rfl rfl rfl (Nat.le_of_ble_eq_true rfl) (by first | decide | omega) (Nat.le_refl _) (Nat.le_refl _) (fun τ30 h30 => ?_)
    refine z_iconst (q := 34) (v := nI 0) C dX5_does_33 rfl (by decide) ?_
    refine z_is1 (q := 35) C dX5_does_34 rfl (by first | exact loC_i | exact loC_r | exact loC_n | exact loC_q | exact loC_u) ?_
    refine z_al0 (q := 36) C dX5_does_35 rfl ?_
    refine z_iconst (q := 37) (v := nI 0) C dX5_does_36 rfl (by decide) ?_
    refine tp_210 (q := 40) C dX5_does_37 rfl ?_
    have hA0 : TF [5, 8, 14, 16, 17, 18, 19] [0, 2, 13, 15] τ (sF 8 (nI 0) τ30) := ((hF1.up (by decide) (by decide)).tr (h30.1.up (by decide) (by decide))).sF (by decide) _
    have hK0 : ∀ i, i < 218 → (sF 8 (nI 0) τ30).2 2 i = τ.2 0 i := fun i hi => by show τ30.2 2 i = _; rw [h30.2 i hi, hF1.2 0 (by decide)]
    have fin : ∀ (τ2 : Tw) (n δ : Nat) (c : Co), k_run l0 0 (a_c α) 0 = (n, c, δ) → TF [5, 8, 14, 16, 17, 18, 19] [0, 2, 13, 15] τ τ2 → (∀ i, i < 218 → τ2.2 2 i = τ.2 0 i) → τ2.1 5 = τ.1 5 + nI δ → δ ≤ 120 → TC (N + 60) (τ2.2 0) c → (k_es c).length ≤ 48 → Zj (wT D o ad) Y τ2 0 0 59 [some (.ref o), some (.int (nI n))] [] := by
      intro τ2 n δ c hr hF2 hK h5c hδ hTc hle
      rw [hr] at hQ
      have hkp := hA.keepP hF2 (M := N + 200) (by omega) hN hK
      refine z_al0 (q := 60) C dX5_does_59 rfl ?_
      refine z_callVv (q := 63) C (ct_keeps τ2 (a_ps α) hkp.1 hkp.2.1 hkp.2.2.1 hkp.2.2.2) g_X5_152 rcT dX5_does_60 rfl rfl rfl (Nat.le_of_ble_eq_true rfl) (by first | decide | omega) (Nat.le_refl _) (Nat.le_refl _) (fun τ60 h60 => ?_)
      refine z_il1 (q := 64) C dX5_does_63 rfl ?_
      refine z_iret C hQ dX5_does_64 (Nat.le_refl _) (Nat.le_refl _) ?_
      exact ⟨_, rfl, rfl, hA.lv (δ := δ) hF2 (hTc.mono (by omega) hN) hle h5c (by omega) h60⟩
    have loop : ∀ f i l, i ≤ tx.length → pso tx f i = .inr l → ∀ (τ2 : Tw) (n δ m : Nat) (c : Co), m + l.length ≤ 60 → δ ≤ 2 * m → k_run l n c δ = k_run l0 0 (a_c α) 0 → TF [5, 8, 14, 16, 17, 18, 19] [0, 2, 13, 15] τ τ2 → (∀ i, i < 218 → τ2.2 2 i = τ.2 0 i) → τ2.1 5 = τ.1 5 + nI δ → τ2.1 8 = nI i → TC (N + m) (τ2.2 0) c → (k_es c).length ≤ 48 → Zj (wT D o ad) Y τ2 0 0 40 [some (.ref o), some (.int (nI n))] [] := by
      intro f
      induction f with
      | zero => intro i l hi hp; cases hp
      | succ f ih =>
        intro i l hi hp τ2 n δ m c hm hδ hr hF2 hK h5c g8 hTc hle
        unfold pso at hp
        have hs := sk_in hi
        have hT5 : T5 τ2 tx := by unfold T5; rw [hF2.1 7 (by decide), hF2.2 6 (by decide)]; exact h5
        cases ho : ord tx i with
        | mk x a =>
          rw [ho] at hp
          cases x with
          | none => cases hp
          | some x =>
            have hin := ord_in hi ho
            have hdl := k_do_len hTc.1 hle x
            have hne : ∃ ch, tx[sk tx i]? = some ch := by
              cases hc : tx[sk tx i]? with
              | none => unfold ord at ho; rw [hc] at ho; cases ho
              | some ch => exact ⟨ch, rfl⟩
            obtain ⟨ch, hch⟩ := hne
            have hchl := h5.2.2.2 ch (List.mem_of_getElem? hch)
            -- the text, once the spaces are passed
            have ho2 : ord tx (sk tx i) = (some x, a) := by
              have : ord tx (sk tx i) = ord tx i := by unfold ord; rw [sk_sk hi]
              rw [this, ho]
            have hp : (if tx[sk tx a]? = none then Sum.inr [x] else match pso tx f a with
              | .inl y => .inl y
              | .inr l => .inr (x :: l)) = .inr l := hp
            refine z_al0 (q := 41) C dX5_does_40 rfl ?_
            refine z_callVe (q := 44) C (ct_here τ2 tx hT5 i hi g8) g_X5_213 rcT dX5_does_41 rfl rfl rfl (Nat.le_of_ble_eq_true rfl) (by first | decide | omega) (Nat.le_refl _) (Nat.le_refl _) ?_
            rw [hch]
            refine z_iconst (q := 45) (v := -1) C dX5_does_44 rfl (by decide) ?_
            refine z_icmp_eq (tgt := 59) (q := 48) C dX5_does_45 (by decide) rfl (fun c45 => ?_) (fun c45 => ?_)
            · exact absurd c45 (nI_nm1 (by omega))
            have hT6 : TC (N + m) ((sF 8 (nI (sk tx i)) τ2).2 0) c := hTc
            refine z_il1 (q := 49) C dX5_does_48 rfl ?_
            refine z_al0 (q := 50) C dX5_does_49 rfl ?_
            refine z_iconst (q := 51) (v := nI 1) C dX5_does_50 rfl (by decide) ?_
            refine z_callVi (q := 54) C (ct_workT (sF 8 (nI (sk tx i)) τ2) hT6 hle (by omega) tx hT5 (sk tx i) hs.2 sF_s x a ho2) g_X5_225 rcT dX5_does_51 rfl rfl rfl (Nat.le_of_ble_eq_true rfl) (by first | decide | omega) (Nat.le_refl _) (Nat.le_refl _) (fun r51 τ51 h51 => ?_)
            obtain ⟨hF3, e8, rfl, e5, hT3⟩ := h51
            first | refine z_iaddN (q := 55) C dX5_does_54 rfl ?_ | refine z_iadd (q := 55) C dX5_does_54 rfl ?_
            have hF4 : TF [5, 8, 14, 16, 17, 18, 19] [0, 2, 13, 15] τ τ51 := (hF2.sF (by decide) _).tr (hF3.up (by decide) (by decide))
            have hK4 : ∀ i, i < 218 → τ51.2 2 i = τ.2 0 i := fun i hi => by rw [hF3.2 2 (by decide)]; exact hK i hi
            have e5' : τ51.1 5 = τ.1 5 + nI (δ + (k_do c x).2.2) := by rw [e5, show (sF 8 (nI (sk tx i)) τ2).1 5 = τ2.1 5 from rfl, h5c, Int32.add_assoc, nI_add]
            split at hp
            · rename_i hz
              cases hp
              have hr2 : k_run l0 0 (a_c α) 0 = (n + (k_do c x).1, (k_do c x).2.1, δ + (k_do c x).2.2) := hr.symm
              have hT5' : T5 τ51 tx := by unfold T5; rw [hF4.1 7 (by decide), hF4.2 6 (by decide)]; exact h5
              have hm1 : m + 1 ≤ 60 := hm
              refine z_is1 (q := 56) C dX5_does_55 rfl (by first | exact loC_i | exact loC_r | exact loC_n | exact loC_q | exact loC_u) ?_
              refine z_goto (tgt := 40) C dX5_does_56 (by decide) ?_
              refine z_al0 (q := 41) C dX5_does_40 rfl ?_
              refine z_callVe (q := 44) C (ct_here τ51 tx hT5' a hin.2.1 e8) g_X5_213 rcT dX5_does_41 rfl rfl rfl (Nat.le_of_ble_eq_true rfl) (by first | decide | omega) (Nat.le_refl _) (Nat.le_refl _) ?_
              rw [hz]
              refine z_iconst (q := 45) (v := -1) C dX5_does_44 rfl (by decide) ?_
              refine z_icmp_eq (tgt := 59) (q := 48) C dX5_does_45 (by decide) rfl (fun c45 => ?_) (fun c45 => ?_)
              · exact fin _ _ _ _ hr2 (hF4.sF (by decide) _) hK4 e5' (by omega) (hT3.mono (by omega) (by omega)) hdl.1
              · exact absurd rfl c45
            · split at hp
              · cases hp
              · rename_i l' hl'
                cases hp
                rw [List.length_cons] at hm
                refine z_is1 (q := 56) C dX5_does_55 rfl (by first | exact loC_i | exact loC_r | exact loC_n | exact loC_q | exact loC_u) ?_
                refine z_goto (tgt := 40) C dX5_does_56 (by decide) ?_
                exact ih a l' hin.2.1 hl' τ51 _ _ (m + 1) _ (by omega) (by omega) hr hF4 hK4 e5' e8 hT3 hdl.1
    have hT0 : TC (N + 0) ((sF 8 (nI 0) τ30).2 0) (a_c α) := by show TC N (τ30.2 0) _; rw [h30.1.2 0 (by decide), hF1.2 0 (by decide)]; exact hA.1.1
    exact loop (tx.length + 1) 0 l0 (Nat.zero_le _) hl0 _ 0 0 0 (a_c α) (by omega) (by omega) rfl hA0 hK0 (by show τ30.1 5 = _; rw [h30.1.1 5 (by decide), hF1.1 5 (by decide)]; exact (Int32.add_zero _).symm) sF_s hT0 hA.1.2
  -- the first reading
  have loop : ∀ f i, i ≤ tx.length → tx.length < i + f → (∀ y, pso tx f i = .inl y → pso tx (tx.length + 1) 0 = .inl y) → (∀ l, pso tx f i = .inr l → ∃ l0, pso tx (tx.length + 1) 0 = .inr l0) → ∀ τ1 : Tw, TF [8, 19] [] τ τ1 → τ1.1 8 = nI i → Zj (wT D o ad) Y τ1 0 0 5 [some (.ref o), none] [] := by
    intro f
    induction f with
    | zero => intro i hi hf; omega
    | succ f ih =>
      intro i hi hf hl hr τ1 hF g8
      have hpo : pso tx (f + 1) i = match ord tx i with
        | (none, a) => .inl a
        | (some x, a) => if tx[sk tx a]? = none then .inr [x] else match pso tx f a with
          | .inl y => .inl y
          | .inr l => .inr (x :: l) := rfl
      refine z_al0 (q := 6) C dX5_does_5 rfl ?_
      refine z_iconst (q := 7) (v := nI 0) C dX5_does_6 rfl (by decide) ?_
      refine z_callVi (q := 10) C (ct_workF τ1 tx (keep τ1 hF) i hi g8) g_X5_225 rcT dX5_does_7 rfl rfl rfl (Nat.le_of_ble_eq_true rfl) (by first | decide | omega) (Nat.le_refl _) (Nat.le_refl _) (fun r7 τ7 h7 => ?_)
      obtain ⟨hF2, e8, hr7⟩ := h7
      cases ho : ord tx i with
      | mk x a =>
        rw [ho] at hpo e8 hr7
        have e8 : τ7.1 8 = nI a := e8
        cases x with
        | none =>
          have hr7 : r7 = -1 := hr7
          subst hr7
          have hpo : pso tx (f + 1) i = .inl a := hpo
          have ea : a_does α = (-10 - nI a, α) := by unfold a_does; rw [htx, hl a hpo]
          rw [ea] at hQ
          refine z_if_ge (tgt := 21) (q := 13) C dX5_does_10 (by decide) rfl (fun c10 => ?_) (fun c10 => ?_)
          · exact absurd c10 (by decide)
          · refine z_bipush (q := 15) (v := -10) C dX5_does_13 rfl (by decide) ?_
            refine z_al0 (q := 16) C dX5_does_15 rfl ?_
            refine tg_210 (q := 19) C dX5_does_16 rfl ?_
            rw [e8]
            refine z_isub (q := 20) C dX5_does_19 rfl ?_
            refine z_iret C hQ dX5_does_20 (Nat.le_refl _) (Nat.le_refl _) ?_
            exact ⟨_, rfl, rfl, hA.set (δ := 0) ((hF.tr hF2).up (by decide) (by decide)) (((hF.tr hF2).2 0 (by decide)).symm ▸ hA.1.1.mono (show N ≤ N + 200 by omega) hN) hA.1.2 (by rw [(hF.tr hF2).1 5 (by decide)]; exact (Int32.add_zero _).symm) (by omega)⟩
        | some x =>
          have hr7 : r7 = nI 0 := hr7
          subst hr7
          have hin := ord_in hi ho
          have hpo : pso tx (f + 1) i = if tx[sk tx a]? = none then .inr [x] else match pso tx f a with
            | .inl y => .inl y
            | .inr l => .inr (x :: l) := hpo
          have hT5' : T5 τ7 tx := keep τ7 (hF.tr hF2)
          refine z_if_ge (tgt := 21) (q := 13) C dX5_does_10 (by decide) rfl (fun c10 => ?_) (fun c10 => ?_)
          · cases hc : tx[sk tx a]? with
            | none =>
              rw [if_pos hc] at hpo
              obtain ⟨l0, hl0⟩ := hr _ hpo
              refine z_al0 (q := 22) C dX5_does_21 rfl ?_
              refine z_callVe (q := 25) C (ct_here τ7 tx hT5' a hin.2.1 e8) g_X5_213 rcT dX5_does_22 rfl rfl rfl (Nat.le_of_ble_eq_true rfl) (by first | decide | omega) (Nat.le_refl _) (Nat.le_refl _) ?_
              rw [hc]
              refine z_iconst (q := 26) (v := -1) C dX5_does_25 rfl (by decide) ?_
              refine z_icmp_ne (tgt := 5) (q := 29) C dX5_does_26 (by decide) rfl (fun c26 => ?_) (fun c26 => ?_)
              · exact absurd rfl c26
              · exact runs l0 hl0 _ ((hF.tr hF2).sF (by decide) _)
            | some ch =>
              have hchl := h5.2.2.2 ch (List.mem_of_getElem? hc)
              rw [if_neg (by rw [hc]; simp)] at hpo
              have hs := sk_in hin.2.1
              have hsame : pso tx f (sk tx a) = pso tx f a := by
                cases f with
                | zero => omega
                | succ f => unfold pso; rw [show ord tx (sk tx a) = ord tx a from by unfold ord; rw [sk_sk hin.2.1]]
              refine z_al0 (q := 22) C dX5_does_21 rfl ?_
              refine z_callVe (q := 25) C (ct_here τ7 tx hT5' a hin.2.1 e8) g_X5_213 rcT dX5_does_22 rfl rfl rfl (Nat.le_of_ble_eq_true rfl) (by first | decide | omega) (Nat.le_refl _) (Nat.le_refl _) ?_
              rw [hc]
              refine z_iconst (q := 26) (v := -1) C dX5_does_25 rfl (by decide) ?_
              refine z_icmp_ne (tgt := 5) (q := 29) C dX5_does_26 (by decide) rfl (fun c26 => ?_) (fun c26 => ?_)
              · refine ih (sk tx a) hs.2 (by omega) (fun y hy => ?_) (fun l hy => ?_) _ ((hF.tr hF2).sF (by decide) _) sF_s
                · rw [hsame] at hy; exact hl y (by rw [hpo, hy])
                · rw [hsame] at hy; exact hr (x :: l) (by rw [hpo, hy])
              · exact absurd c26 (nI_nm1 (by omega))
          · exact absurd (show (0 : Int32) ≤ nI 0 from by decide) c10
  refine z_al0 (q := 1) C dX5_does_0 rfl ?_
  refine z_iconst (q := 2) (v := nI 0) C dX5_does_1 rfl (by decide) ?_
  refine tp_210 (q := 5) C dX5_does_2 rfl ?_
  exact loop (tx.length + 1) 0 (Nat.zero_le _) (by omega) (fun y hy => hy) (fun l hl => ⟨l, hl⟩) _ (TF.rf.sF (by decide) _) sF_s
end T38
