/-! THE CLASS: the reader reads an order -/
set_option maxRecDepth 10000
section T88
variable {D : Dx} {p : Nat → Nat} {σ : Sg} {tx : List Nat} {d : Nat}
set_option maxHeartbeats 2000000 in
theorem order_parse {Y : Fz} {mc ms : Nat} {Post : Option Value → Sg → Prop} {PX : Nat → Sg → Prop} (C : Cx (wX D) Y cX2_order RX2 (some .int) d mc ms) (hQ : QxX (wX D) Y Post PX mc ms) (hd : 6 < d) (hmc : 3 ≤ mc) (hms : 21 ≤ ms) (hR : RD p tx σ) {i : Nat} (hi : i ≤ tx.length) (h120 : fi σ 120 (p 7) = nI i) (b : Int32)
    (hfail : ∀ q σ1, kd σ1 q = 8 → fi σ1 146 q = nI (ord tx i).2 → FG [120] [] [] σ σ1 → (ord tx i).1 = none → PX q σ1)
    (hok : ∀ (σ1 : Sg) (ch k v a k1 n1 : Nat), FG [120] [] [] σ σ1 → ord tx i = (some (ch, k, v), a) → fi σ1 120 (p 7) = nI a → k1 ≤ 2 → n1 ≤ 14 → Zj (wX D) Y σ1 k1 n1 113 [some (.ref (p 7)), some (.int b), some (.int (nI ch)), some (.int (nI k)), some (.int (nI v))] []) : Zj (wX D) Y σ 0 0 0 [some (.ref (p 7)), some (.int b), none, none, none] [] := by
  have hk7 : kd σ (p 7) = 7 := hR.1.2.2.2.2.2.2.1.2.1
  have hch : ∀ (j n : Nat), tx[j]? = some n → n ≤ 127 := fun j n h => hR.2.2.2.2 n (List.mem_of_getElem? h)
  have keep : ∀ σ1 : Sg, FG [120] [] [] σ σ1 → RD p tx σ1 := fun σ1 hF => hR.keep hF (by simp) (by simp) (by simp) (by simp)
  have hs := sk_in hi
  have st4 : ∀ (σ1 : Sg) (ch k v j k1 n1 : Nat), FG [120] [] [] σ σ1 → fi σ1 120 (p 7) = nI j → j ≤ tx.length → ord tx i = ord4 tx ch k v j → k1 ≤ 2 → n1 ≤ 14 → Zj (wX D) Y σ1 k1 n1 82 [some (.ref (p 7)), some (.int b), some (.int (nI ch)), some (.int (nI k)), some (.int (nI v))] [] := by
    intro σ1 ch k v j k1 n1 hF g8 hj ho hk1 hn1
    have hsj := sk_in hj
    have hk71 : kd σ1 (p 7) = 7 := hF.ek hk7
    unfold ord4 at ho
    first | refine z_al0 (q := 83) C dX2_order_82 rfl ?_ | refine z_al0q (q := 83) C dX2_order_82 rfl ?_ | refine z_al0u (q := 83) C dX2_order_82 rfl ?_
    refine xc_X2_34 (q := 86) C (cx_here (d := 0) (keep σ1 hF) hj g8) (by exact hk71) dX2_order_83 rfl rfl rfl (Nat.le_of_ble_eq_true rfl) (by first | decide | omega) (by omega) (by omega) (kkI fun r83 σ83 h83 => ?_)
    refine z_bipush (q := 88) (v := nI 59) C dX2_order_86 rfl (by decide) ?_
    obtain ⟨er, hF2, e2⟩ := h83
    subst er
    have hF3 := hF.tr hF2
    have hk72 : kd σ83 (p 7) = 7 := hF3.ek hk7
    by_cases q : tx[sk tx j]? = some 59
    · rw [if_pos q] at ho
      rw [q]
      refine z_icmp_eq (tgt := 103) (q := 91) C dX2_order_88 (by decide) rfl (fun c88 => ?_) (fun c88 => absurd rfl c88)
      first | refine z_al0 (q := 104) C dX2_order_103 rfl ?_ | refine z_al0q (q := 104) C dX2_order_103 rfl ?_ | refine z_al0u (q := 104) C dX2_order_103 rfl ?_
      refine z_dup (q := 105) C dX2_order_104 rfl rfl ?_
      refine xg_X2_15 (q := 108) C (by exact hk72) dX2_order_105 rfl ?_
      rw [e2]
      refine z_iconst (q := 109) (v := nI 1) C dX2_order_108 rfl (by decide) ?_
      first | refine z_iaddN (q := 110) C dX2_order_109 rfl ?_ | refine z_iadd (q := 110) C dX2_order_109 rfl ?_
      refine xp_X2_15 (q := 113) C (by exact hk72) dX2_order_110 rfl ?_
      exact hok _ ch k v _ _ _ (hF3.wI (fun _ => by simp)) ho (by rw [fi_sI, if_pos ⟨rfl, rfl⟩]) (by omega) (by omega)
    · rw [if_neg q] at ho
      have hne := oI_ne (hch (sk tx j)) (show 59 ≤ 127 by omega) q
      refine z_icmp_eq (tgt := 103) (q := 91) C dX2_order_88 (by decide) rfl (fun c88 => absurd c88 hne) (fun c88 => ?_)
      exact x_throwF C hQ dX2_order_91 dX2_order_94 dX2_order_95 dX2_order_96 dX2_order_99 dX2_order_102 hk72 e2 (fun x σ' g1 g2 g3 => hfail x σ' g1 (by rw [ho]; exact g2) (hF3.tr (g3.up (by simp) (by simp) (by simp))) (by rw [ho])) (by omega) (by omega) (by omega)
  have st3 : ∀ (σ1 : Sg) (ch k j k1 n1 : Nat), ch ≤ 127 → FG [120] [] [] σ σ1 → fi σ1 120 (p 7) = nI j → j ≤ tx.length → ord tx i = ord3 tx ch k j → k1 ≤ 1 → n1 ≤ 7 → Zj (wX D) Y σ1 k1 n1 66 [some (.ref (p 7)), some (.int b), some (.int (nI ch)), some (.int (nI k)), none] [] := by
    intro σ1 ch k j k1 n1 hc hF g8 hj ho hk1 hn1
    have hk71 : kd σ1 (p 7) = 7 := hF.ek hk7
    unfold ord3 at ho
    refine z_il2 (q := 67) C dX2_order_66 rfl ?_
    refine z_bipush (q := 69) (v := nI 112) C dX2_order_67 rfl (by decide) ?_
    first | refine z_icmp_neN (tgt := 79) (q := 72) C dX2_order_69 (by decide) rfl (by omega) (by omega) (fun c69 => ?_) (fun c69 => ?_) | refine z_icmp_ne (tgt := 79) (q := 72) C dX2_order_69 (by decide) rfl (fun c69 => ?_) (fun c69 => ?_)
    · rw [if_neg c69] at ho
      refine z_iconst (q := 80) (v := nI 0) C dX2_order_79 rfl (by decide) ?_
      refine z_is4 (q := 82) C dX2_order_80 rfl (by first | exact loC_i | exact loC_r | exact loC_n | exact loC_q | exact loC_u) ?_
      exact st4 _ _ _ _ _ _ _ hF g8 hj ho (by omega) (by omega)
    · rw [if_pos c69] at ho
      have hn := num_in hj
      first | refine z_al0 (q := 73) C dX2_order_72 rfl ?_ | refine z_al0q (q := 73) C dX2_order_72 rfl ?_ | refine z_al0u (q := 73) C dX2_order_72 rfl ?_
      refine z_callVX (q := 76) C (cx_number (keep σ1 hF) hj g8) g_X2_47 (x_rcv KC6 hk71) dX2_order_73 rfl rfl rfl (Nat.le_of_ble_eq_true rfl) (by first | decide | omega) (by omega) (by omega) (kkI fun r73 σ73 h73 => ?_) (fun q73 σ73 h73 => ?_)
      · obtain ⟨hb, rfl, hF2, e8⟩ := h73
        rw [if_pos hb] at ho
        refine z_goto (tgt := 80) C dX2_order_76 (by decide) ?_
        refine z_is4 (q := 82) C dX2_order_80 rfl (by first | exact loC_i | exact loC_r | exact loC_n | exact loC_q | exact loC_u) ?_
        exact st4 _ _ _ _ _ _ _ (hF.tr hF2) e8 hn.2.1 ho (by omega) (by omega)
      · obtain ⟨hb, g1, g2, hF2⟩ := h73
        rw [if_neg (by rw [hb]; decide)] at ho
        exact zt_out C hQ g1 (hfail _ _ g1 (by rw [ho]; exact g2) (hF.tr hF2) (by rw [ho])) (by omega) (by omega)
  have st2 : ∀ (σ1 : Sg) (ch j : Nat), ch ≤ 127 → FG [120] [] [] σ σ1 → fi σ1 120 (p 7) = nI j → j ≤ tx.length → ord tx i = ord2 tx ch j → Zj (wX D) Y σ1 0 0 51 [some (.ref (p 7)), some (.int b), some (.int (nI ch)), none, none] [] := by
    intro σ1 ch j hc hF g8 hj ho
    have hk71 : kd σ1 (p 7) = 7 := hF.ek hk7
    unfold ord2 at ho
    refine z_il2 (q := 52) C dX2_order_51 rfl ?_
    refine z_bipush (q := 54) (v := nI 99) C dX2_order_52 rfl (by decide) ?_
    first | refine z_icmp_neN (tgt := 61) (q := 57) C dX2_order_54 (by decide) rfl (by omega) (by omega) (fun c54 => ?_) (fun c54 => ?_) | refine z_icmp_ne (tgt := 61) (q := 57) C dX2_order_54 (by decide) rfl (fun c54 => ?_) (fun c54 => ?_)
    · rw [if_neg c54] at ho
      have hn := num_in hj
      first | refine z_al0 (q := 62) C dX2_order_61 rfl ?_ | refine z_al0q (q := 62) C dX2_order_61 rfl ?_ | refine z_al0u (q := 62) C dX2_order_61 rfl ?_
      refine z_callVX (q := 65) C (cx_number (keep σ1 hF) hj g8) g_X2_47 (x_rcv KC6 hk71) dX2_order_62 rfl rfl rfl (Nat.le_of_ble_eq_true rfl) (by first | decide | omega) (by omega) (by omega) (kkI fun r62 σ62 h62 => ?_) (fun q62 σ62 h62 => ?_)
      · obtain ⟨hb, rfl, hF2, e8⟩ := h62
        rw [if_pos hb] at ho
        refine z_is3 (q := 66) C dX2_order_65 rfl (by first | exact loC_i | exact loC_r | exact loC_n | exact loC_q | exact loC_u) ?_
        exact st3 _ _ _ _ _ _ hc (hF.tr hF2) e8 hn.2.1 ho (by omega) (by omega)
      · obtain ⟨hb, g1, g2, hF2⟩ := h62
        rw [if_neg (by rw [hb]; decide)] at ho
        exact zt_out C hQ g1 (hfail _ _ g1 (by rw [ho]; exact g2) (hF.tr hF2) (by rw [ho])) (by omega) (by omega)
    · rw [if_pos c54] at ho
      have ho3 : ord tx i = ord3 tx ch 0 j := by unfold ord3; rw [if_neg (by omega)]; exact ho
      refine z_iconst (q := 58) (v := nI 0) C dX2_order_57 rfl (by decide) ?_
      refine z_goto (tgt := 65) C dX2_order_58 (by decide) ?_
      refine z_is3 (q := 66) C dX2_order_65 rfl (by first | exact loC_i | exact loC_r | exact loC_n | exact loC_q | exact loC_u) ?_
      exact st3 _ _ _ _ _ _ hc hF g8 hj ho3 (by omega) (by omega)
  first | refine z_al0 (q := 1) C dX2_order_0 rfl ?_ | refine z_al0q (q := 1) C dX2_order_0 rfl ?_ | refine z_al0u (q := 1) C dX2_order_0 rfl ?_
  refine xc_X2_34 (q := 4) C (cx_here (d := 0) hR hi h120) (by exact hk7) dX2_order_1 rfl rfl rfl (Nat.le_of_ble_eq_true rfl) (by first | decide | omega) (by omega) (by omega) (kkI fun r1 σ1 h1 => ?_)
  refine z_is2 (q := 5) C dX2_order_4 rfl (by first | exact loC_i | exact loC_r | exact loC_n | exact loC_q | exact loC_u) ?_
  obtain ⟨er, hF2, e2⟩ := h1
  subst er
  have hk72 : kd σ1 (p 7) = 7 := hF2.ek hk7
  have thr : ∀ t, (ord tx i) = (none, sk tx i) → Zj (wX D) Y σ1 0 0 29 (some (.ref (p 7)) :: t) [] := fun t ho => x_throwF C hQ dX2_order_29 dX2_order_32 dX2_order_33 dX2_order_34 dX2_order_37 dX2_order_40 hk72 e2 (fun x σ' g1 g2 g3 => hfail x σ' g1 (by rw [ho]; exact g2) (hF2.tr (g3.up (by simp) (by simp) (by simp))) (by rw [ho])) (by omega) (by omega) (by omega)
  cases hc : tx[sk tx i]? with
  | none =>
    have ho : ord tx i = (none, sk tx i) := by unfold ord; rw [hc]
    refine z_il2 (q := 6) C dX2_order_5 rfl ?_
    refine z_bipush (q := 8) (v := nI 112) C dX2_order_6 rfl (by decide) ?_
    refine z_icmp_eq (tgt := 41) (q := 11) C dX2_order_8 (by decide) rfl (fun c8 => ?_) (fun c8 => ?_)
    · exact absurd c8 (by decide)
    · refine z_il2 (q := 12) C dX2_order_11 rfl ?_
      refine z_bipush (q := 14) (v := nI 103) C dX2_order_12 rfl (by decide) ?_
      refine z_icmp_eq (tgt := 41) (q := 17) C dX2_order_14 (by decide) rfl (fun c14 => ?_) (fun c14 => ?_)
      · exact absurd c14 (by decide)
      · refine z_il2 (q := 18) C dX2_order_17 rfl ?_
        refine z_bipush (q := 20) (v := nI 114) C dX2_order_18 rfl (by decide) ?_
        refine z_icmp_eq (tgt := 41) (q := 23) C dX2_order_20 (by decide) rfl (fun c20 => ?_) (fun c20 => ?_)
        · exact absurd c20 (by decide)
        · refine z_il2 (q := 24) C dX2_order_23 rfl ?_
          refine z_bipush (q := 26) (v := nI 99) C dX2_order_24 rfl (by decide) ?_
          refine z_icmp_eq (tgt := 41) (q := 29) C dX2_order_26 (by decide) rfl (fun c26 => ?_) (fun c26 => ?_)
          · exact absurd c26 (by decide)
          · exact thr _ ho
  | some ch =>
    have hcl := hch _ _ hc
    have hil := (List.getElem?_eq_some_iff.mp hc).1
    have ho : ord tx i = if ch = 112 ∨ ch = 103 ∨ ch = 114 ∨ ch = 99 then ord2 tx ch (sk tx i + 1) else (none, sk tx i) := by unfold ord; rw [hc]
    have go : (ch = 112 ∨ ch = 103 ∨ ch = 114 ∨ ch = 99) → Zj (wX D) Y σ1 0 0 41 [some (.ref (p 7)), some (.int b), some (.int (nI ch)), none, none] [] := by
      intro q
      rw [if_pos q] at ho
      first | refine z_al0 (q := 42) C dX2_order_41 rfl ?_ | refine z_al0q (q := 42) C dX2_order_41 rfl ?_ | refine z_al0u (q := 42) C dX2_order_41 rfl ?_
      refine z_dup (q := 43) C dX2_order_42 rfl rfl ?_
      refine xg_X2_15 (q := 46) C (by exact hk72) dX2_order_43 rfl ?_
      rw [e2]
      refine z_iconst (q := 47) (v := nI 1) C dX2_order_46 rfl (by decide) ?_
      first | refine z_iaddN (q := 48) C dX2_order_47 rfl ?_ | refine z_iadd (q := 48) C dX2_order_47 rfl ?_
      refine xp_X2_15 (q := 51) C (by exact hk72) dX2_order_48 rfl ?_
      exact st2 _ ch (sk tx i + 1) hcl (hF2.wI (fun _ => by simp)) (by rw [fi_sI, if_pos ⟨rfl, rfl⟩]) (by omega) ho
    show Zj (wX D) Y σ1 _ _ 5 [some (.ref (p 7)), some (.int b), some (.int (nI ch)), none, none] []
    refine z_il2 (q := 6) C dX2_order_5 rfl ?_
    refine z_bipush (q := 8) (v := nI 112) C dX2_order_6 rfl (by decide) ?_
    first | refine z_icmp_eqN (tgt := 41) (q := 11) C dX2_order_8 (by decide) rfl (by omega) (by omega) (fun c8 => ?_) (fun c8 => ?_) | refine z_icmp_eq (tgt := 41) (q := 11) C dX2_order_8 (by decide) rfl (fun c8 => ?_) (fun c8 => ?_)
    · exact go (by omega)
    · refine z_il2 (q := 12) C dX2_order_11 rfl ?_
      refine z_bipush (q := 14) (v := nI 103) C dX2_order_12 rfl (by decide) ?_
      first | refine z_icmp_eqN (tgt := 41) (q := 17) C dX2_order_14 (by decide) rfl (by omega) (by omega) (fun c14 => ?_) (fun c14 => ?_) | refine z_icmp_eq (tgt := 41) (q := 17) C dX2_order_14 (by decide) rfl (fun c14 => ?_) (fun c14 => ?_)
      · exact go (by omega)
      · refine z_il2 (q := 18) C dX2_order_17 rfl ?_
        refine z_bipush (q := 20) (v := nI 114) C dX2_order_18 rfl (by decide) ?_
        first | refine z_icmp_eqN (tgt := 41) (q := 23) C dX2_order_20 (by decide) rfl (by omega) (by omega) (fun c20 => ?_) (fun c20 => ?_) | refine z_icmp_eq (tgt := 41) (q := 23) C dX2_order_20 (by decide) rfl (fun c20 => ?_) (fun c20 => ?_)
        · exact go (by omega)
        · refine z_il2 (q := 24) C dX2_order_23 rfl ?_
          refine z_bipush (q := 26) (v := nI 99) C dX2_order_24 rfl (by decide) ?_
          first | refine z_icmp_eqN (tgt := 41) (q := 29) C dX2_order_26 (by decide) rfl (by omega) (by omega) (fun c26 => ?_) (fun c26 => ?_) | refine z_icmp_eq (tgt := 41) (q := 29) C dX2_order_26 (by decide) rfl (fun c26 => ?_) (fun c26 => ?_)
          · exact go (by omega)
          · exact thr _ (by rw [ho, if_neg (by omega)])
end T88
