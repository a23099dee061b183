/-! the twin: nodes, counts -/
theorem k_pl_srt {c : Co} (h : CI c) {k e : Nat} (hp : k_pl c k = some e) : ∃ p, p < (k_srt c (k_b c k)).length ∧ (k_srt c (k_b c k)).getD p 0 = k := by
  obtain ⟨h1, h2, h3⟩ := k_pl_some hp
  have hm : k ∈ k_cs c := h.2.2.1.mem_iff.mpr (List.mem_map.mpr ⟨_, List.mem_of_getElem? h2, rfl⟩)
  have hr : k ∈ k_row c (k_b c k) := List.mem_filter.mpr ⟨hm, by simp⟩
  obtain ⟨p, hp⟩ := List.getElem?_of_mem ((k_srt_perm h _).mem_iff.mpr hr)
  have hl := (List.getElem?_eq_some_iff.mp hp).1
  refine ⟨p, hl, ?_⟩
  have := getD_of hl
  rw [hp] at this
  exact (Option.some.inj this).symm
theorem nI_bI (t : Nat) (v : Bool) : nI t + bI v = nI (t + if v = true then 1 else 0) := by
  cases v
  · exact nI_add t 0
  · exact nI_add t 1
theorem k_steps_le {c : Co} (h : CI c) (k : Nat) : k_steps c k ≤ 49 := by
  unfold k_steps
  split
  · exact k_dsc_le h _ _
  · have h1 : ∀ l : List Nat, stl k l ≤ l.length := by
      intro l
      induction l with
      | nil => exact Nat.le_refl _
      | cons x t ih =>
        unfold stl
        split
        · simp
        · simp; omega
    have h2 : (k_row c (k_b c k)).length ≤ _ := k_mi_le h (k_b c k)
    have h3 := h.2.2.2.1
    have := h1 (k_row c (k_b c k))
    omega
theorem sumN_le {f : Nat → Nat} {B : Nat} : ∀ n, (∀ i, i < n → f i ≤ B) → sumN f n ≤ n * B
  | 0, _ => Nat.zero_le _
  | n + 1, h => by
    have h1 := sumN_le n (fun i hi => h i (by omega))
    have h2 := h n (by omega)
    unfold sumN
    rw [Nat.add_mul]
    omega
section T32
variable {D : Dt} {o : Nat} {ad : Nat → Nat}
set_option maxHeartbeats 1000000 in
theorem ct_nodeFact {N : Nat} {c : Co} (τ : Tw) (hT : TC N (τ.2 0) c) (k w e : Nat) (hk : k ≤ 999999) (hw : w ≤ 3) (hp : k_pl c k = some e) : Ct (wT D o ad) yX5_nodeFact cX5_nodeFact 5 (some .int) [.ref o, .int (nI k), .int (nI w)] τ (PI (fun r τ' => TF [14, 16, 17, 18] [13, 15] τ τ' ∧ r = k_nf c k w)) 5 0 0 := by
  refine Ct.of KTok (by decide) (Nat.le_of_ble_eq_true rfl) rfl fun Y C hQ hNm => ?_
  have hw8 := hT.w
  have hkb := k_b_lt hT.1 k
  obtain ⟨hlen, hle⟩ := k_srt_le hT.1 (b := k_b c k)
  obtain ⟨p, hpl, hpk⟩ := k_pl_srt hT.1 hp
  obtain ⟨r, hr, hrk, hjl, hov⟩ := dsc_found (c := c) (k_srt_srt hT.1 (k_b c k)) (k_srt c (k_b c k)).length 0 (k_srt c (k_b c k)).length none 0 p (Nat.zero_le _) hpl (Nat.le_refl _) hpk (Nat.sub_le _ _)
  have hr : k_rt (k_srt c (k_b c k)) (k_dsc c (k_b c k) k).2.1 (k_dsc c (k_b c k) k).2.2.1 = some r := hr
  have hjl : (k_dsc c (k_b c k) k).2.2.1 ≤ (k_srt c (k_b c k)).length := hjl
  have hov : ∀ n, (k_dsc c (k_b c k) k).2.2.2 = some n → n < (k_srt c (k_b c k)).length := fun n hn => (hov n hn).elim id (fun z => by cases z)
  have hin := k_rt_in hr
  have q0 : k_nf c k 0 = oI ((k_rt (k_srt c (k_b c k)) (k_dsc c (k_b c k) k).2.1 r).map (fun n => (k_srt c (k_b c k)).getD n 0)) := by unfold k_nf; rw [hr]; rfl
  have q1 : k_nf c k 1 = oI ((k_rt (k_srt c (k_b c k)) (r + 1) (k_dsc c (k_b c k) k).2.2.1).map (fun n => (k_srt c (k_b c k)).getD n 0)) := by unfold k_nf; rw [hr]; rfl
  refine z_al0 (q := 1) C dX5_nodeFact_0 rfl ?_
  refine z_al0 (q := 2) C dX5_nodeFact_1 rfl ?_
  refine z_il1 (q := 3) C dX5_nodeFact_2 rfl ?_
  refine z_callVe (q := 6) C (ct_binOf τ hT k hk) g_X5_61 rcT dX5_nodeFact_3 rfl rfl rfl (Nat.le_of_ble_eq_true rfl) (by first | decide | omega) (Nat.le_refl _) (Nat.le_refl _) ?_
  refine z_il1 (q := 7) C dX5_nodeFact_6 rfl ?_
  refine z_callVi (q := 10) C (ct_descends τ hT (k_b c k) k (by omega) hk) g_X5_99 rcT dX5_nodeFact_7 rfl rfl rfl (Nat.le_of_ble_eq_true rfl) (by first | decide | omega) (Nat.le_refl _) (Nat.le_refl _) (fun r7 τ7 h7 => ?_)
  obtain ⟨hF, rfl, h17, h18, h16, h14, hA⟩ := h7
  refine z_is3 (q := 11) C dX5_nodeFact_10 rfl (by first | exact loC_i | exact loC_r | exact loC_n | exact loC_q | exact loC_u) ?_
  refine z_al0 (q := 12) C dX5_nodeFact_11 rfl ?_
  refine z_al0 (q := 13) C dX5_nodeFact_12 rfl ?_
  refine tg_82 (q := 16) C dX5_nodeFact_13 rfl ?_
  rw [h17]
  refine z_al0 (q := 17) C dX5_nodeFact_16 rfl ?_
  refine tg_85 (q := 20) C dX5_nodeFact_17 rfl ?_
  rw [h18]
  refine z_callVe (q := 23) C (ct_rootOf τ7 (k_srt c (k_b c k)) hA hle hlen _ _ (by omega) hjl) g_X5_91 rcT dX5_nodeFact_20 rfl rfl rfl (Nat.le_of_ble_eq_true rfl) (by first | decide | omega) (Nat.le_refl _) (Nat.le_refl _) ?_
  rw [hr]
  show Zj _ _ _ _ _ _ _ [Value.int (nI r)]
  refine z_is4 (q := 25) C dX5_nodeFact_23 rfl (by first | exact loC_i | exact loC_r | exact loC_n | exact loC_q | exact loC_u) ?_
  rcases (show w = 0 ∨ w = 1 ∨ w = 2 ∨ w = 3 by omega) with rfl | rfl | rfl | rfl
  · rw [q0] at hQ
    refine z_il2 (q := 26) C dX5_nodeFact_25 rfl ?_
    first | refine z_if_neB (tgt := 46) (q := 29) C dX5_nodeFact_26 (by decide) rfl (fun c26 => ?_) (fun c26 => ?_) | refine z_if_ne (tgt := 46) (q := 29) C dX5_nodeFact_26 (by decide) rfl (fun c26 => ?_) (fun c26 => ?_)
    · exact absurd rfl c26
    · refine z_al0 (q := 30) C dX5_nodeFact_29 rfl ?_
      refine z_al0 (q := 31) C dX5_nodeFact_30 rfl ?_
      refine z_al0 (q := 32) C dX5_nodeFact_31 rfl ?_
      refine tg_82 (q := 35) C dX5_nodeFact_32 rfl ?_
      rw [h17]
      refine z_il4 (q := 37) C dX5_nodeFact_35 rfl ?_
      refine z_callVe (q := 40) C (ct_rootOf τ7 (k_srt c (k_b c k)) hA hle hlen _ r hin.1 (by omega)) g_X5_91 rcT dX5_nodeFact_37 rfl rfl rfl (Nat.le_of_ble_eq_true rfl) (by first | decide | omega) (Nat.le_refl _) (Nat.le_refl _) ?_
      refine z_callVe (q := 43) C (ct_keyAt τ7 (k_srt c (k_b c k)) hA hlen _ (fun n hn => by have := k_rt_in hn; omega)) g_X5_171 rcT dX5_nodeFact_40 rfl rfl rfl (Nat.le_of_ble_eq_true rfl) (by first | decide | omega) (Nat.le_refl _) (Nat.le_refl _) ?_
      refine z_goto (tgt := 87) C dX5_nodeFact_43 (by decide) ?_
      refine z_iret C hQ dX5_nodeFact_87 (Nat.le_refl _) (Nat.le_refl _) ?_
      exact ⟨_, rfl, hF, rfl⟩
  · rw [q1] at hQ
    refine z_il2 (q := 26) C dX5_nodeFact_25 rfl ?_
    first | refine z_if_neB (tgt := 46) (q := 29) C dX5_nodeFact_26 (by decide) rfl (fun c26 => ?_) (fun c26 => ?_) | refine z_if_ne (tgt := 46) (q := 29) C dX5_nodeFact_26 (by decide) rfl (fun c26 => ?_) (fun c26 => ?_)
    · refine z_il2 (q := 47) C dX5_nodeFact_46 rfl ?_
      refine z_iconst (q := 48) (v := nI 1) C dX5_nodeFact_47 rfl (by decide) ?_
      first | refine z_icmp_neN (tgt := 70) (q := 51) C dX5_nodeFact_48 (by decide) rfl (by omega) (by omega) (fun c48 => ?_) (fun c48 => ?_) | refine z_icmp_ne (tgt := 70) (q := 51) C dX5_nodeFact_48 (by decide) rfl (fun c48 => ?_) (fun c48 => ?_)
      · exact absurd c48 (by omega)
      · refine z_al0 (q := 52) C dX5_nodeFact_51 rfl ?_
        refine z_al0 (q := 53) C dX5_nodeFact_52 rfl ?_
        refine z_il4 (q := 55) C dX5_nodeFact_53 rfl ?_
        refine z_iconst (q := 56) (v := nI 1) C dX5_nodeFact_55 rfl (by decide) ?_
        first | refine z_iaddN (q := 57) C dX5_nodeFact_56 rfl ?_ | refine z_iadd (q := 57) C dX5_nodeFact_56 rfl ?_
        refine z_al0 (q := 58) C dX5_nodeFact_57 rfl ?_
        refine tg_85 (q := 61) C dX5_nodeFact_58 rfl ?_
        rw [h18]
        refine z_callVe (q := 64) C (ct_rootOf τ7 (k_srt c (k_b c k)) hA hle hlen (r + 1) _ (by omega) hjl) g_X5_91 rcT dX5_nodeFact_61 rfl rfl rfl (Nat.le_of_ble_eq_true rfl) (by first | decide | omega) (Nat.le_refl _) (Nat.le_refl _) ?_
        refine z_callVe (q := 67) C (ct_keyAt τ7 (k_srt c (k_b c k)) hA hlen _ (fun n hn => by have := k_rt_in hn; omega)) g_X5_171 rcT dX5_nodeFact_64 rfl rfl rfl (Nat.le_of_ble_eq_true rfl) (by first | decide | omega) (Nat.le_refl _) (Nat.le_refl _) ?_
        refine z_goto (tgt := 87) C dX5_nodeFact_67 (by decide) ?_
        refine z_iret C hQ dX5_nodeFact_87 (Nat.le_refl _) (Nat.le_refl _) ?_
        exact ⟨_, rfl, hF, rfl⟩
    · exact absurd c26 (by decide)
  · refine z_il2 (q := 26) C dX5_nodeFact_25 rfl ?_
    first | refine z_if_neB (tgt := 46) (q := 29) C dX5_nodeFact_26 (by decide) rfl (fun c26 => ?_) (fun c26 => ?_) | refine z_if_ne (tgt := 46) (q := 29) C dX5_nodeFact_26 (by decide) rfl (fun c26 => ?_) (fun c26 => ?_)
    · refine z_il2 (q := 47) C dX5_nodeFact_46 rfl ?_
      refine z_iconst (q := 48) (v := nI 1) C dX5_nodeFact_47 rfl (by decide) ?_
      first | refine z_icmp_neN (tgt := 70) (q := 51) C dX5_nodeFact_48 (by decide) rfl (by omega) (by omega) (fun c48 => ?_) (fun c48 => ?_) | refine z_icmp_ne (tgt := 70) (q := 51) C dX5_nodeFact_48 (by decide) rfl (fun c48 => ?_) (fun c48 => ?_)
      · refine z_il2 (q := 71) C dX5_nodeFact_70 rfl ?_
        refine z_iconst (q := 72) (v := nI 2) C dX5_nodeFact_71 rfl (by decide) ?_
        first | refine z_icmp_neN (tgt := 86) (q := 75) C dX5_nodeFact_72 (by decide) rfl (by omega) (by omega) (fun c72 => ?_) (fun c72 => ?_) | refine z_icmp_ne (tgt := 86) (q := 75) C dX5_nodeFact_72 (by decide) rfl (fun c72 => ?_) (fun c72 => ?_)
        · exact absurd c72 (by omega)
        · refine z_al0 (q := 76) C dX5_nodeFact_75 rfl ?_
          refine z_al0 (q := 77) C dX5_nodeFact_76 rfl ?_
          refine tg_88 (q := 80) C dX5_nodeFact_77 rfl ?_
          rw [h16]
          refine z_callVe (q := 83) C (ct_keyAt τ7 (k_srt c (k_b c k)) hA hlen _ hov) g_X5_171 rcT dX5_nodeFact_80 rfl rfl rfl (Nat.le_of_ble_eq_true rfl) (by first | decide | omega) (Nat.le_refl _) (Nat.le_refl _) ?_
          refine z_goto (tgt := 87) C dX5_nodeFact_83 (by decide) ?_
          refine z_iret C hQ dX5_nodeFact_87 (Nat.le_refl _) (Nat.le_refl _) ?_
          exact ⟨_, rfl, hF, rfl⟩
      · exact absurd c48 (by omega)
    · exact absurd c26 (by decide)
  · refine z_il2 (q := 26) C dX5_nodeFact_25 rfl ?_
    first | refine z_if_neB (tgt := 46) (q := 29) C dX5_nodeFact_26 (by decide) rfl (fun c26 => ?_) (fun c26 => ?_) | refine z_if_ne (tgt := 46) (q := 29) C dX5_nodeFact_26 (by decide) rfl (fun c26 => ?_) (fun c26 => ?_)
    · refine z_il2 (q := 47) C dX5_nodeFact_46 rfl ?_
      refine z_iconst (q := 48) (v := nI 1) C dX5_nodeFact_47 rfl (by decide) ?_
      first | refine z_icmp_neN (tgt := 70) (q := 51) C dX5_nodeFact_48 (by decide) rfl (by omega) (by omega) (fun c48 => ?_) (fun c48 => ?_) | refine z_icmp_ne (tgt := 70) (q := 51) C dX5_nodeFact_48 (by decide) rfl (fun c48 => ?_) (fun c48 => ?_)
      · refine z_il2 (q := 71) C dX5_nodeFact_70 rfl ?_
        refine z_iconst (q := 72) (v := nI 2) C dX5_nodeFact_71 rfl (by decide) ?_
        first | refine z_icmp_neN (tgt := 86) (q := 75) C dX5_nodeFact_72 (by decide) rfl (by omega) (by omega) (fun c72 => ?_) (fun c72 => ?_) | refine z_icmp_ne (tgt := 86) (q := 75) C dX5_nodeFact_72 (by decide) rfl (fun c72 => ?_) (fun c72 => ?_)
        · refine z_il3 (q := 87) C dX5_nodeFact_86 rfl ?_
          refine z_iret C hQ dX5_nodeFact_87 (Nat.le_refl _) (Nat.le_refl _) ?_
          exact ⟨_, rfl, hF, rfl⟩
        · exact absurd c72 (by omega)
      · exact absurd c48 (by omega)
    · exact absurd c26 (by decide)
set_option maxHeartbeats 1000000 in
theorem ct_node {N : Nat} {α : Al} (τ : Tw) (hA : TA N τ α) (k w : Int32) (hN : N + 200 ≤ 1000000) : Ct (wT D o ad) yX5_node cX5_node 3 (some .int) [.ref o, .int k, .int w] τ (PI (fun r τ' => r = (a_node α k w).1 ∧ TA (N + 200) τ' (a_node α k w).2)) 7 0 0 := by
  refine Ct.of KTok (by decide) (Nat.le_of_ble_eq_true rfl) rfl fun Y C hQ hNm => ?_
  have hw8 := hA.1.1.w
  have hlen := hA.1.2
  cases hi : (isK k && inB w (nI 0) (nI 3)) with
  | false =>
    have e1 : a_node α k w = (-2, a_rfs α 0) := if_neg (by rw [hi]; decide)
    rw [e1] at hQ
    refine z_il1 (q := 1) C dX5_node_0 rfl ?_
    refine z_callSe (q := 4) C (ct_isKey τ k) g_X5_130 dX5_node_1 rfl rfl rfl (Nat.le_of_ble_eq_true rfl) (by first | decide | omega) (Nat.le_refl _) (Nat.le_refl _) ?_
    first | refine z_if_eqB (tgt := 16) (q := 7) C dX5_node_4 (by decide) rfl (fun c4 => ?_) (fun c4 => ?_) | refine z_if_eq (tgt := 16) (q := 7) C dX5_node_4 (by decide) rfl (fun c4 => ?_) (fun c4 => ?_)
    · refine z_al0 (q := 17) C dX5_node_16 rfl ?_
      refine z_bipush (q := 19) (v := -2) C dX5_node_17 rfl (by decide) ?_
      refine z_callVe (q := 22) C (ct_refuses τ (-2) 0 (by decide) (by decide)) g_X5_137 rcT dX5_node_19 rfl rfl rfl (Nat.le_of_ble_eq_true rfl) (by first | decide | omega) (Nat.le_refl _) (Nat.le_refl _) ?_
      refine z_iret C hQ dX5_node_22 (Nat.le_refl _) (Nat.le_refl _) ?_
      exact ⟨_, rfl, rfl, (hA.rfs (i := 0) (by decide)).mono (by omega) hN⟩
    · refine z_il2 (q := 8) C dX5_node_7 rfl ?_
      refine z_iconst (q := 9) (v := nI 0) C dX5_node_8 rfl (by decide) ?_
      refine z_iconst (q := 10) (v := nI 3) C dX5_node_9 rfl (by decide) ?_
      refine z_callSe (q := 13) C (ct_in τ w (nI 0) (nI 3)) g_X5_44 dX5_node_10 rfl rfl rfl (Nat.le_of_ble_eq_true rfl) (by first | decide | omega) (Nat.le_refl _) (Nat.le_refl _) ?_
      first | refine z_if_neB (tgt := 23) (q := 16) C dX5_node_13 (by decide) rfl (fun c13 => ?_) (fun c13 => ?_) | refine z_if_ne (tgt := 23) (q := 16) C dX5_node_13 (by decide) rfl (fun c13 => ?_) (fun c13 => ?_)
      · rw [show isK k = true from c4, c13] at hi; cases hi
      · refine z_al0 (q := 17) C dX5_node_16 rfl ?_
        refine z_bipush (q := 19) (v := -2) C dX5_node_17 rfl (by decide) ?_
        refine z_callVe (q := 22) C (ct_refuses τ (-2) 0 (by decide) (by decide)) g_X5_137 rcT dX5_node_19 rfl rfl rfl (Nat.le_of_ble_eq_true rfl) (by first | decide | omega) (Nat.le_refl _) (Nat.le_refl _) ?_
        refine z_iret C hQ dX5_node_22 (Nat.le_refl _) (Nat.le_refl _) ?_
        exact ⟨_, rfl, rfl, (hA.rfs (i := 0) (by decide)).mono (by omega) hN⟩
  | true =>
    obtain ⟨g1, g2⟩ := Bool.and_eq_true_iff.mp hi
    obtain ⟨ek, hk⟩ := isK_of g1
    obtain ⟨ew, hw⟩ := in_of (by decide) g2
    have e0 : a_node α k w = if (k_pl (a_c α) (kN k)).isSome = true ∧ k_tr (a_c α) (k_b (a_c α) (kN k)) = true then (k_nf (a_c α) (kN k) (kN w), α) else (-3, a_rfs α 1) := if_pos hi
    rw [e0] at hQ
    generalize kN k = kn at *
    generalize kN w = wn at *
    subst ek
    subst ew
    have hkb := k_b_lt hA.1.1.1 kn
    refine z_il1 (q := 1) C dX5_node_0 rfl ?_
    refine z_callSe (q := 4) C (ct_isKey τ (nI kn)) g_X5_130 dX5_node_1 rfl rfl rfl (Nat.le_of_ble_eq_true rfl) (by first | decide | omega) (Nat.le_refl _) (Nat.le_refl _) ?_
    first | refine z_if_eqB (tgt := 16) (q := 7) C dX5_node_4 (by decide) rfl (fun c4 => ?_) (fun c4 => ?_) | refine z_if_eq (tgt := 16) (q := 7) C dX5_node_4 (by decide) rfl (fun c4 => ?_) (fun c4 => ?_)
    · rw [show inB (nI kn) _ _ = true from g1] at c4; cases c4
    refine z_il2 (q := 8) C dX5_node_7 rfl ?_
    refine z_iconst (q := 9) (v := nI 0) C dX5_node_8 rfl (by decide) ?_
    refine z_iconst (q := 10) (v := nI 3) C dX5_node_9 rfl (by decide) ?_
    refine z_callSe (q := 13) C (ct_in τ (nI wn) (nI 0) (nI 3)) g_X5_44 dX5_node_10 rfl rfl rfl (Nat.le_of_ble_eq_true rfl) (by first | decide | omega) (Nat.le_refl _) (Nat.le_refl _) ?_
    first | refine z_if_neB (tgt := 23) (q := 16) C dX5_node_13 (by decide) rfl (fun c13 => ?_) (fun c13 => ?_) | refine z_if_ne (tgt := 23) (q := 16) C dX5_node_13 (by decide) rfl (fun c13 => ?_) (fun c13 => ?_)
    · cases hp : k_pl (a_c α) kn with
      | none =>
        rw [if_neg (by rw [hp]; simp)] at hQ
        refine z_al0 (q := 24) C dX5_node_23 rfl ?_
        refine z_il1 (q := 25) C dX5_node_24 rfl ?_
        refine z_callVe (q := 28) C (ct_placeN τ hA.1.1 kn (by omega) hp) g_X5_121 rcT dX5_node_25 rfl rfl rfl (Nat.le_of_ble_eq_true rfl) (by first | decide | omega) (Nat.le_refl _) (Nat.le_refl _) ?_
        refine z_iconst (q := 29) (v := -1) C dX5_node_28 rfl (by decide) ?_
        refine z_icmp_eq (tgt := 44) (q := 32) C dX5_node_29 (by decide) rfl (fun c29 => ?_) (fun c29 => ?_)
        · refine z_al0 (q := 45) C dX5_node_44 rfl ?_
          refine z_bipush (q := 47) (v := -3) C dX5_node_45 rfl (by decide) ?_
          refine z_callVe (q := 50) C (ct_refuses τ (-3) 1 (by decide) (by decide)) g_X5_137 rcT dX5_node_47 rfl rfl rfl (Nat.le_of_ble_eq_true rfl) (by first | decide | omega) (Nat.le_refl _) (Nat.le_refl _) ?_
          refine z_goto (tgt := 59) C dX5_node_50 (by decide) ?_
          refine z_iret C hQ dX5_node_59 (Nat.le_refl _) (Nat.le_refl _) ?_
          exact ⟨_, rfl, rfl, (hA.rfs (i := 1) (by decide)).mono (by omega) hN⟩
        · exact absurd rfl c29
      | some e =>
        obtain ⟨h1, h2, h3⟩ := k_pl_some hp
        cases ht : k_tr (a_c α) (k_b (a_c α) kn) with
        | false =>
          rw [if_neg (by rw [ht]; simp)] at hQ
          refine z_al0 (q := 24) C dX5_node_23 rfl ?_
          refine z_il1 (q := 25) C dX5_node_24 rfl ?_
          refine z_callVe (q := 28) C (ct_placeS τ hA.1.1 kn e (by omega) hp) g_X5_121 rcT dX5_node_25 rfl rfl rfl (Nat.le_of_ble_eq_true rfl) (by first | decide | omega) (Nat.le_refl _) (Nat.le_refl _) ?_
          refine z_iconst (q := 29) (v := -1) C dX5_node_28 rfl (by decide) ?_
          refine z_icmp_eq (tgt := 44) (q := 32) C dX5_node_29 (by decide) rfl (fun c29 => ?_) (fun c29 => ?_)
          · exact absurd c29 (nI_nm1 (by omega))
          · refine z_al0 (q := 33) C dX5_node_32 rfl ?_
            refine z_al0 (q := 34) C dX5_node_33 rfl ?_
            refine z_il1 (q := 35) C dX5_node_34 rfl ?_
            refine z_callVe (q := 38) C (ct_binOf τ hA.1.1 kn hk) g_X5_61 rcT dX5_node_35 rfl rfl rfl (Nat.le_of_ble_eq_true rfl) (by first | decide | omega) (Nat.le_refl _) (Nat.le_refl _) ?_
            refine z_callVe (q := 41) C (ct_isTree' τ hA.1.1 (k_b (a_c α) kn) false (by omega) ht) g_X5_95 rcT dX5_node_38 rfl rfl rfl (Nat.le_of_ble_eq_true rfl) (by first | decide | omega) (Nat.le_refl _) (Nat.le_refl _) ?_
            first | refine z_if_neB (tgt := 53) (q := 44) C dX5_node_41 (by decide) rfl (fun c41 => ?_) (fun c41 => ?_) | refine z_if_ne (tgt := 53) (q := 44) C dX5_node_41 (by decide) rfl (fun c41 => ?_) (fun c41 => ?_)
            · cases c41
            · refine z_al0 (q := 45) C dX5_node_44 rfl ?_
              refine z_bipush (q := 47) (v := -3) C dX5_node_45 rfl (by decide) ?_
              refine z_callVe (q := 50) C (ct_refuses τ (-3) 1 (by decide) (by decide)) g_X5_137 rcT dX5_node_47 rfl rfl rfl (Nat.le_of_ble_eq_true rfl) (by first | decide | omega) (Nat.le_refl _) (Nat.le_refl _) ?_
              refine z_goto (tgt := 59) C dX5_node_50 (by decide) ?_
              refine z_iret C hQ dX5_node_59 (Nat.le_refl _) (Nat.le_refl _) ?_
              exact ⟨_, rfl, rfl, (hA.rfs (i := 1) (by decide)).mono (by omega) hN⟩
        | true =>
          rw [if_pos ⟨by rw [hp]; rfl, ht⟩] at hQ
          refine z_al0 (q := 24) C dX5_node_23 rfl ?_
          refine z_il1 (q := 25) C dX5_node_24 rfl ?_
          refine z_callVe (q := 28) C (ct_placeS τ hA.1.1 kn e (by omega) hp) g_X5_121 rcT dX5_node_25 rfl rfl rfl (Nat.le_of_ble_eq_true rfl) (by first | decide | omega) (Nat.le_refl _) (Nat.le_refl _) ?_
          refine z_iconst (q := 29) (v := -1) C dX5_node_28 rfl (by decide) ?_
          refine z_icmp_eq (tgt := 44) (q := 32) C dX5_node_29 (by decide) rfl (fun c29 => ?_) (fun c29 => ?_)
          · exact absurd c29 (nI_nm1 (by omega))
          · refine z_al0 (q := 33) C dX5_node_32 rfl ?_
            refine z_al0 (q := 34) C dX5_node_33 rfl ?_
            refine z_il1 (q := 35) C dX5_node_34 rfl ?_
            refine z_callVe (q := 38) C (ct_binOf τ hA.1.1 kn hk) g_X5_61 rcT dX5_node_35 rfl rfl rfl (Nat.le_of_ble_eq_true rfl) (by first | decide | omega) (Nat.le_refl _) (Nat.le_refl _) ?_
            refine z_callVe (q := 41) C (ct_isTree' τ hA.1.1 (k_b (a_c α) kn) true (by omega) ht) g_X5_95 rcT dX5_node_38 rfl rfl rfl (Nat.le_of_ble_eq_true rfl) (by first | decide | omega) (Nat.le_refl _) (Nat.le_refl _) ?_
            first | refine z_if_neB (tgt := 53) (q := 44) C dX5_node_41 (by decide) rfl (fun c41 => ?_) (fun c41 => ?_) | refine z_if_ne (tgt := 53) (q := 44) C dX5_node_41 (by decide) rfl (fun c41 => ?_) (fun c41 => ?_)
            · refine z_al0 (q := 54) C dX5_node_53 rfl ?_
              refine z_il1 (q := 55) C dX5_node_54 rfl ?_
              refine z_il2 (q := 56) C dX5_node_55 rfl ?_
              refine z_callVi (q := 59) C (ct_nodeFact τ hA.1.1 kn wn e hk hw hp) g_X5_183 rcT dX5_node_56 rfl rfl rfl (Nat.le_of_ble_eq_true rfl) (by first | decide | omega) (Nat.le_refl _) (Nat.le_refl _) (fun r56 τ56 h56 => ?_)
              refine z_iret C hQ dX5_node_59 (Nat.le_refl _) (Nat.le_refl _) ?_
              exact ⟨_, rfl, h56.2, hA.read h56.1 hN⟩
            · cases c41
    · rw [g2] at c13; cases c13
set_option maxHeartbeats 2000000 in
theorem ct_countOf {N : Nat} {c : Co} (τ : Tw) (hT : TC N (τ.2 0) c) (ch : Nat) (h5 : τ.1 5 = nI ch) (w : Nat) (hw : w ≤ 7) : Ct (wT D o ad) yX5_countOf cX5_countOf 10 (some .int) [.ref o, .int (nI w)] τ (PI (fun r τ' => TF [14, 16, 17, 18] [13, 15] τ τ' ∧ r = k_cnt c ch w)) 7 0 0 := by
  refine Ct.of KTok (by decide) (Nat.le_of_ble_eq_true rfl) rfl fun Y C hQ hNm => ?_
  have hw8 := hT.w
  have hlen := hT.len
  have fin : ∀ (τ1 : Tw) (all e : Nat) (x8 x9 : Option Value), TF [14, 16, 17, 18] [13, 15] τ τ1 → (w = 5 → all = sumN (fun e => k_steps c (kAt c e)) (k_es c).length) → Zj (wT D o ad) Y τ1 0 0 152 [some (.ref o), some (.int (nI w)), some (.int (nI (cntN (k_tr c) (k_n c 1)))), some (.int (nI (mxN (k_mi c) (k_n c 1)))), some (.int (nI (mxN (k_lev c) (k_n c 1)))), some (.int (nI (cntN (fun b => k_mi c b == 0) (k_n c 1)))), some (.int (nI all)), some (.int (nI e)), x8, x9] [] := by
    intro τ1 all e x8 x9 hF hall
    have e0 : τ1.2 0 = τ.2 0 := hF.2 0 (by decide)
    have e5 : τ1.1 5 = nI ch := by rw [hF.1 5 (by decide)]; exact h5
    rcases (show w = 0 ∨ w = 1 ∨ w = 2 ∨ w = 3 ∨ w = 4 ∨ w = 5 ∨ w = 6 ∨ w = 7 by omega) with rfl | rfl | rfl | rfl | rfl | rfl | rfl | rfl
    · refine z_il1 (q := 153) C dX5_countOf_152 rfl ?_
      refine z_tswI (tgt := 196) C dX5_countOf_153 (by decide) (by decide) rfl (by decide) ?_
      refine z_al0 (q := 197) C dX5_countOf_196 rfl ?_
      refine tg_7 (q := 200) C dX5_countOf_197 rfl ?_
      refine z_iconst (q := 201) (v := nI 0) C dX5_countOf_200 rfl (by decide) ?_
      refine ta_ld0 (q := 202) C dX5_countOf_201 rfl (by omega) ?_
      rw [e0]
      rw [hT.a0]
      refine z_iret C hQ dX5_countOf_202 (Nat.le_refl _) (Nat.le_refl _) ?_
      exact ⟨_, rfl, hF, rfl⟩
    · refine z_il1 (q := 153) C dX5_countOf_152 rfl ?_
      refine z_tswI (tgt := 203) C dX5_countOf_153 (by decide) (by decide) rfl (by decide) ?_
      refine z_al0 (q := 204) C dX5_countOf_203 rfl ?_
      refine tg_7 (q := 207) C dX5_countOf_204 rfl ?_
      refine z_iconst (q := 208) (v := nI 1) C dX5_countOf_207 rfl (by decide) ?_
      refine ta_ld0 (q := 209) C dX5_countOf_208 rfl (by omega) ?_
      rw [e0]
      rw [hT.an (by omega) (by omega)]
      refine z_iret C hQ dX5_countOf_209 (Nat.le_refl _) (Nat.le_refl _) ?_
      exact ⟨_, rfl, hF, rfl⟩
    · refine z_il1 (q := 153) C dX5_countOf_152 rfl ?_
      refine z_tswI (tgt := 210) C dX5_countOf_153 (by decide) (by decide) rfl (by decide) ?_
      refine z_il2 (q := 211) C dX5_countOf_210 rfl ?_
      refine z_iret C hQ dX5_countOf_211 (Nat.le_refl _) (Nat.le_refl _) ?_
      exact ⟨_, rfl, hF, rfl⟩
    · refine z_il1 (q := 153) C dX5_countOf_152 rfl ?_
      refine z_tswI (tgt := 212) C dX5_countOf_153 (by decide) (by decide) rfl (by decide) ?_
      refine z_il3 (q := 213) C dX5_countOf_212 rfl ?_
      refine z_iret C hQ dX5_countOf_213 (Nat.le_refl _) (Nat.le_refl _) ?_
      exact ⟨_, rfl, hF, rfl⟩
    · refine z_il1 (q := 153) C dX5_countOf_152 rfl ?_
      refine z_tswI (tgt := 214) C dX5_countOf_153 (by decide) (by decide) rfl (by decide) ?_
      refine z_il4 (q := 216) C dX5_countOf_214 rfl ?_
      refine z_iret C hQ dX5_countOf_216 (Nat.le_refl _) (Nat.le_refl _) ?_
      exact ⟨_, rfl, hF, rfl⟩
    · rw [hall rfl]
      refine z_il1 (q := 153) C dX5_countOf_152 rfl ?_
      refine z_tswI (tgt := 217) C dX5_countOf_153 (by decide) (by decide) rfl (by decide) ?_
      refine z_il6 (q := 219) C dX5_countOf_217 rfl ?_
      refine z_iret C hQ dX5_countOf_219 (Nat.le_refl _) (Nat.le_refl _) ?_
      exact ⟨_, rfl, hF, rfl⟩
    · refine z_il1 (q := 153) C dX5_countOf_152 rfl ?_
      refine z_tswI (tgt := 220) C dX5_countOf_153 (by decide) (by decide) rfl (by decide) ?_
      refine z_il5 (q := 222) C dX5_countOf_220 rfl ?_
      refine z_iret C hQ dX5_countOf_222 (Nat.le_refl _) (Nat.le_refl _) ?_
      exact ⟨_, rfl, hF, rfl⟩
    · refine z_il1 (q := 153) C dX5_countOf_152 rfl ?_
      refine z_tswO (tgt := 223) C dX5_countOf_153 (by decide) (by decide) ?_
      refine z_al0 (q := 224) C dX5_countOf_223 rfl ?_
      refine tg_108 (q := 227) C dX5_countOf_224 rfl ?_
      rw [e5]
      refine z_iret C hQ dX5_countOf_227 (Nat.le_refl _) (Nat.le_refl _) ?_
      exact ⟨_, rfl, hF, rfl⟩
  have loop2 : ∀ m e, e + m = (k_es c).length → ∀ (τ1 : Tw) (x8 x9 : Option Value), TF [14, 16, 17, 18] [13, 15] τ τ1 → Zj (wT D o ad) Y τ1 0 0 111 [some (.ref o), some (.int (nI w)), some (.int (nI (cntN (k_tr c) (k_n c 1)))), some (.int (nI (mxN (k_mi c) (k_n c 1)))), some (.int (nI (mxN (k_lev c) (k_n c 1)))), some (.int (nI (cntN (fun b => k_mi c b == 0) (k_n c 1)))), some (.int (nI (sumN (fun e => k_steps c (kAt c e)) e))), some (.int (nI e)), x8, x9] [] := by
    intro m
    induction m with
    | zero =>
      intro e he τ1 x8 x9 hF
      have he : e = (k_es c).length := he
      subst he
      have e0 : τ1.2 0 = τ.2 0 := hF.2 0 (by decide)
      refine z_il7 (q := 113) C dX5_countOf_111 rfl ?_
      refine z_al0 (q := 114) C dX5_countOf_113 rfl ?_
      refine tg_7 (q := 117) C dX5_countOf_114 rfl ?_
      refine z_iconst (q := 118) (v := nI 0) C dX5_countOf_117 rfl (by decide) ?_
      refine ta_ld0 (q := 119) C dX5_countOf_118 rfl (by omega) ?_
      rw [e0]
      rw [hT.a0]
      first | refine z_icmp_geN (tgt := 152) (q := 122) C dX5_countOf_119 (by decide) rfl (by omega) (by omega) (fun c119 => ?_) (fun c119 => ?_) | refine z_icmp_ge (tgt := 152) (q := 122) C dX5_countOf_119 (by decide) rfl (fun c119 => ?_) (fun c119 => ?_)
      · exact fin τ1 _ _ _ _ hF (fun _ => rfl)
      · exact absurd c119 (by omega)
    | succ m ih =>
      intro e he τ1 x8 x9 hF
      have e0 : τ1.2 0 = τ.2 0 := hF.2 0 (by decide)
      obtain ⟨x, hx⟩ := at_lt (show e < (k_es c).length by omega)
      have hk := hT.key hx
      have hst : sumN (fun e => k_steps c (kAt c e)) (e + 1) = sumN (fun e => k_steps c (kAt c e)) e + k_steps c x.1 := by
        show _ + k_steps c (kAt c e) = _
        rw [kAt_of hx]
      refine z_il7 (q := 113) C dX5_countOf_111 rfl ?_
      refine z_al0 (q := 114) C dX5_countOf_113 rfl ?_
      refine tg_7 (q := 117) C dX5_countOf_114 rfl ?_
      refine z_iconst (q := 118) (v := nI 0) C dX5_countOf_117 rfl (by decide) ?_
      refine ta_ld0 (q := 119) C dX5_countOf_118 rfl (by omega) ?_
      rw [e0]
      rw [hT.a0]
      first | refine z_icmp_geN (tgt := 152) (q := 122) C dX5_countOf_119 (by decide) rfl (by omega) (by omega) (fun c119 => ?_) (fun c119 => ?_) | refine z_icmp_ge (tgt := 152) (q := 122) C dX5_countOf_119 (by decide) rfl (fun c119 => ?_) (fun c119 => ?_)
      · exact absurd c119 (by omega)
      refine z_il1 (q := 123) C dX5_countOf_122 rfl ?_
      refine z_iconst (q := 124) (v := nI 5) C dX5_countOf_123 rfl (by decide) ?_
      first | refine z_icmp_neN (tgt := 152) (q := 127) C dX5_countOf_124 (by decide) rfl (by omega) (by omega) (fun c124 => ?_) (fun c124 => ?_) | refine z_icmp_ne (tgt := 152) (q := 127) C dX5_countOf_124 (by decide) rfl (fun c124 => ?_) (fun c124 => ?_)
      · exact fin τ1 _ _ _ _ hF (fun z => absurd z c124)
      · refine z_il6 (q := 129) C dX5_countOf_127 rfl ?_
        refine z_al0 (q := 130) C dX5_countOf_129 rfl ?_
        refine z_al0 (q := 131) C dX5_countOf_130 rfl ?_
        refine tg_7 (q := 134) C dX5_countOf_131 rfl ?_
        refine z_bipush (q := 136) (v := nI 7) C dX5_countOf_134 rfl (by decide) ?_
        refine z_il7 (q := 138) C dX5_countOf_136 rfl ?_
        first | refine z_iaddN (q := 139) C dX5_countOf_138 rfl ?_ | refine z_iadd (q := 139) C dX5_countOf_138 rfl ?_
        refine ta_ld0 (q := 140) C dX5_countOf_139 rfl (by omega) ?_
        rw [e0]
        rw [hk.1]
        refine z_callVi (q := 143) C (ct_stepsTo τ1 (e0 ▸ hT) x.1 hk.2) g_X5_168 rcT dX5_countOf_140 rfl rfl rfl (Nat.le_of_ble_eq_true rfl) (by first | decide | omega) (Nat.le_refl _) (Nat.le_refl _) (fun r140 τ140 h140 => ?_)
        obtain ⟨hF2, rfl⟩ := h140
        first | refine z_iaddN (q := 144) C dX5_countOf_143 rfl ?_ | refine z_iadd (q := 144) C dX5_countOf_143 rfl ?_
        refine z_is6 (q := 146) C dX5_countOf_144 rfl (by first | exact loC_i | exact loC_r | exact loC_n | exact loC_q | exact loC_u) ?_
        first | refine z_iinc7N (q := 149) C dX5_countOf_146 rfl (by first | exact loC_i | exact loC_r | exact loC_n | exact loC_q | exact loC_u) ?_ | refine z_iinc7 (q := 149) C dX5_countOf_146 rfl rfl (by first | exact loC_i | exact loC_r | exact loC_n | exact loC_q | exact loC_u) ?_
        refine z_goto (tgt := 111) C dX5_countOf_149 (by decide) ?_
        have ih := ih (e + 1) (by omega) τ140 x8 x9 (hF.tr hF2)
        rw [hst] at ih
        exact ih
  have loop1 : ∀ m b, b + m = k_n c 1 → ∀ (τ1 : Tw) (x8 x9 : Option Value), loC x8 → loC x9 → TF [14, 16, 17, 18] [13, 15] τ τ1 → Zj (wT D o ad) Y τ1 0 0 16 [some (.ref o), some (.int (nI w)), some (.int (nI (cntN (k_tr c) b))), some (.int (nI (mxN (k_mi c) b))), some (.int (nI (mxN (k_lev c) b))), some (.int (nI (cntN (fun b => k_mi c b == 0) b))), some (.int (nI 0)), some (.int (nI b)), x8, x9] [] := by
    intro m
    induction m with
    | zero =>
      intro b hb τ1 x8 x9 g8 g9 hF
      have hb : b = k_n c 1 := hb
      subst hb
      have e0 : τ1.2 0 = τ.2 0 := hF.2 0 (by decide)
      refine z_il7 (q := 18) C dX5_countOf_16 rfl ?_
      refine z_al0 (q := 19) C dX5_countOf_18 rfl ?_
      refine tg_7 (q := 22) C dX5_countOf_19 rfl ?_
      refine z_iconst (q := 23) (v := nI 1) C dX5_countOf_22 rfl (by decide) ?_
      refine ta_ld0 (q := 24) C dX5_countOf_23 rfl (by omega) ?_
      rw [e0]
      rw [hT.an (by omega) (by omega)]
      first | refine z_icmp_geN (tgt := 108) (q := 27) C dX5_countOf_24 (by decide) rfl (by omega) (by omega) (fun c24 => ?_) (fun c24 => ?_) | refine z_icmp_ge (tgt := 108) (q := 27) C dX5_countOf_24 (by decide) rfl (fun c24 => ?_) (fun c24 => ?_)
      · refine z_iconst (q := 109) (v := nI 0) C dX5_countOf_108 rfl (by decide) ?_
        refine z_is7 (q := 111) C dX5_countOf_109 rfl (by first | exact loC_i | exact loC_r | exact loC_n | exact loC_q | exact loC_u) ?_
        exact loop2 _ 0 (Nat.zero_add _) τ1 _ _ hF
      · exact absurd c24 (by omega)
    | succ m ih =>
      intro b hb τ1 x8 x9 g8 g9 hF
      have e0 : τ1.2 0 = τ.2 0 := hF.2 0 (by decide)
      have b1 : k_mi c b ≤ 49 := Nat.le_trans (k_mi_le hT.1 b) hlen
      have b2 : k_lev c b ≤ 49 := by
        unfold k_lev
        split
        · exact k_deep_le hT.1 b
        · omega
      have b3 := mxN_le (f := k_mi c) (B := 49) b (fun i _ => Nat.le_trans (k_mi_le hT.1 i) hlen)
      have b4 := mxN_le (f := k_lev c) (B := 49) b (fun i _ => by
        unfold k_lev
        split
        · exact k_deep_le hT.1 i
        · omega)
      have s2 : cntN (k_tr c) (b + 1) = cntN (k_tr c) b + if k_tr c b = true then 1 else 0 := rfl
      have s3 : mxN (k_mi c) (b + 1) = if mxN (k_mi c) b < k_mi c b then k_mi c b else mxN (k_mi c) b := rfl
      have s4 : mxN (k_lev c) (b + 1) = if mxN (k_lev c) b < k_lev c b then k_lev c b else mxN (k_lev c) b := rfl
      have s5 : cntN (fun b => k_mi c b == 0) (b + 1) = cntN (fun b => k_mi c b == 0) b + if (k_mi c b == 0) = true then 1 else 0 := rfl
      have hz : ∀ z : nI (k_mi c b) = 0, (k_mi c b == 0) = true := fun z => by
        have := (nI_eq (by omega) (by omega)).mp (z.trans nI_0.symm)
        simp [this]
      have hz' : ∀ z : ¬ nI (k_mi c b) = 0, ¬ (k_mi c b == 0) = true := fun z g => z (by
        have : k_mi c b = 0 := by simpa using g
        rw [this]; rfl)
      refine z_il7 (q := 18) C dX5_countOf_16 rfl ?_
      refine z_al0 (q := 19) C dX5_countOf_18 rfl ?_
      refine tg_7 (q := 22) C dX5_countOf_19 rfl ?_
      refine z_iconst (q := 23) (v := nI 1) C dX5_countOf_22 rfl (by decide) ?_
      refine ta_ld0 (q := 24) C dX5_countOf_23 rfl (by omega) ?_
      rw [e0]
      rw [hT.an (by omega) (by omega)]
      first | refine z_icmp_geN (tgt := 108) (q := 27) C dX5_countOf_24 (by decide) rfl (by omega) (by omega) (fun c24 => ?_) (fun c24 => ?_) | refine z_icmp_ge (tgt := 108) (q := 27) C dX5_countOf_24 (by decide) rfl (fun c24 => ?_) (fun c24 => ?_)
      · exact absurd c24 (by omega)
      refine z_al0 (q := 28) C dX5_countOf_27 rfl ?_
      refine z_il7 (q := 30) C dX5_countOf_28 rfl ?_
      refine z_callVe (q := 33) C (ct_manyIn τ1 (e0 ▸ hT) b (by omega)) g_X5_102 rcT dX5_countOf_30 rfl rfl rfl (Nat.le_of_ble_eq_true rfl) (by first | decide | omega) (Nat.le_refl _) (Nat.le_refl _) ?_
      refine z_is8 (q := 35) C dX5_countOf_33 rfl (by first | exact loC_i | exact loC_r | exact loC_n | exact loC_q | exact loC_u) ?_
      refine z_al0 (q := 36) C dX5_countOf_35 rfl ?_
      refine z_il7 (q := 38) C dX5_countOf_36 rfl ?_
      refine z_iconst (q := 39) (v := nI 3) C dX5_countOf_38 rfl (by decide) ?_
      refine z_callVi (q := 42) C (ct_binFact τ1 (e0 ▸ hT) b 3 (by omega) (by omega)) g_X5_177 rcT dX5_countOf_39 rfl rfl rfl (Nat.le_of_ble_eq_true rfl) (by first | decide | omega) (Nat.le_refl _) (Nat.le_refl _) (fun r39 τ39 h39 => ?_)
      obtain ⟨hF2, hr⟩ := h39
      have hr : r39 = nI (k_lev c b) := hr
      subst hr
      refine z_is9 (q := 44) C dX5_countOf_42 rfl (by first | exact loC_i | exact loC_r | exact loC_n | exact loC_q | exact loC_u) ?_
      have e02 : τ39.2 0 = τ.2 0 := (hF.tr hF2).2 0 (by decide)
      have ih := ih (b + 1) (by omega) τ39 _ _ (loC_i (x := nI (k_mi c b))) (loC_i (x := nI (k_lev c b))) (hF.tr hF2)
      rw [s2, s3, s4, s5] at ih
      refine z_il2 (q := 45) C dX5_countOf_44 rfl ?_
      refine z_al0 (q := 46) C dX5_countOf_45 rfl ?_
      refine tg_7 (q := 49) C dX5_countOf_46 rfl ?_
      refine z_sipush (q := 52) (v := nI 154) C dX5_countOf_49 rfl (by decide) ?_
      refine z_il7 (q := 54) C dX5_countOf_52 rfl ?_
      first | refine z_iaddN (q := 55) C dX5_countOf_54 rfl ?_ | refine z_iadd (q := 55) C dX5_countOf_54 rfl ?_
      refine ta_ld0 (q := 56) C dX5_countOf_55 rfl (by omega) ?_
      rw [e02]
      rw [hT.tree (show b < 64 by omega)]
      first | refine z_iaddN (q := 57) C dX5_countOf_56 rfl ?_ | refine z_iadd (q := 57) C dX5_countOf_56 rfl ?_
      rw [nI_bI]
      refine z_is2 (q := 58) C dX5_countOf_57 rfl (by first | exact loC_i | exact loC_r | exact loC_n | exact loC_q | exact loC_u) ?_
      refine z_il8 (q := 60) C dX5_countOf_58 rfl ?_
      refine z_il3 (q := 61) C dX5_countOf_60 rfl ?_
      first | refine z_icmp_leN (tgt := 69) (q := 64) C dX5_countOf_61 (by decide) rfl (by omega) (by omega) (fun c61 => ?_) (fun c61 => ?_) | refine z_icmp_le (tgt := 69) (q := 64) C dX5_countOf_61 (by decide) rfl (fun c61 => ?_) (fun c61 => ?_)
      · refine z_il3 (q := 70) C dX5_countOf_69 rfl ?_
        refine z_is3 (q := 71) C dX5_countOf_70 rfl (by first | exact loC_i | exact loC_r | exact loC_n | exact loC_q | exact loC_u) ?_
        refine z_il9 (q := 73) C dX5_countOf_71 rfl ?_
        refine z_il4 (q := 75) C dX5_countOf_73 rfl ?_
        first | refine z_icmp_leN (tgt := 83) (q := 78) C dX5_countOf_75 (by decide) rfl (by omega) (by omega) (fun c75 => ?_) (fun c75 => ?_) | refine z_icmp_le (tgt := 83) (q := 78) C dX5_countOf_75 (by decide) rfl (fun c75 => ?_) (fun c75 => ?_)
        · refine z_il4 (q := 85) C dX5_countOf_83 rfl ?_
          refine z_is4 (q := 87) C dX5_countOf_85 rfl (by first | exact loC_i | exact loC_r | exact loC_n | exact loC_q | exact loC_u) ?_
          refine z_il5 (q := 89) C dX5_countOf_87 rfl ?_
          refine z_il8 (q := 91) C dX5_countOf_89 rfl ?_
          first | refine z_if_neB (tgt := 98) (q := 94) C dX5_countOf_91 (by decide) rfl (fun c91 => ?_) (fun c91 => ?_) | refine z_if_ne (tgt := 98) (q := 94) C dX5_countOf_91 (by decide) rfl (fun c91 => ?_) (fun c91 => ?_)
          · refine z_iconst (q := 99) (v := nI 0) C dX5_countOf_98 rfl (by decide) ?_
            first | refine z_iaddN (q := 100) C dX5_countOf_99 rfl ?_ | refine z_iadd (q := 100) C dX5_countOf_99 rfl ?_
            refine z_is5 (q := 102) C dX5_countOf_100 rfl (by first | exact loC_i | exact loC_r | exact loC_n | exact loC_q | exact loC_u) ?_
            first | refine z_iinc7N (q := 105) C dX5_countOf_102 rfl (by first | exact loC_i | exact loC_r | exact loC_n | exact loC_q | exact loC_u) ?_ | refine z_iinc7 (q := 105) C dX5_countOf_102 rfl rfl (by first | exact loC_i | exact loC_r | exact loC_n | exact loC_q | exact loC_u) ?_
            refine z_goto (tgt := 16) C dX5_countOf_105 (by decide) ?_
            first | rw [if_pos c61'] at ih | skip
            first | rw [if_pos (show mxN (k_mi c) b < k_mi c b from c61)] at ih | rw [if_neg (show ¬ mxN (k_mi c) b < k_mi c b from Nat.not_lt.mpr c61)] at ih
            first | rw [if_pos (show mxN (k_lev c) b < k_lev c b from c75)] at ih | rw [if_neg (show ¬ mxN (k_lev c) b < k_lev c b from Nat.not_lt.mpr c75)] at ih
            first | (rw [if_pos (hz c91)] at ih; exact ih) | (rw [if_neg (hz' c91)] at ih; exact ih)
          · refine z_iconst (q := 95) (v := nI 1) C dX5_countOf_94 rfl (by decide) ?_
            refine z_goto (tgt := 99) C dX5_countOf_95 (by decide) ?_
            first | refine z_iaddN (q := 100) C dX5_countOf_99 rfl ?_ | refine z_iadd (q := 100) C dX5_countOf_99 rfl ?_
            refine z_is5 (q := 102) C dX5_countOf_100 rfl (by first | exact loC_i | exact loC_r | exact loC_n | exact loC_q | exact loC_u) ?_
            first | refine z_iinc7N (q := 105) C dX5_countOf_102 rfl (by first | exact loC_i | exact loC_r | exact loC_n | exact loC_q | exact loC_u) ?_ | refine z_iinc7 (q := 105) C dX5_countOf_102 rfl rfl (by first | exact loC_i | exact loC_r | exact loC_n | exact loC_q | exact loC_u) ?_
            refine z_goto (tgt := 16) C dX5_countOf_105 (by decide) ?_
            first | rw [if_pos c61'] at ih | skip
            first | rw [if_pos (show mxN (k_mi c) b < k_mi c b from c61)] at ih | rw [if_neg (show ¬ mxN (k_mi c) b < k_mi c b from Nat.not_lt.mpr c61)] at ih
            first | rw [if_pos (show mxN (k_lev c) b < k_lev c b from c75)] at ih | rw [if_neg (show ¬ mxN (k_lev c) b < k_lev c b from Nat.not_lt.mpr c75)] at ih
            first | (rw [if_pos (hz c91)] at ih; exact ih) | (rw [if_neg (hz' c91)] at ih; exact ih)
        · refine z_il9 (q := 80) C dX5_countOf_78 rfl ?_
          refine z_goto (tgt := 85) C dX5_countOf_80 (by decide) ?_
          refine z_is4 (q := 87) C dX5_countOf_85 rfl (by first | exact loC_i | exact loC_r | exact loC_n | exact loC_q | exact loC_u) ?_
          refine z_il5 (q := 89) C dX5_countOf_87 rfl ?_
          refine z_il8 (q := 91) C dX5_countOf_89 rfl ?_
          first | refine z_if_neB (tgt := 98) (q := 94) C dX5_countOf_91 (by decide) rfl (fun c91 => ?_) (fun c91 => ?_) | refine z_if_ne (tgt := 98) (q := 94) C dX5_countOf_91 (by decide) rfl (fun c91 => ?_) (fun c91 => ?_)
          · refine z_iconst (q := 99) (v := nI 0) C dX5_countOf_98 rfl (by decide) ?_
            first | refine z_iaddN (q := 100) C dX5_countOf_99 rfl ?_ | refine z_iadd (q := 100) C dX5_countOf_99 rfl ?_
            refine z_is5 (q := 102) C dX5_countOf_100 rfl (by first | exact loC_i | exact loC_r | exact loC_n | exact loC_q | exact loC_u) ?_
            first | refine z_iinc7N (q := 105) C dX5_countOf_102 rfl (by first | exact loC_i | exact loC_r | exact loC_n | exact loC_q | exact loC_u) ?_ | refine z_iinc7 (q := 105) C dX5_countOf_102 rfl rfl (by first | exact loC_i | exact loC_r | exact loC_n | exact loC_q | exact loC_u) ?_
            refine z_goto (tgt := 16) C dX5_countOf_105 (by decide) ?_
            first | rw [if_pos c61'] at ih | skip
            first | rw [if_pos (show mxN (k_mi c) b < k_mi c b from c61)] at ih | rw [if_neg (show ¬ mxN (k_mi c) b < k_mi c b from Nat.not_lt.mpr c61)] at ih
            first | rw [if_pos (show mxN (k_lev c) b < k_lev c b from c75)] at ih | rw [if_neg (show ¬ mxN (k_lev c) b < k_lev c b from Nat.not_lt.mpr c75)] at ih
            first | (rw [if_pos (hz c91)] at ih; exact ih) | (rw [if_neg (hz' c91)] at ih; exact ih)
          · refine z_iconst (q := 95) (v := nI 1) C dX5_countOf_94 rfl (by decide) ?_
            refine z_goto (tgt := 99) C dX5_countOf_95 (by decide) ?_
            first | refine z_iaddN (q := 100) C dX5_countOf_99 rfl ?_ | refine z_iadd (q := 100) C dX5_countOf_99 rfl ?_
            refine z_is5 (q := 102) C dX5_countOf_100 rfl (by first | exact loC_i | exact loC_r | exact loC_n | exact loC_q | exact loC_u) ?_
            first | refine z_iinc7N (q := 105) C dX5_countOf_102 rfl (by first | exact loC_i | exact loC_r | exact loC_n | exact loC_q | exact loC_u) ?_ | refine z_iinc7 (q := 105) C dX5_countOf_102 rfl rfl (by first | exact loC_i | exact loC_r | exact loC_n | exact loC_q | exact loC_u) ?_
            refine z_goto (tgt := 16) C dX5_countOf_105 (by decide) ?_
            first | rw [if_pos c61'] at ih | skip
            first | rw [if_pos (show mxN (k_mi c) b < k_mi c b from c61)] at ih | rw [if_neg (show ¬ mxN (k_mi c) b < k_mi c b from Nat.not_lt.mpr c61)] at ih
            first | rw [if_pos (show mxN (k_lev c) b < k_lev c b from c75)] at ih | rw [if_neg (show ¬ mxN (k_lev c) b < k_lev c b from Nat.not_lt.mpr c75)] at ih
            first | (rw [if_pos (hz c91)] at ih; exact ih) | (rw [if_neg (hz' c91)] at ih; exact ih)
      · refine z_il8 (q := 66) C dX5_countOf_64 rfl ?_
        refine z_goto (tgt := 70) C dX5_countOf_66 (by decide) ?_
        refine z_is3 (q := 71) C dX5_countOf_70 rfl (by first | exact loC_i | exact loC_r | exact loC_n | exact loC_q | exact loC_u) ?_
        refine z_il9 (q := 73) C dX5_countOf_71 rfl ?_
        refine z_il4 (q := 75) C dX5_countOf_73 rfl ?_
        first | refine z_icmp_leN (tgt := 83) (q := 78) C dX5_countOf_75 (by decide) rfl (by omega) (by omega) (fun c75 => ?_) (fun c75 => ?_) | refine z_icmp_le (tgt := 83) (q := 78) C dX5_countOf_75 (by decide) rfl (fun c75 => ?_) (fun c75 => ?_)
        · refine z_il4 (q := 85) C dX5_countOf_83 rfl ?_
          refine z_is4 (q := 87) C dX5_countOf_85 rfl (by first | exact loC_i | exact loC_r | exact loC_n | exact loC_q | exact loC_u) ?_
          refine z_il5 (q := 89) C dX5_countOf_87 rfl ?_
          refine z_il8 (q := 91) C dX5_countOf_89 rfl ?_
          first | refine z_if_neB (tgt := 98) (q := 94) C dX5_countOf_91 (by decide) rfl (fun c91 => ?_) (fun c91 => ?_) | refine z_if_ne (tgt := 98) (q := 94) C dX5_countOf_91 (by decide) rfl (fun c91 => ?_) (fun c91 => ?_)
          · refine z_iconst (q := 99) (v := nI 0) C dX5_countOf_98 rfl (by decide) ?_
            first | refine z_iaddN (q := 100) C dX5_countOf_99 rfl ?_ | refine z_iadd (q := 100) C dX5_countOf_99 rfl ?_
            refine z_is5 (q := 102) C dX5_countOf_100 rfl (by first | exact loC_i | exact loC_r | exact loC_n | exact loC_q | exact loC_u) ?_
            first | refine z_iinc7N (q := 105) C dX5_countOf_102 rfl (by first | exact loC_i | exact loC_r | exact loC_n | exact loC_q | exact loC_u) ?_ | refine z_iinc7 (q := 105) C dX5_countOf_102 rfl rfl (by first | exact loC_i | exact loC_r | exact loC_n | exact loC_q | exact loC_u) ?_
            refine z_goto (tgt := 16) C dX5_countOf_105 (by decide) ?_
            first | rw [if_pos c61'] at ih | skip
            first | rw [if_pos (show mxN (k_mi c) b < k_mi c b from c61)] at ih | rw [if_neg (show ¬ mxN (k_mi c) b < k_mi c b from Nat.not_lt.mpr c61)] at ih
            first | rw [if_pos (show mxN (k_lev c) b < k_lev c b from c75)] at ih | rw [if_neg (show ¬ mxN (k_lev c) b < k_lev c b from Nat.not_lt.mpr c75)] at ih
            first | (rw [if_pos (hz c91)] at ih; exact ih) | (rw [if_neg (hz' c91)] at ih; exact ih)
          · refine z_iconst (q := 95) (v := nI 1) C dX5_countOf_94 rfl (by decide) ?_
            refine z_goto (tgt := 99) C dX5_countOf_95 (by decide) ?_
            first | refine z_iaddN (q := 100) C dX5_countOf_99 rfl ?_ | refine z_iadd (q := 100) C dX5_countOf_99 rfl ?_
            refine z_is5 (q := 102) C dX5_countOf_100 rfl (by first | exact loC_i | exact loC_r | exact loC_n | exact loC_q | exact loC_u) ?_
            first | refine z_iinc7N (q := 105) C dX5_countOf_102 rfl (by first | exact loC_i | exact loC_r | exact loC_n | exact loC_q | exact loC_u) ?_ | refine z_iinc7 (q := 105) C dX5_countOf_102 rfl rfl (by first | exact loC_i | exact loC_r | exact loC_n | exact loC_q | exact loC_u) ?_
            refine z_goto (tgt := 16) C dX5_countOf_105 (by decide) ?_
            first | rw [if_pos c61'] at ih | skip
            first | rw [if_pos (show mxN (k_mi c) b < k_mi c b from c61)] at ih | rw [if_neg (show ¬ mxN (k_mi c) b < k_mi c b from Nat.not_lt.mpr c61)] at ih
            first | rw [if_pos (show mxN (k_lev c) b < k_lev c b from c75)] at ih | rw [if_neg (show ¬ mxN (k_lev c) b < k_lev c b from Nat.not_lt.mpr c75)] at ih
            first | (rw [if_pos (hz c91)] at ih; exact ih) | (rw [if_neg (hz' c91)] at ih; exact ih)
        · refine z_il9 (q := 80) C dX5_countOf_78 rfl ?_
          refine z_goto (tgt := 85) C dX5_countOf_80 (by decide) ?_
          refine z_is4 (q := 87) C dX5_countOf_85 rfl (by first | exact loC_i | exact loC_r | exact loC_n | exact loC_q | exact loC_u) ?_
          refine z_il5 (q := 89) C dX5_countOf_87 rfl ?_
          refine z_il8 (q := 91) C dX5_countOf_89 rfl ?_
          first | refine z_if_neB (tgt := 98) (q := 94) C dX5_countOf_91 (by decide) rfl (fun c91 => ?_) (fun c91 => ?_) | refine z_if_ne (tgt := 98) (q := 94) C dX5_countOf_91 (by decide) rfl (fun c91 => ?_) (fun c91 => ?_)
          · refine z_iconst (q := 99) (v := nI 0) C dX5_countOf_98 rfl (by decide) ?_
            first | refine z_iaddN (q := 100) C dX5_countOf_99 rfl ?_ | refine z_iadd (q := 100) C dX5_countOf_99 rfl ?_
            refine z_is5 (q := 102) C dX5_countOf_100 rfl (by first | exact loC_i | exact loC_r | exact loC_n | exact loC_q | exact loC_u) ?_
            first | refine z_iinc7N (q := 105) C dX5_countOf_102 rfl (by first | exact loC_i | exact loC_r | exact loC_n | exact loC_q | exact loC_u) ?_ | refine z_iinc7 (q := 105) C dX5_countOf_102 rfl rfl (by first | exact loC_i | exact loC_r | exact loC_n | exact loC_q | exact loC_u) ?_
            refine z_goto (tgt := 16) C dX5_countOf_105 (by decide) ?_
            first | rw [if_pos c61'] at ih | skip
            first | rw [if_pos (show mxN (k_mi c) b < k_mi c b from c61)] at ih | rw [if_neg (show ¬ mxN (k_mi c) b < k_mi c b from Nat.not_lt.mpr c61)] at ih
            first | rw [if_pos (show mxN (k_lev c) b < k_lev c b from c75)] at ih | rw [if_neg (show ¬ mxN (k_lev c) b < k_lev c b from Nat.not_lt.mpr c75)] at ih
            first | (rw [if_pos (hz c91)] at ih; exact ih) | (rw [if_neg (hz' c91)] at ih; exact ih)
          · refine z_iconst (q := 95) (v := nI 1) C dX5_countOf_94 rfl (by decide) ?_
            refine z_goto (tgt := 99) C dX5_countOf_95 (by decide) ?_
            first | refine z_iaddN (q := 100) C dX5_countOf_99 rfl ?_ | refine z_iadd (q := 100) C dX5_countOf_99 rfl ?_
            refine z_is5 (q := 102) C dX5_countOf_100 rfl (by first | exact loC_i | exact loC_r | exact loC_n | exact loC_q | exact loC_u) ?_
            first | refine z_iinc7N (q := 105) C dX5_countOf_102 rfl (by first | exact loC_i | exact loC_r | exact loC_n | exact loC_q | exact loC_u) ?_ | refine z_iinc7 (q := 105) C dX5_countOf_102 rfl rfl (by first | exact loC_i | exact loC_r | exact loC_n | exact loC_q | exact loC_u) ?_
            refine z_goto (tgt := 16) C dX5_countOf_105 (by decide) ?_
            first | rw [if_pos c61'] at ih | skip
            first | rw [if_pos (show mxN (k_mi c) b < k_mi c b from c61)] at ih | rw [if_neg (show ¬ mxN (k_mi c) b < k_mi c b from Nat.not_lt.mpr c61)] at ih
            first | rw [if_pos (show mxN (k_lev c) b < k_lev c b from c75)] at ih | rw [if_neg (show ¬ mxN (k_lev c) b < k_lev c b from Nat.not_lt.mpr c75)] at ih
            first | (rw [if_pos (hz c91)] at ih; exact ih) | (rw [if_neg (hz' c91)] at ih; exact ih)
  refine z_iconst (q := 1) (v := nI 0) C dX5_countOf_0 rfl (by decide) ?_
  refine z_is2 (q := 2) C dX5_countOf_1 rfl (by first | exact loC_i | exact loC_r | exact loC_n | exact loC_q | exact loC_u) ?_
  refine z_iconst (q := 3) (v := nI 0) C dX5_countOf_2 rfl (by decide) ?_
  refine z_is3 (q := 4) C dX5_countOf_3 rfl (by first | exact loC_i | exact loC_r | exact loC_n | exact loC_q | exact loC_u) ?_
  refine z_iconst (q := 5) (v := nI 0) C dX5_countOf_4 rfl (by decide) ?_
  refine z_is4 (q := 7) C dX5_countOf_5 rfl (by first | exact loC_i | exact loC_r | exact loC_n | exact loC_q | exact loC_u) ?_
  refine z_iconst (q := 8) (v := nI 0) C dX5_countOf_7 rfl (by decide) ?_
  refine z_is5 (q := 10) C dX5_countOf_8 rfl (by first | exact loC_i | exact loC_r | exact loC_n | exact loC_q | exact loC_u) ?_
  refine z_iconst (q := 11) (v := nI 0) C dX5_countOf_10 rfl (by decide) ?_
  refine z_is6 (q := 13) C dX5_countOf_11 rfl (by first | exact loC_i | exact loC_r | exact loC_n | exact loC_q | exact loC_u) ?_
  refine z_iconst (q := 14) (v := nI 0) C dX5_countOf_13 rfl (by decide) ?_
  refine z_is7 (q := 16) C dX5_countOf_14 rfl (by first | exact loC_i | exact loC_r | exact loC_n | exact loC_q | exact loC_u) ?_
  exact loop1 _ 0 (Nat.zero_add _) τ _ _ loC_n loC_n TF.rf
set_option maxHeartbeats 1000000 in
theorem ct_count {N : Nat} {α : Al} (τ : Tw) (hA : TA N τ α) (w : Int32) (hN : N + 200 ≤ 1000000) : Ct (wT D o ad) yX5_count cX5_count 2 (some .int) [.ref o, .int w] τ (PI (fun r τ' => r = (a_count α w).1 ∧ TA (N + 200) τ' (a_count α w).2)) 8 0 0 := by
  refine Ct.of KTok (by decide) (Nat.le_of_ble_eq_true rfl) rfl fun Y C hQ hNm => ?_
  cases hi : inB w (nI 0) (nI 7) with
  | false =>
    have e1 : a_count α w = (-2, a_rfs α 0) := if_neg (by rw [hi]; decide)
    rw [e1] at hQ
    refine z_il1 (q := 1) C dX5_count_0 rfl ?_
    refine z_iconst (q := 2) (v := nI 0) C dX5_count_1 rfl (by decide) ?_
    refine z_bipush (q := 4) (v := nI 7) C dX5_count_2 rfl (by decide) ?_
    refine z_callSe (q := 7) C (ct_in τ w (nI 0) (nI 7)) g_X5_44 dX5_count_4 rfl rfl rfl (Nat.le_of_ble_eq_true rfl) (by first | decide | omega) (Nat.le_refl _) (Nat.le_refl _) ?_
    first | refine z_if_eqB (tgt := 18) (q := 10) C dX5_count_7 (by decide) rfl (fun c7 => ?_) (fun c7 => ?_) | refine z_if_eq (tgt := 18) (q := 10) C dX5_count_7 (by decide) rfl (fun c7 => ?_) (fun c7 => ?_)
    · refine z_al0 (q := 19) C dX5_count_18 rfl ?_
      refine z_bipush (q := 21) (v := -2) C dX5_count_19 rfl (by decide) ?_
      refine z_callVe (q := 24) C (ct_refuses τ (-2) 0 (by decide) (by decide)) g_X5_137 rcT dX5_count_21 rfl rfl rfl (Nat.le_of_ble_eq_true rfl) (by first | decide | omega) (Nat.le_refl _) (Nat.le_refl _) ?_
      refine z_iret C hQ dX5_count_24 (Nat.le_refl _) (Nat.le_refl _) ?_
      exact ⟨_, rfl, rfl, (hA.rfs (i := 0) (by decide)).mono (by omega) hN⟩
    · rw [hi] at c7; cases c7
  | true =>
    obtain ⟨ew, hw⟩ := in_of (by decide) hi
    have e0 : a_count α w = (k_cnt (a_c α) (a_ch α) (kN w), α) := if_pos hi
    rw [e0] at hQ
    generalize kN w = wn at *
    subst ew
    refine z_il1 (q := 1) C dX5_count_0 rfl ?_
    refine z_iconst (q := 2) (v := nI 0) C dX5_count_1 rfl (by decide) ?_
    refine z_bipush (q := 4) (v := nI 7) C dX5_count_2 rfl (by decide) ?_
    refine z_callSe (q := 7) C (ct_in τ (nI wn) (nI 0) (nI 7)) g_X5_44 dX5_count_4 rfl rfl rfl (Nat.le_of_ble_eq_true rfl) (by first | decide | omega) (Nat.le_refl _) (Nat.le_refl _) ?_
    first | refine z_if_eqB (tgt := 18) (q := 10) C dX5_count_7 (by decide) rfl (fun c7 => ?_) (fun c7 => ?_) | refine z_if_eq (tgt := 18) (q := 10) C dX5_count_7 (by decide) rfl (fun c7 => ?_) (fun c7 => ?_)
    · rw [hi] at c7; cases c7
    · refine z_al0 (q := 11) C dX5_count_10 rfl ?_
      refine z_il1 (q := 12) C dX5_count_11 rfl ?_
      refine z_callVi (q := 15) C (ct_countOf τ hA.1.1 (a_ch α) hA.2.2.2.1.1 wn hw) g_X5_186 rcT dX5_count_12 rfl rfl rfl (Nat.le_of_ble_eq_true rfl) (by first | decide | omega) (Nat.le_refl _) (Nat.le_refl _) (fun r12 τ12 h12 => ?_)
      refine z_goto (tgt := 24) C dX5_count_15 (by decide) ?_
      refine z_iret C hQ dX5_count_24 (Nat.le_refl _) (Nat.le_refl _) ?_
      exact ⟨_, rfl, h12.2, hA.read h12.1 hN⟩
end T32
