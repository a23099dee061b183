/-! the twin: a bin in a tree's order; the root of some side by side -/
def oI : Option Nat → Int32
  | none => -1
  | some n => nI n
theorem nI_nm1 {n : Nat} (h : n < 2 ^ 31) : ¬ nI n = -1 := by
  intro z
  have h1 := nI_toInt h
  rw [z] at h1
  have h2 : (-1 : Int32).toInt = -1 := by decide
  omega
theorem oI_m1 {r : Option Nat} (h : ∀ n, r = some n → n < 2 ^ 31) : oI r = -1 ↔ r = none := by
  cases r with
  | none => exact ⟨fun _ => rfl, fun _ => rfl⟩
  | some n => exact ⟨fun z => absurd z (nI_nm1 (h n rfl)), fun z => by cases z⟩
/-- the place of the root of i .. i + m -/
def rIx (f : Nat → Nat) (i : Nat) : Nat → Nat
  | 0 => i
  | m + 1 => if abv (f (i + m + 1)) (f (rIx f i m)) = true then i + m + 1 else rIx f i m
def k_rt (L : List Nat) (i j : Nat) : Option Nat := if i < j then some (rIx (fun k => L.getD k 0) i (j - i - 1)) else none
theorem rIx_in (f : Nat → Nat) (i : Nat) : ∀ m, i ≤ rIx f i m ∧ rIx f i m ≤ i + m
  | 0 => ⟨Nat.le_refl _, Nat.le_refl _⟩
  | m + 1 => by
    have := rIx_in f i m
    unfold rIx
    split <;> omega
theorem k_rt_in {L : List Nat} {i j r : Nat} (h : k_rt L i j = some r) : i ≤ r ∧ r < j := by
  unfold k_rt at h
  split at h
  · have := rIx_in (fun k => L.getD k 0) i (j - i - 1)
    cases h
    omega
  · cases h
theorem k_rt_some {L : List Nat} {i j : Nat} (h : i < j) : ∃ r, k_rt L i j = some r := ⟨_, if_pos h⟩
theorem getD_of {L : List Nat} {i : Nat} (h : i < L.length) : L[i]? = some (L.getD i 0) := by
  obtain ⟨x, hx⟩ := at_lt h
  rw [hx]
  simp [hx]
theorem AR.at {f : Nat → Int32} {L : List Nat} (h : AR f 0 L) {i : Nat} (hi : i < L.length) : f i = nI (L.getD i 0) := by
  have := h i _ (getD_of hi)
  rwa [Nat.zero_add] at this
theorem getD_mem {L : List Nat} {i : Nat} (hi : i < L.length) : L.getD i 0 ∈ L := List.mem_of_getElem? (getD_of hi)
section T23
variable {D : Dt} {o : Nat} {ad : Nat → Nat}
set_option maxHeartbeats 1000000 in
theorem ct_inOrder {N : Nat} {c : Co} (τ : Tw) (hT : TC N (τ.2 0) c) (b : Nat) (hb : b < 2 ^ 31) : Ct (wT D o ad) yX5_inOrder cX5_inOrder 5 none [.ref o, .int (nI b)] τ (PV (fun τ' => TF [14] [13, 15] τ τ' ∧ τ'.1 14 = nI (k_srt c b).length ∧ AR (τ'.2 15) 0 (k_srt c b))) 3 0 0 := by
  refine Ct.of KTok (by decide) (Nat.le_of_ble_eq_true rfl) rfl fun Y C hQ hNm => ?_
  have hl := hT.len
  have hmi := k_mi_le hT.1 b
  have hmr : (k_row c b).length = k_mi c b := rfl
  refine z_al0 (q := 1) C dX5_inOrder_0 rfl ?_
  refine z_il1 (q := 2) C dX5_inOrder_1 rfl ?_
  refine z_callVv (q := 5) C (ct_holds τ hT b hb) g_X5_64 rcT dX5_inOrder_2 rfl rfl rfl (Nat.le_of_ble_eq_true rfl) (by first | decide | omega) (Nat.le_refl _) (Nat.le_refl _) (fun τ2 h2 => ?_)
  obtain ⟨hF0, l, h14, hA, hlt, hmap⟩ := h2
  refine z_iconst (q := 6) (v := nI 0) C dX5_inOrder_5 rfl (by decide) ?_
  refine z_is2 (q := 7) C dX5_inOrder_6 rfl (by first | exact loC_i | exact loC_r | exact loC_n | exact loC_q | exact loC_u) ?_
  have hll : l.length = (k_row c b).length := by rw [← hmap, List.length_map]
  rw [hll] at h14
  have loop : ∀ m e, e + m = (k_row c b).length → ∀ (τ1 : Tw) (x3 x4 : Option Value) (wl : List Nat), loC x3 → loC x4 → TF [14] [13, 15] τ τ1 → τ1.1 14 = nI (k_row c b).length → AR (τ1.2 13) 0 l → AR (τ1.2 15) 0 wl → wl.Pairwise (fun x y => ahd c x y = true) → wl.Perm ((k_row c b).take e) → Zj (wT D o ad) Y τ1 0 0 7 [some (.ref o), some (.int (nI b)), some (.int (nI e)), x3, x4] [] := by
    intro m
    induction m with
    | zero =>
      intro e he τ1 x3 x4 wl hx3 hx4 hF h14 hA hW hs hp
      have he : e = (k_row c b).length := he
      subst he
      rw [List.take_length] at hp
      have hwl := k_srt_eq hT.1 hp hs
      subst hwl
      refine z_il2 (q := 8) C dX5_inOrder_7 rfl ?_
      refine z_al0 (q := 9) C dX5_inOrder_8 rfl ?_
      refine tg_58 (q := 12) C dX5_inOrder_9 rfl ?_
      rw [h14]
      first | refine z_icmp_geN (tgt := 91) (q := 15) C dX5_inOrder_12 (by decide) rfl (by omega) (by omega) (fun c12 => ?_) (fun c12 => ?_) | refine z_icmp_ge (tgt := 91) (q := 15) C dX5_inOrder_12 (by decide) rfl (fun c12 => ?_) (fun c12 => ?_)
      · refine z_vret C hQ dX5_inOrder_91 (Nat.le_refl _) (Nat.le_refl _) ?_
        exact ⟨rfl, hF, by rw [h14, k_srt_len hT.1]; rfl, hW⟩
      · exact absurd c12 (by omega)
    | succ m ih =>
      intro e he τ1 x3 x4 wl hx3 hx4 hF h14 hA hW hs hp
      obtain ⟨k, hk⟩ := at_lt (show e < (k_row c b).length by omega)
      have hki : ∃ i, l[e]? = some i ∧ kAt c i = k := by
        rw [← hmap, List.getElem?_map] at hk
        cases hi : l[e]? with
        | none => rw [hi] at hk; cases hk
        | some i => rw [hi] at hk; exact ⟨i, rfl, Option.some.inj hk⟩
      obtain ⟨i, hi, hik⟩ := hki
      have hil := hlt i (List.mem_of_getElem? hi)
      obtain ⟨x, hx⟩ := at_lt hil
      have hxk : x.1 = k := (kAt_of hx).symm.trans hik
      have hkey := hT.key hx
      rw [hxk] at hkey
      have e0 : τ1.2 0 = τ.2 0 := hF.2 0 (by decide)
      have h13 : τ1.2 13 e = nI i := by
        have := hA _ _ hi
        rwa [Nat.zero_add] at this
      have hwl : wl.length = e := by
        rw [hp.length_eq, List.length_take]
        omega
      have hnk : k ∉ wl := by
        intro z
        have z := hp.mem_iff.mp z
        obtain ⟨j, hj⟩ := List.getElem?_of_mem z
        have hje : j < e := by
          have := (List.getElem?_eq_some_iff.mp hj).1
          rw [List.length_take] at this
          omega
        rw [List.getElem?_take, if_pos hje] at hj
        have := (List.getElem?_inj (List.getElem?_eq_some_iff.mp hj).1 (hT.1.rownd b)).mp (hj.trans hk.symm)
        omega
      have hle : ∀ y ∈ wl, y ≤ 999999 := fun y hy => k_row_le hT.1 (List.mem_of_mem_take (hp.mem_iff.mp hy))
      have htk : (k_row c b).take (e + 1) = (k_row c b).take e ++ [k] := by rw [List.take_add_one, hk]; rfl
      refine z_il2 (q := 8) C dX5_inOrder_7 rfl ?_
      refine z_al0 (q := 9) C dX5_inOrder_8 rfl ?_
      refine tg_58 (q := 12) C dX5_inOrder_9 rfl ?_
      rw [h14]
      first | refine z_icmp_geN (tgt := 91) (q := 15) C dX5_inOrder_12 (by decide) rfl (by omega) (by omega) (fun c12 => ?_) (fun c12 => ?_) | refine z_icmp_ge (tgt := 91) (q := 15) C dX5_inOrder_12 (by decide) rfl (fun c12 => ?_) (fun c12 => ?_)
      · exact absurd c12 (by omega)
      refine z_al0 (q := 16) C dX5_inOrder_15 rfl ?_
      refine tg_7 (q := 19) C dX5_inOrder_16 rfl ?_
      refine z_bipush (q := 21) (v := nI 7) C dX5_inOrder_19 rfl (by decide) ?_
      refine z_al0 (q := 22) C dX5_inOrder_21 rfl ?_
      refine tg_37 (q := 25) C dX5_inOrder_22 rfl ?_
      refine z_il2 (q := 26) C dX5_inOrder_25 rfl ?_
      refine ta_ld13 (q := 27) C dX5_inOrder_26 rfl (by omega) ?_
      rw [h13]
      first | refine z_iaddN (q := 28) C dX5_inOrder_27 rfl ?_ | refine z_iadd (q := 28) C dX5_inOrder_27 rfl ?_
      refine ta_ld0 (q := 29) C dX5_inOrder_28 rfl (by omega) ?_
      rw [e0]
      rw [hkey.1]
      refine z_is3 (q := 30) C dX5_inOrder_29 rfl (by first | exact loC_i | exact loC_r | exact loC_n | exact loC_q | exact loC_u) ?_
      refine z_il2 (q := 31) C dX5_inOrder_30 rfl ?_
      refine z_is4 (q := 33) C dX5_inOrder_31 rfl (by first | exact loC_i | exact loC_r | exact loC_n | exact loC_q | exact loC_u) ?_
      have inner : ∀ (l1 l2 : List Nat), l1 ++ l2 = wl → ∀ τ2 : Tw, TF [14] [13, 15] τ τ2 → τ2.1 14 = nI (k_row c b).length → AR (τ2.2 13) 0 l → AR (τ2.2 15) 0 l1 → AR (τ2.2 15) (l1.length + 1) l2 → (∀ y ∈ l2, ahd c k y = true) → Zj (wT D o ad) Y τ2 0 0 33 [some (.ref o), some (.int (nI b)), some (.int (nI e)), some (.int (nI k)), some (.int (nI l1.length))] [] := by
        have fin : ∀ (l1 l2 : List Nat), l1 ++ l2 = wl → ∀ τ2 : Tw, TF [14] [13, 15] τ τ2 → τ2.1 14 = nI (k_row c b).length → AR (τ2.2 13) 0 l → AR (τ2.2 15) 0 l1 → AR (τ2.2 15) (l1.length + 1) l2 → (∀ y ∈ l2, ahd c k y = true) → (∀ y t, l1 = t ++ [y] → ahd c y k = true) → Zj (wT D o ad) Y τ2 0 0 77 [some (.ref o), some (.int (nI b)), some (.int (nI e)), some (.int (nI k)), some (.int (nI l1.length))] [] := by
          intro l1 l2 hl12 τ2 hF2 h142 hA2 hA1 hA2' hgt hlast
          have hln : l1.length ≤ wl.length := by rw [← hl12]; simp
          refine z_al0 (q := 78) C dX5_inOrder_77 rfl ?_
          refine tg_40 (q := 81) C dX5_inOrder_78 rfl ?_
          refine z_il4 (q := 83) C dX5_inOrder_81 rfl ?_
          refine z_il3 (q := 84) C dX5_inOrder_83 rfl ?_
          refine ta_st15 (q := 85) C dX5_inOrder_84 rfl (by omega) ?_
          first | refine z_iinc2N (q := 88) C dX5_inOrder_85 rfl (by first | exact loC_i | exact loC_r | exact loC_n | exact loC_q | exact loC_u) ?_ | refine z_iinc2 (q := 88) C dX5_inOrder_85 rfl rfl (by first | exact loC_i | exact loC_r | exact loC_n | exact loC_q | exact loC_u) ?_
          refine z_goto (tgt := 7) C dX5_inOrder_88 (by decide) ?_
          refine ih (e + 1) (by omega) _ _ _ (l1 ++ k :: l2) loC_i loC_i (hF2.sE (by decide) _ _) h142 (by rw [sE_o (by decide)]; exact hA2) (by rw [sE_j]; exact AR.put k hA1 hA2') ?_ ?_
          · rw [← hl12] at hs
            exact srt_ins (R := fun x y => ahd c x y = true) ahd_tr hs hlast hgt
          · rw [htk]
            refine List.Perm.trans ?_ (hp.append_right _)
            rw [← hl12]
            exact (List.perm_middle).trans (List.perm_append_comm (l₁ := [k]))
        intro l1
        induction hn : l1.length generalizing l1 with
        | zero =>
          have hz : l1 = [] := List.length_eq_zero_iff.mp hn
          subst hz
          intro l2 hl12 τ2 hF2 h142 hA2 hA1 hA2' hgt
          refine z_il4 (q := 35) C dX5_inOrder_33 rfl ?_
          refine z_if_le (tgt := 77) (q := 38) C dX5_inOrder_35 (by decide) rfl (fun c35 => ?_) (fun c35 => ?_)
          · exact fin [] l2 hl12 τ2 hF2 h142 hA2 hA1 hA2' hgt (fun y t h => by cases t <;> cases h)
          · exact absurd (show nI 0 ≤ 0 from by decide) c35
        | succ n ihn =>
          rcases List.eq_nil_or_concat l1 with z | ⟨t, y, hz⟩
          · rw [z] at hn; cases hn
          have hz : l1 = t ++ [y] := by rw [hz, List.concat_eq_append]
          subst hz
          have hn1 : t.length = n := by simpa using hn
          intro l2 hl12 τ2 hF2 h142 hA2 hA1 hA2' hgt
          have e02 : τ2.2 0 = τ.2 0 := hF2.2 0 (by decide)
          have hyw : y ∈ wl := by rw [← hl12]; simp
          have hyl := hle y hyw
          have hne : y ≠ k := fun z => hnk (z ▸ hyw)
          have hnl : n + 1 ≤ wl.length := by rw [← hl12]; simp; omega
          have h15 : τ2.2 15 n = nI y := by
            have := hA1.mid (l2 := [])
            rwa [hn1] at this
          refine z_il4 (q := 35) C dX5_inOrder_33 rfl ?_
          refine z_if_le (tgt := 77) (q := 38) C dX5_inOrder_35 (by decide) rfl (fun c35 => ?_) (fun c35 => ?_)
          · exact absurd c35 (nI_nle (by omega) (by omega))
          refine z_al0 (q := 39) C dX5_inOrder_38 rfl ?_
          refine z_il3 (q := 40) C dX5_inOrder_39 rfl ?_
          refine z_al0 (q := 41) C dX5_inOrder_40 rfl ?_
          refine tg_40 (q := 44) C dX5_inOrder_41 rfl ?_
          refine z_il4 (q := 46) C dX5_inOrder_44 rfl ?_
          refine z_iconst (q := 47) (v := nI 1) C dX5_inOrder_46 rfl (by decide) ?_
          refine z_isub (q := 48) C dX5_inOrder_47 rfl ?_
          rw [pk_sub (by omega), show n + 1 - 1 = n by omega]
          refine ta_ld15 (q := 49) C dX5_inOrder_48 rfl (by omega) ?_
          rw [h15]
          refine z_callVe (q := 52) C (ct_isAhead τ2 (e02 ▸ hT) k y hkey.2 hyl) g_X5_68 rcT dX5_inOrder_49 rfl rfl rfl (Nat.le_of_ble_eq_true rfl) (by first | decide | omega) (Nat.le_refl _) (Nat.le_refl _) ?_
          first | refine z_if_eqB (tgt := 77) (q := 55) C dX5_inOrder_52 (by decide) rfl (fun c52 => ?_) (fun c52 => ?_) | refine z_if_eq (tgt := 77) (q := 55) C dX5_inOrder_52 (by decide) rfl (fun c52 => ?_) (fun c52 => ?_)
          · have := fin (t ++ [y]) l2 hl12 τ2 hF2 h142 hA2 hA1 (by rw [hn]; exact hA2') hgt (fun y' t' h => by
              have := List.append_inj_right' h rfl
              cases this
              exact ahd_tot (by rw [c52]; decide) (fun z => hne z.symm))
            rw [hn] at this
            exact this
          · refine z_al0 (q := 56) C dX5_inOrder_55 rfl ?_
            refine tg_40 (q := 59) C dX5_inOrder_56 rfl ?_
            refine z_il4 (q := 61) C dX5_inOrder_59 rfl ?_
            refine z_al0 (q := 62) C dX5_inOrder_61 rfl ?_
            refine tg_40 (q := 65) C dX5_inOrder_62 rfl ?_
            refine z_il4 (q := 67) C dX5_inOrder_65 rfl ?_
            refine z_iconst (q := 68) (v := nI 1) C dX5_inOrder_67 rfl (by decide) ?_
            refine z_isub (q := 69) C dX5_inOrder_68 rfl ?_
            rw [pk_sub (by omega), show n + 1 - 1 = n by omega]
            refine ta_ld15 (q := 70) C dX5_inOrder_69 rfl (by omega) ?_
            rw [h15]
            refine ta_st15 (q := 71) C dX5_inOrder_70 rfl (by omega) ?_
            refine z_iinc4 (q := 74) C dX5_inOrder_71 rfl (show nI (n + 1) + Int32.ofInt (-1) = nI n from pk_m1 n) (by first | exact loC_i | exact loC_r | exact loC_n | exact loC_q | exact loC_u) ?_
            refine z_goto (tgt := 33) C dX5_inOrder_74 (by decide) ?_
            have hsh := AR.shift hA1 (l2 := l2) (by rw [hn1]; exact hA2')
            rw [hn1] at hsh
            exact ihn t hn1 (y :: l2) (by rw [← hl12]; simp) _ (hF2.sE (by decide) _ _) h142 (by rw [sE_o (by decide)]; exact hA2) (by rw [sE_j]; exact hsh.1) (by rw [sE_j]; exact hsh.2) (fun z hz => by
              rcases List.mem_cons.mp hz with rfl | hz
              · exact c52
              · exact hgt z hz)
      have := inner wl [] (List.append_nil wl) τ1 hF h14 hA hW AR.nil (fun y hy => by cases hy)
      rw [hwl] at this
      exact this
  exact loop _ 0 (Nat.zero_add _) _ _ _ [] loC_n loC_n (hF0.up (by decide) (by decide)) h14 hA AR.nil List.Pairwise.nil (List.Perm.refl _)
set_option maxHeartbeats 1000000 in
theorem ct_rootOf (τ : Tw) (L : List Nat) (hL : AR (τ.2 15) 0 L) (hk : ∀ x ∈ L, x ≤ 999999) (hlen : L.length ≤ 49) (i j : Nat) (hij : i ≤ j) (hj : j ≤ L.length) : Ct (wT D o ad) yX5_rootOf cX5_rootOf 7 (some .int) [.ref o, .int (nI i), .int (nI j)] τ (PE (some (.int (oI (k_rt L i j)))) τ) 1 0 0 := by
  refine Ct.of KTok (by decide) (Nat.le_of_ble_eq_true rfl) rfl fun Y C hQ hNm => ?_
  by_cases h : i < j
  · have loop : ∀ m a, i + 1 + a + m = j → ∀ x5 x6, loC x5 → loC x6 → Zj (wT D o ad) Y τ 0 0 16 [some (.ref o), some (.int (nI i)), some (.int (nI j)), some (.int (nI (rIx (fun k => L.getD k 0) i a))), some (.int (nI (i + 1 + a))), x5, x6] [] := by
      intro m
      induction m with
      | zero =>
        intro a ha x5 x6 h5 h6
        refine z_il4 (q := 18) C dX5_rootOf_16 rfl ?_
        refine z_il2 (q := 19) C dX5_rootOf_18 rfl ?_
        first | refine z_icmp_geN (tgt := 88) (q := 22) C dX5_rootOf_19 (by decide) rfl (by omega) (by omega) (fun c19 => ?_) (fun c19 => ?_) | refine z_icmp_ge (tgt := 88) (q := 22) C dX5_rootOf_19 (by decide) rfl (fun c19 => ?_) (fun c19 => ?_)
        · refine z_il3 (q := 89) C dX5_rootOf_88 rfl ?_
          refine z_iret C hQ dX5_rootOf_89 (Nat.le_refl _) (Nat.le_refl _) ?_
          refine ⟨?_, rfl⟩
          rw [k_rt, if_pos h, show j - i - 1 = a by omega]
          rfl
        · exact absurd c19 (by omega)
      | succ m ih =>
        intro a ha x5 x6 h5 h6
        have hb := rIx_in (fun k => L.getD k 0) i a
        have h1 := hL.at (show i + 1 + a < L.length by omega)
        have h2 := hL.at (show rIx (fun k => L.getD k 0) i a < L.length by omega)
        have m1 := hk _ (getD_mem (show i + 1 + a < L.length by omega))
        have m2 := hk _ (getD_mem (show rIx (fun k => L.getD k 0) i a < L.length by omega))
        have p1 := prio_lt (L.getD (i + 1 + a) 0)
        have p2 := prio_lt (L.getD (rIx (fun k => L.getD k 0) i a) 0)
        have ih := ih (a + 1) (by omega)
        have hstep : rIx (fun k => L.getD k 0) i (a + 1) = if abv (L.getD (i + 1 + a) 0) (L.getD (rIx (fun k => L.getD k 0) i a) 0) = true then i + 1 + a else rIx (fun k => L.getD k 0) i a := by
          show (if abv (L.getD (i + a + 1) 0) _ = true then i + a + 1 else _) = _
          rw [show i + a + 1 = i + 1 + a by omega]
        rw [hstep] at ih
        refine z_il4 (q := 18) C dX5_rootOf_16 rfl ?_
        refine z_il2 (q := 19) C dX5_rootOf_18 rfl ?_
        first | refine z_icmp_geN (tgt := 88) (q := 22) C dX5_rootOf_19 (by decide) rfl (by omega) (by omega) (fun c19 => ?_) (fun c19 => ?_) | refine z_icmp_ge (tgt := 88) (q := 22) C dX5_rootOf_19 (by decide) rfl (fun c19 => ?_) (fun c19 => ?_)
        · exact absurd c19 (by omega)
        · refine z_al0 (q := 23) C dX5_rootOf_22 rfl ?_
          refine tg_40 (q := 26) C dX5_rootOf_23 rfl ?_
          refine z_il4 (q := 28) C dX5_rootOf_26 rfl ?_
          refine ta_ld15 (q := 29) C dX5_rootOf_28 rfl (by omega) ?_
          rw [h1]
          refine z_callSe (q := 32) C (ct_priority τ _ m1) g_X5_76 dX5_rootOf_29 rfl rfl rfl (Nat.le_of_ble_eq_true rfl) (by first | decide | omega) (Nat.le_refl _) (Nat.le_refl _) ?_
          refine z_is5 (q := 34) C dX5_rootOf_32 rfl (by first | exact loC_i | exact loC_r | exact loC_n | exact loC_q | exact loC_u) ?_
          refine z_al0 (q := 35) C dX5_rootOf_34 rfl ?_
          refine tg_40 (q := 38) C dX5_rootOf_35 rfl ?_
          refine z_il3 (q := 39) C dX5_rootOf_38 rfl ?_
          refine ta_ld15 (q := 40) C dX5_rootOf_39 rfl (by omega) ?_
          rw [h2]
          refine z_callSe (q := 43) C (ct_priority τ _ m2) g_X5_76 dX5_rootOf_40 rfl rfl rfl (Nat.le_of_ble_eq_true rfl) (by first | decide | omega) (Nat.le_refl _) (Nat.le_refl _) ?_
          refine z_is6 (q := 45) C dX5_rootOf_43 rfl (by first | exact loC_i | exact loC_r | exact loC_n | exact loC_q | exact loC_u) ?_
          refine z_il5 (q := 47) C dX5_rootOf_45 rfl ?_
          refine z_il6 (q := 49) C dX5_rootOf_47 rfl ?_
          first | refine z_icmp_gtN (tgt := 75) (q := 52) C dX5_rootOf_49 (by decide) rfl (by omega) (by omega) (fun c49 => ?_) (fun c49 => ?_) | refine z_icmp_gt (tgt := 75) (q := 52) C dX5_rootOf_49 (by decide) rfl (fun c49 => ?_) (fun c49 => ?_)
          · refine z_il4 (q := 77) C dX5_rootOf_75 rfl ?_
            refine z_goto (tgt := 81) C dX5_rootOf_77 (by decide) ?_
            refine z_is3 (q := 82) C dX5_rootOf_81 rfl (by first | exact loC_i | exact loC_r | exact loC_n | exact loC_q | exact loC_u) ?_
            first | refine z_iinc4N (q := 85) C dX5_rootOf_82 rfl (by first | exact loC_i | exact loC_r | exact loC_n | exact loC_q | exact loC_u) ?_ | refine z_iinc4 (q := 85) C dX5_rootOf_82 rfl rfl (by first | exact loC_i | exact loC_r | exact loC_n | exact loC_q | exact loC_u) ?_
            refine z_goto (tgt := 16) C dX5_rootOf_85 (by decide) ?_
            first | (rw [if_pos (by simp only [abv, Bool.or_eq_true, Bool.and_eq_true, decide_eq_true_eq]; omega)] at ih; exact ih _ _ loC_i loC_i) | (rw [if_neg (by simp only [abv, Bool.or_eq_true, Bool.and_eq_true, decide_eq_true_eq]; omega)] at ih; exact ih _ _ loC_i loC_i)
          · refine z_il5 (q := 54) C dX5_rootOf_52 rfl ?_
            refine z_il6 (q := 56) C dX5_rootOf_54 rfl ?_
            first | refine z_icmp_neN (tgt := 80) (q := 59) C dX5_rootOf_56 (by decide) rfl (by omega) (by omega) (fun c56 => ?_) (fun c56 => ?_) | refine z_icmp_ne (tgt := 80) (q := 59) C dX5_rootOf_56 (by decide) rfl (fun c56 => ?_) (fun c56 => ?_)
            · refine z_il3 (q := 81) C dX5_rootOf_80 rfl ?_
              refine z_is3 (q := 82) C dX5_rootOf_81 rfl (by first | exact loC_i | exact loC_r | exact loC_n | exact loC_q | exact loC_u) ?_
              first | refine z_iinc4N (q := 85) C dX5_rootOf_82 rfl (by first | exact loC_i | exact loC_r | exact loC_n | exact loC_q | exact loC_u) ?_ | refine z_iinc4 (q := 85) C dX5_rootOf_82 rfl rfl (by first | exact loC_i | exact loC_r | exact loC_n | exact loC_q | exact loC_u) ?_
              refine z_goto (tgt := 16) C dX5_rootOf_85 (by decide) ?_
              first | (rw [if_pos (by simp only [abv, Bool.or_eq_true, Bool.and_eq_true, decide_eq_true_eq]; omega)] at ih; exact ih _ _ loC_i loC_i) | (rw [if_neg (by simp only [abv, Bool.or_eq_true, Bool.and_eq_true, decide_eq_true_eq]; omega)] at ih; exact ih _ _ loC_i loC_i)
            · refine z_al0 (q := 60) C dX5_rootOf_59 rfl ?_
              refine tg_40 (q := 63) C dX5_rootOf_60 rfl ?_
              refine z_il4 (q := 65) C dX5_rootOf_63 rfl ?_
              refine ta_ld15 (q := 66) C dX5_rootOf_65 rfl (by omega) ?_
              rw [h1]
              refine z_al0 (q := 67) C dX5_rootOf_66 rfl ?_
              refine tg_40 (q := 70) C dX5_rootOf_67 rfl ?_
              refine z_il3 (q := 71) C dX5_rootOf_70 rfl ?_
              refine ta_ld15 (q := 72) C dX5_rootOf_71 rfl (by omega) ?_
              rw [h2]
              first | refine z_icmp_geN (tgt := 80) (q := 75) C dX5_rootOf_72 (by decide) rfl (by omega) (by omega) (fun c72 => ?_) (fun c72 => ?_) | refine z_icmp_ge (tgt := 80) (q := 75) C dX5_rootOf_72 (by decide) rfl (fun c72 => ?_) (fun c72 => ?_)
              · refine z_il3 (q := 81) C dX5_rootOf_80 rfl ?_
                refine z_is3 (q := 82) C dX5_rootOf_81 rfl (by first | exact loC_i | exact loC_r | exact loC_n | exact loC_q | exact loC_u) ?_
                first | refine z_iinc4N (q := 85) C dX5_rootOf_82 rfl (by first | exact loC_i | exact loC_r | exact loC_n | exact loC_q | exact loC_u) ?_ | refine z_iinc4 (q := 85) C dX5_rootOf_82 rfl rfl (by first | exact loC_i | exact loC_r | exact loC_n | exact loC_q | exact loC_u) ?_
                refine z_goto (tgt := 16) C dX5_rootOf_85 (by decide) ?_
                first | (rw [if_pos (by simp only [abv, Bool.or_eq_true, Bool.and_eq_true, decide_eq_true_eq]; omega)] at ih; exact ih _ _ loC_i loC_i) | (rw [if_neg (by simp only [abv, Bool.or_eq_true, Bool.and_eq_true, decide_eq_true_eq]; omega)] at ih; exact ih _ _ loC_i loC_i)
              · refine z_il4 (q := 77) C dX5_rootOf_75 rfl ?_
                refine z_goto (tgt := 81) C dX5_rootOf_77 (by decide) ?_
                refine z_is3 (q := 82) C dX5_rootOf_81 rfl (by first | exact loC_i | exact loC_r | exact loC_n | exact loC_q | exact loC_u) ?_
                first | refine z_iinc4N (q := 85) C dX5_rootOf_82 rfl (by first | exact loC_i | exact loC_r | exact loC_n | exact loC_q | exact loC_u) ?_ | refine z_iinc4 (q := 85) C dX5_rootOf_82 rfl rfl (by first | exact loC_i | exact loC_r | exact loC_n | exact loC_q | exact loC_u) ?_
                refine z_goto (tgt := 16) C dX5_rootOf_85 (by decide) ?_
                first | (rw [if_pos (by simp only [abv, Bool.or_eq_true, Bool.and_eq_true, decide_eq_true_eq]; omega)] at ih; exact ih _ _ loC_i loC_i) | (rw [if_neg (by simp only [abv, Bool.or_eq_true, Bool.and_eq_true, decide_eq_true_eq]; omega)] at ih; exact ih _ _ loC_i loC_i)
    refine z_il1 (q := 1) C dX5_rootOf_0 rfl ?_
    refine z_il2 (q := 2) C dX5_rootOf_1 rfl ?_
    first | refine z_icmp_geN (tgt := 9) (q := 5) C dX5_rootOf_2 (by decide) rfl (by omega) (by omega) (fun c2 => ?_) (fun c2 => ?_) | refine z_icmp_ge (tgt := 9) (q := 5) C dX5_rootOf_2 (by decide) rfl (fun c2 => ?_) (fun c2 => ?_)
    · exact absurd c2 (by omega)
    · refine z_il1 (q := 6) C dX5_rootOf_5 rfl ?_
      refine z_goto (tgt := 10) C dX5_rootOf_6 (by decide) ?_
      refine z_is3 (q := 11) C dX5_rootOf_10 rfl (by first | exact loC_i | exact loC_r | exact loC_n | exact loC_q | exact loC_u) ?_
      refine z_il1 (q := 12) C dX5_rootOf_11 rfl ?_
      refine z_iconst (q := 13) (v := nI 1) C dX5_rootOf_12 rfl (by decide) ?_
      first | refine z_iaddN (q := 14) C dX5_rootOf_13 rfl ?_ | refine z_iadd (q := 14) C dX5_rootOf_13 rfl ?_
      refine z_is4 (q := 16) C dX5_rootOf_14 rfl (by first | exact loC_i | exact loC_r | exact loC_n | exact loC_q | exact loC_u) ?_
      exact loop (j - i - 1) 0 (by omega) _ _ loC_n loC_n
  · have hz : k_rt L i j = none := if_neg h
    refine z_il1 (q := 1) C dX5_rootOf_0 rfl ?_
    refine z_il2 (q := 2) C dX5_rootOf_1 rfl ?_
    first | refine z_icmp_geN (tgt := 9) (q := 5) C dX5_rootOf_2 (by decide) rfl (by omega) (by omega) (fun c2 => ?_) (fun c2 => ?_) | refine z_icmp_ge (tgt := 9) (q := 5) C dX5_rootOf_2 (by decide) rfl (fun c2 => ?_) (fun c2 => ?_)
    · refine z_iconst (q := 10) (v := -1) C dX5_rootOf_9 rfl (by decide) ?_
      refine z_is3 (q := 11) C dX5_rootOf_10 rfl (by first | exact loC_i | exact loC_r | exact loC_n | exact loC_q | exact loC_u) ?_
      refine z_il1 (q := 12) C dX5_rootOf_11 rfl ?_
      refine z_iconst (q := 13) (v := nI 1) C dX5_rootOf_12 rfl (by decide) ?_
      first | refine z_iaddN (q := 14) C dX5_rootOf_13 rfl ?_ | refine z_iadd (q := 14) C dX5_rootOf_13 rfl ?_
      refine z_is4 (q := 16) C dX5_rootOf_14 rfl (by first | exact loC_i | exact loC_r | exact loC_n | exact loC_q | exact loC_u) ?_
      refine z_il4 (q := 18) C dX5_rootOf_16 rfl ?_
      refine z_il2 (q := 19) C dX5_rootOf_18 rfl ?_
      first | refine z_icmp_geN (tgt := 88) (q := 22) C dX5_rootOf_19 (by decide) rfl (by omega) (by omega) (fun c19 => ?_) (fun c19 => ?_) | refine z_icmp_ge (tgt := 88) (q := 22) C dX5_rootOf_19 (by decide) rfl (fun c19 => ?_) (fun c19 => ?_)
      · refine z_il3 (q := 89) C dX5_rootOf_88 rfl ?_
        refine z_iret C hQ dX5_rootOf_89 (Nat.le_refl _) (Nat.le_refl _) ?_
        rw [hz]; exact ⟨rfl, rfl⟩
      · exact absurd c19 (by omega)
    · exact absurd c2 (by omega)
theorem ct_keyAt (τ : Tw) (L : List Nat) (hL : AR (τ.2 15) 0 L) (hlen : L.length ≤ 49) (r : Option Nat) (hr : ∀ n, r = some n → n < L.length) : Ct (wT D o ad) yX5_keyAt cX5_keyAt 2 (some .int) [.ref o, .int (oI r)] τ (PE (some (.int (oI (r.map fun n => L.getD n 0)))) τ) 0 0 0 := by
  refine Ct.of KTok (by decide) (Nat.le_of_ble_eq_true rfl) rfl fun Y C hQ hNm => ?_
  cases r with
  | none =>
    refine z_il1 (q := 1) C dX5_keyAt_0 rfl ?_
    refine z_iconst (q := 2) (v := -1) C dX5_keyAt_1 rfl (by decide) ?_
    refine z_icmp_ne (tgt := 9) (q := 5) C dX5_keyAt_2 (by decide) rfl (fun c2 => ?_) (fun c2 => ?_)
    · exact absurd rfl c2
    · refine z_iconst (q := 6) (v := -1) C dX5_keyAt_5 rfl (by decide) ?_
      refine z_goto (tgt := 15) C dX5_keyAt_6 (by decide) ?_
      refine z_iret C hQ dX5_keyAt_15 (Nat.le_refl _) (Nat.le_refl _) ?_
      exact ⟨rfl, rfl⟩
  | some n =>
    have hn := hr n rfl
    refine z_il1 (q := 1) C dX5_keyAt_0 rfl ?_
    show Zj _ _ _ _ _ _ _ [Value.int (nI n)]
    refine z_iconst (q := 2) (v := -1) C dX5_keyAt_1 rfl (by decide) ?_
    refine z_icmp_ne (tgt := 9) (q := 5) C dX5_keyAt_2 (by decide) rfl (fun c2 => ?_) (fun c2 => ?_)
    · refine z_al0 (q := 10) C dX5_keyAt_9 rfl ?_
      refine tg_40 (q := 13) C dX5_keyAt_10 rfl ?_
      refine z_il1 (q := 14) C dX5_keyAt_13 rfl ?_
      show Zj _ _ _ _ _ _ _ [Value.int (nI n), Value.ref (ad 15)]
      refine ta_ld15 (q := 15) C dX5_keyAt_14 rfl (by omega) ?_
      rw [hL.at hn]
      refine z_iret C hQ dX5_keyAt_15 (Nat.le_refl _) (Nat.le_refl _) ?_
      exact ⟨rfl, rfl⟩
    · exact absurd c2 (nI_nm1 (by omega))
end T23
