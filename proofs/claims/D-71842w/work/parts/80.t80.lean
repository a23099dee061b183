/-! THE CLASS: ways of cursors -/
set_option maxRecDepth 10000
theorem k_at_ix {c : Co} (hI : CI c) {w i k : Nat} (h : (k_by c w)[i]? = some k) : k_at c w k = i := by
  have hnd : (k_by c w).Nodup := (k_by_perm hI w).nodup_iff.mpr hI.1
  obtain ⟨hi, hk⟩ := List.getElem?_eq_some_iff.mp h
  unfold k_at
  rw [List.findIdx_eq hi]
  refine ⟨by simp [hk], fun j hj => ?_⟩
  simp
  intro z
  have := (List.getElem?_inj (i := j) (j := i) (by omega) hnd).mp (by rw [List.getElem?_eq_getElem (by omega), List.getElem?_eq_getElem hi, z, hk])
  omega
theorem k_by_at {c : Co} (hI : CI c) {w k : Nat} (h : k ∈ k_ks c) : (k_by c w)[k_at c w k]? = some k := by
  obtain ⟨i, hi⟩ := List.getElem?_of_mem ((k_by_perm hI w).mem_iff.mpr h)
  rw [k_at_ix hI hi]
  exact hi
theorem k_by_mem {c : Co} (hI : CI c) {w i k : Nat} (h : (k_by c w)[i]? = some k) : k ∈ k_ks c := (k_by_perm hI w).mem_iff.mp (List.mem_of_getElem? h)
theorem tb_split (c : Co) : ∀ m b n, tb c b (m + n) = tb c b m ++ tb c (b + m) n
  | 0, b, n => by rw [Nat.zero_add]; rfl
  | m + 1, b, n => by
    rw [show m + 1 + n = (m + n) + 1 by omega]
    show k_row c b ++ tb c (b + 1) (m + n) = (k_row c b ++ tb c (b + 1) m) ++ tb c (b + (m + 1)) n
    rw [tb_split c m (b + 1) n, List.append_assoc, show b + 1 + m = b + (m + 1) by omega]
section T80
variable {D : Dx} {ad : Nat → Nat} {σ : Sg} {d : Nat} {o bs : Nat} {B : Nat → Nat} {c : Co}
theorem XO.ix (h : XO ad o σ (k_es c)) {i k : Nat} (hi : (k_ks c)[i]? = some k) : kd σ (ad k) = 2 ∧ fr σ 25 (ad k) = ((k_ks c)[i + 1]?).map ad ∧ fr σ 24 (ad k) = if i = 0 then none else ((k_ks c)[i - 1]?).map ad := by
  have hi' : ((k_ks c).map ad)[i]? = some (ad k) := by rw [List.getElem?_map, hi]; rfl
  obtain ⟨e, he, hek⟩ := List.mem_map.mp (List.mem_of_getElem? hi)
  refine ⟨by have := (h.2.2 e he).1; rw [hek] at this; exact this, ?_, ?_⟩
  · have := h.1.2.2.2.1 i (ad k) hi'
    rw [this, show (List.map (fun x => x.fst) (k_es c)).map ad = (k_ks c).map ad from rfl, List.getElem?_map]
  · have := h.1.pvi hi'
    rw [this, show (List.map (fun x => x.fst) (k_es c)).map ad = (k_ks c).map ad from rfl, List.getElem?_map]
theorem cw1_first (ho : kd σ o = 1) (hX : XC ad o bs σ B c) : CtC (wX D) yX11_first cX11_first 2 (some (.object "CrowdedBins$Entry")) [.ref (D.2.2.2 0), .ref o] σ (PE (some (va_rf (((k_by c 0)[0]?).map ad))) σ) d 0 0 := by
  have h2 : fr σ 2 o = ((k_by c 0)[0]?).map ad := by
    rw [hX.1.1.2.1, show (List.map (fun x => x.fst) (k_es c)).map ad = (k_ks c).map ad from rfl, List.getElem?_map]
    rfl
  refine CtC.of KXok (Nat.le_of_ble_eq_true rfl) rfl fun Y C hQ hNm => ?_
  first | refine z_al1 (q := 1) C dX11_first_0 rfl ?_ | refine z_al1q (q := 1) C dX11_first_0 rfl ?_ | refine z_al1u (q := 1) C dX11_first_0 rfl ?_
  refine xg_X11_7 (q := 4) C (by first | exact ho | exact hk | exact hb | exact he | assumption) dX11_first_1 rfl ?_
  rw [h2]
  first | refine z_aret C hQ (Or.inl ⟨_, rfl⟩) dX11_first_4 (by omega) (by omega) ?_ | refine z_aret (r := some _) C hQ (Or.inl ⟨_, rfl⟩) dX11_first_4 (by omega) (by omega) ?_ | refine z_aret (r := none) C hQ (Or.inl ⟨_, rfl⟩) dX11_first_4 (by omega) (by omega) ?_
  exact ⟨rfl, rfl⟩
theorem cw1_next (hX : XC ad o bs σ B c) (hI : CI c) {i k : Nat} (hi : (k_by c 0)[i]? = some k) : CtC (wX D) yX11_next cX11_next 3 (some (.object "CrowdedBins$Entry")) [.ref (D.2.2.2 0), .ref o, .ref (ad k)] σ (PE (some (va_rf (((k_by c 0)[i + 1]?).map ad))) σ) d 0 0 := by
  obtain ⟨hkd, h25, -⟩ := hX.1.ix hi
  have h25 : fr σ 25 (ad k) = ((k_by c 0)[i + 1]?).map ad := h25
  refine CtC.of KXok (Nat.le_of_ble_eq_true rfl) rfl fun Y C hQ hNm => ?_
  first | refine z_al2 (q := 1) C dX11_next_0 rfl ?_ | refine z_al2q (q := 1) C dX11_next_0 rfl ?_ | refine z_al2u (q := 1) C dX11_next_0 rfl ?_
  refine xg_X11_13 (q := 4) C (by exact hkd) dX11_next_1 rfl ?_
  rw [h25]
  first | refine z_aret C hQ (Or.inl ⟨_, rfl⟩) dX11_next_4 (by omega) (by omega) ?_ | refine z_aret (r := some _) C hQ (Or.inl ⟨_, rfl⟩) dX11_next_4 (by omega) (by omega) ?_ | refine z_aret (r := none) C hQ (Or.inl ⟨_, rfl⟩) dX11_next_4 (by omega) (by omega) ?_
  exact ⟨rfl, rfl⟩
theorem cw2_first (ho : kd σ o = 1) (hX : XC ad o bs σ B c) : CtC (wX D) yX12_first cX12_first 2 (some (.object "CrowdedBins$Entry")) [.ref (D.2.2.2 1), .ref o] σ (PE (some (va_rf (((k_by c 1)[0]?).map ad))) σ) d 0 0 := by
  have h3 : fr σ 3 o = ((k_by c 1)[0]?).map ad := by
    rw [hX.1.1.2.2.1, show (List.map (fun x => x.fst) (k_es c)).map ad = (k_ks c).map ad from rfl, List.length_map, List.getElem?_map]
    show _ = ((k_ks c).reverse[0]?).map ad
    rcases Nat.eq_zero_or_pos (k_ks c).length with e | e
    · rw [List.eq_nil_of_length_eq_zero e]; rfl
    · rw [List.getElem?_reverse e, show (k_ks c).length - 1 - 0 = (k_ks c).length - 1 by omega]
  refine CtC.of KXok (Nat.le_of_ble_eq_true rfl) rfl fun Y C hQ hNm => ?_
  first | refine z_al1 (q := 1) C dX12_first_0 rfl ?_ | refine z_al1q (q := 1) C dX12_first_0 rfl ?_ | refine z_al1u (q := 1) C dX12_first_0 rfl ?_
  refine xg_X12_7 (q := 4) C (by first | exact ho | exact hk | exact hb | exact he | assumption) dX12_first_1 rfl ?_
  rw [h3]
  first | refine z_aret C hQ (Or.inl ⟨_, rfl⟩) dX12_first_4 (by omega) (by omega) ?_ | refine z_aret (r := some _) C hQ (Or.inl ⟨_, rfl⟩) dX12_first_4 (by omega) (by omega) ?_ | refine z_aret (r := none) C hQ (Or.inl ⟨_, rfl⟩) dX12_first_4 (by omega) (by omega) ?_
  exact ⟨rfl, rfl⟩
theorem cw2_next (hX : XC ad o bs σ B c) (hI : CI c) {i k : Nat} (hi : (k_by c 1)[i]? = some k) : CtC (wX D) yX12_next cX12_next 3 (some (.object "CrowdedBins$Entry")) [.ref (D.2.2.2 1), .ref o, .ref (ad k)] σ (PE (some (va_rf (((k_by c 1)[i + 1]?).map ad))) σ) d 0 0 := by
  have hil : i < (k_ks c).length := by
    have := (List.getElem?_eq_some_iff.mp hi).1
    rw [k_by_len hI, ← k_len] at this
    exact this
  have hi : (k_ks c).reverse[i]? = some k := hi
  rw [List.getElem?_reverse hil] at hi
  obtain ⟨hkd, -, h24⟩ := hX.1.ix hi
  have h24 : fr σ 24 (ad k) = ((k_by c 1)[i + 1]?).map ad := by
    rw [h24]
    show _ = ((k_ks c).reverse[i + 1]?).map ad
    by_cases e : (k_ks c).length - 1 - i = 0
    · rw [if_pos e, List.getElem?_eq_none (by rw [List.length_reverse]; omega)]; rfl
    · rw [if_neg e, List.getElem?_reverse (by omega), show (k_ks c).length - 1 - i - 1 = (k_ks c).length - 1 - (i + 1) by omega]
  refine CtC.of KXok (Nat.le_of_ble_eq_true rfl) rfl fun Y C hQ hNm => ?_
  first | refine z_al2 (q := 1) C dX12_next_0 rfl ?_ | refine z_al2q (q := 1) C dX12_next_0 rfl ?_ | refine z_al2u (q := 1) C dX12_next_0 rfl ?_
  refine xg_X12_13 (q := 4) C (by exact hkd) dX12_next_1 rfl ?_
  rw [h24]
  first | refine z_aret C hQ (Or.inl ⟨_, rfl⟩) dX12_next_4 (by omega) (by omega) ?_ | refine z_aret (r := some _) C hQ (Or.inl ⟨_, rfl⟩) dX12_next_4 (by omega) (by omega) ?_ | refine z_aret (r := none) C hQ (Or.inl ⟨_, rfl⟩) dX12_next_4 (by omega) (by omega) ?_
  exact ⟨rfl, rfl⟩
theorem cw3_from (hM : MO o bs σ) (hX : XC ad o bs σ B c) (hI : CI c) {b m : Nat} (hb : b + m = k_n c 1) : CtC (wX D) yX10_from cX10_from 5 (some (.object "CrowdedBins$Entry")) [.ref (D.2.2.2 2), .ref o, .int (nI b)] σ (PE (some (va_rf (((tb c b m)[0]?).map ad))) σ) (d + 1) 0 0 := by
  obtain ⟨ho, h0, hbk, hln⟩ := hM
  have hw := hI.w
  have e1 := hX.2.1.2.2.2.1
  refine CtC.of KXok (Nat.le_of_ble_eq_true rfl) rfl fun Y C hQ hNm => ?_
  have fin : ∀ (j : Nat) (r : Option Nat), r = ((tb c b m)[0]?).map ad → Zj (wX D) Y σ 0 0 35 [some (.ref (D.2.2.2 2)), some (.ref o), some (.int (nI b)), some (va_rf r), some (.int (nI j))] [] := by
    intro j r hr
    rw [← hr] at hQ
    first | refine z_al3 (q := 36) C dX10_from_35 rfl ?_ | refine z_al3q (q := 36) C dX10_from_35 rfl ?_ | refine z_al3u (q := 36) C dX10_from_35 rfl ?_
    first | refine z_aret C hQ (Or.inl ⟨_, rfl⟩) dX10_from_36 (by omega) (by omega) ?_ | refine z_aret (r := some _) C hQ (Or.inl ⟨_, rfl⟩) dX10_from_36 (by omega) (by omega) ?_ | refine z_aret (r := none) C hQ (Or.inl ⟨_, rfl⟩) dX10_from_36 (by omega) (by omega) ?_
    exact ⟨rfl, rfl⟩
  have loop : ∀ m' j, j + m' = k_n c 1 → (tb c j m')[0]? = (tb c b m)[0]? → Zj (wX D) Y σ 0 0 5 [some (.ref (D.2.2.2 2)), some (.ref o), some (.int (nI b)), some .null, some (.int (nI j))] [] := by
    intro m'
    induction m' with
    | zero =>
      intro j hj ht
      have hj : j = k_n c 1 := hj
      subst hj
      have hg := fin (k_n c 1) none (by rw [← ht]; rfl)
      refine z_il4 (q := 7) C dX10_from_5 rfl ?_
      first | refine z_al1 (q := 8) C dX10_from_7 rfl ?_ | refine z_al1q (q := 8) C dX10_from_7 rfl ?_ | refine z_al1u (q := 8) C dX10_from_7 rfl ?_
      refine xg_X10_29 (q := 11) C (by first | exact ho | exact hk | exact hb | exact he | assumption) dX10_from_8 rfl ?_
      rw [e1]
      refine z_icmp_geN (tgt := 35) (q := 14) C dX10_from_11 (by decide) rfl (by omega) (by omega) (fun c11 => hg) (fun c11 => absurd c11 (by omega))
    | succ m' ih =>
      intro j hj ht
      have hjn : j < k_n c 1 := by omega
      obtain ⟨-, hab, hrw⟩ := hX.2.1.2.1.1 j hjn
      have hk34 := hrw.k34
      have h40 := hrw.2.2.1.2.1
      rw [List.getElem?_map] at h40
      have htb : tb c j (m' + 1) = k_row c j ++ tb c (j + 1) m' := rfl
      rw [htb] at ht
      refine z_il4 (q := 7) C dX10_from_5 rfl ?_
      first | refine z_al1 (q := 8) C dX10_from_7 rfl ?_ | refine z_al1q (q := 8) C dX10_from_7 rfl ?_ | refine z_al1u (q := 8) C dX10_from_7 rfl ?_
      refine xg_X10_29 (q := 11) C (by first | exact ho | exact hk | exact hb | exact he | assumption) dX10_from_8 rfl ?_
      rw [e1]
      refine z_icmp_geN (tgt := 35) (q := 14) C dX10_from_11 (by decide) rfl (by omega) (by omega) (fun c11 => absurd c11 (by omega)) (fun c11 => ?_)
      first | refine z_al3 (q := 15) C dX10_from_14 rfl ?_ | refine z_al3q (q := 15) C dX10_from_14 rfl ?_ | refine z_al3u (q := 15) C dX10_from_14 rfl ?_
      refine z_ifnonnull_u (q := 18) C dX10_from_15 rfl ?_
      first | refine z_al1 (q := 19) C dX10_from_18 rfl ?_ | refine z_al1q (q := 19) C dX10_from_18 rfl ?_ | refine z_al1u (q := 19) C dX10_from_18 rfl ?_
      first | refine xr_X10_32 (q := 22) C (by first | exact ho | exact hk | exact hb | exact he | assumption) (by assumption) dX10_from_19 rfl ?_ | refine xn_X10_32 (q := 22) C (by first | exact ho | exact hk | exact hb | exact he | assumption) (by assumption) dX10_from_19 rfl ?_ | refine xg_X10_32 (q := 22) C (by first | exact ho | exact hk | exact hb | exact he | assumption) dX10_from_19 rfl ?_
      refine z_il4 (q := 24) C dX10_from_22 rfl ?_
      refine x_aald (q := 25) C 3 (by decide) (by decide) (by assumption) (by rw [hln]; omega) (by omega) dX10_from_24 rfl ?_
      rw [hab]
      refine xc_X10_36 (q := 28) C (fun _ => cx_first (d := d) hk34) (fun _ => cx_first (d := d) hk34) (by exact hk34) dX10_from_25 rfl rfl rfl (Nat.le_of_ble_eq_true rfl) (by first | decide | omega) (by omega) (by omega) (kkE ?_)
      rw [h40]
      cases hr : k_row c j with
      | nil =>
        rw [hr] at ht
        have hg := ih (j + 1) (by omega) ht
        show Zj _ _ _ _ _ _ _ [Value.null]
        first | refine z_as3 (q := 29) C dX10_from_28 rfl (by first | exact loC_i | exact loC_r | exact loC_n | exact loC_q | exact loC_u) ?_ | refine z_as3q (q := 29) C dX10_from_28 rfl (by first | exact loC_i | exact loC_r | exact loC_n | exact loC_q | exact loC_u) ?_ | refine z_asu3 (q := 29) C dX10_from_28 rfl (by first | exact loC_i | exact loC_r | exact loC_n | exact loC_q | exact loC_u) ?_
        first | refine z_iinc4N (q := 32) C dX10_from_29 rfl (by first | exact loC_i | exact loC_r | exact loC_n | exact loC_q | exact loC_u) ?_ | refine z_iinc4 (q := 32) C dX10_from_29 rfl rfl (by first | exact loC_i | exact loC_r | exact loC_n | exact loC_q | exact loC_u) ?_
        refine z_goto (tgt := 5) C dX10_from_32 (by decide) ?_
        exact hg
      | cons k R =>
        rw [hr] at ht
        have hg := fin (j + 1) (some (ad k)) (by rw [← ht]; rfl)
        show Zj _ _ _ _ _ _ _ [Value.ref (ad k)]
        first | refine z_as3 (q := 29) C dX10_from_28 rfl (by first | exact loC_i | exact loC_r | exact loC_n | exact loC_q | exact loC_u) ?_ | refine z_as3q (q := 29) C dX10_from_28 rfl (by first | exact loC_i | exact loC_r | exact loC_n | exact loC_q | exact loC_u) ?_ | refine z_asu3 (q := 29) C dX10_from_28 rfl (by first | exact loC_i | exact loC_r | exact loC_n | exact loC_q | exact loC_u) ?_
        first | refine z_iinc4N (q := 32) C dX10_from_29 rfl (by first | exact loC_i | exact loC_r | exact loC_n | exact loC_q | exact loC_u) ?_ | refine z_iinc4 (q := 32) C dX10_from_29 rfl rfl (by first | exact loC_i | exact loC_r | exact loC_n | exact loC_q | exact loC_u) ?_
        refine z_goto (tgt := 5) C dX10_from_32 (by decide) ?_
        refine z_il4 (q := 7) C dX10_from_5 rfl ?_
        first | refine z_al1 (q := 8) C dX10_from_7 rfl ?_ | refine z_al1q (q := 8) C dX10_from_7 rfl ?_ | refine z_al1u (q := 8) C dX10_from_7 rfl ?_
        refine xg_X10_29 (q := 11) C (by first | exact ho | exact hk | exact hb | exact he | assumption) dX10_from_8 rfl ?_
        rw [e1]
        refine z_icmp_geN (tgt := 35) (q := 14) C dX10_from_11 (by decide) rfl (by omega) (by omega) (fun c11 => hg) (fun c11 => ?_)
        first | refine z_al3 (q := 15) C dX10_from_14 rfl ?_ | refine z_al3q (q := 15) C dX10_from_14 rfl ?_ | refine z_al3u (q := 15) C dX10_from_14 rfl ?_
        refine z_ifnonnull_r (tgt := 35) C dX10_from_15 (by decide) ?_
        exact hg
  refine z_null (q := 1) C dX10_from_0 rfl ?_
  first | refine z_as3 (q := 2) C dX10_from_1 rfl (by first | exact loC_i | exact loC_r | exact loC_n | exact loC_q | exact loC_u) ?_ | refine z_as3q (q := 2) C dX10_from_1 rfl (by first | exact loC_i | exact loC_r | exact loC_n | exact loC_q | exact loC_u) ?_ | refine z_asu3 (q := 2) C dX10_from_1 rfl (by first | exact loC_i | exact loC_r | exact loC_n | exact loC_q | exact loC_u) ?_
  refine z_il2 (q := 3) C dX10_from_2 rfl ?_
  refine z_is4 (q := 5) C dX10_from_3 rfl (by first | exact loC_i | exact loC_r | exact loC_n | exact loC_q | exact loC_u) ?_
  exact loop m b hb rfl
theorem cw3_first (hM : MO o bs σ) (hX : XC ad o bs σ B c) (hI : CI c) : CtC (wX D) yX10_first cX10_first 2 (some (.object "CrowdedBins$Entry")) [.ref (D.2.2.2 2), .ref o] σ (PE (some (va_rf (((k_by c 2)[0]?).map ad))) σ) (d + 2) 0 0 := by
  refine CtC.of KXok (Nat.le_of_ble_eq_true rfl) rfl fun Y C hQ hNm => ?_
  first | refine z_al0 (q := 1) C dX10_first_0 rfl ?_ | refine z_al0q (q := 1) C dX10_first_0 rfl ?_ | refine z_al0u (q := 1) C dX10_first_0 rfl ?_
  first | refine z_al1 (q := 2) C dX10_first_1 rfl ?_ | refine z_al1q (q := 2) C dX10_first_1 rfl ?_ | refine z_al1u (q := 2) C dX10_first_1 rfl ?_
  refine z_iconst (q := 3) (v := nI 0) C dX10_first_2 rfl (by decide) ?_
  refine xc_X10_7 (q := 6) C (cw3_from (d := d) hM hX hI (Nat.zero_add _)) dX10_first_3 rfl rfl rfl (Nat.le_of_ble_eq_true rfl) (by first | decide | omega) (by omega) (by omega) (kkE ?_)
  first | refine z_aret C hQ (Or.inl ⟨_, rfl⟩) dX10_first_6 (by omega) (by omega) ?_ | refine z_aret (r := some _) C hQ (Or.inl ⟨_, rfl⟩) dX10_first_6 (by omega) (by omega) ?_ | refine z_aret (r := none) C hQ (Or.inl ⟨_, rfl⟩) dX10_first_6 (by omega) (by omega) ?_
  exact ⟨rfl, rfl⟩
theorem cw3_next (hM : MO o bs σ) (hX : XC ad o bs σ B c) (hI : CI c) {i k : Nat} (hi : (k_by c 2)[i]? = some k) : CtC (wX D) yX10_next cX10_next 3 (some (.object "CrowdedBins$Entry")) [.ref (D.2.2.2 2), .ref o, .ref (ad k)] σ (PE (some (va_rf (((k_by c 2)[i + 1]?).map ad))) σ) (d + 2) 0 0 := by
  have ho := hM.1
  have hw := hI.w
  obtain ⟨j, hj3, hj6, hjn⟩ := hI.2.2.2.2.1
  have hkc : k ∈ k_cs c := hI.2.2.1.mem_iff.mpr (k_by_mem hI hi)
  obtain ⟨hkd, e20, -, e23, e5, e6⟩ := hX.2.1.1 k hkc
  have hb := k_b_lt hI k
  have e1 : fi σ 1 o = nI (2 ^ j) := by rw [← hjn]; exact hX.2.1.2.2.2.1
  have hbe : k_b c k = k_h c k % 2 ^ j := by rw [← hjn]; rfl
  obtain ⟨t, ht⟩ := List.getElem?_of_mem (row_mem.mpr hkc)
  have htl := (List.getElem?_eq_some_iff.mp ht).1
  have hrw := (hX.2.1.2.1.1 _ hb).2.2
  have h27 : fr σ 27 (ad k) = ((k_row c (k_b c k))[t + 1]?).map ad := by
    rw [hrw.2.2.1.2.2.2.1 t (ad k) (by rw [List.getElem?_map, ht]; rfl), List.getElem?_map]
  have hsp : k_by c 2 = tb c 0 (k_b c k) ++ (k_row c (k_b c k) ++ tb c (k_b c k + 1) (k_n c 1 - (k_b c k + 1))) := by
    show tb c 0 (k_n c 1) = _
    have := tb_split c (k_b c k) 0 (k_n c 1 - (k_b c k + 1) + 1)
    rw [show k_b c k + (k_n c 1 - (k_b c k + 1) + 1) = k_n c 1 by omega, Nat.zero_add] at this
    exact this
  have hii : i = (tb c 0 (k_b c k)).length + t := by
    have h1 : (k_by c 2)[(tb c 0 (k_b c k)).length + t]? = some k := by
      rw [hsp, List.getElem?_append_right (by omega), show (tb c 0 (k_b c k)).length + t - (tb c 0 (k_b c k)).length = t by omega, List.getElem?_append_left htl]
      exact ht
    have hnd : (k_by c 2).Nodup := (k_by_perm hI 2).nodup_iff.mpr hI.1
    exact (List.getElem?_inj (List.getElem?_eq_some_iff.mp hi).1 hnd).mp (hi.trans h1.symm)
  have hnx : (k_by c 2)[i + 1]? = (k_row c (k_b c k) ++ tb c (k_b c k + 1) (k_n c 1 - (k_b c k + 1)))[t + 1]? := by
    rw [hsp, List.getElem?_append_right (by omega), show i + 1 - (tb c 0 (k_b c k)).length = t + 1 by omega]
  rw [hnx]
  refine CtC.of KXok (Nat.le_of_ble_eq_true rfl) rfl fun Y C hQ hNm => ?_
  by_cases he : t + 1 < (k_row c (k_b c k)).length
  · rw [List.getElem?_append_left he, ← h27] at hQ
    obtain ⟨k', hk'⟩ := at_lt he
    have hs27 : fr σ 27 (ad k) = some (ad k') := by rw [h27, hk']; rfl
    rw [hs27] at hQ
    first | refine z_al2 (q := 1) C dX10_next_0 rfl ?_ | refine z_al2q (q := 1) C dX10_next_0 rfl ?_ | refine z_al2u (q := 1) C dX10_next_0 rfl ?_
    first | refine xr_X10_13 (q := 4) C (by exact hkd) hs27 dX10_next_1 rfl ?_ | refine xn_X10_13 (q := 4) C (by exact hkd) hs27 dX10_next_1 rfl ?_
    refine z_ifnull_r (q := 7) C dX10_next_4 rfl ?_
    first | refine z_al2 (q := 8) C dX10_next_7 rfl ?_ | refine z_al2q (q := 8) C dX10_next_7 rfl ?_ | refine z_al2u (q := 8) C dX10_next_7 rfl ?_
    first | refine xr_X10_13 (q := 11) C (by exact hkd) hs27 dX10_next_8 rfl ?_ | refine xn_X10_13 (q := 11) C (by exact hkd) hs27 dX10_next_8 rfl ?_
    refine z_goto (tgt := 29) C dX10_next_11 (by decide) ?_
    first | refine z_aret C hQ (Or.inl ⟨_, rfl⟩) dX10_next_29 (by omega) (by omega) ?_ | refine z_aret (r := some _) C hQ (Or.inl ⟨_, rfl⟩) dX10_next_29 (by omega) (by omega) ?_ | refine z_aret (r := none) C hQ (Or.inl ⟨_, rfl⟩) dX10_next_29 (by omega) (by omega) ?_
    exact ⟨rfl, rfl⟩
  · have hn27 : fr σ 27 (ad k) = none := by rw [h27, List.getElem?_eq_none (by omega)]; rfl
    have hz : t + 1 - (k_row c (k_b c k)).length = 0 := by omega
    rw [List.getElem?_append_right (by omega), hz] at hQ
    first | refine z_al2 (q := 1) C dX10_next_0 rfl ?_ | refine z_al2q (q := 1) C dX10_next_0 rfl ?_ | refine z_al2u (q := 1) C dX10_next_0 rfl ?_
    first | refine xr_X10_13 (q := 4) C (by exact hkd) hn27 dX10_next_1 rfl ?_ | refine xn_X10_13 (q := 4) C (by exact hkd) hn27 dX10_next_1 rfl ?_
    refine z_ifnull_u (tgt := 14) C dX10_next_4 (by decide) ?_
    first | refine z_al0 (q := 15) C dX10_next_14 rfl ?_ | refine z_al0q (q := 15) C dX10_next_14 rfl ?_ | refine z_al0u (q := 15) C dX10_next_14 rfl ?_
    first | refine z_al1 (q := 16) C dX10_next_15 rfl ?_ | refine z_al1q (q := 16) C dX10_next_15 rfl ?_ | refine z_al1u (q := 16) C dX10_next_15 rfl ?_
    first | refine z_al1 (q := 17) C dX10_next_16 rfl ?_ | refine z_al1q (q := 17) C dX10_next_16 rfl ?_ | refine z_al1u (q := 17) C dX10_next_16 rfl ?_
    first | refine z_al2 (q := 18) C dX10_next_17 rfl ?_ | refine z_al2q (q := 18) C dX10_next_17 rfl ?_ | refine z_al2u (q := 18) C dX10_next_17 rfl ?_
    refine xg_X10_19 (q := 21) C (by exact hkd) dX10_next_18 rfl ?_
    rw [e23]
    refine xc_X10_23 (q := 24) C (cx_binOf (d := d) ho e1 hj6 _ (k_h_lt c k)) (by exact ho) dX10_next_21 rfl rfl rfl (Nat.le_of_ble_eq_true rfl) (by first | decide | omega) (by omega) (by omega) (kkE ?_)
    rw [← hbe]
    refine z_iconst (q := 25) (v := nI 1) C dX10_next_24 rfl (by decide) ?_
    first | refine z_iaddN (q := 26) C dX10_next_25 rfl ?_ | refine z_iadd (q := 26) C dX10_next_25 rfl ?_
    refine xc_X10_7 (q := 29) C (cw3_from (d := d) hM hX hI (show k_b c k + 1 + (k_n c 1 - (k_b c k + 1)) = k_n c 1 by omega)) dX10_next_26 rfl rfl rfl (Nat.le_of_ble_eq_true rfl) (by first | decide | omega) (by omega) (by omega) (kkE ?_)
    first | refine z_aret C hQ (Or.inl ⟨_, rfl⟩) dX10_next_29 (by omega) (by omega) ?_ | refine z_aret (r := some _) C hQ (Or.inl ⟨_, rfl⟩) dX10_next_29 (by omega) (by omega) ?_ | refine z_aret (r := none) C hQ (Or.inl ⟨_, rfl⟩) dX10_next_29 (by omega) (by omega) ?_
    exact ⟨rfl, rfl⟩
end T80
section ZWY
variable {D : Dx} {Y : Fz} {cc : ByteArray} {ret : Option FieldType} {d mc ms : Nat} {σ : Sg} {k n pc q : Nat} {lo : Lo} {rest : List Value} {ad B : Nat → Nat} {o bs : Nat} {c : Co}
theorem x_wfirst (C : Cx (wX D) Y cc RX0 ret d mc ms) {w : Nat} (hw : w < 3) (hM : MO o bs σ) (hX : XC ad o bs σ B c) (hI : CI c) (hd : decode cc pc = .ok (.invokevirtual 314, 3)) (hq : pc + 3 = q) (hW : (rest.map fun v => v.category).sum ≤ 8) (hdd : 3 < d) (hc : k ≤ mc) (hs : n ≤ ms) (g : Zj (wX D) Y σ k n q lo (va_rf (((k_by c w)[0]?).map ad) :: rest)) : Zj (wX D) Y σ k n pc lo (.ref o :: .ref (D.2.2.2 w) :: rest) := by
  rcases (show w = 0 ∨ w = 1 ∨ w = 2 by omega) with rfl | rfl | rfl
  · exact xw1_X0_314 C (cw1_first (d := 3) hM.1 hX) hd hq rfl rfl hW hdd hc hs (kkE g)
  · exact xw2_X0_314 C (cw2_first (d := 3) hM.1 hX) hd hq rfl rfl hW hdd hc hs (kkE g)
  · exact xw3_X0_314 C (cw3_first (d := 1) hM hX hI) hd hq rfl rfl hW hdd hc hs (kkE g)
theorem x_wnext (C : Cx (wX D) Y cc RX0 ret d mc ms) {w i key : Nat} (hw : w < 3) (hM : MO o bs σ) (hX : XC ad o bs σ B c) (hI : CI c) (hi : (k_by c w)[i]? = some key) (hd : decode cc pc = .ok (.invokevirtual 333, 3)) (hq : pc + 3 = q) (hW : (rest.map fun v => v.category).sum ≤ 8) (hdd : 3 < d) (hc : k ≤ mc) (hs : n ≤ ms) (g : Zj (wX D) Y σ k n q lo (va_rf (((k_by c w)[i + 1]?).map ad) :: rest)) : Zj (wX D) Y σ k n pc lo (.ref (ad key) :: .ref o :: .ref (D.2.2.2 w) :: rest) := by
  rcases (show w = 0 ∨ w = 1 ∨ w = 2 by omega) with rfl | rfl | rfl
  · exact xw1_X0_333 C (cw1_next (d := 3) hX hI hi) hd hq rfl rfl hW hdd hc hs (kkE g)
  · exact xw2_X0_333 C (cw2_next (d := 3) hX hI hi) hd hq rfl rfl hW hdd hc hs (kkE g)
  · exact xw3_X0_333 C (cw3_next (d := 1) hM hX hI hi) hd hq rfl rfl hW hdd hc hs (kkE g)
end ZWY
section T80b
variable {D : Dx} {ad p : Nat → Nat} {σ : Sg} {d : Nat} {o bs : Nat} {B : Nat → Nat} {c : Co}
theorem cx_yet (hM : MO o bs σ) (hX : XC ad o bs σ B c) (hI : CI c) {cu w : Nat} {nx : Option Nat} (hw : w < 3) (hk : kd σ cu = 5) (h80 : fr σ 80 cu = some (D.2.2.2 w)) (h81 : fr σ 81 cu = nx.map ad) (hn : ∀ k, nx = some k → k ∈ k_ks c) {wo : Option Nat} (hwo : wo = some w) {u3 : Option Nat × Nat} : Ct (wX D) yX0_yet cX0_yet 4 (some .int) [.ref o, .ref cu] σ (PE (some (.int (nI (k_lf c (wo, nx, u3))))) σ) 5 0 0 := by
  subst hwo
  have hlen := k_by_len hI w
  have hl49 := hI.2.2.2.1
  refine Ct.of KXok (by decide) (Nat.le_of_ble_eq_true rfl) rfl fun Y C hQ hNm => ?_
  have loop : ∀ (R : List Nat) (i n : Nat) (r : Option Nat), (k_by c w).drop i = R → n + R.length = k_lf c (some w, nx, u3) → r = ((k_by c w)[i]?).map ad → Zj (wX D) Y σ 0 0 7 [some (.ref o), some (.ref cu), some (.int (nI n)), some (va_rf r)] [] := by
    intro R
    induction R with
    | nil =>
      intro i n r hd hn hr
      have hil : (k_by c w).length ≤ i := by simpa using hd
      rw [List.getElem?_eq_none hil] at hr
      subst hr
      have hn : n = k_lf c (some w, nx, u3) := hn
      rw [← hn] at hQ
      show Zj _ _ _ _ _ _ [some (.ref o), some (.ref cu), some (.int (nI n)), some .null] []
      first | refine z_al3 (q := 8) C dX0_yet_7 rfl ?_ | refine z_al3q (q := 8) C dX0_yet_7 rfl ?_ | refine z_al3u (q := 8) C dX0_yet_7 rfl ?_
      refine z_ifnull_u (tgt := 27) C dX0_yet_8 (by decide) ?_
      refine z_il2 (q := 28) C dX0_yet_27 rfl ?_
      refine z_iret C hQ dX0_yet_28 (by omega) (by omega) ?_
      exact ⟨rfl, rfl⟩
    | cons k R ih =>
      intro i n r hd hn hr
      obtain ⟨hn1, hn2, hn3⟩ := drop_hd hd
      rw [hn1] at hr
      subst hr
      have hg := ih (i + 1) (n + 1) _ hn3 (by rw [List.length_cons] at hn; omega) rfl
      show Zj _ _ _ _ _ _ [some (.ref o), some (.ref cu), some (.int (nI n)), some (.ref (ad k))] []
      first | refine z_al3 (q := 8) C dX0_yet_7 rfl ?_ | refine z_al3q (q := 8) C dX0_yet_7 rfl ?_ | refine z_al3u (q := 8) C dX0_yet_7 rfl ?_
      refine z_ifnull_r (q := 11) C dX0_yet_8 rfl ?_
      first | refine z_iinc2N (q := 14) C dX0_yet_11 rfl (by first | exact loC_i | exact loC_r | exact loC_n | exact loC_q | exact loC_u) ?_ | refine z_iinc2 (q := 14) C dX0_yet_11 rfl rfl (by first | exact loC_i | exact loC_r | exact loC_n | exact loC_q | exact loC_u) ?_
      first | refine z_al1 (q := 15) C dX0_yet_14 rfl ?_ | refine z_al1q (q := 15) C dX0_yet_14 rfl ?_ | refine z_al1u (q := 15) C dX0_yet_14 rfl ?_
      first | refine xr_X0_303 (q := 18) C (by exact hk) h80 dX0_yet_15 rfl ?_ | refine xn_X0_303 (q := 18) C (by exact hk) h80 dX0_yet_15 rfl ?_
      first | refine z_al0 (q := 19) C dX0_yet_18 rfl ?_ | refine z_al0q (q := 19) C dX0_yet_18 rfl ?_ | refine z_al0u (q := 19) C dX0_yet_18 rfl ?_
      first | refine z_al3 (q := 20) C dX0_yet_19 rfl ?_ | refine z_al3q (q := 20) C dX0_yet_19 rfl ?_ | refine z_al3u (q := 20) C dX0_yet_19 rfl ?_
      refine x_wnext (q := 23) C hw hM hX hI hn1 dX0_yet_20 rfl (Nat.le_of_ble_eq_true rfl) (by omega) (by omega) (by omega) ?_
      first | refine z_as3 (q := 24) C dX0_yet_23 rfl (by first | exact loC_i | exact loC_r | exact loC_n | exact loC_q | exact loC_u) ?_ | refine z_as3q (q := 24) C dX0_yet_23 rfl (by first | exact loC_i | exact loC_r | exact loC_n | exact loC_q | exact loC_u) ?_ | refine z_asu3 (q := 24) C dX0_yet_23 rfl (by first | exact loC_i | exact loC_r | exact loC_n | exact loC_q | exact loC_u) ?_
      refine z_goto (tgt := 7) C dX0_yet_24 (by decide) ?_
      exact hg
  cases nx with
  | none =>
    have hQ' := hQ
    show Zj _ _ _ _ _ _ _ _
    have h81 : fr σ 81 cu = none := h81
    refine z_iconst (q := 1) (v := nI 0) C dX0_yet_0 rfl (by decide) ?_
    refine z_is2 (q := 2) C dX0_yet_1 rfl (by first | exact loC_i | exact loC_r | exact loC_n | exact loC_q | exact loC_u) ?_
    first | refine z_al1 (q := 3) C dX0_yet_2 rfl ?_ | refine z_al1q (q := 3) C dX0_yet_2 rfl ?_ | refine z_al1u (q := 3) C dX0_yet_2 rfl ?_
    first | refine xr_X0_319 (q := 6) C (by exact hk) h81 dX0_yet_3 rfl ?_ | refine xn_X0_319 (q := 6) C (by exact hk) h81 dX0_yet_3 rfl ?_
    first | refine z_as3 (q := 7) C dX0_yet_6 rfl (by first | exact loC_i | exact loC_r | exact loC_n | exact loC_q | exact loC_u) ?_ | refine z_as3q (q := 7) C dX0_yet_6 rfl (by first | exact loC_i | exact loC_r | exact loC_n | exact loC_q | exact loC_u) ?_ | refine z_asu3 (q := 7) C dX0_yet_6 rfl (by first | exact loC_i | exact loC_r | exact loC_n | exact loC_q | exact loC_u) ?_
    first | refine z_al3 (q := 8) C dX0_yet_7 rfl ?_ | refine z_al3q (q := 8) C dX0_yet_7 rfl ?_ | refine z_al3u (q := 8) C dX0_yet_7 rfl ?_
    refine z_ifnull_u (tgt := 27) C dX0_yet_8 (by decide) ?_
    refine z_il2 (q := 28) C dX0_yet_27 rfl ?_
    refine z_iret C hQ dX0_yet_28 (by omega) (by omega) ?_
    exact ⟨rfl, rfl⟩
  | some k =>
    have hkm := hn k rfl
    have hat := k_by_at (w := w) hI hkm
    have hal := (List.getElem?_eq_some_iff.mp hat).1
    have h81 : fr σ 81 cu = some (ad k) := h81
    have hg := loop ((k_by c w).drop (k_at c w k)) (k_at c w k) 0 (some (ad k)) rfl (by
      rw [List.length_drop, hlen]
      show 0 + _ = (k_es c).length - k_at c w k
      omega) (by rw [hat]; rfl)
    refine z_iconst (q := 1) (v := nI 0) C dX0_yet_0 rfl (by decide) ?_
    refine z_is2 (q := 2) C dX0_yet_1 rfl (by first | exact loC_i | exact loC_r | exact loC_n | exact loC_q | exact loC_u) ?_
    first | refine z_al1 (q := 3) C dX0_yet_2 rfl ?_ | refine z_al1q (q := 3) C dX0_yet_2 rfl ?_ | refine z_al1u (q := 3) C dX0_yet_2 rfl ?_
    first | refine xr_X0_319 (q := 6) C (by exact hk) h81 dX0_yet_3 rfl ?_ | refine xn_X0_319 (q := 6) C (by exact hk) h81 dX0_yet_3 rfl ?_
    first | refine z_as3 (q := 7) C dX0_yet_6 rfl (by first | exact loC_i | exact loC_r | exact loC_n | exact loC_q | exact loC_u) ?_ | refine z_as3q (q := 7) C dX0_yet_6 rfl (by first | exact loC_i | exact loC_r | exact loC_n | exact loC_q | exact loC_u) ?_ | refine z_asu3 (q := 7) C dX0_yet_6 rfl (by first | exact loC_i | exact loC_r | exact loC_n | exact loC_q | exact loC_u) ?_
    exact hg
end T80b
