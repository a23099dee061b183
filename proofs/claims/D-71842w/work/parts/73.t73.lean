/-! THE CLASS: put, get, peek, remove, adds, clears -/
set_option maxRecDepth 10000
def a_lq (q : Bool) (α : Al) (c : Co) (δ : Nat) : Al := (c, psQ q (a_ps α) (a_c α), a_rf α, a_ch α + δ, a_tx α, a_cu α)
def b_put (q : Bool) (α : Al) (k v : Int32) : Int32 × Al := if (isK k && isV v) = true then (if k_may (a_c α) (kN k) = true then (oI (k_put (a_c α) (kN k) (kN v)).1, a_lq q α (k_put (a_c α) (kN k) (kN v)).2.1 (k_put (a_c α) (kN k) (kN v)).2.2) else (-4, a_rfs α 2)) else (-2, a_rfs α 0)
def b_get (q : Bool) (α : Al) (k : Int32) : Int32 × Al := if isK k = true then (oI (k_get (a_c α) (kN k)).1, if (k_get (a_c α) (kN k)).2.2 = 1 then a_lq q α (k_get (a_c α) (kN k)).2.1 1 else a_set α (k_get (a_c α) (kN k)).2.1 0) else (-2, a_rfs α 0)
def b_rem (q : Bool) (α : Al) (k : Int32) : Int32 × Al := if isK k = true then (oI (k_rem (a_c α) (kN k)).1, if (k_rem (a_c α) (kN k)).1 = none then α else a_lq q α (k_rem (a_c α) (kN k)).2.1 1) else (-2, a_rfs α 0)
def b_clears (q : Bool) (α : Al) : Int32 × Al := (nI (k_es (a_c α)).length, if 0 < (k_es (a_c α)).length then a_lq q α (k_clr (a_c α)) 1 else α)
theorem b_put_f {α : Al} {k v : Int32} : b_put false α k v = a_put α k v := rfl
theorem b_get_f {α : Al} {k : Int32} : b_get false α k = a_get α k := rfl
theorem b_rem_f {α : Al} {k : Int32} : b_rem false α k = a_rem α k := rfl
theorem b_clears_f {α : Al} : b_clears false α = a_clears α := rfl
theorem kAt_val {c : Co} (hI : CI c) {e v : Nat} (he : e < (k_es c).length) (hv : v ≤ 9999) : kAt (k_val c e v) e = kAt c e := by
  unfold kAt
  rw [(hI.val he hv).2]
section T73
variable {D : Dx} {p : Nat → Nat} {σ : Sg} {α : Al} {N : Nat} {d : Nat} {q : Bool}
theorem cx_foundN {ad B : Nat → Nat} {o bs : Nat} {c : Co} (hM : MO o bs σ) (hX : XB ad o bs σ B c) (hI : CI c) {k : Nat} (hk : k ≤ 999999) (hp : k_pl c k = none) : Ct (wX D) yX0_found cX0_found 2 (some (.object "CrowdedBins$Entry")) [.ref o, .int (nI k)] σ (PE (some .null) σ) (d + 2) 0 0 := by
  have := cx_found (D := D) (d := d) hM hX hI hk
  rw [fnd_none hI hp] at this
  exact this
theorem cx_foundS {ad B : Nat → Nat} {o bs : Nat} {c : Co} (hM : MO o bs σ) (hX : XB ad o bs σ B c) (hI : CI c) {k e : Nat} (hk : k ≤ 999999) (hp : k_pl c k = some e) : Ct (wX D) yX0_found cX0_found 2 (some (.object "CrowdedBins$Entry")) [.ref o, .int (nI k)] σ (PE (some (.ref (ad (kAt c e)))) σ) (d + 2) 0 0 := by
  have := cx_found (D := D) (d := d) hM hX hI hk
  rw [fnd_some hI hp] at this
  exact this
set_option maxHeartbeats 1000000 in
theorem cx_put (h : XA q D p σ α) (hA : AI N α) (k v : Int32) : Ct (wX D) yX0_put cX0_put 5 (some .int) [.ref (p 0), .int k, .int v] σ (PI (fun r σ' => r = (b_put q α k v).1 ∧ XA q D p σ' (b_put q α k v).2)) 64 265 1220 := by
  obtain ⟨hX, hq, ⟨ad, B, hC, hU⟩, hP, h9, hR⟩ := id h
  have hM := hX.1
  have ho := hM.1
  have hs := hX.sep
  obtain ⟨r16, k5, l5⟩ := hX.2.2.2.2.1
  have hI := hA.1
  have h48 := hA.2.1
  refine Ct.of KXok (by decide) (Nat.le_of_ble_eq_true rfl) rfl fun Y C hQ hNm => ?_
  cases hi : (isK k && isV v) with
  | false =>
    have e1 : b_put q α k v = (-2, a_rfs α 0) := if_neg (by rw [hi]; decide)
    rw [e1] at hQ
    have hb := h.rfs hA (i := 0) (by decide)
    refine z_il1 (q := 1) C dX0_put_0 rfl ?_
    refine xc_X0_220 (q := 4) C (cx_isKey (d := 0) σ k) dX0_put_1 rfl rfl rfl (Nat.le_of_ble_eq_true rfl) (by first | decide | omega) (by omega) (by omega) (kkE ?_)
    first | refine z_if_eqB (tgt := 14) (q := 7) C dX0_put_4 (by decide) rfl (fun c4 => ?_) (fun c4 => ?_) | refine z_if_eq (tgt := 14) (q := 7) C dX0_put_4 (by decide) rfl (fun c4 => ?_) (fun c4 => ?_)
    · first | refine z_al0 (q := 15) C dX0_put_14 rfl ?_ | refine z_al0q (q := 15) C dX0_put_14 rfl ?_ | refine z_al0u (q := 15) C dX0_put_14 rfl ?_
      refine xc_X0_227 (q := 18) C (cx_bad (d := 0) ho r16 k5 l5) (by first | exact ho | exact hk | exact hb | exact he | assumption | exact Or.inl (by assumption) | exact Or.inr (by assumption)) dX0_put_15 rfl rfl rfl (Nat.le_of_ble_eq_true rfl) (by first | decide | omega) (by omega) (by omega) (kkE ?_)
      refine z_iret C hQ dX0_put_18 (by omega) (by omega) ?_
      exact ⟨_, rfl, rfl, hb⟩
    · refine z_il2 (q := 8) C dX0_put_7 rfl ?_
      refine xc_X0_224 (q := 11) C (cx_isValue (d := 0) σ v) dX0_put_8 rfl rfl rfl (Nat.le_of_ble_eq_true rfl) (by first | decide | omega) (by omega) (by omega) (kkE ?_)
      first | refine z_if_neB (tgt := 19) (q := 14) C dX0_put_11 (by decide) rfl (fun c11 => ?_) (fun c11 => ?_) | refine z_if_ne (tgt := 19) (q := 14) C dX0_put_11 (by decide) rfl (fun c11 => ?_) (fun c11 => ?_)
      · exact absurd hi (by rw [show isK k = true from c4, show isV v = true from c11]; decide)
      · first | refine z_al0 (q := 15) C dX0_put_14 rfl ?_ | refine z_al0q (q := 15) C dX0_put_14 rfl ?_ | refine z_al0u (q := 15) C dX0_put_14 rfl ?_
        refine xc_X0_227 (q := 18) C (cx_bad (d := 0) ho r16 k5 l5) (by first | exact ho | exact hk | exact hb | exact he | assumption | exact Or.inl (by assumption) | exact Or.inr (by assumption)) dX0_put_15 rfl rfl rfl (Nat.le_of_ble_eq_true rfl) (by first | decide | omega) (by omega) (by omega) (kkE ?_)
        refine z_iret C hQ dX0_put_18 (by omega) (by omega) ?_
        exact ⟨_, rfl, rfl, hb⟩
  | true =>
    obtain ⟨g1, g2⟩ := Bool.and_eq_true_iff.mp hi
    obtain ⟨ek, hk⟩ := isK_of g1
    obtain ⟨ev, hv⟩ := isV_of g2
    have e0 : b_put q α k v = if k_may (a_c α) (kN k) = true then (oI (k_put (a_c α) (kN k) (kN v)).1, a_lq q α (k_put (a_c α) (kN k) (kN v)).2.1 (k_put (a_c α) (kN k) (kN v)).2.2) else (-4, a_rfs α 2) := if_pos hi
    rw [e0] at hQ
    generalize kN k = kn at *
    generalize kN v = vn at *
    subst ek
    subst ev
    cases hp : k_pl (a_c α) kn with
    | none =>
      have hmay : k_may (a_c α) kn = !k_full (a_c α) := by unfold k_may; rw [hp]; rfl
      have hput : k_put (a_c α) kn vn = (none, k_come (a_c α) kn vn, if 0 < k_n (a_c α) 5 ∧ k_n (a_c α) 5 < (k_es (a_c α)).length + 1 then 2 else 1) := by unfold k_put; rw [hp]
      have hfd := cx_foundN (D := D) (d := 0) hM hC.2.1 hI hk hp
      refine z_il1 (q := 1) C dX0_put_0 rfl ?_
      refine xc_X0_220 (q := 4) C (cx_isKey (d := 0) σ _) dX0_put_1 rfl rfl rfl (Nat.le_of_ble_eq_true rfl) (by first | decide | omega) (by omega) (by omega) (kkE ?_)
      refine z_if_eqB (tgt := 14) (q := 7) C dX0_put_4 (by decide) rfl (fun c4 => absurd g1 (by rw [show isK (nI kn) = false from c4]; decide)) (fun c4 => ?_)
      refine z_il2 (q := 8) C dX0_put_7 rfl ?_
      refine xc_X0_224 (q := 11) C (cx_isValue (d := 0) σ _) dX0_put_8 rfl rfl rfl (Nat.le_of_ble_eq_true rfl) (by first | decide | omega) (by omega) (by omega) (kkE ?_)
      refine z_if_neB (tgt := 19) (q := 14) C dX0_put_11 (by decide) rfl (fun c11 => ?_) (fun c11 => absurd g2 (by rw [show isV (nI vn) = false from c11]; decide))
      first | refine z_al0 (q := 20) C dX0_put_19 rfl ?_ | refine z_al0q (q := 20) C dX0_put_19 rfl ?_ | refine z_al0u (q := 20) C dX0_put_19 rfl ?_
      refine z_il1 (q := 21) C dX0_put_20 rfl ?_
      refine xc_X0_230 (q := 24) C hfd (by first | exact ho | exact hk | exact hb | exact he | assumption | exact Or.inl (by assumption) | exact Or.inr (by assumption)) dX0_put_21 rfl rfl rfl (Nat.le_of_ble_eq_true rfl) (by first | decide | omega) (by omega) (by omega) (kkE ?_)
      first | refine z_as3 (q := 25) C dX0_put_24 rfl (by first | exact loC_i | exact loC_r | exact loC_n | exact loC_q | exact loC_u) ?_ | refine z_as3q (q := 25) C dX0_put_24 rfl (by first | exact loC_i | exact loC_r | exact loC_n | exact loC_q | exact loC_u) ?_ | refine z_asu3 (q := 25) C dX0_put_24 rfl (by first | exact loC_i | exact loC_r | exact loC_n | exact loC_q | exact loC_u) ?_
      first | refine z_al3 (q := 26) C dX0_put_25 rfl ?_ | refine z_al3q (q := 26) C dX0_put_25 rfl ?_ | refine z_al3u (q := 26) C dX0_put_25 rfl ?_
      refine z_ifnonnull_u (q := 29) C dX0_put_26 rfl ?_
      first | refine z_al0 (q := 30) C dX0_put_29 rfl ?_ | refine z_al0q (q := 30) C dX0_put_29 rfl ?_ | refine z_al0u (q := 30) C dX0_put_29 rfl ?_
      refine xc_X0_233 (q := 33) C (cx_isFull (d := 0) ho hC hI) (by first | exact ho | exact hk | exact hb | exact he | assumption | exact Or.inl (by assumption) | exact Or.inr (by assumption)) dX0_put_30 rfl rfl rfl (Nat.le_of_ble_eq_true rfl) (by first | decide | omega) (by omega) (by omega) (kkE ?_)
      refine z_if_eqB (tgt := 44) (q := 36) C dX0_put_33 (by decide) rfl (fun c33 => ?_) (fun c33 => ?_)
      · rw [if_pos (by rw [hmay, c33]; rfl), hput] at hQ
        first | refine z_al0 (q := 45) C dX0_put_44 rfl ?_ | refine z_al0q (q := 45) C dX0_put_44 rfl ?_ | refine z_al0u (q := 45) C dX0_put_44 rfl ?_
        refine xc_X0_237 (q := 48) C (cx_lv hX hC hI hP hq) (by first | exact ho | exact hk | exact hb | exact he | assumption | exact Or.inl (by assumption) | exact Or.inr (by assumption)) dX0_put_45 rfl rfl rfl (Nat.le_of_ble_eq_true rfl) (by first | decide | omega) (by omega) (by omega) (kkV fun σ45 h45 => ?_)
        obtain ⟨hP1, hF1⟩ := h45
        have hX1 := hX.keep hF1 (by simp) (by simp; exact hs.2.1.symm)
        have hC1 := hC.keep hM hF1 (by simp) (by simp) (by simp; exact hs.1.symm)
        first | refine z_al3 (q := 49) C dX0_put_48 rfl ?_ | refine z_al3q (q := 49) C dX0_put_48 rfl ?_ | refine z_al3u (q := 49) C dX0_put_48 rfl ?_
        refine z_ifnonnull_u (q := 52) C dX0_put_49 rfl ?_
        first | refine z_al0 (q := 53) C dX0_put_52 rfl ?_ | refine z_al0q (q := 53) C dX0_put_52 rfl ?_ | refine z_al0u (q := 53) C dX0_put_52 rfl ?_
        refine z_il1 (q := 54) C dX0_put_53 rfl ?_
        refine z_il2 (q := 55) C dX0_put_54 rfl ?_
        refine xc_X0_240 (q := 58) C (cx_comesNew hX1.1 hC1 hI hk hv (k_pl_none hp) h48) (by exact hX1.1.1) dX0_put_55 rfl rfl rfl (Nat.le_of_ble_eq_true rfl) (by first | decide | omega) (by omega) (by omega) (kkV fun σ55 h55 => ?_)
        refine z_iconst (q := 59) (v := -1) C dX0_put_58 rfl (by decide) ?_
        refine z_iret C hQ dX0_put_59 (by omega) (by omega) ?_
        obtain ⟨⟨ad', B', -, hC2⟩, h92, hF2⟩ := h55
        refine ⟨_, rfl, rfl, XA.core hX hq hU hR hA ((hF1.up (by simp) (by simp) (by simp)).tr (hF2.up (by simp) (by simp) (by simp))) hC2 (hP1.keep hX1 hF2 (by simp) (by simp) (by simp; exact hs.1) (by simp)) ?_ (Or.inl (by show 0 < (if _ then 2 else 1); split <;> omega))⟩
        rw [h92, hF1.gi (by omega) (by simp), h9, nI_add]
      · rw [if_neg (by rw [hmay, c33]; decide)] at hQ
        have hb := h.rfs hA (i := 2) (by decide)
        first | refine z_al0 (q := 37) C dX0_put_36 rfl ?_ | refine z_al0q (q := 37) C dX0_put_36 rfl ?_ | refine z_al0u (q := 37) C dX0_put_36 rfl ?_
        refine z_iconst (q := 38) (v := nI 2) C dX0_put_37 rfl (by decide) ?_
        refine z_bipush (q := 40) (v := -4) C dX0_put_38 rfl (by decide) ?_
        refine xc_X0_58 (q := 43) C (cx_refuses (d := 0) ho r16 k5 l5 (by decide)) (by first | exact ho | exact hk | exact hb | exact he | assumption | exact Or.inl (by assumption) | exact Or.inr (by assumption)) dX0_put_40 rfl rfl rfl (Nat.le_of_ble_eq_true rfl) (by first | decide | omega) (by omega) (by omega) (kkE ?_)
        refine z_iret C hQ dX0_put_43 (by omega) (by omega) ?_
        exact ⟨_, rfl, rfl, hb⟩
    | some e =>
      obtain ⟨he, hes, hke⟩ := k_pl_some hp
      have hput : k_put (a_c α) kn vn = (some (vAt (a_c α) e), if k_n (a_c α) 4 = 1 then k_mov (k_val (a_c α) e vn) e else k_val (a_c α) e vn, if k_n (a_c α) 4 = 1 then (if e + 1 = (k_es (a_c α)).length then 0 else 1) else 0) := by unfold k_put; rw [hp]
      rw [if_pos (by unfold k_may; rw [hp]; rfl), hput] at hQ
      have hfd := cx_foundS (D := D) (d := 0) hM hC.2.1 hI hk hp
      refine z_il1 (q := 1) C dX0_put_0 rfl ?_
      refine xc_X0_220 (q := 4) C (cx_isKey (d := 0) σ _) dX0_put_1 rfl rfl rfl (Nat.le_of_ble_eq_true rfl) (by first | decide | omega) (by omega) (by omega) (kkE ?_)
      refine z_if_eqB (tgt := 14) (q := 7) C dX0_put_4 (by decide) rfl (fun c4 => absurd g1 (by rw [show isK (nI kn) = false from c4]; decide)) (fun c4 => ?_)
      refine z_il2 (q := 8) C dX0_put_7 rfl ?_
      refine xc_X0_224 (q := 11) C (cx_isValue (d := 0) σ _) dX0_put_8 rfl rfl rfl (Nat.le_of_ble_eq_true rfl) (by first | decide | omega) (by omega) (by omega) (kkE ?_)
      refine z_if_neB (tgt := 19) (q := 14) C dX0_put_11 (by decide) rfl (fun c11 => ?_) (fun c11 => absurd g2 (by rw [show isV (nI vn) = false from c11]; decide))
      first | refine z_al0 (q := 20) C dX0_put_19 rfl ?_ | refine z_al0q (q := 20) C dX0_put_19 rfl ?_ | refine z_al0u (q := 20) C dX0_put_19 rfl ?_
      refine z_il1 (q := 21) C dX0_put_20 rfl ?_
      refine xc_X0_230 (q := 24) C hfd (by first | exact ho | exact hk | exact hb | exact he | assumption | exact Or.inl (by assumption) | exact Or.inr (by assumption)) dX0_put_21 rfl rfl rfl (Nat.le_of_ble_eq_true rfl) (by first | decide | omega) (by omega) (by omega) (kkE ?_)
      first | refine z_as3 (q := 25) C dX0_put_24 rfl (by first | exact loC_i | exact loC_r | exact loC_n | exact loC_q | exact loC_u) ?_ | refine z_as3q (q := 25) C dX0_put_24 rfl (by first | exact loC_i | exact loC_r | exact loC_n | exact loC_q | exact loC_u) ?_ | refine z_asu3 (q := 25) C dX0_put_24 rfl (by first | exact loC_i | exact loC_r | exact loC_n | exact loC_q | exact loC_u) ?_
      first | refine z_al3 (q := 26) C dX0_put_25 rfl ?_ | refine z_al3q (q := 26) C dX0_put_25 rfl ?_ | refine z_al3u (q := 26) C dX0_put_25 rfl ?_
      refine z_ifnonnull_r (tgt := 44) C dX0_put_26 (by decide) ?_
      first | refine z_al0 (q := 45) C dX0_put_44 rfl ?_ | refine z_al0q (q := 45) C dX0_put_44 rfl ?_ | refine z_al0u (q := 45) C dX0_put_44 rfl ?_
      refine xc_X0_237 (q := 48) C (cx_lv hX hC hI hP hq) (by first | exact ho | exact hk | exact hb | exact he | assumption | exact Or.inl (by assumption) | exact Or.inr (by assumption)) dX0_put_45 rfl rfl rfl (Nat.le_of_ble_eq_true rfl) (by first | decide | omega) (by omega) (by omega) (kkV fun σ45 h45 => ?_)
      obtain ⟨hP1, hF1⟩ := h45
      have hX1 := hX.keep hF1 (by simp) (by simp; exact hs.2.1.symm)
      have hC1 := hC.keep hM hF1 (by simp) (by simp) (by simp; exact hs.1.symm)
      have hEC := hC1.1.2.2 _ (List.mem_of_getElem? hes)
      rw [← hke] at hEC
      have hkd := hEC.1
      have e21 : fi σ45 21 (ad (kAt (a_c α) e)) = nI (vAt (a_c α) e) := hEC.2.2.1
      obtain ⟨hC2, hF2⟩ := hC1.val hX1.1 hI he hv
      have hX2 := hX1.keep hF2 (by simp) (by simp)
      have hes' : (k_es (k_val (a_c α) e vn)).length = (k_es (a_c α)).length := List.length_set
      have hmv := cx_moves (D := D) (d := 0) hX2.1 hC2 (hI.val he hv).1 (e := e) (by rw [hes']; exact he)
      rw [kAt_val hI he hv, hes'] at hmv
      first | refine z_al3 (q := 49) C dX0_put_48 rfl ?_ | refine z_al3q (q := 49) C dX0_put_48 rfl ?_ | refine z_al3u (q := 49) C dX0_put_48 rfl ?_
      refine z_ifnonnull_r (tgt := 60) C dX0_put_49 (by decide) ?_
      first | refine z_al3 (q := 61) C dX0_put_60 rfl ?_ | refine z_al3q (q := 61) C dX0_put_60 rfl ?_ | refine z_al3u (q := 61) C dX0_put_60 rfl ?_
      refine xg_X0_201 (q := 64) C (by exact hkd) dX0_put_61 rfl ?_
      rw [e21]
      refine z_is4 (q := 66) C dX0_put_64 rfl (by first | exact loC_i | exact loC_r | exact loC_n | exact loC_q | exact loC_u) ?_
      first | refine z_al3 (q := 67) C dX0_put_66 rfl ?_ | refine z_al3q (q := 67) C dX0_put_66 rfl ?_ | refine z_al3u (q := 67) C dX0_put_66 rfl ?_
      refine z_il2 (q := 68) C dX0_put_67 rfl ?_
      refine xp_X0_201 (q := 71) C (by exact hkd) dX0_put_68 rfl ?_
      first | refine z_al0 (q := 72) C dX0_put_71 rfl ?_ | refine z_al0q (q := 72) C dX0_put_71 rfl ?_ | refine z_al0u (q := 72) C dX0_put_71 rfl ?_
      first | refine z_al3 (q := 73) C dX0_put_72 rfl ?_ | refine z_al3q (q := 73) C dX0_put_72 rfl ?_ | refine z_al3u (q := 73) C dX0_put_72 rfl ?_
      refine xc_X0_243 (q := 76) C hmv (by exact hX2.1.1) dX0_put_73 rfl rfl rfl (Nat.le_of_ble_eq_true rfl) (by first | decide | omega) (by omega) (by omega) (kkV fun σ73 h73 => ?_)
      refine z_il4 (q := 78) C dX0_put_76 rfl ?_
      refine z_iret C hQ dX0_put_78 (by omega) (by omega) ?_
      obtain ⟨hC3, h93, hF3⟩ := h73
      refine ⟨_, rfl, rfl, XA.core hX hq hU hR hA ((hF1.up (by simp) (by simp) (by simp)).tr ((hF2.up (by simp) (by simp) (by simp)).tr (hF3.up (by simp) (by simp) (by simp)))) hC3 ((hP1.keep hX1 hF2 (by simp) (by simp) (by simp) (by simp)).keep hX2 hF3 (by simp) (by simp) (by simp) (by simp)) ?_ ?_⟩
      · rw [h93, hF2.gi (by have := hX1.1.1; omega) (by simp), hF1.gi (by omega) (by simp), h9, nI_add]
        rfl
      · by_cases c4 : k_n (a_c α) 4 = 1
        · by_cases c5 : e + 1 = (k_es (a_c α)).length
          · refine Or.inr ⟨(if_pos c4).trans (if_pos c5), fun x hx => ⟨?_, rfl⟩⟩
            show x ∈ k_ks (if k_n (a_c α) 4 = 1 then k_mov (k_val (a_c α) e vn) e else k_val (a_c α) e vn)
            rw [if_pos c4, k_mov_last (by rw [hes']; exact c5), (hI.val he hv).2]
            exact hx
          · refine Or.inl ?_
            show 0 < (if k_n (a_c α) 4 = 1 then (if e + 1 = (k_es (a_c α)).length then 0 else 1) else 0)
            rw [if_pos c4, if_neg c5]
            decide
        · refine Or.inr ⟨if_neg c4, fun x hx => ⟨?_, rfl⟩⟩
          show x ∈ k_ks (if k_n (a_c α) 4 = 1 then k_mov (k_val (a_c α) e vn) e else k_val (a_c α) e vn)
          rw [if_neg c4, (hI.val he hv).2]
          exact hx
set_option maxHeartbeats 1000000 in
theorem cx_get (h : XA q D p σ α) (hA : AI N α) (k : Int32) : Ct (wX D) yX0_get cX0_get 3 (some .int) [.ref (p 0), .int k] σ (PI (fun r σ' => r = (b_get q α k).1 ∧ XA q D p σ' (b_get q α k).2)) 64 20 400 := by
  obtain ⟨hX, hq, ⟨ad, B, hC, hU⟩, hP, h9, hR⟩ := id h
  have hM := hX.1
  have ho := hM.1
  have hs := hX.sep
  obtain ⟨r16, k5, l5⟩ := hX.2.2.2.2.1
  have hI := hA.1
  refine Ct.of KXok (by decide) (Nat.le_of_ble_eq_true rfl) rfl fun Y C hQ hNm => ?_
  cases hi : isK k with
  | false =>
    have e1 : b_get q α k = (-2, a_rfs α 0) := if_neg (by rw [hi]; decide)
    rw [e1] at hQ
    have hb := h.rfs hA (i := 0) (by decide)
    refine z_il1 (q := 1) C dX0_get_0 rfl ?_
    refine xc_X0_220 (q := 4) C (cx_isKey (d := 0) σ k) dX0_get_1 rfl rfl rfl (Nat.le_of_ble_eq_true rfl) (by first | decide | omega) (by omega) (by omega) (kkE ?_)
    first | refine z_if_neB (tgt := 12) (q := 7) C dX0_get_4 (by decide) rfl (fun c4 => ?_) (fun c4 => ?_) | refine z_if_ne (tgt := 12) (q := 7) C dX0_get_4 (by decide) rfl (fun c4 => ?_) (fun c4 => ?_)
    · exact absurd hi (by rw [show isK k = true from c4]; decide)
    · first | refine z_al0 (q := 8) C dX0_get_7 rfl ?_ | refine z_al0q (q := 8) C dX0_get_7 rfl ?_ | refine z_al0u (q := 8) C dX0_get_7 rfl ?_
      refine xc_X0_227 (q := 11) C (cx_bad (d := 0) ho r16 k5 l5) (by first | exact ho | exact hk | exact hb | exact he | assumption | exact Or.inl (by assumption) | exact Or.inr (by assumption)) dX0_get_8 rfl rfl rfl (Nat.le_of_ble_eq_true rfl) (by first | decide | omega) (by omega) (by omega) (kkE ?_)
      refine z_iret C hQ dX0_get_11 (by omega) (by omega) ?_
      exact ⟨_, rfl, rfl, hb⟩
  | true =>
    obtain ⟨ek, hk⟩ := isK_of hi
    have e0 : b_get q α k = (oI (k_get (a_c α) (kN k)).1, if (k_get (a_c α) (kN k)).2.2 = 1 then a_lq q α (k_get (a_c α) (kN k)).2.1 1 else a_set α (k_get (a_c α) (kN k)).2.1 0) := if_pos hi
    rw [e0] at hQ
    generalize kN k = kn at *
    subst ek
    cases hp : k_pl (a_c α) kn with
    | none =>
      have hg : k_get (a_c α) kn = (none, a_c α, 0) := by unfold k_get; rw [hp]
      rw [hg] at hQ
      have hfd := cx_foundN (D := D) (d := 0) hM hC.2.1 hI hk hp
      refine z_il1 (q := 1) C dX0_get_0 rfl ?_
      refine xc_X0_220 (q := 4) C (cx_isKey (d := 0) σ _) dX0_get_1 rfl rfl rfl (Nat.le_of_ble_eq_true rfl) (by first | decide | omega) (by omega) (by omega) (kkE ?_)
      first | refine z_if_neB (tgt := 12) (q := 7) C dX0_get_4 (by decide) rfl (fun c4 => ?_) (fun c4 => ?_) | refine z_if_ne (tgt := 12) (q := 7) C dX0_get_4 (by decide) rfl (fun c4 => ?_) (fun c4 => ?_)
      · first | refine z_al0 (q := 13) C dX0_get_12 rfl ?_ | refine z_al0q (q := 13) C dX0_get_12 rfl ?_ | refine z_al0u (q := 13) C dX0_get_12 rfl ?_
        refine z_il1 (q := 14) C dX0_get_13 rfl ?_
        refine xc_X0_230 (q := 17) C hfd (by first | exact ho | exact hk | exact hb | exact he | assumption | exact Or.inl (by assumption) | exact Or.inr (by assumption)) dX0_get_14 rfl rfl rfl (Nat.le_of_ble_eq_true rfl) (by first | decide | omega) (by omega) (by omega) (kkE ?_)
        first | refine z_as2 (q := 18) C dX0_get_17 rfl (by first | exact loC_i | exact loC_r | exact loC_n | exact loC_q | exact loC_u) ?_ | refine z_as2q (q := 18) C dX0_get_17 rfl (by first | exact loC_i | exact loC_r | exact loC_n | exact loC_q | exact loC_u) ?_ | refine z_asu2 (q := 18) C dX0_get_17 rfl (by first | exact loC_i | exact loC_r | exact loC_n | exact loC_q | exact loC_u) ?_
        first | refine z_al2 (q := 19) C dX0_get_18 rfl ?_ | refine z_al2q (q := 19) C dX0_get_18 rfl ?_ | refine z_al2u (q := 19) C dX0_get_18 rfl ?_
        refine z_ifnonnull_u (q := 22) C dX0_get_19 rfl ?_
        refine z_iconst (q := 23) (v := -1) C dX0_get_22 rfl (by decide) ?_
        refine z_iret C hQ dX0_get_23 (by omega) (by omega) ?_
        exact ⟨_, rfl, rfl, h⟩
      · exact absurd hi (by rw [show isK (nI kn) = false from c4]; decide)
    | some e =>
      obtain ⟨he, hes, hke⟩ := k_pl_some hp
      have hg : k_get (a_c α) kn = (some (vAt (a_c α) e), if k_n (a_c α) 4 = 1 then k_mov (a_c α) e else a_c α, if k_n (a_c α) 4 = 1 then (if e + 1 = (k_es (a_c α)).length then 0 else 1) else 0) := by unfold k_get; rw [hp]
      rw [hg] at hQ
      have hfd := cx_foundS (D := D) (d := 0) hM hC.2.1 hI hk hp
      have hEC := hC.1.2.2 _ (List.mem_of_getElem? hes)
      rw [← hke] at hEC
      have hkd : kd σ (ad (kAt (a_c α) e)) = 2 := hEC.1
      have e21 : fi σ 21 (ad (kAt (a_c α) e)) = nI (vAt (a_c α) e) := hEC.2.2.1
      have e7 := hC.2.2.1
      have h41 := hI.2.2.2.2.2.2.2.1
      refine z_il1 (q := 1) C dX0_get_0 rfl ?_
      refine xc_X0_220 (q := 4) C (cx_isKey (d := 0) σ _) dX0_get_1 rfl rfl rfl (Nat.le_of_ble_eq_true rfl) (by first | decide | omega) (by omega) (by omega) (kkE ?_)
      refine z_if_neB (tgt := 12) (q := 7) C dX0_get_4 (by decide) rfl (fun c4 => ?_) (fun c4 => absurd hi (by rw [show isK (nI kn) = false from c4]; decide))
      first | refine z_al0 (q := 13) C dX0_get_12 rfl ?_ | refine z_al0q (q := 13) C dX0_get_12 rfl ?_ | refine z_al0u (q := 13) C dX0_get_12 rfl ?_
      refine z_il1 (q := 14) C dX0_get_13 rfl ?_
      refine xc_X0_230 (q := 17) C hfd (by first | exact ho | exact hk | exact hb | exact he | assumption | exact Or.inl (by assumption) | exact Or.inr (by assumption)) dX0_get_14 rfl rfl rfl (Nat.le_of_ble_eq_true rfl) (by first | decide | omega) (by omega) (by omega) (kkE ?_)
      first | refine z_as2 (q := 18) C dX0_get_17 rfl (by first | exact loC_i | exact loC_r | exact loC_n | exact loC_q | exact loC_u) ?_ | refine z_as2q (q := 18) C dX0_get_17 rfl (by first | exact loC_i | exact loC_r | exact loC_n | exact loC_q | exact loC_u) ?_ | refine z_asu2 (q := 18) C dX0_get_17 rfl (by first | exact loC_i | exact loC_r | exact loC_n | exact loC_q | exact loC_u) ?_
      first | refine z_al2 (q := 19) C dX0_get_18 rfl ?_ | refine z_al2q (q := 19) C dX0_get_18 rfl ?_ | refine z_al2u (q := 19) C dX0_get_18 rfl ?_
      refine z_ifnonnull_r (tgt := 24) C dX0_get_19 (by decide) ?_
      first | refine z_al0 (q := 25) C dX0_get_24 rfl ?_ | refine z_al0q (q := 25) C dX0_get_24 rfl ?_ | refine z_al0u (q := 25) C dX0_get_24 rfl ?_
      refine xg_X0_144 (q := 28) C (by first | exact ho | exact hk | exact hb | exact he | assumption) dX0_get_25 rfl ?_
      rw [e7]
      refine z_iconst (q := 29) (v := nI 1) C dX0_get_28 rfl (by decide) ?_
      refine z_icmp_neN (tgt := 49) (q := 32) C dX0_get_29 (by decide) rfl (by omega) (by omega) (fun c29 => ?_) (fun c29 => ?_)
      · rw [if_neg c29, if_neg c29] at hQ
        first | refine z_al2 (q := 50) C dX0_get_49 rfl ?_ | refine z_al2q (q := 50) C dX0_get_49 rfl ?_ | refine z_al2u (q := 50) C dX0_get_49 rfl ?_
        refine xg_X0_201 (q := 53) C (by exact hkd) dX0_get_50 rfl ?_
        rw [e21]
        refine z_iret C hQ dX0_get_53 (by omega) (by omega) ?_
        exact ⟨_, rfl, rfl, h⟩
      · rw [if_pos c29, if_pos c29] at hQ
        first | refine z_al2 (q := 33) C dX0_get_32 rfl ?_ | refine z_al2q (q := 33) C dX0_get_32 rfl ?_ | refine z_al2u (q := 33) C dX0_get_32 rfl ?_
        first | refine z_al0 (q := 34) C dX0_get_33 rfl ?_ | refine z_al0q (q := 34) C dX0_get_33 rfl ?_ | refine z_al0u (q := 34) C dX0_get_33 rfl ?_
        refine xg_X0_131 (q := 37) C (by first | exact ho | exact hk | exact hb | exact he | assumption) dX0_get_34 rfl ?_
        refine z_acmp_eq (rx := some (ad (kAt (a_c α) e))) (ry := fr σ 3 (p 0)) (tgt := 49) (q := 40) C dX0_get_37 (by decide) rfl (fun c37 => ?_) (fun c37 => ?_)
        · have hlast := (hC.1.lst hI he).mp c37
          rw [if_pos hlast, k_mov_last hlast] at hQ
          first | refine z_al2 (q := 50) C dX0_get_49 rfl ?_ | refine z_al2q (q := 50) C dX0_get_49 rfl ?_ | refine z_al2u (q := 50) C dX0_get_49 rfl ?_
          refine xg_X0_201 (q := 53) C (by exact hkd) dX0_get_50 rfl ?_
          rw [e21]
          refine z_iret C hQ dX0_get_53 (by omega) (by omega) ?_
          exact ⟨_, rfl, rfl, h⟩
        · have hlast : ¬ e + 1 = (k_es (a_c α)).length := fun z => c37 ((hC.1.lst hI he).mpr z)
          rw [if_neg hlast] at hQ
          first | refine z_al0 (q := 41) C dX0_get_40 rfl ?_ | refine z_al0q (q := 41) C dX0_get_40 rfl ?_ | refine z_al0u (q := 41) C dX0_get_40 rfl ?_
          refine xc_X0_237 (q := 44) C (cx_lv hX hC hI hP hq) (by first | exact ho | exact hk | exact hb | exact he | assumption | exact Or.inl (by assumption) | exact Or.inr (by assumption)) dX0_get_41 rfl rfl rfl (Nat.le_of_ble_eq_true rfl) (by first | decide | omega) (by omega) (by omega) (kkV fun σ41 h41 => ?_)
          obtain ⟨hP1, hF1⟩ := h41
          have hX1 := hX.keep hF1 (by simp) (by simp; exact hs.2.1.symm)
          have hC1 := hC.keep hM hF1 (by simp) (by simp) (by simp; exact hs.1.symm)
          have hmv := cx_moves (D := D) (d := 0) hX1.1 hC1 hI he
          rw [if_pos c29, if_pos c29, if_neg hlast] at hmv
          first | refine z_al0 (q := 45) C dX0_get_44 rfl ?_ | refine z_al0q (q := 45) C dX0_get_44 rfl ?_ | refine z_al0u (q := 45) C dX0_get_44 rfl ?_
          first | refine z_al2 (q := 46) C dX0_get_45 rfl ?_ | refine z_al2q (q := 46) C dX0_get_45 rfl ?_ | refine z_al2u (q := 46) C dX0_get_45 rfl ?_
          refine xc_X0_243 (q := 49) C hmv (by exact hX1.1.1) dX0_get_46 rfl rfl rfl (Nat.le_of_ble_eq_true rfl) (by first | decide | omega) (by omega) (by omega) (kkV fun σ46 h46 => ?_)
          obtain ⟨hC3, h93, hF3⟩ := h46
          have hF := (hF1.up (li' := [4, 9, 12]) (lr' := [2, 3, 24, 25]) (la' := [p 3]) (by simp) (by simp) (by simp)).tr (hF3.up (by simp) (by simp) (by simp))
          have hkd3 : kd σ46 (ad (kAt (a_c α) e)) = 2 := hF.ek hkd
          have e213 : fi σ46 21 (ad (kAt (a_c α) e)) = nI (vAt (a_c α) e) := by rw [hF.gi (by omega) (by simp)]; exact e21
          first | refine z_al2 (q := 50) C dX0_get_49 rfl ?_ | refine z_al2q (q := 50) C dX0_get_49 rfl ?_ | refine z_al2u (q := 50) C dX0_get_49 rfl ?_
          refine xg_X0_201 (q := 53) C (by exact hkd3) dX0_get_50 rfl ?_
          rw [e213]
          refine z_iret C hQ dX0_get_53 (by omega) (by omega) ?_
          refine ⟨_, rfl, rfl, XA.core hX hq hU hR hA (hF.up (by simp) (by simp) (by simp)) hC3 (hP1.keep hX1 hF3 (by simp) (by simp) (by simp) (by simp)) ?_ (Or.inl (by decide))⟩
          rw [h93, hF1.gi (by omega) (by simp), h9, nI_add]
theorem cx_peek (h : XA false D p σ α) (hA : AI N α) (k : Int32) : Ct (wX D) yX0_peek cX0_peek 3 (some .int) [.ref (p 0), .int k] σ (PI (fun r σ' => r = (a_peek α k).1 ∧ XA false D p σ' (a_peek α k).2)) 64 300 1500 := by
  obtain ⟨hX, hq, ⟨ad, B, hC, hU⟩, hP, h9, hR⟩ := id h
  have hM := hX.1
  have ho := hM.1
  obtain ⟨r16, k5, l5⟩ := hX.2.2.2.2.1
  have hI := hA.1
  refine Ct.of KXok (by decide) (Nat.le_of_ble_eq_true rfl) rfl fun Y C hQ hNm => ?_
  cases hi : isK k with
  | false =>
    have e1 : a_peek α k = (-2, a_rfs α 0) := if_neg (by rw [hi]; decide)
    rw [e1] at hQ
    have hb := h.rfs hA (i := 0) (by decide)
    refine z_il1 (q := 1) C dX0_peek_0 rfl ?_
    refine xc_X0_220 (q := 4) C (cx_isKey (d := 0) σ k) dX0_peek_1 rfl rfl rfl (Nat.le_of_ble_eq_true rfl) (by first | decide | omega) (by omega) (by omega) (kkE ?_)
    first | refine z_if_neB (tgt := 12) (q := 7) C dX0_peek_4 (by decide) rfl (fun c4 => ?_) (fun c4 => ?_) | refine z_if_ne (tgt := 12) (q := 7) C dX0_peek_4 (by decide) rfl (fun c4 => ?_) (fun c4 => ?_)
    · exact absurd hi (by rw [show isK k = true from c4]; decide)
    · first | refine z_al0 (q := 8) C dX0_peek_7 rfl ?_ | refine z_al0q (q := 8) C dX0_peek_7 rfl ?_ | refine z_al0u (q := 8) C dX0_peek_7 rfl ?_
      refine xc_X0_227 (q := 11) C (cx_bad (d := 0) ho r16 k5 l5) (by first | exact ho | exact hk | exact hb | exact he | assumption | exact Or.inl (by assumption) | exact Or.inr (by assumption)) dX0_peek_8 rfl rfl rfl (Nat.le_of_ble_eq_true rfl) (by first | decide | omega) (by omega) (by omega) (kkE ?_)
      refine z_iret C hQ dX0_peek_11 (by omega) (by omega) ?_
      exact ⟨_, rfl, rfl, hb⟩
  | true =>
    obtain ⟨ek, hk⟩ := isK_of hi
    have e0 : a_peek α k = (oI ((k_pl (a_c α) (kN k)).map (vAt (a_c α))), α) := if_pos hi
    rw [e0] at hQ
    generalize kN k = kn at *
    subst ek
    cases hp : k_pl (a_c α) kn with
    | none =>
      rw [hp] at hQ
      have hfd := cx_foundN (D := D) (d := 0) hM hC.2.1 hI hk hp
      refine z_il1 (q := 1) C dX0_peek_0 rfl ?_
      refine xc_X0_220 (q := 4) C (cx_isKey (d := 0) σ _) dX0_peek_1 rfl rfl rfl (Nat.le_of_ble_eq_true rfl) (by first | decide | omega) (by omega) (by omega) (kkE ?_)
      first | refine z_if_neB (tgt := 12) (q := 7) C dX0_peek_4 (by decide) rfl (fun c4 => ?_) (fun c4 => ?_) | refine z_if_ne (tgt := 12) (q := 7) C dX0_peek_4 (by decide) rfl (fun c4 => ?_) (fun c4 => ?_)
      · first | refine z_al0 (q := 13) C dX0_peek_12 rfl ?_ | refine z_al0q (q := 13) C dX0_peek_12 rfl ?_ | refine z_al0u (q := 13) C dX0_peek_12 rfl ?_
        refine z_il1 (q := 14) C dX0_peek_13 rfl ?_
        refine xc_X0_230 (q := 17) C hfd (by first | exact ho | exact hk | exact hb | exact he | assumption | exact Or.inl (by assumption) | exact Or.inr (by assumption)) dX0_peek_14 rfl rfl rfl (Nat.le_of_ble_eq_true rfl) (by first | decide | omega) (by omega) (by omega) (kkE ?_)
        first | refine z_as2 (q := 18) C dX0_peek_17 rfl (by first | exact loC_i | exact loC_r | exact loC_n | exact loC_q | exact loC_u) ?_ | refine z_as2q (q := 18) C dX0_peek_17 rfl (by first | exact loC_i | exact loC_r | exact loC_n | exact loC_q | exact loC_u) ?_ | refine z_asu2 (q := 18) C dX0_peek_17 rfl (by first | exact loC_i | exact loC_r | exact loC_n | exact loC_q | exact loC_u) ?_
        first | refine z_al2 (q := 19) C dX0_peek_18 rfl ?_ | refine z_al2q (q := 19) C dX0_peek_18 rfl ?_ | refine z_al2u (q := 19) C dX0_peek_18 rfl ?_
        refine z_ifnonnull_u (q := 22) C dX0_peek_19 rfl ?_
        refine z_iconst (q := 23) (v := -1) C dX0_peek_22 rfl (by decide) ?_
        refine z_goto (tgt := 30) C dX0_peek_23 (by decide) ?_
        refine z_iret C hQ dX0_peek_30 (by omega) (by omega) ?_
        exact ⟨_, rfl, rfl, h⟩
      · exact absurd hi (by rw [show isK (nI kn) = false from c4]; decide)
    | some e =>
      rw [hp] at hQ
      obtain ⟨he, hes, hke⟩ := k_pl_some hp
      have hfd := cx_foundS (D := D) (d := 0) hM hC.2.1 hI hk hp
      have hEC := hC.1.2.2 _ (List.mem_of_getElem? hes)
      rw [← hke] at hEC
      have hkd : kd σ (ad (kAt (a_c α) e)) = 2 := hEC.1
      have e21 : fi σ 21 (ad (kAt (a_c α) e)) = nI (vAt (a_c α) e) := hEC.2.2.1
      refine z_il1 (q := 1) C dX0_peek_0 rfl ?_
      refine xc_X0_220 (q := 4) C (cx_isKey (d := 0) σ _) dX0_peek_1 rfl rfl rfl (Nat.le_of_ble_eq_true rfl) (by first | decide | omega) (by omega) (by omega) (kkE ?_)
      first | refine z_if_neB (tgt := 12) (q := 7) C dX0_peek_4 (by decide) rfl (fun c4 => ?_) (fun c4 => ?_) | refine z_if_ne (tgt := 12) (q := 7) C dX0_peek_4 (by decide) rfl (fun c4 => ?_) (fun c4 => ?_)
      · first | refine z_al0 (q := 13) C dX0_peek_12 rfl ?_ | refine z_al0q (q := 13) C dX0_peek_12 rfl ?_ | refine z_al0u (q := 13) C dX0_peek_12 rfl ?_
        refine z_il1 (q := 14) C dX0_peek_13 rfl ?_
        refine xc_X0_230 (q := 17) C hfd (by first | exact ho | exact hk | exact hb | exact he | assumption | exact Or.inl (by assumption) | exact Or.inr (by assumption)) dX0_peek_14 rfl rfl rfl (Nat.le_of_ble_eq_true rfl) (by first | decide | omega) (by omega) (by omega) (kkE ?_)
        first | refine z_as2 (q := 18) C dX0_peek_17 rfl (by first | exact loC_i | exact loC_r | exact loC_n | exact loC_q | exact loC_u) ?_ | refine z_as2q (q := 18) C dX0_peek_17 rfl (by first | exact loC_i | exact loC_r | exact loC_n | exact loC_q | exact loC_u) ?_ | refine z_asu2 (q := 18) C dX0_peek_17 rfl (by first | exact loC_i | exact loC_r | exact loC_n | exact loC_q | exact loC_u) ?_
        first | refine z_al2 (q := 19) C dX0_peek_18 rfl ?_ | refine z_al2q (q := 19) C dX0_peek_18 rfl ?_ | refine z_al2u (q := 19) C dX0_peek_18 rfl ?_
        refine z_ifnonnull_r (tgt := 26) C dX0_peek_19 (by decide) ?_
        first | refine z_al2 (q := 27) C dX0_peek_26 rfl ?_ | refine z_al2q (q := 27) C dX0_peek_26 rfl ?_ | refine z_al2u (q := 27) C dX0_peek_26 rfl ?_
        refine xg_X0_201 (q := 30) C (by exact hkd) dX0_peek_27 rfl ?_
        rw [e21]
        refine z_iret C hQ dX0_peek_30 (by omega) (by omega) ?_
        exact ⟨_, rfl, rfl, h⟩
      · exact absurd hi (by rw [show isK (nI kn) = false from c4]; decide)
set_option maxHeartbeats 1000000 in
theorem cx_remove (h : XA q D p σ α) (hA : AI N α) (k : Int32) : Ct (wX D) yX0_remove cX0_remove 3 (some .int) [.ref (p 0), .int k] σ (PI (fun r σ' => r = (b_rem q α k).1 ∧ XA q D p σ' (b_rem q α k).2)) 64 20 400 := by
  obtain ⟨hX, hq, ⟨ad, B, hC, hU⟩, hP, h9, hR⟩ := id h
  have hM := hX.1
  have ho := hM.1
  have hs := hX.sep
  obtain ⟨r16, k5, l5⟩ := hX.2.2.2.2.1
  have hI := hA.1
  refine Ct.of KXok (by decide) (Nat.le_of_ble_eq_true rfl) rfl fun Y C hQ hNm => ?_
  cases hi : isK k with
  | false =>
    have e1 : b_rem q α k = (-2, a_rfs α 0) := if_neg (by rw [hi]; decide)
    rw [e1] at hQ
    have hb := h.rfs hA (i := 0) (by decide)
    refine z_il1 (q := 1) C dX0_remove_0 rfl ?_
    refine xc_X0_220 (q := 4) C (cx_isKey (d := 0) σ k) dX0_remove_1 rfl rfl rfl (Nat.le_of_ble_eq_true rfl) (by first | decide | omega) (by omega) (by omega) (kkE ?_)
    first | refine z_if_neB (tgt := 12) (q := 7) C dX0_remove_4 (by decide) rfl (fun c4 => ?_) (fun c4 => ?_) | refine z_if_ne (tgt := 12) (q := 7) C dX0_remove_4 (by decide) rfl (fun c4 => ?_) (fun c4 => ?_)
    · exact absurd hi (by rw [show isK k = true from c4]; decide)
    · first | refine z_al0 (q := 8) C dX0_remove_7 rfl ?_ | refine z_al0q (q := 8) C dX0_remove_7 rfl ?_ | refine z_al0u (q := 8) C dX0_remove_7 rfl ?_
      refine xc_X0_227 (q := 11) C (cx_bad (d := 0) ho r16 k5 l5) (by first | exact ho | exact hk | exact hb | exact he | assumption | exact Or.inl (by assumption) | exact Or.inr (by assumption)) dX0_remove_8 rfl rfl rfl (Nat.le_of_ble_eq_true rfl) (by first | decide | omega) (by omega) (by omega) (kkE ?_)
      refine z_iret C hQ dX0_remove_11 (by omega) (by omega) ?_
      exact ⟨_, rfl, rfl, hb⟩
  | true =>
    obtain ⟨ek, hk⟩ := isK_of hi
    have e0 : b_rem q α k = (oI (k_rem (a_c α) (kN k)).1, if (k_rem (a_c α) (kN k)).1 = none then α else a_lq q α (k_rem (a_c α) (kN k)).2.1 1) := if_pos hi
    rw [e0] at hQ
    generalize kN k = kn at *
    subst ek
    cases hp : k_pl (a_c α) kn with
    | none =>
      have hg : k_rem (a_c α) kn = (none, a_c α, 0) := by unfold k_rem; rw [hp]
      rw [hg] at hQ
      have hfd := cx_foundN (D := D) (d := 0) hM hC.2.1 hI hk hp
      refine z_il1 (q := 1) C dX0_remove_0 rfl ?_
      refine xc_X0_220 (q := 4) C (cx_isKey (d := 0) σ _) dX0_remove_1 rfl rfl rfl (Nat.le_of_ble_eq_true rfl) (by first | decide | omega) (by omega) (by omega) (kkE ?_)
      first | refine z_if_neB (tgt := 12) (q := 7) C dX0_remove_4 (by decide) rfl (fun c4 => ?_) (fun c4 => ?_) | refine z_if_ne (tgt := 12) (q := 7) C dX0_remove_4 (by decide) rfl (fun c4 => ?_) (fun c4 => ?_)
      · first | refine z_al0 (q := 13) C dX0_remove_12 rfl ?_ | refine z_al0q (q := 13) C dX0_remove_12 rfl ?_ | refine z_al0u (q := 13) C dX0_remove_12 rfl ?_
        refine z_il1 (q := 14) C dX0_remove_13 rfl ?_
        refine xc_X0_230 (q := 17) C hfd (by first | exact ho | exact hk | exact hb | exact he | assumption | exact Or.inl (by assumption) | exact Or.inr (by assumption)) dX0_remove_14 rfl rfl rfl (Nat.le_of_ble_eq_true rfl) (by first | decide | omega) (by omega) (by omega) (kkE ?_)
        first | refine z_as2 (q := 18) C dX0_remove_17 rfl (by first | exact loC_i | exact loC_r | exact loC_n | exact loC_q | exact loC_u) ?_ | refine z_as2q (q := 18) C dX0_remove_17 rfl (by first | exact loC_i | exact loC_r | exact loC_n | exact loC_q | exact loC_u) ?_ | refine z_asu2 (q := 18) C dX0_remove_17 rfl (by first | exact loC_i | exact loC_r | exact loC_n | exact loC_q | exact loC_u) ?_
        first | refine z_al2 (q := 19) C dX0_remove_18 rfl ?_ | refine z_al2q (q := 19) C dX0_remove_18 rfl ?_ | refine z_al2u (q := 19) C dX0_remove_18 rfl ?_
        refine z_ifnonnull_u (q := 22) C dX0_remove_19 rfl ?_
        refine z_iconst (q := 23) (v := -1) C dX0_remove_22 rfl (by decide) ?_
        refine z_iret C hQ dX0_remove_23 (by omega) (by omega) ?_
        exact ⟨_, rfl, rfl, h⟩
      · exact absurd hi (by rw [show isK (nI kn) = false from c4]; decide)
    | some e =>
      obtain ⟨he, hes, hke⟩ := k_pl_some hp
      have hg : k_rem (a_c α) kn = (some (vAt (a_c α) e), k_go (a_c α) e, 1) := by unfold k_rem; rw [hp]
      rw [hg] at hQ
      have hfd := cx_foundS (D := D) (d := 0) hM hC.2.1 hI hk hp
      have hEC := hC.1.2.2 _ (List.mem_of_getElem? hes)
      rw [← hke] at hEC
      have hkd : kd σ (ad (kAt (a_c α) e)) = 2 := hEC.1
      have e21 : fi σ 21 (ad (kAt (a_c α) e)) = nI (vAt (a_c α) e) := hEC.2.2.1
      refine z_il1 (q := 1) C dX0_remove_0 rfl ?_
      refine xc_X0_220 (q := 4) C (cx_isKey (d := 0) σ _) dX0_remove_1 rfl rfl rfl (Nat.le_of_ble_eq_true rfl) (by first | decide | omega) (by omega) (by omega) (kkE ?_)
      refine z_if_neB (tgt := 12) (q := 7) C dX0_remove_4 (by decide) rfl (fun c4 => ?_) (fun c4 => absurd hi (by rw [show isK (nI kn) = false from c4]; decide))
      first | refine z_al0 (q := 13) C dX0_remove_12 rfl ?_ | refine z_al0q (q := 13) C dX0_remove_12 rfl ?_ | refine z_al0u (q := 13) C dX0_remove_12 rfl ?_
      refine z_il1 (q := 14) C dX0_remove_13 rfl ?_
      refine xc_X0_230 (q := 17) C hfd (by first | exact ho | exact hk | exact hb | exact he | assumption | exact Or.inl (by assumption) | exact Or.inr (by assumption)) dX0_remove_14 rfl rfl rfl (Nat.le_of_ble_eq_true rfl) (by first | decide | omega) (by omega) (by omega) (kkE ?_)
      first | refine z_as2 (q := 18) C dX0_remove_17 rfl (by first | exact loC_i | exact loC_r | exact loC_n | exact loC_q | exact loC_u) ?_ | refine z_as2q (q := 18) C dX0_remove_17 rfl (by first | exact loC_i | exact loC_r | exact loC_n | exact loC_q | exact loC_u) ?_ | refine z_asu2 (q := 18) C dX0_remove_17 rfl (by first | exact loC_i | exact loC_r | exact loC_n | exact loC_q | exact loC_u) ?_
      first | refine z_al2 (q := 19) C dX0_remove_18 rfl ?_ | refine z_al2q (q := 19) C dX0_remove_18 rfl ?_ | refine z_al2u (q := 19) C dX0_remove_18 rfl ?_
      refine z_ifnonnull_r (tgt := 24) C dX0_remove_19 (by decide) ?_
      first | refine z_al0 (q := 25) C dX0_remove_24 rfl ?_ | refine z_al0q (q := 25) C dX0_remove_24 rfl ?_ | refine z_al0u (q := 25) C dX0_remove_24 rfl ?_
      refine xc_X0_237 (q := 28) C (cx_lv hX hC hI hP hq) (by first | exact ho | exact hk | exact hb | exact he | assumption | exact Or.inl (by assumption) | exact Or.inr (by assumption)) dX0_remove_25 rfl rfl rfl (Nat.le_of_ble_eq_true rfl) (by first | decide | omega) (by omega) (by omega) (kkV fun σ25 h25 => ?_)
      obtain ⟨hP1, hF1⟩ := h25
      have hX1 := hX.keep hF1 (by simp) (by simp; exact hs.2.1.symm)
      have hC1 := hC.keep hM hF1 (by simp) (by simp) (by simp; exact hs.1.symm)
      first | refine z_al0 (q := 29) C dX0_remove_28 rfl ?_ | refine z_al0q (q := 29) C dX0_remove_28 rfl ?_ | refine z_al0u (q := 29) C dX0_remove_28 rfl ?_
      first | refine z_al2 (q := 30) C dX0_remove_29 rfl ?_ | refine z_al2q (q := 30) C dX0_remove_29 rfl ?_ | refine z_al2u (q := 30) C dX0_remove_29 rfl ?_
      refine xc_X0_169 (q := 33) C (cx_leavesOne hX1.1 hC1 hI he) (by exact hX1.1.1) dX0_remove_30 rfl rfl rfl (Nat.le_of_ble_eq_true rfl) (by first | decide | omega) (by omega) (by omega) (kkV fun σ30 h30 => ?_)
      obtain ⟨⟨B3, hC3⟩, h93, hF3⟩ := h30
      have hF := (hF1.up (li' := [4, 9, 12, 42]) (lr' := [2, 3, 24, 25, 26, 27, 28, 29, 40, 41, 60]) (la' := [p 1, p 3]) (by simp) (by simp) (by simp)).tr (hF3.up (by simp) (by simp) (by simp))
      have hkd3 : kd σ30 (ad (kAt (a_c α) e)) = 2 := hF.ek hkd
      have e213 : fi σ30 21 (ad (kAt (a_c α) e)) = nI (vAt (a_c α) e) := by rw [hF.gi (by omega) (by simp)]; exact e21
      first | refine z_al2 (q := 34) C dX0_remove_33 rfl ?_ | refine z_al2q (q := 34) C dX0_remove_33 rfl ?_ | refine z_al2u (q := 34) C dX0_remove_33 rfl ?_
      refine xg_X0_201 (q := 37) C (by exact hkd3) dX0_remove_34 rfl ?_
      rw [e213]
      refine z_iret C hQ dX0_remove_37 (by omega) (by omega) ?_
      refine ⟨_, rfl, rfl, XA.core hX hq hU hR hA (hF.up (by simp) (by simp) (by simp)) hC3 (hP1.keep hX1 hF3 (by simp) (by simp) (by simp; exact hs.1) (by simp)) ?_ (Or.inl (by decide))⟩
      rw [h93, hF1.gi (by omega) (by simp), h9, nI_add]
theorem min_nI {x : Nat} (hx : x < 2 ^ 31) : (if nI x < nI 9999 then nI x else nI 9999) = nI (if 9999 < x then 9999 else x) := by
  have h1 := nI_toInt hx
  have h2 := nI_toInt (show 9999 < 2 ^ 31 by decide)
  by_cases h : 9999 < x
  · rw [if_pos h, if_neg (fun z => by rw [Int32.lt_iff_toInt_lt, h1, h2] at z; omega)]
  · rw [if_neg h]
    by_cases e : x = 9999
    · rw [e]; split <;> rfl
    · rw [if_pos (by rw [Int32.lt_iff_toInt_lt, h1, h2]; omega)]
set_option maxHeartbeats 1000000 in
theorem cx_adds (h : XA false D p σ α) (hA : AI N α) (k v : Int32) : Ct (wX D) yX0_adds cX0_adds 4 (some .int) [.ref (p 0), .int k, .int v] σ (PI (fun r σ' => r = (a_adds α k v).1 ∧ XA false D p σ' (a_adds α k v).2)) 64 300 1500 := by
  obtain ⟨hX, hq, ⟨ad, B, hC, hU⟩, hP, h9, hR⟩ := id h
  have hM := hX.1
  have ho := hM.1
  have hs := hX.sep
  obtain ⟨r16, k5, l5⟩ := hX.2.2.2.2.1
  have hI := hA.1
  have h48 := hA.2.1
  refine Ct.of KXok (by decide) (Nat.le_of_ble_eq_true rfl) rfl fun Y C hQ hNm => ?_
  cases hi : (isK k && isV v) with
  | false =>
    have e1 : a_adds α k v = (-2, a_rfs α 0) := if_neg (by rw [hi]; decide)
    rw [e1] at hQ
    have hb := h.rfs hA (i := 0) (by decide)
    refine z_il1 (q := 1) C dX0_adds_0 rfl ?_
    refine xc_X0_220 (q := 4) C (cx_isKey (d := 0) σ k) dX0_adds_1 rfl rfl rfl (Nat.le_of_ble_eq_true rfl) (by first | decide | omega) (by omega) (by omega) (kkE ?_)
    first | refine z_if_eqB (tgt := 14) (q := 7) C dX0_adds_4 (by decide) rfl (fun c4 => ?_) (fun c4 => ?_) | refine z_if_eq (tgt := 14) (q := 7) C dX0_adds_4 (by decide) rfl (fun c4 => ?_) (fun c4 => ?_)
    · first | refine z_al0 (q := 15) C dX0_adds_14 rfl ?_ | refine z_al0q (q := 15) C dX0_adds_14 rfl ?_ | refine z_al0u (q := 15) C dX0_adds_14 rfl ?_
      refine xc_X0_227 (q := 18) C (cx_bad (d := 0) ho r16 k5 l5) (by first | exact ho | exact hk | exact hb | exact he | assumption | exact Or.inl (by assumption) | exact Or.inr (by assumption)) dX0_adds_15 rfl rfl rfl (Nat.le_of_ble_eq_true rfl) (by first | decide | omega) (by omega) (by omega) (kkE ?_)
      refine z_iret C hQ dX0_adds_18 (by omega) (by omega) ?_
      exact ⟨_, rfl, rfl, hb⟩
    · refine z_il2 (q := 8) C dX0_adds_7 rfl ?_
      refine xc_X0_224 (q := 11) C (cx_isValue (d := 0) σ v) dX0_adds_8 rfl rfl rfl (Nat.le_of_ble_eq_true rfl) (by first | decide | omega) (by omega) (by omega) (kkE ?_)
      first | refine z_if_neB (tgt := 19) (q := 14) C dX0_adds_11 (by decide) rfl (fun c11 => ?_) (fun c11 => ?_) | refine z_if_ne (tgt := 19) (q := 14) C dX0_adds_11 (by decide) rfl (fun c11 => ?_) (fun c11 => ?_)
      · exact absurd hi (by rw [show isK k = true from c4, show isV v = true from c11]; decide)
      · first | refine z_al0 (q := 15) C dX0_adds_14 rfl ?_ | refine z_al0q (q := 15) C dX0_adds_14 rfl ?_ | refine z_al0u (q := 15) C dX0_adds_14 rfl ?_
        refine xc_X0_227 (q := 18) C (cx_bad (d := 0) ho r16 k5 l5) (by first | exact ho | exact hk | exact hb | exact he | assumption | exact Or.inl (by assumption) | exact Or.inr (by assumption)) dX0_adds_15 rfl rfl rfl (Nat.le_of_ble_eq_true rfl) (by first | decide | omega) (by omega) (by omega) (kkE ?_)
        refine z_iret C hQ dX0_adds_18 (by omega) (by omega) ?_
        exact ⟨_, rfl, rfl, hb⟩
  | true =>
    obtain ⟨g1, g2⟩ := Bool.and_eq_true_iff.mp hi
    obtain ⟨ek, hk⟩ := isK_of g1
    obtain ⟨ev, hv⟩ := isV_of g2
    have e0 : a_adds α k v = if k_may (a_c α) (kN k) = true then (nI (k_addv (a_c α) (kN k) (kN v)).1, a_lv α (k_addv (a_c α) (kN k) (kN v)).2.1 (k_addv (a_c α) (kN k) (kN v)).2.2) else (-4, a_rfs α 2) := if_pos hi
    rw [e0] at hQ
    generalize kN k = kn at *
    generalize kN v = vn at *
    subst ek
    subst ev
    cases hp : k_pl (a_c α) kn with
    | none =>
      have hmay : k_may (a_c α) kn = !k_full (a_c α) := by unfold k_may; rw [hp]; rfl
      have hput : k_addv (a_c α) kn vn = (vn, k_come (a_c α) kn vn, if 0 < k_n (a_c α) 5 ∧ k_n (a_c α) 5 < (k_es (a_c α)).length + 1 then 2 else 1) := by unfold k_addv; rw [hp]
      have hfd := cx_foundN (D := D) (d := 0) hM hC.2.1 hI hk hp
      refine z_il1 (q := 1) C dX0_adds_0 rfl ?_
      refine xc_X0_220 (q := 4) C (cx_isKey (d := 0) σ _) dX0_adds_1 rfl rfl rfl (Nat.le_of_ble_eq_true rfl) (by first | decide | omega) (by omega) (by omega) (kkE ?_)
      refine z_if_eqB (tgt := 14) (q := 7) C dX0_adds_4 (by decide) rfl (fun c4 => absurd g1 (by rw [show isK (nI kn) = false from c4]; decide)) (fun c4 => ?_)
      refine z_il2 (q := 8) C dX0_adds_7 rfl ?_
      refine xc_X0_224 (q := 11) C (cx_isValue (d := 0) σ _) dX0_adds_8 rfl rfl rfl (Nat.le_of_ble_eq_true rfl) (by first | decide | omega) (by omega) (by omega) (kkE ?_)
      refine z_if_neB (tgt := 19) (q := 14) C dX0_adds_11 (by decide) rfl (fun c11 => ?_) (fun c11 => absurd g2 (by rw [show isV (nI vn) = false from c11]; decide))
      first | refine z_al0 (q := 20) C dX0_adds_19 rfl ?_ | refine z_al0q (q := 20) C dX0_adds_19 rfl ?_ | refine z_al0u (q := 20) C dX0_adds_19 rfl ?_
      refine z_il1 (q := 21) C dX0_adds_20 rfl ?_
      refine xc_X0_230 (q := 24) C hfd (by first | exact ho | exact hk | exact hb | exact he | assumption | exact Or.inl (by assumption) | exact Or.inr (by assumption)) dX0_adds_21 rfl rfl rfl (Nat.le_of_ble_eq_true rfl) (by first | decide | omega) (by omega) (by omega) (kkE ?_)
      first | refine z_as3 (q := 25) C dX0_adds_24 rfl (by first | exact loC_i | exact loC_r | exact loC_n | exact loC_q | exact loC_u) ?_ | refine z_as3q (q := 25) C dX0_adds_24 rfl (by first | exact loC_i | exact loC_r | exact loC_n | exact loC_q | exact loC_u) ?_ | refine z_asu3 (q := 25) C dX0_adds_24 rfl (by first | exact loC_i | exact loC_r | exact loC_n | exact loC_q | exact loC_u) ?_
      first | refine z_al3 (q := 26) C dX0_adds_25 rfl ?_ | refine z_al3q (q := 26) C dX0_adds_25 rfl ?_ | refine z_al3u (q := 26) C dX0_adds_25 rfl ?_
      refine z_ifnonnull_u (q := 29) C dX0_adds_26 rfl ?_
      first | refine z_al0 (q := 30) C dX0_adds_29 rfl ?_ | refine z_al0q (q := 30) C dX0_adds_29 rfl ?_ | refine z_al0u (q := 30) C dX0_adds_29 rfl ?_
      refine xc_X0_233 (q := 33) C (cx_isFull (d := 0) ho hC hI) (by first | exact ho | exact hk | exact hb | exact he | assumption | exact Or.inl (by assumption) | exact Or.inr (by assumption)) dX0_adds_30 rfl rfl rfl (Nat.le_of_ble_eq_true rfl) (by first | decide | omega) (by omega) (by omega) (kkE ?_)
      refine z_if_eqB (tgt := 44) (q := 36) C dX0_adds_33 (by decide) rfl (fun c33 => ?_) (fun c33 => ?_)
      · rw [if_pos (by rw [hmay, c33]; rfl), hput] at hQ
        first | refine z_al0 (q := 45) C dX0_adds_44 rfl ?_ | refine z_al0q (q := 45) C dX0_adds_44 rfl ?_ | refine z_al0u (q := 45) C dX0_adds_44 rfl ?_
        refine xc_X0_237 (q := 48) C (cx_lv hX hC hI hP hq) (by first | exact ho | exact hk | exact hb | exact he | assumption | exact Or.inl (by assumption) | exact Or.inr (by assumption)) dX0_adds_45 rfl rfl rfl (Nat.le_of_ble_eq_true rfl) (by first | decide | omega) (by omega) (by omega) (kkV fun σ45 h45 => ?_)
        obtain ⟨hP1, hF1⟩ := h45
        have hX1 := hX.keep hF1 (by simp) (by simp; exact hs.2.1.symm)
        have hC1 := hC.keep hM hF1 (by simp) (by simp) (by simp; exact hs.1.symm)
        first | refine z_al3 (q := 49) C dX0_adds_48 rfl ?_ | refine z_al3q (q := 49) C dX0_adds_48 rfl ?_ | refine z_al3u (q := 49) C dX0_adds_48 rfl ?_
        refine z_ifnonnull_u (q := 52) C dX0_adds_49 rfl ?_
        first | refine z_al0 (q := 53) C dX0_adds_52 rfl ?_ | refine z_al0q (q := 53) C dX0_adds_52 rfl ?_ | refine z_al0u (q := 53) C dX0_adds_52 rfl ?_
        refine z_il1 (q := 54) C dX0_adds_53 rfl ?_
        refine z_il2 (q := 55) C dX0_adds_54 rfl ?_
        refine xc_X0_240 (q := 58) C (cx_comesNew hX1.1 hC1 hI hk hv (k_pl_none hp) h48) (by exact hX1.1.1) dX0_adds_55 rfl rfl rfl (Nat.le_of_ble_eq_true rfl) (by first | decide | omega) (by omega) (by omega) (kkV fun σ55 h55 => ?_)
        refine z_il2 (q := 59) C dX0_adds_58 rfl ?_
        refine z_iret C hQ dX0_adds_59 (by omega) (by omega) ?_
        obtain ⟨⟨ad', B', -, hC2⟩, h92, hF2⟩ := h55
        refine ⟨_, rfl, rfl, XA.core hX hq hU hR hA ((hF1.up (by simp) (by simp) (by simp)).tr (hF2.up (by simp) (by simp) (by simp))) hC2 (hP1.keep hX1 hF2 (by simp) (by simp) (by simp; exact hs.1) (by simp)) ?_ (Or.inl (by show 0 < (if _ then 2 else 1); split <;> omega))⟩
        rw [h92, hF1.gi (by omega) (by simp), h9, nI_add]
      · rw [if_neg (by rw [hmay, c33]; decide)] at hQ
        have hb := h.rfs hA (i := 2) (by decide)
        first | refine z_al0 (q := 37) C dX0_adds_36 rfl ?_ | refine z_al0q (q := 37) C dX0_adds_36 rfl ?_ | refine z_al0u (q := 37) C dX0_adds_36 rfl ?_
        refine z_iconst (q := 38) (v := nI 2) C dX0_adds_37 rfl (by decide) ?_
        refine z_bipush (q := 40) (v := -4) C dX0_adds_38 rfl (by decide) ?_
        refine xc_X0_58 (q := 43) C (cx_refuses (d := 0) ho r16 k5 l5 (by decide)) (by first | exact ho | exact hk | exact hb | exact he | assumption | exact Or.inl (by assumption) | exact Or.inr (by assumption)) dX0_adds_40 rfl rfl rfl (Nat.le_of_ble_eq_true rfl) (by first | decide | omega) (by omega) (by omega) (kkE ?_)
        refine z_iret C hQ dX0_adds_43 (by omega) (by omega) ?_
        exact ⟨_, rfl, rfl, hb⟩
    | some e =>
      obtain ⟨he, hes, hke⟩ := k_pl_some hp
      have hva : vAt (a_c α) e ≤ 9999 := (hI.2.1 _ (List.mem_of_getElem? hes)).2
      have hput : k_addv (a_c α) kn vn = (if 9999 < vAt (a_c α) e + vn then 9999 else vAt (a_c α) e + vn, k_val (a_c α) e (if 9999 < vAt (a_c α) e + vn then 9999 else vAt (a_c α) e + vn), 0) := by unfold k_addv; rw [hp]
      rw [if_pos (by unfold k_may; rw [hp]; rfl), hput] at hQ
      have hmin := min_nI (x := vAt (a_c α) e + vn) (by omega)
      have hmv : (if 9999 < vAt (a_c α) e + vn then 9999 else vAt (a_c α) e + vn) ≤ 9999 := by split <;> omega
      generalize (if 9999 < vAt (a_c α) e + vn then 9999 else vAt (a_c α) e + vn) = mv at *
      have hfd := cx_foundS (D := D) (d := 0) hM hC.2.1 hI hk hp
      refine z_il1 (q := 1) C dX0_adds_0 rfl ?_
      refine xc_X0_220 (q := 4) C (cx_isKey (d := 0) σ _) dX0_adds_1 rfl rfl rfl (Nat.le_of_ble_eq_true rfl) (by first | decide | omega) (by omega) (by omega) (kkE ?_)
      refine z_if_eqB (tgt := 14) (q := 7) C dX0_adds_4 (by decide) rfl (fun c4 => absurd g1 (by rw [show isK (nI kn) = false from c4]; decide)) (fun c4 => ?_)
      refine z_il2 (q := 8) C dX0_adds_7 rfl ?_
      refine xc_X0_224 (q := 11) C (cx_isValue (d := 0) σ _) dX0_adds_8 rfl rfl rfl (Nat.le_of_ble_eq_true rfl) (by first | decide | omega) (by omega) (by omega) (kkE ?_)
      refine z_if_neB (tgt := 19) (q := 14) C dX0_adds_11 (by decide) rfl (fun c11 => ?_) (fun c11 => absurd g2 (by rw [show isV (nI vn) = false from c11]; decide))
      first | refine z_al0 (q := 20) C dX0_adds_19 rfl ?_ | refine z_al0q (q := 20) C dX0_adds_19 rfl ?_ | refine z_al0u (q := 20) C dX0_adds_19 rfl ?_
      refine z_il1 (q := 21) C dX0_adds_20 rfl ?_
      refine xc_X0_230 (q := 24) C hfd (by first | exact ho | exact hk | exact hb | exact he | assumption | exact Or.inl (by assumption) | exact Or.inr (by assumption)) dX0_adds_21 rfl rfl rfl (Nat.le_of_ble_eq_true rfl) (by first | decide | omega) (by omega) (by omega) (kkE ?_)
      first | refine z_as3 (q := 25) C dX0_adds_24 rfl (by first | exact loC_i | exact loC_r | exact loC_n | exact loC_q | exact loC_u) ?_ | refine z_as3q (q := 25) C dX0_adds_24 rfl (by first | exact loC_i | exact loC_r | exact loC_n | exact loC_q | exact loC_u) ?_ | refine z_asu3 (q := 25) C dX0_adds_24 rfl (by first | exact loC_i | exact loC_r | exact loC_n | exact loC_q | exact loC_u) ?_
      first | refine z_al3 (q := 26) C dX0_adds_25 rfl ?_ | refine z_al3q (q := 26) C dX0_adds_25 rfl ?_ | refine z_al3u (q := 26) C dX0_adds_25 rfl ?_
      refine z_ifnonnull_r (tgt := 44) C dX0_adds_26 (by decide) ?_
      first | refine z_al0 (q := 45) C dX0_adds_44 rfl ?_ | refine z_al0q (q := 45) C dX0_adds_44 rfl ?_ | refine z_al0u (q := 45) C dX0_adds_44 rfl ?_
      refine xc_X0_237 (q := 48) C (cx_lv hX hC hI hP hq) (by first | exact ho | exact hk | exact hb | exact he | assumption | exact Or.inl (by assumption) | exact Or.inr (by assumption)) dX0_adds_45 rfl rfl rfl (Nat.le_of_ble_eq_true rfl) (by first | decide | omega) (by omega) (by omega) (kkV fun σ45 h45 => ?_)
      obtain ⟨hP1, hF1⟩ := h45
      have hX1 := hX.keep hF1 (by simp) (by simp; exact hs.2.1.symm)
      have hC1 := hC.keep hM hF1 (by simp) (by simp) (by simp; exact hs.1.symm)
      have hEC := hC1.1.2.2 _ (List.mem_of_getElem? hes)
      rw [← hke] at hEC
      have hkd : kd σ45 (ad (kAt (a_c α) e)) = 2 := hEC.1
      have e21 : fi σ45 21 (ad (kAt (a_c α) e)) = nI (vAt (a_c α) e) := hEC.2.2.1
      obtain ⟨hC2, hF2⟩ := hC1.val hX1.1 hI he hmv
      have e22 : fi (sI 21 (ad (kAt (a_c α) e)) (nI mv) σ45) 21 (ad (kAt (a_c α) e)) = nI mv := by rw [fi_sI, if_pos ⟨rfl, rfl⟩]
      first | refine z_al3 (q := 49) C dX0_adds_48 rfl ?_ | refine z_al3q (q := 49) C dX0_adds_48 rfl ?_ | refine z_al3u (q := 49) C dX0_adds_48 rfl ?_
      refine z_ifnonnull_r (tgt := 60) C dX0_adds_49 (by decide) ?_
      first | refine z_al3 (q := 61) C dX0_adds_60 rfl ?_ | refine z_al3q (q := 61) C dX0_adds_60 rfl ?_ | refine z_al3u (q := 61) C dX0_adds_60 rfl ?_
      refine z_sipush (q := 64) (v := nI 9999) C dX0_adds_61 rfl (by decide) ?_
      first | refine z_al3 (q := 65) C dX0_adds_64 rfl ?_ | refine z_al3q (q := 65) C dX0_adds_64 rfl ?_ | refine z_al3u (q := 65) C dX0_adds_64 rfl ?_
      refine xg_X0_201 (q := 68) C (by exact hkd) dX0_adds_65 rfl ?_
      rw [e21]
      refine z_il2 (q := 69) C dX0_adds_68 rfl ?_
      first | refine z_iaddN (q := 70) C dX0_adds_69 rfl ?_ | refine z_iadd (q := 70) C dX0_adds_69 rfl ?_
      refine xc_X0_246 (q := 73) C dX0_adds_70 rfl (Nat.le_of_ble_eq_true rfl) (by omega) (by omega) (by first | decide | omega) ?_
      rw [hmin]
      refine xp_X0_201 (q := 76) C (by exact hkd) dX0_adds_73 rfl ?_
      first | refine z_al3 (q := 77) C dX0_adds_76 rfl ?_ | refine z_al3q (q := 77) C dX0_adds_76 rfl ?_ | refine z_al3u (q := 77) C dX0_adds_76 rfl ?_
      refine xg_X0_201 (q := 80) C (by exact hkd) dX0_adds_77 rfl ?_
      rw [e22]
      refine z_iret C hQ dX0_adds_80 (by omega) (by omega) ?_
      refine ⟨_, rfl, rfl, XA.core (δ := 0) hX hq hU hR hA ((hF1.up (by simp) (by simp) (by simp)).tr (hF2.up (by simp) (by simp) (by simp))) hC2 (hP1.keep hX1 hF2 (by simp) (by simp) (by simp) (by simp)) ?_ (Or.inr ⟨rfl, fun x hx => ⟨?_, rfl⟩⟩)⟩
      · rw [hF2.gi (by have := hX1.1.1; omega) (by simp), hF1.gi (by omega) (by simp), h9]
        rfl
      · rw [(hI.val he hmv).2]; exact hx
theorem XO.nil {ad : Nat → Nat} {o : Nat} {σ : Sg} (h2 : fr σ 2 o = none) (h3 : fr σ 3 o = none) (h4 : fi σ 4 o = nI 0) : XO ad o σ [] := ⟨by rw [h2, h3]; exact DL.nil, h4, fun e he => by simp at he⟩
set_option maxHeartbeats 1000000 in
theorem cx_clears (h : XA q D p σ α) (hA : AI N α) : Ct (wX D) yX0_clears cX0_clears 2 (some .int) [.ref (p 0)] σ (PI (fun r σ' => r = (b_clears q α).1 ∧ XA q D p σ' (b_clears q α).2)) 64 20 400 := by
  obtain ⟨hX, hq, ⟨ad, B, hC, hU⟩, hP, h9, hR⟩ := id h
  have hM := hX.1
  have ho := hM.1
  have hs := hX.sep
  have hI := hA.1
  have h48 := hA.2.1
  have e4 := hC.1.2.1
  refine Ct.of KXok (by decide) (Nat.le_of_ble_eq_true rfl) rfl fun Y C hQ hNm => ?_
  by_cases hl : 0 < (k_es (a_c α)).length
  · have e0 : b_clears q α = (nI (k_es (a_c α)).length, a_lq q α (k_clr (a_c α)) 1) := by unfold b_clears; rw [if_pos hl]
    rw [e0] at hQ
    have hkc : k_clr (a_c α) = ([], [], (k_emp (a_c α)).2.2) := if_pos hl
    first | refine z_al0 (q := 1) C dX0_clears_0 rfl ?_ | refine z_al0q (q := 1) C dX0_clears_0 rfl ?_ | refine z_al0u (q := 1) C dX0_clears_0 rfl ?_
    refine xg_X0_142 (q := 4) C (by first | exact ho | exact hk | exact hb | exact he | assumption) dX0_clears_1 rfl ?_
    rw [e4]
    refine z_is1 (q := 5) C dX0_clears_4 rfl (by first | exact loC_i | exact loC_r | exact loC_n | exact loC_q | exact loC_u) ?_
    refine z_il1 (q := 6) C dX0_clears_5 rfl ?_
    refine z_if_le (tgt := 42) (q := 9) C dX0_clears_6 (by decide) rfl (fun c6 => ?_) (fun c6 => ?_)
    · exact absurd c6 (by
        rw [Int32.le_iff_toInt_le, nI_toInt (by omega)]
        have h2 : (0 : Int32).toInt = 0 := by decide
        omega)
    · first | refine z_al0 (q := 10) C dX0_clears_9 rfl ?_ | refine z_al0q (q := 10) C dX0_clears_9 rfl ?_ | refine z_al0u (q := 10) C dX0_clears_9 rfl ?_
      refine xc_X0_237 (q := 13) C (cx_lv hX hC hI hP hq) (by first | exact ho | exact hk | exact hb | exact he | assumption | exact Or.inl (by assumption) | exact Or.inr (by assumption)) dX0_clears_10 rfl rfl rfl (Nat.le_of_ble_eq_true rfl) (by first | decide | omega) (by omega) (by omega) (kkV fun σ10 h10 => ?_)
      obtain ⟨hP1, hF1⟩ := h10
      have hX1 := hX.keep hF1 (by simp) (by simp; exact hs.2.1.symm)
      have ho1 := hX1.1.1
      have hC1 := hC.keep hM hF1 (by simp) (by simp) (by simp; exact hs.1.symm)
      have hF2 : FG [4] [2, 3] [] σ10 (sI 4 (p 0) (nI 0) (sR 3 (p 0) none (sR 2 (p 0) none σ10))) := ((FR.rf.wR (fun _ => by simp)).wR (fun _ => by simp)).wI (fun _ => by simp)
      have g2 : fr (sI 4 (p 0) (nI 0) (sR 3 (p 0) none (sR 2 (p 0) none σ10))) 2 (p 0) = none := by rw [fr_sI, fr_sR, if_neg (fun z => by cases z.1), fr_sR, if_pos ⟨rfl, rfl⟩]
      have g3 : fr (sI 4 (p 0) (nI 0) (sR 3 (p 0) none (sR 2 (p 0) none σ10))) 3 (p 0) = none := by rw [fr_sI, fr_sR, if_pos ⟨rfl, rfl⟩]
      have g4 : fi (sI 4 (p 0) (nI 0) (sR 3 (p 0) none (sR 2 (p 0) none σ10))) 4 (p 0) = nI 0 := by rw [fi_sI, if_pos ⟨rfl, rfl⟩]
      first | refine z_al0 (q := 14) C dX0_clears_13 rfl ?_ | refine z_al0q (q := 14) C dX0_clears_13 rfl ?_ | refine z_al0u (q := 14) C dX0_clears_13 rfl ?_
      refine z_null (q := 15) C dX0_clears_14 rfl ?_
      first | refine xpr_X0_140 (q := 18) C (by exact ho1) dX0_clears_15 rfl ?_ | refine xpn_X0_140 (q := 18) C (by exact ho1) dX0_clears_15 rfl ?_ | refine xp_X0_140 (q := 18) C (by exact ho1) dX0_clears_15 rfl ?_
      first | refine z_al0 (q := 19) C dX0_clears_18 rfl ?_ | refine z_al0q (q := 19) C dX0_clears_18 rfl ?_ | refine z_al0u (q := 19) C dX0_clears_18 rfl ?_
      refine z_null (q := 20) C dX0_clears_19 rfl ?_
      first | refine xpr_X0_131 (q := 23) C (by exact ho1) dX0_clears_20 rfl ?_ | refine xpn_X0_131 (q := 23) C (by exact ho1) dX0_clears_20 rfl ?_ | refine xp_X0_131 (q := 23) C (by exact ho1) dX0_clears_20 rfl ?_
      first | refine z_al0 (q := 24) C dX0_clears_23 rfl ?_ | refine z_al0q (q := 24) C dX0_clears_23 rfl ?_ | refine z_al0u (q := 24) C dX0_clears_23 rfl ?_
      refine z_iconst (q := 25) (v := nI 0) C dX0_clears_24 rfl (by decide) ?_
      refine xp_X0_142 (q := 28) C (by exact ho1) dX0_clears_25 rfl ?_
      generalize sI 4 (p 0) (nI 0) (sR 3 (p 0) none (sR 2 (p 0) none σ10)) = σ2 at *
      have hX2 := hX1.keep hF2 (by simp) (by simp)
      have hM2 := hX2.1
      have n1 : kd σ10 (p 0) ≠ 0 := by omega
      have g5 : fi σ2 5 (p 0) = nI (k_n (k_clr (a_c α)) 2) := by rw [hF2.gi n1 (by simp), hkc]; exact hC1.2.1.2.2.2.2.1
      have g6 : fi σ2 6 (p 0) = nI (k_n (k_clr (a_c α)) 3) := by rw [hF2.gi n1 (by simp), hkc]; exact hC1.2.1.2.2.2.2.2
      first | refine z_al0 (q := 29) C dX0_clears_28 rfl ?_ | refine z_al0q (q := 29) C dX0_clears_28 rfl ?_ | refine z_al0u (q := 29) C dX0_clears_28 rfl ?_
      refine xc_X0_55 (q := 32) C (cx_empties (ad := ad) (d := 0) (c := k_clr (a_c α)) hM2 g5 g6 (by rw [hkc]) (by rw [hkc]; rfl) (fun b => by rw [hkc]; rfl)) (by exact hM2.1) dX0_clears_29 rfl rfl rfl (Nat.le_of_ble_eq_true rfl) (by first | decide | omega) (by omega) (by omega) (kkV fun σ29 h29 => ?_)
      obtain ⟨⟨B3, hB3⟩, hF3⟩ := h29
      have hX3 := hX2.keep hF3 (by simp) (by simp; exact hs.2.2.2.2.2.1.symm)
      have ho3 := hX3.1.1
      have n2 : kd σ2 (p 0) ≠ 0 := by have := hM2.1; omega
      have hF4 : FG [9] [] [] σ29 (sI 9 (p 0) (fi σ29 9 (p 0) + nI 1) σ29) := FR.rf.wI (fun _ => by simp)
      have hO3 : XO ad (p 0) σ29 (k_es (k_clr (a_c α))) := by
        rw [hkc]
        exact XO.nil (by rw [hF3.gr n2 (by simp)]; exact g2) (by rw [hF3.gr n2 (by simp)]; exact g3) (by rw [hF3.gi n2 (by simp)]; exact g4)
      have hC3 : XC ad (p 0) (p 1) σ29 B3 (k_clr (a_c α)) := ⟨hO3, hB3, by rw [hF3.gi n2 (by simp), hF2.gi n1 (by simp), hkc]; exact hC1.2.2.1, by rw [hF3.gi n2 (by simp), hF2.gi n1 (by simp), hkc]; exact hC1.2.2.2⟩
      have hC4 := hC3.keep hX3.1 hF4 (by simp) (by simp) (by simp)
      have hF : FG [1, 4, 5, 6, 7, 8, 9, 12, 21, 23, 42] [2, 3, 24, 25, 26, 27, 28, 29, 40, 41, 60] [p 1, p 3] σ (sI 9 (p 0) (fi σ29 9 (p 0) + nI 1) σ29) := (hF1.up (by simp) (by simp) (by simp)).tr ((hF2.up (by simp) (by simp) (by simp)).tr ((hF3.up (by simp) (by simp) (by simp)).tr (hF4.up (by simp) (by simp) (by simp))))
      first | refine z_al0 (q := 33) C dX0_clears_32 rfl ?_ | refine z_al0q (q := 33) C dX0_clears_32 rfl ?_ | refine z_al0u (q := 33) C dX0_clears_32 rfl ?_
      refine z_dup (q := 34) C dX0_clears_33 rfl rfl ?_
      refine xg_X0_153 (q := 37) C (by exact ho3) dX0_clears_34 rfl ?_
      refine z_iconst (q := 38) (v := nI 1) C dX0_clears_37 rfl (by decide) ?_
      first | refine z_iaddN (q := 39) C dX0_clears_38 rfl ?_ | refine z_iadd (q := 39) C dX0_clears_38 rfl ?_
      refine xp_X0_153 (q := 42) C (by exact ho3) dX0_clears_39 rfl ?_
      refine z_il1 (q := 43) C dX0_clears_42 rfl ?_
      refine z_iret C hQ dX0_clears_43 (by omega) (by omega) ?_
      refine ⟨_, rfl, rfl, XA.core hX hq hU hR hA hF hC4 (((hP1.keep hX1 hF2 (by simp) (by simp) (by simp) (by simp)).keep hX2 hF3 (by simp) (by simp) (by simp; exact hs.1) (by simp)).keep hX3 hF4 (by simp) (by simp) (by simp) (by simp)) ?_ (Or.inl (by decide))⟩
      rw [fi_sI, if_pos ⟨rfl, rfl⟩, hF3.gi n2 (by simp), hF2.gi n1 (by simp), hF1.gi (by omega) (by simp), h9, nI_add]
  · have e0 : b_clears q α = (nI (k_es (a_c α)).length, α) := by unfold b_clears; rw [if_neg hl]
    rw [e0] at hQ
    first | refine z_al0 (q := 1) C dX0_clears_0 rfl ?_ | refine z_al0q (q := 1) C dX0_clears_0 rfl ?_ | refine z_al0u (q := 1) C dX0_clears_0 rfl ?_
    refine xg_X0_142 (q := 4) C (by first | exact ho | exact hk | exact hb | exact he | assumption) dX0_clears_1 rfl ?_
    rw [e4]
    refine z_is1 (q := 5) C dX0_clears_4 rfl (by first | exact loC_i | exact loC_r | exact loC_n | exact loC_q | exact loC_u) ?_
    refine z_il1 (q := 6) C dX0_clears_5 rfl ?_
    refine z_if_le (tgt := 42) (q := 9) C dX0_clears_6 (by decide) rfl (fun c6 => ?_) (fun c6 => ?_)
    · refine z_il1 (q := 43) C dX0_clears_42 rfl ?_
      refine z_iret C hQ dX0_clears_43 (by omega) (by omega) ?_
      exact ⟨_, rfl, rfl, h⟩
    · exact absurd (by rw [show (k_es (a_c α)).length = 0 by omega]; decide) c6
end T73
