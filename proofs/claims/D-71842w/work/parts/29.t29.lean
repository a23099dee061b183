/-! the calls that change entries: what they mean, and the twin does it -/
abbrev kN (k : Int32) : Nat := k.toNatClampNeg
abbrev isK (k : Int32) : Bool := inB k (nI 0) (nI 999999)
abbrev isV (v : Int32) : Bool := inB v (nI 0) (nI 9999)
theorem isK_of {k : Int32} (h : isK k = true) : k = nI (kN k) ∧ kN k ≤ 999999 := by
  obtain ⟨j, h1, rfl⟩ := inB_of (by decide) h
  have : kN (nI j) = j := nI_clamp (by omega)
  rw [this]
  exact ⟨rfl, h1⟩
theorem isV_of {k : Int32} (h : isV k = true) : k = nI (kN k) ∧ kN k ≤ 9999 := by
  obtain ⟨j, h1, rfl⟩ := inB_of (by decide) h
  have : kN (nI j) = j := nI_clamp (by omega)
  rw [this]
  exact ⟨rfl, h1⟩
theorem in_of {k : Int32} {M : Nat} (hM : M ≤ 1000000) (h : inB k (nI 0) (nI M) = true) : k = nI (kN k) ∧ kN k ≤ M := by
  obtain ⟨j, h1, rfl⟩ := inB_of (by omega) h
  have : kN (nI j) = j := nI_clamp (by omega)
  rw [this]
  exact ⟨rfl, h1⟩
def a_put (α : Al) (k v : Int32) : Int32 × Al := if (isK k && isV v) = true then (if k_may (a_c α) (kN k) = true then (oI (k_put (a_c α) (kN k) (kN v)).1, a_lv α (k_put (a_c α) (kN k) (kN v)).2.1 (k_put (a_c α) (kN k) (kN v)).2.2) else (-4, a_rfs α 2)) else (-2, a_rfs α 0)
def a_get (α : Al) (k : Int32) : Int32 × Al := if isK k = true then (oI (k_get (a_c α) (kN k)).1, if (k_get (a_c α) (kN k)).2.2 = 1 then a_lv α (k_get (a_c α) (kN k)).2.1 1 else a_set α (k_get (a_c α) (kN k)).2.1 0) else (-2, a_rfs α 0)
def a_peek (α : Al) (k : Int32) : Int32 × Al := if isK k = true then (oI ((k_pl (a_c α) (kN k)).map (vAt (a_c α))), α) else (-2, a_rfs α 0)
def a_rem (α : Al) (k : Int32) : Int32 × Al := if isK k = true then (oI (k_rem (a_c α) (kN k)).1, if (k_rem (a_c α) (kN k)).1 = none then α else a_lv α (k_rem (a_c α) (kN k)).2.1 1) else (-2, a_rfs α 0)
def k_addv (c : Co) (k v : Nat) : Nat × Co × Nat := match k_pl c k with
  | none => (v, k_come c k v, if 0 < k_n c 5 ∧ k_n c 5 < (k_es c).length + 1 then 2 else 1)
  | some e => (if 9999 < vAt c e + v then 9999 else vAt c e + v, k_val c e (if 9999 < vAt c e + v then 9999 else vAt c e + v), 0)
def a_adds (α : Al) (k v : Int32) : Int32 × Al := if (isK k && isV v) = true then (if k_may (a_c α) (kN k) = true then (nI (k_addv (a_c α) (kN k) (kN v)).1, a_lv α (k_addv (a_c α) (kN k) (kN v)).2.1 (k_addv (a_c α) (kN k) (kN v)).2.2) else (-4, a_rfs α 2)) else (-2, a_rfs α 0)
def a_clears (α : Al) : Int32 × Al := (nI (k_es (a_c α)).length, if 0 < (k_es (a_c α)).length then a_lv α (k_clr (a_c α)) 1 else α)
def k_h0 (c : Co) (t p : Nat) : Co := ([], [], fun i => if i = 1 then 8 else if i = 3 then p else if i = 2 then t else k_n c i, fun _ => false)
def k_h1 (c : Co) (e : Nat × Nat) : Co := k_fit (k_add c e.1 e.2) (k_b c e.1) ((k_es c).length + 1)
def k_hash (c : Co) (t p : Nat) : Co := (k_es c).foldl k_h1 (k_h0 c t p)
def a_hashes (α : Al) (t p : Int32) : Int32 × Al := if (inB t (nI 0) (nI 999) && inB p (nI 0) (nI 999)) = true then (nI (k_n (k_hash (a_c α) (kN t) (kN p)) 1), a_lv α (k_hash (a_c α) (kN t) (kN p)) 1) else (-2, a_rfs α 0)
def a_sets (α : Al) (w v : Int32) : Int32 × Al := if (inB w (nI 0) (nI 1) && inB v (nI 0) (if w = 0 then nI 1 else nI 48)) = true then (nI (k_n (a_c α) (4 + kN w)), a_lv α (setN (a_c α) (4 + kN w) (kN v)) 0) else (-2, a_rfs α 0)
section T29
variable {D : Dt} {o : Nat} {ad : Nat → Nat}
set_option maxHeartbeats 1000000 in
theorem ct_put {N : Nat} {α : Al} (τ : Tw) (hA : TA N τ α) (k v : Int32) (hN : N + 200 ≤ 1000000) : Ct (wT D o ad) yX5_put cX5_put 4 (some .int) [.ref o, .int k, .int v] τ (PI (fun r τ' => r = (a_put α k v).1 ∧ TA (N + 200) τ' (a_put α k v).2)) 7 0 0 := by
  refine Ct.of KTok (by decide) (Nat.le_of_ble_eq_true rfl) rfl fun Y C hQ hNm => ?_
  cases hi : (isK k && isV v) with
  | false =>
    have e1 : a_put α k v = (-2, a_rfs α 0) := if_neg (by rw [hi]; decide)
    rw [e1] at hQ
    refine z_al0 (q := 1) C dX5_put_0 rfl ?_
    refine z_il1 (q := 2) C dX5_put_1 rfl ?_
    refine z_il2 (q := 3) C dX5_put_2 rfl ?_
    refine z_callVe (q := 6) C (ct_mayPut0 τ k v hi) g_X5_140 rcT dX5_put_3 rfl rfl rfl (Nat.le_of_ble_eq_true rfl) (by first | decide | omega) (Nat.le_refl _) (Nat.le_refl _) ?_
    first | refine z_if_neB (tgt := 16) (q := 9) C dX5_put_6 (by decide) rfl (fun c6 => ?_) (fun c6 => ?_) | refine z_if_ne (tgt := 16) (q := 9) C dX5_put_6 (by decide) rfl (fun c6 => ?_) (fun c6 => ?_)
    · cases c6
    · refine z_al0 (q := 10) C dX5_put_9 rfl ?_
      refine z_il1 (q := 11) C dX5_put_10 rfl ?_
      refine z_il2 (q := 12) C dX5_put_11 rfl ?_
      refine z_callVi (q := 15) C (ct_putRefused τ hA k v false hi) g_X5_143 rcT dX5_put_12 rfl rfl rfl (Nat.le_of_ble_eq_true rfl) (by first | decide | omega) (Nat.le_refl _) (Nat.le_refl _) (fun r12 τ12 h12 => ?_)
      refine z_iret C hQ dX5_put_15 (Nat.le_refl _) (Nat.le_refl _) ?_
      exact ⟨_, rfl, h12.1, h12.2.mono (by omega) hN⟩
  | true =>
    obtain ⟨g1, g2⟩ := Bool.and_eq_true_iff.mp hi
    obtain ⟨ek, hk⟩ := isK_of g1
    obtain ⟨ev, hv⟩ := isV_of g2
    have e0 : a_put α k v = if k_may (a_c α) (kN k) = true then (oI (k_put (a_c α) (kN k) (kN v)).1, a_lv α (k_put (a_c α) (kN k) (kN v)).2.1 (k_put (a_c α) (kN k) (kN v)).2.2) else (-4, a_rfs α 2) := if_pos hi
    rw [e0] at hQ
    generalize kN k = kn at *
    generalize kN v = vn at *
    subst ek
    subst ev
    cases hm : k_may (a_c α) kn with
    | false =>
      rw [if_neg (by rw [hm]; decide)] at hQ
      refine z_al0 (q := 1) C dX5_put_0 rfl ?_
      refine z_il1 (q := 2) C dX5_put_1 rfl ?_
      refine z_il2 (q := 3) C dX5_put_2 rfl ?_
      refine z_callVe (q := 6) C (ct_mayPut τ hA.1.1 kn vn hk hv) g_X5_140 rcT dX5_put_3 rfl rfl rfl (Nat.le_of_ble_eq_true rfl) (by first | decide | omega) (Nat.le_refl _) (Nat.le_refl _) ?_
      first | refine z_if_neB (tgt := 16) (q := 9) C dX5_put_6 (by decide) rfl (fun c6 => ?_) (fun c6 => ?_) | refine z_if_ne (tgt := 16) (q := 9) C dX5_put_6 (by decide) rfl (fun c6 => ?_) (fun c6 => ?_)
      · rw [hm] at c6; cases c6
      · refine z_al0 (q := 10) C dX5_put_9 rfl ?_
        refine z_il1 (q := 11) C dX5_put_10 rfl ?_
        refine z_il2 (q := 12) C dX5_put_11 rfl ?_
        refine z_callVi (q := 15) C (ct_putRefused τ hA (nI kn) (nI vn) true hi) g_X5_143 rcT dX5_put_12 rfl rfl rfl (Nat.le_of_ble_eq_true rfl) (by first | decide | omega) (Nat.le_refl _) (Nat.le_refl _) (fun r12 τ12 h12 => ?_)
        refine z_iret C hQ dX5_put_15 (Nat.le_refl _) (Nat.le_refl _) ?_
        exact ⟨_, rfl, h12.1, h12.2.mono (by omega) hN⟩
    | true =>
      rw [if_pos hm] at hQ
      have hle := k_may_len (v := vn) hA.1.1.1 hA.1.2 hm
      have hδ : (k_put (a_c α) kn vn).2.2 ≤ 2 := by
        unfold k_put
        split
        · show (if _ then 2 else 1) ≤ 2
          split <;> omega
        · show (if _ then (if _ then 0 else 1) else 0) ≤ 2
          split
          · split <;> omega
          · omega
      refine z_al0 (q := 1) C dX5_put_0 rfl ?_
      refine z_il1 (q := 2) C dX5_put_1 rfl ?_
      refine z_il2 (q := 3) C dX5_put_2 rfl ?_
      refine z_callVe (q := 6) C (ct_mayPut τ hA.1.1 kn vn hk hv) g_X5_140 rcT dX5_put_3 rfl rfl rfl (Nat.le_of_ble_eq_true rfl) (by first | decide | omega) (Nat.le_refl _) (Nat.le_refl _) ?_
      first | refine z_if_neB (tgt := 16) (q := 9) C dX5_put_6 (by decide) rfl (fun c6 => ?_) (fun c6 => ?_) | refine z_if_ne (tgt := 16) (q := 9) C dX5_put_6 (by decide) rfl (fun c6 => ?_) (fun c6 => ?_)
      · refine z_al0 (q := 17) C dX5_put_16 rfl ?_
        refine z_callVv (q := 20) C (ct_aside τ) g_X5_146 rcT dX5_put_17 rfl rfl rfl (Nat.le_of_ble_eq_true rfl) (by first | decide | omega) (Nat.le_refl _) (Nat.le_refl _) (fun τ17 h17 => ?_)
        have hF1 := h17.1
        have e10 : τ17.2 0 = τ.2 0 := hF1.2 0 (by decide)
        refine z_al0 (q := 21) C dX5_put_20 rfl ?_
        refine z_il1 (q := 22) C dX5_put_21 rfl ?_
        refine z_il2 (q := 23) C dX5_put_22 rfl ?_
        refine z_callVi (q := 26) C (ct_putsNow τ17 (e10 ▸ hA.1.1) kn vn hk hv hA.1.2 (by omega)) g_X5_149 rcT dX5_put_23 rfl rfl rfl (Nat.le_of_ble_eq_true rfl) (by first | decide | omega) (Nat.le_refl _) (Nat.le_refl _) (fun r23 τ23 h23 => ?_)
        refine z_is3 (q := 27) C dX5_put_26 rfl (by first | exact loC_i | exact loC_r | exact loC_n | exact loC_q | exact loC_u) ?_
        obtain ⟨hF2, hr, h5, hTc⟩ := h23
        have hF : TF [5, 8, 14, 16, 17, 18, 19] [0, 2, 13, 15] τ τ23 := (hF1.up (by decide) (by decide)).tr (hF2.up (by decide) (by decide))
        have hkp := hA.keepP hF (M := N + 200) (by omega) hN (fun i hi => by rw [hF2.2 2 (by decide)]; exact h17.2 i hi)
        refine z_al0 (q := 28) C dX5_put_27 rfl ?_
        refine z_callVv (q := 31) C (ct_keeps τ23 (a_ps α) hkp.1 hkp.2.1 hkp.2.2.1 hkp.2.2.2) g_X5_152 rcT dX5_put_28 rfl rfl rfl (Nat.le_of_ble_eq_true rfl) (by first | decide | omega) (Nat.le_refl _) (Nat.le_refl _) (fun τ28 h28 => ?_)
        refine z_il3 (q := 32) C dX5_put_31 rfl ?_
        refine z_iret C hQ dX5_put_32 (Nat.le_refl _) (Nat.le_refl _) ?_
        exact ⟨_, rfl, hr, hA.lv hF (hTc.mono (by omega) hN) hle (by rw [h5, hF1.1 5 (by decide)]) (by omega) h28⟩
      · rw [hm] at c6; cases c6
set_option maxHeartbeats 1000000 in
theorem ct_get {N : Nat} {α : Al} (τ : Tw) (hA : TA N τ α) (k : Int32) (hN : N + 200 ≤ 1000000) : Ct (wT D o ad) yX5_get cX5_get 4 (some .int) [.ref o, .int k] τ (PI (fun r τ' => r = (a_get α k).1 ∧ TA (N + 200) τ' (a_get α k).2)) 7 0 0 := by
  refine Ct.of KTok (by decide) (Nat.le_of_ble_eq_true rfl) rfl fun Y C hQ hNm => ?_
  cases hi : isK k with
  | false =>
    have e1 : a_get α k = (-2, a_rfs α 0) := if_neg (by rw [hi]; decide)
    rw [e1] at hQ
    refine z_il1 (q := 1) C dX5_get_0 rfl ?_
    refine z_callSe (q := 4) C (ct_isKey τ k) g_X5_130 dX5_get_1 rfl rfl rfl (Nat.le_of_ble_eq_true rfl) (by first | decide | omega) (Nat.le_refl _) (Nat.le_refl _) ?_
    first | refine z_if_neB (tgt := 14) (q := 7) C dX5_get_4 (by decide) rfl (fun c4 => ?_) (fun c4 => ?_) | refine z_if_ne (tgt := 14) (q := 7) C dX5_get_4 (by decide) rfl (fun c4 => ?_) (fun c4 => ?_)
    · rw [show inB k _ _ = false from hi] at c4; cases c4
    · refine z_al0 (q := 8) C dX5_get_7 rfl ?_
      refine z_bipush (q := 10) (v := -2) C dX5_get_8 rfl (by decide) ?_
      refine z_callVe (q := 13) C (ct_refuses τ (-2) 0 (by decide) (by decide)) g_X5_137 rcT dX5_get_10 rfl rfl rfl (Nat.le_of_ble_eq_true rfl) (by first | decide | omega) (Nat.le_refl _) (Nat.le_refl _) ?_
      refine z_iret C hQ dX5_get_13 (Nat.le_refl _) (Nat.le_refl _) ?_
      exact ⟨_, rfl, rfl, (hA.rfs (i := 0) (by decide)).mono (by omega) hN⟩
  | true =>
    obtain ⟨ek, hk⟩ := isK_of hi
    have e0 : a_get α k = (oI (k_get (a_c α) (kN k)).1, if (k_get (a_c α) (kN k)).2.2 = 1 then a_lv α (k_get (a_c α) (kN k)).2.1 1 else a_set α (k_get (a_c α) (kN k)).2.1 0) := if_pos hi
    rw [e0] at hQ
    generalize kN k = kn at *
    subst ek
    have hlen := hA.1.2
    have h4l : k_n (a_c α) 4 ≤ 1 := hA.1.1.1.2.2.2.2.2.2.2.1
    refine z_il1 (q := 1) C dX5_get_0 rfl ?_
    refine z_callSe (q := 4) C (ct_isKey τ (nI kn)) g_X5_130 dX5_get_1 rfl rfl rfl (Nat.le_of_ble_eq_true rfl) (by first | decide | omega) (Nat.le_refl _) (Nat.le_refl _) ?_
    first | refine z_if_neB (tgt := 14) (q := 7) C dX5_get_4 (by decide) rfl (fun c4 => ?_) (fun c4 => ?_) | refine z_if_ne (tgt := 14) (q := 7) C dX5_get_4 (by decide) rfl (fun c4 => ?_) (fun c4 => ?_)
    · cases hp : k_pl (a_c α) kn with
      | none =>
        have eg : k_get (a_c α) kn = (none, a_c α, 0) := by unfold k_get; rw [hp]
        rw [eg] at hQ
        refine z_al0 (q := 15) C dX5_get_14 rfl ?_
        refine z_il1 (q := 16) C dX5_get_15 rfl ?_
        refine z_callVe (q := 19) C (ct_placeN τ hA.1.1 kn (by omega) hp) g_X5_121 rcT dX5_get_16 rfl rfl rfl (Nat.le_of_ble_eq_true rfl) (by first | decide | omega) (Nat.le_refl _) (Nat.le_refl _) ?_
        refine z_is2 (q := 20) C dX5_get_19 rfl (by first | exact loC_i | exact loC_r | exact loC_n | exact loC_q | exact loC_u) ?_
        refine z_al0 (q := 21) C dX5_get_20 rfl ?_
        refine z_callVv (q := 24) C (ct_aside τ) g_X5_146 rcT dX5_get_21 rfl rfl rfl (Nat.le_of_ble_eq_true rfl) (by first | decide | omega) (Nat.le_refl _) (Nat.le_refl _) (fun τ21 h21 => ?_)
        have e10 : τ21.2 0 = τ.2 0 := h21.1.2 0 (by decide)
        refine z_al0 (q := 25) C dX5_get_24 rfl ?_
        refine z_il1 (q := 26) C dX5_get_25 rfl ?_
        refine z_callVi (q := 29) C (ct_getsNow τ21 (e10 ▸ hA.1.1) kn hk) g_X5_155 rcT dX5_get_26 rfl rfl rfl (Nat.le_of_ble_eq_true rfl) (by first | decide | omega) (Nat.le_refl _) (Nat.le_refl _) (fun r26 τ26 h26 => ?_)
        refine z_is3 (q := 30) C dX5_get_29 rfl (by first | exact loC_i | exact loC_r | exact loC_n | exact loC_q | exact loC_u) ?_
        obtain ⟨hF2, hr, h5, hTc⟩ := h26
        rw [eg] at hr h5 hTc
        have hF : TF [5, 8, 14, 16, 17, 18, 19] [0, 2, 13, 15] τ τ26 := (h21.1.up (by decide) (by decide)).tr (hF2.up (by decide) (by decide))
        refine z_il2 (q := 31) C dX5_get_30 rfl ?_
        refine z_iconst (q := 32) (v := -1) C dX5_get_31 rfl (by decide) ?_
        refine z_icmp_eq (tgt := 57) (q := 35) C dX5_get_32 (by decide) rfl (fun c32 => ?_) (fun c32 => ?_)
        · refine z_il3 (q := 58) C dX5_get_57 rfl ?_
          refine z_iret C hQ dX5_get_58 (Nat.le_refl _) (Nat.le_refl _) ?_
          exact ⟨_, rfl, hr, hA.set hF (hTc.mono (by omega) hN) hlen (by rw [h5, h21.1.1 5 (by decide)]) (by omega)⟩
        · exact absurd rfl c32
      | some e =>
        obtain ⟨h1, h2, h3⟩ := k_pl_some hp
        refine z_al0 (q := 15) C dX5_get_14 rfl ?_
        refine z_il1 (q := 16) C dX5_get_15 rfl ?_
        refine z_callVe (q := 19) C (ct_placeS τ hA.1.1 kn e (by omega) hp) g_X5_121 rcT dX5_get_16 rfl rfl rfl (Nat.le_of_ble_eq_true rfl) (by first | decide | omega) (Nat.le_refl _) (Nat.le_refl _) ?_
        refine z_is2 (q := 20) C dX5_get_19 rfl (by first | exact loC_i | exact loC_r | exact loC_n | exact loC_q | exact loC_u) ?_
        refine z_al0 (q := 21) C dX5_get_20 rfl ?_
        refine z_callVv (q := 24) C (ct_aside τ) g_X5_146 rcT dX5_get_21 rfl rfl rfl (Nat.le_of_ble_eq_true rfl) (by first | decide | omega) (Nat.le_refl _) (Nat.le_refl _) (fun τ21 h21 => ?_)
        have e10 : τ21.2 0 = τ.2 0 := h21.1.2 0 (by decide)
        refine z_al0 (q := 25) C dX5_get_24 rfl ?_
        refine z_il1 (q := 26) C dX5_get_25 rfl ?_
        refine z_callVi (q := 29) C (ct_getsNow τ21 (e10 ▸ hA.1.1) kn hk) g_X5_155 rcT dX5_get_26 rfl rfl rfl (Nat.le_of_ble_eq_true rfl) (by first | decide | omega) (Nat.le_refl _) (Nat.le_refl _) (fun r26 τ26 h26 => ?_)
        refine z_is3 (q := 30) C dX5_get_29 rfl (by first | exact loC_i | exact loC_r | exact loC_n | exact loC_q | exact loC_u) ?_
        obtain ⟨hF2, hr, h5, hTc⟩ := h26
        have hF : TF [5, 8, 14, 16, 17, 18, 19] [0, 2, 13, 15] τ τ26 := (h21.1.up (by decide) (by decide)).tr (hF2.up (by decide) (by decide))
        have hkp := hA.keepP hF (M := N + 200) (by omega) hN (fun i hi => by rw [hF2.2 2 (by decide)]; exact h21.2 i hi)
        rw [h21.1.1 5 (by decide)] at h5
        by_cases h41 : k_n (a_c α) 4 = 1
        · have eg : k_get (a_c α) kn = (some (vAt (a_c α) e), k_mov (a_c α) e, if e + 1 = (k_es (a_c α)).length then 0 else 1) := by unfold k_get; rw [hp]; simp only [if_pos h41]
          rw [eg] at hr h5 hTc hQ
          have hle : (k_es (k_mov (a_c α) e)).length ≤ 48 := by rw [k_mov_len h1]; exact hlen
          have h264 : τ26.2 0 4 = nI 1 := by rw [hTc.an (by omega) (by omega)]; show nI (k_n (a_c α) 4) = _; rw [h41]
          have hml : (k_es (k_mov (a_c α) e)).length = (k_es (a_c α)).length := k_mov_len h1
          by_cases hz : e + 1 = (k_es (a_c α)).length
          · rw [if_pos hz] at h5 hQ
            refine z_il2 (q := 31) C dX5_get_30 rfl ?_
            refine z_iconst (q := 32) (v := -1) C dX5_get_31 rfl (by decide) ?_
            refine z_icmp_eq (tgt := 57) (q := 35) C dX5_get_32 (by decide) rfl (fun c32 => ?_) (fun c32 => ?_)
            · exact absurd c32 (nI_nm1 (by omega))
            · refine z_al0 (q := 36) C dX5_get_35 rfl ?_
              refine tg_7 (q := 39) C dX5_get_36 rfl ?_
              refine z_iconst (q := 40) (v := nI 4) C dX5_get_39 rfl (by decide) ?_
              refine ta_ld0 (q := 41) C dX5_get_40 rfl (by omega) ?_
              rw [h264]
              refine z_iconst (q := 42) (v := nI 1) C dX5_get_41 rfl (by decide) ?_
              first | refine z_icmp_neN (tgt := 57) (q := 45) C dX5_get_42 (by decide) rfl (by omega) (by omega) (fun c42 => ?_) (fun c42 => ?_) | refine z_icmp_ne (tgt := 57) (q := 45) C dX5_get_42 (by decide) rfl (fun c42 => ?_) (fun c42 => ?_)
              · exact absurd c42 (by omega)
              · refine z_al0 (q := 46) C dX5_get_45 rfl ?_
                refine z_il2 (q := 47) C dX5_get_46 rfl ?_
                refine z_callVe (q := 50) C (ct_isLast τ26 hTc e (by rw [hml]; exact h1)) g_X5_118 rcT dX5_get_47 rfl rfl rfl (Nat.le_of_ble_eq_true rfl) (by first | decide | omega) (Nat.le_refl _) (Nat.le_refl _) ?_
                first | refine z_if_neB (tgt := 57) (q := 53) C dX5_get_50 (by decide) rfl (fun c50 => ?_) (fun c50 => ?_) | refine z_if_ne (tgt := 57) (q := 53) C dX5_get_50 (by decide) rfl (fun c50 => ?_) (fun c50 => ?_)
                · refine z_il3 (q := 58) C dX5_get_57 rfl ?_
                  refine z_iret C hQ dX5_get_58 (Nat.le_refl _) (Nat.le_refl _) ?_
                  exact ⟨_, rfl, hr, hA.set hF (hTc.mono (by omega) hN) hle h5 (by omega)⟩
                · rw [hml, decide_eq_true hz] at c50; cases c50
          · rw [if_neg hz] at h5 hQ
            refine z_il2 (q := 31) C dX5_get_30 rfl ?_
            refine z_iconst (q := 32) (v := -1) C dX5_get_31 rfl (by decide) ?_
            refine z_icmp_eq (tgt := 57) (q := 35) C dX5_get_32 (by decide) rfl (fun c32 => ?_) (fun c32 => ?_)
            · exact absurd c32 (nI_nm1 (by omega))
            · refine z_al0 (q := 36) C dX5_get_35 rfl ?_
              refine tg_7 (q := 39) C dX5_get_36 rfl ?_
              refine z_iconst (q := 40) (v := nI 4) C dX5_get_39 rfl (by decide) ?_
              refine ta_ld0 (q := 41) C dX5_get_40 rfl (by omega) ?_
              rw [h264]
              refine z_iconst (q := 42) (v := nI 1) C dX5_get_41 rfl (by decide) ?_
              first | refine z_icmp_neN (tgt := 57) (q := 45) C dX5_get_42 (by decide) rfl (by omega) (by omega) (fun c42 => ?_) (fun c42 => ?_) | refine z_icmp_ne (tgt := 57) (q := 45) C dX5_get_42 (by decide) rfl (fun c42 => ?_) (fun c42 => ?_)
              · exact absurd c42 (by omega)
              · refine z_al0 (q := 46) C dX5_get_45 rfl ?_
                refine z_il2 (q := 47) C dX5_get_46 rfl ?_
                refine z_callVe (q := 50) C (ct_isLast τ26 hTc e (by rw [hml]; exact h1)) g_X5_118 rcT dX5_get_47 rfl rfl rfl (Nat.le_of_ble_eq_true rfl) (by first | decide | omega) (Nat.le_refl _) (Nat.le_refl _) ?_
                first | refine z_if_neB (tgt := 57) (q := 53) C dX5_get_50 (by decide) rfl (fun c50 => ?_) (fun c50 => ?_) | refine z_if_ne (tgt := 57) (q := 53) C dX5_get_50 (by decide) rfl (fun c50 => ?_) (fun c50 => ?_)
                · rw [hml, decide_eq_false hz] at c50; cases c50
                · refine z_al0 (q := 54) C dX5_get_53 rfl ?_
                  refine z_callVv (q := 57) C (ct_keeps τ26 (a_ps α) hkp.1 hkp.2.1 hkp.2.2.1 hkp.2.2.2) g_X5_152 rcT dX5_get_54 rfl rfl rfl (Nat.le_of_ble_eq_true rfl) (by first | decide | omega) (Nat.le_refl _) (Nat.le_refl _) (fun τ54 h54 => ?_)
                  refine z_il3 (q := 58) C dX5_get_57 rfl ?_
                  refine z_iret C hQ dX5_get_58 (Nat.le_refl _) (Nat.le_refl _) ?_
                  exact ⟨_, rfl, hr, hA.lv hF (hTc.mono (by omega) hN) hle h5 (by omega) h54⟩
        · have eg : k_get (a_c α) kn = (some (vAt (a_c α) e), a_c α, 0) := by unfold k_get; rw [hp]; simp only [if_neg h41]
          rw [eg] at hr h5 hTc hQ
          have hTc : TC N (τ26.2 0) (a_c α) := hTc
          refine z_il2 (q := 31) C dX5_get_30 rfl ?_
          refine z_iconst (q := 32) (v := -1) C dX5_get_31 rfl (by decide) ?_
          refine z_icmp_eq (tgt := 57) (q := 35) C dX5_get_32 (by decide) rfl (fun c32 => ?_) (fun c32 => ?_)
          · exact absurd c32 (nI_nm1 (by omega))
          · refine z_al0 (q := 36) C dX5_get_35 rfl ?_
            refine tg_7 (q := 39) C dX5_get_36 rfl ?_
            refine z_iconst (q := 40) (v := nI 4) C dX5_get_39 rfl (by decide) ?_
            refine ta_ld0 (q := 41) C dX5_get_40 rfl (by omega) ?_
            rw [hTc.an (by omega) (by omega)]
            refine z_iconst (q := 42) (v := nI 1) C dX5_get_41 rfl (by decide) ?_
            first | refine z_icmp_neN (tgt := 57) (q := 45) C dX5_get_42 (by decide) rfl (by omega) (by omega) (fun c42 => ?_) (fun c42 => ?_) | refine z_icmp_ne (tgt := 57) (q := 45) C dX5_get_42 (by decide) rfl (fun c42 => ?_) (fun c42 => ?_)
            · refine z_il3 (q := 58) C dX5_get_57 rfl ?_
              refine z_iret C hQ dX5_get_58 (Nat.le_refl _) (Nat.le_refl _) ?_
              exact ⟨_, rfl, hr, hA.set hF (hTc.mono (by omega) hN) hlen h5 (by omega)⟩
            · exact absurd c42 (by omega)
    · rw [show inB (nI kn) _ _ = true from hi] at c4; cases c4
set_option maxHeartbeats 1000000 in
theorem ct_peek {N : Nat} {α : Al} (τ : Tw) (hA : TA N τ α) (k : Int32) (hN : N + 200 ≤ 1000000) : Ct (wT D o ad) yX5_peek cX5_peek 3 (some .int) [.ref o, .int k] τ (PI (fun r τ' => r = (a_peek α k).1 ∧ TA (N + 200) τ' (a_peek α k).2)) 7 0 0 := by
  refine Ct.of KTok (by decide) (Nat.le_of_ble_eq_true rfl) rfl fun Y C hQ hNm => ?_
  cases hi : isK k with
  | false =>
    have e1 : a_peek α k = (-2, a_rfs α 0) := if_neg (by rw [hi]; decide)
    rw [e1] at hQ
    refine z_il1 (q := 1) C dX5_peek_0 rfl ?_
    refine z_callSe (q := 4) C (ct_isKey τ k) g_X5_130 dX5_peek_1 rfl rfl rfl (Nat.le_of_ble_eq_true rfl) (by first | decide | omega) (Nat.le_refl _) (Nat.le_refl _) ?_
    first | refine z_if_neB (tgt := 14) (q := 7) C dX5_peek_4 (by decide) rfl (fun c4 => ?_) (fun c4 => ?_) | refine z_if_ne (tgt := 14) (q := 7) C dX5_peek_4 (by decide) rfl (fun c4 => ?_) (fun c4 => ?_)
    · rw [show inB k _ _ = false from hi] at c4; cases c4
    · refine z_al0 (q := 8) C dX5_peek_7 rfl ?_
      refine z_bipush (q := 10) (v := -2) C dX5_peek_8 rfl (by decide) ?_
      refine z_callVe (q := 13) C (ct_refuses τ (-2) 0 (by decide) (by decide)) g_X5_137 rcT dX5_peek_10 rfl rfl rfl (Nat.le_of_ble_eq_true rfl) (by first | decide | omega) (Nat.le_refl _) (Nat.le_refl _) ?_
      refine z_iret C hQ dX5_peek_13 (Nat.le_refl _) (Nat.le_refl _) ?_
      exact ⟨_, rfl, rfl, (hA.rfs (i := 0) (by decide)).mono (by omega) hN⟩
  | true =>
    obtain ⟨ek, hk⟩ := isK_of hi
    have e0 : a_peek α k = (oI ((k_pl (a_c α) (kN k)).map (vAt (a_c α))), α) := if_pos hi
    rw [e0] at hQ
    generalize kN k = kn at *
    subst ek
    have hlen := hA.1.2
    have hA' := hA.mono (show N ≤ N + 200 by omega) hN
    cases hp : k_pl (a_c α) kn with
    | none =>
      rw [hp] at hQ
      refine z_il1 (q := 1) C dX5_peek_0 rfl ?_
      refine z_callSe (q := 4) C (ct_isKey τ (nI kn)) g_X5_130 dX5_peek_1 rfl rfl rfl (Nat.le_of_ble_eq_true rfl) (by first | decide | omega) (Nat.le_refl _) (Nat.le_refl _) ?_
      first | refine z_if_neB (tgt := 14) (q := 7) C dX5_peek_4 (by decide) rfl (fun c4 => ?_) (fun c4 => ?_) | refine z_if_ne (tgt := 14) (q := 7) C dX5_peek_4 (by decide) rfl (fun c4 => ?_) (fun c4 => ?_)
      · refine z_al0 (q := 15) C dX5_peek_14 rfl ?_
        refine z_il1 (q := 16) C dX5_peek_15 rfl ?_
        refine z_callVe (q := 19) C (ct_placeN τ hA.1.1 kn (by omega) hp) g_X5_121 rcT dX5_peek_16 rfl rfl rfl (Nat.le_of_ble_eq_true rfl) (by first | decide | omega) (Nat.le_refl _) (Nat.le_refl _) ?_
        refine z_is2 (q := 20) C dX5_peek_19 rfl (by first | exact loC_i | exact loC_r | exact loC_n | exact loC_q | exact loC_u) ?_
        refine z_il2 (q := 21) C dX5_peek_20 rfl ?_
        refine z_iconst (q := 22) (v := -1) C dX5_peek_21 rfl (by decide) ?_
        refine z_icmp_ne (tgt := 29) (q := 25) C dX5_peek_22 (by decide) rfl (fun c22 => ?_) (fun c22 => ?_)
        · exact absurd rfl c22
        · refine z_iconst (q := 26) (v := -1) C dX5_peek_25 rfl (by decide) ?_
          refine z_goto (tgt := 38) C dX5_peek_26 (by decide) ?_
          refine z_iret C hQ dX5_peek_38 (Nat.le_refl _) (Nat.le_refl _) ?_
          exact ⟨_, rfl, rfl, hA'⟩
      · rw [show inB (nI kn) _ _ = true from hi] at c4; cases c4
    | some e =>
      rw [hp] at hQ
      obtain ⟨h1, h2, h3⟩ := k_pl_some hp
      have hvv := hA.1.1.val h2
      refine z_il1 (q := 1) C dX5_peek_0 rfl ?_
      refine z_callSe (q := 4) C (ct_isKey τ (nI kn)) g_X5_130 dX5_peek_1 rfl rfl rfl (Nat.le_of_ble_eq_true rfl) (by first | decide | omega) (Nat.le_refl _) (Nat.le_refl _) ?_
      first | refine z_if_neB (tgt := 14) (q := 7) C dX5_peek_4 (by decide) rfl (fun c4 => ?_) (fun c4 => ?_) | refine z_if_ne (tgt := 14) (q := 7) C dX5_peek_4 (by decide) rfl (fun c4 => ?_) (fun c4 => ?_)
      · refine z_al0 (q := 15) C dX5_peek_14 rfl ?_
        refine z_il1 (q := 16) C dX5_peek_15 rfl ?_
        refine z_callVe (q := 19) C (ct_placeS τ hA.1.1 kn e (by omega) hp) g_X5_121 rcT dX5_peek_16 rfl rfl rfl (Nat.le_of_ble_eq_true rfl) (by first | decide | omega) (Nat.le_refl _) (Nat.le_refl _) ?_
        refine z_is2 (q := 20) C dX5_peek_19 rfl (by first | exact loC_i | exact loC_r | exact loC_n | exact loC_q | exact loC_u) ?_
        refine z_il2 (q := 21) C dX5_peek_20 rfl ?_
        refine z_iconst (q := 22) (v := -1) C dX5_peek_21 rfl (by decide) ?_
        refine z_icmp_ne (tgt := 29) (q := 25) C dX5_peek_22 (by decide) rfl (fun c22 => ?_) (fun c22 => ?_)
        · refine z_al0 (q := 30) C dX5_peek_29 rfl ?_
          refine tg_7 (q := 33) C dX5_peek_30 rfl ?_
          refine z_bipush (q := 35) (v := nI 56) C dX5_peek_33 rfl (by decide) ?_
          refine z_il2 (q := 36) C dX5_peek_35 rfl ?_
          first | refine z_iaddN (q := 37) C dX5_peek_36 rfl ?_ | refine z_iadd (q := 37) C dX5_peek_36 rfl ?_
          refine ta_ld0 (q := 38) C dX5_peek_37 rfl (by omega) ?_
          rw [hvv.1]
          refine z_iret C hQ dX5_peek_38 (Nat.le_refl _) (Nat.le_refl _) ?_
          exact ⟨_, rfl, rfl, hA'⟩
        · exact absurd c22 (nI_nm1 (by omega))
      · rw [show inB (nI kn) _ _ = true from hi] at c4; cases c4
set_option maxHeartbeats 1000000 in
theorem ct_remove {N : Nat} {α : Al} (τ : Tw) (hA : TA N τ α) (k : Int32) (hN : N + 200 ≤ 1000000) : Ct (wT D o ad) yX5_remove cX5_remove 3 (some .int) [.ref o, .int k] τ (PI (fun r τ' => r = (a_rem α k).1 ∧ TA (N + 200) τ' (a_rem α k).2)) 7 0 0 := by
  refine Ct.of KTok (by decide) (Nat.le_of_ble_eq_true rfl) rfl fun Y C hQ hNm => ?_
  cases hi : isK k with
  | false =>
    have e1 : a_rem α k = (-2, a_rfs α 0) := if_neg (by rw [hi]; decide)
    rw [e1] at hQ
    refine z_il1 (q := 1) C dX5_remove_0 rfl ?_
    refine z_callSe (q := 4) C (ct_isKey τ k) g_X5_130 dX5_remove_1 rfl rfl rfl (Nat.le_of_ble_eq_true rfl) (by first | decide | omega) (Nat.le_refl _) (Nat.le_refl _) ?_
    first | refine z_if_neB (tgt := 14) (q := 7) C dX5_remove_4 (by decide) rfl (fun c4 => ?_) (fun c4 => ?_) | refine z_if_ne (tgt := 14) (q := 7) C dX5_remove_4 (by decide) rfl (fun c4 => ?_) (fun c4 => ?_)
    · rw [show inB k _ _ = false from hi] at c4; cases c4
    · refine z_al0 (q := 8) C dX5_remove_7 rfl ?_
      refine z_bipush (q := 10) (v := -2) C dX5_remove_8 rfl (by decide) ?_
      refine z_callVe (q := 13) C (ct_refuses τ (-2) 0 (by decide) (by decide)) g_X5_137 rcT dX5_remove_10 rfl rfl rfl (Nat.le_of_ble_eq_true rfl) (by first | decide | omega) (Nat.le_refl _) (Nat.le_refl _) ?_
      refine z_iret C hQ dX5_remove_13 (Nat.le_refl _) (Nat.le_refl _) ?_
      exact ⟨_, rfl, rfl, (hA.rfs (i := 0) (by decide)).mono (by omega) hN⟩
  | true =>
    obtain ⟨ek, hk⟩ := isK_of hi
    have e0 : a_rem α k = (oI (k_rem (a_c α) (kN k)).1, if (k_rem (a_c α) (kN k)).1 = none then α else a_lv α (k_rem (a_c α) (kN k)).2.1 1) := if_pos hi
    rw [e0] at hQ
    generalize kN k = kn at *
    subst ek
    have hlen := hA.1.2
    refine z_il1 (q := 1) C dX5_remove_0 rfl ?_
    refine z_callSe (q := 4) C (ct_isKey τ (nI kn)) g_X5_130 dX5_remove_1 rfl rfl rfl (Nat.le_of_ble_eq_true rfl) (by first | decide | omega) (Nat.le_refl _) (Nat.le_refl _) ?_
    first | refine z_if_neB (tgt := 14) (q := 7) C dX5_remove_4 (by decide) rfl (fun c4 => ?_) (fun c4 => ?_) | refine z_if_ne (tgt := 14) (q := 7) C dX5_remove_4 (by decide) rfl (fun c4 => ?_) (fun c4 => ?_)
    · refine z_al0 (q := 15) C dX5_remove_14 rfl ?_
      refine z_callVv (q := 18) C (ct_aside τ) g_X5_146 rcT dX5_remove_15 rfl rfl rfl (Nat.le_of_ble_eq_true rfl) (by first | decide | omega) (Nat.le_refl _) (Nat.le_refl _) (fun τ15 h15 => ?_)
      have e10 : τ15.2 0 = τ.2 0 := h15.1.2 0 (by decide)
      refine z_al0 (q := 19) C dX5_remove_18 rfl ?_
      refine z_il1 (q := 20) C dX5_remove_19 rfl ?_
      refine z_callVi (q := 23) C (ct_removesNow τ15 (e10 ▸ hA.1.1) kn hk) g_X5_158 rcT dX5_remove_20 rfl rfl rfl (Nat.le_of_ble_eq_true rfl) (by first | decide | omega) (Nat.le_refl _) (Nat.le_refl _) (fun r20 τ20 h20 => ?_)
      refine z_is2 (q := 24) C dX5_remove_23 rfl (by first | exact loC_i | exact loC_r | exact loC_n | exact loC_q | exact loC_u) ?_
      obtain ⟨hF2, hr, h5, hTc⟩ := h20
      rw [h15.1.1 5 (by decide)] at h5
      have hF : TF [5, 8, 14, 16, 17, 18, 19] [0, 2, 13, 15] τ τ20 := (h15.1.up (by decide) (by decide)).tr (hF2.up (by decide) (by decide))
      have hkp := hA.keepP hF (M := N + 200) (by omega) hN (fun i hi => by rw [hF2.2 2 (by decide)]; exact h15.2 i hi)
      cases hp : k_pl (a_c α) kn with
      | none =>
        have eg : k_rem (a_c α) kn = (none, a_c α, 0) := by unfold k_rem; rw [hp]
        rw [eg] at hr h5 hTc hQ
        have hr : r20 = -1 := hr
        subst hr
        refine z_il2 (q := 25) C dX5_remove_24 rfl ?_
        refine z_iconst (q := 26) (v := -1) C dX5_remove_25 rfl (by decide) ?_
        refine z_icmp_eq (tgt := 33) (q := 29) C dX5_remove_26 (by decide) rfl (fun c26 => ?_) (fun c26 => ?_)
        · refine z_il2 (q := 34) C dX5_remove_33 rfl ?_
          refine z_iret C hQ dX5_remove_34 (Nat.le_refl _) (Nat.le_refl _) ?_
          exact ⟨_, rfl, rfl, hA.set (δ := 0) hF (hTc.mono (by omega) hN) hlen h5 (by omega)⟩
        · exact absurd rfl c26
      | some e =>
        obtain ⟨h1, h2, h3⟩ := k_pl_some hp
        have hvv := hA.1.1.val h2
        have eg : k_rem (a_c α) kn = (some (vAt (a_c α) e), k_go (a_c α) e, 1) := by unfold k_rem; rw [hp]
        rw [eg] at hr h5 hTc hQ
        have hr : r20 = nI (vAt (a_c α) e) := hr
        subst hr
        refine z_il2 (q := 25) C dX5_remove_24 rfl ?_
        refine z_iconst (q := 26) (v := -1) C dX5_remove_25 rfl (by decide) ?_
        refine z_icmp_eq (tgt := 33) (q := 29) C dX5_remove_26 (by decide) rfl (fun c26 => ?_) (fun c26 => ?_)
        · exact absurd c26 (nI_nm1 (Nat.lt_of_le_of_lt hvv.2 (by decide)))
        · refine z_al0 (q := 30) C dX5_remove_29 rfl ?_
          refine z_callVv (q := 33) C (ct_keeps τ20 (a_ps α) hkp.1 hkp.2.1 hkp.2.2.1 hkp.2.2.2) g_X5_152 rcT dX5_remove_30 rfl rfl rfl (Nat.le_of_ble_eq_true rfl) (by first | decide | omega) (Nat.le_refl _) (Nat.le_refl _) (fun τ30 h30 => ?_)
          refine z_il2 (q := 34) C dX5_remove_33 rfl ?_
          refine z_iret C hQ dX5_remove_34 (Nat.le_refl _) (Nat.le_refl _) ?_
          exact ⟨_, rfl, rfl, hA.lv hF (hTc.mono (by omega) hN) (by rw [k_go_len h1]; omega) h5 (by omega) h30⟩
    · rw [show inB (nI kn) _ _ = true from hi] at c4; cases c4
set_option maxHeartbeats 1000000 in
theorem ct_clears {N : Nat} {α : Al} (τ : Tw) (hA : TA N τ α) (hN : N + 200 ≤ 1000000) : Ct (wT D o ad) yX5_clears cX5_clears 2 (some .int) [.ref o] τ (PI (fun r τ' => r = (a_clears α).1 ∧ TA (N + 200) τ' (a_clears α).2)) 7 0 0 := by
  refine Ct.of KTok (by decide) (Nat.le_of_ble_eq_true rfl) rfl fun Y C hQ hNm => ?_
  have hlen := hA.1.2
  refine z_al0 (q := 1) C dX5_clears_0 rfl ?_
  refine z_callVv (q := 4) C (ct_aside τ) g_X5_146 rcT dX5_clears_1 rfl rfl rfl (Nat.le_of_ble_eq_true rfl) (by first | decide | omega) (Nat.le_refl _) (Nat.le_refl _) (fun τ1 h1 => ?_)
  have e10 : τ1.2 0 = τ.2 0 := h1.1.2 0 (by decide)
  refine z_al0 (q := 5) C dX5_clears_4 rfl ?_
  refine z_callVi (q := 8) C (ct_clearsNow τ1 (e10 ▸ hA.1.1)) g_X5_164 rcT dX5_clears_5 rfl rfl rfl (Nat.le_of_ble_eq_true rfl) (by first | decide | omega) (Nat.le_refl _) (Nat.le_refl _) (fun r5 τ5 h5 => ?_)
  refine z_is1 (q := 9) C dX5_clears_8 rfl (by first | exact loC_i | exact loC_r | exact loC_n | exact loC_q | exact loC_u) ?_
  obtain ⟨hF2, hr, h5, hTc⟩ := h5
  subst hr
  rw [h1.1.1 5 (by decide)] at h5
  have hF : TF [5, 8, 14, 16, 17, 18, 19] [0, 2, 13, 15] τ τ5 := (h1.1.up (by decide) (by decide)).tr (hF2.up (by decide) (by decide))
  have hkp := hA.keepP hF (M := N + 200) (by omega) hN (fun i hi => by rw [hF2.2 2 (by decide)]; exact h1.2 i hi)
  unfold a_clears at hQ
  by_cases hz : 0 < (k_es (a_c α)).length
  · rw [if_pos hz] at h5 hQ
    have hcl : (k_es (k_clr (a_c α))).length ≤ 48 := by unfold k_clr; rw [if_pos hz]; exact Nat.zero_le _
    refine z_il1 (q := 10) C dX5_clears_9 rfl ?_
    refine z_if_le (tgt := 17) (q := 13) C dX5_clears_10 (by decide) rfl (fun c10 => ?_) (fun c10 => ?_)
    · exact absurd c10 (nI_nle hz (by omega))
    · refine z_al0 (q := 14) C dX5_clears_13 rfl ?_
      refine z_callVv (q := 17) C (ct_keeps τ5 (a_ps α) hkp.1 hkp.2.1 hkp.2.2.1 hkp.2.2.2) g_X5_152 rcT dX5_clears_14 rfl rfl rfl (Nat.le_of_ble_eq_true rfl) (by first | decide | omega) (Nat.le_refl _) (Nat.le_refl _) (fun τ14 h14 => ?_)
      refine z_il1 (q := 18) C dX5_clears_17 rfl ?_
      refine z_iret C hQ dX5_clears_18 (Nat.le_refl _) (Nat.le_refl _) ?_
      exact ⟨_, rfl, rfl, hA.lv hF (hTc.mono (by omega) hN) hcl h5 (by omega) h14⟩
  · have ec : k_clr (a_c α) = a_c α := by unfold k_clr; rw [if_neg hz]
    rw [if_neg hz] at h5 hQ
    rw [ec] at hTc
    have hz : (k_es (a_c α)).length = 0 := by omega
    rw [hz] at hQ ⊢
    refine z_il1 (q := 10) C dX5_clears_9 rfl ?_
    refine z_if_le (tgt := 17) (q := 13) C dX5_clears_10 (by decide) rfl (fun c10 => ?_) (fun c10 => ?_)
    · refine z_il1 (q := 18) C dX5_clears_17 rfl ?_
      refine z_iret C hQ dX5_clears_18 (Nat.le_refl _) (Nat.le_refl _) ?_
      exact ⟨_, rfl, rfl, hA.set (δ := 0) hF (hTc.mono (by omega) hN) hlen h5 (by omega)⟩
    · exact absurd (show nI 0 ≤ 0 from by decide) c10
end T29
