/-! the whole state, as both sides mean it; the twin holds it -/
abbrev Cu : Type := Option Nat × Option Nat × Option Nat × Nat
abbrev Al : Type := Co × List Co × (Nat → Int32) × Nat × List Nat × (Nat → Cu)
abbrev a_c (α : Al) : Co := α.1
abbrev a_ps (α : Al) : List Co := α.2.1
abbrev a_rf (α : Al) : Nat → Int32 := α.2.2.1
abbrev a_ch (α : Al) : Nat := α.2.2.2.1
abbrev a_tx (α : Al) : List Nat := α.2.2.2.2.1
abbrev a_cu (α : Al) : Nat → Cu := α.2.2.2.2.2
def ixR (i : Nat) : Nat := if i = 3 then 4 else i
def T1 (N : Nat) (τ : Tw) (c : Co) : Prop := TC N (τ.2 0) c ∧ (k_es c).length ≤ 48
def T2 (N : Nat) (τ : Tw) (ps : List Co) : Prop := τ.1 3 = nI ps.length ∧ ps.length ≤ 6 ∧ PS N (τ.2 1) ps ∧ ∀ c ∈ ps, (k_es c).length ≤ 48
def T3 (τ : Tw) (rf : Nat → Int32) : Prop := ∀ i, i < 4 → τ.2 4 (ixR i) = rf i
def T4 (N : Nat) (τ : Tw) (ch : Nat) : Prop := τ.1 5 = nI ch ∧ ch ≤ N
def T5 (τ : Tw) (tx : List Nat) : Prop := τ.1 7 = nI tx.length ∧ tx.length ≤ 120 ∧ AR (τ.2 6) 0 tx ∧ ∀ x ∈ tx, x ≤ 127
def T6 (τ : Tw) (cu : Nat → Cu) (ch : Nat) : Prop := ∀ i, i < 3 → (τ.2 9 i = oI (cu i).1 ∧ τ.2 10 i = oI (cu i).2.1 ∧ τ.2 11 i = oI (cu i).2.2.1 ∧ τ.2 12 i = nI (cu i).2.2.2) ∧ (∀ w, (cu i).1 = some w → w < 3) ∧ (∀ k, (cu i).2.1 = some k → k ≤ 999999) ∧ (∀ k, (cu i).2.2.1 = some k → k ≤ 999999) ∧ (cu i).2.2.2 ≤ ch
def TA (N : Nat) (τ : Tw) (α : Al) : Prop := T1 N τ (a_c α) ∧ T2 N τ (a_ps α) ∧ T3 τ (a_rf α) ∧ T4 N τ (a_ch α) ∧ T5 τ (a_tx α) ∧ T6 τ (a_cu α) (a_ch α)
theorem PS.mono {N M : Nat} {f : Nat → Int32} {ps : List Co} (h : PS N f ps) (hM : N ≤ M) (h2 : M ≤ 1000000) : PS M f ps := fun j c hj => (h j c hj).mono hM h2
theorem T6.mono {τ : Tw} {cu : Nat → Cu} {ch ch' : Nat} (h : T6 τ cu ch) (hc : ch ≤ ch') : T6 τ cu ch' := fun i hi => ⟨(h i hi).1, (h i hi).2.1, (h i hi).2.2.1, (h i hi).2.2.2.1, Nat.le_trans (h i hi).2.2.2.2 hc⟩
theorem T6.keep {τ τ' : Tw} {cu : Nat → Cu} {ch : Nat} (h : T6 τ cu ch) (h9 : τ'.2 9 = τ.2 9) (h10 : τ'.2 10 = τ.2 10) (h11 : τ'.2 11 = τ.2 11) (h12 : τ'.2 12 = τ.2 12) : T6 τ' cu ch := fun i hi => by
  rw [h9, h10, h11, h12]
  exact h i hi
/-- what is changed: the core and its changes; a state is left too; a refusal is counted -/
def a_set (α : Al) (c : Co) (δ : Nat) : Al := (c, a_ps α, a_rf α, a_ch α + δ, a_tx α, a_cu α)
def a_lv (α : Al) (c : Co) (δ : Nat) : Al := (c, a_push (a_ps α) (a_c α), a_rf α, a_ch α + δ, a_tx α, a_cu α)
def a_rfs (α : Al) (i : Nat) : Al := (a_c α, a_ps α, upd (a_rf α) i (a_rf α i + nI 1), a_ch α, a_tx α, a_cu α)
theorem a_push_le {ps : List Co} {c : Co} (h : ps.length ≤ 6) : (a_push ps c).length ≤ 6 := by
  unfold a_push
  rw [List.length_append]
  split
  · rw [List.length_tail]; simp; omega
  · simp; omega
theorem a_push_mem {ps : List Co} {c x : Co} (h : x ∈ a_push ps c) : x ∈ ps ∨ x = c := by
  unfold a_push at h
  rcases List.mem_append.mp h with h | h
  · split at h
    · exact Or.inl (List.mem_of_mem_tail h)
    · exact Or.inl h
  · exact Or.inr (List.mem_singleton.mp h)
section TAs
variable {N M : Nat} {τ τ' : Tw} {α : Al}
theorem TA.mono (h : TA N τ α) (hM : N ≤ M) (h2 : M ≤ 1000000) : TA M τ α := ⟨⟨h.1.1.mono hM h2, h.1.2⟩, ⟨h.2.1.1, h.2.1.2.1, h.2.1.2.2.1.mono hM h2, h.2.1.2.2.2⟩, h.2.2.1, ⟨h.2.2.2.1.1, Nat.le_trans h.2.2.2.1.2 hM⟩, h.2.2.2.2⟩
theorem TA.set (h : TA N τ α) (hF : TF [5, 8, 14, 16, 17, 18, 19] [0, 2, 13, 15] τ τ') {c : Co} {δ : Nat} (hc : TC M (τ'.2 0) c) (hl : (k_es c).length ≤ 48) (h5 : τ'.1 5 = τ.1 5 + nI δ) (hNM : N + δ ≤ M) : TA M τ' (a_set α c δ) := by
  have h2 := hc.2.1
  refine ⟨⟨hc, hl⟩, ⟨by rw [hF.1 3 (by decide)]; exact h.2.1.1, h.2.1.2.1, by rw [hF.2 1 (by decide)]; exact h.2.1.2.2.1.mono (by omega) h2, h.2.1.2.2.2⟩, by unfold T3; rw [hF.2 4 (by decide)]; exact h.2.2.1, ⟨by rw [h5, h.2.2.2.1.1, nI_add]; rfl, ?_⟩, by unfold T5; rw [hF.1 7 (by decide), hF.2 6 (by decide)]; exact h.2.2.2.2.1, (h.2.2.2.2.2.keep (hF.2 9 (by decide)) (hF.2 10 (by decide)) (hF.2 11 (by decide)) (hF.2 12 (by decide))).mono (Nat.le_add_right _ _)⟩
  have := h.2.2.2.1.2
  show a_ch α + δ ≤ M
  omega
theorem TA.rfs (h : TA N τ α) {i : Nat} (hi : i < 4) : TA N (sE 4 (ixR i) (τ.2 4 (ixR i) + nI 1) τ) (a_rfs α i) := by
  have hF : TF [] [4] τ (sE 4 (ixR i) (τ.2 4 (ixR i) + nI 1) τ) := TF.rf.sE (by decide) _ _
  refine ⟨by unfold T1; rw [hF.2 0 (by decide)]; exact h.1, by unfold T2; rw [hF.2 1 (by decide), hF.1 3 (by decide)]; exact h.2.1, fun j hj => ?_, by unfold T4; rw [hF.1 5 (by decide)]; exact h.2.2.2.1, by unfold T5; rw [hF.1 7 (by decide), hF.2 6 (by decide)]; exact h.2.2.2.2.1, h.2.2.2.2.2.keep (hF.2 9 (by decide)) (hF.2 10 (by decide)) (hF.2 11 (by decide)) (hF.2 12 (by decide))⟩
  by_cases q : j = i
  · subst q
    rw [sE_s]
    show _ = upd (a_rf α) j (a_rf α j + nI 1) j
    rw [pk_us, h.2.2.1 j hj]
  · rw [sE_n (by unfold ixR; split <;> split <;> omega)]
    show _ = upd (a_rf α) i (a_rf α i + nI 1) j
    rw [pk_un q]
    exact h.2.2.1 j hj
/-- behind keeps -/
theorem TA.lv (h : TA N τ α) {τ2 : Tw} (hF : TF [5, 8, 14, 16, 17, 18, 19] [0, 2, 13, 15] τ τ2) {c : Co} {δ : Nat} (hc : TC M (τ2.2 0) c) (hl : (k_es c).length ≤ 48) (h5 : τ2.1 5 = τ.1 5 + nI δ) (hNM : N + δ ≤ M)
    (hk : TF [3] [1] τ2 τ' ∧ τ'.1 3 = nI (a_push (a_ps α) (a_c α)).length ∧ PS M (τ'.2 1) (a_push (a_ps α) (a_c α))) : TA M τ' (a_lv α c δ) := by
  obtain ⟨hG, g3, gP⟩ := hk
  have hs := h.set hF hc hl h5 hNM
  refine ⟨by unfold T1; rw [hG.2 0 (by decide)]; exact hs.1, ⟨g3, a_push_le h.2.1.2.1, gP, fun x hx => ?_⟩, by unfold T3; rw [hG.2 4 (by decide)]; exact hs.2.2.1, by unfold T4; rw [hG.1 5 (by decide)]; exact hs.2.2.2.1, by unfold T5; rw [hG.1 7 (by decide), hG.2 6 (by decide)]; exact hs.2.2.2.2.1, hs.2.2.2.2.2.keep (hG.2 9 (by decide)) (hG.2 10 (by decide)) (hG.2 11 (by decide)) (hG.2 12 (by decide))⟩
  rcases a_push_mem hx with g | g
  · exact h.2.1.2.2.2 x g
  · rw [g]; exact h.1.2
/-- what keeps asks -/
theorem TA.keepP (h : TA N τ α) {τ2 : Tw} (hF : TF [5, 8, 14, 16, 17, 18, 19] [0, 2, 13, 15] τ τ2) (hNM : N ≤ M) (hM : M ≤ 1000000) (hk : ∀ i, i < 218 → τ2.2 2 i = τ.2 0 i) : τ2.1 3 = nI (a_ps α).length ∧ (a_ps α).length ≤ 6 ∧ PS M (τ2.2 1) (a_ps α) ∧ TC M (τ2.2 2) (a_c α) :=
  ⟨by rw [hF.1 3 (by decide)]; exact h.2.1.1, h.2.1.2.1, by rw [hF.2 1 (by decide)]; exact h.2.1.2.2.1.mono hNM hM, (h.1.1.mono hNM hM).cong hk⟩
end TAs
theorem k_go_len {c : Co} {e : Nat} (h : e < (k_es c).length) : (k_es (k_go c e)).length = (k_es c).length - 1 := by
  show ((k_es c).eraseIdx e).length = _
  rw [List.length_eraseIdx, if_pos h]
theorem k_mov_len {c : Co} {e : Nat} (h : e < (k_es c).length) : (k_es (k_mov c e)).length = (k_es c).length := by
  obtain ⟨v, hv⟩ := kAt_lt h
  show ((k_es c).eraseIdx e ++ ((k_es c)[e]?).toList).length = _
  rw [hv, List.length_append, List.length_eraseIdx, if_pos h]
  show (k_es c).length - 1 + 1 = _
  omega
theorem k_val_len {c : Co} {e v : Nat} : (k_es (k_val c e v)).length = (k_es c).length := by
  show ((k_es c).set e (kAt c e, v)).length = _
  rw [List.length_set]
theorem k_add_len {c : Co} {k v : Nat} : (k_es (k_add c k v)).length = (k_es c).length + 1 := by
  show (k_es c ++ [(k, v)]).length = _
  simp
theorem k_come_len {c : Co} {k v : Nat} (hc : CI c) (hl : (k_es c).length ≤ 48) (hf : k_full c = false) : (k_es (k_come c k v)).length ≤ 48 := by
  have h5 : k_n c 5 ≤ 48 := hc.2.2.2.2.2.2.2.2.1
  have e1 : (k_es (k_fit (k_add c k v) (k_b c k) ((k_es c).length + 1))).length = (k_es c).length + 1 := by rw [k_fit_o.1, k_add_len]
  unfold k_come
  split
  · rw [k_go_len (by omega), e1]
    omega
  · rw [e1]
    rename_i q
    simp only [k_full, Bool.and_eq_false_iff, decide_eq_false_iff_not] at hf
    omega
theorem k_may_len {c : Co} {k v : Nat} (hc : CI c) (hl : (k_es c).length ≤ 48) (hm : k_may c k = true) : (k_es (k_put c k v).2.1).length ≤ 48 := by
  unfold k_put
  cases hp : k_pl c k with
  | none =>
    refine k_come_len hc hl ?_
    unfold k_may at hm
    rw [hp] at hm
    simpa using hm
  | some e =>
    obtain ⟨h1, -⟩ := k_pl_some hp
    show (k_es (if k_n c 4 = 1 then k_mov (k_val c e v) e else k_val c e v)).length ≤ 48
    split
    · rw [k_mov_len (by rw [k_val_len]; exact h1), k_val_len]; exact hl
    · rw [k_val_len]; exact hl
section T28
variable {D : Dt} {o : Nat} {ad : Nat → Nat}
theorem ct_placeN {N : Nat} {c : Co} (τ : Tw) (hT : TC N (τ.2 0) c) (k : Nat) (hk : k < 2 ^ 31) (hr : k_pl c k = none) : Ct (wT D o ad) yX5_placeOf cX5_placeOf 4 (some .int) [.ref o, .int (nI k)] τ (PE (some (.int (-1))) τ) 0 0 0 := ct_placeOf' τ hT k none hk hr
theorem ct_placeS {N : Nat} {c : Co} (τ : Tw) (hT : TC N (τ.2 0) c) (k e : Nat) (hk : k < 2 ^ 31) (hr : k_pl c k = some e) : Ct (wT D o ad) yX5_placeOf cX5_placeOf 4 (some .int) [.ref o, .int (nI k)] τ (PE (some (.int (nI e))) τ) 0 0 0 := ct_placeOf' τ hT k (some e) hk hr
set_option maxHeartbeats 1000000 in
theorem ct_putsNow {N : Nat} {c : Co} (τ : Tw) (hT : TC N (τ.2 0) c) (k v : Nat) (hk : k ≤ 999999) (hv : v ≤ 9999) (hl : (k_es c).length ≤ 48) (hN : N + 1 ≤ 1000000) : Ct (wT D o ad) yX5_putsNow cX5_putsNow 5 (some .int) [.ref o, .int (nI k), .int (nI v)] τ (PI (fun r τ' => TF [5] [0] τ τ' ∧ r = oI (k_put c k v).1 ∧ τ'.1 5 = τ.1 5 + nI (k_put c k v).2.2 ∧ TC (N + 1) (τ'.2 0) (k_put c k v).2.1)) 6 0 0 := by
  refine Ct.of KTok (by decide) (Nat.le_of_ble_eq_true rfl) rfl fun Y C hQ hNm => ?_
  cases hp : k_pl c k with
  | none =>
    have e1 : k_put c k v = (none, k_come c k v, if 0 < k_n c 5 ∧ k_n c 5 < (k_es c).length + 1 then 2 else 1) := by unfold k_put; rw [hp]
    rw [e1] at hQ
    refine z_al0 (q := 1) C dX5_putsNow_0 rfl ?_
    refine z_il1 (q := 2) C dX5_putsNow_1 rfl ?_
    refine z_callVe (q := 5) C (ct_placeN τ hT k (by omega) hp) g_X5_121 rcT dX5_putsNow_2 rfl rfl rfl (Nat.le_of_ble_eq_true rfl) (by first | decide | omega) (Nat.le_refl _) (Nat.le_refl _) ?_
    refine z_is3 (q := 6) C dX5_putsNow_5 rfl (by first | exact loC_i | exact loC_r | exact loC_n | exact loC_q | exact loC_u) ?_
    refine z_il3 (q := 7) C dX5_putsNow_6 rfl ?_
    refine z_iconst (q := 8) (v := -1) C dX5_putsNow_7 rfl (by decide) ?_
    refine z_icmp_ne (tgt := 19) (q := 11) C dX5_putsNow_8 (by decide) rfl (fun c8 => ?_) (fun c8 => ?_)
    · exact absurd rfl c8
    · refine z_al0 (q := 12) C dX5_putsNow_11 rfl ?_
      refine z_il1 (q := 13) C dX5_putsNow_12 rfl ?_
      refine z_il2 (q := 14) C dX5_putsNow_13 rfl ?_
      refine z_callVv (q := 17) C (ct_comes τ hT k v hk hv (k_pl_none hp) hl hN) g_X5_124 rcT dX5_putsNow_14 rfl rfl rfl (Nat.le_of_ble_eq_true rfl) (by first | decide | omega) (Nat.le_refl _) (Nat.le_refl _) (fun τ14 h14 => ?_)
      refine z_iconst (q := 18) (v := -1) C dX5_putsNow_17 rfl (by decide) ?_
      refine z_iret C hQ dX5_putsNow_18 (Nat.le_refl _) (Nat.le_refl _) ?_
      exact ⟨_, rfl, h14.1, rfl, h14.2.1, h14.2.2⟩
  | some e =>
    obtain ⟨h1, h2, h3⟩ := k_pl_some hp
    have hvv := hT.val h2
    have h4l : k_n c 4 ≤ 1 := hT.1.2.2.2.2.2.2.2.1
    have hTv : TC N ((sE 0 (56 + e) (nI v) τ).2 0) (k_val c e v) := by rw [sE_j]; exact hT.setv h1 hv
    have h4 : (sE 0 (56 + e) (nI v) τ).2 0 4 = nI (k_n c 4) := by rw [sE_n (by omega)]; exact hT.an (by omega) (by omega)
    refine z_al0 (q := 1) C dX5_putsNow_0 rfl ?_
    refine z_il1 (q := 2) C dX5_putsNow_1 rfl ?_
    refine z_callVe (q := 5) C (ct_placeS τ hT k e (by omega) hp) g_X5_121 rcT dX5_putsNow_2 rfl rfl rfl (Nat.le_of_ble_eq_true rfl) (by first | decide | omega) (Nat.le_refl _) (Nat.le_refl _) ?_
    refine z_is3 (q := 6) C dX5_putsNow_5 rfl (by first | exact loC_i | exact loC_r | exact loC_n | exact loC_q | exact loC_u) ?_
    refine z_il3 (q := 7) C dX5_putsNow_6 rfl ?_
    refine z_iconst (q := 8) (v := -1) C dX5_putsNow_7 rfl (by decide) ?_
    by_cases h41 : k_n c 4 = 1
    · have e1 : k_put c k v = (some (vAt c e), k_mov (k_val c e v) e, if e + 1 = (k_es c).length then 0 else 1) := by unfold k_put; rw [hp]; simp only [if_pos h41]
      rw [e1] at hQ
      refine z_icmp_ne (tgt := 19) (q := 11) C dX5_putsNow_8 (by decide) rfl (fun c8 => ?_) (fun c8 => ?_)
      · refine z_al0 (q := 20) C dX5_putsNow_19 rfl ?_
        refine tg_7 (q := 23) C dX5_putsNow_20 rfl ?_
        refine z_bipush (q := 25) (v := nI 56) C dX5_putsNow_23 rfl (by decide) ?_
        refine z_il3 (q := 26) C dX5_putsNow_25 rfl ?_
        first | refine z_iaddN (q := 27) C dX5_putsNow_26 rfl ?_ | refine z_iadd (q := 27) C dX5_putsNow_26 rfl ?_
        refine ta_ld0 (q := 28) C dX5_putsNow_27 rfl (by omega) ?_
        rw [hvv.1]
        refine z_is4 (q := 30) C dX5_putsNow_28 rfl (by first | exact loC_i | exact loC_r | exact loC_n | exact loC_q | exact loC_u) ?_
        refine z_al0 (q := 31) C dX5_putsNow_30 rfl ?_
        refine tg_7 (q := 34) C dX5_putsNow_31 rfl ?_
        refine z_bipush (q := 36) (v := nI 56) C dX5_putsNow_34 rfl (by decide) ?_
        refine z_il3 (q := 37) C dX5_putsNow_36 rfl ?_
        first | refine z_iaddN (q := 38) C dX5_putsNow_37 rfl ?_ | refine z_iadd (q := 38) C dX5_putsNow_37 rfl ?_
        refine z_il2 (q := 39) C dX5_putsNow_38 rfl ?_
        refine ta_st0 (q := 40) C dX5_putsNow_39 rfl (by omega) ?_
        refine z_al0 (q := 41) C dX5_putsNow_40 rfl ?_
        refine tg_7 (q := 44) C dX5_putsNow_41 rfl ?_
        refine z_iconst (q := 45) (v := nI 4) C dX5_putsNow_44 rfl (by decide) ?_
        refine ta_ld0 (q := 46) C dX5_putsNow_45 rfl (by omega) ?_
        rw [h4]
        refine z_iconst (q := 47) (v := nI 1) C dX5_putsNow_46 rfl (by decide) ?_
        first | refine z_icmp_neN (tgt := 55) (q := 50) C dX5_putsNow_47 (by decide) rfl (by omega) (by omega) (fun c47 => ?_) (fun c47 => ?_) | refine z_icmp_ne (tgt := 55) (q := 50) C dX5_putsNow_47 (by decide) rfl (fun c47 => ?_) (fun c47 => ?_)
        · exact absurd c47 (by omega)
        · refine z_al0 (q := 51) C dX5_putsNow_50 rfl ?_
          refine z_il3 (q := 52) C dX5_putsNow_51 rfl ?_
          refine z_callVv (q := 55) C (ct_moves _ (by exact hTv) e (by rw [k_val_len]; exact h1)) g_X5_127 rcT dX5_putsNow_52 rfl rfl rfl (Nat.le_of_ble_eq_true rfl) (by first | decide | omega) (Nat.le_refl _) (Nat.le_refl _) (fun τ52 h52 => ?_)
          refine z_il4 (q := 57) C dX5_putsNow_55 rfl ?_
          refine z_iret C hQ dX5_putsNow_57 (Nat.le_refl _) (Nat.le_refl _) ?_
          exact ⟨_, rfl, (TF.rf.sE (by decide) _ _).tr h52.1, rfl, by rw [h52.2.1, sE_f, k_val_len], h52.2.2.mono (by omega) hN⟩
      · exact absurd c8 (nI_nm1 (by omega))
    · have e1 : k_put c k v = (some (vAt c e), k_val c e v, 0) := by unfold k_put; rw [hp]; simp only [if_neg h41]
      rw [e1] at hQ
      refine z_icmp_ne (tgt := 19) (q := 11) C dX5_putsNow_8 (by decide) rfl (fun c8 => ?_) (fun c8 => ?_)
      · refine z_al0 (q := 20) C dX5_putsNow_19 rfl ?_
        refine tg_7 (q := 23) C dX5_putsNow_20 rfl ?_
        refine z_bipush (q := 25) (v := nI 56) C dX5_putsNow_23 rfl (by decide) ?_
        refine z_il3 (q := 26) C dX5_putsNow_25 rfl ?_
        first | refine z_iaddN (q := 27) C dX5_putsNow_26 rfl ?_ | refine z_iadd (q := 27) C dX5_putsNow_26 rfl ?_
        refine ta_ld0 (q := 28) C dX5_putsNow_27 rfl (by omega) ?_
        rw [hvv.1]
        refine z_is4 (q := 30) C dX5_putsNow_28 rfl (by first | exact loC_i | exact loC_r | exact loC_n | exact loC_q | exact loC_u) ?_
        refine z_al0 (q := 31) C dX5_putsNow_30 rfl ?_
        refine tg_7 (q := 34) C dX5_putsNow_31 rfl ?_
        refine z_bipush (q := 36) (v := nI 56) C dX5_putsNow_34 rfl (by decide) ?_
        refine z_il3 (q := 37) C dX5_putsNow_36 rfl ?_
        first | refine z_iaddN (q := 38) C dX5_putsNow_37 rfl ?_ | refine z_iadd (q := 38) C dX5_putsNow_37 rfl ?_
        refine z_il2 (q := 39) C dX5_putsNow_38 rfl ?_
        refine ta_st0 (q := 40) C dX5_putsNow_39 rfl (by omega) ?_
        refine z_al0 (q := 41) C dX5_putsNow_40 rfl ?_
        refine tg_7 (q := 44) C dX5_putsNow_41 rfl ?_
        refine z_iconst (q := 45) (v := nI 4) C dX5_putsNow_44 rfl (by decide) ?_
        refine ta_ld0 (q := 46) C dX5_putsNow_45 rfl (by omega) ?_
        rw [h4]
        refine z_iconst (q := 47) (v := nI 1) C dX5_putsNow_46 rfl (by decide) ?_
        first | refine z_icmp_neN (tgt := 55) (q := 50) C dX5_putsNow_47 (by decide) rfl (by omega) (by omega) (fun c47 => ?_) (fun c47 => ?_) | refine z_icmp_ne (tgt := 55) (q := 50) C dX5_putsNow_47 (by decide) rfl (fun c47 => ?_) (fun c47 => ?_)
        · refine z_il4 (q := 57) C dX5_putsNow_55 rfl ?_
          refine z_iret C hQ dX5_putsNow_57 (Nat.le_refl _) (Nat.le_refl _) ?_
          exact ⟨_, rfl, TF.rf.sE (by decide) _ _, rfl, (Int32.add_zero _).symm, hTv.mono (by omega) hN⟩
        · exact absurd c47 (by omega)
      · exact absurd c8 (nI_nm1 (by omega))
set_option maxHeartbeats 1000000 in
theorem ct_getsNow {N : Nat} {c : Co} (τ : Tw) (hT : TC N (τ.2 0) c) (k : Nat) (hk : k ≤ 999999) : Ct (wT D o ad) yX5_getsNow cX5_getsNow 4 (some .int) [.ref o, .int (nI k)] τ (PI (fun r τ' => TF [5] [0] τ τ' ∧ r = oI (k_get c k).1 ∧ τ'.1 5 = τ.1 5 + nI (k_get c k).2.2 ∧ TC N (τ'.2 0) (k_get c k).2.1)) 2 0 0 := by
  refine Ct.of KTok (by decide) (Nat.le_of_ble_eq_true rfl) rfl fun Y C hQ hNm => ?_
  cases hp : k_pl c k with
  | none =>
    have e1 : k_get c k = (none, c, 0) := by unfold k_get; rw [hp]
    rw [e1] at hQ
    refine z_al0 (q := 1) C dX5_getsNow_0 rfl ?_
    refine z_il1 (q := 2) C dX5_getsNow_1 rfl ?_
    refine z_callVe (q := 5) C (ct_placeN τ hT k (by omega) hp) g_X5_121 rcT dX5_getsNow_2 rfl rfl rfl (Nat.le_of_ble_eq_true rfl) (by first | decide | omega) (Nat.le_refl _) (Nat.le_refl _) ?_
    refine z_is2 (q := 6) C dX5_getsNow_5 rfl (by first | exact loC_i | exact loC_r | exact loC_n | exact loC_q | exact loC_u) ?_
    refine z_il2 (q := 7) C dX5_getsNow_6 rfl ?_
    refine z_iconst (q := 8) (v := -1) C dX5_getsNow_7 rfl (by decide) ?_
    refine z_icmp_ne (tgt := 13) (q := 11) C dX5_getsNow_8 (by decide) rfl (fun c8 => ?_) (fun c8 => ?_)
    · exact absurd rfl c8
    · refine z_iconst (q := 12) (v := -1) C dX5_getsNow_11 rfl (by decide) ?_
      refine z_iret C hQ dX5_getsNow_12 (Nat.le_refl _) (Nat.le_refl _) ?_
      exact ⟨_, rfl, TF.rf, rfl, (Int32.add_zero _).symm, hT⟩
  | some e =>
    obtain ⟨h1, h2, h3⟩ := k_pl_some hp
    have hvv := hT.val h2
    have h4l : k_n c 4 ≤ 1 := hT.1.2.2.2.2.2.2.2.1
    have hlen := hT.len
    refine z_al0 (q := 1) C dX5_getsNow_0 rfl ?_
    refine z_il1 (q := 2) C dX5_getsNow_1 rfl ?_
    refine z_callVe (q := 5) C (ct_placeS τ hT k e (by omega) hp) g_X5_121 rcT dX5_getsNow_2 rfl rfl rfl (Nat.le_of_ble_eq_true rfl) (by first | decide | omega) (Nat.le_refl _) (Nat.le_refl _) ?_
    refine z_is2 (q := 6) C dX5_getsNow_5 rfl (by first | exact loC_i | exact loC_r | exact loC_n | exact loC_q | exact loC_u) ?_
    refine z_il2 (q := 7) C dX5_getsNow_6 rfl ?_
    refine z_iconst (q := 8) (v := -1) C dX5_getsNow_7 rfl (by decide) ?_
    by_cases h41 : k_n c 4 = 1
    · have e1 : k_get c k = (some (vAt c e), k_mov c e, if e + 1 = (k_es c).length then 0 else 1) := by unfold k_get; rw [hp]; simp only [if_pos h41]
      rw [e1] at hQ
      refine z_icmp_ne (tgt := 13) (q := 11) C dX5_getsNow_8 (by decide) rfl (fun c8 => ?_) (fun c8 => ?_)
      · refine z_al0 (q := 14) C dX5_getsNow_13 rfl ?_
        refine tg_7 (q := 17) C dX5_getsNow_14 rfl ?_
        refine z_bipush (q := 19) (v := nI 56) C dX5_getsNow_17 rfl (by decide) ?_
        refine z_il2 (q := 20) C dX5_getsNow_19 rfl ?_
        first | refine z_iaddN (q := 21) C dX5_getsNow_20 rfl ?_ | refine z_iadd (q := 21) C dX5_getsNow_20 rfl ?_
        refine ta_ld0 (q := 22) C dX5_getsNow_21 rfl (by omega) ?_
        rw [hvv.1]
        refine z_is3 (q := 23) C dX5_getsNow_22 rfl (by first | exact loC_i | exact loC_r | exact loC_n | exact loC_q | exact loC_u) ?_
        refine z_al0 (q := 24) C dX5_getsNow_23 rfl ?_
        refine tg_7 (q := 27) C dX5_getsNow_24 rfl ?_
        refine z_iconst (q := 28) (v := nI 4) C dX5_getsNow_27 rfl (by decide) ?_
        refine ta_ld0 (q := 29) C dX5_getsNow_28 rfl (by omega) ?_
        rw [hT.an (by omega) (by omega)]
        refine z_iconst (q := 30) (v := nI 1) C dX5_getsNow_29 rfl (by decide) ?_
        first | refine z_icmp_neN (tgt := 38) (q := 33) C dX5_getsNow_30 (by decide) rfl (by omega) (by omega) (fun c30 => ?_) (fun c30 => ?_) | refine z_icmp_ne (tgt := 38) (q := 33) C dX5_getsNow_30 (by decide) rfl (fun c30 => ?_) (fun c30 => ?_)
        · exact absurd c30 (by omega)
        · refine z_al0 (q := 34) C dX5_getsNow_33 rfl ?_
          refine z_il2 (q := 35) C dX5_getsNow_34 rfl ?_
          refine z_callVv (q := 38) C (ct_moves τ hT e h1) g_X5_127 rcT dX5_getsNow_35 rfl rfl rfl (Nat.le_of_ble_eq_true rfl) (by first | decide | omega) (Nat.le_refl _) (Nat.le_refl _) (fun τ35 h35 => ?_)
          refine z_il3 (q := 39) C dX5_getsNow_38 rfl ?_
          refine z_iret C hQ dX5_getsNow_39 (Nat.le_refl _) (Nat.le_refl _) ?_
          exact ⟨_, rfl, h35.1, rfl, h35.2.1, h35.2.2⟩
      · exact absurd c8 (nI_nm1 (by omega))
    · have e1 : k_get c k = (some (vAt c e), c, 0) := by unfold k_get; rw [hp]; simp only [if_neg h41]
      rw [e1] at hQ
      refine z_icmp_ne (tgt := 13) (q := 11) C dX5_getsNow_8 (by decide) rfl (fun c8 => ?_) (fun c8 => ?_)
      · refine z_al0 (q := 14) C dX5_getsNow_13 rfl ?_
        refine tg_7 (q := 17) C dX5_getsNow_14 rfl ?_
        refine z_bipush (q := 19) (v := nI 56) C dX5_getsNow_17 rfl (by decide) ?_
        refine z_il2 (q := 20) C dX5_getsNow_19 rfl ?_
        first | refine z_iaddN (q := 21) C dX5_getsNow_20 rfl ?_ | refine z_iadd (q := 21) C dX5_getsNow_20 rfl ?_
        refine ta_ld0 (q := 22) C dX5_getsNow_21 rfl (by omega) ?_
        rw [hvv.1]
        refine z_is3 (q := 23) C dX5_getsNow_22 rfl (by first | exact loC_i | exact loC_r | exact loC_n | exact loC_q | exact loC_u) ?_
        refine z_al0 (q := 24) C dX5_getsNow_23 rfl ?_
        refine tg_7 (q := 27) C dX5_getsNow_24 rfl ?_
        refine z_iconst (q := 28) (v := nI 4) C dX5_getsNow_27 rfl (by decide) ?_
        refine ta_ld0 (q := 29) C dX5_getsNow_28 rfl (by omega) ?_
        rw [hT.an (by omega) (by omega)]
        refine z_iconst (q := 30) (v := nI 1) C dX5_getsNow_29 rfl (by decide) ?_
        first | refine z_icmp_neN (tgt := 38) (q := 33) C dX5_getsNow_30 (by decide) rfl (by omega) (by omega) (fun c30 => ?_) (fun c30 => ?_) | refine z_icmp_ne (tgt := 38) (q := 33) C dX5_getsNow_30 (by decide) rfl (fun c30 => ?_) (fun c30 => ?_)
        · refine z_il3 (q := 39) C dX5_getsNow_38 rfl ?_
          refine z_iret C hQ dX5_getsNow_39 (Nat.le_refl _) (Nat.le_refl _) ?_
          exact ⟨_, rfl, TF.rf, rfl, (Int32.add_zero _).symm, hT⟩
        · exact absurd c30 (by omega)
      · exact absurd c8 (nI_nm1 (by omega))
set_option maxHeartbeats 1000000 in
theorem ct_removesNow {N : Nat} {c : Co} (τ : Tw) (hT : TC N (τ.2 0) c) (k : Nat) (hk : k ≤ 999999) : Ct (wT D o ad) yX5_removesNow cX5_removesNow 4 (some .int) [.ref o, .int (nI k)] τ (PI (fun r τ' => TF [5] [0] τ τ' ∧ r = oI (k_rem c k).1 ∧ τ'.1 5 = τ.1 5 + nI (k_rem c k).2.2 ∧ TC N (τ'.2 0) (k_rem c k).2.1)) 4 0 0 := by
  refine Ct.of KTok (by decide) (Nat.le_of_ble_eq_true rfl) rfl fun Y C hQ hNm => ?_
  cases hp : k_pl c k with
  | none =>
    have e1 : k_rem c k = (none, c, 0) := by unfold k_rem; rw [hp]
    rw [e1] at hQ
    refine z_al0 (q := 1) C dX5_removesNow_0 rfl ?_
    refine z_il1 (q := 2) C dX5_removesNow_1 rfl ?_
    refine z_callVe (q := 5) C (ct_placeN τ hT k (by omega) hp) g_X5_121 rcT dX5_removesNow_2 rfl rfl rfl (Nat.le_of_ble_eq_true rfl) (by first | decide | omega) (Nat.le_refl _) (Nat.le_refl _) ?_
    refine z_is2 (q := 6) C dX5_removesNow_5 rfl (by first | exact loC_i | exact loC_r | exact loC_n | exact loC_q | exact loC_u) ?_
    refine z_il2 (q := 7) C dX5_removesNow_6 rfl ?_
    refine z_iconst (q := 8) (v := -1) C dX5_removesNow_7 rfl (by decide) ?_
    refine z_icmp_ne (tgt := 13) (q := 11) C dX5_removesNow_8 (by decide) rfl (fun c8 => ?_) (fun c8 => ?_)
    · exact absurd rfl c8
    · refine z_iconst (q := 12) (v := -1) C dX5_removesNow_11 rfl (by decide) ?_
      refine z_iret C hQ dX5_removesNow_12 (Nat.le_refl _) (Nat.le_refl _) ?_
      exact ⟨_, rfl, TF.rf, rfl, (Int32.add_zero _).symm, hT⟩
  | some e =>
    obtain ⟨h1, h2, h3⟩ := k_pl_some hp
    have e1 : k_rem c k = (some (vAt c e), k_go c e, 1) := by unfold k_rem; rw [hp]
    rw [e1] at hQ
    have hvv := hT.val h2
    have hlen := hT.len
    refine z_al0 (q := 1) C dX5_removesNow_0 rfl ?_
    refine z_il1 (q := 2) C dX5_removesNow_1 rfl ?_
    refine z_callVe (q := 5) C (ct_placeS τ hT k e (by omega) hp) g_X5_121 rcT dX5_removesNow_2 rfl rfl rfl (Nat.le_of_ble_eq_true rfl) (by first | decide | omega) (Nat.le_refl _) (Nat.le_refl _) ?_
    refine z_is2 (q := 6) C dX5_removesNow_5 rfl (by first | exact loC_i | exact loC_r | exact loC_n | exact loC_q | exact loC_u) ?_
    refine z_il2 (q := 7) C dX5_removesNow_6 rfl ?_
    refine z_iconst (q := 8) (v := -1) C dX5_removesNow_7 rfl (by decide) ?_
    refine z_icmp_ne (tgt := 13) (q := 11) C dX5_removesNow_8 (by decide) rfl (fun c8 => ?_) (fun c8 => ?_)
    · refine z_al0 (q := 14) C dX5_removesNow_13 rfl ?_
      refine tg_7 (q := 17) C dX5_removesNow_14 rfl ?_
      refine z_bipush (q := 19) (v := nI 56) C dX5_removesNow_17 rfl (by decide) ?_
      refine z_il2 (q := 20) C dX5_removesNow_19 rfl ?_
      first | refine z_iaddN (q := 21) C dX5_removesNow_20 rfl ?_ | refine z_iadd (q := 21) C dX5_removesNow_20 rfl ?_
      refine ta_ld0 (q := 22) C dX5_removesNow_21 rfl (by omega) ?_
      rw [hvv.1]
      refine z_is3 (q := 23) C dX5_removesNow_22 rfl (by first | exact loC_i | exact loC_r | exact loC_n | exact loC_q | exact loC_u) ?_
      refine z_al0 (q := 24) C dX5_removesNow_23 rfl ?_
      refine z_il2 (q := 25) C dX5_removesNow_24 rfl ?_
      refine z_callVv (q := 28) C (ct_goes τ hT e h1) g_X5_115 rcT dX5_removesNow_25 rfl rfl rfl (Nat.le_of_ble_eq_true rfl) (by first | decide | omega) (Nat.le_refl _) (Nat.le_refl _) (fun τ25 h25 => ?_)
      refine z_il3 (q := 29) C dX5_removesNow_28 rfl ?_
      refine z_iret C hQ dX5_removesNow_29 (Nat.le_refl _) (Nat.le_refl _) ?_
      exact ⟨_, rfl, h25.1, rfl, h25.2.1, h25.2.2⟩
    · exact absurd c8 (nI_nm1 (by omega))
theorem TC.clr {N : Nat} {a a' : Nat → Int32} {c : Co} (h : TC N a c) (h0 : a' 0 = nI 0) (h1 : ∀ i, i ≠ 0 → a' i = a i) : TC N a' ([], [], c.2.2) := by
  obtain ⟨hc, hN, cm, co, hR, hM⟩ := h
  refine ⟨⟨List.nodup_nil, fun x hx => absurd hx List.not_mem_nil, List.Perm.refl _, Nat.zero_le _, hc.2.2.2.2⟩, hN, cm, co, ⟨h0, fun i g1 g2 => by rw [h1 i (by omega)]; exact hR.2.1 i g1 g2, by rw [h1 6 (by omega)]; exact hR.2.2.1, fun i x hx => absurd (List.mem_of_getElem? hx) List.not_mem_nil, fun b hb => by rw [h1 _ (by omega)]; exact hR.2.2.2.2 b hb⟩, List.Pairwise.nil, fun x hx => absurd hx List.not_mem_nil, hM.2.2⟩
set_option maxHeartbeats 1000000 in
theorem ct_clearsNow {N : Nat} {c : Co} (τ : Tw) (hT : TC N (τ.2 0) c) : Ct (wT D o ad) yX5_clearsNow cX5_clearsNow 2 (some .int) [.ref o] τ (PI (fun r τ' => TF [5] [0] τ τ' ∧ r = nI (k_es c).length ∧ τ'.1 5 = τ.1 5 + nI (if 0 < (k_es c).length then 1 else 0) ∧ TC N (τ'.2 0) (k_clr c))) 1 0 0 := by
  refine Ct.of KTok (by decide) (Nat.le_of_ble_eq_true rfl) rfl fun Y C hQ hNm => ?_
  have hlen := hT.len
  have hTc : TC N ((sE 0 0 (nI 0) τ).2 0) ([], [], c.2.2) := hT.clr sE_s (fun i hi => sE_n hi)
  by_cases hz : 0 < (k_es c).length
  · have e1 : k_clr c = k_emp ([], [], c.2.2) := by unfold k_clr; rw [if_pos hz]; rfl
    rw [e1, if_pos hz] at hQ
    refine z_al0 (q := 1) C dX5_clearsNow_0 rfl ?_
    refine tg_7 (q := 4) C dX5_clearsNow_1 rfl ?_
    refine z_iconst (q := 5) (v := nI 0) C dX5_clearsNow_4 rfl (by decide) ?_
    refine ta_ld0 (q := 6) C dX5_clearsNow_5 rfl (by omega) ?_
    rw [hT.a0]
    refine z_is1 (q := 7) C dX5_clearsNow_6 rfl (by first | exact loC_i | exact loC_r | exact loC_n | exact loC_q | exact loC_u) ?_
    refine z_il1 (q := 8) C dX5_clearsNow_7 rfl ?_
    refine z_if_le (tgt := 32) (q := 11) C dX5_clearsNow_8 (by decide) rfl (fun c8 => ?_) (fun c8 => ?_)
    · exact absurd c8 (nI_nle hz (by omega))
    · refine z_al0 (q := 12) C dX5_clearsNow_11 rfl ?_
      refine tg_7 (q := 15) C dX5_clearsNow_12 rfl ?_
      refine z_iconst (q := 16) (v := nI 0) C dX5_clearsNow_15 rfl (by decide) ?_
      refine z_iconst (q := 17) (v := nI 0) C dX5_clearsNow_16 rfl (by decide) ?_
      refine ta_st0 (q := 18) C dX5_clearsNow_17 rfl (by omega) ?_
      refine z_al0 (q := 19) C dX5_clearsNow_18 rfl ?_
      refine z_callVv (q := 22) C (ct_empties _ hTc) g_X5_161 rcT dX5_clearsNow_19 rfl rfl rfl (Nat.le_of_ble_eq_true rfl) (by first | decide | omega) (Nat.le_refl _) (Nat.le_refl _) (fun τ19 h19 => ?_)
      refine z_al0 (q := 23) C dX5_clearsNow_22 rfl ?_
      refine z_dup (q := 24) C dX5_clearsNow_23 rfl rfl ?_
      refine tg_108 (q := 27) C dX5_clearsNow_24 rfl ?_
      refine z_iconst (q := 28) (v := nI 1) C dX5_clearsNow_27 rfl (by decide) ?_
      first | refine z_iaddN (q := 29) C dX5_clearsNow_28 rfl ?_ | refine z_iadd (q := 29) C dX5_clearsNow_28 rfl ?_
      refine tp_108 (q := 32) C dX5_clearsNow_29 rfl ?_
      refine z_il1 (q := 33) C dX5_clearsNow_32 rfl ?_
      refine z_iret C hQ dX5_clearsNow_33 (Nat.le_refl _) (Nat.le_refl _) ?_
      exact ⟨_, rfl, ((TF.rf.sE (by decide) _ _).tr (h19.1.up (by decide) (by decide))).sF (by decide) _, rfl, by rw [sF_s, h19.1.1 5 (by decide), sE_f], h19.2.1⟩
  · have hz : (k_es c).length = 0 := by omega
    have e1 : k_clr c = c := by unfold k_clr; rw [if_neg (by omega)]
    rw [e1, hz] at hQ
    refine z_al0 (q := 1) C dX5_clearsNow_0 rfl ?_
    refine tg_7 (q := 4) C dX5_clearsNow_1 rfl ?_
    refine z_iconst (q := 5) (v := nI 0) C dX5_clearsNow_4 rfl (by decide) ?_
    refine ta_ld0 (q := 6) C dX5_clearsNow_5 rfl (by omega) ?_
    rw [hT.a0]
    rw [hz]
    refine z_is1 (q := 7) C dX5_clearsNow_6 rfl (by first | exact loC_i | exact loC_r | exact loC_n | exact loC_q | exact loC_u) ?_
    refine z_il1 (q := 8) C dX5_clearsNow_7 rfl ?_
    refine z_if_le (tgt := 32) (q := 11) C dX5_clearsNow_8 (by decide) rfl (fun c8 => ?_) (fun c8 => ?_)
    · refine z_il1 (q := 33) C dX5_clearsNow_32 rfl ?_
      refine z_iret C hQ dX5_clearsNow_33 (Nat.le_refl _) (Nat.le_refl _) ?_
      exact ⟨_, rfl, TF.rf, rfl, (Int32.add_zero _).symm, hT⟩
    · exact absurd (show nI 0 ≤ 0 from by decide) c8
set_option maxHeartbeats 1000000 in
theorem ct_mayPut {N : Nat} {c : Co} (τ : Tw) (hT : TC N (τ.2 0) c) (k v : Nat) (hk : k ≤ 999999) (hv : v ≤ 9999) : Ct (wT D o ad) yX5_mayPut cX5_mayPut 3 (some .boolean) [.ref o, .int (nI k), .int (nI v)] τ (PE (some (.int (bI (k_may c k)))) τ) 2 0 0 := by
  refine Ct.of KTok (by decide) (Nat.le_of_ble_eq_true rfl) rfl fun Y C hQ hNm => ?_
  have i1 : inB (nI k) (nI 0) (nI 999999) = true := by rw [inB_nI (by omega) (by decide)]; exact decide_eq_true hk
  have i2 : inB (nI v) (nI 0) (nI 9999) = true := by rw [inB_nI (by omega) (by decide)]; exact decide_eq_true hv
  have hlen := hT.len
  cases hp : k_pl c k with
  | none =>
    have e1 : k_may c k = !k_full c := by unfold k_may; rw [hp]; rfl
    rw [e1] at hQ
    refine z_il1 (q := 1) C dX5_mayPut_0 rfl ?_
    refine z_callSe (q := 4) C (ct_isKey τ (nI k)) g_X5_130 dX5_mayPut_1 rfl rfl rfl (Nat.le_of_ble_eq_true rfl) (by first | decide | omega) (Nat.le_refl _) (Nat.le_refl _) ?_
    first | refine z_if_eqB (tgt := 38) (q := 7) C dX5_mayPut_4 (by decide) rfl (fun c4 => ?_) (fun c4 => ?_) | refine z_if_eq (tgt := 38) (q := 7) C dX5_mayPut_4 (by decide) rfl (fun c4 => ?_) (fun c4 => ?_)
    · rw [i1] at c4; cases c4
    · refine z_il2 (q := 8) C dX5_mayPut_7 rfl ?_
      refine z_iconst (q := 9) (v := nI 0) C dX5_mayPut_8 rfl (by decide) ?_
      refine z_sipush (q := 12) (v := nI 9999) C dX5_mayPut_9 rfl (by decide) ?_
      refine z_callSe (q := 15) C (ct_in τ (nI v) (nI 0) (nI 9999)) g_X5_44 dX5_mayPut_12 rfl rfl rfl (Nat.le_of_ble_eq_true rfl) (by first | decide | omega) (Nat.le_refl _) (Nat.le_refl _) ?_
      first | refine z_if_eqB (tgt := 38) (q := 18) C dX5_mayPut_15 (by decide) rfl (fun c15 => ?_) (fun c15 => ?_) | refine z_if_eq (tgt := 38) (q := 18) C dX5_mayPut_15 (by decide) rfl (fun c15 => ?_) (fun c15 => ?_)
      · rw [i2] at c15; cases c15
      · refine z_al0 (q := 19) C dX5_mayPut_18 rfl ?_
        refine z_il1 (q := 20) C dX5_mayPut_19 rfl ?_
        refine z_callVe (q := 23) C (ct_placeN τ hT k (by omega) hp) g_X5_121 rcT dX5_mayPut_20 rfl rfl rfl (Nat.le_of_ble_eq_true rfl) (by first | decide | omega) (Nat.le_refl _) (Nat.le_refl _) ?_
        refine z_iconst (q := 24) (v := -1) C dX5_mayPut_23 rfl (by decide) ?_
        refine z_icmp_ne (tgt := 34) (q := 27) C dX5_mayPut_24 (by decide) rfl (fun c24 => ?_) (fun c24 => ?_)
        · exact absurd rfl c24
        · refine z_al0 (q := 28) C dX5_mayPut_27 rfl ?_
          refine z_callVe (q := 31) C (ct_isFull τ hT) g_X5_133 rcT dX5_mayPut_28 rfl rfl rfl (Nat.le_of_ble_eq_true rfl) (by first | decide | omega) (Nat.le_refl _) (Nat.le_refl _) ?_
          first | refine z_if_neB (tgt := 38) (q := 34) C dX5_mayPut_31 (by decide) rfl (fun c31 => ?_) (fun c31 => ?_) | refine z_if_ne (tgt := 38) (q := 34) C dX5_mayPut_31 (by decide) rfl (fun c31 => ?_) (fun c31 => ?_)
          · refine z_iconst (q := 39) (v := nI 0) C dX5_mayPut_38 rfl (by decide) ?_
            refine z_zret C hQ dX5_mayPut_39 (Nat.le_refl _) (Nat.le_refl _) (by first | rfl | exact bI_nar _) ?_
            refine ⟨?_, rfl⟩
            rw [show k_full c = _ from c31]
            rfl
          · refine z_iconst (q := 35) (v := nI 1) C dX5_mayPut_34 rfl (by decide) ?_
            refine z_goto (tgt := 39) C dX5_mayPut_35 (by decide) ?_
            refine z_zret C hQ dX5_mayPut_39 (Nat.le_refl _) (Nat.le_refl _) (by first | rfl | exact bI_nar _) ?_
            refine ⟨?_, rfl⟩
            rw [show k_full c = _ from c31]
            rfl
  | some e =>
    obtain ⟨h1, h2, h3⟩ := k_pl_some hp
    have e1 : k_may c k = true := by unfold k_may; rw [hp]; rfl
    rw [e1] at hQ
    refine z_il1 (q := 1) C dX5_mayPut_0 rfl ?_
    refine z_callSe (q := 4) C (ct_isKey τ (nI k)) g_X5_130 dX5_mayPut_1 rfl rfl rfl (Nat.le_of_ble_eq_true rfl) (by first | decide | omega) (Nat.le_refl _) (Nat.le_refl _) ?_
    first | refine z_if_eqB (tgt := 38) (q := 7) C dX5_mayPut_4 (by decide) rfl (fun c4 => ?_) (fun c4 => ?_) | refine z_if_eq (tgt := 38) (q := 7) C dX5_mayPut_4 (by decide) rfl (fun c4 => ?_) (fun c4 => ?_)
    · rw [i1] at c4; cases c4
    refine z_il2 (q := 8) C dX5_mayPut_7 rfl ?_
    refine z_iconst (q := 9) (v := nI 0) C dX5_mayPut_8 rfl (by decide) ?_
    refine z_sipush (q := 12) (v := nI 9999) C dX5_mayPut_9 rfl (by decide) ?_
    refine z_callSe (q := 15) C (ct_in τ (nI v) (nI 0) (nI 9999)) g_X5_44 dX5_mayPut_12 rfl rfl rfl (Nat.le_of_ble_eq_true rfl) (by first | decide | omega) (Nat.le_refl _) (Nat.le_refl _) ?_
    first | refine z_if_eqB (tgt := 38) (q := 18) C dX5_mayPut_15 (by decide) rfl (fun c15 => ?_) (fun c15 => ?_) | refine z_if_eq (tgt := 38) (q := 18) C dX5_mayPut_15 (by decide) rfl (fun c15 => ?_) (fun c15 => ?_)
    · rw [i2] at c15; cases c15
    refine z_al0 (q := 19) C dX5_mayPut_18 rfl ?_
    refine z_il1 (q := 20) C dX5_mayPut_19 rfl ?_
    refine z_callVe (q := 23) C (ct_placeS τ hT k e (by omega) hp) g_X5_121 rcT dX5_mayPut_20 rfl rfl rfl (Nat.le_of_ble_eq_true rfl) (by first | decide | omega) (Nat.le_refl _) (Nat.le_refl _) ?_
    refine z_iconst (q := 24) (v := -1) C dX5_mayPut_23 rfl (by decide) ?_
    refine z_icmp_ne (tgt := 34) (q := 27) C dX5_mayPut_24 (by decide) rfl (fun c24 => ?_) (fun c24 => ?_)
    · refine z_iconst (q := 35) (v := nI 1) C dX5_mayPut_34 rfl (by decide) ?_
      refine z_goto (tgt := 39) C dX5_mayPut_35 (by decide) ?_
      refine z_zret C hQ dX5_mayPut_39 (Nat.le_refl _) (Nat.le_refl _) (by first | rfl | exact bI_nar _) ?_
      exact ⟨rfl, rfl⟩
    · exact absurd c24 (nI_nm1 (by omega))
set_option maxHeartbeats 1000000 in
theorem ct_mayPut0 (τ : Tw) (k v : Int32) (h : (inB k (nI 0) (nI 999999) && inB v (nI 0) (nI 9999)) = false) : Ct (wT D o ad) yX5_mayPut cX5_mayPut 3 (some .boolean) [.ref o, .int k, .int v] τ (PE (some (.int (bI false))) τ) 2 0 0 := by
  refine Ct.of KTok (by decide) (Nat.le_of_ble_eq_true rfl) rfl fun Y C hQ hNm => ?_
  refine z_il1 (q := 1) C dX5_mayPut_0 rfl ?_
  refine z_callSe (q := 4) C (ct_isKey τ k) g_X5_130 dX5_mayPut_1 rfl rfl rfl (Nat.le_of_ble_eq_true rfl) (by first | decide | omega) (Nat.le_refl _) (Nat.le_refl _) ?_
  first | refine z_if_eqB (tgt := 38) (q := 7) C dX5_mayPut_4 (by decide) rfl (fun c4 => ?_) (fun c4 => ?_) | refine z_if_eq (tgt := 38) (q := 7) C dX5_mayPut_4 (by decide) rfl (fun c4 => ?_) (fun c4 => ?_)
  · refine z_iconst (q := 39) (v := nI 0) C dX5_mayPut_38 rfl (by decide) ?_
    refine z_zret C hQ dX5_mayPut_39 (Nat.le_refl _) (Nat.le_refl _) (by first | rfl | exact bI_nar _) ?_
    exact ⟨rfl, rfl⟩
  · refine z_il2 (q := 8) C dX5_mayPut_7 rfl ?_
    refine z_iconst (q := 9) (v := nI 0) C dX5_mayPut_8 rfl (by decide) ?_
    refine z_sipush (q := 12) (v := nI 9999) C dX5_mayPut_9 rfl (by decide) ?_
    refine z_callSe (q := 15) C (ct_in τ v (nI 0) (nI 9999)) g_X5_44 dX5_mayPut_12 rfl rfl rfl (Nat.le_of_ble_eq_true rfl) (by first | decide | omega) (Nat.le_refl _) (Nat.le_refl _) ?_
    first | refine z_if_eqB (tgt := 38) (q := 18) C dX5_mayPut_15 (by decide) rfl (fun c15 => ?_) (fun c15 => ?_) | refine z_if_eq (tgt := 38) (q := 18) C dX5_mayPut_15 (by decide) rfl (fun c15 => ?_) (fun c15 => ?_)
    · refine z_iconst (q := 39) (v := nI 0) C dX5_mayPut_38 rfl (by decide) ?_
      refine z_zret C hQ dX5_mayPut_39 (Nat.le_refl _) (Nat.le_refl _) (by first | rfl | exact bI_nar _) ?_
      exact ⟨rfl, rfl⟩
    · rw [c4, c15] at h; cases h
set_option maxHeartbeats 1000000 in
theorem ct_putRefused {N : Nat} {α : Al} (τ : Tw) (hA : TA N τ α) (k v : Int32) (b : Bool) (h : (inB k (nI 0) (nI 999999) && inB v (nI 0) (nI 9999)) = b) : Ct (wT D o ad) yX5_putRefused cX5_putRefused 3 (some .int) [.ref o, .int k, .int v] τ (PI (fun r τ' => r = (if b = true then -4 else -2) ∧ TA N τ' (a_rfs α (if b = true then 2 else 0)))) 2 0 0 := by
  refine Ct.of KTok (by decide) (Nat.le_of_ble_eq_true rfl) rfl fun Y C hQ hNm => ?_
  subst h
  cases e1 : inB k (nI 0) (nI 999999) with
  | false =>
    rw [e1] at hQ
    refine z_al0 (q := 1) C dX5_putRefused_0 rfl ?_
    refine z_il1 (q := 2) C dX5_putRefused_1 rfl ?_
    refine z_callSe (q := 5) C (ct_isKey τ k) g_X5_130 dX5_putRefused_2 rfl rfl rfl (Nat.le_of_ble_eq_true rfl) (by first | decide | omega) (Nat.le_refl _) (Nat.le_refl _) ?_
    first | refine z_if_eqB (tgt := 24) (q := 8) C dX5_putRefused_5 (by decide) rfl (fun c5 => ?_) (fun c5 => ?_) | refine z_if_eq (tgt := 24) (q := 8) C dX5_putRefused_5 (by decide) rfl (fun c5 => ?_) (fun c5 => ?_)
    · refine z_bipush (q := 26) (v := -2) C dX5_putRefused_24 rfl (by decide) ?_
      refine z_callVe (q := 29) C (ct_refuses τ (-2) 0 (by decide) (by decide)) g_X5_137 rcT dX5_putRefused_26 rfl rfl rfl (Nat.le_of_ble_eq_true rfl) (by first | decide | omega) (Nat.le_refl _) (Nat.le_refl _) ?_
      refine z_iret C hQ dX5_putRefused_29 (Nat.le_refl _) (Nat.le_refl _) ?_
      exact ⟨_, rfl, rfl, hA.rfs (i := 0) (by decide)⟩
    · rw [e1] at c5; cases c5
  | true =>
    rw [e1] at hQ
    cases e2 : inB v (nI 0) (nI 9999) with
    | false =>
      rw [e2] at hQ
      refine z_al0 (q := 1) C dX5_putRefused_0 rfl ?_
      refine z_il1 (q := 2) C dX5_putRefused_1 rfl ?_
      refine z_callSe (q := 5) C (ct_isKey τ k) g_X5_130 dX5_putRefused_2 rfl rfl rfl (Nat.le_of_ble_eq_true rfl) (by first | decide | omega) (Nat.le_refl _) (Nat.le_refl _) ?_
      first | refine z_if_eqB (tgt := 24) (q := 8) C dX5_putRefused_5 (by decide) rfl (fun c5 => ?_) (fun c5 => ?_) | refine z_if_eq (tgt := 24) (q := 8) C dX5_putRefused_5 (by decide) rfl (fun c5 => ?_) (fun c5 => ?_)
      · rw [e1] at c5; cases c5
      · refine z_il2 (q := 9) C dX5_putRefused_8 rfl ?_
        refine z_iconst (q := 10) (v := nI 0) C dX5_putRefused_9 rfl (by decide) ?_
        refine z_sipush (q := 13) (v := nI 9999) C dX5_putRefused_10 rfl (by decide) ?_
        refine z_callSe (q := 16) C (ct_in τ v (nI 0) (nI 9999)) g_X5_44 dX5_putRefused_13 rfl rfl rfl (Nat.le_of_ble_eq_true rfl) (by first | decide | omega) (Nat.le_refl _) (Nat.le_refl _) ?_
        first | refine z_if_eqB (tgt := 24) (q := 19) C dX5_putRefused_16 (by decide) rfl (fun c16 => ?_) (fun c16 => ?_) | refine z_if_eq (tgt := 24) (q := 19) C dX5_putRefused_16 (by decide) rfl (fun c16 => ?_) (fun c16 => ?_)
        · refine z_bipush (q := 26) (v := -2) C dX5_putRefused_24 rfl (by decide) ?_
          refine z_callVe (q := 29) C (ct_refuses τ (-2) 0 (by decide) (by decide)) g_X5_137 rcT dX5_putRefused_26 rfl rfl rfl (Nat.le_of_ble_eq_true rfl) (by first | decide | omega) (Nat.le_refl _) (Nat.le_refl _) ?_
          refine z_iret C hQ dX5_putRefused_29 (Nat.le_refl _) (Nat.le_refl _) ?_
          exact ⟨_, rfl, rfl, hA.rfs (i := 0) (by decide)⟩
        · rw [e2] at c16; cases c16
    | true =>
      rw [e2] at hQ
      refine z_al0 (q := 1) C dX5_putRefused_0 rfl ?_
      refine z_il1 (q := 2) C dX5_putRefused_1 rfl ?_
      refine z_callSe (q := 5) C (ct_isKey τ k) g_X5_130 dX5_putRefused_2 rfl rfl rfl (Nat.le_of_ble_eq_true rfl) (by first | decide | omega) (Nat.le_refl _) (Nat.le_refl _) ?_
      first | refine z_if_eqB (tgt := 24) (q := 8) C dX5_putRefused_5 (by decide) rfl (fun c5 => ?_) (fun c5 => ?_) | refine z_if_eq (tgt := 24) (q := 8) C dX5_putRefused_5 (by decide) rfl (fun c5 => ?_) (fun c5 => ?_)
      · rw [e1] at c5; cases c5
      · refine z_il2 (q := 9) C dX5_putRefused_8 rfl ?_
        refine z_iconst (q := 10) (v := nI 0) C dX5_putRefused_9 rfl (by decide) ?_
        refine z_sipush (q := 13) (v := nI 9999) C dX5_putRefused_10 rfl (by decide) ?_
        refine z_callSe (q := 16) C (ct_in τ v (nI 0) (nI 9999)) g_X5_44 dX5_putRefused_13 rfl rfl rfl (Nat.le_of_ble_eq_true rfl) (by first | decide | omega) (Nat.le_refl _) (Nat.le_refl _) ?_
        first | refine z_if_eqB (tgt := 24) (q := 19) C dX5_putRefused_16 (by decide) rfl (fun c16 => ?_) (fun c16 => ?_) | refine z_if_eq (tgt := 24) (q := 19) C dX5_putRefused_16 (by decide) rfl (fun c16 => ?_) (fun c16 => ?_)
        · rw [e2] at c16; cases c16
        · refine z_bipush (q := 21) (v := -4) C dX5_putRefused_19 rfl (by decide) ?_
          refine z_goto (tgt := 26) C dX5_putRefused_21 (by decide) ?_
          refine z_callVe (q := 29) C (ct_refuses τ (-4) 2 (by decide) (by decide)) g_X5_137 rcT dX5_putRefused_26 rfl rfl rfl (Nat.le_of_ble_eq_true rfl) (by first | decide | omega) (Nat.le_refl _) (Nat.le_refl _) ?_
          refine z_iret C hQ dX5_putRefused_29 (Nat.le_refl _) (Nat.le_refl _) ?_
          exact ⟨_, rfl, rfl, hA.rfs (i := 2) (by decide)⟩
end T28
