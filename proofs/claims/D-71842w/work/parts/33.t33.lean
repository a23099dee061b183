/-! the twin: cursors -/
/-- rows of n bins from b on, one behind the other -/
def tb (c : Co) (b : Nat) : Nat → List Nat
  | 0 => []
  | n + 1 => k_row c b ++ tb c (b + 1) n
/-- all keys by a way -/
def k_by (c : Co) : Nat → List Nat
  | 0 => k_ks c
  | 1 => (k_ks c).reverse
  | _ => tb c 0 (k_n c 1)
theorem filter_split {l : List Nat} {p q r : Nat → Bool} (h : ∀ x ∈ l, p x = (q x || r x) ∧ (q x && r x) = false) : (l.filter p).Perm (l.filter q ++ l.filter r) := by
  induction l with
  | nil => exact List.Perm.refl _
  | cons x t ih =>
    have ih := ih (fun y hy => h y (List.mem_cons_of_mem _ hy))
    obtain ⟨h1, h2⟩ := h x List.mem_cons_self
    rw [List.filter_cons, List.filter_cons, List.filter_cons]
    cases hq : q x <;> cases hr : r x <;> rw [hq, hr] at h1 h2
    · rw [h1]; exact ih
    · rw [h1]
      exact (List.Perm.cons x ih).trans (List.perm_middle.symm)
    · rw [h1]
      exact List.Perm.cons x ih
    · cases h2
theorem tb_perm (c : Co) : ∀ n b, (tb c b n).Perm ((k_cs c).filter (fun k => decide (b ≤ k_b c k) && decide (k_b c k < b + n)))
  | 0, b => by
    have : (k_cs c).filter (fun k => decide (b ≤ k_b c k) && decide (k_b c k < b + 0)) = [] := by
      rw [List.filter_eq_nil_iff]
      intro x _
      simp
    rw [this]
    exact List.Perm.refl _
  | n + 1, b => by
    refine ((tb_perm c n (b + 1)).append_left (k_row c b)).trans (filter_split fun x _ => ?_).symm
    constructor
    · by_cases h1 : k_b c x = b
      · simp [h1]
      · have e1 : (k_b c x == b) = false := by simpa using h1
        rw [e1, Bool.false_or]
        congr 1
        · exact decide_eq_decide.mpr (by omega)
        · exact decide_eq_decide.mpr (by omega)
    · by_cases h1 : k_b c x = b
      · simp [h1]; omega
      · have e1 : (k_b c x == b) = false := by simpa using h1
        rw [e1, Bool.false_and]
theorem k_by_perm {c : Co} (h : CI c) (w : Nat) : (k_by c w).Perm (k_ks c) := by
  unfold k_by
  split
  · exact List.Perm.refl _
  · exact List.reverse_perm _
  · refine (tb_perm c (k_n c 1) 0).trans ?_
    have : (k_cs c).filter (fun k => decide (0 ≤ k_b c k) && decide (k_b c k < 0 + k_n c 1)) = k_cs c := by
      rw [List.filter_eq_self]
      intro x _
      have := k_b_lt h x
      simp [this]
    rw [this]
    exact h.2.2.1
theorem k_by_len {c : Co} (h : CI c) (w : Nat) : (k_by c w).length = (k_es c).length := by rw [(k_by_perm h w).length_eq, k_len]
theorem k_by_le {c : Co} (h : CI c) {w x : Nat} (hx : x ∈ k_by c w) : x ≤ 999999 := by
  obtain ⟨e, he, rfl⟩ := List.mem_map.mp ((k_by_perm h w).mem_iff.mp hx)
  exact (h.2.1 e he).1
def a_cur (α : Al) (i : Nat) (u : Cu) : Al := (a_c α, a_ps α, a_rf α, a_ch α, a_tx α, fun j => if j = i then u else a_cu α j)
def a_lk (α : Al) (c : Int32) : Int32 := if inB c (nI 0) (nI 2) = true then (if (a_cu α (kN c)).1 = none then -3 else if (a_cu α (kN c)).2.2.2 = a_ch α then nI 0 else -6) else -2
def k_at (c : Co) (w k : Nat) : Nat := (k_by c w).findIdx (fun x => x == k)
def k_lf (c : Co) (u : Cu) : Nat := match u.2.1 with
  | none => 0
  | some k => (k_es c).length - k_at c (u.1.getD 0) k
def a_opens (α : Al) (c w : Int32) : Int32 × Al := if (inB c (nI 0) (nI 2) && inB w (nI 0) (nI 2)) = true then (nI (k_es (a_c α)).length, a_cur α (kN c) (some (kN w), (k_by (a_c α) (kN w))[0]?, none, a_ch α)) else (-2, a_rfs α 0)
/-- a cursor that can't be asked -/
def a_ref (α : Al) (r : Int32) : Int32 × Al := (r, a_rfs α (if r = -2 then 0 else if r = -3 then 1 else 3))
def a_next (α : Al) (c : Int32) : Int32 × Al := if a_lk α c = nI 0 then (match (a_cu α (kN c)).2.1 with
    | none => (-1, α)
    | some k => (nI k, a_cur α (kN c) ((a_cu α (kN c)).1, (k_by (a_c α) ((a_cu α (kN c)).1.getD 0))[k_at (a_c α) ((a_cu α (kN c)).1.getD 0) k + 1]?, some k, (a_cu α (kN c)).2.2.2)))
  else a_ref α (a_lk α c)
def a_left (α : Al) (c : Int32) : Int32 × Al := if a_lk α c = nI 0 then (nI (k_lf (a_c α) (a_cu α (kN c))), α) else a_ref α (a_lk α c)
def k_is (c : Co) (u : Cu) : Option Nat := match u.2.2.1 with
  | none => none
  | some k => if k_pl c k = none then none else some k
def k_res (c : Co) (ch : Nat) (u : Cu) : Cu := (u.1, (match k_is c u with
    | none => (k_by c (u.1.getD 0))[0]?
    | some k => (k_by c (u.1.getD 0))[k_at c (u.1.getD 0) k + 1]?), k_is c u, ch)
def a_resumes (α : Al) (c : Int32) : Int32 × Al := if a_lk α c = nI 0 ∨ a_lk α c = -6 then (nI (k_lf (a_c α) (k_res (a_c α) (a_ch α) (a_cu α (kN c)))), a_cur α (kN c) (k_res (a_c α) (a_ch α) (a_cu α (kN c)))) else a_ref α (a_lk α c)
def a_removes (α : Al) (c : Int32) : Int32 × Al :=
  if (inB c (nI 0) (nI 2) && (a_cu α (kN c)).1.isSome && (a_cu α (kN c)).2.2.1.isNone) = true then a_ref α (-3)
  else if a_lk α c = nI 0 then (match (a_cu α (kN c)).2.2.1 with
    | none => (-1, α)
    | some k => (oI (k_rem (a_c α) k).1, a_cur (a_lv α (k_rem (a_c α) k).2.1 (k_rem (a_c α) k).2.2) (kN c) ((a_cu α (kN c)).1, (a_cu α (kN c)).2.1, none, a_ch α + (k_rem (a_c α) k).2.2)))
  else a_ref α (a_lk α c)
theorem TA.cur {N M : Nat} {τ τ' : Tw} {α : Al} (h : TA N τ α) (hF : TF [8, 14, 16, 17, 18, 19] [2, 9, 10, 11, 12, 13, 15] τ τ') (hNM : N ≤ M) (hM : M ≤ 1000000) {cn : Nat} (hcn : cn < 3) {u : Cu} (ho : ∀ i, i ≠ cn → i < 3 → τ'.2 9 i = τ.2 9 i ∧ τ'.2 10 i = τ.2 10 i ∧ τ'.2 11 i = τ.2 11 i ∧ τ'.2 12 i = τ.2 12 i) (h9 : τ'.2 9 cn = oI u.1) (h10 : τ'.2 10 cn = oI u.2.1) (h11 : τ'.2 11 cn = oI u.2.2.1) (h12 : τ'.2 12 cn = nI u.2.2.2) (hu : (∀ w, u.1 = some w → w < 3) ∧ (∀ k, u.2.1 = some k → k ≤ 999999) ∧ (∀ k, u.2.2.1 = some k → k ≤ 999999) ∧ u.2.2.2 ≤ a_ch α) : TA M τ' (a_cur α cn u) := by
  refine ⟨⟨by rw [hF.2 0 (by decide)]; exact h.1.1.mono hNM hM, h.1.2⟩, ⟨by rw [hF.1 3 (by decide)]; exact h.2.1.1, h.2.1.2.1, by rw [hF.2 1 (by decide)]; exact h.2.1.2.2.1.mono hNM hM, h.2.1.2.2.2⟩, by unfold T3; rw [hF.2 4 (by decide)]; exact h.2.2.1, ⟨by rw [hF.1 5 (by decide)]; exact h.2.2.2.1.1, Nat.le_trans h.2.2.2.1.2 hNM⟩, by unfold T5; rw [hF.1 7 (by decide), hF.2 6 (by decide)]; exact h.2.2.2.2.1, fun i hi => ?_⟩
  show (_ ∧ _) ∧ _
  by_cases q : i = cn
  · subst q
    have e : a_cu (a_cur α i u) i = u := if_pos rfl
    rw [e]
    exact ⟨⟨h9, h10, h11, h12⟩, hu⟩
  · have e : a_cu (a_cur α cn u) i = a_cu α i := if_neg q
    rw [e]
    obtain ⟨g1, g2, g3, g4⟩ := ho i q hi
    rw [g1, g2, g3, g4]
    exact h.2.2.2.2.2 i hi
theorem findIdx_le (l : List Nat) (p : Nat → Bool) : l.findIdx p ≤ l.length := List.findIdx_le_length
section T33
variable {D : Dt} {o : Nat} {ad : Nat → Nat}
set_option maxHeartbeats 1000000 in
theorem ct_keyBy {N : Nat} {c : Co} (τ : Tw) (hT : TC N (τ.2 0) c) (w i : Nat) (hw : w < 3) (hi : i < (k_es c).length) : Ct (wT D o ad) yX5_keyBy cX5_keyBy 5 (some .int) [.ref o, .int (nI w), .int (nI i)] τ (PI (fun r τ' => TF [14, 16, 17, 18] [13, 15] τ τ' ∧ r = nI ((k_by c w).getD i 0))) 4 0 0 := by
  refine Ct.of KTok (by decide) (Nat.le_of_ble_eq_true rfl) rfl fun Y C hQ hNm => ?_
  have hlen := hT.len
  have hw8 := hT.w
  have hat : ∀ e, e < (k_es c).length → τ.2 0 (7 + e) = nI ((k_ks c).getD e 0) := fun e he => by
    obtain ⟨x, hx⟩ := at_lt he
    have ek : (k_ks c)[e]? = some x.1 := by unfold k_ks; rw [List.getElem?_map, hx]; rfl
    rw [(hT.key hx).1]
    simp [ek]
  rcases (show w = 0 ∨ w = 1 ∨ w = 2 by omega) with rfl | rfl | rfl
  · refine z_il1 (q := 1) C dX5_keyBy_0 rfl ?_
    refine z_iconst (q := 2) (v := nI 2) C dX5_keyBy_1 rfl (by decide) ?_
    first | refine z_icmp_geN (tgt := 32) (q := 5) C dX5_keyBy_2 (by decide) rfl (by omega) (by omega) (fun c2 => ?_) (fun c2 => ?_) | refine z_icmp_ge (tgt := 32) (q := 5) C dX5_keyBy_2 (by decide) rfl (fun c2 => ?_) (fun c2 => ?_)
    · exact absurd c2 (by omega)
    · refine z_al0 (q := 6) C dX5_keyBy_5 rfl ?_
      refine tg_7 (q := 9) C dX5_keyBy_6 rfl ?_
      refine z_bipush (q := 11) (v := nI 7) C dX5_keyBy_9 rfl (by decide) ?_
      refine z_il1 (q := 12) C dX5_keyBy_11 rfl ?_
      first | refine z_if_neB (tgt := 19) (q := 15) C dX5_keyBy_12 (by decide) rfl (fun c12 => ?_) (fun c12 => ?_) | refine z_if_ne (tgt := 19) (q := 15) C dX5_keyBy_12 (by decide) rfl (fun c12 => ?_) (fun c12 => ?_)
      · exact absurd rfl c12
      · refine z_il2 (q := 16) C dX5_keyBy_15 rfl ?_
        refine z_goto (tgt := 29) C dX5_keyBy_16 (by decide) ?_
        first | refine z_iaddN (q := 30) C dX5_keyBy_29 rfl ?_ | refine z_iadd (q := 30) C dX5_keyBy_29 rfl ?_
        refine ta_ld0 (q := 31) C dX5_keyBy_30 rfl (by omega) ?_
        rw [hat i hi]
        refine z_iret C hQ dX5_keyBy_31 (Nat.le_refl _) (Nat.le_refl _) ?_
        exact ⟨_, rfl, TF.rf, rfl⟩
  · have er : ((k_ks c).reverse).getD i 0 = (k_ks c).getD ((k_es c).length - 1 - i) 0 := by
      have hl : (k_ks c).length = (k_es c).length := k_len
      have : ((k_ks c).reverse)[i]? = (k_ks c)[(k_es c).length - 1 - i]? := by rw [List.getElem?_reverse (by omega), hl]
      simp only [List.getD_eq_getElem?_getD, this]
    have hk : (k_by c 1).getD i 0 = (k_ks c).getD ((k_es c).length - 1 - i) 0 := er
    rw [hk] at hQ
    refine z_il1 (q := 1) C dX5_keyBy_0 rfl ?_
    refine z_iconst (q := 2) (v := nI 2) C dX5_keyBy_1 rfl (by decide) ?_
    first | refine z_icmp_geN (tgt := 32) (q := 5) C dX5_keyBy_2 (by decide) rfl (by omega) (by omega) (fun c2 => ?_) (fun c2 => ?_) | refine z_icmp_ge (tgt := 32) (q := 5) C dX5_keyBy_2 (by decide) rfl (fun c2 => ?_) (fun c2 => ?_)
    · exact absurd c2 (by omega)
    · refine z_al0 (q := 6) C dX5_keyBy_5 rfl ?_
      refine tg_7 (q := 9) C dX5_keyBy_6 rfl ?_
      refine z_bipush (q := 11) (v := nI 7) C dX5_keyBy_9 rfl (by decide) ?_
      refine z_il1 (q := 12) C dX5_keyBy_11 rfl ?_
      first | refine z_if_neB (tgt := 19) (q := 15) C dX5_keyBy_12 (by decide) rfl (fun c12 => ?_) (fun c12 => ?_) | refine z_if_ne (tgt := 19) (q := 15) C dX5_keyBy_12 (by decide) rfl (fun c12 => ?_) (fun c12 => ?_)
      · refine z_al0 (q := 20) C dX5_keyBy_19 rfl ?_
        refine tg_7 (q := 23) C dX5_keyBy_20 rfl ?_
        refine z_iconst (q := 24) (v := nI 0) C dX5_keyBy_23 rfl (by decide) ?_
        refine ta_ld0 (q := 25) C dX5_keyBy_24 rfl (by omega) ?_
        rw [hT.a0]
        refine z_iconst (q := 26) (v := nI 1) C dX5_keyBy_25 rfl (by decide) ?_
        refine z_isubN (q := 27) C dX5_keyBy_26 rfl (by omega) ?_
        refine z_il2 (q := 28) C dX5_keyBy_27 rfl ?_
        refine z_isubN (q := 29) C dX5_keyBy_28 rfl (by omega) ?_
        first | refine z_iaddN (q := 30) C dX5_keyBy_29 rfl ?_ | refine z_iadd (q := 30) C dX5_keyBy_29 rfl ?_
        refine ta_ld0 (q := 31) C dX5_keyBy_30 rfl (by omega) ?_
        rw [hat ((k_es c).length - 1 - i) (by omega)]
        refine z_iret C hQ dX5_keyBy_31 (Nat.le_refl _) (Nat.le_refl _) ?_
        exact ⟨_, rfl, TF.rf, rfl⟩
      · exact absurd c12 (by decide)
  · have hk : (k_by c 2) = tb c 0 (k_n c 1) := rfl
    have hil : i < (tb c 0 (k_n c 1)).length := by rw [← hk, k_by_len hT.1]; exact hi
    rw [hk] at hQ
    have loop : ∀ n b l, b + n = k_n c 1 → l < 2 ^ 31 → l < (tb c b n).length → (tb c b n).getD l 0 = (tb c 0 (k_n c 1)).getD i 0 → Zj (wT D o ad) Y τ 0 0 37 [some (.ref o), some (.int (nI 2)), some (.int (nI i)), some (.int (nI l)), some (.int (nI b))] [] := by
      intro n
      induction n with
      | zero =>
        intro b l h1 h2 h3
        exact absurd h3 (by simp [tb])
      | succ n ih =>
        intro b l h1 h2 h3 h4
        have hmi : k_mi c b ≤ 49 := Nat.le_trans (k_mi_le hT.1 b) hlen
        have h3 : l < (k_row c b ++ tb c (b + 1) n).length := h3
        have h4 : (k_row c b ++ tb c (b + 1) n).getD l 0 = (tb c 0 (k_n c 1)).getD i 0 := h4
        have hml : (k_row c b).length = k_mi c b := rfl
        refine z_il3 (q := 38) C dX5_keyBy_37 rfl ?_
        refine z_al0 (q := 39) C dX5_keyBy_38 rfl ?_
        refine z_il4 (q := 41) C dX5_keyBy_39 rfl ?_
        refine z_callVe (q := 44) C (ct_manyIn τ hT b (by omega)) g_X5_102 rcT dX5_keyBy_41 rfl rfl rfl (Nat.le_of_ble_eq_true rfl) (by first | decide | omega) (Nat.le_refl _) (Nat.le_refl _) ?_
        first | refine z_icmp_ltN (tgt := 62) (q := 47) C dX5_keyBy_44 (by decide) rfl (by omega) (by omega) (fun c44 => ?_) (fun c44 => ?_) | refine z_icmp_lt (tgt := 62) (q := 47) C dX5_keyBy_44 (by decide) rfl (fun c44 => ?_) (fun c44 => ?_)
        · have hr : (k_row c b)[l]? = some ((tb c 0 (k_n c 1)).getD i 0) := by
            rw [← h4]
            simp only [List.getD_eq_getElem?_getD, List.getElem?_append_left (show l < (k_row c b).length by omega)]
            obtain ⟨x, hx⟩ := at_lt (show l < (k_row c b).length by omega)
            rw [hx]
            rfl
          refine z_al0 (q := 63) C dX5_keyBy_62 rfl ?_
          refine z_il4 (q := 65) C dX5_keyBy_63 rfl ?_
          refine z_il3 (q := 66) C dX5_keyBy_65 rfl ?_
          refine z_callVi (q := 69) C (ct_rowAt τ hT b l (by omega) h2) g_X5_180 rcT dX5_keyBy_66 rfl rfl rfl (Nat.le_of_ble_eq_true rfl) (by first | decide | omega) (Nat.le_refl _) (Nat.le_refl _) (fun r66 τ66 h66 => ?_)
          refine z_iret C hQ dX5_keyBy_69 (Nat.le_refl _) (Nat.le_refl _) ?_
          exact ⟨_, rfl, h66.1, by rw [h66.2, hr]; rfl⟩
        · refine z_il3 (q := 48) C dX5_keyBy_47 rfl ?_
          refine z_al0 (q := 49) C dX5_keyBy_48 rfl ?_
          refine z_il4 (q := 51) C dX5_keyBy_49 rfl ?_
          refine z_callVe (q := 54) C (ct_manyIn τ hT b (by omega)) g_X5_102 rcT dX5_keyBy_51 rfl rfl rfl (Nat.le_of_ble_eq_true rfl) (by first | decide | omega) (Nat.le_refl _) (Nat.le_refl _) ?_
          refine z_isubN (q := 55) C dX5_keyBy_54 rfl c44 ?_
          refine z_is3 (q := 56) C dX5_keyBy_55 rfl (by first | exact loC_i | exact loC_r | exact loC_n | exact loC_q | exact loC_u) ?_
          first | refine z_iinc4N (q := 59) C dX5_keyBy_56 rfl (by first | exact loC_i | exact loC_r | exact loC_n | exact loC_q | exact loC_u) ?_ | refine z_iinc4 (q := 59) C dX5_keyBy_56 rfl rfl (by first | exact loC_i | exact loC_r | exact loC_n | exact loC_q | exact loC_u) ?_
          refine z_goto (tgt := 37) C dX5_keyBy_59 (by decide) ?_
          refine ih (b + 1) (l - k_mi c b) (by omega) (by omega) ?_ ?_
          · rw [List.length_append] at h3
            omega
          · rw [← h4]
            simp only [List.getD_eq_getElem?_getD, List.getElem?_append_right (show (k_row c b).length ≤ l by omega), hml]
    refine z_il1 (q := 1) C dX5_keyBy_0 rfl ?_
    refine z_iconst (q := 2) (v := nI 2) C dX5_keyBy_1 rfl (by decide) ?_
    first | refine z_icmp_geN (tgt := 32) (q := 5) C dX5_keyBy_2 (by decide) rfl (by omega) (by omega) (fun c2 => ?_) (fun c2 => ?_) | refine z_icmp_ge (tgt := 32) (q := 5) C dX5_keyBy_2 (by decide) rfl (fun c2 => ?_) (fun c2 => ?_)
    · refine z_il2 (q := 33) C dX5_keyBy_32 rfl ?_
      refine z_is3 (q := 34) C dX5_keyBy_33 rfl (by first | exact loC_i | exact loC_r | exact loC_n | exact loC_q | exact loC_u) ?_
      refine z_iconst (q := 35) (v := nI 0) C dX5_keyBy_34 rfl (by decide) ?_
      refine z_is4 (q := 37) C dX5_keyBy_35 rfl (by first | exact loC_i | exact loC_r | exact loC_n | exact loC_q | exact loC_u) ?_
      exact loop (k_n c 1) 0 i (by omega) (by omega) hil rfl
    · exact absurd c2 (by omega)
set_option maxHeartbeats 1000000 in
theorem ct_placeBy {N : Nat} {c : Co} (τ : Tw) (hT : TC N (τ.2 0) c) (w k : Nat) (hw : w < 3) (hk : k ≤ 999999) : Ct (wT D o ad) yX5_placeBy cX5_placeBy 4 (some .int) [.ref o, .int (nI w), .int (nI k)] τ (PI (fun r τ' => TF [14, 16, 17, 18] [13, 15] τ τ' ∧ r = nI (k_at c w k))) 5 0 0 := by
  refine Ct.of KTok (by decide) (Nat.le_of_ble_eq_true rfl) rfl fun Y C hQ hNm => ?_
  have hlen := hT.len
  have hbl := k_by_len hT.1 w
  have loop : ∀ m i, i + m = (k_es c).length → (∀ j, j < i → (k_by c w).getD j 0 ≠ k) → ∀ τ1 : Tw, TF [14, 16, 17, 18] [13, 15] τ τ1 → Zj (wT D o ad) Y τ1 0 0 2 [some (.ref o), some (.int (nI w)), some (.int (nI k)), some (.int (nI i))] [] := by
    intro m
    induction m with
    | zero =>
      intro i hi hj τ1 hF
      have hi : i = (k_es c).length := hi
      subst hi
      have e0 : τ1.2 0 = τ.2 0 := hF.2 0 (by decide)
      have ha : k_at c w k = (k_es c).length := by
        unfold k_at
        rw [← hbl]
        refine List.findIdx_eq_length_of_false fun x hx => ?_
        obtain ⟨j, hjx⟩ := List.getElem?_of_mem hx
        have hl := (List.getElem?_eq_some_iff.mp hjx).1
        have := hj j (by omega)
        simp only [List.getD_eq_getElem?_getD, hjx] at this
        simpa using this
      refine z_il3 (q := 3) C dX5_placeBy_2 rfl ?_
      refine z_al0 (q := 4) C dX5_placeBy_3 rfl ?_
      refine tg_7 (q := 7) C dX5_placeBy_4 rfl ?_
      refine z_iconst (q := 8) (v := nI 0) C dX5_placeBy_7 rfl (by decide) ?_
      refine ta_ld0 (q := 9) C dX5_placeBy_8 rfl (by omega) ?_
      rw [e0]
      rw [hT.a0]
      first | refine z_icmp_geN (tgt := 28) (q := 12) C dX5_placeBy_9 (by decide) rfl (by omega) (by omega) (fun c9 => ?_) (fun c9 => ?_) | refine z_icmp_ge (tgt := 28) (q := 12) C dX5_placeBy_9 (by decide) rfl (fun c9 => ?_) (fun c9 => ?_)
      · refine z_il3 (q := 29) C dX5_placeBy_28 rfl ?_
        refine z_iret C hQ dX5_placeBy_29 (Nat.le_refl _) (Nat.le_refl _) ?_
        exact ⟨_, rfl, hF, by rw [ha]⟩
      · exact absurd c9 (by omega)
    | succ m ih =>
      intro i hi hj τ1 hF
      have e0 : τ1.2 0 = τ.2 0 := hF.2 0 (by decide)
      have hx := getD_of (show i < (k_by c w).length by omega)
      have hxl := k_by_le hT.1 (List.mem_of_getElem? hx)
      refine z_il3 (q := 3) C dX5_placeBy_2 rfl ?_
      refine z_al0 (q := 4) C dX5_placeBy_3 rfl ?_
      refine tg_7 (q := 7) C dX5_placeBy_4 rfl ?_
      refine z_iconst (q := 8) (v := nI 0) C dX5_placeBy_7 rfl (by decide) ?_
      refine ta_ld0 (q := 9) C dX5_placeBy_8 rfl (by omega) ?_
      rw [e0]
      rw [hT.a0]
      first | refine z_icmp_geN (tgt := 28) (q := 12) C dX5_placeBy_9 (by decide) rfl (by omega) (by omega) (fun c9 => ?_) (fun c9 => ?_) | refine z_icmp_ge (tgt := 28) (q := 12) C dX5_placeBy_9 (by decide) rfl (fun c9 => ?_) (fun c9 => ?_)
      · exact absurd c9 (by omega)
      refine z_al0 (q := 13) C dX5_placeBy_12 rfl ?_
      refine z_il1 (q := 14) C dX5_placeBy_13 rfl ?_
      refine z_il3 (q := 15) C dX5_placeBy_14 rfl ?_
      refine z_callVi (q := 18) C (ct_keyBy τ1 (e0 ▸ hT) w i hw (by omega)) g_X5_189 rcT dX5_placeBy_15 rfl rfl rfl (Nat.le_of_ble_eq_true rfl) (by first | decide | omega) (Nat.le_refl _) (Nat.le_refl _) (fun r15 τ15 h15 => ?_)
      obtain ⟨hF2, rfl⟩ := h15
      refine z_il2 (q := 19) C dX5_placeBy_18 rfl ?_
      first | refine z_icmp_eqN (tgt := 28) (q := 22) C dX5_placeBy_19 (by decide) rfl (by omega) (by omega) (fun c19 => ?_) (fun c19 => ?_) | refine z_icmp_eq (tgt := 28) (q := 22) C dX5_placeBy_19 (by decide) rfl (fun c19 => ?_) (fun c19 => ?_)
      · have ha : k_at c w k = i := by
          unfold k_at
          refine (List.findIdx_eq (show i < (k_by c w).length by omega)).mpr ⟨?_, fun j hji => ?_⟩
          · rw [(List.getElem?_eq_some_iff.mp hx).2, c19]
            simp
          · have := hj j hji
            have hgj := getD_of (show j < (k_by c w).length by omega)
            rw [(List.getElem?_eq_some_iff.mp hgj).2]
            simpa using this
        refine z_il3 (q := 29) C dX5_placeBy_28 rfl ?_
        refine z_iret C hQ dX5_placeBy_29 (Nat.le_refl _) (Nat.le_refl _) ?_
        exact ⟨_, rfl, hF.tr hF2, by rw [ha]⟩
      · first | refine z_iinc3N (q := 25) C dX5_placeBy_22 rfl (by first | exact loC_i | exact loC_r | exact loC_n | exact loC_q | exact loC_u) ?_ | refine z_iinc3 (q := 25) C dX5_placeBy_22 rfl rfl (by first | exact loC_i | exact loC_r | exact loC_n | exact loC_q | exact loC_u) ?_
        refine z_goto (tgt := 2) C dX5_placeBy_25 (by decide) ?_
        exact ih (i + 1) (by omega) (fun j hji => by rcases Nat.lt_or_ge j i with z | z; exact hj j z; rw [show j = i by omega]; exact c19) τ15 (hF.tr hF2)
  refine z_iconst (q := 1) (v := nI 0) C dX5_placeBy_0 rfl (by decide) ?_
  refine z_is3 (q := 2) C dX5_placeBy_1 rfl (by first | exact loC_i | exact loC_r | exact loC_n | exact loC_q | exact loC_u) ?_
  exact loop _ 0 (Nat.zero_add _) (fun j hj => absurd hj (by omega)) τ TF.rf
set_option maxHeartbeats 1000000 in
theorem ct_keyOrNone {N : Nat} {c : Co} (τ : Tw) (hT : TC N (τ.2 0) c) (w i : Nat) (hw : w < 3) (hi : i < 2 ^ 31) : Ct (wT D o ad) yX5_keyOrNone cX5_keyOrNone 3 (some .int) [.ref o, .int (nI w), .int (nI i)] τ (PI (fun r τ' => TF [14, 16, 17, 18] [13, 15] τ τ' ∧ r = oI ((k_by c w)[i]?))) 5 0 0 := by
  refine Ct.of KTok (by decide) (Nat.le_of_ble_eq_true rfl) rfl fun Y C hQ hNm => ?_
  have hlen := hT.len
  have hbl := k_by_len hT.1 w
  by_cases q : i < (k_es c).length
  · rw [getD_of (show i < (k_by c w).length by omega)] at hQ
    refine z_il2 (q := 1) C dX5_keyOrNone_0 rfl ?_
    refine z_al0 (q := 2) C dX5_keyOrNone_1 rfl ?_
    refine tg_7 (q := 5) C dX5_keyOrNone_2 rfl ?_
    refine z_iconst (q := 6) (v := nI 0) C dX5_keyOrNone_5 rfl (by decide) ?_
    refine ta_ld0 (q := 7) C dX5_keyOrNone_6 rfl (by omega) ?_
    rw [hT.a0]
    first | refine z_icmp_geN (tgt := 19) (q := 10) C dX5_keyOrNone_7 (by decide) rfl (by omega) (by omega) (fun c7 => ?_) (fun c7 => ?_) | refine z_icmp_ge (tgt := 19) (q := 10) C dX5_keyOrNone_7 (by decide) rfl (fun c7 => ?_) (fun c7 => ?_)
    · exact absurd c7 (by omega)
    · refine z_al0 (q := 11) C dX5_keyOrNone_10 rfl ?_
      refine z_il1 (q := 12) C dX5_keyOrNone_11 rfl ?_
      refine z_il2 (q := 13) C dX5_keyOrNone_12 rfl ?_
      refine z_callVi (q := 16) C (ct_keyBy τ hT w i hw q) g_X5_189 rcT dX5_keyOrNone_13 rfl rfl rfl (Nat.le_of_ble_eq_true rfl) (by first | decide | omega) (Nat.le_refl _) (Nat.le_refl _) (fun r13 τ13 h13 => ?_)
      refine z_goto (tgt := 20) C dX5_keyOrNone_16 (by decide) ?_
      refine z_iret C hQ dX5_keyOrNone_20 (Nat.le_refl _) (Nat.le_refl _) ?_
      exact ⟨_, rfl, h13.1, h13.2⟩
  · rw [List.getElem?_eq_none (show (k_by c w).length ≤ i by omega)] at hQ
    refine z_il2 (q := 1) C dX5_keyOrNone_0 rfl ?_
    refine z_al0 (q := 2) C dX5_keyOrNone_1 rfl ?_
    refine tg_7 (q := 5) C dX5_keyOrNone_2 rfl ?_
    refine z_iconst (q := 6) (v := nI 0) C dX5_keyOrNone_5 rfl (by decide) ?_
    refine ta_ld0 (q := 7) C dX5_keyOrNone_6 rfl (by omega) ?_
    rw [hT.a0]
    first | refine z_icmp_geN (tgt := 19) (q := 10) C dX5_keyOrNone_7 (by decide) rfl (by omega) (by omega) (fun c7 => ?_) (fun c7 => ?_) | refine z_icmp_ge (tgt := 19) (q := 10) C dX5_keyOrNone_7 (by decide) rfl (fun c7 => ?_) (fun c7 => ?_)
    · refine z_iconst (q := 20) (v := -1) C dX5_keyOrNone_19 rfl (by decide) ?_
      refine z_iret C hQ dX5_keyOrNone_20 (Nat.le_refl _) (Nat.le_refl _) ?_
      exact ⟨_, rfl, TF.rf, rfl⟩
    · exact absurd c7 (by omega)
set_option maxHeartbeats 1000000 in
theorem ct_lacks {N : Nat} {α : Al} (τ : Tw) (hA : TA N τ α) (c r : Int32) (hr : a_lk α c = r) : Ct (wT D o ad) yX5_lacks cX5_lacks 2 (some .int) [.ref o, .int c] τ (PE (some (.int r)) τ) 2 0 0 := by
  refine Ct.of KTok (by decide) (Nat.le_of_ble_eq_true rfl) rfl fun Y C hQ hNm => ?_
  subst hr
  have hN := hA.1.1.2.1
  cases hi : inB c (nI 0) (nI 2) with
  | false =>
    have e1 : a_lk α c = -2 := if_neg (by rw [hi]; decide)
    rw [e1] at hQ
    refine z_il1 (q := 1) C dX5_lacks_0 rfl ?_
    refine z_callSe (q := 4) C (ct_isCursor τ c) g_X5_195 dX5_lacks_1 rfl rfl rfl (Nat.le_of_ble_eq_true rfl) (by first | decide | omega) (Nat.le_refl _) (Nat.le_refl _) ?_
    first | refine z_if_neB (tgt := 12) (q := 7) C dX5_lacks_4 (by decide) rfl (fun c4 => ?_) (fun c4 => ?_) | refine z_if_ne (tgt := 12) (q := 7) C dX5_lacks_4 (by decide) rfl (fun c4 => ?_) (fun c4 => ?_)
    · rw [hi] at c4; cases c4
    · refine z_bipush (q := 9) (v := -2) C dX5_lacks_7 rfl (by decide) ?_
      refine z_goto (tgt := 46) C dX5_lacks_9 (by decide) ?_
      refine z_iret C hQ dX5_lacks_46 (Nat.le_refl _) (Nat.le_refl _) ?_
      exact ⟨rfl, rfl⟩
  | true =>
    obtain ⟨ec, hc⟩ := in_of (by decide) hi
    have e0 : a_lk α c = if (a_cu α (kN c)).1 = none then -3 else if (a_cu α (kN c)).2.2.2 = a_ch α then nI 0 else -6 := if_pos hi
    rw [e0] at hQ
    generalize kN c = cn at *
    subst ec
    obtain ⟨⟨g9, g10, g11, g12⟩, gw, -, -, gk⟩ := hA.2.2.2.2.2 cn (by omega)
    have h5 := hA.2.2.2.1
    cases hw : (a_cu α cn).1 with
    | none =>
      rw [if_pos hw] at hQ
      rw [hw] at g9
      refine z_il1 (q := 1) C dX5_lacks_0 rfl ?_
      refine z_callSe (q := 4) C (ct_isCursor τ (nI cn)) g_X5_195 dX5_lacks_1 rfl rfl rfl (Nat.le_of_ble_eq_true rfl) (by first | decide | omega) (Nat.le_refl _) (Nat.le_refl _) ?_
      first | refine z_if_neB (tgt := 12) (q := 7) C dX5_lacks_4 (by decide) rfl (fun c4 => ?_) (fun c4 => ?_) | refine z_if_ne (tgt := 12) (q := 7) C dX5_lacks_4 (by decide) rfl (fun c4 => ?_) (fun c4 => ?_)
      · refine z_al0 (q := 13) C dX5_lacks_12 rfl ?_
        refine tg_25 (q := 16) C dX5_lacks_13 rfl ?_
        refine z_il1 (q := 17) C dX5_lacks_16 rfl ?_
        refine ta_ld9 (q := 18) C dX5_lacks_17 rfl (by omega) ?_
        rw [g9]
        refine z_iconst (q := 19) (v := -1) C dX5_lacks_18 rfl (by decide) ?_
        refine z_icmp_ne (tgt := 27) (q := 22) C dX5_lacks_19 (by decide) rfl (fun c19 => ?_) (fun c19 => ?_)
        · exact absurd rfl c19
        · refine z_bipush (q := 24) (v := -3) C dX5_lacks_22 rfl (by decide) ?_
          refine z_goto (tgt := 46) C dX5_lacks_24 (by decide) ?_
          refine z_iret C hQ dX5_lacks_46 (Nat.le_refl _) (Nat.le_refl _) ?_
          exact ⟨rfl, rfl⟩
      · rw [hi] at c4; cases c4
    | some w =>
      rw [if_neg (by rw [hw]; simp)] at hQ
      have hw3 := gw w hw
      rw [hw] at g9
      have g9 : τ.2 9 cn = nI w := g9
      by_cases hk : (a_cu α cn).2.2.2 = a_ch α
      · rw [if_pos hk] at hQ
        rw [hk] at g12
        refine z_il1 (q := 1) C dX5_lacks_0 rfl ?_
        refine z_callSe (q := 4) C (ct_isCursor τ (nI cn)) g_X5_195 dX5_lacks_1 rfl rfl rfl (Nat.le_of_ble_eq_true rfl) (by first | decide | omega) (Nat.le_refl _) (Nat.le_refl _) ?_
        first | refine z_if_neB (tgt := 12) (q := 7) C dX5_lacks_4 (by decide) rfl (fun c4 => ?_) (fun c4 => ?_) | refine z_if_ne (tgt := 12) (q := 7) C dX5_lacks_4 (by decide) rfl (fun c4 => ?_) (fun c4 => ?_)
        · refine z_al0 (q := 13) C dX5_lacks_12 rfl ?_
          refine tg_25 (q := 16) C dX5_lacks_13 rfl ?_
          refine z_il1 (q := 17) C dX5_lacks_16 rfl ?_
          refine ta_ld9 (q := 18) C dX5_lacks_17 rfl (by omega) ?_
          rw [g9]
          refine z_iconst (q := 19) (v := -1) C dX5_lacks_18 rfl (by decide) ?_
          refine z_icmp_ne (tgt := 27) (q := 22) C dX5_lacks_19 (by decide) rfl (fun c19 => ?_) (fun c19 => ?_)
          · refine z_al0 (q := 28) C dX5_lacks_27 rfl ?_
            refine tg_34 (q := 31) C dX5_lacks_28 rfl ?_
            refine z_il1 (q := 32) C dX5_lacks_31 rfl ?_
            refine ta_ld12 (q := 33) C dX5_lacks_32 rfl (by omega) ?_
            rw [g12]
            refine z_al0 (q := 34) C dX5_lacks_33 rfl ?_
            refine tg_108 (q := 37) C dX5_lacks_34 rfl ?_
            rw [h5.1]
            refine z_icmp_eq (tgt := 45) (q := 40) C dX5_lacks_37 (by decide) rfl (fun c37 => ?_) (fun c37 => ?_)
            · refine z_iconst (q := 46) (v := nI 0) C dX5_lacks_45 rfl (by decide) ?_
              refine z_iret C hQ dX5_lacks_46 (Nat.le_refl _) (Nat.le_refl _) ?_
              exact ⟨rfl, rfl⟩
            · exact absurd rfl c37
          · exact absurd c19 (nI_nm1 (by omega))
        · rw [hi] at c4; cases c4
      · rw [if_neg hk] at hQ
        refine z_il1 (q := 1) C dX5_lacks_0 rfl ?_
        refine z_callSe (q := 4) C (ct_isCursor τ (nI cn)) g_X5_195 dX5_lacks_1 rfl rfl rfl (Nat.le_of_ble_eq_true rfl) (by first | decide | omega) (Nat.le_refl _) (Nat.le_refl _) ?_
        first | refine z_if_neB (tgt := 12) (q := 7) C dX5_lacks_4 (by decide) rfl (fun c4 => ?_) (fun c4 => ?_) | refine z_if_ne (tgt := 12) (q := 7) C dX5_lacks_4 (by decide) rfl (fun c4 => ?_) (fun c4 => ?_)
        · refine z_al0 (q := 13) C dX5_lacks_12 rfl ?_
          refine tg_25 (q := 16) C dX5_lacks_13 rfl ?_
          refine z_il1 (q := 17) C dX5_lacks_16 rfl ?_
          refine ta_ld9 (q := 18) C dX5_lacks_17 rfl (by omega) ?_
          rw [g9]
          refine z_iconst (q := 19) (v := -1) C dX5_lacks_18 rfl (by decide) ?_
          refine z_icmp_ne (tgt := 27) (q := 22) C dX5_lacks_19 (by decide) rfl (fun c19 => ?_) (fun c19 => ?_)
          · refine z_al0 (q := 28) C dX5_lacks_27 rfl ?_
            refine tg_34 (q := 31) C dX5_lacks_28 rfl ?_
            refine z_il1 (q := 32) C dX5_lacks_31 rfl ?_
            refine ta_ld12 (q := 33) C dX5_lacks_32 rfl (by omega) ?_
            rw [g12]
            refine z_al0 (q := 34) C dX5_lacks_33 rfl ?_
            refine tg_108 (q := 37) C dX5_lacks_34 rfl ?_
            rw [h5.1]
            first | refine z_icmp_eqN (tgt := 45) (q := 40) C dX5_lacks_37 (by decide) rfl (Nat.lt_of_le_of_lt (Nat.le_trans gk h5.2) (Nat.lt_of_le_of_lt hN (by decide))) (Nat.lt_of_le_of_lt h5.2 (Nat.lt_of_le_of_lt hN (by decide))) (fun c37 => ?_) (fun c37 => ?_) | refine z_icmp_eq (tgt := 45) (q := 40) C dX5_lacks_37 (by decide) rfl (fun c37 => ?_) (fun c37 => ?_)
            · exact absurd c37 hk
            · refine z_bipush (q := 42) (v := -6) C dX5_lacks_40 rfl (by decide) ?_
              refine z_goto (tgt := 46) C dX5_lacks_42 (by decide) ?_
              refine z_iret C hQ dX5_lacks_46 (Nat.le_refl _) (Nat.le_refl _) ?_
              exact ⟨rfl, rfl⟩
          · exact absurd c19 (nI_nm1 (by omega))
        · rw [hi] at c4; cases c4
end T33
