/-! orders of work: how a text is read -/
def skp (tx : List Nat) : Nat → Nat → Nat
  | 0, i => i
  | f + 1, i => if tx[i]? = some 32 then skp tx f (i + 1) else i
/-- behind the spaces -/
def sk (tx : List Nat) (i : Nat) : Nat := skp tx (tx.length - i) i
def fig (tx : List Nat) (i : Nat) : Bool := match tx[i]? with
  | none => false
  | some x => decide (48 ≤ x) && decide (x ≤ 57)
def nm (tx : List Nat) : Nat → Nat → Nat → Nat → Nat × Nat × Nat
  | 0, i, v, n => (i, v, n)
  | f + 1, i, v, n => if fig tx i = true then nm tx f (i + 1) (10 * v + tx.getD i 0 - 48) (n + 1) else (i, v, n)
/-- a number: whether it is one, behind it, what it is -/
def num (tx : List Nat) (i : Nat) : Bool × Nat × Nat := (decide (0 < (nm tx 6 (sk tx i) 0 0).2.2) && !fig tx (nm tx 6 (sk tx i) 0 0).1, (nm tx 6 (sk tx i) 0 0).1, (nm tx 6 (sk tx i) 0 0).2.1)
abbrev Cm : Type := Nat × Nat × Nat
def ord4 (tx : List Nat) (ch k v i : Nat) : Option Cm × Nat := if tx[sk tx i]? = some 59 then (some (ch, k, v), sk tx i + 1) else (none, sk tx i)
def ord3 (tx : List Nat) (ch k i : Nat) : Option Cm × Nat := if ch = 112 then (if (num tx i).1 = true then ord4 tx ch k (num tx i).2.2 (num tx i).2.1 else (none, (num tx i).2.1)) else ord4 tx ch k 0 i
def ord2 (tx : List Nat) (ch i : Nat) : Option Cm × Nat := if ch = 99 then ord4 tx ch 0 0 i else if (num tx i).1 = true then ord3 tx ch (num tx i).2.2 (num tx i).2.1 else (none, (num tx i).2.1)
/-- an order, and where reading it ends -/
def ord (tx : List Nat) (i : Nat) : Option Cm × Nat := match tx[sk tx i]? with
  | none => (none, sk tx i)
  | some ch => if ch = 112 ∨ ch = 103 ∨ ch = 114 ∨ ch = 99 then ord2 tx ch (sk tx i + 1) else (none, sk tx i)
/-- all orders of a text; where it has a fault -/
def pso (tx : List Nat) : Nat → Nat → Nat ⊕ List Cm
  | 0, i => .inl i
  | f + 1, i => match ord tx i with
    | (none, a) => .inl a
    | (some x, a) => if tx[sk tx a]? = none then .inr [x] else match pso tx f a with
      | .inl y => .inl y
      | .inr l => .inr (x :: l)
/-- an order done: counted or not, the core, its changes -/
def k_do (c : Co) (x : Cm) : Nat × Co × Nat := if x.1 = 112 then (if (decide (x.2.2 ≤ 9999) && k_may c x.2.1) = true then (1, (k_put c x.2.1 x.2.2).2.1, (k_put c x.2.1 x.2.2).2.2) else (0, c, 0))
  else if x.1 = 103 then (1, (k_get c x.2.1).2.1, (k_get c x.2.1).2.2)
  else if x.1 = 114 then (1, (k_rem c x.2.1).2.1, (k_rem c x.2.1).2.2)
  else (1, k_clr c, if 0 < (k_es c).length then 1 else 0)
def k_run : List Cm → Nat → Co → Nat → Nat × Co × Nat
  | [], n, c, δ => (n, c, δ)
  | x :: t, n, c, δ => k_run t (n + (k_do c x).1) (k_do c x).2.1 (δ + (k_do c x).2.2)
def a_does (α : Al) : Int32 × Al := match pso (a_tx α) ((a_tx α).length + 1) 0 with
  | .inl a => (-10 - nI a, α)
  | .inr l => (nI (k_run l 0 (a_c α) 0).1, a_lv α (k_run l 0 (a_c α) 0).2.1 (k_run l 0 (a_c α) 0).2.2)
theorem skp_in (tx : List Nat) : ∀ f i, i ≤ skp tx f i ∧ skp tx f i ≤ i + f
  | 0, i => ⟨Nat.le_refl _, Nat.le_refl _⟩
  | f + 1, i => by
    unfold skp
    split
    · have := skp_in tx f (i + 1)
      omega
    · omega
theorem sk_in {tx : List Nat} {i : Nat} (h : i ≤ tx.length) : i ≤ sk tx i ∧ sk tx i ≤ tx.length := by
  have := skp_in tx (tx.length - i) i
  unfold sk
  omega
theorem sk_step {tx : List Nat} {i : Nat} (h : tx[i]? = some 32) : sk tx i = sk tx (i + 1) := by
  have hl := (List.getElem?_eq_some_iff.mp h).1
  unfold sk
  rw [show tx.length - i = tx.length - (i + 1) + 1 by omega]
  show (if tx[i]? = some 32 then _ else _) = _
  rw [if_pos h]
theorem sk_stop {tx : List Nat} {i : Nat} (h : ¬ tx[i]? = some 32) : sk tx i = i := by
  unfold sk
  cases tx.length - i with
  | zero => rfl
  | succ f =>
    show (if tx[i]? = some 32 then _ else _) = _
    rw [if_neg h]
theorem sk_at {tx : List Nat} : ∀ m i, i + m = tx.length → ¬ tx[sk tx i]? = some 32
  | 0, i, h => by
    have : sk tx i = i := sk_stop (by rw [List.getElem?_eq_none (by omega)]; simp)
    rw [this, List.getElem?_eq_none (by omega)]
    simp
  | m + 1, i, h => by
    by_cases q : tx[i]? = some 32
    · rw [sk_step q]
      exact sk_at m (i + 1) (by omega)
    · rw [sk_stop q]
      exact q
theorem sk_sk {tx : List Nat} {i : Nat} (h : i ≤ tx.length) : sk tx (sk tx i) = sk tx i := sk_stop (sk_at (tx.length - i) i (by omega))
theorem fig_in {tx : List Nat} {i : Nat} (h : fig tx i = true) : i < tx.length ∧ 48 ≤ tx.getD i 0 ∧ tx.getD i 0 ≤ 57 := by
  unfold fig at h
  cases hx : tx[i]? with
  | none => rw [hx] at h; cases h
  | some x =>
    rw [hx] at h
    simp only [Bool.and_eq_true, decide_eq_true_eq] at h
    refine ⟨(List.getElem?_eq_some_iff.mp hx).1, ?_⟩
    simp only [List.getD_eq_getElem?_getD, hx, Option.getD_some]
    exact h
theorem nm_in (tx : List Nat) : ∀ f i v n, i ≤ tx.length → v < 10 ^ n → i ≤ (nm tx f i v n).1 ∧ (nm tx f i v n).1 ≤ tx.length ∧ (nm tx f i v n).2.1 < 10 ^ (nm tx f i v n).2.2 ∧ (nm tx f i v n).2.2 ≤ n + f ∧ n ≤ (nm tx f i v n).2.2 ∧ ((nm tx f i v n).2.2 - n = (nm tx f i v n).1 - i)
  | 0, i, v, n, h, hv => ⟨Nat.le_refl _, h, hv, Nat.le_refl _, Nat.le_refl _, by show n - n = i - i; omega⟩
  | f + 1, i, v, n, h, hv => by
    unfold nm
    split
    · rename_i q
      have hf := fig_in q
      have hp : 10 ^ (n + 1) = 10 * 10 ^ n := by rw [Nat.pow_succ, Nat.mul_comm]
      have := nm_in tx f (i + 1) (10 * v + tx.getD i 0 - 48) (n + 1) (by omega) (by rw [hp]; omega)
      omega
    · exact ⟨Nat.le_refl _, h, hv, Nat.le_add_right _ _, Nat.le_refl _, by show n - n = i - i; omega⟩
theorem num_in {tx : List Nat} {i : Nat} (h : i ≤ tx.length) : i ≤ (num tx i).2.1 ∧ (num tx i).2.1 ≤ tx.length ∧ (num tx i).2.2 ≤ 999999 := by
  have hs := sk_in h
  have := nm_in tx 6 (sk tx i) 0 0 hs.2 (by decide)
  have hp : 10 ^ (nm tx 6 (sk tx i) 0 0).2.2 ≤ 10 ^ 6 := Nat.pow_le_pow_right (by decide) (by omega)
  have h6 : (10 : Nat) ^ 6 = 1000000 := by decide
  refine ⟨?_, this.2.1, ?_⟩
  · show i ≤ (nm tx 6 (sk tx i) 0 0).1
    omega
  · show (nm tx 6 (sk tx i) 0 0).2.1 ≤ 999999
    omega
theorem ord4_in {tx : List Nat} {ch k v i : Nat} {x : Cm} {a : Nat} (hi : i ≤ tx.length) (h : ord4 tx ch k v i = (some x, a)) : i < a ∧ a ≤ tx.length ∧ x = (ch, k, v) := by
  unfold ord4 at h
  split at h
  · rename_i q
    cases h
    have := sk_in hi
    have := (List.getElem?_eq_some_iff.mp q).1
    exact ⟨by omega, by omega, rfl⟩
  · cases h
theorem ord_in {tx : List Nat} {i : Nat} {x : Cm} {a : Nat} (hi : i ≤ tx.length) (h : ord tx i = (some x, a)) : i + 2 ≤ a ∧ a ≤ tx.length ∧ x.2.1 ≤ 999999 ∧ x.2.2 ≤ 999999 := by
  have hs := sk_in hi
  unfold ord at h
  cases hc : tx[sk tx i]? with
  | none => rw [hc] at h; cases h
  | some ch =>
    have hl := (List.getElem?_eq_some_iff.mp hc).1
    rw [hc] at h
    have h : (if ch = 112 ∨ ch = 103 ∨ ch = 114 ∨ ch = 99 then ord2 tx ch (sk tx i + 1) else (none, sk tx i)) = (some x, a) := h
    split at h
    · unfold ord2 at h
      have hn := num_in (show sk tx i + 1 ≤ tx.length by omega)
      split at h
      · obtain ⟨g1, g2, rfl⟩ := ord4_in (by omega) h
        exact ⟨by omega, g2, Nat.zero_le _, Nat.zero_le _⟩
      · split at h
        · unfold ord3 at h
          split at h
          · split at h
            · have hn2 := num_in hn.2.1
              obtain ⟨g1, g2, rfl⟩ := ord4_in (by omega) h
              exact ⟨by omega, g2, hn.2.2, hn2.2.2⟩
            · cases h
          · obtain ⟨g1, g2, rfl⟩ := ord4_in (by omega) h
            exact ⟨by omega, g2, hn.2.2, Nat.zero_le _⟩
        · cases h
    · cases h
theorem pso_len {tx : List Nat} : ∀ f i l, i ≤ tx.length → pso tx f i = .inr l → i + 2 * l.length ≤ tx.length
  | 0, i, l, hi, h => by cases h
  | f + 1, i, l, hi, h => by
    unfold pso at h
    split at h
    · cases h
    · rename_i x a hx
      have hin := ord_in hi hx
      split at h
      · cases h
        show i + 2 * 1 ≤ _
        omega
      · split at h
        · cases h
        · rename_i l' hl
          cases h
          have := pso_len f a l' hin.2.1 hl
          rw [List.length_cons]
          omega
theorem sF_sF {k : Nat} {x y : Int32} {τ : Tw} : sF k y (sF k x τ) = sF k y τ := by
  show ((upd (upd τ.1 k x) k y, τ.2) : Tw) = (upd τ.1 k y, τ.2)
  congr 1
  funext j
  by_cases q : j = k
  · subst q; rw [pk_us, pk_us]
  · rw [pk_un q, pk_un q, pk_un q]
theorem sF_id {k : Nat} {x : Int32} {τ : Tw} (h : τ.1 k = x) : sF k x τ = τ := by
  show ((upd τ.1 k x, τ.2) : Tw) = τ
  rw [upd_same h]
section T37
variable {D : Dt} {o : Nat} {ad : Nat → Nat}
set_option maxHeartbeats 1000000 in
theorem ct_here (τ : Tw) (tx : List Nat) (h5 : T5 τ tx) (i : Nat) (hi : i ≤ tx.length) (h8 : τ.1 8 = nI i) : Ct (wT D o ad) yX5_here cX5_here 1 (some .int) [.ref o] τ (PE (some (.int (oI (tx[sk tx i]?)))) (sF 8 (nI (sk tx i)) τ)) 0 0 0 := by
  refine Ct.of KTok (by decide) (Nat.le_of_ble_eq_true rfl) rfl fun Y C hQ hNm => ?_
  obtain ⟨h7, hl, hX, hx⟩ := h5
  have tail : ∀ (i : Nat) (τ1 : Tw), i ≤ tx.length → TF [8] [] τ τ1 → τ1.1 8 = nI i → Qx (wT D o ad) Y (PE (some (.int (oI (tx[i]?)))) τ1) 0 0 → Zj (wT D o ad) Y τ1 0 0 38 [some (.ref o)] [] := by
    intro i τ1 hi hF h8 hQ
    have h71 : τ1.1 7 = nI tx.length := by rw [hF.1 7 (by decide)]; exact h7
    have hX1 : AR (τ1.2 6) 0 tx := by rw [hF.2 6 (by decide)]; exact hX
    by_cases q : i < tx.length
    · rw [getD_of q] at hQ
      refine z_al0 (q := 39) C dX5_here_38 rfl ?_
      refine tg_210 (q := 42) C dX5_here_39 rfl ?_
      rw [h8]
      refine z_al0 (q := 43) C dX5_here_42 rfl ?_
      refine tg_207 (q := 46) C dX5_here_43 rfl ?_
      rw [h71]
      first | refine z_icmp_geN (tgt := 61) (q := 49) C dX5_here_46 (by decide) rfl (by omega) (by omega) (fun c46 => ?_) (fun c46 => ?_) | refine z_icmp_ge (tgt := 61) (q := 49) C dX5_here_46 (by decide) rfl (fun c46 => ?_) (fun c46 => ?_)
      · exact absurd c46 (by omega)
      · refine z_al0 (q := 50) C dX5_here_49 rfl ?_
        refine tg_22 (q := 53) C dX5_here_50 rfl ?_
        refine z_al0 (q := 54) C dX5_here_53 rfl ?_
        refine tg_210 (q := 57) C dX5_here_54 rfl ?_
        rw [h8]
        refine ta_ld6 (q := 58) C dX5_here_57 rfl (by omega) ?_
        rw [hX1.at q]
        refine z_goto (tgt := 62) C dX5_here_58 (by decide) ?_
        refine z_iret C hQ dX5_here_62 (Nat.le_refl _) (Nat.le_refl _) ?_
        exact ⟨rfl, rfl⟩
    · rw [List.getElem?_eq_none (by omega)] at hQ
      refine z_al0 (q := 39) C dX5_here_38 rfl ?_
      refine tg_210 (q := 42) C dX5_here_39 rfl ?_
      rw [h8]
      refine z_al0 (q := 43) C dX5_here_42 rfl ?_
      refine tg_207 (q := 46) C dX5_here_43 rfl ?_
      rw [h71]
      first | refine z_icmp_geN (tgt := 61) (q := 49) C dX5_here_46 (by decide) rfl (by omega) (by omega) (fun c46 => ?_) (fun c46 => ?_) | refine z_icmp_ge (tgt := 61) (q := 49) C dX5_here_46 (by decide) rfl (fun c46 => ?_) (fun c46 => ?_)
      · refine z_iconst (q := 62) (v := -1) C dX5_here_61 rfl (by decide) ?_
        refine z_iret C hQ dX5_here_62 (Nat.le_refl _) (Nat.le_refl _) ?_
        exact ⟨rfl, rfl⟩
      · exact absurd c46 (by omega)
  have loop : ∀ m i, i + m = tx.length → ∀ τ1 : Tw, TF [8] [] τ τ1 → τ1.1 8 = nI i → Qx (wT D o ad) Y (PE (some (.int (oI (tx[sk tx i]?)))) (sF 8 (nI (sk tx i)) τ1)) 0 0 → Zj (wT D o ad) Y τ1 0 0 0 [some (.ref o)] [] := by
    intro m
    induction m with
    | zero =>
      intro i him τ1 hF h8 hQ
      have hsk : sk tx i = i := sk_stop (by rw [List.getElem?_eq_none (by omega)]; simp)
      rw [hsk, sF_id h8] at hQ
      have h71 : τ1.1 7 = nI tx.length := by rw [hF.1 7 (by decide)]; exact h7
      refine z_al0 (q := 1) C dX5_here_0 rfl ?_
      refine tg_210 (q := 4) C dX5_here_1 rfl ?_
      rw [h8]
      refine z_al0 (q := 5) C dX5_here_4 rfl ?_
      refine tg_207 (q := 8) C dX5_here_5 rfl ?_
      rw [h71]
      first | refine z_icmp_geN (tgt := 38) (q := 11) C dX5_here_8 (by decide) rfl (by omega) (by omega) (fun c8 => ?_) (fun c8 => ?_) | refine z_icmp_ge (tgt := 38) (q := 11) C dX5_here_8 (by decide) rfl (fun c8 => ?_) (fun c8 => ?_)
      · exact tail i τ1 (by omega) hF h8 hQ
      · exact absurd c8 (by omega)
    | succ m ih =>
      intro i him τ1 hF h8 hQ
      have h71 : τ1.1 7 = nI tx.length := by rw [hF.1 7 (by decide)]; exact h7
      have hX1 : AR (τ1.2 6) 0 tx := by rw [hF.2 6 (by decide)]; exact hX
      have hil : i < tx.length := by omega
      have hxl := hx _ (getD_mem hil)
      by_cases q : tx.getD i 0 = 32
      · have hsk : sk tx i = sk tx (i + 1) := sk_step (by rw [getD_of hil, q])
        rw [hsk, ← sF_sF (x := nI (i + 1))] at hQ
        refine z_al0 (q := 1) C dX5_here_0 rfl ?_
        refine tg_210 (q := 4) C dX5_here_1 rfl ?_
        rw [h8]
        refine z_al0 (q := 5) C dX5_here_4 rfl ?_
        refine tg_207 (q := 8) C dX5_here_5 rfl ?_
        rw [h71]
        first | refine z_icmp_geN (tgt := 38) (q := 11) C dX5_here_8 (by decide) rfl (by omega) (by omega) (fun c8 => ?_) (fun c8 => ?_) | refine z_icmp_ge (tgt := 38) (q := 11) C dX5_here_8 (by decide) rfl (fun c8 => ?_) (fun c8 => ?_)
        · exact absurd c8 (by omega)
        · refine z_al0 (q := 12) C dX5_here_11 rfl ?_
          refine tg_22 (q := 15) C dX5_here_12 rfl ?_
          refine z_al0 (q := 16) C dX5_here_15 rfl ?_
          refine tg_210 (q := 19) C dX5_here_16 rfl ?_
          rw [h8]
          refine ta_ld6 (q := 20) C dX5_here_19 rfl (by omega) ?_
          rw [hX1.at hil]
          refine z_bipush (q := 22) (v := nI 32) C dX5_here_20 rfl (by decide) ?_
          first | refine z_icmp_neN (tgt := 38) (q := 25) C dX5_here_22 (by decide) rfl (by omega) (by omega) (fun c22 => ?_) (fun c22 => ?_) | refine z_icmp_ne (tgt := 38) (q := 25) C dX5_here_22 (by decide) rfl (fun c22 => ?_) (fun c22 => ?_)
          · exact absurd c22 (by omega)
          · refine z_al0 (q := 26) C dX5_here_25 rfl ?_
            refine z_dup (q := 27) C dX5_here_26 rfl rfl ?_
            refine tg_210 (q := 30) C dX5_here_27 rfl ?_
            rw [h8]
            refine z_iconst (q := 31) (v := nI 1) C dX5_here_30 rfl (by decide) ?_
            first | refine z_iaddN (q := 32) C dX5_here_31 rfl ?_ | refine z_iadd (q := 32) C dX5_here_31 rfl ?_
            refine tp_210 (q := 35) C dX5_here_32 rfl ?_
            refine z_goto (tgt := 0) C dX5_here_35 (by decide) ?_
            exact ih (i + 1) (by omega) _ (hF.sF (by decide) _) sF_s hQ
      · have hsk : sk tx i = i := sk_stop (by rw [getD_of hil]; simpa using q)
        rw [hsk, sF_id h8] at hQ
        refine z_al0 (q := 1) C dX5_here_0 rfl ?_
        refine tg_210 (q := 4) C dX5_here_1 rfl ?_
        rw [h8]
        refine z_al0 (q := 5) C dX5_here_4 rfl ?_
        refine tg_207 (q := 8) C dX5_here_5 rfl ?_
        rw [h71]
        first | refine z_icmp_geN (tgt := 38) (q := 11) C dX5_here_8 (by decide) rfl (by omega) (by omega) (fun c8 => ?_) (fun c8 => ?_) | refine z_icmp_ge (tgt := 38) (q := 11) C dX5_here_8 (by decide) rfl (fun c8 => ?_) (fun c8 => ?_)
        · exact absurd c8 (by omega)
        · refine z_al0 (q := 12) C dX5_here_11 rfl ?_
          refine tg_22 (q := 15) C dX5_here_12 rfl ?_
          refine z_al0 (q := 16) C dX5_here_15 rfl ?_
          refine tg_210 (q := 19) C dX5_here_16 rfl ?_
          rw [h8]
          refine ta_ld6 (q := 20) C dX5_here_19 rfl (by omega) ?_
          rw [hX1.at hil]
          refine z_bipush (q := 22) (v := nI 32) C dX5_here_20 rfl (by decide) ?_
          first | refine z_icmp_neN (tgt := 38) (q := 25) C dX5_here_22 (by decide) rfl (by omega) (by omega) (fun c22 => ?_) (fun c22 => ?_) | refine z_icmp_ne (tgt := 38) (q := 25) C dX5_here_22 (by decide) rfl (fun c22 => ?_) (fun c22 => ?_)
          · exact tail i τ1 (by omega) hF h8 hQ
          · exact absurd c22 (by omega)
  exact loop _ i (Nat.add_sub_cancel' hi) τ TF.rf h8 hQ
set_option maxHeartbeats 1000000 in
theorem ct_isFigure (τ : Tw) (tx : List Nat) (h5 : T5 τ tx) (i : Nat) (hi : i ≤ tx.length) (h8 : τ.1 8 = nI i) : Ct (wT D o ad) yX5_isFigure cX5_isFigure 1 (some .boolean) [.ref o] τ (PE (some (.int (bI (fig tx i)))) τ) 1 0 0 := by
  refine Ct.of KTok (by decide) (Nat.le_of_ble_eq_true rfl) rfl fun Y C hQ hNm => ?_
  obtain ⟨h7, hl, hX, hx⟩ := h5
  by_cases q : i < tx.length
  · have hxl := hx _ (getD_mem q)
    have ef : fig tx i = (decide (48 ≤ tx.getD i 0) && decide (tx.getD i 0 ≤ 57)) := by unfold fig; rw [getD_of q]
    have e2 : inB (nI (tx.getD i 0)) (nI 48) (nI 57) = fig tx i := by
      rw [ef]
      unfold inB
      congr 1
      · exact decide_eq_decide.mpr (nI_leI (by omega) (by omega))
      · exact decide_eq_decide.mpr (nI_leI (by omega) (by omega))
    rw [← e2] at hQ
    refine z_al0 (q := 1) C dX5_isFigure_0 rfl ?_
    refine tg_210 (q := 4) C dX5_isFigure_1 rfl ?_
    rw [h8]
    refine z_al0 (q := 5) C dX5_isFigure_4 rfl ?_
    refine tg_207 (q := 8) C dX5_isFigure_5 rfl ?_
    rw [h7]
    first | refine z_icmp_geN (tgt := 34) (q := 11) C dX5_isFigure_8 (by decide) rfl (by omega) (by omega) (fun c8 => ?_) (fun c8 => ?_) | refine z_icmp_ge (tgt := 34) (q := 11) C dX5_isFigure_8 (by decide) rfl (fun c8 => ?_) (fun c8 => ?_)
    · exact absurd c8 (by omega)
    · refine z_al0 (q := 12) C dX5_isFigure_11 rfl ?_
      refine tg_22 (q := 15) C dX5_isFigure_12 rfl ?_
      refine z_al0 (q := 16) C dX5_isFigure_15 rfl ?_
      refine tg_210 (q := 19) C dX5_isFigure_16 rfl ?_
      rw [h8]
      refine ta_ld6 (q := 20) C dX5_isFigure_19 rfl (by omega) ?_
      rw [hX.at q]
      refine z_bipush (q := 22) (v := nI 48) C dX5_isFigure_20 rfl (by decide) ?_
      refine z_bipush (q := 24) (v := nI 57) C dX5_isFigure_22 rfl (by decide) ?_
      refine z_callSe (q := 27) C (ct_in τ (nI (tx.getD i 0)) (nI 48) (nI 57)) g_X5_44 dX5_isFigure_24 rfl rfl rfl (Nat.le_of_ble_eq_true rfl) (by first | decide | omega) (Nat.le_refl _) (Nat.le_refl _) ?_
      first | refine z_if_eqB (tgt := 34) (q := 30) C dX5_isFigure_27 (by decide) rfl (fun c27 => ?_) (fun c27 => ?_) | refine z_if_eq (tgt := 34) (q := 30) C dX5_isFigure_27 (by decide) rfl (fun c27 => ?_) (fun c27 => ?_)
      · refine z_iconst (q := 35) (v := nI 0) C dX5_isFigure_34 rfl (by decide) ?_
        refine z_zret C hQ dX5_isFigure_35 (Nat.le_refl _) (Nat.le_refl _) (by first | rfl | exact bI_nar _) ?_
        exact ⟨by rw [c27]; rfl, rfl⟩
      · refine z_iconst (q := 31) (v := nI 1) C dX5_isFigure_30 rfl (by decide) ?_
        refine z_goto (tgt := 35) C dX5_isFigure_31 (by decide) ?_
        refine z_zret C hQ dX5_isFigure_35 (Nat.le_refl _) (Nat.le_refl _) (by first | rfl | exact bI_nar _) ?_
        exact ⟨by rw [c27]; rfl, rfl⟩
  · have ef : fig tx i = false := by unfold fig; rw [List.getElem?_eq_none (by omega)]
    rw [ef] at hQ
    refine z_al0 (q := 1) C dX5_isFigure_0 rfl ?_
    refine tg_210 (q := 4) C dX5_isFigure_1 rfl ?_
    rw [h8]
    refine z_al0 (q := 5) C dX5_isFigure_4 rfl ?_
    refine tg_207 (q := 8) C dX5_isFigure_5 rfl ?_
    rw [h7]
    first | refine z_icmp_geN (tgt := 34) (q := 11) C dX5_isFigure_8 (by decide) rfl (by omega) (by omega) (fun c8 => ?_) (fun c8 => ?_) | refine z_icmp_ge (tgt := 34) (q := 11) C dX5_isFigure_8 (by decide) rfl (fun c8 => ?_) (fun c8 => ?_)
    · refine z_iconst (q := 35) (v := nI 0) C dX5_isFigure_34 rfl (by decide) ?_
      refine z_zret C hQ dX5_isFigure_35 (Nat.le_refl _) (Nat.le_refl _) (by first | rfl | exact bI_nar _) ?_
      exact ⟨rfl, rfl⟩
    · exact absurd c8 (by omega)
set_option maxHeartbeats 1000000 in
theorem ct_isNumber (τ : Tw) (tx : List Nat) (h5 : T5 τ tx) (i : Nat) (hi : i ≤ tx.length) (h8 : τ.1 8 = nI i) : Ct (wT D o ad) yX5_isNumber cX5_isNumber 2 (some .boolean) [.ref o] τ (PI (fun r τ' => TF [8, 19] [] τ τ' ∧ r = bI (num tx i).1 ∧ τ'.1 8 = nI (num tx i).2.1 ∧ τ'.1 19 = nI (num tx i).2.2)) 2 0 0 := by
  refine Ct.of KTok (by decide) (Nat.le_of_ble_eq_true rfl) rfl fun Y C hQ hNm => ?_
  have hs := sk_in hi
  obtain ⟨h7, hl, hX, hx⟩ := id h5
  unfold num at hQ
  generalize hp : nm tx 6 (sk tx i) 0 0 = p at hQ
  have keep : ∀ τ1 : Tw, TF [8, 19] [] τ τ1 → T5 τ1 tx := fun τ1 hF => by unfold T5; rw [hF.1 7 (by decide), hF.2 6 (by decide)]; exact h5
  have fin : ∀ (τ1 : Tw), TF [8, 19] [] τ τ1 → τ1.1 8 = nI p.1 → τ1.1 19 = nI p.2.1 → p.1 ≤ tx.length → p.2.2 ≤ 6 → Zj (wT D o ad) Y τ1 0 0 65 [some (.ref o), some (.int (nI p.2.2))] [] := by
    intro τ1 hF g8 g19 hpl hp6
    by_cases hz : p.2.2 = 0
    · rw [hz] at hQ ⊢
      refine z_il1 (q := 66) C dX5_isNumber_65 rfl ?_
      refine z_if_le (tgt := 80) (q := 69) C dX5_isNumber_66 (by decide) rfl (fun c66 => ?_) (fun c66 => ?_)
      · refine z_iconst (q := 81) (v := nI 0) C dX5_isNumber_80 rfl (by decide) ?_
        refine z_zret C hQ dX5_isNumber_81 (Nat.le_refl _) (Nat.le_refl _) (by first | rfl | exact bI_nar _) ?_
        exact ⟨_, rfl, hF, rfl, g8, g19⟩
      · exact absurd (show nI 0 ≤ 0 from by decide) c66
    · have hpos : decide (0 < p.2.2) = true := decide_eq_true (by omega)
      rw [hpos, Bool.true_and] at hQ
      refine z_il1 (q := 66) C dX5_isNumber_65 rfl ?_
      refine z_if_le (tgt := 80) (q := 69) C dX5_isNumber_66 (by decide) rfl (fun c66 => ?_) (fun c66 => ?_)
      · exact absurd c66 (nI_nle (by omega) (by omega))
      · refine z_al0 (q := 70) C dX5_isNumber_69 rfl ?_
        refine z_callVe (q := 73) C (ct_isFigure τ1 tx (keep τ1 hF) p.1 hpl g8) g_X5_219 rcT dX5_isNumber_70 rfl rfl rfl (Nat.le_of_ble_eq_true rfl) (by first | decide | omega) (Nat.le_refl _) (Nat.le_refl _) ?_
        first | refine z_if_neB (tgt := 80) (q := 76) C dX5_isNumber_73 (by decide) rfl (fun c73 => ?_) (fun c73 => ?_) | refine z_if_ne (tgt := 80) (q := 76) C dX5_isNumber_73 (by decide) rfl (fun c73 => ?_) (fun c73 => ?_)
        · refine z_iconst (q := 81) (v := nI 0) C dX5_isNumber_80 rfl (by decide) ?_
          refine z_zret C hQ dX5_isNumber_81 (Nat.le_refl _) (Nat.le_refl _) (by first | rfl | exact bI_nar _) ?_
          exact ⟨_, rfl, hF, by rw [c73]; rfl, g8, g19⟩
        · refine z_iconst (q := 77) (v := nI 1) C dX5_isNumber_76 rfl (by decide) ?_
          refine z_goto (tgt := 81) C dX5_isNumber_77 (by decide) ?_
          refine z_zret C hQ dX5_isNumber_81 (Nat.le_refl _) (Nat.le_refl _) (by first | rfl | exact bI_nar _) ?_
          exact ⟨_, rfl, hF, by rw [c73]; rfl, g8, g19⟩
  have loop : ∀ f j v n, f + n = 6 → j ≤ tx.length → v < 10 ^ n → nm tx f j v n = p → ∀ τ1 : Tw, TF [8, 19] [] τ τ1 → τ1.1 8 = nI j → τ1.1 19 = nI v → Zj (wT D o ad) Y τ1 0 0 12 [some (.ref o), some (.int (nI n))] [] := by
    intro f
    induction f with
    | zero =>
      intro j v n hn hj hv hnm τ1 hF g8 g19
      have hnm : (j, v, n) = p := hnm
      subst hnm
      refine z_il1 (q := 13) C dX5_isNumber_12 rfl ?_
      refine z_bipush (q := 15) (v := nI 6) C dX5_isNumber_13 rfl (by decide) ?_
      first | refine z_icmp_geN (tgt := 65) (q := 18) C dX5_isNumber_15 (by decide) rfl (by omega) (by omega) (fun c15 => ?_) (fun c15 => ?_) | refine z_icmp_ge (tgt := 65) (q := 18) C dX5_isNumber_15 (by decide) rfl (fun c15 => ?_) (fun c15 => ?_)
      · exact fin τ1 hF g8 g19 hj (by show n ≤ 6; omega)
      · exact absurd c15 (by omega)
    | succ f ih =>
      intro j v n hn hj hv hnm τ1 hF g8 g19
      have hnm : (if fig tx j = true then nm tx f (j + 1) (10 * v + tx.getD j 0 - 48) (n + 1) else (j, v, n)) = p := hnm
      cases hf : fig tx j with
      | false =>
        rw [if_neg (by rw [hf]; decide)] at hnm
        subst hnm
        refine z_il1 (q := 13) C dX5_isNumber_12 rfl ?_
        refine z_bipush (q := 15) (v := nI 6) C dX5_isNumber_13 rfl (by decide) ?_
        first | refine z_icmp_geN (tgt := 65) (q := 18) C dX5_isNumber_15 (by decide) rfl (by omega) (by omega) (fun c15 => ?_) (fun c15 => ?_) | refine z_icmp_ge (tgt := 65) (q := 18) C dX5_isNumber_15 (by decide) rfl (fun c15 => ?_) (fun c15 => ?_)
        · exact absurd c15 (by omega)
        · refine z_al0 (q := 19) C dX5_isNumber_18 rfl ?_
          refine z_callVe (q := 22) C (ct_isFigure τ1 tx (keep τ1 hF) j hj g8) g_X5_219 rcT dX5_isNumber_19 rfl rfl rfl (Nat.le_of_ble_eq_true rfl) (by first | decide | omega) (Nat.le_refl _) (Nat.le_refl _) ?_
          first | refine z_if_eqB (tgt := 65) (q := 25) C dX5_isNumber_22 (by decide) rfl (fun c22 => ?_) (fun c22 => ?_) | refine z_if_eq (tgt := 65) (q := 25) C dX5_isNumber_22 (by decide) rfl (fun c22 => ?_) (fun c22 => ?_)
          · exact fin τ1 hF g8 g19 hj (by show n ≤ 6; omega)
          · rw [hf] at c22; cases c22
      | true =>
        rw [if_pos hf] at hnm
        have hfi := fig_in hf
        have hX1 : AR (τ1.2 6) 0 tx := (keep τ1 hF).2.2.1
        have hpw : 10 ^ (n + 1) = 10 * 10 ^ n := by rw [Nat.pow_succ, Nat.mul_comm]
        have hat := hX1.at hfi.1
        refine z_il1 (q := 13) C dX5_isNumber_12 rfl ?_
        refine z_bipush (q := 15) (v := nI 6) C dX5_isNumber_13 rfl (by decide) ?_
        first | refine z_icmp_geN (tgt := 65) (q := 18) C dX5_isNumber_15 (by decide) rfl (by omega) (by omega) (fun c15 => ?_) (fun c15 => ?_) | refine z_icmp_ge (tgt := 65) (q := 18) C dX5_isNumber_15 (by decide) rfl (fun c15 => ?_) (fun c15 => ?_)
        · exact absurd c15 (by omega)
        · refine z_al0 (q := 19) C dX5_isNumber_18 rfl ?_
          refine z_callVe (q := 22) C (ct_isFigure τ1 tx (keep τ1 hF) j hj g8) g_X5_219 rcT dX5_isNumber_19 rfl rfl rfl (Nat.le_of_ble_eq_true rfl) (by first | decide | omega) (Nat.le_refl _) (Nat.le_refl _) ?_
          first | refine z_if_eqB (tgt := 65) (q := 25) C dX5_isNumber_22 (by decide) rfl (fun c22 => ?_) (fun c22 => ?_) | refine z_if_eq (tgt := 65) (q := 25) C dX5_isNumber_22 (by decide) rfl (fun c22 => ?_) (fun c22 => ?_)
          · rw [hf] at c22; cases c22
          · refine z_al0 (q := 26) C dX5_isNumber_25 rfl ?_
            refine z_bipush (q := 28) (v := nI 10) C dX5_isNumber_26 rfl (by decide) ?_
            refine z_al0 (q := 29) C dX5_isNumber_28 rfl ?_
            refine tg_216 (q := 32) C dX5_isNumber_29 rfl ?_
            rw [g19]
            first | refine z_imulN (q := 33) C dX5_isNumber_32 rfl ?_ | refine z_imul (q := 33) C dX5_isNumber_32 rfl ?_
            refine z_al0 (q := 34) C dX5_isNumber_33 rfl ?_
            refine tg_22 (q := 37) C dX5_isNumber_34 rfl ?_
            refine z_al0 (q := 38) C dX5_isNumber_37 rfl ?_
            refine tg_210 (q := 41) C dX5_isNumber_38 rfl ?_
            rw [g8]
            refine ta_ld6 (q := 42) C dX5_isNumber_41 rfl (by omega) ?_
            rw [hat]
            first | refine z_iaddN (q := 43) C dX5_isNumber_42 rfl ?_ | refine z_iadd (q := 43) C dX5_isNumber_42 rfl ?_
            refine z_bipush (q := 45) (v := nI 48) C dX5_isNumber_43 rfl (by decide) ?_
            refine z_isubN (q := 46) C dX5_isNumber_45 rfl (by omega) ?_
            refine tp_216 (q := 49) C dX5_isNumber_46 rfl ?_
            refine z_al0 (q := 50) C dX5_isNumber_49 rfl ?_
            refine z_dup (q := 51) C dX5_isNumber_50 rfl rfl ?_
            refine tg_210 (q := 54) C dX5_isNumber_51 rfl ?_
            rw [show (sF 19 (nI (10 * v + tx.getD j 0 - 48)) τ1).1 8 = nI j from g8]
            refine z_iconst (q := 55) (v := nI 1) C dX5_isNumber_54 rfl (by decide) ?_
            first | refine z_iaddN (q := 56) C dX5_isNumber_55 rfl ?_ | refine z_iadd (q := 56) C dX5_isNumber_55 rfl ?_
            refine tp_210 (q := 59) C dX5_isNumber_56 rfl ?_
            first | refine z_iinc1N (q := 62) C dX5_isNumber_59 rfl (by first | exact loC_i | exact loC_r | exact loC_n | exact loC_q | exact loC_u) ?_ | refine z_iinc1 (q := 62) C dX5_isNumber_59 rfl rfl (by first | exact loC_i | exact loC_r | exact loC_n | exact loC_q | exact loC_u) ?_
            refine z_goto (tgt := 12) C dX5_isNumber_62 (by decide) ?_
            exact ih (j + 1) _ (n + 1) (by omega) (by omega) (by rw [hpw]; omega) hnm _ ((hF.sF (by decide) _).sF (by decide) _) sF_s rfl
  refine z_al0 (q := 1) C dX5_isNumber_0 rfl ?_
  refine z_callVe (q := 4) C (ct_here τ tx h5 i hi h8) g_X5_213 rcT dX5_isNumber_1 rfl rfl rfl (Nat.le_of_ble_eq_true rfl) (by first | decide | omega) (Nat.le_refl _) (Nat.le_refl _) ?_
  refine z_pop (q := 5) C dX5_isNumber_4 rfl rfl ?_
  skip
  refine z_al0 (q := 6) C dX5_isNumber_5 rfl ?_
  refine z_iconst (q := 7) (v := nI 0) C dX5_isNumber_6 rfl (by decide) ?_
  refine tp_216 (q := 10) C dX5_isNumber_7 rfl ?_
  refine z_iconst (q := 11) (v := nI 0) C dX5_isNumber_10 rfl (by decide) ?_
  refine z_is1 (q := 12) C dX5_isNumber_11 rfl (by first | exact loC_i | exact loC_r | exact loC_n | exact loC_q | exact loC_u) ?_
  exact loop 6 (sk tx i) 0 0 (by omega) hs.2 (by decide) hp _ ((TF.rf.sF (by decide) _).sF (by decide) _) rfl sF_s
end T37
