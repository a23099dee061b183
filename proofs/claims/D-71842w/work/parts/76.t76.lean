/-! THE CLASS: trees by places: steps, levels, roots -/
set_option maxRecDepth 10000
theorem rIx_eq {f : Nat → Nat} {i p : Nat} : ∀ m, (∀ q, i ≤ q → q ≤ i + m → q ≠ p → abv (f p) (f q) = true) → i ≤ p → p ≤ i + m → rIx f i m = p
  | 0, _, h1, h2 => by
    show i = p
    omega
  | m + 1, h, h1, h2 => by
    unfold rIx
    by_cases e : p = i + m + 1
    · have := rIx_in f i m
      rw [if_pos (by rw [← e]; exact h _ (by omega) (by omega) (by omega)), e]
    · rw [rIx_eq m (fun q a b c => h q a (by omega) c) h1 (by omega), if_neg (fun z => by
        have := h (i + m + 1) (by omega) (by omega) (by omega)
        rw [abv_iff] at this z
        omega)]
/-- a tree by places of a sorted list -/
def TI (ad : Nat → Nat) (lf rt : Nat → Option Nat) (L : List Nat) : Nat → Nat → Nat → Option Nat → Prop
  | 0, i, j, r => j ≤ i ∧ r = none
  | f + 1, i, j, r => (k_rt L i j = none ∧ r = none) ∨ ∃ p, k_rt L i j = some p ∧ r = some (ad (L.getD p 0)) ∧ TI ad lf rt L f i p (lf (ad (L.getD p 0))) ∧ TI ad lf rt L f (p + 1) j (rt (ad (L.getD p 0)))
section TIs
variable {ad : Nat → Nat} {lf rt : Nat → Option Nat} {L : List Nat}
theorem TI.root : ∀ {f i j : Nat} {r : Option Nat}, TI ad lf rt L f i j r → r = (k_rt L i j).map (fun p => ad (L.getD p 0))
  | 0, i, j, r, h => by rw [h.2, show k_rt L i j = none from if_neg (by have := h.1; omega)]; rfl
  | f + 1, i, j, r, h => by
    rcases h with ⟨h1, h2⟩ | ⟨p, h1, h2, -⟩
    · rw [h1, h2]; rfl
    · rw [h1, h2]; rfl
theorem TI.of : ∀ (n i j : Nat) (r : Option Nat), i ≤ j → j ≤ L.length → TT ad lf rt n ((L.drop i).take (j - i)) r → TI ad lf rt L n i j r := by
  intro n
  induction n with
  | zero =>
    intro i j r hij hj h
    have := congrArg List.length h.1
    rw [List.length_take, List.length_drop] at this
    exact ⟨by simp at this; omega, h.2⟩
  | succ n ih =>
    intro i j r hij hj h
    rcases h with h | ⟨A, k, B, h1, h2, h3, h4, h5, h6⟩
    · have := congrArg List.length h.1
      rw [List.length_take, List.length_drop] at this
      simp at this
      exact Or.inl ⟨if_neg (by omega), h.2⟩
    · have hlen := congrArg List.length h1
      rw [List.length_take, List.length_drop, List.length_append, List.length_cons] at hlen
      have hat : ∀ q, q < j - i → (A ++ k :: B)[q]? = some (L.getD (i + q) 0) := fun q hq => by
        rw [← h1, List.getElem?_take_of_lt hq, List.getElem?_drop]
        exact getD_of (by omega)
      have hp : L.getD (i + A.length) 0 = k := by
        have := hat A.length (by omega)
        rw [List.getElem?_append_right (by omega), Nat.sub_self] at this
        exact (Option.some.inj this).symm
      have hA : A = (L.drop i).take (i + A.length - i) := by
        have := congrArg (List.take A.length) h1
        rw [List.take_take, List.take_left] at this
        rw [show i + A.length - i = min A.length (j - i) by omega]
        exact this.symm
      have hB : B = (L.drop (i + A.length + 1)).take (j - (i + A.length + 1)) := by
        have := congrArg (List.drop (A.length + 1)) h1
        rw [List.drop_take, List.drop_drop, show List.drop (A.length + 1) (A ++ k :: B) = B by
          rw [show A ++ k :: B = (A ++ [k]) ++ B by simp]
          exact List.drop_left' (by simp)] at this
        rw [show j - (i + A.length + 1) = j - i - (A.length + 1) by omega, show i + A.length + 1 = i + (A.length + 1) by omega]
        exact this.symm
      have hr : k_rt L i j = some (i + A.length) := by
        unfold k_rt
        rw [if_pos (by omega)]
        refine congrArg some (rIx_eq _ (fun q a b cne => ?_) (by omega) (by omega))
        show abv (L.getD (i + A.length) 0) (L.getD q 0) = true
        rw [hp]
        have hq := hat (q - i) (by omega)
        rw [show i + (q - i) = q by omega] at hq
        by_cases e : q - i < A.length
        · rw [List.getElem?_append_left e] at hq
          exact h3 _ (List.mem_of_getElem? hq)
        · rw [List.getElem?_append_right (by omega), show q - i - A.length = (q - i - A.length - 1) + 1 by omega, List.getElem?_cons_succ] at hq
          exact h4 _ (List.mem_of_getElem? hq)
      refine Or.inr ⟨i + A.length, hr, by rw [hp]; exact h2, ?_, ?_⟩
      · rw [hp]
        exact ih i (i + A.length) _ (by omega) (by omega) (by rw [← hA]; exact h5)
      · rw [hp]
        exact ih (i + A.length + 1) j _ (by omega) hj (by rw [← hB]; exact h6)
end TIs
theorem tlt_ahd {c : Co} {x y : Nat} : tlt (k_h c) x y ↔ ahd c x y = true := by
  unfold tlt ahd
  simp
theorem RW.ti {ad : Nat → Nat} {σ : Sg} {b x : Nat} {c : Co} (hI : CI c) (hw : RW ad (k_h c) σ b (k_row c x) true) : TI ad (fr σ 28) (fr σ 29) (k_srt c x) (k_srt c x).length 0 (k_srt c x).length (fr σ 60 b) := by
  obtain ⟨M, m1, m2, m3⟩ := hw.2.2.2 rfl
  have : M = k_srt c x := k_srt_eq hI m1 (m2.imp fun h => tlt_ahd.mp h)
  subst this
  refine TI.of _ 0 _ _ (by omega) (by omega) ?_
  rw [Nat.sub_zero, List.drop_zero, List.take_length]
  exact m3
/-- how deep -/
def lev (L : List Nat) : Nat → Nat → Nat → Nat
  | 0, _, _ => 0
  | f + 1, i, j => match k_rt L i j with
    | none => 0
    | some p => 1 + max (lev L f i p) (lev L f (p + 1) j)
theorem lev_le (L : List Nat) : ∀ f i j, lev L f i j ≤ f
  | 0, _, _ => Nat.le_refl _
  | f + 1, i, j => by
    unfold lev
    split
    · omega
    · rename_i p _
      have h1 := lev_le L f i p
      have h2 := lev_le L f (p + 1) j
      omega
section LEV
variable {c : Co} {L : List Nat}
theorem srt_lt (hs : L.Pairwise (fun a b => ahd c a b = true)) {a b : Nat} (hab : a < b) (hb : b < L.length) : ahd c (L.getD a 0) (L.getD b 0) = true := by
  have ha := getD_of (show a < L.length by omega)
  have hb' := getD_of hb
  have := List.pairwise_iff_getElem.mp hs a b (by omega) hb hab
  rw [(List.getElem?_eq_some_iff.mp ha).2, (List.getElem?_eq_some_iff.mp hb').2] at this
  exact this
theorem ahd_irr {x : Nat} : ¬ ahd c x x = true := by
  unfold ahd
  simp
theorem lev_ge (hs : L.Pairwise (fun a b => ahd c a b = true)) : ∀ f i j ov n p, i ≤ p → p < j → j ≤ L.length → (dsc c L (L.getD p 0) f i j ov n).1 ≤ n + lev L f i j
  | 0, i, j, ov, n, p, h1, h2, h3 => Nat.le_refl _
  | f + 1, i, j, ov, n, p, h1, h2, h3 => by
    obtain ⟨r, hr⟩ := k_rt_some (L := L) (show i < j by omega)
    have hin := k_rt_in hr
    unfold dsc lev
    rw [hr]
    simp only
    by_cases e : L.getD r 0 = L.getD p 0
    · rw [if_pos e]
      show n + 1 ≤ _
      omega
    · rw [if_neg e]
      have hne : p ≠ r := fun z => e (by rw [z])
      by_cases hpr : p < r
      · rw [if_pos (srt_lt hs hpr (by omega))]
        have := lev_ge hs f i r (some r) (n + 1) p h1 hpr (by omega)
        omega
      · rw [if_neg (fun z => ahd_as _ _ (srt_lt hs (show r < p by omega) (by omega)) z)]
        have := lev_ge hs f (r + 1) j (some r) (n + 1) p (by omega) h2 h3
        omega
theorem lev_at (hs : L.Pairwise (fun a b => ahd c a b = true)) : ∀ f i j, i < j → j ≤ L.length → j - i ≤ f → ∃ p, i ≤ p ∧ p < j ∧ ∀ ov n, (dsc c L (L.getD p 0) f i j ov n).1 = n + lev L f i j
  | 0, i, j, h1, h2, h3 => by omega
  | f + 1, i, j, h1, h2, h3 => by
    obtain ⟨r, hr⟩ := k_rt_some (L := L) h1
    have hin := k_rt_in hr
    have hl : lev L (f + 1) i j = 1 + max (lev L f i r) (lev L f (r + 1) j) := by
      show (match k_rt L i j with
        | none => 0
        | some p => 1 + max (lev L f i p) (lev L f (p + 1) j)) = _
      rw [hr]
    have hz : ∀ a b, b ≤ a → lev L f a b = 0 := fun a b hab => by
      cases f with
      | zero => rfl
      | succ f =>
        show (match k_rt L a b with
          | none => 0
          | some p => 1 + max (lev L f a p) (lev L f (p + 1) b)) = _
        rw [show k_rt L a b = none from if_neg (by omega)]
    have hlt : ∀ a b, a < b → b < L.length → ¬ L.getD a 0 = L.getD b 0 := fun a b hab hb z => by
      have := srt_lt hs hab hb
      rw [z] at this
      exact ahd_irr this
    by_cases c1 : i < r ∧ lev L f (r + 1) j ≤ lev L f i r
    · obtain ⟨p, q1, q2, q3⟩ := lev_at hs f i r c1.1 (by omega) (by omega)
      refine ⟨p, q1, by omega, fun ov n => ?_⟩
      unfold dsc
      rw [hr]
      simp only
      rw [if_neg (fun z => hlt p r q2 (by omega) z.symm), if_pos (srt_lt hs q2 (by omega)), q3, hl]
      omega
    · by_cases c2 : r + 1 < j
      · have hge : lev L f i r ≤ lev L f (r + 1) j := by
          by_cases c3 : i < r
          · omega
          · rw [hz i r (by omega)]; omega
        obtain ⟨p, q1, q2, q3⟩ := lev_at hs f (r + 1) j c2 h2 (by omega)
        refine ⟨p, by omega, q2, fun ov n => ?_⟩
        unfold dsc
        rw [hr]
        simp only
        rw [if_neg (hlt r p (by omega) (by omega)), if_neg (fun z => ahd_as _ _ (srt_lt hs (show r < p by omega) (by omega)) z), q3, hl]
        omega
      · have h0 := hz (r + 1) j (by omega)
        have h00 : lev L f i r = 0 := by
          by_cases c3 : i < r
          · omega
          · exact hz i r (by omega)
        refine ⟨r, hin.1, hin.2, fun ov n => ?_⟩
        unfold dsc
        rw [hr]
        simp only
        rw [if_pos trivial, hl, h0, h00]
        rfl
theorem mxN_ge {f : Nat → Nat} : ∀ n i, i < n → f i ≤ mxN f n
  | 0, i, h => by omega
  | n + 1, i, h => by
    unfold mxN
    by_cases e : i = n
    · subst e
      split <;> omega
    · have := mxN_ge (f := f) n i (by omega)
      split <;> omega
end LEV
theorem k_deep_lev {c : Co} (hI : CI c) (b : Nat) : k_deep c b = lev (k_srt c b) (k_srt c b).length 0 (k_srt c b).length := by
  have hs := k_srt_srt hI b
  refine Nat.le_antisymm (mxN_le _ fun i hi => ?_) ?_
  · have := lev_ge hs (k_srt c b).length 0 (k_srt c b).length none 0 i (by omega) hi (by omega)
    unfold k_dsc
    omega
  · rcases Nat.eq_zero_or_pos (k_srt c b).length with e | e
    · have := lev_le (k_srt c b) (k_srt c b).length 0 (k_srt c b).length
      omega
    · obtain ⟨p, q1, q2, q3⟩ := lev_at hs (k_srt c b).length 0 (k_srt c b).length e (by omega) (by omega)
      have h1 := mxN_ge (f := fun i => (k_dsc c b ((k_srt c b).getD i 0)).1) (k_srt c b).length p q2
      have h2 := q3 none 0
      unfold k_deep
      have h3 : (k_dsc c b ((k_srt c b).getD p 0)).1 = 0 + lev (k_srt c b) (k_srt c b).length 0 (k_srt c b).length := h2
      omega
theorem max_nI {a b : Nat} (ha : a < 2 ^ 31) (hb : b < 2 ^ 31) : (if nI a < nI b then nI b else nI a) = nI (max a b) := by
  have h1 := nI_toInt ha
  have h2 := nI_toInt hb
  by_cases h : a < b
  · rw [if_pos (by rw [Int32.lt_iff_toInt_lt, h1, h2]; omega), Nat.max_eq_right (by omega)]
  · rw [if_neg (fun z => by rw [Int32.lt_iff_toInt_lt, h1, h2] at z; omega), Nat.max_eq_left (by omega)]
section T76
variable {D : Dx} {ad : Nat → Nat} {σ : Sg} {b x : Nat} {c : Co} {d : Nat} {t : Bool}
theorem srt_en {hs : Nat → Nat} (hI : CI c) (hE : EN ad hs σ (k_row c x)) {p : Nat} (hp : p < (k_srt c x).length) : (k_srt c x).getD p 0 ∈ k_row c x := (k_srt_perm hI x).mem_iff.mp (getD_mem hp)
theorem cx_steps4 (hI : CI c) (hw : RW ad (k_h c) σ b (k_row c x) t) (hE : EN ad (k_h c) σ (k_row c x)) {key : Nat} (hk : key ≤ 999999) (h4 : kd σ b = 4) : Ct (wX D) yX8_steps cX8_steps 5 (some .int) [.ref b, .int (nI (k_h c key)), .int (nI key)] σ (PE (some (.int (nI (k_dsc c x key).1))) σ) (d + 1) 0 0 := by
  have ht : t = true := by
    have := hw.1
    cases t
    · rw [h4] at this; cases this
    · rfl
  subst ht
  have hTI := hw.ti hI
  have hl49 := (k_srt_le hI (b := x)).1
  refine Ct.of KXok (by decide) (Nat.le_of_ble_eq_true rfl) rfl fun Y C hQ hNm => ?_
  have loop : ∀ (f i j : Nat) (ov : Option Nat) (n : Nat) (r : Option Nat), j ≤ (k_srt c x).length → TI ad (fr σ 28) (fr σ 29) (k_srt c x) f i j r → (dsc c (k_srt c x) key f i j ov n).1 = (k_dsc c x key).1 → Zj (wX D) Y σ 0 0 8 [some (.ref b), some (.int (nI (k_h c key))), some (.int (nI key)), some (.int (nI n)), some (va_rf r)] [] := by
    intro f
    induction f with
    | zero =>
      intro i j ov n r hj hT hd
      have hr := hT.2
      subst hr
      have hd : n = (k_dsc c x key).1 := hd
      rw [← hd] at hQ
      show Zj _ _ _ _ _ _ [some (.ref b), some (.int (nI (k_h c key))), some (.int (nI key)), some (.int (nI n)), some .null] []
      first | refine z_al4 (q := 10) C dX8_steps_8 rfl ?_ | refine z_al4q (q := 10) C dX8_steps_8 rfl ?_ | refine z_al4u (q := 10) C dX8_steps_8 rfl ?_
      refine z_ifnull_u (tgt := 57) C dX8_steps_10 (by decide) ?_
      refine z_il3 (q := 58) C dX8_steps_57 rfl ?_
      refine z_iret C hQ dX8_steps_58 (by omega) (by omega) ?_
      exact ⟨rfl, rfl⟩
    | succ f ih =>
      intro i j ov n r hj hT hd
      rcases hT with ⟨hz, hr⟩ | ⟨p, hz, hr, t1, t2⟩
      · subst hr
        have hd : (dsc c (k_srt c x) key (f + 1) i j ov n).1 = (k_dsc c x key).1 := hd
        unfold dsc at hd
        rw [hz] at hd
        have hd : n = (k_dsc c x key).1 := hd
        rw [← hd] at hQ
        show Zj _ _ _ _ _ _ [some (.ref b), some (.int (nI (k_h c key))), some (.int (nI key)), some (.int (nI n)), some .null] []
        first | refine z_al4 (q := 10) C dX8_steps_8 rfl ?_ | refine z_al4q (q := 10) C dX8_steps_8 rfl ?_ | refine z_al4u (q := 10) C dX8_steps_8 rfl ?_
        refine z_ifnull_u (tgt := 57) C dX8_steps_10 (by decide) ?_
        refine z_il3 (q := 58) C dX8_steps_57 rfl ?_
        refine z_iret C hQ dX8_steps_58 (by omega) (by omega) ?_
        exact ⟨rfl, rfl⟩
      · subst hr
        have hin := k_rt_in hz
        obtain ⟨hkd, e20, -, e23, e5, e6⟩ := hE _ (srt_en hI hE (show p < (k_srt c x).length by omega))
        unfold dsc at hd
        rw [hz] at hd
        simp only at hd
        generalize hkk : (k_srt c x).getD p 0 = k at *
        have hh := k_h_lt c key
        show Zj _ _ _ _ _ _ [some (.ref b), some (.int (nI (k_h c key))), some (.int (nI key)), some (.int (nI n)), some (.ref (ad k))] []
        first | refine z_al4 (q := 10) C dX8_steps_8 rfl ?_ | refine z_al4q (q := 10) C dX8_steps_8 rfl ?_ | refine z_al4u (q := 10) C dX8_steps_8 rfl ?_
        refine z_ifnull_r (q := 13) C dX8_steps_10 rfl ?_
        first | refine z_iinc3N (q := 16) C dX8_steps_13 rfl (by first | exact loC_i | exact loC_r | exact loC_n | exact loC_q | exact loC_u) ?_ | refine z_iinc3 (q := 16) C dX8_steps_13 rfl rfl (by first | exact loC_i | exact loC_r | exact loC_n | exact loC_q | exact loC_u) ?_
        first | refine z_al4 (q := 18) C dX8_steps_16 rfl ?_ | refine z_al4q (q := 18) C dX8_steps_16 rfl ?_ | refine z_al4u (q := 18) C dX8_steps_16 rfl ?_
        refine xg_X8_41 (q := 21) C (by exact hkd) dX8_steps_18 rfl ?_
        rw [e20]
        refine z_il2 (q := 22) C dX8_steps_21 rfl ?_
        refine z_icmp_neN (tgt := 29) (q := 25) C dX8_steps_22 (by decide) rfl (by omega) (by omega) (fun c22 => ?_) (fun c22 => ?_)
        · rw [if_neg c22] at hd
          first | refine z_al4 (q := 31) C dX8_steps_29 rfl ?_ | refine z_al4q (q := 31) C dX8_steps_29 rfl ?_ | refine z_al4u (q := 31) C dX8_steps_29 rfl ?_
          refine z_il1 (q := 32) C dX8_steps_31 rfl ?_
          refine z_il2 (q := 33) C dX8_steps_32 rfl ?_
          refine xc_X8_44 (q := 36) C (cx_place (d := d) hkd e23 e20 e6 hh (by omega) (by omega)) (by exact hkd) dX8_steps_33 rfl rfl rfl (Nat.le_of_ble_eq_true rfl) (by first | decide | omega) (by omega) (by omega) (kkI fun r33 σ33 h33 => ?_)
          obtain ⟨e33, hpl⟩ := h33
          rw [e33]
          have hpl : r33 < 0 ↔ tlt (k_h c) key k := hpl
          refine z_if_ge (tgt := 47) (q := 39) C dX8_steps_36 (by decide) rfl (fun c36 => ?_) (fun c36 => ?_)
          · rw [if_neg (fun z => absurd (hpl.mpr (tlt_ahd.mpr z)) (Int32.not_lt.mpr c36))] at hd
            have hg := ih (p + 1) j (some p) (n + 1) (fr σ 29 (ad k)) hj t2 hd
            first | refine z_al4 (q := 49) C dX8_steps_47 rfl ?_ | refine z_al4q (q := 49) C dX8_steps_47 rfl ?_ | refine z_al4u (q := 49) C dX8_steps_47 rfl ?_
            refine xg_X8_51 (q := 52) C (by exact hkd) dX8_steps_49 rfl ?_
            first | refine z_as4 (q := 54) C dX8_steps_52 rfl (by first | exact loC_i | exact loC_r | exact loC_n | exact loC_q | exact loC_u) ?_ | refine z_as4q (q := 54) C dX8_steps_52 rfl (by first | exact loC_i | exact loC_r | exact loC_n | exact loC_q | exact loC_u) ?_ | refine z_asu4 (q := 54) C dX8_steps_52 rfl (by first | exact loC_i | exact loC_r | exact loC_n | exact loC_q | exact loC_u) ?_
            refine z_goto (tgt := 8) C dX8_steps_54 (by decide) ?_
            exact hg
          · rw [if_pos (tlt_ahd.mp (hpl.mp (Int32.not_le.mp c36)))] at hd
            have hg := ih i p (some p) (n + 1) (fr σ 28 (ad k)) (by omega) t1 hd
            first | refine z_al4 (q := 41) C dX8_steps_39 rfl ?_ | refine z_al4q (q := 41) C dX8_steps_39 rfl ?_ | refine z_al4u (q := 41) C dX8_steps_39 rfl ?_
            refine xg_X8_48 (q := 44) C (by exact hkd) dX8_steps_41 rfl ?_
            refine z_goto (tgt := 52) C dX8_steps_44 (by decide) ?_
            first | refine z_as4 (q := 54) C dX8_steps_52 rfl (by first | exact loC_i | exact loC_r | exact loC_n | exact loC_q | exact loC_u) ?_ | refine z_as4q (q := 54) C dX8_steps_52 rfl (by first | exact loC_i | exact loC_r | exact loC_n | exact loC_q | exact loC_u) ?_ | refine z_asu4 (q := 54) C dX8_steps_52 rfl (by first | exact loC_i | exact loC_r | exact loC_n | exact loC_q | exact loC_u) ?_
            refine z_goto (tgt := 8) C dX8_steps_54 (by decide) ?_
            exact hg
        · rw [if_pos c22] at hd
          have hd : n + 1 = (k_dsc c x key).1 := hd
          rw [← hd] at hQ
          refine z_null (q := 26) C dX8_steps_25 rfl ?_
          refine z_goto (tgt := 52) C dX8_steps_26 (by decide) ?_
          first | refine z_as4 (q := 54) C dX8_steps_52 rfl (by first | exact loC_i | exact loC_r | exact loC_n | exact loC_q | exact loC_u) ?_ | refine z_as4q (q := 54) C dX8_steps_52 rfl (by first | exact loC_i | exact loC_r | exact loC_n | exact loC_q | exact loC_u) ?_ | refine z_asu4 (q := 54) C dX8_steps_52 rfl (by first | exact loC_i | exact loC_r | exact loC_n | exact loC_q | exact loC_u) ?_
          refine z_goto (tgt := 8) C dX8_steps_54 (by decide) ?_
          first | refine z_al4 (q := 10) C dX8_steps_8 rfl ?_ | refine z_al4q (q := 10) C dX8_steps_8 rfl ?_ | refine z_al4u (q := 10) C dX8_steps_8 rfl ?_
          refine z_ifnull_u (tgt := 57) C dX8_steps_10 (by decide) ?_
          refine z_il3 (q := 58) C dX8_steps_57 rfl ?_
          refine z_iret C hQ dX8_steps_58 (by omega) (by omega) ?_
          exact ⟨rfl, rfl⟩
  refine z_iconst (q := 1) (v := nI 0) C dX8_steps_0 rfl (by decide) ?_
  refine z_is3 (q := 2) C dX8_steps_1 rfl (by first | exact loC_i | exact loC_r | exact loC_n | exact loC_q | exact loC_u) ?_
  first | refine z_al0 (q := 3) C dX8_steps_2 rfl ?_ | refine z_al0q (q := 3) C dX8_steps_2 rfl ?_ | refine z_al0u (q := 3) C dX8_steps_2 rfl ?_
  refine xg_X8_11 (q := 6) C (by exact h4) dX8_steps_3 rfl ?_
  first | refine z_as4 (q := 8) C dX8_steps_6 rfl (by first | exact loC_i | exact loC_r | exact loC_n | exact loC_q | exact loC_u) ?_ | refine z_as4q (q := 8) C dX8_steps_6 rfl (by first | exact loC_i | exact loC_r | exact loC_n | exact loC_q | exact loC_u) ?_ | refine z_asu4 (q := 8) C dX8_steps_6 rfl (by first | exact loC_i | exact loC_r | exact loC_n | exact loC_q | exact loC_u) ?_
  exact loop _ 0 _ none 0 _ (by omega) hTI rfl
theorem cx_steps3 {hs : Nat → Nat} {L : List Nat} {y : Int32} (hw : RW ad hs σ b L t) (hE : EN ad hs σ L) {key : Nat} (hk : key ≤ 999999) (hl : L.length ≤ 49) (h3 : kd σ b = 3) : Ct (wX D) yX4_steps cX4_steps 5 (some .int) [.ref b, .int y, .int (nI key)] σ (PE (some (.int (nI (stl key L)))) σ) (d + 1) 0 0 := by
  refine Ct.of KXok (by decide) (Nat.le_of_ble_eq_true rfl) rfl fun Y C hQ hNm => ?_
  have loop : ∀ (R : List Nat) (n : Nat) (r : Option Nat), (∀ x ∈ R, x ∈ L) → CH ad (fr σ 27) R r → n + stl key R = stl key L → Zj (wX D) Y σ 0 0 8 [some (.ref b), some (.int y), some (.int (nI key)), some (.int (nI n)), some (va_rf r)] [] := by
    intro R
    induction R with
    | nil =>
      intro n r hs' hc hf
      have hc : r = none := hc
      subst hc
      have hf : n = stl key L := hf
      rw [← hf] at hQ
      show Zj _ _ _ _ _ _ [some (.ref b), some (.int y), some (.int (nI key)), some (.int (nI n)), some .null] []
      first | refine z_al4 (q := 10) C dX4_steps_8 rfl ?_ | refine z_al4q (q := 10) C dX4_steps_8 rfl ?_ | refine z_al4u (q := 10) C dX4_steps_8 rfl ?_
      refine z_ifnull_u (tgt := 39) C dX4_steps_10 (by decide) ?_
      refine z_il3 (q := 40) C dX4_steps_39 rfl ?_
      refine z_iret C hQ dX4_steps_40 (by omega) (by omega) ?_
      exact ⟨rfl, rfl⟩
    | cons k R ih =>
      intro n r hs' hc hf
      obtain ⟨rfl, hc⟩ := hc
      obtain ⟨hkd, e20, -, -, e5, -⟩ := hE k (hs' k (by simp))
      rw [show stl key (k :: R) = if k = key then 1 else 1 + stl key R from rfl] at hf
      show Zj _ _ _ _ _ _ [some (.ref b), some (.int y), some (.int (nI key)), some (.int (nI n)), some (.ref (ad k))] []
      first | refine z_al4 (q := 10) C dX4_steps_8 rfl ?_ | refine z_al4q (q := 10) C dX4_steps_8 rfl ?_ | refine z_al4u (q := 10) C dX4_steps_8 rfl ?_
      refine z_ifnull_r (q := 13) C dX4_steps_10 rfl ?_
      first | refine z_iinc3N (q := 16) C dX4_steps_13 rfl (by first | exact loC_i | exact loC_r | exact loC_n | exact loC_q | exact loC_u) ?_ | refine z_iinc3 (q := 16) C dX4_steps_13 rfl rfl (by first | exact loC_i | exact loC_r | exact loC_n | exact loC_q | exact loC_u) ?_
      first | refine z_al4 (q := 18) C dX4_steps_16 rfl ?_ | refine z_al4q (q := 18) C dX4_steps_16 rfl ?_ | refine z_al4u (q := 18) C dX4_steps_16 rfl ?_
      refine xg_X4_13 (q := 21) C (by exact hkd) dX4_steps_18 rfl ?_
      rw [e20]
      refine z_il2 (q := 22) C dX4_steps_21 rfl ?_
      refine z_icmp_neN (tgt := 29) (q := 25) C dX4_steps_22 (by decide) rfl (by omega) (by omega) (fun c22 => ?_) (fun c22 => ?_)
      · rw [if_neg c22] at hf
        have hg := ih (n + 1) (fr σ 27 (ad k)) (fun x hx => hs' x (by simp [hx])) hc (by omega)
        first | refine z_al4 (q := 31) C dX4_steps_29 rfl ?_ | refine z_al4q (q := 31) C dX4_steps_29 rfl ?_ | refine z_al4u (q := 31) C dX4_steps_29 rfl ?_
        refine xg_X4_19 (q := 34) C (by exact hkd) dX4_steps_31 rfl ?_
        first | refine z_as4 (q := 36) C dX4_steps_34 rfl (by first | exact loC_i | exact loC_r | exact loC_n | exact loC_q | exact loC_u) ?_ | refine z_as4q (q := 36) C dX4_steps_34 rfl (by first | exact loC_i | exact loC_r | exact loC_n | exact loC_q | exact loC_u) ?_ | refine z_asu4 (q := 36) C dX4_steps_34 rfl (by first | exact loC_i | exact loC_r | exact loC_n | exact loC_q | exact loC_u) ?_
        refine z_goto (tgt := 8) C dX4_steps_36 (by decide) ?_
        exact hg
      · rw [if_pos c22] at hf
        rw [← hf] at hQ
        refine z_null (q := 26) C dX4_steps_25 rfl ?_
        refine z_goto (tgt := 34) C dX4_steps_26 (by decide) ?_
        first | refine z_as4 (q := 36) C dX4_steps_34 rfl (by first | exact loC_i | exact loC_r | exact loC_n | exact loC_q | exact loC_u) ?_ | refine z_as4q (q := 36) C dX4_steps_34 rfl (by first | exact loC_i | exact loC_r | exact loC_n | exact loC_q | exact loC_u) ?_ | refine z_asu4 (q := 36) C dX4_steps_34 rfl (by first | exact loC_i | exact loC_r | exact loC_n | exact loC_q | exact loC_u) ?_
        refine z_goto (tgt := 8) C dX4_steps_36 (by decide) ?_
        first | refine z_al4 (q := 10) C dX4_steps_8 rfl ?_ | refine z_al4q (q := 10) C dX4_steps_8 rfl ?_ | refine z_al4u (q := 10) C dX4_steps_8 rfl ?_
        refine z_ifnull_u (tgt := 39) C dX4_steps_10 (by decide) ?_
        refine z_il3 (q := 40) C dX4_steps_39 rfl ?_
        refine z_iret C hQ dX4_steps_40 (by omega) (by omega) ?_
        exact ⟨rfl, rfl⟩
  refine z_iconst (q := 1) (v := nI 0) C dX4_steps_0 rfl (by decide) ?_
  refine z_is3 (q := 2) C dX4_steps_1 rfl (by first | exact loC_i | exact loC_r | exact loC_n | exact loC_q | exact loC_u) ?_
  first | refine z_al0 (q := 3) C dX4_steps_2 rfl ?_ | refine z_al0q (q := 3) C dX4_steps_2 rfl ?_ | refine z_al0u (q := 3) C dX4_steps_2 rfl ?_
  refine xc_X4_7 (q := 6) C (cx_first (d := d) (Or.inl h3)) (by exact h3) dX4_steps_3 rfl rfl rfl (Nat.le_of_ble_eq_true rfl) (by first | decide | omega) (by omega) (by omega) (kkE ?_)
  first | refine z_as4 (q := 8) C dX4_steps_6 rfl (by first | exact loC_i | exact loC_r | exact loC_n | exact loC_q | exact loC_u) ?_ | refine z_as4q (q := 8) C dX4_steps_6 rfl (by first | exact loC_i | exact loC_r | exact loC_n | exact loC_q | exact loC_u) ?_ | refine z_asu4 (q := 8) C dX4_steps_6 rfl (by first | exact loC_i | exact loC_r | exact loC_n | exact loC_q | exact loC_u) ?_
  exact loop L 0 _ (fun x hx => hx) hw.2.2.1.ch (by omega)
theorem cx_levs (hI : CI c) (hE : EN ad (k_h c) σ (k_row c x)) : ∀ (f i j : Nat) (r : Option Nat), f ≤ 50 → j ≤ (k_srt c x).length → TI ad (fr σ 28) (fr σ 29) (k_srt c x) f i j r → Ct (wX D) yX8_levels_2 cX8_levels_2 1 (some .int) [va_rf r] σ (PE (some (.int (nI (lev (k_srt c x) f i j)))) σ) (f + 1) 0 0 := by
  intro f
  induction f with
  | zero =>
    intro i j r hf hj hT
    have hr := hT.2
    subst hr
    show Ct (wX D) yX8_levels_2 cX8_levels_2 1 (some .int) [.null] σ _ _ 0 0
    refine Ct.of KXok (by decide) (Nat.le_of_ble_eq_true rfl) rfl fun Y C hQ hNm => ?_
    first | refine z_al0 (q := 1) C dX8_levels_2_0 rfl ?_ | refine z_al0q (q := 1) C dX8_levels_2_0 rfl ?_ | refine z_al0u (q := 1) C dX8_levels_2_0 rfl ?_
    refine z_ifnonnull_u (q := 4) C dX8_levels_2_1 rfl ?_
    refine z_iconst (q := 5) (v := nI 0) C dX8_levels_2_4 rfl (by decide) ?_
    refine z_goto (tgt := 27) C dX8_levels_2_5 (by decide) ?_
    refine z_iret C hQ dX8_levels_2_27 (by omega) (by omega) ?_
    exact ⟨rfl, rfl⟩
  | succ f ih =>
    intro i j r hf hj hT
    rcases hT with ⟨hz, hr⟩ | ⟨p, hz, hr, t1, t2⟩
    · subst hr
      have hlv : lev (k_srt c x) (f + 1) i j = 0 := by
        unfold lev
        rw [hz]
      rw [hlv]
      show Ct (wX D) yX8_levels_2 cX8_levels_2 1 (some .int) [.null] σ _ _ 0 0
      refine Ct.of KXok (by decide) (Nat.le_of_ble_eq_true rfl) rfl fun Y C hQ hNm => ?_
      first | refine z_al0 (q := 1) C dX8_levels_2_0 rfl ?_ | refine z_al0q (q := 1) C dX8_levels_2_0 rfl ?_ | refine z_al0u (q := 1) C dX8_levels_2_0 rfl ?_
      refine z_ifnonnull_u (q := 4) C dX8_levels_2_1 rfl ?_
      refine z_iconst (q := 5) (v := nI 0) C dX8_levels_2_4 rfl (by decide) ?_
      refine z_goto (tgt := 27) C dX8_levels_2_5 (by decide) ?_
      refine z_iret C hQ dX8_levels_2_27 (by omega) (by omega) ?_
      exact ⟨rfl, rfl⟩
    · subst hr
      have hin := k_rt_in hz
      have hkd := (hE _ (srt_en hI hE (show p < (k_srt c x).length by omega))).1
      have hlv : lev (k_srt c x) (f + 1) i j = 1 + max (lev (k_srt c x) f i p) (lev (k_srt c x) f (p + 1) j) := by
        show (match k_rt (k_srt c x) i j with
          | none => 0
          | some p => 1 + max (lev (k_srt c x) f i p) (lev (k_srt c x) f (p + 1) j)) = _
        rw [hz]
      rw [hlv]
      have c1 := ih i p _ (by omega) (by omega) t1
      have c2 := ih (p + 1) j _ (by omega) hj t2
      have b1 := lev_le (k_srt c x) f i p
      have b2 := lev_le (k_srt c x) f (p + 1) j
      generalize (k_srt c x).getD p 0 = k at *
      show Ct (wX D) yX8_levels_2 cX8_levels_2 1 (some .int) [.ref (ad k)] σ _ _ 0 0
      refine Ct.of KXok (by decide) (Nat.le_of_ble_eq_true rfl) rfl fun Y C hQ hNm => ?_
      first | refine z_al0 (q := 1) C dX8_levels_2_0 rfl ?_ | refine z_al0q (q := 1) C dX8_levels_2_0 rfl ?_ | refine z_al0u (q := 1) C dX8_levels_2_0 rfl ?_
      refine z_ifnonnull_r (tgt := 8) C dX8_levels_2_1 (by decide) ?_
      refine z_iconst (q := 9) (v := nI 1) C dX8_levels_2_8 rfl (by decide) ?_
      first | refine z_al0 (q := 10) C dX8_levels_2_9 rfl ?_ | refine z_al0q (q := 10) C dX8_levels_2_9 rfl ?_ | refine z_al0u (q := 10) C dX8_levels_2_9 rfl ?_
      refine xg_X8_48 (q := 13) C (by exact hkd) dX8_levels_2_10 rfl ?_
      refine xc_X8_57 (q := 16) C c1 dX8_levels_2_13 rfl rfl rfl (Nat.le_of_ble_eq_true rfl) (by first | decide | omega) (by omega) (by omega) (kkE ?_)
      first | refine z_al0 (q := 17) C dX8_levels_2_16 rfl ?_ | refine z_al0q (q := 17) C dX8_levels_2_16 rfl ?_ | refine z_al0u (q := 17) C dX8_levels_2_16 rfl ?_
      refine xg_X8_51 (q := 20) C (by exact hkd) dX8_levels_2_17 rfl ?_
      refine xc_X8_57 (q := 23) C c2 dX8_levels_2_20 rfl rfl rfl (Nat.le_of_ble_eq_true rfl) (by first | decide | omega) (by omega) (by omega) (kkE ?_)
      refine xc_X8_61 (q := 26) C dX8_levels_2_23 rfl (Nat.le_of_ble_eq_true rfl) (by omega) (by omega) (by first | decide | omega) ?_
      rw [max_nI (by omega) (by omega)]
      first | refine z_iaddN (q := 27) C dX8_levels_2_26 rfl ?_ | refine z_iadd (q := 27) C dX8_levels_2_26 rfl ?_
      refine z_iret C hQ dX8_levels_2_27 (by omega) (by omega) ?_
      exact ⟨rfl, rfl⟩
theorem cx_levels4 (hI : CI c) (hw : RW ad (k_h c) σ b (k_row c x) t) (hE : EN ad (k_h c) σ (k_row c x)) (h4 : kd σ b = 4) : Ct (wX D) yX8_levels cX8_levels 1 (some .int) [.ref b] σ (PE (some (.int (nI (k_deep c x)))) σ) 60 0 0 := by
  have ht : t = true := by
    have := hw.1
    cases t
    · rw [h4] at this; cases this
    · rfl
  subst ht
  have hl49 := (k_srt_le hI (b := x)).1
  rw [k_deep_lev hI]
  refine Ct.of KXok (by decide) (Nat.le_of_ble_eq_true rfl) rfl fun Y C hQ hNm => ?_
  first | refine z_al0 (q := 1) C dX8_levels_0 rfl ?_ | refine z_al0q (q := 1) C dX8_levels_0 rfl ?_ | refine z_al0u (q := 1) C dX8_levels_0 rfl ?_
  refine xg_X8_11 (q := 4) C (by exact h4) dX8_levels_1 rfl ?_
  refine xc_X8_57 (q := 7) C (cx_levs hI hE _ 0 _ _ (by omega) (by omega) (hw.ti hI)) dX8_levels_4 rfl rfl rfl (Nat.le_of_ble_eq_true rfl) (by first | decide | omega) (by omega) (by omega) (kkE ?_)
  refine z_iret C hQ dX8_levels_7 (by omega) (by omega) ?_
  exact ⟨rfl, rfl⟩
end T76
