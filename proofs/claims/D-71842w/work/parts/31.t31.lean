/-! the twin: facts of bins, rows, nodes, counts -/
section ZS
variable {S : Type} {w : Wd S} {Y : Fz} {cc : ByteArray} {own : String} {ret : Option FieldType} {d mc ms : Nat} {σ : S} {k n pc q : Nat} {lo : Lo} {st : List Value}
theorem z_tswI (C : Cx w Y cc own ret d mc ms) {dflt l h : Int} {offs : Array Int} {len : Nat} {x : Int32} {off : Int} {tgt : Nat} (hd : decode cc pc = .ok (.tableswitch dflt l h offs, len)) (h1 : ¬ x.toInt < l) (h2 : ¬ h < x.toInt) (ho : offs[(x.toInt - l).toNat]? = some off) (ht : (pc : Int) + off = (tgt : Int)) (g : Zj w Y σ k n tgt lo st) : Zj w Y σ k n pc lo (.int x :: st) := fun H locs ls g1 g2 g3 g4 => lv_tableIn C.1 C.2.1 hd h1 h2 ho ht (g H locs ls g1 g2 g3 g4)
theorem z_tswO (C : Cx w Y cc own ret d mc ms) {dflt l h : Int} {offs : Array Int} {len : Nat} {x : Int32} {tgt : Nat} (hd : decode cc pc = .ok (.tableswitch dflt l h offs, len)) (h1 : x.toInt < l ∨ h < x.toInt) (ht : (pc : Int) + dflt = (tgt : Int)) (g : Zj w Y σ k n tgt lo st) : Zj w Y σ k n pc lo (.int x :: st) := fun H locs ls g1 g2 g3 g4 => lv_tableOut C.1 C.2.1 hd h1 ht (g H locs ls g1 g2 g3 g4)
end ZS
/-- over 0 .. n - 1: the most, how many, the sum -/
def mxN (f : Nat → Nat) : Nat → Nat
  | 0 => 0
  | n + 1 => if mxN f n < f n then f n else mxN f n
def cntN (p : Nat → Bool) : Nat → Nat
  | 0 => 0
  | n + 1 => cntN p n + if p n = true then 1 else 0
def sumN (f : Nat → Nat) : Nat → Nat
  | 0 => 0
  | n + 1 => sumN f n + f n
theorem mxN_le {f : Nat → Nat} {B : Nat} : ∀ n, (∀ i, i < n → f i ≤ B) → mxN f n ≤ B
  | 0, _ => Nat.zero_le _
  | n + 1, h => by
    unfold mxN
    split
    · exact h n (by omega)
    · exact mxN_le n (fun i hi => h i (by omega))
theorem cntN_le {p : Nat → Bool} : ∀ n, cntN p n ≤ n
  | 0 => Nat.le_refl _
  | n + 1 => by
    have := cntN_le (p := p) n
    unfold cntN
    split <;> omega
theorem dsc_le (c : Co) (L : List Nat) (key : Nat) : ∀ f i j ov n, (dsc c L key f i j ov n).1 ≤ n + f
  | 0, i, j, ov, n => Nat.le_refl _
  | f + 1, i, j, ov, n => by
    unfold dsc
    split
    · exact Nat.le_add_right _ _
    · split
      · show n + 1 ≤ n + (f + 1)
        omega
      · split
        · exact Nat.le_trans (dsc_le c L key f i _ (some _) (n + 1)) (by omega)
        · exact Nat.le_trans (dsc_le c L key f _ j (some _) (n + 1)) (by omega)
theorem k_dsc_le {c : Co} (h : CI c) (b key : Nat) : (k_dsc c b key).1 ≤ 49 := by
  have := dsc_le c (k_srt c b) key (k_srt c b).length 0 (k_srt c b).length none 0
  have := (k_srt_le h (b := b)).1
  unfold k_dsc
  omega
/-- where a key that is there ends -/
theorem dsc_found {c : Co} {L : List Nat} {key : Nat} (hs : L.Pairwise (fun a b => ahd c a b = true)) : ∀ f i j ov n p, i ≤ p → p < j → j ≤ L.length → L.getD p 0 = key → j - i ≤ f → ∃ r, k_rt L (dsc c L key f i j ov n).2.1 (dsc c L key f i j ov n).2.2.1 = some r ∧ L.getD r 0 = key ∧ (dsc c L key f i j ov n).2.2.1 ≤ L.length ∧ (∀ o, (dsc c L key f i j ov n).2.2.2 = some o → o < L.length ∨ ov = some o)
  | 0, i, j, ov, n, p, h1, h2, h3, h4, h5 => by omega
  | f + 1, i, j, ov, n, p, h1, h2, h3, h4, h5 => by
    obtain ⟨r, hr⟩ := k_rt_some (L := L) (show i < j by omega)
    have hin := k_rt_in hr
    have hlt : ∀ a b, a < b → b < L.length → ahd c (L.getD a 0) (L.getD b 0) = true := fun a b hab hb => by
      have ha := getD_of (show a < L.length by omega)
      have hb' := getD_of hb
      have := List.pairwise_iff_getElem.mp hs a b (by omega) hb hab
      rw [(List.getElem?_eq_some_iff.mp ha).2, (List.getElem?_eq_some_iff.mp hb').2] at this
      exact this
    unfold dsc
    rw [hr]
    simp only
    by_cases e : L.getD r 0 = key
    · rw [if_pos e]
      exact ⟨r, hr, e, h3, fun o ho => Or.inr ho⟩
    · rw [if_neg e]
      have hne : p ≠ r := fun z => e (by rw [← z]; exact h4)
      by_cases ha : ahd c key (L.getD r 0) = true
      · rw [if_pos ha]
        have hpr : p < r := by
          rcases Nat.lt_or_gt_of_ne hne with q | q
          · exact q
          · have := hlt r p q (by omega)
            rw [h4] at this
            exact absurd ha (ahd_as _ _ this)
        obtain ⟨r', q1, q2, q3, q4⟩ := dsc_found hs f i r (some r) (n + 1) p h1 hpr (by omega) h4 (by omega)
        exact ⟨r', q1, q2, q3, fun o ho => Or.inl (by
          rcases q4 o ho with z | z
          · exact z
          · cases z; omega)⟩
      · rw [if_neg ha]
        have hpr : r < p := by
          rcases Nat.lt_or_gt_of_ne hne with q | q
          · have := hlt p r q (by omega)
            rw [h4] at this
            exact absurd this ha
          · exact q
        obtain ⟨r', q1, q2, q3, q4⟩ := dsc_found hs f (r + 1) j (some r) (n + 1) p (by omega) h2 h3 h4 (by omega)
        exact ⟨r', q1, q2, q3, fun o ho => Or.inl (by
          rcases q4 o ho with z | z
          · exact z
          · cases z; omega)⟩
def k_deep (c : Co) (b : Nat) : Nat := mxN (fun i => (k_dsc c b ((k_srt c b).getD i 0)).1) (k_srt c b).length
theorem k_deep_le {c : Co} (h : CI c) (b : Nat) : k_deep c b ≤ 49 := mxN_le _ (fun i _ => k_dsc_le h b _)
def k_lev (c : Co) (b : Nat) : Nat := if k_tr c b = true then k_deep c b else 0
def k_root (c : Co) (b : Nat) : Option Nat := if k_tr c b = true then (k_rt (k_srt c b) 0 (k_srt c b).length).map (fun n => (k_srt c b).getD n 0) else none
def k_bf (c : Co) (b : Nat) : Nat → Int32
  | 0 => nI (k_mi c b)
  | 1 => bI (k_tr c b)
  | 2 => oI (k_root c b)
  | _ => nI (k_lev c b)
def a_bin (α : Al) (b w : Int32) : Int32 × Al := if (inB b (nI 0) (nI (k_n (a_c α) 1 - 1)) && inB w (nI 0) (nI 3)) = true then (k_bf (a_c α) (kN b) (kN w), α) else (-2, a_rfs α 0)
def a_row (α : Al) (b i : Int32) : Int32 × Al := if inB b (nI 0) (nI (k_n (a_c α) 1 - 1)) = true ∧ ¬ i < 0 then (oI ((k_row (a_c α) (kN b))[kN i]?), α) else (-2, a_rfs α 0)
def k_nf (c : Co) (k : Nat) : Nat → Int32
  | 0 => oI ((k_rt (k_srt c (k_b c k)) (k_dsc c (k_b c k) k).2.1 ((k_rt (k_srt c (k_b c k)) (k_dsc c (k_b c k) k).2.1 (k_dsc c (k_b c k) k).2.2.1).getD 0)).map (fun n => (k_srt c (k_b c k)).getD n 0))
  | 1 => oI ((k_rt (k_srt c (k_b c k)) ((k_rt (k_srt c (k_b c k)) (k_dsc c (k_b c k) k).2.1 (k_dsc c (k_b c k) k).2.2.1).getD 0 + 1) (k_dsc c (k_b c k) k).2.2.1).map (fun n => (k_srt c (k_b c k)).getD n 0))
  | 2 => oI ((k_dsc c (k_b c k) k).2.2.2.map (fun n => (k_srt c (k_b c k)).getD n 0))
  | _ => nI (k_dsc c (k_b c k) k).1
def a_node (α : Al) (k w : Int32) : Int32 × Al := if (isK k && inB w (nI 0) (nI 3)) = true then (if (k_pl (a_c α) (kN k)).isSome = true ∧ k_tr (a_c α) (k_b (a_c α) (kN k)) = true then (k_nf (a_c α) (kN k) (kN w), α) else (-3, a_rfs α 1)) else (-2, a_rfs α 0)
def k_cnt (c : Co) (ch : Nat) : Nat → Int32
  | 0 => nI (k_es c).length
  | 1 => nI (k_n c 1)
  | 2 => nI (cntN (k_tr c) (k_n c 1))
  | 3 => nI (mxN (k_mi c) (k_n c 1))
  | 4 => nI (mxN (k_lev c) (k_n c 1))
  | 5 => nI (sumN (fun e => k_steps c (kAt c e)) (k_es c).length)
  | 6 => nI (cntN (fun b => k_mi c b == 0) (k_n c 1))
  | _ => nI ch
def a_count (α : Al) (w : Int32) : Int32 × Al := if inB w (nI 0) (nI 7) = true then (k_cnt (a_c α) (a_ch α) (kN w), α) else (-2, a_rfs α 0)
/-- a call that only reads -/
theorem TA.read {N : Nat} {τ τ' : Tw} {α : Al} (h : TA N τ α) (hF : TF [14, 16, 17, 18] [13, 15] τ τ') (hN : N + 200 ≤ 1000000) : TA (N + 200) τ' α :=
  h.set (δ := 0) (hF.up (by decide) (by decide)) ((hF.2 0 (by decide)).symm ▸ h.1.1.mono (show N ≤ N + 200 by omega) hN) h.1.2 (by rw [hF.1 5 (by decide)]; exact (Int32.add_zero _).symm) (by omega)
section T31
variable {D : Dt} {o : Nat} {ad : Nat → Nat}
set_option maxHeartbeats 1000000 in
theorem ct_deepest {N : Nat} {c : Co} (τ : Tw) (hT : TC N (τ.2 0) c) (b : Nat) (hb : b < 2 ^ 31) : Ct (wT D o ad) yX5_deepest cX5_deepest 6 (some .int) [.ref o, .int (nI b)] τ (PI (fun r τ' => TF [14, 16, 17, 18] [13, 15] τ τ' ∧ r = nI (k_deep c b))) 5 0 0 := by
  refine Ct.of KTok (by decide) (Nat.le_of_ble_eq_true rfl) rfl fun Y C hQ hNm => ?_
  obtain ⟨hlen, hle⟩ := k_srt_le hT.1 (b := b)
  refine z_al0 (q := 1) C dX5_deepest_0 rfl ?_
  refine z_il1 (q := 2) C dX5_deepest_1 rfl ?_
  refine z_callVv (q := 5) C (ct_inOrder τ hT b hb) g_X5_79 rcT dX5_deepest_2 rfl rfl rfl (Nat.le_of_ble_eq_true rfl) (by first | decide | omega) (Nat.le_refl _) (Nat.le_refl _) (fun τ2 h2 => ?_)
  refine z_al0 (q := 6) C dX5_deepest_5 rfl ?_
  refine tg_58 (q := 9) C dX5_deepest_6 rfl ?_
  rw [h2.2.1]
  refine z_is2 (q := 10) C dX5_deepest_9 rfl (by first | exact loC_i | exact loC_r | exact loC_n | exact loC_q | exact loC_u) ?_
  refine z_iconst (q := 11) (v := nI 0) C dX5_deepest_10 rfl (by decide) ?_
  refine z_is3 (q := 12) C dX5_deepest_11 rfl (by first | exact loC_i | exact loC_r | exact loC_n | exact loC_q | exact loC_u) ?_
  refine z_iconst (q := 13) (v := nI 0) C dX5_deepest_12 rfl (by decide) ?_
  refine z_is4 (q := 15) C dX5_deepest_13 rfl (by first | exact loC_i | exact loC_r | exact loC_n | exact loC_q | exact loC_u) ?_
  have loop : ∀ m k, k + m = (k_srt c b).length → ∀ (τ1 : Tw) (x5 : Option Value), loC x5 → TF [14, 16, 17, 18] [13, 15] τ τ1 → AR (τ1.2 15) 0 (k_srt c b) → Zj (wT D o ad) Y τ1 0 0 15 [some (.ref o), some (.int (nI b)), some (.int (nI (k_srt c b).length)), some (.int (nI (mxN (fun i => (k_dsc c b ((k_srt c b).getD i 0)).1) k))), some (.int (nI k)), x5] [] := by
    intro m
    induction m with
    | zero =>
      intro k hk τ1 x5 hx hF hA
      have hk : k = (k_srt c b).length := hk
      subst hk
      refine z_il4 (q := 17) C dX5_deepest_15 rfl ?_
      refine z_il2 (q := 18) C dX5_deepest_17 rfl ?_
      first | refine z_icmp_geN (tgt := 54) (q := 21) C dX5_deepest_18 (by decide) rfl (by omega) (by omega) (fun c18 => ?_) (fun c18 => ?_) | refine z_icmp_ge (tgt := 54) (q := 21) C dX5_deepest_18 (by decide) rfl (fun c18 => ?_) (fun c18 => ?_)
      · refine z_il3 (q := 55) C dX5_deepest_54 rfl ?_
        refine z_iret C hQ dX5_deepest_55 (Nat.le_refl _) (Nat.le_refl _) ?_
        exact ⟨_, rfl, hF, rfl⟩
      · exact absurd c18 (by omega)
    | succ m ih =>
      intro k hk τ1 x5 hx hF hA
      have e0 : τ1.2 0 = τ.2 0 := hF.2 0 (by decide)
      have hg := hle _ (getD_mem (show k < (k_srt c b).length by omega))
      have hd := k_dsc_le hT.1 b ((k_srt c b).getD k 0)
      have hm := mxN_le (f := fun i => (k_dsc c b ((k_srt c b).getD i 0)).1) k (fun i _ => k_dsc_le hT.1 b _)
      have hst : mxN (fun i => (k_dsc c b ((k_srt c b).getD i 0)).1) (k + 1) = if mxN (fun i => (k_dsc c b ((k_srt c b).getD i 0)).1) k < (k_dsc c b ((k_srt c b).getD k 0)).1 then (k_dsc c b ((k_srt c b).getD k 0)).1 else mxN (fun i => (k_dsc c b ((k_srt c b).getD i 0)).1) k := rfl
      refine z_il4 (q := 17) C dX5_deepest_15 rfl ?_
      refine z_il2 (q := 18) C dX5_deepest_17 rfl ?_
      first | refine z_icmp_geN (tgt := 54) (q := 21) C dX5_deepest_18 (by decide) rfl (by omega) (by omega) (fun c18 => ?_) (fun c18 => ?_) | refine z_icmp_ge (tgt := 54) (q := 21) C dX5_deepest_18 (by decide) rfl (fun c18 => ?_) (fun c18 => ?_)
      · exact absurd c18 (by omega)
      refine z_al0 (q := 22) C dX5_deepest_21 rfl ?_
      refine z_il1 (q := 23) C dX5_deepest_22 rfl ?_
      refine z_al0 (q := 24) C dX5_deepest_23 rfl ?_
      refine tg_40 (q := 27) C dX5_deepest_24 rfl ?_
      refine z_il4 (q := 29) C dX5_deepest_27 rfl ?_
      refine ta_ld15 (q := 30) C dX5_deepest_29 rfl (by omega) ?_
      rw [hA.at (show k < (k_srt c b).length by omega)]
      refine z_callVi (q := 33) C (ct_descends τ1 (e0 ▸ hT) b ((k_srt c b).getD k 0) hb hg) g_X5_99 rcT dX5_deepest_30 rfl rfl rfl (Nat.le_of_ble_eq_true rfl) (by first | decide | omega) (Nat.le_refl _) (Nat.le_refl _) (fun r30 τ30 h30 => ?_)
      obtain ⟨hF2, rfl, -, -, -, -, hA2⟩ := h30
      refine z_is5 (q := 35) C dX5_deepest_33 rfl (by first | exact loC_i | exact loC_r | exact loC_n | exact loC_q | exact loC_u) ?_
      have ih := ih (k + 1) (by omega) τ30 (some (.int (nI (k_dsc c b ((k_srt c b).getD k 0)).1))) loC_i (hF.tr hF2) hA2
      rw [hst] at ih
      refine z_il5 (q := 37) C dX5_deepest_35 rfl ?_
      refine z_il3 (q := 38) C dX5_deepest_37 rfl ?_
      first | refine z_icmp_leN (tgt := 46) (q := 41) C dX5_deepest_38 (by decide) rfl (by omega) (by omega) (fun c38 => ?_) (fun c38 => ?_) | refine z_icmp_le (tgt := 46) (q := 41) C dX5_deepest_38 (by decide) rfl (fun c38 => ?_) (fun c38 => ?_)
      · refine z_il3 (q := 47) C dX5_deepest_46 rfl ?_
        refine z_is3 (q := 48) C dX5_deepest_47 rfl (by first | exact loC_i | exact loC_r | exact loC_n | exact loC_q | exact loC_u) ?_
        first | refine z_iinc4N (q := 51) C dX5_deepest_48 rfl (by first | exact loC_i | exact loC_r | exact loC_n | exact loC_q | exact loC_u) ?_ | refine z_iinc4 (q := 51) C dX5_deepest_48 rfl rfl (by first | exact loC_i | exact loC_r | exact loC_n | exact loC_q | exact loC_u) ?_
        refine z_goto (tgt := 15) C dX5_deepest_51 (by decide) ?_
        first | (rw [if_pos c38] at ih; exact ih) | (rw [if_neg (by omega)] at ih; exact ih)
      · refine z_il5 (q := 43) C dX5_deepest_41 rfl ?_
        refine z_goto (tgt := 47) C dX5_deepest_43 (by decide) ?_
        refine z_is3 (q := 48) C dX5_deepest_47 rfl (by first | exact loC_i | exact loC_r | exact loC_n | exact loC_q | exact loC_u) ?_
        first | refine z_iinc4N (q := 51) C dX5_deepest_48 rfl (by first | exact loC_i | exact loC_r | exact loC_n | exact loC_q | exact loC_u) ?_ | refine z_iinc4 (q := 51) C dX5_deepest_48 rfl rfl (by first | exact loC_i | exact loC_r | exact loC_n | exact loC_q | exact loC_u) ?_
        refine z_goto (tgt := 15) C dX5_deepest_51 (by decide) ?_
        first | (rw [if_pos c38] at ih; exact ih) | (rw [if_neg (by omega)] at ih; exact ih)
  exact loop _ 0 (Nat.zero_add _) _ _ loC_n (h2.1.up (by decide) (by decide)) h2.2.2
set_option maxHeartbeats 1000000 in
theorem ct_binFact {N : Nat} {c : Co} (τ : Tw) (hT : TC N (τ.2 0) c) (b w : Nat) (hb : b < k_n c 1) (hw : w ≤ 3) : Ct (wT D o ad) yX5_binFact cX5_binFact 3 (some .int) [.ref o, .int (nI b), .int (nI w)] τ (PI (fun r τ' => TF [14, 16, 17, 18] [13, 15] τ τ' ∧ r = k_bf c b w)) 6 0 0 := by
  refine Ct.of KTok (by decide) (Nat.le_of_ble_eq_true rfl) rfl fun Y C hQ hNm => ?_
  have hw8 := hT.w
  obtain ⟨hlen, hle⟩ := k_srt_le hT.1 (b := b)
  rcases (show w = 0 ∨ w = 1 ∨ w = 2 ∨ w = 3 by omega) with rfl | rfl | rfl | rfl
  · refine z_il2 (q := 1) C dX5_binFact_0 rfl ?_
    refine z_tswI (tgt := 28) C dX5_binFact_1 (by decide) (by decide) rfl (by decide) ?_
    refine z_al0 (q := 29) C dX5_binFact_28 rfl ?_
    refine z_il1 (q := 30) C dX5_binFact_29 rfl ?_
    refine z_callVe (q := 33) C (ct_manyIn τ hT b (by omega)) g_X5_102 rcT dX5_binFact_30 rfl rfl rfl (Nat.le_of_ble_eq_true rfl) (by first | decide | omega) (Nat.le_refl _) (Nat.le_refl _) ?_
    refine z_iret C hQ dX5_binFact_33 (Nat.le_refl _) (Nat.le_refl _) ?_
    exact ⟨_, rfl, TF.rf, rfl⟩
  · refine z_il2 (q := 1) C dX5_binFact_0 rfl ?_
    refine z_tswI (tgt := 34) C dX5_binFact_1 (by decide) (by decide) rfl (by decide) ?_
    refine z_al0 (q := 35) C dX5_binFact_34 rfl ?_
    refine tg_7 (q := 38) C dX5_binFact_35 rfl ?_
    refine z_sipush (q := 41) (v := nI 154) C dX5_binFact_38 rfl (by decide) ?_
    refine z_il1 (q := 42) C dX5_binFact_41 rfl ?_
    first | refine z_iaddN (q := 43) C dX5_binFact_42 rfl ?_ | refine z_iadd (q := 43) C dX5_binFact_42 rfl ?_
    refine ta_ld0 (q := 44) C dX5_binFact_43 rfl (by omega) ?_
    rw [hT.tree (by omega)]
    refine z_iret C hQ dX5_binFact_44 (Nat.le_refl _) (Nat.le_refl _) ?_
    exact ⟨_, rfl, TF.rf, rfl⟩
  · refine z_il2 (q := 1) C dX5_binFact_0 rfl ?_
    refine z_tswI (tgt := 45) C dX5_binFact_1 (by decide) (by decide) rfl (by decide) ?_
    refine z_al0 (q := 46) C dX5_binFact_45 rfl ?_
    refine z_il1 (q := 47) C dX5_binFact_46 rfl ?_
    refine z_callVv (q := 50) C (ct_inOrder τ hT b (by omega)) g_X5_79 rcT dX5_binFact_47 rfl rfl rfl (Nat.le_of_ble_eq_true rfl) (by first | decide | omega) (Nat.le_refl _) (Nat.le_refl _) (fun τ47 h47 => ?_)
    have e0 : τ47.2 0 = τ.2 0 := h47.1.2 0 (by decide)
    have hF : TF [14, 16, 17, 18] [13, 15] τ τ47 := h47.1.up (by decide) (by decide)
    have hk : k_bf c b 2 = oI (k_root c b) := rfl
    rw [hk] at hQ
    unfold k_root at hQ
    cases ht : k_tr c b with
    | true =>
      rw [if_pos ht] at hQ
      refine z_al0 (q := 51) C dX5_binFact_50 rfl ?_
      refine z_il1 (q := 52) C dX5_binFact_51 rfl ?_
      refine z_callVe (q := 55) C (ct_isTree' τ47 (e0 ▸ hT) b true (by omega) ht) g_X5_95 rcT dX5_binFact_52 rfl rfl rfl (Nat.le_of_ble_eq_true rfl) (by first | decide | omega) (Nat.le_refl _) (Nat.le_refl _) ?_
      first | refine z_if_eqB (tgt := 74) (q := 58) C dX5_binFact_55 (by decide) rfl (fun c55 => ?_) (fun c55 => ?_) | refine z_if_eq (tgt := 74) (q := 58) C dX5_binFact_55 (by decide) rfl (fun c55 => ?_) (fun c55 => ?_)
      · cases c55
      · refine z_al0 (q := 59) C dX5_binFact_58 rfl ?_
        refine z_al0 (q := 60) C dX5_binFact_59 rfl ?_
        refine z_iconst (q := 61) (v := nI 0) C dX5_binFact_60 rfl (by decide) ?_
        refine z_al0 (q := 62) C dX5_binFact_61 rfl ?_
        refine tg_58 (q := 65) C dX5_binFact_62 rfl ?_
        rw [h47.2.1]
        refine z_callVe (q := 68) C (ct_rootOf τ47 (k_srt c b) h47.2.2 hle hlen 0 (k_srt c b).length (by omega) (Nat.le_refl _)) g_X5_91 rcT dX5_binFact_65 rfl rfl rfl (Nat.le_of_ble_eq_true rfl) (by first | decide | omega) (Nat.le_refl _) (Nat.le_refl _) ?_
        refine z_callVe (q := 71) C (ct_keyAt τ47 (k_srt c b) h47.2.2 hlen (k_rt (k_srt c b) 0 (k_srt c b).length) (fun n hn => (k_rt_in hn).2)) g_X5_171 rcT dX5_binFact_68 rfl rfl rfl (Nat.le_of_ble_eq_true rfl) (by first | decide | omega) (Nat.le_refl _) (Nat.le_refl _) ?_
        refine z_goto (tgt := 75) C dX5_binFact_71 (by decide) ?_
        refine z_iret C hQ dX5_binFact_75 (Nat.le_refl _) (Nat.le_refl _) ?_
        exact ⟨_, rfl, hF, rfl⟩
    | false =>
      rw [if_neg (by rw [ht]; decide)] at hQ
      refine z_al0 (q := 51) C dX5_binFact_50 rfl ?_
      refine z_il1 (q := 52) C dX5_binFact_51 rfl ?_
      refine z_callVe (q := 55) C (ct_isTree' τ47 (e0 ▸ hT) b false (by omega) ht) g_X5_95 rcT dX5_binFact_52 rfl rfl rfl (Nat.le_of_ble_eq_true rfl) (by first | decide | omega) (Nat.le_refl _) (Nat.le_refl _) ?_
      first | refine z_if_eqB (tgt := 74) (q := 58) C dX5_binFact_55 (by decide) rfl (fun c55 => ?_) (fun c55 => ?_) | refine z_if_eq (tgt := 74) (q := 58) C dX5_binFact_55 (by decide) rfl (fun c55 => ?_) (fun c55 => ?_)
      · refine z_iconst (q := 75) (v := -1) C dX5_binFact_74 rfl (by decide) ?_
        refine z_iret C hQ dX5_binFact_75 (Nat.le_refl _) (Nat.le_refl _) ?_
        exact ⟨_, rfl, hF, rfl⟩
      · cases c55
  · have hk : k_bf c b 3 = nI (k_lev c b) := rfl
    rw [hk] at hQ
    unfold k_lev at hQ
    cases ht : k_tr c b with
    | true =>
      rw [if_pos ht] at hQ
      refine z_il2 (q := 1) C dX5_binFact_0 rfl ?_
      refine z_tswO (tgt := 76) C dX5_binFact_1 (by decide) (by decide) ?_
      refine z_al0 (q := 77) C dX5_binFact_76 rfl ?_
      refine z_il1 (q := 78) C dX5_binFact_77 rfl ?_
      refine z_callVe (q := 81) C (ct_isTree' τ hT b true (by omega) ht) g_X5_95 rcT dX5_binFact_78 rfl rfl rfl (Nat.le_of_ble_eq_true rfl) (by first | decide | omega) (Nat.le_refl _) (Nat.le_refl _) ?_
      first | refine z_if_eqB (tgt := 92) (q := 84) C dX5_binFact_81 (by decide) rfl (fun c81 => ?_) (fun c81 => ?_) | refine z_if_eq (tgt := 92) (q := 84) C dX5_binFact_81 (by decide) rfl (fun c81 => ?_) (fun c81 => ?_)
      · cases c81
      · refine z_al0 (q := 85) C dX5_binFact_84 rfl ?_
        refine z_il1 (q := 86) C dX5_binFact_85 rfl ?_
        refine z_callVi (q := 89) C (ct_deepest τ hT b (by omega)) g_X5_174 rcT dX5_binFact_86 rfl rfl rfl (Nat.le_of_ble_eq_true rfl) (by first | decide | omega) (Nat.le_refl _) (Nat.le_refl _) (fun r86 τ86 h86 => ?_)
        refine z_goto (tgt := 93) C dX5_binFact_89 (by decide) ?_
        refine z_iret C hQ dX5_binFact_93 (Nat.le_refl _) (Nat.le_refl _) ?_
        exact ⟨_, rfl, h86.1, h86.2⟩
    | false =>
      rw [if_neg (by rw [ht]; decide)] at hQ
      refine z_il2 (q := 1) C dX5_binFact_0 rfl ?_
      refine z_tswO (tgt := 76) C dX5_binFact_1 (by decide) (by decide) ?_
      refine z_al0 (q := 77) C dX5_binFact_76 rfl ?_
      refine z_il1 (q := 78) C dX5_binFact_77 rfl ?_
      refine z_callVe (q := 81) C (ct_isTree' τ hT b false (by omega) ht) g_X5_95 rcT dX5_binFact_78 rfl rfl rfl (Nat.le_of_ble_eq_true rfl) (by first | decide | omega) (Nat.le_refl _) (Nat.le_refl _) ?_
      first | refine z_if_eqB (tgt := 92) (q := 84) C dX5_binFact_81 (by decide) rfl (fun c81 => ?_) (fun c81 => ?_) | refine z_if_eq (tgt := 92) (q := 84) C dX5_binFact_81 (by decide) rfl (fun c81 => ?_) (fun c81 => ?_)
      · refine z_iconst (q := 93) (v := nI 0) C dX5_binFact_92 rfl (by decide) ?_
        refine z_iret C hQ dX5_binFact_93 (Nat.le_refl _) (Nat.le_refl _) ?_
        exact ⟨_, rfl, TF.rf, rfl⟩
      · cases c81
set_option maxHeartbeats 1000000 in
theorem ct_bin {N : Nat} {α : Al} (τ : Tw) (hA : TA N τ α) (b w : Int32) (hN : N + 200 ≤ 1000000) : Ct (wT D o ad) yX5_bin cX5_bin 3 (some .int) [.ref o, .int b, .int w] τ (PI (fun r τ' => r = (a_bin α b w).1 ∧ TA (N + 200) τ' (a_bin α b w).2)) 7 0 0 := by
  refine Ct.of KTok (by decide) (Nat.le_of_ble_eq_true rfl) rfl fun Y C hQ hNm => ?_
  have hw8 := hA.1.1.w
  cases hi : (inB b (nI 0) (nI (k_n (a_c α) 1 - 1)) && inB w (nI 0) (nI 3)) with
  | false =>
    have e1 : a_bin α b w = (-2, a_rfs α 0) := if_neg (by rw [hi]; decide)
    rw [e1] at hQ
    refine z_il1 (q := 1) C dX5_bin_0 rfl ?_
    refine z_iconst (q := 2) (v := nI 0) C dX5_bin_1 rfl (by decide) ?_
    refine z_al0 (q := 3) C dX5_bin_2 rfl ?_
    refine tg_7 (q := 6) C dX5_bin_3 rfl ?_
    refine z_iconst (q := 7) (v := nI 1) C dX5_bin_6 rfl (by decide) ?_
    refine ta_ld0 (q := 8) C dX5_bin_7 rfl (by omega) ?_
    rw [hA.1.1.an (by omega) (by omega)]
    refine z_iconst (q := 9) (v := nI 1) C dX5_bin_8 rfl (by decide) ?_
    refine z_isubN (q := 10) C dX5_bin_9 rfl (by omega) ?_
    refine z_callSe (q := 13) C (ct_in τ b (nI 0) (nI (k_n (a_c α) 1 - 1))) g_X5_44 dX5_bin_10 rfl rfl rfl (Nat.le_of_ble_eq_true rfl) (by first | decide | omega) (Nat.le_refl _) (Nat.le_refl _) ?_
    first | refine z_if_eqB (tgt := 34) (q := 16) C dX5_bin_13 (by decide) rfl (fun c13 => ?_) (fun c13 => ?_) | refine z_if_eq (tgt := 34) (q := 16) C dX5_bin_13 (by decide) rfl (fun c13 => ?_) (fun c13 => ?_)
    · refine z_al0 (q := 35) C dX5_bin_34 rfl ?_
      refine z_bipush (q := 37) (v := -2) C dX5_bin_35 rfl (by decide) ?_
      refine z_callVe (q := 40) C (ct_refuses τ (-2) 0 (by decide) (by decide)) g_X5_137 rcT dX5_bin_37 rfl rfl rfl (Nat.le_of_ble_eq_true rfl) (by first | decide | omega) (Nat.le_refl _) (Nat.le_refl _) ?_
      refine z_iret C hQ dX5_bin_40 (Nat.le_refl _) (Nat.le_refl _) ?_
      exact ⟨_, rfl, rfl, (hA.rfs (i := 0) (by decide)).mono (by omega) hN⟩
    · refine z_il2 (q := 17) C dX5_bin_16 rfl ?_
      refine z_iconst (q := 18) (v := nI 0) C dX5_bin_17 rfl (by decide) ?_
      refine z_iconst (q := 19) (v := nI 3) C dX5_bin_18 rfl (by decide) ?_
      refine z_callSe (q := 22) C (ct_in τ w (nI 0) (nI 3)) g_X5_44 dX5_bin_19 rfl rfl rfl (Nat.le_of_ble_eq_true rfl) (by first | decide | omega) (Nat.le_refl _) (Nat.le_refl _) ?_
      first | refine z_if_eqB (tgt := 34) (q := 25) C dX5_bin_22 (by decide) rfl (fun c22 => ?_) (fun c22 => ?_) | refine z_if_eq (tgt := 34) (q := 25) C dX5_bin_22 (by decide) rfl (fun c22 => ?_) (fun c22 => ?_)
      · refine z_al0 (q := 35) C dX5_bin_34 rfl ?_
        refine z_bipush (q := 37) (v := -2) C dX5_bin_35 rfl (by decide) ?_
        refine z_callVe (q := 40) C (ct_refuses τ (-2) 0 (by decide) (by decide)) g_X5_137 rcT dX5_bin_37 rfl rfl rfl (Nat.le_of_ble_eq_true rfl) (by first | decide | omega) (Nat.le_refl _) (Nat.le_refl _) ?_
        refine z_iret C hQ dX5_bin_40 (Nat.le_refl _) (Nat.le_refl _) ?_
        exact ⟨_, rfl, rfl, (hA.rfs (i := 0) (by decide)).mono (by omega) hN⟩
      · rw [c13, c22] at hi; cases hi
  | true =>
    obtain ⟨g1, g2⟩ := Bool.and_eq_true_iff.mp hi
    obtain ⟨eb, hb⟩ := in_of (by omega) g1
    obtain ⟨ew, hw⟩ := in_of (by decide) g2
    have e0 : a_bin α b w = (k_bf (a_c α) (kN b) (kN w), α) := if_pos hi
    rw [e0] at hQ
    generalize kN b = bn at *
    generalize kN w = wn at *
    subst eb
    subst ew
    refine z_il1 (q := 1) C dX5_bin_0 rfl ?_
    refine z_iconst (q := 2) (v := nI 0) C dX5_bin_1 rfl (by decide) ?_
    refine z_al0 (q := 3) C dX5_bin_2 rfl ?_
    refine tg_7 (q := 6) C dX5_bin_3 rfl ?_
    refine z_iconst (q := 7) (v := nI 1) C dX5_bin_6 rfl (by decide) ?_
    refine ta_ld0 (q := 8) C dX5_bin_7 rfl (by omega) ?_
    rw [hA.1.1.an (by omega) (by omega)]
    refine z_iconst (q := 9) (v := nI 1) C dX5_bin_8 rfl (by decide) ?_
    refine z_isubN (q := 10) C dX5_bin_9 rfl (by omega) ?_
    refine z_callSe (q := 13) C (ct_in τ (nI bn) (nI 0) (nI (k_n (a_c α) 1 - 1))) g_X5_44 dX5_bin_10 rfl rfl rfl (Nat.le_of_ble_eq_true rfl) (by first | decide | omega) (Nat.le_refl _) (Nat.le_refl _) ?_
    first | refine z_if_eqB (tgt := 34) (q := 16) C dX5_bin_13 (by decide) rfl (fun c13 => ?_) (fun c13 => ?_) | refine z_if_eq (tgt := 34) (q := 16) C dX5_bin_13 (by decide) rfl (fun c13 => ?_) (fun c13 => ?_)
    · rw [g1] at c13; cases c13
    · refine z_il2 (q := 17) C dX5_bin_16 rfl ?_
      refine z_iconst (q := 18) (v := nI 0) C dX5_bin_17 rfl (by decide) ?_
      refine z_iconst (q := 19) (v := nI 3) C dX5_bin_18 rfl (by decide) ?_
      refine z_callSe (q := 22) C (ct_in τ (nI wn) (nI 0) (nI 3)) g_X5_44 dX5_bin_19 rfl rfl rfl (Nat.le_of_ble_eq_true rfl) (by first | decide | omega) (Nat.le_refl _) (Nat.le_refl _) ?_
      first | refine z_if_eqB (tgt := 34) (q := 25) C dX5_bin_22 (by decide) rfl (fun c22 => ?_) (fun c22 => ?_) | refine z_if_eq (tgt := 34) (q := 25) C dX5_bin_22 (by decide) rfl (fun c22 => ?_) (fun c22 => ?_)
      · rw [g2] at c22; cases c22
      · refine z_al0 (q := 26) C dX5_bin_25 rfl ?_
        refine z_il1 (q := 27) C dX5_bin_26 rfl ?_
        refine z_il2 (q := 28) C dX5_bin_27 rfl ?_
        refine z_callVi (q := 31) C (ct_binFact τ hA.1.1 bn wn (by omega) hw) g_X5_177 rcT dX5_bin_28 rfl rfl rfl (Nat.le_of_ble_eq_true rfl) (by first | decide | omega) (Nat.le_refl _) (Nat.le_refl _) (fun r28 τ28 h28 => ?_)
        refine z_goto (tgt := 40) C dX5_bin_31 (by decide) ?_
        refine z_iret C hQ dX5_bin_40 (Nat.le_refl _) (Nat.le_refl _) ?_
        exact ⟨_, rfl, h28.2, hA.read h28.1 hN⟩
set_option maxHeartbeats 1000000 in
theorem ct_rowAt {N : Nat} {c : Co} (τ : Tw) (hT : TC N (τ.2 0) c) (b i : Nat) (hb : b < 2 ^ 31) (hi : i < 2 ^ 31) : Ct (wT D o ad) yX5_rowAt cX5_rowAt 3 (some .int) [.ref o, .int (nI b), .int (nI i)] τ (PI (fun r τ' => TF [14, 16, 17, 18] [13, 15] τ τ' ∧ r = oI ((k_row c b)[i]?))) 3 0 0 := by
  refine Ct.of KTok (by decide) (Nat.le_of_ble_eq_true rfl) rfl fun Y C hQ hNm => ?_
  have hlen := hT.len
  have hmi : (k_row c b).length ≤ _ := k_mi_le hT.1 b
  refine z_al0 (q := 1) C dX5_rowAt_0 rfl ?_
  refine z_il1 (q := 2) C dX5_rowAt_1 rfl ?_
  refine z_callVv (q := 5) C (ct_holds τ hT b hb) g_X5_64 rcT dX5_rowAt_2 rfl rfl rfl (Nat.le_of_ble_eq_true rfl) (by first | decide | omega) (Nat.le_refl _) (Nat.le_refl _) (fun τ2 h2 => ?_)
  obtain ⟨hF, l, h14, hA, hlt, hmap⟩ := h2
  have hll : l.length = (k_row c b).length := by rw [← hmap, List.length_map]
  have e0 : τ2.2 0 = τ.2 0 := hF.2 0 (by decide)
  by_cases q : i < l.length
  · obtain ⟨e, he⟩ := at_lt q
    obtain ⟨x, hx⟩ := at_lt (hlt e (List.mem_of_getElem? he))
    have hel := hlt e (List.mem_of_getElem? he)
    have hk := hT.key hx
    have h13 : τ2.2 13 i = nI e := by
      have := hA _ _ he
      rwa [Nat.zero_add] at this
    have er : (k_row c b)[i]? = some x.1 := by rw [← hmap, List.getElem?_map, he, ← kAt_of hx]; rfl
    rw [er] at hQ
    refine z_il2 (q := 6) C dX5_rowAt_5 rfl ?_
    refine z_al0 (q := 7) C dX5_rowAt_6 rfl ?_
    refine tg_58 (q := 10) C dX5_rowAt_7 rfl ?_
    rw [h14]
    first | refine z_icmp_geN (tgt := 30) (q := 13) C dX5_rowAt_10 (by decide) rfl (by omega) (by omega) (fun c10 => ?_) (fun c10 => ?_) | refine z_icmp_ge (tgt := 30) (q := 13) C dX5_rowAt_10 (by decide) rfl (fun c10 => ?_) (fun c10 => ?_)
    · exact absurd c10 (by omega)
    · refine z_al0 (q := 14) C dX5_rowAt_13 rfl ?_
      refine tg_7 (q := 17) C dX5_rowAt_14 rfl ?_
      refine z_bipush (q := 19) (v := nI 7) C dX5_rowAt_17 rfl (by decide) ?_
      refine z_al0 (q := 20) C dX5_rowAt_19 rfl ?_
      refine tg_37 (q := 23) C dX5_rowAt_20 rfl ?_
      refine z_il2 (q := 24) C dX5_rowAt_23 rfl ?_
      refine ta_ld13 (q := 25) C dX5_rowAt_24 rfl (by omega) ?_
      rw [h13]
      first | refine z_iaddN (q := 26) C dX5_rowAt_25 rfl ?_ | refine z_iadd (q := 26) C dX5_rowAt_25 rfl ?_
      refine ta_ld0 (q := 27) C dX5_rowAt_26 rfl (by omega) ?_
      rw [e0]
      rw [hk.1]
      refine z_goto (tgt := 31) C dX5_rowAt_27 (by decide) ?_
      refine z_iret C hQ dX5_rowAt_31 (Nat.le_refl _) (Nat.le_refl _) ?_
      exact ⟨_, rfl, hF.up (by decide) (by decide), rfl⟩
  · have er : (k_row c b)[i]? = none := List.getElem?_eq_none (by omega)
    rw [er] at hQ
    refine z_il2 (q := 6) C dX5_rowAt_5 rfl ?_
    refine z_al0 (q := 7) C dX5_rowAt_6 rfl ?_
    refine tg_58 (q := 10) C dX5_rowAt_7 rfl ?_
    rw [h14]
    first | refine z_icmp_geN (tgt := 30) (q := 13) C dX5_rowAt_10 (by decide) rfl (by omega) (by omega) (fun c10 => ?_) (fun c10 => ?_) | refine z_icmp_ge (tgt := 30) (q := 13) C dX5_rowAt_10 (by decide) rfl (fun c10 => ?_) (fun c10 => ?_)
    · refine z_iconst (q := 31) (v := -1) C dX5_rowAt_30 rfl (by decide) ?_
      refine z_iret C hQ dX5_rowAt_31 (Nat.le_refl _) (Nat.le_refl _) ?_
      exact ⟨_, rfl, hF.up (by decide) (by decide), rfl⟩
    · exact absurd c10 (by omega)
set_option maxHeartbeats 1000000 in
theorem ct_row {N : Nat} {α : Al} (τ : Tw) (hA : TA N τ α) (b i : Int32) (hN : N + 200 ≤ 1000000) : Ct (wT D o ad) yX5_row cX5_row 3 (some .int) [.ref o, .int b, .int i] τ (PI (fun r τ' => r = (a_row α b i).1 ∧ TA (N + 200) τ' (a_row α b i).2)) 7 0 0 := by
  refine Ct.of KTok (by decide) (Nat.le_of_ble_eq_true rfl) rfl fun Y C hQ hNm => ?_
  have hw8 := hA.1.1.w
  by_cases hi : inB b (nI 0) (nI (k_n (a_c α) 1 - 1)) = true ∧ ¬ i < 0
  · obtain ⟨g1, g2⟩ := hi
    obtain ⟨eb, hb⟩ := in_of (by omega) g1
    have e0 : a_row α b i = (oI ((k_row (a_c α) (kN b))[kN i]?), α) := if_pos ⟨g1, g2⟩
    rw [e0] at hQ
    obtain ⟨j, hj, rfl⟩ := nI_of g2
    rw [show kN (nI j) = j from nI_clamp hj] at hQ
    generalize kN b = bn at *
    subst eb
    refine z_il1 (q := 1) C dX5_row_0 rfl ?_
    refine z_iconst (q := 2) (v := nI 0) C dX5_row_1 rfl (by decide) ?_
    refine z_al0 (q := 3) C dX5_row_2 rfl ?_
    refine tg_7 (q := 6) C dX5_row_3 rfl ?_
    refine z_iconst (q := 7) (v := nI 1) C dX5_row_6 rfl (by decide) ?_
    refine ta_ld0 (q := 8) C dX5_row_7 rfl (by omega) ?_
    rw [hA.1.1.an (by omega) (by omega)]
    refine z_iconst (q := 9) (v := nI 1) C dX5_row_8 rfl (by decide) ?_
    refine z_isubN (q := 10) C dX5_row_9 rfl (by omega) ?_
    refine z_callSe (q := 13) C (ct_in τ (nI bn) (nI 0) (nI (k_n (a_c α) 1 - 1))) g_X5_44 dX5_row_10 rfl rfl rfl (Nat.le_of_ble_eq_true rfl) (by first | decide | omega) (Nat.le_refl _) (Nat.le_refl _) ?_
    first | refine z_if_eqB (tgt := 29) (q := 16) C dX5_row_13 (by decide) rfl (fun c13 => ?_) (fun c13 => ?_) | refine z_if_eq (tgt := 29) (q := 16) C dX5_row_13 (by decide) rfl (fun c13 => ?_) (fun c13 => ?_)
    · rw [g1] at c13; cases c13
    · refine z_il2 (q := 17) C dX5_row_16 rfl ?_
      refine z_if_lt (tgt := 29) (q := 20) C dX5_row_17 (by decide) rfl (fun c17 => ?_) (fun c17 => ?_)
      · exact absurd c17 g2
      · refine z_al0 (q := 21) C dX5_row_20 rfl ?_
        refine z_il1 (q := 22) C dX5_row_21 rfl ?_
        refine z_il2 (q := 23) C dX5_row_22 rfl ?_
        refine z_callVi (q := 26) C (ct_rowAt τ hA.1.1 bn j (by omega) hj) g_X5_180 rcT dX5_row_23 rfl rfl rfl (Nat.le_of_ble_eq_true rfl) (by first | decide | omega) (Nat.le_refl _) (Nat.le_refl _) (fun r23 τ23 h23 => ?_)
        refine z_goto (tgt := 35) C dX5_row_26 (by decide) ?_
        refine z_iret C hQ dX5_row_35 (Nat.le_refl _) (Nat.le_refl _) ?_
        exact ⟨_, rfl, h23.2, hA.read h23.1 hN⟩
  · have e1 : a_row α b i = (-2, a_rfs α 0) := if_neg hi
    rw [e1] at hQ
    refine z_il1 (q := 1) C dX5_row_0 rfl ?_
    refine z_iconst (q := 2) (v := nI 0) C dX5_row_1 rfl (by decide) ?_
    refine z_al0 (q := 3) C dX5_row_2 rfl ?_
    refine tg_7 (q := 6) C dX5_row_3 rfl ?_
    refine z_iconst (q := 7) (v := nI 1) C dX5_row_6 rfl (by decide) ?_
    refine ta_ld0 (q := 8) C dX5_row_7 rfl (by omega) ?_
    rw [hA.1.1.an (by omega) (by omega)]
    refine z_iconst (q := 9) (v := nI 1) C dX5_row_8 rfl (by decide) ?_
    refine z_isubN (q := 10) C dX5_row_9 rfl (by omega) ?_
    refine z_callSe (q := 13) C (ct_in τ b (nI 0) (nI (k_n (a_c α) 1 - 1))) g_X5_44 dX5_row_10 rfl rfl rfl (Nat.le_of_ble_eq_true rfl) (by first | decide | omega) (Nat.le_refl _) (Nat.le_refl _) ?_
    first | refine z_if_eqB (tgt := 29) (q := 16) C dX5_row_13 (by decide) rfl (fun c13 => ?_) (fun c13 => ?_) | refine z_if_eq (tgt := 29) (q := 16) C dX5_row_13 (by decide) rfl (fun c13 => ?_) (fun c13 => ?_)
    · refine z_al0 (q := 30) C dX5_row_29 rfl ?_
      refine z_bipush (q := 32) (v := -2) C dX5_row_30 rfl (by decide) ?_
      refine z_callVe (q := 35) C (ct_refuses τ (-2) 0 (by decide) (by decide)) g_X5_137 rcT dX5_row_32 rfl rfl rfl (Nat.le_of_ble_eq_true rfl) (by first | decide | omega) (Nat.le_refl _) (Nat.le_refl _) ?_
      refine z_iret C hQ dX5_row_35 (Nat.le_refl _) (Nat.le_refl _) ?_
      exact ⟨_, rfl, rfl, (hA.rfs (i := 0) (by decide)).mono (by omega) hN⟩
    · refine z_il2 (q := 17) C dX5_row_16 rfl ?_
      refine z_if_lt (tgt := 29) (q := 20) C dX5_row_17 (by decide) rfl (fun c17 => ?_) (fun c17 => ?_)
      · refine z_al0 (q := 30) C dX5_row_29 rfl ?_
        refine z_bipush (q := 32) (v := -2) C dX5_row_30 rfl (by decide) ?_
        refine z_callVe (q := 35) C (ct_refuses τ (-2) 0 (by decide) (by decide)) g_X5_137 rcT dX5_row_32 rfl rfl rfl (Nat.le_of_ble_eq_true rfl) (by first | decide | omega) (Nat.le_refl _) (Nat.le_refl _) ?_
        refine z_iret C hQ dX5_row_35 (Nat.le_refl _) (Nat.le_refl _) ?_
        exact ⟨_, rfl, rfl, (hA.rfs (i := 0) (by decide)).mono (by omega) hN⟩
      · exact absurd ⟨c13, c17⟩ hi
end T31
